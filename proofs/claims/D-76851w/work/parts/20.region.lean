/-! REGIONS, our own rows over the kit's: a region is a row of cells at consecutive addresses; what it holds is a memory (ints, longs, references) by (place in the region, index in the cell). -/
set_option maxRecDepth 100000
abbrev Mem : Type := (Nat → Nat → Int32) × (Nat → Nat → Int64) × (Nat → Nat → Option Nat)
def gI (v : Mem) (o k : Nat) : Int32 := v.1 o k
def gL (v : Mem) (o k : Nat) : Int64 := v.2.1 o k
def gR (v : Mem) (o k : Nat) : Option Nat := v.2.2 o k
def sI (v : Mem) (o k : Nat) (x : Int32) : Mem := (fun a b => if a = o ∧ b = k then x else v.1 a b, v.2)
def sL (v : Mem) (o k : Nat) (x : Int64) : Mem := (v.1, fun a b => if a = o ∧ b = k then x else v.2.1 a b, v.2.2)
def sR (v : Mem) (o k : Nat) (x : Option Nat) : Mem := (v.1, v.2.1, fun a b => if a = o ∧ b = k then x else v.2.2 a b)
/-- the memory from place d on -/
def shf (v : Mem) (d : Nat) : Mem := (fun o => v.1 (d + o), fun o => v.2.1 (d + o), fun o => v.2.2 (d + o))
/-- w laid over v at the places d .. d + n - 1 -/
def ptm (v : Mem) (d n : Nat) (w : Mem) : Mem := (fun o => if d ≤ o ∧ o < d + n then w.1 (o - d) else v.1 o, fun o => if d ≤ o ∧ o < d + n then w.2.1 (o - d) else v.2.1 o, fun o => if d ≤ o ∧ o < d + n then w.2.2 (o - d) else v.2.2 o)
/-- a run of a copied array -/
def cpI (v : Mem) (o : Nat) (w : Mem) (p so d n : Nat) : Mem := (fun a b => if a = o ∧ d ≤ b ∧ b < d + n then w.1 p (so + (b - d)) else v.1 a b, v.2)
/-! the mirror's small language -/
/-- the loops' fuel: nothing is known of it but that it's large (so that no one counts it down) -/
noncomputable def FU : Nat := Classical.choose (⟨1000000, Nat.le_refl _⟩ : ∃ n : Nat, 1000000 ≤ n)
theorem FU_ge : 1000000 ≤ FU := Classical.choose_spec (⟨1000000, Nat.le_refl _⟩ : ∃ n : Nat, 1000000 ≤ n)
def gb {α : Type} (b : Bool) (m : Option α) : Option α := if b = true then m else none
def ob {α β : Type} (x : Option α) (k : α → Option β) : Option β := match x with
  | some a => k a
  | none => none
def ob2 {α α2 β : Type} (x : Option (α × α2)) (k : α → α2 → Option β) : Option β := match x with
  | some a => k a.1 a.2
  | none => none
def ob3 {α α2 α3 β : Type} (x : Option (α × α2 × α3)) (k : α → α2 → α3 → Option β) : Option β := match x with
  | some a => k a.1 a.2.1 a.2.2
  | none => none
def inR (i : Int32) (n : Nat) : Bool := !(decide (i < 0) || decide (n ≤ i.toNatClampNeg))
def nz32 (x : Int32) : Bool := !decide (x = 0)
def nz64 (x : Int64) : Bool := !decide (x = 0)
def z01 (x : Int32) : Bool := decide (x = 0) || decide (x = 1)
def byB (x : Int32) : Bool := decide (x.toInt8.toInt32 = x)
theorem gb_some {α : Type} {b : Bool} {m : Option α} {r : α} (h : gb b m = some r) : b = true ∧ m = some r := by
  unfold gb at h
  split at h
  · exact ⟨by assumption, h⟩
  · cases h
theorem ob_some {α β : Type} {x : Option α} {k : α → Option β} {r : β} (h : ob x k = some r) : ∃ a, x = some a ∧ k a = some r := by
  cases x with
  | none => cases h
  | some a => exact ⟨a, rfl, h⟩
theorem ob2_some {α α2 β : Type} {x : Option (α × α2)} {k : α → α2 → Option β} {r : β} (h : ob2 x k = some r) : ∃ a b, x = some (a, b) ∧ k a b = some r := by
  cases x with
  | none => cases h
  | some a => exact ⟨a.1, a.2, rfl, h⟩
theorem ob3_some {α α2 α3 β : Type} {x : Option (α × α2 × α3)} {k : α → α2 → α3 → Option β} {r : β} (h : ob3 x k = some r) : ∃ a b c, x = some (a, b, c) ∧ k a b c = some r := by
  cases x with
  | none => cases h
  | some a => exact ⟨a.1, a.2.1, a.2.2, rfl, h⟩
theorem ite_t {α : Type} {c : Prop} [Decidable c] {a b : Option α} {r : α} (h : c) (e : (if c then a else b) = some r) : a = some r := by
  rw [if_pos h] at e
  exact e
theorem ite_f {α : Type} {c : Prop} [Decidable c] {a b : Option α} {r : α} (h : ¬ c) (e : (if c then a else b) = some r) : b = some r := by
  rw [if_neg h] at e
  exact e
theorem ite_nt {α : Type} {c : Prop} [Decidable c] {a b : Option α} {r : α} (h : c) (e : (if ¬ c then a else b) = some r) : b = some r := by
  rw [if_neg (fun z => z h)] at e
  exact e
theorem inR_in {i : Int32} {n : Nat} (h : inR i n = true) : vp_in i n := by
  unfold inR at h
  simp only [Bool.not_eq_true', Bool.or_eq_false_iff, decide_eq_false_iff_not] at h
  exact fun q => q.elim h.1 h.2
theorem inR_lt {i : Int32} {n : Nat} (h : inR i n = true) : i.toNatClampNeg < n := Nat.not_le.mp fun q => inR_in h (Or.inr q)
theorem nz32_ne {x : Int32} (h : nz32 x = true) : ¬ x = 0 := by
  simpa [nz32] using h
theorem nz64_ne {x : Int64} (h : nz64 x = true) : ¬ x = 0 := by
  simpa [nz64] using h
theorem z01_nar {x : Int32} (h : z01 x = true) : narrow .boolean (.int x) = .int x := by
  simp only [z01, Bool.or_eq_true, decide_eq_true_eq] at h
  rcases h with rfl | rfl <;> rfl
theorem z01_fit {x : Int32} (h : z01 x = true) : fits .boolean (.int x) = true := by
  simp only [z01, Bool.or_eq_true, decide_eq_true_eq] at h
  rcases h with rfl | rfl <;> rfl
/-! the world's constants: class numbers, array classes, what else stays (G.2.2) -/
def TX5z : u_T := fun _ => ("WholePacks$Dearer", "", "I", false)
abbrev vwCl : List vw_C := [(RX0, TX0, 25), (RX1, TX1, 11), (RX2, TX2, 3), (RX3, TX3, 12), (RX4, TX4, 4), (RX5, TX5z, 0), (RX6, TX6, 1), (RX7, TX7, 2), (RX8, TX8, 8), (RX9, TX9, 29), (RX10, TX10, 20), (RX11, TX11, 4), (RX12, TX12, 7), (RX13, TX13, 7), (RX14, TX14, 2), (RX15, TX15, 1), (RJ1, TJ1, 9), (RJ4, TJ4, 4), (RJ11, TJ11, 6), (RJ13, TJ13, 1), (RJ15, TJ15, 4)]
abbrev tyL (dA : Nat → ClassId) : List (ClassId × FieldType) := [(dA 0, .int), (dA 1, .long), (dA 2, .byte), (dA 3, .short), (dA 4, .boolean), (dA 5, .object RX2), (dA 6, .object RX4), (dA 7, .object "WholePacks$Left"), (dA 8, .object "WholePacks$Change"), (dA 9, .object RX7), (dA 10, .object RX8), (dA 11, .object RX6), (dA 12, .object "java/lang/Object")]
abbrev Gv : Type := va_G × (Nat → ClassId) × {P : State → Prop // ∀ u U : State, u.WarmedH U.vm → P u → P U} × Heap
/-- the cells that were there when the law began are as they were -/
def GO (G : Gv) (H : Heap) : Prop := ∀ q : Nat, q < G.2.2.2.size → H[q]? = G.2.2.2[q]?
def gB (G : Gv) : Nat := G.2.2.2.size
theorem GO_keepq {G : Gv} {H H1 : Heap} {q : Nat} (h : GO G H) (oq : ∀ z : Nat, z ≠ q → H1[z]? = H[z]?) (hq : gB G ≤ q) : GO G H1 := fun z hz => (oq z (by unfold gB at hq; omega)).trans (h z hz)
theorem GO_keepA {G : Gv} {H H1 : Heap} {F : Nat → Prop} (h : GO G H) (oq : ∀ z : Nat, z < H.size → ¬ (F z ∨ H.size ≤ z) → H1[z]? = H[z]?) (hs : gB G ≤ H.size) (hd : ∀ z, F z → gB G ≤ z) : GO G H1 := fun z hz => (oq z (by unfold gB at hs; omega) (fun k => k.elim (fun k => by have := hd z k; unfold gB at this; omega) (fun k => by unfold gB at hs; omega))).trans (h z hz)
def nwOk : Cond → Bool
  | .fieldLinkNest .. => true
  | .methodLinkNest .. => true
  | .castable .. => true
  | .declares .. => true
  | _ => false
def KK (G : Gv) (U : State) : Prop := va_K G.1 vwCl (tyL G.2.1) U ∧ (∀ w ∈ lw_tbl, nwOk w = true → va_Nw w U) ∧ (∀ C : String, Cond.arrayOver (.object C) ∈ lw_tbl → va_AO C U) ∧ G.2.2.1.1 U
theorem KK.moved {G : Gv} {u U : State} (hW : u.WarmedH U.vm) (h : KK G u) : KK G U := by
  refine ⟨va_K.moved hW.alike h.1, fun w hw hk => ?_, fun C hC => (h.2.2.1 C hC).moved hW.alike, G.2.2.1.2 u U hW h.2.2.2⟩
  have h1 := h.2.1 w hw hk
  cases w <;> first | (cases hk; done) | exact va_Nw.warmF hW h1 | exact va_Nw.warmM hW h1 | exact va_Nw.warmC hW h1 | exact va_Nw.warmD hW h1
theorem KK.call {G : Gv} {U : State} (g : JFrame) (mk : MethodId) (a : Array Value) (h : KK G U) : KK G (U.calling g mk a) := KK.moved (u := U) (U := U.calling g mk a) (State.WarmedH.refl U) h
theorem KK.nw {G : Gv} {U : State} (h : KK G U) {w : Cond} (hw : w ∈ lw_tbl) (hk : nwOk w = true) : va_Nw w U := h.2.1 w hw hk
abbrev Shp : Type := Nat → Nat → (Nat → Int32) → (Nat → Int64) → (Nat → Option Nat) → Option va_E
def rg (G : Gv) (a n : Nat) (sh : Shp) (v : Mem) (H : Heap) : Prop := ∀ o, o < n → ∀ e, sh o a (v.1 o) (v.2.1 o) (v.2.2 o) = some e → va_at G.1 vwCl (a + o, e) H
def iv (a n : Nat) : Nat → Prop := fun z => a ≤ z ∧ z < a + n
theorem rg_P {G : Gv} {a n o q : Nat} {sh : Shp} {v : Mem} {H : Heap} {e : va_E} (h : rg G a n sh v H) (ho : o < n) (hq : q = a + o) (he : sh o a (v.1 o) (v.2.1 o) (v.2.2 o) = some e) : va_P G.1 vwCl [(q, e)] H := by
  intro k z hk
  have hz : k < 1 := (List.getElem?_eq_some_iff.mp hk).1
  rw [show k = 0 by omega] at hk
  cases hk
  rw [hq]
  exact h o ho e he
theorem rg_lt {G : Gv} {a n o : Nat} {sh : Shp} {v : Mem} {H : Heap} {e : va_E} (h : rg G a n sh v H) (ho : o < n) (he : sh o a (v.1 o) (v.2.1 o) (v.2.2 o) = some e) : a + o < H.size := (h o ho e he).lt
theorem rg_upd {G : Gv} {a n o q : Nat} {sh : Shp} {v v' : Mem} {H H1 : Heap} (h : rg G a n sh v H) (hq : q = a + o) (oq : ∀ z : Nat, z ≠ q → H1[z]? = H[z]?)
    (hv : ∀ o', o' ≠ o → v'.1 o' = v.1 o' ∧ v'.2.1 o' = v.2.1 o' ∧ v'.2.2 o' = v.2.2 o')
    (he : ∀ e, sh o a (v'.1 o) (v'.2.1 o) (v'.2.2 o) = some e → va_at G.1 vwCl (q, e) H1) : rg G a n sh v' H1 := by
  intro o' ho' e hs
  by_cases h1 : o' = o
  · subst h1
    rw [← hq]
    exact he e hs
  · obtain ⟨e1, e2, e3⟩ := hv o' h1
    rw [e1, e2, e3] at hs
    exact (h o' ho' e hs).kept (oq (a + o') (by omega))
/-- a region that a change elsewhere leaves -/
theorem rg_keep {G : Gv} {a n : Nat} {sh : Shp} {v : Mem} {H H1 : Heap} (h : rg G a n sh v H) (hk : ∀ o, o < n → a + o < H.size → H1[a + o]? = H[a + o]?) : rg G a n sh v H1 :=
  fun o ho e he => (h o ho e he).kept (hk o ho (h o ho e he).lt)
theorem rg_keepq {G : Gv} {a n q : Nat} {sh : Shp} {v : Mem} {H H1 : Heap} (h : rg G a n sh v H) (oq : ∀ z : Nat, z ≠ q → H1[z]? = H[z]?) (hd : q < a ∨ a + n ≤ q) : rg G a n sh v H1 :=
  rg_keep h (fun o ho _ => oq _ (by omega))
theorem rg_keepA {G : Gv} {a n : Nat} {sh : Shp} {v : Mem} {H H1 : Heap} {F : Nat → Prop} (h : rg G a n sh v H) (oq : ∀ z : Nat, z < H.size → ¬ (F z ∨ H.size ≤ z) → H1[z]? = H[z]?) (hd : ∀ z, a ≤ z → z < a + n → ¬ F z) : rg G a n sh v H1 :=
  rg_keep h (fun o ho hl => oq _ hl (fun z => z.elim (hd _ (Nat.le_add_right _ _) (by omega)) (fun z => by omega)))
/-- a part of a region -/
theorem rg_sub {G : Gv} {a n d n' q : Nat} {sh sh' : Shp} {v : Mem} {H : Heap} (h : rg G a n sh v H) (hq : q = a + d) (hd : d + n' ≤ n) (hs : ∀ o, o < n' → ∀ x y z, sh (d + o) a x y z = sh' o q x y z) : rg G q n' sh' (shf v d) H := by
  intro o ho e he
  have h1 := h (d + o) (by omega) e (by rw [hs o ho]; exact he)
  rw [hq, Nat.add_assoc]
  exact h1
/-- a part changed: the whole again -/
theorem rg_put {G : Gv} {a n d n' q : Nat} {sh sh' : Shp} {v w : Mem} {H H1 : Heap} (h : rg G a n sh v H) (h1 : rg G q n' sh' w H1) (hq : q = a + d) (hs : ∀ o, o < n' → ∀ x y z, sh (d + o) a x y z = sh' o q x y z)
    (oq : ∀ z : Nat, z < H.size → ¬ (iv q n' z ∨ H.size ≤ z) → H1[z]? = H[z]?) : rg G a n sh (ptm v d n' w) H1 := by
  intro o ho e he
  by_cases hc : d ≤ o ∧ o < d + n'
  · simp only [ptm, if_pos hc] at he
    have h2 := h1 (o - d) (by omega) e (by rw [← hs (o - d) (by omega), show d + (o - d) = o by omega]; exact he)
    rw [show a + o = q + (o - d) by omega]
    exact h2
  · simp only [ptm, if_neg hc] at he
    have h2 := h o ho e he
    refine h2.kept (oq _ h2.lt ?_)
    rintro (z | z)
    · exact hc ⟨by have := z.1; omega, by have := z.2; omega⟩
    · have := h2.lt
      simp only at this
      omega
theorem sI_ne {v : Mem} {o k : Nat} {x : Int32} : ∀ o', o' ≠ o → (sI v o k x).1 o' = v.1 o' ∧ (sI v o k x).2.1 o' = v.2.1 o' ∧ (sI v o k x).2.2 o' = v.2.2 o' := fun o' h => ⟨by funext b; simp [sI, h], rfl, rfl⟩
theorem sI_eq {v : Mem} {o k : Nat} {x : Int32} : (sI v o k x).1 o = fun b => if b = k then x else v.1 o b := by funext b; simp [sI]
theorem sL_ne {v : Mem} {o k : Nat} {x : Int64} : ∀ o', o' ≠ o → (sL v o k x).1 o' = v.1 o' ∧ (sL v o k x).2.1 o' = v.2.1 o' ∧ (sL v o k x).2.2 o' = v.2.2 o' := fun o' h => ⟨rfl, by funext b; simp [sL, h], rfl⟩
theorem sL_eq {v : Mem} {o k : Nat} {x : Int64} : (sL v o k x).2.1 o = fun b => if b = k then x else v.2.1 o b := by funext b; simp [sL]
theorem sR_ne {v : Mem} {o k : Nat} {x : Option Nat} : ∀ o', o' ≠ o → (sR v o k x).1 o' = v.1 o' ∧ (sR v o k x).2.1 o' = v.2.1 o' ∧ (sR v o k x).2.2 o' = v.2.2 o' := fun o' h => ⟨rfl, rfl, by funext b; simp [sR, h]⟩
theorem sR_eq {v : Mem} {o k : Nat} {x : Option Nat} : (sR v o k x).2.2 o = fun b => if b = k then x else v.2.2 o b := by funext b; simp [sR]
/-- a field link, by class, entry and place: all that a getfield or putfield asks of the tables -/
def FL (own : String) (index ci k : Nat) (C : String) (T : u_T) (N : Nat) : Prop := (∀ w ∈ u_ws C T N, w ∈ lw_all) ∧ vwCl[ci]? = some (C, T, N) ∧ k < N ∧ Cond.fieldLink own index (T k).1 (T k).2.1 (T k).2.2.1 ∈ lw_all
def FN (own : String) (index ci k : Nat) (C : String) (T : u_T) (N : Nat) (host : String) : Prop := (∀ w ∈ u_ws C T N, w ∈ lw_all) ∧ vwCl[ci]? = some (C, T, N) ∧ k < N ∧ Cond.fieldLinkNest own index (T k).1 (T k).2.1 (T k).2.2.1 host ∈ lw_tbl
/-- what a class's layout says for its stores -/
def FT (T : u_T) (N : Nat) (ty : Nat → FieldType) : Prop := (∀ k, k < N → parseFieldDescriptor (T k).2.2.1 = some (ty k)) ∧ (∀ a, a < N → ∀ b, b < N → a ≠ b → (T a).2.1 ≠ (T b).2.1)
section RGW
variable {p : Program} {l : Launch} {e : Env} {R : Room} {s : State} {m : MethodId} {args : Array Value} {below : List Frame} {meth : Method} {c : Code} {H : Heap} {locs : List Loc} {cells slots : Nat} {Q : State → Prop}
variable {cc : ByteArray} {pc : Nat} {ls : Array Slot} {rest : List Value} {G : Gv} {A : Nat → Prop} {H0 : Heap} {own C host : String} {T : u_T} {N ci index k a n o q : Nat} {sh : Shp} {v : Mem}
theorem rk_get (hx : p.tables.exec = Jvm.exec) (hb : c.code = cc) (hts : ∀ w ∈ lw_all, w.before args s = true) (hown : s.vm.findClass own = some m.cls) (hK : KK G s) (hW : rg G a n sh v H) (hF : FL own index ci k C T N) (o : Nat) (ho : o < n) (hq : q = a + o) {fs : List Value} (he : sh o a (v.1 o) (v.2.1 o) (v.2.2 o) = some (.inr (ci, fs))) {x : Value} (hv : fs[k]? = some x) (hdg : decode cc pc = .ok (.getfield index, 3))
    (kk : W p l e R s m args below meth c H locs cells slots Q (F0 m (pc + 3) ls (x :: rest))) : W p l e R s m args below meth c H locs cells slots Q (F0 m pc ls (.ref q :: rest)) :=
  va_get hx hb hts hF.1 hown hK.1 (rg_P hW ho hq he) 0 rfl hF.2.1 k hF.2.2.1 (hts _ hF.2.2.2) (fun _ h => h) hv hdg kk
theorem rk_getN (hx : p.tables.exec = Jvm.exec) (hb : c.code = cc) (hts : ∀ w ∈ lw_all, w.before args s = true) (hown : s.vm.findClass own = some m.cls) (hK : KK G s) (hW : rg G a n sh v H) (hF : FN own index ci k C T N host) (o : Nat) (ho : o < n) (hq : q = a + o) {fs : List Value} (he : sh o a (v.1 o) (v.2.1 o) (v.2.2 o) = some (.inr (ci, fs))) {x : Value} (hv : fs[k]? = some x) (hdg : decode cc pc = .ok (.getfield index, 3))
    (kk : W p l e R s m args below meth c H locs cells slots Q (F0 m (pc + 3) ls (x :: rest))) : W p l e R s m args below meth c H locs cells slots Q (F0 m pc ls (.ref q :: rest)) :=
  va_getN hx hb hts hF.1 hown hK.1 (rg_P hW ho hq he) 0 rfl hF.2.1 k hF.2.2.1 (va_Nw.use rfl (hK.nw hF.2.2.2 rfl)) (fun _ h => h) hv hdg kk
/-- a store into an object of a region: the cell as it is then -/
theorem rk_pst (hts : ∀ w ∈ lw_all, w.before args s = true) (hK : KK G s) (hin : ∀ w ∈ u_ws C T N, w ∈ lw_all) (hc : vwCl[ci]? = some (C, T, N)) {ty0 : Nat → FieldType} (hT : FT T N ty0) (hk : k < N) {H1 : Heap} {fs : List Value} {x : Value} (hl : k < fs.length) {f : Field} {cell : Cell} (q2 : cell.cls = G.1.1 ci) (q3 : cell.vm = .none) (q4 : ∀ j, j < N → cell.slots[G.1.2 ci j]? = some (vp_V fs j)) (hsl : f.slot = G.1.2 ci k) (e1 : H1[q]? = some (cell.setSlot f.slot x)) :
    va_at G.1 vwCl (q, .inr (ci, fs.set k x)) H1 := by
  have hap := va_apart (own := C) hts hin ty0 hT.1 hT.2 hK.1 hc
  rw [hsl] at e1
  exact ⟨_, hc, t_OB.to (V := updV (vp_V fs) k x) ⟨_, e1, q2, q3, t_set q4 hap hk x⟩ (fun j _ => vp_updV_set hl x j)⟩
theorem rk_put (hx : p.tables.exec = Jvm.exec) (hb : c.code = cc) (hts : ∀ w ∈ lw_all, w.before args s = true) (hown : s.vm.findClass own = some m.cls) (hK : KK G s) (hW : rg G a n sh v H) (hS : va_S A H0 H locs) (hF : FL own index ci k C T N) {ty0 : Nat → FieldType} (hT : FT T N ty0) (o : Nat) (ho : o < n) (hq : q = a + o) (hA : A q) {fs : List Value} (he : sh o a (v.1 o) (v.2.1 o) (v.2.2 o) = some (.inr (ci, fs))) (hfin : (T k).2.2.2 = false) {x : Value} (hn : narrow (ty0 k) x = x) (hfit : fits (ty0 k) x = true) (hl : k < fs.length)
    (v' : Mem) (hv : ∀ o', o' ≠ o → v'.1 o' = v.1 o' ∧ v'.2.1 o' = v.2.1 o' ∧ v'.2.2 o' = v.2.2 o') (he2 : sh o a (v'.1 o) (v'.2.1 o) (v'.2.2 o) = some (.inr (ci, fs.set k x))) (hdg : decode cc pc = .ok (.putfield index, 3))
    (kk : ∀ (H1 : Heap) (locs1 : List Loc), rg G a n sh v' H1 → va_S A H0 H1 locs1 → H1.size = H.size → (∀ z, z ≠ q → H1[z]? = H[z]?) → W p l e R s m args below meth c H1 locs1 cells slots Q (F0 m (pc + 3) ls rest)) : W p l e R s m args below meth c H locs cells slots Q (F0 m pc ls (x :: .ref q :: rest)) := by
  obtain ⟨hin, hc, hk, hlk⟩ := hF
  have hat := hW o ho _ he
  rw [← hq] at hat
  obtain ⟨r, h1, cell, q1, q2, q3, q4⟩ := hat
  have hr : r = (C, T, N) := Option.some.inj (h1.symm.trans hc)
  subst hr
  obtain ⟨hSl, hfc, kC, hkC, hkind⟩ := hK.1.1 ci _ hc
  obtain ⟨cf, kf, fi, f, hi, hsl⟩ := hSl k hk
  have hlay := hts _ (hin _ (u_in_lay hk))
  unfold u_lay at hlay
  rw [if_neg (by rw [hfin]; decide)] at hlay
  have hst := (u_facts hfc hkC (u_lays hts hin hk) hi).1
  have h6 := u_store hfc hkC hkind hlay hi (hT.1 k hk) hn hfit
  refine W.putK hx hb (f := f) ⟨hown, hts _ hlk, ⟨_, _, _, hi⟩, hst⟩ (by rw [q2]; exact h6) q1 q3 (by rw [hsl]; exact k2_hasslot (q4 k hk)) rfl rfl hdg fun H' e1 e2 e3 => ?_
  refine kk H' _ (rg_upd hW hq e3 hv fun z hz => ?_) (hS.put e2 e3 hA) e2 e3
  rw [he2] at hz
  cases hz
  exact rk_pst hts hK hin hc hT hk hl q2 q3 q4 hsl e1
theorem rk_putN (hx : p.tables.exec = Jvm.exec) (hb : c.code = cc) (hts : ∀ w ∈ lw_all, w.before args s = true) (hown : s.vm.findClass own = some m.cls) (hK : KK G s) (hW : rg G a n sh v H) (hS : va_S A H0 H locs) (hF : FN own index ci k C T N host) {ty0 : Nat → FieldType} (hT : FT T N ty0) (o : Nat) (ho : o < n) (hq : q = a + o) (hA : A q) {fs : List Value} (he : sh o a (v.1 o) (v.2.1 o) (v.2.2 o) = some (.inr (ci, fs))) (hfin : (T k).2.2.2 = false) {x : Value} (hn : narrow (ty0 k) x = x) (hfit : fits (ty0 k) x = true) (hl : k < fs.length)
    (v' : Mem) (hv : ∀ o', o' ≠ o → v'.1 o' = v.1 o' ∧ v'.2.1 o' = v.2.1 o' ∧ v'.2.2 o' = v.2.2 o') (he2 : sh o a (v'.1 o) (v'.2.1 o) (v'.2.2 o) = some (.inr (ci, fs.set k x))) (hdg : decode cc pc = .ok (.putfield index, 3))
    (kk : ∀ (H1 : Heap) (locs1 : List Loc), rg G a n sh v' H1 → va_S A H0 H1 locs1 → H1.size = H.size → (∀ z, z ≠ q → H1[z]? = H[z]?) → W p l e R s m args below meth c H1 locs1 cells slots Q (F0 m (pc + 3) ls rest)) : W p l e R s m args below meth c H locs cells slots Q (F0 m pc ls (x :: .ref q :: rest)) := by
  obtain ⟨hin, hc, hk, hlk⟩ := hF
  have hat := hW o ho _ he
  rw [← hq] at hat
  obtain ⟨r, h1, cell, q1, q2, q3, q4⟩ := hat
  have hr : r = (C, T, N) := Option.some.inj (h1.symm.trans hc)
  subst hr
  obtain ⟨hSl, hfc, kC, hkC, hkind⟩ := hK.1.1 ci _ hc
  obtain ⟨cf, kf, fi, f, hi, hsl⟩ := hSl k hk
  have hlay := hts _ (hin _ (u_in_lay hk))
  unfold u_lay at hlay
  rw [if_neg (by rw [hfin]; decide)] at hlay
  have hst := (u_facts hfc hkC (u_lays hts hin hk) hi).1
  have h6 := u_store hfc hkC hkind hlay hi (hT.1 k hk) hn hfit
  refine va_WputK hx hb (f := f) hown (va_Nw.use rfl (hK.nw hlk rfl)) hi hst (by rw [q2]; exact h6) q1 q3 (by rw [hsl]; exact k2_hasslot (q4 k hk)) rfl rfl hdg fun H' e1 e2 e3 => ?_
  refine kk H' _ (rg_upd hW hq e3 hv fun z hz => ?_) (hS.put e2 e3 hA) e2 e3
  rw [he2] at hz
  cases hz
  exact rk_pst hts hK hin hc hT hk hl q2 q3 q4 hsl e1
/-- a final field in its constructor -/
theorem rk_putF (hx : p.tables.exec = Jvm.exec) (hb : c.code = cc) (hts : ∀ w ∈ lw_all, w.before args s = true) (hown : s.vm.findClass own = some m.cls) (hK : KK G s) (hW : rg G a n sh v H) (hS : va_S A H0 H locs) (hF : FL own index ci k C T N) {ty0 : Nat → FieldType} (hT : FT T N ty0) (o : Nat) (ho : o < n) (hq : q = a + o) (hA : A q) {fs : List Value} (he : sh o a (v.1 o) (v.2.1 o) (v.2.2 o) = some (.inr (ci, fs))) (hfin : (T k).2.2.2 = true) (hin2 : meth.name = "<init>") (hCo : (T k).1 = own) {x : Value} (hn : narrow (ty0 k) x = x) (hfit : fits (ty0 k) x = true) (hl : k < fs.length)
    (v' : Mem) (hv : ∀ o', o' ≠ o → v'.1 o' = v.1 o' ∧ v'.2.1 o' = v.2.1 o' ∧ v'.2.2 o' = v.2.2 o') (he2 : sh o a (v'.1 o) (v'.2.1 o) (v'.2.2 o) = some (.inr (ci, fs.set k x))) (hdg : decode cc pc = .ok (.putfield index, 3))
    (kk : ∀ (H1 : Heap) (locs1 : List Loc), rg G a n sh v' H1 → va_S A H0 H1 locs1 → H1.size = H.size → (∀ z, z ≠ q → H1[z]? = H[z]?) → W p l e R s m args below meth c H1 locs1 cells slots Q (F0 m (pc + 3) ls rest)) : W p l e R s m args below meth c H locs cells slots Q (F0 m pc ls (x :: .ref q :: rest)) := by
  obtain ⟨hin, hc, hk, hlk⟩ := hF
  have hat := hW o ho _ he
  rw [← hq] at hat
  obtain ⟨r, h1, cell, q1, q2, q3, q4⟩ := hat
  have hr : r = (C, T, N) := Option.some.inj (h1.symm.trans hc)
  subst hr
  obtain ⟨hSl, hfc, kC, hkC, hkind⟩ := hK.1.1 ci _ hc
  obtain ⟨cf, kf, fi, f, hi, hsl⟩ := hSl k hk
  have hlay := hts _ (hin _ (u_in_lay hk))
  unfold u_lay at hlay
  rw [if_pos hfin] at hlay
  have hst := (u_facts hfc hkC (u_lays hts hin hk) hi).1
  have hcf : m.cls = cf := by
    obtain ⟨_, _, c', _, _, _, -, -, hf', -, -, -, hown2, -⟩ := Cond.laysFinal_spec hlay
    have e1 : c' = cf := by have := hi.symm.trans hf'; simp at this; exact this.1.symm
    rw [hCo] at hown2
    rw [← e1]; exact Option.some.inj (hown.symm.trans hown2)
  have h6 := u_fits hfc hkC hkind (Or.inr hlay) hi (hT.1 k hk) hn hfit
  refine W.putFinK hx hb hown (hts _ hlk) hi hst hcf hin2 (by rw [q2]; exact h6) q1 q3 (by rw [hsl]; exact k2_hasslot (q4 k hk)) rfl rfl hdg fun H' e1 e2 e3 => ?_
  refine kk H' _ (rg_upd hW hq e3 hv fun z hz => ?_) (hS.put e2 e3 hA) e2 e3
  rw [he2] at hz
  cases hz
  exact rk_pst hts hK hin hc hT hk hl q2 q3 q4 hsl e1
theorem rk_alen (hx : p.tables.exec = Jvm.exec) (hb : c.code = cc) (hK : KK G s) (hW : rg G a n sh v H) (o t0 : Nat) (ho : o < n) (hq : q = a + o) {cA : ClassId} {w : vp_A} {ty : FieldType} (he : sh o a (v.1 o) (v.2.1 o) (v.2.2 o) = some (.inl (cA, w))) (ht : (tyL G.2.1)[t0]? = some (cA, ty)) {x : Int32} (hv : Int32.ofNat w.1 = x) (hdg : decode cc pc = .ok (.arraylength, 1))
    (kk : W p l e R s m args below meth c H locs cells slots Q (F0 m (pc + 1) ls (.int x :: rest))) : W p l e R s m args below meth c H locs cells slots Q (F0 m pc ls (.ref q :: rest)) :=
  va_alen hx hb hK.1 (rg_P hW ho hq he) 0 t0 rfl ht hv hdg kk
theorem rk_iald (hx : p.tables.exec = Jvm.exec) (hb : c.code = cc) (hK : KK G s) (hW : rg G a n sh v H) (o : Nat) (ho : o < n) (hq : q = a + o) {N9 : Nat} {f : Nat → Int32} (he : sh o a (v.1 o) (v.2.1 o) (v.2.2 o) = some (.inl (G.2.1 0, N9, .inl f))) {i : Int32} (hin : inR i N9 = true) {x : Int32} (hv : f i.toNatClampNeg = x) (hdg : decode cc pc = .ok (.iaload, 1))
    (kk : W p l e R s m args below meth c H locs cells slots Q (F0 m (pc + 1) ls (.int x :: rest))) : W p l e R s m args below meth c H locs cells slots Q (F0 m pc ls (.int i :: .ref q :: rest)) := by
  subst hv
  exact va_iald hx hb hK.1 (rg_P hW ho hq he) 0 0 rfl rfl (inR_in hin) hdg kk
theorem rk_bald (hx : p.tables.exec = Jvm.exec) (hb : c.code = cc) (hK : KK G s) (hW : rg G a n sh v H) (o : Nat) (ho : o < n) (hq : q = a + o) {N9 : Nat} {f : Nat → Int32} (he : sh o a (v.1 o) (v.2.1 o) (v.2.2 o) = some (.inl (G.2.1 2, N9, .inl f))) {i : Int32} (hin : inR i N9 = true) {x : Int32} (hv : f i.toNatClampNeg = x) (hdg : decode cc pc = .ok (.baload, 1))
    (kk : W p l e R s m args below meth c H locs cells slots Q (F0 m (pc + 1) ls (.int x :: rest))) : W p l e R s m args below meth c H locs cells slots Q (F0 m pc ls (.int i :: .ref q :: rest)) := by
  subst hv
  exact va_bald hx hb hK.1 (rg_P hW ho hq he) 0 2 rfl rfl (inR_in hin) hdg kk
theorem rk_zald (hx : p.tables.exec = Jvm.exec) (hb : c.code = cc) (hK : KK G s) (hW : rg G a n sh v H) (o : Nat) (ho : o < n) (hq : q = a + o) {N9 : Nat} {f : Nat → Int32} (he : sh o a (v.1 o) (v.2.1 o) (v.2.2 o) = some (.inl (G.2.1 4, N9, .inl f))) {i : Int32} (hin : inR i N9 = true) {x : Int32} (hv : f i.toNatClampNeg = x) (hdg : decode cc pc = .ok (.baload, 1))
    (kk : W p l e R s m args below meth c H locs cells slots Q (F0 m (pc + 1) ls (.int x :: rest))) : W p l e R s m args below meth c H locs cells slots Q (F0 m pc ls (.int i :: .ref q :: rest)) := by
  subst hv
  exact va_zald hx hb hK.1 (rg_P hW ho hq he) 0 4 rfl rfl (inR_in hin) hdg kk
theorem rk_lald (hx : p.tables.exec = Jvm.exec) (hb : c.code = cc) (hK : KK G s) (hW : rg G a n sh v H) (o : Nat) (ho : o < n) (hq : q = a + o) {N9 : Nat} {f : Nat → Int64} (he : sh o a (v.1 o) (v.2.1 o) (v.2.2 o) = some (.inl (G.2.1 1, N9, .inr (.inl f)))) {i : Int32} (hin : inR i N9 = true) {x : Int64} (hv : f i.toNatClampNeg = x) (hdg : decode cc pc = .ok (.laload, 1))
    (kk : W p l e R s m args below meth c H locs cells slots Q (F0 m (pc + 1) ls (.long x :: rest))) : W p l e R s m args below meth c H locs cells slots Q (F0 m pc ls (.int i :: .ref q :: rest)) := by
  subst hv
  exact va_lald hx hb hK.1 (rg_P hW ho hq he) 0 1 rfl rfl (inR_in hin) hdg kk
/-- an array of references whose place i holds the cell x -/
theorem rk_aald (hx : p.tables.exec = Jvm.exec) (hb : c.code = cc) (hK : KK G s) (hW : rg G a n sh v H) (o t0 : Nat) (ho : o < n) (hq : q = a + o) {cA : ClassId} {C9 : String} {N9 : Nat} {f : Nat → Option Nat} (he : sh o a (v.1 o) (v.2.1 o) (v.2.2 o) = some (.inl (cA, N9, .inr (.inr (.inr (.inr f)))))) (ht : (tyL G.2.1)[t0]? = some (cA, .object C9)) {i : Int32} (hin : inR i N9 = true) {x : Nat} (hv : f i.toNatClampNeg = some x) (hdg : decode cc pc = .ok (.aaload, 1))
    (kk : W p l e R s m args below meth c H locs cells slots Q (F0 m (pc + 1) ls (.ref x :: rest))) : W p l e R s m args below meth c H locs cells slots Q (F0 m pc ls (.int i :: .ref q :: rest)) :=
  va_aldq hx hb hK.1 (rg_P hW ho hq he) 0 t0 rfl ht (inR_in hin) hdg (by rw [hv]; exact kk)
theorem rk_iast (hx : p.tables.exec = Jvm.exec) (hb : c.code = cc) (hK : KK G s) (hW : rg G a n sh v H) (hS : va_S A H0 H locs) (o : Nat) (ho : o < n) (hq : q = a + o) (hA : A q) {N9 : Nat} (he : ∀ f y z, sh o a f y z = some (.inl (G.2.1 0, N9, .inl f))) {i x : Int32} (hin : inR i N9 = true) (hdg : decode cc pc = .ok (.iastore, 1))
    (kk : ∀ (H1 : Heap) (locs1 : List Loc), rg G a n sh (sI v o i.toNatClampNeg x) H1 → va_S A H0 H1 locs1 → H1.size = H.size → (∀ z, z ≠ q → H1[z]? = H[z]?) → W p l e R s m args below meth c H1 locs1 cells slots Q (F0 m (pc + 1) ls rest)) : W p l e R s m args below meth c H locs cells slots Q (F0 m pc ls (.int x :: .int i :: .ref q :: rest)) := by
  have hat := hW o ho _ (he _ _ _)
  rw [← hq] at hat
  refine W.iast hx hb hat ((hK.1.2 0 _ rfl).1 N9 (fun j => .int (v.1 o j))) (fun q => by cases q) (by show ¬ (i < 0 ∨ (arrV _ _ _).slots.size ≤ _); rw [arrV_size]; exact inR_in hin) rfl rfl hdg fun H1 e z oq => ?_
  refine kk H1 _ (rg_upd hW hq oq sI_ne fun y hy => ?_) (hS.put z oq hA) z oq
  rw [he] at hy
  cases hy
  show H1[q]? = some (vp_cell _ _)
  rw [e]
  rw [vp_cell_i, vp_cell_i, arrV_store, sI_eq]
  congr 2
  funext j
  by_cases hj : j = i.toNatClampNeg
  · subst hj
    simp [updV]
  · simp [updV, hj]
theorem rk_last (hx : p.tables.exec = Jvm.exec) (hb : c.code = cc) (hK : KK G s) (hW : rg G a n sh v H) (hS : va_S A H0 H locs) (o : Nat) (ho : o < n) (hq : q = a + o) (hA : A q) {N9 : Nat} (he : ∀ f y z, sh o a y f z = some (.inl (G.2.1 1, N9, .inr (.inl f)))) {i : Int32} {x : Int64} (hin : inR i N9 = true) (hdg : decode cc pc = .ok (.lastore, 1))
    (kk : ∀ (H1 : Heap) (locs1 : List Loc), rg G a n sh (sL v o i.toNatClampNeg x) H1 → va_S A H0 H1 locs1 → H1.size = H.size → (∀ z, z ≠ q → H1[z]? = H[z]?) → W p l e R s m args below meth c H1 locs1 cells slots Q (F0 m (pc + 1) ls rest)) : W p l e R s m args below meth c H locs cells slots Q (F0 m pc ls (.long x :: .int i :: .ref q :: rest)) := by
  have hat := hW o ho _ (he _ _ _)
  rw [← hq] at hat
  refine W.last hx hb hat ((hK.1.2 1 _ rfl).1 N9 (fun j => .long (v.2.1 o j))) (fun q => by cases q) (by show ¬ (i < 0 ∨ (arrV _ _ _).slots.size ≤ _); rw [arrV_size]; exact inR_in hin) rfl rfl hdg fun H1 e z oq => ?_
  refine kk H1 _ (rg_upd hW hq oq sL_ne fun y hy => ?_) (hS.put z oq hA) z oq
  rw [he] at hy
  cases hy
  show H1[q]? = some (vp_cell _ _)
  rw [e]
  rw [vp_cell_l, vp_cell_l, arrV_store, sL_eq]
  congr 2
  funext j
  by_cases hj : j = i.toNatClampNeg
  · subst hj
    simp [updV]
  · simp [updV, hj]
theorem rk_zast (hx : p.tables.exec = Jvm.exec) (hb : c.code = cc) (hK : KK G s) (hW : rg G a n sh v H) (hS : va_S A H0 H locs) (o : Nat) (ho : o < n) (hq : q = a + o) (hA : A q) {N9 : Nat} (he : ∀ f y z, sh o a f y z = some (.inl (G.2.1 4, N9, .inl f))) {i x : Int32} (hin : inR i N9 = true) (hx1 : z01 x = true) (hdg : decode cc pc = .ok (.bastore, 1))
    (kk : ∀ (H1 : Heap) (locs1 : List Loc), rg G a n sh (sI v o i.toNatClampNeg x) H1 → va_S A H0 H1 locs1 → H1.size = H.size → (∀ z, z ≠ q → H1[z]? = H[z]?) → W p l e R s m args below meth c H1 locs1 cells slots Q (F0 m (pc + 1) ls rest)) : W p l e R s m args below meth c H locs cells slots Q (F0 m pc ls (.int x :: .int i :: .ref q :: rest)) := by
  have hat := hW o ho _ (he _ _ _)
  rw [← hq] at hat
  refine W.zast hx hb hat ((hK.1.2 4 _ rfl).1 N9 (fun j => .int (v.1 o j))) (fun q => by cases q) (by show ¬ (i < 0 ∨ (arrV _ _ _).slots.size ≤ _); rw [arrV_size]; exact inR_in hin) rfl rfl hdg fun H1 e z oq => ?_
  refine kk H1 _ (rg_upd hW hq oq sI_ne fun y hy => ?_) (hS.put z oq hA) z oq
  rw [he] at hy
  cases hy
  show H1[q]? = some (vp_cell _ _)
  rw [e, z01_nar hx1]
  rw [vp_cell_i, vp_cell_i, arrV_store, sI_eq]
  congr 2
  funext j
  by_cases hj : j = i.toNatClampNeg
  · subst hj
    simp [updV]
  · simp [updV, hj]
theorem rk_bast (hx : p.tables.exec = Jvm.exec) (hb : c.code = cc) (hK : KK G s) (hW : rg G a n sh v H) (hS : va_S A H0 H locs) (o : Nat) (ho : o < n) (hq : q = a + o) (hA : A q) {N9 : Nat} (he : ∀ f y z, sh o a f y z = some (.inl (G.2.1 2, N9, .inl f))) {i x : Int32} (hin : inR i N9 = true) (hdg : decode cc pc = .ok (.bastore, 1))
    (kk : ∀ (H1 : Heap) (locs1 : List Loc), rg G a n sh (sI v o i.toNatClampNeg x.toInt8.toInt32) H1 → va_S A H0 H1 locs1 → H1.size = H.size → (∀ z, z ≠ q → H1[z]? = H[z]?) → W p l e R s m args below meth c H1 locs1 cells slots Q (F0 m (pc + 1) ls rest)) : W p l e R s m args below meth c H locs cells slots Q (F0 m pc ls (.int x :: .int i :: .ref q :: rest)) := by
  have hat := hW o ho _ (he _ _ _)
  rw [← hq] at hat
  refine W.bast hx hb hat ((hK.1.2 2 _ rfl).1 N9 (fun j => .int (v.1 o j))) (fun q => by cases q) (by show ¬ (i < 0 ∨ (arrV _ _ _).slots.size ≤ _); rw [arrV_size]; exact inR_in hin) rfl rfl hdg fun H1 e z oq => ?_
  refine kk H1 _ (rg_upd hW hq oq sI_ne fun y hy => ?_) (hS.put z oq hA) z oq
  rw [he] at hy
  cases hy
  show H1[q]? = some (vp_cell _ _)
  rw [e, narrow_byte]
  rw [vp_cell_i, vp_cell_i, arrV_store, sI_eq]
  congr 2
  funext j
  by_cases hj : j = i.toNatClampNeg
  · subst hj
    simp [updV]
  · simp [updV, hj]
/-- lcmp and the branch behind it -/
theorem rk_lcmp_lt (hx : p.tables.exec = Jvm.exec) (hb : c.code = cc) {x y : Int64} {off : Int} {tgt pc1 : Nat} (hdg : decode cc pc = .ok (.lcmp, 1)) (h1 : pc + 1 = pc1) (hdg1 : decode cc pc1 = .ok (.ifCond .lt off, 3)) (ht : (pc1 : Int) + off = (tgt : Int))
    (kt : x < y → W p l e R s m args below meth c H locs cells slots Q (F0 m tgt ls rest)) (kf : ¬ x < y → W p l e R s m args below meth c H locs cells slots Q (F0 m (pc1 + 3) ls rest)) : W p l e R s m args below meth c H locs cells slots Q (F0 m pc ls (.long y :: .long x :: rest)) := by
  subst h1
  exact W.lcmp hx hb hdg (lv_if_lt (tgt := tgt) hx hb hdg1 ht (fun h => kt ((lg_cmp_lt x y).mp h)) (fun h => kf (fun z => h ((lg_cmp_lt x y).mpr z))))
theorem rk_lcmp_ge (hx : p.tables.exec = Jvm.exec) (hb : c.code = cc) {x y : Int64} {off : Int} {tgt pc1 : Nat} (hdg : decode cc pc = .ok (.lcmp, 1)) (h1 : pc + 1 = pc1) (hdg1 : decode cc pc1 = .ok (.ifCond .ge off, 3)) (ht : (pc1 : Int) + off = (tgt : Int))
    (kt : y ≤ x → W p l e R s m args below meth c H locs cells slots Q (F0 m tgt ls rest)) (kf : ¬ y ≤ x → W p l e R s m args below meth c H locs cells slots Q (F0 m (pc1 + 3) ls rest)) : W p l e R s m args below meth c H locs cells slots Q (F0 m pc ls (.long y :: .long x :: rest)) := by
  subst h1
  exact W.lcmp hx hb hdg (lv_if_ge (tgt := tgt) hx hb hdg1 ht (fun h => kt ((lg_cmp_ge x y).mp h)) (fun h => kf (fun z => h ((lg_cmp_ge x y).mpr z))))
theorem rk_lcmp_gt (hx : p.tables.exec = Jvm.exec) (hb : c.code = cc) {x y : Int64} {off : Int} {tgt pc1 : Nat} (hdg : decode cc pc = .ok (.lcmp, 1)) (h1 : pc + 1 = pc1) (hdg1 : decode cc pc1 = .ok (.ifCond .gt off, 3)) (ht : (pc1 : Int) + off = (tgt : Int))
    (kt : y < x → W p l e R s m args below meth c H locs cells slots Q (F0 m tgt ls rest)) (kf : ¬ y < x → W p l e R s m args below meth c H locs cells slots Q (F0 m (pc1 + 3) ls rest)) : W p l e R s m args below meth c H locs cells slots Q (F0 m pc ls (.long y :: .long x :: rest)) := by
  subst h1
  exact W.lcmp hx hb hdg (lv_if_gt (tgt := tgt) hx hb hdg1 ht (fun h => kt ((lg_cmp_gt x y).mp h)) (fun h => kf (fun z => h ((lg_cmp_gt x y).mpr z))))
theorem rk_lcmp_le (hx : p.tables.exec = Jvm.exec) (hb : c.code = cc) {x y : Int64} {off : Int} {tgt pc1 : Nat} (hdg : decode cc pc = .ok (.lcmp, 1)) (h1 : pc + 1 = pc1) (hdg1 : decode cc pc1 = .ok (.ifCond .le off, 3)) (ht : (pc1 : Int) + off = (tgt : Int))
    (kt : x ≤ y → W p l e R s m args below meth c H locs cells slots Q (F0 m tgt ls rest)) (kf : ¬ x ≤ y → W p l e R s m args below meth c H locs cells slots Q (F0 m (pc1 + 3) ls rest)) : W p l e R s m args below meth c H locs cells slots Q (F0 m pc ls (.long y :: .long x :: rest)) := by
  subst h1
  exact W.lcmp hx hb hdg (lv_if_le (tgt := tgt) hx hb hdg1 ht (fun h => kt ((lg_cmp_le x y).mp h)) (fun h => kf (fun z => h ((lg_cmp_le x y).mpr z))))
theorem rk_lcmp_eq (hx : p.tables.exec = Jvm.exec) (hb : c.code = cc) {x y : Int64} {off : Int} {tgt pc1 : Nat} (hdg : decode cc pc = .ok (.lcmp, 1)) (h1 : pc + 1 = pc1) (hdg1 : decode cc pc1 = .ok (.ifCond .eq off, 3)) (ht : (pc1 : Int) + off = (tgt : Int))
    (kt : x = y → W p l e R s m args below meth c H locs cells slots Q (F0 m tgt ls rest)) (kf : ¬ x = y → W p l e R s m args below meth c H locs cells slots Q (F0 m (pc1 + 3) ls rest)) : W p l e R s m args below meth c H locs cells slots Q (F0 m pc ls (.long y :: .long x :: rest)) := by
  subst h1
  exact W.lcmp hx hb hdg (lv_if_eq (tgt := tgt) hx hb hdg1 ht (fun h => kt ((lg_cmp_eq x y).mp h)) (fun h => kf (fun z => h ((lg_cmp_eq x y).mpr z))))
theorem rk_lcmp_ne (hx : p.tables.exec = Jvm.exec) (hb : c.code = cc) {x y : Int64} {off : Int} {tgt pc1 : Nat} (hdg : decode cc pc = .ok (.lcmp, 1)) (h1 : pc + 1 = pc1) (hdg1 : decode cc pc1 = .ok (.ifCond .ne off, 3)) (ht : (pc1 : Int) + off = (tgt : Int))
    (kt : ¬ x = y → W p l e R s m args below meth c H locs cells slots Q (F0 m tgt ls rest)) (kf : x = y → W p l e R s m args below meth c H locs cells slots Q (F0 m (pc1 + 3) ls rest)) : W p l e R s m args below meth c H locs cells slots Q (F0 m pc ls (.long y :: .long x :: rest)) := by
  subst h1
  exact W.lcmp hx hb hdg (lv_if_ne (tgt := tgt) hx hb hdg1 ht (fun h => kt (fun z => h ((lg_cmp_eq x y).mpr z))) (fun h => kf ((lg_cmp_eq x y).mp h)))
end RGW
/-! CONTRACTS. CP: a method that changes nothing: answers ov, the heap as it was. CT: one that changes the cells of FP alone (and makes new ones). -/
def QcP (ov : Option Value) : Array Value → State → Outcome → State → Prop := fun _ st o t => o = .returned ov ∧ t.heap = st.heap
def QcT (A : Nat → Prop) (Post : Option Value → Heap → Prop) : Array Value → State → Outcome → State → Prop := fun _ st o t => (∃ ov, o = .returned ov ∧ Post ov t.heap) ∧ va_F A st t
def FA (FP : Nat → Prop) (sz : Nat) : Nat → Prop := fun z => FP z ∨ sz ≤ z
def PcK (G : Gv) (av : List Value) (Pre : Heap → Prop) : Array Value → State → Prop := va_Pc av (fun U => Pre U.heap ∧ KK G U)
abbrev rmP (fr lo : Nat) : Room := { frames := fr, cells := 0, slots := 0, locals := lo }
abbrev rmT (fr mc ms lo : Nat) : Room := { frames := fr, cells := mc, slots := ms, locals := lo }
def CP (G : Gv) (l : Launch) (y : MethodName) (ws : List Cond) (fr lo : Nat) (av : List Value) (Pre : Heap → Prop) (ov : Option Value) : Prop :=
  Met l y ws (rmP fr lo) (PcK G av Pre) (QcP ov) 0 0 (fun _ => False)
def CT (G : Gv) (l : Launch) (y : MethodName) (ws : List Cond) (fr mc ms lo : Nat) (av : List Value) (FP : Nat → Prop) (sz : Nat) (Pre : Heap → Prop) (Post : Option Value → Heap → Prop) : Prop :=
  Met l y ws (rmT fr mc ms lo) (PcK G av (fun H => H.size = sz ∧ Pre H)) (QcT (FA FP sz) Post) mc ms (FA FP sz)
theorem PcK.blind {G : Gv} {av : List Value} {Pre : Heap → Prop} : FrameBlind (PcK G av Pre) := fun a U g mk q => ⟨q.1, q.2.1, KK.call g mk a q.2.2⟩
/-- a method's words for a virtual call -/
def LV (own : String) (index : Nat) (C : String) (y : MethodName) (bytes : ByteArray) (maxL : Nat) (ret : Option FieldType) : Prop := Cond.methodLink own index y ∈ lw_all ∧ Cond.instanceMethod y ∈ lw_all ∧ Cond.selects C y y ∈ lw_all ∧ Cond.initialized C ∈ lw_all ∧ Cond.code y bytes maxL ret ∈ lw_all
def LSt (own : String) (index : Nat) (y : MethodName) (bytes : ByteArray) (maxL : Nat) (ret : Option FieldType) : Prop := Cond.methodLink own index y ∈ lw_all ∧ Cond.static y ∈ lw_all ∧ Cond.initialized y.cls ∈ lw_all ∧ Cond.code y bytes maxL ret ∈ lw_all
def LI (own : String) (index : Nat) (y : MethodName) (bytes : ByteArray) (maxL : Nat) : Prop := Cond.methodLink own index y ∈ lw_all ∧ Cond.instanceMethod y ∈ lw_all ∧ Cond.initialized y.cls ∈ lw_all ∧ Cond.code y bytes maxL none ∈ lw_all ∧ y.name = "<init>"
def LVN (own : String) (index : Nat) (C : String) (y : MethodName) (host : String) (bytes : ByteArray) (maxL : Nat) (ret : Option FieldType) : Prop := Cond.methodLinkNest own index y host ∈ lw_tbl ∧ Cond.instanceMethod y ∈ lw_all ∧ Cond.selects C y y ∈ lw_all ∧ Cond.initialized y.cls ∈ lw_all ∧ Cond.code y bytes maxL ret ∈ lw_all
def LSN (own : String) (index : Nat) (y : MethodName) (host : String) (bytes : ByteArray) (maxL : Nat) (ret : Option FieldType) : Prop := Cond.methodLinkNest own index y host ∈ lw_tbl ∧ Cond.static y ∈ lw_all ∧ Cond.initialized y.cls ∈ lw_all ∧ Cond.code y bytes maxL ret ∈ lw_all
def LIN (own : String) (index : Nat) (y : MethodName) (host : String) (bytes : ByteArray) (maxL : Nat) : Prop := Cond.methodLinkNest own index y host ∈ lw_tbl ∧ Cond.instanceMethod y ∈ lw_all ∧ Cond.initialized y.cls ∈ lw_all ∧ Cond.code y bytes maxL none ∈ lw_all ∧ y.name = "<init>"
/-- what a method's name is not, and how many arguments it takes -/
def YN (y : MethodName) (n : Nat) : Prop := y.cls ≠ "java/lang/invoke/MethodHandle" ∧ y.cls ≠ "java/lang/invoke/VarHandle" ∧ (parseMethodDescriptor y.desc).map (fun d => d.parameters.length) = some n
section CALLS
variable {p : Program} {l : Launch} {e : Env} {R : Room} {s : State} {m : MethodId} {args : Array Value} {below : List Frame} {meth : Method} {c : Code} {H : Heap} {locs : List Loc} {cells slots : Nat} {Q : State → Prop}
variable {cc bytes : ByteArray} {pc nL maxL index n fr lo mc ms sz : Nat} {ls : Array Slot} {rest st0 As : List Value} {G : Gv} {A0 : Nat → Prop} {H0 : Heap} {own C host : String} {y : MethodName} {ret : Option FieldType} {b : Nat} {Pre : Heap → Prop} {ov : Option Value} {FP : Nat → Prop} {Post : Option Value → Heap → Prop}
/-- behind a call that changes nothing -/
theorem rk_backP {a : Array Value} (hr : va_Run p l e R s m args below meth c H locs cells slots 0 0 (F0 m pc ls st0) rest (QcP ov a) (fun _ => False)) (kk : W p l e R s m args below meth c H locs cells slots Q (F0 m (pc + 3) ls (ov.toList ++ rest))) : W p l e R s m args below meth c H locs cells slots Q (F0 m pc ls st0) := by
  intro T hT X
  obtain ⟨v, st₀, t, T', L, h0, X', hL, e1, e2, ⟨hv, hh⟩, st⟩ := hr T hT X
  cases hv
  obtain ⟨t2, a1, b1⟩ := kk T' (by rw [e1, hh, h0]) (Stand.forget X' (fun q h => (hL q h).elim))
  exact ⟨t2, st t2 a1, b1⟩
/-- behind a call that changes FP's cells -/
theorem rk_backT {a : Array Value} (hr : va_Run p l e R s m args below meth c H locs cells slots mc ms (F0 m pc ls st0) rest (QcT (FA FP H.size) Post a) (FA FP H.size)) (hS : va_S A0 H0 H locs) (hf : ∀ q, FP q → A0 q) (hA : ∀ q, H0.size ≤ q → A0 q)
    (kk : ∀ (ov : Option Value) (H1 : Heap) (locs1 : List Loc), Post ov H1 → (∀ q : Nat, q < H.size → ¬ (FP q ∨ H.size ≤ q) → H1[q]? = H[q]?) → va_S A0 H0 H1 locs1 → W p l e R s m args below meth c H1 locs1 (cells + mc) (slots + ms) Q (F0 m (pc + 3) ls (ov.toList ++ rest))) : W p l e R s m args below meth c H locs cells slots Q (F0 m pc ls st0) := by
  have hf2 : ∀ q, FA FP H.size q → A0 q := fun q h => h.elim (hf q) (fun h => hA q (Nat.le_trans hS.1 h))
  intro T hT X
  obtain ⟨v, st₀, t, T', L, h0, X', hL, e1, e2, ⟨⟨ov, hv, hp⟩, hz, hk⟩, st⟩ := hr T hT X
  cases hv
  rw [h0] at hz hk
  obtain ⟨t2, a1, b1⟩ := kk v T'.heap (locs ++ L) (by rw [e1]; exact hp) (fun q h1 h2 => by rw [e1]; exact hk q h1 h2)
    ⟨Nat.le_trans hS.1 (by rw [e1]; exact hz), fun q h1 h2 => by rw [e1, hk q (Nat.lt_of_lt_of_le h1 hS.1) (fun z => h2 (hf2 q z))]; exact hS.2.1 q h1 h2, fun q hq => by
      rcases List.mem_append.mp hq with h | h
      · exact hS.2.2 q h
      · exact hf2 _ (hL q h)⟩ T' rfl X'
  exact ⟨t2, st t2 a1, b1⟩
abbrev RcV (s : State) (H : Heap) (C : String) (b : Nat) : Prop := ∃ cellB : Cell, H[b]? = some cellB ∧ cellB.vm.isStatics = false ∧ s.vm.findClass C = some cellB.cls
theorem rk_pre {av : List Value} {Pre : Heap → Prop} (hK : KK G s) (hp : Pre H) : ∀ U : State, U.heap = H → s.WarmedH U.vm → PcK G av Pre av.toArray U := fun U hU hW => ⟨rfl, by rw [hU]; exact hp, KK.moved hW hK⟩
theorem rk_cwV {rm : Room} (hts : ∀ w ∈ lw_all, w.before args s = true) (hw : LV own index C y bytes maxL ret) (hyC : y.cls = C) (hy : YN y n) (hR : rm.frames + 1 ≤ R.frames ∧ 8 + (maxL + 11) + rm.locals ≤ R.locals) : CallW R s args own C index y bytes maxL ret (ws_ y bytes maxL ret) rm rm.cells rm.slots n :=
  cwV n hts (lw_V hw.1 hw.2.1 hw.2.2.1 hw.2.2.2.1 hw.2.2.2.2) rfl rfl rfl ⟨hyC, hy⟩ hR
theorem rk_cwS {rm : Room} (hts : ∀ w ∈ lw_all, w.before args s = true) (hw : LSt own index y bytes maxL ret) (hy : YN y n) (hR : rm.frames + 1 ≤ R.frames ∧ 8 + (maxL + 11) + rm.locals ≤ R.locals) : CallB R s args own index y bytes maxL ret (ws_ y bytes maxL ret) rm rm.cells rm.slots n ∧ (Cond.static y).before args s = true :=
  va_cwS n hts (lw_S hw.1 hw.2.1 hw.2.2.1 hw.2.2.2) rfl rfl rfl hy hR
theorem rk_cnB {rm : Room} (hts : ∀ w ∈ lw_all, w.before args s = true) (hK : KK G s) (h1 : Cond.methodLinkNest own index y host ∈ lw_tbl) (h2 : Cond.initialized y.cls ∈ lw_all) (h3 : Cond.code y bytes maxL ret ∈ lw_all) (hy : YN y n) (hR : rm.frames + 1 ≤ R.frames ∧ 8 + (maxL + 11) + rm.locals ≤ R.locals) : va_CN R s args own index y host bytes maxL ret (ws_ y bytes maxL ret) rm rm.cells rm.slots n :=
  va_cnB n hts (lw_meth h3) rfl rfl rfl (hK.nw h1 rfl) (hts _ h2) hy hR
/-! calls of methods that change nothing -/
theorem rk_PV (hx : p.tables.exec = Jvm.exec) (hb : c.code = cc) (hml : c.maxLocals = nL) (hown : s.vm.findClass own = some m.cls) (hts : ∀ w ∈ lw_all, w.before args s = true) (hK : KK G s) (hw : LV own index C y bytes maxL ret) (hyC : y.cls = C) (hy : YN y n) (hM : CP G l y (ws_ y bytes maxL ret) fr lo (.ref b :: As) Pre ov) (hR : fr + 1 ≤ R.frames ∧ 8 + (maxL + 11) + lo ≤ R.locals) (hrc : RcV s H C b) (hp : Pre H) (hst : st0 = As.reverse ++ .ref b :: rest) (hn : As.length = n) (hls : ls.size = nL) (hrest : (rest.map fun v => v.category).sum ≤ 8) (hdg : decode cc pc = .ok (.invokevirtual index, 3)) (hf : cells ≤ R.cells ∧ slots ≤ R.slots)
    (kk : W p l e R s m args below meth c H locs cells slots Q (F0 m (pc + 3) ls (ov.toList ++ rest))) : W p l e R s m args below meth c H locs cells slots Q (F0 m pc ls st0) :=
  rk_backP (va_runV (Ts := lw_all) ⟨hx, hb, hml, hown, hts⟩ hM (rk_cwV hts hw hyC hy hR) ⟨PcK.blind, hrc, rk_pre hK hp⟩ rfl hn hls hst (lv_room hrest) hdg hf) kk
theorem rk_PS (hx : p.tables.exec = Jvm.exec) (hb : c.code = cc) (hml : c.maxLocals = nL) (hown : s.vm.findClass own = some m.cls) (hts : ∀ w ∈ lw_all, w.before args s = true) (hK : KK G s) (hw : LSt own index y bytes maxL ret) (hy : YN y n) (hM : CP G l y (ws_ y bytes maxL ret) fr lo As Pre ov) (hR : fr + 1 ≤ R.frames ∧ 8 + (maxL + 11) + lo ≤ R.locals) (hp : Pre H) (hst : st0 = As.reverse ++ rest) (hn : As.length = n) (hls : ls.size = nL) (hrest : (rest.map fun v => v.category).sum ≤ 8) (hdg : decode cc pc = .ok (.invokestatic index, 3)) (hf : cells ≤ R.cells ∧ slots ≤ R.slots)
    (kk : W p l e R s m args below meth c H locs cells slots Q (F0 m (pc + 3) ls (ov.toList ++ rest))) : W p l e R s m args below meth c H locs cells slots Q (F0 m pc ls st0) :=
  rk_backP (va_runS (Ts := lw_all) ⟨hx, hb, hml, hown, hts⟩ hM (rk_cwS hts hw hy hR) ⟨PcK.blind, rk_pre hK hp⟩ rfl hn hls hst (lv_room hrest) hdg hf) kk
theorem rk_PVN (hx : p.tables.exec = Jvm.exec) (hb : c.code = cc) (hml : c.maxLocals = nL) (hown : s.vm.findClass own = some m.cls) (hts : ∀ w ∈ lw_all, w.before args s = true) (hK : KK G s) (hw : LVN own index C y host bytes maxL ret) (hy : YN y n) (hM : CP G l y (ws_ y bytes maxL ret) fr lo (.ref b :: As) Pre ov) (hR : fr + 1 ≤ R.frames ∧ 8 + (maxL + 11) + lo ≤ R.locals) (hrc : RcV s H C b) (hp : Pre H) (hst : st0 = As.reverse ++ .ref b :: rest) (hn : As.length = n) (hls : ls.size = nL) (hrest : (rest.map fun v => v.category).sum ≤ 8) (hdg : decode cc pc = .ok (.invokevirtual index, 3)) (hf : cells ≤ R.cells ∧ slots ≤ R.slots)
    (kk : W p l e R s m args below meth c H locs cells slots Q (F0 m (pc + 3) ls (ov.toList ++ rest))) : W p l e R s m args below meth c H locs cells slots Q (F0 m pc ls st0) :=
  rk_backP (va_runVN (Ts := lw_all) ⟨hx, hb, hml, hown, hts⟩ hM ⟨rk_cnB hts hK hw.1 hw.2.2.2.1 hw.2.2.2.2 hy hR, hts _ hw.2.1, hts _ hw.2.2.1⟩ ⟨PcK.blind, hrc, rk_pre hK hp⟩ rfl hn hls hst (lv_room hrest) hdg hf) kk
theorem rk_PSN (hx : p.tables.exec = Jvm.exec) (hb : c.code = cc) (hml : c.maxLocals = nL) (hown : s.vm.findClass own = some m.cls) (hts : ∀ w ∈ lw_all, w.before args s = true) (hK : KK G s) (hw : LSN own index y host bytes maxL ret) (hy : YN y n) (hM : CP G l y (ws_ y bytes maxL ret) fr lo As Pre ov) (hR : fr + 1 ≤ R.frames ∧ 8 + (maxL + 11) + lo ≤ R.locals) (hp : Pre H) (hst : st0 = As.reverse ++ rest) (hn : As.length = n) (hls : ls.size = nL) (hrest : (rest.map fun v => v.category).sum ≤ 8) (hdg : decode cc pc = .ok (.invokestatic index, 3)) (hf : cells ≤ R.cells ∧ slots ≤ R.slots)
    (kk : W p l e R s m args below meth c H locs cells slots Q (F0 m (pc + 3) ls (ov.toList ++ rest))) : W p l e R s m args below meth c H locs cells slots Q (F0 m pc ls st0) :=
  rk_backP (va_runSN (Ts := lw_all) ⟨hx, hb, hml, hown, hts⟩ hM ⟨rk_cnB hts hK hw.1 hw.2.2.1 hw.2.2.2 hy hR, hts _ hw.2.1, trivial⟩ ⟨PcK.blind, rk_pre hK hp⟩ rfl hn hls hst (lv_room hrest) hdg hf) kk
/-! calls of methods that change cells -/
theorem rk_TV (hx : p.tables.exec = Jvm.exec) (hb : c.code = cc) (hml : c.maxLocals = nL) (hown : s.vm.findClass own = some m.cls) (hts : ∀ w ∈ lw_all, w.before args s = true) (hK : KK G s) (hS : va_S A0 H0 H locs) (hA : ∀ q, H0.size ≤ q → A0 q) (hw : LV own index C y bytes maxL ret) (hyC : y.cls = C) (hy : YN y n) (hM : CT G l y (ws_ y bytes maxL ret) fr mc ms lo (.ref b :: As) FP H.size Pre Post) (hR : fr + 1 ≤ R.frames ∧ 8 + (maxL + 11) + lo ≤ R.locals) (hf2 : ∀ q, FP q → A0 q) (hrc : RcV s H C b) (hp : Pre H) (hst : st0 = As.reverse ++ .ref b :: rest) (hn : As.length = n) (hls : ls.size = nL) (hrest : (rest.map fun v => v.category).sum ≤ 8) (hdg : decode cc pc = .ok (.invokevirtual index, 3)) (hf : cells + mc ≤ R.cells ∧ slots + ms ≤ R.slots)
    (kk : ∀ (ov : Option Value) (H1 : Heap) (locs1 : List Loc), Post ov H1 → (∀ q : Nat, q < H.size → ¬ (FP q ∨ H.size ≤ q) → H1[q]? = H[q]?) → va_S A0 H0 H1 locs1 → W p l e R s m args below meth c H1 locs1 (cells + mc) (slots + ms) Q (F0 m (pc + 3) ls (ov.toList ++ rest))) : W p l e R s m args below meth c H locs cells slots Q (F0 m pc ls st0) :=
  rk_backT (va_runV (Ts := lw_all) ⟨hx, hb, hml, hown, hts⟩ hM (rk_cwV hts hw hyC hy hR) ⟨PcK.blind, hrc, rk_pre hK ⟨rfl, hp⟩⟩ rfl hn hls hst (lv_room hrest) hdg hf) hS hf2 hA kk
theorem rk_TS (hx : p.tables.exec = Jvm.exec) (hb : c.code = cc) (hml : c.maxLocals = nL) (hown : s.vm.findClass own = some m.cls) (hts : ∀ w ∈ lw_all, w.before args s = true) (hK : KK G s) (hS : va_S A0 H0 H locs) (hA : ∀ q, H0.size ≤ q → A0 q) (hw : LSt own index y bytes maxL ret) (hy : YN y n) (hM : CT G l y (ws_ y bytes maxL ret) fr mc ms lo As FP H.size Pre Post) (hR : fr + 1 ≤ R.frames ∧ 8 + (maxL + 11) + lo ≤ R.locals) (hf2 : ∀ q, FP q → A0 q) (hp : Pre H) (hst : st0 = As.reverse ++ rest) (hn : As.length = n) (hls : ls.size = nL) (hrest : (rest.map fun v => v.category).sum ≤ 8) (hdg : decode cc pc = .ok (.invokestatic index, 3)) (hf : cells + mc ≤ R.cells ∧ slots + ms ≤ R.slots)
    (kk : ∀ (ov : Option Value) (H1 : Heap) (locs1 : List Loc), Post ov H1 → (∀ q : Nat, q < H.size → ¬ (FP q ∨ H.size ≤ q) → H1[q]? = H[q]?) → va_S A0 H0 H1 locs1 → W p l e R s m args below meth c H1 locs1 (cells + mc) (slots + ms) Q (F0 m (pc + 3) ls (ov.toList ++ rest))) : W p l e R s m args below meth c H locs cells slots Q (F0 m pc ls st0) :=
  rk_backT (va_runS (Ts := lw_all) ⟨hx, hb, hml, hown, hts⟩ hM (rk_cwS hts hw hy hR) ⟨PcK.blind, rk_pre hK ⟨rfl, hp⟩⟩ rfl hn hls hst (lv_room hrest) hdg hf) hS hf2 hA kk
theorem rk_TVN (hx : p.tables.exec = Jvm.exec) (hb : c.code = cc) (hml : c.maxLocals = nL) (hown : s.vm.findClass own = some m.cls) (hts : ∀ w ∈ lw_all, w.before args s = true) (hK : KK G s) (hS : va_S A0 H0 H locs) (hA : ∀ q, H0.size ≤ q → A0 q) (hw : LVN own index C y host bytes maxL ret) (hy : YN y n) (hM : CT G l y (ws_ y bytes maxL ret) fr mc ms lo (.ref b :: As) FP H.size Pre Post) (hR : fr + 1 ≤ R.frames ∧ 8 + (maxL + 11) + lo ≤ R.locals) (hf2 : ∀ q, FP q → A0 q) (hrc : RcV s H C b) (hp : Pre H) (hst : st0 = As.reverse ++ .ref b :: rest) (hn : As.length = n) (hls : ls.size = nL) (hrest : (rest.map fun v => v.category).sum ≤ 8) (hdg : decode cc pc = .ok (.invokevirtual index, 3)) (hf : cells + mc ≤ R.cells ∧ slots + ms ≤ R.slots)
    (kk : ∀ (ov : Option Value) (H1 : Heap) (locs1 : List Loc), Post ov H1 → (∀ q : Nat, q < H.size → ¬ (FP q ∨ H.size ≤ q) → H1[q]? = H[q]?) → va_S A0 H0 H1 locs1 → W p l e R s m args below meth c H1 locs1 (cells + mc) (slots + ms) Q (F0 m (pc + 3) ls (ov.toList ++ rest))) : W p l e R s m args below meth c H locs cells slots Q (F0 m pc ls st0) :=
  rk_backT (va_runVN (Ts := lw_all) ⟨hx, hb, hml, hown, hts⟩ hM ⟨rk_cnB hts hK hw.1 hw.2.2.2.1 hw.2.2.2.2 hy hR, hts _ hw.2.1, hts _ hw.2.2.1⟩ ⟨PcK.blind, hrc, rk_pre hK ⟨rfl, hp⟩⟩ rfl hn hls hst (lv_room hrest) hdg hf) hS hf2 hA kk
theorem rk_TI (hx : p.tables.exec = Jvm.exec) (hb : c.code = cc) (hml : c.maxLocals = nL) (hown : s.vm.findClass own = some m.cls) (hts : ∀ w ∈ lw_all, w.before args s = true) (hK : KK G s) (hS : va_S A0 H0 H locs) (hA : ∀ q, H0.size ≤ q → A0 q) (hw : LI own index y bytes maxL) (hy : YN y n) (hM : CT G l y (ws_ y bytes maxL none) fr mc ms lo (.ref b :: As) FP H.size Pre Post) (hR : fr + 1 ≤ R.frames ∧ 8 + (maxL + 11) + lo ≤ R.locals) (hf2 : ∀ q, FP q → A0 q) (hp : Pre H) (hst : st0 = As.reverse ++ .ref b :: rest) (hn : As.length = n) (hls : ls.size = nL) (hrest : (rest.map fun v => v.category).sum ≤ 8) (hdg : decode cc pc = .ok (.invokespecial index, 3)) (hf : cells + mc ≤ R.cells ∧ slots + ms ≤ R.slots)
    (kk : ∀ (ov : Option Value) (H1 : Heap) (locs1 : List Loc), Post ov H1 → (∀ q : Nat, q < H.size → ¬ (FP q ∨ H.size ≤ q) → H1[q]? = H[q]?) → va_S A0 H0 H1 locs1 → W p l e R s m args below meth c H1 locs1 (cells + mc) (slots + ms) Q (F0 m (pc + 3) ls (ov.toList ++ rest))) : W p l e R s m args below meth c H locs cells slots Q (F0 m pc ls st0) :=
  rk_backT (va_runI (Ts := lw_all) ⟨hx, hb, hml, hown, hts⟩ hM (cwI n hts (lw_meth hw.2.2.2.1) rfl rfl rfl (hts _ hw.2.2.1) (hts _ hw.1) (hts _ hw.2.1) hw.2.2.2.2 hy hR) ⟨PcK.blind, rk_pre hK ⟨rfl, hp⟩⟩ rfl hn hls hst (lv_room hrest) hdg hf) hS hf2 hA kk
theorem rk_TIN (hx : p.tables.exec = Jvm.exec) (hb : c.code = cc) (hml : c.maxLocals = nL) (hown : s.vm.findClass own = some m.cls) (hts : ∀ w ∈ lw_all, w.before args s = true) (hK : KK G s) (hS : va_S A0 H0 H locs) (hA : ∀ q, H0.size ≤ q → A0 q) (hw : LIN own index y host bytes maxL) (hy : YN y n) (hM : CT G l y (ws_ y bytes maxL none) fr mc ms lo (.ref b :: As) FP H.size Pre Post) (hR : fr + 1 ≤ R.frames ∧ 8 + (maxL + 11) + lo ≤ R.locals) (hf2 : ∀ q, FP q → A0 q) (hp : Pre H) (hst : st0 = As.reverse ++ .ref b :: rest) (hn : As.length = n) (hls : ls.size = nL) (hrest : (rest.map fun v => v.category).sum ≤ 8) (hdg : decode cc pc = .ok (.invokespecial index, 3)) (hf : cells + mc ≤ R.cells ∧ slots + ms ≤ R.slots)
    (kk : ∀ (ov : Option Value) (H1 : Heap) (locs1 : List Loc), Post ov H1 → (∀ q : Nat, q < H.size → ¬ (FP q ∨ H.size ≤ q) → H1[q]? = H[q]?) → va_S A0 H0 H1 locs1 → W p l e R s m args below meth c H1 locs1 (cells + mc) (slots + ms) Q (F0 m (pc + 3) ls (ov.toList ++ rest))) : W p l e R s m args below meth c H locs cells slots Q (F0 m pc ls st0) :=
  rk_backT (va_runIN (Ts := lw_all) ⟨hx, hb, hml, hown, hts⟩ hM ⟨rk_cnB hts hK hw.1 hw.2.2.1 hw.2.2.2.1 hy hR, hw.2.2.2.2, hts _ hw.2.1⟩ ⟨PcK.blind, rk_pre hK ⟨rfl, hp⟩⟩ rfl hn hls hst (lv_room hrest) hdg hf) hS hf2 hA kk
/-- the receiver of a call: an object of a region -/
theorem rk_recv {a n q ci : Nat} {sh : Shp} {v : Mem} {fs : List Value} {T : u_T} {N : Nat} (hK : KK G s) (hW : rg G a n sh v H) (o : Nat) (ho : o < n) (hq : q = a + o) (hc : vwCl[ci]? = some (C, T, N)) (he : sh o a (v.1 o) (v.2.1 o) (v.2.2 o) = some (.inr (ci, fs))) : RcV s H C q :=
  va_recv hK.1 (rg_P hW ho hq he) hc (q0 := 0) rfl
/-! ends of methods -/
theorem rk_iretP {x : Int32} (hx : p.tables.exec = Jvm.exec) (hb : c.code = cc) (hr : meth.sig.returnType = some .int) (hlk : meth.locks = false) (hov : ov = some (.int x)) (hdg : decode cc pc = .ok (.ireturn, 1)) : W p l e R s m args below meth c s.heap [] 0 0 (MQ below (QcP ov) args s 0 0 (fun _ => False)) (F0 m pc ls [.int x]) :=
  W.iret hx hb hr (fun t ht _ => ⟨by rw [hov], ht⟩) (fun _ h => absurd h List.not_mem_nil) hdg hlk
theorem rk_zretP {x : Int32} (hx : p.tables.exec = Jvm.exec) (hb : c.code = cc) (hr : meth.sig.returnType = some .boolean) (hlk : meth.locks = false) (hz : z01 x = true) (hov : ov = some (.int x)) (hdg : decode cc pc = .ok (.ireturn, 1)) : W p l e R s m args below meth c s.heap [] 0 0 (MQ below (QcP ov) args s 0 0 (fun _ => False)) (F0 m pc ls [.int x]) :=
  W.zret hx hb hr (z01_nar hz) (fun t ht _ => ⟨by rw [hov], ht⟩) (fun _ h => absurd h List.not_mem_nil) hdg hlk
theorem rk_lretP {x : Int64} (hx : p.tables.exec = Jvm.exec) (hb : c.code = cc) (hr : meth.sig.returnType = some .long) (hlk : meth.locks = false) (hov : ov = some (.long x)) (hdg : decode cc pc = .ok (.lreturn, 1)) : W p l e R s m args below meth c s.heap [] 0 0 (MQ below (QcP ov) args s 0 0 (fun _ => False)) (F0 m pc ls [.long x]) :=
  W.lret hx hb hr (fun t ht _ => ⟨by rw [hov], ht⟩) (fun _ h => absurd h List.not_mem_nil) hdg hlk
theorem rk_vretP (hx : p.tables.exec = Jvm.exec) (hb : c.code = cc) (hr : meth.sig.returnType = none) (hlk : meth.locks = false) (hov : ov = none) (hdg : decode cc pc = .ok (.return_, 1)) : W p l e R s m args below meth c s.heap [] 0 0 (MQ below (QcP ov) args s 0 0 (fun _ => False)) (F0 m pc ls []) :=
  W.vret hx hb hr (fun t ht _ => ⟨by rw [hov], ht⟩) (fun _ h => absurd h List.not_mem_nil) hdg hlk
theorem rk_iret {x : Int32} {A : Nat → Prop} (hx : p.tables.exec = Jvm.exec) (hb : c.code = cc) (hr : meth.sig.returnType = some .int) (hlk : meth.locks = false) (hS : va_S A s.heap H locs) (hP : Post (some (.int x)) H) (hdg : decode cc pc = .ok (.ireturn, 1)) : W p l e R s m args below meth c H locs cells slots (MQ below (QcT A Post) args s cells slots A) (F0 m pc ls [.int x]) :=
  W.iret hx hb hr (fun t ht _ => ⟨⟨_, rfl, by rw [ht]; exact hP⟩, hS.F ht⟩) hS.2.2 hdg hlk
theorem rk_zret {x : Int32} {A : Nat → Prop} (hx : p.tables.exec = Jvm.exec) (hb : c.code = cc) (hr : meth.sig.returnType = some .boolean) (hlk : meth.locks = false) (hz : z01 x = true) (hS : va_S A s.heap H locs) (hP : Post (some (.int x)) H) (hdg : decode cc pc = .ok (.ireturn, 1)) : W p l e R s m args below meth c H locs cells slots (MQ below (QcT A Post) args s cells slots A) (F0 m pc ls [.int x]) :=
  W.zret hx hb hr (z01_nar hz) (fun t ht _ => ⟨⟨_, rfl, by rw [ht]; exact hP⟩, hS.F ht⟩) hS.2.2 hdg hlk
theorem rk_lret {x : Int64} {A : Nat → Prop} (hx : p.tables.exec = Jvm.exec) (hb : c.code = cc) (hr : meth.sig.returnType = some .long) (hlk : meth.locks = false) (hS : va_S A s.heap H locs) (hP : Post (some (.long x)) H) (hdg : decode cc pc = .ok (.lreturn, 1)) : W p l e R s m args below meth c H locs cells slots (MQ below (QcT A Post) args s cells slots A) (F0 m pc ls [.long x]) :=
  W.lret hx hb hr (fun t ht _ => ⟨⟨_, rfl, by rw [ht]; exact hP⟩, hS.F ht⟩) hS.2.2 hdg hlk
theorem rk_vret {A : Nat → Prop} (hx : p.tables.exec = Jvm.exec) (hb : c.code = cc) (hr : meth.sig.returnType = none) (hlk : meth.locks = false) (hS : va_S A s.heap H locs) (hP : Post none H) (hdg : decode cc pc = .ok (.return_, 1)) : W p l e R s m args below meth c H locs cells slots (MQ below (QcT A Post) args s cells slots A) (F0 m pc ls []) :=
  W.vret hx hb hr (fun t ht _ => ⟨⟨_, rfl, by rw [ht]; exact hP⟩, hS.F ht⟩) hS.2.2 hdg hlk
theorem rk_aret {x : Nat} {A : Nat → Prop} {rt : FieldType} (hx : p.tables.exec = Jvm.exec) (hb : c.code = cc) (hr : meth.sig.returnType = some rt) (hrt : (∃ n, rt = .object n) ∨ ∃ t, rt = .array t) (hlk : meth.locks = false) (hS : va_S A s.heap H locs) (hP : Post (some (.ref x)) H) (hdg : decode cc pc = .ok (.areturn, 1)) : W p l e R s m args below meth c H locs cells slots (MQ below (QcT A Post) args s cells slots A) (F0 m pc ls [.ref x]) :=
  W.aret hx hb hr hrt (Or.inr ⟨_, rfl⟩) (fun t ht _ => ⟨⟨_, rfl, by rw [ht]; exact hP⟩, hS.F ht⟩) hS.2.2 hdg hlk
end CALLS
/-! loops of the mirror, by the number of their variables -/
def lm {β : Type} (x : Mem) (k : Mem → Option β) : Option β := k x
theorem lm_some {β : Type} {x : Mem} {k : Mem → Option β} {r : β} (h : lm x k = some r) : ∃ v, x = v ∧ k v = some r := ⟨x, rfl, h⟩
/-- what holds all through a method -/
def Cx (G : Gv) (p : Program) (s : State) (m : MethodId) (args : Array Value) (meth : Method) (c : Code) (own : String) (cc : ByteArray) (nL : Nat) (ret : Option FieldType) : Prop := p.tables.exec = Jvm.exec ∧ c.code = cc ∧ meth.sig.returnType = ret ∧ meth.locks = false ∧ c.maxLocals = nL ∧ s.vm.findClass own = some m.cls ∧ (∀ w ∈ lw_all, w.before args s = true) ∧ KK G s
theorem FA_sz {FP : Nat → Prop} {sz : Nat} {H : Heap} (h : H.size = sz) : ∀ q, H.size ≤ q → FA FP sz q := fun q z => Or.inr (by omega)
theorem rg_take {G : Gv} {a n n' : Nat} {sh : Shp} {v : Mem} {H : Heap} (h : rg G a n sh v H) (hn : n' ≤ n) : rg G a n' sh v H := fun o ho e he => h o (Nat.lt_of_lt_of_le ho hn) e he
theorem ii_neg (n : Nat) : Int32.ofInt (-(n : Int)) = -(Int32.ofNat n) := by
  apply Int32.toBitVec_inj.mp
  simp
def lq1 {A0 β : Type} (f : (A0 → Option β) → A0 → Option β) : Nat → A0 → Option β
  | 0, _ => none
  | n + 1, a0 => f (lq1 f n) a0
def lq2 {A0 A1 β : Type} (f : (A0 → A1 → Option β) → A0 → A1 → Option β) : Nat → A0 → A1 → Option β
  | 0, _, _ => none
  | n + 1, a0, a1 => f (lq2 f n) a0 a1
def lq3 {A0 A1 A2 β : Type} (f : (A0 → A1 → A2 → Option β) → A0 → A1 → A2 → Option β) : Nat → A0 → A1 → A2 → Option β
  | 0, _, _, _ => none
  | n + 1, a0, a1, a2 => f (lq3 f n) a0 a1 a2
def lq4 {A0 A1 A2 A3 β : Type} (f : (A0 → A1 → A2 → A3 → Option β) → A0 → A1 → A2 → A3 → Option β) : Nat → A0 → A1 → A2 → A3 → Option β
  | 0, _, _, _, _ => none
  | n + 1, a0, a1, a2, a3 => f (lq4 f n) a0 a1 a2 a3
def lq5 {A0 A1 A2 A3 A4 β : Type} (f : (A0 → A1 → A2 → A3 → A4 → Option β) → A0 → A1 → A2 → A3 → A4 → Option β) : Nat → A0 → A1 → A2 → A3 → A4 → Option β
  | 0, _, _, _, _, _ => none
  | n + 1, a0, a1, a2, a3, a4 => f (lq5 f n) a0 a1 a2 a3 a4
def lq6 {A0 A1 A2 A3 A4 A5 β : Type} (f : (A0 → A1 → A2 → A3 → A4 → A5 → Option β) → A0 → A1 → A2 → A3 → A4 → A5 → Option β) : Nat → A0 → A1 → A2 → A3 → A4 → A5 → Option β
  | 0, _, _, _, _, _, _ => none
  | n + 1, a0, a1, a2, a3, a4, a5 => f (lq6 f n) a0 a1 a2 a3 a4 a5
def lq7 {A0 A1 A2 A3 A4 A5 A6 β : Type} (f : (A0 → A1 → A2 → A3 → A4 → A5 → A6 → Option β) → A0 → A1 → A2 → A3 → A4 → A5 → A6 → Option β) : Nat → A0 → A1 → A2 → A3 → A4 → A5 → A6 → Option β
  | 0, _, _, _, _, _, _, _ => none
  | n + 1, a0, a1, a2, a3, a4, a5, a6 => f (lq7 f n) a0 a1 a2 a3 a4 a5 a6
def lq8 {A0 A1 A2 A3 A4 A5 A6 A7 β : Type} (f : (A0 → A1 → A2 → A3 → A4 → A5 → A6 → A7 → Option β) → A0 → A1 → A2 → A3 → A4 → A5 → A6 → A7 → Option β) : Nat → A0 → A1 → A2 → A3 → A4 → A5 → A6 → A7 → Option β
  | 0, _, _, _, _, _, _, _, _ => none
  | n + 1, a0, a1, a2, a3, a4, a5, a6, a7 => f (lq8 f n) a0 a1 a2 a3 a4 a5 a6 a7
def lq9 {A0 A1 A2 A3 A4 A5 A6 A7 A8 β : Type} (f : (A0 → A1 → A2 → A3 → A4 → A5 → A6 → A7 → A8 → Option β) → A0 → A1 → A2 → A3 → A4 → A5 → A6 → A7 → A8 → Option β) : Nat → A0 → A1 → A2 → A3 → A4 → A5 → A6 → A7 → A8 → Option β
  | 0, _, _, _, _, _, _, _, _, _ => none
  | n + 1, a0, a1, a2, a3, a4, a5, a6, a7, a8 => f (lq9 f n) a0 a1 a2 a3 a4 a5 a6 a7 a8
def lq10 {A0 A1 A2 A3 A4 A5 A6 A7 A8 A9 β : Type} (f : (A0 → A1 → A2 → A3 → A4 → A5 → A6 → A7 → A8 → A9 → Option β) → A0 → A1 → A2 → A3 → A4 → A5 → A6 → A7 → A8 → A9 → Option β) : Nat → A0 → A1 → A2 → A3 → A4 → A5 → A6 → A7 → A8 → A9 → Option β
  | 0, _, _, _, _, _, _, _, _, _, _ => none
  | n + 1, a0, a1, a2, a3, a4, a5, a6, a7, a8, a9 => f (lq10 f n) a0 a1 a2 a3 a4 a5 a6 a7 a8 a9
def lq11 {A0 A1 A2 A3 A4 A5 A6 A7 A8 A9 A10 β : Type} (f : (A0 → A1 → A2 → A3 → A4 → A5 → A6 → A7 → A8 → A9 → A10 → Option β) → A0 → A1 → A2 → A3 → A4 → A5 → A6 → A7 → A8 → A9 → A10 → Option β) : Nat → A0 → A1 → A2 → A3 → A4 → A5 → A6 → A7 → A8 → A9 → A10 → Option β
  | 0, _, _, _, _, _, _, _, _, _, _, _ => none
  | n + 1, a0, a1, a2, a3, a4, a5, a6, a7, a8, a9, a10 => f (lq11 f n) a0 a1 a2 a3 a4 a5 a6 a7 a8 a9 a10
def lq12 {A0 A1 A2 A3 A4 A5 A6 A7 A8 A9 A10 A11 β : Type} (f : (A0 → A1 → A2 → A3 → A4 → A5 → A6 → A7 → A8 → A9 → A10 → A11 → Option β) → A0 → A1 → A2 → A3 → A4 → A5 → A6 → A7 → A8 → A9 → A10 → A11 → Option β) : Nat → A0 → A1 → A2 → A3 → A4 → A5 → A6 → A7 → A8 → A9 → A10 → A11 → Option β
  | 0, _, _, _, _, _, _, _, _, _, _, _, _ => none
  | n + 1, a0, a1, a2, a3, a4, a5, a6, a7, a8, a9, a10, a11 => f (lq12 f n) a0 a1 a2 a3 a4 a5 a6 a7 a8 a9 a10 a11
def lq13 {A0 A1 A2 A3 A4 A5 A6 A7 A8 A9 A10 A11 A12 β : Type} (f : (A0 → A1 → A2 → A3 → A4 → A5 → A6 → A7 → A8 → A9 → A10 → A11 → A12 → Option β) → A0 → A1 → A2 → A3 → A4 → A5 → A6 → A7 → A8 → A9 → A10 → A11 → A12 → Option β) : Nat → A0 → A1 → A2 → A3 → A4 → A5 → A6 → A7 → A8 → A9 → A10 → A11 → A12 → Option β
  | 0, _, _, _, _, _, _, _, _, _, _, _, _, _ => none
  | n + 1, a0, a1, a2, a3, a4, a5, a6, a7, a8, a9, a10, a11, a12 => f (lq13 f n) a0 a1 a2 a3 a4 a5 a6 a7 a8 a9 a10 a11 a12
def lq14 {A0 A1 A2 A3 A4 A5 A6 A7 A8 A9 A10 A11 A12 A13 β : Type} (f : (A0 → A1 → A2 → A3 → A4 → A5 → A6 → A7 → A8 → A9 → A10 → A11 → A12 → A13 → Option β) → A0 → A1 → A2 → A3 → A4 → A5 → A6 → A7 → A8 → A9 → A10 → A11 → A12 → A13 → Option β) : Nat → A0 → A1 → A2 → A3 → A4 → A5 → A6 → A7 → A8 → A9 → A10 → A11 → A12 → A13 → Option β
  | 0, _, _, _, _, _, _, _, _, _, _, _, _, _, _ => none
  | n + 1, a0, a1, a2, a3, a4, a5, a6, a7, a8, a9, a10, a11, a12, a13 => f (lq14 f n) a0 a1 a2 a3 a4 a5 a6 a7 a8 a9 a10 a11 a12 a13
theorem rs1 {α : Type} {a b : α} (h : some a = some b) : a = b := Option.some.inj h
theorem rs2 {α β : Type} {a c : α} {b d : β} (h : some (a, b) = some (c, d)) : a = c ∧ b = d := Prod.mk.inj (Option.some.inj h)
theorem rs3 {α β γ : Type} {a c : α} {b d : β} {x y : γ} (h : some (a, b, x) = some (c, d, y)) : a = c ∧ b = d ∧ x = y := ⟨(rs2 h).1, Prod.mk.inj (rs2 h).2⟩
theorem lq1_0 {A0 β : Type} {f : (A0 → Option β) → A0 → Option β} {a0 : A0} {r : β} (h : lq1 f 0 a0 = some r) : False := nomatch (show (none : Option β) = some r from h)
theorem lq1_s {A0 β : Type} {f : (A0 → Option β) → A0 → Option β} {n : Nat} {a0 : A0} {r : β} (h : lq1 f (n + 1) a0 = some r) : f (lq1 f n) a0 = some r := h
theorem lq2_0 {A0 A1 β : Type} {f : (A0 → A1 → Option β) → A0 → A1 → Option β} {a0 : A0} {a1 : A1} {r : β} (h : lq2 f 0 a0 a1 = some r) : False := nomatch (show (none : Option β) = some r from h)
theorem lq2_s {A0 A1 β : Type} {f : (A0 → A1 → Option β) → A0 → A1 → Option β} {n : Nat} {a0 : A0} {a1 : A1} {r : β} (h : lq2 f (n + 1) a0 a1 = some r) : f (lq2 f n) a0 a1 = some r := h
theorem lq3_0 {A0 A1 A2 β : Type} {f : (A0 → A1 → A2 → Option β) → A0 → A1 → A2 → Option β} {a0 : A0} {a1 : A1} {a2 : A2} {r : β} (h : lq3 f 0 a0 a1 a2 = some r) : False := nomatch (show (none : Option β) = some r from h)
theorem lq3_s {A0 A1 A2 β : Type} {f : (A0 → A1 → A2 → Option β) → A0 → A1 → A2 → Option β} {n : Nat} {a0 : A0} {a1 : A1} {a2 : A2} {r : β} (h : lq3 f (n + 1) a0 a1 a2 = some r) : f (lq3 f n) a0 a1 a2 = some r := h
theorem lq4_0 {A0 A1 A2 A3 β : Type} {f : (A0 → A1 → A2 → A3 → Option β) → A0 → A1 → A2 → A3 → Option β} {a0 : A0} {a1 : A1} {a2 : A2} {a3 : A3} {r : β} (h : lq4 f 0 a0 a1 a2 a3 = some r) : False := nomatch (show (none : Option β) = some r from h)
theorem lq4_s {A0 A1 A2 A3 β : Type} {f : (A0 → A1 → A2 → A3 → Option β) → A0 → A1 → A2 → A3 → Option β} {n : Nat} {a0 : A0} {a1 : A1} {a2 : A2} {a3 : A3} {r : β} (h : lq4 f (n + 1) a0 a1 a2 a3 = some r) : f (lq4 f n) a0 a1 a2 a3 = some r := h
theorem lq5_0 {A0 A1 A2 A3 A4 β : Type} {f : (A0 → A1 → A2 → A3 → A4 → Option β) → A0 → A1 → A2 → A3 → A4 → Option β} {a0 : A0} {a1 : A1} {a2 : A2} {a3 : A3} {a4 : A4} {r : β} (h : lq5 f 0 a0 a1 a2 a3 a4 = some r) : False := nomatch (show (none : Option β) = some r from h)
theorem lq5_s {A0 A1 A2 A3 A4 β : Type} {f : (A0 → A1 → A2 → A3 → A4 → Option β) → A0 → A1 → A2 → A3 → A4 → Option β} {n : Nat} {a0 : A0} {a1 : A1} {a2 : A2} {a3 : A3} {a4 : A4} {r : β} (h : lq5 f (n + 1) a0 a1 a2 a3 a4 = some r) : f (lq5 f n) a0 a1 a2 a3 a4 = some r := h
theorem lq6_0 {A0 A1 A2 A3 A4 A5 β : Type} {f : (A0 → A1 → A2 → A3 → A4 → A5 → Option β) → A0 → A1 → A2 → A3 → A4 → A5 → Option β} {a0 : A0} {a1 : A1} {a2 : A2} {a3 : A3} {a4 : A4} {a5 : A5} {r : β} (h : lq6 f 0 a0 a1 a2 a3 a4 a5 = some r) : False := nomatch (show (none : Option β) = some r from h)
theorem lq6_s {A0 A1 A2 A3 A4 A5 β : Type} {f : (A0 → A1 → A2 → A3 → A4 → A5 → Option β) → A0 → A1 → A2 → A3 → A4 → A5 → Option β} {n : Nat} {a0 : A0} {a1 : A1} {a2 : A2} {a3 : A3} {a4 : A4} {a5 : A5} {r : β} (h : lq6 f (n + 1) a0 a1 a2 a3 a4 a5 = some r) : f (lq6 f n) a0 a1 a2 a3 a4 a5 = some r := h
theorem lq7_0 {A0 A1 A2 A3 A4 A5 A6 β : Type} {f : (A0 → A1 → A2 → A3 → A4 → A5 → A6 → Option β) → A0 → A1 → A2 → A3 → A4 → A5 → A6 → Option β} {a0 : A0} {a1 : A1} {a2 : A2} {a3 : A3} {a4 : A4} {a5 : A5} {a6 : A6} {r : β} (h : lq7 f 0 a0 a1 a2 a3 a4 a5 a6 = some r) : False := nomatch (show (none : Option β) = some r from h)
theorem lq7_s {A0 A1 A2 A3 A4 A5 A6 β : Type} {f : (A0 → A1 → A2 → A3 → A4 → A5 → A6 → Option β) → A0 → A1 → A2 → A3 → A4 → A5 → A6 → Option β} {n : Nat} {a0 : A0} {a1 : A1} {a2 : A2} {a3 : A3} {a4 : A4} {a5 : A5} {a6 : A6} {r : β} (h : lq7 f (n + 1) a0 a1 a2 a3 a4 a5 a6 = some r) : f (lq7 f n) a0 a1 a2 a3 a4 a5 a6 = some r := h
theorem lq8_0 {A0 A1 A2 A3 A4 A5 A6 A7 β : Type} {f : (A0 → A1 → A2 → A3 → A4 → A5 → A6 → A7 → Option β) → A0 → A1 → A2 → A3 → A4 → A5 → A6 → A7 → Option β} {a0 : A0} {a1 : A1} {a2 : A2} {a3 : A3} {a4 : A4} {a5 : A5} {a6 : A6} {a7 : A7} {r : β} (h : lq8 f 0 a0 a1 a2 a3 a4 a5 a6 a7 = some r) : False := nomatch (show (none : Option β) = some r from h)
theorem lq8_s {A0 A1 A2 A3 A4 A5 A6 A7 β : Type} {f : (A0 → A1 → A2 → A3 → A4 → A5 → A6 → A7 → Option β) → A0 → A1 → A2 → A3 → A4 → A5 → A6 → A7 → Option β} {n : Nat} {a0 : A0} {a1 : A1} {a2 : A2} {a3 : A3} {a4 : A4} {a5 : A5} {a6 : A6} {a7 : A7} {r : β} (h : lq8 f (n + 1) a0 a1 a2 a3 a4 a5 a6 a7 = some r) : f (lq8 f n) a0 a1 a2 a3 a4 a5 a6 a7 = some r := h
theorem lq9_0 {A0 A1 A2 A3 A4 A5 A6 A7 A8 β : Type} {f : (A0 → A1 → A2 → A3 → A4 → A5 → A6 → A7 → A8 → Option β) → A0 → A1 → A2 → A3 → A4 → A5 → A6 → A7 → A8 → Option β} {a0 : A0} {a1 : A1} {a2 : A2} {a3 : A3} {a4 : A4} {a5 : A5} {a6 : A6} {a7 : A7} {a8 : A8} {r : β} (h : lq9 f 0 a0 a1 a2 a3 a4 a5 a6 a7 a8 = some r) : False := nomatch (show (none : Option β) = some r from h)
theorem lq9_s {A0 A1 A2 A3 A4 A5 A6 A7 A8 β : Type} {f : (A0 → A1 → A2 → A3 → A4 → A5 → A6 → A7 → A8 → Option β) → A0 → A1 → A2 → A3 → A4 → A5 → A6 → A7 → A8 → Option β} {n : Nat} {a0 : A0} {a1 : A1} {a2 : A2} {a3 : A3} {a4 : A4} {a5 : A5} {a6 : A6} {a7 : A7} {a8 : A8} {r : β} (h : lq9 f (n + 1) a0 a1 a2 a3 a4 a5 a6 a7 a8 = some r) : f (lq9 f n) a0 a1 a2 a3 a4 a5 a6 a7 a8 = some r := h
theorem lq10_0 {A0 A1 A2 A3 A4 A5 A6 A7 A8 A9 β : Type} {f : (A0 → A1 → A2 → A3 → A4 → A5 → A6 → A7 → A8 → A9 → Option β) → A0 → A1 → A2 → A3 → A4 → A5 → A6 → A7 → A8 → A9 → Option β} {a0 : A0} {a1 : A1} {a2 : A2} {a3 : A3} {a4 : A4} {a5 : A5} {a6 : A6} {a7 : A7} {a8 : A8} {a9 : A9} {r : β} (h : lq10 f 0 a0 a1 a2 a3 a4 a5 a6 a7 a8 a9 = some r) : False := nomatch (show (none : Option β) = some r from h)
theorem lq10_s {A0 A1 A2 A3 A4 A5 A6 A7 A8 A9 β : Type} {f : (A0 → A1 → A2 → A3 → A4 → A5 → A6 → A7 → A8 → A9 → Option β) → A0 → A1 → A2 → A3 → A4 → A5 → A6 → A7 → A8 → A9 → Option β} {n : Nat} {a0 : A0} {a1 : A1} {a2 : A2} {a3 : A3} {a4 : A4} {a5 : A5} {a6 : A6} {a7 : A7} {a8 : A8} {a9 : A9} {r : β} (h : lq10 f (n + 1) a0 a1 a2 a3 a4 a5 a6 a7 a8 a9 = some r) : f (lq10 f n) a0 a1 a2 a3 a4 a5 a6 a7 a8 a9 = some r := h
theorem lq11_0 {A0 A1 A2 A3 A4 A5 A6 A7 A8 A9 A10 β : Type} {f : (A0 → A1 → A2 → A3 → A4 → A5 → A6 → A7 → A8 → A9 → A10 → Option β) → A0 → A1 → A2 → A3 → A4 → A5 → A6 → A7 → A8 → A9 → A10 → Option β} {a0 : A0} {a1 : A1} {a2 : A2} {a3 : A3} {a4 : A4} {a5 : A5} {a6 : A6} {a7 : A7} {a8 : A8} {a9 : A9} {a10 : A10} {r : β} (h : lq11 f 0 a0 a1 a2 a3 a4 a5 a6 a7 a8 a9 a10 = some r) : False := nomatch (show (none : Option β) = some r from h)
theorem lq11_s {A0 A1 A2 A3 A4 A5 A6 A7 A8 A9 A10 β : Type} {f : (A0 → A1 → A2 → A3 → A4 → A5 → A6 → A7 → A8 → A9 → A10 → Option β) → A0 → A1 → A2 → A3 → A4 → A5 → A6 → A7 → A8 → A9 → A10 → Option β} {n : Nat} {a0 : A0} {a1 : A1} {a2 : A2} {a3 : A3} {a4 : A4} {a5 : A5} {a6 : A6} {a7 : A7} {a8 : A8} {a9 : A9} {a10 : A10} {r : β} (h : lq11 f (n + 1) a0 a1 a2 a3 a4 a5 a6 a7 a8 a9 a10 = some r) : f (lq11 f n) a0 a1 a2 a3 a4 a5 a6 a7 a8 a9 a10 = some r := h
theorem lq12_0 {A0 A1 A2 A3 A4 A5 A6 A7 A8 A9 A10 A11 β : Type} {f : (A0 → A1 → A2 → A3 → A4 → A5 → A6 → A7 → A8 → A9 → A10 → A11 → Option β) → A0 → A1 → A2 → A3 → A4 → A5 → A6 → A7 → A8 → A9 → A10 → A11 → Option β} {a0 : A0} {a1 : A1} {a2 : A2} {a3 : A3} {a4 : A4} {a5 : A5} {a6 : A6} {a7 : A7} {a8 : A8} {a9 : A9} {a10 : A10} {a11 : A11} {r : β} (h : lq12 f 0 a0 a1 a2 a3 a4 a5 a6 a7 a8 a9 a10 a11 = some r) : False := nomatch (show (none : Option β) = some r from h)
theorem lq12_s {A0 A1 A2 A3 A4 A5 A6 A7 A8 A9 A10 A11 β : Type} {f : (A0 → A1 → A2 → A3 → A4 → A5 → A6 → A7 → A8 → A9 → A10 → A11 → Option β) → A0 → A1 → A2 → A3 → A4 → A5 → A6 → A7 → A8 → A9 → A10 → A11 → Option β} {n : Nat} {a0 : A0} {a1 : A1} {a2 : A2} {a3 : A3} {a4 : A4} {a5 : A5} {a6 : A6} {a7 : A7} {a8 : A8} {a9 : A9} {a10 : A10} {a11 : A11} {r : β} (h : lq12 f (n + 1) a0 a1 a2 a3 a4 a5 a6 a7 a8 a9 a10 a11 = some r) : f (lq12 f n) a0 a1 a2 a3 a4 a5 a6 a7 a8 a9 a10 a11 = some r := h
theorem lq13_0 {A0 A1 A2 A3 A4 A5 A6 A7 A8 A9 A10 A11 A12 β : Type} {f : (A0 → A1 → A2 → A3 → A4 → A5 → A6 → A7 → A8 → A9 → A10 → A11 → A12 → Option β) → A0 → A1 → A2 → A3 → A4 → A5 → A6 → A7 → A8 → A9 → A10 → A11 → A12 → Option β} {a0 : A0} {a1 : A1} {a2 : A2} {a3 : A3} {a4 : A4} {a5 : A5} {a6 : A6} {a7 : A7} {a8 : A8} {a9 : A9} {a10 : A10} {a11 : A11} {a12 : A12} {r : β} (h : lq13 f 0 a0 a1 a2 a3 a4 a5 a6 a7 a8 a9 a10 a11 a12 = some r) : False := nomatch (show (none : Option β) = some r from h)
theorem lq13_s {A0 A1 A2 A3 A4 A5 A6 A7 A8 A9 A10 A11 A12 β : Type} {f : (A0 → A1 → A2 → A3 → A4 → A5 → A6 → A7 → A8 → A9 → A10 → A11 → A12 → Option β) → A0 → A1 → A2 → A3 → A4 → A5 → A6 → A7 → A8 → A9 → A10 → A11 → A12 → Option β} {n : Nat} {a0 : A0} {a1 : A1} {a2 : A2} {a3 : A3} {a4 : A4} {a5 : A5} {a6 : A6} {a7 : A7} {a8 : A8} {a9 : A9} {a10 : A10} {a11 : A11} {a12 : A12} {r : β} (h : lq13 f (n + 1) a0 a1 a2 a3 a4 a5 a6 a7 a8 a9 a10 a11 a12 = some r) : f (lq13 f n) a0 a1 a2 a3 a4 a5 a6 a7 a8 a9 a10 a11 a12 = some r := h
theorem lq14_0 {A0 A1 A2 A3 A4 A5 A6 A7 A8 A9 A10 A11 A12 A13 β : Type} {f : (A0 → A1 → A2 → A3 → A4 → A5 → A6 → A7 → A8 → A9 → A10 → A11 → A12 → A13 → Option β) → A0 → A1 → A2 → A3 → A4 → A5 → A6 → A7 → A8 → A9 → A10 → A11 → A12 → A13 → Option β} {a0 : A0} {a1 : A1} {a2 : A2} {a3 : A3} {a4 : A4} {a5 : A5} {a6 : A6} {a7 : A7} {a8 : A8} {a9 : A9} {a10 : A10} {a11 : A11} {a12 : A12} {a13 : A13} {r : β} (h : lq14 f 0 a0 a1 a2 a3 a4 a5 a6 a7 a8 a9 a10 a11 a12 a13 = some r) : False := nomatch (show (none : Option β) = some r from h)
theorem lq14_s {A0 A1 A2 A3 A4 A5 A6 A7 A8 A9 A10 A11 A12 A13 β : Type} {f : (A0 → A1 → A2 → A3 → A4 → A5 → A6 → A7 → A8 → A9 → A10 → A11 → A12 → A13 → Option β) → A0 → A1 → A2 → A3 → A4 → A5 → A6 → A7 → A8 → A9 → A10 → A11 → A12 → A13 → Option β} {n : Nat} {a0 : A0} {a1 : A1} {a2 : A2} {a3 : A3} {a4 : A4} {a5 : A5} {a6 : A6} {a7 : A7} {a8 : A8} {a9 : A9} {a10 : A10} {a11 : A11} {a12 : A12} {a13 : A13} {r : β} (h : lq14 f (n + 1) a0 a1 a2 a3 a4 a5 a6 a7 a8 a9 a10 a11 a12 a13 = some r) : f (lq14 f n) a0 a1 a2 a3 a4 a5 a6 a7 a8 a9 a10 a11 a12 a13 = some r := h

/-! System.arraycopy between int arrays of two regions -/
theorem cpI_ne {v w : Mem} {o p so d n : Nat} : ∀ o', o' ≠ o → (cpI v o w p so d n).1 o' = v.1 o' ∧ (cpI v o w p so d n).2.1 o' = v.2.1 o' ∧ (cpI v o w p so d n).2.2 o' = v.2.2 o' := fun o' h => ⟨by funext b; simp [cpI, h], rfl, rfl⟩
theorem cpI_eq {v w : Mem} {o p so d n : Nat} : (cpI v o w p so d n).1 o = va_cpy (w.1 p) (v.1 o) so d n := by funext b; simp [cpI, va_cpy]
theorem i32_nn {z : Int32} (hz : ¬ z < 0) : z.toInt = (z.toNatClampNeg : Int) := by
  have hz0 : (0 : Int) ≤ z.toInt := by simpa using Int32.le_iff_toInt_le.mp (Int32.not_lt.mp hz)
  show z.toInt = ((z.toInt.toNat : Nat) : Int)
  omega
section RCP
variable {p : Program} {l : Launch} {e : Env} {R : Room} {s : State} {m : MethodId} {args : Array Value} {below : List Frame} {meth : Method} {c : Code} {H : Heap} {locs : List Loc} {cells slots : Nat} {Q : State → Prop}
variable {cc : ByteArray} {pc : Nat} {ls : Array Slot} {rest : List Value} {G : Gv} {A : Nat → Prop} {H0 : Heap} {own : String} {index a n o q a2 n2 o2 q2 nL : Nat} {sh sh2 : Shp} {v w : Mem}
def LAC (own : String) (index : Nat) : Prop := Cond.methodLink own index arraycopyName ∈ lw_all ∧ Cond.native arraycopyName ∈ lw_all ∧ Cond.static arraycopyName ∈ lw_all ∧ Cond.initialized "java/lang/System" ∈ lw_all
theorem rk_copyi (hx : p.tables.exec = Jvm.exec) (hb : c.code = cc) (hml : c.maxLocals = nL) (hown : s.vm.findClass own = some m.cls) (hts : ∀ w ∈ lw_all, w.before args s = true) (hK : KK G s) (hL : LAC own index) (hW : rg G a n sh v H) (hR : rg G a2 n2 sh2 w H) (hS : va_S A H0 H locs) (o : Nat) (ho : o < n) (hq : q = a + o) (hA : A q) (o2 : Nat) (ho2 : o2 < n2) (hq2 : q2 = a2 + o2)
    {N9 N8 : Nat} (he : ∀ f y z, sh o a f y z = some (.inl (G.2.1 0, N9, .inl f))) (he2 : ∀ f y z, sh2 o2 a2 f y z = some (.inl (G.2.1 0, N8, .inl f))) {sp dp k : Int32} (h1 : ¬ sp < 0) (h2 : ¬ dp < 0) (h3 : ¬ k < 0) (h4 : sp.toNatClampNeg + k.toNatClampNeg ≤ N8) (h5 : dp.toNatClampNeg + k.toNatClampNeg ≤ N9) (hls : ls.size = nL)
    (hframes : 1 ≤ R.frames) (hlocals : (rest.map fun v => v.category).sum + (nativeFrameWords "java/lang/System" "arraycopy" 5 + 11) ≤ R.locals) (hdg : decode cc pc = .ok (.invokestatic index, 3))
    (kk : ∀ (H1 : Heap) (locs1 : List Loc), rg G a n sh (cpI v o w o2 sp.toNatClampNeg dp.toNatClampNeg k.toNatClampNeg) H1 → va_S A H0 H1 locs1 → H1.size = H.size → (∀ z, z ≠ q → H1[z]? = H[z]?) → W p l e R s m args below meth c H1 locs1 cells slots Q (F0 m (pc + 3) ls rest)) : W p l e R s m args below meth c H locs cells slots Q (F0 m pc ls (.int k :: .int dp :: .ref q :: .int sp :: .ref q2 :: rest)) := by
  have hc1 : H[q]? = some (vp_cell (G.2.1 0) (N9, .inl (v.1 o))) := by
    have h := hW o ho _ (he _ _ _)
    rw [← hq] at h
    exact h
  have hc0 : H[q2]? = some (vp_cell (G.2.1 0) (N8, .inl (w.1 o2))) := by
    have h := hR o2 ho2 _ (he2 _ _ _)
    rw [← hq2] at h
    exact h
  intro T hT X
  obtain ⟨-, k0, hk0, cm0, hkk0⟩ := (hK.1.2 0 _ rfl).1 N8 (fun j => .int (w.1 o2 j))
  obtain ⟨-, k1, hk1, cm1, hkk1⟩ := (hK.1.2 0 _ rfl).1 N9 (fun j => .int (v.1 o j))
  obtain ⟨vm', X', step⟩ := X.arraycopy hx hown (hts _ hL.1) (hts _ hL.2.1) (hts _ hL.2.2.1) (hts _ hL.2.2.2) (src := q2) (dst := q) (cs := vp_cell (G.2.1 0) (N8, .inl (w.1 o2))) (cd := vp_cell (G.2.1 0) (N9, .inl (v.1 o))) (srcPos := sp) (destPos := dp) (n := k) (by rw [hT]; exact hc0) (by rw [hT]; exact hc1)
    (fun _ h => by cases h) (fun _ h => by cases h) (fun h => by cases h) (fun h => by cases h) hk0 hk1 hkk0 hkk1 (by rfl) h1 h2 h3
    (by rw [i32_nn h1, i32_nn h3]; show ¬ _ > ((arrV (G.2.1 0) N8 (fun j => .int (w.1 o2 j))).slots.size : Int); rw [arrV_size]; omega)
    (by rw [i32_nn h2, i32_nn h3]; show ¬ _ > ((arrV (G.2.1 0) N9 (fun j => .int (v.1 o j))).slots.size : Int); rw [arrV_size]; omega)
    (fun vm₁ _ i hi => by
      have ev : (vp_cell (G.2.1 0) (N8, .inl (w.1 o2))).slots.getD (sp.toNatClampNeg + i) .null = .int (w.1 o2 (sp.toNatClampNeg + i)) := by
        show (arrV (G.2.1 0) N8 (fun j => .int (w.1 o2 j))).slots.getD _ _ = _
        rw [Array.getD_eq_getD_getElem?, arrV_read _ _ (by omega)]
        rfl
      rw [ev]
      exact ⟨rfl, trivial⟩)
    (g := F0 m pc ls (.int k :: .int dp :: .ref q :: .int sp :: .ref q2 :: rest)) rfl (by rw [hml]; exact hls) (rest := rest) rfl (by rw [hb]; exact hdg) hframes (by show 2 * 0 + _ + _ ≤ _; omega)
  have e1 : copied (vp_cell (G.2.1 0) (N8, .inl (w.1 o2))) (vp_cell (G.2.1 0) (N9, .inl (v.1 o))) sp dp k = vp_cell (G.2.1 0) (N9, .inl (va_cpy (w.1 o2) (v.1 o) sp.toNatClampNeg dp.toNatClampNeg k.toNatClampNeg)) := va_copied (fun z => .int z) _ _ _ _ h4
  rw [e1] at X' step
  have hl : q < H.size := (Array.getElem?_eq_some_iff.mp hc1).1
  have hheap : ((T.setVm vm').setCell q (vp_cell (G.2.1 0) (N9, .inl (va_cpy (w.1 o2) (v.1 o) sp.toNatClampNeg dp.toNatClampNeg k.toNatClampNeg)))).heap = H.setIfInBounds q (vp_cell (G.2.1 0) (N9, .inl (va_cpy (w.1 o2) (v.1 o) sp.toNatClampNeg dp.toNatClampNeg k.toNatClampNeg))) := by rw [← hT]; rfl
  have oq : ∀ z : Nat, z ≠ q → (H.setIfInBounds q (vp_cell (G.2.1 0) (N9, .inl (va_cpy (w.1 o2) (v.1 o) sp.toNatClampNeg dp.toNatClampNeg k.toNatClampNeg))))[z]? = H[z]? := fun z hz => by simp [Array.getElem?_setIfInBounds, Ne.symm hz]
  obtain ⟨t, a1, b1⟩ := kk _ _ (rg_upd hW hq oq cpI_ne fun y hy => by
      rw [he, cpI_eq] at hy
      cases hy
      show (H.setIfInBounds q _)[q]? = some _
      simp [Array.getElem?_setIfInBounds, hl]) ⟨by simp; exact hS.1, fun z g1 g2 => by
      rw [oq z (fun e => g2 (by rw [e]; exact hA))]
      exact hS.2.1 z g1 g2, fun z hz => by
      rcases List.mem_append.mp hz with h | h
      · exact hS.2.2 z h
      · obtain ⟨y, -, hy⟩ := List.mem_map.mp h
        rw [← hy]
        exact hA⟩ (by simp) oq _ hheap X'
  exact ⟨t, step t a1, b1⟩
end RCP
