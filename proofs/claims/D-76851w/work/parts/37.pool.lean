/-! THE POOL: cells that come and go (collections, their entries, rows of tapes), by their addresses. A cell's ints at 99 tell its kind, at 98 an array's length. -/
set_option maxRecDepth 100000
def kd (PL : Nat → Bool) (v : Mem) (o : Nat) (k : Int32) : Bool := PL o && decide (gI v o 99 = k)
def ka (PL : Nat → Bool) (v : Mem) (o : Nat) (k : Int32) : Bool := kd PL v o k && decide ((gI v o 98).toNatClampNeg ≤ 90)
def shP (PL : Nat → Bool) (dA : Nat → ClassId) : Shp := fun o _ x y z => if PL o = true then
    (if x 99 = 5 then some (.inr (5, [])) else
    if x 99 = 6 then some (.inr (6, [va_rf (z 0)])) else
    if x 99 = 14 then some (.inr (14, [.int (x 0), .int (x 1)])) else
    if x 99 = 15 then some (.inr (15, [.int (x 0)])) else
    if x 99 = 16 then some (.inr (16, [va_rf (z 0), va_rf (z 1), va_rf (z 2), va_rf (z 3), .int (x 4), .int (x 5), va_rf (z 6), va_rf (z 7), va_rf (z 8)])) else
    if x 99 = 17 then some (.inr (17, [va_rf (z 0), .int (x 1), va_rf (z 2), .int (x 3)])) else
    if x 99 = 18 then some (.inr (18, [va_rf (z 0), va_rf (z 1), va_rf (z 2), va_rf (z 3), va_rf (z 4), .int (x 5)])) else
    if x 99 = 19 then some (.inr (19, [va_rf (z 0)])) else
    if x 99 = 20 then some (.inr (20, [va_rf (z 0), va_rf (z 1), .int (x 2), va_rf (z 3)])) else
    if x 99 = 32 then some (.inl (dA 0, (x 98).toNatClampNeg, .inl x)) else
    if x 99 = 33 then some (.inl (dA 1, (x 98).toNatClampNeg, .inr (.inl y))) else
    if x 99 = 34 then some (.inl (dA 2, (x 98).toNatClampNeg, .inl x)) else
    if x 99 = 35 then some (.inl (dA 3, (x 98).toNatClampNeg, .inl x)) else
    if x 99 = 36 then some (.inl (dA 4, (x 98).toNatClampNeg, .inl x)) else
    if x 99 = 44 then some (.inl (dA 12, (x 98).toNatClampNeg, .inr (.inr (.inr (.inr z))))) else
    none) else none
theorem shP_5 {PL : Nat → Bool} {dA : Nat → ClassId} {o a : Nat} {x : Nat → Int32} {y : Nat → Int64} {z : Nat → Option Nat} (h1 : PL o = true) (h2 : x 99 = 5) : shP PL dA o a x y z = some (.inr (5, [])) := by
  unfold shP
  rw [if_pos h1, if_pos h2]
theorem shP_6 {PL : Nat → Bool} {dA : Nat → ClassId} {o a : Nat} {x : Nat → Int32} {y : Nat → Int64} {z : Nat → Option Nat} (h1 : PL o = true) (h2 : x 99 = 6) : shP PL dA o a x y z = some (.inr (6, [va_rf (z 0)])) := by
  unfold shP
  rw [if_pos h1, if_neg (by rw [h2]; decide), if_pos h2]
theorem shP_14 {PL : Nat → Bool} {dA : Nat → ClassId} {o a : Nat} {x : Nat → Int32} {y : Nat → Int64} {z : Nat → Option Nat} (h1 : PL o = true) (h2 : x 99 = 14) : shP PL dA o a x y z = some (.inr (14, [.int (x 0), .int (x 1)])) := by
  unfold shP
  rw [if_pos h1, if_neg (by rw [h2]; decide), if_neg (by rw [h2]; decide), if_pos h2]
theorem shP_15 {PL : Nat → Bool} {dA : Nat → ClassId} {o a : Nat} {x : Nat → Int32} {y : Nat → Int64} {z : Nat → Option Nat} (h1 : PL o = true) (h2 : x 99 = 15) : shP PL dA o a x y z = some (.inr (15, [.int (x 0)])) := by
  unfold shP
  rw [if_pos h1, if_neg (by rw [h2]; decide), if_neg (by rw [h2]; decide), if_neg (by rw [h2]; decide), if_pos h2]
theorem shP_16 {PL : Nat → Bool} {dA : Nat → ClassId} {o a : Nat} {x : Nat → Int32} {y : Nat → Int64} {z : Nat → Option Nat} (h1 : PL o = true) (h2 : x 99 = 16) : shP PL dA o a x y z = some (.inr (16, [va_rf (z 0), va_rf (z 1), va_rf (z 2), va_rf (z 3), .int (x 4), .int (x 5), va_rf (z 6), va_rf (z 7), va_rf (z 8)])) := by
  unfold shP
  rw [if_pos h1, if_neg (by rw [h2]; decide), if_neg (by rw [h2]; decide), if_neg (by rw [h2]; decide), if_neg (by rw [h2]; decide), if_pos h2]
theorem shP_17 {PL : Nat → Bool} {dA : Nat → ClassId} {o a : Nat} {x : Nat → Int32} {y : Nat → Int64} {z : Nat → Option Nat} (h1 : PL o = true) (h2 : x 99 = 17) : shP PL dA o a x y z = some (.inr (17, [va_rf (z 0), .int (x 1), va_rf (z 2), .int (x 3)])) := by
  unfold shP
  rw [if_pos h1, if_neg (by rw [h2]; decide), if_neg (by rw [h2]; decide), if_neg (by rw [h2]; decide), if_neg (by rw [h2]; decide), if_neg (by rw [h2]; decide), if_pos h2]
theorem shP_18 {PL : Nat → Bool} {dA : Nat → ClassId} {o a : Nat} {x : Nat → Int32} {y : Nat → Int64} {z : Nat → Option Nat} (h1 : PL o = true) (h2 : x 99 = 18) : shP PL dA o a x y z = some (.inr (18, [va_rf (z 0), va_rf (z 1), va_rf (z 2), va_rf (z 3), va_rf (z 4), .int (x 5)])) := by
  unfold shP
  rw [if_pos h1, if_neg (by rw [h2]; decide), if_neg (by rw [h2]; decide), if_neg (by rw [h2]; decide), if_neg (by rw [h2]; decide), if_neg (by rw [h2]; decide), if_neg (by rw [h2]; decide), if_pos h2]
theorem shP_19 {PL : Nat → Bool} {dA : Nat → ClassId} {o a : Nat} {x : Nat → Int32} {y : Nat → Int64} {z : Nat → Option Nat} (h1 : PL o = true) (h2 : x 99 = 19) : shP PL dA o a x y z = some (.inr (19, [va_rf (z 0)])) := by
  unfold shP
  rw [if_pos h1, if_neg (by rw [h2]; decide), if_neg (by rw [h2]; decide), if_neg (by rw [h2]; decide), if_neg (by rw [h2]; decide), if_neg (by rw [h2]; decide), if_neg (by rw [h2]; decide), if_neg (by rw [h2]; decide), if_pos h2]
theorem shP_20 {PL : Nat → Bool} {dA : Nat → ClassId} {o a : Nat} {x : Nat → Int32} {y : Nat → Int64} {z : Nat → Option Nat} (h1 : PL o = true) (h2 : x 99 = 20) : shP PL dA o a x y z = some (.inr (20, [va_rf (z 0), va_rf (z 1), .int (x 2), va_rf (z 3)])) := by
  unfold shP
  rw [if_pos h1, if_neg (by rw [h2]; decide), if_neg (by rw [h2]; decide), if_neg (by rw [h2]; decide), if_neg (by rw [h2]; decide), if_neg (by rw [h2]; decide), if_neg (by rw [h2]; decide), if_neg (by rw [h2]; decide), if_neg (by rw [h2]; decide), if_pos h2]
theorem shP_32 {PL : Nat → Bool} {dA : Nat → ClassId} {o a : Nat} {x : Nat → Int32} {y : Nat → Int64} {z : Nat → Option Nat} (h1 : PL o = true) (h2 : x 99 = 32) : shP PL dA o a x y z = some (.inl (dA 0, (x 98).toNatClampNeg, .inl x)) := by
  unfold shP
  rw [if_pos h1, if_neg (by rw [h2]; decide), if_neg (by rw [h2]; decide), if_neg (by rw [h2]; decide), if_neg (by rw [h2]; decide), if_neg (by rw [h2]; decide), if_neg (by rw [h2]; decide), if_neg (by rw [h2]; decide), if_neg (by rw [h2]; decide), if_neg (by rw [h2]; decide), if_pos h2]
theorem shP_33 {PL : Nat → Bool} {dA : Nat → ClassId} {o a : Nat} {x : Nat → Int32} {y : Nat → Int64} {z : Nat → Option Nat} (h1 : PL o = true) (h2 : x 99 = 33) : shP PL dA o a x y z = some (.inl (dA 1, (x 98).toNatClampNeg, .inr (.inl y))) := by
  unfold shP
  rw [if_pos h1, if_neg (by rw [h2]; decide), if_neg (by rw [h2]; decide), if_neg (by rw [h2]; decide), if_neg (by rw [h2]; decide), if_neg (by rw [h2]; decide), if_neg (by rw [h2]; decide), if_neg (by rw [h2]; decide), if_neg (by rw [h2]; decide), if_neg (by rw [h2]; decide), if_neg (by rw [h2]; decide), if_pos h2]
theorem shP_34 {PL : Nat → Bool} {dA : Nat → ClassId} {o a : Nat} {x : Nat → Int32} {y : Nat → Int64} {z : Nat → Option Nat} (h1 : PL o = true) (h2 : x 99 = 34) : shP PL dA o a x y z = some (.inl (dA 2, (x 98).toNatClampNeg, .inl x)) := by
  unfold shP
  rw [if_pos h1, if_neg (by rw [h2]; decide), if_neg (by rw [h2]; decide), if_neg (by rw [h2]; decide), if_neg (by rw [h2]; decide), if_neg (by rw [h2]; decide), if_neg (by rw [h2]; decide), if_neg (by rw [h2]; decide), if_neg (by rw [h2]; decide), if_neg (by rw [h2]; decide), if_neg (by rw [h2]; decide), if_neg (by rw [h2]; decide), if_pos h2]
theorem shP_35 {PL : Nat → Bool} {dA : Nat → ClassId} {o a : Nat} {x : Nat → Int32} {y : Nat → Int64} {z : Nat → Option Nat} (h1 : PL o = true) (h2 : x 99 = 35) : shP PL dA o a x y z = some (.inl (dA 3, (x 98).toNatClampNeg, .inl x)) := by
  unfold shP
  rw [if_pos h1, if_neg (by rw [h2]; decide), if_neg (by rw [h2]; decide), if_neg (by rw [h2]; decide), if_neg (by rw [h2]; decide), if_neg (by rw [h2]; decide), if_neg (by rw [h2]; decide), if_neg (by rw [h2]; decide), if_neg (by rw [h2]; decide), if_neg (by rw [h2]; decide), if_neg (by rw [h2]; decide), if_neg (by rw [h2]; decide), if_neg (by rw [h2]; decide), if_pos h2]
theorem shP_36 {PL : Nat → Bool} {dA : Nat → ClassId} {o a : Nat} {x : Nat → Int32} {y : Nat → Int64} {z : Nat → Option Nat} (h1 : PL o = true) (h2 : x 99 = 36) : shP PL dA o a x y z = some (.inl (dA 4, (x 98).toNatClampNeg, .inl x)) := by
  unfold shP
  rw [if_pos h1, if_neg (by rw [h2]; decide), if_neg (by rw [h2]; decide), if_neg (by rw [h2]; decide), if_neg (by rw [h2]; decide), if_neg (by rw [h2]; decide), if_neg (by rw [h2]; decide), if_neg (by rw [h2]; decide), if_neg (by rw [h2]; decide), if_neg (by rw [h2]; decide), if_neg (by rw [h2]; decide), if_neg (by rw [h2]; decide), if_neg (by rw [h2]; decide), if_neg (by rw [h2]; decide), if_pos h2]
theorem shP_44 {PL : Nat → Bool} {dA : Nat → ClassId} {o a : Nat} {x : Nat → Int32} {y : Nat → Int64} {z : Nat → Option Nat} (h1 : PL o = true) (h2 : x 99 = 44) : shP PL dA o a x y z = some (.inl (dA 12, (x 98).toNatClampNeg, .inr (.inr (.inr (.inr z))))) := by
  unfold shP
  rw [if_pos h1, if_neg (by rw [h2]; decide), if_neg (by rw [h2]; decide), if_neg (by rw [h2]; decide), if_neg (by rw [h2]; decide), if_neg (by rw [h2]; decide), if_neg (by rw [h2]; decide), if_neg (by rw [h2]; decide), if_neg (by rw [h2]; decide), if_neg (by rw [h2]; decide), if_neg (by rw [h2]; decide), if_neg (by rw [h2]; decide), if_neg (by rw [h2]; decide), if_neg (by rw [h2]; decide), if_neg (by rw [h2]; decide), if_pos h2]
theorem kd_PL {PL : Nat → Bool} {v : Mem} {o : Nat} {k : Int32} (h : kd PL v o k = true) : PL o = true := by
  unfold kd at h
  exact (Bool.and_eq_true _ _ ▸ h).1
theorem kd_k {PL : Nat → Bool} {v : Mem} {o : Nat} {k : Int32} (h : kd PL v o k = true) : v.1 o 99 = k := by
  unfold kd at h
  exact of_decide_eq_true (Bool.and_eq_true _ _ ▸ h).2
theorem ka_kd {PL : Nat → Bool} {v : Mem} {o : Nat} {k : Int32} (h : ka PL v o k = true) : kd PL v o k = true := by
  unfold ka at h
  exact (Bool.and_eq_true _ _ ▸ h).1
theorem ka_le {PL : Nat → Bool} {v : Mem} {o : Nat} {k : Int32} (h : ka PL v o k = true) : (v.1 o 98).toNatClampNeg ≤ 90 := by
  unfold ka at h
  exact of_decide_eq_true (Bool.and_eq_true _ _ ▸ h).2
theorem kd_sI {PL : Nat → Bool} {v : Mem} {o q j : Nat} {k x : Int32} (hj : j ≠ 99) (h : kd PL v o k = true) : (sI v q j x).1 o 99 = k := by
  show (if o = q ∧ 99 = j then x else v.1 o 99) = k
  rw [if_neg (fun z => hj z.2.symm)]
  exact kd_k h
/-- a new cell of the pool: all its fields as at first, its kind k, its length n -/
def nwP (v : Mem) (h : Nat) (k n : Int32) : Mem := (fun o j => if o = h then (if j = 99 then k else if j = 98 then n else 0) else v.1 o j, fun o j => if o = h then 0 else v.2.1 o j, fun o j => if o = h then none else v.2.2 o j)
theorem nwP_ne {v : Mem} {h : Nat} {k n : Int32} : ∀ o, o ≠ h → (nwP v h k n).1 o = v.1 o ∧ (nwP v h k n).2.1 o = v.2.1 o ∧ (nwP v h k n).2.2 o = v.2.2 o := fun o ho => ⟨by funext j; simp [nwP, ho], by funext j; simp [nwP, ho], by funext j; simp [nwP, ho]⟩
def pl (G : Gv) (PL : Nat → Bool) (v : Mem) (H : Heap) : Prop := ∀ o e, shP PL G.2.1 o 0 (v.1 o) (v.2.1 o) (v.2.2 o) = some e → va_at G.1 vwCl (o, e) H
theorem pl_rg {G : Gv} {PL : Nat → Bool} {v : Mem} {H : Heap} (h : pl G PL v H) {n : Nat} : rg G 0 n (shP PL G.2.1) v H := fun o _ e he => by
  rw [Nat.zero_add]
  exact h o e he
theorem shP_PL {PL : Nat → Bool} {dA : Nat → ClassId} {o a : Nat} {x : Nat → Int32} {y : Nat → Int64} {z : Nat → Option Nat} {e : va_E} (h : shP PL dA o a x y z = some e) : PL o = true ∧ x 99 ≠ 0 := by
  refine ⟨?_, fun h0 => ?_⟩
  · by_cases hc : PL o = true
    · exact hc
    · unfold shP at h
      rw [if_neg hc] at h
      cases h
  · unfold shP at h
    rw [h0] at h
    by_cases hc : PL o = true
    · rw [if_pos hc] at h
      exact nomatch h
    · rw [if_neg hc] at h
      cases h
/-- the pool's cells when the method began (what it may change), and those that came since -/
def fP (PL : Nat → Bool) (v : Mem) : Nat → Prop := fun z => PL z = true ∧ v.1 z 99 ≠ 0
def KM (v0 v : Mem) (sz : Nat) : Prop := ∀ q, v.1 q 99 ≠ 0 → v0.1 q 99 ≠ 0 ∨ sz ≤ q
theorem KM.rf {v : Mem} {sz : Nat} : KM v v sz := fun _ h => Or.inl h
theorem KM.sI {v0 v : Mem} {sz o j : Nat} {x : Int32} (h : KM v0 v sz) (hj : j ≠ 99) : KM v0 (sI v o j x) sz := fun q hq => h q (fun z => hq (by show (if q = o ∧ 99 = j then x else v.1 q 99) = 0; rw [if_neg (fun z => hj z.2.symm)]; exact z))
theorem KM.sL {v0 v : Mem} {sz o j : Nat} {x : Int64} (h : KM v0 v sz) : KM v0 (sL v o j x) sz := h
theorem KM.sR {v0 v : Mem} {sz o j : Nat} {x : Option Nat} (h : KM v0 v sz) : KM v0 (sR v o j x) sz := h
theorem KM.nw {v0 v : Mem} {sz h : Nat} {k n : Int32} (hK : KM v0 v sz) (hh : sz ≤ h) : KM v0 (nwP v h k n) sz := fun q hq => by
  by_cases hc : q = h
  · exact Or.inr (by omega)
  · exact hK q (by have e := (nwP_ne (v := v) (k := k) (n := n) q hc).1; rw [e] at hq; exact hq)
theorem KM.trans {v0 v v1 : Mem} {sz sz1 : Nat} (h : KM v0 v sz) (h1 : KM v v1 sz1) (hs : sz ≤ sz1) : KM v0 v1 sz := fun q hq => (h1 q hq).elim (fun z => h q z) (fun z => Or.inr (Nat.le_trans hs z))
theorem KM_hf2 {PL : Nat → Bool} {v0 v : Mem} {sz : Nat} (h : KM v0 v sz) : ∀ z, fP PL v z → FA (fP PL v0) sz z := fun z hz => (h z hz.2).elim (fun a => Or.inl ⟨hz.1, a⟩) Or.inr
theorem kd_A {PL : Nat → Bool} {v0 v : Mem} {sz q : Nat} {k : Int32} (h : KM v0 v sz) (hk : kd PL v q k = true) (hn : k ≠ 0) : FA (fP PL v0) sz q := KM_hf2 h q ⟨kd_PL hk, by rw [kd_k hk]; exact hn⟩
theorem FA_r {F E : Nat → Prop} {sz q : Nat} (h : FA F sz q) : FA (fun z => E z ∨ F z) sz q := h.elim (fun a => Or.inl (Or.inr a)) Or.inr
theorem FA_l {F E : Nat → Prop} {sz q : Nat} (h : FA E sz q) : FA (fun z => E z ∨ F z) sz q := h.elim (fun a => Or.inl (Or.inl a)) Or.inr
theorem pl_keepq {G : Gv} {PL : Nat → Bool} {v : Mem} {H H1 : Heap} {q : Nat} (h : pl G PL v H) (oq : ∀ z : Nat, z ≠ q → H1[z]? = H[z]?) (hd : ¬ PL q = true) : pl G PL v H1 := fun o e he => (h o e he).kept (oq o (fun z => hd (by rw [← z]; exact (shP_PL he).1)))
theorem pl_keepA {G : Gv} {PL : Nat → Bool} {v : Mem} {H H1 : Heap} {F : Nat → Prop} (h : pl G PL v H) (oq : ∀ z : Nat, z < H.size → ¬ (F z ∨ H.size ≤ z) → H1[z]? = H[z]?) (hd : ∀ z, PL z = true → ¬ F z) : pl G PL v H1 := fun o e he =>
  (h o e he).kept (oq o (h o e he).lt (fun k => k.elim (hd o (shP_PL he).1) (fun k => by have := (h o e he).lt; simp only at this; omega)))
theorem pl_keepN {G : Gv} {PL : Nat → Bool} {v : Mem} {H H1 : Heap} {h : Nat} (hW : pl G PL v H) (hz : H.size = h) (o1 : ∀ z : Nat, z < h → H1[z]? = H[z]?) : pl G PL v H1 := fun o e he => (hW o e he).kept (o1 o (by have := (hW o e he).lt; simp only at this; omega))
theorem pl_keepH {G : Gv} {PL : Nat → Bool} {v : Mem} {H H1 : Heap} {q : Nat} (h : pl G PL v H) (oq : ∀ z : Nat, z < H.size → ¬ (iv q 1 z ∨ H.size ≤ z) → H1[z]? = H[z]?) (hn : ∀ e, shP PL G.2.1 q 0 (v.1 q) (v.2.1 q) (v.2.2 q) ≠ some e) : pl G PL v H1 := fun o e he =>
  (h o e he).kept (oq o (h o e he).lt (fun k => k.elim (fun k => by
    have h8 := k.1
    have h9 := k.2
    have h7 : o = q := by omega
    subst h7
    exact hn e he) (fun k => by have := (h o e he).lt; simp only at this; omega)))
theorem pl_upd {G : Gv} {PL : Nat → Bool} {v v' : Mem} {H H1 : Heap} {q : Nat} (h : pl G PL v H) (oq : ∀ z : Nat, z ≠ q → H1[z]? = H[z]?)
    (hv : ∀ o', o' ≠ q → v'.1 o' = v.1 o' ∧ v'.2.1 o' = v.2.1 o' ∧ v'.2.2 o' = v.2.2 o')
    (he : ∀ e, shP PL G.2.1 q 0 (v'.1 q) (v'.2.1 q) (v'.2.2 q) = some e → va_at G.1 vwCl (q, e) H1) : pl G PL v' H1 := by
  intro o' e hs
  by_cases h1 : o' = q
  · subst h1
    exact he e hs
  · obtain ⟨e1, e2, e3⟩ := hv o' h1
    rw [e1, e2, e3] at hs
    exact (h o' e hs).kept (oq o' h1)
theorem pl_of {G : Gv} {PL : Nat → Bool} {v v' : Mem} {H H1 : Heap} {o : Nat} (h : pl G PL v H) (h1 : rg G 0 H.size (shP PL G.2.1) v' H1) (hv : ∀ o', o' ≠ o → v'.1 o' = v.1 o' ∧ v'.2.1 o' = v.2.1 o' ∧ v'.2.2 o' = v.2.2 o') (ho : o < H.size) : pl G PL v' H1 := by
  intro o' e he
  by_cases hc : o' < H.size
  · have h2 := h1 o' hc e he
    rw [Nat.zero_add] at h2
    exact h2
  · obtain ⟨e1, e2, e3⟩ := hv o' (by omega)
    rw [e1, e2, e3] at he
    have h2 := (h o' e he).lt
    simp only at h2
    omega
/-- a new cell of the pool's own -/
theorem pl_new {G : Gv} {PL : Nat → Bool} {v : Mem} {H H1 : Heap} {h : Nat} {k n : Int32} {e : va_E} (hW : pl G PL v H) (hz : H.size = h) (o1 : ∀ z : Nat, z < h → H1[z]? = H[z]?) (he : shP PL G.2.1 h 0 ((nwP v h k n).1 h) ((nwP v h k n).2.1 h) ((nwP v h k n).2.2 h) = some e) (hat : va_at G.1 vwCl (h, e) H1) : pl G PL (nwP v h k n) H1 := by
  intro o e2 h2
  by_cases hc : o = h
  · subst hc
    rw [he] at h2
    cases h2
    exact hat
  · obtain ⟨e1, e3, e4⟩ := nwP_ne (v := v) (k := k) (n := n) o hc
    rw [e1, e3, e4] at h2
    exact pl_keepN hW hz o1 o e2 h2
theorem nwP_i {v : Mem} {h : Nat} {k n : Int32} : (nwP v h k n).1 h = fun j => if j = 99 then k else if j = 98 then n else 0 := by funext j; simp [nwP]
theorem nwP_l {v : Mem} {h : Nat} {k n : Int32} : (nwP v h k n).2.1 h = fun _ => 0 := by funext j; simp [nwP]
theorem nwP_r {v : Mem} {h : Nat} {k n : Int32} : (nwP v h k n).2.2 h = fun _ => none := by funext j; simp [nwP]
/-! the mirror's words for references that may be null -/
def od {β : Type} (x : Option Nat) (n : Option β) (k : Nat → Option β) : Option β := match x with
  | none => n
  | some a => k a
theorem od_n {β : Type} {n : Option β} {k : Nat → Option β} {r : β} (h : od none n k = some r) : n = some r := h
theorem od_s {β : Type} {n : Option β} {k : Nat → Option β} {a : Nat} {r : β} (h : od (some a) n k = some r) : k a = some r := h
def lo {β : Type} (x : Option Nat) (k : Option Nat → Option β) : Option β := k x
theorem lo_some {β : Type} {x : Option Nat} {k : Option Nat → Option β} {r : β} (h : lo x k = some r) : ∃ v, x = v ∧ k v = some r := ⟨x, rfl, h⟩
def ln {β : Type} (x : Nat) (k : Nat → Option β) : Option β := k x
theorem ln_some {β : Type} {x : Nat} {k : Nat → Option β} {r : β} (h : ln x k = some r) : ∃ v, x = v ∧ k v = some r := ⟨x, rfl, h⟩
/-- which one of a family lies at an address -/
def fi (b c st n a : Nat) : Option Nat := if b + c ≤ a ∧ (a - (b + c)) % st = 0 ∧ (a - (b + c)) / st < n then some ((a - (b + c)) / st) else none
def pqfit (v : Mem) (b : Nat) : Bool := match gR v (b + 160) 0 with
  | some a => decide ((gI v (b + 160) 1).toNatClampNeg < (gI v a 98).toNatClampNeg)
  | none => false
theorem cat_rf (x : Option Nat) : (va_rf x).category = 1 := by cases x <;> rfl
theorem fi_some {b c st n a k : Nat} (h : fi b c st n a = some k) : a = b + (c + st * k + 0) ∧ k < n := by
  unfold fi at h
  split at h
  · rename_i hc
    cases h
    refine ⟨?_, hc.2.2⟩
    have := Nat.div_add_mod (a - (b + c)) st
    rw [hc.2.1] at this
    omega
  · cases h
section RPW
variable {p : Program} {l : Launch} {e : Env} {R : Room} {s : State} {m : MethodId} {args : Array Value} {below : List Frame} {meth : Method} {c : Code} {H : Heap} {locs : List Loc} {cells slots : Nat} {Q : State → Prop}
variable {cc : ByteArray} {pc : Nat} {ls : Array Slot} {rest : List Value} {G : Gv} {PL : Nat → Bool} {A : Nat → Prop} {H0 : Heap} {own C host : String} {T : u_T} {N ci index k q : Nat} {v : Mem}
theorem lv_aloadO {i : Nat} {x : Option Nat} (hx : p.tables.exec = Jvm.exec) (hb : c.code = cc) (hdg : decode cc pc = .ok (.aload i, 2)) (hl : ls[i]? = some (.val (va_rf x)))
    (k : W p l e R s m args below meth c H locs cells slots Q (F0 m (pc + 2) ls (va_rf x :: rest))) : W p l e R s m args below meth c H locs cells slots Q (F0 m pc ls rest) := by
  cases x with
  | none => exact lv_aloadN hx hb hdg hl k
  | some a => exact lv_aload hx hb hdg hl k
theorem lv_aload_nO {j : Fin 4} {i : Nat} {x : Option Nat} (hx : p.tables.exec = Jvm.exec) (hb : c.code = cc) (hdg : decode cc pc = .ok (.aload_n j, 1)) (hi : (j : Nat) = i) (hl : ls[i]? = some (.val (va_rf x)))
    (k : W p l e R s m args below meth c H locs cells slots Q (F0 m (pc + 1) ls (va_rf x :: rest))) : W p l e R s m args below meth c H locs cells slots Q (F0 m pc ls rest) := by
  cases x with
  | none => exact lv_aload_nN hx hb hdg hi hl k
  | some a => exact lv_aload_n hx hb hdg hi hl k
theorem lv_astoreO {i nL : Nat} {x : Option Nat} {lv lv' : List (Nat × Value)} (hx : p.tables.exec = Jvm.exec) (hb : c.code = cc) (hdg : decode cc pc = .ok (.astore i, 2)) (h : lv_has ls nL lv) (hn : i < nL) (hl : (i, va_rf x) :: lv.filter (fun q => !(q.1 == i) && !(q.1 + 1 == i && q.2.category == 2)) = lv')
    (k : ∀ ls', lv_has ls' nL lv' → W p l e R s m args below meth c H locs cells slots Q (F0 m (pc + 2) ls' rest)) : W p l e R s m args below meth c H locs cells slots Q (F0 m pc ls (va_rf x :: rest)) := by
  cases x with
  | none => exact lv_astoreN hx hb hdg h hn hl k
  | some a => exact lv_astore hx hb hdg h hn hl k
theorem lv_astore_nO {j : Fin 4} {i nL : Nat} {x : Option Nat} {lv lv' : List (Nat × Value)} (hx : p.tables.exec = Jvm.exec) (hb : c.code = cc) (hdg : decode cc pc = .ok (.astore_n j, 1)) (hi : (j : Nat) = i) (h : lv_has ls nL lv) (hn : i < nL) (hl : (i, va_rf x) :: lv.filter (fun q => !(q.1 == i) && !(q.1 + 1 == i && q.2.category == 2)) = lv')
    (k : ∀ ls', lv_has ls' nL lv' → W p l e R s m args below meth c H locs cells slots Q (F0 m (pc + 1) ls' rest)) : W p l e R s m args below meth c H locs cells slots Q (F0 m pc ls (va_rf x :: rest)) := by
  cases x with
  | none => exact lv_astore_nN hx hb hdg hi h hn hl k
  | some a => exact lv_astore_n hx hb hdg hi h hn hl k
theorem rp_put (hx : p.tables.exec = Jvm.exec) (hb : c.code = cc) (hts : ∀ w ∈ lw_all, w.before args s = true) (hown : s.vm.findClass own = some m.cls) (hK : KK G s) (hW : pl G PL v H) (hS : va_S A H0 H locs) (hF : FL own index ci k C T N) {ty0 : Nat → FieldType} (hT : FT T N ty0) (hA : A q) {fs : List Value} (he : shP PL G.2.1 q 0 (v.1 q) (v.2.1 q) (v.2.2 q) = some (.inr (ci, fs))) (hfin : (T k).2.2.2 = false) {x : Value} (hn : narrow (ty0 k) x = x) (hfit : fits (ty0 k) x = true) (hl : k < fs.length)
    (v' : Mem) (hv : ∀ o', o' ≠ q → v'.1 o' = v.1 o' ∧ v'.2.1 o' = v.2.1 o' ∧ v'.2.2 o' = v.2.2 o') (he2 : shP PL G.2.1 q 0 (v'.1 q) (v'.2.1 q) (v'.2.2 q) = some (.inr (ci, fs.set k x))) (hdg : decode cc pc = .ok (.putfield index, 3))
    (kk : ∀ (H1 : Heap) (locs1 : List Loc), pl G PL v' H1 → va_S A H0 H1 locs1 → H1.size = H.size → (∀ z, z ≠ q → H1[z]? = H[z]?) → W p l e R s m args below meth c H1 locs1 cells slots Q (F0 m (pc + 3) ls rest)) : W p l e R s m args below meth c H locs cells slots Q (F0 m pc ls (x :: .ref q :: rest)) :=
  rk_put hx hb hts hown hK (pl_rg hW (n := H.size)) hS hF hT q (hW q _ he).lt (Nat.zero_add q).symm hA he hfin hn hfit hl v' hv he2 hdg fun H1 locs1 h1 h2 h3 h4 => kk H1 locs1 (pl_of hW h1 hv (hW q _ he).lt) h2 h3 h4
theorem rp_putN (hx : p.tables.exec = Jvm.exec) (hb : c.code = cc) (hts : ∀ w ∈ lw_all, w.before args s = true) (hown : s.vm.findClass own = some m.cls) (hK : KK G s) (hW : pl G PL v H) (hS : va_S A H0 H locs) (hF : FN own index ci k C T N host) {ty0 : Nat → FieldType} (hT : FT T N ty0) (hA : A q) {fs : List Value} (he : shP PL G.2.1 q 0 (v.1 q) (v.2.1 q) (v.2.2 q) = some (.inr (ci, fs))) (hfin : (T k).2.2.2 = false) {x : Value} (hn : narrow (ty0 k) x = x) (hfit : fits (ty0 k) x = true) (hl : k < fs.length)
    (v' : Mem) (hv : ∀ o', o' ≠ q → v'.1 o' = v.1 o' ∧ v'.2.1 o' = v.2.1 o' ∧ v'.2.2 o' = v.2.2 o') (he2 : shP PL G.2.1 q 0 (v'.1 q) (v'.2.1 q) (v'.2.2 q) = some (.inr (ci, fs.set k x))) (hdg : decode cc pc = .ok (.putfield index, 3))
    (kk : ∀ (H1 : Heap) (locs1 : List Loc), pl G PL v' H1 → va_S A H0 H1 locs1 → H1.size = H.size → (∀ z, z ≠ q → H1[z]? = H[z]?) → W p l e R s m args below meth c H1 locs1 cells slots Q (F0 m (pc + 3) ls rest)) : W p l e R s m args below meth c H locs cells slots Q (F0 m pc ls (x :: .ref q :: rest)) :=
  rk_putN hx hb hts hown hK (pl_rg hW (n := H.size)) hS hF hT q (hW q _ he).lt (Nat.zero_add q).symm hA he hfin hn hfit hl v' hv he2 hdg fun H1 locs1 h1 h2 h3 h4 => kk H1 locs1 (pl_of hW h1 hv (hW q _ he).lt) h2 h3 h4
theorem rp_putF (hx : p.tables.exec = Jvm.exec) (hb : c.code = cc) (hts : ∀ w ∈ lw_all, w.before args s = true) (hown : s.vm.findClass own = some m.cls) (hK : KK G s) (hW : pl G PL v H) (hS : va_S A H0 H locs) (hF : FL own index ci k C T N) {ty0 : Nat → FieldType} (hT : FT T N ty0) (hA : A q) {fs : List Value} (he : shP PL G.2.1 q 0 (v.1 q) (v.2.1 q) (v.2.2 q) = some (.inr (ci, fs))) (hfin : (T k).2.2.2 = true) (hin2 : meth.name = "<init>") (hCo : (T k).1 = own) {x : Value} (hn : narrow (ty0 k) x = x) (hfit : fits (ty0 k) x = true) (hl : k < fs.length)
    (v' : Mem) (hv : ∀ o', o' ≠ q → v'.1 o' = v.1 o' ∧ v'.2.1 o' = v.2.1 o' ∧ v'.2.2 o' = v.2.2 o') (he2 : shP PL G.2.1 q 0 (v'.1 q) (v'.2.1 q) (v'.2.2 q) = some (.inr (ci, fs.set k x))) (hdg : decode cc pc = .ok (.putfield index, 3))
    (kk : ∀ (H1 : Heap) (locs1 : List Loc), pl G PL v' H1 → va_S A H0 H1 locs1 → H1.size = H.size → (∀ z, z ≠ q → H1[z]? = H[z]?) → W p l e R s m args below meth c H1 locs1 cells slots Q (F0 m (pc + 3) ls rest)) : W p l e R s m args below meth c H locs cells slots Q (F0 m pc ls (x :: .ref q :: rest)) :=
  rk_putF hx hb hts hown hK (pl_rg hW (n := H.size)) hS hF hT q (hW q _ he).lt (Nat.zero_add q).symm hA he hfin hin2 hCo hn hfit hl v' hv he2 hdg fun H1 locs1 h1 h2 h3 h4 => kk H1 locs1 (pl_of hW h1 hv (hW q _ he).lt) h2 h3 h4
/-- a new object of the pool -/
theorem rp_new (hx : p.tables.exec = Jvm.exec) (hb : c.code = cc) (hts : ∀ w ∈ lw_all, w.before args s = true) (hown : s.vm.findClass own = some m.cls) (hK : KK G s) (hW : pl G PL v H) (hS : va_S A H0 H locs) {h : Nat} {kn n : Int32} (hin : ∀ w ∈ u_ws C T N, w ∈ lw_all) {ty0 : Nat → FieldType} (hT : FT T N ty0) (hc : vwCl[ci]? = some (C, T, N)) (hcl : Cond.classLink own index C ∈ lw_all) (hinst : Cond.instantiable C N ∈ lw_all) (hini : Cond.initialized C ∈ lw_all) (hz : H.size = h) {fs : List Value} (he : shP PL G.2.1 h 0 (fun j => if j = 99 then kn else if j = 98 then n else 0) (fun _ => 0) (fun _ => none) = some (.inr (ci, fs))) (hfs : ∀ j, j < N → defaultValue (ty0 j) = vp_V fs j) (hcells : cells + 1 ≤ R.cells) (hslots : slots + N ≤ R.slots) (hdg : decode cc pc = .ok (.new index, 3))
    (kk : ∀ (H1 : Heap), pl G PL (nwP v h kn n) H1 → va_S A H0 H1 locs → H1.size = h + 1 → (∀ z, z < h → H1[z]? = H[z]?) → W p l e R s m args below meth c H1 locs (cells + 1) (slots + N) Q (F0 m (pc + 3) ls (.ref h :: rest))) : W p l e R s m args below meth c H locs cells slots Q (F0 m pc ls rest) :=
  rk_new (sh := fun _ _ _ _ _ => some (.inr (ci, fs))) hx hb hts hown hK hS hin hT hc hcl hinst hini hz rfl hfs hcells hslots hdg fun H1 h1 h2 h3 h4 =>
    kk H1 (pl_new hW hz h4 (e := .inr (ci, fs)) (by rw [nwP_i, nwP_l, nwP_r]; exact he) (by have h5 := h1 0 (by decide) _ rfl; rw [Nat.add_zero] at h5; exact h5)) h2 h3 h4
/-- arrays of references -/
theorem rp_aald (hx : p.tables.exec = Jvm.exec) (hb : c.code = cc) (hK : KK G s) (hW : pl G PL v H) (hk : ka PL v q 44 = true) {i : Int32} (hin : inR i (v.1 q 98).toNatClampNeg = true) {x : Option Nat} (hv : gR v q i.toNatClampNeg = x) (hdg : decode cc pc = .ok (.aaload, 1))
    (kk : W p l e R s m args below meth c H locs cells slots Q (F0 m (pc + 1) ls (va_rf x :: rest))) : W p l e R s m args below meth c H locs cells slots Q (F0 m pc ls (.int i :: .ref q :: rest)) := by
  subst hv
  exact va_aldq hx hb hK.1 (rg_P (pl_rg hW (n := q + 1)) (Nat.lt_succ_self q) (Nat.zero_add q).symm (shP_44 (kd_PL (ka_kd hk)) (kd_k (ka_kd hk)))) 0 12 rfl rfl (inR_in hin) hdg kk
theorem rp_alen (hx : p.tables.exec = Jvm.exec) (hb : c.code = cc) (hK : KK G s) (hW : pl G PL v H) (hk : ka PL v q 44 = true) (hdg : decode cc pc = .ok (.arraylength, 1))
    (kk : W p l e R s m args below meth c H locs cells slots Q (F0 m (pc + 1) ls (.int (Int32.ofNat (gI v q 98).toNatClampNeg) :: rest))) : W p l e R s m args below meth c H locs cells slots Q (F0 m pc ls (.ref q :: rest)) :=
  rk_alen hx hb hK (pl_rg hW (n := q + 1)) q 12 (Nat.lt_succ_self q) (Nat.zero_add q).symm (shP_44 (kd_PL (ka_kd hk)) (kd_k (ka_kd hk))) rfl rfl hdg kk
theorem rp_aast0 {v' : Mem} {x : Option Nat} {i : Int32} {H1 : Heap} (hW : pl G PL v H) (hk : ka PL v q 44 = true) (hin : inR i (v.1 q 98).toNatClampNeg = true) (e : H1[q]? = some ((vp_cell (G.2.1 12) ((v.1 q 98).toNatClampNeg, .inr (.inr (.inr (.inr (v.2.2 q)))))).setSlot i.toNatClampNeg (va_rf x))) (oq : ∀ z, z ≠ q → H1[z]? = H[z]?) (hv' : v' = sR v q i.toNatClampNeg x) : pl G PL v' H1 := by
  subst hv'
  refine pl_upd hW oq sR_ne fun y hy => ?_
  rw [sR_eq] at hy
  have h1 := shP_44 (dA := G.2.1) (a := 0) (y := (sR v q i.toNatClampNeg x).2.1 q) (z := fun b => if b = i.toNatClampNeg then x else v.2.2 q b) (kd_PL (ka_kd hk)) (show (sR v q i.toNatClampNeg x).1 q 99 = 44 from kd_k (ka_kd hk))
  rw [h1] at hy
  cases hy
  show H1[q]? = some (vp_cell _ _)
  rw [e]
  rw [vp_cell_q, vp_cell_q, arrV_store]
  show some (arrV _ (v.1 q 98).toNatClampNeg _) = some (arrV _ (v.1 q 98).toNatClampNeg _)
  congr 2
  funext j
  by_cases hj : j = i.toNatClampNeg
  · subst hj
    simp [updV]
  · simp [updV, hj]
theorem rp_aastN (hx : p.tables.exec = Jvm.exec) (hb : c.code = cc) (hK : KK G s) (hW : pl G PL v H) (hS : va_S A H0 H locs) (hA : A q) (hk : ka PL v q 44 = true) {i : Int32} (hin : inR i (v.1 q 98).toNatClampNeg = true) (hdg : decode cc pc = .ok (.aastore, 1))
    (kk : ∀ (H1 : Heap) (locs1 : List Loc), pl G PL (sR v q i.toNatClampNeg none) H1 → va_S A H0 H1 locs1 → H1.size = H.size → (∀ z, z ≠ q → H1[z]? = H[z]?) → W p l e R s m args below meth c H1 locs1 cells slots Q (F0 m (pc + 1) ls rest)) : W p l e R s m args below meth c H locs cells slots Q (F0 m pc ls (.null :: .int i :: .ref q :: rest)) := by
  have hc : H[q]? = some (vp_cell (G.2.1 12) ((v.1 q 98).toNatClampNeg, .inr (.inr (.inr (.inr (v.2.2 q)))))) := hW q _ (shP_44 (kd_PL (ka_kd hk)) (kd_k (ka_kd hk)))
  refine va_WaastN (C := "java/lang/Object") hx hb hc ((hK.1.2 12 _ rfl).1 _ (fun j => va_rf (v.2.2 q j))) (fun h => by cases h) (by show ¬ (i < 0 ∨ (arrV _ _ _).slots.size ≤ _); rw [arrV_size]; exact inR_in hin) rfl rfl hdg fun H1 e z oq => ?_
  exact kk H1 _ (rp_aast0 (x := none) hW hk hin e oq rfl) (hS.put z oq hA) z oq
theorem rp_aastR (hx : p.tables.exec = Jvm.exec) (hb : c.code = cc) (hts : ∀ w ∈ lw_all, w.before args s = true) (hK : KK G s) (hW : pl G PL v H) (hS : va_S A H0 H locs) (hA : A q) (hk : ka PL v q 44 = true) {i : Int32} (hin : inR i (v.1 q 98).toNatClampNeg = true) {x : Nat} (hca : Cond.castable C "java/lang/Object" ∈ lw_tbl) (hr : RcV s H C x) (hdg : decode cc pc = .ok (.aastore, 1))
    (kk : ∀ (H1 : Heap) (locs1 : List Loc), pl G PL (sR v q i.toNatClampNeg (some x)) H1 → va_S A H0 H1 locs1 → H1.size = H.size → (∀ z, z ≠ q → H1[z]? = H[z]?) → W p l e R s m args below meth c H1 locs1 cells slots Q (F0 m (pc + 1) ls rest)) : W p l e R s m args below meth c H locs cells slots Q (F0 m pc ls (.ref x :: .int i :: .ref q :: rest)) := by
  have hc : H[q]? = some (vp_cell (G.2.1 12) ((v.1 q 98).toNatClampNeg, .inr (.inr (.inr (.inr (v.2.2 q)))))) := hW q _ (shP_44 (kd_PL (ka_kd hk)) (kd_k (ka_kd hk)))
  obtain ⟨cellV, g1, g3, g2⟩ := hr
  obtain ⟨kA, comp, k1, k2, k3, -⟩ := (hK.1.2 12 _ rfl).2
  obtain ⟨kE, hkE, -⟩ := Vm.findClass_spec k3
  obtain ⟨kC, hkC, -⟩ := Vm.findClass_spec g2
  obtain ⟨c0, t1, f1, f2, f3⟩ := Cond.castable_spec (va_Nw.use (A := args) rfl (hK.nw hca rfl))
  cases g2.symm.trans f1
  cases k3.symm.trans f2
  refine W.aast hx hb hc (fun q h => by cases h) (fun h => by cases h) k1 k2 rfl hkE ⟨(fun h => (inR_in hin) (Or.inl h)), by show _ < (arrV _ _ _).slots.size; rw [arrV_size]; exact inR_lt hin⟩ g1 (fun q h => by rw [h] at g3; cases g3) hkC f3 rfl rfl hdg fun H1 e z oq => ?_
  exact kk H1 _ (rp_aast0 (x := some x) hW hk hin e oq rfl) (hS.put z oq hA) z oq
/-- the receiver of a call: an object of the pool -/
theorem rp_recv {fs : List Value} (hK : KK G s) (hW : pl G PL v H) (hc : vwCl[ci]? = some (C, T, N)) (he : shP PL G.2.1 q 0 (v.1 q) (v.2.1 q) (v.2.2 q) = some (.inr (ci, fs))) : RcV s H C q :=
  rk_recv hK (pl_rg hW (n := q + 1)) q (Nat.lt_succ_self q) (Nat.zero_add q).symm hc he
theorem rp_castY (hx : p.tables.exec = Jvm.exec) (hb : c.code = cc) {nm : String} (hown : s.vm.findClass own = some m.cls) (hts : ∀ w ∈ lw_all, w.before args s = true) (hK : KK G s) (hlink : Cond.classLink own index nm ∈ lw_all) (hca : Cond.castable C nm ∈ lw_tbl) (hr : RcV s H C q) (hdg : decode cc pc = .ok (.checkcast index, 3))
    (k : W p l e R s m args below meth c H locs cells slots Q (F0 m (pc + 3) ls (.ref q :: rest))) : W p l e R s m args below meth c H locs cells slots Q (F0 m pc ls (.ref q :: rest)) :=
  va_castY hx hb hown (hts _ hlink) (hK.nw hca rfl) hr hdg k
theorem rp_castS (hx : p.tables.exec = Jvm.exec) (hb : c.code = cc) (hown : s.vm.findClass own = some m.cls) (hts : ∀ w ∈ lw_all, w.before args s = true) (hK : KK G s) (hlink : Cond.classLink own index C ∈ lw_all) (hc : vwCl[ci]? = some (C, T, N)) (hr : RcV s H C q) (hdg : decode cc pc = .ok (.checkcast index, 3))
    (k : W p l e R s m args below meth c H locs cells slots Q (F0 m (pc + 3) ls (.ref q :: rest))) : W p l e R s m args below meth c H locs cells slots Q (F0 m pc ls (.ref q :: rest)) :=
  va_castS hx hb hown (hts _ hlink) (hK.1.1 ci _ hc).2 hr hdg k
theorem rp_instS (hx : p.tables.exec = Jvm.exec) (hb : c.code = cc) (hown : s.vm.findClass own = some m.cls) (hts : ∀ w ∈ lw_all, w.before args s = true) (hK : KK G s) (hlink : Cond.classLink own index C ∈ lw_all) (hc : vwCl[ci]? = some (C, T, N)) (hr : RcV s H C q) (hdg : decode cc pc = .ok (.instanceof index, 3))
    (k : W p l e R s m args below meth c H locs cells slots Q (F0 m (pc + 3) ls (.int 1 :: rest))) : W p l e R s m args below meth c H locs cells slots Q (F0 m pc ls (.ref q :: rest)) :=
  va_instS hx hb hown (hts _ hlink) (hK.1.1 ci _ hc).2 hr hdg k
/-! ends that answer a reference or null -/
theorem rp_aretP {x : Option Nat} {ov : Option Value} {rt : FieldType} (hx : p.tables.exec = Jvm.exec) (hb : c.code = cc) (hr : meth.sig.returnType = some rt) (hrt : (∃ n, rt = .object n) ∨ ∃ t, rt = .array t) (hlk : meth.locks = false) (hov : ov = some (va_rf x)) (hdg : decode cc pc = .ok (.areturn, 1)) : W p l e R s m args below meth c s.heap [] 0 0 (MQ below (QcP ov) args s 0 0 (fun _ => False)) (F0 m pc ls [va_rf x]) :=
  W.aret hx hb hr hrt (by cases x; exact Or.inl rfl; exact Or.inr ⟨_, rfl⟩) (fun t ht _ => ⟨by rw [hov], ht⟩) (fun _ h => absurd h List.not_mem_nil) hdg hlk
theorem rp_aret {x : Option Nat} {rt : FieldType} {Post : Option Value → Heap → Prop} (hx : p.tables.exec = Jvm.exec) (hb : c.code = cc) (hr : meth.sig.returnType = some rt) (hrt : (∃ n, rt = .object n) ∨ ∃ t, rt = .array t) (hlk : meth.locks = false) (hS : va_S A s.heap H locs) (hP : Post (some (va_rf x)) H) (hdg : decode cc pc = .ok (.areturn, 1)) : W p l e R s m args below meth c H locs cells slots (MQ below (QcT A Post) args s cells slots A) (F0 m pc ls [va_rf x]) :=
  W.aret hx hb hr hrt (by cases x; exact Or.inl rfl; exact Or.inr ⟨_, rfl⟩) (fun t ht _ => ⟨⟨_, rfl, by rw [ht]; exact hP⟩, hS.F ht⟩) hS.2.2 hdg hlk
theorem rp_aretA {mc ms : Nat} {x : Option Nat} {rt : FieldType} {Post : Option Value → Heap → Prop} (hx : p.tables.exec = Jvm.exec) (hb : c.code = cc) (hr : meth.sig.returnType = some rt) (hrt : (∃ n, rt = .object n) ∨ ∃ t, rt = .array t) (hlk : meth.locks = false) (hS : va_S A s.heap H locs) (hP : Post (some (va_rf x)) H) (hdg : decode cc pc = .ok (.areturn, 1)) (hc : cells ≤ mc) (hs : slots ≤ ms) : W p l e R s m args below meth c H locs cells slots (MQ below (QcT A Post) args s mc ms A) (F0 m pc ls [va_rf x]) := by
  cases x with
  | none => exact rk_widen hc hs (W.aret hx hb hr hrt (Or.inl rfl) (fun t ht _ => ⟨⟨_, rfl, by rw [ht]; exact hP⟩, hS.F ht⟩) hS.2.2 hdg hlk)
  | some a => exact rk_aretA hx hb hr hrt hlk hS hP hdg hc hs
end RPW
/-! calls through an interface, and of inherited methods -/
def LF (own : String) (index : Nat) (C : String) (x y : MethodName) (bytes : ByteArray) (maxL : Nat) (ret : Option FieldType) : Prop := Cond.methodLink own index x ∈ lw_all ∧ Cond.selects C x y ∈ lw_all ∧ Cond.instanceMethod y ∈ lw_all ∧ Cond.initialized y.cls ∈ lw_all ∧ Cond.code y bytes maxL ret ∈ lw_all
def LU (own : String) (index : Nat) (C owner : String) (x y : MethodName) (bytes : ByteArray) (maxL : Nat) (ret : Option FieldType) : Prop := (Cond.methodLink own index x ∈ lw_all ∧ Cond.sameMethod x.cls owner x.name x.desc ∈ lw_all ∧ Cond.selects C x y ∈ lw_all ∧ Cond.instanceMethod y ∈ lw_all ∧ Cond.initialized y.cls ∈ lw_all) ∧ Cond.code y bytes maxL ret ∈ lw_all ∧ owner ≠ "java/lang/invoke/MethodHandle" ∧ owner ≠ "java/lang/invoke/VarHandle"
theorem LF.good {own : String} {index : Nat} {C : String} {x y : MethodName} {bytes : ByteArray} {maxL : Nat} {ret : Option FieldType} (h : LF own index C x y bytes maxL ret) : GoodIn lw_all (va_wsF own index C x y (ws_ y bytes maxL ret)) :=
  lw_app (fun w hw => by
    rcases List.mem_cons.mp hw with e | hw
    · rw [e]; exact h.1
    rcases List.mem_cons.mp hw with e | hw
    · rw [e]; exact h.2.1
    rcases List.mem_cons.mp hw with e | hw
    · rw [e]; exact h.2.2.1
    rcases List.mem_cons.mp hw with e | hw
    · rw [e]; exact h.2.2.2.1
    · cases hw) (lw_meth h.2.2.2.2)
theorem LU.good {own : String} {index : Nat} {C owner : String} {x y : MethodName} {bytes : ByteArray} {maxL : Nat} {ret : Option FieldType} (h : LU own index C owner x y bytes maxL ret) : GoodIn lw_all (va_wsU own index C owner x y (ws_ y bytes maxL ret)) :=
  lw_app (fun w hw => by
    rcases List.mem_cons.mp hw with e | hw
    · rw [e]; exact h.1.1
    rcases List.mem_cons.mp hw with e | hw
    · rw [e]; exact h.1.2.1
    rcases List.mem_cons.mp hw with e | hw
    · rw [e]; exact h.1.2.2.1
    rcases List.mem_cons.mp hw with e | hw
    · rw [e]; exact h.1.2.2.2.1
    rcases List.mem_cons.mp hw with e | hw
    · rw [e]; exact h.1.2.2.2.2
    · cases hw) (lw_meth h.2.1)
section RPC
variable {p : Program} {l : Launch} {e : Env} {R : Room} {s : State} {m : MethodId} {args : Array Value} {below : List Frame} {meth : Method} {c : Code} {H : Heap} {locs : List Loc} {cells slots : Nat} {Q : State → Prop}
variable {cc bytes : ByteArray} {pc nL maxL index count n fr lo mc ms ci N : Nat} {ls : Array Slot} {rest st0 As : List Value} {G : Gv} {A0 : Nat → Prop} {H0 : Heap} {own C owner : String} {x y : MethodName} {ret : Option FieldType} {b : Nat} {Pre : Heap → Prop} {ov : Option Value} {FP : Nat → Prop} {Post : Option Value → Heap → Prop} {T : u_T}
theorem rk_backP5 {a : Array Value} (hr : va_Run5 p l e R s m args below meth c H locs cells slots 0 0 (F0 m pc ls st0) rest (QcP ov a) (fun _ => False)) (kk : W p l e R s m args below meth c H locs cells slots Q (F0 m (pc + 5) ls (ov.toList ++ rest))) : W p l e R s m args below meth c H locs cells slots Q (F0 m pc ls st0) := by
  intro T hT X
  obtain ⟨v, st₀, t, T', L, h0, X', hL, e1, e2, ⟨hv, hh⟩, st⟩ := hr T hT X
  cases hv
  obtain ⟨t2, a1, b1⟩ := kk T' (by rw [e1, hh, h0]) (Stand.forget X' (fun q h => (hL q h).elim))
  exact ⟨t2, st t2 a1, b1⟩
theorem rk_backT5 {a : Array Value} (hr : va_Run5 p l e R s m args below meth c H locs cells slots mc ms (F0 m pc ls st0) rest (QcT (FA FP H.size) Post a) (FA FP H.size)) (hS : va_S A0 H0 H locs) (hf : ∀ q, FP q → A0 q) (hA : ∀ q, H0.size ≤ q → A0 q)
    (kk : ∀ (ov : Option Value) (H1 : Heap) (locs1 : List Loc), Post ov H1 → (∀ q : Nat, q < H.size → ¬ (FP q ∨ H.size ≤ q) → H1[q]? = H[q]?) → va_S A0 H0 H1 locs1 → W p l e R s m args below meth c H1 locs1 (cells + mc) (slots + ms) Q (F0 m (pc + 5) ls (ov.toList ++ rest))) : W p l e R s m args below meth c H locs cells slots Q (F0 m pc ls st0) := by
  have hf2 : ∀ q, FA FP H.size q → A0 q := fun q h => h.elim (hf q) (fun h => hA q (Nat.le_trans hS.1 h))
  intro T hT X
  obtain ⟨v, st₀, t, T', L, h0, X', hL, e1, e2, ⟨⟨ov, hv, hp⟩, hz, hk⟩, st⟩ := hr T hT X
  cases hv
  rw [h0] at hz hk
  obtain ⟨t2, a1, b1⟩ := kk v T'.heap (locs ++ L) (by rw [e1]; exact hp) (fun q h1 h2 => by rw [e1]; exact hk q h1 h2)
    ⟨Nat.le_trans hS.1 (by rw [e1]; exact hz), fun q h1 h2 => by rw [e1, hk q (Nat.lt_of_lt_of_le h1 hS.1) (fun z => h2 (hf2 q z))]; exact hS.2.1 q h1 h2, fun q hq => by
      rcases List.mem_append.mp hq with h | h
      · exact hS.2.2 q h
      · exact hf2 _ (hL q h)⟩ T' rfl X'
  exact ⟨t2, st t2 a1, b1⟩
theorem rp_PF (hx : p.tables.exec = Jvm.exec) (hb : c.code = cc) (hml : c.maxLocals = nL) (hown : s.vm.findClass own = some m.cls) (hts : ∀ w ∈ lw_all, w.before args s = true) (hK : KK G s) (hw : LF own index C x y bytes maxL ret) (hF : va_Fw C x y s) (hc : vwCl[ci]? = some (C, T, N)) (hy : YN x n) (hM : CP G l y (ws_ y bytes maxL ret) fr lo (.ref b :: As) Pre ov) (hR : fr + 1 ≤ R.frames ∧ 8 + (maxL + 11) + lo ≤ R.locals) (hrc : RcV s H C b) (hp : Pre H) (hst : st0 = As.reverse ++ .ref b :: rest) (hn : As.length = n) (hls : ls.size = nL) (hrest : (rest.map fun v => v.category).sum ≤ 8) (hdg : decode cc pc = .ok (.invokeinterface index count, 5)) (hf : cells ≤ R.cells ∧ slots ≤ R.slots)
    (kk : W p l e R s m args below meth c H locs cells slots Q (F0 m (pc + 5) ls (ov.toList ++ rest))) : W p l e R s m args below meth c H locs cells slots Q (F0 m pc ls st0) :=
  rk_backP5 (va_runF (Ts := lw_all) (hK.1.1 ci _ hc).2 ⟨hx, hb, hml, hown, hts⟩ hM (va_cwF n hts hw.good rfl rfl rfl hF hy hR) ⟨PcK.blind, hrc, rk_pre hK hp⟩ rfl hn hls hst (lv_room hrest) hdg hf) kk
theorem rp_TF (hx : p.tables.exec = Jvm.exec) (hb : c.code = cc) (hml : c.maxLocals = nL) (hown : s.vm.findClass own = some m.cls) (hts : ∀ w ∈ lw_all, w.before args s = true) (hK : KK G s) (hS : va_S A0 H0 H locs) (hA : ∀ q, H0.size ≤ q → A0 q) (hw : LF own index C x y bytes maxL ret) (hF : va_Fw C x y s) (hc : vwCl[ci]? = some (C, T, N)) (hy : YN x n) (hM : CT G l y (ws_ y bytes maxL ret) fr mc ms lo (.ref b :: As) FP H.size Pre Post) (hR : fr + 1 ≤ R.frames ∧ 8 + (maxL + 11) + lo ≤ R.locals) (hf2 : ∀ q, FP q → A0 q) (hrc : RcV s H C b) (hp : Pre H) (hst : st0 = As.reverse ++ .ref b :: rest) (hn : As.length = n) (hls : ls.size = nL) (hrest : (rest.map fun v => v.category).sum ≤ 8) (hdg : decode cc pc = .ok (.invokeinterface index count, 5)) (hf : cells + mc ≤ R.cells ∧ slots + ms ≤ R.slots)
    (kk : ∀ (ov : Option Value) (H1 : Heap) (locs1 : List Loc), Post ov H1 → (∀ q : Nat, q < H.size → ¬ (FP q ∨ H.size ≤ q) → H1[q]? = H[q]?) → va_S A0 H0 H1 locs1 → W p l e R s m args below meth c H1 locs1 (cells + mc) (slots + ms) Q (F0 m (pc + 5) ls (ov.toList ++ rest))) : W p l e R s m args below meth c H locs cells slots Q (F0 m pc ls st0) :=
  rk_backT5 (va_runF (Ts := lw_all) (hK.1.1 ci _ hc).2 ⟨hx, hb, hml, hown, hts⟩ hM (va_cwF n hts hw.good rfl rfl rfl hF hy hR) ⟨PcK.blind, hrc, rk_pre hK ⟨rfl, hp⟩⟩ rfl hn hls hst (lv_room hrest) hdg hf) hS hf2 hA kk
theorem rk_PI (hx : p.tables.exec = Jvm.exec) (hb : c.code = cc) (hml : c.maxLocals = nL) (hown : s.vm.findClass own = some m.cls) (hts : ∀ w ∈ lw_all, w.before args s = true) (hK : KK G s) (hw : LI own index y bytes maxL) (hy : YN y n) (hM : CP G l y (ws_ y bytes maxL none) fr lo (.ref b :: As) Pre ov) (hR : fr + 1 ≤ R.frames ∧ 8 + (maxL + 11) + lo ≤ R.locals) (hp : Pre H) (hst : st0 = As.reverse ++ .ref b :: rest) (hn : As.length = n) (hls : ls.size = nL) (hrest : (rest.map fun v => v.category).sum ≤ 8) (hdg : decode cc pc = .ok (.invokespecial index, 3)) (hf : cells ≤ R.cells ∧ slots ≤ R.slots)
    (kk : W p l e R s m args below meth c H locs cells slots Q (F0 m (pc + 3) ls (ov.toList ++ rest))) : W p l e R s m args below meth c H locs cells slots Q (F0 m pc ls st0) :=
  rk_backP (va_runI (Ts := lw_all) ⟨hx, hb, hml, hown, hts⟩ hM (cwI n hts (lw_meth hw.2.2.2.1) rfl rfl rfl (hts _ hw.2.2.1) (hts _ hw.1) (hts _ hw.2.1) hw.2.2.2.2 hy hR) ⟨PcK.blind, rk_pre hK hp⟩ rfl hn hls hst (lv_room hrest) hdg hf) kk
theorem rp_PU (hx : p.tables.exec = Jvm.exec) (hb : c.code = cc) (hml : c.maxLocals = nL) (hown : s.vm.findClass own = some m.cls) (hts : ∀ w ∈ lw_all, w.before args s = true) (hK : KK G s) (hw : LU own index C owner x y bytes maxL ret) (hd : Cond.declares ⟨owner, x.name, x.desc⟩ ∈ lw_tbl) (hy : YN x n) (hM : CP G l y (ws_ y bytes maxL ret) fr lo (.ref b :: As) Pre ov) (hR : fr + 1 ≤ R.frames ∧ 8 + (maxL + 11) + lo ≤ R.locals) (hrc : RcV s H C b) (hp : Pre H) (hst : st0 = As.reverse ++ .ref b :: rest) (hn : As.length = n) (hls : ls.size = nL) (hrest : (rest.map fun v => v.category).sum ≤ 8) (hdg : decode cc pc = .ok (.invokevirtual index, 3)) (hf : cells ≤ R.cells ∧ slots ≤ R.slots)
    (kk : W p l e R s m args below meth c H locs cells slots Q (F0 m (pc + 3) ls (ov.toList ++ rest))) : W p l e R s m args below meth c H locs cells slots Q (F0 m pc ls st0) :=
  rk_backP (va_runU (Ts := lw_all) ⟨hx, hb, hml, hown, hts⟩ hM (va_cwA n hts hw.good rfl rfl rfl (hK.nw hd rfl) ⟨hw.2.2.1, hw.2.2.2, hy.2.2⟩ hR) ⟨PcK.blind, hrc, rk_pre hK hp⟩ rfl hn hls hst (lv_room hrest) hdg hf) kk
theorem rp_TU (hx : p.tables.exec = Jvm.exec) (hb : c.code = cc) (hml : c.maxLocals = nL) (hown : s.vm.findClass own = some m.cls) (hts : ∀ w ∈ lw_all, w.before args s = true) (hK : KK G s) (hS : va_S A0 H0 H locs) (hA : ∀ q, H0.size ≤ q → A0 q) (hw : LU own index C owner x y bytes maxL ret) (hd : Cond.declares ⟨owner, x.name, x.desc⟩ ∈ lw_tbl) (hy : YN x n) (hM : CT G l y (ws_ y bytes maxL ret) fr mc ms lo (.ref b :: As) FP H.size Pre Post) (hR : fr + 1 ≤ R.frames ∧ 8 + (maxL + 11) + lo ≤ R.locals) (hf2 : ∀ q, FP q → A0 q) (hrc : RcV s H C b) (hp : Pre H) (hst : st0 = As.reverse ++ .ref b :: rest) (hn : As.length = n) (hls : ls.size = nL) (hrest : (rest.map fun v => v.category).sum ≤ 8) (hdg : decode cc pc = .ok (.invokevirtual index, 3)) (hf : cells + mc ≤ R.cells ∧ slots + ms ≤ R.slots)
    (kk : ∀ (ov : Option Value) (H1 : Heap) (locs1 : List Loc), Post ov H1 → (∀ q : Nat, q < H.size → ¬ (FP q ∨ H.size ≤ q) → H1[q]? = H[q]?) → va_S A0 H0 H1 locs1 → W p l e R s m args below meth c H1 locs1 (cells + mc) (slots + ms) Q (F0 m (pc + 3) ls (ov.toList ++ rest))) : W p l e R s m args below meth c H locs cells slots Q (F0 m pc ls st0) :=
  rk_backT (va_runU (Ts := lw_all) ⟨hx, hb, hml, hown, hts⟩ hM (va_cwA n hts hw.good rfl rfl rfl (hK.nw hd rfl) ⟨hw.2.2.1, hw.2.2.2, hy.2.2⟩ hR) ⟨PcK.blind, hrc, rk_pre hK ⟨rfl, hp⟩⟩ rfl hn hls hst (lv_room hrest) hdg hf) hS hf2 hA kk
end RPC
/-! what G must know of the interfaces' methods -/
def ZP (G : Gv) : Prop := ∀ U : State, KK G U →
  (va_Fw "WholePacks$Mix" ⟨"java/lang/Comparable", "compareTo", "(Ljava/lang/Object;)I"⟩ ⟨"WholePacks$Mix", "compareTo", "(Ljava/lang/Object;)I"⟩ U ∧
  va_Fw "WholePacks$Node" ⟨"java/lang/Comparable", "compareTo", "(Ljava/lang/Object;)I"⟩ ⟨"WholePacks$Node", "compareTo", "(Ljava/lang/Object;)I"⟩ U ∧
  va_Fw "WholePacks$Dearer" ⟨"java/util/Comparator", "compare", "(Ljava/lang/Object;Ljava/lang/Object;)I"⟩ ⟨"WholePacks$Dearer", "compare", "(Ljava/lang/Object;Ljava/lang/Object;)I"⟩ U ∧
  va_Fw "java/util/TreeMap$KeyIterator" ⟨"java/util/Iterator", "hasNext", "()Z"⟩ ⟨"java/util/TreeMap$PrivateEntryIterator", "hasNext", "()Z"⟩ U ∧
  va_Fw "java/util/TreeMap$KeyIterator" ⟨"java/util/Iterator", "next", "()Ljava/lang/Object;"⟩ ⟨"java/util/TreeMap$KeyIterator", "next", "()Ljava/lang/Object;"⟩ U ∧
  va_Fw "java/util/TreeMap$KeySet" ⟨"java/util/Set", "iterator", "()Ljava/util/Iterator;"⟩ ⟨"java/util/TreeMap$KeySet", "iterator", "()Ljava/util/Iterator;"⟩ U) ∧ ∀ A : Array Value, (Term.mirror "[Ljava/lang/Object;").eval A U none [] U = some (.ref (G.2.1 30))
