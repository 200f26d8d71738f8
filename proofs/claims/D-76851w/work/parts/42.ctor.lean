/-! CONSTRUCTORS: the cells that they lay, piece by piece (base, length, shape, memory) -/
set_option maxRecDepth 100000
abbrev Pc : Type := Nat × Nat × Shp × Mem
def PP (G : Gv) (hi : Nat) (L : List Pc) (H : Heap) : Prop := ∀ x ∈ L, x.1 + x.2.1 ≤ hi ∧ rg G x.1 x.2.1 x.2.2.1 x.2.2.2 H
def Ap (q : Nat) (L : List Pc) : Prop := ∀ x ∈ L, q < x.1 ∨ x.1 + x.2.1 ≤ q
theorem PP.nil {G : Gv} {hi : Nat} {H : Heap} : PP G hi [] H := fun _ h => absurd h List.not_mem_nil
theorem PP.cons {G : Gv} {hi hi' : Nat} {L : List Pc} {H : Heap} {a n : Nat} {sh : Shp} {v : Mem} (h1 : rg G a n sh v H) (h : PP G hi L H) (ha : a + n ≤ hi') (hh : hi ≤ hi') : PP G hi' ((a, n, sh, v) :: L) H := fun x hx => by
  rcases List.mem_cons.mp hx with e | hx
  · subst e
    exact ⟨ha, h1⟩
  · exact ⟨Nat.le_trans (h x hx).1 hh, (h x hx).2⟩
theorem Ap.nil {q : Nat} : Ap q [] := fun _ h => absurd h List.not_mem_nil
theorem Ap.cons {q : Nat} {L : List Pc} {x : Pc} (h1 : q < x.1 ∨ x.1 + x.2.1 ≤ q) (h : Ap q L) : Ap q (x :: L) := fun y hy => by
  rcases List.mem_cons.mp hy with e | hy
  · subst e
    exact h1
  · exact h y hy
theorem PP.ap {G : Gv} {hi q : Nat} {L : List Pc} {H : Heap} (h : PP G hi L H) (hq : hi ≤ q) : Ap q L := fun x hx => Or.inr (Nat.le_trans (h x hx).1 hq)
theorem PP.keepN {G : Gv} {hi k : Nat} {L : List Pc} {H H1 : Heap} (h : PP G hi L H) (hz : H.size = k) (o1 : ∀ z : Nat, z < k → H1[z]? = H[z]?) : PP G hi L H1 := fun x hx => ⟨(h x hx).1, rg_keepN (h x hx).2 hz o1⟩
theorem PP.keepq {G : Gv} {hi q : Nat} {L : List Pc} {H H1 : Heap} (h : PP G hi L H) (oq : ∀ z : Nat, z ≠ q → H1[z]? = H[z]?) (hd : Ap q L) : PP G hi L H1 := fun x hx => ⟨(h x hx).1, rg_keepq (h x hx).2 oq (hd x hx)⟩
theorem PP.keepA {G : Gv} {hi q : Nat} {L : List Pc} {H H1 : Heap} (h : PP G hi L H) (oq : ∀ z : Nat, z < H.size → ¬ (iv q 1 z ∨ H.size ≤ z) → H1[z]? = H[z]?) (hq : hi ≤ q) : PP G hi L H1 := fun x hx => ⟨(h x hx).1, rg_keepA (h x hx).2 oq (fun z h1 h2 h3 => by have := (h x hx).1; have := h3.1; omega)⟩
theorem PP.keepAp {G : Gv} {hi q : Nat} {L : List Pc} {H H1 : Heap} (h : PP G hi L H) (oq : ∀ z : Nat, z < H.size → ¬ (iv q 1 z ∨ H.size ≤ z) → H1[z]? = H[z]?) (hd : Ap q L) : PP G hi L H1 := fun x hx => ⟨(h x hx).1, rg_keepA (h x hx).2 oq (fun z h1 h2 h3 => by have h4 := hd x hx; have := h3.1; have := h3.2; omega)⟩
theorem PP.at {G : Gv} {hi : Nat} {L : List Pc} {H : Heap} (h : PP G hi L H) (i : Nat) {a n : Nat} {sh : Shp} {v : Mem} (hi : L[i]? = some (a, n, sh, v)) : rg G a n sh v H := (h _ (List.mem_of_getElem? hi)).2
def tyX5 : Nat → FieldType := fun _ => .int
theorem in_X5 : ∀ w ∈ u_ws RX5 TX5z 0, w ∈ lw_all := fun w h => by
  unfold u_ws at h
  exact absurd h List.not_mem_nil
theorem ft_X5 : FT TX5z 0 tyX5 := ⟨fun k h => absurd h (by omega), fun a h => absurd h (by omega)⟩
theorem df_X5 (fs : List Value) (_ : fs = []) : ∀ j, j < 0 → defaultValue (tyX5 j) = vp_V fs j := fun j h => absurd h (by omega)
/-- one more piece behind -/
theorem rg_app {G : Gv} {a k n' q : Nat} {sh sh' : Shp} {v w : Mem} {H : Heap} (h : rg G a k sh v H) (h1 : rg G q n' sh' w H) (hq : q = a + k) (hs : ∀ o, o < n' → ∀ x y z, sh (k + o) a x y z = sh' o q x y z) : rg G a (k + n') sh (ptm v k n' w) H := by
  intro o ho e he
  by_cases hc : k ≤ o ∧ o < k + n'
  · simp only [ptm, if_pos hc] at he
    have h2 := h1 (o - k) (by omega) e (by rw [← hs (o - k) (by omega), show k + (o - k) = o by omega]; exact he)
    rw [show a + o = q + (o - k) by omega]
    exact h2
  · simp only [ptm, if_neg hc] at he
    exact h o (by omega) e he
/-- one cell by another shape -/
theorem rg_cast {G : Gv} {a : Nat} {sh sh' : Shp} {v w : Mem} {H : Heap} (h : rg G a 1 sh v H) (hs : sh' 0 a (w.1 0) (w.2.1 0) (w.2.2 0) = sh 0 a (v.1 0) (v.2.1 0) (v.2.2 0)) : rg G a 1 sh' w H := fun o ho e he => by
  have h0 : o = 0 := by omega
  subst h0
  rw [hs] at he
  exact h 0 ho e he
theorem cell_refs {cA : ClassId} {n : Nat} {f g : Nat → Option Nat} (h : ∀ j, j < n → f j = g j) : vp_cell cA (n, .inr (.inr (.inr (.inr f)))) = vp_cell cA (n, .inr (.inr (.inr (.inr g)))) := by
  rw [vp_cell_q, vp_cell_q]
  unfold arrV
  congr 1
  apply Array.ext
  · simp
  · intro i h1 h2
    simp at h1 h2
    simp [h i (by omega)]
/-- an array of references by another shape: the same places -/
theorem rg_castr {G : Gv} {a n : Nat} {cA : ClassId} {sh sh' : Shp} {v w : Mem} {H : Heap} {f g : Nat → Option Nat} (h : rg G a 1 sh v H) (h1 : sh 0 a (v.1 0) (v.2.1 0) (v.2.2 0) = some (.inl (cA, n, .inr (.inr (.inr (.inr f)))))) (h2 : sh' 0 a (w.1 0) (w.2.1 0) (w.2.2 0) = some (.inl (cA, n, .inr (.inr (.inr (.inr g)))))) (hfg : ∀ j, j < n → f j = g j) : rg G a 1 sh' w H := fun o ho e he => by
  have h0 : o = 0 := by omega
  subst h0
  rw [h2] at he
  cases he
  have h3 := h 0 ho _ h1
  show H[a + 0]? = some (vp_cell _ _)
  rw [← cell_refs hfg]
  exact h3
section CTR
variable {p : Program} {l : Launch} {e : Env} {R : Room} {s : State} {m : MethodId} {args : Array Value} {below : List Frame} {meth : Method} {c : Code} {H : Heap} {locs : List Loc} {cells slots : Nat} {Q : State → Prop}
variable {cc : ByteArray} {pc : Nat} {ls : Array Slot} {rest : List Value} {G : Gv} {A : Nat → Prop} {H0 : Heap} {a n q : Nat} {sh : Shp} {v : Mem}
theorem rk_aastC (hx : p.tables.exec = Jvm.exec) (hb : c.code = cc) (hK : KK G s) (hW : rg G a n sh v H) (hS : va_S A H0 H locs) (o t0 : Nat) (ho : o < n) (hq : q = a + o) (hA : A q) {C9 : String} {N9 : Nat} (he : ∀ x y z, sh o a x y z = some (.inl (G.2.1 t0, N9, .inr (.inr (.inr (.inr z)))))) (ht : (tyL G.2.1)[t0]? = some (G.2.1 t0, .object C9)) {i : Int32} (hin : inR i N9 = true) {x : Nat} (hr : RcV s H C9 x) (hdg : decode cc pc = .ok (.aastore, 1))
    (kk : ∀ (H1 : Heap) (locs1 : List Loc), rg G a n sh (sR v o i.toNatClampNeg (some x)) H1 → va_S A H0 H1 locs1 → H1.size = H.size → (∀ z, z ≠ q → H1[z]? = H[z]?) → W p l e R s m args below meth c H1 locs1 cells slots Q (F0 m (pc + 1) ls rest)) : W p l e R s m args below meth c H locs cells slots Q (F0 m pc ls (.ref x :: .int i :: .ref q :: rest)) := by
  have hc : H[q]? = some (vp_cell (G.2.1 t0) (N9, .inr (.inr (.inr (.inr (v.2.2 o)))))) := by
    have h := hW o ho _ (he _ _ _)
    rw [← hq] at h
    exact h
  obtain ⟨cellV, g1, g3, g2⟩ := hr
  obtain ⟨kA, comp, k1, k2, k3, -⟩ := (hK.1.2 t0 _ ht).2
  obtain ⟨kC, hkC, -⟩ := Vm.findClass_spec g2
  cases k3.symm.trans g2
  refine W.aast hx hb hc (fun q h => by cases h) (fun h => by cases h) k1 k2 rfl hkC ⟨(fun h => (inR_in hin) (Or.inl h)), by show _ < (arrV _ _ _).slots.size; rw [arrV_size]; exact inR_lt hin⟩ g1 (fun q h => by rw [h] at g3; cases g3) hkC (va_asg _ _) rfl rfl hdg fun H1 e1 z oq => ?_
  refine kk H1 _ (rg_upd hW hq oq sR_ne fun y hy => ?_) (hS.put z oq hA) z oq
  rw [he] at hy
  cases hy
  show H1[q]? = some (vp_cell _ _)
  rw [e1]
  rw [vp_cell_q, vp_cell_q, arrV_store, sR_eq]
  congr 2
  funext j
  by_cases hj : j = i.toNatClampNeg
  · subst hj
    simp [updV, va_rf]
  · simp [updV, hj]
end CTR
