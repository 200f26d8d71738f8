/-! TAPES: rows held without their sort. A row's sort is its kind in the pool. -/
set_option maxRecDepth 100000
def ks (PL : Nat → Bool) (v : Mem) (o : Nat) : Bool := PL o && ((decide (gI v o 99 = 32) || (decide (gI v o 99 = 33) || (decide (gI v o 99 = 34) || (decide (gI v o 99 = 35) || decide (gI v o 99 = 36))))) && decide ((gI v o 98).toNatClampNeg ≤ 90))
def isk (v : Mem) (o : Nat) (k : Int32) : Int32 := if gI v o 99 = k then 1 else 0
def anm : List String := ["[I", "[J", "[B", "[S", "[Z"]
def anm4 : List String := ["[I", "[J", "[B", "[S"]
def kns : List (Int32 × String) := [(32, "[I"), (33, "[J"), (34, "[B"), (35, "[S"), (36, "[Z")]
/-- what G must know of the arrays' classes: none of the five is castable to another one (but for boolean rows: never asked) -/
def ZN (G : Gv) : Prop := ∀ U : State, KK G U → ∀ a ∈ anm, ∀ b ∈ anm4, a ≠ b → va_Nc a b U
theorem kns_1 : ∀ a ∈ kns, ∀ b ∈ kns, a.2 = b.2 → a.1 = b.1 := by decide
theorem kns_2 : ∀ a ∈ kns, ∀ b ∈ kns, a.1 = b.1 → a.2 = b.2 := by decide
theorem kns_3 : ∀ a ∈ kns, a.2 ∈ anm := by decide
theorem ks_PL {PL : Nat → Bool} {v : Mem} {o : Nat} (h : ks PL v o = true) : PL o = true := by
  unfold ks at h
  exact (Bool.and_eq_true _ _ ▸ h).1
theorem ks_le {PL : Nat → Bool} {v : Mem} {o : Nat} (h : ks PL v o = true) : (v.1 o 98).toNatClampNeg ≤ 90 := by
  unfold ks at h
  rw [Bool.and_eq_true, Bool.and_eq_true] at h
  exact of_decide_eq_true h.2.2
theorem ks_k {PL : Nat → Bool} {v : Mem} {o : Nat} (h : ks PL v o = true) : v.1 o 99 = 32 ∨ v.1 o 99 = 33 ∨ v.1 o 99 = 34 ∨ v.1 o 99 = 35 ∨ v.1 o 99 = 36 := by
  unfold ks at h
  rw [Bool.and_eq_true, Bool.and_eq_true] at h
  have h1 := h.2.1
  simp only [Bool.or_eq_true] at h1
  exact h1.imp of_decide_eq_true (fun h => h.imp of_decide_eq_true (fun h => h.imp of_decide_eq_true (fun h => h.imp of_decide_eq_true of_decide_eq_true)))
theorem arrV_cg {cI : ClassId} {N : Nat} {f g : Nat → Value} (h : ∀ j, j < N → f j = g j) : arrV cI N f = arrV cI N g := by
  unfold arrV
  congr 2
  funext j
  exact h j.1 j.2
section TPE
variable {p : Program} {l : Launch} {e : Env} {R : Room} {s : State} {m : MethodId} {args : Array Value} {below : List Frame} {meth : Method} {c : Code} {H : Heap} {locs : List Loc} {cells slots : Nat} {Q : State → Prop}
variable {cc : ByteArray} {pc : Nat} {ls : Array Slot} {rest : List Value} {G : Gv} {PL : Nat → Bool} {A : Nat → Prop} {H0 : Heap} {own : String} {index q h nL : Nat} {v : Mem}

theorem rp_rc32 (hK : KK G s) (hW : pl G PL v H) (h1 : PL q = true) (h2 : v.1 q 99 = 32) : RcV s H "[I" q := ⟨_, hW q _ (shP_32 h1 h2), rfl, va_nm_int (hK.1.2 0 _ rfl).2⟩
theorem rp_ast32 {x : Int32} {i : Int32} {H1 : Heap} (hW : pl G PL v H) (hk : ka PL v q 32 = true) (hin : inR i (v.1 q 98).toNatClampNeg = true) (e : H1[q]? = some ((vp_cell (G.2.1 0) ((v.1 q 98).toNatClampNeg, .inl (v.1 q))).setSlot i.toNatClampNeg (.int x))) (oq : ∀ z, z ≠ q → H1[z]? = H[z]?) : pl G PL (sI v q i.toNatClampNeg x) H1 := by
  have h8 : i.toNatClampNeg < 90 := Nat.lt_of_lt_of_le (inR_lt hin) (ka_le hk)
  refine pl_upd hW oq sI_ne fun y hy => ?_
  rw [sI_eq] at hy
  have h9 : (fun b => if b = i.toNatClampNeg then x else v.1 q b) 99 = (32 : Int32) := by
    show (if 99 = i.toNatClampNeg then x else v.1 q 99) = 32
    rw [if_neg (by omega)]
    exact kd_k (ka_kd hk)
  rw [shP_32 (kd_PL (ka_kd hk)) h9] at hy
  cases hy
  show H1[q]? = some (vp_cell _ _)
  rw [e]
  rw [vp_cell_i, vp_cell_i, arrV_store]
  have h7 : (if 98 = i.toNatClampNeg then x else v.1 q 98) = v.1 q 98 := if_neg (by omega)
  rw [h7]
  show some (arrV _ (v.1 q 98).toNatClampNeg _) = some (arrV _ (v.1 q 98).toNatClampNeg _)
  congr 2
  funext j
  by_cases hj : j = i.toNatClampNeg
  · subst hj
    simp [updV]
  · simp [updV, hj]
theorem rp_st32 (hx : p.tables.exec = Jvm.exec) (hb : c.code = cc) (hK : KK G s) (hW : pl G PL v H) (hS : va_S A H0 H locs) (hA : A q) (hk : ka PL v q 32 = true) {i : Int32} {x : Int32} (hin : inR i (v.1 q 98).toNatClampNeg = true) (hdg : decode cc pc = .ok (.iastore, 1))
    (kk : ∀ (H1 : Heap) (locs1 : List Loc), pl G PL (sI v q i.toNatClampNeg x) H1 → va_S A H0 H1 locs1 → H1.size = H.size → (∀ z, z ≠ q → H1[z]? = H[z]?) → W p l e R s m args below meth c H1 locs1 cells slots Q (F0 m (pc + 1) ls rest)) : W p l e R s m args below meth c H locs cells slots Q (F0 m pc ls (.int x :: .int i :: .ref q :: rest)) := by
  refine W.iast hx hb (hW q _ (shP_32 (kd_PL (ka_kd hk)) (kd_k (ka_kd hk)))) ((hK.1.2 0 _ rfl).1 _ (fun j => .int (v.1 q j))) (fun q => by cases q) (by show ¬ (i < 0 ∨ (arrV _ _ _).slots.size ≤ _); rw [arrV_size]; exact inR_in hin) rfl rfl hdg fun H1 e z oq => ?_
  skip
  exact kk H1 _ (rp_ast32 hW hk hin e oq) (hS.put z oq hA) z oq
theorem rp_ld32 (hx : p.tables.exec = Jvm.exec) (hb : c.code = cc) (hK : KK G s) (hW : pl G PL v H) (hk : ka PL v q 32 = true) {i : Int32} (hin : inR i (v.1 q 98).toNatClampNeg = true) (hdg : decode cc pc = .ok (.iaload, 1))
    (kk : W p l e R s m args below meth c H locs cells slots Q (F0 m (pc + 1) ls (.int (gI v q i.toNatClampNeg) :: rest))) : W p l e R s m args below meth c H locs cells slots Q (F0 m pc ls (.int i :: .ref q :: rest)) :=
  va_iald hx hb hK.1 (rg_P (pl_rg hW (n := q + 1)) (Nat.lt_succ_self q) (Nat.zero_add q).symm (shP_32 (kd_PL (ka_kd hk)) (kd_k (ka_kd hk)))) 0 0 rfl rfl (inR_in hin) hdg kk
theorem rp_len32 (hx : p.tables.exec = Jvm.exec) (hb : c.code = cc) (hK : KK G s) (hW : pl G PL v H) (hk : ka PL v q 32 = true) (hdg : decode cc pc = .ok (.arraylength, 1))
    (kk : W p l e R s m args below meth c H locs cells slots Q (F0 m (pc + 1) ls (.int (Int32.ofNat (gI v q 98).toNatClampNeg) :: rest))) : W p l e R s m args below meth c H locs cells slots Q (F0 m pc ls (.ref q :: rest)) :=
  rk_alen hx hb hK (pl_rg hW (n := q + 1)) q 0 (Nat.lt_succ_self q) (Nat.zero_add q).symm (shP_32 (kd_PL (ka_kd hk)) (kd_k (ka_kd hk))) rfl rfl hdg kk
theorem rp_cast32 (hx : p.tables.exec = Jvm.exec) (hb : c.code = cc) (hown : s.vm.findClass own = some m.cls) (hts : ∀ w ∈ lw_all, w.before args s = true) (hK : KK G s) (hlink : Cond.classLink own index "[I" ∈ lw_all) (hW : pl G PL v H) (hk : ka PL v q 32 = true) (hdg : decode cc pc = .ok (.checkcast index, 3))
    (kk : W p l e R s m args below meth c H locs cells slots Q (F0 m (pc + 3) ls (.ref q :: rest))) : W p l e R s m args below meth c H locs cells slots Q (F0 m pc ls (.ref q :: rest)) :=
  va_castE hx hb hown (hts _ hlink) (rp_rc32 hK hW (kd_PL (ka_kd hk)) (kd_k (ka_kd hk))) hdg kk
theorem rp_newa32 (hx : p.tables.exec = Jvm.exec) (hb : c.code = cc) (hts : ∀ w ∈ lw_all, w.before args s = true) (hK : KK G s) (hW : pl G PL v H) (hS : va_S A H0 H locs) (harr : Cond.arrayClass .int ∈ lw_all) (hz : H.size = h) (hP : PL h = true) {n : Int32} (hn : ¬ n < 0) (hN : n.toNatClampNeg ≤ 90) (hcells : cells + 1 ≤ R.cells) (hslots : slots + 90 ≤ R.slots) (hdg : decode cc pc = .ok (.newarray .int, 2))
    (kk : ∀ (H1 : Heap), pl G PL (nwP v h 32 n) H1 → va_S A H0 H1 locs → H1.size = h + 1 → (∀ z, z < h → H1[z]? = H[z]?) → W p l e R s m args below meth c H1 locs (cells + 1) (slots + 90) Q (F0 m (pc + 2) ls (.ref h :: rest))) : W p l e R s m args below meth c H locs cells slots Q (F0 m pc ls (.int n :: rest)) := by
  have he : shP PL G.2.1 h 0 (fun j => if j = 99 then 32 else if j = 98 then n else 0) (fun _ => 0) (fun _ => none) = some (.inl (G.2.1 0, n.toNatClampNeg, .inl (fun j => if j = 99 then 32 else if j = 98 then n else 0))) := shP_32 hP rfl
  refine rk_newarr (atype := .int) (sh := fun _ _ _ _ _ => some (.inl (G.2.1 0, n.toNatClampNeg, .inl (fun j => if j = 99 then 32 else if j = 98 then n else 0)))) hx hb hts hK hS harr 0 rfl (by intro C h; cases h) hz rfl (N9 := n.toNatClampNeg) ?_ hn rfl (Nat.le_trans (Nat.mul_le_mul hN (show componentBytes (newarray.typeOf .int) ≤ 8 by decide)) (by decide)) hcells (by omega) hdg (fun H1 h1 h2 h3 h4 => ?_)
  · rw [vp_cell_i]
    exact arrV_cg (fun j hj => by show Value.int (if j = 99 then 32 else if j = 98 then n else 0) = _; rw [if_neg (by omega), if_neg (by omega)]; rfl)
  · refine rk_widen (Nat.le_refl _) (by omega) (kk H1 (pl_new hW hz h4 (e := .inl (G.2.1 0, n.toNatClampNeg, .inl (fun j => if j = 99 then 32 else if j = 98 then n else 0))) (by rw [nwP_i, nwP_l, nwP_r]; exact he) (by have h5 := h1 0 (by decide) _ rfl; rw [Nat.add_zero] at h5; exact h5)) h2 h3 h4)
theorem rp_rc33 (hK : KK G s) (hW : pl G PL v H) (h1 : PL q = true) (h2 : v.1 q 99 = 33) : RcV s H "[J" q := ⟨_, hW q _ (shP_33 h1 h2), rfl, va_nm_long (hK.1.2 1 _ rfl).2⟩
theorem rp_ast33 {x : Int64} {i : Int32} {H1 : Heap} (hW : pl G PL v H) (hk : ka PL v q 33 = true) (hin : inR i (v.1 q 98).toNatClampNeg = true) (e : H1[q]? = some ((vp_cell (G.2.1 1) ((v.1 q 98).toNatClampNeg, .inr (.inl (v.2.1 q)))).setSlot i.toNatClampNeg (.long x))) (oq : ∀ z, z ≠ q → H1[z]? = H[z]?) : pl G PL (sL v q i.toNatClampNeg x) H1 := by
  have h8 : i.toNatClampNeg < 90 := Nat.lt_of_lt_of_le (inR_lt hin) (ka_le hk)
  refine pl_upd hW oq sL_ne fun y hy => ?_
  rw [sL_eq] at hy
  have h9 : (sL v q i.toNatClampNeg x).1 q 99 = 33 := kd_k (ka_kd hk)
  rw [shP_33 (kd_PL (ka_kd hk)) h9] at hy
  cases hy
  show H1[q]? = some (vp_cell _ _)
  rw [e]
  rw [vp_cell_l, vp_cell_l, arrV_store]
  have h7 : True := trivial
  show some (arrV _ (v.1 q 98).toNatClampNeg _) = some (arrV _ (v.1 q 98).toNatClampNeg _)
  congr 2
  funext j
  by_cases hj : j = i.toNatClampNeg
  · subst hj
    simp [updV]
  · simp [updV, hj]
theorem rp_st33 (hx : p.tables.exec = Jvm.exec) (hb : c.code = cc) (hK : KK G s) (hW : pl G PL v H) (hS : va_S A H0 H locs) (hA : A q) (hk : ka PL v q 33 = true) {i : Int32} {x : Int64} (hin : inR i (v.1 q 98).toNatClampNeg = true) (hdg : decode cc pc = .ok (.lastore, 1))
    (kk : ∀ (H1 : Heap) (locs1 : List Loc), pl G PL (sL v q i.toNatClampNeg x) H1 → va_S A H0 H1 locs1 → H1.size = H.size → (∀ z, z ≠ q → H1[z]? = H[z]?) → W p l e R s m args below meth c H1 locs1 cells slots Q (F0 m (pc + 1) ls rest)) : W p l e R s m args below meth c H locs cells slots Q (F0 m pc ls (.long x :: .int i :: .ref q :: rest)) := by
  refine W.last hx hb (hW q _ (shP_33 (kd_PL (ka_kd hk)) (kd_k (ka_kd hk)))) ((hK.1.2 1 _ rfl).1 _ (fun j => .long (v.2.1 q j))) (fun q => by cases q) (by show ¬ (i < 0 ∨ (arrV _ _ _).slots.size ≤ _); rw [arrV_size]; exact inR_in hin) rfl rfl hdg fun H1 e z oq => ?_
  skip
  exact kk H1 _ (rp_ast33 hW hk hin e oq) (hS.put z oq hA) z oq
theorem rp_ld33 (hx : p.tables.exec = Jvm.exec) (hb : c.code = cc) (hK : KK G s) (hW : pl G PL v H) (hk : ka PL v q 33 = true) {i : Int32} (hin : inR i (v.1 q 98).toNatClampNeg = true) (hdg : decode cc pc = .ok (.laload, 1))
    (kk : W p l e R s m args below meth c H locs cells slots Q (F0 m (pc + 1) ls (.long (gL v q i.toNatClampNeg) :: rest))) : W p l e R s m args below meth c H locs cells slots Q (F0 m pc ls (.int i :: .ref q :: rest)) :=
  va_lald hx hb hK.1 (rg_P (pl_rg hW (n := q + 1)) (Nat.lt_succ_self q) (Nat.zero_add q).symm (shP_33 (kd_PL (ka_kd hk)) (kd_k (ka_kd hk)))) 0 1 rfl rfl (inR_in hin) hdg kk
theorem rp_len33 (hx : p.tables.exec = Jvm.exec) (hb : c.code = cc) (hK : KK G s) (hW : pl G PL v H) (hk : ka PL v q 33 = true) (hdg : decode cc pc = .ok (.arraylength, 1))
    (kk : W p l e R s m args below meth c H locs cells slots Q (F0 m (pc + 1) ls (.int (Int32.ofNat (gI v q 98).toNatClampNeg) :: rest))) : W p l e R s m args below meth c H locs cells slots Q (F0 m pc ls (.ref q :: rest)) :=
  rk_alen hx hb hK (pl_rg hW (n := q + 1)) q 1 (Nat.lt_succ_self q) (Nat.zero_add q).symm (shP_33 (kd_PL (ka_kd hk)) (kd_k (ka_kd hk))) rfl rfl hdg kk
theorem rp_cast33 (hx : p.tables.exec = Jvm.exec) (hb : c.code = cc) (hown : s.vm.findClass own = some m.cls) (hts : ∀ w ∈ lw_all, w.before args s = true) (hK : KK G s) (hlink : Cond.classLink own index "[J" ∈ lw_all) (hW : pl G PL v H) (hk : ka PL v q 33 = true) (hdg : decode cc pc = .ok (.checkcast index, 3))
    (kk : W p l e R s m args below meth c H locs cells slots Q (F0 m (pc + 3) ls (.ref q :: rest))) : W p l e R s m args below meth c H locs cells slots Q (F0 m pc ls (.ref q :: rest)) :=
  va_castE hx hb hown (hts _ hlink) (rp_rc33 hK hW (kd_PL (ka_kd hk)) (kd_k (ka_kd hk))) hdg kk
theorem rp_newa33 (hx : p.tables.exec = Jvm.exec) (hb : c.code = cc) (hts : ∀ w ∈ lw_all, w.before args s = true) (hK : KK G s) (hW : pl G PL v H) (hS : va_S A H0 H locs) (harr : Cond.arrayClass .long ∈ lw_all) (hz : H.size = h) (hP : PL h = true) {n : Int32} (hn : ¬ n < 0) (hN : n.toNatClampNeg ≤ 90) (hcells : cells + 1 ≤ R.cells) (hslots : slots + 90 ≤ R.slots) (hdg : decode cc pc = .ok (.newarray .long, 2))
    (kk : ∀ (H1 : Heap), pl G PL (nwP v h 33 n) H1 → va_S A H0 H1 locs → H1.size = h + 1 → (∀ z, z < h → H1[z]? = H[z]?) → W p l e R s m args below meth c H1 locs (cells + 1) (slots + 90) Q (F0 m (pc + 2) ls (.ref h :: rest))) : W p l e R s m args below meth c H locs cells slots Q (F0 m pc ls (.int n :: rest)) := by
  have he : shP PL G.2.1 h 0 (fun j => if j = 99 then 33 else if j = 98 then n else 0) (fun _ => 0) (fun _ => none) = some (.inl (G.2.1 1, n.toNatClampNeg, .inr (.inl (fun _ => 0)))) := shP_33 hP rfl
  refine rk_newarr (atype := .long) (sh := fun _ _ _ _ _ => some (.inl (G.2.1 1, n.toNatClampNeg, .inr (.inl (fun _ => 0))))) hx hb hts hK hS harr 1 rfl (by intro C h; cases h) hz rfl (N9 := n.toNatClampNeg) ?_ hn rfl (Nat.le_trans (Nat.mul_le_mul hN (show componentBytes (newarray.typeOf .long) ≤ 8 by decide)) (by decide)) hcells (by omega) hdg (fun H1 h1 h2 h3 h4 => ?_)
  · rw [vp_cell_l]
    exact arrV_cg (fun j hj => by rfl)
  · refine rk_widen (Nat.le_refl _) (by omega) (kk H1 (pl_new hW hz h4 (e := .inl (G.2.1 1, n.toNatClampNeg, .inr (.inl (fun _ => 0)))) (by rw [nwP_i, nwP_l, nwP_r]; exact he) (by have h5 := h1 0 (by decide) _ rfl; rw [Nat.add_zero] at h5; exact h5)) h2 h3 h4)
theorem rp_rc34 (hK : KK G s) (hW : pl G PL v H) (h1 : PL q = true) (h2 : v.1 q 99 = 34) : RcV s H "[B" q := ⟨_, hW q _ (shP_34 h1 h2), rfl, va_nm_byte (hK.1.2 2 _ rfl).2⟩
theorem rp_ast34 {x : Int32} {i : Int32} {H1 : Heap} (hW : pl G PL v H) (hk : ka PL v q 34 = true) (hin : inR i (v.1 q 98).toNatClampNeg = true) (e : H1[q]? = some ((vp_cell (G.2.1 2) ((v.1 q 98).toNatClampNeg, .inl (v.1 q))).setSlot i.toNatClampNeg (.int x))) (oq : ∀ z, z ≠ q → H1[z]? = H[z]?) : pl G PL (sI v q i.toNatClampNeg x) H1 := by
  have h8 : i.toNatClampNeg < 90 := Nat.lt_of_lt_of_le (inR_lt hin) (ka_le hk)
  refine pl_upd hW oq sI_ne fun y hy => ?_
  rw [sI_eq] at hy
  have h9 : (fun b => if b = i.toNatClampNeg then x else v.1 q b) 99 = (34 : Int32) := by
    show (if 99 = i.toNatClampNeg then x else v.1 q 99) = 34
    rw [if_neg (by omega)]
    exact kd_k (ka_kd hk)
  rw [shP_34 (kd_PL (ka_kd hk)) h9] at hy
  cases hy
  show H1[q]? = some (vp_cell _ _)
  rw [e]
  rw [vp_cell_i, vp_cell_i, arrV_store]
  have h7 : (if 98 = i.toNatClampNeg then x else v.1 q 98) = v.1 q 98 := if_neg (by omega)
  rw [h7]
  show some (arrV _ (v.1 q 98).toNatClampNeg _) = some (arrV _ (v.1 q 98).toNatClampNeg _)
  congr 2
  funext j
  by_cases hj : j = i.toNatClampNeg
  · subst hj
    simp [updV]
  · simp [updV, hj]
theorem rp_st34 (hx : p.tables.exec = Jvm.exec) (hb : c.code = cc) (hK : KK G s) (hW : pl G PL v H) (hS : va_S A H0 H locs) (hA : A q) (hk : ka PL v q 34 = true) {i : Int32} {x : Int32} (hin : inR i (v.1 q 98).toNatClampNeg = true) (hdg : decode cc pc = .ok (.bastore, 1))
    (kk : ∀ (H1 : Heap) (locs1 : List Loc), pl G PL (sI v q i.toNatClampNeg (x.toInt8.toInt32)) H1 → va_S A H0 H1 locs1 → H1.size = H.size → (∀ z, z ≠ q → H1[z]? = H[z]?) → W p l e R s m args below meth c H1 locs1 cells slots Q (F0 m (pc + 1) ls rest)) : W p l e R s m args below meth c H locs cells slots Q (F0 m pc ls (.int x :: .int i :: .ref q :: rest)) := by
  refine W.bast hx hb (hW q _ (shP_34 (kd_PL (ka_kd hk)) (kd_k (ka_kd hk)))) ((hK.1.2 2 _ rfl).1 _ (fun j => .int (v.1 q j))) (fun q => by cases q) (by show ¬ (i < 0 ∨ (arrV _ _ _).slots.size ≤ _); rw [arrV_size]; exact inR_in hin) rfl rfl hdg fun H1 e z oq => ?_
  rw [narrow_byte] at e
  exact kk H1 _ (rp_ast34 hW hk hin e oq) (hS.put z oq hA) z oq
theorem rp_ld34 (hx : p.tables.exec = Jvm.exec) (hb : c.code = cc) (hK : KK G s) (hW : pl G PL v H) (hk : ka PL v q 34 = true) {i : Int32} (hin : inR i (v.1 q 98).toNatClampNeg = true) (hdg : decode cc pc = .ok (.baload, 1))
    (kk : W p l e R s m args below meth c H locs cells slots Q (F0 m (pc + 1) ls (.int (gI v q i.toNatClampNeg) :: rest))) : W p l e R s m args below meth c H locs cells slots Q (F0 m pc ls (.int i :: .ref q :: rest)) :=
  va_bald hx hb hK.1 (rg_P (pl_rg hW (n := q + 1)) (Nat.lt_succ_self q) (Nat.zero_add q).symm (shP_34 (kd_PL (ka_kd hk)) (kd_k (ka_kd hk)))) 0 2 rfl rfl (inR_in hin) hdg kk
theorem rp_len34 (hx : p.tables.exec = Jvm.exec) (hb : c.code = cc) (hK : KK G s) (hW : pl G PL v H) (hk : ka PL v q 34 = true) (hdg : decode cc pc = .ok (.arraylength, 1))
    (kk : W p l e R s m args below meth c H locs cells slots Q (F0 m (pc + 1) ls (.int (Int32.ofNat (gI v q 98).toNatClampNeg) :: rest))) : W p l e R s m args below meth c H locs cells slots Q (F0 m pc ls (.ref q :: rest)) :=
  rk_alen hx hb hK (pl_rg hW (n := q + 1)) q 2 (Nat.lt_succ_self q) (Nat.zero_add q).symm (shP_34 (kd_PL (ka_kd hk)) (kd_k (ka_kd hk))) rfl rfl hdg kk
theorem rp_cast34 (hx : p.tables.exec = Jvm.exec) (hb : c.code = cc) (hown : s.vm.findClass own = some m.cls) (hts : ∀ w ∈ lw_all, w.before args s = true) (hK : KK G s) (hlink : Cond.classLink own index "[B" ∈ lw_all) (hW : pl G PL v H) (hk : ka PL v q 34 = true) (hdg : decode cc pc = .ok (.checkcast index, 3))
    (kk : W p l e R s m args below meth c H locs cells slots Q (F0 m (pc + 3) ls (.ref q :: rest))) : W p l e R s m args below meth c H locs cells slots Q (F0 m pc ls (.ref q :: rest)) :=
  va_castE hx hb hown (hts _ hlink) (rp_rc34 hK hW (kd_PL (ka_kd hk)) (kd_k (ka_kd hk))) hdg kk
theorem rp_newa34 (hx : p.tables.exec = Jvm.exec) (hb : c.code = cc) (hts : ∀ w ∈ lw_all, w.before args s = true) (hK : KK G s) (hW : pl G PL v H) (hS : va_S A H0 H locs) (harr : Cond.arrayClass .byte ∈ lw_all) (hz : H.size = h) (hP : PL h = true) {n : Int32} (hn : ¬ n < 0) (hN : n.toNatClampNeg ≤ 90) (hcells : cells + 1 ≤ R.cells) (hslots : slots + 90 ≤ R.slots) (hdg : decode cc pc = .ok (.newarray .byte, 2))
    (kk : ∀ (H1 : Heap), pl G PL (nwP v h 34 n) H1 → va_S A H0 H1 locs → H1.size = h + 1 → (∀ z, z < h → H1[z]? = H[z]?) → W p l e R s m args below meth c H1 locs (cells + 1) (slots + 90) Q (F0 m (pc + 2) ls (.ref h :: rest))) : W p l e R s m args below meth c H locs cells slots Q (F0 m pc ls (.int n :: rest)) := by
  have he : shP PL G.2.1 h 0 (fun j => if j = 99 then 34 else if j = 98 then n else 0) (fun _ => 0) (fun _ => none) = some (.inl (G.2.1 2, n.toNatClampNeg, .inl (fun j => if j = 99 then 34 else if j = 98 then n else 0))) := shP_34 hP rfl
  refine rk_newarr (atype := .byte) (sh := fun _ _ _ _ _ => some (.inl (G.2.1 2, n.toNatClampNeg, .inl (fun j => if j = 99 then 34 else if j = 98 then n else 0)))) hx hb hts hK hS harr 2 rfl (by intro C h; cases h) hz rfl (N9 := n.toNatClampNeg) ?_ hn rfl (Nat.le_trans (Nat.mul_le_mul hN (show componentBytes (newarray.typeOf .byte) ≤ 8 by decide)) (by decide)) hcells (by omega) hdg (fun H1 h1 h2 h3 h4 => ?_)
  · rw [vp_cell_i]
    exact arrV_cg (fun j hj => by show Value.int (if j = 99 then 34 else if j = 98 then n else 0) = _; rw [if_neg (by omega), if_neg (by omega)]; rfl)
  · refine rk_widen (Nat.le_refl _) (by omega) (kk H1 (pl_new hW hz h4 (e := .inl (G.2.1 2, n.toNatClampNeg, .inl (fun j => if j = 99 then 34 else if j = 98 then n else 0))) (by rw [nwP_i, nwP_l, nwP_r]; exact he) (by have h5 := h1 0 (by decide) _ rfl; rw [Nat.add_zero] at h5; exact h5)) h2 h3 h4)
theorem rp_rc35 (hK : KK G s) (hW : pl G PL v H) (h1 : PL q = true) (h2 : v.1 q 99 = 35) : RcV s H "[S" q := ⟨_, hW q _ (shP_35 h1 h2), rfl, va_nm_short (hK.1.2 3 _ rfl).2⟩
theorem rp_ast35 {x : Int32} {i : Int32} {H1 : Heap} (hW : pl G PL v H) (hk : ka PL v q 35 = true) (hin : inR i (v.1 q 98).toNatClampNeg = true) (e : H1[q]? = some ((vp_cell (G.2.1 3) ((v.1 q 98).toNatClampNeg, .inl (v.1 q))).setSlot i.toNatClampNeg (.int x))) (oq : ∀ z, z ≠ q → H1[z]? = H[z]?) : pl G PL (sI v q i.toNatClampNeg x) H1 := by
  have h8 : i.toNatClampNeg < 90 := Nat.lt_of_lt_of_le (inR_lt hin) (ka_le hk)
  refine pl_upd hW oq sI_ne fun y hy => ?_
  rw [sI_eq] at hy
  have h9 : (fun b => if b = i.toNatClampNeg then x else v.1 q b) 99 = (35 : Int32) := by
    show (if 99 = i.toNatClampNeg then x else v.1 q 99) = 35
    rw [if_neg (by omega)]
    exact kd_k (ka_kd hk)
  rw [shP_35 (kd_PL (ka_kd hk)) h9] at hy
  cases hy
  show H1[q]? = some (vp_cell _ _)
  rw [e]
  rw [vp_cell_i, vp_cell_i, arrV_store]
  have h7 : (if 98 = i.toNatClampNeg then x else v.1 q 98) = v.1 q 98 := if_neg (by omega)
  rw [h7]
  show some (arrV _ (v.1 q 98).toNatClampNeg _) = some (arrV _ (v.1 q 98).toNatClampNeg _)
  congr 2
  funext j
  by_cases hj : j = i.toNatClampNeg
  · subst hj
    simp [updV]
  · simp [updV, hj]
theorem rp_st35 (hx : p.tables.exec = Jvm.exec) (hb : c.code = cc) (hK : KK G s) (hW : pl G PL v H) (hS : va_S A H0 H locs) (hA : A q) (hk : ka PL v q 35 = true) {i : Int32} {x : Int32} (hin : inR i (v.1 q 98).toNatClampNeg = true) (hdg : decode cc pc = .ok (.sastore, 1))
    (kk : ∀ (H1 : Heap) (locs1 : List Loc), pl G PL (sI v q i.toNatClampNeg (x.toInt16.toInt32)) H1 → va_S A H0 H1 locs1 → H1.size = H.size → (∀ z, z ≠ q → H1[z]? = H[z]?) → W p l e R s m args below meth c H1 locs1 cells slots Q (F0 m (pc + 1) ls rest)) : W p l e R s m args below meth c H locs cells slots Q (F0 m pc ls (.int x :: .int i :: .ref q :: rest)) := by
  refine W.sast hx hb (hW q _ (shP_35 (kd_PL (ka_kd hk)) (kd_k (ka_kd hk)))) ((hK.1.2 3 _ rfl).1 _ (fun j => .int (v.1 q j))) (fun q => by cases q) (by show ¬ (i < 0 ∨ (arrV _ _ _).slots.size ≤ _); rw [arrV_size]; exact inR_in hin) rfl rfl hdg fun H1 e z oq => ?_
  rw [show narrow .short (.int x) = .int x.toInt16.toInt32 from rfl] at e
  exact kk H1 _ (rp_ast35 hW hk hin e oq) (hS.put z oq hA) z oq
theorem rp_ld35 (hx : p.tables.exec = Jvm.exec) (hb : c.code = cc) (hK : KK G s) (hW : pl G PL v H) (hk : ka PL v q 35 = true) {i : Int32} (hin : inR i (v.1 q 98).toNatClampNeg = true) (hdg : decode cc pc = .ok (.saload, 1))
    (kk : W p l e R s m args below meth c H locs cells slots Q (F0 m (pc + 1) ls (.int (gI v q i.toNatClampNeg) :: rest))) : W p l e R s m args below meth c H locs cells slots Q (F0 m pc ls (.int i :: .ref q :: rest)) :=
  va_sald hx hb hK.1 (rg_P (pl_rg hW (n := q + 1)) (Nat.lt_succ_self q) (Nat.zero_add q).symm (shP_35 (kd_PL (ka_kd hk)) (kd_k (ka_kd hk)))) 0 3 rfl rfl (inR_in hin) hdg kk
theorem rp_len35 (hx : p.tables.exec = Jvm.exec) (hb : c.code = cc) (hK : KK G s) (hW : pl G PL v H) (hk : ka PL v q 35 = true) (hdg : decode cc pc = .ok (.arraylength, 1))
    (kk : W p l e R s m args below meth c H locs cells slots Q (F0 m (pc + 1) ls (.int (Int32.ofNat (gI v q 98).toNatClampNeg) :: rest))) : W p l e R s m args below meth c H locs cells slots Q (F0 m pc ls (.ref q :: rest)) :=
  rk_alen hx hb hK (pl_rg hW (n := q + 1)) q 3 (Nat.lt_succ_self q) (Nat.zero_add q).symm (shP_35 (kd_PL (ka_kd hk)) (kd_k (ka_kd hk))) rfl rfl hdg kk
theorem rp_cast35 (hx : p.tables.exec = Jvm.exec) (hb : c.code = cc) (hown : s.vm.findClass own = some m.cls) (hts : ∀ w ∈ lw_all, w.before args s = true) (hK : KK G s) (hlink : Cond.classLink own index "[S" ∈ lw_all) (hW : pl G PL v H) (hk : ka PL v q 35 = true) (hdg : decode cc pc = .ok (.checkcast index, 3))
    (kk : W p l e R s m args below meth c H locs cells slots Q (F0 m (pc + 3) ls (.ref q :: rest))) : W p l e R s m args below meth c H locs cells slots Q (F0 m pc ls (.ref q :: rest)) :=
  va_castE hx hb hown (hts _ hlink) (rp_rc35 hK hW (kd_PL (ka_kd hk)) (kd_k (ka_kd hk))) hdg kk
theorem rp_newa35 (hx : p.tables.exec = Jvm.exec) (hb : c.code = cc) (hts : ∀ w ∈ lw_all, w.before args s = true) (hK : KK G s) (hW : pl G PL v H) (hS : va_S A H0 H locs) (harr : Cond.arrayClass .short ∈ lw_all) (hz : H.size = h) (hP : PL h = true) {n : Int32} (hn : ¬ n < 0) (hN : n.toNatClampNeg ≤ 90) (hcells : cells + 1 ≤ R.cells) (hslots : slots + 90 ≤ R.slots) (hdg : decode cc pc = .ok (.newarray .short, 2))
    (kk : ∀ (H1 : Heap), pl G PL (nwP v h 35 n) H1 → va_S A H0 H1 locs → H1.size = h + 1 → (∀ z, z < h → H1[z]? = H[z]?) → W p l e R s m args below meth c H1 locs (cells + 1) (slots + 90) Q (F0 m (pc + 2) ls (.ref h :: rest))) : W p l e R s m args below meth c H locs cells slots Q (F0 m pc ls (.int n :: rest)) := by
  have he : shP PL G.2.1 h 0 (fun j => if j = 99 then 35 else if j = 98 then n else 0) (fun _ => 0) (fun _ => none) = some (.inl (G.2.1 3, n.toNatClampNeg, .inl (fun j => if j = 99 then 35 else if j = 98 then n else 0))) := shP_35 hP rfl
  refine rk_newarr (atype := .short) (sh := fun _ _ _ _ _ => some (.inl (G.2.1 3, n.toNatClampNeg, .inl (fun j => if j = 99 then 35 else if j = 98 then n else 0)))) hx hb hts hK hS harr 3 rfl (by intro C h; cases h) hz rfl (N9 := n.toNatClampNeg) ?_ hn rfl (Nat.le_trans (Nat.mul_le_mul hN (show componentBytes (newarray.typeOf .short) ≤ 8 by decide)) (by decide)) hcells (by omega) hdg (fun H1 h1 h2 h3 h4 => ?_)
  · rw [vp_cell_i]
    exact arrV_cg (fun j hj => by show Value.int (if j = 99 then 35 else if j = 98 then n else 0) = _; rw [if_neg (by omega), if_neg (by omega)]; rfl)
  · refine rk_widen (Nat.le_refl _) (by omega) (kk H1 (pl_new hW hz h4 (e := .inl (G.2.1 3, n.toNatClampNeg, .inl (fun j => if j = 99 then 35 else if j = 98 then n else 0))) (by rw [nwP_i, nwP_l, nwP_r]; exact he) (by have h5 := h1 0 (by decide) _ rfl; rw [Nat.add_zero] at h5; exact h5)) h2 h3 h4)
theorem rp_rc36 (hK : KK G s) (hW : pl G PL v H) (h1 : PL q = true) (h2 : v.1 q 99 = 36) : RcV s H "[Z" q := ⟨_, hW q _ (shP_36 h1 h2), rfl, va_nm_boolean (hK.1.2 4 _ rfl).2⟩
theorem rp_ast36 {x : Int32} {i : Int32} {H1 : Heap} (hW : pl G PL v H) (hk : ka PL v q 36 = true) (hin : inR i (v.1 q 98).toNatClampNeg = true) (e : H1[q]? = some ((vp_cell (G.2.1 4) ((v.1 q 98).toNatClampNeg, .inl (v.1 q))).setSlot i.toNatClampNeg (.int x))) (oq : ∀ z, z ≠ q → H1[z]? = H[z]?) : pl G PL (sI v q i.toNatClampNeg x) H1 := by
  have h8 : i.toNatClampNeg < 90 := Nat.lt_of_lt_of_le (inR_lt hin) (ka_le hk)
  refine pl_upd hW oq sI_ne fun y hy => ?_
  rw [sI_eq] at hy
  have h9 : (fun b => if b = i.toNatClampNeg then x else v.1 q b) 99 = (36 : Int32) := by
    show (if 99 = i.toNatClampNeg then x else v.1 q 99) = 36
    rw [if_neg (by omega)]
    exact kd_k (ka_kd hk)
  rw [shP_36 (kd_PL (ka_kd hk)) h9] at hy
  cases hy
  show H1[q]? = some (vp_cell _ _)
  rw [e]
  rw [vp_cell_i, vp_cell_i, arrV_store]
  have h7 : (if 98 = i.toNatClampNeg then x else v.1 q 98) = v.1 q 98 := if_neg (by omega)
  rw [h7]
  show some (arrV _ (v.1 q 98).toNatClampNeg _) = some (arrV _ (v.1 q 98).toNatClampNeg _)
  congr 2
  funext j
  by_cases hj : j = i.toNatClampNeg
  · subst hj
    simp [updV]
  · simp [updV, hj]
theorem rp_st36 (hx : p.tables.exec = Jvm.exec) (hb : c.code = cc) (hK : KK G s) (hW : pl G PL v H) (hS : va_S A H0 H locs) (hA : A q) (hk : ka PL v q 36 = true) {i : Int32} {x : Int32} (hin : inR i (v.1 q 98).toNatClampNeg = true) (hz1 : z01 x = true) (hdg : decode cc pc = .ok (.bastore, 1))
    (kk : ∀ (H1 : Heap) (locs1 : List Loc), pl G PL (sI v q i.toNatClampNeg x) H1 → va_S A H0 H1 locs1 → H1.size = H.size → (∀ z, z ≠ q → H1[z]? = H[z]?) → W p l e R s m args below meth c H1 locs1 cells slots Q (F0 m (pc + 1) ls rest)) : W p l e R s m args below meth c H locs cells slots Q (F0 m pc ls (.int x :: .int i :: .ref q :: rest)) := by
  refine W.zast hx hb (hW q _ (shP_36 (kd_PL (ka_kd hk)) (kd_k (ka_kd hk)))) ((hK.1.2 4 _ rfl).1 _ (fun j => .int (v.1 q j))) (fun q => by cases q) (by show ¬ (i < 0 ∨ (arrV _ _ _).slots.size ≤ _); rw [arrV_size]; exact inR_in hin) rfl rfl hdg fun H1 e z oq => ?_
  rw [z01_nar hz1] at e
  exact kk H1 _ (rp_ast36 hW hk hin e oq) (hS.put z oq hA) z oq
theorem rp_ld36 (hx : p.tables.exec = Jvm.exec) (hb : c.code = cc) (hK : KK G s) (hW : pl G PL v H) (hk : ka PL v q 36 = true) {i : Int32} (hin : inR i (v.1 q 98).toNatClampNeg = true) (hdg : decode cc pc = .ok (.baload, 1))
    (kk : W p l e R s m args below meth c H locs cells slots Q (F0 m (pc + 1) ls (.int (gI v q i.toNatClampNeg) :: rest))) : W p l e R s m args below meth c H locs cells slots Q (F0 m pc ls (.int i :: .ref q :: rest)) :=
  va_zald hx hb hK.1 (rg_P (pl_rg hW (n := q + 1)) (Nat.lt_succ_self q) (Nat.zero_add q).symm (shP_36 (kd_PL (ka_kd hk)) (kd_k (ka_kd hk)))) 0 4 rfl rfl (inR_in hin) hdg kk
theorem rp_len36 (hx : p.tables.exec = Jvm.exec) (hb : c.code = cc) (hK : KK G s) (hW : pl G PL v H) (hk : ka PL v q 36 = true) (hdg : decode cc pc = .ok (.arraylength, 1))
    (kk : W p l e R s m args below meth c H locs cells slots Q (F0 m (pc + 1) ls (.int (Int32.ofNat (gI v q 98).toNatClampNeg) :: rest))) : W p l e R s m args below meth c H locs cells slots Q (F0 m pc ls (.ref q :: rest)) :=
  rk_alen hx hb hK (pl_rg hW (n := q + 1)) q 4 (Nat.lt_succ_self q) (Nat.zero_add q).symm (shP_36 (kd_PL (ka_kd hk)) (kd_k (ka_kd hk))) rfl rfl hdg kk
theorem rp_cast36 (hx : p.tables.exec = Jvm.exec) (hb : c.code = cc) (hown : s.vm.findClass own = some m.cls) (hts : ∀ w ∈ lw_all, w.before args s = true) (hK : KK G s) (hlink : Cond.classLink own index "[Z" ∈ lw_all) (hW : pl G PL v H) (hk : ka PL v q 36 = true) (hdg : decode cc pc = .ok (.checkcast index, 3))
    (kk : W p l e R s m args below meth c H locs cells slots Q (F0 m (pc + 3) ls (.ref q :: rest))) : W p l e R s m args below meth c H locs cells slots Q (F0 m pc ls (.ref q :: rest)) :=
  va_castE hx hb hown (hts _ hlink) (rp_rc36 hK hW (kd_PL (ka_kd hk)) (kd_k (ka_kd hk))) hdg kk
theorem rp_newa36 (hx : p.tables.exec = Jvm.exec) (hb : c.code = cc) (hts : ∀ w ∈ lw_all, w.before args s = true) (hK : KK G s) (hW : pl G PL v H) (hS : va_S A H0 H locs) (harr : Cond.arrayClass .boolean ∈ lw_all) (hz : H.size = h) (hP : PL h = true) {n : Int32} (hn : ¬ n < 0) (hN : n.toNatClampNeg ≤ 90) (hcells : cells + 1 ≤ R.cells) (hslots : slots + 90 ≤ R.slots) (hdg : decode cc pc = .ok (.newarray .boolean, 2))
    (kk : ∀ (H1 : Heap), pl G PL (nwP v h 36 n) H1 → va_S A H0 H1 locs → H1.size = h + 1 → (∀ z, z < h → H1[z]? = H[z]?) → W p l e R s m args below meth c H1 locs (cells + 1) (slots + 90) Q (F0 m (pc + 2) ls (.ref h :: rest))) : W p l e R s m args below meth c H locs cells slots Q (F0 m pc ls (.int n :: rest)) := by
  have he : shP PL G.2.1 h 0 (fun j => if j = 99 then 36 else if j = 98 then n else 0) (fun _ => 0) (fun _ => none) = some (.inl (G.2.1 4, n.toNatClampNeg, .inl (fun j => if j = 99 then 36 else if j = 98 then n else 0))) := shP_36 hP rfl
  refine rk_newarr (atype := .boolean) (sh := fun _ _ _ _ _ => some (.inl (G.2.1 4, n.toNatClampNeg, .inl (fun j => if j = 99 then 36 else if j = 98 then n else 0)))) hx hb hts hK hS harr 4 rfl (by intro C h; cases h) hz rfl (N9 := n.toNatClampNeg) ?_ hn rfl (Nat.le_trans (Nat.mul_le_mul hN (show componentBytes (newarray.typeOf .boolean) ≤ 8 by decide)) (by decide)) hcells (by omega) hdg (fun H1 h1 h2 h3 h4 => ?_)
  · rw [vp_cell_i]
    exact arrV_cg (fun j hj => by show Value.int (if j = 99 then 36 else if j = 98 then n else 0) = _; rw [if_neg (by omega), if_neg (by omega)]; rfl)
  · refine rk_widen (Nat.le_refl _) (by omega) (kk H1 (pl_new hW hz h4 (e := .inl (G.2.1 4, n.toNatClampNeg, .inl (fun j => if j = 99 then 36 else if j = 98 then n else 0))) (by rw [nwP_i, nwP_l, nwP_r]; exact he) (by have h5 := h1 0 (by decide) _ rfl; rw [Nat.add_zero] at h5; exact h5)) h2 h3 h4)
theorem rp_rcs (hK : KK G s) (hW : pl G PL v H) (hk : ks PL v q = true) : ∃ a ∈ kns, v.1 q 99 = a.1 ∧ RcV s H a.2 q := by
  have h1 := ks_PL hk
  rcases ks_k hk with h | h | h | h | h
  · exact ⟨(32, "[I"), by decide, h, rp_rc32 hK hW h1 h⟩
  · exact ⟨(33, "[J"), by decide, h, rp_rc33 hK hW h1 h⟩
  · exact ⟨(34, "[B"), by decide, h, rp_rc34 hK hW h1 h⟩
  · exact ⟨(35, "[S"), by decide, h, rp_rc35 hK hW h1 h⟩
  · exact ⟨(36, "[Z"), by decide, h, rp_rc36 hK hW h1 h⟩
theorem rp_inst {b : Int32 × String} (hx : p.tables.exec = Jvm.exec) (hb : c.code = cc) (hown : s.vm.findClass own = some m.cls) (hts : ∀ w ∈ lw_all, w.before args s = true) (hK : KK G s) (hZN : ZN G) (hbk : b ∈ kns) (hb4 : b.2 ∈ anm4) (hlink : Cond.classLink own index b.2 ∈ lw_all) (hW : pl G PL v H) (hk : ks PL v q = true) (hdg : decode cc pc = .ok (.instanceof index, 3))
    (kk : W p l e R s m args below meth c H locs cells slots Q (F0 m (pc + 3) ls (.int (isk v q b.1) :: rest))) : W p l e R s m args below meth c H locs cells slots Q (F0 m pc ls (.ref q :: rest)) := by
  obtain ⟨a, ha, h1, h2⟩ := rp_rcs hK hW hk
  have kk : W p l e R s m args below meth c H locs cells slots Q (F0 m (pc + 3) ls (.int (if v.1 q 99 = b.1 then 1 else 0) :: rest)) := kk
  by_cases hc : v.1 q 99 = b.1
  · rw [if_pos hc] at kk
    have h3 := kns_2 a ha b hbk (h1.symm.trans hc)
    rw [h3] at h2
    exact va_instE hx hb hown (hts _ hlink) h2 hdg kk
  · rw [if_neg hc] at kk
    exact va_instNo hx hb hown (hts _ hlink) (hZN s hK a.2 (kns_3 a ha) b.2 hb4 (fun h => hc (by rw [h1]; exact kns_1 a ha b hbk h))) h2 hdg kk
end TPE
theorem ks_kd {PL : Nat → Bool} {v : Mem} {o : Nat} (h : ks PL v o = true) : kd PL v o (gI v o 99) = true := by
  unfold kd
  rw [ks_PL h]
  simp
theorem ks_A {PL : Nat → Bool} {v0 v : Mem} {sz q : Nat} (h : KM v0 v sz) (hk : ks PL v q = true) : FA (fP PL v0) sz q := KM_hf2 h q ⟨ks_PL hk, by
  rcases ks_k hk with h | h | h | h | h <;> (rw [h]; decide)⟩
/-! System.arraycopy between rows of one sort -/
def cpQ (v : Mem) (q q2 sp dp n : Nat) : Mem := (if v.1 q 99 = 33 then v.1 else fun a b => if a = q ∧ dp ≤ b ∧ b < dp + n then v.1 q2 (sp + (b - dp)) else v.1 a b, if v.1 q 99 = 33 then (fun a b => if a = q ∧ dp ≤ b ∧ b < dp + n then v.2.1 q2 (sp + (b - dp)) else v.2.1 a b) else v.2.1, v.2.2)
def fitP (k x : Int32) : Bool := if k = 34 then decide (-128 ≤ x) && decide (x ≤ 127) else if k = 35 then decide (-32768 ≤ x) && decide (x ≤ 32767) else if k = 36 then z01 x else true
def okC (v : Mem) (q q2 : Nat) (sp dp n : Int32) : Bool := decide (gI v q 99 = gI v q2 99) && ((!decide (sp < 0) && (!decide (dp < 0) && !decide (n < 0))) && (decide (sp.toNatClampNeg + n.toNatClampNeg ≤ (gI v q2 98).toNatClampNeg) && decide (dp.toNatClampNeg + n.toNatClampNeg ≤ (gI v q 98).toNatClampNeg))) && (List.range n.toNatClampNeg).all (fun i => fitP (gI v q2 99) (gI v q2 (sp.toNatClampNeg + i)))
theorem okC_1 {v : Mem} {q q2 : Nat} {sp dp n : Int32} (h : okC v q q2 sp dp n = true) : v.1 q 99 = v.1 q2 99 ∧ ¬ sp < 0 ∧ ¬ dp < 0 ∧ ¬ n < 0 ∧ sp.toNatClampNeg + n.toNatClampNeg ≤ (v.1 q2 98).toNatClampNeg ∧ dp.toNatClampNeg + n.toNatClampNeg ≤ (v.1 q 98).toNatClampNeg ∧ ∀ i, i < n.toNatClampNeg → fitP (v.1 q2 99) (v.1 q2 (sp.toNatClampNeg + i)) = true := by
  unfold okC at h
  simp only [Bool.and_eq_true, Bool.not_eq_true', decide_eq_false_iff_not] at h
  exact ⟨of_decide_eq_true h.1.1, h.1.2.1.1, h.1.2.1.2.1, h.1.2.1.2.2, of_decide_eq_true h.1.2.2.1, of_decide_eq_true h.1.2.2.2, fun i hi => List.all_eq_true.mp h.2 i (List.mem_range.mpr hi)⟩
theorem cpQ_ne {v : Mem} {q q2 sp dp n : Nat} : ∀ o', o' ≠ q → (cpQ v q q2 sp dp n).1 o' = v.1 o' ∧ (cpQ v q q2 sp dp n).2.1 o' = v.2.1 o' ∧ (cpQ v q q2 sp dp n).2.2 o' = v.2.2 o' := fun o' h => by
  refine ⟨?_, ?_, rfl⟩ <;> (unfold cpQ; funext b; by_cases hc : v.1 q 99 = 33 <;> simp [hc, h])
theorem cpQ_hi {v : Mem} {q q2 sp dp n : Nat} (hn : dp + n ≤ 90) (a b : Nat) (hb : 90 ≤ b) : (cpQ v q q2 sp dp n).1 a b = v.1 a b := by
  unfold cpQ
  by_cases hc : v.1 q 99 = 33
  · simp [hc]
  · simp only [if_neg hc]
    rw [if_neg (by omega)]
theorem KM.cpQ {v0 v : Mem} {q q2 sp dp n sz : Nat} (h : KM v0 v sz) (hn : dp + n ≤ 90) : KM v0 (cpQ v q q2 sp dp n) sz := fun z hz => h z (by rw [cpQ_hi hn z 99 (by decide)] at hz; exact hz)
theorem fit34 {k x : Int32} (hk : k = 34) (h : fitP k x = true) : fits .byte (.int x) = true := by
  subst hk
  exact h
theorem fit35 {k x : Int32} (hk : k = 35) (h : fitP k x = true) : fits .short (.int x) = true := by
  subst hk
  exact h
theorem fit36 {k x : Int32} (hk : k = 36) (h : fitP k x = true) : fits .boolean (.int x) = true := by
  subst hk
  exact z01_fit h
section TCP
variable {p : Program} {l : Launch} {e : Env} {R : Room} {s : State} {m : MethodId} {args : Array Value} {below : List Frame} {meth : Method} {c : Code} {H : Heap} {locs : List Loc} {cells slots : Nat} {Q : State → Prop}
variable {cc : ByteArray} {pc : Nat} {ls : Array Slot} {rest : List Value} {G : Gv} {PL : Nat → Bool} {A : Nat → Prop} {H0 : Heap} {own : String} {index q q2 nL : Nat} {v : Mem}
theorem rp_copyG {α : Type} (mk : α → Value) (t : Nat) (ty : FieldType) (ht : (tyL G.2.1)[t]? = some (G.2.1 t, ty)) (hty : ((refKind ty != refKind ty) || (!refKind ty && ty != ty)) = false) (htk : ∀ (U : State) (k : ClassId) (z : α), U.takes k (mk z))
    (hx : p.tables.exec = Jvm.exec) (hb : c.code = cc) (hml : c.maxLocals = nL) (hown : s.vm.findClass own = some m.cls) (hts : ∀ w ∈ lw_all, w.before args s = true) (hK : KK G s) (hL : LAC own index) {N8 N9 : Nat} {f f2 : Nat → α} (hc1 : H[q]? = some (arrV (G.2.1 t) N9 (fun j => mk (f j)))) (hc0 : H[q2]? = some (arrV (G.2.1 t) N8 (fun j => mk (f2 j)))) (hS : va_S A H0 H locs) (hA : A q)
    {sp dp k : Int32} (hfit : ∀ i, i < k.toNatClampNeg → fits ty (mk (f2 (sp.toNatClampNeg + i))) = true) (h1 : ¬ sp < 0) (h2 : ¬ dp < 0) (h3 : ¬ k < 0) (h4 : sp.toNatClampNeg + k.toNatClampNeg ≤ N8) (h5 : dp.toNatClampNeg + k.toNatClampNeg ≤ N9) (hls : ls.size = nL)
    (hframes : 1 ≤ R.frames) (hlocals : (rest.map fun v => v.category).sum + (nativeFrameWords "java/lang/System" "arraycopy" 5 + 11) ≤ R.locals) (hdg : decode cc pc = .ok (.invokestatic index, 3))
    (kk : ∀ (H1 : Heap) (locs1 : List Loc), H1[q]? = some (arrV (G.2.1 t) N9 (fun j => mk (va_cpy f2 f sp.toNatClampNeg dp.toNatClampNeg k.toNatClampNeg j))) → va_S A H0 H1 locs1 → H1.size = H.size → (∀ z, z ≠ q → H1[z]? = H[z]?) → W p l e R s m args below meth c H1 locs1 cells slots Q (F0 m (pc + 3) ls rest)) : W p l e R s m args below meth c H locs cells slots Q (F0 m pc ls (.int k :: .int dp :: .ref q :: .int sp :: .ref q2 :: rest)) := by
  intro T hT X
  obtain ⟨-, k0, hk0, cm0, hkk0⟩ := (hK.1.2 t _ ht).1 N8 (fun j => mk (f2 j))
  obtain ⟨-, k1, hk1, cm1, hkk1⟩ := (hK.1.2 t _ ht).1 N9 (fun j => mk (f j))
  obtain ⟨vm', X', step⟩ := X.arraycopy hx hown (hts _ hL.1) (hts _ hL.2.1) (hts _ hL.2.2.1) (hts _ hL.2.2.2) (src := q2) (dst := q) (cs := arrV (G.2.1 t) N8 (fun j => mk (f2 j))) (cd := arrV (G.2.1 t) N9 (fun j => mk (f j))) (srcPos := sp) (destPos := dp) (n := k) (by rw [hT]; exact hc0) (by rw [hT]; exact hc1)
    (fun _ h => by cases h) (fun _ h => by cases h) (fun h => by cases h) (fun h => by cases h) hk0 hk1 hkk0 hkk1 hty h1 h2 h3
    (by rw [i32_nn h1, i32_nn h3, arrV_size]; omega) (by rw [i32_nn h2, i32_nn h3, arrV_size]; omega)
    (fun vm₁ _ i hi => by
      have ev : (arrV (G.2.1 t) N8 (fun j => mk (f2 j))).slots.getD (sp.toNatClampNeg + i) .null = mk (f2 (sp.toNatClampNeg + i)) := by
        rw [Array.getD_eq_getD_getElem?, arrV_read _ _ (by omega)]
        rfl
      rw [ev]
      exact ⟨hfit i hi, htk _ _ _⟩)
    (g := F0 m pc ls (.int k :: .int dp :: .ref q :: .int sp :: .ref q2 :: rest)) rfl (by rw [hml]; exact hls) (rest := rest) rfl (by rw [hb]; exact hdg) hframes (by show 2 * 0 + _ + _ ≤ _; omega)
  have e1 : copied (arrV (G.2.1 t) N8 (fun j => mk (f2 j))) (arrV (G.2.1 t) N9 (fun j => mk (f j))) sp dp k = arrV (G.2.1 t) N9 (fun j => mk (va_cpy f2 f sp.toNatClampNeg dp.toNatClampNeg k.toNatClampNeg j)) := va_copied mk _ _ _ _ h4
  rw [e1] at X' step
  have hl : q < H.size := (Array.getElem?_eq_some_iff.mp hc1).1
  generalize hcell : arrV (G.2.1 t) N9 (fun j => mk (va_cpy f2 f sp.toNatClampNeg dp.toNatClampNeg k.toNatClampNeg j)) = cell at X' step kk
  have hheap : ((T.setVm vm').setCell q cell).heap = H.setIfInBounds q cell := by rw [← hT]; rfl
  have oq : ∀ z : Nat, z ≠ q → (H.setIfInBounds q cell)[z]? = H[z]? := fun z hz => by simp [Array.getElem?_setIfInBounds, Ne.symm hz]
  obtain ⟨t9, a1, b1⟩ := kk _ _ (by simp [Array.getElem?_setIfInBounds, hl]) ⟨by simp; exact hS.1, fun z g1 g2 => by
      rw [oq z (fun e => g2 (by rw [e]; exact hA))]
      exact hS.2.1 z g1 g2, fun z hz => by
      rcases List.mem_append.mp hz with h | h
      · exact hS.2.2 z h
      · obtain ⟨y, -, hy⟩ := List.mem_map.mp h
        rw [← hy]
        exact hA⟩ (by simp) oq _ hheap X'
  exact ⟨t9, step t9 a1, b1⟩
theorem rp_copyA (hx : p.tables.exec = Jvm.exec) (hb : c.code = cc) (hml : c.maxLocals = nL) (hown : s.vm.findClass own = some m.cls) (hts : ∀ w ∈ lw_all, w.before args s = true) (hK : KK G s) (hL : LAC own index) (hW : pl G PL v H) (hS : va_S A H0 H locs) (hA : A q) (hk : ks PL v q = true) (hk2 : ks PL v q2 = true) {sp dp k : Int32} (hok : okC v q q2 sp dp k = true) (hls : ls.size = nL)
    (hframes : 1 ≤ R.frames) (hlocals : (rest.map fun v => v.category).sum + (nativeFrameWords "java/lang/System" "arraycopy" 5 + 11) ≤ R.locals) (hdg : decode cc pc = .ok (.invokestatic index, 3))
    (kk : ∀ (H1 : Heap) (locs1 : List Loc), pl G PL (cpQ v q q2 sp.toNatClampNeg dp.toNatClampNeg k.toNatClampNeg) H1 → va_S A H0 H1 locs1 → H1.size = H.size → (∀ z, z ≠ q → H1[z]? = H[z]?) → W p l e R s m args below meth c H1 locs1 cells slots Q (F0 m (pc + 3) ls rest)) : W p l e R s m args below meth c H locs cells slots Q (F0 m pc ls (.int k :: .int dp :: .ref q :: .int sp :: .ref q2 :: rest)) := by
  obtain ⟨e0, h1, h2, h3, h4, h5, h6⟩ := okC_1 hok
  have hle : dp.toNatClampNeg + k.toNatClampNeg ≤ 90 := Nat.le_trans h5 (ks_le hk)
  have hq := ks_PL hk
  have hq2 := ks_PL hk2
  have fin : ∀ (H1 : Heap) (locs1 : List Loc), (∀ e, shP PL G.2.1 q 0 ((cpQ v q q2 sp.toNatClampNeg dp.toNatClampNeg k.toNatClampNeg).1 q) ((cpQ v q q2 sp.toNatClampNeg dp.toNatClampNeg k.toNatClampNeg).2.1 q) ((cpQ v q q2 sp.toNatClampNeg dp.toNatClampNeg k.toNatClampNeg).2.2 q) = some e → va_at G.1 vwCl (q, e) H1) → va_S A H0 H1 locs1 → H1.size = H.size → (∀ z, z ≠ q → H1[z]? = H[z]?) → W p l e R s m args below meth c H1 locs1 cells slots Q (F0 m (pc + 3) ls rest) :=
    fun H1 locs1 g1 g2 g3 g4 => kk H1 locs1 (pl_upd hW g4 cpQ_ne g1) g2 g3 g4
  have h99 : (cpQ v q q2 sp.toNatClampNeg dp.toNatClampNeg k.toNatClampNeg).1 q 99 = v.1 q 99 := cpQ_hi hle q 99 (by decide)
  have h98 : (cpQ v q q2 sp.toNatClampNeg dp.toNatClampNeg k.toNatClampNeg).1 q 98 = v.1 q 98 := cpQ_hi hle q 98 (by decide)
  have hI : v.1 q 99 ≠ 33 → (cpQ v q q2 sp.toNatClampNeg dp.toNatClampNeg k.toNatClampNeg).1 q = va_cpy (v.1 q2) (v.1 q) sp.toNatClampNeg dp.toNatClampNeg k.toNatClampNeg := fun hn => by
    unfold cpQ
    simp only [if_neg hn]
    funext b
    simp [va_cpy]
  have hJ : v.1 q 99 = 33 → (cpQ v q q2 sp.toNatClampNeg dp.toNatClampNeg k.toNatClampNeg).2.1 q = va_cpy (v.2.1 q2) (v.2.1 q) sp.toNatClampNeg dp.toNatClampNeg k.toNatClampNeg := fun hn => by
    unfold cpQ
    simp only [if_pos hn]
    funext b
    simp [va_cpy]
  generalize cpQ v q q2 sp.toNatClampNeg dp.toNatClampNeg k.toNatClampNeg = w at fin h99 h98 hI hJ
  rcases ks_k hk with h | h | h | h | h
  · have h8 := e0.symm.trans h
    refine rp_copyG (fun z => Value.int z) 0 .int rfl rfl (fun _ _ _ => trivial) hx hb hml hown hts hK hL (f := v.1 q) (f2 := v.1 q2) (hW q _ (shP_32 hq h)) (hW q2 _ (shP_32 hq2 h8)) hS hA (fun i hi => rfl) h1 h2 h3 h4 h5 hls hframes hlocals hdg (fun H1 locs1 g1 g2 g3 g4 => fin H1 locs1 (fun e he => ?_) g2 g3 g4)
    rw [shP_32 hq (h99.trans h), h98, hI (by rw [h]; decide)] at he
    cases he
    exact g1
  · have h8 := e0.symm.trans h
    refine rp_copyG (fun z => Value.long z) 1 .long rfl rfl (fun _ _ _ => trivial) hx hb hml hown hts hK hL (f := v.2.1 q) (f2 := v.2.1 q2) (hW q _ (shP_33 hq h)) (hW q2 _ (shP_33 hq2 h8)) hS hA (fun i hi => rfl) h1 h2 h3 h4 h5 hls hframes hlocals hdg (fun H1 locs1 g1 g2 g3 g4 => fin H1 locs1 (fun e he => ?_) g2 g3 g4)
    rw [shP_33 hq (h99.trans h), h98, hJ h] at he
    cases he
    exact g1
  · have h8 := e0.symm.trans h
    refine rp_copyG (fun z => Value.int z) 2 .byte rfl rfl (fun _ _ _ => trivial) hx hb hml hown hts hK hL (f := v.1 q) (f2 := v.1 q2) (hW q _ (shP_34 hq h)) (hW q2 _ (shP_34 hq2 h8)) hS hA (fun i hi => fit34 h8 (h6 i hi)) h1 h2 h3 h4 h5 hls hframes hlocals hdg (fun H1 locs1 g1 g2 g3 g4 => fin H1 locs1 (fun e he => ?_) g2 g3 g4)
    rw [shP_34 hq (h99.trans h), h98, hI (by rw [h]; decide)] at he
    cases he
    exact g1
  · have h8 := e0.symm.trans h
    refine rp_copyG (fun z => Value.int z) 3 .short rfl rfl (fun _ _ _ => trivial) hx hb hml hown hts hK hL (f := v.1 q) (f2 := v.1 q2) (hW q _ (shP_35 hq h)) (hW q2 _ (shP_35 hq2 h8)) hS hA (fun i hi => fit35 h8 (h6 i hi)) h1 h2 h3 h4 h5 hls hframes hlocals hdg (fun H1 locs1 g1 g2 g3 g4 => fin H1 locs1 (fun e he => ?_) g2 g3 g4)
    rw [shP_35 hq (h99.trans h), h98, hI (by rw [h]; decide)] at he
    cases he
    exact g1
  · have h8 := e0.symm.trans h
    refine rp_copyG (fun z => Value.int z) 4 .boolean rfl rfl (fun _ _ _ => trivial) hx hb hml hown hts hK hL (f := v.1 q) (f2 := v.1 q2) (hW q _ (shP_36 hq h)) (hW q2 _ (shP_36 hq2 h8)) hS hA (fun i hi => fit36 h8 (h6 i hi)) h1 h2 h3 h4 h5 hls hframes hlocals hdg (fun H1 locs1 g1 g2 g3 g4 => fin H1 locs1 (fun e he => ?_) g2 g3 g4)
    rw [shP_36 hq (h99.trans h), h98, hI (by rw [h]; decide)] at he
    cases he
    exact g1
end TCP
