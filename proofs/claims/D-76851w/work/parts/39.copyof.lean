/-! Arrays.copyOf of a queue's array: a longer one, with what the old one held -/
set_option maxRecDepth 100000
def cpP (v : Mem) (h p : Nat) (n : Int32) (r : Nat) : Mem := ((nwP v h 44 n).1, (nwP v h 44 n).2.1, fun o j => if o = h then (if j < r then v.2.2 p j else none) else v.2.2 o j)
def elOK (b c st n : Nat) (v : Mem) (p N : Nat) : Bool := (List.range N).all fun i => match gR v p i with
  | none => true
  | some a => (fi b c st n a).isSome
theorem elOK_at {b c st n : Nat} {v : Mem} {p N i a : Nat} (h : elOK b c st n v p N = true) (hi : i < N) (ha : v.2.2 p i = some a) : ∃ k, a = b + (c + st * k + 0) ∧ k < n := by
  have h1 := List.all_eq_true.mp h i (List.mem_range.mpr hi)
  have h2 : gR v p i = some a := ha
  simp only [h2] at h1
  cases hf : fi b c st n a with
  | none => rw [hf] at h1; cases h1
  | some k => exact ⟨k, fi_some hf⟩
noncomputable def fcp (c0 st n0 : Nat) (PL : Nat → Bool) (Z b0 : Nat) (V0 v1 : Mem) (p0 : Nat) (i1 : Int32) : Option (Option Nat × Nat × Mem) :=
  gb (ka PL v1 p0 44) (gb (!decide (i1 < 0) && decide (i1.toNatClampNeg ≤ 90)) (gb (PL Z) (gb (elOK b0 c0 st n0 v1 p0 (gI v1 p0 98).toNatClampNeg)
    (ob (fJ7_min (Int32.ofNat (gI v1 p0 98).toNatClampNeg) i1) fun r => gb (!decide (r < 0) && (decide (r.toNatClampNeg ≤ (gI v1 p0 98).toNatClampNeg) && decide (r.toNatClampNeg ≤ i1.toNatClampNeg))) (some (some Z, 1, cpP v1 Z p0 i1 r.toNatClampNeg))))))
section CPY
variable {p : Program} {l : Launch} {e : Env} {R : Room} {s : State} {m : MethodId} {args : Array Value} {below : List Frame} {meth : Method} {c : Code} {H : Heap} {locs : List Loc} {cells slots : Nat} {Q : State → Prop}
variable {cc : ByteArray} {pc : Nat} {ls : Array Slot} {rest : List Value} {G : Gv} {A : Nat → Prop} {H0 : Heap} {own : String} {index q q2 nL : Nat}
theorem rp_ldcM (hx : p.tables.exec = Jvm.exec) (hb : c.code = cc) (hts : ∀ w ∈ lw_all, w.before args s = true) (hown : s.vm.findClass own = some m.cls) {C : String} {a : Nat} (hl : Cond.classLink own index C ∈ lw_all) (hev : (Term.mirror C).eval args s none [] s = some (.ref a)) (hdg : decode cc pc = .ok (.ldc index, 2))
    (kk : W p l e R s m args below meth c H locs cells slots Q (F0 m (pc + 2) ls (.ref a :: rest))) : W p l e R s m args below meth c H locs cells slots Q (F0 m pc ls rest) := by
  intro T hT X
  obtain ⟨vm', X', st⟩ := X.ldcMirror hx hown (hts _ hl) hev (g := F0 m pc ls rest) rfl (by rw [hb]; exact hdg)
  obtain ⟨t, a1, b1⟩ := kk (T.setVm vm') hT X'
  exact ⟨t, st t a1, b1⟩
theorem rp_getC (hx : p.tables.exec = Jvm.exec) (hb : c.code = cc) (hml : c.maxLocals = nL) (hts : ∀ w ∈ lw_all, w.before args s = true) (hown : s.vm.findClass own = some m.cls) {C : String} {a : Nat} (h1 : Cond.methodLink own index ⟨"java/lang/Object", "getClass", "()Ljava/lang/Class;"⟩ ∈ lw_all) (h2 : Cond.sameMethod "java/lang/Object" "java/lang/Object" "getClass" "()Ljava/lang/Class;" ∈ lw_all) (h3 : Cond.native ⟨"java/lang/Object", "getClass", "()Ljava/lang/Class;"⟩ ∈ lw_all) (h4 : Cond.instanceMethod ⟨"java/lang/Object", "getClass", "()Ljava/lang/Class;"⟩ ∈ lw_all) (h5 : Cond.selects C ⟨"java/lang/Object", "getClass", "()Ljava/lang/Class;"⟩ ⟨"java/lang/Object", "getClass", "()Ljava/lang/Class;"⟩ ∈ lw_all)
    (hr : RcV s H C q) (hev : (Term.mirror C).eval args s none [] s = some (.ref a)) (hls : ls.size = nL) (hframes : 1 ≤ R.frames) (hlocals : (rest.map fun v => v.category).sum + 14 ≤ R.locals) (hdg : decode cc pc = .ok (.invokevirtual index, 3))
    (kk : W p l e R s m args below meth c H locs cells slots Q (F0 m (pc + 3) ls (.ref a :: rest))) : W p l e R s m args below meth c H locs cells slots Q (F0 m pc ls (.ref q :: rest)) := by
  obtain ⟨cell, g1, g2, g3⟩ := hr
  intro T hT X
  obtain ⟨vm', X', st⟩ := X.getClass hx hown (hts _ h1) (hts _ h2) (hts _ h3) (hts _ h4) (hts _ h5) (a := q) (cell := cell) (by rw [hT]; exact g1) (fun k h => by rw [h] at g2; cases g2) g3 hev (g := F0 m pc ls (.ref q :: rest)) rfl (by rw [hml]; exact hls) (rest := rest) rfl (by rw [hb]; exact hdg) hframes (by show 2 * 0 + _ + _ ≤ _; omega)
  obtain ⟨t, a1, b1⟩ := kk (T.setVm vm') hT X'
  exact ⟨t, st t a1, b1⟩
theorem rp_copyr (hx : p.tables.exec = Jvm.exec) (hb : c.code = cc) (hml : c.maxLocals = nL) (hown : s.vm.findClass own = some m.cls) (hts : ∀ w ∈ lw_all, w.before args s = true) (hK : KK G s) (hL : LAC own index) {N8 N9 : Nat} {f f2 : Nat → Option Nat} (hc1 : H[q]? = some (vp_cell (G.2.1 12) (N9, .inr (.inr (.inr (.inr f)))))) (hc0 : H[q2]? = some (vp_cell (G.2.1 12) (N8, .inr (.inr (.inr (.inr f2)))))) (hS : va_S A H0 H locs) (hA : A q) (hel : ∀ i, i < N8 → ∀ a, f2 i = some a → ∃ C, Cond.castable C "java/lang/Object" ∈ lw_tbl ∧ RcV s H C a) {k : Int32} (h3 : ¬ k < 0) (h4 : k.toNatClampNeg ≤ N8) (h5 : k.toNatClampNeg ≤ N9) (hls : ls.size = nL)
    (hframes : 1 ≤ R.frames) (hlocals : (rest.map fun v => v.category).sum + (nativeFrameWords "java/lang/System" "arraycopy" 5 + 11) ≤ R.locals) (hdg : decode cc pc = .ok (.invokestatic index, 3))
    (kk : ∀ (H1 : Heap) (locs1 : List Loc), H1[q]? = some (vp_cell (G.2.1 12) (N9, .inr (.inr (.inr (.inr (va_cpy f2 f 0 0 k.toNatClampNeg)))))) → va_S A H0 H1 locs1 → H1.size = H.size → (∀ z, z ≠ q → H1[z]? = H[z]?) → W p l e R s m args below meth c H1 locs1 cells slots Q (F0 m (pc + 3) ls rest)) : W p l e R s m args below meth c H locs cells slots Q (F0 m pc ls (.int k :: .int 0 :: .ref q :: .int 0 :: .ref q2 :: rest)) := by
  intro T hT X
  obtain ⟨-, k0, hk0, cm0, hkk0⟩ := (hK.1.2 12 _ rfl).1 N8 (fun j => va_rf (f2 j))
  obtain ⟨kA, comp, hk1, hkk1, k3, -⟩ := (hK.1.2 12 _ rfl).2
  obtain ⟨kE, hkE, -⟩ := Vm.findClass_spec k3
  have z0 : (0 : Int32).toInt = 0 := rfl
  have z1 : (0 : Int32).toNatClampNeg = 0 := rfl
  obtain ⟨vm', X', step⟩ := X.arraycopy hx hown (hts _ hL.1) (hts _ hL.2.1) (hts _ hL.2.2.1) (hts _ hL.2.2.2) (src := q2) (dst := q) (cs := vp_cell (G.2.1 12) (N8, .inr (.inr (.inr (.inr f2))))) (cd := vp_cell (G.2.1 12) (N9, .inr (.inr (.inr (.inr f))))) (srcPos := 0) (destPos := 0) (n := k) (by rw [hT]; exact hc0) (by rw [hT]; exact hc1)
    (fun _ h => by cases h) (fun _ h => by cases h) (fun h => by cases h) (fun h => by cases h) hk0 hk1 hkk0 hkk1 (by rfl) (by decide) (by decide) h3
    (by rw [i32_nn h3, z0]; show ¬ _ > ((arrV (G.2.1 12) N8 (fun j => va_rf (f2 j))).slots.size : Int); rw [arrV_size]; omega)
    (by rw [i32_nn h3, z0]; show ¬ _ > ((arrV (G.2.1 12) N9 (fun j => va_rf (f j))).slots.size : Int); rw [arrV_size]; omega)
    (fun vm₁ hal i hi => by
      have ev : (vp_cell (G.2.1 12) (N8, .inr (.inr (.inr (.inr f2))))).slots.getD ((0 : Int32).toNatClampNeg + i) .null = va_rf (f2 i) := by
        show (arrV (G.2.1 12) N8 (fun j => va_rf (f2 j))).slots.getD _ _ = _
        rw [z1, Nat.zero_add, Array.getD_eq_getD_getElem?, arrV_read _ _ (by omega)]
        rfl
      rw [ev]
      cases ha : f2 i with
      | none => exact ⟨rfl, trivial⟩
      | some a =>
        obtain ⟨C, hca, cellV, g1, g3, g2⟩ := hel i (by omega) a ha
        obtain ⟨kC, hkC, -⟩ := Vm.findClass_spec g2
        obtain ⟨c0, t1, f1, f2', f3⟩ := Cond.castable_spec (va_Nw.use (A := args) rfl (hK.nw hca rfl))
        cases g2.symm.trans f1
        cases k3.symm.trans f2'
        obtain ⟨kC', hkC', -⟩ := hal.2.2 _ _ hkC
        obtain ⟨kE', hkE', -⟩ := hal.2.2 _ _ hkE
        exact ⟨rfl, cellV, (by show T.heap[a]? = some cellV; rw [hT]; exact g1), (fun q h => by rw [h] at g3; cases g3), ⟨kC', hkC'⟩, ⟨kE', hkE'⟩, by show vm₁.assignable _ _ = true; rw [hal.assignable]; exact f3⟩)
    (g := F0 m pc ls (.int k :: .int 0 :: .ref q :: .int 0 :: .ref q2 :: rest)) rfl (by rw [hml]; exact hls) (rest := rest) rfl (by rw [hb]; exact hdg) hframes (by show 2 * 0 + _ + _ ≤ _; omega)
  have e1 : copied (vp_cell (G.2.1 12) (N8, .inr (.inr (.inr (.inr f2))))) (vp_cell (G.2.1 12) (N9, .inr (.inr (.inr (.inr f))))) 0 0 k = vp_cell (G.2.1 12) (N9, .inr (.inr (.inr (.inr (va_cpy f2 f 0 0 k.toNatClampNeg))))) := va_copied (fun z => va_rf z) _ _ _ _ (by rw [z1]; omega)
  rw [e1] at X' step
  have hl : q < H.size := (Array.getElem?_eq_some_iff.mp hc1).1
  have hheap : ((T.setVm vm').setCell q (vp_cell (G.2.1 12) (N9, .inr (.inr (.inr (.inr (va_cpy f2 f 0 0 k.toNatClampNeg))))))).heap = H.setIfInBounds q (vp_cell (G.2.1 12) (N9, .inr (.inr (.inr (.inr (va_cpy f2 f 0 0 k.toNatClampNeg)))))) := by rw [← hT]; rfl
  have oq : ∀ z : Nat, z ≠ q → (H.setIfInBounds q (vp_cell (G.2.1 12) (N9, .inr (.inr (.inr (.inr (va_cpy f2 f 0 0 k.toNatClampNeg)))))))[z]? = H[z]? := fun z hz => by simp [Array.getElem?_setIfInBounds, Ne.symm hz]
  obtain ⟨t, a1, b1⟩ := kk _ _ (by simp [Array.getElem?_setIfInBounds, hl]) ⟨by simp; exact hS.1, fun z g1 g2 => by
      rw [oq z (fun e => g2 (by rw [e]; exact hA))]
      exact hS.2.1 z g1 g2, fun z hz => by
      rcases List.mem_append.mp hz with h | h
      · exact hS.2.2 z h
      · obtain ⟨y, -, hy⟩ := List.mem_map.mp h
        rw [← hy]
        exact hA⟩ (by simp) oq _ hheap X'
  exact ⟨t, step t a1, b1⟩
end CPY
theorem lacJ9_150 : LAC RJ9 150 := ⟨q1069, q762, q761, q134⟩
theorem lkJ9_304 : LSt RJ9 304 yJ7_min cJ7_min 2 (some .int) := ⟨q1066, q1067, q136, q1068⟩
theorem lkJ9_300 : LSt RJ9 300 yJ9_copyOf_2 cJ9_copyOf_2 4 (some (.array (.object "java/lang/Object"))) := ⟨q1061, q1062, q138, q1063⟩
theorem yn_J9_copyOf_2 : YN yJ9_copyOf_2 3 := by
  unfold YN
  decide +kernel
theorem yn_J7_min_9 : YN yJ7_min 2 := by
  unfold YN
  decide +kernel
noncomputable abbrev fJ9_copyOf_node := fcp 197 4 40
noncomputable abbrev fJ9_copyOf_found := fcp 177 1 20
set_option maxHeartbeats 4000000 in
theorem ct_J9_copyOf_2_node {G : Gv} {l : Launch} {PL : Nat → Bool} {Z b0 : Nat} {V0 v1 : Mem} {p0 : Nat} {i1 : Int32} {rx : Option Nat} {rc : Nat} {rw1 : Mem} (hm : fcp 197 4 40 PL Z b0 V0 v1 p0 i1 = some (rx, rc, rw1)) (hPX : ∀ z, PL z = true → ¬ fX b0 z) (hZP : ZP G) : CT G l yJ9_copyOf_2 (ws_ yJ9_copyOf_2 cJ9_copyOf_2 4 (some (.array (.object "java/lang/Object")))) 2 1 90 80 [.ref p0, .int i1, .ref (G.2.1 30)] (fP PL v1) Z (fun H => rg G b0 357 (shX0 G.2.1) V0 H ∧ pl G PL v1 H) (fun ov H => ov = (some (va_rf rx)) ∧ pl G PL rw1 H ∧ H.size = Z + rc ∧ KM v1 rw1 Z) := by
  refine Met.ofW (cc := cJ9_copyOf_2) (maxL := 4) (ret := (some (.array (.object "java/lang/Object")))) (by decide +kernel) rfl ?_
  intro p e s m args below meth c s₁ B hml hv
  obtain ⟨rfl, ⟨hz, hW0, hW1⟩, hK⟩ := hv
  subst hz
  have hts := atoms_spec (ws := ws_ yJ9_copyOf_2 cJ9_copyOf_2 4 (some (.array (.object "java/lang/Object")))) B.pre
  have hts : ∀ w ∈ lw_all, w.before _ s = true := fun w h => hts w (List.mem_cons_of_mem _ h)
  have C : Cx G p s m _ meth c RJ9 cJ9_copyOf_2 4 (some (.array (.object "java/lang/Object"))) := ⟨B.exec, B.bytes, B.returns, B.notSynchronized, hml, findClass_of_methodNamed B.named, hts, hK⟩
  obtain ⟨hx, hb, hr, hlk, hml, hown, hts, hK⟩ := id C
  have hl := lv_entry ([.ref p0, .int i1, .ref (G.2.1 30)]) (n := 4) (Nat.le_of_ble_eq_true rfl)
  rw [lg_entry_eq]
  generalize (lg_sl ([.ref p0, .int i1, .ref (G.2.1 30)]) ++ List.replicate (4 - (lg_sl ([.ref p0, .int i1, .ref (G.2.1 30)])).length) Slot.unset).toArray = ls at hl ⊢
  have hl : lv_has ls 4 [(0, .ref p0), (1, .int i1), (2, .ref (G.2.1 30))] := hl
  unfold fcp at hm
  obtain ⟨hg1, hm⟩ := gb_some hm
  obtain ⟨hg2, hm⟩ := gb_some hm
  obtain ⟨hg3, hm⟩ := gb_some hm
  obtain ⟨hg4, hm⟩ := gb_some hm
  obtain ⟨r, hqr, hm⟩ := ob_some hm
  obtain ⟨hg5, hm⟩ := gb_some hm
  obtain ⟨e7, e8, e9⟩ := rs3 hm
  subst e7
  subst e8
  simp only [Bool.and_eq_true, Bool.not_eq_true', decide_eq_false_iff_not, decide_eq_true_eq] at hg2 hg5
  obtain ⟨hn0, hn1⟩ := hg2
  obtain ⟨hr0, hr1, hr2⟩ := hg5
  refine lv_aload_n (pc := 0) hx hb dJ9_copyOf_2_0 rfl (lv_at hl 2 rfl) ?_
  refine rp_ldcM (pc := 1) hx hb hts hown q1064 ((hZP s hK).2 _) dJ9_copyOf_2_1 ?_
  refine lv_acmp_ne (pc := 3) (rx := some (G.2.1 30)) (ry := some (G.2.1 30)) (tgt := 13) hx hb dJ9_copyOf_2_3 (by decide) (fun h => absurd rfl h) (fun _ => ?_)
  refine lv_iload_n (pc := 6) hx hb dJ9_copyOf_2_6 rfl (lv_at hl 1 rfl) ?_
  refine rk_anew (A := FA (fP PL v1) s.heap.size) (pc := 7) (h := s.heap.size) (N9 := i1.toNatClampNeg) (C := "java/lang/Object") (sh := fun _ _ _ _ z => some (.inl (G.2.1 12, i1.toNatClampNeg, .inr (.inr (.inr (.inr z)))))) hx hb hts hown hK va_S.rf q1065 q388 12 rfl rfl rfl hn0 rfl (by omega) (Nat.le_of_ble_eq_true rfl) (by show 0 + _ ≤ 90; omega) dJ9_copyOf_2_7 (fun H1 hN hS1 hz1 hk1 => ?_)
  have hcN : H1[s.heap.size]? = some (vp_cell (G.2.1 12) (i1.toNatClampNeg, .inr (.inr (.inr (.inr (fun _ => none)))))) := by
    have h := hN 0 (by decide) _ rfl
    rw [Nat.add_zero] at h
    exact h
  have hc0 : H1[p0]? = some (vp_cell (G.2.1 12) ((v1.1 p0 98).toNatClampNeg, .inr (.inr (.inr (.inr (v1.2.2 p0)))))) := by
    have h := hW1 p0 _ (shP_44 (kd_PL (ka_kd hg1)) (kd_k (ka_kd hg1)))
    rw [hk1 p0 h.lt]
    exact h
  have hlen : H1[p0]? = some (vp_cell (G.2.1 12) ((gI v1 p0 98).toNatClampNeg, .inr (.inr (.inr (.inr (v1.2.2 p0)))))) := hc0
  refine lv_goto (pc := 10) (tgt := 24) hx hb dJ9_copyOf_2_10 (by decide) ?_
  refine lv_astore_n (pc := 24) (lv' := [(3, .ref s.heap.size), (0, .ref p0), (1, .int i1), (2, .ref (G.2.1 30))]) hx hb dJ9_copyOf_2_24 rfl hl (by decide) rfl (fun ls hl => ?_)
  refine lv_aload_n (pc := 25) hx hb dJ9_copyOf_2_25 rfl (lv_at hl 1 rfl) ?_
  refine lv_iconst (pc := 26) (v := (0 : Int32)) hx hb dJ9_copyOf_2_26 (by decide) ?_
  refine lv_aload_n (pc := 27) hx hb dJ9_copyOf_2_27 rfl (lv_at hl 0 rfl) ?_
  refine lv_iconst (pc := 28) (v := (0 : Int32)) hx hb dJ9_copyOf_2_28 (by decide) ?_
  refine lv_aload_n (pc := 29) hx hb dJ9_copyOf_2_29 rfl (lv_at hl 1 rfl) ?_
  refine rp_alen (pc := 30) hx hb hK (pl_keepN hW1 rfl hk1) hg1 dJ9_copyOf_2_30 ?_
  refine lv_iload_n (pc := 31) hx hb dJ9_copyOf_2_31 rfl (lv_at hl 2 rfl) ?_
  refine rk_PS (pc := 32) (As := [.int (Int32.ofNat (gI v1 p0 98).toNatClampNeg), .int i1]) (rest := [.int (0 : Int32), .ref s.heap.size, .int (0 : Int32), .ref p0]) hx hb hml hown hts hK lkJ9_304 yn_J7_min_9 (ct_J7_min (G := G) (l := l) hqr) ⟨Nat.le_of_ble_eq_true rfl, Nat.le_of_ble_eq_true rfl⟩ trivial rfl rfl hl.1 (Nat.le_of_ble_eq_true rfl) dJ9_copyOf_2_32 ⟨Nat.le_of_ble_eq_true rfl, by show 0 + _ ≤ 90; omega⟩ ?_
  refine W.eq (g2 := F0 m 35 ls [.int r, .int (0 : Int32), .ref s.heap.size, .int (0 : Int32), .ref p0]) rfl ?_
  refine rp_copyr (pc := 35) (rest := []) hx hb hml hown hts hK lacJ9_150 hcN hlen hS1 (show FA (fP PL v1) s.heap.size s.heap.size from Or.inr (Nat.le_refl _)) ?_ hr0 hr1 hr2 hl.1 (Nat.le_of_ble_eq_true rfl) (Nat.le_of_ble_eq_true rfl) dJ9_copyOf_2_35 (fun H2 locs2 hc2 hS2 hz2 hk2 => ?_)
  · intro i hi a ha
    obtain ⟨k, hk, hkn⟩ := elOK_at hg4 hi ha
    subst hk
    refine ⟨"WholePacks$Node", q2402, ?_⟩
    exact rk_recv (ci := 8) hK (rg_keepN hW0 rfl hk1) (197 + 4 * k + 0) (by omega) rfl rfl ((shX0_f197 G.2.1 hkn _ rfl 0 (by decide) _ _ _).trans rfl)
  refine lv_aload_n (pc := 38) hx hb dJ9_copyOf_2_38 rfl (lv_at hl 0 rfl) ?_
  have hPL : PL s.heap.size = true := hg3
  have hkS : ∀ z : Nat, z < s.heap.size → H2[z]? = s.heap[z]? := fun z hz => (hk2 z (by omega)).trans (hk1 z hz)
  have hfin : pl G PL rw1 H2 := by
    rw [← e9]
    intro o e2 h2
    by_cases hc : o = s.heap.size
    · subst hc
      have h3 := shP_44 (dA := G.2.1) (o := s.heap.size) (a := 0) (x := (cpP v1 s.heap.size p0 i1 r.toNatClampNeg).1 s.heap.size) (y := (cpP v1 s.heap.size p0 i1 r.toNatClampNeg).2.1 s.heap.size) (z := (cpP v1 s.heap.size p0 i1 r.toNatClampNeg).2.2 s.heap.size) hPL (by show (nwP v1 s.heap.size 44 i1).1 s.heap.size 99 = 44; rw [nwP_i]; rfl)
      rw [h3] at h2
      cases h2
      show H2[s.heap.size]? = some (vp_cell _ _)
      rw [hc2]
      congr 3
      · show i1.toNatClampNeg = ((nwP v1 s.heap.size 44 i1).1 s.heap.size 98).toNatClampNeg
        rw [nwP_i]
        rfl
      · congr 4
        funext j
        show va_cpy _ _ 0 0 _ j = (cpP v1 s.heap.size p0 i1 r.toNatClampNeg).2.2 s.heap.size j
        simp [va_cpy, cpP]
    · obtain ⟨e4, e5, -⟩ := nwP_ne (v := v1) (k := 44) (n := i1) o hc
      have e6 : (cpP v1 s.heap.size p0 i1 r.toNatClampNeg).2.2 o = v1.2.2 o := by funext j; simp [cpP, hc]
      rw [show (cpP v1 s.heap.size p0 i1 r.toNatClampNeg).1 o = v1.1 o from e4, show (cpP v1 s.heap.size p0 i1 r.toNatClampNeg).2.1 o = v1.2.1 o from e5, e6] at h2
      have h4 := hW1 o e2 h2
      exact h4.kept (hkS o h4.lt)
  have hkm : KM v1 rw1 s.heap.size := by
    rw [← e9]
    exact KM.nw (k := 44) (n := i1) KM.rf (Nat.le_refl _)
  exact rp_aretA (pc := 39) (x := some s.heap.size) hx hb hr (Or.inr ⟨_, rfl⟩) hlk hS2 ⟨rfl, hfin, hz2.trans hz1, hkm⟩ dJ9_copyOf_2_39 (Nat.le_of_ble_eq_true rfl) (by show 0 + _ ≤ 90; omega)
set_option maxHeartbeats 4000000 in
theorem ct_J9_copyOf_node {G : Gv} {l : Launch} {PL : Nat → Bool} {Z b0 : Nat} {V0 v1 : Mem} {p0 : Nat} {i1 : Int32} {rx : Option Nat} {rc : Nat} {rw1 : Mem} (hm : fcp 197 4 40 PL Z b0 V0 v1 p0 i1 = some (rx, rc, rw1)) (hPX : ∀ z, PL z = true → ¬ fX b0 z) (hZP : ZP G) : CT G l yJ9_copyOf (ws_ yJ9_copyOf cJ9_copyOf 2 (some (.array (.object "java/lang/Object")))) 3 1 90 120 [.ref p0, .int i1] (fP PL v1) Z (fun H => rg G b0 357 (shX0 G.2.1) V0 H ∧ pl G PL v1 H) (fun ov H => ov = (some (va_rf rx)) ∧ pl G PL rw1 H ∧ H.size = Z + rc ∧ KM v1 rw1 Z) := by
  refine Met.ofW (cc := cJ9_copyOf) (maxL := 2) (ret := (some (.array (.object "java/lang/Object")))) (by decide +kernel) rfl ?_
  intro p e s m args below meth c s₁ B hml hv
  obtain ⟨rfl, ⟨hz, hW0, hW1⟩, hK⟩ := hv
  subst hz
  have hts := atoms_spec (ws := ws_ yJ9_copyOf cJ9_copyOf 2 (some (.array (.object "java/lang/Object")))) B.pre
  have hts : ∀ w ∈ lw_all, w.before _ s = true := fun w h => hts w (List.mem_cons_of_mem _ h)
  have C : Cx G p s m _ meth c RJ9 cJ9_copyOf 2 (some (.array (.object "java/lang/Object"))) := ⟨B.exec, B.bytes, B.returns, B.notSynchronized, hml, findClass_of_methodNamed B.named, hts, hK⟩
  obtain ⟨hx, hb, hr, hlk, hml, hown, hts, hK⟩ := id C
  have hl := lv_entry ([.ref p0, .int i1]) (n := 2) (Nat.le_of_ble_eq_true rfl)
  rw [lg_entry_eq]
  generalize (lg_sl ([.ref p0, .int i1]) ++ List.replicate (2 - (lg_sl ([.ref p0, .int i1])).length) Slot.unset).toArray = ls at hl ⊢
  have hl : lv_has ls 2 [(0, .ref p0), (1, .int i1)] := hl
  have hg1 : ka PL v1 p0 44 = true := by
    unfold fcp at hm
    exact (gb_some hm).1
  have hrcv : RcV s s.heap "[Ljava/lang/Object;" p0 := by
    have h := hW1 p0 _ (shP_44 (kd_PL (ka_kd hg1)) (kd_k (ka_kd hg1)))
    have h2 : s.heap[p0]? = some (vp_cell (G.2.1 12) ((v1.1 p0 98).toNatClampNeg, .inr (.inr (.inr (.inr (v1.2.2 p0)))))) := h
    obtain ⟨kA, comp, k1, k2, k3, k4⟩ := (hK.1.2 12 _ rfl).2
    exact ⟨_, h2, rfl, k4⟩
  refine lv_aload_n (pc := 0) hx hb dJ9_copyOf_0 rfl (lv_at hl 0 rfl) ?_
  refine lv_iload_n (pc := 1) hx hb dJ9_copyOf_1 rfl (lv_at hl 1 rfl) ?_
  refine lv_aload_n (pc := 2) hx hb dJ9_copyOf_2 rfl (lv_at hl 0 rfl) ?_
  refine rp_getC (pc := 3) (rest := [.int i1, .ref p0]) hx hb hml hts hown q1033 q1035 q1060 q1034 q2427 hrcv ((hZP s hK).2 _) hl.1 (Nat.le_of_ble_eq_true rfl) (Nat.le_of_ble_eq_true rfl) dJ9_copyOf_3 ?_
  refine rk_TS (A0 := FA (fP PL v1) s.heap.size) (pc := 6) (As := [.ref p0, .int i1, .ref (G.2.1 30)]) (rest := []) (mc := 1) (ms := 90) hx hb hml hown hts hK va_S.rf (fun q hq => FA_sz rfl q hq) lkJ9_300 yn_J9_copyOf_2 (ct_J9_copyOf_2_node (G := G) (l := l) (b0 := b0) hm hPX hZP) ⟨Nat.le_of_ble_eq_true rfl, Nat.le_of_ble_eq_true rfl⟩ (fun z h => Or.inl h) ⟨hW0, hW1⟩ rfl rfl hl.1 (Nat.le_of_ble_eq_true rfl) dJ9_copyOf_6 ⟨Nat.le_of_ble_eq_true rfl, Nat.le_of_ble_eq_true rfl⟩ (fun ov9 H1 locs1 hP1 hk1 hS1 => ?_)
  obtain ⟨rfl, hP2⟩ := hP1
  refine W.eq (g2 := F0 m 9 ls [va_rf rx]) rfl ?_
  exact rp_aretA (pc := 9) (x := rx) hx hb hr (Or.inr ⟨_, rfl⟩) hlk hS1 ⟨rfl, hP2⟩ dJ9_copyOf_9 (Nat.le_of_ble_eq_true rfl) (Nat.le_of_ble_eq_true rfl)
set_option maxHeartbeats 4000000 in
theorem ct_J9_copyOf_2_found {G : Gv} {l : Launch} {PL : Nat → Bool} {Z b0 : Nat} {V0 v1 : Mem} {p0 : Nat} {i1 : Int32} {rx : Option Nat} {rc : Nat} {rw1 : Mem} (hm : fcp 177 1 20 PL Z b0 V0 v1 p0 i1 = some (rx, rc, rw1)) (hPX : ∀ z, PL z = true → ¬ fX b0 z) (hZP : ZP G) : CT G l yJ9_copyOf_2 (ws_ yJ9_copyOf_2 cJ9_copyOf_2 4 (some (.array (.object "java/lang/Object")))) 2 1 90 80 [.ref p0, .int i1, .ref (G.2.1 30)] (fP PL v1) Z (fun H => rg G b0 357 (shX0 G.2.1) V0 H ∧ pl G PL v1 H) (fun ov H => ov = (some (va_rf rx)) ∧ pl G PL rw1 H ∧ H.size = Z + rc ∧ KM v1 rw1 Z) := by
  refine Met.ofW (cc := cJ9_copyOf_2) (maxL := 4) (ret := (some (.array (.object "java/lang/Object")))) (by decide +kernel) rfl ?_
  intro p e s m args below meth c s₁ B hml hv
  obtain ⟨rfl, ⟨hz, hW0, hW1⟩, hK⟩ := hv
  subst hz
  have hts := atoms_spec (ws := ws_ yJ9_copyOf_2 cJ9_copyOf_2 4 (some (.array (.object "java/lang/Object")))) B.pre
  have hts : ∀ w ∈ lw_all, w.before _ s = true := fun w h => hts w (List.mem_cons_of_mem _ h)
  have C : Cx G p s m _ meth c RJ9 cJ9_copyOf_2 4 (some (.array (.object "java/lang/Object"))) := ⟨B.exec, B.bytes, B.returns, B.notSynchronized, hml, findClass_of_methodNamed B.named, hts, hK⟩
  obtain ⟨hx, hb, hr, hlk, hml, hown, hts, hK⟩ := id C
  have hl := lv_entry ([.ref p0, .int i1, .ref (G.2.1 30)]) (n := 4) (Nat.le_of_ble_eq_true rfl)
  rw [lg_entry_eq]
  generalize (lg_sl ([.ref p0, .int i1, .ref (G.2.1 30)]) ++ List.replicate (4 - (lg_sl ([.ref p0, .int i1, .ref (G.2.1 30)])).length) Slot.unset).toArray = ls at hl ⊢
  have hl : lv_has ls 4 [(0, .ref p0), (1, .int i1), (2, .ref (G.2.1 30))] := hl
  unfold fcp at hm
  obtain ⟨hg1, hm⟩ := gb_some hm
  obtain ⟨hg2, hm⟩ := gb_some hm
  obtain ⟨hg3, hm⟩ := gb_some hm
  obtain ⟨hg4, hm⟩ := gb_some hm
  obtain ⟨r, hqr, hm⟩ := ob_some hm
  obtain ⟨hg5, hm⟩ := gb_some hm
  obtain ⟨e7, e8, e9⟩ := rs3 hm
  subst e7
  subst e8
  simp only [Bool.and_eq_true, Bool.not_eq_true', decide_eq_false_iff_not, decide_eq_true_eq] at hg2 hg5
  obtain ⟨hn0, hn1⟩ := hg2
  obtain ⟨hr0, hr1, hr2⟩ := hg5
  refine lv_aload_n (pc := 0) hx hb dJ9_copyOf_2_0 rfl (lv_at hl 2 rfl) ?_
  refine rp_ldcM (pc := 1) hx hb hts hown q1064 ((hZP s hK).2 _) dJ9_copyOf_2_1 ?_
  refine lv_acmp_ne (pc := 3) (rx := some (G.2.1 30)) (ry := some (G.2.1 30)) (tgt := 13) hx hb dJ9_copyOf_2_3 (by decide) (fun h => absurd rfl h) (fun _ => ?_)
  refine lv_iload_n (pc := 6) hx hb dJ9_copyOf_2_6 rfl (lv_at hl 1 rfl) ?_
  refine rk_anew (A := FA (fP PL v1) s.heap.size) (pc := 7) (h := s.heap.size) (N9 := i1.toNatClampNeg) (C := "java/lang/Object") (sh := fun _ _ _ _ z => some (.inl (G.2.1 12, i1.toNatClampNeg, .inr (.inr (.inr (.inr z)))))) hx hb hts hown hK va_S.rf q1065 q388 12 rfl rfl rfl hn0 rfl (by omega) (Nat.le_of_ble_eq_true rfl) (by show 0 + _ ≤ 90; omega) dJ9_copyOf_2_7 (fun H1 hN hS1 hz1 hk1 => ?_)
  have hcN : H1[s.heap.size]? = some (vp_cell (G.2.1 12) (i1.toNatClampNeg, .inr (.inr (.inr (.inr (fun _ => none)))))) := by
    have h := hN 0 (by decide) _ rfl
    rw [Nat.add_zero] at h
    exact h
  have hc0 : H1[p0]? = some (vp_cell (G.2.1 12) ((v1.1 p0 98).toNatClampNeg, .inr (.inr (.inr (.inr (v1.2.2 p0)))))) := by
    have h := hW1 p0 _ (shP_44 (kd_PL (ka_kd hg1)) (kd_k (ka_kd hg1)))
    rw [hk1 p0 h.lt]
    exact h
  have hlen : H1[p0]? = some (vp_cell (G.2.1 12) ((gI v1 p0 98).toNatClampNeg, .inr (.inr (.inr (.inr (v1.2.2 p0)))))) := hc0
  refine lv_goto (pc := 10) (tgt := 24) hx hb dJ9_copyOf_2_10 (by decide) ?_
  refine lv_astore_n (pc := 24) (lv' := [(3, .ref s.heap.size), (0, .ref p0), (1, .int i1), (2, .ref (G.2.1 30))]) hx hb dJ9_copyOf_2_24 rfl hl (by decide) rfl (fun ls hl => ?_)
  refine lv_aload_n (pc := 25) hx hb dJ9_copyOf_2_25 rfl (lv_at hl 1 rfl) ?_
  refine lv_iconst (pc := 26) (v := (0 : Int32)) hx hb dJ9_copyOf_2_26 (by decide) ?_
  refine lv_aload_n (pc := 27) hx hb dJ9_copyOf_2_27 rfl (lv_at hl 0 rfl) ?_
  refine lv_iconst (pc := 28) (v := (0 : Int32)) hx hb dJ9_copyOf_2_28 (by decide) ?_
  refine lv_aload_n (pc := 29) hx hb dJ9_copyOf_2_29 rfl (lv_at hl 1 rfl) ?_
  refine rp_alen (pc := 30) hx hb hK (pl_keepN hW1 rfl hk1) hg1 dJ9_copyOf_2_30 ?_
  refine lv_iload_n (pc := 31) hx hb dJ9_copyOf_2_31 rfl (lv_at hl 2 rfl) ?_
  refine rk_PS (pc := 32) (As := [.int (Int32.ofNat (gI v1 p0 98).toNatClampNeg), .int i1]) (rest := [.int (0 : Int32), .ref s.heap.size, .int (0 : Int32), .ref p0]) hx hb hml hown hts hK lkJ9_304 yn_J7_min_9 (ct_J7_min (G := G) (l := l) hqr) ⟨Nat.le_of_ble_eq_true rfl, Nat.le_of_ble_eq_true rfl⟩ trivial rfl rfl hl.1 (Nat.le_of_ble_eq_true rfl) dJ9_copyOf_2_32 ⟨Nat.le_of_ble_eq_true rfl, by show 0 + _ ≤ 90; omega⟩ ?_
  refine W.eq (g2 := F0 m 35 ls [.int r, .int (0 : Int32), .ref s.heap.size, .int (0 : Int32), .ref p0]) rfl ?_
  refine rp_copyr (pc := 35) (rest := []) hx hb hml hown hts hK lacJ9_150 hcN hlen hS1 (show FA (fP PL v1) s.heap.size s.heap.size from Or.inr (Nat.le_refl _)) ?_ hr0 hr1 hr2 hl.1 (Nat.le_of_ble_eq_true rfl) (Nat.le_of_ble_eq_true rfl) dJ9_copyOf_2_35 (fun H2 locs2 hc2 hS2 hz2 hk2 => ?_)
  · intro i hi a ha
    obtain ⟨k, hk, hkn⟩ := elOK_at hg4 hi ha
    subst hk
    refine ⟨"WholePacks$Found", q2401, ?_⟩
    exact rk_recv (ci := 7) hK (rg_keepN hW0 rfl hk1) (177 + 1 * k + 0) (by omega) rfl rfl ((shX0_f177 G.2.1 hkn _ rfl 0 (by decide) _ _ _).trans rfl)
  refine lv_aload_n (pc := 38) hx hb dJ9_copyOf_2_38 rfl (lv_at hl 0 rfl) ?_
  have hPL : PL s.heap.size = true := hg3
  have hkS : ∀ z : Nat, z < s.heap.size → H2[z]? = s.heap[z]? := fun z hz => (hk2 z (by omega)).trans (hk1 z hz)
  have hfin : pl G PL rw1 H2 := by
    rw [← e9]
    intro o e2 h2
    by_cases hc : o = s.heap.size
    · subst hc
      have h3 := shP_44 (dA := G.2.1) (o := s.heap.size) (a := 0) (x := (cpP v1 s.heap.size p0 i1 r.toNatClampNeg).1 s.heap.size) (y := (cpP v1 s.heap.size p0 i1 r.toNatClampNeg).2.1 s.heap.size) (z := (cpP v1 s.heap.size p0 i1 r.toNatClampNeg).2.2 s.heap.size) hPL (by show (nwP v1 s.heap.size 44 i1).1 s.heap.size 99 = 44; rw [nwP_i]; rfl)
      rw [h3] at h2
      cases h2
      show H2[s.heap.size]? = some (vp_cell _ _)
      rw [hc2]
      congr 3
      · show i1.toNatClampNeg = ((nwP v1 s.heap.size 44 i1).1 s.heap.size 98).toNatClampNeg
        rw [nwP_i]
        rfl
      · congr 4
        funext j
        show va_cpy _ _ 0 0 _ j = (cpP v1 s.heap.size p0 i1 r.toNatClampNeg).2.2 s.heap.size j
        simp [va_cpy, cpP]
    · obtain ⟨e4, e5, -⟩ := nwP_ne (v := v1) (k := 44) (n := i1) o hc
      have e6 : (cpP v1 s.heap.size p0 i1 r.toNatClampNeg).2.2 o = v1.2.2 o := by funext j; simp [cpP, hc]
      rw [show (cpP v1 s.heap.size p0 i1 r.toNatClampNeg).1 o = v1.1 o from e4, show (cpP v1 s.heap.size p0 i1 r.toNatClampNeg).2.1 o = v1.2.1 o from e5, e6] at h2
      have h4 := hW1 o e2 h2
      exact h4.kept (hkS o h4.lt)
  have hkm : KM v1 rw1 s.heap.size := by
    rw [← e9]
    exact KM.nw (k := 44) (n := i1) KM.rf (Nat.le_refl _)
  exact rp_aretA (pc := 39) (x := some s.heap.size) hx hb hr (Or.inr ⟨_, rfl⟩) hlk hS2 ⟨rfl, hfin, hz2.trans hz1, hkm⟩ dJ9_copyOf_2_39 (Nat.le_of_ble_eq_true rfl) (by show 0 + _ ≤ 90; omega)
set_option maxHeartbeats 4000000 in
theorem ct_J9_copyOf_found {G : Gv} {l : Launch} {PL : Nat → Bool} {Z b0 : Nat} {V0 v1 : Mem} {p0 : Nat} {i1 : Int32} {rx : Option Nat} {rc : Nat} {rw1 : Mem} (hm : fcp 177 1 20 PL Z b0 V0 v1 p0 i1 = some (rx, rc, rw1)) (hPX : ∀ z, PL z = true → ¬ fX b0 z) (hZP : ZP G) : CT G l yJ9_copyOf (ws_ yJ9_copyOf cJ9_copyOf 2 (some (.array (.object "java/lang/Object")))) 3 1 90 120 [.ref p0, .int i1] (fP PL v1) Z (fun H => rg G b0 357 (shX0 G.2.1) V0 H ∧ pl G PL v1 H) (fun ov H => ov = (some (va_rf rx)) ∧ pl G PL rw1 H ∧ H.size = Z + rc ∧ KM v1 rw1 Z) := by
  refine Met.ofW (cc := cJ9_copyOf) (maxL := 2) (ret := (some (.array (.object "java/lang/Object")))) (by decide +kernel) rfl ?_
  intro p e s m args below meth c s₁ B hml hv
  obtain ⟨rfl, ⟨hz, hW0, hW1⟩, hK⟩ := hv
  subst hz
  have hts := atoms_spec (ws := ws_ yJ9_copyOf cJ9_copyOf 2 (some (.array (.object "java/lang/Object")))) B.pre
  have hts : ∀ w ∈ lw_all, w.before _ s = true := fun w h => hts w (List.mem_cons_of_mem _ h)
  have C : Cx G p s m _ meth c RJ9 cJ9_copyOf 2 (some (.array (.object "java/lang/Object"))) := ⟨B.exec, B.bytes, B.returns, B.notSynchronized, hml, findClass_of_methodNamed B.named, hts, hK⟩
  obtain ⟨hx, hb, hr, hlk, hml, hown, hts, hK⟩ := id C
  have hl := lv_entry ([.ref p0, .int i1]) (n := 2) (Nat.le_of_ble_eq_true rfl)
  rw [lg_entry_eq]
  generalize (lg_sl ([.ref p0, .int i1]) ++ List.replicate (2 - (lg_sl ([.ref p0, .int i1])).length) Slot.unset).toArray = ls at hl ⊢
  have hl : lv_has ls 2 [(0, .ref p0), (1, .int i1)] := hl
  have hg1 : ka PL v1 p0 44 = true := by
    unfold fcp at hm
    exact (gb_some hm).1
  have hrcv : RcV s s.heap "[Ljava/lang/Object;" p0 := by
    have h := hW1 p0 _ (shP_44 (kd_PL (ka_kd hg1)) (kd_k (ka_kd hg1)))
    have h2 : s.heap[p0]? = some (vp_cell (G.2.1 12) ((v1.1 p0 98).toNatClampNeg, .inr (.inr (.inr (.inr (v1.2.2 p0)))))) := h
    obtain ⟨kA, comp, k1, k2, k3, k4⟩ := (hK.1.2 12 _ rfl).2
    exact ⟨_, h2, rfl, k4⟩
  refine lv_aload_n (pc := 0) hx hb dJ9_copyOf_0 rfl (lv_at hl 0 rfl) ?_
  refine lv_iload_n (pc := 1) hx hb dJ9_copyOf_1 rfl (lv_at hl 1 rfl) ?_
  refine lv_aload_n (pc := 2) hx hb dJ9_copyOf_2 rfl (lv_at hl 0 rfl) ?_
  refine rp_getC (pc := 3) (rest := [.int i1, .ref p0]) hx hb hml hts hown q1033 q1035 q1060 q1034 q2427 hrcv ((hZP s hK).2 _) hl.1 (Nat.le_of_ble_eq_true rfl) (Nat.le_of_ble_eq_true rfl) dJ9_copyOf_3 ?_
  refine rk_TS (A0 := FA (fP PL v1) s.heap.size) (pc := 6) (As := [.ref p0, .int i1, .ref (G.2.1 30)]) (rest := []) (mc := 1) (ms := 90) hx hb hml hown hts hK va_S.rf (fun q hq => FA_sz rfl q hq) lkJ9_300 yn_J9_copyOf_2 (ct_J9_copyOf_2_found (G := G) (l := l) (b0 := b0) hm hPX hZP) ⟨Nat.le_of_ble_eq_true rfl, Nat.le_of_ble_eq_true rfl⟩ (fun z h => Or.inl h) ⟨hW0, hW1⟩ rfl rfl hl.1 (Nat.le_of_ble_eq_true rfl) dJ9_copyOf_6 ⟨Nat.le_of_ble_eq_true rfl, Nat.le_of_ble_eq_true rfl⟩ (fun ov9 H1 locs1 hP1 hk1 hS1 => ?_)
  obtain ⟨rfl, hP2⟩ := hP1
  refine W.eq (g2 := F0 m 9 ls [va_rf rx]) rfl ?_
  exact rp_aretA (pc := 9) (x := rx) hx hb hr (Or.inr ⟨_, rfl⟩) hlk hS1 ⟨rfl, hP2⟩ dJ9_copyOf_9 (Nat.le_of_ble_eq_true rfl) (Nat.le_of_ble_eq_true rfl)
