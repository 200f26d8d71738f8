set_option maxRecDepth 100000
section
variable {p : Program} {l : Launch} {e : Env} {s : State} {m : MethodId} {args : Array Value} {below : List Frame} {meth : Method} {c : Code} {G : Gv}
noncomputable def fX0_bounds (v0 : Mem) (i1 : Int32) (i2 : Int32) : Option (Mem) :=
  ob (fX1_hasRule (shf v0 23) i1) fun r1 =>
  if r1 = 0 then (
  some v0)
  else (
  gb (inR i1 8) (
  lm (sI v0 (29 + 2 * i1.toNatClampNeg + 0) 1 i2) fun v0_6 =>
  some v0_6))
set_option maxHeartbeats 4000000 in
theorem w_fX0_bounds (C : Cx G p s m args meth c RX0 cX0_bounds 3 none) {b0 : Nat} {rw0 : Mem} : ∀ (v0 : Mem) (i1 : Int32) (i2 : Int32), fX0_bounds v0 i1 i2 = some rw0 → ∀ (H : Heap) (locs : List Loc) (ls : Array Slot), rg G b0 357 (shX0 G.2.1) v0 H → va_S (FA (iv b0 357) s.heap.size) s.heap H locs → H.size = s.heap.size → lv_has ls 3 [(0, .ref b0), (1, .int i1), (2, .int i2)] → W p l e (rmT 2 0 0 46) s m args below meth c H locs 0 0 (MQ below (QcT (FA (iv b0 357) s.heap.size) (fun ov H => ov = none ∧ rg G b0 357 (shX0 G.2.1) rw0 H ∧ H.size = s.heap.size)) args s 0 0 (FA (iv b0 357) s.heap.size)) (F0 m 0 ls []) := by
  intro v0 i1 i2 hm H locs ls hW0 hS hz hl
  obtain ⟨hx, hb, hr, hlk, hml, hown, hts, hK⟩ := id C
  unfold fX0_bounds at hm
  refine lv_aload_n (pc := 0) hx hb dX0_bounds_0 rfl (lv_at hl 0 rfl) ?_
  refine rk_get (pc := 1) hx hb hts hown hK hW0 flX0_18 0 (by decide) rfl rfl (x := .ref (b0 + 23)) (by first | rfl | exact congrArg (fun z => some (Value.ref z)) (by omega)) dX0_bounds_1 ?_
  refine lv_iload_n (pc := 4) hx hb dX0_bounds_4 rfl (lv_at hl 1 rfl) ?_
  obtain ⟨r1, hq2, hm⟩ := ob_some hm
  refine rk_PV (pc := 5) (As := [.int i1]) (rest := []) hx hb hml hown hts hK lkX0_165 rfl yn_X1_hasRule (ct_X1_hasRule (G := G) (l := l) (b0 := (b0 + 23)) hq2) ⟨Nat.le_of_ble_eq_true rfl, Nat.le_of_ble_eq_true rfl⟩ (rk_recv hK hW0 23 (by decide) rfl rfl rfl) (rg_sub hW0 rfl (by decide) (fun o ho x y z => shX0_n23 G.2.1 _ rfl o ho x y z)) rfl rfl hl.1 (Nat.le_of_ble_eq_true rfl) dX0_bounds_5 ⟨Nat.zero_le _, Nat.zero_le _⟩ ?_
  refine W.eq (g2 := F0 m 8 ls [.int r1]) rfl ?_
  refine lv_if_eq (pc := 8) (tgt := 24) hx hb dX0_bounds_8 (by decide) (fun c3 => ?_) (fun c3 => ?_)
  · have hm := ite_t c3 hm
    have e9 := rs1 hm
    subst e9
    exact rk_vret (pc := 24) hx hb hr hlk hS ⟨rfl, hW0, hz⟩ dX0_bounds_24
  · have hm := ite_f c3 hm
    refine lv_aload_n (pc := 11) hx hb dX0_bounds_11 rfl (lv_at hl 0 rfl) ?_
    refine rk_get (pc := 12) hx hb hts hown hK hW0 flX0_18 0 (by decide) rfl rfl (x := .ref (b0 + 23)) (by first | rfl | exact congrArg (fun z => some (Value.ref z)) (by omega)) dX0_bounds_12 ?_
    refine rk_getN (pc := 15) hx hb hts hown hK hW0 fnX0_172 23 (by decide) rfl rfl (x := .ref (b0 + 25)) (by first | rfl | exact congrArg (fun z => some (Value.ref z)) (by omega)) dX0_bounds_15 ?_
    refine lv_iload_n (pc := 18) hx hb dX0_bounds_18 rfl (lv_at hl 1 rfl) ?_
    obtain ⟨hg4, hm⟩ := gb_some hm
    have hlt5 := inR_lt hg4
    refine rk_aald (pc := 19) hx hb hK hW0 25 5 (by decide) rfl rfl rfl hg4 (x := (b0 + (29 + 2 * i1.toNatClampNeg + 0))) (by first | rfl | exact congrArg some (by omega)) dX0_bounds_19 ?_
    refine lv_iload_n (pc := 20) hx hb dX0_bounds_20 rfl (lv_at hl 2 rfl) ?_
    refine rk_putN (pc := 21) hx hb hts hown hK hW0 hS fnX0_181 ft_X2 (29 + 2 * i1.toNatClampNeg + 0) (by omega) rfl (Or.inl (show iv _ _ _ from ⟨by omega, by omega⟩)) ((shX0_f29 G.2.1 hlt5 _ rfl 0 (by decide) _ _ _).trans rfl) rfl (x := .int i2) rfl rfl (Nat.le_of_ble_eq_true rfl) (sI v0 (29 + 2 * i1.toNatClampNeg + 0) 1 i2) sI_ne (by rw [sI_eq]; exact ((shX0_f29 G.2.1 hlt5 _ rfl 0 (by decide) _ _ _).trans rfl)) dX0_bounds_21 (fun H7 locs8 hW9 hS10 hz11 hkp12 => ?_)
    obtain ⟨v0_6, he9, hm⟩ := lm_some hm
    rw [he9] at hW9
    have hz13 := hz11.trans hz
    have e9 := rs1 hm
    subst e9
    exact rk_vret (pc := 24) hx hb hr hlk hS10 ⟨rfl, hW9, hz13⟩ dX0_bounds_24
set_option maxHeartbeats 4000000 in
theorem ct_X0_bounds {G : Gv} {l : Launch} {b0 : Nat} {v0 : Mem} {i1 : Int32} {i2 : Int32} {rw0 : Mem} {sz : Nat} (hm : fX0_bounds v0 i1 i2 = some rw0) : CT G l yX0_bounds (ws_ yX0_bounds cX0_bounds 3 none) 2 0 0 46 [.ref b0, .int i1, .int i2] (iv b0 357) sz (fun H => rg G b0 357 (shX0 G.2.1) v0 H) (fun ov H => ov = none ∧ rg G b0 357 (shX0 G.2.1) rw0 H ∧ H.size = sz) := by
  refine Met.ofW (cc := cX0_bounds) (maxL := 3) (ret := none) (by decide +kernel) rfl ?_
  intro p e s m args below meth c s₁ B hml hv
  obtain ⟨rfl, ⟨hz, hW0⟩, hK⟩ := hv
  subst hz
  have hts := atoms_spec (ws := ws_ yX0_bounds cX0_bounds 3 none) B.pre
  have hts : ∀ w ∈ lw_all, w.before _ s = true := fun w h => hts w (List.mem_cons_of_mem _ h)
  have C : Cx G p s m _ meth c RX0 cX0_bounds 3 none := ⟨B.exec, B.bytes, B.returns, B.notSynchronized, hml, findClass_of_methodNamed B.named, hts, hK⟩
  have hl := lv_entry ([.ref b0, .int i1, .int i2]) (n := 3) (Nat.le_of_ble_eq_true rfl)
  rw [lg_entry_eq]
  generalize (lg_sl ([.ref b0, .int i1, .int i2]) ++ List.replicate (3 - (lg_sl ([.ref b0, .int i1, .int i2])).length) Slot.unset).toArray = ls at hl ⊢
  have hl : lv_has ls 3 [(0, .ref b0), (1, .int i1), (2, .int i2)] := hl
  exact w_fX0_bounds C _ _ _ hm s.heap [] ls hW0 va_S.rf rfl hl
noncomputable def fX0_factors (v0 : Mem) (i1 : Int32) (i2 : Int32) : Option (Mem) :=
  ob (fX1_hasRule (shf v0 23) i1) fun r1 =>
  if r1 = 0 then (
  some v0)
  else (
  gb (inR i1 8) (
  gb (inR (0 : Int32) 5) (
  lm (sI v0 (29 + 2 * i1.toNatClampNeg + 1) (0 : Int32).toNatClampNeg i2) fun v0_7 =>
  some v0_7)))
set_option maxHeartbeats 4000000 in
theorem w_fX0_factors (C : Cx G p s m args meth c RX0 cX0_factors 3 none) {b0 : Nat} {rw0 : Mem} : ∀ (v0 : Mem) (i1 : Int32) (i2 : Int32), fX0_factors v0 i1 i2 = some rw0 → ∀ (H : Heap) (locs : List Loc) (ls : Array Slot), rg G b0 357 (shX0 G.2.1) v0 H → va_S (FA (iv b0 357) s.heap.size) s.heap H locs → H.size = s.heap.size → lv_has ls 3 [(0, .ref b0), (1, .int i1), (2, .int i2)] → W p l e (rmT 2 0 0 46) s m args below meth c H locs 0 0 (MQ below (QcT (FA (iv b0 357) s.heap.size) (fun ov H => ov = none ∧ rg G b0 357 (shX0 G.2.1) rw0 H ∧ H.size = s.heap.size)) args s 0 0 (FA (iv b0 357) s.heap.size)) (F0 m 0 ls []) := by
  intro v0 i1 i2 hm H locs ls hW0 hS hz hl
  obtain ⟨hx, hb, hr, hlk, hml, hown, hts, hK⟩ := id C
  unfold fX0_factors at hm
  refine lv_aload_n (pc := 0) hx hb dX0_factors_0 rfl (lv_at hl 0 rfl) ?_
  refine rk_get (pc := 1) hx hb hts hown hK hW0 flX0_18 0 (by decide) rfl rfl (x := .ref (b0 + 23)) (by first | rfl | exact congrArg (fun z => some (Value.ref z)) (by omega)) dX0_factors_1 ?_
  refine lv_iload_n (pc := 4) hx hb dX0_factors_4 rfl (lv_at hl 1 rfl) ?_
  obtain ⟨r1, hq2, hm⟩ := ob_some hm
  refine rk_PV (pc := 5) (As := [.int i1]) (rest := []) hx hb hml hown hts hK lkX0_165 rfl yn_X1_hasRule (ct_X1_hasRule (G := G) (l := l) (b0 := (b0 + 23)) hq2) ⟨Nat.le_of_ble_eq_true rfl, Nat.le_of_ble_eq_true rfl⟩ (rk_recv hK hW0 23 (by decide) rfl rfl rfl) (rg_sub hW0 rfl (by decide) (fun o ho x y z => shX0_n23 G.2.1 _ rfl o ho x y z)) rfl rfl hl.1 (Nat.le_of_ble_eq_true rfl) dX0_factors_5 ⟨Nat.zero_le _, Nat.zero_le _⟩ ?_
  refine W.eq (g2 := F0 m 8 ls [.int r1]) rfl ?_
  refine lv_if_eq (pc := 8) (tgt := 26) hx hb dX0_factors_8 (by decide) (fun c3 => ?_) (fun c3 => ?_)
  · have hm := ite_t c3 hm
    have e9 := rs1 hm
    subst e9
    exact rk_vret (pc := 26) hx hb hr hlk hS ⟨rfl, hW0, hz⟩ dX0_factors_26
  · have hm := ite_f c3 hm
    refine lv_aload_n (pc := 11) hx hb dX0_factors_11 rfl (lv_at hl 0 rfl) ?_
    refine rk_get (pc := 12) hx hb hts hown hK hW0 flX0_18 0 (by decide) rfl rfl (x := .ref (b0 + 23)) (by first | rfl | exact congrArg (fun z => some (Value.ref z)) (by omega)) dX0_factors_12 ?_
    refine rk_getN (pc := 15) hx hb hts hown hK hW0 fnX0_172 23 (by decide) rfl rfl (x := .ref (b0 + 25)) (by first | rfl | exact congrArg (fun z => some (Value.ref z)) (by omega)) dX0_factors_15 ?_
    refine lv_iload_n (pc := 18) hx hb dX0_factors_18 rfl (lv_at hl 1 rfl) ?_
    obtain ⟨hg4, hm⟩ := gb_some hm
    have hlt5 := inR_lt hg4
    refine rk_aald (pc := 19) hx hb hK hW0 25 5 (by decide) rfl rfl rfl hg4 (x := (b0 + (29 + 2 * i1.toNatClampNeg + 0))) (by first | rfl | exact congrArg some (by omega)) dX0_factors_19 ?_
    refine rk_getN (pc := 20) hx hb hts hown hK hW0 fnX0_176 (29 + 2 * i1.toNatClampNeg + 0) (by omega) rfl ((shX0_f29 G.2.1 hlt5 _ rfl 0 (by decide) _ _ _).trans rfl) (x := .ref (b0 + (29 + 2 * i1.toNatClampNeg + 1))) (by first | rfl | exact congrArg (fun z => some (Value.ref z)) (by omega)) dX0_factors_20 ?_
    refine lv_iconst (pc := 23) (v := (0 : Int32)) hx hb dX0_factors_23 (by decide) ?_
    refine lv_iload_n (pc := 24) hx hb dX0_factors_24 rfl (lv_at hl 2 rfl) ?_
    obtain ⟨hg6, hm⟩ := gb_some hm
    refine rk_iast (pc := 25) hx hb hK hW0 hS (29 + 2 * i1.toNatClampNeg + 1) (by omega) rfl (Or.inl (show iv _ _ _ from ⟨by omega, by omega⟩)) (fun _ _ _ => ((shX0_f29 G.2.1 hlt5 _ rfl 1 (by decide) _ _ _).trans rfl)) hg6 dX0_factors_25 (fun H8 locs9 hW10 hS11 hz12 hkp13 => ?_)
    obtain ⟨v0_7, he9, hm⟩ := lm_some hm
    rw [he9] at hW10
    have hz14 := hz12.trans hz
    have e9 := rs1 hm
    subst e9
    exact rk_vret (pc := 26) hx hb hr hlk hS11 ⟨rfl, hW10, hz14⟩ dX0_factors_26
set_option maxHeartbeats 4000000 in
theorem ct_X0_factors {G : Gv} {l : Launch} {b0 : Nat} {v0 : Mem} {i1 : Int32} {i2 : Int32} {rw0 : Mem} {sz : Nat} (hm : fX0_factors v0 i1 i2 = some rw0) : CT G l yX0_factors (ws_ yX0_factors cX0_factors 3 none) 2 0 0 46 [.ref b0, .int i1, .int i2] (iv b0 357) sz (fun H => rg G b0 357 (shX0 G.2.1) v0 H) (fun ov H => ov = none ∧ rg G b0 357 (shX0 G.2.1) rw0 H ∧ H.size = sz) := by
  refine Met.ofW (cc := cX0_factors) (maxL := 3) (ret := none) (by decide +kernel) rfl ?_
  intro p e s m args below meth c s₁ B hml hv
  obtain ⟨rfl, ⟨hz, hW0⟩, hK⟩ := hv
  subst hz
  have hts := atoms_spec (ws := ws_ yX0_factors cX0_factors 3 none) B.pre
  have hts : ∀ w ∈ lw_all, w.before _ s = true := fun w h => hts w (List.mem_cons_of_mem _ h)
  have C : Cx G p s m _ meth c RX0 cX0_factors 3 none := ⟨B.exec, B.bytes, B.returns, B.notSynchronized, hml, findClass_of_methodNamed B.named, hts, hK⟩
  have hl := lv_entry ([.ref b0, .int i1, .int i2]) (n := 3) (Nat.le_of_ble_eq_true rfl)
  rw [lg_entry_eq]
  generalize (lg_sl ([.ref b0, .int i1, .int i2]) ++ List.replicate (3 - (lg_sl ([.ref b0, .int i1, .int i2])).length) Slot.unset).toArray = ls at hl ⊢
  have hl : lv_has ls 3 [(0, .ref b0), (1, .int i1), (2, .int i2)] := hl
  exact w_fX0_factors C _ _ _ hm s.heap [] ls hW0 va_S.rf rfl hl
noncomputable def fX0_isTape (i0 : Int32) : Option (Int32) :=
  ob (fX0_in i0.toInt64 (0 : Int64) (5 : Int64)) fun r1 =>
  gb (z01 r1) (some r1)
set_option maxHeartbeats 4000000 in
theorem w_fX0_isTape (C : Cx G p s m args meth c RX0 cX0_isTape 1 (some .boolean)) {rx : Int32} : ∀ (i0 : Int32), fX0_isTape i0 = some rx → ∀ (ls : Array Slot), lv_has ls 1 [(0, .int i0)] → W p l e (rmP 1 25) s m args below meth c s.heap [] 0 0 (MQ below (QcP (some (.int rx))) args s 0 0 (fun _ => False)) (F0 m 0 ls []) := by
  intro i0 hm ls hl
  obtain ⟨hx, hb, hr, hlk, hml, hown, hts, hK⟩ := id C
  unfold fX0_isTape at hm
  refine lv_iload_n (pc := 0) hx hb dX0_isTape_0 rfl (lv_at hl 0 rfl) ?_
  refine lv_i2l (pc := 1) hx hb dX0_isTape_1 rfl ?_
  refine lv_lconst (pc := 2) (v := (0 : Int64)) hx hb dX0_isTape_2 (by decide) ?_
  refine lv_ldc2 (pc := 3) (v := (5 : Int64)) hx hb hown (hts _ q578) dX0_isTape_3 ?_
  obtain ⟨r1, hq2, hm⟩ := ob_some hm
  refine rk_PS (pc := 6) (As := [.long i0.toInt64, .long (0 : Int64), .long (5 : Int64)]) (rest := []) hx hb hml hown hts hK lkX0_127 yn_X0_in (ct_X0_in (G := G) (l := l) hq2) ⟨Nat.le_of_ble_eq_true rfl, Nat.le_of_ble_eq_true rfl⟩ trivial rfl rfl hl.1 (Nat.le_of_ble_eq_true rfl) dX0_isTape_6 ⟨Nat.zero_le _, Nat.zero_le _⟩ ?_
  refine W.eq (g2 := F0 m 9 ls [.int r1]) rfl ?_
  obtain ⟨hg3, hm⟩ := gb_some hm
  have e9 := rs1 hm
  subst e9
  exact rk_zretP (pc := 9) hx hb hr hlk hg3 rfl dX0_isTape_9
set_option maxHeartbeats 4000000 in
theorem ct_X0_isTape {G : Gv} {l : Launch} {i0 : Int32} {rx : Int32} (hm : fX0_isTape i0 = some rx) : CP G l yX0_isTape (ws_ yX0_isTape cX0_isTape 1 (some .boolean)) 1 25 [.int i0] (fun H => True) (some (.int rx)) := by
  refine Met.ofW (cc := cX0_isTape) (maxL := 1) (ret := (some .boolean)) (by decide +kernel) rfl ?_
  intro p e s m args below meth c s₁ B hml hv
  obtain ⟨rfl, -, hK⟩ := hv
  have hts := atoms_spec (ws := ws_ yX0_isTape cX0_isTape 1 (some .boolean)) B.pre
  have hts : ∀ w ∈ lw_all, w.before _ s = true := fun w h => hts w (List.mem_cons_of_mem _ h)
  have C : Cx G p s m _ meth c RX0 cX0_isTape 1 (some .boolean) := ⟨B.exec, B.bytes, B.returns, B.notSynchronized, hml, findClass_of_methodNamed B.named, hts, hK⟩
  have hl := lv_entry ([.int i0]) (n := 1) (Nat.le_of_ble_eq_true rfl)
  rw [lg_entry_eq]
  generalize (lg_sl ([.int i0]) ++ List.replicate (1 - (lg_sl ([.int i0])).length) Slot.unset).toArray = ls at hl ⊢
  have hl : lv_has ls 1 [(0, .int i0)] := hl
  exact w_fX0_isTape C _ hm ls hl
theorem yn_X0_isKept : YN yX0_isKept 2 := by
  unfold YN
  decide +kernel
theorem lkX0_605 : LV RX0 605 RX0 yX0_isKept cX0_isKept 3 (some .boolean) := ⟨q1199, q1201, qs39, q114, q1202⟩
noncomputable def fX0_lambda_lost_5 (v0 : Mem) (i1 : Int32) (i2 : Int32) (i3 : Int32) (i4 : Int32) : Option (Int32 × Mem) :=
  if 0 < i4 then (
  some ((1 : Int32), v0))
  else (
  ob2 (fX0_isKept v0 i1 i2) fun r2 w3 =>
  if r2 = 0 then (
  some ((0 : Int32), w3))
  else (
  some ((1 : Int32), w3)))
set_option maxHeartbeats 4000000 in
theorem w_fX0_lambda_lost_5 (C : Cx G p s m args meth c RX0 cX0_lambda_lost_5 5 (some .boolean)) {b0 : Nat} {rx : Int32} {rw0 : Mem} : ∀ (v0 : Mem) (i1 : Int32) (i2 : Int32) (i3 : Int32) (i4 : Int32), fX0_lambda_lost_5 v0 i1 i2 i3 i4 = some (rx, rw0) → ∀ (H : Heap) (locs : List Loc) (ls : Array Slot), rg G b0 357 (shX0 G.2.1) v0 H → va_S (FA (iv b0 357) s.heap.size) s.heap H locs → H.size = s.heap.size → lv_has ls 5 [(0, .ref b0), (1, .int i1), (2, .int i2), (3, .int i3), (4, .int i4)] → W p l e (rmT 4 0 0 95) s m args below meth c H locs 0 0 (MQ below (QcT (FA (iv b0 357) s.heap.size) (fun ov H => ov = (some (.int rx)) ∧ rg G b0 357 (shX0 G.2.1) rw0 H ∧ H.size = s.heap.size)) args s 0 0 (FA (iv b0 357) s.heap.size)) (F0 m 0 ls []) := by
  intro v0 i1 i2 i3 i4 hm H locs ls hW0 hS hz hl
  obtain ⟨hx, hb, hr, hlk, hml, hown, hts, hK⟩ := id C
  unfold fX0_lambda_lost_5 at hm
  refine lv_iload (pc := 0) hx hb dX0_lambda_lost_5_0 (lv_at hl 4 rfl) ?_
  refine lv_if_gt (pc := 2) (tgt := 14) hx hb dX0_lambda_lost_5_2 (by decide) (fun c1 => ?_) (fun c1 => ?_)
  · have hm := ite_t c1 hm
    refine lv_iconst (pc := 14) (v := (1 : Int32)) hx hb dX0_lambda_lost_5_14 (by decide) ?_
    refine lv_goto (pc := 15) (tgt := 19) hx hb dX0_lambda_lost_5_15 (by decide) ?_
    obtain ⟨e8, e9⟩ := rs2 hm
    subst e8
    subst e9
    exact rk_zret (pc := 19) hx hb hr hlk rfl hS ⟨rfl, hW0, hz⟩ dX0_lambda_lost_5_19
  · have hm := ite_f c1 hm
    refine lv_aload_n (pc := 5) hx hb dX0_lambda_lost_5_5 rfl (lv_at hl 0 rfl) ?_
    refine lv_iload_n (pc := 6) hx hb dX0_lambda_lost_5_6 rfl (lv_at hl 1 rfl) ?_
    refine lv_iload_n (pc := 7) hx hb dX0_lambda_lost_5_7 rfl (lv_at hl 2 rfl) ?_
    obtain ⟨r2, w3, hq4, hm⟩ := ob2_some hm
    refine rk_TV (pc := 8) (As := [.int i1, .int i2]) (rest := []) (mc := 0) (ms := 0) hx hb hml hown hts hK hS (fun q hq => FA_sz rfl q hq) lkX0_605 rfl yn_X0_isKept (ct_X0_isKept (G := G) (l := l) (b0 := b0) (sz := H.size) hq4) ⟨Nat.le_of_ble_eq_true rfl, Nat.le_of_ble_eq_true rfl⟩ (fun z h => Or.inl (show iv _ _ _ from ⟨by have h8 := h.1; have h9 := h.2; omega, by have h8 := h.1; have h9 := h.2; omega⟩)) (rk_recv hK hW0 0 (by decide) rfl rfl rfl) hW0 rfl rfl hl.1 (Nat.le_of_ble_eq_true rfl) dX0_lambda_lost_5_8 ⟨Nat.zero_le _, Nat.zero_le _⟩ (fun ov9 H5 locs6 hP7 hkp8 hS9 => ?_)
    obtain ⟨rfl, hW10, hz11⟩ := hP7
    have hz12 := hz11.trans hz
    refine W.eq (g2 := F0 m 11 ls [.int r2]) rfl ?_
    refine lv_if_eq (pc := 11) (tgt := 18) hx hb dX0_lambda_lost_5_11 (by decide) (fun c13 => ?_) (fun c13 => ?_)
    · have hm := ite_t c13 hm
      refine lv_iconst (pc := 18) (v := (0 : Int32)) hx hb dX0_lambda_lost_5_18 (by decide) ?_
      obtain ⟨e8, e9⟩ := rs2 hm
      subst e8
      subst e9
      exact rk_zret (pc := 19) hx hb hr hlk rfl hS9 ⟨rfl, hW10, hz12⟩ dX0_lambda_lost_5_19
    · have hm := ite_f c13 hm
      refine lv_iconst (pc := 14) (v := (1 : Int32)) hx hb dX0_lambda_lost_5_14 (by decide) ?_
      refine lv_goto (pc := 15) (tgt := 19) hx hb dX0_lambda_lost_5_15 (by decide) ?_
      obtain ⟨e8, e9⟩ := rs2 hm
      subst e8
      subst e9
      exact rk_zret (pc := 19) hx hb hr hlk rfl hS9 ⟨rfl, hW10, hz12⟩ dX0_lambda_lost_5_19
set_option maxHeartbeats 4000000 in
theorem ct_X0_lambda_lost_5 {G : Gv} {l : Launch} {b0 : Nat} {v0 : Mem} {i1 : Int32} {i2 : Int32} {i3 : Int32} {i4 : Int32} {rx : Int32} {rw0 : Mem} {sz : Nat} (hm : fX0_lambda_lost_5 v0 i1 i2 i3 i4 = some (rx, rw0)) : CT G l yX0_lambda_lost_5 (ws_ yX0_lambda_lost_5 cX0_lambda_lost_5 5 (some .boolean)) 4 0 0 95 [.ref b0, .int i1, .int i2, .int i3, .int i4] (iv b0 357) sz (fun H => rg G b0 357 (shX0 G.2.1) v0 H) (fun ov H => ov = (some (.int rx)) ∧ rg G b0 357 (shX0 G.2.1) rw0 H ∧ H.size = sz) := by
  refine Met.ofW (cc := cX0_lambda_lost_5) (maxL := 5) (ret := (some .boolean)) (by decide +kernel) rfl ?_
  intro p e s m args below meth c s₁ B hml hv
  obtain ⟨rfl, ⟨hz, hW0⟩, hK⟩ := hv
  subst hz
  have hts := atoms_spec (ws := ws_ yX0_lambda_lost_5 cX0_lambda_lost_5 5 (some .boolean)) B.pre
  have hts : ∀ w ∈ lw_all, w.before _ s = true := fun w h => hts w (List.mem_cons_of_mem _ h)
  have C : Cx G p s m _ meth c RX0 cX0_lambda_lost_5 5 (some .boolean) := ⟨B.exec, B.bytes, B.returns, B.notSynchronized, hml, findClass_of_methodNamed B.named, hts, hK⟩
  have hl := lv_entry ([.ref b0, .int i1, .int i2, .int i3, .int i4]) (n := 5) (Nat.le_of_ble_eq_true rfl)
  rw [lg_entry_eq]
  generalize (lg_sl ([.ref b0, .int i1, .int i2, .int i3, .int i4]) ++ List.replicate (5 - (lg_sl ([.ref b0, .int i1, .int i2, .int i3, .int i4])).length) Slot.unset).toArray = ls at hl ⊢
  have hl : lv_has ls 5 [(0, .ref b0), (1, .int i1), (2, .int i2), (3, .int i3), (4, .int i4)] := hl
  exact w_fX0_lambda_lost_5 C _ _ _ _ _ hm s.heap [] ls hW0 va_S.rf rfl hl
theorem yn_X0_counts : YN yX0_counts 2 := by
  unfold YN
  decide +kernel
theorem lkX0_608 : LV RX0 608 RX0 yX0_counts cX0_counts 3 (some .boolean) := ⟨q1180, q1182, qs36, q114, q1183⟩
noncomputable def fX0_lambda_many_4 (v0 : Mem) (i1 : Int32) (i2 : Int32) (i3 : Int32) (i4 : Int32) : Option (Int32 × Mem) :=
  ob2 (fX0_counts v0 i4 i1) fun r1 w2 =>
  gb (z01 r1) (some (r1, w2))
set_option maxHeartbeats 4000000 in
theorem w_fX0_lambda_many_4 (C : Cx G p s m args meth c RX0 cX0_lambda_many_4 5 (some .boolean)) {b0 : Nat} {rx : Int32} {rw0 : Mem} : ∀ (v0 : Mem) (i1 : Int32) (i2 : Int32) (i3 : Int32) (i4 : Int32), fX0_lambda_many_4 v0 i1 i2 i3 i4 = some (rx, rw0) → ∀ (H : Heap) (locs : List Loc) (ls : Array Slot), rg G b0 357 (shX0 G.2.1) v0 H → va_S (FA (iv b0 357) s.heap.size) s.heap H locs → H.size = s.heap.size → lv_has ls 5 [(0, .ref b0), (1, .int i1), (2, .int i2), (3, .int i3), (4, .int i4)] → W p l e (rmT 1 0 0 22) s m args below meth c H locs 0 0 (MQ below (QcT (FA (iv b0 357) s.heap.size) (fun ov H => ov = (some (.int rx)) ∧ rg G b0 357 (shX0 G.2.1) rw0 H ∧ H.size = s.heap.size)) args s 0 0 (FA (iv b0 357) s.heap.size)) (F0 m 0 ls []) := by
  intro v0 i1 i2 i3 i4 hm H locs ls hW0 hS hz hl
  obtain ⟨hx, hb, hr, hlk, hml, hown, hts, hK⟩ := id C
  unfold fX0_lambda_many_4 at hm
  refine lv_aload_n (pc := 0) hx hb dX0_lambda_many_4_0 rfl (lv_at hl 0 rfl) ?_
  refine lv_iload (pc := 1) hx hb dX0_lambda_many_4_1 (lv_at hl 4 rfl) ?_
  refine lv_iload_n (pc := 3) hx hb dX0_lambda_many_4_3 rfl (lv_at hl 1 rfl) ?_
  obtain ⟨r1, w2, hq3, hm⟩ := ob2_some hm
  refine rk_TV (pc := 4) (As := [.int i4, .int i1]) (rest := []) (mc := 0) (ms := 0) hx hb hml hown hts hK hS (fun q hq => FA_sz rfl q hq) lkX0_608 rfl yn_X0_counts (ct_X0_counts (G := G) (l := l) (b0 := b0) (sz := H.size) hq3) ⟨Nat.le_of_ble_eq_true rfl, Nat.le_of_ble_eq_true rfl⟩ (fun z h => Or.inl (show iv _ _ _ from ⟨by have h8 := h.1; have h9 := h.2; omega, by have h8 := h.1; have h9 := h.2; omega⟩)) (rk_recv hK hW0 0 (by decide) rfl rfl rfl) hW0 rfl rfl hl.1 (Nat.le_of_ble_eq_true rfl) dX0_lambda_many_4_4 ⟨Nat.zero_le _, Nat.zero_le _⟩ (fun ov9 H4 locs5 hP6 hkp7 hS8 => ?_)
  obtain ⟨rfl, hW9, hz10⟩ := hP6
  have hz11 := hz10.trans hz
  refine W.eq (g2 := F0 m 7 ls [.int r1]) rfl ?_
  obtain ⟨hg12, hm⟩ := gb_some hm
  obtain ⟨e8, e9⟩ := rs2 hm
  subst e8
  subst e9
  exact rk_zret (pc := 7) hx hb hr hlk hg12 hS8 ⟨rfl, hW9, hz11⟩ dX0_lambda_many_4_7
set_option maxHeartbeats 4000000 in
theorem ct_X0_lambda_many_4 {G : Gv} {l : Launch} {b0 : Nat} {v0 : Mem} {i1 : Int32} {i2 : Int32} {i3 : Int32} {i4 : Int32} {rx : Int32} {rw0 : Mem} {sz : Nat} (hm : fX0_lambda_many_4 v0 i1 i2 i3 i4 = some (rx, rw0)) : CT G l yX0_lambda_many_4 (ws_ yX0_lambda_many_4 cX0_lambda_many_4 5 (some .boolean)) 1 0 0 22 [.ref b0, .int i1, .int i2, .int i3, .int i4] (iv b0 357) sz (fun H => rg G b0 357 (shX0 G.2.1) v0 H) (fun ov H => ov = (some (.int rx)) ∧ rg G b0 357 (shX0 G.2.1) rw0 H ∧ H.size = sz) := by
  refine Met.ofW (cc := cX0_lambda_many_4) (maxL := 5) (ret := (some .boolean)) (by decide +kernel) rfl ?_
  intro p e s m args below meth c s₁ B hml hv
  obtain ⟨rfl, ⟨hz, hW0⟩, hK⟩ := hv
  subst hz
  have hts := atoms_spec (ws := ws_ yX0_lambda_many_4 cX0_lambda_many_4 5 (some .boolean)) B.pre
  have hts : ∀ w ∈ lw_all, w.before _ s = true := fun w h => hts w (List.mem_cons_of_mem _ h)
  have C : Cx G p s m _ meth c RX0 cX0_lambda_many_4 5 (some .boolean) := ⟨B.exec, B.bytes, B.returns, B.notSynchronized, hml, findClass_of_methodNamed B.named, hts, hK⟩
  have hl := lv_entry ([.ref b0, .int i1, .int i2, .int i3, .int i4]) (n := 5) (Nat.le_of_ble_eq_true rfl)
  rw [lg_entry_eq]
  generalize (lg_sl ([.ref b0, .int i1, .int i2, .int i3, .int i4]) ++ List.replicate (5 - (lg_sl ([.ref b0, .int i1, .int i2, .int i3, .int i4])).length) Slot.unset).toArray = ls at hl ⊢
  have hl : lv_has ls 5 [(0, .ref b0), (1, .int i1), (2, .int i2), (3, .int i3), (4, .int i4)] := hl
  exact w_fX0_lambda_many_4 C _ _ _ _ _ hm s.heap [] ls hW0 va_S.rf rfl hl
noncomputable def fX0_lambda_new_2 (v0 : Mem) (i1 : Int32) (i2 : Int32) : Option (Mem) :=
  ob (fX1_hasPack (shf v0 23) i1) fun r1 =>
  if r1 = 0 then (
  gb (inR i1 5) (
  gb (inR i1 5) (
  lm (sI v0 24 i1.toNatClampNeg (gI v0 24 i1.toNatClampNeg)) fun v0_6 =>
  some v0_6)))
  else (
  gb (inR i1 5) (
  lm (sI v0 24 i1.toNatClampNeg i2) fun v0_15 =>
  some v0_15))
set_option maxHeartbeats 4000000 in
theorem w_fX0_lambda_new_2 (C : Cx G p s m args meth c RX0 cX0_lambda_new_2 3 none) {b0 : Nat} {rw0 : Mem} : ∀ (v0 : Mem) (i1 : Int32) (i2 : Int32), fX0_lambda_new_2 v0 i1 i2 = some rw0 → ∀ (H : Heap) (locs : List Loc) (ls : Array Slot), rg G b0 357 (shX0 G.2.1) v0 H → va_S (FA (iv b0 357) s.heap.size) s.heap H locs → H.size = s.heap.size → lv_has ls 3 [(0, .ref b0), (1, .int i1), (2, .int i2)] → W p l e (rmT 2 0 0 46) s m args below meth c H locs 0 0 (MQ below (QcT (FA (iv b0 357) s.heap.size) (fun ov H => ov = none ∧ rg G b0 357 (shX0 G.2.1) rw0 H ∧ H.size = s.heap.size)) args s 0 0 (FA (iv b0 357) s.heap.size)) (F0 m 0 ls []) := by
  intro v0 i1 i2 hm H locs ls hW0 hS hz hl
  obtain ⟨hx, hb, hr, hlk, hml, hown, hts, hK⟩ := id C
  unfold fX0_lambda_new_2 at hm
  refine lv_aload_n (pc := 0) hx hb dX0_lambda_new_2_0 rfl (lv_at hl 0 rfl) ?_
  refine rk_get (pc := 1) hx hb hts hown hK hW0 flX0_18 0 (by decide) rfl rfl (x := .ref (b0 + 23)) (by first | rfl | exact congrArg (fun z => some (Value.ref z)) (by omega)) dX0_lambda_new_2_1 ?_
  refine rk_getN (pc := 4) hx hb hts hown hK hW0 fnX0_151 23 (by decide) rfl rfl (x := .ref (b0 + 24)) (by first | rfl | exact congrArg (fun z => some (Value.ref z)) (by omega)) dX0_lambda_new_2_4 ?_
  refine lv_iload_n (pc := 7) hx hb dX0_lambda_new_2_7 rfl (lv_at hl 1 rfl) ?_
  refine lv_aload_n (pc := 8) hx hb dX0_lambda_new_2_8 rfl (lv_at hl 0 rfl) ?_
  refine rk_get (pc := 9) hx hb hts hown hK hW0 flX0_18 0 (by decide) rfl rfl (x := .ref (b0 + 23)) (by first | rfl | exact congrArg (fun z => some (Value.ref z)) (by omega)) dX0_lambda_new_2_9 ?_
  refine lv_iload_n (pc := 12) hx hb dX0_lambda_new_2_12 rfl (lv_at hl 1 rfl) ?_
  obtain ⟨r1, hq2, hm⟩ := ob_some hm
  refine rk_PV (pc := 13) (As := [.int i1]) (rest := [.int i1, .ref (b0 + 24)]) hx hb hml hown hts hK lkX0_145 rfl yn_X1_hasPack (ct_X1_hasPack (G := G) (l := l) (b0 := (b0 + 23)) hq2) ⟨Nat.le_of_ble_eq_true rfl, Nat.le_of_ble_eq_true rfl⟩ (rk_recv hK hW0 23 (by decide) rfl rfl rfl) (rg_sub hW0 rfl (by decide) (fun o ho x y z => shX0_n23 G.2.1 _ rfl o ho x y z)) rfl rfl hl.1 (Nat.le_of_ble_eq_true rfl) dX0_lambda_new_2_13 ⟨Nat.zero_le _, Nat.zero_le _⟩ ?_
  refine W.eq (g2 := F0 m 16 ls [.int r1, .int i1, .ref (b0 + 24)]) rfl ?_
  refine lv_if_eq (pc := 16) (tgt := 23) hx hb dX0_lambda_new_2_16 (by decide) (fun c3 => ?_) (fun c3 => ?_)
  · have hm := ite_t c3 hm
    refine lv_aload_n (pc := 23) hx hb dX0_lambda_new_2_23 rfl (lv_at hl 0 rfl) ?_
    refine rk_get (pc := 24) hx hb hts hown hK hW0 flX0_18 0 (by decide) rfl rfl (x := .ref (b0 + 23)) (by first | rfl | exact congrArg (fun z => some (Value.ref z)) (by omega)) dX0_lambda_new_2_24 ?_
    refine rk_getN (pc := 27) hx hb hts hown hK hW0 fnX0_151 23 (by decide) rfl rfl (x := .ref (b0 + 24)) (by first | rfl | exact congrArg (fun z => some (Value.ref z)) (by omega)) dX0_lambda_new_2_27 ?_
    refine lv_iload_n (pc := 30) hx hb dX0_lambda_new_2_30 rfl (lv_at hl 1 rfl) ?_
    obtain ⟨hg4, hm⟩ := gb_some hm
    refine rk_iald (pc := 31) hx hb hK hW0 24 (by decide) rfl rfl hg4 (x := (gI v0 24 i1.toNatClampNeg)) rfl dX0_lambda_new_2_31 ?_
    obtain ⟨hg5, hm⟩ := gb_some hm
    refine rk_iast (pc := 32) hx hb hK hW0 hS 24 (by decide) rfl (Or.inl (show iv _ _ _ from ⟨by omega, by omega⟩)) (fun _ _ _ => rfl) hg5 dX0_lambda_new_2_32 (fun H7 locs8 hW9 hS10 hz11 hkp12 => ?_)
    obtain ⟨v0_6, he9, hm⟩ := lm_some hm
    rw [he9] at hW9
    have hz13 := hz11.trans hz
    have e9 := rs1 hm
    subst e9
    exact rk_vret (pc := 33) hx hb hr hlk hS10 ⟨rfl, hW9, hz13⟩ dX0_lambda_new_2_33
  · have hm := ite_f c3 hm
    refine lv_iload_n (pc := 19) hx hb dX0_lambda_new_2_19 rfl (lv_at hl 2 rfl) ?_
    refine lv_goto (pc := 20) (tgt := 32) hx hb dX0_lambda_new_2_20 (by decide) ?_
    obtain ⟨hg14, hm⟩ := gb_some hm
    refine rk_iast (pc := 32) hx hb hK hW0 hS 24 (by decide) rfl (Or.inl (show iv _ _ _ from ⟨by omega, by omega⟩)) (fun _ _ _ => rfl) hg14 dX0_lambda_new_2_32 (fun H16 locs17 hW18 hS19 hz20 hkp21 => ?_)
    obtain ⟨v0_15, he9, hm⟩ := lm_some hm
    rw [he9] at hW18
    have hz22 := hz20.trans hz
    have e9 := rs1 hm
    subst e9
    exact rk_vret (pc := 33) hx hb hr hlk hS19 ⟨rfl, hW18, hz22⟩ dX0_lambda_new_2_33
set_option maxHeartbeats 4000000 in
theorem ct_X0_lambda_new_2 {G : Gv} {l : Launch} {b0 : Nat} {v0 : Mem} {i1 : Int32} {i2 : Int32} {rw0 : Mem} {sz : Nat} (hm : fX0_lambda_new_2 v0 i1 i2 = some rw0) : CT G l yX0_lambda_new_2 (ws_ yX0_lambda_new_2 cX0_lambda_new_2 3 none) 2 0 0 46 [.ref b0, .int i1, .int i2] (iv b0 357) sz (fun H => rg G b0 357 (shX0 G.2.1) v0 H) (fun ov H => ov = none ∧ rg G b0 357 (shX0 G.2.1) rw0 H ∧ H.size = sz) := by
  refine Met.ofW (cc := cX0_lambda_new_2) (maxL := 3) (ret := none) (by decide +kernel) rfl ?_
  intro p e s m args below meth c s₁ B hml hv
  obtain ⟨rfl, ⟨hz, hW0⟩, hK⟩ := hv
  subst hz
  have hts := atoms_spec (ws := ws_ yX0_lambda_new_2 cX0_lambda_new_2 3 none) B.pre
  have hts : ∀ w ∈ lw_all, w.before _ s = true := fun w h => hts w (List.mem_cons_of_mem _ h)
  have C : Cx G p s m _ meth c RX0 cX0_lambda_new_2 3 none := ⟨B.exec, B.bytes, B.returns, B.notSynchronized, hml, findClass_of_methodNamed B.named, hts, hK⟩
  have hl := lv_entry ([.ref b0, .int i1, .int i2]) (n := 3) (Nat.le_of_ble_eq_true rfl)
  rw [lg_entry_eq]
  generalize (lg_sl ([.ref b0, .int i1, .int i2]) ++ List.replicate (3 - (lg_sl ([.ref b0, .int i1, .int i2])).length) Slot.unset).toArray = ls at hl ⊢
  have hl : lv_has ls 3 [(0, .ref b0), (1, .int i1), (2, .int i2)] := hl
  exact w_fX0_lambda_new_2 C _ _ _ hm s.heap [] ls hW0 va_S.rf rfl hl
end
