set_option maxRecDepth 100000
section
variable {p : Program} {l : Launch} {e : Env} {s : State} {m : MethodId} {args : Array Value} {below : List Frame} {meth : Method} {c : Code} {G : Gv}
noncomputable def fX0_bounds (v0 : Mem) (i1 : Int32) (i2 : Int32) : Option (Mem) :=
  ob (fX1_hasRule (shf v0 23) i1) fun r1 =>
  if r1 = 0 then (
  some v0)
  else (
  gb (inR i1 8) (
  lm (sI v0 (29 + 2 * i1.toNatClampNeg + 0) 1 i2) fun v0_6 =>
  some v0_6))
set_option maxHeartbeats 4000000 in
theorem w_fX0_bounds (C : Cx G p s m args meth c RX0 cX0_bounds 3 none) {b0 : Nat} {rw0 : Mem} : ∀ (v0 : Mem) (i1 : Int32) (i2 : Int32), fX0_bounds v0 i1 i2 = some rw0 → ∀ (H : Heap) (locs : List Loc) (ls : Array Slot), rg G b0 357 (shX0 G.2.1) v0 H → va_S (FA (iv b0 357) s.heap.size) s.heap H locs → H.size = s.heap.size → lv_has ls 3 [(0, .ref b0), (1, .int i1), (2, .int i2)] → W p l e (rmT 2 0 0 46) s m args below meth c H locs 0 0 (MQ below (QcT (FA (iv b0 357) s.heap.size) (fun ov H => ov = none ∧ rg G b0 357 (shX0 G.2.1) rw0 H ∧ H.size = s.heap.size)) args s 0 0 (FA (iv b0 357) s.heap.size)) (F0 m 0 ls []) := by
  intro v0 i1 i2 hm H locs ls hW0 hS hz hl
  obtain ⟨hx, hb, hr, hlk, hml, hown, hts, hK⟩ := id C
  unfold fX0_bounds at hm
  refine lv_aload_n (pc := 0) hx hb dX0_bounds_0 rfl (lv_at hl 0 rfl) ?_
  refine rk_get (pc := 1) hx hb hts hown hK hW0 flX0_18 0 (by decide) rfl rfl (x := .ref (b0 + 23)) (by first | rfl | exact congrArg (fun z => some (Value.ref z)) (by omega)) dX0_bounds_1 ?_
  refine lv_iload_n (pc := 4) hx hb dX0_bounds_4 rfl (lv_at hl 1 rfl) ?_
  obtain ⟨r1, hq2, hm⟩ := ob_some hm
  refine rk_PV (pc := 5) (As := [.int i1]) (rest := []) hx hb hml hown hts hK lkX0_165 rfl yn_X1_hasRule (ct_X1_hasRule (G := G) (l := l) (b0 := (b0 + 23)) hq2) ⟨Nat.le_of_ble_eq_true rfl, Nat.le_of_ble_eq_true rfl⟩ (rk_recv hK hW0 23 (by decide) rfl rfl rfl) (rg_sub hW0 rfl (by decide) (fun o ho x y z => shX0_n23 G.2.1 _ rfl o ho x y z)) rfl rfl hl.1 (Nat.le_of_ble_eq_true rfl) dX0_bounds_5 ⟨Nat.zero_le _, Nat.zero_le _⟩ ?_
  refine W.eq (g2 := F0 m 8 ls [.int r1]) rfl ?_
  refine lv_if_eq (pc := 8) (tgt := 24) hx hb dX0_bounds_8 (by decide) (fun c3 => ?_) (fun c3 => ?_)
  · have hm := ite_t c3 hm
    have e9 := rs1 hm
    subst e9
    exact rk_vret (pc := 24) hx hb hr hlk hS ⟨rfl, hW0, hz⟩ dX0_bounds_24
  · have hm := ite_f c3 hm
    refine lv_aload_n (pc := 11) hx hb dX0_bounds_11 rfl (lv_at hl 0 rfl) ?_
    refine rk_get (pc := 12) hx hb hts hown hK hW0 flX0_18 0 (by decide) rfl rfl (x := .ref (b0 + 23)) (by first | rfl | exact congrArg (fun z => some (Value.ref z)) (by omega)) dX0_bounds_12 ?_
    refine rk_getN (pc := 15) hx hb hts hown hK hW0 fnX0_172 23 (by decide) rfl rfl (x := .ref (b0 + 25)) (by first | rfl | exact congrArg (fun z => some (Value.ref z)) (by omega)) dX0_bounds_15 ?_
    refine lv_iload_n (pc := 18) hx hb dX0_bounds_18 rfl (lv_at hl 1 rfl) ?_
    obtain ⟨hg4, hm⟩ := gb_some hm
    have hlt5 := inR_lt hg4
    refine rk_aald (pc := 19) hx hb hK hW0 25 5 (by decide) rfl rfl rfl hg4 (x := (b0 + (29 + 2 * i1.toNatClampNeg + 0))) (by first | rfl | exact congrArg some (by omega)) dX0_bounds_19 ?_
    refine lv_iload_n (pc := 20) hx hb dX0_bounds_20 rfl (lv_at hl 2 rfl) ?_
    refine rk_putN (pc := 21) hx hb hts hown hK hW0 hS fnX0_181 ft_X2 (29 + 2 * i1.toNatClampNeg + 0) (by omega) rfl (Or.inl (show iv _ _ _ from ⟨by omega, by omega⟩)) ((shX0_f29 G.2.1 hlt5 _ rfl 0 (by decide) _ _ _).trans rfl) rfl (x := .int i2) rfl rfl (Nat.le_of_ble_eq_true rfl) (sI v0 (29 + 2 * i1.toNatClampNeg + 0) 1 i2) sI_ne (by rw [sI_eq]; exact ((shX0_f29 G.2.1 hlt5 _ rfl 0 (by decide) _ _ _).trans rfl)) dX0_bounds_21 (fun H7 locs8 hW9 hS10 hz11 hkp12 => ?_)
    obtain ⟨v0_6, he9, hm⟩ := lm_some hm
    rw [he9] at hW9
    have hz13 := hz11.trans hz
    have e9 := rs1 hm
    subst e9
    exact rk_vret (pc := 24) hx hb hr hlk hS10 ⟨rfl, hW9, hz13⟩ dX0_bounds_24
set_option maxHeartbeats 4000000 in
theorem ct_X0_bounds {G : Gv} {l : Launch} {b0 : Nat} {v0 : Mem} {i1 : Int32} {i2 : Int32} {rw0 : Mem} {sz : Nat} (hm : fX0_bounds v0 i1 i2 = some rw0) : CT G l yX0_bounds (ws_ yX0_bounds cX0_bounds 3 none) 2 0 0 46 [.ref b0, .int i1, .int i2] (iv b0 357) sz (fun H => rg G b0 357 (shX0 G.2.1) v0 H) (fun ov H => ov = none ∧ rg G b0 357 (shX0 G.2.1) rw0 H ∧ H.size = sz) := by
  refine Met.ofW (cc := cX0_bounds) (maxL := 3) (ret := none) (by decide +kernel) rfl ?_
  intro p e s m args below meth c s₁ B hml hv
  obtain ⟨rfl, ⟨hz, hW0⟩, hK⟩ := hv
  subst hz
  have hts := atoms_spec (ws := ws_ yX0_bounds cX0_bounds 3 none) B.pre
  have hts : ∀ w ∈ lw_all, w.before _ s = true := fun w h => hts w (List.mem_cons_of_mem _ h)
  have C : Cx G p s m _ meth c RX0 cX0_bounds 3 none := ⟨B.exec, B.bytes, B.returns, B.notSynchronized, hml, findClass_of_methodNamed B.named, hts, hK⟩
  have hl := lv_entry ([.ref b0, .int i1, .int i2]) (n := 3) (Nat.le_of_ble_eq_true rfl)
  rw [lg_entry_eq]
  generalize (lg_sl ([.ref b0, .int i1, .int i2]) ++ List.replicate (3 - (lg_sl ([.ref b0, .int i1, .int i2])).length) Slot.unset).toArray = ls at hl ⊢
  have hl : lv_has ls 3 [(0, .ref b0), (1, .int i1), (2, .int i2)] := hl
  exact w_fX0_bounds C _ _ _ hm s.heap [] ls hW0 va_S.rf rfl hl
noncomputable def fX0_factors (v0 : Mem) (i1 : Int32) (i2 : Int32) : Option (Mem) :=
  ob (fX1_hasRule (shf v0 23) i1) fun r1 =>
  if r1 = 0 then (
  some v0)
  else (
  gb (inR i1 8) (
  gb (inR (0 : Int32) 5) (
  lm (sI v0 (29 + 2 * i1.toNatClampNeg + 1) (0 : Int32).toNatClampNeg i2) fun v0_7 =>
  some v0_7)))
set_option maxHeartbeats 4000000 in
theorem w_fX0_factors (C : Cx G p s m args meth c RX0 cX0_factors 3 none) {b0 : Nat} {rw0 : Mem} : ∀ (v0 : Mem) (i1 : Int32) (i2 : Int32), fX0_factors v0 i1 i2 = some rw0 → ∀ (H : Heap) (locs : List Loc) (ls : Array Slot), rg G b0 357 (shX0 G.2.1) v0 H → va_S (FA (iv b0 357) s.heap.size) s.heap H locs → H.size = s.heap.size → lv_has ls 3 [(0, .ref b0), (1, .int i1), (2, .int i2)] → W p l e (rmT 2 0 0 46) s m args below meth c H locs 0 0 (MQ below (QcT (FA (iv b0 357) s.heap.size) (fun ov H => ov = none ∧ rg G b0 357 (shX0 G.2.1) rw0 H ∧ H.size = s.heap.size)) args s 0 0 (FA (iv b0 357) s.heap.size)) (F0 m 0 ls []) := by
  intro v0 i1 i2 hm H locs ls hW0 hS hz hl
  obtain ⟨hx, hb, hr, hlk, hml, hown, hts, hK⟩ := id C
  unfold fX0_factors at hm
  refine lv_aload_n (pc := 0) hx hb dX0_factors_0 rfl (lv_at hl 0 rfl) ?_
  refine rk_get (pc := 1) hx hb hts hown hK hW0 flX0_18 0 (by decide) rfl rfl (x := .ref (b0 + 23)) (by first | rfl | exact congrArg (fun z => some (Value.ref z)) (by omega)) dX0_factors_1 ?_
  refine lv_iload_n (pc := 4) hx hb dX0_factors_4 rfl (lv_at hl 1 rfl) ?_
  obtain ⟨r1, hq2, hm⟩ := ob_some hm
  refine rk_PV (pc := 5) (As := [.int i1]) (rest := []) hx hb hml hown hts hK lkX0_165 rfl yn_X1_hasRule (ct_X1_hasRule (G := G) (l := l) (b0 := (b0 + 23)) hq2) ⟨Nat.le_of_ble_eq_true rfl, Nat.le_of_ble_eq_true rfl⟩ (rk_recv hK hW0 23 (by decide) rfl rfl rfl) (rg_sub hW0 rfl (by decide) (fun o ho x y z => shX0_n23 G.2.1 _ rfl o ho x y z)) rfl rfl hl.1 (Nat.le_of_ble_eq_true rfl) dX0_factors_5 ⟨Nat.zero_le _, Nat.zero_le _⟩ ?_
  refine W.eq (g2 := F0 m 8 ls [.int r1]) rfl ?_
  refine lv_if_eq (pc := 8) (tgt := 26) hx hb dX0_factors_8 (by decide) (fun c3 => ?_) (fun c3 => ?_)
  · have hm := ite_t c3 hm
    have e9 := rs1 hm
    subst e9
    exact rk_vret (pc := 26) hx hb hr hlk hS ⟨rfl, hW0, hz⟩ dX0_factors_26
  · have hm := ite_f c3 hm
    refine lv_aload_n (pc := 11) hx hb dX0_factors_11 rfl (lv_at hl 0 rfl) ?_
    refine rk_get (pc := 12) hx hb hts hown hK hW0 flX0_18 0 (by decide) rfl rfl (x := .ref (b0 + 23)) (by first | rfl | exact congrArg (fun z => some (Value.ref z)) (by omega)) dX0_factors_12 ?_
    refine rk_getN (pc := 15) hx hb hts hown hK hW0 fnX0_172 23 (by decide) rfl rfl (x := .ref (b0 + 25)) (by first | rfl | exact congrArg (fun z => some (Value.ref z)) (by omega)) dX0_factors_15 ?_
    refine lv_iload_n (pc := 18) hx hb dX0_factors_18 rfl (lv_at hl 1 rfl) ?_
    obtain ⟨hg4, hm⟩ := gb_some hm
    have hlt5 := inR_lt hg4
    refine rk_aald (pc := 19) hx hb hK hW0 25 5 (by decide) rfl rfl rfl hg4 (x := (b0 + (29 + 2 * i1.toNatClampNeg + 0))) (by first | rfl | exact congrArg some (by omega)) dX0_factors_19 ?_
    refine rk_getN (pc := 20) hx hb hts hown hK hW0 fnX0_176 (29 + 2 * i1.toNatClampNeg + 0) (by omega) rfl ((shX0_f29 G.2.1 hlt5 _ rfl 0 (by decide) _ _ _).trans rfl) (x := .ref (b0 + (29 + 2 * i1.toNatClampNeg + 1))) (by first | rfl | exact congrArg (fun z => some (Value.ref z)) (by omega)) dX0_factors_20 ?_
    refine lv_iconst (pc := 23) (v := (0 : Int32)) hx hb dX0_factors_23 (by decide) ?_
    refine lv_iload_n (pc := 24) hx hb dX0_factors_24 rfl (lv_at hl 2 rfl) ?_
    obtain ⟨hg6, hm⟩ := gb_some hm
    refine rk_iast (pc := 25) hx hb hK hW0 hS (29 + 2 * i1.toNatClampNeg + 1) (by omega) rfl (Or.inl (show iv _ _ _ from ⟨by omega, by omega⟩)) (fun _ _ _ => ((shX0_f29 G.2.1 hlt5 _ rfl 1 (by decide) _ _ _).trans rfl)) hg6 dX0_factors_25 (fun H8 locs9 hW10 hS11 hz12 hkp13 => ?_)
    obtain ⟨v0_7, he9, hm⟩ := lm_some hm
    rw [he9] at hW10
    have hz14 := hz12.trans hz
    have e9 := rs1 hm
    subst e9
    exact rk_vret (pc := 26) hx hb hr hlk hS11 ⟨rfl, hW10, hz14⟩ dX0_factors_26
set_option maxHeartbeats 4000000 in
theorem ct_X0_factors {G : Gv} {l : Launch} {b0 : Nat} {v0 : Mem} {i1 : Int32} {i2 : Int32} {rw0 : Mem} {sz : Nat} (hm : fX0_factors v0 i1 i2 = some rw0) : CT G l yX0_factors (ws_ yX0_factors cX0_factors 3 none) 2 0 0 46 [.ref b0, .int i1, .int i2] (iv b0 357) sz (fun H => rg G b0 357 (shX0 G.2.1) v0 H) (fun ov H => ov = none ∧ rg G b0 357 (shX0 G.2.1) rw0 H ∧ H.size = sz) := by
  refine Met.ofW (cc := cX0_factors) (maxL := 3) (ret := none) (by decide +kernel) rfl ?_
  intro p e s m args below meth c s₁ B hml hv
  obtain ⟨rfl, ⟨hz, hW0⟩, hK⟩ := hv
  subst hz
  have hts := atoms_spec (ws := ws_ yX0_factors cX0_factors 3 none) B.pre
  have hts : ∀ w ∈ lw_all, w.before _ s = true := fun w h => hts w (List.mem_cons_of_mem _ h)
  have C : Cx G p s m _ meth c RX0 cX0_factors 3 none := ⟨B.exec, B.bytes, B.returns, B.notSynchronized, hml, findClass_of_methodNamed B.named, hts, hK⟩
  have hl := lv_entry ([.ref b0, .int i1, .int i2]) (n := 3) (Nat.le_of_ble_eq_true rfl)
  rw [lg_entry_eq]
  generalize (lg_sl ([.ref b0, .int i1, .int i2]) ++ List.replicate (3 - (lg_sl ([.ref b0, .int i1, .int i2])).length) Slot.unset).toArray = ls at hl ⊢
  have hl : lv_has ls 3 [(0, .ref b0), (1, .int i1), (2, .int i2)] := hl
  exact w_fX0_factors C _ _ _ hm s.heap [] ls hW0 va_S.rf rfl hl
theorem flX0_52 : FL RX0 52 0 10 RX0 TX0 25 := ⟨in_X0, rfl, by decide, q506⟩
theorem yn_X0_bounds : YN yX0_bounds 2 := by
  unfold YN
  decide +kernel
noncomputable def fX0_lambda_new_2 (v0 : Mem) (i1 : Int32) (i2 : Int32) : Option (Mem) :=
  ob (fX1_hasPack (shf v0 23) i1) fun r1 =>
  if r1 = 0 then (
  gb (inR i1 5) (
  gb (inR i1 5) (
  lm (sI v0 24 i1.toNatClampNeg (gI v0 24 i1.toNatClampNeg)) fun v0_6 =>
  some v0_6)))
  else (
  gb (inR i1 5) (
  lm (sI v0 24 i1.toNatClampNeg i2) fun v0_15 =>
  some v0_15))
set_option maxHeartbeats 4000000 in
theorem w_fX0_lambda_new_2 (C : Cx G p s m args meth c RX0 cX0_lambda_new_2 3 none) {b0 : Nat} {rw0 : Mem} : ∀ (v0 : Mem) (i1 : Int32) (i2 : Int32), fX0_lambda_new_2 v0 i1 i2 = some rw0 → ∀ (H : Heap) (locs : List Loc) (ls : Array Slot), rg G b0 357 (shX0 G.2.1) v0 H → va_S (FA (iv b0 357) s.heap.size) s.heap H locs → H.size = s.heap.size → lv_has ls 3 [(0, .ref b0), (1, .int i1), (2, .int i2)] → W p l e (rmT 2 0 0 46) s m args below meth c H locs 0 0 (MQ below (QcT (FA (iv b0 357) s.heap.size) (fun ov H => ov = none ∧ rg G b0 357 (shX0 G.2.1) rw0 H ∧ H.size = s.heap.size)) args s 0 0 (FA (iv b0 357) s.heap.size)) (F0 m 0 ls []) := by
  intro v0 i1 i2 hm H locs ls hW0 hS hz hl
  obtain ⟨hx, hb, hr, hlk, hml, hown, hts, hK⟩ := id C
  unfold fX0_lambda_new_2 at hm
  refine lv_aload_n (pc := 0) hx hb dX0_lambda_new_2_0 rfl (lv_at hl 0 rfl) ?_
  refine rk_get (pc := 1) hx hb hts hown hK hW0 flX0_18 0 (by decide) rfl rfl (x := .ref (b0 + 23)) (by first | rfl | exact congrArg (fun z => some (Value.ref z)) (by omega)) dX0_lambda_new_2_1 ?_
  refine rk_getN (pc := 4) hx hb hts hown hK hW0 fnX0_151 23 (by decide) rfl rfl (x := .ref (b0 + 24)) (by first | rfl | exact congrArg (fun z => some (Value.ref z)) (by omega)) dX0_lambda_new_2_4 ?_
  refine lv_iload_n (pc := 7) hx hb dX0_lambda_new_2_7 rfl (lv_at hl 1 rfl) ?_
  refine lv_aload_n (pc := 8) hx hb dX0_lambda_new_2_8 rfl (lv_at hl 0 rfl) ?_
  refine rk_get (pc := 9) hx hb hts hown hK hW0 flX0_18 0 (by decide) rfl rfl (x := .ref (b0 + 23)) (by first | rfl | exact congrArg (fun z => some (Value.ref z)) (by omega)) dX0_lambda_new_2_9 ?_
  refine lv_iload_n (pc := 12) hx hb dX0_lambda_new_2_12 rfl (lv_at hl 1 rfl) ?_
  obtain ⟨r1, hq2, hm⟩ := ob_some hm
  refine rk_PV (pc := 13) (As := [.int i1]) (rest := [.int i1, .ref (b0 + 24)]) hx hb hml hown hts hK lkX0_145 rfl yn_X1_hasPack (ct_X1_hasPack (G := G) (l := l) (b0 := (b0 + 23)) hq2) ⟨Nat.le_of_ble_eq_true rfl, Nat.le_of_ble_eq_true rfl⟩ (rk_recv hK hW0 23 (by decide) rfl rfl rfl) (rg_sub hW0 rfl (by decide) (fun o ho x y z => shX0_n23 G.2.1 _ rfl o ho x y z)) rfl rfl hl.1 (Nat.le_of_ble_eq_true rfl) dX0_lambda_new_2_13 ⟨Nat.zero_le _, Nat.zero_le _⟩ ?_
  refine W.eq (g2 := F0 m 16 ls [.int r1, .int i1, .ref (b0 + 24)]) rfl ?_
  refine lv_if_eq (pc := 16) (tgt := 23) hx hb dX0_lambda_new_2_16 (by decide) (fun c3 => ?_) (fun c3 => ?_)
  · have hm := ite_t c3 hm
    refine lv_aload_n (pc := 23) hx hb dX0_lambda_new_2_23 rfl (lv_at hl 0 rfl) ?_
    refine rk_get (pc := 24) hx hb hts hown hK hW0 flX0_18 0 (by decide) rfl rfl (x := .ref (b0 + 23)) (by first | rfl | exact congrArg (fun z => some (Value.ref z)) (by omega)) dX0_lambda_new_2_24 ?_
    refine rk_getN (pc := 27) hx hb hts hown hK hW0 fnX0_151 23 (by decide) rfl rfl (x := .ref (b0 + 24)) (by first | rfl | exact congrArg (fun z => some (Value.ref z)) (by omega)) dX0_lambda_new_2_27 ?_
    refine lv_iload_n (pc := 30) hx hb dX0_lambda_new_2_30 rfl (lv_at hl 1 rfl) ?_
    obtain ⟨hg4, hm⟩ := gb_some hm
    refine rk_iald (pc := 31) hx hb hK hW0 24 (by decide) rfl rfl hg4 (x := (gI v0 24 i1.toNatClampNeg)) rfl dX0_lambda_new_2_31 ?_
    obtain ⟨hg5, hm⟩ := gb_some hm
    refine rk_iast (pc := 32) hx hb hK hW0 hS 24 (by decide) rfl (Or.inl (show iv _ _ _ from ⟨by omega, by omega⟩)) (fun _ _ _ => rfl) hg5 dX0_lambda_new_2_32 (fun H7 locs8 hW9 hS10 hz11 hkp12 => ?_)
    obtain ⟨v0_6, he9, hm⟩ := lm_some hm
    rw [he9] at hW9
    have hz13 := hz11.trans hz
    have e9 := rs1 hm
    subst e9
    exact rk_vret (pc := 33) hx hb hr hlk hS10 ⟨rfl, hW9, hz13⟩ dX0_lambda_new_2_33
  · have hm := ite_f c3 hm
    refine lv_iload_n (pc := 19) hx hb dX0_lambda_new_2_19 rfl (lv_at hl 2 rfl) ?_
    refine lv_goto (pc := 20) (tgt := 32) hx hb dX0_lambda_new_2_20 (by decide) ?_
    obtain ⟨hg14, hm⟩ := gb_some hm
    refine rk_iast (pc := 32) hx hb hK hW0 hS 24 (by decide) rfl (Or.inl (show iv _ _ _ from ⟨by omega, by omega⟩)) (fun _ _ _ => rfl) hg14 dX0_lambda_new_2_32 (fun H16 locs17 hW18 hS19 hz20 hkp21 => ?_)
    obtain ⟨v0_15, he9, hm⟩ := lm_some hm
    rw [he9] at hW18
    have hz22 := hz20.trans hz
    have e9 := rs1 hm
    subst e9
    exact rk_vret (pc := 33) hx hb hr hlk hS19 ⟨rfl, hW18, hz22⟩ dX0_lambda_new_2_33
set_option maxHeartbeats 4000000 in
theorem ct_X0_lambda_new_2 {G : Gv} {l : Launch} {b0 : Nat} {v0 : Mem} {i1 : Int32} {i2 : Int32} {rw0 : Mem} {sz : Nat} (hm : fX0_lambda_new_2 v0 i1 i2 = some rw0) : CT G l yX0_lambda_new_2 (ws_ yX0_lambda_new_2 cX0_lambda_new_2 3 none) 2 0 0 46 [.ref b0, .int i1, .int i2] (iv b0 357) sz (fun H => rg G b0 357 (shX0 G.2.1) v0 H) (fun ov H => ov = none ∧ rg G b0 357 (shX0 G.2.1) rw0 H ∧ H.size = sz) := by
  refine Met.ofW (cc := cX0_lambda_new_2) (maxL := 3) (ret := none) (by decide +kernel) rfl ?_
  intro p e s m args below meth c s₁ B hml hv
  obtain ⟨rfl, ⟨hz, hW0⟩, hK⟩ := hv
  subst hz
  have hts := atoms_spec (ws := ws_ yX0_lambda_new_2 cX0_lambda_new_2 3 none) B.pre
  have hts : ∀ w ∈ lw_all, w.before _ s = true := fun w h => hts w (List.mem_cons_of_mem _ h)
  have C : Cx G p s m _ meth c RX0 cX0_lambda_new_2 3 none := ⟨B.exec, B.bytes, B.returns, B.notSynchronized, hml, findClass_of_methodNamed B.named, hts, hK⟩
  have hl := lv_entry ([.ref b0, .int i1, .int i2]) (n := 3) (Nat.le_of_ble_eq_true rfl)
  rw [lg_entry_eq]
  generalize (lg_sl ([.ref b0, .int i1, .int i2]) ++ List.replicate (3 - (lg_sl ([.ref b0, .int i1, .int i2])).length) Slot.unset).toArray = ls at hl ⊢
  have hl : lv_has ls 3 [(0, .ref b0), (1, .int i1), (2, .int i2)] := hl
  exact w_fX0_lambda_new_2 C _ _ _ hm s.heap [] ls hW0 va_S.rf rfl hl
theorem yn_X0_lambda_new_2 : YN yX0_lambda_new_2 2 := by
  unfold YN
  decide +kernel
theorem yn_X0_factors : YN yX0_factors 2 := by
  unfold YN
  decide +kernel
noncomputable def fX0_ends_14 (k14 : Mem → Int32 → Option (Int32 × Mem)) (v0 : Mem) (i2 : Int32) : Option (Int32 × Mem) :=
  if (gI v0 1 5) ≤ i2 then (
  ob2 (fX3_worth (shf v0 23) (shf v0 110)) fun r14 w15 =>
  lm (ptm v0 110 43 w15) fun v0_24 =>
  some (r14, v0_24))
  else (
  gb (inR ((3 : Int32) * i2) 24) (
  gb (inR (gI v0 6 ((3 : Int32) * i2).toNatClampNeg) 3) (
  if (gI v0 6 ((3 : Int32) * i2).toNatClampNeg) = (0 : Int32) then (
  gb (inR (((3 : Int32) * i2) + (1 : Int32)) 24) (
  gb (inR (((3 : Int32) * i2) + (2 : Int32)) 24) (
  ob (fX0_bounds v0 (gI v0 6 (((3 : Int32) * i2) + (1 : Int32)).toNatClampNeg) (gI v0 6 (((3 : Int32) * i2) + (2 : Int32)).toNatClampNeg)) fun w31 =>
  k14 w31 (i2 + (1 : Int32)))))
  else if (gI v0 6 ((3 : Int32) * i2).toNatClampNeg) = (1 : Int32) then (
  gb (inR (((3 : Int32) * i2) + (1 : Int32)) 24) (
  gb (inR (((3 : Int32) * i2) + (2 : Int32)) 24) (
  ob (fX0_lambda_new_2 v0 (gI v0 6 (((3 : Int32) * i2) + (1 : Int32)).toNatClampNeg) (gI v0 6 (((3 : Int32) * i2) + (2 : Int32)).toNatClampNeg)) fun w44 =>
  k14 w44 (i2 + (1 : Int32)))))
  else if (gI v0 6 ((3 : Int32) * i2).toNatClampNeg) = (2 : Int32) then (
  gb (inR (((3 : Int32) * i2) + (1 : Int32)) 24) (
  gb (inR (((3 : Int32) * i2) + (2 : Int32)) 24) (
  ob (fX0_factors v0 (gI v0 6 (((3 : Int32) * i2) + (1 : Int32)).toNatClampNeg) (gI v0 6 (((3 : Int32) * i2) + (2 : Int32)).toNatClampNeg)) fun w57 =>
  k14 w57 (i2 + (1 : Int32)))))
  else none)))
noncomputable def fX0_ends (v0 : Mem) : Option (Int32 × Mem) :=
  ob (fX1_like (shf v0 1) (shf v0 23)) fun w1 =>
  lm (ptm v0 23 22 w1) fun v0_11 =>
  lq2 (fX0_ends_14) FU v0_11 (0 : Int32)
set_option maxHeartbeats 4000000 in
theorem w_fX0_ends_14 (C : Cx G p s m args meth c RX0 cX0_ends 3 (some .int)) {b0 : Nat} {rx : Int32} {rw0 : Mem} (he0 : b0 + 357 ≤ s.heap.size) (hZ : ZQ G) (hgb0 : gB G ≤ b0) (hZL : ZL G) {k14 : Mem → Int32 → Option (Int32 × Mem)} (hk14 : ∀ (v0 : Mem) (i2 : Int32), k14 v0 i2 = some (rx, rw0) → ∀ (H : Heap) (locs : List Loc) (ls : Array Slot), rg G b0 357 (shX0 G.2.1) v0 H → va_S (FA (iv b0 357) s.heap.size) s.heap H locs → GO G H → lv_has ls 3 [(0, .ref b0), (1, .ref (b0 + 23)), (2, .int i2)] → W p l e (rmT 8 1 7 176) s m args below meth c H locs 0 0 (MQ below (QcT (FA (iv b0 357) s.heap.size) (fun ov H => ov = (some (.int rx)) ∧ rg G b0 357 (shX0 G.2.1) rw0 H)) args s 1 7 (FA (iv b0 357) s.heap.size)) (F0 m 14 ls [])) : ∀ (v0 : Mem) (i2 : Int32), fX0_ends_14 k14 v0 i2 = some (rx, rw0) → ∀ (H : Heap) (locs : List Loc) (ls : Array Slot), rg G b0 357 (shX0 G.2.1) v0 H → va_S (FA (iv b0 357) s.heap.size) s.heap H locs → GO G H → lv_has ls 3 [(0, .ref b0), (1, .ref (b0 + 23)), (2, .int i2)] → W p l e (rmT 8 1 7 176) s m args below meth c H locs 0 0 (MQ below (QcT (FA (iv b0 357) s.heap.size) (fun ov H => ov = (some (.int rx)) ∧ rg G b0 357 (shX0 G.2.1) rw0 H)) args s 1 7 (FA (iv b0 357) s.heap.size)) (F0 m 14 ls []) := by
  intro v0 i2 hm H locs ls hW0 hS hG hl
  obtain ⟨hx, hb, hr, hlk, hml, hown, hts, hK⟩ := id C
  unfold fX0_ends_14 at hm
  refine lv_iload_n (pc := 14) hx hb dX0_ends_14 rfl (lv_at hl 2 rfl) ?_
  refine lv_aload_n (pc := 15) hx hb dX0_ends_15 rfl (lv_at hl 0 rfl) ?_
  refine rk_get (pc := 16) hx hb hts hown hK hW0 flX0_12 0 (by decide) rfl rfl (x := .ref (b0 + 1)) (by first | rfl | exact congrArg (fun z => some (Value.ref z)) (by omega)) dX0_ends_16 ?_
  refine rk_getN (pc := 19) hx hb hts hown hK hW0 fnX0_555 1 (by decide) rfl rfl (x := .int (gI v0 1 5)) rfl dX0_ends_19 ?_
  refine lv_icmp_ge (pc := 22) (tgt := 78) hx hb dX0_ends_22 (by decide) (fun c13 => ?_) (fun c13 => ?_)
  · have hm := ite_t c13 hm
    refine lv_aload_n (pc := 78) hx hb dX0_ends_78 rfl (lv_at hl 0 rfl) ?_
    refine rk_get (pc := 79) hx hb hts hown hK hW0 flX0_31 0 (by decide) rfl rfl (x := .ref (b0 + 110)) (by first | rfl | exact congrArg (fun z => some (Value.ref z)) (by omega)) dX0_ends_79 ?_
    refine lv_aload_n (pc := 82) hx hb dX0_ends_82 rfl (lv_at hl 1 rfl) ?_
    obtain ⟨r14, w15, hq16, hm⟩ := ob2_some hm
    refine rk_TV (pc := 83) (As := [.ref (b0 + 23)]) (rest := []) (mc := 1) (ms := 7) hx hb hml hown hts hK hS (fun q hq => FA_sz rfl q hq) lkX0_472 rfl yn_X3_worth (ct_X3_worth (G := G) (l := l) (b0 := (b0 + 110)) (b1 := (b0 + 23)) (sz := H.size) hq16 (by omega) hZ (by omega) (by omega)) ⟨Nat.le_of_ble_eq_true rfl, Nat.le_of_ble_eq_true rfl⟩ (fun z h => Or.inl (show iv _ _ _ from ⟨by have h8 := h.1; have h9 := h.2; omega, by have h8 := h.1; have h9 := h.2; omega⟩)) (rk_recv hK hW0 110 (by decide) rfl rfl rfl) ⟨(rg_sub hW0 rfl (by decide) (fun o ho x y z => shX0_n110 G.2.1 _ rfl o ho x y z)), (rg_sub hW0 rfl (by decide) (fun o ho x y z => shX0_n23 G.2.1 _ rfl o ho x y z)), hG⟩ rfl rfl hl.1 (Nat.le_of_ble_eq_true rfl) dX0_ends_83 ⟨Nat.le_of_ble_eq_true rfl, Nat.le_of_ble_eq_true rfl⟩ (fun ov9 H17 locs18 hP19 hkp20 hS21 => ?_)
    obtain ⟨rfl, hW22⟩ := hP19
    have hW23 := rg_put (d := 110) hW0 hW22 rfl (fun o ho x y z => shX0_n110 G.2.1 _ rfl o ho x y z) hkp20
    obtain ⟨v0_24, he9, hm⟩ := lm_some hm
    rw [he9] at hW23
    have hG25 := GO_keepA hG hkp20 (Nat.le_trans (show gB G ≤ s.heap.size by omega) hS.1) (by intro z h3; have h8 := h3.1; have h9 := h3.2; omega)
    refine W.eq (g2 := F0 m 86 ls [.int r14]) rfl ?_
    obtain ⟨e8, e9⟩ := rs2 hm
    subst e8
    subst e9
    exact rk_iretA (pc := 86) hx hb hr hlk hS21 ⟨rfl, hW23⟩ dX0_ends_86 (by exact Nat.le_of_ble_eq_true rfl) (by exact Nat.le_of_ble_eq_true rfl)
  · have hm := ite_f c13 hm
    refine lv_aload_n (pc := 25) hx hb dX0_ends_25 rfl (lv_at hl 0 rfl) ?_
    refine rk_get (pc := 26) hx hb hts hown hK hW0 flX0_52 0 (by decide) rfl rfl (x := .ref (b0 + 156)) (by first | rfl | exact congrArg (fun z => some (Value.ref z)) (by omega)) dX0_ends_26 ?_
    refine lv_aload_n (pc := 29) hx hb dX0_ends_29 rfl (lv_at hl 0 rfl) ?_
    refine rk_get (pc := 30) hx hb hts hown hK hW0 flX0_12 0 (by decide) rfl rfl (x := .ref (b0 + 1)) (by first | rfl | exact congrArg (fun z => some (Value.ref z)) (by omega)) dX0_ends_30 ?_
    refine rk_getN (pc := 33) hx hb hts hown hK hW0 fnX0_558 1 (by decide) rfl rfl (x := .ref (b0 + 6)) (by first | rfl | exact congrArg (fun z => some (Value.ref z)) (by omega)) dX0_ends_33 ?_
    refine lv_iconst (pc := 36) (v := (3 : Int32)) hx hb dX0_ends_36 (by decide) ?_
    refine lv_iload_n (pc := 37) hx hb dX0_ends_37 rfl (lv_at hl 2 rfl) ?_
    refine lv_imul (pc := 38) hx hb dX0_ends_38 ?_
    obtain ⟨hg26, hm⟩ := gb_some hm
    refine rk_iald (pc := 39) hx hb hK hW0 6 (by decide) rfl rfl hg26 (x := (gI v0 6 ((3 : Int32) * i2).toNatClampNeg)) rfl dX0_ends_39 ?_
    obtain ⟨hg27, hm⟩ := gb_some hm
    by_cases c28 : (gI v0 6 ((3 : Int32) * i2).toNatClampNeg) = (0 : Int32)
    · have hm := ite_t c28 hm
      refine rk_aald (pc := 40) hx hb hK hW0 156 8 (by decide) rfl rfl rfl hg27 (x := (b0 + 174)) (by rw [c28]; rfl) dX0_ends_40 ?_
      refine lv_aload_n (pc := 41) hx hb dX0_ends_41 rfl (lv_at hl 0 rfl) ?_
      refine rk_get (pc := 42) hx hb hts hown hK hW0 flX0_12 0 (by decide) rfl rfl (x := .ref (b0 + 1)) (by first | rfl | exact congrArg (fun z => some (Value.ref z)) (by omega)) dX0_ends_42 ?_
      refine rk_getN (pc := 45) hx hb hts hown hK hW0 fnX0_558 1 (by decide) rfl rfl (x := .ref (b0 + 6)) (by first | rfl | exact congrArg (fun z => some (Value.ref z)) (by omega)) dX0_ends_45 ?_
      refine lv_iconst (pc := 48) (v := (3 : Int32)) hx hb dX0_ends_48 (by decide) ?_
      refine lv_iload_n (pc := 49) hx hb dX0_ends_49 rfl (lv_at hl 2 rfl) ?_
      refine lv_imul (pc := 50) hx hb dX0_ends_50 ?_
      refine lv_iconst (pc := 51) (v := (1 : Int32)) hx hb dX0_ends_51 (by decide) ?_
      refine lv_iadd (pc := 52) hx hb dX0_ends_52 ?_
      obtain ⟨hg29, hm⟩ := gb_some hm
      refine rk_iald (pc := 53) hx hb hK hW0 6 (by decide) rfl rfl hg29 (x := (gI v0 6 (((3 : Int32) * i2) + (1 : Int32)).toNatClampNeg)) rfl dX0_ends_53 ?_
      refine lv_aload_n (pc := 54) hx hb dX0_ends_54 rfl (lv_at hl 0 rfl) ?_
      refine rk_get (pc := 55) hx hb hts hown hK hW0 flX0_12 0 (by decide) rfl rfl (x := .ref (b0 + 1)) (by first | rfl | exact congrArg (fun z => some (Value.ref z)) (by omega)) dX0_ends_55 ?_
      refine rk_getN (pc := 58) hx hb hts hown hK hW0 fnX0_558 1 (by decide) rfl rfl (x := .ref (b0 + 6)) (by first | rfl | exact congrArg (fun z => some (Value.ref z)) (by omega)) dX0_ends_58 ?_
      refine lv_iconst (pc := 61) (v := (3 : Int32)) hx hb dX0_ends_61 (by decide) ?_
      refine lv_iload_n (pc := 62) hx hb dX0_ends_62 rfl (lv_at hl 2 rfl) ?_
      refine lv_imul (pc := 63) hx hb dX0_ends_63 ?_
      refine lv_iconst (pc := 64) (v := (2 : Int32)) hx hb dX0_ends_64 (by decide) ?_
      refine lv_iadd (pc := 65) hx hb dX0_ends_65 ?_
      obtain ⟨hg30, hm⟩ := gb_some hm
      refine rk_iald (pc := 66) hx hb hK hW0 6 (by decide) rfl rfl hg30 (x := (gI v0 6 (((3 : Int32) * i2) + (2 : Int32)).toNatClampNeg)) rfl dX0_ends_66 ?_
      obtain ⟨w31, hq32, hm⟩ := ob_some hm
      refine rk_lamC (pc := 67) (y := yX0_bounds) (k := (gI v0 6 (((3 : Int32) * i2) + (1 : Int32)).toNatClampNeg)) (v := (gI v0 6 (((3 : Int32) * i2) + (2 : Int32)).toNatClampNeg)) (b := b0) (rest := []) (mc := 0) (ms := 0) hx hb hml hown hts hK hS (fun q hq => FA_sz rfl q hq) lfC0 (hZL.1 s hK).1.2.2.1 (hZL.1 s hK).2.1.2.1 q1605 q1607 (rg_lam hW0 174 (by decide) rfl rfl) rfl rfl rfl yn_X0_bounds ⟨q424, qs0, q114, q425⟩ (ct_X0_bounds (G := G) (l := l) (b0 := b0) (sz := H.size) hq32) (fun ov H h => h.1) ⟨Nat.le_of_ble_eq_true rfl, Nat.le_of_ble_eq_true rfl⟩ (fun z h => Or.inl (show iv _ _ _ from ⟨by have h8 := h.1; have h9 := h.2; omega, by have h8 := h.1; have h9 := h.2; omega⟩)) (rk_recv hK hW0 0 (by decide) rfl rfl rfl) hW0 hl.1 (Nat.le_of_ble_eq_true rfl) dX0_ends_67 ⟨Nat.zero_le _, Nat.zero_le _⟩ (fun H33 locs34 hP35 hkp36 hS37 => ?_)
      obtain ⟨-, hW38, hz39⟩ := hP35
      have hG40 := GO_keepA hG hkp36 (Nat.le_trans (show gB G ≤ s.heap.size by omega) hS.1) (by intro z h3; have h8 := h3.1; have h9 := h3.2; omega)
      refine lv_iinc (pc := 72) (v := (i2 + (1 : Int32))) (lv' := [(2, .int (i2 + (1 : Int32))), (0, .ref b0), (1, .ref (b0 + 23))]) hx hb dX0_ends_72 hl (k := 2) rfl rfl (by decide) rfl (fun ls hl => ?_)
      refine lv_goto (pc := 75) (tgt := 14) hx hb dX0_ends_75 (by decide) ?_
      exact hk14 w31 (i2 + (1 : Int32)) hm H33 locs34 ls hW38 hS37 hG40 (lv_sub hl [1, 2, 0] rfl)
    have hm := ite_f c28 hm
    by_cases c41 : (gI v0 6 ((3 : Int32) * i2).toNatClampNeg) = (1 : Int32)
    · have hm := ite_t c41 hm
      refine rk_aald (pc := 40) hx hb hK hW0 156 8 (by decide) rfl rfl rfl hg27 (x := (b0 + 175)) (by rw [c41]; rfl) dX0_ends_40 ?_
      refine lv_aload_n (pc := 41) hx hb dX0_ends_41 rfl (lv_at hl 0 rfl) ?_
      refine rk_get (pc := 42) hx hb hts hown hK hW0 flX0_12 0 (by decide) rfl rfl (x := .ref (b0 + 1)) (by first | rfl | exact congrArg (fun z => some (Value.ref z)) (by omega)) dX0_ends_42 ?_
      refine rk_getN (pc := 45) hx hb hts hown hK hW0 fnX0_558 1 (by decide) rfl rfl (x := .ref (b0 + 6)) (by first | rfl | exact congrArg (fun z => some (Value.ref z)) (by omega)) dX0_ends_45 ?_
      refine lv_iconst (pc := 48) (v := (3 : Int32)) hx hb dX0_ends_48 (by decide) ?_
      refine lv_iload_n (pc := 49) hx hb dX0_ends_49 rfl (lv_at hl 2 rfl) ?_
      refine lv_imul (pc := 50) hx hb dX0_ends_50 ?_
      refine lv_iconst (pc := 51) (v := (1 : Int32)) hx hb dX0_ends_51 (by decide) ?_
      refine lv_iadd (pc := 52) hx hb dX0_ends_52 ?_
      obtain ⟨hg42, hm⟩ := gb_some hm
      refine rk_iald (pc := 53) hx hb hK hW0 6 (by decide) rfl rfl hg42 (x := (gI v0 6 (((3 : Int32) * i2) + (1 : Int32)).toNatClampNeg)) rfl dX0_ends_53 ?_
      refine lv_aload_n (pc := 54) hx hb dX0_ends_54 rfl (lv_at hl 0 rfl) ?_
      refine rk_get (pc := 55) hx hb hts hown hK hW0 flX0_12 0 (by decide) rfl rfl (x := .ref (b0 + 1)) (by first | rfl | exact congrArg (fun z => some (Value.ref z)) (by omega)) dX0_ends_55 ?_
      refine rk_getN (pc := 58) hx hb hts hown hK hW0 fnX0_558 1 (by decide) rfl rfl (x := .ref (b0 + 6)) (by first | rfl | exact congrArg (fun z => some (Value.ref z)) (by omega)) dX0_ends_58 ?_
      refine lv_iconst (pc := 61) (v := (3 : Int32)) hx hb dX0_ends_61 (by decide) ?_
      refine lv_iload_n (pc := 62) hx hb dX0_ends_62 rfl (lv_at hl 2 rfl) ?_
      refine lv_imul (pc := 63) hx hb dX0_ends_63 ?_
      refine lv_iconst (pc := 64) (v := (2 : Int32)) hx hb dX0_ends_64 (by decide) ?_
      refine lv_iadd (pc := 65) hx hb dX0_ends_65 ?_
      obtain ⟨hg43, hm⟩ := gb_some hm
      refine rk_iald (pc := 66) hx hb hK hW0 6 (by decide) rfl rfl hg43 (x := (gI v0 6 (((3 : Int32) * i2) + (2 : Int32)).toNatClampNeg)) rfl dX0_ends_66 ?_
      obtain ⟨w44, hq45, hm⟩ := ob_some hm
      refine rk_lamC (pc := 67) (y := yX0_lambda_new_2) (k := (gI v0 6 (((3 : Int32) * i2) + (1 : Int32)).toNatClampNeg)) (v := (gI v0 6 (((3 : Int32) * i2) + (2 : Int32)).toNatClampNeg)) (b := b0) (rest := []) (mc := 0) (ms := 0) hx hb hml hown hts hK hS (fun q hq => FA_sz rfl q hq) lfC1 (hZL.1 s hK).1.2.2.2.1 (hZL.1 s hK).2.1.2.1 q1605 q1607 (rg_lam hW0 175 (by decide) rfl rfl) rfl rfl rfl yn_X0_lambda_new_2 ⟨q434, qs1, q114, q435⟩ (ct_X0_lambda_new_2 (G := G) (l := l) (b0 := b0) (sz := H.size) hq45) (fun ov H h => h.1) ⟨Nat.le_of_ble_eq_true rfl, Nat.le_of_ble_eq_true rfl⟩ (fun z h => Or.inl (show iv _ _ _ from ⟨by have h8 := h.1; have h9 := h.2; omega, by have h8 := h.1; have h9 := h.2; omega⟩)) (rk_recv hK hW0 0 (by decide) rfl rfl rfl) hW0 hl.1 (Nat.le_of_ble_eq_true rfl) dX0_ends_67 ⟨Nat.zero_le _, Nat.zero_le _⟩ (fun H46 locs47 hP48 hkp49 hS50 => ?_)
      obtain ⟨-, hW51, hz52⟩ := hP48
      have hG53 := GO_keepA hG hkp49 (Nat.le_trans (show gB G ≤ s.heap.size by omega) hS.1) (by intro z h3; have h8 := h3.1; have h9 := h3.2; omega)
      refine lv_iinc (pc := 72) (v := (i2 + (1 : Int32))) (lv' := [(2, .int (i2 + (1 : Int32))), (0, .ref b0), (1, .ref (b0 + 23))]) hx hb dX0_ends_72 hl (k := 2) rfl rfl (by decide) rfl (fun ls hl => ?_)
      refine lv_goto (pc := 75) (tgt := 14) hx hb dX0_ends_75 (by decide) ?_
      exact hk14 w44 (i2 + (1 : Int32)) hm H46 locs47 ls hW51 hS50 hG53 (lv_sub hl [1, 2, 0] rfl)
    have hm := ite_f c41 hm
    by_cases c54 : (gI v0 6 ((3 : Int32) * i2).toNatClampNeg) = (2 : Int32)
    · have hm := ite_t c54 hm
      refine rk_aald (pc := 40) hx hb hK hW0 156 8 (by decide) rfl rfl rfl hg27 (x := (b0 + 176)) (by rw [c54]; rfl) dX0_ends_40 ?_
      refine lv_aload_n (pc := 41) hx hb dX0_ends_41 rfl (lv_at hl 0 rfl) ?_
      refine rk_get (pc := 42) hx hb hts hown hK hW0 flX0_12 0 (by decide) rfl rfl (x := .ref (b0 + 1)) (by first | rfl | exact congrArg (fun z => some (Value.ref z)) (by omega)) dX0_ends_42 ?_
      refine rk_getN (pc := 45) hx hb hts hown hK hW0 fnX0_558 1 (by decide) rfl rfl (x := .ref (b0 + 6)) (by first | rfl | exact congrArg (fun z => some (Value.ref z)) (by omega)) dX0_ends_45 ?_
      refine lv_iconst (pc := 48) (v := (3 : Int32)) hx hb dX0_ends_48 (by decide) ?_
      refine lv_iload_n (pc := 49) hx hb dX0_ends_49 rfl (lv_at hl 2 rfl) ?_
      refine lv_imul (pc := 50) hx hb dX0_ends_50 ?_
      refine lv_iconst (pc := 51) (v := (1 : Int32)) hx hb dX0_ends_51 (by decide) ?_
      refine lv_iadd (pc := 52) hx hb dX0_ends_52 ?_
      obtain ⟨hg55, hm⟩ := gb_some hm
      refine rk_iald (pc := 53) hx hb hK hW0 6 (by decide) rfl rfl hg55 (x := (gI v0 6 (((3 : Int32) * i2) + (1 : Int32)).toNatClampNeg)) rfl dX0_ends_53 ?_
      refine lv_aload_n (pc := 54) hx hb dX0_ends_54 rfl (lv_at hl 0 rfl) ?_
      refine rk_get (pc := 55) hx hb hts hown hK hW0 flX0_12 0 (by decide) rfl rfl (x := .ref (b0 + 1)) (by first | rfl | exact congrArg (fun z => some (Value.ref z)) (by omega)) dX0_ends_55 ?_
      refine rk_getN (pc := 58) hx hb hts hown hK hW0 fnX0_558 1 (by decide) rfl rfl (x := .ref (b0 + 6)) (by first | rfl | exact congrArg (fun z => some (Value.ref z)) (by omega)) dX0_ends_58 ?_
      refine lv_iconst (pc := 61) (v := (3 : Int32)) hx hb dX0_ends_61 (by decide) ?_
      refine lv_iload_n (pc := 62) hx hb dX0_ends_62 rfl (lv_at hl 2 rfl) ?_
      refine lv_imul (pc := 63) hx hb dX0_ends_63 ?_
      refine lv_iconst (pc := 64) (v := (2 : Int32)) hx hb dX0_ends_64 (by decide) ?_
      refine lv_iadd (pc := 65) hx hb dX0_ends_65 ?_
      obtain ⟨hg56, hm⟩ := gb_some hm
      refine rk_iald (pc := 66) hx hb hK hW0 6 (by decide) rfl rfl hg56 (x := (gI v0 6 (((3 : Int32) * i2) + (2 : Int32)).toNatClampNeg)) rfl dX0_ends_66 ?_
      obtain ⟨w57, hq58, hm⟩ := ob_some hm
      refine rk_lamC (pc := 67) (y := yX0_factors) (k := (gI v0 6 (((3 : Int32) * i2) + (1 : Int32)).toNatClampNeg)) (v := (gI v0 6 (((3 : Int32) * i2) + (2 : Int32)).toNatClampNeg)) (b := b0) (rest := []) (mc := 0) (ms := 0) hx hb hml hown hts hK hS (fun q hq => FA_sz rfl q hq) lfC2 (hZL.1 s hK).1.2.2.2.2.1 (hZL.1 s hK).2.1.2.1 q1605 q1607 (rg_lam hW0 176 (by decide) rfl rfl) rfl rfl rfl yn_X0_factors ⟨q441, qs2, q114, q442⟩ (ct_X0_factors (G := G) (l := l) (b0 := b0) (sz := H.size) hq58) (fun ov H h => h.1) ⟨Nat.le_of_ble_eq_true rfl, Nat.le_of_ble_eq_true rfl⟩ (fun z h => Or.inl (show iv _ _ _ from ⟨by have h8 := h.1; have h9 := h.2; omega, by have h8 := h.1; have h9 := h.2; omega⟩)) (rk_recv hK hW0 0 (by decide) rfl rfl rfl) hW0 hl.1 (Nat.le_of_ble_eq_true rfl) dX0_ends_67 ⟨Nat.zero_le _, Nat.zero_le _⟩ (fun H59 locs60 hP61 hkp62 hS63 => ?_)
      obtain ⟨-, hW64, hz65⟩ := hP61
      have hG66 := GO_keepA hG hkp62 (Nat.le_trans (show gB G ≤ s.heap.size by omega) hS.1) (by intro z h3; have h8 := h3.1; have h9 := h3.2; omega)
      refine lv_iinc (pc := 72) (v := (i2 + (1 : Int32))) (lv' := [(2, .int (i2 + (1 : Int32))), (0, .ref b0), (1, .ref (b0 + 23))]) hx hb dX0_ends_72 hl (k := 2) rfl rfl (by decide) rfl (fun ls hl => ?_)
      refine lv_goto (pc := 75) (tgt := 14) hx hb dX0_ends_75 (by decide) ?_
      exact hk14 w57 (i2 + (1 : Int32)) hm H59 locs60 ls hW64 hS63 hG66 (lv_sub hl [1, 2, 0] rfl)
    have hm := ite_f c54 hm
    exact nomatch hm
theorem w_fX0_ends_14_l (C : Cx G p s m args meth c RX0 cX0_ends 3 (some .int)) {b0 : Nat} {rx : Int32} {rw0 : Mem} (he0 : b0 + 357 ≤ s.heap.size) (hZ : ZQ G) (hgb0 : gB G ≤ b0) (hZL : ZL G) : ∀ (n : Nat) (v0 : Mem) (i2 : Int32), lq2 (fX0_ends_14) n v0 i2 = some (rx, rw0) → ∀ (H : Heap) (locs : List Loc) (ls : Array Slot), rg G b0 357 (shX0 G.2.1) v0 H → va_S (FA (iv b0 357) s.heap.size) s.heap H locs → GO G H → lv_has ls 3 [(0, .ref b0), (1, .ref (b0 + 23)), (2, .int i2)] → W p l e (rmT 8 1 7 176) s m args below meth c H locs 0 0 (MQ below (QcT (FA (iv b0 357) s.heap.size) (fun ov H => ov = (some (.int rx)) ∧ rg G b0 357 (shX0 G.2.1) rw0 H)) args s 1 7 (FA (iv b0 357) s.heap.size)) (F0 m 14 ls []) := by
  intro n
  induction n with
  | zero => intro v0 i2 hm; exact (lq2_0 hm).elim
  | succ n ih => intro v0 i2 hm; exact w_fX0_ends_14 C he0 hZ hgb0 hZL ih v0 i2 (lq2_s hm)
set_option maxHeartbeats 4000000 in
theorem w_fX0_ends (C : Cx G p s m args meth c RX0 cX0_ends 3 (some .int)) {b0 : Nat} {rx : Int32} {rw0 : Mem} (he0 : b0 + 357 ≤ s.heap.size) (hZ : ZQ G) (hgb0 : gB G ≤ b0) (hZL : ZL G) : ∀ (v0 : Mem), fX0_ends v0 = some (rx, rw0) → ∀ (H : Heap) (locs : List Loc) (ls : Array Slot), rg G b0 357 (shX0 G.2.1) v0 H → va_S (FA (iv b0 357) s.heap.size) s.heap H locs → GO G H → lv_has ls 3 [(0, .ref b0)] → W p l e (rmT 8 1 7 176) s m args below meth c H locs 0 0 (MQ below (QcT (FA (iv b0 357) s.heap.size) (fun ov H => ov = (some (.int rx)) ∧ rg G b0 357 (shX0 G.2.1) rw0 H)) args s 1 7 (FA (iv b0 357) s.heap.size)) (F0 m 0 ls []) := by
  intro v0 hm H locs ls hW0 hS hG hl
  obtain ⟨hx, hb, hr, hlk, hml, hown, hts, hK⟩ := id C
  unfold fX0_ends at hm
  refine lv_aload_n (pc := 0) hx hb dX0_ends_0 rfl (lv_at hl 0 rfl) ?_
  refine rk_get (pc := 1) hx hb hts hown hK hW0 flX0_18 0 (by decide) rfl rfl (x := .ref (b0 + 23)) (by first | rfl | exact congrArg (fun z => some (Value.ref z)) (by omega)) dX0_ends_1 ?_
  refine lv_aload_n (pc := 4) hx hb dX0_ends_4 rfl (lv_at hl 0 rfl) ?_
  refine rk_get (pc := 5) hx hb hts hown hK hW0 flX0_12 0 (by decide) rfl rfl (x := .ref (b0 + 1)) (by first | rfl | exact congrArg (fun z => some (Value.ref z)) (by omega)) dX0_ends_5 ?_
  obtain ⟨w1, hq2, hm⟩ := ob_some hm
  refine rk_TV (pc := 8) (As := [.ref (b0 + 1)]) (rest := []) (mc := 0) (ms := 0) hx hb hml hown hts hK hS (fun q hq => FA_sz rfl q hq) lkX0_469 rfl yn_X1_like (ct_X1_like (G := G) (l := l) (b0 := (b0 + 23)) (b1 := (b0 + 1)) (sz := H.size) hq2 (by omega)) ⟨Nat.le_of_ble_eq_true rfl, Nat.le_of_ble_eq_true rfl⟩ (fun z h => Or.inl (show iv _ _ _ from ⟨by have h8 := h.1; have h9 := h.2; omega, by have h8 := h.1; have h9 := h.2; omega⟩)) (rk_recv hK hW0 23 (by decide) rfl rfl rfl) ⟨(rg_sub hW0 rfl (by decide) (fun o ho x y z => shX0_n23 G.2.1 _ rfl o ho x y z)), (rg_sub hW0 rfl (by decide) (fun o ho x y z => shX0_n1 G.2.1 _ rfl o ho x y z))⟩ rfl rfl hl.1 (Nat.le_of_ble_eq_true rfl) dX0_ends_8 ⟨Nat.zero_le _, Nat.zero_le _⟩ (fun ov9 H3 locs4 hP5 hkp6 hS7 => ?_)
  obtain ⟨rfl, hW8, hz9⟩ := hP5
  have hW10 := rg_put (d := 23) hW0 hW8 rfl (fun o ho x y z => shX0_n23 G.2.1 _ rfl o ho x y z) hkp6
  obtain ⟨v0_11, he9, hm⟩ := lm_some hm
  rw [he9] at hW10
  have hG12 := GO_keepA hG hkp6 (Nat.le_trans (show gB G ≤ s.heap.size by omega) hS.1) (by intro z h3; have h8 := h3.1; have h9 := h3.2; omega)
  refine W.eq (g2 := F0 m 11 ls [.ref (b0 + 23)]) rfl ?_
  refine lv_astore_n (pc := 11) (lv' := [(1, .ref (b0 + 23)), (0, .ref b0)]) hx hb dX0_ends_11 rfl hl (by decide) rfl (fun ls hl => ?_)
  refine lv_iconst (pc := 12) (v := (0 : Int32)) hx hb dX0_ends_12 (by decide) ?_
  refine lv_istore_n (pc := 13) (lv' := [(2, .int (0 : Int32)), (1, .ref (b0 + 23)), (0, .ref b0)]) hx hb dX0_ends_13 rfl hl (by decide) rfl (fun ls hl => ?_)
  exact (w_fX0_ends_14_l C he0 hZ hgb0 hZL FU) v0_11 (0 : Int32) hm H3 locs4 ls hW10 hS7 hG12 (lv_sub hl [2, 1, 0] rfl)
set_option maxHeartbeats 4000000 in
theorem ct_X0_ends {G : Gv} {l : Launch} {b0 : Nat} {v0 : Mem} {rx : Int32} {rw0 : Mem} {sz : Nat} (hm : fX0_ends v0 = some (rx, rw0)) (hZ : ZQ G) (hgb0 : gB G ≤ b0) (hZL : ZL G) : CT G l yX0_ends (ws_ yX0_ends cX0_ends 3 (some .int)) 8 1 7 176 [.ref b0] (iv b0 357) sz (fun H => rg G b0 357 (shX0 G.2.1) v0 H ∧ GO G H) (fun ov H => ov = (some (.int rx)) ∧ rg G b0 357 (shX0 G.2.1) rw0 H) := by
  refine Met.ofW (cc := cX0_ends) (maxL := 3) (ret := (some .int)) (by decide +kernel) rfl ?_
  intro p e s m args below meth c s₁ B hml hv
  obtain ⟨rfl, ⟨hz, hW0, hG⟩, hK⟩ := hv
  subst hz
  have he0 := rg_end hW0 356 (by decide) rfl (fun _ _ _ => rfl)
  have hts := atoms_spec (ws := ws_ yX0_ends cX0_ends 3 (some .int)) B.pre
  have hts : ∀ w ∈ lw_all, w.before _ s = true := fun w h => hts w (List.mem_cons_of_mem _ h)
  have C : Cx G p s m _ meth c RX0 cX0_ends 3 (some .int) := ⟨B.exec, B.bytes, B.returns, B.notSynchronized, hml, findClass_of_methodNamed B.named, hts, hK⟩
  have hl := lv_entry ([.ref b0]) (n := 3) (Nat.le_of_ble_eq_true rfl)
  rw [lg_entry_eq]
  generalize (lg_sl ([.ref b0]) ++ List.replicate (3 - (lg_sl ([.ref b0])).length) Slot.unset).toArray = ls at hl ⊢
  have hl : lv_has ls 3 [(0, .ref b0)] := hl
  exact w_fX0_ends C he0 hZ hgb0 hZL _ hm s.heap [] ls hW0 va_S.rf hG hl
noncomputable def fX0_isTape (i0 : Int32) : Option (Int32) :=
  ob (fX0_in i0.toInt64 (0 : Int64) (5 : Int64)) fun r1 =>
  gb (z01 r1) (some r1)
set_option maxHeartbeats 4000000 in
theorem w_fX0_isTape (C : Cx G p s m args meth c RX0 cX0_isTape 1 (some .boolean)) {rx : Int32} : ∀ (i0 : Int32), fX0_isTape i0 = some rx → ∀ (ls : Array Slot), lv_has ls 1 [(0, .int i0)] → W p l e (rmP 1 25) s m args below meth c s.heap [] 0 0 (MQ below (QcP (some (.int rx))) args s 0 0 (fun _ => False)) (F0 m 0 ls []) := by
  intro i0 hm ls hl
  obtain ⟨hx, hb, hr, hlk, hml, hown, hts, hK⟩ := id C
  unfold fX0_isTape at hm
  refine lv_iload_n (pc := 0) hx hb dX0_isTape_0 rfl (lv_at hl 0 rfl) ?_
  refine lv_i2l (pc := 1) hx hb dX0_isTape_1 rfl ?_
  refine lv_lconst (pc := 2) (v := (0 : Int64)) hx hb dX0_isTape_2 (by decide) ?_
  refine lv_ldc2 (pc := 3) (v := (5 : Int64)) hx hb hown (hts _ q578) dX0_isTape_3 ?_
  obtain ⟨r1, hq2, hm⟩ := ob_some hm
  refine rk_PS (pc := 6) (As := [.long i0.toInt64, .long (0 : Int64), .long (5 : Int64)]) (rest := []) hx hb hml hown hts hK lkX0_127 yn_X0_in (ct_X0_in (G := G) (l := l) hq2) ⟨Nat.le_of_ble_eq_true rfl, Nat.le_of_ble_eq_true rfl⟩ trivial rfl rfl hl.1 (Nat.le_of_ble_eq_true rfl) dX0_isTape_6 ⟨Nat.zero_le _, Nat.zero_le _⟩ ?_
  refine W.eq (g2 := F0 m 9 ls [.int r1]) rfl ?_
  obtain ⟨hg3, hm⟩ := gb_some hm
  have e9 := rs1 hm
  subst e9
  exact rk_zretP (pc := 9) hx hb hr hlk hg3 rfl dX0_isTape_9
set_option maxHeartbeats 4000000 in
theorem ct_X0_isTape {G : Gv} {l : Launch} {i0 : Int32} {rx : Int32} (hm : fX0_isTape i0 = some rx) : CP G l yX0_isTape (ws_ yX0_isTape cX0_isTape 1 (some .boolean)) 1 25 [.int i0] (fun H => True) (some (.int rx)) := by
  refine Met.ofW (cc := cX0_isTape) (maxL := 1) (ret := (some .boolean)) (by decide +kernel) rfl ?_
  intro p e s m args below meth c s₁ B hml hv
  obtain ⟨rfl, -, hK⟩ := hv
  have hts := atoms_spec (ws := ws_ yX0_isTape cX0_isTape 1 (some .boolean)) B.pre
  have hts : ∀ w ∈ lw_all, w.before _ s = true := fun w h => hts w (List.mem_cons_of_mem _ h)
  have C : Cx G p s m _ meth c RX0 cX0_isTape 1 (some .boolean) := ⟨B.exec, B.bytes, B.returns, B.notSynchronized, hml, findClass_of_methodNamed B.named, hts, hK⟩
  have hl := lv_entry ([.int i0]) (n := 1) (Nat.le_of_ble_eq_true rfl)
  rw [lg_entry_eq]
  generalize (lg_sl ([.int i0]) ++ List.replicate (1 - (lg_sl ([.int i0])).length) Slot.unset).toArray = ls at hl ⊢
  have hl : lv_has ls 1 [(0, .int i0)] := hl
  exact w_fX0_isTape C _ hm ls hl
theorem yn_X0_isKept : YN yX0_isKept 2 := by
  unfold YN
  decide +kernel
theorem lkX0_605 : LV RX0 605 RX0 yX0_isKept cX0_isKept 3 (some .boolean) := ⟨q1199, q1201, qs39, q114, q1202⟩
noncomputable def fX0_lambda_lost_5 (v0 : Mem) (i1 : Int32) (i2 : Int32) (i3 : Int32) (i4 : Int32) : Option (Int32 × Mem) :=
  if 0 < i4 then (
  some ((1 : Int32), v0))
  else (
  ob2 (fX0_isKept v0 i1 i2) fun r2 w3 =>
  if r2 = 0 then (
  some ((0 : Int32), w3))
  else (
  some ((1 : Int32), w3)))
set_option maxHeartbeats 4000000 in
theorem w_fX0_lambda_lost_5 (C : Cx G p s m args meth c RX0 cX0_lambda_lost_5 5 (some .boolean)) {b0 : Nat} {rx : Int32} {rw0 : Mem} : ∀ (v0 : Mem) (i1 : Int32) (i2 : Int32) (i3 : Int32) (i4 : Int32), fX0_lambda_lost_5 v0 i1 i2 i3 i4 = some (rx, rw0) → ∀ (H : Heap) (locs : List Loc) (ls : Array Slot), rg G b0 357 (shX0 G.2.1) v0 H → va_S (FA (iv b0 357) s.heap.size) s.heap H locs → H.size = s.heap.size → lv_has ls 5 [(0, .ref b0), (1, .int i1), (2, .int i2), (3, .int i3), (4, .int i4)] → W p l e (rmT 4 0 0 95) s m args below meth c H locs 0 0 (MQ below (QcT (FA (iv b0 357) s.heap.size) (fun ov H => ov = (some (.int rx)) ∧ rg G b0 357 (shX0 G.2.1) rw0 H ∧ H.size = s.heap.size)) args s 0 0 (FA (iv b0 357) s.heap.size)) (F0 m 0 ls []) := by
  intro v0 i1 i2 i3 i4 hm H locs ls hW0 hS hz hl
  obtain ⟨hx, hb, hr, hlk, hml, hown, hts, hK⟩ := id C
  unfold fX0_lambda_lost_5 at hm
  refine lv_iload (pc := 0) hx hb dX0_lambda_lost_5_0 (lv_at hl 4 rfl) ?_
  refine lv_if_gt (pc := 2) (tgt := 14) hx hb dX0_lambda_lost_5_2 (by decide) (fun c1 => ?_) (fun c1 => ?_)
  · have hm := ite_t c1 hm
    refine lv_iconst (pc := 14) (v := (1 : Int32)) hx hb dX0_lambda_lost_5_14 (by decide) ?_
    refine lv_goto (pc := 15) (tgt := 19) hx hb dX0_lambda_lost_5_15 (by decide) ?_
    obtain ⟨e8, e9⟩ := rs2 hm
    subst e8
    subst e9
    exact rk_zret (pc := 19) hx hb hr hlk rfl hS ⟨rfl, hW0, hz⟩ dX0_lambda_lost_5_19
  · have hm := ite_f c1 hm
    refine lv_aload_n (pc := 5) hx hb dX0_lambda_lost_5_5 rfl (lv_at hl 0 rfl) ?_
    refine lv_iload_n (pc := 6) hx hb dX0_lambda_lost_5_6 rfl (lv_at hl 1 rfl) ?_
    refine lv_iload_n (pc := 7) hx hb dX0_lambda_lost_5_7 rfl (lv_at hl 2 rfl) ?_
    obtain ⟨r2, w3, hq4, hm⟩ := ob2_some hm
    refine rk_TV (pc := 8) (As := [.int i1, .int i2]) (rest := []) (mc := 0) (ms := 0) hx hb hml hown hts hK hS (fun q hq => FA_sz rfl q hq) lkX0_605 rfl yn_X0_isKept (ct_X0_isKept (G := G) (l := l) (b0 := b0) (sz := H.size) hq4) ⟨Nat.le_of_ble_eq_true rfl, Nat.le_of_ble_eq_true rfl⟩ (fun z h => Or.inl (show iv _ _ _ from ⟨by have h8 := h.1; have h9 := h.2; omega, by have h8 := h.1; have h9 := h.2; omega⟩)) (rk_recv hK hW0 0 (by decide) rfl rfl rfl) hW0 rfl rfl hl.1 (Nat.le_of_ble_eq_true rfl) dX0_lambda_lost_5_8 ⟨Nat.zero_le _, Nat.zero_le _⟩ (fun ov9 H5 locs6 hP7 hkp8 hS9 => ?_)
    obtain ⟨rfl, hW10, hz11⟩ := hP7
    have hz12 := hz11.trans hz
    refine W.eq (g2 := F0 m 11 ls [.int r2]) rfl ?_
    refine lv_if_eq (pc := 11) (tgt := 18) hx hb dX0_lambda_lost_5_11 (by decide) (fun c13 => ?_) (fun c13 => ?_)
    · have hm := ite_t c13 hm
      refine lv_iconst (pc := 18) (v := (0 : Int32)) hx hb dX0_lambda_lost_5_18 (by decide) ?_
      obtain ⟨e8, e9⟩ := rs2 hm
      subst e8
      subst e9
      exact rk_zret (pc := 19) hx hb hr hlk rfl hS9 ⟨rfl, hW10, hz12⟩ dX0_lambda_lost_5_19
    · have hm := ite_f c13 hm
      refine lv_iconst (pc := 14) (v := (1 : Int32)) hx hb dX0_lambda_lost_5_14 (by decide) ?_
      refine lv_goto (pc := 15) (tgt := 19) hx hb dX0_lambda_lost_5_15 (by decide) ?_
      obtain ⟨e8, e9⟩ := rs2 hm
      subst e8
      subst e9
      exact rk_zret (pc := 19) hx hb hr hlk rfl hS9 ⟨rfl, hW10, hz12⟩ dX0_lambda_lost_5_19
set_option maxHeartbeats 4000000 in
theorem ct_X0_lambda_lost_5 {G : Gv} {l : Launch} {b0 : Nat} {v0 : Mem} {i1 : Int32} {i2 : Int32} {i3 : Int32} {i4 : Int32} {rx : Int32} {rw0 : Mem} {sz : Nat} (hm : fX0_lambda_lost_5 v0 i1 i2 i3 i4 = some (rx, rw0)) : CT G l yX0_lambda_lost_5 (ws_ yX0_lambda_lost_5 cX0_lambda_lost_5 5 (some .boolean)) 4 0 0 95 [.ref b0, .int i1, .int i2, .int i3, .int i4] (iv b0 357) sz (fun H => rg G b0 357 (shX0 G.2.1) v0 H) (fun ov H => ov = (some (.int rx)) ∧ rg G b0 357 (shX0 G.2.1) rw0 H ∧ H.size = sz) := by
  refine Met.ofW (cc := cX0_lambda_lost_5) (maxL := 5) (ret := (some .boolean)) (by decide +kernel) rfl ?_
  intro p e s m args below meth c s₁ B hml hv
  obtain ⟨rfl, ⟨hz, hW0⟩, hK⟩ := hv
  subst hz
  have hts := atoms_spec (ws := ws_ yX0_lambda_lost_5 cX0_lambda_lost_5 5 (some .boolean)) B.pre
  have hts : ∀ w ∈ lw_all, w.before _ s = true := fun w h => hts w (List.mem_cons_of_mem _ h)
  have C : Cx G p s m _ meth c RX0 cX0_lambda_lost_5 5 (some .boolean) := ⟨B.exec, B.bytes, B.returns, B.notSynchronized, hml, findClass_of_methodNamed B.named, hts, hK⟩
  have hl := lv_entry ([.ref b0, .int i1, .int i2, .int i3, .int i4]) (n := 5) (Nat.le_of_ble_eq_true rfl)
  rw [lg_entry_eq]
  generalize (lg_sl ([.ref b0, .int i1, .int i2, .int i3, .int i4]) ++ List.replicate (5 - (lg_sl ([.ref b0, .int i1, .int i2, .int i3, .int i4])).length) Slot.unset).toArray = ls at hl ⊢
  have hl : lv_has ls 5 [(0, .ref b0), (1, .int i1), (2, .int i2), (3, .int i3), (4, .int i4)] := hl
  exact w_fX0_lambda_lost_5 C _ _ _ _ _ hm s.heap [] ls hW0 va_S.rf rfl hl
theorem yn_X0_counts : YN yX0_counts 2 := by
  unfold YN
  decide +kernel
theorem lkX0_608 : LV RX0 608 RX0 yX0_counts cX0_counts 3 (some .boolean) := ⟨q1180, q1182, qs36, q114, q1183⟩
noncomputable def fX0_lambda_many_4 (v0 : Mem) (i1 : Int32) (i2 : Int32) (i3 : Int32) (i4 : Int32) : Option (Int32 × Mem) :=
  ob2 (fX0_counts v0 i4 i1) fun r1 w2 =>
  gb (z01 r1) (some (r1, w2))
set_option maxHeartbeats 4000000 in
theorem w_fX0_lambda_many_4 (C : Cx G p s m args meth c RX0 cX0_lambda_many_4 5 (some .boolean)) {b0 : Nat} {rx : Int32} {rw0 : Mem} : ∀ (v0 : Mem) (i1 : Int32) (i2 : Int32) (i3 : Int32) (i4 : Int32), fX0_lambda_many_4 v0 i1 i2 i3 i4 = some (rx, rw0) → ∀ (H : Heap) (locs : List Loc) (ls : Array Slot), rg G b0 357 (shX0 G.2.1) v0 H → va_S (FA (iv b0 357) s.heap.size) s.heap H locs → H.size = s.heap.size → lv_has ls 5 [(0, .ref b0), (1, .int i1), (2, .int i2), (3, .int i3), (4, .int i4)] → W p l e (rmT 1 0 0 22) s m args below meth c H locs 0 0 (MQ below (QcT (FA (iv b0 357) s.heap.size) (fun ov H => ov = (some (.int rx)) ∧ rg G b0 357 (shX0 G.2.1) rw0 H ∧ H.size = s.heap.size)) args s 0 0 (FA (iv b0 357) s.heap.size)) (F0 m 0 ls []) := by
  intro v0 i1 i2 i3 i4 hm H locs ls hW0 hS hz hl
  obtain ⟨hx, hb, hr, hlk, hml, hown, hts, hK⟩ := id C
  unfold fX0_lambda_many_4 at hm
  refine lv_aload_n (pc := 0) hx hb dX0_lambda_many_4_0 rfl (lv_at hl 0 rfl) ?_
  refine lv_iload (pc := 1) hx hb dX0_lambda_many_4_1 (lv_at hl 4 rfl) ?_
  refine lv_iload_n (pc := 3) hx hb dX0_lambda_many_4_3 rfl (lv_at hl 1 rfl) ?_
  obtain ⟨r1, w2, hq3, hm⟩ := ob2_some hm
  refine rk_TV (pc := 4) (As := [.int i4, .int i1]) (rest := []) (mc := 0) (ms := 0) hx hb hml hown hts hK hS (fun q hq => FA_sz rfl q hq) lkX0_608 rfl yn_X0_counts (ct_X0_counts (G := G) (l := l) (b0 := b0) (sz := H.size) hq3) ⟨Nat.le_of_ble_eq_true rfl, Nat.le_of_ble_eq_true rfl⟩ (fun z h => Or.inl (show iv _ _ _ from ⟨by have h8 := h.1; have h9 := h.2; omega, by have h8 := h.1; have h9 := h.2; omega⟩)) (rk_recv hK hW0 0 (by decide) rfl rfl rfl) hW0 rfl rfl hl.1 (Nat.le_of_ble_eq_true rfl) dX0_lambda_many_4_4 ⟨Nat.zero_le _, Nat.zero_le _⟩ (fun ov9 H4 locs5 hP6 hkp7 hS8 => ?_)
  obtain ⟨rfl, hW9, hz10⟩ := hP6
  have hz11 := hz10.trans hz
  refine W.eq (g2 := F0 m 7 ls [.int r1]) rfl ?_
  obtain ⟨hg12, hm⟩ := gb_some hm
  obtain ⟨e8, e9⟩ := rs2 hm
  subst e8
  subst e9
  exact rk_zret (pc := 7) hx hb hr hlk hg12 hS8 ⟨rfl, hW9, hz11⟩ dX0_lambda_many_4_7
set_option maxHeartbeats 4000000 in
theorem ct_X0_lambda_many_4 {G : Gv} {l : Launch} {b0 : Nat} {v0 : Mem} {i1 : Int32} {i2 : Int32} {i3 : Int32} {i4 : Int32} {rx : Int32} {rw0 : Mem} {sz : Nat} (hm : fX0_lambda_many_4 v0 i1 i2 i3 i4 = some (rx, rw0)) : CT G l yX0_lambda_many_4 (ws_ yX0_lambda_many_4 cX0_lambda_many_4 5 (some .boolean)) 1 0 0 22 [.ref b0, .int i1, .int i2, .int i3, .int i4] (iv b0 357) sz (fun H => rg G b0 357 (shX0 G.2.1) v0 H) (fun ov H => ov = (some (.int rx)) ∧ rg G b0 357 (shX0 G.2.1) rw0 H ∧ H.size = sz) := by
  refine Met.ofW (cc := cX0_lambda_many_4) (maxL := 5) (ret := (some .boolean)) (by decide +kernel) rfl ?_
  intro p e s m args below meth c s₁ B hml hv
  obtain ⟨rfl, ⟨hz, hW0⟩, hK⟩ := hv
  subst hz
  have hts := atoms_spec (ws := ws_ yX0_lambda_many_4 cX0_lambda_many_4 5 (some .boolean)) B.pre
  have hts : ∀ w ∈ lw_all, w.before _ s = true := fun w h => hts w (List.mem_cons_of_mem _ h)
  have C : Cx G p s m _ meth c RX0 cX0_lambda_many_4 5 (some .boolean) := ⟨B.exec, B.bytes, B.returns, B.notSynchronized, hml, findClass_of_methodNamed B.named, hts, hK⟩
  have hl := lv_entry ([.ref b0, .int i1, .int i2, .int i3, .int i4]) (n := 5) (Nat.le_of_ble_eq_true rfl)
  rw [lg_entry_eq]
  generalize (lg_sl ([.ref b0, .int i1, .int i2, .int i3, .int i4]) ++ List.replicate (5 - (lg_sl ([.ref b0, .int i1, .int i2, .int i3, .int i4])).length) Slot.unset).toArray = ls at hl ⊢
  have hl : lv_has ls 5 [(0, .ref b0), (1, .int i1), (2, .int i2), (3, .int i3), (4, .int i4)] := hl
  exact w_fX0_lambda_many_4 C _ _ _ _ _ hm s.heap [] ls hW0 va_S.rf rfl hl
end
