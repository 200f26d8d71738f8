set_option maxRecDepth 100000
section
variable {p : Program} {l : Launch} {e : Env} {s : State} {m : MethodId} {args : Array Value} {below : List Frame} {meth : Method} {c : Code} {G : Gv}
theorem ft_X11 : FT TX11 4 tyX11 := ⟨tyX11_ok, nmX11⟩
theorem flX11_22 : FL RX11 22 11 2 RX11 TX11 4 := ⟨in_X11, rfl, by decide, q647⟩
theorem flX11_3 : FL RX11 3 11 3 RX11 TX11 4 := ⟨in_X11, rfl, by decide, q648⟩
theorem fnX11_26 : FN RX11 26 0 12 RX0 TX0 25 "WholePacks" := ⟨in_X0, rfl, by decide, q509⟩
theorem fnX11_29 : FN RX11 29 0 11 RX0 TX0 25 "WholePacks" := ⟨in_X0, rfl, by decide, q508⟩
noncomputable def fX11_here (V0 : Mem) (V1 : Mem) : Option (Int32) :=
  if (gI V1 0 12) ≤ (gI V0 0 2) then (
  some (-1 : Int32))
  else (
  gb (inR (gI V0 0 2) 80) (
  some (gI V1 157 (gI V0 0 2).toNatClampNeg)))
set_option maxHeartbeats 4000000 in
theorem w_fX11_here (C : Cx G p s m args meth c RX11 cX11_here 1 (some .int)) {b0 : Nat} {b1 : Nat} {V0 : Mem} {V1 : Mem} {rx : Int32} (hW0 : rg G b0 10 (shX11 b1 G.2.1) V0 s.heap) (hW1 : rg G b1 357 (shX0 G.2.1) V1 s.heap) : fX11_here V0 V1 = some rx → ∀ (ls : Array Slot), lv_has ls 1 [(0, .ref b0)] → W p l e (rmP 0 0) s m args below meth c s.heap [] 0 0 (MQ below (QcP (some (.int rx))) args s 0 0 (fun _ => False)) (F0 m 0 ls []) := by
  intro hm ls hl
  obtain ⟨hx, hb, hr, hlk, hml, hown, hts, hK⟩ := id C
  unfold fX11_here at hm
  refine lv_aload_n (pc := 0) hx hb dX11_here_0 rfl (lv_at hl 0 rfl) ?_
  refine rk_get (pc := 1) hx hb hts hown hK hW0 flX11_22 0 (by decide) rfl rfl (x := .int (gI V0 0 2)) rfl dX11_here_1 ?_
  refine lv_aload_n (pc := 4) hx hb dX11_here_4 rfl (lv_at hl 0 rfl) ?_
  refine rk_get (pc := 5) hx hb hts hown hK hW0 flX11_3 0 (by decide) rfl rfl (x := .ref b1) (by first | rfl | exact congrArg (fun z => some (Value.ref z)) (by omega)) dX11_here_5 ?_
  refine rk_getN (pc := 8) hx hb hts hown hK hW1 fnX11_26 0 (by decide) rfl rfl (x := .int (gI V1 0 12)) rfl dX11_here_8 ?_
  refine lv_icmp_ge (pc := 11) (tgt := 29) hx hb dX11_here_11 (by decide) (fun c1 => ?_) (fun c1 => ?_)
  · have hm := ite_t c1 hm
    refine lv_iconst (pc := 29) (v := (-1 : Int32)) hx hb dX11_here_29 (by decide) ?_
    have e9 := rs1 hm
    subst e9
    exact rk_iretP (pc := 30) hx hb hr hlk rfl dX11_here_30
  · have hm := ite_f c1 hm
    refine lv_aload_n (pc := 14) hx hb dX11_here_14 rfl (lv_at hl 0 rfl) ?_
    refine rk_get (pc := 15) hx hb hts hown hK hW0 flX11_3 0 (by decide) rfl rfl (x := .ref b1) (by first | rfl | exact congrArg (fun z => some (Value.ref z)) (by omega)) dX11_here_15 ?_
    refine rk_getN (pc := 18) hx hb hts hown hK hW1 fnX11_29 0 (by decide) rfl rfl (x := .ref (b1 + 157)) (by first | rfl | exact congrArg (fun z => some (Value.ref z)) (by omega)) dX11_here_18 ?_
    refine lv_aload_n (pc := 21) hx hb dX11_here_21 rfl (lv_at hl 0 rfl) ?_
    refine rk_get (pc := 22) hx hb hts hown hK hW0 flX11_22 0 (by decide) rfl rfl (x := .int (gI V0 0 2)) rfl dX11_here_22 ?_
    obtain ⟨hg2, hm⟩ := gb_some hm
    refine rk_bald (pc := 25) hx hb hK hW1 157 (by decide) rfl rfl hg2 (x := (gI V1 157 (gI V0 0 2).toNatClampNeg)) rfl dX11_here_25 ?_
    refine lv_goto (pc := 26) (tgt := 30) hx hb dX11_here_26 (by decide) ?_
    have e9 := rs1 hm
    subst e9
    exact rk_iretP (pc := 30) hx hb hr hlk rfl dX11_here_30
set_option maxHeartbeats 4000000 in
theorem ct_X11_here {G : Gv} {l : Launch} {b0 : Nat} {b1 : Nat} {V0 : Mem} {V1 : Mem} {rx : Int32} (hm : fX11_here V0 V1  = some rx) : CP G l yX11_here (ws_ yX11_here cX11_here 1 (some .int)) 0 0 [.ref b0] (fun H => rg G b0 10 (shX11 b1 G.2.1) V0 H ∧ rg G b1 357 (shX0 G.2.1) V1 H) (some (.int rx)) := by
  refine Met.ofW (cc := cX11_here) (maxL := 1) (ret := (some .int)) (by decide +kernel) rfl ?_
  intro p e s m args below meth c s₁ B hml hv
  obtain ⟨rfl, ⟨hW0, hW1⟩, hK⟩ := hv
  have hts := atoms_spec (ws := ws_ yX11_here cX11_here 1 (some .int)) B.pre
  have hts : ∀ w ∈ lw_all, w.before _ s = true := fun w h => hts w (List.mem_cons_of_mem _ h)
  have C : Cx G p s m _ meth c RX11 cX11_here 1 (some .int) := ⟨B.exec, B.bytes, B.returns, B.notSynchronized, hml, findClass_of_methodNamed B.named, hts, hK⟩
  have hl := lv_entry ([.ref b0]) (n := 1) (Nat.le_of_ble_eq_true rfl)
  rw [lg_entry_eq]
  generalize (lg_sl ([.ref b0]) ++ List.replicate (1 - (lg_sl ([.ref b0])).length) Slot.unset).toArray = ls at hl ⊢
  have hl : lv_has ls 1 [(0, .ref b0)] := hl
  exact w_fX11_here C hW0 hW1  hm ls hl
theorem yn_X11_here : YN yX11_here 0 := by
  unfold YN
  decide +kernel
theorem lkX11_33 : LV RX11 33 RX11 yX11_here cX11_here 1 (some .int) := ⟨q671, q673, qs6, q130, q674⟩
noncomputable def fX11_is (V1 : Mem) (v0 : Mem) (i1 : Int32) : Option (Int32 × Mem) :=
  ob (fX11_here v0 V1) fun r1 =>
  if r1 = i1 then (
  lm (sI v0 0 2 ((gI v0 0 2) + (1 : Int32))) fun v0_4 =>
  some ((1 : Int32), v0_4))
  else (
  some ((0 : Int32), v0))
set_option maxHeartbeats 4000000 in
theorem w_fX11_is (C : Cx G p s m args meth c RX11 cX11_is 2 (some .boolean)) {b0 : Nat} {b1 : Nat} {V1 : Mem} {rx : Int32} {rw0 : Mem} (hd01 : b0 + 10 ≤ b1 ∨ b1 + 357 ≤ b0) : ∀ (v0 : Mem) (i1 : Int32), fX11_is V1 v0 i1 = some (rx, rw0) → ∀ (H : Heap) (locs : List Loc) (ls : Array Slot), rg G b0 10 (shX11 b1 G.2.1) v0 H → rg G b1 357 (shX0 G.2.1) V1 H → va_S (FA (iv b0 10) s.heap.size) s.heap H locs → H.size = s.heap.size → lv_has ls 2 [(0, .ref b0), (1, .int i1)] → W p l e (rmT 1 0 0 20) s m args below meth c H locs 0 0 (MQ below (QcT (FA (iv b0 10) s.heap.size) (fun ov H => ov = (some (.int rx)) ∧ rg G b0 10 (shX11 b1 G.2.1) rw0 H ∧ H.size = s.heap.size)) args s 0 0 (FA (iv b0 10) s.heap.size)) (F0 m 0 ls []) := by
  intro v0 i1 hm H locs ls hW0 hW1 hS hz hl
  obtain ⟨hx, hb, hr, hlk, hml, hown, hts, hK⟩ := id C
  unfold fX11_is at hm
  refine lv_aload_n (pc := 0) hx hb dX11_is_0 rfl (lv_at hl 0 rfl) ?_
  obtain ⟨r1, hq2, hm⟩ := ob_some hm
  refine rk_PV (pc := 1) (As := []) (rest := []) hx hb hml hown hts hK lkX11_33 rfl yn_X11_here (ct_X11_here (G := G) (l := l) (b0 := b0) (b1 := b1) hq2) ⟨Nat.le_of_ble_eq_true rfl, Nat.le_of_ble_eq_true rfl⟩ (rk_recv hK hW0 0 (by decide) rfl rfl rfl) ⟨hW0, hW1⟩ rfl rfl hl.1 (Nat.le_of_ble_eq_true rfl) dX11_is_1 ⟨Nat.zero_le _, Nat.zero_le _⟩ ?_
  refine W.eq (g2 := F0 m 4 ls [.int r1]) rfl ?_
  refine lv_iload_n (pc := 4) hx hb dX11_is_4 rfl (lv_at hl 1 rfl) ?_
  refine lv_icmp_eq (pc := 5) (tgt := 10) hx hb dX11_is_5 (by decide) (fun c3 => ?_) (fun c3 => ?_)
  · have hm := ite_t c3 hm
    refine lv_aload_n (pc := 10) hx hb dX11_is_10 rfl (lv_at hl 0 rfl) ?_
    refine lv_dup (pc := 11) hx hb dX11_is_11 rfl ?_
    refine rk_get (pc := 12) hx hb hts hown hK hW0 flX11_22 0 (by decide) rfl rfl (x := .int (gI v0 0 2)) rfl dX11_is_12 ?_
    refine lv_iconst (pc := 15) (v := (1 : Int32)) hx hb dX11_is_15 (by decide) ?_
    refine lv_iadd (pc := 16) hx hb dX11_is_16 ?_
    refine rk_put (pc := 17) hx hb hts hown hK hW0 hS flX11_22 ft_X11 0 (by decide) rfl (Or.inl (show iv _ _ _ from ⟨by omega, by omega⟩)) rfl rfl (x := .int ((gI v0 0 2) + (1 : Int32))) rfl rfl (Nat.le_of_ble_eq_true rfl) (sI v0 0 2 ((gI v0 0 2) + (1 : Int32))) sI_ne (by rw [sI_eq]; exact rfl) dX11_is_17 (fun H5 locs6 hW7 hS8 hz9 hkp10 => ?_)
    obtain ⟨v0_4, he9, hm⟩ := lm_some hm
    rw [he9] at hW7
    have hW11 := rg_keepq hW1 hkp10 (by omega)
    have hz12 := hz9.trans hz
    refine lv_iconst (pc := 20) (v := (1 : Int32)) hx hb dX11_is_20 (by decide) ?_
    obtain ⟨e8, e9⟩ := rs2 hm
    subst e8
    subst e9
    exact rk_zret (pc := 21) hx hb hr hlk rfl hS8 ⟨rfl, hW7, hz12⟩ dX11_is_21
  · have hm := ite_f c3 hm
    refine lv_iconst (pc := 8) (v := (0 : Int32)) hx hb dX11_is_8 (by decide) ?_
    obtain ⟨e8, e9⟩ := rs2 hm
    subst e8
    subst e9
    exact rk_zret (pc := 9) hx hb hr hlk rfl hS ⟨rfl, hW0, hz⟩ dX11_is_9
set_option maxHeartbeats 4000000 in
theorem ct_X11_is {G : Gv} {l : Launch} {b0 : Nat} {b1 : Nat} {V1 : Mem} {v0 : Mem} {i1 : Int32} {rx : Int32} {rw0 : Mem} {sz : Nat} (hm : fX11_is V1 v0 i1 = some (rx, rw0)) (hd01 : b0 + 10 ≤ b1 ∨ b1 + 357 ≤ b0) : CT G l yX11_is (ws_ yX11_is cX11_is 2 (some .boolean)) 1 0 0 20 [.ref b0, .int i1] (iv b0 10) sz (fun H => rg G b0 10 (shX11 b1 G.2.1) v0 H ∧ rg G b1 357 (shX0 G.2.1) V1 H) (fun ov H => ov = (some (.int rx)) ∧ rg G b0 10 (shX11 b1 G.2.1) rw0 H ∧ H.size = sz) := by
  refine Met.ofW (cc := cX11_is) (maxL := 2) (ret := (some .boolean)) (by decide +kernel) rfl ?_
  intro p e s m args below meth c s₁ B hml hv
  obtain ⟨rfl, ⟨hz, hW0, hW1⟩, hK⟩ := hv
  subst hz
  have hts := atoms_spec (ws := ws_ yX11_is cX11_is 2 (some .boolean)) B.pre
  have hts : ∀ w ∈ lw_all, w.before _ s = true := fun w h => hts w (List.mem_cons_of_mem _ h)
  have C : Cx G p s m _ meth c RX11 cX11_is 2 (some .boolean) := ⟨B.exec, B.bytes, B.returns, B.notSynchronized, hml, findClass_of_methodNamed B.named, hts, hK⟩
  have hl := lv_entry ([.ref b0, .int i1]) (n := 2) (Nat.le_of_ble_eq_true rfl)
  rw [lg_entry_eq]
  generalize (lg_sl ([.ref b0, .int i1]) ++ List.replicate (2 - (lg_sl ([.ref b0, .int i1])).length) Slot.unset).toArray = ls at hl ⊢
  have hl : lv_has ls 2 [(0, .ref b0), (1, .int i1)] := hl
  exact w_fX11_is C hd01 _ _ hm s.heap [] ls hW0 hW1 va_S.rf rfl hl
theorem lkX11_41 : LSN RX11 41 yX0_in "WholePacks" cX0_in 6 (some .boolean) := ⟨q681, q431, q114, q432⟩
theorem fnX11_45 : FN RX11 45 0 0 RX0 TX0 25 "WholePacks" := ⟨in_X0, rfl, by decide, q496⟩
theorem lkX11_49 : LV RX11 49 RX1 yX1_hasPack cX1_hasPack 2 (some .boolean) := ⟨q682, q437, q438, q115, q439⟩
theorem fnX11_60 : FN RX11 60 2 2 RX2 TX2 3 "WholePacks" := ⟨in_X2, rfl, by decide, q181⟩
theorem df_X12 (fs : List Value) (h : fs = [.null, .null, .null, .null, .null, .int 0, .int 0]) : ∀ j, j < 7 → defaultValue (tyX12 j) = vp_V fs j := by
  subst h
  intro j hj
  match j, hj with
  | 0, _ => rfl
  | 1, _ => rfl
  | 2, _ => rfl
  | 3, _ => rfl
  | 4, _ => rfl
  | 5, _ => rfl
  | 6, _ => rfl
  | n + 7, h => exact absurd h (by omega)
theorem lkX11_57 : LI RX11 57 yX12_init cX12_init 2 := ⟨q724, q725, q133, q726, rfl⟩
theorem yn_X12_init : YN yX12_init 1 := by
  unfold YN
  decide +kernel
noncomputable def fX11_term_37 (V1 : Mem) (n1 : Nat) (v0 : Mem) (zc : Nat) (i2 : Int32) (i3 : Int32) : Option (Bool × Int32 × Nat × Mem) :=
  ob (fX11_here v0 V1) fun r18 =>
  ob (fX1_hasPack (shf V1 1) (r18 - (97 : Int32))) fun r20 =>
  if r20 = 0 then (
  some (false, (gI v0 0 2), (zc + 1), v0))
  else (
  gb (inR (r18 - (97 : Int32)) 5) (
  gb (inR (r18 - (97 : Int32)) 5) (
  lm (sI v0 (2 + 2 * n1 + 1) (r18 - (97 : Int32)).toNatClampNeg ((gI v0 (2 + 2 * n1 + 1) (r18 - (97 : Int32)).toNatClampNeg) + (i2 * i3))) fun v0_25 =>
  gb (inR (r18 - (97 : Int32)) 5) (
  ob (fX0_in (gI v0_25 (2 + 2 * n1 + 1) (r18 - (97 : Int32)).toNatClampNeg).toInt64 (-9 : Int64) (9 : Int64)) fun r36 =>
  if r36 = 0 then (
  some (false, (gI v0_25 0 2), (zc + 1), v0_25))
  else (
  lm (sI v0_25 0 2 ((gI v0_25 0 2) + (1 : Int32))) fun v0_39 =>
  some (true, (0 : Int32), zc, v0_39))))))
noncomputable def fX11_term (V1 : Mem) (n1 : Nat) (v0 : Mem) (i2 : Int32) : Option (Bool × Int32 × Nat × Mem) :=
  ob (fX11_here v0 V1) fun r1 =>
  ob (fX0_in r1.toInt64 (48 : Int64) (57 : Int64)) fun r3 =>
  if r3 = 0 then (
  fX11_term_37 V1 n1 v0 0 i2 (1 : Int32))
  else (
  ob (fX11_here v0 V1) fun r6 =>
  lm (sI v0 0 2 ((gI v0 0 2) + (1 : Int32))) fun v0_8 =>
  fX11_term_37 V1 n1 v0_8 0 i2 (r6 - (48 : Int32)))
set_option maxHeartbeats 4000000 in
theorem w_fX11_term_37 (C : Cx G p s m args meth c RX11 cX11_term 5 none) {b0 : Nat} {b1 : Nat} {V1 : Mem} {n1 : Nat} {rok : Bool} {re : Int32} {rc : Nat} {rw0 : Mem} (hd01 : b0 + 10 ≤ b1 ∨ b1 + 357 ≤ b0) (hn1 : n1 < 4) (he0 : b0 + 10 ≤ s.heap.size) (he1 : b1 + 357 ≤ s.heap.size) (hZ : ZQ G) (hgb0 : gB G ≤ b0) (hgb1 : gB G ≤ b1) (ht : ∀ x ∈ c.exceptionTable.toList, False) : ∀ (v0 : Mem) (zc : Nat) (i2 : Int32) (i3 : Int32), fX11_term_37 V1 n1 v0 zc i2 i3 = some (rok, re, rc, rw0) → ∀ (H : Heap) (locs : List Loc) (ls : Array Slot), rg G b0 10 (shX11 b1 G.2.1) v0 H → rg G b1 357 (shX0 G.2.1) V1 H → va_S (FA (iv b0 10) s.heap.size) s.heap H locs → H.size = s.heap.size + zc → GO G H → lv_has ls 5 [(0, .ref b0), (1, .ref (b0 + (2 + 2 * n1 + 0))), (2, .int i2), (3, .int i3)] → W p l e (rmT 4 (bif rok then 0 else 1) (bif rok then 0 else 7) 81) s m args below meth c H locs 0 0 (vx_MQ below (QcX rok (FA (iv b0 10) s.heap.size) (fun ov H => ov = none ∧ rg G b0 10 (shX11 b1 G.2.1) rw0 H ∧ H.size = s.heap.size + rc)) (XcX rok (FA (iv b0 10) s.heap.size) (fun q E H => E = "WholePacks$Fault" ∧ s.heap.size ≤ q ∧ (∃ wx, rg G q 1 (shX12 G.2.1) wx H ∧ gI wx 0 6 = re) ∧ rg G b0 10 (shX11 b1 G.2.1) rw0 H ∧ H.size = s.heap.size + rc)) args s (bif rok then 0 else 1) (bif rok then 0 else 7) (FA (iv b0 10) s.heap.size)) (F0 m 37 ls []) := by
  intro v0 zc i2 i3 hm H locs ls hW0 hW1 hS hz hG hl
  obtain ⟨hx, hb, hr, hlk, hml, hown, hts, hK⟩ := id C
  unfold fX11_term_37 at hm
  refine lv_aload_n (pc := 37) hx hb dX11_term_37 rfl (lv_at hl 0 rfl) ?_
  obtain ⟨r18, hq19, hm⟩ := ob_some hm
  refine rk_PV (pc := 38) (As := []) (rest := []) hx hb hml hown hts hK lkX11_33 rfl yn_X11_here (ct_X11_here (G := G) (l := l) (b0 := b0) (b1 := b1) hq19) ⟨Nat.le_of_ble_eq_true rfl, Nat.le_of_ble_eq_true rfl⟩ (rk_recv hK hW0 0 (by decide) rfl rfl rfl) ⟨hW0, hW1⟩ rfl rfl hl.1 (Nat.le_of_ble_eq_true rfl) dX11_term_38 ⟨Nat.zero_le _, Nat.zero_le _⟩ ?_
  refine W.eq (g2 := F0 m 41 ls [.int r18]) rfl ?_
  refine lv_bipush (pc := 41) (v := (97 : Int32)) hx hb dX11_term_41 (by decide) ?_
  refine lv_isub (pc := 43) hx hb dX11_term_43 ?_
  refine lv_istore (pc := 44) (lv' := [(4, .int (r18 - (97 : Int32))), (0, .ref b0), (1, .ref (b0 + (2 + 2 * n1 + 0))), (2, .int i2), (3, .int i3)]) hx hb dX11_term_44 hl (by decide) rfl (fun ls hl => ?_)
  refine lv_aload_n (pc := 46) hx hb dX11_term_46 rfl (lv_at hl 1 rfl) ?_
  refine rk_get (pc := 47) hx hb hts hown hK hW0 flX11_3 0 (by decide) rfl rfl (x := .ref b1) (by first | rfl | exact congrArg (fun z => some (Value.ref z)) (by omega)) dX11_term_47 ?_
  refine rk_getN (pc := 50) hx hb hts hown hK hW1 fnX11_45 0 (by decide) rfl rfl (x := .ref (b1 + 1)) (by first | rfl | exact congrArg (fun z => some (Value.ref z)) (by omega)) dX11_term_50 ?_
  refine lv_iload (pc := 53) hx hb dX11_term_53 (lv_at hl 0 rfl) ?_
  obtain ⟨r20, hq21, hm⟩ := ob_some hm
  refine rk_PV (pc := 55) (As := [.int (r18 - (97 : Int32))]) (rest := []) hx hb hml hown hts hK lkX11_49 rfl yn_X1_hasPack (ct_X1_hasPack (G := G) (l := l) (b0 := (b1 + 1)) hq21) ⟨Nat.le_of_ble_eq_true rfl, Nat.le_of_ble_eq_true rfl⟩ (rk_recv hK hW1 1 (by decide) rfl rfl rfl) (rg_sub hW1 rfl (by decide) (fun o ho x y z => shX0_n1 G.2.1 _ rfl o ho x y z)) rfl rfl hl.1 (Nat.le_of_ble_eq_true rfl) dX11_term_55 ⟨Nat.zero_le _, Nat.zero_le _⟩ ?_
  refine W.eq (g2 := F0 m 58 ls [.int r20]) rfl ?_
  refine lv_if_ne (pc := 58) (tgt := 73) hx hb dX11_term_58 (by decide) (fun c22 => ?_) (fun c22 => ?_)
  · have hm := ite_f c22 hm
    refine lv_aload_n (pc := 73) hx hb dX11_term_73 rfl (lv_at hl 2 rfl) ?_
    refine rk_getN (pc := 74) hx hb hts hown hK hW0 fnX11_60 (2 + 2 * n1 + 0) (by omega) rfl ((shX11_f2 G.2.1 hn1 _ rfl 0 (by decide) _ _ _).trans rfl) (x := .ref (b0 + (2 + 2 * n1 + 1))) (by first | rfl | exact congrArg (fun z => some (Value.ref z)) (by omega)) dX11_term_74 ?_
    refine lv_iload (pc := 77) hx hb dX11_term_77 (lv_at hl 0 rfl) ?_
    refine lv_dup2_11 (pc := 79) hx hb dX11_term_79 rfl rfl ?_
    obtain ⟨hg23, hm⟩ := gb_some hm
    refine rk_iald (pc := 80) hx hb hK hW0 (2 + 2 * n1 + 1) (by omega) rfl ((shX11_f2 G.2.1 hn1 _ rfl 1 (by decide) _ _ _).trans rfl) hg23 (x := (gI v0 (2 + 2 * n1 + 1) (r18 - (97 : Int32)).toNatClampNeg)) rfl dX11_term_80 ?_
    refine lv_iload_n (pc := 81) hx hb dX11_term_81 rfl (lv_at hl 3 rfl) ?_
    refine lv_iload_n (pc := 82) hx hb dX11_term_82 rfl (lv_at hl 4 rfl) ?_
    refine lv_imul (pc := 83) hx hb dX11_term_83 ?_
    refine lv_iadd (pc := 84) hx hb dX11_term_84 ?_
    obtain ⟨hg24, hm⟩ := gb_some hm
    refine rk_iast (pc := 85) hx hb hK hW0 hS (2 + 2 * n1 + 1) (by omega) rfl (Or.inl (show iv _ _ _ from ⟨by omega, by omega⟩)) (fun _ _ _ => ((shX11_f2 G.2.1 hn1 _ rfl 1 (by decide) _ _ _).trans rfl)) hg24 dX11_term_85 (fun H26 locs27 hW28 hS29 hz30 hkp31 => ?_)
    obtain ⟨v0_25, he9, hm⟩ := lm_some hm
    rw [he9] at hW28
    have hW32 := rg_keepq hW1 hkp31 (by omega)
    have hz33 := hz30.trans hz
    have hG34 := GO_keepq hG hkp31 (by omega)
    refine lv_aload_n (pc := 86) hx hb dX11_term_86 rfl (lv_at hl 2 rfl) ?_
    refine rk_getN (pc := 87) hx hb hts hown hK hW28 fnX11_60 (2 + 2 * n1 + 0) (by omega) rfl ((shX11_f2 G.2.1 hn1 _ rfl 0 (by decide) _ _ _).trans rfl) (x := .ref (b0 + (2 + 2 * n1 + 1))) (by first | rfl | exact congrArg (fun z => some (Value.ref z)) (by omega)) dX11_term_87 ?_
    refine lv_iload (pc := 90) hx hb dX11_term_90 (lv_at hl 0 rfl) ?_
    obtain ⟨hg35, hm⟩ := gb_some hm
    refine rk_iald (pc := 92) hx hb hK hW28 (2 + 2 * n1 + 1) (by omega) rfl ((shX11_f2 G.2.1 hn1 _ rfl 1 (by decide) _ _ _).trans rfl) hg35 (x := (gI v0_25 (2 + 2 * n1 + 1) (r18 - (97 : Int32)).toNatClampNeg)) rfl dX11_term_92 ?_
    refine lv_i2l (pc := 93) hx hb dX11_term_93 rfl ?_
    refine lv_ldc2 (pc := 94) (v := (-9 : Int64)) hx hb hown (hts _ q750) dX11_term_94 ?_
    refine lv_ldc2 (pc := 97) (v := (9 : Int64)) hx hb hown (hts _ q751) dX11_term_97 ?_
    obtain ⟨r36, hq37, hm⟩ := ob_some hm
    refine rk_PSN (pc := 100) (As := [.long (gI v0_25 (2 + 2 * n1 + 1) (r18 - (97 : Int32)).toNatClampNeg).toInt64, .long (-9 : Int64), .long (9 : Int64)]) (rest := []) hx hb hml hown hts hK lkX11_41 yn_X0_in (ct_X0_in (G := G) (l := l) hq37) ⟨Nat.le_of_ble_eq_true rfl, Nat.le_of_ble_eq_true rfl⟩ trivial rfl rfl hl.1 (Nat.le_of_ble_eq_true rfl) dX11_term_100 ⟨Nat.zero_le _, Nat.zero_le _⟩ ?_
    refine W.eq (g2 := F0 m 103 ls [.int r36]) rfl ?_
    refine lv_if_ne (pc := 103) (tgt := 118) hx hb dX11_term_103 (by decide) (fun c38 => ?_) (fun c38 => ?_)
    · have hm := ite_f c38 hm
      refine lv_aload_n (pc := 118) hx hb dX11_term_118 rfl (lv_at hl 1 rfl) ?_
      refine lv_dup (pc := 119) hx hb dX11_term_119 rfl ?_
      refine rk_get (pc := 120) hx hb hts hown hK hW28 flX11_22 0 (by decide) rfl rfl (x := .int (gI v0_25 0 2)) rfl dX11_term_120 ?_
      refine lv_iconst (pc := 123) (v := (1 : Int32)) hx hb dX11_term_123 (by decide) ?_
      refine lv_iadd (pc := 124) hx hb dX11_term_124 ?_
      refine rk_put (pc := 125) hx hb hts hown hK hW28 hS29 flX11_22 ft_X11 0 (by decide) rfl (Or.inl (show iv _ _ _ from ⟨by omega, by omega⟩)) rfl rfl (x := .int ((gI v0_25 0 2) + (1 : Int32))) rfl rfl (Nat.le_of_ble_eq_true rfl) (sI v0_25 0 2 ((gI v0_25 0 2) + (1 : Int32))) sI_ne (by rw [sI_eq]; exact rfl) dX11_term_125 (fun H40 locs41 hW42 hS43 hz44 hkp45 => ?_)
      obtain ⟨v0_39, he9, hm⟩ := lm_some hm
      rw [he9] at hW42
      have hW46 := rg_keepq hW32 hkp45 (by omega)
      have hz47 := hz44.trans hz33
      have hG48 := GO_keepq hG34 hkp45 (by omega)
      obtain ⟨e6, e7, e8, e9⟩ := rs4 hm
      cases e6
      subst e7
      subst e8
      subst e9
      exact rk_vretX (pc := 128) hx hb hr hlk hS43 ⟨rfl, hW42, hz47⟩ dX11_term_128 (by exact Nat.le_of_ble_eq_true rfl) (by exact Nat.le_of_ble_eq_true rfl)
    · have hm := ite_t c38 hm
      obtain ⟨h49, hh49⟩ : ∃ h, H26.size = h := ⟨_, rfl⟩
      have hqh49 : s.heap.size ≤ h49 := Nat.le_trans hS29.1 (Nat.le_of_eq hh49)
      have hok9 : false = rok := (by exact (rs4 hm).1)
      subst hok9
      refine rk_new (pc := 106) (h := h49) (sh := (shX12 G.2.1)) hx hb hts hown hK hS29 in_X12 ft_X12 rfl q683 q684 q133 hh49 rfl (df_X12 _ rfl) (Nat.le_of_ble_eq_true rfl) (Nat.le_of_ble_eq_true rfl) dX11_term_106 (fun H50 hW52 hS53 hz54 hkp55 => ?_)
      have hW56 := rg_keepN hW28 hh49 hkp55
      have hW57 := rg_keepN hW32 hh49 hkp55
      have hz58 : H50.size = s.heap.size + (zc + 1) := by omega
      have hG59 := GO_keepN hG34 (by omega) hkp55
      refine lv_dup (pc := 109) hx hb dX11_term_109 rfl ?_
      refine lv_aload_n (pc := 110) hx hb dX11_term_110 rfl (lv_at hl 1 rfl) ?_
      refine rk_get (pc := 111) hx hb hts hown hK hW56 flX11_22 0 (by decide) rfl rfl (x := .int (gI v0_25 0 2)) rfl dX11_term_111 ?_
      refine rk_TI (pc := 114) (As := [.int (gI v0_25 0 2)]) (rest := [.ref h49]) (mc := 0) (ms := 0) hx hb hml hown hts hK hS53 (fun q hq => FA_sz rfl q hq) lkX11_57 yn_X12_init (ct_X12_init (G := G) (l := l) (b0 := h49) (v0 := mz) (i1 := (gI v0_25 0 2)) (sz := H50.size) hZ (by omega)) ⟨Nat.le_of_ble_eq_true rfl, Nat.le_of_ble_eq_true rfl⟩ (fun z h9 => Or.inr (show s.heap.size ≤ z by have := h9.1; omega)) ⟨hW52, hG59⟩ rfl rfl hl.1 (Nat.le_of_ble_eq_true rfl) dX11_term_114 ⟨Nat.le_of_ble_eq_true rfl, Nat.le_of_ble_eq_true rfl⟩ (fun ov9 H60 locs61 hP62 hkp63 hS64 => ?_)
      obtain ⟨rfl, ⟨wx65, hW66, hre67⟩, hz68⟩ := hP62
      have hW69 := rg_keepA hW56 hkp63 (by intro z h1 h2 h3; have h8 := h3.1; have h9 := h3.2; omega)
      have hW70 := rg_keepA hW57 hkp63 (by intro z h1 h2 h3; have h8 := h3.1; have h9 := h3.2; omega)
      have hG71 := GO_keepA hG59 hkp63 (Nat.le_trans (show gB G ≤ s.heap.size by omega) hS53.1) (by intro z h3; have h8 := h3.1; have h9 := h3.2; omega)
      have hz72 := hz68.trans hz58
      refine W.eq (g2 := F0 m 117 ls [.ref h49]) rfl ?_
      refine vx_athrow (pc := 117) hx hb dX11_term_117 ?_
      obtain ⟨ce8, hce8, hcv8, hcl8⟩ := rk_exc hK hW66 rfl rfl
      obtain ⟨e6, e7, e8, e9⟩ := rs4 hm
      cases e6
      subst e7
      subst e8
      subst e9
      exact rk_xout (fun x h => (ht x h).elim) hlk hS64 hce8 hcv8 hcl8 ⟨rfl, hqh49, ⟨_, hW66, hre67⟩, hW69, hz72⟩ (by exact Nat.le_of_ble_eq_true rfl) (by exact Nat.le_of_ble_eq_true rfl)
  · have hm := ite_t c22 hm
    obtain ⟨h73, hh73⟩ : ∃ h, H.size = h := ⟨_, rfl⟩
    have hqh73 : s.heap.size ≤ h73 := Nat.le_trans hS.1 (Nat.le_of_eq hh73)
    have hok9 : false = rok := (by exact (rs4 hm).1)
    subst hok9
    refine rk_new (pc := 61) (h := h73) (sh := (shX12 G.2.1)) hx hb hts hown hK hS in_X12 ft_X12 rfl q683 q684 q133 hh73 rfl (df_X12 _ rfl) (Nat.le_of_ble_eq_true rfl) (Nat.le_of_ble_eq_true rfl) dX11_term_61 (fun H74 hW76 hS77 hz78 hkp79 => ?_)
    have hW80 := rg_keepN hW0 hh73 hkp79
    have hW81 := rg_keepN hW1 hh73 hkp79
    have hz82 : H74.size = s.heap.size + (zc + 1) := by omega
    have hG83 := GO_keepN hG (by omega) hkp79
    refine lv_dup (pc := 64) hx hb dX11_term_64 rfl ?_
    refine lv_aload_n (pc := 65) hx hb dX11_term_65 rfl (lv_at hl 1 rfl) ?_
    refine rk_get (pc := 66) hx hb hts hown hK hW80 flX11_22 0 (by decide) rfl rfl (x := .int (gI v0 0 2)) rfl dX11_term_66 ?_
    refine rk_TI (pc := 69) (As := [.int (gI v0 0 2)]) (rest := [.ref h73]) (mc := 0) (ms := 0) hx hb hml hown hts hK hS77 (fun q hq => FA_sz rfl q hq) lkX11_57 yn_X12_init (ct_X12_init (G := G) (l := l) (b0 := h73) (v0 := mz) (i1 := (gI v0 0 2)) (sz := H74.size) hZ (by omega)) ⟨Nat.le_of_ble_eq_true rfl, Nat.le_of_ble_eq_true rfl⟩ (fun z h9 => Or.inr (show s.heap.size ≤ z by have := h9.1; omega)) ⟨hW76, hG83⟩ rfl rfl hl.1 (Nat.le_of_ble_eq_true rfl) dX11_term_69 ⟨Nat.le_of_ble_eq_true rfl, Nat.le_of_ble_eq_true rfl⟩ (fun ov9 H84 locs85 hP86 hkp87 hS88 => ?_)
    obtain ⟨rfl, ⟨wx89, hW90, hre91⟩, hz92⟩ := hP86
    have hW93 := rg_keepA hW80 hkp87 (by intro z h1 h2 h3; have h8 := h3.1; have h9 := h3.2; omega)
    have hW94 := rg_keepA hW81 hkp87 (by intro z h1 h2 h3; have h8 := h3.1; have h9 := h3.2; omega)
    have hG95 := GO_keepA hG83 hkp87 (Nat.le_trans (show gB G ≤ s.heap.size by omega) hS77.1) (by intro z h3; have h8 := h3.1; have h9 := h3.2; omega)
    have hz96 := hz92.trans hz82
    refine W.eq (g2 := F0 m 72 ls [.ref h73]) rfl ?_
    refine vx_athrow (pc := 72) hx hb dX11_term_72 ?_
    obtain ⟨ce8, hce8, hcv8, hcl8⟩ := rk_exc hK hW90 rfl rfl
    obtain ⟨e6, e7, e8, e9⟩ := rs4 hm
    cases e6
    subst e7
    subst e8
    subst e9
    exact rk_xout (fun x h => (ht x h).elim) hlk hS88 hce8 hcv8 hcl8 ⟨rfl, hqh73, ⟨_, hW90, hre91⟩, hW93, hz96⟩ (by exact Nat.le_of_ble_eq_true rfl) (by exact Nat.le_of_ble_eq_true rfl)
set_option maxHeartbeats 4000000 in
theorem w_fX11_term (C : Cx G p s m args meth c RX11 cX11_term 5 none) {b0 : Nat} {b1 : Nat} {V1 : Mem} {n1 : Nat} {rok : Bool} {re : Int32} {rc : Nat} {rw0 : Mem} (hd01 : b0 + 10 ≤ b1 ∨ b1 + 357 ≤ b0) (hn1 : n1 < 4) (he0 : b0 + 10 ≤ s.heap.size) (he1 : b1 + 357 ≤ s.heap.size) (hZ : ZQ G) (hgb0 : gB G ≤ b0) (hgb1 : gB G ≤ b1) (ht : ∀ x ∈ c.exceptionTable.toList, False) : ∀ (v0 : Mem) (i2 : Int32), fX11_term V1 n1 v0 i2 = some (rok, re, rc, rw0) → ∀ (H : Heap) (locs : List Loc) (ls : Array Slot), rg G b0 10 (shX11 b1 G.2.1) v0 H → rg G b1 357 (shX0 G.2.1) V1 H → va_S (FA (iv b0 10) s.heap.size) s.heap H locs → H.size = s.heap.size + 0 → GO G H → lv_has ls 5 [(0, .ref b0), (1, .ref (b0 + (2 + 2 * n1 + 0))), (2, .int i2)] → W p l e (rmT 4 (bif rok then 0 else 1) (bif rok then 0 else 7) 81) s m args below meth c H locs 0 0 (vx_MQ below (QcX rok (FA (iv b0 10) s.heap.size) (fun ov H => ov = none ∧ rg G b0 10 (shX11 b1 G.2.1) rw0 H ∧ H.size = s.heap.size + rc)) (XcX rok (FA (iv b0 10) s.heap.size) (fun q E H => E = "WholePacks$Fault" ∧ s.heap.size ≤ q ∧ (∃ wx, rg G q 1 (shX12 G.2.1) wx H ∧ gI wx 0 6 = re) ∧ rg G b0 10 (shX11 b1 G.2.1) rw0 H ∧ H.size = s.heap.size + rc)) args s (bif rok then 0 else 1) (bif rok then 0 else 7) (FA (iv b0 10) s.heap.size)) (F0 m 0 ls []) := by
  intro v0 i2 hm H locs ls hW0 hW1 hS hz hG hl
  obtain ⟨hx, hb, hr, hlk, hml, hown, hts, hK⟩ := id C
  unfold fX11_term at hm
  refine lv_iconst (pc := 0) (v := (1 : Int32)) hx hb dX11_term_0 (by decide) ?_
  refine lv_istore_n (pc := 1) (lv' := [(3, .int (1 : Int32)), (0, .ref b0), (1, .ref (b0 + (2 + 2 * n1 + 0))), (2, .int i2)]) hx hb dX11_term_1 rfl hl (by decide) rfl (fun ls hl => ?_)
  refine lv_aload_n (pc := 2) hx hb dX11_term_2 rfl (lv_at hl 1 rfl) ?_
  obtain ⟨r1, hq2, hm⟩ := ob_some hm
  refine rk_PV (pc := 3) (As := []) (rest := []) hx hb hml hown hts hK lkX11_33 rfl yn_X11_here (ct_X11_here (G := G) (l := l) (b0 := b0) (b1 := b1) hq2) ⟨Nat.le_of_ble_eq_true rfl, Nat.le_of_ble_eq_true rfl⟩ (rk_recv hK hW0 0 (by decide) rfl rfl rfl) ⟨hW0, hW1⟩ rfl rfl hl.1 (Nat.le_of_ble_eq_true rfl) dX11_term_3 ⟨Nat.zero_le _, Nat.zero_le _⟩ ?_
  refine W.eq (g2 := F0 m 6 ls [.int r1]) rfl ?_
  refine lv_i2l (pc := 6) hx hb dX11_term_6 rfl ?_
  refine lv_ldc2 (pc := 7) (v := (48 : Int64)) hx hb hown (hts _ q679) dX11_term_7 ?_
  refine lv_ldc2 (pc := 10) (v := (57 : Int64)) hx hb hown (hts _ q680) dX11_term_10 ?_
  obtain ⟨r3, hq4, hm⟩ := ob_some hm
  refine rk_PSN (pc := 13) (As := [.long r1.toInt64, .long (48 : Int64), .long (57 : Int64)]) (rest := []) hx hb hml hown hts hK lkX11_41 yn_X0_in (ct_X0_in (G := G) (l := l) hq4) ⟨Nat.le_of_ble_eq_true rfl, Nat.le_of_ble_eq_true rfl⟩ trivial rfl rfl hl.1 (Nat.le_of_ble_eq_true rfl) dX11_term_13 ⟨Nat.zero_le _, Nat.zero_le _⟩ ?_
  refine W.eq (g2 := F0 m 16 ls [.int r3]) rfl ?_
  refine lv_if_eq (pc := 16) (tgt := 37) hx hb dX11_term_16 (by decide) (fun c5 => ?_) (fun c5 => ?_)
  · have hm := ite_t c5 hm
    exact (w_fX11_term_37 C hd01 hn1 he0 he1 hZ hgb0 hgb1 ht) v0 0 i2 (1 : Int32) hm H locs ls hW0 hW1 hS hz hG (lv_sub hl [1, 2, 3, 0] rfl)
  · have hm := ite_f c5 hm
    refine lv_aload_n (pc := 19) hx hb dX11_term_19 rfl (lv_at hl 1 rfl) ?_
    obtain ⟨r6, hq7, hm⟩ := ob_some hm
    refine rk_PV (pc := 20) (As := []) (rest := []) hx hb hml hown hts hK lkX11_33 rfl yn_X11_here (ct_X11_here (G := G) (l := l) (b0 := b0) (b1 := b1) hq7) ⟨Nat.le_of_ble_eq_true rfl, Nat.le_of_ble_eq_true rfl⟩ (rk_recv hK hW0 0 (by decide) rfl rfl rfl) ⟨hW0, hW1⟩ rfl rfl hl.1 (Nat.le_of_ble_eq_true rfl) dX11_term_20 ⟨Nat.zero_le _, Nat.zero_le _⟩ ?_
    refine W.eq (g2 := F0 m 23 ls [.int r6]) rfl ?_
    refine lv_bipush (pc := 23) (v := (48 : Int32)) hx hb dX11_term_23 (by decide) ?_
    refine lv_isub (pc := 25) hx hb dX11_term_25 ?_
    refine lv_istore_n (pc := 26) (lv' := [(3, .int (r6 - (48 : Int32))), (0, .ref b0), (1, .ref (b0 + (2 + 2 * n1 + 0))), (2, .int i2)]) hx hb dX11_term_26 rfl hl (by decide) rfl (fun ls hl => ?_)
    refine lv_aload_n (pc := 27) hx hb dX11_term_27 rfl (lv_at hl 1 rfl) ?_
    refine lv_dup (pc := 28) hx hb dX11_term_28 rfl ?_
    refine rk_get (pc := 29) hx hb hts hown hK hW0 flX11_22 0 (by decide) rfl rfl (x := .int (gI v0 0 2)) rfl dX11_term_29 ?_
    refine lv_iconst (pc := 32) (v := (1 : Int32)) hx hb dX11_term_32 (by decide) ?_
    refine lv_iadd (pc := 33) hx hb dX11_term_33 ?_
    refine rk_put (pc := 34) hx hb hts hown hK hW0 hS flX11_22 ft_X11 0 (by decide) rfl (Or.inl (show iv _ _ _ from ⟨by omega, by omega⟩)) rfl rfl (x := .int ((gI v0 0 2) + (1 : Int32))) rfl rfl (Nat.le_of_ble_eq_true rfl) (sI v0 0 2 ((gI v0 0 2) + (1 : Int32))) sI_ne (by rw [sI_eq]; exact rfl) dX11_term_34 (fun H9 locs10 hW11 hS12 hz13 hkp14 => ?_)
    obtain ⟨v0_8, he9, hm⟩ := lm_some hm
    rw [he9] at hW11
    have hW15 := rg_keepq hW1 hkp14 (by omega)
    have hz16 := hz13.trans hz
    have hG17 := GO_keepq hG hkp14 (by omega)
    exact (w_fX11_term_37 C hd01 hn1 he0 he1 hZ hgb0 hgb1 ht) v0_8 0 i2 (r6 - (48 : Int32)) hm H9 locs10 ls hW11 hW15 hS12 hz16 hG17 (lv_sub hl [1, 2, 3, 0] rfl)
set_option maxHeartbeats 4000000 in
theorem ct_X11_term {G : Gv} {l : Launch} {b0 : Nat} {b1 : Nat} {V1 : Mem} {n1 : Nat} {v0 : Mem} {i2 : Int32} {rok : Bool} {re : Int32} {rc : Nat} {rw0 : Mem} {sz : Nat} (hm : fX11_term V1 n1 v0 i2 = some (rok, re, rc, rw0)) (hd01 : b0 + 10 ≤ b1 ∨ b1 + 357 ≤ b0) (hn1 : n1 < 4) (hZ : ZQ G) (hgb0 : gB G ≤ b0) (hgb1 : gB G ≤ b1) : CX G l yX11_term (ws_ yX11_term cX11_term 5 none) 4 (bif rok then 0 else 1) (bif rok then 0 else 7) 81 [.ref b0, .ref (b0 + (2 + 2 * n1 + 0)), .int i2] (iv b0 10) sz (fun H => rg G b0 10 (shX11 b1 G.2.1) v0 H ∧ rg G b1 357 (shX0 G.2.1) V1 H ∧ GO G H) rok (fun ov H => ov = none ∧ rg G b0 10 (shX11 b1 G.2.1) rw0 H ∧ H.size = sz + rc) (fun q E H => E = "WholePacks$Fault" ∧ sz ≤ q ∧ (∃ wx, rg G q 1 (shX12 G.2.1) wx H ∧ gI wx 0 6 = re) ∧ rg G b0 10 (shX11 b1 G.2.1) rw0 H ∧ H.size = sz + rc) := by
  refine vx_ofW (cc := cX11_term) (maxL := 5) (ret := none) (by decide +kernel) rfl ?_
  intro p e s m args below meth c s₁ B hml ht hv
  obtain ⟨rfl, ⟨hz, hW0, hW1, hG⟩, hK⟩ := hv
  subst hz
  have he0 := rg_end hW0 9 (by decide) rfl (fun _ _ _ => rfl)
  have he1 := rg_end hW1 356 (by decide) rfl (fun _ _ _ => rfl)
  have hts := atoms_spec (ws := ws_ yX11_term cX11_term 5 none) B.pre
  have hts : ∀ w ∈ lw_all, w.before _ s = true := fun w h => hts w (List.mem_cons_of_mem _ h)
  have C : Cx G p s m _ meth c RX11 cX11_term 5 none := ⟨B.exec, B.bytes, B.returns, B.notSynchronized, hml, findClass_of_methodNamed B.named, hts, hK⟩
  have hl := lv_entry ([.ref b0, .ref (b0 + (2 + 2 * n1 + 0)), .int i2]) (n := 5) (Nat.le_of_ble_eq_true rfl)
  rw [lg_entry_eq]
  generalize (lg_sl ([.ref b0, .ref (b0 + (2 + 2 * n1 + 0)), .int i2]) ++ List.replicate (5 - (lg_sl ([.ref b0, .ref (b0 + (2 + 2 * n1 + 0)), .int i2])).length) Slot.unset).toArray = ls at hl ⊢
  have hl : lv_has ls 5 [(0, .ref b0), (1, .ref (b0 + (2 + 2 * n1 + 0))), (2, .int i2)] := hl
  exact w_fX11_term C hd01 hn1 he0 he1 hZ hgb0 hgb1 ht _ _ hm s.heap [] ls hW0 hW1 va_S.rf rfl hG hl
theorem yn_X11_is : YN yX11_is 1 := by
  unfold YN
  decide +kernel
theorem lkX11_68 : LV RX11 68 RX11 yX11_is cX11_is 2 (some .boolean) := ⟨q667, q669, qs5, q130, q670⟩
noncomputable def fX11_number_75 (V1 : Mem) (v0 : Mem) (zc : Nat) (i1 : Int32) (i2 : Int32) (i3 : Int32) : Option (Bool × Int32 × Int32 × Nat × Mem) :=
  if (gI v0 0 2) = i2 then (
  some (false, (gI v0 0 2), (0 : Int32), (zc + 1), v0))
  else (
  if (-99 : Int32) ≤ (i1 * i3) then (
  some (true, (0 : Int32), (i1 * i3), zc, v0))
  else (
  some (false, ((gI v0 0 2) - (1 : Int32)), (0 : Int32), (zc + 1), v0)))
noncomputable def fX11_number_22 (V1 : Mem) (k22 : Mem → Nat → Int32 → Int32 → Int32 → Option (Bool × Int32 × Int32 × Nat × Mem)) (v0 : Mem) (zc : Nat) (i1 : Int32) (i2 : Int32) (i3 : Int32) : Option (Bool × Int32 × Int32 × Nat × Mem) :=
  if (3 : Int32) ≤ ((gI v0 0 2) - i2) then (
  fX11_number_75 V1 v0 zc i1 i2 i3)
  else (
  ob (fX11_here v0 V1) fun r16 =>
  ob (fX0_in r16.toInt64 (48 : Int64) (57 : Int64)) fun r18 =>
  if r18 = 0 then (
  fX11_number_75 V1 v0 zc i1 i2 i3)
  else (
  ob (fX11_here v0 V1) fun r21 =>
  lm (sI v0 0 2 ((gI v0 0 2) + (1 : Int32))) fun v0_23 =>
  k22 v0_23 zc i1 i2 ((((10 : Int32) * i3) + r21) - (48 : Int32))))
noncomputable def fX11_number (V1 : Mem) (v0 : Mem) : Option (Bool × Int32 × Int32 × Nat × Mem) :=
  ob2 (fX11_is V1 v0 (45 : Int32)) fun r1 w2 =>
  if r1 = 0 then (
  lq5 (fX11_number_22 V1) FU w2 0 (1 : Int32) (gI w2 0 2) (0 : Int32))
  else (
  lq5 (fX11_number_22 V1) FU w2 0 (-1 : Int32) (gI w2 0 2) (0 : Int32))
set_option maxHeartbeats 4000000 in
theorem w_fX11_number_75 (C : Cx G p s m args meth c RX11 cX11_number 4 (some .int)) {b0 : Nat} {b1 : Nat} {V1 : Mem} {rok : Bool} {re : Int32} {rx : Int32} {rc : Nat} {rw0 : Mem} (hd01 : b0 + 10 ≤ b1 ∨ b1 + 357 ≤ b0) (he0 : b0 + 10 ≤ s.heap.size) (he1 : b1 + 357 ≤ s.heap.size) (hZ : ZQ G) (hgb0 : gB G ≤ b0) (hgb1 : gB G ≤ b1) (ht : ∀ x ∈ c.exceptionTable.toList, False) : ∀ (v0 : Mem) (zc : Nat) (i1 : Int32) (i2 : Int32) (i3 : Int32), fX11_number_75 V1 v0 zc i1 i2 i3 = some (rok, re, rx, rc, rw0) → ∀ (H : Heap) (locs : List Loc) (ls : Array Slot), rg G b0 10 (shX11 b1 G.2.1) v0 H → rg G b1 357 (shX0 G.2.1) V1 H → va_S (FA (iv b0 10) s.heap.size) s.heap H locs → H.size = s.heap.size + zc → GO G H → lv_has ls 4 [(0, .ref b0), (1, .int i1), (2, .int i2), (3, .int i3)] → W p l e (rmT 4 (bif rok then 0 else 1) (bif rok then 0 else 7) 81) s m args below meth c H locs 0 0 (vx_MQ below (QcX rok (FA (iv b0 10) s.heap.size) (fun ov H => ov = (some (.int rx)) ∧ rg G b0 10 (shX11 b1 G.2.1) rw0 H ∧ H.size = s.heap.size + rc)) (XcX rok (FA (iv b0 10) s.heap.size) (fun q E H => E = "WholePacks$Fault" ∧ s.heap.size ≤ q ∧ (∃ wx, rg G q 1 (shX12 G.2.1) wx H ∧ gI wx 0 6 = re) ∧ rg G b0 10 (shX11 b1 G.2.1) rw0 H ∧ H.size = s.heap.size + rc)) args s (bif rok then 0 else 1) (bif rok then 0 else 7) (FA (iv b0 10) s.heap.size)) (F0 m 75 ls []) := by
  intro v0 zc i1 i2 i3 hm H locs ls hW0 hW1 hS hz hG hl
  obtain ⟨hx, hb, hr, hlk, hml, hown, hts, hK⟩ := id C
  unfold fX11_number_75 at hm
  refine lv_aload_n (pc := 75) hx hb dX11_number_75 rfl (lv_at hl 0 rfl) ?_
  refine rk_get (pc := 76) hx hb hts hown hK hW0 flX11_22 0 (by decide) rfl rfl (x := .int (gI v0 0 2)) rfl dX11_number_76 ?_
  refine lv_iload_n (pc := 79) hx hb dX11_number_79 rfl (lv_at hl 2 rfl) ?_
  refine lv_icmp_ne (pc := 80) (tgt := 95) hx hb dX11_number_80 (by decide) (fun c33 => ?_) (fun c33 => ?_)
  · have hm := ite_f c33 hm
    refine lv_iload_n (pc := 95) hx hb dX11_number_95 rfl (lv_at hl 1 rfl) ?_
    refine lv_iload_n (pc := 96) hx hb dX11_number_96 rfl (lv_at hl 3 rfl) ?_
    refine lv_imul (pc := 97) hx hb dX11_number_97 ?_
    refine lv_bipush (pc := 98) (v := (-99 : Int32)) hx hb dX11_number_98 (by decide) ?_
    refine lv_icmp_ge (pc := 100) (tgt := 117) hx hb dX11_number_100 (by decide) (fun c34 => ?_) (fun c34 => ?_)
    · have hm := ite_t c34 hm
      refine lv_iload_n (pc := 117) hx hb dX11_number_117 rfl (lv_at hl 1 rfl) ?_
      refine lv_iload_n (pc := 118) hx hb dX11_number_118 rfl (lv_at hl 3 rfl) ?_
      refine lv_imul (pc := 119) hx hb dX11_number_119 ?_
      obtain ⟨e5, e6, e7, e8, e9⟩ := rs5 hm
      cases e5
      subst e6
      subst e7
      subst e8
      subst e9
      exact rk_iretX (pc := 120) hx hb hr hlk hS ⟨rfl, hW0, hz⟩ dX11_number_120 (by exact Nat.le_of_ble_eq_true rfl) (by exact Nat.le_of_ble_eq_true rfl)
    · have hm := ite_f c34 hm
      obtain ⟨h35, hh35⟩ : ∃ h, H.size = h := ⟨_, rfl⟩
      have hqh35 : s.heap.size ≤ h35 := Nat.le_trans hS.1 (Nat.le_of_eq hh35)
      have hok9 : false = rok := (by exact (rs5 hm).1)
      subst hok9
      refine rk_new (pc := 103) (h := h35) (sh := (shX12 G.2.1)) hx hb hts hown hK hS in_X12 ft_X12 rfl q683 q684 q133 hh35 rfl (df_X12 _ rfl) (Nat.le_of_ble_eq_true rfl) (Nat.le_of_ble_eq_true rfl) dX11_number_103 (fun H36 hW38 hS39 hz40 hkp41 => ?_)
      have hW42 := rg_keepN hW0 hh35 hkp41
      have hW43 := rg_keepN hW1 hh35 hkp41
      have hz44 : H36.size = s.heap.size + (zc + 1) := by omega
      have hG45 := GO_keepN hG (by omega) hkp41
      refine lv_dup (pc := 106) hx hb dX11_number_106 rfl ?_
      refine lv_aload_n (pc := 107) hx hb dX11_number_107 rfl (lv_at hl 0 rfl) ?_
      refine rk_get (pc := 108) hx hb hts hown hK hW42 flX11_22 0 (by decide) rfl rfl (x := .int (gI v0 0 2)) rfl dX11_number_108 ?_
      refine lv_iconst (pc := 111) (v := (1 : Int32)) hx hb dX11_number_111 (by decide) ?_
      refine lv_isub (pc := 112) hx hb dX11_number_112 ?_
      refine rk_TI (pc := 113) (As := [.int ((gI v0 0 2) - (1 : Int32))]) (rest := [.ref h35]) (mc := 0) (ms := 0) hx hb hml hown hts hK hS39 (fun q hq => FA_sz rfl q hq) lkX11_57 yn_X12_init (ct_X12_init (G := G) (l := l) (b0 := h35) (v0 := mz) (i1 := ((gI v0 0 2) - (1 : Int32))) (sz := H36.size) hZ (by omega)) ⟨Nat.le_of_ble_eq_true rfl, Nat.le_of_ble_eq_true rfl⟩ (fun z h9 => Or.inr (show s.heap.size ≤ z by have := h9.1; omega)) ⟨hW38, hG45⟩ rfl rfl hl.1 (Nat.le_of_ble_eq_true rfl) dX11_number_113 ⟨Nat.le_of_ble_eq_true rfl, Nat.le_of_ble_eq_true rfl⟩ (fun ov9 H46 locs47 hP48 hkp49 hS50 => ?_)
      obtain ⟨rfl, ⟨wx51, hW52, hre53⟩, hz54⟩ := hP48
      have hW55 := rg_keepA hW42 hkp49 (by intro z h1 h2 h3; have h8 := h3.1; have h9 := h3.2; omega)
      have hW56 := rg_keepA hW43 hkp49 (by intro z h1 h2 h3; have h8 := h3.1; have h9 := h3.2; omega)
      have hG57 := GO_keepA hG45 hkp49 (Nat.le_trans (show gB G ≤ s.heap.size by omega) hS39.1) (by intro z h3; have h8 := h3.1; have h9 := h3.2; omega)
      have hz58 := hz54.trans hz44
      refine W.eq (g2 := F0 m 116 ls [.ref h35]) rfl ?_
      refine vx_athrow (pc := 116) hx hb dX11_number_116 ?_
      obtain ⟨ce8, hce8, hcv8, hcl8⟩ := rk_exc hK hW52 rfl rfl
      obtain ⟨e5, e6, e7, e8, e9⟩ := rs5 hm
      cases e5
      subst e6
      subst e7
      subst e8
      subst e9
      exact rk_xout (fun x h => (ht x h).elim) hlk hS50 hce8 hcv8 hcl8 ⟨rfl, hqh35, ⟨_, hW52, hre53⟩, hW55, hz58⟩ (by exact Nat.le_of_ble_eq_true rfl) (by exact Nat.le_of_ble_eq_true rfl)
  · have hm := ite_t c33 hm
    obtain ⟨h59, hh59⟩ : ∃ h, H.size = h := ⟨_, rfl⟩
    have hqh59 : s.heap.size ≤ h59 := Nat.le_trans hS.1 (Nat.le_of_eq hh59)
    have hok9 : false = rok := (by exact (rs5 hm).1)
    subst hok9
    refine rk_new (pc := 83) (h := h59) (sh := (shX12 G.2.1)) hx hb hts hown hK hS in_X12 ft_X12 rfl q683 q684 q133 hh59 rfl (df_X12 _ rfl) (Nat.le_of_ble_eq_true rfl) (Nat.le_of_ble_eq_true rfl) dX11_number_83 (fun H60 hW62 hS63 hz64 hkp65 => ?_)
    have hW66 := rg_keepN hW0 hh59 hkp65
    have hW67 := rg_keepN hW1 hh59 hkp65
    have hz68 : H60.size = s.heap.size + (zc + 1) := by omega
    have hG69 := GO_keepN hG (by omega) hkp65
    refine lv_dup (pc := 86) hx hb dX11_number_86 rfl ?_
    refine lv_aload_n (pc := 87) hx hb dX11_number_87 rfl (lv_at hl 0 rfl) ?_
    refine rk_get (pc := 88) hx hb hts hown hK hW66 flX11_22 0 (by decide) rfl rfl (x := .int (gI v0 0 2)) rfl dX11_number_88 ?_
    refine rk_TI (pc := 91) (As := [.int (gI v0 0 2)]) (rest := [.ref h59]) (mc := 0) (ms := 0) hx hb hml hown hts hK hS63 (fun q hq => FA_sz rfl q hq) lkX11_57 yn_X12_init (ct_X12_init (G := G) (l := l) (b0 := h59) (v0 := mz) (i1 := (gI v0 0 2)) (sz := H60.size) hZ (by omega)) ⟨Nat.le_of_ble_eq_true rfl, Nat.le_of_ble_eq_true rfl⟩ (fun z h9 => Or.inr (show s.heap.size ≤ z by have := h9.1; omega)) ⟨hW62, hG69⟩ rfl rfl hl.1 (Nat.le_of_ble_eq_true rfl) dX11_number_91 ⟨Nat.le_of_ble_eq_true rfl, Nat.le_of_ble_eq_true rfl⟩ (fun ov9 H70 locs71 hP72 hkp73 hS74 => ?_)
    obtain ⟨rfl, ⟨wx75, hW76, hre77⟩, hz78⟩ := hP72
    have hW79 := rg_keepA hW66 hkp73 (by intro z h1 h2 h3; have h8 := h3.1; have h9 := h3.2; omega)
    have hW80 := rg_keepA hW67 hkp73 (by intro z h1 h2 h3; have h8 := h3.1; have h9 := h3.2; omega)
    have hG81 := GO_keepA hG69 hkp73 (Nat.le_trans (show gB G ≤ s.heap.size by omega) hS63.1) (by intro z h3; have h8 := h3.1; have h9 := h3.2; omega)
    have hz82 := hz78.trans hz68
    refine W.eq (g2 := F0 m 94 ls [.ref h59]) rfl ?_
    refine vx_athrow (pc := 94) hx hb dX11_number_94 ?_
    obtain ⟨ce8, hce8, hcv8, hcl8⟩ := rk_exc hK hW76 rfl rfl
    obtain ⟨e5, e6, e7, e8, e9⟩ := rs5 hm
    cases e5
    subst e6
    subst e7
    subst e8
    subst e9
    exact rk_xout (fun x h => (ht x h).elim) hlk hS74 hce8 hcv8 hcl8 ⟨rfl, hqh59, ⟨_, hW76, hre77⟩, hW79, hz82⟩ (by exact Nat.le_of_ble_eq_true rfl) (by exact Nat.le_of_ble_eq_true rfl)
set_option maxHeartbeats 4000000 in
theorem w_fX11_number_22 (C : Cx G p s m args meth c RX11 cX11_number 4 (some .int)) {b0 : Nat} {b1 : Nat} {V1 : Mem} {rok : Bool} {re : Int32} {rx : Int32} {rc : Nat} {rw0 : Mem} (hd01 : b0 + 10 ≤ b1 ∨ b1 + 357 ≤ b0) (he0 : b0 + 10 ≤ s.heap.size) (he1 : b1 + 357 ≤ s.heap.size) (hZ : ZQ G) (hgb0 : gB G ≤ b0) (hgb1 : gB G ≤ b1) (ht : ∀ x ∈ c.exceptionTable.toList, False) {k22 : Mem → Nat → Int32 → Int32 → Int32 → Option (Bool × Int32 × Int32 × Nat × Mem)} (hk22 : ∀ (v0 : Mem) (zc : Nat) (i1 : Int32) (i2 : Int32) (i3 : Int32), k22 v0 zc i1 i2 i3 = some (rok, re, rx, rc, rw0) → ∀ (H : Heap) (locs : List Loc) (ls : Array Slot), rg G b0 10 (shX11 b1 G.2.1) v0 H → rg G b1 357 (shX0 G.2.1) V1 H → va_S (FA (iv b0 10) s.heap.size) s.heap H locs → H.size = s.heap.size + zc → GO G H → lv_has ls 4 [(0, .ref b0), (1, .int i1), (2, .int i2), (3, .int i3)] → W p l e (rmT 4 (bif rok then 0 else 1) (bif rok then 0 else 7) 81) s m args below meth c H locs 0 0 (vx_MQ below (QcX rok (FA (iv b0 10) s.heap.size) (fun ov H => ov = (some (.int rx)) ∧ rg G b0 10 (shX11 b1 G.2.1) rw0 H ∧ H.size = s.heap.size + rc)) (XcX rok (FA (iv b0 10) s.heap.size) (fun q E H => E = "WholePacks$Fault" ∧ s.heap.size ≤ q ∧ (∃ wx, rg G q 1 (shX12 G.2.1) wx H ∧ gI wx 0 6 = re) ∧ rg G b0 10 (shX11 b1 G.2.1) rw0 H ∧ H.size = s.heap.size + rc)) args s (bif rok then 0 else 1) (bif rok then 0 else 7) (FA (iv b0 10) s.heap.size)) (F0 m 22 ls [])) : ∀ (v0 : Mem) (zc : Nat) (i1 : Int32) (i2 : Int32) (i3 : Int32), fX11_number_22 V1 k22 v0 zc i1 i2 i3 = some (rok, re, rx, rc, rw0) → ∀ (H : Heap) (locs : List Loc) (ls : Array Slot), rg G b0 10 (shX11 b1 G.2.1) v0 H → rg G b1 357 (shX0 G.2.1) V1 H → va_S (FA (iv b0 10) s.heap.size) s.heap H locs → H.size = s.heap.size + zc → GO G H → lv_has ls 4 [(0, .ref b0), (1, .int i1), (2, .int i2), (3, .int i3)] → W p l e (rmT 4 (bif rok then 0 else 1) (bif rok then 0 else 7) 81) s m args below meth c H locs 0 0 (vx_MQ below (QcX rok (FA (iv b0 10) s.heap.size) (fun ov H => ov = (some (.int rx)) ∧ rg G b0 10 (shX11 b1 G.2.1) rw0 H ∧ H.size = s.heap.size + rc)) (XcX rok (FA (iv b0 10) s.heap.size) (fun q E H => E = "WholePacks$Fault" ∧ s.heap.size ≤ q ∧ (∃ wx, rg G q 1 (shX12 G.2.1) wx H ∧ gI wx 0 6 = re) ∧ rg G b0 10 (shX11 b1 G.2.1) rw0 H ∧ H.size = s.heap.size + rc)) args s (bif rok then 0 else 1) (bif rok then 0 else 7) (FA (iv b0 10) s.heap.size)) (F0 m 22 ls []) := by
  intro v0 zc i1 i2 i3 hm H locs ls hW0 hW1 hS hz hG hl
  obtain ⟨hx, hb, hr, hlk, hml, hown, hts, hK⟩ := id C
  unfold fX11_number_22 at hm
  refine lv_aload_n (pc := 22) hx hb dX11_number_22 rfl (lv_at hl 0 rfl) ?_
  refine rk_get (pc := 23) hx hb hts hown hK hW0 flX11_22 0 (by decide) rfl rfl (x := .int (gI v0 0 2)) rfl dX11_number_23 ?_
  refine lv_iload_n (pc := 26) hx hb dX11_number_26 rfl (lv_at hl 2 rfl) ?_
  refine lv_isub (pc := 27) hx hb dX11_number_27 ?_
  refine lv_iconst (pc := 28) (v := (3 : Int32)) hx hb dX11_number_28 (by decide) ?_
  refine lv_icmp_ge (pc := 29) (tgt := 75) hx hb dX11_number_29 (by decide) (fun c15 => ?_) (fun c15 => ?_)
  · have hm := ite_t c15 hm
    exact (w_fX11_number_75 C hd01 he0 he1 hZ hgb0 hgb1 ht) v0 zc i1 i2 i3 hm H locs ls hW0 hW1 hS hz hG (lv_sub hl [0, 1, 2, 3] rfl)
  · have hm := ite_f c15 hm
    refine lv_aload_n (pc := 32) hx hb dX11_number_32 rfl (lv_at hl 0 rfl) ?_
    obtain ⟨r16, hq17, hm⟩ := ob_some hm
    refine rk_PV (pc := 33) (As := []) (rest := []) hx hb hml hown hts hK lkX11_33 rfl yn_X11_here (ct_X11_here (G := G) (l := l) (b0 := b0) (b1 := b1) hq17) ⟨Nat.le_of_ble_eq_true rfl, Nat.le_of_ble_eq_true rfl⟩ (rk_recv hK hW0 0 (by decide) rfl rfl rfl) ⟨hW0, hW1⟩ rfl rfl hl.1 (Nat.le_of_ble_eq_true rfl) dX11_number_33 ⟨Nat.zero_le _, Nat.zero_le _⟩ ?_
    refine W.eq (g2 := F0 m 36 ls [.int r16]) rfl ?_
    refine lv_i2l (pc := 36) hx hb dX11_number_36 rfl ?_
    refine lv_ldc2 (pc := 37) (v := (48 : Int64)) hx hb hown (hts _ q679) dX11_number_37 ?_
    refine lv_ldc2 (pc := 40) (v := (57 : Int64)) hx hb hown (hts _ q680) dX11_number_40 ?_
    obtain ⟨r18, hq19, hm⟩ := ob_some hm
    refine rk_PSN (pc := 43) (As := [.long r16.toInt64, .long (48 : Int64), .long (57 : Int64)]) (rest := []) hx hb hml hown hts hK lkX11_41 yn_X0_in (ct_X0_in (G := G) (l := l) hq19) ⟨Nat.le_of_ble_eq_true rfl, Nat.le_of_ble_eq_true rfl⟩ trivial rfl rfl hl.1 (Nat.le_of_ble_eq_true rfl) dX11_number_43 ⟨Nat.zero_le _, Nat.zero_le _⟩ ?_
    refine W.eq (g2 := F0 m 46 ls [.int r18]) rfl ?_
    refine lv_if_eq (pc := 46) (tgt := 75) hx hb dX11_number_46 (by decide) (fun c20 => ?_) (fun c20 => ?_)
    · have hm := ite_t c20 hm
      exact (w_fX11_number_75 C hd01 he0 he1 hZ hgb0 hgb1 ht) v0 zc i1 i2 i3 hm H locs ls hW0 hW1 hS hz hG (lv_sub hl [0, 1, 2, 3] rfl)
    · have hm := ite_f c20 hm
      refine lv_bipush (pc := 49) (v := (10 : Int32)) hx hb dX11_number_49 (by decide) ?_
      refine lv_iload_n (pc := 51) hx hb dX11_number_51 rfl (lv_at hl 3 rfl) ?_
      refine lv_imul (pc := 52) hx hb dX11_number_52 ?_
      refine lv_aload_n (pc := 53) hx hb dX11_number_53 rfl (lv_at hl 0 rfl) ?_
      obtain ⟨r21, hq22, hm⟩ := ob_some hm
      refine rk_PV (pc := 54) (As := []) (rest := [.int ((10 : Int32) * i3)]) hx hb hml hown hts hK lkX11_33 rfl yn_X11_here (ct_X11_here (G := G) (l := l) (b0 := b0) (b1 := b1) hq22) ⟨Nat.le_of_ble_eq_true rfl, Nat.le_of_ble_eq_true rfl⟩ (rk_recv hK hW0 0 (by decide) rfl rfl rfl) ⟨hW0, hW1⟩ rfl rfl hl.1 (Nat.le_of_ble_eq_true rfl) dX11_number_54 ⟨Nat.zero_le _, Nat.zero_le _⟩ ?_
      refine W.eq (g2 := F0 m 57 ls [.int r21, .int ((10 : Int32) * i3)]) rfl ?_
      refine lv_iadd (pc := 57) hx hb dX11_number_57 ?_
      refine lv_bipush (pc := 58) (v := (48 : Int32)) hx hb dX11_number_58 (by decide) ?_
      refine lv_isub (pc := 60) hx hb dX11_number_60 ?_
      refine lv_istore_n (pc := 61) (lv' := [(3, .int ((((10 : Int32) * i3) + r21) - (48 : Int32))), (0, .ref b0), (1, .int i1), (2, .int i2)]) hx hb dX11_number_61 rfl hl (by decide) rfl (fun ls hl => ?_)
      refine lv_aload_n (pc := 62) hx hb dX11_number_62 rfl (lv_at hl 1 rfl) ?_
      refine lv_dup (pc := 63) hx hb dX11_number_63 rfl ?_
      refine rk_get (pc := 64) hx hb hts hown hK hW0 flX11_22 0 (by decide) rfl rfl (x := .int (gI v0 0 2)) rfl dX11_number_64 ?_
      refine lv_iconst (pc := 67) (v := (1 : Int32)) hx hb dX11_number_67 (by decide) ?_
      refine lv_iadd (pc := 68) hx hb dX11_number_68 ?_
      refine rk_put (pc := 69) hx hb hts hown hK hW0 hS flX11_22 ft_X11 0 (by decide) rfl (Or.inl (show iv _ _ _ from ⟨by omega, by omega⟩)) rfl rfl (x := .int ((gI v0 0 2) + (1 : Int32))) rfl rfl (Nat.le_of_ble_eq_true rfl) (sI v0 0 2 ((gI v0 0 2) + (1 : Int32))) sI_ne (by rw [sI_eq]; exact rfl) dX11_number_69 (fun H24 locs25 hW26 hS27 hz28 hkp29 => ?_)
      obtain ⟨v0_23, he9, hm⟩ := lm_some hm
      rw [he9] at hW26
      have hW30 := rg_keepq hW1 hkp29 (by omega)
      have hz31 := hz28.trans hz
      have hG32 := GO_keepq hG hkp29 (by omega)
      refine lv_goto (pc := 72) (tgt := 22) hx hb dX11_number_72 (by decide) ?_
      exact hk22 v0_23 zc i1 i2 ((((10 : Int32) * i3) + r21) - (48 : Int32)) hm H24 locs25 ls hW26 hW30 hS27 hz31 hG32 (lv_sub hl [1, 2, 3, 0] rfl)
theorem w_fX11_number_22_l (C : Cx G p s m args meth c RX11 cX11_number 4 (some .int)) {b0 : Nat} {b1 : Nat} {V1 : Mem} {rok : Bool} {re : Int32} {rx : Int32} {rc : Nat} {rw0 : Mem} (hd01 : b0 + 10 ≤ b1 ∨ b1 + 357 ≤ b0) (he0 : b0 + 10 ≤ s.heap.size) (he1 : b1 + 357 ≤ s.heap.size) (hZ : ZQ G) (hgb0 : gB G ≤ b0) (hgb1 : gB G ≤ b1) (ht : ∀ x ∈ c.exceptionTable.toList, False) : ∀ (n : Nat) (v0 : Mem) (zc : Nat) (i1 : Int32) (i2 : Int32) (i3 : Int32), lq5 (fX11_number_22 V1) n v0 zc i1 i2 i3 = some (rok, re, rx, rc, rw0) → ∀ (H : Heap) (locs : List Loc) (ls : Array Slot), rg G b0 10 (shX11 b1 G.2.1) v0 H → rg G b1 357 (shX0 G.2.1) V1 H → va_S (FA (iv b0 10) s.heap.size) s.heap H locs → H.size = s.heap.size + zc → GO G H → lv_has ls 4 [(0, .ref b0), (1, .int i1), (2, .int i2), (3, .int i3)] → W p l e (rmT 4 (bif rok then 0 else 1) (bif rok then 0 else 7) 81) s m args below meth c H locs 0 0 (vx_MQ below (QcX rok (FA (iv b0 10) s.heap.size) (fun ov H => ov = (some (.int rx)) ∧ rg G b0 10 (shX11 b1 G.2.1) rw0 H ∧ H.size = s.heap.size + rc)) (XcX rok (FA (iv b0 10) s.heap.size) (fun q E H => E = "WholePacks$Fault" ∧ s.heap.size ≤ q ∧ (∃ wx, rg G q 1 (shX12 G.2.1) wx H ∧ gI wx 0 6 = re) ∧ rg G b0 10 (shX11 b1 G.2.1) rw0 H ∧ H.size = s.heap.size + rc)) args s (bif rok then 0 else 1) (bif rok then 0 else 7) (FA (iv b0 10) s.heap.size)) (F0 m 22 ls []) := by
  intro n
  induction n with
  | zero => intro v0 zc i1 i2 i3 hm; exact (lq5_0 hm).elim
  | succ n ih => intro v0 zc i1 i2 i3 hm; exact w_fX11_number_22 C hd01 he0 he1 hZ hgb0 hgb1 ht ih v0 zc i1 i2 i3 (lq5_s hm)
set_option maxHeartbeats 4000000 in
theorem w_fX11_number (C : Cx G p s m args meth c RX11 cX11_number 4 (some .int)) {b0 : Nat} {b1 : Nat} {V1 : Mem} {rok : Bool} {re : Int32} {rx : Int32} {rc : Nat} {rw0 : Mem} (hd01 : b0 + 10 ≤ b1 ∨ b1 + 357 ≤ b0) (he0 : b0 + 10 ≤ s.heap.size) (he1 : b1 + 357 ≤ s.heap.size) (hZ : ZQ G) (hgb0 : gB G ≤ b0) (hgb1 : gB G ≤ b1) (ht : ∀ x ∈ c.exceptionTable.toList, False) : ∀ (v0 : Mem), fX11_number V1 v0 = some (rok, re, rx, rc, rw0) → ∀ (H : Heap) (locs : List Loc) (ls : Array Slot), rg G b0 10 (shX11 b1 G.2.1) v0 H → rg G b1 357 (shX0 G.2.1) V1 H → va_S (FA (iv b0 10) s.heap.size) s.heap H locs → H.size = s.heap.size + 0 → GO G H → lv_has ls 4 [(0, .ref b0)] → W p l e (rmT 4 (bif rok then 0 else 1) (bif rok then 0 else 7) 81) s m args below meth c H locs 0 0 (vx_MQ below (QcX rok (FA (iv b0 10) s.heap.size) (fun ov H => ov = (some (.int rx)) ∧ rg G b0 10 (shX11 b1 G.2.1) rw0 H ∧ H.size = s.heap.size + rc)) (XcX rok (FA (iv b0 10) s.heap.size) (fun q E H => E = "WholePacks$Fault" ∧ s.heap.size ≤ q ∧ (∃ wx, rg G q 1 (shX12 G.2.1) wx H ∧ gI wx 0 6 = re) ∧ rg G b0 10 (shX11 b1 G.2.1) rw0 H ∧ H.size = s.heap.size + rc)) args s (bif rok then 0 else 1) (bif rok then 0 else 7) (FA (iv b0 10) s.heap.size)) (F0 m 0 ls []) := by
  intro v0 hm H locs ls hW0 hW1 hS hz hG hl
  obtain ⟨hx, hb, hr, hlk, hml, hown, hts, hK⟩ := id C
  unfold fX11_number at hm
  refine lv_aload_n (pc := 0) hx hb dX11_number_0 rfl (lv_at hl 0 rfl) ?_
  refine lv_bipush (pc := 1) (v := (45 : Int32)) hx hb dX11_number_1 (by decide) ?_
  obtain ⟨r1, w2, hq3, hm⟩ := ob2_some hm
  refine rk_TV (pc := 3) (As := [.int (45 : Int32)]) (rest := []) (mc := 0) (ms := 0) hx hb hml hown hts hK hS (fun q hq => FA_sz rfl q hq) lkX11_68 rfl yn_X11_is (ct_X11_is (G := G) (l := l) (b0 := b0) (b1 := b1) (sz := H.size) hq3 (by omega)) ⟨Nat.le_of_ble_eq_true rfl, Nat.le_of_ble_eq_true rfl⟩ (fun z h => Or.inl (show iv _ _ _ from ⟨by have h8 := h.1; have h9 := h.2; omega, by have h8 := h.1; have h9 := h.2; omega⟩)) (rk_recv hK hW0 0 (by decide) rfl rfl rfl) ⟨hW0, hW1⟩ rfl rfl hl.1 (Nat.le_of_ble_eq_true rfl) dX11_number_3 ⟨Nat.zero_le _, Nat.zero_le _⟩ (fun ov9 H4 locs5 hP6 hkp7 hS8 => ?_)
  obtain ⟨rfl, hW9, hz10⟩ := hP6
  have hW11 := rg_keepX hW1 hkp7 (by intro z h0 h3; have h1 := h0.1.1; have h2 := h0.1.2; have h4 := h0.2; have h8 := h3.1; have h9 := h3.2; omega)
  have hG12 := GO_keepA hG hkp7 (Nat.le_trans (show gB G ≤ s.heap.size by omega) hS.1) (by intro z h3; have h8 := h3.1; have h9 := h3.2; omega)
  have hz13 := hz10.trans hz
  refine W.eq (g2 := F0 m 6 ls [.int r1]) rfl ?_
  refine lv_if_eq (pc := 6) (tgt := 13) hx hb dX11_number_6 (by decide) (fun c14 => ?_) (fun c14 => ?_)
  · have hm := ite_t c14 hm
    refine lv_iconst (pc := 13) (v := (1 : Int32)) hx hb dX11_number_13 (by decide) ?_
    refine lv_istore_n (pc := 14) (lv' := [(1, .int (1 : Int32)), (0, .ref b0)]) hx hb dX11_number_14 rfl hl (by decide) rfl (fun ls hl => ?_)
    refine lv_aload_n (pc := 15) hx hb dX11_number_15 rfl (lv_at hl 1 rfl) ?_
    refine rk_get (pc := 16) hx hb hts hown hK hW9 flX11_22 0 (by decide) rfl rfl (x := .int (gI w2 0 2)) rfl dX11_number_16 ?_
    refine lv_istore_n (pc := 19) (lv' := [(2, .int (gI w2 0 2)), (1, .int (1 : Int32)), (0, .ref b0)]) hx hb dX11_number_19 rfl hl (by decide) rfl (fun ls hl => ?_)
    refine lv_iconst (pc := 20) (v := (0 : Int32)) hx hb dX11_number_20 (by decide) ?_
    refine lv_istore_n (pc := 21) (lv' := [(3, .int (0 : Int32)), (2, .int (gI w2 0 2)), (1, .int (1 : Int32)), (0, .ref b0)]) hx hb dX11_number_21 rfl hl (by decide) rfl (fun ls hl => ?_)
    exact (w_fX11_number_22_l C hd01 he0 he1 hZ hgb0 hgb1 ht FU) w2 0 (1 : Int32) (gI w2 0 2) (0 : Int32) hm H4 locs5 ls hW9 hW11 hS8 hz13 hG12 (lv_sub hl [3, 2, 1, 0] rfl)
  · have hm := ite_f c14 hm
    refine lv_iconst (pc := 9) (v := (-1 : Int32)) hx hb dX11_number_9 (by decide) ?_
    refine lv_goto (pc := 10) (tgt := 14) hx hb dX11_number_10 (by decide) ?_
    refine lv_istore_n (pc := 14) (lv' := [(1, .int (-1 : Int32)), (0, .ref b0)]) hx hb dX11_number_14 rfl hl (by decide) rfl (fun ls hl => ?_)
    refine lv_aload_n (pc := 15) hx hb dX11_number_15 rfl (lv_at hl 1 rfl) ?_
    refine rk_get (pc := 16) hx hb hts hown hK hW9 flX11_22 0 (by decide) rfl rfl (x := .int (gI w2 0 2)) rfl dX11_number_16 ?_
    refine lv_istore_n (pc := 19) (lv' := [(2, .int (gI w2 0 2)), (1, .int (-1 : Int32)), (0, .ref b0)]) hx hb dX11_number_19 rfl hl (by decide) rfl (fun ls hl => ?_)
    refine lv_iconst (pc := 20) (v := (0 : Int32)) hx hb dX11_number_20 (by decide) ?_
    refine lv_istore_n (pc := 21) (lv' := [(3, .int (0 : Int32)), (2, .int (gI w2 0 2)), (1, .int (-1 : Int32)), (0, .ref b0)]) hx hb dX11_number_21 rfl hl (by decide) rfl (fun ls hl => ?_)
    exact (w_fX11_number_22_l C hd01 he0 he1 hZ hgb0 hgb1 ht FU) w2 0 (-1 : Int32) (gI w2 0 2) (0 : Int32) hm H4 locs5 ls hW9 hW11 hS8 hz13 hG12 (lv_sub hl [3, 2, 1, 0] rfl)
set_option maxHeartbeats 4000000 in
theorem ct_X11_number {G : Gv} {l : Launch} {b0 : Nat} {b1 : Nat} {V1 : Mem} {v0 : Mem} {rok : Bool} {re : Int32} {rx : Int32} {rc : Nat} {rw0 : Mem} {sz : Nat} (hm : fX11_number V1 v0 = some (rok, re, rx, rc, rw0)) (hd01 : b0 + 10 ≤ b1 ∨ b1 + 357 ≤ b0) (hZ : ZQ G) (hgb0 : gB G ≤ b0) (hgb1 : gB G ≤ b1) : CX G l yX11_number (ws_ yX11_number cX11_number 4 (some .int)) 4 (bif rok then 0 else 1) (bif rok then 0 else 7) 81 [.ref b0] (iv b0 10) sz (fun H => rg G b0 10 (shX11 b1 G.2.1) v0 H ∧ rg G b1 357 (shX0 G.2.1) V1 H ∧ GO G H) rok (fun ov H => ov = (some (.int rx)) ∧ rg G b0 10 (shX11 b1 G.2.1) rw0 H ∧ H.size = sz + rc) (fun q E H => E = "WholePacks$Fault" ∧ sz ≤ q ∧ (∃ wx, rg G q 1 (shX12 G.2.1) wx H ∧ gI wx 0 6 = re) ∧ rg G b0 10 (shX11 b1 G.2.1) rw0 H ∧ H.size = sz + rc) := by
  refine vx_ofW (cc := cX11_number) (maxL := 4) (ret := (some .int)) (by decide +kernel) rfl ?_
  intro p e s m args below meth c s₁ B hml ht hv
  obtain ⟨rfl, ⟨hz, hW0, hW1, hG⟩, hK⟩ := hv
  subst hz
  have he0 := rg_end hW0 9 (by decide) rfl (fun _ _ _ => rfl)
  have he1 := rg_end hW1 356 (by decide) rfl (fun _ _ _ => rfl)
  have hts := atoms_spec (ws := ws_ yX11_number cX11_number 4 (some .int)) B.pre
  have hts : ∀ w ∈ lw_all, w.before _ s = true := fun w h => hts w (List.mem_cons_of_mem _ h)
  have C : Cx G p s m _ meth c RX11 cX11_number 4 (some .int) := ⟨B.exec, B.bytes, B.returns, B.notSynchronized, hml, findClass_of_methodNamed B.named, hts, hK⟩
  have hl := lv_entry ([.ref b0]) (n := 4) (Nat.le_of_ble_eq_true rfl)
  rw [lg_entry_eq]
  generalize (lg_sl ([.ref b0]) ++ List.replicate (4 - (lg_sl ([.ref b0])).length) Slot.unset).toArray = ls at hl ⊢
  have hl : lv_has ls 4 [(0, .ref b0)] := hl
  exact w_fX11_number C hd01 he0 he1 hZ hgb0 hgb1 ht _ hm s.heap [] ls hW0 hW1 va_S.rf rfl hG hl
theorem flX11_17 : FL RX11 17 11 0 RX11 TX11 4 := ⟨in_X11, rfl, by decide, q643⟩
theorem flX11_71 : FL RX11 71 11 1 RX11 TX11 4 := ⟨in_X11, rfl, by decide, q645⟩
theorem lkX11_74 : LV RX11 74 RX2 yX2_begins cX2_begins 4 none := ⟨q666, q608, q609, q116, q610⟩
theorem yn_X11_term : YN yX11_term 2 := by
  unfold YN
  decide +kernel
theorem lkX11_78 : LV RX11 78 RX11 yX11_term cX11_term 5 none := ⟨q675, q677, qs7, q130, q678⟩
theorem fnX11_82 : FN RX11 82 2 0 RX2 TX2 3 "WholePacks" := ⟨in_X2, rfl, by decide, q175⟩
theorem yn_X11_number : YN yX11_number 0 := by
  unfold YN
  decide +kernel
theorem lkX11_85 : LV RX11 85 RX11 yX11_number cX11_number 4 (some .int) := ⟨q752, q754, qs9, q130, q755⟩
theorem fnX11_88 : FN RX11 88 2 1 RX2 TX2 3 "WholePacks" := ⟨in_X2, rfl, by decide, q178⟩
noncomputable def fX11_clause_53 (V1 : Mem) (k35 : Mem → Nat → Nat → Option (Bool × Int32 × Nat × Mem)) (v0 : Mem) (zc : Nat) (n1 : Nat) : Option (Bool × Int32 × Nat × Mem) :=
  ob2 (fX11_is V1 v0 (43 : Int32)) fun r198 w199 =>
  if r198 = 0 then (
  ob2 (fX11_is V1 w199 (45 : Int32)) fun r212 w213 =>
  if r212 = 0 then (
  ob4 (fX11_term V1 n1 w213 (0 : Int32)) fun ok228 re229 rc226 w227 =>
  if ok228 = true then (
  k35 w227 (zc + rc226) n1)
  else (
  some (false, re229, (zc + rc226), w227)))
  else (
  ob4 (fX11_term V1 n1 w213 (-1 : Int32)) fun ok257 re258 rc255 w256 =>
  if ok257 = true then (
  k35 w256 (zc + rc255) n1)
  else (
  some (false, re258, (zc + rc255), w256))))
  else (
  ob4 (fX11_term V1 n1 w199 (1 : Int32)) fun ok286 re287 rc284 w285 =>
  if ok286 = true then (
  k35 w285 (zc + rc284) n1)
  else (
  some (false, re287, (zc + rc284), w285)))
noncomputable def fX11_clause_133 (V1 : Mem) (v0 : Mem) (zc : Nat) (n1 : Nat) (ns0 : Nat) (t1 : Int32) : Option (Bool × Int32 × Nat × Mem) :=
  lm (sI v0 (2 + 2 * ns0 + 0) 0 t1) fun v0_128 =>
  lm (sI v0_128 0 2 ((gI v0_128 0 2) + (1 : Int32))) fun v0_138 =>
  ob5 (fX11_number V1 v0_138) fun ok151 re152 r148 rc149 w150 =>
  if ok151 = true then (
  lm (sI w150 (2 + 2 * n1 + 0) 1 r148) fun v0_164 =>
  lm (sI v0_164 0 1 ((gI v0_164 0 1) + (1 : Int32))) fun v0_174 =>
  some (true, (0 : Int32), (zc + rc149), v0_174))
  else (
  some (false, re152, (zc + rc149), w150))
noncomputable def fX11_clause_118 (V1 : Mem) (v0 : Mem) (zc : Nat) (n1 : Nat) : Option (Bool × Int32 × Nat × Mem) :=
  ob (fX11_here v0 V1) fun r125 =>
  if r125 = (62 : Int32) then (
  fX11_clause_133 V1 v0 zc n1 n1 (0 : Int32))
  else (
  fX11_clause_133 V1 v0 zc n1 n1 (1 : Int32))
noncomputable def fX11_clause_35 (V1 : Mem) (k35 : Mem → Nat → Nat → Option (Bool × Int32 × Nat × Mem)) (v0 : Mem) (zc : Nat) (n1 : Nat) : Option (Bool × Int32 × Nat × Mem) :=
  ob (fX11_here v0 V1) fun r89 =>
  if r89 = (43 : Int32) then (
  fX11_clause_53 V1 k35 v0 zc n1)
  else (
  ob (fX11_here v0 V1) fun r92 =>
  if r92 = (45 : Int32) then (
  fX11_clause_53 V1 k35 v0 zc n1)
  else (
  ob (fX11_here v0 V1) fun r95 =>
  if r95 = (62 : Int32) then (
  fX11_clause_118 V1 v0 zc n1)
  else (
  ob (fX11_here v0 V1) fun r98 =>
  if r98 = (60 : Int32) then (
  fX11_clause_118 V1 v0 zc n1)
  else (
  some (false, (gI v0 0 2), (zc + 1), v0)))))
noncomputable def fX11_clause (V1 : Mem) (v0 : Mem) : Option (Bool × Int32 × Nat × Mem) :=
  gb (inR (gI v0 0 1) 4) (
  ob (fX2_begins (shf v0 (2 + 2 * (gI v0 0 1).toNatClampNeg)) (0 : Int32) (0 : Int32)) fun w3 =>
  lm (ptm v0 (2 + 2 * (gI v0 0 1).toNatClampNeg) 2 w3) fun v0_14 =>
  ob2 (fX11_is V1 v0_14 (45 : Int32)) fun r17 w18 =>
  if r17 = 0 then (
  ob4 (fX11_term V1 (gI v0 0 1).toNatClampNeg w18 (1 : Int32)) fun ok33 re34 rc31 w32 =>
  if ok33 = true then (
  lq3 (fX11_clause_35 V1) FU w32 rc31 (gI v0 0 1).toNatClampNeg)
  else (
  some (false, re34, rc31, w32)))
  else (
  ob4 (fX11_term V1 (gI v0 0 1).toNatClampNeg w18 (-1 : Int32)) fun ok62 re63 rc60 w61 =>
  if ok62 = true then (
  lq3 (fX11_clause_35 V1) FU w61 rc60 (gI v0 0 1).toNatClampNeg)
  else (
  some (false, re63, rc60, w61))))
set_option maxHeartbeats 4000000 in
theorem w_fX11_clause_53 (C : Cx G p s m args meth c RX11 cX11_clause 2 none) {b0 : Nat} {b1 : Nat} {V1 : Mem} {rok : Bool} {re : Int32} {rc : Nat} {rw0 : Mem} (hd01 : b0 + 10 ≤ b1 ∨ b1 + 357 ≤ b0) (he0 : b0 + 10 ≤ s.heap.size) (he1 : b1 + 357 ≤ s.heap.size) (hZ : ZQ G) (hgb0 : gB G ≤ b0) (hgb1 : gB G ≤ b1) (ht : ∀ x ∈ c.exceptionTable.toList, False) {k35 : Mem → Nat → Nat → Option (Bool × Int32 × Nat × Mem)} (hk35 : ∀ (v0 : Mem) (zc : Nat) (n1 : Nat), k35 v0 zc n1 = some (rok, re, rc, rw0) → (hn_n1 : n1 < 4) → ∀ (H : Heap) (locs : List Loc) (ls : Array Slot), rg G b0 10 (shX11 b1 G.2.1) v0 H → rg G b1 357 (shX0 G.2.1) V1 H → va_S (FA (iv b0 10) s.heap.size) s.heap H locs → H.size = s.heap.size + zc → GO G H → lv_has ls 2 [(0, .ref b0), (1, .ref (b0 + (2 + 2 * n1 + 0)))] → W p l e (rmT 5 (bif rok then 0 else 1) (bif rok then 0 else 7) 105) s m args below meth c H locs 0 0 (vx_MQ below (QcX rok (FA (iv b0 10) s.heap.size) (fun ov H => ov = none ∧ rg G b0 10 (shX11 b1 G.2.1) rw0 H ∧ H.size = s.heap.size + rc)) (XcX rok (FA (iv b0 10) s.heap.size) (fun q E H => E = "WholePacks$Fault" ∧ s.heap.size ≤ q ∧ (∃ wx, rg G q 1 (shX12 G.2.1) wx H ∧ gI wx 0 6 = re) ∧ rg G b0 10 (shX11 b1 G.2.1) rw0 H ∧ H.size = s.heap.size + rc)) args s (bif rok then 0 else 1) (bif rok then 0 else 7) (FA (iv b0 10) s.heap.size)) (F0 m 35 ls [])) : ∀ (v0 : Mem) (zc : Nat) (n1 : Nat), fX11_clause_53 V1 k35 v0 zc n1 = some (rok, re, rc, rw0) → (hn_n1 : n1 < 4) → ∀ (H : Heap) (locs : List Loc) (ls : Array Slot), rg G b0 10 (shX11 b1 G.2.1) v0 H → rg G b1 357 (shX0 G.2.1) V1 H → va_S (FA (iv b0 10) s.heap.size) s.heap H locs → H.size = s.heap.size + zc → GO G H → lv_has ls 2 [(0, .ref b0), (1, .ref (b0 + (2 + 2 * n1 + 0)))] → W p l e (rmT 5 (bif rok then 0 else 1) (bif rok then 0 else 7) 105) s m args below meth c H locs 0 0 (vx_MQ below (QcX rok (FA (iv b0 10) s.heap.size) (fun ov H => ov = none ∧ rg G b0 10 (shX11 b1 G.2.1) rw0 H ∧ H.size = s.heap.size + rc)) (XcX rok (FA (iv b0 10) s.heap.size) (fun q E H => E = "WholePacks$Fault" ∧ s.heap.size ≤ q ∧ (∃ wx, rg G q 1 (shX12 G.2.1) wx H ∧ gI wx 0 6 = re) ∧ rg G b0 10 (shX11 b1 G.2.1) rw0 H ∧ H.size = s.heap.size + rc)) args s (bif rok then 0 else 1) (bif rok then 0 else 7) (FA (iv b0 10) s.heap.size)) (F0 m 53 ls []) := by
  intro v0 zc n1 hm hn_n1 H locs ls hW0 hW1 hS hz hG hl
  obtain ⟨hx, hb, hr, hlk, hml, hown, hts, hK⟩ := id C
  unfold fX11_clause_53 at hm
  refine lv_aload_n (pc := 53) hx hb dX11_clause_53 rfl (lv_at hl 0 rfl) ?_
  refine lv_aload_n (pc := 54) hx hb dX11_clause_54 rfl (lv_at hl 1 rfl) ?_
  refine lv_aload_n (pc := 55) hx hb dX11_clause_55 rfl (lv_at hl 0 rfl) ?_
  refine lv_bipush (pc := 56) (v := (43 : Int32)) hx hb dX11_clause_56 (by decide) ?_
  obtain ⟨r198, w199, hq200, hm⟩ := ob2_some hm
  refine rk_TV (pc := 58) (As := [.int (43 : Int32)]) (rest := [.ref (b0 + (2 + 2 * n1 + 0)), .ref b0]) (mc := 0) (ms := 0) hx hb hml hown hts hK hS (fun q hq => FA_sz rfl q hq) lkX11_68 rfl yn_X11_is (ct_X11_is (G := G) (l := l) (b0 := b0) (b1 := b1) (sz := H.size) hq200 (by omega)) ⟨Nat.le_of_ble_eq_true rfl, Nat.le_of_ble_eq_true rfl⟩ (fun z h => Or.inl (show iv _ _ _ from ⟨by have h8 := h.1; have h9 := h.2; omega, by have h8 := h.1; have h9 := h.2; omega⟩)) (rk_recv hK hW0 0 (by decide) rfl rfl rfl) ⟨hW0, hW1⟩ rfl rfl hl.1 (Nat.le_of_ble_eq_true rfl) dX11_clause_58 ⟨Nat.zero_le _, Nat.zero_le _⟩ (fun ov9 H201 locs202 hP203 hkp204 hS205 => ?_)
  obtain ⟨rfl, hW206, hz207⟩ := hP203
  have hW208 := rg_keepX hW1 hkp204 (by intro z h0 h3; have h1 := h0.1.1; have h2 := h0.1.2; have h4 := h0.2; have h8 := h3.1; have h9 := h3.2; omega)
  have hG209 := GO_keepA hG hkp204 (Nat.le_trans (show gB G ≤ s.heap.size by omega) hS.1) (by intro z h3; have h8 := h3.1; have h9 := h3.2; omega)
  have hz210 := hz207.trans hz
  refine W.eq (g2 := F0 m 61 ls [.int r198, .ref (b0 + (2 + 2 * n1 + 0)), .ref b0]) rfl ?_
  refine lv_if_eq (pc := 61) (tgt := 68) hx hb dX11_clause_61 (by decide) (fun c211 => ?_) (fun c211 => ?_)
  · have hm := ite_t c211 hm
    refine lv_aload_n (pc := 68) hx hb dX11_clause_68 rfl (lv_at hl 0 rfl) ?_
    refine lv_bipush (pc := 69) (v := (45 : Int32)) hx hb dX11_clause_69 (by decide) ?_
    obtain ⟨r212, w213, hq214, hm⟩ := ob2_some hm
    refine rk_TV (pc := 71) (As := [.int (45 : Int32)]) (rest := [.ref (b0 + (2 + 2 * n1 + 0)), .ref b0]) (mc := 0) (ms := 0) hx hb hml hown hts hK hS205 (fun q hq => FA_sz rfl q hq) lkX11_68 rfl yn_X11_is (ct_X11_is (G := G) (l := l) (b0 := b0) (b1 := b1) (sz := H201.size) hq214 (by omega)) ⟨Nat.le_of_ble_eq_true rfl, Nat.le_of_ble_eq_true rfl⟩ (fun z h => Or.inl (show iv _ _ _ from ⟨by have h8 := h.1; have h9 := h.2; omega, by have h8 := h.1; have h9 := h.2; omega⟩)) (rk_recv hK hW206 0 (by decide) rfl rfl rfl) ⟨hW206, hW208⟩ rfl rfl hl.1 (Nat.le_of_ble_eq_true rfl) dX11_clause_71 ⟨Nat.zero_le _, Nat.zero_le _⟩ (fun ov9 H215 locs216 hP217 hkp218 hS219 => ?_)
    obtain ⟨rfl, hW220, hz221⟩ := hP217
    have hW222 := rg_keepX hW208 hkp218 (by intro z h0 h3; have h1 := h0.1.1; have h2 := h0.1.2; have h4 := h0.2; have h8 := h3.1; have h9 := h3.2; omega)
    have hG223 := GO_keepA hG209 hkp218 (Nat.le_trans (show gB G ≤ s.heap.size by omega) hS205.1) (by intro z h3; have h8 := h3.1; have h9 := h3.2; omega)
    have hz224 := hz221.trans hz210
    refine W.eq (g2 := F0 m 74 ls [.int r212, .ref (b0 + (2 + 2 * n1 + 0)), .ref b0]) rfl ?_
    refine lv_if_eq (pc := 74) (tgt := 81) hx hb dX11_clause_74 (by decide) (fun c225 => ?_) (fun c225 => ?_)
    · have hm := ite_t c225 hm
      refine lv_iconst (pc := 81) (v := (0 : Int32)) hx hb dX11_clause_81 (by decide) ?_
      obtain ⟨ok228, re229, rc226, w227, hq230, hm⟩ := ob4_some hm
      by_cases hok : ok228 = true
      · subst hok
        have hm := ite_t rfl hm
        refine rk_TV (pc := 82) (As := [.ref (b0 + (2 + 2 * n1 + 0)), .int (0 : Int32)]) (rest := []) (mc := 0) (ms := 0) hx hb hml hown hts hK hS219 (fun q hq => FA_sz rfl q hq) lkX11_78 rfl yn_X11_term (CX.ret (ct_X11_term (G := G) (l := l) (rok := true) (b0 := b0) (b1 := b1) (sz := H215.size) hq230 (by omega) hn_n1 hZ (by omega) (by omega))) ⟨Nat.le_of_ble_eq_true rfl, Nat.le_of_ble_eq_true rfl⟩ (fun z h => Or.inl (show iv _ _ _ from ⟨by have h8 := h.1; have h9 := h.2; omega, by have h8 := h.1; have h9 := h.2; omega⟩)) (rk_recv hK hW220 0 (by decide) rfl rfl rfl) ⟨hW220, hW222, hG223⟩ rfl rfl hl.1 (Nat.le_of_ble_eq_true rfl) dX11_clause_82 ⟨Nat.zero_le _, Nat.zero_le _⟩ (fun ov9 H231 locs232 hP233 hkp234 hS235 => ?_)
        obtain ⟨rfl, hW236, hz237⟩ := hP233
        have hW238 := rg_keepX hW222 hkp234 (by intro z h0 h3; have h1 := h0.1.1; have h2 := h0.1.2; have h4 := h0.2; have h8 := h3.1; have h9 := h3.2; omega)
        have hG239 := GO_keepA hG223 hkp234 (Nat.le_trans (show gB G ≤ s.heap.size by omega) hS219.1) (by intro z h3; have h8 := h3.1; have h9 := h3.2; omega)
        have hz240 : H231.size = s.heap.size + (zc + rc226) := by omega
        refine W.eq (g2 := F0 m 85 ls []) rfl ?_
        refine lv_goto (pc := 85) (tgt := 35) hx hb dX11_clause_85 (by decide) ?_
        exact hk35 w227 (zc + rc226) n1 hm hn_n1 H231 locs232 ls hW236 hW238 hS235 hz240 hG239 (lv_sub hl [0, 1] rfl)
      · have hok := eq_false_of_ne_true hok
        subst hok
        have hm := ite_f Bool.false_ne_true hm
        have hok9 : false = rok := (by exact (rs4 hm).1)
        subst hok9
        refine rk_XV (pc := 82) (As := [.ref (b0 + (2 + 2 * n1 + 0)), .int (0 : Int32)]) (rest := []) (mc := 1) (ms := 7) hx hb hml hown hts hK hS219 (fun q hq => FA_sz rfl q hq) lkX11_78 rfl yn_X11_term (ct_X11_term (G := G) (l := l) (rok := false) (b0 := b0) (b1 := b1) (sz := H215.size) hq230 (by omega) hn_n1 hZ (by omega) (by omega)) ⟨Nat.le_of_ble_eq_true rfl, Nat.le_of_ble_eq_true rfl⟩ (fun z h => Or.inl (show iv _ _ _ from ⟨by have h8 := h.1; have h9 := h.2; omega, by have h8 := h.1; have h9 := h.2; omega⟩)) (rk_recv hK hW220 0 (by decide) rfl rfl rfl) ⟨hW220, hW222, hG223⟩ rfl rfl hl.1 (Nat.le_of_ble_eq_true rfl) dX11_clause_82 ⟨Nat.le_of_ble_eq_true rfl, Nat.le_of_ble_eq_true rfl⟩ (fun q246 E9 ce9 H241 locs242 hP243 hkp244 hS245 hce9 hcv9 hcl9 => ?_)
        obtain ⟨rfl, hqq246, ⟨wx248, hW249, hre250⟩, hW247, hz251⟩ := hP243
        have hqq246 : s.heap.size ≤ q246 := Nat.le_trans hS219.1 hqq246
        have hW252 := rg_keepX hW222 hkp244 (by intro z h0 h3; have h1 := h0.1.1; have h2 := h0.1.2; have h4 := h0.2; have h8 := h3.1; have h9 := h3.2; omega)
        have hG253 := GO_keepA hG223 hkp244 (Nat.le_trans (show gB G ≤ s.heap.size by omega) hS219.1) (by intro z h3; have h8 := h3.1; have h9 := h3.2; omega)
        have hz254 : H241.size = s.heap.size + (zc + rc226) := by omega
        obtain ⟨ce8, hce8, hcv8, hcl8⟩ := rk_exc hK hW249 rfl rfl
        obtain ⟨e6, e7, e8, e9⟩ := rs4 hm
        cases e6
        subst e7
        subst e8
        subst e9
        exact rk_xout (fun x h => (ht x h).elim) hlk hS245 hce8 hcv8 hcl8 ⟨rfl, hqq246, ⟨_, hW249, hre250⟩, hW247, hz254⟩ (by exact Nat.le_of_ble_eq_true rfl) (by exact Nat.le_of_ble_eq_true rfl)
    · have hm := ite_f c225 hm
      refine lv_iconst (pc := 77) (v := (-1 : Int32)) hx hb dX11_clause_77 (by decide) ?_
      refine lv_goto (pc := 78) (tgt := 82) hx hb dX11_clause_78 (by decide) ?_
      obtain ⟨ok257, re258, rc255, w256, hq259, hm⟩ := ob4_some hm
      by_cases hok : ok257 = true
      · subst hok
        have hm := ite_t rfl hm
        refine rk_TV (pc := 82) (As := [.ref (b0 + (2 + 2 * n1 + 0)), .int (-1 : Int32)]) (rest := []) (mc := 0) (ms := 0) hx hb hml hown hts hK hS219 (fun q hq => FA_sz rfl q hq) lkX11_78 rfl yn_X11_term (CX.ret (ct_X11_term (G := G) (l := l) (rok := true) (b0 := b0) (b1 := b1) (sz := H215.size) hq259 (by omega) hn_n1 hZ (by omega) (by omega))) ⟨Nat.le_of_ble_eq_true rfl, Nat.le_of_ble_eq_true rfl⟩ (fun z h => Or.inl (show iv _ _ _ from ⟨by have h8 := h.1; have h9 := h.2; omega, by have h8 := h.1; have h9 := h.2; omega⟩)) (rk_recv hK hW220 0 (by decide) rfl rfl rfl) ⟨hW220, hW222, hG223⟩ rfl rfl hl.1 (Nat.le_of_ble_eq_true rfl) dX11_clause_82 ⟨Nat.zero_le _, Nat.zero_le _⟩ (fun ov9 H260 locs261 hP262 hkp263 hS264 => ?_)
        obtain ⟨rfl, hW265, hz266⟩ := hP262
        have hW267 := rg_keepX hW222 hkp263 (by intro z h0 h3; have h1 := h0.1.1; have h2 := h0.1.2; have h4 := h0.2; have h8 := h3.1; have h9 := h3.2; omega)
        have hG268 := GO_keepA hG223 hkp263 (Nat.le_trans (show gB G ≤ s.heap.size by omega) hS219.1) (by intro z h3; have h8 := h3.1; have h9 := h3.2; omega)
        have hz269 : H260.size = s.heap.size + (zc + rc255) := by omega
        refine W.eq (g2 := F0 m 85 ls []) rfl ?_
        refine lv_goto (pc := 85) (tgt := 35) hx hb dX11_clause_85 (by decide) ?_
        exact hk35 w256 (zc + rc255) n1 hm hn_n1 H260 locs261 ls hW265 hW267 hS264 hz269 hG268 (lv_sub hl [0, 1] rfl)
      · have hok := eq_false_of_ne_true hok
        subst hok
        have hm := ite_f Bool.false_ne_true hm
        have hok9 : false = rok := (by exact (rs4 hm).1)
        subst hok9
        refine rk_XV (pc := 82) (As := [.ref (b0 + (2 + 2 * n1 + 0)), .int (-1 : Int32)]) (rest := []) (mc := 1) (ms := 7) hx hb hml hown hts hK hS219 (fun q hq => FA_sz rfl q hq) lkX11_78 rfl yn_X11_term (ct_X11_term (G := G) (l := l) (rok := false) (b0 := b0) (b1 := b1) (sz := H215.size) hq259 (by omega) hn_n1 hZ (by omega) (by omega)) ⟨Nat.le_of_ble_eq_true rfl, Nat.le_of_ble_eq_true rfl⟩ (fun z h => Or.inl (show iv _ _ _ from ⟨by have h8 := h.1; have h9 := h.2; omega, by have h8 := h.1; have h9 := h.2; omega⟩)) (rk_recv hK hW220 0 (by decide) rfl rfl rfl) ⟨hW220, hW222, hG223⟩ rfl rfl hl.1 (Nat.le_of_ble_eq_true rfl) dX11_clause_82 ⟨Nat.le_of_ble_eq_true rfl, Nat.le_of_ble_eq_true rfl⟩ (fun q275 E9 ce9 H270 locs271 hP272 hkp273 hS274 hce9 hcv9 hcl9 => ?_)
        obtain ⟨rfl, hqq275, ⟨wx277, hW278, hre279⟩, hW276, hz280⟩ := hP272
        have hqq275 : s.heap.size ≤ q275 := Nat.le_trans hS219.1 hqq275
        have hW281 := rg_keepX hW222 hkp273 (by intro z h0 h3; have h1 := h0.1.1; have h2 := h0.1.2; have h4 := h0.2; have h8 := h3.1; have h9 := h3.2; omega)
        have hG282 := GO_keepA hG223 hkp273 (Nat.le_trans (show gB G ≤ s.heap.size by omega) hS219.1) (by intro z h3; have h8 := h3.1; have h9 := h3.2; omega)
        have hz283 : H270.size = s.heap.size + (zc + rc255) := by omega
        obtain ⟨ce8, hce8, hcv8, hcl8⟩ := rk_exc hK hW278 rfl rfl
        obtain ⟨e6, e7, e8, e9⟩ := rs4 hm
        cases e6
        subst e7
        subst e8
        subst e9
        exact rk_xout (fun x h => (ht x h).elim) hlk hS274 hce8 hcv8 hcl8 ⟨rfl, hqq275, ⟨_, hW278, hre279⟩, hW276, hz283⟩ (by exact Nat.le_of_ble_eq_true rfl) (by exact Nat.le_of_ble_eq_true rfl)
  · have hm := ite_f c211 hm
    refine lv_iconst (pc := 64) (v := (1 : Int32)) hx hb dX11_clause_64 (by decide) ?_
    refine lv_goto (pc := 65) (tgt := 82) hx hb dX11_clause_65 (by decide) ?_
    obtain ⟨ok286, re287, rc284, w285, hq288, hm⟩ := ob4_some hm
    by_cases hok : ok286 = true
    · subst hok
      have hm := ite_t rfl hm
      refine rk_TV (pc := 82) (As := [.ref (b0 + (2 + 2 * n1 + 0)), .int (1 : Int32)]) (rest := []) (mc := 0) (ms := 0) hx hb hml hown hts hK hS205 (fun q hq => FA_sz rfl q hq) lkX11_78 rfl yn_X11_term (CX.ret (ct_X11_term (G := G) (l := l) (rok := true) (b0 := b0) (b1 := b1) (sz := H201.size) hq288 (by omega) hn_n1 hZ (by omega) (by omega))) ⟨Nat.le_of_ble_eq_true rfl, Nat.le_of_ble_eq_true rfl⟩ (fun z h => Or.inl (show iv _ _ _ from ⟨by have h8 := h.1; have h9 := h.2; omega, by have h8 := h.1; have h9 := h.2; omega⟩)) (rk_recv hK hW206 0 (by decide) rfl rfl rfl) ⟨hW206, hW208, hG209⟩ rfl rfl hl.1 (Nat.le_of_ble_eq_true rfl) dX11_clause_82 ⟨Nat.zero_le _, Nat.zero_le _⟩ (fun ov9 H289 locs290 hP291 hkp292 hS293 => ?_)
      obtain ⟨rfl, hW294, hz295⟩ := hP291
      have hW296 := rg_keepX hW208 hkp292 (by intro z h0 h3; have h1 := h0.1.1; have h2 := h0.1.2; have h4 := h0.2; have h8 := h3.1; have h9 := h3.2; omega)
      have hG297 := GO_keepA hG209 hkp292 (Nat.le_trans (show gB G ≤ s.heap.size by omega) hS205.1) (by intro z h3; have h8 := h3.1; have h9 := h3.2; omega)
      have hz298 : H289.size = s.heap.size + (zc + rc284) := by omega
      refine W.eq (g2 := F0 m 85 ls []) rfl ?_
      refine lv_goto (pc := 85) (tgt := 35) hx hb dX11_clause_85 (by decide) ?_
      exact hk35 w285 (zc + rc284) n1 hm hn_n1 H289 locs290 ls hW294 hW296 hS293 hz298 hG297 (lv_sub hl [0, 1] rfl)
    · have hok := eq_false_of_ne_true hok
      subst hok
      have hm := ite_f Bool.false_ne_true hm
      have hok9 : false = rok := (by exact (rs4 hm).1)
      subst hok9
      refine rk_XV (pc := 82) (As := [.ref (b0 + (2 + 2 * n1 + 0)), .int (1 : Int32)]) (rest := []) (mc := 1) (ms := 7) hx hb hml hown hts hK hS205 (fun q hq => FA_sz rfl q hq) lkX11_78 rfl yn_X11_term (ct_X11_term (G := G) (l := l) (rok := false) (b0 := b0) (b1 := b1) (sz := H201.size) hq288 (by omega) hn_n1 hZ (by omega) (by omega)) ⟨Nat.le_of_ble_eq_true rfl, Nat.le_of_ble_eq_true rfl⟩ (fun z h => Or.inl (show iv _ _ _ from ⟨by have h8 := h.1; have h9 := h.2; omega, by have h8 := h.1; have h9 := h.2; omega⟩)) (rk_recv hK hW206 0 (by decide) rfl rfl rfl) ⟨hW206, hW208, hG209⟩ rfl rfl hl.1 (Nat.le_of_ble_eq_true rfl) dX11_clause_82 ⟨Nat.le_of_ble_eq_true rfl, Nat.le_of_ble_eq_true rfl⟩ (fun q304 E9 ce9 H299 locs300 hP301 hkp302 hS303 hce9 hcv9 hcl9 => ?_)
      obtain ⟨rfl, hqq304, ⟨wx306, hW307, hre308⟩, hW305, hz309⟩ := hP301
      have hqq304 : s.heap.size ≤ q304 := Nat.le_trans hS205.1 hqq304
      have hW310 := rg_keepX hW208 hkp302 (by intro z h0 h3; have h1 := h0.1.1; have h2 := h0.1.2; have h4 := h0.2; have h8 := h3.1; have h9 := h3.2; omega)
      have hG311 := GO_keepA hG209 hkp302 (Nat.le_trans (show gB G ≤ s.heap.size by omega) hS205.1) (by intro z h3; have h8 := h3.1; have h9 := h3.2; omega)
      have hz312 : H299.size = s.heap.size + (zc + rc284) := by omega
      obtain ⟨ce8, hce8, hcv8, hcl8⟩ := rk_exc hK hW307 rfl rfl
      obtain ⟨e6, e7, e8, e9⟩ := rs4 hm
      cases e6
      subst e7
      subst e8
      subst e9
      exact rk_xout (fun x h => (ht x h).elim) hlk hS303 hce8 hcv8 hcl8 ⟨rfl, hqq304, ⟨_, hW307, hre308⟩, hW305, hz312⟩ (by exact Nat.le_of_ble_eq_true rfl) (by exact Nat.le_of_ble_eq_true rfl)
set_option maxHeartbeats 4000000 in
theorem w_fX11_clause_133 (C : Cx G p s m args meth c RX11 cX11_clause 2 none) {b0 : Nat} {b1 : Nat} {V1 : Mem} {rok : Bool} {re : Int32} {rc : Nat} {rw0 : Mem} (hd01 : b0 + 10 ≤ b1 ∨ b1 + 357 ≤ b0) (he0 : b0 + 10 ≤ s.heap.size) (he1 : b1 + 357 ≤ s.heap.size) (hZ : ZQ G) (hgb0 : gB G ≤ b0) (hgb1 : gB G ≤ b1) (ht : ∀ x ∈ c.exceptionTable.toList, False) : ∀ (v0 : Mem) (zc : Nat) (n1 : Nat) (ns0 : Nat) (t1 : Int32), fX11_clause_133 V1 v0 zc n1 ns0 t1 = some (rok, re, rc, rw0) → (hn_n1 : n1 < 4) → (hn_ns0 : ns0 < 4) → ∀ (H : Heap) (locs : List Loc) (ls : Array Slot), rg G b0 10 (shX11 b1 G.2.1) v0 H → rg G b1 357 (shX0 G.2.1) V1 H → va_S (FA (iv b0 10) s.heap.size) s.heap H locs → H.size = s.heap.size + zc → GO G H → lv_has ls 2 [(0, .ref b0), (1, .ref (b0 + (2 + 2 * n1 + 0)))] → W p l e (rmT 5 (bif rok then 0 else 1) (bif rok then 0 else 7) 105) s m args below meth c H locs 0 0 (vx_MQ below (QcX rok (FA (iv b0 10) s.heap.size) (fun ov H => ov = none ∧ rg G b0 10 (shX11 b1 G.2.1) rw0 H ∧ H.size = s.heap.size + rc)) (XcX rok (FA (iv b0 10) s.heap.size) (fun q E H => E = "WholePacks$Fault" ∧ s.heap.size ≤ q ∧ (∃ wx, rg G q 1 (shX12 G.2.1) wx H ∧ gI wx 0 6 = re) ∧ rg G b0 10 (shX11 b1 G.2.1) rw0 H ∧ H.size = s.heap.size + rc)) args s (bif rok then 0 else 1) (bif rok then 0 else 7) (FA (iv b0 10) s.heap.size)) (F0 m 133 ls [.int t1, .ref (b0 + (2 + 2 * ns0 + 0))]) := by
  intro v0 zc n1 ns0 t1 hm hn_n1 hn_ns0 H locs ls hW0 hW1 hS hz hG hl
  obtain ⟨hx, hb, hr, hlk, hml, hown, hts, hK⟩ := id C
  unfold fX11_clause_133 at hm
  refine rk_putN (pc := 133) hx hb hts hown hK hW0 hS fnX11_82 ft_X2 (2 + 2 * ns0 + 0) (by omega) rfl (Or.inl (show iv _ _ _ from ⟨by omega, by omega⟩)) ((shX11_f2 G.2.1 hn_ns0 _ rfl 0 (by decide) _ _ _).trans rfl) rfl (x := .int t1) rfl rfl (Nat.le_of_ble_eq_true rfl) (sI v0 (2 + 2 * ns0 + 0) 0 t1) sI_ne (by rw [sI_eq]; exact ((shX11_f2 G.2.1 hn_ns0 _ rfl 0 (by decide) _ _ _).trans rfl)) dX11_clause_133 (fun H129 locs130 hW131 hS132 hz133 hkp134 => ?_)
  obtain ⟨v0_128, he9, hm⟩ := lm_some hm
  rw [he9] at hW131
  have hW135 := rg_keepq hW1 hkp134 (by omega)
  have hz136 := hz133.trans hz
  have hG137 := GO_keepq hG hkp134 (by omega)
  refine lv_aload_n (pc := 136) hx hb dX11_clause_136 rfl (lv_at hl 0 rfl) ?_
  refine lv_dup (pc := 137) hx hb dX11_clause_137 rfl ?_
  refine rk_get (pc := 138) hx hb hts hown hK hW131 flX11_22 0 (by decide) rfl rfl (x := .int (gI v0_128 0 2)) rfl dX11_clause_138 ?_
  refine lv_iconst (pc := 141) (v := (1 : Int32)) hx hb dX11_clause_141 (by decide) ?_
  refine lv_iadd (pc := 142) hx hb dX11_clause_142 ?_
  refine rk_put (pc := 143) hx hb hts hown hK hW131 hS132 flX11_22 ft_X11 0 (by decide) rfl (Or.inl (show iv _ _ _ from ⟨by omega, by omega⟩)) rfl rfl (x := .int ((gI v0_128 0 2) + (1 : Int32))) rfl rfl (Nat.le_of_ble_eq_true rfl) (sI v0_128 0 2 ((gI v0_128 0 2) + (1 : Int32))) sI_ne (by rw [sI_eq]; exact rfl) dX11_clause_143 (fun H139 locs140 hW141 hS142 hz143 hkp144 => ?_)
  obtain ⟨v0_138, he9, hm⟩ := lm_some hm
  rw [he9] at hW141
  have hW145 := rg_keepq hW135 hkp144 (by omega)
  have hz146 := hz143.trans hz136
  have hG147 := GO_keepq hG137 hkp144 (by omega)
  refine lv_aload_n (pc := 146) hx hb dX11_clause_146 rfl (lv_at hl 1 rfl) ?_
  refine lv_aload_n (pc := 147) hx hb dX11_clause_147 rfl (lv_at hl 0 rfl) ?_
  obtain ⟨ok151, re152, r148, rc149, w150, hq153, hm⟩ := ob5_some hm
  by_cases hok : ok151 = true
  · subst hok
    have hm := ite_t rfl hm
    refine rk_TV (pc := 148) (As := []) (rest := [.ref (b0 + (2 + 2 * n1 + 0))]) (mc := 0) (ms := 0) hx hb hml hown hts hK hS142 (fun q hq => FA_sz rfl q hq) lkX11_85 rfl yn_X11_number (CX.ret (ct_X11_number (G := G) (l := l) (rok := true) (b0 := b0) (b1 := b1) (sz := H139.size) hq153 (by omega) hZ (by omega) (by omega))) ⟨Nat.le_of_ble_eq_true rfl, Nat.le_of_ble_eq_true rfl⟩ (fun z h => Or.inl (show iv _ _ _ from ⟨by have h8 := h.1; have h9 := h.2; omega, by have h8 := h.1; have h9 := h.2; omega⟩)) (rk_recv hK hW141 0 (by decide) rfl rfl rfl) ⟨hW141, hW145, hG147⟩ rfl rfl hl.1 (Nat.le_of_ble_eq_true rfl) dX11_clause_148 ⟨Nat.zero_le _, Nat.zero_le _⟩ (fun ov9 H154 locs155 hP156 hkp157 hS158 => ?_)
    obtain ⟨rfl, hW159, hz160⟩ := hP156
    have hW161 := rg_keepX hW145 hkp157 (by intro z h0 h3; have h1 := h0.1.1; have h2 := h0.1.2; have h4 := h0.2; have h8 := h3.1; have h9 := h3.2; omega)
    have hG162 := GO_keepA hG147 hkp157 (Nat.le_trans (show gB G ≤ s.heap.size by omega) hS142.1) (by intro z h3; have h8 := h3.1; have h9 := h3.2; omega)
    have hz163 : H154.size = s.heap.size + (zc + rc149) := by omega
    refine W.eq (g2 := F0 m 151 ls [.int r148, .ref (b0 + (2 + 2 * n1 + 0))]) rfl ?_
    refine rk_putN (pc := 151) hx hb hts hown hK hW159 hS158 fnX11_88 ft_X2 (2 + 2 * n1 + 0) (by omega) rfl (Or.inl (show iv _ _ _ from ⟨by omega, by omega⟩)) ((shX11_f2 G.2.1 hn_n1 _ rfl 0 (by decide) _ _ _).trans rfl) rfl (x := .int r148) rfl rfl (Nat.le_of_ble_eq_true rfl) (sI w150 (2 + 2 * n1 + 0) 1 r148) sI_ne (by rw [sI_eq]; exact ((shX11_f2 G.2.1 hn_n1 _ rfl 0 (by decide) _ _ _).trans rfl)) dX11_clause_151 (fun H165 locs166 hW167 hS168 hz169 hkp170 => ?_)
    obtain ⟨v0_164, he9, hm⟩ := lm_some hm
    rw [he9] at hW167
    have hW171 := rg_keepq hW161 hkp170 (by omega)
    have hz172 := hz169.trans hz163
    have hG173 := GO_keepq hG162 hkp170 (by omega)
    refine lv_aload_n (pc := 154) hx hb dX11_clause_154 rfl (lv_at hl 0 rfl) ?_
    refine lv_dup (pc := 155) hx hb dX11_clause_155 rfl ?_
    refine rk_get (pc := 156) hx hb hts hown hK hW167 flX11_71 0 (by decide) rfl rfl (x := .int (gI v0_164 0 1)) rfl dX11_clause_156 ?_
    refine lv_iconst (pc := 159) (v := (1 : Int32)) hx hb dX11_clause_159 (by decide) ?_
    refine lv_iadd (pc := 160) hx hb dX11_clause_160 ?_
    refine rk_put (pc := 161) hx hb hts hown hK hW167 hS168 flX11_71 ft_X11 0 (by decide) rfl (Or.inl (show iv _ _ _ from ⟨by omega, by omega⟩)) rfl rfl (x := .int ((gI v0_164 0 1) + (1 : Int32))) rfl rfl (Nat.le_of_ble_eq_true rfl) (sI v0_164 0 1 ((gI v0_164 0 1) + (1 : Int32))) sI_ne (by rw [sI_eq]; exact rfl) dX11_clause_161 (fun H175 locs176 hW177 hS178 hz179 hkp180 => ?_)
    obtain ⟨v0_174, he9, hm⟩ := lm_some hm
    rw [he9] at hW177
    have hW181 := rg_keepq hW171 hkp180 (by omega)
    have hz182 := hz179.trans hz172
    have hG183 := GO_keepq hG173 hkp180 (by omega)
    obtain ⟨e6, e7, e8, e9⟩ := rs4 hm
    cases e6
    subst e7
    subst e8
    subst e9
    exact rk_vretX (pc := 164) hx hb hr hlk hS178 ⟨rfl, hW177, hz182⟩ dX11_clause_164 (by exact Nat.le_of_ble_eq_true rfl) (by exact Nat.le_of_ble_eq_true rfl)
  · have hok := eq_false_of_ne_true hok
    subst hok
    have hm := ite_f Bool.false_ne_true hm
    have hok9 : false = rok := (by exact (rs4 hm).1)
    subst hok9
    refine rk_XV (pc := 148) (As := []) (rest := [.ref (b0 + (2 + 2 * n1 + 0))]) (mc := 1) (ms := 7) hx hb hml hown hts hK hS142 (fun q hq => FA_sz rfl q hq) lkX11_85 rfl yn_X11_number (ct_X11_number (G := G) (l := l) (rok := false) (b0 := b0) (b1 := b1) (sz := H139.size) hq153 (by omega) hZ (by omega) (by omega)) ⟨Nat.le_of_ble_eq_true rfl, Nat.le_of_ble_eq_true rfl⟩ (fun z h => Or.inl (show iv _ _ _ from ⟨by have h8 := h.1; have h9 := h.2; omega, by have h8 := h.1; have h9 := h.2; omega⟩)) (rk_recv hK hW141 0 (by decide) rfl rfl rfl) ⟨hW141, hW145, hG147⟩ rfl rfl hl.1 (Nat.le_of_ble_eq_true rfl) dX11_clause_148 ⟨Nat.le_of_ble_eq_true rfl, Nat.le_of_ble_eq_true rfl⟩ (fun q189 E9 ce9 H184 locs185 hP186 hkp187 hS188 hce9 hcv9 hcl9 => ?_)
    obtain ⟨rfl, hqq189, ⟨wx191, hW192, hre193⟩, hW190, hz194⟩ := hP186
    have hqq189 : s.heap.size ≤ q189 := Nat.le_trans hS142.1 hqq189
    have hW195 := rg_keepX hW145 hkp187 (by intro z h0 h3; have h1 := h0.1.1; have h2 := h0.1.2; have h4 := h0.2; have h8 := h3.1; have h9 := h3.2; omega)
    have hG196 := GO_keepA hG147 hkp187 (Nat.le_trans (show gB G ≤ s.heap.size by omega) hS142.1) (by intro z h3; have h8 := h3.1; have h9 := h3.2; omega)
    have hz197 : H184.size = s.heap.size + (zc + rc149) := by omega
    obtain ⟨ce8, hce8, hcv8, hcl8⟩ := rk_exc hK hW192 rfl rfl
    obtain ⟨e6, e7, e8, e9⟩ := rs4 hm
    cases e6
    subst e7
    subst e8
    subst e9
    exact rk_xout (fun x h => (ht x h).elim) hlk hS188 hce8 hcv8 hcl8 ⟨rfl, hqq189, ⟨_, hW192, hre193⟩, hW190, hz197⟩ (by exact Nat.le_of_ble_eq_true rfl) (by exact Nat.le_of_ble_eq_true rfl)
set_option maxHeartbeats 4000000 in
theorem w_fX11_clause_118 (C : Cx G p s m args meth c RX11 cX11_clause 2 none) {b0 : Nat} {b1 : Nat} {V1 : Mem} {rok : Bool} {re : Int32} {rc : Nat} {rw0 : Mem} (hd01 : b0 + 10 ≤ b1 ∨ b1 + 357 ≤ b0) (he0 : b0 + 10 ≤ s.heap.size) (he1 : b1 + 357 ≤ s.heap.size) (hZ : ZQ G) (hgb0 : gB G ≤ b0) (hgb1 : gB G ≤ b1) (ht : ∀ x ∈ c.exceptionTable.toList, False) : ∀ (v0 : Mem) (zc : Nat) (n1 : Nat), fX11_clause_118 V1 v0 zc n1 = some (rok, re, rc, rw0) → (hn_n1 : n1 < 4) → ∀ (H : Heap) (locs : List Loc) (ls : Array Slot), rg G b0 10 (shX11 b1 G.2.1) v0 H → rg G b1 357 (shX0 G.2.1) V1 H → va_S (FA (iv b0 10) s.heap.size) s.heap H locs → H.size = s.heap.size + zc → GO G H → lv_has ls 2 [(0, .ref b0), (1, .ref (b0 + (2 + 2 * n1 + 0)))] → W p l e (rmT 5 (bif rok then 0 else 1) (bif rok then 0 else 7) 105) s m args below meth c H locs 0 0 (vx_MQ below (QcX rok (FA (iv b0 10) s.heap.size) (fun ov H => ov = none ∧ rg G b0 10 (shX11 b1 G.2.1) rw0 H ∧ H.size = s.heap.size + rc)) (XcX rok (FA (iv b0 10) s.heap.size) (fun q E H => E = "WholePacks$Fault" ∧ s.heap.size ≤ q ∧ (∃ wx, rg G q 1 (shX12 G.2.1) wx H ∧ gI wx 0 6 = re) ∧ rg G b0 10 (shX11 b1 G.2.1) rw0 H ∧ H.size = s.heap.size + rc)) args s (bif rok then 0 else 1) (bif rok then 0 else 7) (FA (iv b0 10) s.heap.size)) (F0 m 118 ls []) := by
  intro v0 zc n1 hm hn_n1 H locs ls hW0 hW1 hS hz hG hl
  obtain ⟨hx, hb, hr, hlk, hml, hown, hts, hK⟩ := id C
  unfold fX11_clause_118 at hm
  refine lv_aload_n (pc := 118) hx hb dX11_clause_118 rfl (lv_at hl 1 rfl) ?_
  refine lv_aload_n (pc := 119) hx hb dX11_clause_119 rfl (lv_at hl 0 rfl) ?_
  obtain ⟨r125, hq126, hm⟩ := ob_some hm
  refine rk_PV (pc := 120) (As := []) (rest := [.ref (b0 + (2 + 2 * n1 + 0))]) hx hb hml hown hts hK lkX11_33 rfl yn_X11_here (ct_X11_here (G := G) (l := l) (b0 := b0) (b1 := b1) hq126) ⟨Nat.le_of_ble_eq_true rfl, Nat.le_of_ble_eq_true rfl⟩ (rk_recv hK hW0 0 (by decide) rfl rfl rfl) ⟨hW0, hW1⟩ rfl rfl hl.1 (Nat.le_of_ble_eq_true rfl) dX11_clause_120 ⟨Nat.zero_le _, Nat.zero_le _⟩ ?_
  refine W.eq (g2 := F0 m 123 ls [.int r125, .ref (b0 + (2 + 2 * n1 + 0))]) rfl ?_
  refine lv_bipush (pc := 123) (v := (62 : Int32)) hx hb dX11_clause_123 (by decide) ?_
  refine lv_icmp_ne (pc := 125) (tgt := 132) hx hb dX11_clause_125 (by decide) (fun c127 => ?_) (fun c127 => ?_)
  · have hm := ite_f c127 hm
    refine lv_iconst (pc := 132) (v := (1 : Int32)) hx hb dX11_clause_132 (by decide) ?_
    exact (w_fX11_clause_133 C hd01 he0 he1 hZ hgb0 hgb1 ht) v0 zc n1 n1 (1 : Int32) hm hn_n1 hn_n1 H locs ls hW0 hW1 hS hz hG (lv_sub hl [0, 1] rfl)
  · have hm := ite_t c127 hm
    refine lv_iconst (pc := 128) (v := (0 : Int32)) hx hb dX11_clause_128 (by decide) ?_
    refine lv_goto (pc := 129) (tgt := 133) hx hb dX11_clause_129 (by decide) ?_
    exact (w_fX11_clause_133 C hd01 he0 he1 hZ hgb0 hgb1 ht) v0 zc n1 n1 (0 : Int32) hm hn_n1 hn_n1 H locs ls hW0 hW1 hS hz hG (lv_sub hl [0, 1] rfl)
set_option maxHeartbeats 4000000 in
theorem w_fX11_clause_35 (C : Cx G p s m args meth c RX11 cX11_clause 2 none) {b0 : Nat} {b1 : Nat} {V1 : Mem} {rok : Bool} {re : Int32} {rc : Nat} {rw0 : Mem} (hd01 : b0 + 10 ≤ b1 ∨ b1 + 357 ≤ b0) (he0 : b0 + 10 ≤ s.heap.size) (he1 : b1 + 357 ≤ s.heap.size) (hZ : ZQ G) (hgb0 : gB G ≤ b0) (hgb1 : gB G ≤ b1) (ht : ∀ x ∈ c.exceptionTable.toList, False) {k35 : Mem → Nat → Nat → Option (Bool × Int32 × Nat × Mem)} (hk35 : ∀ (v0 : Mem) (zc : Nat) (n1 : Nat), k35 v0 zc n1 = some (rok, re, rc, rw0) → (hn_n1 : n1 < 4) → ∀ (H : Heap) (locs : List Loc) (ls : Array Slot), rg G b0 10 (shX11 b1 G.2.1) v0 H → rg G b1 357 (shX0 G.2.1) V1 H → va_S (FA (iv b0 10) s.heap.size) s.heap H locs → H.size = s.heap.size + zc → GO G H → lv_has ls 2 [(0, .ref b0), (1, .ref (b0 + (2 + 2 * n1 + 0)))] → W p l e (rmT 5 (bif rok then 0 else 1) (bif rok then 0 else 7) 105) s m args below meth c H locs 0 0 (vx_MQ below (QcX rok (FA (iv b0 10) s.heap.size) (fun ov H => ov = none ∧ rg G b0 10 (shX11 b1 G.2.1) rw0 H ∧ H.size = s.heap.size + rc)) (XcX rok (FA (iv b0 10) s.heap.size) (fun q E H => E = "WholePacks$Fault" ∧ s.heap.size ≤ q ∧ (∃ wx, rg G q 1 (shX12 G.2.1) wx H ∧ gI wx 0 6 = re) ∧ rg G b0 10 (shX11 b1 G.2.1) rw0 H ∧ H.size = s.heap.size + rc)) args s (bif rok then 0 else 1) (bif rok then 0 else 7) (FA (iv b0 10) s.heap.size)) (F0 m 35 ls [])) : ∀ (v0 : Mem) (zc : Nat) (n1 : Nat), fX11_clause_35 V1 k35 v0 zc n1 = some (rok, re, rc, rw0) → (hn_n1 : n1 < 4) → ∀ (H : Heap) (locs : List Loc) (ls : Array Slot), rg G b0 10 (shX11 b1 G.2.1) v0 H → rg G b1 357 (shX0 G.2.1) V1 H → va_S (FA (iv b0 10) s.heap.size) s.heap H locs → H.size = s.heap.size + zc → GO G H → lv_has ls 2 [(0, .ref b0), (1, .ref (b0 + (2 + 2 * n1 + 0)))] → W p l e (rmT 5 (bif rok then 0 else 1) (bif rok then 0 else 7) 105) s m args below meth c H locs 0 0 (vx_MQ below (QcX rok (FA (iv b0 10) s.heap.size) (fun ov H => ov = none ∧ rg G b0 10 (shX11 b1 G.2.1) rw0 H ∧ H.size = s.heap.size + rc)) (XcX rok (FA (iv b0 10) s.heap.size) (fun q E H => E = "WholePacks$Fault" ∧ s.heap.size ≤ q ∧ (∃ wx, rg G q 1 (shX12 G.2.1) wx H ∧ gI wx 0 6 = re) ∧ rg G b0 10 (shX11 b1 G.2.1) rw0 H ∧ H.size = s.heap.size + rc)) args s (bif rok then 0 else 1) (bif rok then 0 else 7) (FA (iv b0 10) s.heap.size)) (F0 m 35 ls []) := by
  intro v0 zc n1 hm hn_n1 H locs ls hW0 hW1 hS hz hG hl
  obtain ⟨hx, hb, hr, hlk, hml, hown, hts, hK⟩ := id C
  unfold fX11_clause_35 at hm
  refine lv_aload_n (pc := 35) hx hb dX11_clause_35 rfl (lv_at hl 0 rfl) ?_
  obtain ⟨r89, hq90, hm⟩ := ob_some hm
  refine rk_PV (pc := 36) (As := []) (rest := []) hx hb hml hown hts hK lkX11_33 rfl yn_X11_here (ct_X11_here (G := G) (l := l) (b0 := b0) (b1 := b1) hq90) ⟨Nat.le_of_ble_eq_true rfl, Nat.le_of_ble_eq_true rfl⟩ (rk_recv hK hW0 0 (by decide) rfl rfl rfl) ⟨hW0, hW1⟩ rfl rfl hl.1 (Nat.le_of_ble_eq_true rfl) dX11_clause_36 ⟨Nat.zero_le _, Nat.zero_le _⟩ ?_
  refine W.eq (g2 := F0 m 39 ls [.int r89]) rfl ?_
  refine lv_bipush (pc := 39) (v := (43 : Int32)) hx hb dX11_clause_39 (by decide) ?_
  refine lv_icmp_eq (pc := 41) (tgt := 53) hx hb dX11_clause_41 (by decide) (fun c91 => ?_) (fun c91 => ?_)
  · have hm := ite_t c91 hm
    exact (w_fX11_clause_53 C hd01 he0 he1 hZ hgb0 hgb1 ht hk35) v0 zc n1 hm hn_n1 H locs ls hW0 hW1 hS hz hG (lv_sub hl [0, 1] rfl)
  · have hm := ite_f c91 hm
    refine lv_aload_n (pc := 44) hx hb dX11_clause_44 rfl (lv_at hl 0 rfl) ?_
    obtain ⟨r92, hq93, hm⟩ := ob_some hm
    refine rk_PV (pc := 45) (As := []) (rest := []) hx hb hml hown hts hK lkX11_33 rfl yn_X11_here (ct_X11_here (G := G) (l := l) (b0 := b0) (b1 := b1) hq93) ⟨Nat.le_of_ble_eq_true rfl, Nat.le_of_ble_eq_true rfl⟩ (rk_recv hK hW0 0 (by decide) rfl rfl rfl) ⟨hW0, hW1⟩ rfl rfl hl.1 (Nat.le_of_ble_eq_true rfl) dX11_clause_45 ⟨Nat.zero_le _, Nat.zero_le _⟩ ?_
    refine W.eq (g2 := F0 m 48 ls [.int r92]) rfl ?_
    refine lv_bipush (pc := 48) (v := (45 : Int32)) hx hb dX11_clause_48 (by decide) ?_
    refine lv_icmp_ne (pc := 50) (tgt := 88) hx hb dX11_clause_50 (by decide) (fun c94 => ?_) (fun c94 => ?_)
    · have hm := ite_f c94 hm
      refine lv_aload_n (pc := 88) hx hb dX11_clause_88 rfl (lv_at hl 0 rfl) ?_
      obtain ⟨r95, hq96, hm⟩ := ob_some hm
      refine rk_PV (pc := 89) (As := []) (rest := []) hx hb hml hown hts hK lkX11_33 rfl yn_X11_here (ct_X11_here (G := G) (l := l) (b0 := b0) (b1 := b1) hq96) ⟨Nat.le_of_ble_eq_true rfl, Nat.le_of_ble_eq_true rfl⟩ (rk_recv hK hW0 0 (by decide) rfl rfl rfl) ⟨hW0, hW1⟩ rfl rfl hl.1 (Nat.le_of_ble_eq_true rfl) dX11_clause_89 ⟨Nat.zero_le _, Nat.zero_le _⟩ ?_
      refine W.eq (g2 := F0 m 92 ls [.int r95]) rfl ?_
      refine lv_bipush (pc := 92) (v := (62 : Int32)) hx hb dX11_clause_92 (by decide) ?_
      refine lv_icmp_eq (pc := 94) (tgt := 118) hx hb dX11_clause_94 (by decide) (fun c97 => ?_) (fun c97 => ?_)
      · have hm := ite_t c97 hm
        exact (w_fX11_clause_118 C hd01 he0 he1 hZ hgb0 hgb1 ht) v0 zc n1 hm hn_n1 H locs ls hW0 hW1 hS hz hG (lv_sub hl [0, 1] rfl)
      · have hm := ite_f c97 hm
        refine lv_aload_n (pc := 97) hx hb dX11_clause_97 rfl (lv_at hl 0 rfl) ?_
        obtain ⟨r98, hq99, hm⟩ := ob_some hm
        refine rk_PV (pc := 98) (As := []) (rest := []) hx hb hml hown hts hK lkX11_33 rfl yn_X11_here (ct_X11_here (G := G) (l := l) (b0 := b0) (b1 := b1) hq99) ⟨Nat.le_of_ble_eq_true rfl, Nat.le_of_ble_eq_true rfl⟩ (rk_recv hK hW0 0 (by decide) rfl rfl rfl) ⟨hW0, hW1⟩ rfl rfl hl.1 (Nat.le_of_ble_eq_true rfl) dX11_clause_98 ⟨Nat.zero_le _, Nat.zero_le _⟩ ?_
        refine W.eq (g2 := F0 m 101 ls [.int r98]) rfl ?_
        refine lv_bipush (pc := 101) (v := (60 : Int32)) hx hb dX11_clause_101 (by decide) ?_
        refine lv_icmp_eq (pc := 103) (tgt := 118) hx hb dX11_clause_103 (by decide) (fun c100 => ?_) (fun c100 => ?_)
        · have hm := ite_t c100 hm
          exact (w_fX11_clause_118 C hd01 he0 he1 hZ hgb0 hgb1 ht) v0 zc n1 hm hn_n1 H locs ls hW0 hW1 hS hz hG (lv_sub hl [0, 1] rfl)
        · have hm := ite_f c100 hm
          obtain ⟨h101, hh101⟩ : ∃ h, H.size = h := ⟨_, rfl⟩
          have hqh101 : s.heap.size ≤ h101 := Nat.le_trans hS.1 (Nat.le_of_eq hh101)
          have hok9 : false = rok := (by exact (rs4 hm).1)
          subst hok9
          refine rk_new (pc := 106) (h := h101) (sh := (shX12 G.2.1)) hx hb hts hown hK hS in_X12 ft_X12 rfl q683 q684 q133 hh101 rfl (df_X12 _ rfl) (Nat.le_of_ble_eq_true rfl) (Nat.le_of_ble_eq_true rfl) dX11_clause_106 (fun H102 hW104 hS105 hz106 hkp107 => ?_)
          have hW108 := rg_keepN hW0 hh101 hkp107
          have hW109 := rg_keepN hW1 hh101 hkp107
          have hz110 : H102.size = s.heap.size + (zc + 1) := by omega
          have hG111 := GO_keepN hG (by omega) hkp107
          refine lv_dup (pc := 109) hx hb dX11_clause_109 rfl ?_
          refine lv_aload_n (pc := 110) hx hb dX11_clause_110 rfl (lv_at hl 0 rfl) ?_
          refine rk_get (pc := 111) hx hb hts hown hK hW108 flX11_22 0 (by decide) rfl rfl (x := .int (gI v0 0 2)) rfl dX11_clause_111 ?_
          refine rk_TI (pc := 114) (As := [.int (gI v0 0 2)]) (rest := [.ref h101]) (mc := 0) (ms := 0) hx hb hml hown hts hK hS105 (fun q hq => FA_sz rfl q hq) lkX11_57 yn_X12_init (ct_X12_init (G := G) (l := l) (b0 := h101) (v0 := mz) (i1 := (gI v0 0 2)) (sz := H102.size) hZ (by omega)) ⟨Nat.le_of_ble_eq_true rfl, Nat.le_of_ble_eq_true rfl⟩ (fun z h9 => Or.inr (show s.heap.size ≤ z by have := h9.1; omega)) ⟨hW104, hG111⟩ rfl rfl hl.1 (Nat.le_of_ble_eq_true rfl) dX11_clause_114 ⟨Nat.le_of_ble_eq_true rfl, Nat.le_of_ble_eq_true rfl⟩ (fun ov9 H112 locs113 hP114 hkp115 hS116 => ?_)
          obtain ⟨rfl, ⟨wx117, hW118, hre119⟩, hz120⟩ := hP114
          have hW121 := rg_keepA hW108 hkp115 (by intro z h1 h2 h3; have h8 := h3.1; have h9 := h3.2; omega)
          have hW122 := rg_keepA hW109 hkp115 (by intro z h1 h2 h3; have h8 := h3.1; have h9 := h3.2; omega)
          have hG123 := GO_keepA hG111 hkp115 (Nat.le_trans (show gB G ≤ s.heap.size by omega) hS105.1) (by intro z h3; have h8 := h3.1; have h9 := h3.2; omega)
          have hz124 := hz120.trans hz110
          refine W.eq (g2 := F0 m 117 ls [.ref h101]) rfl ?_
          refine vx_athrow (pc := 117) hx hb dX11_clause_117 ?_
          obtain ⟨ce8, hce8, hcv8, hcl8⟩ := rk_exc hK hW118 rfl rfl
          obtain ⟨e6, e7, e8, e9⟩ := rs4 hm
          cases e6
          subst e7
          subst e8
          subst e9
          exact rk_xout (fun x h => (ht x h).elim) hlk hS116 hce8 hcv8 hcl8 ⟨rfl, hqh101, ⟨_, hW118, hre119⟩, hW121, hz124⟩ (by exact Nat.le_of_ble_eq_true rfl) (by exact Nat.le_of_ble_eq_true rfl)
    · have hm := ite_t c94 hm
      exact (w_fX11_clause_53 C hd01 he0 he1 hZ hgb0 hgb1 ht hk35) v0 zc n1 hm hn_n1 H locs ls hW0 hW1 hS hz hG (lv_sub hl [0, 1] rfl)
theorem w_fX11_clause_35_l (C : Cx G p s m args meth c RX11 cX11_clause 2 none) {b0 : Nat} {b1 : Nat} {V1 : Mem} {rok : Bool} {re : Int32} {rc : Nat} {rw0 : Mem} (hd01 : b0 + 10 ≤ b1 ∨ b1 + 357 ≤ b0) (he0 : b0 + 10 ≤ s.heap.size) (he1 : b1 + 357 ≤ s.heap.size) (hZ : ZQ G) (hgb0 : gB G ≤ b0) (hgb1 : gB G ≤ b1) (ht : ∀ x ∈ c.exceptionTable.toList, False) : ∀ (n : Nat) (v0 : Mem) (zc : Nat) (n1 : Nat), lq3 (fX11_clause_35 V1) n v0 zc n1 = some (rok, re, rc, rw0) → (hn_n1 : n1 < 4) → ∀ (H : Heap) (locs : List Loc) (ls : Array Slot), rg G b0 10 (shX11 b1 G.2.1) v0 H → rg G b1 357 (shX0 G.2.1) V1 H → va_S (FA (iv b0 10) s.heap.size) s.heap H locs → H.size = s.heap.size + zc → GO G H → lv_has ls 2 [(0, .ref b0), (1, .ref (b0 + (2 + 2 * n1 + 0)))] → W p l e (rmT 5 (bif rok then 0 else 1) (bif rok then 0 else 7) 105) s m args below meth c H locs 0 0 (vx_MQ below (QcX rok (FA (iv b0 10) s.heap.size) (fun ov H => ov = none ∧ rg G b0 10 (shX11 b1 G.2.1) rw0 H ∧ H.size = s.heap.size + rc)) (XcX rok (FA (iv b0 10) s.heap.size) (fun q E H => E = "WholePacks$Fault" ∧ s.heap.size ≤ q ∧ (∃ wx, rg G q 1 (shX12 G.2.1) wx H ∧ gI wx 0 6 = re) ∧ rg G b0 10 (shX11 b1 G.2.1) rw0 H ∧ H.size = s.heap.size + rc)) args s (bif rok then 0 else 1) (bif rok then 0 else 7) (FA (iv b0 10) s.heap.size)) (F0 m 35 ls []) := by
  intro n
  induction n with
  | zero => intro v0 zc n1 hm; exact (lq3_0 hm).elim
  | succ n ih => intro v0 zc n1 hm; exact w_fX11_clause_35 C hd01 he0 he1 hZ hgb0 hgb1 ht ih v0 zc n1 (lq3_s hm)
set_option maxHeartbeats 4000000 in
theorem w_fX11_clause (C : Cx G p s m args meth c RX11 cX11_clause 2 none) {b0 : Nat} {b1 : Nat} {V1 : Mem} {rok : Bool} {re : Int32} {rc : Nat} {rw0 : Mem} (hd01 : b0 + 10 ≤ b1 ∨ b1 + 357 ≤ b0) (he0 : b0 + 10 ≤ s.heap.size) (he1 : b1 + 357 ≤ s.heap.size) (hZ : ZQ G) (hgb0 : gB G ≤ b0) (hgb1 : gB G ≤ b1) (ht : ∀ x ∈ c.exceptionTable.toList, False) : ∀ (v0 : Mem), fX11_clause V1 v0 = some (rok, re, rc, rw0) → ∀ (H : Heap) (locs : List Loc) (ls : Array Slot), rg G b0 10 (shX11 b1 G.2.1) v0 H → rg G b1 357 (shX0 G.2.1) V1 H → va_S (FA (iv b0 10) s.heap.size) s.heap H locs → H.size = s.heap.size + 0 → GO G H → lv_has ls 2 [(0, .ref b0)] → W p l e (rmT 5 (bif rok then 0 else 1) (bif rok then 0 else 7) 105) s m args below meth c H locs 0 0 (vx_MQ below (QcX rok (FA (iv b0 10) s.heap.size) (fun ov H => ov = none ∧ rg G b0 10 (shX11 b1 G.2.1) rw0 H ∧ H.size = s.heap.size + rc)) (XcX rok (FA (iv b0 10) s.heap.size) (fun q E H => E = "WholePacks$Fault" ∧ s.heap.size ≤ q ∧ (∃ wx, rg G q 1 (shX12 G.2.1) wx H ∧ gI wx 0 6 = re) ∧ rg G b0 10 (shX11 b1 G.2.1) rw0 H ∧ H.size = s.heap.size + rc)) args s (bif rok then 0 else 1) (bif rok then 0 else 7) (FA (iv b0 10) s.heap.size)) (F0 m 0 ls []) := by
  intro v0 hm H locs ls hW0 hW1 hS hz hG hl
  obtain ⟨hx, hb, hr, hlk, hml, hown, hts, hK⟩ := id C
  unfold fX11_clause at hm
  refine lv_aload_n (pc := 0) hx hb dX11_clause_0 rfl (lv_at hl 0 rfl) ?_
  refine rk_get (pc := 1) hx hb hts hown hK hW0 flX11_17 0 (by decide) rfl rfl (x := .ref (b0 + 1)) (by first | rfl | exact congrArg (fun z => some (Value.ref z)) (by omega)) dX11_clause_1 ?_
  refine lv_aload_n (pc := 4) hx hb dX11_clause_4 rfl (lv_at hl 0 rfl) ?_
  refine rk_get (pc := 5) hx hb hts hown hK hW0 flX11_71 0 (by decide) rfl rfl (x := .int (gI v0 0 1)) rfl dX11_clause_5 ?_
  obtain ⟨hg1, hm⟩ := gb_some hm
  have hlt2 := inR_lt hg1
  refine rk_aald (pc := 8) hx hb hK hW0 1 5 (by decide) rfl rfl rfl hg1 (x := (b0 + (2 + 2 * (gI v0 0 1).toNatClampNeg + 0))) (by first | rfl | exact congrArg some (by omega)) dX11_clause_8 ?_
  refine lv_astore_n (pc := 9) (lv' := [(1, .ref (b0 + (2 + 2 * (gI v0 0 1).toNatClampNeg + 0))), (0, .ref b0)]) hx hb dX11_clause_9 rfl hl (by decide) rfl (fun ls hl => ?_)
  refine lv_aload_n (pc := 10) hx hb dX11_clause_10 rfl (lv_at hl 0 rfl) ?_
  refine lv_iconst (pc := 11) (v := (0 : Int32)) hx hb dX11_clause_11 (by decide) ?_
  refine lv_iconst (pc := 12) (v := (0 : Int32)) hx hb dX11_clause_12 (by decide) ?_
  obtain ⟨w3, hq4, hm⟩ := ob_some hm
  refine rk_TV (pc := 13) (As := [.int (0 : Int32), .int (0 : Int32)]) (rest := []) (mc := 0) (ms := 0) hx hb hml hown hts hK hS (fun q hq => FA_sz rfl q hq) lkX11_74 rfl yn_X2_begins (ct_X2_begins (G := G) (l := l) (b0 := (b0 + (2 + 2 * (gI v0 0 1).toNatClampNeg + 0))) (sz := H.size) hq4) ⟨Nat.le_of_ble_eq_true rfl, Nat.le_of_ble_eq_true rfl⟩ (fun z h => Or.inl (show iv _ _ _ from ⟨by have h8 := h.1; have h9 := h.2; omega, by have h8 := h.1; have h9 := h.2; omega⟩)) (rk_recv hK hW0 (2 + 2 * (gI v0 0 1).toNatClampNeg + 0) (by omega) rfl rfl ((shX11_f2 G.2.1 hlt2 _ rfl 0 (by decide) _ _ _).trans rfl)) (rg_sub (d := (2 + 2 * (gI v0 0 1).toNatClampNeg)) hW0 rfl (by omega) (fun o ho x y z => shX11_f2 G.2.1 hlt2 _ rfl o ho x y z)) rfl rfl hl.1 (Nat.le_of_ble_eq_true rfl) dX11_clause_13 ⟨Nat.zero_le _, Nat.zero_le _⟩ (fun ov9 H5 locs6 hP7 hkp8 hS9 => ?_)
  obtain ⟨rfl, hW10, hz11⟩ := hP7
  have hW12 := rg_keepX hW1 hkp8 (by intro z h0 h3; have h1 := h0.1.1; have h2 := h0.1.2; have h4 := h0.2; have h8 := h3.1; have h9 := h3.2; omega)
  have hW13 := rg_put (d := (2 + 2 * (gI v0 0 1).toNatClampNeg)) hW0 hW10 rfl (fun o ho x y z => shX11_f2 G.2.1 hlt2 _ rfl o ho x y z) hkp8
  obtain ⟨v0_14, he9, hm⟩ := lm_some hm
  rw [he9] at hW13
  have hG15 := GO_keepA hG hkp8 (Nat.le_trans (show gB G ≤ s.heap.size by omega) hS.1) (by intro z h3; have h8 := h3.1; have h9 := h3.2; omega)
  have hz16 := hz11.trans hz
  refine W.eq (g2 := F0 m 16 ls []) rfl ?_
  refine lv_aload_n (pc := 16) hx hb dX11_clause_16 rfl (lv_at hl 1 rfl) ?_
  refine lv_aload_n (pc := 17) hx hb dX11_clause_17 rfl (lv_at hl 0 rfl) ?_
  refine lv_aload_n (pc := 18) hx hb dX11_clause_18 rfl (lv_at hl 1 rfl) ?_
  refine lv_bipush (pc := 19) (v := (45 : Int32)) hx hb dX11_clause_19 (by decide) ?_
  obtain ⟨r17, w18, hq19, hm⟩ := ob2_some hm
  refine rk_TV (pc := 21) (As := [.int (45 : Int32)]) (rest := [.ref (b0 + (2 + 2 * (gI v0 0 1).toNatClampNeg + 0)), .ref b0]) (mc := 0) (ms := 0) hx hb hml hown hts hK hS9 (fun q hq => FA_sz rfl q hq) lkX11_68 rfl yn_X11_is (ct_X11_is (G := G) (l := l) (b0 := b0) (b1 := b1) (sz := H5.size) hq19 (by omega)) ⟨Nat.le_of_ble_eq_true rfl, Nat.le_of_ble_eq_true rfl⟩ (fun z h => Or.inl (show iv _ _ _ from ⟨by have h8 := h.1; have h9 := h.2; omega, by have h8 := h.1; have h9 := h.2; omega⟩)) (rk_recv hK hW13 0 (by decide) rfl rfl rfl) ⟨hW13, hW12⟩ rfl rfl hl.1 (Nat.le_of_ble_eq_true rfl) dX11_clause_21 ⟨Nat.zero_le _, Nat.zero_le _⟩ (fun ov9 H20 locs21 hP22 hkp23 hS24 => ?_)
  obtain ⟨rfl, hW25, hz26⟩ := hP22
  have hW27 := rg_keepX hW12 hkp23 (by intro z h0 h3; have h1 := h0.1.1; have h2 := h0.1.2; have h4 := h0.2; have h8 := h3.1; have h9 := h3.2; omega)
  have hG28 := GO_keepA hG15 hkp23 (Nat.le_trans (show gB G ≤ s.heap.size by omega) hS9.1) (by intro z h3; have h8 := h3.1; have h9 := h3.2; omega)
  have hz29 := hz26.trans hz16
  refine W.eq (g2 := F0 m 24 ls [.int r17, .ref (b0 + (2 + 2 * (gI v0 0 1).toNatClampNeg + 0)), .ref b0]) rfl ?_
  refine lv_if_eq (pc := 24) (tgt := 31) hx hb dX11_clause_24 (by decide) (fun c30 => ?_) (fun c30 => ?_)
  · have hm := ite_t c30 hm
    refine lv_iconst (pc := 31) (v := (1 : Int32)) hx hb dX11_clause_31 (by decide) ?_
    obtain ⟨ok33, re34, rc31, w32, hq35, hm⟩ := ob4_some hm
    by_cases hok : ok33 = true
    · subst hok
      have hm := ite_t rfl hm
      refine rk_TV (pc := 32) (As := [.ref (b0 + (2 + 2 * (gI v0 0 1).toNatClampNeg + 0)), .int (1 : Int32)]) (rest := []) (mc := 0) (ms := 0) hx hb hml hown hts hK hS24 (fun q hq => FA_sz rfl q hq) lkX11_78 rfl yn_X11_term (CX.ret (ct_X11_term (G := G) (l := l) (rok := true) (b0 := b0) (b1 := b1) (sz := H20.size) hq35 (by omega) hlt2 hZ (by omega) (by omega))) ⟨Nat.le_of_ble_eq_true rfl, Nat.le_of_ble_eq_true rfl⟩ (fun z h => Or.inl (show iv _ _ _ from ⟨by have h8 := h.1; have h9 := h.2; omega, by have h8 := h.1; have h9 := h.2; omega⟩)) (rk_recv hK hW25 0 (by decide) rfl rfl rfl) ⟨hW25, hW27, hG28⟩ rfl rfl hl.1 (Nat.le_of_ble_eq_true rfl) dX11_clause_32 ⟨Nat.zero_le _, Nat.zero_le _⟩ (fun ov9 H36 locs37 hP38 hkp39 hS40 => ?_)
      obtain ⟨rfl, hW41, hz42⟩ := hP38
      have hW43 := rg_keepX hW27 hkp39 (by intro z h0 h3; have h1 := h0.1.1; have h2 := h0.1.2; have h4 := h0.2; have h8 := h3.1; have h9 := h3.2; omega)
      have hG44 := GO_keepA hG28 hkp39 (Nat.le_trans (show gB G ≤ s.heap.size by omega) hS24.1) (by intro z h3; have h8 := h3.1; have h9 := h3.2; omega)
      have hz45 : H36.size = s.heap.size + rc31 := by omega
      refine W.eq (g2 := F0 m 35 ls []) rfl ?_
      exact (w_fX11_clause_35_l C hd01 he0 he1 hZ hgb0 hgb1 ht FU) w32 rc31 (gI v0 0 1).toNatClampNeg hm hlt2 H36 locs37 ls hW41 hW43 hS40 hz45 hG44 (lv_sub hl [1, 0] rfl)
    · have hok := eq_false_of_ne_true hok
      subst hok
      have hm := ite_f Bool.false_ne_true hm
      have hok9 : false = rok := (by exact (rs4 hm).1)
      subst hok9
      refine rk_XV (pc := 32) (As := [.ref (b0 + (2 + 2 * (gI v0 0 1).toNatClampNeg + 0)), .int (1 : Int32)]) (rest := []) (mc := 1) (ms := 7) hx hb hml hown hts hK hS24 (fun q hq => FA_sz rfl q hq) lkX11_78 rfl yn_X11_term (ct_X11_term (G := G) (l := l) (rok := false) (b0 := b0) (b1 := b1) (sz := H20.size) hq35 (by omega) hlt2 hZ (by omega) (by omega)) ⟨Nat.le_of_ble_eq_true rfl, Nat.le_of_ble_eq_true rfl⟩ (fun z h => Or.inl (show iv _ _ _ from ⟨by have h8 := h.1; have h9 := h.2; omega, by have h8 := h.1; have h9 := h.2; omega⟩)) (rk_recv hK hW25 0 (by decide) rfl rfl rfl) ⟨hW25, hW27, hG28⟩ rfl rfl hl.1 (Nat.le_of_ble_eq_true rfl) dX11_clause_32 ⟨Nat.le_of_ble_eq_true rfl, Nat.le_of_ble_eq_true rfl⟩ (fun q51 E9 ce9 H46 locs47 hP48 hkp49 hS50 hce9 hcv9 hcl9 => ?_)
      obtain ⟨rfl, hqq51, ⟨wx53, hW54, hre55⟩, hW52, hz56⟩ := hP48
      have hqq51 : s.heap.size ≤ q51 := Nat.le_trans hS24.1 hqq51
      have hW57 := rg_keepX hW27 hkp49 (by intro z h0 h3; have h1 := h0.1.1; have h2 := h0.1.2; have h4 := h0.2; have h8 := h3.1; have h9 := h3.2; omega)
      have hG58 := GO_keepA hG28 hkp49 (Nat.le_trans (show gB G ≤ s.heap.size by omega) hS24.1) (by intro z h3; have h8 := h3.1; have h9 := h3.2; omega)
      have hz59 : H46.size = s.heap.size + rc31 := by omega
      obtain ⟨ce8, hce8, hcv8, hcl8⟩ := rk_exc hK hW54 rfl rfl
      obtain ⟨e6, e7, e8, e9⟩ := rs4 hm
      cases e6
      subst e7
      subst e8
      subst e9
      exact rk_xout (fun x h => (ht x h).elim) hlk hS50 hce8 hcv8 hcl8 ⟨rfl, hqq51, ⟨_, hW54, hre55⟩, hW52, hz59⟩ (by exact Nat.le_of_ble_eq_true rfl) (by exact Nat.le_of_ble_eq_true rfl)
  · have hm := ite_f c30 hm
    refine lv_iconst (pc := 27) (v := (-1 : Int32)) hx hb dX11_clause_27 (by decide) ?_
    refine lv_goto (pc := 28) (tgt := 32) hx hb dX11_clause_28 (by decide) ?_
    obtain ⟨ok62, re63, rc60, w61, hq64, hm⟩ := ob4_some hm
    by_cases hok : ok62 = true
    · subst hok
      have hm := ite_t rfl hm
      refine rk_TV (pc := 32) (As := [.ref (b0 + (2 + 2 * (gI v0 0 1).toNatClampNeg + 0)), .int (-1 : Int32)]) (rest := []) (mc := 0) (ms := 0) hx hb hml hown hts hK hS24 (fun q hq => FA_sz rfl q hq) lkX11_78 rfl yn_X11_term (CX.ret (ct_X11_term (G := G) (l := l) (rok := true) (b0 := b0) (b1 := b1) (sz := H20.size) hq64 (by omega) hlt2 hZ (by omega) (by omega))) ⟨Nat.le_of_ble_eq_true rfl, Nat.le_of_ble_eq_true rfl⟩ (fun z h => Or.inl (show iv _ _ _ from ⟨by have h8 := h.1; have h9 := h.2; omega, by have h8 := h.1; have h9 := h.2; omega⟩)) (rk_recv hK hW25 0 (by decide) rfl rfl rfl) ⟨hW25, hW27, hG28⟩ rfl rfl hl.1 (Nat.le_of_ble_eq_true rfl) dX11_clause_32 ⟨Nat.zero_le _, Nat.zero_le _⟩ (fun ov9 H65 locs66 hP67 hkp68 hS69 => ?_)
      obtain ⟨rfl, hW70, hz71⟩ := hP67
      have hW72 := rg_keepX hW27 hkp68 (by intro z h0 h3; have h1 := h0.1.1; have h2 := h0.1.2; have h4 := h0.2; have h8 := h3.1; have h9 := h3.2; omega)
      have hG73 := GO_keepA hG28 hkp68 (Nat.le_trans (show gB G ≤ s.heap.size by omega) hS24.1) (by intro z h3; have h8 := h3.1; have h9 := h3.2; omega)
      have hz74 : H65.size = s.heap.size + rc60 := by omega
      refine W.eq (g2 := F0 m 35 ls []) rfl ?_
      exact (w_fX11_clause_35_l C hd01 he0 he1 hZ hgb0 hgb1 ht FU) w61 rc60 (gI v0 0 1).toNatClampNeg hm hlt2 H65 locs66 ls hW70 hW72 hS69 hz74 hG73 (lv_sub hl [1, 0] rfl)
    · have hok := eq_false_of_ne_true hok
      subst hok
      have hm := ite_f Bool.false_ne_true hm
      have hok9 : false = rok := (by exact (rs4 hm).1)
      subst hok9
      refine rk_XV (pc := 32) (As := [.ref (b0 + (2 + 2 * (gI v0 0 1).toNatClampNeg + 0)), .int (-1 : Int32)]) (rest := []) (mc := 1) (ms := 7) hx hb hml hown hts hK hS24 (fun q hq => FA_sz rfl q hq) lkX11_78 rfl yn_X11_term (ct_X11_term (G := G) (l := l) (rok := false) (b0 := b0) (b1 := b1) (sz := H20.size) hq64 (by omega) hlt2 hZ (by omega) (by omega)) ⟨Nat.le_of_ble_eq_true rfl, Nat.le_of_ble_eq_true rfl⟩ (fun z h => Or.inl (show iv _ _ _ from ⟨by have h8 := h.1; have h9 := h.2; omega, by have h8 := h.1; have h9 := h.2; omega⟩)) (rk_recv hK hW25 0 (by decide) rfl rfl rfl) ⟨hW25, hW27, hG28⟩ rfl rfl hl.1 (Nat.le_of_ble_eq_true rfl) dX11_clause_32 ⟨Nat.le_of_ble_eq_true rfl, Nat.le_of_ble_eq_true rfl⟩ (fun q80 E9 ce9 H75 locs76 hP77 hkp78 hS79 hce9 hcv9 hcl9 => ?_)
      obtain ⟨rfl, hqq80, ⟨wx82, hW83, hre84⟩, hW81, hz85⟩ := hP77
      have hqq80 : s.heap.size ≤ q80 := Nat.le_trans hS24.1 hqq80
      have hW86 := rg_keepX hW27 hkp78 (by intro z h0 h3; have h1 := h0.1.1; have h2 := h0.1.2; have h4 := h0.2; have h8 := h3.1; have h9 := h3.2; omega)
      have hG87 := GO_keepA hG28 hkp78 (Nat.le_trans (show gB G ≤ s.heap.size by omega) hS24.1) (by intro z h3; have h8 := h3.1; have h9 := h3.2; omega)
      have hz88 : H75.size = s.heap.size + rc60 := by omega
      obtain ⟨ce8, hce8, hcv8, hcl8⟩ := rk_exc hK hW83 rfl rfl
      obtain ⟨e6, e7, e8, e9⟩ := rs4 hm
      cases e6
      subst e7
      subst e8
      subst e9
      exact rk_xout (fun x h => (ht x h).elim) hlk hS79 hce8 hcv8 hcl8 ⟨rfl, hqq80, ⟨_, hW83, hre84⟩, hW81, hz88⟩ (by exact Nat.le_of_ble_eq_true rfl) (by exact Nat.le_of_ble_eq_true rfl)
set_option maxHeartbeats 4000000 in
theorem ct_X11_clause {G : Gv} {l : Launch} {b0 : Nat} {b1 : Nat} {V1 : Mem} {v0 : Mem} {rok : Bool} {re : Int32} {rc : Nat} {rw0 : Mem} {sz : Nat} (hm : fX11_clause V1 v0 = some (rok, re, rc, rw0)) (hd01 : b0 + 10 ≤ b1 ∨ b1 + 357 ≤ b0) (hZ : ZQ G) (hgb0 : gB G ≤ b0) (hgb1 : gB G ≤ b1) : CX G l yX11_clause (ws_ yX11_clause cX11_clause 2 none) 5 (bif rok then 0 else 1) (bif rok then 0 else 7) 105 [.ref b0] (iv b0 10) sz (fun H => rg G b0 10 (shX11 b1 G.2.1) v0 H ∧ rg G b1 357 (shX0 G.2.1) V1 H ∧ GO G H) rok (fun ov H => ov = none ∧ rg G b0 10 (shX11 b1 G.2.1) rw0 H ∧ H.size = sz + rc) (fun q E H => E = "WholePacks$Fault" ∧ sz ≤ q ∧ (∃ wx, rg G q 1 (shX12 G.2.1) wx H ∧ gI wx 0 6 = re) ∧ rg G b0 10 (shX11 b1 G.2.1) rw0 H ∧ H.size = sz + rc) := by
  refine vx_ofW (cc := cX11_clause) (maxL := 2) (ret := none) (by decide +kernel) rfl ?_
  intro p e s m args below meth c s₁ B hml ht hv
  obtain ⟨rfl, ⟨hz, hW0, hW1, hG⟩, hK⟩ := hv
  subst hz
  have he0 := rg_end hW0 9 (by decide) rfl (fun _ _ _ => rfl)
  have he1 := rg_end hW1 356 (by decide) rfl (fun _ _ _ => rfl)
  have hts := atoms_spec (ws := ws_ yX11_clause cX11_clause 2 none) B.pre
  have hts : ∀ w ∈ lw_all, w.before _ s = true := fun w h => hts w (List.mem_cons_of_mem _ h)
  have C : Cx G p s m _ meth c RX11 cX11_clause 2 none := ⟨B.exec, B.bytes, B.returns, B.notSynchronized, hml, findClass_of_methodNamed B.named, hts, hK⟩
  have hl := lv_entry ([.ref b0]) (n := 2) (Nat.le_of_ble_eq_true rfl)
  rw [lg_entry_eq]
  generalize (lg_sl ([.ref b0]) ++ List.replicate (2 - (lg_sl ([.ref b0])).length) Slot.unset).toArray = ls at hl ⊢
  have hl : lv_has ls 2 [(0, .ref b0)] := hl
  exact w_fX11_clause C hd01 he0 he1 hZ hgb0 hgb1 ht _ hm s.heap [] ls hW0 hW1 va_S.rf rfl hG hl
theorem yn_X11_clause : YN yX11_clause 0 := by
  unfold YN
  decide +kernel
theorem lkX11_91 : LV RX11 91 RX11 yX11_clause cX11_clause 2 none := ⟨q662, q664, qs4, q130, q665⟩
noncomputable def fX11_reads_35 (V1 : Mem) (v0 : Mem) (zc : Nat) : Option (Bool × Int32 × Nat × Mem) :=
  some (false, (gI v0 0 2), (zc + 1), v0)
noncomputable def fX11_reads_4 (V1 : Mem) (k4 : Mem → Nat → Option (Bool × Int32 × Nat × Mem)) (v0 : Mem) (zc : Nat) : Option (Bool × Int32 × Nat × Mem) :=
  if (gI V1 0 12) ≤ (gI v0 0 2) then (
  some (true, (0 : Int32), zc, v0))
  else (
  ob (fX11_here v0 V1) fun r31 =>
  if r31 = (59 : Int32) then (
  if (gI v0 0 1) = (4 : Int32) then (
  fX11_reads_35 V1 v0 zc)
  else (
  lm (sI v0 0 2 ((gI v0 0 2) + (1 : Int32))) fun v0_35 =>
  ob4 (fX11_clause V1 v0_35) fun ok47 re48 rc45 w46 =>
  if ok47 = true then (
  k4 w46 (zc + rc45))
  else (
  some (false, re48, (zc + rc45), w46))))
  else (
  fX11_reads_35 V1 v0 zc))
noncomputable def fX11_reads (V1 : Mem) (v0 : Mem) : Option (Bool × Int32 × Nat × Mem) :=
  ob4 (fX11_clause V1 v0) fun ok3 re4 rc1 w2 =>
  if ok3 = true then (
  lq2 (fX11_reads_4 V1) FU w2 rc1)
  else (
  some (false, re4, rc1, w2))
set_option maxHeartbeats 4000000 in
theorem w_fX11_reads_35 (C : Cx G p s m args meth c RX11 cX11_reads 1 none) {b0 : Nat} {b1 : Nat} {V1 : Mem} {rok : Bool} {re : Int32} {rc : Nat} {rw0 : Mem} (hd01 : b0 + 10 ≤ b1 ∨ b1 + 357 ≤ b0) (he0 : b0 + 10 ≤ s.heap.size) (he1 : b1 + 357 ≤ s.heap.size) (hZ : ZQ G) (hgb0 : gB G ≤ b0) (hgb1 : gB G ≤ b1) (ht : ∀ x ∈ c.exceptionTable.toList, False) : ∀ (v0 : Mem) (zc : Nat), fX11_reads_35 V1 v0 zc = some (rok, re, rc, rw0) → ∀ (H : Heap) (locs : List Loc) (ls : Array Slot), rg G b0 10 (shX11 b1 G.2.1) v0 H → rg G b1 357 (shX0 G.2.1) V1 H → va_S (FA (iv b0 10) s.heap.size) s.heap H locs → H.size = s.heap.size + zc → GO G H → lv_has ls 1 [(0, .ref b0)] → W p l e (rmT 6 (bif rok then 0 else 1) (bif rok then 0 else 7) 126) s m args below meth c H locs 0 0 (vx_MQ below (QcX rok (FA (iv b0 10) s.heap.size) (fun ov H => ov = none ∧ rg G b0 10 (shX11 b1 G.2.1) rw0 H ∧ H.size = s.heap.size + rc)) (XcX rok (FA (iv b0 10) s.heap.size) (fun q E H => E = "WholePacks$Fault" ∧ s.heap.size ≤ q ∧ (∃ wx, rg G q 1 (shX12 G.2.1) wx H ∧ gI wx 0 6 = re) ∧ rg G b0 10 (shX11 b1 G.2.1) rw0 H ∧ H.size = s.heap.size + rc)) args s (bif rok then 0 else 1) (bif rok then 0 else 7) (FA (iv b0 10) s.heap.size)) (F0 m 35 ls []) := by
  intro v0 zc hm H locs ls hW0 hW1 hS hz hG hl
  obtain ⟨hx, hb, hr, hlk, hml, hown, hts, hK⟩ := id C
  unfold fX11_reads_35 at hm
  obtain ⟨h74, hh74⟩ : ∃ h, H.size = h := ⟨_, rfl⟩
  have hqh74 : s.heap.size ≤ h74 := Nat.le_trans hS.1 (Nat.le_of_eq hh74)
  have hok9 : false = rok := (by exact (rs4 hm).1)
  subst hok9
  refine rk_new (pc := 35) (h := h74) (sh := (shX12 G.2.1)) hx hb hts hown hK hS in_X12 ft_X12 rfl q683 q684 q133 hh74 rfl (df_X12 _ rfl) (Nat.le_of_ble_eq_true rfl) (Nat.le_of_ble_eq_true rfl) dX11_reads_35 (fun H75 hW77 hS78 hz79 hkp80 => ?_)
  have hW81 := rg_keepN hW0 hh74 hkp80
  have hW82 := rg_keepN hW1 hh74 hkp80
  have hz83 : H75.size = s.heap.size + (zc + 1) := by omega
  have hG84 := GO_keepN hG (by omega) hkp80
  refine lv_dup (pc := 38) hx hb dX11_reads_38 rfl ?_
  refine lv_aload_n (pc := 39) hx hb dX11_reads_39 rfl (lv_at hl 0 rfl) ?_
  refine rk_get (pc := 40) hx hb hts hown hK hW81 flX11_22 0 (by decide) rfl rfl (x := .int (gI v0 0 2)) rfl dX11_reads_40 ?_
  refine rk_TI (pc := 43) (As := [.int (gI v0 0 2)]) (rest := [.ref h74]) (mc := 0) (ms := 0) hx hb hml hown hts hK hS78 (fun q hq => FA_sz rfl q hq) lkX11_57 yn_X12_init (ct_X12_init (G := G) (l := l) (b0 := h74) (v0 := mz) (i1 := (gI v0 0 2)) (sz := H75.size) hZ (by omega)) ⟨Nat.le_of_ble_eq_true rfl, Nat.le_of_ble_eq_true rfl⟩ (fun z h9 => Or.inr (show s.heap.size ≤ z by have := h9.1; omega)) ⟨hW77, hG84⟩ rfl rfl hl.1 (Nat.le_of_ble_eq_true rfl) dX11_reads_43 ⟨Nat.le_of_ble_eq_true rfl, Nat.le_of_ble_eq_true rfl⟩ (fun ov9 H85 locs86 hP87 hkp88 hS89 => ?_)
  obtain ⟨rfl, ⟨wx90, hW91, hre92⟩, hz93⟩ := hP87
  have hW94 := rg_keepA hW81 hkp88 (by intro z h1 h2 h3; have h8 := h3.1; have h9 := h3.2; omega)
  have hW95 := rg_keepA hW82 hkp88 (by intro z h1 h2 h3; have h8 := h3.1; have h9 := h3.2; omega)
  have hG96 := GO_keepA hG84 hkp88 (Nat.le_trans (show gB G ≤ s.heap.size by omega) hS78.1) (by intro z h3; have h8 := h3.1; have h9 := h3.2; omega)
  have hz97 := hz93.trans hz83
  refine W.eq (g2 := F0 m 46 ls [.ref h74]) rfl ?_
  refine vx_athrow (pc := 46) hx hb dX11_reads_46 ?_
  obtain ⟨ce8, hce8, hcv8, hcl8⟩ := rk_exc hK hW91 rfl rfl
  obtain ⟨e6, e7, e8, e9⟩ := rs4 hm
  cases e6
  subst e7
  subst e8
  subst e9
  exact rk_xout (fun x h => (ht x h).elim) hlk hS89 hce8 hcv8 hcl8 ⟨rfl, hqh74, ⟨_, hW91, hre92⟩, hW94, hz97⟩ (by exact Nat.le_of_ble_eq_true rfl) (by exact Nat.le_of_ble_eq_true rfl)
set_option maxHeartbeats 4000000 in
theorem w_fX11_reads_4 (C : Cx G p s m args meth c RX11 cX11_reads 1 none) {b0 : Nat} {b1 : Nat} {V1 : Mem} {rok : Bool} {re : Int32} {rc : Nat} {rw0 : Mem} (hd01 : b0 + 10 ≤ b1 ∨ b1 + 357 ≤ b0) (he0 : b0 + 10 ≤ s.heap.size) (he1 : b1 + 357 ≤ s.heap.size) (hZ : ZQ G) (hgb0 : gB G ≤ b0) (hgb1 : gB G ≤ b1) (ht : ∀ x ∈ c.exceptionTable.toList, False) {k4 : Mem → Nat → Option (Bool × Int32 × Nat × Mem)} (hk4 : ∀ (v0 : Mem) (zc : Nat), k4 v0 zc = some (rok, re, rc, rw0) → ∀ (H : Heap) (locs : List Loc) (ls : Array Slot), rg G b0 10 (shX11 b1 G.2.1) v0 H → rg G b1 357 (shX0 G.2.1) V1 H → va_S (FA (iv b0 10) s.heap.size) s.heap H locs → H.size = s.heap.size + zc → GO G H → lv_has ls 1 [(0, .ref b0)] → W p l e (rmT 6 (bif rok then 0 else 1) (bif rok then 0 else 7) 126) s m args below meth c H locs 0 0 (vx_MQ below (QcX rok (FA (iv b0 10) s.heap.size) (fun ov H => ov = none ∧ rg G b0 10 (shX11 b1 G.2.1) rw0 H ∧ H.size = s.heap.size + rc)) (XcX rok (FA (iv b0 10) s.heap.size) (fun q E H => E = "WholePacks$Fault" ∧ s.heap.size ≤ q ∧ (∃ wx, rg G q 1 (shX12 G.2.1) wx H ∧ gI wx 0 6 = re) ∧ rg G b0 10 (shX11 b1 G.2.1) rw0 H ∧ H.size = s.heap.size + rc)) args s (bif rok then 0 else 1) (bif rok then 0 else 7) (FA (iv b0 10) s.heap.size)) (F0 m 4 ls [])) : ∀ (v0 : Mem) (zc : Nat), fX11_reads_4 V1 k4 v0 zc = some (rok, re, rc, rw0) → ∀ (H : Heap) (locs : List Loc) (ls : Array Slot), rg G b0 10 (shX11 b1 G.2.1) v0 H → rg G b1 357 (shX0 G.2.1) V1 H → va_S (FA (iv b0 10) s.heap.size) s.heap H locs → H.size = s.heap.size + zc → GO G H → lv_has ls 1 [(0, .ref b0)] → W p l e (rmT 6 (bif rok then 0 else 1) (bif rok then 0 else 7) 126) s m args below meth c H locs 0 0 (vx_MQ below (QcX rok (FA (iv b0 10) s.heap.size) (fun ov H => ov = none ∧ rg G b0 10 (shX11 b1 G.2.1) rw0 H ∧ H.size = s.heap.size + rc)) (XcX rok (FA (iv b0 10) s.heap.size) (fun q E H => E = "WholePacks$Fault" ∧ s.heap.size ≤ q ∧ (∃ wx, rg G q 1 (shX12 G.2.1) wx H ∧ gI wx 0 6 = re) ∧ rg G b0 10 (shX11 b1 G.2.1) rw0 H ∧ H.size = s.heap.size + rc)) args s (bif rok then 0 else 1) (bif rok then 0 else 7) (FA (iv b0 10) s.heap.size)) (F0 m 4 ls []) := by
  intro v0 zc hm H locs ls hW0 hW1 hS hz hG hl
  obtain ⟨hx, hb, hr, hlk, hml, hown, hts, hK⟩ := id C
  unfold fX11_reads_4 at hm
  refine lv_aload_n (pc := 4) hx hb dX11_reads_4 rfl (lv_at hl 0 rfl) ?_
  refine rk_get (pc := 5) hx hb hts hown hK hW0 flX11_22 0 (by decide) rfl rfl (x := .int (gI v0 0 2)) rfl dX11_reads_5 ?_
  refine lv_aload_n (pc := 8) hx hb dX11_reads_8 rfl (lv_at hl 0 rfl) ?_
  refine rk_get (pc := 9) hx hb hts hown hK hW0 flX11_3 0 (by decide) rfl rfl (x := .ref b1) (by first | rfl | exact congrArg (fun z => some (Value.ref z)) (by omega)) dX11_reads_9 ?_
  refine rk_getN (pc := 12) hx hb hts hown hK hW1 fnX11_26 0 (by decide) rfl rfl (x := .int (gI V1 0 12)) rfl dX11_reads_12 ?_
  refine lv_icmp_ge (pc := 15) (tgt := 64) hx hb dX11_reads_15 (by decide) (fun c30 => ?_) (fun c30 => ?_)
  · have hm := ite_t c30 hm
    obtain ⟨e6, e7, e8, e9⟩ := rs4 hm
    cases e6
    subst e7
    subst e8
    subst e9
    exact rk_vretX (pc := 64) hx hb hr hlk hS ⟨rfl, hW0, hz⟩ dX11_reads_64 (by exact Nat.le_of_ble_eq_true rfl) (by exact Nat.le_of_ble_eq_true rfl)
  · have hm := ite_f c30 hm
    refine lv_aload_n (pc := 18) hx hb dX11_reads_18 rfl (lv_at hl 0 rfl) ?_
    obtain ⟨r31, hq32, hm⟩ := ob_some hm
    refine rk_PV (pc := 19) (As := []) (rest := []) hx hb hml hown hts hK lkX11_33 rfl yn_X11_here (ct_X11_here (G := G) (l := l) (b0 := b0) (b1 := b1) hq32) ⟨Nat.le_of_ble_eq_true rfl, Nat.le_of_ble_eq_true rfl⟩ (rk_recv hK hW0 0 (by decide) rfl rfl rfl) ⟨hW0, hW1⟩ rfl rfl hl.1 (Nat.le_of_ble_eq_true rfl) dX11_reads_19 ⟨Nat.zero_le _, Nat.zero_le _⟩ ?_
    refine W.eq (g2 := F0 m 22 ls [.int r31]) rfl ?_
    refine lv_bipush (pc := 22) (v := (59 : Int32)) hx hb dX11_reads_22 (by decide) ?_
    refine lv_icmp_ne (pc := 24) (tgt := 35) hx hb dX11_reads_24 (by decide) (fun c33 => ?_) (fun c33 => ?_)
    · have hm := ite_f c33 hm
      exact (w_fX11_reads_35 C hd01 he0 he1 hZ hgb0 hgb1 ht) v0 zc hm H locs ls hW0 hW1 hS hz hG (lv_sub hl [0] rfl)
    · have hm := ite_t c33 hm
      refine lv_aload_n (pc := 27) hx hb dX11_reads_27 rfl (lv_at hl 0 rfl) ?_
      refine rk_get (pc := 28) hx hb hts hown hK hW0 flX11_71 0 (by decide) rfl rfl (x := .int (gI v0 0 1)) rfl dX11_reads_28 ?_
      refine lv_iconst (pc := 31) (v := (4 : Int32)) hx hb dX11_reads_31 (by decide) ?_
      refine lv_icmp_ne (pc := 32) (tgt := 47) hx hb dX11_reads_32 (by decide) (fun c34 => ?_) (fun c34 => ?_)
      · have hm := ite_f c34 hm
        refine lv_aload_n (pc := 47) hx hb dX11_reads_47 rfl (lv_at hl 0 rfl) ?_
        refine lv_dup (pc := 48) hx hb dX11_reads_48 rfl ?_
        refine rk_get (pc := 49) hx hb hts hown hK hW0 flX11_22 0 (by decide) rfl rfl (x := .int (gI v0 0 2)) rfl dX11_reads_49 ?_
        refine lv_iconst (pc := 52) (v := (1 : Int32)) hx hb dX11_reads_52 (by decide) ?_
        refine lv_iadd (pc := 53) hx hb dX11_reads_53 ?_
        refine rk_put (pc := 54) hx hb hts hown hK hW0 hS flX11_22 ft_X11 0 (by decide) rfl (Or.inl (show iv _ _ _ from ⟨by omega, by omega⟩)) rfl rfl (x := .int ((gI v0 0 2) + (1 : Int32))) rfl rfl (Nat.le_of_ble_eq_true rfl) (sI v0 0 2 ((gI v0 0 2) + (1 : Int32))) sI_ne (by rw [sI_eq]; exact rfl) dX11_reads_54 (fun H36 locs37 hW38 hS39 hz40 hkp41 => ?_)
        obtain ⟨v0_35, he9, hm⟩ := lm_some hm
        rw [he9] at hW38
        have hW42 := rg_keepq hW1 hkp41 (by omega)
        have hz43 := hz40.trans hz
        have hG44 := GO_keepq hG hkp41 (by omega)
        refine lv_aload_n (pc := 57) hx hb dX11_reads_57 rfl (lv_at hl 0 rfl) ?_
        obtain ⟨ok47, re48, rc45, w46, hq49, hm⟩ := ob4_some hm
        by_cases hok : ok47 = true
        · subst hok
          have hm := ite_t rfl hm
          refine rk_TV (pc := 58) (As := []) (rest := []) (mc := 0) (ms := 0) hx hb hml hown hts hK hS39 (fun q hq => FA_sz rfl q hq) lkX11_91 rfl yn_X11_clause (CX.ret (ct_X11_clause (G := G) (l := l) (rok := true) (b0 := b0) (b1 := b1) (sz := H36.size) hq49 (by omega) hZ (by omega) (by omega))) ⟨Nat.le_of_ble_eq_true rfl, Nat.le_of_ble_eq_true rfl⟩ (fun z h => Or.inl (show iv _ _ _ from ⟨by have h8 := h.1; have h9 := h.2; omega, by have h8 := h.1; have h9 := h.2; omega⟩)) (rk_recv hK hW38 0 (by decide) rfl rfl rfl) ⟨hW38, hW42, hG44⟩ rfl rfl hl.1 (Nat.le_of_ble_eq_true rfl) dX11_reads_58 ⟨Nat.zero_le _, Nat.zero_le _⟩ (fun ov9 H50 locs51 hP52 hkp53 hS54 => ?_)
          obtain ⟨rfl, hW55, hz56⟩ := hP52
          have hW57 := rg_keepX hW42 hkp53 (by intro z h0 h3; have h1 := h0.1.1; have h2 := h0.1.2; have h4 := h0.2; have h8 := h3.1; have h9 := h3.2; omega)
          have hG58 := GO_keepA hG44 hkp53 (Nat.le_trans (show gB G ≤ s.heap.size by omega) hS39.1) (by intro z h3; have h8 := h3.1; have h9 := h3.2; omega)
          have hz59 : H50.size = s.heap.size + (zc + rc45) := by omega
          refine W.eq (g2 := F0 m 61 ls []) rfl ?_
          refine lv_goto (pc := 61) (tgt := 4) hx hb dX11_reads_61 (by decide) ?_
          exact hk4 w46 (zc + rc45) hm H50 locs51 ls hW55 hW57 hS54 hz59 hG58 (lv_sub hl [0] rfl)
        · have hok := eq_false_of_ne_true hok
          subst hok
          have hm := ite_f Bool.false_ne_true hm
          have hok9 : false = rok := (by exact (rs4 hm).1)
          subst hok9
          refine rk_XV (pc := 58) (As := []) (rest := []) (mc := 1) (ms := 7) hx hb hml hown hts hK hS39 (fun q hq => FA_sz rfl q hq) lkX11_91 rfl yn_X11_clause (ct_X11_clause (G := G) (l := l) (rok := false) (b0 := b0) (b1 := b1) (sz := H36.size) hq49 (by omega) hZ (by omega) (by omega)) ⟨Nat.le_of_ble_eq_true rfl, Nat.le_of_ble_eq_true rfl⟩ (fun z h => Or.inl (show iv _ _ _ from ⟨by have h8 := h.1; have h9 := h.2; omega, by have h8 := h.1; have h9 := h.2; omega⟩)) (rk_recv hK hW38 0 (by decide) rfl rfl rfl) ⟨hW38, hW42, hG44⟩ rfl rfl hl.1 (Nat.le_of_ble_eq_true rfl) dX11_reads_58 ⟨Nat.le_of_ble_eq_true rfl, Nat.le_of_ble_eq_true rfl⟩ (fun q65 E9 ce9 H60 locs61 hP62 hkp63 hS64 hce9 hcv9 hcl9 => ?_)
          obtain ⟨rfl, hqq65, ⟨wx67, hW68, hre69⟩, hW66, hz70⟩ := hP62
          have hqq65 : s.heap.size ≤ q65 := Nat.le_trans hS39.1 hqq65
          have hW71 := rg_keepX hW42 hkp63 (by intro z h0 h3; have h1 := h0.1.1; have h2 := h0.1.2; have h4 := h0.2; have h8 := h3.1; have h9 := h3.2; omega)
          have hG72 := GO_keepA hG44 hkp63 (Nat.le_trans (show gB G ≤ s.heap.size by omega) hS39.1) (by intro z h3; have h8 := h3.1; have h9 := h3.2; omega)
          have hz73 : H60.size = s.heap.size + (zc + rc45) := by omega
          obtain ⟨ce8, hce8, hcv8, hcl8⟩ := rk_exc hK hW68 rfl rfl
          obtain ⟨e6, e7, e8, e9⟩ := rs4 hm
          cases e6
          subst e7
          subst e8
          subst e9
          exact rk_xout (fun x h => (ht x h).elim) hlk hS64 hce8 hcv8 hcl8 ⟨rfl, hqq65, ⟨_, hW68, hre69⟩, hW66, hz73⟩ (by exact Nat.le_of_ble_eq_true rfl) (by exact Nat.le_of_ble_eq_true rfl)
      · have hm := ite_t c34 hm
        exact (w_fX11_reads_35 C hd01 he0 he1 hZ hgb0 hgb1 ht) v0 zc hm H locs ls hW0 hW1 hS hz hG (lv_sub hl [0] rfl)
theorem w_fX11_reads_4_l (C : Cx G p s m args meth c RX11 cX11_reads 1 none) {b0 : Nat} {b1 : Nat} {V1 : Mem} {rok : Bool} {re : Int32} {rc : Nat} {rw0 : Mem} (hd01 : b0 + 10 ≤ b1 ∨ b1 + 357 ≤ b0) (he0 : b0 + 10 ≤ s.heap.size) (he1 : b1 + 357 ≤ s.heap.size) (hZ : ZQ G) (hgb0 : gB G ≤ b0) (hgb1 : gB G ≤ b1) (ht : ∀ x ∈ c.exceptionTable.toList, False) : ∀ (n : Nat) (v0 : Mem) (zc : Nat), lq2 (fX11_reads_4 V1) n v0 zc = some (rok, re, rc, rw0) → ∀ (H : Heap) (locs : List Loc) (ls : Array Slot), rg G b0 10 (shX11 b1 G.2.1) v0 H → rg G b1 357 (shX0 G.2.1) V1 H → va_S (FA (iv b0 10) s.heap.size) s.heap H locs → H.size = s.heap.size + zc → GO G H → lv_has ls 1 [(0, .ref b0)] → W p l e (rmT 6 (bif rok then 0 else 1) (bif rok then 0 else 7) 126) s m args below meth c H locs 0 0 (vx_MQ below (QcX rok (FA (iv b0 10) s.heap.size) (fun ov H => ov = none ∧ rg G b0 10 (shX11 b1 G.2.1) rw0 H ∧ H.size = s.heap.size + rc)) (XcX rok (FA (iv b0 10) s.heap.size) (fun q E H => E = "WholePacks$Fault" ∧ s.heap.size ≤ q ∧ (∃ wx, rg G q 1 (shX12 G.2.1) wx H ∧ gI wx 0 6 = re) ∧ rg G b0 10 (shX11 b1 G.2.1) rw0 H ∧ H.size = s.heap.size + rc)) args s (bif rok then 0 else 1) (bif rok then 0 else 7) (FA (iv b0 10) s.heap.size)) (F0 m 4 ls []) := by
  intro n
  induction n with
  | zero => intro v0 zc hm; exact (lq2_0 hm).elim
  | succ n ih => intro v0 zc hm; exact w_fX11_reads_4 C hd01 he0 he1 hZ hgb0 hgb1 ht ih v0 zc (lq2_s hm)
set_option maxHeartbeats 4000000 in
theorem w_fX11_reads (C : Cx G p s m args meth c RX11 cX11_reads 1 none) {b0 : Nat} {b1 : Nat} {V1 : Mem} {rok : Bool} {re : Int32} {rc : Nat} {rw0 : Mem} (hd01 : b0 + 10 ≤ b1 ∨ b1 + 357 ≤ b0) (he0 : b0 + 10 ≤ s.heap.size) (he1 : b1 + 357 ≤ s.heap.size) (hZ : ZQ G) (hgb0 : gB G ≤ b0) (hgb1 : gB G ≤ b1) (ht : ∀ x ∈ c.exceptionTable.toList, False) : ∀ (v0 : Mem), fX11_reads V1 v0 = some (rok, re, rc, rw0) → ∀ (H : Heap) (locs : List Loc) (ls : Array Slot), rg G b0 10 (shX11 b1 G.2.1) v0 H → rg G b1 357 (shX0 G.2.1) V1 H → va_S (FA (iv b0 10) s.heap.size) s.heap H locs → H.size = s.heap.size + 0 → GO G H → lv_has ls 1 [(0, .ref b0)] → W p l e (rmT 6 (bif rok then 0 else 1) (bif rok then 0 else 7) 126) s m args below meth c H locs 0 0 (vx_MQ below (QcX rok (FA (iv b0 10) s.heap.size) (fun ov H => ov = none ∧ rg G b0 10 (shX11 b1 G.2.1) rw0 H ∧ H.size = s.heap.size + rc)) (XcX rok (FA (iv b0 10) s.heap.size) (fun q E H => E = "WholePacks$Fault" ∧ s.heap.size ≤ q ∧ (∃ wx, rg G q 1 (shX12 G.2.1) wx H ∧ gI wx 0 6 = re) ∧ rg G b0 10 (shX11 b1 G.2.1) rw0 H ∧ H.size = s.heap.size + rc)) args s (bif rok then 0 else 1) (bif rok then 0 else 7) (FA (iv b0 10) s.heap.size)) (F0 m 0 ls []) := by
  intro v0 hm H locs ls hW0 hW1 hS hz hG hl
  obtain ⟨hx, hb, hr, hlk, hml, hown, hts, hK⟩ := id C
  unfold fX11_reads at hm
  refine lv_aload_n (pc := 0) hx hb dX11_reads_0 rfl (lv_at hl 0 rfl) ?_
  obtain ⟨ok3, re4, rc1, w2, hq5, hm⟩ := ob4_some hm
  by_cases hok : ok3 = true
  · subst hok
    have hm := ite_t rfl hm
    refine rk_TV (pc := 1) (As := []) (rest := []) (mc := 0) (ms := 0) hx hb hml hown hts hK hS (fun q hq => FA_sz rfl q hq) lkX11_91 rfl yn_X11_clause (CX.ret (ct_X11_clause (G := G) (l := l) (rok := true) (b0 := b0) (b1 := b1) (sz := H.size) hq5 (by omega) hZ (by omega) (by omega))) ⟨Nat.le_of_ble_eq_true rfl, Nat.le_of_ble_eq_true rfl⟩ (fun z h => Or.inl (show iv _ _ _ from ⟨by have h8 := h.1; have h9 := h.2; omega, by have h8 := h.1; have h9 := h.2; omega⟩)) (rk_recv hK hW0 0 (by decide) rfl rfl rfl) ⟨hW0, hW1, hG⟩ rfl rfl hl.1 (Nat.le_of_ble_eq_true rfl) dX11_reads_1 ⟨Nat.zero_le _, Nat.zero_le _⟩ (fun ov9 H6 locs7 hP8 hkp9 hS10 => ?_)
    obtain ⟨rfl, hW11, hz12⟩ := hP8
    have hW13 := rg_keepX hW1 hkp9 (by intro z h0 h3; have h1 := h0.1.1; have h2 := h0.1.2; have h4 := h0.2; have h8 := h3.1; have h9 := h3.2; omega)
    have hG14 := GO_keepA hG hkp9 (Nat.le_trans (show gB G ≤ s.heap.size by omega) hS.1) (by intro z h3; have h8 := h3.1; have h9 := h3.2; omega)
    have hz15 : H6.size = s.heap.size + rc1 := by omega
    refine W.eq (g2 := F0 m 4 ls []) rfl ?_
    exact (w_fX11_reads_4_l C hd01 he0 he1 hZ hgb0 hgb1 ht FU) w2 rc1 hm H6 locs7 ls hW11 hW13 hS10 hz15 hG14 (lv_sub hl [0] rfl)
  · have hok := eq_false_of_ne_true hok
    subst hok
    have hm := ite_f Bool.false_ne_true hm
    have hok9 : false = rok := (by exact (rs4 hm).1)
    subst hok9
    refine rk_XV (pc := 1) (As := []) (rest := []) (mc := 1) (ms := 7) hx hb hml hown hts hK hS (fun q hq => FA_sz rfl q hq) lkX11_91 rfl yn_X11_clause (ct_X11_clause (G := G) (l := l) (rok := false) (b0 := b0) (b1 := b1) (sz := H.size) hq5 (by omega) hZ (by omega) (by omega)) ⟨Nat.le_of_ble_eq_true rfl, Nat.le_of_ble_eq_true rfl⟩ (fun z h => Or.inl (show iv _ _ _ from ⟨by have h8 := h.1; have h9 := h.2; omega, by have h8 := h.1; have h9 := h.2; omega⟩)) (rk_recv hK hW0 0 (by decide) rfl rfl rfl) ⟨hW0, hW1, hG⟩ rfl rfl hl.1 (Nat.le_of_ble_eq_true rfl) dX11_reads_1 ⟨Nat.le_of_ble_eq_true rfl, Nat.le_of_ble_eq_true rfl⟩ (fun q21 E9 ce9 H16 locs17 hP18 hkp19 hS20 hce9 hcv9 hcl9 => ?_)
    obtain ⟨rfl, hqq21, ⟨wx23, hW24, hre25⟩, hW22, hz26⟩ := hP18
    have hqq21 : s.heap.size ≤ q21 := Nat.le_trans hS.1 hqq21
    have hW27 := rg_keepX hW1 hkp19 (by intro z h0 h3; have h1 := h0.1.1; have h2 := h0.1.2; have h4 := h0.2; have h8 := h3.1; have h9 := h3.2; omega)
    have hG28 := GO_keepA hG hkp19 (Nat.le_trans (show gB G ≤ s.heap.size by omega) hS.1) (by intro z h3; have h8 := h3.1; have h9 := h3.2; omega)
    have hz29 : H16.size = s.heap.size + rc1 := by omega
    obtain ⟨ce8, hce8, hcv8, hcl8⟩ := rk_exc hK hW24 rfl rfl
    obtain ⟨e6, e7, e8, e9⟩ := rs4 hm
    cases e6
    subst e7
    subst e8
    subst e9
    exact rk_xout (fun x h => (ht x h).elim) hlk hS20 hce8 hcv8 hcl8 ⟨rfl, hqq21, ⟨_, hW24, hre25⟩, hW22, hz29⟩ (by exact Nat.le_of_ble_eq_true rfl) (by exact Nat.le_of_ble_eq_true rfl)
set_option maxHeartbeats 4000000 in
theorem ct_X11_reads {G : Gv} {l : Launch} {b0 : Nat} {b1 : Nat} {V1 : Mem} {v0 : Mem} {rok : Bool} {re : Int32} {rc : Nat} {rw0 : Mem} {sz : Nat} (hm : fX11_reads V1 v0 = some (rok, re, rc, rw0)) (hd01 : b0 + 10 ≤ b1 ∨ b1 + 357 ≤ b0) (hZ : ZQ G) (hgb0 : gB G ≤ b0) (hgb1 : gB G ≤ b1) : CX G l yX11_reads (ws_ yX11_reads cX11_reads 1 none) 6 (bif rok then 0 else 1) (bif rok then 0 else 7) 126 [.ref b0] (iv b0 10) sz (fun H => rg G b0 10 (shX11 b1 G.2.1) v0 H ∧ rg G b1 357 (shX0 G.2.1) V1 H ∧ GO G H) rok (fun ov H => ov = none ∧ rg G b0 10 (shX11 b1 G.2.1) rw0 H ∧ H.size = sz + rc) (fun q E H => E = "WholePacks$Fault" ∧ sz ≤ q ∧ (∃ wx, rg G q 1 (shX12 G.2.1) wx H ∧ gI wx 0 6 = re) ∧ rg G b0 10 (shX11 b1 G.2.1) rw0 H ∧ H.size = sz + rc) := by
  refine vx_ofW (cc := cX11_reads) (maxL := 1) (ret := none) (by decide +kernel) rfl ?_
  intro p e s m args below meth c s₁ B hml ht hv
  obtain ⟨rfl, ⟨hz, hW0, hW1, hG⟩, hK⟩ := hv
  subst hz
  have he0 := rg_end hW0 9 (by decide) rfl (fun _ _ _ => rfl)
  have he1 := rg_end hW1 356 (by decide) rfl (fun _ _ _ => rfl)
  have hts := atoms_spec (ws := ws_ yX11_reads cX11_reads 1 none) B.pre
  have hts : ∀ w ∈ lw_all, w.before _ s = true := fun w h => hts w (List.mem_cons_of_mem _ h)
  have C : Cx G p s m _ meth c RX11 cX11_reads 1 none := ⟨B.exec, B.bytes, B.returns, B.notSynchronized, hml, findClass_of_methodNamed B.named, hts, hK⟩
  have hl := lv_entry ([.ref b0]) (n := 1) (Nat.le_of_ble_eq_true rfl)
  rw [lg_entry_eq]
  generalize (lg_sl ([.ref b0]) ++ List.replicate (1 - (lg_sl ([.ref b0])).length) Slot.unset).toArray = ls at hl ⊢
  have hl : lv_has ls 1 [(0, .ref b0)] := hl
  exact w_fX11_reads C hd01 he0 he1 hZ hgb0 hgb1 ht _ hm s.heap [] ls hW0 hW1 va_S.rf rfl hG hl
end
