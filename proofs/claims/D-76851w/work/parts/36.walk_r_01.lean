set_option maxRecDepth 100000
section
variable {p : Program} {l : Launch} {e : Env} {s : State} {m : MethodId} {args : Array Value} {below : List Frame} {meth : Method} {c : Code} {G : Gv}
theorem ft_X11 : FT TX11 4 tyX11 := ⟨tyX11_ok, nmX11⟩
theorem flX11_22 : FL RX11 22 11 2 RX11 TX11 4 := ⟨in_X11, rfl, by decide, q647⟩
theorem flX11_3 : FL RX11 3 11 3 RX11 TX11 4 := ⟨in_X11, rfl, by decide, q648⟩
theorem fnX11_26 : FN RX11 26 0 12 RX0 TX0 25 "WholePacks" := ⟨in_X0, rfl, by decide, q509⟩
theorem fnX11_29 : FN RX11 29 0 11 RX0 TX0 25 "WholePacks" := ⟨in_X0, rfl, by decide, q508⟩
noncomputable def fX11_here (V0 : Mem) (V1 : Mem) : Option (Int32) :=
  if (gI V1 0 12) ≤ (gI V0 0 2) then (
  some (-1 : Int32))
  else (
  gb (inR (gI V0 0 2) 80) (
  some (gI V1 157 (gI V0 0 2).toNatClampNeg)))
set_option maxHeartbeats 4000000 in
theorem w_fX11_here (C : Cx G p s m args meth c RX11 cX11_here 1 (some .int)) {b0 : Nat} {b1 : Nat} {V0 : Mem} {V1 : Mem} {rx : Int32} (hW0 : rg G b0 10 (shX11 b1 G.2.1) V0 s.heap) (hW1 : rg G b1 357 (shX0 G.2.1) V1 s.heap) : fX11_here V0 V1 = some rx → ∀ (ls : Array Slot), lv_has ls 1 [(0, .ref b0)] → W p l e (rmP 0 0) s m args below meth c s.heap [] 0 0 (MQ below (QcP (some (.int rx))) args s 0 0 (fun _ => False)) (F0 m 0 ls []) := by
  intro hm ls hl
  obtain ⟨hx, hb, hr, hlk, hml, hown, hts, hK⟩ := id C
  unfold fX11_here at hm
  refine lv_aload_n (pc := 0) hx hb dX11_here_0 rfl (lv_at hl 0 rfl) ?_
  refine rk_get (pc := 1) hx hb hts hown hK hW0 flX11_22 0 (by decide) rfl rfl (x := .int (gI V0 0 2)) rfl dX11_here_1 ?_
  refine lv_aload_n (pc := 4) hx hb dX11_here_4 rfl (lv_at hl 0 rfl) ?_
  refine rk_get (pc := 5) hx hb hts hown hK hW0 flX11_3 0 (by decide) rfl rfl (x := .ref b1) (by first | rfl | exact congrArg (fun z => some (Value.ref z)) (by omega)) dX11_here_5 ?_
  refine rk_getN (pc := 8) hx hb hts hown hK hW1 fnX11_26 0 (by decide) rfl rfl (x := .int (gI V1 0 12)) rfl dX11_here_8 ?_
  refine lv_icmp_ge (pc := 11) (tgt := 29) hx hb dX11_here_11 (by decide) (fun c1 => ?_) (fun c1 => ?_)
  · have hm := ite_t c1 hm
    refine lv_iconst (pc := 29) (v := (-1 : Int32)) hx hb dX11_here_29 (by decide) ?_
    have e9 := rs1 hm
    subst e9
    exact rk_iretP (pc := 30) hx hb hr hlk rfl dX11_here_30
  · have hm := ite_f c1 hm
    refine lv_aload_n (pc := 14) hx hb dX11_here_14 rfl (lv_at hl 0 rfl) ?_
    refine rk_get (pc := 15) hx hb hts hown hK hW0 flX11_3 0 (by decide) rfl rfl (x := .ref b1) (by first | rfl | exact congrArg (fun z => some (Value.ref z)) (by omega)) dX11_here_15 ?_
    refine rk_getN (pc := 18) hx hb hts hown hK hW1 fnX11_29 0 (by decide) rfl rfl (x := .ref (b1 + 157)) (by first | rfl | exact congrArg (fun z => some (Value.ref z)) (by omega)) dX11_here_18 ?_
    refine lv_aload_n (pc := 21) hx hb dX11_here_21 rfl (lv_at hl 0 rfl) ?_
    refine rk_get (pc := 22) hx hb hts hown hK hW0 flX11_22 0 (by decide) rfl rfl (x := .int (gI V0 0 2)) rfl dX11_here_22 ?_
    obtain ⟨hg2, hm⟩ := gb_some hm
    refine rk_bald (pc := 25) hx hb hK hW1 157 (by decide) rfl rfl hg2 (x := (gI V1 157 (gI V0 0 2).toNatClampNeg)) rfl dX11_here_25 ?_
    refine lv_goto (pc := 26) (tgt := 30) hx hb dX11_here_26 (by decide) ?_
    have e9 := rs1 hm
    subst e9
    exact rk_iretP (pc := 30) hx hb hr hlk rfl dX11_here_30
set_option maxHeartbeats 4000000 in
theorem ct_X11_here {G : Gv} {l : Launch} {b0 : Nat} {b1 : Nat} {V0 : Mem} {V1 : Mem} {rx : Int32} (hm : fX11_here V0 V1  = some rx) : CP G l yX11_here (ws_ yX11_here cX11_here 1 (some .int)) 0 0 [.ref b0] (fun H => rg G b0 10 (shX11 b1 G.2.1) V0 H ∧ rg G b1 357 (shX0 G.2.1) V1 H) (some (.int rx)) := by
  refine Met.ofW (cc := cX11_here) (maxL := 1) (ret := (some .int)) (by decide +kernel) rfl ?_
  intro p e s m args below meth c s₁ B hml hv
  obtain ⟨rfl, ⟨hW0, hW1⟩, hK⟩ := hv
  have hts := atoms_spec (ws := ws_ yX11_here cX11_here 1 (some .int)) B.pre
  have hts : ∀ w ∈ lw_all, w.before _ s = true := fun w h => hts w (List.mem_cons_of_mem _ h)
  have C : Cx G p s m _ meth c RX11 cX11_here 1 (some .int) := ⟨B.exec, B.bytes, B.returns, B.notSynchronized, hml, findClass_of_methodNamed B.named, hts, hK⟩
  have hl := lv_entry ([.ref b0]) (n := 1) (Nat.le_of_ble_eq_true rfl)
  rw [lg_entry_eq]
  generalize (lg_sl ([.ref b0]) ++ List.replicate (1 - (lg_sl ([.ref b0])).length) Slot.unset).toArray = ls at hl ⊢
  have hl : lv_has ls 1 [(0, .ref b0)] := hl
  exact w_fX11_here C hW0 hW1  hm ls hl
theorem yn_X11_here : YN yX11_here 0 := by
  unfold YN
  decide +kernel
theorem lkX11_33 : LV RX11 33 RX11 yX11_here cX11_here 1 (some .int) := ⟨q671, q673, qs6, q130, q674⟩
noncomputable def fX11_is (V1 : Mem) (v0 : Mem) (i1 : Int32) : Option (Int32 × Mem) :=
  ob (fX11_here v0 V1) fun r1 =>
  if r1 = i1 then (
  lm (sI v0 0 2 ((gI v0 0 2) + (1 : Int32))) fun v0_4 =>
  some ((1 : Int32), v0_4))
  else (
  some ((0 : Int32), v0))
set_option maxHeartbeats 4000000 in
theorem w_fX11_is (C : Cx G p s m args meth c RX11 cX11_is 2 (some .boolean)) {b0 : Nat} {b1 : Nat} {V1 : Mem} {rx : Int32} {rw0 : Mem} (hd01 : b0 + 10 ≤ b1 ∨ b1 + 357 ≤ b0) : ∀ (v0 : Mem) (i1 : Int32), fX11_is V1 v0 i1 = some (rx, rw0) → ∀ (H : Heap) (locs : List Loc) (ls : Array Slot), rg G b0 10 (shX11 b1 G.2.1) v0 H → rg G b1 357 (shX0 G.2.1) V1 H → va_S (FA (iv b0 10) s.heap.size) s.heap H locs → H.size = s.heap.size → lv_has ls 2 [(0, .ref b0), (1, .int i1)] → W p l e (rmT 1 0 0 20) s m args below meth c H locs 0 0 (MQ below (QcT (FA (iv b0 10) s.heap.size) (fun ov H => ov = (some (.int rx)) ∧ rg G b0 10 (shX11 b1 G.2.1) rw0 H ∧ H.size = s.heap.size)) args s 0 0 (FA (iv b0 10) s.heap.size)) (F0 m 0 ls []) := by
  intro v0 i1 hm H locs ls hW0 hW1 hS hz hl
  obtain ⟨hx, hb, hr, hlk, hml, hown, hts, hK⟩ := id C
  unfold fX11_is at hm
  refine lv_aload_n (pc := 0) hx hb dX11_is_0 rfl (lv_at hl 0 rfl) ?_
  obtain ⟨r1, hq2, hm⟩ := ob_some hm
  refine rk_PV (pc := 1) (As := []) (rest := []) hx hb hml hown hts hK lkX11_33 rfl yn_X11_here (ct_X11_here (G := G) (l := l) (b0 := b0) (b1 := b1) hq2) ⟨Nat.le_of_ble_eq_true rfl, Nat.le_of_ble_eq_true rfl⟩ (rk_recv hK hW0 0 (by decide) rfl rfl rfl) ⟨hW0, hW1⟩ rfl rfl hl.1 (Nat.le_of_ble_eq_true rfl) dX11_is_1 ⟨Nat.zero_le _, Nat.zero_le _⟩ ?_
  refine W.eq (g2 := F0 m 4 ls [.int r1]) rfl ?_
  refine lv_iload_n (pc := 4) hx hb dX11_is_4 rfl (lv_at hl 1 rfl) ?_
  refine lv_icmp_eq (pc := 5) (tgt := 10) hx hb dX11_is_5 (by decide) (fun c3 => ?_) (fun c3 => ?_)
  · have hm := ite_t c3 hm
    refine lv_aload_n (pc := 10) hx hb dX11_is_10 rfl (lv_at hl 0 rfl) ?_
    refine lv_dup (pc := 11) hx hb dX11_is_11 rfl ?_
    refine rk_get (pc := 12) hx hb hts hown hK hW0 flX11_22 0 (by decide) rfl rfl (x := .int (gI v0 0 2)) rfl dX11_is_12 ?_
    refine lv_iconst (pc := 15) (v := (1 : Int32)) hx hb dX11_is_15 (by decide) ?_
    refine lv_iadd (pc := 16) hx hb dX11_is_16 ?_
    refine rk_put (pc := 17) hx hb hts hown hK hW0 hS flX11_22 ft_X11 0 (by decide) rfl (Or.inl (show iv _ _ _ from ⟨by omega, by omega⟩)) rfl rfl (x := .int ((gI v0 0 2) + (1 : Int32))) rfl rfl (Nat.le_of_ble_eq_true rfl) (sI v0 0 2 ((gI v0 0 2) + (1 : Int32))) sI_ne (by rw [sI_eq]; exact rfl) dX11_is_17 (fun H5 locs6 hW7 hS8 hz9 hkp10 => ?_)
    obtain ⟨v0_4, he9, hm⟩ := lm_some hm
    rw [he9] at hW7
    have hW11 := rg_keepq hW1 hkp10 (by omega)
    have hz12 := hz9.trans hz
    refine lv_iconst (pc := 20) (v := (1 : Int32)) hx hb dX11_is_20 (by decide) ?_
    obtain ⟨e8, e9⟩ := rs2 hm
    subst e8
    subst e9
    exact rk_zret (pc := 21) hx hb hr hlk rfl hS8 ⟨rfl, hW7, hz12⟩ dX11_is_21
  · have hm := ite_f c3 hm
    refine lv_iconst (pc := 8) (v := (0 : Int32)) hx hb dX11_is_8 (by decide) ?_
    obtain ⟨e8, e9⟩ := rs2 hm
    subst e8
    subst e9
    exact rk_zret (pc := 9) hx hb hr hlk rfl hS ⟨rfl, hW0, hz⟩ dX11_is_9
set_option maxHeartbeats 4000000 in
theorem ct_X11_is {G : Gv} {l : Launch} {b0 : Nat} {b1 : Nat} {V1 : Mem} {v0 : Mem} {i1 : Int32} {rx : Int32} {rw0 : Mem} {sz : Nat} (hm : fX11_is V1 v0 i1 = some (rx, rw0)) (hd01 : b0 + 10 ≤ b1 ∨ b1 + 357 ≤ b0) : CT G l yX11_is (ws_ yX11_is cX11_is 2 (some .boolean)) 1 0 0 20 [.ref b0, .int i1] (iv b0 10) sz (fun H => rg G b0 10 (shX11 b1 G.2.1) v0 H ∧ rg G b1 357 (shX0 G.2.1) V1 H) (fun ov H => ov = (some (.int rx)) ∧ rg G b0 10 (shX11 b1 G.2.1) rw0 H ∧ H.size = sz) := by
  refine Met.ofW (cc := cX11_is) (maxL := 2) (ret := (some .boolean)) (by decide +kernel) rfl ?_
  intro p e s m args below meth c s₁ B hml hv
  obtain ⟨rfl, ⟨hz, hW0, hW1⟩, hK⟩ := hv
  subst hz
  have hts := atoms_spec (ws := ws_ yX11_is cX11_is 2 (some .boolean)) B.pre
  have hts : ∀ w ∈ lw_all, w.before _ s = true := fun w h => hts w (List.mem_cons_of_mem _ h)
  have C : Cx G p s m _ meth c RX11 cX11_is 2 (some .boolean) := ⟨B.exec, B.bytes, B.returns, B.notSynchronized, hml, findClass_of_methodNamed B.named, hts, hK⟩
  have hl := lv_entry ([.ref b0, .int i1]) (n := 2) (Nat.le_of_ble_eq_true rfl)
  rw [lg_entry_eq]
  generalize (lg_sl ([.ref b0, .int i1]) ++ List.replicate (2 - (lg_sl ([.ref b0, .int i1])).length) Slot.unset).toArray = ls at hl ⊢
  have hl : lv_has ls 2 [(0, .ref b0), (1, .int i1)] := hl
  exact w_fX11_is C hd01 _ _ hm s.heap [] ls hW0 hW1 va_S.rf rfl hl
theorem lkX11_41 : LSN RX11 41 yX0_in "WholePacks" cX0_in 6 (some .boolean) := ⟨q681, q431, q114, q432⟩
theorem fnX11_45 : FN RX11 45 0 0 RX0 TX0 25 "WholePacks" := ⟨in_X0, rfl, by decide, q496⟩
theorem lkX11_49 : LV RX11 49 RX1 yX1_hasPack cX1_hasPack 2 (some .boolean) := ⟨q682, q437, q438, q115, q439⟩
theorem fnX11_60 : FN RX11 60 2 2 RX2 TX2 3 "WholePacks" := ⟨in_X2, rfl, by decide, q181⟩
theorem df_X12 (fs : List Value) (h : fs = [.null, .null, .null, .null, .null, .int 0, .int 0]) : ∀ j, j < 7 → defaultValue (tyX12 j) = vp_V fs j := by
  subst h
  intro j hj
  match j, hj with
  | 0, _ => rfl
  | 1, _ => rfl
  | 2, _ => rfl
  | 3, _ => rfl
  | 4, _ => rfl
  | 5, _ => rfl
  | 6, _ => rfl
  | n + 7, h => exact absurd h (by omega)
theorem lkX11_57 : LI RX11 57 yX12_init cX12_init 2 := ⟨q724, q725, q133, q726, rfl⟩
theorem yn_X12_init : YN yX12_init 1 := by
  unfold YN
  decide +kernel
noncomputable def fX11_term_37 (V1 : Mem) (n1 : Nat) (v0 : Mem) (i2 : Int32) (i3 : Int32) : Option (Bool × Int32 × Mem) :=
  ob (fX11_here v0 V1) fun r17 =>
  ob (fX1_hasPack (shf V1 1) (r17 - (97 : Int32))) fun r19 =>
  if r19 = 0 then (
  some (false, (gI v0 0 2), v0))
  else (
  gb (inR (r17 - (97 : Int32)) 5) (
  gb (inR (r17 - (97 : Int32)) 5) (
  lm (sI v0 (2 + 2 * n1 + 1) (r17 - (97 : Int32)).toNatClampNeg ((gI v0 (2 + 2 * n1 + 1) (r17 - (97 : Int32)).toNatClampNeg) + (i2 * i3))) fun v0_24 =>
  gb (inR (r17 - (97 : Int32)) 5) (
  ob (fX0_in (gI v0_24 (2 + 2 * n1 + 1) (r17 - (97 : Int32)).toNatClampNeg).toInt64 (-9 : Int64) (9 : Int64)) fun r34 =>
  if r34 = 0 then (
  some (false, (gI v0_24 0 2), v0_24))
  else (
  lm (sI v0_24 0 2 ((gI v0_24 0 2) + (1 : Int32))) fun v0_37 =>
  some (true, (0 : Int32), v0_37))))))
noncomputable def fX11_term (V1 : Mem) (n1 : Nat) (v0 : Mem) (i2 : Int32) : Option (Bool × Int32 × Mem) :=
  ob (fX11_here v0 V1) fun r1 =>
  ob (fX0_in r1.toInt64 (48 : Int64) (57 : Int64)) fun r3 =>
  if r3 = 0 then (
  fX11_term_37 V1 n1 v0 i2 (1 : Int32))
  else (
  ob (fX11_here v0 V1) fun r6 =>
  lm (sI v0 0 2 ((gI v0 0 2) + (1 : Int32))) fun v0_8 =>
  fX11_term_37 V1 n1 v0_8 i2 (r6 - (48 : Int32)))
set_option maxHeartbeats 4000000 in
theorem w_fX11_term_37 (C : Cx G p s m args meth c RX11 cX11_term 5 none) {b0 : Nat} {b1 : Nat} {V1 : Mem} {n1 : Nat} {rok : Bool} {re : Int32} {rw0 : Mem} (hd01 : b0 + 10 ≤ b1 ∨ b1 + 357 ≤ b0) (hn1 : n1 < 4) (he0 : b0 + 10 ≤ s.heap.size) (he1 : b1 + 357 ≤ s.heap.size) (hZ : ZQ G) (hgb0 : gB G ≤ b0) (hgb1 : gB G ≤ b1) (ht : ∀ x ∈ c.exceptionTable.toList, False) : ∀ (v0 : Mem) (i2 : Int32) (i3 : Int32), fX11_term_37 V1 n1 v0 i2 i3 = some (rok, re, rw0) → ∀ (H : Heap) (locs : List Loc) (ls : Array Slot), rg G b0 10 (shX11 b1 G.2.1) v0 H → rg G b1 357 (shX0 G.2.1) V1 H → va_S (FA (iv b0 10) s.heap.size) s.heap H locs → GO G H → lv_has ls 5 [(0, .ref b0), (1, .ref (b0 + (2 + 2 * n1 + 0))), (2, .int i2), (3, .int i3)] → W p l e (rmT 4 (bif rok then 0 else 1) (bif rok then 0 else 7) 81) s m args below meth c H locs 0 0 (vx_MQ below (QcX rok (FA (iv b0 10) s.heap.size) (fun ov H => ov = none ∧ rg G b0 10 (shX11 b1 G.2.1) rw0 H)) (XcX rok (FA (iv b0 10) s.heap.size) (fun q E H => E = "WholePacks$Fault" ∧ s.heap.size ≤ q ∧ (∃ wx, rg G q 1 (shX12 G.2.1) wx H ∧ gI wx 0 6 = re) ∧ rg G b0 10 (shX11 b1 G.2.1) rw0 H)) args s (bif rok then 0 else 1) (bif rok then 0 else 7) (FA (iv b0 10) s.heap.size)) (F0 m 37 ls []) := by
  intro v0 i2 i3 hm H locs ls hW0 hW1 hS hG hl
  obtain ⟨hx, hb, hr, hlk, hml, hown, hts, hK⟩ := id C
  unfold fX11_term_37 at hm
  refine lv_aload_n (pc := 37) hx hb dX11_term_37 rfl (lv_at hl 0 rfl) ?_
  obtain ⟨r17, hq18, hm⟩ := ob_some hm
  refine rk_PV (pc := 38) (As := []) (rest := []) hx hb hml hown hts hK lkX11_33 rfl yn_X11_here (ct_X11_here (G := G) (l := l) (b0 := b0) (b1 := b1) hq18) ⟨Nat.le_of_ble_eq_true rfl, Nat.le_of_ble_eq_true rfl⟩ (rk_recv hK hW0 0 (by decide) rfl rfl rfl) ⟨hW0, hW1⟩ rfl rfl hl.1 (Nat.le_of_ble_eq_true rfl) dX11_term_38 ⟨Nat.zero_le _, Nat.zero_le _⟩ ?_
  refine W.eq (g2 := F0 m 41 ls [.int r17]) rfl ?_
  refine lv_bipush (pc := 41) (v := (97 : Int32)) hx hb dX11_term_41 (by decide) ?_
  refine lv_isub (pc := 43) hx hb dX11_term_43 ?_
  refine lv_istore (pc := 44) (lv' := [(4, .int (r17 - (97 : Int32))), (0, .ref b0), (1, .ref (b0 + (2 + 2 * n1 + 0))), (2, .int i2), (3, .int i3)]) hx hb dX11_term_44 hl (by decide) rfl (fun ls hl => ?_)
  refine lv_aload_n (pc := 46) hx hb dX11_term_46 rfl (lv_at hl 1 rfl) ?_
  refine rk_get (pc := 47) hx hb hts hown hK hW0 flX11_3 0 (by decide) rfl rfl (x := .ref b1) (by first | rfl | exact congrArg (fun z => some (Value.ref z)) (by omega)) dX11_term_47 ?_
  refine rk_getN (pc := 50) hx hb hts hown hK hW1 fnX11_45 0 (by decide) rfl rfl (x := .ref (b1 + 1)) (by first | rfl | exact congrArg (fun z => some (Value.ref z)) (by omega)) dX11_term_50 ?_
  refine lv_iload (pc := 53) hx hb dX11_term_53 (lv_at hl 0 rfl) ?_
  obtain ⟨r19, hq20, hm⟩ := ob_some hm
  refine rk_PV (pc := 55) (As := [.int (r17 - (97 : Int32))]) (rest := []) hx hb hml hown hts hK lkX11_49 rfl yn_X1_hasPack (ct_X1_hasPack (G := G) (l := l) (b0 := (b1 + 1)) hq20) ⟨Nat.le_of_ble_eq_true rfl, Nat.le_of_ble_eq_true rfl⟩ (rk_recv hK hW1 1 (by decide) rfl rfl rfl) (rg_sub hW1 rfl (by decide) (fun o ho x y z => shX0_n1 G.2.1 _ rfl o ho x y z)) rfl rfl hl.1 (Nat.le_of_ble_eq_true rfl) dX11_term_55 ⟨Nat.zero_le _, Nat.zero_le _⟩ ?_
  refine W.eq (g2 := F0 m 58 ls [.int r19]) rfl ?_
  refine lv_if_ne (pc := 58) (tgt := 73) hx hb dX11_term_58 (by decide) (fun c21 => ?_) (fun c21 => ?_)
  · have hm := ite_f c21 hm
    refine lv_aload_n (pc := 73) hx hb dX11_term_73 rfl (lv_at hl 2 rfl) ?_
    refine rk_getN (pc := 74) hx hb hts hown hK hW0 fnX11_60 (2 + 2 * n1 + 0) (by omega) rfl ((shX11_f2 G.2.1 hn1 _ rfl 0 (by decide) _ _ _).trans rfl) (x := .ref (b0 + (2 + 2 * n1 + 1))) (by first | rfl | exact congrArg (fun z => some (Value.ref z)) (by omega)) dX11_term_74 ?_
    refine lv_iload (pc := 77) hx hb dX11_term_77 (lv_at hl 0 rfl) ?_
    refine lv_dup2_11 (pc := 79) hx hb dX11_term_79 rfl rfl ?_
    obtain ⟨hg22, hm⟩ := gb_some hm
    refine rk_iald (pc := 80) hx hb hK hW0 (2 + 2 * n1 + 1) (by omega) rfl ((shX11_f2 G.2.1 hn1 _ rfl 1 (by decide) _ _ _).trans rfl) hg22 (x := (gI v0 (2 + 2 * n1 + 1) (r17 - (97 : Int32)).toNatClampNeg)) rfl dX11_term_80 ?_
    refine lv_iload_n (pc := 81) hx hb dX11_term_81 rfl (lv_at hl 3 rfl) ?_
    refine lv_iload_n (pc := 82) hx hb dX11_term_82 rfl (lv_at hl 4 rfl) ?_
    refine lv_imul (pc := 83) hx hb dX11_term_83 ?_
    refine lv_iadd (pc := 84) hx hb dX11_term_84 ?_
    obtain ⟨hg23, hm⟩ := gb_some hm
    refine rk_iast (pc := 85) hx hb hK hW0 hS (2 + 2 * n1 + 1) (by omega) rfl (Or.inl (show iv _ _ _ from ⟨by omega, by omega⟩)) (fun _ _ _ => ((shX11_f2 G.2.1 hn1 _ rfl 1 (by decide) _ _ _).trans rfl)) hg23 dX11_term_85 (fun H25 locs26 hW27 hS28 hz29 hkp30 => ?_)
    obtain ⟨v0_24, he9, hm⟩ := lm_some hm
    rw [he9] at hW27
    have hW31 := rg_keepq hW1 hkp30 (by omega)
    have hG32 := GO_keepq hG hkp30 (by omega)
    refine lv_aload_n (pc := 86) hx hb dX11_term_86 rfl (lv_at hl 2 rfl) ?_
    refine rk_getN (pc := 87) hx hb hts hown hK hW27 fnX11_60 (2 + 2 * n1 + 0) (by omega) rfl ((shX11_f2 G.2.1 hn1 _ rfl 0 (by decide) _ _ _).trans rfl) (x := .ref (b0 + (2 + 2 * n1 + 1))) (by first | rfl | exact congrArg (fun z => some (Value.ref z)) (by omega)) dX11_term_87 ?_
    refine lv_iload (pc := 90) hx hb dX11_term_90 (lv_at hl 0 rfl) ?_
    obtain ⟨hg33, hm⟩ := gb_some hm
    refine rk_iald (pc := 92) hx hb hK hW27 (2 + 2 * n1 + 1) (by omega) rfl ((shX11_f2 G.2.1 hn1 _ rfl 1 (by decide) _ _ _).trans rfl) hg33 (x := (gI v0_24 (2 + 2 * n1 + 1) (r17 - (97 : Int32)).toNatClampNeg)) rfl dX11_term_92 ?_
    refine lv_i2l (pc := 93) hx hb dX11_term_93 rfl ?_
    refine lv_ldc2 (pc := 94) (v := (-9 : Int64)) hx hb hown (hts _ q750) dX11_term_94 ?_
    refine lv_ldc2 (pc := 97) (v := (9 : Int64)) hx hb hown (hts _ q751) dX11_term_97 ?_
    obtain ⟨r34, hq35, hm⟩ := ob_some hm
    refine rk_PSN (pc := 100) (As := [.long (gI v0_24 (2 + 2 * n1 + 1) (r17 - (97 : Int32)).toNatClampNeg).toInt64, .long (-9 : Int64), .long (9 : Int64)]) (rest := []) hx hb hml hown hts hK lkX11_41 yn_X0_in (ct_X0_in (G := G) (l := l) hq35) ⟨Nat.le_of_ble_eq_true rfl, Nat.le_of_ble_eq_true rfl⟩ trivial rfl rfl hl.1 (Nat.le_of_ble_eq_true rfl) dX11_term_100 ⟨Nat.zero_le _, Nat.zero_le _⟩ ?_
    refine W.eq (g2 := F0 m 103 ls [.int r34]) rfl ?_
    refine lv_if_ne (pc := 103) (tgt := 118) hx hb dX11_term_103 (by decide) (fun c36 => ?_) (fun c36 => ?_)
    · have hm := ite_f c36 hm
      refine lv_aload_n (pc := 118) hx hb dX11_term_118 rfl (lv_at hl 1 rfl) ?_
      refine lv_dup (pc := 119) hx hb dX11_term_119 rfl ?_
      refine rk_get (pc := 120) hx hb hts hown hK hW27 flX11_22 0 (by decide) rfl rfl (x := .int (gI v0_24 0 2)) rfl dX11_term_120 ?_
      refine lv_iconst (pc := 123) (v := (1 : Int32)) hx hb dX11_term_123 (by decide) ?_
      refine lv_iadd (pc := 124) hx hb dX11_term_124 ?_
      refine rk_put (pc := 125) hx hb hts hown hK hW27 hS28 flX11_22 ft_X11 0 (by decide) rfl (Or.inl (show iv _ _ _ from ⟨by omega, by omega⟩)) rfl rfl (x := .int ((gI v0_24 0 2) + (1 : Int32))) rfl rfl (Nat.le_of_ble_eq_true rfl) (sI v0_24 0 2 ((gI v0_24 0 2) + (1 : Int32))) sI_ne (by rw [sI_eq]; exact rfl) dX11_term_125 (fun H38 locs39 hW40 hS41 hz42 hkp43 => ?_)
      obtain ⟨v0_37, he9, hm⟩ := lm_some hm
      rw [he9] at hW40
      have hW44 := rg_keepq hW31 hkp43 (by omega)
      have hG45 := GO_keepq hG32 hkp43 (by omega)
      obtain ⟨e7, e8, e9⟩ := rs3 hm
      cases e7
      subst e8
      subst e9
      exact rk_vretX (pc := 128) hx hb hr hlk hS41 ⟨rfl, hW40⟩ dX11_term_128 (by exact Nat.le_of_ble_eq_true rfl) (by exact Nat.le_of_ble_eq_true rfl)
    · have hm := ite_t c36 hm
      obtain ⟨h46, hh46⟩ : ∃ h, H25.size = h := ⟨_, rfl⟩
      have hqh46 : s.heap.size ≤ h46 := Nat.le_trans hS28.1 (Nat.le_of_eq hh46)
      have hok9 : false = rok := (by exact (rs3 hm).1)
      subst hok9
      refine rk_new (pc := 106) (h := h46) (sh := (shX12 G.2.1)) hx hb hts hown hK hS28 in_X12 ft_X12 rfl q683 q684 q133 hh46 rfl (df_X12 _ rfl) (Nat.le_of_ble_eq_true rfl) (Nat.le_of_ble_eq_true rfl) dX11_term_106 (fun H47 hW49 hS50 hz51 hkp52 => ?_)
      have hW53 := rg_keepN hW27 hh46 hkp52
      have hW54 := rg_keepN hW31 hh46 hkp52
      have hG55 := GO_keepN hG32 (by omega) hkp52
      refine lv_dup (pc := 109) hx hb dX11_term_109 rfl ?_
      refine lv_aload_n (pc := 110) hx hb dX11_term_110 rfl (lv_at hl 1 rfl) ?_
      refine rk_get (pc := 111) hx hb hts hown hK hW53 flX11_22 0 (by decide) rfl rfl (x := .int (gI v0_24 0 2)) rfl dX11_term_111 ?_
      refine rk_TI (pc := 114) (As := [.int (gI v0_24 0 2)]) (rest := [.ref h46]) (mc := 0) (ms := 0) hx hb hml hown hts hK hS50 (fun q hq => FA_sz rfl q hq) lkX11_57 yn_X12_init (ct_X12_init (G := G) (l := l) (b0 := h46) (v0 := mz) (i1 := (gI v0_24 0 2)) (sz := H47.size) hZ (by omega)) ⟨Nat.le_of_ble_eq_true rfl, Nat.le_of_ble_eq_true rfl⟩ (fun z h9 => Or.inr (show s.heap.size ≤ z by have := h9.1; omega)) ⟨hW49, hG55⟩ rfl rfl hl.1 (Nat.le_of_ble_eq_true rfl) dX11_term_114 ⟨Nat.le_of_ble_eq_true rfl, Nat.le_of_ble_eq_true rfl⟩ (fun ov9 H56 locs57 hP58 hkp59 hS60 => ?_)
      obtain ⟨rfl, ⟨wx61, hW62, hre63⟩, hz64⟩ := hP58
      have hW65 := rg_keepA hW53 hkp59 (by intro z h1 h2 h3; have h8 := h3.1; have h9 := h3.2; omega)
      have hW66 := rg_keepA hW54 hkp59 (by intro z h1 h2 h3; have h8 := h3.1; have h9 := h3.2; omega)
      have hG67 := GO_keepA hG55 hkp59 (Nat.le_trans (show gB G ≤ s.heap.size by omega) hS50.1) (by intro z h3; have h8 := h3.1; have h9 := h3.2; omega)
      refine W.eq (g2 := F0 m 117 ls [.ref h46]) rfl ?_
      refine vx_athrow (pc := 117) hx hb dX11_term_117 ?_
      obtain ⟨ce8, hce8, hcv8, hcl8⟩ := rk_exc hK hW62 rfl rfl
      obtain ⟨e7, e8, e9⟩ := rs3 hm
      cases e7
      subst e8
      subst e9
      exact rk_xout (fun x h => (ht x h).elim) hlk hS60 hce8 hcv8 hcl8 ⟨rfl, hqh46, ⟨_, hW62, hre63⟩, hW65⟩ (by exact Nat.le_of_ble_eq_true rfl) (by exact Nat.le_of_ble_eq_true rfl)
  · have hm := ite_t c21 hm
    obtain ⟨h68, hh68⟩ : ∃ h, H.size = h := ⟨_, rfl⟩
    have hqh68 : s.heap.size ≤ h68 := Nat.le_trans hS.1 (Nat.le_of_eq hh68)
    have hok9 : false = rok := (by exact (rs3 hm).1)
    subst hok9
    refine rk_new (pc := 61) (h := h68) (sh := (shX12 G.2.1)) hx hb hts hown hK hS in_X12 ft_X12 rfl q683 q684 q133 hh68 rfl (df_X12 _ rfl) (Nat.le_of_ble_eq_true rfl) (Nat.le_of_ble_eq_true rfl) dX11_term_61 (fun H69 hW71 hS72 hz73 hkp74 => ?_)
    have hW75 := rg_keepN hW0 hh68 hkp74
    have hW76 := rg_keepN hW1 hh68 hkp74
    have hG77 := GO_keepN hG (by omega) hkp74
    refine lv_dup (pc := 64) hx hb dX11_term_64 rfl ?_
    refine lv_aload_n (pc := 65) hx hb dX11_term_65 rfl (lv_at hl 1 rfl) ?_
    refine rk_get (pc := 66) hx hb hts hown hK hW75 flX11_22 0 (by decide) rfl rfl (x := .int (gI v0 0 2)) rfl dX11_term_66 ?_
    refine rk_TI (pc := 69) (As := [.int (gI v0 0 2)]) (rest := [.ref h68]) (mc := 0) (ms := 0) hx hb hml hown hts hK hS72 (fun q hq => FA_sz rfl q hq) lkX11_57 yn_X12_init (ct_X12_init (G := G) (l := l) (b0 := h68) (v0 := mz) (i1 := (gI v0 0 2)) (sz := H69.size) hZ (by omega)) ⟨Nat.le_of_ble_eq_true rfl, Nat.le_of_ble_eq_true rfl⟩ (fun z h9 => Or.inr (show s.heap.size ≤ z by have := h9.1; omega)) ⟨hW71, hG77⟩ rfl rfl hl.1 (Nat.le_of_ble_eq_true rfl) dX11_term_69 ⟨Nat.le_of_ble_eq_true rfl, Nat.le_of_ble_eq_true rfl⟩ (fun ov9 H78 locs79 hP80 hkp81 hS82 => ?_)
    obtain ⟨rfl, ⟨wx83, hW84, hre85⟩, hz86⟩ := hP80
    have hW87 := rg_keepA hW75 hkp81 (by intro z h1 h2 h3; have h8 := h3.1; have h9 := h3.2; omega)
    have hW88 := rg_keepA hW76 hkp81 (by intro z h1 h2 h3; have h8 := h3.1; have h9 := h3.2; omega)
    have hG89 := GO_keepA hG77 hkp81 (Nat.le_trans (show gB G ≤ s.heap.size by omega) hS72.1) (by intro z h3; have h8 := h3.1; have h9 := h3.2; omega)
    refine W.eq (g2 := F0 m 72 ls [.ref h68]) rfl ?_
    refine vx_athrow (pc := 72) hx hb dX11_term_72 ?_
    obtain ⟨ce8, hce8, hcv8, hcl8⟩ := rk_exc hK hW84 rfl rfl
    obtain ⟨e7, e8, e9⟩ := rs3 hm
    cases e7
    subst e8
    subst e9
    exact rk_xout (fun x h => (ht x h).elim) hlk hS82 hce8 hcv8 hcl8 ⟨rfl, hqh68, ⟨_, hW84, hre85⟩, hW87⟩ (by exact Nat.le_of_ble_eq_true rfl) (by exact Nat.le_of_ble_eq_true rfl)
set_option maxHeartbeats 4000000 in
theorem w_fX11_term (C : Cx G p s m args meth c RX11 cX11_term 5 none) {b0 : Nat} {b1 : Nat} {V1 : Mem} {n1 : Nat} {rok : Bool} {re : Int32} {rw0 : Mem} (hd01 : b0 + 10 ≤ b1 ∨ b1 + 357 ≤ b0) (hn1 : n1 < 4) (he0 : b0 + 10 ≤ s.heap.size) (he1 : b1 + 357 ≤ s.heap.size) (hZ : ZQ G) (hgb0 : gB G ≤ b0) (hgb1 : gB G ≤ b1) (ht : ∀ x ∈ c.exceptionTable.toList, False) : ∀ (v0 : Mem) (i2 : Int32), fX11_term V1 n1 v0 i2 = some (rok, re, rw0) → ∀ (H : Heap) (locs : List Loc) (ls : Array Slot), rg G b0 10 (shX11 b1 G.2.1) v0 H → rg G b1 357 (shX0 G.2.1) V1 H → va_S (FA (iv b0 10) s.heap.size) s.heap H locs → GO G H → lv_has ls 5 [(0, .ref b0), (1, .ref (b0 + (2 + 2 * n1 + 0))), (2, .int i2)] → W p l e (rmT 4 (bif rok then 0 else 1) (bif rok then 0 else 7) 81) s m args below meth c H locs 0 0 (vx_MQ below (QcX rok (FA (iv b0 10) s.heap.size) (fun ov H => ov = none ∧ rg G b0 10 (shX11 b1 G.2.1) rw0 H)) (XcX rok (FA (iv b0 10) s.heap.size) (fun q E H => E = "WholePacks$Fault" ∧ s.heap.size ≤ q ∧ (∃ wx, rg G q 1 (shX12 G.2.1) wx H ∧ gI wx 0 6 = re) ∧ rg G b0 10 (shX11 b1 G.2.1) rw0 H)) args s (bif rok then 0 else 1) (bif rok then 0 else 7) (FA (iv b0 10) s.heap.size)) (F0 m 0 ls []) := by
  intro v0 i2 hm H locs ls hW0 hW1 hS hG hl
  obtain ⟨hx, hb, hr, hlk, hml, hown, hts, hK⟩ := id C
  unfold fX11_term at hm
  refine lv_iconst (pc := 0) (v := (1 : Int32)) hx hb dX11_term_0 (by decide) ?_
  refine lv_istore_n (pc := 1) (lv' := [(3, .int (1 : Int32)), (0, .ref b0), (1, .ref (b0 + (2 + 2 * n1 + 0))), (2, .int i2)]) hx hb dX11_term_1 rfl hl (by decide) rfl (fun ls hl => ?_)
  refine lv_aload_n (pc := 2) hx hb dX11_term_2 rfl (lv_at hl 1 rfl) ?_
  obtain ⟨r1, hq2, hm⟩ := ob_some hm
  refine rk_PV (pc := 3) (As := []) (rest := []) hx hb hml hown hts hK lkX11_33 rfl yn_X11_here (ct_X11_here (G := G) (l := l) (b0 := b0) (b1 := b1) hq2) ⟨Nat.le_of_ble_eq_true rfl, Nat.le_of_ble_eq_true rfl⟩ (rk_recv hK hW0 0 (by decide) rfl rfl rfl) ⟨hW0, hW1⟩ rfl rfl hl.1 (Nat.le_of_ble_eq_true rfl) dX11_term_3 ⟨Nat.zero_le _, Nat.zero_le _⟩ ?_
  refine W.eq (g2 := F0 m 6 ls [.int r1]) rfl ?_
  refine lv_i2l (pc := 6) hx hb dX11_term_6 rfl ?_
  refine lv_ldc2 (pc := 7) (v := (48 : Int64)) hx hb hown (hts _ q679) dX11_term_7 ?_
  refine lv_ldc2 (pc := 10) (v := (57 : Int64)) hx hb hown (hts _ q680) dX11_term_10 ?_
  obtain ⟨r3, hq4, hm⟩ := ob_some hm
  refine rk_PSN (pc := 13) (As := [.long r1.toInt64, .long (48 : Int64), .long (57 : Int64)]) (rest := []) hx hb hml hown hts hK lkX11_41 yn_X0_in (ct_X0_in (G := G) (l := l) hq4) ⟨Nat.le_of_ble_eq_true rfl, Nat.le_of_ble_eq_true rfl⟩ trivial rfl rfl hl.1 (Nat.le_of_ble_eq_true rfl) dX11_term_13 ⟨Nat.zero_le _, Nat.zero_le _⟩ ?_
  refine W.eq (g2 := F0 m 16 ls [.int r3]) rfl ?_
  refine lv_if_eq (pc := 16) (tgt := 37) hx hb dX11_term_16 (by decide) (fun c5 => ?_) (fun c5 => ?_)
  · have hm := ite_t c5 hm
    exact (w_fX11_term_37 C hd01 hn1 he0 he1 hZ hgb0 hgb1 ht) v0 i2 (1 : Int32) hm H locs ls hW0 hW1 hS hG (lv_sub hl [1, 2, 3, 0] rfl)
  · have hm := ite_f c5 hm
    refine lv_aload_n (pc := 19) hx hb dX11_term_19 rfl (lv_at hl 1 rfl) ?_
    obtain ⟨r6, hq7, hm⟩ := ob_some hm
    refine rk_PV (pc := 20) (As := []) (rest := []) hx hb hml hown hts hK lkX11_33 rfl yn_X11_here (ct_X11_here (G := G) (l := l) (b0 := b0) (b1 := b1) hq7) ⟨Nat.le_of_ble_eq_true rfl, Nat.le_of_ble_eq_true rfl⟩ (rk_recv hK hW0 0 (by decide) rfl rfl rfl) ⟨hW0, hW1⟩ rfl rfl hl.1 (Nat.le_of_ble_eq_true rfl) dX11_term_20 ⟨Nat.zero_le _, Nat.zero_le _⟩ ?_
    refine W.eq (g2 := F0 m 23 ls [.int r6]) rfl ?_
    refine lv_bipush (pc := 23) (v := (48 : Int32)) hx hb dX11_term_23 (by decide) ?_
    refine lv_isub (pc := 25) hx hb dX11_term_25 ?_
    refine lv_istore_n (pc := 26) (lv' := [(3, .int (r6 - (48 : Int32))), (0, .ref b0), (1, .ref (b0 + (2 + 2 * n1 + 0))), (2, .int i2)]) hx hb dX11_term_26 rfl hl (by decide) rfl (fun ls hl => ?_)
    refine lv_aload_n (pc := 27) hx hb dX11_term_27 rfl (lv_at hl 1 rfl) ?_
    refine lv_dup (pc := 28) hx hb dX11_term_28 rfl ?_
    refine rk_get (pc := 29) hx hb hts hown hK hW0 flX11_22 0 (by decide) rfl rfl (x := .int (gI v0 0 2)) rfl dX11_term_29 ?_
    refine lv_iconst (pc := 32) (v := (1 : Int32)) hx hb dX11_term_32 (by decide) ?_
    refine lv_iadd (pc := 33) hx hb dX11_term_33 ?_
    refine rk_put (pc := 34) hx hb hts hown hK hW0 hS flX11_22 ft_X11 0 (by decide) rfl (Or.inl (show iv _ _ _ from ⟨by omega, by omega⟩)) rfl rfl (x := .int ((gI v0 0 2) + (1 : Int32))) rfl rfl (Nat.le_of_ble_eq_true rfl) (sI v0 0 2 ((gI v0 0 2) + (1 : Int32))) sI_ne (by rw [sI_eq]; exact rfl) dX11_term_34 (fun H9 locs10 hW11 hS12 hz13 hkp14 => ?_)
    obtain ⟨v0_8, he9, hm⟩ := lm_some hm
    rw [he9] at hW11
    have hW15 := rg_keepq hW1 hkp14 (by omega)
    have hG16 := GO_keepq hG hkp14 (by omega)
    exact (w_fX11_term_37 C hd01 hn1 he0 he1 hZ hgb0 hgb1 ht) v0_8 i2 (r6 - (48 : Int32)) hm H9 locs10 ls hW11 hW15 hS12 hG16 (lv_sub hl [1, 2, 3, 0] rfl)
set_option maxHeartbeats 4000000 in
theorem ct_X11_term {G : Gv} {l : Launch} {b0 : Nat} {b1 : Nat} {V1 : Mem} {n1 : Nat} {v0 : Mem} {i2 : Int32} {rok : Bool} {re : Int32} {rw0 : Mem} {sz : Nat} (hm : fX11_term V1 n1 v0 i2 = some (rok, re, rw0)) (hd01 : b0 + 10 ≤ b1 ∨ b1 + 357 ≤ b0) (hn1 : n1 < 4) (hZ : ZQ G) (hgb0 : gB G ≤ b0) (hgb1 : gB G ≤ b1) : CX G l yX11_term (ws_ yX11_term cX11_term 5 none) 4 (bif rok then 0 else 1) (bif rok then 0 else 7) 81 [.ref b0, .ref (b0 + (2 + 2 * n1 + 0)), .int i2] (iv b0 10) sz (fun H => rg G b0 10 (shX11 b1 G.2.1) v0 H ∧ rg G b1 357 (shX0 G.2.1) V1 H ∧ GO G H) rok (fun ov H => ov = none ∧ rg G b0 10 (shX11 b1 G.2.1) rw0 H) (fun q E H => E = "WholePacks$Fault" ∧ sz ≤ q ∧ (∃ wx, rg G q 1 (shX12 G.2.1) wx H ∧ gI wx 0 6 = re) ∧ rg G b0 10 (shX11 b1 G.2.1) rw0 H) := by
  refine vx_ofW (cc := cX11_term) (maxL := 5) (ret := none) (by decide +kernel) rfl ?_
  intro p e s m args below meth c s₁ B hml ht hv
  obtain ⟨rfl, ⟨hz, hW0, hW1, hG⟩, hK⟩ := hv
  subst hz
  have he0 := rg_end hW0 9 (by decide) rfl (fun _ _ _ => rfl)
  have he1 := rg_end hW1 356 (by decide) rfl (fun _ _ _ => rfl)
  have hts := atoms_spec (ws := ws_ yX11_term cX11_term 5 none) B.pre
  have hts : ∀ w ∈ lw_all, w.before _ s = true := fun w h => hts w (List.mem_cons_of_mem _ h)
  have C : Cx G p s m _ meth c RX11 cX11_term 5 none := ⟨B.exec, B.bytes, B.returns, B.notSynchronized, hml, findClass_of_methodNamed B.named, hts, hK⟩
  have hl := lv_entry ([.ref b0, .ref (b0 + (2 + 2 * n1 + 0)), .int i2]) (n := 5) (Nat.le_of_ble_eq_true rfl)
  rw [lg_entry_eq]
  generalize (lg_sl ([.ref b0, .ref (b0 + (2 + 2 * n1 + 0)), .int i2]) ++ List.replicate (5 - (lg_sl ([.ref b0, .ref (b0 + (2 + 2 * n1 + 0)), .int i2])).length) Slot.unset).toArray = ls at hl ⊢
  have hl : lv_has ls 5 [(0, .ref b0), (1, .ref (b0 + (2 + 2 * n1 + 0))), (2, .int i2)] := hl
  exact w_fX11_term C hd01 hn1 he0 he1 hZ hgb0 hgb1 ht _ _ hm s.heap [] ls hW0 hW1 va_S.rf hG hl
theorem yn_X11_is : YN yX11_is 1 := by
  unfold YN
  decide +kernel
theorem lkX11_68 : LV RX11 68 RX11 yX11_is cX11_is 2 (some .boolean) := ⟨q667, q669, qs5, q130, q670⟩
noncomputable def fX11_number_75 (V1 : Mem) (v0 : Mem) (i1 : Int32) (i2 : Int32) (i3 : Int32) : Option (Bool × Int32 × Int32 × Mem) :=
  if (gI v0 0 2) = i2 then (
  some (false, (gI v0 0 2), (0 : Int32), v0))
  else (
  if (-99 : Int32) ≤ (i1 * i3) then (
  some (true, (0 : Int32), (i1 * i3), v0))
  else (
  some (false, ((gI v0 0 2) - (1 : Int32)), (0 : Int32), v0)))
noncomputable def fX11_number_22 (V1 : Mem) (k22 : Mem → Int32 → Int32 → Int32 → Option (Bool × Int32 × Int32 × Mem)) (v0 : Mem) (i1 : Int32) (i2 : Int32) (i3 : Int32) : Option (Bool × Int32 × Int32 × Mem) :=
  if (3 : Int32) ≤ ((gI v0 0 2) - i2) then (
  fX11_number_75 V1 v0 i1 i2 i3)
  else (
  ob (fX11_here v0 V1) fun r15 =>
  ob (fX0_in r15.toInt64 (48 : Int64) (57 : Int64)) fun r17 =>
  if r17 = 0 then (
  fX11_number_75 V1 v0 i1 i2 i3)
  else (
  ob (fX11_here v0 V1) fun r20 =>
  lm (sI v0 0 2 ((gI v0 0 2) + (1 : Int32))) fun v0_22 =>
  k22 v0_22 i1 i2 ((((10 : Int32) * i3) + r20) - (48 : Int32))))
noncomputable def fX11_number (V1 : Mem) (v0 : Mem) : Option (Bool × Int32 × Int32 × Mem) :=
  ob2 (fX11_is V1 v0 (45 : Int32)) fun r1 w2 =>
  if r1 = 0 then (
  lq4 (fX11_number_22 V1) FU w2 (1 : Int32) (gI w2 0 2) (0 : Int32))
  else (
  lq4 (fX11_number_22 V1) FU w2 (-1 : Int32) (gI w2 0 2) (0 : Int32))
set_option maxHeartbeats 4000000 in
theorem w_fX11_number_75 (C : Cx G p s m args meth c RX11 cX11_number 4 (some .int)) {b0 : Nat} {b1 : Nat} {V1 : Mem} {rok : Bool} {re : Int32} {rx : Int32} {rw0 : Mem} (hd01 : b0 + 10 ≤ b1 ∨ b1 + 357 ≤ b0) (he0 : b0 + 10 ≤ s.heap.size) (he1 : b1 + 357 ≤ s.heap.size) (hZ : ZQ G) (hgb0 : gB G ≤ b0) (hgb1 : gB G ≤ b1) (ht : ∀ x ∈ c.exceptionTable.toList, False) : ∀ (v0 : Mem) (i1 : Int32) (i2 : Int32) (i3 : Int32), fX11_number_75 V1 v0 i1 i2 i3 = some (rok, re, rx, rw0) → ∀ (H : Heap) (locs : List Loc) (ls : Array Slot), rg G b0 10 (shX11 b1 G.2.1) v0 H → rg G b1 357 (shX0 G.2.1) V1 H → va_S (FA (iv b0 10) s.heap.size) s.heap H locs → GO G H → lv_has ls 4 [(0, .ref b0), (1, .int i1), (2, .int i2), (3, .int i3)] → W p l e (rmT 4 (bif rok then 0 else 1) (bif rok then 0 else 7) 81) s m args below meth c H locs 0 0 (vx_MQ below (QcX rok (FA (iv b0 10) s.heap.size) (fun ov H => ov = (some (.int rx)) ∧ rg G b0 10 (shX11 b1 G.2.1) rw0 H)) (XcX rok (FA (iv b0 10) s.heap.size) (fun q E H => E = "WholePacks$Fault" ∧ s.heap.size ≤ q ∧ (∃ wx, rg G q 1 (shX12 G.2.1) wx H ∧ gI wx 0 6 = re) ∧ rg G b0 10 (shX11 b1 G.2.1) rw0 H)) args s (bif rok then 0 else 1) (bif rok then 0 else 7) (FA (iv b0 10) s.heap.size)) (F0 m 75 ls []) := by
  intro v0 i1 i2 i3 hm H locs ls hW0 hW1 hS hG hl
  obtain ⟨hx, hb, hr, hlk, hml, hown, hts, hK⟩ := id C
  unfold fX11_number_75 at hm
  refine lv_aload_n (pc := 75) hx hb dX11_number_75 rfl (lv_at hl 0 rfl) ?_
  refine rk_get (pc := 76) hx hb hts hown hK hW0 flX11_22 0 (by decide) rfl rfl (x := .int (gI v0 0 2)) rfl dX11_number_76 ?_
  refine lv_iload_n (pc := 79) hx hb dX11_number_79 rfl (lv_at hl 2 rfl) ?_
  refine lv_icmp_ne (pc := 80) (tgt := 95) hx hb dX11_number_80 (by decide) (fun c31 => ?_) (fun c31 => ?_)
  · have hm := ite_f c31 hm
    refine lv_iload_n (pc := 95) hx hb dX11_number_95 rfl (lv_at hl 1 rfl) ?_
    refine lv_iload_n (pc := 96) hx hb dX11_number_96 rfl (lv_at hl 3 rfl) ?_
    refine lv_imul (pc := 97) hx hb dX11_number_97 ?_
    refine lv_bipush (pc := 98) (v := (-99 : Int32)) hx hb dX11_number_98 (by decide) ?_
    refine lv_icmp_ge (pc := 100) (tgt := 117) hx hb dX11_number_100 (by decide) (fun c32 => ?_) (fun c32 => ?_)
    · have hm := ite_t c32 hm
      refine lv_iload_n (pc := 117) hx hb dX11_number_117 rfl (lv_at hl 1 rfl) ?_
      refine lv_iload_n (pc := 118) hx hb dX11_number_118 rfl (lv_at hl 3 rfl) ?_
      refine lv_imul (pc := 119) hx hb dX11_number_119 ?_
      obtain ⟨e6, e7, e8, e9⟩ := rs4 hm
      cases e6
      subst e7
      subst e8
      subst e9
      exact rk_iretX (pc := 120) hx hb hr hlk hS ⟨rfl, hW0⟩ dX11_number_120 (by exact Nat.le_of_ble_eq_true rfl) (by exact Nat.le_of_ble_eq_true rfl)
    · have hm := ite_f c32 hm
      obtain ⟨h33, hh33⟩ : ∃ h, H.size = h := ⟨_, rfl⟩
      have hqh33 : s.heap.size ≤ h33 := Nat.le_trans hS.1 (Nat.le_of_eq hh33)
      have hok9 : false = rok := (by exact (rs4 hm).1)
      subst hok9
      refine rk_new (pc := 103) (h := h33) (sh := (shX12 G.2.1)) hx hb hts hown hK hS in_X12 ft_X12 rfl q683 q684 q133 hh33 rfl (df_X12 _ rfl) (Nat.le_of_ble_eq_true rfl) (Nat.le_of_ble_eq_true rfl) dX11_number_103 (fun H34 hW36 hS37 hz38 hkp39 => ?_)
      have hW40 := rg_keepN hW0 hh33 hkp39
      have hW41 := rg_keepN hW1 hh33 hkp39
      have hG42 := GO_keepN hG (by omega) hkp39
      refine lv_dup (pc := 106) hx hb dX11_number_106 rfl ?_
      refine lv_aload_n (pc := 107) hx hb dX11_number_107 rfl (lv_at hl 0 rfl) ?_
      refine rk_get (pc := 108) hx hb hts hown hK hW40 flX11_22 0 (by decide) rfl rfl (x := .int (gI v0 0 2)) rfl dX11_number_108 ?_
      refine lv_iconst (pc := 111) (v := (1 : Int32)) hx hb dX11_number_111 (by decide) ?_
      refine lv_isub (pc := 112) hx hb dX11_number_112 ?_
      refine rk_TI (pc := 113) (As := [.int ((gI v0 0 2) - (1 : Int32))]) (rest := [.ref h33]) (mc := 0) (ms := 0) hx hb hml hown hts hK hS37 (fun q hq => FA_sz rfl q hq) lkX11_57 yn_X12_init (ct_X12_init (G := G) (l := l) (b0 := h33) (v0 := mz) (i1 := ((gI v0 0 2) - (1 : Int32))) (sz := H34.size) hZ (by omega)) ⟨Nat.le_of_ble_eq_true rfl, Nat.le_of_ble_eq_true rfl⟩ (fun z h9 => Or.inr (show s.heap.size ≤ z by have := h9.1; omega)) ⟨hW36, hG42⟩ rfl rfl hl.1 (Nat.le_of_ble_eq_true rfl) dX11_number_113 ⟨Nat.le_of_ble_eq_true rfl, Nat.le_of_ble_eq_true rfl⟩ (fun ov9 H43 locs44 hP45 hkp46 hS47 => ?_)
      obtain ⟨rfl, ⟨wx48, hW49, hre50⟩, hz51⟩ := hP45
      have hW52 := rg_keepA hW40 hkp46 (by intro z h1 h2 h3; have h8 := h3.1; have h9 := h3.2; omega)
      have hW53 := rg_keepA hW41 hkp46 (by intro z h1 h2 h3; have h8 := h3.1; have h9 := h3.2; omega)
      have hG54 := GO_keepA hG42 hkp46 (Nat.le_trans (show gB G ≤ s.heap.size by omega) hS37.1) (by intro z h3; have h8 := h3.1; have h9 := h3.2; omega)
      refine W.eq (g2 := F0 m 116 ls [.ref h33]) rfl ?_
      refine vx_athrow (pc := 116) hx hb dX11_number_116 ?_
      obtain ⟨ce8, hce8, hcv8, hcl8⟩ := rk_exc hK hW49 rfl rfl
      obtain ⟨e6, e7, e8, e9⟩ := rs4 hm
      cases e6
      subst e7
      subst e8
      subst e9
      exact rk_xout (fun x h => (ht x h).elim) hlk hS47 hce8 hcv8 hcl8 ⟨rfl, hqh33, ⟨_, hW49, hre50⟩, hW52⟩ (by exact Nat.le_of_ble_eq_true rfl) (by exact Nat.le_of_ble_eq_true rfl)
  · have hm := ite_t c31 hm
    obtain ⟨h55, hh55⟩ : ∃ h, H.size = h := ⟨_, rfl⟩
    have hqh55 : s.heap.size ≤ h55 := Nat.le_trans hS.1 (Nat.le_of_eq hh55)
    have hok9 : false = rok := (by exact (rs4 hm).1)
    subst hok9
    refine rk_new (pc := 83) (h := h55) (sh := (shX12 G.2.1)) hx hb hts hown hK hS in_X12 ft_X12 rfl q683 q684 q133 hh55 rfl (df_X12 _ rfl) (Nat.le_of_ble_eq_true rfl) (Nat.le_of_ble_eq_true rfl) dX11_number_83 (fun H56 hW58 hS59 hz60 hkp61 => ?_)
    have hW62 := rg_keepN hW0 hh55 hkp61
    have hW63 := rg_keepN hW1 hh55 hkp61
    have hG64 := GO_keepN hG (by omega) hkp61
    refine lv_dup (pc := 86) hx hb dX11_number_86 rfl ?_
    refine lv_aload_n (pc := 87) hx hb dX11_number_87 rfl (lv_at hl 0 rfl) ?_
    refine rk_get (pc := 88) hx hb hts hown hK hW62 flX11_22 0 (by decide) rfl rfl (x := .int (gI v0 0 2)) rfl dX11_number_88 ?_
    refine rk_TI (pc := 91) (As := [.int (gI v0 0 2)]) (rest := [.ref h55]) (mc := 0) (ms := 0) hx hb hml hown hts hK hS59 (fun q hq => FA_sz rfl q hq) lkX11_57 yn_X12_init (ct_X12_init (G := G) (l := l) (b0 := h55) (v0 := mz) (i1 := (gI v0 0 2)) (sz := H56.size) hZ (by omega)) ⟨Nat.le_of_ble_eq_true rfl, Nat.le_of_ble_eq_true rfl⟩ (fun z h9 => Or.inr (show s.heap.size ≤ z by have := h9.1; omega)) ⟨hW58, hG64⟩ rfl rfl hl.1 (Nat.le_of_ble_eq_true rfl) dX11_number_91 ⟨Nat.le_of_ble_eq_true rfl, Nat.le_of_ble_eq_true rfl⟩ (fun ov9 H65 locs66 hP67 hkp68 hS69 => ?_)
    obtain ⟨rfl, ⟨wx70, hW71, hre72⟩, hz73⟩ := hP67
    have hW74 := rg_keepA hW62 hkp68 (by intro z h1 h2 h3; have h8 := h3.1; have h9 := h3.2; omega)
    have hW75 := rg_keepA hW63 hkp68 (by intro z h1 h2 h3; have h8 := h3.1; have h9 := h3.2; omega)
    have hG76 := GO_keepA hG64 hkp68 (Nat.le_trans (show gB G ≤ s.heap.size by omega) hS59.1) (by intro z h3; have h8 := h3.1; have h9 := h3.2; omega)
    refine W.eq (g2 := F0 m 94 ls [.ref h55]) rfl ?_
    refine vx_athrow (pc := 94) hx hb dX11_number_94 ?_
    obtain ⟨ce8, hce8, hcv8, hcl8⟩ := rk_exc hK hW71 rfl rfl
    obtain ⟨e6, e7, e8, e9⟩ := rs4 hm
    cases e6
    subst e7
    subst e8
    subst e9
    exact rk_xout (fun x h => (ht x h).elim) hlk hS69 hce8 hcv8 hcl8 ⟨rfl, hqh55, ⟨_, hW71, hre72⟩, hW74⟩ (by exact Nat.le_of_ble_eq_true rfl) (by exact Nat.le_of_ble_eq_true rfl)
set_option maxHeartbeats 4000000 in
theorem w_fX11_number_22 (C : Cx G p s m args meth c RX11 cX11_number 4 (some .int)) {b0 : Nat} {b1 : Nat} {V1 : Mem} {rok : Bool} {re : Int32} {rx : Int32} {rw0 : Mem} (hd01 : b0 + 10 ≤ b1 ∨ b1 + 357 ≤ b0) (he0 : b0 + 10 ≤ s.heap.size) (he1 : b1 + 357 ≤ s.heap.size) (hZ : ZQ G) (hgb0 : gB G ≤ b0) (hgb1 : gB G ≤ b1) (ht : ∀ x ∈ c.exceptionTable.toList, False) {k22 : Mem → Int32 → Int32 → Int32 → Option (Bool × Int32 × Int32 × Mem)} (hk22 : ∀ (v0 : Mem) (i1 : Int32) (i2 : Int32) (i3 : Int32), k22 v0 i1 i2 i3 = some (rok, re, rx, rw0) → ∀ (H : Heap) (locs : List Loc) (ls : Array Slot), rg G b0 10 (shX11 b1 G.2.1) v0 H → rg G b1 357 (shX0 G.2.1) V1 H → va_S (FA (iv b0 10) s.heap.size) s.heap H locs → GO G H → lv_has ls 4 [(0, .ref b0), (1, .int i1), (2, .int i2), (3, .int i3)] → W p l e (rmT 4 (bif rok then 0 else 1) (bif rok then 0 else 7) 81) s m args below meth c H locs 0 0 (vx_MQ below (QcX rok (FA (iv b0 10) s.heap.size) (fun ov H => ov = (some (.int rx)) ∧ rg G b0 10 (shX11 b1 G.2.1) rw0 H)) (XcX rok (FA (iv b0 10) s.heap.size) (fun q E H => E = "WholePacks$Fault" ∧ s.heap.size ≤ q ∧ (∃ wx, rg G q 1 (shX12 G.2.1) wx H ∧ gI wx 0 6 = re) ∧ rg G b0 10 (shX11 b1 G.2.1) rw0 H)) args s (bif rok then 0 else 1) (bif rok then 0 else 7) (FA (iv b0 10) s.heap.size)) (F0 m 22 ls [])) : ∀ (v0 : Mem) (i1 : Int32) (i2 : Int32) (i3 : Int32), fX11_number_22 V1 k22 v0 i1 i2 i3 = some (rok, re, rx, rw0) → ∀ (H : Heap) (locs : List Loc) (ls : Array Slot), rg G b0 10 (shX11 b1 G.2.1) v0 H → rg G b1 357 (shX0 G.2.1) V1 H → va_S (FA (iv b0 10) s.heap.size) s.heap H locs → GO G H → lv_has ls 4 [(0, .ref b0), (1, .int i1), (2, .int i2), (3, .int i3)] → W p l e (rmT 4 (bif rok then 0 else 1) (bif rok then 0 else 7) 81) s m args below meth c H locs 0 0 (vx_MQ below (QcX rok (FA (iv b0 10) s.heap.size) (fun ov H => ov = (some (.int rx)) ∧ rg G b0 10 (shX11 b1 G.2.1) rw0 H)) (XcX rok (FA (iv b0 10) s.heap.size) (fun q E H => E = "WholePacks$Fault" ∧ s.heap.size ≤ q ∧ (∃ wx, rg G q 1 (shX12 G.2.1) wx H ∧ gI wx 0 6 = re) ∧ rg G b0 10 (shX11 b1 G.2.1) rw0 H)) args s (bif rok then 0 else 1) (bif rok then 0 else 7) (FA (iv b0 10) s.heap.size)) (F0 m 22 ls []) := by
  intro v0 i1 i2 i3 hm H locs ls hW0 hW1 hS hG hl
  obtain ⟨hx, hb, hr, hlk, hml, hown, hts, hK⟩ := id C
  unfold fX11_number_22 at hm
  refine lv_aload_n (pc := 22) hx hb dX11_number_22 rfl (lv_at hl 0 rfl) ?_
  refine rk_get (pc := 23) hx hb hts hown hK hW0 flX11_22 0 (by decide) rfl rfl (x := .int (gI v0 0 2)) rfl dX11_number_23 ?_
  refine lv_iload_n (pc := 26) hx hb dX11_number_26 rfl (lv_at hl 2 rfl) ?_
  refine lv_isub (pc := 27) hx hb dX11_number_27 ?_
  refine lv_iconst (pc := 28) (v := (3 : Int32)) hx hb dX11_number_28 (by decide) ?_
  refine lv_icmp_ge (pc := 29) (tgt := 75) hx hb dX11_number_29 (by decide) (fun c14 => ?_) (fun c14 => ?_)
  · have hm := ite_t c14 hm
    exact (w_fX11_number_75 C hd01 he0 he1 hZ hgb0 hgb1 ht) v0 i1 i2 i3 hm H locs ls hW0 hW1 hS hG (lv_sub hl [0, 1, 2, 3] rfl)
  · have hm := ite_f c14 hm
    refine lv_aload_n (pc := 32) hx hb dX11_number_32 rfl (lv_at hl 0 rfl) ?_
    obtain ⟨r15, hq16, hm⟩ := ob_some hm
    refine rk_PV (pc := 33) (As := []) (rest := []) hx hb hml hown hts hK lkX11_33 rfl yn_X11_here (ct_X11_here (G := G) (l := l) (b0 := b0) (b1 := b1) hq16) ⟨Nat.le_of_ble_eq_true rfl, Nat.le_of_ble_eq_true rfl⟩ (rk_recv hK hW0 0 (by decide) rfl rfl rfl) ⟨hW0, hW1⟩ rfl rfl hl.1 (Nat.le_of_ble_eq_true rfl) dX11_number_33 ⟨Nat.zero_le _, Nat.zero_le _⟩ ?_
    refine W.eq (g2 := F0 m 36 ls [.int r15]) rfl ?_
    refine lv_i2l (pc := 36) hx hb dX11_number_36 rfl ?_
    refine lv_ldc2 (pc := 37) (v := (48 : Int64)) hx hb hown (hts _ q679) dX11_number_37 ?_
    refine lv_ldc2 (pc := 40) (v := (57 : Int64)) hx hb hown (hts _ q680) dX11_number_40 ?_
    obtain ⟨r17, hq18, hm⟩ := ob_some hm
    refine rk_PSN (pc := 43) (As := [.long r15.toInt64, .long (48 : Int64), .long (57 : Int64)]) (rest := []) hx hb hml hown hts hK lkX11_41 yn_X0_in (ct_X0_in (G := G) (l := l) hq18) ⟨Nat.le_of_ble_eq_true rfl, Nat.le_of_ble_eq_true rfl⟩ trivial rfl rfl hl.1 (Nat.le_of_ble_eq_true rfl) dX11_number_43 ⟨Nat.zero_le _, Nat.zero_le _⟩ ?_
    refine W.eq (g2 := F0 m 46 ls [.int r17]) rfl ?_
    refine lv_if_eq (pc := 46) (tgt := 75) hx hb dX11_number_46 (by decide) (fun c19 => ?_) (fun c19 => ?_)
    · have hm := ite_t c19 hm
      exact (w_fX11_number_75 C hd01 he0 he1 hZ hgb0 hgb1 ht) v0 i1 i2 i3 hm H locs ls hW0 hW1 hS hG (lv_sub hl [0, 1, 2, 3] rfl)
    · have hm := ite_f c19 hm
      refine lv_bipush (pc := 49) (v := (10 : Int32)) hx hb dX11_number_49 (by decide) ?_
      refine lv_iload_n (pc := 51) hx hb dX11_number_51 rfl (lv_at hl 3 rfl) ?_
      refine lv_imul (pc := 52) hx hb dX11_number_52 ?_
      refine lv_aload_n (pc := 53) hx hb dX11_number_53 rfl (lv_at hl 0 rfl) ?_
      obtain ⟨r20, hq21, hm⟩ := ob_some hm
      refine rk_PV (pc := 54) (As := []) (rest := [.int ((10 : Int32) * i3)]) hx hb hml hown hts hK lkX11_33 rfl yn_X11_here (ct_X11_here (G := G) (l := l) (b0 := b0) (b1 := b1) hq21) ⟨Nat.le_of_ble_eq_true rfl, Nat.le_of_ble_eq_true rfl⟩ (rk_recv hK hW0 0 (by decide) rfl rfl rfl) ⟨hW0, hW1⟩ rfl rfl hl.1 (Nat.le_of_ble_eq_true rfl) dX11_number_54 ⟨Nat.zero_le _, Nat.zero_le _⟩ ?_
      refine W.eq (g2 := F0 m 57 ls [.int r20, .int ((10 : Int32) * i3)]) rfl ?_
      refine lv_iadd (pc := 57) hx hb dX11_number_57 ?_
      refine lv_bipush (pc := 58) (v := (48 : Int32)) hx hb dX11_number_58 (by decide) ?_
      refine lv_isub (pc := 60) hx hb dX11_number_60 ?_
      refine lv_istore_n (pc := 61) (lv' := [(3, .int ((((10 : Int32) * i3) + r20) - (48 : Int32))), (0, .ref b0), (1, .int i1), (2, .int i2)]) hx hb dX11_number_61 rfl hl (by decide) rfl (fun ls hl => ?_)
      refine lv_aload_n (pc := 62) hx hb dX11_number_62 rfl (lv_at hl 1 rfl) ?_
      refine lv_dup (pc := 63) hx hb dX11_number_63 rfl ?_
      refine rk_get (pc := 64) hx hb hts hown hK hW0 flX11_22 0 (by decide) rfl rfl (x := .int (gI v0 0 2)) rfl dX11_number_64 ?_
      refine lv_iconst (pc := 67) (v := (1 : Int32)) hx hb dX11_number_67 (by decide) ?_
      refine lv_iadd (pc := 68) hx hb dX11_number_68 ?_
      refine rk_put (pc := 69) hx hb hts hown hK hW0 hS flX11_22 ft_X11 0 (by decide) rfl (Or.inl (show iv _ _ _ from ⟨by omega, by omega⟩)) rfl rfl (x := .int ((gI v0 0 2) + (1 : Int32))) rfl rfl (Nat.le_of_ble_eq_true rfl) (sI v0 0 2 ((gI v0 0 2) + (1 : Int32))) sI_ne (by rw [sI_eq]; exact rfl) dX11_number_69 (fun H23 locs24 hW25 hS26 hz27 hkp28 => ?_)
      obtain ⟨v0_22, he9, hm⟩ := lm_some hm
      rw [he9] at hW25
      have hW29 := rg_keepq hW1 hkp28 (by omega)
      have hG30 := GO_keepq hG hkp28 (by omega)
      refine lv_goto (pc := 72) (tgt := 22) hx hb dX11_number_72 (by decide) ?_
      exact hk22 v0_22 i1 i2 ((((10 : Int32) * i3) + r20) - (48 : Int32)) hm H23 locs24 ls hW25 hW29 hS26 hG30 (lv_sub hl [1, 2, 3, 0] rfl)
theorem w_fX11_number_22_l (C : Cx G p s m args meth c RX11 cX11_number 4 (some .int)) {b0 : Nat} {b1 : Nat} {V1 : Mem} {rok : Bool} {re : Int32} {rx : Int32} {rw0 : Mem} (hd01 : b0 + 10 ≤ b1 ∨ b1 + 357 ≤ b0) (he0 : b0 + 10 ≤ s.heap.size) (he1 : b1 + 357 ≤ s.heap.size) (hZ : ZQ G) (hgb0 : gB G ≤ b0) (hgb1 : gB G ≤ b1) (ht : ∀ x ∈ c.exceptionTable.toList, False) : ∀ (n : Nat) (v0 : Mem) (i1 : Int32) (i2 : Int32) (i3 : Int32), lq4 (fX11_number_22 V1) n v0 i1 i2 i3 = some (rok, re, rx, rw0) → ∀ (H : Heap) (locs : List Loc) (ls : Array Slot), rg G b0 10 (shX11 b1 G.2.1) v0 H → rg G b1 357 (shX0 G.2.1) V1 H → va_S (FA (iv b0 10) s.heap.size) s.heap H locs → GO G H → lv_has ls 4 [(0, .ref b0), (1, .int i1), (2, .int i2), (3, .int i3)] → W p l e (rmT 4 (bif rok then 0 else 1) (bif rok then 0 else 7) 81) s m args below meth c H locs 0 0 (vx_MQ below (QcX rok (FA (iv b0 10) s.heap.size) (fun ov H => ov = (some (.int rx)) ∧ rg G b0 10 (shX11 b1 G.2.1) rw0 H)) (XcX rok (FA (iv b0 10) s.heap.size) (fun q E H => E = "WholePacks$Fault" ∧ s.heap.size ≤ q ∧ (∃ wx, rg G q 1 (shX12 G.2.1) wx H ∧ gI wx 0 6 = re) ∧ rg G b0 10 (shX11 b1 G.2.1) rw0 H)) args s (bif rok then 0 else 1) (bif rok then 0 else 7) (FA (iv b0 10) s.heap.size)) (F0 m 22 ls []) := by
  intro n
  induction n with
  | zero => intro v0 i1 i2 i3 hm; exact (lq4_0 hm).elim
  | succ n ih => intro v0 i1 i2 i3 hm; exact w_fX11_number_22 C hd01 he0 he1 hZ hgb0 hgb1 ht ih v0 i1 i2 i3 (lq4_s hm)
set_option maxHeartbeats 4000000 in
theorem w_fX11_number (C : Cx G p s m args meth c RX11 cX11_number 4 (some .int)) {b0 : Nat} {b1 : Nat} {V1 : Mem} {rok : Bool} {re : Int32} {rx : Int32} {rw0 : Mem} (hd01 : b0 + 10 ≤ b1 ∨ b1 + 357 ≤ b0) (he0 : b0 + 10 ≤ s.heap.size) (he1 : b1 + 357 ≤ s.heap.size) (hZ : ZQ G) (hgb0 : gB G ≤ b0) (hgb1 : gB G ≤ b1) (ht : ∀ x ∈ c.exceptionTable.toList, False) : ∀ (v0 : Mem), fX11_number V1 v0 = some (rok, re, rx, rw0) → ∀ (H : Heap) (locs : List Loc) (ls : Array Slot), rg G b0 10 (shX11 b1 G.2.1) v0 H → rg G b1 357 (shX0 G.2.1) V1 H → va_S (FA (iv b0 10) s.heap.size) s.heap H locs → GO G H → lv_has ls 4 [(0, .ref b0)] → W p l e (rmT 4 (bif rok then 0 else 1) (bif rok then 0 else 7) 81) s m args below meth c H locs 0 0 (vx_MQ below (QcX rok (FA (iv b0 10) s.heap.size) (fun ov H => ov = (some (.int rx)) ∧ rg G b0 10 (shX11 b1 G.2.1) rw0 H)) (XcX rok (FA (iv b0 10) s.heap.size) (fun q E H => E = "WholePacks$Fault" ∧ s.heap.size ≤ q ∧ (∃ wx, rg G q 1 (shX12 G.2.1) wx H ∧ gI wx 0 6 = re) ∧ rg G b0 10 (shX11 b1 G.2.1) rw0 H)) args s (bif rok then 0 else 1) (bif rok then 0 else 7) (FA (iv b0 10) s.heap.size)) (F0 m 0 ls []) := by
  intro v0 hm H locs ls hW0 hW1 hS hG hl
  obtain ⟨hx, hb, hr, hlk, hml, hown, hts, hK⟩ := id C
  unfold fX11_number at hm
  refine lv_aload_n (pc := 0) hx hb dX11_number_0 rfl (lv_at hl 0 rfl) ?_
  refine lv_bipush (pc := 1) (v := (45 : Int32)) hx hb dX11_number_1 (by decide) ?_
  obtain ⟨r1, w2, hq3, hm⟩ := ob2_some hm
  refine rk_TV (pc := 3) (As := [.int (45 : Int32)]) (rest := []) (mc := 0) (ms := 0) hx hb hml hown hts hK hS (fun q hq => FA_sz rfl q hq) lkX11_68 rfl yn_X11_is (ct_X11_is (G := G) (l := l) (b0 := b0) (b1 := b1) (sz := H.size) hq3 (by omega)) ⟨Nat.le_of_ble_eq_true rfl, Nat.le_of_ble_eq_true rfl⟩ (fun z h => Or.inl (show iv _ _ _ from ⟨by have h8 := h.1; have h9 := h.2; omega, by have h8 := h.1; have h9 := h.2; omega⟩)) (rk_recv hK hW0 0 (by decide) rfl rfl rfl) ⟨hW0, hW1⟩ rfl rfl hl.1 (Nat.le_of_ble_eq_true rfl) dX11_number_3 ⟨Nat.zero_le _, Nat.zero_le _⟩ (fun ov9 H4 locs5 hP6 hkp7 hS8 => ?_)
  obtain ⟨rfl, hW9, hz10⟩ := hP6
  have hW11 := rg_keepA hW1 hkp7 (by intro z h1 h2 h3; have h8 := h3.1; have h9 := h3.2; omega)
  have hG12 := GO_keepA hG hkp7 (Nat.le_trans (show gB G ≤ s.heap.size by omega) hS.1) (by intro z h3; have h8 := h3.1; have h9 := h3.2; omega)
  refine W.eq (g2 := F0 m 6 ls [.int r1]) rfl ?_
  refine lv_if_eq (pc := 6) (tgt := 13) hx hb dX11_number_6 (by decide) (fun c13 => ?_) (fun c13 => ?_)
  · have hm := ite_t c13 hm
    refine lv_iconst (pc := 13) (v := (1 : Int32)) hx hb dX11_number_13 (by decide) ?_
    refine lv_istore_n (pc := 14) (lv' := [(1, .int (1 : Int32)), (0, .ref b0)]) hx hb dX11_number_14 rfl hl (by decide) rfl (fun ls hl => ?_)
    refine lv_aload_n (pc := 15) hx hb dX11_number_15 rfl (lv_at hl 1 rfl) ?_
    refine rk_get (pc := 16) hx hb hts hown hK hW9 flX11_22 0 (by decide) rfl rfl (x := .int (gI w2 0 2)) rfl dX11_number_16 ?_
    refine lv_istore_n (pc := 19) (lv' := [(2, .int (gI w2 0 2)), (1, .int (1 : Int32)), (0, .ref b0)]) hx hb dX11_number_19 rfl hl (by decide) rfl (fun ls hl => ?_)
    refine lv_iconst (pc := 20) (v := (0 : Int32)) hx hb dX11_number_20 (by decide) ?_
    refine lv_istore_n (pc := 21) (lv' := [(3, .int (0 : Int32)), (2, .int (gI w2 0 2)), (1, .int (1 : Int32)), (0, .ref b0)]) hx hb dX11_number_21 rfl hl (by decide) rfl (fun ls hl => ?_)
    exact (w_fX11_number_22_l C hd01 he0 he1 hZ hgb0 hgb1 ht FU) w2 (1 : Int32) (gI w2 0 2) (0 : Int32) hm H4 locs5 ls hW9 hW11 hS8 hG12 (lv_sub hl [3, 2, 1, 0] rfl)
  · have hm := ite_f c13 hm
    refine lv_iconst (pc := 9) (v := (-1 : Int32)) hx hb dX11_number_9 (by decide) ?_
    refine lv_goto (pc := 10) (tgt := 14) hx hb dX11_number_10 (by decide) ?_
    refine lv_istore_n (pc := 14) (lv' := [(1, .int (-1 : Int32)), (0, .ref b0)]) hx hb dX11_number_14 rfl hl (by decide) rfl (fun ls hl => ?_)
    refine lv_aload_n (pc := 15) hx hb dX11_number_15 rfl (lv_at hl 1 rfl) ?_
    refine rk_get (pc := 16) hx hb hts hown hK hW9 flX11_22 0 (by decide) rfl rfl (x := .int (gI w2 0 2)) rfl dX11_number_16 ?_
    refine lv_istore_n (pc := 19) (lv' := [(2, .int (gI w2 0 2)), (1, .int (-1 : Int32)), (0, .ref b0)]) hx hb dX11_number_19 rfl hl (by decide) rfl (fun ls hl => ?_)
    refine lv_iconst (pc := 20) (v := (0 : Int32)) hx hb dX11_number_20 (by decide) ?_
    refine lv_istore_n (pc := 21) (lv' := [(3, .int (0 : Int32)), (2, .int (gI w2 0 2)), (1, .int (-1 : Int32)), (0, .ref b0)]) hx hb dX11_number_21 rfl hl (by decide) rfl (fun ls hl => ?_)
    exact (w_fX11_number_22_l C hd01 he0 he1 hZ hgb0 hgb1 ht FU) w2 (-1 : Int32) (gI w2 0 2) (0 : Int32) hm H4 locs5 ls hW9 hW11 hS8 hG12 (lv_sub hl [3, 2, 1, 0] rfl)
set_option maxHeartbeats 4000000 in
theorem ct_X11_number {G : Gv} {l : Launch} {b0 : Nat} {b1 : Nat} {V1 : Mem} {v0 : Mem} {rok : Bool} {re : Int32} {rx : Int32} {rw0 : Mem} {sz : Nat} (hm : fX11_number V1 v0 = some (rok, re, rx, rw0)) (hd01 : b0 + 10 ≤ b1 ∨ b1 + 357 ≤ b0) (hZ : ZQ G) (hgb0 : gB G ≤ b0) (hgb1 : gB G ≤ b1) : CX G l yX11_number (ws_ yX11_number cX11_number 4 (some .int)) 4 (bif rok then 0 else 1) (bif rok then 0 else 7) 81 [.ref b0] (iv b0 10) sz (fun H => rg G b0 10 (shX11 b1 G.2.1) v0 H ∧ rg G b1 357 (shX0 G.2.1) V1 H ∧ GO G H) rok (fun ov H => ov = (some (.int rx)) ∧ rg G b0 10 (shX11 b1 G.2.1) rw0 H) (fun q E H => E = "WholePacks$Fault" ∧ sz ≤ q ∧ (∃ wx, rg G q 1 (shX12 G.2.1) wx H ∧ gI wx 0 6 = re) ∧ rg G b0 10 (shX11 b1 G.2.1) rw0 H) := by
  refine vx_ofW (cc := cX11_number) (maxL := 4) (ret := (some .int)) (by decide +kernel) rfl ?_
  intro p e s m args below meth c s₁ B hml ht hv
  obtain ⟨rfl, ⟨hz, hW0, hW1, hG⟩, hK⟩ := hv
  subst hz
  have he0 := rg_end hW0 9 (by decide) rfl (fun _ _ _ => rfl)
  have he1 := rg_end hW1 356 (by decide) rfl (fun _ _ _ => rfl)
  have hts := atoms_spec (ws := ws_ yX11_number cX11_number 4 (some .int)) B.pre
  have hts : ∀ w ∈ lw_all, w.before _ s = true := fun w h => hts w (List.mem_cons_of_mem _ h)
  have C : Cx G p s m _ meth c RX11 cX11_number 4 (some .int) := ⟨B.exec, B.bytes, B.returns, B.notSynchronized, hml, findClass_of_methodNamed B.named, hts, hK⟩
  have hl := lv_entry ([.ref b0]) (n := 4) (Nat.le_of_ble_eq_true rfl)
  rw [lg_entry_eq]
  generalize (lg_sl ([.ref b0]) ++ List.replicate (4 - (lg_sl ([.ref b0])).length) Slot.unset).toArray = ls at hl ⊢
  have hl : lv_has ls 4 [(0, .ref b0)] := hl
  exact w_fX11_number C hd01 he0 he1 hZ hgb0 hgb1 ht _ hm s.heap [] ls hW0 hW1 va_S.rf hG hl
theorem flX11_17 : FL RX11 17 11 0 RX11 TX11 4 := ⟨in_X11, rfl, by decide, q643⟩
theorem flX11_71 : FL RX11 71 11 1 RX11 TX11 4 := ⟨in_X11, rfl, by decide, q645⟩
theorem lkX11_74 : LV RX11 74 RX2 yX2_begins cX2_begins 4 none := ⟨q666, q608, q609, q116, q610⟩
theorem yn_X11_term : YN yX11_term 2 := by
  unfold YN
  decide +kernel
theorem lkX11_78 : LV RX11 78 RX11 yX11_term cX11_term 5 none := ⟨q675, q677, qs7, q130, q678⟩
theorem fnX11_82 : FN RX11 82 2 0 RX2 TX2 3 "WholePacks" := ⟨in_X2, rfl, by decide, q175⟩
theorem yn_X11_number : YN yX11_number 0 := by
  unfold YN
  decide +kernel
theorem lkX11_85 : LV RX11 85 RX11 yX11_number cX11_number 4 (some .int) := ⟨q752, q754, qs9, q130, q755⟩
theorem fnX11_88 : FN RX11 88 2 1 RX2 TX2 3 "WholePacks" := ⟨in_X2, rfl, by decide, q178⟩
noncomputable def fX11_clause_53 (V1 : Mem) (k35 : Mem → Nat → Option (Bool × Int32 × Mem)) (v0 : Mem) (n1 : Nat) : Option (Bool × Int32 × Mem) :=
  ob2 (fX11_is V1 v0 (43 : Int32)) fun r175 w176 =>
  if r175 = 0 then (
  ob2 (fX11_is V1 w176 (45 : Int32)) fun r188 w189 =>
  if r188 = 0 then (
  ob3 (fX11_term V1 n1 w189 (0 : Int32)) fun ok202 re203 w201 =>
  if ok202 = true then (
  k35 w201 n1)
  else (
  some (false, re203, w201)))
  else (
  ob3 (fX11_term V1 n1 w189 (-1 : Int32)) fun ok226 re227 w225 =>
  if ok226 = true then (
  k35 w225 n1)
  else (
  some (false, re227, w225))))
  else (
  ob3 (fX11_term V1 n1 w176 (1 : Int32)) fun ok250 re251 w249 =>
  if ok250 = true then (
  k35 w249 n1)
  else (
  some (false, re251, w249)))
noncomputable def fX11_clause_133 (V1 : Mem) (v0 : Mem) (n1 : Nat) (ns0 : Nat) (t1 : Int32) : Option (Bool × Int32 × Mem) :=
  lm (sI v0 (2 + 2 * ns0 + 0) 0 t1) fun v0_114 =>
  lm (sI v0_114 0 2 ((gI v0_114 0 2) + (1 : Int32))) fun v0_123 =>
  ob4 (fX11_number V1 v0_123) fun ok134 re135 r132 w133 =>
  if ok134 = true then (
  lm (sI w133 (2 + 2 * n1 + 0) 1 r132) fun v0_145 =>
  lm (sI v0_145 0 1 ((gI v0_145 0 1) + (1 : Int32))) fun v0_154 =>
  some (true, (0 : Int32), v0_154))
  else (
  some (false, re135, w133))
noncomputable def fX11_clause_118 (V1 : Mem) (v0 : Mem) (n1 : Nat) : Option (Bool × Int32 × Mem) :=
  ob (fX11_here v0 V1) fun r111 =>
  if r111 = (62 : Int32) then (
  fX11_clause_133 V1 v0 n1 n1 (0 : Int32))
  else (
  fX11_clause_133 V1 v0 n1 n1 (1 : Int32))
noncomputable def fX11_clause_35 (V1 : Mem) (k35 : Mem → Nat → Option (Bool × Int32 × Mem)) (v0 : Mem) (n1 : Nat) : Option (Bool × Int32 × Mem) :=
  ob (fX11_here v0 V1) fun r77 =>
  if r77 = (43 : Int32) then (
  fX11_clause_53 V1 k35 v0 n1)
  else (
  ob (fX11_here v0 V1) fun r80 =>
  if r80 = (45 : Int32) then (
  fX11_clause_53 V1 k35 v0 n1)
  else (
  ob (fX11_here v0 V1) fun r83 =>
  if r83 = (62 : Int32) then (
  fX11_clause_118 V1 v0 n1)
  else (
  ob (fX11_here v0 V1) fun r86 =>
  if r86 = (60 : Int32) then (
  fX11_clause_118 V1 v0 n1)
  else (
  some (false, (gI v0 0 2), v0)))))
noncomputable def fX11_clause (V1 : Mem) (v0 : Mem) : Option (Bool × Int32 × Mem) :=
  gb (inR (gI v0 0 1) 4) (
  ob (fX2_begins (shf v0 (2 + 2 * (gI v0 0 1).toNatClampNeg)) (0 : Int32) (0 : Int32)) fun w3 =>
  lm (ptm v0 (2 + 2 * (gI v0 0 1).toNatClampNeg) 2 w3) fun v0_14 =>
  ob2 (fX11_is V1 v0_14 (45 : Int32)) fun r16 w17 =>
  if r16 = 0 then (
  ob3 (fX11_term V1 (gI v0 0 1).toNatClampNeg w17 (1 : Int32)) fun ok30 re31 w29 =>
  if ok30 = true then (
  lq2 (fX11_clause_35 V1) FU w29 (gI v0 0 1).toNatClampNeg)
  else (
  some (false, re31, w29)))
  else (
  ob3 (fX11_term V1 (gI v0 0 1).toNatClampNeg w17 (-1 : Int32)) fun ok54 re55 w53 =>
  if ok54 = true then (
  lq2 (fX11_clause_35 V1) FU w53 (gI v0 0 1).toNatClampNeg)
  else (
  some (false, re55, w53))))
set_option maxHeartbeats 4000000 in
theorem w_fX11_clause_53 (C : Cx G p s m args meth c RX11 cX11_clause 2 none) {b0 : Nat} {b1 : Nat} {V1 : Mem} {rok : Bool} {re : Int32} {rw0 : Mem} (hd01 : b0 + 10 ≤ b1 ∨ b1 + 357 ≤ b0) (he0 : b0 + 10 ≤ s.heap.size) (he1 : b1 + 357 ≤ s.heap.size) (hZ : ZQ G) (hgb0 : gB G ≤ b0) (hgb1 : gB G ≤ b1) (ht : ∀ x ∈ c.exceptionTable.toList, False) {k35 : Mem → Nat → Option (Bool × Int32 × Mem)} (hk35 : ∀ (v0 : Mem) (n1 : Nat), k35 v0 n1 = some (rok, re, rw0) → (hn_n1 : n1 < 4) → ∀ (H : Heap) (locs : List Loc) (ls : Array Slot), rg G b0 10 (shX11 b1 G.2.1) v0 H → rg G b1 357 (shX0 G.2.1) V1 H → va_S (FA (iv b0 10) s.heap.size) s.heap H locs → GO G H → lv_has ls 2 [(0, .ref b0), (1, .ref (b0 + (2 + 2 * n1 + 0)))] → W p l e (rmT 5 (bif rok then 0 else 1) (bif rok then 0 else 7) 105) s m args below meth c H locs 0 0 (vx_MQ below (QcX rok (FA (iv b0 10) s.heap.size) (fun ov H => ov = none ∧ rg G b0 10 (shX11 b1 G.2.1) rw0 H)) (XcX rok (FA (iv b0 10) s.heap.size) (fun q E H => E = "WholePacks$Fault" ∧ s.heap.size ≤ q ∧ (∃ wx, rg G q 1 (shX12 G.2.1) wx H ∧ gI wx 0 6 = re) ∧ rg G b0 10 (shX11 b1 G.2.1) rw0 H)) args s (bif rok then 0 else 1) (bif rok then 0 else 7) (FA (iv b0 10) s.heap.size)) (F0 m 35 ls [])) : ∀ (v0 : Mem) (n1 : Nat), fX11_clause_53 V1 k35 v0 n1 = some (rok, re, rw0) → (hn_n1 : n1 < 4) → ∀ (H : Heap) (locs : List Loc) (ls : Array Slot), rg G b0 10 (shX11 b1 G.2.1) v0 H → rg G b1 357 (shX0 G.2.1) V1 H → va_S (FA (iv b0 10) s.heap.size) s.heap H locs → GO G H → lv_has ls 2 [(0, .ref b0), (1, .ref (b0 + (2 + 2 * n1 + 0)))] → W p l e (rmT 5 (bif rok then 0 else 1) (bif rok then 0 else 7) 105) s m args below meth c H locs 0 0 (vx_MQ below (QcX rok (FA (iv b0 10) s.heap.size) (fun ov H => ov = none ∧ rg G b0 10 (shX11 b1 G.2.1) rw0 H)) (XcX rok (FA (iv b0 10) s.heap.size) (fun q E H => E = "WholePacks$Fault" ∧ s.heap.size ≤ q ∧ (∃ wx, rg G q 1 (shX12 G.2.1) wx H ∧ gI wx 0 6 = re) ∧ rg G b0 10 (shX11 b1 G.2.1) rw0 H)) args s (bif rok then 0 else 1) (bif rok then 0 else 7) (FA (iv b0 10) s.heap.size)) (F0 m 53 ls []) := by
  intro v0 n1 hm hn_n1 H locs ls hW0 hW1 hS hG hl
  obtain ⟨hx, hb, hr, hlk, hml, hown, hts, hK⟩ := id C
  unfold fX11_clause_53 at hm
  refine lv_aload_n (pc := 53) hx hb dX11_clause_53 rfl (lv_at hl 0 rfl) ?_
  refine lv_aload_n (pc := 54) hx hb dX11_clause_54 rfl (lv_at hl 1 rfl) ?_
  refine lv_aload_n (pc := 55) hx hb dX11_clause_55 rfl (lv_at hl 0 rfl) ?_
  refine lv_bipush (pc := 56) (v := (43 : Int32)) hx hb dX11_clause_56 (by decide) ?_
  obtain ⟨r175, w176, hq177, hm⟩ := ob2_some hm
  refine rk_TV (pc := 58) (As := [.int (43 : Int32)]) (rest := [.ref (b0 + (2 + 2 * n1 + 0)), .ref b0]) (mc := 0) (ms := 0) hx hb hml hown hts hK hS (fun q hq => FA_sz rfl q hq) lkX11_68 rfl yn_X11_is (ct_X11_is (G := G) (l := l) (b0 := b0) (b1 := b1) (sz := H.size) hq177 (by omega)) ⟨Nat.le_of_ble_eq_true rfl, Nat.le_of_ble_eq_true rfl⟩ (fun z h => Or.inl (show iv _ _ _ from ⟨by have h8 := h.1; have h9 := h.2; omega, by have h8 := h.1; have h9 := h.2; omega⟩)) (rk_recv hK hW0 0 (by decide) rfl rfl rfl) ⟨hW0, hW1⟩ rfl rfl hl.1 (Nat.le_of_ble_eq_true rfl) dX11_clause_58 ⟨Nat.zero_le _, Nat.zero_le _⟩ (fun ov9 H178 locs179 hP180 hkp181 hS182 => ?_)
  obtain ⟨rfl, hW183, hz184⟩ := hP180
  have hW185 := rg_keepA hW1 hkp181 (by intro z h1 h2 h3; have h8 := h3.1; have h9 := h3.2; omega)
  have hG186 := GO_keepA hG hkp181 (Nat.le_trans (show gB G ≤ s.heap.size by omega) hS.1) (by intro z h3; have h8 := h3.1; have h9 := h3.2; omega)
  refine W.eq (g2 := F0 m 61 ls [.int r175, .ref (b0 + (2 + 2 * n1 + 0)), .ref b0]) rfl ?_
  refine lv_if_eq (pc := 61) (tgt := 68) hx hb dX11_clause_61 (by decide) (fun c187 => ?_) (fun c187 => ?_)
  · have hm := ite_t c187 hm
    refine lv_aload_n (pc := 68) hx hb dX11_clause_68 rfl (lv_at hl 0 rfl) ?_
    refine lv_bipush (pc := 69) (v := (45 : Int32)) hx hb dX11_clause_69 (by decide) ?_
    obtain ⟨r188, w189, hq190, hm⟩ := ob2_some hm
    refine rk_TV (pc := 71) (As := [.int (45 : Int32)]) (rest := [.ref (b0 + (2 + 2 * n1 + 0)), .ref b0]) (mc := 0) (ms := 0) hx hb hml hown hts hK hS182 (fun q hq => FA_sz rfl q hq) lkX11_68 rfl yn_X11_is (ct_X11_is (G := G) (l := l) (b0 := b0) (b1 := b1) (sz := H178.size) hq190 (by omega)) ⟨Nat.le_of_ble_eq_true rfl, Nat.le_of_ble_eq_true rfl⟩ (fun z h => Or.inl (show iv _ _ _ from ⟨by have h8 := h.1; have h9 := h.2; omega, by have h8 := h.1; have h9 := h.2; omega⟩)) (rk_recv hK hW183 0 (by decide) rfl rfl rfl) ⟨hW183, hW185⟩ rfl rfl hl.1 (Nat.le_of_ble_eq_true rfl) dX11_clause_71 ⟨Nat.zero_le _, Nat.zero_le _⟩ (fun ov9 H191 locs192 hP193 hkp194 hS195 => ?_)
    obtain ⟨rfl, hW196, hz197⟩ := hP193
    have hW198 := rg_keepA hW185 hkp194 (by intro z h1 h2 h3; have h8 := h3.1; have h9 := h3.2; omega)
    have hG199 := GO_keepA hG186 hkp194 (Nat.le_trans (show gB G ≤ s.heap.size by omega) hS182.1) (by intro z h3; have h8 := h3.1; have h9 := h3.2; omega)
    refine W.eq (g2 := F0 m 74 ls [.int r188, .ref (b0 + (2 + 2 * n1 + 0)), .ref b0]) rfl ?_
    refine lv_if_eq (pc := 74) (tgt := 81) hx hb dX11_clause_74 (by decide) (fun c200 => ?_) (fun c200 => ?_)
    · have hm := ite_t c200 hm
      refine lv_iconst (pc := 81) (v := (0 : Int32)) hx hb dX11_clause_81 (by decide) ?_
      obtain ⟨ok202, re203, w201, hq204, hm⟩ := ob3_some hm
      by_cases hok : ok202 = true
      · subst hok
        have hm := ite_t rfl hm
        refine rk_TV (pc := 82) (As := [.ref (b0 + (2 + 2 * n1 + 0)), .int (0 : Int32)]) (rest := []) (mc := 0) (ms := 0) hx hb hml hown hts hK hS195 (fun q hq => FA_sz rfl q hq) lkX11_78 rfl yn_X11_term (CX.ret (ct_X11_term (G := G) (l := l) (rok := true) (b0 := b0) (b1 := b1) (sz := H191.size) hq204 (by omega) hn_n1 hZ (by omega) (by omega))) ⟨Nat.le_of_ble_eq_true rfl, Nat.le_of_ble_eq_true rfl⟩ (fun z h => Or.inl (show iv _ _ _ from ⟨by have h8 := h.1; have h9 := h.2; omega, by have h8 := h.1; have h9 := h.2; omega⟩)) (rk_recv hK hW196 0 (by decide) rfl rfl rfl) ⟨hW196, hW198, hG199⟩ rfl rfl hl.1 (Nat.le_of_ble_eq_true rfl) dX11_clause_82 ⟨Nat.zero_le _, Nat.zero_le _⟩ (fun ov9 H205 locs206 hP207 hkp208 hS209 => ?_)
        obtain ⟨rfl, hW210⟩ := hP207
        have hW211 := rg_keepA hW198 hkp208 (by intro z h1 h2 h3; have h8 := h3.1; have h9 := h3.2; omega)
        have hG212 := GO_keepA hG199 hkp208 (Nat.le_trans (show gB G ≤ s.heap.size by omega) hS195.1) (by intro z h3; have h8 := h3.1; have h9 := h3.2; omega)
        refine W.eq (g2 := F0 m 85 ls []) rfl ?_
        refine lv_goto (pc := 85) (tgt := 35) hx hb dX11_clause_85 (by decide) ?_
        exact hk35 w201 n1 hm hn_n1 H205 locs206 ls hW210 hW211 hS209 hG212 (lv_sub hl [0, 1] rfl)
      · have hok := eq_false_of_ne_true hok
        subst hok
        have hm := ite_f Bool.false_ne_true hm
        have hok9 : false = rok := (by exact (rs3 hm).1)
        subst hok9
        refine rk_XV (pc := 82) (As := [.ref (b0 + (2 + 2 * n1 + 0)), .int (0 : Int32)]) (rest := []) (mc := 1) (ms := 7) hx hb hml hown hts hK hS195 (fun q hq => FA_sz rfl q hq) lkX11_78 rfl yn_X11_term (ct_X11_term (G := G) (l := l) (rok := false) (b0 := b0) (b1 := b1) (sz := H191.size) hq204 (by omega) hn_n1 hZ (by omega) (by omega)) ⟨Nat.le_of_ble_eq_true rfl, Nat.le_of_ble_eq_true rfl⟩ (fun z h => Or.inl (show iv _ _ _ from ⟨by have h8 := h.1; have h9 := h.2; omega, by have h8 := h.1; have h9 := h.2; omega⟩)) (rk_recv hK hW196 0 (by decide) rfl rfl rfl) ⟨hW196, hW198, hG199⟩ rfl rfl hl.1 (Nat.le_of_ble_eq_true rfl) dX11_clause_82 ⟨Nat.le_of_ble_eq_true rfl, Nat.le_of_ble_eq_true rfl⟩ (fun q218 E9 ce9 H213 locs214 hP215 hkp216 hS217 hce9 hcv9 hcl9 => ?_)
        obtain ⟨rfl, hqq218, ⟨wx220, hW221, hre222⟩, hW219⟩ := hP215
        have hqq218 : s.heap.size ≤ q218 := Nat.le_trans hS195.1 hqq218
        have hW223 := rg_keepA hW198 hkp216 (by intro z h1 h2 h3; have h8 := h3.1; have h9 := h3.2; omega)
        have hG224 := GO_keepA hG199 hkp216 (Nat.le_trans (show gB G ≤ s.heap.size by omega) hS195.1) (by intro z h3; have h8 := h3.1; have h9 := h3.2; omega)
        obtain ⟨ce8, hce8, hcv8, hcl8⟩ := rk_exc hK hW221 rfl rfl
        obtain ⟨e7, e8, e9⟩ := rs3 hm
        cases e7
        subst e8
        subst e9
        exact rk_xout (fun x h => (ht x h).elim) hlk hS217 hce8 hcv8 hcl8 ⟨rfl, hqq218, ⟨_, hW221, hre222⟩, hW219⟩ (by exact Nat.le_of_ble_eq_true rfl) (by exact Nat.le_of_ble_eq_true rfl)
    · have hm := ite_f c200 hm
      refine lv_iconst (pc := 77) (v := (-1 : Int32)) hx hb dX11_clause_77 (by decide) ?_
      refine lv_goto (pc := 78) (tgt := 82) hx hb dX11_clause_78 (by decide) ?_
      obtain ⟨ok226, re227, w225, hq228, hm⟩ := ob3_some hm
      by_cases hok : ok226 = true
      · subst hok
        have hm := ite_t rfl hm
        refine rk_TV (pc := 82) (As := [.ref (b0 + (2 + 2 * n1 + 0)), .int (-1 : Int32)]) (rest := []) (mc := 0) (ms := 0) hx hb hml hown hts hK hS195 (fun q hq => FA_sz rfl q hq) lkX11_78 rfl yn_X11_term (CX.ret (ct_X11_term (G := G) (l := l) (rok := true) (b0 := b0) (b1 := b1) (sz := H191.size) hq228 (by omega) hn_n1 hZ (by omega) (by omega))) ⟨Nat.le_of_ble_eq_true rfl, Nat.le_of_ble_eq_true rfl⟩ (fun z h => Or.inl (show iv _ _ _ from ⟨by have h8 := h.1; have h9 := h.2; omega, by have h8 := h.1; have h9 := h.2; omega⟩)) (rk_recv hK hW196 0 (by decide) rfl rfl rfl) ⟨hW196, hW198, hG199⟩ rfl rfl hl.1 (Nat.le_of_ble_eq_true rfl) dX11_clause_82 ⟨Nat.zero_le _, Nat.zero_le _⟩ (fun ov9 H229 locs230 hP231 hkp232 hS233 => ?_)
        obtain ⟨rfl, hW234⟩ := hP231
        have hW235 := rg_keepA hW198 hkp232 (by intro z h1 h2 h3; have h8 := h3.1; have h9 := h3.2; omega)
        have hG236 := GO_keepA hG199 hkp232 (Nat.le_trans (show gB G ≤ s.heap.size by omega) hS195.1) (by intro z h3; have h8 := h3.1; have h9 := h3.2; omega)
        refine W.eq (g2 := F0 m 85 ls []) rfl ?_
        refine lv_goto (pc := 85) (tgt := 35) hx hb dX11_clause_85 (by decide) ?_
        exact hk35 w225 n1 hm hn_n1 H229 locs230 ls hW234 hW235 hS233 hG236 (lv_sub hl [0, 1] rfl)
      · have hok := eq_false_of_ne_true hok
        subst hok
        have hm := ite_f Bool.false_ne_true hm
        have hok9 : false = rok := (by exact (rs3 hm).1)
        subst hok9
        refine rk_XV (pc := 82) (As := [.ref (b0 + (2 + 2 * n1 + 0)), .int (-1 : Int32)]) (rest := []) (mc := 1) (ms := 7) hx hb hml hown hts hK hS195 (fun q hq => FA_sz rfl q hq) lkX11_78 rfl yn_X11_term (ct_X11_term (G := G) (l := l) (rok := false) (b0 := b0) (b1 := b1) (sz := H191.size) hq228 (by omega) hn_n1 hZ (by omega) (by omega)) ⟨Nat.le_of_ble_eq_true rfl, Nat.le_of_ble_eq_true rfl⟩ (fun z h => Or.inl (show iv _ _ _ from ⟨by have h8 := h.1; have h9 := h.2; omega, by have h8 := h.1; have h9 := h.2; omega⟩)) (rk_recv hK hW196 0 (by decide) rfl rfl rfl) ⟨hW196, hW198, hG199⟩ rfl rfl hl.1 (Nat.le_of_ble_eq_true rfl) dX11_clause_82 ⟨Nat.le_of_ble_eq_true rfl, Nat.le_of_ble_eq_true rfl⟩ (fun q242 E9 ce9 H237 locs238 hP239 hkp240 hS241 hce9 hcv9 hcl9 => ?_)
        obtain ⟨rfl, hqq242, ⟨wx244, hW245, hre246⟩, hW243⟩ := hP239
        have hqq242 : s.heap.size ≤ q242 := Nat.le_trans hS195.1 hqq242
        have hW247 := rg_keepA hW198 hkp240 (by intro z h1 h2 h3; have h8 := h3.1; have h9 := h3.2; omega)
        have hG248 := GO_keepA hG199 hkp240 (Nat.le_trans (show gB G ≤ s.heap.size by omega) hS195.1) (by intro z h3; have h8 := h3.1; have h9 := h3.2; omega)
        obtain ⟨ce8, hce8, hcv8, hcl8⟩ := rk_exc hK hW245 rfl rfl
        obtain ⟨e7, e8, e9⟩ := rs3 hm
        cases e7
        subst e8
        subst e9
        exact rk_xout (fun x h => (ht x h).elim) hlk hS241 hce8 hcv8 hcl8 ⟨rfl, hqq242, ⟨_, hW245, hre246⟩, hW243⟩ (by exact Nat.le_of_ble_eq_true rfl) (by exact Nat.le_of_ble_eq_true rfl)
  · have hm := ite_f c187 hm
    refine lv_iconst (pc := 64) (v := (1 : Int32)) hx hb dX11_clause_64 (by decide) ?_
    refine lv_goto (pc := 65) (tgt := 82) hx hb dX11_clause_65 (by decide) ?_
    obtain ⟨ok250, re251, w249, hq252, hm⟩ := ob3_some hm
    by_cases hok : ok250 = true
    · subst hok
      have hm := ite_t rfl hm
      refine rk_TV (pc := 82) (As := [.ref (b0 + (2 + 2 * n1 + 0)), .int (1 : Int32)]) (rest := []) (mc := 0) (ms := 0) hx hb hml hown hts hK hS182 (fun q hq => FA_sz rfl q hq) lkX11_78 rfl yn_X11_term (CX.ret (ct_X11_term (G := G) (l := l) (rok := true) (b0 := b0) (b1 := b1) (sz := H178.size) hq252 (by omega) hn_n1 hZ (by omega) (by omega))) ⟨Nat.le_of_ble_eq_true rfl, Nat.le_of_ble_eq_true rfl⟩ (fun z h => Or.inl (show iv _ _ _ from ⟨by have h8 := h.1; have h9 := h.2; omega, by have h8 := h.1; have h9 := h.2; omega⟩)) (rk_recv hK hW183 0 (by decide) rfl rfl rfl) ⟨hW183, hW185, hG186⟩ rfl rfl hl.1 (Nat.le_of_ble_eq_true rfl) dX11_clause_82 ⟨Nat.zero_le _, Nat.zero_le _⟩ (fun ov9 H253 locs254 hP255 hkp256 hS257 => ?_)
      obtain ⟨rfl, hW258⟩ := hP255
      have hW259 := rg_keepA hW185 hkp256 (by intro z h1 h2 h3; have h8 := h3.1; have h9 := h3.2; omega)
      have hG260 := GO_keepA hG186 hkp256 (Nat.le_trans (show gB G ≤ s.heap.size by omega) hS182.1) (by intro z h3; have h8 := h3.1; have h9 := h3.2; omega)
      refine W.eq (g2 := F0 m 85 ls []) rfl ?_
      refine lv_goto (pc := 85) (tgt := 35) hx hb dX11_clause_85 (by decide) ?_
      exact hk35 w249 n1 hm hn_n1 H253 locs254 ls hW258 hW259 hS257 hG260 (lv_sub hl [0, 1] rfl)
    · have hok := eq_false_of_ne_true hok
      subst hok
      have hm := ite_f Bool.false_ne_true hm
      have hok9 : false = rok := (by exact (rs3 hm).1)
      subst hok9
      refine rk_XV (pc := 82) (As := [.ref (b0 + (2 + 2 * n1 + 0)), .int (1 : Int32)]) (rest := []) (mc := 1) (ms := 7) hx hb hml hown hts hK hS182 (fun q hq => FA_sz rfl q hq) lkX11_78 rfl yn_X11_term (ct_X11_term (G := G) (l := l) (rok := false) (b0 := b0) (b1 := b1) (sz := H178.size) hq252 (by omega) hn_n1 hZ (by omega) (by omega)) ⟨Nat.le_of_ble_eq_true rfl, Nat.le_of_ble_eq_true rfl⟩ (fun z h => Or.inl (show iv _ _ _ from ⟨by have h8 := h.1; have h9 := h.2; omega, by have h8 := h.1; have h9 := h.2; omega⟩)) (rk_recv hK hW183 0 (by decide) rfl rfl rfl) ⟨hW183, hW185, hG186⟩ rfl rfl hl.1 (Nat.le_of_ble_eq_true rfl) dX11_clause_82 ⟨Nat.le_of_ble_eq_true rfl, Nat.le_of_ble_eq_true rfl⟩ (fun q266 E9 ce9 H261 locs262 hP263 hkp264 hS265 hce9 hcv9 hcl9 => ?_)
      obtain ⟨rfl, hqq266, ⟨wx268, hW269, hre270⟩, hW267⟩ := hP263
      have hqq266 : s.heap.size ≤ q266 := Nat.le_trans hS182.1 hqq266
      have hW271 := rg_keepA hW185 hkp264 (by intro z h1 h2 h3; have h8 := h3.1; have h9 := h3.2; omega)
      have hG272 := GO_keepA hG186 hkp264 (Nat.le_trans (show gB G ≤ s.heap.size by omega) hS182.1) (by intro z h3; have h8 := h3.1; have h9 := h3.2; omega)
      obtain ⟨ce8, hce8, hcv8, hcl8⟩ := rk_exc hK hW269 rfl rfl
      obtain ⟨e7, e8, e9⟩ := rs3 hm
      cases e7
      subst e8
      subst e9
      exact rk_xout (fun x h => (ht x h).elim) hlk hS265 hce8 hcv8 hcl8 ⟨rfl, hqq266, ⟨_, hW269, hre270⟩, hW267⟩ (by exact Nat.le_of_ble_eq_true rfl) (by exact Nat.le_of_ble_eq_true rfl)
set_option maxHeartbeats 4000000 in
theorem w_fX11_clause_133 (C : Cx G p s m args meth c RX11 cX11_clause 2 none) {b0 : Nat} {b1 : Nat} {V1 : Mem} {rok : Bool} {re : Int32} {rw0 : Mem} (hd01 : b0 + 10 ≤ b1 ∨ b1 + 357 ≤ b0) (he0 : b0 + 10 ≤ s.heap.size) (he1 : b1 + 357 ≤ s.heap.size) (hZ : ZQ G) (hgb0 : gB G ≤ b0) (hgb1 : gB G ≤ b1) (ht : ∀ x ∈ c.exceptionTable.toList, False) : ∀ (v0 : Mem) (n1 : Nat) (ns0 : Nat) (t1 : Int32), fX11_clause_133 V1 v0 n1 ns0 t1 = some (rok, re, rw0) → (hn_n1 : n1 < 4) → (hn_ns0 : ns0 < 4) → ∀ (H : Heap) (locs : List Loc) (ls : Array Slot), rg G b0 10 (shX11 b1 G.2.1) v0 H → rg G b1 357 (shX0 G.2.1) V1 H → va_S (FA (iv b0 10) s.heap.size) s.heap H locs → GO G H → lv_has ls 2 [(0, .ref b0), (1, .ref (b0 + (2 + 2 * n1 + 0)))] → W p l e (rmT 5 (bif rok then 0 else 1) (bif rok then 0 else 7) 105) s m args below meth c H locs 0 0 (vx_MQ below (QcX rok (FA (iv b0 10) s.heap.size) (fun ov H => ov = none ∧ rg G b0 10 (shX11 b1 G.2.1) rw0 H)) (XcX rok (FA (iv b0 10) s.heap.size) (fun q E H => E = "WholePacks$Fault" ∧ s.heap.size ≤ q ∧ (∃ wx, rg G q 1 (shX12 G.2.1) wx H ∧ gI wx 0 6 = re) ∧ rg G b0 10 (shX11 b1 G.2.1) rw0 H)) args s (bif rok then 0 else 1) (bif rok then 0 else 7) (FA (iv b0 10) s.heap.size)) (F0 m 133 ls [.int t1, .ref (b0 + (2 + 2 * ns0 + 0))]) := by
  intro v0 n1 ns0 t1 hm hn_n1 hn_ns0 H locs ls hW0 hW1 hS hG hl
  obtain ⟨hx, hb, hr, hlk, hml, hown, hts, hK⟩ := id C
  unfold fX11_clause_133 at hm
  refine rk_putN (pc := 133) hx hb hts hown hK hW0 hS fnX11_82 ft_X2 (2 + 2 * ns0 + 0) (by omega) rfl (Or.inl (show iv _ _ _ from ⟨by omega, by omega⟩)) ((shX11_f2 G.2.1 hn_ns0 _ rfl 0 (by decide) _ _ _).trans rfl) rfl (x := .int t1) rfl rfl (Nat.le_of_ble_eq_true rfl) (sI v0 (2 + 2 * ns0 + 0) 0 t1) sI_ne (by rw [sI_eq]; exact ((shX11_f2 G.2.1 hn_ns0 _ rfl 0 (by decide) _ _ _).trans rfl)) dX11_clause_133 (fun H115 locs116 hW117 hS118 hz119 hkp120 => ?_)
  obtain ⟨v0_114, he9, hm⟩ := lm_some hm
  rw [he9] at hW117
  have hW121 := rg_keepq hW1 hkp120 (by omega)
  have hG122 := GO_keepq hG hkp120 (by omega)
  refine lv_aload_n (pc := 136) hx hb dX11_clause_136 rfl (lv_at hl 0 rfl) ?_
  refine lv_dup (pc := 137) hx hb dX11_clause_137 rfl ?_
  refine rk_get (pc := 138) hx hb hts hown hK hW117 flX11_22 0 (by decide) rfl rfl (x := .int (gI v0_114 0 2)) rfl dX11_clause_138 ?_
  refine lv_iconst (pc := 141) (v := (1 : Int32)) hx hb dX11_clause_141 (by decide) ?_
  refine lv_iadd (pc := 142) hx hb dX11_clause_142 ?_
  refine rk_put (pc := 143) hx hb hts hown hK hW117 hS118 flX11_22 ft_X11 0 (by decide) rfl (Or.inl (show iv _ _ _ from ⟨by omega, by omega⟩)) rfl rfl (x := .int ((gI v0_114 0 2) + (1 : Int32))) rfl rfl (Nat.le_of_ble_eq_true rfl) (sI v0_114 0 2 ((gI v0_114 0 2) + (1 : Int32))) sI_ne (by rw [sI_eq]; exact rfl) dX11_clause_143 (fun H124 locs125 hW126 hS127 hz128 hkp129 => ?_)
  obtain ⟨v0_123, he9, hm⟩ := lm_some hm
  rw [he9] at hW126
  have hW130 := rg_keepq hW121 hkp129 (by omega)
  have hG131 := GO_keepq hG122 hkp129 (by omega)
  refine lv_aload_n (pc := 146) hx hb dX11_clause_146 rfl (lv_at hl 1 rfl) ?_
  refine lv_aload_n (pc := 147) hx hb dX11_clause_147 rfl (lv_at hl 0 rfl) ?_
  obtain ⟨ok134, re135, r132, w133, hq136, hm⟩ := ob4_some hm
  by_cases hok : ok134 = true
  · subst hok
    have hm := ite_t rfl hm
    refine rk_TV (pc := 148) (As := []) (rest := [.ref (b0 + (2 + 2 * n1 + 0))]) (mc := 0) (ms := 0) hx hb hml hown hts hK hS127 (fun q hq => FA_sz rfl q hq) lkX11_85 rfl yn_X11_number (CX.ret (ct_X11_number (G := G) (l := l) (rok := true) (b0 := b0) (b1 := b1) (sz := H124.size) hq136 (by omega) hZ (by omega) (by omega))) ⟨Nat.le_of_ble_eq_true rfl, Nat.le_of_ble_eq_true rfl⟩ (fun z h => Or.inl (show iv _ _ _ from ⟨by have h8 := h.1; have h9 := h.2; omega, by have h8 := h.1; have h9 := h.2; omega⟩)) (rk_recv hK hW126 0 (by decide) rfl rfl rfl) ⟨hW126, hW130, hG131⟩ rfl rfl hl.1 (Nat.le_of_ble_eq_true rfl) dX11_clause_148 ⟨Nat.zero_le _, Nat.zero_le _⟩ (fun ov9 H137 locs138 hP139 hkp140 hS141 => ?_)
    obtain ⟨rfl, hW142⟩ := hP139
    have hW143 := rg_keepA hW130 hkp140 (by intro z h1 h2 h3; have h8 := h3.1; have h9 := h3.2; omega)
    have hG144 := GO_keepA hG131 hkp140 (Nat.le_trans (show gB G ≤ s.heap.size by omega) hS127.1) (by intro z h3; have h8 := h3.1; have h9 := h3.2; omega)
    refine W.eq (g2 := F0 m 151 ls [.int r132, .ref (b0 + (2 + 2 * n1 + 0))]) rfl ?_
    refine rk_putN (pc := 151) hx hb hts hown hK hW142 hS141 fnX11_88 ft_X2 (2 + 2 * n1 + 0) (by omega) rfl (Or.inl (show iv _ _ _ from ⟨by omega, by omega⟩)) ((shX11_f2 G.2.1 hn_n1 _ rfl 0 (by decide) _ _ _).trans rfl) rfl (x := .int r132) rfl rfl (Nat.le_of_ble_eq_true rfl) (sI w133 (2 + 2 * n1 + 0) 1 r132) sI_ne (by rw [sI_eq]; exact ((shX11_f2 G.2.1 hn_n1 _ rfl 0 (by decide) _ _ _).trans rfl)) dX11_clause_151 (fun H146 locs147 hW148 hS149 hz150 hkp151 => ?_)
    obtain ⟨v0_145, he9, hm⟩ := lm_some hm
    rw [he9] at hW148
    have hW152 := rg_keepq hW143 hkp151 (by omega)
    have hG153 := GO_keepq hG144 hkp151 (by omega)
    refine lv_aload_n (pc := 154) hx hb dX11_clause_154 rfl (lv_at hl 0 rfl) ?_
    refine lv_dup (pc := 155) hx hb dX11_clause_155 rfl ?_
    refine rk_get (pc := 156) hx hb hts hown hK hW148 flX11_71 0 (by decide) rfl rfl (x := .int (gI v0_145 0 1)) rfl dX11_clause_156 ?_
    refine lv_iconst (pc := 159) (v := (1 : Int32)) hx hb dX11_clause_159 (by decide) ?_
    refine lv_iadd (pc := 160) hx hb dX11_clause_160 ?_
    refine rk_put (pc := 161) hx hb hts hown hK hW148 hS149 flX11_71 ft_X11 0 (by decide) rfl (Or.inl (show iv _ _ _ from ⟨by omega, by omega⟩)) rfl rfl (x := .int ((gI v0_145 0 1) + (1 : Int32))) rfl rfl (Nat.le_of_ble_eq_true rfl) (sI v0_145 0 1 ((gI v0_145 0 1) + (1 : Int32))) sI_ne (by rw [sI_eq]; exact rfl) dX11_clause_161 (fun H155 locs156 hW157 hS158 hz159 hkp160 => ?_)
    obtain ⟨v0_154, he9, hm⟩ := lm_some hm
    rw [he9] at hW157
    have hW161 := rg_keepq hW152 hkp160 (by omega)
    have hG162 := GO_keepq hG153 hkp160 (by omega)
    obtain ⟨e7, e8, e9⟩ := rs3 hm
    cases e7
    subst e8
    subst e9
    exact rk_vretX (pc := 164) hx hb hr hlk hS158 ⟨rfl, hW157⟩ dX11_clause_164 (by exact Nat.le_of_ble_eq_true rfl) (by exact Nat.le_of_ble_eq_true rfl)
  · have hok := eq_false_of_ne_true hok
    subst hok
    have hm := ite_f Bool.false_ne_true hm
    have hok9 : false = rok := (by exact (rs3 hm).1)
    subst hok9
    refine rk_XV (pc := 148) (As := []) (rest := [.ref (b0 + (2 + 2 * n1 + 0))]) (mc := 1) (ms := 7) hx hb hml hown hts hK hS127 (fun q hq => FA_sz rfl q hq) lkX11_85 rfl yn_X11_number (ct_X11_number (G := G) (l := l) (rok := false) (b0 := b0) (b1 := b1) (sz := H124.size) hq136 (by omega) hZ (by omega) (by omega)) ⟨Nat.le_of_ble_eq_true rfl, Nat.le_of_ble_eq_true rfl⟩ (fun z h => Or.inl (show iv _ _ _ from ⟨by have h8 := h.1; have h9 := h.2; omega, by have h8 := h.1; have h9 := h.2; omega⟩)) (rk_recv hK hW126 0 (by decide) rfl rfl rfl) ⟨hW126, hW130, hG131⟩ rfl rfl hl.1 (Nat.le_of_ble_eq_true rfl) dX11_clause_148 ⟨Nat.le_of_ble_eq_true rfl, Nat.le_of_ble_eq_true rfl⟩ (fun q168 E9 ce9 H163 locs164 hP165 hkp166 hS167 hce9 hcv9 hcl9 => ?_)
    obtain ⟨rfl, hqq168, ⟨wx170, hW171, hre172⟩, hW169⟩ := hP165
    have hqq168 : s.heap.size ≤ q168 := Nat.le_trans hS127.1 hqq168
    have hW173 := rg_keepA hW130 hkp166 (by intro z h1 h2 h3; have h8 := h3.1; have h9 := h3.2; omega)
    have hG174 := GO_keepA hG131 hkp166 (Nat.le_trans (show gB G ≤ s.heap.size by omega) hS127.1) (by intro z h3; have h8 := h3.1; have h9 := h3.2; omega)
    obtain ⟨ce8, hce8, hcv8, hcl8⟩ := rk_exc hK hW171 rfl rfl
    obtain ⟨e7, e8, e9⟩ := rs3 hm
    cases e7
    subst e8
    subst e9
    exact rk_xout (fun x h => (ht x h).elim) hlk hS167 hce8 hcv8 hcl8 ⟨rfl, hqq168, ⟨_, hW171, hre172⟩, hW169⟩ (by exact Nat.le_of_ble_eq_true rfl) (by exact Nat.le_of_ble_eq_true rfl)
set_option maxHeartbeats 4000000 in
theorem w_fX11_clause_118 (C : Cx G p s m args meth c RX11 cX11_clause 2 none) {b0 : Nat} {b1 : Nat} {V1 : Mem} {rok : Bool} {re : Int32} {rw0 : Mem} (hd01 : b0 + 10 ≤ b1 ∨ b1 + 357 ≤ b0) (he0 : b0 + 10 ≤ s.heap.size) (he1 : b1 + 357 ≤ s.heap.size) (hZ : ZQ G) (hgb0 : gB G ≤ b0) (hgb1 : gB G ≤ b1) (ht : ∀ x ∈ c.exceptionTable.toList, False) : ∀ (v0 : Mem) (n1 : Nat), fX11_clause_118 V1 v0 n1 = some (rok, re, rw0) → (hn_n1 : n1 < 4) → ∀ (H : Heap) (locs : List Loc) (ls : Array Slot), rg G b0 10 (shX11 b1 G.2.1) v0 H → rg G b1 357 (shX0 G.2.1) V1 H → va_S (FA (iv b0 10) s.heap.size) s.heap H locs → GO G H → lv_has ls 2 [(0, .ref b0), (1, .ref (b0 + (2 + 2 * n1 + 0)))] → W p l e (rmT 5 (bif rok then 0 else 1) (bif rok then 0 else 7) 105) s m args below meth c H locs 0 0 (vx_MQ below (QcX rok (FA (iv b0 10) s.heap.size) (fun ov H => ov = none ∧ rg G b0 10 (shX11 b1 G.2.1) rw0 H)) (XcX rok (FA (iv b0 10) s.heap.size) (fun q E H => E = "WholePacks$Fault" ∧ s.heap.size ≤ q ∧ (∃ wx, rg G q 1 (shX12 G.2.1) wx H ∧ gI wx 0 6 = re) ∧ rg G b0 10 (shX11 b1 G.2.1) rw0 H)) args s (bif rok then 0 else 1) (bif rok then 0 else 7) (FA (iv b0 10) s.heap.size)) (F0 m 118 ls []) := by
  intro v0 n1 hm hn_n1 H locs ls hW0 hW1 hS hG hl
  obtain ⟨hx, hb, hr, hlk, hml, hown, hts, hK⟩ := id C
  unfold fX11_clause_118 at hm
  refine lv_aload_n (pc := 118) hx hb dX11_clause_118 rfl (lv_at hl 1 rfl) ?_
  refine lv_aload_n (pc := 119) hx hb dX11_clause_119 rfl (lv_at hl 0 rfl) ?_
  obtain ⟨r111, hq112, hm⟩ := ob_some hm
  refine rk_PV (pc := 120) (As := []) (rest := [.ref (b0 + (2 + 2 * n1 + 0))]) hx hb hml hown hts hK lkX11_33 rfl yn_X11_here (ct_X11_here (G := G) (l := l) (b0 := b0) (b1 := b1) hq112) ⟨Nat.le_of_ble_eq_true rfl, Nat.le_of_ble_eq_true rfl⟩ (rk_recv hK hW0 0 (by decide) rfl rfl rfl) ⟨hW0, hW1⟩ rfl rfl hl.1 (Nat.le_of_ble_eq_true rfl) dX11_clause_120 ⟨Nat.zero_le _, Nat.zero_le _⟩ ?_
  refine W.eq (g2 := F0 m 123 ls [.int r111, .ref (b0 + (2 + 2 * n1 + 0))]) rfl ?_
  refine lv_bipush (pc := 123) (v := (62 : Int32)) hx hb dX11_clause_123 (by decide) ?_
  refine lv_icmp_ne (pc := 125) (tgt := 132) hx hb dX11_clause_125 (by decide) (fun c113 => ?_) (fun c113 => ?_)
  · have hm := ite_f c113 hm
    refine lv_iconst (pc := 132) (v := (1 : Int32)) hx hb dX11_clause_132 (by decide) ?_
    exact (w_fX11_clause_133 C hd01 he0 he1 hZ hgb0 hgb1 ht) v0 n1 n1 (1 : Int32) hm hn_n1 hn_n1 H locs ls hW0 hW1 hS hG (lv_sub hl [0, 1] rfl)
  · have hm := ite_t c113 hm
    refine lv_iconst (pc := 128) (v := (0 : Int32)) hx hb dX11_clause_128 (by decide) ?_
    refine lv_goto (pc := 129) (tgt := 133) hx hb dX11_clause_129 (by decide) ?_
    exact (w_fX11_clause_133 C hd01 he0 he1 hZ hgb0 hgb1 ht) v0 n1 n1 (0 : Int32) hm hn_n1 hn_n1 H locs ls hW0 hW1 hS hG (lv_sub hl [0, 1] rfl)
set_option maxHeartbeats 4000000 in
theorem w_fX11_clause_35 (C : Cx G p s m args meth c RX11 cX11_clause 2 none) {b0 : Nat} {b1 : Nat} {V1 : Mem} {rok : Bool} {re : Int32} {rw0 : Mem} (hd01 : b0 + 10 ≤ b1 ∨ b1 + 357 ≤ b0) (he0 : b0 + 10 ≤ s.heap.size) (he1 : b1 + 357 ≤ s.heap.size) (hZ : ZQ G) (hgb0 : gB G ≤ b0) (hgb1 : gB G ≤ b1) (ht : ∀ x ∈ c.exceptionTable.toList, False) {k35 : Mem → Nat → Option (Bool × Int32 × Mem)} (hk35 : ∀ (v0 : Mem) (n1 : Nat), k35 v0 n1 = some (rok, re, rw0) → (hn_n1 : n1 < 4) → ∀ (H : Heap) (locs : List Loc) (ls : Array Slot), rg G b0 10 (shX11 b1 G.2.1) v0 H → rg G b1 357 (shX0 G.2.1) V1 H → va_S (FA (iv b0 10) s.heap.size) s.heap H locs → GO G H → lv_has ls 2 [(0, .ref b0), (1, .ref (b0 + (2 + 2 * n1 + 0)))] → W p l e (rmT 5 (bif rok then 0 else 1) (bif rok then 0 else 7) 105) s m args below meth c H locs 0 0 (vx_MQ below (QcX rok (FA (iv b0 10) s.heap.size) (fun ov H => ov = none ∧ rg G b0 10 (shX11 b1 G.2.1) rw0 H)) (XcX rok (FA (iv b0 10) s.heap.size) (fun q E H => E = "WholePacks$Fault" ∧ s.heap.size ≤ q ∧ (∃ wx, rg G q 1 (shX12 G.2.1) wx H ∧ gI wx 0 6 = re) ∧ rg G b0 10 (shX11 b1 G.2.1) rw0 H)) args s (bif rok then 0 else 1) (bif rok then 0 else 7) (FA (iv b0 10) s.heap.size)) (F0 m 35 ls [])) : ∀ (v0 : Mem) (n1 : Nat), fX11_clause_35 V1 k35 v0 n1 = some (rok, re, rw0) → (hn_n1 : n1 < 4) → ∀ (H : Heap) (locs : List Loc) (ls : Array Slot), rg G b0 10 (shX11 b1 G.2.1) v0 H → rg G b1 357 (shX0 G.2.1) V1 H → va_S (FA (iv b0 10) s.heap.size) s.heap H locs → GO G H → lv_has ls 2 [(0, .ref b0), (1, .ref (b0 + (2 + 2 * n1 + 0)))] → W p l e (rmT 5 (bif rok then 0 else 1) (bif rok then 0 else 7) 105) s m args below meth c H locs 0 0 (vx_MQ below (QcX rok (FA (iv b0 10) s.heap.size) (fun ov H => ov = none ∧ rg G b0 10 (shX11 b1 G.2.1) rw0 H)) (XcX rok (FA (iv b0 10) s.heap.size) (fun q E H => E = "WholePacks$Fault" ∧ s.heap.size ≤ q ∧ (∃ wx, rg G q 1 (shX12 G.2.1) wx H ∧ gI wx 0 6 = re) ∧ rg G b0 10 (shX11 b1 G.2.1) rw0 H)) args s (bif rok then 0 else 1) (bif rok then 0 else 7) (FA (iv b0 10) s.heap.size)) (F0 m 35 ls []) := by
  intro v0 n1 hm hn_n1 H locs ls hW0 hW1 hS hG hl
  obtain ⟨hx, hb, hr, hlk, hml, hown, hts, hK⟩ := id C
  unfold fX11_clause_35 at hm
  refine lv_aload_n (pc := 35) hx hb dX11_clause_35 rfl (lv_at hl 0 rfl) ?_
  obtain ⟨r77, hq78, hm⟩ := ob_some hm
  refine rk_PV (pc := 36) (As := []) (rest := []) hx hb hml hown hts hK lkX11_33 rfl yn_X11_here (ct_X11_here (G := G) (l := l) (b0 := b0) (b1 := b1) hq78) ⟨Nat.le_of_ble_eq_true rfl, Nat.le_of_ble_eq_true rfl⟩ (rk_recv hK hW0 0 (by decide) rfl rfl rfl) ⟨hW0, hW1⟩ rfl rfl hl.1 (Nat.le_of_ble_eq_true rfl) dX11_clause_36 ⟨Nat.zero_le _, Nat.zero_le _⟩ ?_
  refine W.eq (g2 := F0 m 39 ls [.int r77]) rfl ?_
  refine lv_bipush (pc := 39) (v := (43 : Int32)) hx hb dX11_clause_39 (by decide) ?_
  refine lv_icmp_eq (pc := 41) (tgt := 53) hx hb dX11_clause_41 (by decide) (fun c79 => ?_) (fun c79 => ?_)
  · have hm := ite_t c79 hm
    exact (w_fX11_clause_53 C hd01 he0 he1 hZ hgb0 hgb1 ht hk35) v0 n1 hm hn_n1 H locs ls hW0 hW1 hS hG (lv_sub hl [0, 1] rfl)
  · have hm := ite_f c79 hm
    refine lv_aload_n (pc := 44) hx hb dX11_clause_44 rfl (lv_at hl 0 rfl) ?_
    obtain ⟨r80, hq81, hm⟩ := ob_some hm
    refine rk_PV (pc := 45) (As := []) (rest := []) hx hb hml hown hts hK lkX11_33 rfl yn_X11_here (ct_X11_here (G := G) (l := l) (b0 := b0) (b1 := b1) hq81) ⟨Nat.le_of_ble_eq_true rfl, Nat.le_of_ble_eq_true rfl⟩ (rk_recv hK hW0 0 (by decide) rfl rfl rfl) ⟨hW0, hW1⟩ rfl rfl hl.1 (Nat.le_of_ble_eq_true rfl) dX11_clause_45 ⟨Nat.zero_le _, Nat.zero_le _⟩ ?_
    refine W.eq (g2 := F0 m 48 ls [.int r80]) rfl ?_
    refine lv_bipush (pc := 48) (v := (45 : Int32)) hx hb dX11_clause_48 (by decide) ?_
    refine lv_icmp_ne (pc := 50) (tgt := 88) hx hb dX11_clause_50 (by decide) (fun c82 => ?_) (fun c82 => ?_)
    · have hm := ite_f c82 hm
      refine lv_aload_n (pc := 88) hx hb dX11_clause_88 rfl (lv_at hl 0 rfl) ?_
      obtain ⟨r83, hq84, hm⟩ := ob_some hm
      refine rk_PV (pc := 89) (As := []) (rest := []) hx hb hml hown hts hK lkX11_33 rfl yn_X11_here (ct_X11_here (G := G) (l := l) (b0 := b0) (b1 := b1) hq84) ⟨Nat.le_of_ble_eq_true rfl, Nat.le_of_ble_eq_true rfl⟩ (rk_recv hK hW0 0 (by decide) rfl rfl rfl) ⟨hW0, hW1⟩ rfl rfl hl.1 (Nat.le_of_ble_eq_true rfl) dX11_clause_89 ⟨Nat.zero_le _, Nat.zero_le _⟩ ?_
      refine W.eq (g2 := F0 m 92 ls [.int r83]) rfl ?_
      refine lv_bipush (pc := 92) (v := (62 : Int32)) hx hb dX11_clause_92 (by decide) ?_
      refine lv_icmp_eq (pc := 94) (tgt := 118) hx hb dX11_clause_94 (by decide) (fun c85 => ?_) (fun c85 => ?_)
      · have hm := ite_t c85 hm
        exact (w_fX11_clause_118 C hd01 he0 he1 hZ hgb0 hgb1 ht) v0 n1 hm hn_n1 H locs ls hW0 hW1 hS hG (lv_sub hl [0, 1] rfl)
      · have hm := ite_f c85 hm
        refine lv_aload_n (pc := 97) hx hb dX11_clause_97 rfl (lv_at hl 0 rfl) ?_
        obtain ⟨r86, hq87, hm⟩ := ob_some hm
        refine rk_PV (pc := 98) (As := []) (rest := []) hx hb hml hown hts hK lkX11_33 rfl yn_X11_here (ct_X11_here (G := G) (l := l) (b0 := b0) (b1 := b1) hq87) ⟨Nat.le_of_ble_eq_true rfl, Nat.le_of_ble_eq_true rfl⟩ (rk_recv hK hW0 0 (by decide) rfl rfl rfl) ⟨hW0, hW1⟩ rfl rfl hl.1 (Nat.le_of_ble_eq_true rfl) dX11_clause_98 ⟨Nat.zero_le _, Nat.zero_le _⟩ ?_
        refine W.eq (g2 := F0 m 101 ls [.int r86]) rfl ?_
        refine lv_bipush (pc := 101) (v := (60 : Int32)) hx hb dX11_clause_101 (by decide) ?_
        refine lv_icmp_eq (pc := 103) (tgt := 118) hx hb dX11_clause_103 (by decide) (fun c88 => ?_) (fun c88 => ?_)
        · have hm := ite_t c88 hm
          exact (w_fX11_clause_118 C hd01 he0 he1 hZ hgb0 hgb1 ht) v0 n1 hm hn_n1 H locs ls hW0 hW1 hS hG (lv_sub hl [0, 1] rfl)
        · have hm := ite_f c88 hm
          obtain ⟨h89, hh89⟩ : ∃ h, H.size = h := ⟨_, rfl⟩
          have hqh89 : s.heap.size ≤ h89 := Nat.le_trans hS.1 (Nat.le_of_eq hh89)
          have hok9 : false = rok := (by exact (rs3 hm).1)
          subst hok9
          refine rk_new (pc := 106) (h := h89) (sh := (shX12 G.2.1)) hx hb hts hown hK hS in_X12 ft_X12 rfl q683 q684 q133 hh89 rfl (df_X12 _ rfl) (Nat.le_of_ble_eq_true rfl) (Nat.le_of_ble_eq_true rfl) dX11_clause_106 (fun H90 hW92 hS93 hz94 hkp95 => ?_)
          have hW96 := rg_keepN hW0 hh89 hkp95
          have hW97 := rg_keepN hW1 hh89 hkp95
          have hG98 := GO_keepN hG (by omega) hkp95
          refine lv_dup (pc := 109) hx hb dX11_clause_109 rfl ?_
          refine lv_aload_n (pc := 110) hx hb dX11_clause_110 rfl (lv_at hl 0 rfl) ?_
          refine rk_get (pc := 111) hx hb hts hown hK hW96 flX11_22 0 (by decide) rfl rfl (x := .int (gI v0 0 2)) rfl dX11_clause_111 ?_
          refine rk_TI (pc := 114) (As := [.int (gI v0 0 2)]) (rest := [.ref h89]) (mc := 0) (ms := 0) hx hb hml hown hts hK hS93 (fun q hq => FA_sz rfl q hq) lkX11_57 yn_X12_init (ct_X12_init (G := G) (l := l) (b0 := h89) (v0 := mz) (i1 := (gI v0 0 2)) (sz := H90.size) hZ (by omega)) ⟨Nat.le_of_ble_eq_true rfl, Nat.le_of_ble_eq_true rfl⟩ (fun z h9 => Or.inr (show s.heap.size ≤ z by have := h9.1; omega)) ⟨hW92, hG98⟩ rfl rfl hl.1 (Nat.le_of_ble_eq_true rfl) dX11_clause_114 ⟨Nat.le_of_ble_eq_true rfl, Nat.le_of_ble_eq_true rfl⟩ (fun ov9 H99 locs100 hP101 hkp102 hS103 => ?_)
          obtain ⟨rfl, ⟨wx104, hW105, hre106⟩, hz107⟩ := hP101
          have hW108 := rg_keepA hW96 hkp102 (by intro z h1 h2 h3; have h8 := h3.1; have h9 := h3.2; omega)
          have hW109 := rg_keepA hW97 hkp102 (by intro z h1 h2 h3; have h8 := h3.1; have h9 := h3.2; omega)
          have hG110 := GO_keepA hG98 hkp102 (Nat.le_trans (show gB G ≤ s.heap.size by omega) hS93.1) (by intro z h3; have h8 := h3.1; have h9 := h3.2; omega)
          refine W.eq (g2 := F0 m 117 ls [.ref h89]) rfl ?_
          refine vx_athrow (pc := 117) hx hb dX11_clause_117 ?_
          obtain ⟨ce8, hce8, hcv8, hcl8⟩ := rk_exc hK hW105 rfl rfl
          obtain ⟨e7, e8, e9⟩ := rs3 hm
          cases e7
          subst e8
          subst e9
          exact rk_xout (fun x h => (ht x h).elim) hlk hS103 hce8 hcv8 hcl8 ⟨rfl, hqh89, ⟨_, hW105, hre106⟩, hW108⟩ (by exact Nat.le_of_ble_eq_true rfl) (by exact Nat.le_of_ble_eq_true rfl)
    · have hm := ite_t c82 hm
      exact (w_fX11_clause_53 C hd01 he0 he1 hZ hgb0 hgb1 ht hk35) v0 n1 hm hn_n1 H locs ls hW0 hW1 hS hG (lv_sub hl [0, 1] rfl)
theorem w_fX11_clause_35_l (C : Cx G p s m args meth c RX11 cX11_clause 2 none) {b0 : Nat} {b1 : Nat} {V1 : Mem} {rok : Bool} {re : Int32} {rw0 : Mem} (hd01 : b0 + 10 ≤ b1 ∨ b1 + 357 ≤ b0) (he0 : b0 + 10 ≤ s.heap.size) (he1 : b1 + 357 ≤ s.heap.size) (hZ : ZQ G) (hgb0 : gB G ≤ b0) (hgb1 : gB G ≤ b1) (ht : ∀ x ∈ c.exceptionTable.toList, False) : ∀ (n : Nat) (v0 : Mem) (n1 : Nat), lq2 (fX11_clause_35 V1) n v0 n1 = some (rok, re, rw0) → (hn_n1 : n1 < 4) → ∀ (H : Heap) (locs : List Loc) (ls : Array Slot), rg G b0 10 (shX11 b1 G.2.1) v0 H → rg G b1 357 (shX0 G.2.1) V1 H → va_S (FA (iv b0 10) s.heap.size) s.heap H locs → GO G H → lv_has ls 2 [(0, .ref b0), (1, .ref (b0 + (2 + 2 * n1 + 0)))] → W p l e (rmT 5 (bif rok then 0 else 1) (bif rok then 0 else 7) 105) s m args below meth c H locs 0 0 (vx_MQ below (QcX rok (FA (iv b0 10) s.heap.size) (fun ov H => ov = none ∧ rg G b0 10 (shX11 b1 G.2.1) rw0 H)) (XcX rok (FA (iv b0 10) s.heap.size) (fun q E H => E = "WholePacks$Fault" ∧ s.heap.size ≤ q ∧ (∃ wx, rg G q 1 (shX12 G.2.1) wx H ∧ gI wx 0 6 = re) ∧ rg G b0 10 (shX11 b1 G.2.1) rw0 H)) args s (bif rok then 0 else 1) (bif rok then 0 else 7) (FA (iv b0 10) s.heap.size)) (F0 m 35 ls []) := by
  intro n
  induction n with
  | zero => intro v0 n1 hm; exact (lq2_0 hm).elim
  | succ n ih => intro v0 n1 hm; exact w_fX11_clause_35 C hd01 he0 he1 hZ hgb0 hgb1 ht ih v0 n1 (lq2_s hm)
set_option maxHeartbeats 4000000 in
theorem w_fX11_clause (C : Cx G p s m args meth c RX11 cX11_clause 2 none) {b0 : Nat} {b1 : Nat} {V1 : Mem} {rok : Bool} {re : Int32} {rw0 : Mem} (hd01 : b0 + 10 ≤ b1 ∨ b1 + 357 ≤ b0) (he0 : b0 + 10 ≤ s.heap.size) (he1 : b1 + 357 ≤ s.heap.size) (hZ : ZQ G) (hgb0 : gB G ≤ b0) (hgb1 : gB G ≤ b1) (ht : ∀ x ∈ c.exceptionTable.toList, False) : ∀ (v0 : Mem), fX11_clause V1 v0 = some (rok, re, rw0) → ∀ (H : Heap) (locs : List Loc) (ls : Array Slot), rg G b0 10 (shX11 b1 G.2.1) v0 H → rg G b1 357 (shX0 G.2.1) V1 H → va_S (FA (iv b0 10) s.heap.size) s.heap H locs → GO G H → lv_has ls 2 [(0, .ref b0)] → W p l e (rmT 5 (bif rok then 0 else 1) (bif rok then 0 else 7) 105) s m args below meth c H locs 0 0 (vx_MQ below (QcX rok (FA (iv b0 10) s.heap.size) (fun ov H => ov = none ∧ rg G b0 10 (shX11 b1 G.2.1) rw0 H)) (XcX rok (FA (iv b0 10) s.heap.size) (fun q E H => E = "WholePacks$Fault" ∧ s.heap.size ≤ q ∧ (∃ wx, rg G q 1 (shX12 G.2.1) wx H ∧ gI wx 0 6 = re) ∧ rg G b0 10 (shX11 b1 G.2.1) rw0 H)) args s (bif rok then 0 else 1) (bif rok then 0 else 7) (FA (iv b0 10) s.heap.size)) (F0 m 0 ls []) := by
  intro v0 hm H locs ls hW0 hW1 hS hG hl
  obtain ⟨hx, hb, hr, hlk, hml, hown, hts, hK⟩ := id C
  unfold fX11_clause at hm
  refine lv_aload_n (pc := 0) hx hb dX11_clause_0 rfl (lv_at hl 0 rfl) ?_
  refine rk_get (pc := 1) hx hb hts hown hK hW0 flX11_17 0 (by decide) rfl rfl (x := .ref (b0 + 1)) (by first | rfl | exact congrArg (fun z => some (Value.ref z)) (by omega)) dX11_clause_1 ?_
  refine lv_aload_n (pc := 4) hx hb dX11_clause_4 rfl (lv_at hl 0 rfl) ?_
  refine rk_get (pc := 5) hx hb hts hown hK hW0 flX11_71 0 (by decide) rfl rfl (x := .int (gI v0 0 1)) rfl dX11_clause_5 ?_
  obtain ⟨hg1, hm⟩ := gb_some hm
  have hlt2 := inR_lt hg1
  refine rk_aald (pc := 8) hx hb hK hW0 1 5 (by decide) rfl rfl rfl hg1 (x := (b0 + (2 + 2 * (gI v0 0 1).toNatClampNeg + 0))) (by first | rfl | exact congrArg some (by omega)) dX11_clause_8 ?_
  refine lv_astore_n (pc := 9) (lv' := [(1, .ref (b0 + (2 + 2 * (gI v0 0 1).toNatClampNeg + 0))), (0, .ref b0)]) hx hb dX11_clause_9 rfl hl (by decide) rfl (fun ls hl => ?_)
  refine lv_aload_n (pc := 10) hx hb dX11_clause_10 rfl (lv_at hl 0 rfl) ?_
  refine lv_iconst (pc := 11) (v := (0 : Int32)) hx hb dX11_clause_11 (by decide) ?_
  refine lv_iconst (pc := 12) (v := (0 : Int32)) hx hb dX11_clause_12 (by decide) ?_
  obtain ⟨w3, hq4, hm⟩ := ob_some hm
  refine rk_TV (pc := 13) (As := [.int (0 : Int32), .int (0 : Int32)]) (rest := []) (mc := 0) (ms := 0) hx hb hml hown hts hK hS (fun q hq => FA_sz rfl q hq) lkX11_74 rfl yn_X2_begins (ct_X2_begins (G := G) (l := l) (b0 := (b0 + (2 + 2 * (gI v0 0 1).toNatClampNeg + 0))) (sz := H.size) hq4) ⟨Nat.le_of_ble_eq_true rfl, Nat.le_of_ble_eq_true rfl⟩ (fun z h => Or.inl (show iv _ _ _ from ⟨by have h8 := h.1; have h9 := h.2; omega, by have h8 := h.1; have h9 := h.2; omega⟩)) (rk_recv hK hW0 (2 + 2 * (gI v0 0 1).toNatClampNeg + 0) (by omega) rfl rfl ((shX11_f2 G.2.1 hlt2 _ rfl 0 (by decide) _ _ _).trans rfl)) (rg_sub (d := (2 + 2 * (gI v0 0 1).toNatClampNeg)) hW0 rfl (by omega) (fun o ho x y z => shX11_f2 G.2.1 hlt2 _ rfl o ho x y z)) rfl rfl hl.1 (Nat.le_of_ble_eq_true rfl) dX11_clause_13 ⟨Nat.zero_le _, Nat.zero_le _⟩ (fun ov9 H5 locs6 hP7 hkp8 hS9 => ?_)
  obtain ⟨rfl, hW10, hz11⟩ := hP7
  have hW12 := rg_keepA hW1 hkp8 (by intro z h1 h2 h3; have h8 := h3.1; have h9 := h3.2; omega)
  have hW13 := rg_put (d := (2 + 2 * (gI v0 0 1).toNatClampNeg)) hW0 hW10 rfl (fun o ho x y z => shX11_f2 G.2.1 hlt2 _ rfl o ho x y z) hkp8
  obtain ⟨v0_14, he9, hm⟩ := lm_some hm
  rw [he9] at hW13
  have hG15 := GO_keepA hG hkp8 (Nat.le_trans (show gB G ≤ s.heap.size by omega) hS.1) (by intro z h3; have h8 := h3.1; have h9 := h3.2; omega)
  refine W.eq (g2 := F0 m 16 ls []) rfl ?_
  refine lv_aload_n (pc := 16) hx hb dX11_clause_16 rfl (lv_at hl 1 rfl) ?_
  refine lv_aload_n (pc := 17) hx hb dX11_clause_17 rfl (lv_at hl 0 rfl) ?_
  refine lv_aload_n (pc := 18) hx hb dX11_clause_18 rfl (lv_at hl 1 rfl) ?_
  refine lv_bipush (pc := 19) (v := (45 : Int32)) hx hb dX11_clause_19 (by decide) ?_
  obtain ⟨r16, w17, hq18, hm⟩ := ob2_some hm
  refine rk_TV (pc := 21) (As := [.int (45 : Int32)]) (rest := [.ref (b0 + (2 + 2 * (gI v0 0 1).toNatClampNeg + 0)), .ref b0]) (mc := 0) (ms := 0) hx hb hml hown hts hK hS9 (fun q hq => FA_sz rfl q hq) lkX11_68 rfl yn_X11_is (ct_X11_is (G := G) (l := l) (b0 := b0) (b1 := b1) (sz := H5.size) hq18 (by omega)) ⟨Nat.le_of_ble_eq_true rfl, Nat.le_of_ble_eq_true rfl⟩ (fun z h => Or.inl (show iv _ _ _ from ⟨by have h8 := h.1; have h9 := h.2; omega, by have h8 := h.1; have h9 := h.2; omega⟩)) (rk_recv hK hW13 0 (by decide) rfl rfl rfl) ⟨hW13, hW12⟩ rfl rfl hl.1 (Nat.le_of_ble_eq_true rfl) dX11_clause_21 ⟨Nat.zero_le _, Nat.zero_le _⟩ (fun ov9 H19 locs20 hP21 hkp22 hS23 => ?_)
  obtain ⟨rfl, hW24, hz25⟩ := hP21
  have hW26 := rg_keepA hW12 hkp22 (by intro z h1 h2 h3; have h8 := h3.1; have h9 := h3.2; omega)
  have hG27 := GO_keepA hG15 hkp22 (Nat.le_trans (show gB G ≤ s.heap.size by omega) hS9.1) (by intro z h3; have h8 := h3.1; have h9 := h3.2; omega)
  refine W.eq (g2 := F0 m 24 ls [.int r16, .ref (b0 + (2 + 2 * (gI v0 0 1).toNatClampNeg + 0)), .ref b0]) rfl ?_
  refine lv_if_eq (pc := 24) (tgt := 31) hx hb dX11_clause_24 (by decide) (fun c28 => ?_) (fun c28 => ?_)
  · have hm := ite_t c28 hm
    refine lv_iconst (pc := 31) (v := (1 : Int32)) hx hb dX11_clause_31 (by decide) ?_
    obtain ⟨ok30, re31, w29, hq32, hm⟩ := ob3_some hm
    by_cases hok : ok30 = true
    · subst hok
      have hm := ite_t rfl hm
      refine rk_TV (pc := 32) (As := [.ref (b0 + (2 + 2 * (gI v0 0 1).toNatClampNeg + 0)), .int (1 : Int32)]) (rest := []) (mc := 0) (ms := 0) hx hb hml hown hts hK hS23 (fun q hq => FA_sz rfl q hq) lkX11_78 rfl yn_X11_term (CX.ret (ct_X11_term (G := G) (l := l) (rok := true) (b0 := b0) (b1 := b1) (sz := H19.size) hq32 (by omega) hlt2 hZ (by omega) (by omega))) ⟨Nat.le_of_ble_eq_true rfl, Nat.le_of_ble_eq_true rfl⟩ (fun z h => Or.inl (show iv _ _ _ from ⟨by have h8 := h.1; have h9 := h.2; omega, by have h8 := h.1; have h9 := h.2; omega⟩)) (rk_recv hK hW24 0 (by decide) rfl rfl rfl) ⟨hW24, hW26, hG27⟩ rfl rfl hl.1 (Nat.le_of_ble_eq_true rfl) dX11_clause_32 ⟨Nat.zero_le _, Nat.zero_le _⟩ (fun ov9 H33 locs34 hP35 hkp36 hS37 => ?_)
      obtain ⟨rfl, hW38⟩ := hP35
      have hW39 := rg_keepA hW26 hkp36 (by intro z h1 h2 h3; have h8 := h3.1; have h9 := h3.2; omega)
      have hG40 := GO_keepA hG27 hkp36 (Nat.le_trans (show gB G ≤ s.heap.size by omega) hS23.1) (by intro z h3; have h8 := h3.1; have h9 := h3.2; omega)
      refine W.eq (g2 := F0 m 35 ls []) rfl ?_
      exact (w_fX11_clause_35_l C hd01 he0 he1 hZ hgb0 hgb1 ht FU) w29 (gI v0 0 1).toNatClampNeg hm hlt2 H33 locs34 ls hW38 hW39 hS37 hG40 (lv_sub hl [1, 0] rfl)
    · have hok := eq_false_of_ne_true hok
      subst hok
      have hm := ite_f Bool.false_ne_true hm
      have hok9 : false = rok := (by exact (rs3 hm).1)
      subst hok9
      refine rk_XV (pc := 32) (As := [.ref (b0 + (2 + 2 * (gI v0 0 1).toNatClampNeg + 0)), .int (1 : Int32)]) (rest := []) (mc := 1) (ms := 7) hx hb hml hown hts hK hS23 (fun q hq => FA_sz rfl q hq) lkX11_78 rfl yn_X11_term (ct_X11_term (G := G) (l := l) (rok := false) (b0 := b0) (b1 := b1) (sz := H19.size) hq32 (by omega) hlt2 hZ (by omega) (by omega)) ⟨Nat.le_of_ble_eq_true rfl, Nat.le_of_ble_eq_true rfl⟩ (fun z h => Or.inl (show iv _ _ _ from ⟨by have h8 := h.1; have h9 := h.2; omega, by have h8 := h.1; have h9 := h.2; omega⟩)) (rk_recv hK hW24 0 (by decide) rfl rfl rfl) ⟨hW24, hW26, hG27⟩ rfl rfl hl.1 (Nat.le_of_ble_eq_true rfl) dX11_clause_32 ⟨Nat.le_of_ble_eq_true rfl, Nat.le_of_ble_eq_true rfl⟩ (fun q46 E9 ce9 H41 locs42 hP43 hkp44 hS45 hce9 hcv9 hcl9 => ?_)
      obtain ⟨rfl, hqq46, ⟨wx48, hW49, hre50⟩, hW47⟩ := hP43
      have hqq46 : s.heap.size ≤ q46 := Nat.le_trans hS23.1 hqq46
      have hW51 := rg_keepA hW26 hkp44 (by intro z h1 h2 h3; have h8 := h3.1; have h9 := h3.2; omega)
      have hG52 := GO_keepA hG27 hkp44 (Nat.le_trans (show gB G ≤ s.heap.size by omega) hS23.1) (by intro z h3; have h8 := h3.1; have h9 := h3.2; omega)
      obtain ⟨ce8, hce8, hcv8, hcl8⟩ := rk_exc hK hW49 rfl rfl
      obtain ⟨e7, e8, e9⟩ := rs3 hm
      cases e7
      subst e8
      subst e9
      exact rk_xout (fun x h => (ht x h).elim) hlk hS45 hce8 hcv8 hcl8 ⟨rfl, hqq46, ⟨_, hW49, hre50⟩, hW47⟩ (by exact Nat.le_of_ble_eq_true rfl) (by exact Nat.le_of_ble_eq_true rfl)
  · have hm := ite_f c28 hm
    refine lv_iconst (pc := 27) (v := (-1 : Int32)) hx hb dX11_clause_27 (by decide) ?_
    refine lv_goto (pc := 28) (tgt := 32) hx hb dX11_clause_28 (by decide) ?_
    obtain ⟨ok54, re55, w53, hq56, hm⟩ := ob3_some hm
    by_cases hok : ok54 = true
    · subst hok
      have hm := ite_t rfl hm
      refine rk_TV (pc := 32) (As := [.ref (b0 + (2 + 2 * (gI v0 0 1).toNatClampNeg + 0)), .int (-1 : Int32)]) (rest := []) (mc := 0) (ms := 0) hx hb hml hown hts hK hS23 (fun q hq => FA_sz rfl q hq) lkX11_78 rfl yn_X11_term (CX.ret (ct_X11_term (G := G) (l := l) (rok := true) (b0 := b0) (b1 := b1) (sz := H19.size) hq56 (by omega) hlt2 hZ (by omega) (by omega))) ⟨Nat.le_of_ble_eq_true rfl, Nat.le_of_ble_eq_true rfl⟩ (fun z h => Or.inl (show iv _ _ _ from ⟨by have h8 := h.1; have h9 := h.2; omega, by have h8 := h.1; have h9 := h.2; omega⟩)) (rk_recv hK hW24 0 (by decide) rfl rfl rfl) ⟨hW24, hW26, hG27⟩ rfl rfl hl.1 (Nat.le_of_ble_eq_true rfl) dX11_clause_32 ⟨Nat.zero_le _, Nat.zero_le _⟩ (fun ov9 H57 locs58 hP59 hkp60 hS61 => ?_)
      obtain ⟨rfl, hW62⟩ := hP59
      have hW63 := rg_keepA hW26 hkp60 (by intro z h1 h2 h3; have h8 := h3.1; have h9 := h3.2; omega)
      have hG64 := GO_keepA hG27 hkp60 (Nat.le_trans (show gB G ≤ s.heap.size by omega) hS23.1) (by intro z h3; have h8 := h3.1; have h9 := h3.2; omega)
      refine W.eq (g2 := F0 m 35 ls []) rfl ?_
      exact (w_fX11_clause_35_l C hd01 he0 he1 hZ hgb0 hgb1 ht FU) w53 (gI v0 0 1).toNatClampNeg hm hlt2 H57 locs58 ls hW62 hW63 hS61 hG64 (lv_sub hl [1, 0] rfl)
    · have hok := eq_false_of_ne_true hok
      subst hok
      have hm := ite_f Bool.false_ne_true hm
      have hok9 : false = rok := (by exact (rs3 hm).1)
      subst hok9
      refine rk_XV (pc := 32) (As := [.ref (b0 + (2 + 2 * (gI v0 0 1).toNatClampNeg + 0)), .int (-1 : Int32)]) (rest := []) (mc := 1) (ms := 7) hx hb hml hown hts hK hS23 (fun q hq => FA_sz rfl q hq) lkX11_78 rfl yn_X11_term (ct_X11_term (G := G) (l := l) (rok := false) (b0 := b0) (b1 := b1) (sz := H19.size) hq56 (by omega) hlt2 hZ (by omega) (by omega)) ⟨Nat.le_of_ble_eq_true rfl, Nat.le_of_ble_eq_true rfl⟩ (fun z h => Or.inl (show iv _ _ _ from ⟨by have h8 := h.1; have h9 := h.2; omega, by have h8 := h.1; have h9 := h.2; omega⟩)) (rk_recv hK hW24 0 (by decide) rfl rfl rfl) ⟨hW24, hW26, hG27⟩ rfl rfl hl.1 (Nat.le_of_ble_eq_true rfl) dX11_clause_32 ⟨Nat.le_of_ble_eq_true rfl, Nat.le_of_ble_eq_true rfl⟩ (fun q70 E9 ce9 H65 locs66 hP67 hkp68 hS69 hce9 hcv9 hcl9 => ?_)
      obtain ⟨rfl, hqq70, ⟨wx72, hW73, hre74⟩, hW71⟩ := hP67
      have hqq70 : s.heap.size ≤ q70 := Nat.le_trans hS23.1 hqq70
      have hW75 := rg_keepA hW26 hkp68 (by intro z h1 h2 h3; have h8 := h3.1; have h9 := h3.2; omega)
      have hG76 := GO_keepA hG27 hkp68 (Nat.le_trans (show gB G ≤ s.heap.size by omega) hS23.1) (by intro z h3; have h8 := h3.1; have h9 := h3.2; omega)
      obtain ⟨ce8, hce8, hcv8, hcl8⟩ := rk_exc hK hW73 rfl rfl
      obtain ⟨e7, e8, e9⟩ := rs3 hm
      cases e7
      subst e8
      subst e9
      exact rk_xout (fun x h => (ht x h).elim) hlk hS69 hce8 hcv8 hcl8 ⟨rfl, hqq70, ⟨_, hW73, hre74⟩, hW71⟩ (by exact Nat.le_of_ble_eq_true rfl) (by exact Nat.le_of_ble_eq_true rfl)
set_option maxHeartbeats 4000000 in
theorem ct_X11_clause {G : Gv} {l : Launch} {b0 : Nat} {b1 : Nat} {V1 : Mem} {v0 : Mem} {rok : Bool} {re : Int32} {rw0 : Mem} {sz : Nat} (hm : fX11_clause V1 v0 = some (rok, re, rw0)) (hd01 : b0 + 10 ≤ b1 ∨ b1 + 357 ≤ b0) (hZ : ZQ G) (hgb0 : gB G ≤ b0) (hgb1 : gB G ≤ b1) : CX G l yX11_clause (ws_ yX11_clause cX11_clause 2 none) 5 (bif rok then 0 else 1) (bif rok then 0 else 7) 105 [.ref b0] (iv b0 10) sz (fun H => rg G b0 10 (shX11 b1 G.2.1) v0 H ∧ rg G b1 357 (shX0 G.2.1) V1 H ∧ GO G H) rok (fun ov H => ov = none ∧ rg G b0 10 (shX11 b1 G.2.1) rw0 H) (fun q E H => E = "WholePacks$Fault" ∧ sz ≤ q ∧ (∃ wx, rg G q 1 (shX12 G.2.1) wx H ∧ gI wx 0 6 = re) ∧ rg G b0 10 (shX11 b1 G.2.1) rw0 H) := by
  refine vx_ofW (cc := cX11_clause) (maxL := 2) (ret := none) (by decide +kernel) rfl ?_
  intro p e s m args below meth c s₁ B hml ht hv
  obtain ⟨rfl, ⟨hz, hW0, hW1, hG⟩, hK⟩ := hv
  subst hz
  have he0 := rg_end hW0 9 (by decide) rfl (fun _ _ _ => rfl)
  have he1 := rg_end hW1 356 (by decide) rfl (fun _ _ _ => rfl)
  have hts := atoms_spec (ws := ws_ yX11_clause cX11_clause 2 none) B.pre
  have hts : ∀ w ∈ lw_all, w.before _ s = true := fun w h => hts w (List.mem_cons_of_mem _ h)
  have C : Cx G p s m _ meth c RX11 cX11_clause 2 none := ⟨B.exec, B.bytes, B.returns, B.notSynchronized, hml, findClass_of_methodNamed B.named, hts, hK⟩
  have hl := lv_entry ([.ref b0]) (n := 2) (Nat.le_of_ble_eq_true rfl)
  rw [lg_entry_eq]
  generalize (lg_sl ([.ref b0]) ++ List.replicate (2 - (lg_sl ([.ref b0])).length) Slot.unset).toArray = ls at hl ⊢
  have hl : lv_has ls 2 [(0, .ref b0)] := hl
  exact w_fX11_clause C hd01 he0 he1 hZ hgb0 hgb1 ht _ hm s.heap [] ls hW0 hW1 va_S.rf hG hl
theorem yn_X11_clause : YN yX11_clause 0 := by
  unfold YN
  decide +kernel
theorem lkX11_91 : LV RX11 91 RX11 yX11_clause cX11_clause 2 none := ⟨q662, q664, qs4, q130, q665⟩
noncomputable def fX11_reads_35 (V1 : Mem) (v0 : Mem) : Option (Bool × Int32 × Mem) :=
  some (false, (gI v0 0 2), v0)
noncomputable def fX11_reads_4 (V1 : Mem) (k4 : Mem → Option (Bool × Int32 × Mem)) (v0 : Mem) : Option (Bool × Int32 × Mem) :=
  if (gI V1 0 12) ≤ (gI v0 0 2) then (
  some (true, (0 : Int32), v0))
  else (
  ob (fX11_here v0 V1) fun r26 =>
  if r26 = (59 : Int32) then (
  if (gI v0 0 1) = (4 : Int32) then (
  fX11_reads_35 V1 v0)
  else (
  lm (sI v0 0 2 ((gI v0 0 2) + (1 : Int32))) fun v0_30 =>
  ob3 (fX11_clause V1 v0_30) fun ok40 re41 w39 =>
  if ok40 = true then (
  k4 w39)
  else (
  some (false, re41, w39))))
  else (
  fX11_reads_35 V1 v0))
noncomputable def fX11_reads (V1 : Mem) (v0 : Mem) : Option (Bool × Int32 × Mem) :=
  ob3 (fX11_clause V1 v0) fun ok2 re3 w1 =>
  if ok2 = true then (
  lq1 (fX11_reads_4 V1) FU w1)
  else (
  some (false, re3, w1))
set_option maxHeartbeats 4000000 in
theorem w_fX11_reads_35 (C : Cx G p s m args meth c RX11 cX11_reads 1 none) {b0 : Nat} {b1 : Nat} {V1 : Mem} {rok : Bool} {re : Int32} {rw0 : Mem} (hd01 : b0 + 10 ≤ b1 ∨ b1 + 357 ≤ b0) (he0 : b0 + 10 ≤ s.heap.size) (he1 : b1 + 357 ≤ s.heap.size) (hZ : ZQ G) (hgb0 : gB G ≤ b0) (hgb1 : gB G ≤ b1) (ht : ∀ x ∈ c.exceptionTable.toList, False) : ∀ (v0 : Mem), fX11_reads_35 V1 v0 = some (rok, re, rw0) → ∀ (H : Heap) (locs : List Loc) (ls : Array Slot), rg G b0 10 (shX11 b1 G.2.1) v0 H → rg G b1 357 (shX0 G.2.1) V1 H → va_S (FA (iv b0 10) s.heap.size) s.heap H locs → GO G H → lv_has ls 1 [(0, .ref b0)] → W p l e (rmT 6 (bif rok then 0 else 1) (bif rok then 0 else 7) 126) s m args below meth c H locs 0 0 (vx_MQ below (QcX rok (FA (iv b0 10) s.heap.size) (fun ov H => ov = none ∧ rg G b0 10 (shX11 b1 G.2.1) rw0 H)) (XcX rok (FA (iv b0 10) s.heap.size) (fun q E H => E = "WholePacks$Fault" ∧ s.heap.size ≤ q ∧ (∃ wx, rg G q 1 (shX12 G.2.1) wx H ∧ gI wx 0 6 = re) ∧ rg G b0 10 (shX11 b1 G.2.1) rw0 H)) args s (bif rok then 0 else 1) (bif rok then 0 else 7) (FA (iv b0 10) s.heap.size)) (F0 m 35 ls []) := by
  intro v0 hm H locs ls hW0 hW1 hS hG hl
  obtain ⟨hx, hb, hr, hlk, hml, hown, hts, hK⟩ := id C
  unfold fX11_reads_35 at hm
  obtain ⟨h63, hh63⟩ : ∃ h, H.size = h := ⟨_, rfl⟩
  have hqh63 : s.heap.size ≤ h63 := Nat.le_trans hS.1 (Nat.le_of_eq hh63)
  have hok9 : false = rok := (by exact (rs3 hm).1)
  subst hok9
  refine rk_new (pc := 35) (h := h63) (sh := (shX12 G.2.1)) hx hb hts hown hK hS in_X12 ft_X12 rfl q683 q684 q133 hh63 rfl (df_X12 _ rfl) (Nat.le_of_ble_eq_true rfl) (Nat.le_of_ble_eq_true rfl) dX11_reads_35 (fun H64 hW66 hS67 hz68 hkp69 => ?_)
  have hW70 := rg_keepN hW0 hh63 hkp69
  have hW71 := rg_keepN hW1 hh63 hkp69
  have hG72 := GO_keepN hG (by omega) hkp69
  refine lv_dup (pc := 38) hx hb dX11_reads_38 rfl ?_
  refine lv_aload_n (pc := 39) hx hb dX11_reads_39 rfl (lv_at hl 0 rfl) ?_
  refine rk_get (pc := 40) hx hb hts hown hK hW70 flX11_22 0 (by decide) rfl rfl (x := .int (gI v0 0 2)) rfl dX11_reads_40 ?_
  refine rk_TI (pc := 43) (As := [.int (gI v0 0 2)]) (rest := [.ref h63]) (mc := 0) (ms := 0) hx hb hml hown hts hK hS67 (fun q hq => FA_sz rfl q hq) lkX11_57 yn_X12_init (ct_X12_init (G := G) (l := l) (b0 := h63) (v0 := mz) (i1 := (gI v0 0 2)) (sz := H64.size) hZ (by omega)) ⟨Nat.le_of_ble_eq_true rfl, Nat.le_of_ble_eq_true rfl⟩ (fun z h9 => Or.inr (show s.heap.size ≤ z by have := h9.1; omega)) ⟨hW66, hG72⟩ rfl rfl hl.1 (Nat.le_of_ble_eq_true rfl) dX11_reads_43 ⟨Nat.le_of_ble_eq_true rfl, Nat.le_of_ble_eq_true rfl⟩ (fun ov9 H73 locs74 hP75 hkp76 hS77 => ?_)
  obtain ⟨rfl, ⟨wx78, hW79, hre80⟩, hz81⟩ := hP75
  have hW82 := rg_keepA hW70 hkp76 (by intro z h1 h2 h3; have h8 := h3.1; have h9 := h3.2; omega)
  have hW83 := rg_keepA hW71 hkp76 (by intro z h1 h2 h3; have h8 := h3.1; have h9 := h3.2; omega)
  have hG84 := GO_keepA hG72 hkp76 (Nat.le_trans (show gB G ≤ s.heap.size by omega) hS67.1) (by intro z h3; have h8 := h3.1; have h9 := h3.2; omega)
  refine W.eq (g2 := F0 m 46 ls [.ref h63]) rfl ?_
  refine vx_athrow (pc := 46) hx hb dX11_reads_46 ?_
  obtain ⟨ce8, hce8, hcv8, hcl8⟩ := rk_exc hK hW79 rfl rfl
  obtain ⟨e7, e8, e9⟩ := rs3 hm
  cases e7
  subst e8
  subst e9
  exact rk_xout (fun x h => (ht x h).elim) hlk hS77 hce8 hcv8 hcl8 ⟨rfl, hqh63, ⟨_, hW79, hre80⟩, hW82⟩ (by exact Nat.le_of_ble_eq_true rfl) (by exact Nat.le_of_ble_eq_true rfl)
set_option maxHeartbeats 4000000 in
theorem w_fX11_reads_4 (C : Cx G p s m args meth c RX11 cX11_reads 1 none) {b0 : Nat} {b1 : Nat} {V1 : Mem} {rok : Bool} {re : Int32} {rw0 : Mem} (hd01 : b0 + 10 ≤ b1 ∨ b1 + 357 ≤ b0) (he0 : b0 + 10 ≤ s.heap.size) (he1 : b1 + 357 ≤ s.heap.size) (hZ : ZQ G) (hgb0 : gB G ≤ b0) (hgb1 : gB G ≤ b1) (ht : ∀ x ∈ c.exceptionTable.toList, False) {k4 : Mem → Option (Bool × Int32 × Mem)} (hk4 : ∀ (v0 : Mem), k4 v0 = some (rok, re, rw0) → ∀ (H : Heap) (locs : List Loc) (ls : Array Slot), rg G b0 10 (shX11 b1 G.2.1) v0 H → rg G b1 357 (shX0 G.2.1) V1 H → va_S (FA (iv b0 10) s.heap.size) s.heap H locs → GO G H → lv_has ls 1 [(0, .ref b0)] → W p l e (rmT 6 (bif rok then 0 else 1) (bif rok then 0 else 7) 126) s m args below meth c H locs 0 0 (vx_MQ below (QcX rok (FA (iv b0 10) s.heap.size) (fun ov H => ov = none ∧ rg G b0 10 (shX11 b1 G.2.1) rw0 H)) (XcX rok (FA (iv b0 10) s.heap.size) (fun q E H => E = "WholePacks$Fault" ∧ s.heap.size ≤ q ∧ (∃ wx, rg G q 1 (shX12 G.2.1) wx H ∧ gI wx 0 6 = re) ∧ rg G b0 10 (shX11 b1 G.2.1) rw0 H)) args s (bif rok then 0 else 1) (bif rok then 0 else 7) (FA (iv b0 10) s.heap.size)) (F0 m 4 ls [])) : ∀ (v0 : Mem), fX11_reads_4 V1 k4 v0 = some (rok, re, rw0) → ∀ (H : Heap) (locs : List Loc) (ls : Array Slot), rg G b0 10 (shX11 b1 G.2.1) v0 H → rg G b1 357 (shX0 G.2.1) V1 H → va_S (FA (iv b0 10) s.heap.size) s.heap H locs → GO G H → lv_has ls 1 [(0, .ref b0)] → W p l e (rmT 6 (bif rok then 0 else 1) (bif rok then 0 else 7) 126) s m args below meth c H locs 0 0 (vx_MQ below (QcX rok (FA (iv b0 10) s.heap.size) (fun ov H => ov = none ∧ rg G b0 10 (shX11 b1 G.2.1) rw0 H)) (XcX rok (FA (iv b0 10) s.heap.size) (fun q E H => E = "WholePacks$Fault" ∧ s.heap.size ≤ q ∧ (∃ wx, rg G q 1 (shX12 G.2.1) wx H ∧ gI wx 0 6 = re) ∧ rg G b0 10 (shX11 b1 G.2.1) rw0 H)) args s (bif rok then 0 else 1) (bif rok then 0 else 7) (FA (iv b0 10) s.heap.size)) (F0 m 4 ls []) := by
  intro v0 hm H locs ls hW0 hW1 hS hG hl
  obtain ⟨hx, hb, hr, hlk, hml, hown, hts, hK⟩ := id C
  unfold fX11_reads_4 at hm
  refine lv_aload_n (pc := 4) hx hb dX11_reads_4 rfl (lv_at hl 0 rfl) ?_
  refine rk_get (pc := 5) hx hb hts hown hK hW0 flX11_22 0 (by decide) rfl rfl (x := .int (gI v0 0 2)) rfl dX11_reads_5 ?_
  refine lv_aload_n (pc := 8) hx hb dX11_reads_8 rfl (lv_at hl 0 rfl) ?_
  refine rk_get (pc := 9) hx hb hts hown hK hW0 flX11_3 0 (by decide) rfl rfl (x := .ref b1) (by first | rfl | exact congrArg (fun z => some (Value.ref z)) (by omega)) dX11_reads_9 ?_
  refine rk_getN (pc := 12) hx hb hts hown hK hW1 fnX11_26 0 (by decide) rfl rfl (x := .int (gI V1 0 12)) rfl dX11_reads_12 ?_
  refine lv_icmp_ge (pc := 15) (tgt := 64) hx hb dX11_reads_15 (by decide) (fun c25 => ?_) (fun c25 => ?_)
  · have hm := ite_t c25 hm
    obtain ⟨e7, e8, e9⟩ := rs3 hm
    cases e7
    subst e8
    subst e9
    exact rk_vretX (pc := 64) hx hb hr hlk hS ⟨rfl, hW0⟩ dX11_reads_64 (by exact Nat.le_of_ble_eq_true rfl) (by exact Nat.le_of_ble_eq_true rfl)
  · have hm := ite_f c25 hm
    refine lv_aload_n (pc := 18) hx hb dX11_reads_18 rfl (lv_at hl 0 rfl) ?_
    obtain ⟨r26, hq27, hm⟩ := ob_some hm
    refine rk_PV (pc := 19) (As := []) (rest := []) hx hb hml hown hts hK lkX11_33 rfl yn_X11_here (ct_X11_here (G := G) (l := l) (b0 := b0) (b1 := b1) hq27) ⟨Nat.le_of_ble_eq_true rfl, Nat.le_of_ble_eq_true rfl⟩ (rk_recv hK hW0 0 (by decide) rfl rfl rfl) ⟨hW0, hW1⟩ rfl rfl hl.1 (Nat.le_of_ble_eq_true rfl) dX11_reads_19 ⟨Nat.zero_le _, Nat.zero_le _⟩ ?_
    refine W.eq (g2 := F0 m 22 ls [.int r26]) rfl ?_
    refine lv_bipush (pc := 22) (v := (59 : Int32)) hx hb dX11_reads_22 (by decide) ?_
    refine lv_icmp_ne (pc := 24) (tgt := 35) hx hb dX11_reads_24 (by decide) (fun c28 => ?_) (fun c28 => ?_)
    · have hm := ite_f c28 hm
      exact (w_fX11_reads_35 C hd01 he0 he1 hZ hgb0 hgb1 ht) v0 hm H locs ls hW0 hW1 hS hG (lv_sub hl [0] rfl)
    · have hm := ite_t c28 hm
      refine lv_aload_n (pc := 27) hx hb dX11_reads_27 rfl (lv_at hl 0 rfl) ?_
      refine rk_get (pc := 28) hx hb hts hown hK hW0 flX11_71 0 (by decide) rfl rfl (x := .int (gI v0 0 1)) rfl dX11_reads_28 ?_
      refine lv_iconst (pc := 31) (v := (4 : Int32)) hx hb dX11_reads_31 (by decide) ?_
      refine lv_icmp_ne (pc := 32) (tgt := 47) hx hb dX11_reads_32 (by decide) (fun c29 => ?_) (fun c29 => ?_)
      · have hm := ite_f c29 hm
        refine lv_aload_n (pc := 47) hx hb dX11_reads_47 rfl (lv_at hl 0 rfl) ?_
        refine lv_dup (pc := 48) hx hb dX11_reads_48 rfl ?_
        refine rk_get (pc := 49) hx hb hts hown hK hW0 flX11_22 0 (by decide) rfl rfl (x := .int (gI v0 0 2)) rfl dX11_reads_49 ?_
        refine lv_iconst (pc := 52) (v := (1 : Int32)) hx hb dX11_reads_52 (by decide) ?_
        refine lv_iadd (pc := 53) hx hb dX11_reads_53 ?_
        refine rk_put (pc := 54) hx hb hts hown hK hW0 hS flX11_22 ft_X11 0 (by decide) rfl (Or.inl (show iv _ _ _ from ⟨by omega, by omega⟩)) rfl rfl (x := .int ((gI v0 0 2) + (1 : Int32))) rfl rfl (Nat.le_of_ble_eq_true rfl) (sI v0 0 2 ((gI v0 0 2) + (1 : Int32))) sI_ne (by rw [sI_eq]; exact rfl) dX11_reads_54 (fun H31 locs32 hW33 hS34 hz35 hkp36 => ?_)
        obtain ⟨v0_30, he9, hm⟩ := lm_some hm
        rw [he9] at hW33
        have hW37 := rg_keepq hW1 hkp36 (by omega)
        have hG38 := GO_keepq hG hkp36 (by omega)
        refine lv_aload_n (pc := 57) hx hb dX11_reads_57 rfl (lv_at hl 0 rfl) ?_
        obtain ⟨ok40, re41, w39, hq42, hm⟩ := ob3_some hm
        by_cases hok : ok40 = true
        · subst hok
          have hm := ite_t rfl hm
          refine rk_TV (pc := 58) (As := []) (rest := []) (mc := 0) (ms := 0) hx hb hml hown hts hK hS34 (fun q hq => FA_sz rfl q hq) lkX11_91 rfl yn_X11_clause (CX.ret (ct_X11_clause (G := G) (l := l) (rok := true) (b0 := b0) (b1 := b1) (sz := H31.size) hq42 (by omega) hZ (by omega) (by omega))) ⟨Nat.le_of_ble_eq_true rfl, Nat.le_of_ble_eq_true rfl⟩ (fun z h => Or.inl (show iv _ _ _ from ⟨by have h8 := h.1; have h9 := h.2; omega, by have h8 := h.1; have h9 := h.2; omega⟩)) (rk_recv hK hW33 0 (by decide) rfl rfl rfl) ⟨hW33, hW37, hG38⟩ rfl rfl hl.1 (Nat.le_of_ble_eq_true rfl) dX11_reads_58 ⟨Nat.zero_le _, Nat.zero_le _⟩ (fun ov9 H43 locs44 hP45 hkp46 hS47 => ?_)
          obtain ⟨rfl, hW48⟩ := hP45
          have hW49 := rg_keepA hW37 hkp46 (by intro z h1 h2 h3; have h8 := h3.1; have h9 := h3.2; omega)
          have hG50 := GO_keepA hG38 hkp46 (Nat.le_trans (show gB G ≤ s.heap.size by omega) hS34.1) (by intro z h3; have h8 := h3.1; have h9 := h3.2; omega)
          refine W.eq (g2 := F0 m 61 ls []) rfl ?_
          refine lv_goto (pc := 61) (tgt := 4) hx hb dX11_reads_61 (by decide) ?_
          exact hk4 w39 hm H43 locs44 ls hW48 hW49 hS47 hG50 (lv_sub hl [0] rfl)
        · have hok := eq_false_of_ne_true hok
          subst hok
          have hm := ite_f Bool.false_ne_true hm
          have hok9 : false = rok := (by exact (rs3 hm).1)
          subst hok9
          refine rk_XV (pc := 58) (As := []) (rest := []) (mc := 1) (ms := 7) hx hb hml hown hts hK hS34 (fun q hq => FA_sz rfl q hq) lkX11_91 rfl yn_X11_clause (ct_X11_clause (G := G) (l := l) (rok := false) (b0 := b0) (b1 := b1) (sz := H31.size) hq42 (by omega) hZ (by omega) (by omega)) ⟨Nat.le_of_ble_eq_true rfl, Nat.le_of_ble_eq_true rfl⟩ (fun z h => Or.inl (show iv _ _ _ from ⟨by have h8 := h.1; have h9 := h.2; omega, by have h8 := h.1; have h9 := h.2; omega⟩)) (rk_recv hK hW33 0 (by decide) rfl rfl rfl) ⟨hW33, hW37, hG38⟩ rfl rfl hl.1 (Nat.le_of_ble_eq_true rfl) dX11_reads_58 ⟨Nat.le_of_ble_eq_true rfl, Nat.le_of_ble_eq_true rfl⟩ (fun q56 E9 ce9 H51 locs52 hP53 hkp54 hS55 hce9 hcv9 hcl9 => ?_)
          obtain ⟨rfl, hqq56, ⟨wx58, hW59, hre60⟩, hW57⟩ := hP53
          have hqq56 : s.heap.size ≤ q56 := Nat.le_trans hS34.1 hqq56
          have hW61 := rg_keepA hW37 hkp54 (by intro z h1 h2 h3; have h8 := h3.1; have h9 := h3.2; omega)
          have hG62 := GO_keepA hG38 hkp54 (Nat.le_trans (show gB G ≤ s.heap.size by omega) hS34.1) (by intro z h3; have h8 := h3.1; have h9 := h3.2; omega)
          obtain ⟨ce8, hce8, hcv8, hcl8⟩ := rk_exc hK hW59 rfl rfl
          obtain ⟨e7, e8, e9⟩ := rs3 hm
          cases e7
          subst e8
          subst e9
          exact rk_xout (fun x h => (ht x h).elim) hlk hS55 hce8 hcv8 hcl8 ⟨rfl, hqq56, ⟨_, hW59, hre60⟩, hW57⟩ (by exact Nat.le_of_ble_eq_true rfl) (by exact Nat.le_of_ble_eq_true rfl)
      · have hm := ite_t c29 hm
        exact (w_fX11_reads_35 C hd01 he0 he1 hZ hgb0 hgb1 ht) v0 hm H locs ls hW0 hW1 hS hG (lv_sub hl [0] rfl)
theorem w_fX11_reads_4_l (C : Cx G p s m args meth c RX11 cX11_reads 1 none) {b0 : Nat} {b1 : Nat} {V1 : Mem} {rok : Bool} {re : Int32} {rw0 : Mem} (hd01 : b0 + 10 ≤ b1 ∨ b1 + 357 ≤ b0) (he0 : b0 + 10 ≤ s.heap.size) (he1 : b1 + 357 ≤ s.heap.size) (hZ : ZQ G) (hgb0 : gB G ≤ b0) (hgb1 : gB G ≤ b1) (ht : ∀ x ∈ c.exceptionTable.toList, False) : ∀ (n : Nat) (v0 : Mem), lq1 (fX11_reads_4 V1) n v0 = some (rok, re, rw0) → ∀ (H : Heap) (locs : List Loc) (ls : Array Slot), rg G b0 10 (shX11 b1 G.2.1) v0 H → rg G b1 357 (shX0 G.2.1) V1 H → va_S (FA (iv b0 10) s.heap.size) s.heap H locs → GO G H → lv_has ls 1 [(0, .ref b0)] → W p l e (rmT 6 (bif rok then 0 else 1) (bif rok then 0 else 7) 126) s m args below meth c H locs 0 0 (vx_MQ below (QcX rok (FA (iv b0 10) s.heap.size) (fun ov H => ov = none ∧ rg G b0 10 (shX11 b1 G.2.1) rw0 H)) (XcX rok (FA (iv b0 10) s.heap.size) (fun q E H => E = "WholePacks$Fault" ∧ s.heap.size ≤ q ∧ (∃ wx, rg G q 1 (shX12 G.2.1) wx H ∧ gI wx 0 6 = re) ∧ rg G b0 10 (shX11 b1 G.2.1) rw0 H)) args s (bif rok then 0 else 1) (bif rok then 0 else 7) (FA (iv b0 10) s.heap.size)) (F0 m 4 ls []) := by
  intro n
  induction n with
  | zero => intro v0 hm; exact (lq1_0 hm).elim
  | succ n ih => intro v0 hm; exact w_fX11_reads_4 C hd01 he0 he1 hZ hgb0 hgb1 ht ih v0 (lq1_s hm)
set_option maxHeartbeats 4000000 in
theorem w_fX11_reads (C : Cx G p s m args meth c RX11 cX11_reads 1 none) {b0 : Nat} {b1 : Nat} {V1 : Mem} {rok : Bool} {re : Int32} {rw0 : Mem} (hd01 : b0 + 10 ≤ b1 ∨ b1 + 357 ≤ b0) (he0 : b0 + 10 ≤ s.heap.size) (he1 : b1 + 357 ≤ s.heap.size) (hZ : ZQ G) (hgb0 : gB G ≤ b0) (hgb1 : gB G ≤ b1) (ht : ∀ x ∈ c.exceptionTable.toList, False) : ∀ (v0 : Mem), fX11_reads V1 v0 = some (rok, re, rw0) → ∀ (H : Heap) (locs : List Loc) (ls : Array Slot), rg G b0 10 (shX11 b1 G.2.1) v0 H → rg G b1 357 (shX0 G.2.1) V1 H → va_S (FA (iv b0 10) s.heap.size) s.heap H locs → GO G H → lv_has ls 1 [(0, .ref b0)] → W p l e (rmT 6 (bif rok then 0 else 1) (bif rok then 0 else 7) 126) s m args below meth c H locs 0 0 (vx_MQ below (QcX rok (FA (iv b0 10) s.heap.size) (fun ov H => ov = none ∧ rg G b0 10 (shX11 b1 G.2.1) rw0 H)) (XcX rok (FA (iv b0 10) s.heap.size) (fun q E H => E = "WholePacks$Fault" ∧ s.heap.size ≤ q ∧ (∃ wx, rg G q 1 (shX12 G.2.1) wx H ∧ gI wx 0 6 = re) ∧ rg G b0 10 (shX11 b1 G.2.1) rw0 H)) args s (bif rok then 0 else 1) (bif rok then 0 else 7) (FA (iv b0 10) s.heap.size)) (F0 m 0 ls []) := by
  intro v0 hm H locs ls hW0 hW1 hS hG hl
  obtain ⟨hx, hb, hr, hlk, hml, hown, hts, hK⟩ := id C
  unfold fX11_reads at hm
  refine lv_aload_n (pc := 0) hx hb dX11_reads_0 rfl (lv_at hl 0 rfl) ?_
  obtain ⟨ok2, re3, w1, hq4, hm⟩ := ob3_some hm
  by_cases hok : ok2 = true
  · subst hok
    have hm := ite_t rfl hm
    refine rk_TV (pc := 1) (As := []) (rest := []) (mc := 0) (ms := 0) hx hb hml hown hts hK hS (fun q hq => FA_sz rfl q hq) lkX11_91 rfl yn_X11_clause (CX.ret (ct_X11_clause (G := G) (l := l) (rok := true) (b0 := b0) (b1 := b1) (sz := H.size) hq4 (by omega) hZ (by omega) (by omega))) ⟨Nat.le_of_ble_eq_true rfl, Nat.le_of_ble_eq_true rfl⟩ (fun z h => Or.inl (show iv _ _ _ from ⟨by have h8 := h.1; have h9 := h.2; omega, by have h8 := h.1; have h9 := h.2; omega⟩)) (rk_recv hK hW0 0 (by decide) rfl rfl rfl) ⟨hW0, hW1, hG⟩ rfl rfl hl.1 (Nat.le_of_ble_eq_true rfl) dX11_reads_1 ⟨Nat.zero_le _, Nat.zero_le _⟩ (fun ov9 H5 locs6 hP7 hkp8 hS9 => ?_)
    obtain ⟨rfl, hW10⟩ := hP7
    have hW11 := rg_keepA hW1 hkp8 (by intro z h1 h2 h3; have h8 := h3.1; have h9 := h3.2; omega)
    have hG12 := GO_keepA hG hkp8 (Nat.le_trans (show gB G ≤ s.heap.size by omega) hS.1) (by intro z h3; have h8 := h3.1; have h9 := h3.2; omega)
    refine W.eq (g2 := F0 m 4 ls []) rfl ?_
    exact (w_fX11_reads_4_l C hd01 he0 he1 hZ hgb0 hgb1 ht FU) w1 hm H5 locs6 ls hW10 hW11 hS9 hG12 (lv_sub hl [0] rfl)
  · have hok := eq_false_of_ne_true hok
    subst hok
    have hm := ite_f Bool.false_ne_true hm
    have hok9 : false = rok := (by exact (rs3 hm).1)
    subst hok9
    refine rk_XV (pc := 1) (As := []) (rest := []) (mc := 1) (ms := 7) hx hb hml hown hts hK hS (fun q hq => FA_sz rfl q hq) lkX11_91 rfl yn_X11_clause (ct_X11_clause (G := G) (l := l) (rok := false) (b0 := b0) (b1 := b1) (sz := H.size) hq4 (by omega) hZ (by omega) (by omega)) ⟨Nat.le_of_ble_eq_true rfl, Nat.le_of_ble_eq_true rfl⟩ (fun z h => Or.inl (show iv _ _ _ from ⟨by have h8 := h.1; have h9 := h.2; omega, by have h8 := h.1; have h9 := h.2; omega⟩)) (rk_recv hK hW0 0 (by decide) rfl rfl rfl) ⟨hW0, hW1, hG⟩ rfl rfl hl.1 (Nat.le_of_ble_eq_true rfl) dX11_reads_1 ⟨Nat.le_of_ble_eq_true rfl, Nat.le_of_ble_eq_true rfl⟩ (fun q18 E9 ce9 H13 locs14 hP15 hkp16 hS17 hce9 hcv9 hcl9 => ?_)
    obtain ⟨rfl, hqq18, ⟨wx20, hW21, hre22⟩, hW19⟩ := hP15
    have hqq18 : s.heap.size ≤ q18 := Nat.le_trans hS.1 hqq18
    have hW23 := rg_keepA hW1 hkp16 (by intro z h1 h2 h3; have h8 := h3.1; have h9 := h3.2; omega)
    have hG24 := GO_keepA hG hkp16 (Nat.le_trans (show gB G ≤ s.heap.size by omega) hS.1) (by intro z h3; have h8 := h3.1; have h9 := h3.2; omega)
    obtain ⟨ce8, hce8, hcv8, hcl8⟩ := rk_exc hK hW21 rfl rfl
    obtain ⟨e7, e8, e9⟩ := rs3 hm
    cases e7
    subst e8
    subst e9
    exact rk_xout (fun x h => (ht x h).elim) hlk hS17 hce8 hcv8 hcl8 ⟨rfl, hqq18, ⟨_, hW21, hre22⟩, hW19⟩ (by exact Nat.le_of_ble_eq_true rfl) (by exact Nat.le_of_ble_eq_true rfl)
set_option maxHeartbeats 4000000 in
theorem ct_X11_reads {G : Gv} {l : Launch} {b0 : Nat} {b1 : Nat} {V1 : Mem} {v0 : Mem} {rok : Bool} {re : Int32} {rw0 : Mem} {sz : Nat} (hm : fX11_reads V1 v0 = some (rok, re, rw0)) (hd01 : b0 + 10 ≤ b1 ∨ b1 + 357 ≤ b0) (hZ : ZQ G) (hgb0 : gB G ≤ b0) (hgb1 : gB G ≤ b1) : CX G l yX11_reads (ws_ yX11_reads cX11_reads 1 none) 6 (bif rok then 0 else 1) (bif rok then 0 else 7) 126 [.ref b0] (iv b0 10) sz (fun H => rg G b0 10 (shX11 b1 G.2.1) v0 H ∧ rg G b1 357 (shX0 G.2.1) V1 H ∧ GO G H) rok (fun ov H => ov = none ∧ rg G b0 10 (shX11 b1 G.2.1) rw0 H) (fun q E H => E = "WholePacks$Fault" ∧ sz ≤ q ∧ (∃ wx, rg G q 1 (shX12 G.2.1) wx H ∧ gI wx 0 6 = re) ∧ rg G b0 10 (shX11 b1 G.2.1) rw0 H) := by
  refine vx_ofW (cc := cX11_reads) (maxL := 1) (ret := none) (by decide +kernel) rfl ?_
  intro p e s m args below meth c s₁ B hml ht hv
  obtain ⟨rfl, ⟨hz, hW0, hW1, hG⟩, hK⟩ := hv
  subst hz
  have he0 := rg_end hW0 9 (by decide) rfl (fun _ _ _ => rfl)
  have he1 := rg_end hW1 356 (by decide) rfl (fun _ _ _ => rfl)
  have hts := atoms_spec (ws := ws_ yX11_reads cX11_reads 1 none) B.pre
  have hts : ∀ w ∈ lw_all, w.before _ s = true := fun w h => hts w (List.mem_cons_of_mem _ h)
  have C : Cx G p s m _ meth c RX11 cX11_reads 1 none := ⟨B.exec, B.bytes, B.returns, B.notSynchronized, hml, findClass_of_methodNamed B.named, hts, hK⟩
  have hl := lv_entry ([.ref b0]) (n := 1) (Nat.le_of_ble_eq_true rfl)
  rw [lg_entry_eq]
  generalize (lg_sl ([.ref b0]) ++ List.replicate (1 - (lg_sl ([.ref b0])).length) Slot.unset).toArray = ls at hl ⊢
  have hl : lv_has ls 1 [(0, .ref b0)] := hl
  exact w_fX11_reads C hd01 he0 he1 hZ hgb0 hgb1 ht _ hm s.heap [] ls hW0 hW1 va_S.rf hG hl
end
