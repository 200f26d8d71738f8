set_option maxRecDepth 100000
section
variable {p : Program} {l : Launch} {e : Env} {s : State} {m : MethodId} {args : Array Value} {below : List Frame} {meth : Method} {c : Code} {G : Gv}
theorem yn_X0_costOf : YN yX0_costOf 1 := by
  unfold YN
  decide +kernel
theorem lkX0_350 : LV RX0 350 RX0 yX0_costOf cX0_costOf 4 (some .int) := ⟨q1169, q1171, qs34, q114, q1172⟩
noncomputable def fX0_goesThrough_many_37 (z1 : Int32) (k37 : Mem → Int32 → Option (Mem)) (v0 : Mem) (i2 : Int32) : Option (Mem) :=
  if i2 = 0 then (
  some v0)
  else (
  ob2 (fX0_nextMix v0) fun r30 w31 =>
  if r30 = 0 then (
  some w31)
  else (
  ob (fX0_codeOf_mix w31) fun r44 =>
  ob (fX0_costOf_mix w31) fun r46 =>
  ob (fX0_brokenBy_mix w31) fun r48 =>
  ob2 (fX0_lambda_many_4 w31 z1 r44 r46 r48) fun r59 w50 =>
  gb (z01 r59) (
  k37 w50 r59)))
noncomputable def fX0_goesThrough_many_2 (z1 : Int32) (k2 : Mem → Int32 → Option (Mem)) (v0 : Mem) (i2 : Int32) : Option (Mem) :=
  if (5 : Int32) ≤ i2 then (
  ob (fX0_brokenBy_mix v0) fun r2 =>
  ob2 (fX0_lambda_many_4 v0 z1 (0 : Int32) (0 : Int32) r2) fun r13 w4 =>
  gb (z01 r13) (
  lq2 (fX0_goesThrough_many_37 z1) FU w4 r13))
  else (
  gb (inR i2 5) (
  lm (sI v0 158 i2.toNatClampNeg (0 : Int32)) fun v0_19 =>
  k2 v0_19 (i2 + (1 : Int32))))
noncomputable def fX0_goesThrough_many (z1 : Int32) (v0 : Mem) : Option (Mem) :=
  lq2 (fX0_goesThrough_many_2 z1) FU v0 (0 : Int32)
set_option maxHeartbeats 4000000 in
theorem w_fX0_goesThrough_many_37 (C : Cx G p s m args meth c RX0 cX0_goesThrough 3 none) {b0 : Nat} {p1 : Nat} {z1 : Int32} {rw0 : Mem} (hap1 : b0 + 357 ≤ p1) (he0 : b0 + 357 ≤ s.heap.size) (hZ : ZQ G) (hgb0 : gB G ≤ b0) (hZL : ZL G) {k37 : Mem → Int32 → Option (Mem)} (hk37 : ∀ (v0 : Mem) (i2 : Int32), k37 v0 i2 = some rw0 → ∀ (H : Heap) (locs : List Loc) (ls : Array Slot), rg G b0 357 (shX0 G.2.1) v0 H → va_S (FA (fX b0) s.heap.size) s.heap H locs → H.size = s.heap.size → GO G H → LC H p1 (G.2.1 26) [.ref b0, .int z1] → lv_has ls 3 [(0, .ref b0), (1, .ref p1), (2, .int i2)] → W p l e (rmT 4 0 0 95) s m args below meth c H locs 0 0 (MQ below (QcT (FA (fX b0) s.heap.size) (fun ov H => ov = none ∧ rg G b0 357 (shX0 G.2.1) rw0 H ∧ H.size = s.heap.size)) args s 0 0 (FA (fX b0) s.heap.size)) (F0 m 37 ls [])) : ∀ (v0 : Mem) (i2 : Int32), fX0_goesThrough_many_37 z1 k37 v0 i2 = some rw0 → ∀ (H : Heap) (locs : List Loc) (ls : Array Slot), rg G b0 357 (shX0 G.2.1) v0 H → va_S (FA (fX b0) s.heap.size) s.heap H locs → H.size = s.heap.size → GO G H → LC H p1 (G.2.1 26) [.ref b0, .int z1] → lv_has ls 3 [(0, .ref b0), (1, .ref p1), (2, .int i2)] → W p l e (rmT 4 0 0 95) s m args below meth c H locs 0 0 (MQ below (QcT (FA (fX b0) s.heap.size) (fun ov H => ov = none ∧ rg G b0 357 (shX0 G.2.1) rw0 H ∧ H.size = s.heap.size)) args s 0 0 (FA (fX b0) s.heap.size)) (F0 m 37 ls []) := by
  intro v0 i2 hm H locs ls hW0 hS hz hG hL1 hl
  obtain ⟨hx, hb, hr, hlk, hml, hown, hts, hK⟩ := id C
  unfold fX0_goesThrough_many_37 at hm
  refine lv_iload_n (pc := 37) hx hb dX0_goesThrough_37 rfl (lv_at hl 2 rfl) ?_
  refine lv_if_eq (pc := 38) (tgt := 82) hx hb dX0_goesThrough_38 (by decide) (fun c29 => ?_) (fun c29 => ?_)
  · have hm := ite_t c29 hm
    have e9 := rs1 hm
    subst e9
    exact rk_vret (pc := 82) hx hb hr hlk hS ⟨rfl, hW0, hz⟩ dX0_goesThrough_82
  · have hm := ite_f c29 hm
    refine lv_aload_n (pc := 41) hx hb dX0_goesThrough_41 rfl (lv_at hl 0 rfl) ?_
    obtain ⟨r30, w31, hq32, hm⟩ := ob2_some hm
    refine rk_TV (pc := 42) (As := []) (rest := []) (mc := 0) (ms := 0) hx hb hml hown hts hK hS (fun q hq => FA_sz rfl q hq) lkX0_343 rfl yn_X0_nextMix (ct_X0_nextMix (G := G) (l := l) (b0 := b0) (sz := H.size) hq32) ⟨Nat.le_of_ble_eq_true rfl, Nat.le_of_ble_eq_true rfl⟩ (fun z h => Or.inl h) (rk_recv hK hW0 0 (by decide) rfl rfl rfl) hW0 rfl rfl hl.1 (Nat.le_of_ble_eq_true rfl) dX0_goesThrough_42 ⟨Nat.zero_le _, Nat.zero_le _⟩ (fun ov9 H33 locs34 hP35 hkp36 hS37 => ?_)
    obtain ⟨rfl, hW38, hz39⟩ := hP35
    have hG40 := GO_keepA hG hkp36 (Nat.le_trans (show gB G ≤ s.heap.size by omega) hS.1) (by intro z h3; have h8 := h3.1.1; have h9 := h3.1.2; omega)
    have hL41 := LC.keepA hL1 hkp36 (by intro h3; have h8 := h3.1.1; have h9 := h3.1.2; omega)
    have hz42 := hz39.trans hz
    refine W.eq (g2 := F0 m 45 ls [.int r30]) rfl ?_
    refine lv_if_eq (pc := 45) (tgt := 82) hx hb dX0_goesThrough_45 (by decide) (fun c43 => ?_) (fun c43 => ?_)
    · have hm := ite_t c43 hm
      have e9 := rs1 hm
      subst e9
      exact rk_vret (pc := 82) hx hb hr hlk hS37 ⟨rfl, hW38, hz42⟩ dX0_goesThrough_82
    · have hm := ite_f c43 hm
      refine lv_aload_n (pc := 48) hx hb dX0_goesThrough_48 rfl (lv_at hl 1 rfl) ?_
      refine lv_aload_n (pc := 49) hx hb dX0_goesThrough_49 rfl (lv_at hl 0 rfl) ?_
      refine lv_aload_n (pc := 50) hx hb dX0_goesThrough_50 rfl (lv_at hl 0 rfl) ?_
      refine rk_get (pc := 51) hx hb hts hown hK hW38 flX0_60 0 (by decide) rfl rfl (x := .ref (b0 + 158)) (by first | rfl | exact congrArg (fun z => some (Value.ref z)) (by omega)) dX0_goesThrough_51 ?_
      obtain ⟨r44, hq45, hm⟩ := ob_some hm
      refine rk_PV (pc := 54) (As := [.ref (b0 + 158)]) (rest := [.ref p1]) hx hb hml hown hts hK lkX0_347 rfl yn_X0_codeOf (ct_X0_codeOf_mix (G := G) (l := l) (b0 := b0) hq45) ⟨Nat.le_of_ble_eq_true rfl, Nat.le_of_ble_eq_true rfl⟩ (rk_recv hK hW38 0 (by decide) rfl rfl rfl) hW38 rfl rfl hl.1 (Nat.le_of_ble_eq_true rfl) dX0_goesThrough_54 ⟨Nat.zero_le _, Nat.zero_le _⟩ ?_
      refine W.eq (g2 := F0 m 57 ls [.int r44, .ref p1]) rfl ?_
      refine lv_aload_n (pc := 57) hx hb dX0_goesThrough_57 rfl (lv_at hl 0 rfl) ?_
      refine lv_aload_n (pc := 58) hx hb dX0_goesThrough_58 rfl (lv_at hl 0 rfl) ?_
      refine rk_get (pc := 59) hx hb hts hown hK hW38 flX0_60 0 (by decide) rfl rfl (x := .ref (b0 + 158)) (by first | rfl | exact congrArg (fun z => some (Value.ref z)) (by omega)) dX0_goesThrough_59 ?_
      obtain ⟨r46, hq47, hm⟩ := ob_some hm
      refine rk_PV (pc := 62) (As := [.ref (b0 + 158)]) (rest := [.int r44, .ref p1]) hx hb hml hown hts hK lkX0_350 rfl yn_X0_costOf (ct_X0_costOf_mix (G := G) (l := l) (b0 := b0) hq47) ⟨Nat.le_of_ble_eq_true rfl, Nat.le_of_ble_eq_true rfl⟩ (rk_recv hK hW38 0 (by decide) rfl rfl rfl) hW38 rfl rfl hl.1 (Nat.le_of_ble_eq_true rfl) dX0_goesThrough_62 ⟨Nat.zero_le _, Nat.zero_le _⟩ ?_
      refine W.eq (g2 := F0 m 65 ls [.int r46, .int r44, .ref p1]) rfl ?_
      refine lv_aload_n (pc := 65) hx hb dX0_goesThrough_65 rfl (lv_at hl 0 rfl) ?_
      refine lv_aload_n (pc := 66) hx hb dX0_goesThrough_66 rfl (lv_at hl 0 rfl) ?_
      refine rk_get (pc := 67) hx hb hts hown hK hW38 flX0_60 0 (by decide) rfl rfl (x := .ref (b0 + 158)) (by first | rfl | exact congrArg (fun z => some (Value.ref z)) (by omega)) dX0_goesThrough_67 ?_
      obtain ⟨r48, hq49, hm⟩ := ob_some hm
      refine rk_PV (pc := 70) (As := [.ref (b0 + 158)]) (rest := [.int r46, .int r44, .ref p1]) hx hb hml hown hts hK lkX0_333 rfl yn_X0_brokenBy (ct_X0_brokenBy_mix (G := G) (l := l) (b0 := b0) hq49 hZ (by omega) hZL) ⟨Nat.le_of_ble_eq_true rfl, Nat.le_of_ble_eq_true rfl⟩ (rk_recv hK hW38 0 (by decide) rfl rfl rfl) ⟨hW38, hG40⟩ rfl rfl hl.1 (Nat.le_of_ble_eq_true rfl) dX0_goesThrough_70 ⟨Nat.zero_le _, Nat.zero_le _⟩ ?_
      refine W.eq (g2 := F0 m 73 ls [.int r48, .int r46, .int r44, .ref p1]) rfl ?_
      obtain ⟨r59, w50, hq51, hm⟩ := ob2_some hm
      obtain ⟨hg60, hm⟩ := gb_some hm
      refine rk_lamK (pc := 73) (y := yX0_lambda_many_4) (z0 := z1) (z1 := r44) (z2 := r46) (z3 := r48) (b := b0) (rest := []) (mc := 0) (ms := 0) hx hb hml hown hts hK hS37 (fun q hq => FA_sz rfl q hq) lfK1 (hZL.1 s hK).1.2.2.2.2.2.2.1 (hZL.1 s hK).2.1.2.2 q1158 q1160 hL41 rfl rfl rfl yn_X0_lambda_many_4 ⟨q1178, qs35, q114, q1179⟩ (ct_X0_lambda_many_4 (G := G) (l := l) (b0 := b0) (sz := H33.size) hq51) (fun ov H h => ⟨_, h.1, hg60⟩) ⟨Nat.le_of_ble_eq_true rfl, Nat.le_of_ble_eq_true rfl⟩ (fun z h => Or.inl h) (rk_recv hK hW38 0 (by decide) rfl rfl rfl) hW38 hl.1 (Nat.le_of_ble_eq_true rfl) dX0_goesThrough_73 ⟨Nat.zero_le _, Nat.zero_le _⟩ (fun r9 H52 locs53 hP54 hkp55 hS56 => ?_)
      obtain ⟨h19, hW57, hz58⟩ := hP54
      cases h19
      have hL61 := LC.keepA hL41 hkp55 (by intro h3; have h8 := h3.1.1; have h9 := h3.1.2; omega)
      have hG62 := GO_keepA hG40 hkp55 (Nat.le_trans (show gB G ≤ s.heap.size by omega) hS37.1) (by intro z h3; have h8 := h3.1.1; have h9 := h3.1.2; omega)
      have hz63 := hz58.trans hz42
      refine lv_istore_n (pc := 78) (lv' := [(2, .int r59), (0, .ref b0), (1, .ref p1)]) hx hb dX0_goesThrough_78 rfl hl (by decide) rfl (fun ls hl => ?_)
      refine lv_goto (pc := 79) (tgt := 37) hx hb dX0_goesThrough_79 (by decide) ?_
      exact hk37 w50 r59 hm H52 locs53 ls hW57 hS56 hz63 hG62 hL61 (lv_sub hl [1, 2, 0] rfl)
theorem w_fX0_goesThrough_many_37_l (C : Cx G p s m args meth c RX0 cX0_goesThrough 3 none) {b0 : Nat} {p1 : Nat} {z1 : Int32} {rw0 : Mem} (hap1 : b0 + 357 ≤ p1) (he0 : b0 + 357 ≤ s.heap.size) (hZ : ZQ G) (hgb0 : gB G ≤ b0) (hZL : ZL G) : ∀ (n : Nat) (v0 : Mem) (i2 : Int32), lq2 (fX0_goesThrough_many_37 z1) n v0 i2 = some rw0 → ∀ (H : Heap) (locs : List Loc) (ls : Array Slot), rg G b0 357 (shX0 G.2.1) v0 H → va_S (FA (fX b0) s.heap.size) s.heap H locs → H.size = s.heap.size → GO G H → LC H p1 (G.2.1 26) [.ref b0, .int z1] → lv_has ls 3 [(0, .ref b0), (1, .ref p1), (2, .int i2)] → W p l e (rmT 4 0 0 95) s m args below meth c H locs 0 0 (MQ below (QcT (FA (fX b0) s.heap.size) (fun ov H => ov = none ∧ rg G b0 357 (shX0 G.2.1) rw0 H ∧ H.size = s.heap.size)) args s 0 0 (FA (fX b0) s.heap.size)) (F0 m 37 ls []) := by
  intro n
  induction n with
  | zero => intro v0 i2 hm; exact (lq2_0 hm).elim
  | succ n ih => intro v0 i2 hm; exact w_fX0_goesThrough_many_37 C hap1 he0 hZ hgb0 hZL ih v0 i2 (lq2_s hm)
set_option maxHeartbeats 4000000 in
theorem w_fX0_goesThrough_many_2 (C : Cx G p s m args meth c RX0 cX0_goesThrough 3 none) {b0 : Nat} {p1 : Nat} {z1 : Int32} {rw0 : Mem} (hap1 : b0 + 357 ≤ p1) (he0 : b0 + 357 ≤ s.heap.size) (hZ : ZQ G) (hgb0 : gB G ≤ b0) (hZL : ZL G) {k2 : Mem → Int32 → Option (Mem)} (hk2 : ∀ (v0 : Mem) (i2 : Int32), k2 v0 i2 = some rw0 → ∀ (H : Heap) (locs : List Loc) (ls : Array Slot), rg G b0 357 (shX0 G.2.1) v0 H → va_S (FA (fX b0) s.heap.size) s.heap H locs → H.size = s.heap.size → GO G H → LC H p1 (G.2.1 26) [.ref b0, .int z1] → lv_has ls 3 [(0, .ref b0), (1, .ref p1), (2, .int i2)] → W p l e (rmT 4 0 0 95) s m args below meth c H locs 0 0 (MQ below (QcT (FA (fX b0) s.heap.size) (fun ov H => ov = none ∧ rg G b0 357 (shX0 G.2.1) rw0 H ∧ H.size = s.heap.size)) args s 0 0 (FA (fX b0) s.heap.size)) (F0 m 2 ls [])) : ∀ (v0 : Mem) (i2 : Int32), fX0_goesThrough_many_2 z1 k2 v0 i2 = some rw0 → ∀ (H : Heap) (locs : List Loc) (ls : Array Slot), rg G b0 357 (shX0 G.2.1) v0 H → va_S (FA (fX b0) s.heap.size) s.heap H locs → H.size = s.heap.size → GO G H → LC H p1 (G.2.1 26) [.ref b0, .int z1] → lv_has ls 3 [(0, .ref b0), (1, .ref p1), (2, .int i2)] → W p l e (rmT 4 0 0 95) s m args below meth c H locs 0 0 (MQ below (QcT (FA (fX b0) s.heap.size) (fun ov H => ov = none ∧ rg G b0 357 (shX0 G.2.1) rw0 H ∧ H.size = s.heap.size)) args s 0 0 (FA (fX b0) s.heap.size)) (F0 m 2 ls []) := by
  intro v0 i2 hm H locs ls hW0 hS hz hG hL1 hl
  obtain ⟨hx, hb, hr, hlk, hml, hown, hts, hK⟩ := id C
  unfold fX0_goesThrough_many_2 at hm
  refine lv_iload_n (pc := 2) hx hb dX0_goesThrough_2 rfl (lv_at hl 2 rfl) ?_
  refine lv_iconst (pc := 3) (v := (5 : Int32)) hx hb dX0_goesThrough_3 (by decide) ?_
  refine lv_icmp_ge (pc := 4) (tgt := 20) hx hb dX0_goesThrough_4 (by decide) (fun c1 => ?_) (fun c1 => ?_)
  · have hm := ite_t c1 hm
    refine lv_aload_n (pc := 20) hx hb dX0_goesThrough_20 rfl (lv_at hl 1 rfl) ?_
    refine lv_iconst (pc := 21) (v := (0 : Int32)) hx hb dX0_goesThrough_21 (by decide) ?_
    refine lv_iconst (pc := 22) (v := (0 : Int32)) hx hb dX0_goesThrough_22 (by decide) ?_
    refine lv_aload_n (pc := 23) hx hb dX0_goesThrough_23 rfl (lv_at hl 0 rfl) ?_
    refine lv_aload_n (pc := 24) hx hb dX0_goesThrough_24 rfl (lv_at hl 0 rfl) ?_
    refine rk_get (pc := 25) hx hb hts hown hK hW0 flX0_60 0 (by decide) rfl rfl (x := .ref (b0 + 158)) (by first | rfl | exact congrArg (fun z => some (Value.ref z)) (by omega)) dX0_goesThrough_25 ?_
    obtain ⟨r2, hq3, hm⟩ := ob_some hm
    refine rk_PV (pc := 28) (As := [.ref (b0 + 158)]) (rest := [.int (0 : Int32), .int (0 : Int32), .ref p1]) hx hb hml hown hts hK lkX0_333 rfl yn_X0_brokenBy (ct_X0_brokenBy_mix (G := G) (l := l) (b0 := b0) hq3 hZ (by omega) hZL) ⟨Nat.le_of_ble_eq_true rfl, Nat.le_of_ble_eq_true rfl⟩ (rk_recv hK hW0 0 (by decide) rfl rfl rfl) ⟨hW0, hG⟩ rfl rfl hl.1 (Nat.le_of_ble_eq_true rfl) dX0_goesThrough_28 ⟨Nat.zero_le _, Nat.zero_le _⟩ ?_
    refine W.eq (g2 := F0 m 31 ls [.int r2, .int (0 : Int32), .int (0 : Int32), .ref p1]) rfl ?_
    obtain ⟨r13, w4, hq5, hm⟩ := ob2_some hm
    obtain ⟨hg14, hm⟩ := gb_some hm
    refine rk_lamK (pc := 31) (y := yX0_lambda_many_4) (z0 := z1) (z1 := (0 : Int32)) (z2 := (0 : Int32)) (z3 := r2) (b := b0) (rest := []) (mc := 0) (ms := 0) hx hb hml hown hts hK hS (fun q hq => FA_sz rfl q hq) lfK1 (hZL.1 s hK).1.2.2.2.2.2.2.1 (hZL.1 s hK).2.1.2.2 q1158 q1160 hL1 rfl rfl rfl yn_X0_lambda_many_4 ⟨q1178, qs35, q114, q1179⟩ (ct_X0_lambda_many_4 (G := G) (l := l) (b0 := b0) (sz := H.size) hq5) (fun ov H h => ⟨_, h.1, hg14⟩) ⟨Nat.le_of_ble_eq_true rfl, Nat.le_of_ble_eq_true rfl⟩ (fun z h => Or.inl h) (rk_recv hK hW0 0 (by decide) rfl rfl rfl) hW0 hl.1 (Nat.le_of_ble_eq_true rfl) dX0_goesThrough_31 ⟨Nat.zero_le _, Nat.zero_le _⟩ (fun r9 H6 locs7 hP8 hkp9 hS10 => ?_)
    obtain ⟨h19, hW11, hz12⟩ := hP8
    cases h19
    have hL15 := LC.keepA hL1 hkp9 (by intro h3; have h8 := h3.1.1; have h9 := h3.1.2; omega)
    have hG16 := GO_keepA hG hkp9 (Nat.le_trans (show gB G ≤ s.heap.size by omega) hS.1) (by intro z h3; have h8 := h3.1.1; have h9 := h3.1.2; omega)
    have hz17 := hz12.trans hz
    refine lv_istore_n (pc := 36) (lv' := [(2, .int r13), (0, .ref b0), (1, .ref p1)]) hx hb dX0_goesThrough_36 rfl hl (by decide) rfl (fun ls hl => ?_)
    exact (w_fX0_goesThrough_many_37_l C hap1 he0 hZ hgb0 hZL FU) w4 r13 hm H6 locs7 ls hW11 hS10 hz17 hG16 hL15 (lv_sub hl [1, 2, 0] rfl)
  · have hm := ite_f c1 hm
    refine lv_aload_n (pc := 7) hx hb dX0_goesThrough_7 rfl (lv_at hl 0 rfl) ?_
    refine rk_get (pc := 8) hx hb hts hown hK hW0 flX0_60 0 (by decide) rfl rfl (x := .ref (b0 + 158)) (by first | rfl | exact congrArg (fun z => some (Value.ref z)) (by omega)) dX0_goesThrough_8 ?_
    refine lv_iload_n (pc := 11) hx hb dX0_goesThrough_11 rfl (lv_at hl 2 rfl) ?_
    refine lv_iconst (pc := 12) (v := (0 : Int32)) hx hb dX0_goesThrough_12 (by decide) ?_
    obtain ⟨hg18, hm⟩ := gb_some hm
    refine rk_iast (pc := 13) hx hb hK hW0 hS 158 (by decide) rfl (Or.inl (show fX _ _ from ⟨⟨by omega, by omega⟩, by omega⟩)) (fun _ _ _ => rfl) hg18 dX0_goesThrough_13 (fun H20 locs21 hW22 hS23 hz24 hkp25 => ?_)
    obtain ⟨v0_19, he9, hm⟩ := lm_some hm
    rw [he9] at hW22
    have hz26 := hz24.trans hz
    have hG27 := GO_keepq hG hkp25 (by omega)
    have hL28 := LC.keepq hL1 hkp25 (by omega)
    refine lv_iinc (pc := 14) (v := (i2 + (1 : Int32))) (lv' := [(2, .int (i2 + (1 : Int32))), (0, .ref b0), (1, .ref p1)]) hx hb dX0_goesThrough_14 hl (k := 2) rfl rfl (by decide) rfl (fun ls hl => ?_)
    refine lv_goto (pc := 17) (tgt := 2) hx hb dX0_goesThrough_17 (by decide) ?_
    exact hk2 v0_19 (i2 + (1 : Int32)) hm H20 locs21 ls hW22 hS23 hz26 hG27 hL28 (lv_sub hl [1, 2, 0] rfl)
theorem w_fX0_goesThrough_many_2_l (C : Cx G p s m args meth c RX0 cX0_goesThrough 3 none) {b0 : Nat} {p1 : Nat} {z1 : Int32} {rw0 : Mem} (hap1 : b0 + 357 ≤ p1) (he0 : b0 + 357 ≤ s.heap.size) (hZ : ZQ G) (hgb0 : gB G ≤ b0) (hZL : ZL G) : ∀ (n : Nat) (v0 : Mem) (i2 : Int32), lq2 (fX0_goesThrough_many_2 z1) n v0 i2 = some rw0 → ∀ (H : Heap) (locs : List Loc) (ls : Array Slot), rg G b0 357 (shX0 G.2.1) v0 H → va_S (FA (fX b0) s.heap.size) s.heap H locs → H.size = s.heap.size → GO G H → LC H p1 (G.2.1 26) [.ref b0, .int z1] → lv_has ls 3 [(0, .ref b0), (1, .ref p1), (2, .int i2)] → W p l e (rmT 4 0 0 95) s m args below meth c H locs 0 0 (MQ below (QcT (FA (fX b0) s.heap.size) (fun ov H => ov = none ∧ rg G b0 357 (shX0 G.2.1) rw0 H ∧ H.size = s.heap.size)) args s 0 0 (FA (fX b0) s.heap.size)) (F0 m 2 ls []) := by
  intro n
  induction n with
  | zero => intro v0 i2 hm; exact (lq2_0 hm).elim
  | succ n ih => intro v0 i2 hm; exact w_fX0_goesThrough_many_2 C hap1 he0 hZ hgb0 hZL ih v0 i2 (lq2_s hm)
set_option maxHeartbeats 4000000 in
theorem w_fX0_goesThrough_many (C : Cx G p s m args meth c RX0 cX0_goesThrough 3 none) {b0 : Nat} {p1 : Nat} {z1 : Int32} {rw0 : Mem} (hap1 : b0 + 357 ≤ p1) (he0 : b0 + 357 ≤ s.heap.size) (hZ : ZQ G) (hgb0 : gB G ≤ b0) (hZL : ZL G) : ∀ (v0 : Mem), fX0_goesThrough_many z1 v0 = some rw0 → ∀ (H : Heap) (locs : List Loc) (ls : Array Slot), rg G b0 357 (shX0 G.2.1) v0 H → va_S (FA (fX b0) s.heap.size) s.heap H locs → H.size = s.heap.size → GO G H → LC H p1 (G.2.1 26) [.ref b0, .int z1] → lv_has ls 3 [(0, .ref b0), (1, .ref p1)] → W p l e (rmT 4 0 0 95) s m args below meth c H locs 0 0 (MQ below (QcT (FA (fX b0) s.heap.size) (fun ov H => ov = none ∧ rg G b0 357 (shX0 G.2.1) rw0 H ∧ H.size = s.heap.size)) args s 0 0 (FA (fX b0) s.heap.size)) (F0 m 0 ls []) := by
  intro v0 hm H locs ls hW0 hS hz hG hL1 hl
  obtain ⟨hx, hb, hr, hlk, hml, hown, hts, hK⟩ := id C
  unfold fX0_goesThrough_many at hm
  refine lv_iconst (pc := 0) (v := (0 : Int32)) hx hb dX0_goesThrough_0 (by decide) ?_
  refine lv_istore_n (pc := 1) (lv' := [(2, .int (0 : Int32)), (0, .ref b0), (1, .ref p1)]) hx hb dX0_goesThrough_1 rfl hl (by decide) rfl (fun ls hl => ?_)
  exact (w_fX0_goesThrough_many_2_l C hap1 he0 hZ hgb0 hZL FU) v0 (0 : Int32) hm H locs ls hW0 hS hz hG hL1 (lv_sub hl [1, 2, 0] rfl)
set_option maxHeartbeats 4000000 in
theorem ct_X0_goesThrough_many {G : Gv} {l : Launch} {b0 : Nat} {p1 : Nat} {z1 : Int32} {v0 : Mem} {rw0 : Mem} {sz : Nat} (hm : fX0_goesThrough_many z1 v0 = some rw0) (hap1 : b0 + 357 ≤ p1) (hZ : ZQ G) (hgb0 : gB G ≤ b0) (hZL : ZL G) : CT G l yX0_goesThrough (ws_ yX0_goesThrough cX0_goesThrough 3 none) 4 0 0 95 [.ref b0, .ref p1] (fX b0) sz (fun H => rg G b0 357 (shX0 G.2.1) v0 H ∧ GO G H ∧ LC H p1 (G.2.1 26) [.ref b0, .int z1]) (fun ov H => ov = none ∧ rg G b0 357 (shX0 G.2.1) rw0 H ∧ H.size = sz) := by
  refine Met.ofW (cc := cX0_goesThrough) (maxL := 3) (ret := none) (by decide +kernel) rfl ?_
  intro p e s m args below meth c s₁ B hml hv
  obtain ⟨rfl, ⟨hz, hW0, hG, hL1⟩, hK⟩ := hv
  subst hz
  have he0 := rg_end hW0 356 (by decide) rfl (fun _ _ _ => rfl)
  have hts := atoms_spec (ws := ws_ yX0_goesThrough cX0_goesThrough 3 none) B.pre
  have hts : ∀ w ∈ lw_all, w.before _ s = true := fun w h => hts w (List.mem_cons_of_mem _ h)
  have C : Cx G p s m _ meth c RX0 cX0_goesThrough 3 none := ⟨B.exec, B.bytes, B.returns, B.notSynchronized, hml, findClass_of_methodNamed B.named, hts, hK⟩
  have hl := lv_entry ([.ref b0, .ref p1]) (n := 3) (Nat.le_of_ble_eq_true rfl)
  rw [lg_entry_eq]
  generalize (lg_sl ([.ref b0, .ref p1]) ++ List.replicate (3 - (lg_sl ([.ref b0, .ref p1])).length) Slot.unset).toArray = ls at hl ⊢
  have hl : lv_has ls 3 [(0, .ref b0), (1, .ref p1)] := hl
  exact w_fX0_goesThrough_many C hap1 he0 hZ hgb0 hZL _ hm s.heap [] ls hW0 va_S.rf rfl hG hL1 hl
theorem yn_X0_goesThrough : YN yX0_goesThrough 1 := by
  unfold YN
  decide +kernel
theorem lkX0_382 : LV RX0 382 RX0 yX0_goesThrough cX0_goesThrough 3 none := ⟨q1141, q1143, qs29, q114, q1144⟩
noncomputable def fX0_many (v0 : Mem) (i1 : Int32) : Option (Int32 × Nat × Mem) :=
  ob (fX0_in i1.toInt64 (0 : Int64) (1 : Int64)) fun r1 =>
  if r1 = 0 then (
  some ((-1 : Int32), 0, v0))
  else (
  lm (sI v0 0 16 (0 : Int32)) fun v0_4 =>
  ob (fX0_goesThrough_many i1 v0_4) fun w22 =>
  some ((gI w22 0 16), 1, w22))
set_option maxHeartbeats 4000000 in
theorem w_fX0_many (C : Cx G p s m args meth c RX0 cX0_many 2 (some .int)) {b0 : Nat} {rx : Int32} {rc : Nat} {rw0 : Mem} (he0 : b0 + 357 ≤ s.heap.size) (hZ : ZQ G) (hgb0 : gB G ≤ b0) (hZL : ZL G) (hnm : s.methodNamed? yX0_many = some m) : ∀ (v0 : Mem) (i1 : Int32), fX0_many v0 i1 = some (rx, rc, rw0) → ∀ (H : Heap) (locs : List Loc) (ls : Array Slot), rg G b0 357 (shX0 G.2.1) v0 H → va_S (FA (fX b0) s.heap.size) s.heap H locs → H.size = s.heap.size + 0 → GO G H → lv_has ls 2 [(0, .ref b0), (1, .int i1)] → W p l e (rmT 5 1 2 3088) s m args below meth c H locs 0 0 (MQ below (QcT (FA (fX b0) s.heap.size) (fun ov H => ov = (some (.int rx)) ∧ rg G b0 357 (shX0 G.2.1) rw0 H ∧ H.size = s.heap.size + rc)) args s 1 2 (FA (fX b0) s.heap.size)) (F0 m 0 ls []) := by
  intro v0 i1 hm H locs ls hW0 hS hz hG hl
  obtain ⟨hx, hb, hr, hlk, hml, hown, hts, hK⟩ := id C
  unfold fX0_many at hm
  refine lv_iload_n (pc := 0) hx hb dX0_many_0 rfl (lv_at hl 1 rfl) ?_
  refine lv_i2l (pc := 1) hx hb dX0_many_1 rfl ?_
  refine lv_lconst (pc := 2) (v := (0 : Int64)) hx hb dX0_many_2 (by decide) ?_
  refine lv_lconst (pc := 3) (v := (1 : Int64)) hx hb dX0_many_3 (by decide) ?_
  obtain ⟨r1, hq2, hm⟩ := ob_some hm
  refine rk_PS (pc := 4) (As := [.long i1.toInt64, .long (0 : Int64), .long (1 : Int64)]) (rest := []) hx hb hml hown hts hK lkX0_127 yn_X0_in (ct_X0_in (G := G) (l := l) hq2) ⟨Nat.le_of_ble_eq_true rfl, Nat.le_of_ble_eq_true rfl⟩ trivial rfl rfl hl.1 (Nat.le_of_ble_eq_true rfl) dX0_many_4 ⟨Nat.zero_le _, Nat.zero_le _⟩ ?_
  refine W.eq (g2 := F0 m 7 ls [.int r1]) rfl ?_
  refine lv_if_ne (pc := 7) (tgt := 12) hx hb dX0_many_7 (by decide) (fun c3 => ?_) (fun c3 => ?_)
  · have hm := ite_f c3 hm
    refine lv_aload_n (pc := 12) hx hb dX0_many_12 rfl (lv_at hl 0 rfl) ?_
    refine lv_iconst (pc := 13) (v := (0 : Int32)) hx hb dX0_many_13 (by decide) ?_
    refine rk_put (pc := 14) hx hb hts hown hK hW0 hS flX0_389 ft_X0 0 (by decide) rfl (Or.inl (show fX _ _ from ⟨⟨by omega, by omega⟩, by omega⟩)) rfl rfl (x := .int (0 : Int32)) rfl rfl (Nat.le_of_ble_eq_true rfl) (sI v0 0 16 (0 : Int32)) sI_ne (by rw [sI_eq]; exact rfl) dX0_many_14 (fun H5 locs6 hW7 hS8 hz9 hkp10 => ?_)
    obtain ⟨v0_4, he9, hm⟩ := lm_some hm
    rw [he9] at hW7
    have hz11 := hz9.trans hz
    have hG12 := GO_keepq hG hkp10 (by omega)
    refine lv_aload_n (pc := 17) hx hb dX0_many_17 rfl (lv_at hl 0 rfl) ?_
    refine lv_aload_n (pc := 18) hx hb dX0_many_18 rfl (lv_at hl 0 rfl) ?_
    refine lv_iload_n (pc := 19) hx hb dX0_many_19 rfl (lv_at hl 1 rfl) ?_
    obtain ⟨h13, hh13⟩ : ∃ h, H5.size = h := ⟨_, rfl⟩
    have hqh13 : s.heap.size ≤ h13 := Nat.le_trans hS8.1 (Nat.le_of_eq hh13)
    refine rk_made (pc := 20) (h := h13) (vals := [.ref b0, .int i1]) (rest := [.ref b0]) hx hb hml hl.1 hnm hS8 (hZL.1 s hK).2.2.2.1 lfK1 rfl rfl (fun i v hv => by rcases i with _ | _ | i <;> simp at hv <;> subst hv <;> exact ⟨_, rfl, rfl⟩) rfl (Nat.le_of_ble_eq_true rfl) hh13 (Nat.le_of_ble_eq_true rfl) (Nat.le_of_ble_eq_true rfl) dX0_many_20 (fun H14 hL15 hS16 hz17 hkp18 => ?_)
    have hW19 := rg_keepN hW7 hh13 hkp18
    have hz20 : H14.size = s.heap.size + 1 := by omega
    have hG21 := GO_keepN hG12 (by omega) hkp18
    obtain ⟨w22, hq23, hm⟩ := ob_some hm
    refine rk_TV (pc := 25) (As := [.ref h13]) (rest := []) (mc := 0) (ms := 0) hx hb hml hown hts hK hS16 (fun q hq => FA_sz rfl q hq) lkX0_382 rfl yn_X0_goesThrough (ct_X0_goesThrough_many (G := G) (l := l) (p1 := h13) (b0 := b0) (sz := H14.size) hq23 (by omega) hZ (by omega) hZL) ⟨Nat.le_of_ble_eq_true rfl, Nat.le_of_ble_eq_true rfl⟩ (fun z h => Or.inl h) (rk_recv hK hW19 0 (by decide) rfl rfl rfl) ⟨hW19, hG21, hL15⟩ rfl rfl hl.1 (Nat.le_of_ble_eq_true rfl) dX0_many_25 ⟨Nat.le_of_ble_eq_true rfl, Nat.le_of_ble_eq_true rfl⟩ (fun ov9 H24 locs25 hP26 hkp27 hS28 => ?_)
    obtain ⟨rfl, hW29, hz30⟩ := hP26
    have hG31 := GO_keepA hG21 hkp27 (Nat.le_trans (show gB G ≤ s.heap.size by omega) hS16.1) (by intro z h3; have h8 := h3.1.1; have h9 := h3.1.2; omega)
    have hL32 := LC.keepA hL15 hkp27 (by intro h3; have h8 := h3.1.1; have h9 := h3.1.2; omega)
    have hz33 := hz30.trans hz20
    refine W.eq (g2 := F0 m 28 ls []) rfl ?_
    refine lv_aload_n (pc := 28) hx hb dX0_many_28 rfl (lv_at hl 0 rfl) ?_
    refine rk_get (pc := 29) hx hb hts hown hK hW29 flX0_389 0 (by decide) rfl rfl (x := .int (gI w22 0 16)) rfl dX0_many_29 ?_
    obtain ⟨e7, e8, e9⟩ := rs3 hm
    subst e7
    subst e8
    subst e9
    exact rk_iretA (pc := 32) hx hb hr hlk hS28 ⟨rfl, hW29, hz33⟩ dX0_many_32 (by exact Nat.le_of_ble_eq_true rfl) (by exact Nat.le_of_ble_eq_true rfl)
  · have hm := ite_t c3 hm
    refine lv_iconst (pc := 10) (v := (-1 : Int32)) hx hb dX0_many_10 (by decide) ?_
    obtain ⟨e7, e8, e9⟩ := rs3 hm
    subst e7
    subst e8
    subst e9
    exact rk_iretA (pc := 11) hx hb hr hlk hS ⟨rfl, hW0, hz⟩ dX0_many_11 (by exact Nat.le_of_ble_eq_true rfl) (by exact Nat.le_of_ble_eq_true rfl)
set_option maxHeartbeats 4000000 in
theorem ct_X0_many {G : Gv} {l : Launch} {b0 : Nat} {v0 : Mem} {i1 : Int32} {rx : Int32} {rc : Nat} {rw0 : Mem} {sz : Nat} (hm : fX0_many v0 i1 = some (rx, rc, rw0)) (hZ : ZQ G) (hgb0 : gB G ≤ b0) (hZL : ZL G) : CT G l yX0_many (ws_ yX0_many cX0_many 2 (some .int)) 5 1 2 3088 [.ref b0, .int i1] (fX b0) sz (fun H => rg G b0 357 (shX0 G.2.1) v0 H ∧ GO G H) (fun ov H => ov = (some (.int rx)) ∧ rg G b0 357 (shX0 G.2.1) rw0 H ∧ H.size = sz + rc) := by
  refine Met.ofW (cc := cX0_many) (maxL := 2) (ret := (some .int)) (by decide +kernel) rfl ?_
  intro p e s m args below meth c s₁ B hml hv
  obtain ⟨rfl, ⟨hz, hW0, hG⟩, hK⟩ := hv
  subst hz
  have he0 := rg_end hW0 356 (by decide) rfl (fun _ _ _ => rfl)
  have hnm := B.named
  have hts := atoms_spec (ws := ws_ yX0_many cX0_many 2 (some .int)) B.pre
  have hts : ∀ w ∈ lw_all, w.before _ s = true := fun w h => hts w (List.mem_cons_of_mem _ h)
  have C : Cx G p s m _ meth c RX0 cX0_many 2 (some .int) := ⟨B.exec, B.bytes, B.returns, B.notSynchronized, hml, findClass_of_methodNamed B.named, hts, hK⟩
  have hl := lv_entry ([.ref b0, .int i1]) (n := 2) (Nat.le_of_ble_eq_true rfl)
  rw [lg_entry_eq]
  generalize (lg_sl ([.ref b0, .int i1]) ++ List.replicate (2 - (lg_sl ([.ref b0, .int i1])).length) Slot.unset).toArray = ls at hl ⊢
  have hl : lv_has ls 2 [(0, .ref b0), (1, .int i1)] := hl
  exact w_fX0_many C he0 hZ hgb0 hZL hnm _ _ hm s.heap [] ls hW0 va_S.rf rfl hG hl
theorem flX0_82 : FL RX0 82 0 17 RX0 TX0 25 := ⟨in_X0, rfl, by decide, q515⟩
noncomputable def fX0_reads_54 (k54 : Mem → Int32 → Int32 → Option (Int32 × Mem)) (v0 : Mem) (i3 : Int32) (i4 : Int32) : Option (Int32 × Mem) :=
  if i4 < 0 then (
  some ((1 : Int32), v0))
  else (
  gb (nz32 (10 : Int32)) (
  gb (inR i4 5) (
  lm (sI v0 163 i4.toNatClampNeg (i3 - i3 / (10 : Int32) * (10 : Int32))) fun v0_8 =>
  gb (nz32 (10 : Int32)) (
  k54 v0_8 (i3 / (10 : Int32)) (i4 + (-1 : Int32))))))
noncomputable def fX0_reads_4 (k4 : Mem → Int32 → Int32 → Int32 → Option (Int32 × Mem)) (v0 : Mem) (i1 : Int32) (i2 : Int32) (i3 : Int32) : Option (Int32 × Mem) :=
  if (gI v0 1 0) ≤ i3 then (
  ob (fX0_in i1.toInt64 (0 : Int64) (i2 - (1 : Int32)).toInt64) fun r2 =>
  if r2 = 0 then (
  some ((0 : Int32), v0))
  else (
  lq3 (fX0_reads_54) FU v0 i1 ((gI v0 1 0) - (1 : Int32))))
  else (
  k4 v0 i1 (i2 * (10 : Int32)) (i3 + (1 : Int32)))
noncomputable def fX0_reads (v0 : Mem) (i1 : Int32) : Option (Int32 × Mem) :=
  lq4 (fX0_reads_4) FU v0 i1 (1 : Int32) (0 : Int32)
set_option maxHeartbeats 4000000 in
theorem w_fX0_reads_54 (C : Cx G p s m args meth c RX0 cX0_reads 5 (some .boolean)) {b0 : Nat} {rx : Int32} {rw0 : Mem} {k54 : Mem → Int32 → Int32 → Option (Int32 × Mem)} (hk54 : ∀ (v0 : Mem) (i3 : Int32) (i4 : Int32), k54 v0 i3 i4 = some (rx, rw0) → ∀ (H : Heap) (locs : List Loc) (ls : Array Slot), rg G b0 357 (shX0 G.2.1) v0 H → va_S (FA (fX b0) s.heap.size) s.heap H locs → H.size = s.heap.size → lv_has ls 5 [(0, .ref b0), (3, .int i3), (4, .int i4)] → W p l e (rmT 1 0 0 25) s m args below meth c H locs 0 0 (MQ below (QcT (FA (fX b0) s.heap.size) (fun ov H => ov = (some (.int rx)) ∧ rg G b0 357 (shX0 G.2.1) rw0 H ∧ H.size = s.heap.size)) args s 0 0 (FA (fX b0) s.heap.size)) (F0 m 54 ls [])) : ∀ (v0 : Mem) (i3 : Int32) (i4 : Int32), fX0_reads_54 k54 v0 i3 i4 = some (rx, rw0) → ∀ (H : Heap) (locs : List Loc) (ls : Array Slot), rg G b0 357 (shX0 G.2.1) v0 H → va_S (FA (fX b0) s.heap.size) s.heap H locs → H.size = s.heap.size → lv_has ls 5 [(0, .ref b0), (3, .int i3), (4, .int i4)] → W p l e (rmT 1 0 0 25) s m args below meth c H locs 0 0 (MQ below (QcT (FA (fX b0) s.heap.size) (fun ov H => ov = (some (.int rx)) ∧ rg G b0 357 (shX0 G.2.1) rw0 H ∧ H.size = s.heap.size)) args s 0 0 (FA (fX b0) s.heap.size)) (F0 m 54 ls []) := by
  intro v0 i3 i4 hm H locs ls hW0 hS hz hl
  obtain ⟨hx, hb, hr, hlk, hml, hown, hts, hK⟩ := id C
  unfold fX0_reads_54 at hm
  refine lv_iload (pc := 54) hx hb dX0_reads_54 (lv_at hl 2 rfl) ?_
  refine lv_if_lt (pc := 56) (tgt := 81) hx hb dX0_reads_56 (by decide) (fun c5 => ?_) (fun c5 => ?_)
  · have hm := ite_t c5 hm
    refine lv_iconst (pc := 81) (v := (1 : Int32)) hx hb dX0_reads_81 (by decide) ?_
    obtain ⟨e8, e9⟩ := rs2 hm
    subst e8
    subst e9
    exact rk_zret (pc := 82) hx hb hr hlk rfl hS ⟨rfl, hW0, hz⟩ dX0_reads_82
  · have hm := ite_f c5 hm
    refine lv_aload_n (pc := 59) hx hb dX0_reads_59 rfl (lv_at hl 0 rfl) ?_
    refine rk_get (pc := 60) hx hb hts hown hK hW0 flX0_82 0 (by decide) rfl rfl (x := .ref (b0 + 163)) (by first | rfl | exact congrArg (fun z => some (Value.ref z)) (by omega)) dX0_reads_60 ?_
    refine lv_iload (pc := 63) hx hb dX0_reads_63 (lv_at hl 2 rfl) ?_
    refine lv_iload_n (pc := 65) hx hb dX0_reads_65 rfl (lv_at hl 1 rfl) ?_
    refine lv_bipush (pc := 66) (v := (10 : Int32)) hx hb dX0_reads_66 (by decide) ?_
    obtain ⟨hg6, hm⟩ := gb_some hm
    refine lv_irem (pc := 68) hx hb dX0_reads_68 (nz32_ne hg6) ?_
    obtain ⟨hg7, hm⟩ := gb_some hm
    refine rk_iast (pc := 69) hx hb hK hW0 hS 163 (by decide) rfl (Or.inl (show fX _ _ from ⟨⟨by omega, by omega⟩, by omega⟩)) (fun _ _ _ => rfl) hg7 dX0_reads_69 (fun H9 locs10 hW11 hS12 hz13 hkp14 => ?_)
    obtain ⟨v0_8, he9, hm⟩ := lm_some hm
    rw [he9] at hW11
    have hz15 := hz13.trans hz
    refine lv_iload_n (pc := 70) hx hb dX0_reads_70 rfl (lv_at hl 1 rfl) ?_
    refine lv_bipush (pc := 71) (v := (10 : Int32)) hx hb dX0_reads_71 (by decide) ?_
    obtain ⟨hg16, hm⟩ := gb_some hm
    refine lv_idiv (pc := 73) hx hb dX0_reads_73 (nz32_ne hg16) ?_
    refine lv_istore_n (pc := 74) (lv' := [(3, .int (i3 / (10 : Int32))), (0, .ref b0), (4, .int i4)]) hx hb dX0_reads_74 rfl hl (by decide) rfl (fun ls hl => ?_)
    refine lv_iinc (pc := 75) (v := (i4 + (-1 : Int32))) (lv' := [(4, .int (i4 + (-1 : Int32))), (3, .int (i3 / (10 : Int32))), (0, .ref b0)]) hx hb dX0_reads_75 hl (k := 2) rfl (congrArg (i4 + ·) (show Int32.ofInt (-1) = (-1 : Int32) by decide)) (by decide) rfl (fun ls hl => ?_)
    refine lv_goto (pc := 78) (tgt := 54) hx hb dX0_reads_78 (by decide) ?_
    exact hk54 v0_8 (i3 / (10 : Int32)) (i4 + (-1 : Int32)) hm H9 locs10 ls hW11 hS12 hz15 (lv_sub hl [2, 1, 0] rfl)
theorem w_fX0_reads_54_l (C : Cx G p s m args meth c RX0 cX0_reads 5 (some .boolean)) {b0 : Nat} {rx : Int32} {rw0 : Mem} : ∀ (n : Nat) (v0 : Mem) (i3 : Int32) (i4 : Int32), lq3 (fX0_reads_54) n v0 i3 i4 = some (rx, rw0) → ∀ (H : Heap) (locs : List Loc) (ls : Array Slot), rg G b0 357 (shX0 G.2.1) v0 H → va_S (FA (fX b0) s.heap.size) s.heap H locs → H.size = s.heap.size → lv_has ls 5 [(0, .ref b0), (3, .int i3), (4, .int i4)] → W p l e (rmT 1 0 0 25) s m args below meth c H locs 0 0 (MQ below (QcT (FA (fX b0) s.heap.size) (fun ov H => ov = (some (.int rx)) ∧ rg G b0 357 (shX0 G.2.1) rw0 H ∧ H.size = s.heap.size)) args s 0 0 (FA (fX b0) s.heap.size)) (F0 m 54 ls []) := by
  intro n
  induction n with
  | zero => intro v0 i3 i4 hm; exact (lq3_0 hm).elim
  | succ n ih => intro v0 i3 i4 hm; exact w_fX0_reads_54 C ih v0 i3 i4 (lq3_s hm)
set_option maxHeartbeats 4000000 in
theorem w_fX0_reads_4 (C : Cx G p s m args meth c RX0 cX0_reads 5 (some .boolean)) {b0 : Nat} {rx : Int32} {rw0 : Mem} {k4 : Mem → Int32 → Int32 → Int32 → Option (Int32 × Mem)} (hk4 : ∀ (v0 : Mem) (i1 : Int32) (i2 : Int32) (i3 : Int32), k4 v0 i1 i2 i3 = some (rx, rw0) → ∀ (H : Heap) (locs : List Loc) (ls : Array Slot), rg G b0 357 (shX0 G.2.1) v0 H → va_S (FA (fX b0) s.heap.size) s.heap H locs → H.size = s.heap.size → lv_has ls 5 [(0, .ref b0), (1, .int i1), (2, .int i2), (3, .int i3)] → W p l e (rmT 1 0 0 25) s m args below meth c H locs 0 0 (MQ below (QcT (FA (fX b0) s.heap.size) (fun ov H => ov = (some (.int rx)) ∧ rg G b0 357 (shX0 G.2.1) rw0 H ∧ H.size = s.heap.size)) args s 0 0 (FA (fX b0) s.heap.size)) (F0 m 4 ls [])) : ∀ (v0 : Mem) (i1 : Int32) (i2 : Int32) (i3 : Int32), fX0_reads_4 k4 v0 i1 i2 i3 = some (rx, rw0) → ∀ (H : Heap) (locs : List Loc) (ls : Array Slot), rg G b0 357 (shX0 G.2.1) v0 H → va_S (FA (fX b0) s.heap.size) s.heap H locs → H.size = s.heap.size → lv_has ls 5 [(0, .ref b0), (1, .int i1), (2, .int i2), (3, .int i3)] → W p l e (rmT 1 0 0 25) s m args below meth c H locs 0 0 (MQ below (QcT (FA (fX b0) s.heap.size) (fun ov H => ov = (some (.int rx)) ∧ rg G b0 357 (shX0 G.2.1) rw0 H ∧ H.size = s.heap.size)) args s 0 0 (FA (fX b0) s.heap.size)) (F0 m 4 ls []) := by
  intro v0 i1 i2 i3 hm H locs ls hW0 hS hz hl
  obtain ⟨hx, hb, hr, hlk, hml, hown, hts, hK⟩ := id C
  unfold fX0_reads_4 at hm
  refine lv_iload_n (pc := 4) hx hb dX0_reads_4 rfl (lv_at hl 3 rfl) ?_
  refine lv_aload_n (pc := 5) hx hb dX0_reads_5 rfl (lv_at hl 0 rfl) ?_
  refine rk_get (pc := 6) hx hb hts hown hK hW0 flX0_12 0 (by decide) rfl rfl (x := .ref (b0 + 1)) (by first | rfl | exact congrArg (fun z => some (Value.ref z)) (by omega)) dX0_reads_6 ?_
  refine rk_getN (pc := 9) hx hb hts hown hK hW0 fnX0_131 1 (by decide) rfl rfl (x := .int (gI v0 1 0)) rfl dX0_reads_9 ?_
  refine lv_icmp_ge (pc := 12) (tgt := 26) hx hb dX0_reads_12 (by decide) (fun c1 => ?_) (fun c1 => ?_)
  · have hm := ite_t c1 hm
    refine lv_iload_n (pc := 26) hx hb dX0_reads_26 rfl (lv_at hl 1 rfl) ?_
    refine lv_i2l (pc := 27) hx hb dX0_reads_27 rfl ?_
    refine lv_lconst (pc := 28) (v := (0 : Int64)) hx hb dX0_reads_28 (by decide) ?_
    refine lv_iload_n (pc := 29) hx hb dX0_reads_29 rfl (lv_at hl 2 rfl) ?_
    refine lv_iconst (pc := 30) (v := (1 : Int32)) hx hb dX0_reads_30 (by decide) ?_
    refine lv_isub (pc := 31) hx hb dX0_reads_31 ?_
    refine lv_i2l (pc := 32) hx hb dX0_reads_32 rfl ?_
    obtain ⟨r2, hq3, hm⟩ := ob_some hm
    refine rk_PS (pc := 33) (As := [.long i1.toInt64, .long (0 : Int64), .long (i2 - (1 : Int32)).toInt64]) (rest := []) hx hb hml hown hts hK lkX0_127 yn_X0_in (ct_X0_in (G := G) (l := l) hq3) ⟨Nat.le_of_ble_eq_true rfl, Nat.le_of_ble_eq_true rfl⟩ trivial rfl rfl hl.1 (Nat.le_of_ble_eq_true rfl) dX0_reads_33 ⟨Nat.zero_le _, Nat.zero_le _⟩ ?_
    refine W.eq (g2 := F0 m 36 ls [.int r2]) rfl ?_
    refine lv_if_ne (pc := 36) (tgt := 41) hx hb dX0_reads_36 (by decide) (fun c4 => ?_) (fun c4 => ?_)
    · have hm := ite_f c4 hm
      refine lv_iload_n (pc := 41) hx hb dX0_reads_41 rfl (lv_at hl 1 rfl) ?_
      refine lv_istore_n (pc := 42) (lv' := [(3, .int i1), (0, .ref b0), (1, .int i1), (2, .int i2)]) hx hb dX0_reads_42 rfl hl (by decide) rfl (fun ls hl => ?_)
      refine lv_aload_n (pc := 43) hx hb dX0_reads_43 rfl (lv_at hl 1 rfl) ?_
      refine rk_get (pc := 44) hx hb hts hown hK hW0 flX0_12 0 (by decide) rfl rfl (x := .ref (b0 + 1)) (by first | rfl | exact congrArg (fun z => some (Value.ref z)) (by omega)) dX0_reads_44 ?_
      refine rk_getN (pc := 47) hx hb hts hown hK hW0 fnX0_131 1 (by decide) rfl rfl (x := .int (gI v0 1 0)) rfl dX0_reads_47 ?_
      refine lv_iconst (pc := 50) (v := (1 : Int32)) hx hb dX0_reads_50 (by decide) ?_
      refine lv_isub (pc := 51) hx hb dX0_reads_51 ?_
      refine lv_istore (pc := 52) (lv' := [(4, .int ((gI v0 1 0) - (1 : Int32))), (3, .int i1), (0, .ref b0), (1, .int i1), (2, .int i2)]) hx hb dX0_reads_52 hl (by decide) rfl (fun ls hl => ?_)
      exact (w_fX0_reads_54_l C FU) v0 i1 ((gI v0 1 0) - (1 : Int32)) hm H locs ls hW0 hS hz (lv_sub hl [2, 1, 0] rfl)
    · have hm := ite_t c4 hm
      refine lv_iconst (pc := 39) (v := (0 : Int32)) hx hb dX0_reads_39 (by decide) ?_
      obtain ⟨e8, e9⟩ := rs2 hm
      subst e8
      subst e9
      exact rk_zret (pc := 40) hx hb hr hlk rfl hS ⟨rfl, hW0, hz⟩ dX0_reads_40
  · have hm := ite_f c1 hm
    refine lv_iload_n (pc := 15) hx hb dX0_reads_15 rfl (lv_at hl 2 rfl) ?_
    refine lv_bipush (pc := 16) (v := (10 : Int32)) hx hb dX0_reads_16 (by decide) ?_
    refine lv_imul (pc := 18) hx hb dX0_reads_18 ?_
    refine lv_istore_n (pc := 19) (lv' := [(2, .int (i2 * (10 : Int32))), (0, .ref b0), (1, .int i1), (3, .int i3)]) hx hb dX0_reads_19 rfl hl (by decide) rfl (fun ls hl => ?_)
    refine lv_iinc (pc := 20) (v := (i3 + (1 : Int32))) (lv' := [(3, .int (i3 + (1 : Int32))), (2, .int (i2 * (10 : Int32))), (0, .ref b0), (1, .int i1)]) hx hb dX0_reads_20 hl (k := 3) rfl rfl (by decide) rfl (fun ls hl => ?_)
    refine lv_goto (pc := 23) (tgt := 4) hx hb dX0_reads_23 (by decide) ?_
    exact hk4 v0 i1 (i2 * (10 : Int32)) (i3 + (1 : Int32)) hm H locs ls hW0 hS hz (lv_sub hl [2, 3, 1, 0] rfl)
theorem w_fX0_reads_4_l (C : Cx G p s m args meth c RX0 cX0_reads 5 (some .boolean)) {b0 : Nat} {rx : Int32} {rw0 : Mem} : ∀ (n : Nat) (v0 : Mem) (i1 : Int32) (i2 : Int32) (i3 : Int32), lq4 (fX0_reads_4) n v0 i1 i2 i3 = some (rx, rw0) → ∀ (H : Heap) (locs : List Loc) (ls : Array Slot), rg G b0 357 (shX0 G.2.1) v0 H → va_S (FA (fX b0) s.heap.size) s.heap H locs → H.size = s.heap.size → lv_has ls 5 [(0, .ref b0), (1, .int i1), (2, .int i2), (3, .int i3)] → W p l e (rmT 1 0 0 25) s m args below meth c H locs 0 0 (MQ below (QcT (FA (fX b0) s.heap.size) (fun ov H => ov = (some (.int rx)) ∧ rg G b0 357 (shX0 G.2.1) rw0 H ∧ H.size = s.heap.size)) args s 0 0 (FA (fX b0) s.heap.size)) (F0 m 4 ls []) := by
  intro n
  induction n with
  | zero => intro v0 i1 i2 i3 hm; exact (lq4_0 hm).elim
  | succ n ih => intro v0 i1 i2 i3 hm; exact w_fX0_reads_4 C ih v0 i1 i2 i3 (lq4_s hm)
set_option maxHeartbeats 4000000 in
theorem w_fX0_reads (C : Cx G p s m args meth c RX0 cX0_reads 5 (some .boolean)) {b0 : Nat} {rx : Int32} {rw0 : Mem} : ∀ (v0 : Mem) (i1 : Int32), fX0_reads v0 i1 = some (rx, rw0) → ∀ (H : Heap) (locs : List Loc) (ls : Array Slot), rg G b0 357 (shX0 G.2.1) v0 H → va_S (FA (fX b0) s.heap.size) s.heap H locs → H.size = s.heap.size → lv_has ls 5 [(0, .ref b0), (1, .int i1)] → W p l e (rmT 1 0 0 25) s m args below meth c H locs 0 0 (MQ below (QcT (FA (fX b0) s.heap.size) (fun ov H => ov = (some (.int rx)) ∧ rg G b0 357 (shX0 G.2.1) rw0 H ∧ H.size = s.heap.size)) args s 0 0 (FA (fX b0) s.heap.size)) (F0 m 0 ls []) := by
  intro v0 i1 hm H locs ls hW0 hS hz hl
  obtain ⟨hx, hb, hr, hlk, hml, hown, hts, hK⟩ := id C
  unfold fX0_reads at hm
  refine lv_iconst (pc := 0) (v := (1 : Int32)) hx hb dX0_reads_0 (by decide) ?_
  refine lv_istore_n (pc := 1) (lv' := [(2, .int (1 : Int32)), (0, .ref b0), (1, .int i1)]) hx hb dX0_reads_1 rfl hl (by decide) rfl (fun ls hl => ?_)
  refine lv_iconst (pc := 2) (v := (0 : Int32)) hx hb dX0_reads_2 (by decide) ?_
  refine lv_istore_n (pc := 3) (lv' := [(3, .int (0 : Int32)), (2, .int (1 : Int32)), (0, .ref b0), (1, .int i1)]) hx hb dX0_reads_3 rfl hl (by decide) rfl (fun ls hl => ?_)
  exact (w_fX0_reads_4_l C FU) v0 i1 (1 : Int32) (0 : Int32) hm H locs ls hW0 hS hz (lv_sub hl [2, 3, 1, 0] rfl)
set_option maxHeartbeats 4000000 in
theorem ct_X0_reads {G : Gv} {l : Launch} {b0 : Nat} {v0 : Mem} {i1 : Int32} {rx : Int32} {rw0 : Mem} {sz : Nat} (hm : fX0_reads v0 i1 = some (rx, rw0)) : CT G l yX0_reads (ws_ yX0_reads cX0_reads 5 (some .boolean)) 1 0 0 25 [.ref b0, .int i1] (fX b0) sz (fun H => rg G b0 357 (shX0 G.2.1) v0 H) (fun ov H => ov = (some (.int rx)) ∧ rg G b0 357 (shX0 G.2.1) rw0 H ∧ H.size = sz) := by
  refine Met.ofW (cc := cX0_reads) (maxL := 5) (ret := (some .boolean)) (by decide +kernel) rfl ?_
  intro p e s m args below meth c s₁ B hml hv
  obtain ⟨rfl, ⟨hz, hW0⟩, hK⟩ := hv
  subst hz
  have hts := atoms_spec (ws := ws_ yX0_reads cX0_reads 5 (some .boolean)) B.pre
  have hts : ∀ w ∈ lw_all, w.before _ s = true := fun w h => hts w (List.mem_cons_of_mem _ h)
  have C : Cx G p s m _ meth c RX0 cX0_reads 5 (some .boolean) := ⟨B.exec, B.bytes, B.returns, B.notSynchronized, hml, findClass_of_methodNamed B.named, hts, hK⟩
  have hl := lv_entry ([.ref b0, .int i1]) (n := 5) (Nat.le_of_ble_eq_true rfl)
  rw [lg_entry_eq]
  generalize (lg_sl ([.ref b0, .int i1]) ++ List.replicate (5 - (lg_sl ([.ref b0, .int i1])).length) Slot.unset).toArray = ls at hl ⊢
  have hl : lv_has ls 5 [(0, .ref b0), (1, .int i1)] := hl
  exact w_fX0_reads C _ _ hm s.heap [] ls hW0 va_S.rf rfl hl
theorem yn_X0_reads : YN yX0_reads 1 := by
  unfold YN
  decide +kernel
theorem lkX0_393 : LV RX0 393 RX0 yX0_reads cX0_reads 5 (some .boolean) := ⟨q1188, q1190, qs37, q114, q1191⟩
noncomputable def fX0_isBroken_asked_5 (V0 : Mem) (n1 : Nat) (k5 : Int64 → Int32 → Option (Int32)) (j3 : Int64) (i5 : Int32) : Option (Int32) :=
  if (gI V0 1 0) ≤ i5 then (
  gb (inR (gI V0 (7 + 2 * n1 + 0) 0) 2) (
  if (gI V0 (7 + 2 * n1 + 0) 0) = (0 : Int32) then (
  ob (fX0_lambda_new_0 j3 (gI V0 (7 + 2 * n1 + 0) 1).toInt64) fun r4 =>
  if (0 : Int64) ≤ r4 then (
  some (0 : Int32))
  else (
  some (1 : Int32)))
  else if (gI V0 (7 + 2 * n1 + 0) 0) = (1 : Int32) then (
  ob (fX0_lambda_new_1 j3 (gI V0 (7 + 2 * n1 + 0) 1).toInt64) fun r8 =>
  if (0 : Int64) ≤ r8 then (
  some (0 : Int32))
  else (
  some (1 : Int32)))
  else none))
  else (
  gb (inR i5 5) (
  gb (inR i5 5) (
  k5 (j3 + ((gI V0 (7 + 2 * n1 + 1) i5.toNatClampNeg) * (gI V0 163 i5.toNatClampNeg)).toInt64) (i5 + (1 : Int32)))))
noncomputable def fX0_isBroken_asked (V0 : Mem) (n1 : Nat) : Option (Int32) :=
  lq2 (fX0_isBroken_asked_5 V0 n1) FU (0 : Int64) (0 : Int32)
set_option maxHeartbeats 4000000 in
theorem w_fX0_isBroken_asked_5 (C : Cx G p s m args meth c RX0 cX0_isBroken 6 (some .boolean)) {b0 : Nat} {V0 : Mem} {n1 : Nat} {rx : Int32} (hW0 : rg G b0 357 (shX0 G.2.1) V0 s.heap) (hG : GO G s.heap) (hn1 : n1 < 8) (hZ : ZQ G) (hgb0 : gB G ≤ b0) (hZL : ZL G) {k5 : Int64 → Int32 → Option (Int32)} (hk5 : ∀ (j3 : Int64) (i5 : Int32), k5 j3 i5 = some rx → ∀ (ls : Array Slot), lv_has ls 6 [(0, .ref b0), (1, .ref (b0 + (7 + 2 * n1 + 0))), (2, .ref (b0 + 163)), (3, .long j3), (5, .int i5)] → W p l e (rmP 2 47) s m args below meth c s.heap [] 0 0 (MQ below (QcP (some (.int rx))) args s 0 0 (fun _ => False)) (F0 m 5 ls [])) : ∀ (j3 : Int64) (i5 : Int32), fX0_isBroken_asked_5 V0 n1 k5 j3 i5 = some rx → ∀ (ls : Array Slot), lv_has ls 6 [(0, .ref b0), (1, .ref (b0 + (7 + 2 * n1 + 0))), (2, .ref (b0 + 163)), (3, .long j3), (5, .int i5)] → W p l e (rmP 2 47) s m args below meth c s.heap [] 0 0 (MQ below (QcP (some (.int rx))) args s 0 0 (fun _ => False)) (F0 m 5 ls []) := by
  intro j3 i5 hm ls hl
  obtain ⟨hx, hb, hr, hlk, hml, hown, hts, hK⟩ := id C
  unfold fX0_isBroken_asked_5 at hm
  refine lv_iload (pc := 5) hx hb dX0_isBroken_5 (lv_at hl 4 rfl) ?_
  refine lv_aload_n (pc := 7) hx hb dX0_isBroken_7 rfl (lv_at hl 0 rfl) ?_
  refine rk_get (pc := 8) hx hb hts hown hK hW0 flX0_12 0 (by decide) rfl rfl (x := .ref (b0 + 1)) (by first | rfl | exact congrArg (fun z => some (Value.ref z)) (by omega)) dX0_isBroken_8 ?_
  refine rk_getN (pc := 11) hx hb hts hown hK hW0 fnX0_131 1 (by decide) rfl rfl (x := .int (gI V0 1 0)) rfl dX0_isBroken_11 ?_
  refine lv_icmp_ge (pc := 14) (tgt := 39) hx hb dX0_isBroken_14 (by decide) (fun c1 => ?_) (fun c1 => ?_)
  · have hm := ite_t c1 hm
    refine lv_aload_n (pc := 39) hx hb dX0_isBroken_39 rfl (lv_at hl 0 rfl) ?_
    refine rk_get (pc := 40) hx hb hts hown hK hW0 flX0_46 0 (by decide) rfl rfl (x := .ref (b0 + 155)) (by first | rfl | exact congrArg (fun z => some (Value.ref z)) (by omega)) dX0_isBroken_40 ?_
    refine lv_aload_n (pc := 43) hx hb dX0_isBroken_43 rfl (lv_at hl 1 rfl) ?_
    refine rk_getN (pc := 44) hx hb hts hown hK hW0 fnX0_215 (7 + 2 * n1 + 0) (by omega) rfl ((shX0_f7 G.2.1 hn1 _ rfl 0 (by decide) _ _ _).trans rfl) (x := .int (gI V0 (7 + 2 * n1 + 0) 0)) rfl dX0_isBroken_44 ?_
    obtain ⟨hg2, hm⟩ := gb_some hm
    by_cases c3 : (gI V0 (7 + 2 * n1 + 0) 0) = (0 : Int32)
    · have hm := ite_t c3 hm
      refine rk_aald (pc := 47) hx hb hK hW0 155 7 (by decide) rfl rfl rfl hg2 (x := (G.2.1 28)) (by rw [c3]; rfl) dX0_isBroken_47 ?_
      refine lv_lload_n (pc := 48) hx hb dX0_isBroken_48 rfl (lv_at hl 3 rfl) ?_
      refine lv_aload_n (pc := 49) hx hb dX0_isBroken_49 rfl (lv_at hl 1 rfl) ?_
      refine rk_getN (pc := 50) hx hb hts hown hK hW0 fnX0_181 (7 + 2 * n1 + 0) (by omega) rfl ((shX0_f7 G.2.1 hn1 _ rfl 0 (by decide) _ _ _).trans rfl) (x := .int (gI V0 (7 + 2 * n1 + 0) 1)) rfl dX0_isBroken_50 ?_
      refine lv_i2l (pc := 53) hx hb dX0_isBroken_53 rfl ?_
      obtain ⟨r4, hq5, hm⟩ := ob_some hm
      refine rk_lamL (pc := 54) (y := yX0_lambda_new_0) (a1 := j3) (a2 := (gI V0 (7 + 2 * n1 + 0) 1).toInt64) (r := r4) (rest := []) hx hb hml hown hts hK lfL0 (hZL.1 s hK).1.1 (hZL.1 s hK).2.1.1 q1154 q1156 (GO.lc hG hZL.2.1) rfl rfl rfl yn_X0_lambda_new_0 ⟨q419, q114, q420⟩ (ct_X0_lambda_new_0 (G := G) (l := l) hq5) ⟨Nat.le_of_ble_eq_true rfl, Nat.le_of_ble_eq_true rfl⟩ trivial hl.1 (Nat.le_of_ble_eq_true rfl) dX0_isBroken_54 ⟨Nat.zero_le _, Nat.zero_le _⟩ ?_
      refine lv_lconst (pc := 59) (v := (0 : Int64)) hx hb dX0_isBroken_59 (by decide) ?_
      refine rk_lcmp_ge (pc := 60) (tgt := 68) hx hb dX0_isBroken_60 rfl dX0_isBroken_61 (by decide) (fun c6 => ?_) (fun c6 => ?_)
      · have hm := ite_t c6 hm
        refine lv_iconst (pc := 68) (v := (0 : Int32)) hx hb dX0_isBroken_68 (by decide) ?_
        have e9 := rs1 hm
        subst e9
        exact rk_zretP (pc := 69) hx hb hr hlk rfl rfl dX0_isBroken_69
      · have hm := ite_f c6 hm
        refine lv_iconst (pc := 64) (v := (1 : Int32)) hx hb dX0_isBroken_64 (by decide) ?_
        refine lv_goto (pc := 65) (tgt := 69) hx hb dX0_isBroken_65 (by decide) ?_
        have e9 := rs1 hm
        subst e9
        exact rk_zretP (pc := 69) hx hb hr hlk rfl rfl dX0_isBroken_69
    have hm := ite_f c3 hm
    by_cases c7 : (gI V0 (7 + 2 * n1 + 0) 0) = (1 : Int32)
    · have hm := ite_t c7 hm
      refine rk_aald (pc := 47) hx hb hK hW0 155 7 (by decide) rfl rfl rfl hg2 (x := (G.2.1 29)) (by rw [c7]; rfl) dX0_isBroken_47 ?_
      refine lv_lload_n (pc := 48) hx hb dX0_isBroken_48 rfl (lv_at hl 3 rfl) ?_
      refine lv_aload_n (pc := 49) hx hb dX0_isBroken_49 rfl (lv_at hl 1 rfl) ?_
      refine rk_getN (pc := 50) hx hb hts hown hK hW0 fnX0_181 (7 + 2 * n1 + 0) (by omega) rfl ((shX0_f7 G.2.1 hn1 _ rfl 0 (by decide) _ _ _).trans rfl) (x := .int (gI V0 (7 + 2 * n1 + 0) 1)) rfl dX0_isBroken_50 ?_
      refine lv_i2l (pc := 53) hx hb dX0_isBroken_53 rfl ?_
      obtain ⟨r8, hq9, hm⟩ := ob_some hm
      refine rk_lamL (pc := 54) (y := yX0_lambda_new_1) (a1 := j3) (a2 := (gI V0 (7 + 2 * n1 + 0) 1).toInt64) (r := r8) (rest := []) hx hb hml hown hts hK lfL1 (hZL.1 s hK).1.2.1 (hZL.1 s hK).2.1.1 q1154 q1156 (GO.lc hG hZL.2.2) rfl rfl rfl yn_X0_lambda_new_1 ⟨q421, q114, q422⟩ (ct_X0_lambda_new_1 (G := G) (l := l) hq9) ⟨Nat.le_of_ble_eq_true rfl, Nat.le_of_ble_eq_true rfl⟩ trivial hl.1 (Nat.le_of_ble_eq_true rfl) dX0_isBroken_54 ⟨Nat.zero_le _, Nat.zero_le _⟩ ?_
      refine lv_lconst (pc := 59) (v := (0 : Int64)) hx hb dX0_isBroken_59 (by decide) ?_
      refine rk_lcmp_ge (pc := 60) (tgt := 68) hx hb dX0_isBroken_60 rfl dX0_isBroken_61 (by decide) (fun c10 => ?_) (fun c10 => ?_)
      · have hm := ite_t c10 hm
        refine lv_iconst (pc := 68) (v := (0 : Int32)) hx hb dX0_isBroken_68 (by decide) ?_
        have e9 := rs1 hm
        subst e9
        exact rk_zretP (pc := 69) hx hb hr hlk rfl rfl dX0_isBroken_69
      · have hm := ite_f c10 hm
        refine lv_iconst (pc := 64) (v := (1 : Int32)) hx hb dX0_isBroken_64 (by decide) ?_
        refine lv_goto (pc := 65) (tgt := 69) hx hb dX0_isBroken_65 (by decide) ?_
        have e9 := rs1 hm
        subst e9
        exact rk_zretP (pc := 69) hx hb hr hlk rfl rfl dX0_isBroken_69
    have hm := ite_f c7 hm
    exact nomatch hm
  · have hm := ite_f c1 hm
    refine lv_lload_n (pc := 17) hx hb dX0_isBroken_17 rfl (lv_at hl 3 rfl) ?_
    refine lv_aload_n (pc := 18) hx hb dX0_isBroken_18 rfl (lv_at hl 1 rfl) ?_
    refine rk_getN (pc := 19) hx hb hts hown hK hW0 fnX0_176 (7 + 2 * n1 + 0) (by omega) rfl ((shX0_f7 G.2.1 hn1 _ rfl 0 (by decide) _ _ _).trans rfl) (x := .ref (b0 + (7 + 2 * n1 + 1))) (by first | rfl | exact congrArg (fun z => some (Value.ref z)) (by omega)) dX0_isBroken_19 ?_
    refine lv_iload (pc := 22) hx hb dX0_isBroken_22 (lv_at hl 4 rfl) ?_
    obtain ⟨hg11, hm⟩ := gb_some hm
    refine rk_iald (pc := 24) hx hb hK hW0 (7 + 2 * n1 + 1) (by omega) rfl ((shX0_f7 G.2.1 hn1 _ rfl 1 (by decide) _ _ _).trans rfl) hg11 (x := (gI V0 (7 + 2 * n1 + 1) i5.toNatClampNeg)) rfl dX0_isBroken_24 ?_
    refine lv_aload_n (pc := 25) hx hb dX0_isBroken_25 rfl (lv_at hl 2 rfl) ?_
    refine lv_iload (pc := 26) hx hb dX0_isBroken_26 (lv_at hl 4 rfl) ?_
    obtain ⟨hg12, hm⟩ := gb_some hm
    refine rk_iald (pc := 28) hx hb hK hW0 163 (by decide) rfl rfl hg12 (x := (gI V0 163 i5.toNatClampNeg)) rfl dX0_isBroken_28 ?_
    refine lv_imul (pc := 29) hx hb dX0_isBroken_29 ?_
    refine lv_i2l (pc := 30) hx hb dX0_isBroken_30 rfl ?_
    refine lv_ladd (pc := 31) hx hb dX0_isBroken_31 ?_
    refine lv_lstore_n (pc := 32) (lv' := [(3, .long (j3 + ((gI V0 (7 + 2 * n1 + 1) i5.toNatClampNeg) * (gI V0 163 i5.toNatClampNeg)).toInt64)), (0, .ref b0), (1, .ref (b0 + (7 + 2 * n1 + 0))), (2, .ref (b0 + 163)), (5, .int i5)]) hx hb dX0_isBroken_32 rfl hl (by decide) rfl (fun ls hl => ?_)
    refine lv_iinc (pc := 33) (v := (i5 + (1 : Int32))) (lv' := [(5, .int (i5 + (1 : Int32))), (3, .long (j3 + ((gI V0 (7 + 2 * n1 + 1) i5.toNatClampNeg) * (gI V0 163 i5.toNatClampNeg)).toInt64)), (0, .ref b0), (1, .ref (b0 + (7 + 2 * n1 + 0))), (2, .ref (b0 + 163))]) hx hb dX0_isBroken_33 hl (k := 4) rfl rfl (by decide) rfl (fun ls hl => ?_)
    refine lv_goto (pc := 36) (tgt := 5) hx hb dX0_isBroken_36 (by decide) ?_
    exact hk5 (j3 + ((gI V0 (7 + 2 * n1 + 1) i5.toNatClampNeg) * (gI V0 163 i5.toNatClampNeg)).toInt64) (i5 + (1 : Int32)) hm ls (lv_sub hl [2, 3, 4, 1, 0] rfl)
theorem w_fX0_isBroken_asked_5_l (C : Cx G p s m args meth c RX0 cX0_isBroken 6 (some .boolean)) {b0 : Nat} {V0 : Mem} {n1 : Nat} {rx : Int32} (hW0 : rg G b0 357 (shX0 G.2.1) V0 s.heap) (hG : GO G s.heap) (hn1 : n1 < 8) (hZ : ZQ G) (hgb0 : gB G ≤ b0) (hZL : ZL G) : ∀ (n : Nat) (j3 : Int64) (i5 : Int32), lq2 (fX0_isBroken_asked_5 V0 n1) n j3 i5 = some rx → ∀ (ls : Array Slot), lv_has ls 6 [(0, .ref b0), (1, .ref (b0 + (7 + 2 * n1 + 0))), (2, .ref (b0 + 163)), (3, .long j3), (5, .int i5)] → W p l e (rmP 2 47) s m args below meth c s.heap [] 0 0 (MQ below (QcP (some (.int rx))) args s 0 0 (fun _ => False)) (F0 m 5 ls []) := by
  intro n
  induction n with
  | zero => intro j3 i5 hm; exact (lq2_0 hm).elim
  | succ n ih => intro j3 i5 hm; exact w_fX0_isBroken_asked_5 C hW0 hG hn1 hZ hgb0 hZL ih j3 i5 (lq2_s hm)
set_option maxHeartbeats 4000000 in
theorem w_fX0_isBroken_asked (C : Cx G p s m args meth c RX0 cX0_isBroken 6 (some .boolean)) {b0 : Nat} {V0 : Mem} {n1 : Nat} {rx : Int32} (hW0 : rg G b0 357 (shX0 G.2.1) V0 s.heap) (hG : GO G s.heap) (hn1 : n1 < 8) (hZ : ZQ G) (hgb0 : gB G ≤ b0) (hZL : ZL G) : fX0_isBroken_asked V0 n1 = some rx → ∀ (ls : Array Slot), lv_has ls 6 [(0, .ref b0), (1, .ref (b0 + (7 + 2 * n1 + 0))), (2, .ref (b0 + 163))] → W p l e (rmP 2 47) s m args below meth c s.heap [] 0 0 (MQ below (QcP (some (.int rx))) args s 0 0 (fun _ => False)) (F0 m 0 ls []) := by
  intro hm ls hl
  obtain ⟨hx, hb, hr, hlk, hml, hown, hts, hK⟩ := id C
  unfold fX0_isBroken_asked at hm
  refine lv_lconst (pc := 0) (v := (0 : Int64)) hx hb dX0_isBroken_0 (by decide) ?_
  refine lv_lstore_n (pc := 1) (lv' := [(3, .long (0 : Int64)), (0, .ref b0), (1, .ref (b0 + (7 + 2 * n1 + 0))), (2, .ref (b0 + 163))]) hx hb dX0_isBroken_1 rfl hl (by decide) rfl (fun ls hl => ?_)
  refine lv_iconst (pc := 2) (v := (0 : Int32)) hx hb dX0_isBroken_2 (by decide) ?_
  refine lv_istore (pc := 3) (lv' := [(5, .int (0 : Int32)), (3, .long (0 : Int64)), (0, .ref b0), (1, .ref (b0 + (7 + 2 * n1 + 0))), (2, .ref (b0 + 163))]) hx hb dX0_isBroken_3 hl (by decide) rfl (fun ls hl => ?_)
  exact (w_fX0_isBroken_asked_5_l C hW0 hG hn1 hZ hgb0 hZL FU) (0 : Int64) (0 : Int32) hm ls (lv_sub hl [2, 3, 4, 1, 0] rfl)
set_option maxHeartbeats 4000000 in
theorem ct_X0_isBroken_asked {G : Gv} {l : Launch} {b0 : Nat} {V0 : Mem} {n1 : Nat} {rx : Int32} (hm : fX0_isBroken_asked V0 n1  = some rx) (hn1 : n1 < 8) (hZ : ZQ G) (hgb0 : gB G ≤ b0) (hZL : ZL G) : CP G l yX0_isBroken (ws_ yX0_isBroken cX0_isBroken 6 (some .boolean)) 2 47 [.ref b0, .ref (b0 + (7 + 2 * n1 + 0)), .ref (b0 + 163)] (fun H => rg G b0 357 (shX0 G.2.1) V0 H ∧ GO G H) (some (.int rx)) := by
  refine Met.ofW (cc := cX0_isBroken) (maxL := 6) (ret := (some .boolean)) (by decide +kernel) rfl ?_
  intro p e s m args below meth c s₁ B hml hv
  obtain ⟨rfl, ⟨hW0, hG⟩, hK⟩ := hv
  have hts := atoms_spec (ws := ws_ yX0_isBroken cX0_isBroken 6 (some .boolean)) B.pre
  have hts : ∀ w ∈ lw_all, w.before _ s = true := fun w h => hts w (List.mem_cons_of_mem _ h)
  have C : Cx G p s m _ meth c RX0 cX0_isBroken 6 (some .boolean) := ⟨B.exec, B.bytes, B.returns, B.notSynchronized, hml, findClass_of_methodNamed B.named, hts, hK⟩
  have hl := lv_entry ([.ref b0, .ref (b0 + (7 + 2 * n1 + 0)), .ref (b0 + 163)]) (n := 6) (Nat.le_of_ble_eq_true rfl)
  rw [lg_entry_eq]
  generalize (lg_sl ([.ref b0, .ref (b0 + (7 + 2 * n1 + 0)), .ref (b0 + 163)]) ++ List.replicate (6 - (lg_sl ([.ref b0, .ref (b0 + (7 + 2 * n1 + 0)), .ref (b0 + 163)])).length) Slot.unset).toArray = ls at hl ⊢
  have hl : lv_has ls 6 [(0, .ref b0), (1, .ref (b0 + (7 + 2 * n1 + 0))), (2, .ref (b0 + 163))] := hl
  exact w_fX0_isBroken_asked C hW0 hG hn1 hZ hgb0 hZL  hm ls hl
noncomputable def fX0_breaks_13 (k13 : Mem → Int32 → Option (Int32 × Mem)) (v0 : Mem) (i2 : Int32) : Option (Int32 × Mem) :=
  if (gI v0 1 1) ≤ i2 then (
  some ((-5 : Int32), v0))
  else (
  gb (inR i2 8) (
  ob (fX0_isBroken_asked v0 i2.toNatClampNeg) fun r17 =>
  if r17 = 0 then (
  k13 v0 (i2 + (1 : Int32)))
  else (
  some (i2, v0))))
noncomputable def fX0_breaks (v0 : Mem) (i1 : Int32) : Option (Int32 × Mem) :=
  ob2 (fX0_reads v0 i1) fun r1 w2 =>
  if r1 = 0 then (
  some ((-2 : Int32), w2))
  else (
  lq2 (fX0_breaks_13) FU w2 (0 : Int32))
set_option maxHeartbeats 4000000 in
theorem w_fX0_breaks_13 (C : Cx G p s m args meth c RX0 cX0_breaks 3 (some .int)) {b0 : Nat} {rx : Int32} {rw0 : Mem} (he0 : b0 + 357 ≤ s.heap.size) (hZ : ZQ G) (hgb0 : gB G ≤ b0) (hZL : ZL G) {k13 : Mem → Int32 → Option (Int32 × Mem)} (hk13 : ∀ (v0 : Mem) (i2 : Int32), k13 v0 i2 = some (rx, rw0) → ∀ (H : Heap) (locs : List Loc) (ls : Array Slot), rg G b0 357 (shX0 G.2.1) v0 H → va_S (FA (fX b0) s.heap.size) s.heap H locs → H.size = s.heap.size → GO G H → lv_has ls 3 [(0, .ref b0), (2, .int i2)] → W p l e (rmT 3 0 0 72) s m args below meth c H locs 0 0 (MQ below (QcT (FA (fX b0) s.heap.size) (fun ov H => ov = (some (.int rx)) ∧ rg G b0 357 (shX0 G.2.1) rw0 H ∧ H.size = s.heap.size)) args s 0 0 (FA (fX b0) s.heap.size)) (F0 m 13 ls [])) : ∀ (v0 : Mem) (i2 : Int32), fX0_breaks_13 k13 v0 i2 = some (rx, rw0) → ∀ (H : Heap) (locs : List Loc) (ls : Array Slot), rg G b0 357 (shX0 G.2.1) v0 H → va_S (FA (fX b0) s.heap.size) s.heap H locs → H.size = s.heap.size → GO G H → lv_has ls 3 [(0, .ref b0), (2, .int i2)] → W p l e (rmT 3 0 0 72) s m args below meth c H locs 0 0 (MQ below (QcT (FA (fX b0) s.heap.size) (fun ov H => ov = (some (.int rx)) ∧ rg G b0 357 (shX0 G.2.1) rw0 H ∧ H.size = s.heap.size)) args s 0 0 (FA (fX b0) s.heap.size)) (F0 m 13 ls []) := by
  intro v0 i2 hm H locs ls hW0 hS hz hG hl
  obtain ⟨hx, hb, hr, hlk, hml, hown, hts, hK⟩ := id C
  unfold fX0_breaks_13 at hm
  refine lv_iload_n (pc := 13) hx hb dX0_breaks_13 rfl (lv_at hl 1 rfl) ?_
  refine lv_aload_n (pc := 14) hx hb dX0_breaks_14 rfl (lv_at hl 0 rfl) ?_
  refine rk_get (pc := 15) hx hb hts hown hK hW0 flX0_12 0 (by decide) rfl rfl (x := .ref (b0 + 1)) (by first | rfl | exact congrArg (fun z => some (Value.ref z)) (by omega)) dX0_breaks_15 ?_
  refine rk_getN (pc := 18) hx hb hts hown hK hW0 fnX0_158 1 (by decide) rfl rfl (x := .int (gI v0 1 1)) rfl dX0_breaks_18 ?_
  refine lv_icmp_ge (pc := 21) (tgt := 52) hx hb dX0_breaks_21 (by decide) (fun c14 => ?_) (fun c14 => ?_)
  · have hm := ite_t c14 hm
    refine lv_bipush (pc := 52) (v := (-5 : Int32)) hx hb dX0_breaks_52 (by decide) ?_
    obtain ⟨e8, e9⟩ := rs2 hm
    subst e8
    subst e9
    exact rk_iret (pc := 54) hx hb hr hlk hS ⟨rfl, hW0, hz⟩ dX0_breaks_54
  · have hm := ite_f c14 hm
    refine lv_aload_n (pc := 24) hx hb dX0_breaks_24 rfl (lv_at hl 0 rfl) ?_
    refine lv_aload_n (pc := 25) hx hb dX0_breaks_25 rfl (lv_at hl 0 rfl) ?_
    refine rk_get (pc := 26) hx hb hts hown hK hW0 flX0_12 0 (by decide) rfl rfl (x := .ref (b0 + 1)) (by first | rfl | exact congrArg (fun z => some (Value.ref z)) (by omega)) dX0_breaks_26 ?_
    refine rk_getN (pc := 29) hx hb hts hown hK hW0 fnX0_172 1 (by decide) rfl rfl (x := .ref (b0 + 3)) (by first | rfl | exact congrArg (fun z => some (Value.ref z)) (by omega)) dX0_breaks_29 ?_
    refine lv_iload_n (pc := 32) hx hb dX0_breaks_32 rfl (lv_at hl 1 rfl) ?_
    obtain ⟨hg15, hm⟩ := gb_some hm
    have hlt16 := inR_lt hg15
    refine rk_aald (pc := 33) hx hb hK hW0 3 5 (by decide) rfl rfl rfl hg15 (x := (b0 + (7 + 2 * i2.toNatClampNeg + 0))) (by first | rfl | exact congrArg some (by omega)) dX0_breaks_33 ?_
    refine lv_aload_n (pc := 34) hx hb dX0_breaks_34 rfl (lv_at hl 0 rfl) ?_
    refine rk_get (pc := 35) hx hb hts hown hK hW0 flX0_82 0 (by decide) rfl rfl (x := .ref (b0 + 163)) (by first | rfl | exact congrArg (fun z => some (Value.ref z)) (by omega)) dX0_breaks_35 ?_
    obtain ⟨r17, hq18, hm⟩ := ob_some hm
    refine rk_PV (pc := 38) (As := [.ref (b0 + (7 + 2 * i2.toNatClampNeg + 0)), .ref (b0 + 163)]) (rest := []) hx hb hml hown hts hK lkX0_329 rfl yn_X0_isBroken (ct_X0_isBroken_asked (G := G) (l := l) (b0 := b0) hq18 hlt16 hZ (by omega) hZL) ⟨Nat.le_of_ble_eq_true rfl, Nat.le_of_ble_eq_true rfl⟩ (rk_recv hK hW0 0 (by decide) rfl rfl rfl) ⟨hW0, hG⟩ rfl rfl hl.1 (Nat.le_of_ble_eq_true rfl) dX0_breaks_38 ⟨Nat.zero_le _, Nat.zero_le _⟩ ?_
    refine W.eq (g2 := F0 m 41 ls [.int r17]) rfl ?_
    refine lv_if_eq (pc := 41) (tgt := 46) hx hb dX0_breaks_41 (by decide) (fun c19 => ?_) (fun c19 => ?_)
    · have hm := ite_t c19 hm
      refine lv_iinc (pc := 46) (v := (i2 + (1 : Int32))) (lv' := [(2, .int (i2 + (1 : Int32))), (0, .ref b0)]) hx hb dX0_breaks_46 hl (k := 1) rfl rfl (by decide) rfl (fun ls hl => ?_)
      refine lv_goto (pc := 49) (tgt := 13) hx hb dX0_breaks_49 (by decide) ?_
      exact hk13 v0 (i2 + (1 : Int32)) hm H locs ls hW0 hS hz hG (lv_sub hl [1, 0] rfl)
    · have hm := ite_f c19 hm
      refine lv_iload_n (pc := 44) hx hb dX0_breaks_44 rfl (lv_at hl 1 rfl) ?_
      obtain ⟨e8, e9⟩ := rs2 hm
      subst e8
      subst e9
      exact rk_iret (pc := 45) hx hb hr hlk hS ⟨rfl, hW0, hz⟩ dX0_breaks_45
theorem w_fX0_breaks_13_l (C : Cx G p s m args meth c RX0 cX0_breaks 3 (some .int)) {b0 : Nat} {rx : Int32} {rw0 : Mem} (he0 : b0 + 357 ≤ s.heap.size) (hZ : ZQ G) (hgb0 : gB G ≤ b0) (hZL : ZL G) : ∀ (n : Nat) (v0 : Mem) (i2 : Int32), lq2 (fX0_breaks_13) n v0 i2 = some (rx, rw0) → ∀ (H : Heap) (locs : List Loc) (ls : Array Slot), rg G b0 357 (shX0 G.2.1) v0 H → va_S (FA (fX b0) s.heap.size) s.heap H locs → H.size = s.heap.size → GO G H → lv_has ls 3 [(0, .ref b0), (2, .int i2)] → W p l e (rmT 3 0 0 72) s m args below meth c H locs 0 0 (MQ below (QcT (FA (fX b0) s.heap.size) (fun ov H => ov = (some (.int rx)) ∧ rg G b0 357 (shX0 G.2.1) rw0 H ∧ H.size = s.heap.size)) args s 0 0 (FA (fX b0) s.heap.size)) (F0 m 13 ls []) := by
  intro n
  induction n with
  | zero => intro v0 i2 hm; exact (lq2_0 hm).elim
  | succ n ih => intro v0 i2 hm; exact w_fX0_breaks_13 C he0 hZ hgb0 hZL ih v0 i2 (lq2_s hm)
set_option maxHeartbeats 4000000 in
theorem w_fX0_breaks (C : Cx G p s m args meth c RX0 cX0_breaks 3 (some .int)) {b0 : Nat} {rx : Int32} {rw0 : Mem} (he0 : b0 + 357 ≤ s.heap.size) (hZ : ZQ G) (hgb0 : gB G ≤ b0) (hZL : ZL G) : ∀ (v0 : Mem) (i1 : Int32), fX0_breaks v0 i1 = some (rx, rw0) → ∀ (H : Heap) (locs : List Loc) (ls : Array Slot), rg G b0 357 (shX0 G.2.1) v0 H → va_S (FA (fX b0) s.heap.size) s.heap H locs → H.size = s.heap.size → GO G H → lv_has ls 3 [(0, .ref b0), (1, .int i1)] → W p l e (rmT 3 0 0 72) s m args below meth c H locs 0 0 (MQ below (QcT (FA (fX b0) s.heap.size) (fun ov H => ov = (some (.int rx)) ∧ rg G b0 357 (shX0 G.2.1) rw0 H ∧ H.size = s.heap.size)) args s 0 0 (FA (fX b0) s.heap.size)) (F0 m 0 ls []) := by
  intro v0 i1 hm H locs ls hW0 hS hz hG hl
  obtain ⟨hx, hb, hr, hlk, hml, hown, hts, hK⟩ := id C
  unfold fX0_breaks at hm
  refine lv_aload_n (pc := 0) hx hb dX0_breaks_0 rfl (lv_at hl 0 rfl) ?_
  refine lv_iload_n (pc := 1) hx hb dX0_breaks_1 rfl (lv_at hl 1 rfl) ?_
  obtain ⟨r1, w2, hq3, hm⟩ := ob2_some hm
  refine rk_TV (pc := 2) (As := [.int i1]) (rest := []) (mc := 0) (ms := 0) hx hb hml hown hts hK hS (fun q hq => FA_sz rfl q hq) lkX0_393 rfl yn_X0_reads (ct_X0_reads (G := G) (l := l) (b0 := b0) (sz := H.size) hq3) ⟨Nat.le_of_ble_eq_true rfl, Nat.le_of_ble_eq_true rfl⟩ (fun z h => Or.inl h) (rk_recv hK hW0 0 (by decide) rfl rfl rfl) hW0 rfl rfl hl.1 (Nat.le_of_ble_eq_true rfl) dX0_breaks_2 ⟨Nat.zero_le _, Nat.zero_le _⟩ (fun ov9 H4 locs5 hP6 hkp7 hS8 => ?_)
  obtain ⟨rfl, hW9, hz10⟩ := hP6
  have hG11 := GO_keepA hG hkp7 (Nat.le_trans (show gB G ≤ s.heap.size by omega) hS.1) (by intro z h3; have h8 := h3.1.1; have h9 := h3.1.2; omega)
  have hz12 := hz10.trans hz
  refine W.eq (g2 := F0 m 5 ls [.int r1]) rfl ?_
  refine lv_if_ne (pc := 5) (tgt := 11) hx hb dX0_breaks_5 (by decide) (fun c13 => ?_) (fun c13 => ?_)
  · have hm := ite_f c13 hm
    refine lv_iconst (pc := 11) (v := (0 : Int32)) hx hb dX0_breaks_11 (by decide) ?_
    refine lv_istore_n (pc := 12) (lv' := [(2, .int (0 : Int32)), (0, .ref b0), (1, .int i1)]) hx hb dX0_breaks_12 rfl hl (by decide) rfl (fun ls hl => ?_)
    exact (w_fX0_breaks_13_l C he0 hZ hgb0 hZL FU) w2 (0 : Int32) hm H4 locs5 ls hW9 hS8 hz12 hG11 (lv_sub hl [1, 0] rfl)
  · have hm := ite_t c13 hm
    refine lv_bipush (pc := 8) (v := (-2 : Int32)) hx hb dX0_breaks_8 (by decide) ?_
    obtain ⟨e8, e9⟩ := rs2 hm
    subst e8
    subst e9
    exact rk_iret (pc := 10) hx hb hr hlk hS8 ⟨rfl, hW9, hz12⟩ dX0_breaks_10
set_option maxHeartbeats 4000000 in
theorem ct_X0_breaks {G : Gv} {l : Launch} {b0 : Nat} {v0 : Mem} {i1 : Int32} {rx : Int32} {rw0 : Mem} {sz : Nat} (hm : fX0_breaks v0 i1 = some (rx, rw0)) (hZ : ZQ G) (hgb0 : gB G ≤ b0) (hZL : ZL G) : CT G l yX0_breaks (ws_ yX0_breaks cX0_breaks 3 (some .int)) 3 0 0 72 [.ref b0, .int i1] (fX b0) sz (fun H => rg G b0 357 (shX0 G.2.1) v0 H ∧ GO G H) (fun ov H => ov = (some (.int rx)) ∧ rg G b0 357 (shX0 G.2.1) rw0 H ∧ H.size = sz) := by
  refine Met.ofW (cc := cX0_breaks) (maxL := 3) (ret := (some .int)) (by decide +kernel) rfl ?_
  intro p e s m args below meth c s₁ B hml hv
  obtain ⟨rfl, ⟨hz, hW0, hG⟩, hK⟩ := hv
  subst hz
  have he0 := rg_end hW0 356 (by decide) rfl (fun _ _ _ => rfl)
  have hts := atoms_spec (ws := ws_ yX0_breaks cX0_breaks 3 (some .int)) B.pre
  have hts : ∀ w ∈ lw_all, w.before _ s = true := fun w h => hts w (List.mem_cons_of_mem _ h)
  have C : Cx G p s m _ meth c RX0 cX0_breaks 3 (some .int) := ⟨B.exec, B.bytes, B.returns, B.notSynchronized, hml, findClass_of_methodNamed B.named, hts, hK⟩
  have hl := lv_entry ([.ref b0, .int i1]) (n := 3) (Nat.le_of_ble_eq_true rfl)
  rw [lg_entry_eq]
  generalize (lg_sl ([.ref b0, .int i1]) ++ List.replicate (3 - (lg_sl ([.ref b0, .int i1])).length) Slot.unset).toArray = ls at hl ⊢
  have hl : lv_has ls 3 [(0, .ref b0), (1, .int i1)] := hl
  exact w_fX0_breaks C he0 hZ hgb0 hZL _ _ hm s.heap [] ls hW0 va_S.rf rfl hG hl
noncomputable def fX0_isWithin_102 (V0 : Mem) (u0 : Int64) (u1 : Int64) : Option (Int32) :=
  if u1 < u0 then (
  some (0 : Int32))
  else (
  some (1 : Int32))
noncomputable def fX0_isWithin_5 (V0 : Mem) (k5 : Int32 → Int64 → Int32 → Option (Int32)) (i1 : Int32) (j2 : Int64) (i4 : Int32) : Option (Int32) :=
  if (gI V0 1 0) ≤ i4 then (
  if i1 = (-1 : Int32) then (
  ob (fX1_handPoints (shf V0 1) (gI V0 1 0)) fun r5 =>
  fX0_isWithin_102 V0 j2 r5)
  else (
  gb (inR i1 12) (
  fX0_isWithin_102 V0 j2 (gL V0 (74 + 3 * i1.toNatClampNeg + 0) 1))))
  else (
  gb (inR i4 5) (
  if i1 = (-1 : Int32) then (
  ob (fX1_handPoints (shf V0 1) i4) fun r12 =>
  k5 i1 (j2 + ((gI V0 158 i4.toNatClampNeg).toInt64 * r12)) (i4 + (1 : Int32)))
  else (
  gb (inR i1 12) (
  gb (inR i4 5) (
  k5 i1 (j2 + ((gI V0 158 i4.toNatClampNeg).toInt64 * (gL V0 (74 + 3 * i1.toNatClampNeg + 1) i4.toNatClampNeg))) (i4 + (1 : Int32)))))))
noncomputable def fX0_isWithin (V0 : Mem) (i1 : Int32) : Option (Int32) :=
  lq3 (fX0_isWithin_5 V0) FU i1 (0 : Int64) (0 : Int32)
set_option maxHeartbeats 4000000 in
theorem w_fX0_isWithin_102 (C : Cx G p s m args meth c RX0 cX0_isWithin 5 (some .boolean)) {b0 : Nat} {V0 : Mem} {rx : Int32} (hW0 : rg G b0 357 (shX0 G.2.1) V0 s.heap) : ∀ (u0 : Int64) (u1 : Int64), fX0_isWithin_102 V0 u0 u1 = some rx → ∀ (ls : Array Slot), lv_has ls 5 [] → W p l e (rmP 2 49) s m args below meth c s.heap [] 0 0 (MQ below (QcP (some (.int rx))) args s 0 0 (fun _ => False)) (F0 m 102 ls [.long u1, .long u0]) := by
  intro u0 u1 hm ls hl
  obtain ⟨hx, hb, hr, hlk, hml, hown, hts, hK⟩ := id C
  unfold fX0_isWithin_102 at hm
  refine rk_lcmp_gt (pc := 102) (tgt := 110) hx hb dX0_isWithin_102 rfl dX0_isWithin_103 (by decide) (fun c14 => ?_) (fun c14 => ?_)
  · have hm := ite_t c14 hm
    refine lv_iconst (pc := 110) (v := (0 : Int32)) hx hb dX0_isWithin_110 (by decide) ?_
    have e9 := rs1 hm
    subst e9
    exact rk_zretP (pc := 111) hx hb hr hlk rfl rfl dX0_isWithin_111
  · have hm := ite_f c14 hm
    refine lv_iconst (pc := 106) (v := (1 : Int32)) hx hb dX0_isWithin_106 (by decide) ?_
    refine lv_goto (pc := 107) (tgt := 111) hx hb dX0_isWithin_107 (by decide) ?_
    have e9 := rs1 hm
    subst e9
    exact rk_zretP (pc := 111) hx hb hr hlk rfl rfl dX0_isWithin_111
set_option maxHeartbeats 4000000 in
theorem w_fX0_isWithin_5 (C : Cx G p s m args meth c RX0 cX0_isWithin 5 (some .boolean)) {b0 : Nat} {V0 : Mem} {rx : Int32} (hW0 : rg G b0 357 (shX0 G.2.1) V0 s.heap) {k5 : Int32 → Int64 → Int32 → Option (Int32)} (hk5 : ∀ (i1 : Int32) (j2 : Int64) (i4 : Int32), k5 i1 j2 i4 = some rx → ∀ (ls : Array Slot), lv_has ls 5 [(0, .ref b0), (1, .int i1), (2, .long j2), (4, .int i4)] → W p l e (rmP 2 49) s m args below meth c s.heap [] 0 0 (MQ below (QcP (some (.int rx))) args s 0 0 (fun _ => False)) (F0 m 5 ls [])) : ∀ (i1 : Int32) (j2 : Int64) (i4 : Int32), fX0_isWithin_5 V0 k5 i1 j2 i4 = some rx → ∀ (ls : Array Slot), lv_has ls 5 [(0, .ref b0), (1, .int i1), (2, .long j2), (4, .int i4)] → W p l e (rmP 2 49) s m args below meth c s.heap [] 0 0 (MQ below (QcP (some (.int rx))) args s 0 0 (fun _ => False)) (F0 m 5 ls []) := by
  intro i1 j2 i4 hm ls hl
  obtain ⟨hx, hb, hr, hlk, hml, hown, hts, hK⟩ := id C
  unfold fX0_isWithin_5 at hm
  refine lv_iload (pc := 5) hx hb dX0_isWithin_5 (lv_at hl 3 rfl) ?_
  refine lv_aload_n (pc := 7) hx hb dX0_isWithin_7 rfl (lv_at hl 0 rfl) ?_
  refine rk_get (pc := 8) hx hb hts hown hK hW0 flX0_12 0 (by decide) rfl rfl (x := .ref (b0 + 1)) (by first | rfl | exact congrArg (fun z => some (Value.ref z)) (by omega)) dX0_isWithin_8 ?_
  refine rk_getN (pc := 11) hx hb hts hown hK hW0 fnX0_131 1 (by decide) rfl rfl (x := .int (gI V0 1 0)) rfl dX0_isWithin_11 ?_
  refine lv_icmp_ge (pc := 14) (tgt := 67) hx hb dX0_isWithin_14 (by decide) (fun c1 => ?_) (fun c1 => ?_)
  · have hm := ite_t c1 hm
    refine lv_lload_n (pc := 67) hx hb dX0_isWithin_67 rfl (lv_at hl 2 rfl) ?_
    refine lv_iload_n (pc := 68) hx hb dX0_isWithin_68 rfl (lv_at hl 1 rfl) ?_
    refine lv_iconst (pc := 69) (v := (-1 : Int32)) hx hb dX0_isWithin_69 (by decide) ?_
    refine lv_icmp_ne (pc := 70) (tgt := 90) hx hb dX0_isWithin_70 (by decide) (fun c2 => ?_) (fun c2 => ?_)
    · have hm := ite_f c2 hm
      refine lv_aload_n (pc := 90) hx hb dX0_isWithin_90 rfl (lv_at hl 0 rfl) ?_
      refine rk_get (pc := 91) hx hb hts hown hK hW0 flX0_27 0 (by decide) rfl rfl (x := .ref (b0 + 67)) (by first | rfl | exact congrArg (fun z => some (Value.ref z)) (by omega)) dX0_isWithin_91 ?_
      refine rk_getN (pc := 94) hx hb hts hown hK hW0 fnX0_284 67 (by decide) rfl rfl (x := .ref (b0 + 73)) (by first | rfl | exact congrArg (fun z => some (Value.ref z)) (by omega)) dX0_isWithin_94 ?_
      refine lv_iload_n (pc := 97) hx hb dX0_isWithin_97 rfl (lv_at hl 1 rfl) ?_
      obtain ⟨hg3, hm⟩ := gb_some hm
      have hlt4 := inR_lt hg3
      refine rk_aald (pc := 98) hx hb hK hW0 73 6 (by decide) rfl rfl rfl hg3 (x := (b0 + (74 + 3 * i1.toNatClampNeg + 0))) (by first | rfl | exact congrArg some (by omega)) dX0_isWithin_98 ?_
      refine rk_getN (pc := 99) hx hb hts hown hK hW0 fnX0_288 (74 + 3 * i1.toNatClampNeg + 0) (by omega) rfl ((shX0_f74 G.2.1 hlt4 _ rfl 0 (by decide) _ _ _).trans rfl) (x := .long (gL V0 (74 + 3 * i1.toNatClampNeg + 0) 1)) rfl dX0_isWithin_99 ?_
      exact (w_fX0_isWithin_102 C hW0) j2 (gL V0 (74 + 3 * i1.toNatClampNeg + 0) 1) hm ls (lv_sub hl [] rfl)
    · have hm := ite_t c2 hm
      refine lv_aload_n (pc := 73) hx hb dX0_isWithin_73 rfl (lv_at hl 0 rfl) ?_
      refine rk_get (pc := 74) hx hb hts hown hK hW0 flX0_12 0 (by decide) rfl rfl (x := .ref (b0 + 1)) (by first | rfl | exact congrArg (fun z => some (Value.ref z)) (by omega)) dX0_isWithin_74 ?_
      refine lv_aload_n (pc := 77) hx hb dX0_isWithin_77 rfl (lv_at hl 0 rfl) ?_
      refine rk_get (pc := 78) hx hb hts hown hK hW0 flX0_12 0 (by decide) rfl rfl (x := .ref (b0 + 1)) (by first | rfl | exact congrArg (fun z => some (Value.ref z)) (by omega)) dX0_isWithin_78 ?_
      refine rk_getN (pc := 81) hx hb hts hown hK hW0 fnX0_131 1 (by decide) rfl rfl (x := .int (gI V0 1 0)) rfl dX0_isWithin_81 ?_
      obtain ⟨r5, hq6, hm⟩ := ob_some hm
      refine rk_PV (pc := 84) (As := [.int (gI V0 1 0)]) (rest := [.long j2]) hx hb hml hown hts hK lkX0_319 rfl yn_X1_handPoints (ct_X1_handPoints (G := G) (l := l) (b0 := (b0 + 1)) hq6) ⟨Nat.le_of_ble_eq_true rfl, Nat.le_of_ble_eq_true rfl⟩ (rk_recv hK hW0 1 (by decide) rfl rfl rfl) (rg_sub hW0 rfl (by decide) (fun o ho x y z => shX0_n1 G.2.1 _ rfl o ho x y z)) rfl rfl hl.1 (Nat.le_of_ble_eq_true rfl) dX0_isWithin_84 ⟨Nat.zero_le _, Nat.zero_le _⟩ ?_
      refine W.eq (g2 := F0 m 87 ls [.long r5, .long j2]) rfl ?_
      refine lv_goto (pc := 87) (tgt := 102) hx hb dX0_isWithin_87 (by decide) ?_
      exact (w_fX0_isWithin_102 C hW0) j2 r5 hm ls (lv_sub hl [] rfl)
  · have hm := ite_f c1 hm
    refine lv_lload_n (pc := 17) hx hb dX0_isWithin_17 rfl (lv_at hl 2 rfl) ?_
    refine lv_aload_n (pc := 18) hx hb dX0_isWithin_18 rfl (lv_at hl 0 rfl) ?_
    refine rk_get (pc := 19) hx hb hts hown hK hW0 flX0_60 0 (by decide) rfl rfl (x := .ref (b0 + 158)) (by first | rfl | exact congrArg (fun z => some (Value.ref z)) (by omega)) dX0_isWithin_19 ?_
    refine lv_iload (pc := 22) hx hb dX0_isWithin_22 (lv_at hl 3 rfl) ?_
    obtain ⟨hg7, hm⟩ := gb_some hm
    refine rk_iald (pc := 24) hx hb hK hW0 158 (by decide) rfl rfl hg7 (x := (gI V0 158 i4.toNatClampNeg)) rfl dX0_isWithin_24 ?_
    refine lv_i2l (pc := 25) hx hb dX0_isWithin_25 rfl ?_
    refine lv_iload_n (pc := 26) hx hb dX0_isWithin_26 rfl (lv_at hl 1 rfl) ?_
    refine lv_iconst (pc := 27) (v := (-1 : Int32)) hx hb dX0_isWithin_27 (by decide) ?_
    refine lv_icmp_ne (pc := 28) (tgt := 43) hx hb dX0_isWithin_28 (by decide) (fun c8 => ?_) (fun c8 => ?_)
    · have hm := ite_f c8 hm
      refine lv_aload_n (pc := 43) hx hb dX0_isWithin_43 rfl (lv_at hl 0 rfl) ?_
      refine rk_get (pc := 44) hx hb hts hown hK hW0 flX0_27 0 (by decide) rfl rfl (x := .ref (b0 + 67)) (by first | rfl | exact congrArg (fun z => some (Value.ref z)) (by omega)) dX0_isWithin_44 ?_
      refine rk_getN (pc := 47) hx hb hts hown hK hW0 fnX0_284 67 (by decide) rfl rfl (x := .ref (b0 + 73)) (by first | rfl | exact congrArg (fun z => some (Value.ref z)) (by omega)) dX0_isWithin_47 ?_
      refine lv_iload_n (pc := 50) hx hb dX0_isWithin_50 rfl (lv_at hl 1 rfl) ?_
      obtain ⟨hg9, hm⟩ := gb_some hm
      have hlt10 := inR_lt hg9
      refine rk_aald (pc := 51) hx hb hK hW0 73 6 (by decide) rfl rfl rfl hg9 (x := (b0 + (74 + 3 * i1.toNatClampNeg + 0))) (by first | rfl | exact congrArg some (by omega)) dX0_isWithin_51 ?_
      refine rk_getN (pc := 52) hx hb hts hown hK hW0 fnX0_293 (74 + 3 * i1.toNatClampNeg + 0) (by omega) rfl ((shX0_f74 G.2.1 hlt10 _ rfl 0 (by decide) _ _ _).trans rfl) (x := .ref (b0 + (74 + 3 * i1.toNatClampNeg + 1))) (by first | rfl | exact congrArg (fun z => some (Value.ref z)) (by omega)) dX0_isWithin_52 ?_
      refine lv_iload (pc := 55) hx hb dX0_isWithin_55 (lv_at hl 3 rfl) ?_
      obtain ⟨hg11, hm⟩ := gb_some hm
      refine rk_lald (pc := 57) hx hb hK hW0 (74 + 3 * i1.toNatClampNeg + 1) (by omega) rfl ((shX0_f74 G.2.1 hlt10 _ rfl 1 (by decide) _ _ _).trans rfl) hg11 (x := (gL V0 (74 + 3 * i1.toNatClampNeg + 1) i4.toNatClampNeg)) rfl dX0_isWithin_57 ?_
      refine lv_lmul (pc := 58) hx hb dX0_isWithin_58 ?_
      refine lv_ladd (pc := 59) hx hb dX0_isWithin_59 ?_
      refine lv_lstore_n (pc := 60) (lv' := [(2, .long (j2 + ((gI V0 158 i4.toNatClampNeg).toInt64 * (gL V0 (74 + 3 * i1.toNatClampNeg + 1) i4.toNatClampNeg)))), (0, .ref b0), (1, .int i1), (4, .int i4)]) hx hb dX0_isWithin_60 rfl hl (by decide) rfl (fun ls hl => ?_)
      refine lv_iinc (pc := 61) (v := (i4 + (1 : Int32))) (lv' := [(4, .int (i4 + (1 : Int32))), (2, .long (j2 + ((gI V0 158 i4.toNatClampNeg).toInt64 * (gL V0 (74 + 3 * i1.toNatClampNeg + 1) i4.toNatClampNeg)))), (0, .ref b0), (1, .int i1)]) hx hb dX0_isWithin_61 hl (k := 3) rfl rfl (by decide) rfl (fun ls hl => ?_)
      refine lv_goto (pc := 64) (tgt := 5) hx hb dX0_isWithin_64 (by decide) ?_
      exact hk5 i1 (j2 + ((gI V0 158 i4.toNatClampNeg).toInt64 * (gL V0 (74 + 3 * i1.toNatClampNeg + 1) i4.toNatClampNeg))) (i4 + (1 : Int32)) hm ls (lv_sub hl [2, 3, 1, 0] rfl)
    · have hm := ite_t c8 hm
      refine lv_aload_n (pc := 31) hx hb dX0_isWithin_31 rfl (lv_at hl 0 rfl) ?_
      refine rk_get (pc := 32) hx hb hts hown hK hW0 flX0_12 0 (by decide) rfl rfl (x := .ref (b0 + 1)) (by first | rfl | exact congrArg (fun z => some (Value.ref z)) (by omega)) dX0_isWithin_32 ?_
      refine lv_iload (pc := 35) hx hb dX0_isWithin_35 (lv_at hl 3 rfl) ?_
      obtain ⟨r12, hq13, hm⟩ := ob_some hm
      refine rk_PV (pc := 37) (As := [.int i4]) (rest := [.long (gI V0 158 i4.toNatClampNeg).toInt64, .long j2]) hx hb hml hown hts hK lkX0_319 rfl yn_X1_handPoints (ct_X1_handPoints (G := G) (l := l) (b0 := (b0 + 1)) hq13) ⟨Nat.le_of_ble_eq_true rfl, Nat.le_of_ble_eq_true rfl⟩ (rk_recv hK hW0 1 (by decide) rfl rfl rfl) (rg_sub hW0 rfl (by decide) (fun o ho x y z => shX0_n1 G.2.1 _ rfl o ho x y z)) rfl rfl hl.1 (Nat.le_of_ble_eq_true rfl) dX0_isWithin_37 ⟨Nat.zero_le _, Nat.zero_le _⟩ ?_
      refine W.eq (g2 := F0 m 40 ls [.long r12, .long (gI V0 158 i4.toNatClampNeg).toInt64, .long j2]) rfl ?_
      refine lv_goto (pc := 40) (tgt := 58) hx hb dX0_isWithin_40 (by decide) ?_
      refine lv_lmul (pc := 58) hx hb dX0_isWithin_58 ?_
      refine lv_ladd (pc := 59) hx hb dX0_isWithin_59 ?_
      refine lv_lstore_n (pc := 60) (lv' := [(2, .long (j2 + ((gI V0 158 i4.toNatClampNeg).toInt64 * r12))), (0, .ref b0), (1, .int i1), (4, .int i4)]) hx hb dX0_isWithin_60 rfl hl (by decide) rfl (fun ls hl => ?_)
      refine lv_iinc (pc := 61) (v := (i4 + (1 : Int32))) (lv' := [(4, .int (i4 + (1 : Int32))), (2, .long (j2 + ((gI V0 158 i4.toNatClampNeg).toInt64 * r12))), (0, .ref b0), (1, .int i1)]) hx hb dX0_isWithin_61 hl (k := 3) rfl rfl (by decide) rfl (fun ls hl => ?_)
      refine lv_goto (pc := 64) (tgt := 5) hx hb dX0_isWithin_64 (by decide) ?_
      exact hk5 i1 (j2 + ((gI V0 158 i4.toNatClampNeg).toInt64 * r12)) (i4 + (1 : Int32)) hm ls (lv_sub hl [2, 3, 1, 0] rfl)
theorem w_fX0_isWithin_5_l (C : Cx G p s m args meth c RX0 cX0_isWithin 5 (some .boolean)) {b0 : Nat} {V0 : Mem} {rx : Int32} (hW0 : rg G b0 357 (shX0 G.2.1) V0 s.heap) : ∀ (n : Nat) (i1 : Int32) (j2 : Int64) (i4 : Int32), lq3 (fX0_isWithin_5 V0) n i1 j2 i4 = some rx → ∀ (ls : Array Slot), lv_has ls 5 [(0, .ref b0), (1, .int i1), (2, .long j2), (4, .int i4)] → W p l e (rmP 2 49) s m args below meth c s.heap [] 0 0 (MQ below (QcP (some (.int rx))) args s 0 0 (fun _ => False)) (F0 m 5 ls []) := by
  intro n
  induction n with
  | zero => intro i1 j2 i4 hm; exact (lq3_0 hm).elim
  | succ n ih => intro i1 j2 i4 hm; exact w_fX0_isWithin_5 C hW0 ih i1 j2 i4 (lq3_s hm)
set_option maxHeartbeats 4000000 in
theorem w_fX0_isWithin (C : Cx G p s m args meth c RX0 cX0_isWithin 5 (some .boolean)) {b0 : Nat} {V0 : Mem} {rx : Int32} (hW0 : rg G b0 357 (shX0 G.2.1) V0 s.heap) : ∀ (i1 : Int32), fX0_isWithin V0 i1 = some rx → ∀ (ls : Array Slot), lv_has ls 5 [(0, .ref b0), (1, .int i1)] → W p l e (rmP 2 49) s m args below meth c s.heap [] 0 0 (MQ below (QcP (some (.int rx))) args s 0 0 (fun _ => False)) (F0 m 0 ls []) := by
  intro i1 hm ls hl
  obtain ⟨hx, hb, hr, hlk, hml, hown, hts, hK⟩ := id C
  unfold fX0_isWithin at hm
  refine lv_lconst (pc := 0) (v := (0 : Int64)) hx hb dX0_isWithin_0 (by decide) ?_
  refine lv_lstore_n (pc := 1) (lv' := [(2, .long (0 : Int64)), (0, .ref b0), (1, .int i1)]) hx hb dX0_isWithin_1 rfl hl (by decide) rfl (fun ls hl => ?_)
  refine lv_iconst (pc := 2) (v := (0 : Int32)) hx hb dX0_isWithin_2 (by decide) ?_
  refine lv_istore (pc := 3) (lv' := [(4, .int (0 : Int32)), (2, .long (0 : Int64)), (0, .ref b0), (1, .int i1)]) hx hb dX0_isWithin_3 hl (by decide) rfl (fun ls hl => ?_)
  exact (w_fX0_isWithin_5_l C hW0 FU) i1 (0 : Int64) (0 : Int32) hm ls (lv_sub hl [2, 3, 1, 0] rfl)
set_option maxHeartbeats 4000000 in
theorem ct_X0_isWithin {G : Gv} {l : Launch} {b0 : Nat} {V0 : Mem} {i1 : Int32} {rx : Int32} (hm : fX0_isWithin V0 i1 = some rx) : CP G l yX0_isWithin (ws_ yX0_isWithin cX0_isWithin 5 (some .boolean)) 2 49 [.ref b0, .int i1] (fun H => rg G b0 357 (shX0 G.2.1) V0 H) (some (.int rx)) := by
  refine Met.ofW (cc := cX0_isWithin) (maxL := 5) (ret := (some .boolean)) (by decide +kernel) rfl ?_
  intro p e s m args below meth c s₁ B hml hv
  obtain ⟨rfl, hW0, hK⟩ := hv
  have hts := atoms_spec (ws := ws_ yX0_isWithin cX0_isWithin 5 (some .boolean)) B.pre
  have hts : ∀ w ∈ lw_all, w.before _ s = true := fun w h => hts w (List.mem_cons_of_mem _ h)
  have C : Cx G p s m _ meth c RX0 cX0_isWithin 5 (some .boolean) := ⟨B.exec, B.bytes, B.returns, B.notSynchronized, hml, findClass_of_methodNamed B.named, hts, hK⟩
  have hl := lv_entry ([.ref b0, .int i1]) (n := 5) (Nat.le_of_ble_eq_true rfl)
  rw [lg_entry_eq]
  generalize (lg_sl ([.ref b0, .int i1]) ++ List.replicate (5 - (lg_sl ([.ref b0, .int i1])).length) Slot.unset).toArray = ls at hl ⊢
  have hl : lv_has ls 5 [(0, .ref b0), (1, .int i1)] := hl
  exact w_fX0_isWithin C hW0 _ hm ls hl
theorem yn_X0_isWithin : YN yX0_isWithin 1 := by
  unfold YN
  decide +kernel
theorem lkX0_395 : LV RX0 395 RX0 yX0_isWithin cX0_isWithin 5 (some .boolean) := ⟨q1203, q1205, qs40, q114, q1206⟩
noncomputable def fX0_isKept (v0 : Mem) (i1 : Int32) (i2 : Int32) : Option (Int32 × Mem) :=
  ob (fX0_isWithin v0 i1) fun r1 =>
  if r1 = 0 then (
  lm (sI v0 0 16 i2) fun v0_4 =>
  some ((0 : Int32), v0_4))
  else (
  some ((1 : Int32), v0))
set_option maxHeartbeats 4000000 in
theorem w_fX0_isKept (C : Cx G p s m args meth c RX0 cX0_isKept 3 (some .boolean)) {b0 : Nat} {rx : Int32} {rw0 : Mem} : ∀ (v0 : Mem) (i1 : Int32) (i2 : Int32), fX0_isKept v0 i1 i2 = some (rx, rw0) → ∀ (H : Heap) (locs : List Loc) (ls : Array Slot), rg G b0 357 (shX0 G.2.1) v0 H → va_S (FA (fX b0) s.heap.size) s.heap H locs → H.size = s.heap.size → lv_has ls 3 [(0, .ref b0), (1, .int i1), (2, .int i2)] → W p l e (rmT 3 0 0 73) s m args below meth c H locs 0 0 (MQ below (QcT (FA (fX b0) s.heap.size) (fun ov H => ov = (some (.int rx)) ∧ rg G b0 357 (shX0 G.2.1) rw0 H ∧ H.size = s.heap.size)) args s 0 0 (FA (fX b0) s.heap.size)) (F0 m 0 ls []) := by
  intro v0 i1 i2 hm H locs ls hW0 hS hz hl
  obtain ⟨hx, hb, hr, hlk, hml, hown, hts, hK⟩ := id C
  unfold fX0_isKept at hm
  refine lv_aload_n (pc := 0) hx hb dX0_isKept_0 rfl (lv_at hl 0 rfl) ?_
  refine lv_iload_n (pc := 1) hx hb dX0_isKept_1 rfl (lv_at hl 1 rfl) ?_
  obtain ⟨r1, hq2, hm⟩ := ob_some hm
  refine rk_PV (pc := 2) (As := [.int i1]) (rest := []) hx hb hml hown hts hK lkX0_395 rfl yn_X0_isWithin (ct_X0_isWithin (G := G) (l := l) (b0 := b0) hq2) ⟨Nat.le_of_ble_eq_true rfl, Nat.le_of_ble_eq_true rfl⟩ (rk_recv hK hW0 0 (by decide) rfl rfl rfl) hW0 rfl rfl hl.1 (Nat.le_of_ble_eq_true rfl) dX0_isKept_2 ⟨Nat.zero_le _, Nat.zero_le _⟩ ?_
  refine W.eq (g2 := F0 m 5 ls [.int r1]) rfl ?_
  refine lv_if_eq (pc := 5) (tgt := 10) hx hb dX0_isKept_5 (by decide) (fun c3 => ?_) (fun c3 => ?_)
  · have hm := ite_t c3 hm
    refine lv_aload_n (pc := 10) hx hb dX0_isKept_10 rfl (lv_at hl 0 rfl) ?_
    refine lv_iload_n (pc := 11) hx hb dX0_isKept_11 rfl (lv_at hl 2 rfl) ?_
    refine rk_put (pc := 12) hx hb hts hown hK hW0 hS flX0_389 ft_X0 0 (by decide) rfl (Or.inl (show fX _ _ from ⟨⟨by omega, by omega⟩, by omega⟩)) rfl rfl (x := .int i2) rfl rfl (Nat.le_of_ble_eq_true rfl) (sI v0 0 16 i2) sI_ne (by rw [sI_eq]; exact rfl) dX0_isKept_12 (fun H5 locs6 hW7 hS8 hz9 hkp10 => ?_)
    obtain ⟨v0_4, he9, hm⟩ := lm_some hm
    rw [he9] at hW7
    have hz11 := hz9.trans hz
    refine lv_iconst (pc := 15) (v := (0 : Int32)) hx hb dX0_isKept_15 (by decide) ?_
    obtain ⟨e8, e9⟩ := rs2 hm
    subst e8
    subst e9
    exact rk_zret (pc := 16) hx hb hr hlk rfl hS8 ⟨rfl, hW7, hz11⟩ dX0_isKept_16
  · have hm := ite_f c3 hm
    refine lv_iconst (pc := 8) (v := (1 : Int32)) hx hb dX0_isKept_8 (by decide) ?_
    obtain ⟨e8, e9⟩ := rs2 hm
    subst e8
    subst e9
    exact rk_zret (pc := 9) hx hb hr hlk rfl hS ⟨rfl, hW0, hz⟩ dX0_isKept_9
set_option maxHeartbeats 4000000 in
theorem ct_X0_isKept {G : Gv} {l : Launch} {b0 : Nat} {v0 : Mem} {i1 : Int32} {i2 : Int32} {rx : Int32} {rw0 : Mem} {sz : Nat} (hm : fX0_isKept v0 i1 i2 = some (rx, rw0)) : CT G l yX0_isKept (ws_ yX0_isKept cX0_isKept 3 (some .boolean)) 3 0 0 73 [.ref b0, .int i1, .int i2] (fX b0) sz (fun H => rg G b0 357 (shX0 G.2.1) v0 H) (fun ov H => ov = (some (.int rx)) ∧ rg G b0 357 (shX0 G.2.1) rw0 H ∧ H.size = sz) := by
  refine Met.ofW (cc := cX0_isKept) (maxL := 3) (ret := (some .boolean)) (by decide +kernel) rfl ?_
  intro p e s m args below meth c s₁ B hml hv
  obtain ⟨rfl, ⟨hz, hW0⟩, hK⟩ := hv
  subst hz
  have hts := atoms_spec (ws := ws_ yX0_isKept cX0_isKept 3 (some .boolean)) B.pre
  have hts : ∀ w ∈ lw_all, w.before _ s = true := fun w h => hts w (List.mem_cons_of_mem _ h)
  have C : Cx G p s m _ meth c RX0 cX0_isKept 3 (some .boolean) := ⟨B.exec, B.bytes, B.returns, B.notSynchronized, hml, findClass_of_methodNamed B.named, hts, hK⟩
  have hl := lv_entry ([.ref b0, .int i1, .int i2]) (n := 3) (Nat.le_of_ble_eq_true rfl)
  rw [lg_entry_eq]
  generalize (lg_sl ([.ref b0, .int i1, .int i2]) ++ List.replicate (3 - (lg_sl ([.ref b0, .int i1, .int i2])).length) Slot.unset).toArray = ls at hl ⊢
  have hl : lv_has ls 3 [(0, .ref b0), (1, .int i1), (2, .int i2)] := hl
  exact w_fX0_isKept C _ _ _ hm s.heap [] ls hW0 va_S.rf rfl hl
theorem yn_X0_isKept : YN yX0_isKept 2 := by
  unfold YN
  decide +kernel
theorem lkX0_605 : LV RX0 605 RX0 yX0_isKept cX0_isKept 3 (some .boolean) := ⟨q1199, q1201, qs39, q114, q1202⟩
noncomputable def fX0_lambda_lost_5 (v0 : Mem) (i1 : Int32) (i2 : Int32) (i3 : Int32) (i4 : Int32) : Option (Int32 × Mem) :=
  if 0 < i4 then (
  some ((1 : Int32), v0))
  else (
  ob2 (fX0_isKept v0 i1 i2) fun r2 w3 =>
  if r2 = 0 then (
  some ((0 : Int32), w3))
  else (
  some ((1 : Int32), w3)))
set_option maxHeartbeats 4000000 in
theorem w_fX0_lambda_lost_5 (C : Cx G p s m args meth c RX0 cX0_lambda_lost_5 5 (some .boolean)) {b0 : Nat} {rx : Int32} {rw0 : Mem} : ∀ (v0 : Mem) (i1 : Int32) (i2 : Int32) (i3 : Int32) (i4 : Int32), fX0_lambda_lost_5 v0 i1 i2 i3 i4 = some (rx, rw0) → ∀ (H : Heap) (locs : List Loc) (ls : Array Slot), rg G b0 357 (shX0 G.2.1) v0 H → va_S (FA (fX b0) s.heap.size) s.heap H locs → H.size = s.heap.size → lv_has ls 5 [(0, .ref b0), (1, .int i1), (2, .int i2), (3, .int i3), (4, .int i4)] → W p l e (rmT 4 0 0 95) s m args below meth c H locs 0 0 (MQ below (QcT (FA (fX b0) s.heap.size) (fun ov H => ov = (some (.int rx)) ∧ rg G b0 357 (shX0 G.2.1) rw0 H ∧ H.size = s.heap.size)) args s 0 0 (FA (fX b0) s.heap.size)) (F0 m 0 ls []) := by
  intro v0 i1 i2 i3 i4 hm H locs ls hW0 hS hz hl
  obtain ⟨hx, hb, hr, hlk, hml, hown, hts, hK⟩ := id C
  unfold fX0_lambda_lost_5 at hm
  refine lv_iload (pc := 0) hx hb dX0_lambda_lost_5_0 (lv_at hl 4 rfl) ?_
  refine lv_if_gt (pc := 2) (tgt := 14) hx hb dX0_lambda_lost_5_2 (by decide) (fun c1 => ?_) (fun c1 => ?_)
  · have hm := ite_t c1 hm
    refine lv_iconst (pc := 14) (v := (1 : Int32)) hx hb dX0_lambda_lost_5_14 (by decide) ?_
    refine lv_goto (pc := 15) (tgt := 19) hx hb dX0_lambda_lost_5_15 (by decide) ?_
    obtain ⟨e8, e9⟩ := rs2 hm
    subst e8
    subst e9
    exact rk_zret (pc := 19) hx hb hr hlk rfl hS ⟨rfl, hW0, hz⟩ dX0_lambda_lost_5_19
  · have hm := ite_f c1 hm
    refine lv_aload_n (pc := 5) hx hb dX0_lambda_lost_5_5 rfl (lv_at hl 0 rfl) ?_
    refine lv_iload_n (pc := 6) hx hb dX0_lambda_lost_5_6 rfl (lv_at hl 1 rfl) ?_
    refine lv_iload_n (pc := 7) hx hb dX0_lambda_lost_5_7 rfl (lv_at hl 2 rfl) ?_
    obtain ⟨r2, w3, hq4, hm⟩ := ob2_some hm
    refine rk_TV (pc := 8) (As := [.int i1, .int i2]) (rest := []) (mc := 0) (ms := 0) hx hb hml hown hts hK hS (fun q hq => FA_sz rfl q hq) lkX0_605 rfl yn_X0_isKept (ct_X0_isKept (G := G) (l := l) (b0 := b0) (sz := H.size) hq4) ⟨Nat.le_of_ble_eq_true rfl, Nat.le_of_ble_eq_true rfl⟩ (fun z h => Or.inl h) (rk_recv hK hW0 0 (by decide) rfl rfl rfl) hW0 rfl rfl hl.1 (Nat.le_of_ble_eq_true rfl) dX0_lambda_lost_5_8 ⟨Nat.zero_le _, Nat.zero_le _⟩ (fun ov9 H5 locs6 hP7 hkp8 hS9 => ?_)
    obtain ⟨rfl, hW10, hz11⟩ := hP7
    have hz12 := hz11.trans hz
    refine W.eq (g2 := F0 m 11 ls [.int r2]) rfl ?_
    refine lv_if_eq (pc := 11) (tgt := 18) hx hb dX0_lambda_lost_5_11 (by decide) (fun c13 => ?_) (fun c13 => ?_)
    · have hm := ite_t c13 hm
      refine lv_iconst (pc := 18) (v := (0 : Int32)) hx hb dX0_lambda_lost_5_18 (by decide) ?_
      obtain ⟨e8, e9⟩ := rs2 hm
      subst e8
      subst e9
      exact rk_zret (pc := 19) hx hb hr hlk rfl hS9 ⟨rfl, hW10, hz12⟩ dX0_lambda_lost_5_19
    · have hm := ite_f c13 hm
      refine lv_iconst (pc := 14) (v := (1 : Int32)) hx hb dX0_lambda_lost_5_14 (by decide) ?_
      refine lv_goto (pc := 15) (tgt := 19) hx hb dX0_lambda_lost_5_15 (by decide) ?_
      obtain ⟨e8, e9⟩ := rs2 hm
      subst e8
      subst e9
      exact rk_zret (pc := 19) hx hb hr hlk rfl hS9 ⟨rfl, hW10, hz12⟩ dX0_lambda_lost_5_19
set_option maxHeartbeats 4000000 in
theorem ct_X0_lambda_lost_5 {G : Gv} {l : Launch} {b0 : Nat} {v0 : Mem} {i1 : Int32} {i2 : Int32} {i3 : Int32} {i4 : Int32} {rx : Int32} {rw0 : Mem} {sz : Nat} (hm : fX0_lambda_lost_5 v0 i1 i2 i3 i4 = some (rx, rw0)) : CT G l yX0_lambda_lost_5 (ws_ yX0_lambda_lost_5 cX0_lambda_lost_5 5 (some .boolean)) 4 0 0 95 [.ref b0, .int i1, .int i2, .int i3, .int i4] (fX b0) sz (fun H => rg G b0 357 (shX0 G.2.1) v0 H) (fun ov H => ov = (some (.int rx)) ∧ rg G b0 357 (shX0 G.2.1) rw0 H ∧ H.size = sz) := by
  refine Met.ofW (cc := cX0_lambda_lost_5) (maxL := 5) (ret := (some .boolean)) (by decide +kernel) rfl ?_
  intro p e s m args below meth c s₁ B hml hv
  obtain ⟨rfl, ⟨hz, hW0⟩, hK⟩ := hv
  subst hz
  have hts := atoms_spec (ws := ws_ yX0_lambda_lost_5 cX0_lambda_lost_5 5 (some .boolean)) B.pre
  have hts : ∀ w ∈ lw_all, w.before _ s = true := fun w h => hts w (List.mem_cons_of_mem _ h)
  have C : Cx G p s m _ meth c RX0 cX0_lambda_lost_5 5 (some .boolean) := ⟨B.exec, B.bytes, B.returns, B.notSynchronized, hml, findClass_of_methodNamed B.named, hts, hK⟩
  have hl := lv_entry ([.ref b0, .int i1, .int i2, .int i3, .int i4]) (n := 5) (Nat.le_of_ble_eq_true rfl)
  rw [lg_entry_eq]
  generalize (lg_sl ([.ref b0, .int i1, .int i2, .int i3, .int i4]) ++ List.replicate (5 - (lg_sl ([.ref b0, .int i1, .int i2, .int i3, .int i4])).length) Slot.unset).toArray = ls at hl ⊢
  have hl : lv_has ls 5 [(0, .ref b0), (1, .int i1), (2, .int i2), (3, .int i3), (4, .int i4)] := hl
  exact w_fX0_lambda_lost_5 C _ _ _ _ _ hm s.heap [] ls hW0 va_S.rf rfl hl
theorem yn_X0_lambda_lost_5 : YN yX0_lambda_lost_5 4 := by
  unfold YN
  decide +kernel
noncomputable def fX0_goesThrough_lost_37 (z1 : Int32) (k37 : Mem → Int32 → Option (Mem)) (v0 : Mem) (i2 : Int32) : Option (Mem) :=
  if i2 = 0 then (
  some v0)
  else (
  ob2 (fX0_nextMix v0) fun r30 w31 =>
  if r30 = 0 then (
  some w31)
  else (
  ob (fX0_codeOf_mix w31) fun r44 =>
  ob (fX0_costOf_mix w31) fun r46 =>
  ob (fX0_brokenBy_mix w31) fun r48 =>
  ob2 (fX0_lambda_lost_5 w31 z1 r44 r46 r48) fun r59 w50 =>
  gb (z01 r59) (
  k37 w50 r59)))
noncomputable def fX0_goesThrough_lost_2 (z1 : Int32) (k2 : Mem → Int32 → Option (Mem)) (v0 : Mem) (i2 : Int32) : Option (Mem) :=
  if (5 : Int32) ≤ i2 then (
  ob (fX0_brokenBy_mix v0) fun r2 =>
  ob2 (fX0_lambda_lost_5 v0 z1 (0 : Int32) (0 : Int32) r2) fun r13 w4 =>
  gb (z01 r13) (
  lq2 (fX0_goesThrough_lost_37 z1) FU w4 r13))
  else (
  gb (inR i2 5) (
  lm (sI v0 158 i2.toNatClampNeg (0 : Int32)) fun v0_19 =>
  k2 v0_19 (i2 + (1 : Int32))))
noncomputable def fX0_goesThrough_lost (z1 : Int32) (v0 : Mem) : Option (Mem) :=
  lq2 (fX0_goesThrough_lost_2 z1) FU v0 (0 : Int32)
set_option maxHeartbeats 4000000 in
theorem w_fX0_goesThrough_lost_37 (C : Cx G p s m args meth c RX0 cX0_goesThrough 3 none) {b0 : Nat} {p1 : Nat} {z1 : Int32} {rw0 : Mem} (hap1 : b0 + 357 ≤ p1) (he0 : b0 + 357 ≤ s.heap.size) (hZ : ZQ G) (hgb0 : gB G ≤ b0) (hZL : ZL G) {k37 : Mem → Int32 → Option (Mem)} (hk37 : ∀ (v0 : Mem) (i2 : Int32), k37 v0 i2 = some rw0 → ∀ (H : Heap) (locs : List Loc) (ls : Array Slot), rg G b0 357 (shX0 G.2.1) v0 H → va_S (FA (fX b0) s.heap.size) s.heap H locs → H.size = s.heap.size → GO G H → LC H p1 (G.2.1 27) [.ref b0, .int z1] → lv_has ls 3 [(0, .ref b0), (1, .ref p1), (2, .int i2)] → W p l e (rmT 6 0 0 142) s m args below meth c H locs 0 0 (MQ below (QcT (FA (fX b0) s.heap.size) (fun ov H => ov = none ∧ rg G b0 357 (shX0 G.2.1) rw0 H ∧ H.size = s.heap.size)) args s 0 0 (FA (fX b0) s.heap.size)) (F0 m 37 ls [])) : ∀ (v0 : Mem) (i2 : Int32), fX0_goesThrough_lost_37 z1 k37 v0 i2 = some rw0 → ∀ (H : Heap) (locs : List Loc) (ls : Array Slot), rg G b0 357 (shX0 G.2.1) v0 H → va_S (FA (fX b0) s.heap.size) s.heap H locs → H.size = s.heap.size → GO G H → LC H p1 (G.2.1 27) [.ref b0, .int z1] → lv_has ls 3 [(0, .ref b0), (1, .ref p1), (2, .int i2)] → W p l e (rmT 6 0 0 142) s m args below meth c H locs 0 0 (MQ below (QcT (FA (fX b0) s.heap.size) (fun ov H => ov = none ∧ rg G b0 357 (shX0 G.2.1) rw0 H ∧ H.size = s.heap.size)) args s 0 0 (FA (fX b0) s.heap.size)) (F0 m 37 ls []) := by
  intro v0 i2 hm H locs ls hW0 hS hz hG hL1 hl
  obtain ⟨hx, hb, hr, hlk, hml, hown, hts, hK⟩ := id C
  unfold fX0_goesThrough_lost_37 at hm
  refine lv_iload_n (pc := 37) hx hb dX0_goesThrough_37 rfl (lv_at hl 2 rfl) ?_
  refine lv_if_eq (pc := 38) (tgt := 82) hx hb dX0_goesThrough_38 (by decide) (fun c29 => ?_) (fun c29 => ?_)
  · have hm := ite_t c29 hm
    have e9 := rs1 hm
    subst e9
    exact rk_vret (pc := 82) hx hb hr hlk hS ⟨rfl, hW0, hz⟩ dX0_goesThrough_82
  · have hm := ite_f c29 hm
    refine lv_aload_n (pc := 41) hx hb dX0_goesThrough_41 rfl (lv_at hl 0 rfl) ?_
    obtain ⟨r30, w31, hq32, hm⟩ := ob2_some hm
    refine rk_TV (pc := 42) (As := []) (rest := []) (mc := 0) (ms := 0) hx hb hml hown hts hK hS (fun q hq => FA_sz rfl q hq) lkX0_343 rfl yn_X0_nextMix (ct_X0_nextMix (G := G) (l := l) (b0 := b0) (sz := H.size) hq32) ⟨Nat.le_of_ble_eq_true rfl, Nat.le_of_ble_eq_true rfl⟩ (fun z h => Or.inl h) (rk_recv hK hW0 0 (by decide) rfl rfl rfl) hW0 rfl rfl hl.1 (Nat.le_of_ble_eq_true rfl) dX0_goesThrough_42 ⟨Nat.zero_le _, Nat.zero_le _⟩ (fun ov9 H33 locs34 hP35 hkp36 hS37 => ?_)
    obtain ⟨rfl, hW38, hz39⟩ := hP35
    have hG40 := GO_keepA hG hkp36 (Nat.le_trans (show gB G ≤ s.heap.size by omega) hS.1) (by intro z h3; have h8 := h3.1.1; have h9 := h3.1.2; omega)
    have hL41 := LC.keepA hL1 hkp36 (by intro h3; have h8 := h3.1.1; have h9 := h3.1.2; omega)
    have hz42 := hz39.trans hz
    refine W.eq (g2 := F0 m 45 ls [.int r30]) rfl ?_
    refine lv_if_eq (pc := 45) (tgt := 82) hx hb dX0_goesThrough_45 (by decide) (fun c43 => ?_) (fun c43 => ?_)
    · have hm := ite_t c43 hm
      have e9 := rs1 hm
      subst e9
      exact rk_vret (pc := 82) hx hb hr hlk hS37 ⟨rfl, hW38, hz42⟩ dX0_goesThrough_82
    · have hm := ite_f c43 hm
      refine lv_aload_n (pc := 48) hx hb dX0_goesThrough_48 rfl (lv_at hl 1 rfl) ?_
      refine lv_aload_n (pc := 49) hx hb dX0_goesThrough_49 rfl (lv_at hl 0 rfl) ?_
      refine lv_aload_n (pc := 50) hx hb dX0_goesThrough_50 rfl (lv_at hl 0 rfl) ?_
      refine rk_get (pc := 51) hx hb hts hown hK hW38 flX0_60 0 (by decide) rfl rfl (x := .ref (b0 + 158)) (by first | rfl | exact congrArg (fun z => some (Value.ref z)) (by omega)) dX0_goesThrough_51 ?_
      obtain ⟨r44, hq45, hm⟩ := ob_some hm
      refine rk_PV (pc := 54) (As := [.ref (b0 + 158)]) (rest := [.ref p1]) hx hb hml hown hts hK lkX0_347 rfl yn_X0_codeOf (ct_X0_codeOf_mix (G := G) (l := l) (b0 := b0) hq45) ⟨Nat.le_of_ble_eq_true rfl, Nat.le_of_ble_eq_true rfl⟩ (rk_recv hK hW38 0 (by decide) rfl rfl rfl) hW38 rfl rfl hl.1 (Nat.le_of_ble_eq_true rfl) dX0_goesThrough_54 ⟨Nat.zero_le _, Nat.zero_le _⟩ ?_
      refine W.eq (g2 := F0 m 57 ls [.int r44, .ref p1]) rfl ?_
      refine lv_aload_n (pc := 57) hx hb dX0_goesThrough_57 rfl (lv_at hl 0 rfl) ?_
      refine lv_aload_n (pc := 58) hx hb dX0_goesThrough_58 rfl (lv_at hl 0 rfl) ?_
      refine rk_get (pc := 59) hx hb hts hown hK hW38 flX0_60 0 (by decide) rfl rfl (x := .ref (b0 + 158)) (by first | rfl | exact congrArg (fun z => some (Value.ref z)) (by omega)) dX0_goesThrough_59 ?_
      obtain ⟨r46, hq47, hm⟩ := ob_some hm
      refine rk_PV (pc := 62) (As := [.ref (b0 + 158)]) (rest := [.int r44, .ref p1]) hx hb hml hown hts hK lkX0_350 rfl yn_X0_costOf (ct_X0_costOf_mix (G := G) (l := l) (b0 := b0) hq47) ⟨Nat.le_of_ble_eq_true rfl, Nat.le_of_ble_eq_true rfl⟩ (rk_recv hK hW38 0 (by decide) rfl rfl rfl) hW38 rfl rfl hl.1 (Nat.le_of_ble_eq_true rfl) dX0_goesThrough_62 ⟨Nat.zero_le _, Nat.zero_le _⟩ ?_
      refine W.eq (g2 := F0 m 65 ls [.int r46, .int r44, .ref p1]) rfl ?_
      refine lv_aload_n (pc := 65) hx hb dX0_goesThrough_65 rfl (lv_at hl 0 rfl) ?_
      refine lv_aload_n (pc := 66) hx hb dX0_goesThrough_66 rfl (lv_at hl 0 rfl) ?_
      refine rk_get (pc := 67) hx hb hts hown hK hW38 flX0_60 0 (by decide) rfl rfl (x := .ref (b0 + 158)) (by first | rfl | exact congrArg (fun z => some (Value.ref z)) (by omega)) dX0_goesThrough_67 ?_
      obtain ⟨r48, hq49, hm⟩ := ob_some hm
      refine rk_PV (pc := 70) (As := [.ref (b0 + 158)]) (rest := [.int r46, .int r44, .ref p1]) hx hb hml hown hts hK lkX0_333 rfl yn_X0_brokenBy (ct_X0_brokenBy_mix (G := G) (l := l) (b0 := b0) hq49 hZ (by omega) hZL) ⟨Nat.le_of_ble_eq_true rfl, Nat.le_of_ble_eq_true rfl⟩ (rk_recv hK hW38 0 (by decide) rfl rfl rfl) ⟨hW38, hG40⟩ rfl rfl hl.1 (Nat.le_of_ble_eq_true rfl) dX0_goesThrough_70 ⟨Nat.zero_le _, Nat.zero_le _⟩ ?_
      refine W.eq (g2 := F0 m 73 ls [.int r48, .int r46, .int r44, .ref p1]) rfl ?_
      obtain ⟨r59, w50, hq51, hm⟩ := ob2_some hm
      obtain ⟨hg60, hm⟩ := gb_some hm
      refine rk_lamK (pc := 73) (y := yX0_lambda_lost_5) (z0 := z1) (z1 := r44) (z2 := r46) (z3 := r48) (b := b0) (rest := []) (mc := 0) (ms := 0) hx hb hml hown hts hK hS37 (fun q hq => FA_sz rfl q hq) lfK2 (hZL.1 s hK).1.2.2.2.2.2.2.2 (hZL.1 s hK).2.1.2.2 q1158 q1160 hL41 rfl rfl rfl yn_X0_lambda_lost_5 ⟨q1197, qs38, q114, q1198⟩ (ct_X0_lambda_lost_5 (G := G) (l := l) (b0 := b0) (sz := H33.size) hq51) (fun ov H h => ⟨_, h.1, hg60⟩) ⟨Nat.le_of_ble_eq_true rfl, Nat.le_of_ble_eq_true rfl⟩ (fun z h => Or.inl h) (rk_recv hK hW38 0 (by decide) rfl rfl rfl) hW38 hl.1 (Nat.le_of_ble_eq_true rfl) dX0_goesThrough_73 ⟨Nat.zero_le _, Nat.zero_le _⟩ (fun r9 H52 locs53 hP54 hkp55 hS56 => ?_)
      obtain ⟨h19, hW57, hz58⟩ := hP54
      cases h19
      have hL61 := LC.keepA hL41 hkp55 (by intro h3; have h8 := h3.1.1; have h9 := h3.1.2; omega)
      have hG62 := GO_keepA hG40 hkp55 (Nat.le_trans (show gB G ≤ s.heap.size by omega) hS37.1) (by intro z h3; have h8 := h3.1.1; have h9 := h3.1.2; omega)
      have hz63 := hz58.trans hz42
      refine lv_istore_n (pc := 78) (lv' := [(2, .int r59), (0, .ref b0), (1, .ref p1)]) hx hb dX0_goesThrough_78 rfl hl (by decide) rfl (fun ls hl => ?_)
      refine lv_goto (pc := 79) (tgt := 37) hx hb dX0_goesThrough_79 (by decide) ?_
      exact hk37 w50 r59 hm H52 locs53 ls hW57 hS56 hz63 hG62 hL61 (lv_sub hl [1, 2, 0] rfl)
theorem w_fX0_goesThrough_lost_37_l (C : Cx G p s m args meth c RX0 cX0_goesThrough 3 none) {b0 : Nat} {p1 : Nat} {z1 : Int32} {rw0 : Mem} (hap1 : b0 + 357 ≤ p1) (he0 : b0 + 357 ≤ s.heap.size) (hZ : ZQ G) (hgb0 : gB G ≤ b0) (hZL : ZL G) : ∀ (n : Nat) (v0 : Mem) (i2 : Int32), lq2 (fX0_goesThrough_lost_37 z1) n v0 i2 = some rw0 → ∀ (H : Heap) (locs : List Loc) (ls : Array Slot), rg G b0 357 (shX0 G.2.1) v0 H → va_S (FA (fX b0) s.heap.size) s.heap H locs → H.size = s.heap.size → GO G H → LC H p1 (G.2.1 27) [.ref b0, .int z1] → lv_has ls 3 [(0, .ref b0), (1, .ref p1), (2, .int i2)] → W p l e (rmT 6 0 0 142) s m args below meth c H locs 0 0 (MQ below (QcT (FA (fX b0) s.heap.size) (fun ov H => ov = none ∧ rg G b0 357 (shX0 G.2.1) rw0 H ∧ H.size = s.heap.size)) args s 0 0 (FA (fX b0) s.heap.size)) (F0 m 37 ls []) := by
  intro n
  induction n with
  | zero => intro v0 i2 hm; exact (lq2_0 hm).elim
  | succ n ih => intro v0 i2 hm; exact w_fX0_goesThrough_lost_37 C hap1 he0 hZ hgb0 hZL ih v0 i2 (lq2_s hm)
set_option maxHeartbeats 4000000 in
theorem w_fX0_goesThrough_lost_2 (C : Cx G p s m args meth c RX0 cX0_goesThrough 3 none) {b0 : Nat} {p1 : Nat} {z1 : Int32} {rw0 : Mem} (hap1 : b0 + 357 ≤ p1) (he0 : b0 + 357 ≤ s.heap.size) (hZ : ZQ G) (hgb0 : gB G ≤ b0) (hZL : ZL G) {k2 : Mem → Int32 → Option (Mem)} (hk2 : ∀ (v0 : Mem) (i2 : Int32), k2 v0 i2 = some rw0 → ∀ (H : Heap) (locs : List Loc) (ls : Array Slot), rg G b0 357 (shX0 G.2.1) v0 H → va_S (FA (fX b0) s.heap.size) s.heap H locs → H.size = s.heap.size → GO G H → LC H p1 (G.2.1 27) [.ref b0, .int z1] → lv_has ls 3 [(0, .ref b0), (1, .ref p1), (2, .int i2)] → W p l e (rmT 6 0 0 142) s m args below meth c H locs 0 0 (MQ below (QcT (FA (fX b0) s.heap.size) (fun ov H => ov = none ∧ rg G b0 357 (shX0 G.2.1) rw0 H ∧ H.size = s.heap.size)) args s 0 0 (FA (fX b0) s.heap.size)) (F0 m 2 ls [])) : ∀ (v0 : Mem) (i2 : Int32), fX0_goesThrough_lost_2 z1 k2 v0 i2 = some rw0 → ∀ (H : Heap) (locs : List Loc) (ls : Array Slot), rg G b0 357 (shX0 G.2.1) v0 H → va_S (FA (fX b0) s.heap.size) s.heap H locs → H.size = s.heap.size → GO G H → LC H p1 (G.2.1 27) [.ref b0, .int z1] → lv_has ls 3 [(0, .ref b0), (1, .ref p1), (2, .int i2)] → W p l e (rmT 6 0 0 142) s m args below meth c H locs 0 0 (MQ below (QcT (FA (fX b0) s.heap.size) (fun ov H => ov = none ∧ rg G b0 357 (shX0 G.2.1) rw0 H ∧ H.size = s.heap.size)) args s 0 0 (FA (fX b0) s.heap.size)) (F0 m 2 ls []) := by
  intro v0 i2 hm H locs ls hW0 hS hz hG hL1 hl
  obtain ⟨hx, hb, hr, hlk, hml, hown, hts, hK⟩ := id C
  unfold fX0_goesThrough_lost_2 at hm
  refine lv_iload_n (pc := 2) hx hb dX0_goesThrough_2 rfl (lv_at hl 2 rfl) ?_
  refine lv_iconst (pc := 3) (v := (5 : Int32)) hx hb dX0_goesThrough_3 (by decide) ?_
  refine lv_icmp_ge (pc := 4) (tgt := 20) hx hb dX0_goesThrough_4 (by decide) (fun c1 => ?_) (fun c1 => ?_)
  · have hm := ite_t c1 hm
    refine lv_aload_n (pc := 20) hx hb dX0_goesThrough_20 rfl (lv_at hl 1 rfl) ?_
    refine lv_iconst (pc := 21) (v := (0 : Int32)) hx hb dX0_goesThrough_21 (by decide) ?_
    refine lv_iconst (pc := 22) (v := (0 : Int32)) hx hb dX0_goesThrough_22 (by decide) ?_
    refine lv_aload_n (pc := 23) hx hb dX0_goesThrough_23 rfl (lv_at hl 0 rfl) ?_
    refine lv_aload_n (pc := 24) hx hb dX0_goesThrough_24 rfl (lv_at hl 0 rfl) ?_
    refine rk_get (pc := 25) hx hb hts hown hK hW0 flX0_60 0 (by decide) rfl rfl (x := .ref (b0 + 158)) (by first | rfl | exact congrArg (fun z => some (Value.ref z)) (by omega)) dX0_goesThrough_25 ?_
    obtain ⟨r2, hq3, hm⟩ := ob_some hm
    refine rk_PV (pc := 28) (As := [.ref (b0 + 158)]) (rest := [.int (0 : Int32), .int (0 : Int32), .ref p1]) hx hb hml hown hts hK lkX0_333 rfl yn_X0_brokenBy (ct_X0_brokenBy_mix (G := G) (l := l) (b0 := b0) hq3 hZ (by omega) hZL) ⟨Nat.le_of_ble_eq_true rfl, Nat.le_of_ble_eq_true rfl⟩ (rk_recv hK hW0 0 (by decide) rfl rfl rfl) ⟨hW0, hG⟩ rfl rfl hl.1 (Nat.le_of_ble_eq_true rfl) dX0_goesThrough_28 ⟨Nat.zero_le _, Nat.zero_le _⟩ ?_
    refine W.eq (g2 := F0 m 31 ls [.int r2, .int (0 : Int32), .int (0 : Int32), .ref p1]) rfl ?_
    obtain ⟨r13, w4, hq5, hm⟩ := ob2_some hm
    obtain ⟨hg14, hm⟩ := gb_some hm
    refine rk_lamK (pc := 31) (y := yX0_lambda_lost_5) (z0 := z1) (z1 := (0 : Int32)) (z2 := (0 : Int32)) (z3 := r2) (b := b0) (rest := []) (mc := 0) (ms := 0) hx hb hml hown hts hK hS (fun q hq => FA_sz rfl q hq) lfK2 (hZL.1 s hK).1.2.2.2.2.2.2.2 (hZL.1 s hK).2.1.2.2 q1158 q1160 hL1 rfl rfl rfl yn_X0_lambda_lost_5 ⟨q1197, qs38, q114, q1198⟩ (ct_X0_lambda_lost_5 (G := G) (l := l) (b0 := b0) (sz := H.size) hq5) (fun ov H h => ⟨_, h.1, hg14⟩) ⟨Nat.le_of_ble_eq_true rfl, Nat.le_of_ble_eq_true rfl⟩ (fun z h => Or.inl h) (rk_recv hK hW0 0 (by decide) rfl rfl rfl) hW0 hl.1 (Nat.le_of_ble_eq_true rfl) dX0_goesThrough_31 ⟨Nat.zero_le _, Nat.zero_le _⟩ (fun r9 H6 locs7 hP8 hkp9 hS10 => ?_)
    obtain ⟨h19, hW11, hz12⟩ := hP8
    cases h19
    have hL15 := LC.keepA hL1 hkp9 (by intro h3; have h8 := h3.1.1; have h9 := h3.1.2; omega)
    have hG16 := GO_keepA hG hkp9 (Nat.le_trans (show gB G ≤ s.heap.size by omega) hS.1) (by intro z h3; have h8 := h3.1.1; have h9 := h3.1.2; omega)
    have hz17 := hz12.trans hz
    refine lv_istore_n (pc := 36) (lv' := [(2, .int r13), (0, .ref b0), (1, .ref p1)]) hx hb dX0_goesThrough_36 rfl hl (by decide) rfl (fun ls hl => ?_)
    exact (w_fX0_goesThrough_lost_37_l C hap1 he0 hZ hgb0 hZL FU) w4 r13 hm H6 locs7 ls hW11 hS10 hz17 hG16 hL15 (lv_sub hl [1, 2, 0] rfl)
  · have hm := ite_f c1 hm
    refine lv_aload_n (pc := 7) hx hb dX0_goesThrough_7 rfl (lv_at hl 0 rfl) ?_
    refine rk_get (pc := 8) hx hb hts hown hK hW0 flX0_60 0 (by decide) rfl rfl (x := .ref (b0 + 158)) (by first | rfl | exact congrArg (fun z => some (Value.ref z)) (by omega)) dX0_goesThrough_8 ?_
    refine lv_iload_n (pc := 11) hx hb dX0_goesThrough_11 rfl (lv_at hl 2 rfl) ?_
    refine lv_iconst (pc := 12) (v := (0 : Int32)) hx hb dX0_goesThrough_12 (by decide) ?_
    obtain ⟨hg18, hm⟩ := gb_some hm
    refine rk_iast (pc := 13) hx hb hK hW0 hS 158 (by decide) rfl (Or.inl (show fX _ _ from ⟨⟨by omega, by omega⟩, by omega⟩)) (fun _ _ _ => rfl) hg18 dX0_goesThrough_13 (fun H20 locs21 hW22 hS23 hz24 hkp25 => ?_)
    obtain ⟨v0_19, he9, hm⟩ := lm_some hm
    rw [he9] at hW22
    have hz26 := hz24.trans hz
    have hG27 := GO_keepq hG hkp25 (by omega)
    have hL28 := LC.keepq hL1 hkp25 (by omega)
    refine lv_iinc (pc := 14) (v := (i2 + (1 : Int32))) (lv' := [(2, .int (i2 + (1 : Int32))), (0, .ref b0), (1, .ref p1)]) hx hb dX0_goesThrough_14 hl (k := 2) rfl rfl (by decide) rfl (fun ls hl => ?_)
    refine lv_goto (pc := 17) (tgt := 2) hx hb dX0_goesThrough_17 (by decide) ?_
    exact hk2 v0_19 (i2 + (1 : Int32)) hm H20 locs21 ls hW22 hS23 hz26 hG27 hL28 (lv_sub hl [1, 2, 0] rfl)
theorem w_fX0_goesThrough_lost_2_l (C : Cx G p s m args meth c RX0 cX0_goesThrough 3 none) {b0 : Nat} {p1 : Nat} {z1 : Int32} {rw0 : Mem} (hap1 : b0 + 357 ≤ p1) (he0 : b0 + 357 ≤ s.heap.size) (hZ : ZQ G) (hgb0 : gB G ≤ b0) (hZL : ZL G) : ∀ (n : Nat) (v0 : Mem) (i2 : Int32), lq2 (fX0_goesThrough_lost_2 z1) n v0 i2 = some rw0 → ∀ (H : Heap) (locs : List Loc) (ls : Array Slot), rg G b0 357 (shX0 G.2.1) v0 H → va_S (FA (fX b0) s.heap.size) s.heap H locs → H.size = s.heap.size → GO G H → LC H p1 (G.2.1 27) [.ref b0, .int z1] → lv_has ls 3 [(0, .ref b0), (1, .ref p1), (2, .int i2)] → W p l e (rmT 6 0 0 142) s m args below meth c H locs 0 0 (MQ below (QcT (FA (fX b0) s.heap.size) (fun ov H => ov = none ∧ rg G b0 357 (shX0 G.2.1) rw0 H ∧ H.size = s.heap.size)) args s 0 0 (FA (fX b0) s.heap.size)) (F0 m 2 ls []) := by
  intro n
  induction n with
  | zero => intro v0 i2 hm; exact (lq2_0 hm).elim
  | succ n ih => intro v0 i2 hm; exact w_fX0_goesThrough_lost_2 C hap1 he0 hZ hgb0 hZL ih v0 i2 (lq2_s hm)
set_option maxHeartbeats 4000000 in
theorem w_fX0_goesThrough_lost (C : Cx G p s m args meth c RX0 cX0_goesThrough 3 none) {b0 : Nat} {p1 : Nat} {z1 : Int32} {rw0 : Mem} (hap1 : b0 + 357 ≤ p1) (he0 : b0 + 357 ≤ s.heap.size) (hZ : ZQ G) (hgb0 : gB G ≤ b0) (hZL : ZL G) : ∀ (v0 : Mem), fX0_goesThrough_lost z1 v0 = some rw0 → ∀ (H : Heap) (locs : List Loc) (ls : Array Slot), rg G b0 357 (shX0 G.2.1) v0 H → va_S (FA (fX b0) s.heap.size) s.heap H locs → H.size = s.heap.size → GO G H → LC H p1 (G.2.1 27) [.ref b0, .int z1] → lv_has ls 3 [(0, .ref b0), (1, .ref p1)] → W p l e (rmT 6 0 0 142) s m args below meth c H locs 0 0 (MQ below (QcT (FA (fX b0) s.heap.size) (fun ov H => ov = none ∧ rg G b0 357 (shX0 G.2.1) rw0 H ∧ H.size = s.heap.size)) args s 0 0 (FA (fX b0) s.heap.size)) (F0 m 0 ls []) := by
  intro v0 hm H locs ls hW0 hS hz hG hL1 hl
  obtain ⟨hx, hb, hr, hlk, hml, hown, hts, hK⟩ := id C
  unfold fX0_goesThrough_lost at hm
  refine lv_iconst (pc := 0) (v := (0 : Int32)) hx hb dX0_goesThrough_0 (by decide) ?_
  refine lv_istore_n (pc := 1) (lv' := [(2, .int (0 : Int32)), (0, .ref b0), (1, .ref p1)]) hx hb dX0_goesThrough_1 rfl hl (by decide) rfl (fun ls hl => ?_)
  exact (w_fX0_goesThrough_lost_2_l C hap1 he0 hZ hgb0 hZL FU) v0 (0 : Int32) hm H locs ls hW0 hS hz hG hL1 (lv_sub hl [1, 2, 0] rfl)
set_option maxHeartbeats 4000000 in
theorem ct_X0_goesThrough_lost {G : Gv} {l : Launch} {b0 : Nat} {p1 : Nat} {z1 : Int32} {v0 : Mem} {rw0 : Mem} {sz : Nat} (hm : fX0_goesThrough_lost z1 v0 = some rw0) (hap1 : b0 + 357 ≤ p1) (hZ : ZQ G) (hgb0 : gB G ≤ b0) (hZL : ZL G) : CT G l yX0_goesThrough (ws_ yX0_goesThrough cX0_goesThrough 3 none) 6 0 0 142 [.ref b0, .ref p1] (fX b0) sz (fun H => rg G b0 357 (shX0 G.2.1) v0 H ∧ GO G H ∧ LC H p1 (G.2.1 27) [.ref b0, .int z1]) (fun ov H => ov = none ∧ rg G b0 357 (shX0 G.2.1) rw0 H ∧ H.size = sz) := by
  refine Met.ofW (cc := cX0_goesThrough) (maxL := 3) (ret := none) (by decide +kernel) rfl ?_
  intro p e s m args below meth c s₁ B hml hv
  obtain ⟨rfl, ⟨hz, hW0, hG, hL1⟩, hK⟩ := hv
  subst hz
  have he0 := rg_end hW0 356 (by decide) rfl (fun _ _ _ => rfl)
  have hts := atoms_spec (ws := ws_ yX0_goesThrough cX0_goesThrough 3 none) B.pre
  have hts : ∀ w ∈ lw_all, w.before _ s = true := fun w h => hts w (List.mem_cons_of_mem _ h)
  have C : Cx G p s m _ meth c RX0 cX0_goesThrough 3 none := ⟨B.exec, B.bytes, B.returns, B.notSynchronized, hml, findClass_of_methodNamed B.named, hts, hK⟩
  have hl := lv_entry ([.ref b0, .ref p1]) (n := 3) (Nat.le_of_ble_eq_true rfl)
  rw [lg_entry_eq]
  generalize (lg_sl ([.ref b0, .ref p1]) ++ List.replicate (3 - (lg_sl ([.ref b0, .ref p1])).length) Slot.unset).toArray = ls at hl ⊢
  have hl : lv_has ls 3 [(0, .ref b0), (1, .ref p1)] := hl
  exact w_fX0_goesThrough_lost C hap1 he0 hZ hgb0 hZL _ hm s.heap [] ls hW0 va_S.rf rfl hG hL1 hl
noncomputable def fX0_lost_15 (v0 : Mem) (zc : Nat) (i1 : Int32) : Option (Int32 × Nat × Mem) :=
  lm (sI v0 0 16 (-5 : Int32)) fun v0_5 =>
  ob (fX0_goesThrough_lost i1 v0_5) fun w23 =>
  some ((gI w23 0 16), (zc + 1), w23)
noncomputable def fX0_lost (v0 : Mem) (i1 : Int32) : Option (Int32 × Nat × Mem) :=
  if i1 = (-1 : Int32) then (
  fX0_lost_15 v0 0 i1)
  else (
  ob (fX0_isCut v0 i1) fun r2 =>
  if r2 = 0 then (
  some ((-1 : Int32), 0, v0))
  else (
  fX0_lost_15 v0 0 i1))
set_option maxHeartbeats 4000000 in
theorem w_fX0_lost_15 (C : Cx G p s m args meth c RX0 cX0_lost 2 (some .int)) {b0 : Nat} {rx : Int32} {rc : Nat} {rw0 : Mem} (he0 : b0 + 357 ≤ s.heap.size) (hZ : ZQ G) (hgb0 : gB G ≤ b0) (hZL : ZL G) (hnm : s.methodNamed? yX0_lost = some m) : ∀ (v0 : Mem) (zc : Nat) (i1 : Int32), fX0_lost_15 v0 zc i1 = some (rx, rc, rw0) → ∀ (H : Heap) (locs : List Loc) (ls : Array Slot), rg G b0 357 (shX0 G.2.1) v0 H → va_S (FA (fX b0) s.heap.size) s.heap H locs → H.size = s.heap.size + zc → GO G H → lv_has ls 2 [(0, .ref b0), (1, .int i1)] → W p l e (rmT 7 1 2 3088) s m args below meth c H locs 0 0 (MQ below (QcT (FA (fX b0) s.heap.size) (fun ov H => ov = (some (.int rx)) ∧ rg G b0 357 (shX0 G.2.1) rw0 H ∧ H.size = s.heap.size + rc)) args s 1 2 (FA (fX b0) s.heap.size)) (F0 m 15 ls []) := by
  intro v0 zc i1 hm H locs ls hW0 hS hz hG hl
  obtain ⟨hx, hb, hr, hlk, hml, hown, hts, hK⟩ := id C
  unfold fX0_lost_15 at hm
  refine lv_aload_n (pc := 15) hx hb dX0_lost_15 rfl (lv_at hl 0 rfl) ?_
  refine lv_bipush (pc := 16) (v := (-5 : Int32)) hx hb dX0_lost_16 (by decide) ?_
  refine rk_put (pc := 18) hx hb hts hown hK hW0 hS flX0_389 ft_X0 0 (by decide) rfl (Or.inl (show fX _ _ from ⟨⟨by omega, by omega⟩, by omega⟩)) rfl rfl (x := .int (-5 : Int32)) rfl rfl (Nat.le_of_ble_eq_true rfl) (sI v0 0 16 (-5 : Int32)) sI_ne (by rw [sI_eq]; exact rfl) dX0_lost_18 (fun H6 locs7 hW8 hS9 hz10 hkp11 => ?_)
  obtain ⟨v0_5, he9, hm⟩ := lm_some hm
  rw [he9] at hW8
  have hz12 := hz10.trans hz
  have hG13 := GO_keepq hG hkp11 (by omega)
  refine lv_aload_n (pc := 21) hx hb dX0_lost_21 rfl (lv_at hl 0 rfl) ?_
  refine lv_aload_n (pc := 22) hx hb dX0_lost_22 rfl (lv_at hl 0 rfl) ?_
  refine lv_iload_n (pc := 23) hx hb dX0_lost_23 rfl (lv_at hl 1 rfl) ?_
  obtain ⟨h14, hh14⟩ : ∃ h, H6.size = h := ⟨_, rfl⟩
  have hqh14 : s.heap.size ≤ h14 := Nat.le_trans hS9.1 (Nat.le_of_eq hh14)
  refine rk_made (pc := 24) (h := h14) (vals := [.ref b0, .int i1]) (rest := [.ref b0]) hx hb hml hl.1 hnm hS9 (hZL.1 s hK).2.2.2.2 lfK2 rfl rfl (fun i v hv => by rcases i with _ | _ | i <;> simp at hv <;> subst hv <;> exact ⟨_, rfl, rfl⟩) rfl (Nat.le_of_ble_eq_true rfl) hh14 (Nat.le_of_ble_eq_true rfl) (Nat.le_of_ble_eq_true rfl) dX0_lost_24 (fun H15 hL16 hS17 hz18 hkp19 => ?_)
  have hW20 := rg_keepN hW8 hh14 hkp19
  have hz21 : H15.size = s.heap.size + (zc + 1) := by omega
  have hG22 := GO_keepN hG13 (by omega) hkp19
  obtain ⟨w23, hq24, hm⟩ := ob_some hm
  refine rk_TV (pc := 29) (As := [.ref h14]) (rest := []) (mc := 0) (ms := 0) hx hb hml hown hts hK hS17 (fun q hq => FA_sz rfl q hq) lkX0_382 rfl yn_X0_goesThrough (ct_X0_goesThrough_lost (G := G) (l := l) (p1 := h14) (b0 := b0) (sz := H15.size) hq24 (by omega) hZ (by omega) hZL) ⟨Nat.le_of_ble_eq_true rfl, Nat.le_of_ble_eq_true rfl⟩ (fun z h => Or.inl h) (rk_recv hK hW20 0 (by decide) rfl rfl rfl) ⟨hW20, hG22, hL16⟩ rfl rfl hl.1 (Nat.le_of_ble_eq_true rfl) dX0_lost_29 ⟨Nat.le_of_ble_eq_true rfl, Nat.le_of_ble_eq_true rfl⟩ (fun ov9 H25 locs26 hP27 hkp28 hS29 => ?_)
  obtain ⟨rfl, hW30, hz31⟩ := hP27
  have hG32 := GO_keepA hG22 hkp28 (Nat.le_trans (show gB G ≤ s.heap.size by omega) hS17.1) (by intro z h3; have h8 := h3.1.1; have h9 := h3.1.2; omega)
  have hL33 := LC.keepA hL16 hkp28 (by intro h3; have h8 := h3.1.1; have h9 := h3.1.2; omega)
  have hz34 := hz31.trans hz21
  refine W.eq (g2 := F0 m 32 ls []) rfl ?_
  refine lv_aload_n (pc := 32) hx hb dX0_lost_32 rfl (lv_at hl 0 rfl) ?_
  refine rk_get (pc := 33) hx hb hts hown hK hW30 flX0_389 0 (by decide) rfl rfl (x := .int (gI w23 0 16)) rfl dX0_lost_33 ?_
  obtain ⟨e7, e8, e9⟩ := rs3 hm
  subst e7
  subst e8
  subst e9
  exact rk_iretA (pc := 36) hx hb hr hlk hS29 ⟨rfl, hW30, hz34⟩ dX0_lost_36 (by exact Nat.le_of_ble_eq_true rfl) (by exact Nat.le_of_ble_eq_true rfl)
set_option maxHeartbeats 4000000 in
theorem w_fX0_lost (C : Cx G p s m args meth c RX0 cX0_lost 2 (some .int)) {b0 : Nat} {rx : Int32} {rc : Nat} {rw0 : Mem} (he0 : b0 + 357 ≤ s.heap.size) (hZ : ZQ G) (hgb0 : gB G ≤ b0) (hZL : ZL G) (hnm : s.methodNamed? yX0_lost = some m) : ∀ (v0 : Mem) (i1 : Int32), fX0_lost v0 i1 = some (rx, rc, rw0) → ∀ (H : Heap) (locs : List Loc) (ls : Array Slot), rg G b0 357 (shX0 G.2.1) v0 H → va_S (FA (fX b0) s.heap.size) s.heap H locs → H.size = s.heap.size + 0 → GO G H → lv_has ls 2 [(0, .ref b0), (1, .int i1)] → W p l e (rmT 7 1 2 3088) s m args below meth c H locs 0 0 (MQ below (QcT (FA (fX b0) s.heap.size) (fun ov H => ov = (some (.int rx)) ∧ rg G b0 357 (shX0 G.2.1) rw0 H ∧ H.size = s.heap.size + rc)) args s 1 2 (FA (fX b0) s.heap.size)) (F0 m 0 ls []) := by
  intro v0 i1 hm H locs ls hW0 hS hz hG hl
  obtain ⟨hx, hb, hr, hlk, hml, hown, hts, hK⟩ := id C
  unfold fX0_lost at hm
  refine lv_iload_n (pc := 0) hx hb dX0_lost_0 rfl (lv_at hl 1 rfl) ?_
  refine lv_iconst (pc := 1) (v := (-1 : Int32)) hx hb dX0_lost_1 (by decide) ?_
  refine lv_icmp_eq (pc := 2) (tgt := 15) hx hb dX0_lost_2 (by decide) (fun c1 => ?_) (fun c1 => ?_)
  · have hm := ite_t c1 hm
    exact (w_fX0_lost_15 C he0 hZ hgb0 hZL hnm) v0 0 i1 hm H locs ls hW0 hS hz hG (lv_sub hl [0, 1] rfl)
  · have hm := ite_f c1 hm
    refine lv_aload_n (pc := 5) hx hb dX0_lost_5 rfl (lv_at hl 0 rfl) ?_
    refine lv_iload_n (pc := 6) hx hb dX0_lost_6 rfl (lv_at hl 1 rfl) ?_
    obtain ⟨r2, hq3, hm⟩ := ob_some hm
    refine rk_PV (pc := 7) (As := [.int i1]) (rest := []) hx hb hml hown hts hK lkX0_281 rfl yn_X0_isCut (ct_X0_isCut (G := G) (l := l) (b0 := b0) hq3) ⟨Nat.le_of_ble_eq_true rfl, Nat.le_of_ble_eq_true rfl⟩ (rk_recv hK hW0 0 (by decide) rfl rfl rfl) hW0 rfl rfl hl.1 (Nat.le_of_ble_eq_true rfl) dX0_lost_7 ⟨Nat.zero_le _, Nat.zero_le _⟩ ?_
    refine W.eq (g2 := F0 m 10 ls [.int r2]) rfl ?_
    refine lv_if_ne (pc := 10) (tgt := 15) hx hb dX0_lost_10 (by decide) (fun c4 => ?_) (fun c4 => ?_)
    · have hm := ite_f c4 hm
      exact (w_fX0_lost_15 C he0 hZ hgb0 hZL hnm) v0 0 i1 hm H locs ls hW0 hS hz hG (lv_sub hl [0, 1] rfl)
    · have hm := ite_t c4 hm
      refine lv_iconst (pc := 13) (v := (-1 : Int32)) hx hb dX0_lost_13 (by decide) ?_
      obtain ⟨e7, e8, e9⟩ := rs3 hm
      subst e7
      subst e8
      subst e9
      exact rk_iretA (pc := 14) hx hb hr hlk hS ⟨rfl, hW0, hz⟩ dX0_lost_14 (by exact Nat.le_of_ble_eq_true rfl) (by exact Nat.le_of_ble_eq_true rfl)
set_option maxHeartbeats 4000000 in
theorem ct_X0_lost {G : Gv} {l : Launch} {b0 : Nat} {v0 : Mem} {i1 : Int32} {rx : Int32} {rc : Nat} {rw0 : Mem} {sz : Nat} (hm : fX0_lost v0 i1 = some (rx, rc, rw0)) (hZ : ZQ G) (hgb0 : gB G ≤ b0) (hZL : ZL G) : CT G l yX0_lost (ws_ yX0_lost cX0_lost 2 (some .int)) 7 1 2 3088 [.ref b0, .int i1] (fX b0) sz (fun H => rg G b0 357 (shX0 G.2.1) v0 H ∧ GO G H) (fun ov H => ov = (some (.int rx)) ∧ rg G b0 357 (shX0 G.2.1) rw0 H ∧ H.size = sz + rc) := by
  refine Met.ofW (cc := cX0_lost) (maxL := 2) (ret := (some .int)) (by decide +kernel) rfl ?_
  intro p e s m args below meth c s₁ B hml hv
  obtain ⟨rfl, ⟨hz, hW0, hG⟩, hK⟩ := hv
  subst hz
  have he0 := rg_end hW0 356 (by decide) rfl (fun _ _ _ => rfl)
  have hnm := B.named
  have hts := atoms_spec (ws := ws_ yX0_lost cX0_lost 2 (some .int)) B.pre
  have hts : ∀ w ∈ lw_all, w.before _ s = true := fun w h => hts w (List.mem_cons_of_mem _ h)
  have C : Cx G p s m _ meth c RX0 cX0_lost 2 (some .int) := ⟨B.exec, B.bytes, B.returns, B.notSynchronized, hml, findClass_of_methodNamed B.named, hts, hK⟩
  have hl := lv_entry ([.ref b0, .int i1]) (n := 2) (Nat.le_of_ble_eq_true rfl)
  rw [lg_entry_eq]
  generalize (lg_sl ([.ref b0, .int i1]) ++ List.replicate (2 - (lg_sl ([.ref b0, .int i1])).length) Slot.unset).toArray = ls at hl ⊢
  have hl : lv_has ls 2 [(0, .ref b0), (1, .int i1)] := hl
  exact w_fX0_lost C he0 hZ hgb0 hZL hnm _ _ hm s.heap [] ls hW0 va_S.rf rfl hG hl
theorem flX0_429 : FL RX0 429 0 20 RX0 TX0 25 := ⟨in_X0, rfl, by decide, q518⟩
theorem flX0_87 : FL RX0 87 0 18 RX0 TX0 25 := ⟨in_X0, rfl, by decide, q516⟩
theorem lkX0_432 : LI RX0 432 yX13_init cX13_init 2 := ⟨q1220, q826, q135, q827, rfl⟩
noncomputable def fX0_nextNode (v0 : Mem) : Option (Bool × Int32 × Nat × Nat × Mem) :=
  if (gI v0 0 20) = (40 : Int32) then (
  some (false, (-6 : Int32), 0, 1, v0))
  else (
  lm (sI v0 0 20 ((gI v0 0 20) + (1 : Int32))) fun v0_2 =>
  gb (inR ((gI v0_2 0 20) - (1 : Int32)) 40) (
  some (true, (0 : Int32), ((gI v0_2 0 20) - (1 : Int32)).toNatClampNeg, 0, v0_2)))
set_option maxHeartbeats 4000000 in
theorem w_fX0_nextNode (C : Cx G p s m args meth c RX0 cX0_nextNode 1 (some (.object "WholePacks$Node"))) {b0 : Nat} {rok : Bool} {re : Int32} {rx : Nat} {rc : Nat} {rw0 : Mem} (he0 : b0 + 357 ≤ s.heap.size) (hZ : ZQ G) (hgb0 : gB G ≤ b0) (ht : ∀ x ∈ c.exceptionTable.toList, False) : ∀ (v0 : Mem), fX0_nextNode v0 = some (rok, re, rx, rc, rw0) → ∀ (H : Heap) (locs : List Loc) (ls : Array Slot), rg G b0 357 (shX0 G.2.1) v0 H → va_S (FA (fX b0) s.heap.size) s.heap H locs → H.size = s.heap.size + 0 → GO G H → lv_has ls 1 [(0, .ref b0)] → W p l e (rmT 4 (bif rok then 0 else 1) (bif rok then 0 else 7) 81) s m args below meth c H locs 0 0 (vx_MQ below (QcX rok (FA (fX b0) s.heap.size) (fun ov H => ov = (some (.ref (b0 + (197 + 4 * rx + 0)))) ∧ rg G b0 357 (shX0 G.2.1) rw0 H ∧ H.size = s.heap.size + rc ∧ rx < 40)) (XcX rok (FA (fX b0) s.heap.size) (fun q E H => E = "WholePacks$Stuck" ∧ s.heap.size ≤ q ∧ (∃ wx, rg G q 1 (shX13 G.2.1) wx H ∧ gI wx 0 6 = re) ∧ rg G b0 357 (shX0 G.2.1) rw0 H ∧ H.size = s.heap.size + rc)) args s (bif rok then 0 else 1) (bif rok then 0 else 7) (FA (fX b0) s.heap.size)) (F0 m 0 ls []) := by
  intro v0 hm H locs ls hW0 hS hz hG hl
  obtain ⟨hx, hb, hr, hlk, hml, hown, hts, hK⟩ := id C
  unfold fX0_nextNode at hm
  refine lv_aload_n (pc := 0) hx hb dX0_nextNode_0 rfl (lv_at hl 0 rfl) ?_
  refine rk_get (pc := 1) hx hb hts hown hK hW0 flX0_429 0 (by decide) rfl rfl (x := .int (gI v0 0 20)) rfl dX0_nextNode_1 ?_
  refine lv_bipush (pc := 4) (v := (40 : Int32)) hx hb dX0_nextNode_4 (by decide) ?_
  refine lv_icmp_ne (pc := 6) (tgt := 19) hx hb dX0_nextNode_6 (by decide) (fun c1 => ?_) (fun c1 => ?_)
  · have hm := ite_f c1 hm
    refine lv_aload_n (pc := 19) hx hb dX0_nextNode_19 rfl (lv_at hl 0 rfl) ?_
    refine lv_dup (pc := 20) hx hb dX0_nextNode_20 rfl ?_
    refine rk_get (pc := 21) hx hb hts hown hK hW0 flX0_429 0 (by decide) rfl rfl (x := .int (gI v0 0 20)) rfl dX0_nextNode_21 ?_
    refine lv_iconst (pc := 24) (v := (1 : Int32)) hx hb dX0_nextNode_24 (by decide) ?_
    refine lv_iadd (pc := 25) hx hb dX0_nextNode_25 ?_
    refine rk_put (pc := 26) hx hb hts hown hK hW0 hS flX0_429 ft_X0 0 (by decide) rfl (Or.inl (show fX _ _ from ⟨⟨by omega, by omega⟩, by omega⟩)) rfl rfl (x := .int ((gI v0 0 20) + (1 : Int32))) rfl rfl (Nat.le_of_ble_eq_true rfl) (sI v0 0 20 ((gI v0 0 20) + (1 : Int32))) sI_ne (by rw [sI_eq]; exact rfl) dX0_nextNode_26 (fun H3 locs4 hW5 hS6 hz7 hkp8 => ?_)
    obtain ⟨v0_2, he9, hm⟩ := lm_some hm
    rw [he9] at hW5
    have hz9 := hz7.trans hz
    have hG10 := GO_keepq hG hkp8 (by omega)
    refine lv_aload_n (pc := 29) hx hb dX0_nextNode_29 rfl (lv_at hl 0 rfl) ?_
    refine rk_get (pc := 30) hx hb hts hown hK hW5 flX0_87 0 (by decide) rfl rfl (x := .ref (b0 + 164)) (by first | rfl | exact congrArg (fun z => some (Value.ref z)) (by omega)) dX0_nextNode_30 ?_
    refine lv_aload_n (pc := 33) hx hb dX0_nextNode_33 rfl (lv_at hl 0 rfl) ?_
    refine rk_get (pc := 34) hx hb hts hown hK hW5 flX0_429 0 (by decide) rfl rfl (x := .int (gI v0_2 0 20)) rfl dX0_nextNode_34 ?_
    refine lv_iconst (pc := 37) (v := (1 : Int32)) hx hb dX0_nextNode_37 (by decide) ?_
    refine lv_isub (pc := 38) hx hb dX0_nextNode_38 ?_
    obtain ⟨hg11, hm⟩ := gb_some hm
    have hlt12 := inR_lt hg11
    refine rk_aald (pc := 39) hx hb hK hW5 164 10 (by decide) rfl rfl rfl hg11 (x := (b0 + (197 + 4 * ((gI v0_2 0 20) - (1 : Int32)).toNatClampNeg + 0))) (by first | rfl | exact congrArg some (by omega)) dX0_nextNode_39 ?_
    obtain ⟨e5, e6, e7, e8, e9⟩ := rs5 hm
    cases e5
    subst e6
    subst e7
    subst e8
    subst e9
    exact rk_aretX (pc := 40) hx hb hr (Or.inl ⟨_, rfl⟩) hlk hS6 ⟨rfl, hW5, hz9, hlt12⟩ dX0_nextNode_40 (by exact Nat.le_of_ble_eq_true rfl) (by exact Nat.le_of_ble_eq_true rfl)
  · have hm := ite_t c1 hm
    obtain ⟨h13, hh13⟩ : ∃ h, H.size = h := ⟨_, rfl⟩
    have hqh13 : s.heap.size ≤ h13 := Nat.le_trans hS.1 (Nat.le_of_eq hh13)
    have hok9 : false = rok := (by exact (rs5 hm).1)
    subst hok9
    refine rk_new (pc := 9) (h := h13) (sh := (shX13 G.2.1)) hx hb hts hown hK hS in_X13 ft_X13 rfl q1211 q817 q135 hh13 rfl (df_X13 _ rfl) (Nat.le_of_ble_eq_true rfl) (Nat.le_of_ble_eq_true rfl) dX0_nextNode_9 (fun H14 hW16 hS17 hz18 hkp19 => ?_)
    have hW20 := rg_keepN hW0 hh13 hkp19
    have hz21 : H14.size = s.heap.size + 1 := by omega
    have hG22 := GO_keepN hG (by omega) hkp19
    refine lv_dup (pc := 12) hx hb dX0_nextNode_12 rfl ?_
    refine lv_bipush (pc := 13) (v := (-6 : Int32)) hx hb dX0_nextNode_13 (by decide) ?_
    refine rk_TI (pc := 15) (As := [.int (-6 : Int32)]) (rest := [.ref h13]) (mc := 0) (ms := 0) hx hb hml hown hts hK hS17 (fun q hq => FA_sz rfl q hq) lkX0_432 yn_X13_init (ct_X13_init (G := G) (l := l) (b0 := h13) (v0 := mz) (i1 := (-6 : Int32)) (sz := H14.size) hZ (by omega)) ⟨Nat.le_of_ble_eq_true rfl, Nat.le_of_ble_eq_true rfl⟩ (fun z h9 => Or.inr (show s.heap.size ≤ z by have := h9.1; omega)) ⟨hW16, hG22⟩ rfl rfl hl.1 (Nat.le_of_ble_eq_true rfl) dX0_nextNode_15 ⟨Nat.le_of_ble_eq_true rfl, Nat.le_of_ble_eq_true rfl⟩ (fun ov9 H23 locs24 hP25 hkp26 hS27 => ?_)
    obtain ⟨rfl, ⟨wx28, hW29, hre30⟩, hz31⟩ := hP25
    have hW32 := rg_keepA hW20 hkp26 (by intro z h1 h2 h3; have h8 := h3.1; have h9 := h3.2; omega)
    have hG33 := GO_keepA hG22 hkp26 (Nat.le_trans (show gB G ≤ s.heap.size by omega) hS17.1) (by intro z h3; have h8 := h3.1; have h9 := h3.2; omega)
    have hz34 := hz31.trans hz21
    refine W.eq (g2 := F0 m 18 ls [.ref h13]) rfl ?_
    refine vx_athrow (pc := 18) hx hb dX0_nextNode_18 ?_
    obtain ⟨ce8, hce8, hcv8, hcl8⟩ := rk_exc hK hW29 rfl rfl
    obtain ⟨e5, e6, e7, e8, e9⟩ := rs5 hm
    cases e5
    subst e6
    subst e7
    subst e8
    subst e9
    exact rk_xout (fun x h => (ht x h).elim) hlk hS27 hce8 hcv8 hcl8 ⟨rfl, hqh13, ⟨_, hW29, hre30⟩, hW32, hz34⟩ (by exact Nat.le_of_ble_eq_true rfl) (by exact Nat.le_of_ble_eq_true rfl)
set_option maxHeartbeats 4000000 in
theorem ct_X0_nextNode {G : Gv} {l : Launch} {b0 : Nat} {v0 : Mem} {rok : Bool} {re : Int32} {rx : Nat} {rc : Nat} {rw0 : Mem} {sz : Nat} (hm : fX0_nextNode v0 = some (rok, re, rx, rc, rw0)) (hZ : ZQ G) (hgb0 : gB G ≤ b0) : CX G l yX0_nextNode (ws_ yX0_nextNode cX0_nextNode 1 (some (.object "WholePacks$Node"))) 4 (bif rok then 0 else 1) (bif rok then 0 else 7) 81 [.ref b0] (fX b0) sz (fun H => rg G b0 357 (shX0 G.2.1) v0 H ∧ GO G H) rok (fun ov H => ov = (some (.ref (b0 + (197 + 4 * rx + 0)))) ∧ rg G b0 357 (shX0 G.2.1) rw0 H ∧ H.size = sz + rc ∧ rx < 40) (fun q E H => E = "WholePacks$Stuck" ∧ sz ≤ q ∧ (∃ wx, rg G q 1 (shX13 G.2.1) wx H ∧ gI wx 0 6 = re) ∧ rg G b0 357 (shX0 G.2.1) rw0 H ∧ H.size = sz + rc) := by
  refine vx_ofW (cc := cX0_nextNode) (maxL := 1) (ret := (some (.object "WholePacks$Node"))) (by decide +kernel) rfl ?_
  intro p e s m args below meth c s₁ B hml ht hv
  obtain ⟨rfl, ⟨hz, hW0, hG⟩, hK⟩ := hv
  subst hz
  have he0 := rg_end hW0 356 (by decide) rfl (fun _ _ _ => rfl)
  have hts := atoms_spec (ws := ws_ yX0_nextNode cX0_nextNode 1 (some (.object "WholePacks$Node"))) B.pre
  have hts : ∀ w ∈ lw_all, w.before _ s = true := fun w h => hts w (List.mem_cons_of_mem _ h)
  have C : Cx G p s m _ meth c RX0 cX0_nextNode 1 (some (.object "WholePacks$Node")) := ⟨B.exec, B.bytes, B.returns, B.notSynchronized, hml, findClass_of_methodNamed B.named, hts, hK⟩
  have hl := lv_entry ([.ref b0]) (n := 1) (Nat.le_of_ble_eq_true rfl)
  rw [lg_entry_eq]
  generalize (lg_sl ([.ref b0]) ++ List.replicate (1 - (lg_sl ([.ref b0])).length) Slot.unset).toArray = ls at hl ⊢
  have hl : lv_has ls 1 [(0, .ref b0)] := hl
  exact w_fX0_nextNode C he0 hZ hgb0 ht _ hm s.heap [] ls hW0 va_S.rf rfl hG hl
theorem flX0_18 : FL RX0 18 0 1 RX0 TX0 25 := ⟨in_X0, rfl, by decide, q497⟩
theorem yn_X1_like : YN yX1_like 1 := by
  unfold YN
  decide +kernel
theorem lkX0_469 : LV RX0 469 RX1 yX1_like cX1_like 3 (some (.object "WholePacks$Desk")) := ⟨q1285, q1286, q1287, q115, q1288⟩
theorem flX0_31 : FL RX0 31 0 4 RX0 TX0 25 := ⟨in_X0, rfl, by decide, q500⟩
theorem yn_X3_worth : YN yX3_worth 1 := by
  unfold YN
  decide +kernel
theorem lkX0_472 : LV RX0 472 RX3 yX3_worth cX3_worth 3 (some .int) := ⟨q1291, q1292, q1293, q117, q1294⟩
noncomputable def fX0_worthBy (v0 : Mem) (i1 : Int32) (i2 : Int32) : Option (Int32 × Nat × Mem) :=
  ob (fX1_like (shf v0 1) (shf v0 23)) fun w1 =>
  lm (ptm v0 23 22 w1) fun v0_11 =>
  gb (inR i1 8) (
  lm (sI v0_11 (29 + 2 * i1.toNatClampNeg + 0) 1 i2) fun v0_16 =>
  ob3 (fX3_worth (shf v0_16 23) (shf v0_16 110)) fun r25 rc26 w27 =>
  lm (ptm v0_16 110 43 w27) fun v0_37 =>
  some (r25, rc26, v0_37))
set_option maxHeartbeats 4000000 in
theorem w_fX0_worthBy (C : Cx G p s m args meth c RX0 cX0_worthBy 4 (some .int)) {b0 : Nat} {rx : Int32} {rc : Nat} {rw0 : Mem} (he0 : b0 + 357 ≤ s.heap.size) (hZ : ZQ G) (hgb0 : gB G ≤ b0) : ∀ (v0 : Mem) (i1 : Int32) (i2 : Int32), fX0_worthBy v0 i1 i2 = some (rx, rc, rw0) → ∀ (H : Heap) (locs : List Loc) (ls : Array Slot), rg G b0 357 (shX0 G.2.1) v0 H → va_S (FA (fX b0) s.heap.size) s.heap H locs → H.size = s.heap.size + 0 → GO G H → lv_has ls 4 [(0, .ref b0), (1, .int i1), (2, .int i2)] → W p l e (rmT 8 1 7 176) s m args below meth c H locs 0 0 (MQ below (QcT (FA (fX b0) s.heap.size) (fun ov H => ov = (some (.int rx)) ∧ rg G b0 357 (shX0 G.2.1) rw0 H ∧ H.size = s.heap.size + rc)) args s 1 7 (FA (fX b0) s.heap.size)) (F0 m 0 ls []) := by
  intro v0 i1 i2 hm H locs ls hW0 hS hz hG hl
  obtain ⟨hx, hb, hr, hlk, hml, hown, hts, hK⟩ := id C
  unfold fX0_worthBy at hm
  refine lv_aload_n (pc := 0) hx hb dX0_worthBy_0 rfl (lv_at hl 0 rfl) ?_
  refine rk_get (pc := 1) hx hb hts hown hK hW0 flX0_18 0 (by decide) rfl rfl (x := .ref (b0 + 23)) (by first | rfl | exact congrArg (fun z => some (Value.ref z)) (by omega)) dX0_worthBy_1 ?_
  refine lv_aload_n (pc := 4) hx hb dX0_worthBy_4 rfl (lv_at hl 0 rfl) ?_
  refine rk_get (pc := 5) hx hb hts hown hK hW0 flX0_12 0 (by decide) rfl rfl (x := .ref (b0 + 1)) (by first | rfl | exact congrArg (fun z => some (Value.ref z)) (by omega)) dX0_worthBy_5 ?_
  obtain ⟨w1, hq2, hm⟩ := ob_some hm
  refine rk_TV (pc := 8) (As := [.ref (b0 + 1)]) (rest := []) (mc := 0) (ms := 0) hx hb hml hown hts hK hS (fun q hq => FA_sz rfl q hq) lkX0_469 rfl yn_X1_like (ct_X1_like (G := G) (l := l) (b0 := (b0 + 23)) (b1 := (b0 + 1)) (sz := H.size) hq2 (by omega)) ⟨Nat.le_of_ble_eq_true rfl, Nat.le_of_ble_eq_true rfl⟩ (fun z h => Or.inl (show fX _ _ from ⟨⟨by have h8 := h.1; have h9 := h.2; omega, by have h8 := h.1; have h9 := h.2; omega⟩, by have h8 := h.1; have h9 := h.2; omega⟩)) (rk_recv hK hW0 23 (by decide) rfl rfl rfl) ⟨(rg_sub hW0 rfl (by decide) (fun o ho x y z => shX0_n23 G.2.1 _ rfl o ho x y z)), (rg_sub hW0 rfl (by decide) (fun o ho x y z => shX0_n1 G.2.1 _ rfl o ho x y z))⟩ rfl rfl hl.1 (Nat.le_of_ble_eq_true rfl) dX0_worthBy_8 ⟨Nat.zero_le _, Nat.zero_le _⟩ (fun ov9 H3 locs4 hP5 hkp6 hS7 => ?_)
  obtain ⟨rfl, hW8, hz9⟩ := hP5
  have hW10 := rg_put (d := 23) hW0 hW8 rfl (fun o ho x y z => shX0_n23 G.2.1 _ rfl o ho x y z) hkp6
  obtain ⟨v0_11, he9, hm⟩ := lm_some hm
  rw [he9] at hW10
  have hG12 := GO_keepA hG hkp6 (Nat.le_trans (show gB G ≤ s.heap.size by omega) hS.1) (by intro z h3; have h8 := h3.1; have h9 := h3.2; omega)
  have hz13 := hz9.trans hz
  refine W.eq (g2 := F0 m 11 ls [.ref (b0 + 23)]) rfl ?_
  refine lv_astore_n (pc := 11) (lv' := [(3, .ref (b0 + 23)), (0, .ref b0), (1, .int i1), (2, .int i2)]) hx hb dX0_worthBy_11 rfl hl (by decide) rfl (fun ls hl => ?_)
  refine lv_aload_n (pc := 12) hx hb dX0_worthBy_12 rfl (lv_at hl 0 rfl) ?_
  refine rk_getN (pc := 13) hx hb hts hown hK hW10 fnX0_172 23 (by decide) rfl rfl (x := .ref (b0 + 25)) (by first | rfl | exact congrArg (fun z => some (Value.ref z)) (by omega)) dX0_worthBy_13 ?_
  refine lv_iload_n (pc := 16) hx hb dX0_worthBy_16 rfl (lv_at hl 2 rfl) ?_
  obtain ⟨hg14, hm⟩ := gb_some hm
  have hlt15 := inR_lt hg14
  refine rk_aald (pc := 17) hx hb hK hW10 25 5 (by decide) rfl rfl rfl hg14 (x := (b0 + (29 + 2 * i1.toNatClampNeg + 0))) (by first | rfl | exact congrArg some (by omega)) dX0_worthBy_17 ?_
  refine lv_iload_n (pc := 18) hx hb dX0_worthBy_18 rfl (lv_at hl 3 rfl) ?_
  refine rk_putN (pc := 19) hx hb hts hown hK hW10 hS7 fnX0_181 ft_X2 (29 + 2 * i1.toNatClampNeg + 0) (by omega) rfl (Or.inl (show fX _ _ from ⟨⟨by omega, by omega⟩, by omega⟩)) ((shX0_f29 G.2.1 hlt15 _ rfl 0 (by decide) _ _ _).trans rfl) rfl (x := .int i2) rfl rfl (Nat.le_of_ble_eq_true rfl) (sI v0_11 (29 + 2 * i1.toNatClampNeg + 0) 1 i2) sI_ne (by rw [sI_eq]; exact ((shX0_f29 G.2.1 hlt15 _ rfl 0 (by decide) _ _ _).trans rfl)) dX0_worthBy_19 (fun H17 locs18 hW19 hS20 hz21 hkp22 => ?_)
  obtain ⟨v0_16, he9, hm⟩ := lm_some hm
  rw [he9] at hW19
  have hz23 := hz21.trans hz13
  have hG24 := GO_keepq hG12 hkp22 (by omega)
  refine lv_aload_n (pc := 22) hx hb dX0_worthBy_22 rfl (lv_at hl 1 rfl) ?_
  refine rk_get (pc := 23) hx hb hts hown hK hW19 flX0_31 0 (by decide) rfl rfl (x := .ref (b0 + 110)) (by first | rfl | exact congrArg (fun z => some (Value.ref z)) (by omega)) dX0_worthBy_23 ?_
  refine lv_aload_n (pc := 26) hx hb dX0_worthBy_26 rfl (lv_at hl 0 rfl) ?_
  obtain ⟨r25, rc26, w27, hq28, hm⟩ := ob3_some hm
  refine rk_TV (pc := 27) (As := [.ref (b0 + 23)]) (rest := []) (mc := 1) (ms := 7) hx hb hml hown hts hK hS20 (fun q hq => FA_sz rfl q hq) lkX0_472 rfl yn_X3_worth (ct_X3_worth (G := G) (l := l) (b0 := (b0 + 110)) (b1 := (b0 + 23)) (sz := H17.size) hq28 (by omega) hZ (by omega) (by omega)) ⟨Nat.le_of_ble_eq_true rfl, Nat.le_of_ble_eq_true rfl⟩ (fun z h => Or.inl (show fX _ _ from ⟨⟨by have h8 := h.1; have h9 := h.2; omega, by have h8 := h.1; have h9 := h.2; omega⟩, by have h8 := h.1; have h9 := h.2; omega⟩)) (rk_recv hK hW19 110 (by decide) rfl rfl rfl) ⟨(rg_sub hW19 rfl (by decide) (fun o ho x y z => shX0_n110 G.2.1 _ rfl o ho x y z)), (rg_sub hW19 rfl (by decide) (fun o ho x y z => shX0_n23 G.2.1 _ rfl o ho x y z)), hG24⟩ rfl rfl hl.1 (Nat.le_of_ble_eq_true rfl) dX0_worthBy_27 ⟨Nat.le_of_ble_eq_true rfl, Nat.le_of_ble_eq_true rfl⟩ (fun ov9 H29 locs30 hP31 hkp32 hS33 => ?_)
  obtain ⟨rfl, hW34, hz35⟩ := hP31
  have hW36 := rg_put (d := 110) hW19 hW34 rfl (fun o ho x y z => shX0_n110 G.2.1 _ rfl o ho x y z) hkp32
  obtain ⟨v0_37, he9, hm⟩ := lm_some hm
  rw [he9] at hW36
  have hG38 := GO_keepA hG24 hkp32 (Nat.le_trans (show gB G ≤ s.heap.size by omega) hS20.1) (by intro z h3; have h8 := h3.1; have h9 := h3.2; omega)
  have hz39 : H29.size = s.heap.size + rc26 := by omega
  refine W.eq (g2 := F0 m 30 ls [.int r25]) rfl ?_
  obtain ⟨e7, e8, e9⟩ := rs3 hm
  subst e7
  subst e8
  subst e9
  exact rk_iretA (pc := 30) hx hb hr hlk hS33 ⟨rfl, hW36, hz39⟩ dX0_worthBy_30 (by exact Nat.le_of_ble_eq_true rfl) (by exact Nat.le_of_ble_eq_true rfl)
set_option maxHeartbeats 4000000 in
theorem ct_X0_worthBy {G : Gv} {l : Launch} {b0 : Nat} {v0 : Mem} {i1 : Int32} {i2 : Int32} {rx : Int32} {rc : Nat} {rw0 : Mem} {sz : Nat} (hm : fX0_worthBy v0 i1 i2 = some (rx, rc, rw0)) (hZ : ZQ G) (hgb0 : gB G ≤ b0) : CT G l yX0_worthBy (ws_ yX0_worthBy cX0_worthBy 4 (some .int)) 8 1 7 176 [.ref b0, .int i1, .int i2] (fX b0) sz (fun H => rg G b0 357 (shX0 G.2.1) v0 H ∧ GO G H) (fun ov H => ov = (some (.int rx)) ∧ rg G b0 357 (shX0 G.2.1) rw0 H ∧ H.size = sz + rc) := by
  refine Met.ofW (cc := cX0_worthBy) (maxL := 4) (ret := (some .int)) (by decide +kernel) rfl ?_
  intro p e s m args below meth c s₁ B hml hv
  obtain ⟨rfl, ⟨hz, hW0, hG⟩, hK⟩ := hv
  subst hz
  have he0 := rg_end hW0 356 (by decide) rfl (fun _ _ _ => rfl)
  have hts := atoms_spec (ws := ws_ yX0_worthBy cX0_worthBy 4 (some .int)) B.pre
  have hts : ∀ w ∈ lw_all, w.before _ s = true := fun w h => hts w (List.mem_cons_of_mem _ h)
  have C : Cx G p s m _ meth c RX0 cX0_worthBy 4 (some .int) := ⟨B.exec, B.bytes, B.returns, B.notSynchronized, hml, findClass_of_methodNamed B.named, hts, hK⟩
  have hl := lv_entry ([.ref b0, .int i1, .int i2]) (n := 4) (Nat.le_of_ble_eq_true rfl)
  rw [lg_entry_eq]
  generalize (lg_sl ([.ref b0, .int i1, .int i2]) ++ List.replicate (4 - (lg_sl ([.ref b0, .int i1, .int i2])).length) Slot.unset).toArray = ls at hl ⊢
  have hl : lv_has ls 4 [(0, .ref b0), (1, .int i1), (2, .int i2)] := hl
  exact w_fX0_worthBy C he0 hZ hgb0 _ _ _ hm s.heap [] ls hW0 va_S.rf rfl hG hl
theorem yn_X0_worthBy : YN yX0_worthBy 2 := by
  unfold YN
  decide +kernel
theorem lkX0_465 : LV RX0 465 RX0 yX0_worthBy cX0_worthBy 4 (some .int) := ⟨q1281, q1283, qs45, q114, q1284⟩
noncomputable def fX0_would (v0 : Mem) (i1 : Int32) (i2 : Int32) : Option (Int32 × Nat × Mem) :=
  ob (fX1_hasRule (shf v0 1) i1) fun r1 =>
  if r1 = 0 then (
  some ((-1 : Int32), 0, v0))
  else (
  ob (fX0_in i2.toInt64 (-99 : Int64) (999 : Int64)) fun r4 =>
  if r4 = 0 then (
  some ((-2 : Int32), 0, v0))
  else (
  ob3 (fX0_worthBy v0 i1 i2) fun r7 rc8 w9 =>
  some (r7, rc8, w9)))
set_option maxHeartbeats 4000000 in
theorem w_fX0_would (C : Cx G p s m args meth c RX0 cX0_would 3 (some .int)) {b0 : Nat} {rx : Int32} {rc : Nat} {rw0 : Mem} (he0 : b0 + 357 ≤ s.heap.size) (hZ : ZQ G) (hgb0 : gB G ≤ b0) : ∀ (v0 : Mem) (i1 : Int32) (i2 : Int32), fX0_would v0 i1 i2 = some (rx, rc, rw0) → ∀ (H : Heap) (locs : List Loc) (ls : Array Slot), rg G b0 357 (shX0 G.2.1) v0 H → va_S (FA (fX b0) s.heap.size) s.heap H locs → H.size = s.heap.size + 0 → GO G H → lv_has ls 3 [(0, .ref b0), (1, .int i1), (2, .int i2)] → W p l e (rmT 9 1 7 199) s m args below meth c H locs 0 0 (MQ below (QcT (FA (fX b0) s.heap.size) (fun ov H => ov = (some (.int rx)) ∧ rg G b0 357 (shX0 G.2.1) rw0 H ∧ H.size = s.heap.size + rc)) args s 1 7 (FA (fX b0) s.heap.size)) (F0 m 0 ls []) := by
  intro v0 i1 i2 hm H locs ls hW0 hS hz hG hl
  obtain ⟨hx, hb, hr, hlk, hml, hown, hts, hK⟩ := id C
  unfold fX0_would at hm
  refine lv_aload_n (pc := 0) hx hb dX0_would_0 rfl (lv_at hl 0 rfl) ?_
  refine rk_get (pc := 1) hx hb hts hown hK hW0 flX0_12 0 (by decide) rfl rfl (x := .ref (b0 + 1)) (by first | rfl | exact congrArg (fun z => some (Value.ref z)) (by omega)) dX0_would_1 ?_
  refine lv_iload_n (pc := 4) hx hb dX0_would_4 rfl (lv_at hl 1 rfl) ?_
  obtain ⟨r1, hq2, hm⟩ := ob_some hm
  refine rk_PV (pc := 5) (As := [.int i1]) (rest := []) hx hb hml hown hts hK lkX0_165 rfl yn_X1_hasRule (ct_X1_hasRule (G := G) (l := l) (b0 := (b0 + 1)) hq2) ⟨Nat.le_of_ble_eq_true rfl, Nat.le_of_ble_eq_true rfl⟩ (rk_recv hK hW0 1 (by decide) rfl rfl rfl) (rg_sub hW0 rfl (by decide) (fun o ho x y z => shX0_n1 G.2.1 _ rfl o ho x y z)) rfl rfl hl.1 (Nat.le_of_ble_eq_true rfl) dX0_would_5 ⟨Nat.zero_le _, Nat.zero_le _⟩ ?_
  refine W.eq (g2 := F0 m 8 ls [.int r1]) rfl ?_
  refine lv_if_ne (pc := 8) (tgt := 13) hx hb dX0_would_8 (by decide) (fun c3 => ?_) (fun c3 => ?_)
  · have hm := ite_f c3 hm
    refine lv_iload_n (pc := 13) hx hb dX0_would_13 rfl (lv_at hl 2 rfl) ?_
    refine lv_i2l (pc := 14) hx hb dX0_would_14 rfl ?_
    refine lv_ldc2 (pc := 15) (v := (-99 : Int64)) hx hb hown (hts _ q601) dX0_would_15 ?_
    refine lv_ldc2 (pc := 18) (v := (999 : Int64)) hx hb hown (hts _ q602) dX0_would_18 ?_
    obtain ⟨r4, hq5, hm⟩ := ob_some hm
    refine rk_PS (pc := 21) (As := [.long i2.toInt64, .long (-99 : Int64), .long (999 : Int64)]) (rest := []) hx hb hml hown hts hK lkX0_127 yn_X0_in (ct_X0_in (G := G) (l := l) hq5) ⟨Nat.le_of_ble_eq_true rfl, Nat.le_of_ble_eq_true rfl⟩ trivial rfl rfl hl.1 (Nat.le_of_ble_eq_true rfl) dX0_would_21 ⟨Nat.zero_le _, Nat.zero_le _⟩ ?_
    refine W.eq (g2 := F0 m 24 ls [.int r4]) rfl ?_
    refine lv_if_eq (pc := 24) (tgt := 36) hx hb dX0_would_24 (by decide) (fun c6 => ?_) (fun c6 => ?_)
    · have hm := ite_t c6 hm
      refine lv_bipush (pc := 36) (v := (-2 : Int32)) hx hb dX0_would_36 (by decide) ?_
      obtain ⟨e7, e8, e9⟩ := rs3 hm
      subst e7
      subst e8
      subst e9
      exact rk_iretA (pc := 38) hx hb hr hlk hS ⟨rfl, hW0, hz⟩ dX0_would_38 (by exact Nat.le_of_ble_eq_true rfl) (by exact Nat.le_of_ble_eq_true rfl)
    · have hm := ite_f c6 hm
      refine lv_aload_n (pc := 27) hx hb dX0_would_27 rfl (lv_at hl 0 rfl) ?_
      refine lv_iload_n (pc := 28) hx hb dX0_would_28 rfl (lv_at hl 1 rfl) ?_
      refine lv_iload_n (pc := 29) hx hb dX0_would_29 rfl (lv_at hl 2 rfl) ?_
      obtain ⟨r7, rc8, w9, hq10, hm⟩ := ob3_some hm
      refine rk_TV (pc := 30) (As := [.int i1, .int i2]) (rest := []) (mc := 1) (ms := 7) hx hb hml hown hts hK hS (fun q hq => FA_sz rfl q hq) lkX0_465 rfl yn_X0_worthBy (ct_X0_worthBy (G := G) (l := l) (b0 := b0) (sz := H.size) hq10 hZ (by omega)) ⟨Nat.le_of_ble_eq_true rfl, Nat.le_of_ble_eq_true rfl⟩ (fun z h => Or.inl h) (rk_recv hK hW0 0 (by decide) rfl rfl rfl) ⟨hW0, hG⟩ rfl rfl hl.1 (Nat.le_of_ble_eq_true rfl) dX0_would_30 ⟨Nat.le_of_ble_eq_true rfl, Nat.le_of_ble_eq_true rfl⟩ (fun ov9 H11 locs12 hP13 hkp14 hS15 => ?_)
      obtain ⟨rfl, hW16, hz17⟩ := hP13
      have hG18 := GO_keepA hG hkp14 (Nat.le_trans (show gB G ≤ s.heap.size by omega) hS.1) (by intro z h3; have h8 := h3.1.1; have h9 := h3.1.2; omega)
      have hz19 : H11.size = s.heap.size + rc8 := by omega
      refine W.eq (g2 := F0 m 33 ls [.int r7]) rfl ?_
      refine lv_goto (pc := 33) (tgt := 38) hx hb dX0_would_33 (by decide) ?_
      obtain ⟨e7, e8, e9⟩ := rs3 hm
      subst e7
      subst e8
      subst e9
      exact rk_iretA (pc := 38) hx hb hr hlk hS15 ⟨rfl, hW16, hz19⟩ dX0_would_38 (by exact Nat.le_of_ble_eq_true rfl) (by exact Nat.le_of_ble_eq_true rfl)
  · have hm := ite_t c3 hm
    refine lv_iconst (pc := 11) (v := (-1 : Int32)) hx hb dX0_would_11 (by decide) ?_
    obtain ⟨e7, e8, e9⟩ := rs3 hm
    subst e7
    subst e8
    subst e9
    exact rk_iretA (pc := 12) hx hb hr hlk hS ⟨rfl, hW0, hz⟩ dX0_would_12 (by exact Nat.le_of_ble_eq_true rfl) (by exact Nat.le_of_ble_eq_true rfl)
set_option maxHeartbeats 4000000 in
theorem ct_X0_would {G : Gv} {l : Launch} {b0 : Nat} {v0 : Mem} {i1 : Int32} {i2 : Int32} {rx : Int32} {rc : Nat} {rw0 : Mem} {sz : Nat} (hm : fX0_would v0 i1 i2 = some (rx, rc, rw0)) (hZ : ZQ G) (hgb0 : gB G ≤ b0) : CT G l yX0_would (ws_ yX0_would cX0_would 3 (some .int)) 9 1 7 199 [.ref b0, .int i1, .int i2] (fX b0) sz (fun H => rg G b0 357 (shX0 G.2.1) v0 H ∧ GO G H) (fun ov H => ov = (some (.int rx)) ∧ rg G b0 357 (shX0 G.2.1) rw0 H ∧ H.size = sz + rc) := by
  refine Met.ofW (cc := cX0_would) (maxL := 3) (ret := (some .int)) (by decide +kernel) rfl ?_
  intro p e s m args below meth c s₁ B hml hv
  obtain ⟨rfl, ⟨hz, hW0, hG⟩, hK⟩ := hv
  subst hz
  have he0 := rg_end hW0 356 (by decide) rfl (fun _ _ _ => rfl)
  have hts := atoms_spec (ws := ws_ yX0_would cX0_would 3 (some .int)) B.pre
  have hts : ∀ w ∈ lw_all, w.before _ s = true := fun w h => hts w (List.mem_cons_of_mem _ h)
  have C : Cx G p s m _ meth c RX0 cX0_would 3 (some .int) := ⟨B.exec, B.bytes, B.returns, B.notSynchronized, hml, findClass_of_methodNamed B.named, hts, hK⟩
  have hl := lv_entry ([.ref b0, .int i1, .int i2]) (n := 3) (Nat.le_of_ble_eq_true rfl)
  rw [lg_entry_eq]
  generalize (lg_sl ([.ref b0, .int i1, .int i2]) ++ List.replicate (3 - (lg_sl ([.ref b0, .int i1, .int i2])).length) Slot.unset).toArray = ls at hl ⊢
  have hl : lv_has ls 3 [(0, .ref b0), (1, .int i1), (2, .int i2)] := hl
  exact w_fX0_would C he0 hZ hgb0 _ _ _ hm s.heap [] ls hW0 va_S.rf rfl hG hl
theorem fnX0_476 : FN RX0 476 1 4 RX1 TX1 11 "WholePacks" := ⟨in_X1, rfl, by decide, q202⟩
theorem fnX0_479 : FN RX0 479 1 9 RX1 TX1 11 "WholePacks" := ⟨in_X1, rfl, by decide, q214⟩
noncomputable def fX0_see (v0 : Mem) (i1 : Int32) (i2 : Int32) : Option (Int32 × Mem) :=
  if i1 = (-1 : Int32) then (
  lm (sI v0 1 4 (0 : Int32)) fun v0_35 =>
  some ((0 : Int32), v0_35))
  else (
  ob (fX1_hasPack (shf v0 1) i1) fun r2 =>
  if r2 = 0 then (
  some ((-1 : Int32), v0))
  else (
  ob (fX0_in i2.toInt64 (0 : Int64) (999 : Int64)) fun r5 =>
  if r5 = 0 then (
  some ((-2 : Int32), v0))
  else (
  if (gI v0 1 4) = (5 : Int32) then (
  some ((-4 : Int32), v0))
  else (
  gb (inR ((2 : Int32) * (gI v0 1 4)) 10) (
  lm (sI v0 5 ((2 : Int32) * (gI v0 1 4)).toNatClampNeg i1) fun v0_10 =>
  gb (inR (((2 : Int32) * (gI v0_10 1 4)) + (1 : Int32)) 10) (
  lm (sI v0_10 5 (((2 : Int32) * (gI v0_10 1 4)) + (1 : Int32)).toNatClampNeg i2) fun v0_19 =>
  lm (sI v0_19 1 4 ((gI v0_19 1 4) + (1 : Int32))) fun v0_27 =>
  some ((gI v0_27 1 4), v0_27)))))))
set_option maxHeartbeats 4000000 in
theorem w_fX0_see (C : Cx G p s m args meth c RX0 cX0_see 3 (some .int)) {b0 : Nat} {rx : Int32} {rw0 : Mem} : ∀ (v0 : Mem) (i1 : Int32) (i2 : Int32), fX0_see v0 i1 i2 = some (rx, rw0) → ∀ (H : Heap) (locs : List Loc) (ls : Array Slot), rg G b0 357 (shX0 G.2.1) v0 H → va_S (FA (fX b0) s.heap.size) s.heap H locs → H.size = s.heap.size → lv_has ls 3 [(0, .ref b0), (1, .int i1), (2, .int i2)] → W p l e (rmT 2 0 0 46) s m args below meth c H locs 0 0 (MQ below (QcT (FA (fX b0) s.heap.size) (fun ov H => ov = (some (.int rx)) ∧ rg G b0 357 (shX0 G.2.1) rw0 H ∧ H.size = s.heap.size)) args s 0 0 (FA (fX b0) s.heap.size)) (F0 m 0 ls []) := by
  intro v0 i1 i2 hm H locs ls hW0 hS hz hl
  obtain ⟨hx, hb, hr, hlk, hml, hown, hts, hK⟩ := id C
  unfold fX0_see at hm
  refine lv_iload_n (pc := 0) hx hb dX0_see_0 rfl (lv_at hl 1 rfl) ?_
  refine lv_iconst (pc := 1) (v := (-1 : Int32)) hx hb dX0_see_1 (by decide) ?_
  refine lv_icmp_ne (pc := 2) (tgt := 15) hx hb dX0_see_2 (by decide) (fun c1 => ?_) (fun c1 => ?_)
  · have hm := ite_f c1 hm
    refine lv_aload_n (pc := 15) hx hb dX0_see_15 rfl (lv_at hl 0 rfl) ?_
    refine rk_get (pc := 16) hx hb hts hown hK hW0 flX0_12 0 (by decide) rfl rfl (x := .ref (b0 + 1)) (by first | rfl | exact congrArg (fun z => some (Value.ref z)) (by omega)) dX0_see_16 ?_
    refine lv_iload_n (pc := 19) hx hb dX0_see_19 rfl (lv_at hl 1 rfl) ?_
    obtain ⟨r2, hq3, hm⟩ := ob_some hm
    refine rk_PV (pc := 20) (As := [.int i1]) (rest := []) hx hb hml hown hts hK lkX0_145 rfl yn_X1_hasPack (ct_X1_hasPack (G := G) (l := l) (b0 := (b0 + 1)) hq3) ⟨Nat.le_of_ble_eq_true rfl, Nat.le_of_ble_eq_true rfl⟩ (rk_recv hK hW0 1 (by decide) rfl rfl rfl) (rg_sub hW0 rfl (by decide) (fun o ho x y z => shX0_n1 G.2.1 _ rfl o ho x y z)) rfl rfl hl.1 (Nat.le_of_ble_eq_true rfl) dX0_see_20 ⟨Nat.zero_le _, Nat.zero_le _⟩ ?_
    refine W.eq (g2 := F0 m 23 ls [.int r2]) rfl ?_
    refine lv_if_ne (pc := 23) (tgt := 28) hx hb dX0_see_23 (by decide) (fun c4 => ?_) (fun c4 => ?_)
    · have hm := ite_f c4 hm
      refine lv_iload_n (pc := 28) hx hb dX0_see_28 rfl (lv_at hl 2 rfl) ?_
      refine lv_i2l (pc := 29) hx hb dX0_see_29 rfl ?_
      refine lv_lconst (pc := 30) (v := (0 : Int64)) hx hb dX0_see_30 (by decide) ?_
      refine lv_ldc2 (pc := 31) (v := (999 : Int64)) hx hb hown (hts _ q602) dX0_see_31 ?_
      obtain ⟨r5, hq6, hm⟩ := ob_some hm
      refine rk_PS (pc := 34) (As := [.long i2.toInt64, .long (0 : Int64), .long (999 : Int64)]) (rest := []) hx hb hml hown hts hK lkX0_127 yn_X0_in (ct_X0_in (G := G) (l := l) hq6) ⟨Nat.le_of_ble_eq_true rfl, Nat.le_of_ble_eq_true rfl⟩ trivial rfl rfl hl.1 (Nat.le_of_ble_eq_true rfl) dX0_see_34 ⟨Nat.zero_le _, Nat.zero_le _⟩ ?_
      refine W.eq (g2 := F0 m 37 ls [.int r5]) rfl ?_
      refine lv_if_ne (pc := 37) (tgt := 43) hx hb dX0_see_37 (by decide) (fun c7 => ?_) (fun c7 => ?_)
      · have hm := ite_f c7 hm
        refine lv_aload_n (pc := 43) hx hb dX0_see_43 rfl (lv_at hl 0 rfl) ?_
        refine rk_get (pc := 44) hx hb hts hown hK hW0 flX0_12 0 (by decide) rfl rfl (x := .ref (b0 + 1)) (by first | rfl | exact congrArg (fun z => some (Value.ref z)) (by omega)) dX0_see_44 ?_
        refine rk_getN (pc := 47) hx hb hts hown hK hW0 fnX0_476 1 (by decide) rfl rfl (x := .int (gI v0 1 4)) rfl dX0_see_47 ?_
        refine lv_iconst (pc := 50) (v := (5 : Int32)) hx hb dX0_see_50 (by decide) ?_
        refine lv_icmp_ne (pc := 51) (tgt := 57) hx hb dX0_see_51 (by decide) (fun c8 => ?_) (fun c8 => ?_)
        · have hm := ite_f c8 hm
          refine lv_aload_n (pc := 57) hx hb dX0_see_57 rfl (lv_at hl 0 rfl) ?_
          refine rk_get (pc := 58) hx hb hts hown hK hW0 flX0_12 0 (by decide) rfl rfl (x := .ref (b0 + 1)) (by first | rfl | exact congrArg (fun z => some (Value.ref z)) (by omega)) dX0_see_58 ?_
          refine rk_getN (pc := 61) hx hb hts hown hK hW0 fnX0_479 1 (by decide) rfl rfl (x := .ref (b0 + 5)) (by first | rfl | exact congrArg (fun z => some (Value.ref z)) (by omega)) dX0_see_61 ?_
          refine lv_iconst (pc := 64) (v := (2 : Int32)) hx hb dX0_see_64 (by decide) ?_
          refine lv_aload_n (pc := 65) hx hb dX0_see_65 rfl (lv_at hl 0 rfl) ?_
          refine rk_get (pc := 66) hx hb hts hown hK hW0 flX0_12 0 (by decide) rfl rfl (x := .ref (b0 + 1)) (by first | rfl | exact congrArg (fun z => some (Value.ref z)) (by omega)) dX0_see_66 ?_
          refine rk_getN (pc := 69) hx hb hts hown hK hW0 fnX0_476 1 (by decide) rfl rfl (x := .int (gI v0 1 4)) rfl dX0_see_69 ?_
          refine lv_imul (pc := 72) hx hb dX0_see_72 ?_
          refine lv_iload_n (pc := 73) hx hb dX0_see_73 rfl (lv_at hl 1 rfl) ?_
          obtain ⟨hg9, hm⟩ := gb_some hm
          refine rk_iast (pc := 74) hx hb hK hW0 hS 5 (by decide) rfl (Or.inl (show fX _ _ from ⟨⟨by omega, by omega⟩, by omega⟩)) (fun _ _ _ => rfl) hg9 dX0_see_74 (fun H11 locs12 hW13 hS14 hz15 hkp16 => ?_)
          obtain ⟨v0_10, he9, hm⟩ := lm_some hm
          rw [he9] at hW13
          have hz17 := hz15.trans hz
          refine lv_aload_n (pc := 75) hx hb dX0_see_75 rfl (lv_at hl 0 rfl) ?_
          refine rk_get (pc := 76) hx hb hts hown hK hW13 flX0_12 0 (by decide) rfl rfl (x := .ref (b0 + 1)) (by first | rfl | exact congrArg (fun z => some (Value.ref z)) (by omega)) dX0_see_76 ?_
          refine rk_getN (pc := 79) hx hb hts hown hK hW13 fnX0_479 1 (by decide) rfl rfl (x := .ref (b0 + 5)) (by first | rfl | exact congrArg (fun z => some (Value.ref z)) (by omega)) dX0_see_79 ?_
          refine lv_iconst (pc := 82) (v := (2 : Int32)) hx hb dX0_see_82 (by decide) ?_
          refine lv_aload_n (pc := 83) hx hb dX0_see_83 rfl (lv_at hl 0 rfl) ?_
          refine rk_get (pc := 84) hx hb hts hown hK hW13 flX0_12 0 (by decide) rfl rfl (x := .ref (b0 + 1)) (by first | rfl | exact congrArg (fun z => some (Value.ref z)) (by omega)) dX0_see_84 ?_
          refine rk_getN (pc := 87) hx hb hts hown hK hW13 fnX0_476 1 (by decide) rfl rfl (x := .int (gI v0_10 1 4)) rfl dX0_see_87 ?_
          refine lv_imul (pc := 90) hx hb dX0_see_90 ?_
          refine lv_iconst (pc := 91) (v := (1 : Int32)) hx hb dX0_see_91 (by decide) ?_
          refine lv_iadd (pc := 92) hx hb dX0_see_92 ?_
          refine lv_iload_n (pc := 93) hx hb dX0_see_93 rfl (lv_at hl 2 rfl) ?_
          obtain ⟨hg18, hm⟩ := gb_some hm
          refine rk_iast (pc := 94) hx hb hK hW13 hS14 5 (by decide) rfl (Or.inl (show fX _ _ from ⟨⟨by omega, by omega⟩, by omega⟩)) (fun _ _ _ => rfl) hg18 dX0_see_94 (fun H20 locs21 hW22 hS23 hz24 hkp25 => ?_)
          obtain ⟨v0_19, he9, hm⟩ := lm_some hm
          rw [he9] at hW22
          have hz26 := hz24.trans hz17
          refine lv_aload_n (pc := 95) hx hb dX0_see_95 rfl (lv_at hl 0 rfl) ?_
          refine rk_get (pc := 96) hx hb hts hown hK hW22 flX0_12 0 (by decide) rfl rfl (x := .ref (b0 + 1)) (by first | rfl | exact congrArg (fun z => some (Value.ref z)) (by omega)) dX0_see_96 ?_
          refine lv_dup (pc := 99) hx hb dX0_see_99 rfl ?_
          refine rk_getN (pc := 100) hx hb hts hown hK hW22 fnX0_476 1 (by decide) rfl rfl (x := .int (gI v0_19 1 4)) rfl dX0_see_100 ?_
          refine lv_iconst (pc := 103) (v := (1 : Int32)) hx hb dX0_see_103 (by decide) ?_
          refine lv_iadd (pc := 104) hx hb dX0_see_104 ?_
          refine rk_putN (pc := 105) hx hb hts hown hK hW22 hS23 fnX0_476 ft_X1 1 (by decide) rfl (Or.inl (show fX _ _ from ⟨⟨by omega, by omega⟩, by omega⟩)) rfl rfl (x := .int ((gI v0_19 1 4) + (1 : Int32))) rfl rfl (Nat.le_of_ble_eq_true rfl) (sI v0_19 1 4 ((gI v0_19 1 4) + (1 : Int32))) sI_ne (by rw [sI_eq]; exact rfl) dX0_see_105 (fun H28 locs29 hW30 hS31 hz32 hkp33 => ?_)
          obtain ⟨v0_27, he9, hm⟩ := lm_some hm
          rw [he9] at hW30
          have hz34 := hz32.trans hz26
          refine lv_aload_n (pc := 108) hx hb dX0_see_108 rfl (lv_at hl 0 rfl) ?_
          refine rk_get (pc := 109) hx hb hts hown hK hW30 flX0_12 0 (by decide) rfl rfl (x := .ref (b0 + 1)) (by first | rfl | exact congrArg (fun z => some (Value.ref z)) (by omega)) dX0_see_109 ?_
          refine rk_getN (pc := 112) hx hb hts hown hK hW30 fnX0_476 1 (by decide) rfl rfl (x := .int (gI v0_27 1 4)) rfl dX0_see_112 ?_
          obtain ⟨e8, e9⟩ := rs2 hm
          subst e8
          subst e9
          exact rk_iret (pc := 115) hx hb hr hlk hS31 ⟨rfl, hW30, hz34⟩ dX0_see_115
        · have hm := ite_t c8 hm
          refine lv_bipush (pc := 54) (v := (-4 : Int32)) hx hb dX0_see_54 (by decide) ?_
          obtain ⟨e8, e9⟩ := rs2 hm
          subst e8
          subst e9
          exact rk_iret (pc := 56) hx hb hr hlk hS ⟨rfl, hW0, hz⟩ dX0_see_56
      · have hm := ite_t c7 hm
        refine lv_bipush (pc := 40) (v := (-2 : Int32)) hx hb dX0_see_40 (by decide) ?_
        obtain ⟨e8, e9⟩ := rs2 hm
        subst e8
        subst e9
        exact rk_iret (pc := 42) hx hb hr hlk hS ⟨rfl, hW0, hz⟩ dX0_see_42
    · have hm := ite_t c4 hm
      refine lv_iconst (pc := 26) (v := (-1 : Int32)) hx hb dX0_see_26 (by decide) ?_
      obtain ⟨e8, e9⟩ := rs2 hm
      subst e8
      subst e9
      exact rk_iret (pc := 27) hx hb hr hlk hS ⟨rfl, hW0, hz⟩ dX0_see_27
  · have hm := ite_t c1 hm
    refine lv_aload_n (pc := 5) hx hb dX0_see_5 rfl (lv_at hl 0 rfl) ?_
    refine rk_get (pc := 6) hx hb hts hown hK hW0 flX0_12 0 (by decide) rfl rfl (x := .ref (b0 + 1)) (by first | rfl | exact congrArg (fun z => some (Value.ref z)) (by omega)) dX0_see_6 ?_
    refine lv_iconst (pc := 9) (v := (0 : Int32)) hx hb dX0_see_9 (by decide) ?_
    refine rk_putN (pc := 10) hx hb hts hown hK hW0 hS fnX0_476 ft_X1 1 (by decide) rfl (Or.inl (show fX _ _ from ⟨⟨by omega, by omega⟩, by omega⟩)) rfl rfl (x := .int (0 : Int32)) rfl rfl (Nat.le_of_ble_eq_true rfl) (sI v0 1 4 (0 : Int32)) sI_ne (by rw [sI_eq]; exact rfl) dX0_see_10 (fun H36 locs37 hW38 hS39 hz40 hkp41 => ?_)
    obtain ⟨v0_35, he9, hm⟩ := lm_some hm
    rw [he9] at hW38
    have hz42 := hz40.trans hz
    refine lv_iconst (pc := 13) (v := (0 : Int32)) hx hb dX0_see_13 (by decide) ?_
    obtain ⟨e8, e9⟩ := rs2 hm
    subst e8
    subst e9
    exact rk_iret (pc := 14) hx hb hr hlk hS39 ⟨rfl, hW38, hz42⟩ dX0_see_14
set_option maxHeartbeats 4000000 in
theorem ct_X0_see {G : Gv} {l : Launch} {b0 : Nat} {v0 : Mem} {i1 : Int32} {i2 : Int32} {rx : Int32} {rw0 : Mem} {sz : Nat} (hm : fX0_see v0 i1 i2 = some (rx, rw0)) : CT G l yX0_see (ws_ yX0_see cX0_see 3 (some .int)) 2 0 0 46 [.ref b0, .int i1, .int i2] (fX b0) sz (fun H => rg G b0 357 (shX0 G.2.1) v0 H) (fun ov H => ov = (some (.int rx)) ∧ rg G b0 357 (shX0 G.2.1) rw0 H ∧ H.size = sz) := by
  refine Met.ofW (cc := cX0_see) (maxL := 3) (ret := (some .int)) (by decide +kernel) rfl ?_
  intro p e s m args below meth c s₁ B hml hv
  obtain ⟨rfl, ⟨hz, hW0⟩, hK⟩ := hv
  subst hz
  have hts := atoms_spec (ws := ws_ yX0_see cX0_see 3 (some .int)) B.pre
  have hts : ∀ w ∈ lw_all, w.before _ s = true := fun w h => hts w (List.mem_cons_of_mem _ h)
  have C : Cx G p s m _ meth c RX0 cX0_see 3 (some .int) := ⟨B.exec, B.bytes, B.returns, B.notSynchronized, hml, findClass_of_methodNamed B.named, hts, hK⟩
  have hl := lv_entry ([.ref b0, .int i1, .int i2]) (n := 3) (Nat.le_of_ble_eq_true rfl)
  rw [lg_entry_eq]
  generalize (lg_sl ([.ref b0, .int i1, .int i2]) ++ List.replicate (3 - (lg_sl ([.ref b0, .int i1, .int i2])).length) Slot.unset).toArray = ls at hl ⊢
  have hl : lv_has ls 3 [(0, .ref b0), (1, .int i1), (2, .int i2)] := hl
  exact w_fX0_see C _ _ _ hm s.heap [] ls hW0 va_S.rf rfl hl
end
