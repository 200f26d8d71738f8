set_option maxRecDepth 100000
section
variable {p : Program} {l : Launch} {e : Env} {s : State} {m : MethodId} {args : Array Value} {below : List Frame} {meth : Method} {c : Code} {G : Gv}
theorem yn_X9_offerOf : YN yX9_offerOf 1 := by
  unfold YN
  decide +kernel
theorem lkX9_426 : LV RX9 426 RX9 yX9_offerOf cX9_offerOf 3 (some .int) := ⟨q2310, q2312, qs108, q128, q2313⟩
noncomputable def fX9_offer_95 (v0 : Mem) (i1 : Int32) (i2 : Int32) (i3 : Int32) (i4 : Int32) : Option (Int32 × Mem) :=
  gb (inR ((110 : Int32) + ((2 : Int32) * i3)) 150) (
  lm (sI v0 1 ((110 : Int32) + ((2 : Int32) * i3)).toNatClampNeg i1) fun v0_27 =>
  gb (inR (((110 : Int32) + ((2 : Int32) * i3)) + (1 : Int32)) 150) (
  lm (sI v0_27 1 (((110 : Int32) + ((2 : Int32) * i3)) + (1 : Int32)).toNatClampNeg i2) fun v0_36 =>
  some (i4, v0_36)))
noncomputable def fX9_offer_70 (v0 : Mem) (i1 : Int32) (i2 : Int32) (i3 : Int32) (t0 : Int32) : Option (Int32 × Mem) :=
  if 0 ≤ i3 then (
  fX9_offer_95 v0 i1 i2 i3 t0)
  else (
  gb (inR (6 : Int32) 150) (
  gb (inR (6 : Int32) 150) (
  gb (inR (6 : Int32) 150) (
  lm (sI v0 1 (6 : Int32).toNatClampNeg ((gI v0 1 (6 : Int32).toNatClampNeg) + (1 : Int32))) fun v0_18 =>
  fX9_offer_95 v0_18 i1 i2 (gI v0 1 (6 : Int32).toNatClampNeg) t0))))
noncomputable def fX9_offer_48 (v0 : Mem) (i1 : Int32) (i2 : Int32) (i3 : Int32) : Option (Int32 × Mem) :=
  if 0 ≤ i3 then (
  gb (inR (((110 : Int32) + ((2 : Int32) * i3)) + (1 : Int32)) 150) (
  fX9_offer_70 v0 i1 i2 i3 (gI v0 1 (((110 : Int32) + ((2 : Int32) * i3)) + (1 : Int32)).toNatClampNeg)))
  else (
  fX9_offer_70 v0 i1 i2 i3 (-5 : Int32))
noncomputable def fX9_offer (v0 : Mem) (i1 : Int32) (i2 : Int32) : Option (Int32 × Mem) :=
  ob (fX9_isCode v0 i1) fun r1 =>
  if r1 = 0 then (
  some ((-2 : Int32), v0))
  else (
  ob (fX9_isIn i2.toInt64 (0 : Int64) (999 : Int64)) fun r4 =>
  if r4 = 0 then (
  some ((-2 : Int32), v0))
  else (
  ob (fX9_offerOf v0 i1) fun r7 =>
  if 0 ≤ r7 then (
  fX9_offer_48 v0 i1 i2 r7)
  else (
  gb (inR (6 : Int32) 150) (
  if (gI v0 1 (6 : Int32).toNatClampNeg) = (20 : Int32) then (
  some ((-4 : Int32), v0))
  else (
  fX9_offer_48 v0 i1 i2 r7)))))
set_option maxHeartbeats 4000000 in
theorem w_fX9_offer_95 (C : Cx G p s m args meth c RX9 cX9_offer 5 (some .int)) {b0 : Nat} {rx : Int32} {rw0 : Mem} : ∀ (v0 : Mem) (i1 : Int32) (i2 : Int32) (i3 : Int32) (i4 : Int32), fX9_offer_95 v0 i1 i2 i3 i4 = some (rx, rw0) → ∀ (H : Heap) (locs : List Loc) (ls : Array Slot), rg G b0 46 (shX9 G.2.1) v0 H → va_S (FA (iv b0 46) s.heap.size) s.heap H locs → H.size = s.heap.size → lv_has ls 5 [(0, .ref b0), (1, .int i1), (2, .int i2), (3, .int i3), (4, .int i4)] → W p l e (rmT 3 0 0 63) s m args below meth c H locs 0 0 (MQ below (QcT (FA (iv b0 46) s.heap.size) (fun ov H => ov = (some (.int rx)) ∧ rg G b0 46 (shX9 G.2.1) rw0 H ∧ H.size = s.heap.size)) args s 0 0 (FA (iv b0 46) s.heap.size)) (F0 m 95 ls []) := by
  intro v0 i1 i2 i3 i4 hm H locs ls hW0 hS hz hl
  obtain ⟨hx, hb, hr, hlk, hml, hown, hts, hK⟩ := id C
  unfold fX9_offer_95 at hm
  refine lv_aload_n (pc := 95) hx hb dX9_offer_95 rfl (lv_at hl 0 rfl) ?_
  refine rk_get (pc := 96) hx hb hts hown hK hW0 flX9_11 0 (by decide) rfl rfl (x := .ref (b0 + 1)) (by first | rfl | exact congrArg (fun z => some (Value.ref z)) (by omega)) dX9_offer_96 ?_
  refine lv_bipush (pc := 99) (v := (110 : Int32)) hx hb dX9_offer_99 (by decide) ?_
  refine lv_iconst (pc := 101) (v := (2 : Int32)) hx hb dX9_offer_101 (by decide) ?_
  refine lv_iload_n (pc := 102) hx hb dX9_offer_102 rfl (lv_at hl 3 rfl) ?_
  refine lv_imul (pc := 103) hx hb dX9_offer_103 ?_
  refine lv_iadd (pc := 104) hx hb dX9_offer_104 ?_
  refine lv_iload_n (pc := 105) hx hb dX9_offer_105 rfl (lv_at hl 1 rfl) ?_
  obtain ⟨hg26, hm⟩ := gb_some hm
  refine rk_iast (pc := 106) hx hb hK hW0 hS 1 (by decide) rfl (Or.inl (show iv _ _ _ from ⟨by omega, by omega⟩)) (fun _ _ _ => rfl) hg26 dX9_offer_106 (fun H28 locs29 hW30 hS31 hz32 hkp33 => ?_)
  obtain ⟨v0_27, he9, hm⟩ := lm_some hm
  rw [he9] at hW30
  have hz34 := hz32.trans hz
  refine lv_aload_n (pc := 107) hx hb dX9_offer_107 rfl (lv_at hl 0 rfl) ?_
  refine rk_get (pc := 108) hx hb hts hown hK hW30 flX9_11 0 (by decide) rfl rfl (x := .ref (b0 + 1)) (by first | rfl | exact congrArg (fun z => some (Value.ref z)) (by omega)) dX9_offer_108 ?_
  refine lv_bipush (pc := 111) (v := (110 : Int32)) hx hb dX9_offer_111 (by decide) ?_
  refine lv_iconst (pc := 113) (v := (2 : Int32)) hx hb dX9_offer_113 (by decide) ?_
  refine lv_iload_n (pc := 114) hx hb dX9_offer_114 rfl (lv_at hl 3 rfl) ?_
  refine lv_imul (pc := 115) hx hb dX9_offer_115 ?_
  refine lv_iadd (pc := 116) hx hb dX9_offer_116 ?_
  refine lv_iconst (pc := 117) (v := (1 : Int32)) hx hb dX9_offer_117 (by decide) ?_
  refine lv_iadd (pc := 118) hx hb dX9_offer_118 ?_
  refine lv_iload_n (pc := 119) hx hb dX9_offer_119 rfl (lv_at hl 2 rfl) ?_
  obtain ⟨hg35, hm⟩ := gb_some hm
  refine rk_iast (pc := 120) hx hb hK hW30 hS31 1 (by decide) rfl (Or.inl (show iv _ _ _ from ⟨by omega, by omega⟩)) (fun _ _ _ => rfl) hg35 dX9_offer_120 (fun H37 locs38 hW39 hS40 hz41 hkp42 => ?_)
  obtain ⟨v0_36, he9, hm⟩ := lm_some hm
  rw [he9] at hW39
  have hz43 := hz41.trans hz34
  refine lv_iload (pc := 121) hx hb dX9_offer_121 (lv_at hl 4 rfl) ?_
  obtain ⟨e8, e9⟩ := rs2 hm
  subst e8
  subst e9
  exact rk_iret (pc := 123) hx hb hr hlk hS40 ⟨rfl, hW39, hz43⟩ dX9_offer_123
set_option maxHeartbeats 4000000 in
theorem w_fX9_offer_70 (C : Cx G p s m args meth c RX9 cX9_offer 5 (some .int)) {b0 : Nat} {rx : Int32} {rw0 : Mem} : ∀ (v0 : Mem) (i1 : Int32) (i2 : Int32) (i3 : Int32) (t0 : Int32), fX9_offer_70 v0 i1 i2 i3 t0 = some (rx, rw0) → ∀ (H : Heap) (locs : List Loc) (ls : Array Slot), rg G b0 46 (shX9 G.2.1) v0 H → va_S (FA (iv b0 46) s.heap.size) s.heap H locs → H.size = s.heap.size → lv_has ls 5 [(0, .ref b0), (1, .int i1), (2, .int i2), (3, .int i3)] → W p l e (rmT 3 0 0 63) s m args below meth c H locs 0 0 (MQ below (QcT (FA (iv b0 46) s.heap.size) (fun ov H => ov = (some (.int rx)) ∧ rg G b0 46 (shX9 G.2.1) rw0 H ∧ H.size = s.heap.size)) args s 0 0 (FA (iv b0 46) s.heap.size)) (F0 m 70 ls [.int t0]) := by
  intro v0 i1 i2 i3 t0 hm H locs ls hW0 hS hz hl
  obtain ⟨hx, hb, hr, hlk, hml, hown, hts, hK⟩ := id C
  unfold fX9_offer_70 at hm
  refine lv_istore (pc := 70) (lv' := [(4, .int t0), (0, .ref b0), (1, .int i1), (2, .int i2), (3, .int i3)]) hx hb dX9_offer_70 hl (by decide) rfl (fun ls hl => ?_)
  refine lv_iload_n (pc := 72) hx hb dX9_offer_72 rfl (lv_at hl 4 rfl) ?_
  refine lv_if_ge (pc := 73) (tgt := 95) hx hb dX9_offer_73 (by decide) (fun c14 => ?_) (fun c14 => ?_)
  · have hm := ite_t c14 hm
    exact (w_fX9_offer_95 C) v0 i1 i2 i3 t0 hm H locs ls hW0 hS hz (lv_sub hl [1, 2, 3, 4, 0] rfl)
  · have hm := ite_f c14 hm
    refine lv_aload_n (pc := 76) hx hb dX9_offer_76 rfl (lv_at hl 1 rfl) ?_
    refine rk_get (pc := 77) hx hb hts hown hK hW0 flX9_11 0 (by decide) rfl rfl (x := .ref (b0 + 1)) (by first | rfl | exact congrArg (fun z => some (Value.ref z)) (by omega)) dX9_offer_77 ?_
    refine lv_bipush (pc := 80) (v := (6 : Int32)) hx hb dX9_offer_80 (by decide) ?_
    obtain ⟨hg15, hm⟩ := gb_some hm
    refine rk_iald (pc := 82) hx hb hK hW0 1 (by decide) rfl rfl hg15 (x := (gI v0 1 (6 : Int32).toNatClampNeg)) rfl dX9_offer_82 ?_
    refine lv_istore_n (pc := 83) (lv' := [(3, .int (gI v0 1 (6 : Int32).toNatClampNeg)), (4, .int t0), (0, .ref b0), (1, .int i1), (2, .int i2)]) hx hb dX9_offer_83 rfl hl (by decide) rfl (fun ls hl => ?_)
    refine lv_aload_n (pc := 84) hx hb dX9_offer_84 rfl (lv_at hl 2 rfl) ?_
    refine rk_get (pc := 85) hx hb hts hown hK hW0 flX9_11 0 (by decide) rfl rfl (x := .ref (b0 + 1)) (by first | rfl | exact congrArg (fun z => some (Value.ref z)) (by omega)) dX9_offer_85 ?_
    refine lv_bipush (pc := 88) (v := (6 : Int32)) hx hb dX9_offer_88 (by decide) ?_
    refine lv_dup2_11 (pc := 90) hx hb dX9_offer_90 rfl rfl ?_
    obtain ⟨hg16, hm⟩ := gb_some hm
    refine rk_iald (pc := 91) hx hb hK hW0 1 (by decide) rfl rfl hg16 (x := (gI v0 1 (6 : Int32).toNatClampNeg)) rfl dX9_offer_91 ?_
    refine lv_iconst (pc := 92) (v := (1 : Int32)) hx hb dX9_offer_92 (by decide) ?_
    refine lv_iadd (pc := 93) hx hb dX9_offer_93 ?_
    obtain ⟨hg17, hm⟩ := gb_some hm
    refine rk_iast (pc := 94) hx hb hK hW0 hS 1 (by decide) rfl (Or.inl (show iv _ _ _ from ⟨by omega, by omega⟩)) (fun _ _ _ => rfl) hg17 dX9_offer_94 (fun H19 locs20 hW21 hS22 hz23 hkp24 => ?_)
    obtain ⟨v0_18, he9, hm⟩ := lm_some hm
    rw [he9] at hW21
    have hz25 := hz23.trans hz
    exact (w_fX9_offer_95 C) v0_18 i1 i2 (gI v0 1 (6 : Int32).toNatClampNeg) t0 hm H19 locs20 ls hW21 hS22 hz25 (lv_sub hl [2, 3, 4, 0, 1] rfl)
set_option maxHeartbeats 4000000 in
theorem w_fX9_offer_48 (C : Cx G p s m args meth c RX9 cX9_offer 5 (some .int)) {b0 : Nat} {rx : Int32} {rw0 : Mem} : ∀ (v0 : Mem) (i1 : Int32) (i2 : Int32) (i3 : Int32), fX9_offer_48 v0 i1 i2 i3 = some (rx, rw0) → ∀ (H : Heap) (locs : List Loc) (ls : Array Slot), rg G b0 46 (shX9 G.2.1) v0 H → va_S (FA (iv b0 46) s.heap.size) s.heap H locs → H.size = s.heap.size → lv_has ls 5 [(0, .ref b0), (1, .int i1), (2, .int i2), (3, .int i3)] → W p l e (rmT 3 0 0 63) s m args below meth c H locs 0 0 (MQ below (QcT (FA (iv b0 46) s.heap.size) (fun ov H => ov = (some (.int rx)) ∧ rg G b0 46 (shX9 G.2.1) rw0 H ∧ H.size = s.heap.size)) args s 0 0 (FA (iv b0 46) s.heap.size)) (F0 m 48 ls []) := by
  intro v0 i1 i2 i3 hm H locs ls hW0 hS hz hl
  obtain ⟨hx, hb, hr, hlk, hml, hown, hts, hK⟩ := id C
  unfold fX9_offer_48 at hm
  refine lv_iload_n (pc := 48) hx hb dX9_offer_48 rfl (lv_at hl 3 rfl) ?_
  refine lv_if_ge (pc := 49) (tgt := 57) hx hb dX9_offer_49 (by decide) (fun c12 => ?_) (fun c12 => ?_)
  · have hm := ite_t c12 hm
    refine lv_aload_n (pc := 57) hx hb dX9_offer_57 rfl (lv_at hl 0 rfl) ?_
    refine rk_get (pc := 58) hx hb hts hown hK hW0 flX9_11 0 (by decide) rfl rfl (x := .ref (b0 + 1)) (by first | rfl | exact congrArg (fun z => some (Value.ref z)) (by omega)) dX9_offer_58 ?_
    refine lv_bipush (pc := 61) (v := (110 : Int32)) hx hb dX9_offer_61 (by decide) ?_
    refine lv_iconst (pc := 63) (v := (2 : Int32)) hx hb dX9_offer_63 (by decide) ?_
    refine lv_iload_n (pc := 64) hx hb dX9_offer_64 rfl (lv_at hl 3 rfl) ?_
    refine lv_imul (pc := 65) hx hb dX9_offer_65 ?_
    refine lv_iadd (pc := 66) hx hb dX9_offer_66 ?_
    refine lv_iconst (pc := 67) (v := (1 : Int32)) hx hb dX9_offer_67 (by decide) ?_
    refine lv_iadd (pc := 68) hx hb dX9_offer_68 ?_
    obtain ⟨hg13, hm⟩ := gb_some hm
    refine rk_iald (pc := 69) hx hb hK hW0 1 (by decide) rfl rfl hg13 (x := (gI v0 1 (((110 : Int32) + ((2 : Int32) * i3)) + (1 : Int32)).toNatClampNeg)) rfl dX9_offer_69 ?_
    exact (w_fX9_offer_70 C) v0 i1 i2 i3 (gI v0 1 (((110 : Int32) + ((2 : Int32) * i3)) + (1 : Int32)).toNatClampNeg) hm H locs ls hW0 hS hz (lv_sub hl [0, 1, 2, 3] rfl)
  · have hm := ite_f c12 hm
    refine lv_bipush (pc := 52) (v := (-5 : Int32)) hx hb dX9_offer_52 (by decide) ?_
    refine lv_goto (pc := 54) (tgt := 70) hx hb dX9_offer_54 (by decide) ?_
    exact (w_fX9_offer_70 C) v0 i1 i2 i3 (-5 : Int32) hm H locs ls hW0 hS hz (lv_sub hl [0, 1, 2, 3] rfl)
set_option maxHeartbeats 4000000 in
theorem w_fX9_offer (C : Cx G p s m args meth c RX9 cX9_offer 5 (some .int)) {b0 : Nat} {rx : Int32} {rw0 : Mem} : ∀ (v0 : Mem) (i1 : Int32) (i2 : Int32), fX9_offer v0 i1 i2 = some (rx, rw0) → ∀ (H : Heap) (locs : List Loc) (ls : Array Slot), rg G b0 46 (shX9 G.2.1) v0 H → va_S (FA (iv b0 46) s.heap.size) s.heap H locs → H.size = s.heap.size → lv_has ls 5 [(0, .ref b0), (1, .int i1), (2, .int i2)] → W p l e (rmT 3 0 0 63) s m args below meth c H locs 0 0 (MQ below (QcT (FA (iv b0 46) s.heap.size) (fun ov H => ov = (some (.int rx)) ∧ rg G b0 46 (shX9 G.2.1) rw0 H ∧ H.size = s.heap.size)) args s 0 0 (FA (iv b0 46) s.heap.size)) (F0 m 0 ls []) := by
  intro v0 i1 i2 hm H locs ls hW0 hS hz hl
  obtain ⟨hx, hb, hr, hlk, hml, hown, hts, hK⟩ := id C
  unfold fX9_offer at hm
  refine lv_aload_n (pc := 0) hx hb dX9_offer_0 rfl (lv_at hl 0 rfl) ?_
  refine lv_iload_n (pc := 1) hx hb dX9_offer_1 rfl (lv_at hl 1 rfl) ?_
  obtain ⟨r1, hq2, hm⟩ := ob_some hm
  refine rk_PV (pc := 2) (As := [.int i1]) (rest := []) hx hb hml hown hts hK lkX9_365 rfl yn_X9_isCode (ct_X9_isCode (G := G) (l := l) (b0 := b0) hq2) ⟨Nat.le_of_ble_eq_true rfl, Nat.le_of_ble_eq_true rfl⟩ (rk_recv hK hW0 0 (by decide) rfl rfl rfl) hW0 rfl rfl hl.1 (Nat.le_of_ble_eq_true rfl) dX9_offer_2 ⟨Nat.zero_le _, Nat.zero_le _⟩ ?_
  refine W.eq (g2 := F0 m 5 ls [.int r1]) rfl ?_
  refine lv_if_eq (pc := 5) (tgt := 20) hx hb dX9_offer_5 (by decide) (fun c3 => ?_) (fun c3 => ?_)
  · have hm := ite_t c3 hm
    refine lv_bipush (pc := 20) (v := (-2 : Int32)) hx hb dX9_offer_20 (by decide) ?_
    obtain ⟨e8, e9⟩ := rs2 hm
    subst e8
    subst e9
    exact rk_iret (pc := 22) hx hb hr hlk hS ⟨rfl, hW0, hz⟩ dX9_offer_22
  · have hm := ite_f c3 hm
    refine lv_iload_n (pc := 8) hx hb dX9_offer_8 rfl (lv_at hl 2 rfl) ?_
    refine lv_i2l (pc := 9) hx hb dX9_offer_9 rfl ?_
    refine lv_lconst (pc := 10) (v := (0 : Int64)) hx hb dX9_offer_10 (by decide) ?_
    refine lv_ldc2 (pc := 11) (v := (999 : Int64)) hx hb hown (hts _ q1941) dX9_offer_11 ?_
    obtain ⟨r4, hq5, hm⟩ := ob_some hm
    refine rk_PS (pc := 14) (As := [.long i2.toInt64, .long (0 : Int64), .long (999 : Int64)]) (rest := []) hx hb hml hown hts hK lkX9_93 yn_X9_isIn (ct_X9_isIn (G := G) (l := l) hq5) ⟨Nat.le_of_ble_eq_true rfl, Nat.le_of_ble_eq_true rfl⟩ trivial rfl rfl hl.1 (Nat.le_of_ble_eq_true rfl) dX9_offer_14 ⟨Nat.zero_le _, Nat.zero_le _⟩ ?_
    refine W.eq (g2 := F0 m 17 ls [.int r4]) rfl ?_
    refine lv_if_ne (pc := 17) (tgt := 23) hx hb dX9_offer_17 (by decide) (fun c6 => ?_) (fun c6 => ?_)
    · have hm := ite_f c6 hm
      refine lv_aload_n (pc := 23) hx hb dX9_offer_23 rfl (lv_at hl 0 rfl) ?_
      refine lv_iload_n (pc := 24) hx hb dX9_offer_24 rfl (lv_at hl 1 rfl) ?_
      obtain ⟨r7, hq8, hm⟩ := ob_some hm
      refine rk_PV (pc := 25) (As := [.int i1]) (rest := []) hx hb hml hown hts hK lkX9_426 rfl yn_X9_offerOf (ct_X9_offerOf (G := G) (l := l) (b0 := b0) hq8) ⟨Nat.le_of_ble_eq_true rfl, Nat.le_of_ble_eq_true rfl⟩ (rk_recv hK hW0 0 (by decide) rfl rfl rfl) hW0 rfl rfl hl.1 (Nat.le_of_ble_eq_true rfl) dX9_offer_25 ⟨Nat.zero_le _, Nat.zero_le _⟩ ?_
      refine W.eq (g2 := F0 m 28 ls [.int r7]) rfl ?_
      refine lv_istore_n (pc := 28) (lv' := [(3, .int r7), (0, .ref b0), (1, .int i1), (2, .int i2)]) hx hb dX9_offer_28 rfl hl (by decide) rfl (fun ls hl => ?_)
      refine lv_iload_n (pc := 29) hx hb dX9_offer_29 rfl (lv_at hl 0 rfl) ?_
      refine lv_if_ge (pc := 30) (tgt := 48) hx hb dX9_offer_30 (by decide) (fun c9 => ?_) (fun c9 => ?_)
      · have hm := ite_t c9 hm
        exact (w_fX9_offer_48 C) v0 i1 i2 r7 hm H locs ls hW0 hS hz (lv_sub hl [1, 2, 3, 0] rfl)
      · have hm := ite_f c9 hm
        refine lv_aload_n (pc := 33) hx hb dX9_offer_33 rfl (lv_at hl 1 rfl) ?_
        refine rk_get (pc := 34) hx hb hts hown hK hW0 flX9_11 0 (by decide) rfl rfl (x := .ref (b0 + 1)) (by first | rfl | exact congrArg (fun z => some (Value.ref z)) (by omega)) dX9_offer_34 ?_
        refine lv_bipush (pc := 37) (v := (6 : Int32)) hx hb dX9_offer_37 (by decide) ?_
        obtain ⟨hg10, hm⟩ := gb_some hm
        refine rk_iald (pc := 39) hx hb hK hW0 1 (by decide) rfl rfl hg10 (x := (gI v0 1 (6 : Int32).toNatClampNeg)) rfl dX9_offer_39 ?_
        refine lv_bipush (pc := 40) (v := (20 : Int32)) hx hb dX9_offer_40 (by decide) ?_
        refine lv_icmp_ne (pc := 42) (tgt := 48) hx hb dX9_offer_42 (by decide) (fun c11 => ?_) (fun c11 => ?_)
        · have hm := ite_f c11 hm
          exact (w_fX9_offer_48 C) v0 i1 i2 r7 hm H locs ls hW0 hS hz (lv_sub hl [1, 2, 3, 0] rfl)
        · have hm := ite_t c11 hm
          refine lv_bipush (pc := 45) (v := (-4 : Int32)) hx hb dX9_offer_45 (by decide) ?_
          obtain ⟨e8, e9⟩ := rs2 hm
          subst e8
          subst e9
          exact rk_iret (pc := 47) hx hb hr hlk hS ⟨rfl, hW0, hz⟩ dX9_offer_47
    · have hm := ite_t c6 hm
      refine lv_bipush (pc := 20) (v := (-2 : Int32)) hx hb dX9_offer_20 (by decide) ?_
      obtain ⟨e8, e9⟩ := rs2 hm
      subst e8
      subst e9
      exact rk_iret (pc := 22) hx hb hr hlk hS ⟨rfl, hW0, hz⟩ dX9_offer_22
set_option maxHeartbeats 4000000 in
theorem ct_X9_offer {G : Gv} {l : Launch} {b0 : Nat} {v0 : Mem} {i1 : Int32} {i2 : Int32} {rx : Int32} {rw0 : Mem} {sz : Nat} (hm : fX9_offer v0 i1 i2 = some (rx, rw0)) : CT G l yX9_offer (ws_ yX9_offer cX9_offer 5 (some .int)) 3 0 0 63 [.ref b0, .int i1, .int i2] (iv b0 46) sz (fun H => rg G b0 46 (shX9 G.2.1) v0 H) (fun ov H => ov = (some (.int rx)) ∧ rg G b0 46 (shX9 G.2.1) rw0 H ∧ H.size = sz) := by
  refine Met.ofW (cc := cX9_offer) (maxL := 5) (ret := (some .int)) (by decide +kernel) rfl ?_
  intro p e s m args below meth c s₁ B hml hv
  obtain ⟨rfl, ⟨hz, hW0⟩, hK⟩ := hv
  subst hz
  have hts := atoms_spec (ws := ws_ yX9_offer cX9_offer 5 (some .int)) B.pre
  have hts : ∀ w ∈ lw_all, w.before _ s = true := fun w h => hts w (List.mem_cons_of_mem _ h)
  have C : Cx G p s m _ meth c RX9 cX9_offer 5 (some .int) := ⟨B.exec, B.bytes, B.returns, B.notSynchronized, hml, findClass_of_methodNamed B.named, hts, hK⟩
  have hl := lv_entry ([.ref b0, .int i1, .int i2]) (n := 5) (Nat.le_of_ble_eq_true rfl)
  rw [lg_entry_eq]
  generalize (lg_sl ([.ref b0, .int i1, .int i2]) ++ List.replicate (5 - (lg_sl ([.ref b0, .int i1, .int i2])).length) Slot.unset).toArray = ls at hl ⊢
  have hl : lv_has ls 5 [(0, .ref b0), (1, .int i1), (2, .int i2)] := hl
  exact w_fX9_offer C _ _ _ hm s.heap [] ls hW0 va_S.rf rfl hl
noncomputable def fX9_isAhead (v0 : Mem) (i1 : Int32) (i2 : Int32) : Option (Int32 × Mem) :=
  gb (inR ((110 : Int32) + ((2 : Int32) * i1)) 150) (
  ob2 (fX9_costOf v0 (gI v0 1 ((110 : Int32) + ((2 : Int32) * i1)).toNatClampNeg)) fun r2 w3 =>
  gb (inR ((110 : Int32) + ((2 : Int32) * i2)) 150) (
  ob2 (fX9_costOf w3 (gI w3 1 ((110 : Int32) + ((2 : Int32) * i2)).toNatClampNeg)) fun r14 w15 =>
  if (r2 - r14) < 0 then (
  some ((1 : Int32), w15))
  else (
  if (r2 - r14) = 0 then (
  gb (inR ((110 : Int32) + ((2 : Int32) * i1)) 150) (
  gb (inR ((110 : Int32) + ((2 : Int32) * i2)) 150) (
  if (gI w15 1 ((110 : Int32) + ((2 : Int32) * i2)).toNatClampNeg) ≤ (gI w15 1 ((110 : Int32) + ((2 : Int32) * i1)).toNatClampNeg) then (
  some ((0 : Int32), w15))
  else (
  some ((1 : Int32), w15)))))
  else (
  some ((0 : Int32), w15)))))
set_option maxHeartbeats 4000000 in
theorem w_fX9_isAhead (C : Cx G p s m args meth c RX9 cX9_isAhead 4 (some .boolean)) {b0 : Nat} {rx : Int32} {rw0 : Mem} : ∀ (v0 : Mem) (i1 : Int32) (i2 : Int32), fX9_isAhead v0 i1 i2 = some (rx, rw0) → ∀ (H : Heap) (locs : List Loc) (ls : Array Slot), rg G b0 46 (shX9 G.2.1) v0 H → va_S (FA (iv b0 46) s.heap.size) s.heap H locs → H.size = s.heap.size → lv_has ls 4 [(0, .ref b0), (1, .int i1), (2, .int i2)] → W p l e (rmT 3 0 0 66) s m args below meth c H locs 0 0 (MQ below (QcT (FA (iv b0 46) s.heap.size) (fun ov H => ov = (some (.int rx)) ∧ rg G b0 46 (shX9 G.2.1) rw0 H ∧ H.size = s.heap.size)) args s 0 0 (FA (iv b0 46) s.heap.size)) (F0 m 0 ls []) := by
  intro v0 i1 i2 hm H locs ls hW0 hS hz hl
  obtain ⟨hx, hb, hr, hlk, hml, hown, hts, hK⟩ := id C
  unfold fX9_isAhead at hm
  refine lv_aload_n (pc := 0) hx hb dX9_isAhead_0 rfl (lv_at hl 0 rfl) ?_
  refine lv_aload_n (pc := 1) hx hb dX9_isAhead_1 rfl (lv_at hl 0 rfl) ?_
  refine rk_get (pc := 2) hx hb hts hown hK hW0 flX9_11 0 (by decide) rfl rfl (x := .ref (b0 + 1)) (by first | rfl | exact congrArg (fun z => some (Value.ref z)) (by omega)) dX9_isAhead_2 ?_
  refine lv_bipush (pc := 5) (v := (110 : Int32)) hx hb dX9_isAhead_5 (by decide) ?_
  refine lv_iconst (pc := 7) (v := (2 : Int32)) hx hb dX9_isAhead_7 (by decide) ?_
  refine lv_iload_n (pc := 8) hx hb dX9_isAhead_8 rfl (lv_at hl 1 rfl) ?_
  refine lv_imul (pc := 9) hx hb dX9_isAhead_9 ?_
  refine lv_iadd (pc := 10) hx hb dX9_isAhead_10 ?_
  obtain ⟨hg1, hm⟩ := gb_some hm
  refine rk_iald (pc := 11) hx hb hK hW0 1 (by decide) rfl rfl hg1 (x := (gI v0 1 ((110 : Int32) + ((2 : Int32) * i1)).toNatClampNeg)) rfl dX9_isAhead_11 ?_
  obtain ⟨r2, w3, hq4, hm⟩ := ob2_some hm
  refine rk_TV (pc := 12) (As := [.int (gI v0 1 ((110 : Int32) + ((2 : Int32) * i1)).toNatClampNeg)]) (rest := []) (mc := 0) (ms := 0) hx hb hml hown hts hK hS (fun q hq => FA_sz rfl q hq) lkX9_353 rfl yn_X9_costOf (ct_X9_costOf (G := G) (l := l) (b0 := b0) (sz := H.size) hq4) ⟨Nat.le_of_ble_eq_true rfl, Nat.le_of_ble_eq_true rfl⟩ (fun z h => Or.inl (show iv _ _ _ from ⟨by have h8 := h.1; have h9 := h.2; omega, by have h8 := h.1; have h9 := h.2; omega⟩)) (rk_recv hK hW0 0 (by decide) rfl rfl rfl) hW0 rfl rfl hl.1 (Nat.le_of_ble_eq_true rfl) dX9_isAhead_12 ⟨Nat.zero_le _, Nat.zero_le _⟩ (fun ov9 H5 locs6 hP7 hkp8 hS9 => ?_)
  obtain ⟨rfl, hW10, hz11⟩ := hP7
  have hz12 := hz11.trans hz
  refine W.eq (g2 := F0 m 15 ls [.int r2]) rfl ?_
  refine lv_aload_n (pc := 15) hx hb dX9_isAhead_15 rfl (lv_at hl 0 rfl) ?_
  refine lv_aload_n (pc := 16) hx hb dX9_isAhead_16 rfl (lv_at hl 0 rfl) ?_
  refine rk_get (pc := 17) hx hb hts hown hK hW10 flX9_11 0 (by decide) rfl rfl (x := .ref (b0 + 1)) (by first | rfl | exact congrArg (fun z => some (Value.ref z)) (by omega)) dX9_isAhead_17 ?_
  refine lv_bipush (pc := 20) (v := (110 : Int32)) hx hb dX9_isAhead_20 (by decide) ?_
  refine lv_iconst (pc := 22) (v := (2 : Int32)) hx hb dX9_isAhead_22 (by decide) ?_
  refine lv_iload_n (pc := 23) hx hb dX9_isAhead_23 rfl (lv_at hl 2 rfl) ?_
  refine lv_imul (pc := 24) hx hb dX9_isAhead_24 ?_
  refine lv_iadd (pc := 25) hx hb dX9_isAhead_25 ?_
  obtain ⟨hg13, hm⟩ := gb_some hm
  refine rk_iald (pc := 26) hx hb hK hW10 1 (by decide) rfl rfl hg13 (x := (gI w3 1 ((110 : Int32) + ((2 : Int32) * i2)).toNatClampNeg)) rfl dX9_isAhead_26 ?_
  obtain ⟨r14, w15, hq16, hm⟩ := ob2_some hm
  refine rk_TV (pc := 27) (As := [.int (gI w3 1 ((110 : Int32) + ((2 : Int32) * i2)).toNatClampNeg)]) (rest := [.int r2]) (mc := 0) (ms := 0) hx hb hml hown hts hK hS9 (fun q hq => FA_sz rfl q hq) lkX9_353 rfl yn_X9_costOf (ct_X9_costOf (G := G) (l := l) (b0 := b0) (sz := H5.size) hq16) ⟨Nat.le_of_ble_eq_true rfl, Nat.le_of_ble_eq_true rfl⟩ (fun z h => Or.inl (show iv _ _ _ from ⟨by have h8 := h.1; have h9 := h.2; omega, by have h8 := h.1; have h9 := h.2; omega⟩)) (rk_recv hK hW10 0 (by decide) rfl rfl rfl) hW10 rfl rfl hl.1 (Nat.le_of_ble_eq_true rfl) dX9_isAhead_27 ⟨Nat.zero_le _, Nat.zero_le _⟩ (fun ov9 H17 locs18 hP19 hkp20 hS21 => ?_)
  obtain ⟨rfl, hW22, hz23⟩ := hP19
  have hz24 := hz23.trans hz12
  refine W.eq (g2 := F0 m 30 ls [.int r14, .int r2]) rfl ?_
  refine lv_isub (pc := 30) hx hb dX9_isAhead_30 ?_
  refine lv_istore_n (pc := 31) (lv' := [(3, .int (r2 - r14)), (0, .ref b0), (1, .int i1), (2, .int i2)]) hx hb dX9_isAhead_31 rfl hl (by decide) rfl (fun ls hl => ?_)
  refine lv_iload_n (pc := 32) hx hb dX9_isAhead_32 rfl (lv_at hl 0 rfl) ?_
  refine lv_if_lt (pc := 33) (tgt := 65) hx hb dX9_isAhead_33 (by decide) (fun c25 => ?_) (fun c25 => ?_)
  · have hm := ite_t c25 hm
    refine lv_iconst (pc := 65) (v := (1 : Int32)) hx hb dX9_isAhead_65 (by decide) ?_
    refine lv_goto (pc := 66) (tgt := 70) hx hb dX9_isAhead_66 (by decide) ?_
    obtain ⟨e8, e9⟩ := rs2 hm
    subst e8
    subst e9
    exact rk_zret (pc := 70) hx hb hr hlk rfl hS21 ⟨rfl, hW22, hz24⟩ dX9_isAhead_70
  · have hm := ite_f c25 hm
    refine lv_iload_n (pc := 36) hx hb dX9_isAhead_36 rfl (lv_at hl 0 rfl) ?_
    refine lv_if_ne (pc := 37) (tgt := 69) hx hb dX9_isAhead_37 (by decide) (fun c26 => ?_) (fun c26 => ?_)
    · have hm := ite_f c26 hm
      refine lv_iconst (pc := 69) (v := (0 : Int32)) hx hb dX9_isAhead_69 (by decide) ?_
      obtain ⟨e8, e9⟩ := rs2 hm
      subst e8
      subst e9
      exact rk_zret (pc := 70) hx hb hr hlk rfl hS21 ⟨rfl, hW22, hz24⟩ dX9_isAhead_70
    · have hm := ite_t c26 hm
      refine lv_aload_n (pc := 40) hx hb dX9_isAhead_40 rfl (lv_at hl 1 rfl) ?_
      refine rk_get (pc := 41) hx hb hts hown hK hW22 flX9_11 0 (by decide) rfl rfl (x := .ref (b0 + 1)) (by first | rfl | exact congrArg (fun z => some (Value.ref z)) (by omega)) dX9_isAhead_41 ?_
      refine lv_bipush (pc := 44) (v := (110 : Int32)) hx hb dX9_isAhead_44 (by decide) ?_
      refine lv_iconst (pc := 46) (v := (2 : Int32)) hx hb dX9_isAhead_46 (by decide) ?_
      refine lv_iload_n (pc := 47) hx hb dX9_isAhead_47 rfl (lv_at hl 2 rfl) ?_
      refine lv_imul (pc := 48) hx hb dX9_isAhead_48 ?_
      refine lv_iadd (pc := 49) hx hb dX9_isAhead_49 ?_
      obtain ⟨hg27, hm⟩ := gb_some hm
      refine rk_iald (pc := 50) hx hb hK hW22 1 (by decide) rfl rfl hg27 (x := (gI w15 1 ((110 : Int32) + ((2 : Int32) * i1)).toNatClampNeg)) rfl dX9_isAhead_50 ?_
      refine lv_aload_n (pc := 51) hx hb dX9_isAhead_51 rfl (lv_at hl 1 rfl) ?_
      refine rk_get (pc := 52) hx hb hts hown hK hW22 flX9_11 0 (by decide) rfl rfl (x := .ref (b0 + 1)) (by first | rfl | exact congrArg (fun z => some (Value.ref z)) (by omega)) dX9_isAhead_52 ?_
      refine lv_bipush (pc := 55) (v := (110 : Int32)) hx hb dX9_isAhead_55 (by decide) ?_
      refine lv_iconst (pc := 57) (v := (2 : Int32)) hx hb dX9_isAhead_57 (by decide) ?_
      refine lv_iload_n (pc := 58) hx hb dX9_isAhead_58 rfl (lv_at hl 3 rfl) ?_
      refine lv_imul (pc := 59) hx hb dX9_isAhead_59 ?_
      refine lv_iadd (pc := 60) hx hb dX9_isAhead_60 ?_
      obtain ⟨hg28, hm⟩ := gb_some hm
      refine rk_iald (pc := 61) hx hb hK hW22 1 (by decide) rfl rfl hg28 (x := (gI w15 1 ((110 : Int32) + ((2 : Int32) * i2)).toNatClampNeg)) rfl dX9_isAhead_61 ?_
      refine lv_icmp_ge (pc := 62) (tgt := 69) hx hb dX9_isAhead_62 (by decide) (fun c29 => ?_) (fun c29 => ?_)
      · have hm := ite_t c29 hm
        refine lv_iconst (pc := 69) (v := (0 : Int32)) hx hb dX9_isAhead_69 (by decide) ?_
        obtain ⟨e8, e9⟩ := rs2 hm
        subst e8
        subst e9
        exact rk_zret (pc := 70) hx hb hr hlk rfl hS21 ⟨rfl, hW22, hz24⟩ dX9_isAhead_70
      · have hm := ite_f c29 hm
        refine lv_iconst (pc := 65) (v := (1 : Int32)) hx hb dX9_isAhead_65 (by decide) ?_
        refine lv_goto (pc := 66) (tgt := 70) hx hb dX9_isAhead_66 (by decide) ?_
        obtain ⟨e8, e9⟩ := rs2 hm
        subst e8
        subst e9
        exact rk_zret (pc := 70) hx hb hr hlk rfl hS21 ⟨rfl, hW22, hz24⟩ dX9_isAhead_70
set_option maxHeartbeats 4000000 in
theorem ct_X9_isAhead {G : Gv} {l : Launch} {b0 : Nat} {v0 : Mem} {i1 : Int32} {i2 : Int32} {rx : Int32} {rw0 : Mem} {sz : Nat} (hm : fX9_isAhead v0 i1 i2 = some (rx, rw0)) : CT G l yX9_isAhead (ws_ yX9_isAhead cX9_isAhead 4 (some .boolean)) 3 0 0 66 [.ref b0, .int i1, .int i2] (iv b0 46) sz (fun H => rg G b0 46 (shX9 G.2.1) v0 H) (fun ov H => ov = (some (.int rx)) ∧ rg G b0 46 (shX9 G.2.1) rw0 H ∧ H.size = sz) := by
  refine Met.ofW (cc := cX9_isAhead) (maxL := 4) (ret := (some .boolean)) (by decide +kernel) rfl ?_
  intro p e s m args below meth c s₁ B hml hv
  obtain ⟨rfl, ⟨hz, hW0⟩, hK⟩ := hv
  subst hz
  have hts := atoms_spec (ws := ws_ yX9_isAhead cX9_isAhead 4 (some .boolean)) B.pre
  have hts : ∀ w ∈ lw_all, w.before _ s = true := fun w h => hts w (List.mem_cons_of_mem _ h)
  have C : Cx G p s m _ meth c RX9 cX9_isAhead 4 (some .boolean) := ⟨B.exec, B.bytes, B.returns, B.notSynchronized, hml, findClass_of_methodNamed B.named, hts, hK⟩
  have hl := lv_entry ([.ref b0, .int i1, .int i2]) (n := 4) (Nat.le_of_ble_eq_true rfl)
  rw [lg_entry_eq]
  generalize (lg_sl ([.ref b0, .int i1, .int i2]) ++ List.replicate (4 - (lg_sl ([.ref b0, .int i1, .int i2])).length) Slot.unset).toArray = ls at hl ⊢
  have hl : lv_has ls 4 [(0, .ref b0), (1, .int i1), (2, .int i2)] := hl
  exact w_fX9_isAhead C _ _ _ hm s.heap [] ls hW0 va_S.rf rfl hl
theorem yn_X9_isAhead : YN yX9_isAhead 2 := by
  unfold YN
  decide +kernel
theorem lkX9_429 : LV RX9 429 RX9 yX9_isAhead cX9_isAhead 4 (some .boolean) := ⟨q2323, q2325, qs110, q128, q2326⟩
noncomputable def fX9_place_4 (k4 : Mem → Int32 → Int32 → Int32 → Option (Int32 × Mem)) (v0 : Mem) (i1 : Int32) (i2 : Int32) (i3 : Int32) : Option (Int32 × Mem) :=
  gb (inR (6 : Int32) 150) (
  if (gI v0 1 (6 : Int32).toNatClampNeg) ≤ i3 then (
  some (i2, v0))
  else (
  ob2 (fX9_isAhead v0 i3 i1) fun r3 w4 =>
  if r3 = 0 then (
  k4 w4 i1 (i2 + (0 : Int32)) (i3 + (1 : Int32)))
  else (
  k4 w4 i1 (i2 + (1 : Int32)) (i3 + (1 : Int32)))))
noncomputable def fX9_place (v0 : Mem) (i1 : Int32) : Option (Int32 × Mem) :=
  lq4 (fX9_place_4) FU v0 i1 (0 : Int32) (0 : Int32)
set_option maxHeartbeats 4000000 in
theorem w_fX9_place_4 (C : Cx G p s m args meth c RX9 cX9_place 4 (some .int)) {b0 : Nat} {rx : Int32} {rw0 : Mem} {k4 : Mem → Int32 → Int32 → Int32 → Option (Int32 × Mem)} (hk4 : ∀ (v0 : Mem) (i1 : Int32) (i2 : Int32) (i3 : Int32), k4 v0 i1 i2 i3 = some (rx, rw0) → ∀ (H : Heap) (locs : List Loc) (ls : Array Slot), rg G b0 46 (shX9 G.2.1) v0 H → va_S (FA (iv b0 46) s.heap.size) s.heap H locs → H.size = s.heap.size → lv_has ls 4 [(0, .ref b0), (1, .int i1), (2, .int i2), (3, .int i3)] → W p l e (rmT 4 0 0 89) s m args below meth c H locs 0 0 (MQ below (QcT (FA (iv b0 46) s.heap.size) (fun ov H => ov = (some (.int rx)) ∧ rg G b0 46 (shX9 G.2.1) rw0 H ∧ H.size = s.heap.size)) args s 0 0 (FA (iv b0 46) s.heap.size)) (F0 m 4 ls [])) : ∀ (v0 : Mem) (i1 : Int32) (i2 : Int32) (i3 : Int32), fX9_place_4 k4 v0 i1 i2 i3 = some (rx, rw0) → ∀ (H : Heap) (locs : List Loc) (ls : Array Slot), rg G b0 46 (shX9 G.2.1) v0 H → va_S (FA (iv b0 46) s.heap.size) s.heap H locs → H.size = s.heap.size → lv_has ls 4 [(0, .ref b0), (1, .int i1), (2, .int i2), (3, .int i3)] → W p l e (rmT 4 0 0 89) s m args below meth c H locs 0 0 (MQ below (QcT (FA (iv b0 46) s.heap.size) (fun ov H => ov = (some (.int rx)) ∧ rg G b0 46 (shX9 G.2.1) rw0 H ∧ H.size = s.heap.size)) args s 0 0 (FA (iv b0 46) s.heap.size)) (F0 m 4 ls []) := by
  intro v0 i1 i2 i3 hm H locs ls hW0 hS hz hl
  obtain ⟨hx, hb, hr, hlk, hml, hown, hts, hK⟩ := id C
  unfold fX9_place_4 at hm
  refine lv_iload_n (pc := 4) hx hb dX9_place_4 rfl (lv_at hl 3 rfl) ?_
  refine lv_aload_n (pc := 5) hx hb dX9_place_5 rfl (lv_at hl 0 rfl) ?_
  refine rk_get (pc := 6) hx hb hts hown hK hW0 flX9_11 0 (by decide) rfl rfl (x := .ref (b0 + 1)) (by first | rfl | exact congrArg (fun z => some (Value.ref z)) (by omega)) dX9_place_6 ?_
  refine lv_bipush (pc := 9) (v := (6 : Int32)) hx hb dX9_place_9 (by decide) ?_
  obtain ⟨hg1, hm⟩ := gb_some hm
  refine rk_iald (pc := 11) hx hb hK hW0 1 (by decide) rfl rfl hg1 (x := (gI v0 1 (6 : Int32).toNatClampNeg)) rfl dX9_place_11 ?_
  refine lv_icmp_ge (pc := 12) (tgt := 38) hx hb dX9_place_12 (by decide) (fun c2 => ?_) (fun c2 => ?_)
  · have hm := ite_t c2 hm
    refine lv_iload_n (pc := 38) hx hb dX9_place_38 rfl (lv_at hl 2 rfl) ?_
    obtain ⟨e8, e9⟩ := rs2 hm
    subst e8
    subst e9
    exact rk_iret (pc := 39) hx hb hr hlk hS ⟨rfl, hW0, hz⟩ dX9_place_39
  · have hm := ite_f c2 hm
    refine lv_iload_n (pc := 15) hx hb dX9_place_15 rfl (lv_at hl 2 rfl) ?_
    refine lv_aload_n (pc := 16) hx hb dX9_place_16 rfl (lv_at hl 0 rfl) ?_
    refine lv_iload_n (pc := 17) hx hb dX9_place_17 rfl (lv_at hl 3 rfl) ?_
    refine lv_iload_n (pc := 18) hx hb dX9_place_18 rfl (lv_at hl 1 rfl) ?_
    obtain ⟨r3, w4, hq5, hm⟩ := ob2_some hm
    refine rk_TV (pc := 19) (As := [.int i3, .int i1]) (rest := [.int i2]) (mc := 0) (ms := 0) hx hb hml hown hts hK hS (fun q hq => FA_sz rfl q hq) lkX9_429 rfl yn_X9_isAhead (ct_X9_isAhead (G := G) (l := l) (b0 := b0) (sz := H.size) hq5) ⟨Nat.le_of_ble_eq_true rfl, Nat.le_of_ble_eq_true rfl⟩ (fun z h => Or.inl (show iv _ _ _ from ⟨by have h8 := h.1; have h9 := h.2; omega, by have h8 := h.1; have h9 := h.2; omega⟩)) (rk_recv hK hW0 0 (by decide) rfl rfl rfl) hW0 rfl rfl hl.1 (Nat.le_of_ble_eq_true rfl) dX9_place_19 ⟨Nat.zero_le _, Nat.zero_le _⟩ (fun ov9 H6 locs7 hP8 hkp9 hS10 => ?_)
    obtain ⟨rfl, hW11, hz12⟩ := hP8
    have hz13 := hz12.trans hz
    refine W.eq (g2 := F0 m 22 ls [.int r3, .int i2]) rfl ?_
    refine lv_if_eq (pc := 22) (tgt := 29) hx hb dX9_place_22 (by decide) (fun c14 => ?_) (fun c14 => ?_)
    · have hm := ite_t c14 hm
      refine lv_iconst (pc := 29) (v := (0 : Int32)) hx hb dX9_place_29 (by decide) ?_
      refine lv_iadd (pc := 30) hx hb dX9_place_30 ?_
      refine lv_istore_n (pc := 31) (lv' := [(2, .int (i2 + (0 : Int32))), (0, .ref b0), (1, .int i1), (3, .int i3)]) hx hb dX9_place_31 rfl hl (by decide) rfl (fun ls hl => ?_)
      refine lv_iinc (pc := 32) (v := (i3 + (1 : Int32))) (lv' := [(3, .int (i3 + (1 : Int32))), (2, .int (i2 + (0 : Int32))), (0, .ref b0), (1, .int i1)]) hx hb dX9_place_32 hl (k := 3) rfl rfl (by decide) rfl (fun ls hl => ?_)
      refine lv_goto (pc := 35) (tgt := 4) hx hb dX9_place_35 (by decide) ?_
      exact hk4 w4 i1 (i2 + (0 : Int32)) (i3 + (1 : Int32)) hm H6 locs7 ls hW11 hS10 hz13 (lv_sub hl [2, 3, 1, 0] rfl)
    · have hm := ite_f c14 hm
      refine lv_iconst (pc := 25) (v := (1 : Int32)) hx hb dX9_place_25 (by decide) ?_
      refine lv_goto (pc := 26) (tgt := 30) hx hb dX9_place_26 (by decide) ?_
      refine lv_iadd (pc := 30) hx hb dX9_place_30 ?_
      refine lv_istore_n (pc := 31) (lv' := [(2, .int (i2 + (1 : Int32))), (0, .ref b0), (1, .int i1), (3, .int i3)]) hx hb dX9_place_31 rfl hl (by decide) rfl (fun ls hl => ?_)
      refine lv_iinc (pc := 32) (v := (i3 + (1 : Int32))) (lv' := [(3, .int (i3 + (1 : Int32))), (2, .int (i2 + (1 : Int32))), (0, .ref b0), (1, .int i1)]) hx hb dX9_place_32 hl (k := 3) rfl rfl (by decide) rfl (fun ls hl => ?_)
      refine lv_goto (pc := 35) (tgt := 4) hx hb dX9_place_35 (by decide) ?_
      exact hk4 w4 i1 (i2 + (1 : Int32)) (i3 + (1 : Int32)) hm H6 locs7 ls hW11 hS10 hz13 (lv_sub hl [2, 3, 1, 0] rfl)
theorem w_fX9_place_4_l (C : Cx G p s m args meth c RX9 cX9_place 4 (some .int)) {b0 : Nat} {rx : Int32} {rw0 : Mem} : ∀ (n : Nat) (v0 : Mem) (i1 : Int32) (i2 : Int32) (i3 : Int32), lq4 (fX9_place_4) n v0 i1 i2 i3 = some (rx, rw0) → ∀ (H : Heap) (locs : List Loc) (ls : Array Slot), rg G b0 46 (shX9 G.2.1) v0 H → va_S (FA (iv b0 46) s.heap.size) s.heap H locs → H.size = s.heap.size → lv_has ls 4 [(0, .ref b0), (1, .int i1), (2, .int i2), (3, .int i3)] → W p l e (rmT 4 0 0 89) s m args below meth c H locs 0 0 (MQ below (QcT (FA (iv b0 46) s.heap.size) (fun ov H => ov = (some (.int rx)) ∧ rg G b0 46 (shX9 G.2.1) rw0 H ∧ H.size = s.heap.size)) args s 0 0 (FA (iv b0 46) s.heap.size)) (F0 m 4 ls []) := by
  intro n
  induction n with
  | zero => intro v0 i1 i2 i3 hm; exact (lq4_0 hm).elim
  | succ n ih => intro v0 i1 i2 i3 hm; exact w_fX9_place_4 C ih v0 i1 i2 i3 (lq4_s hm)
set_option maxHeartbeats 4000000 in
theorem w_fX9_place (C : Cx G p s m args meth c RX9 cX9_place 4 (some .int)) {b0 : Nat} {rx : Int32} {rw0 : Mem} : ∀ (v0 : Mem) (i1 : Int32), fX9_place v0 i1 = some (rx, rw0) → ∀ (H : Heap) (locs : List Loc) (ls : Array Slot), rg G b0 46 (shX9 G.2.1) v0 H → va_S (FA (iv b0 46) s.heap.size) s.heap H locs → H.size = s.heap.size → lv_has ls 4 [(0, .ref b0), (1, .int i1)] → W p l e (rmT 4 0 0 89) s m args below meth c H locs 0 0 (MQ below (QcT (FA (iv b0 46) s.heap.size) (fun ov H => ov = (some (.int rx)) ∧ rg G b0 46 (shX9 G.2.1) rw0 H ∧ H.size = s.heap.size)) args s 0 0 (FA (iv b0 46) s.heap.size)) (F0 m 0 ls []) := by
  intro v0 i1 hm H locs ls hW0 hS hz hl
  obtain ⟨hx, hb, hr, hlk, hml, hown, hts, hK⟩ := id C
  unfold fX9_place at hm
  refine lv_iconst (pc := 0) (v := (0 : Int32)) hx hb dX9_place_0 (by decide) ?_
  refine lv_istore_n (pc := 1) (lv' := [(2, .int (0 : Int32)), (0, .ref b0), (1, .int i1)]) hx hb dX9_place_1 rfl hl (by decide) rfl (fun ls hl => ?_)
  refine lv_iconst (pc := 2) (v := (0 : Int32)) hx hb dX9_place_2 (by decide) ?_
  refine lv_istore_n (pc := 3) (lv' := [(3, .int (0 : Int32)), (2, .int (0 : Int32)), (0, .ref b0), (1, .int i1)]) hx hb dX9_place_3 rfl hl (by decide) rfl (fun ls hl => ?_)
  exact (w_fX9_place_4_l C FU) v0 i1 (0 : Int32) (0 : Int32) hm H locs ls hW0 hS hz (lv_sub hl [2, 3, 1, 0] rfl)
set_option maxHeartbeats 4000000 in
theorem ct_X9_place {G : Gv} {l : Launch} {b0 : Nat} {v0 : Mem} {i1 : Int32} {rx : Int32} {rw0 : Mem} {sz : Nat} (hm : fX9_place v0 i1 = some (rx, rw0)) : CT G l yX9_place (ws_ yX9_place cX9_place 4 (some .int)) 4 0 0 89 [.ref b0, .int i1] (iv b0 46) sz (fun H => rg G b0 46 (shX9 G.2.1) v0 H) (fun ov H => ov = (some (.int rx)) ∧ rg G b0 46 (shX9 G.2.1) rw0 H ∧ H.size = sz) := by
  refine Met.ofW (cc := cX9_place) (maxL := 4) (ret := (some .int)) (by decide +kernel) rfl ?_
  intro p e s m args below meth c s₁ B hml hv
  obtain ⟨rfl, ⟨hz, hW0⟩, hK⟩ := hv
  subst hz
  have hts := atoms_spec (ws := ws_ yX9_place cX9_place 4 (some .int)) B.pre
  have hts : ∀ w ∈ lw_all, w.before _ s = true := fun w h => hts w (List.mem_cons_of_mem _ h)
  have C : Cx G p s m _ meth c RX9 cX9_place 4 (some .int) := ⟨B.exec, B.bytes, B.returns, B.notSynchronized, hml, findClass_of_methodNamed B.named, hts, hK⟩
  have hl := lv_entry ([.ref b0, .int i1]) (n := 4) (Nat.le_of_ble_eq_true rfl)
  rw [lg_entry_eq]
  generalize (lg_sl ([.ref b0, .int i1]) ++ List.replicate (4 - (lg_sl ([.ref b0, .int i1])).length) Slot.unset).toArray = ls at hl ⊢
  have hl : lv_has ls 4 [(0, .ref b0), (1, .int i1)] := hl
  exact w_fX9_place C _ _ hm s.heap [] ls hW0 va_S.rf rfl hl
theorem yn_X9_place : YN yX9_place 1 := by
  unfold YN
  decide +kernel
theorem lkX9_434 : LV RX9 434 RX9 yX9_place cX9_place 4 (some .int) := ⟨q2319, q2321, qs109, q128, q2322⟩
noncomputable def fX9_offered_16 (k16 : Mem → Int32 → Int32 → Int32 → Option (Int32 × Mem)) (v0 : Mem) (i1 : Int32) (i2 : Int32) (i3 : Int32) : Option (Int32 × Mem) :=
  gb (inR (6 : Int32) 150) (
  if (gI v0 1 (6 : Int32).toNatClampNeg) ≤ i3 then (
  some ((-2 : Int32), v0))
  else (
  ob2 (fX9_place v0 i3) fun r6 w7 =>
  if r6 = i1 then (
  if i2 = (2 : Int32) then (
  gb (inR ((110 : Int32) + ((2 : Int32) * i3)) 150) (
  ob2 (fX9_costOf w7 (gI w7 1 ((110 : Int32) + ((2 : Int32) * i3)).toNatClampNeg)) fun r21 w22 =>
  some (r21, w22)))
  else (
  gb (inR (((110 : Int32) + ((2 : Int32) * i3)) + i2) 150) (
  some ((gI w7 1 (((110 : Int32) + ((2 : Int32) * i3)) + i2).toNatClampNeg), w7))))
  else (
  k16 w7 i1 i2 (i3 + (1 : Int32)))))
noncomputable def fX9_offered (v0 : Mem) (i1 : Int32) (i2 : Int32) : Option (Int32 × Mem) :=
  ob (fX9_isIn i2.toInt64 (0 : Int64) (2 : Int64)) fun r1 =>
  if r1 = 0 then (
  some ((-1 : Int32), v0))
  else (
  lq4 (fX9_offered_16) FU v0 i1 i2 (0 : Int32))
set_option maxHeartbeats 4000000 in
theorem w_fX9_offered_16 (C : Cx G p s m args meth c RX9 cX9_offered 4 (some .int)) {b0 : Nat} {rx : Int32} {rw0 : Mem} {k16 : Mem → Int32 → Int32 → Int32 → Option (Int32 × Mem)} (hk16 : ∀ (v0 : Mem) (i1 : Int32) (i2 : Int32) (i3 : Int32), k16 v0 i1 i2 i3 = some (rx, rw0) → ∀ (H : Heap) (locs : List Loc) (ls : Array Slot), rg G b0 46 (shX9 G.2.1) v0 H → va_S (FA (iv b0 46) s.heap.size) s.heap H locs → H.size = s.heap.size → lv_has ls 4 [(0, .ref b0), (1, .int i1), (2, .int i2), (3, .int i3)] → W p l e (rmT 5 0 0 112) s m args below meth c H locs 0 0 (MQ below (QcT (FA (iv b0 46) s.heap.size) (fun ov H => ov = (some (.int rx)) ∧ rg G b0 46 (shX9 G.2.1) rw0 H ∧ H.size = s.heap.size)) args s 0 0 (FA (iv b0 46) s.heap.size)) (F0 m 16 ls [])) : ∀ (v0 : Mem) (i1 : Int32) (i2 : Int32) (i3 : Int32), fX9_offered_16 k16 v0 i1 i2 i3 = some (rx, rw0) → ∀ (H : Heap) (locs : List Loc) (ls : Array Slot), rg G b0 46 (shX9 G.2.1) v0 H → va_S (FA (iv b0 46) s.heap.size) s.heap H locs → H.size = s.heap.size → lv_has ls 4 [(0, .ref b0), (1, .int i1), (2, .int i2), (3, .int i3)] → W p l e (rmT 5 0 0 112) s m args below meth c H locs 0 0 (MQ below (QcT (FA (iv b0 46) s.heap.size) (fun ov H => ov = (some (.int rx)) ∧ rg G b0 46 (shX9 G.2.1) rw0 H ∧ H.size = s.heap.size)) args s 0 0 (FA (iv b0 46) s.heap.size)) (F0 m 16 ls []) := by
  intro v0 i1 i2 i3 hm H locs ls hW0 hS hz hl
  obtain ⟨hx, hb, hr, hlk, hml, hown, hts, hK⟩ := id C
  unfold fX9_offered_16 at hm
  refine lv_iload_n (pc := 16) hx hb dX9_offered_16 rfl (lv_at hl 3 rfl) ?_
  refine lv_aload_n (pc := 17) hx hb dX9_offered_17 rfl (lv_at hl 0 rfl) ?_
  refine rk_get (pc := 18) hx hb hts hown hK hW0 flX9_11 0 (by decide) rfl rfl (x := .ref (b0 + 1)) (by first | rfl | exact congrArg (fun z => some (Value.ref z)) (by omega)) dX9_offered_18 ?_
  refine lv_bipush (pc := 21) (v := (6 : Int32)) hx hb dX9_offered_21 (by decide) ?_
  obtain ⟨hg4, hm⟩ := gb_some hm
  refine rk_iald (pc := 23) hx hb hK hW0 1 (by decide) rfl rfl hg4 (x := (gI v0 1 (6 : Int32).toNatClampNeg)) rfl dX9_offered_23 ?_
  refine lv_icmp_ge (pc := 24) (tgt := 79) hx hb dX9_offered_24 (by decide) (fun c5 => ?_) (fun c5 => ?_)
  · have hm := ite_t c5 hm
    refine lv_bipush (pc := 79) (v := (-2 : Int32)) hx hb dX9_offered_79 (by decide) ?_
    obtain ⟨e8, e9⟩ := rs2 hm
    subst e8
    subst e9
    exact rk_iret (pc := 81) hx hb hr hlk hS ⟨rfl, hW0, hz⟩ dX9_offered_81
  · have hm := ite_f c5 hm
    refine lv_aload_n (pc := 27) hx hb dX9_offered_27 rfl (lv_at hl 0 rfl) ?_
    refine lv_iload_n (pc := 28) hx hb dX9_offered_28 rfl (lv_at hl 3 rfl) ?_
    obtain ⟨r6, w7, hq8, hm⟩ := ob2_some hm
    refine rk_TV (pc := 29) (As := [.int i3]) (rest := []) (mc := 0) (ms := 0) hx hb hml hown hts hK hS (fun q hq => FA_sz rfl q hq) lkX9_434 rfl yn_X9_place (ct_X9_place (G := G) (l := l) (b0 := b0) (sz := H.size) hq8) ⟨Nat.le_of_ble_eq_true rfl, Nat.le_of_ble_eq_true rfl⟩ (fun z h => Or.inl (show iv _ _ _ from ⟨by have h8 := h.1; have h9 := h.2; omega, by have h8 := h.1; have h9 := h.2; omega⟩)) (rk_recv hK hW0 0 (by decide) rfl rfl rfl) hW0 rfl rfl hl.1 (Nat.le_of_ble_eq_true rfl) dX9_offered_29 ⟨Nat.zero_le _, Nat.zero_le _⟩ (fun ov9 H9 locs10 hP11 hkp12 hS13 => ?_)
    obtain ⟨rfl, hW14, hz15⟩ := hP11
    have hz16 := hz15.trans hz
    refine W.eq (g2 := F0 m 32 ls [.int r6]) rfl ?_
    refine lv_iload_n (pc := 32) hx hb dX9_offered_32 rfl (lv_at hl 1 rfl) ?_
    refine lv_icmp_ne (pc := 33) (tgt := 73) hx hb dX9_offered_33 (by decide) (fun c17 => ?_) (fun c17 => ?_)
    · have hm := ite_f c17 hm
      refine lv_iinc (pc := 73) (v := (i3 + (1 : Int32))) (lv' := [(3, .int (i3 + (1 : Int32))), (0, .ref b0), (1, .int i1), (2, .int i2)]) hx hb dX9_offered_73 hl (k := 3) rfl rfl (by decide) rfl (fun ls hl => ?_)
      refine lv_goto (pc := 76) (tgt := 16) hx hb dX9_offered_76 (by decide) ?_
      exact hk16 w7 i1 i2 (i3 + (1 : Int32)) hm H9 locs10 ls hW14 hS13 hz16 (lv_sub hl [1, 2, 3, 0] rfl)
    · have hm := ite_t c17 hm
      refine lv_iload_n (pc := 36) hx hb dX9_offered_36 rfl (lv_at hl 2 rfl) ?_
      refine lv_iconst (pc := 37) (v := (2 : Int32)) hx hb dX9_offered_37 (by decide) ?_
      refine lv_icmp_ne (pc := 38) (tgt := 59) hx hb dX9_offered_38 (by decide) (fun c18 => ?_) (fun c18 => ?_)
      · have hm := ite_f c18 hm
        refine lv_aload_n (pc := 59) hx hb dX9_offered_59 rfl (lv_at hl 0 rfl) ?_
        refine rk_get (pc := 60) hx hb hts hown hK hW14 flX9_11 0 (by decide) rfl rfl (x := .ref (b0 + 1)) (by first | rfl | exact congrArg (fun z => some (Value.ref z)) (by omega)) dX9_offered_60 ?_
        refine lv_bipush (pc := 63) (v := (110 : Int32)) hx hb dX9_offered_63 (by decide) ?_
        refine lv_iconst (pc := 65) (v := (2 : Int32)) hx hb dX9_offered_65 (by decide) ?_
        refine lv_iload_n (pc := 66) hx hb dX9_offered_66 rfl (lv_at hl 3 rfl) ?_
        refine lv_imul (pc := 67) hx hb dX9_offered_67 ?_
        refine lv_iadd (pc := 68) hx hb dX9_offered_68 ?_
        refine lv_iload_n (pc := 69) hx hb dX9_offered_69 rfl (lv_at hl 2 rfl) ?_
        refine lv_iadd (pc := 70) hx hb dX9_offered_70 ?_
        obtain ⟨hg19, hm⟩ := gb_some hm
        refine rk_iald (pc := 71) hx hb hK hW14 1 (by decide) rfl rfl hg19 (x := (gI w7 1 (((110 : Int32) + ((2 : Int32) * i3)) + i2).toNatClampNeg)) rfl dX9_offered_71 ?_
        obtain ⟨e8, e9⟩ := rs2 hm
        subst e8
        subst e9
        exact rk_iret (pc := 72) hx hb hr hlk hS13 ⟨rfl, hW14, hz16⟩ dX9_offered_72
      · have hm := ite_t c18 hm
        refine lv_aload_n (pc := 41) hx hb dX9_offered_41 rfl (lv_at hl 0 rfl) ?_
        refine lv_aload_n (pc := 42) hx hb dX9_offered_42 rfl (lv_at hl 0 rfl) ?_
        refine rk_get (pc := 43) hx hb hts hown hK hW14 flX9_11 0 (by decide) rfl rfl (x := .ref (b0 + 1)) (by first | rfl | exact congrArg (fun z => some (Value.ref z)) (by omega)) dX9_offered_43 ?_
        refine lv_bipush (pc := 46) (v := (110 : Int32)) hx hb dX9_offered_46 (by decide) ?_
        refine lv_iconst (pc := 48) (v := (2 : Int32)) hx hb dX9_offered_48 (by decide) ?_
        refine lv_iload_n (pc := 49) hx hb dX9_offered_49 rfl (lv_at hl 3 rfl) ?_
        refine lv_imul (pc := 50) hx hb dX9_offered_50 ?_
        refine lv_iadd (pc := 51) hx hb dX9_offered_51 ?_
        obtain ⟨hg20, hm⟩ := gb_some hm
        refine rk_iald (pc := 52) hx hb hK hW14 1 (by decide) rfl rfl hg20 (x := (gI w7 1 ((110 : Int32) + ((2 : Int32) * i3)).toNatClampNeg)) rfl dX9_offered_52 ?_
        obtain ⟨r21, w22, hq23, hm⟩ := ob2_some hm
        refine rk_TV (pc := 53) (As := [.int (gI w7 1 ((110 : Int32) + ((2 : Int32) * i3)).toNatClampNeg)]) (rest := []) (mc := 0) (ms := 0) hx hb hml hown hts hK hS13 (fun q hq => FA_sz rfl q hq) lkX9_353 rfl yn_X9_costOf (ct_X9_costOf (G := G) (l := l) (b0 := b0) (sz := H9.size) hq23) ⟨Nat.le_of_ble_eq_true rfl, Nat.le_of_ble_eq_true rfl⟩ (fun z h => Or.inl (show iv _ _ _ from ⟨by have h8 := h.1; have h9 := h.2; omega, by have h8 := h.1; have h9 := h.2; omega⟩)) (rk_recv hK hW14 0 (by decide) rfl rfl rfl) hW14 rfl rfl hl.1 (Nat.le_of_ble_eq_true rfl) dX9_offered_53 ⟨Nat.zero_le _, Nat.zero_le _⟩ (fun ov9 H24 locs25 hP26 hkp27 hS28 => ?_)
        obtain ⟨rfl, hW29, hz30⟩ := hP26
        have hz31 := hz30.trans hz16
        refine W.eq (g2 := F0 m 56 ls [.int r21]) rfl ?_
        refine lv_goto (pc := 56) (tgt := 72) hx hb dX9_offered_56 (by decide) ?_
        obtain ⟨e8, e9⟩ := rs2 hm
        subst e8
        subst e9
        exact rk_iret (pc := 72) hx hb hr hlk hS28 ⟨rfl, hW29, hz31⟩ dX9_offered_72
theorem w_fX9_offered_16_l (C : Cx G p s m args meth c RX9 cX9_offered 4 (some .int)) {b0 : Nat} {rx : Int32} {rw0 : Mem} : ∀ (n : Nat) (v0 : Mem) (i1 : Int32) (i2 : Int32) (i3 : Int32), lq4 (fX9_offered_16) n v0 i1 i2 i3 = some (rx, rw0) → ∀ (H : Heap) (locs : List Loc) (ls : Array Slot), rg G b0 46 (shX9 G.2.1) v0 H → va_S (FA (iv b0 46) s.heap.size) s.heap H locs → H.size = s.heap.size → lv_has ls 4 [(0, .ref b0), (1, .int i1), (2, .int i2), (3, .int i3)] → W p l e (rmT 5 0 0 112) s m args below meth c H locs 0 0 (MQ below (QcT (FA (iv b0 46) s.heap.size) (fun ov H => ov = (some (.int rx)) ∧ rg G b0 46 (shX9 G.2.1) rw0 H ∧ H.size = s.heap.size)) args s 0 0 (FA (iv b0 46) s.heap.size)) (F0 m 16 ls []) := by
  intro n
  induction n with
  | zero => intro v0 i1 i2 i3 hm; exact (lq4_0 hm).elim
  | succ n ih => intro v0 i1 i2 i3 hm; exact w_fX9_offered_16 C ih v0 i1 i2 i3 (lq4_s hm)
set_option maxHeartbeats 4000000 in
theorem w_fX9_offered (C : Cx G p s m args meth c RX9 cX9_offered 4 (some .int)) {b0 : Nat} {rx : Int32} {rw0 : Mem} : ∀ (v0 : Mem) (i1 : Int32) (i2 : Int32), fX9_offered v0 i1 i2 = some (rx, rw0) → ∀ (H : Heap) (locs : List Loc) (ls : Array Slot), rg G b0 46 (shX9 G.2.1) v0 H → va_S (FA (iv b0 46) s.heap.size) s.heap H locs → H.size = s.heap.size → lv_has ls 4 [(0, .ref b0), (1, .int i1), (2, .int i2)] → W p l e (rmT 5 0 0 112) s m args below meth c H locs 0 0 (MQ below (QcT (FA (iv b0 46) s.heap.size) (fun ov H => ov = (some (.int rx)) ∧ rg G b0 46 (shX9 G.2.1) rw0 H ∧ H.size = s.heap.size)) args s 0 0 (FA (iv b0 46) s.heap.size)) (F0 m 0 ls []) := by
  intro v0 i1 i2 hm H locs ls hW0 hS hz hl
  obtain ⟨hx, hb, hr, hlk, hml, hown, hts, hK⟩ := id C
  unfold fX9_offered at hm
  refine lv_iload_n (pc := 0) hx hb dX9_offered_0 rfl (lv_at hl 2 rfl) ?_
  refine lv_i2l (pc := 1) hx hb dX9_offered_1 rfl ?_
  refine lv_lconst (pc := 2) (v := (0 : Int64)) hx hb dX9_offered_2 (by decide) ?_
  refine lv_ldc2 (pc := 3) (v := (2 : Int64)) hx hb hown (hts _ q2318) dX9_offered_3 ?_
  obtain ⟨r1, hq2, hm⟩ := ob_some hm
  refine rk_PS (pc := 6) (As := [.long i2.toInt64, .long (0 : Int64), .long (2 : Int64)]) (rest := []) hx hb hml hown hts hK lkX9_93 yn_X9_isIn (ct_X9_isIn (G := G) (l := l) hq2) ⟨Nat.le_of_ble_eq_true rfl, Nat.le_of_ble_eq_true rfl⟩ trivial rfl rfl hl.1 (Nat.le_of_ble_eq_true rfl) dX9_offered_6 ⟨Nat.zero_le _, Nat.zero_le _⟩ ?_
  refine W.eq (g2 := F0 m 9 ls [.int r1]) rfl ?_
  refine lv_if_ne (pc := 9) (tgt := 14) hx hb dX9_offered_9 (by decide) (fun c3 => ?_) (fun c3 => ?_)
  · have hm := ite_f c3 hm
    refine lv_iconst (pc := 14) (v := (0 : Int32)) hx hb dX9_offered_14 (by decide) ?_
    refine lv_istore_n (pc := 15) (lv' := [(3, .int (0 : Int32)), (0, .ref b0), (1, .int i1), (2, .int i2)]) hx hb dX9_offered_15 rfl hl (by decide) rfl (fun ls hl => ?_)
    exact (w_fX9_offered_16_l C FU) v0 i1 i2 (0 : Int32) hm H locs ls hW0 hS hz (lv_sub hl [1, 2, 3, 0] rfl)
  · have hm := ite_t c3 hm
    refine lv_iconst (pc := 12) (v := (-1 : Int32)) hx hb dX9_offered_12 (by decide) ?_
    obtain ⟨e8, e9⟩ := rs2 hm
    subst e8
    subst e9
    exact rk_iret (pc := 13) hx hb hr hlk hS ⟨rfl, hW0, hz⟩ dX9_offered_13
set_option maxHeartbeats 4000000 in
theorem ct_X9_offered {G : Gv} {l : Launch} {b0 : Nat} {v0 : Mem} {i1 : Int32} {i2 : Int32} {rx : Int32} {rw0 : Mem} {sz : Nat} (hm : fX9_offered v0 i1 i2 = some (rx, rw0)) : CT G l yX9_offered (ws_ yX9_offered cX9_offered 4 (some .int)) 5 0 0 112 [.ref b0, .int i1, .int i2] (iv b0 46) sz (fun H => rg G b0 46 (shX9 G.2.1) v0 H) (fun ov H => ov = (some (.int rx)) ∧ rg G b0 46 (shX9 G.2.1) rw0 H ∧ H.size = sz) := by
  refine Met.ofW (cc := cX9_offered) (maxL := 4) (ret := (some .int)) (by decide +kernel) rfl ?_
  intro p e s m args below meth c s₁ B hml hv
  obtain ⟨rfl, ⟨hz, hW0⟩, hK⟩ := hv
  subst hz
  have hts := atoms_spec (ws := ws_ yX9_offered cX9_offered 4 (some .int)) B.pre
  have hts : ∀ w ∈ lw_all, w.before _ s = true := fun w h => hts w (List.mem_cons_of_mem _ h)
  have C : Cx G p s m _ meth c RX9 cX9_offered 4 (some .int) := ⟨B.exec, B.bytes, B.returns, B.notSynchronized, hml, findClass_of_methodNamed B.named, hts, hK⟩
  have hl := lv_entry ([.ref b0, .int i1, .int i2]) (n := 4) (Nat.le_of_ble_eq_true rfl)
  rw [lg_entry_eq]
  generalize (lg_sl ([.ref b0, .int i1, .int i2]) ++ List.replicate (4 - (lg_sl ([.ref b0, .int i1, .int i2])).length) Slot.unset).toArray = ls at hl ⊢
  have hl : lv_has ls 4 [(0, .ref b0), (1, .int i1), (2, .int i2)] := hl
  exact w_fX9_offered C _ _ _ hm s.heap [] ls hW0 va_S.rf rfl hl
noncomputable def fX9_upTo_4 (k4 : Mem → Int32 → Int32 → Int32 → Option (Int32 × Mem)) (v0 : Mem) (i1 : Int32) (i2 : Int32) (i3 : Int32) : Option (Int32 × Mem) :=
  gb (inR (6 : Int32) 150) (
  if (gI v0 1 (6 : Int32).toNatClampNeg) ≤ i3 then (
  if 0 ≤ i2 then (
  gb (inR ((110 : Int32) + ((2 : Int32) * i2)) 150) (
  some ((gI v0 1 ((110 : Int32) + ((2 : Int32) * i2)).toNatClampNeg), v0)))
  else (
  some ((-5 : Int32), v0)))
  else (
  gb (inR ((110 : Int32) + ((2 : Int32) * i3)) 150) (
  ob2 (fX9_costOf v0 (gI v0 1 ((110 : Int32) + ((2 : Int32) * i3)).toNatClampNeg)) fun r6 w7 =>
  if i1 < r6 then (
  k4 w7 i1 i2 (i3 + (1 : Int32)))
  else (
  if i2 < 0 then (
  k4 w7 i1 i3 (i3 + (1 : Int32)))
  else (
  ob2 (fX9_isAhead w7 i2 i3) fun r19 w20 =>
  if r19 = 0 then (
  k4 w20 i1 i2 (i3 + (1 : Int32)))
  else (
  k4 w20 i1 i3 (i3 + (1 : Int32))))))))
noncomputable def fX9_upTo (v0 : Mem) (i1 : Int32) : Option (Int32 × Mem) :=
  lq4 (fX9_upTo_4) FU v0 i1 (-1 : Int32) (0 : Int32)
set_option maxHeartbeats 4000000 in
theorem w_fX9_upTo_4 (C : Cx G p s m args meth c RX9 cX9_upTo 4 (some .int)) {b0 : Nat} {rx : Int32} {rw0 : Mem} {k4 : Mem → Int32 → Int32 → Int32 → Option (Int32 × Mem)} (hk4 : ∀ (v0 : Mem) (i1 : Int32) (i2 : Int32) (i3 : Int32), k4 v0 i1 i2 i3 = some (rx, rw0) → ∀ (H : Heap) (locs : List Loc) (ls : Array Slot), rg G b0 46 (shX9 G.2.1) v0 H → va_S (FA (iv b0 46) s.heap.size) s.heap H locs → H.size = s.heap.size → lv_has ls 4 [(0, .ref b0), (1, .int i1), (2, .int i2), (3, .int i3)] → W p l e (rmT 4 0 0 89) s m args below meth c H locs 0 0 (MQ below (QcT (FA (iv b0 46) s.heap.size) (fun ov H => ov = (some (.int rx)) ∧ rg G b0 46 (shX9 G.2.1) rw0 H ∧ H.size = s.heap.size)) args s 0 0 (FA (iv b0 46) s.heap.size)) (F0 m 4 ls [])) : ∀ (v0 : Mem) (i1 : Int32) (i2 : Int32) (i3 : Int32), fX9_upTo_4 k4 v0 i1 i2 i3 = some (rx, rw0) → ∀ (H : Heap) (locs : List Loc) (ls : Array Slot), rg G b0 46 (shX9 G.2.1) v0 H → va_S (FA (iv b0 46) s.heap.size) s.heap H locs → H.size = s.heap.size → lv_has ls 4 [(0, .ref b0), (1, .int i1), (2, .int i2), (3, .int i3)] → W p l e (rmT 4 0 0 89) s m args below meth c H locs 0 0 (MQ below (QcT (FA (iv b0 46) s.heap.size) (fun ov H => ov = (some (.int rx)) ∧ rg G b0 46 (shX9 G.2.1) rw0 H ∧ H.size = s.heap.size)) args s 0 0 (FA (iv b0 46) s.heap.size)) (F0 m 4 ls []) := by
  intro v0 i1 i2 i3 hm H locs ls hW0 hS hz hl
  obtain ⟨hx, hb, hr, hlk, hml, hown, hts, hK⟩ := id C
  unfold fX9_upTo_4 at hm
  refine lv_iload_n (pc := 4) hx hb dX9_upTo_4 rfl (lv_at hl 3 rfl) ?_
  refine lv_aload_n (pc := 5) hx hb dX9_upTo_5 rfl (lv_at hl 0 rfl) ?_
  refine rk_get (pc := 6) hx hb hts hown hK hW0 flX9_11 0 (by decide) rfl rfl (x := .ref (b0 + 1)) (by first | rfl | exact congrArg (fun z => some (Value.ref z)) (by omega)) dX9_upTo_6 ?_
  refine lv_bipush (pc := 9) (v := (6 : Int32)) hx hb dX9_upTo_9 (by decide) ?_
  obtain ⟨hg1, hm⟩ := gb_some hm
  refine rk_iald (pc := 11) hx hb hK hW0 1 (by decide) rfl rfl hg1 (x := (gI v0 1 (6 : Int32).toNatClampNeg)) rfl dX9_upTo_11 ?_
  refine lv_icmp_ge (pc := 12) (tgt := 55) hx hb dX9_upTo_12 (by decide) (fun c2 => ?_) (fun c2 => ?_)
  · have hm := ite_t c2 hm
    refine lv_iload_n (pc := 55) hx hb dX9_upTo_55 rfl (lv_at hl 2 rfl) ?_
    refine lv_if_ge (pc := 56) (tgt := 64) hx hb dX9_upTo_56 (by decide) (fun c3 => ?_) (fun c3 => ?_)
    · have hm := ite_t c3 hm
      refine lv_aload_n (pc := 64) hx hb dX9_upTo_64 rfl (lv_at hl 0 rfl) ?_
      refine rk_get (pc := 65) hx hb hts hown hK hW0 flX9_11 0 (by decide) rfl rfl (x := .ref (b0 + 1)) (by first | rfl | exact congrArg (fun z => some (Value.ref z)) (by omega)) dX9_upTo_65 ?_
      refine lv_bipush (pc := 68) (v := (110 : Int32)) hx hb dX9_upTo_68 (by decide) ?_
      refine lv_iconst (pc := 70) (v := (2 : Int32)) hx hb dX9_upTo_70 (by decide) ?_
      refine lv_iload_n (pc := 71) hx hb dX9_upTo_71 rfl (lv_at hl 2 rfl) ?_
      refine lv_imul (pc := 72) hx hb dX9_upTo_72 ?_
      refine lv_iadd (pc := 73) hx hb dX9_upTo_73 ?_
      obtain ⟨hg4, hm⟩ := gb_some hm
      refine rk_iald (pc := 74) hx hb hK hW0 1 (by decide) rfl rfl hg4 (x := (gI v0 1 ((110 : Int32) + ((2 : Int32) * i2)).toNatClampNeg)) rfl dX9_upTo_74 ?_
      obtain ⟨e8, e9⟩ := rs2 hm
      subst e8
      subst e9
      exact rk_iret (pc := 75) hx hb hr hlk hS ⟨rfl, hW0, hz⟩ dX9_upTo_75
    · have hm := ite_f c3 hm
      refine lv_bipush (pc := 59) (v := (-5 : Int32)) hx hb dX9_upTo_59 (by decide) ?_
      refine lv_goto (pc := 61) (tgt := 75) hx hb dX9_upTo_61 (by decide) ?_
      obtain ⟨e8, e9⟩ := rs2 hm
      subst e8
      subst e9
      exact rk_iret (pc := 75) hx hb hr hlk hS ⟨rfl, hW0, hz⟩ dX9_upTo_75
  · have hm := ite_f c2 hm
    refine lv_aload_n (pc := 15) hx hb dX9_upTo_15 rfl (lv_at hl 0 rfl) ?_
    refine lv_aload_n (pc := 16) hx hb dX9_upTo_16 rfl (lv_at hl 0 rfl) ?_
    refine rk_get (pc := 17) hx hb hts hown hK hW0 flX9_11 0 (by decide) rfl rfl (x := .ref (b0 + 1)) (by first | rfl | exact congrArg (fun z => some (Value.ref z)) (by omega)) dX9_upTo_17 ?_
    refine lv_bipush (pc := 20) (v := (110 : Int32)) hx hb dX9_upTo_20 (by decide) ?_
    refine lv_iconst (pc := 22) (v := (2 : Int32)) hx hb dX9_upTo_22 (by decide) ?_
    refine lv_iload_n (pc := 23) hx hb dX9_upTo_23 rfl (lv_at hl 3 rfl) ?_
    refine lv_imul (pc := 24) hx hb dX9_upTo_24 ?_
    refine lv_iadd (pc := 25) hx hb dX9_upTo_25 ?_
    obtain ⟨hg5, hm⟩ := gb_some hm
    refine rk_iald (pc := 26) hx hb hK hW0 1 (by decide) rfl rfl hg5 (x := (gI v0 1 ((110 : Int32) + ((2 : Int32) * i3)).toNatClampNeg)) rfl dX9_upTo_26 ?_
    obtain ⟨r6, w7, hq8, hm⟩ := ob2_some hm
    refine rk_TV (pc := 27) (As := [.int (gI v0 1 ((110 : Int32) + ((2 : Int32) * i3)).toNatClampNeg)]) (rest := []) (mc := 0) (ms := 0) hx hb hml hown hts hK hS (fun q hq => FA_sz rfl q hq) lkX9_353 rfl yn_X9_costOf (ct_X9_costOf (G := G) (l := l) (b0 := b0) (sz := H.size) hq8) ⟨Nat.le_of_ble_eq_true rfl, Nat.le_of_ble_eq_true rfl⟩ (fun z h => Or.inl (show iv _ _ _ from ⟨by have h8 := h.1; have h9 := h.2; omega, by have h8 := h.1; have h9 := h.2; omega⟩)) (rk_recv hK hW0 0 (by decide) rfl rfl rfl) hW0 rfl rfl hl.1 (Nat.le_of_ble_eq_true rfl) dX9_upTo_27 ⟨Nat.zero_le _, Nat.zero_le _⟩ (fun ov9 H9 locs10 hP11 hkp12 hS13 => ?_)
    obtain ⟨rfl, hW14, hz15⟩ := hP11
    have hz16 := hz15.trans hz
    refine W.eq (g2 := F0 m 30 ls [.int r6]) rfl ?_
    refine lv_iload_n (pc := 30) hx hb dX9_upTo_30 rfl (lv_at hl 1 rfl) ?_
    refine lv_icmp_gt (pc := 31) (tgt := 49) hx hb dX9_upTo_31 (by decide) (fun c17 => ?_) (fun c17 => ?_)
    · have hm := ite_t c17 hm
      refine lv_iinc (pc := 49) (v := (i3 + (1 : Int32))) (lv' := [(3, .int (i3 + (1 : Int32))), (0, .ref b0), (1, .int i1), (2, .int i2)]) hx hb dX9_upTo_49 hl (k := 3) rfl rfl (by decide) rfl (fun ls hl => ?_)
      refine lv_goto (pc := 52) (tgt := 4) hx hb dX9_upTo_52 (by decide) ?_
      exact hk4 w7 i1 i2 (i3 + (1 : Int32)) hm H9 locs10 ls hW14 hS13 hz16 (lv_sub hl [1, 2, 3, 0] rfl)
    · have hm := ite_f c17 hm
      refine lv_iload_n (pc := 34) hx hb dX9_upTo_34 rfl (lv_at hl 2 rfl) ?_
      refine lv_if_lt (pc := 35) (tgt := 47) hx hb dX9_upTo_35 (by decide) (fun c18 => ?_) (fun c18 => ?_)
      · have hm := ite_t c18 hm
        refine lv_iload_n (pc := 47) hx hb dX9_upTo_47 rfl (lv_at hl 3 rfl) ?_
        refine lv_istore_n (pc := 48) (lv' := [(2, .int i3), (0, .ref b0), (1, .int i1), (3, .int i3)]) hx hb dX9_upTo_48 rfl hl (by decide) rfl (fun ls hl => ?_)
        refine lv_iinc (pc := 49) (v := (i3 + (1 : Int32))) (lv' := [(3, .int (i3 + (1 : Int32))), (2, .int i3), (0, .ref b0), (1, .int i1)]) hx hb dX9_upTo_49 hl (k := 3) rfl rfl (by decide) rfl (fun ls hl => ?_)
        refine lv_goto (pc := 52) (tgt := 4) hx hb dX9_upTo_52 (by decide) ?_
        exact hk4 w7 i1 i3 (i3 + (1 : Int32)) hm H9 locs10 ls hW14 hS13 hz16 (lv_sub hl [2, 3, 1, 0] rfl)
      · have hm := ite_f c18 hm
        refine lv_aload_n (pc := 38) hx hb dX9_upTo_38 rfl (lv_at hl 0 rfl) ?_
        refine lv_iload_n (pc := 39) hx hb dX9_upTo_39 rfl (lv_at hl 2 rfl) ?_
        refine lv_iload_n (pc := 40) hx hb dX9_upTo_40 rfl (lv_at hl 3 rfl) ?_
        obtain ⟨r19, w20, hq21, hm⟩ := ob2_some hm
        refine rk_TV (pc := 41) (As := [.int i2, .int i3]) (rest := []) (mc := 0) (ms := 0) hx hb hml hown hts hK hS13 (fun q hq => FA_sz rfl q hq) lkX9_429 rfl yn_X9_isAhead (ct_X9_isAhead (G := G) (l := l) (b0 := b0) (sz := H9.size) hq21) ⟨Nat.le_of_ble_eq_true rfl, Nat.le_of_ble_eq_true rfl⟩ (fun z h => Or.inl (show iv _ _ _ from ⟨by have h8 := h.1; have h9 := h.2; omega, by have h8 := h.1; have h9 := h.2; omega⟩)) (rk_recv hK hW14 0 (by decide) rfl rfl rfl) hW14 rfl rfl hl.1 (Nat.le_of_ble_eq_true rfl) dX9_upTo_41 ⟨Nat.zero_le _, Nat.zero_le _⟩ (fun ov9 H22 locs23 hP24 hkp25 hS26 => ?_)
        obtain ⟨rfl, hW27, hz28⟩ := hP24
        have hz29 := hz28.trans hz16
        refine W.eq (g2 := F0 m 44 ls [.int r19]) rfl ?_
        refine lv_if_eq (pc := 44) (tgt := 49) hx hb dX9_upTo_44 (by decide) (fun c30 => ?_) (fun c30 => ?_)
        · have hm := ite_t c30 hm
          refine lv_iinc (pc := 49) (v := (i3 + (1 : Int32))) (lv' := [(3, .int (i3 + (1 : Int32))), (0, .ref b0), (1, .int i1), (2, .int i2)]) hx hb dX9_upTo_49 hl (k := 3) rfl rfl (by decide) rfl (fun ls hl => ?_)
          refine lv_goto (pc := 52) (tgt := 4) hx hb dX9_upTo_52 (by decide) ?_
          exact hk4 w20 i1 i2 (i3 + (1 : Int32)) hm H22 locs23 ls hW27 hS26 hz29 (lv_sub hl [1, 2, 3, 0] rfl)
        · have hm := ite_f c30 hm
          refine lv_iload_n (pc := 47) hx hb dX9_upTo_47 rfl (lv_at hl 3 rfl) ?_
          refine lv_istore_n (pc := 48) (lv' := [(2, .int i3), (0, .ref b0), (1, .int i1), (3, .int i3)]) hx hb dX9_upTo_48 rfl hl (by decide) rfl (fun ls hl => ?_)
          refine lv_iinc (pc := 49) (v := (i3 + (1 : Int32))) (lv' := [(3, .int (i3 + (1 : Int32))), (2, .int i3), (0, .ref b0), (1, .int i1)]) hx hb dX9_upTo_49 hl (k := 3) rfl rfl (by decide) rfl (fun ls hl => ?_)
          refine lv_goto (pc := 52) (tgt := 4) hx hb dX9_upTo_52 (by decide) ?_
          exact hk4 w20 i1 i3 (i3 + (1 : Int32)) hm H22 locs23 ls hW27 hS26 hz29 (lv_sub hl [2, 3, 1, 0] rfl)
theorem w_fX9_upTo_4_l (C : Cx G p s m args meth c RX9 cX9_upTo 4 (some .int)) {b0 : Nat} {rx : Int32} {rw0 : Mem} : ∀ (n : Nat) (v0 : Mem) (i1 : Int32) (i2 : Int32) (i3 : Int32), lq4 (fX9_upTo_4) n v0 i1 i2 i3 = some (rx, rw0) → ∀ (H : Heap) (locs : List Loc) (ls : Array Slot), rg G b0 46 (shX9 G.2.1) v0 H → va_S (FA (iv b0 46) s.heap.size) s.heap H locs → H.size = s.heap.size → lv_has ls 4 [(0, .ref b0), (1, .int i1), (2, .int i2), (3, .int i3)] → W p l e (rmT 4 0 0 89) s m args below meth c H locs 0 0 (MQ below (QcT (FA (iv b0 46) s.heap.size) (fun ov H => ov = (some (.int rx)) ∧ rg G b0 46 (shX9 G.2.1) rw0 H ∧ H.size = s.heap.size)) args s 0 0 (FA (iv b0 46) s.heap.size)) (F0 m 4 ls []) := by
  intro n
  induction n with
  | zero => intro v0 i1 i2 i3 hm; exact (lq4_0 hm).elim
  | succ n ih => intro v0 i1 i2 i3 hm; exact w_fX9_upTo_4 C ih v0 i1 i2 i3 (lq4_s hm)
set_option maxHeartbeats 4000000 in
theorem w_fX9_upTo (C : Cx G p s m args meth c RX9 cX9_upTo 4 (some .int)) {b0 : Nat} {rx : Int32} {rw0 : Mem} : ∀ (v0 : Mem) (i1 : Int32), fX9_upTo v0 i1 = some (rx, rw0) → ∀ (H : Heap) (locs : List Loc) (ls : Array Slot), rg G b0 46 (shX9 G.2.1) v0 H → va_S (FA (iv b0 46) s.heap.size) s.heap H locs → H.size = s.heap.size → lv_has ls 4 [(0, .ref b0), (1, .int i1)] → W p l e (rmT 4 0 0 89) s m args below meth c H locs 0 0 (MQ below (QcT (FA (iv b0 46) s.heap.size) (fun ov H => ov = (some (.int rx)) ∧ rg G b0 46 (shX9 G.2.1) rw0 H ∧ H.size = s.heap.size)) args s 0 0 (FA (iv b0 46) s.heap.size)) (F0 m 0 ls []) := by
  intro v0 i1 hm H locs ls hW0 hS hz hl
  obtain ⟨hx, hb, hr, hlk, hml, hown, hts, hK⟩ := id C
  unfold fX9_upTo at hm
  refine lv_iconst (pc := 0) (v := (-1 : Int32)) hx hb dX9_upTo_0 (by decide) ?_
  refine lv_istore_n (pc := 1) (lv' := [(2, .int (-1 : Int32)), (0, .ref b0), (1, .int i1)]) hx hb dX9_upTo_1 rfl hl (by decide) rfl (fun ls hl => ?_)
  refine lv_iconst (pc := 2) (v := (0 : Int32)) hx hb dX9_upTo_2 (by decide) ?_
  refine lv_istore_n (pc := 3) (lv' := [(3, .int (0 : Int32)), (2, .int (-1 : Int32)), (0, .ref b0), (1, .int i1)]) hx hb dX9_upTo_3 rfl hl (by decide) rfl (fun ls hl => ?_)
  exact (w_fX9_upTo_4_l C FU) v0 i1 (-1 : Int32) (0 : Int32) hm H locs ls hW0 hS hz (lv_sub hl [2, 3, 1, 0] rfl)
set_option maxHeartbeats 4000000 in
theorem ct_X9_upTo {G : Gv} {l : Launch} {b0 : Nat} {v0 : Mem} {i1 : Int32} {rx : Int32} {rw0 : Mem} {sz : Nat} (hm : fX9_upTo v0 i1 = some (rx, rw0)) : CT G l yX9_upTo (ws_ yX9_upTo cX9_upTo 4 (some .int)) 4 0 0 89 [.ref b0, .int i1] (iv b0 46) sz (fun H => rg G b0 46 (shX9 G.2.1) v0 H) (fun ov H => ov = (some (.int rx)) ∧ rg G b0 46 (shX9 G.2.1) rw0 H ∧ H.size = sz) := by
  refine Met.ofW (cc := cX9_upTo) (maxL := 4) (ret := (some .int)) (by decide +kernel) rfl ?_
  intro p e s m args below meth c s₁ B hml hv
  obtain ⟨rfl, ⟨hz, hW0⟩, hK⟩ := hv
  subst hz
  have hts := atoms_spec (ws := ws_ yX9_upTo cX9_upTo 4 (some .int)) B.pre
  have hts : ∀ w ∈ lw_all, w.before _ s = true := fun w h => hts w (List.mem_cons_of_mem _ h)
  have C : Cx G p s m _ meth c RX9 cX9_upTo 4 (some .int) := ⟨B.exec, B.bytes, B.returns, B.notSynchronized, hml, findClass_of_methodNamed B.named, hts, hK⟩
  have hl := lv_entry ([.ref b0, .int i1]) (n := 4) (Nat.le_of_ble_eq_true rfl)
  rw [lg_entry_eq]
  generalize (lg_sl ([.ref b0, .int i1]) ++ List.replicate (4 - (lg_sl ([.ref b0, .int i1])).length) Slot.unset).toArray = ls at hl ⊢
  have hl : lv_has ls 4 [(0, .ref b0), (1, .int i1)] := hl
  exact w_fX9_upTo C _ _ hm s.heap [] ls hW0 va_S.rf rfl hl
noncomputable def fX9_gain (v0 : Mem) (i1 : Int32) : Option (Int32 × Mem) :=
  gb (inR (((110 : Int32) + ((2 : Int32) * i1)) + (1 : Int32)) 150) (
  gb (inR ((110 : Int32) + ((2 : Int32) * i1)) 150) (
  ob2 (fX9_costOf v0 (gI v0 1 ((110 : Int32) + ((2 : Int32) * i1)).toNatClampNeg)) fun r3 w4 =>
  some (((gI v0 1 (((110 : Int32) + ((2 : Int32) * i1)) + (1 : Int32)).toNatClampNeg) - r3), w4)))
set_option maxHeartbeats 4000000 in
theorem w_fX9_gain (C : Cx G p s m args meth c RX9 cX9_gain 2 (some .int)) {b0 : Nat} {rx : Int32} {rw0 : Mem} : ∀ (v0 : Mem) (i1 : Int32), fX9_gain v0 i1 = some (rx, rw0) → ∀ (H : Heap) (locs : List Loc) (ls : Array Slot), rg G b0 46 (shX9 G.2.1) v0 H → va_S (FA (iv b0 46) s.heap.size) s.heap H locs → H.size = s.heap.size → lv_has ls 2 [(0, .ref b0), (1, .int i1)] → W p l e (rmT 3 0 0 66) s m args below meth c H locs 0 0 (MQ below (QcT (FA (iv b0 46) s.heap.size) (fun ov H => ov = (some (.int rx)) ∧ rg G b0 46 (shX9 G.2.1) rw0 H ∧ H.size = s.heap.size)) args s 0 0 (FA (iv b0 46) s.heap.size)) (F0 m 0 ls []) := by
  intro v0 i1 hm H locs ls hW0 hS hz hl
  obtain ⟨hx, hb, hr, hlk, hml, hown, hts, hK⟩ := id C
  unfold fX9_gain at hm
  refine lv_aload_n (pc := 0) hx hb dX9_gain_0 rfl (lv_at hl 0 rfl) ?_
  refine rk_get (pc := 1) hx hb hts hown hK hW0 flX9_11 0 (by decide) rfl rfl (x := .ref (b0 + 1)) (by first | rfl | exact congrArg (fun z => some (Value.ref z)) (by omega)) dX9_gain_1 ?_
  refine lv_bipush (pc := 4) (v := (110 : Int32)) hx hb dX9_gain_4 (by decide) ?_
  refine lv_iconst (pc := 6) (v := (2 : Int32)) hx hb dX9_gain_6 (by decide) ?_
  refine lv_iload_n (pc := 7) hx hb dX9_gain_7 rfl (lv_at hl 1 rfl) ?_
  refine lv_imul (pc := 8) hx hb dX9_gain_8 ?_
  refine lv_iadd (pc := 9) hx hb dX9_gain_9 ?_
  refine lv_iconst (pc := 10) (v := (1 : Int32)) hx hb dX9_gain_10 (by decide) ?_
  refine lv_iadd (pc := 11) hx hb dX9_gain_11 ?_
  obtain ⟨hg1, hm⟩ := gb_some hm
  refine rk_iald (pc := 12) hx hb hK hW0 1 (by decide) rfl rfl hg1 (x := (gI v0 1 (((110 : Int32) + ((2 : Int32) * i1)) + (1 : Int32)).toNatClampNeg)) rfl dX9_gain_12 ?_
  refine lv_aload_n (pc := 13) hx hb dX9_gain_13 rfl (lv_at hl 0 rfl) ?_
  refine lv_aload_n (pc := 14) hx hb dX9_gain_14 rfl (lv_at hl 0 rfl) ?_
  refine rk_get (pc := 15) hx hb hts hown hK hW0 flX9_11 0 (by decide) rfl rfl (x := .ref (b0 + 1)) (by first | rfl | exact congrArg (fun z => some (Value.ref z)) (by omega)) dX9_gain_15 ?_
  refine lv_bipush (pc := 18) (v := (110 : Int32)) hx hb dX9_gain_18 (by decide) ?_
  refine lv_iconst (pc := 20) (v := (2 : Int32)) hx hb dX9_gain_20 (by decide) ?_
  refine lv_iload_n (pc := 21) hx hb dX9_gain_21 rfl (lv_at hl 1 rfl) ?_
  refine lv_imul (pc := 22) hx hb dX9_gain_22 ?_
  refine lv_iadd (pc := 23) hx hb dX9_gain_23 ?_
  obtain ⟨hg2, hm⟩ := gb_some hm
  refine rk_iald (pc := 24) hx hb hK hW0 1 (by decide) rfl rfl hg2 (x := (gI v0 1 ((110 : Int32) + ((2 : Int32) * i1)).toNatClampNeg)) rfl dX9_gain_24 ?_
  obtain ⟨r3, w4, hq5, hm⟩ := ob2_some hm
  refine rk_TV (pc := 25) (As := [.int (gI v0 1 ((110 : Int32) + ((2 : Int32) * i1)).toNatClampNeg)]) (rest := [.int (gI v0 1 (((110 : Int32) + ((2 : Int32) * i1)) + (1 : Int32)).toNatClampNeg)]) (mc := 0) (ms := 0) hx hb hml hown hts hK hS (fun q hq => FA_sz rfl q hq) lkX9_353 rfl yn_X9_costOf (ct_X9_costOf (G := G) (l := l) (b0 := b0) (sz := H.size) hq5) ⟨Nat.le_of_ble_eq_true rfl, Nat.le_of_ble_eq_true rfl⟩ (fun z h => Or.inl (show iv _ _ _ from ⟨by have h8 := h.1; have h9 := h.2; omega, by have h8 := h.1; have h9 := h.2; omega⟩)) (rk_recv hK hW0 0 (by decide) rfl rfl rfl) hW0 rfl rfl hl.1 (Nat.le_of_ble_eq_true rfl) dX9_gain_25 ⟨Nat.zero_le _, Nat.zero_le _⟩ (fun ov9 H6 locs7 hP8 hkp9 hS10 => ?_)
  obtain ⟨rfl, hW11, hz12⟩ := hP8
  have hz13 := hz12.trans hz
  refine W.eq (g2 := F0 m 28 ls [.int r3, .int (gI v0 1 (((110 : Int32) + ((2 : Int32) * i1)) + (1 : Int32)).toNatClampNeg)]) rfl ?_
  refine lv_isub (pc := 28) hx hb dX9_gain_28 ?_
  obtain ⟨e8, e9⟩ := rs2 hm
  subst e8
  subst e9
  exact rk_iret (pc := 29) hx hb hr hlk hS10 ⟨rfl, hW11, hz13⟩ dX9_gain_29
set_option maxHeartbeats 4000000 in
theorem ct_X9_gain {G : Gv} {l : Launch} {b0 : Nat} {v0 : Mem} {i1 : Int32} {rx : Int32} {rw0 : Mem} {sz : Nat} (hm : fX9_gain v0 i1 = some (rx, rw0)) : CT G l yX9_gain (ws_ yX9_gain cX9_gain 2 (some .int)) 3 0 0 66 [.ref b0, .int i1] (iv b0 46) sz (fun H => rg G b0 46 (shX9 G.2.1) v0 H) (fun ov H => ov = (some (.int rx)) ∧ rg G b0 46 (shX9 G.2.1) rw0 H ∧ H.size = sz) := by
  refine Met.ofW (cc := cX9_gain) (maxL := 2) (ret := (some .int)) (by decide +kernel) rfl ?_
  intro p e s m args below meth c s₁ B hml hv
  obtain ⟨rfl, ⟨hz, hW0⟩, hK⟩ := hv
  subst hz
  have hts := atoms_spec (ws := ws_ yX9_gain cX9_gain 2 (some .int)) B.pre
  have hts : ∀ w ∈ lw_all, w.before _ s = true := fun w h => hts w (List.mem_cons_of_mem _ h)
  have C : Cx G p s m _ meth c RX9 cX9_gain 2 (some .int) := ⟨B.exec, B.bytes, B.returns, B.notSynchronized, hml, findClass_of_methodNamed B.named, hts, hK⟩
  have hl := lv_entry ([.ref b0, .int i1]) (n := 2) (Nat.le_of_ble_eq_true rfl)
  rw [lg_entry_eq]
  generalize (lg_sl ([.ref b0, .int i1]) ++ List.replicate (2 - (lg_sl ([.ref b0, .int i1])).length) Slot.unset).toArray = ls at hl ⊢
  have hl : lv_has ls 2 [(0, .ref b0), (1, .int i1)] := hl
  exact w_fX9_gain C _ _ hm s.heap [] ls hW0 va_S.rf rfl hl
theorem yn_X9_gain : YN yX9_gain 1 := by
  unfold YN
  decide +kernel
theorem lkX9_437 : LV RX9 437 RX9 yX9_gain cX9_gain 2 (some .int) := ⟨q2335, q2337, qs111, q128, q2338⟩
noncomputable def fX9_dearest_4 (k4 : Mem → Int32 → Int32 → Option (Int32 × Mem)) (v0 : Mem) (i1 : Int32) (i2 : Int32) : Option (Int32 × Mem) :=
  gb (inR (6 : Int32) 150) (
  if (gI v0 1 (6 : Int32).toNatClampNeg) ≤ i2 then (
  if 0 ≤ i1 then (
  gb (inR ((110 : Int32) + ((2 : Int32) * i1)) 150) (
  some ((gI v0 1 ((110 : Int32) + ((2 : Int32) * i1)).toNatClampNeg), v0)))
  else (
  some ((-5 : Int32), v0)))
  else (
  if i1 < 0 then (
  k4 v0 i2 (i2 + (1 : Int32)))
  else (
  ob2 (fX9_gain v0 i2) fun r6 w7 =>
  ob2 (fX9_gain w7 i1) fun r17 w18 =>
  if r17 < r6 then (
  k4 w18 i2 (i2 + (1 : Int32)))
  else (
  ob2 (fX9_gain w18 i2) fun r29 w30 =>
  ob2 (fX9_gain w30 i1) fun r40 w41 =>
  if r29 = r40 then (
  ob2 (fX9_isAhead w41 i2 i1) fun r52 w53 =>
  if r52 = 0 then (
  k4 w53 i1 (i2 + (1 : Int32)))
  else (
  k4 w53 i2 (i2 + (1 : Int32))))
  else (
  k4 w41 i1 (i2 + (1 : Int32)))))))
noncomputable def fX9_dearest (v0 : Mem) : Option (Int32 × Mem) :=
  lq3 (fX9_dearest_4) FU v0 (-1 : Int32) (0 : Int32)
set_option maxHeartbeats 4000000 in
theorem w_fX9_dearest_4 (C : Cx G p s m args meth c RX9 cX9_dearest 3 (some .int)) {b0 : Nat} {rx : Int32} {rw0 : Mem} {k4 : Mem → Int32 → Int32 → Option (Int32 × Mem)} (hk4 : ∀ (v0 : Mem) (i1 : Int32) (i2 : Int32), k4 v0 i1 i2 = some (rx, rw0) → ∀ (H : Heap) (locs : List Loc) (ls : Array Slot), rg G b0 46 (shX9 G.2.1) v0 H → va_S (FA (iv b0 46) s.heap.size) s.heap H locs → H.size = s.heap.size → lv_has ls 3 [(0, .ref b0), (1, .int i1), (2, .int i2)] → W p l e (rmT 4 0 0 89) s m args below meth c H locs 0 0 (MQ below (QcT (FA (iv b0 46) s.heap.size) (fun ov H => ov = (some (.int rx)) ∧ rg G b0 46 (shX9 G.2.1) rw0 H ∧ H.size = s.heap.size)) args s 0 0 (FA (iv b0 46) s.heap.size)) (F0 m 4 ls [])) : ∀ (v0 : Mem) (i1 : Int32) (i2 : Int32), fX9_dearest_4 k4 v0 i1 i2 = some (rx, rw0) → ∀ (H : Heap) (locs : List Loc) (ls : Array Slot), rg G b0 46 (shX9 G.2.1) v0 H → va_S (FA (iv b0 46) s.heap.size) s.heap H locs → H.size = s.heap.size → lv_has ls 3 [(0, .ref b0), (1, .int i1), (2, .int i2)] → W p l e (rmT 4 0 0 89) s m args below meth c H locs 0 0 (MQ below (QcT (FA (iv b0 46) s.heap.size) (fun ov H => ov = (some (.int rx)) ∧ rg G b0 46 (shX9 G.2.1) rw0 H ∧ H.size = s.heap.size)) args s 0 0 (FA (iv b0 46) s.heap.size)) (F0 m 4 ls []) := by
  intro v0 i1 i2 hm H locs ls hW0 hS hz hl
  obtain ⟨hx, hb, hr, hlk, hml, hown, hts, hK⟩ := id C
  unfold fX9_dearest_4 at hm
  refine lv_iload_n (pc := 4) hx hb dX9_dearest_4 rfl (lv_at hl 2 rfl) ?_
  refine lv_aload_n (pc := 5) hx hb dX9_dearest_5 rfl (lv_at hl 0 rfl) ?_
  refine rk_get (pc := 6) hx hb hts hown hK hW0 flX9_11 0 (by decide) rfl rfl (x := .ref (b0 + 1)) (by first | rfl | exact congrArg (fun z => some (Value.ref z)) (by omega)) dX9_dearest_6 ?_
  refine lv_bipush (pc := 9) (v := (6 : Int32)) hx hb dX9_dearest_9 (by decide) ?_
  obtain ⟨hg1, hm⟩ := gb_some hm
  refine rk_iald (pc := 11) hx hb hK hW0 1 (by decide) rfl rfl hg1 (x := (gI v0 1 (6 : Int32).toNatClampNeg)) rfl dX9_dearest_11 ?_
  refine lv_icmp_ge (pc := 12) (tgt := 62) hx hb dX9_dearest_12 (by decide) (fun c2 => ?_) (fun c2 => ?_)
  · have hm := ite_t c2 hm
    refine lv_iload_n (pc := 62) hx hb dX9_dearest_62 rfl (lv_at hl 1 rfl) ?_
    refine lv_if_ge (pc := 63) (tgt := 71) hx hb dX9_dearest_63 (by decide) (fun c3 => ?_) (fun c3 => ?_)
    · have hm := ite_t c3 hm
      refine lv_aload_n (pc := 71) hx hb dX9_dearest_71 rfl (lv_at hl 0 rfl) ?_
      refine rk_get (pc := 72) hx hb hts hown hK hW0 flX9_11 0 (by decide) rfl rfl (x := .ref (b0 + 1)) (by first | rfl | exact congrArg (fun z => some (Value.ref z)) (by omega)) dX9_dearest_72 ?_
      refine lv_bipush (pc := 75) (v := (110 : Int32)) hx hb dX9_dearest_75 (by decide) ?_
      refine lv_iconst (pc := 77) (v := (2 : Int32)) hx hb dX9_dearest_77 (by decide) ?_
      refine lv_iload_n (pc := 78) hx hb dX9_dearest_78 rfl (lv_at hl 1 rfl) ?_
      refine lv_imul (pc := 79) hx hb dX9_dearest_79 ?_
      refine lv_iadd (pc := 80) hx hb dX9_dearest_80 ?_
      obtain ⟨hg4, hm⟩ := gb_some hm
      refine rk_iald (pc := 81) hx hb hK hW0 1 (by decide) rfl rfl hg4 (x := (gI v0 1 ((110 : Int32) + ((2 : Int32) * i1)).toNatClampNeg)) rfl dX9_dearest_81 ?_
      obtain ⟨e8, e9⟩ := rs2 hm
      subst e8
      subst e9
      exact rk_iret (pc := 82) hx hb hr hlk hS ⟨rfl, hW0, hz⟩ dX9_dearest_82
    · have hm := ite_f c3 hm
      refine lv_bipush (pc := 66) (v := (-5 : Int32)) hx hb dX9_dearest_66 (by decide) ?_
      refine lv_goto (pc := 68) (tgt := 82) hx hb dX9_dearest_68 (by decide) ?_
      obtain ⟨e8, e9⟩ := rs2 hm
      subst e8
      subst e9
      exact rk_iret (pc := 82) hx hb hr hlk hS ⟨rfl, hW0, hz⟩ dX9_dearest_82
  · have hm := ite_f c2 hm
    refine lv_iload_n (pc := 15) hx hb dX9_dearest_15 rfl (lv_at hl 1 rfl) ?_
    refine lv_if_lt (pc := 16) (tgt := 54) hx hb dX9_dearest_16 (by decide) (fun c5 => ?_) (fun c5 => ?_)
    · have hm := ite_t c5 hm
      refine lv_iload_n (pc := 54) hx hb dX9_dearest_54 rfl (lv_at hl 2 rfl) ?_
      refine lv_istore_n (pc := 55) (lv' := [(1, .int i2), (0, .ref b0), (2, .int i2)]) hx hb dX9_dearest_55 rfl hl (by decide) rfl (fun ls hl => ?_)
      refine lv_iinc (pc := 56) (v := (i2 + (1 : Int32))) (lv' := [(2, .int (i2 + (1 : Int32))), (1, .int i2), (0, .ref b0)]) hx hb dX9_dearest_56 hl (k := 2) rfl rfl (by decide) rfl (fun ls hl => ?_)
      refine lv_goto (pc := 59) (tgt := 4) hx hb dX9_dearest_59 (by decide) ?_
      exact hk4 v0 i2 (i2 + (1 : Int32)) hm H locs ls hW0 hS hz (lv_sub hl [2, 1, 0] rfl)
    · have hm := ite_f c5 hm
      refine lv_aload_n (pc := 19) hx hb dX9_dearest_19 rfl (lv_at hl 0 rfl) ?_
      refine lv_iload_n (pc := 20) hx hb dX9_dearest_20 rfl (lv_at hl 2 rfl) ?_
      obtain ⟨r6, w7, hq8, hm⟩ := ob2_some hm
      refine rk_TV (pc := 21) (As := [.int i2]) (rest := []) (mc := 0) (ms := 0) hx hb hml hown hts hK hS (fun q hq => FA_sz rfl q hq) lkX9_437 rfl yn_X9_gain (ct_X9_gain (G := G) (l := l) (b0 := b0) (sz := H.size) hq8) ⟨Nat.le_of_ble_eq_true rfl, Nat.le_of_ble_eq_true rfl⟩ (fun z h => Or.inl (show iv _ _ _ from ⟨by have h8 := h.1; have h9 := h.2; omega, by have h8 := h.1; have h9 := h.2; omega⟩)) (rk_recv hK hW0 0 (by decide) rfl rfl rfl) hW0 rfl rfl hl.1 (Nat.le_of_ble_eq_true rfl) dX9_dearest_21 ⟨Nat.zero_le _, Nat.zero_le _⟩ (fun ov9 H9 locs10 hP11 hkp12 hS13 => ?_)
      obtain ⟨rfl, hW14, hz15⟩ := hP11
      have hz16 := hz15.trans hz
      refine W.eq (g2 := F0 m 24 ls [.int r6]) rfl ?_
      refine lv_aload_n (pc := 24) hx hb dX9_dearest_24 rfl (lv_at hl 0 rfl) ?_
      refine lv_iload_n (pc := 25) hx hb dX9_dearest_25 rfl (lv_at hl 1 rfl) ?_
      obtain ⟨r17, w18, hq19, hm⟩ := ob2_some hm
      refine rk_TV (pc := 26) (As := [.int i1]) (rest := [.int r6]) (mc := 0) (ms := 0) hx hb hml hown hts hK hS13 (fun q hq => FA_sz rfl q hq) lkX9_437 rfl yn_X9_gain (ct_X9_gain (G := G) (l := l) (b0 := b0) (sz := H9.size) hq19) ⟨Nat.le_of_ble_eq_true rfl, Nat.le_of_ble_eq_true rfl⟩ (fun z h => Or.inl (show iv _ _ _ from ⟨by have h8 := h.1; have h9 := h.2; omega, by have h8 := h.1; have h9 := h.2; omega⟩)) (rk_recv hK hW14 0 (by decide) rfl rfl rfl) hW14 rfl rfl hl.1 (Nat.le_of_ble_eq_true rfl) dX9_dearest_26 ⟨Nat.zero_le _, Nat.zero_le _⟩ (fun ov9 H20 locs21 hP22 hkp23 hS24 => ?_)
      obtain ⟨rfl, hW25, hz26⟩ := hP22
      have hz27 := hz26.trans hz16
      refine W.eq (g2 := F0 m 29 ls [.int r17, .int r6]) rfl ?_
      refine lv_icmp_gt (pc := 29) (tgt := 54) hx hb dX9_dearest_29 (by decide) (fun c28 => ?_) (fun c28 => ?_)
      · have hm := ite_t c28 hm
        refine lv_iload_n (pc := 54) hx hb dX9_dearest_54 rfl (lv_at hl 2 rfl) ?_
        refine lv_istore_n (pc := 55) (lv' := [(1, .int i2), (0, .ref b0), (2, .int i2)]) hx hb dX9_dearest_55 rfl hl (by decide) rfl (fun ls hl => ?_)
        refine lv_iinc (pc := 56) (v := (i2 + (1 : Int32))) (lv' := [(2, .int (i2 + (1 : Int32))), (1, .int i2), (0, .ref b0)]) hx hb dX9_dearest_56 hl (k := 2) rfl rfl (by decide) rfl (fun ls hl => ?_)
        refine lv_goto (pc := 59) (tgt := 4) hx hb dX9_dearest_59 (by decide) ?_
        exact hk4 w18 i2 (i2 + (1 : Int32)) hm H20 locs21 ls hW25 hS24 hz27 (lv_sub hl [2, 1, 0] rfl)
      · have hm := ite_f c28 hm
        refine lv_aload_n (pc := 32) hx hb dX9_dearest_32 rfl (lv_at hl 0 rfl) ?_
        refine lv_iload_n (pc := 33) hx hb dX9_dearest_33 rfl (lv_at hl 2 rfl) ?_
        obtain ⟨r29, w30, hq31, hm⟩ := ob2_some hm
        refine rk_TV (pc := 34) (As := [.int i2]) (rest := []) (mc := 0) (ms := 0) hx hb hml hown hts hK hS24 (fun q hq => FA_sz rfl q hq) lkX9_437 rfl yn_X9_gain (ct_X9_gain (G := G) (l := l) (b0 := b0) (sz := H20.size) hq31) ⟨Nat.le_of_ble_eq_true rfl, Nat.le_of_ble_eq_true rfl⟩ (fun z h => Or.inl (show iv _ _ _ from ⟨by have h8 := h.1; have h9 := h.2; omega, by have h8 := h.1; have h9 := h.2; omega⟩)) (rk_recv hK hW25 0 (by decide) rfl rfl rfl) hW25 rfl rfl hl.1 (Nat.le_of_ble_eq_true rfl) dX9_dearest_34 ⟨Nat.zero_le _, Nat.zero_le _⟩ (fun ov9 H32 locs33 hP34 hkp35 hS36 => ?_)
        obtain ⟨rfl, hW37, hz38⟩ := hP34
        have hz39 := hz38.trans hz27
        refine W.eq (g2 := F0 m 37 ls [.int r29]) rfl ?_
        refine lv_aload_n (pc := 37) hx hb dX9_dearest_37 rfl (lv_at hl 0 rfl) ?_
        refine lv_iload_n (pc := 38) hx hb dX9_dearest_38 rfl (lv_at hl 1 rfl) ?_
        obtain ⟨r40, w41, hq42, hm⟩ := ob2_some hm
        refine rk_TV (pc := 39) (As := [.int i1]) (rest := [.int r29]) (mc := 0) (ms := 0) hx hb hml hown hts hK hS36 (fun q hq => FA_sz rfl q hq) lkX9_437 rfl yn_X9_gain (ct_X9_gain (G := G) (l := l) (b0 := b0) (sz := H32.size) hq42) ⟨Nat.le_of_ble_eq_true rfl, Nat.le_of_ble_eq_true rfl⟩ (fun z h => Or.inl (show iv _ _ _ from ⟨by have h8 := h.1; have h9 := h.2; omega, by have h8 := h.1; have h9 := h.2; omega⟩)) (rk_recv hK hW37 0 (by decide) rfl rfl rfl) hW37 rfl rfl hl.1 (Nat.le_of_ble_eq_true rfl) dX9_dearest_39 ⟨Nat.zero_le _, Nat.zero_le _⟩ (fun ov9 H43 locs44 hP45 hkp46 hS47 => ?_)
        obtain ⟨rfl, hW48, hz49⟩ := hP45
        have hz50 := hz49.trans hz39
        refine W.eq (g2 := F0 m 42 ls [.int r40, .int r29]) rfl ?_
        refine lv_icmp_ne (pc := 42) (tgt := 56) hx hb dX9_dearest_42 (by decide) (fun c51 => ?_) (fun c51 => ?_)
        · have hm := ite_f c51 hm
          refine lv_iinc (pc := 56) (v := (i2 + (1 : Int32))) (lv' := [(2, .int (i2 + (1 : Int32))), (0, .ref b0), (1, .int i1)]) hx hb dX9_dearest_56 hl (k := 2) rfl rfl (by decide) rfl (fun ls hl => ?_)
          refine lv_goto (pc := 59) (tgt := 4) hx hb dX9_dearest_59 (by decide) ?_
          exact hk4 w41 i1 (i2 + (1 : Int32)) hm H43 locs44 ls hW48 hS47 hz50 (lv_sub hl [1, 2, 0] rfl)
        · have hm := ite_t c51 hm
          refine lv_aload_n (pc := 45) hx hb dX9_dearest_45 rfl (lv_at hl 0 rfl) ?_
          refine lv_iload_n (pc := 46) hx hb dX9_dearest_46 rfl (lv_at hl 2 rfl) ?_
          refine lv_iload_n (pc := 47) hx hb dX9_dearest_47 rfl (lv_at hl 1 rfl) ?_
          obtain ⟨r52, w53, hq54, hm⟩ := ob2_some hm
          refine rk_TV (pc := 48) (As := [.int i2, .int i1]) (rest := []) (mc := 0) (ms := 0) hx hb hml hown hts hK hS47 (fun q hq => FA_sz rfl q hq) lkX9_429 rfl yn_X9_isAhead (ct_X9_isAhead (G := G) (l := l) (b0 := b0) (sz := H43.size) hq54) ⟨Nat.le_of_ble_eq_true rfl, Nat.le_of_ble_eq_true rfl⟩ (fun z h => Or.inl (show iv _ _ _ from ⟨by have h8 := h.1; have h9 := h.2; omega, by have h8 := h.1; have h9 := h.2; omega⟩)) (rk_recv hK hW48 0 (by decide) rfl rfl rfl) hW48 rfl rfl hl.1 (Nat.le_of_ble_eq_true rfl) dX9_dearest_48 ⟨Nat.zero_le _, Nat.zero_le _⟩ (fun ov9 H55 locs56 hP57 hkp58 hS59 => ?_)
          obtain ⟨rfl, hW60, hz61⟩ := hP57
          have hz62 := hz61.trans hz50
          refine W.eq (g2 := F0 m 51 ls [.int r52]) rfl ?_
          refine lv_if_eq (pc := 51) (tgt := 56) hx hb dX9_dearest_51 (by decide) (fun c63 => ?_) (fun c63 => ?_)
          · have hm := ite_t c63 hm
            refine lv_iinc (pc := 56) (v := (i2 + (1 : Int32))) (lv' := [(2, .int (i2 + (1 : Int32))), (0, .ref b0), (1, .int i1)]) hx hb dX9_dearest_56 hl (k := 2) rfl rfl (by decide) rfl (fun ls hl => ?_)
            refine lv_goto (pc := 59) (tgt := 4) hx hb dX9_dearest_59 (by decide) ?_
            exact hk4 w53 i1 (i2 + (1 : Int32)) hm H55 locs56 ls hW60 hS59 hz62 (lv_sub hl [1, 2, 0] rfl)
          · have hm := ite_f c63 hm
            refine lv_iload_n (pc := 54) hx hb dX9_dearest_54 rfl (lv_at hl 2 rfl) ?_
            refine lv_istore_n (pc := 55) (lv' := [(1, .int i2), (0, .ref b0), (2, .int i2)]) hx hb dX9_dearest_55 rfl hl (by decide) rfl (fun ls hl => ?_)
            refine lv_iinc (pc := 56) (v := (i2 + (1 : Int32))) (lv' := [(2, .int (i2 + (1 : Int32))), (1, .int i2), (0, .ref b0)]) hx hb dX9_dearest_56 hl (k := 2) rfl rfl (by decide) rfl (fun ls hl => ?_)
            refine lv_goto (pc := 59) (tgt := 4) hx hb dX9_dearest_59 (by decide) ?_
            exact hk4 w53 i2 (i2 + (1 : Int32)) hm H55 locs56 ls hW60 hS59 hz62 (lv_sub hl [2, 1, 0] rfl)
theorem w_fX9_dearest_4_l (C : Cx G p s m args meth c RX9 cX9_dearest 3 (some .int)) {b0 : Nat} {rx : Int32} {rw0 : Mem} : ∀ (n : Nat) (v0 : Mem) (i1 : Int32) (i2 : Int32), lq3 (fX9_dearest_4) n v0 i1 i2 = some (rx, rw0) → ∀ (H : Heap) (locs : List Loc) (ls : Array Slot), rg G b0 46 (shX9 G.2.1) v0 H → va_S (FA (iv b0 46) s.heap.size) s.heap H locs → H.size = s.heap.size → lv_has ls 3 [(0, .ref b0), (1, .int i1), (2, .int i2)] → W p l e (rmT 4 0 0 89) s m args below meth c H locs 0 0 (MQ below (QcT (FA (iv b0 46) s.heap.size) (fun ov H => ov = (some (.int rx)) ∧ rg G b0 46 (shX9 G.2.1) rw0 H ∧ H.size = s.heap.size)) args s 0 0 (FA (iv b0 46) s.heap.size)) (F0 m 4 ls []) := by
  intro n
  induction n with
  | zero => intro v0 i1 i2 hm; exact (lq3_0 hm).elim
  | succ n ih => intro v0 i1 i2 hm; exact w_fX9_dearest_4 C ih v0 i1 i2 (lq3_s hm)
set_option maxHeartbeats 4000000 in
theorem w_fX9_dearest (C : Cx G p s m args meth c RX9 cX9_dearest 3 (some .int)) {b0 : Nat} {rx : Int32} {rw0 : Mem} : ∀ (v0 : Mem), fX9_dearest v0 = some (rx, rw0) → ∀ (H : Heap) (locs : List Loc) (ls : Array Slot), rg G b0 46 (shX9 G.2.1) v0 H → va_S (FA (iv b0 46) s.heap.size) s.heap H locs → H.size = s.heap.size → lv_has ls 3 [(0, .ref b0)] → W p l e (rmT 4 0 0 89) s m args below meth c H locs 0 0 (MQ below (QcT (FA (iv b0 46) s.heap.size) (fun ov H => ov = (some (.int rx)) ∧ rg G b0 46 (shX9 G.2.1) rw0 H ∧ H.size = s.heap.size)) args s 0 0 (FA (iv b0 46) s.heap.size)) (F0 m 0 ls []) := by
  intro v0 hm H locs ls hW0 hS hz hl
  obtain ⟨hx, hb, hr, hlk, hml, hown, hts, hK⟩ := id C
  unfold fX9_dearest at hm
  refine lv_iconst (pc := 0) (v := (-1 : Int32)) hx hb dX9_dearest_0 (by decide) ?_
  refine lv_istore_n (pc := 1) (lv' := [(1, .int (-1 : Int32)), (0, .ref b0)]) hx hb dX9_dearest_1 rfl hl (by decide) rfl (fun ls hl => ?_)
  refine lv_iconst (pc := 2) (v := (0 : Int32)) hx hb dX9_dearest_2 (by decide) ?_
  refine lv_istore_n (pc := 3) (lv' := [(2, .int (0 : Int32)), (1, .int (-1 : Int32)), (0, .ref b0)]) hx hb dX9_dearest_3 rfl hl (by decide) rfl (fun ls hl => ?_)
  exact (w_fX9_dearest_4_l C FU) v0 (-1 : Int32) (0 : Int32) hm H locs ls hW0 hS hz (lv_sub hl [2, 1, 0] rfl)
set_option maxHeartbeats 4000000 in
theorem ct_X9_dearest {G : Gv} {l : Launch} {b0 : Nat} {v0 : Mem} {rx : Int32} {rw0 : Mem} {sz : Nat} (hm : fX9_dearest v0 = some (rx, rw0)) : CT G l yX9_dearest (ws_ yX9_dearest cX9_dearest 3 (some .int)) 4 0 0 89 [.ref b0] (iv b0 46) sz (fun H => rg G b0 46 (shX9 G.2.1) v0 H) (fun ov H => ov = (some (.int rx)) ∧ rg G b0 46 (shX9 G.2.1) rw0 H ∧ H.size = sz) := by
  refine Met.ofW (cc := cX9_dearest) (maxL := 3) (ret := (some .int)) (by decide +kernel) rfl ?_
  intro p e s m args below meth c s₁ B hml hv
  obtain ⟨rfl, ⟨hz, hW0⟩, hK⟩ := hv
  subst hz
  have hts := atoms_spec (ws := ws_ yX9_dearest cX9_dearest 3 (some .int)) B.pre
  have hts : ∀ w ∈ lw_all, w.before _ s = true := fun w h => hts w (List.mem_cons_of_mem _ h)
  have C : Cx G p s m _ meth c RX9 cX9_dearest 3 (some .int) := ⟨B.exec, B.bytes, B.returns, B.notSynchronized, hml, findClass_of_methodNamed B.named, hts, hK⟩
  have hl := lv_entry ([.ref b0]) (n := 3) (Nat.le_of_ble_eq_true rfl)
  rw [lg_entry_eq]
  generalize (lg_sl ([.ref b0]) ++ List.replicate (3 - (lg_sl ([.ref b0])).length) Slot.unset).toArray = ls at hl ⊢
  have hl : lv_has ls 3 [(0, .ref b0)] := hl
  exact w_fX9_dearest C _ hm s.heap [] ls hW0 va_S.rf rfl hl
noncomputable def fX9_isStep (i0 : Int32) (i1 : Int32) : Option (Int32) :=
  if i0 = 0 then (
  ob (fX9_isIn i1.toInt64 (-99 : Int64) (999 : Int64)) fun r9 =>
  gb (z01 r9) (some r9))
  else (
  if i0 = (1 : Int32) then (
  ob (fX9_isIn i1.toInt64 (0 : Int64) (99 : Int64)) fun r6 =>
  gb (z01 r6) (some r6))
  else (
  ob (fX9_isIn i1.toInt64 (-9 : Int64) (9 : Int64)) fun r3 =>
  gb (z01 r3) (some r3)))
set_option maxHeartbeats 4000000 in
theorem w_fX9_isStep (C : Cx G p s m args meth c RX9 cX9_isStep 2 (some .boolean)) {rx : Int32} : ∀ (i0 : Int32) (i1 : Int32), fX9_isStep i0 i1 = some rx → ∀ (ls : Array Slot), lv_has ls 2 [(0, .int i0), (1, .int i1)] → W p l e (rmP 1 25) s m args below meth c s.heap [] 0 0 (MQ below (QcP (some (.int rx))) args s 0 0 (fun _ => False)) (F0 m 0 ls []) := by
  intro i0 i1 hm ls hl
  obtain ⟨hx, hb, hr, hlk, hml, hown, hts, hK⟩ := id C
  unfold fX9_isStep at hm
  refine lv_iload_n (pc := 0) hx hb dX9_isStep_0 rfl (lv_at hl 0 rfl) ?_
  refine lv_if_ne (pc := 1) (tgt := 18) hx hb dX9_isStep_1 (by decide) (fun c1 => ?_) (fun c1 => ?_)
  · have hm := ite_f c1 hm
    refine lv_iload_n (pc := 18) hx hb dX9_isStep_18 rfl (lv_at hl 0 rfl) ?_
    refine lv_iconst (pc := 19) (v := (1 : Int32)) hx hb dX9_isStep_19 (by decide) ?_
    refine lv_icmp_ne (pc := 20) (tgt := 35) hx hb dX9_isStep_20 (by decide) (fun c2 => ?_) (fun c2 => ?_)
    · have hm := ite_f c2 hm
      refine lv_iload_n (pc := 35) hx hb dX9_isStep_35 rfl (lv_at hl 1 rfl) ?_
      refine lv_i2l (pc := 36) hx hb dX9_isStep_36 rfl ?_
      refine lv_ldc2 (pc := 37) (v := (-9 : Int64)) hx hb hown (hts _ q1954) dX9_isStep_37 ?_
      refine lv_ldc2 (pc := 40) (v := (9 : Int64)) hx hb hown (hts _ q1955) dX9_isStep_40 ?_
      obtain ⟨r3, hq4, hm⟩ := ob_some hm
      refine rk_PS (pc := 43) (As := [.long i1.toInt64, .long (-9 : Int64), .long (9 : Int64)]) (rest := []) hx hb hml hown hts hK lkX9_93 yn_X9_isIn (ct_X9_isIn (G := G) (l := l) hq4) ⟨Nat.le_of_ble_eq_true rfl, Nat.le_of_ble_eq_true rfl⟩ trivial rfl rfl hl.1 (Nat.le_of_ble_eq_true rfl) dX9_isStep_43 ⟨Nat.zero_le _, Nat.zero_le _⟩ ?_
      refine W.eq (g2 := F0 m 46 ls [.int r3]) rfl ?_
      obtain ⟨hg5, hm⟩ := gb_some hm
      have e9 := rs1 hm
      subst e9
      exact rk_zretP (pc := 46) hx hb hr hlk hg5 rfl dX9_isStep_46
    · have hm := ite_t c2 hm
      refine lv_iload_n (pc := 23) hx hb dX9_isStep_23 rfl (lv_at hl 1 rfl) ?_
      refine lv_i2l (pc := 24) hx hb dX9_isStep_24 rfl ?_
      refine lv_lconst (pc := 25) (v := (0 : Int64)) hx hb dX9_isStep_25 (by decide) ?_
      refine lv_ldc2 (pc := 26) (v := (99 : Int64)) hx hb hown (hts _ q1935) dX9_isStep_26 ?_
      obtain ⟨r6, hq7, hm⟩ := ob_some hm
      refine rk_PS (pc := 29) (As := [.long i1.toInt64, .long (0 : Int64), .long (99 : Int64)]) (rest := []) hx hb hml hown hts hK lkX9_93 yn_X9_isIn (ct_X9_isIn (G := G) (l := l) hq7) ⟨Nat.le_of_ble_eq_true rfl, Nat.le_of_ble_eq_true rfl⟩ trivial rfl rfl hl.1 (Nat.le_of_ble_eq_true rfl) dX9_isStep_29 ⟨Nat.zero_le _, Nat.zero_le _⟩ ?_
      refine W.eq (g2 := F0 m 32 ls [.int r6]) rfl ?_
      refine lv_goto (pc := 32) (tgt := 46) hx hb dX9_isStep_32 (by decide) ?_
      obtain ⟨hg8, hm⟩ := gb_some hm
      have e9 := rs1 hm
      subst e9
      exact rk_zretP (pc := 46) hx hb hr hlk hg8 rfl dX9_isStep_46
  · have hm := ite_t c1 hm
    refine lv_iload_n (pc := 4) hx hb dX9_isStep_4 rfl (lv_at hl 1 rfl) ?_
    refine lv_i2l (pc := 5) hx hb dX9_isStep_5 rfl ?_
    refine lv_ldc2 (pc := 6) (v := (-99 : Int64)) hx hb hown (hts _ q1940) dX9_isStep_6 ?_
    refine lv_ldc2 (pc := 9) (v := (999 : Int64)) hx hb hown (hts _ q1941) dX9_isStep_9 ?_
    obtain ⟨r9, hq10, hm⟩ := ob_some hm
    refine rk_PS (pc := 12) (As := [.long i1.toInt64, .long (-99 : Int64), .long (999 : Int64)]) (rest := []) hx hb hml hown hts hK lkX9_93 yn_X9_isIn (ct_X9_isIn (G := G) (l := l) hq10) ⟨Nat.le_of_ble_eq_true rfl, Nat.le_of_ble_eq_true rfl⟩ trivial rfl rfl hl.1 (Nat.le_of_ble_eq_true rfl) dX9_isStep_12 ⟨Nat.zero_le _, Nat.zero_le _⟩ ?_
    refine W.eq (g2 := F0 m 15 ls [.int r9]) rfl ?_
    refine lv_goto (pc := 15) (tgt := 46) hx hb dX9_isStep_15 (by decide) ?_
    obtain ⟨hg11, hm⟩ := gb_some hm
    have e9 := rs1 hm
    subst e9
    exact rk_zretP (pc := 46) hx hb hr hlk hg11 rfl dX9_isStep_46
set_option maxHeartbeats 4000000 in
theorem ct_X9_isStep {G : Gv} {l : Launch} {i0 : Int32} {i1 : Int32} {rx : Int32} (hm : fX9_isStep i0 i1 = some rx) : CP G l yX9_isStep (ws_ yX9_isStep cX9_isStep 2 (some .boolean)) 1 25 [.int i0, .int i1] (fun H => True) (some (.int rx)) := by
  refine Met.ofW (cc := cX9_isStep) (maxL := 2) (ret := (some .boolean)) (by decide +kernel) rfl ?_
  intro p e s m args below meth c s₁ B hml hv
  obtain ⟨rfl, -, hK⟩ := hv
  have hts := atoms_spec (ws := ws_ yX9_isStep cX9_isStep 2 (some .boolean)) B.pre
  have hts : ∀ w ∈ lw_all, w.before _ s = true := fun w h => hts w (List.mem_cons_of_mem _ h)
  have C : Cx G p s m _ meth c RX9 cX9_isStep 2 (some .boolean) := ⟨B.exec, B.bytes, B.returns, B.notSynchronized, hml, findClass_of_methodNamed B.named, hts, hK⟩
  have hl := lv_entry ([.int i0, .int i1]) (n := 2) (Nat.le_of_ble_eq_true rfl)
  rw [lg_entry_eq]
  generalize (lg_sl ([.int i0, .int i1]) ++ List.replicate (2 - (lg_sl ([.int i0, .int i1])).length) Slot.unset).toArray = ls at hl ⊢
  have hl : lv_has ls 2 [(0, .int i0), (1, .int i1)] := hl
  exact w_fX9_isStep C _ _ hm ls hl
theorem yn_X9_isStep : YN yX9_isStep 2 := by
  unfold YN
  decide +kernel
theorem lkX9_440 : LSt RX9 440 yX9_isStep cX9_isStep 2 (some .boolean) := ⟨q2343, q2344, q128, q2345⟩
noncomputable def fX9_plan_52 (v0 : Mem) (i1 : Int32) (i2 : Int32) (i3 : Int32) : Option (Int32 × Mem) :=
  ob (fX9_isStep i1 i3) fun r21 =>
  if r21 = 0 then (
  some ((-2 : Int32), v0))
  else (
  gb (inR (5 : Int32) 150) (
  if (gI v0 1 (5 : Int32).toNatClampNeg) = (8 : Int32) then (
  some ((-4 : Int32), v0))
  else (
  gb (inR (5 : Int32) 150) (
  gb (inR ((86 : Int32) + ((3 : Int32) * (gI v0 1 (5 : Int32).toNatClampNeg))) 150) (
  lm (sI v0 1 ((86 : Int32) + ((3 : Int32) * (gI v0 1 (5 : Int32).toNatClampNeg))).toNatClampNeg i1) fun v0_28 =>
  gb (inR (((86 : Int32) + ((3 : Int32) * (gI v0 1 (5 : Int32).toNatClampNeg))) + (1 : Int32)) 150) (
  lm (sI v0_28 1 (((86 : Int32) + ((3 : Int32) * (gI v0 1 (5 : Int32).toNatClampNeg))) + (1 : Int32)).toNatClampNeg i2) fun v0_37 =>
  gb (inR (((86 : Int32) + ((3 : Int32) * (gI v0 1 (5 : Int32).toNatClampNeg))) + (2 : Int32)) 150) (
  lm (sI v0_37 1 (((86 : Int32) + ((3 : Int32) * (gI v0 1 (5 : Int32).toNatClampNeg))) + (2 : Int32)).toNatClampNeg i3) fun v0_46 =>
  gb (inR (5 : Int32) 150) (
  gb (inR (5 : Int32) 150) (
  lm (sI v0_46 1 (5 : Int32).toNatClampNeg ((gI v0_46 1 (5 : Int32).toNatClampNeg) + (1 : Int32))) fun v0_56 =>
  gb (inR (5 : Int32) 150) (
  some ((gI v0_56 1 (5 : Int32).toNatClampNeg), v0_56)))))))))))
noncomputable def fX9_plan (v0 : Mem) (i1 : Int32) (i2 : Int32) (i3 : Int32) : Option (Int32 × Mem) :=
  if i1 = (-1 : Int32) then (
  gb (inR (5 : Int32) 150) (
  lm (sI v0 1 (5 : Int32).toNatClampNeg (0 : Int32)) fun v0_13 =>
  some ((0 : Int32), v0_13)))
  else (
  ob (fX9_isIn i1.toInt64 (0 : Int64) (2 : Int64)) fun r2 =>
  if r2 = 0 then (
  some ((-1 : Int32), v0))
  else (
  if i1 = (1 : Int32) then (
  ob (fX9_isPack v0 i2) fun r9 =>
  if r9 = 0 then (
  some ((-1 : Int32), v0))
  else (
  fX9_plan_52 v0 i1 i2 i3))
  else (
  ob (fX9_isRule v0 i2) fun r6 =>
  if r6 = 0 then (
  some ((-1 : Int32), v0))
  else (
  fX9_plan_52 v0 i1 i2 i3))))
set_option maxHeartbeats 4000000 in
theorem w_fX9_plan_52 (C : Cx G p s m args meth c RX9 cX9_plan 5 (some .int)) {b0 : Nat} {rx : Int32} {rw0 : Mem} : ∀ (v0 : Mem) (i1 : Int32) (i2 : Int32) (i3 : Int32), fX9_plan_52 v0 i1 i2 i3 = some (rx, rw0) → ∀ (H : Heap) (locs : List Loc) (ls : Array Slot), rg G b0 46 (shX9 G.2.1) v0 H → va_S (FA (iv b0 46) s.heap.size) s.heap H locs → H.size = s.heap.size → lv_has ls 5 [(0, .ref b0), (1, .int i1), (2, .int i2), (3, .int i3)] → W p l e (rmT 2 0 0 46) s m args below meth c H locs 0 0 (MQ below (QcT (FA (iv b0 46) s.heap.size) (fun ov H => ov = (some (.int rx)) ∧ rg G b0 46 (shX9 G.2.1) rw0 H ∧ H.size = s.heap.size)) args s 0 0 (FA (iv b0 46) s.heap.size)) (F0 m 52 ls []) := by
  intro v0 i1 i2 i3 hm H locs ls hW0 hS hz hl
  obtain ⟨hx, hb, hr, hlk, hml, hown, hts, hK⟩ := id C
  unfold fX9_plan_52 at hm
  refine lv_iload_n (pc := 52) hx hb dX9_plan_52 rfl (lv_at hl 1 rfl) ?_
  refine lv_iload_n (pc := 53) hx hb dX9_plan_53 rfl (lv_at hl 3 rfl) ?_
  obtain ⟨r21, hq22, hm⟩ := ob_some hm
  refine rk_PS (pc := 54) (As := [.int i1, .int i3]) (rest := []) hx hb hml hown hts hK lkX9_440 yn_X9_isStep (ct_X9_isStep (G := G) (l := l) hq22) ⟨Nat.le_of_ble_eq_true rfl, Nat.le_of_ble_eq_true rfl⟩ trivial rfl rfl hl.1 (Nat.le_of_ble_eq_true rfl) dX9_plan_54 ⟨Nat.zero_le _, Nat.zero_le _⟩ ?_
  refine W.eq (g2 := F0 m 57 ls [.int r21]) rfl ?_
  refine lv_if_ne (pc := 57) (tgt := 63) hx hb dX9_plan_57 (by decide) (fun c23 => ?_) (fun c23 => ?_)
  · have hm := ite_f c23 hm
    refine lv_aload_n (pc := 63) hx hb dX9_plan_63 rfl (lv_at hl 0 rfl) ?_
    refine rk_get (pc := 64) hx hb hts hown hK hW0 flX9_11 0 (by decide) rfl rfl (x := .ref (b0 + 1)) (by first | rfl | exact congrArg (fun z => some (Value.ref z)) (by omega)) dX9_plan_64 ?_
    refine lv_iconst (pc := 67) (v := (5 : Int32)) hx hb dX9_plan_67 (by decide) ?_
    obtain ⟨hg24, hm⟩ := gb_some hm
    refine rk_iald (pc := 68) hx hb hK hW0 1 (by decide) rfl rfl hg24 (x := (gI v0 1 (5 : Int32).toNatClampNeg)) rfl dX9_plan_68 ?_
    refine lv_bipush (pc := 69) (v := (8 : Int32)) hx hb dX9_plan_69 (by decide) ?_
    refine lv_icmp_ne (pc := 71) (tgt := 77) hx hb dX9_plan_71 (by decide) (fun c25 => ?_) (fun c25 => ?_)
    · have hm := ite_f c25 hm
      refine lv_bipush (pc := 77) (v := (86 : Int32)) hx hb dX9_plan_77 (by decide) ?_
      refine lv_iconst (pc := 79) (v := (3 : Int32)) hx hb dX9_plan_79 (by decide) ?_
      refine lv_aload_n (pc := 80) hx hb dX9_plan_80 rfl (lv_at hl 0 rfl) ?_
      refine rk_get (pc := 81) hx hb hts hown hK hW0 flX9_11 0 (by decide) rfl rfl (x := .ref (b0 + 1)) (by first | rfl | exact congrArg (fun z => some (Value.ref z)) (by omega)) dX9_plan_81 ?_
      refine lv_iconst (pc := 84) (v := (5 : Int32)) hx hb dX9_plan_84 (by decide) ?_
      obtain ⟨hg26, hm⟩ := gb_some hm
      refine rk_iald (pc := 85) hx hb hK hW0 1 (by decide) rfl rfl hg26 (x := (gI v0 1 (5 : Int32).toNatClampNeg)) rfl dX9_plan_85 ?_
      refine lv_imul (pc := 86) hx hb dX9_plan_86 ?_
      refine lv_iadd (pc := 87) hx hb dX9_plan_87 ?_
      refine lv_istore (pc := 88) (lv' := [(4, .int ((86 : Int32) + ((3 : Int32) * (gI v0 1 (5 : Int32).toNatClampNeg)))), (0, .ref b0), (1, .int i1), (2, .int i2), (3, .int i3)]) hx hb dX9_plan_88 hl (by decide) rfl (fun ls hl => ?_)
      refine lv_aload_n (pc := 90) hx hb dX9_plan_90 rfl (lv_at hl 1 rfl) ?_
      refine rk_get (pc := 91) hx hb hts hown hK hW0 flX9_11 0 (by decide) rfl rfl (x := .ref (b0 + 1)) (by first | rfl | exact congrArg (fun z => some (Value.ref z)) (by omega)) dX9_plan_91 ?_
      refine lv_iload (pc := 94) hx hb dX9_plan_94 (lv_at hl 0 rfl) ?_
      refine lv_iload_n (pc := 96) hx hb dX9_plan_96 rfl (lv_at hl 2 rfl) ?_
      obtain ⟨hg27, hm⟩ := gb_some hm
      refine rk_iast (pc := 97) hx hb hK hW0 hS 1 (by decide) rfl (Or.inl (show iv _ _ _ from ⟨by omega, by omega⟩)) (fun _ _ _ => rfl) hg27 dX9_plan_97 (fun H29 locs30 hW31 hS32 hz33 hkp34 => ?_)
      obtain ⟨v0_28, he9, hm⟩ := lm_some hm
      rw [he9] at hW31
      have hz35 := hz33.trans hz
      refine lv_aload_n (pc := 98) hx hb dX9_plan_98 rfl (lv_at hl 1 rfl) ?_
      refine rk_get (pc := 99) hx hb hts hown hK hW31 flX9_11 0 (by decide) rfl rfl (x := .ref (b0 + 1)) (by first | rfl | exact congrArg (fun z => some (Value.ref z)) (by omega)) dX9_plan_99 ?_
      refine lv_iload (pc := 102) hx hb dX9_plan_102 (lv_at hl 0 rfl) ?_
      refine lv_iconst (pc := 104) (v := (1 : Int32)) hx hb dX9_plan_104 (by decide) ?_
      refine lv_iadd (pc := 105) hx hb dX9_plan_105 ?_
      refine lv_iload_n (pc := 106) hx hb dX9_plan_106 rfl (lv_at hl 3 rfl) ?_
      obtain ⟨hg36, hm⟩ := gb_some hm
      refine rk_iast (pc := 107) hx hb hK hW31 hS32 1 (by decide) rfl (Or.inl (show iv _ _ _ from ⟨by omega, by omega⟩)) (fun _ _ _ => rfl) hg36 dX9_plan_107 (fun H38 locs39 hW40 hS41 hz42 hkp43 => ?_)
      obtain ⟨v0_37, he9, hm⟩ := lm_some hm
      rw [he9] at hW40
      have hz44 := hz42.trans hz35
      refine lv_aload_n (pc := 108) hx hb dX9_plan_108 rfl (lv_at hl 1 rfl) ?_
      refine rk_get (pc := 109) hx hb hts hown hK hW40 flX9_11 0 (by decide) rfl rfl (x := .ref (b0 + 1)) (by first | rfl | exact congrArg (fun z => some (Value.ref z)) (by omega)) dX9_plan_109 ?_
      refine lv_iload (pc := 112) hx hb dX9_plan_112 (lv_at hl 0 rfl) ?_
      refine lv_iconst (pc := 114) (v := (2 : Int32)) hx hb dX9_plan_114 (by decide) ?_
      refine lv_iadd (pc := 115) hx hb dX9_plan_115 ?_
      refine lv_iload_n (pc := 116) hx hb dX9_plan_116 rfl (lv_at hl 4 rfl) ?_
      obtain ⟨hg45, hm⟩ := gb_some hm
      refine rk_iast (pc := 117) hx hb hK hW40 hS41 1 (by decide) rfl (Or.inl (show iv _ _ _ from ⟨by omega, by omega⟩)) (fun _ _ _ => rfl) hg45 dX9_plan_117 (fun H47 locs48 hW49 hS50 hz51 hkp52 => ?_)
      obtain ⟨v0_46, he9, hm⟩ := lm_some hm
      rw [he9] at hW49
      have hz53 := hz51.trans hz44
      refine lv_aload_n (pc := 118) hx hb dX9_plan_118 rfl (lv_at hl 1 rfl) ?_
      refine rk_get (pc := 119) hx hb hts hown hK hW49 flX9_11 0 (by decide) rfl rfl (x := .ref (b0 + 1)) (by first | rfl | exact congrArg (fun z => some (Value.ref z)) (by omega)) dX9_plan_119 ?_
      refine lv_iconst (pc := 122) (v := (5 : Int32)) hx hb dX9_plan_122 (by decide) ?_
      refine lv_dup2_11 (pc := 123) hx hb dX9_plan_123 rfl rfl ?_
      obtain ⟨hg54, hm⟩ := gb_some hm
      refine rk_iald (pc := 124) hx hb hK hW49 1 (by decide) rfl rfl hg54 (x := (gI v0_46 1 (5 : Int32).toNatClampNeg)) rfl dX9_plan_124 ?_
      refine lv_iconst (pc := 125) (v := (1 : Int32)) hx hb dX9_plan_125 (by decide) ?_
      refine lv_iadd (pc := 126) hx hb dX9_plan_126 ?_
      obtain ⟨hg55, hm⟩ := gb_some hm
      refine rk_iast (pc := 127) hx hb hK hW49 hS50 1 (by decide) rfl (Or.inl (show iv _ _ _ from ⟨by omega, by omega⟩)) (fun _ _ _ => rfl) hg55 dX9_plan_127 (fun H57 locs58 hW59 hS60 hz61 hkp62 => ?_)
      obtain ⟨v0_56, he9, hm⟩ := lm_some hm
      rw [he9] at hW59
      have hz63 := hz61.trans hz53
      refine lv_aload_n (pc := 128) hx hb dX9_plan_128 rfl (lv_at hl 1 rfl) ?_
      refine rk_get (pc := 129) hx hb hts hown hK hW59 flX9_11 0 (by decide) rfl rfl (x := .ref (b0 + 1)) (by first | rfl | exact congrArg (fun z => some (Value.ref z)) (by omega)) dX9_plan_129 ?_
      refine lv_iconst (pc := 132) (v := (5 : Int32)) hx hb dX9_plan_132 (by decide) ?_
      obtain ⟨hg64, hm⟩ := gb_some hm
      refine rk_iald (pc := 133) hx hb hK hW59 1 (by decide) rfl rfl hg64 (x := (gI v0_56 1 (5 : Int32).toNatClampNeg)) rfl dX9_plan_133 ?_
      obtain ⟨e8, e9⟩ := rs2 hm
      subst e8
      subst e9
      exact rk_iret (pc := 134) hx hb hr hlk hS60 ⟨rfl, hW59, hz63⟩ dX9_plan_134
    · have hm := ite_t c25 hm
      refine lv_bipush (pc := 74) (v := (-4 : Int32)) hx hb dX9_plan_74 (by decide) ?_
      obtain ⟨e8, e9⟩ := rs2 hm
      subst e8
      subst e9
      exact rk_iret (pc := 76) hx hb hr hlk hS ⟨rfl, hW0, hz⟩ dX9_plan_76
  · have hm := ite_t c23 hm
    refine lv_bipush (pc := 60) (v := (-2 : Int32)) hx hb dX9_plan_60 (by decide) ?_
    obtain ⟨e8, e9⟩ := rs2 hm
    subst e8
    subst e9
    exact rk_iret (pc := 62) hx hb hr hlk hS ⟨rfl, hW0, hz⟩ dX9_plan_62
set_option maxHeartbeats 4000000 in
theorem w_fX9_plan (C : Cx G p s m args meth c RX9 cX9_plan 5 (some .int)) {b0 : Nat} {rx : Int32} {rw0 : Mem} : ∀ (v0 : Mem) (i1 : Int32) (i2 : Int32) (i3 : Int32), fX9_plan v0 i1 i2 i3 = some (rx, rw0) → ∀ (H : Heap) (locs : List Loc) (ls : Array Slot), rg G b0 46 (shX9 G.2.1) v0 H → va_S (FA (iv b0 46) s.heap.size) s.heap H locs → H.size = s.heap.size → lv_has ls 5 [(0, .ref b0), (1, .int i1), (2, .int i2), (3, .int i3)] → W p l e (rmT 2 0 0 46) s m args below meth c H locs 0 0 (MQ below (QcT (FA (iv b0 46) s.heap.size) (fun ov H => ov = (some (.int rx)) ∧ rg G b0 46 (shX9 G.2.1) rw0 H ∧ H.size = s.heap.size)) args s 0 0 (FA (iv b0 46) s.heap.size)) (F0 m 0 ls []) := by
  intro v0 i1 i2 i3 hm H locs ls hW0 hS hz hl
  obtain ⟨hx, hb, hr, hlk, hml, hown, hts, hK⟩ := id C
  unfold fX9_plan at hm
  refine lv_iload_n (pc := 0) hx hb dX9_plan_0 rfl (lv_at hl 1 rfl) ?_
  refine lv_iconst (pc := 1) (v := (-1 : Int32)) hx hb dX9_plan_1 (by decide) ?_
  refine lv_icmp_ne (pc := 2) (tgt := 14) hx hb dX9_plan_2 (by decide) (fun c1 => ?_) (fun c1 => ?_)
  · have hm := ite_f c1 hm
    refine lv_iload_n (pc := 14) hx hb dX9_plan_14 rfl (lv_at hl 1 rfl) ?_
    refine lv_i2l (pc := 15) hx hb dX9_plan_15 rfl ?_
    refine lv_lconst (pc := 16) (v := (0 : Int64)) hx hb dX9_plan_16 (by decide) ?_
    refine lv_ldc2 (pc := 17) (v := (2 : Int64)) hx hb hown (hts _ q2318) dX9_plan_17 ?_
    obtain ⟨r2, hq3, hm⟩ := ob_some hm
    refine rk_PS (pc := 20) (As := [.long i1.toInt64, .long (0 : Int64), .long (2 : Int64)]) (rest := []) hx hb hml hown hts hK lkX9_93 yn_X9_isIn (ct_X9_isIn (G := G) (l := l) hq3) ⟨Nat.le_of_ble_eq_true rfl, Nat.le_of_ble_eq_true rfl⟩ trivial rfl rfl hl.1 (Nat.le_of_ble_eq_true rfl) dX9_plan_20 ⟨Nat.zero_le _, Nat.zero_le _⟩ ?_
    refine W.eq (g2 := F0 m 23 ls [.int r2]) rfl ?_
    refine lv_if_eq (pc := 23) (tgt := 50) hx hb dX9_plan_23 (by decide) (fun c4 => ?_) (fun c4 => ?_)
    · have hm := ite_t c4 hm
      refine lv_iconst (pc := 50) (v := (-1 : Int32)) hx hb dX9_plan_50 (by decide) ?_
      obtain ⟨e8, e9⟩ := rs2 hm
      subst e8
      subst e9
      exact rk_iret (pc := 51) hx hb hr hlk hS ⟨rfl, hW0, hz⟩ dX9_plan_51
    · have hm := ite_f c4 hm
      refine lv_iload_n (pc := 26) hx hb dX9_plan_26 rfl (lv_at hl 1 rfl) ?_
      refine lv_iconst (pc := 27) (v := (1 : Int32)) hx hb dX9_plan_27 (by decide) ?_
      refine lv_icmp_ne (pc := 28) (tgt := 42) hx hb dX9_plan_28 (by decide) (fun c5 => ?_) (fun c5 => ?_)
      · have hm := ite_f c5 hm
        refine lv_aload_n (pc := 42) hx hb dX9_plan_42 rfl (lv_at hl 0 rfl) ?_
        refine lv_iload_n (pc := 43) hx hb dX9_plan_43 rfl (lv_at hl 2 rfl) ?_
        obtain ⟨r6, hq7, hm⟩ := ob_some hm
        refine rk_PV (pc := 44) (As := [.int i2]) (rest := []) hx hb hml hown hts hK lkX9_124 rfl yn_X9_isRule (ct_X9_isRule (G := G) (l := l) (b0 := b0) hq7) ⟨Nat.le_of_ble_eq_true rfl, Nat.le_of_ble_eq_true rfl⟩ (rk_recv hK hW0 0 (by decide) rfl rfl rfl) (rg_take hW0 (by decide)) rfl rfl hl.1 (Nat.le_of_ble_eq_true rfl) dX9_plan_44 ⟨Nat.zero_le _, Nat.zero_le _⟩ ?_
        refine W.eq (g2 := F0 m 47 ls [.int r6]) rfl ?_
        refine lv_if_ne (pc := 47) (tgt := 52) hx hb dX9_plan_47 (by decide) (fun c8 => ?_) (fun c8 => ?_)
        · have hm := ite_f c8 hm
          exact (w_fX9_plan_52 C) v0 i1 i2 i3 hm H locs ls hW0 hS hz (lv_sub hl [0, 1, 2, 3] rfl)
        · have hm := ite_t c8 hm
          refine lv_iconst (pc := 50) (v := (-1 : Int32)) hx hb dX9_plan_50 (by decide) ?_
          obtain ⟨e8, e9⟩ := rs2 hm
          subst e8
          subst e9
          exact rk_iret (pc := 51) hx hb hr hlk hS ⟨rfl, hW0, hz⟩ dX9_plan_51
      · have hm := ite_t c5 hm
        refine lv_aload_n (pc := 31) hx hb dX9_plan_31 rfl (lv_at hl 0 rfl) ?_
        refine lv_iload_n (pc := 32) hx hb dX9_plan_32 rfl (lv_at hl 2 rfl) ?_
        obtain ⟨r9, hq10, hm⟩ := ob_some hm
        refine rk_PV (pc := 33) (As := [.int i2]) (rest := []) hx hb hml hown hts hK lkX9_110 rfl yn_X9_isPack (ct_X9_isPack (G := G) (l := l) (b0 := b0) hq10) ⟨Nat.le_of_ble_eq_true rfl, Nat.le_of_ble_eq_true rfl⟩ (rk_recv hK hW0 0 (by decide) rfl rfl rfl) (rg_take hW0 (by decide)) rfl rfl hl.1 (Nat.le_of_ble_eq_true rfl) dX9_plan_33 ⟨Nat.zero_le _, Nat.zero_le _⟩ ?_
        refine W.eq (g2 := F0 m 36 ls [.int r9]) rfl ?_
        refine lv_if_ne (pc := 36) (tgt := 52) hx hb dX9_plan_36 (by decide) (fun c11 => ?_) (fun c11 => ?_)
        · have hm := ite_f c11 hm
          exact (w_fX9_plan_52 C) v0 i1 i2 i3 hm H locs ls hW0 hS hz (lv_sub hl [0, 1, 2, 3] rfl)
        · have hm := ite_t c11 hm
          refine lv_goto (pc := 39) (tgt := 50) hx hb dX9_plan_39 (by decide) ?_
          refine lv_iconst (pc := 50) (v := (-1 : Int32)) hx hb dX9_plan_50 (by decide) ?_
          obtain ⟨e8, e9⟩ := rs2 hm
          subst e8
          subst e9
          exact rk_iret (pc := 51) hx hb hr hlk hS ⟨rfl, hW0, hz⟩ dX9_plan_51
  · have hm := ite_t c1 hm
    refine lv_aload_n (pc := 5) hx hb dX9_plan_5 rfl (lv_at hl 0 rfl) ?_
    refine rk_get (pc := 6) hx hb hts hown hK hW0 flX9_11 0 (by decide) rfl rfl (x := .ref (b0 + 1)) (by first | rfl | exact congrArg (fun z => some (Value.ref z)) (by omega)) dX9_plan_6 ?_
    refine lv_iconst (pc := 9) (v := (5 : Int32)) hx hb dX9_plan_9 (by decide) ?_
    refine lv_iconst (pc := 10) (v := (0 : Int32)) hx hb dX9_plan_10 (by decide) ?_
    obtain ⟨hg12, hm⟩ := gb_some hm
    refine rk_iast (pc := 11) hx hb hK hW0 hS 1 (by decide) rfl (Or.inl (show iv _ _ _ from ⟨by omega, by omega⟩)) (fun _ _ _ => rfl) hg12 dX9_plan_11 (fun H14 locs15 hW16 hS17 hz18 hkp19 => ?_)
    obtain ⟨v0_13, he9, hm⟩ := lm_some hm
    rw [he9] at hW16
    have hz20 := hz18.trans hz
    refine lv_iconst (pc := 12) (v := (0 : Int32)) hx hb dX9_plan_12 (by decide) ?_
    obtain ⟨e8, e9⟩ := rs2 hm
    subst e8
    subst e9
    exact rk_iret (pc := 13) hx hb hr hlk hS17 ⟨rfl, hW16, hz20⟩ dX9_plan_13
set_option maxHeartbeats 4000000 in
theorem ct_X9_plan {G : Gv} {l : Launch} {b0 : Nat} {v0 : Mem} {i1 : Int32} {i2 : Int32} {i3 : Int32} {rx : Int32} {rw0 : Mem} {sz : Nat} (hm : fX9_plan v0 i1 i2 i3 = some (rx, rw0)) : CT G l yX9_plan (ws_ yX9_plan cX9_plan 5 (some .int)) 2 0 0 46 [.ref b0, .int i1, .int i2, .int i3] (iv b0 46) sz (fun H => rg G b0 46 (shX9 G.2.1) v0 H) (fun ov H => ov = (some (.int rx)) ∧ rg G b0 46 (shX9 G.2.1) rw0 H ∧ H.size = sz) := by
  refine Met.ofW (cc := cX9_plan) (maxL := 5) (ret := (some .int)) (by decide +kernel) rfl ?_
  intro p e s m args below meth c s₁ B hml hv
  obtain ⟨rfl, ⟨hz, hW0⟩, hK⟩ := hv
  subst hz
  have hts := atoms_spec (ws := ws_ yX9_plan cX9_plan 5 (some .int)) B.pre
  have hts : ∀ w ∈ lw_all, w.before _ s = true := fun w h => hts w (List.mem_cons_of_mem _ h)
  have C : Cx G p s m _ meth c RX9 cX9_plan 5 (some .int) := ⟨B.exec, B.bytes, B.returns, B.notSynchronized, hml, findClass_of_methodNamed B.named, hts, hK⟩
  have hl := lv_entry ([.ref b0, .int i1, .int i2, .int i3]) (n := 5) (Nat.le_of_ble_eq_true rfl)
  rw [lg_entry_eq]
  generalize (lg_sl ([.ref b0, .int i1, .int i2, .int i3]) ++ List.replicate (5 - (lg_sl ([.ref b0, .int i1, .int i2, .int i3])).length) Slot.unset).toArray = ls at hl ⊢
  have hl : lv_has ls 5 [(0, .ref b0), (1, .int i1), (2, .int i2), (3, .int i3)] := hl
  exact w_fX9_plan C _ _ _ _ hm s.heap [] ls hW0 va_S.rf rfl hl
noncomputable def fX9_goes_23 (v0 : Mem) (i1 : Int32) (i2 : Int32) (i3 : Int32) : Option (Mem) :=
  if i1 = (1 : Int32) then (
  some v0)
  else (
  ob (fX9_isRule v0 i2) fun r15 =>
  if r15 = 0 then (
  some v0)
  else (
  if i1 = 0 then (
  gb (inR (((12 : Int32) + ((7 : Int32) * i2)) + (1 : Int32)) 150) (
  lm (sI v0 1 (((12 : Int32) + ((7 : Int32) * i2)) + (1 : Int32)).toNatClampNeg i3) fun v0_29 =>
  some v0_29))
  else (
  gb (inR (((12 : Int32) + ((7 : Int32) * i2)) + (2 : Int32)) 150) (
  lm (sI v0 1 (((12 : Int32) + ((7 : Int32) * i2)) + (2 : Int32)).toNatClampNeg i3) fun v0_20 =>
  some v0_20))))
noncomputable def fX9_goes (v0 : Mem) (i1 : Int32) (i2 : Int32) (i3 : Int32) : Option (Mem) :=
  if i1 = (1 : Int32) then (
  ob (fX9_isPack v0 i2) fun r2 =>
  if r2 = 0 then (
  fX9_goes_23 v0 i1 i2 i3)
  else (
  gb (inR ((7 : Int32) + i2) 150) (
  lm (sI v0 1 ((7 : Int32) + i2).toNatClampNeg i3) fun v0_6 =>
  fX9_goes_23 v0_6 i1 i2 i3)))
  else (
  fX9_goes_23 v0 i1 i2 i3)
set_option maxHeartbeats 4000000 in
theorem w_fX9_goes_23 (C : Cx G p s m args meth c RX9 cX9_goes 4 none) {b0 : Nat} {rw0 : Mem} : ∀ (v0 : Mem) (i1 : Int32) (i2 : Int32) (i3 : Int32), fX9_goes_23 v0 i1 i2 i3 = some rw0 → ∀ (H : Heap) (locs : List Loc) (ls : Array Slot), rg G b0 46 (shX9 G.2.1) v0 H → va_S (FA (iv b0 46) s.heap.size) s.heap H locs → H.size = s.heap.size → lv_has ls 4 [(0, .ref b0), (1, .int i1), (2, .int i2), (3, .int i3)] → W p l e (rmT 2 0 0 46) s m args below meth c H locs 0 0 (MQ below (QcT (FA (iv b0 46) s.heap.size) (fun ov H => ov = none ∧ rg G b0 46 (shX9 G.2.1) rw0 H ∧ H.size = s.heap.size)) args s 0 0 (FA (iv b0 46) s.heap.size)) (F0 m 23 ls []) := by
  intro v0 i1 i2 i3 hm H locs ls hW0 hS hz hl
  obtain ⟨hx, hb, hr, hlk, hml, hown, hts, hK⟩ := id C
  unfold fX9_goes_23 at hm
  refine lv_iload_n (pc := 23) hx hb dX9_goes_23 rfl (lv_at hl 1 rfl) ?_
  refine lv_iconst (pc := 24) (v := (1 : Int32)) hx hb dX9_goes_24 (by decide) ?_
  refine lv_icmp_eq (pc := 25) (tgt := 59) hx hb dX9_goes_25 (by decide) (fun c14 => ?_) (fun c14 => ?_)
  · have hm := ite_t c14 hm
    have e9 := rs1 hm
    subst e9
    exact rk_vret (pc := 59) hx hb hr hlk hS ⟨rfl, hW0, hz⟩ dX9_goes_59
  · have hm := ite_f c14 hm
    refine lv_aload_n (pc := 28) hx hb dX9_goes_28 rfl (lv_at hl 0 rfl) ?_
    refine lv_iload_n (pc := 29) hx hb dX9_goes_29 rfl (lv_at hl 2 rfl) ?_
    obtain ⟨r15, hq16, hm⟩ := ob_some hm
    refine rk_PV (pc := 30) (As := [.int i2]) (rest := []) hx hb hml hown hts hK lkX9_124 rfl yn_X9_isRule (ct_X9_isRule (G := G) (l := l) (b0 := b0) hq16) ⟨Nat.le_of_ble_eq_true rfl, Nat.le_of_ble_eq_true rfl⟩ (rk_recv hK hW0 0 (by decide) rfl rfl rfl) (rg_take hW0 (by decide)) rfl rfl hl.1 (Nat.le_of_ble_eq_true rfl) dX9_goes_30 ⟨Nat.zero_le _, Nat.zero_le _⟩ ?_
    refine W.eq (g2 := F0 m 33 ls [.int r15]) rfl ?_
    refine lv_if_eq (pc := 33) (tgt := 59) hx hb dX9_goes_33 (by decide) (fun c17 => ?_) (fun c17 => ?_)
    · have hm := ite_t c17 hm
      have e9 := rs1 hm
      subst e9
      exact rk_vret (pc := 59) hx hb hr hlk hS ⟨rfl, hW0, hz⟩ dX9_goes_59
    · have hm := ite_f c17 hm
      refine lv_aload_n (pc := 36) hx hb dX9_goes_36 rfl (lv_at hl 0 rfl) ?_
      refine rk_get (pc := 37) hx hb hts hown hK hW0 flX9_11 0 (by decide) rfl rfl (x := .ref (b0 + 1)) (by first | rfl | exact congrArg (fun z => some (Value.ref z)) (by omega)) dX9_goes_37 ?_
      refine lv_bipush (pc := 40) (v := (12 : Int32)) hx hb dX9_goes_40 (by decide) ?_
      refine lv_bipush (pc := 42) (v := (7 : Int32)) hx hb dX9_goes_42 (by decide) ?_
      refine lv_iload_n (pc := 44) hx hb dX9_goes_44 rfl (lv_at hl 2 rfl) ?_
      refine lv_imul (pc := 45) hx hb dX9_goes_45 ?_
      refine lv_iadd (pc := 46) hx hb dX9_goes_46 ?_
      refine lv_iload_n (pc := 47) hx hb dX9_goes_47 rfl (lv_at hl 1 rfl) ?_
      refine lv_if_ne (pc := 48) (tgt := 55) hx hb dX9_goes_48 (by decide) (fun c18 => ?_) (fun c18 => ?_)
      · have hm := ite_f c18 hm
        refine lv_iconst (pc := 55) (v := (2 : Int32)) hx hb dX9_goes_55 (by decide) ?_
        refine lv_iadd (pc := 56) hx hb dX9_goes_56 ?_
        refine lv_iload_n (pc := 57) hx hb dX9_goes_57 rfl (lv_at hl 3 rfl) ?_
        obtain ⟨hg19, hm⟩ := gb_some hm
        refine rk_iast (pc := 58) hx hb hK hW0 hS 1 (by decide) rfl (Or.inl (show iv _ _ _ from ⟨by omega, by omega⟩)) (fun _ _ _ => rfl) hg19 dX9_goes_58 (fun H21 locs22 hW23 hS24 hz25 hkp26 => ?_)
        obtain ⟨v0_20, he9, hm⟩ := lm_some hm
        rw [he9] at hW23
        have hz27 := hz25.trans hz
        have e9 := rs1 hm
        subst e9
        exact rk_vret (pc := 59) hx hb hr hlk hS24 ⟨rfl, hW23, hz27⟩ dX9_goes_59
      · have hm := ite_t c18 hm
        refine lv_iconst (pc := 51) (v := (1 : Int32)) hx hb dX9_goes_51 (by decide) ?_
        refine lv_goto (pc := 52) (tgt := 56) hx hb dX9_goes_52 (by decide) ?_
        refine lv_iadd (pc := 56) hx hb dX9_goes_56 ?_
        refine lv_iload_n (pc := 57) hx hb dX9_goes_57 rfl (lv_at hl 3 rfl) ?_
        obtain ⟨hg28, hm⟩ := gb_some hm
        refine rk_iast (pc := 58) hx hb hK hW0 hS 1 (by decide) rfl (Or.inl (show iv _ _ _ from ⟨by omega, by omega⟩)) (fun _ _ _ => rfl) hg28 dX9_goes_58 (fun H30 locs31 hW32 hS33 hz34 hkp35 => ?_)
        obtain ⟨v0_29, he9, hm⟩ := lm_some hm
        rw [he9] at hW32
        have hz36 := hz34.trans hz
        have e9 := rs1 hm
        subst e9
        exact rk_vret (pc := 59) hx hb hr hlk hS33 ⟨rfl, hW32, hz36⟩ dX9_goes_59
set_option maxHeartbeats 4000000 in
theorem w_fX9_goes (C : Cx G p s m args meth c RX9 cX9_goes 4 none) {b0 : Nat} {rw0 : Mem} : ∀ (v0 : Mem) (i1 : Int32) (i2 : Int32) (i3 : Int32), fX9_goes v0 i1 i2 i3 = some rw0 → ∀ (H : Heap) (locs : List Loc) (ls : Array Slot), rg G b0 46 (shX9 G.2.1) v0 H → va_S (FA (iv b0 46) s.heap.size) s.heap H locs → H.size = s.heap.size → lv_has ls 4 [(0, .ref b0), (1, .int i1), (2, .int i2), (3, .int i3)] → W p l e (rmT 2 0 0 46) s m args below meth c H locs 0 0 (MQ below (QcT (FA (iv b0 46) s.heap.size) (fun ov H => ov = none ∧ rg G b0 46 (shX9 G.2.1) rw0 H ∧ H.size = s.heap.size)) args s 0 0 (FA (iv b0 46) s.heap.size)) (F0 m 0 ls []) := by
  intro v0 i1 i2 i3 hm H locs ls hW0 hS hz hl
  obtain ⟨hx, hb, hr, hlk, hml, hown, hts, hK⟩ := id C
  unfold fX9_goes at hm
  refine lv_iload_n (pc := 0) hx hb dX9_goes_0 rfl (lv_at hl 1 rfl) ?_
  refine lv_iconst (pc := 1) (v := (1 : Int32)) hx hb dX9_goes_1 (by decide) ?_
  refine lv_icmp_ne (pc := 2) (tgt := 23) hx hb dX9_goes_2 (by decide) (fun c1 => ?_) (fun c1 => ?_)
  · have hm := ite_f c1 hm
    exact (w_fX9_goes_23 C) v0 i1 i2 i3 hm H locs ls hW0 hS hz (lv_sub hl [0, 1, 2, 3] rfl)
  · have hm := ite_t c1 hm
    refine lv_aload_n (pc := 5) hx hb dX9_goes_5 rfl (lv_at hl 0 rfl) ?_
    refine lv_iload_n (pc := 6) hx hb dX9_goes_6 rfl (lv_at hl 2 rfl) ?_
    obtain ⟨r2, hq3, hm⟩ := ob_some hm
    refine rk_PV (pc := 7) (As := [.int i2]) (rest := []) hx hb hml hown hts hK lkX9_110 rfl yn_X9_isPack (ct_X9_isPack (G := G) (l := l) (b0 := b0) hq3) ⟨Nat.le_of_ble_eq_true rfl, Nat.le_of_ble_eq_true rfl⟩ (rk_recv hK hW0 0 (by decide) rfl rfl rfl) (rg_take hW0 (by decide)) rfl rfl hl.1 (Nat.le_of_ble_eq_true rfl) dX9_goes_7 ⟨Nat.zero_le _, Nat.zero_le _⟩ ?_
    refine W.eq (g2 := F0 m 10 ls [.int r2]) rfl ?_
    refine lv_if_eq (pc := 10) (tgt := 23) hx hb dX9_goes_10 (by decide) (fun c4 => ?_) (fun c4 => ?_)
    · have hm := ite_t c4 hm
      exact (w_fX9_goes_23 C) v0 i1 i2 i3 hm H locs ls hW0 hS hz (lv_sub hl [0, 1, 2, 3] rfl)
    · have hm := ite_f c4 hm
      refine lv_aload_n (pc := 13) hx hb dX9_goes_13 rfl (lv_at hl 0 rfl) ?_
      refine rk_get (pc := 14) hx hb hts hown hK hW0 flX9_11 0 (by decide) rfl rfl (x := .ref (b0 + 1)) (by first | rfl | exact congrArg (fun z => some (Value.ref z)) (by omega)) dX9_goes_14 ?_
      refine lv_bipush (pc := 17) (v := (7 : Int32)) hx hb dX9_goes_17 (by decide) ?_
      refine lv_iload_n (pc := 19) hx hb dX9_goes_19 rfl (lv_at hl 2 rfl) ?_
      refine lv_iadd (pc := 20) hx hb dX9_goes_20 ?_
      refine lv_iload_n (pc := 21) hx hb dX9_goes_21 rfl (lv_at hl 3 rfl) ?_
      obtain ⟨hg5, hm⟩ := gb_some hm
      refine rk_iast (pc := 22) hx hb hK hW0 hS 1 (by decide) rfl (Or.inl (show iv _ _ _ from ⟨by omega, by omega⟩)) (fun _ _ _ => rfl) hg5 dX9_goes_22 (fun H7 locs8 hW9 hS10 hz11 hkp12 => ?_)
      obtain ⟨v0_6, he9, hm⟩ := lm_some hm
      rw [he9] at hW9
      have hz13 := hz11.trans hz
      exact (w_fX9_goes_23 C) v0_6 i1 i2 i3 hm H7 locs8 ls hW9 hS10 hz13 (lv_sub hl [0, 1, 2, 3] rfl)
set_option maxHeartbeats 4000000 in
theorem ct_X9_goes {G : Gv} {l : Launch} {b0 : Nat} {v0 : Mem} {i1 : Int32} {i2 : Int32} {i3 : Int32} {rw0 : Mem} {sz : Nat} (hm : fX9_goes v0 i1 i2 i3 = some rw0) : CT G l yX9_goes (ws_ yX9_goes cX9_goes 4 none) 2 0 0 46 [.ref b0, .int i1, .int i2, .int i3] (iv b0 46) sz (fun H => rg G b0 46 (shX9 G.2.1) v0 H) (fun ov H => ov = none ∧ rg G b0 46 (shX9 G.2.1) rw0 H ∧ H.size = sz) := by
  refine Met.ofW (cc := cX9_goes) (maxL := 4) (ret := none) (by decide +kernel) rfl ?_
  intro p e s m args below meth c s₁ B hml hv
  obtain ⟨rfl, ⟨hz, hW0⟩, hK⟩ := hv
  subst hz
  have hts := atoms_spec (ws := ws_ yX9_goes cX9_goes 4 none) B.pre
  have hts : ∀ w ∈ lw_all, w.before _ s = true := fun w h => hts w (List.mem_cons_of_mem _ h)
  have C : Cx G p s m _ meth c RX9 cX9_goes 4 none := ⟨B.exec, B.bytes, B.returns, B.notSynchronized, hml, findClass_of_methodNamed B.named, hts, hK⟩
  have hl := lv_entry ([.ref b0, .int i1, .int i2, .int i3]) (n := 4) (Nat.le_of_ble_eq_true rfl)
  rw [lg_entry_eq]
  generalize (lg_sl ([.ref b0, .int i1, .int i2, .int i3]) ++ List.replicate (4 - (lg_sl ([.ref b0, .int i1, .int i2, .int i3])).length) Slot.unset).toArray = ls at hl ⊢
  have hl : lv_has ls 4 [(0, .ref b0), (1, .int i1), (2, .int i2), (3, .int i3)] := hl
  exact w_fX9_goes C _ _ _ _ hm s.heap [] ls hW0 va_S.rf rfl hl
theorem yn_X9_goes : YN yX9_goes 3 := by
  unfold YN
  decide +kernel
theorem lkX9_443 : LV RX9 443 RX9 yX9_goes cX9_goes 4 none := ⟨q2350, q2352, qs112, q128, q2353⟩
noncomputable def fX9_ends_6 (k6 : Mem → Int32 → Option (Int32 × Mem)) (v0 : Mem) (i1 : Int32) : Option (Int32 × Mem) :=
  gb (inR (5 : Int32) 150) (
  if (gI v0 3 (5 : Int32).toNatClampNeg) ≤ i1 then (
  ob2 (fX9_worth v0) fun r13 w14 =>
  ob (fX9_takesBack w14) fun w24 =>
  some (r13, w24))
  else (
  gb (inR ((86 : Int32) + ((3 : Int32) * i1)) 150) (
  gb (inR (((86 : Int32) + ((3 : Int32) * i1)) + (1 : Int32)) 150) (
  gb (inR (((86 : Int32) + ((3 : Int32) * i1)) + (2 : Int32)) 150) (
  ob (fX9_goes v0 (gI v0 3 ((86 : Int32) + ((3 : Int32) * i1)).toNatClampNeg) (gI v0 3 (((86 : Int32) + ((3 : Int32) * i1)) + (1 : Int32)).toNatClampNeg) (gI v0 3 (((86 : Int32) + ((3 : Int32) * i1)) + (2 : Int32)).toNatClampNeg)) fun w37 =>
  k6 w37 (i1 + (1 : Int32)))))))
noncomputable def fX9_ends (v0 : Mem) : Option (Int32 × Mem) :=
  ob (fX9_lends v0) fun w1 =>
  lq2 (fX9_ends_6) FU w1 (0 : Int32)
set_option maxHeartbeats 4000000 in
theorem w_fX9_ends_6 (C : Cx G p s m args meth c RX9 cX9_ends 2 (some .int)) {b0 : Nat} {rx : Int32} {rw0 : Mem} {k6 : Mem → Int32 → Option (Int32 × Mem)} (hk6 : ∀ (v0 : Mem) (i1 : Int32), k6 v0 i1 = some (rx, rw0) → ∀ (H : Heap) (locs : List Loc) (ls : Array Slot), rg G b0 46 (shX9 G.2.1) v0 H → va_S (FA (iv b0 46) s.heap.size) s.heap H locs → H.size = s.heap.size → lv_has ls 2 [(0, .ref b0), (1, .int i1)] → W p l e (rmT 7 0 0 168) s m args below meth c H locs 0 0 (MQ below (QcT (FA (iv b0 46) s.heap.size) (fun ov H => ov = (some (.int rx)) ∧ rg G b0 46 (shX9 G.2.1) rw0 H ∧ H.size = s.heap.size)) args s 0 0 (FA (iv b0 46) s.heap.size)) (F0 m 6 ls [])) : ∀ (v0 : Mem) (i1 : Int32), fX9_ends_6 k6 v0 i1 = some (rx, rw0) → ∀ (H : Heap) (locs : List Loc) (ls : Array Slot), rg G b0 46 (shX9 G.2.1) v0 H → va_S (FA (iv b0 46) s.heap.size) s.heap H locs → H.size = s.heap.size → lv_has ls 2 [(0, .ref b0), (1, .int i1)] → W p l e (rmT 7 0 0 168) s m args below meth c H locs 0 0 (MQ below (QcT (FA (iv b0 46) s.heap.size) (fun ov H => ov = (some (.int rx)) ∧ rg G b0 46 (shX9 G.2.1) rw0 H ∧ H.size = s.heap.size)) args s 0 0 (FA (iv b0 46) s.heap.size)) (F0 m 6 ls []) := by
  intro v0 i1 hm H locs ls hW0 hS hz hl
  obtain ⟨hx, hb, hr, hlk, hml, hown, hts, hK⟩ := id C
  unfold fX9_ends_6 at hm
  refine lv_iload_n (pc := 6) hx hb dX9_ends_6 rfl (lv_at hl 1 rfl) ?_
  refine lv_aload_n (pc := 7) hx hb dX9_ends_7 rfl (lv_at hl 0 rfl) ?_
  refine rk_get (pc := 8) hx hb hts hown hK hW0 flX9_18 0 (by decide) rfl rfl (x := .ref (b0 + 3)) (by first | rfl | exact congrArg (fun z => some (Value.ref z)) (by omega)) dX9_ends_8 ?_
  refine lv_iconst (pc := 11) (v := (5 : Int32)) hx hb dX9_ends_11 (by decide) ?_
  obtain ⟨hg11, hm⟩ := gb_some hm
  refine rk_iald (pc := 12) hx hb hK hW0 3 (by decide) rfl rfl hg11 (x := (gI v0 3 (5 : Int32).toNatClampNeg)) rfl dX9_ends_12 ?_
  refine lv_icmp_ge (pc := 13) (tgt := 63) hx hb dX9_ends_13 (by decide) (fun c12 => ?_) (fun c12 => ?_)
  · have hm := ite_t c12 hm
    refine lv_aload_n (pc := 63) hx hb dX9_ends_63 rfl (lv_at hl 0 rfl) ?_
    obtain ⟨r13, w14, hq15, hm⟩ := ob2_some hm
    refine rk_TV (pc := 64) (As := []) (rest := []) (mc := 0) (ms := 0) hx hb hml hown hts hK hS (fun q hq => FA_sz rfl q hq) lkX9_400 rfl yn_X9_worth (ct_X9_worth (G := G) (l := l) (b0 := b0) (sz := H.size) hq15) ⟨Nat.le_of_ble_eq_true rfl, Nat.le_of_ble_eq_true rfl⟩ (fun z h => Or.inl (show iv _ _ _ from ⟨by have h8 := h.1; have h9 := h.2; omega, by have h8 := h.1; have h9 := h.2; omega⟩)) (rk_recv hK hW0 0 (by decide) rfl rfl rfl) hW0 rfl rfl hl.1 (Nat.le_of_ble_eq_true rfl) dX9_ends_64 ⟨Nat.zero_le _, Nat.zero_le _⟩ (fun ov9 H16 locs17 hP18 hkp19 hS20 => ?_)
    obtain ⟨rfl, hW21, hz22⟩ := hP18
    have hz23 := hz22.trans hz
    refine W.eq (g2 := F0 m 67 ls [.int r13]) rfl ?_
    refine lv_istore_n (pc := 67) (lv' := [(1, .int r13), (0, .ref b0)]) hx hb dX9_ends_67 rfl hl (by decide) rfl (fun ls hl => ?_)
    refine lv_aload_n (pc := 68) hx hb dX9_ends_68 rfl (lv_at hl 1 rfl) ?_
    obtain ⟨w24, hq25, hm⟩ := ob_some hm
    refine rk_TV (pc := 69) (As := []) (rest := []) (mc := 0) (ms := 0) hx hb hml hown hts hK hS20 (fun q hq => FA_sz rfl q hq) lkX9_423 rfl yn_X9_takesBack (ct_X9_takesBack (G := G) (l := l) (b0 := b0) (sz := H16.size) hq25) ⟨Nat.le_of_ble_eq_true rfl, Nat.le_of_ble_eq_true rfl⟩ (fun z h => Or.inl (show iv _ _ _ from ⟨by have h8 := h.1; have h9 := h.2; omega, by have h8 := h.1; have h9 := h.2; omega⟩)) (rk_recv hK hW21 0 (by decide) rfl rfl rfl) hW21 rfl rfl hl.1 (Nat.le_of_ble_eq_true rfl) dX9_ends_69 ⟨Nat.zero_le _, Nat.zero_le _⟩ (fun ov9 H26 locs27 hP28 hkp29 hS30 => ?_)
    obtain ⟨rfl, hW31, hz32⟩ := hP28
    have hz33 := hz32.trans hz23
    refine W.eq (g2 := F0 m 72 ls []) rfl ?_
    refine lv_iload_n (pc := 72) hx hb dX9_ends_72 rfl (lv_at hl 0 rfl) ?_
    obtain ⟨e8, e9⟩ := rs2 hm
    subst e8
    subst e9
    exact rk_iret (pc := 73) hx hb hr hlk hS30 ⟨rfl, hW31, hz33⟩ dX9_ends_73
  · have hm := ite_f c12 hm
    refine lv_aload_n (pc := 16) hx hb dX9_ends_16 rfl (lv_at hl 0 rfl) ?_
    refine lv_aload_n (pc := 17) hx hb dX9_ends_17 rfl (lv_at hl 0 rfl) ?_
    refine rk_get (pc := 18) hx hb hts hown hK hW0 flX9_18 0 (by decide) rfl rfl (x := .ref (b0 + 3)) (by first | rfl | exact congrArg (fun z => some (Value.ref z)) (by omega)) dX9_ends_18 ?_
    refine lv_bipush (pc := 21) (v := (86 : Int32)) hx hb dX9_ends_21 (by decide) ?_
    refine lv_iconst (pc := 23) (v := (3 : Int32)) hx hb dX9_ends_23 (by decide) ?_
    refine lv_iload_n (pc := 24) hx hb dX9_ends_24 rfl (lv_at hl 1 rfl) ?_
    refine lv_imul (pc := 25) hx hb dX9_ends_25 ?_
    refine lv_iadd (pc := 26) hx hb dX9_ends_26 ?_
    obtain ⟨hg34, hm⟩ := gb_some hm
    refine rk_iald (pc := 27) hx hb hK hW0 3 (by decide) rfl rfl hg34 (x := (gI v0 3 ((86 : Int32) + ((3 : Int32) * i1)).toNatClampNeg)) rfl dX9_ends_27 ?_
    refine lv_aload_n (pc := 28) hx hb dX9_ends_28 rfl (lv_at hl 0 rfl) ?_
    refine rk_get (pc := 29) hx hb hts hown hK hW0 flX9_18 0 (by decide) rfl rfl (x := .ref (b0 + 3)) (by first | rfl | exact congrArg (fun z => some (Value.ref z)) (by omega)) dX9_ends_29 ?_
    refine lv_bipush (pc := 32) (v := (86 : Int32)) hx hb dX9_ends_32 (by decide) ?_
    refine lv_iconst (pc := 34) (v := (3 : Int32)) hx hb dX9_ends_34 (by decide) ?_
    refine lv_iload_n (pc := 35) hx hb dX9_ends_35 rfl (lv_at hl 1 rfl) ?_
    refine lv_imul (pc := 36) hx hb dX9_ends_36 ?_
    refine lv_iadd (pc := 37) hx hb dX9_ends_37 ?_
    refine lv_iconst (pc := 38) (v := (1 : Int32)) hx hb dX9_ends_38 (by decide) ?_
    refine lv_iadd (pc := 39) hx hb dX9_ends_39 ?_
    obtain ⟨hg35, hm⟩ := gb_some hm
    refine rk_iald (pc := 40) hx hb hK hW0 3 (by decide) rfl rfl hg35 (x := (gI v0 3 (((86 : Int32) + ((3 : Int32) * i1)) + (1 : Int32)).toNatClampNeg)) rfl dX9_ends_40 ?_
    refine lv_aload_n (pc := 41) hx hb dX9_ends_41 rfl (lv_at hl 0 rfl) ?_
    refine rk_get (pc := 42) hx hb hts hown hK hW0 flX9_18 0 (by decide) rfl rfl (x := .ref (b0 + 3)) (by first | rfl | exact congrArg (fun z => some (Value.ref z)) (by omega)) dX9_ends_42 ?_
    refine lv_bipush (pc := 45) (v := (86 : Int32)) hx hb dX9_ends_45 (by decide) ?_
    refine lv_iconst (pc := 47) (v := (3 : Int32)) hx hb dX9_ends_47 (by decide) ?_
    refine lv_iload_n (pc := 48) hx hb dX9_ends_48 rfl (lv_at hl 1 rfl) ?_
    refine lv_imul (pc := 49) hx hb dX9_ends_49 ?_
    refine lv_iadd (pc := 50) hx hb dX9_ends_50 ?_
    refine lv_iconst (pc := 51) (v := (2 : Int32)) hx hb dX9_ends_51 (by decide) ?_
    refine lv_iadd (pc := 52) hx hb dX9_ends_52 ?_
    obtain ⟨hg36, hm⟩ := gb_some hm
    refine rk_iald (pc := 53) hx hb hK hW0 3 (by decide) rfl rfl hg36 (x := (gI v0 3 (((86 : Int32) + ((3 : Int32) * i1)) + (2 : Int32)).toNatClampNeg)) rfl dX9_ends_53 ?_
    obtain ⟨w37, hq38, hm⟩ := ob_some hm
    refine rk_TV (pc := 54) (As := [.int (gI v0 3 ((86 : Int32) + ((3 : Int32) * i1)).toNatClampNeg), .int (gI v0 3 (((86 : Int32) + ((3 : Int32) * i1)) + (1 : Int32)).toNatClampNeg), .int (gI v0 3 (((86 : Int32) + ((3 : Int32) * i1)) + (2 : Int32)).toNatClampNeg)]) (rest := []) (mc := 0) (ms := 0) hx hb hml hown hts hK hS (fun q hq => FA_sz rfl q hq) lkX9_443 rfl yn_X9_goes (ct_X9_goes (G := G) (l := l) (b0 := b0) (sz := H.size) hq38) ⟨Nat.le_of_ble_eq_true rfl, Nat.le_of_ble_eq_true rfl⟩ (fun z h => Or.inl (show iv _ _ _ from ⟨by have h8 := h.1; have h9 := h.2; omega, by have h8 := h.1; have h9 := h.2; omega⟩)) (rk_recv hK hW0 0 (by decide) rfl rfl rfl) hW0 rfl rfl hl.1 (Nat.le_of_ble_eq_true rfl) dX9_ends_54 ⟨Nat.zero_le _, Nat.zero_le _⟩ (fun ov9 H39 locs40 hP41 hkp42 hS43 => ?_)
    obtain ⟨rfl, hW44, hz45⟩ := hP41
    have hz46 := hz45.trans hz
    refine W.eq (g2 := F0 m 57 ls []) rfl ?_
    refine lv_iinc (pc := 57) (v := (i1 + (1 : Int32))) (lv' := [(1, .int (i1 + (1 : Int32))), (0, .ref b0)]) hx hb dX9_ends_57 hl (k := 1) rfl rfl (by decide) rfl (fun ls hl => ?_)
    refine lv_goto (pc := 60) (tgt := 6) hx hb dX9_ends_60 (by decide) ?_
    exact hk6 w37 (i1 + (1 : Int32)) hm H39 locs40 ls hW44 hS43 hz46 (lv_sub hl [1, 0] rfl)
theorem w_fX9_ends_6_l (C : Cx G p s m args meth c RX9 cX9_ends 2 (some .int)) {b0 : Nat} {rx : Int32} {rw0 : Mem} : ∀ (n : Nat) (v0 : Mem) (i1 : Int32), lq2 (fX9_ends_6) n v0 i1 = some (rx, rw0) → ∀ (H : Heap) (locs : List Loc) (ls : Array Slot), rg G b0 46 (shX9 G.2.1) v0 H → va_S (FA (iv b0 46) s.heap.size) s.heap H locs → H.size = s.heap.size → lv_has ls 2 [(0, .ref b0), (1, .int i1)] → W p l e (rmT 7 0 0 168) s m args below meth c H locs 0 0 (MQ below (QcT (FA (iv b0 46) s.heap.size) (fun ov H => ov = (some (.int rx)) ∧ rg G b0 46 (shX9 G.2.1) rw0 H ∧ H.size = s.heap.size)) args s 0 0 (FA (iv b0 46) s.heap.size)) (F0 m 6 ls []) := by
  intro n
  induction n with
  | zero => intro v0 i1 hm; exact (lq2_0 hm).elim
  | succ n ih => intro v0 i1 hm; exact w_fX9_ends_6 C ih v0 i1 (lq2_s hm)
set_option maxHeartbeats 4000000 in
theorem w_fX9_ends (C : Cx G p s m args meth c RX9 cX9_ends 2 (some .int)) {b0 : Nat} {rx : Int32} {rw0 : Mem} : ∀ (v0 : Mem), fX9_ends v0 = some (rx, rw0) → ∀ (H : Heap) (locs : List Loc) (ls : Array Slot), rg G b0 46 (shX9 G.2.1) v0 H → va_S (FA (iv b0 46) s.heap.size) s.heap H locs → H.size = s.heap.size → lv_has ls 2 [(0, .ref b0)] → W p l e (rmT 7 0 0 168) s m args below meth c H locs 0 0 (MQ below (QcT (FA (iv b0 46) s.heap.size) (fun ov H => ov = (some (.int rx)) ∧ rg G b0 46 (shX9 G.2.1) rw0 H ∧ H.size = s.heap.size)) args s 0 0 (FA (iv b0 46) s.heap.size)) (F0 m 0 ls []) := by
  intro v0 hm H locs ls hW0 hS hz hl
  obtain ⟨hx, hb, hr, hlk, hml, hown, hts, hK⟩ := id C
  unfold fX9_ends at hm
  refine lv_aload_n (pc := 0) hx hb dX9_ends_0 rfl (lv_at hl 0 rfl) ?_
  obtain ⟨w1, hq2, hm⟩ := ob_some hm
  refine rk_TV (pc := 1) (As := []) (rest := []) (mc := 0) (ms := 0) hx hb hml hown hts hK hS (fun q hq => FA_sz rfl q hq) lkX9_417 rfl yn_X9_lends (ct_X9_lends (G := G) (l := l) (b0 := b0) (sz := H.size) hq2) ⟨Nat.le_of_ble_eq_true rfl, Nat.le_of_ble_eq_true rfl⟩ (fun z h => Or.inl (show iv _ _ _ from ⟨by have h8 := h.1; have h9 := h.2; omega, by have h8 := h.1; have h9 := h.2; omega⟩)) (rk_recv hK hW0 0 (by decide) rfl rfl rfl) hW0 rfl rfl hl.1 (Nat.le_of_ble_eq_true rfl) dX9_ends_1 ⟨Nat.zero_le _, Nat.zero_le _⟩ (fun ov9 H3 locs4 hP5 hkp6 hS7 => ?_)
  obtain ⟨rfl, hW8, hz9⟩ := hP5
  have hz10 := hz9.trans hz
  refine W.eq (g2 := F0 m 4 ls []) rfl ?_
  refine lv_iconst (pc := 4) (v := (0 : Int32)) hx hb dX9_ends_4 (by decide) ?_
  refine lv_istore_n (pc := 5) (lv' := [(1, .int (0 : Int32)), (0, .ref b0)]) hx hb dX9_ends_5 rfl hl (by decide) rfl (fun ls hl => ?_)
  exact (w_fX9_ends_6_l C FU) w1 (0 : Int32) hm H3 locs4 ls hW8 hS7 hz10 (lv_sub hl [1, 0] rfl)
set_option maxHeartbeats 4000000 in
theorem ct_X9_ends {G : Gv} {l : Launch} {b0 : Nat} {v0 : Mem} {rx : Int32} {rw0 : Mem} {sz : Nat} (hm : fX9_ends v0 = some (rx, rw0)) : CT G l yX9_ends (ws_ yX9_ends cX9_ends 2 (some .int)) 7 0 0 168 [.ref b0] (iv b0 46) sz (fun H => rg G b0 46 (shX9 G.2.1) v0 H) (fun ov H => ov = (some (.int rx)) ∧ rg G b0 46 (shX9 G.2.1) rw0 H ∧ H.size = sz) := by
  refine Met.ofW (cc := cX9_ends) (maxL := 2) (ret := (some .int)) (by decide +kernel) rfl ?_
  intro p e s m args below meth c s₁ B hml hv
  obtain ⟨rfl, ⟨hz, hW0⟩, hK⟩ := hv
  subst hz
  have hts := atoms_spec (ws := ws_ yX9_ends cX9_ends 2 (some .int)) B.pre
  have hts : ∀ w ∈ lw_all, w.before _ s = true := fun w h => hts w (List.mem_cons_of_mem _ h)
  have C : Cx G p s m _ meth c RX9 cX9_ends 2 (some .int) := ⟨B.exec, B.bytes, B.returns, B.notSynchronized, hml, findClass_of_methodNamed B.named, hts, hK⟩
  have hl := lv_entry ([.ref b0]) (n := 2) (Nat.le_of_ble_eq_true rfl)
  rw [lg_entry_eq]
  generalize (lg_sl ([.ref b0]) ++ List.replicate (2 - (lg_sl ([.ref b0])).length) Slot.unset).toArray = ls at hl ⊢
  have hl : lv_has ls 2 [(0, .ref b0)] := hl
  exact w_fX9_ends C _ hm s.heap [] ls hW0 va_S.rf rfl hl
noncomputable def fX9_isTape (i0 : Int32) : Option (Int32) :=
  ob (fX9_isIn i0.toInt64 (0 : Int64) (5 : Int64)) fun r1 =>
  gb (z01 r1) (some r1)
set_option maxHeartbeats 4000000 in
theorem w_fX9_isTape (C : Cx G p s m args meth c RX9 cX9_isTape 1 (some .boolean)) {rx : Int32} : ∀ (i0 : Int32), fX9_isTape i0 = some rx → ∀ (ls : Array Slot), lv_has ls 1 [(0, .int i0)] → W p l e (rmP 1 25) s m args below meth c s.heap [] 0 0 (MQ below (QcP (some (.int rx))) args s 0 0 (fun _ => False)) (F0 m 0 ls []) := by
  intro i0 hm ls hl
  obtain ⟨hx, hb, hr, hlk, hml, hown, hts, hK⟩ := id C
  unfold fX9_isTape at hm
  refine lv_iload_n (pc := 0) hx hb dX9_isTape_0 rfl (lv_at hl 0 rfl) ?_
  refine lv_i2l (pc := 1) hx hb dX9_isTape_1 rfl ?_
  refine lv_lconst (pc := 2) (v := (0 : Int64)) hx hb dX9_isTape_2 (by decide) ?_
  refine lv_ldc2 (pc := 3) (v := (5 : Int64)) hx hb hown (hts _ q1919) dX9_isTape_3 ?_
  obtain ⟨r1, hq2, hm⟩ := ob_some hm
  refine rk_PS (pc := 6) (As := [.long i0.toInt64, .long (0 : Int64), .long (5 : Int64)]) (rest := []) hx hb hml hown hts hK lkX9_93 yn_X9_isIn (ct_X9_isIn (G := G) (l := l) hq2) ⟨Nat.le_of_ble_eq_true rfl, Nat.le_of_ble_eq_true rfl⟩ trivial rfl rfl hl.1 (Nat.le_of_ble_eq_true rfl) dX9_isTape_6 ⟨Nat.zero_le _, Nat.zero_le _⟩ ?_
  refine W.eq (g2 := F0 m 9 ls [.int r1]) rfl ?_
  obtain ⟨hg3, hm⟩ := gb_some hm
  have e9 := rs1 hm
  subst e9
  exact rk_zretP (pc := 9) hx hb hr hlk hg3 rfl dX9_isTape_9
set_option maxHeartbeats 4000000 in
theorem ct_X9_isTape {G : Gv} {l : Launch} {i0 : Int32} {rx : Int32} (hm : fX9_isTape i0 = some rx) : CP G l yX9_isTape (ws_ yX9_isTape cX9_isTape 1 (some .boolean)) 1 25 [.int i0] (fun H => True) (some (.int rx)) := by
  refine Met.ofW (cc := cX9_isTape) (maxL := 1) (ret := (some .boolean)) (by decide +kernel) rfl ?_
  intro p e s m args below meth c s₁ B hml hv
  obtain ⟨rfl, -, hK⟩ := hv
  have hts := atoms_spec (ws := ws_ yX9_isTape cX9_isTape 1 (some .boolean)) B.pre
  have hts : ∀ w ∈ lw_all, w.before _ s = true := fun w h => hts w (List.mem_cons_of_mem _ h)
  have C : Cx G p s m _ meth c RX9 cX9_isTape 1 (some .boolean) := ⟨B.exec, B.bytes, B.returns, B.notSynchronized, hml, findClass_of_methodNamed B.named, hts, hK⟩
  have hl := lv_entry ([.int i0]) (n := 1) (Nat.le_of_ble_eq_true rfl)
  rw [lg_entry_eq]
  generalize (lg_sl ([.int i0]) ++ List.replicate (1 - (lg_sl ([.int i0])).length) Slot.unset).toArray = ls at hl ⊢
  have hl : lv_has ls 1 [(0, .int i0)] := hl
  exact w_fX9_isTape C _ hm ls hl
end
