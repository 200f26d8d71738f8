set_option maxRecDepth 100000
section
variable {p : Program} {l : Launch} {e : Env} {s : State} {m : MethodId} {args : Array Value} {below : List Frame} {meth : Method} {c : Code} {G : Gv}
theorem fnX0_298 : FN RX0 298 4 3 RX4 TX4 4 "WholePacks" := ⟨in_X4, rfl, by decide, q263⟩
theorem fnX0_301 : FN RX0 301 4 2 RX4 TX4 4 "WholePacks" := ⟨in_X4, rfl, by decide, q260⟩
noncomputable def fX0_weight_73 (V0 : Mem) (i1 : Int32) (i2 : Int32) (i3 : Int32) (i4 : Int32) : Option (Int64) :=
  gb (inR i1 12) (
  if i4 = 0 then (
  gb (inR (((8 : Int32) + i2) - (20 : Int32)) 20) (
  ob (fX0_share (gL V0 (74 + 3 * i1.toNatClampNeg + 2) (((8 : Int32) + i2) - (20 : Int32)).toNatClampNeg) (gL V0 (74 + 3 * i1.toNatClampNeg + 0) 2) i3) fun r19 =>
  some r19))
  else (
  gb (inR (i2 - (10 : Int32)) 20) (
  ob (fX0_share (gL V0 (74 + 3 * i1.toNatClampNeg + 2) (i2 - (10 : Int32)).toNatClampNeg) (gL V0 (74 + 3 * i1.toNatClampNeg + 0) 2) i3) fun r22 =>
  some r22)))
noncomputable def fX0_weight_44 (V0 : Mem) (i1 : Int32) (i2 : Int32) (i3 : Int32) (t0 : Int32) : Option (Int64) :=
  if t0 = 0 then (
  ob (fX0_in i2.toInt64 (20 : Int64) (((20 : Int32) + i1) - (1 : Int32)).toInt64) fun r12 =>
  if r12 = 0 then (
  some (-9223372036854775808 : Int64))
  else (
  fX0_weight_73 V0 i1 i2 i3 t0))
  else (
  fX0_weight_73 V0 i1 i2 i3 t0)
noncomputable def fX0_weight_43 (V0 : Mem) (i1 : Int32) (i2 : Int32) (i3 : Int32) : Option (Int64) :=
  fX0_weight_44 V0 i1 i2 i3 (0 : Int32)
noncomputable def fX0_weight (V0 : Mem) (i1 : Int32) (i2 : Int32) (i3 : Int32) : Option (Int64) :=
  ob (fX0_isCut V0 i1) fun r1 =>
  if r1 = 0 then (
  some (-9223372036854775808 : Int64))
  else (
  ob (fX0_isPart i3) fun r4 =>
  if r4 = 0 then (
  some (-9223372036854775808 : Int64))
  else (
  ob (fX1_hasRule (shf V0 1) (i2 - (10 : Int32))) fun r7 =>
  if r7 = 0 then (
  fX0_weight_43 V0 i1 i2 i3)
  else (
  if (20 : Int32) ≤ i2 then (
  fX0_weight_43 V0 i1 i2 i3)
  else (
  fX0_weight_44 V0 i1 i2 i3 (1 : Int32)))))
set_option maxHeartbeats 4000000 in
theorem w_fX0_weight_73 (C : Cx G p s m args meth c RX0 cX0_weight 6 (some .long)) {b0 : Nat} {V0 : Mem} {rx : Int64} (hW0 : rg G b0 357 (shX0 G.2.1) V0 s.heap) : ∀ (i1 : Int32) (i2 : Int32) (i3 : Int32) (i4 : Int32), fX0_weight_73 V0 i1 i2 i3 i4 = some rx → ∀ (ls : Array Slot), lv_has ls 6 [(0, .ref b0), (1, .int i1), (2, .int i2), (3, .int i3), (4, .int i4)] → W p l e (rmP 2 55) s m args below meth c s.heap [] 0 0 (MQ below (QcP (some (.long rx))) args s 0 0 (fun _ => False)) (F0 m 73 ls []) := by
  intro i1 i2 i3 i4 hm ls hl
  obtain ⟨hx, hb, hr, hlk, hml, hown, hts, hK⟩ := id C
  unfold fX0_weight_73 at hm
  refine lv_aload_n (pc := 73) hx hb dX0_weight_73 rfl (lv_at hl 0 rfl) ?_
  refine rk_get (pc := 74) hx hb hts hown hK hW0 flX0_27 0 (by decide) rfl rfl (x := .ref (b0 + 67)) (by first | rfl | exact congrArg (fun z => some (Value.ref z)) (by omega)) dX0_weight_74 ?_
  refine rk_getN (pc := 77) hx hb hts hown hK hW0 fnX0_284 67 (by decide) rfl rfl (x := .ref (b0 + 73)) (by first | rfl | exact congrArg (fun z => some (Value.ref z)) (by omega)) dX0_weight_77 ?_
  refine lv_iload_n (pc := 80) hx hb dX0_weight_80 rfl (lv_at hl 1 rfl) ?_
  obtain ⟨hg15, hm⟩ := gb_some hm
  have hlt16 := inR_lt hg15
  refine rk_aald (pc := 81) hx hb hK hW0 73 6 (by decide) rfl rfl rfl hg15 (x := (b0 + (74 + 3 * i1.toNatClampNeg + 0))) (by first | rfl | exact congrArg some (by omega)) dX0_weight_81 ?_
  refine lv_astore (pc := 82) (lv' := [(5, .ref (b0 + (74 + 3 * i1.toNatClampNeg + 0))), (0, .ref b0), (1, .int i1), (2, .int i2), (3, .int i3), (4, .int i4)]) hx hb dX0_weight_82 hl (by decide) rfl (fun ls hl => ?_)
  refine lv_aload (pc := 84) hx hb dX0_weight_84 (lv_at hl 0 rfl) ?_
  refine rk_getN (pc := 86) hx hb hts hown hK hW0 fnX0_298 (74 + 3 * i1.toNatClampNeg + 0) (by omega) rfl ((shX0_f74 G.2.1 hlt16 _ rfl 0 (by decide) _ _ _).trans rfl) (x := .ref (b0 + (74 + 3 * i1.toNatClampNeg + 2))) (by first | rfl | exact congrArg (fun z => some (Value.ref z)) (by omega)) dX0_weight_86 ?_
  refine lv_iload (pc := 89) hx hb dX0_weight_89 (lv_at hl 5 rfl) ?_
  refine lv_if_eq (pc := 91) (tgt := 101) hx hb dX0_weight_91 (by decide) (fun c17 => ?_) (fun c17 => ?_)
  · have hm := ite_t c17 hm
    refine lv_bipush (pc := 101) (v := (8 : Int32)) hx hb dX0_weight_101 (by decide) ?_
    refine lv_iload_n (pc := 103) hx hb dX0_weight_103 rfl (lv_at hl 3 rfl) ?_
    refine lv_iadd (pc := 104) hx hb dX0_weight_104 ?_
    refine lv_bipush (pc := 105) (v := (20 : Int32)) hx hb dX0_weight_105 (by decide) ?_
    refine lv_isub (pc := 107) hx hb dX0_weight_107 ?_
    obtain ⟨hg18, hm⟩ := gb_some hm
    refine rk_lald (pc := 108) hx hb hK hW0 (74 + 3 * i1.toNatClampNeg + 2) (by omega) rfl ((shX0_f74 G.2.1 hlt16 _ rfl 2 (by decide) _ _ _).trans rfl) hg18 (x := (gL V0 (74 + 3 * i1.toNatClampNeg + 2) (((8 : Int32) + i2) - (20 : Int32)).toNatClampNeg)) rfl dX0_weight_108 ?_
    refine lv_aload (pc := 109) hx hb dX0_weight_109 (lv_at hl 0 rfl) ?_
    refine rk_getN (pc := 111) hx hb hts hown hK hW0 fnX0_301 (74 + 3 * i1.toNatClampNeg + 0) (by omega) rfl ((shX0_f74 G.2.1 hlt16 _ rfl 0 (by decide) _ _ _).trans rfl) (x := .long (gL V0 (74 + 3 * i1.toNatClampNeg + 0) 2)) rfl dX0_weight_111 ?_
    refine lv_iload_n (pc := 114) hx hb dX0_weight_114 rfl (lv_at hl 4 rfl) ?_
    obtain ⟨r19, hq20, hm⟩ := ob_some hm
    refine rk_PS (pc := 115) (As := [.long (gL V0 (74 + 3 * i1.toNatClampNeg + 2) (((8 : Int32) + i2) - (20 : Int32)).toNatClampNeg), .long (gL V0 (74 + 3 * i1.toNatClampNeg + 0) 2), .int i3]) (rest := []) hx hb hml hown hts hK lkX0_271 yn_X0_share (ct_X0_share (G := G) (l := l) hq20) ⟨Nat.le_of_ble_eq_true rfl, Nat.le_of_ble_eq_true rfl⟩ trivial rfl rfl hl.1 (Nat.le_of_ble_eq_true rfl) dX0_weight_115 ⟨Nat.zero_le _, Nat.zero_le _⟩ ?_
    refine W.eq (g2 := F0 m 118 ls [.long r19]) rfl ?_
    have e9 := rs1 hm
    subst e9
    exact rk_lretP (pc := 118) hx hb hr hlk rfl dX0_weight_118
  · have hm := ite_f c17 hm
    refine lv_iload_n (pc := 94) hx hb dX0_weight_94 rfl (lv_at hl 3 rfl) ?_
    refine lv_bipush (pc := 95) (v := (10 : Int32)) hx hb dX0_weight_95 (by decide) ?_
    refine lv_isub (pc := 97) hx hb dX0_weight_97 ?_
    refine lv_goto (pc := 98) (tgt := 108) hx hb dX0_weight_98 (by decide) ?_
    obtain ⟨hg21, hm⟩ := gb_some hm
    refine rk_lald (pc := 108) hx hb hK hW0 (74 + 3 * i1.toNatClampNeg + 2) (by omega) rfl ((shX0_f74 G.2.1 hlt16 _ rfl 2 (by decide) _ _ _).trans rfl) hg21 (x := (gL V0 (74 + 3 * i1.toNatClampNeg + 2) (i2 - (10 : Int32)).toNatClampNeg)) rfl dX0_weight_108 ?_
    refine lv_aload (pc := 109) hx hb dX0_weight_109 (lv_at hl 0 rfl) ?_
    refine rk_getN (pc := 111) hx hb hts hown hK hW0 fnX0_301 (74 + 3 * i1.toNatClampNeg + 0) (by omega) rfl ((shX0_f74 G.2.1 hlt16 _ rfl 0 (by decide) _ _ _).trans rfl) (x := .long (gL V0 (74 + 3 * i1.toNatClampNeg + 0) 2)) rfl dX0_weight_111 ?_
    refine lv_iload_n (pc := 114) hx hb dX0_weight_114 rfl (lv_at hl 4 rfl) ?_
    obtain ⟨r22, hq23, hm⟩ := ob_some hm
    refine rk_PS (pc := 115) (As := [.long (gL V0 (74 + 3 * i1.toNatClampNeg + 2) (i2 - (10 : Int32)).toNatClampNeg), .long (gL V0 (74 + 3 * i1.toNatClampNeg + 0) 2), .int i3]) (rest := []) hx hb hml hown hts hK lkX0_271 yn_X0_share (ct_X0_share (G := G) (l := l) hq23) ⟨Nat.le_of_ble_eq_true rfl, Nat.le_of_ble_eq_true rfl⟩ trivial rfl rfl hl.1 (Nat.le_of_ble_eq_true rfl) dX0_weight_115 ⟨Nat.zero_le _, Nat.zero_le _⟩ ?_
    refine W.eq (g2 := F0 m 118 ls [.long r22]) rfl ?_
    have e9 := rs1 hm
    subst e9
    exact rk_lretP (pc := 118) hx hb hr hlk rfl dX0_weight_118
set_option maxHeartbeats 4000000 in
theorem w_fX0_weight_44 (C : Cx G p s m args meth c RX0 cX0_weight 6 (some .long)) {b0 : Nat} {V0 : Mem} {rx : Int64} (hW0 : rg G b0 357 (shX0 G.2.1) V0 s.heap) : ∀ (i1 : Int32) (i2 : Int32) (i3 : Int32) (t0 : Int32), fX0_weight_44 V0 i1 i2 i3 t0 = some rx → ∀ (ls : Array Slot), lv_has ls 6 [(0, .ref b0), (1, .int i1), (2, .int i2), (3, .int i3)] → W p l e (rmP 2 55) s m args below meth c s.heap [] 0 0 (MQ below (QcP (some (.long rx))) args s 0 0 (fun _ => False)) (F0 m 44 ls [.int t0]) := by
  intro i1 i2 i3 t0 hm ls hl
  obtain ⟨hx, hb, hr, hlk, hml, hown, hts, hK⟩ := id C
  unfold fX0_weight_44 at hm
  refine lv_istore (pc := 44) (lv' := [(4, .int t0), (0, .ref b0), (1, .int i1), (2, .int i2), (3, .int i3)]) hx hb dX0_weight_44 hl (by decide) rfl (fun ls hl => ?_)
  refine lv_iload (pc := 46) hx hb dX0_weight_46 (lv_at hl 0 rfl) ?_
  refine lv_if_ne (pc := 48) (tgt := 73) hx hb dX0_weight_48 (by decide) (fun c11 => ?_) (fun c11 => ?_)
  · have hm := ite_f c11 hm
    exact (w_fX0_weight_73 C hW0) i1 i2 i3 t0 hm ls (lv_sub hl [1, 2, 3, 4, 0] rfl)
  · have hm := ite_t c11 hm
    refine lv_iload_n (pc := 51) hx hb dX0_weight_51 rfl (lv_at hl 3 rfl) ?_
    refine lv_i2l (pc := 52) hx hb dX0_weight_52 rfl ?_
    refine lv_ldc2 (pc := 53) (v := (20 : Int64)) hx hb hown (hts _ q943) dX0_weight_53 ?_
    refine lv_bipush (pc := 56) (v := (20 : Int32)) hx hb dX0_weight_56 (by decide) ?_
    refine lv_iload_n (pc := 58) hx hb dX0_weight_58 rfl (lv_at hl 2 rfl) ?_
    refine lv_iadd (pc := 59) hx hb dX0_weight_59 ?_
    refine lv_iconst (pc := 60) (v := (1 : Int32)) hx hb dX0_weight_60 (by decide) ?_
    refine lv_isub (pc := 61) hx hb dX0_weight_61 ?_
    refine lv_i2l (pc := 62) hx hb dX0_weight_62 rfl ?_
    obtain ⟨r12, hq13, hm⟩ := ob_some hm
    refine rk_PS (pc := 63) (As := [.long i2.toInt64, .long (20 : Int64), .long (((20 : Int32) + i1) - (1 : Int32)).toInt64]) (rest := []) hx hb hml hown hts hK lkX0_127 yn_X0_in (ct_X0_in (G := G) (l := l) hq13) ⟨Nat.le_of_ble_eq_true rfl, Nat.le_of_ble_eq_true rfl⟩ trivial rfl rfl hl.1 (Nat.le_of_ble_eq_true rfl) dX0_weight_63 ⟨Nat.zero_le _, Nat.zero_le _⟩ ?_
    refine W.eq (g2 := F0 m 66 ls [.int r12]) rfl ?_
    refine lv_if_ne (pc := 66) (tgt := 73) hx hb dX0_weight_66 (by decide) (fun c14 => ?_) (fun c14 => ?_)
    · have hm := ite_f c14 hm
      exact (w_fX0_weight_73 C hW0) i1 i2 i3 t0 hm ls (lv_sub hl [1, 2, 3, 4, 0] rfl)
    · have hm := ite_t c14 hm
      refine lv_ldc2 (pc := 69) (v := (-9223372036854775808 : Int64)) hx hb hown (hts _ q893) dX0_weight_69 ?_
      have e9 := rs1 hm
      subst e9
      exact rk_lretP (pc := 72) hx hb hr hlk rfl dX0_weight_72
set_option maxHeartbeats 4000000 in
theorem w_fX0_weight_43 (C : Cx G p s m args meth c RX0 cX0_weight 6 (some .long)) {b0 : Nat} {V0 : Mem} {rx : Int64} (hW0 : rg G b0 357 (shX0 G.2.1) V0 s.heap) : ∀ (i1 : Int32) (i2 : Int32) (i3 : Int32), fX0_weight_43 V0 i1 i2 i3 = some rx → ∀ (ls : Array Slot), lv_has ls 6 [(0, .ref b0), (1, .int i1), (2, .int i2), (3, .int i3)] → W p l e (rmP 2 55) s m args below meth c s.heap [] 0 0 (MQ below (QcP (some (.long rx))) args s 0 0 (fun _ => False)) (F0 m 43 ls []) := by
  intro i1 i2 i3 hm ls hl
  obtain ⟨hx, hb, hr, hlk, hml, hown, hts, hK⟩ := id C
  unfold fX0_weight_43 at hm
  refine lv_iconst (pc := 43) (v := (0 : Int32)) hx hb dX0_weight_43 (by decide) ?_
  exact (w_fX0_weight_44 C hW0) i1 i2 i3 (0 : Int32) hm ls (lv_sub hl [0, 1, 2, 3] rfl)
set_option maxHeartbeats 4000000 in
theorem w_fX0_weight (C : Cx G p s m args meth c RX0 cX0_weight 6 (some .long)) {b0 : Nat} {V0 : Mem} {rx : Int64} (hW0 : rg G b0 357 (shX0 G.2.1) V0 s.heap) : ∀ (i1 : Int32) (i2 : Int32) (i3 : Int32), fX0_weight V0 i1 i2 i3 = some rx → ∀ (ls : Array Slot), lv_has ls 6 [(0, .ref b0), (1, .int i1), (2, .int i2), (3, .int i3)] → W p l e (rmP 2 55) s m args below meth c s.heap [] 0 0 (MQ below (QcP (some (.long rx))) args s 0 0 (fun _ => False)) (F0 m 0 ls []) := by
  intro i1 i2 i3 hm ls hl
  obtain ⟨hx, hb, hr, hlk, hml, hown, hts, hK⟩ := id C
  unfold fX0_weight at hm
  refine lv_aload_n (pc := 0) hx hb dX0_weight_0 rfl (lv_at hl 0 rfl) ?_
  refine lv_iload_n (pc := 1) hx hb dX0_weight_1 rfl (lv_at hl 1 rfl) ?_
  obtain ⟨r1, hq2, hm⟩ := ob_some hm
  refine rk_PV (pc := 2) (As := [.int i1]) (rest := []) hx hb hml hown hts hK lkX0_281 rfl yn_X0_isCut (ct_X0_isCut (G := G) (l := l) (b0 := b0) hq2) ⟨Nat.le_of_ble_eq_true rfl, Nat.le_of_ble_eq_true rfl⟩ (rk_recv hK hW0 0 (by decide) rfl rfl rfl) hW0 rfl rfl hl.1 (Nat.le_of_ble_eq_true rfl) dX0_weight_2 ⟨Nat.zero_le _, Nat.zero_le _⟩ ?_
  refine W.eq (g2 := F0 m 5 ls [.int r1]) rfl ?_
  refine lv_if_eq (pc := 5) (tgt := 15) hx hb dX0_weight_5 (by decide) (fun c3 => ?_) (fun c3 => ?_)
  · have hm := ite_t c3 hm
    refine lv_ldc2 (pc := 15) (v := (-9223372036854775808 : Int64)) hx hb hown (hts _ q893) dX0_weight_15 ?_
    have e9 := rs1 hm
    subst e9
    exact rk_lretP (pc := 18) hx hb hr hlk rfl dX0_weight_18
  · have hm := ite_f c3 hm
    refine lv_iload_n (pc := 8) hx hb dX0_weight_8 rfl (lv_at hl 3 rfl) ?_
    obtain ⟨r4, hq5, hm⟩ := ob_some hm
    refine rk_PS (pc := 9) (As := [.int i3]) (rest := []) hx hb hml hown hts hK lkX0_264 yn_X0_isPart (ct_X0_isPart (G := G) (l := l) hq5) ⟨Nat.le_of_ble_eq_true rfl, Nat.le_of_ble_eq_true rfl⟩ trivial rfl rfl hl.1 (Nat.le_of_ble_eq_true rfl) dX0_weight_9 ⟨Nat.zero_le _, Nat.zero_le _⟩ ?_
    refine W.eq (g2 := F0 m 12 ls [.int r4]) rfl ?_
    refine lv_if_ne (pc := 12) (tgt := 19) hx hb dX0_weight_12 (by decide) (fun c6 => ?_) (fun c6 => ?_)
    · have hm := ite_f c6 hm
      refine lv_aload_n (pc := 19) hx hb dX0_weight_19 rfl (lv_at hl 0 rfl) ?_
      refine rk_get (pc := 20) hx hb hts hown hK hW0 flX0_12 0 (by decide) rfl rfl (x := .ref (b0 + 1)) (by first | rfl | exact congrArg (fun z => some (Value.ref z)) (by omega)) dX0_weight_20 ?_
      refine lv_iload_n (pc := 23) hx hb dX0_weight_23 rfl (lv_at hl 2 rfl) ?_
      refine lv_bipush (pc := 24) (v := (10 : Int32)) hx hb dX0_weight_24 (by decide) ?_
      refine lv_isub (pc := 26) hx hb dX0_weight_26 ?_
      obtain ⟨r7, hq8, hm⟩ := ob_some hm
      refine rk_PV (pc := 27) (As := [.int (i2 - (10 : Int32))]) (rest := []) hx hb hml hown hts hK lkX0_165 rfl yn_X1_hasRule (ct_X1_hasRule (G := G) (l := l) (b0 := (b0 + 1)) hq8) ⟨Nat.le_of_ble_eq_true rfl, Nat.le_of_ble_eq_true rfl⟩ (rk_recv hK hW0 1 (by decide) rfl rfl rfl) (rg_sub hW0 rfl (by decide) (fun o ho x y z => shX0_n1 G.2.1 _ rfl o ho x y z)) rfl rfl hl.1 (Nat.le_of_ble_eq_true rfl) dX0_weight_27 ⟨Nat.zero_le _, Nat.zero_le _⟩ ?_
      refine W.eq (g2 := F0 m 30 ls [.int r7]) rfl ?_
      refine lv_if_eq (pc := 30) (tgt := 43) hx hb dX0_weight_30 (by decide) (fun c9 => ?_) (fun c9 => ?_)
      · have hm := ite_t c9 hm
        exact (w_fX0_weight_43 C hW0) i1 i2 i3 hm ls (lv_sub hl [0, 1, 2, 3] rfl)
      · have hm := ite_f c9 hm
        refine lv_iload_n (pc := 33) hx hb dX0_weight_33 rfl (lv_at hl 2 rfl) ?_
        refine lv_bipush (pc := 34) (v := (20 : Int32)) hx hb dX0_weight_34 (by decide) ?_
        refine lv_icmp_ge (pc := 36) (tgt := 43) hx hb dX0_weight_36 (by decide) (fun c10 => ?_) (fun c10 => ?_)
        · have hm := ite_t c10 hm
          exact (w_fX0_weight_43 C hW0) i1 i2 i3 hm ls (lv_sub hl [0, 1, 2, 3] rfl)
        · have hm := ite_f c10 hm
          refine lv_iconst (pc := 39) (v := (1 : Int32)) hx hb dX0_weight_39 (by decide) ?_
          refine lv_goto (pc := 40) (tgt := 44) hx hb dX0_weight_40 (by decide) ?_
          exact (w_fX0_weight_44 C hW0) i1 i2 i3 (1 : Int32) hm ls (lv_sub hl [0, 1, 2, 3] rfl)
    · have hm := ite_t c6 hm
      refine lv_ldc2 (pc := 15) (v := (-9223372036854775808 : Int64)) hx hb hown (hts _ q893) dX0_weight_15 ?_
      have e9 := rs1 hm
      subst e9
      exact rk_lretP (pc := 18) hx hb hr hlk rfl dX0_weight_18
set_option maxHeartbeats 4000000 in
theorem ct_X0_weight {G : Gv} {l : Launch} {b0 : Nat} {V0 : Mem} {i1 : Int32} {i2 : Int32} {i3 : Int32} {rx : Int64} (hm : fX0_weight V0 i1 i2 i3 = some rx) : CP G l yX0_weight (ws_ yX0_weight cX0_weight 6 (some .long)) 2 55 [.ref b0, .int i1, .int i2, .int i3] (fun H => rg G b0 357 (shX0 G.2.1) V0 H) (some (.long rx)) := by
  refine Met.ofW (cc := cX0_weight) (maxL := 6) (ret := (some .long)) (by decide +kernel) rfl ?_
  intro p e s m args below meth c s₁ B hml hv
  obtain ⟨rfl, hW0, hK⟩ := hv
  have hts := atoms_spec (ws := ws_ yX0_weight cX0_weight 6 (some .long)) B.pre
  have hts : ∀ w ∈ lw_all, w.before _ s = true := fun w h => hts w (List.mem_cons_of_mem _ h)
  have C : Cx G p s m _ meth c RX0 cX0_weight 6 (some .long) := ⟨B.exec, B.bytes, B.returns, B.notSynchronized, hml, findClass_of_methodNamed B.named, hts, hK⟩
  have hl := lv_entry ([.ref b0, .int i1, .int i2, .int i3]) (n := 6) (Nat.le_of_ble_eq_true rfl)
  rw [lg_entry_eq]
  generalize (lg_sl ([.ref b0, .int i1, .int i2, .int i3]) ++ List.replicate (6 - (lg_sl ([.ref b0, .int i1, .int i2, .int i3])).length) Slot.unset).toArray = ls at hl ⊢
  have hl : lv_has ls 6 [(0, .ref b0), (1, .int i1), (2, .int i2), (3, .int i3)] := hl
  exact w_fX0_weight C hW0 _ _ _ hm ls hl
theorem lkX0_305 : LV RX0 305 RX2 yX2_points cX2_points 2 (some .long) := ⟨q953, q790, q791, q116, q792⟩
theorem lkX0_302 : LV RX0 302 RX2 yX2_limit cX2_limit 1 (some .long) := ⟨q952, q782, q783, q116, q784⟩
theorem lkX0_307 : LSt RX0 307 yJ7_floorDiv cJ7_floorDiv 6 (some .long) := ⟨q954, q872, q136, q873⟩
noncomputable def fX0_byWeights_81 (V0 : Mem) (n1 : Nat) (k81 : Int32 → Int32 → Int64 → Int32 → Option (Int64)) (i2 : Int32) (i3 : Int32) (j4 : Int64) (i6 : Int32) : Option (Int64) :=
  if i2 ≤ i6 then (
  ob (fJ7_floorDiv j4 (gL V0 (74 + 3 * n1 + 0) 2)) fun r13 =>
  some r13)
  else (
  gb (inR ((8 : Int32) + i6) 20) (
  if i3 = (gI V0 1 0) then (
  gb (inR i6 12) (
  k81 i2 i3 (j4 + ((gL V0 (74 + 3 * n1 + 2) ((8 : Int32) + i6).toNatClampNeg) * (gL V0 (74 + 3 * i6.toNatClampNeg + 0) 1))) (i6 + (1 : Int32))))
  else (
  gb (inR i6 12) (
  gb (inR i3 5) (
  k81 i2 i3 (j4 + ((gL V0 (74 + 3 * n1 + 2) ((8 : Int32) + i6).toNatClampNeg) * (gL V0 (74 + 3 * i6.toNatClampNeg + 1) i3.toNatClampNeg))) (i6 + (1 : Int32)))))))
noncomputable def fX0_byWeights_6 (V0 : Mem) (n1 : Nat) (k6 : Int32 → Int32 → Int64 → Int32 → Option (Int64)) (i2 : Int32) (i3 : Int32) (j4 : Int64) (i6 : Int32) : Option (Int64) :=
  if (gI V0 1 1) ≤ i6 then (
  lq4 (fX0_byWeights_81 V0 n1) FU i2 i3 j4 (0 : Int32))
  else (
  gb (inR i6 20) (
  if i3 = (gI V0 1 0) then (
  gb (inR i6 8) (
  ob (fX2_limit (shf V0 (7 + 2 * i6.toNatClampNeg))) fun r10 =>
  k6 i2 i3 (j4 + ((gL V0 (74 + 3 * n1 + 2) i6.toNatClampNeg) * r10)) (i6 + (1 : Int32))))
  else (
  gb (inR i6 8) (
  ob (fX2_points (shf V0 (7 + 2 * i6.toNatClampNeg)) i3) fun r6 =>
  k6 i2 i3 (j4 + ((gL V0 (74 + 3 * n1 + 2) i6.toNatClampNeg) * r6)) (i6 + (1 : Int32))))))
noncomputable def fX0_byWeights (V0 : Mem) (n1 : Nat) (i2 : Int32) (i3 : Int32) : Option (Int64) :=
  lq4 (fX0_byWeights_6 V0 n1) FU i2 i3 (0 : Int64) (0 : Int32)
set_option maxHeartbeats 4000000 in
theorem w_fX0_byWeights_81 (C : Cx G p s m args meth c RX0 cX0_byWeights 7 (some .long)) {b0 : Nat} {V0 : Mem} {n1 : Nat} {rx : Int64} (hW0 : rg G b0 357 (shX0 G.2.1) V0 s.heap) (hn1 : n1 < 12) {k81 : Int32 → Int32 → Int64 → Int32 → Option (Int64)} (hk81 : ∀ (i2 : Int32) (i3 : Int32) (j4 : Int64) (i6 : Int32), k81 i2 i3 j4 i6 = some rx → ∀ (ls : Array Slot), lv_has ls 7 [(0, .ref b0), (1, .ref (b0 + (74 + 3 * n1 + 0))), (2, .int i2), (3, .int i3), (4, .long j4), (6, .int i6)] → W p l e (rmP 1 25) s m args below meth c s.heap [] 0 0 (MQ below (QcP (some (.long rx))) args s 0 0 (fun _ => False)) (F0 m 81 ls [])) : ∀ (i2 : Int32) (i3 : Int32) (j4 : Int64) (i6 : Int32), fX0_byWeights_81 V0 n1 k81 i2 i3 j4 i6 = some rx → ∀ (ls : Array Slot), lv_has ls 7 [(0, .ref b0), (1, .ref (b0 + (74 + 3 * n1 + 0))), (2, .int i2), (3, .int i3), (4, .long j4), (6, .int i6)] → W p l e (rmP 1 25) s m args below meth c s.heap [] 0 0 (MQ below (QcP (some (.long rx))) args s 0 0 (fun _ => False)) (F0 m 81 ls []) := by
  intro i2 i3 j4 i6 hm ls hl
  obtain ⟨hx, hb, hr, hlk, hml, hown, hts, hK⟩ := id C
  unfold fX0_byWeights_81 at hm
  refine lv_iload (pc := 81) hx hb dX0_byWeights_81 (lv_at hl 5 rfl) ?_
  refine lv_iload_n (pc := 83) hx hb dX0_byWeights_83 rfl (lv_at hl 2 rfl) ?_
  refine lv_icmp_ge (pc := 84) (tgt := 151) hx hb dX0_byWeights_84 (by decide) (fun c12 => ?_) (fun c12 => ?_)
  · have hm := ite_t c12 hm
    refine lv_lload (pc := 151) hx hb dX0_byWeights_151 (lv_at hl 4 rfl) ?_
    refine lv_aload_n (pc := 153) hx hb dX0_byWeights_153 rfl (lv_at hl 1 rfl) ?_
    refine rk_getN (pc := 154) hx hb hts hown hK hW0 fnX0_301 (74 + 3 * n1 + 0) (by omega) rfl ((shX0_f74 G.2.1 hn1 _ rfl 0 (by decide) _ _ _).trans rfl) (x := .long (gL V0 (74 + 3 * n1 + 0) 2)) rfl dX0_byWeights_154 ?_
    obtain ⟨r13, hq14, hm⟩ := ob_some hm
    refine rk_PS (pc := 157) (As := [.long j4, .long (gL V0 (74 + 3 * n1 + 0) 2)]) (rest := []) hx hb hml hown hts hK lkX0_307 yn_J7_floorDiv (ct_J7_floorDiv (G := G) (l := l) hq14) ⟨Nat.le_of_ble_eq_true rfl, Nat.le_of_ble_eq_true rfl⟩ trivial rfl rfl hl.1 (Nat.le_of_ble_eq_true rfl) dX0_byWeights_157 ⟨Nat.zero_le _, Nat.zero_le _⟩ ?_
    refine W.eq (g2 := F0 m 160 ls [.long r13]) rfl ?_
    have e9 := rs1 hm
    subst e9
    exact rk_lretP (pc := 160) hx hb hr hlk rfl dX0_byWeights_160
  · have hm := ite_f c12 hm
    refine lv_lload (pc := 87) hx hb dX0_byWeights_87 (lv_at hl 4 rfl) ?_
    refine lv_aload_n (pc := 89) hx hb dX0_byWeights_89 rfl (lv_at hl 1 rfl) ?_
    refine rk_getN (pc := 90) hx hb hts hown hK hW0 fnX0_298 (74 + 3 * n1 + 0) (by omega) rfl ((shX0_f74 G.2.1 hn1 _ rfl 0 (by decide) _ _ _).trans rfl) (x := .ref (b0 + (74 + 3 * n1 + 2))) (by first | rfl | exact congrArg (fun z => some (Value.ref z)) (by omega)) dX0_byWeights_90 ?_
    refine lv_bipush (pc := 93) (v := (8 : Int32)) hx hb dX0_byWeights_93 (by decide) ?_
    refine lv_iload (pc := 95) hx hb dX0_byWeights_95 (lv_at hl 5 rfl) ?_
    refine lv_iadd (pc := 97) hx hb dX0_byWeights_97 ?_
    obtain ⟨hg15, hm⟩ := gb_some hm
    refine rk_lald (pc := 98) hx hb hK hW0 (74 + 3 * n1 + 2) (by omega) rfl ((shX0_f74 G.2.1 hn1 _ rfl 2 (by decide) _ _ _).trans rfl) hg15 (x := (gL V0 (74 + 3 * n1 + 2) ((8 : Int32) + i6).toNatClampNeg)) rfl dX0_byWeights_98 ?_
    refine lv_iload_n (pc := 99) hx hb dX0_byWeights_99 rfl (lv_at hl 3 rfl) ?_
    refine lv_aload_n (pc := 100) hx hb dX0_byWeights_100 rfl (lv_at hl 0 rfl) ?_
    refine rk_get (pc := 101) hx hb hts hown hK hW0 flX0_12 0 (by decide) rfl rfl (x := .ref (b0 + 1)) (by first | rfl | exact congrArg (fun z => some (Value.ref z)) (by omega)) dX0_byWeights_101 ?_
    refine rk_getN (pc := 104) hx hb hts hown hK hW0 fnX0_131 1 (by decide) rfl rfl (x := .int (gI V0 1 0)) rfl dX0_byWeights_104 ?_
    refine lv_icmp_ne (pc := 107) (tgt := 126) hx hb dX0_byWeights_107 (by decide) (fun c16 => ?_) (fun c16 => ?_)
    · have hm := ite_f c16 hm
      refine lv_aload_n (pc := 126) hx hb dX0_byWeights_126 rfl (lv_at hl 0 rfl) ?_
      refine rk_get (pc := 127) hx hb hts hown hK hW0 flX0_27 0 (by decide) rfl rfl (x := .ref (b0 + 67)) (by first | rfl | exact congrArg (fun z => some (Value.ref z)) (by omega)) dX0_byWeights_127 ?_
      refine rk_getN (pc := 130) hx hb hts hown hK hW0 fnX0_284 67 (by decide) rfl rfl (x := .ref (b0 + 73)) (by first | rfl | exact congrArg (fun z => some (Value.ref z)) (by omega)) dX0_byWeights_130 ?_
      refine lv_iload (pc := 133) hx hb dX0_byWeights_133 (lv_at hl 5 rfl) ?_
      obtain ⟨hg17, hm⟩ := gb_some hm
      have hlt18 := inR_lt hg17
      refine rk_aald (pc := 135) hx hb hK hW0 73 6 (by decide) rfl rfl rfl hg17 (x := (b0 + (74 + 3 * i6.toNatClampNeg + 0))) (by first | rfl | exact congrArg some (by omega)) dX0_byWeights_135 ?_
      refine rk_getN (pc := 136) hx hb hts hown hK hW0 fnX0_293 (74 + 3 * i6.toNatClampNeg + 0) (by omega) rfl ((shX0_f74 G.2.1 hlt18 _ rfl 0 (by decide) _ _ _).trans rfl) (x := .ref (b0 + (74 + 3 * i6.toNatClampNeg + 1))) (by first | rfl | exact congrArg (fun z => some (Value.ref z)) (by omega)) dX0_byWeights_136 ?_
      refine lv_iload_n (pc := 139) hx hb dX0_byWeights_139 rfl (lv_at hl 3 rfl) ?_
      obtain ⟨hg19, hm⟩ := gb_some hm
      refine rk_lald (pc := 140) hx hb hK hW0 (74 + 3 * i6.toNatClampNeg + 1) (by omega) rfl ((shX0_f74 G.2.1 hlt18 _ rfl 1 (by decide) _ _ _).trans rfl) hg19 (x := (gL V0 (74 + 3 * i6.toNatClampNeg + 1) i3.toNatClampNeg)) rfl dX0_byWeights_140 ?_
      refine lv_lmul (pc := 141) hx hb dX0_byWeights_141 ?_
      refine lv_ladd (pc := 142) hx hb dX0_byWeights_142 ?_
      refine lv_lstore (pc := 143) (lv' := [(4, .long (j4 + ((gL V0 (74 + 3 * n1 + 2) ((8 : Int32) + i6).toNatClampNeg) * (gL V0 (74 + 3 * i6.toNatClampNeg + 1) i3.toNatClampNeg)))), (0, .ref b0), (1, .ref (b0 + (74 + 3 * n1 + 0))), (2, .int i2), (3, .int i3), (6, .int i6)]) hx hb dX0_byWeights_143 hl (by decide) rfl (fun ls hl => ?_)
      refine lv_iinc (pc := 145) (v := (i6 + (1 : Int32))) (lv' := [(6, .int (i6 + (1 : Int32))), (4, .long (j4 + ((gL V0 (74 + 3 * n1 + 2) ((8 : Int32) + i6).toNatClampNeg) * (gL V0 (74 + 3 * i6.toNatClampNeg + 1) i3.toNatClampNeg)))), (0, .ref b0), (1, .ref (b0 + (74 + 3 * n1 + 0))), (2, .int i2), (3, .int i3)]) hx hb dX0_byWeights_145 hl (k := 5) rfl rfl (by decide) rfl (fun ls hl => ?_)
      refine lv_goto (pc := 148) (tgt := 81) hx hb dX0_byWeights_148 (by decide) ?_
      exact hk81 i2 i3 (j4 + ((gL V0 (74 + 3 * n1 + 2) ((8 : Int32) + i6).toNatClampNeg) * (gL V0 (74 + 3 * i6.toNatClampNeg + 1) i3.toNatClampNeg))) (i6 + (1 : Int32)) hm ls (lv_sub hl [2, 3, 4, 5, 1, 0] rfl)
    · have hm := ite_t c16 hm
      refine lv_aload_n (pc := 110) hx hb dX0_byWeights_110 rfl (lv_at hl 0 rfl) ?_
      refine rk_get (pc := 111) hx hb hts hown hK hW0 flX0_27 0 (by decide) rfl rfl (x := .ref (b0 + 67)) (by first | rfl | exact congrArg (fun z => some (Value.ref z)) (by omega)) dX0_byWeights_111 ?_
      refine rk_getN (pc := 114) hx hb hts hown hK hW0 fnX0_284 67 (by decide) rfl rfl (x := .ref (b0 + 73)) (by first | rfl | exact congrArg (fun z => some (Value.ref z)) (by omega)) dX0_byWeights_114 ?_
      refine lv_iload (pc := 117) hx hb dX0_byWeights_117 (lv_at hl 5 rfl) ?_
      obtain ⟨hg20, hm⟩ := gb_some hm
      have hlt21 := inR_lt hg20
      refine rk_aald (pc := 119) hx hb hK hW0 73 6 (by decide) rfl rfl rfl hg20 (x := (b0 + (74 + 3 * i6.toNatClampNeg + 0))) (by first | rfl | exact congrArg some (by omega)) dX0_byWeights_119 ?_
      refine rk_getN (pc := 120) hx hb hts hown hK hW0 fnX0_288 (74 + 3 * i6.toNatClampNeg + 0) (by omega) rfl ((shX0_f74 G.2.1 hlt21 _ rfl 0 (by decide) _ _ _).trans rfl) (x := .long (gL V0 (74 + 3 * i6.toNatClampNeg + 0) 1)) rfl dX0_byWeights_120 ?_
      refine lv_goto (pc := 123) (tgt := 141) hx hb dX0_byWeights_123 (by decide) ?_
      refine lv_lmul (pc := 141) hx hb dX0_byWeights_141 ?_
      refine lv_ladd (pc := 142) hx hb dX0_byWeights_142 ?_
      refine lv_lstore (pc := 143) (lv' := [(4, .long (j4 + ((gL V0 (74 + 3 * n1 + 2) ((8 : Int32) + i6).toNatClampNeg) * (gL V0 (74 + 3 * i6.toNatClampNeg + 0) 1)))), (0, .ref b0), (1, .ref (b0 + (74 + 3 * n1 + 0))), (2, .int i2), (3, .int i3), (6, .int i6)]) hx hb dX0_byWeights_143 hl (by decide) rfl (fun ls hl => ?_)
      refine lv_iinc (pc := 145) (v := (i6 + (1 : Int32))) (lv' := [(6, .int (i6 + (1 : Int32))), (4, .long (j4 + ((gL V0 (74 + 3 * n1 + 2) ((8 : Int32) + i6).toNatClampNeg) * (gL V0 (74 + 3 * i6.toNatClampNeg + 0) 1)))), (0, .ref b0), (1, .ref (b0 + (74 + 3 * n1 + 0))), (2, .int i2), (3, .int i3)]) hx hb dX0_byWeights_145 hl (k := 5) rfl rfl (by decide) rfl (fun ls hl => ?_)
      refine lv_goto (pc := 148) (tgt := 81) hx hb dX0_byWeights_148 (by decide) ?_
      exact hk81 i2 i3 (j4 + ((gL V0 (74 + 3 * n1 + 2) ((8 : Int32) + i6).toNatClampNeg) * (gL V0 (74 + 3 * i6.toNatClampNeg + 0) 1))) (i6 + (1 : Int32)) hm ls (lv_sub hl [2, 3, 4, 5, 1, 0] rfl)
theorem w_fX0_byWeights_81_l (C : Cx G p s m args meth c RX0 cX0_byWeights 7 (some .long)) {b0 : Nat} {V0 : Mem} {n1 : Nat} {rx : Int64} (hW0 : rg G b0 357 (shX0 G.2.1) V0 s.heap) (hn1 : n1 < 12) : ∀ (n : Nat) (i2 : Int32) (i3 : Int32) (j4 : Int64) (i6 : Int32), lq4 (fX0_byWeights_81 V0 n1) n i2 i3 j4 i6 = some rx → ∀ (ls : Array Slot), lv_has ls 7 [(0, .ref b0), (1, .ref (b0 + (74 + 3 * n1 + 0))), (2, .int i2), (3, .int i3), (4, .long j4), (6, .int i6)] → W p l e (rmP 1 25) s m args below meth c s.heap [] 0 0 (MQ below (QcP (some (.long rx))) args s 0 0 (fun _ => False)) (F0 m 81 ls []) := by
  intro n
  induction n with
  | zero => intro i2 i3 j4 i6 hm; exact (lq4_0 hm).elim
  | succ n ih => intro i2 i3 j4 i6 hm; exact w_fX0_byWeights_81 C hW0 hn1 ih i2 i3 j4 i6 (lq4_s hm)
set_option maxHeartbeats 4000000 in
theorem w_fX0_byWeights_6 (C : Cx G p s m args meth c RX0 cX0_byWeights 7 (some .long)) {b0 : Nat} {V0 : Mem} {n1 : Nat} {rx : Int64} (hW0 : rg G b0 357 (shX0 G.2.1) V0 s.heap) (hn1 : n1 < 12) {k6 : Int32 → Int32 → Int64 → Int32 → Option (Int64)} (hk6 : ∀ (i2 : Int32) (i3 : Int32) (j4 : Int64) (i6 : Int32), k6 i2 i3 j4 i6 = some rx → ∀ (ls : Array Slot), lv_has ls 7 [(0, .ref b0), (1, .ref (b0 + (74 + 3 * n1 + 0))), (2, .int i2), (3, .int i3), (4, .long j4), (6, .int i6)] → W p l e (rmP 1 25) s m args below meth c s.heap [] 0 0 (MQ below (QcP (some (.long rx))) args s 0 0 (fun _ => False)) (F0 m 6 ls [])) : ∀ (i2 : Int32) (i3 : Int32) (j4 : Int64) (i6 : Int32), fX0_byWeights_6 V0 n1 k6 i2 i3 j4 i6 = some rx → ∀ (ls : Array Slot), lv_has ls 7 [(0, .ref b0), (1, .ref (b0 + (74 + 3 * n1 + 0))), (2, .int i2), (3, .int i3), (4, .long j4), (6, .int i6)] → W p l e (rmP 1 25) s m args below meth c s.heap [] 0 0 (MQ below (QcP (some (.long rx))) args s 0 0 (fun _ => False)) (F0 m 6 ls []) := by
  intro i2 i3 j4 i6 hm ls hl
  obtain ⟨hx, hb, hr, hlk, hml, hown, hts, hK⟩ := id C
  unfold fX0_byWeights_6 at hm
  refine lv_iload (pc := 6) hx hb dX0_byWeights_6 (lv_at hl 5 rfl) ?_
  refine lv_aload_n (pc := 8) hx hb dX0_byWeights_8 rfl (lv_at hl 0 rfl) ?_
  refine rk_get (pc := 9) hx hb hts hown hK hW0 flX0_12 0 (by decide) rfl rfl (x := .ref (b0 + 1)) (by first | rfl | exact congrArg (fun z => some (Value.ref z)) (by omega)) dX0_byWeights_9 ?_
  refine rk_getN (pc := 12) hx hb hts hown hK hW0 fnX0_158 1 (by decide) rfl rfl (x := .int (gI V0 1 1)) rfl dX0_byWeights_12 ?_
  refine lv_icmp_ge (pc := 15) (tgt := 78) hx hb dX0_byWeights_15 (by decide) (fun c1 => ?_) (fun c1 => ?_)
  · have hm := ite_t c1 hm
    refine lv_iconst (pc := 78) (v := (0 : Int32)) hx hb dX0_byWeights_78 (by decide) ?_
    refine lv_istore (pc := 79) (lv' := [(6, .int (0 : Int32)), (0, .ref b0), (1, .ref (b0 + (74 + 3 * n1 + 0))), (2, .int i2), (3, .int i3), (4, .long j4)]) hx hb dX0_byWeights_79 hl (by decide) rfl (fun ls hl => ?_)
    exact (w_fX0_byWeights_81_l C hW0 hn1 FU) i2 i3 j4 (0 : Int32) hm ls (lv_sub hl [1, 2, 3, 4, 5, 0] rfl)
  · have hm := ite_f c1 hm
    refine lv_lload (pc := 18) hx hb dX0_byWeights_18 (lv_at hl 4 rfl) ?_
    refine lv_aload_n (pc := 20) hx hb dX0_byWeights_20 rfl (lv_at hl 1 rfl) ?_
    refine rk_getN (pc := 21) hx hb hts hown hK hW0 fnX0_298 (74 + 3 * n1 + 0) (by omega) rfl ((shX0_f74 G.2.1 hn1 _ rfl 0 (by decide) _ _ _).trans rfl) (x := .ref (b0 + (74 + 3 * n1 + 2))) (by first | rfl | exact congrArg (fun z => some (Value.ref z)) (by omega)) dX0_byWeights_21 ?_
    refine lv_iload (pc := 24) hx hb dX0_byWeights_24 (lv_at hl 5 rfl) ?_
    obtain ⟨hg2, hm⟩ := gb_some hm
    refine rk_lald (pc := 26) hx hb hK hW0 (74 + 3 * n1 + 2) (by omega) rfl ((shX0_f74 G.2.1 hn1 _ rfl 2 (by decide) _ _ _).trans rfl) hg2 (x := (gL V0 (74 + 3 * n1 + 2) i6.toNatClampNeg)) rfl dX0_byWeights_26 ?_
    refine lv_iload_n (pc := 27) hx hb dX0_byWeights_27 rfl (lv_at hl 3 rfl) ?_
    refine lv_aload_n (pc := 28) hx hb dX0_byWeights_28 rfl (lv_at hl 0 rfl) ?_
    refine rk_get (pc := 29) hx hb hts hown hK hW0 flX0_12 0 (by decide) rfl rfl (x := .ref (b0 + 1)) (by first | rfl | exact congrArg (fun z => some (Value.ref z)) (by omega)) dX0_byWeights_29 ?_
    refine rk_getN (pc := 32) hx hb hts hown hK hW0 fnX0_131 1 (by decide) rfl rfl (x := .int (gI V0 1 0)) rfl dX0_byWeights_32 ?_
    refine lv_icmp_ne (pc := 35) (tgt := 54) hx hb dX0_byWeights_35 (by decide) (fun c3 => ?_) (fun c3 => ?_)
    · have hm := ite_f c3 hm
      refine lv_aload_n (pc := 54) hx hb dX0_byWeights_54 rfl (lv_at hl 0 rfl) ?_
      refine rk_get (pc := 55) hx hb hts hown hK hW0 flX0_12 0 (by decide) rfl rfl (x := .ref (b0 + 1)) (by first | rfl | exact congrArg (fun z => some (Value.ref z)) (by omega)) dX0_byWeights_55 ?_
      refine rk_getN (pc := 58) hx hb hts hown hK hW0 fnX0_172 1 (by decide) rfl rfl (x := .ref (b0 + 3)) (by first | rfl | exact congrArg (fun z => some (Value.ref z)) (by omega)) dX0_byWeights_58 ?_
      refine lv_iload (pc := 61) hx hb dX0_byWeights_61 (lv_at hl 5 rfl) ?_
      obtain ⟨hg4, hm⟩ := gb_some hm
      have hlt5 := inR_lt hg4
      refine rk_aald (pc := 63) hx hb hK hW0 3 5 (by decide) rfl rfl rfl hg4 (x := (b0 + (7 + 2 * i6.toNatClampNeg + 0))) (by first | rfl | exact congrArg some (by omega)) dX0_byWeights_63 ?_
      refine lv_iload_n (pc := 64) hx hb dX0_byWeights_64 rfl (lv_at hl 3 rfl) ?_
      obtain ⟨r6, hq7, hm⟩ := ob_some hm
      refine rk_PV (pc := 65) (As := [.int i3]) (rest := [.long (gL V0 (74 + 3 * n1 + 2) i6.toNatClampNeg), .long j4]) hx hb hml hown hts hK lkX0_305 rfl yn_X2_points (ct_X2_points (G := G) (l := l) (b0 := (b0 + (7 + 2 * i6.toNatClampNeg + 0))) hq7) ⟨Nat.le_of_ble_eq_true rfl, Nat.le_of_ble_eq_true rfl⟩ (rk_recv hK hW0 (7 + 2 * i6.toNatClampNeg + 0) (by omega) rfl rfl ((shX0_f7 G.2.1 hlt5 _ rfl 0 (by decide) _ _ _).trans rfl)) (rg_sub (d := (7 + 2 * i6.toNatClampNeg)) hW0 rfl (by omega) (fun o ho x y z => shX0_f7 G.2.1 hlt5 _ rfl o ho x y z)) rfl rfl hl.1 (Nat.le_of_ble_eq_true rfl) dX0_byWeights_65 ⟨Nat.zero_le _, Nat.zero_le _⟩ ?_
      refine W.eq (g2 := F0 m 68 ls [.long r6, .long (gL V0 (74 + 3 * n1 + 2) i6.toNatClampNeg), .long j4]) rfl ?_
      refine lv_lmul (pc := 68) hx hb dX0_byWeights_68 ?_
      refine lv_ladd (pc := 69) hx hb dX0_byWeights_69 ?_
      refine lv_lstore (pc := 70) (lv' := [(4, .long (j4 + ((gL V0 (74 + 3 * n1 + 2) i6.toNatClampNeg) * r6))), (0, .ref b0), (1, .ref (b0 + (74 + 3 * n1 + 0))), (2, .int i2), (3, .int i3), (6, .int i6)]) hx hb dX0_byWeights_70 hl (by decide) rfl (fun ls hl => ?_)
      refine lv_iinc (pc := 72) (v := (i6 + (1 : Int32))) (lv' := [(6, .int (i6 + (1 : Int32))), (4, .long (j4 + ((gL V0 (74 + 3 * n1 + 2) i6.toNatClampNeg) * r6))), (0, .ref b0), (1, .ref (b0 + (74 + 3 * n1 + 0))), (2, .int i2), (3, .int i3)]) hx hb dX0_byWeights_72 hl (k := 5) rfl rfl (by decide) rfl (fun ls hl => ?_)
      refine lv_goto (pc := 75) (tgt := 6) hx hb dX0_byWeights_75 (by decide) ?_
      exact hk6 i2 i3 (j4 + ((gL V0 (74 + 3 * n1 + 2) i6.toNatClampNeg) * r6)) (i6 + (1 : Int32)) hm ls (lv_sub hl [2, 3, 4, 5, 1, 0] rfl)
    · have hm := ite_t c3 hm
      refine lv_aload_n (pc := 38) hx hb dX0_byWeights_38 rfl (lv_at hl 0 rfl) ?_
      refine rk_get (pc := 39) hx hb hts hown hK hW0 flX0_12 0 (by decide) rfl rfl (x := .ref (b0 + 1)) (by first | rfl | exact congrArg (fun z => some (Value.ref z)) (by omega)) dX0_byWeights_39 ?_
      refine rk_getN (pc := 42) hx hb hts hown hK hW0 fnX0_172 1 (by decide) rfl rfl (x := .ref (b0 + 3)) (by first | rfl | exact congrArg (fun z => some (Value.ref z)) (by omega)) dX0_byWeights_42 ?_
      refine lv_iload (pc := 45) hx hb dX0_byWeights_45 (lv_at hl 5 rfl) ?_
      obtain ⟨hg8, hm⟩ := gb_some hm
      have hlt9 := inR_lt hg8
      refine rk_aald (pc := 47) hx hb hK hW0 3 5 (by decide) rfl rfl rfl hg8 (x := (b0 + (7 + 2 * i6.toNatClampNeg + 0))) (by first | rfl | exact congrArg some (by omega)) dX0_byWeights_47 ?_
      obtain ⟨r10, hq11, hm⟩ := ob_some hm
      refine rk_PV (pc := 48) (As := []) (rest := [.long (gL V0 (74 + 3 * n1 + 2) i6.toNatClampNeg), .long j4]) hx hb hml hown hts hK lkX0_302 rfl yn_X2_limit (ct_X2_limit (G := G) (l := l) (b0 := (b0 + (7 + 2 * i6.toNatClampNeg + 0))) hq11) ⟨Nat.le_of_ble_eq_true rfl, Nat.le_of_ble_eq_true rfl⟩ (rk_recv hK hW0 (7 + 2 * i6.toNatClampNeg + 0) (by omega) rfl rfl ((shX0_f7 G.2.1 hlt9 _ rfl 0 (by decide) _ _ _).trans rfl)) (rg_sub (d := (7 + 2 * i6.toNatClampNeg)) hW0 rfl (by omega) (fun o ho x y z => shX0_f7 G.2.1 hlt9 _ rfl o ho x y z)) rfl rfl hl.1 (Nat.le_of_ble_eq_true rfl) dX0_byWeights_48 ⟨Nat.zero_le _, Nat.zero_le _⟩ ?_
      refine W.eq (g2 := F0 m 51 ls [.long r10, .long (gL V0 (74 + 3 * n1 + 2) i6.toNatClampNeg), .long j4]) rfl ?_
      refine lv_goto (pc := 51) (tgt := 68) hx hb dX0_byWeights_51 (by decide) ?_
      refine lv_lmul (pc := 68) hx hb dX0_byWeights_68 ?_
      refine lv_ladd (pc := 69) hx hb dX0_byWeights_69 ?_
      refine lv_lstore (pc := 70) (lv' := [(4, .long (j4 + ((gL V0 (74 + 3 * n1 + 2) i6.toNatClampNeg) * r10))), (0, .ref b0), (1, .ref (b0 + (74 + 3 * n1 + 0))), (2, .int i2), (3, .int i3), (6, .int i6)]) hx hb dX0_byWeights_70 hl (by decide) rfl (fun ls hl => ?_)
      refine lv_iinc (pc := 72) (v := (i6 + (1 : Int32))) (lv' := [(6, .int (i6 + (1 : Int32))), (4, .long (j4 + ((gL V0 (74 + 3 * n1 + 2) i6.toNatClampNeg) * r10))), (0, .ref b0), (1, .ref (b0 + (74 + 3 * n1 + 0))), (2, .int i2), (3, .int i3)]) hx hb dX0_byWeights_72 hl (k := 5) rfl rfl (by decide) rfl (fun ls hl => ?_)
      refine lv_goto (pc := 75) (tgt := 6) hx hb dX0_byWeights_75 (by decide) ?_
      exact hk6 i2 i3 (j4 + ((gL V0 (74 + 3 * n1 + 2) i6.toNatClampNeg) * r10)) (i6 + (1 : Int32)) hm ls (lv_sub hl [2, 3, 4, 5, 1, 0] rfl)
theorem w_fX0_byWeights_6_l (C : Cx G p s m args meth c RX0 cX0_byWeights 7 (some .long)) {b0 : Nat} {V0 : Mem} {n1 : Nat} {rx : Int64} (hW0 : rg G b0 357 (shX0 G.2.1) V0 s.heap) (hn1 : n1 < 12) : ∀ (n : Nat) (i2 : Int32) (i3 : Int32) (j4 : Int64) (i6 : Int32), lq4 (fX0_byWeights_6 V0 n1) n i2 i3 j4 i6 = some rx → ∀ (ls : Array Slot), lv_has ls 7 [(0, .ref b0), (1, .ref (b0 + (74 + 3 * n1 + 0))), (2, .int i2), (3, .int i3), (4, .long j4), (6, .int i6)] → W p l e (rmP 1 25) s m args below meth c s.heap [] 0 0 (MQ below (QcP (some (.long rx))) args s 0 0 (fun _ => False)) (F0 m 6 ls []) := by
  intro n
  induction n with
  | zero => intro i2 i3 j4 i6 hm; exact (lq4_0 hm).elim
  | succ n ih => intro i2 i3 j4 i6 hm; exact w_fX0_byWeights_6 C hW0 hn1 ih i2 i3 j4 i6 (lq4_s hm)
set_option maxHeartbeats 4000000 in
theorem w_fX0_byWeights (C : Cx G p s m args meth c RX0 cX0_byWeights 7 (some .long)) {b0 : Nat} {V0 : Mem} {n1 : Nat} {rx : Int64} (hW0 : rg G b0 357 (shX0 G.2.1) V0 s.heap) (hn1 : n1 < 12) : ∀ (i2 : Int32) (i3 : Int32), fX0_byWeights V0 n1 i2 i3 = some rx → ∀ (ls : Array Slot), lv_has ls 7 [(0, .ref b0), (1, .ref (b0 + (74 + 3 * n1 + 0))), (2, .int i2), (3, .int i3)] → W p l e (rmP 1 25) s m args below meth c s.heap [] 0 0 (MQ below (QcP (some (.long rx))) args s 0 0 (fun _ => False)) (F0 m 0 ls []) := by
  intro i2 i3 hm ls hl
  obtain ⟨hx, hb, hr, hlk, hml, hown, hts, hK⟩ := id C
  unfold fX0_byWeights at hm
  refine lv_lconst (pc := 0) (v := (0 : Int64)) hx hb dX0_byWeights_0 (by decide) ?_
  refine lv_lstore (pc := 1) (lv' := [(4, .long (0 : Int64)), (0, .ref b0), (1, .ref (b0 + (74 + 3 * n1 + 0))), (2, .int i2), (3, .int i3)]) hx hb dX0_byWeights_1 hl (by decide) rfl (fun ls hl => ?_)
  refine lv_iconst (pc := 3) (v := (0 : Int32)) hx hb dX0_byWeights_3 (by decide) ?_
  refine lv_istore (pc := 4) (lv' := [(6, .int (0 : Int32)), (4, .long (0 : Int64)), (0, .ref b0), (1, .ref (b0 + (74 + 3 * n1 + 0))), (2, .int i2), (3, .int i3)]) hx hb dX0_byWeights_4 hl (by decide) rfl (fun ls hl => ?_)
  exact (w_fX0_byWeights_6_l C hW0 hn1 FU) i2 i3 (0 : Int64) (0 : Int32) hm ls (lv_sub hl [2, 3, 4, 5, 1, 0] rfl)
set_option maxHeartbeats 4000000 in
theorem ct_X0_byWeights {G : Gv} {l : Launch} {b0 : Nat} {V0 : Mem} {n1 : Nat} {i2 : Int32} {i3 : Int32} {rx : Int64} (hm : fX0_byWeights V0 n1 i2 i3 = some rx) (hn1 : n1 < 12) : CP G l yX0_byWeights (ws_ yX0_byWeights cX0_byWeights 7 (some .long)) 1 25 [.ref b0, .ref (b0 + (74 + 3 * n1 + 0)), .int i2, .int i3] (fun H => rg G b0 357 (shX0 G.2.1) V0 H) (some (.long rx)) := by
  refine Met.ofW (cc := cX0_byWeights) (maxL := 7) (ret := (some .long)) (by decide +kernel) rfl ?_
  intro p e s m args below meth c s₁ B hml hv
  obtain ⟨rfl, hW0, hK⟩ := hv
  have hts := atoms_spec (ws := ws_ yX0_byWeights cX0_byWeights 7 (some .long)) B.pre
  have hts : ∀ w ∈ lw_all, w.before _ s = true := fun w h => hts w (List.mem_cons_of_mem _ h)
  have C : Cx G p s m _ meth c RX0 cX0_byWeights 7 (some .long) := ⟨B.exec, B.bytes, B.returns, B.notSynchronized, hml, findClass_of_methodNamed B.named, hts, hK⟩
  have hl := lv_entry ([.ref b0, .ref (b0 + (74 + 3 * n1 + 0)), .int i2, .int i3]) (n := 7) (Nat.le_of_ble_eq_true rfl)
  rw [lg_entry_eq]
  generalize (lg_sl ([.ref b0, .ref (b0 + (74 + 3 * n1 + 0)), .int i2, .int i3]) ++ List.replicate (7 - (lg_sl ([.ref b0, .ref (b0 + (74 + 3 * n1 + 0)), .int i2, .int i3])).length) Slot.unset).toArray = ls at hl ⊢
  have hl : lv_has ls 7 [(0, .ref b0), (1, .ref (b0 + (74 + 3 * n1 + 0))), (2, .int i2), (3, .int i3)] := hl
  exact w_fX0_byWeights C hW0 hn1 _ _ hm ls hl
theorem yn_X0_byWeights : YN yX0_byWeights 3 := by
  unfold YN
  decide +kernel
theorem lkX0_310 : LV RX0 310 RX0 yX0_byWeights cX0_byWeights 7 (some .long) := ⟨q948, q950, qs24, q114, q951⟩
noncomputable def fX0_proved_64 (V0 : Mem) (k22 : Int32 → Nat → Int32 → Option (Int32)) (i1 : Int32) (n2 : Nat) (i3 : Int32) (u0 : Int64) (u1 : Int64) : Option (Int32) :=
  if u0 = u1 then (
  k22 i1 n2 (i3 + (1 : Int32)))
  else (
  some (0 : Int32))
noncomputable def fX0_proved_22 (V0 : Mem) (k22 : Int32 → Nat → Int32 → Option (Int32)) (i1 : Int32) (n2 : Nat) (i3 : Int32) : Option (Int32) :=
  if (gI V0 1 0) < i3 then (
  some (1 : Int32))
  else (
  ob (fX0_byWeights V0 n2 i1 i3) fun r7 =>
  if i3 = (gI V0 1 0) then (
  fX0_proved_64 V0 k22 i1 n2 i3 r7 (gL V0 (74 + 3 * n2 + 0) 1))
  else (
  gb (inR i3 5) (
  fX0_proved_64 V0 k22 i1 n2 i3 r7 (gL V0 (74 + 3 * n2 + 1) i3.toNatClampNeg))))
noncomputable def fX0_proved (V0 : Mem) (i1 : Int32) : Option (Int32) :=
  ob (fX0_isCut V0 i1) fun r1 =>
  if r1 = 0 then (
  some (-1 : Int32))
  else (
  gb (inR i1 12) (
  lq3 (fX0_proved_22 V0) FU i1 i1.toNatClampNeg (0 : Int32)))
set_option maxHeartbeats 4000000 in
theorem w_fX0_proved_64 (C : Cx G p s m args meth c RX0 cX0_proved 4 (some .int)) {b0 : Nat} {V0 : Mem} {rx : Int32} (hW0 : rg G b0 357 (shX0 G.2.1) V0 s.heap) {k22 : Int32 → Nat → Int32 → Option (Int32)} (hk22 : ∀ (i1 : Int32) (n2 : Nat) (i3 : Int32), k22 i1 n2 i3 = some rx → (hn_n2 : n2 < 12) → ∀ (ls : Array Slot), lv_has ls 4 [(0, .ref b0), (1, .int i1), (2, .ref (b0 + (74 + 3 * n2 + 0))), (3, .int i3)] → W p l e (rmP 2 51) s m args below meth c s.heap [] 0 0 (MQ below (QcP (some (.int rx))) args s 0 0 (fun _ => False)) (F0 m 22 ls [])) : ∀ (i1 : Int32) (n2 : Nat) (i3 : Int32) (u0 : Int64) (u1 : Int64), fX0_proved_64 V0 k22 i1 n2 i3 u0 u1 = some rx → (hn_n2 : n2 < 12) → ∀ (ls : Array Slot), lv_has ls 4 [(0, .ref b0), (1, .int i1), (2, .ref (b0 + (74 + 3 * n2 + 0))), (3, .int i3)] → W p l e (rmP 2 51) s m args below meth c s.heap [] 0 0 (MQ below (QcP (some (.int rx))) args s 0 0 (fun _ => False)) (F0 m 64 ls [.long u1, .long u0]) := by
  intro i1 n2 i3 u0 u1 hm hn_n2 ls hl
  obtain ⟨hx, hb, hr, hlk, hml, hown, hts, hK⟩ := id C
  unfold fX0_proved_64 at hm
  refine rk_lcmp_eq (pc := 64) (tgt := 70) hx hb dX0_proved_64 rfl dX0_proved_65 (by decide) (fun c11 => ?_) (fun c11 => ?_)
  · have hm := ite_t c11 hm
    refine lv_iinc (pc := 70) (v := (i3 + (1 : Int32))) (lv' := [(3, .int (i3 + (1 : Int32))), (0, .ref b0), (1, .int i1), (2, .ref (b0 + (74 + 3 * n2 + 0)))]) hx hb dX0_proved_70 hl (k := 3) rfl rfl (by decide) rfl (fun ls hl => ?_)
    refine lv_goto (pc := 73) (tgt := 22) hx hb dX0_proved_73 (by decide) ?_
    exact hk22 i1 n2 (i3 + (1 : Int32)) hm hn_n2 ls (lv_sub hl [1, 2, 3, 0] rfl)
  · have hm := ite_f c11 hm
    refine lv_iconst (pc := 68) (v := (0 : Int32)) hx hb dX0_proved_68 (by decide) ?_
    have e9 := rs1 hm
    subst e9
    exact rk_iretP (pc := 69) hx hb hr hlk rfl dX0_proved_69
set_option maxHeartbeats 4000000 in
theorem w_fX0_proved_22 (C : Cx G p s m args meth c RX0 cX0_proved 4 (some .int)) {b0 : Nat} {V0 : Mem} {rx : Int32} (hW0 : rg G b0 357 (shX0 G.2.1) V0 s.heap) {k22 : Int32 → Nat → Int32 → Option (Int32)} (hk22 : ∀ (i1 : Int32) (n2 : Nat) (i3 : Int32), k22 i1 n2 i3 = some rx → (hn_n2 : n2 < 12) → ∀ (ls : Array Slot), lv_has ls 4 [(0, .ref b0), (1, .int i1), (2, .ref (b0 + (74 + 3 * n2 + 0))), (3, .int i3)] → W p l e (rmP 2 51) s m args below meth c s.heap [] 0 0 (MQ below (QcP (some (.int rx))) args s 0 0 (fun _ => False)) (F0 m 22 ls [])) : ∀ (i1 : Int32) (n2 : Nat) (i3 : Int32), fX0_proved_22 V0 k22 i1 n2 i3 = some rx → (hn_n2 : n2 < 12) → ∀ (ls : Array Slot), lv_has ls 4 [(0, .ref b0), (1, .int i1), (2, .ref (b0 + (74 + 3 * n2 + 0))), (3, .int i3)] → W p l e (rmP 2 51) s m args below meth c s.heap [] 0 0 (MQ below (QcP (some (.int rx))) args s 0 0 (fun _ => False)) (F0 m 22 ls []) := by
  intro i1 n2 i3 hm hn_n2 ls hl
  obtain ⟨hx, hb, hr, hlk, hml, hown, hts, hK⟩ := id C
  unfold fX0_proved_22 at hm
  refine lv_iload_n (pc := 22) hx hb dX0_proved_22 rfl (lv_at hl 3 rfl) ?_
  refine lv_aload_n (pc := 23) hx hb dX0_proved_23 rfl (lv_at hl 0 rfl) ?_
  refine rk_get (pc := 24) hx hb hts hown hK hW0 flX0_12 0 (by decide) rfl rfl (x := .ref (b0 + 1)) (by first | rfl | exact congrArg (fun z => some (Value.ref z)) (by omega)) dX0_proved_24 ?_
  refine rk_getN (pc := 27) hx hb hts hown hK hW0 fnX0_131 1 (by decide) rfl rfl (x := .int (gI V0 1 0)) rfl dX0_proved_27 ?_
  refine lv_icmp_gt (pc := 30) (tgt := 76) hx hb dX0_proved_30 (by decide) (fun c6 => ?_) (fun c6 => ?_)
  · have hm := ite_t c6 hm
    refine lv_iconst (pc := 76) (v := (1 : Int32)) hx hb dX0_proved_76 (by decide) ?_
    have e9 := rs1 hm
    subst e9
    exact rk_iretP (pc := 77) hx hb hr hlk rfl dX0_proved_77
  · have hm := ite_f c6 hm
    refine lv_aload_n (pc := 33) hx hb dX0_proved_33 rfl (lv_at hl 0 rfl) ?_
    refine lv_aload_n (pc := 34) hx hb dX0_proved_34 rfl (lv_at hl 2 rfl) ?_
    refine lv_iload_n (pc := 35) hx hb dX0_proved_35 rfl (lv_at hl 1 rfl) ?_
    refine lv_iload_n (pc := 36) hx hb dX0_proved_36 rfl (lv_at hl 3 rfl) ?_
    obtain ⟨r7, hq8, hm⟩ := ob_some hm
    refine rk_PV (pc := 37) (As := [.ref (b0 + (74 + 3 * n2 + 0)), .int i1, .int i3]) (rest := []) hx hb hml hown hts hK lkX0_310 rfl yn_X0_byWeights (ct_X0_byWeights (G := G) (l := l) (b0 := b0) hq8 hn_n2) ⟨Nat.le_of_ble_eq_true rfl, Nat.le_of_ble_eq_true rfl⟩ (rk_recv hK hW0 0 (by decide) rfl rfl rfl) hW0 rfl rfl hl.1 (Nat.le_of_ble_eq_true rfl) dX0_proved_37 ⟨Nat.zero_le _, Nat.zero_le _⟩ ?_
    refine W.eq (g2 := F0 m 40 ls [.long r7]) rfl ?_
    refine lv_iload_n (pc := 40) hx hb dX0_proved_40 rfl (lv_at hl 3 rfl) ?_
    refine lv_aload_n (pc := 41) hx hb dX0_proved_41 rfl (lv_at hl 0 rfl) ?_
    refine rk_get (pc := 42) hx hb hts hown hK hW0 flX0_12 0 (by decide) rfl rfl (x := .ref (b0 + 1)) (by first | rfl | exact congrArg (fun z => some (Value.ref z)) (by omega)) dX0_proved_42 ?_
    refine rk_getN (pc := 45) hx hb hts hown hK hW0 fnX0_131 1 (by decide) rfl rfl (x := .int (gI V0 1 0)) rfl dX0_proved_45 ?_
    refine lv_icmp_ne (pc := 48) (tgt := 58) hx hb dX0_proved_48 (by decide) (fun c9 => ?_) (fun c9 => ?_)
    · have hm := ite_f c9 hm
      refine lv_aload_n (pc := 58) hx hb dX0_proved_58 rfl (lv_at hl 2 rfl) ?_
      refine rk_getN (pc := 59) hx hb hts hown hK hW0 fnX0_293 (74 + 3 * n2 + 0) (by omega) rfl ((shX0_f74 G.2.1 hn_n2 _ rfl 0 (by decide) _ _ _).trans rfl) (x := .ref (b0 + (74 + 3 * n2 + 1))) (by first | rfl | exact congrArg (fun z => some (Value.ref z)) (by omega)) dX0_proved_59 ?_
      refine lv_iload_n (pc := 62) hx hb dX0_proved_62 rfl (lv_at hl 3 rfl) ?_
      obtain ⟨hg10, hm⟩ := gb_some hm
      refine rk_lald (pc := 63) hx hb hK hW0 (74 + 3 * n2 + 1) (by omega) rfl ((shX0_f74 G.2.1 hn_n2 _ rfl 1 (by decide) _ _ _).trans rfl) hg10 (x := (gL V0 (74 + 3 * n2 + 1) i3.toNatClampNeg)) rfl dX0_proved_63 ?_
      exact (w_fX0_proved_64 C hW0 hk22) i1 n2 i3 r7 (gL V0 (74 + 3 * n2 + 1) i3.toNatClampNeg) hm hn_n2 ls (lv_sub hl [0, 1, 2, 3] rfl)
    · have hm := ite_t c9 hm
      refine lv_aload_n (pc := 51) hx hb dX0_proved_51 rfl (lv_at hl 2 rfl) ?_
      refine rk_getN (pc := 52) hx hb hts hown hK hW0 fnX0_288 (74 + 3 * n2 + 0) (by omega) rfl ((shX0_f74 G.2.1 hn_n2 _ rfl 0 (by decide) _ _ _).trans rfl) (x := .long (gL V0 (74 + 3 * n2 + 0) 1)) rfl dX0_proved_52 ?_
      refine lv_goto (pc := 55) (tgt := 64) hx hb dX0_proved_55 (by decide) ?_
      exact (w_fX0_proved_64 C hW0 hk22) i1 n2 i3 r7 (gL V0 (74 + 3 * n2 + 0) 1) hm hn_n2 ls (lv_sub hl [0, 1, 2, 3] rfl)
theorem w_fX0_proved_22_l (C : Cx G p s m args meth c RX0 cX0_proved 4 (some .int)) {b0 : Nat} {V0 : Mem} {rx : Int32} (hW0 : rg G b0 357 (shX0 G.2.1) V0 s.heap) : ∀ (n : Nat) (i1 : Int32) (n2 : Nat) (i3 : Int32), lq3 (fX0_proved_22 V0) n i1 n2 i3 = some rx → (hn_n2 : n2 < 12) → ∀ (ls : Array Slot), lv_has ls 4 [(0, .ref b0), (1, .int i1), (2, .ref (b0 + (74 + 3 * n2 + 0))), (3, .int i3)] → W p l e (rmP 2 51) s m args below meth c s.heap [] 0 0 (MQ below (QcP (some (.int rx))) args s 0 0 (fun _ => False)) (F0 m 22 ls []) := by
  intro n
  induction n with
  | zero => intro i1 n2 i3 hm; exact (lq3_0 hm).elim
  | succ n ih => intro i1 n2 i3 hm; exact w_fX0_proved_22 C hW0 ih i1 n2 i3 (lq3_s hm)
set_option maxHeartbeats 4000000 in
theorem w_fX0_proved (C : Cx G p s m args meth c RX0 cX0_proved 4 (some .int)) {b0 : Nat} {V0 : Mem} {rx : Int32} (hW0 : rg G b0 357 (shX0 G.2.1) V0 s.heap) : ∀ (i1 : Int32), fX0_proved V0 i1 = some rx → ∀ (ls : Array Slot), lv_has ls 4 [(0, .ref b0), (1, .int i1)] → W p l e (rmP 2 51) s m args below meth c s.heap [] 0 0 (MQ below (QcP (some (.int rx))) args s 0 0 (fun _ => False)) (F0 m 0 ls []) := by
  intro i1 hm ls hl
  obtain ⟨hx, hb, hr, hlk, hml, hown, hts, hK⟩ := id C
  unfold fX0_proved at hm
  refine lv_aload_n (pc := 0) hx hb dX0_proved_0 rfl (lv_at hl 0 rfl) ?_
  refine lv_iload_n (pc := 1) hx hb dX0_proved_1 rfl (lv_at hl 1 rfl) ?_
  obtain ⟨r1, hq2, hm⟩ := ob_some hm
  refine rk_PV (pc := 2) (As := [.int i1]) (rest := []) hx hb hml hown hts hK lkX0_281 rfl yn_X0_isCut (ct_X0_isCut (G := G) (l := l) (b0 := b0) hq2) ⟨Nat.le_of_ble_eq_true rfl, Nat.le_of_ble_eq_true rfl⟩ (rk_recv hK hW0 0 (by decide) rfl rfl rfl) hW0 rfl rfl hl.1 (Nat.le_of_ble_eq_true rfl) dX0_proved_2 ⟨Nat.zero_le _, Nat.zero_le _⟩ ?_
  refine W.eq (g2 := F0 m 5 ls [.int r1]) rfl ?_
  refine lv_if_ne (pc := 5) (tgt := 10) hx hb dX0_proved_5 (by decide) (fun c3 => ?_) (fun c3 => ?_)
  · have hm := ite_f c3 hm
    refine lv_aload_n (pc := 10) hx hb dX0_proved_10 rfl (lv_at hl 0 rfl) ?_
    refine rk_get (pc := 11) hx hb hts hown hK hW0 flX0_27 0 (by decide) rfl rfl (x := .ref (b0 + 67)) (by first | rfl | exact congrArg (fun z => some (Value.ref z)) (by omega)) dX0_proved_11 ?_
    refine rk_getN (pc := 14) hx hb hts hown hK hW0 fnX0_284 67 (by decide) rfl rfl (x := .ref (b0 + 73)) (by first | rfl | exact congrArg (fun z => some (Value.ref z)) (by omega)) dX0_proved_14 ?_
    refine lv_iload_n (pc := 17) hx hb dX0_proved_17 rfl (lv_at hl 1 rfl) ?_
    obtain ⟨hg4, hm⟩ := gb_some hm
    have hlt5 := inR_lt hg4
    refine rk_aald (pc := 18) hx hb hK hW0 73 6 (by decide) rfl rfl rfl hg4 (x := (b0 + (74 + 3 * i1.toNatClampNeg + 0))) (by first | rfl | exact congrArg some (by omega)) dX0_proved_18 ?_
    refine lv_astore_n (pc := 19) (lv' := [(2, .ref (b0 + (74 + 3 * i1.toNatClampNeg + 0))), (0, .ref b0), (1, .int i1)]) hx hb dX0_proved_19 rfl hl (by decide) rfl (fun ls hl => ?_)
    refine lv_iconst (pc := 20) (v := (0 : Int32)) hx hb dX0_proved_20 (by decide) ?_
    refine lv_istore_n (pc := 21) (lv' := [(3, .int (0 : Int32)), (2, .ref (b0 + (74 + 3 * i1.toNatClampNeg + 0))), (0, .ref b0), (1, .int i1)]) hx hb dX0_proved_21 rfl hl (by decide) rfl (fun ls hl => ?_)
    exact (w_fX0_proved_22_l C hW0 FU) i1 i1.toNatClampNeg (0 : Int32) hm hlt5 ls (lv_sub hl [2, 3, 1, 0] rfl)
  · have hm := ite_t c3 hm
    refine lv_iconst (pc := 8) (v := (-1 : Int32)) hx hb dX0_proved_8 (by decide) ?_
    have e9 := rs1 hm
    subst e9
    exact rk_iretP (pc := 9) hx hb hr hlk rfl dX0_proved_9
set_option maxHeartbeats 4000000 in
theorem ct_X0_proved {G : Gv} {l : Launch} {b0 : Nat} {V0 : Mem} {i1 : Int32} {rx : Int32} (hm : fX0_proved V0 i1 = some rx) : CP G l yX0_proved (ws_ yX0_proved cX0_proved 4 (some .int)) 2 51 [.ref b0, .int i1] (fun H => rg G b0 357 (shX0 G.2.1) V0 H) (some (.int rx)) := by
  refine Met.ofW (cc := cX0_proved) (maxL := 4) (ret := (some .int)) (by decide +kernel) rfl ?_
  intro p e s m args below meth c s₁ B hml hv
  obtain ⟨rfl, hW0, hK⟩ := hv
  have hts := atoms_spec (ws := ws_ yX0_proved cX0_proved 4 (some .int)) B.pre
  have hts : ∀ w ∈ lw_all, w.before _ s = true := fun w h => hts w (List.mem_cons_of_mem _ h)
  have C : Cx G p s m _ meth c RX0 cX0_proved 4 (some .int) := ⟨B.exec, B.bytes, B.returns, B.notSynchronized, hml, findClass_of_methodNamed B.named, hts, hK⟩
  have hl := lv_entry ([.ref b0, .int i1]) (n := 4) (Nat.le_of_ble_eq_true rfl)
  rw [lg_entry_eq]
  generalize (lg_sl ([.ref b0, .int i1]) ++ List.replicate (4 - (lg_sl ([.ref b0, .int i1])).length) Slot.unset).toArray = ls at hl ⊢
  have hl : lv_has ls 4 [(0, .ref b0), (1, .int i1)] := hl
  exact w_fX0_proved C hW0 _ hm ls hl
noncomputable def fX0_hand (v0 : Mem) (i1 : Int32) (i2 : Int32) : Option (Int32 × Mem) :=
  ob (fX1_hasRule (shf v0 1) i1) fun r1 =>
  if r1 = 0 then (
  some ((-1 : Int32), v0))
  else (
  ob (fX0_in i2.toInt64 (0 : Int64) (9 : Int64)) fun r4 =>
  if r4 = 0 then (
  some ((-2 : Int32), v0))
  else (
  gb (inR i1 8) (
  gb (inR i1 8) (
  lm (sI v0 4 i1.toNatClampNeg i2) fun v0_9 =>
  some ((gI v0 4 i1.toNatClampNeg), v0_9)))))
set_option maxHeartbeats 4000000 in
theorem w_fX0_hand (C : Cx G p s m args meth c RX0 cX0_hand 4 (some .int)) {b0 : Nat} {rx : Int32} {rw0 : Mem} : ∀ (v0 : Mem) (i1 : Int32) (i2 : Int32), fX0_hand v0 i1 i2 = some (rx, rw0) → ∀ (H : Heap) (locs : List Loc) (ls : Array Slot), rg G b0 357 (shX0 G.2.1) v0 H → va_S (FA (fX b0) s.heap.size) s.heap H locs → H.size = s.heap.size → lv_has ls 4 [(0, .ref b0), (1, .int i1), (2, .int i2)] → W p l e (rmT 2 0 0 46) s m args below meth c H locs 0 0 (MQ below (QcT (FA (fX b0) s.heap.size) (fun ov H => ov = (some (.int rx)) ∧ rg G b0 357 (shX0 G.2.1) rw0 H ∧ H.size = s.heap.size)) args s 0 0 (FA (fX b0) s.heap.size)) (F0 m 0 ls []) := by
  intro v0 i1 i2 hm H locs ls hW0 hS hz hl
  obtain ⟨hx, hb, hr, hlk, hml, hown, hts, hK⟩ := id C
  unfold fX0_hand at hm
  refine lv_aload_n (pc := 0) hx hb dX0_hand_0 rfl (lv_at hl 0 rfl) ?_
  refine rk_get (pc := 1) hx hb hts hown hK hW0 flX0_12 0 (by decide) rfl rfl (x := .ref (b0 + 1)) (by first | rfl | exact congrArg (fun z => some (Value.ref z)) (by omega)) dX0_hand_1 ?_
  refine lv_iload_n (pc := 4) hx hb dX0_hand_4 rfl (lv_at hl 1 rfl) ?_
  obtain ⟨r1, hq2, hm⟩ := ob_some hm
  refine rk_PV (pc := 5) (As := [.int i1]) (rest := []) hx hb hml hown hts hK lkX0_165 rfl yn_X1_hasRule (ct_X1_hasRule (G := G) (l := l) (b0 := (b0 + 1)) hq2) ⟨Nat.le_of_ble_eq_true rfl, Nat.le_of_ble_eq_true rfl⟩ (rk_recv hK hW0 1 (by decide) rfl rfl rfl) (rg_sub hW0 rfl (by decide) (fun o ho x y z => shX0_n1 G.2.1 _ rfl o ho x y z)) rfl rfl hl.1 (Nat.le_of_ble_eq_true rfl) dX0_hand_5 ⟨Nat.zero_le _, Nat.zero_le _⟩ ?_
  refine W.eq (g2 := F0 m 8 ls [.int r1]) rfl ?_
  refine lv_if_ne (pc := 8) (tgt := 13) hx hb dX0_hand_8 (by decide) (fun c3 => ?_) (fun c3 => ?_)
  · have hm := ite_f c3 hm
    refine lv_iload_n (pc := 13) hx hb dX0_hand_13 rfl (lv_at hl 2 rfl) ?_
    refine lv_i2l (pc := 14) hx hb dX0_hand_14 rfl ?_
    refine lv_lconst (pc := 15) (v := (0 : Int64)) hx hb dX0_hand_15 (by decide) ?_
    refine lv_ldc2 (pc := 16) (v := (9 : Int64)) hx hb hown (hts _ q616) dX0_hand_16 ?_
    obtain ⟨r4, hq5, hm⟩ := ob_some hm
    refine rk_PS (pc := 19) (As := [.long i2.toInt64, .long (0 : Int64), .long (9 : Int64)]) (rest := []) hx hb hml hown hts hK lkX0_127 yn_X0_in (ct_X0_in (G := G) (l := l) hq5) ⟨Nat.le_of_ble_eq_true rfl, Nat.le_of_ble_eq_true rfl⟩ trivial rfl rfl hl.1 (Nat.le_of_ble_eq_true rfl) dX0_hand_19 ⟨Nat.zero_le _, Nat.zero_le _⟩ ?_
    refine W.eq (g2 := F0 m 22 ls [.int r4]) rfl ?_
    refine lv_if_ne (pc := 22) (tgt := 28) hx hb dX0_hand_22 (by decide) (fun c6 => ?_) (fun c6 => ?_)
    · have hm := ite_f c6 hm
      refine lv_aload_n (pc := 28) hx hb dX0_hand_28 rfl (lv_at hl 0 rfl) ?_
      refine rk_get (pc := 29) hx hb hts hown hK hW0 flX0_12 0 (by decide) rfl rfl (x := .ref (b0 + 1)) (by first | rfl | exact congrArg (fun z => some (Value.ref z)) (by omega)) dX0_hand_29 ?_
      refine rk_getN (pc := 32) hx hb hts hown hK hW0 fnX0_184 1 (by decide) rfl rfl (x := .ref (b0 + 4)) (by first | rfl | exact congrArg (fun z => some (Value.ref z)) (by omega)) dX0_hand_32 ?_
      refine lv_iload_n (pc := 35) hx hb dX0_hand_35 rfl (lv_at hl 1 rfl) ?_
      obtain ⟨hg7, hm⟩ := gb_some hm
      refine rk_iald (pc := 36) hx hb hK hW0 4 (by decide) rfl rfl hg7 (x := (gI v0 4 i1.toNatClampNeg)) rfl dX0_hand_36 ?_
      refine lv_istore_n (pc := 37) (lv' := [(3, .int (gI v0 4 i1.toNatClampNeg)), (0, .ref b0), (1, .int i1), (2, .int i2)]) hx hb dX0_hand_37 rfl hl (by decide) rfl (fun ls hl => ?_)
      refine lv_aload_n (pc := 38) hx hb dX0_hand_38 rfl (lv_at hl 1 rfl) ?_
      refine rk_get (pc := 39) hx hb hts hown hK hW0 flX0_12 0 (by decide) rfl rfl (x := .ref (b0 + 1)) (by first | rfl | exact congrArg (fun z => some (Value.ref z)) (by omega)) dX0_hand_39 ?_
      refine rk_getN (pc := 42) hx hb hts hown hK hW0 fnX0_184 1 (by decide) rfl rfl (x := .ref (b0 + 4)) (by first | rfl | exact congrArg (fun z => some (Value.ref z)) (by omega)) dX0_hand_42 ?_
      refine lv_iload_n (pc := 45) hx hb dX0_hand_45 rfl (lv_at hl 2 rfl) ?_
      refine lv_iload_n (pc := 46) hx hb dX0_hand_46 rfl (lv_at hl 3 rfl) ?_
      obtain ⟨hg8, hm⟩ := gb_some hm
      refine rk_iast (pc := 47) hx hb hK hW0 hS 4 (by decide) rfl (Or.inl (show fX _ _ from ⟨⟨by omega, by omega⟩, by omega⟩)) (fun _ _ _ => rfl) hg8 dX0_hand_47 (fun H10 locs11 hW12 hS13 hz14 hkp15 => ?_)
      obtain ⟨v0_9, he9, hm⟩ := lm_some hm
      rw [he9] at hW12
      have hz16 := hz14.trans hz
      refine lv_iload_n (pc := 48) hx hb dX0_hand_48 rfl (lv_at hl 0 rfl) ?_
      obtain ⟨e8, e9⟩ := rs2 hm
      subst e8
      subst e9
      exact rk_iret (pc := 49) hx hb hr hlk hS13 ⟨rfl, hW12, hz16⟩ dX0_hand_49
    · have hm := ite_t c6 hm
      refine lv_bipush (pc := 25) (v := (-2 : Int32)) hx hb dX0_hand_25 (by decide) ?_
      obtain ⟨e8, e9⟩ := rs2 hm
      subst e8
      subst e9
      exact rk_iret (pc := 27) hx hb hr hlk hS ⟨rfl, hW0, hz⟩ dX0_hand_27
  · have hm := ite_t c3 hm
    refine lv_iconst (pc := 11) (v := (-1 : Int32)) hx hb dX0_hand_11 (by decide) ?_
    obtain ⟨e8, e9⟩ := rs2 hm
    subst e8
    subst e9
    exact rk_iret (pc := 12) hx hb hr hlk hS ⟨rfl, hW0, hz⟩ dX0_hand_12
set_option maxHeartbeats 4000000 in
theorem ct_X0_hand {G : Gv} {l : Launch} {b0 : Nat} {v0 : Mem} {i1 : Int32} {i2 : Int32} {rx : Int32} {rw0 : Mem} {sz : Nat} (hm : fX0_hand v0 i1 i2 = some (rx, rw0)) : CT G l yX0_hand (ws_ yX0_hand cX0_hand 4 (some .int)) 2 0 0 46 [.ref b0, .int i1, .int i2] (fX b0) sz (fun H => rg G b0 357 (shX0 G.2.1) v0 H) (fun ov H => ov = (some (.int rx)) ∧ rg G b0 357 (shX0 G.2.1) rw0 H ∧ H.size = sz) := by
  refine Met.ofW (cc := cX0_hand) (maxL := 4) (ret := (some .int)) (by decide +kernel) rfl ?_
  intro p e s m args below meth c s₁ B hml hv
  obtain ⟨rfl, ⟨hz, hW0⟩, hK⟩ := hv
  subst hz
  have hts := atoms_spec (ws := ws_ yX0_hand cX0_hand 4 (some .int)) B.pre
  have hts : ∀ w ∈ lw_all, w.before _ s = true := fun w h => hts w (List.mem_cons_of_mem _ h)
  have C : Cx G p s m _ meth c RX0 cX0_hand 4 (some .int) := ⟨B.exec, B.bytes, B.returns, B.notSynchronized, hml, findClass_of_methodNamed B.named, hts, hK⟩
  have hl := lv_entry ([.ref b0, .int i1, .int i2]) (n := 4) (Nat.le_of_ble_eq_true rfl)
  rw [lg_entry_eq]
  generalize (lg_sl ([.ref b0, .int i1, .int i2]) ++ List.replicate (4 - (lg_sl ([.ref b0, .int i1, .int i2])).length) Slot.unset).toArray = ls at hl ⊢
  have hl : lv_has ls 4 [(0, .ref b0), (1, .int i1), (2, .int i2)] := hl
  exact w_fX0_hand C _ _ _ hm s.heap [] ls hW0 va_S.rf rfl hl
theorem fnX0_316 : FN RX0 316 1 2 RX1 TX1 11 "WholePacks" := ⟨in_X1, rfl, by decide, q198⟩
noncomputable def fX0_by (v0 : Mem) (i1 : Int32) : Option (Int32 × Mem) :=
  ob (fX0_in i1.toInt64 (1 : Int64) (10 : Int64)) fun r1 =>
  if r1 = 0 then (
  some ((-2 : Int32), v0))
  else (
  lm (sI v0 1 2 i1) fun v0_4 =>
  some ((gI v0 1 2), v0_4))
set_option maxHeartbeats 4000000 in
theorem w_fX0_by (C : Cx G p s m args meth c RX0 cX0_by 3 (some .int)) {b0 : Nat} {rx : Int32} {rw0 : Mem} : ∀ (v0 : Mem) (i1 : Int32), fX0_by v0 i1 = some (rx, rw0) → ∀ (H : Heap) (locs : List Loc) (ls : Array Slot), rg G b0 357 (shX0 G.2.1) v0 H → va_S (FA (fX b0) s.heap.size) s.heap H locs → H.size = s.heap.size → lv_has ls 3 [(0, .ref b0), (1, .int i1)] → W p l e (rmT 1 0 0 25) s m args below meth c H locs 0 0 (MQ below (QcT (FA (fX b0) s.heap.size) (fun ov H => ov = (some (.int rx)) ∧ rg G b0 357 (shX0 G.2.1) rw0 H ∧ H.size = s.heap.size)) args s 0 0 (FA (fX b0) s.heap.size)) (F0 m 0 ls []) := by
  intro v0 i1 hm H locs ls hW0 hS hz hl
  obtain ⟨hx, hb, hr, hlk, hml, hown, hts, hK⟩ := id C
  unfold fX0_by at hm
  refine lv_iload_n (pc := 0) hx hb dX0_by_0 rfl (lv_at hl 1 rfl) ?_
  refine lv_i2l (pc := 1) hx hb dX0_by_1 rfl ?_
  refine lv_lconst (pc := 2) (v := (1 : Int64)) hx hb dX0_by_2 (by decide) ?_
  refine lv_ldc2 (pc := 3) (v := (10 : Int64)) hx hb hown (hts _ q963) dX0_by_3 ?_
  obtain ⟨r1, hq2, hm⟩ := ob_some hm
  refine rk_PS (pc := 6) (As := [.long i1.toInt64, .long (1 : Int64), .long (10 : Int64)]) (rest := []) hx hb hml hown hts hK lkX0_127 yn_X0_in (ct_X0_in (G := G) (l := l) hq2) ⟨Nat.le_of_ble_eq_true rfl, Nat.le_of_ble_eq_true rfl⟩ trivial rfl rfl hl.1 (Nat.le_of_ble_eq_true rfl) dX0_by_6 ⟨Nat.zero_le _, Nat.zero_le _⟩ ?_
  refine W.eq (g2 := F0 m 9 ls [.int r1]) rfl ?_
  refine lv_if_ne (pc := 9) (tgt := 15) hx hb dX0_by_9 (by decide) (fun c3 => ?_) (fun c3 => ?_)
  · have hm := ite_f c3 hm
    refine lv_aload_n (pc := 15) hx hb dX0_by_15 rfl (lv_at hl 0 rfl) ?_
    refine rk_get (pc := 16) hx hb hts hown hK hW0 flX0_12 0 (by decide) rfl rfl (x := .ref (b0 + 1)) (by first | rfl | exact congrArg (fun z => some (Value.ref z)) (by omega)) dX0_by_16 ?_
    refine rk_getN (pc := 19) hx hb hts hown hK hW0 fnX0_316 1 (by decide) rfl rfl (x := .int (gI v0 1 2)) rfl dX0_by_19 ?_
    refine lv_istore_n (pc := 22) (lv' := [(2, .int (gI v0 1 2)), (0, .ref b0), (1, .int i1)]) hx hb dX0_by_22 rfl hl (by decide) rfl (fun ls hl => ?_)
    refine lv_aload_n (pc := 23) hx hb dX0_by_23 rfl (lv_at hl 1 rfl) ?_
    refine rk_get (pc := 24) hx hb hts hown hK hW0 flX0_12 0 (by decide) rfl rfl (x := .ref (b0 + 1)) (by first | rfl | exact congrArg (fun z => some (Value.ref z)) (by omega)) dX0_by_24 ?_
    refine lv_iload_n (pc := 27) hx hb dX0_by_27 rfl (lv_at hl 2 rfl) ?_
    refine rk_putN (pc := 28) hx hb hts hown hK hW0 hS fnX0_316 ft_X1 1 (by decide) rfl (Or.inl (show fX _ _ from ⟨⟨by omega, by omega⟩, by omega⟩)) rfl rfl (x := .int i1) rfl rfl (Nat.le_of_ble_eq_true rfl) (sI v0 1 2 i1) sI_ne (by rw [sI_eq]; exact rfl) dX0_by_28 (fun H5 locs6 hW7 hS8 hz9 hkp10 => ?_)
    obtain ⟨v0_4, he9, hm⟩ := lm_some hm
    rw [he9] at hW7
    have hz11 := hz9.trans hz
    refine lv_iload_n (pc := 31) hx hb dX0_by_31 rfl (lv_at hl 0 rfl) ?_
    obtain ⟨e8, e9⟩ := rs2 hm
    subst e8
    subst e9
    exact rk_iret (pc := 32) hx hb hr hlk hS8 ⟨rfl, hW7, hz11⟩ dX0_by_32
  · have hm := ite_t c3 hm
    refine lv_bipush (pc := 12) (v := (-2 : Int32)) hx hb dX0_by_12 (by decide) ?_
    obtain ⟨e8, e9⟩ := rs2 hm
    subst e8
    subst e9
    exact rk_iret (pc := 14) hx hb hr hlk hS ⟨rfl, hW0, hz⟩ dX0_by_14
set_option maxHeartbeats 4000000 in
theorem ct_X0_by {G : Gv} {l : Launch} {b0 : Nat} {v0 : Mem} {i1 : Int32} {rx : Int32} {rw0 : Mem} {sz : Nat} (hm : fX0_by v0 i1 = some (rx, rw0)) : CT G l yX0_by (ws_ yX0_by cX0_by 3 (some .int)) 1 0 0 25 [.ref b0, .int i1] (fX b0) sz (fun H => rg G b0 357 (shX0 G.2.1) v0 H) (fun ov H => ov = (some (.int rx)) ∧ rg G b0 357 (shX0 G.2.1) rw0 H ∧ H.size = sz) := by
  refine Met.ofW (cc := cX0_by) (maxL := 3) (ret := (some .int)) (by decide +kernel) rfl ?_
  intro p e s m args below meth c s₁ B hml hv
  obtain ⟨rfl, ⟨hz, hW0⟩, hK⟩ := hv
  subst hz
  have hts := atoms_spec (ws := ws_ yX0_by cX0_by 3 (some .int)) B.pre
  have hts : ∀ w ∈ lw_all, w.before _ s = true := fun w h => hts w (List.mem_cons_of_mem _ h)
  have C : Cx G p s m _ meth c RX0 cX0_by 3 (some .int) := ⟨B.exec, B.bytes, B.returns, B.notSynchronized, hml, findClass_of_methodNamed B.named, hts, hK⟩
  have hl := lv_entry ([.ref b0, .int i1]) (n := 3) (Nat.le_of_ble_eq_true rfl)
  rw [lg_entry_eq]
  generalize (lg_sl ([.ref b0, .int i1]) ++ List.replicate (3 - (lg_sl ([.ref b0, .int i1])).length) Slot.unset).toArray = ls at hl ⊢
  have hl : lv_has ls 3 [(0, .ref b0), (1, .int i1)] := hl
  exact w_fX0_by C _ _ hm s.heap [] ls hW0 va_S.rf rfl hl
theorem yn_X1_handPoints : YN yX1_handPoints 1 := by
  unfold YN
  decide +kernel
theorem lkX0_319 : LV RX0 319 RX1 yX1_handPoints cX1_handPoints 5 (some .long) := ⟨q968, q969, q970, q115, q971⟩
noncomputable def fX0_points (V0 : Mem) (i1 : Int32) : Option (Int64) :=
  ob (fX0_in i1.toInt64 (0 : Int64) (gI V0 1 0).toInt64) fun r1 =>
  if r1 = 0 then (
  some (-9223372036854775808 : Int64))
  else (
  ob (fX1_handPoints (shf V0 1) i1) fun r4 =>
  some r4)
set_option maxHeartbeats 4000000 in
theorem w_fX0_points (C : Cx G p s m args meth c RX0 cX0_points 2 (some .long)) {b0 : Nat} {V0 : Mem} {rx : Int64} (hW0 : rg G b0 357 (shX0 G.2.1) V0 s.heap) : ∀ (i1 : Int32), fX0_points V0 i1 = some rx → ∀ (ls : Array Slot), lv_has ls 2 [(0, .ref b0), (1, .int i1)] → W p l e (rmP 2 49) s m args below meth c s.heap [] 0 0 (MQ below (QcP (some (.long rx))) args s 0 0 (fun _ => False)) (F0 m 0 ls []) := by
  intro i1 hm ls hl
  obtain ⟨hx, hb, hr, hlk, hml, hown, hts, hK⟩ := id C
  unfold fX0_points at hm
  refine lv_iload_n (pc := 0) hx hb dX0_points_0 rfl (lv_at hl 1 rfl) ?_
  refine lv_i2l (pc := 1) hx hb dX0_points_1 rfl ?_
  refine lv_lconst (pc := 2) (v := (0 : Int64)) hx hb dX0_points_2 (by decide) ?_
  refine lv_aload_n (pc := 3) hx hb dX0_points_3 rfl (lv_at hl 0 rfl) ?_
  refine rk_get (pc := 4) hx hb hts hown hK hW0 flX0_12 0 (by decide) rfl rfl (x := .ref (b0 + 1)) (by first | rfl | exact congrArg (fun z => some (Value.ref z)) (by omega)) dX0_points_4 ?_
  refine rk_getN (pc := 7) hx hb hts hown hK hW0 fnX0_131 1 (by decide) rfl rfl (x := .int (gI V0 1 0)) rfl dX0_points_7 ?_
  refine lv_i2l (pc := 10) hx hb dX0_points_10 rfl ?_
  obtain ⟨r1, hq2, hm⟩ := ob_some hm
  refine rk_PS (pc := 11) (As := [.long i1.toInt64, .long (0 : Int64), .long (gI V0 1 0).toInt64]) (rest := []) hx hb hml hown hts hK lkX0_127 yn_X0_in (ct_X0_in (G := G) (l := l) hq2) ⟨Nat.le_of_ble_eq_true rfl, Nat.le_of_ble_eq_true rfl⟩ trivial rfl rfl hl.1 (Nat.le_of_ble_eq_true rfl) dX0_points_11 ⟨Nat.zero_le _, Nat.zero_le _⟩ ?_
  refine W.eq (g2 := F0 m 14 ls [.int r1]) rfl ?_
  refine lv_if_eq (pc := 14) (tgt := 28) hx hb dX0_points_14 (by decide) (fun c3 => ?_) (fun c3 => ?_)
  · have hm := ite_t c3 hm
    refine lv_ldc2 (pc := 28) (v := (-9223372036854775808 : Int64)) hx hb hown (hts _ q893) dX0_points_28 ?_
    have e9 := rs1 hm
    subst e9
    exact rk_lretP (pc := 31) hx hb hr hlk rfl dX0_points_31
  · have hm := ite_f c3 hm
    refine lv_aload_n (pc := 17) hx hb dX0_points_17 rfl (lv_at hl 0 rfl) ?_
    refine rk_get (pc := 18) hx hb hts hown hK hW0 flX0_12 0 (by decide) rfl rfl (x := .ref (b0 + 1)) (by first | rfl | exact congrArg (fun z => some (Value.ref z)) (by omega)) dX0_points_18 ?_
    refine lv_iload_n (pc := 21) hx hb dX0_points_21 rfl (lv_at hl 1 rfl) ?_
    obtain ⟨r4, hq5, hm⟩ := ob_some hm
    refine rk_PV (pc := 22) (As := [.int i1]) (rest := []) hx hb hml hown hts hK lkX0_319 rfl yn_X1_handPoints (ct_X1_handPoints (G := G) (l := l) (b0 := (b0 + 1)) hq5) ⟨Nat.le_of_ble_eq_true rfl, Nat.le_of_ble_eq_true rfl⟩ (rk_recv hK hW0 1 (by decide) rfl rfl rfl) (rg_sub hW0 rfl (by decide) (fun o ho x y z => shX0_n1 G.2.1 _ rfl o ho x y z)) rfl rfl hl.1 (Nat.le_of_ble_eq_true rfl) dX0_points_22 ⟨Nat.zero_le _, Nat.zero_le _⟩ ?_
    refine W.eq (g2 := F0 m 25 ls [.long r4]) rfl ?_
    refine lv_goto (pc := 25) (tgt := 31) hx hb dX0_points_25 (by decide) ?_
    have e9 := rs1 hm
    subst e9
    exact rk_lretP (pc := 31) hx hb hr hlk rfl dX0_points_31
set_option maxHeartbeats 4000000 in
theorem ct_X0_points {G : Gv} {l : Launch} {b0 : Nat} {V0 : Mem} {i1 : Int32} {rx : Int64} (hm : fX0_points V0 i1 = some rx) : CP G l yX0_points (ws_ yX0_points cX0_points 2 (some .long)) 2 49 [.ref b0, .int i1] (fun H => rg G b0 357 (shX0 G.2.1) V0 H) (some (.long rx)) := by
  refine Met.ofW (cc := cX0_points) (maxL := 2) (ret := (some .long)) (by decide +kernel) rfl ?_
  intro p e s m args below meth c s₁ B hml hv
  obtain ⟨rfl, hW0, hK⟩ := hv
  have hts := atoms_spec (ws := ws_ yX0_points cX0_points 2 (some .long)) B.pre
  have hts : ∀ w ∈ lw_all, w.before _ s = true := fun w h => hts w (List.mem_cons_of_mem _ h)
  have C : Cx G p s m _ meth c RX0 cX0_points 2 (some .long) := ⟨B.exec, B.bytes, B.returns, B.notSynchronized, hml, findClass_of_methodNamed B.named, hts, hK⟩
  have hl := lv_entry ([.ref b0, .int i1]) (n := 2) (Nat.le_of_ble_eq_true rfl)
  rw [lg_entry_eq]
  generalize (lg_sl ([.ref b0, .int i1]) ++ List.replicate (2 - (lg_sl ([.ref b0, .int i1])).length) Slot.unset).toArray = ls at hl ⊢
  have hl : lv_has ls 2 [(0, .ref b0), (1, .int i1)] := hl
  exact w_fX0_points C hW0 _ hm ls hl
noncomputable def fX0_bites_14 (V0 : Mem) (k14 : Int64 → Int32 → Option (Int32)) (j1 : Int64) (i3 : Int32) : Option (Int32) :=
  if (gI V0 1 0) ≤ i3 then (
  ob (fX1_handPoints (shf V0 1) (gI V0 1 0)) fun r3 =>
  if j1 ≤ (r3 * (gL V0 67 4)) then (
  some (0 : Int32))
  else (
  some (1 : Int32)))
  else (
  ob (fX1_handPoints (shf V0 1) i3) fun r6 =>
  ob (fX3_right (shf V0 67) i3) fun r8 =>
  k14 (j1 + (r6 * r8)) (i3 + (1 : Int32)))
noncomputable def fX0_bites (V0 : Mem) : Option (Int32) :=
  if (gI V0 0 6) = 0 then (
  some (-3 : Int32))
  else (
  lq2 (fX0_bites_14 V0) FU (0 : Int64) (0 : Int32))
set_option maxHeartbeats 4000000 in
theorem w_fX0_bites_14 (C : Cx G p s m args meth c RX0 cX0_bites 4 (some .int)) {b0 : Nat} {V0 : Mem} {rx : Int32} (hW0 : rg G b0 357 (shX0 G.2.1) V0 s.heap) {k14 : Int64 → Int32 → Option (Int32)} (hk14 : ∀ (j1 : Int64) (i3 : Int32), k14 j1 i3 = some rx → ∀ (ls : Array Slot), lv_has ls 4 [(0, .ref b0), (1, .long j1), (3, .int i3)] → W p l e (rmP 2 49) s m args below meth c s.heap [] 0 0 (MQ below (QcP (some (.int rx))) args s 0 0 (fun _ => False)) (F0 m 14 ls [])) : ∀ (j1 : Int64) (i3 : Int32), fX0_bites_14 V0 k14 j1 i3 = some rx → ∀ (ls : Array Slot), lv_has ls 4 [(0, .ref b0), (1, .long j1), (3, .int i3)] → W p l e (rmP 2 49) s m args below meth c s.heap [] 0 0 (MQ below (QcP (some (.int rx))) args s 0 0 (fun _ => False)) (F0 m 14 ls []) := by
  intro j1 i3 hm ls hl
  obtain ⟨hx, hb, hr, hlk, hml, hown, hts, hK⟩ := id C
  unfold fX0_bites_14 at hm
  refine lv_iload_n (pc := 14) hx hb dX0_bites_14 rfl (lv_at hl 2 rfl) ?_
  refine lv_aload_n (pc := 15) hx hb dX0_bites_15 rfl (lv_at hl 0 rfl) ?_
  refine rk_get (pc := 16) hx hb hts hown hK hW0 flX0_12 0 (by decide) rfl rfl (x := .ref (b0 + 1)) (by first | rfl | exact congrArg (fun z => some (Value.ref z)) (by omega)) dX0_bites_16 ?_
  refine rk_getN (pc := 19) hx hb hts hown hK hW0 fnX0_131 1 (by decide) rfl rfl (x := .int (gI V0 1 0)) rfl dX0_bites_19 ?_
  refine lv_icmp_ge (pc := 22) (tgt := 51) hx hb dX0_bites_22 (by decide) (fun c2 => ?_) (fun c2 => ?_)
  · have hm := ite_t c2 hm
    refine lv_lload_n (pc := 51) hx hb dX0_bites_51 rfl (lv_at hl 1 rfl) ?_
    refine lv_aload_n (pc := 52) hx hb dX0_bites_52 rfl (lv_at hl 0 rfl) ?_
    refine rk_get (pc := 53) hx hb hts hown hK hW0 flX0_12 0 (by decide) rfl rfl (x := .ref (b0 + 1)) (by first | rfl | exact congrArg (fun z => some (Value.ref z)) (by omega)) dX0_bites_53 ?_
    refine lv_aload_n (pc := 56) hx hb dX0_bites_56 rfl (lv_at hl 0 rfl) ?_
    refine rk_get (pc := 57) hx hb hts hown hK hW0 flX0_12 0 (by decide) rfl rfl (x := .ref (b0 + 1)) (by first | rfl | exact congrArg (fun z => some (Value.ref z)) (by omega)) dX0_bites_57 ?_
    refine rk_getN (pc := 60) hx hb hts hown hK hW0 fnX0_131 1 (by decide) rfl rfl (x := .int (gI V0 1 0)) rfl dX0_bites_60 ?_
    obtain ⟨r3, hq4, hm⟩ := ob_some hm
    refine rk_PV (pc := 63) (As := [.int (gI V0 1 0)]) (rest := [.long j1]) hx hb hml hown hts hK lkX0_319 rfl yn_X1_handPoints (ct_X1_handPoints (G := G) (l := l) (b0 := (b0 + 1)) hq4) ⟨Nat.le_of_ble_eq_true rfl, Nat.le_of_ble_eq_true rfl⟩ (rk_recv hK hW0 1 (by decide) rfl rfl rfl) (rg_sub hW0 rfl (by decide) (fun o ho x y z => shX0_n1 G.2.1 _ rfl o ho x y z)) rfl rfl hl.1 (Nat.le_of_ble_eq_true rfl) dX0_bites_63 ⟨Nat.zero_le _, Nat.zero_le _⟩ ?_
    refine W.eq (g2 := F0 m 66 ls [.long r3, .long j1]) rfl ?_
    refine lv_aload_n (pc := 66) hx hb dX0_bites_66 rfl (lv_at hl 0 rfl) ?_
    refine rk_get (pc := 67) hx hb hts hown hK hW0 flX0_27 0 (by decide) rfl rfl (x := .ref (b0 + 67)) (by first | rfl | exact congrArg (fun z => some (Value.ref z)) (by omega)) dX0_bites_67 ?_
    refine rk_getN (pc := 70) hx hb hts hown hK hW0 fnX0_237 67 (by decide) rfl rfl (x := .long (gL V0 67 4)) rfl dX0_bites_70 ?_
    refine lv_lmul (pc := 73) hx hb dX0_bites_73 ?_
    refine rk_lcmp_le (pc := 74) (tgt := 82) hx hb dX0_bites_74 rfl dX0_bites_75 (by decide) (fun c5 => ?_) (fun c5 => ?_)
    · have hm := ite_t c5 hm
      refine lv_iconst (pc := 82) (v := (0 : Int32)) hx hb dX0_bites_82 (by decide) ?_
      have e9 := rs1 hm
      subst e9
      exact rk_iretP (pc := 83) hx hb hr hlk rfl dX0_bites_83
    · have hm := ite_f c5 hm
      refine lv_iconst (pc := 78) (v := (1 : Int32)) hx hb dX0_bites_78 (by decide) ?_
      refine lv_goto (pc := 79) (tgt := 83) hx hb dX0_bites_79 (by decide) ?_
      have e9 := rs1 hm
      subst e9
      exact rk_iretP (pc := 83) hx hb hr hlk rfl dX0_bites_83
  · have hm := ite_f c2 hm
    refine lv_lload_n (pc := 25) hx hb dX0_bites_25 rfl (lv_at hl 1 rfl) ?_
    refine lv_aload_n (pc := 26) hx hb dX0_bites_26 rfl (lv_at hl 0 rfl) ?_
    refine rk_get (pc := 27) hx hb hts hown hK hW0 flX0_12 0 (by decide) rfl rfl (x := .ref (b0 + 1)) (by first | rfl | exact congrArg (fun z => some (Value.ref z)) (by omega)) dX0_bites_27 ?_
    refine lv_iload_n (pc := 30) hx hb dX0_bites_30 rfl (lv_at hl 2 rfl) ?_
    obtain ⟨r6, hq7, hm⟩ := ob_some hm
    refine rk_PV (pc := 31) (As := [.int i3]) (rest := [.long j1]) hx hb hml hown hts hK lkX0_319 rfl yn_X1_handPoints (ct_X1_handPoints (G := G) (l := l) (b0 := (b0 + 1)) hq7) ⟨Nat.le_of_ble_eq_true rfl, Nat.le_of_ble_eq_true rfl⟩ (rk_recv hK hW0 1 (by decide) rfl rfl rfl) (rg_sub hW0 rfl (by decide) (fun o ho x y z => shX0_n1 G.2.1 _ rfl o ho x y z)) rfl rfl hl.1 (Nat.le_of_ble_eq_true rfl) dX0_bites_31 ⟨Nat.zero_le _, Nat.zero_le _⟩ ?_
    refine W.eq (g2 := F0 m 34 ls [.long r6, .long j1]) rfl ?_
    refine lv_aload_n (pc := 34) hx hb dX0_bites_34 rfl (lv_at hl 0 rfl) ?_
    refine rk_get (pc := 35) hx hb hts hown hK hW0 flX0_27 0 (by decide) rfl rfl (x := .ref (b0 + 67)) (by first | rfl | exact congrArg (fun z => some (Value.ref z)) (by omega)) dX0_bites_35 ?_
    refine lv_iload_n (pc := 38) hx hb dX0_bites_38 rfl (lv_at hl 2 rfl) ?_
    obtain ⟨r8, hq9, hm⟩ := ob_some hm
    refine rk_PV (pc := 39) (As := [.int i3]) (rest := [.long r6, .long j1]) hx hb hml hown hts hK lkX0_267 rfl yn_X3_right (ct_X3_right (G := G) (l := l) (b0 := (b0 + 67)) hq9) ⟨Nat.le_of_ble_eq_true rfl, Nat.le_of_ble_eq_true rfl⟩ (rk_recv hK hW0 67 (by decide) rfl rfl rfl) (rg_sub hW0 rfl (by decide) (fun o ho x y z => shX0_n67 G.2.1 _ rfl o ho x y z)) rfl rfl hl.1 (Nat.le_of_ble_eq_true rfl) dX0_bites_39 ⟨Nat.zero_le _, Nat.zero_le _⟩ ?_
    refine W.eq (g2 := F0 m 42 ls [.long r8, .long r6, .long j1]) rfl ?_
    refine lv_lmul (pc := 42) hx hb dX0_bites_42 ?_
    refine lv_ladd (pc := 43) hx hb dX0_bites_43 ?_
    refine lv_lstore_n (pc := 44) (lv' := [(1, .long (j1 + (r6 * r8))), (0, .ref b0), (3, .int i3)]) hx hb dX0_bites_44 rfl hl (by decide) rfl (fun ls hl => ?_)
    refine lv_iinc (pc := 45) (v := (i3 + (1 : Int32))) (lv' := [(3, .int (i3 + (1 : Int32))), (1, .long (j1 + (r6 * r8))), (0, .ref b0)]) hx hb dX0_bites_45 hl (k := 2) rfl rfl (by decide) rfl (fun ls hl => ?_)
    refine lv_goto (pc := 48) (tgt := 14) hx hb dX0_bites_48 (by decide) ?_
    exact hk14 (j1 + (r6 * r8)) (i3 + (1 : Int32)) hm ls (lv_sub hl [2, 1, 0] rfl)
theorem w_fX0_bites_14_l (C : Cx G p s m args meth c RX0 cX0_bites 4 (some .int)) {b0 : Nat} {V0 : Mem} {rx : Int32} (hW0 : rg G b0 357 (shX0 G.2.1) V0 s.heap) : ∀ (n : Nat) (j1 : Int64) (i3 : Int32), lq2 (fX0_bites_14 V0) n j1 i3 = some rx → ∀ (ls : Array Slot), lv_has ls 4 [(0, .ref b0), (1, .long j1), (3, .int i3)] → W p l e (rmP 2 49) s m args below meth c s.heap [] 0 0 (MQ below (QcP (some (.int rx))) args s 0 0 (fun _ => False)) (F0 m 14 ls []) := by
  intro n
  induction n with
  | zero => intro j1 i3 hm; exact (lq2_0 hm).elim
  | succ n ih => intro j1 i3 hm; exact w_fX0_bites_14 C hW0 ih j1 i3 (lq2_s hm)
set_option maxHeartbeats 4000000 in
theorem w_fX0_bites (C : Cx G p s m args meth c RX0 cX0_bites 4 (some .int)) {b0 : Nat} {V0 : Mem} {rx : Int32} (hW0 : rg G b0 357 (shX0 G.2.1) V0 s.heap) : fX0_bites V0 = some rx → ∀ (ls : Array Slot), lv_has ls 4 [(0, .ref b0)] → W p l e (rmP 2 49) s m args below meth c s.heap [] 0 0 (MQ below (QcP (some (.int rx))) args s 0 0 (fun _ => False)) (F0 m 0 ls []) := by
  intro hm ls hl
  obtain ⟨hx, hb, hr, hlk, hml, hown, hts, hK⟩ := id C
  unfold fX0_bites at hm
  refine lv_aload_n (pc := 0) hx hb dX0_bites_0 rfl (lv_at hl 0 rfl) ?_
  refine rk_get (pc := 1) hx hb hts hown hK hW0 flX0_121 0 (by decide) rfl rfl (x := .int (gI V0 0 6)) rfl dX0_bites_1 ?_
  refine lv_if_ne (pc := 4) (tgt := 10) hx hb dX0_bites_4 (by decide) (fun c1 => ?_) (fun c1 => ?_)
  · have hm := ite_f c1 hm
    refine lv_lconst (pc := 10) (v := (0 : Int64)) hx hb dX0_bites_10 (by decide) ?_
    refine lv_lstore_n (pc := 11) (lv' := [(1, .long (0 : Int64)), (0, .ref b0)]) hx hb dX0_bites_11 rfl hl (by decide) rfl (fun ls hl => ?_)
    refine lv_iconst (pc := 12) (v := (0 : Int32)) hx hb dX0_bites_12 (by decide) ?_
    refine lv_istore_n (pc := 13) (lv' := [(3, .int (0 : Int32)), (1, .long (0 : Int64)), (0, .ref b0)]) hx hb dX0_bites_13 rfl hl (by decide) rfl (fun ls hl => ?_)
    exact (w_fX0_bites_14_l C hW0 FU) (0 : Int64) (0 : Int32) hm ls (lv_sub hl [2, 1, 0] rfl)
  · have hm := ite_t c1 hm
    refine lv_bipush (pc := 7) (v := (-3 : Int32)) hx hb dX0_bites_7 (by decide) ?_
    have e9 := rs1 hm
    subst e9
    exact rk_iretP (pc := 9) hx hb hr hlk rfl dX0_bites_9
set_option maxHeartbeats 4000000 in
theorem ct_X0_bites {G : Gv} {l : Launch} {b0 : Nat} {V0 : Mem} {rx : Int32} (hm : fX0_bites V0  = some rx) : CP G l yX0_bites (ws_ yX0_bites cX0_bites 4 (some .int)) 2 49 [.ref b0] (fun H => rg G b0 357 (shX0 G.2.1) V0 H) (some (.int rx)) := by
  refine Met.ofW (cc := cX0_bites) (maxL := 4) (ret := (some .int)) (by decide +kernel) rfl ?_
  intro p e s m args below meth c s₁ B hml hv
  obtain ⟨rfl, hW0, hK⟩ := hv
  have hts := atoms_spec (ws := ws_ yX0_bites cX0_bites 4 (some .int)) B.pre
  have hts : ∀ w ∈ lw_all, w.before _ s = true := fun w h => hts w (List.mem_cons_of_mem _ h)
  have C : Cx G p s m _ meth c RX0 cX0_bites 4 (some .int) := ⟨B.exec, B.bytes, B.returns, B.notSynchronized, hml, findClass_of_methodNamed B.named, hts, hK⟩
  have hl := lv_entry ([.ref b0]) (n := 4) (Nat.le_of_ble_eq_true rfl)
  rw [lg_entry_eq]
  generalize (lg_sl ([.ref b0]) ++ List.replicate (4 - (lg_sl ([.ref b0])).length) Slot.unset).toArray = ls at hl ⊢
  have hl : lv_has ls 4 [(0, .ref b0)] := hl
  exact w_fX0_bites C hW0  hm ls hl
theorem fnX0_324 : FN RX0 324 1 3 RX1 TX1 11 "WholePacks" := ⟨in_X1, rfl, by decide, q200⟩
noncomputable def fX0_box (v0 : Mem) (i1 : Int32) : Option (Int32 × Mem) :=
  ob (fX0_in i1.toInt64 (0 : Int64) (6 : Int64)) fun r1 =>
  if r1 = 0 then (
  some ((-2 : Int32), v0))
  else (
  lm (sI v0 1 3 i1) fun v0_4 =>
  some ((gI v0 1 3), v0_4))
set_option maxHeartbeats 4000000 in
theorem w_fX0_box (C : Cx G p s m args meth c RX0 cX0_box 3 (some .int)) {b0 : Nat} {rx : Int32} {rw0 : Mem} : ∀ (v0 : Mem) (i1 : Int32), fX0_box v0 i1 = some (rx, rw0) → ∀ (H : Heap) (locs : List Loc) (ls : Array Slot), rg G b0 357 (shX0 G.2.1) v0 H → va_S (FA (fX b0) s.heap.size) s.heap H locs → H.size = s.heap.size → lv_has ls 3 [(0, .ref b0), (1, .int i1)] → W p l e (rmT 1 0 0 25) s m args below meth c H locs 0 0 (MQ below (QcT (FA (fX b0) s.heap.size) (fun ov H => ov = (some (.int rx)) ∧ rg G b0 357 (shX0 G.2.1) rw0 H ∧ H.size = s.heap.size)) args s 0 0 (FA (fX b0) s.heap.size)) (F0 m 0 ls []) := by
  intro v0 i1 hm H locs ls hW0 hS hz hl
  obtain ⟨hx, hb, hr, hlk, hml, hown, hts, hK⟩ := id C
  unfold fX0_box at hm
  refine lv_iload_n (pc := 0) hx hb dX0_box_0 rfl (lv_at hl 1 rfl) ?_
  refine lv_i2l (pc := 1) hx hb dX0_box_1 rfl ?_
  refine lv_lconst (pc := 2) (v := (0 : Int64)) hx hb dX0_box_2 (by decide) ?_
  refine lv_ldc2 (pc := 3) (v := (6 : Int64)) hx hb hown (hts _ q983) dX0_box_3 ?_
  obtain ⟨r1, hq2, hm⟩ := ob_some hm
  refine rk_PS (pc := 6) (As := [.long i1.toInt64, .long (0 : Int64), .long (6 : Int64)]) (rest := []) hx hb hml hown hts hK lkX0_127 yn_X0_in (ct_X0_in (G := G) (l := l) hq2) ⟨Nat.le_of_ble_eq_true rfl, Nat.le_of_ble_eq_true rfl⟩ trivial rfl rfl hl.1 (Nat.le_of_ble_eq_true rfl) dX0_box_6 ⟨Nat.zero_le _, Nat.zero_le _⟩ ?_
  refine W.eq (g2 := F0 m 9 ls [.int r1]) rfl ?_
  refine lv_if_ne (pc := 9) (tgt := 15) hx hb dX0_box_9 (by decide) (fun c3 => ?_) (fun c3 => ?_)
  · have hm := ite_f c3 hm
    refine lv_aload_n (pc := 15) hx hb dX0_box_15 rfl (lv_at hl 0 rfl) ?_
    refine rk_get (pc := 16) hx hb hts hown hK hW0 flX0_12 0 (by decide) rfl rfl (x := .ref (b0 + 1)) (by first | rfl | exact congrArg (fun z => some (Value.ref z)) (by omega)) dX0_box_16 ?_
    refine rk_getN (pc := 19) hx hb hts hown hK hW0 fnX0_324 1 (by decide) rfl rfl (x := .int (gI v0 1 3)) rfl dX0_box_19 ?_
    refine lv_istore_n (pc := 22) (lv' := [(2, .int (gI v0 1 3)), (0, .ref b0), (1, .int i1)]) hx hb dX0_box_22 rfl hl (by decide) rfl (fun ls hl => ?_)
    refine lv_aload_n (pc := 23) hx hb dX0_box_23 rfl (lv_at hl 1 rfl) ?_
    refine rk_get (pc := 24) hx hb hts hown hK hW0 flX0_12 0 (by decide) rfl rfl (x := .ref (b0 + 1)) (by first | rfl | exact congrArg (fun z => some (Value.ref z)) (by omega)) dX0_box_24 ?_
    refine lv_iload_n (pc := 27) hx hb dX0_box_27 rfl (lv_at hl 2 rfl) ?_
    refine rk_putN (pc := 28) hx hb hts hown hK hW0 hS fnX0_324 ft_X1 1 (by decide) rfl (Or.inl (show fX _ _ from ⟨⟨by omega, by omega⟩, by omega⟩)) rfl rfl (x := .int i1) rfl rfl (Nat.le_of_ble_eq_true rfl) (sI v0 1 3 i1) sI_ne (by rw [sI_eq]; exact rfl) dX0_box_28 (fun H5 locs6 hW7 hS8 hz9 hkp10 => ?_)
    obtain ⟨v0_4, he9, hm⟩ := lm_some hm
    rw [he9] at hW7
    have hz11 := hz9.trans hz
    refine lv_iload_n (pc := 31) hx hb dX0_box_31 rfl (lv_at hl 0 rfl) ?_
    obtain ⟨e8, e9⟩ := rs2 hm
    subst e8
    subst e9
    exact rk_iret (pc := 32) hx hb hr hlk hS8 ⟨rfl, hW7, hz11⟩ dX0_box_32
  · have hm := ite_t c3 hm
    refine lv_bipush (pc := 12) (v := (-2 : Int32)) hx hb dX0_box_12 (by decide) ?_
    obtain ⟨e8, e9⟩ := rs2 hm
    subst e8
    subst e9
    exact rk_iret (pc := 14) hx hb hr hlk hS ⟨rfl, hW0, hz⟩ dX0_box_14
set_option maxHeartbeats 4000000 in
theorem ct_X0_box {G : Gv} {l : Launch} {b0 : Nat} {v0 : Mem} {i1 : Int32} {rx : Int32} {rw0 : Mem} {sz : Nat} (hm : fX0_box v0 i1 = some (rx, rw0)) : CT G l yX0_box (ws_ yX0_box cX0_box 3 (some .int)) 1 0 0 25 [.ref b0, .int i1] (fX b0) sz (fun H => rg G b0 357 (shX0 G.2.1) v0 H) (fun ov H => ov = (some (.int rx)) ∧ rg G b0 357 (shX0 G.2.1) rw0 H ∧ H.size = sz) := by
  refine Met.ofW (cc := cX0_box) (maxL := 3) (ret := (some .int)) (by decide +kernel) rfl ?_
  intro p e s m args below meth c s₁ B hml hv
  obtain ⟨rfl, ⟨hz, hW0⟩, hK⟩ := hv
  subst hz
  have hts := atoms_spec (ws := ws_ yX0_box cX0_box 3 (some .int)) B.pre
  have hts : ∀ w ∈ lw_all, w.before _ s = true := fun w h => hts w (List.mem_cons_of_mem _ h)
  have C : Cx G p s m _ meth c RX0 cX0_box 3 (some .int) := ⟨B.exec, B.bytes, B.returns, B.notSynchronized, hml, findClass_of_methodNamed B.named, hts, hK⟩
  have hl := lv_entry ([.ref b0, .int i1]) (n := 3) (Nat.le_of_ble_eq_true rfl)
  rw [lg_entry_eq]
  generalize (lg_sl ([.ref b0, .int i1]) ++ List.replicate (3 - (lg_sl ([.ref b0, .int i1])).length) Slot.unset).toArray = ls at hl ⊢
  have hl : lv_has ls 3 [(0, .ref b0), (1, .int i1)] := hl
  exact w_fX0_box C _ _ hm s.heap [] ls hW0 va_S.rf rfl hl
theorem flX0_60 : FL RX0 60 0 13 RX0 TX0 25 := ⟨in_X0, rfl, by decide, q511⟩
noncomputable def fX0_nextMix_43 (v0 : Mem) (i1 : Int32) : Option (Int32 × Mem) :=
  if 0 ≤ i1 then (
  gb (inR i1 5) (
  gb (inR i1 5) (
  lm (sI v0 158 i1.toNatClampNeg ((gI v0 158 i1.toNatClampNeg) + (1 : Int32))) fun v0_16 =>
  some ((1 : Int32), v0_16))))
  else (
  some ((0 : Int32), v0))
noncomputable def fX0_nextMix_10 (k10 : Mem → Int32 → Option (Int32 × Mem)) (v0 : Mem) (i1 : Int32) : Option (Int32 × Mem) :=
  if i1 < 0 then (
  fX0_nextMix_43 v0 i1)
  else (
  gb (inR i1 5) (
  if (gI v0 158 i1.toNatClampNeg) = (gI v0 1 3) then (
  gb (inR i1 5) (
  lm (sI v0 158 i1.toNatClampNeg (0 : Int32)) fun v0_5 =>
  k10 v0_5 (i1 + (-1 : Int32))))
  else (
  fX0_nextMix_43 v0 i1)))
noncomputable def fX0_nextMix (v0 : Mem) : Option (Int32 × Mem) :=
  lq2 (fX0_nextMix_10) FU v0 ((gI v0 1 0) - (1 : Int32))
set_option maxHeartbeats 4000000 in
theorem w_fX0_nextMix_43 (C : Cx G p s m args meth c RX0 cX0_nextMix 2 (some .boolean)) {b0 : Nat} {rx : Int32} {rw0 : Mem} : ∀ (v0 : Mem) (i1 : Int32), fX0_nextMix_43 v0 i1 = some (rx, rw0) → ∀ (H : Heap) (locs : List Loc) (ls : Array Slot), rg G b0 357 (shX0 G.2.1) v0 H → va_S (FA (fX b0) s.heap.size) s.heap H locs → H.size = s.heap.size → lv_has ls 2 [(0, .ref b0), (1, .int i1)] → W p l e (rmT 0 0 0 0) s m args below meth c H locs 0 0 (MQ below (QcT (FA (fX b0) s.heap.size) (fun ov H => ov = (some (.int rx)) ∧ rg G b0 357 (shX0 G.2.1) rw0 H ∧ H.size = s.heap.size)) args s 0 0 (FA (fX b0) s.heap.size)) (F0 m 43 ls []) := by
  intro v0 i1 hm H locs ls hW0 hS hz hl
  obtain ⟨hx, hb, hr, hlk, hml, hown, hts, hK⟩ := id C
  unfold fX0_nextMix_43 at hm
  refine lv_iload_n (pc := 43) hx hb dX0_nextMix_43 rfl (lv_at hl 1 rfl) ?_
  refine lv_if_ge (pc := 44) (tgt := 49) hx hb dX0_nextMix_44 (by decide) (fun c13 => ?_) (fun c13 => ?_)
  · have hm := ite_t c13 hm
    refine lv_aload_n (pc := 49) hx hb dX0_nextMix_49 rfl (lv_at hl 0 rfl) ?_
    refine rk_get (pc := 50) hx hb hts hown hK hW0 flX0_60 0 (by decide) rfl rfl (x := .ref (b0 + 158)) (by first | rfl | exact congrArg (fun z => some (Value.ref z)) (by omega)) dX0_nextMix_50 ?_
    refine lv_iload_n (pc := 53) hx hb dX0_nextMix_53 rfl (lv_at hl 1 rfl) ?_
    refine lv_dup2_11 (pc := 54) hx hb dX0_nextMix_54 rfl rfl ?_
    obtain ⟨hg14, hm⟩ := gb_some hm
    refine rk_iald (pc := 55) hx hb hK hW0 158 (by decide) rfl rfl hg14 (x := (gI v0 158 i1.toNatClampNeg)) rfl dX0_nextMix_55 ?_
    refine lv_iconst (pc := 56) (v := (1 : Int32)) hx hb dX0_nextMix_56 (by decide) ?_
    refine lv_iadd (pc := 57) hx hb dX0_nextMix_57 ?_
    obtain ⟨hg15, hm⟩ := gb_some hm
    refine rk_iast (pc := 58) hx hb hK hW0 hS 158 (by decide) rfl (Or.inl (show fX _ _ from ⟨⟨by omega, by omega⟩, by omega⟩)) (fun _ _ _ => rfl) hg15 dX0_nextMix_58 (fun H17 locs18 hW19 hS20 hz21 hkp22 => ?_)
    obtain ⟨v0_16, he9, hm⟩ := lm_some hm
    rw [he9] at hW19
    have hz23 := hz21.trans hz
    refine lv_iconst (pc := 59) (v := (1 : Int32)) hx hb dX0_nextMix_59 (by decide) ?_
    obtain ⟨e8, e9⟩ := rs2 hm
    subst e8
    subst e9
    exact rk_zret (pc := 60) hx hb hr hlk rfl hS20 ⟨rfl, hW19, hz23⟩ dX0_nextMix_60
  · have hm := ite_f c13 hm
    refine lv_iconst (pc := 47) (v := (0 : Int32)) hx hb dX0_nextMix_47 (by decide) ?_
    obtain ⟨e8, e9⟩ := rs2 hm
    subst e8
    subst e9
    exact rk_zret (pc := 48) hx hb hr hlk rfl hS ⟨rfl, hW0, hz⟩ dX0_nextMix_48
set_option maxHeartbeats 4000000 in
theorem w_fX0_nextMix_10 (C : Cx G p s m args meth c RX0 cX0_nextMix 2 (some .boolean)) {b0 : Nat} {rx : Int32} {rw0 : Mem} {k10 : Mem → Int32 → Option (Int32 × Mem)} (hk10 : ∀ (v0 : Mem) (i1 : Int32), k10 v0 i1 = some (rx, rw0) → ∀ (H : Heap) (locs : List Loc) (ls : Array Slot), rg G b0 357 (shX0 G.2.1) v0 H → va_S (FA (fX b0) s.heap.size) s.heap H locs → H.size = s.heap.size → lv_has ls 2 [(0, .ref b0), (1, .int i1)] → W p l e (rmT 0 0 0 0) s m args below meth c H locs 0 0 (MQ below (QcT (FA (fX b0) s.heap.size) (fun ov H => ov = (some (.int rx)) ∧ rg G b0 357 (shX0 G.2.1) rw0 H ∧ H.size = s.heap.size)) args s 0 0 (FA (fX b0) s.heap.size)) (F0 m 10 ls [])) : ∀ (v0 : Mem) (i1 : Int32), fX0_nextMix_10 k10 v0 i1 = some (rx, rw0) → ∀ (H : Heap) (locs : List Loc) (ls : Array Slot), rg G b0 357 (shX0 G.2.1) v0 H → va_S (FA (fX b0) s.heap.size) s.heap H locs → H.size = s.heap.size → lv_has ls 2 [(0, .ref b0), (1, .int i1)] → W p l e (rmT 0 0 0 0) s m args below meth c H locs 0 0 (MQ below (QcT (FA (fX b0) s.heap.size) (fun ov H => ov = (some (.int rx)) ∧ rg G b0 357 (shX0 G.2.1) rw0 H ∧ H.size = s.heap.size)) args s 0 0 (FA (fX b0) s.heap.size)) (F0 m 10 ls []) := by
  intro v0 i1 hm H locs ls hW0 hS hz hl
  obtain ⟨hx, hb, hr, hlk, hml, hown, hts, hK⟩ := id C
  unfold fX0_nextMix_10 at hm
  refine lv_iload_n (pc := 10) hx hb dX0_nextMix_10 rfl (lv_at hl 1 rfl) ?_
  refine lv_if_lt (pc := 11) (tgt := 43) hx hb dX0_nextMix_11 (by decide) (fun c1 => ?_) (fun c1 => ?_)
  · have hm := ite_t c1 hm
    exact (w_fX0_nextMix_43 C) v0 i1 hm H locs ls hW0 hS hz (lv_sub hl [0, 1] rfl)
  · have hm := ite_f c1 hm
    refine lv_aload_n (pc := 14) hx hb dX0_nextMix_14 rfl (lv_at hl 0 rfl) ?_
    refine rk_get (pc := 15) hx hb hts hown hK hW0 flX0_60 0 (by decide) rfl rfl (x := .ref (b0 + 158)) (by first | rfl | exact congrArg (fun z => some (Value.ref z)) (by omega)) dX0_nextMix_15 ?_
    refine lv_iload_n (pc := 18) hx hb dX0_nextMix_18 rfl (lv_at hl 1 rfl) ?_
    obtain ⟨hg2, hm⟩ := gb_some hm
    refine rk_iald (pc := 19) hx hb hK hW0 158 (by decide) rfl rfl hg2 (x := (gI v0 158 i1.toNatClampNeg)) rfl dX0_nextMix_19 ?_
    refine lv_aload_n (pc := 20) hx hb dX0_nextMix_20 rfl (lv_at hl 0 rfl) ?_
    refine rk_get (pc := 21) hx hb hts hown hK hW0 flX0_12 0 (by decide) rfl rfl (x := .ref (b0 + 1)) (by first | rfl | exact congrArg (fun z => some (Value.ref z)) (by omega)) dX0_nextMix_21 ?_
    refine rk_getN (pc := 24) hx hb hts hown hK hW0 fnX0_324 1 (by decide) rfl rfl (x := .int (gI v0 1 3)) rfl dX0_nextMix_24 ?_
    refine lv_icmp_ne (pc := 27) (tgt := 43) hx hb dX0_nextMix_27 (by decide) (fun c3 => ?_) (fun c3 => ?_)
    · have hm := ite_f c3 hm
      exact (w_fX0_nextMix_43 C) v0 i1 hm H locs ls hW0 hS hz (lv_sub hl [0, 1] rfl)
    · have hm := ite_t c3 hm
      refine lv_aload_n (pc := 30) hx hb dX0_nextMix_30 rfl (lv_at hl 0 rfl) ?_
      refine rk_get (pc := 31) hx hb hts hown hK hW0 flX0_60 0 (by decide) rfl rfl (x := .ref (b0 + 158)) (by first | rfl | exact congrArg (fun z => some (Value.ref z)) (by omega)) dX0_nextMix_31 ?_
      refine lv_iload_n (pc := 34) hx hb dX0_nextMix_34 rfl (lv_at hl 1 rfl) ?_
      refine lv_iconst (pc := 35) (v := (0 : Int32)) hx hb dX0_nextMix_35 (by decide) ?_
      obtain ⟨hg4, hm⟩ := gb_some hm
      refine rk_iast (pc := 36) hx hb hK hW0 hS 158 (by decide) rfl (Or.inl (show fX _ _ from ⟨⟨by omega, by omega⟩, by omega⟩)) (fun _ _ _ => rfl) hg4 dX0_nextMix_36 (fun H6 locs7 hW8 hS9 hz10 hkp11 => ?_)
      obtain ⟨v0_5, he9, hm⟩ := lm_some hm
      rw [he9] at hW8
      have hz12 := hz10.trans hz
      refine lv_iinc (pc := 37) (v := (i1 + (-1 : Int32))) (lv' := [(1, .int (i1 + (-1 : Int32))), (0, .ref b0)]) hx hb dX0_nextMix_37 hl (k := 1) rfl (congrArg (i1 + ·) (show Int32.ofInt (-1) = (-1 : Int32) by decide)) (by decide) rfl (fun ls hl => ?_)
      refine lv_goto (pc := 40) (tgt := 10) hx hb dX0_nextMix_40 (by decide) ?_
      exact hk10 v0_5 (i1 + (-1 : Int32)) hm H6 locs7 ls hW8 hS9 hz12 (lv_sub hl [1, 0] rfl)
theorem w_fX0_nextMix_10_l (C : Cx G p s m args meth c RX0 cX0_nextMix 2 (some .boolean)) {b0 : Nat} {rx : Int32} {rw0 : Mem} : ∀ (n : Nat) (v0 : Mem) (i1 : Int32), lq2 (fX0_nextMix_10) n v0 i1 = some (rx, rw0) → ∀ (H : Heap) (locs : List Loc) (ls : Array Slot), rg G b0 357 (shX0 G.2.1) v0 H → va_S (FA (fX b0) s.heap.size) s.heap H locs → H.size = s.heap.size → lv_has ls 2 [(0, .ref b0), (1, .int i1)] → W p l e (rmT 0 0 0 0) s m args below meth c H locs 0 0 (MQ below (QcT (FA (fX b0) s.heap.size) (fun ov H => ov = (some (.int rx)) ∧ rg G b0 357 (shX0 G.2.1) rw0 H ∧ H.size = s.heap.size)) args s 0 0 (FA (fX b0) s.heap.size)) (F0 m 10 ls []) := by
  intro n
  induction n with
  | zero => intro v0 i1 hm; exact (lq2_0 hm).elim
  | succ n ih => intro v0 i1 hm; exact w_fX0_nextMix_10 C ih v0 i1 (lq2_s hm)
set_option maxHeartbeats 4000000 in
theorem w_fX0_nextMix (C : Cx G p s m args meth c RX0 cX0_nextMix 2 (some .boolean)) {b0 : Nat} {rx : Int32} {rw0 : Mem} : ∀ (v0 : Mem), fX0_nextMix v0 = some (rx, rw0) → ∀ (H : Heap) (locs : List Loc) (ls : Array Slot), rg G b0 357 (shX0 G.2.1) v0 H → va_S (FA (fX b0) s.heap.size) s.heap H locs → H.size = s.heap.size → lv_has ls 2 [(0, .ref b0)] → W p l e (rmT 0 0 0 0) s m args below meth c H locs 0 0 (MQ below (QcT (FA (fX b0) s.heap.size) (fun ov H => ov = (some (.int rx)) ∧ rg G b0 357 (shX0 G.2.1) rw0 H ∧ H.size = s.heap.size)) args s 0 0 (FA (fX b0) s.heap.size)) (F0 m 0 ls []) := by
  intro v0 hm H locs ls hW0 hS hz hl
  obtain ⟨hx, hb, hr, hlk, hml, hown, hts, hK⟩ := id C
  unfold fX0_nextMix at hm
  refine lv_aload_n (pc := 0) hx hb dX0_nextMix_0 rfl (lv_at hl 0 rfl) ?_
  refine rk_get (pc := 1) hx hb hts hown hK hW0 flX0_12 0 (by decide) rfl rfl (x := .ref (b0 + 1)) (by first | rfl | exact congrArg (fun z => some (Value.ref z)) (by omega)) dX0_nextMix_1 ?_
  refine rk_getN (pc := 4) hx hb hts hown hK hW0 fnX0_131 1 (by decide) rfl rfl (x := .int (gI v0 1 0)) rfl dX0_nextMix_4 ?_
  refine lv_iconst (pc := 7) (v := (1 : Int32)) hx hb dX0_nextMix_7 (by decide) ?_
  refine lv_isub (pc := 8) hx hb dX0_nextMix_8 ?_
  refine lv_istore_n (pc := 9) (lv' := [(1, .int ((gI v0 1 0) - (1 : Int32))), (0, .ref b0)]) hx hb dX0_nextMix_9 rfl hl (by decide) rfl (fun ls hl => ?_)
  exact (w_fX0_nextMix_10_l C FU) v0 ((gI v0 1 0) - (1 : Int32)) hm H locs ls hW0 hS hz (lv_sub hl [1, 0] rfl)
set_option maxHeartbeats 4000000 in
theorem ct_X0_nextMix {G : Gv} {l : Launch} {b0 : Nat} {v0 : Mem} {rx : Int32} {rw0 : Mem} {sz : Nat} (hm : fX0_nextMix v0 = some (rx, rw0)) : CT G l yX0_nextMix (ws_ yX0_nextMix cX0_nextMix 2 (some .boolean)) 0 0 0 0 [.ref b0] (fX b0) sz (fun H => rg G b0 357 (shX0 G.2.1) v0 H) (fun ov H => ov = (some (.int rx)) ∧ rg G b0 357 (shX0 G.2.1) rw0 H ∧ H.size = sz) := by
  refine Met.ofW (cc := cX0_nextMix) (maxL := 2) (ret := (some .boolean)) (by decide +kernel) rfl ?_
  intro p e s m args below meth c s₁ B hml hv
  obtain ⟨rfl, ⟨hz, hW0⟩, hK⟩ := hv
  subst hz
  have hts := atoms_spec (ws := ws_ yX0_nextMix cX0_nextMix 2 (some .boolean)) B.pre
  have hts : ∀ w ∈ lw_all, w.before _ s = true := fun w h => hts w (List.mem_cons_of_mem _ h)
  have C : Cx G p s m _ meth c RX0 cX0_nextMix 2 (some .boolean) := ⟨B.exec, B.bytes, B.returns, B.notSynchronized, hml, findClass_of_methodNamed B.named, hts, hK⟩
  have hl := lv_entry ([.ref b0]) (n := 2) (Nat.le_of_ble_eq_true rfl)
  rw [lg_entry_eq]
  generalize (lg_sl ([.ref b0]) ++ List.replicate (2 - (lg_sl ([.ref b0])).length) Slot.unset).toArray = ls at hl ⊢
  have hl : lv_has ls 2 [(0, .ref b0)] := hl
  exact w_fX0_nextMix C _ hm s.heap [] ls hW0 va_S.rf rfl hl
theorem flX0_389 : FL RX0 389 0 16 RX0 TX0 25 := ⟨in_X0, rfl, by decide, q514⟩
noncomputable def fX0_counts (v0 : Mem) (i1 : Int32) (i2 : Int32) : Option (Int32 × Mem) :=
  if i1 = i2 then (
  lm (sI v0 0 16 ((gI v0 0 16) + (1 : Int32))) fun v0_10 =>
  some ((1 : Int32), v0_10))
  else (
  lm (sI v0 0 16 ((gI v0 0 16) + (0 : Int32))) fun v0_2 =>
  some ((1 : Int32), v0_2))
set_option maxHeartbeats 4000000 in
theorem w_fX0_counts (C : Cx G p s m args meth c RX0 cX0_counts 3 (some .boolean)) {b0 : Nat} {rx : Int32} {rw0 : Mem} : ∀ (v0 : Mem) (i1 : Int32) (i2 : Int32), fX0_counts v0 i1 i2 = some (rx, rw0) → ∀ (H : Heap) (locs : List Loc) (ls : Array Slot), rg G b0 357 (shX0 G.2.1) v0 H → va_S (FA (fX b0) s.heap.size) s.heap H locs → H.size = s.heap.size → lv_has ls 3 [(0, .ref b0), (1, .int i1), (2, .int i2)] → W p l e (rmT 0 0 0 0) s m args below meth c H locs 0 0 (MQ below (QcT (FA (fX b0) s.heap.size) (fun ov H => ov = (some (.int rx)) ∧ rg G b0 357 (shX0 G.2.1) rw0 H ∧ H.size = s.heap.size)) args s 0 0 (FA (fX b0) s.heap.size)) (F0 m 0 ls []) := by
  intro v0 i1 i2 hm H locs ls hW0 hS hz hl
  obtain ⟨hx, hb, hr, hlk, hml, hown, hts, hK⟩ := id C
  unfold fX0_counts at hm
  refine lv_aload_n (pc := 0) hx hb dX0_counts_0 rfl (lv_at hl 0 rfl) ?_
  refine lv_dup (pc := 1) hx hb dX0_counts_1 rfl ?_
  refine rk_get (pc := 2) hx hb hts hown hK hW0 flX0_389 0 (by decide) rfl rfl (x := .int (gI v0 0 16)) rfl dX0_counts_2 ?_
  refine lv_iload_n (pc := 5) hx hb dX0_counts_5 rfl (lv_at hl 1 rfl) ?_
  refine lv_iload_n (pc := 6) hx hb dX0_counts_6 rfl (lv_at hl 2 rfl) ?_
  refine lv_icmp_ne (pc := 7) (tgt := 14) hx hb dX0_counts_7 (by decide) (fun c1 => ?_) (fun c1 => ?_)
  · have hm := ite_f c1 hm
    refine lv_iconst (pc := 14) (v := (0 : Int32)) hx hb dX0_counts_14 (by decide) ?_
    refine lv_iadd (pc := 15) hx hb dX0_counts_15 ?_
    refine rk_put (pc := 16) hx hb hts hown hK hW0 hS flX0_389 ft_X0 0 (by decide) rfl (Or.inl (show fX _ _ from ⟨⟨by omega, by omega⟩, by omega⟩)) rfl rfl (x := .int ((gI v0 0 16) + (0 : Int32))) rfl rfl (Nat.le_of_ble_eq_true rfl) (sI v0 0 16 ((gI v0 0 16) + (0 : Int32))) sI_ne (by rw [sI_eq]; exact rfl) dX0_counts_16 (fun H3 locs4 hW5 hS6 hz7 hkp8 => ?_)
    obtain ⟨v0_2, he9, hm⟩ := lm_some hm
    rw [he9] at hW5
    have hz9 := hz7.trans hz
    refine lv_iconst (pc := 19) (v := (1 : Int32)) hx hb dX0_counts_19 (by decide) ?_
    obtain ⟨e8, e9⟩ := rs2 hm
    subst e8
    subst e9
    exact rk_zret (pc := 20) hx hb hr hlk rfl hS6 ⟨rfl, hW5, hz9⟩ dX0_counts_20
  · have hm := ite_t c1 hm
    refine lv_iconst (pc := 10) (v := (1 : Int32)) hx hb dX0_counts_10 (by decide) ?_
    refine lv_goto (pc := 11) (tgt := 15) hx hb dX0_counts_11 (by decide) ?_
    refine lv_iadd (pc := 15) hx hb dX0_counts_15 ?_
    refine rk_put (pc := 16) hx hb hts hown hK hW0 hS flX0_389 ft_X0 0 (by decide) rfl (Or.inl (show fX _ _ from ⟨⟨by omega, by omega⟩, by omega⟩)) rfl rfl (x := .int ((gI v0 0 16) + (1 : Int32))) rfl rfl (Nat.le_of_ble_eq_true rfl) (sI v0 0 16 ((gI v0 0 16) + (1 : Int32))) sI_ne (by rw [sI_eq]; exact rfl) dX0_counts_16 (fun H11 locs12 hW13 hS14 hz15 hkp16 => ?_)
    obtain ⟨v0_10, he9, hm⟩ := lm_some hm
    rw [he9] at hW13
    have hz17 := hz15.trans hz
    refine lv_iconst (pc := 19) (v := (1 : Int32)) hx hb dX0_counts_19 (by decide) ?_
    obtain ⟨e8, e9⟩ := rs2 hm
    subst e8
    subst e9
    exact rk_zret (pc := 20) hx hb hr hlk rfl hS14 ⟨rfl, hW13, hz17⟩ dX0_counts_20
set_option maxHeartbeats 4000000 in
theorem ct_X0_counts {G : Gv} {l : Launch} {b0 : Nat} {v0 : Mem} {i1 : Int32} {i2 : Int32} {rx : Int32} {rw0 : Mem} {sz : Nat} (hm : fX0_counts v0 i1 i2 = some (rx, rw0)) : CT G l yX0_counts (ws_ yX0_counts cX0_counts 3 (some .boolean)) 0 0 0 0 [.ref b0, .int i1, .int i2] (fX b0) sz (fun H => rg G b0 357 (shX0 G.2.1) v0 H) (fun ov H => ov = (some (.int rx)) ∧ rg G b0 357 (shX0 G.2.1) rw0 H ∧ H.size = sz) := by
  refine Met.ofW (cc := cX0_counts) (maxL := 3) (ret := (some .boolean)) (by decide +kernel) rfl ?_
  intro p e s m args below meth c s₁ B hml hv
  obtain ⟨rfl, ⟨hz, hW0⟩, hK⟩ := hv
  subst hz
  have hts := atoms_spec (ws := ws_ yX0_counts cX0_counts 3 (some .boolean)) B.pre
  have hts : ∀ w ∈ lw_all, w.before _ s = true := fun w h => hts w (List.mem_cons_of_mem _ h)
  have C : Cx G p s m _ meth c RX0 cX0_counts 3 (some .boolean) := ⟨B.exec, B.bytes, B.returns, B.notSynchronized, hml, findClass_of_methodNamed B.named, hts, hK⟩
  have hl := lv_entry ([.ref b0, .int i1, .int i2]) (n := 3) (Nat.le_of_ble_eq_true rfl)
  rw [lg_entry_eq]
  generalize (lg_sl ([.ref b0, .int i1, .int i2]) ++ List.replicate (3 - (lg_sl ([.ref b0, .int i1, .int i2])).length) Slot.unset).toArray = ls at hl ⊢
  have hl : lv_has ls 3 [(0, .ref b0), (1, .int i1), (2, .int i2)] := hl
  exact w_fX0_counts C _ _ _ hm s.heap [] ls hW0 va_S.rf rfl hl
theorem flX0_46 : FL RX0 46 0 9 RX0 TX0 25 := ⟨in_X0, rfl, by decide, q505⟩
noncomputable def fX0_lambda_new_0 (j0 : Int64) (j2 : Int64) : Option (Int64) :=
  some (j0 - j2)
set_option maxHeartbeats 4000000 in
theorem w_fX0_lambda_new_0 (C : Cx G p s m args meth c RX0 cX0_lambda_new_0 4 (some .long)) {rx : Int64} : ∀ (j0 : Int64) (j2 : Int64), fX0_lambda_new_0 j0 j2 = some rx → ∀ (ls : Array Slot), lv_has ls 4 [(0, .long j0), (2, .long j2)] → W p l e (rmP 0 0) s m args below meth c s.heap [] 0 0 (MQ below (QcP (some (.long rx))) args s 0 0 (fun _ => False)) (F0 m 0 ls []) := by
  intro j0 j2 hm ls hl
  obtain ⟨hx, hb, hr, hlk, hml, hown, hts, hK⟩ := id C
  unfold fX0_lambda_new_0 at hm
  refine lv_lload_n (pc := 0) hx hb dX0_lambda_new_0_0 rfl (lv_at hl 0 rfl) ?_
  refine lv_lload_n (pc := 1) hx hb dX0_lambda_new_0_1 rfl (lv_at hl 1 rfl) ?_
  refine lv_lsub (pc := 2) hx hb dX0_lambda_new_0_2 ?_
  have e9 := rs1 hm
  subst e9
  exact rk_lretP (pc := 3) hx hb hr hlk rfl dX0_lambda_new_0_3
set_option maxHeartbeats 4000000 in
theorem ct_X0_lambda_new_0 {G : Gv} {l : Launch} {j0 : Int64} {j2 : Int64} {rx : Int64} (hm : fX0_lambda_new_0 j0 j2 = some rx) : CP G l yX0_lambda_new_0 (ws_ yX0_lambda_new_0 cX0_lambda_new_0 4 (some .long)) 0 0 [.long j0, .long j2] (fun H => True) (some (.long rx)) := by
  refine Met.ofW (cc := cX0_lambda_new_0) (maxL := 4) (ret := (some .long)) (by decide +kernel) rfl ?_
  intro p e s m args below meth c s₁ B hml hv
  obtain ⟨rfl, -, hK⟩ := hv
  have hts := atoms_spec (ws := ws_ yX0_lambda_new_0 cX0_lambda_new_0 4 (some .long)) B.pre
  have hts : ∀ w ∈ lw_all, w.before _ s = true := fun w h => hts w (List.mem_cons_of_mem _ h)
  have C : Cx G p s m _ meth c RX0 cX0_lambda_new_0 4 (some .long) := ⟨B.exec, B.bytes, B.returns, B.notSynchronized, hml, findClass_of_methodNamed B.named, hts, hK⟩
  have hl := lv_entry ([.long j0, .long j2]) (n := 4) (Nat.le_of_ble_eq_true rfl)
  rw [lg_entry_eq]
  generalize (lg_sl ([.long j0, .long j2]) ++ List.replicate (4 - (lg_sl ([.long j0, .long j2])).length) Slot.unset).toArray = ls at hl ⊢
  have hl : lv_has ls 4 [(0, .long j0), (2, .long j2)] := hl
  exact w_fX0_lambda_new_0 C _ _ hm ls hl
theorem yn_X0_lambda_new_0 : YN yX0_lambda_new_0 2 := by
  unfold YN
  decide +kernel
noncomputable def fX0_lambda_new_1 (j0 : Int64) (j2 : Int64) : Option (Int64) :=
  some (j2 - j0)
set_option maxHeartbeats 4000000 in
theorem w_fX0_lambda_new_1 (C : Cx G p s m args meth c RX0 cX0_lambda_new_1 4 (some .long)) {rx : Int64} : ∀ (j0 : Int64) (j2 : Int64), fX0_lambda_new_1 j0 j2 = some rx → ∀ (ls : Array Slot), lv_has ls 4 [(0, .long j0), (2, .long j2)] → W p l e (rmP 0 0) s m args below meth c s.heap [] 0 0 (MQ below (QcP (some (.long rx))) args s 0 0 (fun _ => False)) (F0 m 0 ls []) := by
  intro j0 j2 hm ls hl
  obtain ⟨hx, hb, hr, hlk, hml, hown, hts, hK⟩ := id C
  unfold fX0_lambda_new_1 at hm
  refine lv_lload_n (pc := 0) hx hb dX0_lambda_new_1_0 rfl (lv_at hl 1 rfl) ?_
  refine lv_lload_n (pc := 1) hx hb dX0_lambda_new_1_1 rfl (lv_at hl 0 rfl) ?_
  refine lv_lsub (pc := 2) hx hb dX0_lambda_new_1_2 ?_
  have e9 := rs1 hm
  subst e9
  exact rk_lretP (pc := 3) hx hb hr hlk rfl dX0_lambda_new_1_3
set_option maxHeartbeats 4000000 in
theorem ct_X0_lambda_new_1 {G : Gv} {l : Launch} {j0 : Int64} {j2 : Int64} {rx : Int64} (hm : fX0_lambda_new_1 j0 j2 = some rx) : CP G l yX0_lambda_new_1 (ws_ yX0_lambda_new_1 cX0_lambda_new_1 4 (some .long)) 0 0 [.long j0, .long j2] (fun H => True) (some (.long rx)) := by
  refine Met.ofW (cc := cX0_lambda_new_1) (maxL := 4) (ret := (some .long)) (by decide +kernel) rfl ?_
  intro p e s m args below meth c s₁ B hml hv
  obtain ⟨rfl, -, hK⟩ := hv
  have hts := atoms_spec (ws := ws_ yX0_lambda_new_1 cX0_lambda_new_1 4 (some .long)) B.pre
  have hts : ∀ w ∈ lw_all, w.before _ s = true := fun w h => hts w (List.mem_cons_of_mem _ h)
  have C : Cx G p s m _ meth c RX0 cX0_lambda_new_1 4 (some .long) := ⟨B.exec, B.bytes, B.returns, B.notSynchronized, hml, findClass_of_methodNamed B.named, hts, hK⟩
  have hl := lv_entry ([.long j0, .long j2]) (n := 4) (Nat.le_of_ble_eq_true rfl)
  rw [lg_entry_eq]
  generalize (lg_sl ([.long j0, .long j2]) ++ List.replicate (4 - (lg_sl ([.long j0, .long j2])).length) Slot.unset).toArray = ls at hl ⊢
  have hl : lv_has ls 4 [(0, .long j0), (2, .long j2)] := hl
  exact w_fX0_lambda_new_1 C _ _ hm ls hl
theorem yn_X0_lambda_new_1 : YN yX0_lambda_new_1 2 := by
  unfold YN
  decide +kernel
noncomputable def fX0_isBroken_mix_5 (V0 : Mem) (n1 : Nat) (k5 : Int64 → Int32 → Option (Int32)) (j3 : Int64) (i5 : Int32) : Option (Int32) :=
  if (gI V0 1 0) ≤ i5 then (
  gb (inR (gI V0 (7 + 2 * n1 + 0) 0) 2) (
  if (gI V0 (7 + 2 * n1 + 0) 0) = (0 : Int32) then (
  ob (fX0_lambda_new_0 j3 (gI V0 (7 + 2 * n1 + 0) 1).toInt64) fun r4 =>
  if (0 : Int64) ≤ r4 then (
  some (0 : Int32))
  else (
  some (1 : Int32)))
  else if (gI V0 (7 + 2 * n1 + 0) 0) = (1 : Int32) then (
  ob (fX0_lambda_new_1 j3 (gI V0 (7 + 2 * n1 + 0) 1).toInt64) fun r8 =>
  if (0 : Int64) ≤ r8 then (
  some (0 : Int32))
  else (
  some (1 : Int32)))
  else none))
  else (
  gb (inR i5 5) (
  gb (inR i5 5) (
  k5 (j3 + ((gI V0 (7 + 2 * n1 + 1) i5.toNatClampNeg) * (gI V0 158 i5.toNatClampNeg)).toInt64) (i5 + (1 : Int32)))))
noncomputable def fX0_isBroken_mix (V0 : Mem) (n1 : Nat) : Option (Int32) :=
  lq2 (fX0_isBroken_mix_5 V0 n1) FU (0 : Int64) (0 : Int32)
set_option maxHeartbeats 4000000 in
theorem w_fX0_isBroken_mix_5 (C : Cx G p s m args meth c RX0 cX0_isBroken 6 (some .boolean)) {b0 : Nat} {V0 : Mem} {n1 : Nat} {rx : Int32} (hW0 : rg G b0 357 (shX0 G.2.1) V0 s.heap) (hG : GO G s.heap) (hn1 : n1 < 8) (hZ : ZQ G) (hgb0 : gB G ≤ b0) (hZL : ZL G) {k5 : Int64 → Int32 → Option (Int32)} (hk5 : ∀ (j3 : Int64) (i5 : Int32), k5 j3 i5 = some rx → ∀ (ls : Array Slot), lv_has ls 6 [(0, .ref b0), (1, .ref (b0 + (7 + 2 * n1 + 0))), (2, .ref (b0 + 158)), (3, .long j3), (5, .int i5)] → W p l e (rmP 2 47) s m args below meth c s.heap [] 0 0 (MQ below (QcP (some (.int rx))) args s 0 0 (fun _ => False)) (F0 m 5 ls [])) : ∀ (j3 : Int64) (i5 : Int32), fX0_isBroken_mix_5 V0 n1 k5 j3 i5 = some rx → ∀ (ls : Array Slot), lv_has ls 6 [(0, .ref b0), (1, .ref (b0 + (7 + 2 * n1 + 0))), (2, .ref (b0 + 158)), (3, .long j3), (5, .int i5)] → W p l e (rmP 2 47) s m args below meth c s.heap [] 0 0 (MQ below (QcP (some (.int rx))) args s 0 0 (fun _ => False)) (F0 m 5 ls []) := by
  intro j3 i5 hm ls hl
  obtain ⟨hx, hb, hr, hlk, hml, hown, hts, hK⟩ := id C
  unfold fX0_isBroken_mix_5 at hm
  refine lv_iload (pc := 5) hx hb dX0_isBroken_5 (lv_at hl 4 rfl) ?_
  refine lv_aload_n (pc := 7) hx hb dX0_isBroken_7 rfl (lv_at hl 0 rfl) ?_
  refine rk_get (pc := 8) hx hb hts hown hK hW0 flX0_12 0 (by decide) rfl rfl (x := .ref (b0 + 1)) (by first | rfl | exact congrArg (fun z => some (Value.ref z)) (by omega)) dX0_isBroken_8 ?_
  refine rk_getN (pc := 11) hx hb hts hown hK hW0 fnX0_131 1 (by decide) rfl rfl (x := .int (gI V0 1 0)) rfl dX0_isBroken_11 ?_
  refine lv_icmp_ge (pc := 14) (tgt := 39) hx hb dX0_isBroken_14 (by decide) (fun c1 => ?_) (fun c1 => ?_)
  · have hm := ite_t c1 hm
    refine lv_aload_n (pc := 39) hx hb dX0_isBroken_39 rfl (lv_at hl 0 rfl) ?_
    refine rk_get (pc := 40) hx hb hts hown hK hW0 flX0_46 0 (by decide) rfl rfl (x := .ref (b0 + 155)) (by first | rfl | exact congrArg (fun z => some (Value.ref z)) (by omega)) dX0_isBroken_40 ?_
    refine lv_aload_n (pc := 43) hx hb dX0_isBroken_43 rfl (lv_at hl 1 rfl) ?_
    refine rk_getN (pc := 44) hx hb hts hown hK hW0 fnX0_215 (7 + 2 * n1 + 0) (by omega) rfl ((shX0_f7 G.2.1 hn1 _ rfl 0 (by decide) _ _ _).trans rfl) (x := .int (gI V0 (7 + 2 * n1 + 0) 0)) rfl dX0_isBroken_44 ?_
    obtain ⟨hg2, hm⟩ := gb_some hm
    by_cases c3 : (gI V0 (7 + 2 * n1 + 0) 0) = (0 : Int32)
    · have hm := ite_t c3 hm
      refine rk_aald (pc := 47) hx hb hK hW0 155 7 (by decide) rfl rfl rfl hg2 (x := (G.2.1 28)) (by rw [c3]; rfl) dX0_isBroken_47 ?_
      refine lv_lload_n (pc := 48) hx hb dX0_isBroken_48 rfl (lv_at hl 3 rfl) ?_
      refine lv_aload_n (pc := 49) hx hb dX0_isBroken_49 rfl (lv_at hl 1 rfl) ?_
      refine rk_getN (pc := 50) hx hb hts hown hK hW0 fnX0_181 (7 + 2 * n1 + 0) (by omega) rfl ((shX0_f7 G.2.1 hn1 _ rfl 0 (by decide) _ _ _).trans rfl) (x := .int (gI V0 (7 + 2 * n1 + 0) 1)) rfl dX0_isBroken_50 ?_
      refine lv_i2l (pc := 53) hx hb dX0_isBroken_53 rfl ?_
      obtain ⟨r4, hq5, hm⟩ := ob_some hm
      refine rk_lamL (pc := 54) (y := yX0_lambda_new_0) (a1 := j3) (a2 := (gI V0 (7 + 2 * n1 + 0) 1).toInt64) (r := r4) (rest := []) hx hb hml hown hts hK lfL0 (hZL.1 s hK).1.1 (hZL.1 s hK).2.1.1 q1154 q1156 (GO.lc hG hZL.2.1) rfl rfl rfl yn_X0_lambda_new_0 ⟨q419, q114, q420⟩ (ct_X0_lambda_new_0 (G := G) (l := l) hq5) ⟨Nat.le_of_ble_eq_true rfl, Nat.le_of_ble_eq_true rfl⟩ trivial hl.1 (Nat.le_of_ble_eq_true rfl) dX0_isBroken_54 ⟨Nat.zero_le _, Nat.zero_le _⟩ ?_
      refine lv_lconst (pc := 59) (v := (0 : Int64)) hx hb dX0_isBroken_59 (by decide) ?_
      refine rk_lcmp_ge (pc := 60) (tgt := 68) hx hb dX0_isBroken_60 rfl dX0_isBroken_61 (by decide) (fun c6 => ?_) (fun c6 => ?_)
      · have hm := ite_t c6 hm
        refine lv_iconst (pc := 68) (v := (0 : Int32)) hx hb dX0_isBroken_68 (by decide) ?_
        have e9 := rs1 hm
        subst e9
        exact rk_zretP (pc := 69) hx hb hr hlk rfl rfl dX0_isBroken_69
      · have hm := ite_f c6 hm
        refine lv_iconst (pc := 64) (v := (1 : Int32)) hx hb dX0_isBroken_64 (by decide) ?_
        refine lv_goto (pc := 65) (tgt := 69) hx hb dX0_isBroken_65 (by decide) ?_
        have e9 := rs1 hm
        subst e9
        exact rk_zretP (pc := 69) hx hb hr hlk rfl rfl dX0_isBroken_69
    have hm := ite_f c3 hm
    by_cases c7 : (gI V0 (7 + 2 * n1 + 0) 0) = (1 : Int32)
    · have hm := ite_t c7 hm
      refine rk_aald (pc := 47) hx hb hK hW0 155 7 (by decide) rfl rfl rfl hg2 (x := (G.2.1 29)) (by rw [c7]; rfl) dX0_isBroken_47 ?_
      refine lv_lload_n (pc := 48) hx hb dX0_isBroken_48 rfl (lv_at hl 3 rfl) ?_
      refine lv_aload_n (pc := 49) hx hb dX0_isBroken_49 rfl (lv_at hl 1 rfl) ?_
      refine rk_getN (pc := 50) hx hb hts hown hK hW0 fnX0_181 (7 + 2 * n1 + 0) (by omega) rfl ((shX0_f7 G.2.1 hn1 _ rfl 0 (by decide) _ _ _).trans rfl) (x := .int (gI V0 (7 + 2 * n1 + 0) 1)) rfl dX0_isBroken_50 ?_
      refine lv_i2l (pc := 53) hx hb dX0_isBroken_53 rfl ?_
      obtain ⟨r8, hq9, hm⟩ := ob_some hm
      refine rk_lamL (pc := 54) (y := yX0_lambda_new_1) (a1 := j3) (a2 := (gI V0 (7 + 2 * n1 + 0) 1).toInt64) (r := r8) (rest := []) hx hb hml hown hts hK lfL1 (hZL.1 s hK).1.2.1 (hZL.1 s hK).2.1.1 q1154 q1156 (GO.lc hG hZL.2.2) rfl rfl rfl yn_X0_lambda_new_1 ⟨q421, q114, q422⟩ (ct_X0_lambda_new_1 (G := G) (l := l) hq9) ⟨Nat.le_of_ble_eq_true rfl, Nat.le_of_ble_eq_true rfl⟩ trivial hl.1 (Nat.le_of_ble_eq_true rfl) dX0_isBroken_54 ⟨Nat.zero_le _, Nat.zero_le _⟩ ?_
      refine lv_lconst (pc := 59) (v := (0 : Int64)) hx hb dX0_isBroken_59 (by decide) ?_
      refine rk_lcmp_ge (pc := 60) (tgt := 68) hx hb dX0_isBroken_60 rfl dX0_isBroken_61 (by decide) (fun c10 => ?_) (fun c10 => ?_)
      · have hm := ite_t c10 hm
        refine lv_iconst (pc := 68) (v := (0 : Int32)) hx hb dX0_isBroken_68 (by decide) ?_
        have e9 := rs1 hm
        subst e9
        exact rk_zretP (pc := 69) hx hb hr hlk rfl rfl dX0_isBroken_69
      · have hm := ite_f c10 hm
        refine lv_iconst (pc := 64) (v := (1 : Int32)) hx hb dX0_isBroken_64 (by decide) ?_
        refine lv_goto (pc := 65) (tgt := 69) hx hb dX0_isBroken_65 (by decide) ?_
        have e9 := rs1 hm
        subst e9
        exact rk_zretP (pc := 69) hx hb hr hlk rfl rfl dX0_isBroken_69
    have hm := ite_f c7 hm
    exact nomatch hm
  · have hm := ite_f c1 hm
    refine lv_lload_n (pc := 17) hx hb dX0_isBroken_17 rfl (lv_at hl 3 rfl) ?_
    refine lv_aload_n (pc := 18) hx hb dX0_isBroken_18 rfl (lv_at hl 1 rfl) ?_
    refine rk_getN (pc := 19) hx hb hts hown hK hW0 fnX0_176 (7 + 2 * n1 + 0) (by omega) rfl ((shX0_f7 G.2.1 hn1 _ rfl 0 (by decide) _ _ _).trans rfl) (x := .ref (b0 + (7 + 2 * n1 + 1))) (by first | rfl | exact congrArg (fun z => some (Value.ref z)) (by omega)) dX0_isBroken_19 ?_
    refine lv_iload (pc := 22) hx hb dX0_isBroken_22 (lv_at hl 4 rfl) ?_
    obtain ⟨hg11, hm⟩ := gb_some hm
    refine rk_iald (pc := 24) hx hb hK hW0 (7 + 2 * n1 + 1) (by omega) rfl ((shX0_f7 G.2.1 hn1 _ rfl 1 (by decide) _ _ _).trans rfl) hg11 (x := (gI V0 (7 + 2 * n1 + 1) i5.toNatClampNeg)) rfl dX0_isBroken_24 ?_
    refine lv_aload_n (pc := 25) hx hb dX0_isBroken_25 rfl (lv_at hl 2 rfl) ?_
    refine lv_iload (pc := 26) hx hb dX0_isBroken_26 (lv_at hl 4 rfl) ?_
    obtain ⟨hg12, hm⟩ := gb_some hm
    refine rk_iald (pc := 28) hx hb hK hW0 158 (by decide) rfl rfl hg12 (x := (gI V0 158 i5.toNatClampNeg)) rfl dX0_isBroken_28 ?_
    refine lv_imul (pc := 29) hx hb dX0_isBroken_29 ?_
    refine lv_i2l (pc := 30) hx hb dX0_isBroken_30 rfl ?_
    refine lv_ladd (pc := 31) hx hb dX0_isBroken_31 ?_
    refine lv_lstore_n (pc := 32) (lv' := [(3, .long (j3 + ((gI V0 (7 + 2 * n1 + 1) i5.toNatClampNeg) * (gI V0 158 i5.toNatClampNeg)).toInt64)), (0, .ref b0), (1, .ref (b0 + (7 + 2 * n1 + 0))), (2, .ref (b0 + 158)), (5, .int i5)]) hx hb dX0_isBroken_32 rfl hl (by decide) rfl (fun ls hl => ?_)
    refine lv_iinc (pc := 33) (v := (i5 + (1 : Int32))) (lv' := [(5, .int (i5 + (1 : Int32))), (3, .long (j3 + ((gI V0 (7 + 2 * n1 + 1) i5.toNatClampNeg) * (gI V0 158 i5.toNatClampNeg)).toInt64)), (0, .ref b0), (1, .ref (b0 + (7 + 2 * n1 + 0))), (2, .ref (b0 + 158))]) hx hb dX0_isBroken_33 hl (k := 4) rfl rfl (by decide) rfl (fun ls hl => ?_)
    refine lv_goto (pc := 36) (tgt := 5) hx hb dX0_isBroken_36 (by decide) ?_
    exact hk5 (j3 + ((gI V0 (7 + 2 * n1 + 1) i5.toNatClampNeg) * (gI V0 158 i5.toNatClampNeg)).toInt64) (i5 + (1 : Int32)) hm ls (lv_sub hl [2, 3, 4, 1, 0] rfl)
theorem w_fX0_isBroken_mix_5_l (C : Cx G p s m args meth c RX0 cX0_isBroken 6 (some .boolean)) {b0 : Nat} {V0 : Mem} {n1 : Nat} {rx : Int32} (hW0 : rg G b0 357 (shX0 G.2.1) V0 s.heap) (hG : GO G s.heap) (hn1 : n1 < 8) (hZ : ZQ G) (hgb0 : gB G ≤ b0) (hZL : ZL G) : ∀ (n : Nat) (j3 : Int64) (i5 : Int32), lq2 (fX0_isBroken_mix_5 V0 n1) n j3 i5 = some rx → ∀ (ls : Array Slot), lv_has ls 6 [(0, .ref b0), (1, .ref (b0 + (7 + 2 * n1 + 0))), (2, .ref (b0 + 158)), (3, .long j3), (5, .int i5)] → W p l e (rmP 2 47) s m args below meth c s.heap [] 0 0 (MQ below (QcP (some (.int rx))) args s 0 0 (fun _ => False)) (F0 m 5 ls []) := by
  intro n
  induction n with
  | zero => intro j3 i5 hm; exact (lq2_0 hm).elim
  | succ n ih => intro j3 i5 hm; exact w_fX0_isBroken_mix_5 C hW0 hG hn1 hZ hgb0 hZL ih j3 i5 (lq2_s hm)
set_option maxHeartbeats 4000000 in
theorem w_fX0_isBroken_mix (C : Cx G p s m args meth c RX0 cX0_isBroken 6 (some .boolean)) {b0 : Nat} {V0 : Mem} {n1 : Nat} {rx : Int32} (hW0 : rg G b0 357 (shX0 G.2.1) V0 s.heap) (hG : GO G s.heap) (hn1 : n1 < 8) (hZ : ZQ G) (hgb0 : gB G ≤ b0) (hZL : ZL G) : fX0_isBroken_mix V0 n1 = some rx → ∀ (ls : Array Slot), lv_has ls 6 [(0, .ref b0), (1, .ref (b0 + (7 + 2 * n1 + 0))), (2, .ref (b0 + 158))] → W p l e (rmP 2 47) s m args below meth c s.heap [] 0 0 (MQ below (QcP (some (.int rx))) args s 0 0 (fun _ => False)) (F0 m 0 ls []) := by
  intro hm ls hl
  obtain ⟨hx, hb, hr, hlk, hml, hown, hts, hK⟩ := id C
  unfold fX0_isBroken_mix at hm
  refine lv_lconst (pc := 0) (v := (0 : Int64)) hx hb dX0_isBroken_0 (by decide) ?_
  refine lv_lstore_n (pc := 1) (lv' := [(3, .long (0 : Int64)), (0, .ref b0), (1, .ref (b0 + (7 + 2 * n1 + 0))), (2, .ref (b0 + 158))]) hx hb dX0_isBroken_1 rfl hl (by decide) rfl (fun ls hl => ?_)
  refine lv_iconst (pc := 2) (v := (0 : Int32)) hx hb dX0_isBroken_2 (by decide) ?_
  refine lv_istore (pc := 3) (lv' := [(5, .int (0 : Int32)), (3, .long (0 : Int64)), (0, .ref b0), (1, .ref (b0 + (7 + 2 * n1 + 0))), (2, .ref (b0 + 158))]) hx hb dX0_isBroken_3 hl (by decide) rfl (fun ls hl => ?_)
  exact (w_fX0_isBroken_mix_5_l C hW0 hG hn1 hZ hgb0 hZL FU) (0 : Int64) (0 : Int32) hm ls (lv_sub hl [2, 3, 4, 1, 0] rfl)
set_option maxHeartbeats 4000000 in
theorem ct_X0_isBroken_mix {G : Gv} {l : Launch} {b0 : Nat} {V0 : Mem} {n1 : Nat} {rx : Int32} (hm : fX0_isBroken_mix V0 n1  = some rx) (hn1 : n1 < 8) (hZ : ZQ G) (hgb0 : gB G ≤ b0) (hZL : ZL G) : CP G l yX0_isBroken (ws_ yX0_isBroken cX0_isBroken 6 (some .boolean)) 2 47 [.ref b0, .ref (b0 + (7 + 2 * n1 + 0)), .ref (b0 + 158)] (fun H => rg G b0 357 (shX0 G.2.1) V0 H ∧ GO G H) (some (.int rx)) := by
  refine Met.ofW (cc := cX0_isBroken) (maxL := 6) (ret := (some .boolean)) (by decide +kernel) rfl ?_
  intro p e s m args below meth c s₁ B hml hv
  obtain ⟨rfl, ⟨hW0, hG⟩, hK⟩ := hv
  have hts := atoms_spec (ws := ws_ yX0_isBroken cX0_isBroken 6 (some .boolean)) B.pre
  have hts : ∀ w ∈ lw_all, w.before _ s = true := fun w h => hts w (List.mem_cons_of_mem _ h)
  have C : Cx G p s m _ meth c RX0 cX0_isBroken 6 (some .boolean) := ⟨B.exec, B.bytes, B.returns, B.notSynchronized, hml, findClass_of_methodNamed B.named, hts, hK⟩
  have hl := lv_entry ([.ref b0, .ref (b0 + (7 + 2 * n1 + 0)), .ref (b0 + 158)]) (n := 6) (Nat.le_of_ble_eq_true rfl)
  rw [lg_entry_eq]
  generalize (lg_sl ([.ref b0, .ref (b0 + (7 + 2 * n1 + 0)), .ref (b0 + 158)]) ++ List.replicate (6 - (lg_sl ([.ref b0, .ref (b0 + (7 + 2 * n1 + 0)), .ref (b0 + 158)])).length) Slot.unset).toArray = ls at hl ⊢
  have hl : lv_has ls 6 [(0, .ref b0), (1, .ref (b0 + (7 + 2 * n1 + 0))), (2, .ref (b0 + 158))] := hl
  exact w_fX0_isBroken_mix C hW0 hG hn1 hZ hgb0 hZL  hm ls hl
theorem yn_X0_isBroken : YN yX0_isBroken 2 := by
  unfold YN
  decide +kernel
theorem lkX0_329 : LV RX0 329 RX0 yX0_isBroken cX0_isBroken 6 (some .boolean) := ⟨q1149, q1151, qs31, q114, q1152⟩
noncomputable def fX0_brokenBy_mix_4 (V0 : Mem) (k4 : Int32 → Int32 → Option (Int32)) (i2 : Int32) (i3 : Int32) : Option (Int32) :=
  if (gI V0 1 1) ≤ i3 then (
  some i2)
  else (
  gb (inR i3 8) (
  ob (fX0_isBroken_mix V0 i3.toNatClampNeg) fun r4 =>
  if r4 = 0 then (
  k4 (i2 + (0 : Int32)) (i3 + (1 : Int32)))
  else (
  k4 (i2 + (1 : Int32)) (i3 + (1 : Int32)))))
noncomputable def fX0_brokenBy_mix (V0 : Mem) : Option (Int32) :=
  lq2 (fX0_brokenBy_mix_4 V0) FU (0 : Int32) (0 : Int32)
set_option maxHeartbeats 4000000 in
theorem w_fX0_brokenBy_mix_4 (C : Cx G p s m args meth c RX0 cX0_brokenBy 4 (some .int)) {b0 : Nat} {V0 : Mem} {rx : Int32} (hW0 : rg G b0 357 (shX0 G.2.1) V0 s.heap) (hG : GO G s.heap) (hZ : ZQ G) (hgb0 : gB G ≤ b0) (hZL : ZL G) {k4 : Int32 → Int32 → Option (Int32)} (hk4 : ∀ (i2 : Int32) (i3 : Int32), k4 i2 i3 = some rx → ∀ (ls : Array Slot), lv_has ls 4 [(0, .ref b0), (1, .ref (b0 + 158)), (2, .int i2), (3, .int i3)] → W p l e (rmP 3 72) s m args below meth c s.heap [] 0 0 (MQ below (QcP (some (.int rx))) args s 0 0 (fun _ => False)) (F0 m 4 ls [])) : ∀ (i2 : Int32) (i3 : Int32), fX0_brokenBy_mix_4 V0 k4 i2 i3 = some rx → ∀ (ls : Array Slot), lv_has ls 4 [(0, .ref b0), (1, .ref (b0 + 158)), (2, .int i2), (3, .int i3)] → W p l e (rmP 3 72) s m args below meth c s.heap [] 0 0 (MQ below (QcP (some (.int rx))) args s 0 0 (fun _ => False)) (F0 m 4 ls []) := by
  intro i2 i3 hm ls hl
  obtain ⟨hx, hb, hr, hlk, hml, hown, hts, hK⟩ := id C
  unfold fX0_brokenBy_mix_4 at hm
  refine lv_iload_n (pc := 4) hx hb dX0_brokenBy_4 rfl (lv_at hl 3 rfl) ?_
  refine lv_aload_n (pc := 5) hx hb dX0_brokenBy_5 rfl (lv_at hl 0 rfl) ?_
  refine rk_get (pc := 6) hx hb hts hown hK hW0 flX0_12 0 (by decide) rfl rfl (x := .ref (b0 + 1)) (by first | rfl | exact congrArg (fun z => some (Value.ref z)) (by omega)) dX0_brokenBy_6 ?_
  refine rk_getN (pc := 9) hx hb hts hown hK hW0 fnX0_158 1 (by decide) rfl rfl (x := .int (gI V0 1 1)) rfl dX0_brokenBy_9 ?_
  refine lv_icmp_ge (pc := 12) (tgt := 46) hx hb dX0_brokenBy_12 (by decide) (fun c1 => ?_) (fun c1 => ?_)
  · have hm := ite_t c1 hm
    refine lv_iload_n (pc := 46) hx hb dX0_brokenBy_46 rfl (lv_at hl 2 rfl) ?_
    have e9 := rs1 hm
    subst e9
    exact rk_iretP (pc := 47) hx hb hr hlk rfl dX0_brokenBy_47
  · have hm := ite_f c1 hm
    refine lv_iload_n (pc := 15) hx hb dX0_brokenBy_15 rfl (lv_at hl 2 rfl) ?_
    refine lv_aload_n (pc := 16) hx hb dX0_brokenBy_16 rfl (lv_at hl 0 rfl) ?_
    refine lv_aload_n (pc := 17) hx hb dX0_brokenBy_17 rfl (lv_at hl 0 rfl) ?_
    refine rk_get (pc := 18) hx hb hts hown hK hW0 flX0_12 0 (by decide) rfl rfl (x := .ref (b0 + 1)) (by first | rfl | exact congrArg (fun z => some (Value.ref z)) (by omega)) dX0_brokenBy_18 ?_
    refine rk_getN (pc := 21) hx hb hts hown hK hW0 fnX0_172 1 (by decide) rfl rfl (x := .ref (b0 + 3)) (by first | rfl | exact congrArg (fun z => some (Value.ref z)) (by omega)) dX0_brokenBy_21 ?_
    refine lv_iload_n (pc := 24) hx hb dX0_brokenBy_24 rfl (lv_at hl 3 rfl) ?_
    obtain ⟨hg2, hm⟩ := gb_some hm
    have hlt3 := inR_lt hg2
    refine rk_aald (pc := 25) hx hb hK hW0 3 5 (by decide) rfl rfl rfl hg2 (x := (b0 + (7 + 2 * i3.toNatClampNeg + 0))) (by first | rfl | exact congrArg some (by omega)) dX0_brokenBy_25 ?_
    refine lv_aload_n (pc := 26) hx hb dX0_brokenBy_26 rfl (lv_at hl 1 rfl) ?_
    obtain ⟨r4, hq5, hm⟩ := ob_some hm
    refine rk_PV (pc := 27) (As := [.ref (b0 + (7 + 2 * i3.toNatClampNeg + 0)), .ref (b0 + 158)]) (rest := [.int i2]) hx hb hml hown hts hK lkX0_329 rfl yn_X0_isBroken (ct_X0_isBroken_mix (G := G) (l := l) (b0 := b0) hq5 hlt3 hZ (by omega) hZL) ⟨Nat.le_of_ble_eq_true rfl, Nat.le_of_ble_eq_true rfl⟩ (rk_recv hK hW0 0 (by decide) rfl rfl rfl) ⟨hW0, hG⟩ rfl rfl hl.1 (Nat.le_of_ble_eq_true rfl) dX0_brokenBy_27 ⟨Nat.zero_le _, Nat.zero_le _⟩ ?_
    refine W.eq (g2 := F0 m 30 ls [.int r4, .int i2]) rfl ?_
    refine lv_if_eq (pc := 30) (tgt := 37) hx hb dX0_brokenBy_30 (by decide) (fun c6 => ?_) (fun c6 => ?_)
    · have hm := ite_t c6 hm
      refine lv_iconst (pc := 37) (v := (0 : Int32)) hx hb dX0_brokenBy_37 (by decide) ?_
      refine lv_iadd (pc := 38) hx hb dX0_brokenBy_38 ?_
      refine lv_istore_n (pc := 39) (lv' := [(2, .int (i2 + (0 : Int32))), (0, .ref b0), (1, .ref (b0 + 158)), (3, .int i3)]) hx hb dX0_brokenBy_39 rfl hl (by decide) rfl (fun ls hl => ?_)
      refine lv_iinc (pc := 40) (v := (i3 + (1 : Int32))) (lv' := [(3, .int (i3 + (1 : Int32))), (2, .int (i2 + (0 : Int32))), (0, .ref b0), (1, .ref (b0 + 158))]) hx hb dX0_brokenBy_40 hl (k := 3) rfl rfl (by decide) rfl (fun ls hl => ?_)
      refine lv_goto (pc := 43) (tgt := 4) hx hb dX0_brokenBy_43 (by decide) ?_
      exact hk4 (i2 + (0 : Int32)) (i3 + (1 : Int32)) hm ls (lv_sub hl [2, 3, 1, 0] rfl)
    · have hm := ite_f c6 hm
      refine lv_iconst (pc := 33) (v := (1 : Int32)) hx hb dX0_brokenBy_33 (by decide) ?_
      refine lv_goto (pc := 34) (tgt := 38) hx hb dX0_brokenBy_34 (by decide) ?_
      refine lv_iadd (pc := 38) hx hb dX0_brokenBy_38 ?_
      refine lv_istore_n (pc := 39) (lv' := [(2, .int (i2 + (1 : Int32))), (0, .ref b0), (1, .ref (b0 + 158)), (3, .int i3)]) hx hb dX0_brokenBy_39 rfl hl (by decide) rfl (fun ls hl => ?_)
      refine lv_iinc (pc := 40) (v := (i3 + (1 : Int32))) (lv' := [(3, .int (i3 + (1 : Int32))), (2, .int (i2 + (1 : Int32))), (0, .ref b0), (1, .ref (b0 + 158))]) hx hb dX0_brokenBy_40 hl (k := 3) rfl rfl (by decide) rfl (fun ls hl => ?_)
      refine lv_goto (pc := 43) (tgt := 4) hx hb dX0_brokenBy_43 (by decide) ?_
      exact hk4 (i2 + (1 : Int32)) (i3 + (1 : Int32)) hm ls (lv_sub hl [2, 3, 1, 0] rfl)
theorem w_fX0_brokenBy_mix_4_l (C : Cx G p s m args meth c RX0 cX0_brokenBy 4 (some .int)) {b0 : Nat} {V0 : Mem} {rx : Int32} (hW0 : rg G b0 357 (shX0 G.2.1) V0 s.heap) (hG : GO G s.heap) (hZ : ZQ G) (hgb0 : gB G ≤ b0) (hZL : ZL G) : ∀ (n : Nat) (i2 : Int32) (i3 : Int32), lq2 (fX0_brokenBy_mix_4 V0) n i2 i3 = some rx → ∀ (ls : Array Slot), lv_has ls 4 [(0, .ref b0), (1, .ref (b0 + 158)), (2, .int i2), (3, .int i3)] → W p l e (rmP 3 72) s m args below meth c s.heap [] 0 0 (MQ below (QcP (some (.int rx))) args s 0 0 (fun _ => False)) (F0 m 4 ls []) := by
  intro n
  induction n with
  | zero => intro i2 i3 hm; exact (lq2_0 hm).elim
  | succ n ih => intro i2 i3 hm; exact w_fX0_brokenBy_mix_4 C hW0 hG hZ hgb0 hZL ih i2 i3 (lq2_s hm)
set_option maxHeartbeats 4000000 in
theorem w_fX0_brokenBy_mix (C : Cx G p s m args meth c RX0 cX0_brokenBy 4 (some .int)) {b0 : Nat} {V0 : Mem} {rx : Int32} (hW0 : rg G b0 357 (shX0 G.2.1) V0 s.heap) (hG : GO G s.heap) (hZ : ZQ G) (hgb0 : gB G ≤ b0) (hZL : ZL G) : fX0_brokenBy_mix V0 = some rx → ∀ (ls : Array Slot), lv_has ls 4 [(0, .ref b0), (1, .ref (b0 + 158))] → W p l e (rmP 3 72) s m args below meth c s.heap [] 0 0 (MQ below (QcP (some (.int rx))) args s 0 0 (fun _ => False)) (F0 m 0 ls []) := by
  intro hm ls hl
  obtain ⟨hx, hb, hr, hlk, hml, hown, hts, hK⟩ := id C
  unfold fX0_brokenBy_mix at hm
  refine lv_iconst (pc := 0) (v := (0 : Int32)) hx hb dX0_brokenBy_0 (by decide) ?_
  refine lv_istore_n (pc := 1) (lv' := [(2, .int (0 : Int32)), (0, .ref b0), (1, .ref (b0 + 158))]) hx hb dX0_brokenBy_1 rfl hl (by decide) rfl (fun ls hl => ?_)
  refine lv_iconst (pc := 2) (v := (0 : Int32)) hx hb dX0_brokenBy_2 (by decide) ?_
  refine lv_istore_n (pc := 3) (lv' := [(3, .int (0 : Int32)), (2, .int (0 : Int32)), (0, .ref b0), (1, .ref (b0 + 158))]) hx hb dX0_brokenBy_3 rfl hl (by decide) rfl (fun ls hl => ?_)
  exact (w_fX0_brokenBy_mix_4_l C hW0 hG hZ hgb0 hZL FU) (0 : Int32) (0 : Int32) hm ls (lv_sub hl [2, 3, 1, 0] rfl)
set_option maxHeartbeats 4000000 in
theorem ct_X0_brokenBy_mix {G : Gv} {l : Launch} {b0 : Nat} {V0 : Mem} {rx : Int32} (hm : fX0_brokenBy_mix V0  = some rx) (hZ : ZQ G) (hgb0 : gB G ≤ b0) (hZL : ZL G) : CP G l yX0_brokenBy (ws_ yX0_brokenBy cX0_brokenBy 4 (some .int)) 3 72 [.ref b0, .ref (b0 + 158)] (fun H => rg G b0 357 (shX0 G.2.1) V0 H ∧ GO G H) (some (.int rx)) := by
  refine Met.ofW (cc := cX0_brokenBy) (maxL := 4) (ret := (some .int)) (by decide +kernel) rfl ?_
  intro p e s m args below meth c s₁ B hml hv
  obtain ⟨rfl, ⟨hW0, hG⟩, hK⟩ := hv
  have hts := atoms_spec (ws := ws_ yX0_brokenBy cX0_brokenBy 4 (some .int)) B.pre
  have hts : ∀ w ∈ lw_all, w.before _ s = true := fun w h => hts w (List.mem_cons_of_mem _ h)
  have C : Cx G p s m _ meth c RX0 cX0_brokenBy 4 (some .int) := ⟨B.exec, B.bytes, B.returns, B.notSynchronized, hml, findClass_of_methodNamed B.named, hts, hK⟩
  have hl := lv_entry ([.ref b0, .ref (b0 + 158)]) (n := 4) (Nat.le_of_ble_eq_true rfl)
  rw [lg_entry_eq]
  generalize (lg_sl ([.ref b0, .ref (b0 + 158)]) ++ List.replicate (4 - (lg_sl ([.ref b0, .ref (b0 + 158)])).length) Slot.unset).toArray = ls at hl ⊢
  have hl : lv_has ls 4 [(0, .ref b0), (1, .ref (b0 + 158))] := hl
  exact w_fX0_brokenBy_mix C hW0 hG hZ hgb0 hZL  hm ls hl
theorem yn_X0_brokenBy : YN yX0_brokenBy 1 := by
  unfold YN
  decide +kernel
theorem lkX0_333 : LV RX0 333 RX0 yX0_brokenBy cX0_brokenBy 4 (some .int) := ⟨q1145, q1147, qs30, q114, q1148⟩
theorem yn_X0_counts : YN yX0_counts 2 := by
  unfold YN
  decide +kernel
theorem lkX0_608 : LV RX0 608 RX0 yX0_counts cX0_counts 3 (some .boolean) := ⟨q1180, q1182, qs36, q114, q1183⟩
noncomputable def fX0_lambda_many_4 (v0 : Mem) (i1 : Int32) (i2 : Int32) (i3 : Int32) (i4 : Int32) : Option (Int32 × Mem) :=
  ob2 (fX0_counts v0 i4 i1) fun r1 w2 =>
  gb (z01 r1) (some (r1, w2))
set_option maxHeartbeats 4000000 in
theorem w_fX0_lambda_many_4 (C : Cx G p s m args meth c RX0 cX0_lambda_many_4 5 (some .boolean)) {b0 : Nat} {rx : Int32} {rw0 : Mem} : ∀ (v0 : Mem) (i1 : Int32) (i2 : Int32) (i3 : Int32) (i4 : Int32), fX0_lambda_many_4 v0 i1 i2 i3 i4 = some (rx, rw0) → ∀ (H : Heap) (locs : List Loc) (ls : Array Slot), rg G b0 357 (shX0 G.2.1) v0 H → va_S (FA (fX b0) s.heap.size) s.heap H locs → H.size = s.heap.size → lv_has ls 5 [(0, .ref b0), (1, .int i1), (2, .int i2), (3, .int i3), (4, .int i4)] → W p l e (rmT 1 0 0 22) s m args below meth c H locs 0 0 (MQ below (QcT (FA (fX b0) s.heap.size) (fun ov H => ov = (some (.int rx)) ∧ rg G b0 357 (shX0 G.2.1) rw0 H ∧ H.size = s.heap.size)) args s 0 0 (FA (fX b0) s.heap.size)) (F0 m 0 ls []) := by
  intro v0 i1 i2 i3 i4 hm H locs ls hW0 hS hz hl
  obtain ⟨hx, hb, hr, hlk, hml, hown, hts, hK⟩ := id C
  unfold fX0_lambda_many_4 at hm
  refine lv_aload_n (pc := 0) hx hb dX0_lambda_many_4_0 rfl (lv_at hl 0 rfl) ?_
  refine lv_iload (pc := 1) hx hb dX0_lambda_many_4_1 (lv_at hl 4 rfl) ?_
  refine lv_iload_n (pc := 3) hx hb dX0_lambda_many_4_3 rfl (lv_at hl 1 rfl) ?_
  obtain ⟨r1, w2, hq3, hm⟩ := ob2_some hm
  refine rk_TV (pc := 4) (As := [.int i4, .int i1]) (rest := []) (mc := 0) (ms := 0) hx hb hml hown hts hK hS (fun q hq => FA_sz rfl q hq) lkX0_608 rfl yn_X0_counts (ct_X0_counts (G := G) (l := l) (b0 := b0) (sz := H.size) hq3) ⟨Nat.le_of_ble_eq_true rfl, Nat.le_of_ble_eq_true rfl⟩ (fun z h => Or.inl h) (rk_recv hK hW0 0 (by decide) rfl rfl rfl) hW0 rfl rfl hl.1 (Nat.le_of_ble_eq_true rfl) dX0_lambda_many_4_4 ⟨Nat.zero_le _, Nat.zero_le _⟩ (fun ov9 H4 locs5 hP6 hkp7 hS8 => ?_)
  obtain ⟨rfl, hW9, hz10⟩ := hP6
  have hz11 := hz10.trans hz
  refine W.eq (g2 := F0 m 7 ls [.int r1]) rfl ?_
  obtain ⟨hg12, hm⟩ := gb_some hm
  obtain ⟨e8, e9⟩ := rs2 hm
  subst e8
  subst e9
  exact rk_zret (pc := 7) hx hb hr hlk hg12 hS8 ⟨rfl, hW9, hz11⟩ dX0_lambda_many_4_7
set_option maxHeartbeats 4000000 in
theorem ct_X0_lambda_many_4 {G : Gv} {l : Launch} {b0 : Nat} {v0 : Mem} {i1 : Int32} {i2 : Int32} {i3 : Int32} {i4 : Int32} {rx : Int32} {rw0 : Mem} {sz : Nat} (hm : fX0_lambda_many_4 v0 i1 i2 i3 i4 = some (rx, rw0)) : CT G l yX0_lambda_many_4 (ws_ yX0_lambda_many_4 cX0_lambda_many_4 5 (some .boolean)) 1 0 0 22 [.ref b0, .int i1, .int i2, .int i3, .int i4] (fX b0) sz (fun H => rg G b0 357 (shX0 G.2.1) v0 H) (fun ov H => ov = (some (.int rx)) ∧ rg G b0 357 (shX0 G.2.1) rw0 H ∧ H.size = sz) := by
  refine Met.ofW (cc := cX0_lambda_many_4) (maxL := 5) (ret := (some .boolean)) (by decide +kernel) rfl ?_
  intro p e s m args below meth c s₁ B hml hv
  obtain ⟨rfl, ⟨hz, hW0⟩, hK⟩ := hv
  subst hz
  have hts := atoms_spec (ws := ws_ yX0_lambda_many_4 cX0_lambda_many_4 5 (some .boolean)) B.pre
  have hts : ∀ w ∈ lw_all, w.before _ s = true := fun w h => hts w (List.mem_cons_of_mem _ h)
  have C : Cx G p s m _ meth c RX0 cX0_lambda_many_4 5 (some .boolean) := ⟨B.exec, B.bytes, B.returns, B.notSynchronized, hml, findClass_of_methodNamed B.named, hts, hK⟩
  have hl := lv_entry ([.ref b0, .int i1, .int i2, .int i3, .int i4]) (n := 5) (Nat.le_of_ble_eq_true rfl)
  rw [lg_entry_eq]
  generalize (lg_sl ([.ref b0, .int i1, .int i2, .int i3, .int i4]) ++ List.replicate (5 - (lg_sl ([.ref b0, .int i1, .int i2, .int i3, .int i4])).length) Slot.unset).toArray = ls at hl ⊢
  have hl : lv_has ls 5 [(0, .ref b0), (1, .int i1), (2, .int i2), (3, .int i3), (4, .int i4)] := hl
  exact w_fX0_lambda_many_4 C _ _ _ _ _ hm s.heap [] ls hW0 va_S.rf rfl hl
theorem yn_X0_lambda_many_4 : YN yX0_lambda_many_4 4 := by
  unfold YN
  decide +kernel
theorem yn_X0_nextMix : YN yX0_nextMix 0 := by
  unfold YN
  decide +kernel
theorem lkX0_343 : LV RX0 343 RX0 yX0_nextMix cX0_nextMix 2 (some .boolean) := ⟨q1161, q1163, qs32, q114, q1164⟩
noncomputable def fX0_codeOf_mix_4 (V0 : Mem) (k4 : Int32 → Int32 → Option (Int32)) (i2 : Int32) (i3 : Int32) : Option (Int32) :=
  if (gI V0 1 0) ≤ i3 then (
  some i2)
  else (
  gb (inR i3 5) (
  k4 (((10 : Int32) * i2) + (gI V0 158 i3.toNatClampNeg)) (i3 + (1 : Int32))))
noncomputable def fX0_codeOf_mix (V0 : Mem) : Option (Int32) :=
  lq2 (fX0_codeOf_mix_4 V0) FU (0 : Int32) (0 : Int32)
set_option maxHeartbeats 4000000 in
theorem w_fX0_codeOf_mix_4 (C : Cx G p s m args meth c RX0 cX0_codeOf 4 (some .int)) {b0 : Nat} {V0 : Mem} {rx : Int32} (hW0 : rg G b0 357 (shX0 G.2.1) V0 s.heap) {k4 : Int32 → Int32 → Option (Int32)} (hk4 : ∀ (i2 : Int32) (i3 : Int32), k4 i2 i3 = some rx → ∀ (ls : Array Slot), lv_has ls 4 [(0, .ref b0), (1, .ref (b0 + 158)), (2, .int i2), (3, .int i3)] → W p l e (rmP 0 0) s m args below meth c s.heap [] 0 0 (MQ below (QcP (some (.int rx))) args s 0 0 (fun _ => False)) (F0 m 4 ls [])) : ∀ (i2 : Int32) (i3 : Int32), fX0_codeOf_mix_4 V0 k4 i2 i3 = some rx → ∀ (ls : Array Slot), lv_has ls 4 [(0, .ref b0), (1, .ref (b0 + 158)), (2, .int i2), (3, .int i3)] → W p l e (rmP 0 0) s m args below meth c s.heap [] 0 0 (MQ below (QcP (some (.int rx))) args s 0 0 (fun _ => False)) (F0 m 4 ls []) := by
  intro i2 i3 hm ls hl
  obtain ⟨hx, hb, hr, hlk, hml, hown, hts, hK⟩ := id C
  unfold fX0_codeOf_mix_4 at hm
  refine lv_iload_n (pc := 4) hx hb dX0_codeOf_4 rfl (lv_at hl 3 rfl) ?_
  refine lv_aload_n (pc := 5) hx hb dX0_codeOf_5 rfl (lv_at hl 0 rfl) ?_
  refine rk_get (pc := 6) hx hb hts hown hK hW0 flX0_12 0 (by decide) rfl rfl (x := .ref (b0 + 1)) (by first | rfl | exact congrArg (fun z => some (Value.ref z)) (by omega)) dX0_codeOf_6 ?_
  refine rk_getN (pc := 9) hx hb hts hown hK hW0 fnX0_131 1 (by decide) rfl rfl (x := .int (gI V0 1 0)) rfl dX0_codeOf_9 ?_
  refine lv_icmp_ge (pc := 12) (tgt := 30) hx hb dX0_codeOf_12 (by decide) (fun c1 => ?_) (fun c1 => ?_)
  · have hm := ite_t c1 hm
    refine lv_iload_n (pc := 30) hx hb dX0_codeOf_30 rfl (lv_at hl 2 rfl) ?_
    have e9 := rs1 hm
    subst e9
    exact rk_iretP (pc := 31) hx hb hr hlk rfl dX0_codeOf_31
  · have hm := ite_f c1 hm
    refine lv_bipush (pc := 15) (v := (10 : Int32)) hx hb dX0_codeOf_15 (by decide) ?_
    refine lv_iload_n (pc := 17) hx hb dX0_codeOf_17 rfl (lv_at hl 2 rfl) ?_
    refine lv_imul (pc := 18) hx hb dX0_codeOf_18 ?_
    refine lv_aload_n (pc := 19) hx hb dX0_codeOf_19 rfl (lv_at hl 1 rfl) ?_
    refine lv_iload_n (pc := 20) hx hb dX0_codeOf_20 rfl (lv_at hl 3 rfl) ?_
    obtain ⟨hg2, hm⟩ := gb_some hm
    refine rk_iald (pc := 21) hx hb hK hW0 158 (by decide) rfl rfl hg2 (x := (gI V0 158 i3.toNatClampNeg)) rfl dX0_codeOf_21 ?_
    refine lv_iadd (pc := 22) hx hb dX0_codeOf_22 ?_
    refine lv_istore_n (pc := 23) (lv' := [(2, .int (((10 : Int32) * i2) + (gI V0 158 i3.toNatClampNeg))), (0, .ref b0), (1, .ref (b0 + 158)), (3, .int i3)]) hx hb dX0_codeOf_23 rfl hl (by decide) rfl (fun ls hl => ?_)
    refine lv_iinc (pc := 24) (v := (i3 + (1 : Int32))) (lv' := [(3, .int (i3 + (1 : Int32))), (2, .int (((10 : Int32) * i2) + (gI V0 158 i3.toNatClampNeg))), (0, .ref b0), (1, .ref (b0 + 158))]) hx hb dX0_codeOf_24 hl (k := 3) rfl rfl (by decide) rfl (fun ls hl => ?_)
    refine lv_goto (pc := 27) (tgt := 4) hx hb dX0_codeOf_27 (by decide) ?_
    exact hk4 (((10 : Int32) * i2) + (gI V0 158 i3.toNatClampNeg)) (i3 + (1 : Int32)) hm ls (lv_sub hl [2, 3, 1, 0] rfl)
theorem w_fX0_codeOf_mix_4_l (C : Cx G p s m args meth c RX0 cX0_codeOf 4 (some .int)) {b0 : Nat} {V0 : Mem} {rx : Int32} (hW0 : rg G b0 357 (shX0 G.2.1) V0 s.heap) : ∀ (n : Nat) (i2 : Int32) (i3 : Int32), lq2 (fX0_codeOf_mix_4 V0) n i2 i3 = some rx → ∀ (ls : Array Slot), lv_has ls 4 [(0, .ref b0), (1, .ref (b0 + 158)), (2, .int i2), (3, .int i3)] → W p l e (rmP 0 0) s m args below meth c s.heap [] 0 0 (MQ below (QcP (some (.int rx))) args s 0 0 (fun _ => False)) (F0 m 4 ls []) := by
  intro n
  induction n with
  | zero => intro i2 i3 hm; exact (lq2_0 hm).elim
  | succ n ih => intro i2 i3 hm; exact w_fX0_codeOf_mix_4 C hW0 ih i2 i3 (lq2_s hm)
set_option maxHeartbeats 4000000 in
theorem w_fX0_codeOf_mix (C : Cx G p s m args meth c RX0 cX0_codeOf 4 (some .int)) {b0 : Nat} {V0 : Mem} {rx : Int32} (hW0 : rg G b0 357 (shX0 G.2.1) V0 s.heap) : fX0_codeOf_mix V0 = some rx → ∀ (ls : Array Slot), lv_has ls 4 [(0, .ref b0), (1, .ref (b0 + 158))] → W p l e (rmP 0 0) s m args below meth c s.heap [] 0 0 (MQ below (QcP (some (.int rx))) args s 0 0 (fun _ => False)) (F0 m 0 ls []) := by
  intro hm ls hl
  obtain ⟨hx, hb, hr, hlk, hml, hown, hts, hK⟩ := id C
  unfold fX0_codeOf_mix at hm
  refine lv_iconst (pc := 0) (v := (0 : Int32)) hx hb dX0_codeOf_0 (by decide) ?_
  refine lv_istore_n (pc := 1) (lv' := [(2, .int (0 : Int32)), (0, .ref b0), (1, .ref (b0 + 158))]) hx hb dX0_codeOf_1 rfl hl (by decide) rfl (fun ls hl => ?_)
  refine lv_iconst (pc := 2) (v := (0 : Int32)) hx hb dX0_codeOf_2 (by decide) ?_
  refine lv_istore_n (pc := 3) (lv' := [(3, .int (0 : Int32)), (2, .int (0 : Int32)), (0, .ref b0), (1, .ref (b0 + 158))]) hx hb dX0_codeOf_3 rfl hl (by decide) rfl (fun ls hl => ?_)
  exact (w_fX0_codeOf_mix_4_l C hW0 FU) (0 : Int32) (0 : Int32) hm ls (lv_sub hl [2, 3, 1, 0] rfl)
set_option maxHeartbeats 4000000 in
theorem ct_X0_codeOf_mix {G : Gv} {l : Launch} {b0 : Nat} {V0 : Mem} {rx : Int32} (hm : fX0_codeOf_mix V0  = some rx) : CP G l yX0_codeOf (ws_ yX0_codeOf cX0_codeOf 4 (some .int)) 0 0 [.ref b0, .ref (b0 + 158)] (fun H => rg G b0 357 (shX0 G.2.1) V0 H) (some (.int rx)) := by
  refine Met.ofW (cc := cX0_codeOf) (maxL := 4) (ret := (some .int)) (by decide +kernel) rfl ?_
  intro p e s m args below meth c s₁ B hml hv
  obtain ⟨rfl, hW0, hK⟩ := hv
  have hts := atoms_spec (ws := ws_ yX0_codeOf cX0_codeOf 4 (some .int)) B.pre
  have hts : ∀ w ∈ lw_all, w.before _ s = true := fun w h => hts w (List.mem_cons_of_mem _ h)
  have C : Cx G p s m _ meth c RX0 cX0_codeOf 4 (some .int) := ⟨B.exec, B.bytes, B.returns, B.notSynchronized, hml, findClass_of_methodNamed B.named, hts, hK⟩
  have hl := lv_entry ([.ref b0, .ref (b0 + 158)]) (n := 4) (Nat.le_of_ble_eq_true rfl)
  rw [lg_entry_eq]
  generalize (lg_sl ([.ref b0, .ref (b0 + 158)]) ++ List.replicate (4 - (lg_sl ([.ref b0, .ref (b0 + 158)])).length) Slot.unset).toArray = ls at hl ⊢
  have hl : lv_has ls 4 [(0, .ref b0), (1, .ref (b0 + 158))] := hl
  exact w_fX0_codeOf_mix C hW0  hm ls hl
theorem yn_X0_codeOf : YN yX0_codeOf 1 := by
  unfold YN
  decide +kernel
theorem lkX0_347 : LV RX0 347 RX0 yX0_codeOf cX0_codeOf 4 (some .int) := ⟨q1165, q1167, qs33, q114, q1168⟩
theorem fnX0_151 : FN RX0 151 1 6 RX1 TX1 11 "WholePacks" := ⟨in_X1, rfl, by decide, q207⟩
noncomputable def fX0_costOf_mix_4 (V0 : Mem) (k4 : Int32 → Int32 → Option (Int32)) (i2 : Int32) (i3 : Int32) : Option (Int32) :=
  if (gI V0 1 0) ≤ i3 then (
  some i2)
  else (
  gb (inR i3 5) (
  gb (inR i3 5) (
  k4 (i2 + ((gI V0 2 i3.toNatClampNeg) * (gI V0 158 i3.toNatClampNeg))) (i3 + (1 : Int32)))))
noncomputable def fX0_costOf_mix (V0 : Mem) : Option (Int32) :=
  lq2 (fX0_costOf_mix_4 V0) FU (0 : Int32) (0 : Int32)
set_option maxHeartbeats 4000000 in
theorem w_fX0_costOf_mix_4 (C : Cx G p s m args meth c RX0 cX0_costOf 4 (some .int)) {b0 : Nat} {V0 : Mem} {rx : Int32} (hW0 : rg G b0 357 (shX0 G.2.1) V0 s.heap) {k4 : Int32 → Int32 → Option (Int32)} (hk4 : ∀ (i2 : Int32) (i3 : Int32), k4 i2 i3 = some rx → ∀ (ls : Array Slot), lv_has ls 4 [(0, .ref b0), (1, .ref (b0 + 158)), (2, .int i2), (3, .int i3)] → W p l e (rmP 0 0) s m args below meth c s.heap [] 0 0 (MQ below (QcP (some (.int rx))) args s 0 0 (fun _ => False)) (F0 m 4 ls [])) : ∀ (i2 : Int32) (i3 : Int32), fX0_costOf_mix_4 V0 k4 i2 i3 = some rx → ∀ (ls : Array Slot), lv_has ls 4 [(0, .ref b0), (1, .ref (b0 + 158)), (2, .int i2), (3, .int i3)] → W p l e (rmP 0 0) s m args below meth c s.heap [] 0 0 (MQ below (QcP (some (.int rx))) args s 0 0 (fun _ => False)) (F0 m 4 ls []) := by
  intro i2 i3 hm ls hl
  obtain ⟨hx, hb, hr, hlk, hml, hown, hts, hK⟩ := id C
  unfold fX0_costOf_mix_4 at hm
  refine lv_iload_n (pc := 4) hx hb dX0_costOf_4 rfl (lv_at hl 3 rfl) ?_
  refine lv_aload_n (pc := 5) hx hb dX0_costOf_5 rfl (lv_at hl 0 rfl) ?_
  refine rk_get (pc := 6) hx hb hts hown hK hW0 flX0_12 0 (by decide) rfl rfl (x := .ref (b0 + 1)) (by first | rfl | exact congrArg (fun z => some (Value.ref z)) (by omega)) dX0_costOf_6 ?_
  refine rk_getN (pc := 9) hx hb hts hown hK hW0 fnX0_131 1 (by decide) rfl rfl (x := .int (gI V0 1 0)) rfl dX0_costOf_9 ?_
  refine lv_icmp_ge (pc := 12) (tgt := 37) hx hb dX0_costOf_12 (by decide) (fun c1 => ?_) (fun c1 => ?_)
  · have hm := ite_t c1 hm
    refine lv_iload_n (pc := 37) hx hb dX0_costOf_37 rfl (lv_at hl 2 rfl) ?_
    have e9 := rs1 hm
    subst e9
    exact rk_iretP (pc := 38) hx hb hr hlk rfl dX0_costOf_38
  · have hm := ite_f c1 hm
    refine lv_iload_n (pc := 15) hx hb dX0_costOf_15 rfl (lv_at hl 2 rfl) ?_
    refine lv_aload_n (pc := 16) hx hb dX0_costOf_16 rfl (lv_at hl 0 rfl) ?_
    refine rk_get (pc := 17) hx hb hts hown hK hW0 flX0_12 0 (by decide) rfl rfl (x := .ref (b0 + 1)) (by first | rfl | exact congrArg (fun z => some (Value.ref z)) (by omega)) dX0_costOf_17 ?_
    refine rk_getN (pc := 20) hx hb hts hown hK hW0 fnX0_151 1 (by decide) rfl rfl (x := .ref (b0 + 2)) (by first | rfl | exact congrArg (fun z => some (Value.ref z)) (by omega)) dX0_costOf_20 ?_
    refine lv_iload_n (pc := 23) hx hb dX0_costOf_23 rfl (lv_at hl 3 rfl) ?_
    obtain ⟨hg2, hm⟩ := gb_some hm
    refine rk_iald (pc := 24) hx hb hK hW0 2 (by decide) rfl rfl hg2 (x := (gI V0 2 i3.toNatClampNeg)) rfl dX0_costOf_24 ?_
    refine lv_aload_n (pc := 25) hx hb dX0_costOf_25 rfl (lv_at hl 1 rfl) ?_
    refine lv_iload_n (pc := 26) hx hb dX0_costOf_26 rfl (lv_at hl 3 rfl) ?_
    obtain ⟨hg3, hm⟩ := gb_some hm
    refine rk_iald (pc := 27) hx hb hK hW0 158 (by decide) rfl rfl hg3 (x := (gI V0 158 i3.toNatClampNeg)) rfl dX0_costOf_27 ?_
    refine lv_imul (pc := 28) hx hb dX0_costOf_28 ?_
    refine lv_iadd (pc := 29) hx hb dX0_costOf_29 ?_
    refine lv_istore_n (pc := 30) (lv' := [(2, .int (i2 + ((gI V0 2 i3.toNatClampNeg) * (gI V0 158 i3.toNatClampNeg)))), (0, .ref b0), (1, .ref (b0 + 158)), (3, .int i3)]) hx hb dX0_costOf_30 rfl hl (by decide) rfl (fun ls hl => ?_)
    refine lv_iinc (pc := 31) (v := (i3 + (1 : Int32))) (lv' := [(3, .int (i3 + (1 : Int32))), (2, .int (i2 + ((gI V0 2 i3.toNatClampNeg) * (gI V0 158 i3.toNatClampNeg)))), (0, .ref b0), (1, .ref (b0 + 158))]) hx hb dX0_costOf_31 hl (k := 3) rfl rfl (by decide) rfl (fun ls hl => ?_)
    refine lv_goto (pc := 34) (tgt := 4) hx hb dX0_costOf_34 (by decide) ?_
    exact hk4 (i2 + ((gI V0 2 i3.toNatClampNeg) * (gI V0 158 i3.toNatClampNeg))) (i3 + (1 : Int32)) hm ls (lv_sub hl [2, 3, 1, 0] rfl)
theorem w_fX0_costOf_mix_4_l (C : Cx G p s m args meth c RX0 cX0_costOf 4 (some .int)) {b0 : Nat} {V0 : Mem} {rx : Int32} (hW0 : rg G b0 357 (shX0 G.2.1) V0 s.heap) : ∀ (n : Nat) (i2 : Int32) (i3 : Int32), lq2 (fX0_costOf_mix_4 V0) n i2 i3 = some rx → ∀ (ls : Array Slot), lv_has ls 4 [(0, .ref b0), (1, .ref (b0 + 158)), (2, .int i2), (3, .int i3)] → W p l e (rmP 0 0) s m args below meth c s.heap [] 0 0 (MQ below (QcP (some (.int rx))) args s 0 0 (fun _ => False)) (F0 m 4 ls []) := by
  intro n
  induction n with
  | zero => intro i2 i3 hm; exact (lq2_0 hm).elim
  | succ n ih => intro i2 i3 hm; exact w_fX0_costOf_mix_4 C hW0 ih i2 i3 (lq2_s hm)
set_option maxHeartbeats 4000000 in
theorem w_fX0_costOf_mix (C : Cx G p s m args meth c RX0 cX0_costOf 4 (some .int)) {b0 : Nat} {V0 : Mem} {rx : Int32} (hW0 : rg G b0 357 (shX0 G.2.1) V0 s.heap) : fX0_costOf_mix V0 = some rx → ∀ (ls : Array Slot), lv_has ls 4 [(0, .ref b0), (1, .ref (b0 + 158))] → W p l e (rmP 0 0) s m args below meth c s.heap [] 0 0 (MQ below (QcP (some (.int rx))) args s 0 0 (fun _ => False)) (F0 m 0 ls []) := by
  intro hm ls hl
  obtain ⟨hx, hb, hr, hlk, hml, hown, hts, hK⟩ := id C
  unfold fX0_costOf_mix at hm
  refine lv_iconst (pc := 0) (v := (0 : Int32)) hx hb dX0_costOf_0 (by decide) ?_
  refine lv_istore_n (pc := 1) (lv' := [(2, .int (0 : Int32)), (0, .ref b0), (1, .ref (b0 + 158))]) hx hb dX0_costOf_1 rfl hl (by decide) rfl (fun ls hl => ?_)
  refine lv_iconst (pc := 2) (v := (0 : Int32)) hx hb dX0_costOf_2 (by decide) ?_
  refine lv_istore_n (pc := 3) (lv' := [(3, .int (0 : Int32)), (2, .int (0 : Int32)), (0, .ref b0), (1, .ref (b0 + 158))]) hx hb dX0_costOf_3 rfl hl (by decide) rfl (fun ls hl => ?_)
  exact (w_fX0_costOf_mix_4_l C hW0 FU) (0 : Int32) (0 : Int32) hm ls (lv_sub hl [2, 3, 1, 0] rfl)
set_option maxHeartbeats 4000000 in
theorem ct_X0_costOf_mix {G : Gv} {l : Launch} {b0 : Nat} {V0 : Mem} {rx : Int32} (hm : fX0_costOf_mix V0  = some rx) : CP G l yX0_costOf (ws_ yX0_costOf cX0_costOf 4 (some .int)) 0 0 [.ref b0, .ref (b0 + 158)] (fun H => rg G b0 357 (shX0 G.2.1) V0 H) (some (.int rx)) := by
  refine Met.ofW (cc := cX0_costOf) (maxL := 4) (ret := (some .int)) (by decide +kernel) rfl ?_
  intro p e s m args below meth c s₁ B hml hv
  obtain ⟨rfl, hW0, hK⟩ := hv
  have hts := atoms_spec (ws := ws_ yX0_costOf cX0_costOf 4 (some .int)) B.pre
  have hts : ∀ w ∈ lw_all, w.before _ s = true := fun w h => hts w (List.mem_cons_of_mem _ h)
  have C : Cx G p s m _ meth c RX0 cX0_costOf 4 (some .int) := ⟨B.exec, B.bytes, B.returns, B.notSynchronized, hml, findClass_of_methodNamed B.named, hts, hK⟩
  have hl := lv_entry ([.ref b0, .ref (b0 + 158)]) (n := 4) (Nat.le_of_ble_eq_true rfl)
  rw [lg_entry_eq]
  generalize (lg_sl ([.ref b0, .ref (b0 + 158)]) ++ List.replicate (4 - (lg_sl ([.ref b0, .ref (b0 + 158)])).length) Slot.unset).toArray = ls at hl ⊢
  have hl : lv_has ls 4 [(0, .ref b0), (1, .ref (b0 + 158))] := hl
  exact w_fX0_costOf_mix C hW0  hm ls hl
end
