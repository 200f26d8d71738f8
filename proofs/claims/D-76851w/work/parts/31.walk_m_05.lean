set_option maxRecDepth 100000
section
variable {p : Program} {l : Launch} {e : Env} {s : State} {m : MethodId} {args : Array Value} {below : List Frame} {meth : Method} {c : Code} {G : Gv}
theorem yn_X9_cut : YN yX9_cut 2 := by
  unfold YN
  decide +kernel
theorem lkX9_326 : LV RX9 326 RX9 yX9_cut cX9_cut 3 (some .long) := ⟨q2149, q2129, q2130, q128, q2131⟩
noncomputable def fX9_weighed_68 (V0 : Mem) (k68 : Int32 → Int32 → Int64 → Int32 → Option (Int64)) (i1 : Int32) (i2 : Int32) (j3 : Int64) (i5 : Int32) : Option (Int64) :=
  if i1 ≤ i5 then (
  gb (inR i1 12) (
  ob (fJ7_floorDiv j3 (gL V0 18 i1.toNatClampNeg)) fun r13 =>
  some r13))
  else (
  gb (inR ((((20 : Int32) * i1) + (8 : Int32)) + i5) 240) (
  ob (fX9_cut V0 i5 i2) fun r16 =>
  k68 i1 i2 (j3 + ((gL V0 17 ((((20 : Int32) * i1) + (8 : Int32)) + i5).toNatClampNeg) * r16)) (i5 + (1 : Int32))))
noncomputable def fX9_weighed_5 (V0 : Mem) (k5 : Int32 → Int32 → Int64 → Int32 → Option (Int64)) (i1 : Int32) (i2 : Int32) (j3 : Int64) (i5 : Int32) : Option (Int64) :=
  gb (inR (1 : Int32) 150) (
  if (gI V0 1 (1 : Int32).toNatClampNeg) ≤ i5 then (
  lq4 (fX9_weighed_68 V0) FU i1 i2 j3 (0 : Int32))
  else (
  gb (inR (((20 : Int32) * i1) + i5) 240) (
  ob (fX9_n V0) fun r4 =>
  if i2 = r4 then (
  ob (fX9_limitOf V0 i5) fun r9 =>
  k5 i1 i2 (j3 + ((gL V0 17 (((20 : Int32) * i1) + i5).toNatClampNeg) * r9)) (i5 + (1 : Int32)))
  else (
  ob (fX9_pointOf V0 i5 i2) fun r7 =>
  k5 i1 i2 (j3 + ((gL V0 17 (((20 : Int32) * i1) + i5).toNatClampNeg) * r7)) (i5 + (1 : Int32))))))
noncomputable def fX9_weighed (V0 : Mem) (i1 : Int32) (i2 : Int32) : Option (Int64) :=
  lq4 (fX9_weighed_5 V0) FU i1 i2 (0 : Int64) (0 : Int32)
set_option maxHeartbeats 4000000 in
theorem w_fX9_weighed_68 (C : Cx G p s m args meth c RX9 cX9_weighed 6 (some .long)) {b0 : Nat} {V0 : Mem} {rx : Int64} (hW0 : rg G b0 46 (shX9 G.2.1) V0 s.heap) {k68 : Int32 → Int32 → Int64 → Int32 → Option (Int64)} (hk68 : ∀ (i1 : Int32) (i2 : Int32) (j3 : Int64) (i5 : Int32), k68 i1 i2 j3 i5 = some rx → ∀ (ls : Array Slot), lv_has ls 6 [(0, .ref b0), (1, .int i1), (2, .int i2), (3, .long j3), (5, .int i5)] → W p l e (rmP 3 68) s m args below meth c s.heap [] 0 0 (MQ below (QcP (some (.long rx))) args s 0 0 (fun _ => False)) (F0 m 68 ls [])) : ∀ (i1 : Int32) (i2 : Int32) (j3 : Int64) (i5 : Int32), fX9_weighed_68 V0 k68 i1 i2 j3 i5 = some rx → ∀ (ls : Array Slot), lv_has ls 6 [(0, .ref b0), (1, .int i1), (2, .int i2), (3, .long j3), (5, .int i5)] → W p l e (rmP 3 68) s m args below meth c s.heap [] 0 0 (MQ below (QcP (some (.long rx))) args s 0 0 (fun _ => False)) (F0 m 68 ls []) := by
  intro i1 i2 j3 i5 hm ls hl
  obtain ⟨hx, hb, hr, hlk, hml, hown, hts, hK⟩ := id C
  unfold fX9_weighed_68 at hm
  refine lv_iload (pc := 68) hx hb dX9_weighed_68 (lv_at hl 4 rfl) ?_
  refine lv_iload_n (pc := 70) hx hb dX9_weighed_70 rfl (lv_at hl 1 rfl) ?_
  refine lv_icmp_ge (pc := 71) (tgt := 109) hx hb dX9_weighed_71 (by decide) (fun c11 => ?_) (fun c11 => ?_)
  · have hm := ite_t c11 hm
    refine lv_lload_n (pc := 109) hx hb dX9_weighed_109 rfl (lv_at hl 3 rfl) ?_
    refine lv_aload_n (pc := 110) hx hb dX9_weighed_110 rfl (lv_at hl 0 rfl) ?_
    refine rk_get (pc := 111) hx hb hts hown hK hW0 flX9_30 0 (by decide) rfl rfl (x := .ref (b0 + 6)) (by first | rfl | exact congrArg (fun z => some (Value.ref z)) (by omega)) dX9_weighed_111 ?_
    refine rk_getN (pc := 114) hx hb hts hown hK hW0 fnX9_277 6 (by decide) rfl rfl (x := .ref (b0 + 18)) (by first | rfl | exact congrArg (fun z => some (Value.ref z)) (by omega)) dX9_weighed_114 ?_
    refine lv_iload_n (pc := 117) hx hb dX9_weighed_117 rfl (lv_at hl 1 rfl) ?_
    obtain ⟨hg12, hm⟩ := gb_some hm
    refine rk_lald (pc := 118) hx hb hK hW0 18 (by decide) rfl rfl hg12 (x := (gL V0 18 i1.toNatClampNeg)) rfl dX9_weighed_118 ?_
    obtain ⟨r13, hq14, hm⟩ := ob_some hm
    refine rk_PS (pc := 119) (As := [.long j3, .long (gL V0 18 i1.toNatClampNeg)]) (rest := []) hx hb hml hown hts hK lkX9_256 yn_J7_floorDiv (ct_J7_floorDiv (G := G) (l := l) hq14) ⟨Nat.le_of_ble_eq_true rfl, Nat.le_of_ble_eq_true rfl⟩ trivial rfl rfl hl.1 (Nat.le_of_ble_eq_true rfl) dX9_weighed_119 ⟨Nat.zero_le _, Nat.zero_le _⟩ ?_
    refine W.eq (g2 := F0 m 122 ls [.long r13]) rfl ?_
    have e9 := rs1 hm
    subst e9
    exact rk_lretP (pc := 122) hx hb hr hlk rfl dX9_weighed_122
  · have hm := ite_f c11 hm
    refine lv_lload_n (pc := 74) hx hb dX9_weighed_74 rfl (lv_at hl 3 rfl) ?_
    refine lv_aload_n (pc := 75) hx hb dX9_weighed_75 rfl (lv_at hl 0 rfl) ?_
    refine rk_get (pc := 76) hx hb hts hown hK hW0 flX9_30 0 (by decide) rfl rfl (x := .ref (b0 + 6)) (by first | rfl | exact congrArg (fun z => some (Value.ref z)) (by omega)) dX9_weighed_76 ?_
    refine rk_getN (pc := 79) hx hb hts hown hK hW0 fnX9_274 6 (by decide) rfl rfl (x := .ref (b0 + 17)) (by first | rfl | exact congrArg (fun z => some (Value.ref z)) (by omega)) dX9_weighed_79 ?_
    refine lv_bipush (pc := 82) (v := (20 : Int32)) hx hb dX9_weighed_82 (by decide) ?_
    refine lv_iload_n (pc := 84) hx hb dX9_weighed_84 rfl (lv_at hl 1 rfl) ?_
    refine lv_imul (pc := 85) hx hb dX9_weighed_85 ?_
    refine lv_bipush (pc := 86) (v := (8 : Int32)) hx hb dX9_weighed_86 (by decide) ?_
    refine lv_iadd (pc := 88) hx hb dX9_weighed_88 ?_
    refine lv_iload (pc := 89) hx hb dX9_weighed_89 (lv_at hl 4 rfl) ?_
    refine lv_iadd (pc := 91) hx hb dX9_weighed_91 ?_
    obtain ⟨hg15, hm⟩ := gb_some hm
    refine rk_lald (pc := 92) hx hb hK hW0 17 (by decide) rfl rfl hg15 (x := (gL V0 17 ((((20 : Int32) * i1) + (8 : Int32)) + i5).toNatClampNeg)) rfl dX9_weighed_92 ?_
    refine lv_aload_n (pc := 93) hx hb dX9_weighed_93 rfl (lv_at hl 0 rfl) ?_
    refine lv_iload (pc := 94) hx hb dX9_weighed_94 (lv_at hl 4 rfl) ?_
    refine lv_iload_n (pc := 96) hx hb dX9_weighed_96 rfl (lv_at hl 2 rfl) ?_
    obtain ⟨r16, hq17, hm⟩ := ob_some hm
    refine rk_PV (pc := 97) (As := [.int i5, .int i2]) (rest := [.long (gL V0 17 ((((20 : Int32) * i1) + (8 : Int32)) + i5).toNatClampNeg), .long j3]) hx hb hml hown hts hK lkX9_326 rfl yn_X9_cut (ct_X9_cut (G := G) (l := l) (b0 := b0) hq17) ⟨Nat.le_of_ble_eq_true rfl, Nat.le_of_ble_eq_true rfl⟩ (rk_recv hK hW0 0 (by decide) rfl rfl rfl) hW0 rfl rfl hl.1 (Nat.le_of_ble_eq_true rfl) dX9_weighed_97 ⟨Nat.zero_le _, Nat.zero_le _⟩ ?_
    refine W.eq (g2 := F0 m 100 ls [.long r16, .long (gL V0 17 ((((20 : Int32) * i1) + (8 : Int32)) + i5).toNatClampNeg), .long j3]) rfl ?_
    refine lv_lmul (pc := 100) hx hb dX9_weighed_100 ?_
    refine lv_ladd (pc := 101) hx hb dX9_weighed_101 ?_
    refine lv_lstore_n (pc := 102) (lv' := [(3, .long (j3 + ((gL V0 17 ((((20 : Int32) * i1) + (8 : Int32)) + i5).toNatClampNeg) * r16))), (0, .ref b0), (1, .int i1), (2, .int i2), (5, .int i5)]) hx hb dX9_weighed_102 rfl hl (by decide) rfl (fun ls hl => ?_)
    refine lv_iinc (pc := 103) (v := (i5 + (1 : Int32))) (lv' := [(5, .int (i5 + (1 : Int32))), (3, .long (j3 + ((gL V0 17 ((((20 : Int32) * i1) + (8 : Int32)) + i5).toNatClampNeg) * r16))), (0, .ref b0), (1, .int i1), (2, .int i2)]) hx hb dX9_weighed_103 hl (k := 4) rfl rfl (by decide) rfl (fun ls hl => ?_)
    refine lv_goto (pc := 106) (tgt := 68) hx hb dX9_weighed_106 (by decide) ?_
    exact hk68 i1 i2 (j3 + ((gL V0 17 ((((20 : Int32) * i1) + (8 : Int32)) + i5).toNatClampNeg) * r16)) (i5 + (1 : Int32)) hm ls (lv_sub hl [2, 3, 4, 1, 0] rfl)
theorem w_fX9_weighed_68_l (C : Cx G p s m args meth c RX9 cX9_weighed 6 (some .long)) {b0 : Nat} {V0 : Mem} {rx : Int64} (hW0 : rg G b0 46 (shX9 G.2.1) V0 s.heap) : ∀ (n : Nat) (i1 : Int32) (i2 : Int32) (j3 : Int64) (i5 : Int32), lq4 (fX9_weighed_68 V0) n i1 i2 j3 i5 = some rx → ∀ (ls : Array Slot), lv_has ls 6 [(0, .ref b0), (1, .int i1), (2, .int i2), (3, .long j3), (5, .int i5)] → W p l e (rmP 3 68) s m args below meth c s.heap [] 0 0 (MQ below (QcP (some (.long rx))) args s 0 0 (fun _ => False)) (F0 m 68 ls []) := by
  intro n
  induction n with
  | zero => intro i1 i2 j3 i5 hm; exact (lq4_0 hm).elim
  | succ n ih => intro i1 i2 j3 i5 hm; exact w_fX9_weighed_68 C hW0 ih i1 i2 j3 i5 (lq4_s hm)
set_option maxHeartbeats 4000000 in
theorem w_fX9_weighed_5 (C : Cx G p s m args meth c RX9 cX9_weighed 6 (some .long)) {b0 : Nat} {V0 : Mem} {rx : Int64} (hW0 : rg G b0 46 (shX9 G.2.1) V0 s.heap) {k5 : Int32 → Int32 → Int64 → Int32 → Option (Int64)} (hk5 : ∀ (i1 : Int32) (i2 : Int32) (j3 : Int64) (i5 : Int32), k5 i1 i2 j3 i5 = some rx → ∀ (ls : Array Slot), lv_has ls 6 [(0, .ref b0), (1, .int i1), (2, .int i2), (3, .long j3), (5, .int i5)] → W p l e (rmP 3 68) s m args below meth c s.heap [] 0 0 (MQ below (QcP (some (.long rx))) args s 0 0 (fun _ => False)) (F0 m 5 ls [])) : ∀ (i1 : Int32) (i2 : Int32) (j3 : Int64) (i5 : Int32), fX9_weighed_5 V0 k5 i1 i2 j3 i5 = some rx → ∀ (ls : Array Slot), lv_has ls 6 [(0, .ref b0), (1, .int i1), (2, .int i2), (3, .long j3), (5, .int i5)] → W p l e (rmP 3 68) s m args below meth c s.heap [] 0 0 (MQ below (QcP (some (.long rx))) args s 0 0 (fun _ => False)) (F0 m 5 ls []) := by
  intro i1 i2 j3 i5 hm ls hl
  obtain ⟨hx, hb, hr, hlk, hml, hown, hts, hK⟩ := id C
  unfold fX9_weighed_5 at hm
  refine lv_iload (pc := 5) hx hb dX9_weighed_5 (lv_at hl 4 rfl) ?_
  refine lv_aload_n (pc := 7) hx hb dX9_weighed_7 rfl (lv_at hl 0 rfl) ?_
  refine rk_get (pc := 8) hx hb hts hown hK hW0 flX9_11 0 (by decide) rfl rfl (x := .ref (b0 + 1)) (by first | rfl | exact congrArg (fun z => some (Value.ref z)) (by omega)) dX9_weighed_8 ?_
  refine lv_iconst (pc := 11) (v := (1 : Int32)) hx hb dX9_weighed_11 (by decide) ?_
  obtain ⟨hg1, hm⟩ := gb_some hm
  refine rk_iald (pc := 12) hx hb hK hW0 1 (by decide) rfl rfl hg1 (x := (gI V0 1 (1 : Int32).toNatClampNeg)) rfl dX9_weighed_12 ?_
  refine lv_icmp_ge (pc := 13) (tgt := 65) hx hb dX9_weighed_13 (by decide) (fun c2 => ?_) (fun c2 => ?_)
  · have hm := ite_t c2 hm
    refine lv_iconst (pc := 65) (v := (0 : Int32)) hx hb dX9_weighed_65 (by decide) ?_
    refine lv_istore (pc := 66) (lv' := [(5, .int (0 : Int32)), (0, .ref b0), (1, .int i1), (2, .int i2), (3, .long j3)]) hx hb dX9_weighed_66 hl (by decide) rfl (fun ls hl => ?_)
    exact (w_fX9_weighed_68_l C hW0 FU) i1 i2 j3 (0 : Int32) hm ls (lv_sub hl [1, 2, 3, 4, 0] rfl)
  · have hm := ite_f c2 hm
    refine lv_lload_n (pc := 16) hx hb dX9_weighed_16 rfl (lv_at hl 3 rfl) ?_
    refine lv_aload_n (pc := 17) hx hb dX9_weighed_17 rfl (lv_at hl 0 rfl) ?_
    refine rk_get (pc := 18) hx hb hts hown hK hW0 flX9_30 0 (by decide) rfl rfl (x := .ref (b0 + 6)) (by first | rfl | exact congrArg (fun z => some (Value.ref z)) (by omega)) dX9_weighed_18 ?_
    refine rk_getN (pc := 21) hx hb hts hown hK hW0 fnX9_274 6 (by decide) rfl rfl (x := .ref (b0 + 17)) (by first | rfl | exact congrArg (fun z => some (Value.ref z)) (by omega)) dX9_weighed_21 ?_
    refine lv_bipush (pc := 24) (v := (20 : Int32)) hx hb dX9_weighed_24 (by decide) ?_
    refine lv_iload_n (pc := 26) hx hb dX9_weighed_26 rfl (lv_at hl 1 rfl) ?_
    refine lv_imul (pc := 27) hx hb dX9_weighed_27 ?_
    refine lv_iload (pc := 28) hx hb dX9_weighed_28 (lv_at hl 4 rfl) ?_
    refine lv_iadd (pc := 30) hx hb dX9_weighed_30 ?_
    obtain ⟨hg3, hm⟩ := gb_some hm
    refine rk_lald (pc := 31) hx hb hK hW0 17 (by decide) rfl rfl hg3 (x := (gL V0 17 (((20 : Int32) * i1) + i5).toNatClampNeg)) rfl dX9_weighed_31 ?_
    refine lv_iload_n (pc := 32) hx hb dX9_weighed_32 rfl (lv_at hl 2 rfl) ?_
    refine lv_aload_n (pc := 33) hx hb dX9_weighed_33 rfl (lv_at hl 0 rfl) ?_
    obtain ⟨r4, hq5, hm⟩ := ob_some hm
    refine rk_PV (pc := 34) (As := []) (rest := [.int i2, .long (gL V0 17 (((20 : Int32) * i1) + i5).toNatClampNeg), .long j3]) hx hb hml hown hts hK lkX9_89 rfl yn_X9_n (ct_X9_n (G := G) (l := l) (b0 := b0) hq5) ⟨Nat.le_of_ble_eq_true rfl, Nat.le_of_ble_eq_true rfl⟩ (rk_recv hK hW0 0 (by decide) rfl rfl rfl) (rg_take hW0 (by decide)) rfl rfl hl.1 (Nat.le_of_ble_eq_true rfl) dX9_weighed_34 ⟨Nat.zero_le _, Nat.zero_le _⟩ ?_
    refine W.eq (g2 := F0 m 37 ls [.int r4, .int i2, .long (gL V0 17 (((20 : Int32) * i1) + i5).toNatClampNeg), .long j3]) rfl ?_
    refine lv_icmp_ne (pc := 37) (tgt := 49) hx hb dX9_weighed_37 (by decide) (fun c6 => ?_) (fun c6 => ?_)
    · have hm := ite_f c6 hm
      refine lv_aload_n (pc := 49) hx hb dX9_weighed_49 rfl (lv_at hl 0 rfl) ?_
      refine lv_iload (pc := 50) hx hb dX9_weighed_50 (lv_at hl 4 rfl) ?_
      refine lv_iload_n (pc := 52) hx hb dX9_weighed_52 rfl (lv_at hl 2 rfl) ?_
      obtain ⟨r7, hq8, hm⟩ := ob_some hm
      refine rk_PV (pc := 53) (As := [.int i5, .int i2]) (rest := [.long (gL V0 17 (((20 : Int32) * i1) + i5).toNatClampNeg), .long j3]) hx hb hml hown hts hK lkX9_217 rfl yn_X9_pointOf (ct_X9_pointOf (G := G) (l := l) (b0 := b0) hq8) ⟨Nat.le_of_ble_eq_true rfl, Nat.le_of_ble_eq_true rfl⟩ (rk_recv hK hW0 0 (by decide) rfl rfl rfl) (rg_take hW0 (by decide)) rfl rfl hl.1 (Nat.le_of_ble_eq_true rfl) dX9_weighed_53 ⟨Nat.zero_le _, Nat.zero_le _⟩ ?_
      refine W.eq (g2 := F0 m 56 ls [.long r7, .long (gL V0 17 (((20 : Int32) * i1) + i5).toNatClampNeg), .long j3]) rfl ?_
      refine lv_lmul (pc := 56) hx hb dX9_weighed_56 ?_
      refine lv_ladd (pc := 57) hx hb dX9_weighed_57 ?_
      refine lv_lstore_n (pc := 58) (lv' := [(3, .long (j3 + ((gL V0 17 (((20 : Int32) * i1) + i5).toNatClampNeg) * r7))), (0, .ref b0), (1, .int i1), (2, .int i2), (5, .int i5)]) hx hb dX9_weighed_58 rfl hl (by decide) rfl (fun ls hl => ?_)
      refine lv_iinc (pc := 59) (v := (i5 + (1 : Int32))) (lv' := [(5, .int (i5 + (1 : Int32))), (3, .long (j3 + ((gL V0 17 (((20 : Int32) * i1) + i5).toNatClampNeg) * r7))), (0, .ref b0), (1, .int i1), (2, .int i2)]) hx hb dX9_weighed_59 hl (k := 4) rfl rfl (by decide) rfl (fun ls hl => ?_)
      refine lv_goto (pc := 62) (tgt := 5) hx hb dX9_weighed_62 (by decide) ?_
      exact hk5 i1 i2 (j3 + ((gL V0 17 (((20 : Int32) * i1) + i5).toNatClampNeg) * r7)) (i5 + (1 : Int32)) hm ls (lv_sub hl [2, 3, 4, 1, 0] rfl)
    · have hm := ite_t c6 hm
      refine lv_aload_n (pc := 40) hx hb dX9_weighed_40 rfl (lv_at hl 0 rfl) ?_
      refine lv_iload (pc := 41) hx hb dX9_weighed_41 (lv_at hl 4 rfl) ?_
      obtain ⟨r9, hq10, hm⟩ := ob_some hm
      refine rk_PV (pc := 43) (As := [.int i5]) (rest := [.long (gL V0 17 (((20 : Int32) * i1) + i5).toNatClampNeg), .long j3]) hx hb hml hown hts hK lkX9_209 rfl yn_X9_limitOf (ct_X9_limitOf (G := G) (l := l) (b0 := b0) hq10) ⟨Nat.le_of_ble_eq_true rfl, Nat.le_of_ble_eq_true rfl⟩ (rk_recv hK hW0 0 (by decide) rfl rfl rfl) (rg_take hW0 (by decide)) rfl rfl hl.1 (Nat.le_of_ble_eq_true rfl) dX9_weighed_43 ⟨Nat.zero_le _, Nat.zero_le _⟩ ?_
      refine W.eq (g2 := F0 m 46 ls [.long r9, .long (gL V0 17 (((20 : Int32) * i1) + i5).toNatClampNeg), .long j3]) rfl ?_
      refine lv_goto (pc := 46) (tgt := 56) hx hb dX9_weighed_46 (by decide) ?_
      refine lv_lmul (pc := 56) hx hb dX9_weighed_56 ?_
      refine lv_ladd (pc := 57) hx hb dX9_weighed_57 ?_
      refine lv_lstore_n (pc := 58) (lv' := [(3, .long (j3 + ((gL V0 17 (((20 : Int32) * i1) + i5).toNatClampNeg) * r9))), (0, .ref b0), (1, .int i1), (2, .int i2), (5, .int i5)]) hx hb dX9_weighed_58 rfl hl (by decide) rfl (fun ls hl => ?_)
      refine lv_iinc (pc := 59) (v := (i5 + (1 : Int32))) (lv' := [(5, .int (i5 + (1 : Int32))), (3, .long (j3 + ((gL V0 17 (((20 : Int32) * i1) + i5).toNatClampNeg) * r9))), (0, .ref b0), (1, .int i1), (2, .int i2)]) hx hb dX9_weighed_59 hl (k := 4) rfl rfl (by decide) rfl (fun ls hl => ?_)
      refine lv_goto (pc := 62) (tgt := 5) hx hb dX9_weighed_62 (by decide) ?_
      exact hk5 i1 i2 (j3 + ((gL V0 17 (((20 : Int32) * i1) + i5).toNatClampNeg) * r9)) (i5 + (1 : Int32)) hm ls (lv_sub hl [2, 3, 4, 1, 0] rfl)
theorem w_fX9_weighed_5_l (C : Cx G p s m args meth c RX9 cX9_weighed 6 (some .long)) {b0 : Nat} {V0 : Mem} {rx : Int64} (hW0 : rg G b0 46 (shX9 G.2.1) V0 s.heap) : ∀ (n : Nat) (i1 : Int32) (i2 : Int32) (j3 : Int64) (i5 : Int32), lq4 (fX9_weighed_5 V0) n i1 i2 j3 i5 = some rx → ∀ (ls : Array Slot), lv_has ls 6 [(0, .ref b0), (1, .int i1), (2, .int i2), (3, .long j3), (5, .int i5)] → W p l e (rmP 3 68) s m args below meth c s.heap [] 0 0 (MQ below (QcP (some (.long rx))) args s 0 0 (fun _ => False)) (F0 m 5 ls []) := by
  intro n
  induction n with
  | zero => intro i1 i2 j3 i5 hm; exact (lq4_0 hm).elim
  | succ n ih => intro i1 i2 j3 i5 hm; exact w_fX9_weighed_5 C hW0 ih i1 i2 j3 i5 (lq4_s hm)
set_option maxHeartbeats 4000000 in
theorem w_fX9_weighed (C : Cx G p s m args meth c RX9 cX9_weighed 6 (some .long)) {b0 : Nat} {V0 : Mem} {rx : Int64} (hW0 : rg G b0 46 (shX9 G.2.1) V0 s.heap) : ∀ (i1 : Int32) (i2 : Int32), fX9_weighed V0 i1 i2 = some rx → ∀ (ls : Array Slot), lv_has ls 6 [(0, .ref b0), (1, .int i1), (2, .int i2)] → W p l e (rmP 3 68) s m args below meth c s.heap [] 0 0 (MQ below (QcP (some (.long rx))) args s 0 0 (fun _ => False)) (F0 m 0 ls []) := by
  intro i1 i2 hm ls hl
  obtain ⟨hx, hb, hr, hlk, hml, hown, hts, hK⟩ := id C
  unfold fX9_weighed at hm
  refine lv_lconst (pc := 0) (v := (0 : Int64)) hx hb dX9_weighed_0 (by decide) ?_
  refine lv_lstore_n (pc := 1) (lv' := [(3, .long (0 : Int64)), (0, .ref b0), (1, .int i1), (2, .int i2)]) hx hb dX9_weighed_1 rfl hl (by decide) rfl (fun ls hl => ?_)
  refine lv_iconst (pc := 2) (v := (0 : Int32)) hx hb dX9_weighed_2 (by decide) ?_
  refine lv_istore (pc := 3) (lv' := [(5, .int (0 : Int32)), (3, .long (0 : Int64)), (0, .ref b0), (1, .int i1), (2, .int i2)]) hx hb dX9_weighed_3 hl (by decide) rfl (fun ls hl => ?_)
  exact (w_fX9_weighed_5_l C hW0 FU) i1 i2 (0 : Int64) (0 : Int32) hm ls (lv_sub hl [2, 3, 4, 1, 0] rfl)
set_option maxHeartbeats 4000000 in
theorem ct_X9_weighed {G : Gv} {l : Launch} {b0 : Nat} {V0 : Mem} {i1 : Int32} {i2 : Int32} {rx : Int64} (hm : fX9_weighed V0 i1 i2 = some rx) : CP G l yX9_weighed (ws_ yX9_weighed cX9_weighed 6 (some .long)) 3 68 [.ref b0, .int i1, .int i2] (fun H => rg G b0 46 (shX9 G.2.1) V0 H) (some (.long rx)) := by
  refine Met.ofW (cc := cX9_weighed) (maxL := 6) (ret := (some .long)) (by decide +kernel) rfl ?_
  intro p e s m args below meth c s₁ B hml hv
  obtain ⟨rfl, hW0, hK⟩ := hv
  have hts := atoms_spec (ws := ws_ yX9_weighed cX9_weighed 6 (some .long)) B.pre
  have hts : ∀ w ∈ lw_all, w.before _ s = true := fun w h => hts w (List.mem_cons_of_mem _ h)
  have C : Cx G p s m _ meth c RX9 cX9_weighed 6 (some .long) := ⟨B.exec, B.bytes, B.returns, B.notSynchronized, hml, findClass_of_methodNamed B.named, hts, hK⟩
  have hl := lv_entry ([.ref b0, .int i1, .int i2]) (n := 6) (Nat.le_of_ble_eq_true rfl)
  rw [lg_entry_eq]
  generalize (lg_sl ([.ref b0, .int i1, .int i2]) ++ List.replicate (6 - (lg_sl ([.ref b0, .int i1, .int i2])).length) Slot.unset).toArray = ls at hl ⊢
  have hl : lv_has ls 6 [(0, .ref b0), (1, .int i1), (2, .int i2)] := hl
  exact w_fX9_weighed C hW0 _ _ hm ls hl
theorem yn_X9_weighed : YN yX9_weighed 2 := by
  unfold YN
  decide +kernel
theorem lkX9_329 : LV RX9 329 RX9 yX9_weighed cX9_weighed 6 (some .long) := ⟨q2145, q2147, qs87, q128, q2148⟩
noncomputable def fX9_proved_14 (V0 : Mem) (k14 : Int32 → Int32 → Int32 → Option (Int32)) (i1 : Int32) (i2 : Int32) (i3 : Int32) : Option (Int32) :=
  ob (fX9_n V0) fun r4 =>
  if r4 < i3 then (
  if i2 = 0 then (
  some (0 : Int32))
  else (
  some (1 : Int32)))
  else (
  ob (fX9_weighed V0 i1 i3) fun r8 =>
  ob (fX9_cut V0 i1 i3) fun r10 =>
  if r8 = r10 then (
  k14 i1 (i2 &&& (1 : Int32)) (i3 + (1 : Int32)))
  else (
  k14 i1 (i2 &&& (0 : Int32)) (i3 + (1 : Int32))))
noncomputable def fX9_proved (V0 : Mem) (i1 : Int32) : Option (Int32) :=
  ob (fX9_isCut V0 i1) fun r1 =>
  if r1 = 0 then (
  some (-1 : Int32))
  else (
  lq3 (fX9_proved_14 V0) FU i1 (1 : Int32) (0 : Int32))
set_option maxHeartbeats 4000000 in
theorem w_fX9_proved_14 (C : Cx G p s m args meth c RX9 cX9_proved 4 (some .int)) {b0 : Nat} {V0 : Mem} {rx : Int32} (hW0 : rg G b0 46 (shX9 G.2.1) V0 s.heap) {k14 : Int32 → Int32 → Int32 → Option (Int32)} (hk14 : ∀ (i1 : Int32) (i2 : Int32) (i3 : Int32), k14 i1 i2 i3 = some rx → ∀ (ls : Array Slot), lv_has ls 4 [(0, .ref b0), (1, .int i1), (2, .int i2), (3, .int i3)] → W p l e (rmP 4 93) s m args below meth c s.heap [] 0 0 (MQ below (QcP (some (.int rx))) args s 0 0 (fun _ => False)) (F0 m 14 ls [])) : ∀ (i1 : Int32) (i2 : Int32) (i3 : Int32), fX9_proved_14 V0 k14 i1 i2 i3 = some rx → ∀ (ls : Array Slot), lv_has ls 4 [(0, .ref b0), (1, .int i1), (2, .int i2), (3, .int i3)] → W p l e (rmP 4 93) s m args below meth c s.heap [] 0 0 (MQ below (QcP (some (.int rx))) args s 0 0 (fun _ => False)) (F0 m 14 ls []) := by
  intro i1 i2 i3 hm ls hl
  obtain ⟨hx, hb, hr, hlk, hml, hown, hts, hK⟩ := id C
  unfold fX9_proved_14 at hm
  refine lv_iload_n (pc := 14) hx hb dX9_proved_14 rfl (lv_at hl 3 rfl) ?_
  refine lv_aload_n (pc := 15) hx hb dX9_proved_15 rfl (lv_at hl 0 rfl) ?_
  obtain ⟨r4, hq5, hm⟩ := ob_some hm
  refine rk_PV (pc := 16) (As := []) (rest := [.int i3]) hx hb hml hown hts hK lkX9_89 rfl yn_X9_n (ct_X9_n (G := G) (l := l) (b0 := b0) hq5) ⟨Nat.le_of_ble_eq_true rfl, Nat.le_of_ble_eq_true rfl⟩ (rk_recv hK hW0 0 (by decide) rfl rfl rfl) (rg_take hW0 (by decide)) rfl rfl hl.1 (Nat.le_of_ble_eq_true rfl) dX9_proved_16 ⟨Nat.zero_le _, Nat.zero_le _⟩ ?_
  refine W.eq (g2 := F0 m 19 ls [.int r4, .int i3]) rfl ?_
  refine lv_icmp_gt (pc := 19) (tgt := 52) hx hb dX9_proved_19 (by decide) (fun c6 => ?_) (fun c6 => ?_)
  · have hm := ite_t c6 hm
    refine lv_iload_n (pc := 52) hx hb dX9_proved_52 rfl (lv_at hl 2 rfl) ?_
    refine lv_if_eq (pc := 53) (tgt := 60) hx hb dX9_proved_53 (by decide) (fun c7 => ?_) (fun c7 => ?_)
    · have hm := ite_t c7 hm
      refine lv_iconst (pc := 60) (v := (0 : Int32)) hx hb dX9_proved_60 (by decide) ?_
      have e9 := rs1 hm
      subst e9
      exact rk_iretP (pc := 61) hx hb hr hlk rfl dX9_proved_61
    · have hm := ite_f c7 hm
      refine lv_iconst (pc := 56) (v := (1 : Int32)) hx hb dX9_proved_56 (by decide) ?_
      refine lv_goto (pc := 57) (tgt := 61) hx hb dX9_proved_57 (by decide) ?_
      have e9 := rs1 hm
      subst e9
      exact rk_iretP (pc := 61) hx hb hr hlk rfl dX9_proved_61
  · have hm := ite_f c6 hm
    refine lv_iload_n (pc := 22) hx hb dX9_proved_22 rfl (lv_at hl 2 rfl) ?_
    refine lv_aload_n (pc := 23) hx hb dX9_proved_23 rfl (lv_at hl 0 rfl) ?_
    refine lv_iload_n (pc := 24) hx hb dX9_proved_24 rfl (lv_at hl 1 rfl) ?_
    refine lv_iload_n (pc := 25) hx hb dX9_proved_25 rfl (lv_at hl 3 rfl) ?_
    obtain ⟨r8, hq9, hm⟩ := ob_some hm
    refine rk_PV (pc := 26) (As := [.int i1, .int i3]) (rest := [.int i2]) hx hb hml hown hts hK lkX9_329 rfl yn_X9_weighed (ct_X9_weighed (G := G) (l := l) (b0 := b0) hq9) ⟨Nat.le_of_ble_eq_true rfl, Nat.le_of_ble_eq_true rfl⟩ (rk_recv hK hW0 0 (by decide) rfl rfl rfl) hW0 rfl rfl hl.1 (Nat.le_of_ble_eq_true rfl) dX9_proved_26 ⟨Nat.zero_le _, Nat.zero_le _⟩ ?_
    refine W.eq (g2 := F0 m 29 ls [.long r8, .int i2]) rfl ?_
    refine lv_aload_n (pc := 29) hx hb dX9_proved_29 rfl (lv_at hl 0 rfl) ?_
    refine lv_iload_n (pc := 30) hx hb dX9_proved_30 rfl (lv_at hl 1 rfl) ?_
    refine lv_iload_n (pc := 31) hx hb dX9_proved_31 rfl (lv_at hl 3 rfl) ?_
    obtain ⟨r10, hq11, hm⟩ := ob_some hm
    refine rk_PV (pc := 32) (As := [.int i1, .int i3]) (rest := [.long r8, .int i2]) hx hb hml hown hts hK lkX9_326 rfl yn_X9_cut (ct_X9_cut (G := G) (l := l) (b0 := b0) hq11) ⟨Nat.le_of_ble_eq_true rfl, Nat.le_of_ble_eq_true rfl⟩ (rk_recv hK hW0 0 (by decide) rfl rfl rfl) hW0 rfl rfl hl.1 (Nat.le_of_ble_eq_true rfl) dX9_proved_32 ⟨Nat.zero_le _, Nat.zero_le _⟩ ?_
    refine W.eq (g2 := F0 m 35 ls [.long r10, .long r8, .int i2]) rfl ?_
    refine rk_lcmp_ne (pc := 35) (tgt := 43) hx hb dX9_proved_35 rfl dX9_proved_36 (by decide) (fun c12 => ?_) (fun c12 => ?_)
    · have hm := ite_f c12 hm
      refine lv_iconst (pc := 43) (v := (0 : Int32)) hx hb dX9_proved_43 (by decide) ?_
      refine lv_iand (pc := 44) hx hb dX9_proved_44 ?_
      refine lv_istore_n (pc := 45) (lv' := [(2, .int (i2 &&& (0 : Int32))), (0, .ref b0), (1, .int i1), (3, .int i3)]) hx hb dX9_proved_45 rfl hl (by decide) rfl (fun ls hl => ?_)
      refine lv_iinc (pc := 46) (v := (i3 + (1 : Int32))) (lv' := [(3, .int (i3 + (1 : Int32))), (2, .int (i2 &&& (0 : Int32))), (0, .ref b0), (1, .int i1)]) hx hb dX9_proved_46 hl (k := 3) rfl rfl (by decide) rfl (fun ls hl => ?_)
      refine lv_goto (pc := 49) (tgt := 14) hx hb dX9_proved_49 (by decide) ?_
      exact hk14 i1 (i2 &&& (0 : Int32)) (i3 + (1 : Int32)) hm ls (lv_sub hl [2, 3, 1, 0] rfl)
    · have hm := ite_t c12 hm
      refine lv_iconst (pc := 39) (v := (1 : Int32)) hx hb dX9_proved_39 (by decide) ?_
      refine lv_goto (pc := 40) (tgt := 44) hx hb dX9_proved_40 (by decide) ?_
      refine lv_iand (pc := 44) hx hb dX9_proved_44 ?_
      refine lv_istore_n (pc := 45) (lv' := [(2, .int (i2 &&& (1 : Int32))), (0, .ref b0), (1, .int i1), (3, .int i3)]) hx hb dX9_proved_45 rfl hl (by decide) rfl (fun ls hl => ?_)
      refine lv_iinc (pc := 46) (v := (i3 + (1 : Int32))) (lv' := [(3, .int (i3 + (1 : Int32))), (2, .int (i2 &&& (1 : Int32))), (0, .ref b0), (1, .int i1)]) hx hb dX9_proved_46 hl (k := 3) rfl rfl (by decide) rfl (fun ls hl => ?_)
      refine lv_goto (pc := 49) (tgt := 14) hx hb dX9_proved_49 (by decide) ?_
      exact hk14 i1 (i2 &&& (1 : Int32)) (i3 + (1 : Int32)) hm ls (lv_sub hl [2, 3, 1, 0] rfl)
theorem w_fX9_proved_14_l (C : Cx G p s m args meth c RX9 cX9_proved 4 (some .int)) {b0 : Nat} {V0 : Mem} {rx : Int32} (hW0 : rg G b0 46 (shX9 G.2.1) V0 s.heap) : ∀ (n : Nat) (i1 : Int32) (i2 : Int32) (i3 : Int32), lq3 (fX9_proved_14 V0) n i1 i2 i3 = some rx → ∀ (ls : Array Slot), lv_has ls 4 [(0, .ref b0), (1, .int i1), (2, .int i2), (3, .int i3)] → W p l e (rmP 4 93) s m args below meth c s.heap [] 0 0 (MQ below (QcP (some (.int rx))) args s 0 0 (fun _ => False)) (F0 m 14 ls []) := by
  intro n
  induction n with
  | zero => intro i1 i2 i3 hm; exact (lq3_0 hm).elim
  | succ n ih => intro i1 i2 i3 hm; exact w_fX9_proved_14 C hW0 ih i1 i2 i3 (lq3_s hm)
set_option maxHeartbeats 4000000 in
theorem w_fX9_proved (C : Cx G p s m args meth c RX9 cX9_proved 4 (some .int)) {b0 : Nat} {V0 : Mem} {rx : Int32} (hW0 : rg G b0 46 (shX9 G.2.1) V0 s.heap) : ∀ (i1 : Int32), fX9_proved V0 i1 = some rx → ∀ (ls : Array Slot), lv_has ls 4 [(0, .ref b0), (1, .int i1)] → W p l e (rmP 4 93) s m args below meth c s.heap [] 0 0 (MQ below (QcP (some (.int rx))) args s 0 0 (fun _ => False)) (F0 m 0 ls []) := by
  intro i1 hm ls hl
  obtain ⟨hx, hb, hr, hlk, hml, hown, hts, hK⟩ := id C
  unfold fX9_proved at hm
  refine lv_aload_n (pc := 0) hx hb dX9_proved_0 rfl (lv_at hl 0 rfl) ?_
  refine lv_iload_n (pc := 1) hx hb dX9_proved_1 rfl (lv_at hl 1 rfl) ?_
  obtain ⟨r1, hq2, hm⟩ := ob_some hm
  refine rk_PV (pc := 2) (As := [.int i1]) (rest := []) hx hb hml hown hts hK lkX9_321 rfl yn_X9_isCut (ct_X9_isCut (G := G) (l := l) (b0 := b0) hq2) ⟨Nat.le_of_ble_eq_true rfl, Nat.le_of_ble_eq_true rfl⟩ (rk_recv hK hW0 0 (by decide) rfl rfl rfl) hW0 rfl rfl hl.1 (Nat.le_of_ble_eq_true rfl) dX9_proved_2 ⟨Nat.zero_le _, Nat.zero_le _⟩ ?_
  refine W.eq (g2 := F0 m 5 ls [.int r1]) rfl ?_
  refine lv_if_ne (pc := 5) (tgt := 10) hx hb dX9_proved_5 (by decide) (fun c3 => ?_) (fun c3 => ?_)
  · have hm := ite_f c3 hm
    refine lv_iconst (pc := 10) (v := (1 : Int32)) hx hb dX9_proved_10 (by decide) ?_
    refine lv_istore_n (pc := 11) (lv' := [(2, .int (1 : Int32)), (0, .ref b0), (1, .int i1)]) hx hb dX9_proved_11 rfl hl (by decide) rfl (fun ls hl => ?_)
    refine lv_iconst (pc := 12) (v := (0 : Int32)) hx hb dX9_proved_12 (by decide) ?_
    refine lv_istore_n (pc := 13) (lv' := [(3, .int (0 : Int32)), (2, .int (1 : Int32)), (0, .ref b0), (1, .int i1)]) hx hb dX9_proved_13 rfl hl (by decide) rfl (fun ls hl => ?_)
    exact (w_fX9_proved_14_l C hW0 FU) i1 (1 : Int32) (0 : Int32) hm ls (lv_sub hl [2, 3, 1, 0] rfl)
  · have hm := ite_t c3 hm
    refine lv_iconst (pc := 8) (v := (-1 : Int32)) hx hb dX9_proved_8 (by decide) ?_
    have e9 := rs1 hm
    subst e9
    exact rk_iretP (pc := 9) hx hb hr hlk rfl dX9_proved_9
set_option maxHeartbeats 4000000 in
theorem ct_X9_proved {G : Gv} {l : Launch} {b0 : Nat} {V0 : Mem} {i1 : Int32} {rx : Int32} (hm : fX9_proved V0 i1 = some rx) : CP G l yX9_proved (ws_ yX9_proved cX9_proved 4 (some .int)) 4 93 [.ref b0, .int i1] (fun H => rg G b0 46 (shX9 G.2.1) V0 H) (some (.int rx)) := by
  refine Met.ofW (cc := cX9_proved) (maxL := 4) (ret := (some .int)) (by decide +kernel) rfl ?_
  intro p e s m args below meth c s₁ B hml hv
  obtain ⟨rfl, hW0, hK⟩ := hv
  have hts := atoms_spec (ws := ws_ yX9_proved cX9_proved 4 (some .int)) B.pre
  have hts : ∀ w ∈ lw_all, w.before _ s = true := fun w h => hts w (List.mem_cons_of_mem _ h)
  have C : Cx G p s m _ meth c RX9 cX9_proved 4 (some .int) := ⟨B.exec, B.bytes, B.returns, B.notSynchronized, hml, findClass_of_methodNamed B.named, hts, hK⟩
  have hl := lv_entry ([.ref b0, .int i1]) (n := 4) (Nat.le_of_ble_eq_true rfl)
  rw [lg_entry_eq]
  generalize (lg_sl ([.ref b0, .int i1]) ++ List.replicate (4 - (lg_sl ([.ref b0, .int i1])).length) Slot.unset).toArray = ls at hl ⊢
  have hl : lv_has ls 4 [(0, .ref b0), (1, .int i1)] := hl
  exact w_fX9_proved C hW0 _ hm ls hl
noncomputable def fX9_hand (v0 : Mem) (i1 : Int32) (i2 : Int32) : Option (Int32 × Mem) :=
  ob (fX9_isRule v0 i1) fun r1 =>
  if r1 = 0 then (
  some ((-1 : Int32), v0))
  else (
  ob (fX9_isIn i2.toInt64 (0 : Int64) (9 : Int64)) fun r4 =>
  if r4 = 0 then (
  some ((-2 : Int32), v0))
  else (
  gb (inR ((68 : Int32) + i1) 150) (
  gb (inR ((68 : Int32) + i1) 150) (
  lm (sI v0 1 ((68 : Int32) + i1).toNatClampNeg i2) fun v0_9 =>
  some ((gI v0 1 ((68 : Int32) + i1).toNatClampNeg), v0_9)))))
set_option maxHeartbeats 4000000 in
theorem w_fX9_hand (C : Cx G p s m args meth c RX9 cX9_hand 4 (some .int)) {b0 : Nat} {rx : Int32} {rw0 : Mem} : ∀ (v0 : Mem) (i1 : Int32) (i2 : Int32), fX9_hand v0 i1 i2 = some (rx, rw0) → ∀ (H : Heap) (locs : List Loc) (ls : Array Slot), rg G b0 46 (shX9 G.2.1) v0 H → va_S (FA (iv b0 46) s.heap.size) s.heap H locs → H.size = s.heap.size → lv_has ls 4 [(0, .ref b0), (1, .int i1), (2, .int i2)] → W p l e (rmT 2 0 0 46) s m args below meth c H locs 0 0 (MQ below (QcT (FA (iv b0 46) s.heap.size) (fun ov H => ov = (some (.int rx)) ∧ rg G b0 46 (shX9 G.2.1) rw0 H ∧ H.size = s.heap.size)) args s 0 0 (FA (iv b0 46) s.heap.size)) (F0 m 0 ls []) := by
  intro v0 i1 i2 hm H locs ls hW0 hS hz hl
  obtain ⟨hx, hb, hr, hlk, hml, hown, hts, hK⟩ := id C
  unfold fX9_hand at hm
  refine lv_aload_n (pc := 0) hx hb dX9_hand_0 rfl (lv_at hl 0 rfl) ?_
  refine lv_iload_n (pc := 1) hx hb dX9_hand_1 rfl (lv_at hl 1 rfl) ?_
  obtain ⟨r1, hq2, hm⟩ := ob_some hm
  refine rk_PV (pc := 2) (As := [.int i1]) (rest := []) hx hb hml hown hts hK lkX9_124 rfl yn_X9_isRule (ct_X9_isRule (G := G) (l := l) (b0 := b0) hq2) ⟨Nat.le_of_ble_eq_true rfl, Nat.le_of_ble_eq_true rfl⟩ (rk_recv hK hW0 0 (by decide) rfl rfl rfl) (rg_take hW0 (by decide)) rfl rfl hl.1 (Nat.le_of_ble_eq_true rfl) dX9_hand_2 ⟨Nat.zero_le _, Nat.zero_le _⟩ ?_
  refine W.eq (g2 := F0 m 5 ls [.int r1]) rfl ?_
  refine lv_if_ne (pc := 5) (tgt := 10) hx hb dX9_hand_5 (by decide) (fun c3 => ?_) (fun c3 => ?_)
  · have hm := ite_f c3 hm
    refine lv_iload_n (pc := 10) hx hb dX9_hand_10 rfl (lv_at hl 2 rfl) ?_
    refine lv_i2l (pc := 11) hx hb dX9_hand_11 rfl ?_
    refine lv_lconst (pc := 12) (v := (0 : Int64)) hx hb dX9_hand_12 (by decide) ?_
    refine lv_ldc2 (pc := 13) (v := (9 : Int64)) hx hb hown (hts _ q1955) dX9_hand_13 ?_
    obtain ⟨r4, hq5, hm⟩ := ob_some hm
    refine rk_PS (pc := 16) (As := [.long i2.toInt64, .long (0 : Int64), .long (9 : Int64)]) (rest := []) hx hb hml hown hts hK lkX9_93 yn_X9_isIn (ct_X9_isIn (G := G) (l := l) hq5) ⟨Nat.le_of_ble_eq_true rfl, Nat.le_of_ble_eq_true rfl⟩ trivial rfl rfl hl.1 (Nat.le_of_ble_eq_true rfl) dX9_hand_16 ⟨Nat.zero_le _, Nat.zero_le _⟩ ?_
    refine W.eq (g2 := F0 m 19 ls [.int r4]) rfl ?_
    refine lv_if_ne (pc := 19) (tgt := 25) hx hb dX9_hand_19 (by decide) (fun c6 => ?_) (fun c6 => ?_)
    · have hm := ite_f c6 hm
      refine lv_aload_n (pc := 25) hx hb dX9_hand_25 rfl (lv_at hl 0 rfl) ?_
      refine rk_get (pc := 26) hx hb hts hown hK hW0 flX9_11 0 (by decide) rfl rfl (x := .ref (b0 + 1)) (by first | rfl | exact congrArg (fun z => some (Value.ref z)) (by omega)) dX9_hand_26 ?_
      refine lv_bipush (pc := 29) (v := (68 : Int32)) hx hb dX9_hand_29 (by decide) ?_
      refine lv_iload_n (pc := 31) hx hb dX9_hand_31 rfl (lv_at hl 1 rfl) ?_
      refine lv_iadd (pc := 32) hx hb dX9_hand_32 ?_
      obtain ⟨hg7, hm⟩ := gb_some hm
      refine rk_iald (pc := 33) hx hb hK hW0 1 (by decide) rfl rfl hg7 (x := (gI v0 1 ((68 : Int32) + i1).toNatClampNeg)) rfl dX9_hand_33 ?_
      refine lv_istore_n (pc := 34) (lv' := [(3, .int (gI v0 1 ((68 : Int32) + i1).toNatClampNeg)), (0, .ref b0), (1, .int i1), (2, .int i2)]) hx hb dX9_hand_34 rfl hl (by decide) rfl (fun ls hl => ?_)
      refine lv_aload_n (pc := 35) hx hb dX9_hand_35 rfl (lv_at hl 1 rfl) ?_
      refine rk_get (pc := 36) hx hb hts hown hK hW0 flX9_11 0 (by decide) rfl rfl (x := .ref (b0 + 1)) (by first | rfl | exact congrArg (fun z => some (Value.ref z)) (by omega)) dX9_hand_36 ?_
      refine lv_bipush (pc := 39) (v := (68 : Int32)) hx hb dX9_hand_39 (by decide) ?_
      refine lv_iload_n (pc := 41) hx hb dX9_hand_41 rfl (lv_at hl 2 rfl) ?_
      refine lv_iadd (pc := 42) hx hb dX9_hand_42 ?_
      refine lv_iload_n (pc := 43) hx hb dX9_hand_43 rfl (lv_at hl 3 rfl) ?_
      obtain ⟨hg8, hm⟩ := gb_some hm
      refine rk_iast (pc := 44) hx hb hK hW0 hS 1 (by decide) rfl (Or.inl (show iv _ _ _ from ⟨by omega, by omega⟩)) (fun _ _ _ => rfl) hg8 dX9_hand_44 (fun H10 locs11 hW12 hS13 hz14 hkp15 => ?_)
      obtain ⟨v0_9, he9, hm⟩ := lm_some hm
      rw [he9] at hW12
      have hz16 := hz14.trans hz
      refine lv_iload_n (pc := 45) hx hb dX9_hand_45 rfl (lv_at hl 0 rfl) ?_
      obtain ⟨e8, e9⟩ := rs2 hm
      subst e8
      subst e9
      exact rk_iret (pc := 46) hx hb hr hlk hS13 ⟨rfl, hW12, hz16⟩ dX9_hand_46
    · have hm := ite_t c6 hm
      refine lv_bipush (pc := 22) (v := (-2 : Int32)) hx hb dX9_hand_22 (by decide) ?_
      obtain ⟨e8, e9⟩ := rs2 hm
      subst e8
      subst e9
      exact rk_iret (pc := 24) hx hb hr hlk hS ⟨rfl, hW0, hz⟩ dX9_hand_24
  · have hm := ite_t c3 hm
    refine lv_iconst (pc := 8) (v := (-1 : Int32)) hx hb dX9_hand_8 (by decide) ?_
    obtain ⟨e8, e9⟩ := rs2 hm
    subst e8
    subst e9
    exact rk_iret (pc := 9) hx hb hr hlk hS ⟨rfl, hW0, hz⟩ dX9_hand_9
set_option maxHeartbeats 4000000 in
theorem ct_X9_hand {G : Gv} {l : Launch} {b0 : Nat} {v0 : Mem} {i1 : Int32} {i2 : Int32} {rx : Int32} {rw0 : Mem} {sz : Nat} (hm : fX9_hand v0 i1 i2 = some (rx, rw0)) : CT G l yX9_hand (ws_ yX9_hand cX9_hand 4 (some .int)) 2 0 0 46 [.ref b0, .int i1, .int i2] (iv b0 46) sz (fun H => rg G b0 46 (shX9 G.2.1) v0 H) (fun ov H => ov = (some (.int rx)) ∧ rg G b0 46 (shX9 G.2.1) rw0 H ∧ H.size = sz) := by
  refine Met.ofW (cc := cX9_hand) (maxL := 4) (ret := (some .int)) (by decide +kernel) rfl ?_
  intro p e s m args below meth c s₁ B hml hv
  obtain ⟨rfl, ⟨hz, hW0⟩, hK⟩ := hv
  subst hz
  have hts := atoms_spec (ws := ws_ yX9_hand cX9_hand 4 (some .int)) B.pre
  have hts : ∀ w ∈ lw_all, w.before _ s = true := fun w h => hts w (List.mem_cons_of_mem _ h)
  have C : Cx G p s m _ meth c RX9 cX9_hand 4 (some .int) := ⟨B.exec, B.bytes, B.returns, B.notSynchronized, hml, findClass_of_methodNamed B.named, hts, hK⟩
  have hl := lv_entry ([.ref b0, .int i1, .int i2]) (n := 4) (Nat.le_of_ble_eq_true rfl)
  rw [lg_entry_eq]
  generalize (lg_sl ([.ref b0, .int i1, .int i2]) ++ List.replicate (4 - (lg_sl ([.ref b0, .int i1, .int i2])).length) Slot.unset).toArray = ls at hl ⊢
  have hl : lv_has ls 4 [(0, .ref b0), (1, .int i1), (2, .int i2)] := hl
  exact w_fX9_hand C _ _ _ hm s.heap [] ls hW0 va_S.rf rfl hl
noncomputable def fX9_by (v0 : Mem) (i1 : Int32) : Option (Int32 × Mem) :=
  ob (fX9_isIn i1.toInt64 (1 : Int64) (10 : Int64)) fun r1 =>
  if r1 = 0 then (
  some ((-2 : Int32), v0))
  else (
  gb (inR (2 : Int32) 150) (
  gb (inR (2 : Int32) 150) (
  lm (sI v0 1 (2 : Int32).toNatClampNeg i1) fun v0_6 =>
  some ((gI v0 1 (2 : Int32).toNatClampNeg), v0_6))))
set_option maxHeartbeats 4000000 in
theorem w_fX9_by (C : Cx G p s m args meth c RX9 cX9_by 3 (some .int)) {b0 : Nat} {rx : Int32} {rw0 : Mem} : ∀ (v0 : Mem) (i1 : Int32), fX9_by v0 i1 = some (rx, rw0) → ∀ (H : Heap) (locs : List Loc) (ls : Array Slot), rg G b0 46 (shX9 G.2.1) v0 H → va_S (FA (iv b0 46) s.heap.size) s.heap H locs → H.size = s.heap.size → lv_has ls 3 [(0, .ref b0), (1, .int i1)] → W p l e (rmT 1 0 0 25) s m args below meth c H locs 0 0 (MQ below (QcT (FA (iv b0 46) s.heap.size) (fun ov H => ov = (some (.int rx)) ∧ rg G b0 46 (shX9 G.2.1) rw0 H ∧ H.size = s.heap.size)) args s 0 0 (FA (iv b0 46) s.heap.size)) (F0 m 0 ls []) := by
  intro v0 i1 hm H locs ls hW0 hS hz hl
  obtain ⟨hx, hb, hr, hlk, hml, hown, hts, hK⟩ := id C
  unfold fX9_by at hm
  refine lv_iload_n (pc := 0) hx hb dX9_by_0 rfl (lv_at hl 1 rfl) ?_
  refine lv_i2l (pc := 1) hx hb dX9_by_1 rfl ?_
  refine lv_lconst (pc := 2) (v := (1 : Int64)) hx hb dX9_by_2 (by decide) ?_
  refine lv_ldc2 (pc := 3) (v := (10 : Int64)) hx hb hown (hts _ q2158) dX9_by_3 ?_
  obtain ⟨r1, hq2, hm⟩ := ob_some hm
  refine rk_PS (pc := 6) (As := [.long i1.toInt64, .long (1 : Int64), .long (10 : Int64)]) (rest := []) hx hb hml hown hts hK lkX9_93 yn_X9_isIn (ct_X9_isIn (G := G) (l := l) hq2) ⟨Nat.le_of_ble_eq_true rfl, Nat.le_of_ble_eq_true rfl⟩ trivial rfl rfl hl.1 (Nat.le_of_ble_eq_true rfl) dX9_by_6 ⟨Nat.zero_le _, Nat.zero_le _⟩ ?_
  refine W.eq (g2 := F0 m 9 ls [.int r1]) rfl ?_
  refine lv_if_ne (pc := 9) (tgt := 15) hx hb dX9_by_9 (by decide) (fun c3 => ?_) (fun c3 => ?_)
  · have hm := ite_f c3 hm
    refine lv_aload_n (pc := 15) hx hb dX9_by_15 rfl (lv_at hl 0 rfl) ?_
    refine rk_get (pc := 16) hx hb hts hown hK hW0 flX9_11 0 (by decide) rfl rfl (x := .ref (b0 + 1)) (by first | rfl | exact congrArg (fun z => some (Value.ref z)) (by omega)) dX9_by_16 ?_
    refine lv_iconst (pc := 19) (v := (2 : Int32)) hx hb dX9_by_19 (by decide) ?_
    obtain ⟨hg4, hm⟩ := gb_some hm
    refine rk_iald (pc := 20) hx hb hK hW0 1 (by decide) rfl rfl hg4 (x := (gI v0 1 (2 : Int32).toNatClampNeg)) rfl dX9_by_20 ?_
    refine lv_istore_n (pc := 21) (lv' := [(2, .int (gI v0 1 (2 : Int32).toNatClampNeg)), (0, .ref b0), (1, .int i1)]) hx hb dX9_by_21 rfl hl (by decide) rfl (fun ls hl => ?_)
    refine lv_aload_n (pc := 22) hx hb dX9_by_22 rfl (lv_at hl 1 rfl) ?_
    refine rk_get (pc := 23) hx hb hts hown hK hW0 flX9_11 0 (by decide) rfl rfl (x := .ref (b0 + 1)) (by first | rfl | exact congrArg (fun z => some (Value.ref z)) (by omega)) dX9_by_23 ?_
    refine lv_iconst (pc := 26) (v := (2 : Int32)) hx hb dX9_by_26 (by decide) ?_
    refine lv_iload_n (pc := 27) hx hb dX9_by_27 rfl (lv_at hl 2 rfl) ?_
    obtain ⟨hg5, hm⟩ := gb_some hm
    refine rk_iast (pc := 28) hx hb hK hW0 hS 1 (by decide) rfl (Or.inl (show iv _ _ _ from ⟨by omega, by omega⟩)) (fun _ _ _ => rfl) hg5 dX9_by_28 (fun H7 locs8 hW9 hS10 hz11 hkp12 => ?_)
    obtain ⟨v0_6, he9, hm⟩ := lm_some hm
    rw [he9] at hW9
    have hz13 := hz11.trans hz
    refine lv_iload_n (pc := 29) hx hb dX9_by_29 rfl (lv_at hl 0 rfl) ?_
    obtain ⟨e8, e9⟩ := rs2 hm
    subst e8
    subst e9
    exact rk_iret (pc := 30) hx hb hr hlk hS10 ⟨rfl, hW9, hz13⟩ dX9_by_30
  · have hm := ite_t c3 hm
    refine lv_bipush (pc := 12) (v := (-2 : Int32)) hx hb dX9_by_12 (by decide) ?_
    obtain ⟨e8, e9⟩ := rs2 hm
    subst e8
    subst e9
    exact rk_iret (pc := 14) hx hb hr hlk hS ⟨rfl, hW0, hz⟩ dX9_by_14
set_option maxHeartbeats 4000000 in
theorem ct_X9_by {G : Gv} {l : Launch} {b0 : Nat} {v0 : Mem} {i1 : Int32} {rx : Int32} {rw0 : Mem} {sz : Nat} (hm : fX9_by v0 i1 = some (rx, rw0)) : CT G l yX9_by (ws_ yX9_by cX9_by 3 (some .int)) 1 0 0 25 [.ref b0, .int i1] (iv b0 46) sz (fun H => rg G b0 46 (shX9 G.2.1) v0 H) (fun ov H => ov = (some (.int rx)) ∧ rg G b0 46 (shX9 G.2.1) rw0 H ∧ H.size = sz) := by
  refine Met.ofW (cc := cX9_by) (maxL := 3) (ret := (some .int)) (by decide +kernel) rfl ?_
  intro p e s m args below meth c s₁ B hml hv
  obtain ⟨rfl, ⟨hz, hW0⟩, hK⟩ := hv
  subst hz
  have hts := atoms_spec (ws := ws_ yX9_by cX9_by 3 (some .int)) B.pre
  have hts : ∀ w ∈ lw_all, w.before _ s = true := fun w h => hts w (List.mem_cons_of_mem _ h)
  have C : Cx G p s m _ meth c RX9 cX9_by 3 (some .int) := ⟨B.exec, B.bytes, B.returns, B.notSynchronized, hml, findClass_of_methodNamed B.named, hts, hK⟩
  have hl := lv_entry ([.ref b0, .int i1]) (n := 3) (Nat.le_of_ble_eq_true rfl)
  rw [lg_entry_eq]
  generalize (lg_sl ([.ref b0, .int i1]) ++ List.replicate (3 - (lg_sl ([.ref b0, .int i1])).length) Slot.unset).toArray = ls at hl ⊢
  have hl : lv_has ls 3 [(0, .ref b0), (1, .int i1)] := hl
  exact w_fX9_by C _ _ hm s.heap [] ls hW0 va_S.rf rfl hl
theorem yn_J7_floorDiv_2 : YN yJ7_floorDiv_2 2 := by
  unfold YN
  decide +kernel
theorem lkX9_334 : LSt RX9 334 yJ7_floorDiv_2 cJ7_floorDiv_2 3 (some .long) := ⟨q2163, q2164, q136, q2165⟩
noncomputable def fX9_points_23 (V0 : Mem) (k23 : Int32 → Int64 → Int32 → Option (Int64)) (i1 : Int32) (j2 : Int64) (i4 : Int32) : Option (Int64) :=
  gb (inR (1 : Int32) 150) (
  if (gI V0 1 (1 : Int32).toNatClampNeg) ≤ i4 then (
  gb (inR (2 : Int32) 150) (
  ob (fJ7_floorDiv_2 j2 (gI V0 1 (2 : Int32).toNatClampNeg)) fun r9 =>
  some r9))
  else (
  gb (inR ((68 : Int32) + i4) 150) (
  ob (fX9_n V0) fun r12 =>
  if i1 = r12 then (
  ob (fX9_limitOf V0 i4) fun r17 =>
  k23 i1 (j2 + ((gI V0 1 ((68 : Int32) + i4).toNatClampNeg).toInt64 * r17)) (i4 + (1 : Int32)))
  else (
  ob (fX9_pointOf V0 i4 i1) fun r15 =>
  k23 i1 (j2 + ((gI V0 1 ((68 : Int32) + i4).toNatClampNeg).toInt64 * r15)) (i4 + (1 : Int32))))))
noncomputable def fX9_points (V0 : Mem) (i1 : Int32) : Option (Int64) :=
  ob (fX9_n V0) fun r1 =>
  ob (fX9_isIn i1.toInt64 (0 : Int64) r1.toInt64) fun r3 =>
  if r3 = 0 then (
  some (-9223372036854775808 : Int64))
  else (
  lq3 (fX9_points_23 V0) FU i1 (0 : Int64) (0 : Int32))
set_option maxHeartbeats 4000000 in
theorem w_fX9_points_23 (C : Cx G p s m args meth c RX9 cX9_points 5 (some .long)) {b0 : Nat} {V0 : Mem} {rx : Int64} (hW0 : rg G b0 46 (shX9 G.2.1) V0 s.heap) {k23 : Int32 → Int64 → Int32 → Option (Int64)} (hk23 : ∀ (i1 : Int32) (j2 : Int64) (i4 : Int32), k23 i1 j2 i4 = some rx → ∀ (ls : Array Slot), lv_has ls 5 [(0, .ref b0), (1, .int i1), (2, .long j2), (4, .int i4)] → W p l e (rmP 2 47) s m args below meth c s.heap [] 0 0 (MQ below (QcP (some (.long rx))) args s 0 0 (fun _ => False)) (F0 m 23 ls [])) : ∀ (i1 : Int32) (j2 : Int64) (i4 : Int32), fX9_points_23 V0 k23 i1 j2 i4 = some rx → ∀ (ls : Array Slot), lv_has ls 5 [(0, .ref b0), (1, .int i1), (2, .long j2), (4, .int i4)] → W p l e (rmP 2 47) s m args below meth c s.heap [] 0 0 (MQ below (QcP (some (.long rx))) args s 0 0 (fun _ => False)) (F0 m 23 ls []) := by
  intro i1 j2 i4 hm ls hl
  obtain ⟨hx, hb, hr, hlk, hml, hown, hts, hK⟩ := id C
  unfold fX9_points_23 at hm
  refine lv_iload (pc := 23) hx hb dX9_points_23 (lv_at hl 3 rfl) ?_
  refine lv_aload_n (pc := 25) hx hb dX9_points_25 rfl (lv_at hl 0 rfl) ?_
  refine rk_get (pc := 26) hx hb hts hown hK hW0 flX9_11 0 (by decide) rfl rfl (x := .ref (b0 + 1)) (by first | rfl | exact congrArg (fun z => some (Value.ref z)) (by omega)) dX9_points_26 ?_
  refine lv_iconst (pc := 29) (v := (1 : Int32)) hx hb dX9_points_29 (by decide) ?_
  obtain ⟨hg6, hm⟩ := gb_some hm
  refine rk_iald (pc := 30) hx hb hK hW0 1 (by decide) rfl rfl hg6 (x := (gI V0 1 (1 : Int32).toNatClampNeg)) rfl dX9_points_30 ?_
  refine lv_icmp_ge (pc := 31) (tgt := 79) hx hb dX9_points_31 (by decide) (fun c7 => ?_) (fun c7 => ?_)
  · have hm := ite_t c7 hm
    refine lv_lload_n (pc := 79) hx hb dX9_points_79 rfl (lv_at hl 2 rfl) ?_
    refine lv_aload_n (pc := 80) hx hb dX9_points_80 rfl (lv_at hl 0 rfl) ?_
    refine rk_get (pc := 81) hx hb hts hown hK hW0 flX9_11 0 (by decide) rfl rfl (x := .ref (b0 + 1)) (by first | rfl | exact congrArg (fun z => some (Value.ref z)) (by omega)) dX9_points_81 ?_
    refine lv_iconst (pc := 84) (v := (2 : Int32)) hx hb dX9_points_84 (by decide) ?_
    obtain ⟨hg8, hm⟩ := gb_some hm
    refine rk_iald (pc := 85) hx hb hK hW0 1 (by decide) rfl rfl hg8 (x := (gI V0 1 (2 : Int32).toNatClampNeg)) rfl dX9_points_85 ?_
    obtain ⟨r9, hq10, hm⟩ := ob_some hm
    refine rk_PS (pc := 86) (As := [.long j2, .int (gI V0 1 (2 : Int32).toNatClampNeg)]) (rest := []) hx hb hml hown hts hK lkX9_334 yn_J7_floorDiv_2 (ct_J7_floorDiv_2 (G := G) (l := l) hq10) ⟨Nat.le_of_ble_eq_true rfl, Nat.le_of_ble_eq_true rfl⟩ trivial rfl rfl hl.1 (Nat.le_of_ble_eq_true rfl) dX9_points_86 ⟨Nat.zero_le _, Nat.zero_le _⟩ ?_
    refine W.eq (g2 := F0 m 89 ls [.long r9]) rfl ?_
    have e9 := rs1 hm
    subst e9
    exact rk_lretP (pc := 89) hx hb hr hlk rfl dX9_points_89
  · have hm := ite_f c7 hm
    refine lv_lload_n (pc := 34) hx hb dX9_points_34 rfl (lv_at hl 2 rfl) ?_
    refine lv_aload_n (pc := 35) hx hb dX9_points_35 rfl (lv_at hl 0 rfl) ?_
    refine rk_get (pc := 36) hx hb hts hown hK hW0 flX9_11 0 (by decide) rfl rfl (x := .ref (b0 + 1)) (by first | rfl | exact congrArg (fun z => some (Value.ref z)) (by omega)) dX9_points_36 ?_
    refine lv_bipush (pc := 39) (v := (68 : Int32)) hx hb dX9_points_39 (by decide) ?_
    refine lv_iload (pc := 41) hx hb dX9_points_41 (lv_at hl 3 rfl) ?_
    refine lv_iadd (pc := 43) hx hb dX9_points_43 ?_
    obtain ⟨hg11, hm⟩ := gb_some hm
    refine rk_iald (pc := 44) hx hb hK hW0 1 (by decide) rfl rfl hg11 (x := (gI V0 1 ((68 : Int32) + i4).toNatClampNeg)) rfl dX9_points_44 ?_
    refine lv_i2l (pc := 45) hx hb dX9_points_45 rfl ?_
    refine lv_iload_n (pc := 46) hx hb dX9_points_46 rfl (lv_at hl 1 rfl) ?_
    refine lv_aload_n (pc := 47) hx hb dX9_points_47 rfl (lv_at hl 0 rfl) ?_
    obtain ⟨r12, hq13, hm⟩ := ob_some hm
    refine rk_PV (pc := 48) (As := []) (rest := [.int i1, .long (gI V0 1 ((68 : Int32) + i4).toNatClampNeg).toInt64, .long j2]) hx hb hml hown hts hK lkX9_89 rfl yn_X9_n (ct_X9_n (G := G) (l := l) (b0 := b0) hq13) ⟨Nat.le_of_ble_eq_true rfl, Nat.le_of_ble_eq_true rfl⟩ (rk_recv hK hW0 0 (by decide) rfl rfl rfl) (rg_take hW0 (by decide)) rfl rfl hl.1 (Nat.le_of_ble_eq_true rfl) dX9_points_48 ⟨Nat.zero_le _, Nat.zero_le _⟩ ?_
    refine W.eq (g2 := F0 m 51 ls [.int r12, .int i1, .long (gI V0 1 ((68 : Int32) + i4).toNatClampNeg).toInt64, .long j2]) rfl ?_
    refine lv_icmp_ne (pc := 51) (tgt := 63) hx hb dX9_points_51 (by decide) (fun c14 => ?_) (fun c14 => ?_)
    · have hm := ite_f c14 hm
      refine lv_aload_n (pc := 63) hx hb dX9_points_63 rfl (lv_at hl 0 rfl) ?_
      refine lv_iload (pc := 64) hx hb dX9_points_64 (lv_at hl 3 rfl) ?_
      refine lv_iload_n (pc := 66) hx hb dX9_points_66 rfl (lv_at hl 1 rfl) ?_
      obtain ⟨r15, hq16, hm⟩ := ob_some hm
      refine rk_PV (pc := 67) (As := [.int i4, .int i1]) (rest := [.long (gI V0 1 ((68 : Int32) + i4).toNatClampNeg).toInt64, .long j2]) hx hb hml hown hts hK lkX9_217 rfl yn_X9_pointOf (ct_X9_pointOf (G := G) (l := l) (b0 := b0) hq16) ⟨Nat.le_of_ble_eq_true rfl, Nat.le_of_ble_eq_true rfl⟩ (rk_recv hK hW0 0 (by decide) rfl rfl rfl) (rg_take hW0 (by decide)) rfl rfl hl.1 (Nat.le_of_ble_eq_true rfl) dX9_points_67 ⟨Nat.zero_le _, Nat.zero_le _⟩ ?_
      refine W.eq (g2 := F0 m 70 ls [.long r15, .long (gI V0 1 ((68 : Int32) + i4).toNatClampNeg).toInt64, .long j2]) rfl ?_
      refine lv_lmul (pc := 70) hx hb dX9_points_70 ?_
      refine lv_ladd (pc := 71) hx hb dX9_points_71 ?_
      refine lv_lstore_n (pc := 72) (lv' := [(2, .long (j2 + ((gI V0 1 ((68 : Int32) + i4).toNatClampNeg).toInt64 * r15))), (0, .ref b0), (1, .int i1), (4, .int i4)]) hx hb dX9_points_72 rfl hl (by decide) rfl (fun ls hl => ?_)
      refine lv_iinc (pc := 73) (v := (i4 + (1 : Int32))) (lv' := [(4, .int (i4 + (1 : Int32))), (2, .long (j2 + ((gI V0 1 ((68 : Int32) + i4).toNatClampNeg).toInt64 * r15))), (0, .ref b0), (1, .int i1)]) hx hb dX9_points_73 hl (k := 3) rfl rfl (by decide) rfl (fun ls hl => ?_)
      refine lv_goto (pc := 76) (tgt := 23) hx hb dX9_points_76 (by decide) ?_
      exact hk23 i1 (j2 + ((gI V0 1 ((68 : Int32) + i4).toNatClampNeg).toInt64 * r15)) (i4 + (1 : Int32)) hm ls (lv_sub hl [2, 3, 1, 0] rfl)
    · have hm := ite_t c14 hm
      refine lv_aload_n (pc := 54) hx hb dX9_points_54 rfl (lv_at hl 0 rfl) ?_
      refine lv_iload (pc := 55) hx hb dX9_points_55 (lv_at hl 3 rfl) ?_
      obtain ⟨r17, hq18, hm⟩ := ob_some hm
      refine rk_PV (pc := 57) (As := [.int i4]) (rest := [.long (gI V0 1 ((68 : Int32) + i4).toNatClampNeg).toInt64, .long j2]) hx hb hml hown hts hK lkX9_209 rfl yn_X9_limitOf (ct_X9_limitOf (G := G) (l := l) (b0 := b0) hq18) ⟨Nat.le_of_ble_eq_true rfl, Nat.le_of_ble_eq_true rfl⟩ (rk_recv hK hW0 0 (by decide) rfl rfl rfl) (rg_take hW0 (by decide)) rfl rfl hl.1 (Nat.le_of_ble_eq_true rfl) dX9_points_57 ⟨Nat.zero_le _, Nat.zero_le _⟩ ?_
      refine W.eq (g2 := F0 m 60 ls [.long r17, .long (gI V0 1 ((68 : Int32) + i4).toNatClampNeg).toInt64, .long j2]) rfl ?_
      refine lv_goto (pc := 60) (tgt := 70) hx hb dX9_points_60 (by decide) ?_
      refine lv_lmul (pc := 70) hx hb dX9_points_70 ?_
      refine lv_ladd (pc := 71) hx hb dX9_points_71 ?_
      refine lv_lstore_n (pc := 72) (lv' := [(2, .long (j2 + ((gI V0 1 ((68 : Int32) + i4).toNatClampNeg).toInt64 * r17))), (0, .ref b0), (1, .int i1), (4, .int i4)]) hx hb dX9_points_72 rfl hl (by decide) rfl (fun ls hl => ?_)
      refine lv_iinc (pc := 73) (v := (i4 + (1 : Int32))) (lv' := [(4, .int (i4 + (1 : Int32))), (2, .long (j2 + ((gI V0 1 ((68 : Int32) + i4).toNatClampNeg).toInt64 * r17))), (0, .ref b0), (1, .int i1)]) hx hb dX9_points_73 hl (k := 3) rfl rfl (by decide) rfl (fun ls hl => ?_)
      refine lv_goto (pc := 76) (tgt := 23) hx hb dX9_points_76 (by decide) ?_
      exact hk23 i1 (j2 + ((gI V0 1 ((68 : Int32) + i4).toNatClampNeg).toInt64 * r17)) (i4 + (1 : Int32)) hm ls (lv_sub hl [2, 3, 1, 0] rfl)
theorem w_fX9_points_23_l (C : Cx G p s m args meth c RX9 cX9_points 5 (some .long)) {b0 : Nat} {V0 : Mem} {rx : Int64} (hW0 : rg G b0 46 (shX9 G.2.1) V0 s.heap) : ∀ (n : Nat) (i1 : Int32) (j2 : Int64) (i4 : Int32), lq3 (fX9_points_23 V0) n i1 j2 i4 = some rx → ∀ (ls : Array Slot), lv_has ls 5 [(0, .ref b0), (1, .int i1), (2, .long j2), (4, .int i4)] → W p l e (rmP 2 47) s m args below meth c s.heap [] 0 0 (MQ below (QcP (some (.long rx))) args s 0 0 (fun _ => False)) (F0 m 23 ls []) := by
  intro n
  induction n with
  | zero => intro i1 j2 i4 hm; exact (lq3_0 hm).elim
  | succ n ih => intro i1 j2 i4 hm; exact w_fX9_points_23 C hW0 ih i1 j2 i4 (lq3_s hm)
set_option maxHeartbeats 4000000 in
theorem w_fX9_points (C : Cx G p s m args meth c RX9 cX9_points 5 (some .long)) {b0 : Nat} {V0 : Mem} {rx : Int64} (hW0 : rg G b0 46 (shX9 G.2.1) V0 s.heap) : ∀ (i1 : Int32), fX9_points V0 i1 = some rx → ∀ (ls : Array Slot), lv_has ls 5 [(0, .ref b0), (1, .int i1)] → W p l e (rmP 2 47) s m args below meth c s.heap [] 0 0 (MQ below (QcP (some (.long rx))) args s 0 0 (fun _ => False)) (F0 m 0 ls []) := by
  intro i1 hm ls hl
  obtain ⟨hx, hb, hr, hlk, hml, hown, hts, hK⟩ := id C
  unfold fX9_points at hm
  refine lv_iload_n (pc := 0) hx hb dX9_points_0 rfl (lv_at hl 1 rfl) ?_
  refine lv_i2l (pc := 1) hx hb dX9_points_1 rfl ?_
  refine lv_lconst (pc := 2) (v := (0 : Int64)) hx hb dX9_points_2 (by decide) ?_
  refine lv_aload_n (pc := 3) hx hb dX9_points_3 rfl (lv_at hl 0 rfl) ?_
  obtain ⟨r1, hq2, hm⟩ := ob_some hm
  refine rk_PV (pc := 4) (As := []) (rest := [.long (0 : Int64), .long i1.toInt64]) hx hb hml hown hts hK lkX9_89 rfl yn_X9_n (ct_X9_n (G := G) (l := l) (b0 := b0) hq2) ⟨Nat.le_of_ble_eq_true rfl, Nat.le_of_ble_eq_true rfl⟩ (rk_recv hK hW0 0 (by decide) rfl rfl rfl) (rg_take hW0 (by decide)) rfl rfl hl.1 (Nat.le_of_ble_eq_true rfl) dX9_points_4 ⟨Nat.zero_le _, Nat.zero_le _⟩ ?_
  refine W.eq (g2 := F0 m 7 ls [.int r1, .long (0 : Int64), .long i1.toInt64]) rfl ?_
  refine lv_i2l (pc := 7) hx hb dX9_points_7 rfl ?_
  obtain ⟨r3, hq4, hm⟩ := ob_some hm
  refine rk_PS (pc := 8) (As := [.long i1.toInt64, .long (0 : Int64), .long r1.toInt64]) (rest := []) hx hb hml hown hts hK lkX9_93 yn_X9_isIn (ct_X9_isIn (G := G) (l := l) hq4) ⟨Nat.le_of_ble_eq_true rfl, Nat.le_of_ble_eq_true rfl⟩ trivial rfl rfl hl.1 (Nat.le_of_ble_eq_true rfl) dX9_points_8 ⟨Nat.zero_le _, Nat.zero_le _⟩ ?_
  refine W.eq (g2 := F0 m 11 ls [.int r3]) rfl ?_
  refine lv_if_ne (pc := 11) (tgt := 18) hx hb dX9_points_11 (by decide) (fun c5 => ?_) (fun c5 => ?_)
  · have hm := ite_f c5 hm
    refine lv_lconst (pc := 18) (v := (0 : Int64)) hx hb dX9_points_18 (by decide) ?_
    refine lv_lstore_n (pc := 19) (lv' := [(2, .long (0 : Int64)), (0, .ref b0), (1, .int i1)]) hx hb dX9_points_19 rfl hl (by decide) rfl (fun ls hl => ?_)
    refine lv_iconst (pc := 20) (v := (0 : Int32)) hx hb dX9_points_20 (by decide) ?_
    refine lv_istore (pc := 21) (lv' := [(4, .int (0 : Int32)), (2, .long (0 : Int64)), (0, .ref b0), (1, .int i1)]) hx hb dX9_points_21 hl (by decide) rfl (fun ls hl => ?_)
    exact (w_fX9_points_23_l C hW0 FU) i1 (0 : Int64) (0 : Int32) hm ls (lv_sub hl [2, 3, 1, 0] rfl)
  · have hm := ite_t c5 hm
    refine lv_ldc2 (pc := 14) (v := (-9223372036854775808 : Int64)) hx hb hown (hts _ q2101) dX9_points_14 ?_
    have e9 := rs1 hm
    subst e9
    exact rk_lretP (pc := 17) hx hb hr hlk rfl dX9_points_17
set_option maxHeartbeats 4000000 in
theorem ct_X9_points {G : Gv} {l : Launch} {b0 : Nat} {V0 : Mem} {i1 : Int32} {rx : Int64} (hm : fX9_points V0 i1 = some rx) : CP G l yX9_points (ws_ yX9_points cX9_points 5 (some .long)) 2 47 [.ref b0, .int i1] (fun H => rg G b0 46 (shX9 G.2.1) V0 H) (some (.long rx)) := by
  refine Met.ofW (cc := cX9_points) (maxL := 5) (ret := (some .long)) (by decide +kernel) rfl ?_
  intro p e s m args below meth c s₁ B hml hv
  obtain ⟨rfl, hW0, hK⟩ := hv
  have hts := atoms_spec (ws := ws_ yX9_points cX9_points 5 (some .long)) B.pre
  have hts : ∀ w ∈ lw_all, w.before _ s = true := fun w h => hts w (List.mem_cons_of_mem _ h)
  have C : Cx G p s m _ meth c RX9 cX9_points 5 (some .long) := ⟨B.exec, B.bytes, B.returns, B.notSynchronized, hml, findClass_of_methodNamed B.named, hts, hK⟩
  have hl := lv_entry ([.ref b0, .int i1]) (n := 5) (Nat.le_of_ble_eq_true rfl)
  rw [lg_entry_eq]
  generalize (lg_sl ([.ref b0, .int i1]) ++ List.replicate (5 - (lg_sl ([.ref b0, .int i1])).length) Slot.unset).toArray = ls at hl ⊢
  have hl : lv_has ls 5 [(0, .ref b0), (1, .int i1)] := hl
  exact w_fX9_points C hW0 _ hm ls hl
theorem yn_X9_points : YN yX9_points 1 := by
  unfold YN
  decide +kernel
theorem lkX9_337 : LV RX9 337 RX9 yX9_points cX9_points 5 (some .long) := ⟨q2171, q2160, q2161, q128, q2162⟩
noncomputable def fX9_bites_17 (V0 : Mem) (k17 : Int64 → Int32 → Option (Int32)) (j1 : Int64) (i3 : Int32) : Option (Int32) :=
  ob (fX9_n V0) fun r2 =>
  if r2 ≤ i3 then (
  ob (fX9_n V0) fun r5 =>
  ob (fX9_points V0 r5) fun r7 =>
  if j1 ≤ (r7 * (gL V0 6 13)) then (
  some (0 : Int32))
  else (
  some (1 : Int32)))
  else (
  ob (fX9_points V0 i3) fun r10 =>
  ob (fX9_amountIn V0 (shf V0 6) i3) fun r12 =>
  k17 (j1 + (r10 * r12)) (i3 + (1 : Int32)))
noncomputable def fX9_bites (V0 : Mem) : Option (Int32) :=
  if (gI V0 6 18) = 0 then (
  some (-3 : Int32))
  else (
  lq2 (fX9_bites_17 V0) FU (0 : Int64) (0 : Int32))
set_option maxHeartbeats 4000000 in
theorem w_fX9_bites_17 (C : Cx G p s m args meth c RX9 cX9_bites 4 (some .int)) {b0 : Nat} {V0 : Mem} {rx : Int32} (hW0 : rg G b0 46 (shX9 G.2.1) V0 s.heap) {k17 : Int64 → Int32 → Option (Int32)} (hk17 : ∀ (j1 : Int64) (i3 : Int32), k17 j1 i3 = some rx → ∀ (ls : Array Slot), lv_has ls 4 [(0, .ref b0), (1, .long j1), (3, .int i3)] → W p l e (rmP 3 71) s m args below meth c s.heap [] 0 0 (MQ below (QcP (some (.int rx))) args s 0 0 (fun _ => False)) (F0 m 17 ls [])) : ∀ (j1 : Int64) (i3 : Int32), fX9_bites_17 V0 k17 j1 i3 = some rx → ∀ (ls : Array Slot), lv_has ls 4 [(0, .ref b0), (1, .long j1), (3, .int i3)] → W p l e (rmP 3 71) s m args below meth c s.heap [] 0 0 (MQ below (QcP (some (.int rx))) args s 0 0 (fun _ => False)) (F0 m 17 ls []) := by
  intro j1 i3 hm ls hl
  obtain ⟨hx, hb, hr, hlk, hml, hown, hts, hK⟩ := id C
  unfold fX9_bites_17 at hm
  refine lv_iload_n (pc := 17) hx hb dX9_bites_17 rfl (lv_at hl 2 rfl) ?_
  refine lv_aload_n (pc := 18) hx hb dX9_bites_18 rfl (lv_at hl 0 rfl) ?_
  obtain ⟨r2, hq3, hm⟩ := ob_some hm
  refine rk_PV (pc := 19) (As := []) (rest := [.int i3]) hx hb hml hown hts hK lkX9_89 rfl yn_X9_n (ct_X9_n (G := G) (l := l) (b0 := b0) hq3) ⟨Nat.le_of_ble_eq_true rfl, Nat.le_of_ble_eq_true rfl⟩ (rk_recv hK hW0 0 (by decide) rfl rfl rfl) (rg_take hW0 (by decide)) rfl rfl hl.1 (Nat.le_of_ble_eq_true rfl) dX9_bites_19 ⟨Nat.zero_le _, Nat.zero_le _⟩ ?_
  refine W.eq (g2 := F0 m 22 ls [.int r2, .int i3]) rfl ?_
  refine lv_icmp_ge (pc := 22) (tgt := 49) hx hb dX9_bites_22 (by decide) (fun c4 => ?_) (fun c4 => ?_)
  · have hm := ite_t c4 hm
    refine lv_lload_n (pc := 49) hx hb dX9_bites_49 rfl (lv_at hl 1 rfl) ?_
    refine lv_aload_n (pc := 50) hx hb dX9_bites_50 rfl (lv_at hl 0 rfl) ?_
    refine lv_aload_n (pc := 51) hx hb dX9_bites_51 rfl (lv_at hl 0 rfl) ?_
    obtain ⟨r5, hq6, hm⟩ := ob_some hm
    refine rk_PV (pc := 52) (As := []) (rest := [.ref b0, .long j1]) hx hb hml hown hts hK lkX9_89 rfl yn_X9_n (ct_X9_n (G := G) (l := l) (b0 := b0) hq6) ⟨Nat.le_of_ble_eq_true rfl, Nat.le_of_ble_eq_true rfl⟩ (rk_recv hK hW0 0 (by decide) rfl rfl rfl) (rg_take hW0 (by decide)) rfl rfl hl.1 (Nat.le_of_ble_eq_true rfl) dX9_bites_52 ⟨Nat.zero_le _, Nat.zero_le _⟩ ?_
    refine W.eq (g2 := F0 m 55 ls [.int r5, .ref b0, .long j1]) rfl ?_
    obtain ⟨r7, hq8, hm⟩ := ob_some hm
    refine rk_PV (pc := 55) (As := [.int r5]) (rest := [.long j1]) hx hb hml hown hts hK lkX9_337 rfl yn_X9_points (ct_X9_points (G := G) (l := l) (b0 := b0) hq8) ⟨Nat.le_of_ble_eq_true rfl, Nat.le_of_ble_eq_true rfl⟩ (rk_recv hK hW0 0 (by decide) rfl rfl rfl) hW0 rfl rfl hl.1 (Nat.le_of_ble_eq_true rfl) dX9_bites_55 ⟨Nat.zero_le _, Nat.zero_le _⟩ ?_
    refine W.eq (g2 := F0 m 58 ls [.long r7, .long j1]) rfl ?_
    refine lv_aload_n (pc := 58) hx hb dX9_bites_58 rfl (lv_at hl 0 rfl) ?_
    refine rk_get (pc := 59) hx hb hts hown hK hW0 flX9_30 0 (by decide) rfl rfl (x := .ref (b0 + 6)) (by first | rfl | exact congrArg (fun z => some (Value.ref z)) (by omega)) dX9_bites_59 ?_
    refine rk_getN (pc := 62) hx hb hts hown hK hW0 fnX9_197 6 (by decide) rfl rfl (x := .long (gL V0 6 13)) rfl dX9_bites_62 ?_
    refine lv_lmul (pc := 65) hx hb dX9_bites_65 ?_
    refine rk_lcmp_le (pc := 66) (tgt := 74) hx hb dX9_bites_66 rfl dX9_bites_67 (by decide) (fun c9 => ?_) (fun c9 => ?_)
    · have hm := ite_t c9 hm
      refine lv_iconst (pc := 74) (v := (0 : Int32)) hx hb dX9_bites_74 (by decide) ?_
      have e9 := rs1 hm
      subst e9
      exact rk_iretP (pc := 75) hx hb hr hlk rfl dX9_bites_75
    · have hm := ite_f c9 hm
      refine lv_iconst (pc := 70) (v := (1 : Int32)) hx hb dX9_bites_70 (by decide) ?_
      refine lv_goto (pc := 71) (tgt := 75) hx hb dX9_bites_71 (by decide) ?_
      have e9 := rs1 hm
      subst e9
      exact rk_iretP (pc := 75) hx hb hr hlk rfl dX9_bites_75
  · have hm := ite_f c4 hm
    refine lv_lload_n (pc := 25) hx hb dX9_bites_25 rfl (lv_at hl 1 rfl) ?_
    refine lv_aload_n (pc := 26) hx hb dX9_bites_26 rfl (lv_at hl 0 rfl) ?_
    refine lv_iload_n (pc := 27) hx hb dX9_bites_27 rfl (lv_at hl 2 rfl) ?_
    obtain ⟨r10, hq11, hm⟩ := ob_some hm
    refine rk_PV (pc := 28) (As := [.int i3]) (rest := [.long j1]) hx hb hml hown hts hK lkX9_337 rfl yn_X9_points (ct_X9_points (G := G) (l := l) (b0 := b0) hq11) ⟨Nat.le_of_ble_eq_true rfl, Nat.le_of_ble_eq_true rfl⟩ (rk_recv hK hW0 0 (by decide) rfl rfl rfl) hW0 rfl rfl hl.1 (Nat.le_of_ble_eq_true rfl) dX9_bites_28 ⟨Nat.zero_le _, Nat.zero_le _⟩ ?_
    refine W.eq (g2 := F0 m 31 ls [.long r10, .long j1]) rfl ?_
    refine lv_aload_n (pc := 31) hx hb dX9_bites_31 rfl (lv_at hl 0 rfl) ?_
    refine lv_aload_n (pc := 32) hx hb dX9_bites_32 rfl (lv_at hl 0 rfl) ?_
    refine rk_get (pc := 33) hx hb hts hown hK hW0 flX9_30 0 (by decide) rfl rfl (x := .ref (b0 + 6)) (by first | rfl | exact congrArg (fun z => some (Value.ref z)) (by omega)) dX9_bites_33 ?_
    refine lv_iload_n (pc := 36) hx hb dX9_bites_36 rfl (lv_at hl 2 rfl) ?_
    obtain ⟨r12, hq13, hm⟩ := ob_some hm
    refine rk_PV (pc := 37) (As := [.ref (b0 + 6), .int i3]) (rest := [.long r10, .long j1]) hx hb hml hown hts hK lkX9_314 rfl yn_X9_amountIn (ct_X9_amountIn (G := G) (l := l) (b0 := b0) (b1 := (b0 + 6)) hq13) ⟨Nat.le_of_ble_eq_true rfl, Nat.le_of_ble_eq_true rfl⟩ (rk_recv hK hW0 0 (by decide) rfl rfl rfl) ⟨(rg_take hW0 (by decide)), (rg_sub hW0 rfl (by decide) (fun o ho x y z => shX9_n6 G.2.1 _ rfl o ho x y z))⟩ rfl rfl hl.1 (Nat.le_of_ble_eq_true rfl) dX9_bites_37 ⟨Nat.zero_le _, Nat.zero_le _⟩ ?_
    refine W.eq (g2 := F0 m 40 ls [.long r12, .long r10, .long j1]) rfl ?_
    refine lv_lmul (pc := 40) hx hb dX9_bites_40 ?_
    refine lv_ladd (pc := 41) hx hb dX9_bites_41 ?_
    refine lv_lstore_n (pc := 42) (lv' := [(1, .long (j1 + (r10 * r12))), (0, .ref b0), (3, .int i3)]) hx hb dX9_bites_42 rfl hl (by decide) rfl (fun ls hl => ?_)
    refine lv_iinc (pc := 43) (v := (i3 + (1 : Int32))) (lv' := [(3, .int (i3 + (1 : Int32))), (1, .long (j1 + (r10 * r12))), (0, .ref b0)]) hx hb dX9_bites_43 hl (k := 2) rfl rfl (by decide) rfl (fun ls hl => ?_)
    refine lv_goto (pc := 46) (tgt := 17) hx hb dX9_bites_46 (by decide) ?_
    exact hk17 (j1 + (r10 * r12)) (i3 + (1 : Int32)) hm ls (lv_sub hl [2, 1, 0] rfl)
theorem w_fX9_bites_17_l (C : Cx G p s m args meth c RX9 cX9_bites 4 (some .int)) {b0 : Nat} {V0 : Mem} {rx : Int32} (hW0 : rg G b0 46 (shX9 G.2.1) V0 s.heap) : ∀ (n : Nat) (j1 : Int64) (i3 : Int32), lq2 (fX9_bites_17 V0) n j1 i3 = some rx → ∀ (ls : Array Slot), lv_has ls 4 [(0, .ref b0), (1, .long j1), (3, .int i3)] → W p l e (rmP 3 71) s m args below meth c s.heap [] 0 0 (MQ below (QcP (some (.int rx))) args s 0 0 (fun _ => False)) (F0 m 17 ls []) := by
  intro n
  induction n with
  | zero => intro j1 i3 hm; exact (lq2_0 hm).elim
  | succ n ih => intro j1 i3 hm; exact w_fX9_bites_17 C hW0 ih j1 i3 (lq2_s hm)
set_option maxHeartbeats 4000000 in
theorem w_fX9_bites (C : Cx G p s m args meth c RX9 cX9_bites 4 (some .int)) {b0 : Nat} {V0 : Mem} {rx : Int32} (hW0 : rg G b0 46 (shX9 G.2.1) V0 s.heap) : fX9_bites V0 = some rx → ∀ (ls : Array Slot), lv_has ls 4 [(0, .ref b0)] → W p l e (rmP 3 71) s m args below meth c s.heap [] 0 0 (MQ below (QcP (some (.int rx))) args s 0 0 (fun _ => False)) (F0 m 0 ls []) := by
  intro hm ls hl
  obtain ⟨hx, hb, hr, hlk, hml, hown, hts, hK⟩ := id C
  unfold fX9_bites at hm
  refine lv_aload_n (pc := 0) hx hb dX9_bites_0 rfl (lv_at hl 0 rfl) ?_
  refine rk_get (pc := 1) hx hb hts hown hK hW0 flX9_30 0 (by decide) rfl rfl (x := .ref (b0 + 6)) (by first | rfl | exact congrArg (fun z => some (Value.ref z)) (by omega)) dX9_bites_1 ?_
  refine rk_getN (pc := 4) hx hb hts hown hK hW0 fnX9_85 6 (by decide) rfl rfl (x := .int (gI V0 6 18)) rfl dX9_bites_4 ?_
  refine lv_if_ne (pc := 7) (tgt := 13) hx hb dX9_bites_7 (by decide) (fun c1 => ?_) (fun c1 => ?_)
  · have hm := ite_f c1 hm
    refine lv_lconst (pc := 13) (v := (0 : Int64)) hx hb dX9_bites_13 (by decide) ?_
    refine lv_lstore_n (pc := 14) (lv' := [(1, .long (0 : Int64)), (0, .ref b0)]) hx hb dX9_bites_14 rfl hl (by decide) rfl (fun ls hl => ?_)
    refine lv_iconst (pc := 15) (v := (0 : Int32)) hx hb dX9_bites_15 (by decide) ?_
    refine lv_istore_n (pc := 16) (lv' := [(3, .int (0 : Int32)), (1, .long (0 : Int64)), (0, .ref b0)]) hx hb dX9_bites_16 rfl hl (by decide) rfl (fun ls hl => ?_)
    exact (w_fX9_bites_17_l C hW0 FU) (0 : Int64) (0 : Int32) hm ls (lv_sub hl [2, 1, 0] rfl)
  · have hm := ite_t c1 hm
    refine lv_bipush (pc := 10) (v := (-3 : Int32)) hx hb dX9_bites_10 (by decide) ?_
    have e9 := rs1 hm
    subst e9
    exact rk_iretP (pc := 12) hx hb hr hlk rfl dX9_bites_12
set_option maxHeartbeats 4000000 in
theorem ct_X9_bites {G : Gv} {l : Launch} {b0 : Nat} {V0 : Mem} {rx : Int32} (hm : fX9_bites V0  = some rx) : CP G l yX9_bites (ws_ yX9_bites cX9_bites 4 (some .int)) 3 71 [.ref b0] (fun H => rg G b0 46 (shX9 G.2.1) V0 H) (some (.int rx)) := by
  refine Met.ofW (cc := cX9_bites) (maxL := 4) (ret := (some .int)) (by decide +kernel) rfl ?_
  intro p e s m args below meth c s₁ B hml hv
  obtain ⟨rfl, hW0, hK⟩ := hv
  have hts := atoms_spec (ws := ws_ yX9_bites cX9_bites 4 (some .int)) B.pre
  have hts : ∀ w ∈ lw_all, w.before _ s = true := fun w h => hts w (List.mem_cons_of_mem _ h)
  have C : Cx G p s m _ meth c RX9 cX9_bites 4 (some .int) := ⟨B.exec, B.bytes, B.returns, B.notSynchronized, hml, findClass_of_methodNamed B.named, hts, hK⟩
  have hl := lv_entry ([.ref b0]) (n := 4) (Nat.le_of_ble_eq_true rfl)
  rw [lg_entry_eq]
  generalize (lg_sl ([.ref b0]) ++ List.replicate (4 - (lg_sl ([.ref b0])).length) Slot.unset).toArray = ls at hl ⊢
  have hl : lv_has ls 4 [(0, .ref b0)] := hl
  exact w_fX9_bites C hW0  hm ls hl
noncomputable def fX9_codes_4 (V0 : Mem) (k4 : Int32 → Int32 → Option (Int32)) (i1 : Int32) (i2 : Int32) : Option (Int32) :=
  ob (fX9_n V0) fun r1 =>
  if r1 ≤ i2 then (
  some i1)
  else (
  k4 (i1 * (10 : Int32)) (i2 + (1 : Int32)))
noncomputable def fX9_codes (V0 : Mem) : Option (Int32) :=
  lq2 (fX9_codes_4 V0) FU (1 : Int32) (0 : Int32)
set_option maxHeartbeats 4000000 in
theorem w_fX9_codes_4 (C : Cx G p s m args meth c RX9 cX9_codes 3 (some .int)) {b0 : Nat} {V0 : Mem} {rx : Int32} (hW0 : rg G b0 46 (shX9 G.2.1) V0 s.heap) {k4 : Int32 → Int32 → Option (Int32)} (hk4 : ∀ (i1 : Int32) (i2 : Int32), k4 i1 i2 = some rx → ∀ (ls : Array Slot), lv_has ls 3 [(0, .ref b0), (1, .int i1), (2, .int i2)] → W p l e (rmP 1 20) s m args below meth c s.heap [] 0 0 (MQ below (QcP (some (.int rx))) args s 0 0 (fun _ => False)) (F0 m 4 ls [])) : ∀ (i1 : Int32) (i2 : Int32), fX9_codes_4 V0 k4 i1 i2 = some rx → ∀ (ls : Array Slot), lv_has ls 3 [(0, .ref b0), (1, .int i1), (2, .int i2)] → W p l e (rmP 1 20) s m args below meth c s.heap [] 0 0 (MQ below (QcP (some (.int rx))) args s 0 0 (fun _ => False)) (F0 m 4 ls []) := by
  intro i1 i2 hm ls hl
  obtain ⟨hx, hb, hr, hlk, hml, hown, hts, hK⟩ := id C
  unfold fX9_codes_4 at hm
  refine lv_iload_n (pc := 4) hx hb dX9_codes_4 rfl (lv_at hl 2 rfl) ?_
  refine lv_aload_n (pc := 5) hx hb dX9_codes_5 rfl (lv_at hl 0 rfl) ?_
  obtain ⟨r1, hq2, hm⟩ := ob_some hm
  refine rk_PV (pc := 6) (As := []) (rest := [.int i2]) hx hb hml hown hts hK lkX9_89 rfl yn_X9_n (ct_X9_n (G := G) (l := l) (b0 := b0) hq2) ⟨Nat.le_of_ble_eq_true rfl, Nat.le_of_ble_eq_true rfl⟩ (rk_recv hK hW0 0 (by decide) rfl rfl rfl) (rg_take hW0 (by decide)) rfl rfl hl.1 (Nat.le_of_ble_eq_true rfl) dX9_codes_6 ⟨Nat.zero_le _, Nat.zero_le _⟩ ?_
  refine W.eq (g2 := F0 m 9 ls [.int r1, .int i2]) rfl ?_
  refine lv_icmp_ge (pc := 9) (tgt := 23) hx hb dX9_codes_9 (by decide) (fun c3 => ?_) (fun c3 => ?_)
  · have hm := ite_t c3 hm
    refine lv_iload_n (pc := 23) hx hb dX9_codes_23 rfl (lv_at hl 1 rfl) ?_
    have e9 := rs1 hm
    subst e9
    exact rk_iretP (pc := 24) hx hb hr hlk rfl dX9_codes_24
  · have hm := ite_f c3 hm
    refine lv_iload_n (pc := 12) hx hb dX9_codes_12 rfl (lv_at hl 1 rfl) ?_
    refine lv_bipush (pc := 13) (v := (10 : Int32)) hx hb dX9_codes_13 (by decide) ?_
    refine lv_imul (pc := 15) hx hb dX9_codes_15 ?_
    refine lv_istore_n (pc := 16) (lv' := [(1, .int (i1 * (10 : Int32))), (0, .ref b0), (2, .int i2)]) hx hb dX9_codes_16 rfl hl (by decide) rfl (fun ls hl => ?_)
    refine lv_iinc (pc := 17) (v := (i2 + (1 : Int32))) (lv' := [(2, .int (i2 + (1 : Int32))), (1, .int (i1 * (10 : Int32))), (0, .ref b0)]) hx hb dX9_codes_17 hl (k := 2) rfl rfl (by decide) rfl (fun ls hl => ?_)
    refine lv_goto (pc := 20) (tgt := 4) hx hb dX9_codes_20 (by decide) ?_
    exact hk4 (i1 * (10 : Int32)) (i2 + (1 : Int32)) hm ls (lv_sub hl [2, 1, 0] rfl)
theorem w_fX9_codes_4_l (C : Cx G p s m args meth c RX9 cX9_codes 3 (some .int)) {b0 : Nat} {V0 : Mem} {rx : Int32} (hW0 : rg G b0 46 (shX9 G.2.1) V0 s.heap) : ∀ (n : Nat) (i1 : Int32) (i2 : Int32), lq2 (fX9_codes_4 V0) n i1 i2 = some rx → ∀ (ls : Array Slot), lv_has ls 3 [(0, .ref b0), (1, .int i1), (2, .int i2)] → W p l e (rmP 1 20) s m args below meth c s.heap [] 0 0 (MQ below (QcP (some (.int rx))) args s 0 0 (fun _ => False)) (F0 m 4 ls []) := by
  intro n
  induction n with
  | zero => intro i1 i2 hm; exact (lq2_0 hm).elim
  | succ n ih => intro i1 i2 hm; exact w_fX9_codes_4 C hW0 ih i1 i2 (lq2_s hm)
set_option maxHeartbeats 4000000 in
theorem w_fX9_codes (C : Cx G p s m args meth c RX9 cX9_codes 3 (some .int)) {b0 : Nat} {V0 : Mem} {rx : Int32} (hW0 : rg G b0 46 (shX9 G.2.1) V0 s.heap) : fX9_codes V0 = some rx → ∀ (ls : Array Slot), lv_has ls 3 [(0, .ref b0)] → W p l e (rmP 1 20) s m args below meth c s.heap [] 0 0 (MQ below (QcP (some (.int rx))) args s 0 0 (fun _ => False)) (F0 m 0 ls []) := by
  intro hm ls hl
  obtain ⟨hx, hb, hr, hlk, hml, hown, hts, hK⟩ := id C
  unfold fX9_codes at hm
  refine lv_iconst (pc := 0) (v := (1 : Int32)) hx hb dX9_codes_0 (by decide) ?_
  refine lv_istore_n (pc := 1) (lv' := [(1, .int (1 : Int32)), (0, .ref b0)]) hx hb dX9_codes_1 rfl hl (by decide) rfl (fun ls hl => ?_)
  refine lv_iconst (pc := 2) (v := (0 : Int32)) hx hb dX9_codes_2 (by decide) ?_
  refine lv_istore_n (pc := 3) (lv' := [(2, .int (0 : Int32)), (1, .int (1 : Int32)), (0, .ref b0)]) hx hb dX9_codes_3 rfl hl (by decide) rfl (fun ls hl => ?_)
  exact (w_fX9_codes_4_l C hW0 FU) (1 : Int32) (0 : Int32) hm ls (lv_sub hl [2, 1, 0] rfl)
set_option maxHeartbeats 4000000 in
theorem ct_X9_codes {G : Gv} {l : Launch} {b0 : Nat} {V0 : Mem} {rx : Int32} (hm : fX9_codes V0  = some rx) : CP G l yX9_codes (ws_ yX9_codes cX9_codes 3 (some .int)) 1 20 [.ref b0] (fun H => rg G b0 46 (shX9 G.2.1) V0 H) (some (.int rx)) := by
  refine Met.ofW (cc := cX9_codes) (maxL := 3) (ret := (some .int)) (by decide +kernel) rfl ?_
  intro p e s m args below meth c s₁ B hml hv
  obtain ⟨rfl, hW0, hK⟩ := hv
  have hts := atoms_spec (ws := ws_ yX9_codes cX9_codes 3 (some .int)) B.pre
  have hts : ∀ w ∈ lw_all, w.before _ s = true := fun w h => hts w (List.mem_cons_of_mem _ h)
  have C : Cx G p s m _ meth c RX9 cX9_codes 3 (some .int) := ⟨B.exec, B.bytes, B.returns, B.notSynchronized, hml, findClass_of_methodNamed B.named, hts, hK⟩
  have hl := lv_entry ([.ref b0]) (n := 3) (Nat.le_of_ble_eq_true rfl)
  rw [lg_entry_eq]
  generalize (lg_sl ([.ref b0]) ++ List.replicate (3 - (lg_sl ([.ref b0])).length) Slot.unset).toArray = ls at hl ⊢
  have hl : lv_has ls 3 [(0, .ref b0)] := hl
  exact w_fX9_codes C hW0  hm ls hl
theorem yn_X9_codes : YN yX9_codes 0 := by
  unfold YN
  decide +kernel
theorem lkX9_340 : LV RX9 340 RX9 yX9_codes cX9_codes 3 (some .int) := ⟨q2215, q2217, qs94, q128, q2218⟩
noncomputable def fX9_isCode (V0 : Mem) (i1 : Int32) : Option (Int32) :=
  ob (fX9_codes V0) fun r1 =>
  ob (fX9_isIn i1.toInt64 (0 : Int64) (r1 - (1 : Int32)).toInt64) fun r3 =>
  gb (z01 r3) (some r3)
set_option maxHeartbeats 4000000 in
theorem w_fX9_isCode (C : Cx G p s m args meth c RX9 cX9_isCode 2 (some .boolean)) {b0 : Nat} {V0 : Mem} {rx : Int32} (hW0 : rg G b0 46 (shX9 G.2.1) V0 s.heap) : ∀ (i1 : Int32), fX9_isCode V0 i1 = some rx → ∀ (ls : Array Slot), lv_has ls 2 [(0, .ref b0), (1, .int i1)] → W p l e (rmP 2 42) s m args below meth c s.heap [] 0 0 (MQ below (QcP (some (.int rx))) args s 0 0 (fun _ => False)) (F0 m 0 ls []) := by
  intro i1 hm ls hl
  obtain ⟨hx, hb, hr, hlk, hml, hown, hts, hK⟩ := id C
  unfold fX9_isCode at hm
  refine lv_iload_n (pc := 0) hx hb dX9_isCode_0 rfl (lv_at hl 1 rfl) ?_
  refine lv_i2l (pc := 1) hx hb dX9_isCode_1 rfl ?_
  refine lv_lconst (pc := 2) (v := (0 : Int64)) hx hb dX9_isCode_2 (by decide) ?_
  refine lv_aload_n (pc := 3) hx hb dX9_isCode_3 rfl (lv_at hl 0 rfl) ?_
  obtain ⟨r1, hq2, hm⟩ := ob_some hm
  refine rk_PV (pc := 4) (As := []) (rest := [.long (0 : Int64), .long i1.toInt64]) hx hb hml hown hts hK lkX9_340 rfl yn_X9_codes (ct_X9_codes (G := G) (l := l) (b0 := b0) hq2) ⟨Nat.le_of_ble_eq_true rfl, Nat.le_of_ble_eq_true rfl⟩ (rk_recv hK hW0 0 (by decide) rfl rfl rfl) hW0 rfl rfl hl.1 (Nat.le_of_ble_eq_true rfl) dX9_isCode_4 ⟨Nat.zero_le _, Nat.zero_le _⟩ ?_
  refine W.eq (g2 := F0 m 7 ls [.int r1, .long (0 : Int64), .long i1.toInt64]) rfl ?_
  refine lv_iconst (pc := 7) (v := (1 : Int32)) hx hb dX9_isCode_7 (by decide) ?_
  refine lv_isub (pc := 8) hx hb dX9_isCode_8 ?_
  refine lv_i2l (pc := 9) hx hb dX9_isCode_9 rfl ?_
  obtain ⟨r3, hq4, hm⟩ := ob_some hm
  refine rk_PS (pc := 10) (As := [.long i1.toInt64, .long (0 : Int64), .long (r1 - (1 : Int32)).toInt64]) (rest := []) hx hb hml hown hts hK lkX9_93 yn_X9_isIn (ct_X9_isIn (G := G) (l := l) hq4) ⟨Nat.le_of_ble_eq_true rfl, Nat.le_of_ble_eq_true rfl⟩ trivial rfl rfl hl.1 (Nat.le_of_ble_eq_true rfl) dX9_isCode_10 ⟨Nat.zero_le _, Nat.zero_le _⟩ ?_
  refine W.eq (g2 := F0 m 13 ls [.int r3]) rfl ?_
  obtain ⟨hg5, hm⟩ := gb_some hm
  have e9 := rs1 hm
  subst e9
  exact rk_zretP (pc := 13) hx hb hr hlk hg5 rfl dX9_isCode_13
set_option maxHeartbeats 4000000 in
theorem ct_X9_isCode {G : Gv} {l : Launch} {b0 : Nat} {V0 : Mem} {i1 : Int32} {rx : Int32} (hm : fX9_isCode V0 i1 = some rx) : CP G l yX9_isCode (ws_ yX9_isCode cX9_isCode 2 (some .boolean)) 2 42 [.ref b0, .int i1] (fun H => rg G b0 46 (shX9 G.2.1) V0 H) (some (.int rx)) := by
  refine Met.ofW (cc := cX9_isCode) (maxL := 2) (ret := (some .boolean)) (by decide +kernel) rfl ?_
  intro p e s m args below meth c s₁ B hml hv
  obtain ⟨rfl, hW0, hK⟩ := hv
  have hts := atoms_spec (ws := ws_ yX9_isCode cX9_isCode 2 (some .boolean)) B.pre
  have hts : ∀ w ∈ lw_all, w.before _ s = true := fun w h => hts w (List.mem_cons_of_mem _ h)
  have C : Cx G p s m _ meth c RX9 cX9_isCode 2 (some .boolean) := ⟨B.exec, B.bytes, B.returns, B.notSynchronized, hml, findClass_of_methodNamed B.named, hts, hK⟩
  have hl := lv_entry ([.ref b0, .int i1]) (n := 2) (Nat.le_of_ble_eq_true rfl)
  rw [lg_entry_eq]
  generalize (lg_sl ([.ref b0, .int i1]) ++ List.replicate (2 - (lg_sl ([.ref b0, .int i1])).length) Slot.unset).toArray = ls at hl ⊢
  have hl : lv_has ls 2 [(0, .ref b0), (1, .int i1)] := hl
  exact w_fX9_isCode C hW0 _ hm ls hl
theorem flX9_37 : FL RX9 37 9 11 RX9 TX9 29 := ⟨in_X9, rfl, by decide, q1838⟩
noncomputable def fX9_mixes_9 (k9 : Mem → Int32 → Int32 → Option (Mem)) (v0 : Mem) (i2 : Int32) (i3 : Int32) : Option (Mem) :=
  if i3 < 0 then (
  some v0)
  else (
  gb (nz32 (10 : Int32)) (
  gb (inR i3 5) (
  lm (sI v0 32 i3.toNatClampNeg (i2 - i2 / (10 : Int32) * (10 : Int32))) fun v0_6 =>
  gb (nz32 (10 : Int32)) (
  k9 v0_6 (i2 / (10 : Int32)) (i3 + (-1 : Int32))))))
noncomputable def fX9_mixes (v0 : Mem) (i1 : Int32) : Option (Mem) :=
  ob (fX9_n v0) fun r1 =>
  lq3 (fX9_mixes_9) FU v0 i1 (r1 - (1 : Int32))
set_option maxHeartbeats 4000000 in
theorem w_fX9_mixes_9 (C : Cx G p s m args meth c RX9 cX9_mixes 4 none) {b0 : Nat} {rw0 : Mem} {k9 : Mem → Int32 → Int32 → Option (Mem)} (hk9 : ∀ (v0 : Mem) (i2 : Int32) (i3 : Int32), k9 v0 i2 i3 = some rw0 → ∀ (H : Heap) (locs : List Loc) (ls : Array Slot), rg G b0 46 (shX9 G.2.1) v0 H → va_S (FA (iv b0 46) s.heap.size) s.heap H locs → H.size = s.heap.size → lv_has ls 4 [(0, .ref b0), (2, .int i2), (3, .int i3)] → W p l e (rmT 1 0 0 20) s m args below meth c H locs 0 0 (MQ below (QcT (FA (iv b0 46) s.heap.size) (fun ov H => ov = none ∧ rg G b0 46 (shX9 G.2.1) rw0 H ∧ H.size = s.heap.size)) args s 0 0 (FA (iv b0 46) s.heap.size)) (F0 m 9 ls [])) : ∀ (v0 : Mem) (i2 : Int32) (i3 : Int32), fX9_mixes_9 k9 v0 i2 i3 = some rw0 → ∀ (H : Heap) (locs : List Loc) (ls : Array Slot), rg G b0 46 (shX9 G.2.1) v0 H → va_S (FA (iv b0 46) s.heap.size) s.heap H locs → H.size = s.heap.size → lv_has ls 4 [(0, .ref b0), (2, .int i2), (3, .int i3)] → W p l e (rmT 1 0 0 20) s m args below meth c H locs 0 0 (MQ below (QcT (FA (iv b0 46) s.heap.size) (fun ov H => ov = none ∧ rg G b0 46 (shX9 G.2.1) rw0 H ∧ H.size = s.heap.size)) args s 0 0 (FA (iv b0 46) s.heap.size)) (F0 m 9 ls []) := by
  intro v0 i2 i3 hm H locs ls hW0 hS hz hl
  obtain ⟨hx, hb, hr, hlk, hml, hown, hts, hK⟩ := id C
  unfold fX9_mixes_9 at hm
  refine lv_iload_n (pc := 9) hx hb dX9_mixes_9 rfl (lv_at hl 2 rfl) ?_
  refine lv_if_lt (pc := 10) (tgt := 34) hx hb dX9_mixes_10 (by decide) (fun c3 => ?_) (fun c3 => ?_)
  · have hm := ite_t c3 hm
    have e9 := rs1 hm
    subst e9
    exact rk_vret (pc := 34) hx hb hr hlk hS ⟨rfl, hW0, hz⟩ dX9_mixes_34
  · have hm := ite_f c3 hm
    refine lv_aload_n (pc := 13) hx hb dX9_mixes_13 rfl (lv_at hl 0 rfl) ?_
    refine rk_get (pc := 14) hx hb hts hown hK hW0 flX9_37 0 (by decide) rfl rfl (x := .ref (b0 + 32)) (by first | rfl | exact congrArg (fun z => some (Value.ref z)) (by omega)) dX9_mixes_14 ?_
    refine lv_iload_n (pc := 17) hx hb dX9_mixes_17 rfl (lv_at hl 2 rfl) ?_
    refine lv_iload_n (pc := 18) hx hb dX9_mixes_18 rfl (lv_at hl 1 rfl) ?_
    refine lv_bipush (pc := 19) (v := (10 : Int32)) hx hb dX9_mixes_19 (by decide) ?_
    obtain ⟨hg4, hm⟩ := gb_some hm
    refine lv_irem (pc := 21) hx hb dX9_mixes_21 (nz32_ne hg4) ?_
    obtain ⟨hg5, hm⟩ := gb_some hm
    refine rk_iast (pc := 22) hx hb hK hW0 hS 32 (by decide) rfl (Or.inl (show iv _ _ _ from ⟨by omega, by omega⟩)) (fun _ _ _ => rfl) hg5 dX9_mixes_22 (fun H7 locs8 hW9 hS10 hz11 hkp12 => ?_)
    obtain ⟨v0_6, he9, hm⟩ := lm_some hm
    rw [he9] at hW9
    have hz13 := hz11.trans hz
    refine lv_iload_n (pc := 23) hx hb dX9_mixes_23 rfl (lv_at hl 1 rfl) ?_
    refine lv_bipush (pc := 24) (v := (10 : Int32)) hx hb dX9_mixes_24 (by decide) ?_
    obtain ⟨hg14, hm⟩ := gb_some hm
    refine lv_idiv (pc := 26) hx hb dX9_mixes_26 (nz32_ne hg14) ?_
    refine lv_istore_n (pc := 27) (lv' := [(2, .int (i2 / (10 : Int32))), (0, .ref b0), (3, .int i3)]) hx hb dX9_mixes_27 rfl hl (by decide) rfl (fun ls hl => ?_)
    refine lv_iinc (pc := 28) (v := (i3 + (-1 : Int32))) (lv' := [(3, .int (i3 + (-1 : Int32))), (2, .int (i2 / (10 : Int32))), (0, .ref b0)]) hx hb dX9_mixes_28 hl (k := 2) rfl (congrArg (i3 + ·) (show Int32.ofInt (-1) = (-1 : Int32) by decide)) (by decide) rfl (fun ls hl => ?_)
    refine lv_goto (pc := 31) (tgt := 9) hx hb dX9_mixes_31 (by decide) ?_
    exact hk9 v0_6 (i2 / (10 : Int32)) (i3 + (-1 : Int32)) hm H7 locs8 ls hW9 hS10 hz13 (lv_sub hl [2, 1, 0] rfl)
theorem w_fX9_mixes_9_l (C : Cx G p s m args meth c RX9 cX9_mixes 4 none) {b0 : Nat} {rw0 : Mem} : ∀ (n : Nat) (v0 : Mem) (i2 : Int32) (i3 : Int32), lq3 (fX9_mixes_9) n v0 i2 i3 = some rw0 → ∀ (H : Heap) (locs : List Loc) (ls : Array Slot), rg G b0 46 (shX9 G.2.1) v0 H → va_S (FA (iv b0 46) s.heap.size) s.heap H locs → H.size = s.heap.size → lv_has ls 4 [(0, .ref b0), (2, .int i2), (3, .int i3)] → W p l e (rmT 1 0 0 20) s m args below meth c H locs 0 0 (MQ below (QcT (FA (iv b0 46) s.heap.size) (fun ov H => ov = none ∧ rg G b0 46 (shX9 G.2.1) rw0 H ∧ H.size = s.heap.size)) args s 0 0 (FA (iv b0 46) s.heap.size)) (F0 m 9 ls []) := by
  intro n
  induction n with
  | zero => intro v0 i2 i3 hm; exact (lq3_0 hm).elim
  | succ n ih => intro v0 i2 i3 hm; exact w_fX9_mixes_9 C ih v0 i2 i3 (lq3_s hm)
set_option maxHeartbeats 4000000 in
theorem w_fX9_mixes (C : Cx G p s m args meth c RX9 cX9_mixes 4 none) {b0 : Nat} {rw0 : Mem} : ∀ (v0 : Mem) (i1 : Int32), fX9_mixes v0 i1 = some rw0 → ∀ (H : Heap) (locs : List Loc) (ls : Array Slot), rg G b0 46 (shX9 G.2.1) v0 H → va_S (FA (iv b0 46) s.heap.size) s.heap H locs → H.size = s.heap.size → lv_has ls 4 [(0, .ref b0), (1, .int i1)] → W p l e (rmT 1 0 0 20) s m args below meth c H locs 0 0 (MQ below (QcT (FA (iv b0 46) s.heap.size) (fun ov H => ov = none ∧ rg G b0 46 (shX9 G.2.1) rw0 H ∧ H.size = s.heap.size)) args s 0 0 (FA (iv b0 46) s.heap.size)) (F0 m 0 ls []) := by
  intro v0 i1 hm H locs ls hW0 hS hz hl
  obtain ⟨hx, hb, hr, hlk, hml, hown, hts, hK⟩ := id C
  unfold fX9_mixes at hm
  refine lv_iload_n (pc := 0) hx hb dX9_mixes_0 rfl (lv_at hl 1 rfl) ?_
  refine lv_istore_n (pc := 1) (lv' := [(2, .int i1), (0, .ref b0), (1, .int i1)]) hx hb dX9_mixes_1 rfl hl (by decide) rfl (fun ls hl => ?_)
  refine lv_aload_n (pc := 2) hx hb dX9_mixes_2 rfl (lv_at hl 1 rfl) ?_
  obtain ⟨r1, hq2, hm⟩ := ob_some hm
  refine rk_PV (pc := 3) (As := []) (rest := []) hx hb hml hown hts hK lkX9_89 rfl yn_X9_n (ct_X9_n (G := G) (l := l) (b0 := b0) hq2) ⟨Nat.le_of_ble_eq_true rfl, Nat.le_of_ble_eq_true rfl⟩ (rk_recv hK hW0 0 (by decide) rfl rfl rfl) (rg_take hW0 (by decide)) rfl rfl hl.1 (Nat.le_of_ble_eq_true rfl) dX9_mixes_3 ⟨Nat.zero_le _, Nat.zero_le _⟩ ?_
  refine W.eq (g2 := F0 m 6 ls [.int r1]) rfl ?_
  refine lv_iconst (pc := 6) (v := (1 : Int32)) hx hb dX9_mixes_6 (by decide) ?_
  refine lv_isub (pc := 7) hx hb dX9_mixes_7 ?_
  refine lv_istore_n (pc := 8) (lv' := [(3, .int (r1 - (1 : Int32))), (2, .int i1), (0, .ref b0), (1, .int i1)]) hx hb dX9_mixes_8 rfl hl (by decide) rfl (fun ls hl => ?_)
  exact (w_fX9_mixes_9_l C FU) v0 i1 (r1 - (1 : Int32)) hm H locs ls hW0 hS hz (lv_sub hl [2, 1, 0] rfl)
set_option maxHeartbeats 4000000 in
theorem ct_X9_mixes {G : Gv} {l : Launch} {b0 : Nat} {v0 : Mem} {i1 : Int32} {rw0 : Mem} {sz : Nat} (hm : fX9_mixes v0 i1 = some rw0) : CT G l yX9_mixes (ws_ yX9_mixes cX9_mixes 4 none) 1 0 0 20 [.ref b0, .int i1] (iv b0 46) sz (fun H => rg G b0 46 (shX9 G.2.1) v0 H) (fun ov H => ov = none ∧ rg G b0 46 (shX9 G.2.1) rw0 H ∧ H.size = sz) := by
  refine Met.ofW (cc := cX9_mixes) (maxL := 4) (ret := none) (by decide +kernel) rfl ?_
  intro p e s m args below meth c s₁ B hml hv
  obtain ⟨rfl, ⟨hz, hW0⟩, hK⟩ := hv
  subst hz
  have hts := atoms_spec (ws := ws_ yX9_mixes cX9_mixes 4 none) B.pre
  have hts : ∀ w ∈ lw_all, w.before _ s = true := fun w h => hts w (List.mem_cons_of_mem _ h)
  have C : Cx G p s m _ meth c RX9 cX9_mixes 4 none := ⟨B.exec, B.bytes, B.returns, B.notSynchronized, hml, findClass_of_methodNamed B.named, hts, hK⟩
  have hl := lv_entry ([.ref b0, .int i1]) (n := 4) (Nat.le_of_ble_eq_true rfl)
  rw [lg_entry_eq]
  generalize (lg_sl ([.ref b0, .int i1]) ++ List.replicate (4 - (lg_sl ([.ref b0, .int i1])).length) Slot.unset).toArray = ls at hl ⊢
  have hl : lv_has ls 4 [(0, .ref b0), (1, .int i1)] := hl
  exact w_fX9_mixes C _ _ hm s.heap [] ls hW0 va_S.rf rfl hl
theorem yn_X9_mixes : YN yX9_mixes 1 := by
  unfold YN
  decide +kernel
theorem lkX9_343 : LV RX9 343 RX9 yX9_mixes cX9_mixes 4 none := ⟨q2186, q2188, qs89, q128, q2189⟩
noncomputable def fX9_costOf_9 (k9 : Mem → Int32 → Int32 → Option (Int32 × Mem)) (v0 : Mem) (i2 : Int32) (i3 : Int32) : Option (Int32 × Mem) :=
  ob (fX9_n v0) fun r11 =>
  if r11 ≤ i3 then (
  some (i2, v0))
  else (
  gb (inR ((7 : Int32) + i3) 150) (
  gb (inR i3 5) (
  k9 v0 (i2 + ((gI v0 1 ((7 : Int32) + i3).toNatClampNeg) * (gI v0 32 i3.toNatClampNeg))) (i3 + (1 : Int32)))))
noncomputable def fX9_costOf (v0 : Mem) (i1 : Int32) : Option (Int32 × Mem) :=
  ob (fX9_mixes v0 i1) fun w1 =>
  lq3 (fX9_costOf_9) FU w1 (0 : Int32) (0 : Int32)
set_option maxHeartbeats 4000000 in
theorem w_fX9_costOf_9 (C : Cx G p s m args meth c RX9 cX9_costOf 4 (some .int)) {b0 : Nat} {rx : Int32} {rw0 : Mem} {k9 : Mem → Int32 → Int32 → Option (Int32 × Mem)} (hk9 : ∀ (v0 : Mem) (i2 : Int32) (i3 : Int32), k9 v0 i2 i3 = some (rx, rw0) → ∀ (H : Heap) (locs : List Loc) (ls : Array Slot), rg G b0 46 (shX9 G.2.1) v0 H → va_S (FA (iv b0 46) s.heap.size) s.heap H locs → H.size = s.heap.size → lv_has ls 4 [(0, .ref b0), (2, .int i2), (3, .int i3)] → W p l e (rmT 2 0 0 43) s m args below meth c H locs 0 0 (MQ below (QcT (FA (iv b0 46) s.heap.size) (fun ov H => ov = (some (.int rx)) ∧ rg G b0 46 (shX9 G.2.1) rw0 H ∧ H.size = s.heap.size)) args s 0 0 (FA (iv b0 46) s.heap.size)) (F0 m 9 ls [])) : ∀ (v0 : Mem) (i2 : Int32) (i3 : Int32), fX9_costOf_9 k9 v0 i2 i3 = some (rx, rw0) → ∀ (H : Heap) (locs : List Loc) (ls : Array Slot), rg G b0 46 (shX9 G.2.1) v0 H → va_S (FA (iv b0 46) s.heap.size) s.heap H locs → H.size = s.heap.size → lv_has ls 4 [(0, .ref b0), (2, .int i2), (3, .int i3)] → W p l e (rmT 2 0 0 43) s m args below meth c H locs 0 0 (MQ below (QcT (FA (iv b0 46) s.heap.size) (fun ov H => ov = (some (.int rx)) ∧ rg G b0 46 (shX9 G.2.1) rw0 H ∧ H.size = s.heap.size)) args s 0 0 (FA (iv b0 46) s.heap.size)) (F0 m 9 ls []) := by
  intro v0 i2 i3 hm H locs ls hW0 hS hz hl
  obtain ⟨hx, hb, hr, hlk, hml, hown, hts, hK⟩ := id C
  unfold fX9_costOf_9 at hm
  refine lv_iload_n (pc := 9) hx hb dX9_costOf_9 rfl (lv_at hl 2 rfl) ?_
  refine lv_aload_n (pc := 10) hx hb dX9_costOf_10 rfl (lv_at hl 0 rfl) ?_
  obtain ⟨r11, hq12, hm⟩ := ob_some hm
  refine rk_PV (pc := 11) (As := []) (rest := [.int i3]) hx hb hml hown hts hK lkX9_89 rfl yn_X9_n (ct_X9_n (G := G) (l := l) (b0 := b0) hq12) ⟨Nat.le_of_ble_eq_true rfl, Nat.le_of_ble_eq_true rfl⟩ (rk_recv hK hW0 0 (by decide) rfl rfl rfl) (rg_take hW0 (by decide)) rfl rfl hl.1 (Nat.le_of_ble_eq_true rfl) dX9_costOf_11 ⟨Nat.zero_le _, Nat.zero_le _⟩ ?_
  refine W.eq (g2 := F0 m 14 ls [.int r11, .int i3]) rfl ?_
  refine lv_icmp_ge (pc := 14) (tgt := 42) hx hb dX9_costOf_14 (by decide) (fun c13 => ?_) (fun c13 => ?_)
  · have hm := ite_t c13 hm
    refine lv_iload_n (pc := 42) hx hb dX9_costOf_42 rfl (lv_at hl 1 rfl) ?_
    obtain ⟨e8, e9⟩ := rs2 hm
    subst e8
    subst e9
    exact rk_iret (pc := 43) hx hb hr hlk hS ⟨rfl, hW0, hz⟩ dX9_costOf_43
  · have hm := ite_f c13 hm
    refine lv_iload_n (pc := 17) hx hb dX9_costOf_17 rfl (lv_at hl 1 rfl) ?_
    refine lv_aload_n (pc := 18) hx hb dX9_costOf_18 rfl (lv_at hl 0 rfl) ?_
    refine rk_get (pc := 19) hx hb hts hown hK hW0 flX9_11 0 (by decide) rfl rfl (x := .ref (b0 + 1)) (by first | rfl | exact congrArg (fun z => some (Value.ref z)) (by omega)) dX9_costOf_19 ?_
    refine lv_bipush (pc := 22) (v := (7 : Int32)) hx hb dX9_costOf_22 (by decide) ?_
    refine lv_iload_n (pc := 24) hx hb dX9_costOf_24 rfl (lv_at hl 2 rfl) ?_
    refine lv_iadd (pc := 25) hx hb dX9_costOf_25 ?_
    obtain ⟨hg14, hm⟩ := gb_some hm
    refine rk_iald (pc := 26) hx hb hK hW0 1 (by decide) rfl rfl hg14 (x := (gI v0 1 ((7 : Int32) + i3).toNatClampNeg)) rfl dX9_costOf_26 ?_
    refine lv_aload_n (pc := 27) hx hb dX9_costOf_27 rfl (lv_at hl 0 rfl) ?_
    refine rk_get (pc := 28) hx hb hts hown hK hW0 flX9_37 0 (by decide) rfl rfl (x := .ref (b0 + 32)) (by first | rfl | exact congrArg (fun z => some (Value.ref z)) (by omega)) dX9_costOf_28 ?_
    refine lv_iload_n (pc := 31) hx hb dX9_costOf_31 rfl (lv_at hl 2 rfl) ?_
    obtain ⟨hg15, hm⟩ := gb_some hm
    refine rk_iald (pc := 32) hx hb hK hW0 32 (by decide) rfl rfl hg15 (x := (gI v0 32 i3.toNatClampNeg)) rfl dX9_costOf_32 ?_
    refine lv_imul (pc := 33) hx hb dX9_costOf_33 ?_
    refine lv_iadd (pc := 34) hx hb dX9_costOf_34 ?_
    refine lv_istore_n (pc := 35) (lv' := [(2, .int (i2 + ((gI v0 1 ((7 : Int32) + i3).toNatClampNeg) * (gI v0 32 i3.toNatClampNeg)))), (0, .ref b0), (3, .int i3)]) hx hb dX9_costOf_35 rfl hl (by decide) rfl (fun ls hl => ?_)
    refine lv_iinc (pc := 36) (v := (i3 + (1 : Int32))) (lv' := [(3, .int (i3 + (1 : Int32))), (2, .int (i2 + ((gI v0 1 ((7 : Int32) + i3).toNatClampNeg) * (gI v0 32 i3.toNatClampNeg)))), (0, .ref b0)]) hx hb dX9_costOf_36 hl (k := 2) rfl rfl (by decide) rfl (fun ls hl => ?_)
    refine lv_goto (pc := 39) (tgt := 9) hx hb dX9_costOf_39 (by decide) ?_
    exact hk9 v0 (i2 + ((gI v0 1 ((7 : Int32) + i3).toNatClampNeg) * (gI v0 32 i3.toNatClampNeg))) (i3 + (1 : Int32)) hm H locs ls hW0 hS hz (lv_sub hl [2, 1, 0] rfl)
theorem w_fX9_costOf_9_l (C : Cx G p s m args meth c RX9 cX9_costOf 4 (some .int)) {b0 : Nat} {rx : Int32} {rw0 : Mem} : ∀ (n : Nat) (v0 : Mem) (i2 : Int32) (i3 : Int32), lq3 (fX9_costOf_9) n v0 i2 i3 = some (rx, rw0) → ∀ (H : Heap) (locs : List Loc) (ls : Array Slot), rg G b0 46 (shX9 G.2.1) v0 H → va_S (FA (iv b0 46) s.heap.size) s.heap H locs → H.size = s.heap.size → lv_has ls 4 [(0, .ref b0), (2, .int i2), (3, .int i3)] → W p l e (rmT 2 0 0 43) s m args below meth c H locs 0 0 (MQ below (QcT (FA (iv b0 46) s.heap.size) (fun ov H => ov = (some (.int rx)) ∧ rg G b0 46 (shX9 G.2.1) rw0 H ∧ H.size = s.heap.size)) args s 0 0 (FA (iv b0 46) s.heap.size)) (F0 m 9 ls []) := by
  intro n
  induction n with
  | zero => intro v0 i2 i3 hm; exact (lq3_0 hm).elim
  | succ n ih => intro v0 i2 i3 hm; exact w_fX9_costOf_9 C ih v0 i2 i3 (lq3_s hm)
set_option maxHeartbeats 4000000 in
theorem w_fX9_costOf (C : Cx G p s m args meth c RX9 cX9_costOf 4 (some .int)) {b0 : Nat} {rx : Int32} {rw0 : Mem} : ∀ (v0 : Mem) (i1 : Int32), fX9_costOf v0 i1 = some (rx, rw0) → ∀ (H : Heap) (locs : List Loc) (ls : Array Slot), rg G b0 46 (shX9 G.2.1) v0 H → va_S (FA (iv b0 46) s.heap.size) s.heap H locs → H.size = s.heap.size → lv_has ls 4 [(0, .ref b0), (1, .int i1)] → W p l e (rmT 2 0 0 43) s m args below meth c H locs 0 0 (MQ below (QcT (FA (iv b0 46) s.heap.size) (fun ov H => ov = (some (.int rx)) ∧ rg G b0 46 (shX9 G.2.1) rw0 H ∧ H.size = s.heap.size)) args s 0 0 (FA (iv b0 46) s.heap.size)) (F0 m 0 ls []) := by
  intro v0 i1 hm H locs ls hW0 hS hz hl
  obtain ⟨hx, hb, hr, hlk, hml, hown, hts, hK⟩ := id C
  unfold fX9_costOf at hm
  refine lv_aload_n (pc := 0) hx hb dX9_costOf_0 rfl (lv_at hl 0 rfl) ?_
  refine lv_iload_n (pc := 1) hx hb dX9_costOf_1 rfl (lv_at hl 1 rfl) ?_
  obtain ⟨w1, hq2, hm⟩ := ob_some hm
  refine rk_TV (pc := 2) (As := [.int i1]) (rest := []) (mc := 0) (ms := 0) hx hb hml hown hts hK hS (fun q hq => FA_sz rfl q hq) lkX9_343 rfl yn_X9_mixes (ct_X9_mixes (G := G) (l := l) (b0 := b0) (sz := H.size) hq2) ⟨Nat.le_of_ble_eq_true rfl, Nat.le_of_ble_eq_true rfl⟩ (fun z h => Or.inl (show iv _ _ _ from ⟨by have h8 := h.1; have h9 := h.2; omega, by have h8 := h.1; have h9 := h.2; omega⟩)) (rk_recv hK hW0 0 (by decide) rfl rfl rfl) hW0 rfl rfl hl.1 (Nat.le_of_ble_eq_true rfl) dX9_costOf_2 ⟨Nat.zero_le _, Nat.zero_le _⟩ (fun ov9 H3 locs4 hP5 hkp6 hS7 => ?_)
  obtain ⟨rfl, hW8, hz9⟩ := hP5
  have hz10 := hz9.trans hz
  refine W.eq (g2 := F0 m 5 ls []) rfl ?_
  refine lv_iconst (pc := 5) (v := (0 : Int32)) hx hb dX9_costOf_5 (by decide) ?_
  refine lv_istore_n (pc := 6) (lv' := [(2, .int (0 : Int32)), (0, .ref b0), (1, .int i1)]) hx hb dX9_costOf_6 rfl hl (by decide) rfl (fun ls hl => ?_)
  refine lv_iconst (pc := 7) (v := (0 : Int32)) hx hb dX9_costOf_7 (by decide) ?_
  refine lv_istore_n (pc := 8) (lv' := [(3, .int (0 : Int32)), (2, .int (0 : Int32)), (0, .ref b0), (1, .int i1)]) hx hb dX9_costOf_8 rfl hl (by decide) rfl (fun ls hl => ?_)
  exact (w_fX9_costOf_9_l C FU) w1 (0 : Int32) (0 : Int32) hm H3 locs4 ls hW8 hS7 hz10 (lv_sub hl [2, 1, 0] rfl)
set_option maxHeartbeats 4000000 in
theorem ct_X9_costOf {G : Gv} {l : Launch} {b0 : Nat} {v0 : Mem} {i1 : Int32} {rx : Int32} {rw0 : Mem} {sz : Nat} (hm : fX9_costOf v0 i1 = some (rx, rw0)) : CT G l yX9_costOf (ws_ yX9_costOf cX9_costOf 4 (some .int)) 2 0 0 43 [.ref b0, .int i1] (iv b0 46) sz (fun H => rg G b0 46 (shX9 G.2.1) v0 H) (fun ov H => ov = (some (.int rx)) ∧ rg G b0 46 (shX9 G.2.1) rw0 H ∧ H.size = sz) := by
  refine Met.ofW (cc := cX9_costOf) (maxL := 4) (ret := (some .int)) (by decide +kernel) rfl ?_
  intro p e s m args below meth c s₁ B hml hv
  obtain ⟨rfl, ⟨hz, hW0⟩, hK⟩ := hv
  subst hz
  have hts := atoms_spec (ws := ws_ yX9_costOf cX9_costOf 4 (some .int)) B.pre
  have hts : ∀ w ∈ lw_all, w.before _ s = true := fun w h => hts w (List.mem_cons_of_mem _ h)
  have C : Cx G p s m _ meth c RX9 cX9_costOf 4 (some .int) := ⟨B.exec, B.bytes, B.returns, B.notSynchronized, hml, findClass_of_methodNamed B.named, hts, hK⟩
  have hl := lv_entry ([.ref b0, .int i1]) (n := 4) (Nat.le_of_ble_eq_true rfl)
  rw [lg_entry_eq]
  generalize (lg_sl ([.ref b0, .int i1]) ++ List.replicate (4 - (lg_sl ([.ref b0, .int i1])).length) Slot.unset).toArray = ls at hl ⊢
  have hl : lv_has ls 4 [(0, .ref b0), (1, .int i1)] := hl
  exact w_fX9_costOf C _ _ hm s.heap [] ls hW0 va_S.rf rfl hl
noncomputable def fX9_isBroken_5 (V0 : Mem) (k5 : Int32 → Int64 → Int32 → Option (Int32)) (i1 : Int32) (j2 : Int64) (i4 : Int32) : Option (Int32) :=
  ob (fX9_n V0) fun r1 =>
  if r1 ≤ i4 then (
  ob (fX9_limitOf V0 i1) fun r4 =>
  if j2 ≤ r4 then (
  some (0 : Int32))
  else (
  some (1 : Int32)))
  else (
  ob (fX9_pointOf V0 i1 i4) fun r7 =>
  gb (inR i4 5) (
  k5 i1 (j2 + (r7 * (gI V0 32 i4.toNatClampNeg).toInt64)) (i4 + (1 : Int32))))
noncomputable def fX9_isBroken (V0 : Mem) (i1 : Int32) : Option (Int32) :=
  lq3 (fX9_isBroken_5 V0) FU i1 (0 : Int64) (0 : Int32)
set_option maxHeartbeats 4000000 in
theorem w_fX9_isBroken_5 (C : Cx G p s m args meth c RX9 cX9_isBroken 5 (some .boolean)) {b0 : Nat} {V0 : Mem} {rx : Int32} (hW0 : rg G b0 46 (shX9 G.2.1) V0 s.heap) {k5 : Int32 → Int64 → Int32 → Option (Int32)} (hk5 : ∀ (i1 : Int32) (j2 : Int64) (i4 : Int32), k5 i1 j2 i4 = some rx → ∀ (ls : Array Slot), lv_has ls 5 [(0, .ref b0), (1, .int i1), (2, .long j2), (4, .int i4)] → W p l e (rmP 2 44) s m args below meth c s.heap [] 0 0 (MQ below (QcP (some (.int rx))) args s 0 0 (fun _ => False)) (F0 m 5 ls [])) : ∀ (i1 : Int32) (j2 : Int64) (i4 : Int32), fX9_isBroken_5 V0 k5 i1 j2 i4 = some rx → ∀ (ls : Array Slot), lv_has ls 5 [(0, .ref b0), (1, .int i1), (2, .long j2), (4, .int i4)] → W p l e (rmP 2 44) s m args below meth c s.heap [] 0 0 (MQ below (QcP (some (.int rx))) args s 0 0 (fun _ => False)) (F0 m 5 ls []) := by
  intro i1 j2 i4 hm ls hl
  obtain ⟨hx, hb, hr, hlk, hml, hown, hts, hK⟩ := id C
  unfold fX9_isBroken_5 at hm
  refine lv_iload (pc := 5) hx hb dX9_isBroken_5 (lv_at hl 3 rfl) ?_
  refine lv_aload_n (pc := 7) hx hb dX9_isBroken_7 rfl (lv_at hl 0 rfl) ?_
  obtain ⟨r1, hq2, hm⟩ := ob_some hm
  refine rk_PV (pc := 8) (As := []) (rest := [.int i4]) hx hb hml hown hts hK lkX9_89 rfl yn_X9_n (ct_X9_n (G := G) (l := l) (b0 := b0) hq2) ⟨Nat.le_of_ble_eq_true rfl, Nat.le_of_ble_eq_true rfl⟩ (rk_recv hK hW0 0 (by decide) rfl rfl rfl) (rg_take hW0 (by decide)) rfl rfl hl.1 (Nat.le_of_ble_eq_true rfl) dX9_isBroken_8 ⟨Nat.zero_le _, Nat.zero_le _⟩ ?_
  refine W.eq (g2 := F0 m 11 ls [.int r1, .int i4]) rfl ?_
  refine lv_icmp_ge (pc := 11) (tgt := 39) hx hb dX9_isBroken_11 (by decide) (fun c3 => ?_) (fun c3 => ?_)
  · have hm := ite_t c3 hm
    refine lv_lload_n (pc := 39) hx hb dX9_isBroken_39 rfl (lv_at hl 2 rfl) ?_
    refine lv_aload_n (pc := 40) hx hb dX9_isBroken_40 rfl (lv_at hl 0 rfl) ?_
    refine lv_iload_n (pc := 41) hx hb dX9_isBroken_41 rfl (lv_at hl 1 rfl) ?_
    obtain ⟨r4, hq5, hm⟩ := ob_some hm
    refine rk_PV (pc := 42) (As := [.int i1]) (rest := [.long j2]) hx hb hml hown hts hK lkX9_209 rfl yn_X9_limitOf (ct_X9_limitOf (G := G) (l := l) (b0 := b0) hq5) ⟨Nat.le_of_ble_eq_true rfl, Nat.le_of_ble_eq_true rfl⟩ (rk_recv hK hW0 0 (by decide) rfl rfl rfl) (rg_take hW0 (by decide)) rfl rfl hl.1 (Nat.le_of_ble_eq_true rfl) dX9_isBroken_42 ⟨Nat.zero_le _, Nat.zero_le _⟩ ?_
    refine W.eq (g2 := F0 m 45 ls [.long r4, .long j2]) rfl ?_
    refine rk_lcmp_le (pc := 45) (tgt := 53) hx hb dX9_isBroken_45 rfl dX9_isBroken_46 (by decide) (fun c6 => ?_) (fun c6 => ?_)
    · have hm := ite_t c6 hm
      refine lv_iconst (pc := 53) (v := (0 : Int32)) hx hb dX9_isBroken_53 (by decide) ?_
      have e9 := rs1 hm
      subst e9
      exact rk_zretP (pc := 54) hx hb hr hlk rfl rfl dX9_isBroken_54
    · have hm := ite_f c6 hm
      refine lv_iconst (pc := 49) (v := (1 : Int32)) hx hb dX9_isBroken_49 (by decide) ?_
      refine lv_goto (pc := 50) (tgt := 54) hx hb dX9_isBroken_50 (by decide) ?_
      have e9 := rs1 hm
      subst e9
      exact rk_zretP (pc := 54) hx hb hr hlk rfl rfl dX9_isBroken_54
  · have hm := ite_f c3 hm
    refine lv_lload_n (pc := 14) hx hb dX9_isBroken_14 rfl (lv_at hl 2 rfl) ?_
    refine lv_aload_n (pc := 15) hx hb dX9_isBroken_15 rfl (lv_at hl 0 rfl) ?_
    refine lv_iload_n (pc := 16) hx hb dX9_isBroken_16 rfl (lv_at hl 1 rfl) ?_
    refine lv_iload (pc := 17) hx hb dX9_isBroken_17 (lv_at hl 3 rfl) ?_
    obtain ⟨r7, hq8, hm⟩ := ob_some hm
    refine rk_PV (pc := 19) (As := [.int i1, .int i4]) (rest := [.long j2]) hx hb hml hown hts hK lkX9_217 rfl yn_X9_pointOf (ct_X9_pointOf (G := G) (l := l) (b0 := b0) hq8) ⟨Nat.le_of_ble_eq_true rfl, Nat.le_of_ble_eq_true rfl⟩ (rk_recv hK hW0 0 (by decide) rfl rfl rfl) (rg_take hW0 (by decide)) rfl rfl hl.1 (Nat.le_of_ble_eq_true rfl) dX9_isBroken_19 ⟨Nat.zero_le _, Nat.zero_le _⟩ ?_
    refine W.eq (g2 := F0 m 22 ls [.long r7, .long j2]) rfl ?_
    refine lv_aload_n (pc := 22) hx hb dX9_isBroken_22 rfl (lv_at hl 0 rfl) ?_
    refine rk_get (pc := 23) hx hb hts hown hK hW0 flX9_37 0 (by decide) rfl rfl (x := .ref (b0 + 32)) (by first | rfl | exact congrArg (fun z => some (Value.ref z)) (by omega)) dX9_isBroken_23 ?_
    refine lv_iload (pc := 26) hx hb dX9_isBroken_26 (lv_at hl 3 rfl) ?_
    obtain ⟨hg9, hm⟩ := gb_some hm
    refine rk_iald (pc := 28) hx hb hK hW0 32 (by decide) rfl rfl hg9 (x := (gI V0 32 i4.toNatClampNeg)) rfl dX9_isBroken_28 ?_
    refine lv_i2l (pc := 29) hx hb dX9_isBroken_29 rfl ?_
    refine lv_lmul (pc := 30) hx hb dX9_isBroken_30 ?_
    refine lv_ladd (pc := 31) hx hb dX9_isBroken_31 ?_
    refine lv_lstore_n (pc := 32) (lv' := [(2, .long (j2 + (r7 * (gI V0 32 i4.toNatClampNeg).toInt64))), (0, .ref b0), (1, .int i1), (4, .int i4)]) hx hb dX9_isBroken_32 rfl hl (by decide) rfl (fun ls hl => ?_)
    refine lv_iinc (pc := 33) (v := (i4 + (1 : Int32))) (lv' := [(4, .int (i4 + (1 : Int32))), (2, .long (j2 + (r7 * (gI V0 32 i4.toNatClampNeg).toInt64))), (0, .ref b0), (1, .int i1)]) hx hb dX9_isBroken_33 hl (k := 3) rfl rfl (by decide) rfl (fun ls hl => ?_)
    refine lv_goto (pc := 36) (tgt := 5) hx hb dX9_isBroken_36 (by decide) ?_
    exact hk5 i1 (j2 + (r7 * (gI V0 32 i4.toNatClampNeg).toInt64)) (i4 + (1 : Int32)) hm ls (lv_sub hl [2, 3, 1, 0] rfl)
theorem w_fX9_isBroken_5_l (C : Cx G p s m args meth c RX9 cX9_isBroken 5 (some .boolean)) {b0 : Nat} {V0 : Mem} {rx : Int32} (hW0 : rg G b0 46 (shX9 G.2.1) V0 s.heap) : ∀ (n : Nat) (i1 : Int32) (j2 : Int64) (i4 : Int32), lq3 (fX9_isBroken_5 V0) n i1 j2 i4 = some rx → ∀ (ls : Array Slot), lv_has ls 5 [(0, .ref b0), (1, .int i1), (2, .long j2), (4, .int i4)] → W p l e (rmP 2 44) s m args below meth c s.heap [] 0 0 (MQ below (QcP (some (.int rx))) args s 0 0 (fun _ => False)) (F0 m 5 ls []) := by
  intro n
  induction n with
  | zero => intro i1 j2 i4 hm; exact (lq3_0 hm).elim
  | succ n ih => intro i1 j2 i4 hm; exact w_fX9_isBroken_5 C hW0 ih i1 j2 i4 (lq3_s hm)
set_option maxHeartbeats 4000000 in
theorem w_fX9_isBroken (C : Cx G p s m args meth c RX9 cX9_isBroken 5 (some .boolean)) {b0 : Nat} {V0 : Mem} {rx : Int32} (hW0 : rg G b0 46 (shX9 G.2.1) V0 s.heap) : ∀ (i1 : Int32), fX9_isBroken V0 i1 = some rx → ∀ (ls : Array Slot), lv_has ls 5 [(0, .ref b0), (1, .int i1)] → W p l e (rmP 2 44) s m args below meth c s.heap [] 0 0 (MQ below (QcP (some (.int rx))) args s 0 0 (fun _ => False)) (F0 m 0 ls []) := by
  intro i1 hm ls hl
  obtain ⟨hx, hb, hr, hlk, hml, hown, hts, hK⟩ := id C
  unfold fX9_isBroken at hm
  refine lv_lconst (pc := 0) (v := (0 : Int64)) hx hb dX9_isBroken_0 (by decide) ?_
  refine lv_lstore_n (pc := 1) (lv' := [(2, .long (0 : Int64)), (0, .ref b0), (1, .int i1)]) hx hb dX9_isBroken_1 rfl hl (by decide) rfl (fun ls hl => ?_)
  refine lv_iconst (pc := 2) (v := (0 : Int32)) hx hb dX9_isBroken_2 (by decide) ?_
  refine lv_istore (pc := 3) (lv' := [(4, .int (0 : Int32)), (2, .long (0 : Int64)), (0, .ref b0), (1, .int i1)]) hx hb dX9_isBroken_3 hl (by decide) rfl (fun ls hl => ?_)
  exact (w_fX9_isBroken_5_l C hW0 FU) i1 (0 : Int64) (0 : Int32) hm ls (lv_sub hl [2, 3, 1, 0] rfl)
set_option maxHeartbeats 4000000 in
theorem ct_X9_isBroken {G : Gv} {l : Launch} {b0 : Nat} {V0 : Mem} {i1 : Int32} {rx : Int32} (hm : fX9_isBroken V0 i1 = some rx) : CP G l yX9_isBroken (ws_ yX9_isBroken cX9_isBroken 5 (some .boolean)) 2 44 [.ref b0, .int i1] (fun H => rg G b0 46 (shX9 G.2.1) V0 H) (some (.int rx)) := by
  refine Met.ofW (cc := cX9_isBroken) (maxL := 5) (ret := (some .boolean)) (by decide +kernel) rfl ?_
  intro p e s m args below meth c s₁ B hml hv
  obtain ⟨rfl, hW0, hK⟩ := hv
  have hts := atoms_spec (ws := ws_ yX9_isBroken cX9_isBroken 5 (some .boolean)) B.pre
  have hts : ∀ w ∈ lw_all, w.before _ s = true := fun w h => hts w (List.mem_cons_of_mem _ h)
  have C : Cx G p s m _ meth c RX9 cX9_isBroken 5 (some .boolean) := ⟨B.exec, B.bytes, B.returns, B.notSynchronized, hml, findClass_of_methodNamed B.named, hts, hK⟩
  have hl := lv_entry ([.ref b0, .int i1]) (n := 5) (Nat.le_of_ble_eq_true rfl)
  rw [lg_entry_eq]
  generalize (lg_sl ([.ref b0, .int i1]) ++ List.replicate (5 - (lg_sl ([.ref b0, .int i1])).length) Slot.unset).toArray = ls at hl ⊢
  have hl : lv_has ls 5 [(0, .ref b0), (1, .int i1)] := hl
  exact w_fX9_isBroken C hW0 _ hm ls hl
theorem yn_X9_isBroken : YN yX9_isBroken 1 := by
  unfold YN
  decide +kernel
theorem lkX9_346 : LV RX9 346 RX9 yX9_isBroken cX9_isBroken 5 (some .boolean) := ⟨q2194, q2196, qs91, q128, q2197⟩
noncomputable def fX9_broken_4 (V0 : Mem) (k4 : Int32 → Int32 → Option (Int32)) (i1 : Int32) (i2 : Int32) : Option (Int32) :=
  gb (inR (1 : Int32) 150) (
  if (gI V0 1 (1 : Int32).toNatClampNeg) ≤ i2 then (
  some i1)
  else (
  ob (fX9_isBroken V0 i2) fun r3 =>
  if r3 = 0 then (
  k4 (i1 + (0 : Int32)) (i2 + (1 : Int32)))
  else (
  k4 (i1 + (1 : Int32)) (i2 + (1 : Int32)))))
noncomputable def fX9_broken (V0 : Mem) : Option (Int32) :=
  lq2 (fX9_broken_4 V0) FU (0 : Int32) (0 : Int32)
set_option maxHeartbeats 4000000 in
theorem w_fX9_broken_4 (C : Cx G p s m args meth c RX9 cX9_broken 3 (some .int)) {b0 : Nat} {V0 : Mem} {rx : Int32} (hW0 : rg G b0 46 (shX9 G.2.1) V0 s.heap) {k4 : Int32 → Int32 → Option (Int32)} (hk4 : ∀ (i1 : Int32) (i2 : Int32), k4 i1 i2 = some rx → ∀ (ls : Array Slot), lv_has ls 3 [(0, .ref b0), (1, .int i1), (2, .int i2)] → W p l e (rmP 3 68) s m args below meth c s.heap [] 0 0 (MQ below (QcP (some (.int rx))) args s 0 0 (fun _ => False)) (F0 m 4 ls [])) : ∀ (i1 : Int32) (i2 : Int32), fX9_broken_4 V0 k4 i1 i2 = some rx → ∀ (ls : Array Slot), lv_has ls 3 [(0, .ref b0), (1, .int i1), (2, .int i2)] → W p l e (rmP 3 68) s m args below meth c s.heap [] 0 0 (MQ below (QcP (some (.int rx))) args s 0 0 (fun _ => False)) (F0 m 4 ls []) := by
  intro i1 i2 hm ls hl
  obtain ⟨hx, hb, hr, hlk, hml, hown, hts, hK⟩ := id C
  unfold fX9_broken_4 at hm
  refine lv_iload_n (pc := 4) hx hb dX9_broken_4 rfl (lv_at hl 2 rfl) ?_
  refine lv_aload_n (pc := 5) hx hb dX9_broken_5 rfl (lv_at hl 0 rfl) ?_
  refine rk_get (pc := 6) hx hb hts hown hK hW0 flX9_11 0 (by decide) rfl rfl (x := .ref (b0 + 1)) (by first | rfl | exact congrArg (fun z => some (Value.ref z)) (by omega)) dX9_broken_6 ?_
  refine lv_iconst (pc := 9) (v := (1 : Int32)) hx hb dX9_broken_9 (by decide) ?_
  obtain ⟨hg1, hm⟩ := gb_some hm
  refine rk_iald (pc := 10) hx hb hK hW0 1 (by decide) rfl rfl hg1 (x := (gI V0 1 (1 : Int32).toNatClampNeg)) rfl dX9_broken_10 ?_
  refine lv_icmp_ge (pc := 11) (tgt := 36) hx hb dX9_broken_11 (by decide) (fun c2 => ?_) (fun c2 => ?_)
  · have hm := ite_t c2 hm
    refine lv_iload_n (pc := 36) hx hb dX9_broken_36 rfl (lv_at hl 1 rfl) ?_
    have e9 := rs1 hm
    subst e9
    exact rk_iretP (pc := 37) hx hb hr hlk rfl dX9_broken_37
  · have hm := ite_f c2 hm
    refine lv_iload_n (pc := 14) hx hb dX9_broken_14 rfl (lv_at hl 1 rfl) ?_
    refine lv_aload_n (pc := 15) hx hb dX9_broken_15 rfl (lv_at hl 0 rfl) ?_
    refine lv_iload_n (pc := 16) hx hb dX9_broken_16 rfl (lv_at hl 2 rfl) ?_
    obtain ⟨r3, hq4, hm⟩ := ob_some hm
    refine rk_PV (pc := 17) (As := [.int i2]) (rest := [.int i1]) hx hb hml hown hts hK lkX9_346 rfl yn_X9_isBroken (ct_X9_isBroken (G := G) (l := l) (b0 := b0) hq4) ⟨Nat.le_of_ble_eq_true rfl, Nat.le_of_ble_eq_true rfl⟩ (rk_recv hK hW0 0 (by decide) rfl rfl rfl) hW0 rfl rfl hl.1 (Nat.le_of_ble_eq_true rfl) dX9_broken_17 ⟨Nat.zero_le _, Nat.zero_le _⟩ ?_
    refine W.eq (g2 := F0 m 20 ls [.int r3, .int i1]) rfl ?_
    refine lv_if_eq (pc := 20) (tgt := 27) hx hb dX9_broken_20 (by decide) (fun c5 => ?_) (fun c5 => ?_)
    · have hm := ite_t c5 hm
      refine lv_iconst (pc := 27) (v := (0 : Int32)) hx hb dX9_broken_27 (by decide) ?_
      refine lv_iadd (pc := 28) hx hb dX9_broken_28 ?_
      refine lv_istore_n (pc := 29) (lv' := [(1, .int (i1 + (0 : Int32))), (0, .ref b0), (2, .int i2)]) hx hb dX9_broken_29 rfl hl (by decide) rfl (fun ls hl => ?_)
      refine lv_iinc (pc := 30) (v := (i2 + (1 : Int32))) (lv' := [(2, .int (i2 + (1 : Int32))), (1, .int (i1 + (0 : Int32))), (0, .ref b0)]) hx hb dX9_broken_30 hl (k := 2) rfl rfl (by decide) rfl (fun ls hl => ?_)
      refine lv_goto (pc := 33) (tgt := 4) hx hb dX9_broken_33 (by decide) ?_
      exact hk4 (i1 + (0 : Int32)) (i2 + (1 : Int32)) hm ls (lv_sub hl [2, 1, 0] rfl)
    · have hm := ite_f c5 hm
      refine lv_iconst (pc := 23) (v := (1 : Int32)) hx hb dX9_broken_23 (by decide) ?_
      refine lv_goto (pc := 24) (tgt := 28) hx hb dX9_broken_24 (by decide) ?_
      refine lv_iadd (pc := 28) hx hb dX9_broken_28 ?_
      refine lv_istore_n (pc := 29) (lv' := [(1, .int (i1 + (1 : Int32))), (0, .ref b0), (2, .int i2)]) hx hb dX9_broken_29 rfl hl (by decide) rfl (fun ls hl => ?_)
      refine lv_iinc (pc := 30) (v := (i2 + (1 : Int32))) (lv' := [(2, .int (i2 + (1 : Int32))), (1, .int (i1 + (1 : Int32))), (0, .ref b0)]) hx hb dX9_broken_30 hl (k := 2) rfl rfl (by decide) rfl (fun ls hl => ?_)
      refine lv_goto (pc := 33) (tgt := 4) hx hb dX9_broken_33 (by decide) ?_
      exact hk4 (i1 + (1 : Int32)) (i2 + (1 : Int32)) hm ls (lv_sub hl [2, 1, 0] rfl)
theorem w_fX9_broken_4_l (C : Cx G p s m args meth c RX9 cX9_broken 3 (some .int)) {b0 : Nat} {V0 : Mem} {rx : Int32} (hW0 : rg G b0 46 (shX9 G.2.1) V0 s.heap) : ∀ (n : Nat) (i1 : Int32) (i2 : Int32), lq2 (fX9_broken_4 V0) n i1 i2 = some rx → ∀ (ls : Array Slot), lv_has ls 3 [(0, .ref b0), (1, .int i1), (2, .int i2)] → W p l e (rmP 3 68) s m args below meth c s.heap [] 0 0 (MQ below (QcP (some (.int rx))) args s 0 0 (fun _ => False)) (F0 m 4 ls []) := by
  intro n
  induction n with
  | zero => intro i1 i2 hm; exact (lq2_0 hm).elim
  | succ n ih => intro i1 i2 hm; exact w_fX9_broken_4 C hW0 ih i1 i2 (lq2_s hm)
set_option maxHeartbeats 4000000 in
theorem w_fX9_broken (C : Cx G p s m args meth c RX9 cX9_broken 3 (some .int)) {b0 : Nat} {V0 : Mem} {rx : Int32} (hW0 : rg G b0 46 (shX9 G.2.1) V0 s.heap) : fX9_broken V0 = some rx → ∀ (ls : Array Slot), lv_has ls 3 [(0, .ref b0)] → W p l e (rmP 3 68) s m args below meth c s.heap [] 0 0 (MQ below (QcP (some (.int rx))) args s 0 0 (fun _ => False)) (F0 m 0 ls []) := by
  intro hm ls hl
  obtain ⟨hx, hb, hr, hlk, hml, hown, hts, hK⟩ := id C
  unfold fX9_broken at hm
  refine lv_iconst (pc := 0) (v := (0 : Int32)) hx hb dX9_broken_0 (by decide) ?_
  refine lv_istore_n (pc := 1) (lv' := [(1, .int (0 : Int32)), (0, .ref b0)]) hx hb dX9_broken_1 rfl hl (by decide) rfl (fun ls hl => ?_)
  refine lv_iconst (pc := 2) (v := (0 : Int32)) hx hb dX9_broken_2 (by decide) ?_
  refine lv_istore_n (pc := 3) (lv' := [(2, .int (0 : Int32)), (1, .int (0 : Int32)), (0, .ref b0)]) hx hb dX9_broken_3 rfl hl (by decide) rfl (fun ls hl => ?_)
  exact (w_fX9_broken_4_l C hW0 FU) (0 : Int32) (0 : Int32) hm ls (lv_sub hl [2, 1, 0] rfl)
set_option maxHeartbeats 4000000 in
theorem ct_X9_broken {G : Gv} {l : Launch} {b0 : Nat} {V0 : Mem} {rx : Int32} (hm : fX9_broken V0  = some rx) : CP G l yX9_broken (ws_ yX9_broken cX9_broken 3 (some .int)) 3 68 [.ref b0] (fun H => rg G b0 46 (shX9 G.2.1) V0 H) (some (.int rx)) := by
  refine Met.ofW (cc := cX9_broken) (maxL := 3) (ret := (some .int)) (by decide +kernel) rfl ?_
  intro p e s m args below meth c s₁ B hml hv
  obtain ⟨rfl, hW0, hK⟩ := hv
  have hts := atoms_spec (ws := ws_ yX9_broken cX9_broken 3 (some .int)) B.pre
  have hts : ∀ w ∈ lw_all, w.before _ s = true := fun w h => hts w (List.mem_cons_of_mem _ h)
  have C : Cx G p s m _ meth c RX9 cX9_broken 3 (some .int) := ⟨B.exec, B.bytes, B.returns, B.notSynchronized, hml, findClass_of_methodNamed B.named, hts, hK⟩
  have hl := lv_entry ([.ref b0]) (n := 3) (Nat.le_of_ble_eq_true rfl)
  rw [lg_entry_eq]
  generalize (lg_sl ([.ref b0]) ++ List.replicate (3 - (lg_sl ([.ref b0])).length) Slot.unset).toArray = ls at hl ⊢
  have hl : lv_has ls 3 [(0, .ref b0)] := hl
  exact w_fX9_broken C hW0  hm ls hl
noncomputable def fX9_nextCode_65 (k65 : Mem → Int32 → Int32 → Option (Int32 × Mem)) (v0 : Mem) (i3 : Int32) (i4 : Int32) : Option (Int32 × Mem) :=
  ob (fX9_n v0) fun r37 =>
  if r37 ≤ i4 then (
  some (i3, v0))
  else (
  gb (inR i4 5) (
  k65 v0 (((10 : Int32) * i3) + (gI v0 32 i4.toNatClampNeg)) (i4 + (1 : Int32))))
noncomputable def fX9_nextCode_44 (v0 : Mem) (i2 : Int32) : Option (Int32 × Mem) :=
  if 0 ≤ i2 then (
  gb (inR i2 5) (
  gb (inR i2 5) (
  lm (sI v0 32 i2.toNatClampNeg ((gI v0 32 i2.toNatClampNeg) + (1 : Int32))) fun v0_29 =>
  lq3 (fX9_nextCode_65) FU v0_29 (0 : Int32) (0 : Int32))))
  else (
  some ((-1 : Int32), v0))
noncomputable def fX9_nextCode_12 (k12 : Mem → Int32 → Option (Int32 × Mem)) (v0 : Mem) (i2 : Int32) : Option (Int32 × Mem) :=
  if i2 < 0 then (
  fX9_nextCode_44 v0 i2)
  else (
  gb (inR i2 5) (
  gb (inR (3 : Int32) 150) (
  if (gI v0 32 i2.toNatClampNeg) = (gI v0 1 (3 : Int32).toNatClampNeg) then (
  gb (inR i2 5) (
  lm (sI v0 32 i2.toNatClampNeg (0 : Int32)) fun v0_18 =>
  k12 v0_18 (i2 + (-1 : Int32))))
  else (
  fX9_nextCode_44 v0 i2))))
noncomputable def fX9_nextCode (v0 : Mem) (i1 : Int32) : Option (Int32 × Mem) :=
  ob (fX9_mixes v0 i1) fun w1 =>
  ob (fX9_n w1) fun r11 =>
  lq2 (fX9_nextCode_12) FU w1 (r11 - (1 : Int32))
set_option maxHeartbeats 4000000 in
theorem w_fX9_nextCode_65 (C : Cx G p s m args meth c RX9 cX9_nextCode 5 (some .int)) {b0 : Nat} {rx : Int32} {rw0 : Mem} {k65 : Mem → Int32 → Int32 → Option (Int32 × Mem)} (hk65 : ∀ (v0 : Mem) (i3 : Int32) (i4 : Int32), k65 v0 i3 i4 = some (rx, rw0) → ∀ (H : Heap) (locs : List Loc) (ls : Array Slot), rg G b0 46 (shX9 G.2.1) v0 H → va_S (FA (iv b0 46) s.heap.size) s.heap H locs → H.size = s.heap.size → lv_has ls 5 [(0, .ref b0), (3, .int i3), (4, .int i4)] → W p l e (rmT 2 0 0 43) s m args below meth c H locs 0 0 (MQ below (QcT (FA (iv b0 46) s.heap.size) (fun ov H => ov = (some (.int rx)) ∧ rg G b0 46 (shX9 G.2.1) rw0 H ∧ H.size = s.heap.size)) args s 0 0 (FA (iv b0 46) s.heap.size)) (F0 m 65 ls [])) : ∀ (v0 : Mem) (i3 : Int32) (i4 : Int32), fX9_nextCode_65 k65 v0 i3 i4 = some (rx, rw0) → ∀ (H : Heap) (locs : List Loc) (ls : Array Slot), rg G b0 46 (shX9 G.2.1) v0 H → va_S (FA (iv b0 46) s.heap.size) s.heap H locs → H.size = s.heap.size → lv_has ls 5 [(0, .ref b0), (3, .int i3), (4, .int i4)] → W p l e (rmT 2 0 0 43) s m args below meth c H locs 0 0 (MQ below (QcT (FA (iv b0 46) s.heap.size) (fun ov H => ov = (some (.int rx)) ∧ rg G b0 46 (shX9 G.2.1) rw0 H ∧ H.size = s.heap.size)) args s 0 0 (FA (iv b0 46) s.heap.size)) (F0 m 65 ls []) := by
  intro v0 i3 i4 hm H locs ls hW0 hS hz hl
  obtain ⟨hx, hb, hr, hlk, hml, hown, hts, hK⟩ := id C
  unfold fX9_nextCode_65 at hm
  refine lv_iload (pc := 65) hx hb dX9_nextCode_65 (lv_at hl 2 rfl) ?_
  refine lv_aload_n (pc := 67) hx hb dX9_nextCode_67 rfl (lv_at hl 0 rfl) ?_
  obtain ⟨r37, hq38, hm⟩ := ob_some hm
  refine rk_PV (pc := 68) (As := []) (rest := [.int i4]) hx hb hml hown hts hK lkX9_89 rfl yn_X9_n (ct_X9_n (G := G) (l := l) (b0 := b0) hq38) ⟨Nat.le_of_ble_eq_true rfl, Nat.le_of_ble_eq_true rfl⟩ (rk_recv hK hW0 0 (by decide) rfl rfl rfl) (rg_take hW0 (by decide)) rfl rfl hl.1 (Nat.le_of_ble_eq_true rfl) dX9_nextCode_68 ⟨Nat.zero_le _, Nat.zero_le _⟩ ?_
  refine W.eq (g2 := F0 m 71 ls [.int r37, .int i4]) rfl ?_
  refine lv_icmp_ge (pc := 71) (tgt := 93) hx hb dX9_nextCode_71 (by decide) (fun c39 => ?_) (fun c39 => ?_)
  · have hm := ite_t c39 hm
    refine lv_iload_n (pc := 93) hx hb dX9_nextCode_93 rfl (lv_at hl 1 rfl) ?_
    obtain ⟨e8, e9⟩ := rs2 hm
    subst e8
    subst e9
    exact rk_iret (pc := 94) hx hb hr hlk hS ⟨rfl, hW0, hz⟩ dX9_nextCode_94
  · have hm := ite_f c39 hm
    refine lv_bipush (pc := 74) (v := (10 : Int32)) hx hb dX9_nextCode_74 (by decide) ?_
    refine lv_iload_n (pc := 76) hx hb dX9_nextCode_76 rfl (lv_at hl 1 rfl) ?_
    refine lv_imul (pc := 77) hx hb dX9_nextCode_77 ?_
    refine lv_aload_n (pc := 78) hx hb dX9_nextCode_78 rfl (lv_at hl 0 rfl) ?_
    refine rk_get (pc := 79) hx hb hts hown hK hW0 flX9_37 0 (by decide) rfl rfl (x := .ref (b0 + 32)) (by first | rfl | exact congrArg (fun z => some (Value.ref z)) (by omega)) dX9_nextCode_79 ?_
    refine lv_iload (pc := 82) hx hb dX9_nextCode_82 (lv_at hl 2 rfl) ?_
    obtain ⟨hg40, hm⟩ := gb_some hm
    refine rk_iald (pc := 84) hx hb hK hW0 32 (by decide) rfl rfl hg40 (x := (gI v0 32 i4.toNatClampNeg)) rfl dX9_nextCode_84 ?_
    refine lv_iadd (pc := 85) hx hb dX9_nextCode_85 ?_
    refine lv_istore_n (pc := 86) (lv' := [(3, .int (((10 : Int32) * i3) + (gI v0 32 i4.toNatClampNeg))), (0, .ref b0), (4, .int i4)]) hx hb dX9_nextCode_86 rfl hl (by decide) rfl (fun ls hl => ?_)
    refine lv_iinc (pc := 87) (v := (i4 + (1 : Int32))) (lv' := [(4, .int (i4 + (1 : Int32))), (3, .int (((10 : Int32) * i3) + (gI v0 32 i4.toNatClampNeg))), (0, .ref b0)]) hx hb dX9_nextCode_87 hl (k := 2) rfl rfl (by decide) rfl (fun ls hl => ?_)
    refine lv_goto (pc := 90) (tgt := 65) hx hb dX9_nextCode_90 (by decide) ?_
    exact hk65 v0 (((10 : Int32) * i3) + (gI v0 32 i4.toNatClampNeg)) (i4 + (1 : Int32)) hm H locs ls hW0 hS hz (lv_sub hl [2, 1, 0] rfl)
theorem w_fX9_nextCode_65_l (C : Cx G p s m args meth c RX9 cX9_nextCode 5 (some .int)) {b0 : Nat} {rx : Int32} {rw0 : Mem} : ∀ (n : Nat) (v0 : Mem) (i3 : Int32) (i4 : Int32), lq3 (fX9_nextCode_65) n v0 i3 i4 = some (rx, rw0) → ∀ (H : Heap) (locs : List Loc) (ls : Array Slot), rg G b0 46 (shX9 G.2.1) v0 H → va_S (FA (iv b0 46) s.heap.size) s.heap H locs → H.size = s.heap.size → lv_has ls 5 [(0, .ref b0), (3, .int i3), (4, .int i4)] → W p l e (rmT 2 0 0 43) s m args below meth c H locs 0 0 (MQ below (QcT (FA (iv b0 46) s.heap.size) (fun ov H => ov = (some (.int rx)) ∧ rg G b0 46 (shX9 G.2.1) rw0 H ∧ H.size = s.heap.size)) args s 0 0 (FA (iv b0 46) s.heap.size)) (F0 m 65 ls []) := by
  intro n
  induction n with
  | zero => intro v0 i3 i4 hm; exact (lq3_0 hm).elim
  | succ n ih => intro v0 i3 i4 hm; exact w_fX9_nextCode_65 C ih v0 i3 i4 (lq3_s hm)
set_option maxHeartbeats 4000000 in
theorem w_fX9_nextCode_44 (C : Cx G p s m args meth c RX9 cX9_nextCode 5 (some .int)) {b0 : Nat} {rx : Int32} {rw0 : Mem} : ∀ (v0 : Mem) (i2 : Int32), fX9_nextCode_44 v0 i2 = some (rx, rw0) → ∀ (H : Heap) (locs : List Loc) (ls : Array Slot), rg G b0 46 (shX9 G.2.1) v0 H → va_S (FA (iv b0 46) s.heap.size) s.heap H locs → H.size = s.heap.size → lv_has ls 5 [(0, .ref b0), (2, .int i2)] → W p l e (rmT 2 0 0 43) s m args below meth c H locs 0 0 (MQ below (QcT (FA (iv b0 46) s.heap.size) (fun ov H => ov = (some (.int rx)) ∧ rg G b0 46 (shX9 G.2.1) rw0 H ∧ H.size = s.heap.size)) args s 0 0 (FA (iv b0 46) s.heap.size)) (F0 m 44 ls []) := by
  intro v0 i2 hm H locs ls hW0 hS hz hl
  obtain ⟨hx, hb, hr, hlk, hml, hown, hts, hK⟩ := id C
  unfold fX9_nextCode_44 at hm
  refine lv_iload_n (pc := 44) hx hb dX9_nextCode_44 rfl (lv_at hl 1 rfl) ?_
  refine lv_if_ge (pc := 45) (tgt := 50) hx hb dX9_nextCode_45 (by decide) (fun c26 => ?_) (fun c26 => ?_)
  · have hm := ite_t c26 hm
    refine lv_aload_n (pc := 50) hx hb dX9_nextCode_50 rfl (lv_at hl 0 rfl) ?_
    refine rk_get (pc := 51) hx hb hts hown hK hW0 flX9_37 0 (by decide) rfl rfl (x := .ref (b0 + 32)) (by first | rfl | exact congrArg (fun z => some (Value.ref z)) (by omega)) dX9_nextCode_51 ?_
    refine lv_iload_n (pc := 54) hx hb dX9_nextCode_54 rfl (lv_at hl 1 rfl) ?_
    refine lv_dup2_11 (pc := 55) hx hb dX9_nextCode_55 rfl rfl ?_
    obtain ⟨hg27, hm⟩ := gb_some hm
    refine rk_iald (pc := 56) hx hb hK hW0 32 (by decide) rfl rfl hg27 (x := (gI v0 32 i2.toNatClampNeg)) rfl dX9_nextCode_56 ?_
    refine lv_iconst (pc := 57) (v := (1 : Int32)) hx hb dX9_nextCode_57 (by decide) ?_
    refine lv_iadd (pc := 58) hx hb dX9_nextCode_58 ?_
    obtain ⟨hg28, hm⟩ := gb_some hm
    refine rk_iast (pc := 59) hx hb hK hW0 hS 32 (by decide) rfl (Or.inl (show iv _ _ _ from ⟨by omega, by omega⟩)) (fun _ _ _ => rfl) hg28 dX9_nextCode_59 (fun H30 locs31 hW32 hS33 hz34 hkp35 => ?_)
    obtain ⟨v0_29, he9, hm⟩ := lm_some hm
    rw [he9] at hW32
    have hz36 := hz34.trans hz
    refine lv_iconst (pc := 60) (v := (0 : Int32)) hx hb dX9_nextCode_60 (by decide) ?_
    refine lv_istore_n (pc := 61) (lv' := [(3, .int (0 : Int32)), (0, .ref b0), (2, .int i2)]) hx hb dX9_nextCode_61 rfl hl (by decide) rfl (fun ls hl => ?_)
    refine lv_iconst (pc := 62) (v := (0 : Int32)) hx hb dX9_nextCode_62 (by decide) ?_
    refine lv_istore (pc := 63) (lv' := [(4, .int (0 : Int32)), (3, .int (0 : Int32)), (0, .ref b0), (2, .int i2)]) hx hb dX9_nextCode_63 hl (by decide) rfl (fun ls hl => ?_)
    exact (w_fX9_nextCode_65_l C FU) v0_29 (0 : Int32) (0 : Int32) hm H30 locs31 ls hW32 hS33 hz36 (lv_sub hl [2, 1, 0] rfl)
  · have hm := ite_f c26 hm
    refine lv_iconst (pc := 48) (v := (-1 : Int32)) hx hb dX9_nextCode_48 (by decide) ?_
    obtain ⟨e8, e9⟩ := rs2 hm
    subst e8
    subst e9
    exact rk_iret (pc := 49) hx hb hr hlk hS ⟨rfl, hW0, hz⟩ dX9_nextCode_49
set_option maxHeartbeats 4000000 in
theorem w_fX9_nextCode_12 (C : Cx G p s m args meth c RX9 cX9_nextCode 5 (some .int)) {b0 : Nat} {rx : Int32} {rw0 : Mem} {k12 : Mem → Int32 → Option (Int32 × Mem)} (hk12 : ∀ (v0 : Mem) (i2 : Int32), k12 v0 i2 = some (rx, rw0) → ∀ (H : Heap) (locs : List Loc) (ls : Array Slot), rg G b0 46 (shX9 G.2.1) v0 H → va_S (FA (iv b0 46) s.heap.size) s.heap H locs → H.size = s.heap.size → lv_has ls 5 [(0, .ref b0), (2, .int i2)] → W p l e (rmT 2 0 0 43) s m args below meth c H locs 0 0 (MQ below (QcT (FA (iv b0 46) s.heap.size) (fun ov H => ov = (some (.int rx)) ∧ rg G b0 46 (shX9 G.2.1) rw0 H ∧ H.size = s.heap.size)) args s 0 0 (FA (iv b0 46) s.heap.size)) (F0 m 12 ls [])) : ∀ (v0 : Mem) (i2 : Int32), fX9_nextCode_12 k12 v0 i2 = some (rx, rw0) → ∀ (H : Heap) (locs : List Loc) (ls : Array Slot), rg G b0 46 (shX9 G.2.1) v0 H → va_S (FA (iv b0 46) s.heap.size) s.heap H locs → H.size = s.heap.size → lv_has ls 5 [(0, .ref b0), (2, .int i2)] → W p l e (rmT 2 0 0 43) s m args below meth c H locs 0 0 (MQ below (QcT (FA (iv b0 46) s.heap.size) (fun ov H => ov = (some (.int rx)) ∧ rg G b0 46 (shX9 G.2.1) rw0 H ∧ H.size = s.heap.size)) args s 0 0 (FA (iv b0 46) s.heap.size)) (F0 m 12 ls []) := by
  intro v0 i2 hm H locs ls hW0 hS hz hl
  obtain ⟨hx, hb, hr, hlk, hml, hown, hts, hK⟩ := id C
  unfold fX9_nextCode_12 at hm
  refine lv_iload_n (pc := 12) hx hb dX9_nextCode_12 rfl (lv_at hl 1 rfl) ?_
  refine lv_if_lt (pc := 13) (tgt := 44) hx hb dX9_nextCode_13 (by decide) (fun c13 => ?_) (fun c13 => ?_)
  · have hm := ite_t c13 hm
    exact (w_fX9_nextCode_44 C) v0 i2 hm H locs ls hW0 hS hz (lv_sub hl [0, 1] rfl)
  · have hm := ite_f c13 hm
    refine lv_aload_n (pc := 16) hx hb dX9_nextCode_16 rfl (lv_at hl 0 rfl) ?_
    refine rk_get (pc := 17) hx hb hts hown hK hW0 flX9_37 0 (by decide) rfl rfl (x := .ref (b0 + 32)) (by first | rfl | exact congrArg (fun z => some (Value.ref z)) (by omega)) dX9_nextCode_17 ?_
    refine lv_iload_n (pc := 20) hx hb dX9_nextCode_20 rfl (lv_at hl 1 rfl) ?_
    obtain ⟨hg14, hm⟩ := gb_some hm
    refine rk_iald (pc := 21) hx hb hK hW0 32 (by decide) rfl rfl hg14 (x := (gI v0 32 i2.toNatClampNeg)) rfl dX9_nextCode_21 ?_
    refine lv_aload_n (pc := 22) hx hb dX9_nextCode_22 rfl (lv_at hl 0 rfl) ?_
    refine rk_get (pc := 23) hx hb hts hown hK hW0 flX9_11 0 (by decide) rfl rfl (x := .ref (b0 + 1)) (by first | rfl | exact congrArg (fun z => some (Value.ref z)) (by omega)) dX9_nextCode_23 ?_
    refine lv_iconst (pc := 26) (v := (3 : Int32)) hx hb dX9_nextCode_26 (by decide) ?_
    obtain ⟨hg15, hm⟩ := gb_some hm
    refine rk_iald (pc := 27) hx hb hK hW0 1 (by decide) rfl rfl hg15 (x := (gI v0 1 (3 : Int32).toNatClampNeg)) rfl dX9_nextCode_27 ?_
    refine lv_icmp_ne (pc := 28) (tgt := 44) hx hb dX9_nextCode_28 (by decide) (fun c16 => ?_) (fun c16 => ?_)
    · have hm := ite_f c16 hm
      exact (w_fX9_nextCode_44 C) v0 i2 hm H locs ls hW0 hS hz (lv_sub hl [0, 1] rfl)
    · have hm := ite_t c16 hm
      refine lv_aload_n (pc := 31) hx hb dX9_nextCode_31 rfl (lv_at hl 0 rfl) ?_
      refine rk_get (pc := 32) hx hb hts hown hK hW0 flX9_37 0 (by decide) rfl rfl (x := .ref (b0 + 32)) (by first | rfl | exact congrArg (fun z => some (Value.ref z)) (by omega)) dX9_nextCode_32 ?_
      refine lv_iload_n (pc := 35) hx hb dX9_nextCode_35 rfl (lv_at hl 1 rfl) ?_
      refine lv_iconst (pc := 36) (v := (0 : Int32)) hx hb dX9_nextCode_36 (by decide) ?_
      obtain ⟨hg17, hm⟩ := gb_some hm
      refine rk_iast (pc := 37) hx hb hK hW0 hS 32 (by decide) rfl (Or.inl (show iv _ _ _ from ⟨by omega, by omega⟩)) (fun _ _ _ => rfl) hg17 dX9_nextCode_37 (fun H19 locs20 hW21 hS22 hz23 hkp24 => ?_)
      obtain ⟨v0_18, he9, hm⟩ := lm_some hm
      rw [he9] at hW21
      have hz25 := hz23.trans hz
      refine lv_iinc (pc := 38) (v := (i2 + (-1 : Int32))) (lv' := [(2, .int (i2 + (-1 : Int32))), (0, .ref b0)]) hx hb dX9_nextCode_38 hl (k := 1) rfl (congrArg (i2 + ·) (show Int32.ofInt (-1) = (-1 : Int32) by decide)) (by decide) rfl (fun ls hl => ?_)
      refine lv_goto (pc := 41) (tgt := 12) hx hb dX9_nextCode_41 (by decide) ?_
      exact hk12 v0_18 (i2 + (-1 : Int32)) hm H19 locs20 ls hW21 hS22 hz25 (lv_sub hl [1, 0] rfl)
theorem w_fX9_nextCode_12_l (C : Cx G p s m args meth c RX9 cX9_nextCode 5 (some .int)) {b0 : Nat} {rx : Int32} {rw0 : Mem} : ∀ (n : Nat) (v0 : Mem) (i2 : Int32), lq2 (fX9_nextCode_12) n v0 i2 = some (rx, rw0) → ∀ (H : Heap) (locs : List Loc) (ls : Array Slot), rg G b0 46 (shX9 G.2.1) v0 H → va_S (FA (iv b0 46) s.heap.size) s.heap H locs → H.size = s.heap.size → lv_has ls 5 [(0, .ref b0), (2, .int i2)] → W p l e (rmT 2 0 0 43) s m args below meth c H locs 0 0 (MQ below (QcT (FA (iv b0 46) s.heap.size) (fun ov H => ov = (some (.int rx)) ∧ rg G b0 46 (shX9 G.2.1) rw0 H ∧ H.size = s.heap.size)) args s 0 0 (FA (iv b0 46) s.heap.size)) (F0 m 12 ls []) := by
  intro n
  induction n with
  | zero => intro v0 i2 hm; exact (lq2_0 hm).elim
  | succ n ih => intro v0 i2 hm; exact w_fX9_nextCode_12 C ih v0 i2 (lq2_s hm)
set_option maxHeartbeats 4000000 in
theorem w_fX9_nextCode (C : Cx G p s m args meth c RX9 cX9_nextCode 5 (some .int)) {b0 : Nat} {rx : Int32} {rw0 : Mem} : ∀ (v0 : Mem) (i1 : Int32), fX9_nextCode v0 i1 = some (rx, rw0) → ∀ (H : Heap) (locs : List Loc) (ls : Array Slot), rg G b0 46 (shX9 G.2.1) v0 H → va_S (FA (iv b0 46) s.heap.size) s.heap H locs → H.size = s.heap.size → lv_has ls 5 [(0, .ref b0), (1, .int i1)] → W p l e (rmT 2 0 0 43) s m args below meth c H locs 0 0 (MQ below (QcT (FA (iv b0 46) s.heap.size) (fun ov H => ov = (some (.int rx)) ∧ rg G b0 46 (shX9 G.2.1) rw0 H ∧ H.size = s.heap.size)) args s 0 0 (FA (iv b0 46) s.heap.size)) (F0 m 0 ls []) := by
  intro v0 i1 hm H locs ls hW0 hS hz hl
  obtain ⟨hx, hb, hr, hlk, hml, hown, hts, hK⟩ := id C
  unfold fX9_nextCode at hm
  refine lv_aload_n (pc := 0) hx hb dX9_nextCode_0 rfl (lv_at hl 0 rfl) ?_
  refine lv_iload_n (pc := 1) hx hb dX9_nextCode_1 rfl (lv_at hl 1 rfl) ?_
  obtain ⟨w1, hq2, hm⟩ := ob_some hm
  refine rk_TV (pc := 2) (As := [.int i1]) (rest := []) (mc := 0) (ms := 0) hx hb hml hown hts hK hS (fun q hq => FA_sz rfl q hq) lkX9_343 rfl yn_X9_mixes (ct_X9_mixes (G := G) (l := l) (b0 := b0) (sz := H.size) hq2) ⟨Nat.le_of_ble_eq_true rfl, Nat.le_of_ble_eq_true rfl⟩ (fun z h => Or.inl (show iv _ _ _ from ⟨by have h8 := h.1; have h9 := h.2; omega, by have h8 := h.1; have h9 := h.2; omega⟩)) (rk_recv hK hW0 0 (by decide) rfl rfl rfl) hW0 rfl rfl hl.1 (Nat.le_of_ble_eq_true rfl) dX9_nextCode_2 ⟨Nat.zero_le _, Nat.zero_le _⟩ (fun ov9 H3 locs4 hP5 hkp6 hS7 => ?_)
  obtain ⟨rfl, hW8, hz9⟩ := hP5
  have hz10 := hz9.trans hz
  refine W.eq (g2 := F0 m 5 ls []) rfl ?_
  refine lv_aload_n (pc := 5) hx hb dX9_nextCode_5 rfl (lv_at hl 0 rfl) ?_
  obtain ⟨r11, hq12, hm⟩ := ob_some hm
  refine rk_PV (pc := 6) (As := []) (rest := []) hx hb hml hown hts hK lkX9_89 rfl yn_X9_n (ct_X9_n (G := G) (l := l) (b0 := b0) hq12) ⟨Nat.le_of_ble_eq_true rfl, Nat.le_of_ble_eq_true rfl⟩ (rk_recv hK hW8 0 (by decide) rfl rfl rfl) (rg_take hW8 (by decide)) rfl rfl hl.1 (Nat.le_of_ble_eq_true rfl) dX9_nextCode_6 ⟨Nat.zero_le _, Nat.zero_le _⟩ ?_
  refine W.eq (g2 := F0 m 9 ls [.int r11]) rfl ?_
  refine lv_iconst (pc := 9) (v := (1 : Int32)) hx hb dX9_nextCode_9 (by decide) ?_
  refine lv_isub (pc := 10) hx hb dX9_nextCode_10 ?_
  refine lv_istore_n (pc := 11) (lv' := [(2, .int (r11 - (1 : Int32))), (0, .ref b0), (1, .int i1)]) hx hb dX9_nextCode_11 rfl hl (by decide) rfl (fun ls hl => ?_)
  exact (w_fX9_nextCode_12_l C FU) w1 (r11 - (1 : Int32)) hm H3 locs4 ls hW8 hS7 hz10 (lv_sub hl [1, 0] rfl)
set_option maxHeartbeats 4000000 in
theorem ct_X9_nextCode {G : Gv} {l : Launch} {b0 : Nat} {v0 : Mem} {i1 : Int32} {rx : Int32} {rw0 : Mem} {sz : Nat} (hm : fX9_nextCode v0 i1 = some (rx, rw0)) : CT G l yX9_nextCode (ws_ yX9_nextCode cX9_nextCode 5 (some .int)) 2 0 0 43 [.ref b0, .int i1] (iv b0 46) sz (fun H => rg G b0 46 (shX9 G.2.1) v0 H) (fun ov H => ov = (some (.int rx)) ∧ rg G b0 46 (shX9 G.2.1) rw0 H ∧ H.size = sz) := by
  refine Met.ofW (cc := cX9_nextCode) (maxL := 5) (ret := (some .int)) (by decide +kernel) rfl ?_
  intro p e s m args below meth c s₁ B hml hv
  obtain ⟨rfl, ⟨hz, hW0⟩, hK⟩ := hv
  subst hz
  have hts := atoms_spec (ws := ws_ yX9_nextCode cX9_nextCode 5 (some .int)) B.pre
  have hts : ∀ w ∈ lw_all, w.before _ s = true := fun w h => hts w (List.mem_cons_of_mem _ h)
  have C : Cx G p s m _ meth c RX9 cX9_nextCode 5 (some .int) := ⟨B.exec, B.bytes, B.returns, B.notSynchronized, hml, findClass_of_methodNamed B.named, hts, hK⟩
  have hl := lv_entry ([.ref b0, .int i1]) (n := 5) (Nat.le_of_ble_eq_true rfl)
  rw [lg_entry_eq]
  generalize (lg_sl ([.ref b0, .int i1]) ++ List.replicate (5 - (lg_sl ([.ref b0, .int i1])).length) Slot.unset).toArray = ls at hl ⊢
  have hl : lv_has ls 5 [(0, .ref b0), (1, .int i1)] := hl
  exact w_fX9_nextCode C _ _ hm s.heap [] ls hW0 va_S.rf rfl hl
noncomputable def fX9_box (v0 : Mem) (i1 : Int32) : Option (Int32 × Mem) :=
  ob (fX9_isIn i1.toInt64 (0 : Int64) (6 : Int64)) fun r1 =>
  if r1 = 0 then (
  some ((-2 : Int32), v0))
  else (
  gb (inR (3 : Int32) 150) (
  gb (inR (3 : Int32) 150) (
  lm (sI v0 1 (3 : Int32).toNatClampNeg i1) fun v0_6 =>
  some ((gI v0 1 (3 : Int32).toNatClampNeg), v0_6))))
set_option maxHeartbeats 4000000 in
theorem w_fX9_box (C : Cx G p s m args meth c RX9 cX9_box 3 (some .int)) {b0 : Nat} {rx : Int32} {rw0 : Mem} : ∀ (v0 : Mem) (i1 : Int32), fX9_box v0 i1 = some (rx, rw0) → ∀ (H : Heap) (locs : List Loc) (ls : Array Slot), rg G b0 46 (shX9 G.2.1) v0 H → va_S (FA (iv b0 46) s.heap.size) s.heap H locs → H.size = s.heap.size → lv_has ls 3 [(0, .ref b0), (1, .int i1)] → W p l e (rmT 1 0 0 25) s m args below meth c H locs 0 0 (MQ below (QcT (FA (iv b0 46) s.heap.size) (fun ov H => ov = (some (.int rx)) ∧ rg G b0 46 (shX9 G.2.1) rw0 H ∧ H.size = s.heap.size)) args s 0 0 (FA (iv b0 46) s.heap.size)) (F0 m 0 ls []) := by
  intro v0 i1 hm H locs ls hW0 hS hz hl
  obtain ⟨hx, hb, hr, hlk, hml, hown, hts, hK⟩ := id C
  unfold fX9_box at hm
  refine lv_iload_n (pc := 0) hx hb dX9_box_0 rfl (lv_at hl 1 rfl) ?_
  refine lv_i2l (pc := 1) hx hb dX9_box_1 rfl ?_
  refine lv_lconst (pc := 2) (v := (0 : Int64)) hx hb dX9_box_2 (by decide) ?_
  refine lv_ldc2 (pc := 3) (v := (6 : Int64)) hx hb hown (hts _ q2176) dX9_box_3 ?_
  obtain ⟨r1, hq2, hm⟩ := ob_some hm
  refine rk_PS (pc := 6) (As := [.long i1.toInt64, .long (0 : Int64), .long (6 : Int64)]) (rest := []) hx hb hml hown hts hK lkX9_93 yn_X9_isIn (ct_X9_isIn (G := G) (l := l) hq2) ⟨Nat.le_of_ble_eq_true rfl, Nat.le_of_ble_eq_true rfl⟩ trivial rfl rfl hl.1 (Nat.le_of_ble_eq_true rfl) dX9_box_6 ⟨Nat.zero_le _, Nat.zero_le _⟩ ?_
  refine W.eq (g2 := F0 m 9 ls [.int r1]) rfl ?_
  refine lv_if_ne (pc := 9) (tgt := 15) hx hb dX9_box_9 (by decide) (fun c3 => ?_) (fun c3 => ?_)
  · have hm := ite_f c3 hm
    refine lv_aload_n (pc := 15) hx hb dX9_box_15 rfl (lv_at hl 0 rfl) ?_
    refine rk_get (pc := 16) hx hb hts hown hK hW0 flX9_11 0 (by decide) rfl rfl (x := .ref (b0 + 1)) (by first | rfl | exact congrArg (fun z => some (Value.ref z)) (by omega)) dX9_box_16 ?_
    refine lv_iconst (pc := 19) (v := (3 : Int32)) hx hb dX9_box_19 (by decide) ?_
    obtain ⟨hg4, hm⟩ := gb_some hm
    refine rk_iald (pc := 20) hx hb hK hW0 1 (by decide) rfl rfl hg4 (x := (gI v0 1 (3 : Int32).toNatClampNeg)) rfl dX9_box_20 ?_
    refine lv_istore_n (pc := 21) (lv' := [(2, .int (gI v0 1 (3 : Int32).toNatClampNeg)), (0, .ref b0), (1, .int i1)]) hx hb dX9_box_21 rfl hl (by decide) rfl (fun ls hl => ?_)
    refine lv_aload_n (pc := 22) hx hb dX9_box_22 rfl (lv_at hl 1 rfl) ?_
    refine rk_get (pc := 23) hx hb hts hown hK hW0 flX9_11 0 (by decide) rfl rfl (x := .ref (b0 + 1)) (by first | rfl | exact congrArg (fun z => some (Value.ref z)) (by omega)) dX9_box_23 ?_
    refine lv_iconst (pc := 26) (v := (3 : Int32)) hx hb dX9_box_26 (by decide) ?_
    refine lv_iload_n (pc := 27) hx hb dX9_box_27 rfl (lv_at hl 2 rfl) ?_
    obtain ⟨hg5, hm⟩ := gb_some hm
    refine rk_iast (pc := 28) hx hb hK hW0 hS 1 (by decide) rfl (Or.inl (show iv _ _ _ from ⟨by omega, by omega⟩)) (fun _ _ _ => rfl) hg5 dX9_box_28 (fun H7 locs8 hW9 hS10 hz11 hkp12 => ?_)
    obtain ⟨v0_6, he9, hm⟩ := lm_some hm
    rw [he9] at hW9
    have hz13 := hz11.trans hz
    refine lv_iload_n (pc := 29) hx hb dX9_box_29 rfl (lv_at hl 0 rfl) ?_
    obtain ⟨e8, e9⟩ := rs2 hm
    subst e8
    subst e9
    exact rk_iret (pc := 30) hx hb hr hlk hS10 ⟨rfl, hW9, hz13⟩ dX9_box_30
  · have hm := ite_t c3 hm
    refine lv_bipush (pc := 12) (v := (-2 : Int32)) hx hb dX9_box_12 (by decide) ?_
    obtain ⟨e8, e9⟩ := rs2 hm
    subst e8
    subst e9
    exact rk_iret (pc := 14) hx hb hr hlk hS ⟨rfl, hW0, hz⟩ dX9_box_14
set_option maxHeartbeats 4000000 in
theorem ct_X9_box {G : Gv} {l : Launch} {b0 : Nat} {v0 : Mem} {i1 : Int32} {rx : Int32} {rw0 : Mem} {sz : Nat} (hm : fX9_box v0 i1 = some (rx, rw0)) : CT G l yX9_box (ws_ yX9_box cX9_box 3 (some .int)) 1 0 0 25 [.ref b0, .int i1] (iv b0 46) sz (fun H => rg G b0 46 (shX9 G.2.1) v0 H) (fun ov H => ov = (some (.int rx)) ∧ rg G b0 46 (shX9 G.2.1) rw0 H ∧ H.size = sz) := by
  refine Met.ofW (cc := cX9_box) (maxL := 3) (ret := (some .int)) (by decide +kernel) rfl ?_
  intro p e s m args below meth c s₁ B hml hv
  obtain ⟨rfl, ⟨hz, hW0⟩, hK⟩ := hv
  subst hz
  have hts := atoms_spec (ws := ws_ yX9_box cX9_box 3 (some .int)) B.pre
  have hts : ∀ w ∈ lw_all, w.before _ s = true := fun w h => hts w (List.mem_cons_of_mem _ h)
  have C : Cx G p s m _ meth c RX9 cX9_box 3 (some .int) := ⟨B.exec, B.bytes, B.returns, B.notSynchronized, hml, findClass_of_methodNamed B.named, hts, hK⟩
  have hl := lv_entry ([.ref b0, .int i1]) (n := 3) (Nat.le_of_ble_eq_true rfl)
  rw [lg_entry_eq]
  generalize (lg_sl ([.ref b0, .int i1]) ++ List.replicate (3 - (lg_sl ([.ref b0, .int i1])).length) Slot.unset).toArray = ls at hl ⊢
  have hl : lv_has ls 3 [(0, .ref b0), (1, .int i1)] := hl
  exact w_fX9_box C _ _ hm s.heap [] ls hW0 va_S.rf rfl hl
theorem flX9_40 : FL RX9 40 9 12 RX9 TX9 29 := ⟨in_X9, rfl, by decide, q1839⟩
theorem yn_X9_costOf : YN yX9_costOf 1 := by
  unfold YN
  decide +kernel
theorem lkX9_353 : LV RX9 353 RX9 yX9_costOf cX9_costOf 4 (some .int) := ⟨q2182, q2184, qs88, q128, q2185⟩
theorem flX9_43 : FL RX9 43 9 13 RX9 TX9 29 := ⟨in_X9, rfl, by decide, q1840⟩
theorem yn_X9_nextCode : YN yX9_nextCode 1 := by
  unfold YN
  decide +kernel
theorem lkX9_362 : LV RX9 362 RX9 yX9_nextCode cX9_nextCode 5 (some .int) := ⟨q2199, q2201, qs92, q128, q2202⟩
theorem yn_X9_broken : YN yX9_broken 0 := by
  unfold YN
  decide +kernel
theorem lkX9_356 : LV RX9 356 RX9 yX9_broken cX9_broken 3 (some .int) := ⟨q2190, q2192, qs90, q128, q2193⟩
theorem yn_J7_min : YN yJ7_min 2 := by
  unfold YN
  decide +kernel
theorem lkX9_359 : LSt RX9 359 yJ7_min cJ7_min 2 (some .int) := ⟨q2198, q1067, q136, q1068⟩
noncomputable def fX9_nth_125 (k19 : Mem → Int32 → Int32 → Int32 → Option (Int32 × Mem)) (v0 : Mem) (i1 : Int32) (i2 : Int32) (i3 : Int32) (i4 : Int32) (i5 : Int32) : Option (Int32 × Mem) :=
  gb (inR i5 21) (
  lm (sI v0 33 i5.toNatClampNeg i3) fun v0_71 =>
  gb (inR i5 21) (
  lm (sI v0_71 34 i5.toNatClampNeg i4) fun v0_80 =>
  ob (fJ7_min (i2 + (1 : Int32)) (i1 + (1 : Int32))) fun r88 =>
  ob2 (fX9_nextCode v0_80 i3) fun r90 w91 =>
  k19 w91 i1 r88 r90))
noncomputable def fX9_nth_68 (k19 : Mem → Int32 → Int32 → Int32 → Option (Int32 × Mem)) (k68 : Mem → Int32 → Int32 → Int32 → Int32 → Int32 → Option (Int32 × Mem)) (v0 : Mem) (i1 : Int32) (i2 : Int32) (i3 : Int32) (i4 : Int32) (i5 : Int32) : Option (Int32 × Mem) :=
  if i5 ≤ 0 then (
  fX9_nth_125 k19 v0 i1 i2 i3 i4 i5)
  else (
  gb (inR (i5 - (1 : Int32)) 21) (
  if (gI v0 34 (i5 - (1 : Int32)).toNatClampNeg) ≤ i4 then (
  fX9_nth_125 k19 v0 i1 i2 i3 i4 i5)
  else (
  gb (inR (i5 - (1 : Int32)) 21) (
  gb (inR i5 21) (
  lm (sI v0 33 i5.toNatClampNeg (gI v0 33 (i5 - (1 : Int32)).toNatClampNeg)) fun v0_52 =>
  gb (inR (i5 - (1 : Int32)) 21) (
  gb (inR i5 21) (
  lm (sI v0_52 34 i5.toNatClampNeg (gI v0_52 34 (i5 - (1 : Int32)).toNatClampNeg)) fun v0_62 =>
  k68 v0_62 i1 i2 i3 i4 (i5 + (-1 : Int32)))))))))
noncomputable def fX9_nth_46 (k19 : Mem → Int32 → Int32 → Int32 → Option (Int32 × Mem)) (v0 : Mem) (i1 : Int32) (i2 : Int32) (i3 : Int32) (i4 : Int32) : Option (Int32 × Mem) :=
  ob (fX9_broken v0) fun r32 =>
  if r32 ≤ 0 then (
  if i1 < i2 then (
  lq6 (fX9_nth_68 k19) FU v0 i1 i2 i3 i4 i1)
  else (
  lq6 (fX9_nth_68 k19) FU v0 i1 i2 i3 i4 i2))
  else (
  ob2 (fX9_nextCode v0 i3) fun r36 w37 =>
  k19 w37 i1 i2 r36)
noncomputable def fX9_nth_19 (k19 : Mem → Int32 → Int32 → Int32 → Option (Int32 × Mem)) (v0 : Mem) (i1 : Int32) (i2 : Int32) (i3 : Int32) : Option (Int32 × Mem) :=
  if i3 < 0 then (
  if i2 ≤ i1 then (
  some ((-5 : Int32), v0))
  else (
  gb (inR i1 21) (
  some ((gI v0 33 i1.toNatClampNeg), v0))))
  else (
  ob2 (fX9_costOf v0 i3) fun r7 w8 =>
  if i2 ≤ i1 then (
  fX9_nth_46 k19 w8 i1 i2 i3 r7)
  else (
  gb (inR i1 21) (
  if (gI w8 34 i1.toNatClampNeg) ≤ r7 then (
  ob2 (fX9_nextCode w8 i3) fun r21 w22 =>
  k19 w22 i1 i2 r21)
  else (
  fX9_nth_46 k19 w8 i1 i2 i3 r7))))
noncomputable def fX9_nth (v0 : Mem) (i1 : Int32) : Option (Int32 × Mem) :=
  ob (fX9_isIn i1.toInt64 (0 : Int64) (19 : Int64)) fun r1 =>
  if r1 = 0 then (
  some ((-2 : Int32), v0))
  else (
  lq4 (fX9_nth_19) FU v0 i1 (0 : Int32) (0 : Int32))
set_option maxHeartbeats 4000000 in
theorem w_fX9_nth_125 (C : Cx G p s m args meth c RX9 cX9_nth 6 (some .int)) {b0 : Nat} {rx : Int32} {rw0 : Mem} {k19 : Mem → Int32 → Int32 → Int32 → Option (Int32 × Mem)} (hk19 : ∀ (v0 : Mem) (i1 : Int32) (i2 : Int32) (i3 : Int32), k19 v0 i1 i2 i3 = some (rx, rw0) → ∀ (H : Heap) (locs : List Loc) (ls : Array Slot), rg G b0 46 (shX9 G.2.1) v0 H → va_S (FA (iv b0 46) s.heap.size) s.heap H locs → H.size = s.heap.size → lv_has ls 6 [(0, .ref b0), (1, .int i1), (2, .int i2), (3, .int i3)] → W p l e (rmT 4 0 0 90) s m args below meth c H locs 0 0 (MQ below (QcT (FA (iv b0 46) s.heap.size) (fun ov H => ov = (some (.int rx)) ∧ rg G b0 46 (shX9 G.2.1) rw0 H ∧ H.size = s.heap.size)) args s 0 0 (FA (iv b0 46) s.heap.size)) (F0 m 19 ls [])) : ∀ (v0 : Mem) (i1 : Int32) (i2 : Int32) (i3 : Int32) (i4 : Int32) (i5 : Int32), fX9_nth_125 k19 v0 i1 i2 i3 i4 i5 = some (rx, rw0) → ∀ (H : Heap) (locs : List Loc) (ls : Array Slot), rg G b0 46 (shX9 G.2.1) v0 H → va_S (FA (iv b0 46) s.heap.size) s.heap H locs → H.size = s.heap.size → lv_has ls 6 [(0, .ref b0), (1, .int i1), (2, .int i2), (3, .int i3), (4, .int i4), (5, .int i5)] → W p l e (rmT 4 0 0 90) s m args below meth c H locs 0 0 (MQ below (QcT (FA (iv b0 46) s.heap.size) (fun ov H => ov = (some (.int rx)) ∧ rg G b0 46 (shX9 G.2.1) rw0 H ∧ H.size = s.heap.size)) args s 0 0 (FA (iv b0 46) s.heap.size)) (F0 m 125 ls []) := by
  intro v0 i1 i2 i3 i4 i5 hm H locs ls hW0 hS hz hl
  obtain ⟨hx, hb, hr, hlk, hml, hown, hts, hK⟩ := id C
  unfold fX9_nth_125 at hm
  refine lv_aload_n (pc := 125) hx hb dX9_nth_125 rfl (lv_at hl 0 rfl) ?_
  refine rk_get (pc := 126) hx hb hts hown hK hW0 flX9_40 0 (by decide) rfl rfl (x := .ref (b0 + 33)) (by first | rfl | exact congrArg (fun z => some (Value.ref z)) (by omega)) dX9_nth_126 ?_
  refine lv_iload (pc := 129) hx hb dX9_nth_129 (lv_at hl 5 rfl) ?_
  refine lv_iload_n (pc := 131) hx hb dX9_nth_131 rfl (lv_at hl 3 rfl) ?_
  obtain ⟨hg70, hm⟩ := gb_some hm
  refine rk_iast (pc := 132) hx hb hK hW0 hS 33 (by decide) rfl (Or.inl (show iv _ _ _ from ⟨by omega, by omega⟩)) (fun _ _ _ => rfl) hg70 dX9_nth_132 (fun H72 locs73 hW74 hS75 hz76 hkp77 => ?_)
  obtain ⟨v0_71, he9, hm⟩ := lm_some hm
  rw [he9] at hW74
  have hz78 := hz76.trans hz
  refine lv_aload_n (pc := 133) hx hb dX9_nth_133 rfl (lv_at hl 0 rfl) ?_
  refine rk_get (pc := 134) hx hb hts hown hK hW74 flX9_43 0 (by decide) rfl rfl (x := .ref (b0 + 34)) (by first | rfl | exact congrArg (fun z => some (Value.ref z)) (by omega)) dX9_nth_134 ?_
  refine lv_iload (pc := 137) hx hb dX9_nth_137 (lv_at hl 5 rfl) ?_
  refine lv_iload (pc := 139) hx hb dX9_nth_139 (lv_at hl 4 rfl) ?_
  obtain ⟨hg79, hm⟩ := gb_some hm
  refine rk_iast (pc := 141) hx hb hK hW74 hS75 34 (by decide) rfl (Or.inl (show iv _ _ _ from ⟨by omega, by omega⟩)) (fun _ _ _ => rfl) hg79 dX9_nth_141 (fun H81 locs82 hW83 hS84 hz85 hkp86 => ?_)
  obtain ⟨v0_80, he9, hm⟩ := lm_some hm
  rw [he9] at hW83
  have hz87 := hz85.trans hz78
  refine lv_iload_n (pc := 142) hx hb dX9_nth_142 rfl (lv_at hl 2 rfl) ?_
  refine lv_iconst (pc := 143) (v := (1 : Int32)) hx hb dX9_nth_143 (by decide) ?_
  refine lv_iadd (pc := 144) hx hb dX9_nth_144 ?_
  refine lv_iload_n (pc := 145) hx hb dX9_nth_145 rfl (lv_at hl 1 rfl) ?_
  refine lv_iconst (pc := 146) (v := (1 : Int32)) hx hb dX9_nth_146 (by decide) ?_
  refine lv_iadd (pc := 147) hx hb dX9_nth_147 ?_
  obtain ⟨r88, hq89, hm⟩ := ob_some hm
  refine rk_PS (pc := 148) (As := [.int (i2 + (1 : Int32)), .int (i1 + (1 : Int32))]) (rest := []) hx hb hml hown hts hK lkX9_359 yn_J7_min (ct_J7_min (G := G) (l := l) hq89) ⟨Nat.le_of_ble_eq_true rfl, Nat.le_of_ble_eq_true rfl⟩ trivial rfl rfl hl.1 (Nat.le_of_ble_eq_true rfl) dX9_nth_148 ⟨Nat.zero_le _, Nat.zero_le _⟩ ?_
  refine W.eq (g2 := F0 m 151 ls [.int r88]) rfl ?_
  refine lv_istore_n (pc := 151) (lv' := [(2, .int r88), (0, .ref b0), (1, .int i1), (3, .int i3), (4, .int i4), (5, .int i5)]) hx hb dX9_nth_151 rfl hl (by decide) rfl (fun ls hl => ?_)
  refine lv_aload_n (pc := 152) hx hb dX9_nth_152 rfl (lv_at hl 1 rfl) ?_
  refine lv_iload_n (pc := 153) hx hb dX9_nth_153 rfl (lv_at hl 3 rfl) ?_
  obtain ⟨r90, w91, hq92, hm⟩ := ob2_some hm
  refine rk_TV (pc := 154) (As := [.int i3]) (rest := []) (mc := 0) (ms := 0) hx hb hml hown hts hK hS84 (fun q hq => FA_sz rfl q hq) lkX9_362 rfl yn_X9_nextCode (ct_X9_nextCode (G := G) (l := l) (b0 := b0) (sz := H81.size) hq92) ⟨Nat.le_of_ble_eq_true rfl, Nat.le_of_ble_eq_true rfl⟩ (fun z h => Or.inl (show iv _ _ _ from ⟨by have h8 := h.1; have h9 := h.2; omega, by have h8 := h.1; have h9 := h.2; omega⟩)) (rk_recv hK hW83 0 (by decide) rfl rfl rfl) hW83 rfl rfl hl.1 (Nat.le_of_ble_eq_true rfl) dX9_nth_154 ⟨Nat.zero_le _, Nat.zero_le _⟩ (fun ov9 H93 locs94 hP95 hkp96 hS97 => ?_)
  obtain ⟨rfl, hW98, hz99⟩ := hP95
  have hz100 := hz99.trans hz87
  refine W.eq (g2 := F0 m 157 ls [.int r90]) rfl ?_
  refine lv_istore_n (pc := 157) (lv' := [(3, .int r90), (2, .int r88), (0, .ref b0), (1, .int i1), (4, .int i4), (5, .int i5)]) hx hb dX9_nth_157 rfl hl (by decide) rfl (fun ls hl => ?_)
  refine lv_goto (pc := 158) (tgt := 19) hx hb dX9_nth_158 (by decide) ?_
  exact hk19 w91 i1 r88 r90 hm H93 locs94 ls hW98 hS97 hz100 (lv_sub hl [2, 3, 1, 0] rfl)
set_option maxHeartbeats 4000000 in
theorem w_fX9_nth_68 (C : Cx G p s m args meth c RX9 cX9_nth 6 (some .int)) {b0 : Nat} {rx : Int32} {rw0 : Mem} {k19 : Mem → Int32 → Int32 → Int32 → Option (Int32 × Mem)} {k68 : Mem → Int32 → Int32 → Int32 → Int32 → Int32 → Option (Int32 × Mem)} (hk19 : ∀ (v0 : Mem) (i1 : Int32) (i2 : Int32) (i3 : Int32), k19 v0 i1 i2 i3 = some (rx, rw0) → ∀ (H : Heap) (locs : List Loc) (ls : Array Slot), rg G b0 46 (shX9 G.2.1) v0 H → va_S (FA (iv b0 46) s.heap.size) s.heap H locs → H.size = s.heap.size → lv_has ls 6 [(0, .ref b0), (1, .int i1), (2, .int i2), (3, .int i3)] → W p l e (rmT 4 0 0 90) s m args below meth c H locs 0 0 (MQ below (QcT (FA (iv b0 46) s.heap.size) (fun ov H => ov = (some (.int rx)) ∧ rg G b0 46 (shX9 G.2.1) rw0 H ∧ H.size = s.heap.size)) args s 0 0 (FA (iv b0 46) s.heap.size)) (F0 m 19 ls [])) (hk68 : ∀ (v0 : Mem) (i1 : Int32) (i2 : Int32) (i3 : Int32) (i4 : Int32) (i5 : Int32), k68 v0 i1 i2 i3 i4 i5 = some (rx, rw0) → ∀ (H : Heap) (locs : List Loc) (ls : Array Slot), rg G b0 46 (shX9 G.2.1) v0 H → va_S (FA (iv b0 46) s.heap.size) s.heap H locs → H.size = s.heap.size → lv_has ls 6 [(0, .ref b0), (1, .int i1), (2, .int i2), (3, .int i3), (4, .int i4), (5, .int i5)] → W p l e (rmT 4 0 0 90) s m args below meth c H locs 0 0 (MQ below (QcT (FA (iv b0 46) s.heap.size) (fun ov H => ov = (some (.int rx)) ∧ rg G b0 46 (shX9 G.2.1) rw0 H ∧ H.size = s.heap.size)) args s 0 0 (FA (iv b0 46) s.heap.size)) (F0 m 68 ls [])) : ∀ (v0 : Mem) (i1 : Int32) (i2 : Int32) (i3 : Int32) (i4 : Int32) (i5 : Int32), fX9_nth_68 k19 k68 v0 i1 i2 i3 i4 i5 = some (rx, rw0) → ∀ (H : Heap) (locs : List Loc) (ls : Array Slot), rg G b0 46 (shX9 G.2.1) v0 H → va_S (FA (iv b0 46) s.heap.size) s.heap H locs → H.size = s.heap.size → lv_has ls 6 [(0, .ref b0), (1, .int i1), (2, .int i2), (3, .int i3), (4, .int i4), (5, .int i5)] → W p l e (rmT 4 0 0 90) s m args below meth c H locs 0 0 (MQ below (QcT (FA (iv b0 46) s.heap.size) (fun ov H => ov = (some (.int rx)) ∧ rg G b0 46 (shX9 G.2.1) rw0 H ∧ H.size = s.heap.size)) args s 0 0 (FA (iv b0 46) s.heap.size)) (F0 m 68 ls []) := by
  intro v0 i1 i2 i3 i4 i5 hm H locs ls hW0 hS hz hl
  obtain ⟨hx, hb, hr, hlk, hml, hown, hts, hK⟩ := id C
  unfold fX9_nth_68 at hm
  refine lv_iload (pc := 68) hx hb dX9_nth_68 (lv_at hl 5 rfl) ?_
  refine lv_if_le (pc := 70) (tgt := 125) hx hb dX9_nth_70 (by decide) (fun c47 => ?_) (fun c47 => ?_)
  · have hm := ite_t c47 hm
    exact (w_fX9_nth_125 C hk19) v0 i1 i2 i3 i4 i5 hm H locs ls hW0 hS hz (lv_sub hl [0, 1, 2, 3, 4, 5] rfl)
  · have hm := ite_f c47 hm
    refine lv_aload_n (pc := 73) hx hb dX9_nth_73 rfl (lv_at hl 0 rfl) ?_
    refine rk_get (pc := 74) hx hb hts hown hK hW0 flX9_43 0 (by decide) rfl rfl (x := .ref (b0 + 34)) (by first | rfl | exact congrArg (fun z => some (Value.ref z)) (by omega)) dX9_nth_74 ?_
    refine lv_iload (pc := 77) hx hb dX9_nth_77 (lv_at hl 5 rfl) ?_
    refine lv_iconst (pc := 79) (v := (1 : Int32)) hx hb dX9_nth_79 (by decide) ?_
    refine lv_isub (pc := 80) hx hb dX9_nth_80 ?_
    obtain ⟨hg48, hm⟩ := gb_some hm
    refine rk_iald (pc := 81) hx hb hK hW0 34 (by decide) rfl rfl hg48 (x := (gI v0 34 (i5 - (1 : Int32)).toNatClampNeg)) rfl dX9_nth_81 ?_
    refine lv_iload (pc := 82) hx hb dX9_nth_82 (lv_at hl 4 rfl) ?_
    refine lv_icmp_le (pc := 84) (tgt := 125) hx hb dX9_nth_84 (by decide) (fun c49 => ?_) (fun c49 => ?_)
    · have hm := ite_t c49 hm
      exact (w_fX9_nth_125 C hk19) v0 i1 i2 i3 i4 i5 hm H locs ls hW0 hS hz (lv_sub hl [0, 1, 2, 3, 4, 5] rfl)
    · have hm := ite_f c49 hm
      refine lv_aload_n (pc := 87) hx hb dX9_nth_87 rfl (lv_at hl 0 rfl) ?_
      refine rk_get (pc := 88) hx hb hts hown hK hW0 flX9_40 0 (by decide) rfl rfl (x := .ref (b0 + 33)) (by first | rfl | exact congrArg (fun z => some (Value.ref z)) (by omega)) dX9_nth_88 ?_
      refine lv_iload (pc := 91) hx hb dX9_nth_91 (lv_at hl 5 rfl) ?_
      refine lv_aload_n (pc := 93) hx hb dX9_nth_93 rfl (lv_at hl 0 rfl) ?_
      refine rk_get (pc := 94) hx hb hts hown hK hW0 flX9_40 0 (by decide) rfl rfl (x := .ref (b0 + 33)) (by first | rfl | exact congrArg (fun z => some (Value.ref z)) (by omega)) dX9_nth_94 ?_
      refine lv_iload (pc := 97) hx hb dX9_nth_97 (lv_at hl 5 rfl) ?_
      refine lv_iconst (pc := 99) (v := (1 : Int32)) hx hb dX9_nth_99 (by decide) ?_
      refine lv_isub (pc := 100) hx hb dX9_nth_100 ?_
      obtain ⟨hg50, hm⟩ := gb_some hm
      refine rk_iald (pc := 101) hx hb hK hW0 33 (by decide) rfl rfl hg50 (x := (gI v0 33 (i5 - (1 : Int32)).toNatClampNeg)) rfl dX9_nth_101 ?_
      obtain ⟨hg51, hm⟩ := gb_some hm
      refine rk_iast (pc := 102) hx hb hK hW0 hS 33 (by decide) rfl (Or.inl (show iv _ _ _ from ⟨by omega, by omega⟩)) (fun _ _ _ => rfl) hg51 dX9_nth_102 (fun H53 locs54 hW55 hS56 hz57 hkp58 => ?_)
      obtain ⟨v0_52, he9, hm⟩ := lm_some hm
      rw [he9] at hW55
      have hz59 := hz57.trans hz
      refine lv_aload_n (pc := 103) hx hb dX9_nth_103 rfl (lv_at hl 0 rfl) ?_
      refine rk_get (pc := 104) hx hb hts hown hK hW55 flX9_43 0 (by decide) rfl rfl (x := .ref (b0 + 34)) (by first | rfl | exact congrArg (fun z => some (Value.ref z)) (by omega)) dX9_nth_104 ?_
      refine lv_iload (pc := 107) hx hb dX9_nth_107 (lv_at hl 5 rfl) ?_
      refine lv_aload_n (pc := 109) hx hb dX9_nth_109 rfl (lv_at hl 0 rfl) ?_
      refine rk_get (pc := 110) hx hb hts hown hK hW55 flX9_43 0 (by decide) rfl rfl (x := .ref (b0 + 34)) (by first | rfl | exact congrArg (fun z => some (Value.ref z)) (by omega)) dX9_nth_110 ?_
      refine lv_iload (pc := 113) hx hb dX9_nth_113 (lv_at hl 5 rfl) ?_
      refine lv_iconst (pc := 115) (v := (1 : Int32)) hx hb dX9_nth_115 (by decide) ?_
      refine lv_isub (pc := 116) hx hb dX9_nth_116 ?_
      obtain ⟨hg60, hm⟩ := gb_some hm
      refine rk_iald (pc := 117) hx hb hK hW55 34 (by decide) rfl rfl hg60 (x := (gI v0_52 34 (i5 - (1 : Int32)).toNatClampNeg)) rfl dX9_nth_117 ?_
      obtain ⟨hg61, hm⟩ := gb_some hm
      refine rk_iast (pc := 118) hx hb hK hW55 hS56 34 (by decide) rfl (Or.inl (show iv _ _ _ from ⟨by omega, by omega⟩)) (fun _ _ _ => rfl) hg61 dX9_nth_118 (fun H63 locs64 hW65 hS66 hz67 hkp68 => ?_)
      obtain ⟨v0_62, he9, hm⟩ := lm_some hm
      rw [he9] at hW65
      have hz69 := hz67.trans hz59
      refine lv_iinc (pc := 119) (v := (i5 + (-1 : Int32))) (lv' := [(5, .int (i5 + (-1 : Int32))), (0, .ref b0), (1, .int i1), (2, .int i2), (3, .int i3), (4, .int i4)]) hx hb dX9_nth_119 hl (k := 5) rfl (congrArg (i5 + ·) (show Int32.ofInt (-1) = (-1 : Int32) by decide)) (by decide) rfl (fun ls hl => ?_)
      refine lv_goto (pc := 122) (tgt := 68) hx hb dX9_nth_122 (by decide) ?_
      exact hk68 v0_62 i1 i2 i3 i4 (i5 + (-1 : Int32)) hm H63 locs64 ls hW65 hS66 hz69 (lv_sub hl [1, 2, 3, 4, 5, 0] rfl)
theorem w_fX9_nth_68_l (C : Cx G p s m args meth c RX9 cX9_nth 6 (some .int)) {b0 : Nat} {rx : Int32} {rw0 : Mem} {k19 : Mem → Int32 → Int32 → Int32 → Option (Int32 × Mem)} (hk19 : ∀ (v0 : Mem) (i1 : Int32) (i2 : Int32) (i3 : Int32), k19 v0 i1 i2 i3 = some (rx, rw0) → ∀ (H : Heap) (locs : List Loc) (ls : Array Slot), rg G b0 46 (shX9 G.2.1) v0 H → va_S (FA (iv b0 46) s.heap.size) s.heap H locs → H.size = s.heap.size → lv_has ls 6 [(0, .ref b0), (1, .int i1), (2, .int i2), (3, .int i3)] → W p l e (rmT 4 0 0 90) s m args below meth c H locs 0 0 (MQ below (QcT (FA (iv b0 46) s.heap.size) (fun ov H => ov = (some (.int rx)) ∧ rg G b0 46 (shX9 G.2.1) rw0 H ∧ H.size = s.heap.size)) args s 0 0 (FA (iv b0 46) s.heap.size)) (F0 m 19 ls [])) : ∀ (n : Nat) (v0 : Mem) (i1 : Int32) (i2 : Int32) (i3 : Int32) (i4 : Int32) (i5 : Int32), lq6 (fX9_nth_68 k19) n v0 i1 i2 i3 i4 i5 = some (rx, rw0) → ∀ (H : Heap) (locs : List Loc) (ls : Array Slot), rg G b0 46 (shX9 G.2.1) v0 H → va_S (FA (iv b0 46) s.heap.size) s.heap H locs → H.size = s.heap.size → lv_has ls 6 [(0, .ref b0), (1, .int i1), (2, .int i2), (3, .int i3), (4, .int i4), (5, .int i5)] → W p l e (rmT 4 0 0 90) s m args below meth c H locs 0 0 (MQ below (QcT (FA (iv b0 46) s.heap.size) (fun ov H => ov = (some (.int rx)) ∧ rg G b0 46 (shX9 G.2.1) rw0 H ∧ H.size = s.heap.size)) args s 0 0 (FA (iv b0 46) s.heap.size)) (F0 m 68 ls []) := by
  intro n
  induction n with
  | zero => intro v0 i1 i2 i3 i4 i5 hm; exact (lq6_0 hm).elim
  | succ n ih => intro v0 i1 i2 i3 i4 i5 hm; exact w_fX9_nth_68 C hk19 ih v0 i1 i2 i3 i4 i5 (lq6_s hm)
set_option maxHeartbeats 4000000 in
theorem w_fX9_nth_46 (C : Cx G p s m args meth c RX9 cX9_nth 6 (some .int)) {b0 : Nat} {rx : Int32} {rw0 : Mem} {k19 : Mem → Int32 → Int32 → Int32 → Option (Int32 × Mem)} (hk19 : ∀ (v0 : Mem) (i1 : Int32) (i2 : Int32) (i3 : Int32), k19 v0 i1 i2 i3 = some (rx, rw0) → ∀ (H : Heap) (locs : List Loc) (ls : Array Slot), rg G b0 46 (shX9 G.2.1) v0 H → va_S (FA (iv b0 46) s.heap.size) s.heap H locs → H.size = s.heap.size → lv_has ls 6 [(0, .ref b0), (1, .int i1), (2, .int i2), (3, .int i3)] → W p l e (rmT 4 0 0 90) s m args below meth c H locs 0 0 (MQ below (QcT (FA (iv b0 46) s.heap.size) (fun ov H => ov = (some (.int rx)) ∧ rg G b0 46 (shX9 G.2.1) rw0 H ∧ H.size = s.heap.size)) args s 0 0 (FA (iv b0 46) s.heap.size)) (F0 m 19 ls [])) : ∀ (v0 : Mem) (i1 : Int32) (i2 : Int32) (i3 : Int32) (i4 : Int32), fX9_nth_46 k19 v0 i1 i2 i3 i4 = some (rx, rw0) → ∀ (H : Heap) (locs : List Loc) (ls : Array Slot), rg G b0 46 (shX9 G.2.1) v0 H → va_S (FA (iv b0 46) s.heap.size) s.heap H locs → H.size = s.heap.size → lv_has ls 6 [(0, .ref b0), (1, .int i1), (2, .int i2), (3, .int i3), (4, .int i4)] → W p l e (rmT 4 0 0 90) s m args below meth c H locs 0 0 (MQ below (QcT (FA (iv b0 46) s.heap.size) (fun ov H => ov = (some (.int rx)) ∧ rg G b0 46 (shX9 G.2.1) rw0 H ∧ H.size = s.heap.size)) args s 0 0 (FA (iv b0 46) s.heap.size)) (F0 m 46 ls []) := by
  intro v0 i1 i2 i3 i4 hm H locs ls hW0 hS hz hl
  obtain ⟨hx, hb, hr, hlk, hml, hown, hts, hK⟩ := id C
  unfold fX9_nth_46 at hm
  refine lv_aload_n (pc := 46) hx hb dX9_nth_46 rfl (lv_at hl 0 rfl) ?_
  obtain ⟨r32, hq33, hm⟩ := ob_some hm
  refine rk_PV (pc := 47) (As := []) (rest := []) hx hb hml hown hts hK lkX9_356 rfl yn_X9_broken (ct_X9_broken (G := G) (l := l) (b0 := b0) hq33) ⟨Nat.le_of_ble_eq_true rfl, Nat.le_of_ble_eq_true rfl⟩ (rk_recv hK hW0 0 (by decide) rfl rfl rfl) hW0 rfl rfl hl.1 (Nat.le_of_ble_eq_true rfl) dX9_nth_47 ⟨Nat.zero_le _, Nat.zero_le _⟩ ?_
  refine W.eq (g2 := F0 m 50 ls [.int r32]) rfl ?_
  refine lv_if_le (pc := 50) (tgt := 56) hx hb dX9_nth_50 (by decide) (fun c34 => ?_) (fun c34 => ?_)
  · have hm := ite_t c34 hm
    refine lv_iload_n (pc := 56) hx hb dX9_nth_56 rfl (lv_at hl 2 rfl) ?_
    refine lv_iload_n (pc := 57) hx hb dX9_nth_57 rfl (lv_at hl 1 rfl) ?_
    refine lv_icmp_gt (pc := 58) (tgt := 65) hx hb dX9_nth_58 (by decide) (fun c35 => ?_) (fun c35 => ?_)
    · have hm := ite_t c35 hm
      refine lv_iload_n (pc := 65) hx hb dX9_nth_65 rfl (lv_at hl 1 rfl) ?_
      refine lv_istore (pc := 66) (lv' := [(5, .int i1), (0, .ref b0), (1, .int i1), (2, .int i2), (3, .int i3), (4, .int i4)]) hx hb dX9_nth_66 hl (by decide) rfl (fun ls hl => ?_)
      exact (w_fX9_nth_68_l C hk19 FU) v0 i1 i2 i3 i4 i1 hm H locs ls hW0 hS hz (lv_sub hl [1, 2, 3, 4, 5, 0] rfl)
    · have hm := ite_f c35 hm
      refine lv_iload_n (pc := 61) hx hb dX9_nth_61 rfl (lv_at hl 2 rfl) ?_
      refine lv_goto (pc := 62) (tgt := 66) hx hb dX9_nth_62 (by decide) ?_
      refine lv_istore (pc := 66) (lv' := [(5, .int i2), (0, .ref b0), (1, .int i1), (2, .int i2), (3, .int i3), (4, .int i4)]) hx hb dX9_nth_66 hl (by decide) rfl (fun ls hl => ?_)
      exact (w_fX9_nth_68_l C hk19 FU) v0 i1 i2 i3 i4 i2 hm H locs ls hW0 hS hz (lv_sub hl [1, 2, 3, 4, 5, 0] rfl)
  · have hm := ite_f c34 hm
    refine lv_goto (pc := 53) (tgt := 152) hx hb dX9_nth_53 (by decide) ?_
    refine lv_aload_n (pc := 152) hx hb dX9_nth_152 rfl (lv_at hl 0 rfl) ?_
    refine lv_iload_n (pc := 153) hx hb dX9_nth_153 rfl (lv_at hl 3 rfl) ?_
    obtain ⟨r36, w37, hq38, hm⟩ := ob2_some hm
    refine rk_TV (pc := 154) (As := [.int i3]) (rest := []) (mc := 0) (ms := 0) hx hb hml hown hts hK hS (fun q hq => FA_sz rfl q hq) lkX9_362 rfl yn_X9_nextCode (ct_X9_nextCode (G := G) (l := l) (b0 := b0) (sz := H.size) hq38) ⟨Nat.le_of_ble_eq_true rfl, Nat.le_of_ble_eq_true rfl⟩ (fun z h => Or.inl (show iv _ _ _ from ⟨by have h8 := h.1; have h9 := h.2; omega, by have h8 := h.1; have h9 := h.2; omega⟩)) (rk_recv hK hW0 0 (by decide) rfl rfl rfl) hW0 rfl rfl hl.1 (Nat.le_of_ble_eq_true rfl) dX9_nth_154 ⟨Nat.zero_le _, Nat.zero_le _⟩ (fun ov9 H39 locs40 hP41 hkp42 hS43 => ?_)
    obtain ⟨rfl, hW44, hz45⟩ := hP41
    have hz46 := hz45.trans hz
    refine W.eq (g2 := F0 m 157 ls [.int r36]) rfl ?_
    refine lv_istore_n (pc := 157) (lv' := [(3, .int r36), (0, .ref b0), (1, .int i1), (2, .int i2), (4, .int i4)]) hx hb dX9_nth_157 rfl hl (by decide) rfl (fun ls hl => ?_)
    refine lv_goto (pc := 158) (tgt := 19) hx hb dX9_nth_158 (by decide) ?_
    exact hk19 w37 i1 i2 r36 hm H39 locs40 ls hW44 hS43 hz46 (lv_sub hl [1, 2, 3, 0] rfl)
set_option maxHeartbeats 4000000 in
theorem w_fX9_nth_19 (C : Cx G p s m args meth c RX9 cX9_nth 6 (some .int)) {b0 : Nat} {rx : Int32} {rw0 : Mem} {k19 : Mem → Int32 → Int32 → Int32 → Option (Int32 × Mem)} (hk19 : ∀ (v0 : Mem) (i1 : Int32) (i2 : Int32) (i3 : Int32), k19 v0 i1 i2 i3 = some (rx, rw0) → ∀ (H : Heap) (locs : List Loc) (ls : Array Slot), rg G b0 46 (shX9 G.2.1) v0 H → va_S (FA (iv b0 46) s.heap.size) s.heap H locs → H.size = s.heap.size → lv_has ls 6 [(0, .ref b0), (1, .int i1), (2, .int i2), (3, .int i3)] → W p l e (rmT 4 0 0 90) s m args below meth c H locs 0 0 (MQ below (QcT (FA (iv b0 46) s.heap.size) (fun ov H => ov = (some (.int rx)) ∧ rg G b0 46 (shX9 G.2.1) rw0 H ∧ H.size = s.heap.size)) args s 0 0 (FA (iv b0 46) s.heap.size)) (F0 m 19 ls [])) : ∀ (v0 : Mem) (i1 : Int32) (i2 : Int32) (i3 : Int32), fX9_nth_19 k19 v0 i1 i2 i3 = some (rx, rw0) → ∀ (H : Heap) (locs : List Loc) (ls : Array Slot), rg G b0 46 (shX9 G.2.1) v0 H → va_S (FA (iv b0 46) s.heap.size) s.heap H locs → H.size = s.heap.size → lv_has ls 6 [(0, .ref b0), (1, .int i1), (2, .int i2), (3, .int i3)] → W p l e (rmT 4 0 0 90) s m args below meth c H locs 0 0 (MQ below (QcT (FA (iv b0 46) s.heap.size) (fun ov H => ov = (some (.int rx)) ∧ rg G b0 46 (shX9 G.2.1) rw0 H ∧ H.size = s.heap.size)) args s 0 0 (FA (iv b0 46) s.heap.size)) (F0 m 19 ls []) := by
  intro v0 i1 i2 i3 hm H locs ls hW0 hS hz hl
  obtain ⟨hx, hb, hr, hlk, hml, hown, hts, hK⟩ := id C
  unfold fX9_nth_19 at hm
  refine lv_iload_n (pc := 19) hx hb dX9_nth_19 rfl (lv_at hl 3 rfl) ?_
  refine lv_if_lt (pc := 20) (tgt := 161) hx hb dX9_nth_20 (by decide) (fun c4 => ?_) (fun c4 => ?_)
  · have hm := ite_t c4 hm
    refine lv_iload_n (pc := 161) hx hb dX9_nth_161 rfl (lv_at hl 2 rfl) ?_
    refine lv_iload_n (pc := 162) hx hb dX9_nth_162 rfl (lv_at hl 1 rfl) ?_
    refine lv_icmp_le (pc := 163) (tgt := 175) hx hb dX9_nth_163 (by decide) (fun c5 => ?_) (fun c5 => ?_)
    · have hm := ite_t c5 hm
      refine lv_bipush (pc := 175) (v := (-5 : Int32)) hx hb dX9_nth_175 (by decide) ?_
      obtain ⟨e8, e9⟩ := rs2 hm
      subst e8
      subst e9
      exact rk_iret (pc := 177) hx hb hr hlk hS ⟨rfl, hW0, hz⟩ dX9_nth_177
    · have hm := ite_f c5 hm
      refine lv_aload_n (pc := 166) hx hb dX9_nth_166 rfl (lv_at hl 0 rfl) ?_
      refine rk_get (pc := 167) hx hb hts hown hK hW0 flX9_40 0 (by decide) rfl rfl (x := .ref (b0 + 33)) (by first | rfl | exact congrArg (fun z => some (Value.ref z)) (by omega)) dX9_nth_167 ?_
      refine lv_iload_n (pc := 170) hx hb dX9_nth_170 rfl (lv_at hl 1 rfl) ?_
      obtain ⟨hg6, hm⟩ := gb_some hm
      refine rk_iald (pc := 171) hx hb hK hW0 33 (by decide) rfl rfl hg6 (x := (gI v0 33 i1.toNatClampNeg)) rfl dX9_nth_171 ?_
      refine lv_goto (pc := 172) (tgt := 177) hx hb dX9_nth_172 (by decide) ?_
      obtain ⟨e8, e9⟩ := rs2 hm
      subst e8
      subst e9
      exact rk_iret (pc := 177) hx hb hr hlk hS ⟨rfl, hW0, hz⟩ dX9_nth_177
  · have hm := ite_f c4 hm
    refine lv_aload_n (pc := 23) hx hb dX9_nth_23 rfl (lv_at hl 0 rfl) ?_
    refine lv_iload_n (pc := 24) hx hb dX9_nth_24 rfl (lv_at hl 3 rfl) ?_
    obtain ⟨r7, w8, hq9, hm⟩ := ob2_some hm
    refine rk_TV (pc := 25) (As := [.int i3]) (rest := []) (mc := 0) (ms := 0) hx hb hml hown hts hK hS (fun q hq => FA_sz rfl q hq) lkX9_353 rfl yn_X9_costOf (ct_X9_costOf (G := G) (l := l) (b0 := b0) (sz := H.size) hq9) ⟨Nat.le_of_ble_eq_true rfl, Nat.le_of_ble_eq_true rfl⟩ (fun z h => Or.inl (show iv _ _ _ from ⟨by have h8 := h.1; have h9 := h.2; omega, by have h8 := h.1; have h9 := h.2; omega⟩)) (rk_recv hK hW0 0 (by decide) rfl rfl rfl) hW0 rfl rfl hl.1 (Nat.le_of_ble_eq_true rfl) dX9_nth_25 ⟨Nat.zero_le _, Nat.zero_le _⟩ (fun ov9 H10 locs11 hP12 hkp13 hS14 => ?_)
    obtain ⟨rfl, hW15, hz16⟩ := hP12
    have hz17 := hz16.trans hz
    refine W.eq (g2 := F0 m 28 ls [.int r7]) rfl ?_
    refine lv_istore (pc := 28) (lv' := [(4, .int r7), (0, .ref b0), (1, .int i1), (2, .int i2), (3, .int i3)]) hx hb dX9_nth_28 hl (by decide) rfl (fun ls hl => ?_)
    refine lv_iload_n (pc := 30) hx hb dX9_nth_30 rfl (lv_at hl 3 rfl) ?_
    refine lv_iload_n (pc := 31) hx hb dX9_nth_31 rfl (lv_at hl 2 rfl) ?_
    refine lv_icmp_le (pc := 32) (tgt := 46) hx hb dX9_nth_32 (by decide) (fun c18 => ?_) (fun c18 => ?_)
    · have hm := ite_t c18 hm
      exact (w_fX9_nth_46 C hk19) w8 i1 i2 i3 r7 hm H10 locs11 ls hW15 hS14 hz17 (lv_sub hl [1, 2, 3, 4, 0] rfl)
    · have hm := ite_f c18 hm
      refine lv_iload (pc := 35) hx hb dX9_nth_35 (lv_at hl 0 rfl) ?_
      refine lv_aload_n (pc := 37) hx hb dX9_nth_37 rfl (lv_at hl 1 rfl) ?_
      refine rk_get (pc := 38) hx hb hts hown hK hW15 flX9_43 0 (by decide) rfl rfl (x := .ref (b0 + 34)) (by first | rfl | exact congrArg (fun z => some (Value.ref z)) (by omega)) dX9_nth_38 ?_
      refine lv_iload_n (pc := 41) hx hb dX9_nth_41 rfl (lv_at hl 2 rfl) ?_
      obtain ⟨hg19, hm⟩ := gb_some hm
      refine rk_iald (pc := 42) hx hb hK hW15 34 (by decide) rfl rfl hg19 (x := (gI w8 34 i1.toNatClampNeg)) rfl dX9_nth_42 ?_
      refine lv_icmp_ge (pc := 43) (tgt := 152) hx hb dX9_nth_43 (by decide) (fun c20 => ?_) (fun c20 => ?_)
      · have hm := ite_t c20 hm
        refine lv_aload_n (pc := 152) hx hb dX9_nth_152 rfl (lv_at hl 1 rfl) ?_
        refine lv_iload_n (pc := 153) hx hb dX9_nth_153 rfl (lv_at hl 4 rfl) ?_
        obtain ⟨r21, w22, hq23, hm⟩ := ob2_some hm
        refine rk_TV (pc := 154) (As := [.int i3]) (rest := []) (mc := 0) (ms := 0) hx hb hml hown hts hK hS14 (fun q hq => FA_sz rfl q hq) lkX9_362 rfl yn_X9_nextCode (ct_X9_nextCode (G := G) (l := l) (b0 := b0) (sz := H10.size) hq23) ⟨Nat.le_of_ble_eq_true rfl, Nat.le_of_ble_eq_true rfl⟩ (fun z h => Or.inl (show iv _ _ _ from ⟨by have h8 := h.1; have h9 := h.2; omega, by have h8 := h.1; have h9 := h.2; omega⟩)) (rk_recv hK hW15 0 (by decide) rfl rfl rfl) hW15 rfl rfl hl.1 (Nat.le_of_ble_eq_true rfl) dX9_nth_154 ⟨Nat.zero_le _, Nat.zero_le _⟩ (fun ov9 H24 locs25 hP26 hkp27 hS28 => ?_)
        obtain ⟨rfl, hW29, hz30⟩ := hP26
        have hz31 := hz30.trans hz17
        refine W.eq (g2 := F0 m 157 ls [.int r21]) rfl ?_
        refine lv_istore_n (pc := 157) (lv' := [(3, .int r21), (4, .int r7), (0, .ref b0), (1, .int i1), (2, .int i2)]) hx hb dX9_nth_157 rfl hl (by decide) rfl (fun ls hl => ?_)
        refine lv_goto (pc := 158) (tgt := 19) hx hb dX9_nth_158 (by decide) ?_
        exact hk19 w22 i1 i2 r21 hm H24 locs25 ls hW29 hS28 hz31 (lv_sub hl [2, 3, 4, 0] rfl)
      · have hm := ite_f c20 hm
        exact (w_fX9_nth_46 C hk19) w8 i1 i2 i3 r7 hm H10 locs11 ls hW15 hS14 hz17 (lv_sub hl [1, 2, 3, 4, 0] rfl)
theorem w_fX9_nth_19_l (C : Cx G p s m args meth c RX9 cX9_nth 6 (some .int)) {b0 : Nat} {rx : Int32} {rw0 : Mem} : ∀ (n : Nat) (v0 : Mem) (i1 : Int32) (i2 : Int32) (i3 : Int32), lq4 (fX9_nth_19) n v0 i1 i2 i3 = some (rx, rw0) → ∀ (H : Heap) (locs : List Loc) (ls : Array Slot), rg G b0 46 (shX9 G.2.1) v0 H → va_S (FA (iv b0 46) s.heap.size) s.heap H locs → H.size = s.heap.size → lv_has ls 6 [(0, .ref b0), (1, .int i1), (2, .int i2), (3, .int i3)] → W p l e (rmT 4 0 0 90) s m args below meth c H locs 0 0 (MQ below (QcT (FA (iv b0 46) s.heap.size) (fun ov H => ov = (some (.int rx)) ∧ rg G b0 46 (shX9 G.2.1) rw0 H ∧ H.size = s.heap.size)) args s 0 0 (FA (iv b0 46) s.heap.size)) (F0 m 19 ls []) := by
  intro n
  induction n with
  | zero => intro v0 i1 i2 i3 hm; exact (lq4_0 hm).elim
  | succ n ih => intro v0 i1 i2 i3 hm; exact w_fX9_nth_19 C ih v0 i1 i2 i3 (lq4_s hm)
set_option maxHeartbeats 4000000 in
theorem w_fX9_nth (C : Cx G p s m args meth c RX9 cX9_nth 6 (some .int)) {b0 : Nat} {rx : Int32} {rw0 : Mem} : ∀ (v0 : Mem) (i1 : Int32), fX9_nth v0 i1 = some (rx, rw0) → ∀ (H : Heap) (locs : List Loc) (ls : Array Slot), rg G b0 46 (shX9 G.2.1) v0 H → va_S (FA (iv b0 46) s.heap.size) s.heap H locs → H.size = s.heap.size → lv_has ls 6 [(0, .ref b0), (1, .int i1)] → W p l e (rmT 4 0 0 90) s m args below meth c H locs 0 0 (MQ below (QcT (FA (iv b0 46) s.heap.size) (fun ov H => ov = (some (.int rx)) ∧ rg G b0 46 (shX9 G.2.1) rw0 H ∧ H.size = s.heap.size)) args s 0 0 (FA (iv b0 46) s.heap.size)) (F0 m 0 ls []) := by
  intro v0 i1 hm H locs ls hW0 hS hz hl
  obtain ⟨hx, hb, hr, hlk, hml, hown, hts, hK⟩ := id C
  unfold fX9_nth at hm
  refine lv_iload_n (pc := 0) hx hb dX9_nth_0 rfl (lv_at hl 1 rfl) ?_
  refine lv_i2l (pc := 1) hx hb dX9_nth_1 rfl ?_
  refine lv_lconst (pc := 2) (v := (0 : Int64)) hx hb dX9_nth_2 (by decide) ?_
  refine lv_ldc2 (pc := 3) (v := (19 : Int64)) hx hb hown (hts _ q2181) dX9_nth_3 ?_
  obtain ⟨r1, hq2, hm⟩ := ob_some hm
  refine rk_PS (pc := 6) (As := [.long i1.toInt64, .long (0 : Int64), .long (19 : Int64)]) (rest := []) hx hb hml hown hts hK lkX9_93 yn_X9_isIn (ct_X9_isIn (G := G) (l := l) hq2) ⟨Nat.le_of_ble_eq_true rfl, Nat.le_of_ble_eq_true rfl⟩ trivial rfl rfl hl.1 (Nat.le_of_ble_eq_true rfl) dX9_nth_6 ⟨Nat.zero_le _, Nat.zero_le _⟩ ?_
  refine W.eq (g2 := F0 m 9 ls [.int r1]) rfl ?_
  refine lv_if_ne (pc := 9) (tgt := 15) hx hb dX9_nth_9 (by decide) (fun c3 => ?_) (fun c3 => ?_)
  · have hm := ite_f c3 hm
    refine lv_iconst (pc := 15) (v := (0 : Int32)) hx hb dX9_nth_15 (by decide) ?_
    refine lv_istore_n (pc := 16) (lv' := [(2, .int (0 : Int32)), (0, .ref b0), (1, .int i1)]) hx hb dX9_nth_16 rfl hl (by decide) rfl (fun ls hl => ?_)
    refine lv_iconst (pc := 17) (v := (0 : Int32)) hx hb dX9_nth_17 (by decide) ?_
    refine lv_istore_n (pc := 18) (lv' := [(3, .int (0 : Int32)), (2, .int (0 : Int32)), (0, .ref b0), (1, .int i1)]) hx hb dX9_nth_18 rfl hl (by decide) rfl (fun ls hl => ?_)
    exact (w_fX9_nth_19_l C FU) v0 i1 (0 : Int32) (0 : Int32) hm H locs ls hW0 hS hz (lv_sub hl [2, 3, 1, 0] rfl)
  · have hm := ite_t c3 hm
    refine lv_bipush (pc := 12) (v := (-2 : Int32)) hx hb dX9_nth_12 (by decide) ?_
    obtain ⟨e8, e9⟩ := rs2 hm
    subst e8
    subst e9
    exact rk_iret (pc := 14) hx hb hr hlk hS ⟨rfl, hW0, hz⟩ dX9_nth_14
set_option maxHeartbeats 4000000 in
theorem ct_X9_nth {G : Gv} {l : Launch} {b0 : Nat} {v0 : Mem} {i1 : Int32} {rx : Int32} {rw0 : Mem} {sz : Nat} (hm : fX9_nth v0 i1 = some (rx, rw0)) : CT G l yX9_nth (ws_ yX9_nth cX9_nth 6 (some .int)) 4 0 0 90 [.ref b0, .int i1] (iv b0 46) sz (fun H => rg G b0 46 (shX9 G.2.1) v0 H) (fun ov H => ov = (some (.int rx)) ∧ rg G b0 46 (shX9 G.2.1) rw0 H ∧ H.size = sz) := by
  refine Met.ofW (cc := cX9_nth) (maxL := 6) (ret := (some .int)) (by decide +kernel) rfl ?_
  intro p e s m args below meth c s₁ B hml hv
  obtain ⟨rfl, ⟨hz, hW0⟩, hK⟩ := hv
  subst hz
  have hts := atoms_spec (ws := ws_ yX9_nth cX9_nth 6 (some .int)) B.pre
  have hts : ∀ w ∈ lw_all, w.before _ s = true := fun w h => hts w (List.mem_cons_of_mem _ h)
  have C : Cx G p s m _ meth c RX9 cX9_nth 6 (some .int) := ⟨B.exec, B.bytes, B.returns, B.notSynchronized, hml, findClass_of_methodNamed B.named, hts, hK⟩
  have hl := lv_entry ([.ref b0, .int i1]) (n := 6) (Nat.le_of_ble_eq_true rfl)
  rw [lg_entry_eq]
  generalize (lg_sl ([.ref b0, .int i1]) ++ List.replicate (6 - (lg_sl ([.ref b0, .int i1])).length) Slot.unset).toArray = ls at hl ⊢
  have hl : lv_has ls 6 [(0, .ref b0), (1, .int i1)] := hl
  exact w_fX9_nth C _ _ hm s.heap [] ls hW0 va_S.rf rfl hl
end
