set_option maxRecDepth 100000
section
variable {p : Program} {l : Launch} {e : Env} {s : State} {m : MethodId} {args : Array Value} {below : List Frame} {meth : Method} {c : Code} {G : Gv}
theorem yn_X9_isTape : YN yX9_isTape 1 := by
  unfold YN
  decide +kernel
theorem lkX9_447 : LSt RX9 447 yX9_isTape cX9_isTape 1 (some .boolean) := ⟨q2358, q2359, q128, q2360⟩
theorem flX9_69 : FL RX9 69 9 25 RX9 TX9 29 := ⟨in_X9, rfl, by decide, q1852⟩
theorem flX9_72 : FL RX9 72 9 26 RX9 TX9 29 := ⟨in_X9, rfl, by decide, q1853⟩
theorem flX9_75 : FL RX9 75 9 27 RX9 TX9 29 := ⟨in_X9, rfl, by decide, q1854⟩
noncomputable def fX9_judge_56 (V0 : Mem) (k56 : Int32 → Int32 → Int32 → Option (Int32)) (i1 : Int32) (i2 : Int32) (i3 : Int32) : Option (Int32) :=
  ob (fX9_n V0) fun r10 =>
  if r10 ≤ i3 then (
  some (-5 : Int32))
  else (
  if i2 < 0 then (
  some ((100 : Int32) + i3))
  else (
  gb (inR i1 6) (
  if (gI V0 42 i1.toNatClampNeg) < 0 then (
  some ((100 : Int32) + i3))
  else (
  gb (inR i1 6) (
  if i2 < ((gI V0 43 i1.toNatClampNeg) - i3) then (
  gb (inR ((((60 : Int32) * i1) + i2) + i3) 360) (
  ob (fX9_amountIn V0 (shf V0 6) i3) fun r19 =>
  if ((gL V0 44 ((((60 : Int32) * i1) + i2) + i3).toNatClampNeg) * (gL V0 6 13)) = r19 then (
  k56 i1 i2 (i3 + (1 : Int32)))
  else (
  some i3)))
  else (
  some ((100 : Int32) + i3)))))))
noncomputable def fX9_judge_31 (V0 : Mem) (i1 : Int32) (i2 : Int32) : Option (Int32) :=
  if (gI V0 6 18) = 0 then (
  some (-3 : Int32))
  else (
  if (gI V0 6 19) = 0 then (
  some (-3 : Int32))
  else (
  lq3 (fX9_judge_56 V0) FU i1 i2 (0 : Int32)))
noncomputable def fX9_judge (V0 : Mem) (i1 : Int32) (i2 : Int32) : Option (Int32) :=
  ob (fX9_isTape i1) fun r1 =>
  if r1 = 0 then (
  some (-1 : Int32))
  else (
  gb (inR i1 6) (
  if (gI V0 42 i1.toNatClampNeg) < 0 then (
  fX9_judge_31 V0 i1 i2)
  else (
  gb (inR i1 6) (
  if (gI V0 42 i1.toNatClampNeg) = (2 : Int32) then (
  fX9_judge_31 V0 i1 i2)
  else (
  some (-12 : Int32))))))
set_option maxHeartbeats 4000000 in
theorem w_fX9_judge_56 (C : Cx G p s m args meth c RX9 cX9_judge 4 (some .int)) {b0 : Nat} {V0 : Mem} {rx : Int32} (hW0 : rg G b0 46 (shX9 G.2.1) V0 s.heap) {k56 : Int32 → Int32 → Int32 → Option (Int32)} (hk56 : ∀ (i1 : Int32) (i2 : Int32) (i3 : Int32), k56 i1 i2 i3 = some rx → ∀ (ls : Array Slot), lv_has ls 4 [(0, .ref b0), (1, .int i1), (2, .int i2), (3, .int i3)] → W p l e (rmP 2 46) s m args below meth c s.heap [] 0 0 (MQ below (QcP (some (.int rx))) args s 0 0 (fun _ => False)) (F0 m 56 ls [])) : ∀ (i1 : Int32) (i2 : Int32) (i3 : Int32), fX9_judge_56 V0 k56 i1 i2 i3 = some rx → ∀ (ls : Array Slot), lv_has ls 4 [(0, .ref b0), (1, .int i1), (2, .int i2), (3, .int i3)] → W p l e (rmP 2 46) s m args below meth c s.heap [] 0 0 (MQ below (QcP (some (.int rx))) args s 0 0 (fun _ => False)) (F0 m 56 ls []) := by
  intro i1 i2 i3 hm ls hl
  obtain ⟨hx, hb, hr, hlk, hml, hown, hts, hK⟩ := id C
  unfold fX9_judge_56 at hm
  refine lv_iload_n (pc := 56) hx hb dX9_judge_56 rfl (lv_at hl 3 rfl) ?_
  refine lv_aload_n (pc := 57) hx hb dX9_judge_57 rfl (lv_at hl 0 rfl) ?_
  obtain ⟨r10, hq11, hm⟩ := ob_some hm
  refine rk_PV (pc := 58) (As := []) (rest := [.int i3]) hx hb hml hown hts hK lkX9_89 rfl yn_X9_n (ct_X9_n (G := G) (l := l) (b0 := b0) hq11) ⟨Nat.le_of_ble_eq_true rfl, Nat.le_of_ble_eq_true rfl⟩ (rk_recv hK hW0 0 (by decide) rfl rfl rfl) (rg_take hW0 (by decide)) rfl rfl hl.1 (Nat.le_of_ble_eq_true rfl) dX9_judge_58 ⟨Nat.zero_le _, Nat.zero_le _⟩ ?_
  refine W.eq (g2 := F0 m 61 ls [.int r10, .int i3]) rfl ?_
  refine lv_icmp_ge (pc := 61) (tgt := 136) hx hb dX9_judge_61 (by decide) (fun c12 => ?_) (fun c12 => ?_)
  · have hm := ite_t c12 hm
    refine lv_bipush (pc := 136) (v := (-5 : Int32)) hx hb dX9_judge_136 (by decide) ?_
    have e9 := rs1 hm
    subst e9
    exact rk_iretP (pc := 138) hx hb hr hlk rfl dX9_judge_138
  · have hm := ite_f c12 hm
    refine lv_iload_n (pc := 64) hx hb dX9_judge_64 rfl (lv_at hl 2 rfl) ?_
    refine lv_if_lt (pc := 65) (tgt := 89) hx hb dX9_judge_65 (by decide) (fun c13 => ?_) (fun c13 => ?_)
    · have hm := ite_t c13 hm
      refine lv_bipush (pc := 89) (v := (100 : Int32)) hx hb dX9_judge_89 (by decide) ?_
      refine lv_iload_n (pc := 91) hx hb dX9_judge_91 rfl (lv_at hl 3 rfl) ?_
      refine lv_iadd (pc := 92) hx hb dX9_judge_92 ?_
      have e9 := rs1 hm
      subst e9
      exact rk_iretP (pc := 93) hx hb hr hlk rfl dX9_judge_93
    · have hm := ite_f c13 hm
      refine lv_aload_n (pc := 68) hx hb dX9_judge_68 rfl (lv_at hl 0 rfl) ?_
      refine rk_get (pc := 69) hx hb hts hown hK hW0 flX9_69 0 (by decide) rfl rfl (x := .ref (b0 + 42)) (by first | rfl | exact congrArg (fun z => some (Value.ref z)) (by omega)) dX9_judge_69 ?_
      refine lv_iload_n (pc := 72) hx hb dX9_judge_72 rfl (lv_at hl 1 rfl) ?_
      obtain ⟨hg14, hm⟩ := gb_some hm
      refine rk_iald (pc := 73) hx hb hK hW0 42 (by decide) rfl rfl hg14 (x := (gI V0 42 i1.toNatClampNeg)) rfl dX9_judge_73 ?_
      refine lv_if_lt (pc := 74) (tgt := 89) hx hb dX9_judge_74 (by decide) (fun c15 => ?_) (fun c15 => ?_)
      · have hm := ite_t c15 hm
        refine lv_bipush (pc := 89) (v := (100 : Int32)) hx hb dX9_judge_89 (by decide) ?_
        refine lv_iload_n (pc := 91) hx hb dX9_judge_91 rfl (lv_at hl 3 rfl) ?_
        refine lv_iadd (pc := 92) hx hb dX9_judge_92 ?_
        have e9 := rs1 hm
        subst e9
        exact rk_iretP (pc := 93) hx hb hr hlk rfl dX9_judge_93
      · have hm := ite_f c15 hm
        refine lv_iload_n (pc := 77) hx hb dX9_judge_77 rfl (lv_at hl 2 rfl) ?_
        refine lv_aload_n (pc := 78) hx hb dX9_judge_78 rfl (lv_at hl 0 rfl) ?_
        refine rk_get (pc := 79) hx hb hts hown hK hW0 flX9_72 0 (by decide) rfl rfl (x := .ref (b0 + 43)) (by first | rfl | exact congrArg (fun z => some (Value.ref z)) (by omega)) dX9_judge_79 ?_
        refine lv_iload_n (pc := 82) hx hb dX9_judge_82 rfl (lv_at hl 1 rfl) ?_
        obtain ⟨hg16, hm⟩ := gb_some hm
        refine rk_iald (pc := 83) hx hb hK hW0 43 (by decide) rfl rfl hg16 (x := (gI V0 43 i1.toNatClampNeg)) rfl dX9_judge_83 ?_
        refine lv_iload_n (pc := 84) hx hb dX9_judge_84 rfl (lv_at hl 3 rfl) ?_
        refine lv_isub (pc := 85) hx hb dX9_judge_85 ?_
        refine lv_icmp_lt (pc := 86) (tgt := 94) hx hb dX9_judge_86 (by decide) (fun c17 => ?_) (fun c17 => ?_)
        · have hm := ite_t c17 hm
          refine lv_aload_n (pc := 94) hx hb dX9_judge_94 rfl (lv_at hl 0 rfl) ?_
          refine rk_get (pc := 95) hx hb hts hown hK hW0 flX9_75 0 (by decide) rfl rfl (x := .ref (b0 + 44)) (by first | rfl | exact congrArg (fun z => some (Value.ref z)) (by omega)) dX9_judge_95 ?_
          refine lv_bipush (pc := 98) (v := (60 : Int32)) hx hb dX9_judge_98 (by decide) ?_
          refine lv_iload_n (pc := 100) hx hb dX9_judge_100 rfl (lv_at hl 1 rfl) ?_
          refine lv_imul (pc := 101) hx hb dX9_judge_101 ?_
          refine lv_iload_n (pc := 102) hx hb dX9_judge_102 rfl (lv_at hl 2 rfl) ?_
          refine lv_iadd (pc := 103) hx hb dX9_judge_103 ?_
          refine lv_iload_n (pc := 104) hx hb dX9_judge_104 rfl (lv_at hl 3 rfl) ?_
          refine lv_iadd (pc := 105) hx hb dX9_judge_105 ?_
          obtain ⟨hg18, hm⟩ := gb_some hm
          refine rk_lald (pc := 106) hx hb hK hW0 44 (by decide) rfl rfl hg18 (x := (gL V0 44 ((((60 : Int32) * i1) + i2) + i3).toNatClampNeg)) rfl dX9_judge_106 ?_
          refine lv_aload_n (pc := 107) hx hb dX9_judge_107 rfl (lv_at hl 0 rfl) ?_
          refine rk_get (pc := 108) hx hb hts hown hK hW0 flX9_30 0 (by decide) rfl rfl (x := .ref (b0 + 6)) (by first | rfl | exact congrArg (fun z => some (Value.ref z)) (by omega)) dX9_judge_108 ?_
          refine rk_getN (pc := 111) hx hb hts hown hK hW0 fnX9_197 6 (by decide) rfl rfl (x := .long (gL V0 6 13)) rfl dX9_judge_111 ?_
          refine lv_lmul (pc := 114) hx hb dX9_judge_114 ?_
          refine lv_aload_n (pc := 115) hx hb dX9_judge_115 rfl (lv_at hl 0 rfl) ?_
          refine lv_aload_n (pc := 116) hx hb dX9_judge_116 rfl (lv_at hl 0 rfl) ?_
          refine rk_get (pc := 117) hx hb hts hown hK hW0 flX9_30 0 (by decide) rfl rfl (x := .ref (b0 + 6)) (by first | rfl | exact congrArg (fun z => some (Value.ref z)) (by omega)) dX9_judge_117 ?_
          refine lv_iload_n (pc := 120) hx hb dX9_judge_120 rfl (lv_at hl 3 rfl) ?_
          obtain ⟨r19, hq20, hm⟩ := ob_some hm
          refine rk_PV (pc := 121) (As := [.ref (b0 + 6), .int i3]) (rest := [.long ((gL V0 44 ((((60 : Int32) * i1) + i2) + i3).toNatClampNeg) * (gL V0 6 13))]) hx hb hml hown hts hK lkX9_314 rfl yn_X9_amountIn (ct_X9_amountIn (G := G) (l := l) (b0 := b0) (b1 := (b0 + 6)) hq20) ⟨Nat.le_of_ble_eq_true rfl, Nat.le_of_ble_eq_true rfl⟩ (rk_recv hK hW0 0 (by decide) rfl rfl rfl) ⟨(rg_take hW0 (by decide)), (rg_sub hW0 rfl (by decide) (fun o ho x y z => shX9_n6 G.2.1 _ rfl o ho x y z))⟩ rfl rfl hl.1 (Nat.le_of_ble_eq_true rfl) dX9_judge_121 ⟨Nat.zero_le _, Nat.zero_le _⟩ ?_
          refine W.eq (g2 := F0 m 124 ls [.long r19, .long ((gL V0 44 ((((60 : Int32) * i1) + i2) + i3).toNatClampNeg) * (gL V0 6 13))]) rfl ?_
          refine rk_lcmp_eq (pc := 124) (tgt := 130) hx hb dX9_judge_124 rfl dX9_judge_125 (by decide) (fun c21 => ?_) (fun c21 => ?_)
          · have hm := ite_t c21 hm
            refine lv_iinc (pc := 130) (v := (i3 + (1 : Int32))) (lv' := [(3, .int (i3 + (1 : Int32))), (0, .ref b0), (1, .int i1), (2, .int i2)]) hx hb dX9_judge_130 hl (k := 3) rfl rfl (by decide) rfl (fun ls hl => ?_)
            refine lv_goto (pc := 133) (tgt := 56) hx hb dX9_judge_133 (by decide) ?_
            exact hk56 i1 i2 (i3 + (1 : Int32)) hm ls (lv_sub hl [1, 2, 3, 0] rfl)
          · have hm := ite_f c21 hm
            refine lv_iload_n (pc := 128) hx hb dX9_judge_128 rfl (lv_at hl 3 rfl) ?_
            have e9 := rs1 hm
            subst e9
            exact rk_iretP (pc := 129) hx hb hr hlk rfl dX9_judge_129
        · have hm := ite_f c17 hm
          refine lv_bipush (pc := 89) (v := (100 : Int32)) hx hb dX9_judge_89 (by decide) ?_
          refine lv_iload_n (pc := 91) hx hb dX9_judge_91 rfl (lv_at hl 3 rfl) ?_
          refine lv_iadd (pc := 92) hx hb dX9_judge_92 ?_
          have e9 := rs1 hm
          subst e9
          exact rk_iretP (pc := 93) hx hb hr hlk rfl dX9_judge_93
theorem w_fX9_judge_56_l (C : Cx G p s m args meth c RX9 cX9_judge 4 (some .int)) {b0 : Nat} {V0 : Mem} {rx : Int32} (hW0 : rg G b0 46 (shX9 G.2.1) V0 s.heap) : ∀ (n : Nat) (i1 : Int32) (i2 : Int32) (i3 : Int32), lq3 (fX9_judge_56 V0) n i1 i2 i3 = some rx → ∀ (ls : Array Slot), lv_has ls 4 [(0, .ref b0), (1, .int i1), (2, .int i2), (3, .int i3)] → W p l e (rmP 2 46) s m args below meth c s.heap [] 0 0 (MQ below (QcP (some (.int rx))) args s 0 0 (fun _ => False)) (F0 m 56 ls []) := by
  intro n
  induction n with
  | zero => intro i1 i2 i3 hm; exact (lq3_0 hm).elim
  | succ n ih => intro i1 i2 i3 hm; exact w_fX9_judge_56 C hW0 ih i1 i2 i3 (lq3_s hm)
set_option maxHeartbeats 4000000 in
theorem w_fX9_judge_31 (C : Cx G p s m args meth c RX9 cX9_judge 4 (some .int)) {b0 : Nat} {V0 : Mem} {rx : Int32} (hW0 : rg G b0 46 (shX9 G.2.1) V0 s.heap) : ∀ (i1 : Int32) (i2 : Int32), fX9_judge_31 V0 i1 i2 = some rx → ∀ (ls : Array Slot), lv_has ls 4 [(0, .ref b0), (1, .int i1), (2, .int i2)] → W p l e (rmP 2 46) s m args below meth c s.heap [] 0 0 (MQ below (QcP (some (.int rx))) args s 0 0 (fun _ => False)) (F0 m 31 ls []) := by
  intro i1 i2 hm ls hl
  obtain ⟨hx, hb, hr, hlk, hml, hown, hts, hK⟩ := id C
  unfold fX9_judge_31 at hm
  refine lv_aload_n (pc := 31) hx hb dX9_judge_31 rfl (lv_at hl 0 rfl) ?_
  refine rk_get (pc := 32) hx hb hts hown hK hW0 flX9_30 0 (by decide) rfl rfl (x := .ref (b0 + 6)) (by first | rfl | exact congrArg (fun z => some (Value.ref z)) (by omega)) dX9_judge_32 ?_
  refine rk_getN (pc := 35) hx hb hts hown hK hW0 fnX9_85 6 (by decide) rfl rfl (x := .int (gI V0 6 18)) rfl dX9_judge_35 ?_
  refine lv_if_eq (pc := 38) (tgt := 51) hx hb dX9_judge_38 (by decide) (fun c8 => ?_) (fun c8 => ?_)
  · have hm := ite_t c8 hm
    refine lv_bipush (pc := 51) (v := (-3 : Int32)) hx hb dX9_judge_51 (by decide) ?_
    have e9 := rs1 hm
    subst e9
    exact rk_iretP (pc := 53) hx hb hr hlk rfl dX9_judge_53
  · have hm := ite_f c8 hm
    refine lv_aload_n (pc := 41) hx hb dX9_judge_41 rfl (lv_at hl 0 rfl) ?_
    refine rk_get (pc := 42) hx hb hts hown hK hW0 flX9_30 0 (by decide) rfl rfl (x := .ref (b0 + 6)) (by first | rfl | exact congrArg (fun z => some (Value.ref z)) (by omega)) dX9_judge_42 ?_
    refine rk_getN (pc := 45) hx hb hts hown hK hW0 fnX9_200 6 (by decide) rfl rfl (x := .int (gI V0 6 19)) rfl dX9_judge_45 ?_
    refine lv_if_ne (pc := 48) (tgt := 54) hx hb dX9_judge_48 (by decide) (fun c9 => ?_) (fun c9 => ?_)
    · have hm := ite_f c9 hm
      refine lv_iconst (pc := 54) (v := (0 : Int32)) hx hb dX9_judge_54 (by decide) ?_
      refine lv_istore_n (pc := 55) (lv' := [(3, .int (0 : Int32)), (0, .ref b0), (1, .int i1), (2, .int i2)]) hx hb dX9_judge_55 rfl hl (by decide) rfl (fun ls hl => ?_)
      exact (w_fX9_judge_56_l C hW0 FU) i1 i2 (0 : Int32) hm ls (lv_sub hl [1, 2, 3, 0] rfl)
    · have hm := ite_t c9 hm
      refine lv_bipush (pc := 51) (v := (-3 : Int32)) hx hb dX9_judge_51 (by decide) ?_
      have e9 := rs1 hm
      subst e9
      exact rk_iretP (pc := 53) hx hb hr hlk rfl dX9_judge_53
set_option maxHeartbeats 4000000 in
theorem w_fX9_judge (C : Cx G p s m args meth c RX9 cX9_judge 4 (some .int)) {b0 : Nat} {V0 : Mem} {rx : Int32} (hW0 : rg G b0 46 (shX9 G.2.1) V0 s.heap) : ∀ (i1 : Int32) (i2 : Int32), fX9_judge V0 i1 i2 = some rx → ∀ (ls : Array Slot), lv_has ls 4 [(0, .ref b0), (1, .int i1), (2, .int i2)] → W p l e (rmP 2 46) s m args below meth c s.heap [] 0 0 (MQ below (QcP (some (.int rx))) args s 0 0 (fun _ => False)) (F0 m 0 ls []) := by
  intro i1 i2 hm ls hl
  obtain ⟨hx, hb, hr, hlk, hml, hown, hts, hK⟩ := id C
  unfold fX9_judge at hm
  refine lv_iload_n (pc := 0) hx hb dX9_judge_0 rfl (lv_at hl 1 rfl) ?_
  obtain ⟨r1, hq2, hm⟩ := ob_some hm
  refine rk_PS (pc := 1) (As := [.int i1]) (rest := []) hx hb hml hown hts hK lkX9_447 yn_X9_isTape (ct_X9_isTape (G := G) (l := l) hq2) ⟨Nat.le_of_ble_eq_true rfl, Nat.le_of_ble_eq_true rfl⟩ trivial rfl rfl hl.1 (Nat.le_of_ble_eq_true rfl) dX9_judge_1 ⟨Nat.zero_le _, Nat.zero_le _⟩ ?_
  refine W.eq (g2 := F0 m 4 ls [.int r1]) rfl ?_
  refine lv_if_ne (pc := 4) (tgt := 9) hx hb dX9_judge_4 (by decide) (fun c3 => ?_) (fun c3 => ?_)
  · have hm := ite_f c3 hm
    refine lv_aload_n (pc := 9) hx hb dX9_judge_9 rfl (lv_at hl 0 rfl) ?_
    refine rk_get (pc := 10) hx hb hts hown hK hW0 flX9_69 0 (by decide) rfl rfl (x := .ref (b0 + 42)) (by first | rfl | exact congrArg (fun z => some (Value.ref z)) (by omega)) dX9_judge_10 ?_
    refine lv_iload_n (pc := 13) hx hb dX9_judge_13 rfl (lv_at hl 1 rfl) ?_
    obtain ⟨hg4, hm⟩ := gb_some hm
    refine rk_iald (pc := 14) hx hb hK hW0 42 (by decide) rfl rfl hg4 (x := (gI V0 42 i1.toNatClampNeg)) rfl dX9_judge_14 ?_
    refine lv_if_lt (pc := 15) (tgt := 31) hx hb dX9_judge_15 (by decide) (fun c5 => ?_) (fun c5 => ?_)
    · have hm := ite_t c5 hm
      exact (w_fX9_judge_31 C hW0) i1 i2 hm ls (lv_sub hl [0, 1, 2] rfl)
    · have hm := ite_f c5 hm
      refine lv_aload_n (pc := 18) hx hb dX9_judge_18 rfl (lv_at hl 0 rfl) ?_
      refine rk_get (pc := 19) hx hb hts hown hK hW0 flX9_69 0 (by decide) rfl rfl (x := .ref (b0 + 42)) (by first | rfl | exact congrArg (fun z => some (Value.ref z)) (by omega)) dX9_judge_19 ?_
      refine lv_iload_n (pc := 22) hx hb dX9_judge_22 rfl (lv_at hl 1 rfl) ?_
      obtain ⟨hg6, hm⟩ := gb_some hm
      refine rk_iald (pc := 23) hx hb hK hW0 42 (by decide) rfl rfl hg6 (x := (gI V0 42 i1.toNatClampNeg)) rfl dX9_judge_23 ?_
      refine lv_iconst (pc := 24) (v := (2 : Int32)) hx hb dX9_judge_24 (by decide) ?_
      refine lv_icmp_eq (pc := 25) (tgt := 31) hx hb dX9_judge_25 (by decide) (fun c7 => ?_) (fun c7 => ?_)
      · have hm := ite_t c7 hm
        exact (w_fX9_judge_31 C hW0) i1 i2 hm ls (lv_sub hl [0, 1, 2] rfl)
      · have hm := ite_f c7 hm
        refine lv_bipush (pc := 28) (v := (-12 : Int32)) hx hb dX9_judge_28 (by decide) ?_
        have e9 := rs1 hm
        subst e9
        exact rk_iretP (pc := 30) hx hb hr hlk rfl dX9_judge_30
  · have hm := ite_t c3 hm
    refine lv_iconst (pc := 7) (v := (-1 : Int32)) hx hb dX9_judge_7 (by decide) ?_
    have e9 := rs1 hm
    subst e9
    exact rk_iretP (pc := 8) hx hb hr hlk rfl dX9_judge_8
set_option maxHeartbeats 4000000 in
theorem ct_X9_judge {G : Gv} {l : Launch} {b0 : Nat} {V0 : Mem} {i1 : Int32} {i2 : Int32} {rx : Int32} (hm : fX9_judge V0 i1 i2 = some rx) : CP G l yX9_judge (ws_ yX9_judge cX9_judge 4 (some .int)) 2 46 [.ref b0, .int i1, .int i2] (fun H => rg G b0 46 (shX9 G.2.1) V0 H) (some (.int rx)) := by
  refine Met.ofW (cc := cX9_judge) (maxL := 4) (ret := (some .int)) (by decide +kernel) rfl ?_
  intro p e s m args below meth c s₁ B hml hv
  obtain ⟨rfl, hW0, hK⟩ := hv
  have hts := atoms_spec (ws := ws_ yX9_judge cX9_judge 4 (some .int)) B.pre
  have hts : ∀ w ∈ lw_all, w.before _ s = true := fun w h => hts w (List.mem_cons_of_mem _ h)
  have C : Cx G p s m _ meth c RX9 cX9_judge 4 (some .int) := ⟨B.exec, B.bytes, B.returns, B.notSynchronized, hml, findClass_of_methodNamed B.named, hts, hK⟩
  have hl := lv_entry ([.ref b0, .int i1, .int i2]) (n := 4) (Nat.le_of_ble_eq_true rfl)
  rw [lg_entry_eq]
  generalize (lg_sl ([.ref b0, .int i1, .int i2]) ++ List.replicate (4 - (lg_sl ([.ref b0, .int i1, .int i2])).length) Slot.unset).toArray = ls at hl ⊢
  have hl : lv_has ls 4 [(0, .ref b0), (1, .int i1), (2, .int i2)] := hl
  exact w_fX9_judge C hW0 _ _ hm ls hl
theorem flX9_450 : FL RX9 450 9 3 RX9 TX9 29 := ⟨in_X9, rfl, by decide, q1831⟩
theorem flX9_15 : FL RX9 15 9 1 RX9 TX9 29 := ⟨in_X9, rfl, by decide, q1829⟩
noncomputable def fX9_image_2 (k2 : Mem → Int32 → Option (Int32 × Mem)) (v0 : Mem) (i1 : Int32) : Option (Int32 × Mem) :=
  if (150 : Int32) ≤ i1 then (
  lm (sI v0 0 3 (1 : Int32)) fun v0_2 =>
  gb (inR (1 : Int32) 150) (
  some ((gI v0_2 1 (1 : Int32).toNatClampNeg), v0_2)))
  else (
  gb (inR i1 150) (
  gb (inR i1 150) (
  lm (sI v0 2 i1.toNatClampNeg (gI v0 1 i1.toNatClampNeg)) fun v0_13 =>
  k2 v0_13 (i1 + (1 : Int32)))))
noncomputable def fX9_image (v0 : Mem) : Option (Int32 × Mem) :=
  lq2 (fX9_image_2) FU v0 (0 : Int32)
set_option maxHeartbeats 4000000 in
theorem w_fX9_image_2 (C : Cx G p s m args meth c RX9 cX9_image 2 (some .int)) {b0 : Nat} {rx : Int32} {rw0 : Mem} {k2 : Mem → Int32 → Option (Int32 × Mem)} (hk2 : ∀ (v0 : Mem) (i1 : Int32), k2 v0 i1 = some (rx, rw0) → ∀ (H : Heap) (locs : List Loc) (ls : Array Slot), rg G b0 46 (shX9 G.2.1) v0 H → va_S (FA (iv b0 46) s.heap.size) s.heap H locs → H.size = s.heap.size → lv_has ls 2 [(0, .ref b0), (1, .int i1)] → W p l e (rmT 0 0 0 0) s m args below meth c H locs 0 0 (MQ below (QcT (FA (iv b0 46) s.heap.size) (fun ov H => ov = (some (.int rx)) ∧ rg G b0 46 (shX9 G.2.1) rw0 H ∧ H.size = s.heap.size)) args s 0 0 (FA (iv b0 46) s.heap.size)) (F0 m 2 ls [])) : ∀ (v0 : Mem) (i1 : Int32), fX9_image_2 k2 v0 i1 = some (rx, rw0) → ∀ (H : Heap) (locs : List Loc) (ls : Array Slot), rg G b0 46 (shX9 G.2.1) v0 H → va_S (FA (iv b0 46) s.heap.size) s.heap H locs → H.size = s.heap.size → lv_has ls 2 [(0, .ref b0), (1, .int i1)] → W p l e (rmT 0 0 0 0) s m args below meth c H locs 0 0 (MQ below (QcT (FA (iv b0 46) s.heap.size) (fun ov H => ov = (some (.int rx)) ∧ rg G b0 46 (shX9 G.2.1) rw0 H ∧ H.size = s.heap.size)) args s 0 0 (FA (iv b0 46) s.heap.size)) (F0 m 2 ls []) := by
  intro v0 i1 hm H locs ls hW0 hS hz hl
  obtain ⟨hx, hb, hr, hlk, hml, hown, hts, hK⟩ := id C
  unfold fX9_image_2 at hm
  refine lv_iload_n (pc := 2) hx hb dX9_image_2 rfl (lv_at hl 1 rfl) ?_
  refine lv_sipush (pc := 3) (v := (150 : Int32)) hx hb dX9_image_3 (by decide) ?_
  refine lv_icmp_ge (pc := 6) (tgt := 27) hx hb dX9_image_6 (by decide) (fun c1 => ?_) (fun c1 => ?_)
  · have hm := ite_t c1 hm
    refine lv_aload_n (pc := 27) hx hb dX9_image_27 rfl (lv_at hl 0 rfl) ?_
    refine lv_iconst (pc := 28) (v := (1 : Int32)) hx hb dX9_image_28 (by decide) ?_
    refine rk_put (pc := 29) hx hb hts hown hK hW0 hS flX9_450 ft_X9 0 (by decide) rfl (Or.inl (show iv _ _ _ from ⟨by omega, by omega⟩)) rfl rfl (x := .int (1 : Int32)) rfl rfl (Nat.le_of_ble_eq_true rfl) (sI v0 0 3 (1 : Int32)) sI_ne (by rw [sI_eq]; exact rfl) dX9_image_29 (fun H3 locs4 hW5 hS6 hz7 hkp8 => ?_)
    obtain ⟨v0_2, he9, hm⟩ := lm_some hm
    rw [he9] at hW5
    have hz9 := hz7.trans hz
    refine lv_aload_n (pc := 32) hx hb dX9_image_32 rfl (lv_at hl 0 rfl) ?_
    refine rk_get (pc := 33) hx hb hts hown hK hW5 flX9_11 0 (by decide) rfl rfl (x := .ref (b0 + 1)) (by first | rfl | exact congrArg (fun z => some (Value.ref z)) (by omega)) dX9_image_33 ?_
    refine lv_iconst (pc := 36) (v := (1 : Int32)) hx hb dX9_image_36 (by decide) ?_
    obtain ⟨hg10, hm⟩ := gb_some hm
    refine rk_iald (pc := 37) hx hb hK hW5 1 (by decide) rfl rfl hg10 (x := (gI v0_2 1 (1 : Int32).toNatClampNeg)) rfl dX9_image_37 ?_
    obtain ⟨e8, e9⟩ := rs2 hm
    subst e8
    subst e9
    exact rk_iret (pc := 38) hx hb hr hlk hS6 ⟨rfl, hW5, hz9⟩ dX9_image_38
  · have hm := ite_f c1 hm
    refine lv_aload_n (pc := 9) hx hb dX9_image_9 rfl (lv_at hl 0 rfl) ?_
    refine rk_get (pc := 10) hx hb hts hown hK hW0 flX9_15 0 (by decide) rfl rfl (x := .ref (b0 + 2)) (by first | rfl | exact congrArg (fun z => some (Value.ref z)) (by omega)) dX9_image_10 ?_
    refine lv_iload_n (pc := 13) hx hb dX9_image_13 rfl (lv_at hl 1 rfl) ?_
    refine lv_aload_n (pc := 14) hx hb dX9_image_14 rfl (lv_at hl 0 rfl) ?_
    refine rk_get (pc := 15) hx hb hts hown hK hW0 flX9_11 0 (by decide) rfl rfl (x := .ref (b0 + 1)) (by first | rfl | exact congrArg (fun z => some (Value.ref z)) (by omega)) dX9_image_15 ?_
    refine lv_iload_n (pc := 18) hx hb dX9_image_18 rfl (lv_at hl 1 rfl) ?_
    obtain ⟨hg11, hm⟩ := gb_some hm
    refine rk_iald (pc := 19) hx hb hK hW0 1 (by decide) rfl rfl hg11 (x := (gI v0 1 i1.toNatClampNeg)) rfl dX9_image_19 ?_
    obtain ⟨hg12, hm⟩ := gb_some hm
    refine rk_iast (pc := 20) hx hb hK hW0 hS 2 (by decide) rfl (Or.inl (show iv _ _ _ from ⟨by omega, by omega⟩)) (fun _ _ _ => rfl) hg12 dX9_image_20 (fun H14 locs15 hW16 hS17 hz18 hkp19 => ?_)
    obtain ⟨v0_13, he9, hm⟩ := lm_some hm
    rw [he9] at hW16
    have hz20 := hz18.trans hz
    refine lv_iinc (pc := 21) (v := (i1 + (1 : Int32))) (lv' := [(1, .int (i1 + (1 : Int32))), (0, .ref b0)]) hx hb dX9_image_21 hl (k := 1) rfl rfl (by decide) rfl (fun ls hl => ?_)
    refine lv_goto (pc := 24) (tgt := 2) hx hb dX9_image_24 (by decide) ?_
    exact hk2 v0_13 (i1 + (1 : Int32)) hm H14 locs15 ls hW16 hS17 hz20 (lv_sub hl [1, 0] rfl)
theorem w_fX9_image_2_l (C : Cx G p s m args meth c RX9 cX9_image 2 (some .int)) {b0 : Nat} {rx : Int32} {rw0 : Mem} : ∀ (n : Nat) (v0 : Mem) (i1 : Int32), lq2 (fX9_image_2) n v0 i1 = some (rx, rw0) → ∀ (H : Heap) (locs : List Loc) (ls : Array Slot), rg G b0 46 (shX9 G.2.1) v0 H → va_S (FA (iv b0 46) s.heap.size) s.heap H locs → H.size = s.heap.size → lv_has ls 2 [(0, .ref b0), (1, .int i1)] → W p l e (rmT 0 0 0 0) s m args below meth c H locs 0 0 (MQ below (QcT (FA (iv b0 46) s.heap.size) (fun ov H => ov = (some (.int rx)) ∧ rg G b0 46 (shX9 G.2.1) rw0 H ∧ H.size = s.heap.size)) args s 0 0 (FA (iv b0 46) s.heap.size)) (F0 m 2 ls []) := by
  intro n
  induction n with
  | zero => intro v0 i1 hm; exact (lq2_0 hm).elim
  | succ n ih => intro v0 i1 hm; exact w_fX9_image_2 C ih v0 i1 (lq2_s hm)
set_option maxHeartbeats 4000000 in
theorem w_fX9_image (C : Cx G p s m args meth c RX9 cX9_image 2 (some .int)) {b0 : Nat} {rx : Int32} {rw0 : Mem} : ∀ (v0 : Mem), fX9_image v0 = some (rx, rw0) → ∀ (H : Heap) (locs : List Loc) (ls : Array Slot), rg G b0 46 (shX9 G.2.1) v0 H → va_S (FA (iv b0 46) s.heap.size) s.heap H locs → H.size = s.heap.size → lv_has ls 2 [(0, .ref b0)] → W p l e (rmT 0 0 0 0) s m args below meth c H locs 0 0 (MQ below (QcT (FA (iv b0 46) s.heap.size) (fun ov H => ov = (some (.int rx)) ∧ rg G b0 46 (shX9 G.2.1) rw0 H ∧ H.size = s.heap.size)) args s 0 0 (FA (iv b0 46) s.heap.size)) (F0 m 0 ls []) := by
  intro v0 hm H locs ls hW0 hS hz hl
  obtain ⟨hx, hb, hr, hlk, hml, hown, hts, hK⟩ := id C
  unfold fX9_image at hm
  refine lv_iconst (pc := 0) (v := (0 : Int32)) hx hb dX9_image_0 (by decide) ?_
  refine lv_istore_n (pc := 1) (lv' := [(1, .int (0 : Int32)), (0, .ref b0)]) hx hb dX9_image_1 rfl hl (by decide) rfl (fun ls hl => ?_)
  exact (w_fX9_image_2_l C FU) v0 (0 : Int32) hm H locs ls hW0 hS hz (lv_sub hl [1, 0] rfl)
set_option maxHeartbeats 4000000 in
theorem ct_X9_image {G : Gv} {l : Launch} {b0 : Nat} {v0 : Mem} {rx : Int32} {rw0 : Mem} {sz : Nat} (hm : fX9_image v0 = some (rx, rw0)) : CT G l yX9_image (ws_ yX9_image cX9_image 2 (some .int)) 0 0 0 0 [.ref b0] (iv b0 46) sz (fun H => rg G b0 46 (shX9 G.2.1) v0 H) (fun ov H => ov = (some (.int rx)) ∧ rg G b0 46 (shX9 G.2.1) rw0 H ∧ H.size = sz) := by
  refine Met.ofW (cc := cX9_image) (maxL := 2) (ret := (some .int)) (by decide +kernel) rfl ?_
  intro p e s m args below meth c s₁ B hml hv
  obtain ⟨rfl, ⟨hz, hW0⟩, hK⟩ := hv
  subst hz
  have hts := atoms_spec (ws := ws_ yX9_image cX9_image 2 (some .int)) B.pre
  have hts : ∀ w ∈ lw_all, w.before _ s = true := fun w h => hts w (List.mem_cons_of_mem _ h)
  have C : Cx G p s m _ meth c RX9 cX9_image 2 (some .int) := ⟨B.exec, B.bytes, B.returns, B.notSynchronized, hml, findClass_of_methodNamed B.named, hts, hK⟩
  have hl := lv_entry ([.ref b0]) (n := 2) (Nat.le_of_ble_eq_true rfl)
  rw [lg_entry_eq]
  generalize (lg_sl ([.ref b0]) ++ List.replicate (2 - (lg_sl ([.ref b0])).length) Slot.unset).toArray = ls at hl ⊢
  have hl : lv_has ls 2 [(0, .ref b0)] := hl
  exact w_fX9_image C _ hm s.heap [] ls hW0 va_S.rf rfl hl
noncomputable def fX9_undo_12 (k12 : Mem → Int32 → Option (Int32 × Mem)) (v0 : Mem) (i1 : Int32) : Option (Int32 × Mem) :=
  if (150 : Int32) ≤ i1 then (
  lm (sI v0 6 18 (0 : Int32)) fun v0_3 =>
  gb (inR (1 : Int32) 150) (
  some ((gI v0_3 1 (1 : Int32).toNatClampNeg), v0_3)))
  else (
  gb (inR i1 150) (
  gb (inR i1 150) (
  lm (sI v0 1 i1.toNatClampNeg (gI v0 2 i1.toNatClampNeg)) fun v0_14 =>
  k12 v0_14 (i1 + (1 : Int32)))))
noncomputable def fX9_undo (v0 : Mem) : Option (Int32 × Mem) :=
  if (gI v0 0 3) = 0 then (
  some ((-3 : Int32), v0))
  else (
  lq2 (fX9_undo_12) FU v0 (0 : Int32))
set_option maxHeartbeats 4000000 in
theorem w_fX9_undo_12 (C : Cx G p s m args meth c RX9 cX9_undo 2 (some .int)) {b0 : Nat} {rx : Int32} {rw0 : Mem} {k12 : Mem → Int32 → Option (Int32 × Mem)} (hk12 : ∀ (v0 : Mem) (i1 : Int32), k12 v0 i1 = some (rx, rw0) → ∀ (H : Heap) (locs : List Loc) (ls : Array Slot), rg G b0 46 (shX9 G.2.1) v0 H → va_S (FA (iv b0 46) s.heap.size) s.heap H locs → H.size = s.heap.size → lv_has ls 2 [(0, .ref b0), (1, .int i1)] → W p l e (rmT 0 0 0 0) s m args below meth c H locs 0 0 (MQ below (QcT (FA (iv b0 46) s.heap.size) (fun ov H => ov = (some (.int rx)) ∧ rg G b0 46 (shX9 G.2.1) rw0 H ∧ H.size = s.heap.size)) args s 0 0 (FA (iv b0 46) s.heap.size)) (F0 m 12 ls [])) : ∀ (v0 : Mem) (i1 : Int32), fX9_undo_12 k12 v0 i1 = some (rx, rw0) → ∀ (H : Heap) (locs : List Loc) (ls : Array Slot), rg G b0 46 (shX9 G.2.1) v0 H → va_S (FA (iv b0 46) s.heap.size) s.heap H locs → H.size = s.heap.size → lv_has ls 2 [(0, .ref b0), (1, .int i1)] → W p l e (rmT 0 0 0 0) s m args below meth c H locs 0 0 (MQ below (QcT (FA (iv b0 46) s.heap.size) (fun ov H => ov = (some (.int rx)) ∧ rg G b0 46 (shX9 G.2.1) rw0 H ∧ H.size = s.heap.size)) args s 0 0 (FA (iv b0 46) s.heap.size)) (F0 m 12 ls []) := by
  intro v0 i1 hm H locs ls hW0 hS hz hl
  obtain ⟨hx, hb, hr, hlk, hml, hown, hts, hK⟩ := id C
  unfold fX9_undo_12 at hm
  refine lv_iload_n (pc := 12) hx hb dX9_undo_12 rfl (lv_at hl 1 rfl) ?_
  refine lv_sipush (pc := 13) (v := (150 : Int32)) hx hb dX9_undo_13 (by decide) ?_
  refine lv_icmp_ge (pc := 16) (tgt := 37) hx hb dX9_undo_16 (by decide) (fun c2 => ?_) (fun c2 => ?_)
  · have hm := ite_t c2 hm
    refine lv_aload_n (pc := 37) hx hb dX9_undo_37 rfl (lv_at hl 0 rfl) ?_
    refine rk_get (pc := 38) hx hb hts hown hK hW0 flX9_30 0 (by decide) rfl rfl (x := .ref (b0 + 6)) (by first | rfl | exact congrArg (fun z => some (Value.ref z)) (by omega)) dX9_undo_38 ?_
    refine lv_iconst (pc := 41) (v := (0 : Int32)) hx hb dX9_undo_41 (by decide) ?_
    refine rk_putN (pc := 42) hx hb hts hown hK hW0 hS fnX9_85 ft_X10 6 (by decide) rfl (Or.inl (show iv _ _ _ from ⟨by omega, by omega⟩)) rfl rfl (x := .int (0 : Int32)) rfl rfl (Nat.le_of_ble_eq_true rfl) (sI v0 6 18 (0 : Int32)) sI_ne (by rw [sI_eq]; exact rfl) dX9_undo_42 (fun H4 locs5 hW6 hS7 hz8 hkp9 => ?_)
    obtain ⟨v0_3, he9, hm⟩ := lm_some hm
    rw [he9] at hW6
    have hz10 := hz8.trans hz
    refine lv_aload_n (pc := 45) hx hb dX9_undo_45 rfl (lv_at hl 0 rfl) ?_
    refine rk_get (pc := 46) hx hb hts hown hK hW6 flX9_11 0 (by decide) rfl rfl (x := .ref (b0 + 1)) (by first | rfl | exact congrArg (fun z => some (Value.ref z)) (by omega)) dX9_undo_46 ?_
    refine lv_iconst (pc := 49) (v := (1 : Int32)) hx hb dX9_undo_49 (by decide) ?_
    obtain ⟨hg11, hm⟩ := gb_some hm
    refine rk_iald (pc := 50) hx hb hK hW6 1 (by decide) rfl rfl hg11 (x := (gI v0_3 1 (1 : Int32).toNatClampNeg)) rfl dX9_undo_50 ?_
    obtain ⟨e8, e9⟩ := rs2 hm
    subst e8
    subst e9
    exact rk_iret (pc := 51) hx hb hr hlk hS7 ⟨rfl, hW6, hz10⟩ dX9_undo_51
  · have hm := ite_f c2 hm
    refine lv_aload_n (pc := 19) hx hb dX9_undo_19 rfl (lv_at hl 0 rfl) ?_
    refine rk_get (pc := 20) hx hb hts hown hK hW0 flX9_11 0 (by decide) rfl rfl (x := .ref (b0 + 1)) (by first | rfl | exact congrArg (fun z => some (Value.ref z)) (by omega)) dX9_undo_20 ?_
    refine lv_iload_n (pc := 23) hx hb dX9_undo_23 rfl (lv_at hl 1 rfl) ?_
    refine lv_aload_n (pc := 24) hx hb dX9_undo_24 rfl (lv_at hl 0 rfl) ?_
    refine rk_get (pc := 25) hx hb hts hown hK hW0 flX9_15 0 (by decide) rfl rfl (x := .ref (b0 + 2)) (by first | rfl | exact congrArg (fun z => some (Value.ref z)) (by omega)) dX9_undo_25 ?_
    refine lv_iload_n (pc := 28) hx hb dX9_undo_28 rfl (lv_at hl 1 rfl) ?_
    obtain ⟨hg12, hm⟩ := gb_some hm
    refine rk_iald (pc := 29) hx hb hK hW0 2 (by decide) rfl rfl hg12 (x := (gI v0 2 i1.toNatClampNeg)) rfl dX9_undo_29 ?_
    obtain ⟨hg13, hm⟩ := gb_some hm
    refine rk_iast (pc := 30) hx hb hK hW0 hS 1 (by decide) rfl (Or.inl (show iv _ _ _ from ⟨by omega, by omega⟩)) (fun _ _ _ => rfl) hg13 dX9_undo_30 (fun H15 locs16 hW17 hS18 hz19 hkp20 => ?_)
    obtain ⟨v0_14, he9, hm⟩ := lm_some hm
    rw [he9] at hW17
    have hz21 := hz19.trans hz
    refine lv_iinc (pc := 31) (v := (i1 + (1 : Int32))) (lv' := [(1, .int (i1 + (1 : Int32))), (0, .ref b0)]) hx hb dX9_undo_31 hl (k := 1) rfl rfl (by decide) rfl (fun ls hl => ?_)
    refine lv_goto (pc := 34) (tgt := 12) hx hb dX9_undo_34 (by decide) ?_
    exact hk12 v0_14 (i1 + (1 : Int32)) hm H15 locs16 ls hW17 hS18 hz21 (lv_sub hl [1, 0] rfl)
theorem w_fX9_undo_12_l (C : Cx G p s m args meth c RX9 cX9_undo 2 (some .int)) {b0 : Nat} {rx : Int32} {rw0 : Mem} : ∀ (n : Nat) (v0 : Mem) (i1 : Int32), lq2 (fX9_undo_12) n v0 i1 = some (rx, rw0) → ∀ (H : Heap) (locs : List Loc) (ls : Array Slot), rg G b0 46 (shX9 G.2.1) v0 H → va_S (FA (iv b0 46) s.heap.size) s.heap H locs → H.size = s.heap.size → lv_has ls 2 [(0, .ref b0), (1, .int i1)] → W p l e (rmT 0 0 0 0) s m args below meth c H locs 0 0 (MQ below (QcT (FA (iv b0 46) s.heap.size) (fun ov H => ov = (some (.int rx)) ∧ rg G b0 46 (shX9 G.2.1) rw0 H ∧ H.size = s.heap.size)) args s 0 0 (FA (iv b0 46) s.heap.size)) (F0 m 12 ls []) := by
  intro n
  induction n with
  | zero => intro v0 i1 hm; exact (lq2_0 hm).elim
  | succ n ih => intro v0 i1 hm; exact w_fX9_undo_12 C ih v0 i1 (lq2_s hm)
set_option maxHeartbeats 4000000 in
theorem w_fX9_undo (C : Cx G p s m args meth c RX9 cX9_undo 2 (some .int)) {b0 : Nat} {rx : Int32} {rw0 : Mem} : ∀ (v0 : Mem), fX9_undo v0 = some (rx, rw0) → ∀ (H : Heap) (locs : List Loc) (ls : Array Slot), rg G b0 46 (shX9 G.2.1) v0 H → va_S (FA (iv b0 46) s.heap.size) s.heap H locs → H.size = s.heap.size → lv_has ls 2 [(0, .ref b0)] → W p l e (rmT 0 0 0 0) s m args below meth c H locs 0 0 (MQ below (QcT (FA (iv b0 46) s.heap.size) (fun ov H => ov = (some (.int rx)) ∧ rg G b0 46 (shX9 G.2.1) rw0 H ∧ H.size = s.heap.size)) args s 0 0 (FA (iv b0 46) s.heap.size)) (F0 m 0 ls []) := by
  intro v0 hm H locs ls hW0 hS hz hl
  obtain ⟨hx, hb, hr, hlk, hml, hown, hts, hK⟩ := id C
  unfold fX9_undo at hm
  refine lv_aload_n (pc := 0) hx hb dX9_undo_0 rfl (lv_at hl 0 rfl) ?_
  refine rk_get (pc := 1) hx hb hts hown hK hW0 flX9_450 0 (by decide) rfl rfl (x := .int (gI v0 0 3)) rfl dX9_undo_1 ?_
  refine lv_if_ne (pc := 4) (tgt := 10) hx hb dX9_undo_4 (by decide) (fun c1 => ?_) (fun c1 => ?_)
  · have hm := ite_f c1 hm
    refine lv_iconst (pc := 10) (v := (0 : Int32)) hx hb dX9_undo_10 (by decide) ?_
    refine lv_istore_n (pc := 11) (lv' := [(1, .int (0 : Int32)), (0, .ref b0)]) hx hb dX9_undo_11 rfl hl (by decide) rfl (fun ls hl => ?_)
    exact (w_fX9_undo_12_l C FU) v0 (0 : Int32) hm H locs ls hW0 hS hz (lv_sub hl [1, 0] rfl)
  · have hm := ite_t c1 hm
    refine lv_bipush (pc := 7) (v := (-3 : Int32)) hx hb dX9_undo_7 (by decide) ?_
    obtain ⟨e8, e9⟩ := rs2 hm
    subst e8
    subst e9
    exact rk_iret (pc := 9) hx hb hr hlk hS ⟨rfl, hW0, hz⟩ dX9_undo_9
set_option maxHeartbeats 4000000 in
theorem ct_X9_undo {G : Gv} {l : Launch} {b0 : Nat} {v0 : Mem} {rx : Int32} {rw0 : Mem} {sz : Nat} (hm : fX9_undo v0 = some (rx, rw0)) : CT G l yX9_undo (ws_ yX9_undo cX9_undo 2 (some .int)) 0 0 0 0 [.ref b0] (iv b0 46) sz (fun H => rg G b0 46 (shX9 G.2.1) v0 H) (fun ov H => ov = (some (.int rx)) ∧ rg G b0 46 (shX9 G.2.1) rw0 H ∧ H.size = sz) := by
  refine Met.ofW (cc := cX9_undo) (maxL := 2) (ret := (some .int)) (by decide +kernel) rfl ?_
  intro p e s m args below meth c s₁ B hml hv
  obtain ⟨rfl, ⟨hz, hW0⟩, hK⟩ := hv
  subst hz
  have hts := atoms_spec (ws := ws_ yX9_undo cX9_undo 2 (some .int)) B.pre
  have hts : ∀ w ∈ lw_all, w.before _ s = true := fun w h => hts w (List.mem_cons_of_mem _ h)
  have C : Cx G p s m _ meth c RX9 cX9_undo 2 (some .int) := ⟨B.exec, B.bytes, B.returns, B.notSynchronized, hml, findClass_of_methodNamed B.named, hts, hK⟩
  have hl := lv_entry ([.ref b0]) (n := 2) (Nat.le_of_ble_eq_true rfl)
  rw [lg_entry_eq]
  generalize (lg_sl ([.ref b0]) ++ List.replicate (2 - (lg_sl ([.ref b0])).length) Slot.unset).toArray = ls at hl ⊢
  have hl : lv_has ls 2 [(0, .ref b0)] := hl
  exact w_fX9_undo C _ hm s.heap [] ls hW0 va_S.rf rfl hl
theorem tsw10 {x : Int32} (h0 : ¬ x = (0 : Int32)) (h1 : ¬ x = (1 : Int32)) (h2 : ¬ x = (2 : Int32)) (h3 : ¬ x = (3 : Int32)) (h4 : ¬ x = (4 : Int32)) (h5 : ¬ x = (5 : Int32)) (h6 : ¬ x = (6 : Int32)) (h7 : ¬ x = (7 : Int32)) (h8 : ¬ x = (8 : Int32)) (h9 : ¬ x = (9 : Int32)) : x.toInt < 0 ∨ 9 < x.toInt := by
  have g0 : ¬ x.toInt = 0 := lv_neT h0 (by decide)
  have g1 : ¬ x.toInt = 1 := lv_neT h1 (by decide)
  have g2 : ¬ x.toInt = 2 := lv_neT h2 (by decide)
  have g3 : ¬ x.toInt = 3 := lv_neT h3 (by decide)
  have g4 : ¬ x.toInt = 4 := lv_neT h4 (by decide)
  have g5 : ¬ x.toInt = 5 := lv_neT h5 (by decide)
  have g6 : ¬ x.toInt = 6 := lv_neT h6 (by decide)
  have g7 : ¬ x.toInt = 7 := lv_neT h7 (by decide)
  have g8 : ¬ x.toInt = 8 := lv_neT h8 (by decide)
  have g9 : ¬ x.toInt = 9 := lv_neT h9 (by decide)
  omega
noncomputable def fX9_count (V0 : Mem) (i1 : Int32) : Option (Int32) :=
  if i1 = (0 : Int32) then (
  ob (fX9_n V0) fun r2 =>
  some r2)
  else if i1 = (1 : Int32) then (
  gb (inR (1 : Int32) 150) (
  some (gI V0 1 (1 : Int32).toNatClampNeg)))
  else if i1 = (2 : Int32) then (
  if (gI V0 6 18) = 0 then (
  some (0 : Int32))
  else (
  some (gI V0 6 15)))
  else if i1 = (3 : Int32) then (
  if (gI V0 6 18) = 0 then (
  some (0 : Int32))
  else (
  some (gI V0 6 16)))
  else if i1 = (4 : Int32) then (
  if (gI V0 6 18) = 0 then (
  some (0 : Int32))
  else (
  some (gI V0 6 17)))
  else if i1 = (5 : Int32) then (
  gb (inR (4 : Int32) 150) (
  some (gI V0 1 (4 : Int32).toNatClampNeg)))
  else if i1 = (6 : Int32) then (
  gb (inR (5 : Int32) 150) (
  some (gI V0 1 (5 : Int32).toNatClampNeg)))
  else if i1 = (7 : Int32) then (
  gb (inR (6 : Int32) 150) (
  some (gI V0 1 (6 : Int32).toNatClampNeg)))
  else if i1 = (8 : Int32) then (
  some (gI V0 0 6))
  else if i1 = (9 : Int32) then (
  gb (inR (3 : Int32) 150) (
  some (gI V0 1 (3 : Int32).toNatClampNeg)))
  else (
  some (-2 : Int32))
set_option maxHeartbeats 4000000 in
theorem w_fX9_count (C : Cx G p s m args meth c RX9 cX9_count 3 (some .int)) {b0 : Nat} {V0 : Mem} {rx : Int32} (hW0 : rg G b0 46 (shX9 G.2.1) V0 s.heap) : ∀ (i1 : Int32), fX9_count V0 i1 = some rx → ∀ (ls : Array Slot), lv_has ls 3 [(0, .ref b0), (1, .int i1)] → W p l e (rmP 1 20) s m args below meth c s.heap [] 0 0 (MQ below (QcP (some (.int rx))) args s 0 0 (fun _ => False)) (F0 m 0 ls []) := by
  intro i1 hm ls hl
  obtain ⟨hx, hb, hr, hlk, hml, hown, hts, hK⟩ := id C
  unfold fX9_count at hm
  refine lv_aload_n (pc := 0) hx hb dX9_count_0 rfl (lv_at hl 0 rfl) ?_
  refine rk_get (pc := 1) hx hb hts hown hK hW0 flX9_30 0 (by decide) rfl rfl (x := .ref (b0 + 6)) (by first | rfl | exact congrArg (fun z => some (Value.ref z)) (by omega)) dX9_count_1 ?_
  refine rk_getN (pc := 4) hx hb hts hown hK hW0 fnX9_85 6 (by decide) rfl rfl (x := .int (gI V0 6 18)) rfl dX9_count_4 ?_
  refine lv_istore_n (pc := 7) (lv' := [(2, .int (gI V0 6 18)), (0, .ref b0), (1, .int i1)]) hx hb dX9_count_7 rfl hl (by decide) rfl (fun ls hl => ?_)
  refine lv_iload_n (pc := 8) hx hb dX9_count_8 rfl (lv_at hl 2 rfl) ?_
  by_cases c1 : i1 = (0 : Int32)
  · have hm := ite_t c1 hm
    refine lv_tableIn (pc := 9) (tgt := 64) hx hb dX9_count_9 (by rw [c1]; decide) (by rw [c1]; decide) (by rw [c1]; rfl) (by decide) ?_
    refine lv_aload_n (pc := 64) hx hb dX9_count_64 rfl (lv_at hl 1 rfl) ?_
    obtain ⟨r2, hq3, hm⟩ := ob_some hm
    refine rk_PV (pc := 65) (As := []) (rest := []) hx hb hml hown hts hK lkX9_89 rfl yn_X9_n (ct_X9_n (G := G) (l := l) (b0 := b0) hq3) ⟨Nat.le_of_ble_eq_true rfl, Nat.le_of_ble_eq_true rfl⟩ (rk_recv hK hW0 0 (by decide) rfl rfl rfl) (rg_take hW0 (by decide)) rfl rfl hl.1 (Nat.le_of_ble_eq_true rfl) dX9_count_65 ⟨Nat.zero_le _, Nat.zero_le _⟩ ?_
    refine W.eq (g2 := F0 m 68 ls [.int r2]) rfl ?_
    have e9 := rs1 hm
    subst e9
    exact rk_iretP (pc := 68) hx hb hr hlk rfl dX9_count_68
  have hm := ite_f c1 hm
  by_cases c4 : i1 = (1 : Int32)
  · have hm := ite_t c4 hm
    refine lv_tableIn (pc := 9) (tgt := 69) hx hb dX9_count_9 (by rw [c4]; decide) (by rw [c4]; decide) (by rw [c4]; rfl) (by decide) ?_
    refine lv_aload_n (pc := 69) hx hb dX9_count_69 rfl (lv_at hl 1 rfl) ?_
    refine rk_get (pc := 70) hx hb hts hown hK hW0 flX9_11 0 (by decide) rfl rfl (x := .ref (b0 + 1)) (by first | rfl | exact congrArg (fun z => some (Value.ref z)) (by omega)) dX9_count_70 ?_
    refine lv_iconst (pc := 73) (v := (1 : Int32)) hx hb dX9_count_73 (by decide) ?_
    obtain ⟨hg5, hm⟩ := gb_some hm
    refine rk_iald (pc := 74) hx hb hK hW0 1 (by decide) rfl rfl hg5 (x := (gI V0 1 (1 : Int32).toNatClampNeg)) rfl dX9_count_74 ?_
    have e9 := rs1 hm
    subst e9
    exact rk_iretP (pc := 75) hx hb hr hlk rfl dX9_count_75
  have hm := ite_f c4 hm
  by_cases c6 : i1 = (2 : Int32)
  · have hm := ite_t c6 hm
    refine lv_tableIn (pc := 9) (tgt := 76) hx hb dX9_count_9 (by rw [c6]; decide) (by rw [c6]; decide) (by rw [c6]; rfl) (by decide) ?_
    refine lv_iload_n (pc := 76) hx hb dX9_count_76 rfl (lv_at hl 0 rfl) ?_
    refine lv_if_eq (pc := 77) (tgt := 90) hx hb dX9_count_77 (by decide) (fun c7 => ?_) (fun c7 => ?_)
    · have hm := ite_t c7 hm
      refine lv_iconst (pc := 90) (v := (0 : Int32)) hx hb dX9_count_90 (by decide) ?_
      have e9 := rs1 hm
      subst e9
      exact rk_iretP (pc := 91) hx hb hr hlk rfl dX9_count_91
    · have hm := ite_f c7 hm
      refine lv_aload_n (pc := 80) hx hb dX9_count_80 rfl (lv_at hl 1 rfl) ?_
      refine rk_get (pc := 81) hx hb hts hown hK hW0 flX9_30 0 (by decide) rfl rfl (x := .ref (b0 + 6)) (by first | rfl | exact congrArg (fun z => some (Value.ref z)) (by omega)) dX9_count_81 ?_
      refine rk_getN (pc := 84) hx hb hts hown hK hW0 fnX9_178 6 (by decide) rfl rfl (x := .int (gI V0 6 15)) rfl dX9_count_84 ?_
      refine lv_goto (pc := 87) (tgt := 91) hx hb dX9_count_87 (by decide) ?_
      have e9 := rs1 hm
      subst e9
      exact rk_iretP (pc := 91) hx hb hr hlk rfl dX9_count_91
  have hm := ite_f c6 hm
  by_cases c8 : i1 = (3 : Int32)
  · have hm := ite_t c8 hm
    refine lv_tableIn (pc := 9) (tgt := 92) hx hb dX9_count_9 (by rw [c8]; decide) (by rw [c8]; decide) (by rw [c8]; rfl) (by decide) ?_
    refine lv_iload_n (pc := 92) hx hb dX9_count_92 rfl (lv_at hl 0 rfl) ?_
    refine lv_if_eq (pc := 93) (tgt := 106) hx hb dX9_count_93 (by decide) (fun c9 => ?_) (fun c9 => ?_)
    · have hm := ite_t c9 hm
      refine lv_iconst (pc := 106) (v := (0 : Int32)) hx hb dX9_count_106 (by decide) ?_
      have e9 := rs1 hm
      subst e9
      exact rk_iretP (pc := 107) hx hb hr hlk rfl dX9_count_107
    · have hm := ite_f c9 hm
      refine lv_aload_n (pc := 96) hx hb dX9_count_96 rfl (lv_at hl 1 rfl) ?_
      refine rk_get (pc := 97) hx hb hts hown hK hW0 flX9_30 0 (by decide) rfl rfl (x := .ref (b0 + 6)) (by first | rfl | exact congrArg (fun z => some (Value.ref z)) (by omega)) dX9_count_97 ?_
      refine rk_getN (pc := 100) hx hb hts hown hK hW0 fnX9_187 6 (by decide) rfl rfl (x := .int (gI V0 6 16)) rfl dX9_count_100 ?_
      refine lv_goto (pc := 103) (tgt := 107) hx hb dX9_count_103 (by decide) ?_
      have e9 := rs1 hm
      subst e9
      exact rk_iretP (pc := 107) hx hb hr hlk rfl dX9_count_107
  have hm := ite_f c8 hm
  by_cases c10 : i1 = (4 : Int32)
  · have hm := ite_t c10 hm
    refine lv_tableIn (pc := 9) (tgt := 108) hx hb dX9_count_9 (by rw [c10]; decide) (by rw [c10]; decide) (by rw [c10]; rfl) (by decide) ?_
    refine lv_iload_n (pc := 108) hx hb dX9_count_108 rfl (lv_at hl 0 rfl) ?_
    refine lv_if_eq (pc := 109) (tgt := 122) hx hb dX9_count_109 (by decide) (fun c11 => ?_) (fun c11 => ?_)
    · have hm := ite_t c11 hm
      refine lv_iconst (pc := 122) (v := (0 : Int32)) hx hb dX9_count_122 (by decide) ?_
      have e9 := rs1 hm
      subst e9
      exact rk_iretP (pc := 123) hx hb hr hlk rfl dX9_count_123
    · have hm := ite_f c11 hm
      refine lv_aload_n (pc := 112) hx hb dX9_count_112 rfl (lv_at hl 1 rfl) ?_
      refine rk_get (pc := 113) hx hb hts hown hK hW0 flX9_30 0 (by decide) rfl rfl (x := .ref (b0 + 6)) (by first | rfl | exact congrArg (fun z => some (Value.ref z)) (by omega)) dX9_count_113 ?_
      refine rk_getN (pc := 116) hx hb hts hown hK hW0 fnX9_190 6 (by decide) rfl rfl (x := .int (gI V0 6 17)) rfl dX9_count_116 ?_
      refine lv_goto (pc := 119) (tgt := 123) hx hb dX9_count_119 (by decide) ?_
      have e9 := rs1 hm
      subst e9
      exact rk_iretP (pc := 123) hx hb hr hlk rfl dX9_count_123
  have hm := ite_f c10 hm
  by_cases c12 : i1 = (5 : Int32)
  · have hm := ite_t c12 hm
    refine lv_tableIn (pc := 9) (tgt := 124) hx hb dX9_count_9 (by rw [c12]; decide) (by rw [c12]; decide) (by rw [c12]; rfl) (by decide) ?_
    refine lv_aload_n (pc := 124) hx hb dX9_count_124 rfl (lv_at hl 1 rfl) ?_
    refine rk_get (pc := 125) hx hb hts hown hK hW0 flX9_11 0 (by decide) rfl rfl (x := .ref (b0 + 1)) (by first | rfl | exact congrArg (fun z => some (Value.ref z)) (by omega)) dX9_count_125 ?_
    refine lv_iconst (pc := 128) (v := (4 : Int32)) hx hb dX9_count_128 (by decide) ?_
    obtain ⟨hg13, hm⟩ := gb_some hm
    refine rk_iald (pc := 129) hx hb hK hW0 1 (by decide) rfl rfl hg13 (x := (gI V0 1 (4 : Int32).toNatClampNeg)) rfl dX9_count_129 ?_
    have e9 := rs1 hm
    subst e9
    exact rk_iretP (pc := 130) hx hb hr hlk rfl dX9_count_130
  have hm := ite_f c12 hm
  by_cases c14 : i1 = (6 : Int32)
  · have hm := ite_t c14 hm
    refine lv_tableIn (pc := 9) (tgt := 131) hx hb dX9_count_9 (by rw [c14]; decide) (by rw [c14]; decide) (by rw [c14]; rfl) (by decide) ?_
    refine lv_aload_n (pc := 131) hx hb dX9_count_131 rfl (lv_at hl 1 rfl) ?_
    refine rk_get (pc := 132) hx hb hts hown hK hW0 flX9_11 0 (by decide) rfl rfl (x := .ref (b0 + 1)) (by first | rfl | exact congrArg (fun z => some (Value.ref z)) (by omega)) dX9_count_132 ?_
    refine lv_iconst (pc := 135) (v := (5 : Int32)) hx hb dX9_count_135 (by decide) ?_
    obtain ⟨hg15, hm⟩ := gb_some hm
    refine rk_iald (pc := 136) hx hb hK hW0 1 (by decide) rfl rfl hg15 (x := (gI V0 1 (5 : Int32).toNatClampNeg)) rfl dX9_count_136 ?_
    have e9 := rs1 hm
    subst e9
    exact rk_iretP (pc := 137) hx hb hr hlk rfl dX9_count_137
  have hm := ite_f c14 hm
  by_cases c16 : i1 = (7 : Int32)
  · have hm := ite_t c16 hm
    refine lv_tableIn (pc := 9) (tgt := 138) hx hb dX9_count_9 (by rw [c16]; decide) (by rw [c16]; decide) (by rw [c16]; rfl) (by decide) ?_
    refine lv_aload_n (pc := 138) hx hb dX9_count_138 rfl (lv_at hl 1 rfl) ?_
    refine rk_get (pc := 139) hx hb hts hown hK hW0 flX9_11 0 (by decide) rfl rfl (x := .ref (b0 + 1)) (by first | rfl | exact congrArg (fun z => some (Value.ref z)) (by omega)) dX9_count_139 ?_
    refine lv_bipush (pc := 142) (v := (6 : Int32)) hx hb dX9_count_142 (by decide) ?_
    obtain ⟨hg17, hm⟩ := gb_some hm
    refine rk_iald (pc := 144) hx hb hK hW0 1 (by decide) rfl rfl hg17 (x := (gI V0 1 (6 : Int32).toNatClampNeg)) rfl dX9_count_144 ?_
    have e9 := rs1 hm
    subst e9
    exact rk_iretP (pc := 145) hx hb hr hlk rfl dX9_count_145
  have hm := ite_f c16 hm
  by_cases c18 : i1 = (8 : Int32)
  · have hm := ite_t c18 hm
    refine lv_tableIn (pc := 9) (tgt := 146) hx hb dX9_count_9 (by rw [c18]; decide) (by rw [c18]; decide) (by rw [c18]; rfl) (by decide) ?_
    refine lv_aload_n (pc := 146) hx hb dX9_count_146 rfl (lv_at hl 1 rfl) ?_
    refine rk_get (pc := 147) hx hb hts hown hK hW0 flX9_133 0 (by decide) rfl rfl (x := .int (gI V0 0 6)) rfl dX9_count_147 ?_
    have e9 := rs1 hm
    subst e9
    exact rk_iretP (pc := 150) hx hb hr hlk rfl dX9_count_150
  have hm := ite_f c18 hm
  by_cases c19 : i1 = (9 : Int32)
  · have hm := ite_t c19 hm
    refine lv_tableIn (pc := 9) (tgt := 151) hx hb dX9_count_9 (by rw [c19]; decide) (by rw [c19]; decide) (by rw [c19]; rfl) (by decide) ?_
    refine lv_aload_n (pc := 151) hx hb dX9_count_151 rfl (lv_at hl 1 rfl) ?_
    refine rk_get (pc := 152) hx hb hts hown hK hW0 flX9_11 0 (by decide) rfl rfl (x := .ref (b0 + 1)) (by first | rfl | exact congrArg (fun z => some (Value.ref z)) (by omega)) dX9_count_152 ?_
    refine lv_iconst (pc := 155) (v := (3 : Int32)) hx hb dX9_count_155 (by decide) ?_
    obtain ⟨hg20, hm⟩ := gb_some hm
    refine rk_iald (pc := 156) hx hb hK hW0 1 (by decide) rfl rfl hg20 (x := (gI V0 1 (3 : Int32).toNatClampNeg)) rfl dX9_count_156 ?_
    have e9 := rs1 hm
    subst e9
    exact rk_iretP (pc := 157) hx hb hr hlk rfl dX9_count_157
  have hm := ite_f c19 hm
  refine lv_tableOut (pc := 9) (tgt := 158) hx hb dX9_count_9 (tsw10 c1 c4 c6 c8 c10 c12 c14 c16 c18 c19) (by decide) ?_
  refine lv_bipush (pc := 158) (v := (-2 : Int32)) hx hb dX9_count_158 (by decide) ?_
  have e9 := rs1 hm
  subst e9
  exact rk_iretP (pc := 160) hx hb hr hlk rfl dX9_count_160
set_option maxHeartbeats 4000000 in
theorem ct_X9_count {G : Gv} {l : Launch} {b0 : Nat} {V0 : Mem} {i1 : Int32} {rx : Int32} (hm : fX9_count V0 i1 = some rx) : CP G l yX9_count (ws_ yX9_count cX9_count 3 (some .int)) 1 20 [.ref b0, .int i1] (fun H => rg G b0 46 (shX9 G.2.1) V0 H) (some (.int rx)) := by
  refine Met.ofW (cc := cX9_count) (maxL := 3) (ret := (some .int)) (by decide +kernel) rfl ?_
  intro p e s m args below meth c s₁ B hml hv
  obtain ⟨rfl, hW0, hK⟩ := hv
  have hts := atoms_spec (ws := ws_ yX9_count cX9_count 3 (some .int)) B.pre
  have hts : ∀ w ∈ lw_all, w.before _ s = true := fun w h => hts w (List.mem_cons_of_mem _ h)
  have C : Cx G p s m _ meth c RX9 cX9_count 3 (some .int) := ⟨B.exec, B.bytes, B.returns, B.notSynchronized, hml, findClass_of_methodNamed B.named, hts, hK⟩
  have hl := lv_entry ([.ref b0, .int i1]) (n := 3) (Nat.le_of_ble_eq_true rfl)
  rw [lg_entry_eq]
  generalize (lg_sl ([.ref b0, .int i1]) ++ List.replicate (3 - (lg_sl ([.ref b0, .int i1])).length) Slot.unset).toArray = ls at hl ⊢
  have hl : lv_has ls 3 [(0, .ref b0), (1, .int i1)] := hl
  exact w_fX9_count C hW0 _ hm ls hl
noncomputable def fX9_tape_72 (k72 : Mem → Int32 → Int32 → Option (Int32 × Mem)) (v0 : Mem) (i1 : Int32) (i4 : Int32) : Option (Int32 × Mem) :=
  gb (inR i1 6) (
  if (gI v0 43 i1.toNatClampNeg) ≤ i4 then (
  some ((1 : Int32), v0))
  else (
  gb (inR (((60 : Int32) * i1) + i4) 360) (
  lm (sL v0 44 (((60 : Int32) * i1) + i4).toNatClampNeg (0 : Int64)) fun v0_42 =>
  k72 v0_42 i1 (i4 + (1 : Int32)))))
noncomputable def fX9_tape_47 (v0 : Mem) (i1 : Int32) (i2 : Int32) (i3 : Int32) : Option (Int32 × Mem) :=
  gb (inR i1 6) (
  lm (sI v0 42 i1.toNatClampNeg i2) fun v0_12 =>
  if 0 ≤ i2 then (
  gb (inR i1 6) (
  lm (sI v0_12 43 i1.toNatClampNeg i3) fun v0_22 =>
  lq3 (fX9_tape_72) FU v0_22 i1 (0 : Int32)))
  else (
  gb (inR i1 6) (
  lm (sI v0_12 43 i1.toNatClampNeg (0 : Int32)) fun v0_31 =>
  lq3 (fX9_tape_72) FU v0_31 i1 (0 : Int32))))
noncomputable def fX9_tape_36 (v0 : Mem) (i1 : Int32) (i2 : Int32) (i3 : Int32) : Option (Int32 × Mem) :=
  if i2 < 0 then (
  fX9_tape_47 v0 i1 i2 i3)
  else (
  if 0 ≤ i3 then (
  fX9_tape_47 v0 i1 i2 i3)
  else (
  some ((-14 : Int32), v0)))
noncomputable def fX9_tape (v0 : Mem) (i1 : Int32) (i2 : Int32) (i3 : Int32) : Option (Int32 × Mem) :=
  ob (fX9_isTape i1) fun r1 =>
  if r1 = 0 then (
  some ((-1 : Int32), v0))
  else (
  ob (fX9_isIn i2.toInt64 (-1 : Int64) (4 : Int64)) fun r4 =>
  if r4 = 0 then (
  some ((-2 : Int32), v0))
  else (
  if i2 < 0 then (
  fX9_tape_36 v0 i1 i2 i3)
  else (
  if i3 ≤ (60 : Int32) then (
  fX9_tape_36 v0 i1 i2 i3)
  else (
  some ((-2 : Int32), v0)))))
set_option maxHeartbeats 4000000 in
theorem w_fX9_tape_72 (C : Cx G p s m args meth c RX9 cX9_tape 5 (some .int)) {b0 : Nat} {rx : Int32} {rw0 : Mem} {k72 : Mem → Int32 → Int32 → Option (Int32 × Mem)} (hk72 : ∀ (v0 : Mem) (i1 : Int32) (i4 : Int32), k72 v0 i1 i4 = some (rx, rw0) → ∀ (H : Heap) (locs : List Loc) (ls : Array Slot), rg G b0 46 (shX9 G.2.1) v0 H → va_S (FA (iv b0 46) s.heap.size) s.heap H locs → H.size = s.heap.size → lv_has ls 5 [(0, .ref b0), (1, .int i1), (4, .int i4)] → W p l e (rmT 2 0 0 45) s m args below meth c H locs 0 0 (MQ below (QcT (FA (iv b0 46) s.heap.size) (fun ov H => ov = (some (.int rx)) ∧ rg G b0 46 (shX9 G.2.1) rw0 H ∧ H.size = s.heap.size)) args s 0 0 (FA (iv b0 46) s.heap.size)) (F0 m 72 ls [])) : ∀ (v0 : Mem) (i1 : Int32) (i4 : Int32), fX9_tape_72 k72 v0 i1 i4 = some (rx, rw0) → ∀ (H : Heap) (locs : List Loc) (ls : Array Slot), rg G b0 46 (shX9 G.2.1) v0 H → va_S (FA (iv b0 46) s.heap.size) s.heap H locs → H.size = s.heap.size → lv_has ls 5 [(0, .ref b0), (1, .int i1), (4, .int i4)] → W p l e (rmT 2 0 0 45) s m args below meth c H locs 0 0 (MQ below (QcT (FA (iv b0 46) s.heap.size) (fun ov H => ov = (some (.int rx)) ∧ rg G b0 46 (shX9 G.2.1) rw0 H ∧ H.size = s.heap.size)) args s 0 0 (FA (iv b0 46) s.heap.size)) (F0 m 72 ls []) := by
  intro v0 i1 i4 hm H locs ls hW0 hS hz hl
  obtain ⟨hx, hb, hr, hlk, hml, hown, hts, hK⟩ := id C
  unfold fX9_tape_72 at hm
  refine lv_iload (pc := 72) hx hb dX9_tape_72 (lv_at hl 2 rfl) ?_
  refine lv_aload_n (pc := 74) hx hb dX9_tape_74 rfl (lv_at hl 0 rfl) ?_
  refine rk_get (pc := 75) hx hb hts hown hK hW0 flX9_72 0 (by decide) rfl rfl (x := .ref (b0 + 43)) (by first | rfl | exact congrArg (fun z => some (Value.ref z)) (by omega)) dX9_tape_75 ?_
  refine lv_iload_n (pc := 78) hx hb dX9_tape_78 rfl (lv_at hl 1 rfl) ?_
  obtain ⟨hg39, hm⟩ := gb_some hm
  refine rk_iald (pc := 79) hx hb hK hW0 43 (by decide) rfl rfl hg39 (x := (gI v0 43 i1.toNatClampNeg)) rfl dX9_tape_79 ?_
  refine lv_icmp_ge (pc := 80) (tgt := 102) hx hb dX9_tape_80 (by decide) (fun c40 => ?_) (fun c40 => ?_)
  · have hm := ite_t c40 hm
    refine lv_iconst (pc := 102) (v := (1 : Int32)) hx hb dX9_tape_102 (by decide) ?_
    obtain ⟨e8, e9⟩ := rs2 hm
    subst e8
    subst e9
    exact rk_iret (pc := 103) hx hb hr hlk hS ⟨rfl, hW0, hz⟩ dX9_tape_103
  · have hm := ite_f c40 hm
    refine lv_aload_n (pc := 83) hx hb dX9_tape_83 rfl (lv_at hl 0 rfl) ?_
    refine rk_get (pc := 84) hx hb hts hown hK hW0 flX9_75 0 (by decide) rfl rfl (x := .ref (b0 + 44)) (by first | rfl | exact congrArg (fun z => some (Value.ref z)) (by omega)) dX9_tape_84 ?_
    refine lv_bipush (pc := 87) (v := (60 : Int32)) hx hb dX9_tape_87 (by decide) ?_
    refine lv_iload_n (pc := 89) hx hb dX9_tape_89 rfl (lv_at hl 1 rfl) ?_
    refine lv_imul (pc := 90) hx hb dX9_tape_90 ?_
    refine lv_iload (pc := 91) hx hb dX9_tape_91 (lv_at hl 2 rfl) ?_
    refine lv_iadd (pc := 93) hx hb dX9_tape_93 ?_
    refine lv_lconst (pc := 94) (v := (0 : Int64)) hx hb dX9_tape_94 (by decide) ?_
    obtain ⟨hg41, hm⟩ := gb_some hm
    refine rk_last (pc := 95) hx hb hK hW0 hS 44 (by decide) rfl (Or.inl (show iv _ _ _ from ⟨by omega, by omega⟩)) (fun _ _ _ => rfl) hg41 dX9_tape_95 (fun H43 locs44 hW45 hS46 hz47 hkp48 => ?_)
    obtain ⟨v0_42, he9, hm⟩ := lm_some hm
    rw [he9] at hW45
    have hz49 := hz47.trans hz
    refine lv_iinc (pc := 96) (v := (i4 + (1 : Int32))) (lv' := [(4, .int (i4 + (1 : Int32))), (0, .ref b0), (1, .int i1)]) hx hb dX9_tape_96 hl (k := 2) rfl rfl (by decide) rfl (fun ls hl => ?_)
    refine lv_goto (pc := 99) (tgt := 72) hx hb dX9_tape_99 (by decide) ?_
    exact hk72 v0_42 i1 (i4 + (1 : Int32)) hm H43 locs44 ls hW45 hS46 hz49 (lv_sub hl [1, 2, 0] rfl)
theorem w_fX9_tape_72_l (C : Cx G p s m args meth c RX9 cX9_tape 5 (some .int)) {b0 : Nat} {rx : Int32} {rw0 : Mem} : ∀ (n : Nat) (v0 : Mem) (i1 : Int32) (i4 : Int32), lq3 (fX9_tape_72) n v0 i1 i4 = some (rx, rw0) → ∀ (H : Heap) (locs : List Loc) (ls : Array Slot), rg G b0 46 (shX9 G.2.1) v0 H → va_S (FA (iv b0 46) s.heap.size) s.heap H locs → H.size = s.heap.size → lv_has ls 5 [(0, .ref b0), (1, .int i1), (4, .int i4)] → W p l e (rmT 2 0 0 45) s m args below meth c H locs 0 0 (MQ below (QcT (FA (iv b0 46) s.heap.size) (fun ov H => ov = (some (.int rx)) ∧ rg G b0 46 (shX9 G.2.1) rw0 H ∧ H.size = s.heap.size)) args s 0 0 (FA (iv b0 46) s.heap.size)) (F0 m 72 ls []) := by
  intro n
  induction n with
  | zero => intro v0 i1 i4 hm; exact (lq3_0 hm).elim
  | succ n ih => intro v0 i1 i4 hm; exact w_fX9_tape_72 C ih v0 i1 i4 (lq3_s hm)
set_option maxHeartbeats 4000000 in
theorem w_fX9_tape_47 (C : Cx G p s m args meth c RX9 cX9_tape 5 (some .int)) {b0 : Nat} {rx : Int32} {rw0 : Mem} : ∀ (v0 : Mem) (i1 : Int32) (i2 : Int32) (i3 : Int32), fX9_tape_47 v0 i1 i2 i3 = some (rx, rw0) → ∀ (H : Heap) (locs : List Loc) (ls : Array Slot), rg G b0 46 (shX9 G.2.1) v0 H → va_S (FA (iv b0 46) s.heap.size) s.heap H locs → H.size = s.heap.size → lv_has ls 5 [(0, .ref b0), (1, .int i1), (2, .int i2), (3, .int i3)] → W p l e (rmT 2 0 0 45) s m args below meth c H locs 0 0 (MQ below (QcT (FA (iv b0 46) s.heap.size) (fun ov H => ov = (some (.int rx)) ∧ rg G b0 46 (shX9 G.2.1) rw0 H ∧ H.size = s.heap.size)) args s 0 0 (FA (iv b0 46) s.heap.size)) (F0 m 47 ls []) := by
  intro v0 i1 i2 i3 hm H locs ls hW0 hS hz hl
  obtain ⟨hx, hb, hr, hlk, hml, hown, hts, hK⟩ := id C
  unfold fX9_tape_47 at hm
  refine lv_aload_n (pc := 47) hx hb dX9_tape_47 rfl (lv_at hl 0 rfl) ?_
  refine rk_get (pc := 48) hx hb hts hown hK hW0 flX9_69 0 (by decide) rfl rfl (x := .ref (b0 + 42)) (by first | rfl | exact congrArg (fun z => some (Value.ref z)) (by omega)) dX9_tape_48 ?_
  refine lv_iload_n (pc := 51) hx hb dX9_tape_51 rfl (lv_at hl 1 rfl) ?_
  refine lv_iload_n (pc := 52) hx hb dX9_tape_52 rfl (lv_at hl 2 rfl) ?_
  obtain ⟨hg11, hm⟩ := gb_some hm
  refine rk_iast (pc := 53) hx hb hK hW0 hS 42 (by decide) rfl (Or.inl (show iv _ _ _ from ⟨by omega, by omega⟩)) (fun _ _ _ => rfl) hg11 dX9_tape_53 (fun H13 locs14 hW15 hS16 hz17 hkp18 => ?_)
  obtain ⟨v0_12, he9, hm⟩ := lm_some hm
  rw [he9] at hW15
  have hz19 := hz17.trans hz
  refine lv_aload_n (pc := 54) hx hb dX9_tape_54 rfl (lv_at hl 0 rfl) ?_
  refine rk_get (pc := 55) hx hb hts hown hK hW15 flX9_72 0 (by decide) rfl rfl (x := .ref (b0 + 43)) (by first | rfl | exact congrArg (fun z => some (Value.ref z)) (by omega)) dX9_tape_55 ?_
  refine lv_iload_n (pc := 58) hx hb dX9_tape_58 rfl (lv_at hl 1 rfl) ?_
  refine lv_iload_n (pc := 59) hx hb dX9_tape_59 rfl (lv_at hl 2 rfl) ?_
  refine lv_if_ge (pc := 60) (tgt := 67) hx hb dX9_tape_60 (by decide) (fun c20 => ?_) (fun c20 => ?_)
  · have hm := ite_t c20 hm
    refine lv_iload_n (pc := 67) hx hb dX9_tape_67 rfl (lv_at hl 3 rfl) ?_
    obtain ⟨hg21, hm⟩ := gb_some hm
    refine rk_iast (pc := 68) hx hb hK hW15 hS16 43 (by decide) rfl (Or.inl (show iv _ _ _ from ⟨by omega, by omega⟩)) (fun _ _ _ => rfl) hg21 dX9_tape_68 (fun H23 locs24 hW25 hS26 hz27 hkp28 => ?_)
    obtain ⟨v0_22, he9, hm⟩ := lm_some hm
    rw [he9] at hW25
    have hz29 := hz27.trans hz19
    refine lv_iconst (pc := 69) (v := (0 : Int32)) hx hb dX9_tape_69 (by decide) ?_
    refine lv_istore (pc := 70) (lv' := [(4, .int (0 : Int32)), (0, .ref b0), (1, .int i1), (2, .int i2), (3, .int i3)]) hx hb dX9_tape_70 hl (by decide) rfl (fun ls hl => ?_)
    exact (w_fX9_tape_72_l C FU) v0_22 i1 (0 : Int32) hm H23 locs24 ls hW25 hS26 hz29 (lv_sub hl [1, 2, 0] rfl)
  · have hm := ite_f c20 hm
    refine lv_iconst (pc := 63) (v := (0 : Int32)) hx hb dX9_tape_63 (by decide) ?_
    refine lv_goto (pc := 64) (tgt := 68) hx hb dX9_tape_64 (by decide) ?_
    obtain ⟨hg30, hm⟩ := gb_some hm
    refine rk_iast (pc := 68) hx hb hK hW15 hS16 43 (by decide) rfl (Or.inl (show iv _ _ _ from ⟨by omega, by omega⟩)) (fun _ _ _ => rfl) hg30 dX9_tape_68 (fun H32 locs33 hW34 hS35 hz36 hkp37 => ?_)
    obtain ⟨v0_31, he9, hm⟩ := lm_some hm
    rw [he9] at hW34
    have hz38 := hz36.trans hz19
    refine lv_iconst (pc := 69) (v := (0 : Int32)) hx hb dX9_tape_69 (by decide) ?_
    refine lv_istore (pc := 70) (lv' := [(4, .int (0 : Int32)), (0, .ref b0), (1, .int i1), (2, .int i2), (3, .int i3)]) hx hb dX9_tape_70 hl (by decide) rfl (fun ls hl => ?_)
    exact (w_fX9_tape_72_l C FU) v0_31 i1 (0 : Int32) hm H32 locs33 ls hW34 hS35 hz38 (lv_sub hl [1, 2, 0] rfl)
set_option maxHeartbeats 4000000 in
theorem w_fX9_tape_36 (C : Cx G p s m args meth c RX9 cX9_tape 5 (some .int)) {b0 : Nat} {rx : Int32} {rw0 : Mem} : ∀ (v0 : Mem) (i1 : Int32) (i2 : Int32) (i3 : Int32), fX9_tape_36 v0 i1 i2 i3 = some (rx, rw0) → ∀ (H : Heap) (locs : List Loc) (ls : Array Slot), rg G b0 46 (shX9 G.2.1) v0 H → va_S (FA (iv b0 46) s.heap.size) s.heap H locs → H.size = s.heap.size → lv_has ls 5 [(0, .ref b0), (1, .int i1), (2, .int i2), (3, .int i3)] → W p l e (rmT 2 0 0 45) s m args below meth c H locs 0 0 (MQ below (QcT (FA (iv b0 46) s.heap.size) (fun ov H => ov = (some (.int rx)) ∧ rg G b0 46 (shX9 G.2.1) rw0 H ∧ H.size = s.heap.size)) args s 0 0 (FA (iv b0 46) s.heap.size)) (F0 m 36 ls []) := by
  intro v0 i1 i2 i3 hm H locs ls hW0 hS hz hl
  obtain ⟨hx, hb, hr, hlk, hml, hown, hts, hK⟩ := id C
  unfold fX9_tape_36 at hm
  refine lv_iload_n (pc := 36) hx hb dX9_tape_36 rfl (lv_at hl 2 rfl) ?_
  refine lv_if_lt (pc := 37) (tgt := 47) hx hb dX9_tape_37 (by decide) (fun c9 => ?_) (fun c9 => ?_)
  · have hm := ite_t c9 hm
    exact (w_fX9_tape_47 C) v0 i1 i2 i3 hm H locs ls hW0 hS hz (lv_sub hl [0, 1, 2, 3] rfl)
  · have hm := ite_f c9 hm
    refine lv_iload_n (pc := 40) hx hb dX9_tape_40 rfl (lv_at hl 3 rfl) ?_
    refine lv_if_ge (pc := 41) (tgt := 47) hx hb dX9_tape_41 (by decide) (fun c10 => ?_) (fun c10 => ?_)
    · have hm := ite_t c10 hm
      exact (w_fX9_tape_47 C) v0 i1 i2 i3 hm H locs ls hW0 hS hz (lv_sub hl [0, 1, 2, 3] rfl)
    · have hm := ite_f c10 hm
      refine lv_bipush (pc := 44) (v := (-14 : Int32)) hx hb dX9_tape_44 (by decide) ?_
      obtain ⟨e8, e9⟩ := rs2 hm
      subst e8
      subst e9
      exact rk_iret (pc := 46) hx hb hr hlk hS ⟨rfl, hW0, hz⟩ dX9_tape_46
set_option maxHeartbeats 4000000 in
theorem w_fX9_tape (C : Cx G p s m args meth c RX9 cX9_tape 5 (some .int)) {b0 : Nat} {rx : Int32} {rw0 : Mem} : ∀ (v0 : Mem) (i1 : Int32) (i2 : Int32) (i3 : Int32), fX9_tape v0 i1 i2 i3 = some (rx, rw0) → ∀ (H : Heap) (locs : List Loc) (ls : Array Slot), rg G b0 46 (shX9 G.2.1) v0 H → va_S (FA (iv b0 46) s.heap.size) s.heap H locs → H.size = s.heap.size → lv_has ls 5 [(0, .ref b0), (1, .int i1), (2, .int i2), (3, .int i3)] → W p l e (rmT 2 0 0 45) s m args below meth c H locs 0 0 (MQ below (QcT (FA (iv b0 46) s.heap.size) (fun ov H => ov = (some (.int rx)) ∧ rg G b0 46 (shX9 G.2.1) rw0 H ∧ H.size = s.heap.size)) args s 0 0 (FA (iv b0 46) s.heap.size)) (F0 m 0 ls []) := by
  intro v0 i1 i2 i3 hm H locs ls hW0 hS hz hl
  obtain ⟨hx, hb, hr, hlk, hml, hown, hts, hK⟩ := id C
  unfold fX9_tape at hm
  refine lv_iload_n (pc := 0) hx hb dX9_tape_0 rfl (lv_at hl 1 rfl) ?_
  obtain ⟨r1, hq2, hm⟩ := ob_some hm
  refine rk_PS (pc := 1) (As := [.int i1]) (rest := []) hx hb hml hown hts hK lkX9_447 yn_X9_isTape (ct_X9_isTape (G := G) (l := l) hq2) ⟨Nat.le_of_ble_eq_true rfl, Nat.le_of_ble_eq_true rfl⟩ trivial rfl rfl hl.1 (Nat.le_of_ble_eq_true rfl) dX9_tape_1 ⟨Nat.zero_le _, Nat.zero_le _⟩ ?_
  refine W.eq (g2 := F0 m 4 ls [.int r1]) rfl ?_
  refine lv_if_ne (pc := 4) (tgt := 9) hx hb dX9_tape_4 (by decide) (fun c3 => ?_) (fun c3 => ?_)
  · have hm := ite_f c3 hm
    refine lv_iload_n (pc := 9) hx hb dX9_tape_9 rfl (lv_at hl 2 rfl) ?_
    refine lv_i2l (pc := 10) hx hb dX9_tape_10 rfl ?_
    refine lv_ldc2 (pc := 11) (v := (-1 : Int64)) hx hb hown (hts _ q2057) dX9_tape_11 ?_
    refine lv_ldc2 (pc := 14) (v := (4 : Int64)) hx hb hown (hts _ q2292) dX9_tape_14 ?_
    obtain ⟨r4, hq5, hm⟩ := ob_some hm
    refine rk_PS (pc := 17) (As := [.long i2.toInt64, .long (-1 : Int64), .long (4 : Int64)]) (rest := []) hx hb hml hown hts hK lkX9_93 yn_X9_isIn (ct_X9_isIn (G := G) (l := l) hq5) ⟨Nat.le_of_ble_eq_true rfl, Nat.le_of_ble_eq_true rfl⟩ trivial rfl rfl hl.1 (Nat.le_of_ble_eq_true rfl) dX9_tape_17 ⟨Nat.zero_le _, Nat.zero_le _⟩ ?_
    refine W.eq (g2 := F0 m 20 ls [.int r4]) rfl ?_
    refine lv_if_eq (pc := 20) (tgt := 33) hx hb dX9_tape_20 (by decide) (fun c6 => ?_) (fun c6 => ?_)
    · have hm := ite_t c6 hm
      refine lv_bipush (pc := 33) (v := (-2 : Int32)) hx hb dX9_tape_33 (by decide) ?_
      obtain ⟨e8, e9⟩ := rs2 hm
      subst e8
      subst e9
      exact rk_iret (pc := 35) hx hb hr hlk hS ⟨rfl, hW0, hz⟩ dX9_tape_35
    · have hm := ite_f c6 hm
      refine lv_iload_n (pc := 23) hx hb dX9_tape_23 rfl (lv_at hl 2 rfl) ?_
      refine lv_if_lt (pc := 24) (tgt := 36) hx hb dX9_tape_24 (by decide) (fun c7 => ?_) (fun c7 => ?_)
      · have hm := ite_t c7 hm
        exact (w_fX9_tape_36 C) v0 i1 i2 i3 hm H locs ls hW0 hS hz (lv_sub hl [0, 1, 2, 3] rfl)
      · have hm := ite_f c7 hm
        refine lv_iload_n (pc := 27) hx hb dX9_tape_27 rfl (lv_at hl 3 rfl) ?_
        refine lv_bipush (pc := 28) (v := (60 : Int32)) hx hb dX9_tape_28 (by decide) ?_
        refine lv_icmp_le (pc := 30) (tgt := 36) hx hb dX9_tape_30 (by decide) (fun c8 => ?_) (fun c8 => ?_)
        · have hm := ite_t c8 hm
          exact (w_fX9_tape_36 C) v0 i1 i2 i3 hm H locs ls hW0 hS hz (lv_sub hl [0, 1, 2, 3] rfl)
        · have hm := ite_f c8 hm
          refine lv_bipush (pc := 33) (v := (-2 : Int32)) hx hb dX9_tape_33 (by decide) ?_
          obtain ⟨e8, e9⟩ := rs2 hm
          subst e8
          subst e9
          exact rk_iret (pc := 35) hx hb hr hlk hS ⟨rfl, hW0, hz⟩ dX9_tape_35
  · have hm := ite_t c3 hm
    refine lv_iconst (pc := 7) (v := (-1 : Int32)) hx hb dX9_tape_7 (by decide) ?_
    obtain ⟨e8, e9⟩ := rs2 hm
    subst e8
    subst e9
    exact rk_iret (pc := 8) hx hb hr hlk hS ⟨rfl, hW0, hz⟩ dX9_tape_8
set_option maxHeartbeats 4000000 in
theorem ct_X9_tape {G : Gv} {l : Launch} {b0 : Nat} {v0 : Mem} {i1 : Int32} {i2 : Int32} {i3 : Int32} {rx : Int32} {rw0 : Mem} {sz : Nat} (hm : fX9_tape v0 i1 i2 i3 = some (rx, rw0)) : CT G l yX9_tape (ws_ yX9_tape cX9_tape 5 (some .int)) 2 0 0 45 [.ref b0, .int i1, .int i2, .int i3] (iv b0 46) sz (fun H => rg G b0 46 (shX9 G.2.1) v0 H) (fun ov H => ov = (some (.int rx)) ∧ rg G b0 46 (shX9 G.2.1) rw0 H ∧ H.size = sz) := by
  refine Met.ofW (cc := cX9_tape) (maxL := 5) (ret := (some .int)) (by decide +kernel) rfl ?_
  intro p e s m args below meth c s₁ B hml hv
  obtain ⟨rfl, ⟨hz, hW0⟩, hK⟩ := hv
  subst hz
  have hts := atoms_spec (ws := ws_ yX9_tape cX9_tape 5 (some .int)) B.pre
  have hts : ∀ w ∈ lw_all, w.before _ s = true := fun w h => hts w (List.mem_cons_of_mem _ h)
  have C : Cx G p s m _ meth c RX9 cX9_tape 5 (some .int) := ⟨B.exec, B.bytes, B.returns, B.notSynchronized, hml, findClass_of_methodNamed B.named, hts, hK⟩
  have hl := lv_entry ([.ref b0, .int i1, .int i2, .int i3]) (n := 5) (Nat.le_of_ble_eq_true rfl)
  rw [lg_entry_eq]
  generalize (lg_sl ([.ref b0, .int i1, .int i2, .int i3]) ++ List.replicate (5 - (lg_sl ([.ref b0, .int i1, .int i2, .int i3])).length) Slot.unset).toArray = ls at hl ⊢
  have hl : lv_has ls 5 [(0, .ref b0), (1, .int i1), (2, .int i2), (3, .int i3)] := hl
  exact w_fX9_tape C _ _ _ _ hm s.heap [] ls hW0 va_S.rf rfl hl
theorem tsw4 {x : Int32} (h0 : ¬ x = (0 : Int32)) (h1 : ¬ x = (1 : Int32)) (h2 : ¬ x = (2 : Int32)) (h3 : ¬ x = (3 : Int32)) : x.toInt < 0 ∨ 3 < x.toInt := by
  have g0 : ¬ x.toInt = 0 := lv_neT h0 (by decide)
  have g1 : ¬ x.toInt = 1 := lv_neT h1 (by decide)
  have g2 : ¬ x.toInt = 2 := lv_neT h2 (by decide)
  have g3 : ¬ x.toInt = 3 := lv_neT h3 (by decide)
  omega
noncomputable def fX9_held (i0 : Int32) (j1 : Int64) : Option (Int64) :=
  if i0 = (0 : Int32) then (
  some j1.toInt32.toInt8.toInt32.toInt64)
  else if i0 = (1 : Int32) then (
  some j1.toInt32.toInt16.toInt32.toInt64)
  else if i0 = (2 : Int32) then (
  some j1.toInt32.toInt64)
  else if i0 = (3 : Int32) then (
  some j1)
  else (
  if j1 = (0 : Int64) then (
  some (0 : Int64))
  else (
  some (1 : Int64)))
set_option maxHeartbeats 4000000 in
theorem w_fX9_held (C : Cx G p s m args meth c RX9 cX9_held 3 (some .long)) {rx : Int64} : ∀ (i0 : Int32) (j1 : Int64), fX9_held i0 j1 = some rx → ∀ (ls : Array Slot), lv_has ls 3 [(0, .int i0), (1, .long j1)] → W p l e (rmP 0 0) s m args below meth c s.heap [] 0 0 (MQ below (QcP (some (.long rx))) args s 0 0 (fun _ => False)) (F0 m 0 ls []) := by
  intro i0 j1 hm ls hl
  obtain ⟨hx, hb, hr, hlk, hml, hown, hts, hK⟩ := id C
  unfold fX9_held at hm
  refine lv_iload_n (pc := 0) hx hb dX9_held_0 rfl (lv_at hl 0 rfl) ?_
  by_cases c1 : i0 = (0 : Int32)
  · have hm := ite_t c1 hm
    refine lv_tableIn (pc := 1) (tgt := 32) hx hb dX9_held_1 (by rw [c1]; decide) (by rw [c1]; decide) (by rw [c1]; rfl) (by decide) ?_
    refine lv_lload_n (pc := 32) hx hb dX9_held_32 rfl (lv_at hl 1 rfl) ?_
    refine lv_l2i (pc := 33) hx hb dX9_held_33 rfl ?_
    refine lv_i2b (pc := 34) hx hb dX9_held_34 rfl ?_
    refine lv_i2l (pc := 35) hx hb dX9_held_35 rfl ?_
    have e9 := rs1 hm
    subst e9
    exact rk_lretP (pc := 36) hx hb hr hlk rfl dX9_held_36
  have hm := ite_f c1 hm
  by_cases c2 : i0 = (1 : Int32)
  · have hm := ite_t c2 hm
    refine lv_tableIn (pc := 1) (tgt := 37) hx hb dX9_held_1 (by rw [c2]; decide) (by rw [c2]; decide) (by rw [c2]; rfl) (by decide) ?_
    refine lv_lload_n (pc := 37) hx hb dX9_held_37 rfl (lv_at hl 1 rfl) ?_
    refine lv_l2i (pc := 38) hx hb dX9_held_38 rfl ?_
    refine lv_i2s (pc := 39) hx hb dX9_held_39 rfl ?_
    refine lv_i2l (pc := 40) hx hb dX9_held_40 rfl ?_
    have e9 := rs1 hm
    subst e9
    exact rk_lretP (pc := 41) hx hb hr hlk rfl dX9_held_41
  have hm := ite_f c2 hm
  by_cases c3 : i0 = (2 : Int32)
  · have hm := ite_t c3 hm
    refine lv_tableIn (pc := 1) (tgt := 42) hx hb dX9_held_1 (by rw [c3]; decide) (by rw [c3]; decide) (by rw [c3]; rfl) (by decide) ?_
    refine lv_lload_n (pc := 42) hx hb dX9_held_42 rfl (lv_at hl 1 rfl) ?_
    refine lv_l2i (pc := 43) hx hb dX9_held_43 rfl ?_
    refine lv_i2l (pc := 44) hx hb dX9_held_44 rfl ?_
    have e9 := rs1 hm
    subst e9
    exact rk_lretP (pc := 45) hx hb hr hlk rfl dX9_held_45
  have hm := ite_f c3 hm
  by_cases c4 : i0 = (3 : Int32)
  · have hm := ite_t c4 hm
    refine lv_tableIn (pc := 1) (tgt := 46) hx hb dX9_held_1 (by rw [c4]; decide) (by rw [c4]; decide) (by rw [c4]; rfl) (by decide) ?_
    refine lv_lload_n (pc := 46) hx hb dX9_held_46 rfl (lv_at hl 1 rfl) ?_
    have e9 := rs1 hm
    subst e9
    exact rk_lretP (pc := 47) hx hb hr hlk rfl dX9_held_47
  have hm := ite_f c4 hm
  refine lv_tableOut (pc := 1) (tgt := 48) hx hb dX9_held_1 (tsw4 c1 c2 c3 c4) (by decide) ?_
  refine lv_lload_n (pc := 48) hx hb dX9_held_48 rfl (lv_at hl 1 rfl) ?_
  refine lv_lconst (pc := 49) (v := (0 : Int64)) hx hb dX9_held_49 (by decide) ?_
  refine rk_lcmp_eq (pc := 50) (tgt := 58) hx hb dX9_held_50 rfl dX9_held_51 (by decide) (fun c5 => ?_) (fun c5 => ?_)
  · have hm := ite_t c5 hm
    refine lv_lconst (pc := 58) (v := (0 : Int64)) hx hb dX9_held_58 (by decide) ?_
    have e9 := rs1 hm
    subst e9
    exact rk_lretP (pc := 59) hx hb hr hlk rfl dX9_held_59
  · have hm := ite_f c5 hm
    refine lv_lconst (pc := 54) (v := (1 : Int64)) hx hb dX9_held_54 (by decide) ?_
    refine lv_goto (pc := 55) (tgt := 59) hx hb dX9_held_55 (by decide) ?_
    have e9 := rs1 hm
    subst e9
    exact rk_lretP (pc := 59) hx hb hr hlk rfl dX9_held_59
set_option maxHeartbeats 4000000 in
theorem ct_X9_held {G : Gv} {l : Launch} {i0 : Int32} {j1 : Int64} {rx : Int64} (hm : fX9_held i0 j1 = some rx) : CP G l yX9_held (ws_ yX9_held cX9_held 3 (some .long)) 0 0 [.int i0, .long j1] (fun H => True) (some (.long rx)) := by
  refine Met.ofW (cc := cX9_held) (maxL := 3) (ret := (some .long)) (by decide +kernel) rfl ?_
  intro p e s m args below meth c s₁ B hml hv
  obtain ⟨rfl, -, hK⟩ := hv
  have hts := atoms_spec (ws := ws_ yX9_held cX9_held 3 (some .long)) B.pre
  have hts : ∀ w ∈ lw_all, w.before _ s = true := fun w h => hts w (List.mem_cons_of_mem _ h)
  have C : Cx G p s m _ meth c RX9 cX9_held 3 (some .long) := ⟨B.exec, B.bytes, B.returns, B.notSynchronized, hml, findClass_of_methodNamed B.named, hts, hK⟩
  have hl := lv_entry ([.int i0, .long j1]) (n := 3) (Nat.le_of_ble_eq_true rfl)
  rw [lg_entry_eq]
  generalize (lg_sl ([.int i0, .long j1]) ++ List.replicate (3 - (lg_sl ([.int i0, .long j1])).length) Slot.unset).toArray = ls at hl ⊢
  have hl : lv_has ls 3 [(0, .int i0), (1, .long j1)] := hl
  exact w_fX9_held C _ _ hm ls hl
theorem yn_X9_held : YN yX9_held 2 := by
  unfold YN
  decide +kernel
theorem lkX9_453 : LSt RX9 453 yX9_held cX9_held 3 (some .long) := ⟨q2381, q2382, q128, q2383⟩
noncomputable def fX9_item (v0 : Mem) (i1 : Int32) (i2 : Int32) (j3 : Int64) : Option (Int32 × Mem) :=
  ob (fX9_isTape i1) fun r1 =>
  if r1 = 0 then (
  some ((-1 : Int32), v0))
  else (
  gb (inR i1 6) (
  if 0 ≤ (gI v0 42 i1.toNatClampNeg) then (
  gb (inR i1 6) (
  ob (fX9_isIn i2.toInt64 (0 : Int64) ((gI v0 43 i1.toNatClampNeg) - (1 : Int32)).toInt64) fun r7 =>
  if r7 = 0 then (
  some ((-13 : Int32), v0))
  else (
  gb (inR i1 6) (
  ob (fX9_held (gI v0 42 i1.toNatClampNeg) j3) fun r11 =>
  gb (inR (((60 : Int32) * i1) + i2) 360) (
  lm (sL v0 44 (((60 : Int32) * i1) + i2).toNatClampNeg r11) fun v0_14 =>
  some ((1 : Int32), v0_14))))))
  else (
  some ((-11 : Int32), v0))))
set_option maxHeartbeats 4000000 in
theorem w_fX9_item (C : Cx G p s m args meth c RX9 cX9_item 5 (some .int)) {b0 : Nat} {rx : Int32} {rw0 : Mem} : ∀ (v0 : Mem) (i1 : Int32) (i2 : Int32) (j3 : Int64), fX9_item v0 i1 i2 j3 = some (rx, rw0) → ∀ (H : Heap) (locs : List Loc) (ls : Array Slot), rg G b0 46 (shX9 G.2.1) v0 H → va_S (FA (iv b0 46) s.heap.size) s.heap H locs → H.size = s.heap.size → lv_has ls 5 [(0, .ref b0), (1, .int i1), (2, .int i2), (3, .long j3)] → W p l e (rmT 2 0 0 45) s m args below meth c H locs 0 0 (MQ below (QcT (FA (iv b0 46) s.heap.size) (fun ov H => ov = (some (.int rx)) ∧ rg G b0 46 (shX9 G.2.1) rw0 H ∧ H.size = s.heap.size)) args s 0 0 (FA (iv b0 46) s.heap.size)) (F0 m 0 ls []) := by
  intro v0 i1 i2 j3 hm H locs ls hW0 hS hz hl
  obtain ⟨hx, hb, hr, hlk, hml, hown, hts, hK⟩ := id C
  unfold fX9_item at hm
  refine lv_iload_n (pc := 0) hx hb dX9_item_0 rfl (lv_at hl 1 rfl) ?_
  obtain ⟨r1, hq2, hm⟩ := ob_some hm
  refine rk_PS (pc := 1) (As := [.int i1]) (rest := []) hx hb hml hown hts hK lkX9_447 yn_X9_isTape (ct_X9_isTape (G := G) (l := l) hq2) ⟨Nat.le_of_ble_eq_true rfl, Nat.le_of_ble_eq_true rfl⟩ trivial rfl rfl hl.1 (Nat.le_of_ble_eq_true rfl) dX9_item_1 ⟨Nat.zero_le _, Nat.zero_le _⟩ ?_
  refine W.eq (g2 := F0 m 4 ls [.int r1]) rfl ?_
  refine lv_if_ne (pc := 4) (tgt := 9) hx hb dX9_item_4 (by decide) (fun c3 => ?_) (fun c3 => ?_)
  · have hm := ite_f c3 hm
    refine lv_aload_n (pc := 9) hx hb dX9_item_9 rfl (lv_at hl 0 rfl) ?_
    refine rk_get (pc := 10) hx hb hts hown hK hW0 flX9_69 0 (by decide) rfl rfl (x := .ref (b0 + 42)) (by first | rfl | exact congrArg (fun z => some (Value.ref z)) (by omega)) dX9_item_10 ?_
    refine lv_iload_n (pc := 13) hx hb dX9_item_13 rfl (lv_at hl 1 rfl) ?_
    obtain ⟨hg4, hm⟩ := gb_some hm
    refine rk_iald (pc := 14) hx hb hK hW0 42 (by decide) rfl rfl hg4 (x := (gI v0 42 i1.toNatClampNeg)) rfl dX9_item_14 ?_
    refine lv_if_ge (pc := 15) (tgt := 21) hx hb dX9_item_15 (by decide) (fun c5 => ?_) (fun c5 => ?_)
    · have hm := ite_t c5 hm
      refine lv_iload_n (pc := 21) hx hb dX9_item_21 rfl (lv_at hl 2 rfl) ?_
      refine lv_i2l (pc := 22) hx hb dX9_item_22 rfl ?_
      refine lv_lconst (pc := 23) (v := (0 : Int64)) hx hb dX9_item_23 (by decide) ?_
      refine lv_aload_n (pc := 24) hx hb dX9_item_24 rfl (lv_at hl 0 rfl) ?_
      refine rk_get (pc := 25) hx hb hts hown hK hW0 flX9_72 0 (by decide) rfl rfl (x := .ref (b0 + 43)) (by first | rfl | exact congrArg (fun z => some (Value.ref z)) (by omega)) dX9_item_25 ?_
      refine lv_iload_n (pc := 28) hx hb dX9_item_28 rfl (lv_at hl 1 rfl) ?_
      obtain ⟨hg6, hm⟩ := gb_some hm
      refine rk_iald (pc := 29) hx hb hK hW0 43 (by decide) rfl rfl hg6 (x := (gI v0 43 i1.toNatClampNeg)) rfl dX9_item_29 ?_
      refine lv_iconst (pc := 30) (v := (1 : Int32)) hx hb dX9_item_30 (by decide) ?_
      refine lv_isub (pc := 31) hx hb dX9_item_31 ?_
      refine lv_i2l (pc := 32) hx hb dX9_item_32 rfl ?_
      obtain ⟨r7, hq8, hm⟩ := ob_some hm
      refine rk_PS (pc := 33) (As := [.long i2.toInt64, .long (0 : Int64), .long ((gI v0 43 i1.toNatClampNeg) - (1 : Int32)).toInt64]) (rest := []) hx hb hml hown hts hK lkX9_93 yn_X9_isIn (ct_X9_isIn (G := G) (l := l) hq8) ⟨Nat.le_of_ble_eq_true rfl, Nat.le_of_ble_eq_true rfl⟩ trivial rfl rfl hl.1 (Nat.le_of_ble_eq_true rfl) dX9_item_33 ⟨Nat.zero_le _, Nat.zero_le _⟩ ?_
      refine W.eq (g2 := F0 m 36 ls [.int r7]) rfl ?_
      refine lv_if_ne (pc := 36) (tgt := 42) hx hb dX9_item_36 (by decide) (fun c9 => ?_) (fun c9 => ?_)
      · have hm := ite_f c9 hm
        refine lv_aload_n (pc := 42) hx hb dX9_item_42 rfl (lv_at hl 0 rfl) ?_
        refine rk_get (pc := 43) hx hb hts hown hK hW0 flX9_75 0 (by decide) rfl rfl (x := .ref (b0 + 44)) (by first | rfl | exact congrArg (fun z => some (Value.ref z)) (by omega)) dX9_item_43 ?_
        refine lv_bipush (pc := 46) (v := (60 : Int32)) hx hb dX9_item_46 (by decide) ?_
        refine lv_iload_n (pc := 48) hx hb dX9_item_48 rfl (lv_at hl 1 rfl) ?_
        refine lv_imul (pc := 49) hx hb dX9_item_49 ?_
        refine lv_iload_n (pc := 50) hx hb dX9_item_50 rfl (lv_at hl 2 rfl) ?_
        refine lv_iadd (pc := 51) hx hb dX9_item_51 ?_
        refine lv_aload_n (pc := 52) hx hb dX9_item_52 rfl (lv_at hl 0 rfl) ?_
        refine rk_get (pc := 53) hx hb hts hown hK hW0 flX9_69 0 (by decide) rfl rfl (x := .ref (b0 + 42)) (by first | rfl | exact congrArg (fun z => some (Value.ref z)) (by omega)) dX9_item_53 ?_
        refine lv_iload_n (pc := 56) hx hb dX9_item_56 rfl (lv_at hl 1 rfl) ?_
        obtain ⟨hg10, hm⟩ := gb_some hm
        refine rk_iald (pc := 57) hx hb hK hW0 42 (by decide) rfl rfl hg10 (x := (gI v0 42 i1.toNatClampNeg)) rfl dX9_item_57 ?_
        refine lv_lload_n (pc := 58) hx hb dX9_item_58 rfl (lv_at hl 3 rfl) ?_
        obtain ⟨r11, hq12, hm⟩ := ob_some hm
        refine rk_PS (pc := 59) (As := [.int (gI v0 42 i1.toNatClampNeg), .long j3]) (rest := [.int (((60 : Int32) * i1) + i2), .ref (b0 + 44)]) hx hb hml hown hts hK lkX9_453 yn_X9_held (ct_X9_held (G := G) (l := l) hq12) ⟨Nat.le_of_ble_eq_true rfl, Nat.le_of_ble_eq_true rfl⟩ trivial rfl rfl hl.1 (Nat.le_of_ble_eq_true rfl) dX9_item_59 ⟨Nat.zero_le _, Nat.zero_le _⟩ ?_
        refine W.eq (g2 := F0 m 62 ls [.long r11, .int (((60 : Int32) * i1) + i2), .ref (b0 + 44)]) rfl ?_
        obtain ⟨hg13, hm⟩ := gb_some hm
        refine rk_last (pc := 62) hx hb hK hW0 hS 44 (by decide) rfl (Or.inl (show iv _ _ _ from ⟨by omega, by omega⟩)) (fun _ _ _ => rfl) hg13 dX9_item_62 (fun H15 locs16 hW17 hS18 hz19 hkp20 => ?_)
        obtain ⟨v0_14, he9, hm⟩ := lm_some hm
        rw [he9] at hW17
        have hz21 := hz19.trans hz
        refine lv_iconst (pc := 63) (v := (1 : Int32)) hx hb dX9_item_63 (by decide) ?_
        obtain ⟨e8, e9⟩ := rs2 hm
        subst e8
        subst e9
        exact rk_iret (pc := 64) hx hb hr hlk hS18 ⟨rfl, hW17, hz21⟩ dX9_item_64
      · have hm := ite_t c9 hm
        refine lv_bipush (pc := 39) (v := (-13 : Int32)) hx hb dX9_item_39 (by decide) ?_
        obtain ⟨e8, e9⟩ := rs2 hm
        subst e8
        subst e9
        exact rk_iret (pc := 41) hx hb hr hlk hS ⟨rfl, hW0, hz⟩ dX9_item_41
    · have hm := ite_f c5 hm
      refine lv_bipush (pc := 18) (v := (-11 : Int32)) hx hb dX9_item_18 (by decide) ?_
      obtain ⟨e8, e9⟩ := rs2 hm
      subst e8
      subst e9
      exact rk_iret (pc := 20) hx hb hr hlk hS ⟨rfl, hW0, hz⟩ dX9_item_20
  · have hm := ite_t c3 hm
    refine lv_iconst (pc := 7) (v := (-1 : Int32)) hx hb dX9_item_7 (by decide) ?_
    obtain ⟨e8, e9⟩ := rs2 hm
    subst e8
    subst e9
    exact rk_iret (pc := 8) hx hb hr hlk hS ⟨rfl, hW0, hz⟩ dX9_item_8
set_option maxHeartbeats 4000000 in
theorem ct_X9_item {G : Gv} {l : Launch} {b0 : Nat} {v0 : Mem} {i1 : Int32} {i2 : Int32} {j3 : Int64} {rx : Int32} {rw0 : Mem} {sz : Nat} (hm : fX9_item v0 i1 i2 j3 = some (rx, rw0)) : CT G l yX9_item (ws_ yX9_item cX9_item 5 (some .int)) 2 0 0 45 [.ref b0, .int i1, .int i2, .long j3] (iv b0 46) sz (fun H => rg G b0 46 (shX9 G.2.1) v0 H) (fun ov H => ov = (some (.int rx)) ∧ rg G b0 46 (shX9 G.2.1) rw0 H ∧ H.size = sz) := by
  refine Met.ofW (cc := cX9_item) (maxL := 5) (ret := (some .int)) (by decide +kernel) rfl ?_
  intro p e s m args below meth c s₁ B hml hv
  obtain ⟨rfl, ⟨hz, hW0⟩, hK⟩ := hv
  subst hz
  have hts := atoms_spec (ws := ws_ yX9_item cX9_item 5 (some .int)) B.pre
  have hts : ∀ w ∈ lw_all, w.before _ s = true := fun w h => hts w (List.mem_cons_of_mem _ h)
  have C : Cx G p s m _ meth c RX9 cX9_item 5 (some .int) := ⟨B.exec, B.bytes, B.returns, B.notSynchronized, hml, findClass_of_methodNamed B.named, hts, hK⟩
  have hl := lv_entry ([.ref b0, .int i1, .int i2, .long j3]) (n := 5) (Nat.le_of_ble_eq_true rfl)
  rw [lg_entry_eq]
  generalize (lg_sl ([.ref b0, .int i1, .int i2, .long j3]) ++ List.replicate (5 - (lg_sl ([.ref b0, .int i1, .int i2, .long j3])).length) Slot.unset).toArray = ls at hl ⊢
  have hl : lv_has ls 5 [(0, .ref b0), (1, .int i1), (2, .int i2), (3, .long j3)] := hl
  exact w_fX9_item C _ _ _ _ hm s.heap [] ls hW0 va_S.rf rfl hl
noncomputable def fX9_peek (V0 : Mem) (i1 : Int32) (i2 : Int32) : Option (Int64) :=
  ob (fX9_isTape i1) fun r1 =>
  if r1 = 0 then (
  some (-9223372036854775808 : Int64))
  else (
  gb (inR i1 6) (
  if (gI V0 42 i1.toNatClampNeg) < 0 then (
  some (-9223372036854775808 : Int64))
  else (
  gb (inR i1 6) (
  ob (fX9_isIn i2.toInt64 (0 : Int64) ((gI V0 43 i1.toNatClampNeg) - (1 : Int32)).toInt64) fun r7 =>
  if r7 = 0 then (
  some (-9223372036854775808 : Int64))
  else (
  gb (inR (((60 : Int32) * i1) + i2) 360) (
  some (gL V0 44 (((60 : Int32) * i1) + i2).toNatClampNeg)))))))
set_option maxHeartbeats 4000000 in
theorem w_fX9_peek (C : Cx G p s m args meth c RX9 cX9_peek 3 (some .long)) {b0 : Nat} {V0 : Mem} {rx : Int64} (hW0 : rg G b0 46 (shX9 G.2.1) V0 s.heap) : ∀ (i1 : Int32) (i2 : Int32), fX9_peek V0 i1 i2 = some rx → ∀ (ls : Array Slot), lv_has ls 3 [(0, .ref b0), (1, .int i1), (2, .int i2)] → W p l e (rmP 2 45) s m args below meth c s.heap [] 0 0 (MQ below (QcP (some (.long rx))) args s 0 0 (fun _ => False)) (F0 m 0 ls []) := by
  intro i1 i2 hm ls hl
  obtain ⟨hx, hb, hr, hlk, hml, hown, hts, hK⟩ := id C
  unfold fX9_peek at hm
  refine lv_iload_n (pc := 0) hx hb dX9_peek_0 rfl (lv_at hl 1 rfl) ?_
  obtain ⟨r1, hq2, hm⟩ := ob_some hm
  refine rk_PS (pc := 1) (As := [.int i1]) (rest := []) hx hb hml hown hts hK lkX9_447 yn_X9_isTape (ct_X9_isTape (G := G) (l := l) hq2) ⟨Nat.le_of_ble_eq_true rfl, Nat.le_of_ble_eq_true rfl⟩ trivial rfl rfl hl.1 (Nat.le_of_ble_eq_true rfl) dX9_peek_1 ⟨Nat.zero_le _, Nat.zero_le _⟩ ?_
  refine W.eq (g2 := F0 m 4 ls [.int r1]) rfl ?_
  refine lv_if_eq (pc := 4) (tgt := 48) hx hb dX9_peek_4 (by decide) (fun c3 => ?_) (fun c3 => ?_)
  · have hm := ite_t c3 hm
    refine lv_ldc2 (pc := 48) (v := (-9223372036854775808 : Int64)) hx hb hown (hts _ q2101) dX9_peek_48 ?_
    have e9 := rs1 hm
    subst e9
    exact rk_lretP (pc := 51) hx hb hr hlk rfl dX9_peek_51
  · have hm := ite_f c3 hm
    refine lv_aload_n (pc := 7) hx hb dX9_peek_7 rfl (lv_at hl 0 rfl) ?_
    refine rk_get (pc := 8) hx hb hts hown hK hW0 flX9_69 0 (by decide) rfl rfl (x := .ref (b0 + 42)) (by first | rfl | exact congrArg (fun z => some (Value.ref z)) (by omega)) dX9_peek_8 ?_
    refine lv_iload_n (pc := 11) hx hb dX9_peek_11 rfl (lv_at hl 1 rfl) ?_
    obtain ⟨hg4, hm⟩ := gb_some hm
    refine rk_iald (pc := 12) hx hb hK hW0 42 (by decide) rfl rfl hg4 (x := (gI V0 42 i1.toNatClampNeg)) rfl dX9_peek_12 ?_
    refine lv_if_lt (pc := 13) (tgt := 48) hx hb dX9_peek_13 (by decide) (fun c5 => ?_) (fun c5 => ?_)
    · have hm := ite_t c5 hm
      refine lv_ldc2 (pc := 48) (v := (-9223372036854775808 : Int64)) hx hb hown (hts _ q2101) dX9_peek_48 ?_
      have e9 := rs1 hm
      subst e9
      exact rk_lretP (pc := 51) hx hb hr hlk rfl dX9_peek_51
    · have hm := ite_f c5 hm
      refine lv_iload_n (pc := 16) hx hb dX9_peek_16 rfl (lv_at hl 2 rfl) ?_
      refine lv_i2l (pc := 17) hx hb dX9_peek_17 rfl ?_
      refine lv_lconst (pc := 18) (v := (0 : Int64)) hx hb dX9_peek_18 (by decide) ?_
      refine lv_aload_n (pc := 19) hx hb dX9_peek_19 rfl (lv_at hl 0 rfl) ?_
      refine rk_get (pc := 20) hx hb hts hown hK hW0 flX9_72 0 (by decide) rfl rfl (x := .ref (b0 + 43)) (by first | rfl | exact congrArg (fun z => some (Value.ref z)) (by omega)) dX9_peek_20 ?_
      refine lv_iload_n (pc := 23) hx hb dX9_peek_23 rfl (lv_at hl 1 rfl) ?_
      obtain ⟨hg6, hm⟩ := gb_some hm
      refine rk_iald (pc := 24) hx hb hK hW0 43 (by decide) rfl rfl hg6 (x := (gI V0 43 i1.toNatClampNeg)) rfl dX9_peek_24 ?_
      refine lv_iconst (pc := 25) (v := (1 : Int32)) hx hb dX9_peek_25 (by decide) ?_
      refine lv_isub (pc := 26) hx hb dX9_peek_26 ?_
      refine lv_i2l (pc := 27) hx hb dX9_peek_27 rfl ?_
      obtain ⟨r7, hq8, hm⟩ := ob_some hm
      refine rk_PS (pc := 28) (As := [.long i2.toInt64, .long (0 : Int64), .long ((gI V0 43 i1.toNatClampNeg) - (1 : Int32)).toInt64]) (rest := []) hx hb hml hown hts hK lkX9_93 yn_X9_isIn (ct_X9_isIn (G := G) (l := l) hq8) ⟨Nat.le_of_ble_eq_true rfl, Nat.le_of_ble_eq_true rfl⟩ trivial rfl rfl hl.1 (Nat.le_of_ble_eq_true rfl) dX9_peek_28 ⟨Nat.zero_le _, Nat.zero_le _⟩ ?_
      refine W.eq (g2 := F0 m 31 ls [.int r7]) rfl ?_
      refine lv_if_eq (pc := 31) (tgt := 48) hx hb dX9_peek_31 (by decide) (fun c9 => ?_) (fun c9 => ?_)
      · have hm := ite_t c9 hm
        refine lv_ldc2 (pc := 48) (v := (-9223372036854775808 : Int64)) hx hb hown (hts _ q2101) dX9_peek_48 ?_
        have e9 := rs1 hm
        subst e9
        exact rk_lretP (pc := 51) hx hb hr hlk rfl dX9_peek_51
      · have hm := ite_f c9 hm
        refine lv_aload_n (pc := 34) hx hb dX9_peek_34 rfl (lv_at hl 0 rfl) ?_
        refine rk_get (pc := 35) hx hb hts hown hK hW0 flX9_75 0 (by decide) rfl rfl (x := .ref (b0 + 44)) (by first | rfl | exact congrArg (fun z => some (Value.ref z)) (by omega)) dX9_peek_35 ?_
        refine lv_bipush (pc := 38) (v := (60 : Int32)) hx hb dX9_peek_38 (by decide) ?_
        refine lv_iload_n (pc := 40) hx hb dX9_peek_40 rfl (lv_at hl 1 rfl) ?_
        refine lv_imul (pc := 41) hx hb dX9_peek_41 ?_
        refine lv_iload_n (pc := 42) hx hb dX9_peek_42 rfl (lv_at hl 2 rfl) ?_
        refine lv_iadd (pc := 43) hx hb dX9_peek_43 ?_
        obtain ⟨hg10, hm⟩ := gb_some hm
        refine rk_lald (pc := 44) hx hb hK hW0 44 (by decide) rfl rfl hg10 (x := (gL V0 44 (((60 : Int32) * i1) + i2).toNatClampNeg)) rfl dX9_peek_44 ?_
        refine lv_goto (pc := 45) (tgt := 51) hx hb dX9_peek_45 (by decide) ?_
        have e9 := rs1 hm
        subst e9
        exact rk_lretP (pc := 51) hx hb hr hlk rfl dX9_peek_51
set_option maxHeartbeats 4000000 in
theorem ct_X9_peek {G : Gv} {l : Launch} {b0 : Nat} {V0 : Mem} {i1 : Int32} {i2 : Int32} {rx : Int64} (hm : fX9_peek V0 i1 i2 = some rx) : CP G l yX9_peek (ws_ yX9_peek cX9_peek 3 (some .long)) 2 45 [.ref b0, .int i1, .int i2] (fun H => rg G b0 46 (shX9 G.2.1) V0 H) (some (.long rx)) := by
  refine Met.ofW (cc := cX9_peek) (maxL := 3) (ret := (some .long)) (by decide +kernel) rfl ?_
  intro p e s m args below meth c s₁ B hml hv
  obtain ⟨rfl, hW0, hK⟩ := hv
  have hts := atoms_spec (ws := ws_ yX9_peek cX9_peek 3 (some .long)) B.pre
  have hts : ∀ w ∈ lw_all, w.before _ s = true := fun w h => hts w (List.mem_cons_of_mem _ h)
  have C : Cx G p s m _ meth c RX9 cX9_peek 3 (some .long) := ⟨B.exec, B.bytes, B.returns, B.notSynchronized, hml, findClass_of_methodNamed B.named, hts, hK⟩
  have hl := lv_entry ([.ref b0, .int i1, .int i2]) (n := 3) (Nat.le_of_ble_eq_true rfl)
  rw [lg_entry_eq]
  generalize (lg_sl ([.ref b0, .int i1, .int i2]) ++ List.replicate (3 - (lg_sl ([.ref b0, .int i1, .int i2])).length) Slot.unset).toArray = ls at hl ⊢
  have hl : lv_has ls 3 [(0, .ref b0), (1, .int i1), (2, .int i2)] := hl
  exact w_fX9_peek C hW0 _ _ hm ls hl
theorem flX9_78 : FL RX9 78 9 28 RX9 TX9 29 := ⟨in_X9, rfl, by decide, q1855⟩
noncomputable def fX9_shift_139 (k139 : Mem → Int32 → Int32 → Int32 → Int32 → Option (Int32 × Mem)) (v0 : Mem) (i3 : Int32) (i4 : Int32) (i5 : Int32) (i6 : Int32) : Option (Int32 × Mem) :=
  if i5 ≤ i6 then (
  some (i5, v0))
  else (
  gb (inR i6 60) (
  gb (inR ((((60 : Int32) * i3) + i4) + i6) 360) (
  lm (sL v0 44 ((((60 : Int32) * i3) + i4) + i6).toNatClampNeg (gL v0 45 i6.toNatClampNeg)) fun v0_35 =>
  k139 v0_35 i3 i4 i5 (i6 + (1 : Int32)))))
noncomputable def fX9_shift_102 (k102 : Mem → Int32 → Int32 → Int32 → Int32 → Int32 → Int32 → Option (Int32 × Mem)) (v0 : Mem) (i1 : Int32) (i2 : Int32) (i3 : Int32) (i4 : Int32) (i5 : Int32) (i6 : Int32) : Option (Int32 × Mem) :=
  if i5 ≤ i6 then (
  lq5 (fX9_shift_139) FU v0 i3 i4 i5 (0 : Int32))
  else (
  gb (inR ((((60 : Int32) * i1) + i2) + i6) 360) (
  gb (inR i6 60) (
  lm (sL v0 45 i6.toNatClampNeg (gL v0 44 ((((60 : Int32) * i1) + i2) + i6).toNatClampNeg)) fun v0_24 =>
  k102 v0_24 i1 i2 i3 i4 i5 (i6 + (1 : Int32)))))
noncomputable def fX9_shift (v0 : Mem) (i1 : Int32) (i2 : Int32) (i3 : Int32) (i4 : Int32) (i5 : Int32) : Option (Int32 × Mem) :=
  ob (fX9_isTape i1) fun r1 =>
  if r1 = 0 then (
  some ((-1 : Int32), v0))
  else (
  ob (fX9_isTape i3) fun r4 =>
  if r4 = 0 then (
  some ((-1 : Int32), v0))
  else (
  gb (inR i1 6) (
  if (gI v0 42 i1.toNatClampNeg) < 0 then (
  some ((-11 : Int32), v0))
  else (
  gb (inR i3 6) (
  if 0 ≤ (gI v0 42 i3.toNatClampNeg) then (
  gb (inR i1 6) (
  gb (inR i3 6) (
  if (gI v0 42 i1.toNatClampNeg) = (gI v0 42 i3.toNatClampNeg) then (
  if i5 < 0 then (
  some ((-13 : Int32), v0))
  else (
  if i2 < 0 then (
  some ((-13 : Int32), v0))
  else (
  if i4 < 0 then (
  some ((-13 : Int32), v0))
  else (
  gb (inR i1 6) (
  if ((gI v0 43 i1.toNatClampNeg) - i5) < i2 then (
  some ((-13 : Int32), v0))
  else (
  gb (inR i3 6) (
  if i4 ≤ ((gI v0 43 i3.toNatClampNeg) - i5) then (
  lq7 (fX9_shift_102) FU v0 i1 i2 i3 i4 i5 (0 : Int32))
  else (
  some ((-13 : Int32), v0)))))))))
  else (
  some ((-12 : Int32), v0)))))
  else (
  some ((-11 : Int32), v0)))))))
set_option maxHeartbeats 4000000 in
theorem w_fX9_shift_139 (C : Cx G p s m args meth c RX9 cX9_shift 7 (some .int)) {b0 : Nat} {rx : Int32} {rw0 : Mem} {k139 : Mem → Int32 → Int32 → Int32 → Int32 → Option (Int32 × Mem)} (hk139 : ∀ (v0 : Mem) (i3 : Int32) (i4 : Int32) (i5 : Int32) (i6 : Int32), k139 v0 i3 i4 i5 i6 = some (rx, rw0) → ∀ (H : Heap) (locs : List Loc) (ls : Array Slot), rg G b0 46 (shX9 G.2.1) v0 H → va_S (FA (iv b0 46) s.heap.size) s.heap H locs → H.size = s.heap.size → lv_has ls 7 [(0, .ref b0), (3, .int i3), (4, .int i4), (5, .int i5), (6, .int i6)] → W p l e (rmT 2 0 0 45) s m args below meth c H locs 0 0 (MQ below (QcT (FA (iv b0 46) s.heap.size) (fun ov H => ov = (some (.int rx)) ∧ rg G b0 46 (shX9 G.2.1) rw0 H ∧ H.size = s.heap.size)) args s 0 0 (FA (iv b0 46) s.heap.size)) (F0 m 139 ls [])) : ∀ (v0 : Mem) (i3 : Int32) (i4 : Int32) (i5 : Int32) (i6 : Int32), fX9_shift_139 k139 v0 i3 i4 i5 i6 = some (rx, rw0) → ∀ (H : Heap) (locs : List Loc) (ls : Array Slot), rg G b0 46 (shX9 G.2.1) v0 H → va_S (FA (iv b0 46) s.heap.size) s.heap H locs → H.size = s.heap.size → lv_has ls 7 [(0, .ref b0), (3, .int i3), (4, .int i4), (5, .int i5), (6, .int i6)] → W p l e (rmT 2 0 0 45) s m args below meth c H locs 0 0 (MQ below (QcT (FA (iv b0 46) s.heap.size) (fun ov H => ov = (some (.int rx)) ∧ rg G b0 46 (shX9 G.2.1) rw0 H ∧ H.size = s.heap.size)) args s 0 0 (FA (iv b0 46) s.heap.size)) (F0 m 139 ls []) := by
  intro v0 i3 i4 i5 i6 hm H locs ls hW0 hS hz hl
  obtain ⟨hx, hb, hr, hlk, hml, hown, hts, hK⟩ := id C
  unfold fX9_shift_139 at hm
  refine lv_iload (pc := 139) hx hb dX9_shift_139 (lv_at hl 4 rfl) ?_
  refine lv_iload (pc := 141) hx hb dX9_shift_141 (lv_at hl 3 rfl) ?_
  refine lv_icmp_ge (pc := 143) (tgt := 174) hx hb dX9_shift_143 (by decide) (fun c32 => ?_) (fun c32 => ?_)
  · have hm := ite_t c32 hm
    refine lv_iload (pc := 174) hx hb dX9_shift_174 (lv_at hl 3 rfl) ?_
    obtain ⟨e8, e9⟩ := rs2 hm
    subst e8
    subst e9
    exact rk_iret (pc := 176) hx hb hr hlk hS ⟨rfl, hW0, hz⟩ dX9_shift_176
  · have hm := ite_f c32 hm
    refine lv_aload_n (pc := 146) hx hb dX9_shift_146 rfl (lv_at hl 0 rfl) ?_
    refine rk_get (pc := 147) hx hb hts hown hK hW0 flX9_75 0 (by decide) rfl rfl (x := .ref (b0 + 44)) (by first | rfl | exact congrArg (fun z => some (Value.ref z)) (by omega)) dX9_shift_147 ?_
    refine lv_bipush (pc := 150) (v := (60 : Int32)) hx hb dX9_shift_150 (by decide) ?_
    refine lv_iload_n (pc := 152) hx hb dX9_shift_152 rfl (lv_at hl 1 rfl) ?_
    refine lv_imul (pc := 153) hx hb dX9_shift_153 ?_
    refine lv_iload (pc := 154) hx hb dX9_shift_154 (lv_at hl 2 rfl) ?_
    refine lv_iadd (pc := 156) hx hb dX9_shift_156 ?_
    refine lv_iload (pc := 157) hx hb dX9_shift_157 (lv_at hl 4 rfl) ?_
    refine lv_iadd (pc := 159) hx hb dX9_shift_159 ?_
    refine lv_aload_n (pc := 160) hx hb dX9_shift_160 rfl (lv_at hl 0 rfl) ?_
    refine rk_get (pc := 161) hx hb hts hown hK hW0 flX9_78 0 (by decide) rfl rfl (x := .ref (b0 + 45)) (by first | rfl | exact congrArg (fun z => some (Value.ref z)) (by omega)) dX9_shift_161 ?_
    refine lv_iload (pc := 164) hx hb dX9_shift_164 (lv_at hl 4 rfl) ?_
    obtain ⟨hg33, hm⟩ := gb_some hm
    refine rk_lald (pc := 166) hx hb hK hW0 45 (by decide) rfl rfl hg33 (x := (gL v0 45 i6.toNatClampNeg)) rfl dX9_shift_166 ?_
    obtain ⟨hg34, hm⟩ := gb_some hm
    refine rk_last (pc := 167) hx hb hK hW0 hS 44 (by decide) rfl (Or.inl (show iv _ _ _ from ⟨by omega, by omega⟩)) (fun _ _ _ => rfl) hg34 dX9_shift_167 (fun H36 locs37 hW38 hS39 hz40 hkp41 => ?_)
    obtain ⟨v0_35, he9, hm⟩ := lm_some hm
    rw [he9] at hW38
    have hz42 := hz40.trans hz
    refine lv_iinc (pc := 168) (v := (i6 + (1 : Int32))) (lv' := [(6, .int (i6 + (1 : Int32))), (0, .ref b0), (3, .int i3), (4, .int i4), (5, .int i5)]) hx hb dX9_shift_168 hl (k := 4) rfl rfl (by decide) rfl (fun ls hl => ?_)
    refine lv_goto (pc := 171) (tgt := 139) hx hb dX9_shift_171 (by decide) ?_
    exact hk139 v0_35 i3 i4 i5 (i6 + (1 : Int32)) hm H36 locs37 ls hW38 hS39 hz42 (lv_sub hl [1, 2, 3, 4, 0] rfl)
theorem w_fX9_shift_139_l (C : Cx G p s m args meth c RX9 cX9_shift 7 (some .int)) {b0 : Nat} {rx : Int32} {rw0 : Mem} : ∀ (n : Nat) (v0 : Mem) (i3 : Int32) (i4 : Int32) (i5 : Int32) (i6 : Int32), lq5 (fX9_shift_139) n v0 i3 i4 i5 i6 = some (rx, rw0) → ∀ (H : Heap) (locs : List Loc) (ls : Array Slot), rg G b0 46 (shX9 G.2.1) v0 H → va_S (FA (iv b0 46) s.heap.size) s.heap H locs → H.size = s.heap.size → lv_has ls 7 [(0, .ref b0), (3, .int i3), (4, .int i4), (5, .int i5), (6, .int i6)] → W p l e (rmT 2 0 0 45) s m args below meth c H locs 0 0 (MQ below (QcT (FA (iv b0 46) s.heap.size) (fun ov H => ov = (some (.int rx)) ∧ rg G b0 46 (shX9 G.2.1) rw0 H ∧ H.size = s.heap.size)) args s 0 0 (FA (iv b0 46) s.heap.size)) (F0 m 139 ls []) := by
  intro n
  induction n with
  | zero => intro v0 i3 i4 i5 i6 hm; exact (lq5_0 hm).elim
  | succ n ih => intro v0 i3 i4 i5 i6 hm; exact w_fX9_shift_139 C ih v0 i3 i4 i5 i6 (lq5_s hm)
set_option maxHeartbeats 4000000 in
theorem w_fX9_shift_102 (C : Cx G p s m args meth c RX9 cX9_shift 7 (some .int)) {b0 : Nat} {rx : Int32} {rw0 : Mem} {k102 : Mem → Int32 → Int32 → Int32 → Int32 → Int32 → Int32 → Option (Int32 × Mem)} (hk102 : ∀ (v0 : Mem) (i1 : Int32) (i2 : Int32) (i3 : Int32) (i4 : Int32) (i5 : Int32) (i6 : Int32), k102 v0 i1 i2 i3 i4 i5 i6 = some (rx, rw0) → ∀ (H : Heap) (locs : List Loc) (ls : Array Slot), rg G b0 46 (shX9 G.2.1) v0 H → va_S (FA (iv b0 46) s.heap.size) s.heap H locs → H.size = s.heap.size → lv_has ls 7 [(0, .ref b0), (1, .int i1), (2, .int i2), (3, .int i3), (4, .int i4), (5, .int i5), (6, .int i6)] → W p l e (rmT 2 0 0 45) s m args below meth c H locs 0 0 (MQ below (QcT (FA (iv b0 46) s.heap.size) (fun ov H => ov = (some (.int rx)) ∧ rg G b0 46 (shX9 G.2.1) rw0 H ∧ H.size = s.heap.size)) args s 0 0 (FA (iv b0 46) s.heap.size)) (F0 m 102 ls [])) : ∀ (v0 : Mem) (i1 : Int32) (i2 : Int32) (i3 : Int32) (i4 : Int32) (i5 : Int32) (i6 : Int32), fX9_shift_102 k102 v0 i1 i2 i3 i4 i5 i6 = some (rx, rw0) → ∀ (H : Heap) (locs : List Loc) (ls : Array Slot), rg G b0 46 (shX9 G.2.1) v0 H → va_S (FA (iv b0 46) s.heap.size) s.heap H locs → H.size = s.heap.size → lv_has ls 7 [(0, .ref b0), (1, .int i1), (2, .int i2), (3, .int i3), (4, .int i4), (5, .int i5), (6, .int i6)] → W p l e (rmT 2 0 0 45) s m args below meth c H locs 0 0 (MQ below (QcT (FA (iv b0 46) s.heap.size) (fun ov H => ov = (some (.int rx)) ∧ rg G b0 46 (shX9 G.2.1) rw0 H ∧ H.size = s.heap.size)) args s 0 0 (FA (iv b0 46) s.heap.size)) (F0 m 102 ls []) := by
  intro v0 i1 i2 i3 i4 i5 i6 hm H locs ls hW0 hS hz hl
  obtain ⟨hx, hb, hr, hlk, hml, hown, hts, hK⟩ := id C
  unfold fX9_shift_102 at hm
  refine lv_iload (pc := 102) hx hb dX9_shift_102 (lv_at hl 6 rfl) ?_
  refine lv_iload (pc := 104) hx hb dX9_shift_104 (lv_at hl 5 rfl) ?_
  refine lv_icmp_ge (pc := 106) (tgt := 136) hx hb dX9_shift_106 (by decide) (fun c21 => ?_) (fun c21 => ?_)
  · have hm := ite_t c21 hm
    refine lv_iconst (pc := 136) (v := (0 : Int32)) hx hb dX9_shift_136 (by decide) ?_
    refine lv_istore (pc := 137) (lv' := [(6, .int (0 : Int32)), (0, .ref b0), (1, .int i1), (2, .int i2), (3, .int i3), (4, .int i4), (5, .int i5)]) hx hb dX9_shift_137 hl (by decide) rfl (fun ls hl => ?_)
    exact (w_fX9_shift_139_l C FU) v0 i3 i4 i5 (0 : Int32) hm H locs ls hW0 hS hz (lv_sub hl [1, 4, 5, 6, 0] rfl)
  · have hm := ite_f c21 hm
    refine lv_aload_n (pc := 109) hx hb dX9_shift_109 rfl (lv_at hl 0 rfl) ?_
    refine rk_get (pc := 110) hx hb hts hown hK hW0 flX9_78 0 (by decide) rfl rfl (x := .ref (b0 + 45)) (by first | rfl | exact congrArg (fun z => some (Value.ref z)) (by omega)) dX9_shift_110 ?_
    refine lv_iload (pc := 113) hx hb dX9_shift_113 (lv_at hl 6 rfl) ?_
    refine lv_aload_n (pc := 115) hx hb dX9_shift_115 rfl (lv_at hl 0 rfl) ?_
    refine rk_get (pc := 116) hx hb hts hown hK hW0 flX9_75 0 (by decide) rfl rfl (x := .ref (b0 + 44)) (by first | rfl | exact congrArg (fun z => some (Value.ref z)) (by omega)) dX9_shift_116 ?_
    refine lv_bipush (pc := 119) (v := (60 : Int32)) hx hb dX9_shift_119 (by decide) ?_
    refine lv_iload_n (pc := 121) hx hb dX9_shift_121 rfl (lv_at hl 1 rfl) ?_
    refine lv_imul (pc := 122) hx hb dX9_shift_122 ?_
    refine lv_iload_n (pc := 123) hx hb dX9_shift_123 rfl (lv_at hl 2 rfl) ?_
    refine lv_iadd (pc := 124) hx hb dX9_shift_124 ?_
    refine lv_iload (pc := 125) hx hb dX9_shift_125 (lv_at hl 6 rfl) ?_
    refine lv_iadd (pc := 127) hx hb dX9_shift_127 ?_
    obtain ⟨hg22, hm⟩ := gb_some hm
    refine rk_lald (pc := 128) hx hb hK hW0 44 (by decide) rfl rfl hg22 (x := (gL v0 44 ((((60 : Int32) * i1) + i2) + i6).toNatClampNeg)) rfl dX9_shift_128 ?_
    obtain ⟨hg23, hm⟩ := gb_some hm
    refine rk_last (pc := 129) hx hb hK hW0 hS 45 (by decide) rfl (Or.inl (show iv _ _ _ from ⟨by omega, by omega⟩)) (fun _ _ _ => rfl) hg23 dX9_shift_129 (fun H25 locs26 hW27 hS28 hz29 hkp30 => ?_)
    obtain ⟨v0_24, he9, hm⟩ := lm_some hm
    rw [he9] at hW27
    have hz31 := hz29.trans hz
    refine lv_iinc (pc := 130) (v := (i6 + (1 : Int32))) (lv' := [(6, .int (i6 + (1 : Int32))), (0, .ref b0), (1, .int i1), (2, .int i2), (3, .int i3), (4, .int i4), (5, .int i5)]) hx hb dX9_shift_130 hl (k := 6) rfl rfl (by decide) rfl (fun ls hl => ?_)
    refine lv_goto (pc := 133) (tgt := 102) hx hb dX9_shift_133 (by decide) ?_
    exact hk102 v0_24 i1 i2 i3 i4 i5 (i6 + (1 : Int32)) hm H25 locs26 ls hW27 hS28 hz31 (lv_sub hl [1, 2, 3, 4, 5, 6, 0] rfl)
theorem w_fX9_shift_102_l (C : Cx G p s m args meth c RX9 cX9_shift 7 (some .int)) {b0 : Nat} {rx : Int32} {rw0 : Mem} : ∀ (n : Nat) (v0 : Mem) (i1 : Int32) (i2 : Int32) (i3 : Int32) (i4 : Int32) (i5 : Int32) (i6 : Int32), lq7 (fX9_shift_102) n v0 i1 i2 i3 i4 i5 i6 = some (rx, rw0) → ∀ (H : Heap) (locs : List Loc) (ls : Array Slot), rg G b0 46 (shX9 G.2.1) v0 H → va_S (FA (iv b0 46) s.heap.size) s.heap H locs → H.size = s.heap.size → lv_has ls 7 [(0, .ref b0), (1, .int i1), (2, .int i2), (3, .int i3), (4, .int i4), (5, .int i5), (6, .int i6)] → W p l e (rmT 2 0 0 45) s m args below meth c H locs 0 0 (MQ below (QcT (FA (iv b0 46) s.heap.size) (fun ov H => ov = (some (.int rx)) ∧ rg G b0 46 (shX9 G.2.1) rw0 H ∧ H.size = s.heap.size)) args s 0 0 (FA (iv b0 46) s.heap.size)) (F0 m 102 ls []) := by
  intro n
  induction n with
  | zero => intro v0 i1 i2 i3 i4 i5 i6 hm; exact (lq7_0 hm).elim
  | succ n ih => intro v0 i1 i2 i3 i4 i5 i6 hm; exact w_fX9_shift_102 C ih v0 i1 i2 i3 i4 i5 i6 (lq7_s hm)
set_option maxHeartbeats 4000000 in
theorem w_fX9_shift (C : Cx G p s m args meth c RX9 cX9_shift 7 (some .int)) {b0 : Nat} {rx : Int32} {rw0 : Mem} : ∀ (v0 : Mem) (i1 : Int32) (i2 : Int32) (i3 : Int32) (i4 : Int32) (i5 : Int32), fX9_shift v0 i1 i2 i3 i4 i5 = some (rx, rw0) → ∀ (H : Heap) (locs : List Loc) (ls : Array Slot), rg G b0 46 (shX9 G.2.1) v0 H → va_S (FA (iv b0 46) s.heap.size) s.heap H locs → H.size = s.heap.size → lv_has ls 7 [(0, .ref b0), (1, .int i1), (2, .int i2), (3, .int i3), (4, .int i4), (5, .int i5)] → W p l e (rmT 2 0 0 45) s m args below meth c H locs 0 0 (MQ below (QcT (FA (iv b0 46) s.heap.size) (fun ov H => ov = (some (.int rx)) ∧ rg G b0 46 (shX9 G.2.1) rw0 H ∧ H.size = s.heap.size)) args s 0 0 (FA (iv b0 46) s.heap.size)) (F0 m 0 ls []) := by
  intro v0 i1 i2 i3 i4 i5 hm H locs ls hW0 hS hz hl
  obtain ⟨hx, hb, hr, hlk, hml, hown, hts, hK⟩ := id C
  unfold fX9_shift at hm
  refine lv_iload_n (pc := 0) hx hb dX9_shift_0 rfl (lv_at hl 1 rfl) ?_
  obtain ⟨r1, hq2, hm⟩ := ob_some hm
  refine rk_PS (pc := 1) (As := [.int i1]) (rest := []) hx hb hml hown hts hK lkX9_447 yn_X9_isTape (ct_X9_isTape (G := G) (l := l) hq2) ⟨Nat.le_of_ble_eq_true rfl, Nat.le_of_ble_eq_true rfl⟩ trivial rfl rfl hl.1 (Nat.le_of_ble_eq_true rfl) dX9_shift_1 ⟨Nat.zero_le _, Nat.zero_le _⟩ ?_
  refine W.eq (g2 := F0 m 4 ls [.int r1]) rfl ?_
  refine lv_if_eq (pc := 4) (tgt := 14) hx hb dX9_shift_4 (by decide) (fun c3 => ?_) (fun c3 => ?_)
  · have hm := ite_t c3 hm
    refine lv_iconst (pc := 14) (v := (-1 : Int32)) hx hb dX9_shift_14 (by decide) ?_
    obtain ⟨e8, e9⟩ := rs2 hm
    subst e8
    subst e9
    exact rk_iret (pc := 15) hx hb hr hlk hS ⟨rfl, hW0, hz⟩ dX9_shift_15
  · have hm := ite_f c3 hm
    refine lv_iload_n (pc := 7) hx hb dX9_shift_7 rfl (lv_at hl 3 rfl) ?_
    obtain ⟨r4, hq5, hm⟩ := ob_some hm
    refine rk_PS (pc := 8) (As := [.int i3]) (rest := []) hx hb hml hown hts hK lkX9_447 yn_X9_isTape (ct_X9_isTape (G := G) (l := l) hq5) ⟨Nat.le_of_ble_eq_true rfl, Nat.le_of_ble_eq_true rfl⟩ trivial rfl rfl hl.1 (Nat.le_of_ble_eq_true rfl) dX9_shift_8 ⟨Nat.zero_le _, Nat.zero_le _⟩ ?_
    refine W.eq (g2 := F0 m 11 ls [.int r4]) rfl ?_
    refine lv_if_ne (pc := 11) (tgt := 16) hx hb dX9_shift_11 (by decide) (fun c6 => ?_) (fun c6 => ?_)
    · have hm := ite_f c6 hm
      refine lv_aload_n (pc := 16) hx hb dX9_shift_16 rfl (lv_at hl 0 rfl) ?_
      refine rk_get (pc := 17) hx hb hts hown hK hW0 flX9_69 0 (by decide) rfl rfl (x := .ref (b0 + 42)) (by first | rfl | exact congrArg (fun z => some (Value.ref z)) (by omega)) dX9_shift_17 ?_
      refine lv_iload_n (pc := 20) hx hb dX9_shift_20 rfl (lv_at hl 1 rfl) ?_
      obtain ⟨hg7, hm⟩ := gb_some hm
      refine rk_iald (pc := 21) hx hb hK hW0 42 (by decide) rfl rfl hg7 (x := (gI v0 42 i1.toNatClampNeg)) rfl dX9_shift_21 ?_
      refine lv_if_lt (pc := 22) (tgt := 34) hx hb dX9_shift_22 (by decide) (fun c8 => ?_) (fun c8 => ?_)
      · have hm := ite_t c8 hm
        refine lv_bipush (pc := 34) (v := (-11 : Int32)) hx hb dX9_shift_34 (by decide) ?_
        obtain ⟨e8, e9⟩ := rs2 hm
        subst e8
        subst e9
        exact rk_iret (pc := 36) hx hb hr hlk hS ⟨rfl, hW0, hz⟩ dX9_shift_36
      · have hm := ite_f c8 hm
        refine lv_aload_n (pc := 25) hx hb dX9_shift_25 rfl (lv_at hl 0 rfl) ?_
        refine rk_get (pc := 26) hx hb hts hown hK hW0 flX9_69 0 (by decide) rfl rfl (x := .ref (b0 + 42)) (by first | rfl | exact congrArg (fun z => some (Value.ref z)) (by omega)) dX9_shift_26 ?_
        refine lv_iload_n (pc := 29) hx hb dX9_shift_29 rfl (lv_at hl 3 rfl) ?_
        obtain ⟨hg9, hm⟩ := gb_some hm
        refine rk_iald (pc := 30) hx hb hK hW0 42 (by decide) rfl rfl hg9 (x := (gI v0 42 i3.toNatClampNeg)) rfl dX9_shift_30 ?_
        refine lv_if_ge (pc := 31) (tgt := 37) hx hb dX9_shift_31 (by decide) (fun c10 => ?_) (fun c10 => ?_)
        · have hm := ite_t c10 hm
          refine lv_aload_n (pc := 37) hx hb dX9_shift_37 rfl (lv_at hl 0 rfl) ?_
          refine rk_get (pc := 38) hx hb hts hown hK hW0 flX9_69 0 (by decide) rfl rfl (x := .ref (b0 + 42)) (by first | rfl | exact congrArg (fun z => some (Value.ref z)) (by omega)) dX9_shift_38 ?_
          refine lv_iload_n (pc := 41) hx hb dX9_shift_41 rfl (lv_at hl 1 rfl) ?_
          obtain ⟨hg11, hm⟩ := gb_some hm
          refine rk_iald (pc := 42) hx hb hK hW0 42 (by decide) rfl rfl hg11 (x := (gI v0 42 i1.toNatClampNeg)) rfl dX9_shift_42 ?_
          refine lv_aload_n (pc := 43) hx hb dX9_shift_43 rfl (lv_at hl 0 rfl) ?_
          refine rk_get (pc := 44) hx hb hts hown hK hW0 flX9_69 0 (by decide) rfl rfl (x := .ref (b0 + 42)) (by first | rfl | exact congrArg (fun z => some (Value.ref z)) (by omega)) dX9_shift_44 ?_
          refine lv_iload_n (pc := 47) hx hb dX9_shift_47 rfl (lv_at hl 3 rfl) ?_
          obtain ⟨hg12, hm⟩ := gb_some hm
          refine rk_iald (pc := 48) hx hb hK hW0 42 (by decide) rfl rfl hg12 (x := (gI v0 42 i3.toNatClampNeg)) rfl dX9_shift_48 ?_
          refine lv_icmp_eq (pc := 49) (tgt := 55) hx hb dX9_shift_49 (by decide) (fun c13 => ?_) (fun c13 => ?_)
          · have hm := ite_t c13 hm
            refine lv_iload (pc := 55) hx hb dX9_shift_55 (lv_at hl 5 rfl) ?_
            refine lv_if_lt (pc := 57) (tgt := 96) hx hb dX9_shift_57 (by decide) (fun c14 => ?_) (fun c14 => ?_)
            · have hm := ite_t c14 hm
              refine lv_bipush (pc := 96) (v := (-13 : Int32)) hx hb dX9_shift_96 (by decide) ?_
              obtain ⟨e8, e9⟩ := rs2 hm
              subst e8
              subst e9
              exact rk_iret (pc := 98) hx hb hr hlk hS ⟨rfl, hW0, hz⟩ dX9_shift_98
            · have hm := ite_f c14 hm
              refine lv_iload_n (pc := 60) hx hb dX9_shift_60 rfl (lv_at hl 2 rfl) ?_
              refine lv_if_lt (pc := 61) (tgt := 96) hx hb dX9_shift_61 (by decide) (fun c15 => ?_) (fun c15 => ?_)
              · have hm := ite_t c15 hm
                refine lv_bipush (pc := 96) (v := (-13 : Int32)) hx hb dX9_shift_96 (by decide) ?_
                obtain ⟨e8, e9⟩ := rs2 hm
                subst e8
                subst e9
                exact rk_iret (pc := 98) hx hb hr hlk hS ⟨rfl, hW0, hz⟩ dX9_shift_98
              · have hm := ite_f c15 hm
                refine lv_iload (pc := 64) hx hb dX9_shift_64 (lv_at hl 4 rfl) ?_
                refine lv_if_lt (pc := 66) (tgt := 96) hx hb dX9_shift_66 (by decide) (fun c16 => ?_) (fun c16 => ?_)
                · have hm := ite_t c16 hm
                  refine lv_bipush (pc := 96) (v := (-13 : Int32)) hx hb dX9_shift_96 (by decide) ?_
                  obtain ⟨e8, e9⟩ := rs2 hm
                  subst e8
                  subst e9
                  exact rk_iret (pc := 98) hx hb hr hlk hS ⟨rfl, hW0, hz⟩ dX9_shift_98
                · have hm := ite_f c16 hm
                  refine lv_iload_n (pc := 69) hx hb dX9_shift_69 rfl (lv_at hl 2 rfl) ?_
                  refine lv_aload_n (pc := 70) hx hb dX9_shift_70 rfl (lv_at hl 0 rfl) ?_
                  refine rk_get (pc := 71) hx hb hts hown hK hW0 flX9_72 0 (by decide) rfl rfl (x := .ref (b0 + 43)) (by first | rfl | exact congrArg (fun z => some (Value.ref z)) (by omega)) dX9_shift_71 ?_
                  refine lv_iload_n (pc := 74) hx hb dX9_shift_74 rfl (lv_at hl 1 rfl) ?_
                  obtain ⟨hg17, hm⟩ := gb_some hm
                  refine rk_iald (pc := 75) hx hb hK hW0 43 (by decide) rfl rfl hg17 (x := (gI v0 43 i1.toNatClampNeg)) rfl dX9_shift_75 ?_
                  refine lv_iload (pc := 76) hx hb dX9_shift_76 (lv_at hl 5 rfl) ?_
                  refine lv_isub (pc := 78) hx hb dX9_shift_78 ?_
                  refine lv_icmp_gt (pc := 79) (tgt := 96) hx hb dX9_shift_79 (by decide) (fun c18 => ?_) (fun c18 => ?_)
                  · have hm := ite_t c18 hm
                    refine lv_bipush (pc := 96) (v := (-13 : Int32)) hx hb dX9_shift_96 (by decide) ?_
                    obtain ⟨e8, e9⟩ := rs2 hm
                    subst e8
                    subst e9
                    exact rk_iret (pc := 98) hx hb hr hlk hS ⟨rfl, hW0, hz⟩ dX9_shift_98
                  · have hm := ite_f c18 hm
                    refine lv_iload (pc := 82) hx hb dX9_shift_82 (lv_at hl 4 rfl) ?_
                    refine lv_aload_n (pc := 84) hx hb dX9_shift_84 rfl (lv_at hl 0 rfl) ?_
                    refine rk_get (pc := 85) hx hb hts hown hK hW0 flX9_72 0 (by decide) rfl rfl (x := .ref (b0 + 43)) (by first | rfl | exact congrArg (fun z => some (Value.ref z)) (by omega)) dX9_shift_85 ?_
                    refine lv_iload_n (pc := 88) hx hb dX9_shift_88 rfl (lv_at hl 3 rfl) ?_
                    obtain ⟨hg19, hm⟩ := gb_some hm
                    refine rk_iald (pc := 89) hx hb hK hW0 43 (by decide) rfl rfl hg19 (x := (gI v0 43 i3.toNatClampNeg)) rfl dX9_shift_89 ?_
                    refine lv_iload (pc := 90) hx hb dX9_shift_90 (lv_at hl 5 rfl) ?_
                    refine lv_isub (pc := 92) hx hb dX9_shift_92 ?_
                    refine lv_icmp_le (pc := 93) (tgt := 99) hx hb dX9_shift_93 (by decide) (fun c20 => ?_) (fun c20 => ?_)
                    · have hm := ite_t c20 hm
                      refine lv_iconst (pc := 99) (v := (0 : Int32)) hx hb dX9_shift_99 (by decide) ?_
                      refine lv_istore (pc := 100) (lv' := [(6, .int (0 : Int32)), (0, .ref b0), (1, .int i1), (2, .int i2), (3, .int i3), (4, .int i4), (5, .int i5)]) hx hb dX9_shift_100 hl (by decide) rfl (fun ls hl => ?_)
                      exact (w_fX9_shift_102_l C FU) v0 i1 i2 i3 i4 i5 (0 : Int32) hm H locs ls hW0 hS hz (lv_sub hl [1, 2, 3, 4, 5, 6, 0] rfl)
                    · have hm := ite_f c20 hm
                      refine lv_bipush (pc := 96) (v := (-13 : Int32)) hx hb dX9_shift_96 (by decide) ?_
                      obtain ⟨e8, e9⟩ := rs2 hm
                      subst e8
                      subst e9
                      exact rk_iret (pc := 98) hx hb hr hlk hS ⟨rfl, hW0, hz⟩ dX9_shift_98
          · have hm := ite_f c13 hm
            refine lv_bipush (pc := 52) (v := (-12 : Int32)) hx hb dX9_shift_52 (by decide) ?_
            obtain ⟨e8, e9⟩ := rs2 hm
            subst e8
            subst e9
            exact rk_iret (pc := 54) hx hb hr hlk hS ⟨rfl, hW0, hz⟩ dX9_shift_54
        · have hm := ite_f c10 hm
          refine lv_bipush (pc := 34) (v := (-11 : Int32)) hx hb dX9_shift_34 (by decide) ?_
          obtain ⟨e8, e9⟩ := rs2 hm
          subst e8
          subst e9
          exact rk_iret (pc := 36) hx hb hr hlk hS ⟨rfl, hW0, hz⟩ dX9_shift_36
    · have hm := ite_t c6 hm
      refine lv_iconst (pc := 14) (v := (-1 : Int32)) hx hb dX9_shift_14 (by decide) ?_
      obtain ⟨e8, e9⟩ := rs2 hm
      subst e8
      subst e9
      exact rk_iret (pc := 15) hx hb hr hlk hS ⟨rfl, hW0, hz⟩ dX9_shift_15
set_option maxHeartbeats 4000000 in
theorem ct_X9_shift {G : Gv} {l : Launch} {b0 : Nat} {v0 : Mem} {i1 : Int32} {i2 : Int32} {i3 : Int32} {i4 : Int32} {i5 : Int32} {rx : Int32} {rw0 : Mem} {sz : Nat} (hm : fX9_shift v0 i1 i2 i3 i4 i5 = some (rx, rw0)) : CT G l yX9_shift (ws_ yX9_shift cX9_shift 7 (some .int)) 2 0 0 45 [.ref b0, .int i1, .int i2, .int i3, .int i4, .int i5] (iv b0 46) sz (fun H => rg G b0 46 (shX9 G.2.1) v0 H) (fun ov H => ov = (some (.int rx)) ∧ rg G b0 46 (shX9 G.2.1) rw0 H ∧ H.size = sz) := by
  refine Met.ofW (cc := cX9_shift) (maxL := 7) (ret := (some .int)) (by decide +kernel) rfl ?_
  intro p e s m args below meth c s₁ B hml hv
  obtain ⟨rfl, ⟨hz, hW0⟩, hK⟩ := hv
  subst hz
  have hts := atoms_spec (ws := ws_ yX9_shift cX9_shift 7 (some .int)) B.pre
  have hts : ∀ w ∈ lw_all, w.before _ s = true := fun w h => hts w (List.mem_cons_of_mem _ h)
  have C : Cx G p s m _ meth c RX9 cX9_shift 7 (some .int) := ⟨B.exec, B.bytes, B.returns, B.notSynchronized, hml, findClass_of_methodNamed B.named, hts, hK⟩
  have hl := lv_entry ([.ref b0, .int i1, .int i2, .int i3, .int i4, .int i5]) (n := 7) (Nat.le_of_ble_eq_true rfl)
  rw [lg_entry_eq]
  generalize (lg_sl ([.ref b0, .int i1, .int i2, .int i3, .int i4, .int i5]) ++ List.replicate (7 - (lg_sl ([.ref b0, .int i1, .int i2, .int i3, .int i4, .int i5])).length) Slot.unset).toArray = ls at hl ⊢
  have hl : lv_has ls 7 [(0, .ref b0), (1, .int i1), (2, .int i2), (3, .int i3), (4, .int i4), (5, .int i5)] := hl
  exact w_fX9_shift C _ _ _ _ _ _ hm s.heap [] ls hW0 va_S.rf rfl hl
end
