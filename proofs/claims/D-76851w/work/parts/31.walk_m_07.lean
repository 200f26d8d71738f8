set_option maxRecDepth 100000
section
variable {p : Program} {l : Launch} {e : Env} {s : State} {m : MethodId} {args : Array Value} {below : List Frame} {meth : Method} {c : Code} {G : Gv}
theorem yn_X9_branches : YN yX9_branches 0 := by
  unfold YN
  decide +kernel
theorem lkX9_397 : LV RX9 397 RX9 yX9_branches cX9_branches 5 (some .int) := ⟨q2231, q2233, qs96, q128, q2234⟩
noncomputable def fX9_branch (v0 : Mem) (i1 : Int32) : Option (Int32 × Mem) :=
  ob (fX9_n v0) fun r1 =>
  ob (fX9_isIn i1.toInt64 (0 : Int64) ((3 : Int32) + r1).toInt64) fun r3 =>
  if r3 = 0 then (
  some ((-1 : Int32), v0))
  else (
  ob2 (fX9_branches v0) fun r6 w7 =>
  if i1 = (1 : Int32) then (
  some ((gI w7 0 21), w7))
  else (
  if i1 = (3 : Int32) then (
  some ((gI w7 0 22), w7))
  else (
  if 0 ≤ r6 then (
  if i1 = 0 then (
  gb (inR (gI w7 0 23) 40) (
  gb (inR (gI w7 0 23) 40) (
  gb (nz64 (gL w7 40 (gI w7 0 23).toNatClampNeg)) (
  some (((gL w7 39 (gI w7 0 23).toNatClampNeg) / (gL w7 40 (gI w7 0 23).toNatClampNeg)).toInt32, w7)))))
  else (
  if i1 = (2 : Int32) then (
  gb (inR (gI w7 0 23) 40) (
  some ((gI w7 37 (gI w7 0 23).toNatClampNeg), w7)))
  else (
  gb (inR ((((5 : Int32) * (gI w7 0 23)) + i1) - (4 : Int32)) 200) (
  gb (inR (gI w7 0 23) 40) (
  gb (nz64 (gL w7 40 (gI w7 0 23).toNatClampNeg)) (
  some (((gL w7 38 ((((5 : Int32) * (gI w7 0 23)) + i1) - (4 : Int32)).toNatClampNeg) / (gL w7 40 (gI w7 0 23).toNatClampNeg)).toInt32, w7)))))))
  else (
  some (r6, w7)))))
set_option maxHeartbeats 4000000 in
theorem w_fX9_branch (C : Cx G p s m args meth c RX9 cX9_branch 3 (some .int)) {b0 : Nat} {rx : Int32} {rw0 : Mem} : ∀ (v0 : Mem) (i1 : Int32), fX9_branch v0 i1 = some (rx, rw0) → ∀ (H : Heap) (locs : List Loc) (ls : Array Slot), rg G b0 46 (shX9 G.2.1) v0 H → va_S (FA (iv b0 46) s.heap.size) s.heap H locs → H.size = s.heap.size → lv_has ls 3 [(0, .ref b0), (1, .int i1)] → W p l e (rmT 7 0 0 175) s m args below meth c H locs 0 0 (MQ below (QcT (FA (iv b0 46) s.heap.size) (fun ov H => ov = (some (.int rx)) ∧ rg G b0 46 (shX9 G.2.1) rw0 H ∧ H.size = s.heap.size)) args s 0 0 (FA (iv b0 46) s.heap.size)) (F0 m 0 ls []) := by
  intro v0 i1 hm H locs ls hW0 hS hz hl
  obtain ⟨hx, hb, hr, hlk, hml, hown, hts, hK⟩ := id C
  unfold fX9_branch at hm
  refine lv_iload_n (pc := 0) hx hb dX9_branch_0 rfl (lv_at hl 1 rfl) ?_
  refine lv_i2l (pc := 1) hx hb dX9_branch_1 rfl ?_
  refine lv_lconst (pc := 2) (v := (0 : Int64)) hx hb dX9_branch_2 (by decide) ?_
  refine lv_iconst (pc := 3) (v := (3 : Int32)) hx hb dX9_branch_3 (by decide) ?_
  refine lv_aload_n (pc := 4) hx hb dX9_branch_4 rfl (lv_at hl 0 rfl) ?_
  obtain ⟨r1, hq2, hm⟩ := ob_some hm
  refine rk_PV (pc := 5) (As := []) (rest := [.int (3 : Int32), .long (0 : Int64), .long i1.toInt64]) hx hb hml hown hts hK lkX9_89 rfl yn_X9_n (ct_X9_n (G := G) (l := l) (b0 := b0) hq2) ⟨Nat.le_of_ble_eq_true rfl, Nat.le_of_ble_eq_true rfl⟩ (rk_recv hK hW0 0 (by decide) rfl rfl rfl) (rg_take hW0 (by decide)) rfl rfl hl.1 (Nat.le_of_ble_eq_true rfl) dX9_branch_5 ⟨Nat.zero_le _, Nat.zero_le _⟩ ?_
  refine W.eq (g2 := F0 m 8 ls [.int r1, .int (3 : Int32), .long (0 : Int64), .long i1.toInt64]) rfl ?_
  refine lv_iadd (pc := 8) hx hb dX9_branch_8 ?_
  refine lv_i2l (pc := 9) hx hb dX9_branch_9 rfl ?_
  obtain ⟨r3, hq4, hm⟩ := ob_some hm
  refine rk_PS (pc := 10) (As := [.long i1.toInt64, .long (0 : Int64), .long ((3 : Int32) + r1).toInt64]) (rest := []) hx hb hml hown hts hK lkX9_93 yn_X9_isIn (ct_X9_isIn (G := G) (l := l) hq4) ⟨Nat.le_of_ble_eq_true rfl, Nat.le_of_ble_eq_true rfl⟩ trivial rfl rfl hl.1 (Nat.le_of_ble_eq_true rfl) dX9_branch_10 ⟨Nat.zero_le _, Nat.zero_le _⟩ ?_
  refine W.eq (g2 := F0 m 13 ls [.int r3]) rfl ?_
  refine lv_if_ne (pc := 13) (tgt := 18) hx hb dX9_branch_13 (by decide) (fun c5 => ?_) (fun c5 => ?_)
  · have hm := ite_f c5 hm
    refine lv_aload_n (pc := 18) hx hb dX9_branch_18 rfl (lv_at hl 0 rfl) ?_
    obtain ⟨r6, w7, hq8, hm⟩ := ob2_some hm
    refine rk_TV (pc := 19) (As := []) (rest := []) (mc := 0) (ms := 0) hx hb hml hown hts hK hS (fun q hq => FA_sz rfl q hq) lkX9_397 rfl yn_X9_branches (ct_X9_branches (G := G) (l := l) (b0 := b0) (sz := H.size) hq8) ⟨Nat.le_of_ble_eq_true rfl, Nat.le_of_ble_eq_true rfl⟩ (fun z h => Or.inl (show iv _ _ _ from ⟨by have h8 := h.1; have h9 := h.2; omega, by have h8 := h.1; have h9 := h.2; omega⟩)) (rk_recv hK hW0 0 (by decide) rfl rfl rfl) hW0 rfl rfl hl.1 (Nat.le_of_ble_eq_true rfl) dX9_branch_19 ⟨Nat.zero_le _, Nat.zero_le _⟩ (fun ov9 H9 locs10 hP11 hkp12 hS13 => ?_)
    obtain ⟨rfl, hW14, hz15⟩ := hP11
    have hz16 := hz15.trans hz
    refine W.eq (g2 := F0 m 22 ls [.int r6]) rfl ?_
    refine lv_istore_n (pc := 22) (lv' := [(2, .int r6), (0, .ref b0), (1, .int i1)]) hx hb dX9_branch_22 rfl hl (by decide) rfl (fun ls hl => ?_)
    refine lv_iload_n (pc := 23) hx hb dX9_branch_23 rfl (lv_at hl 2 rfl) ?_
    refine lv_iconst (pc := 24) (v := (1 : Int32)) hx hb dX9_branch_24 (by decide) ?_
    refine lv_icmp_ne (pc := 25) (tgt := 33) hx hb dX9_branch_25 (by decide) (fun c17 => ?_) (fun c17 => ?_)
    · have hm := ite_f c17 hm
      refine lv_iload_n (pc := 33) hx hb dX9_branch_33 rfl (lv_at hl 2 rfl) ?_
      refine lv_iconst (pc := 34) (v := (3 : Int32)) hx hb dX9_branch_34 (by decide) ?_
      refine lv_icmp_ne (pc := 35) (tgt := 43) hx hb dX9_branch_35 (by decide) (fun c18 => ?_) (fun c18 => ?_)
      · have hm := ite_f c18 hm
        refine lv_iload_n (pc := 43) hx hb dX9_branch_43 rfl (lv_at hl 0 rfl) ?_
        refine lv_if_ge (pc := 44) (tgt := 49) hx hb dX9_branch_44 (by decide) (fun c19 => ?_) (fun c19 => ?_)
        · have hm := ite_t c19 hm
          refine lv_iload_n (pc := 49) hx hb dX9_branch_49 rfl (lv_at hl 2 rfl) ?_
          refine lv_if_ne (pc := 50) (tgt := 76) hx hb dX9_branch_50 (by decide) (fun c20 => ?_) (fun c20 => ?_)
          · have hm := ite_f c20 hm
            refine lv_iload_n (pc := 76) hx hb dX9_branch_76 rfl (lv_at hl 2 rfl) ?_
            refine lv_iconst (pc := 77) (v := (2 : Int32)) hx hb dX9_branch_77 (by decide) ?_
            refine lv_icmp_ne (pc := 78) (tgt := 93) hx hb dX9_branch_78 (by decide) (fun c21 => ?_) (fun c21 => ?_)
            · have hm := ite_f c21 hm
              refine lv_aload_n (pc := 93) hx hb dX9_branch_93 rfl (lv_at hl 1 rfl) ?_
              refine rk_get (pc := 94) hx hb hts hown hK hW14 flX9_55 0 (by decide) rfl rfl (x := .ref (b0 + 38)) (by first | rfl | exact congrArg (fun z => some (Value.ref z)) (by omega)) dX9_branch_94 ?_
              refine lv_iconst (pc := 97) (v := (5 : Int32)) hx hb dX9_branch_97 (by decide) ?_
              refine lv_aload_n (pc := 98) hx hb dX9_branch_98 rfl (lv_at hl 1 rfl) ?_
              refine rk_get (pc := 99) hx hb hts hown hK hW14 flX9_391 0 (by decide) rfl rfl (x := .int (gI w7 0 23)) rfl dX9_branch_99 ?_
              refine lv_imul (pc := 102) hx hb dX9_branch_102 ?_
              refine lv_iload_n (pc := 103) hx hb dX9_branch_103 rfl (lv_at hl 2 rfl) ?_
              refine lv_iadd (pc := 104) hx hb dX9_branch_104 ?_
              refine lv_iconst (pc := 105) (v := (4 : Int32)) hx hb dX9_branch_105 (by decide) ?_
              refine lv_isub (pc := 106) hx hb dX9_branch_106 ?_
              obtain ⟨hg22, hm⟩ := gb_some hm
              refine rk_lald (pc := 107) hx hb hK hW14 38 (by decide) rfl rfl hg22 (x := (gL w7 38 ((((5 : Int32) * (gI w7 0 23)) + i1) - (4 : Int32)).toNatClampNeg)) rfl dX9_branch_107 ?_
              refine lv_aload_n (pc := 108) hx hb dX9_branch_108 rfl (lv_at hl 1 rfl) ?_
              refine rk_get (pc := 109) hx hb hts hown hK hW14 flX9_62 0 (by decide) rfl rfl (x := .ref (b0 + 40)) (by first | rfl | exact congrArg (fun z => some (Value.ref z)) (by omega)) dX9_branch_109 ?_
              refine lv_aload_n (pc := 112) hx hb dX9_branch_112 rfl (lv_at hl 1 rfl) ?_
              refine rk_get (pc := 113) hx hb hts hown hK hW14 flX9_391 0 (by decide) rfl rfl (x := .int (gI w7 0 23)) rfl dX9_branch_113 ?_
              obtain ⟨hg23, hm⟩ := gb_some hm
              refine rk_lald (pc := 116) hx hb hK hW14 40 (by decide) rfl rfl hg23 (x := (gL w7 40 (gI w7 0 23).toNatClampNeg)) rfl dX9_branch_116 ?_
              obtain ⟨hg24, hm⟩ := gb_some hm
              refine lv_ldiv (pc := 117) hx hb dX9_branch_117 (nz64_ne hg24) ?_
              refine lv_l2i (pc := 118) hx hb dX9_branch_118 rfl ?_
              obtain ⟨e8, e9⟩ := rs2 hm
              subst e8
              subst e9
              exact rk_iret (pc := 119) hx hb hr hlk hS13 ⟨rfl, hW14, hz16⟩ dX9_branch_119
            · have hm := ite_t c21 hm
              refine lv_aload_n (pc := 81) hx hb dX9_branch_81 rfl (lv_at hl 1 rfl) ?_
              refine rk_get (pc := 82) hx hb hts hown hK hW14 flX9_52 0 (by decide) rfl rfl (x := .ref (b0 + 37)) (by first | rfl | exact congrArg (fun z => some (Value.ref z)) (by omega)) dX9_branch_82 ?_
              refine lv_aload_n (pc := 85) hx hb dX9_branch_85 rfl (lv_at hl 1 rfl) ?_
              refine rk_get (pc := 86) hx hb hts hown hK hW14 flX9_391 0 (by decide) rfl rfl (x := .int (gI w7 0 23)) rfl dX9_branch_86 ?_
              obtain ⟨hg25, hm⟩ := gb_some hm
              refine rk_iald (pc := 89) hx hb hK hW14 37 (by decide) rfl rfl hg25 (x := (gI w7 37 (gI w7 0 23).toNatClampNeg)) rfl dX9_branch_89 ?_
              refine lv_goto (pc := 90) (tgt := 119) hx hb dX9_branch_90 (by decide) ?_
              obtain ⟨e8, e9⟩ := rs2 hm
              subst e8
              subst e9
              exact rk_iret (pc := 119) hx hb hr hlk hS13 ⟨rfl, hW14, hz16⟩ dX9_branch_119
          · have hm := ite_t c20 hm
            refine lv_aload_n (pc := 53) hx hb dX9_branch_53 rfl (lv_at hl 1 rfl) ?_
            refine rk_get (pc := 54) hx hb hts hown hK hW14 flX9_59 0 (by decide) rfl rfl (x := .ref (b0 + 39)) (by first | rfl | exact congrArg (fun z => some (Value.ref z)) (by omega)) dX9_branch_54 ?_
            refine lv_aload_n (pc := 57) hx hb dX9_branch_57 rfl (lv_at hl 1 rfl) ?_
            refine rk_get (pc := 58) hx hb hts hown hK hW14 flX9_391 0 (by decide) rfl rfl (x := .int (gI w7 0 23)) rfl dX9_branch_58 ?_
            obtain ⟨hg26, hm⟩ := gb_some hm
            refine rk_lald (pc := 61) hx hb hK hW14 39 (by decide) rfl rfl hg26 (x := (gL w7 39 (gI w7 0 23).toNatClampNeg)) rfl dX9_branch_61 ?_
            refine lv_aload_n (pc := 62) hx hb dX9_branch_62 rfl (lv_at hl 1 rfl) ?_
            refine rk_get (pc := 63) hx hb hts hown hK hW14 flX9_62 0 (by decide) rfl rfl (x := .ref (b0 + 40)) (by first | rfl | exact congrArg (fun z => some (Value.ref z)) (by omega)) dX9_branch_63 ?_
            refine lv_aload_n (pc := 66) hx hb dX9_branch_66 rfl (lv_at hl 1 rfl) ?_
            refine rk_get (pc := 67) hx hb hts hown hK hW14 flX9_391 0 (by decide) rfl rfl (x := .int (gI w7 0 23)) rfl dX9_branch_67 ?_
            obtain ⟨hg27, hm⟩ := gb_some hm
            refine rk_lald (pc := 70) hx hb hK hW14 40 (by decide) rfl rfl hg27 (x := (gL w7 40 (gI w7 0 23).toNatClampNeg)) rfl dX9_branch_70 ?_
            obtain ⟨hg28, hm⟩ := gb_some hm
            refine lv_ldiv (pc := 71) hx hb dX9_branch_71 (nz64_ne hg28) ?_
            refine lv_l2i (pc := 72) hx hb dX9_branch_72 rfl ?_
            refine lv_goto (pc := 73) (tgt := 119) hx hb dX9_branch_73 (by decide) ?_
            obtain ⟨e8, e9⟩ := rs2 hm
            subst e8
            subst e9
            exact rk_iret (pc := 119) hx hb hr hlk hS13 ⟨rfl, hW14, hz16⟩ dX9_branch_119
        · have hm := ite_f c19 hm
          refine lv_iload_n (pc := 47) hx hb dX9_branch_47 rfl (lv_at hl 0 rfl) ?_
          obtain ⟨e8, e9⟩ := rs2 hm
          subst e8
          subst e9
          exact rk_iret (pc := 48) hx hb hr hlk hS13 ⟨rfl, hW14, hz16⟩ dX9_branch_48
      · have hm := ite_t c18 hm
        refine lv_aload_n (pc := 38) hx hb dX9_branch_38 rfl (lv_at hl 1 rfl) ?_
        refine rk_get (pc := 39) hx hb hts hown hK hW14 flX9_381 0 (by decide) rfl rfl (x := .int (gI w7 0 22)) rfl dX9_branch_39 ?_
        obtain ⟨e8, e9⟩ := rs2 hm
        subst e8
        subst e9
        exact rk_iret (pc := 42) hx hb hr hlk hS13 ⟨rfl, hW14, hz16⟩ dX9_branch_42
    · have hm := ite_t c17 hm
      refine lv_aload_n (pc := 28) hx hb dX9_branch_28 rfl (lv_at hl 1 rfl) ?_
      refine rk_get (pc := 29) hx hb hts hown hK hW14 flX9_371 0 (by decide) rfl rfl (x := .int (gI w7 0 21)) rfl dX9_branch_29 ?_
      obtain ⟨e8, e9⟩ := rs2 hm
      subst e8
      subst e9
      exact rk_iret (pc := 32) hx hb hr hlk hS13 ⟨rfl, hW14, hz16⟩ dX9_branch_32
  · have hm := ite_t c5 hm
    refine lv_iconst (pc := 16) (v := (-1 : Int32)) hx hb dX9_branch_16 (by decide) ?_
    obtain ⟨e8, e9⟩ := rs2 hm
    subst e8
    subst e9
    exact rk_iret (pc := 17) hx hb hr hlk hS ⟨rfl, hW0, hz⟩ dX9_branch_17
set_option maxHeartbeats 4000000 in
theorem ct_X9_branch {G : Gv} {l : Launch} {b0 : Nat} {v0 : Mem} {i1 : Int32} {rx : Int32} {rw0 : Mem} {sz : Nat} (hm : fX9_branch v0 i1 = some (rx, rw0)) : CT G l yX9_branch (ws_ yX9_branch cX9_branch 3 (some .int)) 7 0 0 175 [.ref b0, .int i1] (iv b0 46) sz (fun H => rg G b0 46 (shX9 G.2.1) v0 H) (fun ov H => ov = (some (.int rx)) ∧ rg G b0 46 (shX9 G.2.1) rw0 H ∧ H.size = sz) := by
  refine Met.ofW (cc := cX9_branch) (maxL := 3) (ret := (some .int)) (by decide +kernel) rfl ?_
  intro p e s m args below meth c s₁ B hml hv
  obtain ⟨rfl, ⟨hz, hW0⟩, hK⟩ := hv
  subst hz
  have hts := atoms_spec (ws := ws_ yX9_branch cX9_branch 3 (some .int)) B.pre
  have hts : ∀ w ∈ lw_all, w.before _ s = true := fun w h => hts w (List.mem_cons_of_mem _ h)
  have C : Cx G p s m _ meth c RX9 cX9_branch 3 (some .int) := ⟨B.exec, B.bytes, B.returns, B.notSynchronized, hml, findClass_of_methodNamed B.named, hts, hK⟩
  have hl := lv_entry ([.ref b0, .int i1]) (n := 3) (Nat.le_of_ble_eq_true rfl)
  rw [lg_entry_eq]
  generalize (lg_sl ([.ref b0, .int i1]) ++ List.replicate (3 - (lg_sl ([.ref b0, .int i1])).length) Slot.unset).toArray = ls at hl ⊢
  have hl : lv_has ls 3 [(0, .ref b0), (1, .int i1)] := hl
  exact w_fX9_branch C _ _ hm s.heap [] ls hW0 va_S.rf rfl hl
theorem yn_X9_worth : YN yX9_worth 0 := by
  unfold YN
  decide +kernel
theorem lkX9_400 : LV RX9 400 RX9 yX9_worth cX9_worth 2 (some .int) := ⟨q2263, q2265, qs103, q128, q2266⟩
noncomputable def fX9_worthWith (v0 : Mem) (i1 : Int32) (i2 : Int32) : Option (Int32 × Mem) :=
  gb (inR (((12 : Int32) + ((7 : Int32) * i1)) + (1 : Int32)) 150) (
  gb (inR (((12 : Int32) + ((7 : Int32) * i1)) + (1 : Int32)) 150) (
  lm (sI v0 1 (((12 : Int32) + ((7 : Int32) * i1)) + (1 : Int32)).toNatClampNeg i2) fun v0_3 =>
  ob2 (fX9_worth v0_3) fun r11 w12 =>
  gb (inR (((12 : Int32) + ((7 : Int32) * i1)) + (1 : Int32)) 150) (
  lm (sI w12 1 (((12 : Int32) + ((7 : Int32) * i1)) + (1 : Int32)).toNatClampNeg (gI v0 1 (((12 : Int32) + ((7 : Int32) * i1)) + (1 : Int32)).toNatClampNeg)) fun v0_23 =>
  some (r11, v0_23))))
set_option maxHeartbeats 4000000 in
theorem w_fX9_worthWith (C : Cx G p s m args meth c RX9 cX9_worthWith 6 (some .int)) {b0 : Nat} {rx : Int32} {rw0 : Mem} : ∀ (v0 : Mem) (i1 : Int32) (i2 : Int32), fX9_worthWith v0 i1 i2 = some (rx, rw0) → ∀ (H : Heap) (locs : List Loc) (ls : Array Slot), rg G b0 46 (shX9 G.2.1) v0 H → va_S (FA (iv b0 46) s.heap.size) s.heap H locs → H.size = s.heap.size → lv_has ls 6 [(0, .ref b0), (1, .int i1), (2, .int i2)] → W p l e (rmT 7 0 0 168) s m args below meth c H locs 0 0 (MQ below (QcT (FA (iv b0 46) s.heap.size) (fun ov H => ov = (some (.int rx)) ∧ rg G b0 46 (shX9 G.2.1) rw0 H ∧ H.size = s.heap.size)) args s 0 0 (FA (iv b0 46) s.heap.size)) (F0 m 0 ls []) := by
  intro v0 i1 i2 hm H locs ls hW0 hS hz hl
  obtain ⟨hx, hb, hr, hlk, hml, hown, hts, hK⟩ := id C
  unfold fX9_worthWith at hm
  refine lv_bipush (pc := 0) (v := (12 : Int32)) hx hb dX9_worthWith_0 (by decide) ?_
  refine lv_bipush (pc := 2) (v := (7 : Int32)) hx hb dX9_worthWith_2 (by decide) ?_
  refine lv_iload_n (pc := 4) hx hb dX9_worthWith_4 rfl (lv_at hl 1 rfl) ?_
  refine lv_imul (pc := 5) hx hb dX9_worthWith_5 ?_
  refine lv_iadd (pc := 6) hx hb dX9_worthWith_6 ?_
  refine lv_iconst (pc := 7) (v := (1 : Int32)) hx hb dX9_worthWith_7 (by decide) ?_
  refine lv_iadd (pc := 8) hx hb dX9_worthWith_8 ?_
  refine lv_istore_n (pc := 9) (lv' := [(3, .int (((12 : Int32) + ((7 : Int32) * i1)) + (1 : Int32))), (0, .ref b0), (1, .int i1), (2, .int i2)]) hx hb dX9_worthWith_9 rfl hl (by decide) rfl (fun ls hl => ?_)
  refine lv_aload_n (pc := 10) hx hb dX9_worthWith_10 rfl (lv_at hl 1 rfl) ?_
  refine rk_get (pc := 11) hx hb hts hown hK hW0 flX9_11 0 (by decide) rfl rfl (x := .ref (b0 + 1)) (by first | rfl | exact congrArg (fun z => some (Value.ref z)) (by omega)) dX9_worthWith_11 ?_
  refine lv_iload_n (pc := 14) hx hb dX9_worthWith_14 rfl (lv_at hl 0 rfl) ?_
  obtain ⟨hg1, hm⟩ := gb_some hm
  refine rk_iald (pc := 15) hx hb hK hW0 1 (by decide) rfl rfl hg1 (x := (gI v0 1 (((12 : Int32) + ((7 : Int32) * i1)) + (1 : Int32)).toNatClampNeg)) rfl dX9_worthWith_15 ?_
  refine lv_istore (pc := 16) (lv' := [(4, .int (gI v0 1 (((12 : Int32) + ((7 : Int32) * i1)) + (1 : Int32)).toNatClampNeg)), (3, .int (((12 : Int32) + ((7 : Int32) * i1)) + (1 : Int32))), (0, .ref b0), (1, .int i1), (2, .int i2)]) hx hb dX9_worthWith_16 hl (by decide) rfl (fun ls hl => ?_)
  refine lv_aload_n (pc := 18) hx hb dX9_worthWith_18 rfl (lv_at hl 2 rfl) ?_
  refine rk_get (pc := 19) hx hb hts hown hK hW0 flX9_11 0 (by decide) rfl rfl (x := .ref (b0 + 1)) (by first | rfl | exact congrArg (fun z => some (Value.ref z)) (by omega)) dX9_worthWith_19 ?_
  refine lv_iload_n (pc := 22) hx hb dX9_worthWith_22 rfl (lv_at hl 1 rfl) ?_
  refine lv_iload_n (pc := 23) hx hb dX9_worthWith_23 rfl (lv_at hl 4 rfl) ?_
  obtain ⟨hg2, hm⟩ := gb_some hm
  refine rk_iast (pc := 24) hx hb hK hW0 hS 1 (by decide) rfl (Or.inl (show iv _ _ _ from ⟨by omega, by omega⟩)) (fun _ _ _ => rfl) hg2 dX9_worthWith_24 (fun H4 locs5 hW6 hS7 hz8 hkp9 => ?_)
  obtain ⟨v0_3, he9, hm⟩ := lm_some hm
  rw [he9] at hW6
  have hz10 := hz8.trans hz
  refine lv_aload_n (pc := 25) hx hb dX9_worthWith_25 rfl (lv_at hl 2 rfl) ?_
  obtain ⟨r11, w12, hq13, hm⟩ := ob2_some hm
  refine rk_TV (pc := 26) (As := []) (rest := []) (mc := 0) (ms := 0) hx hb hml hown hts hK hS7 (fun q hq => FA_sz rfl q hq) lkX9_400 rfl yn_X9_worth (ct_X9_worth (G := G) (l := l) (b0 := b0) (sz := H4.size) hq13) ⟨Nat.le_of_ble_eq_true rfl, Nat.le_of_ble_eq_true rfl⟩ (fun z h => Or.inl (show iv _ _ _ from ⟨by have h8 := h.1; have h9 := h.2; omega, by have h8 := h.1; have h9 := h.2; omega⟩)) (rk_recv hK hW6 0 (by decide) rfl rfl rfl) hW6 rfl rfl hl.1 (Nat.le_of_ble_eq_true rfl) dX9_worthWith_26 ⟨Nat.zero_le _, Nat.zero_le _⟩ (fun ov9 H14 locs15 hP16 hkp17 hS18 => ?_)
  obtain ⟨rfl, hW19, hz20⟩ := hP16
  have hz21 := hz20.trans hz10
  refine W.eq (g2 := F0 m 29 ls [.int r11]) rfl ?_
  refine lv_istore (pc := 29) (lv' := [(5, .int r11), (4, .int (gI v0 1 (((12 : Int32) + ((7 : Int32) * i1)) + (1 : Int32)).toNatClampNeg)), (3, .int (((12 : Int32) + ((7 : Int32) * i1)) + (1 : Int32))), (0, .ref b0), (1, .int i1), (2, .int i2)]) hx hb dX9_worthWith_29 hl (by decide) rfl (fun ls hl => ?_)
  refine lv_aload_n (pc := 31) hx hb dX9_worthWith_31 rfl (lv_at hl 3 rfl) ?_
  refine rk_get (pc := 32) hx hb hts hown hK hW19 flX9_11 0 (by decide) rfl rfl (x := .ref (b0 + 1)) (by first | rfl | exact congrArg (fun z => some (Value.ref z)) (by omega)) dX9_worthWith_32 ?_
  refine lv_iload_n (pc := 35) hx hb dX9_worthWith_35 rfl (lv_at hl 2 rfl) ?_
  refine lv_iload (pc := 36) hx hb dX9_worthWith_36 (lv_at hl 1 rfl) ?_
  obtain ⟨hg22, hm⟩ := gb_some hm
  refine rk_iast (pc := 38) hx hb hK hW19 hS18 1 (by decide) rfl (Or.inl (show iv _ _ _ from ⟨by omega, by omega⟩)) (fun _ _ _ => rfl) hg22 dX9_worthWith_38 (fun H24 locs25 hW26 hS27 hz28 hkp29 => ?_)
  obtain ⟨v0_23, he9, hm⟩ := lm_some hm
  rw [he9] at hW26
  have hz30 := hz28.trans hz21
  refine lv_iload (pc := 39) hx hb dX9_worthWith_39 (lv_at hl 0 rfl) ?_
  obtain ⟨e8, e9⟩ := rs2 hm
  subst e8
  subst e9
  exact rk_iret (pc := 41) hx hb hr hlk hS27 ⟨rfl, hW26, hz30⟩ dX9_worthWith_41
set_option maxHeartbeats 4000000 in
theorem ct_X9_worthWith {G : Gv} {l : Launch} {b0 : Nat} {v0 : Mem} {i1 : Int32} {i2 : Int32} {rx : Int32} {rw0 : Mem} {sz : Nat} (hm : fX9_worthWith v0 i1 i2 = some (rx, rw0)) : CT G l yX9_worthWith (ws_ yX9_worthWith cX9_worthWith 6 (some .int)) 7 0 0 168 [.ref b0, .int i1, .int i2] (iv b0 46) sz (fun H => rg G b0 46 (shX9 G.2.1) v0 H) (fun ov H => ov = (some (.int rx)) ∧ rg G b0 46 (shX9 G.2.1) rw0 H ∧ H.size = sz) := by
  refine Met.ofW (cc := cX9_worthWith) (maxL := 6) (ret := (some .int)) (by decide +kernel) rfl ?_
  intro p e s m args below meth c s₁ B hml hv
  obtain ⟨rfl, ⟨hz, hW0⟩, hK⟩ := hv
  subst hz
  have hts := atoms_spec (ws := ws_ yX9_worthWith cX9_worthWith 6 (some .int)) B.pre
  have hts : ∀ w ∈ lw_all, w.before _ s = true := fun w h => hts w (List.mem_cons_of_mem _ h)
  have C : Cx G p s m _ meth c RX9 cX9_worthWith 6 (some .int) := ⟨B.exec, B.bytes, B.returns, B.notSynchronized, hml, findClass_of_methodNamed B.named, hts, hK⟩
  have hl := lv_entry ([.ref b0, .int i1, .int i2]) (n := 6) (Nat.le_of_ble_eq_true rfl)
  rw [lg_entry_eq]
  generalize (lg_sl ([.ref b0, .int i1, .int i2]) ++ List.replicate (6 - (lg_sl ([.ref b0, .int i1, .int i2])).length) Slot.unset).toArray = ls at hl ⊢
  have hl : lv_has ls 6 [(0, .ref b0), (1, .int i1), (2, .int i2)] := hl
  exact w_fX9_worthWith C _ _ _ hm s.heap [] ls hW0 va_S.rf rfl hl
theorem yn_X9_worthWith : YN yX9_worthWith 2 := by
  unfold YN
  decide +kernel
theorem lkX9_403 : LV RX9 403 RX9 yX9_worthWith cX9_worthWith 6 (some .int) := ⟨q2259, q2261, qs102, q128, q2262⟩
noncomputable def fX9_would (v0 : Mem) (i1 : Int32) (i2 : Int32) : Option (Int32 × Mem) :=
  ob (fX9_isRule v0 i1) fun r1 =>
  if r1 = 0 then (
  some ((-1 : Int32), v0))
  else (
  ob (fX9_isIn i2.toInt64 (-99 : Int64) (999 : Int64)) fun r4 =>
  if r4 = 0 then (
  some ((-2 : Int32), v0))
  else (
  ob2 (fX9_worthWith v0 i1 i2) fun r7 w8 =>
  some (r7, w8)))
set_option maxHeartbeats 4000000 in
theorem w_fX9_would (C : Cx G p s m args meth c RX9 cX9_would 3 (some .int)) {b0 : Nat} {rx : Int32} {rw0 : Mem} : ∀ (v0 : Mem) (i1 : Int32) (i2 : Int32), fX9_would v0 i1 i2 = some (rx, rw0) → ∀ (H : Heap) (locs : List Loc) (ls : Array Slot), rg G b0 46 (shX9 G.2.1) v0 H → va_S (FA (iv b0 46) s.heap.size) s.heap H locs → H.size = s.heap.size → lv_has ls 3 [(0, .ref b0), (1, .int i1), (2, .int i2)] → W p l e (rmT 8 0 0 193) s m args below meth c H locs 0 0 (MQ below (QcT (FA (iv b0 46) s.heap.size) (fun ov H => ov = (some (.int rx)) ∧ rg G b0 46 (shX9 G.2.1) rw0 H ∧ H.size = s.heap.size)) args s 0 0 (FA (iv b0 46) s.heap.size)) (F0 m 0 ls []) := by
  intro v0 i1 i2 hm H locs ls hW0 hS hz hl
  obtain ⟨hx, hb, hr, hlk, hml, hown, hts, hK⟩ := id C
  unfold fX9_would at hm
  refine lv_aload_n (pc := 0) hx hb dX9_would_0 rfl (lv_at hl 0 rfl) ?_
  refine lv_iload_n (pc := 1) hx hb dX9_would_1 rfl (lv_at hl 1 rfl) ?_
  obtain ⟨r1, hq2, hm⟩ := ob_some hm
  refine rk_PV (pc := 2) (As := [.int i1]) (rest := []) hx hb hml hown hts hK lkX9_124 rfl yn_X9_isRule (ct_X9_isRule (G := G) (l := l) (b0 := b0) hq2) ⟨Nat.le_of_ble_eq_true rfl, Nat.le_of_ble_eq_true rfl⟩ (rk_recv hK hW0 0 (by decide) rfl rfl rfl) (rg_take hW0 (by decide)) rfl rfl hl.1 (Nat.le_of_ble_eq_true rfl) dX9_would_2 ⟨Nat.zero_le _, Nat.zero_le _⟩ ?_
  refine W.eq (g2 := F0 m 5 ls [.int r1]) rfl ?_
  refine lv_if_ne (pc := 5) (tgt := 12) hx hb dX9_would_5 (by decide) (fun c3 => ?_) (fun c3 => ?_)
  · have hm := ite_f c3 hm
    refine lv_iload_n (pc := 12) hx hb dX9_would_12 rfl (lv_at hl 2 rfl) ?_
    refine lv_i2l (pc := 13) hx hb dX9_would_13 rfl ?_
    refine lv_ldc2 (pc := 14) (v := (-99 : Int64)) hx hb hown (hts _ q1940) dX9_would_14 ?_
    refine lv_ldc2 (pc := 17) (v := (999 : Int64)) hx hb hown (hts _ q1941) dX9_would_17 ?_
    obtain ⟨r4, hq5, hm⟩ := ob_some hm
    refine rk_PS (pc := 20) (As := [.long i2.toInt64, .long (-99 : Int64), .long (999 : Int64)]) (rest := []) hx hb hml hown hts hK lkX9_93 yn_X9_isIn (ct_X9_isIn (G := G) (l := l) hq5) ⟨Nat.le_of_ble_eq_true rfl, Nat.le_of_ble_eq_true rfl⟩ trivial rfl rfl hl.1 (Nat.le_of_ble_eq_true rfl) dX9_would_20 ⟨Nat.zero_le _, Nat.zero_le _⟩ ?_
    refine W.eq (g2 := F0 m 23 ls [.int r4]) rfl ?_
    refine lv_if_eq (pc := 23) (tgt := 35) hx hb dX9_would_23 (by decide) (fun c6 => ?_) (fun c6 => ?_)
    · have hm := ite_t c6 hm
      refine lv_bipush (pc := 35) (v := (-2 : Int32)) hx hb dX9_would_35 (by decide) ?_
      obtain ⟨e8, e9⟩ := rs2 hm
      subst e8
      subst e9
      exact rk_iret (pc := 37) hx hb hr hlk hS ⟨rfl, hW0, hz⟩ dX9_would_37
    · have hm := ite_f c6 hm
      refine lv_aload_n (pc := 26) hx hb dX9_would_26 rfl (lv_at hl 0 rfl) ?_
      refine lv_iload_n (pc := 27) hx hb dX9_would_27 rfl (lv_at hl 1 rfl) ?_
      refine lv_iload_n (pc := 28) hx hb dX9_would_28 rfl (lv_at hl 2 rfl) ?_
      obtain ⟨r7, w8, hq9, hm⟩ := ob2_some hm
      refine rk_TV (pc := 29) (As := [.int i1, .int i2]) (rest := []) (mc := 0) (ms := 0) hx hb hml hown hts hK hS (fun q hq => FA_sz rfl q hq) lkX9_403 rfl yn_X9_worthWith (ct_X9_worthWith (G := G) (l := l) (b0 := b0) (sz := H.size) hq9) ⟨Nat.le_of_ble_eq_true rfl, Nat.le_of_ble_eq_true rfl⟩ (fun z h => Or.inl (show iv _ _ _ from ⟨by have h8 := h.1; have h9 := h.2; omega, by have h8 := h.1; have h9 := h.2; omega⟩)) (rk_recv hK hW0 0 (by decide) rfl rfl rfl) hW0 rfl rfl hl.1 (Nat.le_of_ble_eq_true rfl) dX9_would_29 ⟨Nat.zero_le _, Nat.zero_le _⟩ (fun ov9 H10 locs11 hP12 hkp13 hS14 => ?_)
      obtain ⟨rfl, hW15, hz16⟩ := hP12
      have hz17 := hz16.trans hz
      refine W.eq (g2 := F0 m 32 ls [.int r7]) rfl ?_
      refine lv_goto (pc := 32) (tgt := 37) hx hb dX9_would_32 (by decide) ?_
      obtain ⟨e8, e9⟩ := rs2 hm
      subst e8
      subst e9
      exact rk_iret (pc := 37) hx hb hr hlk hS14 ⟨rfl, hW15, hz17⟩ dX9_would_37
  · have hm := ite_t c3 hm
    refine lv_iconst (pc := 8) (v := (-1 : Int32)) hx hb dX9_would_8 (by decide) ?_
    refine lv_goto (pc := 9) (tgt := 37) hx hb dX9_would_9 (by decide) ?_
    obtain ⟨e8, e9⟩ := rs2 hm
    subst e8
    subst e9
    exact rk_iret (pc := 37) hx hb hr hlk hS ⟨rfl, hW0, hz⟩ dX9_would_37
set_option maxHeartbeats 4000000 in
theorem ct_X9_would {G : Gv} {l : Launch} {b0 : Nat} {v0 : Mem} {i1 : Int32} {i2 : Int32} {rx : Int32} {rw0 : Mem} {sz : Nat} (hm : fX9_would v0 i1 i2 = some (rx, rw0)) : CT G l yX9_would (ws_ yX9_would cX9_would 3 (some .int)) 8 0 0 193 [.ref b0, .int i1, .int i2] (iv b0 46) sz (fun H => rg G b0 46 (shX9 G.2.1) v0 H) (fun ov H => ov = (some (.int rx)) ∧ rg G b0 46 (shX9 G.2.1) rw0 H ∧ H.size = sz) := by
  refine Met.ofW (cc := cX9_would) (maxL := 3) (ret := (some .int)) (by decide +kernel) rfl ?_
  intro p e s m args below meth c s₁ B hml hv
  obtain ⟨rfl, ⟨hz, hW0⟩, hK⟩ := hv
  subst hz
  have hts := atoms_spec (ws := ws_ yX9_would cX9_would 3 (some .int)) B.pre
  have hts : ∀ w ∈ lw_all, w.before _ s = true := fun w h => hts w (List.mem_cons_of_mem _ h)
  have C : Cx G p s m _ meth c RX9 cX9_would 3 (some .int) := ⟨B.exec, B.bytes, B.returns, B.notSynchronized, hml, findClass_of_methodNamed B.named, hts, hK⟩
  have hl := lv_entry ([.ref b0, .int i1, .int i2]) (n := 3) (Nat.le_of_ble_eq_true rfl)
  rw [lg_entry_eq]
  generalize (lg_sl ([.ref b0, .int i1, .int i2]) ++ List.replicate (3 - (lg_sl ([.ref b0, .int i1, .int i2])).length) Slot.unset).toArray = ls at hl ⊢
  have hl : lv_has ls 3 [(0, .ref b0), (1, .int i1), (2, .int i2)] := hl
  exact w_fX9_would C _ _ _ hm s.heap [] ls hW0 va_S.rf rfl hl
noncomputable def fX9_see (v0 : Mem) (i1 : Int32) (i2 : Int32) : Option (Int32 × Mem) :=
  if i1 = (-1 : Int32) then (
  gb (inR (4 : Int32) 150) (
  lm (sI v0 1 (4 : Int32).toNatClampNeg (0 : Int32)) fun v0_42 =>
  some ((0 : Int32), v0_42)))
  else (
  ob (fX9_isPack v0 i1) fun r2 =>
  if r2 = 0 then (
  some ((-1 : Int32), v0))
  else (
  ob (fX9_isIn i2.toInt64 (0 : Int64) (999 : Int64)) fun r5 =>
  if r5 = 0 then (
  some ((-2 : Int32), v0))
  else (
  gb (inR (4 : Int32) 150) (
  if (gI v0 1 (4 : Int32).toNatClampNeg) = (5 : Int32) then (
  some ((-4 : Int32), v0))
  else (
  gb (inR (4 : Int32) 150) (
  gb (inR ((76 : Int32) + ((2 : Int32) * (gI v0 1 (4 : Int32).toNatClampNeg))) 150) (
  lm (sI v0 1 ((76 : Int32) + ((2 : Int32) * (gI v0 1 (4 : Int32).toNatClampNeg))).toNatClampNeg i1) fun v0_12 =>
  gb (inR (4 : Int32) 150) (
  gb (inR (((76 : Int32) + ((2 : Int32) * (gI v0_12 1 (4 : Int32).toNatClampNeg))) + (1 : Int32)) 150) (
  lm (sI v0_12 1 (((76 : Int32) + ((2 : Int32) * (gI v0_12 1 (4 : Int32).toNatClampNeg))) + (1 : Int32)).toNatClampNeg i2) fun v0_22 =>
  gb (inR (4 : Int32) 150) (
  gb (inR (4 : Int32) 150) (
  lm (sI v0_22 1 (4 : Int32).toNatClampNeg ((gI v0_22 1 (4 : Int32).toNatClampNeg) + (1 : Int32))) fun v0_32 =>
  gb (inR (4 : Int32) 150) (
  some ((gI v0_32 1 (4 : Int32).toNatClampNeg), v0_32)))))))))))))
set_option maxHeartbeats 4000000 in
theorem w_fX9_see (C : Cx G p s m args meth c RX9 cX9_see 3 (some .int)) {b0 : Nat} {rx : Int32} {rw0 : Mem} : ∀ (v0 : Mem) (i1 : Int32) (i2 : Int32), fX9_see v0 i1 i2 = some (rx, rw0) → ∀ (H : Heap) (locs : List Loc) (ls : Array Slot), rg G b0 46 (shX9 G.2.1) v0 H → va_S (FA (iv b0 46) s.heap.size) s.heap H locs → H.size = s.heap.size → lv_has ls 3 [(0, .ref b0), (1, .int i1), (2, .int i2)] → W p l e (rmT 2 0 0 46) s m args below meth c H locs 0 0 (MQ below (QcT (FA (iv b0 46) s.heap.size) (fun ov H => ov = (some (.int rx)) ∧ rg G b0 46 (shX9 G.2.1) rw0 H ∧ H.size = s.heap.size)) args s 0 0 (FA (iv b0 46) s.heap.size)) (F0 m 0 ls []) := by
  intro v0 i1 i2 hm H locs ls hW0 hS hz hl
  obtain ⟨hx, hb, hr, hlk, hml, hown, hts, hK⟩ := id C
  unfold fX9_see at hm
  refine lv_iload_n (pc := 0) hx hb dX9_see_0 rfl (lv_at hl 1 rfl) ?_
  refine lv_iconst (pc := 1) (v := (-1 : Int32)) hx hb dX9_see_1 (by decide) ?_
  refine lv_icmp_ne (pc := 2) (tgt := 14) hx hb dX9_see_2 (by decide) (fun c1 => ?_) (fun c1 => ?_)
  · have hm := ite_f c1 hm
    refine lv_aload_n (pc := 14) hx hb dX9_see_14 rfl (lv_at hl 0 rfl) ?_
    refine lv_iload_n (pc := 15) hx hb dX9_see_15 rfl (lv_at hl 1 rfl) ?_
    obtain ⟨r2, hq3, hm⟩ := ob_some hm
    refine rk_PV (pc := 16) (As := [.int i1]) (rest := []) hx hb hml hown hts hK lkX9_110 rfl yn_X9_isPack (ct_X9_isPack (G := G) (l := l) (b0 := b0) hq3) ⟨Nat.le_of_ble_eq_true rfl, Nat.le_of_ble_eq_true rfl⟩ (rk_recv hK hW0 0 (by decide) rfl rfl rfl) (rg_take hW0 (by decide)) rfl rfl hl.1 (Nat.le_of_ble_eq_true rfl) dX9_see_16 ⟨Nat.zero_le _, Nat.zero_le _⟩ ?_
    refine W.eq (g2 := F0 m 19 ls [.int r2]) rfl ?_
    refine lv_if_ne (pc := 19) (tgt := 24) hx hb dX9_see_19 (by decide) (fun c4 => ?_) (fun c4 => ?_)
    · have hm := ite_f c4 hm
      refine lv_iload_n (pc := 24) hx hb dX9_see_24 rfl (lv_at hl 2 rfl) ?_
      refine lv_i2l (pc := 25) hx hb dX9_see_25 rfl ?_
      refine lv_lconst (pc := 26) (v := (0 : Int64)) hx hb dX9_see_26 (by decide) ?_
      refine lv_ldc2 (pc := 27) (v := (999 : Int64)) hx hb hown (hts _ q1941) dX9_see_27 ?_
      obtain ⟨r5, hq6, hm⟩ := ob_some hm
      refine rk_PS (pc := 30) (As := [.long i2.toInt64, .long (0 : Int64), .long (999 : Int64)]) (rest := []) hx hb hml hown hts hK lkX9_93 yn_X9_isIn (ct_X9_isIn (G := G) (l := l) hq6) ⟨Nat.le_of_ble_eq_true rfl, Nat.le_of_ble_eq_true rfl⟩ trivial rfl rfl hl.1 (Nat.le_of_ble_eq_true rfl) dX9_see_30 ⟨Nat.zero_le _, Nat.zero_le _⟩ ?_
      refine W.eq (g2 := F0 m 33 ls [.int r5]) rfl ?_
      refine lv_if_ne (pc := 33) (tgt := 39) hx hb dX9_see_33 (by decide) (fun c7 => ?_) (fun c7 => ?_)
      · have hm := ite_f c7 hm
        refine lv_aload_n (pc := 39) hx hb dX9_see_39 rfl (lv_at hl 0 rfl) ?_
        refine rk_get (pc := 40) hx hb hts hown hK hW0 flX9_11 0 (by decide) rfl rfl (x := .ref (b0 + 1)) (by first | rfl | exact congrArg (fun z => some (Value.ref z)) (by omega)) dX9_see_40 ?_
        refine lv_iconst (pc := 43) (v := (4 : Int32)) hx hb dX9_see_43 (by decide) ?_
        obtain ⟨hg8, hm⟩ := gb_some hm
        refine rk_iald (pc := 44) hx hb hK hW0 1 (by decide) rfl rfl hg8 (x := (gI v0 1 (4 : Int32).toNatClampNeg)) rfl dX9_see_44 ?_
        refine lv_iconst (pc := 45) (v := (5 : Int32)) hx hb dX9_see_45 (by decide) ?_
        refine lv_icmp_ne (pc := 46) (tgt := 52) hx hb dX9_see_46 (by decide) (fun c9 => ?_) (fun c9 => ?_)
        · have hm := ite_f c9 hm
          refine lv_aload_n (pc := 52) hx hb dX9_see_52 rfl (lv_at hl 0 rfl) ?_
          refine rk_get (pc := 53) hx hb hts hown hK hW0 flX9_11 0 (by decide) rfl rfl (x := .ref (b0 + 1)) (by first | rfl | exact congrArg (fun z => some (Value.ref z)) (by omega)) dX9_see_53 ?_
          refine lv_bipush (pc := 56) (v := (76 : Int32)) hx hb dX9_see_56 (by decide) ?_
          refine lv_iconst (pc := 58) (v := (2 : Int32)) hx hb dX9_see_58 (by decide) ?_
          refine lv_aload_n (pc := 59) hx hb dX9_see_59 rfl (lv_at hl 0 rfl) ?_
          refine rk_get (pc := 60) hx hb hts hown hK hW0 flX9_11 0 (by decide) rfl rfl (x := .ref (b0 + 1)) (by first | rfl | exact congrArg (fun z => some (Value.ref z)) (by omega)) dX9_see_60 ?_
          refine lv_iconst (pc := 63) (v := (4 : Int32)) hx hb dX9_see_63 (by decide) ?_
          obtain ⟨hg10, hm⟩ := gb_some hm
          refine rk_iald (pc := 64) hx hb hK hW0 1 (by decide) rfl rfl hg10 (x := (gI v0 1 (4 : Int32).toNatClampNeg)) rfl dX9_see_64 ?_
          refine lv_imul (pc := 65) hx hb dX9_see_65 ?_
          refine lv_iadd (pc := 66) hx hb dX9_see_66 ?_
          refine lv_iload_n (pc := 67) hx hb dX9_see_67 rfl (lv_at hl 1 rfl) ?_
          obtain ⟨hg11, hm⟩ := gb_some hm
          refine rk_iast (pc := 68) hx hb hK hW0 hS 1 (by decide) rfl (Or.inl (show iv _ _ _ from ⟨by omega, by omega⟩)) (fun _ _ _ => rfl) hg11 dX9_see_68 (fun H13 locs14 hW15 hS16 hz17 hkp18 => ?_)
          obtain ⟨v0_12, he9, hm⟩ := lm_some hm
          rw [he9] at hW15
          have hz19 := hz17.trans hz
          refine lv_aload_n (pc := 69) hx hb dX9_see_69 rfl (lv_at hl 0 rfl) ?_
          refine rk_get (pc := 70) hx hb hts hown hK hW15 flX9_11 0 (by decide) rfl rfl (x := .ref (b0 + 1)) (by first | rfl | exact congrArg (fun z => some (Value.ref z)) (by omega)) dX9_see_70 ?_
          refine lv_bipush (pc := 73) (v := (76 : Int32)) hx hb dX9_see_73 (by decide) ?_
          refine lv_iconst (pc := 75) (v := (2 : Int32)) hx hb dX9_see_75 (by decide) ?_
          refine lv_aload_n (pc := 76) hx hb dX9_see_76 rfl (lv_at hl 0 rfl) ?_
          refine rk_get (pc := 77) hx hb hts hown hK hW15 flX9_11 0 (by decide) rfl rfl (x := .ref (b0 + 1)) (by first | rfl | exact congrArg (fun z => some (Value.ref z)) (by omega)) dX9_see_77 ?_
          refine lv_iconst (pc := 80) (v := (4 : Int32)) hx hb dX9_see_80 (by decide) ?_
          obtain ⟨hg20, hm⟩ := gb_some hm
          refine rk_iald (pc := 81) hx hb hK hW15 1 (by decide) rfl rfl hg20 (x := (gI v0_12 1 (4 : Int32).toNatClampNeg)) rfl dX9_see_81 ?_
          refine lv_imul (pc := 82) hx hb dX9_see_82 ?_
          refine lv_iadd (pc := 83) hx hb dX9_see_83 ?_
          refine lv_iconst (pc := 84) (v := (1 : Int32)) hx hb dX9_see_84 (by decide) ?_
          refine lv_iadd (pc := 85) hx hb dX9_see_85 ?_
          refine lv_iload_n (pc := 86) hx hb dX9_see_86 rfl (lv_at hl 2 rfl) ?_
          obtain ⟨hg21, hm⟩ := gb_some hm
          refine rk_iast (pc := 87) hx hb hK hW15 hS16 1 (by decide) rfl (Or.inl (show iv _ _ _ from ⟨by omega, by omega⟩)) (fun _ _ _ => rfl) hg21 dX9_see_87 (fun H23 locs24 hW25 hS26 hz27 hkp28 => ?_)
          obtain ⟨v0_22, he9, hm⟩ := lm_some hm
          rw [he9] at hW25
          have hz29 := hz27.trans hz19
          refine lv_aload_n (pc := 88) hx hb dX9_see_88 rfl (lv_at hl 0 rfl) ?_
          refine rk_get (pc := 89) hx hb hts hown hK hW25 flX9_11 0 (by decide) rfl rfl (x := .ref (b0 + 1)) (by first | rfl | exact congrArg (fun z => some (Value.ref z)) (by omega)) dX9_see_89 ?_
          refine lv_iconst (pc := 92) (v := (4 : Int32)) hx hb dX9_see_92 (by decide) ?_
          refine lv_dup2_11 (pc := 93) hx hb dX9_see_93 rfl rfl ?_
          obtain ⟨hg30, hm⟩ := gb_some hm
          refine rk_iald (pc := 94) hx hb hK hW25 1 (by decide) rfl rfl hg30 (x := (gI v0_22 1 (4 : Int32).toNatClampNeg)) rfl dX9_see_94 ?_
          refine lv_iconst (pc := 95) (v := (1 : Int32)) hx hb dX9_see_95 (by decide) ?_
          refine lv_iadd (pc := 96) hx hb dX9_see_96 ?_
          obtain ⟨hg31, hm⟩ := gb_some hm
          refine rk_iast (pc := 97) hx hb hK hW25 hS26 1 (by decide) rfl (Or.inl (show iv _ _ _ from ⟨by omega, by omega⟩)) (fun _ _ _ => rfl) hg31 dX9_see_97 (fun H33 locs34 hW35 hS36 hz37 hkp38 => ?_)
          obtain ⟨v0_32, he9, hm⟩ := lm_some hm
          rw [he9] at hW35
          have hz39 := hz37.trans hz29
          refine lv_aload_n (pc := 98) hx hb dX9_see_98 rfl (lv_at hl 0 rfl) ?_
          refine rk_get (pc := 99) hx hb hts hown hK hW35 flX9_11 0 (by decide) rfl rfl (x := .ref (b0 + 1)) (by first | rfl | exact congrArg (fun z => some (Value.ref z)) (by omega)) dX9_see_99 ?_
          refine lv_iconst (pc := 102) (v := (4 : Int32)) hx hb dX9_see_102 (by decide) ?_
          obtain ⟨hg40, hm⟩ := gb_some hm
          refine rk_iald (pc := 103) hx hb hK hW35 1 (by decide) rfl rfl hg40 (x := (gI v0_32 1 (4 : Int32).toNatClampNeg)) rfl dX9_see_103 ?_
          obtain ⟨e8, e9⟩ := rs2 hm
          subst e8
          subst e9
          exact rk_iret (pc := 104) hx hb hr hlk hS36 ⟨rfl, hW35, hz39⟩ dX9_see_104
        · have hm := ite_t c9 hm
          refine lv_bipush (pc := 49) (v := (-4 : Int32)) hx hb dX9_see_49 (by decide) ?_
          obtain ⟨e8, e9⟩ := rs2 hm
          subst e8
          subst e9
          exact rk_iret (pc := 51) hx hb hr hlk hS ⟨rfl, hW0, hz⟩ dX9_see_51
      · have hm := ite_t c7 hm
        refine lv_bipush (pc := 36) (v := (-2 : Int32)) hx hb dX9_see_36 (by decide) ?_
        obtain ⟨e8, e9⟩ := rs2 hm
        subst e8
        subst e9
        exact rk_iret (pc := 38) hx hb hr hlk hS ⟨rfl, hW0, hz⟩ dX9_see_38
    · have hm := ite_t c4 hm
      refine lv_iconst (pc := 22) (v := (-1 : Int32)) hx hb dX9_see_22 (by decide) ?_
      obtain ⟨e8, e9⟩ := rs2 hm
      subst e8
      subst e9
      exact rk_iret (pc := 23) hx hb hr hlk hS ⟨rfl, hW0, hz⟩ dX9_see_23
  · have hm := ite_t c1 hm
    refine lv_aload_n (pc := 5) hx hb dX9_see_5 rfl (lv_at hl 0 rfl) ?_
    refine rk_get (pc := 6) hx hb hts hown hK hW0 flX9_11 0 (by decide) rfl rfl (x := .ref (b0 + 1)) (by first | rfl | exact congrArg (fun z => some (Value.ref z)) (by omega)) dX9_see_6 ?_
    refine lv_iconst (pc := 9) (v := (4 : Int32)) hx hb dX9_see_9 (by decide) ?_
    refine lv_iconst (pc := 10) (v := (0 : Int32)) hx hb dX9_see_10 (by decide) ?_
    obtain ⟨hg41, hm⟩ := gb_some hm
    refine rk_iast (pc := 11) hx hb hK hW0 hS 1 (by decide) rfl (Or.inl (show iv _ _ _ from ⟨by omega, by omega⟩)) (fun _ _ _ => rfl) hg41 dX9_see_11 (fun H43 locs44 hW45 hS46 hz47 hkp48 => ?_)
    obtain ⟨v0_42, he9, hm⟩ := lm_some hm
    rw [he9] at hW45
    have hz49 := hz47.trans hz
    refine lv_iconst (pc := 12) (v := (0 : Int32)) hx hb dX9_see_12 (by decide) ?_
    obtain ⟨e8, e9⟩ := rs2 hm
    subst e8
    subst e9
    exact rk_iret (pc := 13) hx hb hr hlk hS46 ⟨rfl, hW45, hz49⟩ dX9_see_13
set_option maxHeartbeats 4000000 in
theorem ct_X9_see {G : Gv} {l : Launch} {b0 : Nat} {v0 : Mem} {i1 : Int32} {i2 : Int32} {rx : Int32} {rw0 : Mem} {sz : Nat} (hm : fX9_see v0 i1 i2 = some (rx, rw0)) : CT G l yX9_see (ws_ yX9_see cX9_see 3 (some .int)) 2 0 0 46 [.ref b0, .int i1, .int i2] (iv b0 46) sz (fun H => rg G b0 46 (shX9 G.2.1) v0 H) (fun ov H => ov = (some (.int rx)) ∧ rg G b0 46 (shX9 G.2.1) rw0 H ∧ H.size = sz) := by
  refine Met.ofW (cc := cX9_see) (maxL := 3) (ret := (some .int)) (by decide +kernel) rfl ?_
  intro p e s m args below meth c s₁ B hml hv
  obtain ⟨rfl, ⟨hz, hW0⟩, hK⟩ := hv
  subst hz
  have hts := atoms_spec (ws := ws_ yX9_see cX9_see 3 (some .int)) B.pre
  have hts : ∀ w ∈ lw_all, w.before _ s = true := fun w h => hts w (List.mem_cons_of_mem _ h)
  have C : Cx G p s m _ meth c RX9 cX9_see 3 (some .int) := ⟨B.exec, B.bytes, B.returns, B.notSynchronized, hml, findClass_of_methodNamed B.named, hts, hK⟩
  have hl := lv_entry ([.ref b0, .int i1, .int i2]) (n := 3) (Nat.le_of_ble_eq_true rfl)
  rw [lg_entry_eq]
  generalize (lg_sl ([.ref b0, .int i1, .int i2]) ++ List.replicate (3 - (lg_sl ([.ref b0, .int i1, .int i2])).length) Slot.unset).toArray = ls at hl ⊢
  have hl : lv_has ls 3 [(0, .ref b0), (1, .int i1), (2, .int i2)] := hl
  exact w_fX9_see C _ _ _ hm s.heap [] ls hW0 va_S.rf rfl hl
noncomputable def fX9_isSeen_2 (V0 : Mem) (k2 : Int32 → Option (Int32)) (i1 : Int32) : Option (Int32) :=
  gb (inR (4 : Int32) 150) (
  if (gI V0 1 (4 : Int32).toNatClampNeg) ≤ i1 then (
  some (1 : Int32))
  else (
  gb (inR ((76 : Int32) + ((2 : Int32) * i1)) 150) (
  ob (fX9_amountIn V0 (shf V0 19) (gI V0 1 ((76 : Int32) + ((2 : Int32) * i1)).toNatClampNeg)) fun r4 =>
  gb (inR (((76 : Int32) + ((2 : Int32) * i1)) + (1 : Int32)) 150) (
  if r4 = ((gI V0 1 (((76 : Int32) + ((2 : Int32) * i1)) + (1 : Int32)).toNatClampNeg).toInt64 * (gL V0 19 13)) then (
  k2 (i1 + (1 : Int32)))
  else (
  some (0 : Int32))))))
noncomputable def fX9_isSeen (V0 : Mem) : Option (Int32) :=
  lq1 (fX9_isSeen_2 V0) FU (0 : Int32)
set_option maxHeartbeats 4000000 in
theorem w_fX9_isSeen_2 (C : Cx G p s m args meth c RX9 cX9_isSeen 2 (some .boolean)) {b0 : Nat} {V0 : Mem} {rx : Int32} (hW0 : rg G b0 46 (shX9 G.2.1) V0 s.heap) {k2 : Int32 → Option (Int32)} (hk2 : ∀ (i1 : Int32), k2 i1 = some rx → ∀ (ls : Array Slot), lv_has ls 2 [(0, .ref b0), (1, .int i1)] → W p l e (rmP 2 46) s m args below meth c s.heap [] 0 0 (MQ below (QcP (some (.int rx))) args s 0 0 (fun _ => False)) (F0 m 2 ls [])) : ∀ (i1 : Int32), fX9_isSeen_2 V0 k2 i1 = some rx → ∀ (ls : Array Slot), lv_has ls 2 [(0, .ref b0), (1, .int i1)] → W p l e (rmP 2 46) s m args below meth c s.heap [] 0 0 (MQ below (QcP (some (.int rx))) args s 0 0 (fun _ => False)) (F0 m 2 ls []) := by
  intro i1 hm ls hl
  obtain ⟨hx, hb, hr, hlk, hml, hown, hts, hK⟩ := id C
  unfold fX9_isSeen_2 at hm
  refine lv_iload_n (pc := 2) hx hb dX9_isSeen_2 rfl (lv_at hl 1 rfl) ?_
  refine lv_aload_n (pc := 3) hx hb dX9_isSeen_3 rfl (lv_at hl 0 rfl) ?_
  refine rk_get (pc := 4) hx hb hts hown hK hW0 flX9_11 0 (by decide) rfl rfl (x := .ref (b0 + 1)) (by first | rfl | exact congrArg (fun z => some (Value.ref z)) (by omega)) dX9_isSeen_4 ?_
  refine lv_iconst (pc := 7) (v := (4 : Int32)) hx hb dX9_isSeen_7 (by decide) ?_
  obtain ⟨hg1, hm⟩ := gb_some hm
  refine rk_iald (pc := 8) hx hb hK hW0 1 (by decide) rfl rfl hg1 (x := (gI V0 1 (4 : Int32).toNatClampNeg)) rfl dX9_isSeen_8 ?_
  refine lv_icmp_ge (pc := 9) (tgt := 65) hx hb dX9_isSeen_9 (by decide) (fun c2 => ?_) (fun c2 => ?_)
  · have hm := ite_t c2 hm
    refine lv_iconst (pc := 65) (v := (1 : Int32)) hx hb dX9_isSeen_65 (by decide) ?_
    have e9 := rs1 hm
    subst e9
    exact rk_zretP (pc := 66) hx hb hr hlk rfl rfl dX9_isSeen_66
  · have hm := ite_f c2 hm
    refine lv_aload_n (pc := 12) hx hb dX9_isSeen_12 rfl (lv_at hl 0 rfl) ?_
    refine lv_aload_n (pc := 13) hx hb dX9_isSeen_13 rfl (lv_at hl 0 rfl) ?_
    refine rk_get (pc := 14) hx hb hts hown hK hW0 flX9_34 0 (by decide) rfl rfl (x := .ref (b0 + 19)) (by first | rfl | exact congrArg (fun z => some (Value.ref z)) (by omega)) dX9_isSeen_14 ?_
    refine lv_aload_n (pc := 17) hx hb dX9_isSeen_17 rfl (lv_at hl 0 rfl) ?_
    refine rk_get (pc := 18) hx hb hts hown hK hW0 flX9_11 0 (by decide) rfl rfl (x := .ref (b0 + 1)) (by first | rfl | exact congrArg (fun z => some (Value.ref z)) (by omega)) dX9_isSeen_18 ?_
    refine lv_bipush (pc := 21) (v := (76 : Int32)) hx hb dX9_isSeen_21 (by decide) ?_
    refine lv_iconst (pc := 23) (v := (2 : Int32)) hx hb dX9_isSeen_23 (by decide) ?_
    refine lv_iload_n (pc := 24) hx hb dX9_isSeen_24 rfl (lv_at hl 1 rfl) ?_
    refine lv_imul (pc := 25) hx hb dX9_isSeen_25 ?_
    refine lv_iadd (pc := 26) hx hb dX9_isSeen_26 ?_
    obtain ⟨hg3, hm⟩ := gb_some hm
    refine rk_iald (pc := 27) hx hb hK hW0 1 (by decide) rfl rfl hg3 (x := (gI V0 1 ((76 : Int32) + ((2 : Int32) * i1)).toNatClampNeg)) rfl dX9_isSeen_27 ?_
    obtain ⟨r4, hq5, hm⟩ := ob_some hm
    refine rk_PV (pc := 28) (As := [.ref (b0 + 19), .int (gI V0 1 ((76 : Int32) + ((2 : Int32) * i1)).toNatClampNeg)]) (rest := []) hx hb hml hown hts hK lkX9_314 rfl yn_X9_amountIn (ct_X9_amountIn (G := G) (l := l) (b0 := b0) (b1 := (b0 + 19)) hq5) ⟨Nat.le_of_ble_eq_true rfl, Nat.le_of_ble_eq_true rfl⟩ (rk_recv hK hW0 0 (by decide) rfl rfl rfl) ⟨(rg_take hW0 (by decide)), (rg_sub hW0 rfl (by decide) (fun o ho x y z => shX9_n19 G.2.1 _ rfl o ho x y z))⟩ rfl rfl hl.1 (Nat.le_of_ble_eq_true rfl) dX9_isSeen_28 ⟨Nat.zero_le _, Nat.zero_le _⟩ ?_
    refine W.eq (g2 := F0 m 31 ls [.long r4]) rfl ?_
    refine lv_aload_n (pc := 31) hx hb dX9_isSeen_31 rfl (lv_at hl 0 rfl) ?_
    refine rk_get (pc := 32) hx hb hts hown hK hW0 flX9_11 0 (by decide) rfl rfl (x := .ref (b0 + 1)) (by first | rfl | exact congrArg (fun z => some (Value.ref z)) (by omega)) dX9_isSeen_32 ?_
    refine lv_bipush (pc := 35) (v := (76 : Int32)) hx hb dX9_isSeen_35 (by decide) ?_
    refine lv_iconst (pc := 37) (v := (2 : Int32)) hx hb dX9_isSeen_37 (by decide) ?_
    refine lv_iload_n (pc := 38) hx hb dX9_isSeen_38 rfl (lv_at hl 1 rfl) ?_
    refine lv_imul (pc := 39) hx hb dX9_isSeen_39 ?_
    refine lv_iadd (pc := 40) hx hb dX9_isSeen_40 ?_
    refine lv_iconst (pc := 41) (v := (1 : Int32)) hx hb dX9_isSeen_41 (by decide) ?_
    refine lv_iadd (pc := 42) hx hb dX9_isSeen_42 ?_
    obtain ⟨hg6, hm⟩ := gb_some hm
    refine rk_iald (pc := 43) hx hb hK hW0 1 (by decide) rfl rfl hg6 (x := (gI V0 1 (((76 : Int32) + ((2 : Int32) * i1)) + (1 : Int32)).toNatClampNeg)) rfl dX9_isSeen_43 ?_
    refine lv_i2l (pc := 44) hx hb dX9_isSeen_44 rfl ?_
    refine lv_aload_n (pc := 45) hx hb dX9_isSeen_45 rfl (lv_at hl 0 rfl) ?_
    refine rk_get (pc := 46) hx hb hts hown hK hW0 flX9_34 0 (by decide) rfl rfl (x := .ref (b0 + 19)) (by first | rfl | exact congrArg (fun z => some (Value.ref z)) (by omega)) dX9_isSeen_46 ?_
    refine rk_getN (pc := 49) hx hb hts hown hK hW0 fnX9_197 19 (by decide) rfl rfl (x := .long (gL V0 19 13)) rfl dX9_isSeen_49 ?_
    refine lv_lmul (pc := 52) hx hb dX9_isSeen_52 ?_
    refine rk_lcmp_eq (pc := 53) (tgt := 59) hx hb dX9_isSeen_53 rfl dX9_isSeen_54 (by decide) (fun c7 => ?_) (fun c7 => ?_)
    · have hm := ite_t c7 hm
      refine lv_iinc (pc := 59) (v := (i1 + (1 : Int32))) (lv' := [(1, .int (i1 + (1 : Int32))), (0, .ref b0)]) hx hb dX9_isSeen_59 hl (k := 1) rfl rfl (by decide) rfl (fun ls hl => ?_)
      refine lv_goto (pc := 62) (tgt := 2) hx hb dX9_isSeen_62 (by decide) ?_
      exact hk2 (i1 + (1 : Int32)) hm ls (lv_sub hl [1, 0] rfl)
    · have hm := ite_f c7 hm
      refine lv_iconst (pc := 57) (v := (0 : Int32)) hx hb dX9_isSeen_57 (by decide) ?_
      have e9 := rs1 hm
      subst e9
      exact rk_zretP (pc := 58) hx hb hr hlk rfl rfl dX9_isSeen_58
theorem w_fX9_isSeen_2_l (C : Cx G p s m args meth c RX9 cX9_isSeen 2 (some .boolean)) {b0 : Nat} {V0 : Mem} {rx : Int32} (hW0 : rg G b0 46 (shX9 G.2.1) V0 s.heap) : ∀ (n : Nat) (i1 : Int32), lq1 (fX9_isSeen_2 V0) n i1 = some rx → ∀ (ls : Array Slot), lv_has ls 2 [(0, .ref b0), (1, .int i1)] → W p l e (rmP 2 46) s m args below meth c s.heap [] 0 0 (MQ below (QcP (some (.int rx))) args s 0 0 (fun _ => False)) (F0 m 2 ls []) := by
  intro n
  induction n with
  | zero => intro i1 hm; exact (lq1_0 hm).elim
  | succ n ih => intro i1 hm; exact w_fX9_isSeen_2 C hW0 ih i1 (lq1_s hm)
set_option maxHeartbeats 4000000 in
theorem w_fX9_isSeen (C : Cx G p s m args meth c RX9 cX9_isSeen 2 (some .boolean)) {b0 : Nat} {V0 : Mem} {rx : Int32} (hW0 : rg G b0 46 (shX9 G.2.1) V0 s.heap) : fX9_isSeen V0 = some rx → ∀ (ls : Array Slot), lv_has ls 2 [(0, .ref b0)] → W p l e (rmP 2 46) s m args below meth c s.heap [] 0 0 (MQ below (QcP (some (.int rx))) args s 0 0 (fun _ => False)) (F0 m 0 ls []) := by
  intro hm ls hl
  obtain ⟨hx, hb, hr, hlk, hml, hown, hts, hK⟩ := id C
  unfold fX9_isSeen at hm
  refine lv_iconst (pc := 0) (v := (0 : Int32)) hx hb dX9_isSeen_0 (by decide) ?_
  refine lv_istore_n (pc := 1) (lv' := [(1, .int (0 : Int32)), (0, .ref b0)]) hx hb dX9_isSeen_1 rfl hl (by decide) rfl (fun ls hl => ?_)
  exact (w_fX9_isSeen_2_l C hW0 FU) (0 : Int32) hm ls (lv_sub hl [1, 0] rfl)
set_option maxHeartbeats 4000000 in
theorem ct_X9_isSeen {G : Gv} {l : Launch} {b0 : Nat} {V0 : Mem} {rx : Int32} (hm : fX9_isSeen V0  = some rx) : CP G l yX9_isSeen (ws_ yX9_isSeen cX9_isSeen 2 (some .boolean)) 2 46 [.ref b0] (fun H => rg G b0 46 (shX9 G.2.1) V0 H) (some (.int rx)) := by
  refine Met.ofW (cc := cX9_isSeen) (maxL := 2) (ret := (some .boolean)) (by decide +kernel) rfl ?_
  intro p e s m args below meth c s₁ B hml hv
  obtain ⟨rfl, hW0, hK⟩ := hv
  have hts := atoms_spec (ws := ws_ yX9_isSeen cX9_isSeen 2 (some .boolean)) B.pre
  have hts : ∀ w ∈ lw_all, w.before _ s = true := fun w h => hts w (List.mem_cons_of_mem _ h)
  have C : Cx G p s m _ meth c RX9 cX9_isSeen 2 (some .boolean) := ⟨B.exec, B.bytes, B.returns, B.notSynchronized, hml, findClass_of_methodNamed B.named, hts, hK⟩
  have hl := lv_entry ([.ref b0]) (n := 2) (Nat.le_of_ble_eq_true rfl)
  rw [lg_entry_eq]
  generalize (lg_sl ([.ref b0]) ++ List.replicate (2 - (lg_sl ([.ref b0])).length) Slot.unset).toArray = ls at hl ⊢
  have hl : lv_has ls 2 [(0, .ref b0)] := hl
  exact w_fX9_isSeen C hW0  hm ls hl
theorem yn_X9_isSeen : YN yX9_isSeen 0 := by
  unfold YN
  decide +kernel
theorem lkX9_406 : LV RX9 406 RX9 yX9_isSeen cX9_isSeen 2 (some .boolean) := ⟨q2275, q2277, qs104, q128, q2278⟩
noncomputable def fX9_fits_30 (k30 : Mem → Int32 → Int32 → Int32 → Int32 → Int32 → Option (Int32 × Mem)) (v0 : Mem) (i1 : Int32) (i2 : Int32) (i3 : Int32) (i4 : Int32) (i5 : Int32) : Option (Int32 × Mem) :=
  if i5 < 0 then (
  if i2 = 0 then (
  some (i3, v0))
  else (
  some (i4, v0)))
  else (
  ob2 (fX9_worthWith v0 i1 i5) fun r9 w10 =>
  if r9 < 0 then (
  k30 w10 i1 i2 i3 i4 (i5 + (-5 : Int32)))
  else (
  ob (fX9_isSeen w10) fun r21 =>
  if r21 = 0 then (
  k30 w10 i1 i2 i3 i4 (i5 + (-5 : Int32)))
  else (
  k30 w10 i1 i2 (i3 + (1 : Int32)) i5 (i5 + (-5 : Int32)))))
noncomputable def fX9_fits (v0 : Mem) (i1 : Int32) (i2 : Int32) : Option (Int32 × Mem) :=
  ob (fX9_isRule v0 i1) fun r1 =>
  if r1 = 0 then (
  some ((-1 : Int32), v0))
  else (
  ob (fX9_isIn i2.toInt64 (0 : Int64) (1 : Int64)) fun r4 =>
  if r4 = 0 then (
  some ((-1 : Int32), v0))
  else (
  lq6 (fX9_fits_30) FU v0 i1 i2 (0 : Int32) (-5 : Int32) (45 : Int32)))
set_option maxHeartbeats 4000000 in
theorem w_fX9_fits_30 (C : Cx G p s m args meth c RX9 cX9_fits 6 (some .int)) {b0 : Nat} {rx : Int32} {rw0 : Mem} {k30 : Mem → Int32 → Int32 → Int32 → Int32 → Int32 → Option (Int32 × Mem)} (hk30 : ∀ (v0 : Mem) (i1 : Int32) (i2 : Int32) (i3 : Int32) (i4 : Int32) (i5 : Int32), k30 v0 i1 i2 i3 i4 i5 = some (rx, rw0) → ∀ (H : Heap) (locs : List Loc) (ls : Array Slot), rg G b0 46 (shX9 G.2.1) v0 H → va_S (FA (iv b0 46) s.heap.size) s.heap H locs → H.size = s.heap.size → lv_has ls 6 [(0, .ref b0), (1, .int i1), (2, .int i2), (3, .int i3), (4, .int i4), (5, .int i5)] → W p l e (rmT 8 0 0 193) s m args below meth c H locs 0 0 (MQ below (QcT (FA (iv b0 46) s.heap.size) (fun ov H => ov = (some (.int rx)) ∧ rg G b0 46 (shX9 G.2.1) rw0 H ∧ H.size = s.heap.size)) args s 0 0 (FA (iv b0 46) s.heap.size)) (F0 m 30 ls [])) : ∀ (v0 : Mem) (i1 : Int32) (i2 : Int32) (i3 : Int32) (i4 : Int32) (i5 : Int32), fX9_fits_30 k30 v0 i1 i2 i3 i4 i5 = some (rx, rw0) → ∀ (H : Heap) (locs : List Loc) (ls : Array Slot), rg G b0 46 (shX9 G.2.1) v0 H → va_S (FA (iv b0 46) s.heap.size) s.heap H locs → H.size = s.heap.size → lv_has ls 6 [(0, .ref b0), (1, .int i1), (2, .int i2), (3, .int i3), (4, .int i4), (5, .int i5)] → W p l e (rmT 8 0 0 193) s m args below meth c H locs 0 0 (MQ below (QcT (FA (iv b0 46) s.heap.size) (fun ov H => ov = (some (.int rx)) ∧ rg G b0 46 (shX9 G.2.1) rw0 H ∧ H.size = s.heap.size)) args s 0 0 (FA (iv b0 46) s.heap.size)) (F0 m 30 ls []) := by
  intro v0 i1 i2 i3 i4 i5 hm H locs ls hW0 hS hz hl
  obtain ⟨hx, hb, hr, hlk, hml, hown, hts, hK⟩ := id C
  unfold fX9_fits_30 at hm
  refine lv_iload (pc := 30) hx hb dX9_fits_30 (lv_at hl 5 rfl) ?_
  refine lv_if_lt (pc := 32) (tgt := 68) hx hb dX9_fits_32 (by decide) (fun c7 => ?_) (fun c7 => ?_)
  · have hm := ite_t c7 hm
    refine lv_iload_n (pc := 68) hx hb dX9_fits_68 rfl (lv_at hl 2 rfl) ?_
    refine lv_if_ne (pc := 69) (tgt := 76) hx hb dX9_fits_69 (by decide) (fun c8 => ?_) (fun c8 => ?_)
    · have hm := ite_f c8 hm
      refine lv_iload (pc := 76) hx hb dX9_fits_76 (lv_at hl 4 rfl) ?_
      obtain ⟨e8, e9⟩ := rs2 hm
      subst e8
      subst e9
      exact rk_iret (pc := 78) hx hb hr hlk hS ⟨rfl, hW0, hz⟩ dX9_fits_78
    · have hm := ite_t c8 hm
      refine lv_iload_n (pc := 72) hx hb dX9_fits_72 rfl (lv_at hl 3 rfl) ?_
      refine lv_goto (pc := 73) (tgt := 78) hx hb dX9_fits_73 (by decide) ?_
      obtain ⟨e8, e9⟩ := rs2 hm
      subst e8
      subst e9
      exact rk_iret (pc := 78) hx hb hr hlk hS ⟨rfl, hW0, hz⟩ dX9_fits_78
  · have hm := ite_f c7 hm
    refine lv_aload_n (pc := 35) hx hb dX9_fits_35 rfl (lv_at hl 0 rfl) ?_
    refine lv_iload_n (pc := 36) hx hb dX9_fits_36 rfl (lv_at hl 1 rfl) ?_
    refine lv_iload (pc := 37) hx hb dX9_fits_37 (lv_at hl 5 rfl) ?_
    obtain ⟨r9, w10, hq11, hm⟩ := ob2_some hm
    refine rk_TV (pc := 39) (As := [.int i1, .int i5]) (rest := []) (mc := 0) (ms := 0) hx hb hml hown hts hK hS (fun q hq => FA_sz rfl q hq) lkX9_403 rfl yn_X9_worthWith (ct_X9_worthWith (G := G) (l := l) (b0 := b0) (sz := H.size) hq11) ⟨Nat.le_of_ble_eq_true rfl, Nat.le_of_ble_eq_true rfl⟩ (fun z h => Or.inl (show iv _ _ _ from ⟨by have h8 := h.1; have h9 := h.2; omega, by have h8 := h.1; have h9 := h.2; omega⟩)) (rk_recv hK hW0 0 (by decide) rfl rfl rfl) hW0 rfl rfl hl.1 (Nat.le_of_ble_eq_true rfl) dX9_fits_39 ⟨Nat.zero_le _, Nat.zero_le _⟩ (fun ov9 H12 locs13 hP14 hkp15 hS16 => ?_)
    obtain ⟨rfl, hW17, hz18⟩ := hP14
    have hz19 := hz18.trans hz
    refine W.eq (g2 := F0 m 42 ls [.int r9]) rfl ?_
    refine lv_if_lt (pc := 42) (tgt := 62) hx hb dX9_fits_42 (by decide) (fun c20 => ?_) (fun c20 => ?_)
    · have hm := ite_t c20 hm
      refine lv_iinc (pc := 62) (v := (i5 + (-5 : Int32))) (lv' := [(5, .int (i5 + (-5 : Int32))), (0, .ref b0), (1, .int i1), (2, .int i2), (3, .int i3), (4, .int i4)]) hx hb dX9_fits_62 hl (k := 5) rfl (congrArg (i5 + ·) (show Int32.ofInt (-5) = (-5 : Int32) by decide)) (by decide) rfl (fun ls hl => ?_)
      refine lv_goto (pc := 65) (tgt := 30) hx hb dX9_fits_65 (by decide) ?_
      exact hk30 w10 i1 i2 i3 i4 (i5 + (-5 : Int32)) hm H12 locs13 ls hW17 hS16 hz19 (lv_sub hl [1, 2, 3, 4, 5, 0] rfl)
    · have hm := ite_f c20 hm
      refine lv_aload_n (pc := 45) hx hb dX9_fits_45 rfl (lv_at hl 0 rfl) ?_
      obtain ⟨r21, hq22, hm⟩ := ob_some hm
      refine rk_PV (pc := 46) (As := []) (rest := []) hx hb hml hown hts hK lkX9_406 rfl yn_X9_isSeen (ct_X9_isSeen (G := G) (l := l) (b0 := b0) hq22) ⟨Nat.le_of_ble_eq_true rfl, Nat.le_of_ble_eq_true rfl⟩ (rk_recv hK hW17 0 (by decide) rfl rfl rfl) hW17 rfl rfl hl.1 (Nat.le_of_ble_eq_true rfl) dX9_fits_46 ⟨Nat.zero_le _, Nat.zero_le _⟩ ?_
      refine W.eq (g2 := F0 m 49 ls [.int r21]) rfl ?_
      refine lv_if_ne (pc := 49) (tgt := 55) hx hb dX9_fits_49 (by decide) (fun c23 => ?_) (fun c23 => ?_)
      · have hm := ite_f c23 hm
        refine lv_iinc (pc := 55) (v := (i3 + (1 : Int32))) (lv' := [(3, .int (i3 + (1 : Int32))), (0, .ref b0), (1, .int i1), (2, .int i2), (4, .int i4), (5, .int i5)]) hx hb dX9_fits_55 hl (k := 3) rfl rfl (by decide) rfl (fun ls hl => ?_)
        refine lv_iload (pc := 58) hx hb dX9_fits_58 (lv_at hl 5 rfl) ?_
        refine lv_istore (pc := 60) (lv' := [(4, .int i5), (3, .int (i3 + (1 : Int32))), (0, .ref b0), (1, .int i1), (2, .int i2), (5, .int i5)]) hx hb dX9_fits_60 hl (by decide) rfl (fun ls hl => ?_)
        refine lv_iinc (pc := 62) (v := (i5 + (-5 : Int32))) (lv' := [(5, .int (i5 + (-5 : Int32))), (4, .int i5), (3, .int (i3 + (1 : Int32))), (0, .ref b0), (1, .int i1), (2, .int i2)]) hx hb dX9_fits_62 hl (k := 5) rfl (congrArg (i5 + ·) (show Int32.ofInt (-5) = (-5 : Int32) by decide)) (by decide) rfl (fun ls hl => ?_)
        refine lv_goto (pc := 65) (tgt := 30) hx hb dX9_fits_65 (by decide) ?_
        exact hk30 w10 i1 i2 (i3 + (1 : Int32)) i5 (i5 + (-5 : Int32)) hm H12 locs13 ls hW17 hS16 hz19 (lv_sub hl [3, 4, 5, 2, 1, 0] rfl)
      · have hm := ite_t c23 hm
        refine lv_goto (pc := 52) (tgt := 62) hx hb dX9_fits_52 (by decide) ?_
        refine lv_iinc (pc := 62) (v := (i5 + (-5 : Int32))) (lv' := [(5, .int (i5 + (-5 : Int32))), (0, .ref b0), (1, .int i1), (2, .int i2), (3, .int i3), (4, .int i4)]) hx hb dX9_fits_62 hl (k := 5) rfl (congrArg (i5 + ·) (show Int32.ofInt (-5) = (-5 : Int32) by decide)) (by decide) rfl (fun ls hl => ?_)
        refine lv_goto (pc := 65) (tgt := 30) hx hb dX9_fits_65 (by decide) ?_
        exact hk30 w10 i1 i2 i3 i4 (i5 + (-5 : Int32)) hm H12 locs13 ls hW17 hS16 hz19 (lv_sub hl [1, 2, 3, 4, 5, 0] rfl)
theorem w_fX9_fits_30_l (C : Cx G p s m args meth c RX9 cX9_fits 6 (some .int)) {b0 : Nat} {rx : Int32} {rw0 : Mem} : ∀ (n : Nat) (v0 : Mem) (i1 : Int32) (i2 : Int32) (i3 : Int32) (i4 : Int32) (i5 : Int32), lq6 (fX9_fits_30) n v0 i1 i2 i3 i4 i5 = some (rx, rw0) → ∀ (H : Heap) (locs : List Loc) (ls : Array Slot), rg G b0 46 (shX9 G.2.1) v0 H → va_S (FA (iv b0 46) s.heap.size) s.heap H locs → H.size = s.heap.size → lv_has ls 6 [(0, .ref b0), (1, .int i1), (2, .int i2), (3, .int i3), (4, .int i4), (5, .int i5)] → W p l e (rmT 8 0 0 193) s m args below meth c H locs 0 0 (MQ below (QcT (FA (iv b0 46) s.heap.size) (fun ov H => ov = (some (.int rx)) ∧ rg G b0 46 (shX9 G.2.1) rw0 H ∧ H.size = s.heap.size)) args s 0 0 (FA (iv b0 46) s.heap.size)) (F0 m 30 ls []) := by
  intro n
  induction n with
  | zero => intro v0 i1 i2 i3 i4 i5 hm; exact (lq6_0 hm).elim
  | succ n ih => intro v0 i1 i2 i3 i4 i5 hm; exact w_fX9_fits_30 C ih v0 i1 i2 i3 i4 i5 (lq6_s hm)
set_option maxHeartbeats 4000000 in
theorem w_fX9_fits (C : Cx G p s m args meth c RX9 cX9_fits 6 (some .int)) {b0 : Nat} {rx : Int32} {rw0 : Mem} : ∀ (v0 : Mem) (i1 : Int32) (i2 : Int32), fX9_fits v0 i1 i2 = some (rx, rw0) → ∀ (H : Heap) (locs : List Loc) (ls : Array Slot), rg G b0 46 (shX9 G.2.1) v0 H → va_S (FA (iv b0 46) s.heap.size) s.heap H locs → H.size = s.heap.size → lv_has ls 6 [(0, .ref b0), (1, .int i1), (2, .int i2)] → W p l e (rmT 8 0 0 193) s m args below meth c H locs 0 0 (MQ below (QcT (FA (iv b0 46) s.heap.size) (fun ov H => ov = (some (.int rx)) ∧ rg G b0 46 (shX9 G.2.1) rw0 H ∧ H.size = s.heap.size)) args s 0 0 (FA (iv b0 46) s.heap.size)) (F0 m 0 ls []) := by
  intro v0 i1 i2 hm H locs ls hW0 hS hz hl
  obtain ⟨hx, hb, hr, hlk, hml, hown, hts, hK⟩ := id C
  unfold fX9_fits at hm
  refine lv_aload_n (pc := 0) hx hb dX9_fits_0 rfl (lv_at hl 0 rfl) ?_
  refine lv_iload_n (pc := 1) hx hb dX9_fits_1 rfl (lv_at hl 1 rfl) ?_
  obtain ⟨r1, hq2, hm⟩ := ob_some hm
  refine rk_PV (pc := 2) (As := [.int i1]) (rest := []) hx hb hml hown hts hK lkX9_124 rfl yn_X9_isRule (ct_X9_isRule (G := G) (l := l) (b0 := b0) hq2) ⟨Nat.le_of_ble_eq_true rfl, Nat.le_of_ble_eq_true rfl⟩ (rk_recv hK hW0 0 (by decide) rfl rfl rfl) (rg_take hW0 (by decide)) rfl rfl hl.1 (Nat.le_of_ble_eq_true rfl) dX9_fits_2 ⟨Nat.zero_le _, Nat.zero_le _⟩ ?_
  refine W.eq (g2 := F0 m 5 ls [.int r1]) rfl ?_
  refine lv_if_eq (pc := 5) (tgt := 18) hx hb dX9_fits_5 (by decide) (fun c3 => ?_) (fun c3 => ?_)
  · have hm := ite_t c3 hm
    refine lv_iconst (pc := 18) (v := (-1 : Int32)) hx hb dX9_fits_18 (by decide) ?_
    obtain ⟨e8, e9⟩ := rs2 hm
    subst e8
    subst e9
    exact rk_iret (pc := 19) hx hb hr hlk hS ⟨rfl, hW0, hz⟩ dX9_fits_19
  · have hm := ite_f c3 hm
    refine lv_iload_n (pc := 8) hx hb dX9_fits_8 rfl (lv_at hl 2 rfl) ?_
    refine lv_i2l (pc := 9) hx hb dX9_fits_9 rfl ?_
    refine lv_lconst (pc := 10) (v := (0 : Int64)) hx hb dX9_fits_10 (by decide) ?_
    refine lv_lconst (pc := 11) (v := (1 : Int64)) hx hb dX9_fits_11 (by decide) ?_
    obtain ⟨r4, hq5, hm⟩ := ob_some hm
    refine rk_PS (pc := 12) (As := [.long i2.toInt64, .long (0 : Int64), .long (1 : Int64)]) (rest := []) hx hb hml hown hts hK lkX9_93 yn_X9_isIn (ct_X9_isIn (G := G) (l := l) hq5) ⟨Nat.le_of_ble_eq_true rfl, Nat.le_of_ble_eq_true rfl⟩ trivial rfl rfl hl.1 (Nat.le_of_ble_eq_true rfl) dX9_fits_12 ⟨Nat.zero_le _, Nat.zero_le _⟩ ?_
    refine W.eq (g2 := F0 m 15 ls [.int r4]) rfl ?_
    refine lv_if_ne (pc := 15) (tgt := 20) hx hb dX9_fits_15 (by decide) (fun c6 => ?_) (fun c6 => ?_)
    · have hm := ite_f c6 hm
      refine lv_iconst (pc := 20) (v := (0 : Int32)) hx hb dX9_fits_20 (by decide) ?_
      refine lv_istore_n (pc := 21) (lv' := [(3, .int (0 : Int32)), (0, .ref b0), (1, .int i1), (2, .int i2)]) hx hb dX9_fits_21 rfl hl (by decide) rfl (fun ls hl => ?_)
      refine lv_bipush (pc := 22) (v := (-5 : Int32)) hx hb dX9_fits_22 (by decide) ?_
      refine lv_istore (pc := 24) (lv' := [(4, .int (-5 : Int32)), (3, .int (0 : Int32)), (0, .ref b0), (1, .int i1), (2, .int i2)]) hx hb dX9_fits_24 hl (by decide) rfl (fun ls hl => ?_)
      refine lv_bipush (pc := 26) (v := (45 : Int32)) hx hb dX9_fits_26 (by decide) ?_
      refine lv_istore (pc := 28) (lv' := [(5, .int (45 : Int32)), (4, .int (-5 : Int32)), (3, .int (0 : Int32)), (0, .ref b0), (1, .int i1), (2, .int i2)]) hx hb dX9_fits_28 hl (by decide) rfl (fun ls hl => ?_)
      exact (w_fX9_fits_30_l C FU) v0 i1 i2 (0 : Int32) (-5 : Int32) (45 : Int32) hm H locs ls hW0 hS hz (lv_sub hl [3, 4, 5, 2, 1, 0] rfl)
    · have hm := ite_t c6 hm
      refine lv_iconst (pc := 18) (v := (-1 : Int32)) hx hb dX9_fits_18 (by decide) ?_
      obtain ⟨e8, e9⟩ := rs2 hm
      subst e8
      subst e9
      exact rk_iret (pc := 19) hx hb hr hlk hS ⟨rfl, hW0, hz⟩ dX9_fits_19
set_option maxHeartbeats 4000000 in
theorem ct_X9_fits {G : Gv} {l : Launch} {b0 : Nat} {v0 : Mem} {i1 : Int32} {i2 : Int32} {rx : Int32} {rw0 : Mem} {sz : Nat} (hm : fX9_fits v0 i1 i2 = some (rx, rw0)) : CT G l yX9_fits (ws_ yX9_fits cX9_fits 6 (some .int)) 8 0 0 193 [.ref b0, .int i1, .int i2] (iv b0 46) sz (fun H => rg G b0 46 (shX9 G.2.1) v0 H) (fun ov H => ov = (some (.int rx)) ∧ rg G b0 46 (shX9 G.2.1) rw0 H ∧ H.size = sz) := by
  refine Met.ofW (cc := cX9_fits) (maxL := 6) (ret := (some .int)) (by decide +kernel) rfl ?_
  intro p e s m args below meth c s₁ B hml hv
  obtain ⟨rfl, ⟨hz, hW0⟩, hK⟩ := hv
  subst hz
  have hts := atoms_spec (ws := ws_ yX9_fits cX9_fits 6 (some .int)) B.pre
  have hts : ∀ w ∈ lw_all, w.before _ s = true := fun w h => hts w (List.mem_cons_of_mem _ h)
  have C : Cx G p s m _ meth c RX9 cX9_fits 6 (some .int) := ⟨B.exec, B.bytes, B.returns, B.notSynchronized, hml, findClass_of_methodNamed B.named, hts, hK⟩
  have hl := lv_entry ([.ref b0, .int i1, .int i2]) (n := 6) (Nat.le_of_ble_eq_true rfl)
  rw [lg_entry_eq]
  generalize (lg_sl ([.ref b0, .int i1, .int i2]) ++ List.replicate (6 - (lg_sl ([.ref b0, .int i1, .int i2])).length) Slot.unset).toArray = ls at hl ⊢
  have hl : lv_has ls 6 [(0, .ref b0), (1, .int i1), (2, .int i2)] := hl
  exact w_fX9_fits C _ _ _ hm s.heap [] ls hW0 va_S.rf rfl hl
noncomputable def fX9_odds_66 (k66 : Mem → Int32 → Int32 → Int32 → Int32 → Int32 → Int32 → Int32 → Option (Int64 × Mem)) (v0 : Mem) (i1 : Int32) (i2 : Int32) (i3 : Int32) (i4 : Int32) (i5 : Int32) (i6 : Int32) (i7 : Int32) : Option (Int64 × Mem) :=
  if i3 ≤ i7 then (
  ob (fX9_lowest i6.toInt64 i3.toInt64 i5) fun r16 =>
  some (r16, v0))
  else (
  ob2 (fX9_worthWith v0 i1 (i2 + i7)) fun r18 w19 =>
  ob (fX9_isIn r18.toInt64 (0 : Int64) i4.toInt64) fun r29 =>
  if r29 = 0 then (
  k66 w19 i1 i2 i3 i4 i5 (i6 + (0 : Int32)) (i7 + (1 : Int32)))
  else (
  k66 w19 i1 i2 i3 i4 i5 (i6 + (1 : Int32)) (i7 + (1 : Int32))))
noncomputable def fX9_odds (v0 : Mem) (i1 : Int32) (i2 : Int32) (i3 : Int32) (i4 : Int32) (i5 : Int32) : Option (Int64 × Mem) :=
  ob (fX9_isRule v0 i1) fun r1 =>
  if r1 = 0 then (
  some ((-9223372036854775808 : Int64), v0))
  else (
  ob (fX9_isIn i2.toInt64 (-99 : Int64) (999 : Int64)) fun r4 =>
  if r4 = 0 then (
  some ((-9223372036854775808 : Int64), v0))
  else (
  ob (fX9_isIn i3.toInt64 (1 : Int64) (8 : Int64)) fun r7 =>
  if r7 = 0 then (
  some ((-9223372036854775808 : Int64), v0))
  else (
  if (1000 : Int32) < (i2 + i3) then (
  some ((-9223372036854775808 : Int64), v0))
  else (
  if i4 < 0 then (
  some ((-9223372036854775808 : Int64), v0))
  else (
  ob (fX9_isPart i5) fun r12 =>
  if r12 = 0 then (
  some ((-9223372036854775808 : Int64), v0))
  else (
  lq8 (fX9_odds_66) FU v0 i1 i2 i3 i4 i5 (0 : Int32) (0 : Int32)))))))
set_option maxHeartbeats 4000000 in
theorem w_fX9_odds_66 (C : Cx G p s m args meth c RX9 cX9_odds 8 (some .long)) {b0 : Nat} {rx : Int64} {rw0 : Mem} {k66 : Mem → Int32 → Int32 → Int32 → Int32 → Int32 → Int32 → Int32 → Option (Int64 × Mem)} (hk66 : ∀ (v0 : Mem) (i1 : Int32) (i2 : Int32) (i3 : Int32) (i4 : Int32) (i5 : Int32) (i6 : Int32) (i7 : Int32), k66 v0 i1 i2 i3 i4 i5 i6 i7 = some (rx, rw0) → ∀ (H : Heap) (locs : List Loc) (ls : Array Slot), rg G b0 46 (shX9 G.2.1) v0 H → va_S (FA (iv b0 46) s.heap.size) s.heap H locs → H.size = s.heap.size → lv_has ls 8 [(0, .ref b0), (1, .int i1), (2, .int i2), (3, .int i3), (4, .int i4), (5, .int i5), (6, .int i6), (7, .int i7)] → W p l e (rmT 8 0 0 193) s m args below meth c H locs 0 0 (MQ below (QcT (FA (iv b0 46) s.heap.size) (fun ov H => ov = (some (.long rx)) ∧ rg G b0 46 (shX9 G.2.1) rw0 H ∧ H.size = s.heap.size)) args s 0 0 (FA (iv b0 46) s.heap.size)) (F0 m 66 ls [])) : ∀ (v0 : Mem) (i1 : Int32) (i2 : Int32) (i3 : Int32) (i4 : Int32) (i5 : Int32) (i6 : Int32) (i7 : Int32), fX9_odds_66 k66 v0 i1 i2 i3 i4 i5 i6 i7 = some (rx, rw0) → ∀ (H : Heap) (locs : List Loc) (ls : Array Slot), rg G b0 46 (shX9 G.2.1) v0 H → va_S (FA (iv b0 46) s.heap.size) s.heap H locs → H.size = s.heap.size → lv_has ls 8 [(0, .ref b0), (1, .int i1), (2, .int i2), (3, .int i3), (4, .int i4), (5, .int i5), (6, .int i6), (7, .int i7)] → W p l e (rmT 8 0 0 193) s m args below meth c H locs 0 0 (MQ below (QcT (FA (iv b0 46) s.heap.size) (fun ov H => ov = (some (.long rx)) ∧ rg G b0 46 (shX9 G.2.1) rw0 H ∧ H.size = s.heap.size)) args s 0 0 (FA (iv b0 46) s.heap.size)) (F0 m 66 ls []) := by
  intro v0 i1 i2 i3 i4 i5 i6 i7 hm H locs ls hW0 hS hz hl
  obtain ⟨hx, hb, hr, hlk, hml, hown, hts, hK⟩ := id C
  unfold fX9_odds_66 at hm
  refine lv_iload (pc := 66) hx hb dX9_odds_66 (lv_at hl 7 rfl) ?_
  refine lv_iload_n (pc := 68) hx hb dX9_odds_68 rfl (lv_at hl 3 rfl) ?_
  refine lv_icmp_ge (pc := 69) (tgt := 108) hx hb dX9_odds_69 (by decide) (fun c15 => ?_) (fun c15 => ?_)
  · have hm := ite_t c15 hm
    refine lv_iload (pc := 108) hx hb dX9_odds_108 (lv_at hl 6 rfl) ?_
    refine lv_i2l (pc := 110) hx hb dX9_odds_110 rfl ?_
    refine lv_iload_n (pc := 111) hx hb dX9_odds_111 rfl (lv_at hl 3 rfl) ?_
    refine lv_i2l (pc := 112) hx hb dX9_odds_112 rfl ?_
    refine lv_iload (pc := 113) hx hb dX9_odds_113 (lv_at hl 5 rfl) ?_
    obtain ⟨r16, hq17, hm⟩ := ob_some hm
    refine rk_PS (pc := 115) (As := [.long i6.toInt64, .long i3.toInt64, .int i5]) (rest := []) hx hb hml hown hts hK lkX9_317 yn_X9_lowest (ct_X9_lowest (G := G) (l := l) hq17) ⟨Nat.le_of_ble_eq_true rfl, Nat.le_of_ble_eq_true rfl⟩ trivial rfl rfl hl.1 (Nat.le_of_ble_eq_true rfl) dX9_odds_115 ⟨Nat.zero_le _, Nat.zero_le _⟩ ?_
    refine W.eq (g2 := F0 m 118 ls [.long r16]) rfl ?_
    obtain ⟨e8, e9⟩ := rs2 hm
    subst e8
    subst e9
    exact rk_lret (pc := 118) hx hb hr hlk hS ⟨rfl, hW0, hz⟩ dX9_odds_118
  · have hm := ite_f c15 hm
    refine lv_iload (pc := 72) hx hb dX9_odds_72 (lv_at hl 6 rfl) ?_
    refine lv_aload_n (pc := 74) hx hb dX9_odds_74 rfl (lv_at hl 0 rfl) ?_
    refine lv_iload_n (pc := 75) hx hb dX9_odds_75 rfl (lv_at hl 1 rfl) ?_
    refine lv_iload_n (pc := 76) hx hb dX9_odds_76 rfl (lv_at hl 2 rfl) ?_
    refine lv_iload (pc := 77) hx hb dX9_odds_77 (lv_at hl 7 rfl) ?_
    refine lv_iadd (pc := 79) hx hb dX9_odds_79 ?_
    obtain ⟨r18, w19, hq20, hm⟩ := ob2_some hm
    refine rk_TV (pc := 80) (As := [.int i1, .int (i2 + i7)]) (rest := [.int i6]) (mc := 0) (ms := 0) hx hb hml hown hts hK hS (fun q hq => FA_sz rfl q hq) lkX9_403 rfl yn_X9_worthWith (ct_X9_worthWith (G := G) (l := l) (b0 := b0) (sz := H.size) hq20) ⟨Nat.le_of_ble_eq_true rfl, Nat.le_of_ble_eq_true rfl⟩ (fun z h => Or.inl (show iv _ _ _ from ⟨by have h8 := h.1; have h9 := h.2; omega, by have h8 := h.1; have h9 := h.2; omega⟩)) (rk_recv hK hW0 0 (by decide) rfl rfl rfl) hW0 rfl rfl hl.1 (Nat.le_of_ble_eq_true rfl) dX9_odds_80 ⟨Nat.zero_le _, Nat.zero_le _⟩ (fun ov9 H21 locs22 hP23 hkp24 hS25 => ?_)
    obtain ⟨rfl, hW26, hz27⟩ := hP23
    have hz28 := hz27.trans hz
    refine W.eq (g2 := F0 m 83 ls [.int r18, .int i6]) rfl ?_
    refine lv_i2l (pc := 83) hx hb dX9_odds_83 rfl ?_
    refine lv_lconst (pc := 84) (v := (0 : Int64)) hx hb dX9_odds_84 (by decide) ?_
    refine lv_iload (pc := 85) hx hb dX9_odds_85 (lv_at hl 4 rfl) ?_
    refine lv_i2l (pc := 87) hx hb dX9_odds_87 rfl ?_
    obtain ⟨r29, hq30, hm⟩ := ob_some hm
    refine rk_PS (pc := 88) (As := [.long r18.toInt64, .long (0 : Int64), .long i4.toInt64]) (rest := [.int i6]) hx hb hml hown hts hK lkX9_93 yn_X9_isIn (ct_X9_isIn (G := G) (l := l) hq30) ⟨Nat.le_of_ble_eq_true rfl, Nat.le_of_ble_eq_true rfl⟩ trivial rfl rfl hl.1 (Nat.le_of_ble_eq_true rfl) dX9_odds_88 ⟨Nat.zero_le _, Nat.zero_le _⟩ ?_
    refine W.eq (g2 := F0 m 91 ls [.int r29, .int i6]) rfl ?_
    refine lv_if_eq (pc := 91) (tgt := 98) hx hb dX9_odds_91 (by decide) (fun c31 => ?_) (fun c31 => ?_)
    · have hm := ite_t c31 hm
      refine lv_iconst (pc := 98) (v := (0 : Int32)) hx hb dX9_odds_98 (by decide) ?_
      refine lv_iadd (pc := 99) hx hb dX9_odds_99 ?_
      refine lv_istore (pc := 100) (lv' := [(6, .int (i6 + (0 : Int32))), (0, .ref b0), (1, .int i1), (2, .int i2), (3, .int i3), (4, .int i4), (5, .int i5), (7, .int i7)]) hx hb dX9_odds_100 hl (by decide) rfl (fun ls hl => ?_)
      refine lv_iinc (pc := 102) (v := (i7 + (1 : Int32))) (lv' := [(7, .int (i7 + (1 : Int32))), (6, .int (i6 + (0 : Int32))), (0, .ref b0), (1, .int i1), (2, .int i2), (3, .int i3), (4, .int i4), (5, .int i5)]) hx hb dX9_odds_102 hl (k := 7) rfl rfl (by decide) rfl (fun ls hl => ?_)
      refine lv_goto (pc := 105) (tgt := 66) hx hb dX9_odds_105 (by decide) ?_
      exact hk66 w19 i1 i2 i3 i4 i5 (i6 + (0 : Int32)) (i7 + (1 : Int32)) hm H21 locs22 ls hW26 hS25 hz28 (lv_sub hl [2, 3, 4, 5, 6, 7, 1, 0] rfl)
    · have hm := ite_f c31 hm
      refine lv_iconst (pc := 94) (v := (1 : Int32)) hx hb dX9_odds_94 (by decide) ?_
      refine lv_goto (pc := 95) (tgt := 99) hx hb dX9_odds_95 (by decide) ?_
      refine lv_iadd (pc := 99) hx hb dX9_odds_99 ?_
      refine lv_istore (pc := 100) (lv' := [(6, .int (i6 + (1 : Int32))), (0, .ref b0), (1, .int i1), (2, .int i2), (3, .int i3), (4, .int i4), (5, .int i5), (7, .int i7)]) hx hb dX9_odds_100 hl (by decide) rfl (fun ls hl => ?_)
      refine lv_iinc (pc := 102) (v := (i7 + (1 : Int32))) (lv' := [(7, .int (i7 + (1 : Int32))), (6, .int (i6 + (1 : Int32))), (0, .ref b0), (1, .int i1), (2, .int i2), (3, .int i3), (4, .int i4), (5, .int i5)]) hx hb dX9_odds_102 hl (k := 7) rfl rfl (by decide) rfl (fun ls hl => ?_)
      refine lv_goto (pc := 105) (tgt := 66) hx hb dX9_odds_105 (by decide) ?_
      exact hk66 w19 i1 i2 i3 i4 i5 (i6 + (1 : Int32)) (i7 + (1 : Int32)) hm H21 locs22 ls hW26 hS25 hz28 (lv_sub hl [2, 3, 4, 5, 6, 7, 1, 0] rfl)
theorem w_fX9_odds_66_l (C : Cx G p s m args meth c RX9 cX9_odds 8 (some .long)) {b0 : Nat} {rx : Int64} {rw0 : Mem} : ∀ (n : Nat) (v0 : Mem) (i1 : Int32) (i2 : Int32) (i3 : Int32) (i4 : Int32) (i5 : Int32) (i6 : Int32) (i7 : Int32), lq8 (fX9_odds_66) n v0 i1 i2 i3 i4 i5 i6 i7 = some (rx, rw0) → ∀ (H : Heap) (locs : List Loc) (ls : Array Slot), rg G b0 46 (shX9 G.2.1) v0 H → va_S (FA (iv b0 46) s.heap.size) s.heap H locs → H.size = s.heap.size → lv_has ls 8 [(0, .ref b0), (1, .int i1), (2, .int i2), (3, .int i3), (4, .int i4), (5, .int i5), (6, .int i6), (7, .int i7)] → W p l e (rmT 8 0 0 193) s m args below meth c H locs 0 0 (MQ below (QcT (FA (iv b0 46) s.heap.size) (fun ov H => ov = (some (.long rx)) ∧ rg G b0 46 (shX9 G.2.1) rw0 H ∧ H.size = s.heap.size)) args s 0 0 (FA (iv b0 46) s.heap.size)) (F0 m 66 ls []) := by
  intro n
  induction n with
  | zero => intro v0 i1 i2 i3 i4 i5 i6 i7 hm; exact (lq8_0 hm).elim
  | succ n ih => intro v0 i1 i2 i3 i4 i5 i6 i7 hm; exact w_fX9_odds_66 C ih v0 i1 i2 i3 i4 i5 i6 i7 (lq8_s hm)
set_option maxHeartbeats 4000000 in
theorem w_fX9_odds (C : Cx G p s m args meth c RX9 cX9_odds 8 (some .long)) {b0 : Nat} {rx : Int64} {rw0 : Mem} : ∀ (v0 : Mem) (i1 : Int32) (i2 : Int32) (i3 : Int32) (i4 : Int32) (i5 : Int32), fX9_odds v0 i1 i2 i3 i4 i5 = some (rx, rw0) → ∀ (H : Heap) (locs : List Loc) (ls : Array Slot), rg G b0 46 (shX9 G.2.1) v0 H → va_S (FA (iv b0 46) s.heap.size) s.heap H locs → H.size = s.heap.size → lv_has ls 8 [(0, .ref b0), (1, .int i1), (2, .int i2), (3, .int i3), (4, .int i4), (5, .int i5)] → W p l e (rmT 8 0 0 193) s m args below meth c H locs 0 0 (MQ below (QcT (FA (iv b0 46) s.heap.size) (fun ov H => ov = (some (.long rx)) ∧ rg G b0 46 (shX9 G.2.1) rw0 H ∧ H.size = s.heap.size)) args s 0 0 (FA (iv b0 46) s.heap.size)) (F0 m 0 ls []) := by
  intro v0 i1 i2 i3 i4 i5 hm H locs ls hW0 hS hz hl
  obtain ⟨hx, hb, hr, hlk, hml, hown, hts, hK⟩ := id C
  unfold fX9_odds at hm
  refine lv_aload_n (pc := 0) hx hb dX9_odds_0 rfl (lv_at hl 0 rfl) ?_
  refine lv_iload_n (pc := 1) hx hb dX9_odds_1 rfl (lv_at hl 1 rfl) ?_
  obtain ⟨r1, hq2, hm⟩ := ob_some hm
  refine rk_PV (pc := 2) (As := [.int i1]) (rest := []) hx hb hml hown hts hK lkX9_124 rfl yn_X9_isRule (ct_X9_isRule (G := G) (l := l) (b0 := b0) hq2) ⟨Nat.le_of_ble_eq_true rfl, Nat.le_of_ble_eq_true rfl⟩ (rk_recv hK hW0 0 (by decide) rfl rfl rfl) (rg_take hW0 (by decide)) rfl rfl hl.1 (Nat.le_of_ble_eq_true rfl) dX9_odds_2 ⟨Nat.zero_le _, Nat.zero_le _⟩ ?_
  refine W.eq (g2 := F0 m 5 ls [.int r1]) rfl ?_
  refine lv_if_eq (pc := 5) (tgt := 56) hx hb dX9_odds_5 (by decide) (fun c3 => ?_) (fun c3 => ?_)
  · have hm := ite_t c3 hm
    refine lv_ldc2 (pc := 56) (v := (-9223372036854775808 : Int64)) hx hb hown (hts _ q2101) dX9_odds_56 ?_
    obtain ⟨e8, e9⟩ := rs2 hm
    subst e8
    subst e9
    exact rk_lret (pc := 59) hx hb hr hlk hS ⟨rfl, hW0, hz⟩ dX9_odds_59
  · have hm := ite_f c3 hm
    refine lv_iload_n (pc := 8) hx hb dX9_odds_8 rfl (lv_at hl 2 rfl) ?_
    refine lv_i2l (pc := 9) hx hb dX9_odds_9 rfl ?_
    refine lv_ldc2 (pc := 10) (v := (-99 : Int64)) hx hb hown (hts _ q1940) dX9_odds_10 ?_
    refine lv_ldc2 (pc := 13) (v := (999 : Int64)) hx hb hown (hts _ q1941) dX9_odds_13 ?_
    obtain ⟨r4, hq5, hm⟩ := ob_some hm
    refine rk_PS (pc := 16) (As := [.long i2.toInt64, .long (-99 : Int64), .long (999 : Int64)]) (rest := []) hx hb hml hown hts hK lkX9_93 yn_X9_isIn (ct_X9_isIn (G := G) (l := l) hq5) ⟨Nat.le_of_ble_eq_true rfl, Nat.le_of_ble_eq_true rfl⟩ trivial rfl rfl hl.1 (Nat.le_of_ble_eq_true rfl) dX9_odds_16 ⟨Nat.zero_le _, Nat.zero_le _⟩ ?_
    refine W.eq (g2 := F0 m 19 ls [.int r4]) rfl ?_
    refine lv_if_eq (pc := 19) (tgt := 56) hx hb dX9_odds_19 (by decide) (fun c6 => ?_) (fun c6 => ?_)
    · have hm := ite_t c6 hm
      refine lv_ldc2 (pc := 56) (v := (-9223372036854775808 : Int64)) hx hb hown (hts _ q2101) dX9_odds_56 ?_
      obtain ⟨e8, e9⟩ := rs2 hm
      subst e8
      subst e9
      exact rk_lret (pc := 59) hx hb hr hlk hS ⟨rfl, hW0, hz⟩ dX9_odds_59
    · have hm := ite_f c6 hm
      refine lv_iload_n (pc := 22) hx hb dX9_odds_22 rfl (lv_at hl 3 rfl) ?_
      refine lv_i2l (pc := 23) hx hb dX9_odds_23 rfl ?_
      refine lv_lconst (pc := 24) (v := (1 : Int64)) hx hb dX9_odds_24 (by decide) ?_
      refine lv_ldc2 (pc := 25) (v := (8 : Int64)) hx hb hown (hts _ q2283) dX9_odds_25 ?_
      obtain ⟨r7, hq8, hm⟩ := ob_some hm
      refine rk_PS (pc := 28) (As := [.long i3.toInt64, .long (1 : Int64), .long (8 : Int64)]) (rest := []) hx hb hml hown hts hK lkX9_93 yn_X9_isIn (ct_X9_isIn (G := G) (l := l) hq8) ⟨Nat.le_of_ble_eq_true rfl, Nat.le_of_ble_eq_true rfl⟩ trivial rfl rfl hl.1 (Nat.le_of_ble_eq_true rfl) dX9_odds_28 ⟨Nat.zero_le _, Nat.zero_le _⟩ ?_
      refine W.eq (g2 := F0 m 31 ls [.int r7]) rfl ?_
      refine lv_if_eq (pc := 31) (tgt := 56) hx hb dX9_odds_31 (by decide) (fun c9 => ?_) (fun c9 => ?_)
      · have hm := ite_t c9 hm
        refine lv_ldc2 (pc := 56) (v := (-9223372036854775808 : Int64)) hx hb hown (hts _ q2101) dX9_odds_56 ?_
        obtain ⟨e8, e9⟩ := rs2 hm
        subst e8
        subst e9
        exact rk_lret (pc := 59) hx hb hr hlk hS ⟨rfl, hW0, hz⟩ dX9_odds_59
      · have hm := ite_f c9 hm
        refine lv_iload_n (pc := 34) hx hb dX9_odds_34 rfl (lv_at hl 2 rfl) ?_
        refine lv_iload_n (pc := 35) hx hb dX9_odds_35 rfl (lv_at hl 3 rfl) ?_
        refine lv_iadd (pc := 36) hx hb dX9_odds_36 ?_
        refine lv_sipush (pc := 37) (v := (1000 : Int32)) hx hb dX9_odds_37 (by decide) ?_
        refine lv_icmp_gt (pc := 40) (tgt := 56) hx hb dX9_odds_40 (by decide) (fun c10 => ?_) (fun c10 => ?_)
        · have hm := ite_t c10 hm
          refine lv_ldc2 (pc := 56) (v := (-9223372036854775808 : Int64)) hx hb hown (hts _ q2101) dX9_odds_56 ?_
          obtain ⟨e8, e9⟩ := rs2 hm
          subst e8
          subst e9
          exact rk_lret (pc := 59) hx hb hr hlk hS ⟨rfl, hW0, hz⟩ dX9_odds_59
        · have hm := ite_f c10 hm
          refine lv_iload (pc := 43) hx hb dX9_odds_43 (lv_at hl 4 rfl) ?_
          refine lv_if_lt (pc := 45) (tgt := 56) hx hb dX9_odds_45 (by decide) (fun c11 => ?_) (fun c11 => ?_)
          · have hm := ite_t c11 hm
            refine lv_ldc2 (pc := 56) (v := (-9223372036854775808 : Int64)) hx hb hown (hts _ q2101) dX9_odds_56 ?_
            obtain ⟨e8, e9⟩ := rs2 hm
            subst e8
            subst e9
            exact rk_lret (pc := 59) hx hb hr hlk hS ⟨rfl, hW0, hz⟩ dX9_odds_59
          · have hm := ite_f c11 hm
            refine lv_iload (pc := 48) hx hb dX9_odds_48 (lv_at hl 5 rfl) ?_
            obtain ⟨r12, hq13, hm⟩ := ob_some hm
            refine rk_PS (pc := 50) (As := [.int i5]) (rest := []) hx hb hml hown hts hK lkX9_311 yn_X9_isPart (ct_X9_isPart (G := G) (l := l) hq13) ⟨Nat.le_of_ble_eq_true rfl, Nat.le_of_ble_eq_true rfl⟩ trivial rfl rfl hl.1 (Nat.le_of_ble_eq_true rfl) dX9_odds_50 ⟨Nat.zero_le _, Nat.zero_le _⟩ ?_
            refine W.eq (g2 := F0 m 53 ls [.int r12]) rfl ?_
            refine lv_if_ne (pc := 53) (tgt := 60) hx hb dX9_odds_53 (by decide) (fun c14 => ?_) (fun c14 => ?_)
            · have hm := ite_f c14 hm
              refine lv_iconst (pc := 60) (v := (0 : Int32)) hx hb dX9_odds_60 (by decide) ?_
              refine lv_istore (pc := 61) (lv' := [(6, .int (0 : Int32)), (0, .ref b0), (1, .int i1), (2, .int i2), (3, .int i3), (4, .int i4), (5, .int i5)]) hx hb dX9_odds_61 hl (by decide) rfl (fun ls hl => ?_)
              refine lv_iconst (pc := 63) (v := (0 : Int32)) hx hb dX9_odds_63 (by decide) ?_
              refine lv_istore (pc := 64) (lv' := [(7, .int (0 : Int32)), (6, .int (0 : Int32)), (0, .ref b0), (1, .int i1), (2, .int i2), (3, .int i3), (4, .int i4), (5, .int i5)]) hx hb dX9_odds_64 hl (by decide) rfl (fun ls hl => ?_)
              exact (w_fX9_odds_66_l C FU) v0 i1 i2 i3 i4 i5 (0 : Int32) (0 : Int32) hm H locs ls hW0 hS hz (lv_sub hl [2, 3, 4, 5, 6, 7, 1, 0] rfl)
            · have hm := ite_t c14 hm
              refine lv_ldc2 (pc := 56) (v := (-9223372036854775808 : Int64)) hx hb hown (hts _ q2101) dX9_odds_56 ?_
              obtain ⟨e8, e9⟩ := rs2 hm
              subst e8
              subst e9
              exact rk_lret (pc := 59) hx hb hr hlk hS ⟨rfl, hW0, hz⟩ dX9_odds_59
set_option maxHeartbeats 4000000 in
theorem ct_X9_odds {G : Gv} {l : Launch} {b0 : Nat} {v0 : Mem} {i1 : Int32} {i2 : Int32} {i3 : Int32} {i4 : Int32} {i5 : Int32} {rx : Int64} {rw0 : Mem} {sz : Nat} (hm : fX9_odds v0 i1 i2 i3 i4 i5 = some (rx, rw0)) : CT G l yX9_odds (ws_ yX9_odds cX9_odds 8 (some .long)) 8 0 0 193 [.ref b0, .int i1, .int i2, .int i3, .int i4, .int i5] (iv b0 46) sz (fun H => rg G b0 46 (shX9 G.2.1) v0 H) (fun ov H => ov = (some (.long rx)) ∧ rg G b0 46 (shX9 G.2.1) rw0 H ∧ H.size = sz) := by
  refine Met.ofW (cc := cX9_odds) (maxL := 8) (ret := (some .long)) (by decide +kernel) rfl ?_
  intro p e s m args below meth c s₁ B hml hv
  obtain ⟨rfl, ⟨hz, hW0⟩, hK⟩ := hv
  subst hz
  have hts := atoms_spec (ws := ws_ yX9_odds cX9_odds 8 (some .long)) B.pre
  have hts : ∀ w ∈ lw_all, w.before _ s = true := fun w h => hts w (List.mem_cons_of_mem _ h)
  have C : Cx G p s m _ meth c RX9 cX9_odds 8 (some .long) := ⟨B.exec, B.bytes, B.returns, B.notSynchronized, hml, findClass_of_methodNamed B.named, hts, hK⟩
  have hl := lv_entry ([.ref b0, .int i1, .int i2, .int i3, .int i4, .int i5]) (n := 8) (Nat.le_of_ble_eq_true rfl)
  rw [lg_entry_eq]
  generalize (lg_sl ([.ref b0, .int i1, .int i2, .int i3, .int i4, .int i5]) ++ List.replicate (8 - (lg_sl ([.ref b0, .int i1, .int i2, .int i3, .int i4, .int i5])).length) Slot.unset).toArray = ls at hl ⊢
  have hl : lv_has ls 8 [(0, .ref b0), (1, .int i1), (2, .int i2), (3, .int i3), (4, .int i4), (5, .int i5)] := hl
  exact w_fX9_odds C _ _ _ _ _ _ hm s.heap [] ls hW0 va_S.rf rfl hl
noncomputable def fX9_mean_15 (V0 : Mem) (k15 : Int32 → Int32 → Int32 → Option (Int64)) (i1 : Int32) (i2 : Int32) (i3 : Int32) : Option (Int64) :=
  ob (fX9_n V0) fun r4 =>
  if r4 ≤ i3 then (
  ob (fX9_n V0) fun r7 =>
  ob (fX9_lowest i2.toInt64 r7.toInt64 i1) fun r9 =>
  some r9)
  else (
  gb (inR ((7 : Int32) + i3) 150) (
  k15 i1 (i2 + (gI V0 1 ((7 : Int32) + i3).toNatClampNeg)) (i3 + (1 : Int32))))
noncomputable def fX9_mean (V0 : Mem) (i1 : Int32) : Option (Int64) :=
  ob (fX9_isPart i1) fun r1 =>
  if r1 = 0 then (
  some (-9223372036854775808 : Int64))
  else (
  lq3 (fX9_mean_15 V0) FU i1 (0 : Int32) (0 : Int32))
set_option maxHeartbeats 4000000 in
theorem w_fX9_mean_15 (C : Cx G p s m args meth c RX9 cX9_mean 4 (some .long)) {b0 : Nat} {V0 : Mem} {rx : Int64} (hW0 : rg G b0 46 (shX9 G.2.1) V0 s.heap) {k15 : Int32 → Int32 → Int32 → Option (Int64)} (hk15 : ∀ (i1 : Int32) (i2 : Int32) (i3 : Int32), k15 i1 i2 i3 = some rx → ∀ (ls : Array Slot), lv_has ls 4 [(0, .ref b0), (1, .int i1), (2, .int i2), (3, .int i3)] → W p l e (rmP 2 45) s m args below meth c s.heap [] 0 0 (MQ below (QcP (some (.long rx))) args s 0 0 (fun _ => False)) (F0 m 15 ls [])) : ∀ (i1 : Int32) (i2 : Int32) (i3 : Int32), fX9_mean_15 V0 k15 i1 i2 i3 = some rx → ∀ (ls : Array Slot), lv_has ls 4 [(0, .ref b0), (1, .int i1), (2, .int i2), (3, .int i3)] → W p l e (rmP 2 45) s m args below meth c s.heap [] 0 0 (MQ below (QcP (some (.long rx))) args s 0 0 (fun _ => False)) (F0 m 15 ls []) := by
  intro i1 i2 i3 hm ls hl
  obtain ⟨hx, hb, hr, hlk, hml, hown, hts, hK⟩ := id C
  unfold fX9_mean_15 at hm
  refine lv_iload_n (pc := 15) hx hb dX9_mean_15 rfl (lv_at hl 3 rfl) ?_
  refine lv_aload_n (pc := 16) hx hb dX9_mean_16 rfl (lv_at hl 0 rfl) ?_
  obtain ⟨r4, hq5, hm⟩ := ob_some hm
  refine rk_PV (pc := 17) (As := []) (rest := [.int i3]) hx hb hml hown hts hK lkX9_89 rfl yn_X9_n (ct_X9_n (G := G) (l := l) (b0 := b0) hq5) ⟨Nat.le_of_ble_eq_true rfl, Nat.le_of_ble_eq_true rfl⟩ (rk_recv hK hW0 0 (by decide) rfl rfl rfl) (rg_take hW0 (by decide)) rfl rfl hl.1 (Nat.le_of_ble_eq_true rfl) dX9_mean_17 ⟨Nat.zero_le _, Nat.zero_le _⟩ ?_
  refine W.eq (g2 := F0 m 20 ls [.int r4, .int i3]) rfl ?_
  refine lv_icmp_ge (pc := 20) (tgt := 41) hx hb dX9_mean_20 (by decide) (fun c6 => ?_) (fun c6 => ?_)
  · have hm := ite_t c6 hm
    refine lv_iload_n (pc := 41) hx hb dX9_mean_41 rfl (lv_at hl 2 rfl) ?_
    refine lv_i2l (pc := 42) hx hb dX9_mean_42 rfl ?_
    refine lv_aload_n (pc := 43) hx hb dX9_mean_43 rfl (lv_at hl 0 rfl) ?_
    obtain ⟨r7, hq8, hm⟩ := ob_some hm
    refine rk_PV (pc := 44) (As := []) (rest := [.long i2.toInt64]) hx hb hml hown hts hK lkX9_89 rfl yn_X9_n (ct_X9_n (G := G) (l := l) (b0 := b0) hq8) ⟨Nat.le_of_ble_eq_true rfl, Nat.le_of_ble_eq_true rfl⟩ (rk_recv hK hW0 0 (by decide) rfl rfl rfl) (rg_take hW0 (by decide)) rfl rfl hl.1 (Nat.le_of_ble_eq_true rfl) dX9_mean_44 ⟨Nat.zero_le _, Nat.zero_le _⟩ ?_
    refine W.eq (g2 := F0 m 47 ls [.int r7, .long i2.toInt64]) rfl ?_
    refine lv_i2l (pc := 47) hx hb dX9_mean_47 rfl ?_
    refine lv_iload_n (pc := 48) hx hb dX9_mean_48 rfl (lv_at hl 1 rfl) ?_
    obtain ⟨r9, hq10, hm⟩ := ob_some hm
    refine rk_PS (pc := 49) (As := [.long i2.toInt64, .long r7.toInt64, .int i1]) (rest := []) hx hb hml hown hts hK lkX9_317 yn_X9_lowest (ct_X9_lowest (G := G) (l := l) hq10) ⟨Nat.le_of_ble_eq_true rfl, Nat.le_of_ble_eq_true rfl⟩ trivial rfl rfl hl.1 (Nat.le_of_ble_eq_true rfl) dX9_mean_49 ⟨Nat.zero_le _, Nat.zero_le _⟩ ?_
    refine W.eq (g2 := F0 m 52 ls [.long r9]) rfl ?_
    have e9 := rs1 hm
    subst e9
    exact rk_lretP (pc := 52) hx hb hr hlk rfl dX9_mean_52
  · have hm := ite_f c6 hm
    refine lv_iload_n (pc := 23) hx hb dX9_mean_23 rfl (lv_at hl 2 rfl) ?_
    refine lv_aload_n (pc := 24) hx hb dX9_mean_24 rfl (lv_at hl 0 rfl) ?_
    refine rk_get (pc := 25) hx hb hts hown hK hW0 flX9_11 0 (by decide) rfl rfl (x := .ref (b0 + 1)) (by first | rfl | exact congrArg (fun z => some (Value.ref z)) (by omega)) dX9_mean_25 ?_
    refine lv_bipush (pc := 28) (v := (7 : Int32)) hx hb dX9_mean_28 (by decide) ?_
    refine lv_iload_n (pc := 30) hx hb dX9_mean_30 rfl (lv_at hl 3 rfl) ?_
    refine lv_iadd (pc := 31) hx hb dX9_mean_31 ?_
    obtain ⟨hg11, hm⟩ := gb_some hm
    refine rk_iald (pc := 32) hx hb hK hW0 1 (by decide) rfl rfl hg11 (x := (gI V0 1 ((7 : Int32) + i3).toNatClampNeg)) rfl dX9_mean_32 ?_
    refine lv_iadd (pc := 33) hx hb dX9_mean_33 ?_
    refine lv_istore_n (pc := 34) (lv' := [(2, .int (i2 + (gI V0 1 ((7 : Int32) + i3).toNatClampNeg))), (0, .ref b0), (1, .int i1), (3, .int i3)]) hx hb dX9_mean_34 rfl hl (by decide) rfl (fun ls hl => ?_)
    refine lv_iinc (pc := 35) (v := (i3 + (1 : Int32))) (lv' := [(3, .int (i3 + (1 : Int32))), (2, .int (i2 + (gI V0 1 ((7 : Int32) + i3).toNatClampNeg))), (0, .ref b0), (1, .int i1)]) hx hb dX9_mean_35 hl (k := 3) rfl rfl (by decide) rfl (fun ls hl => ?_)
    refine lv_goto (pc := 38) (tgt := 15) hx hb dX9_mean_38 (by decide) ?_
    exact hk15 i1 (i2 + (gI V0 1 ((7 : Int32) + i3).toNatClampNeg)) (i3 + (1 : Int32)) hm ls (lv_sub hl [2, 3, 1, 0] rfl)
theorem w_fX9_mean_15_l (C : Cx G p s m args meth c RX9 cX9_mean 4 (some .long)) {b0 : Nat} {V0 : Mem} {rx : Int64} (hW0 : rg G b0 46 (shX9 G.2.1) V0 s.heap) : ∀ (n : Nat) (i1 : Int32) (i2 : Int32) (i3 : Int32), lq3 (fX9_mean_15 V0) n i1 i2 i3 = some rx → ∀ (ls : Array Slot), lv_has ls 4 [(0, .ref b0), (1, .int i1), (2, .int i2), (3, .int i3)] → W p l e (rmP 2 45) s m args below meth c s.heap [] 0 0 (MQ below (QcP (some (.long rx))) args s 0 0 (fun _ => False)) (F0 m 15 ls []) := by
  intro n
  induction n with
  | zero => intro i1 i2 i3 hm; exact (lq3_0 hm).elim
  | succ n ih => intro i1 i2 i3 hm; exact w_fX9_mean_15 C hW0 ih i1 i2 i3 (lq3_s hm)
set_option maxHeartbeats 4000000 in
theorem w_fX9_mean (C : Cx G p s m args meth c RX9 cX9_mean 4 (some .long)) {b0 : Nat} {V0 : Mem} {rx : Int64} (hW0 : rg G b0 46 (shX9 G.2.1) V0 s.heap) : ∀ (i1 : Int32), fX9_mean V0 i1 = some rx → ∀ (ls : Array Slot), lv_has ls 4 [(0, .ref b0), (1, .int i1)] → W p l e (rmP 2 45) s m args below meth c s.heap [] 0 0 (MQ below (QcP (some (.long rx))) args s 0 0 (fun _ => False)) (F0 m 0 ls []) := by
  intro i1 hm ls hl
  obtain ⟨hx, hb, hr, hlk, hml, hown, hts, hK⟩ := id C
  unfold fX9_mean at hm
  refine lv_iload_n (pc := 0) hx hb dX9_mean_0 rfl (lv_at hl 1 rfl) ?_
  obtain ⟨r1, hq2, hm⟩ := ob_some hm
  refine rk_PS (pc := 1) (As := [.int i1]) (rest := []) hx hb hml hown hts hK lkX9_311 yn_X9_isPart (ct_X9_isPart (G := G) (l := l) hq2) ⟨Nat.le_of_ble_eq_true rfl, Nat.le_of_ble_eq_true rfl⟩ trivial rfl rfl hl.1 (Nat.le_of_ble_eq_true rfl) dX9_mean_1 ⟨Nat.zero_le _, Nat.zero_le _⟩ ?_
  refine W.eq (g2 := F0 m 4 ls [.int r1]) rfl ?_
  refine lv_if_ne (pc := 4) (tgt := 11) hx hb dX9_mean_4 (by decide) (fun c3 => ?_) (fun c3 => ?_)
  · have hm := ite_f c3 hm
    refine lv_iconst (pc := 11) (v := (0 : Int32)) hx hb dX9_mean_11 (by decide) ?_
    refine lv_istore_n (pc := 12) (lv' := [(2, .int (0 : Int32)), (0, .ref b0), (1, .int i1)]) hx hb dX9_mean_12 rfl hl (by decide) rfl (fun ls hl => ?_)
    refine lv_iconst (pc := 13) (v := (0 : Int32)) hx hb dX9_mean_13 (by decide) ?_
    refine lv_istore_n (pc := 14) (lv' := [(3, .int (0 : Int32)), (2, .int (0 : Int32)), (0, .ref b0), (1, .int i1)]) hx hb dX9_mean_14 rfl hl (by decide) rfl (fun ls hl => ?_)
    exact (w_fX9_mean_15_l C hW0 FU) i1 (0 : Int32) (0 : Int32) hm ls (lv_sub hl [2, 3, 1, 0] rfl)
  · have hm := ite_t c3 hm
    refine lv_ldc2 (pc := 7) (v := (-9223372036854775808 : Int64)) hx hb hown (hts _ q2101) dX9_mean_7 ?_
    have e9 := rs1 hm
    subst e9
    exact rk_lretP (pc := 10) hx hb hr hlk rfl dX9_mean_10
set_option maxHeartbeats 4000000 in
theorem ct_X9_mean {G : Gv} {l : Launch} {b0 : Nat} {V0 : Mem} {i1 : Int32} {rx : Int64} (hm : fX9_mean V0 i1 = some rx) : CP G l yX9_mean (ws_ yX9_mean cX9_mean 4 (some .long)) 2 45 [.ref b0, .int i1] (fun H => rg G b0 46 (shX9 G.2.1) V0 H) (some (.long rx)) := by
  refine Met.ofW (cc := cX9_mean) (maxL := 4) (ret := (some .long)) (by decide +kernel) rfl ?_
  intro p e s m args below meth c s₁ B hml hv
  obtain ⟨rfl, hW0, hK⟩ := hv
  have hts := atoms_spec (ws := ws_ yX9_mean cX9_mean 4 (some .long)) B.pre
  have hts : ∀ w ∈ lw_all, w.before _ s = true := fun w h => hts w (List.mem_cons_of_mem _ h)
  have C : Cx G p s m _ meth c RX9 cX9_mean 4 (some .long) := ⟨B.exec, B.bytes, B.returns, B.notSynchronized, hml, findClass_of_methodNamed B.named, hts, hK⟩
  have hl := lv_entry ([.ref b0, .int i1]) (n := 4) (Nat.le_of_ble_eq_true rfl)
  rw [lg_entry_eq]
  generalize (lg_sl ([.ref b0, .int i1]) ++ List.replicate (4 - (lg_sl ([.ref b0, .int i1])).length) Slot.unset).toArray = ls at hl ⊢
  have hl : lv_has ls 4 [(0, .ref b0), (1, .int i1)] := hl
  exact w_fX9_mean C hW0 _ hm ls hl
theorem flX9_18 : FL RX9 18 9 2 RX9 TX9 29 := ⟨in_X9, rfl, by decide, q1830⟩
noncomputable def fX9_lends_2 (k2 : Mem → Int32 → Option (Mem)) (v0 : Mem) (i1 : Int32) : Option (Mem) :=
  if (150 : Int32) ≤ i1 then (
  some v0)
  else (
  gb (inR i1 150) (
  gb (inR i1 150) (
  lm (sI v0 3 i1.toNatClampNeg (gI v0 1 i1.toNatClampNeg)) fun v0_4 =>
  k2 v0_4 (i1 + (1 : Int32)))))
noncomputable def fX9_lends (v0 : Mem) : Option (Mem) :=
  lq2 (fX9_lends_2) FU v0 (0 : Int32)
set_option maxHeartbeats 4000000 in
theorem w_fX9_lends_2 (C : Cx G p s m args meth c RX9 cX9_lends 2 none) {b0 : Nat} {rw0 : Mem} {k2 : Mem → Int32 → Option (Mem)} (hk2 : ∀ (v0 : Mem) (i1 : Int32), k2 v0 i1 = some rw0 → ∀ (H : Heap) (locs : List Loc) (ls : Array Slot), rg G b0 46 (shX9 G.2.1) v0 H → va_S (FA (iv b0 46) s.heap.size) s.heap H locs → H.size = s.heap.size → lv_has ls 2 [(0, .ref b0), (1, .int i1)] → W p l e (rmT 0 0 0 0) s m args below meth c H locs 0 0 (MQ below (QcT (FA (iv b0 46) s.heap.size) (fun ov H => ov = none ∧ rg G b0 46 (shX9 G.2.1) rw0 H ∧ H.size = s.heap.size)) args s 0 0 (FA (iv b0 46) s.heap.size)) (F0 m 2 ls [])) : ∀ (v0 : Mem) (i1 : Int32), fX9_lends_2 k2 v0 i1 = some rw0 → ∀ (H : Heap) (locs : List Loc) (ls : Array Slot), rg G b0 46 (shX9 G.2.1) v0 H → va_S (FA (iv b0 46) s.heap.size) s.heap H locs → H.size = s.heap.size → lv_has ls 2 [(0, .ref b0), (1, .int i1)] → W p l e (rmT 0 0 0 0) s m args below meth c H locs 0 0 (MQ below (QcT (FA (iv b0 46) s.heap.size) (fun ov H => ov = none ∧ rg G b0 46 (shX9 G.2.1) rw0 H ∧ H.size = s.heap.size)) args s 0 0 (FA (iv b0 46) s.heap.size)) (F0 m 2 ls []) := by
  intro v0 i1 hm H locs ls hW0 hS hz hl
  obtain ⟨hx, hb, hr, hlk, hml, hown, hts, hK⟩ := id C
  unfold fX9_lends_2 at hm
  refine lv_iload_n (pc := 2) hx hb dX9_lends_2 rfl (lv_at hl 1 rfl) ?_
  refine lv_sipush (pc := 3) (v := (150 : Int32)) hx hb dX9_lends_3 (by decide) ?_
  refine lv_icmp_ge (pc := 6) (tgt := 27) hx hb dX9_lends_6 (by decide) (fun c1 => ?_) (fun c1 => ?_)
  · have hm := ite_t c1 hm
    have e9 := rs1 hm
    subst e9
    exact rk_vret (pc := 27) hx hb hr hlk hS ⟨rfl, hW0, hz⟩ dX9_lends_27
  · have hm := ite_f c1 hm
    refine lv_aload_n (pc := 9) hx hb dX9_lends_9 rfl (lv_at hl 0 rfl) ?_
    refine rk_get (pc := 10) hx hb hts hown hK hW0 flX9_18 0 (by decide) rfl rfl (x := .ref (b0 + 3)) (by first | rfl | exact congrArg (fun z => some (Value.ref z)) (by omega)) dX9_lends_10 ?_
    refine lv_iload_n (pc := 13) hx hb dX9_lends_13 rfl (lv_at hl 1 rfl) ?_
    refine lv_aload_n (pc := 14) hx hb dX9_lends_14 rfl (lv_at hl 0 rfl) ?_
    refine rk_get (pc := 15) hx hb hts hown hK hW0 flX9_11 0 (by decide) rfl rfl (x := .ref (b0 + 1)) (by first | rfl | exact congrArg (fun z => some (Value.ref z)) (by omega)) dX9_lends_15 ?_
    refine lv_iload_n (pc := 18) hx hb dX9_lends_18 rfl (lv_at hl 1 rfl) ?_
    obtain ⟨hg2, hm⟩ := gb_some hm
    refine rk_iald (pc := 19) hx hb hK hW0 1 (by decide) rfl rfl hg2 (x := (gI v0 1 i1.toNatClampNeg)) rfl dX9_lends_19 ?_
    obtain ⟨hg3, hm⟩ := gb_some hm
    refine rk_iast (pc := 20) hx hb hK hW0 hS 3 (by decide) rfl (Or.inl (show iv _ _ _ from ⟨by omega, by omega⟩)) (fun _ _ _ => rfl) hg3 dX9_lends_20 (fun H5 locs6 hW7 hS8 hz9 hkp10 => ?_)
    obtain ⟨v0_4, he9, hm⟩ := lm_some hm
    rw [he9] at hW7
    have hz11 := hz9.trans hz
    refine lv_iinc (pc := 21) (v := (i1 + (1 : Int32))) (lv' := [(1, .int (i1 + (1 : Int32))), (0, .ref b0)]) hx hb dX9_lends_21 hl (k := 1) rfl rfl (by decide) rfl (fun ls hl => ?_)
    refine lv_goto (pc := 24) (tgt := 2) hx hb dX9_lends_24 (by decide) ?_
    exact hk2 v0_4 (i1 + (1 : Int32)) hm H5 locs6 ls hW7 hS8 hz11 (lv_sub hl [1, 0] rfl)
theorem w_fX9_lends_2_l (C : Cx G p s m args meth c RX9 cX9_lends 2 none) {b0 : Nat} {rw0 : Mem} : ∀ (n : Nat) (v0 : Mem) (i1 : Int32), lq2 (fX9_lends_2) n v0 i1 = some rw0 → ∀ (H : Heap) (locs : List Loc) (ls : Array Slot), rg G b0 46 (shX9 G.2.1) v0 H → va_S (FA (iv b0 46) s.heap.size) s.heap H locs → H.size = s.heap.size → lv_has ls 2 [(0, .ref b0), (1, .int i1)] → W p l e (rmT 0 0 0 0) s m args below meth c H locs 0 0 (MQ below (QcT (FA (iv b0 46) s.heap.size) (fun ov H => ov = none ∧ rg G b0 46 (shX9 G.2.1) rw0 H ∧ H.size = s.heap.size)) args s 0 0 (FA (iv b0 46) s.heap.size)) (F0 m 2 ls []) := by
  intro n
  induction n with
  | zero => intro v0 i1 hm; exact (lq2_0 hm).elim
  | succ n ih => intro v0 i1 hm; exact w_fX9_lends_2 C ih v0 i1 (lq2_s hm)
set_option maxHeartbeats 4000000 in
theorem w_fX9_lends (C : Cx G p s m args meth c RX9 cX9_lends 2 none) {b0 : Nat} {rw0 : Mem} : ∀ (v0 : Mem), fX9_lends v0 = some rw0 → ∀ (H : Heap) (locs : List Loc) (ls : Array Slot), rg G b0 46 (shX9 G.2.1) v0 H → va_S (FA (iv b0 46) s.heap.size) s.heap H locs → H.size = s.heap.size → lv_has ls 2 [(0, .ref b0)] → W p l e (rmT 0 0 0 0) s m args below meth c H locs 0 0 (MQ below (QcT (FA (iv b0 46) s.heap.size) (fun ov H => ov = none ∧ rg G b0 46 (shX9 G.2.1) rw0 H ∧ H.size = s.heap.size)) args s 0 0 (FA (iv b0 46) s.heap.size)) (F0 m 0 ls []) := by
  intro v0 hm H locs ls hW0 hS hz hl
  obtain ⟨hx, hb, hr, hlk, hml, hown, hts, hK⟩ := id C
  unfold fX9_lends at hm
  refine lv_iconst (pc := 0) (v := (0 : Int32)) hx hb dX9_lends_0 (by decide) ?_
  refine lv_istore_n (pc := 1) (lv' := [(1, .int (0 : Int32)), (0, .ref b0)]) hx hb dX9_lends_1 rfl hl (by decide) rfl (fun ls hl => ?_)
  exact (w_fX9_lends_2_l C FU) v0 (0 : Int32) hm H locs ls hW0 hS hz (lv_sub hl [1, 0] rfl)
set_option maxHeartbeats 4000000 in
theorem ct_X9_lends {G : Gv} {l : Launch} {b0 : Nat} {v0 : Mem} {rw0 : Mem} {sz : Nat} (hm : fX9_lends v0 = some rw0) : CT G l yX9_lends (ws_ yX9_lends cX9_lends 2 none) 0 0 0 0 [.ref b0] (iv b0 46) sz (fun H => rg G b0 46 (shX9 G.2.1) v0 H) (fun ov H => ov = none ∧ rg G b0 46 (shX9 G.2.1) rw0 H ∧ H.size = sz) := by
  refine Met.ofW (cc := cX9_lends) (maxL := 2) (ret := none) (by decide +kernel) rfl ?_
  intro p e s m args below meth c s₁ B hml hv
  obtain ⟨rfl, ⟨hz, hW0⟩, hK⟩ := hv
  subst hz
  have hts := atoms_spec (ws := ws_ yX9_lends cX9_lends 2 none) B.pre
  have hts : ∀ w ∈ lw_all, w.before _ s = true := fun w h => hts w (List.mem_cons_of_mem _ h)
  have C : Cx G p s m _ meth c RX9 cX9_lends 2 none := ⟨B.exec, B.bytes, B.returns, B.notSynchronized, hml, findClass_of_methodNamed B.named, hts, hK⟩
  have hl := lv_entry ([.ref b0]) (n := 2) (Nat.le_of_ble_eq_true rfl)
  rw [lg_entry_eq]
  generalize (lg_sl ([.ref b0]) ++ List.replicate (2 - (lg_sl ([.ref b0])).length) Slot.unset).toArray = ls at hl ⊢
  have hl : lv_has ls 2 [(0, .ref b0)] := hl
  exact w_fX9_lends C _ hm s.heap [] ls hW0 va_S.rf rfl hl
noncomputable def fX9_takesBack_2 (k2 : Mem → Int32 → Option (Mem)) (v0 : Mem) (i1 : Int32) : Option (Mem) :=
  if (150 : Int32) ≤ i1 then (
  some v0)
  else (
  gb (inR i1 150) (
  gb (inR i1 150) (
  lm (sI v0 1 i1.toNatClampNeg (gI v0 3 i1.toNatClampNeg)) fun v0_4 =>
  k2 v0_4 (i1 + (1 : Int32)))))
noncomputable def fX9_takesBack (v0 : Mem) : Option (Mem) :=
  lq2 (fX9_takesBack_2) FU v0 (0 : Int32)
set_option maxHeartbeats 4000000 in
theorem w_fX9_takesBack_2 (C : Cx G p s m args meth c RX9 cX9_takesBack 2 none) {b0 : Nat} {rw0 : Mem} {k2 : Mem → Int32 → Option (Mem)} (hk2 : ∀ (v0 : Mem) (i1 : Int32), k2 v0 i1 = some rw0 → ∀ (H : Heap) (locs : List Loc) (ls : Array Slot), rg G b0 46 (shX9 G.2.1) v0 H → va_S (FA (iv b0 46) s.heap.size) s.heap H locs → H.size = s.heap.size → lv_has ls 2 [(0, .ref b0), (1, .int i1)] → W p l e (rmT 0 0 0 0) s m args below meth c H locs 0 0 (MQ below (QcT (FA (iv b0 46) s.heap.size) (fun ov H => ov = none ∧ rg G b0 46 (shX9 G.2.1) rw0 H ∧ H.size = s.heap.size)) args s 0 0 (FA (iv b0 46) s.heap.size)) (F0 m 2 ls [])) : ∀ (v0 : Mem) (i1 : Int32), fX9_takesBack_2 k2 v0 i1 = some rw0 → ∀ (H : Heap) (locs : List Loc) (ls : Array Slot), rg G b0 46 (shX9 G.2.1) v0 H → va_S (FA (iv b0 46) s.heap.size) s.heap H locs → H.size = s.heap.size → lv_has ls 2 [(0, .ref b0), (1, .int i1)] → W p l e (rmT 0 0 0 0) s m args below meth c H locs 0 0 (MQ below (QcT (FA (iv b0 46) s.heap.size) (fun ov H => ov = none ∧ rg G b0 46 (shX9 G.2.1) rw0 H ∧ H.size = s.heap.size)) args s 0 0 (FA (iv b0 46) s.heap.size)) (F0 m 2 ls []) := by
  intro v0 i1 hm H locs ls hW0 hS hz hl
  obtain ⟨hx, hb, hr, hlk, hml, hown, hts, hK⟩ := id C
  unfold fX9_takesBack_2 at hm
  refine lv_iload_n (pc := 2) hx hb dX9_takesBack_2 rfl (lv_at hl 1 rfl) ?_
  refine lv_sipush (pc := 3) (v := (150 : Int32)) hx hb dX9_takesBack_3 (by decide) ?_
  refine lv_icmp_ge (pc := 6) (tgt := 27) hx hb dX9_takesBack_6 (by decide) (fun c1 => ?_) (fun c1 => ?_)
  · have hm := ite_t c1 hm
    have e9 := rs1 hm
    subst e9
    exact rk_vret (pc := 27) hx hb hr hlk hS ⟨rfl, hW0, hz⟩ dX9_takesBack_27
  · have hm := ite_f c1 hm
    refine lv_aload_n (pc := 9) hx hb dX9_takesBack_9 rfl (lv_at hl 0 rfl) ?_
    refine rk_get (pc := 10) hx hb hts hown hK hW0 flX9_11 0 (by decide) rfl rfl (x := .ref (b0 + 1)) (by first | rfl | exact congrArg (fun z => some (Value.ref z)) (by omega)) dX9_takesBack_10 ?_
    refine lv_iload_n (pc := 13) hx hb dX9_takesBack_13 rfl (lv_at hl 1 rfl) ?_
    refine lv_aload_n (pc := 14) hx hb dX9_takesBack_14 rfl (lv_at hl 0 rfl) ?_
    refine rk_get (pc := 15) hx hb hts hown hK hW0 flX9_18 0 (by decide) rfl rfl (x := .ref (b0 + 3)) (by first | rfl | exact congrArg (fun z => some (Value.ref z)) (by omega)) dX9_takesBack_15 ?_
    refine lv_iload_n (pc := 18) hx hb dX9_takesBack_18 rfl (lv_at hl 1 rfl) ?_
    obtain ⟨hg2, hm⟩ := gb_some hm
    refine rk_iald (pc := 19) hx hb hK hW0 3 (by decide) rfl rfl hg2 (x := (gI v0 3 i1.toNatClampNeg)) rfl dX9_takesBack_19 ?_
    obtain ⟨hg3, hm⟩ := gb_some hm
    refine rk_iast (pc := 20) hx hb hK hW0 hS 1 (by decide) rfl (Or.inl (show iv _ _ _ from ⟨by omega, by omega⟩)) (fun _ _ _ => rfl) hg3 dX9_takesBack_20 (fun H5 locs6 hW7 hS8 hz9 hkp10 => ?_)
    obtain ⟨v0_4, he9, hm⟩ := lm_some hm
    rw [he9] at hW7
    have hz11 := hz9.trans hz
    refine lv_iinc (pc := 21) (v := (i1 + (1 : Int32))) (lv' := [(1, .int (i1 + (1 : Int32))), (0, .ref b0)]) hx hb dX9_takesBack_21 hl (k := 1) rfl rfl (by decide) rfl (fun ls hl => ?_)
    refine lv_goto (pc := 24) (tgt := 2) hx hb dX9_takesBack_24 (by decide) ?_
    exact hk2 v0_4 (i1 + (1 : Int32)) hm H5 locs6 ls hW7 hS8 hz11 (lv_sub hl [1, 0] rfl)
theorem w_fX9_takesBack_2_l (C : Cx G p s m args meth c RX9 cX9_takesBack 2 none) {b0 : Nat} {rw0 : Mem} : ∀ (n : Nat) (v0 : Mem) (i1 : Int32), lq2 (fX9_takesBack_2) n v0 i1 = some rw0 → ∀ (H : Heap) (locs : List Loc) (ls : Array Slot), rg G b0 46 (shX9 G.2.1) v0 H → va_S (FA (iv b0 46) s.heap.size) s.heap H locs → H.size = s.heap.size → lv_has ls 2 [(0, .ref b0), (1, .int i1)] → W p l e (rmT 0 0 0 0) s m args below meth c H locs 0 0 (MQ below (QcT (FA (iv b0 46) s.heap.size) (fun ov H => ov = none ∧ rg G b0 46 (shX9 G.2.1) rw0 H ∧ H.size = s.heap.size)) args s 0 0 (FA (iv b0 46) s.heap.size)) (F0 m 2 ls []) := by
  intro n
  induction n with
  | zero => intro v0 i1 hm; exact (lq2_0 hm).elim
  | succ n ih => intro v0 i1 hm; exact w_fX9_takesBack_2 C ih v0 i1 (lq2_s hm)
set_option maxHeartbeats 4000000 in
theorem w_fX9_takesBack (C : Cx G p s m args meth c RX9 cX9_takesBack 2 none) {b0 : Nat} {rw0 : Mem} : ∀ (v0 : Mem), fX9_takesBack v0 = some rw0 → ∀ (H : Heap) (locs : List Loc) (ls : Array Slot), rg G b0 46 (shX9 G.2.1) v0 H → va_S (FA (iv b0 46) s.heap.size) s.heap H locs → H.size = s.heap.size → lv_has ls 2 [(0, .ref b0)] → W p l e (rmT 0 0 0 0) s m args below meth c H locs 0 0 (MQ below (QcT (FA (iv b0 46) s.heap.size) (fun ov H => ov = none ∧ rg G b0 46 (shX9 G.2.1) rw0 H ∧ H.size = s.heap.size)) args s 0 0 (FA (iv b0 46) s.heap.size)) (F0 m 0 ls []) := by
  intro v0 hm H locs ls hW0 hS hz hl
  obtain ⟨hx, hb, hr, hlk, hml, hown, hts, hK⟩ := id C
  unfold fX9_takesBack at hm
  refine lv_iconst (pc := 0) (v := (0 : Int32)) hx hb dX9_takesBack_0 (by decide) ?_
  refine lv_istore_n (pc := 1) (lv' := [(1, .int (0 : Int32)), (0, .ref b0)]) hx hb dX9_takesBack_1 rfl hl (by decide) rfl (fun ls hl => ?_)
  exact (w_fX9_takesBack_2_l C FU) v0 (0 : Int32) hm H locs ls hW0 hS hz (lv_sub hl [1, 0] rfl)
set_option maxHeartbeats 4000000 in
theorem ct_X9_takesBack {G : Gv} {l : Launch} {b0 : Nat} {v0 : Mem} {rw0 : Mem} {sz : Nat} (hm : fX9_takesBack v0 = some rw0) : CT G l yX9_takesBack (ws_ yX9_takesBack cX9_takesBack 2 none) 0 0 0 0 [.ref b0] (iv b0 46) sz (fun H => rg G b0 46 (shX9 G.2.1) v0 H) (fun ov H => ov = none ∧ rg G b0 46 (shX9 G.2.1) rw0 H ∧ H.size = sz) := by
  refine Met.ofW (cc := cX9_takesBack) (maxL := 2) (ret := none) (by decide +kernel) rfl ?_
  intro p e s m args below meth c s₁ B hml hv
  obtain ⟨rfl, ⟨hz, hW0⟩, hK⟩ := hv
  subst hz
  have hts := atoms_spec (ws := ws_ yX9_takesBack cX9_takesBack 2 none) B.pre
  have hts : ∀ w ∈ lw_all, w.before _ s = true := fun w h => hts w (List.mem_cons_of_mem _ h)
  have C : Cx G p s m _ meth c RX9 cX9_takesBack 2 none := ⟨B.exec, B.bytes, B.returns, B.notSynchronized, hml, findClass_of_methodNamed B.named, hts, hK⟩
  have hl := lv_entry ([.ref b0]) (n := 2) (Nat.le_of_ble_eq_true rfl)
  rw [lg_entry_eq]
  generalize (lg_sl ([.ref b0]) ++ List.replicate (2 - (lg_sl ([.ref b0])).length) Slot.unset).toArray = ls at hl ⊢
  have hl : lv_has ls 2 [(0, .ref b0)] := hl
  exact w_fX9_takesBack C _ hm s.heap [] ls hW0 va_S.rf rfl hl
theorem flX9_411 : FL RX9 411 9 24 RX9 TX9 29 := ⟨in_X9, rfl, by decide, q1851⟩
noncomputable def fX9_draws (v0 : Mem) (i1 : Int32) : Option (Int32 × Mem) :=
  lm (sI v0 0 24 (((gI v0 0 24) * (1103515245 : Int32)) + (12345 : Int32))) fun v0_1 =>
  gb (nz32 i1) (
  some ((((gI v0_1 0 24).toUInt32 >>> ((9 : Int32).toUInt32 &&& Int32.toUInt32 31)).toInt32 - ((gI v0_1 0 24).toUInt32 >>> ((9 : Int32).toUInt32 &&& Int32.toUInt32 31)).toInt32 / i1 * i1), v0_1))
set_option maxHeartbeats 4000000 in
theorem w_fX9_draws (C : Cx G p s m args meth c RX9 cX9_draws 2 (some .int)) {b0 : Nat} {rx : Int32} {rw0 : Mem} : ∀ (v0 : Mem) (i1 : Int32), fX9_draws v0 i1 = some (rx, rw0) → ∀ (H : Heap) (locs : List Loc) (ls : Array Slot), rg G b0 46 (shX9 G.2.1) v0 H → va_S (FA (iv b0 46) s.heap.size) s.heap H locs → H.size = s.heap.size → lv_has ls 2 [(0, .ref b0), (1, .int i1)] → W p l e (rmT 0 0 0 0) s m args below meth c H locs 0 0 (MQ below (QcT (FA (iv b0 46) s.heap.size) (fun ov H => ov = (some (.int rx)) ∧ rg G b0 46 (shX9 G.2.1) rw0 H ∧ H.size = s.heap.size)) args s 0 0 (FA (iv b0 46) s.heap.size)) (F0 m 0 ls []) := by
  intro v0 i1 hm H locs ls hW0 hS hz hl
  obtain ⟨hx, hb, hr, hlk, hml, hown, hts, hK⟩ := id C
  unfold fX9_draws at hm
  refine lv_aload_n (pc := 0) hx hb dX9_draws_0 rfl (lv_at hl 0 rfl) ?_
  refine lv_aload_n (pc := 1) hx hb dX9_draws_1 rfl (lv_at hl 0 rfl) ?_
  refine rk_get (pc := 2) hx hb hts hown hK hW0 flX9_411 0 (by decide) rfl rfl (x := .int (gI v0 0 24)) rfl dX9_draws_2 ?_
  refine lv_ldcw (pc := 5) (v := (1103515245 : Int32)) hx hb hown (hts _ q2301) dX9_draws_5 ?_
  refine lv_imul (pc := 8) hx hb dX9_draws_8 ?_
  refine lv_sipush (pc := 9) (v := (12345 : Int32)) hx hb dX9_draws_9 (by decide) ?_
  refine lv_iadd (pc := 12) hx hb dX9_draws_12 ?_
  refine rk_put (pc := 13) hx hb hts hown hK hW0 hS flX9_411 ft_X9 0 (by decide) rfl (Or.inl (show iv _ _ _ from ⟨by omega, by omega⟩)) rfl rfl (x := .int (((gI v0 0 24) * (1103515245 : Int32)) + (12345 : Int32))) rfl rfl (Nat.le_of_ble_eq_true rfl) (sI v0 0 24 (((gI v0 0 24) * (1103515245 : Int32)) + (12345 : Int32))) sI_ne (by rw [sI_eq]; exact rfl) dX9_draws_13 (fun H2 locs3 hW4 hS5 hz6 hkp7 => ?_)
  obtain ⟨v0_1, he9, hm⟩ := lm_some hm
  rw [he9] at hW4
  have hz8 := hz6.trans hz
  refine lv_aload_n (pc := 16) hx hb dX9_draws_16 rfl (lv_at hl 0 rfl) ?_
  refine rk_get (pc := 17) hx hb hts hown hK hW4 flX9_411 0 (by decide) rfl rfl (x := .int (gI v0_1 0 24)) rfl dX9_draws_17 ?_
  refine lv_bipush (pc := 20) (v := (9 : Int32)) hx hb dX9_draws_20 (by decide) ?_
  refine lv_iushr (pc := 22) hx hb dX9_draws_22 rfl ?_
  refine lv_iload_n (pc := 23) hx hb dX9_draws_23 rfl (lv_at hl 1 rfl) ?_
  obtain ⟨hg9, hm⟩ := gb_some hm
  refine lv_irem (pc := 24) hx hb dX9_draws_24 (nz32_ne hg9) ?_
  obtain ⟨e8, e9⟩ := rs2 hm
  subst e8
  subst e9
  exact rk_iret (pc := 25) hx hb hr hlk hS5 ⟨rfl, hW4, hz8⟩ dX9_draws_25
set_option maxHeartbeats 4000000 in
theorem ct_X9_draws {G : Gv} {l : Launch} {b0 : Nat} {v0 : Mem} {i1 : Int32} {rx : Int32} {rw0 : Mem} {sz : Nat} (hm : fX9_draws v0 i1 = some (rx, rw0)) : CT G l yX9_draws (ws_ yX9_draws cX9_draws 2 (some .int)) 0 0 0 0 [.ref b0, .int i1] (iv b0 46) sz (fun H => rg G b0 46 (shX9 G.2.1) v0 H) (fun ov H => ov = (some (.int rx)) ∧ rg G b0 46 (shX9 G.2.1) rw0 H ∧ H.size = sz) := by
  refine Met.ofW (cc := cX9_draws) (maxL := 2) (ret := (some .int)) (by decide +kernel) rfl ?_
  intro p e s m args below meth c s₁ B hml hv
  obtain ⟨rfl, ⟨hz, hW0⟩, hK⟩ := hv
  subst hz
  have hts := atoms_spec (ws := ws_ yX9_draws cX9_draws 2 (some .int)) B.pre
  have hts : ∀ w ∈ lw_all, w.before _ s = true := fun w h => hts w (List.mem_cons_of_mem _ h)
  have C : Cx G p s m _ meth c RX9 cX9_draws 2 (some .int) := ⟨B.exec, B.bytes, B.returns, B.notSynchronized, hml, findClass_of_methodNamed B.named, hts, hK⟩
  have hl := lv_entry ([.ref b0, .int i1]) (n := 2) (Nat.le_of_ble_eq_true rfl)
  rw [lg_entry_eq]
  generalize (lg_sl ([.ref b0, .int i1]) ++ List.replicate (2 - (lg_sl ([.ref b0, .int i1])).length) Slot.unset).toArray = ls at hl ⊢
  have hl : lv_has ls 2 [(0, .ref b0), (1, .int i1)] := hl
  exact w_fX9_draws C _ _ hm s.heap [] ls hW0 va_S.rf rfl hl
theorem yn_X9_lends : YN yX9_lends 0 := by
  unfold YN
  decide +kernel
theorem lkX9_417 : LV RX9 417 RX9 yX9_lends cX9_lends 2 none := ⟨q2293, q2295, qs105, q128, q2296⟩
theorem yn_X9_takesBack : YN yX9_takesBack 0 := by
  unfold YN
  decide +kernel
theorem lkX9_423 : LV RX9 423 RX9 yX9_takesBack cX9_takesBack 2 none := ⟨q2302, q2304, qs107, q128, q2305⟩
theorem yn_X9_draws : YN yX9_draws 1 := by
  unfold YN
  decide +kernel
theorem lkX9_420 : LV RX9 420 RX9 yX9_draws cX9_draws 2 (some .int) := ⟨q2297, q2299, qs106, q128, q2300⟩
noncomputable def fX9_drawn_54 (k33 : Mem → Int32 → Int32 → Option (Int32 × Mem)) (k54 : Mem → Int32 → Int32 → Int32 → Option (Int32 × Mem)) (v0 : Mem) (i2 : Int32) (i3 : Int32) (i4 : Int32) : Option (Int32 × Mem) :=
  ob (fX9_n v0) fun r62 =>
  if r62 ≤ i4 then (
  ob2 (fX9_draws v0 (60 : Int32)) fun r65 w66 =>
  gb (inR (((12 : Int32) + ((7 : Int32) * i3)) + (1 : Int32)) 150) (
  lm (sI w66 1 (((12 : Int32) + ((7 : Int32) * i3)) + (1 : Int32)).toNatClampNeg r65) fun v0_77 =>
  k33 v0_77 i2 (i3 + (1 : Int32))))
  else (
  ob2 (fX9_draws v0 (10 : Int32)) fun r85 w86 =>
  gb (inR ((((12 : Int32) + ((7 : Int32) * i3)) + (2 : Int32)) + i4) 150) (
  lm (sI w86 1 ((((12 : Int32) + ((7 : Int32) * i3)) + (2 : Int32)) + i4).toNatClampNeg r85) fun v0_97 =>
  k54 v0_97 i2 i3 (i4 + (1 : Int32))))
noncomputable def fX9_drawn_33 (k33 : Mem → Int32 → Int32 → Option (Int32 × Mem)) (v0 : Mem) (i2 : Int32) (i3 : Int32) : Option (Int32 × Mem) :=
  if i2 ≤ i3 then (
  ob2 (fX9_worth v0) fun r32 w33 =>
  ob (fX9_takesBack w33) fun w43 =>
  some (r32, w43))
  else (
  gb (inR ((12 : Int32) + ((7 : Int32) * i3)) 150) (
  lm (sI v0 1 ((12 : Int32) + ((7 : Int32) * i3)).toNatClampNeg (0 : Int32)) fun v0_54 =>
  lq4 (fX9_drawn_54 k33) FU v0_54 i2 i3 (0 : Int32)))
noncomputable def fX9_drawn (v0 : Mem) (i1 : Int32) (i2 : Int32) : Option (Int32 × Mem) :=
  ob (fX9_isIn i2.toInt64 (1 : Int64) (4 : Int64)) fun r1 =>
  if r1 = 0 then (
  some ((-2 : Int32), v0))
  else (
  ob (fX9_lends v0) fun w4 =>
  lm (sI w4 0 24 i1) fun v0_14 =>
  gb (inR (1 : Int32) 150) (
  lm (sI v0_14 1 (1 : Int32).toNatClampNeg i2) fun v0_23 =>
  lq3 (fX9_drawn_33) FU v0_23 i2 (0 : Int32)))
set_option maxHeartbeats 4000000 in
theorem w_fX9_drawn_54 (C : Cx G p s m args meth c RX9 cX9_drawn 5 (some .int)) {b0 : Nat} {rx : Int32} {rw0 : Mem} {k33 : Mem → Int32 → Int32 → Option (Int32 × Mem)} {k54 : Mem → Int32 → Int32 → Int32 → Option (Int32 × Mem)} (hk33 : ∀ (v0 : Mem) (i2 : Int32) (i3 : Int32), k33 v0 i2 i3 = some (rx, rw0) → ∀ (H : Heap) (locs : List Loc) (ls : Array Slot), rg G b0 46 (shX9 G.2.1) v0 H → va_S (FA (iv b0 46) s.heap.size) s.heap H locs → H.size = s.heap.size → lv_has ls 5 [(0, .ref b0), (2, .int i2), (3, .int i3)] → W p l e (rmT 7 0 0 168) s m args below meth c H locs 0 0 (MQ below (QcT (FA (iv b0 46) s.heap.size) (fun ov H => ov = (some (.int rx)) ∧ rg G b0 46 (shX9 G.2.1) rw0 H ∧ H.size = s.heap.size)) args s 0 0 (FA (iv b0 46) s.heap.size)) (F0 m 33 ls [])) (hk54 : ∀ (v0 : Mem) (i2 : Int32) (i3 : Int32) (i4 : Int32), k54 v0 i2 i3 i4 = some (rx, rw0) → ∀ (H : Heap) (locs : List Loc) (ls : Array Slot), rg G b0 46 (shX9 G.2.1) v0 H → va_S (FA (iv b0 46) s.heap.size) s.heap H locs → H.size = s.heap.size → lv_has ls 5 [(0, .ref b0), (2, .int i2), (3, .int i3), (4, .int i4)] → W p l e (rmT 7 0 0 168) s m args below meth c H locs 0 0 (MQ below (QcT (FA (iv b0 46) s.heap.size) (fun ov H => ov = (some (.int rx)) ∧ rg G b0 46 (shX9 G.2.1) rw0 H ∧ H.size = s.heap.size)) args s 0 0 (FA (iv b0 46) s.heap.size)) (F0 m 54 ls [])) : ∀ (v0 : Mem) (i2 : Int32) (i3 : Int32) (i4 : Int32), fX9_drawn_54 k33 k54 v0 i2 i3 i4 = some (rx, rw0) → ∀ (H : Heap) (locs : List Loc) (ls : Array Slot), rg G b0 46 (shX9 G.2.1) v0 H → va_S (FA (iv b0 46) s.heap.size) s.heap H locs → H.size = s.heap.size → lv_has ls 5 [(0, .ref b0), (2, .int i2), (3, .int i3), (4, .int i4)] → W p l e (rmT 7 0 0 168) s m args below meth c H locs 0 0 (MQ below (QcT (FA (iv b0 46) s.heap.size) (fun ov H => ov = (some (.int rx)) ∧ rg G b0 46 (shX9 G.2.1) rw0 H ∧ H.size = s.heap.size)) args s 0 0 (FA (iv b0 46) s.heap.size)) (F0 m 54 ls []) := by
  intro v0 i2 i3 i4 hm H locs ls hW0 hS hz hl
  obtain ⟨hx, hb, hr, hlk, hml, hown, hts, hK⟩ := id C
  unfold fX9_drawn_54 at hm
  refine lv_iload (pc := 54) hx hb dX9_drawn_54 (lv_at hl 3 rfl) ?_
  refine lv_aload_n (pc := 56) hx hb dX9_drawn_56 rfl (lv_at hl 0 rfl) ?_
  obtain ⟨r62, hq63, hm⟩ := ob_some hm
  refine rk_PV (pc := 57) (As := []) (rest := [.int i4]) hx hb hml hown hts hK lkX9_89 rfl yn_X9_n (ct_X9_n (G := G) (l := l) (b0 := b0) hq63) ⟨Nat.le_of_ble_eq_true rfl, Nat.le_of_ble_eq_true rfl⟩ (rk_recv hK hW0 0 (by decide) rfl rfl rfl) (rg_take hW0 (by decide)) rfl rfl hl.1 (Nat.le_of_ble_eq_true rfl) dX9_drawn_57 ⟨Nat.zero_le _, Nat.zero_le _⟩ ?_
  refine W.eq (g2 := F0 m 60 ls [.int r62, .int i4]) rfl ?_
  refine lv_icmp_ge (pc := 60) (tgt := 92) hx hb dX9_drawn_60 (by decide) (fun c64 => ?_) (fun c64 => ?_)
  · have hm := ite_t c64 hm
    refine lv_aload_n (pc := 92) hx hb dX9_drawn_92 rfl (lv_at hl 0 rfl) ?_
    refine rk_get (pc := 93) hx hb hts hown hK hW0 flX9_11 0 (by decide) rfl rfl (x := .ref (b0 + 1)) (by first | rfl | exact congrArg (fun z => some (Value.ref z)) (by omega)) dX9_drawn_93 ?_
    refine lv_bipush (pc := 96) (v := (12 : Int32)) hx hb dX9_drawn_96 (by decide) ?_
    refine lv_bipush (pc := 98) (v := (7 : Int32)) hx hb dX9_drawn_98 (by decide) ?_
    refine lv_iload_n (pc := 100) hx hb dX9_drawn_100 rfl (lv_at hl 2 rfl) ?_
    refine lv_imul (pc := 101) hx hb dX9_drawn_101 ?_
    refine lv_iadd (pc := 102) hx hb dX9_drawn_102 ?_
    refine lv_iconst (pc := 103) (v := (1 : Int32)) hx hb dX9_drawn_103 (by decide) ?_
    refine lv_iadd (pc := 104) hx hb dX9_drawn_104 ?_
    refine lv_aload_n (pc := 105) hx hb dX9_drawn_105 rfl (lv_at hl 0 rfl) ?_
    refine lv_bipush (pc := 106) (v := (60 : Int32)) hx hb dX9_drawn_106 (by decide) ?_
    obtain ⟨r65, w66, hq67, hm⟩ := ob2_some hm
    refine rk_TV (pc := 108) (As := [.int (60 : Int32)]) (rest := [.int (((12 : Int32) + ((7 : Int32) * i3)) + (1 : Int32)), .ref (b0 + 1)]) (mc := 0) (ms := 0) hx hb hml hown hts hK hS (fun q hq => FA_sz rfl q hq) lkX9_420 rfl yn_X9_draws (ct_X9_draws (G := G) (l := l) (b0 := b0) (sz := H.size) hq67) ⟨Nat.le_of_ble_eq_true rfl, Nat.le_of_ble_eq_true rfl⟩ (fun z h => Or.inl (show iv _ _ _ from ⟨by have h8 := h.1; have h9 := h.2; omega, by have h8 := h.1; have h9 := h.2; omega⟩)) (rk_recv hK hW0 0 (by decide) rfl rfl rfl) hW0 rfl rfl hl.1 (Nat.le_of_ble_eq_true rfl) dX9_drawn_108 ⟨Nat.zero_le _, Nat.zero_le _⟩ (fun ov9 H68 locs69 hP70 hkp71 hS72 => ?_)
    obtain ⟨rfl, hW73, hz74⟩ := hP70
    have hz75 := hz74.trans hz
    refine W.eq (g2 := F0 m 111 ls [.int r65, .int (((12 : Int32) + ((7 : Int32) * i3)) + (1 : Int32)), .ref (b0 + 1)]) rfl ?_
    obtain ⟨hg76, hm⟩ := gb_some hm
    refine rk_iast (pc := 111) hx hb hK hW73 hS72 1 (by decide) rfl (Or.inl (show iv _ _ _ from ⟨by omega, by omega⟩)) (fun _ _ _ => rfl) hg76 dX9_drawn_111 (fun H78 locs79 hW80 hS81 hz82 hkp83 => ?_)
    obtain ⟨v0_77, he9, hm⟩ := lm_some hm
    rw [he9] at hW80
    have hz84 := hz82.trans hz75
    refine lv_iinc (pc := 112) (v := (i3 + (1 : Int32))) (lv' := [(3, .int (i3 + (1 : Int32))), (0, .ref b0), (2, .int i2), (4, .int i4)]) hx hb dX9_drawn_112 hl (k := 2) rfl rfl (by decide) rfl (fun ls hl => ?_)
    refine lv_goto (pc := 115) (tgt := 33) hx hb dX9_drawn_115 (by decide) ?_
    exact hk33 v0_77 i2 (i3 + (1 : Int32)) hm H78 locs79 ls hW80 hS81 hz84 (lv_sub hl [1, 2, 0] rfl)
  · have hm := ite_f c64 hm
    refine lv_aload_n (pc := 63) hx hb dX9_drawn_63 rfl (lv_at hl 0 rfl) ?_
    refine rk_get (pc := 64) hx hb hts hown hK hW0 flX9_11 0 (by decide) rfl rfl (x := .ref (b0 + 1)) (by first | rfl | exact congrArg (fun z => some (Value.ref z)) (by omega)) dX9_drawn_64 ?_
    refine lv_bipush (pc := 67) (v := (12 : Int32)) hx hb dX9_drawn_67 (by decide) ?_
    refine lv_bipush (pc := 69) (v := (7 : Int32)) hx hb dX9_drawn_69 (by decide) ?_
    refine lv_iload_n (pc := 71) hx hb dX9_drawn_71 rfl (lv_at hl 2 rfl) ?_
    refine lv_imul (pc := 72) hx hb dX9_drawn_72 ?_
    refine lv_iadd (pc := 73) hx hb dX9_drawn_73 ?_
    refine lv_iconst (pc := 74) (v := (2 : Int32)) hx hb dX9_drawn_74 (by decide) ?_
    refine lv_iadd (pc := 75) hx hb dX9_drawn_75 ?_
    refine lv_iload (pc := 76) hx hb dX9_drawn_76 (lv_at hl 3 rfl) ?_
    refine lv_iadd (pc := 78) hx hb dX9_drawn_78 ?_
    refine lv_aload_n (pc := 79) hx hb dX9_drawn_79 rfl (lv_at hl 0 rfl) ?_
    refine lv_bipush (pc := 80) (v := (10 : Int32)) hx hb dX9_drawn_80 (by decide) ?_
    obtain ⟨r85, w86, hq87, hm⟩ := ob2_some hm
    refine rk_TV (pc := 82) (As := [.int (10 : Int32)]) (rest := [.int ((((12 : Int32) + ((7 : Int32) * i3)) + (2 : Int32)) + i4), .ref (b0 + 1)]) (mc := 0) (ms := 0) hx hb hml hown hts hK hS (fun q hq => FA_sz rfl q hq) lkX9_420 rfl yn_X9_draws (ct_X9_draws (G := G) (l := l) (b0 := b0) (sz := H.size) hq87) ⟨Nat.le_of_ble_eq_true rfl, Nat.le_of_ble_eq_true rfl⟩ (fun z h => Or.inl (show iv _ _ _ from ⟨by have h8 := h.1; have h9 := h.2; omega, by have h8 := h.1; have h9 := h.2; omega⟩)) (rk_recv hK hW0 0 (by decide) rfl rfl rfl) hW0 rfl rfl hl.1 (Nat.le_of_ble_eq_true rfl) dX9_drawn_82 ⟨Nat.zero_le _, Nat.zero_le _⟩ (fun ov9 H88 locs89 hP90 hkp91 hS92 => ?_)
    obtain ⟨rfl, hW93, hz94⟩ := hP90
    have hz95 := hz94.trans hz
    refine W.eq (g2 := F0 m 85 ls [.int r85, .int ((((12 : Int32) + ((7 : Int32) * i3)) + (2 : Int32)) + i4), .ref (b0 + 1)]) rfl ?_
    obtain ⟨hg96, hm⟩ := gb_some hm
    refine rk_iast (pc := 85) hx hb hK hW93 hS92 1 (by decide) rfl (Or.inl (show iv _ _ _ from ⟨by omega, by omega⟩)) (fun _ _ _ => rfl) hg96 dX9_drawn_85 (fun H98 locs99 hW100 hS101 hz102 hkp103 => ?_)
    obtain ⟨v0_97, he9, hm⟩ := lm_some hm
    rw [he9] at hW100
    have hz104 := hz102.trans hz95
    refine lv_iinc (pc := 86) (v := (i4 + (1 : Int32))) (lv' := [(4, .int (i4 + (1 : Int32))), (0, .ref b0), (2, .int i2), (3, .int i3)]) hx hb dX9_drawn_86 hl (k := 3) rfl rfl (by decide) rfl (fun ls hl => ?_)
    refine lv_goto (pc := 89) (tgt := 54) hx hb dX9_drawn_89 (by decide) ?_
    exact hk54 v0_97 i2 i3 (i4 + (1 : Int32)) hm H98 locs99 ls hW100 hS101 hz104 (lv_sub hl [1, 2, 3, 0] rfl)
theorem w_fX9_drawn_54_l (C : Cx G p s m args meth c RX9 cX9_drawn 5 (some .int)) {b0 : Nat} {rx : Int32} {rw0 : Mem} {k33 : Mem → Int32 → Int32 → Option (Int32 × Mem)} (hk33 : ∀ (v0 : Mem) (i2 : Int32) (i3 : Int32), k33 v0 i2 i3 = some (rx, rw0) → ∀ (H : Heap) (locs : List Loc) (ls : Array Slot), rg G b0 46 (shX9 G.2.1) v0 H → va_S (FA (iv b0 46) s.heap.size) s.heap H locs → H.size = s.heap.size → lv_has ls 5 [(0, .ref b0), (2, .int i2), (3, .int i3)] → W p l e (rmT 7 0 0 168) s m args below meth c H locs 0 0 (MQ below (QcT (FA (iv b0 46) s.heap.size) (fun ov H => ov = (some (.int rx)) ∧ rg G b0 46 (shX9 G.2.1) rw0 H ∧ H.size = s.heap.size)) args s 0 0 (FA (iv b0 46) s.heap.size)) (F0 m 33 ls [])) : ∀ (n : Nat) (v0 : Mem) (i2 : Int32) (i3 : Int32) (i4 : Int32), lq4 (fX9_drawn_54 k33) n v0 i2 i3 i4 = some (rx, rw0) → ∀ (H : Heap) (locs : List Loc) (ls : Array Slot), rg G b0 46 (shX9 G.2.1) v0 H → va_S (FA (iv b0 46) s.heap.size) s.heap H locs → H.size = s.heap.size → lv_has ls 5 [(0, .ref b0), (2, .int i2), (3, .int i3), (4, .int i4)] → W p l e (rmT 7 0 0 168) s m args below meth c H locs 0 0 (MQ below (QcT (FA (iv b0 46) s.heap.size) (fun ov H => ov = (some (.int rx)) ∧ rg G b0 46 (shX9 G.2.1) rw0 H ∧ H.size = s.heap.size)) args s 0 0 (FA (iv b0 46) s.heap.size)) (F0 m 54 ls []) := by
  intro n
  induction n with
  | zero => intro v0 i2 i3 i4 hm; exact (lq4_0 hm).elim
  | succ n ih => intro v0 i2 i3 i4 hm; exact w_fX9_drawn_54 C hk33 ih v0 i2 i3 i4 (lq4_s hm)
set_option maxHeartbeats 4000000 in
theorem w_fX9_drawn_33 (C : Cx G p s m args meth c RX9 cX9_drawn 5 (some .int)) {b0 : Nat} {rx : Int32} {rw0 : Mem} {k33 : Mem → Int32 → Int32 → Option (Int32 × Mem)} (hk33 : ∀ (v0 : Mem) (i2 : Int32) (i3 : Int32), k33 v0 i2 i3 = some (rx, rw0) → ∀ (H : Heap) (locs : List Loc) (ls : Array Slot), rg G b0 46 (shX9 G.2.1) v0 H → va_S (FA (iv b0 46) s.heap.size) s.heap H locs → H.size = s.heap.size → lv_has ls 5 [(0, .ref b0), (2, .int i2), (3, .int i3)] → W p l e (rmT 7 0 0 168) s m args below meth c H locs 0 0 (MQ below (QcT (FA (iv b0 46) s.heap.size) (fun ov H => ov = (some (.int rx)) ∧ rg G b0 46 (shX9 G.2.1) rw0 H ∧ H.size = s.heap.size)) args s 0 0 (FA (iv b0 46) s.heap.size)) (F0 m 33 ls [])) : ∀ (v0 : Mem) (i2 : Int32) (i3 : Int32), fX9_drawn_33 k33 v0 i2 i3 = some (rx, rw0) → ∀ (H : Heap) (locs : List Loc) (ls : Array Slot), rg G b0 46 (shX9 G.2.1) v0 H → va_S (FA (iv b0 46) s.heap.size) s.heap H locs → H.size = s.heap.size → lv_has ls 5 [(0, .ref b0), (2, .int i2), (3, .int i3)] → W p l e (rmT 7 0 0 168) s m args below meth c H locs 0 0 (MQ below (QcT (FA (iv b0 46) s.heap.size) (fun ov H => ov = (some (.int rx)) ∧ rg G b0 46 (shX9 G.2.1) rw0 H ∧ H.size = s.heap.size)) args s 0 0 (FA (iv b0 46) s.heap.size)) (F0 m 33 ls []) := by
  intro v0 i2 i3 hm H locs ls hW0 hS hz hl
  obtain ⟨hx, hb, hr, hlk, hml, hown, hts, hK⟩ := id C
  unfold fX9_drawn_33 at hm
  refine lv_iload_n (pc := 33) hx hb dX9_drawn_33 rfl (lv_at hl 2 rfl) ?_
  refine lv_iload_n (pc := 34) hx hb dX9_drawn_34 rfl (lv_at hl 1 rfl) ?_
  refine lv_icmp_ge (pc := 35) (tgt := 118) hx hb dX9_drawn_35 (by decide) (fun c31 => ?_) (fun c31 => ?_)
  · have hm := ite_t c31 hm
    refine lv_aload_n (pc := 118) hx hb dX9_drawn_118 rfl (lv_at hl 0 rfl) ?_
    obtain ⟨r32, w33, hq34, hm⟩ := ob2_some hm
    refine rk_TV (pc := 119) (As := []) (rest := []) (mc := 0) (ms := 0) hx hb hml hown hts hK hS (fun q hq => FA_sz rfl q hq) lkX9_400 rfl yn_X9_worth (ct_X9_worth (G := G) (l := l) (b0 := b0) (sz := H.size) hq34) ⟨Nat.le_of_ble_eq_true rfl, Nat.le_of_ble_eq_true rfl⟩ (fun z h => Or.inl (show iv _ _ _ from ⟨by have h8 := h.1; have h9 := h.2; omega, by have h8 := h.1; have h9 := h.2; omega⟩)) (rk_recv hK hW0 0 (by decide) rfl rfl rfl) hW0 rfl rfl hl.1 (Nat.le_of_ble_eq_true rfl) dX9_drawn_119 ⟨Nat.zero_le _, Nat.zero_le _⟩ (fun ov9 H35 locs36 hP37 hkp38 hS39 => ?_)
    obtain ⟨rfl, hW40, hz41⟩ := hP37
    have hz42 := hz41.trans hz
    refine W.eq (g2 := F0 m 122 ls [.int r32]) rfl ?_
    refine lv_istore_n (pc := 122) (lv' := [(3, .int r32), (0, .ref b0), (2, .int i2)]) hx hb dX9_drawn_122 rfl hl (by decide) rfl (fun ls hl => ?_)
    refine lv_aload_n (pc := 123) hx hb dX9_drawn_123 rfl (lv_at hl 1 rfl) ?_
    obtain ⟨w43, hq44, hm⟩ := ob_some hm
    refine rk_TV (pc := 124) (As := []) (rest := []) (mc := 0) (ms := 0) hx hb hml hown hts hK hS39 (fun q hq => FA_sz rfl q hq) lkX9_423 rfl yn_X9_takesBack (ct_X9_takesBack (G := G) (l := l) (b0 := b0) (sz := H35.size) hq44) ⟨Nat.le_of_ble_eq_true rfl, Nat.le_of_ble_eq_true rfl⟩ (fun z h => Or.inl (show iv _ _ _ from ⟨by have h8 := h.1; have h9 := h.2; omega, by have h8 := h.1; have h9 := h.2; omega⟩)) (rk_recv hK hW40 0 (by decide) rfl rfl rfl) hW40 rfl rfl hl.1 (Nat.le_of_ble_eq_true rfl) dX9_drawn_124 ⟨Nat.zero_le _, Nat.zero_le _⟩ (fun ov9 H45 locs46 hP47 hkp48 hS49 => ?_)
    obtain ⟨rfl, hW50, hz51⟩ := hP47
    have hz52 := hz51.trans hz42
    refine W.eq (g2 := F0 m 127 ls []) rfl ?_
    refine lv_iload_n (pc := 127) hx hb dX9_drawn_127 rfl (lv_at hl 0 rfl) ?_
    obtain ⟨e8, e9⟩ := rs2 hm
    subst e8
    subst e9
    exact rk_iret (pc := 128) hx hb hr hlk hS49 ⟨rfl, hW50, hz52⟩ dX9_drawn_128
  · have hm := ite_f c31 hm
    refine lv_aload_n (pc := 38) hx hb dX9_drawn_38 rfl (lv_at hl 0 rfl) ?_
    refine rk_get (pc := 39) hx hb hts hown hK hW0 flX9_11 0 (by decide) rfl rfl (x := .ref (b0 + 1)) (by first | rfl | exact congrArg (fun z => some (Value.ref z)) (by omega)) dX9_drawn_39 ?_
    refine lv_bipush (pc := 42) (v := (12 : Int32)) hx hb dX9_drawn_42 (by decide) ?_
    refine lv_bipush (pc := 44) (v := (7 : Int32)) hx hb dX9_drawn_44 (by decide) ?_
    refine lv_iload_n (pc := 46) hx hb dX9_drawn_46 rfl (lv_at hl 2 rfl) ?_
    refine lv_imul (pc := 47) hx hb dX9_drawn_47 ?_
    refine lv_iadd (pc := 48) hx hb dX9_drawn_48 ?_
    refine lv_iconst (pc := 49) (v := (0 : Int32)) hx hb dX9_drawn_49 (by decide) ?_
    obtain ⟨hg53, hm⟩ := gb_some hm
    refine rk_iast (pc := 50) hx hb hK hW0 hS 1 (by decide) rfl (Or.inl (show iv _ _ _ from ⟨by omega, by omega⟩)) (fun _ _ _ => rfl) hg53 dX9_drawn_50 (fun H55 locs56 hW57 hS58 hz59 hkp60 => ?_)
    obtain ⟨v0_54, he9, hm⟩ := lm_some hm
    rw [he9] at hW57
    have hz61 := hz59.trans hz
    refine lv_iconst (pc := 51) (v := (0 : Int32)) hx hb dX9_drawn_51 (by decide) ?_
    refine lv_istore (pc := 52) (lv' := [(4, .int (0 : Int32)), (0, .ref b0), (2, .int i2), (3, .int i3)]) hx hb dX9_drawn_52 hl (by decide) rfl (fun ls hl => ?_)
    exact (w_fX9_drawn_54_l C hk33 FU) v0_54 i2 i3 (0 : Int32) hm H55 locs56 ls hW57 hS58 hz61 (lv_sub hl [1, 2, 3, 0] rfl)
theorem w_fX9_drawn_33_l (C : Cx G p s m args meth c RX9 cX9_drawn 5 (some .int)) {b0 : Nat} {rx : Int32} {rw0 : Mem} : ∀ (n : Nat) (v0 : Mem) (i2 : Int32) (i3 : Int32), lq3 (fX9_drawn_33) n v0 i2 i3 = some (rx, rw0) → ∀ (H : Heap) (locs : List Loc) (ls : Array Slot), rg G b0 46 (shX9 G.2.1) v0 H → va_S (FA (iv b0 46) s.heap.size) s.heap H locs → H.size = s.heap.size → lv_has ls 5 [(0, .ref b0), (2, .int i2), (3, .int i3)] → W p l e (rmT 7 0 0 168) s m args below meth c H locs 0 0 (MQ below (QcT (FA (iv b0 46) s.heap.size) (fun ov H => ov = (some (.int rx)) ∧ rg G b0 46 (shX9 G.2.1) rw0 H ∧ H.size = s.heap.size)) args s 0 0 (FA (iv b0 46) s.heap.size)) (F0 m 33 ls []) := by
  intro n
  induction n with
  | zero => intro v0 i2 i3 hm; exact (lq3_0 hm).elim
  | succ n ih => intro v0 i2 i3 hm; exact w_fX9_drawn_33 C ih v0 i2 i3 (lq3_s hm)
set_option maxHeartbeats 4000000 in
theorem w_fX9_drawn (C : Cx G p s m args meth c RX9 cX9_drawn 5 (some .int)) {b0 : Nat} {rx : Int32} {rw0 : Mem} : ∀ (v0 : Mem) (i1 : Int32) (i2 : Int32), fX9_drawn v0 i1 i2 = some (rx, rw0) → ∀ (H : Heap) (locs : List Loc) (ls : Array Slot), rg G b0 46 (shX9 G.2.1) v0 H → va_S (FA (iv b0 46) s.heap.size) s.heap H locs → H.size = s.heap.size → lv_has ls 5 [(0, .ref b0), (1, .int i1), (2, .int i2)] → W p l e (rmT 7 0 0 168) s m args below meth c H locs 0 0 (MQ below (QcT (FA (iv b0 46) s.heap.size) (fun ov H => ov = (some (.int rx)) ∧ rg G b0 46 (shX9 G.2.1) rw0 H ∧ H.size = s.heap.size)) args s 0 0 (FA (iv b0 46) s.heap.size)) (F0 m 0 ls []) := by
  intro v0 i1 i2 hm H locs ls hW0 hS hz hl
  obtain ⟨hx, hb, hr, hlk, hml, hown, hts, hK⟩ := id C
  unfold fX9_drawn at hm
  refine lv_iload_n (pc := 0) hx hb dX9_drawn_0 rfl (lv_at hl 2 rfl) ?_
  refine lv_i2l (pc := 1) hx hb dX9_drawn_1 rfl ?_
  refine lv_lconst (pc := 2) (v := (1 : Int64)) hx hb dX9_drawn_2 (by decide) ?_
  refine lv_ldc2 (pc := 3) (v := (4 : Int64)) hx hb hown (hts _ q2292) dX9_drawn_3 ?_
  obtain ⟨r1, hq2, hm⟩ := ob_some hm
  refine rk_PS (pc := 6) (As := [.long i2.toInt64, .long (1 : Int64), .long (4 : Int64)]) (rest := []) hx hb hml hown hts hK lkX9_93 yn_X9_isIn (ct_X9_isIn (G := G) (l := l) hq2) ⟨Nat.le_of_ble_eq_true rfl, Nat.le_of_ble_eq_true rfl⟩ trivial rfl rfl hl.1 (Nat.le_of_ble_eq_true rfl) dX9_drawn_6 ⟨Nat.zero_le _, Nat.zero_le _⟩ ?_
  refine W.eq (g2 := F0 m 9 ls [.int r1]) rfl ?_
  refine lv_if_ne (pc := 9) (tgt := 15) hx hb dX9_drawn_9 (by decide) (fun c3 => ?_) (fun c3 => ?_)
  · have hm := ite_f c3 hm
    refine lv_aload_n (pc := 15) hx hb dX9_drawn_15 rfl (lv_at hl 0 rfl) ?_
    obtain ⟨w4, hq5, hm⟩ := ob_some hm
    refine rk_TV (pc := 16) (As := []) (rest := []) (mc := 0) (ms := 0) hx hb hml hown hts hK hS (fun q hq => FA_sz rfl q hq) lkX9_417 rfl yn_X9_lends (ct_X9_lends (G := G) (l := l) (b0 := b0) (sz := H.size) hq5) ⟨Nat.le_of_ble_eq_true rfl, Nat.le_of_ble_eq_true rfl⟩ (fun z h => Or.inl (show iv _ _ _ from ⟨by have h8 := h.1; have h9 := h.2; omega, by have h8 := h.1; have h9 := h.2; omega⟩)) (rk_recv hK hW0 0 (by decide) rfl rfl rfl) hW0 rfl rfl hl.1 (Nat.le_of_ble_eq_true rfl) dX9_drawn_16 ⟨Nat.zero_le _, Nat.zero_le _⟩ (fun ov9 H6 locs7 hP8 hkp9 hS10 => ?_)
    obtain ⟨rfl, hW11, hz12⟩ := hP8
    have hz13 := hz12.trans hz
    refine W.eq (g2 := F0 m 19 ls []) rfl ?_
    refine lv_aload_n (pc := 19) hx hb dX9_drawn_19 rfl (lv_at hl 0 rfl) ?_
    refine lv_iload_n (pc := 20) hx hb dX9_drawn_20 rfl (lv_at hl 1 rfl) ?_
    refine rk_put (pc := 21) hx hb hts hown hK hW11 hS10 flX9_411 ft_X9 0 (by decide) rfl (Or.inl (show iv _ _ _ from ⟨by omega, by omega⟩)) rfl rfl (x := .int i1) rfl rfl (Nat.le_of_ble_eq_true rfl) (sI w4 0 24 i1) sI_ne (by rw [sI_eq]; exact rfl) dX9_drawn_21 (fun H15 locs16 hW17 hS18 hz19 hkp20 => ?_)
    obtain ⟨v0_14, he9, hm⟩ := lm_some hm
    rw [he9] at hW17
    have hz21 := hz19.trans hz13
    refine lv_aload_n (pc := 24) hx hb dX9_drawn_24 rfl (lv_at hl 0 rfl) ?_
    refine rk_get (pc := 25) hx hb hts hown hK hW17 flX9_11 0 (by decide) rfl rfl (x := .ref (b0 + 1)) (by first | rfl | exact congrArg (fun z => some (Value.ref z)) (by omega)) dX9_drawn_25 ?_
    refine lv_iconst (pc := 28) (v := (1 : Int32)) hx hb dX9_drawn_28 (by decide) ?_
    refine lv_iload_n (pc := 29) hx hb dX9_drawn_29 rfl (lv_at hl 2 rfl) ?_
    obtain ⟨hg22, hm⟩ := gb_some hm
    refine rk_iast (pc := 30) hx hb hK hW17 hS18 1 (by decide) rfl (Or.inl (show iv _ _ _ from ⟨by omega, by omega⟩)) (fun _ _ _ => rfl) hg22 dX9_drawn_30 (fun H24 locs25 hW26 hS27 hz28 hkp29 => ?_)
    obtain ⟨v0_23, he9, hm⟩ := lm_some hm
    rw [he9] at hW26
    have hz30 := hz28.trans hz21
    refine lv_iconst (pc := 31) (v := (0 : Int32)) hx hb dX9_drawn_31 (by decide) ?_
    refine lv_istore_n (pc := 32) (lv' := [(3, .int (0 : Int32)), (0, .ref b0), (1, .int i1), (2, .int i2)]) hx hb dX9_drawn_32 rfl hl (by decide) rfl (fun ls hl => ?_)
    exact (w_fX9_drawn_33_l C FU) v0_23 i2 (0 : Int32) hm H24 locs25 ls hW26 hS27 hz30 (lv_sub hl [1, 3, 0] rfl)
  · have hm := ite_t c3 hm
    refine lv_bipush (pc := 12) (v := (-2 : Int32)) hx hb dX9_drawn_12 (by decide) ?_
    obtain ⟨e8, e9⟩ := rs2 hm
    subst e8
    subst e9
    exact rk_iret (pc := 14) hx hb hr hlk hS ⟨rfl, hW0, hz⟩ dX9_drawn_14
set_option maxHeartbeats 4000000 in
theorem ct_X9_drawn {G : Gv} {l : Launch} {b0 : Nat} {v0 : Mem} {i1 : Int32} {i2 : Int32} {rx : Int32} {rw0 : Mem} {sz : Nat} (hm : fX9_drawn v0 i1 i2 = some (rx, rw0)) : CT G l yX9_drawn (ws_ yX9_drawn cX9_drawn 5 (some .int)) 7 0 0 168 [.ref b0, .int i1, .int i2] (iv b0 46) sz (fun H => rg G b0 46 (shX9 G.2.1) v0 H) (fun ov H => ov = (some (.int rx)) ∧ rg G b0 46 (shX9 G.2.1) rw0 H ∧ H.size = sz) := by
  refine Met.ofW (cc := cX9_drawn) (maxL := 5) (ret := (some .int)) (by decide +kernel) rfl ?_
  intro p e s m args below meth c s₁ B hml hv
  obtain ⟨rfl, ⟨hz, hW0⟩, hK⟩ := hv
  subst hz
  have hts := atoms_spec (ws := ws_ yX9_drawn cX9_drawn 5 (some .int)) B.pre
  have hts : ∀ w ∈ lw_all, w.before _ s = true := fun w h => hts w (List.mem_cons_of_mem _ h)
  have C : Cx G p s m _ meth c RX9 cX9_drawn 5 (some .int) := ⟨B.exec, B.bytes, B.returns, B.notSynchronized, hml, findClass_of_methodNamed B.named, hts, hK⟩
  have hl := lv_entry ([.ref b0, .int i1, .int i2]) (n := 5) (Nat.le_of_ble_eq_true rfl)
  rw [lg_entry_eq]
  generalize (lg_sl ([.ref b0, .int i1, .int i2]) ++ List.replicate (5 - (lg_sl ([.ref b0, .int i1, .int i2])).length) Slot.unset).toArray = ls at hl ⊢
  have hl : lv_has ls 5 [(0, .ref b0), (1, .int i1), (2, .int i2)] := hl
  exact w_fX9_drawn C _ _ _ hm s.heap [] ls hW0 va_S.rf rfl hl
noncomputable def fX9_offerOf_2 (V0 : Mem) (k2 : Int32 → Int32 → Option (Int32)) (i1 : Int32) (i2 : Int32) : Option (Int32) :=
  gb (inR (6 : Int32) 150) (
  if (gI V0 1 (6 : Int32).toNatClampNeg) ≤ i2 then (
  some (-1 : Int32))
  else (
  gb (inR ((110 : Int32) + ((2 : Int32) * i2)) 150) (
  if (gI V0 1 ((110 : Int32) + ((2 : Int32) * i2)).toNatClampNeg) = i1 then (
  some i2)
  else (
  k2 i1 (i2 + (1 : Int32))))))
noncomputable def fX9_offerOf (V0 : Mem) (i1 : Int32) : Option (Int32) :=
  lq2 (fX9_offerOf_2 V0) FU i1 (0 : Int32)
set_option maxHeartbeats 4000000 in
theorem w_fX9_offerOf_2 (C : Cx G p s m args meth c RX9 cX9_offerOf 3 (some .int)) {b0 : Nat} {V0 : Mem} {rx : Int32} (hW0 : rg G b0 46 (shX9 G.2.1) V0 s.heap) {k2 : Int32 → Int32 → Option (Int32)} (hk2 : ∀ (i1 : Int32) (i2 : Int32), k2 i1 i2 = some rx → ∀ (ls : Array Slot), lv_has ls 3 [(0, .ref b0), (1, .int i1), (2, .int i2)] → W p l e (rmP 0 0) s m args below meth c s.heap [] 0 0 (MQ below (QcP (some (.int rx))) args s 0 0 (fun _ => False)) (F0 m 2 ls [])) : ∀ (i1 : Int32) (i2 : Int32), fX9_offerOf_2 V0 k2 i1 i2 = some rx → ∀ (ls : Array Slot), lv_has ls 3 [(0, .ref b0), (1, .int i1), (2, .int i2)] → W p l e (rmP 0 0) s m args below meth c s.heap [] 0 0 (MQ below (QcP (some (.int rx))) args s 0 0 (fun _ => False)) (F0 m 2 ls []) := by
  intro i1 i2 hm ls hl
  obtain ⟨hx, hb, hr, hlk, hml, hown, hts, hK⟩ := id C
  unfold fX9_offerOf_2 at hm
  refine lv_iload_n (pc := 2) hx hb dX9_offerOf_2 rfl (lv_at hl 2 rfl) ?_
  refine lv_aload_n (pc := 3) hx hb dX9_offerOf_3 rfl (lv_at hl 0 rfl) ?_
  refine rk_get (pc := 4) hx hb hts hown hK hW0 flX9_11 0 (by decide) rfl rfl (x := .ref (b0 + 1)) (by first | rfl | exact congrArg (fun z => some (Value.ref z)) (by omega)) dX9_offerOf_4 ?_
  refine lv_bipush (pc := 7) (v := (6 : Int32)) hx hb dX9_offerOf_7 (by decide) ?_
  obtain ⟨hg1, hm⟩ := gb_some hm
  refine rk_iald (pc := 9) hx hb hK hW0 1 (by decide) rfl rfl hg1 (x := (gI V0 1 (6 : Int32).toNatClampNeg)) rfl dX9_offerOf_9 ?_
  refine lv_icmp_ge (pc := 10) (tgt := 36) hx hb dX9_offerOf_10 (by decide) (fun c2 => ?_) (fun c2 => ?_)
  · have hm := ite_t c2 hm
    refine lv_iconst (pc := 36) (v := (-1 : Int32)) hx hb dX9_offerOf_36 (by decide) ?_
    have e9 := rs1 hm
    subst e9
    exact rk_iretP (pc := 37) hx hb hr hlk rfl dX9_offerOf_37
  · have hm := ite_f c2 hm
    refine lv_aload_n (pc := 13) hx hb dX9_offerOf_13 rfl (lv_at hl 0 rfl) ?_
    refine rk_get (pc := 14) hx hb hts hown hK hW0 flX9_11 0 (by decide) rfl rfl (x := .ref (b0 + 1)) (by first | rfl | exact congrArg (fun z => some (Value.ref z)) (by omega)) dX9_offerOf_14 ?_
    refine lv_bipush (pc := 17) (v := (110 : Int32)) hx hb dX9_offerOf_17 (by decide) ?_
    refine lv_iconst (pc := 19) (v := (2 : Int32)) hx hb dX9_offerOf_19 (by decide) ?_
    refine lv_iload_n (pc := 20) hx hb dX9_offerOf_20 rfl (lv_at hl 2 rfl) ?_
    refine lv_imul (pc := 21) hx hb dX9_offerOf_21 ?_
    refine lv_iadd (pc := 22) hx hb dX9_offerOf_22 ?_
    obtain ⟨hg3, hm⟩ := gb_some hm
    refine rk_iald (pc := 23) hx hb hK hW0 1 (by decide) rfl rfl hg3 (x := (gI V0 1 ((110 : Int32) + ((2 : Int32) * i2)).toNatClampNeg)) rfl dX9_offerOf_23 ?_
    refine lv_iload_n (pc := 24) hx hb dX9_offerOf_24 rfl (lv_at hl 1 rfl) ?_
    refine lv_icmp_ne (pc := 25) (tgt := 30) hx hb dX9_offerOf_25 (by decide) (fun c4 => ?_) (fun c4 => ?_)
    · have hm := ite_f c4 hm
      refine lv_iinc (pc := 30) (v := (i2 + (1 : Int32))) (lv' := [(2, .int (i2 + (1 : Int32))), (0, .ref b0), (1, .int i1)]) hx hb dX9_offerOf_30 hl (k := 2) rfl rfl (by decide) rfl (fun ls hl => ?_)
      refine lv_goto (pc := 33) (tgt := 2) hx hb dX9_offerOf_33 (by decide) ?_
      exact hk2 i1 (i2 + (1 : Int32)) hm ls (lv_sub hl [1, 2, 0] rfl)
    · have hm := ite_t c4 hm
      refine lv_iload_n (pc := 28) hx hb dX9_offerOf_28 rfl (lv_at hl 2 rfl) ?_
      have e9 := rs1 hm
      subst e9
      exact rk_iretP (pc := 29) hx hb hr hlk rfl dX9_offerOf_29
theorem w_fX9_offerOf_2_l (C : Cx G p s m args meth c RX9 cX9_offerOf 3 (some .int)) {b0 : Nat} {V0 : Mem} {rx : Int32} (hW0 : rg G b0 46 (shX9 G.2.1) V0 s.heap) : ∀ (n : Nat) (i1 : Int32) (i2 : Int32), lq2 (fX9_offerOf_2 V0) n i1 i2 = some rx → ∀ (ls : Array Slot), lv_has ls 3 [(0, .ref b0), (1, .int i1), (2, .int i2)] → W p l e (rmP 0 0) s m args below meth c s.heap [] 0 0 (MQ below (QcP (some (.int rx))) args s 0 0 (fun _ => False)) (F0 m 2 ls []) := by
  intro n
  induction n with
  | zero => intro i1 i2 hm; exact (lq2_0 hm).elim
  | succ n ih => intro i1 i2 hm; exact w_fX9_offerOf_2 C hW0 ih i1 i2 (lq2_s hm)
set_option maxHeartbeats 4000000 in
theorem w_fX9_offerOf (C : Cx G p s m args meth c RX9 cX9_offerOf 3 (some .int)) {b0 : Nat} {V0 : Mem} {rx : Int32} (hW0 : rg G b0 46 (shX9 G.2.1) V0 s.heap) : ∀ (i1 : Int32), fX9_offerOf V0 i1 = some rx → ∀ (ls : Array Slot), lv_has ls 3 [(0, .ref b0), (1, .int i1)] → W p l e (rmP 0 0) s m args below meth c s.heap [] 0 0 (MQ below (QcP (some (.int rx))) args s 0 0 (fun _ => False)) (F0 m 0 ls []) := by
  intro i1 hm ls hl
  obtain ⟨hx, hb, hr, hlk, hml, hown, hts, hK⟩ := id C
  unfold fX9_offerOf at hm
  refine lv_iconst (pc := 0) (v := (0 : Int32)) hx hb dX9_offerOf_0 (by decide) ?_
  refine lv_istore_n (pc := 1) (lv' := [(2, .int (0 : Int32)), (0, .ref b0), (1, .int i1)]) hx hb dX9_offerOf_1 rfl hl (by decide) rfl (fun ls hl => ?_)
  exact (w_fX9_offerOf_2_l C hW0 FU) i1 (0 : Int32) hm ls (lv_sub hl [1, 2, 0] rfl)
set_option maxHeartbeats 4000000 in
theorem ct_X9_offerOf {G : Gv} {l : Launch} {b0 : Nat} {V0 : Mem} {i1 : Int32} {rx : Int32} (hm : fX9_offerOf V0 i1 = some rx) : CP G l yX9_offerOf (ws_ yX9_offerOf cX9_offerOf 3 (some .int)) 0 0 [.ref b0, .int i1] (fun H => rg G b0 46 (shX9 G.2.1) V0 H) (some (.int rx)) := by
  refine Met.ofW (cc := cX9_offerOf) (maxL := 3) (ret := (some .int)) (by decide +kernel) rfl ?_
  intro p e s m args below meth c s₁ B hml hv
  obtain ⟨rfl, hW0, hK⟩ := hv
  have hts := atoms_spec (ws := ws_ yX9_offerOf cX9_offerOf 3 (some .int)) B.pre
  have hts : ∀ w ∈ lw_all, w.before _ s = true := fun w h => hts w (List.mem_cons_of_mem _ h)
  have C : Cx G p s m _ meth c RX9 cX9_offerOf 3 (some .int) := ⟨B.exec, B.bytes, B.returns, B.notSynchronized, hml, findClass_of_methodNamed B.named, hts, hK⟩
  have hl := lv_entry ([.ref b0, .int i1]) (n := 3) (Nat.le_of_ble_eq_true rfl)
  rw [lg_entry_eq]
  generalize (lg_sl ([.ref b0, .int i1]) ++ List.replicate (3 - (lg_sl ([.ref b0, .int i1])).length) Slot.unset).toArray = ls at hl ⊢
  have hl : lv_has ls 3 [(0, .ref b0), (1, .int i1)] := hl
  exact w_fX9_offerOf C hW0 _ hm ls hl
end
