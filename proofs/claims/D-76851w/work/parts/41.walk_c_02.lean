set_option maxRecDepth 100000
section
variable {p : Program} {l : Launch} {e : Env} {s : State} {m : MethodId} {args : Array Value} {below : List Frame} {meth : Method} {c : Code} {G : Gv}
theorem yn_X0_branched : YN yX0_branched 0 := by
  unfold YN
  decide +kernel
theorem lkX0_457 : LV RX0 457 RX0 yX0_branched cX0_branched 3 (some (.object "WholePacks$Node")) := ⟨q1212, q1214, qs41, q114, q1215⟩
theorem fnX0_460 : FN RX0 460 8 2 RX8 TX8 8 "WholePacks" := ⟨in_X8, rfl, by decide, q467⟩
theorem fnX0_461 : FN RX0 461 8 3 RX8 TX8 8 "WholePacks" := ⟨in_X8, rfl, by decide, q469⟩
theorem fnX0_462 : FN RX0 462 8 1 RX8 TX8 8 "WholePacks" := ⟨in_X8, rfl, by decide, q465⟩
noncomputable def fX0_branch (PL : Nat → Bool) (Z : Nat) (b0 : Nat) (v0 : Mem) (v1 : Mem) (i1 : Int32) : Option (Int32 × Nat × Mem × Mem) :=
  ob (fX0_in i1.toInt64 (0 : Int64) ((3 : Int32) + (gI v0 1 0)).toInt64) fun r1 =>
  if r1 = 0 then (
  some ((-1 : Int32), 0, v0, v1))
  else (
  ob6 (fX0_branched PL (Z + 0) b0 v0 v1) fun ok8 re9 n4 rc5 w6 w7 =>
  if ok8 = true then (
  gb (decide (90 ≤ 90 ∧ 2200 ≤ 2200)) (
  if i1 = (0 : Int32) then (
  gb (nz64 (gL w6 (197 + 4 * n4 + 0) 3)) (
  some (((gL w6 (197 + 4 * n4 + 0) 2) / (gL w6 (197 + 4 * n4 + 0) 3)).toInt32, rc5, w6, w7)))
  else if i1 = (1 : Int32) then (
  some ((gI w6 0 20), rc5, w6, w7))
  else if i1 = (2 : Int32) then (
  some ((gI w6 (197 + 4 * n4 + 0) 1), rc5, w6, w7))
  else if i1 = (3 : Int32) then (
  some ((gI w6 0 21), rc5, w6, w7))
  else (
  gb (inR (i1 - (4 : Int32)) 5) (
  some ((gI w6 (197 + 4 * n4 + 3) (i1 - (4 : Int32)).toNatClampNeg), rc5, w6, w7)))))
  else (
  gb (decide (90 ≤ 90 ∧ 2200 ≤ 2200)) (
  if i1 = (1 : Int32) then (
  some ((gI w6 0 20), rc5, w6, w7))
  else (
  if i1 = (3 : Int32) then (
  some ((gI w6 0 21), rc5, w6, w7))
  else (
  some (re9, rc5, w6, w7))))))
set_option maxHeartbeats 4000000 in
theorem w_fX0_branch (C : Cx G p s m args meth c RX0 cX0_branch 3 (some .int)) {b0 : Nat} {PL : Nat → Bool} {Z : Nat} {vP0 : Mem} {rx : Int32} {rc : Nat} {rw0 : Mem} {rw1 : Mem} (hPX : ∀ z, PL z = true → ¬ fX b0 z) (he0 : b0 + 357 ≤ s.heap.size) (hZz : s.heap.size = Z) (hZ : ZQ G) (hgb0 : gB G ≤ b0) (hPg : ∀ z, PL z = true → gB G ≤ z) (hZP : ZP G) (ht : c.exceptionTable.toList = tableOf [(21, 66, 91, 424), (67, 71, 91, 424), (72, 76, 91, 424), (77, 81, 91, 424), (82, 90, 91, 424)]) : ∀ (v0 : Mem) (v1 : Mem) (i1 : Int32), fX0_branch PL Z b0 v0 v1 i1 = some (rx, rc, rw0, rw1) → ∀ (H : Heap) (locs : List Loc) (ls : Array Slot), rg G b0 357 (shX0 G.2.1) v0 H → pl G PL v1 H → va_S (FA (fun z => (fX b0) z ∨ (fP PL vP0) z) s.heap.size) s.heap H locs → H.size = s.heap.size + 0 → KM vP0 v1 s.heap.size → GO G H → 0 ≤ 90 ∧ 0 ≤ 2200 → lv_has ls 3 [(0, .ref b0), (1, .int i1)] → W p l e (rmT 10 90 2200 276) s m args below meth c H locs 0 0 (MQ below (QcT (FA (fun z => (fX b0) z ∨ (fP PL vP0) z) s.heap.size) (fun ov H => ov = (some (.int rx)) ∧ rg G b0 357 (shX0 G.2.1) rw0 H ∧ pl G PL rw1 H ∧ H.size = s.heap.size + rc ∧ KM vP0 rw1 s.heap.size)) args s 90 2200 (FA (fun z => (fX b0) z ∨ (fP PL vP0) z) s.heap.size)) (F0 m 0 ls []) := by
  intro v0 v1 i1 hm H locs ls hW0 hW1 hS hz hKM hG hcb hl
  obtain ⟨hx, hb, hr, hlk, hml, hown, hts, hK⟩ := id C
  unfold fX0_branch at hm
  refine lv_iload_n (pc := 0) hx hb dX0_branch_0 rfl (lv_at hl 1 rfl) ?_
  refine lv_i2l (pc := 1) hx hb dX0_branch_1 rfl ?_
  refine lv_lconst (pc := 2) (v := (0 : Int64)) hx hb dX0_branch_2 (by decide) ?_
  refine lv_iconst (pc := 3) (v := (3 : Int32)) hx hb dX0_branch_3 (by decide) ?_
  refine lv_aload_n (pc := 4) hx hb dX0_branch_4 rfl (lv_at hl 0 rfl) ?_
  refine rk_get (pc := 5) hx hb hts hown hK hW0 flX0_12 0 (by decide) rfl rfl (x := .ref (b0 + 1)) (by first | rfl | exact congrArg (fun z => some (Value.ref z)) (by omega)) dX0_branch_5 ?_
  refine rk_getN (pc := 8) hx hb hts hown hK hW0 fnX0_131 1 (by decide) rfl rfl (x := .int (gI v0 1 0)) rfl dX0_branch_8 ?_
  refine lv_iadd (pc := 11) hx hb dX0_branch_11 ?_
  refine lv_i2l (pc := 12) hx hb dX0_branch_12 rfl ?_
  obtain ⟨r1, hq2, hm⟩ := ob_some hm
  refine rk_PS (pc := 13) (As := [.long i1.toInt64, .long (0 : Int64), .long ((3 : Int32) + (gI v0 1 0)).toInt64]) (rest := []) hx hb hml hown hts hK lkX0_127 yn_X0_in (ct_X0_in (G := G) (l := l) hq2) ⟨Nat.le_of_ble_eq_true rfl, Nat.le_of_ble_eq_true rfl⟩ trivial rfl rfl hl.1 (Nat.le_of_ble_eq_true rfl) dX0_branch_13 hcb ?_
  refine W.eq (g2 := F0 m 16 ls [.int r1]) rfl ?_
  refine lv_if_ne (pc := 16) (tgt := 21) hx hb dX0_branch_16 (by decide) (fun c3 => ?_) (fun c3 => ?_)
  · have hm := ite_f c3 hm
    refine lv_aload_n (pc := 21) hx hb dX0_branch_21 rfl (lv_at hl 0 rfl) ?_
    obtain ⟨ok8, re9, n4, rc5, w6, w7, hq10, hm⟩ := ob6_some hm
    have hq11 := hq10
    rw [show (Z + 0) = H.size by omega] at hq11
    by_cases hok : ok8 = true
    · subst hok
      have hm := ite_t rfl hm
      obtain ⟨hg17, hm⟩ := gb_some hm
      have hg17 := of_decide_eq_true hg17
      refine rk_TV (pc := 22) (As := []) (rest := []) (mc := 90) (ms := 2200) hx hb hml hown hts hK hS (fun q hq => FA_sz rfl q hq) lkX0_457 rfl yn_X0_branched (CX.ret (ct_X0_branched (G := G) (l := l) (rok := true) (b0 := b0) hq11 hPX hZ (by omega) hPg hZP)) ⟨Nat.le_of_ble_eq_true rfl, Nat.le_of_ble_eq_true rfl⟩ (fun z h => h.elim (fun h => Or.inl (Or.inl h)) (fun h => (FA_r (KM_hf2 hKM z h)))) (rk_recv hK hW0 0 (by decide) rfl rfl rfl) ⟨hW0, hW1, hG⟩ rfl rfl hl.1 (Nat.le_of_ble_eq_true rfl) dX0_branch_22 ⟨hg17.1, hg17.2⟩ (fun ov9 H12 locs13 hP14 hkp15 hS16 => ?_)
      obtain ⟨rfl, hW18, hW19, hz20, hKM21, hlt22⟩ := hP14
      have hG23 := GO_keepA hG hkp15 (Nat.le_trans (show gB G ≤ s.heap.size by omega) hS.1) (by intro z h3; rcases h3 with h3 | h3
    · have h8 := h3.1.1; have h9 := h3.1.2; omega
    · exact hPg _ h3.1)
      have hz24 : H12.size = s.heap.size + rc5 := by omega
      have hKM25 := KM.trans hKM hKM21 (by omega)
      refine W.eq (g2 := F0 m 25 ls [.ref (b0 + (197 + 4 * n4 + 0))]) (by first | rfl | exact congrArg (fun z => F0 m 25 ls (Value.ref z :: [])) (show _ = (b0 + (197 + 4 * n4 + 0)) by omega)) ?_
      refine lv_astore_n (pc := 25) (lv' := [(2, .ref (b0 + (197 + 4 * n4 + 0))), (0, .ref b0), (1, .int i1)]) hx hb dX0_branch_25 rfl hl (by decide) rfl (fun ls hl => ?_)
      refine lv_iload_n (pc := 26) hx hb dX0_branch_26 rfl (lv_at hl 2 rfl) ?_
      by_cases c26 : i1 = (0 : Int32)
      · have hm := ite_t c26 hm
        refine lv_tableIn (pc := 27) (tgt := 56) hx hb dX0_branch_27 (by rw [c26]; decide) (by rw [c26]; decide) (by rw [c26]; rfl) (by decide) ?_
        refine lv_aload_n (pc := 56) hx hb dX0_branch_56 rfl (lv_at hl 0 rfl) ?_
        refine rk_getN (pc := 57) hx hb hts hown hK hW18 fnX0_460 (197 + 4 * n4 + 0) (by omega) rfl ((shX0_f197 G.2.1 hlt22 _ rfl 0 (by decide) _ _ _).trans rfl) (x := .long (gL w6 (197 + 4 * n4 + 0) 2)) rfl dX0_branch_57 ?_
        refine lv_aload_n (pc := 60) hx hb dX0_branch_60 rfl (lv_at hl 0 rfl) ?_
        refine rk_getN (pc := 61) hx hb hts hown hK hW18 fnX0_461 (197 + 4 * n4 + 0) (by omega) rfl ((shX0_f197 G.2.1 hlt22 _ rfl 0 (by decide) _ _ _).trans rfl) (x := .long (gL w6 (197 + 4 * n4 + 0) 3)) rfl dX0_branch_61 ?_
        obtain ⟨hg27, hm⟩ := gb_some hm
        refine lv_ldiv (pc := 64) hx hb dX0_branch_64 (nz64_ne hg27) ?_
        refine lv_l2i (pc := 65) hx hb dX0_branch_65 rfl ?_
        obtain ⟨e6, e7, e8, e9⟩ := rs4 hm
        subst e6
        subst e7
        subst e8
        subst e9
        exact rk_iretA (pc := 66) hx hb hr hlk hS16 ⟨rfl, hW18, hW19, hz24, hKM25⟩ dX0_branch_66 hg17.1 hg17.2
      have hm := ite_f c26 hm
      by_cases c28 : i1 = (1 : Int32)
      · have hm := ite_t c28 hm
        refine lv_tableIn (pc := 27) (tgt := 67) hx hb dX0_branch_27 (by rw [c28]; decide) (by rw [c28]; decide) (by rw [c28]; rfl) (by decide) ?_
        refine lv_aload_n (pc := 67) hx hb dX0_branch_67 rfl (lv_at hl 1 rfl) ?_
        refine rk_get (pc := 68) hx hb hts hown hK hW18 flX0_429 0 (by decide) rfl rfl (x := .int (gI w6 0 20)) rfl dX0_branch_68 ?_
        obtain ⟨e6, e7, e8, e9⟩ := rs4 hm
        subst e6
        subst e7
        subst e8
        subst e9
        exact rk_iretA (pc := 71) hx hb hr hlk hS16 ⟨rfl, hW18, hW19, hz24, hKM25⟩ dX0_branch_71 hg17.1 hg17.2
      have hm := ite_f c28 hm
      by_cases c29 : i1 = (2 : Int32)
      · have hm := ite_t c29 hm
        refine lv_tableIn (pc := 27) (tgt := 72) hx hb dX0_branch_27 (by rw [c29]; decide) (by rw [c29]; decide) (by rw [c29]; rfl) (by decide) ?_
        refine lv_aload_n (pc := 72) hx hb dX0_branch_72 rfl (lv_at hl 0 rfl) ?_
        refine rk_getN (pc := 73) hx hb hts hown hK hW18 fnX0_462 (197 + 4 * n4 + 0) (by omega) rfl ((shX0_f197 G.2.1 hlt22 _ rfl 0 (by decide) _ _ _).trans rfl) (x := .int (gI w6 (197 + 4 * n4 + 0) 1)) rfl dX0_branch_73 ?_
        obtain ⟨e6, e7, e8, e9⟩ := rs4 hm
        subst e6
        subst e7
        subst e8
        subst e9
        exact rk_iretA (pc := 76) hx hb hr hlk hS16 ⟨rfl, hW18, hW19, hz24, hKM25⟩ dX0_branch_76 hg17.1 hg17.2
      have hm := ite_f c29 hm
      by_cases c30 : i1 = (3 : Int32)
      · have hm := ite_t c30 hm
        refine lv_tableIn (pc := 27) (tgt := 77) hx hb dX0_branch_27 (by rw [c30]; decide) (by rw [c30]; decide) (by rw [c30]; rfl) (by decide) ?_
        refine lv_aload_n (pc := 77) hx hb dX0_branch_77 rfl (lv_at hl 1 rfl) ?_
        refine rk_get (pc := 78) hx hb hts hown hK hW18 flX0_418 0 (by decide) rfl rfl (x := .int (gI w6 0 21)) rfl dX0_branch_78 ?_
        obtain ⟨e6, e7, e8, e9⟩ := rs4 hm
        subst e6
        subst e7
        subst e8
        subst e9
        exact rk_iretA (pc := 81) hx hb hr hlk hS16 ⟨rfl, hW18, hW19, hz24, hKM25⟩ dX0_branch_81 hg17.1 hg17.2
      have hm := ite_f c30 hm
      refine lv_tableOut (pc := 27) (tgt := 82) hx hb dX0_branch_27 (tsw4 c26 c28 c29 c30) (by decide) ?_
      refine lv_aload_n (pc := 82) hx hb dX0_branch_82 rfl (lv_at hl 0 rfl) ?_
      refine rk_getN (pc := 83) hx hb hts hown hK hW18 fnX0_443 (197 + 4 * n4 + 0) (by omega) rfl ((shX0_f197 G.2.1 hlt22 _ rfl 0 (by decide) _ _ _).trans rfl) (x := .ref (b0 + (197 + 4 * n4 + 3))) (by first | rfl | exact congrArg (fun z => some (Value.ref z)) (by omega)) dX0_branch_83 ?_
      refine lv_iload_n (pc := 86) hx hb dX0_branch_86 rfl (lv_at hl 2 rfl) ?_
      refine lv_iconst (pc := 87) (v := (4 : Int32)) hx hb dX0_branch_87 (by decide) ?_
      refine lv_isub (pc := 88) hx hb dX0_branch_88 ?_
      obtain ⟨hg31, hm⟩ := gb_some hm
      refine rk_iald (pc := 89) hx hb hK hW18 (197 + 4 * n4 + 3) (by omega) rfl ((shX0_f197 G.2.1 hlt22 _ rfl 3 (by decide) _ _ _).trans rfl) hg31 (x := (gI w6 (197 + 4 * n4 + 3) (i1 - (4 : Int32)).toNatClampNeg)) rfl dX0_branch_89 ?_
      obtain ⟨e6, e7, e8, e9⟩ := rs4 hm
      subst e6
      subst e7
      subst e8
      subst e9
      exact rk_iretA (pc := 90) hx hb hr hlk hS16 ⟨rfl, hW18, hW19, hz24, hKM25⟩ dX0_branch_90 hg17.1 hg17.2
    · have hok := eq_false_of_ne_true hok
      subst hok
      have hm := ite_f Bool.false_ne_true hm
      obtain ⟨hg38, hm⟩ := gb_some hm
      have hg38 := of_decide_eq_true hg38
      refine rk_XV (pc := 22) (As := []) (rest := []) (mc := 90) (ms := 2200) hx hb hml hown hts hK hS (fun q hq => FA_sz rfl q hq) lkX0_457 rfl yn_X0_branched (ct_X0_branched (G := G) (l := l) (rok := false) (b0 := b0) hq11 hPX hZ (by omega) hPg hZP) ⟨Nat.le_of_ble_eq_true rfl, Nat.le_of_ble_eq_true rfl⟩ (fun z h => h.elim (fun h => Or.inl (Or.inl h)) (fun h => (FA_r (KM_hf2 hKM z h)))) (rk_recv hK hW0 0 (by decide) rfl rfl rfl) ⟨hW0, hW1, hG⟩ rfl rfl hl.1 (Nat.le_of_ble_eq_true rfl) dX0_branch_22 ⟨hg38.1, hg38.2⟩ (fun q37 E9 ce9 H32 locs33 hP34 hkp35 hS36 hce9 hcv9 hcl9 => ?_)
      obtain ⟨rfl, hqq37, ⟨wx41, hW42, hre43⟩, hW39, hW40, hz44, hKM45⟩ := hP34
      have hqq37 : s.heap.size ≤ q37 := Nat.le_trans hS.1 hqq37
      have hG46 := GO_keepA hG hkp35 (Nat.le_trans (show gB G ≤ s.heap.size by omega) hS.1) (by intro z h3; rcases h3 with h3 | h3
    · have h8 := h3.1.1; have h9 := h3.1.2; omega
    · exact hPg _ h3.1)
      have hz47 : H32.size = s.heap.size + rc5 := by omega
      have hKM48 := KM.trans hKM hKM45 (by omega)
      obtain ⟨ce8, hce8, hcv8, hcl8⟩ := rk_exc hK hW42 rfl rfl
      refine rk_catch hK hown hts ht [] ⟨21, 66, 91, 424⟩ [⟨67, 71, 91, 424⟩, ⟨72, 76, 91, 424⟩, ⟨77, 81, 91, 424⟩, ⟨82, 90, 91, 424⟩] rfl (by decide) (by decide) (by decide) q1211 q818 hce8 hcv8 hcl8 91 rfl ?_
      refine lv_astore_n (pc := 91) (lv' := [(2, .ref q37), (0, .ref b0), (1, .int i1)]) hx hb dX0_branch_91 rfl hl (by decide) rfl (fun ls hl => ?_)
      refine lv_iload_n (pc := 92) hx hb dX0_branch_92 rfl (lv_at hl 2 rfl) ?_
      refine lv_iconst (pc := 93) (v := (1 : Int32)) hx hb dX0_branch_93 (by decide) ?_
      refine lv_icmp_ne (pc := 94) (tgt := 104) hx hb dX0_branch_94 (by decide) (fun c49 => ?_) (fun c49 => ?_)
      · have hm := ite_f c49 hm
        refine lv_iload_n (pc := 104) hx hb dX0_branch_104 rfl (lv_at hl 2 rfl) ?_
        refine lv_iconst (pc := 105) (v := (3 : Int32)) hx hb dX0_branch_105 (by decide) ?_
        refine lv_icmp_ne (pc := 106) (tgt := 116) hx hb dX0_branch_106 (by decide) (fun c50 => ?_) (fun c50 => ?_)
        · have hm := ite_f c50 hm
          refine lv_aload_n (pc := 116) hx hb dX0_branch_116 rfl (lv_at hl 0 rfl) ?_
          refine rk_getN (pc := 117) hx hb hts hown hK hW42 fnX0_426 0 (by decide) rfl rfl (x := .int re9) (congrArg (fun z => some (Value.int z)) hre43) dX0_branch_117 ?_
          obtain ⟨e6, e7, e8, e9⟩ := rs4 hm
          subst e6
          subst e7
          subst e8
          subst e9
          exact rk_iretA (pc := 120) hx hb hr hlk hS36 ⟨rfl, hW39, hW40, hz47, hKM48⟩ dX0_branch_120 hg38.1 hg38.2
        · have hm := ite_t c50 hm
          refine lv_aload_n (pc := 109) hx hb dX0_branch_109 rfl (lv_at hl 1 rfl) ?_
          refine rk_get (pc := 110) hx hb hts hown hK hW39 flX0_418 0 (by decide) rfl rfl (x := .int (gI w6 0 21)) rfl dX0_branch_110 ?_
          refine lv_goto (pc := 113) (tgt := 120) hx hb dX0_branch_113 (by decide) ?_
          obtain ⟨e6, e7, e8, e9⟩ := rs4 hm
          subst e6
          subst e7
          subst e8
          subst e9
          exact rk_iretA (pc := 120) hx hb hr hlk hS36 ⟨rfl, hW39, hW40, hz47, hKM48⟩ dX0_branch_120 hg38.1 hg38.2
      · have hm := ite_t c49 hm
        refine lv_aload_n (pc := 97) hx hb dX0_branch_97 rfl (lv_at hl 1 rfl) ?_
        refine rk_get (pc := 98) hx hb hts hown hK hW39 flX0_429 0 (by decide) rfl rfl (x := .int (gI w6 0 20)) rfl dX0_branch_98 ?_
        refine lv_goto (pc := 101) (tgt := 120) hx hb dX0_branch_101 (by decide) ?_
        obtain ⟨e6, e7, e8, e9⟩ := rs4 hm
        subst e6
        subst e7
        subst e8
        subst e9
        exact rk_iretA (pc := 120) hx hb hr hlk hS36 ⟨rfl, hW39, hW40, hz47, hKM48⟩ dX0_branch_120 hg38.1 hg38.2
  · have hm := ite_t c3 hm
    refine lv_iconst (pc := 19) (v := (-1 : Int32)) hx hb dX0_branch_19 (by decide) ?_
    obtain ⟨e6, e7, e8, e9⟩ := rs4 hm
    subst e6
    subst e7
    subst e8
    subst e9
    exact rk_iretA (pc := 20) hx hb hr hlk hS ⟨rfl, hW0, hW1, hz, hKM⟩ dX0_branch_20 hcb.1 hcb.2
set_option maxHeartbeats 4000000 in
theorem ct_X0_branch {G : Gv} {l : Launch} {b0 : Nat} {PL : Nat → Bool} {Z : Nat} {v0 : Mem} {v1 : Mem} {i1 : Int32} {rx : Int32} {rc : Nat} {rw0 : Mem} {rw1 : Mem} (hm : fX0_branch PL Z b0 v0 v1 i1 = some (rx, rc, rw0, rw1)) (hPX : ∀ z, PL z = true → ¬ fX b0 z) (hZ : ZQ G) (hgb0 : gB G ≤ b0) (hPg : ∀ z, PL z = true → gB G ≤ z) (hZP : ZP G) : CT G l yX0_branch (wsW_ yX0_branch cX0_branch 3 (some .int) [(21, 66, 91, 424), (67, 71, 91, 424), (72, 76, 91, 424), (77, 81, 91, 424), (82, 90, 91, 424)]) 10 90 2200 276 [.ref b0, .int i1] (fun z => (fX b0) z ∨ (fP PL v1) z) Z (fun H => rg G b0 357 (shX0 G.2.1) v0 H ∧ pl G PL v1 H ∧ GO G H) (fun ov H => ov = (some (.int rx)) ∧ rg G b0 357 (shX0 G.2.1) rw0 H ∧ pl G PL rw1 H ∧ H.size = Z + rc ∧ KM v1 rw1 Z) := by
  refine va_MetW (cc := cX0_branch) (maxL := 3) (ret := (some .int)) (by decide +kernel) rfl ?_
  intro p e s m args below meth c s₁ B hml hv
  obtain ⟨rfl, ⟨hz, hW0, hW1, hG⟩, hK⟩ := hv
  subst hz
  have he0 := rg_end hW0 356 (by decide) rfl (fun _ _ _ => rfl)
  have hZz : s.heap.size = s.heap.size := rfl
  have ht := vx_table (x := yX0_branch) B (atoms_spec (ws := wsW_ yX0_branch cX0_branch 3 (some .int) [(21, 66, 91, 424), (67, 71, 91, 424), (72, 76, 91, 424), (77, 81, 91, 424), (82, 90, 91, 424)]) B.pre _ List.mem_cons_self)
  have hts := atoms_spec (ws := wsW_ yX0_branch cX0_branch 3 (some .int) [(21, 66, 91, 424), (67, 71, 91, 424), (72, 76, 91, 424), (77, 81, 91, 424), (82, 90, 91, 424)]) B.pre
  have hts : ∀ w ∈ lw_all, w.before _ s = true := fun w h => hts w (List.mem_cons_of_mem _ h)
  have C : Cx G p s m _ meth c RX0 cX0_branch 3 (some .int) := ⟨B.exec, B.bytes, B.returns, B.notSynchronized, hml, findClass_of_methodNamed B.named, hts, hK⟩
  have hl := lv_entry ([.ref b0, .int i1]) (n := 3) (Nat.le_of_ble_eq_true rfl)
  rw [lg_entry_eq]
  generalize (lg_sl ([.ref b0, .int i1]) ++ List.replicate (3 - (lg_sl ([.ref b0, .int i1])).length) Slot.unset).toArray = ls at hl ⊢
  have hl : lv_has ls 3 [(0, .ref b0), (1, .int i1)] := hl
  exact w_fX0_branch C hPX he0 hZz hZ hgb0 hPg hZP ht _ _ _ hm s.heap [] ls hW0 hW1 va_S.rf rfl KM.rf hG ⟨Nat.zero_le _, Nat.zero_le _⟩ hl
theorem df_X14 (fs : List Value) (h : fs = [.int 0, .int 0]) : ∀ j, j < 2 → defaultValue (tyX14 j) = vp_V fs j := by
  subst h
  intro j hj
  match j, hj with
  | 0, _ => rfl
  | 1, _ => rfl
  | n + 2, h => exact absurd h (by omega)
theorem yn_X14_init : YN yX14_init 2 := by
  unfold YN
  decide +kernel
theorem lkX0_501 : LI RX0 501 yX14_init cX14_init 3 := ⟨q1336, q1337, q139, q1338, rfl⟩
theorem yn_J1_size : YN yJ1_size 0 := by
  unfold YN
  decide +kernel
theorem lkX0_503 : LV RX0 503 RJ1 yJ1_size cJ1_size 1 (some .int) := ⟨q1349, q1265, q2394, q120, q1267⟩
theorem yn_J1_containsKey : YN yJ1_containsKey 1 := by
  unfold YN
  decide +kernel
theorem lkX0_504 : LV RX0 504 RJ1 yJ1_containsKey cJ1_containsKey 2 (some .boolean) := ⟨q1350, q1351, q1352, q120, q1353⟩
theorem df_X15 (fs : List Value) (h : fs = [.int 0]) : ∀ j, j < 1 → defaultValue (tyX15 j) = vp_V fs j := by
  subst h
  intro j hj
  match j, hj with
  | 0, _ => rfl
  | n + 1, h => exact absurd h (by omega)
theorem yn_X15_init : YN yX15_init 1 := by
  unfold YN
  decide +kernel
theorem lkX0_509 : LI RX0 509 yX15_init cX15_init 2 := ⟨q1372, q1373, q141, q1374, rfl⟩
theorem yn_J1_put : YN yJ1_put 2 := by
  unfold YN
  decide +kernel
theorem lkX0_510 : LV RX0 510 RJ1 yJ1_put cJ1_put 3 (some (.object "java/lang/Object")) := ⟨q1381, q1382, q1383, q120, q1384⟩
theorem fnX0_514 : FN RX0 514 15 0 RX15 TX15 1 "WholePacks" := ⟨in_X15, rfl, by decide, q1377⟩
noncomputable def fX0_offer_66 (PL : Nat → Bool) (Z : Nat) (b0 : Nat) (v0 : Mem) (v1 : Mem) (zc : Nat) (i2 : Int32) (p3 : Nat) : Option (Int32 × Nat × Mem × Mem) :=
  ln (Z + zc) fun h53 =>
  gb (PL h53) (
  lm (nwP v1 h53 15 0) fun v1_57 =>
  ob (fX15_init PL v1_57 h53 i2) fun w66 =>
  gb (kd PL w66 (b0 + 153) 16) (
  ob3 (fJ1_put PL (Z + (zc + 1)) w66 (b0 + 153) p3 h53) fun o80 rc81 w82 =>
  od o80 (
  some ((-5 : Int32), (zc + 1 + rc81), v0, w82)) (fun p96 =>
  gb (kd PL w82 p96 15) (
  gb (kd PL w82 p96 15) (
  some ((gI w82 p96 0), (zc + 1 + rc81), v0, w82))))))
noncomputable def fX0_offer (PL : Nat → Bool) (Z : Nat) (b0 : Nat) (v0 : Mem) (v1 : Mem) (i1 : Int32) (i2 : Int32) : Option (Int32 × Nat × Mem × Mem) :=
  ob2 (fX0_reads v0 i1) fun r1 w2 =>
  if r1 = 0 then (
  some ((-2 : Int32), 0, w2, v1))
  else (
  ob (fX0_in i2.toInt64 (0 : Int64) (999 : Int64)) fun r14 =>
  if r14 = 0 then (
  some ((-2 : Int32), 0, w2, v1))
  else (
  ln (Z + 0) fun h17 =>
  gb (PL h17) (
  lm (nwP v1 h17 14 0) fun v1_21 =>
  ob (fX0_costOf_asked w2) fun r30 =>
  ob (fX14_init PL v1_21 h17 r30 i1) fun w32 =>
  gb (kd PL w32 (b0 + 153) 16) (
  ob (fJ1_size PL w32 (b0 + 153)) fun r46 =>
  if r46 = (20 : Int32) then (
  gb (kd PL w32 (b0 + 153) 16) (
  ob (fJ1_containsKey PL w32 (b0 + 153) h17) fun r50 =>
  if r50 = 0 then (
  some ((-4 : Int32), 1, w2, w32))
  else (
  fX0_offer_66 PL Z b0 w2 w32 1 i2 h17)))
  else (
  fX0_offer_66 PL Z b0 w2 w32 1 i2 h17)))))
set_option maxHeartbeats 4000000 in
theorem w_fX0_offer_66 (C : Cx G p s m args meth c RX0 cX0_offer 5 (some .int)) {b0 : Nat} {PL : Nat → Bool} {Z : Nat} {vP0 : Mem} {rx : Int32} {rc : Nat} {rw0 : Mem} {rw1 : Mem} (hPX : ∀ z, PL z = true → ¬ fX b0 z) (he0 : b0 + 357 ≤ s.heap.size) (hZz : s.heap.size = Z) (hZP : ZP G) : ∀ (v0 : Mem) (v1 : Mem) (zc : Nat) (i2 : Int32) (p3 : Nat), fX0_offer_66 PL Z b0 v0 v1 zc i2 p3 = some (rx, rc, rw0, rw1) → ∀ (H : Heap) (locs : List Loc) (ls : Array Slot), rg G b0 357 (shX0 G.2.1) v0 H → pl G PL v1 H → va_S (FA (fun z => (fX b0) z ∨ (fP PL vP0) z) s.heap.size) s.heap H locs → H.size = s.heap.size + zc → KM vP0 v1 s.heap.size → lv_has ls 5 [(0, .ref b0), (2, .int i2), (3, .ref p3)] → W p l e (rmT 6 3 9 139) s m args below meth c H locs 1 2 (MQ below (QcT (FA (fun z => (fX b0) z ∨ (fP PL vP0) z) s.heap.size) (fun ov H => ov = (some (.int rx)) ∧ rg G b0 357 (shX0 G.2.1) rw0 H ∧ pl G PL rw1 H ∧ H.size = s.heap.size + rc ∧ KM vP0 rw1 s.heap.size)) args s 3 9 (FA (fun z => (fX b0) z ∨ (fP PL vP0) z) s.heap.size)) (F0 m 66 ls []) := by
  intro v0 v1 zc i2 p3 hm H locs ls hW0 hW1 hS hz hKM hl
  obtain ⟨hx, hb, hr, hlk, hml, hown, hts, hK⟩ := id C
  unfold fX0_offer_66 at hm
  refine lv_aload_n (pc := 66) hx hb dX0_offer_66 rfl (lv_at hl 0 rfl) ?_
  refine rk_get (pc := 67) hx hb hts hown hK hW0 flX0_37 0 (by decide) rfl rfl (x := .ref (b0 + 153)) (by first | rfl | exact congrArg (fun z => some (Value.ref z)) (by omega)) dX0_offer_67 ?_
  refine lv_aload_n (pc := 70) hx hb dX0_offer_70 rfl (lv_at hl 2 rfl) ?_
  obtain ⟨h53, hh54, hm⟩ := ln_some hm
  obtain ⟨hg55, hm⟩ := gb_some hm
  have hs56 : H.size = h53 := by omega
  refine rp_new (pc := 71) (h := h53) (kn := 15) (n := 0) hx hb hts hown hK hW1 hS in_X15 ft_X15 rfl q1370 q1371 q141 hs56 (shP_15 hg55 rfl) (df_X15 _ rfl) (Nat.le_of_ble_eq_true rfl) (Nat.le_of_ble_eq_true rfl) dX0_offer_71 (fun H58 hW59 hS60 hz61 hkp62 => ?_)
  have hKM63 := KM.nw (h := h53) (k := 15) (n := 0) hKM (by omega)
  obtain ⟨v1_57, he9, hm⟩ := lm_some hm
  rw [he9] at hW59 hKM63
  have hW64 := rg_keepN hW0 hs56 hkp62
  have hz65 : H58.size = s.heap.size + (zc + 1) := by omega
  refine lv_dup (pc := 74) hx hb dX0_offer_74 rfl ?_
  refine lv_iload_n (pc := 75) hx hb dX0_offer_75 rfl (lv_at hl 1 rfl) ?_
  obtain ⟨w66, hq67, hm⟩ := ob_some hm
  refine rk_TI (pc := 76) (As := [.int i2]) (rest := [.ref h53, .ref p3, .ref (b0 + 153)]) (mc := 0) (ms := 0) hx hb hml hown hts hK hS60 (fun q hq => FA_sz rfl q hq) lkX0_509 yn_X15_init (ct_X15_init (G := G) (l := l) (sz := H58.size) hq67) ⟨Nat.le_of_ble_eq_true rfl, Nat.le_of_ble_eq_true rfl⟩ (fun z h => (FA_r (KM_hf2 hKM63 z h))) hW59 rfl rfl hl.1 (Nat.le_of_ble_eq_true rfl) dX0_offer_76 ⟨Nat.le_of_ble_eq_true rfl, Nat.le_of_ble_eq_true rfl⟩ (fun ov9 H68 locs69 hP70 hkp71 hS72 => ?_)
  obtain ⟨rfl, hW73, hz74, hKM75⟩ := hP70
  have hW76 := rg_keepX hW64 hkp71 (by intro z h0 h3; have h1 := h0.1.1; have h2 := h0.1.2; have h4 := h0.2; exact hPX _ h3.1 h0)
  have hz77 := hz74.trans hz65
  have hKM78 := KM.trans hKM63 hKM75 (by omega)
  refine W.eq (g2 := F0 m 79 ls [.ref h53, .ref p3, .ref (b0 + 153)]) rfl ?_
  obtain ⟨hg79, hm⟩ := gb_some hm
  obtain ⟨o80, rc81, w82, hq83, hm⟩ := ob3_some hm
  have hq84 := hq83
  rw [show (Z + (zc + 1)) = H68.size by omega] at hq84
  refine rk_TV (pc := 79) (As := [.ref p3, .ref h53]) (rest := []) (mc := 1) (ms := 6) hx hb hml hown hts hK hS72 (fun q hq => FA_sz rfl q hq) lkX0_510 rfl yn_J1_put (ct_J1_put (G := G) (l := l) hq84 hZP) ⟨Nat.le_of_ble_eq_true rfl, Nat.le_of_ble_eq_true rfl⟩ (fun z h => (FA_r (KM_hf2 hKM78 z h))) (rp_recv hK hW73 (C := RJ1) (T := TJ1) (N := 9) rfl (shP_16 (kd_PL hg79) (kd_k hg79))) hW73 rfl rfl hl.1 (Nat.le_of_ble_eq_true rfl) dX0_offer_79 ⟨Nat.le_of_ble_eq_true rfl, Nat.le_of_ble_eq_true rfl⟩ (fun ov9 H85 locs86 hP87 hkp88 hS89 => ?_)
  obtain ⟨rfl, hW90, hz91, hKM92⟩ := hP87
  have hW93 := rg_keepX hW76 hkp88 (by intro z h0 h3; have h1 := h0.1.1; have h2 := h0.1.2; have h4 := h0.2; exact hPX _ h3.1 h0)
  have hz94 : H85.size = s.heap.size + (zc + 1 + rc81) := by omega
  have hKM95 := KM.trans hKM78 hKM92 (by omega)
  refine W.eq (g2 := F0 m 82 ls [va_rf o80]) rfl ?_
  rcases o80 with _ | p96
  · have hm := od_n hm
    refine lv_castN (pc := 82) hx hb dX0_offer_82 ?_
    refine lv_astoreN (pc := 85) (lv' := [(4, .null), (0, .ref b0), (2, .int i2), (3, .ref p3)]) hx hb dX0_offer_85 hl (by decide) rfl (fun ls hl => ?_)
    refine lv_aloadN (pc := 87) hx hb dX0_offer_87 (lv_at hl 0 rfl) ?_
    refine lv_ifnonnullN (pc := 89) hx hb dX0_offer_89 ?_
    refine lv_bipush (pc := 92) (v := (-5 : Int32)) hx hb dX0_offer_92 (by decide) ?_
    refine lv_goto (pc := 94) (tgt := 102) hx hb dX0_offer_94 (by decide) ?_
    obtain ⟨e6, e7, e8, e9⟩ := rs4 hm
    subst e6
    subst e7
    subst e8
    subst e9
    exact rk_iretA (pc := 102) hx hb hr hlk hS89 ⟨rfl, hW93, hW90, hz94, hKM95⟩ dX0_offer_102 (by exact Nat.le_of_ble_eq_true rfl) (by exact Nat.le_of_ble_eq_true rfl)
  · have hm := od_s hm
    obtain ⟨hg97, hm⟩ := gb_some hm
    refine rp_castS (pc := 82) (C := RX15) (T := TX15) (N := 1) (ci := 15) hx hb hown hts hK q1370 rfl (rp_recv hK hW90 (C := RX15) (T := TX15) (N := 1) rfl (shP_15 (kd_PL hg97) (kd_k hg97))) dX0_offer_82 ?_
    refine lv_astore (pc := 85) (lv' := [(4, .ref p96), (0, .ref b0), (2, .int i2), (3, .ref p3)]) hx hb dX0_offer_85 hl (by decide) rfl (fun ls hl => ?_)
    refine lv_aload (pc := 87) hx hb dX0_offer_87 (lv_at hl 0 rfl) ?_
    refine lv_ifnonnull (pc := 89) (tgt := 97) hx hb dX0_offer_89 (by decide) ?_
    refine lv_aload (pc := 97) hx hb dX0_offer_97 (lv_at hl 0 rfl) ?_
    obtain ⟨hg98, hm⟩ := gb_some hm
    refine rk_getN (pc := 99) hx hb hts hown hK (pl_rg hW90) fnX0_514 p96 (Nat.lt_succ_self _) (Nat.zero_add _).symm (shP_15 (kd_PL hg98) (kd_k hg98)) (x := .int (gI w82 p96 0)) rfl dX0_offer_99 ?_
    obtain ⟨e6, e7, e8, e9⟩ := rs4 hm
    subst e6
    subst e7
    subst e8
    subst e9
    exact rk_iretA (pc := 102) hx hb hr hlk hS89 ⟨rfl, hW93, hW90, hz94, hKM95⟩ dX0_offer_102 (by exact Nat.le_of_ble_eq_true rfl) (by exact Nat.le_of_ble_eq_true rfl)
set_option maxHeartbeats 4000000 in
theorem w_fX0_offer (C : Cx G p s m args meth c RX0 cX0_offer 5 (some .int)) {b0 : Nat} {PL : Nat → Bool} {Z : Nat} {vP0 : Mem} {rx : Int32} {rc : Nat} {rw0 : Mem} {rw1 : Mem} (hPX : ∀ z, PL z = true → ¬ fX b0 z) (he0 : b0 + 357 ≤ s.heap.size) (hZz : s.heap.size = Z) (hZP : ZP G) : ∀ (v0 : Mem) (v1 : Mem) (i1 : Int32) (i2 : Int32), fX0_offer PL Z b0 v0 v1 i1 i2 = some (rx, rc, rw0, rw1) → ∀ (H : Heap) (locs : List Loc) (ls : Array Slot), rg G b0 357 (shX0 G.2.1) v0 H → pl G PL v1 H → va_S (FA (fun z => (fX b0) z ∨ (fP PL vP0) z) s.heap.size) s.heap H locs → H.size = s.heap.size + 0 → KM vP0 v1 s.heap.size → lv_has ls 5 [(0, .ref b0), (1, .int i1), (2, .int i2)] → W p l e (rmT 6 3 9 139) s m args below meth c H locs 0 0 (MQ below (QcT (FA (fun z => (fX b0) z ∨ (fP PL vP0) z) s.heap.size) (fun ov H => ov = (some (.int rx)) ∧ rg G b0 357 (shX0 G.2.1) rw0 H ∧ pl G PL rw1 H ∧ H.size = s.heap.size + rc ∧ KM vP0 rw1 s.heap.size)) args s 3 9 (FA (fun z => (fX b0) z ∨ (fP PL vP0) z) s.heap.size)) (F0 m 0 ls []) := by
  intro v0 v1 i1 i2 hm H locs ls hW0 hW1 hS hz hKM hl
  obtain ⟨hx, hb, hr, hlk, hml, hown, hts, hK⟩ := id C
  unfold fX0_offer at hm
  refine lv_aload_n (pc := 0) hx hb dX0_offer_0 rfl (lv_at hl 0 rfl) ?_
  refine lv_iload_n (pc := 1) hx hb dX0_offer_1 rfl (lv_at hl 1 rfl) ?_
  obtain ⟨r1, w2, hq3, hm⟩ := ob2_some hm
  refine rk_TV (pc := 2) (As := [.int i1]) (rest := []) (mc := 0) (ms := 0) hx hb hml hown hts hK hS (fun q hq => FA_sz rfl q hq) lkX0_393 rfl yn_X0_reads (ct_X0_reads (G := G) (l := l) (b0 := b0) (sz := H.size) hq3) ⟨Nat.le_of_ble_eq_true rfl, Nat.le_of_ble_eq_true rfl⟩ (fun z h => Or.inl (Or.inl h)) (rk_recv hK hW0 0 (by decide) rfl rfl rfl) hW0 rfl rfl hl.1 (Nat.le_of_ble_eq_true rfl) dX0_offer_2 ⟨Nat.zero_le _, Nat.zero_le _⟩ (fun ov9 H4 locs5 hP6 hkp7 hS8 => ?_)
  obtain ⟨rfl, hW9, hz10⟩ := hP6
  have hW11 := pl_keepA hW1 hkp7 (by intro z h1 h3; exact hPX _ h1 h3)
  have hz12 := hz10.trans hz
  refine W.eq (g2 := F0 m 5 ls [.int r1]) rfl ?_
  refine lv_if_eq (pc := 5) (tgt := 20) hx hb dX0_offer_5 (by decide) (fun c13 => ?_) (fun c13 => ?_)
  · have hm := ite_t c13 hm
    refine lv_bipush (pc := 20) (v := (-2 : Int32)) hx hb dX0_offer_20 (by decide) ?_
    obtain ⟨e6, e7, e8, e9⟩ := rs4 hm
    subst e6
    subst e7
    subst e8
    subst e9
    exact rk_iretA (pc := 22) hx hb hr hlk hS8 ⟨rfl, hW9, hW11, hz12, hKM⟩ dX0_offer_22 (by exact Nat.le_of_ble_eq_true rfl) (by exact Nat.le_of_ble_eq_true rfl)
  · have hm := ite_f c13 hm
    refine lv_iload_n (pc := 8) hx hb dX0_offer_8 rfl (lv_at hl 2 rfl) ?_
    refine lv_i2l (pc := 9) hx hb dX0_offer_9 rfl ?_
    refine lv_lconst (pc := 10) (v := (0 : Int64)) hx hb dX0_offer_10 (by decide) ?_
    refine lv_ldc2 (pc := 11) (v := (999 : Int64)) hx hb hown (hts _ q602) dX0_offer_11 ?_
    obtain ⟨r14, hq15, hm⟩ := ob_some hm
    refine rk_PS (pc := 14) (As := [.long i2.toInt64, .long (0 : Int64), .long (999 : Int64)]) (rest := []) hx hb hml hown hts hK lkX0_127 yn_X0_in (ct_X0_in (G := G) (l := l) hq15) ⟨Nat.le_of_ble_eq_true rfl, Nat.le_of_ble_eq_true rfl⟩ trivial rfl rfl hl.1 (Nat.le_of_ble_eq_true rfl) dX0_offer_14 ⟨Nat.zero_le _, Nat.zero_le _⟩ ?_
    refine W.eq (g2 := F0 m 17 ls [.int r14]) rfl ?_
    refine lv_if_ne (pc := 17) (tgt := 23) hx hb dX0_offer_17 (by decide) (fun c16 => ?_) (fun c16 => ?_)
    · have hm := ite_f c16 hm
      obtain ⟨h17, hh18, hm⟩ := ln_some hm
      obtain ⟨hg19, hm⟩ := gb_some hm
      have hs20 : H4.size = h17 := by omega
      refine rp_new (pc := 23) (h := h17) (kn := 14) (n := 0) hx hb hts hown hK hW11 hS8 in_X14 ft_X14 rfl q1334 q1335 q139 hs20 (shP_14 hg19 rfl) (df_X14 _ rfl) (Nat.le_of_ble_eq_true rfl) (Nat.le_of_ble_eq_true rfl) dX0_offer_23 (fun H22 hW23 hS24 hz25 hkp26 => ?_)
      have hKM27 := KM.nw (h := h17) (k := 14) (n := 0) hKM (by omega)
      obtain ⟨v1_21, he9, hm⟩ := lm_some hm
      rw [he9] at hW23 hKM27
      have hW28 := rg_keepN hW9 hs20 hkp26
      have hz29 : H22.size = s.heap.size + 1 := by omega
      refine lv_dup (pc := 26) hx hb dX0_offer_26 rfl ?_
      refine lv_aload_n (pc := 27) hx hb dX0_offer_27 rfl (lv_at hl 0 rfl) ?_
      refine lv_aload_n (pc := 28) hx hb dX0_offer_28 rfl (lv_at hl 0 rfl) ?_
      refine rk_get (pc := 29) hx hb hts hown hK hW28 flX0_82 0 (by decide) rfl rfl (x := .ref (b0 + 163)) (by first | rfl | exact congrArg (fun z => some (Value.ref z)) (by omega)) dX0_offer_29 ?_
      obtain ⟨r30, hq31, hm⟩ := ob_some hm
      refine rk_PV (pc := 32) (As := [.ref (b0 + 163)]) (rest := [.ref h17, .ref h17]) hx hb hml hown hts hK lkX0_350 rfl yn_X0_costOf (ct_X0_costOf_asked (G := G) (l := l) (b0 := b0) hq31) ⟨Nat.le_of_ble_eq_true rfl, Nat.le_of_ble_eq_true rfl⟩ (rk_recv hK hW28 0 (by decide) rfl rfl rfl) hW28 rfl rfl hl.1 (Nat.le_of_ble_eq_true rfl) dX0_offer_32 ⟨Nat.le_of_ble_eq_true rfl, Nat.le_of_ble_eq_true rfl⟩ ?_
      refine W.eq (g2 := F0 m 35 ls [.int r30, .ref h17, .ref h17]) rfl ?_
      refine lv_iload_n (pc := 35) hx hb dX0_offer_35 rfl (lv_at hl 1 rfl) ?_
      obtain ⟨w32, hq33, hm⟩ := ob_some hm
      refine rk_TI (pc := 36) (As := [.int r30, .int i1]) (rest := [.ref h17]) (mc := 0) (ms := 0) hx hb hml hown hts hK hS24 (fun q hq => FA_sz rfl q hq) lkX0_501 yn_X14_init (ct_X14_init (G := G) (l := l) (sz := H22.size) hq33) ⟨Nat.le_of_ble_eq_true rfl, Nat.le_of_ble_eq_true rfl⟩ (fun z h => (FA_r (KM_hf2 hKM27 z h))) hW23 rfl rfl hl.1 (Nat.le_of_ble_eq_true rfl) dX0_offer_36 ⟨Nat.le_of_ble_eq_true rfl, Nat.le_of_ble_eq_true rfl⟩ (fun ov9 H34 locs35 hP36 hkp37 hS38 => ?_)
      obtain ⟨rfl, hW39, hz40, hKM41⟩ := hP36
      have hW42 := rg_keepX hW28 hkp37 (by intro z h0 h3; have h1 := h0.1.1; have h2 := h0.1.2; have h4 := h0.2; exact hPX _ h3.1 h0)
      have hz43 := hz40.trans hz29
      have hKM44 := KM.trans hKM27 hKM41 (by omega)
      refine W.eq (g2 := F0 m 39 ls [.ref h17]) rfl ?_
      refine lv_astore_n (pc := 39) (lv' := [(3, .ref h17), (0, .ref b0), (1, .int i1), (2, .int i2)]) hx hb dX0_offer_39 rfl hl (by decide) rfl (fun ls hl => ?_)
      refine lv_aload_n (pc := 40) hx hb dX0_offer_40 rfl (lv_at hl 1 rfl) ?_
      refine rk_get (pc := 41) hx hb hts hown hK hW42 flX0_37 0 (by decide) rfl rfl (x := .ref (b0 + 153)) (by first | rfl | exact congrArg (fun z => some (Value.ref z)) (by omega)) dX0_offer_41 ?_
      obtain ⟨hg45, hm⟩ := gb_some hm
      obtain ⟨r46, hq47, hm⟩ := ob_some hm
      refine rk_PV (pc := 44) (As := []) (rest := []) hx hb hml hown hts hK lkX0_503 rfl yn_J1_size (ct_J1_size (G := G) (l := l) hq47) ⟨Nat.le_of_ble_eq_true rfl, Nat.le_of_ble_eq_true rfl⟩ (rp_recv hK hW39 (C := RJ1) (T := TJ1) (N := 9) rfl (shP_16 (kd_PL hg45) (kd_k hg45))) hW39 rfl rfl hl.1 (Nat.le_of_ble_eq_true rfl) dX0_offer_44 ⟨Nat.le_of_ble_eq_true rfl, Nat.le_of_ble_eq_true rfl⟩ ?_
      refine W.eq (g2 := F0 m 47 ls [.int r46]) rfl ?_
      refine lv_bipush (pc := 47) (v := (20 : Int32)) hx hb dX0_offer_47 (by decide) ?_
      refine lv_icmp_ne (pc := 49) (tgt := 66) hx hb dX0_offer_49 (by decide) (fun c48 => ?_) (fun c48 => ?_)
      · have hm := ite_f c48 hm
        exact (w_fX0_offer_66 C hPX he0 hZz hZP) w2 w32 1 i2 h17 hm H34 locs35 ls hW42 hW39 hS38 hz43 hKM44 (lv_sub hl [1, 3, 0] rfl)
      · have hm := ite_t c48 hm
        refine lv_aload_n (pc := 52) hx hb dX0_offer_52 rfl (lv_at hl 1 rfl) ?_
        refine rk_get (pc := 53) hx hb hts hown hK hW42 flX0_37 0 (by decide) rfl rfl (x := .ref (b0 + 153)) (by first | rfl | exact congrArg (fun z => some (Value.ref z)) (by omega)) dX0_offer_53 ?_
        refine lv_aload_n (pc := 56) hx hb dX0_offer_56 rfl (lv_at hl 0 rfl) ?_
        obtain ⟨hg49, hm⟩ := gb_some hm
        obtain ⟨r50, hq51, hm⟩ := ob_some hm
        refine rk_PV (pc := 57) (As := [.ref h17]) (rest := []) hx hb hml hown hts hK lkX0_504 rfl yn_J1_containsKey (ct_J1_containsKey (G := G) (l := l) hq51 hZP) ⟨Nat.le_of_ble_eq_true rfl, Nat.le_of_ble_eq_true rfl⟩ (rp_recv hK hW39 (C := RJ1) (T := TJ1) (N := 9) rfl (shP_16 (kd_PL hg49) (kd_k hg49))) hW39 rfl rfl hl.1 (Nat.le_of_ble_eq_true rfl) dX0_offer_57 ⟨Nat.le_of_ble_eq_true rfl, Nat.le_of_ble_eq_true rfl⟩ ?_
        refine W.eq (g2 := F0 m 60 ls [.int r50]) rfl ?_
        refine lv_if_ne (pc := 60) (tgt := 66) hx hb dX0_offer_60 (by decide) (fun c52 => ?_) (fun c52 => ?_)
        · have hm := ite_f c52 hm
          exact (w_fX0_offer_66 C hPX he0 hZz hZP) w2 w32 1 i2 h17 hm H34 locs35 ls hW42 hW39 hS38 hz43 hKM44 (lv_sub hl [1, 3, 0] rfl)
        · have hm := ite_t c52 hm
          refine lv_bipush (pc := 63) (v := (-4 : Int32)) hx hb dX0_offer_63 (by decide) ?_
          obtain ⟨e6, e7, e8, e9⟩ := rs4 hm
          subst e6
          subst e7
          subst e8
          subst e9
          exact rk_iretA (pc := 65) hx hb hr hlk hS38 ⟨rfl, hW42, hW39, hz43, hKM44⟩ dX0_offer_65 (by exact Nat.le_of_ble_eq_true rfl) (by exact Nat.le_of_ble_eq_true rfl)
    · have hm := ite_t c16 hm
      refine lv_bipush (pc := 20) (v := (-2 : Int32)) hx hb dX0_offer_20 (by decide) ?_
      obtain ⟨e6, e7, e8, e9⟩ := rs4 hm
      subst e6
      subst e7
      subst e8
      subst e9
      exact rk_iretA (pc := 22) hx hb hr hlk hS8 ⟨rfl, hW9, hW11, hz12, hKM⟩ dX0_offer_22 (by exact Nat.le_of_ble_eq_true rfl) (by exact Nat.le_of_ble_eq_true rfl)
set_option maxHeartbeats 4000000 in
theorem ct_X0_offer {G : Gv} {l : Launch} {b0 : Nat} {PL : Nat → Bool} {Z : Nat} {v0 : Mem} {v1 : Mem} {i1 : Int32} {i2 : Int32} {rx : Int32} {rc : Nat} {rw0 : Mem} {rw1 : Mem} (hm : fX0_offer PL Z b0 v0 v1 i1 i2 = some (rx, rc, rw0, rw1)) (hPX : ∀ z, PL z = true → ¬ fX b0 z) (hZP : ZP G) : CT G l yX0_offer (ws_ yX0_offer cX0_offer 5 (some .int)) 6 3 9 139 [.ref b0, .int i1, .int i2] (fun z => (fX b0) z ∨ (fP PL v1) z) Z (fun H => rg G b0 357 (shX0 G.2.1) v0 H ∧ pl G PL v1 H) (fun ov H => ov = (some (.int rx)) ∧ rg G b0 357 (shX0 G.2.1) rw0 H ∧ pl G PL rw1 H ∧ H.size = Z + rc ∧ KM v1 rw1 Z) := by
  refine Met.ofW (cc := cX0_offer) (maxL := 5) (ret := (some .int)) (by decide +kernel) rfl ?_
  intro p e s m args below meth c s₁ B hml hv
  obtain ⟨rfl, ⟨hz, hW0, hW1⟩, hK⟩ := hv
  subst hz
  have he0 := rg_end hW0 356 (by decide) rfl (fun _ _ _ => rfl)
  have hZz : s.heap.size = s.heap.size := rfl
  have hts := atoms_spec (ws := ws_ yX0_offer cX0_offer 5 (some .int)) B.pre
  have hts : ∀ w ∈ lw_all, w.before _ s = true := fun w h => hts w (List.mem_cons_of_mem _ h)
  have C : Cx G p s m _ meth c RX0 cX0_offer 5 (some .int) := ⟨B.exec, B.bytes, B.returns, B.notSynchronized, hml, findClass_of_methodNamed B.named, hts, hK⟩
  have hl := lv_entry ([.ref b0, .int i1, .int i2]) (n := 5) (Nat.le_of_ble_eq_true rfl)
  rw [lg_entry_eq]
  generalize (lg_sl ([.ref b0, .int i1, .int i2]) ++ List.replicate (5 - (lg_sl ([.ref b0, .int i1, .int i2])).length) Slot.unset).toArray = ls at hl ⊢
  have hl : lv_has ls 5 [(0, .ref b0), (1, .int i1), (2, .int i2)] := hl
  exact w_fX0_offer C hPX he0 hZz hZP _ _ _ _ hm s.heap [] ls hW0 hW1 va_S.rf rfl KM.rf hl
theorem yn_J1_firstKey : YN yJ1_firstKey 0 := by
  unfold YN
  decide +kernel
theorem lkX0_519 : LV RX0 519 RJ1 yJ1_firstKey cJ1_firstKey 1 (some (.object "java/lang/Object")) := ⟨q1463, q1464, q1465, q120, q1466⟩
theorem fnX0_530 : FN RX0 530 14 0 RX14 TX14 2 "WholePacks" := ⟨in_X14, rfl, by decide, q1341⟩
theorem yn_J1_get : YN yJ1_get 1 := by
  unfold YN
  decide +kernel
theorem lkX0_527 : LV RX0 527 RJ1 yJ1_get cJ1_get 3 (some (.object "java/lang/Object")) := ⟨q1485, q1486, q1487, q120, q1488⟩
theorem fnX0_526 : FN RX0 526 14 1 RX14 TX14 2 "WholePacks" := ⟨in_X14, rfl, by decide, q1343⟩
theorem yn_J1_higherKey : YN yJ1_higherKey 1 := by
  unfold YN
  decide +kernel
theorem lkX0_522 : LV RX0 522 RJ1 yJ1_higherKey cJ1_higherKey 2 (some (.object "java/lang/Object")) := ⟨q1474, q1475, q1476, q120, q1477⟩
noncomputable def fX0_offered_50 (PL : Nat → Bool) (b0 : Nat) (V0 : Mem) (V1 : Mem) (k50 : Int32 → Int32 → Option Nat → Int32 → Option (Int32)) (i1 : Int32) (i2 : Int32) (o3 : Option Nat) (i4 : Int32) : Option (Int32) :=
  if i1 ≤ i4 then (
  if i2 = 0 then (
  ob o3 fun p29 =>
  gb (kd PL V1 p29 14) (
  some (gI V1 p29 1)))
  else (
  if i2 = (1 : Int32) then (
  ob o3 fun p21 =>
  gb (kd PL V1 (b0 + 153) 16) (
  ob (fJ1_get PL V1 (b0 + 153) p21) fun o24 =>
  od o24 (
  none) (fun p26 =>
  gb (kd PL V1 p26 15) (
  gb (kd PL V1 p26 15) (
  some (gI V1 p26 0))))))
  else (
  ob o3 fun p18 =>
  gb (kd PL V1 p18 14) (
  some (gI V1 p18 0)))))
  else (
  ob o3 fun p32 =>
  gb (kd PL V1 (b0 + 153) 16) (
  ob (fJ1_higherKey PL V1 (b0 + 153) p32) fun o35 =>
  od o35 (
  k50 i1 i2 none (i4 + (1 : Int32))) (fun p37 =>
  gb (kd PL V1 p37 14) (
  k50 i1 i2 (some p37) (i4 + (1 : Int32))))))
noncomputable def fX0_offered (PL : Nat → Bool) (b0 : Nat) (V0 : Mem) (V1 : Mem) (i1 : Int32) (i2 : Int32) : Option (Int32) :=
  ob (fX0_in i2.toInt64 (0 : Int64) (2 : Int64)) fun r1 =>
  if r1 = 0 then (
  some (-1 : Int32))
  else (
  gb (kd PL V1 (b0 + 153) 16) (
  ob (fJ1_size PL V1 (b0 + 153)) fun r5 =>
  ob (fX0_in i1.toInt64 (0 : Int64) (r5 - (1 : Int32)).toInt64) fun r7 =>
  if r7 = 0 then (
  some (-2 : Int32))
  else (
  gb (kd PL V1 (b0 + 153) 16) (
  ob (fJ1_firstKey PL V1 (b0 + 153)) fun o11 =>
  od o11 (
  lq4 (fX0_offered_50 PL b0 V0 V1) FU i1 i2 none (0 : Int32)) (fun p13 =>
  gb (kd PL V1 p13 14) (
  lq4 (fX0_offered_50 PL b0 V0 V1) FU i1 i2 (some p13) (0 : Int32)))))))
set_option maxHeartbeats 4000000 in
theorem w_fX0_offered_50 (C : Cx G p s m args meth c RX0 cX0_offered 5 (some .int)) {b0 : Nat} {PL : Nat → Bool} {V0 : Mem} {V1 : Mem} {rx : Int32} (hW0 : rg G b0 357 (shX0 G.2.1) V0 s.heap) (hW1 : pl G PL V1 s.heap) (hZP : ZP G) {k50 : Int32 → Int32 → Option Nat → Int32 → Option (Int32)} (hk50 : ∀ (i1 : Int32) (i2 : Int32) (o3 : Option Nat) (i4 : Int32), k50 i1 i2 o3 i4 = some rx → ∀ (ls : Array Slot), lv_has ls 5 [(0, .ref b0), (1, .int i1), (2, .int i2), (3, va_rf o3), (4, .int i4)] → W p l e (rmP 5 112) s m args below meth c s.heap [] 0 0 (MQ below (QcP (some (.int rx))) args s 0 0 (fun _ => False)) (F0 m 50 ls [])) : ∀ (i1 : Int32) (i2 : Int32) (o3 : Option Nat) (i4 : Int32), fX0_offered_50 PL b0 V0 V1 k50 i1 i2 o3 i4 = some rx → ∀ (ls : Array Slot), lv_has ls 5 [(0, .ref b0), (1, .int i1), (2, .int i2), (3, va_rf o3), (4, .int i4)] → W p l e (rmP 5 112) s m args below meth c s.heap [] 0 0 (MQ below (QcP (some (.int rx))) args s 0 0 (fun _ => False)) (F0 m 50 ls []) := by
  intro i1 i2 o3 i4 hm ls hl
  obtain ⟨hx, hb, hr, hlk, hml, hown, hts, hK⟩ := id C
  unfold fX0_offered_50 at hm
  refine lv_iload (pc := 50) hx hb dX0_offered_50 (lv_at hl 4 rfl) ?_
  refine lv_iload_n (pc := 52) hx hb dX0_offered_52 rfl (lv_at hl 1 rfl) ?_
  refine lv_icmp_ge (pc := 53) (tgt := 74) hx hb dX0_offered_53 (by decide) (fun c15 => ?_) (fun c15 => ?_)
  · have hm := ite_t c15 hm
    refine lv_iload_n (pc := 74) hx hb dX0_offered_74 rfl (lv_at hl 2 rfl) ?_
    refine lv_if_ne (pc := 75) (tgt := 85) hx hb dX0_offered_75 (by decide) (fun c16 => ?_) (fun c16 => ?_)
    · have hm := ite_f c16 hm
      refine lv_iload_n (pc := 85) hx hb dX0_offered_85 rfl (lv_at hl 2 rfl) ?_
      refine lv_iconst (pc := 86) (v := (1 : Int32)) hx hb dX0_offered_86 (by decide) ?_
      refine lv_icmp_ne (pc := 87) (tgt := 107) hx hb dX0_offered_87 (by decide) (fun c17 => ?_) (fun c17 => ?_)
      · have hm := ite_f c17 hm
        refine lv_aload_nO (pc := 107) hx hb dX0_offered_107 rfl (lv_at hl 3 rfl) ?_
        obtain ⟨p18, he19, hm⟩ := ob_some hm
        subst he19
        obtain ⟨hg20, hm⟩ := gb_some hm
        refine rk_getN (pc := 108) hx hb hts hown hK (pl_rg hW1) fnX0_530 p18 (Nat.lt_succ_self _) (Nat.zero_add _).symm (shP_14 (kd_PL hg20) (kd_k hg20)) (x := .int (gI V1 p18 0)) rfl dX0_offered_108 ?_
        have e9 := rs1 hm
        subst e9
        exact rk_iretP (pc := 111) hx hb hr hlk rfl dX0_offered_111
      · have hm := ite_t c17 hm
        refine lv_aload_n (pc := 90) hx hb dX0_offered_90 rfl (lv_at hl 0 rfl) ?_
        refine rk_get (pc := 91) hx hb hts hown hK hW0 flX0_37 0 (by decide) rfl rfl (x := .ref (b0 + 153)) (by first | rfl | exact congrArg (fun z => some (Value.ref z)) (by omega)) dX0_offered_91 ?_
        refine lv_aload_nO (pc := 94) hx hb dX0_offered_94 rfl (lv_at hl 3 rfl) ?_
        obtain ⟨p21, he22, hm⟩ := ob_some hm
        subst he22
        obtain ⟨hg23, hm⟩ := gb_some hm
        obtain ⟨o24, hq25, hm⟩ := ob_some hm
        refine rk_PV (pc := 95) (As := [.ref p21]) (rest := []) hx hb hml hown hts hK lkX0_527 rfl yn_J1_get (ct_J1_get (G := G) (l := l) hq25 hZP) ⟨Nat.le_of_ble_eq_true rfl, Nat.le_of_ble_eq_true rfl⟩ (rp_recv hK hW1 (C := RJ1) (T := TJ1) (N := 9) rfl (shP_16 (kd_PL hg23) (kd_k hg23))) hW1 rfl rfl hl.1 (Nat.le_of_ble_eq_true rfl) dX0_offered_95 ⟨Nat.zero_le _, Nat.zero_le _⟩ ?_
        refine W.eq (g2 := F0 m 98 ls [va_rf o24]) rfl ?_
        rcases o24 with _ | p26
        · have hm := od_n hm
          refine lv_castN (pc := 98) hx hb dX0_offered_98 ?_
          exact nomatch hm
        · have hm := od_s hm
          obtain ⟨hg27, hm⟩ := gb_some hm
          refine rp_castS (pc := 98) (C := RX15) (T := TX15) (N := 1) (ci := 15) hx hb hown hts hK q1370 rfl (rp_recv hK hW1 (C := RX15) (T := TX15) (N := 1) rfl (shP_15 (kd_PL hg27) (kd_k hg27))) dX0_offered_98 ?_
          obtain ⟨hg28, hm⟩ := gb_some hm
          refine rk_getN (pc := 101) hx hb hts hown hK (pl_rg hW1) fnX0_514 p26 (Nat.lt_succ_self _) (Nat.zero_add _).symm (shP_15 (kd_PL hg28) (kd_k hg28)) (x := .int (gI V1 p26 0)) rfl dX0_offered_101 ?_
          refine lv_goto (pc := 104) (tgt := 111) hx hb dX0_offered_104 (by decide) ?_
          have e9 := rs1 hm
          subst e9
          exact rk_iretP (pc := 111) hx hb hr hlk rfl dX0_offered_111
    · have hm := ite_t c16 hm
      refine lv_aload_nO (pc := 78) hx hb dX0_offered_78 rfl (lv_at hl 3 rfl) ?_
      obtain ⟨p29, he30, hm⟩ := ob_some hm
      subst he30
      obtain ⟨hg31, hm⟩ := gb_some hm
      refine rk_getN (pc := 79) hx hb hts hown hK (pl_rg hW1) fnX0_526 p29 (Nat.lt_succ_self _) (Nat.zero_add _).symm (shP_14 (kd_PL hg31) (kd_k hg31)) (x := .int (gI V1 p29 1)) rfl dX0_offered_79 ?_
      refine lv_goto (pc := 82) (tgt := 111) hx hb dX0_offered_82 (by decide) ?_
      have e9 := rs1 hm
      subst e9
      exact rk_iretP (pc := 111) hx hb hr hlk rfl dX0_offered_111
  · have hm := ite_f c15 hm
    refine lv_aload_n (pc := 56) hx hb dX0_offered_56 rfl (lv_at hl 0 rfl) ?_
    refine rk_get (pc := 57) hx hb hts hown hK hW0 flX0_37 0 (by decide) rfl rfl (x := .ref (b0 + 153)) (by first | rfl | exact congrArg (fun z => some (Value.ref z)) (by omega)) dX0_offered_57 ?_
    refine lv_aload_nO (pc := 60) hx hb dX0_offered_60 rfl (lv_at hl 3 rfl) ?_
    obtain ⟨p32, he33, hm⟩ := ob_some hm
    subst he33
    obtain ⟨hg34, hm⟩ := gb_some hm
    obtain ⟨o35, hq36, hm⟩ := ob_some hm
    refine rk_PV (pc := 61) (As := [.ref p32]) (rest := []) hx hb hml hown hts hK lkX0_522 rfl yn_J1_higherKey (ct_J1_higherKey (G := G) (l := l) hq36 hZP) ⟨Nat.le_of_ble_eq_true rfl, Nat.le_of_ble_eq_true rfl⟩ (rp_recv hK hW1 (C := RJ1) (T := TJ1) (N := 9) rfl (shP_16 (kd_PL hg34) (kd_k hg34))) hW1 rfl rfl hl.1 (Nat.le_of_ble_eq_true rfl) dX0_offered_61 ⟨Nat.zero_le _, Nat.zero_le _⟩ ?_
    refine W.eq (g2 := F0 m 64 ls [va_rf o35]) rfl ?_
    rcases o35 with _ | p37
    · have hm := od_n hm
      refine lv_castN (pc := 64) hx hb dX0_offered_64 ?_
      refine lv_astore_nN (pc := 67) (lv' := [(3, .null), (0, .ref b0), (1, .int i1), (2, .int i2), (4, .int i4)]) hx hb dX0_offered_67 rfl hl (by decide) rfl (fun ls hl => ?_)
      refine lv_iinc (pc := 68) (v := (i4 + (1 : Int32))) (lv' := [(4, .int (i4 + (1 : Int32))), (3, .null), (0, .ref b0), (1, .int i1), (2, .int i2)]) hx hb dX0_offered_68 hl (k := 4) rfl rfl (by decide) rfl (fun ls hl => ?_)
      refine lv_goto (pc := 71) (tgt := 50) hx hb dX0_offered_71 (by decide) ?_
      exact hk50 i1 i2 none (i4 + (1 : Int32)) hm ls (lv_sub hl [2, 3, 4, 1, 0] rfl)
    · have hm := od_s hm
      obtain ⟨hg38, hm⟩ := gb_some hm
      refine rp_castS (pc := 64) (C := RX14) (T := TX14) (N := 2) (ci := 14) hx hb hown hts hK q1334 rfl (rp_recv hK hW1 (C := RX14) (T := TX14) (N := 2) rfl (shP_14 (kd_PL hg38) (kd_k hg38))) dX0_offered_64 ?_
      refine lv_astore_n (pc := 67) (lv' := [(3, .ref p37), (0, .ref b0), (1, .int i1), (2, .int i2), (4, .int i4)]) hx hb dX0_offered_67 rfl hl (by decide) rfl (fun ls hl => ?_)
      refine lv_iinc (pc := 68) (v := (i4 + (1 : Int32))) (lv' := [(4, .int (i4 + (1 : Int32))), (3, .ref p37), (0, .ref b0), (1, .int i1), (2, .int i2)]) hx hb dX0_offered_68 hl (k := 4) rfl rfl (by decide) rfl (fun ls hl => ?_)
      refine lv_goto (pc := 71) (tgt := 50) hx hb dX0_offered_71 (by decide) ?_
      exact hk50 i1 i2 (some p37) (i4 + (1 : Int32)) hm ls (lv_sub hl [2, 3, 4, 1, 0] rfl)
theorem w_fX0_offered_50_l (C : Cx G p s m args meth c RX0 cX0_offered 5 (some .int)) {b0 : Nat} {PL : Nat → Bool} {V0 : Mem} {V1 : Mem} {rx : Int32} (hW0 : rg G b0 357 (shX0 G.2.1) V0 s.heap) (hW1 : pl G PL V1 s.heap) (hZP : ZP G) : ∀ (n : Nat) (i1 : Int32) (i2 : Int32) (o3 : Option Nat) (i4 : Int32), lq4 (fX0_offered_50 PL b0 V0 V1) n i1 i2 o3 i4 = some rx → ∀ (ls : Array Slot), lv_has ls 5 [(0, .ref b0), (1, .int i1), (2, .int i2), (3, va_rf o3), (4, .int i4)] → W p l e (rmP 5 112) s m args below meth c s.heap [] 0 0 (MQ below (QcP (some (.int rx))) args s 0 0 (fun _ => False)) (F0 m 50 ls []) := by
  intro n
  induction n with
  | zero => intro i1 i2 o3 i4 hm; exact (lq4_0 hm).elim
  | succ n ih => intro i1 i2 o3 i4 hm; exact w_fX0_offered_50 C hW0 hW1 hZP ih i1 i2 o3 i4 (lq4_s hm)
set_option maxHeartbeats 4000000 in
theorem w_fX0_offered (C : Cx G p s m args meth c RX0 cX0_offered 5 (some .int)) {b0 : Nat} {PL : Nat → Bool} {V0 : Mem} {V1 : Mem} {rx : Int32} (hW0 : rg G b0 357 (shX0 G.2.1) V0 s.heap) (hW1 : pl G PL V1 s.heap) (hZP : ZP G) : ∀ (i1 : Int32) (i2 : Int32), fX0_offered PL b0 V0 V1 i1 i2 = some rx → ∀ (ls : Array Slot), lv_has ls 5 [(0, .ref b0), (1, .int i1), (2, .int i2)] → W p l e (rmP 5 112) s m args below meth c s.heap [] 0 0 (MQ below (QcP (some (.int rx))) args s 0 0 (fun _ => False)) (F0 m 0 ls []) := by
  intro i1 i2 hm ls hl
  obtain ⟨hx, hb, hr, hlk, hml, hown, hts, hK⟩ := id C
  unfold fX0_offered at hm
  refine lv_iload_n (pc := 0) hx hb dX0_offered_0 rfl (lv_at hl 2 rfl) ?_
  refine lv_i2l (pc := 1) hx hb dX0_offered_1 rfl ?_
  refine lv_lconst (pc := 2) (v := (0 : Int64)) hx hb dX0_offered_2 (by decide) ?_
  refine lv_ldc2 (pc := 3) (v := (2 : Int64)) hx hb hown (hts _ q1462) dX0_offered_3 ?_
  obtain ⟨r1, hq2, hm⟩ := ob_some hm
  refine rk_PS (pc := 6) (As := [.long i2.toInt64, .long (0 : Int64), .long (2 : Int64)]) (rest := []) hx hb hml hown hts hK lkX0_127 yn_X0_in (ct_X0_in (G := G) (l := l) hq2) ⟨Nat.le_of_ble_eq_true rfl, Nat.le_of_ble_eq_true rfl⟩ trivial rfl rfl hl.1 (Nat.le_of_ble_eq_true rfl) dX0_offered_6 ⟨Nat.zero_le _, Nat.zero_le _⟩ ?_
  refine W.eq (g2 := F0 m 9 ls [.int r1]) rfl ?_
  refine lv_if_ne (pc := 9) (tgt := 14) hx hb dX0_offered_9 (by decide) (fun c3 => ?_) (fun c3 => ?_)
  · have hm := ite_f c3 hm
    refine lv_iload_n (pc := 14) hx hb dX0_offered_14 rfl (lv_at hl 1 rfl) ?_
    refine lv_i2l (pc := 15) hx hb dX0_offered_15 rfl ?_
    refine lv_lconst (pc := 16) (v := (0 : Int64)) hx hb dX0_offered_16 (by decide) ?_
    refine lv_aload_n (pc := 17) hx hb dX0_offered_17 rfl (lv_at hl 0 rfl) ?_
    refine rk_get (pc := 18) hx hb hts hown hK hW0 flX0_37 0 (by decide) rfl rfl (x := .ref (b0 + 153)) (by first | rfl | exact congrArg (fun z => some (Value.ref z)) (by omega)) dX0_offered_18 ?_
    obtain ⟨hg4, hm⟩ := gb_some hm
    obtain ⟨r5, hq6, hm⟩ := ob_some hm
    refine rk_PV (pc := 21) (As := []) (rest := [.long (0 : Int64), .long i1.toInt64]) hx hb hml hown hts hK lkX0_503 rfl yn_J1_size (ct_J1_size (G := G) (l := l) hq6) ⟨Nat.le_of_ble_eq_true rfl, Nat.le_of_ble_eq_true rfl⟩ (rp_recv hK hW1 (C := RJ1) (T := TJ1) (N := 9) rfl (shP_16 (kd_PL hg4) (kd_k hg4))) hW1 rfl rfl hl.1 (Nat.le_of_ble_eq_true rfl) dX0_offered_21 ⟨Nat.zero_le _, Nat.zero_le _⟩ ?_
    refine W.eq (g2 := F0 m 24 ls [.int r5, .long (0 : Int64), .long i1.toInt64]) rfl ?_
    refine lv_iconst (pc := 24) (v := (1 : Int32)) hx hb dX0_offered_24 (by decide) ?_
    refine lv_isub (pc := 25) hx hb dX0_offered_25 ?_
    refine lv_i2l (pc := 26) hx hb dX0_offered_26 rfl ?_
    obtain ⟨r7, hq8, hm⟩ := ob_some hm
    refine rk_PS (pc := 27) (As := [.long i1.toInt64, .long (0 : Int64), .long (r5 - (1 : Int32)).toInt64]) (rest := []) hx hb hml hown hts hK lkX0_127 yn_X0_in (ct_X0_in (G := G) (l := l) hq8) ⟨Nat.le_of_ble_eq_true rfl, Nat.le_of_ble_eq_true rfl⟩ trivial rfl rfl hl.1 (Nat.le_of_ble_eq_true rfl) dX0_offered_27 ⟨Nat.zero_le _, Nat.zero_le _⟩ ?_
    refine W.eq (g2 := F0 m 30 ls [.int r7]) rfl ?_
    refine lv_if_ne (pc := 30) (tgt := 36) hx hb dX0_offered_30 (by decide) (fun c9 => ?_) (fun c9 => ?_)
    · have hm := ite_f c9 hm
      refine lv_aload_n (pc := 36) hx hb dX0_offered_36 rfl (lv_at hl 0 rfl) ?_
      refine rk_get (pc := 37) hx hb hts hown hK hW0 flX0_37 0 (by decide) rfl rfl (x := .ref (b0 + 153)) (by first | rfl | exact congrArg (fun z => some (Value.ref z)) (by omega)) dX0_offered_37 ?_
      obtain ⟨hg10, hm⟩ := gb_some hm
      obtain ⟨o11, hq12, hm⟩ := ob_some hm
      refine rk_PV (pc := 40) (As := []) (rest := []) hx hb hml hown hts hK lkX0_519 rfl yn_J1_firstKey (ct_J1_firstKey (G := G) (l := l) hq12) ⟨Nat.le_of_ble_eq_true rfl, Nat.le_of_ble_eq_true rfl⟩ (rp_recv hK hW1 (C := RJ1) (T := TJ1) (N := 9) rfl (shP_16 (kd_PL hg10) (kd_k hg10))) hW1 rfl rfl hl.1 (Nat.le_of_ble_eq_true rfl) dX0_offered_40 ⟨Nat.zero_le _, Nat.zero_le _⟩ ?_
      refine W.eq (g2 := F0 m 43 ls [va_rf o11]) rfl ?_
      rcases o11 with _ | p13
      · have hm := od_n hm
        refine lv_castN (pc := 43) hx hb dX0_offered_43 ?_
        refine lv_astore_nN (pc := 46) (lv' := [(3, .null), (0, .ref b0), (1, .int i1), (2, .int i2)]) hx hb dX0_offered_46 rfl hl (by decide) rfl (fun ls hl => ?_)
        refine lv_iconst (pc := 47) (v := (0 : Int32)) hx hb dX0_offered_47 (by decide) ?_
        refine lv_istore (pc := 48) (lv' := [(4, .int (0 : Int32)), (3, .null), (0, .ref b0), (1, .int i1), (2, .int i2)]) hx hb dX0_offered_48 hl (by decide) rfl (fun ls hl => ?_)
        exact (w_fX0_offered_50_l C hW0 hW1 hZP FU) i1 i2 none (0 : Int32) hm ls (lv_sub hl [2, 3, 4, 1, 0] rfl)
      · have hm := od_s hm
        obtain ⟨hg14, hm⟩ := gb_some hm
        refine rp_castS (pc := 43) (C := RX14) (T := TX14) (N := 2) (ci := 14) hx hb hown hts hK q1334 rfl (rp_recv hK hW1 (C := RX14) (T := TX14) (N := 2) rfl (shP_14 (kd_PL hg14) (kd_k hg14))) dX0_offered_43 ?_
        refine lv_astore_n (pc := 46) (lv' := [(3, .ref p13), (0, .ref b0), (1, .int i1), (2, .int i2)]) hx hb dX0_offered_46 rfl hl (by decide) rfl (fun ls hl => ?_)
        refine lv_iconst (pc := 47) (v := (0 : Int32)) hx hb dX0_offered_47 (by decide) ?_
        refine lv_istore (pc := 48) (lv' := [(4, .int (0 : Int32)), (3, .ref p13), (0, .ref b0), (1, .int i1), (2, .int i2)]) hx hb dX0_offered_48 hl (by decide) rfl (fun ls hl => ?_)
        exact (w_fX0_offered_50_l C hW0 hW1 hZP FU) i1 i2 (some p13) (0 : Int32) hm ls (lv_sub hl [2, 3, 4, 1, 0] rfl)
    · have hm := ite_t c9 hm
      refine lv_bipush (pc := 33) (v := (-2 : Int32)) hx hb dX0_offered_33 (by decide) ?_
      have e9 := rs1 hm
      subst e9
      exact rk_iretP (pc := 35) hx hb hr hlk rfl dX0_offered_35
  · have hm := ite_t c3 hm
    refine lv_iconst (pc := 12) (v := (-1 : Int32)) hx hb dX0_offered_12 (by decide) ?_
    have e9 := rs1 hm
    subst e9
    exact rk_iretP (pc := 13) hx hb hr hlk rfl dX0_offered_13
set_option maxHeartbeats 4000000 in
theorem ct_X0_offered {G : Gv} {l : Launch} {b0 : Nat} {PL : Nat → Bool} {V0 : Mem} {V1 : Mem} {i1 : Int32} {i2 : Int32} {rx : Int32} (hm : fX0_offered PL b0 V0 V1 i1 i2 = some rx) (hZP : ZP G) : CP G l yX0_offered (ws_ yX0_offered cX0_offered 5 (some .int)) 5 112 [.ref b0, .int i1, .int i2] (fun H => rg G b0 357 (shX0 G.2.1) V0 H ∧ pl G PL V1 H) (some (.int rx)) := by
  refine Met.ofW (cc := cX0_offered) (maxL := 5) (ret := (some .int)) (by decide +kernel) rfl ?_
  intro p e s m args below meth c s₁ B hml hv
  obtain ⟨rfl, ⟨hW0, hW1⟩, hK⟩ := hv
  have hts := atoms_spec (ws := ws_ yX0_offered cX0_offered 5 (some .int)) B.pre
  have hts : ∀ w ∈ lw_all, w.before _ s = true := fun w h => hts w (List.mem_cons_of_mem _ h)
  have C : Cx G p s m _ meth c RX0 cX0_offered 5 (some .int) := ⟨B.exec, B.bytes, B.returns, B.notSynchronized, hml, findClass_of_methodNamed B.named, hts, hK⟩
  have hl := lv_entry ([.ref b0, .int i1, .int i2]) (n := 5) (Nat.le_of_ble_eq_true rfl)
  rw [lg_entry_eq]
  generalize (lg_sl ([.ref b0, .int i1, .int i2]) ++ List.replicate (5 - (lg_sl ([.ref b0, .int i1, .int i2])).length) Slot.unset).toArray = ls at hl ⊢
  have hl : lv_has ls 5 [(0, .ref b0), (1, .int i1), (2, .int i2)] := hl
  exact w_fX0_offered C hW0 hW1 hZP _ _ hm ls hl
theorem yn_J1_floorKey : YN yJ1_floorKey 1 := by
  unfold YN
  decide +kernel
theorem lkX0_534 : LV RX0 534 RJ1 yJ1_floorKey cJ1_floorKey 2 (some (.object "java/lang/Object")) := ⟨q1494, q1495, q1496, q120, q1497⟩
noncomputable def fX0_upTo (PL : Nat → Bool) (Z : Nat) (b0 : Nat) (V0 : Mem) (v1 : Mem) (i1 : Int32) : Option (Int32 × Nat × Mem) :=
  ln (Z + 0) fun h1 =>
  gb (PL h1) (
  lm (nwP v1 h1 14 0) fun v1_5 =>
  ob (fX14_init PL v1_5 h1 i1 (99999 : Int32)) fun w14 =>
  gb (kd PL w14 (b0 + 153) 16) (
  ob (fJ1_floorKey PL w14 (b0 + 153) h1) fun o28 =>
  od o28 (
  some ((-5 : Int32), 1, w14)) (fun p30 =>
  gb (kd PL w14 p30 14) (
  gb (kd PL w14 p30 14) (
  some ((gI w14 p30 1), 1, w14))))))
set_option maxHeartbeats 4000000 in
theorem w_fX0_upTo (C : Cx G p s m args meth c RX0 cX0_upTo 3 (some .int)) {b0 : Nat} {PL : Nat → Bool} {Z : Nat} {V0 : Mem} {vP0 : Mem} {rx : Int32} {rc : Nat} {rw1 : Mem} (hPX : ∀ z, PL z = true → ¬ fX b0 z) (he0 : b0 + 357 ≤ s.heap.size) (hZz : s.heap.size = Z) (hZP : ZP G) : ∀ (v1 : Mem) (i1 : Int32), fX0_upTo PL Z b0 V0 v1 i1 = some (rx, rc, rw1) → ∀ (H : Heap) (locs : List Loc) (ls : Array Slot), rg G b0 357 (shX0 G.2.1) V0 H → pl G PL v1 H → va_S (FA (fP PL vP0) s.heap.size) s.heap H locs → H.size = s.heap.size + 0 → KM vP0 v1 s.heap.size → lv_has ls 3 [(0, .ref b0), (1, .int i1)] → W p l e (rmT 5 1 2 112) s m args below meth c H locs 0 0 (MQ below (QcT (FA (fP PL vP0) s.heap.size) (fun ov H => ov = (some (.int rx)) ∧ pl G PL rw1 H ∧ H.size = s.heap.size + rc ∧ KM vP0 rw1 s.heap.size)) args s 1 2 (FA (fP PL vP0) s.heap.size)) (F0 m 0 ls []) := by
  intro v1 i1 hm H locs ls hW0 hW1 hS hz hKM hl
  obtain ⟨hx, hb, hr, hlk, hml, hown, hts, hK⟩ := id C
  unfold fX0_upTo at hm
  refine lv_aload_n (pc := 0) hx hb dX0_upTo_0 rfl (lv_at hl 0 rfl) ?_
  refine rk_get (pc := 1) hx hb hts hown hK hW0 flX0_37 0 (by decide) rfl rfl (x := .ref (b0 + 153)) (by first | rfl | exact congrArg (fun z => some (Value.ref z)) (by omega)) dX0_upTo_1 ?_
  obtain ⟨h1, hh2, hm⟩ := ln_some hm
  obtain ⟨hg3, hm⟩ := gb_some hm
  have hs4 : H.size = h1 := by omega
  refine rp_new (pc := 4) (h := h1) (kn := 14) (n := 0) hx hb hts hown hK hW1 hS in_X14 ft_X14 rfl q1334 q1335 q139 hs4 (shP_14 hg3 rfl) (df_X14 _ rfl) (Nat.le_of_ble_eq_true rfl) (Nat.le_of_ble_eq_true rfl) dX0_upTo_4 (fun H6 hW7 hS8 hz9 hkp10 => ?_)
  have hKM11 := KM.nw (h := h1) (k := 14) (n := 0) hKM (by omega)
  obtain ⟨v1_5, he9, hm⟩ := lm_some hm
  rw [he9] at hW7 hKM11
  have hW12 := rg_keepN hW0 hs4 hkp10
  have hz13 : H6.size = s.heap.size + 1 := by omega
  refine lv_dup (pc := 7) hx hb dX0_upTo_7 rfl ?_
  refine lv_iload_n (pc := 8) hx hb dX0_upTo_8 rfl (lv_at hl 1 rfl) ?_
  refine lv_ldcw (pc := 9) (v := (99999 : Int32)) hx hb hown (hts _ q1493) dX0_upTo_9 ?_
  obtain ⟨w14, hq15, hm⟩ := ob_some hm
  refine rk_TI (pc := 12) (As := [.int i1, .int (99999 : Int32)]) (rest := [.ref h1, .ref (b0 + 153)]) (mc := 0) (ms := 0) hx hb hml hown hts hK hS8 (fun q hq => FA_sz rfl q hq) lkX0_501 yn_X14_init (ct_X14_init (G := G) (l := l) (sz := H6.size) hq15) ⟨Nat.le_of_ble_eq_true rfl, Nat.le_of_ble_eq_true rfl⟩ (fun z h => (KM_hf2 hKM11 z h)) hW7 rfl rfl hl.1 (Nat.le_of_ble_eq_true rfl) dX0_upTo_12 ⟨Nat.le_of_ble_eq_true rfl, Nat.le_of_ble_eq_true rfl⟩ (fun ov9 H16 locs17 hP18 hkp19 hS20 => ?_)
  obtain ⟨rfl, hW21, hz22, hKM23⟩ := hP18
  have hW24 := rg_keepX hW12 hkp19 (by intro z h0 h3; have h1 := h0.1.1; have h2 := h0.1.2; have h4 := h0.2; exact hPX _ h3.1 h0)
  have hz25 := hz22.trans hz13
  have hKM26 := KM.trans hKM11 hKM23 (by omega)
  refine W.eq (g2 := F0 m 15 ls [.ref h1, .ref (b0 + 153)]) rfl ?_
  obtain ⟨hg27, hm⟩ := gb_some hm
  obtain ⟨o28, hq29, hm⟩ := ob_some hm
  refine rk_PV (pc := 15) (As := [.ref h1]) (rest := []) hx hb hml hown hts hK lkX0_534 rfl yn_J1_floorKey (ct_J1_floorKey (G := G) (l := l) hq29 hZP) ⟨Nat.le_of_ble_eq_true rfl, Nat.le_of_ble_eq_true rfl⟩ (rp_recv hK hW21 (C := RJ1) (T := TJ1) (N := 9) rfl (shP_16 (kd_PL hg27) (kd_k hg27))) hW21 rfl rfl hl.1 (Nat.le_of_ble_eq_true rfl) dX0_upTo_15 ⟨Nat.le_of_ble_eq_true rfl, Nat.le_of_ble_eq_true rfl⟩ ?_
  refine W.eq (g2 := F0 m 18 ls [va_rf o28]) rfl ?_
  rcases o28 with _ | p30
  · have hm := od_n hm
    refine lv_castN (pc := 18) hx hb dX0_upTo_18 ?_
    refine lv_astore_nN (pc := 21) (lv' := [(2, .null), (0, .ref b0), (1, .int i1)]) hx hb dX0_upTo_21 rfl hl (by decide) rfl (fun ls hl => ?_)
    refine lv_aload_nN (pc := 22) hx hb dX0_upTo_22 rfl (lv_at hl 0 rfl) ?_
    refine lv_ifnonnullN (pc := 23) hx hb dX0_upTo_23 ?_
    refine lv_bipush (pc := 26) (v := (-5 : Int32)) hx hb dX0_upTo_26 (by decide) ?_
    refine lv_goto (pc := 28) (tgt := 35) hx hb dX0_upTo_28 (by decide) ?_
    obtain ⟨e7, e8, e9⟩ := rs3 hm
    subst e7
    subst e8
    subst e9
    exact rk_iretA (pc := 35) hx hb hr hlk hS20 ⟨rfl, hW21, hz25, hKM26⟩ dX0_upTo_35 (by exact Nat.le_of_ble_eq_true rfl) (by exact Nat.le_of_ble_eq_true rfl)
  · have hm := od_s hm
    obtain ⟨hg31, hm⟩ := gb_some hm
    refine rp_castS (pc := 18) (C := RX14) (T := TX14) (N := 2) (ci := 14) hx hb hown hts hK q1334 rfl (rp_recv hK hW21 (C := RX14) (T := TX14) (N := 2) rfl (shP_14 (kd_PL hg31) (kd_k hg31))) dX0_upTo_18 ?_
    refine lv_astore_n (pc := 21) (lv' := [(2, .ref p30), (0, .ref b0), (1, .int i1)]) hx hb dX0_upTo_21 rfl hl (by decide) rfl (fun ls hl => ?_)
    refine lv_aload_n (pc := 22) hx hb dX0_upTo_22 rfl (lv_at hl 0 rfl) ?_
    refine lv_ifnonnull (pc := 23) (tgt := 31) hx hb dX0_upTo_23 (by decide) ?_
    refine lv_aload_n (pc := 31) hx hb dX0_upTo_31 rfl (lv_at hl 0 rfl) ?_
    obtain ⟨hg32, hm⟩ := gb_some hm
    refine rk_getN (pc := 32) hx hb hts hown hK (pl_rg hW21) fnX0_526 p30 (Nat.lt_succ_self _) (Nat.zero_add _).symm (shP_14 (kd_PL hg32) (kd_k hg32)) (x := .int (gI w14 p30 1)) rfl dX0_upTo_32 ?_
    obtain ⟨e7, e8, e9⟩ := rs3 hm
    subst e7
    subst e8
    subst e9
    exact rk_iretA (pc := 35) hx hb hr hlk hS20 ⟨rfl, hW21, hz25, hKM26⟩ dX0_upTo_35 (by exact Nat.le_of_ble_eq_true rfl) (by exact Nat.le_of_ble_eq_true rfl)
set_option maxHeartbeats 4000000 in
theorem ct_X0_upTo {G : Gv} {l : Launch} {b0 : Nat} {PL : Nat → Bool} {Z : Nat} {V0 : Mem} {v1 : Mem} {i1 : Int32} {rx : Int32} {rc : Nat} {rw1 : Mem} (hm : fX0_upTo PL Z b0 V0 v1 i1 = some (rx, rc, rw1)) (hPX : ∀ z, PL z = true → ¬ fX b0 z) (hZP : ZP G) : CT G l yX0_upTo (ws_ yX0_upTo cX0_upTo 3 (some .int)) 5 1 2 112 [.ref b0, .int i1] (fP PL v1) Z (fun H => rg G b0 357 (shX0 G.2.1) V0 H ∧ pl G PL v1 H) (fun ov H => ov = (some (.int rx)) ∧ pl G PL rw1 H ∧ H.size = Z + rc ∧ KM v1 rw1 Z) := by
  refine Met.ofW (cc := cX0_upTo) (maxL := 3) (ret := (some .int)) (by decide +kernel) rfl ?_
  intro p e s m args below meth c s₁ B hml hv
  obtain ⟨rfl, ⟨hz, hW0, hW1⟩, hK⟩ := hv
  subst hz
  have he0 := rg_end hW0 356 (by decide) rfl (fun _ _ _ => rfl)
  have hZz : s.heap.size = s.heap.size := rfl
  have hts := atoms_spec (ws := ws_ yX0_upTo cX0_upTo 3 (some .int)) B.pre
  have hts : ∀ w ∈ lw_all, w.before _ s = true := fun w h => hts w (List.mem_cons_of_mem _ h)
  have C : Cx G p s m _ meth c RX0 cX0_upTo 3 (some .int) := ⟨B.exec, B.bytes, B.returns, B.notSynchronized, hml, findClass_of_methodNamed B.named, hts, hK⟩
  have hl := lv_entry ([.ref b0, .int i1]) (n := 3) (Nat.le_of_ble_eq_true rfl)
  rw [lg_entry_eq]
  generalize (lg_sl ([.ref b0, .int i1]) ++ List.replicate (3 - (lg_sl ([.ref b0, .int i1])).length) Slot.unset).toArray = ls at hl ⊢
  have hl : lv_has ls 3 [(0, .ref b0), (1, .int i1)] := hl
  exact w_fX0_upTo C hPX he0 hZz hZP _ _ hm s.heap [] ls hW0 hW1 va_S.rf rfl KM.rf hl
noncomputable def fX0_count (PL : Nat → Bool) (b0 : Nat) (V0 : Mem) (V1 : Mem) (i1 : Int32) : Option (Int32) :=
  if i1 = (0 : Int32) then (
  some (gI V0 1 0))
  else if i1 = (1 : Int32) then (
  some (gI V0 1 1))
  else if i1 = (2 : Int32) then (
  if (gI V0 0 6) = 0 then (
  some (0 : Int32))
  else (
  some (gI V0 67 1)))
  else if i1 = (3 : Int32) then (
  if (gI V0 0 6) = 0 then (
  some (0 : Int32))
  else (
  some (gI V0 67 3)))
  else if i1 = (4 : Int32) then (
  if (gI V0 0 6) = 0 then (
  some (0 : Int32))
  else (
  some (gI V0 67 2)))
  else if i1 = (5 : Int32) then (
  some (gI V0 1 4))
  else if i1 = (6 : Int32) then (
  some (gI V0 1 5))
  else if i1 = (7 : Int32) then (
  gb (kd PL V1 (b0 + 153) 16) (
  ob (fJ1_size PL V1 (b0 + 153)) fun r13 =>
  some r13))
  else if i1 = (8 : Int32) then (
  some (gI V0 0 12))
  else if i1 = (9 : Int32) then (
  some (gI V0 1 3))
  else (
  some (-2 : Int32))
set_option maxHeartbeats 4000000 in
theorem w_fX0_count (C : Cx G p s m args meth c RX0 cX0_count 2 (some .int)) {b0 : Nat} {PL : Nat → Bool} {V0 : Mem} {V1 : Mem} {rx : Int32} (hW0 : rg G b0 357 (shX0 G.2.1) V0 s.heap) (hW1 : pl G PL V1 s.heap) : ∀ (i1 : Int32), fX0_count PL b0 V0 V1 i1 = some rx → ∀ (ls : Array Slot), lv_has ls 2 [(0, .ref b0), (1, .int i1)] → W p l e (rmP 1 20) s m args below meth c s.heap [] 0 0 (MQ below (QcP (some (.int rx))) args s 0 0 (fun _ => False)) (F0 m 0 ls []) := by
  intro i1 hm ls hl
  obtain ⟨hx, hb, hr, hlk, hml, hown, hts, hK⟩ := id C
  unfold fX0_count at hm
  refine lv_iload_n (pc := 0) hx hb dX0_count_0 rfl (lv_at hl 1 rfl) ?_
  by_cases c1 : i1 = (0 : Int32)
  · have hm := ite_t c1 hm
    refine lv_tableIn (pc := 1) (tgt := 56) hx hb dX0_count_1 (by rw [c1]; decide) (by rw [c1]; decide) (by rw [c1]; rfl) (by decide) ?_
    refine lv_aload_n (pc := 56) hx hb dX0_count_56 rfl (lv_at hl 0 rfl) ?_
    refine rk_get (pc := 57) hx hb hts hown hK hW0 flX0_12 0 (by decide) rfl rfl (x := .ref (b0 + 1)) (by first | rfl | exact congrArg (fun z => some (Value.ref z)) (by omega)) dX0_count_57 ?_
    refine rk_getN (pc := 60) hx hb hts hown hK hW0 fnX0_131 1 (by decide) rfl rfl (x := .int (gI V0 1 0)) rfl dX0_count_60 ?_
    have e9 := rs1 hm
    subst e9
    exact rk_iretP (pc := 63) hx hb hr hlk rfl dX0_count_63
  have hm := ite_f c1 hm
  by_cases c2 : i1 = (1 : Int32)
  · have hm := ite_t c2 hm
    refine lv_tableIn (pc := 1) (tgt := 64) hx hb dX0_count_1 (by rw [c2]; decide) (by rw [c2]; decide) (by rw [c2]; rfl) (by decide) ?_
    refine lv_aload_n (pc := 64) hx hb dX0_count_64 rfl (lv_at hl 0 rfl) ?_
    refine rk_get (pc := 65) hx hb hts hown hK hW0 flX0_12 0 (by decide) rfl rfl (x := .ref (b0 + 1)) (by first | rfl | exact congrArg (fun z => some (Value.ref z)) (by omega)) dX0_count_65 ?_
    refine rk_getN (pc := 68) hx hb hts hown hK hW0 fnX0_158 1 (by decide) rfl rfl (x := .int (gI V0 1 1)) rfl dX0_count_68 ?_
    have e9 := rs1 hm
    subst e9
    exact rk_iretP (pc := 71) hx hb hr hlk rfl dX0_count_71
  have hm := ite_f c2 hm
  by_cases c3 : i1 = (2 : Int32)
  · have hm := ite_t c3 hm
    refine lv_tableIn (pc := 1) (tgt := 72) hx hb dX0_count_1 (by rw [c3]; decide) (by rw [c3]; decide) (by rw [c3]; rfl) (by decide) ?_
    refine lv_aload_n (pc := 72) hx hb dX0_count_72 rfl (lv_at hl 0 rfl) ?_
    refine rk_get (pc := 73) hx hb hts hown hK hW0 flX0_121 0 (by decide) rfl rfl (x := .int (gI V0 0 6)) rfl dX0_count_73 ?_
    refine lv_if_eq (pc := 76) (tgt := 89) hx hb dX0_count_76 (by decide) (fun c4 => ?_) (fun c4 => ?_)
    · have hm := ite_t c4 hm
      refine lv_iconst (pc := 89) (v := (0 : Int32)) hx hb dX0_count_89 (by decide) ?_
      have e9 := rs1 hm
      subst e9
      exact rk_iretP (pc := 90) hx hb hr hlk rfl dX0_count_90
    · have hm := ite_f c4 hm
      refine lv_aload_n (pc := 79) hx hb dX0_count_79 rfl (lv_at hl 0 rfl) ?_
      refine rk_get (pc := 80) hx hb hts hown hK hW0 flX0_27 0 (by decide) rfl rfl (x := .ref (b0 + 67)) (by first | rfl | exact congrArg (fun z => some (Value.ref z)) (by omega)) dX0_count_80 ?_
      refine rk_getN (pc := 83) hx hb hts hown hK hW0 fnX0_229 67 (by decide) rfl rfl (x := .int (gI V0 67 1)) rfl dX0_count_83 ?_
      refine lv_goto (pc := 86) (tgt := 90) hx hb dX0_count_86 (by decide) ?_
      have e9 := rs1 hm
      subst e9
      exact rk_iretP (pc := 90) hx hb hr hlk rfl dX0_count_90
  have hm := ite_f c3 hm
  by_cases c5 : i1 = (3 : Int32)
  · have hm := ite_t c5 hm
    refine lv_tableIn (pc := 1) (tgt := 91) hx hb dX0_count_1 (by rw [c5]; decide) (by rw [c5]; decide) (by rw [c5]; rfl) (by decide) ?_
    refine lv_aload_n (pc := 91) hx hb dX0_count_91 rfl (lv_at hl 0 rfl) ?_
    refine rk_get (pc := 92) hx hb hts hown hK hW0 flX0_121 0 (by decide) rfl rfl (x := .int (gI V0 0 6)) rfl dX0_count_92 ?_
    refine lv_if_eq (pc := 95) (tgt := 108) hx hb dX0_count_95 (by decide) (fun c6 => ?_) (fun c6 => ?_)
    · have hm := ite_t c6 hm
      refine lv_iconst (pc := 108) (v := (0 : Int32)) hx hb dX0_count_108 (by decide) ?_
      have e9 := rs1 hm
      subst e9
      exact rk_iretP (pc := 109) hx hb hr hlk rfl dX0_count_109
    · have hm := ite_f c6 hm
      refine lv_aload_n (pc := 98) hx hb dX0_count_98 rfl (lv_at hl 0 rfl) ?_
      refine rk_get (pc := 99) hx hb hts hown hK hW0 flX0_27 0 (by decide) rfl rfl (x := .ref (b0 + 67)) (by first | rfl | exact congrArg (fun z => some (Value.ref z)) (by omega)) dX0_count_99 ?_
      refine rk_getN (pc := 102) hx hb hts hown hK hW0 fnX0_278 67 (by decide) rfl rfl (x := .int (gI V0 67 3)) rfl dX0_count_102 ?_
      refine lv_goto (pc := 105) (tgt := 109) hx hb dX0_count_105 (by decide) ?_
      have e9 := rs1 hm
      subst e9
      exact rk_iretP (pc := 109) hx hb hr hlk rfl dX0_count_109
  have hm := ite_f c5 hm
  by_cases c7 : i1 = (4 : Int32)
  · have hm := ite_t c7 hm
    refine lv_tableIn (pc := 1) (tgt := 110) hx hb dX0_count_1 (by rw [c7]; decide) (by rw [c7]; decide) (by rw [c7]; rfl) (by decide) ?_
    refine lv_aload_n (pc := 110) hx hb dX0_count_110 rfl (lv_at hl 0 rfl) ?_
    refine rk_get (pc := 111) hx hb hts hown hK hW0 flX0_121 0 (by decide) rfl rfl (x := .int (gI V0 0 6)) rfl dX0_count_111 ?_
    refine lv_if_eq (pc := 114) (tgt := 127) hx hb dX0_count_114 (by decide) (fun c8 => ?_) (fun c8 => ?_)
    · have hm := ite_t c8 hm
      refine lv_iconst (pc := 127) (v := (0 : Int32)) hx hb dX0_count_127 (by decide) ?_
      have e9 := rs1 hm
      subst e9
      exact rk_iretP (pc := 128) hx hb hr hlk rfl dX0_count_128
    · have hm := ite_f c8 hm
      refine lv_aload_n (pc := 117) hx hb dX0_count_117 rfl (lv_at hl 0 rfl) ?_
      refine rk_get (pc := 118) hx hb hts hown hK hW0 flX0_27 0 (by decide) rfl rfl (x := .ref (b0 + 67)) (by first | rfl | exact congrArg (fun z => some (Value.ref z)) (by omega)) dX0_count_118 ?_
      refine rk_getN (pc := 121) hx hb hts hown hK hW0 fnX0_421 67 (by decide) rfl rfl (x := .int (gI V0 67 2)) rfl dX0_count_121 ?_
      refine lv_goto (pc := 124) (tgt := 128) hx hb dX0_count_124 (by decide) ?_
      have e9 := rs1 hm
      subst e9
      exact rk_iretP (pc := 128) hx hb hr hlk rfl dX0_count_128
  have hm := ite_f c7 hm
  by_cases c9 : i1 = (5 : Int32)
  · have hm := ite_t c9 hm
    refine lv_tableIn (pc := 1) (tgt := 129) hx hb dX0_count_1 (by rw [c9]; decide) (by rw [c9]; decide) (by rw [c9]; rfl) (by decide) ?_
    refine lv_aload_n (pc := 129) hx hb dX0_count_129 rfl (lv_at hl 0 rfl) ?_
    refine rk_get (pc := 130) hx hb hts hown hK hW0 flX0_12 0 (by decide) rfl rfl (x := .ref (b0 + 1)) (by first | rfl | exact congrArg (fun z => some (Value.ref z)) (by omega)) dX0_count_130 ?_
    refine rk_getN (pc := 133) hx hb hts hown hK hW0 fnX0_476 1 (by decide) rfl rfl (x := .int (gI V0 1 4)) rfl dX0_count_133 ?_
    have e9 := rs1 hm
    subst e9
    exact rk_iretP (pc := 136) hx hb hr hlk rfl dX0_count_136
  have hm := ite_f c9 hm
  by_cases c10 : i1 = (6 : Int32)
  · have hm := ite_t c10 hm
    refine lv_tableIn (pc := 1) (tgt := 137) hx hb dX0_count_1 (by rw [c10]; decide) (by rw [c10]; decide) (by rw [c10]; rfl) (by decide) ?_
    refine lv_aload_n (pc := 137) hx hb dX0_count_137 rfl (lv_at hl 0 rfl) ?_
    refine rk_get (pc := 138) hx hb hts hown hK hW0 flX0_12 0 (by decide) rfl rfl (x := .ref (b0 + 1)) (by first | rfl | exact congrArg (fun z => some (Value.ref z)) (by omega)) dX0_count_138 ?_
    refine rk_getN (pc := 141) hx hb hts hown hK hW0 fnX0_555 1 (by decide) rfl rfl (x := .int (gI V0 1 5)) rfl dX0_count_141 ?_
    have e9 := rs1 hm
    subst e9
    exact rk_iretP (pc := 144) hx hb hr hlk rfl dX0_count_144
  have hm := ite_f c10 hm
  by_cases c11 : i1 = (7 : Int32)
  · have hm := ite_t c11 hm
    refine lv_tableIn (pc := 1) (tgt := 145) hx hb dX0_count_1 (by rw [c11]; decide) (by rw [c11]; decide) (by rw [c11]; rfl) (by decide) ?_
    refine lv_aload_n (pc := 145) hx hb dX0_count_145 rfl (lv_at hl 0 rfl) ?_
    refine rk_get (pc := 146) hx hb hts hown hK hW0 flX0_37 0 (by decide) rfl rfl (x := .ref (b0 + 153)) (by first | rfl | exact congrArg (fun z => some (Value.ref z)) (by omega)) dX0_count_146 ?_
    obtain ⟨hg12, hm⟩ := gb_some hm
    obtain ⟨r13, hq14, hm⟩ := ob_some hm
    refine rk_PV (pc := 149) (As := []) (rest := []) hx hb hml hown hts hK lkX0_503 rfl yn_J1_size (ct_J1_size (G := G) (l := l) hq14) ⟨Nat.le_of_ble_eq_true rfl, Nat.le_of_ble_eq_true rfl⟩ (rp_recv hK hW1 (C := RJ1) (T := TJ1) (N := 9) rfl (shP_16 (kd_PL hg12) (kd_k hg12))) hW1 rfl rfl hl.1 (Nat.le_of_ble_eq_true rfl) dX0_count_149 ⟨Nat.zero_le _, Nat.zero_le _⟩ ?_
    refine W.eq (g2 := F0 m 152 ls [.int r13]) rfl ?_
    have e9 := rs1 hm
    subst e9
    exact rk_iretP (pc := 152) hx hb hr hlk rfl dX0_count_152
  have hm := ite_f c11 hm
  by_cases c15 : i1 = (8 : Int32)
  · have hm := ite_t c15 hm
    refine lv_tableIn (pc := 1) (tgt := 153) hx hb dX0_count_1 (by rw [c15]; decide) (by rw [c15]; decide) (by rw [c15]; rfl) (by decide) ?_
    refine lv_aload_n (pc := 153) hx hb dX0_count_153 rfl (lv_at hl 0 rfl) ?_
    refine rk_get (pc := 154) hx hb hts hown hK hW0 flX0_189 0 (by decide) rfl rfl (x := .int (gI V0 0 12)) rfl dX0_count_154 ?_
    have e9 := rs1 hm
    subst e9
    exact rk_iretP (pc := 157) hx hb hr hlk rfl dX0_count_157
  have hm := ite_f c15 hm
  by_cases c16 : i1 = (9 : Int32)
  · have hm := ite_t c16 hm
    refine lv_tableIn (pc := 1) (tgt := 158) hx hb dX0_count_1 (by rw [c16]; decide) (by rw [c16]; decide) (by rw [c16]; rfl) (by decide) ?_
    refine lv_aload_n (pc := 158) hx hb dX0_count_158 rfl (lv_at hl 0 rfl) ?_
    refine rk_get (pc := 159) hx hb hts hown hK hW0 flX0_12 0 (by decide) rfl rfl (x := .ref (b0 + 1)) (by first | rfl | exact congrArg (fun z => some (Value.ref z)) (by omega)) dX0_count_159 ?_
    refine rk_getN (pc := 162) hx hb hts hown hK hW0 fnX0_324 1 (by decide) rfl rfl (x := .int (gI V0 1 3)) rfl dX0_count_162 ?_
    have e9 := rs1 hm
    subst e9
    exact rk_iretP (pc := 165) hx hb hr hlk rfl dX0_count_165
  have hm := ite_f c16 hm
  refine lv_tableOut (pc := 1) (tgt := 166) hx hb dX0_count_1 (tsw10 c1 c2 c3 c5 c7 c9 c10 c11 c15 c16) (by decide) ?_
  refine lv_bipush (pc := 166) (v := (-2 : Int32)) hx hb dX0_count_166 (by decide) ?_
  have e9 := rs1 hm
  subst e9
  exact rk_iretP (pc := 168) hx hb hr hlk rfl dX0_count_168
set_option maxHeartbeats 4000000 in
theorem ct_X0_count {G : Gv} {l : Launch} {b0 : Nat} {PL : Nat → Bool} {V0 : Mem} {V1 : Mem} {i1 : Int32} {rx : Int32} (hm : fX0_count PL b0 V0 V1 i1 = some rx) : CP G l yX0_count (ws_ yX0_count cX0_count 2 (some .int)) 1 20 [.ref b0, .int i1] (fun H => rg G b0 357 (shX0 G.2.1) V0 H ∧ pl G PL V1 H) (some (.int rx)) := by
  refine Met.ofW (cc := cX0_count) (maxL := 2) (ret := (some .int)) (by decide +kernel) rfl ?_
  intro p e s m args below meth c s₁ B hml hv
  obtain ⟨rfl, ⟨hW0, hW1⟩, hK⟩ := hv
  have hts := atoms_spec (ws := ws_ yX0_count cX0_count 2 (some .int)) B.pre
  have hts : ∀ w ∈ lw_all, w.before _ s = true := fun w h => hts w (List.mem_cons_of_mem _ h)
  have C : Cx G p s m _ meth c RX0 cX0_count 2 (some .int) := ⟨B.exec, B.bytes, B.returns, B.notSynchronized, hml, findClass_of_methodNamed B.named, hts, hK⟩
  have hl := lv_entry ([.ref b0, .int i1]) (n := 2) (Nat.le_of_ble_eq_true rfl)
  rw [lg_entry_eq]
  generalize (lg_sl ([.ref b0, .int i1]) ++ List.replicate (2 - (lg_sl ([.ref b0, .int i1])).length) Slot.unset).toArray = ls at hl ⊢
  have hl : lv_has ls 2 [(0, .ref b0), (1, .int i1)] := hl
  exact w_fX0_count C hW0 hW1 _ hm ls hl
end
