set_option maxRecDepth 100000
section
variable {p : Program} {l : Launch} {e : Env} {s : State} {m : MethodId} {args : Array Value} {below : List Frame} {meth : Method} {c : Code} {G : Gv}
theorem yn_J4_clear : YN yJ4_clear 0 := by
  unfold YN
  decide +kernel
theorem lkX0_378 : LV RX0 378 RJ4 yJ4_clear cJ4_clear 4 none := ⟨q989, q990, q991, q123, q992⟩
theorem yn_X8_begins : YN yX8_begins 0 := by
  unfold YN
  decide +kernel
theorem lkX0_449 : LV RX0 449 RX8 yX8_begins cX8_begins 2 none := ⟨q1221, q1222, q1223, q127, q1224⟩
theorem yn_J2_isEmpty : YN yJ2_isEmpty 0 := by
  unfold YN
  decide +kernel
theorem lfX0_451_J4 : LU RX0 451 RJ4 "java/util/AbstractCollection" ⟨"java/util/PriorityQueue", "isEmpty", "()Z"⟩ yJ2_isEmpty cJ2_isEmpty 1 (some .boolean) := ⟨⟨q1246, q1247, q1249, q1250, q121⟩, q1251, by decide, by decide⟩
theorem ynx_X0_451 : YN ⟨"java/util/PriorityQueue", "isEmpty", "()Z"⟩ 0 := by
  unfold YN
  decide +kernel
theorem yn_X0_parts : YN yX0_parts 1 := by
  unfold YN
  decide +kernel
theorem lkX0_454 : LV RX0 454 RX0 yX0_parts cX0_parts 5 none := ⟨q1268, q1270, qs44, q114, q1271⟩
noncomputable def fX0_branched_31 (PL : Nat → Bool) (Z : Nat) (b0 : Nat) (k31 : Mem → Mem → Nat → Nat → Nat → Option (Bool × Int32 × Nat × Nat × Mem × Mem)) (v0 : Mem) (v1 : Mem) (cb : Nat) (sb : Nat) (zc : Nat) : Option (Bool × Int32 × Nat × Nat × Mem × Mem) :=
  gb (kd PL v1 (b0 + 165) 17) (
  ob (fJ2_isEmpty PL v1 (b0 + 165)) fun r123 =>
  if r123 = 0 then (
  gb (kd PL v1 (b0 + 165) 17) (
  ob2 (fJ4_poll_node PL b0 v0 v1 (b0 + 165)) fun oa153 w154 =>
  gb (decide (cb ≤ 90 ∧ sb ≤ 2200)) (
  od oa153 (
  none) (fun pa169 =>
  ob (fi b0 197 4 40 pa169) fun nf170 =>
  if (gI v0 (197 + 4 * nf170 + 0) 4) = (-1 : Int32) then (
  some (true, (0 : Int32), nf170, zc, v0, w154))
  else (
  ob5 (fX0_parts PL (Z + zc) b0 nf170 v0 w154) fun ok179 re180 rc176 w177 w178 =>
  if ok179 = true then (
  gb (decide ((cb + 2) ≤ 90 ∧ (sb + 180) ≤ 2200)) (
  k31 w177 w178 (cb + 2) (sb + 180) (zc + rc176)))
  else (
  gb (decide ((cb + 2) ≤ 90 ∧ (sb + 180) ≤ 2200)) (
  some (false, re180, 0, (zc + rc176), w177, w178))))))))
  else (
  gb (decide ((cb + 1) ≤ 90 ∧ (sb + 7) ≤ 2200)) (
  some (false, (-5 : Int32), 0, (zc + 1), v0, v1))))
noncomputable def fX0_branched (PL : Nat → Bool) (Z : Nat) (b0 : Nat) (v0 : Mem) (v1 : Mem) : Option (Bool × Int32 × Nat × Nat × Mem × Mem) :=
  gb (kd PL v1 (b0 + 165) 17) (
  ob (fJ4_clear PL v1 (b0 + 165)) fun w2 =>
  gb (decide (0 ≤ 90 ∧ 0 ≤ 2200)) (
  lm (sI v0 0 20 (0 : Int32)) fun v0_17 =>
  lm (sI v0_17 0 21 (0 : Int32)) fun v0_27 =>
  ob5 (fX0_nextNode v0_27) fun ok40 re41 nf37 rc38 w39 =>
  if ok40 = true then (
  gb (decide (0 ≤ 90 ∧ 0 ≤ 2200)) (
  ob (fX8_begins (shf w39 (197 + 4 * nf37))) fun w55 =>
  gb (decide (0 ≤ 90 ∧ 0 ≤ 2200)) (
  lm (ptm w39 (197 + 4 * nf37) 4 w55) fun v0_67 =>
  ob5 (fX0_relaxes PL (Z + rc38) b0 nf37 v0_67 w2) fun ok73 re74 rc70 w71 w72 =>
  if ok73 = true then (
  gb (decide (1 ≤ 90 ∧ 90 ≤ 2200)) (
  lq5 (fX0_branched_31 PL Z b0) FU w71 w72 1 90 (rc38 + rc70)))
  else (
  gb (decide (1 ≤ 90 ∧ 90 ≤ 2200)) (
  some (false, re74, 0, (rc38 + rc70), w71, w72))))))
  else (
  gb (decide (1 ≤ 90 ∧ 7 ≤ 2200)) (
  some (false, re41, 0, rc38, w39, w2)))))
set_option maxHeartbeats 4000000 in
theorem w_fX0_branched_31 (C : Cx G p s m args meth c RX0 cX0_branched 3 (some (.object "WholePacks$Node"))) {b0 : Nat} {PL : Nat → Bool} {Z : Nat} {vP0 : Mem} {rok : Bool} {re : Int32} {rx : Nat} {rc : Nat} {rw0 : Mem} {rw1 : Mem} (hPX : ∀ z, PL z = true → ¬ fX b0 z) (he0 : b0 + 357 ≤ s.heap.size) (hZz : s.heap.size = Z) (hZ : ZQ G) (hgb0 : gB G ≤ b0) (hPg : ∀ z, PL z = true → gB G ≤ z) (hZP : ZP G) (ht : ∀ x ∈ c.exceptionTable.toList, False) {k31 : Mem → Mem → Nat → Nat → Nat → Option (Bool × Int32 × Nat × Nat × Mem × Mem)} (hk31 : ∀ (v0 : Mem) (v1 : Mem) (cb : Nat) (sb : Nat) (zc : Nat), k31 v0 v1 cb sb zc = some (rok, re, rx, rc, rw0, rw1) → ∀ (H : Heap) (locs : List Loc) (ls : Array Slot), rg G b0 357 (shX0 G.2.1) v0 H → pl G PL v1 H → va_S (FA (fun z => (fX b0) z ∨ (fP PL vP0) z) s.heap.size) s.heap H locs → H.size = s.heap.size + zc → KM vP0 v1 s.heap.size → GO G H → cb ≤ 90 ∧ sb ≤ 2200 → lv_has ls 3 [(0, .ref b0)] → W p l e (rmT 9 90 2200 254) s m args below meth c H locs cb sb (vx_MQ below (QcX rok (FA (fun z => (fX b0) z ∨ (fP PL vP0) z) s.heap.size) (fun ov H => ov = (some (.ref (b0 + (197 + 4 * rx + 0)))) ∧ rg G b0 357 (shX0 G.2.1) rw0 H ∧ pl G PL rw1 H ∧ H.size = s.heap.size + rc ∧ KM vP0 rw1 s.heap.size ∧ rx < 40)) (XcX rok (FA (fun z => (fX b0) z ∨ (fP PL vP0) z) s.heap.size) (fun q E H => E = "WholePacks$Stuck" ∧ s.heap.size ≤ q ∧ (∃ wx, rg G q 1 (shX13 G.2.1) wx H ∧ gI wx 0 6 = re) ∧ rg G b0 357 (shX0 G.2.1) rw0 H ∧ pl G PL rw1 H ∧ H.size = s.heap.size + rc ∧ KM vP0 rw1 s.heap.size)) args s 90 2200 (FA (fun z => (fX b0) z ∨ (fP PL vP0) z) s.heap.size)) (F0 m 31 ls [])) : ∀ (v0 : Mem) (v1 : Mem) (cb : Nat) (sb : Nat) (zc : Nat), fX0_branched_31 PL Z b0 k31 v0 v1 cb sb zc = some (rok, re, rx, rc, rw0, rw1) → ∀ (H : Heap) (locs : List Loc) (ls : Array Slot), rg G b0 357 (shX0 G.2.1) v0 H → pl G PL v1 H → va_S (FA (fun z => (fX b0) z ∨ (fP PL vP0) z) s.heap.size) s.heap H locs → H.size = s.heap.size + zc → KM vP0 v1 s.heap.size → GO G H → cb ≤ 90 ∧ sb ≤ 2200 → lv_has ls 3 [(0, .ref b0)] → W p l e (rmT 9 90 2200 254) s m args below meth c H locs cb sb (vx_MQ below (QcX rok (FA (fun z => (fX b0) z ∨ (fP PL vP0) z) s.heap.size) (fun ov H => ov = (some (.ref (b0 + (197 + 4 * rx + 0)))) ∧ rg G b0 357 (shX0 G.2.1) rw0 H ∧ pl G PL rw1 H ∧ H.size = s.heap.size + rc ∧ KM vP0 rw1 s.heap.size ∧ rx < 40)) (XcX rok (FA (fun z => (fX b0) z ∨ (fP PL vP0) z) s.heap.size) (fun q E H => E = "WholePacks$Stuck" ∧ s.heap.size ≤ q ∧ (∃ wx, rg G q 1 (shX13 G.2.1) wx H ∧ gI wx 0 6 = re) ∧ rg G b0 357 (shX0 G.2.1) rw0 H ∧ pl G PL rw1 H ∧ H.size = s.heap.size + rc ∧ KM vP0 rw1 s.heap.size)) args s 90 2200 (FA (fun z => (fX b0) z ∨ (fP PL vP0) z) s.heap.size)) (F0 m 31 ls []) := by
  intro v0 v1 cb sb zc hm H locs ls hW0 hW1 hS hz hKM hG hcb hl
  obtain ⟨hx, hb, hr, hlk, hml, hown, hts, hK⟩ := id C
  unfold fX0_branched_31 at hm
  refine lv_aload_n (pc := 31) hx hb dX0_branched_31 rfl (lv_at hl 0 rfl) ?_
  refine rk_get (pc := 32) hx hb hts hown hK hW0 flX0_92 0 (by decide) rfl rfl (x := .ref (b0 + 165)) (by first | rfl | exact congrArg (fun z => some (Value.ref z)) (by omega)) dX0_branched_32 ?_
  obtain ⟨hg122, hm⟩ := gb_some hm
  obtain ⟨r123, hq124, hm⟩ := ob_some hm
  refine rp_PU (pc := 35) (As := []) (rest := []) hx hb hml hown hts hK lfX0_451_J4 q1248 ynx_X0_451 (ct_J2_isEmpty (G := G) (l := l) hq124) ⟨Nat.le_of_ble_eq_true rfl, Nat.le_of_ble_eq_true rfl⟩ (rp_recv hK hW1 (C := RJ4) (T := TJ4) (N := 4) rfl (shP_17 (kd_PL hg122) (kd_k hg122))) hW1 rfl rfl hl.1 (Nat.le_of_ble_eq_true rfl) dX0_branched_35 hcb ?_
  refine W.eq (g2 := F0 m 38 ls [.int r123]) rfl ?_
  refine lv_if_ne (pc := 38) (tgt := 70) hx hb dX0_branched_38 (by decide) (fun c125 => ?_) (fun c125 => ?_)
  · have hm := ite_f c125 hm
    obtain ⟨h126, hh126⟩ : ∃ h, H.size = h := ⟨_, rfl⟩
    have hqh126 : s.heap.size ≤ h126 := Nat.le_trans hS.1 (Nat.le_of_eq hh126)
    have hn133 : ∀ e, shP PL G.2.1 h126 0 (v1.1 h126) (v1.2.1 h126) (v1.2.2 h126) ≠ some e := fun e he => by have h8 := (hW1 _ e he).lt; simp only at h8; omega
    obtain ⟨hg134, hm⟩ := gb_some hm
    have hg134 := of_decide_eq_true hg134
    refine rk_new (pc := 70) (h := h126) (sh := (shX13 G.2.1)) hx hb hts hown hK hS in_X13 ft_X13 rfl q1211 q817 q135 hh126 rfl (df_X13 _ rfl) (show _ ∧ _ from ⟨hg134.1, hg134.2⟩).1 (show _ ∧ _ from ⟨hg134.1, hg134.2⟩).2 dX0_branched_70 (fun H127 hW129 hS130 hz131 hkp132 => ?_)
    have hW135 := rg_keepN hW0 hh126 hkp132
    have hW136 := pl_keepN hW1 hh126 hkp132
    have hz137 : H127.size = s.heap.size + (zc + 1) := by omega
    have hG138 := GO_keepN hG (by omega) hkp132
    refine lv_dup (pc := 73) hx hb dX0_branched_73 rfl ?_
    refine lv_bipush (pc := 74) (v := (-5 : Int32)) hx hb dX0_branched_74 (by decide) ?_
    refine rk_TI (pc := 76) (As := [.int (-5 : Int32)]) (rest := [.ref h126]) (mc := 0) (ms := 0) hx hb hml hown hts hK hS130 (fun q hq => FA_sz rfl q hq) lkX0_432 yn_X13_init (ct_X13_init (G := G) (l := l) (b0 := h126) (v0 := mz) (i1 := (-5 : Int32)) (sz := H127.size) hZ (by omega)) ⟨Nat.le_of_ble_eq_true rfl, Nat.le_of_ble_eq_true rfl⟩ (fun z h9 => Or.inr (show s.heap.size ≤ z by have := h9.1; omega)) ⟨hW129, hG138⟩ rfl rfl hl.1 (Nat.le_of_ble_eq_true rfl) dX0_branched_76 hg134 (fun ov9 H139 locs140 hP141 hkp142 hS143 => ?_)
    obtain ⟨rfl, ⟨wx144, hW145, hre146⟩, hz147⟩ := hP141
    have hW148 := rg_keepA hW135 hkp142 (by intro z h1 h2 h3; have h8 := h3.1; have h9 := h3.2; omega)
    have hW149 := pl_keepH hW136 hkp142 hn133
    have hG150 := GO_keepA hG138 hkp142 (Nat.le_trans (show gB G ≤ s.heap.size by omega) hS130.1) (by intro z h3; have h8 := h3.1; have h9 := h3.2; omega)
    have hz151 := hz147.trans hz137
    refine W.eq (g2 := F0 m 79 ls [.ref h126]) rfl ?_
    refine vx_athrow (pc := 79) hx hb dX0_branched_79 ?_
    obtain ⟨ce8, hce8, hcv8, hcl8⟩ := rk_exc hK hW145 rfl rfl
    obtain ⟨e4, e5, e6, e7, e8, e9⟩ := rs6 hm
    cases e4
    subst e5
    subst e6
    subst e7
    subst e8
    subst e9
    exact rk_xout (fun x h => (ht x h).elim) hlk hS143 hce8 hcv8 hcl8 ⟨rfl, hqh126, ⟨_, hW145, hre146⟩, hW148, hW149, hz151, hKM⟩ hg134.1 hg134.2
  · have hm := ite_t c125 hm
    refine lv_aload_n (pc := 41) hx hb dX0_branched_41 rfl (lv_at hl 0 rfl) ?_
    refine rk_get (pc := 42) hx hb hts hown hK hW0 flX0_92 0 (by decide) rfl rfl (x := .ref (b0 + 165)) (by first | rfl | exact congrArg (fun z => some (Value.ref z)) (by omega)) dX0_branched_42 ?_
    obtain ⟨hg152, hm⟩ := gb_some hm
    obtain ⟨oa153, w154, hq155, hm⟩ := ob2_some hm
    obtain ⟨hg161, hm⟩ := gb_some hm
    have hg161 := of_decide_eq_true hg161
    refine rk_TV (pc := 45) (As := []) (rest := []) (mc := 0) (ms := 0) hx hb hml hown hts hK hS (fun q hq => FA_sz rfl q hq) lkX0_373 rfl yn_J4_poll (ct_J4_poll_node (G := G) (l := l) (b0 := b0) (sz := H.size) hq155 hPX hZP) ⟨Nat.le_of_ble_eq_true rfl, Nat.le_of_ble_eq_true rfl⟩ (fun z h => (FA_r (KM_hf2 hKM z h))) (rp_recv hK hW1 (C := RJ4) (T := TJ4) (N := 4) rfl (shP_17 (kd_PL hg152) (kd_k hg152))) ⟨hW0, hW1⟩ rfl rfl hl.1 (Nat.le_of_ble_eq_true rfl) dX0_branched_45 ⟨hg161.1, hg161.2⟩ (fun ov9 H156 locs157 hP158 hkp159 hS160 => ?_)
    obtain ⟨rfl, hW162, hz163, hKM164⟩ := hP158
    have hW165 := rg_keepX hW0 hkp159 (by intro z h0 h3; have h1 := h0.1.1; have h2 := h0.1.2; have h4 := h0.2; exact hPX _ h3.1 h0)
    have hG166 := GO_keepA hG hkp159 (Nat.le_trans (show gB G ≤ s.heap.size by omega) hS.1) (by intro z h3; exact hPg _ h3.1)
    have hz167 := hz163.trans hz
    have hKM168 := KM.trans hKM hKM164 (by omega)
    refine W.eq (g2 := F0 m 48 ls [va_rf oa153]) rfl ?_
    rcases oa153 with _ | pa169
    · have hm := od_n hm
      refine lv_castN (pc := 48) hx hb dX0_branched_48 ?_
      refine lv_astore_nN (pc := 51) (lv' := [(2, .null), (0, .ref b0)]) hx hb dX0_branched_51 rfl hl (by decide) rfl (fun ls hl => ?_)
      refine lv_aload_nN (pc := 52) hx hb dX0_branched_52 rfl (lv_at hl 0 rfl) ?_
      exact nomatch hm
    · have hm := od_s hm
      obtain ⟨nf170, hf171, hm174⟩ := ob_some hm
      obtain ⟨ha172, hlt173⟩ := fi_some hf171
      subst ha172
      have hm := hm174
      refine rk_castS (pc := 48) hx hb hown hts hK q402 hW165 (197 + 4 * nf170 + 0) (by omega) rfl rfl ((shX0_f197 G.2.1 hlt173 _ rfl 0 (by decide) _ _ _).trans rfl) dX0_branched_48 ?_
      refine lv_astore_n (pc := 51) (lv' := [(2, .ref (b0 + (197 + 4 * nf170 + 0))), (0, .ref b0)]) hx hb dX0_branched_51 rfl hl (by decide) rfl (fun ls hl => ?_)
      refine lv_aload_n (pc := 52) hx hb dX0_branched_52 rfl (lv_at hl 0 rfl) ?_
      refine rk_getN (pc := 53) hx hb hts hown hK hW165 fnX0_433 (197 + 4 * nf170 + 0) (by omega) rfl ((shX0_f197 G.2.1 hlt173 _ rfl 0 (by decide) _ _ _).trans rfl) (x := .int (gI v0 (197 + 4 * nf170 + 0) 4)) rfl dX0_branched_53 ?_
      refine lv_iconst (pc := 56) (v := (-1 : Int32)) hx hb dX0_branched_56 (by decide) ?_
      refine lv_icmp_ne (pc := 57) (tgt := 62) hx hb dX0_branched_57 (by decide) (fun c175 => ?_) (fun c175 => ?_)
      · have hm := ite_f c175 hm
        refine lv_aload_n (pc := 62) hx hb dX0_branched_62 rfl (lv_at hl 1 rfl) ?_
        refine lv_aload_n (pc := 63) hx hb dX0_branched_63 rfl (lv_at hl 0 rfl) ?_
        obtain ⟨ok179, re180, rc176, w177, w178, hq181, hm⟩ := ob5_some hm
        have hq182 := hq181
        rw [show (Z + zc) = H156.size by omega] at hq182
        by_cases hok : ok179 = true
        · subst hok
          have hm := ite_t rfl hm
          obtain ⟨hg188, hm⟩ := gb_some hm
          have hg188 := of_decide_eq_true hg188
          refine rk_TV (pc := 64) (As := [.ref (b0 + (197 + 4 * nf170 + 0))]) (rest := []) (mc := 2) (ms := 180) hx hb hml hown hts hK hS160 (fun q hq => FA_sz rfl q hq) lkX0_454 rfl yn_X0_parts (CX.ret (ct_X0_parts (G := G) (l := l) (rok := true) (b0 := b0) hq182 hPX hlt173 hZ (by omega) hPg hZP)) ⟨Nat.le_of_ble_eq_true rfl, Nat.le_of_ble_eq_true rfl⟩ (fun z h => h.elim (fun h => Or.inl (Or.inl h)) (fun h => (FA_r (KM_hf2 hKM168 z h)))) (rk_recv hK hW165 0 (by decide) rfl rfl rfl) ⟨hW165, hW162, hG166⟩ rfl rfl hl.1 (Nat.le_of_ble_eq_true rfl) dX0_branched_64 ⟨hg188.1, hg188.2⟩ (fun ov9 H183 locs184 hP185 hkp186 hS187 => ?_)
          obtain ⟨rfl, hW189, hW190, hz191, hKM192⟩ := hP185
          have hG193 := GO_keepA hG166 hkp186 (Nat.le_trans (show gB G ≤ s.heap.size by omega) hS160.1) (by intro z h3; exact h3.elim (fun h3 => by have h8 := h3.1.1; have h9 := h3.1.2; omega) (fun h3 => by exact hPg _ h3.1))
          have hz194 : H183.size = s.heap.size + (zc + rc176) := by omega
          have hKM195 := KM.trans hKM168 hKM192 (by omega)
          refine W.eq (g2 := F0 m 67 ls []) rfl ?_
          refine lv_goto (pc := 67) (tgt := 31) hx hb dX0_branched_67 (by decide) ?_
          exact hk31 w177 w178 (cb + 2) (sb + 180) (zc + rc176) hm H183 locs184 ls hW189 hW190 hS187 hz194 hKM195 hG193 hg188 (lv_sub hl [1] rfl)
        · have hok := eq_false_of_ne_true hok
          subst hok
          have hm := ite_f Bool.false_ne_true hm
          obtain ⟨hg202, hm⟩ := gb_some hm
          have hg202 := of_decide_eq_true hg202
          refine rk_XV (pc := 64) (As := [.ref (b0 + (197 + 4 * nf170 + 0))]) (rest := []) (mc := 2) (ms := 180) hx hb hml hown hts hK hS160 (fun q hq => FA_sz rfl q hq) lkX0_454 rfl yn_X0_parts (ct_X0_parts (G := G) (l := l) (rok := false) (b0 := b0) hq182 hPX hlt173 hZ (by omega) hPg hZP) ⟨Nat.le_of_ble_eq_true rfl, Nat.le_of_ble_eq_true rfl⟩ (fun z h => h.elim (fun h => Or.inl (Or.inl h)) (fun h => (FA_r (KM_hf2 hKM168 z h)))) (rk_recv hK hW165 0 (by decide) rfl rfl rfl) ⟨hW165, hW162, hG166⟩ rfl rfl hl.1 (Nat.le_of_ble_eq_true rfl) dX0_branched_64 ⟨hg202.1, hg202.2⟩ (fun q201 E9 ce9 H196 locs197 hP198 hkp199 hS200 hce9 hcv9 hcl9 => ?_)
          obtain ⟨rfl, hqq201, ⟨wx205, hW206, hre207⟩, hW203, hW204, hz208, hKM209⟩ := hP198
          have hqq201 : s.heap.size ≤ q201 := Nat.le_trans hS160.1 hqq201
          have hG210 := GO_keepA hG166 hkp199 (Nat.le_trans (show gB G ≤ s.heap.size by omega) hS160.1) (by intro z h3; exact h3.elim (fun h3 => by have h8 := h3.1.1; have h9 := h3.1.2; omega) (fun h3 => by exact hPg _ h3.1))
          have hz211 : H196.size = s.heap.size + (zc + rc176) := by omega
          have hKM212 := KM.trans hKM168 hKM209 (by omega)
          obtain ⟨ce8, hce8, hcv8, hcl8⟩ := rk_exc hK hW206 rfl rfl
          obtain ⟨e4, e5, e6, e7, e8, e9⟩ := rs6 hm
          cases e4
          subst e5
          subst e6
          subst e7
          subst e8
          subst e9
          exact rk_xout (fun x h => (ht x h).elim) hlk hS200 hce8 hcv8 hcl8 ⟨rfl, hqq201, ⟨_, hW206, hre207⟩, hW203, hW204, hz211, hKM212⟩ hg202.1 hg202.2
      · have hm := ite_t c175 hm
        refine lv_aload_n (pc := 60) hx hb dX0_branched_60 rfl (lv_at hl 0 rfl) ?_
        obtain ⟨e4, e5, e6, e7, e8, e9⟩ := rs6 hm
        cases e4
        subst e5
        subst e6
        subst e7
        subst e8
        subst e9
        exact rk_aretX (pc := 61) hx hb hr (Or.inl ⟨_, rfl⟩) hlk hS160 ⟨rfl, hW165, hW162, hz167, hKM168, hlt173⟩ dX0_branched_61 hg161.1 hg161.2
theorem w_fX0_branched_31_l (C : Cx G p s m args meth c RX0 cX0_branched 3 (some (.object "WholePacks$Node"))) {b0 : Nat} {PL : Nat → Bool} {Z : Nat} {vP0 : Mem} {rok : Bool} {re : Int32} {rx : Nat} {rc : Nat} {rw0 : Mem} {rw1 : Mem} (hPX : ∀ z, PL z = true → ¬ fX b0 z) (he0 : b0 + 357 ≤ s.heap.size) (hZz : s.heap.size = Z) (hZ : ZQ G) (hgb0 : gB G ≤ b0) (hPg : ∀ z, PL z = true → gB G ≤ z) (hZP : ZP G) (ht : ∀ x ∈ c.exceptionTable.toList, False) : ∀ (n : Nat) (v0 : Mem) (v1 : Mem) (cb : Nat) (sb : Nat) (zc : Nat), lq5 (fX0_branched_31 PL Z b0) n v0 v1 cb sb zc = some (rok, re, rx, rc, rw0, rw1) → ∀ (H : Heap) (locs : List Loc) (ls : Array Slot), rg G b0 357 (shX0 G.2.1) v0 H → pl G PL v1 H → va_S (FA (fun z => (fX b0) z ∨ (fP PL vP0) z) s.heap.size) s.heap H locs → H.size = s.heap.size + zc → KM vP0 v1 s.heap.size → GO G H → cb ≤ 90 ∧ sb ≤ 2200 → lv_has ls 3 [(0, .ref b0)] → W p l e (rmT 9 90 2200 254) s m args below meth c H locs cb sb (vx_MQ below (QcX rok (FA (fun z => (fX b0) z ∨ (fP PL vP0) z) s.heap.size) (fun ov H => ov = (some (.ref (b0 + (197 + 4 * rx + 0)))) ∧ rg G b0 357 (shX0 G.2.1) rw0 H ∧ pl G PL rw1 H ∧ H.size = s.heap.size + rc ∧ KM vP0 rw1 s.heap.size ∧ rx < 40)) (XcX rok (FA (fun z => (fX b0) z ∨ (fP PL vP0) z) s.heap.size) (fun q E H => E = "WholePacks$Stuck" ∧ s.heap.size ≤ q ∧ (∃ wx, rg G q 1 (shX13 G.2.1) wx H ∧ gI wx 0 6 = re) ∧ rg G b0 357 (shX0 G.2.1) rw0 H ∧ pl G PL rw1 H ∧ H.size = s.heap.size + rc ∧ KM vP0 rw1 s.heap.size)) args s 90 2200 (FA (fun z => (fX b0) z ∨ (fP PL vP0) z) s.heap.size)) (F0 m 31 ls []) := by
  intro n
  induction n with
  | zero => intro v0 v1 cb sb zc hm; exact (lq5_0 hm).elim
  | succ n ih => intro v0 v1 cb sb zc hm; exact w_fX0_branched_31 C hPX he0 hZz hZ hgb0 hPg hZP ht ih v0 v1 cb sb zc (lq5_s hm)
set_option maxHeartbeats 4000000 in
theorem w_fX0_branched (C : Cx G p s m args meth c RX0 cX0_branched 3 (some (.object "WholePacks$Node"))) {b0 : Nat} {PL : Nat → Bool} {Z : Nat} {vP0 : Mem} {rok : Bool} {re : Int32} {rx : Nat} {rc : Nat} {rw0 : Mem} {rw1 : Mem} (hPX : ∀ z, PL z = true → ¬ fX b0 z) (he0 : b0 + 357 ≤ s.heap.size) (hZz : s.heap.size = Z) (hZ : ZQ G) (hgb0 : gB G ≤ b0) (hPg : ∀ z, PL z = true → gB G ≤ z) (hZP : ZP G) (ht : ∀ x ∈ c.exceptionTable.toList, False) : ∀ (v0 : Mem) (v1 : Mem), fX0_branched PL Z b0 v0 v1 = some (rok, re, rx, rc, rw0, rw1) → ∀ (H : Heap) (locs : List Loc) (ls : Array Slot), rg G b0 357 (shX0 G.2.1) v0 H → pl G PL v1 H → va_S (FA (fun z => (fX b0) z ∨ (fP PL vP0) z) s.heap.size) s.heap H locs → H.size = s.heap.size + 0 → KM vP0 v1 s.heap.size → GO G H → 0 ≤ 90 ∧ 0 ≤ 2200 → lv_has ls 3 [(0, .ref b0)] → W p l e (rmT 9 90 2200 254) s m args below meth c H locs 0 0 (vx_MQ below (QcX rok (FA (fun z => (fX b0) z ∨ (fP PL vP0) z) s.heap.size) (fun ov H => ov = (some (.ref (b0 + (197 + 4 * rx + 0)))) ∧ rg G b0 357 (shX0 G.2.1) rw0 H ∧ pl G PL rw1 H ∧ H.size = s.heap.size + rc ∧ KM vP0 rw1 s.heap.size ∧ rx < 40)) (XcX rok (FA (fun z => (fX b0) z ∨ (fP PL vP0) z) s.heap.size) (fun q E H => E = "WholePacks$Stuck" ∧ s.heap.size ≤ q ∧ (∃ wx, rg G q 1 (shX13 G.2.1) wx H ∧ gI wx 0 6 = re) ∧ rg G b0 357 (shX0 G.2.1) rw0 H ∧ pl G PL rw1 H ∧ H.size = s.heap.size + rc ∧ KM vP0 rw1 s.heap.size)) args s 90 2200 (FA (fun z => (fX b0) z ∨ (fP PL vP0) z) s.heap.size)) (F0 m 0 ls []) := by
  intro v0 v1 hm H locs ls hW0 hW1 hS hz hKM hG hcb hl
  obtain ⟨hx, hb, hr, hlk, hml, hown, hts, hK⟩ := id C
  unfold fX0_branched at hm
  refine lv_aload_n (pc := 0) hx hb dX0_branched_0 rfl (lv_at hl 0 rfl) ?_
  refine rk_get (pc := 1) hx hb hts hown hK hW0 flX0_92 0 (by decide) rfl rfl (x := .ref (b0 + 165)) (by first | rfl | exact congrArg (fun z => some (Value.ref z)) (by omega)) dX0_branched_1 ?_
  obtain ⟨hg1, hm⟩ := gb_some hm
  obtain ⟨w2, hq3, hm⟩ := ob_some hm
  obtain ⟨hg9, hm⟩ := gb_some hm
  have hg9 := of_decide_eq_true hg9
  refine rk_TV (pc := 4) (As := []) (rest := []) (mc := 0) (ms := 0) hx hb hml hown hts hK hS (fun q hq => FA_sz rfl q hq) lkX0_378 rfl yn_J4_clear (ct_J4_clear (G := G) (l := l) (sz := H.size) hq3) ⟨Nat.le_of_ble_eq_true rfl, Nat.le_of_ble_eq_true rfl⟩ (fun z h => (FA_r (KM_hf2 hKM z h))) (rp_recv hK hW1 (C := RJ4) (T := TJ4) (N := 4) rfl (shP_17 (kd_PL hg1) (kd_k hg1))) hW1 rfl rfl hl.1 (Nat.le_of_ble_eq_true rfl) dX0_branched_4 ⟨hg9.1, hg9.2⟩ (fun ov9 H4 locs5 hP6 hkp7 hS8 => ?_)
  obtain ⟨rfl, hW10, hz11, hKM12⟩ := hP6
  have hW13 := rg_keepX hW0 hkp7 (by intro z h0 h3; have h1 := h0.1.1; have h2 := h0.1.2; have h4 := h0.2; exact hPX _ h3.1 h0)
  have hG14 := GO_keepA hG hkp7 (Nat.le_trans (show gB G ≤ s.heap.size by omega) hS.1) (by intro z h3; exact hPg _ h3.1)
  have hz15 := hz11.trans hz
  have hKM16 := KM.trans hKM hKM12 (by omega)
  refine W.eq (g2 := F0 m 7 ls []) rfl ?_
  refine lv_aload_n (pc := 7) hx hb dX0_branched_7 rfl (lv_at hl 0 rfl) ?_
  refine lv_iconst (pc := 8) (v := (0 : Int32)) hx hb dX0_branched_8 (by decide) ?_
  refine rk_put (pc := 9) hx hb hts hown hK hW13 hS8 flX0_429 ft_X0 0 (by decide) rfl (Or.inl (Or.inl (show fX _ _ from ⟨⟨by omega, by omega⟩, by omega⟩))) rfl rfl (x := .int (0 : Int32)) rfl rfl (Nat.le_of_ble_eq_true rfl) (sI v0 0 20 (0 : Int32)) sI_ne (by rw [sI_eq]; exact rfl) dX0_branched_9 (fun H18 locs19 hW20 hS21 hz22 hkp23 => ?_)
  obtain ⟨v0_17, he9, hm⟩ := lm_some hm
  rw [he9] at hW20
  have hW24 := pl_keepq hW10 hkp23 (fun h9 => hPX _ h9 (show fX _ _ from ⟨⟨by omega, by omega⟩, by omega⟩))
  have hz25 := hz22.trans hz15
  have hG26 := GO_keepq hG14 hkp23 (by omega)
  refine lv_aload_n (pc := 12) hx hb dX0_branched_12 rfl (lv_at hl 0 rfl) ?_
  refine lv_iconst (pc := 13) (v := (0 : Int32)) hx hb dX0_branched_13 (by decide) ?_
  refine rk_put (pc := 14) hx hb hts hown hK hW20 hS21 flX0_418 ft_X0 0 (by decide) rfl (Or.inl (Or.inl (show fX _ _ from ⟨⟨by omega, by omega⟩, by omega⟩))) rfl rfl (x := .int (0 : Int32)) rfl rfl (Nat.le_of_ble_eq_true rfl) (sI v0_17 0 21 (0 : Int32)) sI_ne (by rw [sI_eq]; exact rfl) dX0_branched_14 (fun H28 locs29 hW30 hS31 hz32 hkp33 => ?_)
  obtain ⟨v0_27, he9, hm⟩ := lm_some hm
  rw [he9] at hW30
  have hW34 := pl_keepq hW24 hkp33 (fun h9 => hPX _ h9 (show fX _ _ from ⟨⟨by omega, by omega⟩, by omega⟩))
  have hz35 := hz32.trans hz25
  have hG36 := GO_keepq hG26 hkp33 (by omega)
  refine lv_aload_n (pc := 17) hx hb dX0_branched_17 rfl (lv_at hl 0 rfl) ?_
  obtain ⟨ok40, re41, nf37, rc38, w39, hq42, hm⟩ := ob5_some hm
  by_cases hok : ok40 = true
  · subst hok
    have hm := ite_t rfl hm
    obtain ⟨hg48, hm⟩ := gb_some hm
    have hg48 := of_decide_eq_true hg48
    refine rk_TV (pc := 18) (As := []) (rest := []) (mc := 0) (ms := 0) hx hb hml hown hts hK hS31 (fun q hq => FA_sz rfl q hq) lkX0_436 rfl yn_X0_nextNode (CX.ret (ct_X0_nextNode (G := G) (l := l) (rok := true) (b0 := b0) (sz := H28.size) hq42 hZ (by omega))) ⟨Nat.le_of_ble_eq_true rfl, Nat.le_of_ble_eq_true rfl⟩ (fun z h => Or.inl (Or.inl h)) (rk_recv hK hW30 0 (by decide) rfl rfl rfl) ⟨hW30, hG36⟩ rfl rfl hl.1 (Nat.le_of_ble_eq_true rfl) dX0_branched_18 ⟨hg48.1, hg48.2⟩ (fun ov9 H43 locs44 hP45 hkp46 hS47 => ?_)
    obtain ⟨rfl, hW49, hz50, hlt51⟩ := hP45
    have hW52 := pl_keepA hW34 hkp46 (by intro z h1 h3; exact hPX _ h1 h3)
    have hG53 := GO_keepA hG36 hkp46 (Nat.le_trans (show gB G ≤ s.heap.size by omega) hS31.1) (by intro z h3; have h8 := h3.1.1; have h9 := h3.1.2; omega)
    have hz54 : H43.size = s.heap.size + rc38 := by omega
    refine W.eq (g2 := F0 m 21 ls [.ref (b0 + (197 + 4 * nf37 + 0))]) (by first | rfl | exact congrArg (fun z => F0 m 21 ls (Value.ref z :: [])) (show _ = (b0 + (197 + 4 * nf37 + 0)) by omega)) ?_
    refine lv_astore_n (pc := 21) (lv' := [(1, .ref (b0 + (197 + 4 * nf37 + 0))), (0, .ref b0)]) hx hb dX0_branched_21 rfl hl (by decide) rfl (fun ls hl => ?_)
    refine lv_aload_n (pc := 22) hx hb dX0_branched_22 rfl (lv_at hl 0 rfl) ?_
    obtain ⟨w55, hq56, hm⟩ := ob_some hm
    obtain ⟨hg62, hm⟩ := gb_some hm
    have hg62 := of_decide_eq_true hg62
    refine rk_TV (pc := 23) (As := []) (rest := []) (mc := 0) (ms := 0) hx hb hml hown hts hK hS47 (fun q hq => FA_sz rfl q hq) lkX0_449 rfl yn_X8_begins (ct_X8_begins (G := G) (l := l) (b0 := (b0 + (197 + 4 * nf37 + 0))) (sz := H43.size) hq56) ⟨Nat.le_of_ble_eq_true rfl, Nat.le_of_ble_eq_true rfl⟩ (fun z h => Or.inl (Or.inl (show fX _ _ from ⟨⟨by have h8 := h.1; have h9 := h.2; omega, by have h8 := h.1; have h9 := h.2; omega⟩, by have h8 := h.1; have h9 := h.2; omega⟩))) (rk_recv hK hW49 (197 + 4 * nf37 + 0) (by omega) rfl rfl ((shX0_f197 G.2.1 hlt51 _ rfl 0 (by decide) _ _ _).trans rfl)) (rg_sub (d := (197 + 4 * nf37)) hW49 rfl (by omega) (fun o ho x y z => shX0_f197 G.2.1 hlt51 _ rfl o ho x y z)) rfl rfl hl.1 (Nat.le_of_ble_eq_true rfl) dX0_branched_23 ⟨hg62.1, hg62.2⟩ (fun ov9 H57 locs58 hP59 hkp60 hS61 => ?_)
    obtain ⟨rfl, hW63, hz64⟩ := hP59
    have hW65 := pl_keepA hW52 hkp60 (by intro z h1 h3; have h8 := h3.1; have h9 := h3.2; exact hPX _ h1 (show fX _ _ from ⟨⟨by omega, by omega⟩, by omega⟩))
    have hW66 := rg_put (d := (197 + 4 * nf37)) hW49 hW63 rfl (fun o ho x y z => shX0_f197 G.2.1 hlt51 _ rfl o ho x y z) hkp60
    obtain ⟨v0_67, he9, hm⟩ := lm_some hm
    rw [he9] at hW66
    have hG68 := GO_keepA hG53 hkp60 (Nat.le_trans (show gB G ≤ s.heap.size by omega) hS47.1) (by intro z h3; have h8 := h3.1; have h9 := h3.2; omega)
    have hz69 := hz64.trans hz54
    refine W.eq (g2 := F0 m 26 ls []) rfl ?_
    refine lv_aload_n (pc := 26) hx hb dX0_branched_26 rfl (lv_at hl 1 rfl) ?_
    refine lv_aload_n (pc := 27) hx hb dX0_branched_27 rfl (lv_at hl 0 rfl) ?_
    obtain ⟨ok73, re74, rc70, w71, w72, hq75, hm⟩ := ob5_some hm
    have hq76 := hq75
    rw [show (Z + rc38) = H57.size by omega] at hq76
    by_cases hok : ok73 = true
    · subst hok
      have hm := ite_t rfl hm
      obtain ⟨hg82, hm⟩ := gb_some hm
      have hg82 := of_decide_eq_true hg82
      refine rk_TVW (pc := 28) (As := [.ref (b0 + (197 + 4 * nf37 + 0))]) (rest := []) (mc := 1) (ms := 90) hx hb hml hown hts hK hS61 (fun q hq => FA_sz rfl q hq) lkX0_446 rfl yn_X0_relaxes (CX.ret (ct_X0_relaxes (G := G) (l := l) (rok := true) (b0 := b0) hq76 hPX hlt51 hZ (by omega) hPg hZP)) ⟨Nat.le_of_ble_eq_true rfl, Nat.le_of_ble_eq_true rfl⟩ (fun z h => h.elim (fun h => Or.inl (Or.inl h)) (fun h => (FA_r (KM_hf2 hKM16 z h)))) (rk_recv hK hW66 0 (by decide) rfl rfl rfl) ⟨hW66, hW65, hG68⟩ rfl rfl hl.1 (Nat.le_of_ble_eq_true rfl) dX0_branched_28 ⟨hg82.1, hg82.2⟩ (fun ov9 H77 locs78 hP79 hkp80 hS81 => ?_)
      obtain ⟨rfl, hW83, hW84, hz85, hKM86⟩ := hP79
      have hG87 := GO_keepA hG68 hkp80 (Nat.le_trans (show gB G ≤ s.heap.size by omega) hS61.1) (by intro z h3; exact h3.elim (fun h3 => by have h8 := h3.1.1; have h9 := h3.1.2; omega) (fun h3 => by exact hPg _ h3.1))
      have hz88 : H77.size = s.heap.size + (rc38 + rc70) := by omega
      have hKM89 := KM.trans hKM16 hKM86 (by omega)
      refine W.eq (g2 := F0 m 31 ls []) rfl ?_
      exact (w_fX0_branched_31_l C hPX he0 hZz hZ hgb0 hPg hZP ht FU) w71 w72 1 90 (rc38 + rc70) hm H77 locs78 ls hW83 hW84 hS81 hz88 hKM89 hG87 hg82 (lv_sub hl [1] rfl)
    · have hok := eq_false_of_ne_true hok
      subst hok
      have hm := ite_f Bool.false_ne_true hm
      obtain ⟨hg96, hm⟩ := gb_some hm
      have hg96 := of_decide_eq_true hg96
      refine rk_XVW (pc := 28) (As := [.ref (b0 + (197 + 4 * nf37 + 0))]) (rest := []) (mc := 1) (ms := 90) hx hb hml hown hts hK hS61 (fun q hq => FA_sz rfl q hq) lkX0_446 rfl yn_X0_relaxes (ct_X0_relaxes (G := G) (l := l) (rok := false) (b0 := b0) hq76 hPX hlt51 hZ (by omega) hPg hZP) ⟨Nat.le_of_ble_eq_true rfl, Nat.le_of_ble_eq_true rfl⟩ (fun z h => h.elim (fun h => Or.inl (Or.inl h)) (fun h => (FA_r (KM_hf2 hKM16 z h)))) (rk_recv hK hW66 0 (by decide) rfl rfl rfl) ⟨hW66, hW65, hG68⟩ rfl rfl hl.1 (Nat.le_of_ble_eq_true rfl) dX0_branched_28 ⟨hg96.1, hg96.2⟩ (fun q95 E9 ce9 H90 locs91 hP92 hkp93 hS94 hce9 hcv9 hcl9 => ?_)
      obtain ⟨rfl, hqq95, ⟨wx99, hW100, hre101⟩, hW97, hW98, hz102, hKM103⟩ := hP92
      have hqq95 : s.heap.size ≤ q95 := Nat.le_trans hS61.1 hqq95
      have hG104 := GO_keepA hG68 hkp93 (Nat.le_trans (show gB G ≤ s.heap.size by omega) hS61.1) (by intro z h3; exact h3.elim (fun h3 => by have h8 := h3.1.1; have h9 := h3.1.2; omega) (fun h3 => by exact hPg _ h3.1))
      have hz105 : H90.size = s.heap.size + (rc38 + rc70) := by omega
      have hKM106 := KM.trans hKM16 hKM103 (by omega)
      obtain ⟨ce8, hce8, hcv8, hcl8⟩ := rk_exc hK hW100 rfl rfl
      obtain ⟨e4, e5, e6, e7, e8, e9⟩ := rs6 hm
      cases e4
      subst e5
      subst e6
      subst e7
      subst e8
      subst e9
      exact rk_xout (fun x h => (ht x h).elim) hlk hS94 hce8 hcv8 hcl8 ⟨rfl, hqq95, ⟨_, hW100, hre101⟩, hW97, hW98, hz105, hKM106⟩ hg96.1 hg96.2
  · have hok := eq_false_of_ne_true hok
    subst hok
    have hm := ite_f Bool.false_ne_true hm
    obtain ⟨hg113, hm⟩ := gb_some hm
    have hg113 := of_decide_eq_true hg113
    refine rk_XV (pc := 18) (As := []) (rest := []) (mc := 1) (ms := 7) hx hb hml hown hts hK hS31 (fun q hq => FA_sz rfl q hq) lkX0_436 rfl yn_X0_nextNode (ct_X0_nextNode (G := G) (l := l) (rok := false) (b0 := b0) (sz := H28.size) hq42 hZ (by omega)) ⟨Nat.le_of_ble_eq_true rfl, Nat.le_of_ble_eq_true rfl⟩ (fun z h => Or.inl (Or.inl h)) (rk_recv hK hW30 0 (by decide) rfl rfl rfl) ⟨hW30, hG36⟩ rfl rfl hl.1 (Nat.le_of_ble_eq_true rfl) dX0_branched_18 ⟨hg113.1, hg113.2⟩ (fun q112 E9 ce9 H107 locs108 hP109 hkp110 hS111 hce9 hcv9 hcl9 => ?_)
    obtain ⟨rfl, hqq112, ⟨wx115, hW116, hre117⟩, hW114, hz118⟩ := hP109
    have hqq112 : s.heap.size ≤ q112 := Nat.le_trans hS31.1 hqq112
    have hW119 := pl_keepA hW34 hkp110 (by intro z h1 h3; exact hPX _ h1 h3)
    have hG120 := GO_keepA hG36 hkp110 (Nat.le_trans (show gB G ≤ s.heap.size by omega) hS31.1) (by intro z h3; have h8 := h3.1.1; have h9 := h3.1.2; omega)
    have hz121 : H107.size = s.heap.size + rc38 := by omega
    obtain ⟨ce8, hce8, hcv8, hcl8⟩ := rk_exc hK hW116 rfl rfl
    obtain ⟨e4, e5, e6, e7, e8, e9⟩ := rs6 hm
    cases e4
    subst e5
    subst e6
    subst e7
    subst e8
    subst e9
    exact rk_xout (fun x h => (ht x h).elim) hlk hS111 hce8 hcv8 hcl8 ⟨rfl, hqq112, ⟨_, hW116, hre117⟩, hW114, hW119, hz121, hKM16⟩ hg113.1 hg113.2
set_option maxHeartbeats 4000000 in
theorem ct_X0_branched {G : Gv} {l : Launch} {b0 : Nat} {PL : Nat → Bool} {Z : Nat} {v0 : Mem} {v1 : Mem} {rok : Bool} {re : Int32} {rx : Nat} {rc : Nat} {rw0 : Mem} {rw1 : Mem} (hm : fX0_branched PL Z b0 v0 v1 = some (rok, re, rx, rc, rw0, rw1)) (hPX : ∀ z, PL z = true → ¬ fX b0 z) (hZ : ZQ G) (hgb0 : gB G ≤ b0) (hPg : ∀ z, PL z = true → gB G ≤ z) (hZP : ZP G) : CX G l yX0_branched (ws_ yX0_branched cX0_branched 3 (some (.object "WholePacks$Node"))) 9 90 2200 254 [.ref b0] (fun z => (fX b0) z ∨ (fP PL v1) z) Z (fun H => rg G b0 357 (shX0 G.2.1) v0 H ∧ pl G PL v1 H ∧ GO G H) rok (fun ov H => ov = (some (.ref (b0 + (197 + 4 * rx + 0)))) ∧ rg G b0 357 (shX0 G.2.1) rw0 H ∧ pl G PL rw1 H ∧ H.size = Z + rc ∧ KM v1 rw1 Z ∧ rx < 40) (fun q E H => E = "WholePacks$Stuck" ∧ Z ≤ q ∧ (∃ wx, rg G q 1 (shX13 G.2.1) wx H ∧ gI wx 0 6 = re) ∧ rg G b0 357 (shX0 G.2.1) rw0 H ∧ pl G PL rw1 H ∧ H.size = Z + rc ∧ KM v1 rw1 Z) := by
  refine vx_ofW (cc := cX0_branched) (maxL := 3) (ret := (some (.object "WholePacks$Node"))) (by decide +kernel) rfl ?_
  intro p e s m args below meth c s₁ B hml ht hv
  obtain ⟨rfl, ⟨hz, hW0, hW1, hG⟩, hK⟩ := hv
  subst hz
  have he0 := rg_end hW0 356 (by decide) rfl (fun _ _ _ => rfl)
  have hZz : s.heap.size = s.heap.size := rfl
  have hts := atoms_spec (ws := ws_ yX0_branched cX0_branched 3 (some (.object "WholePacks$Node"))) B.pre
  have hts : ∀ w ∈ lw_all, w.before _ s = true := fun w h => hts w (List.mem_cons_of_mem _ h)
  have C : Cx G p s m _ meth c RX0 cX0_branched 3 (some (.object "WholePacks$Node")) := ⟨B.exec, B.bytes, B.returns, B.notSynchronized, hml, findClass_of_methodNamed B.named, hts, hK⟩
  have hl := lv_entry ([.ref b0]) (n := 3) (Nat.le_of_ble_eq_true rfl)
  rw [lg_entry_eq]
  generalize (lg_sl ([.ref b0]) ++ List.replicate (3 - (lg_sl ([.ref b0])).length) Slot.unset).toArray = ls at hl ⊢
  have hl : lv_has ls 3 [(0, .ref b0)] := hl
  exact w_fX0_branched C hPX he0 hZz hZ hgb0 hPg hZP ht _ _ hm s.heap [] ls hW0 hW1 va_S.rf rfl KM.rf hG ⟨Nat.zero_le _, Nat.zero_le _⟩ hl
theorem yn_X0_branched : YN yX0_branched 0 := by
  unfold YN
  decide +kernel
theorem lkX0_457 : LV RX0 457 RX0 yX0_branched cX0_branched 3 (some (.object "WholePacks$Node")) := ⟨q1212, q1214, qs41, q114, q1215⟩
theorem fnX0_460 : FN RX0 460 8 2 RX8 TX8 8 "WholePacks" := ⟨in_X8, rfl, by decide, q467⟩
theorem fnX0_461 : FN RX0 461 8 3 RX8 TX8 8 "WholePacks" := ⟨in_X8, rfl, by decide, q469⟩
theorem fnX0_462 : FN RX0 462 8 1 RX8 TX8 8 "WholePacks" := ⟨in_X8, rfl, by decide, q465⟩
noncomputable def fX0_branch (PL : Nat → Bool) (Z : Nat) (b0 : Nat) (v0 : Mem) (v1 : Mem) (i1 : Int32) : Option (Int32 × Nat × Mem × Mem) :=
  ob (fX0_in i1.toInt64 (0 : Int64) ((3 : Int32) + (gI v0 1 0)).toInt64) fun r1 =>
  if r1 = 0 then (
  some ((-1 : Int32), 0, v0, v1))
  else (
  ob6 (fX0_branched PL (Z + 0) b0 v0 v1) fun ok8 re9 nf4 rc5 w6 w7 =>
  if ok8 = true then (
  gb (decide (90 ≤ 90 ∧ 2200 ≤ 2200)) (
  if i1 = (0 : Int32) then (
  gb (nz64 (gL w6 (197 + 4 * nf4 + 0) 3)) (
  some (((gL w6 (197 + 4 * nf4 + 0) 2) / (gL w6 (197 + 4 * nf4 + 0) 3)).toInt32, rc5, w6, w7)))
  else if i1 = (1 : Int32) then (
  some ((gI w6 0 20), rc5, w6, w7))
  else if i1 = (2 : Int32) then (
  some ((gI w6 (197 + 4 * nf4 + 0) 1), rc5, w6, w7))
  else if i1 = (3 : Int32) then (
  some ((gI w6 0 21), rc5, w6, w7))
  else (
  gb (inR (i1 - (4 : Int32)) 5) (
  some ((gI w6 (197 + 4 * nf4 + 3) (i1 - (4 : Int32)).toNatClampNeg), rc5, w6, w7)))))
  else (
  gb (decide (90 ≤ 90 ∧ 2200 ≤ 2200)) (
  if i1 = (1 : Int32) then (
  some ((gI w6 0 20), rc5, w6, w7))
  else (
  if i1 = (3 : Int32) then (
  some ((gI w6 0 21), rc5, w6, w7))
  else (
  some (re9, rc5, w6, w7))))))
set_option maxHeartbeats 4000000 in
theorem w_fX0_branch (C : Cx G p s m args meth c RX0 cX0_branch 3 (some .int)) {b0 : Nat} {PL : Nat → Bool} {Z : Nat} {vP0 : Mem} {rx : Int32} {rc : Nat} {rw0 : Mem} {rw1 : Mem} (hPX : ∀ z, PL z = true → ¬ fX b0 z) (he0 : b0 + 357 ≤ s.heap.size) (hZz : s.heap.size = Z) (hZ : ZQ G) (hgb0 : gB G ≤ b0) (hPg : ∀ z, PL z = true → gB G ≤ z) (hZP : ZP G) (ht : c.exceptionTable.toList = tableOf [(21, 66, 91, 424), (67, 71, 91, 424), (72, 76, 91, 424), (77, 81, 91, 424), (82, 90, 91, 424)]) : ∀ (v0 : Mem) (v1 : Mem) (i1 : Int32), fX0_branch PL Z b0 v0 v1 i1 = some (rx, rc, rw0, rw1) → ∀ (H : Heap) (locs : List Loc) (ls : Array Slot), rg G b0 357 (shX0 G.2.1) v0 H → pl G PL v1 H → va_S (FA (fun z => (fX b0) z ∨ (fP PL vP0) z) s.heap.size) s.heap H locs → H.size = s.heap.size + 0 → KM vP0 v1 s.heap.size → GO G H → 0 ≤ 90 ∧ 0 ≤ 2200 → lv_has ls 3 [(0, .ref b0), (1, .int i1)] → W p l e (rmT 10 90 2200 276) s m args below meth c H locs 0 0 (MQ below (QcT (FA (fun z => (fX b0) z ∨ (fP PL vP0) z) s.heap.size) (fun ov H => ov = (some (.int rx)) ∧ rg G b0 357 (shX0 G.2.1) rw0 H ∧ pl G PL rw1 H ∧ H.size = s.heap.size + rc ∧ KM vP0 rw1 s.heap.size)) args s 90 2200 (FA (fun z => (fX b0) z ∨ (fP PL vP0) z) s.heap.size)) (F0 m 0 ls []) := by
  intro v0 v1 i1 hm H locs ls hW0 hW1 hS hz hKM hG hcb hl
  obtain ⟨hx, hb, hr, hlk, hml, hown, hts, hK⟩ := id C
  unfold fX0_branch at hm
  refine lv_iload_n (pc := 0) hx hb dX0_branch_0 rfl (lv_at hl 1 rfl) ?_
  refine lv_i2l (pc := 1) hx hb dX0_branch_1 rfl ?_
  refine lv_lconst (pc := 2) (v := (0 : Int64)) hx hb dX0_branch_2 (by decide) ?_
  refine lv_iconst (pc := 3) (v := (3 : Int32)) hx hb dX0_branch_3 (by decide) ?_
  refine lv_aload_n (pc := 4) hx hb dX0_branch_4 rfl (lv_at hl 0 rfl) ?_
  refine rk_get (pc := 5) hx hb hts hown hK hW0 flX0_12 0 (by decide) rfl rfl (x := .ref (b0 + 1)) (by first | rfl | exact congrArg (fun z => some (Value.ref z)) (by omega)) dX0_branch_5 ?_
  refine rk_getN (pc := 8) hx hb hts hown hK hW0 fnX0_131 1 (by decide) rfl rfl (x := .int (gI v0 1 0)) rfl dX0_branch_8 ?_
  refine lv_iadd (pc := 11) hx hb dX0_branch_11 ?_
  refine lv_i2l (pc := 12) hx hb dX0_branch_12 rfl ?_
  obtain ⟨r1, hq2, hm⟩ := ob_some hm
  refine rk_PS (pc := 13) (As := [.long i1.toInt64, .long (0 : Int64), .long ((3 : Int32) + (gI v0 1 0)).toInt64]) (rest := []) hx hb hml hown hts hK lkX0_127 yn_X0_in (ct_X0_in (G := G) (l := l) hq2) ⟨Nat.le_of_ble_eq_true rfl, Nat.le_of_ble_eq_true rfl⟩ trivial rfl rfl hl.1 (Nat.le_of_ble_eq_true rfl) dX0_branch_13 hcb ?_
  refine W.eq (g2 := F0 m 16 ls [.int r1]) rfl ?_
  refine lv_if_ne (pc := 16) (tgt := 21) hx hb dX0_branch_16 (by decide) (fun c3 => ?_) (fun c3 => ?_)
  · have hm := ite_f c3 hm
    refine lv_aload_n (pc := 21) hx hb dX0_branch_21 rfl (lv_at hl 0 rfl) ?_
    obtain ⟨ok8, re9, nf4, rc5, w6, w7, hq10, hm⟩ := ob6_some hm
    have hq11 := hq10
    rw [show (Z + 0) = H.size by omega] at hq11
    by_cases hok : ok8 = true
    · subst hok
      have hm := ite_t rfl hm
      obtain ⟨hg17, hm⟩ := gb_some hm
      have hg17 := of_decide_eq_true hg17
      refine rk_TV (pc := 22) (As := []) (rest := []) (mc := 90) (ms := 2200) hx hb hml hown hts hK hS (fun q hq => FA_sz rfl q hq) lkX0_457 rfl yn_X0_branched (CX.ret (ct_X0_branched (G := G) (l := l) (rok := true) (b0 := b0) hq11 hPX hZ (by omega) hPg hZP)) ⟨Nat.le_of_ble_eq_true rfl, Nat.le_of_ble_eq_true rfl⟩ (fun z h => h.elim (fun h => Or.inl (Or.inl h)) (fun h => (FA_r (KM_hf2 hKM z h)))) (rk_recv hK hW0 0 (by decide) rfl rfl rfl) ⟨hW0, hW1, hG⟩ rfl rfl hl.1 (Nat.le_of_ble_eq_true rfl) dX0_branch_22 ⟨hg17.1, hg17.2⟩ (fun ov9 H12 locs13 hP14 hkp15 hS16 => ?_)
      obtain ⟨rfl, hW18, hW19, hz20, hKM21, hlt22⟩ := hP14
      have hG23 := GO_keepA hG hkp15 (Nat.le_trans (show gB G ≤ s.heap.size by omega) hS.1) (by intro z h3; exact h3.elim (fun h3 => by have h8 := h3.1.1; have h9 := h3.1.2; omega) (fun h3 => by exact hPg _ h3.1))
      have hz24 : H12.size = s.heap.size + rc5 := by omega
      have hKM25 := KM.trans hKM hKM21 (by omega)
      refine W.eq (g2 := F0 m 25 ls [.ref (b0 + (197 + 4 * nf4 + 0))]) (by first | rfl | exact congrArg (fun z => F0 m 25 ls (Value.ref z :: [])) (show _ = (b0 + (197 + 4 * nf4 + 0)) by omega)) ?_
      refine lv_astore_n (pc := 25) (lv' := [(2, .ref (b0 + (197 + 4 * nf4 + 0))), (0, .ref b0), (1, .int i1)]) hx hb dX0_branch_25 rfl hl (by decide) rfl (fun ls hl => ?_)
      refine lv_iload_n (pc := 26) hx hb dX0_branch_26 rfl (lv_at hl 2 rfl) ?_
      by_cases c26 : i1 = (0 : Int32)
      · have hm := ite_t c26 hm
        refine lv_tableIn (pc := 27) (tgt := 56) hx hb dX0_branch_27 (by rw [c26]; decide) (by rw [c26]; decide) (by rw [c26]; rfl) (by decide) ?_
        refine lv_aload_n (pc := 56) hx hb dX0_branch_56 rfl (lv_at hl 0 rfl) ?_
        refine rk_getN (pc := 57) hx hb hts hown hK hW18 fnX0_460 (197 + 4 * nf4 + 0) (by omega) rfl ((shX0_f197 G.2.1 hlt22 _ rfl 0 (by decide) _ _ _).trans rfl) (x := .long (gL w6 (197 + 4 * nf4 + 0) 2)) rfl dX0_branch_57 ?_
        refine lv_aload_n (pc := 60) hx hb dX0_branch_60 rfl (lv_at hl 0 rfl) ?_
        refine rk_getN (pc := 61) hx hb hts hown hK hW18 fnX0_461 (197 + 4 * nf4 + 0) (by omega) rfl ((shX0_f197 G.2.1 hlt22 _ rfl 0 (by decide) _ _ _).trans rfl) (x := .long (gL w6 (197 + 4 * nf4 + 0) 3)) rfl dX0_branch_61 ?_
        obtain ⟨hg27, hm⟩ := gb_some hm
        refine lv_ldiv (pc := 64) hx hb dX0_branch_64 (nz64_ne hg27) ?_
        refine lv_l2i (pc := 65) hx hb dX0_branch_65 rfl ?_
        obtain ⟨e6, e7, e8, e9⟩ := rs4 hm
        subst e6
        subst e7
        subst e8
        subst e9
        exact rk_iretA (pc := 66) hx hb hr hlk hS16 ⟨rfl, hW18, hW19, hz24, hKM25⟩ dX0_branch_66 hg17.1 hg17.2
      have hm := ite_f c26 hm
      by_cases c28 : i1 = (1 : Int32)
      · have hm := ite_t c28 hm
        refine lv_tableIn (pc := 27) (tgt := 67) hx hb dX0_branch_27 (by rw [c28]; decide) (by rw [c28]; decide) (by rw [c28]; rfl) (by decide) ?_
        refine lv_aload_n (pc := 67) hx hb dX0_branch_67 rfl (lv_at hl 1 rfl) ?_
        refine rk_get (pc := 68) hx hb hts hown hK hW18 flX0_429 0 (by decide) rfl rfl (x := .int (gI w6 0 20)) rfl dX0_branch_68 ?_
        obtain ⟨e6, e7, e8, e9⟩ := rs4 hm
        subst e6
        subst e7
        subst e8
        subst e9
        exact rk_iretA (pc := 71) hx hb hr hlk hS16 ⟨rfl, hW18, hW19, hz24, hKM25⟩ dX0_branch_71 hg17.1 hg17.2
      have hm := ite_f c28 hm
      by_cases c29 : i1 = (2 : Int32)
      · have hm := ite_t c29 hm
        refine lv_tableIn (pc := 27) (tgt := 72) hx hb dX0_branch_27 (by rw [c29]; decide) (by rw [c29]; decide) (by rw [c29]; rfl) (by decide) ?_
        refine lv_aload_n (pc := 72) hx hb dX0_branch_72 rfl (lv_at hl 0 rfl) ?_
        refine rk_getN (pc := 73) hx hb hts hown hK hW18 fnX0_462 (197 + 4 * nf4 + 0) (by omega) rfl ((shX0_f197 G.2.1 hlt22 _ rfl 0 (by decide) _ _ _).trans rfl) (x := .int (gI w6 (197 + 4 * nf4 + 0) 1)) rfl dX0_branch_73 ?_
        obtain ⟨e6, e7, e8, e9⟩ := rs4 hm
        subst e6
        subst e7
        subst e8
        subst e9
        exact rk_iretA (pc := 76) hx hb hr hlk hS16 ⟨rfl, hW18, hW19, hz24, hKM25⟩ dX0_branch_76 hg17.1 hg17.2
      have hm := ite_f c29 hm
      by_cases c30 : i1 = (3 : Int32)
      · have hm := ite_t c30 hm
        refine lv_tableIn (pc := 27) (tgt := 77) hx hb dX0_branch_27 (by rw [c30]; decide) (by rw [c30]; decide) (by rw [c30]; rfl) (by decide) ?_
        refine lv_aload_n (pc := 77) hx hb dX0_branch_77 rfl (lv_at hl 1 rfl) ?_
        refine rk_get (pc := 78) hx hb hts hown hK hW18 flX0_418 0 (by decide) rfl rfl (x := .int (gI w6 0 21)) rfl dX0_branch_78 ?_
        obtain ⟨e6, e7, e8, e9⟩ := rs4 hm
        subst e6
        subst e7
        subst e8
        subst e9
        exact rk_iretA (pc := 81) hx hb hr hlk hS16 ⟨rfl, hW18, hW19, hz24, hKM25⟩ dX0_branch_81 hg17.1 hg17.2
      have hm := ite_f c30 hm
      refine lv_tableOut (pc := 27) (tgt := 82) hx hb dX0_branch_27 (tsw4 c26 c28 c29 c30) (by decide) ?_
      refine lv_aload_n (pc := 82) hx hb dX0_branch_82 rfl (lv_at hl 0 rfl) ?_
      refine rk_getN (pc := 83) hx hb hts hown hK hW18 fnX0_443 (197 + 4 * nf4 + 0) (by omega) rfl ((shX0_f197 G.2.1 hlt22 _ rfl 0 (by decide) _ _ _).trans rfl) (x := .ref (b0 + (197 + 4 * nf4 + 3))) (by first | rfl | exact congrArg (fun z => some (Value.ref z)) (by omega)) dX0_branch_83 ?_
      refine lv_iload_n (pc := 86) hx hb dX0_branch_86 rfl (lv_at hl 2 rfl) ?_
      refine lv_iconst (pc := 87) (v := (4 : Int32)) hx hb dX0_branch_87 (by decide) ?_
      refine lv_isub (pc := 88) hx hb dX0_branch_88 ?_
      obtain ⟨hg31, hm⟩ := gb_some hm
      refine rk_iald (pc := 89) hx hb hK hW18 (197 + 4 * nf4 + 3) (by omega) rfl ((shX0_f197 G.2.1 hlt22 _ rfl 3 (by decide) _ _ _).trans rfl) hg31 (x := (gI w6 (197 + 4 * nf4 + 3) (i1 - (4 : Int32)).toNatClampNeg)) rfl dX0_branch_89 ?_
      obtain ⟨e6, e7, e8, e9⟩ := rs4 hm
      subst e6
      subst e7
      subst e8
      subst e9
      exact rk_iretA (pc := 90) hx hb hr hlk hS16 ⟨rfl, hW18, hW19, hz24, hKM25⟩ dX0_branch_90 hg17.1 hg17.2
    · have hok := eq_false_of_ne_true hok
      subst hok
      have hm := ite_f Bool.false_ne_true hm
      obtain ⟨hg38, hm⟩ := gb_some hm
      have hg38 := of_decide_eq_true hg38
      refine rk_XV (pc := 22) (As := []) (rest := []) (mc := 90) (ms := 2200) hx hb hml hown hts hK hS (fun q hq => FA_sz rfl q hq) lkX0_457 rfl yn_X0_branched (ct_X0_branched (G := G) (l := l) (rok := false) (b0 := b0) hq11 hPX hZ (by omega) hPg hZP) ⟨Nat.le_of_ble_eq_true rfl, Nat.le_of_ble_eq_true rfl⟩ (fun z h => h.elim (fun h => Or.inl (Or.inl h)) (fun h => (FA_r (KM_hf2 hKM z h)))) (rk_recv hK hW0 0 (by decide) rfl rfl rfl) ⟨hW0, hW1, hG⟩ rfl rfl hl.1 (Nat.le_of_ble_eq_true rfl) dX0_branch_22 ⟨hg38.1, hg38.2⟩ (fun q37 E9 ce9 H32 locs33 hP34 hkp35 hS36 hce9 hcv9 hcl9 => ?_)
      obtain ⟨rfl, hqq37, ⟨wx41, hW42, hre43⟩, hW39, hW40, hz44, hKM45⟩ := hP34
      have hqq37 : s.heap.size ≤ q37 := Nat.le_trans hS.1 hqq37
      have hG46 := GO_keepA hG hkp35 (Nat.le_trans (show gB G ≤ s.heap.size by omega) hS.1) (by intro z h3; exact h3.elim (fun h3 => by have h8 := h3.1.1; have h9 := h3.1.2; omega) (fun h3 => by exact hPg _ h3.1))
      have hz47 : H32.size = s.heap.size + rc5 := by omega
      have hKM48 := KM.trans hKM hKM45 (by omega)
      obtain ⟨ce8, hce8, hcv8, hcl8⟩ := rk_exc hK hW42 rfl rfl
      refine rk_catch hK hown hts ht [] ⟨21, 66, 91, 424⟩ [⟨67, 71, 91, 424⟩, ⟨72, 76, 91, 424⟩, ⟨77, 81, 91, 424⟩, ⟨82, 90, 91, 424⟩] rfl (by decide) (by decide) (by decide) q1211 q818 hce8 hcv8 hcl8 91 rfl ?_
      refine lv_astore_n (pc := 91) (lv' := [(2, .ref q37), (0, .ref b0), (1, .int i1)]) hx hb dX0_branch_91 rfl hl (by decide) rfl (fun ls hl => ?_)
      refine lv_iload_n (pc := 92) hx hb dX0_branch_92 rfl (lv_at hl 2 rfl) ?_
      refine lv_iconst (pc := 93) (v := (1 : Int32)) hx hb dX0_branch_93 (by decide) ?_
      refine lv_icmp_ne (pc := 94) (tgt := 104) hx hb dX0_branch_94 (by decide) (fun c49 => ?_) (fun c49 => ?_)
      · have hm := ite_f c49 hm
        refine lv_iload_n (pc := 104) hx hb dX0_branch_104 rfl (lv_at hl 2 rfl) ?_
        refine lv_iconst (pc := 105) (v := (3 : Int32)) hx hb dX0_branch_105 (by decide) ?_
        refine lv_icmp_ne (pc := 106) (tgt := 116) hx hb dX0_branch_106 (by decide) (fun c50 => ?_) (fun c50 => ?_)
        · have hm := ite_f c50 hm
          refine lv_aload_n (pc := 116) hx hb dX0_branch_116 rfl (lv_at hl 0 rfl) ?_
          refine rk_getN (pc := 117) hx hb hts hown hK hW42 fnX0_426 0 (by decide) rfl rfl (x := .int re9) (congrArg (fun z => some (Value.int z)) hre43) dX0_branch_117 ?_
          obtain ⟨e6, e7, e8, e9⟩ := rs4 hm
          subst e6
          subst e7
          subst e8
          subst e9
          exact rk_iretA (pc := 120) hx hb hr hlk hS36 ⟨rfl, hW39, hW40, hz47, hKM48⟩ dX0_branch_120 hg38.1 hg38.2
        · have hm := ite_t c50 hm
          refine lv_aload_n (pc := 109) hx hb dX0_branch_109 rfl (lv_at hl 1 rfl) ?_
          refine rk_get (pc := 110) hx hb hts hown hK hW39 flX0_418 0 (by decide) rfl rfl (x := .int (gI w6 0 21)) rfl dX0_branch_110 ?_
          refine lv_goto (pc := 113) (tgt := 120) hx hb dX0_branch_113 (by decide) ?_
          obtain ⟨e6, e7, e8, e9⟩ := rs4 hm
          subst e6
          subst e7
          subst e8
          subst e9
          exact rk_iretA (pc := 120) hx hb hr hlk hS36 ⟨rfl, hW39, hW40, hz47, hKM48⟩ dX0_branch_120 hg38.1 hg38.2
      · have hm := ite_t c49 hm
        refine lv_aload_n (pc := 97) hx hb dX0_branch_97 rfl (lv_at hl 1 rfl) ?_
        refine rk_get (pc := 98) hx hb hts hown hK hW39 flX0_429 0 (by decide) rfl rfl (x := .int (gI w6 0 20)) rfl dX0_branch_98 ?_
        refine lv_goto (pc := 101) (tgt := 120) hx hb dX0_branch_101 (by decide) ?_
        obtain ⟨e6, e7, e8, e9⟩ := rs4 hm
        subst e6
        subst e7
        subst e8
        subst e9
        exact rk_iretA (pc := 120) hx hb hr hlk hS36 ⟨rfl, hW39, hW40, hz47, hKM48⟩ dX0_branch_120 hg38.1 hg38.2
  · have hm := ite_t c3 hm
    refine lv_iconst (pc := 19) (v := (-1 : Int32)) hx hb dX0_branch_19 (by decide) ?_
    obtain ⟨e6, e7, e8, e9⟩ := rs4 hm
    subst e6
    subst e7
    subst e8
    subst e9
    exact rk_iretA (pc := 20) hx hb hr hlk hS ⟨rfl, hW0, hW1, hz, hKM⟩ dX0_branch_20 hcb.1 hcb.2
set_option maxHeartbeats 4000000 in
theorem ct_X0_branch {G : Gv} {l : Launch} {b0 : Nat} {PL : Nat → Bool} {Z : Nat} {v0 : Mem} {v1 : Mem} {i1 : Int32} {rx : Int32} {rc : Nat} {rw0 : Mem} {rw1 : Mem} (hm : fX0_branch PL Z b0 v0 v1 i1 = some (rx, rc, rw0, rw1)) (hPX : ∀ z, PL z = true → ¬ fX b0 z) (hZ : ZQ G) (hgb0 : gB G ≤ b0) (hPg : ∀ z, PL z = true → gB G ≤ z) (hZP : ZP G) : CT G l yX0_branch (wsW_ yX0_branch cX0_branch 3 (some .int) [(21, 66, 91, 424), (67, 71, 91, 424), (72, 76, 91, 424), (77, 81, 91, 424), (82, 90, 91, 424)]) 10 90 2200 276 [.ref b0, .int i1] (fun z => (fX b0) z ∨ (fP PL v1) z) Z (fun H => rg G b0 357 (shX0 G.2.1) v0 H ∧ pl G PL v1 H ∧ GO G H) (fun ov H => ov = (some (.int rx)) ∧ rg G b0 357 (shX0 G.2.1) rw0 H ∧ pl G PL rw1 H ∧ H.size = Z + rc ∧ KM v1 rw1 Z) := by
  refine va_MetW (cc := cX0_branch) (maxL := 3) (ret := (some .int)) (by decide +kernel) rfl ?_
  intro p e s m args below meth c s₁ B hml hv
  obtain ⟨rfl, ⟨hz, hW0, hW1, hG⟩, hK⟩ := hv
  subst hz
  have he0 := rg_end hW0 356 (by decide) rfl (fun _ _ _ => rfl)
  have hZz : s.heap.size = s.heap.size := rfl
  have ht := vx_table (x := yX0_branch) B (atoms_spec (ws := wsW_ yX0_branch cX0_branch 3 (some .int) [(21, 66, 91, 424), (67, 71, 91, 424), (72, 76, 91, 424), (77, 81, 91, 424), (82, 90, 91, 424)]) B.pre _ List.mem_cons_self)
  have hts := atoms_spec (ws := wsW_ yX0_branch cX0_branch 3 (some .int) [(21, 66, 91, 424), (67, 71, 91, 424), (72, 76, 91, 424), (77, 81, 91, 424), (82, 90, 91, 424)]) B.pre
  have hts : ∀ w ∈ lw_all, w.before _ s = true := fun w h => hts w (List.mem_cons_of_mem _ h)
  have C : Cx G p s m _ meth c RX0 cX0_branch 3 (some .int) := ⟨B.exec, B.bytes, B.returns, B.notSynchronized, hml, findClass_of_methodNamed B.named, hts, hK⟩
  have hl := lv_entry ([.ref b0, .int i1]) (n := 3) (Nat.le_of_ble_eq_true rfl)
  rw [lg_entry_eq]
  generalize (lg_sl ([.ref b0, .int i1]) ++ List.replicate (3 - (lg_sl ([.ref b0, .int i1])).length) Slot.unset).toArray = ls at hl ⊢
  have hl : lv_has ls 3 [(0, .ref b0), (1, .int i1)] := hl
  exact w_fX0_branch C hPX he0 hZz hZ hgb0 hPg hZP ht _ _ _ hm s.heap [] ls hW0 hW1 va_S.rf rfl KM.rf hG ⟨Nat.zero_le _, Nat.zero_le _⟩ hl
theorem df_X14 (fs : List Value) (h : fs = [.int 0, .int 0]) : ∀ j, j < 2 → defaultValue (tyX14 j) = vp_V fs j := by
  subst h
  intro j hj
  match j, hj with
  | 0, _ => rfl
  | 1, _ => rfl
  | n + 2, h => exact absurd h (by omega)
theorem yn_X14_init : YN yX14_init 2 := by
  unfold YN
  decide +kernel
theorem lkX0_501 : LI RX0 501 yX14_init cX14_init 3 := ⟨q1336, q1337, q139, q1338, rfl⟩
theorem yn_J1_size : YN yJ1_size 0 := by
  unfold YN
  decide +kernel
theorem lkX0_503 : LV RX0 503 RJ1 yJ1_size cJ1_size 1 (some .int) := ⟨q1349, q1265, q2394, q120, q1267⟩
theorem yn_J1_containsKey : YN yJ1_containsKey 1 := by
  unfold YN
  decide +kernel
theorem lkX0_504 : LV RX0 504 RJ1 yJ1_containsKey cJ1_containsKey 2 (some .boolean) := ⟨q1350, q1351, q1352, q120, q1353⟩
theorem df_X15 (fs : List Value) (h : fs = [.int 0]) : ∀ j, j < 1 → defaultValue (tyX15 j) = vp_V fs j := by
  subst h
  intro j hj
  match j, hj with
  | 0, _ => rfl
  | n + 1, h => exact absurd h (by omega)
theorem yn_X15_init : YN yX15_init 1 := by
  unfold YN
  decide +kernel
theorem lkX0_509 : LI RX0 509 yX15_init cX15_init 2 := ⟨q1372, q1373, q141, q1374, rfl⟩
theorem yn_J1_put : YN yJ1_put 2 := by
  unfold YN
  decide +kernel
theorem lkX0_510 : LV RX0 510 RJ1 yJ1_put cJ1_put 3 (some (.object "java/lang/Object")) := ⟨q1381, q1382, q1383, q120, q1384⟩
theorem fnX0_514 : FN RX0 514 15 0 RX15 TX15 1 "WholePacks" := ⟨in_X15, rfl, by decide, q1377⟩
noncomputable def fX0_offer_66 (PL : Nat → Bool) (Z : Nat) (b0 : Nat) (v0 : Mem) (v1 : Mem) (zc : Nat) (i2 : Int32) (p3 : Nat) : Option (Int32 × Nat × Mem × Mem) :=
  ln (Z + zc) fun h53 =>
  gb (PL h53) (
  lm (nwP v1 h53 15 0) fun v1_57 =>
  ob (fX15_init PL v1_57 h53 i2) fun w66 =>
  gb (kd PL w66 (b0 + 153) 16) (
  ob3 (fJ1_put PL (Z + (zc + 1)) w66 (b0 + 153) p3 h53) fun oa80 rc81 w82 =>
  od oa80 (
  some ((-5 : Int32), (zc + 1 + rc81), v0, w82)) (fun pa96 =>
  gb (kd PL w82 pa96 15) (
  gb (kd PL w82 pa96 15) (
  some ((gI w82 pa96 0), (zc + 1 + rc81), v0, w82))))))
noncomputable def fX0_offer (PL : Nat → Bool) (Z : Nat) (b0 : Nat) (v0 : Mem) (v1 : Mem) (i1 : Int32) (i2 : Int32) : Option (Int32 × Nat × Mem × Mem) :=
  ob2 (fX0_reads v0 i1) fun r1 w2 =>
  if r1 = 0 then (
  some ((-2 : Int32), 0, w2, v1))
  else (
  ob (fX0_in i2.toInt64 (0 : Int64) (999 : Int64)) fun r14 =>
  if r14 = 0 then (
  some ((-2 : Int32), 0, w2, v1))
  else (
  ln (Z + 0) fun h17 =>
  gb (PL h17) (
  lm (nwP v1 h17 14 0) fun v1_21 =>
  ob (fX0_costOf_asked w2) fun r30 =>
  ob (fX14_init PL v1_21 h17 r30 i1) fun w32 =>
  gb (kd PL w32 (b0 + 153) 16) (
  ob (fJ1_size PL w32 (b0 + 153)) fun r46 =>
  if r46 = (20 : Int32) then (
  gb (kd PL w32 (b0 + 153) 16) (
  ob (fJ1_containsKey PL w32 (b0 + 153) h17) fun r50 =>
  if r50 = 0 then (
  some ((-4 : Int32), 1, w2, w32))
  else (
  fX0_offer_66 PL Z b0 w2 w32 1 i2 h17)))
  else (
  fX0_offer_66 PL Z b0 w2 w32 1 i2 h17)))))
set_option maxHeartbeats 4000000 in
theorem w_fX0_offer_66 (C : Cx G p s m args meth c RX0 cX0_offer 5 (some .int)) {b0 : Nat} {PL : Nat → Bool} {Z : Nat} {vP0 : Mem} {rx : Int32} {rc : Nat} {rw0 : Mem} {rw1 : Mem} (hPX : ∀ z, PL z = true → ¬ fX b0 z) (he0 : b0 + 357 ≤ s.heap.size) (hZz : s.heap.size = Z) (hZP : ZP G) : ∀ (v0 : Mem) (v1 : Mem) (zc : Nat) (i2 : Int32) (p3 : Nat), fX0_offer_66 PL Z b0 v0 v1 zc i2 p3 = some (rx, rc, rw0, rw1) → ∀ (H : Heap) (locs : List Loc) (ls : Array Slot), rg G b0 357 (shX0 G.2.1) v0 H → pl G PL v1 H → va_S (FA (fun z => (fX b0) z ∨ (fP PL vP0) z) s.heap.size) s.heap H locs → H.size = s.heap.size + zc → KM vP0 v1 s.heap.size → lv_has ls 5 [(0, .ref b0), (2, .int i2), (3, .ref p3)] → W p l e (rmT 6 3 9 139) s m args below meth c H locs 1 2 (MQ below (QcT (FA (fun z => (fX b0) z ∨ (fP PL vP0) z) s.heap.size) (fun ov H => ov = (some (.int rx)) ∧ rg G b0 357 (shX0 G.2.1) rw0 H ∧ pl G PL rw1 H ∧ H.size = s.heap.size + rc ∧ KM vP0 rw1 s.heap.size)) args s 3 9 (FA (fun z => (fX b0) z ∨ (fP PL vP0) z) s.heap.size)) (F0 m 66 ls []) := by
  intro v0 v1 zc i2 p3 hm H locs ls hW0 hW1 hS hz hKM hl
  obtain ⟨hx, hb, hr, hlk, hml, hown, hts, hK⟩ := id C
  unfold fX0_offer_66 at hm
  refine lv_aload_n (pc := 66) hx hb dX0_offer_66 rfl (lv_at hl 0 rfl) ?_
  refine rk_get (pc := 67) hx hb hts hown hK hW0 flX0_37 0 (by decide) rfl rfl (x := .ref (b0 + 153)) (by first | rfl | exact congrArg (fun z => some (Value.ref z)) (by omega)) dX0_offer_67 ?_
  refine lv_aload_n (pc := 70) hx hb dX0_offer_70 rfl (lv_at hl 2 rfl) ?_
  obtain ⟨h53, hh54, hm⟩ := ln_some hm
  obtain ⟨hg55, hm⟩ := gb_some hm
  have hs56 : H.size = h53 := by omega
  refine rp_new (pc := 71) (h := h53) (kn := 15) (n := 0) hx hb hts hown hK hW1 hS in_X15 ft_X15 rfl q1370 q1371 q141 hs56 (shP_15 hg55 rfl) (df_X15 _ rfl) (Nat.le_of_ble_eq_true rfl) (Nat.le_of_ble_eq_true rfl) dX0_offer_71 (fun H58 hW59 hS60 hz61 hkp62 => ?_)
  have hKM63 := KM.nw (h := h53) (k := 15) (n := 0) hKM (by omega)
  obtain ⟨v1_57, he9, hm⟩ := lm_some hm
  rw [he9] at hW59 hKM63
  have hW64 := rg_keepN hW0 hs56 hkp62
  have hz65 : H58.size = s.heap.size + (zc + 1) := by omega
  refine lv_dup (pc := 74) hx hb dX0_offer_74 rfl ?_
  refine lv_iload_n (pc := 75) hx hb dX0_offer_75 rfl (lv_at hl 1 rfl) ?_
  obtain ⟨w66, hq67, hm⟩ := ob_some hm
  refine rk_TI (pc := 76) (As := [.int i2]) (rest := [.ref h53, .ref p3, .ref (b0 + 153)]) (mc := 0) (ms := 0) hx hb hml hown hts hK hS60 (fun q hq => FA_sz rfl q hq) lkX0_509 yn_X15_init (ct_X15_init (G := G) (l := l) (sz := H58.size) hq67) ⟨Nat.le_of_ble_eq_true rfl, Nat.le_of_ble_eq_true rfl⟩ (fun z h => (FA_r (KM_hf2 hKM63 z h))) hW59 rfl rfl hl.1 (Nat.le_of_ble_eq_true rfl) dX0_offer_76 ⟨Nat.le_of_ble_eq_true rfl, Nat.le_of_ble_eq_true rfl⟩ (fun ov9 H68 locs69 hP70 hkp71 hS72 => ?_)
  obtain ⟨rfl, hW73, hz74, hKM75⟩ := hP70
  have hW76 := rg_keepX hW64 hkp71 (by intro z h0 h3; have h1 := h0.1.1; have h2 := h0.1.2; have h4 := h0.2; exact hPX _ h3.1 h0)
  have hz77 := hz74.trans hz65
  have hKM78 := KM.trans hKM63 hKM75 (by omega)
  refine W.eq (g2 := F0 m 79 ls [.ref h53, .ref p3, .ref (b0 + 153)]) rfl ?_
  obtain ⟨hg79, hm⟩ := gb_some hm
  obtain ⟨oa80, rc81, w82, hq83, hm⟩ := ob3_some hm
  have hq84 := hq83
  rw [show (Z + (zc + 1)) = H68.size by omega] at hq84
  refine rk_TV (pc := 79) (As := [.ref p3, .ref h53]) (rest := []) (mc := 1) (ms := 6) hx hb hml hown hts hK hS72 (fun q hq => FA_sz rfl q hq) lkX0_510 rfl yn_J1_put (ct_J1_put (G := G) (l := l) hq84 hZP) ⟨Nat.le_of_ble_eq_true rfl, Nat.le_of_ble_eq_true rfl⟩ (fun z h => (FA_r (KM_hf2 hKM78 z h))) (rp_recv hK hW73 (C := RJ1) (T := TJ1) (N := 9) rfl (shP_16 (kd_PL hg79) (kd_k hg79))) hW73 rfl rfl hl.1 (Nat.le_of_ble_eq_true rfl) dX0_offer_79 ⟨Nat.le_of_ble_eq_true rfl, Nat.le_of_ble_eq_true rfl⟩ (fun ov9 H85 locs86 hP87 hkp88 hS89 => ?_)
  obtain ⟨rfl, hW90, hz91, hKM92⟩ := hP87
  have hW93 := rg_keepX hW76 hkp88 (by intro z h0 h3; have h1 := h0.1.1; have h2 := h0.1.2; have h4 := h0.2; exact hPX _ h3.1 h0)
  have hz94 : H85.size = s.heap.size + (zc + 1 + rc81) := by omega
  have hKM95 := KM.trans hKM78 hKM92 (by omega)
  refine W.eq (g2 := F0 m 82 ls [va_rf oa80]) rfl ?_
  rcases oa80 with _ | pa96
  · have hm := od_n hm
    refine lv_castN (pc := 82) hx hb dX0_offer_82 ?_
    refine lv_astoreN (pc := 85) (lv' := [(4, .null), (0, .ref b0), (2, .int i2), (3, .ref p3)]) hx hb dX0_offer_85 hl (by decide) rfl (fun ls hl => ?_)
    refine lv_aloadN (pc := 87) hx hb dX0_offer_87 (lv_at hl 0 rfl) ?_
    refine lv_ifnonnullN (pc := 89) hx hb dX0_offer_89 ?_
    refine lv_bipush (pc := 92) (v := (-5 : Int32)) hx hb dX0_offer_92 (by decide) ?_
    refine lv_goto (pc := 94) (tgt := 102) hx hb dX0_offer_94 (by decide) ?_
    obtain ⟨e6, e7, e8, e9⟩ := rs4 hm
    subst e6
    subst e7
    subst e8
    subst e9
    exact rk_iretA (pc := 102) hx hb hr hlk hS89 ⟨rfl, hW93, hW90, hz94, hKM95⟩ dX0_offer_102 (by exact Nat.le_of_ble_eq_true rfl) (by exact Nat.le_of_ble_eq_true rfl)
  · have hm := od_s hm
    obtain ⟨hg97, hm⟩ := gb_some hm
    refine rp_castS (pc := 82) (C := RX15) (T := TX15) (N := 1) (ci := 15) hx hb hown hts hK q1370 rfl (rp_recv hK hW90 (C := RX15) (T := TX15) (N := 1) rfl (shP_15 (kd_PL hg97) (kd_k hg97))) dX0_offer_82 ?_
    refine lv_astore (pc := 85) (lv' := [(4, .ref pa96), (0, .ref b0), (2, .int i2), (3, .ref p3)]) hx hb dX0_offer_85 hl (by decide) rfl (fun ls hl => ?_)
    refine lv_aload (pc := 87) hx hb dX0_offer_87 (lv_at hl 0 rfl) ?_
    refine lv_ifnonnull (pc := 89) (tgt := 97) hx hb dX0_offer_89 (by decide) ?_
    refine lv_aload (pc := 97) hx hb dX0_offer_97 (lv_at hl 0 rfl) ?_
    obtain ⟨hg98, hm⟩ := gb_some hm
    refine rk_getN (pc := 99) hx hb hts hown hK (pl_rg hW90) fnX0_514 pa96 (Nat.lt_succ_self _) (Nat.zero_add _).symm (shP_15 (kd_PL hg98) (kd_k hg98)) (x := .int (gI w82 pa96 0)) rfl dX0_offer_99 ?_
    obtain ⟨e6, e7, e8, e9⟩ := rs4 hm
    subst e6
    subst e7
    subst e8
    subst e9
    exact rk_iretA (pc := 102) hx hb hr hlk hS89 ⟨rfl, hW93, hW90, hz94, hKM95⟩ dX0_offer_102 (by exact Nat.le_of_ble_eq_true rfl) (by exact Nat.le_of_ble_eq_true rfl)
set_option maxHeartbeats 4000000 in
theorem w_fX0_offer (C : Cx G p s m args meth c RX0 cX0_offer 5 (some .int)) {b0 : Nat} {PL : Nat → Bool} {Z : Nat} {vP0 : Mem} {rx : Int32} {rc : Nat} {rw0 : Mem} {rw1 : Mem} (hPX : ∀ z, PL z = true → ¬ fX b0 z) (he0 : b0 + 357 ≤ s.heap.size) (hZz : s.heap.size = Z) (hZP : ZP G) : ∀ (v0 : Mem) (v1 : Mem) (i1 : Int32) (i2 : Int32), fX0_offer PL Z b0 v0 v1 i1 i2 = some (rx, rc, rw0, rw1) → ∀ (H : Heap) (locs : List Loc) (ls : Array Slot), rg G b0 357 (shX0 G.2.1) v0 H → pl G PL v1 H → va_S (FA (fun z => (fX b0) z ∨ (fP PL vP0) z) s.heap.size) s.heap H locs → H.size = s.heap.size + 0 → KM vP0 v1 s.heap.size → lv_has ls 5 [(0, .ref b0), (1, .int i1), (2, .int i2)] → W p l e (rmT 6 3 9 139) s m args below meth c H locs 0 0 (MQ below (QcT (FA (fun z => (fX b0) z ∨ (fP PL vP0) z) s.heap.size) (fun ov H => ov = (some (.int rx)) ∧ rg G b0 357 (shX0 G.2.1) rw0 H ∧ pl G PL rw1 H ∧ H.size = s.heap.size + rc ∧ KM vP0 rw1 s.heap.size)) args s 3 9 (FA (fun z => (fX b0) z ∨ (fP PL vP0) z) s.heap.size)) (F0 m 0 ls []) := by
  intro v0 v1 i1 i2 hm H locs ls hW0 hW1 hS hz hKM hl
  obtain ⟨hx, hb, hr, hlk, hml, hown, hts, hK⟩ := id C
  unfold fX0_offer at hm
  refine lv_aload_n (pc := 0) hx hb dX0_offer_0 rfl (lv_at hl 0 rfl) ?_
  refine lv_iload_n (pc := 1) hx hb dX0_offer_1 rfl (lv_at hl 1 rfl) ?_
  obtain ⟨r1, w2, hq3, hm⟩ := ob2_some hm
  refine rk_TV (pc := 2) (As := [.int i1]) (rest := []) (mc := 0) (ms := 0) hx hb hml hown hts hK hS (fun q hq => FA_sz rfl q hq) lkX0_393 rfl yn_X0_reads (ct_X0_reads (G := G) (l := l) (b0 := b0) (sz := H.size) hq3) ⟨Nat.le_of_ble_eq_true rfl, Nat.le_of_ble_eq_true rfl⟩ (fun z h => Or.inl (Or.inl h)) (rk_recv hK hW0 0 (by decide) rfl rfl rfl) hW0 rfl rfl hl.1 (Nat.le_of_ble_eq_true rfl) dX0_offer_2 ⟨Nat.zero_le _, Nat.zero_le _⟩ (fun ov9 H4 locs5 hP6 hkp7 hS8 => ?_)
  obtain ⟨rfl, hW9, hz10⟩ := hP6
  have hW11 := pl_keepA hW1 hkp7 (by intro z h1 h3; exact hPX _ h1 h3)
  have hz12 := hz10.trans hz
  refine W.eq (g2 := F0 m 5 ls [.int r1]) rfl ?_
  refine lv_if_eq (pc := 5) (tgt := 20) hx hb dX0_offer_5 (by decide) (fun c13 => ?_) (fun c13 => ?_)
  · have hm := ite_t c13 hm
    refine lv_bipush (pc := 20) (v := (-2 : Int32)) hx hb dX0_offer_20 (by decide) ?_
    obtain ⟨e6, e7, e8, e9⟩ := rs4 hm
    subst e6
    subst e7
    subst e8
    subst e9
    exact rk_iretA (pc := 22) hx hb hr hlk hS8 ⟨rfl, hW9, hW11, hz12, hKM⟩ dX0_offer_22 (by exact Nat.le_of_ble_eq_true rfl) (by exact Nat.le_of_ble_eq_true rfl)
  · have hm := ite_f c13 hm
    refine lv_iload_n (pc := 8) hx hb dX0_offer_8 rfl (lv_at hl 2 rfl) ?_
    refine lv_i2l (pc := 9) hx hb dX0_offer_9 rfl ?_
    refine lv_lconst (pc := 10) (v := (0 : Int64)) hx hb dX0_offer_10 (by decide) ?_
    refine lv_ldc2 (pc := 11) (v := (999 : Int64)) hx hb hown (hts _ q602) dX0_offer_11 ?_
    obtain ⟨r14, hq15, hm⟩ := ob_some hm
    refine rk_PS (pc := 14) (As := [.long i2.toInt64, .long (0 : Int64), .long (999 : Int64)]) (rest := []) hx hb hml hown hts hK lkX0_127 yn_X0_in (ct_X0_in (G := G) (l := l) hq15) ⟨Nat.le_of_ble_eq_true rfl, Nat.le_of_ble_eq_true rfl⟩ trivial rfl rfl hl.1 (Nat.le_of_ble_eq_true rfl) dX0_offer_14 ⟨Nat.zero_le _, Nat.zero_le _⟩ ?_
    refine W.eq (g2 := F0 m 17 ls [.int r14]) rfl ?_
    refine lv_if_ne (pc := 17) (tgt := 23) hx hb dX0_offer_17 (by decide) (fun c16 => ?_) (fun c16 => ?_)
    · have hm := ite_f c16 hm
      obtain ⟨h17, hh18, hm⟩ := ln_some hm
      obtain ⟨hg19, hm⟩ := gb_some hm
      have hs20 : H4.size = h17 := by omega
      refine rp_new (pc := 23) (h := h17) (kn := 14) (n := 0) hx hb hts hown hK hW11 hS8 in_X14 ft_X14 rfl q1334 q1335 q139 hs20 (shP_14 hg19 rfl) (df_X14 _ rfl) (Nat.le_of_ble_eq_true rfl) (Nat.le_of_ble_eq_true rfl) dX0_offer_23 (fun H22 hW23 hS24 hz25 hkp26 => ?_)
      have hKM27 := KM.nw (h := h17) (k := 14) (n := 0) hKM (by omega)
      obtain ⟨v1_21, he9, hm⟩ := lm_some hm
      rw [he9] at hW23 hKM27
      have hW28 := rg_keepN hW9 hs20 hkp26
      have hz29 : H22.size = s.heap.size + 1 := by omega
      refine lv_dup (pc := 26) hx hb dX0_offer_26 rfl ?_
      refine lv_aload_n (pc := 27) hx hb dX0_offer_27 rfl (lv_at hl 0 rfl) ?_
      refine lv_aload_n (pc := 28) hx hb dX0_offer_28 rfl (lv_at hl 0 rfl) ?_
      refine rk_get (pc := 29) hx hb hts hown hK hW28 flX0_82 0 (by decide) rfl rfl (x := .ref (b0 + 163)) (by first | rfl | exact congrArg (fun z => some (Value.ref z)) (by omega)) dX0_offer_29 ?_
      obtain ⟨r30, hq31, hm⟩ := ob_some hm
      refine rk_PV (pc := 32) (As := [.ref (b0 + 163)]) (rest := [.ref h17, .ref h17]) hx hb hml hown hts hK lkX0_350 rfl yn_X0_costOf (ct_X0_costOf_asked (G := G) (l := l) (b0 := b0) hq31) ⟨Nat.le_of_ble_eq_true rfl, Nat.le_of_ble_eq_true rfl⟩ (rk_recv hK hW28 0 (by decide) rfl rfl rfl) hW28 rfl rfl hl.1 (Nat.le_of_ble_eq_true rfl) dX0_offer_32 ⟨Nat.le_of_ble_eq_true rfl, Nat.le_of_ble_eq_true rfl⟩ ?_
      refine W.eq (g2 := F0 m 35 ls [.int r30, .ref h17, .ref h17]) rfl ?_
      refine lv_iload_n (pc := 35) hx hb dX0_offer_35 rfl (lv_at hl 1 rfl) ?_
      obtain ⟨w32, hq33, hm⟩ := ob_some hm
      refine rk_TI (pc := 36) (As := [.int r30, .int i1]) (rest := [.ref h17]) (mc := 0) (ms := 0) hx hb hml hown hts hK hS24 (fun q hq => FA_sz rfl q hq) lkX0_501 yn_X14_init (ct_X14_init (G := G) (l := l) (sz := H22.size) hq33) ⟨Nat.le_of_ble_eq_true rfl, Nat.le_of_ble_eq_true rfl⟩ (fun z h => (FA_r (KM_hf2 hKM27 z h))) hW23 rfl rfl hl.1 (Nat.le_of_ble_eq_true rfl) dX0_offer_36 ⟨Nat.le_of_ble_eq_true rfl, Nat.le_of_ble_eq_true rfl⟩ (fun ov9 H34 locs35 hP36 hkp37 hS38 => ?_)
      obtain ⟨rfl, hW39, hz40, hKM41⟩ := hP36
      have hW42 := rg_keepX hW28 hkp37 (by intro z h0 h3; have h1 := h0.1.1; have h2 := h0.1.2; have h4 := h0.2; exact hPX _ h3.1 h0)
      have hz43 := hz40.trans hz29
      have hKM44 := KM.trans hKM27 hKM41 (by omega)
      refine W.eq (g2 := F0 m 39 ls [.ref h17]) rfl ?_
      refine lv_astore_n (pc := 39) (lv' := [(3, .ref h17), (0, .ref b0), (1, .int i1), (2, .int i2)]) hx hb dX0_offer_39 rfl hl (by decide) rfl (fun ls hl => ?_)
      refine lv_aload_n (pc := 40) hx hb dX0_offer_40 rfl (lv_at hl 1 rfl) ?_
      refine rk_get (pc := 41) hx hb hts hown hK hW42 flX0_37 0 (by decide) rfl rfl (x := .ref (b0 + 153)) (by first | rfl | exact congrArg (fun z => some (Value.ref z)) (by omega)) dX0_offer_41 ?_
      obtain ⟨hg45, hm⟩ := gb_some hm
      obtain ⟨r46, hq47, hm⟩ := ob_some hm
      refine rk_PV (pc := 44) (As := []) (rest := []) hx hb hml hown hts hK lkX0_503 rfl yn_J1_size (ct_J1_size (G := G) (l := l) hq47) ⟨Nat.le_of_ble_eq_true rfl, Nat.le_of_ble_eq_true rfl⟩ (rp_recv hK hW39 (C := RJ1) (T := TJ1) (N := 9) rfl (shP_16 (kd_PL hg45) (kd_k hg45))) hW39 rfl rfl hl.1 (Nat.le_of_ble_eq_true rfl) dX0_offer_44 ⟨Nat.le_of_ble_eq_true rfl, Nat.le_of_ble_eq_true rfl⟩ ?_
      refine W.eq (g2 := F0 m 47 ls [.int r46]) rfl ?_
      refine lv_bipush (pc := 47) (v := (20 : Int32)) hx hb dX0_offer_47 (by decide) ?_
      refine lv_icmp_ne (pc := 49) (tgt := 66) hx hb dX0_offer_49 (by decide) (fun c48 => ?_) (fun c48 => ?_)
      · have hm := ite_f c48 hm
        exact (w_fX0_offer_66 C hPX he0 hZz hZP) w2 w32 1 i2 h17 hm H34 locs35 ls hW42 hW39 hS38 hz43 hKM44 (lv_sub hl [1, 3, 0] rfl)
      · have hm := ite_t c48 hm
        refine lv_aload_n (pc := 52) hx hb dX0_offer_52 rfl (lv_at hl 1 rfl) ?_
        refine rk_get (pc := 53) hx hb hts hown hK hW42 flX0_37 0 (by decide) rfl rfl (x := .ref (b0 + 153)) (by first | rfl | exact congrArg (fun z => some (Value.ref z)) (by omega)) dX0_offer_53 ?_
        refine lv_aload_n (pc := 56) hx hb dX0_offer_56 rfl (lv_at hl 0 rfl) ?_
        obtain ⟨hg49, hm⟩ := gb_some hm
        obtain ⟨r50, hq51, hm⟩ := ob_some hm
        refine rk_PV (pc := 57) (As := [.ref h17]) (rest := []) hx hb hml hown hts hK lkX0_504 rfl yn_J1_containsKey (ct_J1_containsKey (G := G) (l := l) hq51 hZP) ⟨Nat.le_of_ble_eq_true rfl, Nat.le_of_ble_eq_true rfl⟩ (rp_recv hK hW39 (C := RJ1) (T := TJ1) (N := 9) rfl (shP_16 (kd_PL hg49) (kd_k hg49))) hW39 rfl rfl hl.1 (Nat.le_of_ble_eq_true rfl) dX0_offer_57 ⟨Nat.le_of_ble_eq_true rfl, Nat.le_of_ble_eq_true rfl⟩ ?_
        refine W.eq (g2 := F0 m 60 ls [.int r50]) rfl ?_
        refine lv_if_ne (pc := 60) (tgt := 66) hx hb dX0_offer_60 (by decide) (fun c52 => ?_) (fun c52 => ?_)
        · have hm := ite_f c52 hm
          exact (w_fX0_offer_66 C hPX he0 hZz hZP) w2 w32 1 i2 h17 hm H34 locs35 ls hW42 hW39 hS38 hz43 hKM44 (lv_sub hl [1, 3, 0] rfl)
        · have hm := ite_t c52 hm
          refine lv_bipush (pc := 63) (v := (-4 : Int32)) hx hb dX0_offer_63 (by decide) ?_
          obtain ⟨e6, e7, e8, e9⟩ := rs4 hm
          subst e6
          subst e7
          subst e8
          subst e9
          exact rk_iretA (pc := 65) hx hb hr hlk hS38 ⟨rfl, hW42, hW39, hz43, hKM44⟩ dX0_offer_65 (by exact Nat.le_of_ble_eq_true rfl) (by exact Nat.le_of_ble_eq_true rfl)
    · have hm := ite_t c16 hm
      refine lv_bipush (pc := 20) (v := (-2 : Int32)) hx hb dX0_offer_20 (by decide) ?_
      obtain ⟨e6, e7, e8, e9⟩ := rs4 hm
      subst e6
      subst e7
      subst e8
      subst e9
      exact rk_iretA (pc := 22) hx hb hr hlk hS8 ⟨rfl, hW9, hW11, hz12, hKM⟩ dX0_offer_22 (by exact Nat.le_of_ble_eq_true rfl) (by exact Nat.le_of_ble_eq_true rfl)
set_option maxHeartbeats 4000000 in
theorem ct_X0_offer {G : Gv} {l : Launch} {b0 : Nat} {PL : Nat → Bool} {Z : Nat} {v0 : Mem} {v1 : Mem} {i1 : Int32} {i2 : Int32} {rx : Int32} {rc : Nat} {rw0 : Mem} {rw1 : Mem} (hm : fX0_offer PL Z b0 v0 v1 i1 i2 = some (rx, rc, rw0, rw1)) (hPX : ∀ z, PL z = true → ¬ fX b0 z) (hZP : ZP G) : CT G l yX0_offer (ws_ yX0_offer cX0_offer 5 (some .int)) 6 3 9 139 [.ref b0, .int i1, .int i2] (fun z => (fX b0) z ∨ (fP PL v1) z) Z (fun H => rg G b0 357 (shX0 G.2.1) v0 H ∧ pl G PL v1 H) (fun ov H => ov = (some (.int rx)) ∧ rg G b0 357 (shX0 G.2.1) rw0 H ∧ pl G PL rw1 H ∧ H.size = Z + rc ∧ KM v1 rw1 Z) := by
  refine Met.ofW (cc := cX0_offer) (maxL := 5) (ret := (some .int)) (by decide +kernel) rfl ?_
  intro p e s m args below meth c s₁ B hml hv
  obtain ⟨rfl, ⟨hz, hW0, hW1⟩, hK⟩ := hv
  subst hz
  have he0 := rg_end hW0 356 (by decide) rfl (fun _ _ _ => rfl)
  have hZz : s.heap.size = s.heap.size := rfl
  have hts := atoms_spec (ws := ws_ yX0_offer cX0_offer 5 (some .int)) B.pre
  have hts : ∀ w ∈ lw_all, w.before _ s = true := fun w h => hts w (List.mem_cons_of_mem _ h)
  have C : Cx G p s m _ meth c RX0 cX0_offer 5 (some .int) := ⟨B.exec, B.bytes, B.returns, B.notSynchronized, hml, findClass_of_methodNamed B.named, hts, hK⟩
  have hl := lv_entry ([.ref b0, .int i1, .int i2]) (n := 5) (Nat.le_of_ble_eq_true rfl)
  rw [lg_entry_eq]
  generalize (lg_sl ([.ref b0, .int i1, .int i2]) ++ List.replicate (5 - (lg_sl ([.ref b0, .int i1, .int i2])).length) Slot.unset).toArray = ls at hl ⊢
  have hl : lv_has ls 5 [(0, .ref b0), (1, .int i1), (2, .int i2)] := hl
  exact w_fX0_offer C hPX he0 hZz hZP _ _ _ _ hm s.heap [] ls hW0 hW1 va_S.rf rfl KM.rf hl
theorem yn_J1_firstKey : YN yJ1_firstKey 0 := by
  unfold YN
  decide +kernel
theorem lkX0_519 : LV RX0 519 RJ1 yJ1_firstKey cJ1_firstKey 1 (some (.object "java/lang/Object")) := ⟨q1463, q1464, q1465, q120, q1466⟩
theorem fnX0_530 : FN RX0 530 14 0 RX14 TX14 2 "WholePacks" := ⟨in_X14, rfl, by decide, q1341⟩
theorem yn_J1_get : YN yJ1_get 1 := by
  unfold YN
  decide +kernel
theorem lkX0_527 : LV RX0 527 RJ1 yJ1_get cJ1_get 3 (some (.object "java/lang/Object")) := ⟨q1485, q1486, q1487, q120, q1488⟩
theorem fnX0_526 : FN RX0 526 14 1 RX14 TX14 2 "WholePacks" := ⟨in_X14, rfl, by decide, q1343⟩
theorem yn_J1_higherKey : YN yJ1_higherKey 1 := by
  unfold YN
  decide +kernel
theorem lkX0_522 : LV RX0 522 RJ1 yJ1_higherKey cJ1_higherKey 2 (some (.object "java/lang/Object")) := ⟨q1474, q1475, q1476, q120, q1477⟩
noncomputable def fX0_offered_50 (PL : Nat → Bool) (b0 : Nat) (V0 : Mem) (V1 : Mem) (k50 : Int32 → Int32 → Option Nat → Int32 → Option (Int32)) (i1 : Int32) (i2 : Int32) (o3 : Option Nat) (i4 : Int32) : Option (Int32) :=
  if i1 ≤ i4 then (
  if i2 = 0 then (
  ob o3 fun pa31 =>
  gb (kd PL V1 pa31 14) (
  some (gI V1 pa31 1)))
  else (
  if i2 = (1 : Int32) then (
  ob o3 fun pa22 =>
  gb (kd PL V1 (b0 + 153) 16) (
  ob (fJ1_get PL V1 (b0 + 153) pa22) fun oa26 =>
  od oa26 (
  none) (fun pa28 =>
  gb (kd PL V1 pa28 15) (
  gb (kd PL V1 pa28 15) (
  some (gI V1 pa28 0))))))
  else (
  ob o3 fun pa18 =>
  gb (kd PL V1 pa18 14) (
  some (gI V1 pa18 0)))))
  else (
  ob o3 fun pa35 =>
  gb (kd PL V1 (b0 + 153) 16) (
  ob (fJ1_higherKey PL V1 (b0 + 153) pa35) fun oa39 =>
  od oa39 (
  k50 i1 i2 none (i4 + (1 : Int32))) (fun pa41 =>
  gb (kd PL V1 pa41 14) (
  k50 i1 i2 (some pa41) (i4 + (1 : Int32))))))
noncomputable def fX0_offered (PL : Nat → Bool) (b0 : Nat) (V0 : Mem) (V1 : Mem) (i1 : Int32) (i2 : Int32) : Option (Int32) :=
  ob (fX0_in i2.toInt64 (0 : Int64) (2 : Int64)) fun r1 =>
  if r1 = 0 then (
  some (-1 : Int32))
  else (
  gb (kd PL V1 (b0 + 153) 16) (
  ob (fJ1_size PL V1 (b0 + 153)) fun r5 =>
  ob (fX0_in i1.toInt64 (0 : Int64) (r5 - (1 : Int32)).toInt64) fun r7 =>
  if r7 = 0 then (
  some (-2 : Int32))
  else (
  gb (kd PL V1 (b0 + 153) 16) (
  ob (fJ1_firstKey PL V1 (b0 + 153)) fun oa11 =>
  od oa11 (
  lq4 (fX0_offered_50 PL b0 V0 V1) FU i1 i2 none (0 : Int32)) (fun pa13 =>
  gb (kd PL V1 pa13 14) (
  lq4 (fX0_offered_50 PL b0 V0 V1) FU i1 i2 (some pa13) (0 : Int32)))))))
set_option maxHeartbeats 4000000 in
theorem w_fX0_offered_50 (C : Cx G p s m args meth c RX0 cX0_offered 5 (some .int)) {b0 : Nat} {PL : Nat → Bool} {V0 : Mem} {V1 : Mem} {rx : Int32} (hW0 : rg G b0 357 (shX0 G.2.1) V0 s.heap) (hW1 : pl G PL V1 s.heap) (hZP : ZP G) {k50 : Int32 → Int32 → Option Nat → Int32 → Option (Int32)} (hk50 : ∀ (i1 : Int32) (i2 : Int32) (o3 : Option Nat) (i4 : Int32), k50 i1 i2 o3 i4 = some rx → ∀ (ls : Array Slot), lv_has ls 5 [(0, .ref b0), (1, .int i1), (2, .int i2), (3, va_rf o3), (4, .int i4)] → W p l e (rmP 5 112) s m args below meth c s.heap [] 0 0 (MQ below (QcP (some (.int rx))) args s 0 0 (fun _ => False)) (F0 m 50 ls [])) : ∀ (i1 : Int32) (i2 : Int32) (o3 : Option Nat) (i4 : Int32), fX0_offered_50 PL b0 V0 V1 k50 i1 i2 o3 i4 = some rx → ∀ (ls : Array Slot), lv_has ls 5 [(0, .ref b0), (1, .int i1), (2, .int i2), (3, va_rf o3), (4, .int i4)] → W p l e (rmP 5 112) s m args below meth c s.heap [] 0 0 (MQ below (QcP (some (.int rx))) args s 0 0 (fun _ => False)) (F0 m 50 ls []) := by
  intro i1 i2 o3 i4 hm ls hl
  obtain ⟨hx, hb, hr, hlk, hml, hown, hts, hK⟩ := id C
  unfold fX0_offered_50 at hm
  refine lv_iload (pc := 50) hx hb dX0_offered_50 (lv_at hl 4 rfl) ?_
  refine lv_iload_n (pc := 52) hx hb dX0_offered_52 rfl (lv_at hl 1 rfl) ?_
  refine lv_icmp_ge (pc := 53) (tgt := 74) hx hb dX0_offered_53 (by decide) (fun c15 => ?_) (fun c15 => ?_)
  · have hm := ite_t c15 hm
    refine lv_iload_n (pc := 74) hx hb dX0_offered_74 rfl (lv_at hl 2 rfl) ?_
    refine lv_if_ne (pc := 75) (tgt := 85) hx hb dX0_offered_75 (by decide) (fun c16 => ?_) (fun c16 => ?_)
    · have hm := ite_f c16 hm
      refine lv_iload_n (pc := 85) hx hb dX0_offered_85 rfl (lv_at hl 2 rfl) ?_
      refine lv_iconst (pc := 86) (v := (1 : Int32)) hx hb dX0_offered_86 (by decide) ?_
      refine lv_icmp_ne (pc := 87) (tgt := 107) hx hb dX0_offered_87 (by decide) (fun c17 => ?_) (fun c17 => ?_)
      · have hm := ite_f c17 hm
        refine lv_aload_nO (pc := 107) hx hb dX0_offered_107 rfl (lv_at hl 3 rfl) ?_
        obtain ⟨pa18, he19, hm20⟩ := ob_some hm
        subst he19
        have hm := hm20
        obtain ⟨hg21, hm⟩ := gb_some hm
        refine rk_getN (pc := 108) hx hb hts hown hK (pl_rg hW1) fnX0_530 pa18 (Nat.lt_succ_self _) (Nat.zero_add _).symm (shP_14 (kd_PL hg21) (kd_k hg21)) (x := .int (gI V1 pa18 0)) rfl dX0_offered_108 ?_
        have e9 := rs1 hm
        subst e9
        exact rk_iretP (pc := 111) hx hb hr hlk rfl dX0_offered_111
      · have hm := ite_t c17 hm
        refine lv_aload_n (pc := 90) hx hb dX0_offered_90 rfl (lv_at hl 0 rfl) ?_
        refine rk_get (pc := 91) hx hb hts hown hK hW0 flX0_37 0 (by decide) rfl rfl (x := .ref (b0 + 153)) (by first | rfl | exact congrArg (fun z => some (Value.ref z)) (by omega)) dX0_offered_91 ?_
        refine lv_aload_nO (pc := 94) hx hb dX0_offered_94 rfl (lv_at hl 3 rfl) ?_
        obtain ⟨pa22, he23, hm24⟩ := ob_some hm
        subst he23
        have hm := hm24
        obtain ⟨hg25, hm⟩ := gb_some hm
        obtain ⟨oa26, hq27, hm⟩ := ob_some hm
        refine rk_PV (pc := 95) (As := [.ref pa22]) (rest := []) hx hb hml hown hts hK lkX0_527 rfl yn_J1_get (ct_J1_get (G := G) (l := l) hq27 hZP) ⟨Nat.le_of_ble_eq_true rfl, Nat.le_of_ble_eq_true rfl⟩ (rp_recv hK hW1 (C := RJ1) (T := TJ1) (N := 9) rfl (shP_16 (kd_PL hg25) (kd_k hg25))) hW1 rfl rfl hl.1 (Nat.le_of_ble_eq_true rfl) dX0_offered_95 ⟨Nat.zero_le _, Nat.zero_le _⟩ ?_
        refine W.eq (g2 := F0 m 98 ls [va_rf oa26]) rfl ?_
        rcases oa26 with _ | pa28
        · have hm := od_n hm
          refine lv_castN (pc := 98) hx hb dX0_offered_98 ?_
          exact nomatch hm
        · have hm := od_s hm
          obtain ⟨hg29, hm⟩ := gb_some hm
          refine rp_castS (pc := 98) (C := RX15) (T := TX15) (N := 1) (ci := 15) hx hb hown hts hK q1370 rfl (rp_recv hK hW1 (C := RX15) (T := TX15) (N := 1) rfl (shP_15 (kd_PL hg29) (kd_k hg29))) dX0_offered_98 ?_
          obtain ⟨hg30, hm⟩ := gb_some hm
          refine rk_getN (pc := 101) hx hb hts hown hK (pl_rg hW1) fnX0_514 pa28 (Nat.lt_succ_self _) (Nat.zero_add _).symm (shP_15 (kd_PL hg30) (kd_k hg30)) (x := .int (gI V1 pa28 0)) rfl dX0_offered_101 ?_
          refine lv_goto (pc := 104) (tgt := 111) hx hb dX0_offered_104 (by decide) ?_
          have e9 := rs1 hm
          subst e9
          exact rk_iretP (pc := 111) hx hb hr hlk rfl dX0_offered_111
    · have hm := ite_t c16 hm
      refine lv_aload_nO (pc := 78) hx hb dX0_offered_78 rfl (lv_at hl 3 rfl) ?_
      obtain ⟨pa31, he32, hm33⟩ := ob_some hm
      subst he32
      have hm := hm33
      obtain ⟨hg34, hm⟩ := gb_some hm
      refine rk_getN (pc := 79) hx hb hts hown hK (pl_rg hW1) fnX0_526 pa31 (Nat.lt_succ_self _) (Nat.zero_add _).symm (shP_14 (kd_PL hg34) (kd_k hg34)) (x := .int (gI V1 pa31 1)) rfl dX0_offered_79 ?_
      refine lv_goto (pc := 82) (tgt := 111) hx hb dX0_offered_82 (by decide) ?_
      have e9 := rs1 hm
      subst e9
      exact rk_iretP (pc := 111) hx hb hr hlk rfl dX0_offered_111
  · have hm := ite_f c15 hm
    refine lv_aload_n (pc := 56) hx hb dX0_offered_56 rfl (lv_at hl 0 rfl) ?_
    refine rk_get (pc := 57) hx hb hts hown hK hW0 flX0_37 0 (by decide) rfl rfl (x := .ref (b0 + 153)) (by first | rfl | exact congrArg (fun z => some (Value.ref z)) (by omega)) dX0_offered_57 ?_
    refine lv_aload_nO (pc := 60) hx hb dX0_offered_60 rfl (lv_at hl 3 rfl) ?_
    obtain ⟨pa35, he36, hm37⟩ := ob_some hm
    subst he36
    have hm := hm37
    obtain ⟨hg38, hm⟩ := gb_some hm
    obtain ⟨oa39, hq40, hm⟩ := ob_some hm
    refine rk_PV (pc := 61) (As := [.ref pa35]) (rest := []) hx hb hml hown hts hK lkX0_522 rfl yn_J1_higherKey (ct_J1_higherKey (G := G) (l := l) hq40 hZP) ⟨Nat.le_of_ble_eq_true rfl, Nat.le_of_ble_eq_true rfl⟩ (rp_recv hK hW1 (C := RJ1) (T := TJ1) (N := 9) rfl (shP_16 (kd_PL hg38) (kd_k hg38))) hW1 rfl rfl hl.1 (Nat.le_of_ble_eq_true rfl) dX0_offered_61 ⟨Nat.zero_le _, Nat.zero_le _⟩ ?_
    refine W.eq (g2 := F0 m 64 ls [va_rf oa39]) rfl ?_
    rcases oa39 with _ | pa41
    · have hm := od_n hm
      refine lv_castN (pc := 64) hx hb dX0_offered_64 ?_
      refine lv_astore_nN (pc := 67) (lv' := [(3, .null), (0, .ref b0), (1, .int i1), (2, .int i2), (4, .int i4)]) hx hb dX0_offered_67 rfl hl (by decide) rfl (fun ls hl => ?_)
      refine lv_iinc (pc := 68) (v := (i4 + (1 : Int32))) (lv' := [(4, .int (i4 + (1 : Int32))), (3, .null), (0, .ref b0), (1, .int i1), (2, .int i2)]) hx hb dX0_offered_68 hl (k := 4) rfl rfl (by decide) rfl (fun ls hl => ?_)
      refine lv_goto (pc := 71) (tgt := 50) hx hb dX0_offered_71 (by decide) ?_
      exact hk50 i1 i2 none (i4 + (1 : Int32)) hm ls (lv_sub hl [2, 3, 4, 1, 0] rfl)
    · have hm := od_s hm
      obtain ⟨hg42, hm⟩ := gb_some hm
      refine rp_castS (pc := 64) (C := RX14) (T := TX14) (N := 2) (ci := 14) hx hb hown hts hK q1334 rfl (rp_recv hK hW1 (C := RX14) (T := TX14) (N := 2) rfl (shP_14 (kd_PL hg42) (kd_k hg42))) dX0_offered_64 ?_
      refine lv_astore_n (pc := 67) (lv' := [(3, .ref pa41), (0, .ref b0), (1, .int i1), (2, .int i2), (4, .int i4)]) hx hb dX0_offered_67 rfl hl (by decide) rfl (fun ls hl => ?_)
      refine lv_iinc (pc := 68) (v := (i4 + (1 : Int32))) (lv' := [(4, .int (i4 + (1 : Int32))), (3, .ref pa41), (0, .ref b0), (1, .int i1), (2, .int i2)]) hx hb dX0_offered_68 hl (k := 4) rfl rfl (by decide) rfl (fun ls hl => ?_)
      refine lv_goto (pc := 71) (tgt := 50) hx hb dX0_offered_71 (by decide) ?_
      exact hk50 i1 i2 (some pa41) (i4 + (1 : Int32)) hm ls (lv_sub hl [2, 3, 4, 1, 0] rfl)
theorem w_fX0_offered_50_l (C : Cx G p s m args meth c RX0 cX0_offered 5 (some .int)) {b0 : Nat} {PL : Nat → Bool} {V0 : Mem} {V1 : Mem} {rx : Int32} (hW0 : rg G b0 357 (shX0 G.2.1) V0 s.heap) (hW1 : pl G PL V1 s.heap) (hZP : ZP G) : ∀ (n : Nat) (i1 : Int32) (i2 : Int32) (o3 : Option Nat) (i4 : Int32), lq4 (fX0_offered_50 PL b0 V0 V1) n i1 i2 o3 i4 = some rx → ∀ (ls : Array Slot), lv_has ls 5 [(0, .ref b0), (1, .int i1), (2, .int i2), (3, va_rf o3), (4, .int i4)] → W p l e (rmP 5 112) s m args below meth c s.heap [] 0 0 (MQ below (QcP (some (.int rx))) args s 0 0 (fun _ => False)) (F0 m 50 ls []) := by
  intro n
  induction n with
  | zero => intro i1 i2 o3 i4 hm; exact (lq4_0 hm).elim
  | succ n ih => intro i1 i2 o3 i4 hm; exact w_fX0_offered_50 C hW0 hW1 hZP ih i1 i2 o3 i4 (lq4_s hm)
set_option maxHeartbeats 4000000 in
theorem w_fX0_offered (C : Cx G p s m args meth c RX0 cX0_offered 5 (some .int)) {b0 : Nat} {PL : Nat → Bool} {V0 : Mem} {V1 : Mem} {rx : Int32} (hW0 : rg G b0 357 (shX0 G.2.1) V0 s.heap) (hW1 : pl G PL V1 s.heap) (hZP : ZP G) : ∀ (i1 : Int32) (i2 : Int32), fX0_offered PL b0 V0 V1 i1 i2 = some rx → ∀ (ls : Array Slot), lv_has ls 5 [(0, .ref b0), (1, .int i1), (2, .int i2)] → W p l e (rmP 5 112) s m args below meth c s.heap [] 0 0 (MQ below (QcP (some (.int rx))) args s 0 0 (fun _ => False)) (F0 m 0 ls []) := by
  intro i1 i2 hm ls hl
  obtain ⟨hx, hb, hr, hlk, hml, hown, hts, hK⟩ := id C
  unfold fX0_offered at hm
  refine lv_iload_n (pc := 0) hx hb dX0_offered_0 rfl (lv_at hl 2 rfl) ?_
  refine lv_i2l (pc := 1) hx hb dX0_offered_1 rfl ?_
  refine lv_lconst (pc := 2) (v := (0 : Int64)) hx hb dX0_offered_2 (by decide) ?_
  refine lv_ldc2 (pc := 3) (v := (2 : Int64)) hx hb hown (hts _ q1462) dX0_offered_3 ?_
  obtain ⟨r1, hq2, hm⟩ := ob_some hm
  refine rk_PS (pc := 6) (As := [.long i2.toInt64, .long (0 : Int64), .long (2 : Int64)]) (rest := []) hx hb hml hown hts hK lkX0_127 yn_X0_in (ct_X0_in (G := G) (l := l) hq2) ⟨Nat.le_of_ble_eq_true rfl, Nat.le_of_ble_eq_true rfl⟩ trivial rfl rfl hl.1 (Nat.le_of_ble_eq_true rfl) dX0_offered_6 ⟨Nat.zero_le _, Nat.zero_le _⟩ ?_
  refine W.eq (g2 := F0 m 9 ls [.int r1]) rfl ?_
  refine lv_if_ne (pc := 9) (tgt := 14) hx hb dX0_offered_9 (by decide) (fun c3 => ?_) (fun c3 => ?_)
  · have hm := ite_f c3 hm
    refine lv_iload_n (pc := 14) hx hb dX0_offered_14 rfl (lv_at hl 1 rfl) ?_
    refine lv_i2l (pc := 15) hx hb dX0_offered_15 rfl ?_
    refine lv_lconst (pc := 16) (v := (0 : Int64)) hx hb dX0_offered_16 (by decide) ?_
    refine lv_aload_n (pc := 17) hx hb dX0_offered_17 rfl (lv_at hl 0 rfl) ?_
    refine rk_get (pc := 18) hx hb hts hown hK hW0 flX0_37 0 (by decide) rfl rfl (x := .ref (b0 + 153)) (by first | rfl | exact congrArg (fun z => some (Value.ref z)) (by omega)) dX0_offered_18 ?_
    obtain ⟨hg4, hm⟩ := gb_some hm
    obtain ⟨r5, hq6, hm⟩ := ob_some hm
    refine rk_PV (pc := 21) (As := []) (rest := [.long (0 : Int64), .long i1.toInt64]) hx hb hml hown hts hK lkX0_503 rfl yn_J1_size (ct_J1_size (G := G) (l := l) hq6) ⟨Nat.le_of_ble_eq_true rfl, Nat.le_of_ble_eq_true rfl⟩ (rp_recv hK hW1 (C := RJ1) (T := TJ1) (N := 9) rfl (shP_16 (kd_PL hg4) (kd_k hg4))) hW1 rfl rfl hl.1 (Nat.le_of_ble_eq_true rfl) dX0_offered_21 ⟨Nat.zero_le _, Nat.zero_le _⟩ ?_
    refine W.eq (g2 := F0 m 24 ls [.int r5, .long (0 : Int64), .long i1.toInt64]) rfl ?_
    refine lv_iconst (pc := 24) (v := (1 : Int32)) hx hb dX0_offered_24 (by decide) ?_
    refine lv_isub (pc := 25) hx hb dX0_offered_25 ?_
    refine lv_i2l (pc := 26) hx hb dX0_offered_26 rfl ?_
    obtain ⟨r7, hq8, hm⟩ := ob_some hm
    refine rk_PS (pc := 27) (As := [.long i1.toInt64, .long (0 : Int64), .long (r5 - (1 : Int32)).toInt64]) (rest := []) hx hb hml hown hts hK lkX0_127 yn_X0_in (ct_X0_in (G := G) (l := l) hq8) ⟨Nat.le_of_ble_eq_true rfl, Nat.le_of_ble_eq_true rfl⟩ trivial rfl rfl hl.1 (Nat.le_of_ble_eq_true rfl) dX0_offered_27 ⟨Nat.zero_le _, Nat.zero_le _⟩ ?_
    refine W.eq (g2 := F0 m 30 ls [.int r7]) rfl ?_
    refine lv_if_ne (pc := 30) (tgt := 36) hx hb dX0_offered_30 (by decide) (fun c9 => ?_) (fun c9 => ?_)
    · have hm := ite_f c9 hm
      refine lv_aload_n (pc := 36) hx hb dX0_offered_36 rfl (lv_at hl 0 rfl) ?_
      refine rk_get (pc := 37) hx hb hts hown hK hW0 flX0_37 0 (by decide) rfl rfl (x := .ref (b0 + 153)) (by first | rfl | exact congrArg (fun z => some (Value.ref z)) (by omega)) dX0_offered_37 ?_
      obtain ⟨hg10, hm⟩ := gb_some hm
      obtain ⟨oa11, hq12, hm⟩ := ob_some hm
      refine rk_PV (pc := 40) (As := []) (rest := []) hx hb hml hown hts hK lkX0_519 rfl yn_J1_firstKey (ct_J1_firstKey (G := G) (l := l) hq12) ⟨Nat.le_of_ble_eq_true rfl, Nat.le_of_ble_eq_true rfl⟩ (rp_recv hK hW1 (C := RJ1) (T := TJ1) (N := 9) rfl (shP_16 (kd_PL hg10) (kd_k hg10))) hW1 rfl rfl hl.1 (Nat.le_of_ble_eq_true rfl) dX0_offered_40 ⟨Nat.zero_le _, Nat.zero_le _⟩ ?_
      refine W.eq (g2 := F0 m 43 ls [va_rf oa11]) rfl ?_
      rcases oa11 with _ | pa13
      · have hm := od_n hm
        refine lv_castN (pc := 43) hx hb dX0_offered_43 ?_
        refine lv_astore_nN (pc := 46) (lv' := [(3, .null), (0, .ref b0), (1, .int i1), (2, .int i2)]) hx hb dX0_offered_46 rfl hl (by decide) rfl (fun ls hl => ?_)
        refine lv_iconst (pc := 47) (v := (0 : Int32)) hx hb dX0_offered_47 (by decide) ?_
        refine lv_istore (pc := 48) (lv' := [(4, .int (0 : Int32)), (3, .null), (0, .ref b0), (1, .int i1), (2, .int i2)]) hx hb dX0_offered_48 hl (by decide) rfl (fun ls hl => ?_)
        exact (w_fX0_offered_50_l C hW0 hW1 hZP FU) i1 i2 none (0 : Int32) hm ls (lv_sub hl [2, 3, 4, 1, 0] rfl)
      · have hm := od_s hm
        obtain ⟨hg14, hm⟩ := gb_some hm
        refine rp_castS (pc := 43) (C := RX14) (T := TX14) (N := 2) (ci := 14) hx hb hown hts hK q1334 rfl (rp_recv hK hW1 (C := RX14) (T := TX14) (N := 2) rfl (shP_14 (kd_PL hg14) (kd_k hg14))) dX0_offered_43 ?_
        refine lv_astore_n (pc := 46) (lv' := [(3, .ref pa13), (0, .ref b0), (1, .int i1), (2, .int i2)]) hx hb dX0_offered_46 rfl hl (by decide) rfl (fun ls hl => ?_)
        refine lv_iconst (pc := 47) (v := (0 : Int32)) hx hb dX0_offered_47 (by decide) ?_
        refine lv_istore (pc := 48) (lv' := [(4, .int (0 : Int32)), (3, .ref pa13), (0, .ref b0), (1, .int i1), (2, .int i2)]) hx hb dX0_offered_48 hl (by decide) rfl (fun ls hl => ?_)
        exact (w_fX0_offered_50_l C hW0 hW1 hZP FU) i1 i2 (some pa13) (0 : Int32) hm ls (lv_sub hl [2, 3, 4, 1, 0] rfl)
    · have hm := ite_t c9 hm
      refine lv_bipush (pc := 33) (v := (-2 : Int32)) hx hb dX0_offered_33 (by decide) ?_
      have e9 := rs1 hm
      subst e9
      exact rk_iretP (pc := 35) hx hb hr hlk rfl dX0_offered_35
  · have hm := ite_t c3 hm
    refine lv_iconst (pc := 12) (v := (-1 : Int32)) hx hb dX0_offered_12 (by decide) ?_
    have e9 := rs1 hm
    subst e9
    exact rk_iretP (pc := 13) hx hb hr hlk rfl dX0_offered_13
set_option maxHeartbeats 4000000 in
theorem ct_X0_offered {G : Gv} {l : Launch} {b0 : Nat} {PL : Nat → Bool} {V0 : Mem} {V1 : Mem} {i1 : Int32} {i2 : Int32} {rx : Int32} (hm : fX0_offered PL b0 V0 V1 i1 i2 = some rx) (hZP : ZP G) : CP G l yX0_offered (ws_ yX0_offered cX0_offered 5 (some .int)) 5 112 [.ref b0, .int i1, .int i2] (fun H => rg G b0 357 (shX0 G.2.1) V0 H ∧ pl G PL V1 H) (some (.int rx)) := by
  refine Met.ofW (cc := cX0_offered) (maxL := 5) (ret := (some .int)) (by decide +kernel) rfl ?_
  intro p e s m args below meth c s₁ B hml hv
  obtain ⟨rfl, ⟨hW0, hW1⟩, hK⟩ := hv
  have hts := atoms_spec (ws := ws_ yX0_offered cX0_offered 5 (some .int)) B.pre
  have hts : ∀ w ∈ lw_all, w.before _ s = true := fun w h => hts w (List.mem_cons_of_mem _ h)
  have C : Cx G p s m _ meth c RX0 cX0_offered 5 (some .int) := ⟨B.exec, B.bytes, B.returns, B.notSynchronized, hml, findClass_of_methodNamed B.named, hts, hK⟩
  have hl := lv_entry ([.ref b0, .int i1, .int i2]) (n := 5) (Nat.le_of_ble_eq_true rfl)
  rw [lg_entry_eq]
  generalize (lg_sl ([.ref b0, .int i1, .int i2]) ++ List.replicate (5 - (lg_sl ([.ref b0, .int i1, .int i2])).length) Slot.unset).toArray = ls at hl ⊢
  have hl : lv_has ls 5 [(0, .ref b0), (1, .int i1), (2, .int i2)] := hl
  exact w_fX0_offered C hW0 hW1 hZP _ _ hm ls hl
theorem yn_J1_floorKey : YN yJ1_floorKey 1 := by
  unfold YN
  decide +kernel
theorem lkX0_534 : LV RX0 534 RJ1 yJ1_floorKey cJ1_floorKey 2 (some (.object "java/lang/Object")) := ⟨q1494, q1495, q1496, q120, q1497⟩
noncomputable def fX0_upTo (PL : Nat → Bool) (Z : Nat) (b0 : Nat) (V0 : Mem) (v1 : Mem) (i1 : Int32) : Option (Int32 × Nat × Mem) :=
  ln (Z + 0) fun h1 =>
  gb (PL h1) (
  lm (nwP v1 h1 14 0) fun v1_5 =>
  ob (fX14_init PL v1_5 h1 i1 (99999 : Int32)) fun w14 =>
  gb (kd PL w14 (b0 + 153) 16) (
  ob (fJ1_floorKey PL w14 (b0 + 153) h1) fun oa28 =>
  od oa28 (
  some ((-5 : Int32), 1, w14)) (fun pa30 =>
  gb (kd PL w14 pa30 14) (
  gb (kd PL w14 pa30 14) (
  some ((gI w14 pa30 1), 1, w14))))))
set_option maxHeartbeats 4000000 in
theorem w_fX0_upTo (C : Cx G p s m args meth c RX0 cX0_upTo 3 (some .int)) {b0 : Nat} {PL : Nat → Bool} {Z : Nat} {V0 : Mem} {vP0 : Mem} {rx : Int32} {rc : Nat} {rw1 : Mem} (hPX : ∀ z, PL z = true → ¬ fX b0 z) (he0 : b0 + 357 ≤ s.heap.size) (hZz : s.heap.size = Z) (hZP : ZP G) : ∀ (v1 : Mem) (i1 : Int32), fX0_upTo PL Z b0 V0 v1 i1 = some (rx, rc, rw1) → ∀ (H : Heap) (locs : List Loc) (ls : Array Slot), rg G b0 357 (shX0 G.2.1) V0 H → pl G PL v1 H → va_S (FA (fP PL vP0) s.heap.size) s.heap H locs → H.size = s.heap.size + 0 → KM vP0 v1 s.heap.size → lv_has ls 3 [(0, .ref b0), (1, .int i1)] → W p l e (rmT 5 1 2 112) s m args below meth c H locs 0 0 (MQ below (QcT (FA (fP PL vP0) s.heap.size) (fun ov H => ov = (some (.int rx)) ∧ pl G PL rw1 H ∧ H.size = s.heap.size + rc ∧ KM vP0 rw1 s.heap.size)) args s 1 2 (FA (fP PL vP0) s.heap.size)) (F0 m 0 ls []) := by
  intro v1 i1 hm H locs ls hW0 hW1 hS hz hKM hl
  obtain ⟨hx, hb, hr, hlk, hml, hown, hts, hK⟩ := id C
  unfold fX0_upTo at hm
  refine lv_aload_n (pc := 0) hx hb dX0_upTo_0 rfl (lv_at hl 0 rfl) ?_
  refine rk_get (pc := 1) hx hb hts hown hK hW0 flX0_37 0 (by decide) rfl rfl (x := .ref (b0 + 153)) (by first | rfl | exact congrArg (fun z => some (Value.ref z)) (by omega)) dX0_upTo_1 ?_
  obtain ⟨h1, hh2, hm⟩ := ln_some hm
  obtain ⟨hg3, hm⟩ := gb_some hm
  have hs4 : H.size = h1 := by omega
  refine rp_new (pc := 4) (h := h1) (kn := 14) (n := 0) hx hb hts hown hK hW1 hS in_X14 ft_X14 rfl q1334 q1335 q139 hs4 (shP_14 hg3 rfl) (df_X14 _ rfl) (Nat.le_of_ble_eq_true rfl) (Nat.le_of_ble_eq_true rfl) dX0_upTo_4 (fun H6 hW7 hS8 hz9 hkp10 => ?_)
  have hKM11 := KM.nw (h := h1) (k := 14) (n := 0) hKM (by omega)
  obtain ⟨v1_5, he9, hm⟩ := lm_some hm
  rw [he9] at hW7 hKM11
  have hW12 := rg_keepN hW0 hs4 hkp10
  have hz13 : H6.size = s.heap.size + 1 := by omega
  refine lv_dup (pc := 7) hx hb dX0_upTo_7 rfl ?_
  refine lv_iload_n (pc := 8) hx hb dX0_upTo_8 rfl (lv_at hl 1 rfl) ?_
  refine lv_ldcw (pc := 9) (v := (99999 : Int32)) hx hb hown (hts _ q1493) dX0_upTo_9 ?_
  obtain ⟨w14, hq15, hm⟩ := ob_some hm
  refine rk_TI (pc := 12) (As := [.int i1, .int (99999 : Int32)]) (rest := [.ref h1, .ref (b0 + 153)]) (mc := 0) (ms := 0) hx hb hml hown hts hK hS8 (fun q hq => FA_sz rfl q hq) lkX0_501 yn_X14_init (ct_X14_init (G := G) (l := l) (sz := H6.size) hq15) ⟨Nat.le_of_ble_eq_true rfl, Nat.le_of_ble_eq_true rfl⟩ (fun z h => (KM_hf2 hKM11 z h)) hW7 rfl rfl hl.1 (Nat.le_of_ble_eq_true rfl) dX0_upTo_12 ⟨Nat.le_of_ble_eq_true rfl, Nat.le_of_ble_eq_true rfl⟩ (fun ov9 H16 locs17 hP18 hkp19 hS20 => ?_)
  obtain ⟨rfl, hW21, hz22, hKM23⟩ := hP18
  have hW24 := rg_keepX hW12 hkp19 (by intro z h0 h3; have h1 := h0.1.1; have h2 := h0.1.2; have h4 := h0.2; exact hPX _ h3.1 h0)
  have hz25 := hz22.trans hz13
  have hKM26 := KM.trans hKM11 hKM23 (by omega)
  refine W.eq (g2 := F0 m 15 ls [.ref h1, .ref (b0 + 153)]) rfl ?_
  obtain ⟨hg27, hm⟩ := gb_some hm
  obtain ⟨oa28, hq29, hm⟩ := ob_some hm
  refine rk_PV (pc := 15) (As := [.ref h1]) (rest := []) hx hb hml hown hts hK lkX0_534 rfl yn_J1_floorKey (ct_J1_floorKey (G := G) (l := l) hq29 hZP) ⟨Nat.le_of_ble_eq_true rfl, Nat.le_of_ble_eq_true rfl⟩ (rp_recv hK hW21 (C := RJ1) (T := TJ1) (N := 9) rfl (shP_16 (kd_PL hg27) (kd_k hg27))) hW21 rfl rfl hl.1 (Nat.le_of_ble_eq_true rfl) dX0_upTo_15 ⟨Nat.le_of_ble_eq_true rfl, Nat.le_of_ble_eq_true rfl⟩ ?_
  refine W.eq (g2 := F0 m 18 ls [va_rf oa28]) rfl ?_
  rcases oa28 with _ | pa30
  · have hm := od_n hm
    refine lv_castN (pc := 18) hx hb dX0_upTo_18 ?_
    refine lv_astore_nN (pc := 21) (lv' := [(2, .null), (0, .ref b0), (1, .int i1)]) hx hb dX0_upTo_21 rfl hl (by decide) rfl (fun ls hl => ?_)
    refine lv_aload_nN (pc := 22) hx hb dX0_upTo_22 rfl (lv_at hl 0 rfl) ?_
    refine lv_ifnonnullN (pc := 23) hx hb dX0_upTo_23 ?_
    refine lv_bipush (pc := 26) (v := (-5 : Int32)) hx hb dX0_upTo_26 (by decide) ?_
    refine lv_goto (pc := 28) (tgt := 35) hx hb dX0_upTo_28 (by decide) ?_
    obtain ⟨e7, e8, e9⟩ := rs3 hm
    subst e7
    subst e8
    subst e9
    exact rk_iretA (pc := 35) hx hb hr hlk hS20 ⟨rfl, hW21, hz25, hKM26⟩ dX0_upTo_35 (by exact Nat.le_of_ble_eq_true rfl) (by exact Nat.le_of_ble_eq_true rfl)
  · have hm := od_s hm
    obtain ⟨hg31, hm⟩ := gb_some hm
    refine rp_castS (pc := 18) (C := RX14) (T := TX14) (N := 2) (ci := 14) hx hb hown hts hK q1334 rfl (rp_recv hK hW21 (C := RX14) (T := TX14) (N := 2) rfl (shP_14 (kd_PL hg31) (kd_k hg31))) dX0_upTo_18 ?_
    refine lv_astore_n (pc := 21) (lv' := [(2, .ref pa30), (0, .ref b0), (1, .int i1)]) hx hb dX0_upTo_21 rfl hl (by decide) rfl (fun ls hl => ?_)
    refine lv_aload_n (pc := 22) hx hb dX0_upTo_22 rfl (lv_at hl 0 rfl) ?_
    refine lv_ifnonnull (pc := 23) (tgt := 31) hx hb dX0_upTo_23 (by decide) ?_
    refine lv_aload_n (pc := 31) hx hb dX0_upTo_31 rfl (lv_at hl 0 rfl) ?_
    obtain ⟨hg32, hm⟩ := gb_some hm
    refine rk_getN (pc := 32) hx hb hts hown hK (pl_rg hW21) fnX0_526 pa30 (Nat.lt_succ_self _) (Nat.zero_add _).symm (shP_14 (kd_PL hg32) (kd_k hg32)) (x := .int (gI w14 pa30 1)) rfl dX0_upTo_32 ?_
    obtain ⟨e7, e8, e9⟩ := rs3 hm
    subst e7
    subst e8
    subst e9
    exact rk_iretA (pc := 35) hx hb hr hlk hS20 ⟨rfl, hW21, hz25, hKM26⟩ dX0_upTo_35 (by exact Nat.le_of_ble_eq_true rfl) (by exact Nat.le_of_ble_eq_true rfl)
set_option maxHeartbeats 4000000 in
theorem ct_X0_upTo {G : Gv} {l : Launch} {b0 : Nat} {PL : Nat → Bool} {Z : Nat} {V0 : Mem} {v1 : Mem} {i1 : Int32} {rx : Int32} {rc : Nat} {rw1 : Mem} (hm : fX0_upTo PL Z b0 V0 v1 i1 = some (rx, rc, rw1)) (hPX : ∀ z, PL z = true → ¬ fX b0 z) (hZP : ZP G) : CT G l yX0_upTo (ws_ yX0_upTo cX0_upTo 3 (some .int)) 5 1 2 112 [.ref b0, .int i1] (fP PL v1) Z (fun H => rg G b0 357 (shX0 G.2.1) V0 H ∧ pl G PL v1 H) (fun ov H => ov = (some (.int rx)) ∧ pl G PL rw1 H ∧ H.size = Z + rc ∧ KM v1 rw1 Z) := by
  refine Met.ofW (cc := cX0_upTo) (maxL := 3) (ret := (some .int)) (by decide +kernel) rfl ?_
  intro p e s m args below meth c s₁ B hml hv
  obtain ⟨rfl, ⟨hz, hW0, hW1⟩, hK⟩ := hv
  subst hz
  have he0 := rg_end hW0 356 (by decide) rfl (fun _ _ _ => rfl)
  have hZz : s.heap.size = s.heap.size := rfl
  have hts := atoms_spec (ws := ws_ yX0_upTo cX0_upTo 3 (some .int)) B.pre
  have hts : ∀ w ∈ lw_all, w.before _ s = true := fun w h => hts w (List.mem_cons_of_mem _ h)
  have C : Cx G p s m _ meth c RX0 cX0_upTo 3 (some .int) := ⟨B.exec, B.bytes, B.returns, B.notSynchronized, hml, findClass_of_methodNamed B.named, hts, hK⟩
  have hl := lv_entry ([.ref b0, .int i1]) (n := 3) (Nat.le_of_ble_eq_true rfl)
  rw [lg_entry_eq]
  generalize (lg_sl ([.ref b0, .int i1]) ++ List.replicate (3 - (lg_sl ([.ref b0, .int i1])).length) Slot.unset).toArray = ls at hl ⊢
  have hl : lv_has ls 3 [(0, .ref b0), (1, .int i1)] := hl
  exact w_fX0_upTo C hPX he0 hZz hZP _ _ hm s.heap [] ls hW0 hW1 va_S.rf rfl KM.rf hl
theorem yn_J1_keySet : YN yJ1_keySet 0 := by
  unfold YN
  decide +kernel
theorem lkX0_537 : LV RX0 537 RJ1 yJ1_keySet cJ1_keySet 1 (some (.object "java/util/Set")) := ⟨q1506, q1507, q1508, q120, q1509⟩
theorem yn_J13_iterator : YN yJ13_iterator 0 := by
  unfold YN
  decide +kernel
theorem lfX0_541_J13 : LF RX0 541 RJ13 ⟨"java/util/Set", "iterator", "()Ljava/util/Iterator;"⟩ yJ13_iterator cJ13_iterator 1 (some (.object "java/util/Iterator")) := ⟨q1528, q1532, q1534, q144, q1536⟩
theorem ynx_X0_541 : YN ⟨"java/util/Set", "iterator", "()Ljava/util/Iterator;"⟩ 0 := by
  unfold YN
  decide +kernel
theorem yn_J14_hasNext : YN yJ14_hasNext 0 := by
  unfold YN
  decide +kernel
theorem lfX0_547_J15 : LF RX0 547 RJ15 ⟨"java/util/Iterator", "hasNext", "()Z"⟩ yJ14_hasNext cJ14_hasNext 1 (some .boolean) := ⟨q1569, q1573, q1575, q145, q1577⟩
theorem ynx_X0_547 : YN ⟨"java/util/Iterator", "hasNext", "()Z"⟩ 0 := by
  unfold YN
  decide +kernel
theorem yn_J15_next : YN yJ15_next 0 := by
  unfold YN
  decide +kernel
theorem lfX0_552_J15 : LF RX0 552 RJ15 ⟨"java/util/Iterator", "next", "()Ljava/lang/Object;"⟩ yJ15_next cJ15_next 1 (some (.object "java/lang/Object")) := ⟨q1579, q1582, q1584, q146, q1586⟩
theorem ynx_X0_552 : YN ⟨"java/util/Iterator", "next", "()Ljava/lang/Object;"⟩ 0 := by
  unfold YN
  decide +kernel
noncomputable def fX0_dearest_17 (PL : Nat → Bool) (Z : Nat) (b0 : Nat) (V0 : Mem) (k17 : Mem → Nat → Option Nat → Int32 → Option Nat → Option (Int32 × Nat × Mem)) (v1 : Mem) (zc : Nat) (o1 : Option Nat) (i2 : Int32) (o3 : Option Nat) : Option (Int32 × Nat × Mem) :=
  ob o3 fun pa38 =>
  gb (kd PL v1 pa38 20) (
  ob (fJ14_hasNext PL v1 pa38) fun r42 =>
  if r42 = 0 then (
  od o1 (
  some ((-5 : Int32), zc, v1)) (fun pa45 =>
  gb (kd PL v1 pa45 14) (
  some ((gI v1 pa45 1), zc, v1))))
  else (
  gb (kd PL v1 pa38 20) (
  ob2 (fJ15_next PL v1 pa38) fun oa48 w49 =>
  od oa48 (
  none) (fun pa62 =>
  gb (kd PL w49 pa62 14) (
  gb (kd PL w49 (b0 + 153) 16) (
  ob (fJ1_get PL w49 (b0 + 153) pa62) fun oa65 =>
  od oa65 (
  none) (fun pa67 =>
  gb (kd PL w49 pa67 15) (
  gb (kd PL w49 pa67 15) (
  gb (kd PL w49 pa62 14) (
  od o1 (
  k17 w49 zc (some pa62) ((gI w49 pa67 0) - (gI w49 pa62 0)) (some pa38)) (fun pa71 =>
  if ((gI w49 pa67 0) - (gI w49 pa62 0)) ≤ i2 then (
  k17 w49 zc (some pa71) i2 (some pa38))
  else (
  k17 w49 zc (some pa62) ((gI w49 pa67 0) - (gI w49 pa62 0)) (some pa38)))))))))))))
noncomputable def fX0_dearest (PL : Nat → Bool) (Z : Nat) (b0 : Nat) (V0 : Mem) (v1 : Mem) : Option (Int32 × Nat × Mem) :=
  gb (kd PL v1 (b0 + 153) 16) (
  ob3 (fJ1_keySet PL (Z + 0) v1 (b0 + 153)) fun oa2 rc3 w4 =>
  ob oa2 fun pa18 =>
  gb (kd PL w4 pa18 19) (
  ob3 (fJ13_iterator PL (Z + rc3) w4 pa18) fun oa22 rc23 w24 =>
  lq5 (fX0_dearest_17 PL Z b0 V0) FU w24 (rc3 + rc23) none (0 : Int32) oa22))
set_option maxHeartbeats 4000000 in
theorem w_fX0_dearest_17 (C : Cx G p s m args meth c RX0 cX0_dearest 6 (some .int)) {b0 : Nat} {PL : Nat → Bool} {Z : Nat} {V0 : Mem} {vP0 : Mem} {rx : Int32} {rc : Nat} {rw1 : Mem} (hPX : ∀ z, PL z = true → ¬ fX b0 z) (he0 : b0 + 357 ≤ s.heap.size) (hZz : s.heap.size = Z) (hZP : ZP G) {k17 : Mem → Nat → Option Nat → Int32 → Option Nat → Option (Int32 × Nat × Mem)} (hk17 : ∀ (v1 : Mem) (zc : Nat) (o1 : Option Nat) (i2 : Int32) (o3 : Option Nat), k17 v1 zc o1 i2 o3 = some (rx, rc, rw1) → ∀ (H : Heap) (locs : List Loc) (ls : Array Slot), rg G b0 357 (shX0 G.2.1) V0 H → pl G PL v1 H → va_S (FA (fP PL vP0) s.heap.size) s.heap H locs → H.size = s.heap.size + zc → KM vP0 v1 s.heap.size → lv_has ls 6 [(0, .ref b0), (1, va_rf o1), (2, .int i2), (3, va_rf o3)] → W p l e (rmT 6 2 5 134) s m args below meth c H locs 2 5 (MQ below (QcT (FA (fP PL vP0) s.heap.size) (fun ov H => ov = (some (.int rx)) ∧ pl G PL rw1 H ∧ H.size = s.heap.size + rc ∧ KM vP0 rw1 s.heap.size)) args s 2 5 (FA (fP PL vP0) s.heap.size)) (F0 m 17 ls [])) : ∀ (v1 : Mem) (zc : Nat) (o1 : Option Nat) (i2 : Int32) (o3 : Option Nat), fX0_dearest_17 PL Z b0 V0 k17 v1 zc o1 i2 o3 = some (rx, rc, rw1) → ∀ (H : Heap) (locs : List Loc) (ls : Array Slot), rg G b0 357 (shX0 G.2.1) V0 H → pl G PL v1 H → va_S (FA (fP PL vP0) s.heap.size) s.heap H locs → H.size = s.heap.size + zc → KM vP0 v1 s.heap.size → lv_has ls 6 [(0, .ref b0), (1, va_rf o1), (2, .int i2), (3, va_rf o3)] → W p l e (rmT 6 2 5 134) s m args below meth c H locs 2 5 (MQ below (QcT (FA (fP PL vP0) s.heap.size) (fun ov H => ov = (some (.int rx)) ∧ pl G PL rw1 H ∧ H.size = s.heap.size + rc ∧ KM vP0 rw1 s.heap.size)) args s 2 5 (FA (fP PL vP0) s.heap.size)) (F0 m 17 ls []) := by
  intro v1 zc o1 i2 o3 hm H locs ls hW0 hW1 hS hz hKM hl
  obtain ⟨hx, hb, hr, hlk, hml, hown, hts, hK⟩ := id C
  unfold fX0_dearest_17 at hm
  refine lv_aload_nO (pc := 17) hx hb dX0_dearest_17 rfl (lv_at hl 3 rfl) ?_
  obtain ⟨pa38, he39, hm40⟩ := ob_some hm
  subst he39
  have hm := hm40
  obtain ⟨hg41, hm⟩ := gb_some hm
  obtain ⟨r42, hq43, hm⟩ := ob_some hm
  refine rp_PF (pc := 18) (As := []) (rest := []) hx hb hml hown hts hK lfX0_547_J15 ((hZP s hK).1.2.2.2.1) (T := TJ15) (N := 4) (ci := 20) rfl ynx_X0_547 (ct_J14_hasNext (G := G) (l := l) hq43) ⟨Nat.le_of_ble_eq_true rfl, Nat.le_of_ble_eq_true rfl⟩ (rp_recv hK hW1 (C := RJ15) (T := TJ15) (N := 4) rfl (shP_20 (kd_PL hg41) (kd_k hg41))) hW1 rfl rfl hl.1 (Nat.le_of_ble_eq_true rfl) dX0_dearest_18 ⟨Nat.le_of_ble_eq_true rfl, Nat.le_of_ble_eq_true rfl⟩ ?_
  refine W.eq (g2 := F0 m 23 ls [.int r42]) rfl ?_
  refine lv_if_eq (pc := 23) (tgt := 79) hx hb dX0_dearest_23 (by decide) (fun c44 => ?_) (fun c44 => ?_)
  · have hm := ite_t c44 hm
    refine lv_aload_nO (pc := 79) hx hb dX0_dearest_79 rfl (lv_at hl 1 rfl) ?_
    rcases o1 with _ | pa45
    · have hm := od_n hm
      refine lv_ifnonnullN (pc := 80) hx hb dX0_dearest_80 ?_
      refine lv_bipush (pc := 83) (v := (-5 : Int32)) hx hb dX0_dearest_83 (by decide) ?_
      refine lv_goto (pc := 85) (tgt := 92) hx hb dX0_dearest_85 (by decide) ?_
      obtain ⟨e7, e8, e9⟩ := rs3 hm
      subst e7
      subst e8
      subst e9
      exact rk_iretA (pc := 92) hx hb hr hlk hS ⟨rfl, hW1, hz, hKM⟩ dX0_dearest_92 (by exact Nat.le_of_ble_eq_true rfl) (by exact Nat.le_of_ble_eq_true rfl)
    · have hm := od_s hm
      refine lv_ifnonnull (pc := 80) (tgt := 88) hx hb dX0_dearest_80 (by decide) ?_
      refine lv_aload_n (pc := 88) hx hb dX0_dearest_88 rfl (lv_at hl 1 rfl) ?_
      obtain ⟨hg46, hm⟩ := gb_some hm
      refine rk_getN (pc := 89) hx hb hts hown hK (pl_rg hW1) fnX0_526 pa45 (Nat.lt_succ_self _) (Nat.zero_add _).symm (shP_14 (kd_PL hg46) (kd_k hg46)) (x := .int (gI v1 pa45 1)) rfl dX0_dearest_89 ?_
      obtain ⟨e7, e8, e9⟩ := rs3 hm
      subst e7
      subst e8
      subst e9
      exact rk_iretA (pc := 92) hx hb hr hlk hS ⟨rfl, hW1, hz, hKM⟩ dX0_dearest_92 (by exact Nat.le_of_ble_eq_true rfl) (by exact Nat.le_of_ble_eq_true rfl)
  · have hm := ite_f c44 hm
    refine lv_aload_n (pc := 26) hx hb dX0_dearest_26 rfl (lv_at hl 3 rfl) ?_
    obtain ⟨hg47, hm⟩ := gb_some hm
    obtain ⟨oa48, w49, hq50, hm⟩ := ob2_some hm
    refine rp_TF (pc := 27) (As := []) (rest := []) (mc := 0) (ms := 0) hx hb hml hown hts hK hS (fun q hq => FA_sz rfl q hq) lfX0_552_J15 ((hZP s hK).1.2.2.2.2.1) (T := TJ15) (N := 4) (ci := 20) rfl ynx_X0_552 (ct_J15_next (G := G) (l := l) (sz := H.size) hq50) ⟨Nat.le_of_ble_eq_true rfl, Nat.le_of_ble_eq_true rfl⟩ (fun z h => (KM_hf2 hKM z h)) (rp_recv hK hW1 (C := RJ15) (T := TJ15) (N := 4) rfl (shP_20 (kd_PL hg47) (kd_k hg47))) hW1 rfl rfl hl.1 (Nat.le_of_ble_eq_true rfl) dX0_dearest_27 ⟨Nat.le_of_ble_eq_true rfl, Nat.le_of_ble_eq_true rfl⟩ (fun ov9 H51 locs52 hP53 hkp54 hS55 => ?_)
    obtain ⟨rfl, hW56, hz57, hKM58⟩ := hP53
    have hW59 := rg_keepX hW0 hkp54 (by intro z h0 h3; have h1 := h0.1.1; have h2 := h0.1.2; have h4 := h0.2; exact hPX _ h3.1 h0)
    have hz60 := hz57.trans hz
    have hKM61 := KM.trans hKM hKM58 (by omega)
    refine W.eq (g2 := F0 m 32 ls [va_rf oa48]) rfl ?_
    rcases oa48 with _ | pa62
    · have hm := od_n hm
      refine lv_castN (pc := 32) hx hb dX0_dearest_32 ?_
      refine lv_astoreN (pc := 35) (lv' := [(4, .null), (0, .ref b0), (1, va_rf o1), (2, .int i2), (3, .ref pa38)]) hx hb dX0_dearest_35 hl (by decide) rfl (fun ls hl => ?_)
      refine lv_aload_n (pc := 37) hx hb dX0_dearest_37 rfl (lv_at hl 1 rfl) ?_
      refine rk_get (pc := 38) hx hb hts hown hK hW59 flX0_37 0 (by decide) rfl rfl (x := .ref (b0 + 153)) (by first | rfl | exact congrArg (fun z => some (Value.ref z)) (by omega)) dX0_dearest_38 ?_
      refine lv_aloadN (pc := 41) hx hb dX0_dearest_41 (lv_at hl 0 rfl) ?_
      exact nomatch hm
    · have hm := od_s hm
      obtain ⟨hg63, hm⟩ := gb_some hm
      refine rp_castS (pc := 32) (C := RX14) (T := TX14) (N := 2) (ci := 14) hx hb hown hts hK q1334 rfl (rp_recv hK hW56 (C := RX14) (T := TX14) (N := 2) rfl (shP_14 (kd_PL hg63) (kd_k hg63))) dX0_dearest_32 ?_
      refine lv_astore (pc := 35) (lv' := [(4, .ref pa62), (0, .ref b0), (1, va_rf o1), (2, .int i2), (3, .ref pa38)]) hx hb dX0_dearest_35 hl (by decide) rfl (fun ls hl => ?_)
      refine lv_aload_n (pc := 37) hx hb dX0_dearest_37 rfl (lv_at hl 1 rfl) ?_
      refine rk_get (pc := 38) hx hb hts hown hK hW59 flX0_37 0 (by decide) rfl rfl (x := .ref (b0 + 153)) (by first | rfl | exact congrArg (fun z => some (Value.ref z)) (by omega)) dX0_dearest_38 ?_
      refine lv_aload (pc := 41) hx hb dX0_dearest_41 (lv_at hl 0 rfl) ?_
      obtain ⟨hg64, hm⟩ := gb_some hm
      obtain ⟨oa65, hq66, hm⟩ := ob_some hm
      refine rk_PV (pc := 43) (As := [.ref pa62]) (rest := []) hx hb hml hown hts hK lkX0_527 rfl yn_J1_get (ct_J1_get (G := G) (l := l) hq66 hZP) ⟨Nat.le_of_ble_eq_true rfl, Nat.le_of_ble_eq_true rfl⟩ (rp_recv hK hW56 (C := RJ1) (T := TJ1) (N := 9) rfl (shP_16 (kd_PL hg64) (kd_k hg64))) hW56 rfl rfl hl.1 (Nat.le_of_ble_eq_true rfl) dX0_dearest_43 ⟨Nat.le_of_ble_eq_true rfl, Nat.le_of_ble_eq_true rfl⟩ ?_
      refine W.eq (g2 := F0 m 46 ls [va_rf oa65]) rfl ?_
      rcases oa65 with _ | pa67
      · have hm := od_n hm
        refine lv_castN (pc := 46) hx hb dX0_dearest_46 ?_
        exact nomatch hm
      · have hm := od_s hm
        obtain ⟨hg68, hm⟩ := gb_some hm
        refine rp_castS (pc := 46) (C := RX15) (T := TX15) (N := 1) (ci := 15) hx hb hown hts hK q1370 rfl (rp_recv hK hW56 (C := RX15) (T := TX15) (N := 1) rfl (shP_15 (kd_PL hg68) (kd_k hg68))) dX0_dearest_46 ?_
        obtain ⟨hg69, hm⟩ := gb_some hm
        refine rk_getN (pc := 49) hx hb hts hown hK (pl_rg hW56) fnX0_514 pa67 (Nat.lt_succ_self _) (Nat.zero_add _).symm (shP_15 (kd_PL hg69) (kd_k hg69)) (x := .int (gI w49 pa67 0)) rfl dX0_dearest_49 ?_
        refine lv_aload (pc := 52) hx hb dX0_dearest_52 (lv_at hl 0 rfl) ?_
        obtain ⟨hg70, hm⟩ := gb_some hm
        refine rk_getN (pc := 54) hx hb hts hown hK (pl_rg hW56) fnX0_530 pa62 (Nat.lt_succ_self _) (Nat.zero_add _).symm (shP_14 (kd_PL hg70) (kd_k hg70)) (x := .int (gI w49 pa62 0)) rfl dX0_dearest_54 ?_
        refine lv_isub (pc := 57) hx hb dX0_dearest_57 ?_
        refine lv_istore (pc := 58) (lv' := [(5, .int ((gI w49 pa67 0) - (gI w49 pa62 0))), (4, .ref pa62), (0, .ref b0), (1, va_rf o1), (2, .int i2), (3, .ref pa38)]) hx hb dX0_dearest_58 hl (by decide) rfl (fun ls hl => ?_)
        refine lv_aload_nO (pc := 60) hx hb dX0_dearest_60 rfl (lv_at hl 3 rfl) ?_
        rcases o1 with _ | pa71
        · have hm := od_n hm
          refine lv_ifnullN (pc := 61) (tgt := 70) hx hb dX0_dearest_61 (by decide) ?_
          refine lv_aload (pc := 70) hx hb dX0_dearest_70 (lv_at hl 1 rfl) ?_
          refine lv_astore_n (pc := 72) (lv' := [(1, .ref pa62), (5, .int ((gI w49 pa67 0) - (gI w49 pa62 0))), (4, .ref pa62), (0, .ref b0), (2, .int i2), (3, .ref pa38)]) hx hb dX0_dearest_72 rfl hl (by decide) rfl (fun ls hl => ?_)
          refine lv_iload (pc := 73) hx hb dX0_dearest_73 (lv_at hl 1 rfl) ?_
          refine lv_istore_n (pc := 75) (lv' := [(2, .int ((gI w49 pa67 0) - (gI w49 pa62 0))), (1, .ref pa62), (5, .int ((gI w49 pa67 0) - (gI w49 pa62 0))), (4, .ref pa62), (0, .ref b0), (3, .ref pa38)]) hx hb dX0_dearest_75 rfl hl (by decide) rfl (fun ls hl => ?_)
          refine lv_goto (pc := 76) (tgt := 17) hx hb dX0_dearest_76 (by decide) ?_
          exact hk17 w49 zc (some pa62) ((gI w49 pa67 0) - (gI w49 pa62 0)) (some pa38) hm H51 locs52 ls hW59 hW56 hS55 hz60 hKM61 (lv_sub hl [4, 1, 0, 5] rfl)
        · have hm := od_s hm
          refine lv_ifnull (pc := 61) hx hb dX0_dearest_61 ?_
          refine lv_iload (pc := 64) hx hb dX0_dearest_64 (lv_at hl 0 rfl) ?_
          refine lv_iload_n (pc := 66) hx hb dX0_dearest_66 rfl (lv_at hl 4 rfl) ?_
          refine lv_icmp_le (pc := 67) (tgt := 76) hx hb dX0_dearest_67 (by decide) (fun c72 => ?_) (fun c72 => ?_)
          · have hm := ite_t c72 hm
            refine lv_goto (pc := 76) (tgt := 17) hx hb dX0_dearest_76 (by decide) ?_
            exact hk17 w49 zc (some pa71) i2 (some pa38) hm H51 locs52 ls hW59 hW56 hS55 hz60 hKM61 (lv_sub hl [2, 3, 4, 5] rfl)
          · have hm := ite_f c72 hm
            refine lv_aload (pc := 70) hx hb dX0_dearest_70 (lv_at hl 1 rfl) ?_
            refine lv_astore_n (pc := 72) (lv' := [(1, .ref pa62), (5, .int ((gI w49 pa67 0) - (gI w49 pa62 0))), (4, .ref pa62), (0, .ref b0), (2, .int i2), (3, .ref pa38)]) hx hb dX0_dearest_72 rfl hl (by decide) rfl (fun ls hl => ?_)
            refine lv_iload (pc := 73) hx hb dX0_dearest_73 (lv_at hl 1 rfl) ?_
            refine lv_istore_n (pc := 75) (lv' := [(2, .int ((gI w49 pa67 0) - (gI w49 pa62 0))), (1, .ref pa62), (5, .int ((gI w49 pa67 0) - (gI w49 pa62 0))), (4, .ref pa62), (0, .ref b0), (3, .ref pa38)]) hx hb dX0_dearest_75 rfl hl (by decide) rfl (fun ls hl => ?_)
            refine lv_goto (pc := 76) (tgt := 17) hx hb dX0_dearest_76 (by decide) ?_
            exact hk17 w49 zc (some pa62) ((gI w49 pa67 0) - (gI w49 pa62 0)) (some pa38) hm H51 locs52 ls hW59 hW56 hS55 hz60 hKM61 (lv_sub hl [4, 1, 0, 5] rfl)
theorem w_fX0_dearest_17_l (C : Cx G p s m args meth c RX0 cX0_dearest 6 (some .int)) {b0 : Nat} {PL : Nat → Bool} {Z : Nat} {V0 : Mem} {vP0 : Mem} {rx : Int32} {rc : Nat} {rw1 : Mem} (hPX : ∀ z, PL z = true → ¬ fX b0 z) (he0 : b0 + 357 ≤ s.heap.size) (hZz : s.heap.size = Z) (hZP : ZP G) : ∀ (n : Nat) (v1 : Mem) (zc : Nat) (o1 : Option Nat) (i2 : Int32) (o3 : Option Nat), lq5 (fX0_dearest_17 PL Z b0 V0) n v1 zc o1 i2 o3 = some (rx, rc, rw1) → ∀ (H : Heap) (locs : List Loc) (ls : Array Slot), rg G b0 357 (shX0 G.2.1) V0 H → pl G PL v1 H → va_S (FA (fP PL vP0) s.heap.size) s.heap H locs → H.size = s.heap.size + zc → KM vP0 v1 s.heap.size → lv_has ls 6 [(0, .ref b0), (1, va_rf o1), (2, .int i2), (3, va_rf o3)] → W p l e (rmT 6 2 5 134) s m args below meth c H locs 2 5 (MQ below (QcT (FA (fP PL vP0) s.heap.size) (fun ov H => ov = (some (.int rx)) ∧ pl G PL rw1 H ∧ H.size = s.heap.size + rc ∧ KM vP0 rw1 s.heap.size)) args s 2 5 (FA (fP PL vP0) s.heap.size)) (F0 m 17 ls []) := by
  intro n
  induction n with
  | zero => intro v1 zc o1 i2 o3 hm; exact (lq5_0 hm).elim
  | succ n ih => intro v1 zc o1 i2 o3 hm; exact w_fX0_dearest_17 C hPX he0 hZz hZP ih v1 zc o1 i2 o3 (lq5_s hm)
set_option maxHeartbeats 4000000 in
theorem w_fX0_dearest (C : Cx G p s m args meth c RX0 cX0_dearest 6 (some .int)) {b0 : Nat} {PL : Nat → Bool} {Z : Nat} {V0 : Mem} {vP0 : Mem} {rx : Int32} {rc : Nat} {rw1 : Mem} (hPX : ∀ z, PL z = true → ¬ fX b0 z) (he0 : b0 + 357 ≤ s.heap.size) (hZz : s.heap.size = Z) (hZP : ZP G) : ∀ (v1 : Mem), fX0_dearest PL Z b0 V0 v1 = some (rx, rc, rw1) → ∀ (H : Heap) (locs : List Loc) (ls : Array Slot), rg G b0 357 (shX0 G.2.1) V0 H → pl G PL v1 H → va_S (FA (fP PL vP0) s.heap.size) s.heap H locs → H.size = s.heap.size + 0 → KM vP0 v1 s.heap.size → lv_has ls 6 [(0, .ref b0)] → W p l e (rmT 6 2 5 134) s m args below meth c H locs 0 0 (MQ below (QcT (FA (fP PL vP0) s.heap.size) (fun ov H => ov = (some (.int rx)) ∧ pl G PL rw1 H ∧ H.size = s.heap.size + rc ∧ KM vP0 rw1 s.heap.size)) args s 2 5 (FA (fP PL vP0) s.heap.size)) (F0 m 0 ls []) := by
  intro v1 hm H locs ls hW0 hW1 hS hz hKM hl
  obtain ⟨hx, hb, hr, hlk, hml, hown, hts, hK⟩ := id C
  unfold fX0_dearest at hm
  refine lv_null (pc := 0) hx hb dX0_dearest_0 ?_
  refine lv_astore_nN (pc := 1) (lv' := [(1, .null), (0, .ref b0)]) hx hb dX0_dearest_1 rfl hl (by decide) rfl (fun ls hl => ?_)
  refine lv_iconst (pc := 2) (v := (0 : Int32)) hx hb dX0_dearest_2 (by decide) ?_
  refine lv_istore_n (pc := 3) (lv' := [(2, .int (0 : Int32)), (1, .null), (0, .ref b0)]) hx hb dX0_dearest_3 rfl hl (by decide) rfl (fun ls hl => ?_)
  refine lv_aload_n (pc := 4) hx hb dX0_dearest_4 rfl (lv_at hl 2 rfl) ?_
  refine rk_get (pc := 5) hx hb hts hown hK hW0 flX0_37 0 (by decide) rfl rfl (x := .ref (b0 + 153)) (by first | rfl | exact congrArg (fun z => some (Value.ref z)) (by omega)) dX0_dearest_5 ?_
  obtain ⟨hg1, hm⟩ := gb_some hm
  obtain ⟨oa2, rc3, w4, hq5, hm⟩ := ob3_some hm
  have hq6 := hq5
  rw [show (Z + 0) = H.size by omega] at hq6
  refine rk_TV (pc := 8) (As := []) (rest := []) (mc := 1) (ms := 1) hx hb hml hown hts hK hS (fun q hq => FA_sz rfl q hq) lkX0_537 rfl yn_J1_keySet (ct_J1_keySet (G := G) (l := l) hq6) ⟨Nat.le_of_ble_eq_true rfl, Nat.le_of_ble_eq_true rfl⟩ (fun z h => (KM_hf2 hKM z h)) (rp_recv hK hW1 (C := RJ1) (T := TJ1) (N := 9) rfl (shP_16 (kd_PL hg1) (kd_k hg1))) hW1 rfl rfl hl.1 (Nat.le_of_ble_eq_true rfl) dX0_dearest_8 ⟨Nat.le_of_ble_eq_true rfl, Nat.le_of_ble_eq_true rfl⟩ (fun ov9 H7 locs8 hP9 hkp10 hS11 => ?_)
  obtain ⟨rfl, hW12, hz13, hKM14⟩ := hP9
  have hW15 := rg_keepX hW0 hkp10 (by intro z h0 h3; have h1 := h0.1.1; have h2 := h0.1.2; have h4 := h0.2; exact hPX _ h3.1 h0)
  have hz16 : H7.size = s.heap.size + rc3 := by omega
  have hKM17 := KM.trans hKM hKM14 (by omega)
  refine W.eq (g2 := F0 m 11 ls [va_rf oa2]) rfl ?_
  obtain ⟨pa18, he19, hm20⟩ := ob_some hm
  subst he19
  have hm := hm20
  obtain ⟨hg21, hm⟩ := gb_some hm
  obtain ⟨oa22, rc23, w24, hq25, hm⟩ := ob3_some hm
  have hq26 := hq25
  rw [show (Z + rc3) = H7.size by omega] at hq26
  refine rp_TF (pc := 11) (As := []) (rest := []) (mc := 1) (ms := 4) hx hb hml hown hts hK hS11 (fun q hq => FA_sz rfl q hq) lfX0_541_J13 ((hZP s hK).1.2.2.2.2.2) (T := TJ13) (N := 1) (ci := 19) rfl ynx_X0_541 (ct_J13_iterator (G := G) (l := l) hq26) ⟨Nat.le_of_ble_eq_true rfl, Nat.le_of_ble_eq_true rfl⟩ (fun z h => (KM_hf2 hKM17 z h)) (rp_recv hK hW12 (C := RJ13) (T := TJ13) (N := 1) rfl (shP_19 (kd_PL hg21) (kd_k hg21))) hW12 rfl rfl hl.1 (Nat.le_of_ble_eq_true rfl) dX0_dearest_11 ⟨Nat.le_of_ble_eq_true rfl, Nat.le_of_ble_eq_true rfl⟩ (fun ov9 H27 locs28 hP29 hkp30 hS31 => ?_)
  obtain ⟨rfl, hW32, hz33, hKM34⟩ := hP29
  have hW35 := rg_keepX hW15 hkp30 (by intro z h0 h3; have h1 := h0.1.1; have h2 := h0.1.2; have h4 := h0.2; exact hPX _ h3.1 h0)
  have hz36 : H27.size = s.heap.size + (rc3 + rc23) := by omega
  have hKM37 := KM.trans hKM17 hKM34 (by omega)
  refine W.eq (g2 := F0 m 16 ls [va_rf oa22]) rfl ?_
  refine lv_astore_nO (pc := 16) (lv' := [(3, va_rf oa22), (2, .int (0 : Int32)), (1, .null), (0, .ref b0)]) hx hb dX0_dearest_16 rfl hl (by decide) rfl (fun ls hl => ?_)
  exact (w_fX0_dearest_17_l C hPX he0 hZz hZP FU) w24 (rc3 + rc23) none (0 : Int32) oa22 hm H27 locs28 ls hW35 hW32 hS31 hz36 hKM37 (lv_sub hl [3, 2, 1, 0] rfl)
set_option maxHeartbeats 4000000 in
theorem ct_X0_dearest {G : Gv} {l : Launch} {b0 : Nat} {PL : Nat → Bool} {Z : Nat} {V0 : Mem} {v1 : Mem} {rx : Int32} {rc : Nat} {rw1 : Mem} (hm : fX0_dearest PL Z b0 V0 v1 = some (rx, rc, rw1)) (hPX : ∀ z, PL z = true → ¬ fX b0 z) (hZP : ZP G) : CT G l yX0_dearest (ws_ yX0_dearest cX0_dearest 6 (some .int)) 6 2 5 134 [.ref b0] (fP PL v1) Z (fun H => rg G b0 357 (shX0 G.2.1) V0 H ∧ pl G PL v1 H) (fun ov H => ov = (some (.int rx)) ∧ pl G PL rw1 H ∧ H.size = Z + rc ∧ KM v1 rw1 Z) := by
  refine Met.ofW (cc := cX0_dearest) (maxL := 6) (ret := (some .int)) (by decide +kernel) rfl ?_
  intro p e s m args below meth c s₁ B hml hv
  obtain ⟨rfl, ⟨hz, hW0, hW1⟩, hK⟩ := hv
  subst hz
  have he0 := rg_end hW0 356 (by decide) rfl (fun _ _ _ => rfl)
  have hZz : s.heap.size = s.heap.size := rfl
  have hts := atoms_spec (ws := ws_ yX0_dearest cX0_dearest 6 (some .int)) B.pre
  have hts : ∀ w ∈ lw_all, w.before _ s = true := fun w h => hts w (List.mem_cons_of_mem _ h)
  have C : Cx G p s m _ meth c RX0 cX0_dearest 6 (some .int) := ⟨B.exec, B.bytes, B.returns, B.notSynchronized, hml, findClass_of_methodNamed B.named, hts, hK⟩
  have hl := lv_entry ([.ref b0]) (n := 6) (Nat.le_of_ble_eq_true rfl)
  rw [lg_entry_eq]
  generalize (lg_sl ([.ref b0]) ++ List.replicate (6 - (lg_sl ([.ref b0])).length) Slot.unset).toArray = ls at hl ⊢
  have hl : lv_has ls 6 [(0, .ref b0)] := hl
  exact w_fX0_dearest C hPX he0 hZz hZP _ hm s.heap [] ls hW0 hW1 va_S.rf rfl KM.rf hl
theorem flX0_563 : FL RX0 563 0 23 RX0 TX0 25 := ⟨in_X0, rfl, by decide, q521⟩
theorem flX0_41 : FL RX0 41 0 8 RX0 TX0 25 := ⟨in_X0, rfl, by decide, q504⟩
noncomputable def fX0_like_14 (PL : Nat → Bool) (Z : Nat) (k14 : Mem → Nat → Nat → Nat → Nat → Nat → Option Nat → Option (Nat × Mem)) (v0 : Mem) (cb : Nat) (sb : Nat) (zc : Nat) (p0 : Nat) (p1 : Nat) (o2 : Option Nat) : Option (Nat × Mem) :=
  ob o2 fun pa52 =>
  gb (kd PL v0 pa52 20) (
  ob (fJ14_hasNext PL v0 pa52) fun r56 =>
  if r56 = 0 then (
  some (zc, v0))
  else (
  gb (kd PL v0 pa52 20) (
  ob2 (fJ15_next PL v0 pa52) fun oa60 w61 =>
  gb (decide (cb ≤ 24 ∧ sb ≤ 200)) (
  od oa60 (
  none) (fun pa74 =>
  gb (kd PL w61 pa74 14) (
  gb (kd PL w61 p1 16) (
  ob (fJ1_get PL w61 p1 pa74) fun oa77 =>
  od oa77 (
  none) (fun pa79 =>
  gb (kd PL w61 pa79 15) (
  gb (kd PL w61 p0 16) (
  ob3 (fJ1_put PL (Z + zc) w61 p0 pa74 pa79) fun oa82 rc83 w84 =>
  gb (decide ((cb + 1) ≤ 24 ∧ (sb + 6) ≤ 200)) (
  k14 w84 (cb + 1) (sb + 6) (zc + rc83) p0 p1 (some pa52))))))))))))
noncomputable def fX0_like (PL : Nat → Bool) (Z : Nat) (v0 : Mem) (p0 : Nat) (p1 : Nat) : Option (Nat × Mem) :=
  gb (kd PL v0 p0 16) (
  ob (fJ1_clear PL v0 p0) fun w2 =>
  gb (decide (0 ≤ 24 ∧ 0 ≤ 200)) (
  gb (kd PL w2 p1 16) (
  ob3 (fJ1_keySet PL (Z + 0) w2 p1) fun oa16 rc17 w18 =>
  gb (decide (1 ≤ 24 ∧ 1 ≤ 200)) (
  ob oa16 fun pa32 =>
  gb (kd PL w18 pa32 19) (
  ob3 (fJ13_iterator PL (Z + rc17) w18 pa32) fun oa36 rc37 w38 =>
  gb (decide (2 ≤ 24 ∧ 5 ≤ 200)) (
  lq7 (fX0_like_14 PL Z) FU w38 2 5 (rc17 + rc37) p0 p1 oa36))))))
set_option maxHeartbeats 4000000 in
theorem w_fX0_like_14 (C : Cx G p s m args meth c RX0 cX0_like 4 none) {PL : Nat → Bool} {Z : Nat} {vP0 : Mem} {rc : Nat} {rw0 : Mem} (hZz : s.heap.size = Z) (hZP : ZP G) {k14 : Mem → Nat → Nat → Nat → Nat → Nat → Option Nat → Option (Nat × Mem)} (hk14 : ∀ (v0 : Mem) (cb : Nat) (sb : Nat) (zc : Nat) (p0 : Nat) (p1 : Nat) (o2 : Option Nat), k14 v0 cb sb zc p0 p1 o2 = some (rc, rw0) → ∀ (H : Heap) (locs : List Loc) (ls : Array Slot), pl G PL v0 H → va_S (FA (fP PL vP0) s.heap.size) s.heap H locs → H.size = s.heap.size + zc → KM vP0 v0 s.heap.size → cb ≤ 24 ∧ sb ≤ 200 → lv_has ls 4 [(0, .ref p0), (1, .ref p1), (2, va_rf o2)] → W p l e (rmT 6 24 200 139) s m args below meth c H locs cb sb (MQ below (QcT (FA (fP PL vP0) s.heap.size) (fun ov H => ov = none ∧ pl G PL rw0 H ∧ H.size = s.heap.size + rc ∧ KM vP0 rw0 s.heap.size)) args s 24 200 (FA (fP PL vP0) s.heap.size)) (F0 m 14 ls [])) : ∀ (v0 : Mem) (cb : Nat) (sb : Nat) (zc : Nat) (p0 : Nat) (p1 : Nat) (o2 : Option Nat), fX0_like_14 PL Z k14 v0 cb sb zc p0 p1 o2 = some (rc, rw0) → ∀ (H : Heap) (locs : List Loc) (ls : Array Slot), pl G PL v0 H → va_S (FA (fP PL vP0) s.heap.size) s.heap H locs → H.size = s.heap.size + zc → KM vP0 v0 s.heap.size → cb ≤ 24 ∧ sb ≤ 200 → lv_has ls 4 [(0, .ref p0), (1, .ref p1), (2, va_rf o2)] → W p l e (rmT 6 24 200 139) s m args below meth c H locs cb sb (MQ below (QcT (FA (fP PL vP0) s.heap.size) (fun ov H => ov = none ∧ pl G PL rw0 H ∧ H.size = s.heap.size + rc ∧ KM vP0 rw0 s.heap.size)) args s 24 200 (FA (fP PL vP0) s.heap.size)) (F0 m 14 ls []) := by
  intro v0 cb sb zc p0 p1 o2 hm H locs ls hW0 hS hz hKM hcb hl
  obtain ⟨hx, hb, hr, hlk, hml, hown, hts, hK⟩ := id C
  unfold fX0_like_14 at hm
  refine lv_aload_nO (pc := 14) hx hb dX0_like_14 rfl (lv_at hl 2 rfl) ?_
  obtain ⟨pa52, he53, hm54⟩ := ob_some hm
  subst he53
  have hm := hm54
  obtain ⟨hg55, hm⟩ := gb_some hm
  obtain ⟨r56, hq57, hm⟩ := ob_some hm
  refine rp_PF (pc := 15) (As := []) (rest := []) hx hb hml hown hts hK lfX0_547_J15 ((hZP s hK).1.2.2.2.1) (T := TJ15) (N := 4) (ci := 20) rfl ynx_X0_547 (ct_J14_hasNext (G := G) (l := l) hq57) ⟨Nat.le_of_ble_eq_true rfl, Nat.le_of_ble_eq_true rfl⟩ (rp_recv hK hW0 (C := RJ15) (T := TJ15) (N := 4) rfl (shP_20 (kd_PL hg55) (kd_k hg55))) hW0 rfl rfl hl.1 (Nat.le_of_ble_eq_true rfl) dX0_like_15 hcb ?_
  refine W.eq (g2 := F0 m 20 ls [.int r56]) rfl ?_
  refine lv_if_eq (pc := 20) (tgt := 50) hx hb dX0_like_20 (by decide) (fun c58 => ?_) (fun c58 => ?_)
  · have hm := ite_t c58 hm
    obtain ⟨e8, e9⟩ := rs2 hm
    subst e8
    subst e9
    exact rk_vretA (pc := 50) hx hb hr hlk hS ⟨rfl, hW0, hz, hKM⟩ dX0_like_50 hcb.1 hcb.2
  · have hm := ite_f c58 hm
    refine lv_aload_n (pc := 23) hx hb dX0_like_23 rfl (lv_at hl 2 rfl) ?_
    obtain ⟨hg59, hm⟩ := gb_some hm
    obtain ⟨oa60, w61, hq62, hm⟩ := ob2_some hm
    obtain ⟨hg68, hm⟩ := gb_some hm
    have hg68 := of_decide_eq_true hg68
    refine rp_TF (pc := 24) (As := []) (rest := []) (mc := 0) (ms := 0) hx hb hml hown hts hK hS (fun q hq => FA_sz rfl q hq) lfX0_552_J15 ((hZP s hK).1.2.2.2.2.1) (T := TJ15) (N := 4) (ci := 20) rfl ynx_X0_552 (ct_J15_next (G := G) (l := l) (sz := H.size) hq62) ⟨Nat.le_of_ble_eq_true rfl, Nat.le_of_ble_eq_true rfl⟩ (fun z h => (KM_hf2 hKM z h)) (rp_recv hK hW0 (C := RJ15) (T := TJ15) (N := 4) rfl (shP_20 (kd_PL hg59) (kd_k hg59))) hW0 rfl rfl hl.1 (Nat.le_of_ble_eq_true rfl) dX0_like_24 ⟨hg68.1, hg68.2⟩ (fun ov9 H63 locs64 hP65 hkp66 hS67 => ?_)
    obtain ⟨rfl, hW69, hz70, hKM71⟩ := hP65
    have hz72 := hz70.trans hz
    have hKM73 := KM.trans hKM hKM71 (by omega)
    refine W.eq (g2 := F0 m 29 ls [va_rf oa60]) rfl ?_
    rcases oa60 with _ | pa74
    · have hm := od_n hm
      refine lv_castN (pc := 29) hx hb dX0_like_29 ?_
      refine lv_astore_nN (pc := 32) (lv' := [(3, .null), (0, .ref p0), (1, .ref p1), (2, .ref pa52)]) hx hb dX0_like_32 rfl hl (by decide) rfl (fun ls hl => ?_)
      refine lv_aload_n (pc := 33) hx hb dX0_like_33 rfl (lv_at hl 1 rfl) ?_
      refine lv_aload_nN (pc := 34) hx hb dX0_like_34 rfl (lv_at hl 0 rfl) ?_
      refine lv_aload_n (pc := 35) hx hb dX0_like_35 rfl (lv_at hl 2 rfl) ?_
      refine lv_aload_nN (pc := 36) hx hb dX0_like_36 rfl (lv_at hl 0 rfl) ?_
      exact nomatch hm
    · have hm := od_s hm
      obtain ⟨hg75, hm⟩ := gb_some hm
      refine rp_castS (pc := 29) (C := RX14) (T := TX14) (N := 2) (ci := 14) hx hb hown hts hK q1334 rfl (rp_recv hK hW69 (C := RX14) (T := TX14) (N := 2) rfl (shP_14 (kd_PL hg75) (kd_k hg75))) dX0_like_29 ?_
      refine lv_astore_n (pc := 32) (lv' := [(3, .ref pa74), (0, .ref p0), (1, .ref p1), (2, .ref pa52)]) hx hb dX0_like_32 rfl hl (by decide) rfl (fun ls hl => ?_)
      refine lv_aload_n (pc := 33) hx hb dX0_like_33 rfl (lv_at hl 1 rfl) ?_
      refine lv_aload_n (pc := 34) hx hb dX0_like_34 rfl (lv_at hl 0 rfl) ?_
      refine lv_aload_n (pc := 35) hx hb dX0_like_35 rfl (lv_at hl 2 rfl) ?_
      refine lv_aload_n (pc := 36) hx hb dX0_like_36 rfl (lv_at hl 0 rfl) ?_
      obtain ⟨hg76, hm⟩ := gb_some hm
      obtain ⟨oa77, hq78, hm⟩ := ob_some hm
      refine rk_PV (pc := 37) (As := [.ref pa74]) (rest := [.ref pa74, .ref p0]) hx hb hml hown hts hK lkX0_527 rfl yn_J1_get (ct_J1_get (G := G) (l := l) hq78 hZP) ⟨Nat.le_of_ble_eq_true rfl, Nat.le_of_ble_eq_true rfl⟩ (rp_recv hK hW69 (C := RJ1) (T := TJ1) (N := 9) rfl (shP_16 (kd_PL hg76) (kd_k hg76))) hW69 rfl rfl hl.1 (Nat.le_of_ble_eq_true rfl) dX0_like_37 hg68 ?_
      refine W.eq (g2 := F0 m 40 ls [va_rf oa77, .ref pa74, .ref p0]) rfl ?_
      rcases oa77 with _ | pa79
      · have hm := od_n hm
        refine lv_castN (pc := 40) hx hb dX0_like_40 ?_
        exact nomatch hm
      · have hm := od_s hm
        obtain ⟨hg80, hm⟩ := gb_some hm
        refine rp_castS (pc := 40) (C := RX15) (T := TX15) (N := 1) (ci := 15) hx hb hown hts hK q1370 rfl (rp_recv hK hW69 (C := RX15) (T := TX15) (N := 1) rfl (shP_15 (kd_PL hg80) (kd_k hg80))) dX0_like_40 ?_
        obtain ⟨hg81, hm⟩ := gb_some hm
        obtain ⟨oa82, rc83, w84, hq85, hm⟩ := ob3_some hm
        have hq86 := hq85
        rw [show (Z + zc) = H63.size by omega] at hq86
        obtain ⟨hg92, hm⟩ := gb_some hm
        have hg92 := of_decide_eq_true hg92
        refine rk_TV (pc := 43) (As := [.ref pa74, .ref pa79]) (rest := []) (mc := 1) (ms := 6) hx hb hml hown hts hK hS67 (fun q hq => FA_sz rfl q hq) lkX0_510 rfl yn_J1_put (ct_J1_put (G := G) (l := l) hq86 hZP) ⟨Nat.le_of_ble_eq_true rfl, Nat.le_of_ble_eq_true rfl⟩ (fun z h => (KM_hf2 hKM73 z h)) (rp_recv hK hW69 (C := RJ1) (T := TJ1) (N := 9) rfl (shP_16 (kd_PL hg81) (kd_k hg81))) hW69 rfl rfl hl.1 (Nat.le_of_ble_eq_true rfl) dX0_like_43 ⟨hg92.1, hg92.2⟩ (fun ov9 H87 locs88 hP89 hkp90 hS91 => ?_)
        obtain ⟨rfl, hW93, hz94, hKM95⟩ := hP89
        have hz96 : H87.size = s.heap.size + (zc + rc83) := by omega
        have hKM97 := KM.trans hKM73 hKM95 (by omega)
        refine W.eq (g2 := F0 m 46 ls [va_rf oa82]) rfl ?_
        refine lv_pop (pc := 46) hx hb dX0_like_46 (cat_rf _) ?_
        refine lv_goto (pc := 47) (tgt := 14) hx hb dX0_like_47 (by decide) ?_
        exact hk14 w84 (cb + 1) (sb + 6) (zc + rc83) p0 p1 (some pa52) hm H87 locs88 ls hW93 hS91 hz96 hKM97 hg92 (lv_sub hl [1, 2, 3] rfl)
theorem w_fX0_like_14_l (C : Cx G p s m args meth c RX0 cX0_like 4 none) {PL : Nat → Bool} {Z : Nat} {vP0 : Mem} {rc : Nat} {rw0 : Mem} (hZz : s.heap.size = Z) (hZP : ZP G) : ∀ (n : Nat) (v0 : Mem) (cb : Nat) (sb : Nat) (zc : Nat) (p0 : Nat) (p1 : Nat) (o2 : Option Nat), lq7 (fX0_like_14 PL Z) n v0 cb sb zc p0 p1 o2 = some (rc, rw0) → ∀ (H : Heap) (locs : List Loc) (ls : Array Slot), pl G PL v0 H → va_S (FA (fP PL vP0) s.heap.size) s.heap H locs → H.size = s.heap.size + zc → KM vP0 v0 s.heap.size → cb ≤ 24 ∧ sb ≤ 200 → lv_has ls 4 [(0, .ref p0), (1, .ref p1), (2, va_rf o2)] → W p l e (rmT 6 24 200 139) s m args below meth c H locs cb sb (MQ below (QcT (FA (fP PL vP0) s.heap.size) (fun ov H => ov = none ∧ pl G PL rw0 H ∧ H.size = s.heap.size + rc ∧ KM vP0 rw0 s.heap.size)) args s 24 200 (FA (fP PL vP0) s.heap.size)) (F0 m 14 ls []) := by
  intro n
  induction n with
  | zero => intro v0 cb sb zc p0 p1 o2 hm; exact (lq7_0 hm).elim
  | succ n ih => intro v0 cb sb zc p0 p1 o2 hm; exact w_fX0_like_14 C hZz hZP ih v0 cb sb zc p0 p1 o2 (lq7_s hm)
set_option maxHeartbeats 4000000 in
theorem w_fX0_like (C : Cx G p s m args meth c RX0 cX0_like 4 none) {PL : Nat → Bool} {Z : Nat} {vP0 : Mem} {rc : Nat} {rw0 : Mem} (hZz : s.heap.size = Z) (hZP : ZP G) : ∀ (v0 : Mem) (p0 : Nat) (p1 : Nat), fX0_like PL Z v0 p0 p1 = some (rc, rw0) → ∀ (H : Heap) (locs : List Loc) (ls : Array Slot), pl G PL v0 H → va_S (FA (fP PL vP0) s.heap.size) s.heap H locs → H.size = s.heap.size + 0 → KM vP0 v0 s.heap.size → 0 ≤ 24 ∧ 0 ≤ 200 → lv_has ls 4 [(0, .ref p0), (1, .ref p1)] → W p l e (rmT 6 24 200 139) s m args below meth c H locs 0 0 (MQ below (QcT (FA (fP PL vP0) s.heap.size) (fun ov H => ov = none ∧ pl G PL rw0 H ∧ H.size = s.heap.size + rc ∧ KM vP0 rw0 s.heap.size)) args s 24 200 (FA (fP PL vP0) s.heap.size)) (F0 m 0 ls []) := by
  intro v0 p0 p1 hm H locs ls hW0 hS hz hKM hcb hl
  obtain ⟨hx, hb, hr, hlk, hml, hown, hts, hK⟩ := id C
  unfold fX0_like at hm
  refine lv_aload_n (pc := 0) hx hb dX0_like_0 rfl (lv_at hl 0 rfl) ?_
  obtain ⟨hg1, hm⟩ := gb_some hm
  obtain ⟨w2, hq3, hm⟩ := ob_some hm
  obtain ⟨hg9, hm⟩ := gb_some hm
  have hg9 := of_decide_eq_true hg9
  refine rk_TV (pc := 1) (As := []) (rest := []) (mc := 0) (ms := 0) hx hb hml hown hts hK hS (fun q hq => FA_sz rfl q hq) lkX0_138 rfl yn_J1_clear (ct_J1_clear (G := G) (l := l) (sz := H.size) hq3) ⟨Nat.le_of_ble_eq_true rfl, Nat.le_of_ble_eq_true rfl⟩ (fun z h => (KM_hf2 hKM z h)) (rp_recv hK hW0 (C := RJ1) (T := TJ1) (N := 9) rfl (shP_16 (kd_PL hg1) (kd_k hg1))) hW0 rfl rfl hl.1 (Nat.le_of_ble_eq_true rfl) dX0_like_1 ⟨hg9.1, hg9.2⟩ (fun ov9 H4 locs5 hP6 hkp7 hS8 => ?_)
  obtain ⟨rfl, hW10, hz11, hKM12⟩ := hP6
  have hz13 := hz11.trans hz
  have hKM14 := KM.trans hKM hKM12 (by omega)
  refine W.eq (g2 := F0 m 4 ls []) rfl ?_
  refine lv_aload_n (pc := 4) hx hb dX0_like_4 rfl (lv_at hl 1 rfl) ?_
  obtain ⟨hg15, hm⟩ := gb_some hm
  obtain ⟨oa16, rc17, w18, hq19, hm⟩ := ob3_some hm
  have hq20 := hq19
  rw [show (Z + 0) = H4.size by omega] at hq20
  obtain ⟨hg26, hm⟩ := gb_some hm
  have hg26 := of_decide_eq_true hg26
  refine rk_TV (pc := 5) (As := []) (rest := []) (mc := 1) (ms := 1) hx hb hml hown hts hK hS8 (fun q hq => FA_sz rfl q hq) lkX0_537 rfl yn_J1_keySet (ct_J1_keySet (G := G) (l := l) hq20) ⟨Nat.le_of_ble_eq_true rfl, Nat.le_of_ble_eq_true rfl⟩ (fun z h => (KM_hf2 hKM14 z h)) (rp_recv hK hW10 (C := RJ1) (T := TJ1) (N := 9) rfl (shP_16 (kd_PL hg15) (kd_k hg15))) hW10 rfl rfl hl.1 (Nat.le_of_ble_eq_true rfl) dX0_like_5 ⟨hg26.1, hg26.2⟩ (fun ov9 H21 locs22 hP23 hkp24 hS25 => ?_)
  obtain ⟨rfl, hW27, hz28, hKM29⟩ := hP23
  have hz30 : H21.size = s.heap.size + rc17 := by omega
  have hKM31 := KM.trans hKM14 hKM29 (by omega)
  refine W.eq (g2 := F0 m 8 ls [va_rf oa16]) rfl ?_
  obtain ⟨pa32, he33, hm34⟩ := ob_some hm
  subst he33
  have hm := hm34
  obtain ⟨hg35, hm⟩ := gb_some hm
  obtain ⟨oa36, rc37, w38, hq39, hm⟩ := ob3_some hm
  have hq40 := hq39
  rw [show (Z + rc17) = H21.size by omega] at hq40
  obtain ⟨hg46, hm⟩ := gb_some hm
  have hg46 := of_decide_eq_true hg46
  refine rp_TF (pc := 8) (As := []) (rest := []) (mc := 1) (ms := 4) hx hb hml hown hts hK hS25 (fun q hq => FA_sz rfl q hq) lfX0_541_J13 ((hZP s hK).1.2.2.2.2.2) (T := TJ13) (N := 1) (ci := 19) rfl ynx_X0_541 (ct_J13_iterator (G := G) (l := l) hq40) ⟨Nat.le_of_ble_eq_true rfl, Nat.le_of_ble_eq_true rfl⟩ (fun z h => (KM_hf2 hKM31 z h)) (rp_recv hK hW27 (C := RJ13) (T := TJ13) (N := 1) rfl (shP_19 (kd_PL hg35) (kd_k hg35))) hW27 rfl rfl hl.1 (Nat.le_of_ble_eq_true rfl) dX0_like_8 ⟨hg46.1, hg46.2⟩ (fun ov9 H41 locs42 hP43 hkp44 hS45 => ?_)
  obtain ⟨rfl, hW47, hz48, hKM49⟩ := hP43
  have hz50 : H41.size = s.heap.size + (rc17 + rc37) := by omega
  have hKM51 := KM.trans hKM31 hKM49 (by omega)
  refine W.eq (g2 := F0 m 13 ls [va_rf oa36]) rfl ?_
  refine lv_astore_nO (pc := 13) (lv' := [(2, va_rf oa36), (0, .ref p0), (1, .ref p1)]) hx hb dX0_like_13 rfl hl (by decide) rfl (fun ls hl => ?_)
  exact (w_fX0_like_14_l C hZz hZP FU) w38 2 5 (rc17 + rc37) p0 p1 oa36 hm H41 locs42 ls hW47 hS45 hz50 hKM51 hg46 (lv_sub hl [1, 2, 0] rfl)
set_option maxHeartbeats 4000000 in
theorem ct_X0_like {G : Gv} {l : Launch} {PL : Nat → Bool} {Z : Nat} {v0 : Mem} {p0 : Nat} {p1 : Nat} {rc : Nat} {rw0 : Mem} (hm : fX0_like PL Z v0 p0 p1 = some (rc, rw0)) (hZP : ZP G) : CT G l yX0_like (ws_ yX0_like cX0_like 4 none) 6 24 200 139 [.ref p0, .ref p1] (fP PL v0) Z (fun H => pl G PL v0 H) (fun ov H => ov = none ∧ pl G PL rw0 H ∧ H.size = Z + rc ∧ KM v0 rw0 Z) := by
  refine Met.ofW (cc := cX0_like) (maxL := 4) (ret := none) (by decide +kernel) rfl ?_
  intro p e s m args below meth c s₁ B hml hv
  obtain ⟨rfl, ⟨hz, hW0⟩, hK⟩ := hv
  subst hz
  have hZz : s.heap.size = s.heap.size := rfl
  have hts := atoms_spec (ws := ws_ yX0_like cX0_like 4 none) B.pre
  have hts : ∀ w ∈ lw_all, w.before _ s = true := fun w h => hts w (List.mem_cons_of_mem _ h)
  have C : Cx G p s m _ meth c RX0 cX0_like 4 none := ⟨B.exec, B.bytes, B.returns, B.notSynchronized, hml, findClass_of_methodNamed B.named, hts, hK⟩
  have hl := lv_entry ([.ref p0, .ref p1]) (n := 4) (Nat.le_of_ble_eq_true rfl)
  rw [lg_entry_eq]
  generalize (lg_sl ([.ref p0, .ref p1]) ++ List.replicate (4 - (lg_sl ([.ref p0, .ref p1])).length) Slot.unset).toArray = ls at hl ⊢
  have hl : lv_has ls 4 [(0, .ref p0), (1, .ref p1)] := hl
  exact w_fX0_like C hZz hZP _ _ _ hm s.heap [] ls hW0 va_S.rf rfl KM.rf ⟨Nat.zero_le _, Nat.zero_le _⟩ hl
theorem yn_X0_like : YN yX0_like 2 := by
  unfold YN
  decide +kernel
theorem lkX0_566 : LSt RX0 566 yX0_like cX0_like 4 none := ⟨q1612, q1613, q114, q1614⟩
theorem flX0_21 : FL RX0 21 0 2 RX0 TX0 25 := ⟨in_X0, rfl, by decide, q498⟩
noncomputable def fX0_undo (PL : Nat → Bool) (Z : Nat) (b0 : Nat) (v0 : Mem) (v1 : Mem) : Option (Int32 × Nat × Mem × Mem) :=
  if (gI v0 0 23) = 0 then (
  some ((-3 : Int32), 0, v0, v1))
  else (
  ob2 (fX0_like PL (Z + 0) v1 (b0 + 153) (b0 + 154)) fun rc2 w3 =>
  ob (fX1_like (shf v0 45) (shf v0 1)) fun w17 =>
  lm (ptm v0 1 22 w17) fun v0_28 =>
  ob2 (fX0_told v0_28 (gI v0_28 1 1)) fun r30 w31 =>
  some (r30, rc2, w31, w3))
set_option maxHeartbeats 4000000 in
theorem w_fX0_undo (C : Cx G p s m args meth c RX0 cX0_undo 1 (some .int)) {b0 : Nat} {PL : Nat → Bool} {Z : Nat} {vP0 : Mem} {rx : Int32} {rc : Nat} {rw0 : Mem} {rw1 : Mem} (hPX : ∀ z, PL z = true → ¬ fX b0 z) (he0 : b0 + 357 ≤ s.heap.size) (hZz : s.heap.size = Z) (hZP : ZP G) : ∀ (v0 : Mem) (v1 : Mem), fX0_undo PL Z b0 v0 v1 = some (rx, rc, rw0, rw1) → ∀ (H : Heap) (locs : List Loc) (ls : Array Slot), rg G b0 357 (shX0 G.2.1) v0 H → pl G PL v1 H → va_S (FA (fun z => (fX b0) z ∨ (fP PL vP0) z) s.heap.size) s.heap H locs → H.size = s.heap.size + 0 → KM vP0 v1 s.heap.size → lv_has ls 1 [(0, .ref b0)] → W p l e (rmT 7 24 200 162) s m args below meth c H locs 0 0 (MQ below (QcT (FA (fun z => (fX b0) z ∨ (fP PL vP0) z) s.heap.size) (fun ov H => ov = (some (.int rx)) ∧ rg G b0 357 (shX0 G.2.1) rw0 H ∧ pl G PL rw1 H ∧ H.size = s.heap.size + rc ∧ KM vP0 rw1 s.heap.size)) args s 24 200 (FA (fun z => (fX b0) z ∨ (fP PL vP0) z) s.heap.size)) (F0 m 0 ls []) := by
  intro v0 v1 hm H locs ls hW0 hW1 hS hz hKM hl
  obtain ⟨hx, hb, hr, hlk, hml, hown, hts, hK⟩ := id C
  unfold fX0_undo at hm
  refine lv_aload_n (pc := 0) hx hb dX0_undo_0 rfl (lv_at hl 0 rfl) ?_
  refine rk_get (pc := 1) hx hb hts hown hK hW0 flX0_563 0 (by decide) rfl rfl (x := .int (gI v0 0 23)) rfl dX0_undo_1 ?_
  refine lv_if_ne (pc := 4) (tgt := 10) hx hb dX0_undo_4 (by decide) (fun c1 => ?_) (fun c1 => ?_)
  · have hm := ite_f c1 hm
    refine lv_aload_n (pc := 10) hx hb dX0_undo_10 rfl (lv_at hl 0 rfl) ?_
    refine rk_get (pc := 11) hx hb hts hown hK hW0 flX0_37 0 (by decide) rfl rfl (x := .ref (b0 + 153)) (by first | rfl | exact congrArg (fun z => some (Value.ref z)) (by omega)) dX0_undo_11 ?_
    refine lv_aload_n (pc := 14) hx hb dX0_undo_14 rfl (lv_at hl 0 rfl) ?_
    refine rk_get (pc := 15) hx hb hts hown hK hW0 flX0_41 0 (by decide) rfl rfl (x := .ref (b0 + 154)) (by first | rfl | exact congrArg (fun z => some (Value.ref z)) (by omega)) dX0_undo_15 ?_
    obtain ⟨rc2, w3, hq4, hm⟩ := ob2_some hm
    have hq5 := hq4
    rw [show (Z + 0) = H.size by omega] at hq5
    refine rk_TS (pc := 18) (As := [.ref (b0 + 153), .ref (b0 + 154)]) (rest := []) (mc := 24) (ms := 200) hx hb hml hown hts hK hS (fun q hq => FA_sz rfl q hq) lkX0_566 yn_X0_like (ct_X0_like (G := G) (l := l) hq5 hZP) ⟨Nat.le_of_ble_eq_true rfl, Nat.le_of_ble_eq_true rfl⟩ (fun z h => (FA_r (KM_hf2 hKM z h))) hW1 rfl rfl hl.1 (Nat.le_of_ble_eq_true rfl) dX0_undo_18 ⟨Nat.le_of_ble_eq_true rfl, Nat.le_of_ble_eq_true rfl⟩ (fun ov9 H6 locs7 hP8 hkp9 hS10 => ?_)
    obtain ⟨rfl, hW11, hz12, hKM13⟩ := hP8
    have hW14 := rg_keepX hW0 hkp9 (by intro z h0 h3; have h1 := h0.1.1; have h2 := h0.1.2; have h4 := h0.2; exact hPX _ h3.1 h0)
    have hz15 : H6.size = s.heap.size + rc2 := by omega
    have hKM16 := KM.trans hKM hKM13 (by omega)
    refine W.eq (g2 := F0 m 21 ls []) rfl ?_
    refine lv_aload_n (pc := 21) hx hb dX0_undo_21 rfl (lv_at hl 0 rfl) ?_
    refine lv_aload_n (pc := 22) hx hb dX0_undo_22 rfl (lv_at hl 0 rfl) ?_
    refine rk_get (pc := 23) hx hb hts hown hK hW14 flX0_12 0 (by decide) rfl rfl (x := .ref (b0 + 1)) (by first | rfl | exact congrArg (fun z => some (Value.ref z)) (by omega)) dX0_undo_23 ?_
    refine lv_aload_n (pc := 26) hx hb dX0_undo_26 rfl (lv_at hl 0 rfl) ?_
    refine rk_get (pc := 27) hx hb hts hown hK hW14 flX0_21 0 (by decide) rfl rfl (x := .ref (b0 + 45)) (by first | rfl | exact congrArg (fun z => some (Value.ref z)) (by omega)) dX0_undo_27 ?_
    obtain ⟨w17, hq18, hm⟩ := ob_some hm
    refine rk_TV (pc := 30) (As := [.ref (b0 + 45)]) (rest := [.ref b0]) (mc := 0) (ms := 0) hx hb hml hown hts hK hS10 (fun q hq => FA_sz rfl q hq) lkX0_469 rfl yn_X1_like (ct_X1_like (G := G) (l := l) (b0 := (b0 + 1)) (b1 := (b0 + 45)) (sz := H6.size) hq18 (by omega)) ⟨Nat.le_of_ble_eq_true rfl, Nat.le_of_ble_eq_true rfl⟩ (fun z h => Or.inl (Or.inl (show fX _ _ from ⟨⟨by have h8 := h.1; have h9 := h.2; omega, by have h8 := h.1; have h9 := h.2; omega⟩, by have h8 := h.1; have h9 := h.2; omega⟩))) (rk_recv hK hW14 1 (by decide) rfl rfl rfl) ⟨(rg_sub hW14 rfl (by decide) (fun o ho x y z => shX0_n1 G.2.1 _ rfl o ho x y z)), (rg_sub hW14 rfl (by decide) (fun o ho x y z => shX0_n45 G.2.1 _ rfl o ho x y z))⟩ rfl rfl hl.1 (Nat.le_of_ble_eq_true rfl) dX0_undo_30 ⟨Nat.le_of_ble_eq_true rfl, Nat.le_of_ble_eq_true rfl⟩ (fun ov9 H19 locs20 hP21 hkp22 hS23 => ?_)
    obtain ⟨rfl, hW24, hz25⟩ := hP21
    have hW26 := pl_keepA hW11 hkp22 (by intro z h1 h3; have h8 := h3.1; have h9 := h3.2; exact hPX _ h1 (show fX _ _ from ⟨⟨by omega, by omega⟩, by omega⟩))
    have hW27 := rg_put (d := 1) hW14 hW24 rfl (fun o ho x y z => shX0_n1 G.2.1 _ rfl o ho x y z) hkp22
    obtain ⟨v0_28, he9, hm⟩ := lm_some hm
    rw [he9] at hW27
    have hz29 := hz25.trans hz15
    refine W.eq (g2 := F0 m 33 ls [.ref (b0 + 1), .ref b0]) rfl ?_
    refine rk_getN (pc := 33) hx hb hts hown hK hW27 fnX0_158 1 (by decide) rfl rfl (x := .int (gI v0_28 1 1)) rfl dX0_undo_33 ?_
    obtain ⟨r30, w31, hq32, hm⟩ := ob2_some hm
    refine rk_TV (pc := 36) (As := [.int (gI v0_28 1 1)]) (rest := []) (mc := 0) (ms := 0) hx hb hml hown hts hK hS23 (fun q hq => FA_sz rfl q hq) lkX0_141 rfl yn_X0_told (ct_X0_told (G := G) (l := l) (b0 := b0) (sz := H19.size) hq32) ⟨Nat.le_of_ble_eq_true rfl, Nat.le_of_ble_eq_true rfl⟩ (fun z h => Or.inl (Or.inl h)) (rk_recv hK hW27 0 (by decide) rfl rfl rfl) hW27 rfl rfl hl.1 (Nat.le_of_ble_eq_true rfl) dX0_undo_36 ⟨Nat.le_of_ble_eq_true rfl, Nat.le_of_ble_eq_true rfl⟩ (fun ov9 H33 locs34 hP35 hkp36 hS37 => ?_)
    obtain ⟨rfl, hW38, hz39⟩ := hP35
    have hW40 := pl_keepA hW26 hkp36 (by intro z h1 h3; exact hPX _ h1 h3)
    have hz41 := hz39.trans hz29
    refine W.eq (g2 := F0 m 39 ls [.int r30]) rfl ?_
    obtain ⟨e6, e7, e8, e9⟩ := rs4 hm
    subst e6
    subst e7
    subst e8
    subst e9
    exact rk_iretA (pc := 39) hx hb hr hlk hS37 ⟨rfl, hW38, hW40, hz41, hKM16⟩ dX0_undo_39 (by exact Nat.le_of_ble_eq_true rfl) (by exact Nat.le_of_ble_eq_true rfl)
  · have hm := ite_t c1 hm
    refine lv_bipush (pc := 7) (v := (-3 : Int32)) hx hb dX0_undo_7 (by decide) ?_
    obtain ⟨e6, e7, e8, e9⟩ := rs4 hm
    subst e6
    subst e7
    subst e8
    subst e9
    exact rk_iretA (pc := 9) hx hb hr hlk hS ⟨rfl, hW0, hW1, hz, hKM⟩ dX0_undo_9 (by exact Nat.le_of_ble_eq_true rfl) (by exact Nat.le_of_ble_eq_true rfl)
set_option maxHeartbeats 4000000 in
theorem ct_X0_undo {G : Gv} {l : Launch} {b0 : Nat} {PL : Nat → Bool} {Z : Nat} {v0 : Mem} {v1 : Mem} {rx : Int32} {rc : Nat} {rw0 : Mem} {rw1 : Mem} (hm : fX0_undo PL Z b0 v0 v1 = some (rx, rc, rw0, rw1)) (hPX : ∀ z, PL z = true → ¬ fX b0 z) (hZP : ZP G) : CT G l yX0_undo (ws_ yX0_undo cX0_undo 1 (some .int)) 7 24 200 162 [.ref b0] (fun z => (fX b0) z ∨ (fP PL v1) z) Z (fun H => rg G b0 357 (shX0 G.2.1) v0 H ∧ pl G PL v1 H) (fun ov H => ov = (some (.int rx)) ∧ rg G b0 357 (shX0 G.2.1) rw0 H ∧ pl G PL rw1 H ∧ H.size = Z + rc ∧ KM v1 rw1 Z) := by
  refine Met.ofW (cc := cX0_undo) (maxL := 1) (ret := (some .int)) (by decide +kernel) rfl ?_
  intro p e s m args below meth c s₁ B hml hv
  obtain ⟨rfl, ⟨hz, hW0, hW1⟩, hK⟩ := hv
  subst hz
  have he0 := rg_end hW0 356 (by decide) rfl (fun _ _ _ => rfl)
  have hZz : s.heap.size = s.heap.size := rfl
  have hts := atoms_spec (ws := ws_ yX0_undo cX0_undo 1 (some .int)) B.pre
  have hts : ∀ w ∈ lw_all, w.before _ s = true := fun w h => hts w (List.mem_cons_of_mem _ h)
  have C : Cx G p s m _ meth c RX0 cX0_undo 1 (some .int) := ⟨B.exec, B.bytes, B.returns, B.notSynchronized, hml, findClass_of_methodNamed B.named, hts, hK⟩
  have hl := lv_entry ([.ref b0]) (n := 1) (Nat.le_of_ble_eq_true rfl)
  rw [lg_entry_eq]
  generalize (lg_sl ([.ref b0]) ++ List.replicate (1 - (lg_sl ([.ref b0])).length) Slot.unset).toArray = ls at hl ⊢
  have hl : lv_has ls 1 [(0, .ref b0)] := hl
  exact w_fX0_undo C hPX he0 hZz hZP _ _ hm s.heap [] ls hW0 hW1 va_S.rf rfl KM.rf hl
end
