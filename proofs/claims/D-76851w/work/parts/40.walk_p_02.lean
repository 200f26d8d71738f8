set_option maxRecDepth 100000
section
variable {p : Program} {l : Launch} {e : Env} {s : State} {m : MethodId} {args : Array Value} {below : List Frame} {meth : Method} {c : Code} {G : Gv}
noncomputable def fJ4_add_foundfit (PL : Nat → Bool) (b0 : Nat) (V0 : Mem) (v1 : Mem) (p0 : Nat) (p1 : Nat) : Option (Int32 × Mem) :=
  gb (kd PL v1 p0 17) (
  ob2 (fJ4_offer_foundfit PL b0 V0 v1 p0 p1) fun r2 w3 =>
  gb (z01 r2) (some (r2, w3)))
set_option maxHeartbeats 4000000 in
theorem w_fJ4_add_foundfit (C : Cx G p s m args meth c RJ4 cJ4_add 2 (some .boolean)) {b0 : Nat} {PL : Nat → Bool} {V0 : Mem} {vP0 : Mem} {rx : Int32} {rw1 : Mem} (hPX : ∀ z, PL z = true → ¬ fX b0 z) (hZP : ZP G) : ∀ (v1 : Mem) (p0 : Nat) (p1 : Nat), fJ4_add_foundfit PL b0 V0 v1 p0 p1 = some (rx, rw1) → ∀ (H : Heap) (locs : List Loc) (ls : Array Slot), rg G b0 357 (shX0 G.2.1) V0 H → pl G PL v1 H → va_S (FA (fP PL vP0) s.heap.size) s.heap H locs → H.size = s.heap.size → KM vP0 v1 s.heap.size → lv_has ls 2 [(0, .ref p0), (1, .ref p1)] → W p l e (rmT 6 0 0 135) s m args below meth c H locs 0 0 (MQ below (QcT (FA (fP PL vP0) s.heap.size) (fun ov H => ov = (some (.int rx)) ∧ pl G PL rw1 H ∧ H.size = s.heap.size ∧ KM vP0 rw1 s.heap.size)) args s 0 0 (FA (fP PL vP0) s.heap.size)) (F0 m 0 ls []) := by
  intro v1 p0 p1 hm H locs ls hW0 hW1 hS hz hKM hl
  obtain ⟨hx, hb, hr, hlk, hml, hown, hts, hK⟩ := id C
  unfold fJ4_add_foundfit at hm
  refine lv_aload_n (pc := 0) hx hb dJ4_add_0 rfl (lv_at hl 0 rfl) ?_
  refine lv_aload_n (pc := 1) hx hb dJ4_add_1 rfl (lv_at hl 1 rfl) ?_
  obtain ⟨hg1, hm⟩ := gb_some hm
  obtain ⟨r2, w3, hq4, hm⟩ := ob2_some hm
  refine rk_TV (pc := 2) (As := [.ref p1]) (rest := []) (mc := 0) (ms := 0) hx hb hml hown hts hK hS (fun q hq => FA_sz rfl q hq) lkJ4_89 rfl yn_J4_offer (ct_J4_offer_foundfit (G := G) (l := l) (b0 := b0) (sz := H.size) hq4 hPX hZP) ⟨Nat.le_of_ble_eq_true rfl, Nat.le_of_ble_eq_true rfl⟩ (fun z h => (KM_hf2 hKM z h)) (rp_recv hK hW1 (C := RJ4) (T := TJ4) (N := 4) rfl (shP_17 (kd_PL hg1) (kd_k hg1))) ⟨hW0, hW1⟩ rfl rfl hl.1 (Nat.le_of_ble_eq_true rfl) dJ4_add_2 ⟨Nat.zero_le _, Nat.zero_le _⟩ (fun ov9 H5 locs6 hP7 hkp8 hS9 => ?_)
  obtain ⟨rfl, hW10, hz11, hKM12⟩ := hP7
  have hW13 := rg_keepX hW0 hkp8 (by intro z h0 h3; have h1 := h0.1.1; have h2 := h0.1.2; have h4 := h0.2; exact hPX _ h3.1 h0)
  have hz14 := hz11.trans hz
  have hKM15 := KM.trans hKM hKM12 (by omega)
  refine W.eq (g2 := F0 m 5 ls [.int r2]) rfl ?_
  obtain ⟨hg16, hm⟩ := gb_some hm
  obtain ⟨e8, e9⟩ := rs2 hm
  subst e8
  subst e9
  exact rk_zret (pc := 5) hx hb hr hlk hg16 hS9 ⟨rfl, hW10, hz14, hKM15⟩ dJ4_add_5
set_option maxHeartbeats 4000000 in
theorem ct_J4_add_foundfit {G : Gv} {l : Launch} {b0 : Nat} {PL : Nat → Bool} {V0 : Mem} {v1 : Mem} {p0 : Nat} {p1 : Nat} {rx : Int32} {rw1 : Mem} {sz : Nat} (hm : fJ4_add_foundfit PL b0 V0 v1 p0 p1 = some (rx, rw1)) (hPX : ∀ z, PL z = true → ¬ fX b0 z) (hZP : ZP G) : CT G l yJ4_add (ws_ yJ4_add cJ4_add 2 (some .boolean)) 6 0 0 135 [.ref p0, .ref p1] (fP PL v1) sz (fun H => rg G b0 357 (shX0 G.2.1) V0 H ∧ pl G PL v1 H) (fun ov H => ov = (some (.int rx)) ∧ pl G PL rw1 H ∧ H.size = sz ∧ KM v1 rw1 sz) := by
  refine Met.ofW (cc := cJ4_add) (maxL := 2) (ret := (some .boolean)) (by decide +kernel) rfl ?_
  intro p e s m args below meth c s₁ B hml hv
  obtain ⟨rfl, ⟨hz, hW0, hW1⟩, hK⟩ := hv
  subst hz
  have hts := atoms_spec (ws := ws_ yJ4_add cJ4_add 2 (some .boolean)) B.pre
  have hts : ∀ w ∈ lw_all, w.before _ s = true := fun w h => hts w (List.mem_cons_of_mem _ h)
  have C : Cx G p s m _ meth c RJ4 cJ4_add 2 (some .boolean) := ⟨B.exec, B.bytes, B.returns, B.notSynchronized, hml, findClass_of_methodNamed B.named, hts, hK⟩
  have hl := lv_entry ([.ref p0, .ref p1]) (n := 2) (Nat.le_of_ble_eq_true rfl)
  rw [lg_entry_eq]
  generalize (lg_sl ([.ref p0, .ref p1]) ++ List.replicate (2 - (lg_sl ([.ref p0, .ref p1])).length) Slot.unset).toArray = ls at hl ⊢
  have hl : lv_has ls 2 [(0, .ref p0), (1, .ref p1)] := hl
  exact w_fJ4_add_foundfit C hPX hZP _ _ _ hm s.heap [] ls hW0 hW1 va_S.rf rfl KM.rf hl
noncomputable def fJ4_siftDownComparable_node_68 (PL : Nat → Bool) (b0 : Nat) (V0 : Mem) (k11 : Mem → Int32 → Nat → Int32 → Nat → Int32 → Option (Mem)) (v1 : Mem) (i0 : Int32) (p2 : Nat) (i3 : Int32) (n4 : Nat) (i5 : Int32) (i6 : Int32) (o7 : Option Nat) : Option (Mem) :=
  ob o7 fun pa80 =>
  ob (fi b0 197 4 40 pa80) fun nf83 =>
  ob (fX8_compareTo (shf V0 (197 + 4 * n4)) (shf V0 (197 + 4 * nf83))) fun r88 =>
  if 0 < r88 then (
  gb (ka PL v1 p2 44) (
  gb (inR i0 (gI v1 p2 98).toNatClampNeg) (
  lm (sR v1 p2 i0.toNatClampNeg (some (b0 + (197 + 4 * nf83 + 0)))) fun v1_93 =>
  k11 v1_93 i6 p2 i3 n4 i5)))
  else (
  gb (ka PL v1 p2 44) (
  gb (inR i0 (gI v1 p2 98).toNatClampNeg) (
  lm (sR v1 p2 i0.toNatClampNeg (some (b0 + (197 + 4 * n4 + 0)))) fun v1_105 =>
  some v1_105)))
noncomputable def fJ4_siftDownComparable_node_68b (PL : Nat → Bool) (b0 : Nat) (V0 : Mem) (k11 : Mem → Int32 → Nat → Int32 → Nat → Int32 → Option (Mem)) (v1 : Mem) (i0 : Int32) (p2 : Nat) (i3 : Int32) (n4 : Nat) (i5 : Int32) (i6 : Int32) (n7 : Nat) : Option (Mem) :=
  ob (fX8_compareTo (shf V0 (197 + 4 * n4)) (shf V0 (197 + 4 * n7))) fun r53 =>
  if 0 < r53 then (
  gb (ka PL v1 p2 44) (
  gb (inR i0 (gI v1 p2 98).toNatClampNeg) (
  lm (sR v1 p2 i0.toNatClampNeg (some (b0 + (197 + 4 * n7 + 0)))) fun v1_58 =>
  k11 v1_58 i6 p2 i3 n4 i5)))
  else (
  gb (ka PL v1 p2 44) (
  gb (inR i0 (gI v1 p2 98).toNatClampNeg) (
  lm (sR v1 p2 i0.toNatClampNeg (some (b0 + (197 + 4 * n4 + 0)))) fun v1_70 =>
  some v1_70)))
noncomputable def fJ4_siftDownComparable_node_11 (PL : Nat → Bool) (b0 : Nat) (V0 : Mem) (k11 : Mem → Int32 → Nat → Int32 → Nat → Int32 → Option (Mem)) (v1 : Mem) (i0 : Int32) (p2 : Nat) (i3 : Int32) (n4 : Nat) (i5 : Int32) : Option (Mem) :=
  if i5 ≤ i0 then (
  gb (ka PL v1 p2 44) (
  gb (inR i0 (gI v1 p2 98).toNatClampNeg) (
  lm (sR v1 p2 i0.toNatClampNeg (some (b0 + (197 + 4 * n4 + 0)))) fun v1_9 =>
  some v1_9)))
  else (
  gb (ka PL v1 p2 44) (
  gb (inR ((i0 <<< ((1 : Int32) &&& 31)) + (1 : Int32)) (gI v1 p2 98).toNatClampNeg) (
  lo (gR v1 p2 ((i0 <<< ((1 : Int32) &&& 31)) + (1 : Int32)).toNatClampNeg) fun oa21 =>
  if i3 ≤ (((i0 <<< ((1 : Int32) &&& 31)) + (1 : Int32)) + (1 : Int32)) then (
  fJ4_siftDownComparable_node_68 PL b0 V0 k11 v1 i0 p2 i3 n4 i5 ((i0 <<< ((1 : Int32) &&& 31)) + (1 : Int32)) oa21)
  else (
  od oa21 (
  gb (ka PL v1 p2 44) (
  gb (inR (((i0 <<< ((1 : Int32) &&& 31)) + (1 : Int32)) + (1 : Int32)) (gI v1 p2 98).toNatClampNeg) (
  lo (gR v1 p2 (((i0 <<< ((1 : Int32) &&& 31)) + (1 : Int32)) + (1 : Int32)).toNatClampNeg) fun oa27 =>
  none))) (fun pa24 =>
  ob (fi b0 197 4 40 pa24) fun nf29 =>
  gb (ka PL v1 p2 44) (
  gb (inR (((i0 <<< ((1 : Int32) &&& 31)) + (1 : Int32)) + (1 : Int32)) (gI v1 p2 98).toNatClampNeg) (
  lo (gR v1 p2 (((i0 <<< ((1 : Int32) &&& 31)) + (1 : Int32)) + (1 : Int32)).toNatClampNeg) fun oa36 =>
  ob oa36 fun pa38 =>
  ob (fi b0 197 4 40 pa38) fun nf41 =>
  ob (fX8_compareTo (shf V0 (197 + 4 * nf29)) (shf V0 (197 + 4 * nf41))) fun r46 =>
  if r46 ≤ 0 then (
  fJ4_siftDownComparable_node_68b PL b0 V0 k11 v1 i0 p2 i3 n4 i5 ((i0 <<< ((1 : Int32) &&& 31)) + (1 : Int32)) nf29)
  else (
  gb (ka PL v1 p2 44) (
  gb (inR (((i0 <<< ((1 : Int32) &&& 31)) + (1 : Int32)) + (1 : Int32)) (gI v1 p2 98).toNatClampNeg) (
  lo (gR v1 p2 (((i0 <<< ((1 : Int32) &&& 31)) + (1 : Int32)) + (1 : Int32)).toNatClampNeg) fun oa51 =>
  fJ4_siftDownComparable_node_68 PL b0 V0 k11 v1 i0 p2 i3 n4 i5 (((i0 <<< ((1 : Int32) &&& 31)) + (1 : Int32)) + (1 : Int32)) oa51))))))))))
noncomputable def fJ4_siftDownComparable_node (PL : Nat → Bool) (b0 : Nat) (V0 : Mem) (v1 : Mem) (i0 : Int32) (p1 : Nat) (p2 : Nat) (i3 : Int32) : Option (Mem) :=
  ob (fi b0 197 4 40 p1) fun nf1 =>
  lq6 (fJ4_siftDownComparable_node_11 PL b0 V0) FU v1 i0 p2 i3 nf1 (i3.toUInt32 >>> ((1 : Int32).toUInt32 &&& Int32.toUInt32 31)).toInt32
set_option maxHeartbeats 4000000 in
theorem w_fJ4_siftDownComparable_node_68 (C : Cx G p s m args meth c RJ4 cJ4_siftDownComparable 9 none) {b0 : Nat} {PL : Nat → Bool} {V0 : Mem} {vP0 : Mem} {rw1 : Mem} (hPX : ∀ z, PL z = true → ¬ fX b0 z) (hZP : ZP G) {k11 : Mem → Int32 → Nat → Int32 → Nat → Int32 → Option (Mem)} (hk11 : ∀ (v1 : Mem) (i0 : Int32) (p2 : Nat) (i3 : Int32) (n4 : Nat) (i5 : Int32), k11 v1 i0 p2 i3 n4 i5 = some rw1 → (hn_n4 : n4 < 40) → ∀ (H : Heap) (locs : List Loc) (ls : Array Slot), rg G b0 357 (shX0 G.2.1) V0 H → pl G PL v1 H → va_S (FA (fP PL vP0) s.heap.size) s.heap H locs → H.size = s.heap.size → KM vP0 v1 s.heap.size → lv_has ls 9 [(0, .int i0), (2, .ref p2), (3, .int i3), (4, .ref (b0 + (197 + 4 * n4 + 0))), (5, .int i5)] → W p l e (rmT 2 0 0 46) s m args below meth c H locs 0 0 (MQ below (QcT (FA (fP PL vP0) s.heap.size) (fun ov H => ov = none ∧ pl G PL rw1 H ∧ H.size = s.heap.size ∧ KM vP0 rw1 s.heap.size)) args s 0 0 (FA (fP PL vP0) s.heap.size)) (F0 m 11 ls [])) : ∀ (v1 : Mem) (i0 : Int32) (p2 : Nat) (i3 : Int32) (n4 : Nat) (i5 : Int32) (i6 : Int32) (o7 : Option Nat), fJ4_siftDownComparable_node_68 PL b0 V0 k11 v1 i0 p2 i3 n4 i5 i6 o7 = some rw1 → (hn_n4 : n4 < 40) → ∀ (H : Heap) (locs : List Loc) (ls : Array Slot), rg G b0 357 (shX0 G.2.1) V0 H → pl G PL v1 H → va_S (FA (fP PL vP0) s.heap.size) s.heap H locs → H.size = s.heap.size → KM vP0 v1 s.heap.size → lv_has ls 9 [(0, .int i0), (2, .ref p2), (3, .int i3), (4, .ref (b0 + (197 + 4 * n4 + 0))), (5, .int i5), (6, .int i6), (7, va_rf o7)] → W p l e (rmT 2 0 0 46) s m args below meth c H locs 0 0 (MQ below (QcT (FA (fP PL vP0) s.heap.size) (fun ov H => ov = none ∧ pl G PL rw1 H ∧ H.size = s.heap.size ∧ KM vP0 rw1 s.heap.size)) args s 0 0 (FA (fP PL vP0) s.heap.size)) (F0 m 68 ls []) := by
  intro v1 i0 p2 i3 n4 i5 i6 o7 hm hn_n4 H locs ls hW0 hW1 hS hz hKM hl
  obtain ⟨hx, hb, hr, hlk, hml, hown, hts, hK⟩ := id C
  unfold fJ4_siftDownComparable_node_68 at hm
  refine lv_aload (pc := 68) hx hb dJ4_siftDownComparable_68 (lv_at hl 3 rfl) ?_
  refine lv_aloadO (pc := 70) hx hb dJ4_siftDownComparable_70 (lv_at hl 6 rfl) ?_
  obtain ⟨pa80, he81, hm82⟩ := ob_some hm
  subst he81
  have hm := hm82
  obtain ⟨nf83, hf84, hm87⟩ := ob_some hm
  obtain ⟨ha85, hlt86⟩ := fi_some hf84
  subst ha85
  have hm := hm87
  obtain ⟨r88, hq89, hm⟩ := ob_some hm
  refine rp_PF (pc := 72) (As := [.ref (b0 + (197 + 4 * nf83 + 0))]) (rest := []) hx hb hml hown hts hK lfJ4_146_X8 ((hZP s hK).1.2.1) (T := TX8) (N := 8) (ci := 8) rfl ynx_J4_146 (ct_X8_compareTo (G := G) (l := l) (b0 := (b0 + (197 + 4 * n4 + 0))) (b1 := (b0 + (197 + 4 * nf83 + 0))) hq89) ⟨Nat.le_of_ble_eq_true rfl, Nat.le_of_ble_eq_true rfl⟩ (rk_recv hK hW0 (197 + 4 * n4 + 0) (by omega) rfl rfl ((shX0_f197 G.2.1 hn_n4 _ rfl 0 (by decide) _ _ _).trans rfl)) ⟨(rg_sub (d := (197 + 4 * n4)) hW0 rfl (by omega) (fun o ho x y z => shX0_f197 G.2.1 hn_n4 _ rfl o ho x y z)), (rg_sub (d := (197 + 4 * nf83)) hW0 rfl (by omega) (fun o ho x y z => shX0_f197 G.2.1 hlt86 _ rfl o ho x y z))⟩ rfl rfl hl.1 (Nat.le_of_ble_eq_true rfl) dJ4_siftDownComparable_72 ⟨Nat.zero_le _, Nat.zero_le _⟩ ?_
  refine W.eq (g2 := F0 m 77 ls [.int r88]) rfl ?_
  refine lv_if_gt (pc := 77) (tgt := 83) hx hb dJ4_siftDownComparable_77 (by decide) (fun c90 => ?_) (fun c90 => ?_)
  · have hm := ite_t c90 hm
    refine lv_aload_n (pc := 83) hx hb dJ4_siftDownComparable_83 rfl (lv_at hl 1 rfl) ?_
    refine lv_iload_n (pc := 84) hx hb dJ4_siftDownComparable_84 rfl (lv_at hl 0 rfl) ?_
    refine lv_aload (pc := 85) hx hb dJ4_siftDownComparable_85 (lv_at hl 6 rfl) ?_
    obtain ⟨hg91, hm⟩ := gb_some hm
    obtain ⟨hg92, hm⟩ := gb_some hm
    refine rp_aastR (pc := 87) (C := RX8) hx hb hts hK hW1 hS (kd_A hKM (ka_kd hg91) (by decide)) hg91 hg92 q2402 (rk_recv hK hW0 (197 + 4 * nf83 + 0) (by omega) rfl rfl ((shX0_f197 G.2.1 hlt86 _ rfl 0 (by decide) _ _ _).trans rfl)) dJ4_siftDownComparable_87 (fun H94 locs95 hW96 hS97 hz98 hkp99 => ?_)
    have hKM100 := KM.sR (o := p2) (j := i0.toNatClampNeg) (x := (some (b0 + (197 + 4 * nf83 + 0)))) hKM
    obtain ⟨v1_93, he9, hm⟩ := lm_some hm
    rw [he9] at hW96 hKM100
    have hW101 := rg_keepqX hW0 hkp99 (hPX _ (kd_PL (ka_kd hg91)))
    have hz102 := hz98.trans hz
    refine lv_iload (pc := 88) hx hb dJ4_siftDownComparable_88 (lv_at hl 5 rfl) ?_
    refine lv_istore_n (pc := 90) (lv' := [(0, .int i6), (2, .ref p2), (3, .int i3), (4, .ref (b0 + (197 + 4 * n4 + 0))), (5, .int i5), (6, .int i6), (7, .ref (b0 + (197 + 4 * nf83 + 0)))]) hx hb dJ4_siftDownComparable_90 rfl hl (by decide) rfl (fun ls hl => ?_)
    refine lv_goto (pc := 91) (tgt := 11) hx hb dJ4_siftDownComparable_91 (by decide) ?_
    exact hk11 v1_93 i6 p2 i3 n4 i5 hm hn_n4 H94 locs95 ls hW101 hW96 hS97 hz102 hKM100 (lv_sub hl [0, 1, 2, 3, 4] rfl)
  · have hm := ite_f c90 hm
    refine lv_goto (pc := 80) (tgt := 94) hx hb dJ4_siftDownComparable_80 (by decide) ?_
    refine lv_aload_n (pc := 94) hx hb dJ4_siftDownComparable_94 rfl (lv_at hl 1 rfl) ?_
    refine lv_iload_n (pc := 95) hx hb dJ4_siftDownComparable_95 rfl (lv_at hl 0 rfl) ?_
    refine lv_aload (pc := 96) hx hb dJ4_siftDownComparable_96 (lv_at hl 3 rfl) ?_
    obtain ⟨hg103, hm⟩ := gb_some hm
    obtain ⟨hg104, hm⟩ := gb_some hm
    refine rp_aastR (pc := 98) (C := RX8) hx hb hts hK hW1 hS (kd_A hKM (ka_kd hg103) (by decide)) hg103 hg104 q2402 (rk_recv hK hW0 (197 + 4 * n4 + 0) (by omega) rfl rfl ((shX0_f197 G.2.1 hn_n4 _ rfl 0 (by decide) _ _ _).trans rfl)) dJ4_siftDownComparable_98 (fun H106 locs107 hW108 hS109 hz110 hkp111 => ?_)
    have hKM112 := KM.sR (o := p2) (j := i0.toNatClampNeg) (x := (some (b0 + (197 + 4 * n4 + 0)))) hKM
    obtain ⟨v1_105, he9, hm⟩ := lm_some hm
    rw [he9] at hW108 hKM112
    have hW113 := rg_keepqX hW0 hkp111 (hPX _ (kd_PL (ka_kd hg103)))
    have hz114 := hz110.trans hz
    have e9 := rs1 hm
    subst e9
    exact rk_vret (pc := 99) hx hb hr hlk hS109 ⟨rfl, hW108, hz114, hKM112⟩ dJ4_siftDownComparable_99
set_option maxHeartbeats 4000000 in
theorem w_fJ4_siftDownComparable_node_68b (C : Cx G p s m args meth c RJ4 cJ4_siftDownComparable 9 none) {b0 : Nat} {PL : Nat → Bool} {V0 : Mem} {vP0 : Mem} {rw1 : Mem} (hPX : ∀ z, PL z = true → ¬ fX b0 z) (hZP : ZP G) {k11 : Mem → Int32 → Nat → Int32 → Nat → Int32 → Option (Mem)} (hk11 : ∀ (v1 : Mem) (i0 : Int32) (p2 : Nat) (i3 : Int32) (n4 : Nat) (i5 : Int32), k11 v1 i0 p2 i3 n4 i5 = some rw1 → (hn_n4 : n4 < 40) → ∀ (H : Heap) (locs : List Loc) (ls : Array Slot), rg G b0 357 (shX0 G.2.1) V0 H → pl G PL v1 H → va_S (FA (fP PL vP0) s.heap.size) s.heap H locs → H.size = s.heap.size → KM vP0 v1 s.heap.size → lv_has ls 9 [(0, .int i0), (2, .ref p2), (3, .int i3), (4, .ref (b0 + (197 + 4 * n4 + 0))), (5, .int i5)] → W p l e (rmT 2 0 0 46) s m args below meth c H locs 0 0 (MQ below (QcT (FA (fP PL vP0) s.heap.size) (fun ov H => ov = none ∧ pl G PL rw1 H ∧ H.size = s.heap.size ∧ KM vP0 rw1 s.heap.size)) args s 0 0 (FA (fP PL vP0) s.heap.size)) (F0 m 11 ls [])) : ∀ (v1 : Mem) (i0 : Int32) (p2 : Nat) (i3 : Int32) (n4 : Nat) (i5 : Int32) (i6 : Int32) (n7 : Nat), fJ4_siftDownComparable_node_68b PL b0 V0 k11 v1 i0 p2 i3 n4 i5 i6 n7 = some rw1 → (hn_n4 : n4 < 40) → (hn_n7 : n7 < 40) → ∀ (H : Heap) (locs : List Loc) (ls : Array Slot), rg G b0 357 (shX0 G.2.1) V0 H → pl G PL v1 H → va_S (FA (fP PL vP0) s.heap.size) s.heap H locs → H.size = s.heap.size → KM vP0 v1 s.heap.size → lv_has ls 9 [(0, .int i0), (2, .ref p2), (3, .int i3), (4, .ref (b0 + (197 + 4 * n4 + 0))), (5, .int i5), (6, .int i6), (7, .ref (b0 + (197 + 4 * n7 + 0)))] → W p l e (rmT 2 0 0 46) s m args below meth c H locs 0 0 (MQ below (QcT (FA (fP PL vP0) s.heap.size) (fun ov H => ov = none ∧ pl G PL rw1 H ∧ H.size = s.heap.size ∧ KM vP0 rw1 s.heap.size)) args s 0 0 (FA (fP PL vP0) s.heap.size)) (F0 m 68 ls []) := by
  intro v1 i0 p2 i3 n4 i5 i6 n7 hm hn_n4 hn_n7 H locs ls hW0 hW1 hS hz hKM hl
  obtain ⟨hx, hb, hr, hlk, hml, hown, hts, hK⟩ := id C
  unfold fJ4_siftDownComparable_node_68b at hm
  refine lv_aload (pc := 68) hx hb dJ4_siftDownComparable_68 (lv_at hl 3 rfl) ?_
  refine lv_aload (pc := 70) hx hb dJ4_siftDownComparable_70 (lv_at hl 6 rfl) ?_
  obtain ⟨r53, hq54, hm⟩ := ob_some hm
  refine rp_PF (pc := 72) (As := [.ref (b0 + (197 + 4 * n7 + 0))]) (rest := []) hx hb hml hown hts hK lfJ4_146_X8 ((hZP s hK).1.2.1) (T := TX8) (N := 8) (ci := 8) rfl ynx_J4_146 (ct_X8_compareTo (G := G) (l := l) (b0 := (b0 + (197 + 4 * n4 + 0))) (b1 := (b0 + (197 + 4 * n7 + 0))) hq54) ⟨Nat.le_of_ble_eq_true rfl, Nat.le_of_ble_eq_true rfl⟩ (rk_recv hK hW0 (197 + 4 * n4 + 0) (by omega) rfl rfl ((shX0_f197 G.2.1 hn_n4 _ rfl 0 (by decide) _ _ _).trans rfl)) ⟨(rg_sub (d := (197 + 4 * n4)) hW0 rfl (by omega) (fun o ho x y z => shX0_f197 G.2.1 hn_n4 _ rfl o ho x y z)), (rg_sub (d := (197 + 4 * n7)) hW0 rfl (by omega) (fun o ho x y z => shX0_f197 G.2.1 hn_n7 _ rfl o ho x y z))⟩ rfl rfl hl.1 (Nat.le_of_ble_eq_true rfl) dJ4_siftDownComparable_72 ⟨Nat.zero_le _, Nat.zero_le _⟩ ?_
  refine W.eq (g2 := F0 m 77 ls [.int r53]) rfl ?_
  refine lv_if_gt (pc := 77) (tgt := 83) hx hb dJ4_siftDownComparable_77 (by decide) (fun c55 => ?_) (fun c55 => ?_)
  · have hm := ite_t c55 hm
    refine lv_aload_n (pc := 83) hx hb dJ4_siftDownComparable_83 rfl (lv_at hl 1 rfl) ?_
    refine lv_iload_n (pc := 84) hx hb dJ4_siftDownComparable_84 rfl (lv_at hl 0 rfl) ?_
    refine lv_aload (pc := 85) hx hb dJ4_siftDownComparable_85 (lv_at hl 6 rfl) ?_
    obtain ⟨hg56, hm⟩ := gb_some hm
    obtain ⟨hg57, hm⟩ := gb_some hm
    refine rp_aastR (pc := 87) (C := RX8) hx hb hts hK hW1 hS (kd_A hKM (ka_kd hg56) (by decide)) hg56 hg57 q2402 (rk_recv hK hW0 (197 + 4 * n7 + 0) (by omega) rfl rfl ((shX0_f197 G.2.1 hn_n7 _ rfl 0 (by decide) _ _ _).trans rfl)) dJ4_siftDownComparable_87 (fun H59 locs60 hW61 hS62 hz63 hkp64 => ?_)
    have hKM65 := KM.sR (o := p2) (j := i0.toNatClampNeg) (x := (some (b0 + (197 + 4 * n7 + 0)))) hKM
    obtain ⟨v1_58, he9, hm⟩ := lm_some hm
    rw [he9] at hW61 hKM65
    have hW66 := rg_keepqX hW0 hkp64 (hPX _ (kd_PL (ka_kd hg56)))
    have hz67 := hz63.trans hz
    refine lv_iload (pc := 88) hx hb dJ4_siftDownComparable_88 (lv_at hl 5 rfl) ?_
    refine lv_istore_n (pc := 90) (lv' := [(0, .int i6), (2, .ref p2), (3, .int i3), (4, .ref (b0 + (197 + 4 * n4 + 0))), (5, .int i5), (6, .int i6), (7, .ref (b0 + (197 + 4 * n7 + 0)))]) hx hb dJ4_siftDownComparable_90 rfl hl (by decide) rfl (fun ls hl => ?_)
    refine lv_goto (pc := 91) (tgt := 11) hx hb dJ4_siftDownComparable_91 (by decide) ?_
    exact hk11 v1_58 i6 p2 i3 n4 i5 hm hn_n4 H59 locs60 ls hW66 hW61 hS62 hz67 hKM65 (lv_sub hl [0, 1, 2, 3, 4] rfl)
  · have hm := ite_f c55 hm
    refine lv_goto (pc := 80) (tgt := 94) hx hb dJ4_siftDownComparable_80 (by decide) ?_
    refine lv_aload_n (pc := 94) hx hb dJ4_siftDownComparable_94 rfl (lv_at hl 1 rfl) ?_
    refine lv_iload_n (pc := 95) hx hb dJ4_siftDownComparable_95 rfl (lv_at hl 0 rfl) ?_
    refine lv_aload (pc := 96) hx hb dJ4_siftDownComparable_96 (lv_at hl 3 rfl) ?_
    obtain ⟨hg68, hm⟩ := gb_some hm
    obtain ⟨hg69, hm⟩ := gb_some hm
    refine rp_aastR (pc := 98) (C := RX8) hx hb hts hK hW1 hS (kd_A hKM (ka_kd hg68) (by decide)) hg68 hg69 q2402 (rk_recv hK hW0 (197 + 4 * n4 + 0) (by omega) rfl rfl ((shX0_f197 G.2.1 hn_n4 _ rfl 0 (by decide) _ _ _).trans rfl)) dJ4_siftDownComparable_98 (fun H71 locs72 hW73 hS74 hz75 hkp76 => ?_)
    have hKM77 := KM.sR (o := p2) (j := i0.toNatClampNeg) (x := (some (b0 + (197 + 4 * n4 + 0)))) hKM
    obtain ⟨v1_70, he9, hm⟩ := lm_some hm
    rw [he9] at hW73 hKM77
    have hW78 := rg_keepqX hW0 hkp76 (hPX _ (kd_PL (ka_kd hg68)))
    have hz79 := hz75.trans hz
    have e9 := rs1 hm
    subst e9
    exact rk_vret (pc := 99) hx hb hr hlk hS74 ⟨rfl, hW73, hz79, hKM77⟩ dJ4_siftDownComparable_99
set_option maxHeartbeats 4000000 in
theorem w_fJ4_siftDownComparable_node_11 (C : Cx G p s m args meth c RJ4 cJ4_siftDownComparable 9 none) {b0 : Nat} {PL : Nat → Bool} {V0 : Mem} {vP0 : Mem} {rw1 : Mem} (hPX : ∀ z, PL z = true → ¬ fX b0 z) (hZP : ZP G) {k11 : Mem → Int32 → Nat → Int32 → Nat → Int32 → Option (Mem)} (hk11 : ∀ (v1 : Mem) (i0 : Int32) (p2 : Nat) (i3 : Int32) (n4 : Nat) (i5 : Int32), k11 v1 i0 p2 i3 n4 i5 = some rw1 → (hn_n4 : n4 < 40) → ∀ (H : Heap) (locs : List Loc) (ls : Array Slot), rg G b0 357 (shX0 G.2.1) V0 H → pl G PL v1 H → va_S (FA (fP PL vP0) s.heap.size) s.heap H locs → H.size = s.heap.size → KM vP0 v1 s.heap.size → lv_has ls 9 [(0, .int i0), (2, .ref p2), (3, .int i3), (4, .ref (b0 + (197 + 4 * n4 + 0))), (5, .int i5)] → W p l e (rmT 2 0 0 46) s m args below meth c H locs 0 0 (MQ below (QcT (FA (fP PL vP0) s.heap.size) (fun ov H => ov = none ∧ pl G PL rw1 H ∧ H.size = s.heap.size ∧ KM vP0 rw1 s.heap.size)) args s 0 0 (FA (fP PL vP0) s.heap.size)) (F0 m 11 ls [])) : ∀ (v1 : Mem) (i0 : Int32) (p2 : Nat) (i3 : Int32) (n4 : Nat) (i5 : Int32), fJ4_siftDownComparable_node_11 PL b0 V0 k11 v1 i0 p2 i3 n4 i5 = some rw1 → (hn_n4 : n4 < 40) → ∀ (H : Heap) (locs : List Loc) (ls : Array Slot), rg G b0 357 (shX0 G.2.1) V0 H → pl G PL v1 H → va_S (FA (fP PL vP0) s.heap.size) s.heap H locs → H.size = s.heap.size → KM vP0 v1 s.heap.size → lv_has ls 9 [(0, .int i0), (2, .ref p2), (3, .int i3), (4, .ref (b0 + (197 + 4 * n4 + 0))), (5, .int i5)] → W p l e (rmT 2 0 0 46) s m args below meth c H locs 0 0 (MQ below (QcT (FA (fP PL vP0) s.heap.size) (fun ov H => ov = none ∧ pl G PL rw1 H ∧ H.size = s.heap.size ∧ KM vP0 rw1 s.heap.size)) args s 0 0 (FA (fP PL vP0) s.heap.size)) (F0 m 11 ls []) := by
  intro v1 i0 p2 i3 n4 i5 hm hn_n4 H locs ls hW0 hW1 hS hz hKM hl
  obtain ⟨hx, hb, hr, hlk, hml, hown, hts, hK⟩ := id C
  unfold fJ4_siftDownComparable_node_11 at hm
  refine lv_iload_n (pc := 11) hx hb dJ4_siftDownComparable_11 rfl (lv_at hl 0 rfl) ?_
  refine lv_iload (pc := 12) hx hb dJ4_siftDownComparable_12 (lv_at hl 4 rfl) ?_
  refine lv_icmp_ge (pc := 14) (tgt := 94) hx hb dJ4_siftDownComparable_14 (by decide) (fun c6 => ?_) (fun c6 => ?_)
  · have hm := ite_t c6 hm
    refine lv_aload_n (pc := 94) hx hb dJ4_siftDownComparable_94 rfl (lv_at hl 1 rfl) ?_
    refine lv_iload_n (pc := 95) hx hb dJ4_siftDownComparable_95 rfl (lv_at hl 0 rfl) ?_
    refine lv_aload (pc := 96) hx hb dJ4_siftDownComparable_96 (lv_at hl 3 rfl) ?_
    obtain ⟨hg7, hm⟩ := gb_some hm
    obtain ⟨hg8, hm⟩ := gb_some hm
    refine rp_aastR (pc := 98) (C := RX8) hx hb hts hK hW1 hS (kd_A hKM (ka_kd hg7) (by decide)) hg7 hg8 q2402 (rk_recv hK hW0 (197 + 4 * n4 + 0) (by omega) rfl rfl ((shX0_f197 G.2.1 hn_n4 _ rfl 0 (by decide) _ _ _).trans rfl)) dJ4_siftDownComparable_98 (fun H10 locs11 hW12 hS13 hz14 hkp15 => ?_)
    have hKM16 := KM.sR (o := p2) (j := i0.toNatClampNeg) (x := (some (b0 + (197 + 4 * n4 + 0)))) hKM
    obtain ⟨v1_9, he9, hm⟩ := lm_some hm
    rw [he9] at hW12 hKM16
    have hW17 := rg_keepqX hW0 hkp15 (hPX _ (kd_PL (ka_kd hg7)))
    have hz18 := hz14.trans hz
    have e9 := rs1 hm
    subst e9
    exact rk_vret (pc := 99) hx hb hr hlk hS13 ⟨rfl, hW12, hz18, hKM16⟩ dJ4_siftDownComparable_99
  · have hm := ite_f c6 hm
    refine lv_iload_n (pc := 17) hx hb dJ4_siftDownComparable_17 rfl (lv_at hl 0 rfl) ?_
    refine lv_iconst (pc := 18) (v := (1 : Int32)) hx hb dJ4_siftDownComparable_18 (by decide) ?_
    refine lv_ishl (pc := 19) hx hb dJ4_siftDownComparable_19 ?_
    refine lv_iconst (pc := 20) (v := (1 : Int32)) hx hb dJ4_siftDownComparable_20 (by decide) ?_
    refine lv_iadd (pc := 21) hx hb dJ4_siftDownComparable_21 ?_
    refine lv_istore (pc := 22) (lv' := [(6, .int ((i0 <<< ((1 : Int32) &&& 31)) + (1 : Int32))), (0, .int i0), (2, .ref p2), (3, .int i3), (4, .ref (b0 + (197 + 4 * n4 + 0))), (5, .int i5)]) hx hb dJ4_siftDownComparable_22 hl (by decide) rfl (fun ls hl => ?_)
    refine lv_aload_n (pc := 24) hx hb dJ4_siftDownComparable_24 rfl (lv_at hl 2 rfl) ?_
    refine lv_iload (pc := 25) hx hb dJ4_siftDownComparable_25 (lv_at hl 0 rfl) ?_
    obtain ⟨hg19, hm⟩ := gb_some hm
    obtain ⟨hg20, hm⟩ := gb_some hm
    obtain ⟨oa21, he22, hm⟩ := lo_some hm
    refine rp_aald (pc := 27) hx hb hK hW1 hg19 hg20 he22 dJ4_siftDownComparable_27 ?_
    refine lv_astoreO (pc := 28) (lv' := [(7, va_rf oa21), (6, .int ((i0 <<< ((1 : Int32) &&& 31)) + (1 : Int32))), (0, .int i0), (2, .ref p2), (3, .int i3), (4, .ref (b0 + (197 + 4 * n4 + 0))), (5, .int i5)]) hx hb dJ4_siftDownComparable_28 hl (by decide) rfl (fun ls hl => ?_)
    refine lv_iload (pc := 30) hx hb dJ4_siftDownComparable_30 (lv_at hl 1 rfl) ?_
    refine lv_iconst (pc := 32) (v := (1 : Int32)) hx hb dJ4_siftDownComparable_32 (by decide) ?_
    refine lv_iadd (pc := 33) hx hb dJ4_siftDownComparable_33 ?_
    refine lv_istore (pc := 34) (lv' := [(8, .int (((i0 <<< ((1 : Int32) &&& 31)) + (1 : Int32)) + (1 : Int32))), (7, va_rf oa21), (6, .int ((i0 <<< ((1 : Int32) &&& 31)) + (1 : Int32))), (0, .int i0), (2, .ref p2), (3, .int i3), (4, .ref (b0 + (197 + 4 * n4 + 0))), (5, .int i5)]) hx hb dJ4_siftDownComparable_34 hl (by decide) (by simp [List.filter, cat_rf]) (fun ls hl => ?_)
    refine lv_iload (pc := 36) hx hb dJ4_siftDownComparable_36 (lv_at hl 0 rfl) ?_
    refine lv_iload_n (pc := 38) hx hb dJ4_siftDownComparable_38 rfl (lv_at hl 5 rfl) ?_
    refine lv_icmp_ge (pc := 39) (tgt := 68) hx hb dJ4_siftDownComparable_39 (by decide) (fun c23 => ?_) (fun c23 => ?_)
    · have hm := ite_t c23 hm
      exact (w_fJ4_siftDownComparable_node_68 C hPX hZP hk11) v1 i0 p2 i3 n4 i5 ((i0 <<< ((1 : Int32) &&& 31)) + (1 : Int32)) oa21 hm hn_n4 H locs ls hW0 hW1 hS hz hKM (lv_sub hl [3, 4, 5, 6, 7, 2, 1] rfl)
    · have hm := ite_f c23 hm
      refine lv_aloadO (pc := 42) hx hb dJ4_siftDownComparable_42 (lv_at hl 1 rfl) ?_
      rcases oa21 with _ | pa24
      · have hm := od_n hm
        refine lv_castN (pc := 44) hx hb dJ4_siftDownComparable_44 ?_
        refine lv_aload_n (pc := 47) hx hb dJ4_siftDownComparable_47 rfl (lv_at hl 4 rfl) ?_
        refine lv_iload (pc := 48) hx hb dJ4_siftDownComparable_48 (lv_at hl 0 rfl) ?_
        obtain ⟨hg25, hm⟩ := gb_some hm
        obtain ⟨hg26, hm⟩ := gb_some hm
        obtain ⟨oa27, he28, hm⟩ := lo_some hm
        refine rp_aald (pc := 50) hx hb hK hW1 hg25 hg26 he28 dJ4_siftDownComparable_50 ?_
        exact nomatch hm
      · have hm := od_s hm
        obtain ⟨nf29, hf30, hm33⟩ := ob_some hm
        obtain ⟨ha31, hlt32⟩ := fi_some hf30
        subst ha31
        have hm := hm33
        refine rp_castY (pc := 44) (nm := "java/lang/Comparable") (C := RX8) hx hb hown hts hK q1099 q1115 (rk_recv hK hW0 (197 + 4 * nf29 + 0) (by omega) rfl rfl ((shX0_f197 G.2.1 hlt32 _ rfl 0 (by decide) _ _ _).trans rfl)) dJ4_siftDownComparable_44 ?_
        refine lv_aload_n (pc := 47) hx hb dJ4_siftDownComparable_47 rfl (lv_at hl 4 rfl) ?_
        refine lv_iload (pc := 48) hx hb dJ4_siftDownComparable_48 (lv_at hl 0 rfl) ?_
        obtain ⟨hg34, hm⟩ := gb_some hm
        obtain ⟨hg35, hm⟩ := gb_some hm
        obtain ⟨oa36, he37, hm⟩ := lo_some hm
        refine rp_aald (pc := 50) hx hb hK hW1 hg34 hg35 he37 dJ4_siftDownComparable_50 ?_
        obtain ⟨pa38, he39, hm40⟩ := ob_some hm
        subst he39
        have hm := hm40
        obtain ⟨nf41, hf42, hm45⟩ := ob_some hm
        obtain ⟨ha43, hlt44⟩ := fi_some hf42
        subst ha43
        have hm := hm45
        obtain ⟨r46, hq47, hm⟩ := ob_some hm
        refine rp_PF (pc := 51) (As := [.ref (b0 + (197 + 4 * nf41 + 0))]) (rest := []) hx hb hml hown hts hK lfJ4_146_X8 ((hZP s hK).1.2.1) (T := TX8) (N := 8) (ci := 8) rfl ynx_J4_146 (ct_X8_compareTo (G := G) (l := l) (b0 := (b0 + (197 + 4 * nf29 + 0))) (b1 := (b0 + (197 + 4 * nf41 + 0))) hq47) ⟨Nat.le_of_ble_eq_true rfl, Nat.le_of_ble_eq_true rfl⟩ (rk_recv hK hW0 (197 + 4 * nf29 + 0) (by omega) rfl rfl ((shX0_f197 G.2.1 hlt32 _ rfl 0 (by decide) _ _ _).trans rfl)) ⟨(rg_sub (d := (197 + 4 * nf29)) hW0 rfl (by omega) (fun o ho x y z => shX0_f197 G.2.1 hlt32 _ rfl o ho x y z)), (rg_sub (d := (197 + 4 * nf41)) hW0 rfl (by omega) (fun o ho x y z => shX0_f197 G.2.1 hlt44 _ rfl o ho x y z))⟩ rfl rfl hl.1 (Nat.le_of_ble_eq_true rfl) dJ4_siftDownComparable_51 ⟨Nat.zero_le _, Nat.zero_le _⟩ ?_
        refine W.eq (g2 := F0 m 56 ls [.int r46]) rfl ?_
        refine lv_if_le (pc := 56) (tgt := 68) hx hb dJ4_siftDownComparable_56 (by decide) (fun c48 => ?_) (fun c48 => ?_)
        · have hm := ite_t c48 hm
          exact (w_fJ4_siftDownComparable_node_68b C hPX hZP hk11) v1 i0 p2 i3 n4 i5 ((i0 <<< ((1 : Int32) &&& 31)) + (1 : Int32)) nf29 hm hn_n4 hlt32 H locs ls hW0 hW1 hS hz hKM (lv_sub hl [3, 4, 5, 6, 7, 2, 1] rfl)
        · have hm := ite_f c48 hm
          refine lv_aload_n (pc := 59) hx hb dJ4_siftDownComparable_59 rfl (lv_at hl 4 rfl) ?_
          refine lv_iload (pc := 60) hx hb dJ4_siftDownComparable_60 (lv_at hl 0 rfl) ?_
          refine lv_dup (pc := 62) hx hb dJ4_siftDownComparable_62 rfl ?_
          refine lv_istore (pc := 63) (lv' := [(6, .int (((i0 <<< ((1 : Int32) &&& 31)) + (1 : Int32)) + (1 : Int32))), (8, .int (((i0 <<< ((1 : Int32) &&& 31)) + (1 : Int32)) + (1 : Int32))), (7, .ref (b0 + (197 + 4 * nf29 + 0))), (0, .int i0), (2, .ref p2), (3, .int i3), (4, .ref (b0 + (197 + 4 * n4 + 0))), (5, .int i5)]) hx hb dJ4_siftDownComparable_63 hl (by decide) rfl (fun ls hl => ?_)
          obtain ⟨hg49, hm⟩ := gb_some hm
          obtain ⟨hg50, hm⟩ := gb_some hm
          obtain ⟨oa51, he52, hm⟩ := lo_some hm
          refine rp_aald (pc := 65) hx hb hK hW1 hg49 hg50 he52 dJ4_siftDownComparable_65 ?_
          refine lv_astoreO (pc := 66) (lv' := [(7, va_rf oa51), (6, .int (((i0 <<< ((1 : Int32) &&& 31)) + (1 : Int32)) + (1 : Int32))), (8, .int (((i0 <<< ((1 : Int32) &&& 31)) + (1 : Int32)) + (1 : Int32))), (0, .int i0), (2, .ref p2), (3, .int i3), (4, .ref (b0 + (197 + 4 * n4 + 0))), (5, .int i5)]) hx hb dJ4_siftDownComparable_66 hl (by decide) rfl (fun ls hl => ?_)
          exact (w_fJ4_siftDownComparable_node_68 C hPX hZP hk11) v1 i0 p2 i3 n4 i5 (((i0 <<< ((1 : Int32) &&& 31)) + (1 : Int32)) + (1 : Int32)) oa51 hm hn_n4 H locs ls hW0 hW1 hS hz hKM (lv_sub hl [3, 4, 5, 6, 7, 1, 0] rfl)
theorem w_fJ4_siftDownComparable_node_11_l (C : Cx G p s m args meth c RJ4 cJ4_siftDownComparable 9 none) {b0 : Nat} {PL : Nat → Bool} {V0 : Mem} {vP0 : Mem} {rw1 : Mem} (hPX : ∀ z, PL z = true → ¬ fX b0 z) (hZP : ZP G) : ∀ (n : Nat) (v1 : Mem) (i0 : Int32) (p2 : Nat) (i3 : Int32) (n4 : Nat) (i5 : Int32), lq6 (fJ4_siftDownComparable_node_11 PL b0 V0) n v1 i0 p2 i3 n4 i5 = some rw1 → (hn_n4 : n4 < 40) → ∀ (H : Heap) (locs : List Loc) (ls : Array Slot), rg G b0 357 (shX0 G.2.1) V0 H → pl G PL v1 H → va_S (FA (fP PL vP0) s.heap.size) s.heap H locs → H.size = s.heap.size → KM vP0 v1 s.heap.size → lv_has ls 9 [(0, .int i0), (2, .ref p2), (3, .int i3), (4, .ref (b0 + (197 + 4 * n4 + 0))), (5, .int i5)] → W p l e (rmT 2 0 0 46) s m args below meth c H locs 0 0 (MQ below (QcT (FA (fP PL vP0) s.heap.size) (fun ov H => ov = none ∧ pl G PL rw1 H ∧ H.size = s.heap.size ∧ KM vP0 rw1 s.heap.size)) args s 0 0 (FA (fP PL vP0) s.heap.size)) (F0 m 11 ls []) := by
  intro n
  induction n with
  | zero => intro v1 i0 p2 i3 n4 i5 hm; exact (lq6_0 hm).elim
  | succ n ih => intro v1 i0 p2 i3 n4 i5 hm; exact w_fJ4_siftDownComparable_node_11 C hPX hZP ih v1 i0 p2 i3 n4 i5 (lq6_s hm)
set_option maxHeartbeats 4000000 in
theorem w_fJ4_siftDownComparable_node (C : Cx G p s m args meth c RJ4 cJ4_siftDownComparable 9 none) {b0 : Nat} {PL : Nat → Bool} {V0 : Mem} {vP0 : Mem} {rw1 : Mem} (hPX : ∀ z, PL z = true → ¬ fX b0 z) (hZP : ZP G) : ∀ (v1 : Mem) (i0 : Int32) (p1 : Nat) (p2 : Nat) (i3 : Int32), fJ4_siftDownComparable_node PL b0 V0 v1 i0 p1 p2 i3 = some rw1 → ∀ (H : Heap) (locs : List Loc) (ls : Array Slot), rg G b0 357 (shX0 G.2.1) V0 H → pl G PL v1 H → va_S (FA (fP PL vP0) s.heap.size) s.heap H locs → H.size = s.heap.size → KM vP0 v1 s.heap.size → lv_has ls 9 [(0, .int i0), (1, .ref p1), (2, .ref p2), (3, .int i3)] → W p l e (rmT 2 0 0 46) s m args below meth c H locs 0 0 (MQ below (QcT (FA (fP PL vP0) s.heap.size) (fun ov H => ov = none ∧ pl G PL rw1 H ∧ H.size = s.heap.size ∧ KM vP0 rw1 s.heap.size)) args s 0 0 (FA (fP PL vP0) s.heap.size)) (F0 m 0 ls []) := by
  intro v1 i0 p1 p2 i3 hm H locs ls hW0 hW1 hS hz hKM hl
  obtain ⟨hx, hb, hr, hlk, hml, hown, hts, hK⟩ := id C
  unfold fJ4_siftDownComparable_node at hm
  refine lv_aload_n (pc := 0) hx hb dJ4_siftDownComparable_0 rfl (lv_at hl 1 rfl) ?_
  obtain ⟨nf1, hf2, hm5⟩ := ob_some hm
  obtain ⟨ha3, hlt4⟩ := fi_some hf2
  subst ha3
  have hm := hm5
  refine rp_castY (pc := 1) (nm := "java/lang/Comparable") (C := RX8) hx hb hown hts hK q1099 q1115 (rk_recv hK hW0 (197 + 4 * nf1 + 0) (by omega) rfl rfl ((shX0_f197 G.2.1 hlt4 _ rfl 0 (by decide) _ _ _).trans rfl)) dJ4_siftDownComparable_1 ?_
  refine lv_astore (pc := 4) (lv' := [(4, .ref (b0 + (197 + 4 * nf1 + 0))), (0, .int i0), (1, .ref (b0 + (197 + 4 * nf1 + 0))), (2, .ref p2), (3, .int i3)]) hx hb dJ4_siftDownComparable_4 hl (by decide) rfl (fun ls hl => ?_)
  refine lv_iload_n (pc := 6) hx hb dJ4_siftDownComparable_6 rfl (lv_at hl 4 rfl) ?_
  refine lv_iconst (pc := 7) (v := (1 : Int32)) hx hb dJ4_siftDownComparable_7 (by decide) ?_
  refine lv_iushr (pc := 8) hx hb dJ4_siftDownComparable_8 rfl ?_
  refine lv_istore (pc := 9) (lv' := [(5, .int (i3.toUInt32 >>> ((1 : Int32).toUInt32 &&& Int32.toUInt32 31)).toInt32), (4, .ref (b0 + (197 + 4 * nf1 + 0))), (0, .int i0), (1, .ref (b0 + (197 + 4 * nf1 + 0))), (2, .ref p2), (3, .int i3)]) hx hb dJ4_siftDownComparable_9 hl (by decide) rfl (fun ls hl => ?_)
  exact (w_fJ4_siftDownComparable_node_11_l C hPX hZP FU) v1 i0 p2 i3 nf1 (i3.toUInt32 >>> ((1 : Int32).toUInt32 &&& Int32.toUInt32 31)).toInt32 hm hlt4 H locs ls hW0 hW1 hS hz hKM (lv_sub hl [2, 4, 5, 1, 0] rfl)
set_option maxHeartbeats 4000000 in
theorem ct_J4_siftDownComparable_node {G : Gv} {l : Launch} {b0 : Nat} {PL : Nat → Bool} {V0 : Mem} {v1 : Mem} {i0 : Int32} {p1 : Nat} {p2 : Nat} {i3 : Int32} {rw1 : Mem} {sz : Nat} (hm : fJ4_siftDownComparable_node PL b0 V0 v1 i0 p1 p2 i3 = some rw1) (hPX : ∀ z, PL z = true → ¬ fX b0 z) (hZP : ZP G) : CT G l yJ4_siftDownComparable (ws_ yJ4_siftDownComparable cJ4_siftDownComparable 9 none) 2 0 0 46 [.int i0, .ref p1, .ref p2, .int i3] (fP PL v1) sz (fun H => rg G b0 357 (shX0 G.2.1) V0 H ∧ pl G PL v1 H) (fun ov H => ov = none ∧ pl G PL rw1 H ∧ H.size = sz ∧ KM v1 rw1 sz) := by
  refine Met.ofW (cc := cJ4_siftDownComparable) (maxL := 9) (ret := none) (by decide +kernel) rfl ?_
  intro p e s m args below meth c s₁ B hml hv
  obtain ⟨rfl, ⟨hz, hW0, hW1⟩, hK⟩ := hv
  subst hz
  have hts := atoms_spec (ws := ws_ yJ4_siftDownComparable cJ4_siftDownComparable 9 none) B.pre
  have hts : ∀ w ∈ lw_all, w.before _ s = true := fun w h => hts w (List.mem_cons_of_mem _ h)
  have C : Cx G p s m _ meth c RJ4 cJ4_siftDownComparable 9 none := ⟨B.exec, B.bytes, B.returns, B.notSynchronized, hml, findClass_of_methodNamed B.named, hts, hK⟩
  have hl := lv_entry ([.int i0, .ref p1, .ref p2, .int i3]) (n := 9) (Nat.le_of_ble_eq_true rfl)
  rw [lg_entry_eq]
  generalize (lg_sl ([.int i0, .ref p1, .ref p2, .int i3]) ++ List.replicate (9 - (lg_sl ([.int i0, .ref p1, .ref p2, .int i3])).length) Slot.unset).toArray = ls at hl ⊢
  have hl : lv_has ls 9 [(0, .int i0), (1, .ref p1), (2, .ref p2), (3, .int i3)] := hl
  exact w_fJ4_siftDownComparable_node C hPX hZP _ _ _ _ _ hm s.heap [] ls hW0 hW1 va_S.rf rfl KM.rf hl
theorem yn_J4_siftDownComparable : YN yJ4_siftDownComparable 4 := by
  unfold YN
  decide +kernel
theorem lkJ4_125 : LSt RJ4 125 yJ4_siftDownComparable cJ4_siftDownComparable 9 none := ⟨q1135, q1136, q123, q1137⟩
noncomputable def fJ4_poll_node (PL : Nat → Bool) (b0 : Nat) (V0 : Mem) (v1 : Mem) (p0 : Nat) : Option (Option Nat × Mem) :=
  gb (kd PL v1 p0 17) (
  lo (gR v1 p0 0) fun oa2 =>
  ob oa2 fun pa4 =>
  gb (ka PL v1 pa4 44) (
  gb (inR (0 : Int32) (gI v1 pa4 98).toNatClampNeg) (
  lo (gR v1 pa4 (0 : Int32).toNatClampNeg) fun oa9 =>
  od oa9 (
  some (none, v1)) (fun pa11 =>
  gb (kd PL v1 p0 17) (
  gb (kd PL v1 p0 17) (
  lm (sI v1 p0 3 ((gI v1 p0 3) + (1 : Int32))) fun v1_14 =>
  gb (kd PL v1_14 p0 17) (
  gb (kd PL v1_14 p0 17) (
  lm (sI v1_14 p0 1 ((gI v1_14 p0 1) - (1 : Int32))) fun v1_26 =>
  gb (ka PL v1_26 pa4 44) (
  gb (inR ((gI v1_14 p0 1) - (1 : Int32)) (gI v1_26 pa4 98).toNatClampNeg) (
  lo (gR v1_26 pa4 ((gI v1_14 p0 1) - (1 : Int32)).toNatClampNeg) fun oa38 =>
  gb (ka PL v1_26 pa4 44) (
  gb (inR ((gI v1_14 p0 1) - (1 : Int32)) (gI v1_26 pa4 98).toNatClampNeg) (
  lm (sR v1_26 pa4 ((gI v1_14 p0 1) - (1 : Int32)).toNatClampNeg none) fun v1_42 =>
  if ((gI v1_14 p0 1) - (1 : Int32)) ≤ 0 then (
  some ((some pa11), v1_42))
  else (
  gb (kd PL v1_42 p0 17) (
  lo (gR v1_42 p0 2) fun oa54 =>
  od oa54 (
  ob oa38 fun pa57 =>
  ob (fJ4_siftDownComparable_node PL b0 V0 v1_42 (0 : Int32) pa57 pa4 ((gI v1_14 p0 1) - (1 : Int32))) fun w60 =>
  some ((some pa11), w60)) (fun pa56 =>
  none)))))))))))))))
set_option maxHeartbeats 4000000 in
theorem w_fJ4_poll_node (C : Cx G p s m args meth c RJ4 cJ4_poll 6 (some (.object "java/lang/Object"))) {b0 : Nat} {PL : Nat → Bool} {V0 : Mem} {vP0 : Mem} {rx : Option Nat} {rw1 : Mem} (hPX : ∀ z, PL z = true → ¬ fX b0 z) (hZP : ZP G) : ∀ (v1 : Mem) (p0 : Nat), fJ4_poll_node PL b0 V0 v1 p0 = some (rx, rw1) → ∀ (H : Heap) (locs : List Loc) (ls : Array Slot), rg G b0 357 (shX0 G.2.1) V0 H → pl G PL v1 H → va_S (FA (fP PL vP0) s.heap.size) s.heap H locs → H.size = s.heap.size → KM vP0 v1 s.heap.size → lv_has ls 6 [(0, .ref p0)] → W p l e (rmT 3 0 0 74) s m args below meth c H locs 0 0 (MQ below (QcT (FA (fP PL vP0) s.heap.size) (fun ov H => ov = (some (va_rf rx)) ∧ pl G PL rw1 H ∧ H.size = s.heap.size ∧ KM vP0 rw1 s.heap.size)) args s 0 0 (FA (fP PL vP0) s.heap.size)) (F0 m 0 ls []) := by
  intro v1 p0 hm H locs ls hW0 hW1 hS hz hKM hl
  obtain ⟨hx, hb, hr, hlk, hml, hown, hts, hK⟩ := id C
  unfold fJ4_poll_node at hm
  refine lv_aload_n (pc := 0) hx hb dJ4_poll_0 rfl (lv_at hl 0 rfl) ?_
  obtain ⟨hg1, hm⟩ := gb_some hm
  obtain ⟨oa2, he3, hm⟩ := lo_some hm
  refine rk_get (pc := 1) hx hb hts hown hK (pl_rg hW1) flJ4_17 p0 (Nat.lt_succ_self _) (Nat.zero_add _).symm (shP_17 (kd_PL hg1) (kd_k hg1)) (x := va_rf oa2) (congrArg (fun z => some (va_rf z)) he3) dJ4_poll_1 ?_
  refine lv_dup (pc := 4) hx hb dJ4_poll_4 (cat_rf _) ?_
  refine lv_astore_nO (pc := 5) (lv' := [(1, va_rf oa2), (0, .ref p0)]) hx hb dJ4_poll_5 rfl hl (by decide) rfl (fun ls hl => ?_)
  refine lv_iconst (pc := 6) (v := (0 : Int32)) hx hb dJ4_poll_6 (by decide) ?_
  obtain ⟨pa4, he5, hm6⟩ := ob_some hm
  subst he5
  have hm := hm6
  obtain ⟨hg7, hm⟩ := gb_some hm
  obtain ⟨hg8, hm⟩ := gb_some hm
  obtain ⟨oa9, he10, hm⟩ := lo_some hm
  refine rp_aald (pc := 7) hx hb hK hW1 hg7 hg8 he10 dJ4_poll_7 ?_
  refine lv_dup (pc := 8) hx hb dJ4_poll_8 (cat_rf _) ?_
  refine lv_astore_nO (pc := 9) (lv' := [(2, va_rf oa9), (1, .ref pa4), (0, .ref p0)]) hx hb dJ4_poll_9 rfl hl (by decide) rfl (fun ls hl => ?_)
  rcases oa9 with _ | pa11
  · have hm := od_n hm
    refine lv_ifnullN (pc := 10) (tgt := 79) hx hb dJ4_poll_10 (by decide) ?_
    refine lv_aload_nN (pc := 79) hx hb dJ4_poll_79 rfl (lv_at hl 0 rfl) ?_
    obtain ⟨e8, e9⟩ := rs2 hm
    subst e8
    subst e9
    exact rp_aret (pc := 80) (x := none) hx hb hr (Or.inl ⟨_, rfl⟩) hlk hS ⟨rfl, hW1, hz, hKM⟩ dJ4_poll_80
  · have hm := od_s hm
    refine lv_ifnull (pc := 10) hx hb dJ4_poll_10 ?_
    refine lv_aload_n (pc := 13) hx hb dJ4_poll_13 rfl (lv_at hl 2 rfl) ?_
    refine lv_dup (pc := 14) hx hb dJ4_poll_14 rfl ?_
    obtain ⟨hg12, hm⟩ := gb_some hm
    refine rk_get (pc := 15) hx hb hts hown hK (pl_rg hW1) flJ4_93 p0 (Nat.lt_succ_self _) (Nat.zero_add _).symm (shP_17 (kd_PL hg12) (kd_k hg12)) (x := .int (gI v1 p0 3)) rfl dJ4_poll_15 ?_
    refine lv_iconst (pc := 18) (v := (1 : Int32)) hx hb dJ4_poll_18 (by decide) ?_
    refine lv_iadd (pc := 19) hx hb dJ4_poll_19 ?_
    obtain ⟨hg13, hm⟩ := gb_some hm
    refine rp_put (pc := 20) (q := p0) hx hb hts hown hK hW1 hS flJ4_93 ft_J4 (kd_A hKM hg13 (by decide)) (shP_17 (kd_PL hg13) (kd_k hg13)) rfl (x := .int ((gI v1 p0 3) + (1 : Int32))) rfl rfl (Nat.le_of_ble_eq_true rfl) (sI v1 p0 3 ((gI v1 p0 3) + (1 : Int32))) sI_ne (by rw [sI_eq]; exact shP_17 (kd_PL hg13) (kd_k hg13)) dJ4_poll_20 (fun H15 locs16 hW17 hS18 hz19 hkp20 => ?_)
    have hKM21 := KM.sI (o := p0) (j := 3) (x := ((gI v1 p0 3) + (1 : Int32))) hKM (by decide)
    obtain ⟨v1_14, he9, hm⟩ := lm_some hm
    rw [he9] at hW17 hKM21
    have hW22 := rg_keepqX hW0 hkp20 (hPX _ (kd_PL hg13))
    have hz23 := hz19.trans hz
    refine lv_aload_n (pc := 23) hx hb dJ4_poll_23 rfl (lv_at hl 1 rfl) ?_
    refine lv_aload_n (pc := 24) hx hb dJ4_poll_24 rfl (lv_at hl 2 rfl) ?_
    refine lv_dup (pc := 25) hx hb dJ4_poll_25 rfl ?_
    obtain ⟨hg24, hm⟩ := gb_some hm
    refine rk_get (pc := 26) hx hb hts hown hK (pl_rg hW17) flJ4_58 p0 (Nat.lt_succ_self _) (Nat.zero_add _).symm (shP_17 (kd_PL hg24) (kd_k hg24)) (x := .int (gI v1_14 p0 1)) rfl dJ4_poll_26 ?_
    refine lv_iconst (pc := 29) (v := (1 : Int32)) hx hb dJ4_poll_29 (by decide) ?_
    refine lv_isub (pc := 30) hx hb dJ4_poll_30 ?_
    refine lv_dup_x1 (pc := 31) hx hb dJ4_poll_31 rfl rfl ?_
    obtain ⟨hg25, hm⟩ := gb_some hm
    refine rp_put (pc := 32) (q := p0) hx hb hts hown hK hW17 hS18 flJ4_58 ft_J4 (kd_A hKM21 hg25 (by decide)) (shP_17 (kd_PL hg25) (kd_k hg25)) rfl (x := .int ((gI v1_14 p0 1) - (1 : Int32))) rfl rfl (Nat.le_of_ble_eq_true rfl) (sI v1_14 p0 1 ((gI v1_14 p0 1) - (1 : Int32))) sI_ne (by rw [sI_eq]; exact shP_17 (kd_PL hg25) (kd_k hg25)) dJ4_poll_32 (fun H27 locs28 hW29 hS30 hz31 hkp32 => ?_)
    have hKM33 := KM.sI (o := p0) (j := 1) (x := ((gI v1_14 p0 1) - (1 : Int32))) hKM21 (by decide)
    obtain ⟨v1_26, he9, hm⟩ := lm_some hm
    rw [he9] at hW29 hKM33
    have hW34 := rg_keepqX hW22 hkp32 (hPX _ (kd_PL hg25))
    have hz35 := hz31.trans hz23
    refine lv_dup (pc := 35) hx hb dJ4_poll_35 rfl ?_
    refine lv_istore_n (pc := 36) (lv' := [(3, .int ((gI v1_14 p0 1) - (1 : Int32))), (2, .ref pa11), (1, .ref pa4), (0, .ref p0)]) hx hb dJ4_poll_36 rfl hl (by decide) rfl (fun ls hl => ?_)
    obtain ⟨hg36, hm⟩ := gb_some hm
    obtain ⟨hg37, hm⟩ := gb_some hm
    obtain ⟨oa38, he39, hm⟩ := lo_some hm
    refine rp_aald (pc := 37) hx hb hK hW29 hg36 hg37 he39 dJ4_poll_37 ?_
    refine lv_astoreO (pc := 38) (lv' := [(4, va_rf oa38), (3, .int ((gI v1_14 p0 1) - (1 : Int32))), (2, .ref pa11), (1, .ref pa4), (0, .ref p0)]) hx hb dJ4_poll_38 hl (by decide) rfl (fun ls hl => ?_)
    refine lv_aload_n (pc := 40) hx hb dJ4_poll_40 rfl (lv_at hl 3 rfl) ?_
    refine lv_iload_n (pc := 41) hx hb dJ4_poll_41 rfl (lv_at hl 1 rfl) ?_
    refine lv_null (pc := 42) hx hb dJ4_poll_42 ?_
    obtain ⟨hg40, hm⟩ := gb_some hm
    obtain ⟨hg41, hm⟩ := gb_some hm
    refine rp_aastN (pc := 43) hx hb hK hW29 hS30 (kd_A hKM33 (ka_kd hg40) (by decide)) hg40 hg41 dJ4_poll_43 (fun H43 locs44 hW45 hS46 hz47 hkp48 => ?_)
    have hKM49 := KM.sR (o := pa4) (j := ((gI v1_14 p0 1) - (1 : Int32)).toNatClampNeg) (x := none) hKM33
    obtain ⟨v1_42, he9, hm⟩ := lm_some hm
    rw [he9] at hW45 hKM49
    have hW50 := rg_keepqX hW34 hkp48 (hPX _ (kd_PL (ka_kd hg40)))
    have hz51 := hz47.trans hz35
    refine lv_iload_n (pc := 44) hx hb dJ4_poll_44 rfl (lv_at hl 1 rfl) ?_
    refine lv_if_le (pc := 45) (tgt := 79) hx hb dJ4_poll_45 (by decide) (fun c52 => ?_) (fun c52 => ?_)
    · have hm := ite_t c52 hm
      refine lv_aload_n (pc := 79) hx hb dJ4_poll_79 rfl (lv_at hl 2 rfl) ?_
      obtain ⟨e8, e9⟩ := rs2 hm
      subst e8
      subst e9
      exact rp_aret (pc := 80) (x := (some pa11)) hx hb hr (Or.inl ⟨_, rfl⟩) hlk hS46 ⟨rfl, hW45, hz51, hKM49⟩ dJ4_poll_80
    · have hm := ite_f c52 hm
      refine lv_aload_n (pc := 48) hx hb dJ4_poll_48 rfl (lv_at hl 4 rfl) ?_
      obtain ⟨hg53, hm⟩ := gb_some hm
      obtain ⟨oa54, he55, hm⟩ := lo_some hm
      refine rk_get (pc := 49) hx hb hts hown hK (pl_rg hW45) flJ4_21 p0 (Nat.lt_succ_self _) (Nat.zero_add _).symm (shP_17 (kd_PL hg53) (kd_k hg53)) (x := va_rf oa54) (congrArg (fun z => some (va_rf z)) he55) dJ4_poll_49 ?_
      refine lv_dup (pc := 52) hx hb dJ4_poll_52 (cat_rf _) ?_
      refine lv_astoreO (pc := 53) (lv' := [(5, va_rf oa54), (4, va_rf oa38), (3, .int ((gI v1_14 p0 1) - (1 : Int32))), (2, .ref pa11), (1, .ref pa4), (0, .ref p0)]) hx hb dJ4_poll_53 hl (by decide) (by simp [List.filter, cat_rf]) (fun ls hl => ?_)
      rcases oa54 with _ | pa56
      · have hm := od_n hm
        refine lv_ifnonnullN (pc := 55) hx hb dJ4_poll_55 ?_
        refine lv_iconst (pc := 58) (v := (0 : Int32)) hx hb dJ4_poll_58 (by decide) ?_
        refine lv_aloadO (pc := 59) hx hb dJ4_poll_59 (lv_at hl 1 rfl) ?_
        refine lv_aload_n (pc := 61) hx hb dJ4_poll_61 rfl (lv_at hl 4 rfl) ?_
        refine lv_iload_n (pc := 62) hx hb dJ4_poll_62 rfl (lv_at hl 2 rfl) ?_
        obtain ⟨pa57, he58, hm59⟩ := ob_some hm
        subst he58
        have hm := hm59
        obtain ⟨w60, hq61, hm⟩ := ob_some hm
        refine rk_TS (pc := 63) (As := [.int (0 : Int32), .ref pa57, .ref pa4, .int ((gI v1_14 p0 1) - (1 : Int32))]) (rest := []) (mc := 0) (ms := 0) hx hb hml hown hts hK hS46 (fun q hq => FA_sz rfl q hq) lkJ4_125 yn_J4_siftDownComparable (ct_J4_siftDownComparable_node (G := G) (l := l) (b0 := b0) (sz := H43.size) hq61 hPX hZP) ⟨Nat.le_of_ble_eq_true rfl, Nat.le_of_ble_eq_true rfl⟩ (fun z h => (KM_hf2 hKM49 z h)) ⟨hW50, hW45⟩ rfl rfl hl.1 (Nat.le_of_ble_eq_true rfl) dJ4_poll_63 ⟨Nat.zero_le _, Nat.zero_le _⟩ (fun ov9 H62 locs63 hP64 hkp65 hS66 => ?_)
        obtain ⟨rfl, hW67, hz68, hKM69⟩ := hP64
        have hW70 := rg_keepX hW50 hkp65 (by intro z h0 h3; have h1 := h0.1.1; have h2 := h0.1.2; have h4 := h0.2; exact hPX _ h3.1 h0)
        have hz71 := hz68.trans hz51
        have hKM72 := KM.trans hKM49 hKM69 (by omega)
        refine W.eq (g2 := F0 m 66 ls []) rfl ?_
        refine lv_goto (pc := 66) (tgt := 79) hx hb dJ4_poll_66 (by decide) ?_
        refine lv_aload_n (pc := 79) hx hb dJ4_poll_79 rfl (lv_at hl 3 rfl) ?_
        obtain ⟨e8, e9⟩ := rs2 hm
        subst e8
        subst e9
        exact rp_aret (pc := 80) (x := (some pa11)) hx hb hr (Or.inl ⟨_, rfl⟩) hlk hS66 ⟨rfl, hW67, hz71, hKM72⟩ dJ4_poll_80
      · have hm := od_s hm
        refine lv_ifnonnull (pc := 55) (tgt := 69) hx hb dJ4_poll_55 (by decide) ?_
        refine lv_iconst (pc := 69) (v := (0 : Int32)) hx hb dJ4_poll_69 (by decide) ?_
        refine lv_aloadO (pc := 70) hx hb dJ4_poll_70 (lv_at hl 1 rfl) ?_
        refine lv_aload_n (pc := 72) hx hb dJ4_poll_72 rfl (lv_at hl 4 rfl) ?_
        refine lv_iload_n (pc := 73) hx hb dJ4_poll_73 rfl (lv_at hl 2 rfl) ?_
        refine lv_aload (pc := 74) hx hb dJ4_poll_74 (lv_at hl 0 rfl) ?_
        exact nomatch hm
set_option maxHeartbeats 4000000 in
theorem ct_J4_poll_node {G : Gv} {l : Launch} {b0 : Nat} {PL : Nat → Bool} {V0 : Mem} {v1 : Mem} {p0 : Nat} {rx : Option Nat} {rw1 : Mem} {sz : Nat} (hm : fJ4_poll_node PL b0 V0 v1 p0 = some (rx, rw1)) (hPX : ∀ z, PL z = true → ¬ fX b0 z) (hZP : ZP G) : CT G l yJ4_poll (ws_ yJ4_poll cJ4_poll 6 (some (.object "java/lang/Object"))) 3 0 0 74 [.ref p0] (fP PL v1) sz (fun H => rg G b0 357 (shX0 G.2.1) V0 H ∧ pl G PL v1 H) (fun ov H => ov = (some (va_rf rx)) ∧ pl G PL rw1 H ∧ H.size = sz ∧ KM v1 rw1 sz) := by
  refine Met.ofW (cc := cJ4_poll) (maxL := 6) (ret := (some (.object "java/lang/Object"))) (by decide +kernel) rfl ?_
  intro p e s m args below meth c s₁ B hml hv
  obtain ⟨rfl, ⟨hz, hW0, hW1⟩, hK⟩ := hv
  subst hz
  have hts := atoms_spec (ws := ws_ yJ4_poll cJ4_poll 6 (some (.object "java/lang/Object"))) B.pre
  have hts : ∀ w ∈ lw_all, w.before _ s = true := fun w h => hts w (List.mem_cons_of_mem _ h)
  have C : Cx G p s m _ meth c RJ4 cJ4_poll 6 (some (.object "java/lang/Object")) := ⟨B.exec, B.bytes, B.returns, B.notSynchronized, hml, findClass_of_methodNamed B.named, hts, hK⟩
  have hl := lv_entry ([.ref p0]) (n := 6) (Nat.le_of_ble_eq_true rfl)
  rw [lg_entry_eq]
  generalize (lg_sl ([.ref p0]) ++ List.replicate (6 - (lg_sl ([.ref p0])).length) Slot.unset).toArray = ls at hl ⊢
  have hl : lv_has ls 6 [(0, .ref p0)] := hl
  exact w_fJ4_poll_node C hPX hZP _ _ hm s.heap [] ls hW0 hW1 va_S.rf rfl KM.rf hl
noncomputable def fJ4_siftDownUsingComparator_found_61 (PL : Nat → Bool) (b0 : Nat) (V0 : Mem) (k5 : Mem → Int32 → Nat → Nat → Int32 → Nat → Int32 → Option (Mem)) (v1 : Mem) (i0 : Int32) (p1 : Nat) (p2 : Nat) (i3 : Int32) (p4 : Nat) (i5 : Int32) (i6 : Int32) (o7 : Option Nat) : Option (Mem) :=
  ob o7 fun pa85 =>
  ob (fi b0 177 1 20 pa85) fun nf88 =>
  ob (fi b0 177 1 20 p1) fun nf93 =>
  gb (kd PL v1 p4 5) (
  ob (fX5_compare PL b0 V0 v1 nf93 nf88 p4) fun r99 =>
  if 0 < r99 then (
  gb (ka PL v1 p2 44) (
  gb (inR i0 (gI v1 p2 98).toNatClampNeg) (
  lm (sR v1 p2 i0.toNatClampNeg (some (b0 + (177 + 1 * nf88 + 0)))) fun v1_104 =>
  k5 v1_104 i6 (b0 + (177 + 1 * nf93 + 0)) p2 i3 p4 i5)))
  else (
  gb (ka PL v1 p2 44) (
  gb (inR i0 (gI v1 p2 98).toNatClampNeg) (
  lm (sR v1 p2 i0.toNatClampNeg (some (b0 + (177 + 1 * nf93 + 0)))) fun v1_116 =>
  some v1_116))))
noncomputable def fJ4_siftDownUsingComparator_found_61b (PL : Nat → Bool) (b0 : Nat) (V0 : Mem) (k5 : Mem → Int32 → Nat → Nat → Int32 → Nat → Int32 → Option (Mem)) (v1 : Mem) (i0 : Int32) (p1 : Nat) (p2 : Nat) (i3 : Int32) (p4 : Nat) (i5 : Int32) (i6 : Int32) (n7 : Nat) : Option (Mem) :=
  ob (fi b0 177 1 20 p1) fun nf52 =>
  gb (kd PL v1 p4 5) (
  ob (fX5_compare PL b0 V0 v1 nf52 n7 p4) fun r58 =>
  if 0 < r58 then (
  gb (ka PL v1 p2 44) (
  gb (inR i0 (gI v1 p2 98).toNatClampNeg) (
  lm (sR v1 p2 i0.toNatClampNeg (some (b0 + (177 + 1 * n7 + 0)))) fun v1_63 =>
  k5 v1_63 i6 (b0 + (177 + 1 * nf52 + 0)) p2 i3 p4 i5)))
  else (
  gb (ka PL v1 p2 44) (
  gb (inR i0 (gI v1 p2 98).toNatClampNeg) (
  lm (sR v1 p2 i0.toNatClampNeg (some (b0 + (177 + 1 * nf52 + 0)))) fun v1_75 =>
  some v1_75))))
noncomputable def fJ4_siftDownUsingComparator_found_5 (PL : Nat → Bool) (b0 : Nat) (V0 : Mem) (k5 : Mem → Int32 → Nat → Nat → Int32 → Nat → Int32 → Option (Mem)) (v1 : Mem) (i0 : Int32) (p1 : Nat) (p2 : Nat) (i3 : Int32) (p4 : Nat) (i5 : Int32) : Option (Mem) :=
  if i5 ≤ i0 then (
  ob (fi b0 177 1 20 p1) fun nf2 =>
  gb (ka PL v1 p2 44) (
  gb (inR i0 (gI v1 p2 98).toNatClampNeg) (
  lm (sR v1 p2 i0.toNatClampNeg (some (b0 + (177 + 1 * nf2 + 0)))) fun v1_9 =>
  some v1_9)))
  else (
  gb (ka PL v1 p2 44) (
  gb (inR ((i0 <<< ((1 : Int32) &&& 31)) + (1 : Int32)) (gI v1 p2 98).toNatClampNeg) (
  lo (gR v1 p2 ((i0 <<< ((1 : Int32) &&& 31)) + (1 : Int32)).toNatClampNeg) fun oa21 =>
  if i3 ≤ (((i0 <<< ((1 : Int32) &&& 31)) + (1 : Int32)) + (1 : Int32)) then (
  fJ4_siftDownUsingComparator_found_61 PL b0 V0 k5 v1 i0 p1 p2 i3 p4 i5 ((i0 <<< ((1 : Int32) &&& 31)) + (1 : Int32)) oa21)
  else (
  gb (ka PL v1 p2 44) (
  gb (inR (((i0 <<< ((1 : Int32) &&& 31)) + (1 : Int32)) + (1 : Int32)) (gI v1 p2 98).toNatClampNeg) (
  lo (gR v1 p2 (((i0 <<< ((1 : Int32) &&& 31)) + (1 : Int32)) + (1 : Int32)).toNatClampNeg) fun oa26 =>
  ob oa26 fun pa28 =>
  ob (fi b0 177 1 20 pa28) fun nf31 =>
  ob oa21 fun pa36 =>
  ob (fi b0 177 1 20 pa36) fun nf39 =>
  gb (kd PL v1 p4 5) (
  ob (fX5_compare PL b0 V0 v1 nf39 nf31 p4) fun r45 =>
  if r45 ≤ 0 then (
  fJ4_siftDownUsingComparator_found_61b PL b0 V0 k5 v1 i0 p1 p2 i3 p4 i5 ((i0 <<< ((1 : Int32) &&& 31)) + (1 : Int32)) nf39)
  else (
  gb (ka PL v1 p2 44) (
  gb (inR (((i0 <<< ((1 : Int32) &&& 31)) + (1 : Int32)) + (1 : Int32)) (gI v1 p2 98).toNatClampNeg) (
  lo (gR v1 p2 (((i0 <<< ((1 : Int32) &&& 31)) + (1 : Int32)) + (1 : Int32)).toNatClampNeg) fun oa50 =>
  fJ4_siftDownUsingComparator_found_61 PL b0 V0 k5 v1 i0 p1 p2 i3 p4 i5 (((i0 <<< ((1 : Int32) &&& 31)) + (1 : Int32)) + (1 : Int32)) oa50))))))))))
noncomputable def fJ4_siftDownUsingComparator_found (PL : Nat → Bool) (b0 : Nat) (V0 : Mem) (v1 : Mem) (i0 : Int32) (p1 : Nat) (p2 : Nat) (i3 : Int32) (p4 : Nat) : Option (Mem) :=
  lq7 (fJ4_siftDownUsingComparator_found_5 PL b0 V0) FU v1 i0 p1 p2 i3 p4 (i3.toUInt32 >>> ((1 : Int32).toUInt32 &&& Int32.toUInt32 31)).toInt32
set_option maxHeartbeats 4000000 in
theorem w_fJ4_siftDownUsingComparator_found_61 (C : Cx G p s m args meth c RJ4 cJ4_siftDownUsingComparator 9 none) {b0 : Nat} {PL : Nat → Bool} {V0 : Mem} {vP0 : Mem} {rw1 : Mem} (hPX : ∀ z, PL z = true → ¬ fX b0 z) (hZP : ZP G) {k5 : Mem → Int32 → Nat → Nat → Int32 → Nat → Int32 → Option (Mem)} (hk5 : ∀ (v1 : Mem) (i0 : Int32) (p1 : Nat) (p2 : Nat) (i3 : Int32) (p4 : Nat) (i5 : Int32), k5 v1 i0 p1 p2 i3 p4 i5 = some rw1 → ∀ (H : Heap) (locs : List Loc) (ls : Array Slot), rg G b0 357 (shX0 G.2.1) V0 H → pl G PL v1 H → va_S (FA (fP PL vP0) s.heap.size) s.heap H locs → H.size = s.heap.size → KM vP0 v1 s.heap.size → lv_has ls 9 [(0, .int i0), (1, .ref p1), (2, .ref p2), (3, .int i3), (4, .ref p4), (5, .int i5)] → W p l e (rmT 3 0 0 66) s m args below meth c H locs 0 0 (MQ below (QcT (FA (fP PL vP0) s.heap.size) (fun ov H => ov = none ∧ pl G PL rw1 H ∧ H.size = s.heap.size ∧ KM vP0 rw1 s.heap.size)) args s 0 0 (FA (fP PL vP0) s.heap.size)) (F0 m 5 ls [])) : ∀ (v1 : Mem) (i0 : Int32) (p1 : Nat) (p2 : Nat) (i3 : Int32) (p4 : Nat) (i5 : Int32) (i6 : Int32) (o7 : Option Nat), fJ4_siftDownUsingComparator_found_61 PL b0 V0 k5 v1 i0 p1 p2 i3 p4 i5 i6 o7 = some rw1 → ∀ (H : Heap) (locs : List Loc) (ls : Array Slot), rg G b0 357 (shX0 G.2.1) V0 H → pl G PL v1 H → va_S (FA (fP PL vP0) s.heap.size) s.heap H locs → H.size = s.heap.size → KM vP0 v1 s.heap.size → lv_has ls 9 [(0, .int i0), (1, .ref p1), (2, .ref p2), (3, .int i3), (4, .ref p4), (5, .int i5), (6, .int i6), (7, va_rf o7)] → W p l e (rmT 3 0 0 66) s m args below meth c H locs 0 0 (MQ below (QcT (FA (fP PL vP0) s.heap.size) (fun ov H => ov = none ∧ pl G PL rw1 H ∧ H.size = s.heap.size ∧ KM vP0 rw1 s.heap.size)) args s 0 0 (FA (fP PL vP0) s.heap.size)) (F0 m 61 ls []) := by
  intro v1 i0 p1 p2 i3 p4 i5 i6 o7 hm H locs ls hW0 hW1 hS hz hKM hl
  obtain ⟨hx, hb, hr, hlk, hml, hown, hts, hK⟩ := id C
  unfold fJ4_siftDownUsingComparator_found_61 at hm
  refine lv_aload (pc := 61) hx hb dJ4_siftDownUsingComparator_61 (lv_at hl 4 rfl) ?_
  refine lv_aload_n (pc := 63) hx hb dJ4_siftDownUsingComparator_63 rfl (lv_at hl 1 rfl) ?_
  refine lv_aloadO (pc := 64) hx hb dJ4_siftDownUsingComparator_64 (lv_at hl 7 rfl) ?_
  obtain ⟨pa85, he86, hm87⟩ := ob_some hm
  subst he86
  have hm := hm87
  obtain ⟨nf88, hf89, hm92⟩ := ob_some hm
  obtain ⟨ha90, hlt91⟩ := fi_some hf89
  subst ha90
  have hm := hm92
  obtain ⟨nf93, hf94, hm97⟩ := ob_some hm
  obtain ⟨ha95, hlt96⟩ := fi_some hf94
  subst ha95
  have hm := hm97
  obtain ⟨hg98, hm⟩ := gb_some hm
  obtain ⟨r99, hq100, hm⟩ := ob_some hm
  refine rp_PF (pc := 66) (As := [.ref (b0 + (177 + 1 * nf93 + 0)), .ref (b0 + (177 + 1 * nf88 + 0))]) (rest := []) hx hb hml hown hts hK lfJ4_149_X5 ((hZP s hK).1.2.2.1) (T := TX5z) (N := 0) (ci := 5) rfl ynx_J4_149 (ct_X5_compare (G := G) (l := l) (b0 := b0) hq100 hlt96 hlt91) ⟨Nat.le_of_ble_eq_true rfl, Nat.le_of_ble_eq_true rfl⟩ (rp_recv hK hW1 (C := RX5) (T := TX5z) (N := 0) rfl (shP_5 (kd_PL hg98) (kd_k hg98))) ⟨hW0, hW1⟩ rfl rfl hl.1 (Nat.le_of_ble_eq_true rfl) dJ4_siftDownUsingComparator_66 ⟨Nat.zero_le _, Nat.zero_le _⟩ ?_
  refine W.eq (g2 := F0 m 71 ls [.int r99]) rfl ?_
  refine lv_if_gt (pc := 71) (tgt := 77) hx hb dJ4_siftDownUsingComparator_71 (by decide) (fun c101 => ?_) (fun c101 => ?_)
  · have hm := ite_t c101 hm
    refine lv_aload_n (pc := 77) hx hb dJ4_siftDownUsingComparator_77 rfl (lv_at hl 2 rfl) ?_
    refine lv_iload_n (pc := 78) hx hb dJ4_siftDownUsingComparator_78 rfl (lv_at hl 0 rfl) ?_
    refine lv_aload (pc := 79) hx hb dJ4_siftDownUsingComparator_79 (lv_at hl 7 rfl) ?_
    obtain ⟨hg102, hm⟩ := gb_some hm
    obtain ⟨hg103, hm⟩ := gb_some hm
    refine rp_aastR (pc := 81) (C := RX7) hx hb hts hK hW1 hS (kd_A hKM (ka_kd hg102) (by decide)) hg102 hg103 q2401 (rk_recv hK hW0 (177 + 1 * nf88 + 0) (by omega) rfl rfl ((shX0_f177 G.2.1 hlt91 _ rfl 0 (by decide) _ _ _).trans rfl)) dJ4_siftDownUsingComparator_81 (fun H105 locs106 hW107 hS108 hz109 hkp110 => ?_)
    have hKM111 := KM.sR (o := p2) (j := i0.toNatClampNeg) (x := (some (b0 + (177 + 1 * nf88 + 0)))) hKM
    obtain ⟨v1_104, he9, hm⟩ := lm_some hm
    rw [he9] at hW107 hKM111
    have hW112 := rg_keepqX hW0 hkp110 (hPX _ (kd_PL (ka_kd hg102)))
    have hz113 := hz109.trans hz
    refine lv_iload (pc := 82) hx hb dJ4_siftDownUsingComparator_82 (lv_at hl 6 rfl) ?_
    refine lv_istore_n (pc := 84) (lv' := [(0, .int i6), (1, .ref (b0 + (177 + 1 * nf93 + 0))), (2, .ref p2), (3, .int i3), (4, .ref p4), (5, .int i5), (6, .int i6), (7, .ref (b0 + (177 + 1 * nf88 + 0)))]) hx hb dJ4_siftDownUsingComparator_84 rfl hl (by decide) rfl (fun ls hl => ?_)
    refine lv_goto (pc := 85) (tgt := 5) hx hb dJ4_siftDownUsingComparator_85 (by decide) ?_
    exact hk5 v1_104 i6 (b0 + (177 + 1 * nf93 + 0)) p2 i3 p4 i5 hm H105 locs106 ls hW112 hW107 hS108 hz113 hKM111 (lv_sub hl [0, 1, 2, 3, 4, 5] rfl)
  · have hm := ite_f c101 hm
    refine lv_goto (pc := 74) (tgt := 88) hx hb dJ4_siftDownUsingComparator_74 (by decide) ?_
    refine lv_aload_n (pc := 88) hx hb dJ4_siftDownUsingComparator_88 rfl (lv_at hl 2 rfl) ?_
    refine lv_iload_n (pc := 89) hx hb dJ4_siftDownUsingComparator_89 rfl (lv_at hl 0 rfl) ?_
    refine lv_aload_n (pc := 90) hx hb dJ4_siftDownUsingComparator_90 rfl (lv_at hl 1 rfl) ?_
    obtain ⟨hg114, hm⟩ := gb_some hm
    obtain ⟨hg115, hm⟩ := gb_some hm
    refine rp_aastR (pc := 91) (C := RX7) hx hb hts hK hW1 hS (kd_A hKM (ka_kd hg114) (by decide)) hg114 hg115 q2401 (rk_recv hK hW0 (177 + 1 * nf93 + 0) (by omega) rfl rfl ((shX0_f177 G.2.1 hlt96 _ rfl 0 (by decide) _ _ _).trans rfl)) dJ4_siftDownUsingComparator_91 (fun H117 locs118 hW119 hS120 hz121 hkp122 => ?_)
    have hKM123 := KM.sR (o := p2) (j := i0.toNatClampNeg) (x := (some (b0 + (177 + 1 * nf93 + 0)))) hKM
    obtain ⟨v1_116, he9, hm⟩ := lm_some hm
    rw [he9] at hW119 hKM123
    have hW124 := rg_keepqX hW0 hkp122 (hPX _ (kd_PL (ka_kd hg114)))
    have hz125 := hz121.trans hz
    have e9 := rs1 hm
    subst e9
    exact rk_vret (pc := 92) hx hb hr hlk hS120 ⟨rfl, hW119, hz125, hKM123⟩ dJ4_siftDownUsingComparator_92
set_option maxHeartbeats 4000000 in
theorem w_fJ4_siftDownUsingComparator_found_61b (C : Cx G p s m args meth c RJ4 cJ4_siftDownUsingComparator 9 none) {b0 : Nat} {PL : Nat → Bool} {V0 : Mem} {vP0 : Mem} {rw1 : Mem} (hPX : ∀ z, PL z = true → ¬ fX b0 z) (hZP : ZP G) {k5 : Mem → Int32 → Nat → Nat → Int32 → Nat → Int32 → Option (Mem)} (hk5 : ∀ (v1 : Mem) (i0 : Int32) (p1 : Nat) (p2 : Nat) (i3 : Int32) (p4 : Nat) (i5 : Int32), k5 v1 i0 p1 p2 i3 p4 i5 = some rw1 → ∀ (H : Heap) (locs : List Loc) (ls : Array Slot), rg G b0 357 (shX0 G.2.1) V0 H → pl G PL v1 H → va_S (FA (fP PL vP0) s.heap.size) s.heap H locs → H.size = s.heap.size → KM vP0 v1 s.heap.size → lv_has ls 9 [(0, .int i0), (1, .ref p1), (2, .ref p2), (3, .int i3), (4, .ref p4), (5, .int i5)] → W p l e (rmT 3 0 0 66) s m args below meth c H locs 0 0 (MQ below (QcT (FA (fP PL vP0) s.heap.size) (fun ov H => ov = none ∧ pl G PL rw1 H ∧ H.size = s.heap.size ∧ KM vP0 rw1 s.heap.size)) args s 0 0 (FA (fP PL vP0) s.heap.size)) (F0 m 5 ls [])) : ∀ (v1 : Mem) (i0 : Int32) (p1 : Nat) (p2 : Nat) (i3 : Int32) (p4 : Nat) (i5 : Int32) (i6 : Int32) (n7 : Nat), fJ4_siftDownUsingComparator_found_61b PL b0 V0 k5 v1 i0 p1 p2 i3 p4 i5 i6 n7 = some rw1 → (hn_n7 : n7 < 20) → ∀ (H : Heap) (locs : List Loc) (ls : Array Slot), rg G b0 357 (shX0 G.2.1) V0 H → pl G PL v1 H → va_S (FA (fP PL vP0) s.heap.size) s.heap H locs → H.size = s.heap.size → KM vP0 v1 s.heap.size → lv_has ls 9 [(0, .int i0), (1, .ref p1), (2, .ref p2), (3, .int i3), (4, .ref p4), (5, .int i5), (6, .int i6), (7, .ref (b0 + (177 + 1 * n7 + 0)))] → W p l e (rmT 3 0 0 66) s m args below meth c H locs 0 0 (MQ below (QcT (FA (fP PL vP0) s.heap.size) (fun ov H => ov = none ∧ pl G PL rw1 H ∧ H.size = s.heap.size ∧ KM vP0 rw1 s.heap.size)) args s 0 0 (FA (fP PL vP0) s.heap.size)) (F0 m 61 ls []) := by
  intro v1 i0 p1 p2 i3 p4 i5 i6 n7 hm hn_n7 H locs ls hW0 hW1 hS hz hKM hl
  obtain ⟨hx, hb, hr, hlk, hml, hown, hts, hK⟩ := id C
  unfold fJ4_siftDownUsingComparator_found_61b at hm
  refine lv_aload (pc := 61) hx hb dJ4_siftDownUsingComparator_61 (lv_at hl 4 rfl) ?_
  refine lv_aload_n (pc := 63) hx hb dJ4_siftDownUsingComparator_63 rfl (lv_at hl 1 rfl) ?_
  refine lv_aload (pc := 64) hx hb dJ4_siftDownUsingComparator_64 (lv_at hl 7 rfl) ?_
  obtain ⟨nf52, hf53, hm56⟩ := ob_some hm
  obtain ⟨ha54, hlt55⟩ := fi_some hf53
  subst ha54
  have hm := hm56
  obtain ⟨hg57, hm⟩ := gb_some hm
  obtain ⟨r58, hq59, hm⟩ := ob_some hm
  refine rp_PF (pc := 66) (As := [.ref (b0 + (177 + 1 * nf52 + 0)), .ref (b0 + (177 + 1 * n7 + 0))]) (rest := []) hx hb hml hown hts hK lfJ4_149_X5 ((hZP s hK).1.2.2.1) (T := TX5z) (N := 0) (ci := 5) rfl ynx_J4_149 (ct_X5_compare (G := G) (l := l) (b0 := b0) hq59 hlt55 hn_n7) ⟨Nat.le_of_ble_eq_true rfl, Nat.le_of_ble_eq_true rfl⟩ (rp_recv hK hW1 (C := RX5) (T := TX5z) (N := 0) rfl (shP_5 (kd_PL hg57) (kd_k hg57))) ⟨hW0, hW1⟩ rfl rfl hl.1 (Nat.le_of_ble_eq_true rfl) dJ4_siftDownUsingComparator_66 ⟨Nat.zero_le _, Nat.zero_le _⟩ ?_
  refine W.eq (g2 := F0 m 71 ls [.int r58]) rfl ?_
  refine lv_if_gt (pc := 71) (tgt := 77) hx hb dJ4_siftDownUsingComparator_71 (by decide) (fun c60 => ?_) (fun c60 => ?_)
  · have hm := ite_t c60 hm
    refine lv_aload_n (pc := 77) hx hb dJ4_siftDownUsingComparator_77 rfl (lv_at hl 2 rfl) ?_
    refine lv_iload_n (pc := 78) hx hb dJ4_siftDownUsingComparator_78 rfl (lv_at hl 0 rfl) ?_
    refine lv_aload (pc := 79) hx hb dJ4_siftDownUsingComparator_79 (lv_at hl 7 rfl) ?_
    obtain ⟨hg61, hm⟩ := gb_some hm
    obtain ⟨hg62, hm⟩ := gb_some hm
    refine rp_aastR (pc := 81) (C := RX7) hx hb hts hK hW1 hS (kd_A hKM (ka_kd hg61) (by decide)) hg61 hg62 q2401 (rk_recv hK hW0 (177 + 1 * n7 + 0) (by omega) rfl rfl ((shX0_f177 G.2.1 hn_n7 _ rfl 0 (by decide) _ _ _).trans rfl)) dJ4_siftDownUsingComparator_81 (fun H64 locs65 hW66 hS67 hz68 hkp69 => ?_)
    have hKM70 := KM.sR (o := p2) (j := i0.toNatClampNeg) (x := (some (b0 + (177 + 1 * n7 + 0)))) hKM
    obtain ⟨v1_63, he9, hm⟩ := lm_some hm
    rw [he9] at hW66 hKM70
    have hW71 := rg_keepqX hW0 hkp69 (hPX _ (kd_PL (ka_kd hg61)))
    have hz72 := hz68.trans hz
    refine lv_iload (pc := 82) hx hb dJ4_siftDownUsingComparator_82 (lv_at hl 6 rfl) ?_
    refine lv_istore_n (pc := 84) (lv' := [(0, .int i6), (1, .ref (b0 + (177 + 1 * nf52 + 0))), (2, .ref p2), (3, .int i3), (4, .ref p4), (5, .int i5), (6, .int i6), (7, .ref (b0 + (177 + 1 * n7 + 0)))]) hx hb dJ4_siftDownUsingComparator_84 rfl hl (by decide) rfl (fun ls hl => ?_)
    refine lv_goto (pc := 85) (tgt := 5) hx hb dJ4_siftDownUsingComparator_85 (by decide) ?_
    exact hk5 v1_63 i6 (b0 + (177 + 1 * nf52 + 0)) p2 i3 p4 i5 hm H64 locs65 ls hW71 hW66 hS67 hz72 hKM70 (lv_sub hl [0, 1, 2, 3, 4, 5] rfl)
  · have hm := ite_f c60 hm
    refine lv_goto (pc := 74) (tgt := 88) hx hb dJ4_siftDownUsingComparator_74 (by decide) ?_
    refine lv_aload_n (pc := 88) hx hb dJ4_siftDownUsingComparator_88 rfl (lv_at hl 2 rfl) ?_
    refine lv_iload_n (pc := 89) hx hb dJ4_siftDownUsingComparator_89 rfl (lv_at hl 0 rfl) ?_
    refine lv_aload_n (pc := 90) hx hb dJ4_siftDownUsingComparator_90 rfl (lv_at hl 1 rfl) ?_
    obtain ⟨hg73, hm⟩ := gb_some hm
    obtain ⟨hg74, hm⟩ := gb_some hm
    refine rp_aastR (pc := 91) (C := RX7) hx hb hts hK hW1 hS (kd_A hKM (ka_kd hg73) (by decide)) hg73 hg74 q2401 (rk_recv hK hW0 (177 + 1 * nf52 + 0) (by omega) rfl rfl ((shX0_f177 G.2.1 hlt55 _ rfl 0 (by decide) _ _ _).trans rfl)) dJ4_siftDownUsingComparator_91 (fun H76 locs77 hW78 hS79 hz80 hkp81 => ?_)
    have hKM82 := KM.sR (o := p2) (j := i0.toNatClampNeg) (x := (some (b0 + (177 + 1 * nf52 + 0)))) hKM
    obtain ⟨v1_75, he9, hm⟩ := lm_some hm
    rw [he9] at hW78 hKM82
    have hW83 := rg_keepqX hW0 hkp81 (hPX _ (kd_PL (ka_kd hg73)))
    have hz84 := hz80.trans hz
    have e9 := rs1 hm
    subst e9
    exact rk_vret (pc := 92) hx hb hr hlk hS79 ⟨rfl, hW78, hz84, hKM82⟩ dJ4_siftDownUsingComparator_92
set_option maxHeartbeats 4000000 in
theorem w_fJ4_siftDownUsingComparator_found_5 (C : Cx G p s m args meth c RJ4 cJ4_siftDownUsingComparator 9 none) {b0 : Nat} {PL : Nat → Bool} {V0 : Mem} {vP0 : Mem} {rw1 : Mem} (hPX : ∀ z, PL z = true → ¬ fX b0 z) (hZP : ZP G) {k5 : Mem → Int32 → Nat → Nat → Int32 → Nat → Int32 → Option (Mem)} (hk5 : ∀ (v1 : Mem) (i0 : Int32) (p1 : Nat) (p2 : Nat) (i3 : Int32) (p4 : Nat) (i5 : Int32), k5 v1 i0 p1 p2 i3 p4 i5 = some rw1 → ∀ (H : Heap) (locs : List Loc) (ls : Array Slot), rg G b0 357 (shX0 G.2.1) V0 H → pl G PL v1 H → va_S (FA (fP PL vP0) s.heap.size) s.heap H locs → H.size = s.heap.size → KM vP0 v1 s.heap.size → lv_has ls 9 [(0, .int i0), (1, .ref p1), (2, .ref p2), (3, .int i3), (4, .ref p4), (5, .int i5)] → W p l e (rmT 3 0 0 66) s m args below meth c H locs 0 0 (MQ below (QcT (FA (fP PL vP0) s.heap.size) (fun ov H => ov = none ∧ pl G PL rw1 H ∧ H.size = s.heap.size ∧ KM vP0 rw1 s.heap.size)) args s 0 0 (FA (fP PL vP0) s.heap.size)) (F0 m 5 ls [])) : ∀ (v1 : Mem) (i0 : Int32) (p1 : Nat) (p2 : Nat) (i3 : Int32) (p4 : Nat) (i5 : Int32), fJ4_siftDownUsingComparator_found_5 PL b0 V0 k5 v1 i0 p1 p2 i3 p4 i5 = some rw1 → ∀ (H : Heap) (locs : List Loc) (ls : Array Slot), rg G b0 357 (shX0 G.2.1) V0 H → pl G PL v1 H → va_S (FA (fP PL vP0) s.heap.size) s.heap H locs → H.size = s.heap.size → KM vP0 v1 s.heap.size → lv_has ls 9 [(0, .int i0), (1, .ref p1), (2, .ref p2), (3, .int i3), (4, .ref p4), (5, .int i5)] → W p l e (rmT 3 0 0 66) s m args below meth c H locs 0 0 (MQ below (QcT (FA (fP PL vP0) s.heap.size) (fun ov H => ov = none ∧ pl G PL rw1 H ∧ H.size = s.heap.size ∧ KM vP0 rw1 s.heap.size)) args s 0 0 (FA (fP PL vP0) s.heap.size)) (F0 m 5 ls []) := by
  intro v1 i0 p1 p2 i3 p4 i5 hm H locs ls hW0 hW1 hS hz hKM hl
  obtain ⟨hx, hb, hr, hlk, hml, hown, hts, hK⟩ := id C
  unfold fJ4_siftDownUsingComparator_found_5 at hm
  refine lv_iload_n (pc := 5) hx hb dJ4_siftDownUsingComparator_5 rfl (lv_at hl 0 rfl) ?_
  refine lv_iload (pc := 6) hx hb dJ4_siftDownUsingComparator_6 (lv_at hl 5 rfl) ?_
  refine lv_icmp_ge (pc := 8) (tgt := 88) hx hb dJ4_siftDownUsingComparator_8 (by decide) (fun c1 => ?_) (fun c1 => ?_)
  · have hm := ite_t c1 hm
    refine lv_aload_n (pc := 88) hx hb dJ4_siftDownUsingComparator_88 rfl (lv_at hl 2 rfl) ?_
    refine lv_iload_n (pc := 89) hx hb dJ4_siftDownUsingComparator_89 rfl (lv_at hl 0 rfl) ?_
    refine lv_aload_n (pc := 90) hx hb dJ4_siftDownUsingComparator_90 rfl (lv_at hl 1 rfl) ?_
    obtain ⟨nf2, hf3, hm6⟩ := ob_some hm
    obtain ⟨ha4, hlt5⟩ := fi_some hf3
    subst ha4
    have hm := hm6
    obtain ⟨hg7, hm⟩ := gb_some hm
    obtain ⟨hg8, hm⟩ := gb_some hm
    refine rp_aastR (pc := 91) (C := RX7) hx hb hts hK hW1 hS (kd_A hKM (ka_kd hg7) (by decide)) hg7 hg8 q2401 (rk_recv hK hW0 (177 + 1 * nf2 + 0) (by omega) rfl rfl ((shX0_f177 G.2.1 hlt5 _ rfl 0 (by decide) _ _ _).trans rfl)) dJ4_siftDownUsingComparator_91 (fun H10 locs11 hW12 hS13 hz14 hkp15 => ?_)
    have hKM16 := KM.sR (o := p2) (j := i0.toNatClampNeg) (x := (some (b0 + (177 + 1 * nf2 + 0)))) hKM
    obtain ⟨v1_9, he9, hm⟩ := lm_some hm
    rw [he9] at hW12 hKM16
    have hW17 := rg_keepqX hW0 hkp15 (hPX _ (kd_PL (ka_kd hg7)))
    have hz18 := hz14.trans hz
    have e9 := rs1 hm
    subst e9
    exact rk_vret (pc := 92) hx hb hr hlk hS13 ⟨rfl, hW12, hz18, hKM16⟩ dJ4_siftDownUsingComparator_92
  · have hm := ite_f c1 hm
    refine lv_iload_n (pc := 11) hx hb dJ4_siftDownUsingComparator_11 rfl (lv_at hl 0 rfl) ?_
    refine lv_iconst (pc := 12) (v := (1 : Int32)) hx hb dJ4_siftDownUsingComparator_12 (by decide) ?_
    refine lv_ishl (pc := 13) hx hb dJ4_siftDownUsingComparator_13 ?_
    refine lv_iconst (pc := 14) (v := (1 : Int32)) hx hb dJ4_siftDownUsingComparator_14 (by decide) ?_
    refine lv_iadd (pc := 15) hx hb dJ4_siftDownUsingComparator_15 ?_
    refine lv_istore (pc := 16) (lv' := [(6, .int ((i0 <<< ((1 : Int32) &&& 31)) + (1 : Int32))), (0, .int i0), (1, .ref p1), (2, .ref p2), (3, .int i3), (4, .ref p4), (5, .int i5)]) hx hb dJ4_siftDownUsingComparator_16 hl (by decide) rfl (fun ls hl => ?_)
    refine lv_aload_n (pc := 18) hx hb dJ4_siftDownUsingComparator_18 rfl (lv_at hl 3 rfl) ?_
    refine lv_iload (pc := 19) hx hb dJ4_siftDownUsingComparator_19 (lv_at hl 0 rfl) ?_
    obtain ⟨hg19, hm⟩ := gb_some hm
    obtain ⟨hg20, hm⟩ := gb_some hm
    obtain ⟨oa21, he22, hm⟩ := lo_some hm
    refine rp_aald (pc := 21) hx hb hK hW1 hg19 hg20 he22 dJ4_siftDownUsingComparator_21 ?_
    refine lv_astoreO (pc := 22) (lv' := [(7, va_rf oa21), (6, .int ((i0 <<< ((1 : Int32) &&& 31)) + (1 : Int32))), (0, .int i0), (1, .ref p1), (2, .ref p2), (3, .int i3), (4, .ref p4), (5, .int i5)]) hx hb dJ4_siftDownUsingComparator_22 hl (by decide) rfl (fun ls hl => ?_)
    refine lv_iload (pc := 24) hx hb dJ4_siftDownUsingComparator_24 (lv_at hl 1 rfl) ?_
    refine lv_iconst (pc := 26) (v := (1 : Int32)) hx hb dJ4_siftDownUsingComparator_26 (by decide) ?_
    refine lv_iadd (pc := 27) hx hb dJ4_siftDownUsingComparator_27 ?_
    refine lv_istore (pc := 28) (lv' := [(8, .int (((i0 <<< ((1 : Int32) &&& 31)) + (1 : Int32)) + (1 : Int32))), (7, va_rf oa21), (6, .int ((i0 <<< ((1 : Int32) &&& 31)) + (1 : Int32))), (0, .int i0), (1, .ref p1), (2, .ref p2), (3, .int i3), (4, .ref p4), (5, .int i5)]) hx hb dJ4_siftDownUsingComparator_28 hl (by decide) (by simp [List.filter, cat_rf]) (fun ls hl => ?_)
    refine lv_iload (pc := 30) hx hb dJ4_siftDownUsingComparator_30 (lv_at hl 0 rfl) ?_
    refine lv_iload_n (pc := 32) hx hb dJ4_siftDownUsingComparator_32 rfl (lv_at hl 6 rfl) ?_
    refine lv_icmp_ge (pc := 33) (tgt := 61) hx hb dJ4_siftDownUsingComparator_33 (by decide) (fun c23 => ?_) (fun c23 => ?_)
    · have hm := ite_t c23 hm
      exact (w_fJ4_siftDownUsingComparator_found_61 C hPX hZP hk5) v1 i0 p1 p2 i3 p4 i5 ((i0 <<< ((1 : Int32) &&& 31)) + (1 : Int32)) oa21 hm H locs ls hW0 hW1 hS hz hKM (lv_sub hl [3, 4, 5, 6, 7, 8, 2, 1] rfl)
    · have hm := ite_f c23 hm
      refine lv_aload (pc := 36) hx hb dJ4_siftDownUsingComparator_36 (lv_at hl 7 rfl) ?_
      refine lv_aloadO (pc := 38) hx hb dJ4_siftDownUsingComparator_38 (lv_at hl 1 rfl) ?_
      refine lv_aload_n (pc := 40) hx hb dJ4_siftDownUsingComparator_40 rfl (lv_at hl 5 rfl) ?_
      refine lv_iload (pc := 41) hx hb dJ4_siftDownUsingComparator_41 (lv_at hl 0 rfl) ?_
      obtain ⟨hg24, hm⟩ := gb_some hm
      obtain ⟨hg25, hm⟩ := gb_some hm
      obtain ⟨oa26, he27, hm⟩ := lo_some hm
      refine rp_aald (pc := 43) hx hb hK hW1 hg24 hg25 he27 dJ4_siftDownUsingComparator_43 ?_
      obtain ⟨pa28, he29, hm30⟩ := ob_some hm
      subst he29
      have hm := hm30
      obtain ⟨nf31, hf32, hm35⟩ := ob_some hm
      obtain ⟨ha33, hlt34⟩ := fi_some hf32
      subst ha33
      have hm := hm35
      obtain ⟨pa36, he37, hm38⟩ := ob_some hm
      subst he37
      have hm := hm38
      obtain ⟨nf39, hf40, hm43⟩ := ob_some hm
      obtain ⟨ha41, hlt42⟩ := fi_some hf40
      subst ha41
      have hm := hm43
      obtain ⟨hg44, hm⟩ := gb_some hm
      obtain ⟨r45, hq46, hm⟩ := ob_some hm
      refine rp_PF (pc := 44) (As := [.ref (b0 + (177 + 1 * nf39 + 0)), .ref (b0 + (177 + 1 * nf31 + 0))]) (rest := []) hx hb hml hown hts hK lfJ4_149_X5 ((hZP s hK).1.2.2.1) (T := TX5z) (N := 0) (ci := 5) rfl ynx_J4_149 (ct_X5_compare (G := G) (l := l) (b0 := b0) hq46 hlt42 hlt34) ⟨Nat.le_of_ble_eq_true rfl, Nat.le_of_ble_eq_true rfl⟩ (rp_recv hK hW1 (C := RX5) (T := TX5z) (N := 0) rfl (shP_5 (kd_PL hg44) (kd_k hg44))) ⟨hW0, hW1⟩ rfl rfl hl.1 (Nat.le_of_ble_eq_true rfl) dJ4_siftDownUsingComparator_44 ⟨Nat.zero_le _, Nat.zero_le _⟩ ?_
      refine W.eq (g2 := F0 m 49 ls [.int r45]) rfl ?_
      refine lv_if_le (pc := 49) (tgt := 61) hx hb dJ4_siftDownUsingComparator_49 (by decide) (fun c47 => ?_) (fun c47 => ?_)
      · have hm := ite_t c47 hm
        exact (w_fJ4_siftDownUsingComparator_found_61b C hPX hZP hk5) v1 i0 p1 p2 i3 p4 i5 ((i0 <<< ((1 : Int32) &&& 31)) + (1 : Int32)) nf39 hm hlt42 H locs ls hW0 hW1 hS hz hKM (lv_sub hl [3, 4, 5, 6, 7, 8, 2, 1] rfl)
      · have hm := ite_f c47 hm
        refine lv_aload_n (pc := 52) hx hb dJ4_siftDownUsingComparator_52 rfl (lv_at hl 5 rfl) ?_
        refine lv_iload (pc := 53) hx hb dJ4_siftDownUsingComparator_53 (lv_at hl 0 rfl) ?_
        refine lv_dup (pc := 55) hx hb dJ4_siftDownUsingComparator_55 rfl ?_
        refine lv_istore (pc := 56) (lv' := [(6, .int (((i0 <<< ((1 : Int32) &&& 31)) + (1 : Int32)) + (1 : Int32))), (8, .int (((i0 <<< ((1 : Int32) &&& 31)) + (1 : Int32)) + (1 : Int32))), (7, .ref (b0 + (177 + 1 * nf39 + 0))), (0, .int i0), (1, .ref p1), (2, .ref p2), (3, .int i3), (4, .ref p4), (5, .int i5)]) hx hb dJ4_siftDownUsingComparator_56 hl (by decide) rfl (fun ls hl => ?_)
        obtain ⟨hg48, hm⟩ := gb_some hm
        obtain ⟨hg49, hm⟩ := gb_some hm
        obtain ⟨oa50, he51, hm⟩ := lo_some hm
        refine rp_aald (pc := 58) hx hb hK hW1 hg48 hg49 he51 dJ4_siftDownUsingComparator_58 ?_
        refine lv_astoreO (pc := 59) (lv' := [(7, va_rf oa50), (6, .int (((i0 <<< ((1 : Int32) &&& 31)) + (1 : Int32)) + (1 : Int32))), (8, .int (((i0 <<< ((1 : Int32) &&& 31)) + (1 : Int32)) + (1 : Int32))), (0, .int i0), (1, .ref p1), (2, .ref p2), (3, .int i3), (4, .ref p4), (5, .int i5)]) hx hb dJ4_siftDownUsingComparator_59 hl (by decide) rfl (fun ls hl => ?_)
        exact (w_fJ4_siftDownUsingComparator_found_61 C hPX hZP hk5) v1 i0 p1 p2 i3 p4 i5 (((i0 <<< ((1 : Int32) &&& 31)) + (1 : Int32)) + (1 : Int32)) oa50 hm H locs ls hW0 hW1 hS hz hKM (lv_sub hl [3, 4, 5, 6, 7, 8, 1, 0] rfl)
theorem w_fJ4_siftDownUsingComparator_found_5_l (C : Cx G p s m args meth c RJ4 cJ4_siftDownUsingComparator 9 none) {b0 : Nat} {PL : Nat → Bool} {V0 : Mem} {vP0 : Mem} {rw1 : Mem} (hPX : ∀ z, PL z = true → ¬ fX b0 z) (hZP : ZP G) : ∀ (n : Nat) (v1 : Mem) (i0 : Int32) (p1 : Nat) (p2 : Nat) (i3 : Int32) (p4 : Nat) (i5 : Int32), lq7 (fJ4_siftDownUsingComparator_found_5 PL b0 V0) n v1 i0 p1 p2 i3 p4 i5 = some rw1 → ∀ (H : Heap) (locs : List Loc) (ls : Array Slot), rg G b0 357 (shX0 G.2.1) V0 H → pl G PL v1 H → va_S (FA (fP PL vP0) s.heap.size) s.heap H locs → H.size = s.heap.size → KM vP0 v1 s.heap.size → lv_has ls 9 [(0, .int i0), (1, .ref p1), (2, .ref p2), (3, .int i3), (4, .ref p4), (5, .int i5)] → W p l e (rmT 3 0 0 66) s m args below meth c H locs 0 0 (MQ below (QcT (FA (fP PL vP0) s.heap.size) (fun ov H => ov = none ∧ pl G PL rw1 H ∧ H.size = s.heap.size ∧ KM vP0 rw1 s.heap.size)) args s 0 0 (FA (fP PL vP0) s.heap.size)) (F0 m 5 ls []) := by
  intro n
  induction n with
  | zero => intro v1 i0 p1 p2 i3 p4 i5 hm; exact (lq7_0 hm).elim
  | succ n ih => intro v1 i0 p1 p2 i3 p4 i5 hm; exact w_fJ4_siftDownUsingComparator_found_5 C hPX hZP ih v1 i0 p1 p2 i3 p4 i5 (lq7_s hm)
set_option maxHeartbeats 4000000 in
theorem w_fJ4_siftDownUsingComparator_found (C : Cx G p s m args meth c RJ4 cJ4_siftDownUsingComparator 9 none) {b0 : Nat} {PL : Nat → Bool} {V0 : Mem} {vP0 : Mem} {rw1 : Mem} (hPX : ∀ z, PL z = true → ¬ fX b0 z) (hZP : ZP G) : ∀ (v1 : Mem) (i0 : Int32) (p1 : Nat) (p2 : Nat) (i3 : Int32) (p4 : Nat), fJ4_siftDownUsingComparator_found PL b0 V0 v1 i0 p1 p2 i3 p4 = some rw1 → ∀ (H : Heap) (locs : List Loc) (ls : Array Slot), rg G b0 357 (shX0 G.2.1) V0 H → pl G PL v1 H → va_S (FA (fP PL vP0) s.heap.size) s.heap H locs → H.size = s.heap.size → KM vP0 v1 s.heap.size → lv_has ls 9 [(0, .int i0), (1, .ref p1), (2, .ref p2), (3, .int i3), (4, .ref p4)] → W p l e (rmT 3 0 0 66) s m args below meth c H locs 0 0 (MQ below (QcT (FA (fP PL vP0) s.heap.size) (fun ov H => ov = none ∧ pl G PL rw1 H ∧ H.size = s.heap.size ∧ KM vP0 rw1 s.heap.size)) args s 0 0 (FA (fP PL vP0) s.heap.size)) (F0 m 0 ls []) := by
  intro v1 i0 p1 p2 i3 p4 hm H locs ls hW0 hW1 hS hz hKM hl
  obtain ⟨hx, hb, hr, hlk, hml, hown, hts, hK⟩ := id C
  unfold fJ4_siftDownUsingComparator_found at hm
  refine lv_iload_n (pc := 0) hx hb dJ4_siftDownUsingComparator_0 rfl (lv_at hl 3 rfl) ?_
  refine lv_iconst (pc := 1) (v := (1 : Int32)) hx hb dJ4_siftDownUsingComparator_1 (by decide) ?_
  refine lv_iushr (pc := 2) hx hb dJ4_siftDownUsingComparator_2 rfl ?_
  refine lv_istore (pc := 3) (lv' := [(5, .int (i3.toUInt32 >>> ((1 : Int32).toUInt32 &&& Int32.toUInt32 31)).toInt32), (0, .int i0), (1, .ref p1), (2, .ref p2), (3, .int i3), (4, .ref p4)]) hx hb dJ4_siftDownUsingComparator_3 hl (by decide) rfl (fun ls hl => ?_)
  exact (w_fJ4_siftDownUsingComparator_found_5_l C hPX hZP FU) v1 i0 p1 p2 i3 p4 (i3.toUInt32 >>> ((1 : Int32).toUInt32 &&& Int32.toUInt32 31)).toInt32 hm H locs ls hW0 hW1 hS hz hKM (lv_sub hl [1, 2, 3, 4, 5, 0] rfl)
set_option maxHeartbeats 4000000 in
theorem ct_J4_siftDownUsingComparator_found {G : Gv} {l : Launch} {b0 : Nat} {PL : Nat → Bool} {V0 : Mem} {v1 : Mem} {i0 : Int32} {p1 : Nat} {p2 : Nat} {i3 : Int32} {p4 : Nat} {rw1 : Mem} {sz : Nat} (hm : fJ4_siftDownUsingComparator_found PL b0 V0 v1 i0 p1 p2 i3 p4 = some rw1) (hPX : ∀ z, PL z = true → ¬ fX b0 z) (hZP : ZP G) : CT G l yJ4_siftDownUsingComparator (ws_ yJ4_siftDownUsingComparator cJ4_siftDownUsingComparator 9 none) 3 0 0 66 [.int i0, .ref p1, .ref p2, .int i3, .ref p4] (fP PL v1) sz (fun H => rg G b0 357 (shX0 G.2.1) V0 H ∧ pl G PL v1 H) (fun ov H => ov = none ∧ pl G PL rw1 H ∧ H.size = sz ∧ KM v1 rw1 sz) := by
  refine Met.ofW (cc := cJ4_siftDownUsingComparator) (maxL := 9) (ret := none) (by decide +kernel) rfl ?_
  intro p e s m args below meth c s₁ B hml hv
  obtain ⟨rfl, ⟨hz, hW0, hW1⟩, hK⟩ := hv
  subst hz
  have hts := atoms_spec (ws := ws_ yJ4_siftDownUsingComparator cJ4_siftDownUsingComparator 9 none) B.pre
  have hts : ∀ w ∈ lw_all, w.before _ s = true := fun w h => hts w (List.mem_cons_of_mem _ h)
  have C : Cx G p s m _ meth c RJ4 cJ4_siftDownUsingComparator 9 none := ⟨B.exec, B.bytes, B.returns, B.notSynchronized, hml, findClass_of_methodNamed B.named, hts, hK⟩
  have hl := lv_entry ([.int i0, .ref p1, .ref p2, .int i3, .ref p4]) (n := 9) (Nat.le_of_ble_eq_true rfl)
  rw [lg_entry_eq]
  generalize (lg_sl ([.int i0, .ref p1, .ref p2, .int i3, .ref p4]) ++ List.replicate (9 - (lg_sl ([.int i0, .ref p1, .ref p2, .int i3, .ref p4])).length) Slot.unset).toArray = ls at hl ⊢
  have hl : lv_has ls 9 [(0, .int i0), (1, .ref p1), (2, .ref p2), (3, .int i3), (4, .ref p4)] := hl
  exact w_fJ4_siftDownUsingComparator_found C hPX hZP _ _ _ _ _ _ hm s.heap [] ls hW0 hW1 va_S.rf rfl KM.rf hl
theorem yn_J4_siftDownUsingComparator : YN yJ4_siftDownUsingComparator 5 := by
  unfold YN
  decide +kernel
theorem lkJ4_129 : LSt RJ4 129 yJ4_siftDownUsingComparator cJ4_siftDownUsingComparator 9 none := ⟨q1138, q1139, q123, q1140⟩
noncomputable def fJ4_poll_found (PL : Nat → Bool) (b0 : Nat) (V0 : Mem) (v1 : Mem) (p0 : Nat) : Option (Option Nat × Mem) :=
  gb (kd PL v1 p0 17) (
  lo (gR v1 p0 0) fun oa2 =>
  ob oa2 fun pa4 =>
  gb (ka PL v1 pa4 44) (
  gb (inR (0 : Int32) (gI v1 pa4 98).toNatClampNeg) (
  lo (gR v1 pa4 (0 : Int32).toNatClampNeg) fun oa9 =>
  od oa9 (
  some (none, v1)) (fun pa11 =>
  gb (kd PL v1 p0 17) (
  gb (kd PL v1 p0 17) (
  lm (sI v1 p0 3 ((gI v1 p0 3) + (1 : Int32))) fun v1_14 =>
  gb (kd PL v1_14 p0 17) (
  gb (kd PL v1_14 p0 17) (
  lm (sI v1_14 p0 1 ((gI v1_14 p0 1) - (1 : Int32))) fun v1_26 =>
  gb (ka PL v1_26 pa4 44) (
  gb (inR ((gI v1_14 p0 1) - (1 : Int32)) (gI v1_26 pa4 98).toNatClampNeg) (
  lo (gR v1_26 pa4 ((gI v1_14 p0 1) - (1 : Int32)).toNatClampNeg) fun oa38 =>
  gb (ka PL v1_26 pa4 44) (
  gb (inR ((gI v1_14 p0 1) - (1 : Int32)) (gI v1_26 pa4 98).toNatClampNeg) (
  lm (sR v1_26 pa4 ((gI v1_14 p0 1) - (1 : Int32)).toNatClampNeg none) fun v1_42 =>
  if ((gI v1_14 p0 1) - (1 : Int32)) ≤ 0 then (
  some ((some pa11), v1_42))
  else (
  gb (kd PL v1_42 p0 17) (
  lo (gR v1_42 p0 2) fun oa54 =>
  od oa54 (
  none) (fun pa56 =>
  ob oa38 fun pa57 =>
  ob (fJ4_siftDownUsingComparator_found PL b0 V0 v1_42 (0 : Int32) pa57 pa4 ((gI v1_14 p0 1) - (1 : Int32)) pa56) fun w60 =>
  some ((some pa11), w60))))))))))))))))
set_option maxHeartbeats 4000000 in
theorem w_fJ4_poll_found (C : Cx G p s m args meth c RJ4 cJ4_poll 6 (some (.object "java/lang/Object"))) {b0 : Nat} {PL : Nat → Bool} {V0 : Mem} {vP0 : Mem} {rx : Option Nat} {rw1 : Mem} (hPX : ∀ z, PL z = true → ¬ fX b0 z) (hZP : ZP G) : ∀ (v1 : Mem) (p0 : Nat), fJ4_poll_found PL b0 V0 v1 p0 = some (rx, rw1) → ∀ (H : Heap) (locs : List Loc) (ls : Array Slot), rg G b0 357 (shX0 G.2.1) V0 H → pl G PL v1 H → va_S (FA (fP PL vP0) s.heap.size) s.heap H locs → H.size = s.heap.size → KM vP0 v1 s.heap.size → lv_has ls 6 [(0, .ref p0)] → W p l e (rmT 4 0 0 94) s m args below meth c H locs 0 0 (MQ below (QcT (FA (fP PL vP0) s.heap.size) (fun ov H => ov = (some (va_rf rx)) ∧ pl G PL rw1 H ∧ H.size = s.heap.size ∧ KM vP0 rw1 s.heap.size)) args s 0 0 (FA (fP PL vP0) s.heap.size)) (F0 m 0 ls []) := by
  intro v1 p0 hm H locs ls hW0 hW1 hS hz hKM hl
  obtain ⟨hx, hb, hr, hlk, hml, hown, hts, hK⟩ := id C
  unfold fJ4_poll_found at hm
  refine lv_aload_n (pc := 0) hx hb dJ4_poll_0 rfl (lv_at hl 0 rfl) ?_
  obtain ⟨hg1, hm⟩ := gb_some hm
  obtain ⟨oa2, he3, hm⟩ := lo_some hm
  refine rk_get (pc := 1) hx hb hts hown hK (pl_rg hW1) flJ4_17 p0 (Nat.lt_succ_self _) (Nat.zero_add _).symm (shP_17 (kd_PL hg1) (kd_k hg1)) (x := va_rf oa2) (congrArg (fun z => some (va_rf z)) he3) dJ4_poll_1 ?_
  refine lv_dup (pc := 4) hx hb dJ4_poll_4 (cat_rf _) ?_
  refine lv_astore_nO (pc := 5) (lv' := [(1, va_rf oa2), (0, .ref p0)]) hx hb dJ4_poll_5 rfl hl (by decide) rfl (fun ls hl => ?_)
  refine lv_iconst (pc := 6) (v := (0 : Int32)) hx hb dJ4_poll_6 (by decide) ?_
  obtain ⟨pa4, he5, hm6⟩ := ob_some hm
  subst he5
  have hm := hm6
  obtain ⟨hg7, hm⟩ := gb_some hm
  obtain ⟨hg8, hm⟩ := gb_some hm
  obtain ⟨oa9, he10, hm⟩ := lo_some hm
  refine rp_aald (pc := 7) hx hb hK hW1 hg7 hg8 he10 dJ4_poll_7 ?_
  refine lv_dup (pc := 8) hx hb dJ4_poll_8 (cat_rf _) ?_
  refine lv_astore_nO (pc := 9) (lv' := [(2, va_rf oa9), (1, .ref pa4), (0, .ref p0)]) hx hb dJ4_poll_9 rfl hl (by decide) rfl (fun ls hl => ?_)
  rcases oa9 with _ | pa11
  · have hm := od_n hm
    refine lv_ifnullN (pc := 10) (tgt := 79) hx hb dJ4_poll_10 (by decide) ?_
    refine lv_aload_nN (pc := 79) hx hb dJ4_poll_79 rfl (lv_at hl 0 rfl) ?_
    obtain ⟨e8, e9⟩ := rs2 hm
    subst e8
    subst e9
    exact rp_aret (pc := 80) (x := none) hx hb hr (Or.inl ⟨_, rfl⟩) hlk hS ⟨rfl, hW1, hz, hKM⟩ dJ4_poll_80
  · have hm := od_s hm
    refine lv_ifnull (pc := 10) hx hb dJ4_poll_10 ?_
    refine lv_aload_n (pc := 13) hx hb dJ4_poll_13 rfl (lv_at hl 2 rfl) ?_
    refine lv_dup (pc := 14) hx hb dJ4_poll_14 rfl ?_
    obtain ⟨hg12, hm⟩ := gb_some hm
    refine rk_get (pc := 15) hx hb hts hown hK (pl_rg hW1) flJ4_93 p0 (Nat.lt_succ_self _) (Nat.zero_add _).symm (shP_17 (kd_PL hg12) (kd_k hg12)) (x := .int (gI v1 p0 3)) rfl dJ4_poll_15 ?_
    refine lv_iconst (pc := 18) (v := (1 : Int32)) hx hb dJ4_poll_18 (by decide) ?_
    refine lv_iadd (pc := 19) hx hb dJ4_poll_19 ?_
    obtain ⟨hg13, hm⟩ := gb_some hm
    refine rp_put (pc := 20) (q := p0) hx hb hts hown hK hW1 hS flJ4_93 ft_J4 (kd_A hKM hg13 (by decide)) (shP_17 (kd_PL hg13) (kd_k hg13)) rfl (x := .int ((gI v1 p0 3) + (1 : Int32))) rfl rfl (Nat.le_of_ble_eq_true rfl) (sI v1 p0 3 ((gI v1 p0 3) + (1 : Int32))) sI_ne (by rw [sI_eq]; exact shP_17 (kd_PL hg13) (kd_k hg13)) dJ4_poll_20 (fun H15 locs16 hW17 hS18 hz19 hkp20 => ?_)
    have hKM21 := KM.sI (o := p0) (j := 3) (x := ((gI v1 p0 3) + (1 : Int32))) hKM (by decide)
    obtain ⟨v1_14, he9, hm⟩ := lm_some hm
    rw [he9] at hW17 hKM21
    have hW22 := rg_keepqX hW0 hkp20 (hPX _ (kd_PL hg13))
    have hz23 := hz19.trans hz
    refine lv_aload_n (pc := 23) hx hb dJ4_poll_23 rfl (lv_at hl 1 rfl) ?_
    refine lv_aload_n (pc := 24) hx hb dJ4_poll_24 rfl (lv_at hl 2 rfl) ?_
    refine lv_dup (pc := 25) hx hb dJ4_poll_25 rfl ?_
    obtain ⟨hg24, hm⟩ := gb_some hm
    refine rk_get (pc := 26) hx hb hts hown hK (pl_rg hW17) flJ4_58 p0 (Nat.lt_succ_self _) (Nat.zero_add _).symm (shP_17 (kd_PL hg24) (kd_k hg24)) (x := .int (gI v1_14 p0 1)) rfl dJ4_poll_26 ?_
    refine lv_iconst (pc := 29) (v := (1 : Int32)) hx hb dJ4_poll_29 (by decide) ?_
    refine lv_isub (pc := 30) hx hb dJ4_poll_30 ?_
    refine lv_dup_x1 (pc := 31) hx hb dJ4_poll_31 rfl rfl ?_
    obtain ⟨hg25, hm⟩ := gb_some hm
    refine rp_put (pc := 32) (q := p0) hx hb hts hown hK hW17 hS18 flJ4_58 ft_J4 (kd_A hKM21 hg25 (by decide)) (shP_17 (kd_PL hg25) (kd_k hg25)) rfl (x := .int ((gI v1_14 p0 1) - (1 : Int32))) rfl rfl (Nat.le_of_ble_eq_true rfl) (sI v1_14 p0 1 ((gI v1_14 p0 1) - (1 : Int32))) sI_ne (by rw [sI_eq]; exact shP_17 (kd_PL hg25) (kd_k hg25)) dJ4_poll_32 (fun H27 locs28 hW29 hS30 hz31 hkp32 => ?_)
    have hKM33 := KM.sI (o := p0) (j := 1) (x := ((gI v1_14 p0 1) - (1 : Int32))) hKM21 (by decide)
    obtain ⟨v1_26, he9, hm⟩ := lm_some hm
    rw [he9] at hW29 hKM33
    have hW34 := rg_keepqX hW22 hkp32 (hPX _ (kd_PL hg25))
    have hz35 := hz31.trans hz23
    refine lv_dup (pc := 35) hx hb dJ4_poll_35 rfl ?_
    refine lv_istore_n (pc := 36) (lv' := [(3, .int ((gI v1_14 p0 1) - (1 : Int32))), (2, .ref pa11), (1, .ref pa4), (0, .ref p0)]) hx hb dJ4_poll_36 rfl hl (by decide) rfl (fun ls hl => ?_)
    obtain ⟨hg36, hm⟩ := gb_some hm
    obtain ⟨hg37, hm⟩ := gb_some hm
    obtain ⟨oa38, he39, hm⟩ := lo_some hm
    refine rp_aald (pc := 37) hx hb hK hW29 hg36 hg37 he39 dJ4_poll_37 ?_
    refine lv_astoreO (pc := 38) (lv' := [(4, va_rf oa38), (3, .int ((gI v1_14 p0 1) - (1 : Int32))), (2, .ref pa11), (1, .ref pa4), (0, .ref p0)]) hx hb dJ4_poll_38 hl (by decide) rfl (fun ls hl => ?_)
    refine lv_aload_n (pc := 40) hx hb dJ4_poll_40 rfl (lv_at hl 3 rfl) ?_
    refine lv_iload_n (pc := 41) hx hb dJ4_poll_41 rfl (lv_at hl 1 rfl) ?_
    refine lv_null (pc := 42) hx hb dJ4_poll_42 ?_
    obtain ⟨hg40, hm⟩ := gb_some hm
    obtain ⟨hg41, hm⟩ := gb_some hm
    refine rp_aastN (pc := 43) hx hb hK hW29 hS30 (kd_A hKM33 (ka_kd hg40) (by decide)) hg40 hg41 dJ4_poll_43 (fun H43 locs44 hW45 hS46 hz47 hkp48 => ?_)
    have hKM49 := KM.sR (o := pa4) (j := ((gI v1_14 p0 1) - (1 : Int32)).toNatClampNeg) (x := none) hKM33
    obtain ⟨v1_42, he9, hm⟩ := lm_some hm
    rw [he9] at hW45 hKM49
    have hW50 := rg_keepqX hW34 hkp48 (hPX _ (kd_PL (ka_kd hg40)))
    have hz51 := hz47.trans hz35
    refine lv_iload_n (pc := 44) hx hb dJ4_poll_44 rfl (lv_at hl 1 rfl) ?_
    refine lv_if_le (pc := 45) (tgt := 79) hx hb dJ4_poll_45 (by decide) (fun c52 => ?_) (fun c52 => ?_)
    · have hm := ite_t c52 hm
      refine lv_aload_n (pc := 79) hx hb dJ4_poll_79 rfl (lv_at hl 2 rfl) ?_
      obtain ⟨e8, e9⟩ := rs2 hm
      subst e8
      subst e9
      exact rp_aret (pc := 80) (x := (some pa11)) hx hb hr (Or.inl ⟨_, rfl⟩) hlk hS46 ⟨rfl, hW45, hz51, hKM49⟩ dJ4_poll_80
    · have hm := ite_f c52 hm
      refine lv_aload_n (pc := 48) hx hb dJ4_poll_48 rfl (lv_at hl 4 rfl) ?_
      obtain ⟨hg53, hm⟩ := gb_some hm
      obtain ⟨oa54, he55, hm⟩ := lo_some hm
      refine rk_get (pc := 49) hx hb hts hown hK (pl_rg hW45) flJ4_21 p0 (Nat.lt_succ_self _) (Nat.zero_add _).symm (shP_17 (kd_PL hg53) (kd_k hg53)) (x := va_rf oa54) (congrArg (fun z => some (va_rf z)) he55) dJ4_poll_49 ?_
      refine lv_dup (pc := 52) hx hb dJ4_poll_52 (cat_rf _) ?_
      refine lv_astoreO (pc := 53) (lv' := [(5, va_rf oa54), (4, va_rf oa38), (3, .int ((gI v1_14 p0 1) - (1 : Int32))), (2, .ref pa11), (1, .ref pa4), (0, .ref p0)]) hx hb dJ4_poll_53 hl (by decide) (by simp [List.filter, cat_rf]) (fun ls hl => ?_)
      rcases oa54 with _ | pa56
      · have hm := od_n hm
        refine lv_ifnonnullN (pc := 55) hx hb dJ4_poll_55 ?_
        refine lv_iconst (pc := 58) (v := (0 : Int32)) hx hb dJ4_poll_58 (by decide) ?_
        refine lv_aloadO (pc := 59) hx hb dJ4_poll_59 (lv_at hl 1 rfl) ?_
        refine lv_aload_n (pc := 61) hx hb dJ4_poll_61 rfl (lv_at hl 4 rfl) ?_
        refine lv_iload_n (pc := 62) hx hb dJ4_poll_62 rfl (lv_at hl 2 rfl) ?_
        exact nomatch hm
      · have hm := od_s hm
        refine lv_ifnonnull (pc := 55) (tgt := 69) hx hb dJ4_poll_55 (by decide) ?_
        refine lv_iconst (pc := 69) (v := (0 : Int32)) hx hb dJ4_poll_69 (by decide) ?_
        refine lv_aloadO (pc := 70) hx hb dJ4_poll_70 (lv_at hl 1 rfl) ?_
        refine lv_aload_n (pc := 72) hx hb dJ4_poll_72 rfl (lv_at hl 4 rfl) ?_
        refine lv_iload_n (pc := 73) hx hb dJ4_poll_73 rfl (lv_at hl 2 rfl) ?_
        refine lv_aload (pc := 74) hx hb dJ4_poll_74 (lv_at hl 0 rfl) ?_
        obtain ⟨pa57, he58, hm59⟩ := ob_some hm
        subst he58
        have hm := hm59
        obtain ⟨w60, hq61, hm⟩ := ob_some hm
        refine rk_TS (pc := 76) (As := [.int (0 : Int32), .ref pa57, .ref pa4, .int ((gI v1_14 p0 1) - (1 : Int32)), .ref pa56]) (rest := []) (mc := 0) (ms := 0) hx hb hml hown hts hK hS46 (fun q hq => FA_sz rfl q hq) lkJ4_129 yn_J4_siftDownUsingComparator (ct_J4_siftDownUsingComparator_found (G := G) (l := l) (b0 := b0) (sz := H43.size) hq61 hPX hZP) ⟨Nat.le_of_ble_eq_true rfl, Nat.le_of_ble_eq_true rfl⟩ (fun z h => (KM_hf2 hKM49 z h)) ⟨hW50, hW45⟩ rfl rfl hl.1 (Nat.le_of_ble_eq_true rfl) dJ4_poll_76 ⟨Nat.zero_le _, Nat.zero_le _⟩ (fun ov9 H62 locs63 hP64 hkp65 hS66 => ?_)
        obtain ⟨rfl, hW67, hz68, hKM69⟩ := hP64
        have hW70 := rg_keepX hW50 hkp65 (by intro z h0 h3; have h1 := h0.1.1; have h2 := h0.1.2; have h4 := h0.2; exact hPX _ h3.1 h0)
        have hz71 := hz68.trans hz51
        have hKM72 := KM.trans hKM49 hKM69 (by omega)
        refine W.eq (g2 := F0 m 79 ls []) rfl ?_
        refine lv_aload_n (pc := 79) hx hb dJ4_poll_79 rfl (lv_at hl 3 rfl) ?_
        obtain ⟨e8, e9⟩ := rs2 hm
        subst e8
        subst e9
        exact rp_aret (pc := 80) (x := (some pa11)) hx hb hr (Or.inl ⟨_, rfl⟩) hlk hS66 ⟨rfl, hW67, hz71, hKM72⟩ dJ4_poll_80
set_option maxHeartbeats 4000000 in
theorem ct_J4_poll_found {G : Gv} {l : Launch} {b0 : Nat} {PL : Nat → Bool} {V0 : Mem} {v1 : Mem} {p0 : Nat} {rx : Option Nat} {rw1 : Mem} {sz : Nat} (hm : fJ4_poll_found PL b0 V0 v1 p0 = some (rx, rw1)) (hPX : ∀ z, PL z = true → ¬ fX b0 z) (hZP : ZP G) : CT G l yJ4_poll (ws_ yJ4_poll cJ4_poll 6 (some (.object "java/lang/Object"))) 4 0 0 94 [.ref p0] (fP PL v1) sz (fun H => rg G b0 357 (shX0 G.2.1) V0 H ∧ pl G PL v1 H) (fun ov H => ov = (some (va_rf rx)) ∧ pl G PL rw1 H ∧ H.size = sz ∧ KM v1 rw1 sz) := by
  refine Met.ofW (cc := cJ4_poll) (maxL := 6) (ret := (some (.object "java/lang/Object"))) (by decide +kernel) rfl ?_
  intro p e s m args below meth c s₁ B hml hv
  obtain ⟨rfl, ⟨hz, hW0, hW1⟩, hK⟩ := hv
  subst hz
  have hts := atoms_spec (ws := ws_ yJ4_poll cJ4_poll 6 (some (.object "java/lang/Object"))) B.pre
  have hts : ∀ w ∈ lw_all, w.before _ s = true := fun w h => hts w (List.mem_cons_of_mem _ h)
  have C : Cx G p s m _ meth c RJ4 cJ4_poll 6 (some (.object "java/lang/Object")) := ⟨B.exec, B.bytes, B.returns, B.notSynchronized, hml, findClass_of_methodNamed B.named, hts, hK⟩
  have hl := lv_entry ([.ref p0]) (n := 6) (Nat.le_of_ble_eq_true rfl)
  rw [lg_entry_eq]
  generalize (lg_sl ([.ref p0]) ++ List.replicate (6 - (lg_sl ([.ref p0])).length) Slot.unset).toArray = ls at hl ⊢
  have hl : lv_has ls 6 [(0, .ref p0)] := hl
  exact w_fJ4_poll_found C hPX hZP _ _ hm s.heap [] ls hW0 hW1 va_S.rf rfl KM.rf hl
end
