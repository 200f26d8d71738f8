set_option maxRecDepth 100000
section
variable {p : Program} {l : Launch} {e : Env} {s : State} {m : MethodId} {args : Array Value} {below : List Frame} {meth : Method} {c : Code} {G : Gv}
noncomputable def fJ4_add_foundfit (PL : Nat → Bool) (b0 : Nat) (V0 : Mem) (v1 : Mem) (p0 : Nat) (p1 : Nat) : Option (Int32 × Mem) :=
  gb (kd PL v1 p0 17) (
  ob2 (fJ4_offer_foundfit PL b0 V0 v1 p0 p1) fun r2 w3 =>
  gb (z01 r2) (some (r2, w3)))
set_option maxHeartbeats 4000000 in
theorem w_fJ4_add_foundfit (C : Cx G p s m args meth c RJ4 cJ4_add 2 (some .boolean)) {b0 : Nat} {PL : Nat → Bool} {V0 : Mem} {vP0 : Mem} {rx : Int32} {rw1 : Mem} (hPX : ∀ z, PL z = true → ¬ fX b0 z) (hZP : ZP G) : ∀ (v1 : Mem) (p0 : Nat) (p1 : Nat), fJ4_add_foundfit PL b0 V0 v1 p0 p1 = some (rx, rw1) → ∀ (H : Heap) (locs : List Loc) (ls : Array Slot), rg G b0 357 (shX0 G.2.1) V0 H → pl G PL v1 H → va_S (FA (fP PL vP0) s.heap.size) s.heap H locs → H.size = s.heap.size → KM vP0 v1 s.heap.size → lv_has ls 2 [(0, .ref p0), (1, .ref p1)] → W p l e (rmT 6 0 0 135) s m args below meth c H locs 0 0 (MQ below (QcT (FA (fP PL vP0) s.heap.size) (fun ov H => ov = (some (.int rx)) ∧ pl G PL rw1 H ∧ H.size = s.heap.size ∧ KM vP0 rw1 s.heap.size)) args s 0 0 (FA (fP PL vP0) s.heap.size)) (F0 m 0 ls []) := by
  intro v1 p0 p1 hm H locs ls hW0 hW1 hS hz hKM hl
  obtain ⟨hx, hb, hr, hlk, hml, hown, hts, hK⟩ := id C
  unfold fJ4_add_foundfit at hm
  refine lv_aload_n (pc := 0) hx hb dJ4_add_0 rfl (lv_at hl 0 rfl) ?_
  refine lv_aload_n (pc := 1) hx hb dJ4_add_1 rfl (lv_at hl 1 rfl) ?_
  obtain ⟨hg1, hm⟩ := gb_some hm
  obtain ⟨r2, w3, hq4, hm⟩ := ob2_some hm
  refine rk_TV (pc := 2) (As := [.ref p1]) (rest := []) (mc := 0) (ms := 0) hx hb hml hown hts hK hS (fun q hq => FA_sz rfl q hq) lkJ4_89 rfl yn_J4_offer (ct_J4_offer_foundfit (G := G) (l := l) (b0 := b0) (sz := H.size) hq4 hPX hZP) ⟨Nat.le_of_ble_eq_true rfl, Nat.le_of_ble_eq_true rfl⟩ (fun z h => (KM_hf2 hKM z h)) (rp_recv hK hW1 (C := RJ4) (T := TJ4) (N := 4) rfl (shP_17 (kd_PL hg1) (kd_k hg1))) ⟨hW0, hW1⟩ rfl rfl hl.1 (Nat.le_of_ble_eq_true rfl) dJ4_add_2 ⟨Nat.zero_le _, Nat.zero_le _⟩ (fun ov9 H5 locs6 hP7 hkp8 hS9 => ?_)
  obtain ⟨rfl, hW10, hz11, hKM12⟩ := hP7
  have hW13 := rg_keepX hW0 hkp8 (by intro z h0 h3; have h1 := h0.1.1; have h2 := h0.1.2; have h4 := h0.2; exact hPX _ h3.1 h0)
  have hz14 := hz11.trans hz
  have hKM15 := KM.trans hKM hKM12 (by omega)
  refine W.eq (g2 := F0 m 5 ls [.int r2]) rfl ?_
  obtain ⟨hg16, hm⟩ := gb_some hm
  obtain ⟨e8, e9⟩ := rs2 hm
  subst e8
  subst e9
  exact rk_zret (pc := 5) hx hb hr hlk hg16 hS9 ⟨rfl, hW10, hz14, hKM15⟩ dJ4_add_5
set_option maxHeartbeats 4000000 in
theorem ct_J4_add_foundfit {G : Gv} {l : Launch} {b0 : Nat} {PL : Nat → Bool} {V0 : Mem} {v1 : Mem} {p0 : Nat} {p1 : Nat} {rx : Int32} {rw1 : Mem} {sz : Nat} (hm : fJ4_add_foundfit PL b0 V0 v1 p0 p1 = some (rx, rw1)) (hPX : ∀ z, PL z = true → ¬ fX b0 z) (hZP : ZP G) : CT G l yJ4_add (ws_ yJ4_add cJ4_add 2 (some .boolean)) 6 0 0 135 [.ref p0, .ref p1] (fP PL v1) sz (fun H => rg G b0 357 (shX0 G.2.1) V0 H ∧ pl G PL v1 H) (fun ov H => ov = (some (.int rx)) ∧ pl G PL rw1 H ∧ H.size = sz ∧ KM v1 rw1 sz) := by
  refine Met.ofW (cc := cJ4_add) (maxL := 2) (ret := (some .boolean)) (by decide +kernel) rfl ?_
  intro p e s m args below meth c s₁ B hml hv
  obtain ⟨rfl, ⟨hz, hW0, hW1⟩, hK⟩ := hv
  subst hz
  have hts := atoms_spec (ws := ws_ yJ4_add cJ4_add 2 (some .boolean)) B.pre
  have hts : ∀ w ∈ lw_all, w.before _ s = true := fun w h => hts w (List.mem_cons_of_mem _ h)
  have C : Cx G p s m _ meth c RJ4 cJ4_add 2 (some .boolean) := ⟨B.exec, B.bytes, B.returns, B.notSynchronized, hml, findClass_of_methodNamed B.named, hts, hK⟩
  have hl := lv_entry ([.ref p0, .ref p1]) (n := 2) (Nat.le_of_ble_eq_true rfl)
  rw [lg_entry_eq]
  generalize (lg_sl ([.ref p0, .ref p1]) ++ List.replicate (2 - (lg_sl ([.ref p0, .ref p1])).length) Slot.unset).toArray = ls at hl ⊢
  have hl : lv_has ls 2 [(0, .ref p0), (1, .ref p1)] := hl
  exact w_fJ4_add_foundfit C hPX hZP _ _ _ hm s.heap [] ls hW0 hW1 va_S.rf rfl KM.rf hl
noncomputable def fJ4_siftDownComparable_node_68 (PL : Nat → Bool) (b0 : Nat) (V0 : Mem) (k11 : Mem → Int32 → Nat → Int32 → Nat → Int32 → Option (Mem)) (v1 : Mem) (i0 : Int32) (p2 : Nat) (i3 : Int32) (n4 : Nat) (i5 : Int32) (i6 : Int32) (o7 : Option Nat) : Option (Mem) :=
  ob o7 fun p76 =>
  ob (fi b0 197 4 40 p76) fun n78 =>
  ob (fX8_compareTo (shf V0 (197 + 4 * n4)) (shf V0 (197 + 4 * n78))) fun r82 =>
  if 0 < r82 then (
  gb (ka PL v1 p2 44) (
  gb (inR i0 (gI v1 p2 98).toNatClampNeg) (
  lm (sR v1 p2 i0.toNatClampNeg (some (b0 + (197 + 4 * n78 + 0)))) fun v1_87 =>
  k11 v1_87 i6 p2 i3 n4 i5)))
  else (
  gb (ka PL v1 p2 44) (
  gb (inR i0 (gI v1 p2 98).toNatClampNeg) (
  lm (sR v1 p2 i0.toNatClampNeg (some (b0 + (197 + 4 * n4 + 0)))) fun v1_99 =>
  some v1_99)))
noncomputable def fJ4_siftDownComparable_node_68b (PL : Nat → Bool) (b0 : Nat) (V0 : Mem) (k11 : Mem → Int32 → Nat → Int32 → Nat → Int32 → Option (Mem)) (v1 : Mem) (i0 : Int32) (p2 : Nat) (i3 : Int32) (n4 : Nat) (i5 : Int32) (i6 : Int32) (n7 : Nat) : Option (Mem) :=
  ob (fX8_compareTo (shf V0 (197 + 4 * n4)) (shf V0 (197 + 4 * n7))) fun r49 =>
  if 0 < r49 then (
  gb (ka PL v1 p2 44) (
  gb (inR i0 (gI v1 p2 98).toNatClampNeg) (
  lm (sR v1 p2 i0.toNatClampNeg (some (b0 + (197 + 4 * n7 + 0)))) fun v1_54 =>
  k11 v1_54 i6 p2 i3 n4 i5)))
  else (
  gb (ka PL v1 p2 44) (
  gb (inR i0 (gI v1 p2 98).toNatClampNeg) (
  lm (sR v1 p2 i0.toNatClampNeg (some (b0 + (197 + 4 * n4 + 0)))) fun v1_66 =>
  some v1_66)))
noncomputable def fJ4_siftDownComparable_node_11 (PL : Nat → Bool) (b0 : Nat) (V0 : Mem) (k11 : Mem → Int32 → Nat → Int32 → Nat → Int32 → Option (Mem)) (v1 : Mem) (i0 : Int32) (p2 : Nat) (i3 : Int32) (n4 : Nat) (i5 : Int32) : Option (Mem) :=
  if i5 ≤ i0 then (
  gb (ka PL v1 p2 44) (
  gb (inR i0 (gI v1 p2 98).toNatClampNeg) (
  lm (sR v1 p2 i0.toNatClampNeg (some (b0 + (197 + 4 * n4 + 0)))) fun v1_8 =>
  some v1_8)))
  else (
  gb (ka PL v1 p2 44) (
  gb (inR ((i0 <<< ((1 : Int32) &&& 31)) + (1 : Int32)) (gI v1 p2 98).toNatClampNeg) (
  lo (gR v1 p2 ((i0 <<< ((1 : Int32) &&& 31)) + (1 : Int32)).toNatClampNeg) fun o20 =>
  if i3 ≤ (((i0 <<< ((1 : Int32) &&& 31)) + (1 : Int32)) + (1 : Int32)) then (
  fJ4_siftDownComparable_node_68 PL b0 V0 k11 v1 i0 p2 i3 n4 i5 ((i0 <<< ((1 : Int32) &&& 31)) + (1 : Int32)) o20)
  else (
  od o20 (
  gb (ka PL v1 p2 44) (
  gb (inR (((i0 <<< ((1 : Int32) &&& 31)) + (1 : Int32)) + (1 : Int32)) (gI v1 p2 98).toNatClampNeg) (
  lo (gR v1 p2 (((i0 <<< ((1 : Int32) &&& 31)) + (1 : Int32)) + (1 : Int32)).toNatClampNeg) fun o26 =>
  none))) (fun p23 =>
  ob (fi b0 197 4 40 p23) fun n28 =>
  gb (ka PL v1 p2 44) (
  gb (inR (((i0 <<< ((1 : Int32) &&& 31)) + (1 : Int32)) + (1 : Int32)) (gI v1 p2 98).toNatClampNeg) (
  lo (gR v1 p2 (((i0 <<< ((1 : Int32) &&& 31)) + (1 : Int32)) + (1 : Int32)).toNatClampNeg) fun o34 =>
  ob o34 fun p36 =>
  ob (fi b0 197 4 40 p36) fun n38 =>
  ob (fX8_compareTo (shf V0 (197 + 4 * n28)) (shf V0 (197 + 4 * n38))) fun r42 =>
  if r42 ≤ 0 then (
  fJ4_siftDownComparable_node_68b PL b0 V0 k11 v1 i0 p2 i3 n4 i5 ((i0 <<< ((1 : Int32) &&& 31)) + (1 : Int32)) n28)
  else (
  gb (ka PL v1 p2 44) (
  gb (inR (((i0 <<< ((1 : Int32) &&& 31)) + (1 : Int32)) + (1 : Int32)) (gI v1 p2 98).toNatClampNeg) (
  lo (gR v1 p2 (((i0 <<< ((1 : Int32) &&& 31)) + (1 : Int32)) + (1 : Int32)).toNatClampNeg) fun o47 =>
  fJ4_siftDownComparable_node_68 PL b0 V0 k11 v1 i0 p2 i3 n4 i5 (((i0 <<< ((1 : Int32) &&& 31)) + (1 : Int32)) + (1 : Int32)) o47))))))))))
noncomputable def fJ4_siftDownComparable_node (PL : Nat → Bool) (b0 : Nat) (V0 : Mem) (v1 : Mem) (i0 : Int32) (p1 : Nat) (p2 : Nat) (i3 : Int32) : Option (Mem) :=
  ob (fi b0 197 4 40 p1) fun n1 =>
  lq6 (fJ4_siftDownComparable_node_11 PL b0 V0) FU v1 i0 p2 i3 n1 (i3.toUInt32 >>> ((1 : Int32).toUInt32 &&& Int32.toUInt32 31)).toInt32
set_option maxHeartbeats 4000000 in
theorem w_fJ4_siftDownComparable_node_68 (C : Cx G p s m args meth c RJ4 cJ4_siftDownComparable 9 none) {b0 : Nat} {PL : Nat → Bool} {V0 : Mem} {vP0 : Mem} {rw1 : Mem} (hPX : ∀ z, PL z = true → ¬ fX b0 z) (hZP : ZP G) {k11 : Mem → Int32 → Nat → Int32 → Nat → Int32 → Option (Mem)} (hk11 : ∀ (v1 : Mem) (i0 : Int32) (p2 : Nat) (i3 : Int32) (n4 : Nat) (i5 : Int32), k11 v1 i0 p2 i3 n4 i5 = some rw1 → (hn_n4 : n4 < 40) → ∀ (H : Heap) (locs : List Loc) (ls : Array Slot), rg G b0 357 (shX0 G.2.1) V0 H → pl G PL v1 H → va_S (FA (fP PL vP0) s.heap.size) s.heap H locs → H.size = s.heap.size → KM vP0 v1 s.heap.size → lv_has ls 9 [(0, .int i0), (2, .ref p2), (3, .int i3), (4, .ref (b0 + (197 + 4 * n4 + 0))), (5, .int i5)] → W p l e (rmT 2 0 0 46) s m args below meth c H locs 0 0 (MQ below (QcT (FA (fP PL vP0) s.heap.size) (fun ov H => ov = none ∧ pl G PL rw1 H ∧ H.size = s.heap.size ∧ KM vP0 rw1 s.heap.size)) args s 0 0 (FA (fP PL vP0) s.heap.size)) (F0 m 11 ls [])) : ∀ (v1 : Mem) (i0 : Int32) (p2 : Nat) (i3 : Int32) (n4 : Nat) (i5 : Int32) (i6 : Int32) (o7 : Option Nat), fJ4_siftDownComparable_node_68 PL b0 V0 k11 v1 i0 p2 i3 n4 i5 i6 o7 = some rw1 → (hn_n4 : n4 < 40) → ∀ (H : Heap) (locs : List Loc) (ls : Array Slot), rg G b0 357 (shX0 G.2.1) V0 H → pl G PL v1 H → va_S (FA (fP PL vP0) s.heap.size) s.heap H locs → H.size = s.heap.size → KM vP0 v1 s.heap.size → lv_has ls 9 [(0, .int i0), (2, .ref p2), (3, .int i3), (4, .ref (b0 + (197 + 4 * n4 + 0))), (5, .int i5), (6, .int i6), (7, va_rf o7)] → W p l e (rmT 2 0 0 46) s m args below meth c H locs 0 0 (MQ below (QcT (FA (fP PL vP0) s.heap.size) (fun ov H => ov = none ∧ pl G PL rw1 H ∧ H.size = s.heap.size ∧ KM vP0 rw1 s.heap.size)) args s 0 0 (FA (fP PL vP0) s.heap.size)) (F0 m 68 ls []) := by
  intro v1 i0 p2 i3 n4 i5 i6 o7 hm hn_n4 H locs ls hW0 hW1 hS hz hKM hl
  obtain ⟨hx, hb, hr, hlk, hml, hown, hts, hK⟩ := id C
  unfold fJ4_siftDownComparable_node_68 at hm
  refine lv_aload (pc := 68) hx hb dJ4_siftDownComparable_68 (lv_at hl 3 rfl) ?_
  refine lv_aloadO (pc := 70) hx hb dJ4_siftDownComparable_70 (lv_at hl 6 rfl) ?_
  obtain ⟨p76, he77, hm⟩ := ob_some hm
  subst he77
  obtain ⟨n78, hf79, hm⟩ := ob_some hm
  obtain ⟨ha80, hlt81⟩ := fi_some hf79
  subst ha80
  obtain ⟨r82, hq83, hm⟩ := ob_some hm
  refine rp_PF (pc := 72) (As := [.ref (b0 + (197 + 4 * n78 + 0))]) (rest := []) hx hb hml hown hts hK lfJ4_146_X8 ((hZP s hK).1.2.1) (T := TX8) (N := 8) (ci := 8) rfl ynx_J4_146 (ct_X8_compareTo (G := G) (l := l) (b0 := (b0 + (197 + 4 * n4 + 0))) (b1 := (b0 + (197 + 4 * n78 + 0))) hq83) ⟨Nat.le_of_ble_eq_true rfl, Nat.le_of_ble_eq_true rfl⟩ (rk_recv hK hW0 (197 + 4 * n4 + 0) (by omega) rfl rfl ((shX0_f197 G.2.1 hn_n4 _ rfl 0 (by decide) _ _ _).trans rfl)) ⟨(rg_sub (d := (197 + 4 * n4)) hW0 rfl (by omega) (fun o ho x y z => shX0_f197 G.2.1 hn_n4 _ rfl o ho x y z)), (rg_sub (d := (197 + 4 * n78)) hW0 rfl (by omega) (fun o ho x y z => shX0_f197 G.2.1 hlt81 _ rfl o ho x y z))⟩ rfl rfl hl.1 (Nat.le_of_ble_eq_true rfl) dJ4_siftDownComparable_72 ⟨Nat.zero_le _, Nat.zero_le _⟩ ?_
  refine W.eq (g2 := F0 m 77 ls [.int r82]) rfl ?_
  refine lv_if_gt (pc := 77) (tgt := 83) hx hb dJ4_siftDownComparable_77 (by decide) (fun c84 => ?_) (fun c84 => ?_)
  · have hm := ite_t c84 hm
    refine lv_aload_n (pc := 83) hx hb dJ4_siftDownComparable_83 rfl (lv_at hl 1 rfl) ?_
    refine lv_iload_n (pc := 84) hx hb dJ4_siftDownComparable_84 rfl (lv_at hl 0 rfl) ?_
    refine lv_aload (pc := 85) hx hb dJ4_siftDownComparable_85 (lv_at hl 6 rfl) ?_
    obtain ⟨hg85, hm⟩ := gb_some hm
    obtain ⟨hg86, hm⟩ := gb_some hm
    refine rp_aastR (pc := 87) (C := RX8) hx hb hts hK hW1 hS (kd_A hKM (ka_kd hg85) (by decide)) hg85 hg86 q2402 (rk_recv hK hW0 (197 + 4 * n78 + 0) (by omega) rfl rfl ((shX0_f197 G.2.1 hlt81 _ rfl 0 (by decide) _ _ _).trans rfl)) dJ4_siftDownComparable_87 (fun H88 locs89 hW90 hS91 hz92 hkp93 => ?_)
    have hKM94 := KM.sR (o := p2) (j := i0.toNatClampNeg) (x := (some (b0 + (197 + 4 * n78 + 0)))) hKM
    obtain ⟨v1_87, he9, hm⟩ := lm_some hm
    rw [he9] at hW90 hKM94
    have hW95 := rg_keepqX hW0 hkp93 (hPX _ (kd_PL (ka_kd hg85)))
    have hz96 := hz92.trans hz
    refine lv_iload (pc := 88) hx hb dJ4_siftDownComparable_88 (lv_at hl 5 rfl) ?_
    refine lv_istore_n (pc := 90) (lv' := [(0, .int i6), (2, .ref p2), (3, .int i3), (4, .ref (b0 + (197 + 4 * n4 + 0))), (5, .int i5), (6, .int i6), (7, .ref (b0 + (197 + 4 * n78 + 0)))]) hx hb dJ4_siftDownComparable_90 rfl hl (by decide) rfl (fun ls hl => ?_)
    refine lv_goto (pc := 91) (tgt := 11) hx hb dJ4_siftDownComparable_91 (by decide) ?_
    exact hk11 v1_87 i6 p2 i3 n4 i5 hm hn_n4 H88 locs89 ls hW95 hW90 hS91 hz96 hKM94 (lv_sub hl [0, 1, 2, 3, 4] rfl)
  · have hm := ite_f c84 hm
    refine lv_goto (pc := 80) (tgt := 94) hx hb dJ4_siftDownComparable_80 (by decide) ?_
    refine lv_aload_n (pc := 94) hx hb dJ4_siftDownComparable_94 rfl (lv_at hl 1 rfl) ?_
    refine lv_iload_n (pc := 95) hx hb dJ4_siftDownComparable_95 rfl (lv_at hl 0 rfl) ?_
    refine lv_aload (pc := 96) hx hb dJ4_siftDownComparable_96 (lv_at hl 3 rfl) ?_
    obtain ⟨hg97, hm⟩ := gb_some hm
    obtain ⟨hg98, hm⟩ := gb_some hm
    refine rp_aastR (pc := 98) (C := RX8) hx hb hts hK hW1 hS (kd_A hKM (ka_kd hg97) (by decide)) hg97 hg98 q2402 (rk_recv hK hW0 (197 + 4 * n4 + 0) (by omega) rfl rfl ((shX0_f197 G.2.1 hn_n4 _ rfl 0 (by decide) _ _ _).trans rfl)) dJ4_siftDownComparable_98 (fun H100 locs101 hW102 hS103 hz104 hkp105 => ?_)
    have hKM106 := KM.sR (o := p2) (j := i0.toNatClampNeg) (x := (some (b0 + (197 + 4 * n4 + 0)))) hKM
    obtain ⟨v1_99, he9, hm⟩ := lm_some hm
    rw [he9] at hW102 hKM106
    have hW107 := rg_keepqX hW0 hkp105 (hPX _ (kd_PL (ka_kd hg97)))
    have hz108 := hz104.trans hz
    have e9 := rs1 hm
    subst e9
    exact rk_vret (pc := 99) hx hb hr hlk hS103 ⟨rfl, hW102, hz108, hKM106⟩ dJ4_siftDownComparable_99
set_option maxHeartbeats 4000000 in
theorem w_fJ4_siftDownComparable_node_68b (C : Cx G p s m args meth c RJ4 cJ4_siftDownComparable 9 none) {b0 : Nat} {PL : Nat → Bool} {V0 : Mem} {vP0 : Mem} {rw1 : Mem} (hPX : ∀ z, PL z = true → ¬ fX b0 z) (hZP : ZP G) {k11 : Mem → Int32 → Nat → Int32 → Nat → Int32 → Option (Mem)} (hk11 : ∀ (v1 : Mem) (i0 : Int32) (p2 : Nat) (i3 : Int32) (n4 : Nat) (i5 : Int32), k11 v1 i0 p2 i3 n4 i5 = some rw1 → (hn_n4 : n4 < 40) → ∀ (H : Heap) (locs : List Loc) (ls : Array Slot), rg G b0 357 (shX0 G.2.1) V0 H → pl G PL v1 H → va_S (FA (fP PL vP0) s.heap.size) s.heap H locs → H.size = s.heap.size → KM vP0 v1 s.heap.size → lv_has ls 9 [(0, .int i0), (2, .ref p2), (3, .int i3), (4, .ref (b0 + (197 + 4 * n4 + 0))), (5, .int i5)] → W p l e (rmT 2 0 0 46) s m args below meth c H locs 0 0 (MQ below (QcT (FA (fP PL vP0) s.heap.size) (fun ov H => ov = none ∧ pl G PL rw1 H ∧ H.size = s.heap.size ∧ KM vP0 rw1 s.heap.size)) args s 0 0 (FA (fP PL vP0) s.heap.size)) (F0 m 11 ls [])) : ∀ (v1 : Mem) (i0 : Int32) (p2 : Nat) (i3 : Int32) (n4 : Nat) (i5 : Int32) (i6 : Int32) (n7 : Nat), fJ4_siftDownComparable_node_68b PL b0 V0 k11 v1 i0 p2 i3 n4 i5 i6 n7 = some rw1 → (hn_n4 : n4 < 40) → (hn_n7 : n7 < 40) → ∀ (H : Heap) (locs : List Loc) (ls : Array Slot), rg G b0 357 (shX0 G.2.1) V0 H → pl G PL v1 H → va_S (FA (fP PL vP0) s.heap.size) s.heap H locs → H.size = s.heap.size → KM vP0 v1 s.heap.size → lv_has ls 9 [(0, .int i0), (2, .ref p2), (3, .int i3), (4, .ref (b0 + (197 + 4 * n4 + 0))), (5, .int i5), (6, .int i6), (7, .ref (b0 + (197 + 4 * n7 + 0)))] → W p l e (rmT 2 0 0 46) s m args below meth c H locs 0 0 (MQ below (QcT (FA (fP PL vP0) s.heap.size) (fun ov H => ov = none ∧ pl G PL rw1 H ∧ H.size = s.heap.size ∧ KM vP0 rw1 s.heap.size)) args s 0 0 (FA (fP PL vP0) s.heap.size)) (F0 m 68 ls []) := by
  intro v1 i0 p2 i3 n4 i5 i6 n7 hm hn_n4 hn_n7 H locs ls hW0 hW1 hS hz hKM hl
  obtain ⟨hx, hb, hr, hlk, hml, hown, hts, hK⟩ := id C
  unfold fJ4_siftDownComparable_node_68b at hm
  refine lv_aload (pc := 68) hx hb dJ4_siftDownComparable_68 (lv_at hl 3 rfl) ?_
  refine lv_aload (pc := 70) hx hb dJ4_siftDownComparable_70 (lv_at hl 6 rfl) ?_
  obtain ⟨r49, hq50, hm⟩ := ob_some hm
  refine rp_PF (pc := 72) (As := [.ref (b0 + (197 + 4 * n7 + 0))]) (rest := []) hx hb hml hown hts hK lfJ4_146_X8 ((hZP s hK).1.2.1) (T := TX8) (N := 8) (ci := 8) rfl ynx_J4_146 (ct_X8_compareTo (G := G) (l := l) (b0 := (b0 + (197 + 4 * n4 + 0))) (b1 := (b0 + (197 + 4 * n7 + 0))) hq50) ⟨Nat.le_of_ble_eq_true rfl, Nat.le_of_ble_eq_true rfl⟩ (rk_recv hK hW0 (197 + 4 * n4 + 0) (by omega) rfl rfl ((shX0_f197 G.2.1 hn_n4 _ rfl 0 (by decide) _ _ _).trans rfl)) ⟨(rg_sub (d := (197 + 4 * n4)) hW0 rfl (by omega) (fun o ho x y z => shX0_f197 G.2.1 hn_n4 _ rfl o ho x y z)), (rg_sub (d := (197 + 4 * n7)) hW0 rfl (by omega) (fun o ho x y z => shX0_f197 G.2.1 hn_n7 _ rfl o ho x y z))⟩ rfl rfl hl.1 (Nat.le_of_ble_eq_true rfl) dJ4_siftDownComparable_72 ⟨Nat.zero_le _, Nat.zero_le _⟩ ?_
  refine W.eq (g2 := F0 m 77 ls [.int r49]) rfl ?_
  refine lv_if_gt (pc := 77) (tgt := 83) hx hb dJ4_siftDownComparable_77 (by decide) (fun c51 => ?_) (fun c51 => ?_)
  · have hm := ite_t c51 hm
    refine lv_aload_n (pc := 83) hx hb dJ4_siftDownComparable_83 rfl (lv_at hl 1 rfl) ?_
    refine lv_iload_n (pc := 84) hx hb dJ4_siftDownComparable_84 rfl (lv_at hl 0 rfl) ?_
    refine lv_aload (pc := 85) hx hb dJ4_siftDownComparable_85 (lv_at hl 6 rfl) ?_
    obtain ⟨hg52, hm⟩ := gb_some hm
    obtain ⟨hg53, hm⟩ := gb_some hm
    refine rp_aastR (pc := 87) (C := RX8) hx hb hts hK hW1 hS (kd_A hKM (ka_kd hg52) (by decide)) hg52 hg53 q2402 (rk_recv hK hW0 (197 + 4 * n7 + 0) (by omega) rfl rfl ((shX0_f197 G.2.1 hn_n7 _ rfl 0 (by decide) _ _ _).trans rfl)) dJ4_siftDownComparable_87 (fun H55 locs56 hW57 hS58 hz59 hkp60 => ?_)
    have hKM61 := KM.sR (o := p2) (j := i0.toNatClampNeg) (x := (some (b0 + (197 + 4 * n7 + 0)))) hKM
    obtain ⟨v1_54, he9, hm⟩ := lm_some hm
    rw [he9] at hW57 hKM61
    have hW62 := rg_keepqX hW0 hkp60 (hPX _ (kd_PL (ka_kd hg52)))
    have hz63 := hz59.trans hz
    refine lv_iload (pc := 88) hx hb dJ4_siftDownComparable_88 (lv_at hl 5 rfl) ?_
    refine lv_istore_n (pc := 90) (lv' := [(0, .int i6), (2, .ref p2), (3, .int i3), (4, .ref (b0 + (197 + 4 * n4 + 0))), (5, .int i5), (6, .int i6), (7, .ref (b0 + (197 + 4 * n7 + 0)))]) hx hb dJ4_siftDownComparable_90 rfl hl (by decide) rfl (fun ls hl => ?_)
    refine lv_goto (pc := 91) (tgt := 11) hx hb dJ4_siftDownComparable_91 (by decide) ?_
    exact hk11 v1_54 i6 p2 i3 n4 i5 hm hn_n4 H55 locs56 ls hW62 hW57 hS58 hz63 hKM61 (lv_sub hl [0, 1, 2, 3, 4] rfl)
  · have hm := ite_f c51 hm
    refine lv_goto (pc := 80) (tgt := 94) hx hb dJ4_siftDownComparable_80 (by decide) ?_
    refine lv_aload_n (pc := 94) hx hb dJ4_siftDownComparable_94 rfl (lv_at hl 1 rfl) ?_
    refine lv_iload_n (pc := 95) hx hb dJ4_siftDownComparable_95 rfl (lv_at hl 0 rfl) ?_
    refine lv_aload (pc := 96) hx hb dJ4_siftDownComparable_96 (lv_at hl 3 rfl) ?_
    obtain ⟨hg64, hm⟩ := gb_some hm
    obtain ⟨hg65, hm⟩ := gb_some hm
    refine rp_aastR (pc := 98) (C := RX8) hx hb hts hK hW1 hS (kd_A hKM (ka_kd hg64) (by decide)) hg64 hg65 q2402 (rk_recv hK hW0 (197 + 4 * n4 + 0) (by omega) rfl rfl ((shX0_f197 G.2.1 hn_n4 _ rfl 0 (by decide) _ _ _).trans rfl)) dJ4_siftDownComparable_98 (fun H67 locs68 hW69 hS70 hz71 hkp72 => ?_)
    have hKM73 := KM.sR (o := p2) (j := i0.toNatClampNeg) (x := (some (b0 + (197 + 4 * n4 + 0)))) hKM
    obtain ⟨v1_66, he9, hm⟩ := lm_some hm
    rw [he9] at hW69 hKM73
    have hW74 := rg_keepqX hW0 hkp72 (hPX _ (kd_PL (ka_kd hg64)))
    have hz75 := hz71.trans hz
    have e9 := rs1 hm
    subst e9
    exact rk_vret (pc := 99) hx hb hr hlk hS70 ⟨rfl, hW69, hz75, hKM73⟩ dJ4_siftDownComparable_99
set_option maxHeartbeats 4000000 in
theorem w_fJ4_siftDownComparable_node_11 (C : Cx G p s m args meth c RJ4 cJ4_siftDownComparable 9 none) {b0 : Nat} {PL : Nat → Bool} {V0 : Mem} {vP0 : Mem} {rw1 : Mem} (hPX : ∀ z, PL z = true → ¬ fX b0 z) (hZP : ZP G) {k11 : Mem → Int32 → Nat → Int32 → Nat → Int32 → Option (Mem)} (hk11 : ∀ (v1 : Mem) (i0 : Int32) (p2 : Nat) (i3 : Int32) (n4 : Nat) (i5 : Int32), k11 v1 i0 p2 i3 n4 i5 = some rw1 → (hn_n4 : n4 < 40) → ∀ (H : Heap) (locs : List Loc) (ls : Array Slot), rg G b0 357 (shX0 G.2.1) V0 H → pl G PL v1 H → va_S (FA (fP PL vP0) s.heap.size) s.heap H locs → H.size = s.heap.size → KM vP0 v1 s.heap.size → lv_has ls 9 [(0, .int i0), (2, .ref p2), (3, .int i3), (4, .ref (b0 + (197 + 4 * n4 + 0))), (5, .int i5)] → W p l e (rmT 2 0 0 46) s m args below meth c H locs 0 0 (MQ below (QcT (FA (fP PL vP0) s.heap.size) (fun ov H => ov = none ∧ pl G PL rw1 H ∧ H.size = s.heap.size ∧ KM vP0 rw1 s.heap.size)) args s 0 0 (FA (fP PL vP0) s.heap.size)) (F0 m 11 ls [])) : ∀ (v1 : Mem) (i0 : Int32) (p2 : Nat) (i3 : Int32) (n4 : Nat) (i5 : Int32), fJ4_siftDownComparable_node_11 PL b0 V0 k11 v1 i0 p2 i3 n4 i5 = some rw1 → (hn_n4 : n4 < 40) → ∀ (H : Heap) (locs : List Loc) (ls : Array Slot), rg G b0 357 (shX0 G.2.1) V0 H → pl G PL v1 H → va_S (FA (fP PL vP0) s.heap.size) s.heap H locs → H.size = s.heap.size → KM vP0 v1 s.heap.size → lv_has ls 9 [(0, .int i0), (2, .ref p2), (3, .int i3), (4, .ref (b0 + (197 + 4 * n4 + 0))), (5, .int i5)] → W p l e (rmT 2 0 0 46) s m args below meth c H locs 0 0 (MQ below (QcT (FA (fP PL vP0) s.heap.size) (fun ov H => ov = none ∧ pl G PL rw1 H ∧ H.size = s.heap.size ∧ KM vP0 rw1 s.heap.size)) args s 0 0 (FA (fP PL vP0) s.heap.size)) (F0 m 11 ls []) := by
  intro v1 i0 p2 i3 n4 i5 hm hn_n4 H locs ls hW0 hW1 hS hz hKM hl
  obtain ⟨hx, hb, hr, hlk, hml, hown, hts, hK⟩ := id C
  unfold fJ4_siftDownComparable_node_11 at hm
  refine lv_iload_n (pc := 11) hx hb dJ4_siftDownComparable_11 rfl (lv_at hl 0 rfl) ?_
  refine lv_iload (pc := 12) hx hb dJ4_siftDownComparable_12 (lv_at hl 4 rfl) ?_
  refine lv_icmp_ge (pc := 14) (tgt := 94) hx hb dJ4_siftDownComparable_14 (by decide) (fun c5 => ?_) (fun c5 => ?_)
  · have hm := ite_t c5 hm
    refine lv_aload_n (pc := 94) hx hb dJ4_siftDownComparable_94 rfl (lv_at hl 1 rfl) ?_
    refine lv_iload_n (pc := 95) hx hb dJ4_siftDownComparable_95 rfl (lv_at hl 0 rfl) ?_
    refine lv_aload (pc := 96) hx hb dJ4_siftDownComparable_96 (lv_at hl 3 rfl) ?_
    obtain ⟨hg6, hm⟩ := gb_some hm
    obtain ⟨hg7, hm⟩ := gb_some hm
    refine rp_aastR (pc := 98) (C := RX8) hx hb hts hK hW1 hS (kd_A hKM (ka_kd hg6) (by decide)) hg6 hg7 q2402 (rk_recv hK hW0 (197 + 4 * n4 + 0) (by omega) rfl rfl ((shX0_f197 G.2.1 hn_n4 _ rfl 0 (by decide) _ _ _).trans rfl)) dJ4_siftDownComparable_98 (fun H9 locs10 hW11 hS12 hz13 hkp14 => ?_)
    have hKM15 := KM.sR (o := p2) (j := i0.toNatClampNeg) (x := (some (b0 + (197 + 4 * n4 + 0)))) hKM
    obtain ⟨v1_8, he9, hm⟩ := lm_some hm
    rw [he9] at hW11 hKM15
    have hW16 := rg_keepqX hW0 hkp14 (hPX _ (kd_PL (ka_kd hg6)))
    have hz17 := hz13.trans hz
    have e9 := rs1 hm
    subst e9
    exact rk_vret (pc := 99) hx hb hr hlk hS12 ⟨rfl, hW11, hz17, hKM15⟩ dJ4_siftDownComparable_99
  · have hm := ite_f c5 hm
    refine lv_iload_n (pc := 17) hx hb dJ4_siftDownComparable_17 rfl (lv_at hl 0 rfl) ?_
    refine lv_iconst (pc := 18) (v := (1 : Int32)) hx hb dJ4_siftDownComparable_18 (by decide) ?_
    refine lv_ishl (pc := 19) hx hb dJ4_siftDownComparable_19 ?_
    refine lv_iconst (pc := 20) (v := (1 : Int32)) hx hb dJ4_siftDownComparable_20 (by decide) ?_
    refine lv_iadd (pc := 21) hx hb dJ4_siftDownComparable_21 ?_
    refine lv_istore (pc := 22) (lv' := [(6, .int ((i0 <<< ((1 : Int32) &&& 31)) + (1 : Int32))), (0, .int i0), (2, .ref p2), (3, .int i3), (4, .ref (b0 + (197 + 4 * n4 + 0))), (5, .int i5)]) hx hb dJ4_siftDownComparable_22 hl (by decide) rfl (fun ls hl => ?_)
    refine lv_aload_n (pc := 24) hx hb dJ4_siftDownComparable_24 rfl (lv_at hl 2 rfl) ?_
    refine lv_iload (pc := 25) hx hb dJ4_siftDownComparable_25 (lv_at hl 0 rfl) ?_
    obtain ⟨hg18, hm⟩ := gb_some hm
    obtain ⟨hg19, hm⟩ := gb_some hm
    obtain ⟨o20, he21, hm⟩ := lo_some hm
    refine rp_aald (pc := 27) hx hb hK hW1 hg18 hg19 he21 dJ4_siftDownComparable_27 ?_
    refine lv_astoreO (pc := 28) (lv' := [(7, va_rf o20), (6, .int ((i0 <<< ((1 : Int32) &&& 31)) + (1 : Int32))), (0, .int i0), (2, .ref p2), (3, .int i3), (4, .ref (b0 + (197 + 4 * n4 + 0))), (5, .int i5)]) hx hb dJ4_siftDownComparable_28 hl (by decide) rfl (fun ls hl => ?_)
    refine lv_iload (pc := 30) hx hb dJ4_siftDownComparable_30 (lv_at hl 1 rfl) ?_
    refine lv_iconst (pc := 32) (v := (1 : Int32)) hx hb dJ4_siftDownComparable_32 (by decide) ?_
    refine lv_iadd (pc := 33) hx hb dJ4_siftDownComparable_33 ?_
    refine lv_istore (pc := 34) (lv' := [(8, .int (((i0 <<< ((1 : Int32) &&& 31)) + (1 : Int32)) + (1 : Int32))), (7, va_rf o20), (6, .int ((i0 <<< ((1 : Int32) &&& 31)) + (1 : Int32))), (0, .int i0), (2, .ref p2), (3, .int i3), (4, .ref (b0 + (197 + 4 * n4 + 0))), (5, .int i5)]) hx hb dJ4_siftDownComparable_34 hl (by decide) (by simp [List.filter, cat_rf]) (fun ls hl => ?_)
    refine lv_iload (pc := 36) hx hb dJ4_siftDownComparable_36 (lv_at hl 0 rfl) ?_
    refine lv_iload_n (pc := 38) hx hb dJ4_siftDownComparable_38 rfl (lv_at hl 5 rfl) ?_
    refine lv_icmp_ge (pc := 39) (tgt := 68) hx hb dJ4_siftDownComparable_39 (by decide) (fun c22 => ?_) (fun c22 => ?_)
    · have hm := ite_t c22 hm
      exact (w_fJ4_siftDownComparable_node_68 C hPX hZP hk11) v1 i0 p2 i3 n4 i5 ((i0 <<< ((1 : Int32) &&& 31)) + (1 : Int32)) o20 hm hn_n4 H locs ls hW0 hW1 hS hz hKM (lv_sub hl [3, 4, 5, 6, 7, 2, 1] rfl)
    · have hm := ite_f c22 hm
      refine lv_aloadO (pc := 42) hx hb dJ4_siftDownComparable_42 (lv_at hl 1 rfl) ?_
      rcases o20 with _ | p23
      · have hm := od_n hm
        refine lv_castN (pc := 44) hx hb dJ4_siftDownComparable_44 ?_
        refine lv_aload_n (pc := 47) hx hb dJ4_siftDownComparable_47 rfl (lv_at hl 4 rfl) ?_
        refine lv_iload (pc := 48) hx hb dJ4_siftDownComparable_48 (lv_at hl 0 rfl) ?_
        obtain ⟨hg24, hm⟩ := gb_some hm
        obtain ⟨hg25, hm⟩ := gb_some hm
        obtain ⟨o26, he27, hm⟩ := lo_some hm
        refine rp_aald (pc := 50) hx hb hK hW1 hg24 hg25 he27 dJ4_siftDownComparable_50 ?_
        exact nomatch hm
      · have hm := od_s hm
        obtain ⟨n28, hf29, hm⟩ := ob_some hm
        obtain ⟨ha30, hlt31⟩ := fi_some hf29
        subst ha30
        refine rp_castY (pc := 44) (nm := "java/lang/Comparable") (C := RX8) hx hb hown hts hK q1099 q1115 (rk_recv hK hW0 (197 + 4 * n28 + 0) (by omega) rfl rfl ((shX0_f197 G.2.1 hlt31 _ rfl 0 (by decide) _ _ _).trans rfl)) dJ4_siftDownComparable_44 ?_
        refine lv_aload_n (pc := 47) hx hb dJ4_siftDownComparable_47 rfl (lv_at hl 4 rfl) ?_
        refine lv_iload (pc := 48) hx hb dJ4_siftDownComparable_48 (lv_at hl 0 rfl) ?_
        obtain ⟨hg32, hm⟩ := gb_some hm
        obtain ⟨hg33, hm⟩ := gb_some hm
        obtain ⟨o34, he35, hm⟩ := lo_some hm
        refine rp_aald (pc := 50) hx hb hK hW1 hg32 hg33 he35 dJ4_siftDownComparable_50 ?_
        obtain ⟨p36, he37, hm⟩ := ob_some hm
        subst he37
        obtain ⟨n38, hf39, hm⟩ := ob_some hm
        obtain ⟨ha40, hlt41⟩ := fi_some hf39
        subst ha40
        obtain ⟨r42, hq43, hm⟩ := ob_some hm
        refine rp_PF (pc := 51) (As := [.ref (b0 + (197 + 4 * n38 + 0))]) (rest := []) hx hb hml hown hts hK lfJ4_146_X8 ((hZP s hK).1.2.1) (T := TX8) (N := 8) (ci := 8) rfl ynx_J4_146 (ct_X8_compareTo (G := G) (l := l) (b0 := (b0 + (197 + 4 * n28 + 0))) (b1 := (b0 + (197 + 4 * n38 + 0))) hq43) ⟨Nat.le_of_ble_eq_true rfl, Nat.le_of_ble_eq_true rfl⟩ (rk_recv hK hW0 (197 + 4 * n28 + 0) (by omega) rfl rfl ((shX0_f197 G.2.1 hlt31 _ rfl 0 (by decide) _ _ _).trans rfl)) ⟨(rg_sub (d := (197 + 4 * n28)) hW0 rfl (by omega) (fun o ho x y z => shX0_f197 G.2.1 hlt31 _ rfl o ho x y z)), (rg_sub (d := (197 + 4 * n38)) hW0 rfl (by omega) (fun o ho x y z => shX0_f197 G.2.1 hlt41 _ rfl o ho x y z))⟩ rfl rfl hl.1 (Nat.le_of_ble_eq_true rfl) dJ4_siftDownComparable_51 ⟨Nat.zero_le _, Nat.zero_le _⟩ ?_
        refine W.eq (g2 := F0 m 56 ls [.int r42]) rfl ?_
        refine lv_if_le (pc := 56) (tgt := 68) hx hb dJ4_siftDownComparable_56 (by decide) (fun c44 => ?_) (fun c44 => ?_)
        · have hm := ite_t c44 hm
          exact (w_fJ4_siftDownComparable_node_68b C hPX hZP hk11) v1 i0 p2 i3 n4 i5 ((i0 <<< ((1 : Int32) &&& 31)) + (1 : Int32)) n28 hm hn_n4 hlt31 H locs ls hW0 hW1 hS hz hKM (lv_sub hl [3, 4, 5, 6, 7, 2, 1] rfl)
        · have hm := ite_f c44 hm
          refine lv_aload_n (pc := 59) hx hb dJ4_siftDownComparable_59 rfl (lv_at hl 4 rfl) ?_
          refine lv_iload (pc := 60) hx hb dJ4_siftDownComparable_60 (lv_at hl 0 rfl) ?_
          refine lv_dup (pc := 62) hx hb dJ4_siftDownComparable_62 rfl ?_
          refine lv_istore (pc := 63) (lv' := [(6, .int (((i0 <<< ((1 : Int32) &&& 31)) + (1 : Int32)) + (1 : Int32))), (8, .int (((i0 <<< ((1 : Int32) &&& 31)) + (1 : Int32)) + (1 : Int32))), (7, .ref (b0 + (197 + 4 * n28 + 0))), (0, .int i0), (2, .ref p2), (3, .int i3), (4, .ref (b0 + (197 + 4 * n4 + 0))), (5, .int i5)]) hx hb dJ4_siftDownComparable_63 hl (by decide) rfl (fun ls hl => ?_)
          obtain ⟨hg45, hm⟩ := gb_some hm
          obtain ⟨hg46, hm⟩ := gb_some hm
          obtain ⟨o47, he48, hm⟩ := lo_some hm
          refine rp_aald (pc := 65) hx hb hK hW1 hg45 hg46 he48 dJ4_siftDownComparable_65 ?_
          refine lv_astoreO (pc := 66) (lv' := [(7, va_rf o47), (6, .int (((i0 <<< ((1 : Int32) &&& 31)) + (1 : Int32)) + (1 : Int32))), (8, .int (((i0 <<< ((1 : Int32) &&& 31)) + (1 : Int32)) + (1 : Int32))), (0, .int i0), (2, .ref p2), (3, .int i3), (4, .ref (b0 + (197 + 4 * n4 + 0))), (5, .int i5)]) hx hb dJ4_siftDownComparable_66 hl (by decide) rfl (fun ls hl => ?_)
          exact (w_fJ4_siftDownComparable_node_68 C hPX hZP hk11) v1 i0 p2 i3 n4 i5 (((i0 <<< ((1 : Int32) &&& 31)) + (1 : Int32)) + (1 : Int32)) o47 hm hn_n4 H locs ls hW0 hW1 hS hz hKM (lv_sub hl [3, 4, 5, 6, 7, 1, 0] rfl)
theorem w_fJ4_siftDownComparable_node_11_l (C : Cx G p s m args meth c RJ4 cJ4_siftDownComparable 9 none) {b0 : Nat} {PL : Nat → Bool} {V0 : Mem} {vP0 : Mem} {rw1 : Mem} (hPX : ∀ z, PL z = true → ¬ fX b0 z) (hZP : ZP G) : ∀ (n : Nat) (v1 : Mem) (i0 : Int32) (p2 : Nat) (i3 : Int32) (n4 : Nat) (i5 : Int32), lq6 (fJ4_siftDownComparable_node_11 PL b0 V0) n v1 i0 p2 i3 n4 i5 = some rw1 → (hn_n4 : n4 < 40) → ∀ (H : Heap) (locs : List Loc) (ls : Array Slot), rg G b0 357 (shX0 G.2.1) V0 H → pl G PL v1 H → va_S (FA (fP PL vP0) s.heap.size) s.heap H locs → H.size = s.heap.size → KM vP0 v1 s.heap.size → lv_has ls 9 [(0, .int i0), (2, .ref p2), (3, .int i3), (4, .ref (b0 + (197 + 4 * n4 + 0))), (5, .int i5)] → W p l e (rmT 2 0 0 46) s m args below meth c H locs 0 0 (MQ below (QcT (FA (fP PL vP0) s.heap.size) (fun ov H => ov = none ∧ pl G PL rw1 H ∧ H.size = s.heap.size ∧ KM vP0 rw1 s.heap.size)) args s 0 0 (FA (fP PL vP0) s.heap.size)) (F0 m 11 ls []) := by
  intro n
  induction n with
  | zero => intro v1 i0 p2 i3 n4 i5 hm; exact (lq6_0 hm).elim
  | succ n ih => intro v1 i0 p2 i3 n4 i5 hm; exact w_fJ4_siftDownComparable_node_11 C hPX hZP ih v1 i0 p2 i3 n4 i5 (lq6_s hm)
set_option maxHeartbeats 4000000 in
theorem w_fJ4_siftDownComparable_node (C : Cx G p s m args meth c RJ4 cJ4_siftDownComparable 9 none) {b0 : Nat} {PL : Nat → Bool} {V0 : Mem} {vP0 : Mem} {rw1 : Mem} (hPX : ∀ z, PL z = true → ¬ fX b0 z) (hZP : ZP G) : ∀ (v1 : Mem) (i0 : Int32) (p1 : Nat) (p2 : Nat) (i3 : Int32), fJ4_siftDownComparable_node PL b0 V0 v1 i0 p1 p2 i3 = some rw1 → ∀ (H : Heap) (locs : List Loc) (ls : Array Slot), rg G b0 357 (shX0 G.2.1) V0 H → pl G PL v1 H → va_S (FA (fP PL vP0) s.heap.size) s.heap H locs → H.size = s.heap.size → KM vP0 v1 s.heap.size → lv_has ls 9 [(0, .int i0), (1, .ref p1), (2, .ref p2), (3, .int i3)] → W p l e (rmT 2 0 0 46) s m args below meth c H locs 0 0 (MQ below (QcT (FA (fP PL vP0) s.heap.size) (fun ov H => ov = none ∧ pl G PL rw1 H ∧ H.size = s.heap.size ∧ KM vP0 rw1 s.heap.size)) args s 0 0 (FA (fP PL vP0) s.heap.size)) (F0 m 0 ls []) := by
  intro v1 i0 p1 p2 i3 hm H locs ls hW0 hW1 hS hz hKM hl
  obtain ⟨hx, hb, hr, hlk, hml, hown, hts, hK⟩ := id C
  unfold fJ4_siftDownComparable_node at hm
  refine lv_aload_n (pc := 0) hx hb dJ4_siftDownComparable_0 rfl (lv_at hl 1 rfl) ?_
  obtain ⟨n1, hf2, hm⟩ := ob_some hm
  obtain ⟨ha3, hlt4⟩ := fi_some hf2
  subst ha3
  refine rp_castY (pc := 1) (nm := "java/lang/Comparable") (C := RX8) hx hb hown hts hK q1099 q1115 (rk_recv hK hW0 (197 + 4 * n1 + 0) (by omega) rfl rfl ((shX0_f197 G.2.1 hlt4 _ rfl 0 (by decide) _ _ _).trans rfl)) dJ4_siftDownComparable_1 ?_
  refine lv_astore (pc := 4) (lv' := [(4, .ref (b0 + (197 + 4 * n1 + 0))), (0, .int i0), (1, .ref (b0 + (197 + 4 * n1 + 0))), (2, .ref p2), (3, .int i3)]) hx hb dJ4_siftDownComparable_4 hl (by decide) rfl (fun ls hl => ?_)
  refine lv_iload_n (pc := 6) hx hb dJ4_siftDownComparable_6 rfl (lv_at hl 4 rfl) ?_
  refine lv_iconst (pc := 7) (v := (1 : Int32)) hx hb dJ4_siftDownComparable_7 (by decide) ?_
  refine lv_iushr (pc := 8) hx hb dJ4_siftDownComparable_8 rfl ?_
  refine lv_istore (pc := 9) (lv' := [(5, .int (i3.toUInt32 >>> ((1 : Int32).toUInt32 &&& Int32.toUInt32 31)).toInt32), (4, .ref (b0 + (197 + 4 * n1 + 0))), (0, .int i0), (1, .ref (b0 + (197 + 4 * n1 + 0))), (2, .ref p2), (3, .int i3)]) hx hb dJ4_siftDownComparable_9 hl (by decide) rfl (fun ls hl => ?_)
  exact (w_fJ4_siftDownComparable_node_11_l C hPX hZP FU) v1 i0 p2 i3 n1 (i3.toUInt32 >>> ((1 : Int32).toUInt32 &&& Int32.toUInt32 31)).toInt32 hm hlt4 H locs ls hW0 hW1 hS hz hKM (lv_sub hl [2, 4, 5, 1, 0] rfl)
set_option maxHeartbeats 4000000 in
theorem ct_J4_siftDownComparable_node {G : Gv} {l : Launch} {b0 : Nat} {PL : Nat → Bool} {V0 : Mem} {v1 : Mem} {i0 : Int32} {p1 : Nat} {p2 : Nat} {i3 : Int32} {rw1 : Mem} {sz : Nat} (hm : fJ4_siftDownComparable_node PL b0 V0 v1 i0 p1 p2 i3 = some rw1) (hPX : ∀ z, PL z = true → ¬ fX b0 z) (hZP : ZP G) : CT G l yJ4_siftDownComparable (ws_ yJ4_siftDownComparable cJ4_siftDownComparable 9 none) 2 0 0 46 [.int i0, .ref p1, .ref p2, .int i3] (fP PL v1) sz (fun H => rg G b0 357 (shX0 G.2.1) V0 H ∧ pl G PL v1 H) (fun ov H => ov = none ∧ pl G PL rw1 H ∧ H.size = sz ∧ KM v1 rw1 sz) := by
  refine Met.ofW (cc := cJ4_siftDownComparable) (maxL := 9) (ret := none) (by decide +kernel) rfl ?_
  intro p e s m args below meth c s₁ B hml hv
  obtain ⟨rfl, ⟨hz, hW0, hW1⟩, hK⟩ := hv
  subst hz
  have hts := atoms_spec (ws := ws_ yJ4_siftDownComparable cJ4_siftDownComparable 9 none) B.pre
  have hts : ∀ w ∈ lw_all, w.before _ s = true := fun w h => hts w (List.mem_cons_of_mem _ h)
  have C : Cx G p s m _ meth c RJ4 cJ4_siftDownComparable 9 none := ⟨B.exec, B.bytes, B.returns, B.notSynchronized, hml, findClass_of_methodNamed B.named, hts, hK⟩
  have hl := lv_entry ([.int i0, .ref p1, .ref p2, .int i3]) (n := 9) (Nat.le_of_ble_eq_true rfl)
  rw [lg_entry_eq]
  generalize (lg_sl ([.int i0, .ref p1, .ref p2, .int i3]) ++ List.replicate (9 - (lg_sl ([.int i0, .ref p1, .ref p2, .int i3])).length) Slot.unset).toArray = ls at hl ⊢
  have hl : lv_has ls 9 [(0, .int i0), (1, .ref p1), (2, .ref p2), (3, .int i3)] := hl
  exact w_fJ4_siftDownComparable_node C hPX hZP _ _ _ _ _ hm s.heap [] ls hW0 hW1 va_S.rf rfl KM.rf hl
theorem yn_J4_siftDownComparable : YN yJ4_siftDownComparable 4 := by
  unfold YN
  decide +kernel
theorem lkJ4_125 : LSt RJ4 125 yJ4_siftDownComparable cJ4_siftDownComparable 9 none := ⟨q1135, q1136, q123, q1137⟩
noncomputable def fJ4_poll_node (PL : Nat → Bool) (b0 : Nat) (V0 : Mem) (v1 : Mem) (p0 : Nat) : Option (Option Nat × Mem) :=
  gb (kd PL v1 p0 17) (
  lo (gR v1 p0 0) fun o2 =>
  ob o2 fun p4 =>
  gb (ka PL v1 p4 44) (
  gb (inR (0 : Int32) (gI v1 p4 98).toNatClampNeg) (
  lo (gR v1 p4 (0 : Int32).toNatClampNeg) fun o8 =>
  od o8 (
  some (none, v1)) (fun p10 =>
  gb (kd PL v1 p0 17) (
  gb (kd PL v1 p0 17) (
  lm (sI v1 p0 3 ((gI v1 p0 3) + (1 : Int32))) fun v1_13 =>
  gb (kd PL v1_13 p0 17) (
  gb (kd PL v1_13 p0 17) (
  lm (sI v1_13 p0 1 ((gI v1_13 p0 1) - (1 : Int32))) fun v1_25 =>
  gb (ka PL v1_25 p4 44) (
  gb (inR ((gI v1_13 p0 1) - (1 : Int32)) (gI v1_25 p4 98).toNatClampNeg) (
  lo (gR v1_25 p4 ((gI v1_13 p0 1) - (1 : Int32)).toNatClampNeg) fun o37 =>
  gb (ka PL v1_25 p4 44) (
  gb (inR ((gI v1_13 p0 1) - (1 : Int32)) (gI v1_25 p4 98).toNatClampNeg) (
  lm (sR v1_25 p4 ((gI v1_13 p0 1) - (1 : Int32)).toNatClampNeg none) fun v1_41 =>
  if ((gI v1_13 p0 1) - (1 : Int32)) ≤ 0 then (
  some ((some p10), v1_41))
  else (
  gb (kd PL v1_41 p0 17) (
  lo (gR v1_41 p0 2) fun o53 =>
  od o53 (
  ob o37 fun p56 =>
  ob (fJ4_siftDownComparable_node PL b0 V0 v1_41 (0 : Int32) p56 p4 ((gI v1_13 p0 1) - (1 : Int32))) fun w58 =>
  some ((some p10), w58)) (fun p55 =>
  none)))))))))))))))
set_option maxHeartbeats 4000000 in
theorem w_fJ4_poll_node (C : Cx G p s m args meth c RJ4 cJ4_poll 6 (some (.object "java/lang/Object"))) {b0 : Nat} {PL : Nat → Bool} {V0 : Mem} {vP0 : Mem} {rx : Option Nat} {rw1 : Mem} (hPX : ∀ z, PL z = true → ¬ fX b0 z) (hZP : ZP G) : ∀ (v1 : Mem) (p0 : Nat), fJ4_poll_node PL b0 V0 v1 p0 = some (rx, rw1) → ∀ (H : Heap) (locs : List Loc) (ls : Array Slot), rg G b0 357 (shX0 G.2.1) V0 H → pl G PL v1 H → va_S (FA (fP PL vP0) s.heap.size) s.heap H locs → H.size = s.heap.size → KM vP0 v1 s.heap.size → lv_has ls 6 [(0, .ref p0)] → W p l e (rmT 3 0 0 74) s m args below meth c H locs 0 0 (MQ below (QcT (FA (fP PL vP0) s.heap.size) (fun ov H => ov = (some (va_rf rx)) ∧ pl G PL rw1 H ∧ H.size = s.heap.size ∧ KM vP0 rw1 s.heap.size)) args s 0 0 (FA (fP PL vP0) s.heap.size)) (F0 m 0 ls []) := by
  intro v1 p0 hm H locs ls hW0 hW1 hS hz hKM hl
  obtain ⟨hx, hb, hr, hlk, hml, hown, hts, hK⟩ := id C
  unfold fJ4_poll_node at hm
  refine lv_aload_n (pc := 0) hx hb dJ4_poll_0 rfl (lv_at hl 0 rfl) ?_
  obtain ⟨hg1, hm⟩ := gb_some hm
  obtain ⟨o2, he3, hm⟩ := lo_some hm
  refine rk_get (pc := 1) hx hb hts hown hK (pl_rg hW1) flJ4_17 p0 (Nat.lt_succ_self _) (Nat.zero_add _).symm (shP_17 (kd_PL hg1) (kd_k hg1)) (x := va_rf o2) (congrArg (fun z => some (va_rf z)) he3) dJ4_poll_1 ?_
  refine lv_dup (pc := 4) hx hb dJ4_poll_4 (cat_rf _) ?_
  refine lv_astore_nO (pc := 5) (lv' := [(1, va_rf o2), (0, .ref p0)]) hx hb dJ4_poll_5 rfl hl (by decide) rfl (fun ls hl => ?_)
  refine lv_iconst (pc := 6) (v := (0 : Int32)) hx hb dJ4_poll_6 (by decide) ?_
  obtain ⟨p4, he5, hm⟩ := ob_some hm
  subst he5
  obtain ⟨hg6, hm⟩ := gb_some hm
  obtain ⟨hg7, hm⟩ := gb_some hm
  obtain ⟨o8, he9, hm⟩ := lo_some hm
  refine rp_aald (pc := 7) hx hb hK hW1 hg6 hg7 he9 dJ4_poll_7 ?_
  refine lv_dup (pc := 8) hx hb dJ4_poll_8 (cat_rf _) ?_
  refine lv_astore_nO (pc := 9) (lv' := [(2, va_rf o8), (1, .ref p4), (0, .ref p0)]) hx hb dJ4_poll_9 rfl hl (by decide) rfl (fun ls hl => ?_)
  rcases o8 with _ | p10
  · have hm := od_n hm
    refine lv_ifnullN (pc := 10) (tgt := 79) hx hb dJ4_poll_10 (by decide) ?_
    refine lv_aload_nN (pc := 79) hx hb dJ4_poll_79 rfl (lv_at hl 0 rfl) ?_
    obtain ⟨e8, e9⟩ := rs2 hm
    subst e8
    subst e9
    exact rp_aret (pc := 80) (x := none) hx hb hr (Or.inl ⟨_, rfl⟩) hlk hS ⟨rfl, hW1, hz, hKM⟩ dJ4_poll_80
  · have hm := od_s hm
    refine lv_ifnull (pc := 10) hx hb dJ4_poll_10 ?_
    refine lv_aload_n (pc := 13) hx hb dJ4_poll_13 rfl (lv_at hl 2 rfl) ?_
    refine lv_dup (pc := 14) hx hb dJ4_poll_14 rfl ?_
    obtain ⟨hg11, hm⟩ := gb_some hm
    refine rk_get (pc := 15) hx hb hts hown hK (pl_rg hW1) flJ4_93 p0 (Nat.lt_succ_self _) (Nat.zero_add _).symm (shP_17 (kd_PL hg11) (kd_k hg11)) (x := .int (gI v1 p0 3)) rfl dJ4_poll_15 ?_
    refine lv_iconst (pc := 18) (v := (1 : Int32)) hx hb dJ4_poll_18 (by decide) ?_
    refine lv_iadd (pc := 19) hx hb dJ4_poll_19 ?_
    obtain ⟨hg12, hm⟩ := gb_some hm
    refine rp_put (pc := 20) (q := p0) hx hb hts hown hK hW1 hS flJ4_93 ft_J4 (kd_A hKM hg12 (by decide)) (shP_17 (kd_PL hg12) (kd_k hg12)) rfl (x := .int ((gI v1 p0 3) + (1 : Int32))) rfl rfl (Nat.le_of_ble_eq_true rfl) (sI v1 p0 3 ((gI v1 p0 3) + (1 : Int32))) sI_ne (by rw [sI_eq]; exact shP_17 (kd_PL hg12) (kd_k hg12)) dJ4_poll_20 (fun H14 locs15 hW16 hS17 hz18 hkp19 => ?_)
    have hKM20 := KM.sI (o := p0) (j := 3) (x := ((gI v1 p0 3) + (1 : Int32))) hKM (by decide)
    obtain ⟨v1_13, he9, hm⟩ := lm_some hm
    rw [he9] at hW16 hKM20
    have hW21 := rg_keepqX hW0 hkp19 (hPX _ (kd_PL hg12))
    have hz22 := hz18.trans hz
    refine lv_aload_n (pc := 23) hx hb dJ4_poll_23 rfl (lv_at hl 1 rfl) ?_
    refine lv_aload_n (pc := 24) hx hb dJ4_poll_24 rfl (lv_at hl 2 rfl) ?_
    refine lv_dup (pc := 25) hx hb dJ4_poll_25 rfl ?_
    obtain ⟨hg23, hm⟩ := gb_some hm
    refine rk_get (pc := 26) hx hb hts hown hK (pl_rg hW16) flJ4_58 p0 (Nat.lt_succ_self _) (Nat.zero_add _).symm (shP_17 (kd_PL hg23) (kd_k hg23)) (x := .int (gI v1_13 p0 1)) rfl dJ4_poll_26 ?_
    refine lv_iconst (pc := 29) (v := (1 : Int32)) hx hb dJ4_poll_29 (by decide) ?_
    refine lv_isub (pc := 30) hx hb dJ4_poll_30 ?_
    refine lv_dup_x1 (pc := 31) hx hb dJ4_poll_31 rfl rfl ?_
    obtain ⟨hg24, hm⟩ := gb_some hm
    refine rp_put (pc := 32) (q := p0) hx hb hts hown hK hW16 hS17 flJ4_58 ft_J4 (kd_A hKM20 hg24 (by decide)) (shP_17 (kd_PL hg24) (kd_k hg24)) rfl (x := .int ((gI v1_13 p0 1) - (1 : Int32))) rfl rfl (Nat.le_of_ble_eq_true rfl) (sI v1_13 p0 1 ((gI v1_13 p0 1) - (1 : Int32))) sI_ne (by rw [sI_eq]; exact shP_17 (kd_PL hg24) (kd_k hg24)) dJ4_poll_32 (fun H26 locs27 hW28 hS29 hz30 hkp31 => ?_)
    have hKM32 := KM.sI (o := p0) (j := 1) (x := ((gI v1_13 p0 1) - (1 : Int32))) hKM20 (by decide)
    obtain ⟨v1_25, he9, hm⟩ := lm_some hm
    rw [he9] at hW28 hKM32
    have hW33 := rg_keepqX hW21 hkp31 (hPX _ (kd_PL hg24))
    have hz34 := hz30.trans hz22
    refine lv_dup (pc := 35) hx hb dJ4_poll_35 rfl ?_
    refine lv_istore_n (pc := 36) (lv' := [(3, .int ((gI v1_13 p0 1) - (1 : Int32))), (2, .ref p10), (1, .ref p4), (0, .ref p0)]) hx hb dJ4_poll_36 rfl hl (by decide) rfl (fun ls hl => ?_)
    obtain ⟨hg35, hm⟩ := gb_some hm
    obtain ⟨hg36, hm⟩ := gb_some hm
    obtain ⟨o37, he38, hm⟩ := lo_some hm
    refine rp_aald (pc := 37) hx hb hK hW28 hg35 hg36 he38 dJ4_poll_37 ?_
    refine lv_astoreO (pc := 38) (lv' := [(4, va_rf o37), (3, .int ((gI v1_13 p0 1) - (1 : Int32))), (2, .ref p10), (1, .ref p4), (0, .ref p0)]) hx hb dJ4_poll_38 hl (by decide) rfl (fun ls hl => ?_)
    refine lv_aload_n (pc := 40) hx hb dJ4_poll_40 rfl (lv_at hl 3 rfl) ?_
    refine lv_iload_n (pc := 41) hx hb dJ4_poll_41 rfl (lv_at hl 1 rfl) ?_
    refine lv_null (pc := 42) hx hb dJ4_poll_42 ?_
    obtain ⟨hg39, hm⟩ := gb_some hm
    obtain ⟨hg40, hm⟩ := gb_some hm
    refine rp_aastN (pc := 43) hx hb hK hW28 hS29 (kd_A hKM32 (ka_kd hg39) (by decide)) hg39 hg40 dJ4_poll_43 (fun H42 locs43 hW44 hS45 hz46 hkp47 => ?_)
    have hKM48 := KM.sR (o := p4) (j := ((gI v1_13 p0 1) - (1 : Int32)).toNatClampNeg) (x := none) hKM32
    obtain ⟨v1_41, he9, hm⟩ := lm_some hm
    rw [he9] at hW44 hKM48
    have hW49 := rg_keepqX hW33 hkp47 (hPX _ (kd_PL (ka_kd hg39)))
    have hz50 := hz46.trans hz34
    refine lv_iload_n (pc := 44) hx hb dJ4_poll_44 rfl (lv_at hl 1 rfl) ?_
    refine lv_if_le (pc := 45) (tgt := 79) hx hb dJ4_poll_45 (by decide) (fun c51 => ?_) (fun c51 => ?_)
    · have hm := ite_t c51 hm
      refine lv_aload_n (pc := 79) hx hb dJ4_poll_79 rfl (lv_at hl 2 rfl) ?_
      obtain ⟨e8, e9⟩ := rs2 hm
      subst e8
      subst e9
      exact rp_aret (pc := 80) (x := (some p10)) hx hb hr (Or.inl ⟨_, rfl⟩) hlk hS45 ⟨rfl, hW44, hz50, hKM48⟩ dJ4_poll_80
    · have hm := ite_f c51 hm
      refine lv_aload_n (pc := 48) hx hb dJ4_poll_48 rfl (lv_at hl 4 rfl) ?_
      obtain ⟨hg52, hm⟩ := gb_some hm
      obtain ⟨o53, he54, hm⟩ := lo_some hm
      refine rk_get (pc := 49) hx hb hts hown hK (pl_rg hW44) flJ4_21 p0 (Nat.lt_succ_self _) (Nat.zero_add _).symm (shP_17 (kd_PL hg52) (kd_k hg52)) (x := va_rf o53) (congrArg (fun z => some (va_rf z)) he54) dJ4_poll_49 ?_
      refine lv_dup (pc := 52) hx hb dJ4_poll_52 (cat_rf _) ?_
      refine lv_astoreO (pc := 53) (lv' := [(5, va_rf o53), (4, va_rf o37), (3, .int ((gI v1_13 p0 1) - (1 : Int32))), (2, .ref p10), (1, .ref p4), (0, .ref p0)]) hx hb dJ4_poll_53 hl (by decide) (by simp [List.filter, cat_rf]) (fun ls hl => ?_)
      rcases o53 with _ | p55
      · have hm := od_n hm
        refine lv_ifnonnullN (pc := 55) hx hb dJ4_poll_55 ?_
        refine lv_iconst (pc := 58) (v := (0 : Int32)) hx hb dJ4_poll_58 (by decide) ?_
        refine lv_aloadO (pc := 59) hx hb dJ4_poll_59 (lv_at hl 1 rfl) ?_
        refine lv_aload_n (pc := 61) hx hb dJ4_poll_61 rfl (lv_at hl 4 rfl) ?_
        refine lv_iload_n (pc := 62) hx hb dJ4_poll_62 rfl (lv_at hl 2 rfl) ?_
        obtain ⟨p56, he57, hm⟩ := ob_some hm
        subst he57
        obtain ⟨w58, hq59, hm⟩ := ob_some hm
        refine rk_TS (pc := 63) (As := [.int (0 : Int32), .ref p56, .ref p4, .int ((gI v1_13 p0 1) - (1 : Int32))]) (rest := []) (mc := 0) (ms := 0) hx hb hml hown hts hK hS45 (fun q hq => FA_sz rfl q hq) lkJ4_125 yn_J4_siftDownComparable (ct_J4_siftDownComparable_node (G := G) (l := l) (b0 := b0) (sz := H42.size) hq59 hPX hZP) ⟨Nat.le_of_ble_eq_true rfl, Nat.le_of_ble_eq_true rfl⟩ (fun z h => (KM_hf2 hKM48 z h)) ⟨hW49, hW44⟩ rfl rfl hl.1 (Nat.le_of_ble_eq_true rfl) dJ4_poll_63 ⟨Nat.zero_le _, Nat.zero_le _⟩ (fun ov9 H60 locs61 hP62 hkp63 hS64 => ?_)
        obtain ⟨rfl, hW65, hz66, hKM67⟩ := hP62
        have hW68 := rg_keepX hW49 hkp63 (by intro z h0 h3; have h1 := h0.1.1; have h2 := h0.1.2; have h4 := h0.2; exact hPX _ h3.1 h0)
        have hz69 := hz66.trans hz50
        have hKM70 := KM.trans hKM48 hKM67 (by omega)
        refine W.eq (g2 := F0 m 66 ls []) rfl ?_
        refine lv_goto (pc := 66) (tgt := 79) hx hb dJ4_poll_66 (by decide) ?_
        refine lv_aload_n (pc := 79) hx hb dJ4_poll_79 rfl (lv_at hl 3 rfl) ?_
        obtain ⟨e8, e9⟩ := rs2 hm
        subst e8
        subst e9
        exact rp_aret (pc := 80) (x := (some p10)) hx hb hr (Or.inl ⟨_, rfl⟩) hlk hS64 ⟨rfl, hW65, hz69, hKM70⟩ dJ4_poll_80
      · have hm := od_s hm
        refine lv_ifnonnull (pc := 55) (tgt := 69) hx hb dJ4_poll_55 (by decide) ?_
        refine lv_iconst (pc := 69) (v := (0 : Int32)) hx hb dJ4_poll_69 (by decide) ?_
        refine lv_aloadO (pc := 70) hx hb dJ4_poll_70 (lv_at hl 1 rfl) ?_
        refine lv_aload_n (pc := 72) hx hb dJ4_poll_72 rfl (lv_at hl 4 rfl) ?_
        refine lv_iload_n (pc := 73) hx hb dJ4_poll_73 rfl (lv_at hl 2 rfl) ?_
        refine lv_aload (pc := 74) hx hb dJ4_poll_74 (lv_at hl 0 rfl) ?_
        exact nomatch hm
set_option maxHeartbeats 4000000 in
theorem ct_J4_poll_node {G : Gv} {l : Launch} {b0 : Nat} {PL : Nat → Bool} {V0 : Mem} {v1 : Mem} {p0 : Nat} {rx : Option Nat} {rw1 : Mem} {sz : Nat} (hm : fJ4_poll_node PL b0 V0 v1 p0 = some (rx, rw1)) (hPX : ∀ z, PL z = true → ¬ fX b0 z) (hZP : ZP G) : CT G l yJ4_poll (ws_ yJ4_poll cJ4_poll 6 (some (.object "java/lang/Object"))) 3 0 0 74 [.ref p0] (fP PL v1) sz (fun H => rg G b0 357 (shX0 G.2.1) V0 H ∧ pl G PL v1 H) (fun ov H => ov = (some (va_rf rx)) ∧ pl G PL rw1 H ∧ H.size = sz ∧ KM v1 rw1 sz) := by
  refine Met.ofW (cc := cJ4_poll) (maxL := 6) (ret := (some (.object "java/lang/Object"))) (by decide +kernel) rfl ?_
  intro p e s m args below meth c s₁ B hml hv
  obtain ⟨rfl, ⟨hz, hW0, hW1⟩, hK⟩ := hv
  subst hz
  have hts := atoms_spec (ws := ws_ yJ4_poll cJ4_poll 6 (some (.object "java/lang/Object"))) B.pre
  have hts : ∀ w ∈ lw_all, w.before _ s = true := fun w h => hts w (List.mem_cons_of_mem _ h)
  have C : Cx G p s m _ meth c RJ4 cJ4_poll 6 (some (.object "java/lang/Object")) := ⟨B.exec, B.bytes, B.returns, B.notSynchronized, hml, findClass_of_methodNamed B.named, hts, hK⟩
  have hl := lv_entry ([.ref p0]) (n := 6) (Nat.le_of_ble_eq_true rfl)
  rw [lg_entry_eq]
  generalize (lg_sl ([.ref p0]) ++ List.replicate (6 - (lg_sl ([.ref p0])).length) Slot.unset).toArray = ls at hl ⊢
  have hl : lv_has ls 6 [(0, .ref p0)] := hl
  exact w_fJ4_poll_node C hPX hZP _ _ hm s.heap [] ls hW0 hW1 va_S.rf rfl KM.rf hl
noncomputable def fJ4_siftDownUsingComparator_found_61 (PL : Nat → Bool) (b0 : Nat) (V0 : Mem) (k5 : Mem → Int32 → Nat → Nat → Int32 → Nat → Int32 → Option (Mem)) (v1 : Mem) (i0 : Int32) (p1 : Nat) (p2 : Nat) (i3 : Int32) (p4 : Nat) (i5 : Int32) (i6 : Int32) (o7 : Option Nat) : Option (Mem) :=
  ob o7 fun p79 =>
  ob (fi b0 177 1 20 p79) fun n81 =>
  ob (fi b0 177 1 20 p1) fun n85 =>
  gb (kd PL v1 p4 5) (
  ob (fX5_compare PL b0 V0 v1 n85 n81 p4) fun r90 =>
  if 0 < r90 then (
  gb (ka PL v1 p2 44) (
  gb (inR i0 (gI v1 p2 98).toNatClampNeg) (
  lm (sR v1 p2 i0.toNatClampNeg (some (b0 + (177 + 1 * n81 + 0)))) fun v1_95 =>
  k5 v1_95 i6 (b0 + (177 + 1 * n85 + 0)) p2 i3 p4 i5)))
  else (
  gb (ka PL v1 p2 44) (
  gb (inR i0 (gI v1 p2 98).toNatClampNeg) (
  lm (sR v1 p2 i0.toNatClampNeg (some (b0 + (177 + 1 * n85 + 0)))) fun v1_107 =>
  some v1_107))))
noncomputable def fJ4_siftDownUsingComparator_found_61b (PL : Nat → Bool) (b0 : Nat) (V0 : Mem) (k5 : Mem → Int32 → Nat → Nat → Int32 → Nat → Int32 → Option (Mem)) (v1 : Mem) (i0 : Int32) (p1 : Nat) (p2 : Nat) (i3 : Int32) (p4 : Nat) (i5 : Int32) (i6 : Int32) (n7 : Nat) : Option (Mem) :=
  ob (fi b0 177 1 20 p1) fun n47 =>
  gb (kd PL v1 p4 5) (
  ob (fX5_compare PL b0 V0 v1 n47 n7 p4) fun r52 =>
  if 0 < r52 then (
  gb (ka PL v1 p2 44) (
  gb (inR i0 (gI v1 p2 98).toNatClampNeg) (
  lm (sR v1 p2 i0.toNatClampNeg (some (b0 + (177 + 1 * n7 + 0)))) fun v1_57 =>
  k5 v1_57 i6 (b0 + (177 + 1 * n47 + 0)) p2 i3 p4 i5)))
  else (
  gb (ka PL v1 p2 44) (
  gb (inR i0 (gI v1 p2 98).toNatClampNeg) (
  lm (sR v1 p2 i0.toNatClampNeg (some (b0 + (177 + 1 * n47 + 0)))) fun v1_69 =>
  some v1_69))))
noncomputable def fJ4_siftDownUsingComparator_found_5 (PL : Nat → Bool) (b0 : Nat) (V0 : Mem) (k5 : Mem → Int32 → Nat → Nat → Int32 → Nat → Int32 → Option (Mem)) (v1 : Mem) (i0 : Int32) (p1 : Nat) (p2 : Nat) (i3 : Int32) (p4 : Nat) (i5 : Int32) : Option (Mem) :=
  if i5 ≤ i0 then (
  ob (fi b0 177 1 20 p1) fun n2 =>
  gb (ka PL v1 p2 44) (
  gb (inR i0 (gI v1 p2 98).toNatClampNeg) (
  lm (sR v1 p2 i0.toNatClampNeg (some (b0 + (177 + 1 * n2 + 0)))) fun v1_8 =>
  some v1_8)))
  else (
  gb (ka PL v1 p2 44) (
  gb (inR ((i0 <<< ((1 : Int32) &&& 31)) + (1 : Int32)) (gI v1 p2 98).toNatClampNeg) (
  lo (gR v1 p2 ((i0 <<< ((1 : Int32) &&& 31)) + (1 : Int32)).toNatClampNeg) fun o20 =>
  if i3 ≤ (((i0 <<< ((1 : Int32) &&& 31)) + (1 : Int32)) + (1 : Int32)) then (
  fJ4_siftDownUsingComparator_found_61 PL b0 V0 k5 v1 i0 p1 p2 i3 p4 i5 ((i0 <<< ((1 : Int32) &&& 31)) + (1 : Int32)) o20)
  else (
  gb (ka PL v1 p2 44) (
  gb (inR (((i0 <<< ((1 : Int32) &&& 31)) + (1 : Int32)) + (1 : Int32)) (gI v1 p2 98).toNatClampNeg) (
  lo (gR v1 p2 (((i0 <<< ((1 : Int32) &&& 31)) + (1 : Int32)) + (1 : Int32)).toNatClampNeg) fun o25 =>
  ob o25 fun p27 =>
  ob (fi b0 177 1 20 p27) fun n29 =>
  ob o20 fun p33 =>
  ob (fi b0 177 1 20 p33) fun n35 =>
  gb (kd PL v1 p4 5) (
  ob (fX5_compare PL b0 V0 v1 n35 n29 p4) fun r40 =>
  if r40 ≤ 0 then (
  fJ4_siftDownUsingComparator_found_61b PL b0 V0 k5 v1 i0 p1 p2 i3 p4 i5 ((i0 <<< ((1 : Int32) &&& 31)) + (1 : Int32)) n35)
  else (
  gb (ka PL v1 p2 44) (
  gb (inR (((i0 <<< ((1 : Int32) &&& 31)) + (1 : Int32)) + (1 : Int32)) (gI v1 p2 98).toNatClampNeg) (
  lo (gR v1 p2 (((i0 <<< ((1 : Int32) &&& 31)) + (1 : Int32)) + (1 : Int32)).toNatClampNeg) fun o45 =>
  fJ4_siftDownUsingComparator_found_61 PL b0 V0 k5 v1 i0 p1 p2 i3 p4 i5 (((i0 <<< ((1 : Int32) &&& 31)) + (1 : Int32)) + (1 : Int32)) o45))))))))))
noncomputable def fJ4_siftDownUsingComparator_found (PL : Nat → Bool) (b0 : Nat) (V0 : Mem) (v1 : Mem) (i0 : Int32) (p1 : Nat) (p2 : Nat) (i3 : Int32) (p4 : Nat) : Option (Mem) :=
  lq7 (fJ4_siftDownUsingComparator_found_5 PL b0 V0) FU v1 i0 p1 p2 i3 p4 (i3.toUInt32 >>> ((1 : Int32).toUInt32 &&& Int32.toUInt32 31)).toInt32
set_option maxHeartbeats 4000000 in
theorem w_fJ4_siftDownUsingComparator_found_61 (C : Cx G p s m args meth c RJ4 cJ4_siftDownUsingComparator 9 none) {b0 : Nat} {PL : Nat → Bool} {V0 : Mem} {vP0 : Mem} {rw1 : Mem} (hPX : ∀ z, PL z = true → ¬ fX b0 z) (hZP : ZP G) {k5 : Mem → Int32 → Nat → Nat → Int32 → Nat → Int32 → Option (Mem)} (hk5 : ∀ (v1 : Mem) (i0 : Int32) (p1 : Nat) (p2 : Nat) (i3 : Int32) (p4 : Nat) (i5 : Int32), k5 v1 i0 p1 p2 i3 p4 i5 = some rw1 → ∀ (H : Heap) (locs : List Loc) (ls : Array Slot), rg G b0 357 (shX0 G.2.1) V0 H → pl G PL v1 H → va_S (FA (fP PL vP0) s.heap.size) s.heap H locs → H.size = s.heap.size → KM vP0 v1 s.heap.size → lv_has ls 9 [(0, .int i0), (1, .ref p1), (2, .ref p2), (3, .int i3), (4, .ref p4), (5, .int i5)] → W p l e (rmT 3 0 0 66) s m args below meth c H locs 0 0 (MQ below (QcT (FA (fP PL vP0) s.heap.size) (fun ov H => ov = none ∧ pl G PL rw1 H ∧ H.size = s.heap.size ∧ KM vP0 rw1 s.heap.size)) args s 0 0 (FA (fP PL vP0) s.heap.size)) (F0 m 5 ls [])) : ∀ (v1 : Mem) (i0 : Int32) (p1 : Nat) (p2 : Nat) (i3 : Int32) (p4 : Nat) (i5 : Int32) (i6 : Int32) (o7 : Option Nat), fJ4_siftDownUsingComparator_found_61 PL b0 V0 k5 v1 i0 p1 p2 i3 p4 i5 i6 o7 = some rw1 → ∀ (H : Heap) (locs : List Loc) (ls : Array Slot), rg G b0 357 (shX0 G.2.1) V0 H → pl G PL v1 H → va_S (FA (fP PL vP0) s.heap.size) s.heap H locs → H.size = s.heap.size → KM vP0 v1 s.heap.size → lv_has ls 9 [(0, .int i0), (1, .ref p1), (2, .ref p2), (3, .int i3), (4, .ref p4), (5, .int i5), (6, .int i6), (7, va_rf o7)] → W p l e (rmT 3 0 0 66) s m args below meth c H locs 0 0 (MQ below (QcT (FA (fP PL vP0) s.heap.size) (fun ov H => ov = none ∧ pl G PL rw1 H ∧ H.size = s.heap.size ∧ KM vP0 rw1 s.heap.size)) args s 0 0 (FA (fP PL vP0) s.heap.size)) (F0 m 61 ls []) := by
  intro v1 i0 p1 p2 i3 p4 i5 i6 o7 hm H locs ls hW0 hW1 hS hz hKM hl
  obtain ⟨hx, hb, hr, hlk, hml, hown, hts, hK⟩ := id C
  unfold fJ4_siftDownUsingComparator_found_61 at hm
  refine lv_aload (pc := 61) hx hb dJ4_siftDownUsingComparator_61 (lv_at hl 4 rfl) ?_
  refine lv_aload_n (pc := 63) hx hb dJ4_siftDownUsingComparator_63 rfl (lv_at hl 1 rfl) ?_
  refine lv_aloadO (pc := 64) hx hb dJ4_siftDownUsingComparator_64 (lv_at hl 7 rfl) ?_
  obtain ⟨p79, he80, hm⟩ := ob_some hm
  subst he80
  obtain ⟨n81, hf82, hm⟩ := ob_some hm
  obtain ⟨ha83, hlt84⟩ := fi_some hf82
  subst ha83
  obtain ⟨n85, hf86, hm⟩ := ob_some hm
  obtain ⟨ha87, hlt88⟩ := fi_some hf86
  subst ha87
  obtain ⟨hg89, hm⟩ := gb_some hm
  obtain ⟨r90, hq91, hm⟩ := ob_some hm
  refine rp_PF (pc := 66) (As := [.ref (b0 + (177 + 1 * n85 + 0)), .ref (b0 + (177 + 1 * n81 + 0))]) (rest := []) hx hb hml hown hts hK lfJ4_149_X5 ((hZP s hK).1.2.2.1) (T := TX5z) (N := 0) (ci := 5) rfl ynx_J4_149 (ct_X5_compare (G := G) (l := l) (b0 := b0) hq91 hlt88 hlt84) ⟨Nat.le_of_ble_eq_true rfl, Nat.le_of_ble_eq_true rfl⟩ (rp_recv hK hW1 (C := RX5) (T := TX5z) (N := 0) rfl (shP_5 (kd_PL hg89) (kd_k hg89))) ⟨hW0, hW1⟩ rfl rfl hl.1 (Nat.le_of_ble_eq_true rfl) dJ4_siftDownUsingComparator_66 ⟨Nat.zero_le _, Nat.zero_le _⟩ ?_
  refine W.eq (g2 := F0 m 71 ls [.int r90]) rfl ?_
  refine lv_if_gt (pc := 71) (tgt := 77) hx hb dJ4_siftDownUsingComparator_71 (by decide) (fun c92 => ?_) (fun c92 => ?_)
  · have hm := ite_t c92 hm
    refine lv_aload_n (pc := 77) hx hb dJ4_siftDownUsingComparator_77 rfl (lv_at hl 2 rfl) ?_
    refine lv_iload_n (pc := 78) hx hb dJ4_siftDownUsingComparator_78 rfl (lv_at hl 0 rfl) ?_
    refine lv_aload (pc := 79) hx hb dJ4_siftDownUsingComparator_79 (lv_at hl 7 rfl) ?_
    obtain ⟨hg93, hm⟩ := gb_some hm
    obtain ⟨hg94, hm⟩ := gb_some hm
    refine rp_aastR (pc := 81) (C := RX7) hx hb hts hK hW1 hS (kd_A hKM (ka_kd hg93) (by decide)) hg93 hg94 q2401 (rk_recv hK hW0 (177 + 1 * n81 + 0) (by omega) rfl rfl ((shX0_f177 G.2.1 hlt84 _ rfl 0 (by decide) _ _ _).trans rfl)) dJ4_siftDownUsingComparator_81 (fun H96 locs97 hW98 hS99 hz100 hkp101 => ?_)
    have hKM102 := KM.sR (o := p2) (j := i0.toNatClampNeg) (x := (some (b0 + (177 + 1 * n81 + 0)))) hKM
    obtain ⟨v1_95, he9, hm⟩ := lm_some hm
    rw [he9] at hW98 hKM102
    have hW103 := rg_keepqX hW0 hkp101 (hPX _ (kd_PL (ka_kd hg93)))
    have hz104 := hz100.trans hz
    refine lv_iload (pc := 82) hx hb dJ4_siftDownUsingComparator_82 (lv_at hl 6 rfl) ?_
    refine lv_istore_n (pc := 84) (lv' := [(0, .int i6), (1, .ref (b0 + (177 + 1 * n85 + 0))), (2, .ref p2), (3, .int i3), (4, .ref p4), (5, .int i5), (6, .int i6), (7, .ref (b0 + (177 + 1 * n81 + 0)))]) hx hb dJ4_siftDownUsingComparator_84 rfl hl (by decide) rfl (fun ls hl => ?_)
    refine lv_goto (pc := 85) (tgt := 5) hx hb dJ4_siftDownUsingComparator_85 (by decide) ?_
    exact hk5 v1_95 i6 (b0 + (177 + 1 * n85 + 0)) p2 i3 p4 i5 hm H96 locs97 ls hW103 hW98 hS99 hz104 hKM102 (lv_sub hl [0, 1, 2, 3, 4, 5] rfl)
  · have hm := ite_f c92 hm
    refine lv_goto (pc := 74) (tgt := 88) hx hb dJ4_siftDownUsingComparator_74 (by decide) ?_
    refine lv_aload_n (pc := 88) hx hb dJ4_siftDownUsingComparator_88 rfl (lv_at hl 2 rfl) ?_
    refine lv_iload_n (pc := 89) hx hb dJ4_siftDownUsingComparator_89 rfl (lv_at hl 0 rfl) ?_
    refine lv_aload_n (pc := 90) hx hb dJ4_siftDownUsingComparator_90 rfl (lv_at hl 1 rfl) ?_
    obtain ⟨hg105, hm⟩ := gb_some hm
    obtain ⟨hg106, hm⟩ := gb_some hm
    refine rp_aastR (pc := 91) (C := RX7) hx hb hts hK hW1 hS (kd_A hKM (ka_kd hg105) (by decide)) hg105 hg106 q2401 (rk_recv hK hW0 (177 + 1 * n85 + 0) (by omega) rfl rfl ((shX0_f177 G.2.1 hlt88 _ rfl 0 (by decide) _ _ _).trans rfl)) dJ4_siftDownUsingComparator_91 (fun H108 locs109 hW110 hS111 hz112 hkp113 => ?_)
    have hKM114 := KM.sR (o := p2) (j := i0.toNatClampNeg) (x := (some (b0 + (177 + 1 * n85 + 0)))) hKM
    obtain ⟨v1_107, he9, hm⟩ := lm_some hm
    rw [he9] at hW110 hKM114
    have hW115 := rg_keepqX hW0 hkp113 (hPX _ (kd_PL (ka_kd hg105)))
    have hz116 := hz112.trans hz
    have e9 := rs1 hm
    subst e9
    exact rk_vret (pc := 92) hx hb hr hlk hS111 ⟨rfl, hW110, hz116, hKM114⟩ dJ4_siftDownUsingComparator_92
set_option maxHeartbeats 4000000 in
theorem w_fJ4_siftDownUsingComparator_found_61b (C : Cx G p s m args meth c RJ4 cJ4_siftDownUsingComparator 9 none) {b0 : Nat} {PL : Nat → Bool} {V0 : Mem} {vP0 : Mem} {rw1 : Mem} (hPX : ∀ z, PL z = true → ¬ fX b0 z) (hZP : ZP G) {k5 : Mem → Int32 → Nat → Nat → Int32 → Nat → Int32 → Option (Mem)} (hk5 : ∀ (v1 : Mem) (i0 : Int32) (p1 : Nat) (p2 : Nat) (i3 : Int32) (p4 : Nat) (i5 : Int32), k5 v1 i0 p1 p2 i3 p4 i5 = some rw1 → ∀ (H : Heap) (locs : List Loc) (ls : Array Slot), rg G b0 357 (shX0 G.2.1) V0 H → pl G PL v1 H → va_S (FA (fP PL vP0) s.heap.size) s.heap H locs → H.size = s.heap.size → KM vP0 v1 s.heap.size → lv_has ls 9 [(0, .int i0), (1, .ref p1), (2, .ref p2), (3, .int i3), (4, .ref p4), (5, .int i5)] → W p l e (rmT 3 0 0 66) s m args below meth c H locs 0 0 (MQ below (QcT (FA (fP PL vP0) s.heap.size) (fun ov H => ov = none ∧ pl G PL rw1 H ∧ H.size = s.heap.size ∧ KM vP0 rw1 s.heap.size)) args s 0 0 (FA (fP PL vP0) s.heap.size)) (F0 m 5 ls [])) : ∀ (v1 : Mem) (i0 : Int32) (p1 : Nat) (p2 : Nat) (i3 : Int32) (p4 : Nat) (i5 : Int32) (i6 : Int32) (n7 : Nat), fJ4_siftDownUsingComparator_found_61b PL b0 V0 k5 v1 i0 p1 p2 i3 p4 i5 i6 n7 = some rw1 → (hn_n7 : n7 < 20) → ∀ (H : Heap) (locs : List Loc) (ls : Array Slot), rg G b0 357 (shX0 G.2.1) V0 H → pl G PL v1 H → va_S (FA (fP PL vP0) s.heap.size) s.heap H locs → H.size = s.heap.size → KM vP0 v1 s.heap.size → lv_has ls 9 [(0, .int i0), (1, .ref p1), (2, .ref p2), (3, .int i3), (4, .ref p4), (5, .int i5), (6, .int i6), (7, .ref (b0 + (177 + 1 * n7 + 0)))] → W p l e (rmT 3 0 0 66) s m args below meth c H locs 0 0 (MQ below (QcT (FA (fP PL vP0) s.heap.size) (fun ov H => ov = none ∧ pl G PL rw1 H ∧ H.size = s.heap.size ∧ KM vP0 rw1 s.heap.size)) args s 0 0 (FA (fP PL vP0) s.heap.size)) (F0 m 61 ls []) := by
  intro v1 i0 p1 p2 i3 p4 i5 i6 n7 hm hn_n7 H locs ls hW0 hW1 hS hz hKM hl
  obtain ⟨hx, hb, hr, hlk, hml, hown, hts, hK⟩ := id C
  unfold fJ4_siftDownUsingComparator_found_61b at hm
  refine lv_aload (pc := 61) hx hb dJ4_siftDownUsingComparator_61 (lv_at hl 4 rfl) ?_
  refine lv_aload_n (pc := 63) hx hb dJ4_siftDownUsingComparator_63 rfl (lv_at hl 1 rfl) ?_
  refine lv_aload (pc := 64) hx hb dJ4_siftDownUsingComparator_64 (lv_at hl 7 rfl) ?_
  obtain ⟨n47, hf48, hm⟩ := ob_some hm
  obtain ⟨ha49, hlt50⟩ := fi_some hf48
  subst ha49
  obtain ⟨hg51, hm⟩ := gb_some hm
  obtain ⟨r52, hq53, hm⟩ := ob_some hm
  refine rp_PF (pc := 66) (As := [.ref (b0 + (177 + 1 * n47 + 0)), .ref (b0 + (177 + 1 * n7 + 0))]) (rest := []) hx hb hml hown hts hK lfJ4_149_X5 ((hZP s hK).1.2.2.1) (T := TX5z) (N := 0) (ci := 5) rfl ynx_J4_149 (ct_X5_compare (G := G) (l := l) (b0 := b0) hq53 hlt50 hn_n7) ⟨Nat.le_of_ble_eq_true rfl, Nat.le_of_ble_eq_true rfl⟩ (rp_recv hK hW1 (C := RX5) (T := TX5z) (N := 0) rfl (shP_5 (kd_PL hg51) (kd_k hg51))) ⟨hW0, hW1⟩ rfl rfl hl.1 (Nat.le_of_ble_eq_true rfl) dJ4_siftDownUsingComparator_66 ⟨Nat.zero_le _, Nat.zero_le _⟩ ?_
  refine W.eq (g2 := F0 m 71 ls [.int r52]) rfl ?_
  refine lv_if_gt (pc := 71) (tgt := 77) hx hb dJ4_siftDownUsingComparator_71 (by decide) (fun c54 => ?_) (fun c54 => ?_)
  · have hm := ite_t c54 hm
    refine lv_aload_n (pc := 77) hx hb dJ4_siftDownUsingComparator_77 rfl (lv_at hl 2 rfl) ?_
    refine lv_iload_n (pc := 78) hx hb dJ4_siftDownUsingComparator_78 rfl (lv_at hl 0 rfl) ?_
    refine lv_aload (pc := 79) hx hb dJ4_siftDownUsingComparator_79 (lv_at hl 7 rfl) ?_
    obtain ⟨hg55, hm⟩ := gb_some hm
    obtain ⟨hg56, hm⟩ := gb_some hm
    refine rp_aastR (pc := 81) (C := RX7) hx hb hts hK hW1 hS (kd_A hKM (ka_kd hg55) (by decide)) hg55 hg56 q2401 (rk_recv hK hW0 (177 + 1 * n7 + 0) (by omega) rfl rfl ((shX0_f177 G.2.1 hn_n7 _ rfl 0 (by decide) _ _ _).trans rfl)) dJ4_siftDownUsingComparator_81 (fun H58 locs59 hW60 hS61 hz62 hkp63 => ?_)
    have hKM64 := KM.sR (o := p2) (j := i0.toNatClampNeg) (x := (some (b0 + (177 + 1 * n7 + 0)))) hKM
    obtain ⟨v1_57, he9, hm⟩ := lm_some hm
    rw [he9] at hW60 hKM64
    have hW65 := rg_keepqX hW0 hkp63 (hPX _ (kd_PL (ka_kd hg55)))
    have hz66 := hz62.trans hz
    refine lv_iload (pc := 82) hx hb dJ4_siftDownUsingComparator_82 (lv_at hl 6 rfl) ?_
    refine lv_istore_n (pc := 84) (lv' := [(0, .int i6), (1, .ref (b0 + (177 + 1 * n47 + 0))), (2, .ref p2), (3, .int i3), (4, .ref p4), (5, .int i5), (6, .int i6), (7, .ref (b0 + (177 + 1 * n7 + 0)))]) hx hb dJ4_siftDownUsingComparator_84 rfl hl (by decide) rfl (fun ls hl => ?_)
    refine lv_goto (pc := 85) (tgt := 5) hx hb dJ4_siftDownUsingComparator_85 (by decide) ?_
    exact hk5 v1_57 i6 (b0 + (177 + 1 * n47 + 0)) p2 i3 p4 i5 hm H58 locs59 ls hW65 hW60 hS61 hz66 hKM64 (lv_sub hl [0, 1, 2, 3, 4, 5] rfl)
  · have hm := ite_f c54 hm
    refine lv_goto (pc := 74) (tgt := 88) hx hb dJ4_siftDownUsingComparator_74 (by decide) ?_
    refine lv_aload_n (pc := 88) hx hb dJ4_siftDownUsingComparator_88 rfl (lv_at hl 2 rfl) ?_
    refine lv_iload_n (pc := 89) hx hb dJ4_siftDownUsingComparator_89 rfl (lv_at hl 0 rfl) ?_
    refine lv_aload_n (pc := 90) hx hb dJ4_siftDownUsingComparator_90 rfl (lv_at hl 1 rfl) ?_
    obtain ⟨hg67, hm⟩ := gb_some hm
    obtain ⟨hg68, hm⟩ := gb_some hm
    refine rp_aastR (pc := 91) (C := RX7) hx hb hts hK hW1 hS (kd_A hKM (ka_kd hg67) (by decide)) hg67 hg68 q2401 (rk_recv hK hW0 (177 + 1 * n47 + 0) (by omega) rfl rfl ((shX0_f177 G.2.1 hlt50 _ rfl 0 (by decide) _ _ _).trans rfl)) dJ4_siftDownUsingComparator_91 (fun H70 locs71 hW72 hS73 hz74 hkp75 => ?_)
    have hKM76 := KM.sR (o := p2) (j := i0.toNatClampNeg) (x := (some (b0 + (177 + 1 * n47 + 0)))) hKM
    obtain ⟨v1_69, he9, hm⟩ := lm_some hm
    rw [he9] at hW72 hKM76
    have hW77 := rg_keepqX hW0 hkp75 (hPX _ (kd_PL (ka_kd hg67)))
    have hz78 := hz74.trans hz
    have e9 := rs1 hm
    subst e9
    exact rk_vret (pc := 92) hx hb hr hlk hS73 ⟨rfl, hW72, hz78, hKM76⟩ dJ4_siftDownUsingComparator_92
set_option maxHeartbeats 4000000 in
theorem w_fJ4_siftDownUsingComparator_found_5 (C : Cx G p s m args meth c RJ4 cJ4_siftDownUsingComparator 9 none) {b0 : Nat} {PL : Nat → Bool} {V0 : Mem} {vP0 : Mem} {rw1 : Mem} (hPX : ∀ z, PL z = true → ¬ fX b0 z) (hZP : ZP G) {k5 : Mem → Int32 → Nat → Nat → Int32 → Nat → Int32 → Option (Mem)} (hk5 : ∀ (v1 : Mem) (i0 : Int32) (p1 : Nat) (p2 : Nat) (i3 : Int32) (p4 : Nat) (i5 : Int32), k5 v1 i0 p1 p2 i3 p4 i5 = some rw1 → ∀ (H : Heap) (locs : List Loc) (ls : Array Slot), rg G b0 357 (shX0 G.2.1) V0 H → pl G PL v1 H → va_S (FA (fP PL vP0) s.heap.size) s.heap H locs → H.size = s.heap.size → KM vP0 v1 s.heap.size → lv_has ls 9 [(0, .int i0), (1, .ref p1), (2, .ref p2), (3, .int i3), (4, .ref p4), (5, .int i5)] → W p l e (rmT 3 0 0 66) s m args below meth c H locs 0 0 (MQ below (QcT (FA (fP PL vP0) s.heap.size) (fun ov H => ov = none ∧ pl G PL rw1 H ∧ H.size = s.heap.size ∧ KM vP0 rw1 s.heap.size)) args s 0 0 (FA (fP PL vP0) s.heap.size)) (F0 m 5 ls [])) : ∀ (v1 : Mem) (i0 : Int32) (p1 : Nat) (p2 : Nat) (i3 : Int32) (p4 : Nat) (i5 : Int32), fJ4_siftDownUsingComparator_found_5 PL b0 V0 k5 v1 i0 p1 p2 i3 p4 i5 = some rw1 → ∀ (H : Heap) (locs : List Loc) (ls : Array Slot), rg G b0 357 (shX0 G.2.1) V0 H → pl G PL v1 H → va_S (FA (fP PL vP0) s.heap.size) s.heap H locs → H.size = s.heap.size → KM vP0 v1 s.heap.size → lv_has ls 9 [(0, .int i0), (1, .ref p1), (2, .ref p2), (3, .int i3), (4, .ref p4), (5, .int i5)] → W p l e (rmT 3 0 0 66) s m args below meth c H locs 0 0 (MQ below (QcT (FA (fP PL vP0) s.heap.size) (fun ov H => ov = none ∧ pl G PL rw1 H ∧ H.size = s.heap.size ∧ KM vP0 rw1 s.heap.size)) args s 0 0 (FA (fP PL vP0) s.heap.size)) (F0 m 5 ls []) := by
  intro v1 i0 p1 p2 i3 p4 i5 hm H locs ls hW0 hW1 hS hz hKM hl
  obtain ⟨hx, hb, hr, hlk, hml, hown, hts, hK⟩ := id C
  unfold fJ4_siftDownUsingComparator_found_5 at hm
  refine lv_iload_n (pc := 5) hx hb dJ4_siftDownUsingComparator_5 rfl (lv_at hl 0 rfl) ?_
  refine lv_iload (pc := 6) hx hb dJ4_siftDownUsingComparator_6 (lv_at hl 5 rfl) ?_
  refine lv_icmp_ge (pc := 8) (tgt := 88) hx hb dJ4_siftDownUsingComparator_8 (by decide) (fun c1 => ?_) (fun c1 => ?_)
  · have hm := ite_t c1 hm
    refine lv_aload_n (pc := 88) hx hb dJ4_siftDownUsingComparator_88 rfl (lv_at hl 2 rfl) ?_
    refine lv_iload_n (pc := 89) hx hb dJ4_siftDownUsingComparator_89 rfl (lv_at hl 0 rfl) ?_
    refine lv_aload_n (pc := 90) hx hb dJ4_siftDownUsingComparator_90 rfl (lv_at hl 1 rfl) ?_
    obtain ⟨n2, hf3, hm⟩ := ob_some hm
    obtain ⟨ha4, hlt5⟩ := fi_some hf3
    subst ha4
    obtain ⟨hg6, hm⟩ := gb_some hm
    obtain ⟨hg7, hm⟩ := gb_some hm
    refine rp_aastR (pc := 91) (C := RX7) hx hb hts hK hW1 hS (kd_A hKM (ka_kd hg6) (by decide)) hg6 hg7 q2401 (rk_recv hK hW0 (177 + 1 * n2 + 0) (by omega) rfl rfl ((shX0_f177 G.2.1 hlt5 _ rfl 0 (by decide) _ _ _).trans rfl)) dJ4_siftDownUsingComparator_91 (fun H9 locs10 hW11 hS12 hz13 hkp14 => ?_)
    have hKM15 := KM.sR (o := p2) (j := i0.toNatClampNeg) (x := (some (b0 + (177 + 1 * n2 + 0)))) hKM
    obtain ⟨v1_8, he9, hm⟩ := lm_some hm
    rw [he9] at hW11 hKM15
    have hW16 := rg_keepqX hW0 hkp14 (hPX _ (kd_PL (ka_kd hg6)))
    have hz17 := hz13.trans hz
    have e9 := rs1 hm
    subst e9
    exact rk_vret (pc := 92) hx hb hr hlk hS12 ⟨rfl, hW11, hz17, hKM15⟩ dJ4_siftDownUsingComparator_92
  · have hm := ite_f c1 hm
    refine lv_iload_n (pc := 11) hx hb dJ4_siftDownUsingComparator_11 rfl (lv_at hl 0 rfl) ?_
    refine lv_iconst (pc := 12) (v := (1 : Int32)) hx hb dJ4_siftDownUsingComparator_12 (by decide) ?_
    refine lv_ishl (pc := 13) hx hb dJ4_siftDownUsingComparator_13 ?_
    refine lv_iconst (pc := 14) (v := (1 : Int32)) hx hb dJ4_siftDownUsingComparator_14 (by decide) ?_
    refine lv_iadd (pc := 15) hx hb dJ4_siftDownUsingComparator_15 ?_
    refine lv_istore (pc := 16) (lv' := [(6, .int ((i0 <<< ((1 : Int32) &&& 31)) + (1 : Int32))), (0, .int i0), (1, .ref p1), (2, .ref p2), (3, .int i3), (4, .ref p4), (5, .int i5)]) hx hb dJ4_siftDownUsingComparator_16 hl (by decide) rfl (fun ls hl => ?_)
    refine lv_aload_n (pc := 18) hx hb dJ4_siftDownUsingComparator_18 rfl (lv_at hl 3 rfl) ?_
    refine lv_iload (pc := 19) hx hb dJ4_siftDownUsingComparator_19 (lv_at hl 0 rfl) ?_
    obtain ⟨hg18, hm⟩ := gb_some hm
    obtain ⟨hg19, hm⟩ := gb_some hm
    obtain ⟨o20, he21, hm⟩ := lo_some hm
    refine rp_aald (pc := 21) hx hb hK hW1 hg18 hg19 he21 dJ4_siftDownUsingComparator_21 ?_
    refine lv_astoreO (pc := 22) (lv' := [(7, va_rf o20), (6, .int ((i0 <<< ((1 : Int32) &&& 31)) + (1 : Int32))), (0, .int i0), (1, .ref p1), (2, .ref p2), (3, .int i3), (4, .ref p4), (5, .int i5)]) hx hb dJ4_siftDownUsingComparator_22 hl (by decide) rfl (fun ls hl => ?_)
    refine lv_iload (pc := 24) hx hb dJ4_siftDownUsingComparator_24 (lv_at hl 1 rfl) ?_
    refine lv_iconst (pc := 26) (v := (1 : Int32)) hx hb dJ4_siftDownUsingComparator_26 (by decide) ?_
    refine lv_iadd (pc := 27) hx hb dJ4_siftDownUsingComparator_27 ?_
    refine lv_istore (pc := 28) (lv' := [(8, .int (((i0 <<< ((1 : Int32) &&& 31)) + (1 : Int32)) + (1 : Int32))), (7, va_rf o20), (6, .int ((i0 <<< ((1 : Int32) &&& 31)) + (1 : Int32))), (0, .int i0), (1, .ref p1), (2, .ref p2), (3, .int i3), (4, .ref p4), (5, .int i5)]) hx hb dJ4_siftDownUsingComparator_28 hl (by decide) (by simp [List.filter, cat_rf]) (fun ls hl => ?_)
    refine lv_iload (pc := 30) hx hb dJ4_siftDownUsingComparator_30 (lv_at hl 0 rfl) ?_
    refine lv_iload_n (pc := 32) hx hb dJ4_siftDownUsingComparator_32 rfl (lv_at hl 6 rfl) ?_
    refine lv_icmp_ge (pc := 33) (tgt := 61) hx hb dJ4_siftDownUsingComparator_33 (by decide) (fun c22 => ?_) (fun c22 => ?_)
    · have hm := ite_t c22 hm
      exact (w_fJ4_siftDownUsingComparator_found_61 C hPX hZP hk5) v1 i0 p1 p2 i3 p4 i5 ((i0 <<< ((1 : Int32) &&& 31)) + (1 : Int32)) o20 hm H locs ls hW0 hW1 hS hz hKM (lv_sub hl [3, 4, 5, 6, 7, 8, 2, 1] rfl)
    · have hm := ite_f c22 hm
      refine lv_aload (pc := 36) hx hb dJ4_siftDownUsingComparator_36 (lv_at hl 7 rfl) ?_
      refine lv_aloadO (pc := 38) hx hb dJ4_siftDownUsingComparator_38 (lv_at hl 1 rfl) ?_
      refine lv_aload_n (pc := 40) hx hb dJ4_siftDownUsingComparator_40 rfl (lv_at hl 5 rfl) ?_
      refine lv_iload (pc := 41) hx hb dJ4_siftDownUsingComparator_41 (lv_at hl 0 rfl) ?_
      obtain ⟨hg23, hm⟩ := gb_some hm
      obtain ⟨hg24, hm⟩ := gb_some hm
      obtain ⟨o25, he26, hm⟩ := lo_some hm
      refine rp_aald (pc := 43) hx hb hK hW1 hg23 hg24 he26 dJ4_siftDownUsingComparator_43 ?_
      obtain ⟨p27, he28, hm⟩ := ob_some hm
      subst he28
      obtain ⟨n29, hf30, hm⟩ := ob_some hm
      obtain ⟨ha31, hlt32⟩ := fi_some hf30
      subst ha31
      obtain ⟨p33, he34, hm⟩ := ob_some hm
      subst he34
      obtain ⟨n35, hf36, hm⟩ := ob_some hm
      obtain ⟨ha37, hlt38⟩ := fi_some hf36
      subst ha37
      obtain ⟨hg39, hm⟩ := gb_some hm
      obtain ⟨r40, hq41, hm⟩ := ob_some hm
      refine rp_PF (pc := 44) (As := [.ref (b0 + (177 + 1 * n35 + 0)), .ref (b0 + (177 + 1 * n29 + 0))]) (rest := []) hx hb hml hown hts hK lfJ4_149_X5 ((hZP s hK).1.2.2.1) (T := TX5z) (N := 0) (ci := 5) rfl ynx_J4_149 (ct_X5_compare (G := G) (l := l) (b0 := b0) hq41 hlt38 hlt32) ⟨Nat.le_of_ble_eq_true rfl, Nat.le_of_ble_eq_true rfl⟩ (rp_recv hK hW1 (C := RX5) (T := TX5z) (N := 0) rfl (shP_5 (kd_PL hg39) (kd_k hg39))) ⟨hW0, hW1⟩ rfl rfl hl.1 (Nat.le_of_ble_eq_true rfl) dJ4_siftDownUsingComparator_44 ⟨Nat.zero_le _, Nat.zero_le _⟩ ?_
      refine W.eq (g2 := F0 m 49 ls [.int r40]) rfl ?_
      refine lv_if_le (pc := 49) (tgt := 61) hx hb dJ4_siftDownUsingComparator_49 (by decide) (fun c42 => ?_) (fun c42 => ?_)
      · have hm := ite_t c42 hm
        exact (w_fJ4_siftDownUsingComparator_found_61b C hPX hZP hk5) v1 i0 p1 p2 i3 p4 i5 ((i0 <<< ((1 : Int32) &&& 31)) + (1 : Int32)) n35 hm hlt38 H locs ls hW0 hW1 hS hz hKM (lv_sub hl [3, 4, 5, 6, 7, 8, 2, 1] rfl)
      · have hm := ite_f c42 hm
        refine lv_aload_n (pc := 52) hx hb dJ4_siftDownUsingComparator_52 rfl (lv_at hl 5 rfl) ?_
        refine lv_iload (pc := 53) hx hb dJ4_siftDownUsingComparator_53 (lv_at hl 0 rfl) ?_
        refine lv_dup (pc := 55) hx hb dJ4_siftDownUsingComparator_55 rfl ?_
        refine lv_istore (pc := 56) (lv' := [(6, .int (((i0 <<< ((1 : Int32) &&& 31)) + (1 : Int32)) + (1 : Int32))), (8, .int (((i0 <<< ((1 : Int32) &&& 31)) + (1 : Int32)) + (1 : Int32))), (7, .ref (b0 + (177 + 1 * n35 + 0))), (0, .int i0), (1, .ref p1), (2, .ref p2), (3, .int i3), (4, .ref p4), (5, .int i5)]) hx hb dJ4_siftDownUsingComparator_56 hl (by decide) rfl (fun ls hl => ?_)
        obtain ⟨hg43, hm⟩ := gb_some hm
        obtain ⟨hg44, hm⟩ := gb_some hm
        obtain ⟨o45, he46, hm⟩ := lo_some hm
        refine rp_aald (pc := 58) hx hb hK hW1 hg43 hg44 he46 dJ4_siftDownUsingComparator_58 ?_
        refine lv_astoreO (pc := 59) (lv' := [(7, va_rf o45), (6, .int (((i0 <<< ((1 : Int32) &&& 31)) + (1 : Int32)) + (1 : Int32))), (8, .int (((i0 <<< ((1 : Int32) &&& 31)) + (1 : Int32)) + (1 : Int32))), (0, .int i0), (1, .ref p1), (2, .ref p2), (3, .int i3), (4, .ref p4), (5, .int i5)]) hx hb dJ4_siftDownUsingComparator_59 hl (by decide) rfl (fun ls hl => ?_)
        exact (w_fJ4_siftDownUsingComparator_found_61 C hPX hZP hk5) v1 i0 p1 p2 i3 p4 i5 (((i0 <<< ((1 : Int32) &&& 31)) + (1 : Int32)) + (1 : Int32)) o45 hm H locs ls hW0 hW1 hS hz hKM (lv_sub hl [3, 4, 5, 6, 7, 8, 1, 0] rfl)
theorem w_fJ4_siftDownUsingComparator_found_5_l (C : Cx G p s m args meth c RJ4 cJ4_siftDownUsingComparator 9 none) {b0 : Nat} {PL : Nat → Bool} {V0 : Mem} {vP0 : Mem} {rw1 : Mem} (hPX : ∀ z, PL z = true → ¬ fX b0 z) (hZP : ZP G) : ∀ (n : Nat) (v1 : Mem) (i0 : Int32) (p1 : Nat) (p2 : Nat) (i3 : Int32) (p4 : Nat) (i5 : Int32), lq7 (fJ4_siftDownUsingComparator_found_5 PL b0 V0) n v1 i0 p1 p2 i3 p4 i5 = some rw1 → ∀ (H : Heap) (locs : List Loc) (ls : Array Slot), rg G b0 357 (shX0 G.2.1) V0 H → pl G PL v1 H → va_S (FA (fP PL vP0) s.heap.size) s.heap H locs → H.size = s.heap.size → KM vP0 v1 s.heap.size → lv_has ls 9 [(0, .int i0), (1, .ref p1), (2, .ref p2), (3, .int i3), (4, .ref p4), (5, .int i5)] → W p l e (rmT 3 0 0 66) s m args below meth c H locs 0 0 (MQ below (QcT (FA (fP PL vP0) s.heap.size) (fun ov H => ov = none ∧ pl G PL rw1 H ∧ H.size = s.heap.size ∧ KM vP0 rw1 s.heap.size)) args s 0 0 (FA (fP PL vP0) s.heap.size)) (F0 m 5 ls []) := by
  intro n
  induction n with
  | zero => intro v1 i0 p1 p2 i3 p4 i5 hm; exact (lq7_0 hm).elim
  | succ n ih => intro v1 i0 p1 p2 i3 p4 i5 hm; exact w_fJ4_siftDownUsingComparator_found_5 C hPX hZP ih v1 i0 p1 p2 i3 p4 i5 (lq7_s hm)
set_option maxHeartbeats 4000000 in
theorem w_fJ4_siftDownUsingComparator_found (C : Cx G p s m args meth c RJ4 cJ4_siftDownUsingComparator 9 none) {b0 : Nat} {PL : Nat → Bool} {V0 : Mem} {vP0 : Mem} {rw1 : Mem} (hPX : ∀ z, PL z = true → ¬ fX b0 z) (hZP : ZP G) : ∀ (v1 : Mem) (i0 : Int32) (p1 : Nat) (p2 : Nat) (i3 : Int32) (p4 : Nat), fJ4_siftDownUsingComparator_found PL b0 V0 v1 i0 p1 p2 i3 p4 = some rw1 → ∀ (H : Heap) (locs : List Loc) (ls : Array Slot), rg G b0 357 (shX0 G.2.1) V0 H → pl G PL v1 H → va_S (FA (fP PL vP0) s.heap.size) s.heap H locs → H.size = s.heap.size → KM vP0 v1 s.heap.size → lv_has ls 9 [(0, .int i0), (1, .ref p1), (2, .ref p2), (3, .int i3), (4, .ref p4)] → W p l e (rmT 3 0 0 66) s m args below meth c H locs 0 0 (MQ below (QcT (FA (fP PL vP0) s.heap.size) (fun ov H => ov = none ∧ pl G PL rw1 H ∧ H.size = s.heap.size ∧ KM vP0 rw1 s.heap.size)) args s 0 0 (FA (fP PL vP0) s.heap.size)) (F0 m 0 ls []) := by
  intro v1 i0 p1 p2 i3 p4 hm H locs ls hW0 hW1 hS hz hKM hl
  obtain ⟨hx, hb, hr, hlk, hml, hown, hts, hK⟩ := id C
  unfold fJ4_siftDownUsingComparator_found at hm
  refine lv_iload_n (pc := 0) hx hb dJ4_siftDownUsingComparator_0 rfl (lv_at hl 3 rfl) ?_
  refine lv_iconst (pc := 1) (v := (1 : Int32)) hx hb dJ4_siftDownUsingComparator_1 (by decide) ?_
  refine lv_iushr (pc := 2) hx hb dJ4_siftDownUsingComparator_2 rfl ?_
  refine lv_istore (pc := 3) (lv' := [(5, .int (i3.toUInt32 >>> ((1 : Int32).toUInt32 &&& Int32.toUInt32 31)).toInt32), (0, .int i0), (1, .ref p1), (2, .ref p2), (3, .int i3), (4, .ref p4)]) hx hb dJ4_siftDownUsingComparator_3 hl (by decide) rfl (fun ls hl => ?_)
  exact (w_fJ4_siftDownUsingComparator_found_5_l C hPX hZP FU) v1 i0 p1 p2 i3 p4 (i3.toUInt32 >>> ((1 : Int32).toUInt32 &&& Int32.toUInt32 31)).toInt32 hm H locs ls hW0 hW1 hS hz hKM (lv_sub hl [1, 2, 3, 4, 5, 0] rfl)
set_option maxHeartbeats 4000000 in
theorem ct_J4_siftDownUsingComparator_found {G : Gv} {l : Launch} {b0 : Nat} {PL : Nat → Bool} {V0 : Mem} {v1 : Mem} {i0 : Int32} {p1 : Nat} {p2 : Nat} {i3 : Int32} {p4 : Nat} {rw1 : Mem} {sz : Nat} (hm : fJ4_siftDownUsingComparator_found PL b0 V0 v1 i0 p1 p2 i3 p4 = some rw1) (hPX : ∀ z, PL z = true → ¬ fX b0 z) (hZP : ZP G) : CT G l yJ4_siftDownUsingComparator (ws_ yJ4_siftDownUsingComparator cJ4_siftDownUsingComparator 9 none) 3 0 0 66 [.int i0, .ref p1, .ref p2, .int i3, .ref p4] (fP PL v1) sz (fun H => rg G b0 357 (shX0 G.2.1) V0 H ∧ pl G PL v1 H) (fun ov H => ov = none ∧ pl G PL rw1 H ∧ H.size = sz ∧ KM v1 rw1 sz) := by
  refine Met.ofW (cc := cJ4_siftDownUsingComparator) (maxL := 9) (ret := none) (by decide +kernel) rfl ?_
  intro p e s m args below meth c s₁ B hml hv
  obtain ⟨rfl, ⟨hz, hW0, hW1⟩, hK⟩ := hv
  subst hz
  have hts := atoms_spec (ws := ws_ yJ4_siftDownUsingComparator cJ4_siftDownUsingComparator 9 none) B.pre
  have hts : ∀ w ∈ lw_all, w.before _ s = true := fun w h => hts w (List.mem_cons_of_mem _ h)
  have C : Cx G p s m _ meth c RJ4 cJ4_siftDownUsingComparator 9 none := ⟨B.exec, B.bytes, B.returns, B.notSynchronized, hml, findClass_of_methodNamed B.named, hts, hK⟩
  have hl := lv_entry ([.int i0, .ref p1, .ref p2, .int i3, .ref p4]) (n := 9) (Nat.le_of_ble_eq_true rfl)
  rw [lg_entry_eq]
  generalize (lg_sl ([.int i0, .ref p1, .ref p2, .int i3, .ref p4]) ++ List.replicate (9 - (lg_sl ([.int i0, .ref p1, .ref p2, .int i3, .ref p4])).length) Slot.unset).toArray = ls at hl ⊢
  have hl : lv_has ls 9 [(0, .int i0), (1, .ref p1), (2, .ref p2), (3, .int i3), (4, .ref p4)] := hl
  exact w_fJ4_siftDownUsingComparator_found C hPX hZP _ _ _ _ _ _ hm s.heap [] ls hW0 hW1 va_S.rf rfl KM.rf hl
theorem yn_J4_siftDownUsingComparator : YN yJ4_siftDownUsingComparator 5 := by
  unfold YN
  decide +kernel
theorem lkJ4_129 : LSt RJ4 129 yJ4_siftDownUsingComparator cJ4_siftDownUsingComparator 9 none := ⟨q1138, q1139, q123, q1140⟩
noncomputable def fJ4_poll_found (PL : Nat → Bool) (b0 : Nat) (V0 : Mem) (v1 : Mem) (p0 : Nat) : Option (Option Nat × Mem) :=
  gb (kd PL v1 p0 17) (
  lo (gR v1 p0 0) fun o2 =>
  ob o2 fun p4 =>
  gb (ka PL v1 p4 44) (
  gb (inR (0 : Int32) (gI v1 p4 98).toNatClampNeg) (
  lo (gR v1 p4 (0 : Int32).toNatClampNeg) fun o8 =>
  od o8 (
  some (none, v1)) (fun p10 =>
  gb (kd PL v1 p0 17) (
  gb (kd PL v1 p0 17) (
  lm (sI v1 p0 3 ((gI v1 p0 3) + (1 : Int32))) fun v1_13 =>
  gb (kd PL v1_13 p0 17) (
  gb (kd PL v1_13 p0 17) (
  lm (sI v1_13 p0 1 ((gI v1_13 p0 1) - (1 : Int32))) fun v1_25 =>
  gb (ka PL v1_25 p4 44) (
  gb (inR ((gI v1_13 p0 1) - (1 : Int32)) (gI v1_25 p4 98).toNatClampNeg) (
  lo (gR v1_25 p4 ((gI v1_13 p0 1) - (1 : Int32)).toNatClampNeg) fun o37 =>
  gb (ka PL v1_25 p4 44) (
  gb (inR ((gI v1_13 p0 1) - (1 : Int32)) (gI v1_25 p4 98).toNatClampNeg) (
  lm (sR v1_25 p4 ((gI v1_13 p0 1) - (1 : Int32)).toNatClampNeg none) fun v1_41 =>
  if ((gI v1_13 p0 1) - (1 : Int32)) ≤ 0 then (
  some ((some p10), v1_41))
  else (
  gb (kd PL v1_41 p0 17) (
  lo (gR v1_41 p0 2) fun o53 =>
  od o53 (
  none) (fun p55 =>
  ob o37 fun p56 =>
  ob (fJ4_siftDownUsingComparator_found PL b0 V0 v1_41 (0 : Int32) p56 p4 ((gI v1_13 p0 1) - (1 : Int32)) p55) fun w58 =>
  some ((some p10), w58))))))))))))))))
set_option maxHeartbeats 4000000 in
theorem w_fJ4_poll_found (C : Cx G p s m args meth c RJ4 cJ4_poll 6 (some (.object "java/lang/Object"))) {b0 : Nat} {PL : Nat → Bool} {V0 : Mem} {vP0 : Mem} {rx : Option Nat} {rw1 : Mem} (hPX : ∀ z, PL z = true → ¬ fX b0 z) (hZP : ZP G) : ∀ (v1 : Mem) (p0 : Nat), fJ4_poll_found PL b0 V0 v1 p0 = some (rx, rw1) → ∀ (H : Heap) (locs : List Loc) (ls : Array Slot), rg G b0 357 (shX0 G.2.1) V0 H → pl G PL v1 H → va_S (FA (fP PL vP0) s.heap.size) s.heap H locs → H.size = s.heap.size → KM vP0 v1 s.heap.size → lv_has ls 6 [(0, .ref p0)] → W p l e (rmT 4 0 0 94) s m args below meth c H locs 0 0 (MQ below (QcT (FA (fP PL vP0) s.heap.size) (fun ov H => ov = (some (va_rf rx)) ∧ pl G PL rw1 H ∧ H.size = s.heap.size ∧ KM vP0 rw1 s.heap.size)) args s 0 0 (FA (fP PL vP0) s.heap.size)) (F0 m 0 ls []) := by
  intro v1 p0 hm H locs ls hW0 hW1 hS hz hKM hl
  obtain ⟨hx, hb, hr, hlk, hml, hown, hts, hK⟩ := id C
  unfold fJ4_poll_found at hm
  refine lv_aload_n (pc := 0) hx hb dJ4_poll_0 rfl (lv_at hl 0 rfl) ?_
  obtain ⟨hg1, hm⟩ := gb_some hm
  obtain ⟨o2, he3, hm⟩ := lo_some hm
  refine rk_get (pc := 1) hx hb hts hown hK (pl_rg hW1) flJ4_17 p0 (Nat.lt_succ_self _) (Nat.zero_add _).symm (shP_17 (kd_PL hg1) (kd_k hg1)) (x := va_rf o2) (congrArg (fun z => some (va_rf z)) he3) dJ4_poll_1 ?_
  refine lv_dup (pc := 4) hx hb dJ4_poll_4 (cat_rf _) ?_
  refine lv_astore_nO (pc := 5) (lv' := [(1, va_rf o2), (0, .ref p0)]) hx hb dJ4_poll_5 rfl hl (by decide) rfl (fun ls hl => ?_)
  refine lv_iconst (pc := 6) (v := (0 : Int32)) hx hb dJ4_poll_6 (by decide) ?_
  obtain ⟨p4, he5, hm⟩ := ob_some hm
  subst he5
  obtain ⟨hg6, hm⟩ := gb_some hm
  obtain ⟨hg7, hm⟩ := gb_some hm
  obtain ⟨o8, he9, hm⟩ := lo_some hm
  refine rp_aald (pc := 7) hx hb hK hW1 hg6 hg7 he9 dJ4_poll_7 ?_
  refine lv_dup (pc := 8) hx hb dJ4_poll_8 (cat_rf _) ?_
  refine lv_astore_nO (pc := 9) (lv' := [(2, va_rf o8), (1, .ref p4), (0, .ref p0)]) hx hb dJ4_poll_9 rfl hl (by decide) rfl (fun ls hl => ?_)
  rcases o8 with _ | p10
  · have hm := od_n hm
    refine lv_ifnullN (pc := 10) (tgt := 79) hx hb dJ4_poll_10 (by decide) ?_
    refine lv_aload_nN (pc := 79) hx hb dJ4_poll_79 rfl (lv_at hl 0 rfl) ?_
    obtain ⟨e8, e9⟩ := rs2 hm
    subst e8
    subst e9
    exact rp_aret (pc := 80) (x := none) hx hb hr (Or.inl ⟨_, rfl⟩) hlk hS ⟨rfl, hW1, hz, hKM⟩ dJ4_poll_80
  · have hm := od_s hm
    refine lv_ifnull (pc := 10) hx hb dJ4_poll_10 ?_
    refine lv_aload_n (pc := 13) hx hb dJ4_poll_13 rfl (lv_at hl 2 rfl) ?_
    refine lv_dup (pc := 14) hx hb dJ4_poll_14 rfl ?_
    obtain ⟨hg11, hm⟩ := gb_some hm
    refine rk_get (pc := 15) hx hb hts hown hK (pl_rg hW1) flJ4_93 p0 (Nat.lt_succ_self _) (Nat.zero_add _).symm (shP_17 (kd_PL hg11) (kd_k hg11)) (x := .int (gI v1 p0 3)) rfl dJ4_poll_15 ?_
    refine lv_iconst (pc := 18) (v := (1 : Int32)) hx hb dJ4_poll_18 (by decide) ?_
    refine lv_iadd (pc := 19) hx hb dJ4_poll_19 ?_
    obtain ⟨hg12, hm⟩ := gb_some hm
    refine rp_put (pc := 20) (q := p0) hx hb hts hown hK hW1 hS flJ4_93 ft_J4 (kd_A hKM hg12 (by decide)) (shP_17 (kd_PL hg12) (kd_k hg12)) rfl (x := .int ((gI v1 p0 3) + (1 : Int32))) rfl rfl (Nat.le_of_ble_eq_true rfl) (sI v1 p0 3 ((gI v1 p0 3) + (1 : Int32))) sI_ne (by rw [sI_eq]; exact shP_17 (kd_PL hg12) (kd_k hg12)) dJ4_poll_20 (fun H14 locs15 hW16 hS17 hz18 hkp19 => ?_)
    have hKM20 := KM.sI (o := p0) (j := 3) (x := ((gI v1 p0 3) + (1 : Int32))) hKM (by decide)
    obtain ⟨v1_13, he9, hm⟩ := lm_some hm
    rw [he9] at hW16 hKM20
    have hW21 := rg_keepqX hW0 hkp19 (hPX _ (kd_PL hg12))
    have hz22 := hz18.trans hz
    refine lv_aload_n (pc := 23) hx hb dJ4_poll_23 rfl (lv_at hl 1 rfl) ?_
    refine lv_aload_n (pc := 24) hx hb dJ4_poll_24 rfl (lv_at hl 2 rfl) ?_
    refine lv_dup (pc := 25) hx hb dJ4_poll_25 rfl ?_
    obtain ⟨hg23, hm⟩ := gb_some hm
    refine rk_get (pc := 26) hx hb hts hown hK (pl_rg hW16) flJ4_58 p0 (Nat.lt_succ_self _) (Nat.zero_add _).symm (shP_17 (kd_PL hg23) (kd_k hg23)) (x := .int (gI v1_13 p0 1)) rfl dJ4_poll_26 ?_
    refine lv_iconst (pc := 29) (v := (1 : Int32)) hx hb dJ4_poll_29 (by decide) ?_
    refine lv_isub (pc := 30) hx hb dJ4_poll_30 ?_
    refine lv_dup_x1 (pc := 31) hx hb dJ4_poll_31 rfl rfl ?_
    obtain ⟨hg24, hm⟩ := gb_some hm
    refine rp_put (pc := 32) (q := p0) hx hb hts hown hK hW16 hS17 flJ4_58 ft_J4 (kd_A hKM20 hg24 (by decide)) (shP_17 (kd_PL hg24) (kd_k hg24)) rfl (x := .int ((gI v1_13 p0 1) - (1 : Int32))) rfl rfl (Nat.le_of_ble_eq_true rfl) (sI v1_13 p0 1 ((gI v1_13 p0 1) - (1 : Int32))) sI_ne (by rw [sI_eq]; exact shP_17 (kd_PL hg24) (kd_k hg24)) dJ4_poll_32 (fun H26 locs27 hW28 hS29 hz30 hkp31 => ?_)
    have hKM32 := KM.sI (o := p0) (j := 1) (x := ((gI v1_13 p0 1) - (1 : Int32))) hKM20 (by decide)
    obtain ⟨v1_25, he9, hm⟩ := lm_some hm
    rw [he9] at hW28 hKM32
    have hW33 := rg_keepqX hW21 hkp31 (hPX _ (kd_PL hg24))
    have hz34 := hz30.trans hz22
    refine lv_dup (pc := 35) hx hb dJ4_poll_35 rfl ?_
    refine lv_istore_n (pc := 36) (lv' := [(3, .int ((gI v1_13 p0 1) - (1 : Int32))), (2, .ref p10), (1, .ref p4), (0, .ref p0)]) hx hb dJ4_poll_36 rfl hl (by decide) rfl (fun ls hl => ?_)
    obtain ⟨hg35, hm⟩ := gb_some hm
    obtain ⟨hg36, hm⟩ := gb_some hm
    obtain ⟨o37, he38, hm⟩ := lo_some hm
    refine rp_aald (pc := 37) hx hb hK hW28 hg35 hg36 he38 dJ4_poll_37 ?_
    refine lv_astoreO (pc := 38) (lv' := [(4, va_rf o37), (3, .int ((gI v1_13 p0 1) - (1 : Int32))), (2, .ref p10), (1, .ref p4), (0, .ref p0)]) hx hb dJ4_poll_38 hl (by decide) rfl (fun ls hl => ?_)
    refine lv_aload_n (pc := 40) hx hb dJ4_poll_40 rfl (lv_at hl 3 rfl) ?_
    refine lv_iload_n (pc := 41) hx hb dJ4_poll_41 rfl (lv_at hl 1 rfl) ?_
    refine lv_null (pc := 42) hx hb dJ4_poll_42 ?_
    obtain ⟨hg39, hm⟩ := gb_some hm
    obtain ⟨hg40, hm⟩ := gb_some hm
    refine rp_aastN (pc := 43) hx hb hK hW28 hS29 (kd_A hKM32 (ka_kd hg39) (by decide)) hg39 hg40 dJ4_poll_43 (fun H42 locs43 hW44 hS45 hz46 hkp47 => ?_)
    have hKM48 := KM.sR (o := p4) (j := ((gI v1_13 p0 1) - (1 : Int32)).toNatClampNeg) (x := none) hKM32
    obtain ⟨v1_41, he9, hm⟩ := lm_some hm
    rw [he9] at hW44 hKM48
    have hW49 := rg_keepqX hW33 hkp47 (hPX _ (kd_PL (ka_kd hg39)))
    have hz50 := hz46.trans hz34
    refine lv_iload_n (pc := 44) hx hb dJ4_poll_44 rfl (lv_at hl 1 rfl) ?_
    refine lv_if_le (pc := 45) (tgt := 79) hx hb dJ4_poll_45 (by decide) (fun c51 => ?_) (fun c51 => ?_)
    · have hm := ite_t c51 hm
      refine lv_aload_n (pc := 79) hx hb dJ4_poll_79 rfl (lv_at hl 2 rfl) ?_
      obtain ⟨e8, e9⟩ := rs2 hm
      subst e8
      subst e9
      exact rp_aret (pc := 80) (x := (some p10)) hx hb hr (Or.inl ⟨_, rfl⟩) hlk hS45 ⟨rfl, hW44, hz50, hKM48⟩ dJ4_poll_80
    · have hm := ite_f c51 hm
      refine lv_aload_n (pc := 48) hx hb dJ4_poll_48 rfl (lv_at hl 4 rfl) ?_
      obtain ⟨hg52, hm⟩ := gb_some hm
      obtain ⟨o53, he54, hm⟩ := lo_some hm
      refine rk_get (pc := 49) hx hb hts hown hK (pl_rg hW44) flJ4_21 p0 (Nat.lt_succ_self _) (Nat.zero_add _).symm (shP_17 (kd_PL hg52) (kd_k hg52)) (x := va_rf o53) (congrArg (fun z => some (va_rf z)) he54) dJ4_poll_49 ?_
      refine lv_dup (pc := 52) hx hb dJ4_poll_52 (cat_rf _) ?_
      refine lv_astoreO (pc := 53) (lv' := [(5, va_rf o53), (4, va_rf o37), (3, .int ((gI v1_13 p0 1) - (1 : Int32))), (2, .ref p10), (1, .ref p4), (0, .ref p0)]) hx hb dJ4_poll_53 hl (by decide) (by simp [List.filter, cat_rf]) (fun ls hl => ?_)
      rcases o53 with _ | p55
      · have hm := od_n hm
        refine lv_ifnonnullN (pc := 55) hx hb dJ4_poll_55 ?_
        refine lv_iconst (pc := 58) (v := (0 : Int32)) hx hb dJ4_poll_58 (by decide) ?_
        refine lv_aloadO (pc := 59) hx hb dJ4_poll_59 (lv_at hl 1 rfl) ?_
        refine lv_aload_n (pc := 61) hx hb dJ4_poll_61 rfl (lv_at hl 4 rfl) ?_
        refine lv_iload_n (pc := 62) hx hb dJ4_poll_62 rfl (lv_at hl 2 rfl) ?_
        exact nomatch hm
      · have hm := od_s hm
        refine lv_ifnonnull (pc := 55) (tgt := 69) hx hb dJ4_poll_55 (by decide) ?_
        refine lv_iconst (pc := 69) (v := (0 : Int32)) hx hb dJ4_poll_69 (by decide) ?_
        refine lv_aloadO (pc := 70) hx hb dJ4_poll_70 (lv_at hl 1 rfl) ?_
        refine lv_aload_n (pc := 72) hx hb dJ4_poll_72 rfl (lv_at hl 4 rfl) ?_
        refine lv_iload_n (pc := 73) hx hb dJ4_poll_73 rfl (lv_at hl 2 rfl) ?_
        refine lv_aload (pc := 74) hx hb dJ4_poll_74 (lv_at hl 0 rfl) ?_
        obtain ⟨p56, he57, hm⟩ := ob_some hm
        subst he57
        obtain ⟨w58, hq59, hm⟩ := ob_some hm
        refine rk_TS (pc := 76) (As := [.int (0 : Int32), .ref p56, .ref p4, .int ((gI v1_13 p0 1) - (1 : Int32)), .ref p55]) (rest := []) (mc := 0) (ms := 0) hx hb hml hown hts hK hS45 (fun q hq => FA_sz rfl q hq) lkJ4_129 yn_J4_siftDownUsingComparator (ct_J4_siftDownUsingComparator_found (G := G) (l := l) (b0 := b0) (sz := H42.size) hq59 hPX hZP) ⟨Nat.le_of_ble_eq_true rfl, Nat.le_of_ble_eq_true rfl⟩ (fun z h => (KM_hf2 hKM48 z h)) ⟨hW49, hW44⟩ rfl rfl hl.1 (Nat.le_of_ble_eq_true rfl) dJ4_poll_76 ⟨Nat.zero_le _, Nat.zero_le _⟩ (fun ov9 H60 locs61 hP62 hkp63 hS64 => ?_)
        obtain ⟨rfl, hW65, hz66, hKM67⟩ := hP62
        have hW68 := rg_keepX hW49 hkp63 (by intro z h0 h3; have h1 := h0.1.1; have h2 := h0.1.2; have h4 := h0.2; exact hPX _ h3.1 h0)
        have hz69 := hz66.trans hz50
        have hKM70 := KM.trans hKM48 hKM67 (by omega)
        refine W.eq (g2 := F0 m 79 ls []) rfl ?_
        refine lv_aload_n (pc := 79) hx hb dJ4_poll_79 rfl (lv_at hl 3 rfl) ?_
        obtain ⟨e8, e9⟩ := rs2 hm
        subst e8
        subst e9
        exact rp_aret (pc := 80) (x := (some p10)) hx hb hr (Or.inl ⟨_, rfl⟩) hlk hS64 ⟨rfl, hW65, hz69, hKM70⟩ dJ4_poll_80
set_option maxHeartbeats 4000000 in
theorem ct_J4_poll_found {G : Gv} {l : Launch} {b0 : Nat} {PL : Nat → Bool} {V0 : Mem} {v1 : Mem} {p0 : Nat} {rx : Option Nat} {rw1 : Mem} {sz : Nat} (hm : fJ4_poll_found PL b0 V0 v1 p0 = some (rx, rw1)) (hPX : ∀ z, PL z = true → ¬ fX b0 z) (hZP : ZP G) : CT G l yJ4_poll (ws_ yJ4_poll cJ4_poll 6 (some (.object "java/lang/Object"))) 4 0 0 94 [.ref p0] (fP PL v1) sz (fun H => rg G b0 357 (shX0 G.2.1) V0 H ∧ pl G PL v1 H) (fun ov H => ov = (some (va_rf rx)) ∧ pl G PL rw1 H ∧ H.size = sz ∧ KM v1 rw1 sz) := by
  refine Met.ofW (cc := cJ4_poll) (maxL := 6) (ret := (some (.object "java/lang/Object"))) (by decide +kernel) rfl ?_
  intro p e s m args below meth c s₁ B hml hv
  obtain ⟨rfl, ⟨hz, hW0, hW1⟩, hK⟩ := hv
  subst hz
  have hts := atoms_spec (ws := ws_ yJ4_poll cJ4_poll 6 (some (.object "java/lang/Object"))) B.pre
  have hts : ∀ w ∈ lw_all, w.before _ s = true := fun w h => hts w (List.mem_cons_of_mem _ h)
  have C : Cx G p s m _ meth c RJ4 cJ4_poll 6 (some (.object "java/lang/Object")) := ⟨B.exec, B.bytes, B.returns, B.notSynchronized, hml, findClass_of_methodNamed B.named, hts, hK⟩
  have hl := lv_entry ([.ref p0]) (n := 6) (Nat.le_of_ble_eq_true rfl)
  rw [lg_entry_eq]
  generalize (lg_sl ([.ref p0]) ++ List.replicate (6 - (lg_sl ([.ref p0])).length) Slot.unset).toArray = ls at hl ⊢
  have hl : lv_has ls 6 [(0, .ref p0)] := hl
  exact w_fJ4_poll_found C hPX hZP _ _ hm s.heap [] ls hW0 hW1 va_S.rf rfl KM.rf hl
end
