set_option maxRecDepth 100000
section
variable {p : Program} {l : Launch} {e : Env} {s : State} {m : MethodId} {args : Array Value} {below : List Frame} {meth : Method} {c : Code} {G : Gv}
theorem yn_J1_put_2 : YN yJ1_put_2 3 := by
  unfold YN
  decide +kernel
theorem lkJ1_127 : LV RJ1 127 RJ1 yJ1_put_2 cJ1_put_2 10 (some (.object "java/lang/Object")) := ⟨q1385, q1387, qs48, q120, q1388⟩
noncomputable def fJ1_put (PL : Nat → Bool) (Z : Nat) (v0 : Mem) (p0 : Nat) (p1 : Nat) (p2 : Nat) : Option (Option Nat × Nat × Mem) :=
  gb (kd PL v0 p0 16) (
  ob3 (fJ1_put_2 PL (Z + 0) v0 p0 p1 p2 (1 : Int32)) fun oa2 rc3 w4 =>
  some (oa2, rc3, w4))
set_option maxHeartbeats 4000000 in
theorem w_fJ1_put (C : Cx G p s m args meth c RJ1 cJ1_put 3 (some (.object "java/lang/Object"))) {PL : Nat → Bool} {Z : Nat} {vP0 : Mem} {rx : Option Nat} {rc : Nat} {rw0 : Mem} (hZz : s.heap.size = Z) (hZP : ZP G) : ∀ (v0 : Mem) (p0 : Nat) (p1 : Nat) (p2 : Nat), fJ1_put PL Z v0 p0 p1 p2 = some (rx, rc, rw0) → ∀ (H : Heap) (locs : List Loc) (ls : Array Slot), pl G PL v0 H → va_S (FA (fP PL vP0) s.heap.size) s.heap H locs → H.size = s.heap.size + 0 → KM vP0 v0 s.heap.size → lv_has ls 3 [(0, .ref p0), (1, .ref p1), (2, .ref p2)] → W p l e (rmT 5 1 6 117) s m args below meth c H locs 0 0 (MQ below (QcT (FA (fP PL vP0) s.heap.size) (fun ov H => ov = (some (va_rf rx)) ∧ pl G PL rw0 H ∧ H.size = s.heap.size + rc ∧ KM vP0 rw0 s.heap.size)) args s 1 6 (FA (fP PL vP0) s.heap.size)) (F0 m 0 ls []) := by
  intro v0 p0 p1 p2 hm H locs ls hW0 hS hz hKM hl
  obtain ⟨hx, hb, hr, hlk, hml, hown, hts, hK⟩ := id C
  unfold fJ1_put at hm
  refine lv_aload_n (pc := 0) hx hb dJ1_put_0 rfl (lv_at hl 0 rfl) ?_
  refine lv_aload_n (pc := 1) hx hb dJ1_put_1 rfl (lv_at hl 1 rfl) ?_
  refine lv_aload_n (pc := 2) hx hb dJ1_put_2 rfl (lv_at hl 2 rfl) ?_
  refine lv_iconst (pc := 3) (v := (1 : Int32)) hx hb dJ1_put_3 (by decide) ?_
  obtain ⟨hg1, hm⟩ := gb_some hm
  obtain ⟨oa2, rc3, w4, hq5, hm⟩ := ob3_some hm
  have hq6 := hq5
  rw [show (Z + 0) = H.size by omega] at hq6
  refine rk_TV (pc := 4) (As := [.ref p1, .ref p2, .int (1 : Int32)]) (rest := []) (mc := 1) (ms := 6) hx hb hml hown hts hK hS (fun q hq => FA_sz rfl q hq) lkJ1_127 rfl yn_J1_put_2 (ct_J1_put_2 (G := G) (l := l) hq6 hZP) ⟨Nat.le_of_ble_eq_true rfl, Nat.le_of_ble_eq_true rfl⟩ (fun z h => (KM_hf2 hKM z h)) (rp_recv hK hW0 (C := RJ1) (T := TJ1) (N := 9) rfl (shP_16 (kd_PL hg1) (kd_k hg1))) hW0 rfl rfl hl.1 (Nat.le_of_ble_eq_true rfl) dJ1_put_4 ⟨Nat.le_of_ble_eq_true rfl, Nat.le_of_ble_eq_true rfl⟩ (fun ov9 H7 locs8 hP9 hkp10 hS11 => ?_)
  obtain ⟨rfl, hW12, hz13, hKM14⟩ := hP9
  have hz15 : H7.size = s.heap.size + rc3 := by omega
  have hKM16 := KM.trans hKM hKM14 (by omega)
  refine W.eq (g2 := F0 m 7 ls [va_rf oa2]) rfl ?_
  obtain ⟨e7, e8, e9⟩ := rs3 hm
  subst e7
  subst e8
  subst e9
  exact rp_aretA (pc := 7) (x := oa2) hx hb hr (Or.inl ⟨_, rfl⟩) hlk hS11 ⟨rfl, hW12, hz15, hKM16⟩ dJ1_put_7 (by exact Nat.le_of_ble_eq_true rfl) (by exact Nat.le_of_ble_eq_true rfl)
set_option maxHeartbeats 4000000 in
theorem ct_J1_put {G : Gv} {l : Launch} {PL : Nat → Bool} {Z : Nat} {v0 : Mem} {p0 : Nat} {p1 : Nat} {p2 : Nat} {rx : Option Nat} {rc : Nat} {rw0 : Mem} (hm : fJ1_put PL Z v0 p0 p1 p2 = some (rx, rc, rw0)) (hZP : ZP G) : CT G l yJ1_put (ws_ yJ1_put cJ1_put 3 (some (.object "java/lang/Object"))) 5 1 6 117 [.ref p0, .ref p1, .ref p2] (fP PL v0) Z (fun H => pl G PL v0 H) (fun ov H => ov = (some (va_rf rx)) ∧ pl G PL rw0 H ∧ H.size = Z + rc ∧ KM v0 rw0 Z) := by
  refine Met.ofW (cc := cJ1_put) (maxL := 3) (ret := (some (.object "java/lang/Object"))) (by decide +kernel) rfl ?_
  intro p e s m args below meth c s₁ B hml hv
  obtain ⟨rfl, ⟨hz, hW0⟩, hK⟩ := hv
  subst hz
  have hZz : s.heap.size = s.heap.size := rfl
  have hts := atoms_spec (ws := ws_ yJ1_put cJ1_put 3 (some (.object "java/lang/Object"))) B.pre
  have hts : ∀ w ∈ lw_all, w.before _ s = true := fun w h => hts w (List.mem_cons_of_mem _ h)
  have C : Cx G p s m _ meth c RJ1 cJ1_put 3 (some (.object "java/lang/Object")) := ⟨B.exec, B.bytes, B.returns, B.notSynchronized, hml, findClass_of_methodNamed B.named, hts, hK⟩
  have hl := lv_entry ([.ref p0, .ref p1, .ref p2]) (n := 3) (Nat.le_of_ble_eq_true rfl)
  rw [lg_entry_eq]
  generalize (lg_sl ([.ref p0, .ref p1, .ref p2]) ++ List.replicate (3 - (lg_sl ([.ref p0, .ref p1, .ref p2])).length) Slot.unset).toArray = ls at hl ⊢
  have hl : lv_has ls 3 [(0, .ref p0), (1, .ref p1), (2, .ref p2)] := hl
  exact w_fJ1_put C hZz hZP _ _ _ _ hm s.heap [] ls hW0 va_S.rf rfl KM.rf hl
noncomputable def fJ1_size (PL : Nat → Bool) (V0 : Mem) (p0 : Nat) : Option (Int32) :=
  gb (kd PL V0 p0 16) (
  some (gI V0 p0 4))
set_option maxHeartbeats 4000000 in
theorem w_fJ1_size (C : Cx G p s m args meth c RJ1 cJ1_size 1 (some .int)) {PL : Nat → Bool} {V0 : Mem} {rx : Int32} (hW0 : pl G PL V0 s.heap) : ∀ (p0 : Nat), fJ1_size PL V0 p0 = some rx → ∀ (ls : Array Slot), lv_has ls 1 [(0, .ref p0)] → W p l e (rmP 0 0) s m args below meth c s.heap [] 0 0 (MQ below (QcP (some (.int rx))) args s 0 0 (fun _ => False)) (F0 m 0 ls []) := by
  intro p0 hm ls hl
  obtain ⟨hx, hb, hr, hlk, hml, hown, hts, hK⟩ := id C
  unfold fJ1_size at hm
  refine lv_aload_n (pc := 0) hx hb dJ1_size_0 rfl (lv_at hl 0 rfl) ?_
  obtain ⟨hg1, hm⟩ := gb_some hm
  refine rk_get (pc := 1) hx hb hts hown hK (pl_rg hW0) flJ1_7 p0 (Nat.lt_succ_self _) (Nat.zero_add _).symm (shP_16 (kd_PL hg1) (kd_k hg1)) (x := .int (gI V0 p0 4)) rfl dJ1_size_1 ?_
  have e9 := rs1 hm
  subst e9
  exact rk_iretP (pc := 4) hx hb hr hlk rfl dJ1_size_4
set_option maxHeartbeats 4000000 in
theorem ct_J1_size {G : Gv} {l : Launch} {PL : Nat → Bool} {V0 : Mem} {p0 : Nat} {rx : Int32} (hm : fJ1_size PL V0 p0 = some rx) : CP G l yJ1_size (ws_ yJ1_size cJ1_size 1 (some .int)) 0 0 [.ref p0] (fun H => pl G PL V0 H) (some (.int rx)) := by
  refine Met.ofW (cc := cJ1_size) (maxL := 1) (ret := (some .int)) (by decide +kernel) rfl ?_
  intro p e s m args below meth c s₁ B hml hv
  obtain ⟨rfl, hW0, hK⟩ := hv
  have hts := atoms_spec (ws := ws_ yJ1_size cJ1_size 1 (some .int)) B.pre
  have hts : ∀ w ∈ lw_all, w.before _ s = true := fun w h => hts w (List.mem_cons_of_mem _ h)
  have C : Cx G p s m _ meth c RJ1 cJ1_size 1 (some .int) := ⟨B.exec, B.bytes, B.returns, B.notSynchronized, hml, findClass_of_methodNamed B.named, hts, hK⟩
  have hl := lv_entry ([.ref p0]) (n := 1) (Nat.le_of_ble_eq_true rfl)
  rw [lg_entry_eq]
  generalize (lg_sl ([.ref p0]) ++ List.replicate (1 - (lg_sl ([.ref p0])).length) Slot.unset).toArray = ls at hl ⊢
  have hl : lv_has ls 1 [(0, .ref p0)] := hl
  exact w_fJ1_size C hW0 _ hm ls hl
theorem df_J15 (fs : List Value) (h : fs = [.null, .null, .int 0, .null]) : ∀ j, j < 4 → defaultValue (tyJ15 j) = vp_V fs j := by
  subst h
  intro j hj
  match j, hj with
  | 0, _ => rfl
  | 1, _ => rfl
  | 2, _ => rfl
  | 3, _ => rfl
  | n + 4, h => exact absurd h (by omega)
theorem ft_J15 : FT TJ15 4 tyJ15 := ⟨tyJ15_ok, nmJ15⟩
theorem flJ14_1 : FL RJ14 1 20 3 RJ15 TJ15 4 := ⟨in_J15, rfl, by decide, q1554⟩
theorem fnJ14_13 : FN RJ14 13 16 5 RJ1 TJ1 9 "java/util/TreeMap" := ⟨in_J1, rfl, by decide, q337⟩
theorem flJ14_19 : FL RJ14 19 20 2 RJ15 TJ15 4 := ⟨in_J15, rfl, by decide, q1553⟩
theorem flJ14_22 : FL RJ14 22 20 1 RJ15 TJ15 4 := ⟨in_J15, rfl, by decide, q1552⟩
theorem flJ14_26 : FL RJ14 26 20 0 RJ15 TJ15 4 := ⟨in_J15, rfl, by decide, q1551⟩
noncomputable def fJ14_init (PL : Nat → Bool) (v0 : Mem) (p0 : Nat) (p1 : Nat) (o2 : Option Nat) : Option (Mem) :=
  gb (kd PL v0 p0 20) (
  lm (sR v0 p0 3 (some p1)) fun v0_2 =>
  gb (kd PL v0_2 p1 16) (
  gb (kd PL v0_2 p0 20) (
  lm (sI v0_2 p0 2 (gI v0_2 p1 5)) fun v0_13 =>
  gb (kd PL v0_13 p0 20) (
  lm (sR v0_13 p0 1 none) fun v0_23 =>
  gb (kd PL v0_23 p0 20) (
  lm (sR v0_23 p0 0 o2) fun v0_33 =>
  some v0_33)))))
set_option maxHeartbeats 4000000 in
theorem w_fJ14_init (C : Cx G p s m args meth c RJ14 cJ14_init 3 none) {PL : Nat → Bool} {vP0 : Mem} {rw0 : Mem} (hin : meth.name = "<init>") : ∀ (v0 : Mem) (p0 : Nat) (p1 : Nat) (o2 : Option Nat), fJ14_init PL v0 p0 p1 o2 = some rw0 → ∀ (H : Heap) (locs : List Loc) (ls : Array Slot), pl G PL v0 H → va_S (FA (fP PL vP0) s.heap.size) s.heap H locs → H.size = s.heap.size → KM vP0 v0 s.heap.size → lv_has ls 3 [(0, .ref p0), (1, .ref p1), (2, va_rf o2)] → W p l e (rmT 1 0 0 32) s m args below meth c H locs 0 0 (MQ below (QcT (FA (fP PL vP0) s.heap.size) (fun ov H => ov = none ∧ pl G PL rw0 H ∧ H.size = s.heap.size ∧ KM vP0 rw0 s.heap.size)) args s 0 0 (FA (fP PL vP0) s.heap.size)) (F0 m 0 ls []) := by
  intro v0 p0 p1 o2 hm H locs ls hW0 hS hz hKM hl
  obtain ⟨hx, hb, hr, hlk, hml, hown, hts, hK⟩ := id C
  unfold fJ14_init at hm
  refine lv_aload_n (pc := 0) hx hb dJ14_init_0 rfl (lv_at hl 0 rfl) ?_
  refine lv_aload_n (pc := 1) hx hb dJ14_init_1 rfl (lv_at hl 1 rfl) ?_
  obtain ⟨hg1, hm⟩ := gb_some hm
  refine rp_putF (pc := 2) (q := p0) hx hb hts hown hK hW0 hS flJ14_1 ft_J15 (kd_A hKM hg1 (by decide)) (shP_20 (kd_PL hg1) (kd_k hg1)) rfl hin rfl (x := va_rf (some p1)) (rf_nar _ rfl (some p1)) (rf_fit _ rfl (some p1)) (Nat.le_of_ble_eq_true rfl) (sR v0 p0 3 (some p1)) sR_ne (by rw [sR_eq]; exact shP_20 (kd_PL hg1) (kd_k hg1)) dJ14_init_2 (fun H3 locs4 hW5 hS6 hz7 hkp8 => ?_)
  have hKM9 := KM.sR (o := p0) (j := 3) (x := (some p1)) hKM
  obtain ⟨v0_2, he9, hm⟩ := lm_some hm
  rw [he9] at hW5 hKM9
  have hz10 := hz7.trans hz
  refine lv_aload_n (pc := 5) hx hb dJ14_init_5 rfl (lv_at hl 0 rfl) ?_
  refine W.objInit  hx hb hown (hts _ q1550) (hts _ q159) (hts _ q160) rfl (by rw [hml]; exact hl.1) rfl dJ14_init_6 (Nat.le_of_ble_eq_true rfl) (Nat.le_of_ble_eq_true rfl) ?_
  refine W.eq (g2 := F0 m 9 ls []) rfl ?_
  refine lv_aload_n (pc := 9) hx hb dJ14_init_9 rfl (lv_at hl 0 rfl) ?_
  refine lv_aload_n (pc := 10) hx hb dJ14_init_10 rfl (lv_at hl 1 rfl) ?_
  obtain ⟨hg11, hm⟩ := gb_some hm
  refine rk_getN (pc := 11) hx hb hts hown hK (pl_rg hW5) fnJ14_13 p1 (Nat.lt_succ_self _) (Nat.zero_add _).symm (shP_16 (kd_PL hg11) (kd_k hg11)) (x := .int (gI v0_2 p1 5)) rfl dJ14_init_11 ?_
  obtain ⟨hg12, hm⟩ := gb_some hm
  refine rp_put (pc := 14) (q := p0) hx hb hts hown hK hW5 hS6 flJ14_19 ft_J15 (kd_A hKM9 hg12 (by decide)) (shP_20 (kd_PL hg12) (kd_k hg12)) rfl (x := .int (gI v0_2 p1 5)) rfl rfl (Nat.le_of_ble_eq_true rfl) (sI v0_2 p0 2 (gI v0_2 p1 5)) sI_ne (by rw [sI_eq]; exact shP_20 (kd_PL hg12) (kd_k hg12)) dJ14_init_14 (fun H14 locs15 hW16 hS17 hz18 hkp19 => ?_)
  have hKM20 := KM.sI (o := p0) (j := 2) (x := (gI v0_2 p1 5)) hKM9 (by decide)
  obtain ⟨v0_13, he9, hm⟩ := lm_some hm
  rw [he9] at hW16 hKM20
  have hz21 := hz18.trans hz10
  refine lv_aload_n (pc := 17) hx hb dJ14_init_17 rfl (lv_at hl 0 rfl) ?_
  refine lv_null (pc := 18) hx hb dJ14_init_18 ?_
  obtain ⟨hg22, hm⟩ := gb_some hm
  refine rp_put (pc := 19) (q := p0) hx hb hts hown hK hW16 hS17 flJ14_22 ft_J15 (kd_A hKM20 hg22 (by decide)) (shP_20 (kd_PL hg22) (kd_k hg22)) rfl (x := va_rf none) (rf_nar _ rfl none) (rf_fit _ rfl none) (Nat.le_of_ble_eq_true rfl) (sR v0_13 p0 1 none) sR_ne (by rw [sR_eq]; exact shP_20 (kd_PL hg22) (kd_k hg22)) dJ14_init_19 (fun H24 locs25 hW26 hS27 hz28 hkp29 => ?_)
  have hKM30 := KM.sR (o := p0) (j := 1) (x := none) hKM20
  obtain ⟨v0_23, he9, hm⟩ := lm_some hm
  rw [he9] at hW26 hKM30
  have hz31 := hz28.trans hz21
  refine lv_aload_n (pc := 22) hx hb dJ14_init_22 rfl (lv_at hl 0 rfl) ?_
  refine lv_aload_nO (pc := 23) hx hb dJ14_init_23 rfl (lv_at hl 2 rfl) ?_
  obtain ⟨hg32, hm⟩ := gb_some hm
  refine rp_put (pc := 24) (q := p0) hx hb hts hown hK hW26 hS27 flJ14_26 ft_J15 (kd_A hKM30 hg32 (by decide)) (shP_20 (kd_PL hg32) (kd_k hg32)) rfl (x := va_rf o2) (rf_nar _ rfl o2) (rf_fit _ rfl o2) (Nat.le_of_ble_eq_true rfl) (sR v0_23 p0 0 o2) sR_ne (by rw [sR_eq]; exact shP_20 (kd_PL hg32) (kd_k hg32)) dJ14_init_24 (fun H34 locs35 hW36 hS37 hz38 hkp39 => ?_)
  have hKM40 := KM.sR (o := p0) (j := 0) (x := o2) hKM30
  obtain ⟨v0_33, he9, hm⟩ := lm_some hm
  rw [he9] at hW36 hKM40
  have hz41 := hz38.trans hz31
  have e9 := rs1 hm
  subst e9
  exact rk_vret (pc := 27) hx hb hr hlk hS37 ⟨rfl, hW36, hz41, hKM40⟩ dJ14_init_27
set_option maxHeartbeats 4000000 in
theorem ct_J14_init {G : Gv} {l : Launch} {PL : Nat → Bool} {v0 : Mem} {p0 : Nat} {p1 : Nat} {o2 : Option Nat} {rw0 : Mem} {sz : Nat} (hm : fJ14_init PL v0 p0 p1 o2 = some rw0) : CT G l yJ14_init (ws_ yJ14_init cJ14_init 3 none) 1 0 0 32 [.ref p0, .ref p1, va_rf o2] (fP PL v0) sz (fun H => pl G PL v0 H) (fun ov H => ov = none ∧ pl G PL rw0 H ∧ H.size = sz ∧ KM v0 rw0 sz) := by
  cases o2 with
  | none =>
    refine Met.ofW (cc := cJ14_init) (maxL := 3) (ret := none) (by decide +kernel) rfl ?_
    intro p e s m args below meth c s₁ B hml hv
    obtain ⟨rfl, ⟨hz, hW0⟩, hK⟩ := hv
    subst hz
    have hin : meth.name = "<init>" := (name_of_methodNamed B.named B.method).1
    have hts := atoms_spec (ws := ws_ yJ14_init cJ14_init 3 none) B.pre
    have hts : ∀ w ∈ lw_all, w.before _ s = true := fun w h => hts w (List.mem_cons_of_mem _ h)
    have C : Cx G p s m _ meth c RJ14 cJ14_init 3 none := ⟨B.exec, B.bytes, B.returns, B.notSynchronized, hml, findClass_of_methodNamed B.named, hts, hK⟩
    have hl := lv_entry ([.ref p0, .ref p1, va_rf none]) (n := 3) (Nat.le_of_ble_eq_true rfl)
    rw [lg_entry_eq]
    generalize (lg_sl ([.ref p0, .ref p1, va_rf none]) ++ List.replicate (3 - (lg_sl ([.ref p0, .ref p1, va_rf none])).length) Slot.unset).toArray = ls at hl ⊢
    have hl : lv_has ls 3 [(0, .ref p0), (1, .ref p1), (2, va_rf none)] := hl
    exact w_fJ14_init C hin _ _ _ _ hm s.heap [] ls hW0 va_S.rf rfl KM.rf hl
  | some ao2 =>
    refine Met.ofW (cc := cJ14_init) (maxL := 3) (ret := none) (by decide +kernel) rfl ?_
    intro p e s m args below meth c s₁ B hml hv
    obtain ⟨rfl, ⟨hz, hW0⟩, hK⟩ := hv
    subst hz
    have hin : meth.name = "<init>" := (name_of_methodNamed B.named B.method).1
    have hts := atoms_spec (ws := ws_ yJ14_init cJ14_init 3 none) B.pre
    have hts : ∀ w ∈ lw_all, w.before _ s = true := fun w h => hts w (List.mem_cons_of_mem _ h)
    have C : Cx G p s m _ meth c RJ14 cJ14_init 3 none := ⟨B.exec, B.bytes, B.returns, B.notSynchronized, hml, findClass_of_methodNamed B.named, hts, hK⟩
    have hl := lv_entry ([.ref p0, .ref p1, va_rf (some ao2)]) (n := 3) (Nat.le_of_ble_eq_true rfl)
    rw [lg_entry_eq]
    generalize (lg_sl ([.ref p0, .ref p1, va_rf (some ao2)]) ++ List.replicate (3 - (lg_sl ([.ref p0, .ref p1, va_rf (some ao2)])).length) Slot.unset).toArray = ls at hl ⊢
    have hl : lv_has ls 3 [(0, .ref p0), (1, .ref p1), (2, va_rf (some ao2))] := hl
    exact w_fJ14_init C hin _ _ _ _ hm s.heap [] ls hW0 va_S.rf rfl KM.rf hl
theorem yn_J14_init : YN yJ14_init 2 := by
  unfold YN
  decide +kernel
theorem lkJ15_1 : LI RJ15 1 yJ14_init cJ14_init 3 := ⟨q1547, q1548, q145, q1549, rfl⟩
noncomputable def fJ15_init (PL : Nat → Bool) (v0 : Mem) (p0 : Nat) (p1 : Nat) (o2 : Option Nat) : Option (Mem) :=
  ob (fJ14_init PL v0 p0 p1 o2) fun w1 =>
  some w1
set_option maxHeartbeats 4000000 in
theorem w_fJ15_init (C : Cx G p s m args meth c RJ15 cJ15_init 3 none) {PL : Nat → Bool} {vP0 : Mem} {rw0 : Mem} (hin : meth.name = "<init>") : ∀ (v0 : Mem) (p0 : Nat) (p1 : Nat) (o2 : Option Nat), fJ15_init PL v0 p0 p1 o2 = some rw0 → ∀ (H : Heap) (locs : List Loc) (ls : Array Slot), pl G PL v0 H → va_S (FA (fP PL vP0) s.heap.size) s.heap H locs → H.size = s.heap.size → KM vP0 v0 s.heap.size → lv_has ls 3 [(0, .ref p0), (1, .ref p1), (2, va_rf o2)] → W p l e (rmT 2 0 0 54) s m args below meth c H locs 0 0 (MQ below (QcT (FA (fP PL vP0) s.heap.size) (fun ov H => ov = none ∧ pl G PL rw0 H ∧ H.size = s.heap.size ∧ KM vP0 rw0 s.heap.size)) args s 0 0 (FA (fP PL vP0) s.heap.size)) (F0 m 0 ls []) := by
  intro v0 p0 p1 o2 hm H locs ls hW0 hS hz hKM hl
  obtain ⟨hx, hb, hr, hlk, hml, hown, hts, hK⟩ := id C
  unfold fJ15_init at hm
  refine lv_aload_n (pc := 0) hx hb dJ15_init_0 rfl (lv_at hl 0 rfl) ?_
  refine lv_aload_n (pc := 1) hx hb dJ15_init_1 rfl (lv_at hl 1 rfl) ?_
  refine lv_aload_nO (pc := 2) hx hb dJ15_init_2 rfl (lv_at hl 2 rfl) ?_
  obtain ⟨w1, hq2, hm⟩ := ob_some hm
  refine rk_TI (pc := 3) (As := [.ref p1, va_rf o2]) (rest := []) (mc := 0) (ms := 0) hx hb hml hown hts hK hS (fun q hq => FA_sz rfl q hq) lkJ15_1 yn_J14_init (ct_J14_init (G := G) (l := l) (sz := H.size) hq2) ⟨Nat.le_of_ble_eq_true rfl, Nat.le_of_ble_eq_true rfl⟩ (fun z h => (KM_hf2 hKM z h)) hW0 rfl rfl hl.1 (Nat.le_of_ble_eq_true rfl) dJ15_init_3 ⟨Nat.zero_le _, Nat.zero_le _⟩ (fun ov9 H3 locs4 hP5 hkp6 hS7 => ?_)
  obtain ⟨rfl, hW8, hz9, hKM10⟩ := hP5
  have hz11 := hz9.trans hz
  have hKM12 := KM.trans hKM hKM10 (by omega)
  refine W.eq (g2 := F0 m 6 ls []) rfl ?_
  have e9 := rs1 hm
  subst e9
  exact rk_vret (pc := 6) hx hb hr hlk hS7 ⟨rfl, hW8, hz11, hKM12⟩ dJ15_init_6
set_option maxHeartbeats 4000000 in
theorem ct_J15_init {G : Gv} {l : Launch} {PL : Nat → Bool} {v0 : Mem} {p0 : Nat} {p1 : Nat} {o2 : Option Nat} {rw0 : Mem} {sz : Nat} (hm : fJ15_init PL v0 p0 p1 o2 = some rw0) : CT G l yJ15_init (ws_ yJ15_init cJ15_init 3 none) 2 0 0 54 [.ref p0, .ref p1, va_rf o2] (fP PL v0) sz (fun H => pl G PL v0 H) (fun ov H => ov = none ∧ pl G PL rw0 H ∧ H.size = sz ∧ KM v0 rw0 sz) := by
  cases o2 with
  | none =>
    refine Met.ofW (cc := cJ15_init) (maxL := 3) (ret := none) (by decide +kernel) rfl ?_
    intro p e s m args below meth c s₁ B hml hv
    obtain ⟨rfl, ⟨hz, hW0⟩, hK⟩ := hv
    subst hz
    have hin : meth.name = "<init>" := (name_of_methodNamed B.named B.method).1
    have hts := atoms_spec (ws := ws_ yJ15_init cJ15_init 3 none) B.pre
    have hts : ∀ w ∈ lw_all, w.before _ s = true := fun w h => hts w (List.mem_cons_of_mem _ h)
    have C : Cx G p s m _ meth c RJ15 cJ15_init 3 none := ⟨B.exec, B.bytes, B.returns, B.notSynchronized, hml, findClass_of_methodNamed B.named, hts, hK⟩
    have hl := lv_entry ([.ref p0, .ref p1, va_rf none]) (n := 3) (Nat.le_of_ble_eq_true rfl)
    rw [lg_entry_eq]
    generalize (lg_sl ([.ref p0, .ref p1, va_rf none]) ++ List.replicate (3 - (lg_sl ([.ref p0, .ref p1, va_rf none])).length) Slot.unset).toArray = ls at hl ⊢
    have hl : lv_has ls 3 [(0, .ref p0), (1, .ref p1), (2, va_rf none)] := hl
    exact w_fJ15_init C hin _ _ _ _ hm s.heap [] ls hW0 va_S.rf rfl KM.rf hl
  | some ao2 =>
    refine Met.ofW (cc := cJ15_init) (maxL := 3) (ret := none) (by decide +kernel) rfl ?_
    intro p e s m args below meth c s₁ B hml hv
    obtain ⟨rfl, ⟨hz, hW0⟩, hK⟩ := hv
    subst hz
    have hin : meth.name = "<init>" := (name_of_methodNamed B.named B.method).1
    have hts := atoms_spec (ws := ws_ yJ15_init cJ15_init 3 none) B.pre
    have hts : ∀ w ∈ lw_all, w.before _ s = true := fun w h => hts w (List.mem_cons_of_mem _ h)
    have C : Cx G p s m _ meth c RJ15 cJ15_init 3 none := ⟨B.exec, B.bytes, B.returns, B.notSynchronized, hml, findClass_of_methodNamed B.named, hts, hK⟩
    have hl := lv_entry ([.ref p0, .ref p1, va_rf (some ao2)]) (n := 3) (Nat.le_of_ble_eq_true rfl)
    rw [lg_entry_eq]
    generalize (lg_sl ([.ref p0, .ref p1, va_rf (some ao2)]) ++ List.replicate (3 - (lg_sl ([.ref p0, .ref p1, va_rf (some ao2)])).length) Slot.unset).toArray = ls at hl ⊢
    have hl : lv_has ls 3 [(0, .ref p0), (1, .ref p1), (2, va_rf (some ao2))] := hl
    exact w_fJ15_init C hin _ _ _ _ hm s.heap [] ls hW0 va_S.rf rfl KM.rf hl
theorem yn_J15_init : YN yJ15_init 2 := by
  unfold YN
  decide +kernel
theorem lkJ1_271 : LI RJ1 271 yJ15_init cJ15_init 3 := ⟨q1544, q1545, q146, q1546, rfl⟩
noncomputable def fJ1_keyIterator (PL : Nat → Bool) (Z : Nat) (v0 : Mem) (p0 : Nat) : Option (Option Nat × Nat × Mem) :=
  ln (Z + 0) fun h1 =>
  gb (PL h1) (
  lm (nwP v0 h1 20 0) fun v0_5 =>
  gb (kd PL v0_5 p0 16) (
  ob (fJ1_getFirstEntry PL v0_5 p0) fun oa14 =>
  ob (fJ15_init PL v0_5 h1 p0 oa14) fun w16 =>
  some ((some h1), 1, w16)))
set_option maxHeartbeats 4000000 in
theorem w_fJ1_keyIterator (C : Cx G p s m args meth c RJ1 cJ1_keyIterator 1 (some (.object "java/util/Iterator"))) {PL : Nat → Bool} {Z : Nat} {vP0 : Mem} {rx : Option Nat} {rc : Nat} {rw0 : Mem} (hZz : s.heap.size = Z) : ∀ (v0 : Mem) (p0 : Nat), fJ1_keyIterator PL Z v0 p0 = some (rx, rc, rw0) → ∀ (H : Heap) (locs : List Loc) (ls : Array Slot), pl G PL v0 H → va_S (FA (fP PL vP0) s.heap.size) s.heap H locs → H.size = s.heap.size + 0 → KM vP0 v0 s.heap.size → lv_has ls 1 [(0, .ref p0)] → W p l e (rmT 3 1 4 76) s m args below meth c H locs 0 0 (MQ below (QcT (FA (fP PL vP0) s.heap.size) (fun ov H => ov = (some (va_rf rx)) ∧ pl G PL rw0 H ∧ H.size = s.heap.size + rc ∧ KM vP0 rw0 s.heap.size)) args s 1 4 (FA (fP PL vP0) s.heap.size)) (F0 m 0 ls []) := by
  intro v0 p0 hm H locs ls hW0 hS hz hKM hl
  obtain ⟨hx, hb, hr, hlk, hml, hown, hts, hK⟩ := id C
  unfold fJ1_keyIterator at hm
  obtain ⟨h1, hh2, hm⟩ := ln_some hm
  obtain ⟨hg3, hm⟩ := gb_some hm
  have hs4 : H.size = h1 := by omega
  refine rp_new (pc := 0) (h := h1) (kn := 20) (n := 0) hx hb hts hown hK hW0 hS in_J15 ft_J15 rfl q1542 q1543 q146 hs4 (shP_20 hg3 rfl) (df_J15 _ rfl) (Nat.le_of_ble_eq_true rfl) (Nat.le_of_ble_eq_true rfl) dJ1_keyIterator_0 (fun H6 hW7 hS8 hz9 hkp10 => ?_)
  have hKM11 := KM.nw (h := h1) (k := 20) (n := 0) hKM (by omega)
  obtain ⟨v0_5, he9, hm⟩ := lm_some hm
  rw [he9] at hW7 hKM11
  have hz12 : H6.size = s.heap.size + 1 := by omega
  refine lv_dup (pc := 3) hx hb dJ1_keyIterator_3 rfl ?_
  refine lv_aload_n (pc := 4) hx hb dJ1_keyIterator_4 rfl (lv_at hl 0 rfl) ?_
  refine lv_aload_n (pc := 5) hx hb dJ1_keyIterator_5 rfl (lv_at hl 0 rfl) ?_
  obtain ⟨hg13, hm⟩ := gb_some hm
  obtain ⟨oa14, hq15, hm⟩ := ob_some hm
  refine rk_PV (pc := 6) (As := []) (rest := [.ref p0, .ref h1, .ref h1]) hx hb hml hown hts hK lkJ1_54 rfl yn_J1_getFirstEntry (ct_J1_getFirstEntry (G := G) (l := l) hq15) ⟨Nat.le_of_ble_eq_true rfl, Nat.le_of_ble_eq_true rfl⟩ (rp_recv hK hW7 (C := RJ1) (T := TJ1) (N := 9) rfl (shP_16 (kd_PL hg13) (kd_k hg13))) hW7 rfl rfl hl.1 (Nat.le_of_ble_eq_true rfl) dJ1_keyIterator_6 ⟨Nat.le_of_ble_eq_true rfl, Nat.le_of_ble_eq_true rfl⟩ ?_
  refine W.eq (g2 := F0 m 9 ls [va_rf oa14, .ref p0, .ref h1, .ref h1]) rfl ?_
  obtain ⟨w16, hq17, hm⟩ := ob_some hm
  refine rk_TI (pc := 9) (As := [.ref p0, va_rf oa14]) (rest := [.ref h1]) (mc := 0) (ms := 0) hx hb hml hown hts hK hS8 (fun q hq => FA_sz rfl q hq) lkJ1_271 yn_J15_init (ct_J15_init (G := G) (l := l) (sz := H6.size) hq17) ⟨Nat.le_of_ble_eq_true rfl, Nat.le_of_ble_eq_true rfl⟩ (fun z h => (KM_hf2 hKM11 z h)) hW7 rfl rfl hl.1 (Nat.le_of_ble_eq_true rfl) dJ1_keyIterator_9 ⟨Nat.le_of_ble_eq_true rfl, Nat.le_of_ble_eq_true rfl⟩ (fun ov9 H18 locs19 hP20 hkp21 hS22 => ?_)
  obtain ⟨rfl, hW23, hz24, hKM25⟩ := hP20
  have hz26 := hz24.trans hz12
  have hKM27 := KM.trans hKM11 hKM25 (by omega)
  refine W.eq (g2 := F0 m 12 ls [.ref h1]) rfl ?_
  obtain ⟨e7, e8, e9⟩ := rs3 hm
  subst e7
  subst e8
  subst e9
  exact rp_aretA (pc := 12) (x := (some h1)) hx hb hr (Or.inl ⟨_, rfl⟩) hlk hS22 ⟨rfl, hW23, hz26, hKM27⟩ dJ1_keyIterator_12 (by exact Nat.le_of_ble_eq_true rfl) (by exact Nat.le_of_ble_eq_true rfl)
set_option maxHeartbeats 4000000 in
theorem ct_J1_keyIterator {G : Gv} {l : Launch} {PL : Nat → Bool} {Z : Nat} {v0 : Mem} {p0 : Nat} {rx : Option Nat} {rc : Nat} {rw0 : Mem} (hm : fJ1_keyIterator PL Z v0 p0 = some (rx, rc, rw0)) : CT G l yJ1_keyIterator (ws_ yJ1_keyIterator cJ1_keyIterator 1 (some (.object "java/util/Iterator"))) 3 1 4 76 [.ref p0] (fP PL v0) Z (fun H => pl G PL v0 H) (fun ov H => ov = (some (va_rf rx)) ∧ pl G PL rw0 H ∧ H.size = Z + rc ∧ KM v0 rw0 Z) := by
  refine Met.ofW (cc := cJ1_keyIterator) (maxL := 1) (ret := (some (.object "java/util/Iterator"))) (by decide +kernel) rfl ?_
  intro p e s m args below meth c s₁ B hml hv
  obtain ⟨rfl, ⟨hz, hW0⟩, hK⟩ := hv
  subst hz
  have hZz : s.heap.size = s.heap.size := rfl
  have hts := atoms_spec (ws := ws_ yJ1_keyIterator cJ1_keyIterator 1 (some (.object "java/util/Iterator"))) B.pre
  have hts : ∀ w ∈ lw_all, w.before _ s = true := fun w h => hts w (List.mem_cons_of_mem _ h)
  have C : Cx G p s m _ meth c RJ1 cJ1_keyIterator 1 (some (.object "java/util/Iterator")) := ⟨B.exec, B.bytes, B.returns, B.notSynchronized, hml, findClass_of_methodNamed B.named, hts, hK⟩
  have hl := lv_entry ([.ref p0]) (n := 1) (Nat.le_of_ble_eq_true rfl)
  rw [lg_entry_eq]
  generalize (lg_sl ([.ref p0]) ++ List.replicate (1 - (lg_sl ([.ref p0])).length) Slot.unset).toArray = ls at hl ⊢
  have hl : lv_has ls 1 [(0, .ref p0)] := hl
  exact w_fJ1_keyIterator C hZz _ _ hm s.heap [] ls hW0 va_S.rf rfl KM.rf hl
noncomputable def fJ1_successor_42 (PL : Nat → Bool) (V0 : Mem) (k42 : Option Nat → Option Nat → Option (Option Nat)) (o1 : Option Nat) (o2 : Option Nat) : Option (Option Nat) :=
  od o1 (
  some none) (fun pa22 =>
  gb (kd PL V0 pa22 18) (
  lo (gR V0 pa22 3) fun oa24 =>
  if o2 = oa24 then (
  gb (kd PL V0 pa22 18) (
  lo (gR V0 pa22 4) fun oa28 =>
  k42 oa28 (some pa22)))
  else (
  some (some pa22))))
noncomputable def fJ1_successor_18 (PL : Nat → Bool) (V0 : Mem) (k18 : Option Nat → Option (Option Nat)) (o1 : Option Nat) : Option (Option Nat) :=
  ob o1 fun pa12 =>
  gb (kd PL V0 pa12 18) (
  lo (gR V0 pa12 2) fun oa16 =>
  od oa16 (
  some (some pa12)) (fun pa18 =>
  gb (kd PL V0 pa12 18) (
  lo (gR V0 pa12 2) fun oa20 =>
  k18 oa20)))
noncomputable def fJ1_successor (PL : Nat → Bool) (V0 : Mem) (o0 : Option Nat) : Option (Option Nat) :=
  od o0 (
  some none) (fun pa1 =>
  gb (kd PL V0 pa1 18) (
  lo (gR V0 pa1 3) fun oa3 =>
  od oa3 (
  gb (kd PL V0 pa1 18) (
  lo (gR V0 pa1 4) fun oa7 =>
  lq2 (fJ1_successor_42 PL V0) FU oa7 (some pa1))) (fun pa5 =>
  gb (kd PL V0 pa1 18) (
  lo (gR V0 pa1 3) fun oa10 =>
  lq1 (fJ1_successor_18 PL V0) FU oa10))))
set_option maxHeartbeats 4000000 in
theorem w_fJ1_successor_42 (C : Cx G p s m args meth c RJ1 cJ1_successor 3 (some (.object "java/util/TreeMap$Entry"))) {PL : Nat → Bool} {V0 : Mem} {rx : Option Nat} (hW0 : pl G PL V0 s.heap) {k42 : Option Nat → Option Nat → Option (Option Nat)} (hk42 : ∀ (o1 : Option Nat) (o2 : Option Nat), k42 o1 o2 = some rx → ∀ (ls : Array Slot), lv_has ls 3 [(1, va_rf o1), (2, va_rf o2)] → W p l e (rmP 0 0) s m args below meth c s.heap [] 0 0 (MQ below (QcP (some (va_rf rx))) args s 0 0 (fun _ => False)) (F0 m 42 ls [])) : ∀ (o1 : Option Nat) (o2 : Option Nat), fJ1_successor_42 PL V0 k42 o1 o2 = some rx → ∀ (ls : Array Slot), lv_has ls 3 [(1, va_rf o1), (2, va_rf o2)] → W p l e (rmP 0 0) s m args below meth c s.heap [] 0 0 (MQ below (QcP (some (va_rf rx))) args s 0 0 (fun _ => False)) (F0 m 42 ls []) := by
  intro o1 o2 hm ls hl
  obtain ⟨hx, hb, hr, hlk, hml, hown, hts, hK⟩ := id C
  unfold fJ1_successor_42 at hm
  refine lv_aload_nO (pc := 42) hx hb dJ1_successor_42 rfl (lv_at hl 0 rfl) ?_
  rcases o1 with _ | pa22
  · have hm := od_n hm
    refine lv_ifnullN (pc := 43) (tgt := 64) hx hb dJ1_successor_43 (by decide) ?_
    refine lv_aload_nN (pc := 64) hx hb dJ1_successor_64 rfl (lv_at hl 0 rfl) ?_
    have e9 := rs1 hm
    subst e9
    exact rp_aretP (x := none) (pc := 65) hx hb hr (Or.inl ⟨_, rfl⟩) hlk rfl dJ1_successor_65
  · have hm := od_s hm
    refine lv_ifnull (pc := 43) hx hb dJ1_successor_43 ?_
    refine lv_aload_nO (pc := 46) hx hb dJ1_successor_46 rfl (lv_at hl 1 rfl) ?_
    refine lv_aload_n (pc := 47) hx hb dJ1_successor_47 rfl (lv_at hl 0 rfl) ?_
    obtain ⟨hg23, hm⟩ := gb_some hm
    obtain ⟨oa24, he25, hm⟩ := lo_some hm
    refine rk_get (pc := 48) hx hb hts hown hK (pl_rg hW0) flJ1_114 pa22 (Nat.lt_succ_self _) (Nat.zero_add _).symm (shP_18 (kd_PL hg23) (kd_k hg23)) (x := va_rf oa24) (congrArg (fun z => some (va_rf z)) he25) dJ1_successor_48 ?_
    refine lv_acmp_ne (pc := 51) (rx := o2) (ry := oa24) (tgt := 64) hx hb dJ1_successor_51 (by decide) (fun c26 => ?_) (fun c26 => ?_)
    · have hm := ite_f c26 hm
      refine lv_aload_n (pc := 64) hx hb dJ1_successor_64 rfl (lv_at hl 0 rfl) ?_
      have e9 := rs1 hm
      subst e9
      exact rp_aretP (x := (some pa22)) (pc := 65) hx hb hr (Or.inl ⟨_, rfl⟩) hlk rfl dJ1_successor_65
    · have hm := ite_t c26 hm
      refine lv_aload_n (pc := 54) hx hb dJ1_successor_54 rfl (lv_at hl 0 rfl) ?_
      refine lv_astore_n (pc := 55) (lv' := [(2, .ref pa22), (1, .ref pa22)]) hx hb dJ1_successor_55 rfl hl (by decide) rfl (fun ls hl => ?_)
      refine lv_aload_n (pc := 56) hx hb dJ1_successor_56 rfl (lv_at hl 1 rfl) ?_
      obtain ⟨hg27, hm⟩ := gb_some hm
      obtain ⟨oa28, he29, hm⟩ := lo_some hm
      refine rk_get (pc := 57) hx hb hts hown hK (pl_rg hW0) flJ1_124 pa22 (Nat.lt_succ_self _) (Nat.zero_add _).symm (shP_18 (kd_PL hg27) (kd_k hg27)) (x := va_rf oa28) (congrArg (fun z => some (va_rf z)) he29) dJ1_successor_57 ?_
      refine lv_astore_nO (pc := 60) (lv' := [(1, va_rf oa28), (2, .ref pa22)]) hx hb dJ1_successor_60 rfl hl (by decide) rfl (fun ls hl => ?_)
      refine lv_goto (pc := 61) (tgt := 42) hx hb dJ1_successor_61 (by decide) ?_
      exact hk42 oa28 (some pa22) hm ls (lv_sub hl [0, 1] rfl)
theorem w_fJ1_successor_42_l (C : Cx G p s m args meth c RJ1 cJ1_successor 3 (some (.object "java/util/TreeMap$Entry"))) {PL : Nat → Bool} {V0 : Mem} {rx : Option Nat} (hW0 : pl G PL V0 s.heap) : ∀ (n : Nat) (o1 : Option Nat) (o2 : Option Nat), lq2 (fJ1_successor_42 PL V0) n o1 o2 = some rx → ∀ (ls : Array Slot), lv_has ls 3 [(1, va_rf o1), (2, va_rf o2)] → W p l e (rmP 0 0) s m args below meth c s.heap [] 0 0 (MQ below (QcP (some (va_rf rx))) args s 0 0 (fun _ => False)) (F0 m 42 ls []) := by
  intro n
  induction n with
  | zero => intro o1 o2 hm; exact (lq2_0 hm).elim
  | succ n ih => intro o1 o2 hm; exact w_fJ1_successor_42 C hW0 ih o1 o2 (lq2_s hm)
set_option maxHeartbeats 4000000 in
theorem w_fJ1_successor_18 (C : Cx G p s m args meth c RJ1 cJ1_successor 3 (some (.object "java/util/TreeMap$Entry"))) {PL : Nat → Bool} {V0 : Mem} {rx : Option Nat} (hW0 : pl G PL V0 s.heap) {k18 : Option Nat → Option (Option Nat)} (hk18 : ∀ (o1 : Option Nat), k18 o1 = some rx → ∀ (ls : Array Slot), lv_has ls 3 [(1, va_rf o1)] → W p l e (rmP 0 0) s m args below meth c s.heap [] 0 0 (MQ below (QcP (some (va_rf rx))) args s 0 0 (fun _ => False)) (F0 m 18 ls [])) : ∀ (o1 : Option Nat), fJ1_successor_18 PL V0 k18 o1 = some rx → ∀ (ls : Array Slot), lv_has ls 3 [(1, va_rf o1)] → W p l e (rmP 0 0) s m args below meth c s.heap [] 0 0 (MQ below (QcP (some (va_rf rx))) args s 0 0 (fun _ => False)) (F0 m 18 ls []) := by
  intro o1 hm ls hl
  obtain ⟨hx, hb, hr, hlk, hml, hown, hts, hK⟩ := id C
  unfold fJ1_successor_18 at hm
  refine lv_aload_nO (pc := 18) hx hb dJ1_successor_18 rfl (lv_at hl 0 rfl) ?_
  obtain ⟨pa12, he13, hm14⟩ := ob_some hm
  subst he13
  have hm := hm14
  obtain ⟨hg15, hm⟩ := gb_some hm
  obtain ⟨oa16, he17, hm⟩ := lo_some hm
  refine rk_get (pc := 19) hx hb hts hown hK (pl_rg hW0) flJ1_111 pa12 (Nat.lt_succ_self _) (Nat.zero_add _).symm (shP_18 (kd_PL hg15) (kd_k hg15)) (x := va_rf oa16) (congrArg (fun z => some (va_rf z)) he17) dJ1_successor_19 ?_
  rcases oa16 with _ | pa18
  · have hm := od_n hm
    refine lv_ifnullN (pc := 22) (tgt := 33) hx hb dJ1_successor_22 (by decide) ?_
    refine lv_aload_n (pc := 33) hx hb dJ1_successor_33 rfl (lv_at hl 0 rfl) ?_
    have e9 := rs1 hm
    subst e9
    exact rp_aretP (x := (some pa12)) (pc := 34) hx hb hr (Or.inl ⟨_, rfl⟩) hlk rfl dJ1_successor_34
  · have hm := od_s hm
    refine lv_ifnull (pc := 22) hx hb dJ1_successor_22 ?_
    refine lv_aload_n (pc := 25) hx hb dJ1_successor_25 rfl (lv_at hl 0 rfl) ?_
    obtain ⟨hg19, hm⟩ := gb_some hm
    obtain ⟨oa20, he21, hm⟩ := lo_some hm
    refine rk_get (pc := 26) hx hb hts hown hK (pl_rg hW0) flJ1_111 pa12 (Nat.lt_succ_self _) (Nat.zero_add _).symm (shP_18 (kd_PL hg19) (kd_k hg19)) (x := va_rf oa20) (congrArg (fun z => some (va_rf z)) he21) dJ1_successor_26 ?_
    refine lv_astore_nO (pc := 29) (lv' := [(1, va_rf oa20)]) hx hb dJ1_successor_29 rfl hl (by decide) rfl (fun ls hl => ?_)
    refine lv_goto (pc := 30) (tgt := 18) hx hb dJ1_successor_30 (by decide) ?_
    exact hk18 oa20 hm ls (lv_sub hl [0] rfl)
theorem w_fJ1_successor_18_l (C : Cx G p s m args meth c RJ1 cJ1_successor 3 (some (.object "java/util/TreeMap$Entry"))) {PL : Nat → Bool} {V0 : Mem} {rx : Option Nat} (hW0 : pl G PL V0 s.heap) : ∀ (n : Nat) (o1 : Option Nat), lq1 (fJ1_successor_18 PL V0) n o1 = some rx → ∀ (ls : Array Slot), lv_has ls 3 [(1, va_rf o1)] → W p l e (rmP 0 0) s m args below meth c s.heap [] 0 0 (MQ below (QcP (some (va_rf rx))) args s 0 0 (fun _ => False)) (F0 m 18 ls []) := by
  intro n
  induction n with
  | zero => intro o1 hm; exact (lq1_0 hm).elim
  | succ n ih => intro o1 hm; exact w_fJ1_successor_18 C hW0 ih o1 (lq1_s hm)
set_option maxHeartbeats 4000000 in
theorem w_fJ1_successor (C : Cx G p s m args meth c RJ1 cJ1_successor 3 (some (.object "java/util/TreeMap$Entry"))) {PL : Nat → Bool} {V0 : Mem} {rx : Option Nat} (hW0 : pl G PL V0 s.heap) : ∀ (o0 : Option Nat), fJ1_successor PL V0 o0 = some rx → ∀ (ls : Array Slot), lv_has ls 3 [(0, va_rf o0)] → W p l e (rmP 0 0) s m args below meth c s.heap [] 0 0 (MQ below (QcP (some (va_rf rx))) args s 0 0 (fun _ => False)) (F0 m 0 ls []) := by
  intro o0 hm ls hl
  obtain ⟨hx, hb, hr, hlk, hml, hown, hts, hK⟩ := id C
  unfold fJ1_successor at hm
  refine lv_aload_nO (pc := 0) hx hb dJ1_successor_0 rfl (lv_at hl 0 rfl) ?_
  rcases o0 with _ | pa1
  · have hm := od_n hm
    refine lv_ifnonnullN (pc := 1) hx hb dJ1_successor_1 ?_
    refine lv_null (pc := 4) hx hb dJ1_successor_4 ?_
    have e9 := rs1 hm
    subst e9
    exact rp_aretP (x := none) (pc := 5) hx hb hr (Or.inl ⟨_, rfl⟩) hlk rfl dJ1_successor_5
  · have hm := od_s hm
    refine lv_ifnonnull (pc := 1) (tgt := 6) hx hb dJ1_successor_1 (by decide) ?_
    refine lv_aload_n (pc := 6) hx hb dJ1_successor_6 rfl (lv_at hl 0 rfl) ?_
    obtain ⟨hg2, hm⟩ := gb_some hm
    obtain ⟨oa3, he4, hm⟩ := lo_some hm
    refine rk_get (pc := 7) hx hb hts hown hK (pl_rg hW0) flJ1_114 pa1 (Nat.lt_succ_self _) (Nat.zero_add _).symm (shP_18 (kd_PL hg2) (kd_k hg2)) (x := va_rf oa3) (congrArg (fun z => some (va_rf z)) he4) dJ1_successor_7 ?_
    rcases oa3 with _ | pa5
    · have hm := od_n hm
      refine lv_ifnullN (pc := 10) (tgt := 35) hx hb dJ1_successor_10 (by decide) ?_
      refine lv_aload_n (pc := 35) hx hb dJ1_successor_35 rfl (lv_at hl 0 rfl) ?_
      obtain ⟨hg6, hm⟩ := gb_some hm
      obtain ⟨oa7, he8, hm⟩ := lo_some hm
      refine rk_get (pc := 36) hx hb hts hown hK (pl_rg hW0) flJ1_124 pa1 (Nat.lt_succ_self _) (Nat.zero_add _).symm (shP_18 (kd_PL hg6) (kd_k hg6)) (x := va_rf oa7) (congrArg (fun z => some (va_rf z)) he8) dJ1_successor_36 ?_
      refine lv_astore_nO (pc := 39) (lv' := [(1, va_rf oa7), (0, .ref pa1)]) hx hb dJ1_successor_39 rfl hl (by decide) rfl (fun ls hl => ?_)
      refine lv_aload_n (pc := 40) hx hb dJ1_successor_40 rfl (lv_at hl 1 rfl) ?_
      refine lv_astore_n (pc := 41) (lv' := [(2, .ref pa1), (1, va_rf oa7), (0, .ref pa1)]) hx hb dJ1_successor_41 rfl hl (by decide) (by simp [List.filter, cat_rf]) (fun ls hl => ?_)
      exact (w_fJ1_successor_42_l C hW0 FU) oa7 (some pa1) hm ls (lv_sub hl [1, 0] rfl)
    · have hm := od_s hm
      refine lv_ifnull (pc := 10) hx hb dJ1_successor_10 ?_
      refine lv_aload_n (pc := 13) hx hb dJ1_successor_13 rfl (lv_at hl 0 rfl) ?_
      obtain ⟨hg9, hm⟩ := gb_some hm
      obtain ⟨oa10, he11, hm⟩ := lo_some hm
      refine rk_get (pc := 14) hx hb hts hown hK (pl_rg hW0) flJ1_114 pa1 (Nat.lt_succ_self _) (Nat.zero_add _).symm (shP_18 (kd_PL hg9) (kd_k hg9)) (x := va_rf oa10) (congrArg (fun z => some (va_rf z)) he11) dJ1_successor_14 ?_
      refine lv_astore_nO (pc := 17) (lv' := [(1, va_rf oa10), (0, .ref pa1)]) hx hb dJ1_successor_17 rfl hl (by decide) rfl (fun ls hl => ?_)
      exact (w_fJ1_successor_18_l C hW0 FU) oa10 hm ls (lv_sub hl [0] rfl)
set_option maxHeartbeats 4000000 in
theorem ct_J1_successor {G : Gv} {l : Launch} {PL : Nat → Bool} {V0 : Mem} {o0 : Option Nat} {rx : Option Nat} (hm : fJ1_successor PL V0 o0 = some rx) : CP G l yJ1_successor (ws_ yJ1_successor cJ1_successor 3 (some (.object "java/util/TreeMap$Entry"))) 0 0 [va_rf o0] (fun H => pl G PL V0 H) (some (va_rf rx)) := by
  cases o0 with
  | none =>
    refine Met.ofW (cc := cJ1_successor) (maxL := 3) (ret := (some (.object "java/util/TreeMap$Entry"))) (by decide +kernel) rfl ?_
    intro p e s m args below meth c s₁ B hml hv
    obtain ⟨rfl, hW0, hK⟩ := hv
    have hts := atoms_spec (ws := ws_ yJ1_successor cJ1_successor 3 (some (.object "java/util/TreeMap$Entry"))) B.pre
    have hts : ∀ w ∈ lw_all, w.before _ s = true := fun w h => hts w (List.mem_cons_of_mem _ h)
    have C : Cx G p s m _ meth c RJ1 cJ1_successor 3 (some (.object "java/util/TreeMap$Entry")) := ⟨B.exec, B.bytes, B.returns, B.notSynchronized, hml, findClass_of_methodNamed B.named, hts, hK⟩
    have hl := lv_entry ([va_rf none]) (n := 3) (Nat.le_of_ble_eq_true rfl)
    rw [lg_entry_eq]
    generalize (lg_sl ([va_rf none]) ++ List.replicate (3 - (lg_sl ([va_rf none])).length) Slot.unset).toArray = ls at hl ⊢
    have hl : lv_has ls 3 [(0, va_rf none)] := hl
    exact w_fJ1_successor C hW0 _ hm ls hl
  | some ao0 =>
    refine Met.ofW (cc := cJ1_successor) (maxL := 3) (ret := (some (.object "java/util/TreeMap$Entry"))) (by decide +kernel) rfl ?_
    intro p e s m args below meth c s₁ B hml hv
    obtain ⟨rfl, hW0, hK⟩ := hv
    have hts := atoms_spec (ws := ws_ yJ1_successor cJ1_successor 3 (some (.object "java/util/TreeMap$Entry"))) B.pre
    have hts : ∀ w ∈ lw_all, w.before _ s = true := fun w h => hts w (List.mem_cons_of_mem _ h)
    have C : Cx G p s m _ meth c RJ1 cJ1_successor 3 (some (.object "java/util/TreeMap$Entry")) := ⟨B.exec, B.bytes, B.returns, B.notSynchronized, hml, findClass_of_methodNamed B.named, hts, hK⟩
    have hl := lv_entry ([va_rf (some ao0)]) (n := 3) (Nat.le_of_ble_eq_true rfl)
    rw [lg_entry_eq]
    generalize (lg_sl ([va_rf (some ao0)]) ++ List.replicate (3 - (lg_sl ([va_rf (some ao0)])).length) Slot.unset).toArray = ls at hl ⊢
    have hl : lv_has ls 3 [(0, va_rf (some ao0))] := hl
    exact w_fJ1_successor C hW0 _ hm ls hl
theorem yn_J1_keyIterator : YN yJ1_keyIterator 0 := by
  unfold YN
  decide +kernel
theorem lkJ13_15 : LV RJ13 15 RJ1 yJ1_keyIterator cJ1_keyIterator 1 (some (.object "java/util/Iterator")) := ⟨q1538, q1539, q1540, q120, q1541⟩
noncomputable def fJ13_iterator (PL : Nat → Bool) (Z : Nat) (v0 : Mem) (p0 : Nat) : Option (Option Nat × Nat × Mem) :=
  gb (kd PL v0 p0 19) (
  lo (gR v0 p0 0) fun oa2 =>
  ob oa2 fun pa4 =>
  gb (kd PL v0 pa4 16) (
  gb (kd PL v0 p0 19) (
  lo (gR v0 p0 0) fun oa10 =>
  od oa10 (
  none) (fun pa12 =>
  gb (kd PL v0 pa12 16) (
  gb (kd PL v0 pa12 16) (
  ob3 (fJ1_keyIterator PL (Z + 0) v0 pa12) fun oa15 rc16 w17 =>
  some (oa15, rc16, w17)))))))
set_option maxHeartbeats 4000000 in
theorem w_fJ13_iterator (C : Cx G p s m args meth c RJ13 cJ13_iterator 1 (some (.object "java/util/Iterator"))) {PL : Nat → Bool} {Z : Nat} {vP0 : Mem} {rx : Option Nat} {rc : Nat} {rw0 : Mem} (hZz : s.heap.size = Z) : ∀ (v0 : Mem) (p0 : Nat), fJ13_iterator PL Z v0 p0 = some (rx, rc, rw0) → ∀ (H : Heap) (locs : List Loc) (ls : Array Slot), pl G PL v0 H → va_S (FA (fP PL vP0) s.heap.size) s.heap H locs → H.size = s.heap.size + 0 → KM vP0 v0 s.heap.size → lv_has ls 1 [(0, .ref p0)] → W p l e (rmT 4 1 4 96) s m args below meth c H locs 0 0 (MQ below (QcT (FA (fP PL vP0) s.heap.size) (fun ov H => ov = (some (va_rf rx)) ∧ pl G PL rw0 H ∧ H.size = s.heap.size + rc ∧ KM vP0 rw0 s.heap.size)) args s 1 4 (FA (fP PL vP0) s.heap.size)) (F0 m 0 ls []) := by
  intro v0 p0 hm H locs ls hW0 hS hz hKM hl
  obtain ⟨hx, hb, hr, hlk, hml, hown, hts, hK⟩ := id C
  unfold fJ13_iterator at hm
  refine lv_aload_n (pc := 0) hx hb dJ13_iterator_0 rfl (lv_at hl 0 rfl) ?_
  obtain ⟨hg1, hm⟩ := gb_some hm
  obtain ⟨oa2, he3, hm⟩ := lo_some hm
  refine rk_get (pc := 1) hx hb hts hown hK (pl_rg hW0) flJ13_7 p0 (Nat.lt_succ_self _) (Nat.zero_add _).symm (shP_19 (kd_PL hg1) (kd_k hg1)) (x := va_rf oa2) (congrArg (fun z => some (va_rf z)) he3) dJ13_iterator_1 ?_
  obtain ⟨pa4, he5, hm6⟩ := ob_some hm
  subst he5
  have hm := hm6
  obtain ⟨hg7, hm⟩ := gb_some hm
  refine rp_instS (pc := 4) (C := RJ1) (T := TJ1) (N := 9) (ci := 16) hx hb hown hts hK q1537 rfl (rp_recv hK hW0 rfl (shP_16 (kd_PL hg7) (kd_k hg7))) dJ13_iterator_4 ?_
  refine lv_if_eq (pc := 7) (tgt := 21) hx hb dJ13_iterator_7 (by decide) (fun c8 => absurd c8 (by decide)) (fun _ => ?_)
  refine lv_aload_n (pc := 10) hx hb dJ13_iterator_10 rfl (lv_at hl 0 rfl) ?_
  obtain ⟨hg9, hm⟩ := gb_some hm
  obtain ⟨oa10, he11, hm⟩ := lo_some hm
  refine rk_get (pc := 11) hx hb hts hown hK (pl_rg hW0) flJ13_7 p0 (Nat.lt_succ_self _) (Nat.zero_add _).symm (shP_19 (kd_PL hg9) (kd_k hg9)) (x := va_rf oa10) (congrArg (fun z => some (va_rf z)) he11) dJ13_iterator_11 ?_
  rcases oa10 with _ | pa12
  · have hm := od_n hm
    refine lv_castN (pc := 14) hx hb dJ13_iterator_14 ?_
    exact nomatch hm
  · have hm := od_s hm
    obtain ⟨hg13, hm⟩ := gb_some hm
    refine rp_castS (pc := 14) (C := RJ1) (T := TJ1) (N := 9) (ci := 16) hx hb hown hts hK q1537 rfl (rp_recv hK hW0 (C := RJ1) (T := TJ1) (N := 9) rfl (shP_16 (kd_PL hg13) (kd_k hg13))) dJ13_iterator_14 ?_
    obtain ⟨hg14, hm⟩ := gb_some hm
    obtain ⟨oa15, rc16, w17, hq18, hm⟩ := ob3_some hm
    have hq19 := hq18
    rw [show (Z + 0) = H.size by omega] at hq19
    refine rk_TV (pc := 17) (As := []) (rest := []) (mc := 1) (ms := 4) hx hb hml hown hts hK hS (fun q hq => FA_sz rfl q hq) lkJ13_15 rfl yn_J1_keyIterator (ct_J1_keyIterator (G := G) (l := l) hq19) ⟨Nat.le_of_ble_eq_true rfl, Nat.le_of_ble_eq_true rfl⟩ (fun z h => (KM_hf2 hKM z h)) (rp_recv hK hW0 (C := RJ1) (T := TJ1) (N := 9) rfl (shP_16 (kd_PL hg14) (kd_k hg14))) hW0 rfl rfl hl.1 (Nat.le_of_ble_eq_true rfl) dJ13_iterator_17 ⟨Nat.le_of_ble_eq_true rfl, Nat.le_of_ble_eq_true rfl⟩ (fun ov9 H20 locs21 hP22 hkp23 hS24 => ?_)
    obtain ⟨rfl, hW25, hz26, hKM27⟩ := hP22
    have hz28 : H20.size = s.heap.size + rc16 := by omega
    have hKM29 := KM.trans hKM hKM27 (by omega)
    refine W.eq (g2 := F0 m 20 ls [va_rf oa15]) rfl ?_
    obtain ⟨e7, e8, e9⟩ := rs3 hm
    subst e7
    subst e8
    subst e9
    exact rp_aretA (pc := 20) (x := oa15) hx hb hr (Or.inl ⟨_, rfl⟩) hlk hS24 ⟨rfl, hW25, hz28, hKM29⟩ dJ13_iterator_20 (by exact Nat.le_of_ble_eq_true rfl) (by exact Nat.le_of_ble_eq_true rfl)
set_option maxHeartbeats 4000000 in
theorem ct_J13_iterator {G : Gv} {l : Launch} {PL : Nat → Bool} {Z : Nat} {v0 : Mem} {p0 : Nat} {rx : Option Nat} {rc : Nat} {rw0 : Mem} (hm : fJ13_iterator PL Z v0 p0 = some (rx, rc, rw0)) : CT G l yJ13_iterator (ws_ yJ13_iterator cJ13_iterator 1 (some (.object "java/util/Iterator"))) 4 1 4 96 [.ref p0] (fP PL v0) Z (fun H => pl G PL v0 H) (fun ov H => ov = (some (va_rf rx)) ∧ pl G PL rw0 H ∧ H.size = Z + rc ∧ KM v0 rw0 Z) := by
  refine Met.ofW (cc := cJ13_iterator) (maxL := 1) (ret := (some (.object "java/util/Iterator"))) (by decide +kernel) rfl ?_
  intro p e s m args below meth c s₁ B hml hv
  obtain ⟨rfl, ⟨hz, hW0⟩, hK⟩ := hv
  subst hz
  have hZz : s.heap.size = s.heap.size := rfl
  have hts := atoms_spec (ws := ws_ yJ13_iterator cJ13_iterator 1 (some (.object "java/util/Iterator"))) B.pre
  have hts : ∀ w ∈ lw_all, w.before _ s = true := fun w h => hts w (List.mem_cons_of_mem _ h)
  have C : Cx G p s m _ meth c RJ13 cJ13_iterator 1 (some (.object "java/util/Iterator")) := ⟨B.exec, B.bytes, B.returns, B.notSynchronized, hml, findClass_of_methodNamed B.named, hts, hK⟩
  have hl := lv_entry ([.ref p0]) (n := 1) (Nat.le_of_ble_eq_true rfl)
  rw [lg_entry_eq]
  generalize (lg_sl ([.ref p0]) ++ List.replicate (1 - (lg_sl ([.ref p0])).length) Slot.unset).toArray = ls at hl ⊢
  have hl : lv_has ls 1 [(0, .ref p0)] := hl
  exact w_fJ13_iterator C hZz _ _ hm s.heap [] ls hW0 va_S.rf rfl KM.rf hl
noncomputable def fJ14_hasNext (PL : Nat → Bool) (V0 : Mem) (p0 : Nat) : Option (Int32) :=
  gb (kd PL V0 p0 20) (
  lo (gR V0 p0 0) fun oa2 =>
  od oa2 (
  some (0 : Int32)) (fun pa4 =>
  some (1 : Int32)))
set_option maxHeartbeats 4000000 in
theorem w_fJ14_hasNext (C : Cx G p s m args meth c RJ14 cJ14_hasNext 1 (some .boolean)) {PL : Nat → Bool} {V0 : Mem} {rx : Int32} (hW0 : pl G PL V0 s.heap) : ∀ (p0 : Nat), fJ14_hasNext PL V0 p0 = some rx → ∀ (ls : Array Slot), lv_has ls 1 [(0, .ref p0)] → W p l e (rmP 0 0) s m args below meth c s.heap [] 0 0 (MQ below (QcP (some (.int rx))) args s 0 0 (fun _ => False)) (F0 m 0 ls []) := by
  intro p0 hm ls hl
  obtain ⟨hx, hb, hr, hlk, hml, hown, hts, hK⟩ := id C
  unfold fJ14_hasNext at hm
  refine lv_aload_n (pc := 0) hx hb dJ14_hasNext_0 rfl (lv_at hl 0 rfl) ?_
  obtain ⟨hg1, hm⟩ := gb_some hm
  obtain ⟨oa2, he3, hm⟩ := lo_some hm
  refine rk_get (pc := 1) hx hb hts hown hK (pl_rg hW0) flJ14_26 p0 (Nat.lt_succ_self _) (Nat.zero_add _).symm (shP_20 (kd_PL hg1) (kd_k hg1)) (x := va_rf oa2) (congrArg (fun z => some (va_rf z)) he3) dJ14_hasNext_1 ?_
  rcases oa2 with _ | pa4
  · have hm := od_n hm
    refine lv_ifnullN (pc := 4) (tgt := 11) hx hb dJ14_hasNext_4 (by decide) ?_
    refine lv_iconst (pc := 11) (v := (0 : Int32)) hx hb dJ14_hasNext_11 (by decide) ?_
    have e9 := rs1 hm
    subst e9
    exact rk_zretP (pc := 12) hx hb hr hlk rfl rfl dJ14_hasNext_12
  · have hm := od_s hm
    refine lv_ifnull (pc := 4) hx hb dJ14_hasNext_4 ?_
    refine lv_iconst (pc := 7) (v := (1 : Int32)) hx hb dJ14_hasNext_7 (by decide) ?_
    refine lv_goto (pc := 8) (tgt := 12) hx hb dJ14_hasNext_8 (by decide) ?_
    have e9 := rs1 hm
    subst e9
    exact rk_zretP (pc := 12) hx hb hr hlk rfl rfl dJ14_hasNext_12
set_option maxHeartbeats 4000000 in
theorem ct_J14_hasNext {G : Gv} {l : Launch} {PL : Nat → Bool} {V0 : Mem} {p0 : Nat} {rx : Int32} (hm : fJ14_hasNext PL V0 p0 = some rx) : CP G l yJ14_hasNext (ws_ yJ14_hasNext cJ14_hasNext 1 (some .boolean)) 0 0 [.ref p0] (fun H => pl G PL V0 H) (some (.int rx)) := by
  refine Met.ofW (cc := cJ14_hasNext) (maxL := 1) (ret := (some .boolean)) (by decide +kernel) rfl ?_
  intro p e s m args below meth c s₁ B hml hv
  obtain ⟨rfl, hW0, hK⟩ := hv
  have hts := atoms_spec (ws := ws_ yJ14_hasNext cJ14_hasNext 1 (some .boolean)) B.pre
  have hts : ∀ w ∈ lw_all, w.before _ s = true := fun w h => hts w (List.mem_cons_of_mem _ h)
  have C : Cx G p s m _ meth c RJ14 cJ14_hasNext 1 (some .boolean) := ⟨B.exec, B.bytes, B.returns, B.notSynchronized, hml, findClass_of_methodNamed B.named, hts, hK⟩
  have hl := lv_entry ([.ref p0]) (n := 1) (Nat.le_of_ble_eq_true rfl)
  rw [lg_entry_eq]
  generalize (lg_sl ([.ref p0]) ++ List.replicate (1 - (lg_sl ([.ref p0])).length) Slot.unset).toArray = ls at hl ⊢
  have hl : lv_has ls 1 [(0, .ref p0)] := hl
  exact w_fJ14_hasNext C hW0 _ hm ls hl
theorem yn_J1_successor : YN yJ1_successor 1 := by
  unfold YN
  decide +kernel
theorem lkJ14_35 : LSt RJ14 35 yJ1_successor cJ1_successor 3 (some (.object "java/util/TreeMap$Entry")) := ⟨q1593, q1594, q120, q1595⟩
noncomputable def fJ14_nextEntry (PL : Nat → Bool) (v0 : Mem) (p0 : Nat) : Option (Option Nat × Mem) :=
  gb (kd PL v0 p0 20) (
  lo (gR v0 p0 0) fun oa2 =>
  od oa2 (
  none) (fun pa4 =>
  gb (kd PL v0 p0 20) (
  lo (gR v0 p0 3) fun oa6 =>
  ob oa6 fun pa8 =>
  gb (kd PL v0 pa8 16) (
  gb (kd PL v0 p0 20) (
  if (gI v0 pa8 5) = (gI v0 p0 2) then (
  ob (fJ1_successor PL v0 (some pa4)) fun oa14 =>
  gb (kd PL v0 p0 20) (
  lm (sR v0 p0 0 oa14) fun v0_17 =>
  gb (kd PL v0_17 p0 20) (
  lm (sR v0_17 p0 1 (some pa4)) fun v0_27 =>
  some ((some pa4), v0_27))))
  else (
  none))))))
set_option maxHeartbeats 4000000 in
theorem w_fJ14_nextEntry (C : Cx G p s m args meth c RJ14 cJ14_nextEntry 2 (some (.object "java/util/TreeMap$Entry"))) {PL : Nat → Bool} {vP0 : Mem} {rx : Option Nat} {rw0 : Mem} : ∀ (v0 : Mem) (p0 : Nat), fJ14_nextEntry PL v0 p0 = some (rx, rw0) → ∀ (H : Heap) (locs : List Loc) (ls : Array Slot), pl G PL v0 H → va_S (FA (fP PL vP0) s.heap.size) s.heap H locs → H.size = s.heap.size → KM vP0 v0 s.heap.size → lv_has ls 2 [(0, .ref p0)] → W p l e (rmT 1 0 0 22) s m args below meth c H locs 0 0 (MQ below (QcT (FA (fP PL vP0) s.heap.size) (fun ov H => ov = (some (va_rf rx)) ∧ pl G PL rw0 H ∧ H.size = s.heap.size ∧ KM vP0 rw0 s.heap.size)) args s 0 0 (FA (fP PL vP0) s.heap.size)) (F0 m 0 ls []) := by
  intro v0 p0 hm H locs ls hW0 hS hz hKM hl
  obtain ⟨hx, hb, hr, hlk, hml, hown, hts, hK⟩ := id C
  unfold fJ14_nextEntry at hm
  refine lv_aload_n (pc := 0) hx hb dJ14_nextEntry_0 rfl (lv_at hl 0 rfl) ?_
  obtain ⟨hg1, hm⟩ := gb_some hm
  obtain ⟨oa2, he3, hm⟩ := lo_some hm
  refine rk_get (pc := 1) hx hb hts hown hK (pl_rg hW0) flJ14_26 p0 (Nat.lt_succ_self _) (Nat.zero_add _).symm (shP_20 (kd_PL hg1) (kd_k hg1)) (x := va_rf oa2) (congrArg (fun z => some (va_rf z)) he3) dJ14_nextEntry_1 ?_
  refine lv_astore_nO (pc := 4) (lv' := [(1, va_rf oa2), (0, .ref p0)]) hx hb dJ14_nextEntry_4 rfl hl (by decide) rfl (fun ls hl => ?_)
  refine lv_aload_nO (pc := 5) hx hb dJ14_nextEntry_5 rfl (lv_at hl 0 rfl) ?_
  rcases oa2 with _ | pa4
  · have hm := od_n hm
    refine lv_ifnonnullN (pc := 6) hx hb dJ14_nextEntry_6 ?_
    exact nomatch hm
  · have hm := od_s hm
    refine lv_ifnonnull (pc := 6) (tgt := 17) hx hb dJ14_nextEntry_6 (by decide) ?_
    refine lv_aload_n (pc := 17) hx hb dJ14_nextEntry_17 rfl (lv_at hl 1 rfl) ?_
    obtain ⟨hg5, hm⟩ := gb_some hm
    obtain ⟨oa6, he7, hm⟩ := lo_some hm
    refine rk_get (pc := 18) hx hb hts hown hK (pl_rg hW0) flJ14_1 p0 (Nat.lt_succ_self _) (Nat.zero_add _).symm (shP_20 (kd_PL hg5) (kd_k hg5)) (x := va_rf oa6) (congrArg (fun z => some (va_rf z)) he7) dJ14_nextEntry_18 ?_
    obtain ⟨pa8, he9, hm10⟩ := ob_some hm
    subst he9
    have hm := hm10
    obtain ⟨hg11, hm⟩ := gb_some hm
    refine rk_getN (pc := 21) hx hb hts hown hK (pl_rg hW0) fnJ14_13 pa8 (Nat.lt_succ_self _) (Nat.zero_add _).symm (shP_16 (kd_PL hg11) (kd_k hg11)) (x := .int (gI v0 pa8 5)) rfl dJ14_nextEntry_21 ?_
    refine lv_aload_n (pc := 24) hx hb dJ14_nextEntry_24 rfl (lv_at hl 1 rfl) ?_
    obtain ⟨hg12, hm⟩ := gb_some hm
    refine rk_get (pc := 25) hx hb hts hown hK (pl_rg hW0) flJ14_19 p0 (Nat.lt_succ_self _) (Nat.zero_add _).symm (shP_20 (kd_PL hg12) (kd_k hg12)) (x := .int (gI v0 p0 2)) rfl dJ14_nextEntry_25 ?_
    refine lv_icmp_eq (pc := 28) (tgt := 39) hx hb dJ14_nextEntry_28 (by decide) (fun c13 => ?_) (fun c13 => ?_)
    · have hm := ite_t c13 hm
      refine lv_aload_n (pc := 39) hx hb dJ14_nextEntry_39 rfl (lv_at hl 1 rfl) ?_
      refine lv_aload_n (pc := 40) hx hb dJ14_nextEntry_40 rfl (lv_at hl 0 rfl) ?_
      obtain ⟨oa14, hq15, hm⟩ := ob_some hm
      refine rk_PS (pc := 41) (As := [.ref pa4]) (rest := [.ref p0]) hx hb hml hown hts hK lkJ14_35 yn_J1_successor (ct_J1_successor (G := G) (l := l) hq15) ⟨Nat.le_of_ble_eq_true rfl, Nat.le_of_ble_eq_true rfl⟩ hW0 rfl rfl hl.1 (Nat.le_of_ble_eq_true rfl) dJ14_nextEntry_41 ⟨Nat.zero_le _, Nat.zero_le _⟩ ?_
      refine W.eq (g2 := F0 m 44 ls [va_rf oa14, .ref p0]) rfl ?_
      obtain ⟨hg16, hm⟩ := gb_some hm
      refine rp_put (pc := 44) (q := p0) hx hb hts hown hK hW0 hS flJ14_26 ft_J15 (kd_A hKM hg16 (by decide)) (shP_20 (kd_PL hg16) (kd_k hg16)) rfl (x := va_rf oa14) (rf_nar _ rfl oa14) (rf_fit _ rfl oa14) (Nat.le_of_ble_eq_true rfl) (sR v0 p0 0 oa14) sR_ne (by rw [sR_eq]; exact shP_20 (kd_PL hg16) (kd_k hg16)) dJ14_nextEntry_44 (fun H18 locs19 hW20 hS21 hz22 hkp23 => ?_)
      have hKM24 := KM.sR (o := p0) (j := 0) (x := oa14) hKM
      obtain ⟨v0_17, he9, hm⟩ := lm_some hm
      rw [he9] at hW20 hKM24
      have hz25 := hz22.trans hz
      refine lv_aload_n (pc := 47) hx hb dJ14_nextEntry_47 rfl (lv_at hl 1 rfl) ?_
      refine lv_aload_n (pc := 48) hx hb dJ14_nextEntry_48 rfl (lv_at hl 0 rfl) ?_
      obtain ⟨hg26, hm⟩ := gb_some hm
      refine rp_put (pc := 49) (q := p0) hx hb hts hown hK hW20 hS21 flJ14_22 ft_J15 (kd_A hKM24 hg26 (by decide)) (shP_20 (kd_PL hg26) (kd_k hg26)) rfl (x := va_rf (some pa4)) (rf_nar _ rfl (some pa4)) (rf_fit _ rfl (some pa4)) (Nat.le_of_ble_eq_true rfl) (sR v0_17 p0 1 (some pa4)) sR_ne (by rw [sR_eq]; exact shP_20 (kd_PL hg26) (kd_k hg26)) dJ14_nextEntry_49 (fun H28 locs29 hW30 hS31 hz32 hkp33 => ?_)
      have hKM34 := KM.sR (o := p0) (j := 1) (x := (some pa4)) hKM24
      obtain ⟨v0_27, he9, hm⟩ := lm_some hm
      rw [he9] at hW30 hKM34
      have hz35 := hz32.trans hz25
      refine lv_aload_n (pc := 52) hx hb dJ14_nextEntry_52 rfl (lv_at hl 0 rfl) ?_
      obtain ⟨e8, e9⟩ := rs2 hm
      subst e8
      subst e9
      exact rp_aret (pc := 53) (x := (some pa4)) hx hb hr (Or.inl ⟨_, rfl⟩) hlk hS31 ⟨rfl, hW30, hz35, hKM34⟩ dJ14_nextEntry_53
    · have hm := ite_f c13 hm
      exact nomatch hm
set_option maxHeartbeats 4000000 in
theorem ct_J14_nextEntry {G : Gv} {l : Launch} {PL : Nat → Bool} {v0 : Mem} {p0 : Nat} {rx : Option Nat} {rw0 : Mem} {sz : Nat} (hm : fJ14_nextEntry PL v0 p0 = some (rx, rw0)) : CT G l yJ14_nextEntry (ws_ yJ14_nextEntry cJ14_nextEntry 2 (some (.object "java/util/TreeMap$Entry"))) 1 0 0 22 [.ref p0] (fP PL v0) sz (fun H => pl G PL v0 H) (fun ov H => ov = (some (va_rf rx)) ∧ pl G PL rw0 H ∧ H.size = sz ∧ KM v0 rw0 sz) := by
  refine Met.ofW (cc := cJ14_nextEntry) (maxL := 2) (ret := (some (.object "java/util/TreeMap$Entry"))) (by decide +kernel) rfl ?_
  intro p e s m args below meth c s₁ B hml hv
  obtain ⟨rfl, ⟨hz, hW0⟩, hK⟩ := hv
  subst hz
  have hts := atoms_spec (ws := ws_ yJ14_nextEntry cJ14_nextEntry 2 (some (.object "java/util/TreeMap$Entry"))) B.pre
  have hts : ∀ w ∈ lw_all, w.before _ s = true := fun w h => hts w (List.mem_cons_of_mem _ h)
  have C : Cx G p s m _ meth c RJ14 cJ14_nextEntry 2 (some (.object "java/util/TreeMap$Entry")) := ⟨B.exec, B.bytes, B.returns, B.notSynchronized, hml, findClass_of_methodNamed B.named, hts, hK⟩
  have hl := lv_entry ([.ref p0]) (n := 2) (Nat.le_of_ble_eq_true rfl)
  rw [lg_entry_eq]
  generalize (lg_sl ([.ref p0]) ++ List.replicate (2 - (lg_sl ([.ref p0])).length) Slot.unset).toArray = ls at hl ⊢
  have hl : lv_has ls 2 [(0, .ref p0)] := hl
  exact w_fJ14_nextEntry C _ _ hm s.heap [] ls hW0 va_S.rf rfl KM.rf hl
theorem yn_J14_nextEntry : YN yJ14_nextEntry 0 := by
  unfold YN
  decide +kernel
theorem lfJ15_7_J15 : LU RJ15 7 RJ15 "java/util/TreeMap$PrivateEntryIterator" ⟨"java/util/TreeMap$KeyIterator", "nextEntry", "()Ljava/util/TreeMap$Entry;"⟩ yJ14_nextEntry cJ14_nextEntry 2 (some (.object "java/util/TreeMap$Entry")) := ⟨⟨q1587, q1588, q1590, q1591, q145⟩, q1592, by decide, by decide⟩
theorem ynx_J15_7 : YN ⟨"java/util/TreeMap$KeyIterator", "nextEntry", "()Ljava/util/TreeMap$Entry;"⟩ 0 := by
  unfold YN
  decide +kernel
theorem flJ15_13 : FL RJ15 13 18 0 RJ11 TJ11 6 := ⟨in_J11, rfl, by decide, q1404⟩
noncomputable def fJ15_next (PL : Nat → Bool) (v0 : Mem) (p0 : Nat) : Option (Option Nat × Mem) :=
  gb (kd PL v0 p0 20) (
  ob2 (fJ14_nextEntry PL v0 p0) fun oa2 w3 =>
  ob oa2 fun pa15 =>
  gb (kd PL w3 pa15 18) (
  lo (gR w3 pa15 0) fun oa19 =>
  some (oa19, w3)))
set_option maxHeartbeats 4000000 in
theorem w_fJ15_next (C : Cx G p s m args meth c RJ15 cJ15_next 1 (some (.object "java/lang/Object"))) {PL : Nat → Bool} {vP0 : Mem} {rx : Option Nat} {rw0 : Mem} : ∀ (v0 : Mem) (p0 : Nat), fJ15_next PL v0 p0 = some (rx, rw0) → ∀ (H : Heap) (locs : List Loc) (ls : Array Slot), pl G PL v0 H → va_S (FA (fP PL vP0) s.heap.size) s.heap H locs → H.size = s.heap.size → KM vP0 v0 s.heap.size → lv_has ls 1 [(0, .ref p0)] → W p l e (rmT 2 0 0 43) s m args below meth c H locs 0 0 (MQ below (QcT (FA (fP PL vP0) s.heap.size) (fun ov H => ov = (some (va_rf rx)) ∧ pl G PL rw0 H ∧ H.size = s.heap.size ∧ KM vP0 rw0 s.heap.size)) args s 0 0 (FA (fP PL vP0) s.heap.size)) (F0 m 0 ls []) := by
  intro v0 p0 hm H locs ls hW0 hS hz hKM hl
  obtain ⟨hx, hb, hr, hlk, hml, hown, hts, hK⟩ := id C
  unfold fJ15_next at hm
  refine lv_aload_n (pc := 0) hx hb dJ15_next_0 rfl (lv_at hl 0 rfl) ?_
  obtain ⟨hg1, hm⟩ := gb_some hm
  obtain ⟨oa2, w3, hq4, hm⟩ := ob2_some hm
  refine rp_TU (pc := 1) (As := []) (rest := []) (mc := 0) (ms := 0) hx hb hml hown hts hK hS (fun q hq => FA_sz rfl q hq) lfJ15_7_J15 q1589 ynx_J15_7 (ct_J14_nextEntry (G := G) (l := l) (sz := H.size) hq4) ⟨Nat.le_of_ble_eq_true rfl, Nat.le_of_ble_eq_true rfl⟩ (fun z h => (KM_hf2 hKM z h)) (rp_recv hK hW0 (C := RJ15) (T := TJ15) (N := 4) rfl (shP_20 (kd_PL hg1) (kd_k hg1))) hW0 rfl rfl hl.1 (Nat.le_of_ble_eq_true rfl) dJ15_next_1 ⟨Nat.zero_le _, Nat.zero_le _⟩ (fun ov9 H5 locs6 hP7 hkp8 hS9 => ?_)
  obtain ⟨rfl, hW10, hz11, hKM12⟩ := hP7
  have hz13 := hz11.trans hz
  have hKM14 := KM.trans hKM hKM12 (by omega)
  refine W.eq (g2 := F0 m 4 ls [va_rf oa2]) rfl ?_
  obtain ⟨pa15, he16, hm17⟩ := ob_some hm
  subst he16
  have hm := hm17
  obtain ⟨hg18, hm⟩ := gb_some hm
  obtain ⟨oa19, he20, hm⟩ := lo_some hm
  refine rk_get (pc := 4) hx hb hts hown hK (pl_rg hW10) flJ15_13 pa15 (Nat.lt_succ_self _) (Nat.zero_add _).symm (shP_18 (kd_PL hg18) (kd_k hg18)) (x := va_rf oa19) (congrArg (fun z => some (va_rf z)) he20) dJ15_next_4 ?_
  obtain ⟨e8, e9⟩ := rs2 hm
  subst e8
  subst e9
  exact rp_aret (pc := 7) (x := oa19) hx hb hr (Or.inl ⟨_, rfl⟩) hlk hS9 ⟨rfl, hW10, hz13, hKM14⟩ dJ15_next_7
set_option maxHeartbeats 4000000 in
theorem ct_J15_next {G : Gv} {l : Launch} {PL : Nat → Bool} {v0 : Mem} {p0 : Nat} {rx : Option Nat} {rw0 : Mem} {sz : Nat} (hm : fJ15_next PL v0 p0 = some (rx, rw0)) : CT G l yJ15_next (ws_ yJ15_next cJ15_next 1 (some (.object "java/lang/Object"))) 2 0 0 43 [.ref p0] (fP PL v0) sz (fun H => pl G PL v0 H) (fun ov H => ov = (some (va_rf rx)) ∧ pl G PL rw0 H ∧ H.size = sz ∧ KM v0 rw0 sz) := by
  refine Met.ofW (cc := cJ15_next) (maxL := 1) (ret := (some (.object "java/lang/Object"))) (by decide +kernel) rfl ?_
  intro p e s m args below meth c s₁ B hml hv
  obtain ⟨rfl, ⟨hz, hW0⟩, hK⟩ := hv
  subst hz
  have hts := atoms_spec (ws := ws_ yJ15_next cJ15_next 1 (some (.object "java/lang/Object"))) B.pre
  have hts : ∀ w ∈ lw_all, w.before _ s = true := fun w h => hts w (List.mem_cons_of_mem _ h)
  have C : Cx G p s m _ meth c RJ15 cJ15_next 1 (some (.object "java/lang/Object")) := ⟨B.exec, B.bytes, B.returns, B.notSynchronized, hml, findClass_of_methodNamed B.named, hts, hK⟩
  have hl := lv_entry ([.ref p0]) (n := 1) (Nat.le_of_ble_eq_true rfl)
  rw [lg_entry_eq]
  generalize (lg_sl ([.ref p0]) ++ List.replicate (1 - (lg_sl ([.ref p0])).length) Slot.unset).toArray = ls at hl ⊢
  have hl : lv_has ls 1 [(0, .ref p0)] := hl
  exact w_fJ15_next C _ _ hm s.heap [] ls hW0 va_S.rf rfl KM.rf hl
end
