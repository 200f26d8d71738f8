set_option maxRecDepth 100000
section
variable {p : Program} {l : Launch} {e : Env} {s : State} {m : MethodId} {args : Array Value} {below : List Frame} {meth : Method} {c : Code} {G : Gv}
theorem ft_X15 : FT TX15 1 tyX15 := ⟨tyX15_ok, nmX15⟩
theorem flX15_7 : FL RX15 7 15 0 RX15 TX15 1 := ⟨in_X15, rfl, by decide, q1376⟩
noncomputable def fX15_init (PL : Nat → Bool) (v0 : Mem) (p0 : Nat) (i1 : Int32) : Option (Mem) :=
  gb (kd PL v0 p0 15) (
  lm (sI v0 p0 0 i1) fun v0_2 =>
  some v0_2)
set_option maxHeartbeats 4000000 in
theorem w_fX15_init (C : Cx G p s m args meth c RX15 cX15_init 2 none) {PL : Nat → Bool} {vP0 : Mem} {rw0 : Mem} (hin : meth.name = "<init>") : ∀ (v0 : Mem) (p0 : Nat) (i1 : Int32), fX15_init PL v0 p0 i1 = some rw0 → ∀ (H : Heap) (locs : List Loc) (ls : Array Slot), pl G PL v0 H → va_S (FA (fP PL vP0) s.heap.size) s.heap H locs → H.size = s.heap.size → KM vP0 v0 s.heap.size → lv_has ls 2 [(0, .ref p0), (1, .int i1)] → W p l e (rmT 1 0 0 32) s m args below meth c H locs 0 0 (MQ below (QcT (FA (fP PL vP0) s.heap.size) (fun ov H => ov = none ∧ pl G PL rw0 H ∧ H.size = s.heap.size ∧ KM vP0 rw0 s.heap.size)) args s 0 0 (FA (fP PL vP0) s.heap.size)) (F0 m 0 ls []) := by
  intro v0 p0 i1 hm H locs ls hW0 hS hz hKM hl
  obtain ⟨hx, hb, hr, hlk, hml, hown, hts, hK⟩ := id C
  unfold fX15_init at hm
  refine lv_aload_n (pc := 0) hx hb dX15_init_0 rfl (lv_at hl 0 rfl) ?_
  refine W.objInit  hx hb hown (hts _ q1375) (hts _ q159) (hts _ q160) rfl (by rw [hml]; exact hl.1) rfl dX15_init_1 (Nat.le_of_ble_eq_true rfl) (Nat.le_of_ble_eq_true rfl) ?_
  refine W.eq (g2 := F0 m 4 ls []) rfl ?_
  refine lv_aload_n (pc := 4) hx hb dX15_init_4 rfl (lv_at hl 0 rfl) ?_
  refine lv_iload_n (pc := 5) hx hb dX15_init_5 rfl (lv_at hl 1 rfl) ?_
  obtain ⟨hg1, hm⟩ := gb_some hm
  refine rp_putF (pc := 6) (q := p0) hx hb hts hown hK hW0 hS flX15_7 ft_X15 (kd_A hKM hg1 (by decide)) (shP_15 (kd_PL hg1) (kd_k hg1)) rfl hin rfl (x := .int i1) rfl rfl (Nat.le_of_ble_eq_true rfl) (sI v0 p0 0 i1) sI_ne (by rw [sI_eq]; exact shP_15 (kd_PL hg1) (kd_k hg1)) dX15_init_6 (fun H3 locs4 hW5 hS6 hz7 hkp8 => ?_)
  have hKM9 := KM.sI (o := p0) (j := 0) (x := i1) hKM (by decide)
  obtain ⟨v0_2, he9, hm⟩ := lm_some hm
  rw [he9] at hW5 hKM9
  have hz10 := hz7.trans hz
  have e9 := rs1 hm
  subst e9
  exact rk_vret (pc := 9) hx hb hr hlk hS6 ⟨rfl, hW5, hz10, hKM9⟩ dX15_init_9
set_option maxHeartbeats 4000000 in
theorem ct_X15_init {G : Gv} {l : Launch} {PL : Nat → Bool} {v0 : Mem} {p0 : Nat} {i1 : Int32} {rw0 : Mem} {sz : Nat} (hm : fX15_init PL v0 p0 i1 = some rw0) : CT G l yX15_init (ws_ yX15_init cX15_init 2 none) 1 0 0 32 [.ref p0, .int i1] (fP PL v0) sz (fun H => pl G PL v0 H) (fun ov H => ov = none ∧ pl G PL rw0 H ∧ H.size = sz ∧ KM v0 rw0 sz) := by
  refine Met.ofW (cc := cX15_init) (maxL := 2) (ret := none) (by decide +kernel) rfl ?_
  intro p e s m args below meth c s₁ B hml hv
  obtain ⟨rfl, ⟨hz, hW0⟩, hK⟩ := hv
  subst hz
  have hin : meth.name = "<init>" := (name_of_methodNamed B.named B.method).1
  have hts := atoms_spec (ws := ws_ yX15_init cX15_init 2 none) B.pre
  have hts : ∀ w ∈ lw_all, w.before _ s = true := fun w h => hts w (List.mem_cons_of_mem _ h)
  have C : Cx G p s m _ meth c RX15 cX15_init 2 none := ⟨B.exec, B.bytes, B.returns, B.notSynchronized, hml, findClass_of_methodNamed B.named, hts, hK⟩
  have hl := lv_entry ([.ref p0, .int i1]) (n := 2) (Nat.le_of_ble_eq_true rfl)
  rw [lg_entry_eq]
  generalize (lg_sl ([.ref p0, .int i1]) ++ List.replicate (2 - (lg_sl ([.ref p0, .int i1])).length) Slot.unset).toArray = ls at hl ⊢
  have hl : lv_has ls 2 [(0, .ref p0), (1, .int i1)] := hl
  exact w_fX15_init C hin _ _ _ hm s.heap [] ls hW0 va_S.rf rfl KM.rf hl
theorem ft_X14 : FT TX14 2 tyX14 := ⟨tyX14_ok, nmX14⟩
theorem flX14_7 : FL RX14 7 14 0 RX14 TX14 2 := ⟨in_X14, rfl, by decide, q1340⟩
theorem flX14_13 : FL RX14 13 14 1 RX14 TX14 2 := ⟨in_X14, rfl, by decide, q1342⟩
noncomputable def fX14_init (PL : Nat → Bool) (v0 : Mem) (p0 : Nat) (i1 : Int32) (i2 : Int32) : Option (Mem) :=
  gb (kd PL v0 p0 14) (
  lm (sI v0 p0 0 i1) fun v0_2 =>
  gb (kd PL v0_2 p0 14) (
  lm (sI v0_2 p0 1 i2) fun v0_12 =>
  some v0_12))
set_option maxHeartbeats 4000000 in
theorem w_fX14_init (C : Cx G p s m args meth c RX14 cX14_init 3 none) {PL : Nat → Bool} {vP0 : Mem} {rw0 : Mem} (hin : meth.name = "<init>") : ∀ (v0 : Mem) (p0 : Nat) (i1 : Int32) (i2 : Int32), fX14_init PL v0 p0 i1 i2 = some rw0 → ∀ (H : Heap) (locs : List Loc) (ls : Array Slot), pl G PL v0 H → va_S (FA (fP PL vP0) s.heap.size) s.heap H locs → H.size = s.heap.size → KM vP0 v0 s.heap.size → lv_has ls 3 [(0, .ref p0), (1, .int i1), (2, .int i2)] → W p l e (rmT 1 0 0 32) s m args below meth c H locs 0 0 (MQ below (QcT (FA (fP PL vP0) s.heap.size) (fun ov H => ov = none ∧ pl G PL rw0 H ∧ H.size = s.heap.size ∧ KM vP0 rw0 s.heap.size)) args s 0 0 (FA (fP PL vP0) s.heap.size)) (F0 m 0 ls []) := by
  intro v0 p0 i1 i2 hm H locs ls hW0 hS hz hKM hl
  obtain ⟨hx, hb, hr, hlk, hml, hown, hts, hK⟩ := id C
  unfold fX14_init at hm
  refine lv_aload_n (pc := 0) hx hb dX14_init_0 rfl (lv_at hl 0 rfl) ?_
  refine W.objInit  hx hb hown (hts _ q1339) (hts _ q159) (hts _ q160) rfl (by rw [hml]; exact hl.1) rfl dX14_init_1 (Nat.le_of_ble_eq_true rfl) (Nat.le_of_ble_eq_true rfl) ?_
  refine W.eq (g2 := F0 m 4 ls []) rfl ?_
  refine lv_aload_n (pc := 4) hx hb dX14_init_4 rfl (lv_at hl 0 rfl) ?_
  refine lv_iload_n (pc := 5) hx hb dX14_init_5 rfl (lv_at hl 1 rfl) ?_
  obtain ⟨hg1, hm⟩ := gb_some hm
  refine rp_putF (pc := 6) (q := p0) hx hb hts hown hK hW0 hS flX14_7 ft_X14 (kd_A hKM hg1 (by decide)) (shP_14 (kd_PL hg1) (kd_k hg1)) rfl hin rfl (x := .int i1) rfl rfl (Nat.le_of_ble_eq_true rfl) (sI v0 p0 0 i1) sI_ne (by rw [sI_eq]; exact shP_14 (kd_PL hg1) (kd_k hg1)) dX14_init_6 (fun H3 locs4 hW5 hS6 hz7 hkp8 => ?_)
  have hKM9 := KM.sI (o := p0) (j := 0) (x := i1) hKM (by decide)
  obtain ⟨v0_2, he9, hm⟩ := lm_some hm
  rw [he9] at hW5 hKM9
  have hz10 := hz7.trans hz
  refine lv_aload_n (pc := 9) hx hb dX14_init_9 rfl (lv_at hl 0 rfl) ?_
  refine lv_iload_n (pc := 10) hx hb dX14_init_10 rfl (lv_at hl 2 rfl) ?_
  obtain ⟨hg11, hm⟩ := gb_some hm
  refine rp_putF (pc := 11) (q := p0) hx hb hts hown hK hW5 hS6 flX14_13 ft_X14 (kd_A hKM9 hg11 (by decide)) (shP_14 (kd_PL hg11) (kd_k hg11)) rfl hin rfl (x := .int i2) rfl rfl (Nat.le_of_ble_eq_true rfl) (sI v0_2 p0 1 i2) sI_ne (by rw [sI_eq]; exact shP_14 (kd_PL hg11) (kd_k hg11)) dX14_init_11 (fun H13 locs14 hW15 hS16 hz17 hkp18 => ?_)
  have hKM19 := KM.sI (o := p0) (j := 1) (x := i2) hKM9 (by decide)
  obtain ⟨v0_12, he9, hm⟩ := lm_some hm
  rw [he9] at hW15 hKM19
  have hz20 := hz17.trans hz10
  have e9 := rs1 hm
  subst e9
  exact rk_vret (pc := 14) hx hb hr hlk hS16 ⟨rfl, hW15, hz20, hKM19⟩ dX14_init_14
set_option maxHeartbeats 4000000 in
theorem ct_X14_init {G : Gv} {l : Launch} {PL : Nat → Bool} {v0 : Mem} {p0 : Nat} {i1 : Int32} {i2 : Int32} {rw0 : Mem} {sz : Nat} (hm : fX14_init PL v0 p0 i1 i2 = some rw0) : CT G l yX14_init (ws_ yX14_init cX14_init 3 none) 1 0 0 32 [.ref p0, .int i1, .int i2] (fP PL v0) sz (fun H => pl G PL v0 H) (fun ov H => ov = none ∧ pl G PL rw0 H ∧ H.size = sz ∧ KM v0 rw0 sz) := by
  refine Met.ofW (cc := cX14_init) (maxL := 3) (ret := none) (by decide +kernel) rfl ?_
  intro p e s m args below meth c s₁ B hml hv
  obtain ⟨rfl, ⟨hz, hW0⟩, hK⟩ := hv
  subst hz
  have hin : meth.name = "<init>" := (name_of_methodNamed B.named B.method).1
  have hts := atoms_spec (ws := ws_ yX14_init cX14_init 3 none) B.pre
  have hts : ∀ w ∈ lw_all, w.before _ s = true := fun w h => hts w (List.mem_cons_of_mem _ h)
  have C : Cx G p s m _ meth c RX14 cX14_init 3 none := ⟨B.exec, B.bytes, B.returns, B.notSynchronized, hml, findClass_of_methodNamed B.named, hts, hK⟩
  have hl := lv_entry ([.ref p0, .int i1, .int i2]) (n := 3) (Nat.le_of_ble_eq_true rfl)
  rw [lg_entry_eq]
  generalize (lg_sl ([.ref p0, .int i1, .int i2]) ++ List.replicate (3 - (lg_sl ([.ref p0, .int i1, .int i2])).length) Slot.unset).toArray = ls at hl ⊢
  have hl : lv_has ls 3 [(0, .ref p0), (1, .int i1), (2, .int i2)] := hl
  exact w_fX14_init C hin _ _ _ _ hm s.heap [] ls hW0 va_S.rf rfl KM.rf hl
noncomputable def fX14_compareTo_2_45 (PL : Nat → Bool) (V0 : Mem) (i2 : Int32) (t0 : Int32) : Option (Int32) :=
  if t0 ≤ i2 then (
  if i2 = t0 then (
  some (0 : Int32))
  else (
  some (1 : Int32)))
  else (
  some (-1 : Int32))
noncomputable def fX14_compareTo_2_22 (PL : Nat → Bool) (V0 : Mem) (p0 : Nat) (p1 : Nat) (t0 : Int32) : Option (Int32) :=
  gb (kd PL V0 p0 14) (
  gb (kd PL V0 p1 14) (
  if (gI V0 p0 0) = (gI V0 p1 0) then (
  gb (kd PL V0 p1 14) (
  fX14_compareTo_2_45 PL V0 t0 (gI V0 p1 1)))
  else (
  gb (kd PL V0 p1 14) (
  fX14_compareTo_2_45 PL V0 t0 (gI V0 p1 0)))))
noncomputable def fX14_compareTo_2 (PL : Nat → Bool) (V0 : Mem) (p0 : Nat) (p1 : Nat) : Option (Int32) :=
  gb (kd PL V0 p0 14) (
  gb (kd PL V0 p1 14) (
  if (gI V0 p0 0) = (gI V0 p1 0) then (
  gb (kd PL V0 p0 14) (
  fX14_compareTo_2_22 PL V0 p0 p1 (gI V0 p0 1)))
  else (
  gb (kd PL V0 p0 14) (
  fX14_compareTo_2_22 PL V0 p0 p1 (gI V0 p0 0)))))
set_option maxHeartbeats 4000000 in
theorem w_fX14_compareTo_2_45 (C : Cx G p s m args meth c RX14 cX14_compareTo_2 4 (some .int)) {PL : Nat → Bool} {V0 : Mem} {rx : Int32} (hW0 : pl G PL V0 s.heap) : ∀ (i2 : Int32) (t0 : Int32), fX14_compareTo_2_45 PL V0 i2 t0 = some rx → ∀ (ls : Array Slot), lv_has ls 4 [(2, .int i2)] → W p l e (rmP 0 0) s m args below meth c s.heap [] 0 0 (MQ below (QcP (some (.int rx))) args s 0 0 (fun _ => False)) (F0 m 45 ls [.int t0]) := by
  intro i2 t0 hm ls hl
  obtain ⟨hx, hb, hr, hlk, hml, hown, hts, hK⟩ := id C
  unfold fX14_compareTo_2_45 at hm
  refine lv_istore_n (pc := 45) (lv' := [(3, .int t0), (2, .int i2)]) hx hb dX14_compareTo_2_45 rfl hl (by decide) rfl (fun ls hl => ?_)
  refine lv_iload_n (pc := 46) hx hb dX14_compareTo_2_46 rfl (lv_at hl 1 rfl) ?_
  refine lv_iload_n (pc := 47) hx hb dX14_compareTo_2_47 rfl (lv_at hl 0 rfl) ?_
  refine lv_icmp_ge (pc := 48) (tgt := 55) hx hb dX14_compareTo_2_48 (by decide) (fun c11 => ?_) (fun c11 => ?_)
  · have hm := ite_t c11 hm
    refine lv_iload_n (pc := 55) hx hb dX14_compareTo_2_55 rfl (lv_at hl 1 rfl) ?_
    refine lv_iload_n (pc := 56) hx hb dX14_compareTo_2_56 rfl (lv_at hl 0 rfl) ?_
    refine lv_icmp_ne (pc := 57) (tgt := 64) hx hb dX14_compareTo_2_57 (by decide) (fun c12 => ?_) (fun c12 => ?_)
    · have hm := ite_f c12 hm
      refine lv_iconst (pc := 64) (v := (1 : Int32)) hx hb dX14_compareTo_2_64 (by decide) ?_
      have e9 := rs1 hm
      subst e9
      exact rk_iretP (pc := 65) hx hb hr hlk rfl dX14_compareTo_2_65
    · have hm := ite_t c12 hm
      refine lv_iconst (pc := 60) (v := (0 : Int32)) hx hb dX14_compareTo_2_60 (by decide) ?_
      refine lv_goto (pc := 61) (tgt := 65) hx hb dX14_compareTo_2_61 (by decide) ?_
      have e9 := rs1 hm
      subst e9
      exact rk_iretP (pc := 65) hx hb hr hlk rfl dX14_compareTo_2_65
  · have hm := ite_f c11 hm
    refine lv_iconst (pc := 51) (v := (-1 : Int32)) hx hb dX14_compareTo_2_51 (by decide) ?_
    refine lv_goto (pc := 52) (tgt := 65) hx hb dX14_compareTo_2_52 (by decide) ?_
    have e9 := rs1 hm
    subst e9
    exact rk_iretP (pc := 65) hx hb hr hlk rfl dX14_compareTo_2_65
set_option maxHeartbeats 4000000 in
theorem w_fX14_compareTo_2_22 (C : Cx G p s m args meth c RX14 cX14_compareTo_2 4 (some .int)) {PL : Nat → Bool} {V0 : Mem} {rx : Int32} (hW0 : pl G PL V0 s.heap) : ∀ (p0 : Nat) (p1 : Nat) (t0 : Int32), fX14_compareTo_2_22 PL V0 p0 p1 t0 = some rx → ∀ (ls : Array Slot), lv_has ls 4 [(0, .ref p0), (1, .ref p1)] → W p l e (rmP 0 0) s m args below meth c s.heap [] 0 0 (MQ below (QcP (some (.int rx))) args s 0 0 (fun _ => False)) (F0 m 22 ls [.int t0]) := by
  intro p0 p1 t0 hm ls hl
  obtain ⟨hx, hb, hr, hlk, hml, hown, hts, hK⟩ := id C
  unfold fX14_compareTo_2_22 at hm
  refine lv_istore_n (pc := 22) (lv' := [(2, .int t0), (0, .ref p0), (1, .ref p1)]) hx hb dX14_compareTo_2_22 rfl hl (by decide) rfl (fun ls hl => ?_)
  refine lv_aload_n (pc := 23) hx hb dX14_compareTo_2_23 rfl (lv_at hl 1 rfl) ?_
  obtain ⟨hg6, hm⟩ := gb_some hm
  refine rk_get (pc := 24) hx hb hts hown hK (pl_rg hW0) flX14_7 p0 (Nat.lt_succ_self _) (Nat.zero_add _).symm (shP_14 (kd_PL hg6) (kd_k hg6)) (x := .int (gI V0 p0 0)) rfl dX14_compareTo_2_24 ?_
  refine lv_aload_n (pc := 27) hx hb dX14_compareTo_2_27 rfl (lv_at hl 2 rfl) ?_
  obtain ⟨hg7, hm⟩ := gb_some hm
  refine rk_get (pc := 28) hx hb hts hown hK (pl_rg hW0) flX14_7 p1 (Nat.lt_succ_self _) (Nat.zero_add _).symm (shP_14 (kd_PL hg7) (kd_k hg7)) (x := .int (gI V0 p1 0)) rfl dX14_compareTo_2_28 ?_
  refine lv_icmp_ne (pc := 31) (tgt := 41) hx hb dX14_compareTo_2_31 (by decide) (fun c8 => ?_) (fun c8 => ?_)
  · have hm := ite_f c8 hm
    refine lv_aload_n (pc := 41) hx hb dX14_compareTo_2_41 rfl (lv_at hl 2 rfl) ?_
    obtain ⟨hg9, hm⟩ := gb_some hm
    refine rk_get (pc := 42) hx hb hts hown hK (pl_rg hW0) flX14_7 p1 (Nat.lt_succ_self _) (Nat.zero_add _).symm (shP_14 (kd_PL hg9) (kd_k hg9)) (x := .int (gI V0 p1 0)) rfl dX14_compareTo_2_42 ?_
    exact (w_fX14_compareTo_2_45 C hW0) t0 (gI V0 p1 0) hm ls (lv_sub hl [0] rfl)
  · have hm := ite_t c8 hm
    refine lv_aload_n (pc := 34) hx hb dX14_compareTo_2_34 rfl (lv_at hl 2 rfl) ?_
    obtain ⟨hg10, hm⟩ := gb_some hm
    refine rk_get (pc := 35) hx hb hts hown hK (pl_rg hW0) flX14_13 p1 (Nat.lt_succ_self _) (Nat.zero_add _).symm (shP_14 (kd_PL hg10) (kd_k hg10)) (x := .int (gI V0 p1 1)) rfl dX14_compareTo_2_35 ?_
    refine lv_goto (pc := 38) (tgt := 45) hx hb dX14_compareTo_2_38 (by decide) ?_
    exact (w_fX14_compareTo_2_45 C hW0) t0 (gI V0 p1 1) hm ls (lv_sub hl [0] rfl)
set_option maxHeartbeats 4000000 in
theorem w_fX14_compareTo_2 (C : Cx G p s m args meth c RX14 cX14_compareTo_2 4 (some .int)) {PL : Nat → Bool} {V0 : Mem} {rx : Int32} (hW0 : pl G PL V0 s.heap) : ∀ (p0 : Nat) (p1 : Nat), fX14_compareTo_2 PL V0 p0 p1 = some rx → ∀ (ls : Array Slot), lv_has ls 4 [(0, .ref p0), (1, .ref p1)] → W p l e (rmP 0 0) s m args below meth c s.heap [] 0 0 (MQ below (QcP (some (.int rx))) args s 0 0 (fun _ => False)) (F0 m 0 ls []) := by
  intro p0 p1 hm ls hl
  obtain ⟨hx, hb, hr, hlk, hml, hown, hts, hK⟩ := id C
  unfold fX14_compareTo_2 at hm
  refine lv_aload_n (pc := 0) hx hb dX14_compareTo_2_0 rfl (lv_at hl 0 rfl) ?_
  obtain ⟨hg1, hm⟩ := gb_some hm
  refine rk_get (pc := 1) hx hb hts hown hK (pl_rg hW0) flX14_7 p0 (Nat.lt_succ_self _) (Nat.zero_add _).symm (shP_14 (kd_PL hg1) (kd_k hg1)) (x := .int (gI V0 p0 0)) rfl dX14_compareTo_2_1 ?_
  refine lv_aload_n (pc := 4) hx hb dX14_compareTo_2_4 rfl (lv_at hl 1 rfl) ?_
  obtain ⟨hg2, hm⟩ := gb_some hm
  refine rk_get (pc := 5) hx hb hts hown hK (pl_rg hW0) flX14_7 p1 (Nat.lt_succ_self _) (Nat.zero_add _).symm (shP_14 (kd_PL hg2) (kd_k hg2)) (x := .int (gI V0 p1 0)) rfl dX14_compareTo_2_5 ?_
  refine lv_icmp_ne (pc := 8) (tgt := 18) hx hb dX14_compareTo_2_8 (by decide) (fun c3 => ?_) (fun c3 => ?_)
  · have hm := ite_f c3 hm
    refine lv_aload_n (pc := 18) hx hb dX14_compareTo_2_18 rfl (lv_at hl 0 rfl) ?_
    obtain ⟨hg4, hm⟩ := gb_some hm
    refine rk_get (pc := 19) hx hb hts hown hK (pl_rg hW0) flX14_7 p0 (Nat.lt_succ_self _) (Nat.zero_add _).symm (shP_14 (kd_PL hg4) (kd_k hg4)) (x := .int (gI V0 p0 0)) rfl dX14_compareTo_2_19 ?_
    exact (w_fX14_compareTo_2_22 C hW0) p0 p1 (gI V0 p0 0) hm ls (lv_sub hl [0, 1] rfl)
  · have hm := ite_t c3 hm
    refine lv_aload_n (pc := 11) hx hb dX14_compareTo_2_11 rfl (lv_at hl 0 rfl) ?_
    obtain ⟨hg5, hm⟩ := gb_some hm
    refine rk_get (pc := 12) hx hb hts hown hK (pl_rg hW0) flX14_13 p0 (Nat.lt_succ_self _) (Nat.zero_add _).symm (shP_14 (kd_PL hg5) (kd_k hg5)) (x := .int (gI V0 p0 1)) rfl dX14_compareTo_2_12 ?_
    refine lv_goto (pc := 15) (tgt := 22) hx hb dX14_compareTo_2_15 (by decide) ?_
    exact (w_fX14_compareTo_2_22 C hW0) p0 p1 (gI V0 p0 1) hm ls (lv_sub hl [0, 1] rfl)
set_option maxHeartbeats 4000000 in
theorem ct_X14_compareTo_2 {G : Gv} {l : Launch} {PL : Nat → Bool} {V0 : Mem} {p0 : Nat} {p1 : Nat} {rx : Int32} (hm : fX14_compareTo_2 PL V0 p0 p1 = some rx) : CP G l yX14_compareTo_2 (ws_ yX14_compareTo_2 cX14_compareTo_2 4 (some .int)) 0 0 [.ref p0, .ref p1] (fun H => pl G PL V0 H) (some (.int rx)) := by
  refine Met.ofW (cc := cX14_compareTo_2) (maxL := 4) (ret := (some .int)) (by decide +kernel) rfl ?_
  intro p e s m args below meth c s₁ B hml hv
  obtain ⟨rfl, hW0, hK⟩ := hv
  have hts := atoms_spec (ws := ws_ yX14_compareTo_2 cX14_compareTo_2 4 (some .int)) B.pre
  have hts : ∀ w ∈ lw_all, w.before _ s = true := fun w h => hts w (List.mem_cons_of_mem _ h)
  have C : Cx G p s m _ meth c RX14 cX14_compareTo_2 4 (some .int) := ⟨B.exec, B.bytes, B.returns, B.notSynchronized, hml, findClass_of_methodNamed B.named, hts, hK⟩
  have hl := lv_entry ([.ref p0, .ref p1]) (n := 4) (Nat.le_of_ble_eq_true rfl)
  rw [lg_entry_eq]
  generalize (lg_sl ([.ref p0, .ref p1]) ++ List.replicate (4 - (lg_sl ([.ref p0, .ref p1])).length) Slot.unset).toArray = ls at hl ⊢
  have hl : lv_has ls 4 [(0, .ref p0), (1, .ref p1)] := hl
  exact w_fX14_compareTo_2 C hW0 _ _ hm ls hl
theorem yn_X14_compareTo_2 : YN yX14_compareTo_2 1 := by
  unfold YN
  decide +kernel
theorem lkX14_16 : LV RX14 16 RX14 yX14_compareTo_2 cX14_compareTo_2 4 (some .int) := ⟨q1111, q1112, q1113, q139, q1114⟩
noncomputable def fX14_compareTo (PL : Nat → Bool) (V0 : Mem) (p0 : Nat) (p1 : Nat) : Option (Int32) :=
  gb (kd PL V0 p1 14) (
  gb (kd PL V0 p0 14) (
  ob (fX14_compareTo_2 PL V0 p0 p1) fun r3 =>
  some r3))
set_option maxHeartbeats 4000000 in
theorem w_fX14_compareTo (C : Cx G p s m args meth c RX14 cX14_compareTo 2 (some .int)) {PL : Nat → Bool} {V0 : Mem} {rx : Int32} (hW0 : pl G PL V0 s.heap) : ∀ (p0 : Nat) (p1 : Nat), fX14_compareTo PL V0 p0 p1 = some rx → ∀ (ls : Array Slot), lv_has ls 2 [(0, .ref p0), (1, .ref p1)] → W p l e (rmP 1 23) s m args below meth c s.heap [] 0 0 (MQ below (QcP (some (.int rx))) args s 0 0 (fun _ => False)) (F0 m 0 ls []) := by
  intro p0 p1 hm ls hl
  obtain ⟨hx, hb, hr, hlk, hml, hown, hts, hK⟩ := id C
  unfold fX14_compareTo at hm
  refine lv_aload_n (pc := 0) hx hb dX14_compareTo_0 rfl (lv_at hl 0 rfl) ?_
  refine lv_aload_n (pc := 1) hx hb dX14_compareTo_1 rfl (lv_at hl 1 rfl) ?_
  obtain ⟨hg1, hm⟩ := gb_some hm
  refine rp_castS (pc := 2) (C := RX14) (T := TX14) (N := 2) (ci := 14) hx hb hown hts hK q1110 rfl (rp_recv hK hW0 (C := RX14) (T := TX14) (N := 2) rfl (shP_14 (kd_PL hg1) (kd_k hg1))) dX14_compareTo_2 ?_
  obtain ⟨hg2, hm⟩ := gb_some hm
  obtain ⟨r3, hq4, hm⟩ := ob_some hm
  refine rk_PV (pc := 5) (As := [.ref p1]) (rest := []) hx hb hml hown hts hK lkX14_16 rfl yn_X14_compareTo_2 (ct_X14_compareTo_2 (G := G) (l := l) hq4) ⟨Nat.le_of_ble_eq_true rfl, Nat.le_of_ble_eq_true rfl⟩ (rp_recv hK hW0 (C := RX14) (T := TX14) (N := 2) rfl (shP_14 (kd_PL hg2) (kd_k hg2))) hW0 rfl rfl hl.1 (Nat.le_of_ble_eq_true rfl) dX14_compareTo_5 ⟨Nat.zero_le _, Nat.zero_le _⟩ ?_
  refine W.eq (g2 := F0 m 8 ls [.int r3]) rfl ?_
  have e9 := rs1 hm
  subst e9
  exact rk_iretP (pc := 8) hx hb hr hlk rfl dX14_compareTo_8
set_option maxHeartbeats 4000000 in
theorem ct_X14_compareTo {G : Gv} {l : Launch} {PL : Nat → Bool} {V0 : Mem} {p0 : Nat} {p1 : Nat} {rx : Int32} (hm : fX14_compareTo PL V0 p0 p1 = some rx) : CP G l yX14_compareTo (ws_ yX14_compareTo cX14_compareTo 2 (some .int)) 1 23 [.ref p0, .ref p1] (fun H => pl G PL V0 H) (some (.int rx)) := by
  refine Met.ofW (cc := cX14_compareTo) (maxL := 2) (ret := (some .int)) (by decide +kernel) rfl ?_
  intro p e s m args below meth c s₁ B hml hv
  obtain ⟨rfl, hW0, hK⟩ := hv
  have hts := atoms_spec (ws := ws_ yX14_compareTo cX14_compareTo 2 (some .int)) B.pre
  have hts : ∀ w ∈ lw_all, w.before _ s = true := fun w h => hts w (List.mem_cons_of_mem _ h)
  have C : Cx G p s m _ meth c RX14 cX14_compareTo 2 (some .int) := ⟨B.exec, B.bytes, B.returns, B.notSynchronized, hml, findClass_of_methodNamed B.named, hts, hK⟩
  have hl := lv_entry ([.ref p0, .ref p1]) (n := 2) (Nat.le_of_ble_eq_true rfl)
  rw [lg_entry_eq]
  generalize (lg_sl ([.ref p0, .ref p1]) ++ List.replicate (2 - (lg_sl ([.ref p0, .ref p1])).length) Slot.unset).toArray = ls at hl ⊢
  have hl : lv_has ls 2 [(0, .ref p0), (1, .ref p1)] := hl
  exact w_fX14_compareTo C hW0 _ _ hm ls hl
noncomputable def fJ2_init (p0 : Nat) : Option (Unit) :=
  some ()
set_option maxHeartbeats 4000000 in
theorem w_fJ2_init (C : Cx G p s m args meth c RJ2 cJ2_init 1 none) (hin : meth.name = "<init>") : ∀ (p0 : Nat), fJ2_init p0 = some () → ∀ (ls : Array Slot), lv_has ls 1 [(0, .ref p0)] → W p l e (rmP 1 32) s m args below meth c s.heap [] 0 0 (MQ below (QcP none) args s 0 0 (fun _ => False)) (F0 m 0 ls []) := by
  intro p0 hm ls hl
  obtain ⟨hx, hb, hr, hlk, hml, hown, hts, hK⟩ := id C
  unfold fJ2_init at hm
  refine lv_aload_n (pc := 0) hx hb dJ2_init_0 rfl (lv_at hl 0 rfl) ?_
  refine W.objInit  hx hb hown (hts _ q386) (hts _ q159) (hts _ q160) rfl (by rw [hml]; exact hl.1) rfl dJ2_init_1 (Nat.le_of_ble_eq_true rfl) (Nat.le_of_ble_eq_true rfl) ?_
  refine W.eq (g2 := F0 m 4 ls []) rfl ?_
  exact rk_vretP (pc := 4) hx hb hr hlk rfl dJ2_init_4
set_option maxHeartbeats 4000000 in
theorem ct_J2_init {G : Gv} {l : Launch} {p0 : Nat} (hm : fJ2_init p0 = some ()) : CP G l yJ2_init (ws_ yJ2_init cJ2_init 1 none) 1 32 [.ref p0] (fun H => True) none := by
  refine Met.ofW (cc := cJ2_init) (maxL := 1) (ret := none) (by decide +kernel) rfl ?_
  intro p e s m args below meth c s₁ B hml hv
  obtain ⟨rfl, -, hK⟩ := hv
  have hin : meth.name = "<init>" := (name_of_methodNamed B.named B.method).1
  have hts := atoms_spec (ws := ws_ yJ2_init cJ2_init 1 none) B.pre
  have hts : ∀ w ∈ lw_all, w.before _ s = true := fun w h => hts w (List.mem_cons_of_mem _ h)
  have C : Cx G p s m _ meth c RJ2 cJ2_init 1 none := ⟨B.exec, B.bytes, B.returns, B.notSynchronized, hml, findClass_of_methodNamed B.named, hts, hK⟩
  have hl := lv_entry ([.ref p0]) (n := 1) (Nat.le_of_ble_eq_true rfl)
  rw [lg_entry_eq]
  generalize (lg_sl ([.ref p0]) ++ List.replicate (1 - (lg_sl ([.ref p0])).length) Slot.unset).toArray = ls at hl ⊢
  have hl : lv_has ls 1 [(0, .ref p0)] := hl
  exact w_fJ2_init C hin _ hm ls hl
theorem ft_J4 : FT TJ4 4 tyJ4 := ⟨tyJ4_ok, nmJ4⟩
theorem flJ4_58 : FL RJ4 58 17 1 RJ4 TJ4 4 := ⟨in_J4, rfl, by decide, q390⟩
noncomputable def fJ4_size (PL : Nat → Bool) (V0 : Mem) (p0 : Nat) : Option (Int32) :=
  gb (kd PL V0 p0 17) (
  some (gI V0 p0 1))
set_option maxHeartbeats 4000000 in
theorem w_fJ4_size (C : Cx G p s m args meth c RJ4 cJ4_size 1 (some .int)) {PL : Nat → Bool} {V0 : Mem} {rx : Int32} (hW0 : pl G PL V0 s.heap) : ∀ (p0 : Nat), fJ4_size PL V0 p0 = some rx → ∀ (ls : Array Slot), lv_has ls 1 [(0, .ref p0)] → W p l e (rmP 0 0) s m args below meth c s.heap [] 0 0 (MQ below (QcP (some (.int rx))) args s 0 0 (fun _ => False)) (F0 m 0 ls []) := by
  intro p0 hm ls hl
  obtain ⟨hx, hb, hr, hlk, hml, hown, hts, hK⟩ := id C
  unfold fJ4_size at hm
  refine lv_aload_n (pc := 0) hx hb dJ4_size_0 rfl (lv_at hl 0 rfl) ?_
  obtain ⟨hg1, hm⟩ := gb_some hm
  refine rk_get (pc := 1) hx hb hts hown hK (pl_rg hW0) flJ4_58 p0 (Nat.lt_succ_self _) (Nat.zero_add _).symm (shP_17 (kd_PL hg1) (kd_k hg1)) (x := .int (gI V0 p0 1)) rfl dJ4_size_1 ?_
  have e9 := rs1 hm
  subst e9
  exact rk_iretP (pc := 4) hx hb hr hlk rfl dJ4_size_4
set_option maxHeartbeats 4000000 in
theorem ct_J4_size {G : Gv} {l : Launch} {PL : Nat → Bool} {V0 : Mem} {p0 : Nat} {rx : Int32} (hm : fJ4_size PL V0 p0 = some rx) : CP G l yJ4_size (ws_ yJ4_size cJ4_size 1 (some .int)) 0 0 [.ref p0] (fun H => pl G PL V0 H) (some (.int rx)) := by
  refine Met.ofW (cc := cJ4_size) (maxL := 1) (ret := (some .int)) (by decide +kernel) rfl ?_
  intro p e s m args below meth c s₁ B hml hv
  obtain ⟨rfl, hW0, hK⟩ := hv
  have hts := atoms_spec (ws := ws_ yJ4_size cJ4_size 1 (some .int)) B.pre
  have hts : ∀ w ∈ lw_all, w.before _ s = true := fun w h => hts w (List.mem_cons_of_mem _ h)
  have C : Cx G p s m _ meth c RJ4 cJ4_size 1 (some .int) := ⟨B.exec, B.bytes, B.returns, B.notSynchronized, hml, findClass_of_methodNamed B.named, hts, hK⟩
  have hl := lv_entry ([.ref p0]) (n := 1) (Nat.le_of_ble_eq_true rfl)
  rw [lg_entry_eq]
  generalize (lg_sl ([.ref p0]) ++ List.replicate (1 - (lg_sl ([.ref p0])).length) Slot.unset).toArray = ls at hl ⊢
  have hl : lv_has ls 1 [(0, .ref p0)] := hl
  exact w_fJ4_size C hW0 _ hm ls hl
theorem yn_J4_size : YN yJ4_size 0 := by
  unfold YN
  decide +kernel
theorem lfJ2_7_J4 : LU RJ2 7 RJ4 "java/util/AbstractCollection" ⟨"java/util/AbstractCollection", "size", "()I"⟩ yJ4_size cJ4_size 1 (some .int) := ⟨⟨q1252, q1254, q1255, q1001, q123⟩, q1003, by decide, by decide⟩
theorem ynx_J2_7 : YN ⟨"java/util/AbstractCollection", "size", "()I"⟩ 0 := by
  unfold YN
  decide +kernel
noncomputable def fJ2_isEmpty (PL : Nat → Bool) (V0 : Mem) (p0 : Nat) : Option (Int32) :=
  gb (kd PL V0 p0 17) (
  ob (fJ4_size PL V0 p0) fun r2 =>
  if r2 = 0 then (
  some (1 : Int32))
  else (
  some (0 : Int32)))
set_option maxHeartbeats 4000000 in
theorem w_fJ2_isEmpty (C : Cx G p s m args meth c RJ2 cJ2_isEmpty 1 (some .boolean)) {PL : Nat → Bool} {V0 : Mem} {rx : Int32} (hW0 : pl G PL V0 s.heap) : ∀ (p0 : Nat), fJ2_isEmpty PL V0 p0 = some rx → ∀ (ls : Array Slot), lv_has ls 1 [(0, .ref p0)] → W p l e (rmP 1 20) s m args below meth c s.heap [] 0 0 (MQ below (QcP (some (.int rx))) args s 0 0 (fun _ => False)) (F0 m 0 ls []) := by
  intro p0 hm ls hl
  obtain ⟨hx, hb, hr, hlk, hml, hown, hts, hK⟩ := id C
  unfold fJ2_isEmpty at hm
  refine lv_aload_n (pc := 0) hx hb dJ2_isEmpty_0 rfl (lv_at hl 0 rfl) ?_
  obtain ⟨hg1, hm⟩ := gb_some hm
  obtain ⟨r2, hq3, hm⟩ := ob_some hm
  refine rp_PU (pc := 1) (As := []) (rest := []) hx hb hml hown hts hK lfJ2_7_J4 q1253 ynx_J2_7 (ct_J4_size (G := G) (l := l) hq3) ⟨Nat.le_of_ble_eq_true rfl, Nat.le_of_ble_eq_true rfl⟩ (rp_recv hK hW0 (C := RJ4) (T := TJ4) (N := 4) rfl (shP_17 (kd_PL hg1) (kd_k hg1))) hW0 rfl rfl hl.1 (Nat.le_of_ble_eq_true rfl) dJ2_isEmpty_1 ⟨Nat.zero_le _, Nat.zero_le _⟩ ?_
  refine W.eq (g2 := F0 m 4 ls [.int r2]) rfl ?_
  refine lv_if_ne (pc := 4) (tgt := 11) hx hb dJ2_isEmpty_4 (by decide) (fun c4 => ?_) (fun c4 => ?_)
  · have hm := ite_f c4 hm
    refine lv_iconst (pc := 11) (v := (0 : Int32)) hx hb dJ2_isEmpty_11 (by decide) ?_
    have e9 := rs1 hm
    subst e9
    exact rk_zretP (pc := 12) hx hb hr hlk rfl rfl dJ2_isEmpty_12
  · have hm := ite_t c4 hm
    refine lv_iconst (pc := 7) (v := (1 : Int32)) hx hb dJ2_isEmpty_7 (by decide) ?_
    refine lv_goto (pc := 8) (tgt := 12) hx hb dJ2_isEmpty_8 (by decide) ?_
    have e9 := rs1 hm
    subst e9
    exact rk_zretP (pc := 12) hx hb hr hlk rfl rfl dJ2_isEmpty_12
set_option maxHeartbeats 4000000 in
theorem ct_J2_isEmpty {G : Gv} {l : Launch} {PL : Nat → Bool} {V0 : Mem} {p0 : Nat} {rx : Int32} (hm : fJ2_isEmpty PL V0 p0 = some rx) : CP G l yJ2_isEmpty (ws_ yJ2_isEmpty cJ2_isEmpty 1 (some .boolean)) 1 20 [.ref p0] (fun H => pl G PL V0 H) (some (.int rx)) := by
  refine Met.ofW (cc := cJ2_isEmpty) (maxL := 1) (ret := (some .boolean)) (by decide +kernel) rfl ?_
  intro p e s m args below meth c s₁ B hml hv
  obtain ⟨rfl, hW0, hK⟩ := hv
  have hts := atoms_spec (ws := ws_ yJ2_isEmpty cJ2_isEmpty 1 (some .boolean)) B.pre
  have hts : ∀ w ∈ lw_all, w.before _ s = true := fun w h => hts w (List.mem_cons_of_mem _ h)
  have C : Cx G p s m _ meth c RJ2 cJ2_isEmpty 1 (some .boolean) := ⟨B.exec, B.bytes, B.returns, B.notSynchronized, hml, findClass_of_methodNamed B.named, hts, hK⟩
  have hl := lv_entry ([.ref p0]) (n := 1) (Nat.le_of_ble_eq_true rfl)
  rw [lg_entry_eq]
  generalize (lg_sl ([.ref p0]) ++ List.replicate (1 - (lg_sl ([.ref p0])).length) Slot.unset).toArray = ls at hl ⊢
  have hl : lv_has ls 1 [(0, .ref p0)] := hl
  exact w_fJ2_isEmpty C hW0 _ hm ls hl
noncomputable def fJ0_init (p0 : Nat) : Option (Unit) :=
  some ()
set_option maxHeartbeats 4000000 in
theorem w_fJ0_init (C : Cx G p s m args meth c RJ0 cJ0_init 1 none) (hin : meth.name = "<init>") : ∀ (p0 : Nat), fJ0_init p0 = some () → ∀ (ls : Array Slot), lv_has ls 1 [(0, .ref p0)] → W p l e (rmP 1 32) s m args below meth c s.heap [] 0 0 (MQ below (QcP none) args s 0 0 (fun _ => False)) (F0 m 0 ls []) := by
  intro p0 hm ls hl
  obtain ⟨hx, hb, hr, hlk, hml, hown, hts, hK⟩ := id C
  unfold fJ0_init at hm
  refine lv_aload_n (pc := 0) hx hb dJ0_init_0 rfl (lv_at hl 0 rfl) ?_
  refine W.objInit  hx hb hown (hts _ q332) (hts _ q159) (hts _ q160) rfl (by rw [hml]; exact hl.1) rfl dJ0_init_1 (Nat.le_of_ble_eq_true rfl) (Nat.le_of_ble_eq_true rfl) ?_
  refine W.eq (g2 := F0 m 4 ls []) rfl ?_
  exact rk_vretP (pc := 4) hx hb hr hlk rfl dJ0_init_4
set_option maxHeartbeats 4000000 in
theorem ct_J0_init {G : Gv} {l : Launch} {p0 : Nat} (hm : fJ0_init p0 = some ()) : CP G l yJ0_init (ws_ yJ0_init cJ0_init 1 none) 1 32 [.ref p0] (fun H => True) none := by
  refine Met.ofW (cc := cJ0_init) (maxL := 1) (ret := none) (by decide +kernel) rfl ?_
  intro p e s m args below meth c s₁ B hml hv
  obtain ⟨rfl, -, hK⟩ := hv
  have hin : meth.name = "<init>" := (name_of_methodNamed B.named B.method).1
  have hts := atoms_spec (ws := ws_ yJ0_init cJ0_init 1 none) B.pre
  have hts : ∀ w ∈ lw_all, w.before _ s = true := fun w h => hts w (List.mem_cons_of_mem _ h)
  have C : Cx G p s m _ meth c RJ0 cJ0_init 1 none := ⟨B.exec, B.bytes, B.returns, B.notSynchronized, hml, findClass_of_methodNamed B.named, hts, hK⟩
  have hl := lv_entry ([.ref p0]) (n := 1) (Nat.le_of_ble_eq_true rfl)
  rw [lg_entry_eq]
  generalize (lg_sl ([.ref p0]) ++ List.replicate (1 - (lg_sl ([.ref p0])).length) Slot.unset).toArray = ls at hl ⊢
  have hl : lv_has ls 1 [(0, .ref p0)] := hl
  exact w_fJ0_init C hin _ hm ls hl
theorem yn_J2_init : YN yJ2_init 0 := by
  unfold YN
  decide +kernel
theorem lkJ12_1 : LI RJ12 1 yJ2_init cJ2_init 1 := ⟨q1522, q384, q121, q385, rfl⟩
noncomputable def fJ12_init (p0 : Nat) : Option (Unit) :=
  ob (fJ2_init p0) fun _ =>
  some ()
set_option maxHeartbeats 4000000 in
theorem w_fJ12_init (C : Cx G p s m args meth c RJ12 cJ12_init 1 none) (hin : meth.name = "<init>") : ∀ (p0 : Nat), fJ12_init p0 = some () → ∀ (ls : Array Slot), lv_has ls 1 [(0, .ref p0)] → W p l e (rmP 2 52) s m args below meth c s.heap [] 0 0 (MQ below (QcP none) args s 0 0 (fun _ => False)) (F0 m 0 ls []) := by
  intro p0 hm ls hl
  obtain ⟨hx, hb, hr, hlk, hml, hown, hts, hK⟩ := id C
  unfold fJ12_init at hm
  refine lv_aload_n (pc := 0) hx hb dJ12_init_0 rfl (lv_at hl 0 rfl) ?_
  obtain ⟨_, hq1, hm⟩ := ob_some hm
  refine rk_PI (pc := 1) (As := []) (rest := []) hx hb hml hown hts hK lkJ12_1 yn_J2_init (ct_J2_init (G := G) (l := l) hq1) ⟨Nat.le_of_ble_eq_true rfl, Nat.le_of_ble_eq_true rfl⟩ trivial rfl rfl hl.1 (Nat.le_of_ble_eq_true rfl) dJ12_init_1 ⟨Nat.zero_le _, Nat.zero_le _⟩ ?_
  refine W.eq (g2 := F0 m 4 ls []) rfl ?_
  exact rk_vretP (pc := 4) hx hb hr hlk rfl dJ12_init_4
set_option maxHeartbeats 4000000 in
theorem ct_J12_init {G : Gv} {l : Launch} {p0 : Nat} (hm : fJ12_init p0 = some ()) : CP G l yJ12_init (ws_ yJ12_init cJ12_init 1 none) 2 52 [.ref p0] (fun H => True) none := by
  refine Met.ofW (cc := cJ12_init) (maxL := 1) (ret := none) (by decide +kernel) rfl ?_
  intro p e s m args below meth c s₁ B hml hv
  obtain ⟨rfl, -, hK⟩ := hv
  have hin : meth.name = "<init>" := (name_of_methodNamed B.named B.method).1
  have hts := atoms_spec (ws := ws_ yJ12_init cJ12_init 1 none) B.pre
  have hts : ∀ w ∈ lw_all, w.before _ s = true := fun w h => hts w (List.mem_cons_of_mem _ h)
  have C : Cx G p s m _ meth c RJ12 cJ12_init 1 none := ⟨B.exec, B.bytes, B.returns, B.notSynchronized, hml, findClass_of_methodNamed B.named, hts, hK⟩
  have hl := lv_entry ([.ref p0]) (n := 1) (Nat.le_of_ble_eq_true rfl)
  rw [lg_entry_eq]
  generalize (lg_sl ([.ref p0]) ++ List.replicate (1 - (lg_sl ([.ref p0])).length) Slot.unset).toArray = ls at hl ⊢
  have hl : lv_has ls 1 [(0, .ref p0)] := hl
  exact w_fJ12_init C hin _ hm ls hl
noncomputable def fJ10_requireNonNull (p0 : Nat) : Option (Option Nat) :=
  some (some p0)
set_option maxHeartbeats 4000000 in
theorem w_fJ10_requireNonNull (C : Cx G p s m args meth c RJ10 cJ10_requireNonNull 1 (some (.object "java/lang/Object"))) {rx : Option Nat} : ∀ (p0 : Nat), fJ10_requireNonNull p0 = some rx → ∀ (ls : Array Slot), lv_has ls 1 [(0, .ref p0)] → W p l e (rmP 0 0) s m args below meth c s.heap [] 0 0 (MQ below (QcP (some (va_rf rx))) args s 0 0 (fun _ => False)) (F0 m 0 ls []) := by
  intro p0 hm ls hl
  obtain ⟨hx, hb, hr, hlk, hml, hown, hts, hK⟩ := id C
  unfold fJ10_requireNonNull at hm
  refine lv_aload_n (pc := 0) hx hb dJ10_requireNonNull_0 rfl (lv_at hl 0 rfl) ?_
  refine lv_ifnonnull (pc := 1) (tgt := 12) hx hb dJ10_requireNonNull_1 (by decide) ?_
  refine lv_aload_n (pc := 12) hx hb dJ10_requireNonNull_12 rfl (lv_at hl 0 rfl) ?_
  have e9 := rs1 hm
  subst e9
  exact rp_aretP (x := (some p0)) (pc := 13) hx hb hr (Or.inl ⟨_, rfl⟩) hlk rfl dJ10_requireNonNull_13
set_option maxHeartbeats 4000000 in
theorem ct_J10_requireNonNull {G : Gv} {l : Launch} {p0 : Nat} {rx : Option Nat} (hm : fJ10_requireNonNull p0 = some rx) : CP G l yJ10_requireNonNull (ws_ yJ10_requireNonNull cJ10_requireNonNull 1 (some (.object "java/lang/Object"))) 0 0 [.ref p0] (fun H => True) (some (va_rf rx)) := by
  refine Met.ofW (cc := cJ10_requireNonNull) (maxL := 1) (ret := (some (.object "java/lang/Object"))) (by decide +kernel) rfl ?_
  intro p e s m args below meth c s₁ B hml hv
  obtain ⟨rfl, -, hK⟩ := hv
  have hts := atoms_spec (ws := ws_ yJ10_requireNonNull cJ10_requireNonNull 1 (some (.object "java/lang/Object"))) B.pre
  have hts : ∀ w ∈ lw_all, w.before _ s = true := fun w h => hts w (List.mem_cons_of_mem _ h)
  have C : Cx G p s m _ meth c RJ10 cJ10_requireNonNull 1 (some (.object "java/lang/Object")) := ⟨B.exec, B.bytes, B.returns, B.notSynchronized, hml, findClass_of_methodNamed B.named, hts, hK⟩
  have hl := lv_entry ([.ref p0]) (n := 1) (Nat.le_of_ble_eq_true rfl)
  rw [lg_entry_eq]
  generalize (lg_sl ([.ref p0]) ++ List.replicate (1 - (lg_sl ([.ref p0])).length) Slot.unset).toArray = ls at hl ⊢
  have hl : lv_has ls 1 [(0, .ref p0)] := hl
  exact w_fJ10_requireNonNull C _ hm ls hl
theorem flJ4_93 : FL RJ4 93 17 3 RJ4 TJ4 4 := ⟨in_J4, rfl, by decide, q392⟩
theorem flJ4_17 : FL RJ4 17 17 0 RJ4 TJ4 4 := ⟨in_J4, rfl, by decide, q389⟩
noncomputable def fJ4_clear_22 (PL : Nat → Bool) (k22 : Mem → Nat → Option Nat → Int32 → Int32 → Option (Mem)) (v0 : Mem) (p0 : Nat) (o1 : Option Nat) (i2 : Int32) (i3 : Int32) : Option (Mem) :=
  if i3 ≤ i2 then (
  gb (kd PL v0 p0 17) (
  lm (sI v0 p0 1 (0 : Int32)) fun v0_18 =>
  some v0_18))
  else (
  ob o1 fun p27 =>
  gb (ka PL v0 p27 44) (
  gb (inR i2 (gI v0 p27 98).toNatClampNeg) (
  lm (sR v0 p27 i2.toNatClampNeg none) fun v0_31 =>
  k22 v0_31 p0 (some p27) (i2 + (1 : Int32)) i3)))
noncomputable def fJ4_clear (PL : Nat → Bool) (v0 : Mem) (p0 : Nat) : Option (Mem) :=
  gb (kd PL v0 p0 17) (
  gb (kd PL v0 p0 17) (
  lm (sI v0 p0 3 ((gI v0 p0 3) + (1 : Int32))) fun v0_3 =>
  gb (kd PL v0_3 p0 17) (
  lo (gR v0_3 p0 0) fun o13 =>
  gb (kd PL v0_3 p0 17) (
  lq5 (fJ4_clear_22 PL) FU v0_3 p0 o13 (0 : Int32) (gI v0_3 p0 1)))))
set_option maxHeartbeats 4000000 in
theorem w_fJ4_clear_22 (C : Cx G p s m args meth c RJ4 cJ4_clear 4 none) {PL : Nat → Bool} {vP0 : Mem} {rw0 : Mem} {k22 : Mem → Nat → Option Nat → Int32 → Int32 → Option (Mem)} (hk22 : ∀ (v0 : Mem) (p0 : Nat) (o1 : Option Nat) (i2 : Int32) (i3 : Int32), k22 v0 p0 o1 i2 i3 = some rw0 → ∀ (H : Heap) (locs : List Loc) (ls : Array Slot), pl G PL v0 H → va_S (FA (fP PL vP0) s.heap.size) s.heap H locs → H.size = s.heap.size → KM vP0 v0 s.heap.size → lv_has ls 4 [(0, .ref p0), (1, va_rf o1), (2, .int i2), (3, .int i3)] → W p l e (rmT 0 0 0 0) s m args below meth c H locs 0 0 (MQ below (QcT (FA (fP PL vP0) s.heap.size) (fun ov H => ov = none ∧ pl G PL rw0 H ∧ H.size = s.heap.size ∧ KM vP0 rw0 s.heap.size)) args s 0 0 (FA (fP PL vP0) s.heap.size)) (F0 m 22 ls [])) : ∀ (v0 : Mem) (p0 : Nat) (o1 : Option Nat) (i2 : Int32) (i3 : Int32), fJ4_clear_22 PL k22 v0 p0 o1 i2 i3 = some rw0 → ∀ (H : Heap) (locs : List Loc) (ls : Array Slot), pl G PL v0 H → va_S (FA (fP PL vP0) s.heap.size) s.heap H locs → H.size = s.heap.size → KM vP0 v0 s.heap.size → lv_has ls 4 [(0, .ref p0), (1, va_rf o1), (2, .int i2), (3, .int i3)] → W p l e (rmT 0 0 0 0) s m args below meth c H locs 0 0 (MQ below (QcT (FA (fP PL vP0) s.heap.size) (fun ov H => ov = none ∧ pl G PL rw0 H ∧ H.size = s.heap.size ∧ KM vP0 rw0 s.heap.size)) args s 0 0 (FA (fP PL vP0) s.heap.size)) (F0 m 22 ls []) := by
  intro v0 p0 o1 i2 i3 hm H locs ls hW0 hS hz hKM hl
  obtain ⟨hx, hb, hr, hlk, hml, hown, hts, hK⟩ := id C
  unfold fJ4_clear_22 at hm
  refine lv_iload_n (pc := 22) hx hb dJ4_clear_22 rfl (lv_at hl 2 rfl) ?_
  refine lv_iload_n (pc := 23) hx hb dJ4_clear_23 rfl (lv_at hl 3 rfl) ?_
  refine lv_icmp_ge (pc := 24) (tgt := 37) hx hb dJ4_clear_24 (by decide) (fun c16 => ?_) (fun c16 => ?_)
  · have hm := ite_t c16 hm
    refine lv_aload_n (pc := 37) hx hb dJ4_clear_37 rfl (lv_at hl 0 rfl) ?_
    refine lv_iconst (pc := 38) (v := (0 : Int32)) hx hb dJ4_clear_38 (by decide) ?_
    obtain ⟨hg17, hm⟩ := gb_some hm
    refine rp_put (pc := 39) (q := p0) hx hb hts hown hK hW0 hS flJ4_58 ft_J4 (kd_A hKM hg17 (by decide)) (shP_17 (kd_PL hg17) (kd_k hg17)) rfl (x := .int (0 : Int32)) rfl rfl (Nat.le_of_ble_eq_true rfl) (sI v0 p0 1 (0 : Int32)) sI_ne (by rw [sI_eq]; exact shP_17 (kd_PL hg17) (kd_k hg17)) dJ4_clear_39 (fun H19 locs20 hW21 hS22 hz23 hkp24 => ?_)
    have hKM25 := KM.sI (o := p0) (j := 1) (x := (0 : Int32)) hKM (by decide)
    obtain ⟨v0_18, he9, hm⟩ := lm_some hm
    rw [he9] at hW21 hKM25
    have hz26 := hz23.trans hz
    have e9 := rs1 hm
    subst e9
    exact rk_vret (pc := 42) hx hb hr hlk hS22 ⟨rfl, hW21, hz26, hKM25⟩ dJ4_clear_42
  · have hm := ite_f c16 hm
    refine lv_aload_nO (pc := 27) hx hb dJ4_clear_27 rfl (lv_at hl 1 rfl) ?_
    refine lv_iload_n (pc := 28) hx hb dJ4_clear_28 rfl (lv_at hl 2 rfl) ?_
    refine lv_null (pc := 29) hx hb dJ4_clear_29 ?_
    obtain ⟨p27, he28, hm⟩ := ob_some hm
    subst he28
    obtain ⟨hg29, hm⟩ := gb_some hm
    obtain ⟨hg30, hm⟩ := gb_some hm
    refine rp_aastN (pc := 30) hx hb hK hW0 hS (kd_A hKM (ka_kd hg29) (by decide)) hg29 hg30 dJ4_clear_30 (fun H32 locs33 hW34 hS35 hz36 hkp37 => ?_)
    have hKM38 := KM.sR (o := p27) (j := i2.toNatClampNeg) (x := none) hKM
    obtain ⟨v0_31, he9, hm⟩ := lm_some hm
    rw [he9] at hW34 hKM38
    have hz39 := hz36.trans hz
    refine lv_iinc (pc := 31) (v := (i2 + (1 : Int32))) (lv' := [(2, .int (i2 + (1 : Int32))), (0, .ref p0), (1, .ref p27), (3, .int i3)]) hx hb dJ4_clear_31 hl (k := 2) rfl rfl (by decide) rfl (fun ls hl => ?_)
    refine lv_goto (pc := 34) (tgt := 22) hx hb dJ4_clear_34 (by decide) ?_
    exact hk22 v0_31 p0 (some p27) (i2 + (1 : Int32)) i3 hm H32 locs33 ls hW34 hS35 hz39 hKM38 (lv_sub hl [1, 2, 0, 3] rfl)
theorem w_fJ4_clear_22_l (C : Cx G p s m args meth c RJ4 cJ4_clear 4 none) {PL : Nat → Bool} {vP0 : Mem} {rw0 : Mem} : ∀ (n : Nat) (v0 : Mem) (p0 : Nat) (o1 : Option Nat) (i2 : Int32) (i3 : Int32), lq5 (fJ4_clear_22 PL) n v0 p0 o1 i2 i3 = some rw0 → ∀ (H : Heap) (locs : List Loc) (ls : Array Slot), pl G PL v0 H → va_S (FA (fP PL vP0) s.heap.size) s.heap H locs → H.size = s.heap.size → KM vP0 v0 s.heap.size → lv_has ls 4 [(0, .ref p0), (1, va_rf o1), (2, .int i2), (3, .int i3)] → W p l e (rmT 0 0 0 0) s m args below meth c H locs 0 0 (MQ below (QcT (FA (fP PL vP0) s.heap.size) (fun ov H => ov = none ∧ pl G PL rw0 H ∧ H.size = s.heap.size ∧ KM vP0 rw0 s.heap.size)) args s 0 0 (FA (fP PL vP0) s.heap.size)) (F0 m 22 ls []) := by
  intro n
  induction n with
  | zero => intro v0 p0 o1 i2 i3 hm; exact (lq5_0 hm).elim
  | succ n ih => intro v0 p0 o1 i2 i3 hm; exact w_fJ4_clear_22 C ih v0 p0 o1 i2 i3 (lq5_s hm)
set_option maxHeartbeats 4000000 in
theorem w_fJ4_clear (C : Cx G p s m args meth c RJ4 cJ4_clear 4 none) {PL : Nat → Bool} {vP0 : Mem} {rw0 : Mem} : ∀ (v0 : Mem) (p0 : Nat), fJ4_clear PL v0 p0 = some rw0 → ∀ (H : Heap) (locs : List Loc) (ls : Array Slot), pl G PL v0 H → va_S (FA (fP PL vP0) s.heap.size) s.heap H locs → H.size = s.heap.size → KM vP0 v0 s.heap.size → lv_has ls 4 [(0, .ref p0)] → W p l e (rmT 0 0 0 0) s m args below meth c H locs 0 0 (MQ below (QcT (FA (fP PL vP0) s.heap.size) (fun ov H => ov = none ∧ pl G PL rw0 H ∧ H.size = s.heap.size ∧ KM vP0 rw0 s.heap.size)) args s 0 0 (FA (fP PL vP0) s.heap.size)) (F0 m 0 ls []) := by
  intro v0 p0 hm H locs ls hW0 hS hz hKM hl
  obtain ⟨hx, hb, hr, hlk, hml, hown, hts, hK⟩ := id C
  unfold fJ4_clear at hm
  refine lv_aload_n (pc := 0) hx hb dJ4_clear_0 rfl (lv_at hl 0 rfl) ?_
  refine lv_dup (pc := 1) hx hb dJ4_clear_1 rfl ?_
  obtain ⟨hg1, hm⟩ := gb_some hm
  refine rk_get (pc := 2) hx hb hts hown hK (pl_rg hW0) flJ4_93 p0 (Nat.lt_succ_self _) (Nat.zero_add _).symm (shP_17 (kd_PL hg1) (kd_k hg1)) (x := .int (gI v0 p0 3)) rfl dJ4_clear_2 ?_
  refine lv_iconst (pc := 5) (v := (1 : Int32)) hx hb dJ4_clear_5 (by decide) ?_
  refine lv_iadd (pc := 6) hx hb dJ4_clear_6 ?_
  obtain ⟨hg2, hm⟩ := gb_some hm
  refine rp_put (pc := 7) (q := p0) hx hb hts hown hK hW0 hS flJ4_93 ft_J4 (kd_A hKM hg2 (by decide)) (shP_17 (kd_PL hg2) (kd_k hg2)) rfl (x := .int ((gI v0 p0 3) + (1 : Int32))) rfl rfl (Nat.le_of_ble_eq_true rfl) (sI v0 p0 3 ((gI v0 p0 3) + (1 : Int32))) sI_ne (by rw [sI_eq]; exact shP_17 (kd_PL hg2) (kd_k hg2)) dJ4_clear_7 (fun H4 locs5 hW6 hS7 hz8 hkp9 => ?_)
  have hKM10 := KM.sI (o := p0) (j := 3) (x := ((gI v0 p0 3) + (1 : Int32))) hKM (by decide)
  obtain ⟨v0_3, he9, hm⟩ := lm_some hm
  rw [he9] at hW6 hKM10
  have hz11 := hz8.trans hz
  refine lv_aload_n (pc := 10) hx hb dJ4_clear_10 rfl (lv_at hl 0 rfl) ?_
  obtain ⟨hg12, hm⟩ := gb_some hm
  obtain ⟨o13, he14, hm⟩ := lo_some hm
  refine rk_get (pc := 11) hx hb hts hown hK (pl_rg hW6) flJ4_17 p0 (Nat.lt_succ_self _) (Nat.zero_add _).symm (shP_17 (kd_PL hg12) (kd_k hg12)) (x := va_rf o13) (congrArg (fun z => some (va_rf z)) he14) dJ4_clear_11 ?_
  refine lv_astore_nO (pc := 14) (lv' := [(1, va_rf o13), (0, .ref p0)]) hx hb dJ4_clear_14 rfl hl (by decide) rfl (fun ls hl => ?_)
  refine lv_iconst (pc := 15) (v := (0 : Int32)) hx hb dJ4_clear_15 (by decide) ?_
  refine lv_istore_n (pc := 16) (lv' := [(2, .int (0 : Int32)), (1, va_rf o13), (0, .ref p0)]) hx hb dJ4_clear_16 rfl hl (by decide) (by simp [List.filter, cat_rf]) (fun ls hl => ?_)
  refine lv_aload_n (pc := 17) hx hb dJ4_clear_17 rfl (lv_at hl 2 rfl) ?_
  obtain ⟨hg15, hm⟩ := gb_some hm
  refine rk_get (pc := 18) hx hb hts hown hK (pl_rg hW6) flJ4_58 p0 (Nat.lt_succ_self _) (Nat.zero_add _).symm (shP_17 (kd_PL hg15) (kd_k hg15)) (x := .int (gI v0_3 p0 1)) rfl dJ4_clear_18 ?_
  refine lv_istore_n (pc := 21) (lv' := [(3, .int (gI v0_3 p0 1)), (2, .int (0 : Int32)), (1, va_rf o13), (0, .ref p0)]) hx hb dJ4_clear_21 rfl hl (by decide) rfl (fun ls hl => ?_)
  exact (w_fJ4_clear_22_l C FU) v0_3 p0 o13 (0 : Int32) (gI v0_3 p0 1) hm H4 locs5 ls hW6 hS7 hz11 hKM10 (lv_sub hl [3, 2, 1, 0] rfl)
set_option maxHeartbeats 4000000 in
theorem ct_J4_clear {G : Gv} {l : Launch} {PL : Nat → Bool} {v0 : Mem} {p0 : Nat} {rw0 : Mem} {sz : Nat} (hm : fJ4_clear PL v0 p0 = some rw0) : CT G l yJ4_clear (ws_ yJ4_clear cJ4_clear 4 none) 0 0 0 0 [.ref p0] (fP PL v0) sz (fun H => pl G PL v0 H) (fun ov H => ov = none ∧ pl G PL rw0 H ∧ H.size = sz ∧ KM v0 rw0 sz) := by
  refine Met.ofW (cc := cJ4_clear) (maxL := 4) (ret := none) (by decide +kernel) rfl ?_
  intro p e s m args below meth c s₁ B hml hv
  obtain ⟨rfl, ⟨hz, hW0⟩, hK⟩ := hv
  subst hz
  have hts := atoms_spec (ws := ws_ yJ4_clear cJ4_clear 4 none) B.pre
  have hts : ∀ w ∈ lw_all, w.before _ s = true := fun w h => hts w (List.mem_cons_of_mem _ h)
  have C : Cx G p s m _ meth c RJ4 cJ4_clear 4 none := ⟨B.exec, B.bytes, B.returns, B.notSynchronized, hml, findClass_of_methodNamed B.named, hts, hK⟩
  have hl := lv_entry ([.ref p0]) (n := 4) (Nat.le_of_ble_eq_true rfl)
  rw [lg_entry_eq]
  generalize (lg_sl ([.ref p0]) ++ List.replicate (4 - (lg_sl ([.ref p0])).length) Slot.unset).toArray = ls at hl ⊢
  have hl : lv_has ls 4 [(0, .ref p0)] := hl
  exact w_fJ4_clear C _ _ hm s.heap [] ls hW0 va_S.rf rfl KM.rf hl
noncomputable def fJ4_peek (PL : Nat → Bool) (V0 : Mem) (p0 : Nat) : Option (Option Nat) :=
  gb (kd PL V0 p0 17) (
  lo (gR V0 p0 0) fun o2 =>
  ob o2 fun p4 =>
  gb (ka PL V0 p4 44) (
  gb (inR (0 : Int32) (gI V0 p4 98).toNatClampNeg) (
  lo (gR V0 p4 (0 : Int32).toNatClampNeg) fun o8 =>
  some o8)))
set_option maxHeartbeats 4000000 in
theorem w_fJ4_peek (C : Cx G p s m args meth c RJ4 cJ4_peek 1 (some (.object "java/lang/Object"))) {PL : Nat → Bool} {V0 : Mem} {rx : Option Nat} (hW0 : pl G PL V0 s.heap) : ∀ (p0 : Nat), fJ4_peek PL V0 p0 = some rx → ∀ (ls : Array Slot), lv_has ls 1 [(0, .ref p0)] → W p l e (rmP 0 0) s m args below meth c s.heap [] 0 0 (MQ below (QcP (some (va_rf rx))) args s 0 0 (fun _ => False)) (F0 m 0 ls []) := by
  intro p0 hm ls hl
  obtain ⟨hx, hb, hr, hlk, hml, hown, hts, hK⟩ := id C
  unfold fJ4_peek at hm
  refine lv_aload_n (pc := 0) hx hb dJ4_peek_0 rfl (lv_at hl 0 rfl) ?_
  obtain ⟨hg1, hm⟩ := gb_some hm
  obtain ⟨o2, he3, hm⟩ := lo_some hm
  refine rk_get (pc := 1) hx hb hts hown hK (pl_rg hW0) flJ4_17 p0 (Nat.lt_succ_self _) (Nat.zero_add _).symm (shP_17 (kd_PL hg1) (kd_k hg1)) (x := va_rf o2) (congrArg (fun z => some (va_rf z)) he3) dJ4_peek_1 ?_
  refine lv_iconst (pc := 4) (v := (0 : Int32)) hx hb dJ4_peek_4 (by decide) ?_
  obtain ⟨p4, he5, hm⟩ := ob_some hm
  subst he5
  obtain ⟨hg6, hm⟩ := gb_some hm
  obtain ⟨hg7, hm⟩ := gb_some hm
  obtain ⟨o8, he9, hm⟩ := lo_some hm
  refine rp_aald (pc := 5) hx hb hK hW0 hg6 hg7 he9 dJ4_peek_5 ?_
  have e9 := rs1 hm
  subst e9
  exact rp_aretP (x := o8) (pc := 6) hx hb hr (Or.inl ⟨_, rfl⟩) hlk rfl dJ4_peek_6
set_option maxHeartbeats 4000000 in
theorem ct_J4_peek {G : Gv} {l : Launch} {PL : Nat → Bool} {V0 : Mem} {p0 : Nat} {rx : Option Nat} (hm : fJ4_peek PL V0 p0 = some rx) : CP G l yJ4_peek (ws_ yJ4_peek cJ4_peek 1 (some (.object "java/lang/Object"))) 0 0 [.ref p0] (fun H => pl G PL V0 H) (some (va_rf rx)) := by
  refine Met.ofW (cc := cJ4_peek) (maxL := 1) (ret := (some (.object "java/lang/Object"))) (by decide +kernel) rfl ?_
  intro p e s m args below meth c s₁ B hml hv
  obtain ⟨rfl, hW0, hK⟩ := hv
  have hts := atoms_spec (ws := ws_ yJ4_peek cJ4_peek 1 (some (.object "java/lang/Object"))) B.pre
  have hts : ∀ w ∈ lw_all, w.before _ s = true := fun w h => hts w (List.mem_cons_of_mem _ h)
  have C : Cx G p s m _ meth c RJ4 cJ4_peek 1 (some (.object "java/lang/Object")) := ⟨B.exec, B.bytes, B.returns, B.notSynchronized, hml, findClass_of_methodNamed B.named, hts, hK⟩
  have hl := lv_entry ([.ref p0]) (n := 1) (Nat.le_of_ble_eq_true rfl)
  rw [lg_entry_eq]
  generalize (lg_sl ([.ref p0]) ++ List.replicate (1 - (lg_sl ([.ref p0])).length) Slot.unset).toArray = ls at hl ⊢
  have hl : lv_has ls 1 [(0, .ref p0)] := hl
  exact w_fJ4_peek C hW0 _ hm ls hl
theorem df_J11 (fs : List Value) (h : fs = [.null, .null, .null, .null, .null, .int 0]) : ∀ j, j < 6 → defaultValue (tyJ11 j) = vp_V fs j := by
  subst h
  intro j hj
  match j, hj with
  | 0, _ => rfl
  | 1, _ => rfl
  | 2, _ => rfl
  | 3, _ => rfl
  | 4, _ => rfl
  | 5, _ => rfl
  | n + 6, h => exact absurd h (by omega)
theorem ft_J11 : FT TJ11 6 tyJ11 := ⟨tyJ11_ok, nmJ11⟩
theorem flJ11_9 : FL RJ11 9 18 5 RJ11 TJ11 6 := ⟨in_J11, rfl, by decide, q1412⟩
theorem flJ11_15 : FL RJ11 15 18 0 RJ11 TJ11 6 := ⟨in_J11, rfl, by decide, q1403⟩
theorem flJ11_19 : FL RJ11 19 18 1 RJ11 TJ11 6 := ⟨in_J11, rfl, by decide, q1406⟩
theorem flJ11_22 : FL RJ11 22 18 4 RJ11 TJ11 6 := ⟨in_J11, rfl, by decide, q1410⟩
noncomputable def fJ11_init (PL : Nat → Bool) (v0 : Mem) (p0 : Nat) (p1 : Nat) (p2 : Nat) (o3 : Option Nat) : Option (Mem) :=
  gb (kd PL v0 p0 18) (
  lm (sI v0 p0 5 (1 : Int32)) fun v0_2 =>
  gb (kd PL v0_2 p0 18) (
  lm (sR v0_2 p0 0 (some p1)) fun v0_12 =>
  gb (kd PL v0_12 p0 18) (
  lm (sR v0_12 p0 1 (some p2)) fun v0_22 =>
  gb (kd PL v0_22 p0 18) (
  lm (sR v0_22 p0 4 o3) fun v0_32 =>
  some v0_32))))
set_option maxHeartbeats 4000000 in
theorem w_fJ11_init (C : Cx G p s m args meth c RJ11 cJ11_init 4 none) {PL : Nat → Bool} {vP0 : Mem} {rw0 : Mem} (hin : meth.name = "<init>") : ∀ (v0 : Mem) (p0 : Nat) (p1 : Nat) (p2 : Nat) (o3 : Option Nat), fJ11_init PL v0 p0 p1 p2 o3 = some rw0 → ∀ (H : Heap) (locs : List Loc) (ls : Array Slot), pl G PL v0 H → va_S (FA (fP PL vP0) s.heap.size) s.heap H locs → H.size = s.heap.size → KM vP0 v0 s.heap.size → lv_has ls 4 [(0, .ref p0), (1, .ref p1), (2, .ref p2), (3, va_rf o3)] → W p l e (rmT 1 0 0 32) s m args below meth c H locs 0 0 (MQ below (QcT (FA (fP PL vP0) s.heap.size) (fun ov H => ov = none ∧ pl G PL rw0 H ∧ H.size = s.heap.size ∧ KM vP0 rw0 s.heap.size)) args s 0 0 (FA (fP PL vP0) s.heap.size)) (F0 m 0 ls []) := by
  intro v0 p0 p1 p2 o3 hm H locs ls hW0 hS hz hKM hl
  obtain ⟨hx, hb, hr, hlk, hml, hown, hts, hK⟩ := id C
  unfold fJ11_init at hm
  refine lv_aload_n (pc := 0) hx hb dJ11_init_0 rfl (lv_at hl 0 rfl) ?_
  refine W.objInit  hx hb hown (hts _ q1402) (hts _ q159) (hts _ q160) rfl (by rw [hml]; exact hl.1) rfl dJ11_init_1 (Nat.le_of_ble_eq_true rfl) (Nat.le_of_ble_eq_true rfl) ?_
  refine W.eq (g2 := F0 m 4 ls []) rfl ?_
  refine lv_aload_n (pc := 4) hx hb dJ11_init_4 rfl (lv_at hl 0 rfl) ?_
  refine lv_iconst (pc := 5) (v := (1 : Int32)) hx hb dJ11_init_5 (by decide) ?_
  obtain ⟨hg1, hm⟩ := gb_some hm
  refine rp_put (pc := 6) (q := p0) hx hb hts hown hK hW0 hS flJ11_9 ft_J11 (kd_A hKM hg1 (by decide)) (shP_18 (kd_PL hg1) (kd_k hg1)) rfl (x := .int (1 : Int32)) rfl rfl (Nat.le_of_ble_eq_true rfl) (sI v0 p0 5 (1 : Int32)) sI_ne (by rw [sI_eq]; exact shP_18 (kd_PL hg1) (kd_k hg1)) dJ11_init_6 (fun H3 locs4 hW5 hS6 hz7 hkp8 => ?_)
  have hKM9 := KM.sI (o := p0) (j := 5) (x := (1 : Int32)) hKM (by decide)
  obtain ⟨v0_2, he9, hm⟩ := lm_some hm
  rw [he9] at hW5 hKM9
  have hz10 := hz7.trans hz
  refine lv_aload_n (pc := 9) hx hb dJ11_init_9 rfl (lv_at hl 0 rfl) ?_
  refine lv_aload_n (pc := 10) hx hb dJ11_init_10 rfl (lv_at hl 1 rfl) ?_
  obtain ⟨hg11, hm⟩ := gb_some hm
  refine rp_put (pc := 11) (q := p0) hx hb hts hown hK hW5 hS6 flJ11_15 ft_J11 (kd_A hKM9 hg11 (by decide)) (shP_18 (kd_PL hg11) (kd_k hg11)) rfl (x := va_rf (some p1)) (rf_nar _ rfl (some p1)) (rf_fit _ rfl (some p1)) (Nat.le_of_ble_eq_true rfl) (sR v0_2 p0 0 (some p1)) sR_ne (by rw [sR_eq]; exact shP_18 (kd_PL hg11) (kd_k hg11)) dJ11_init_11 (fun H13 locs14 hW15 hS16 hz17 hkp18 => ?_)
  have hKM19 := KM.sR (o := p0) (j := 0) (x := (some p1)) hKM9
  obtain ⟨v0_12, he9, hm⟩ := lm_some hm
  rw [he9] at hW15 hKM19
  have hz20 := hz17.trans hz10
  refine lv_aload_n (pc := 14) hx hb dJ11_init_14 rfl (lv_at hl 0 rfl) ?_
  refine lv_aload_n (pc := 15) hx hb dJ11_init_15 rfl (lv_at hl 2 rfl) ?_
  obtain ⟨hg21, hm⟩ := gb_some hm
  refine rp_put (pc := 16) (q := p0) hx hb hts hown hK hW15 hS16 flJ11_19 ft_J11 (kd_A hKM19 hg21 (by decide)) (shP_18 (kd_PL hg21) (kd_k hg21)) rfl (x := va_rf (some p2)) (rf_nar _ rfl (some p2)) (rf_fit _ rfl (some p2)) (Nat.le_of_ble_eq_true rfl) (sR v0_12 p0 1 (some p2)) sR_ne (by rw [sR_eq]; exact shP_18 (kd_PL hg21) (kd_k hg21)) dJ11_init_16 (fun H23 locs24 hW25 hS26 hz27 hkp28 => ?_)
  have hKM29 := KM.sR (o := p0) (j := 1) (x := (some p2)) hKM19
  obtain ⟨v0_22, he9, hm⟩ := lm_some hm
  rw [he9] at hW25 hKM29
  have hz30 := hz27.trans hz20
  refine lv_aload_n (pc := 19) hx hb dJ11_init_19 rfl (lv_at hl 0 rfl) ?_
  refine lv_aload_nO (pc := 20) hx hb dJ11_init_20 rfl (lv_at hl 3 rfl) ?_
  obtain ⟨hg31, hm⟩ := gb_some hm
  refine rp_put (pc := 21) (q := p0) hx hb hts hown hK hW25 hS26 flJ11_22 ft_J11 (kd_A hKM29 hg31 (by decide)) (shP_18 (kd_PL hg31) (kd_k hg31)) rfl (x := va_rf o3) (rf_nar _ rfl o3) (rf_fit _ rfl o3) (Nat.le_of_ble_eq_true rfl) (sR v0_22 p0 4 o3) sR_ne (by rw [sR_eq]; exact shP_18 (kd_PL hg31) (kd_k hg31)) dJ11_init_21 (fun H33 locs34 hW35 hS36 hz37 hkp38 => ?_)
  have hKM39 := KM.sR (o := p0) (j := 4) (x := o3) hKM29
  obtain ⟨v0_32, he9, hm⟩ := lm_some hm
  rw [he9] at hW35 hKM39
  have hz40 := hz37.trans hz30
  have e9 := rs1 hm
  subst e9
  exact rk_vret (pc := 24) hx hb hr hlk hS36 ⟨rfl, hW35, hz40, hKM39⟩ dJ11_init_24
set_option maxHeartbeats 4000000 in
theorem ct_J11_init {G : Gv} {l : Launch} {PL : Nat → Bool} {v0 : Mem} {p0 : Nat} {p1 : Nat} {p2 : Nat} {o3 : Option Nat} {rw0 : Mem} {sz : Nat} (hm : fJ11_init PL v0 p0 p1 p2 o3 = some rw0) : CT G l yJ11_init (ws_ yJ11_init cJ11_init 4 none) 1 0 0 32 [.ref p0, .ref p1, .ref p2, va_rf o3] (fP PL v0) sz (fun H => pl G PL v0 H) (fun ov H => ov = none ∧ pl G PL rw0 H ∧ H.size = sz ∧ KM v0 rw0 sz) := by
  cases o3 with
  | none =>
    refine Met.ofW (cc := cJ11_init) (maxL := 4) (ret := none) (by decide +kernel) rfl ?_
    intro p e s m args below meth c s₁ B hml hv
    obtain ⟨rfl, ⟨hz, hW0⟩, hK⟩ := hv
    subst hz
    have hin : meth.name = "<init>" := (name_of_methodNamed B.named B.method).1
    have hts := atoms_spec (ws := ws_ yJ11_init cJ11_init 4 none) B.pre
    have hts : ∀ w ∈ lw_all, w.before _ s = true := fun w h => hts w (List.mem_cons_of_mem _ h)
    have C : Cx G p s m _ meth c RJ11 cJ11_init 4 none := ⟨B.exec, B.bytes, B.returns, B.notSynchronized, hml, findClass_of_methodNamed B.named, hts, hK⟩
    have hl := lv_entry ([.ref p0, .ref p1, .ref p2, va_rf none]) (n := 4) (Nat.le_of_ble_eq_true rfl)
    rw [lg_entry_eq]
    generalize (lg_sl ([.ref p0, .ref p1, .ref p2, va_rf none]) ++ List.replicate (4 - (lg_sl ([.ref p0, .ref p1, .ref p2, va_rf none])).length) Slot.unset).toArray = ls at hl ⊢
    have hl : lv_has ls 4 [(0, .ref p0), (1, .ref p1), (2, .ref p2), (3, va_rf none)] := hl
    exact w_fJ11_init C hin _ _ _ _ _ hm s.heap [] ls hW0 va_S.rf rfl KM.rf hl
  | some ao3 =>
    refine Met.ofW (cc := cJ11_init) (maxL := 4) (ret := none) (by decide +kernel) rfl ?_
    intro p e s m args below meth c s₁ B hml hv
    obtain ⟨rfl, ⟨hz, hW0⟩, hK⟩ := hv
    subst hz
    have hin : meth.name = "<init>" := (name_of_methodNamed B.named B.method).1
    have hts := atoms_spec (ws := ws_ yJ11_init cJ11_init 4 none) B.pre
    have hts : ∀ w ∈ lw_all, w.before _ s = true := fun w h => hts w (List.mem_cons_of_mem _ h)
    have C : Cx G p s m _ meth c RJ11 cJ11_init 4 none := ⟨B.exec, B.bytes, B.returns, B.notSynchronized, hml, findClass_of_methodNamed B.named, hts, hK⟩
    have hl := lv_entry ([.ref p0, .ref p1, .ref p2, va_rf (some ao3)]) (n := 4) (Nat.le_of_ble_eq_true rfl)
    rw [lg_entry_eq]
    generalize (lg_sl ([.ref p0, .ref p1, .ref p2, va_rf (some ao3)]) ++ List.replicate (4 - (lg_sl ([.ref p0, .ref p1, .ref p2, va_rf (some ao3)])).length) Slot.unset).toArray = ls at hl ⊢
    have hl : lv_has ls 4 [(0, .ref p0), (1, .ref p1), (2, .ref p2), (3, va_rf (some ao3))] := hl
    exact w_fJ11_init C hin _ _ _ _ _ hm s.heap [] ls hW0 va_S.rf rfl KM.rf hl
theorem yn_J11_init : YN yJ11_init 3 := by
  unfold YN
  decide +kernel
theorem lkJ1_167 : LI RJ1 167 yJ11_init cJ11_init 4 := ⟨q1399, q1400, q142, q1401, rfl⟩
theorem flJ1_114 : FL RJ1 114 18 3 RJ11 TJ11 6 := ⟨in_J11, rfl, by decide, q1409⟩
theorem flJ1_111 : FL RJ1 111 18 2 RJ11 TJ11 6 := ⟨in_J11, rfl, by decide, q1408⟩
theorem flJ1_290 : FL RJ1 290 18 5 RJ11 TJ11 6 := ⟨in_J11, rfl, by decide, q1413⟩
theorem ft_J1 : FT TJ1 9 tyJ1 := ⟨tyJ1_ok, nmJ1⟩
theorem flJ1_101 : FL RJ1 101 16 3 RJ1 TJ1 9 := ⟨in_J1, rfl, by decide, q334⟩
theorem flJ1_124 : FL RJ1 124 18 4 RJ11 TJ11 6 := ⟨in_J11, rfl, by decide, q1411⟩
noncomputable def fJ1_parentOf (PL : Nat → Bool) (V0 : Mem) (o0 : Option Nat) : Option (Option Nat) :=
  od o0 (
  some none) (fun p1 =>
  gb (kd PL V0 p1 18) (
  lo (gR V0 p1 4) fun o3 =>
  some o3))
set_option maxHeartbeats 4000000 in
theorem w_fJ1_parentOf (C : Cx G p s m args meth c RJ1 cJ1_parentOf 1 (some (.object "java/util/TreeMap$Entry"))) {PL : Nat → Bool} {V0 : Mem} {rx : Option Nat} (hW0 : pl G PL V0 s.heap) : ∀ (o0 : Option Nat), fJ1_parentOf PL V0 o0 = some rx → ∀ (ls : Array Slot), lv_has ls 1 [(0, va_rf o0)] → W p l e (rmP 0 0) s m args below meth c s.heap [] 0 0 (MQ below (QcP (some (va_rf rx))) args s 0 0 (fun _ => False)) (F0 m 0 ls []) := by
  intro o0 hm ls hl
  obtain ⟨hx, hb, hr, hlk, hml, hown, hts, hK⟩ := id C
  unfold fJ1_parentOf at hm
  refine lv_aload_nO (pc := 0) hx hb dJ1_parentOf_0 rfl (lv_at hl 0 rfl) ?_
  rcases o0 with _ | p1
  · have hm := od_n hm
    refine lv_ifnonnullN (pc := 1) hx hb dJ1_parentOf_1 ?_
    refine lv_null (pc := 4) hx hb dJ1_parentOf_4 ?_
    refine lv_goto (pc := 5) (tgt := 12) hx hb dJ1_parentOf_5 (by decide) ?_
    have e9 := rs1 hm
    subst e9
    exact rp_aretP (x := none) (pc := 12) hx hb hr (Or.inl ⟨_, rfl⟩) hlk rfl dJ1_parentOf_12
  · have hm := od_s hm
    refine lv_ifnonnull (pc := 1) (tgt := 8) hx hb dJ1_parentOf_1 (by decide) ?_
    refine lv_aload_n (pc := 8) hx hb dJ1_parentOf_8 rfl (lv_at hl 0 rfl) ?_
    obtain ⟨hg2, hm⟩ := gb_some hm
    obtain ⟨o3, he4, hm⟩ := lo_some hm
    refine rk_get (pc := 9) hx hb hts hown hK (pl_rg hW0) flJ1_124 p1 (Nat.lt_succ_self _) (Nat.zero_add _).symm (shP_18 (kd_PL hg2) (kd_k hg2)) (x := va_rf o3) (congrArg (fun z => some (va_rf z)) he4) dJ1_parentOf_9 ?_
    have e9 := rs1 hm
    subst e9
    exact rp_aretP (x := o3) (pc := 12) hx hb hr (Or.inl ⟨_, rfl⟩) hlk rfl dJ1_parentOf_12
set_option maxHeartbeats 4000000 in
theorem ct_J1_parentOf {G : Gv} {l : Launch} {PL : Nat → Bool} {V0 : Mem} {o0 : Option Nat} {rx : Option Nat} (hm : fJ1_parentOf PL V0 o0 = some rx) : CP G l yJ1_parentOf (ws_ yJ1_parentOf cJ1_parentOf 1 (some (.object "java/util/TreeMap$Entry"))) 0 0 [va_rf o0] (fun H => pl G PL V0 H) (some (va_rf rx)) := by
  cases o0 with
  | none =>
    refine Met.ofW (cc := cJ1_parentOf) (maxL := 1) (ret := (some (.object "java/util/TreeMap$Entry"))) (by decide +kernel) rfl ?_
    intro p e s m args below meth c s₁ B hml hv
    obtain ⟨rfl, hW0, hK⟩ := hv
    have hts := atoms_spec (ws := ws_ yJ1_parentOf cJ1_parentOf 1 (some (.object "java/util/TreeMap$Entry"))) B.pre
    have hts : ∀ w ∈ lw_all, w.before _ s = true := fun w h => hts w (List.mem_cons_of_mem _ h)
    have C : Cx G p s m _ meth c RJ1 cJ1_parentOf 1 (some (.object "java/util/TreeMap$Entry")) := ⟨B.exec, B.bytes, B.returns, B.notSynchronized, hml, findClass_of_methodNamed B.named, hts, hK⟩
    have hl := lv_entry ([va_rf none]) (n := 1) (Nat.le_of_ble_eq_true rfl)
    rw [lg_entry_eq]
    generalize (lg_sl ([va_rf none]) ++ List.replicate (1 - (lg_sl ([va_rf none])).length) Slot.unset).toArray = ls at hl ⊢
    have hl : lv_has ls 1 [(0, va_rf none)] := hl
    exact w_fJ1_parentOf C hW0 _ hm ls hl
  | some ao0 =>
    refine Met.ofW (cc := cJ1_parentOf) (maxL := 1) (ret := (some (.object "java/util/TreeMap$Entry"))) (by decide +kernel) rfl ?_
    intro p e s m args below meth c s₁ B hml hv
    obtain ⟨rfl, hW0, hK⟩ := hv
    have hts := atoms_spec (ws := ws_ yJ1_parentOf cJ1_parentOf 1 (some (.object "java/util/TreeMap$Entry"))) B.pre
    have hts : ∀ w ∈ lw_all, w.before _ s = true := fun w h => hts w (List.mem_cons_of_mem _ h)
    have C : Cx G p s m _ meth c RJ1 cJ1_parentOf 1 (some (.object "java/util/TreeMap$Entry")) := ⟨B.exec, B.bytes, B.returns, B.notSynchronized, hml, findClass_of_methodNamed B.named, hts, hK⟩
    have hl := lv_entry ([va_rf (some ao0)]) (n := 1) (Nat.le_of_ble_eq_true rfl)
    rw [lg_entry_eq]
    generalize (lg_sl ([va_rf (some ao0)]) ++ List.replicate (1 - (lg_sl ([va_rf (some ao0)])).length) Slot.unset).toArray = ls at hl ⊢
    have hl : lv_has ls 1 [(0, va_rf (some ao0))] := hl
    exact w_fJ1_parentOf C hW0 _ hm ls hl
theorem yn_J1_parentOf : YN yJ1_parentOf 1 := by
  unfold YN
  decide +kernel
theorem lkJ1_294 : LSt RJ1 294 yJ1_parentOf cJ1_parentOf 1 (some (.object "java/util/TreeMap$Entry")) := ⟨q1435, q1436, q120, q1437⟩
noncomputable def fJ1_leftOf (PL : Nat → Bool) (V0 : Mem) (o0 : Option Nat) : Option (Option Nat) :=
  od o0 (
  some none) (fun p1 =>
  gb (kd PL V0 p1 18) (
  lo (gR V0 p1 2) fun o3 =>
  some o3))
set_option maxHeartbeats 4000000 in
theorem w_fJ1_leftOf (C : Cx G p s m args meth c RJ1 cJ1_leftOf 1 (some (.object "java/util/TreeMap$Entry"))) {PL : Nat → Bool} {V0 : Mem} {rx : Option Nat} (hW0 : pl G PL V0 s.heap) : ∀ (o0 : Option Nat), fJ1_leftOf PL V0 o0 = some rx → ∀ (ls : Array Slot), lv_has ls 1 [(0, va_rf o0)] → W p l e (rmP 0 0) s m args below meth c s.heap [] 0 0 (MQ below (QcP (some (va_rf rx))) args s 0 0 (fun _ => False)) (F0 m 0 ls []) := by
  intro o0 hm ls hl
  obtain ⟨hx, hb, hr, hlk, hml, hown, hts, hK⟩ := id C
  unfold fJ1_leftOf at hm
  refine lv_aload_nO (pc := 0) hx hb dJ1_leftOf_0 rfl (lv_at hl 0 rfl) ?_
  rcases o0 with _ | p1
  · have hm := od_n hm
    refine lv_ifnonnullN (pc := 1) hx hb dJ1_leftOf_1 ?_
    refine lv_null (pc := 4) hx hb dJ1_leftOf_4 ?_
    refine lv_goto (pc := 5) (tgt := 12) hx hb dJ1_leftOf_5 (by decide) ?_
    have e9 := rs1 hm
    subst e9
    exact rp_aretP (x := none) (pc := 12) hx hb hr (Or.inl ⟨_, rfl⟩) hlk rfl dJ1_leftOf_12
  · have hm := od_s hm
    refine lv_ifnonnull (pc := 1) (tgt := 8) hx hb dJ1_leftOf_1 (by decide) ?_
    refine lv_aload_n (pc := 8) hx hb dJ1_leftOf_8 rfl (lv_at hl 0 rfl) ?_
    obtain ⟨hg2, hm⟩ := gb_some hm
    obtain ⟨o3, he4, hm⟩ := lo_some hm
    refine rk_get (pc := 9) hx hb hts hown hK (pl_rg hW0) flJ1_111 p1 (Nat.lt_succ_self _) (Nat.zero_add _).symm (shP_18 (kd_PL hg2) (kd_k hg2)) (x := va_rf o3) (congrArg (fun z => some (va_rf z)) he4) dJ1_leftOf_9 ?_
    have e9 := rs1 hm
    subst e9
    exact rp_aretP (x := o3) (pc := 12) hx hb hr (Or.inl ⟨_, rfl⟩) hlk rfl dJ1_leftOf_12
set_option maxHeartbeats 4000000 in
theorem ct_J1_leftOf {G : Gv} {l : Launch} {PL : Nat → Bool} {V0 : Mem} {o0 : Option Nat} {rx : Option Nat} (hm : fJ1_leftOf PL V0 o0 = some rx) : CP G l yJ1_leftOf (ws_ yJ1_leftOf cJ1_leftOf 1 (some (.object "java/util/TreeMap$Entry"))) 0 0 [va_rf o0] (fun H => pl G PL V0 H) (some (va_rf rx)) := by
  cases o0 with
  | none =>
    refine Met.ofW (cc := cJ1_leftOf) (maxL := 1) (ret := (some (.object "java/util/TreeMap$Entry"))) (by decide +kernel) rfl ?_
    intro p e s m args below meth c s₁ B hml hv
    obtain ⟨rfl, hW0, hK⟩ := hv
    have hts := atoms_spec (ws := ws_ yJ1_leftOf cJ1_leftOf 1 (some (.object "java/util/TreeMap$Entry"))) B.pre
    have hts : ∀ w ∈ lw_all, w.before _ s = true := fun w h => hts w (List.mem_cons_of_mem _ h)
    have C : Cx G p s m _ meth c RJ1 cJ1_leftOf 1 (some (.object "java/util/TreeMap$Entry")) := ⟨B.exec, B.bytes, B.returns, B.notSynchronized, hml, findClass_of_methodNamed B.named, hts, hK⟩
    have hl := lv_entry ([va_rf none]) (n := 1) (Nat.le_of_ble_eq_true rfl)
    rw [lg_entry_eq]
    generalize (lg_sl ([va_rf none]) ++ List.replicate (1 - (lg_sl ([va_rf none])).length) Slot.unset).toArray = ls at hl ⊢
    have hl : lv_has ls 1 [(0, va_rf none)] := hl
    exact w_fJ1_leftOf C hW0 _ hm ls hl
  | some ao0 =>
    refine Met.ofW (cc := cJ1_leftOf) (maxL := 1) (ret := (some (.object "java/util/TreeMap$Entry"))) (by decide +kernel) rfl ?_
    intro p e s m args below meth c s₁ B hml hv
    obtain ⟨rfl, hW0, hK⟩ := hv
    have hts := atoms_spec (ws := ws_ yJ1_leftOf cJ1_leftOf 1 (some (.object "java/util/TreeMap$Entry"))) B.pre
    have hts : ∀ w ∈ lw_all, w.before _ s = true := fun w h => hts w (List.mem_cons_of_mem _ h)
    have C : Cx G p s m _ meth c RJ1 cJ1_leftOf 1 (some (.object "java/util/TreeMap$Entry")) := ⟨B.exec, B.bytes, B.returns, B.notSynchronized, hml, findClass_of_methodNamed B.named, hts, hK⟩
    have hl := lv_entry ([va_rf (some ao0)]) (n := 1) (Nat.le_of_ble_eq_true rfl)
    rw [lg_entry_eq]
    generalize (lg_sl ([va_rf (some ao0)]) ++ List.replicate (1 - (lg_sl ([va_rf (some ao0)])).length) Slot.unset).toArray = ls at hl ⊢
    have hl : lv_has ls 1 [(0, va_rf (some ao0))] := hl
    exact w_fJ1_leftOf C hW0 _ hm ls hl
theorem yn_J1_leftOf : YN yJ1_leftOf 1 := by
  unfold YN
  decide +kernel
theorem lkJ1_297 : LSt RJ1 297 yJ1_leftOf cJ1_leftOf 1 (some (.object "java/util/TreeMap$Entry")) := ⟨q1438, q1439, q120, q1440⟩
noncomputable def fJ1_colorOf (PL : Nat → Bool) (V0 : Mem) (o0 : Option Nat) : Option (Int32) :=
  od o0 (
  some (1 : Int32)) (fun p1 =>
  gb (kd PL V0 p1 18) (
  gb (z01 (gI V0 p1 5)) (some (gI V0 p1 5))))
set_option maxHeartbeats 4000000 in
theorem w_fJ1_colorOf (C : Cx G p s m args meth c RJ1 cJ1_colorOf 1 (some .boolean)) {PL : Nat → Bool} {V0 : Mem} {rx : Int32} (hW0 : pl G PL V0 s.heap) : ∀ (o0 : Option Nat), fJ1_colorOf PL V0 o0 = some rx → ∀ (ls : Array Slot), lv_has ls 1 [(0, va_rf o0)] → W p l e (rmP 0 0) s m args below meth c s.heap [] 0 0 (MQ below (QcP (some (.int rx))) args s 0 0 (fun _ => False)) (F0 m 0 ls []) := by
  intro o0 hm ls hl
  obtain ⟨hx, hb, hr, hlk, hml, hown, hts, hK⟩ := id C
  unfold fJ1_colorOf at hm
  refine lv_aload_nO (pc := 0) hx hb dJ1_colorOf_0 rfl (lv_at hl 0 rfl) ?_
  rcases o0 with _ | p1
  · have hm := od_n hm
    refine lv_ifnonnullN (pc := 1) hx hb dJ1_colorOf_1 ?_
    refine lv_iconst (pc := 4) (v := (1 : Int32)) hx hb dJ1_colorOf_4 (by decide) ?_
    refine lv_goto (pc := 5) (tgt := 12) hx hb dJ1_colorOf_5 (by decide) ?_
    have e9 := rs1 hm
    subst e9
    exact rk_zretP (pc := 12) hx hb hr hlk rfl rfl dJ1_colorOf_12
  · have hm := od_s hm
    refine lv_ifnonnull (pc := 1) (tgt := 8) hx hb dJ1_colorOf_1 (by decide) ?_
    refine lv_aload_n (pc := 8) hx hb dJ1_colorOf_8 rfl (lv_at hl 0 rfl) ?_
    obtain ⟨hg2, hm⟩ := gb_some hm
    refine rk_get (pc := 9) hx hb hts hown hK (pl_rg hW0) flJ1_290 p1 (Nat.lt_succ_self _) (Nat.zero_add _).symm (shP_18 (kd_PL hg2) (kd_k hg2)) (x := .int (gI V0 p1 5)) rfl dJ1_colorOf_9 ?_
    obtain ⟨hg3, hm⟩ := gb_some hm
    have e9 := rs1 hm
    subst e9
    exact rk_zretP (pc := 12) hx hb hr hlk hg3 rfl dJ1_colorOf_12
set_option maxHeartbeats 4000000 in
theorem ct_J1_colorOf {G : Gv} {l : Launch} {PL : Nat → Bool} {V0 : Mem} {o0 : Option Nat} {rx : Int32} (hm : fJ1_colorOf PL V0 o0 = some rx) : CP G l yJ1_colorOf (ws_ yJ1_colorOf cJ1_colorOf 1 (some .boolean)) 0 0 [va_rf o0] (fun H => pl G PL V0 H) (some (.int rx)) := by
  cases o0 with
  | none =>
    refine Met.ofW (cc := cJ1_colorOf) (maxL := 1) (ret := (some .boolean)) (by decide +kernel) rfl ?_
    intro p e s m args below meth c s₁ B hml hv
    obtain ⟨rfl, hW0, hK⟩ := hv
    have hts := atoms_spec (ws := ws_ yJ1_colorOf cJ1_colorOf 1 (some .boolean)) B.pre
    have hts : ∀ w ∈ lw_all, w.before _ s = true := fun w h => hts w (List.mem_cons_of_mem _ h)
    have C : Cx G p s m _ meth c RJ1 cJ1_colorOf 1 (some .boolean) := ⟨B.exec, B.bytes, B.returns, B.notSynchronized, hml, findClass_of_methodNamed B.named, hts, hK⟩
    have hl := lv_entry ([va_rf none]) (n := 1) (Nat.le_of_ble_eq_true rfl)
    rw [lg_entry_eq]
    generalize (lg_sl ([va_rf none]) ++ List.replicate (1 - (lg_sl ([va_rf none])).length) Slot.unset).toArray = ls at hl ⊢
    have hl : lv_has ls 1 [(0, va_rf none)] := hl
    exact w_fJ1_colorOf C hW0 _ hm ls hl
  | some ao0 =>
    refine Met.ofW (cc := cJ1_colorOf) (maxL := 1) (ret := (some .boolean)) (by decide +kernel) rfl ?_
    intro p e s m args below meth c s₁ B hml hv
    obtain ⟨rfl, hW0, hK⟩ := hv
    have hts := atoms_spec (ws := ws_ yJ1_colorOf cJ1_colorOf 1 (some .boolean)) B.pre
    have hts : ∀ w ∈ lw_all, w.before _ s = true := fun w h => hts w (List.mem_cons_of_mem _ h)
    have C : Cx G p s m _ meth c RJ1 cJ1_colorOf 1 (some .boolean) := ⟨B.exec, B.bytes, B.returns, B.notSynchronized, hml, findClass_of_methodNamed B.named, hts, hK⟩
    have hl := lv_entry ([va_rf (some ao0)]) (n := 1) (Nat.le_of_ble_eq_true rfl)
    rw [lg_entry_eq]
    generalize (lg_sl ([va_rf (some ao0)]) ++ List.replicate (1 - (lg_sl ([va_rf (some ao0)])).length) Slot.unset).toArray = ls at hl ⊢
    have hl : lv_has ls 1 [(0, va_rf (some ao0))] := hl
    exact w_fJ1_colorOf C hW0 _ hm ls hl
theorem yn_J1_colorOf : YN yJ1_colorOf 1 := by
  unfold YN
  decide +kernel
theorem lkJ1_303 : LSt RJ1 303 yJ1_colorOf cJ1_colorOf 1 (some .boolean) := ⟨q1444, q1445, q120, q1446⟩
noncomputable def fJ1_rotateRight_85 (PL : Nat → Bool) (v0 : Mem) (p1 : Nat) (p2 : Nat) : Option (Mem) :=
  gb (kd PL v0 p2 18) (
  lm (sR v0 p2 3 (some p1)) fun v0_106 =>
  gb (kd PL v0_106 p1 18) (
  lm (sR v0_106 p1 4 (some p2)) fun v0_116 =>
  some v0_116))
noncomputable def fJ1_rotateRight_32 (PL : Nat → Bool) (v0 : Mem) (p0 : Nat) (p1 : Nat) (p2 : Nat) : Option (Mem) :=
  gb (kd PL v0 p1 18) (
  lo (gR v0 p1 4) fun o40 =>
  gb (kd PL v0 p2 18) (
  lm (sR v0 p2 4 o40) fun v0_43 =>
  gb (kd PL v0_43 p1 18) (
  lo (gR v0_43 p1 4) fun o53 =>
  od o53 (
  gb (kd PL v0_43 p0 16) (
  lm (sR v0_43 p0 3 (some p2)) fun v0_57 =>
  fJ1_rotateRight_85 PL v0_57 p1 p2)) (fun p55 =>
  gb (kd PL v0_43 p1 18) (
  lo (gR v0_43 p1 4) fun o67 =>
  ob o67 fun p69 =>
  gb (kd PL v0_43 p69 18) (
  lo (gR v0_43 p69 3) fun o72 =>
  if o72 = (some p1) then (
  gb (kd PL v0_43 p1 18) (
  lo (gR v0_43 p1 4) fun o91 =>
  ob o91 fun p93 =>
  gb (kd PL v0_43 p93 18) (
  lm (sR v0_43 p93 3 (some p2)) fun v0_96 =>
  fJ1_rotateRight_85 PL v0_96 p1 p2)))
  else (
  gb (kd PL v0_43 p1 18) (
  lo (gR v0_43 p1 4) fun o76 =>
  ob o76 fun p78 =>
  gb (kd PL v0_43 p78 18) (
  lm (sR v0_43 p78 2 (some p2)) fun v0_81 =>
  fJ1_rotateRight_85 PL v0_81 p1 p2)))))))))
noncomputable def fJ1_rotateRight (PL : Nat → Bool) (v0 : Mem) (p0 : Nat) (o1 : Option Nat) : Option (Mem) :=
  od o1 (
  some v0) (fun p1 =>
  gb (kd PL v0 p1 18) (
  lo (gR v0 p1 2) fun o3 =>
  ob o3 fun p5 =>
  gb (kd PL v0 p5 18) (
  lo (gR v0 p5 3) fun o8 =>
  gb (kd PL v0 p1 18) (
  lm (sR v0 p1 2 o8) fun v0_11 =>
  gb (kd PL v0_11 p5 18) (
  lo (gR v0_11 p5 3) fun o21 =>
  od o21 (
  fJ1_rotateRight_32 PL v0_11 p0 p1 p5) (fun p23 =>
  gb (kd PL v0_11 p5 18) (
  lo (gR v0_11 p5 3) fun o25 =>
  ob o25 fun p27 =>
  gb (kd PL v0_11 p27 18) (
  lm (sR v0_11 p27 4 (some p1)) fun v0_30 =>
  fJ1_rotateRight_32 PL v0_30 p0 p1 p5))))))))
set_option maxHeartbeats 4000000 in
theorem w_fJ1_rotateRight_85 (C : Cx G p s m args meth c RJ1 cJ1_rotateRight 3 none) {PL : Nat → Bool} {vP0 : Mem} {rw0 : Mem} : ∀ (v0 : Mem) (p1 : Nat) (p2 : Nat), fJ1_rotateRight_85 PL v0 p1 p2 = some rw0 → ∀ (H : Heap) (locs : List Loc) (ls : Array Slot), pl G PL v0 H → va_S (FA (fP PL vP0) s.heap.size) s.heap H locs → H.size = s.heap.size → KM vP0 v0 s.heap.size → lv_has ls 3 [(1, .ref p1), (2, .ref p2)] → W p l e (rmT 0 0 0 0) s m args below meth c H locs 0 0 (MQ below (QcT (FA (fP PL vP0) s.heap.size) (fun ov H => ov = none ∧ pl G PL rw0 H ∧ H.size = s.heap.size ∧ KM vP0 rw0 s.heap.size)) args s 0 0 (FA (fP PL vP0) s.heap.size)) (F0 m 85 ls []) := by
  intro v0 p1 p2 hm H locs ls hW0 hS hz hKM hl
  obtain ⟨hx, hb, hr, hlk, hml, hown, hts, hK⟩ := id C
  unfold fJ1_rotateRight_85 at hm
  refine lv_aload_n (pc := 85) hx hb dJ1_rotateRight_85 rfl (lv_at hl 1 rfl) ?_
  refine lv_aload_n (pc := 86) hx hb dJ1_rotateRight_86 rfl (lv_at hl 0 rfl) ?_
  obtain ⟨hg105, hm⟩ := gb_some hm
  refine rp_put (pc := 87) (q := p2) hx hb hts hown hK hW0 hS flJ1_114 ft_J11 (kd_A hKM hg105 (by decide)) (shP_18 (kd_PL hg105) (kd_k hg105)) rfl (x := va_rf (some p1)) (rf_nar _ rfl (some p1)) (rf_fit _ rfl (some p1)) (Nat.le_of_ble_eq_true rfl) (sR v0 p2 3 (some p1)) sR_ne (by rw [sR_eq]; exact shP_18 (kd_PL hg105) (kd_k hg105)) dJ1_rotateRight_87 (fun H107 locs108 hW109 hS110 hz111 hkp112 => ?_)
  have hKM113 := KM.sR (o := p2) (j := 3) (x := (some p1)) hKM
  obtain ⟨v0_106, he9, hm⟩ := lm_some hm
  rw [he9] at hW109 hKM113
  have hz114 := hz111.trans hz
  refine lv_aload_n (pc := 90) hx hb dJ1_rotateRight_90 rfl (lv_at hl 0 rfl) ?_
  refine lv_aload_n (pc := 91) hx hb dJ1_rotateRight_91 rfl (lv_at hl 1 rfl) ?_
  obtain ⟨hg115, hm⟩ := gb_some hm
  refine rp_put (pc := 92) (q := p1) hx hb hts hown hK hW109 hS110 flJ1_124 ft_J11 (kd_A hKM113 hg115 (by decide)) (shP_18 (kd_PL hg115) (kd_k hg115)) rfl (x := va_rf (some p2)) (rf_nar _ rfl (some p2)) (rf_fit _ rfl (some p2)) (Nat.le_of_ble_eq_true rfl) (sR v0_106 p1 4 (some p2)) sR_ne (by rw [sR_eq]; exact shP_18 (kd_PL hg115) (kd_k hg115)) dJ1_rotateRight_92 (fun H117 locs118 hW119 hS120 hz121 hkp122 => ?_)
  have hKM123 := KM.sR (o := p1) (j := 4) (x := (some p2)) hKM113
  obtain ⟨v0_116, he9, hm⟩ := lm_some hm
  rw [he9] at hW119 hKM123
  have hz124 := hz121.trans hz114
  have e9 := rs1 hm
  subst e9
  exact rk_vret (pc := 95) hx hb hr hlk hS120 ⟨rfl, hW119, hz124, hKM123⟩ dJ1_rotateRight_95
set_option maxHeartbeats 4000000 in
theorem w_fJ1_rotateRight_32 (C : Cx G p s m args meth c RJ1 cJ1_rotateRight 3 none) {PL : Nat → Bool} {vP0 : Mem} {rw0 : Mem} : ∀ (v0 : Mem) (p0 : Nat) (p1 : Nat) (p2 : Nat), fJ1_rotateRight_32 PL v0 p0 p1 p2 = some rw0 → ∀ (H : Heap) (locs : List Loc) (ls : Array Slot), pl G PL v0 H → va_S (FA (fP PL vP0) s.heap.size) s.heap H locs → H.size = s.heap.size → KM vP0 v0 s.heap.size → lv_has ls 3 [(0, .ref p0), (1, .ref p1), (2, .ref p2)] → W p l e (rmT 0 0 0 0) s m args below meth c H locs 0 0 (MQ below (QcT (FA (fP PL vP0) s.heap.size) (fun ov H => ov = none ∧ pl G PL rw0 H ∧ H.size = s.heap.size ∧ KM vP0 rw0 s.heap.size)) args s 0 0 (FA (fP PL vP0) s.heap.size)) (F0 m 32 ls []) := by
  intro v0 p0 p1 p2 hm H locs ls hW0 hS hz hKM hl
  obtain ⟨hx, hb, hr, hlk, hml, hown, hts, hK⟩ := id C
  unfold fJ1_rotateRight_32 at hm
  refine lv_aload_n (pc := 32) hx hb dJ1_rotateRight_32 rfl (lv_at hl 2 rfl) ?_
  refine lv_aload_n (pc := 33) hx hb dJ1_rotateRight_33 rfl (lv_at hl 1 rfl) ?_
  obtain ⟨hg39, hm⟩ := gb_some hm
  obtain ⟨o40, he41, hm⟩ := lo_some hm
  refine rk_get (pc := 34) hx hb hts hown hK (pl_rg hW0) flJ1_124 p1 (Nat.lt_succ_self _) (Nat.zero_add _).symm (shP_18 (kd_PL hg39) (kd_k hg39)) (x := va_rf o40) (congrArg (fun z => some (va_rf z)) he41) dJ1_rotateRight_34 ?_
  obtain ⟨hg42, hm⟩ := gb_some hm
  refine rp_put (pc := 37) (q := p2) hx hb hts hown hK hW0 hS flJ1_124 ft_J11 (kd_A hKM hg42 (by decide)) (shP_18 (kd_PL hg42) (kd_k hg42)) rfl (x := va_rf o40) (rf_nar _ rfl o40) (rf_fit _ rfl o40) (Nat.le_of_ble_eq_true rfl) (sR v0 p2 4 o40) sR_ne (by rw [sR_eq]; exact shP_18 (kd_PL hg42) (kd_k hg42)) dJ1_rotateRight_37 (fun H44 locs45 hW46 hS47 hz48 hkp49 => ?_)
  have hKM50 := KM.sR (o := p2) (j := 4) (x := o40) hKM
  obtain ⟨v0_43, he9, hm⟩ := lm_some hm
  rw [he9] at hW46 hKM50
  have hz51 := hz48.trans hz
  refine lv_aload_n (pc := 40) hx hb dJ1_rotateRight_40 rfl (lv_at hl 1 rfl) ?_
  obtain ⟨hg52, hm⟩ := gb_some hm
  obtain ⟨o53, he54, hm⟩ := lo_some hm
  refine rk_get (pc := 41) hx hb hts hown hK (pl_rg hW46) flJ1_124 p1 (Nat.lt_succ_self _) (Nat.zero_add _).symm (shP_18 (kd_PL hg52) (kd_k hg52)) (x := va_rf o53) (congrArg (fun z => some (va_rf z)) he54) dJ1_rotateRight_41 ?_
  rcases o53 with _ | p55
  · have hm := od_n hm
    refine lv_ifnonnullN (pc := 44) hx hb dJ1_rotateRight_44 ?_
    refine lv_aload_n (pc := 47) hx hb dJ1_rotateRight_47 rfl (lv_at hl 0 rfl) ?_
    refine lv_aload_n (pc := 48) hx hb dJ1_rotateRight_48 rfl (lv_at hl 2 rfl) ?_
    obtain ⟨hg56, hm⟩ := gb_some hm
    refine rp_put (pc := 49) (q := p0) hx hb hts hown hK hW46 hS47 flJ1_101 ft_J1 (kd_A hKM50 hg56 (by decide)) (shP_16 (kd_PL hg56) (kd_k hg56)) rfl (x := va_rf (some p2)) (rf_nar _ rfl (some p2)) (rf_fit _ rfl (some p2)) (Nat.le_of_ble_eq_true rfl) (sR v0_43 p0 3 (some p2)) sR_ne (by rw [sR_eq]; exact shP_16 (kd_PL hg56) (kd_k hg56)) dJ1_rotateRight_49 (fun H58 locs59 hW60 hS61 hz62 hkp63 => ?_)
    have hKM64 := KM.sR (o := p0) (j := 3) (x := (some p2)) hKM50
    obtain ⟨v0_57, he9, hm⟩ := lm_some hm
    rw [he9] at hW60 hKM64
    have hz65 := hz62.trans hz51
    refine lv_goto (pc := 52) (tgt := 85) hx hb dJ1_rotateRight_52 (by decide) ?_
    exact (w_fJ1_rotateRight_85 C) v0_57 p1 p2 hm H58 locs59 ls hW60 hS61 hz65 hKM64 (lv_sub hl [1, 2] rfl)
  · have hm := od_s hm
    refine lv_ifnonnull (pc := 44) (tgt := 55) hx hb dJ1_rotateRight_44 (by decide) ?_
    refine lv_aload_n (pc := 55) hx hb dJ1_rotateRight_55 rfl (lv_at hl 1 rfl) ?_
    obtain ⟨hg66, hm⟩ := gb_some hm
    obtain ⟨o67, he68, hm⟩ := lo_some hm
    refine rk_get (pc := 56) hx hb hts hown hK (pl_rg hW46) flJ1_124 p1 (Nat.lt_succ_self _) (Nat.zero_add _).symm (shP_18 (kd_PL hg66) (kd_k hg66)) (x := va_rf o67) (congrArg (fun z => some (va_rf z)) he68) dJ1_rotateRight_56 ?_
    obtain ⟨p69, he70, hm⟩ := ob_some hm
    subst he70
    obtain ⟨hg71, hm⟩ := gb_some hm
    obtain ⟨o72, he73, hm⟩ := lo_some hm
    refine rk_get (pc := 59) hx hb hts hown hK (pl_rg hW46) flJ1_114 p69 (Nat.lt_succ_self _) (Nat.zero_add _).symm (shP_18 (kd_PL hg71) (kd_k hg71)) (x := va_rf o72) (congrArg (fun z => some (va_rf z)) he73) dJ1_rotateRight_59 ?_
    refine lv_aload_n (pc := 62) hx hb dJ1_rotateRight_62 rfl (lv_at hl 1 rfl) ?_
    refine lv_acmp_ne (pc := 63) (rx := o72) (ry := (some p1)) (tgt := 77) hx hb dJ1_rotateRight_63 (by decide) (fun c74 => ?_) (fun c74 => ?_)
    · have hm := ite_f c74 hm
      refine lv_aload_n (pc := 77) hx hb dJ1_rotateRight_77 rfl (lv_at hl 1 rfl) ?_
      obtain ⟨hg75, hm⟩ := gb_some hm
      obtain ⟨o76, he77, hm⟩ := lo_some hm
      refine rk_get (pc := 78) hx hb hts hown hK (pl_rg hW46) flJ1_124 p1 (Nat.lt_succ_self _) (Nat.zero_add _).symm (shP_18 (kd_PL hg75) (kd_k hg75)) (x := va_rf o76) (congrArg (fun z => some (va_rf z)) he77) dJ1_rotateRight_78 ?_
      refine lv_aload_n (pc := 81) hx hb dJ1_rotateRight_81 rfl (lv_at hl 2 rfl) ?_
      obtain ⟨p78, he79, hm⟩ := ob_some hm
      subst he79
      obtain ⟨hg80, hm⟩ := gb_some hm
      refine rp_put (pc := 82) (q := p78) hx hb hts hown hK hW46 hS47 flJ1_111 ft_J11 (kd_A hKM50 hg80 (by decide)) (shP_18 (kd_PL hg80) (kd_k hg80)) rfl (x := va_rf (some p2)) (rf_nar _ rfl (some p2)) (rf_fit _ rfl (some p2)) (Nat.le_of_ble_eq_true rfl) (sR v0_43 p78 2 (some p2)) sR_ne (by rw [sR_eq]; exact shP_18 (kd_PL hg80) (kd_k hg80)) dJ1_rotateRight_82 (fun H82 locs83 hW84 hS85 hz86 hkp87 => ?_)
      have hKM88 := KM.sR (o := p78) (j := 2) (x := (some p2)) hKM50
      obtain ⟨v0_81, he9, hm⟩ := lm_some hm
      rw [he9] at hW84 hKM88
      have hz89 := hz86.trans hz51
      exact (w_fJ1_rotateRight_85 C) v0_81 p1 p2 hm H82 locs83 ls hW84 hS85 hz89 hKM88 (lv_sub hl [1, 2] rfl)
    · have hm := ite_t c74 hm
      refine lv_aload_n (pc := 66) hx hb dJ1_rotateRight_66 rfl (lv_at hl 1 rfl) ?_
      obtain ⟨hg90, hm⟩ := gb_some hm
      obtain ⟨o91, he92, hm⟩ := lo_some hm
      refine rk_get (pc := 67) hx hb hts hown hK (pl_rg hW46) flJ1_124 p1 (Nat.lt_succ_self _) (Nat.zero_add _).symm (shP_18 (kd_PL hg90) (kd_k hg90)) (x := va_rf o91) (congrArg (fun z => some (va_rf z)) he92) dJ1_rotateRight_67 ?_
      refine lv_aload_n (pc := 70) hx hb dJ1_rotateRight_70 rfl (lv_at hl 2 rfl) ?_
      obtain ⟨p93, he94, hm⟩ := ob_some hm
      subst he94
      obtain ⟨hg95, hm⟩ := gb_some hm
      refine rp_put (pc := 71) (q := p93) hx hb hts hown hK hW46 hS47 flJ1_114 ft_J11 (kd_A hKM50 hg95 (by decide)) (shP_18 (kd_PL hg95) (kd_k hg95)) rfl (x := va_rf (some p2)) (rf_nar _ rfl (some p2)) (rf_fit _ rfl (some p2)) (Nat.le_of_ble_eq_true rfl) (sR v0_43 p93 3 (some p2)) sR_ne (by rw [sR_eq]; exact shP_18 (kd_PL hg95) (kd_k hg95)) dJ1_rotateRight_71 (fun H97 locs98 hW99 hS100 hz101 hkp102 => ?_)
      have hKM103 := KM.sR (o := p93) (j := 3) (x := (some p2)) hKM50
      obtain ⟨v0_96, he9, hm⟩ := lm_some hm
      rw [he9] at hW99 hKM103
      have hz104 := hz101.trans hz51
      refine lv_goto (pc := 74) (tgt := 85) hx hb dJ1_rotateRight_74 (by decide) ?_
      exact (w_fJ1_rotateRight_85 C) v0_96 p1 p2 hm H97 locs98 ls hW99 hS100 hz104 hKM103 (lv_sub hl [1, 2] rfl)
set_option maxHeartbeats 4000000 in
theorem w_fJ1_rotateRight (C : Cx G p s m args meth c RJ1 cJ1_rotateRight 3 none) {PL : Nat → Bool} {vP0 : Mem} {rw0 : Mem} : ∀ (v0 : Mem) (p0 : Nat) (o1 : Option Nat), fJ1_rotateRight PL v0 p0 o1 = some rw0 → ∀ (H : Heap) (locs : List Loc) (ls : Array Slot), pl G PL v0 H → va_S (FA (fP PL vP0) s.heap.size) s.heap H locs → H.size = s.heap.size → KM vP0 v0 s.heap.size → lv_has ls 3 [(0, .ref p0), (1, va_rf o1)] → W p l e (rmT 0 0 0 0) s m args below meth c H locs 0 0 (MQ below (QcT (FA (fP PL vP0) s.heap.size) (fun ov H => ov = none ∧ pl G PL rw0 H ∧ H.size = s.heap.size ∧ KM vP0 rw0 s.heap.size)) args s 0 0 (FA (fP PL vP0) s.heap.size)) (F0 m 0 ls []) := by
  intro v0 p0 o1 hm H locs ls hW0 hS hz hKM hl
  obtain ⟨hx, hb, hr, hlk, hml, hown, hts, hK⟩ := id C
  unfold fJ1_rotateRight at hm
  refine lv_aload_nO (pc := 0) hx hb dJ1_rotateRight_0 rfl (lv_at hl 1 rfl) ?_
  rcases o1 with _ | p1
  · have hm := od_n hm
    refine lv_ifnullN (pc := 1) (tgt := 95) hx hb dJ1_rotateRight_1 (by decide) ?_
    have e9 := rs1 hm
    subst e9
    exact rk_vret (pc := 95) hx hb hr hlk hS ⟨rfl, hW0, hz, hKM⟩ dJ1_rotateRight_95
  · have hm := od_s hm
    refine lv_ifnull (pc := 1) hx hb dJ1_rotateRight_1 ?_
    refine lv_aload_n (pc := 4) hx hb dJ1_rotateRight_4 rfl (lv_at hl 1 rfl) ?_
    obtain ⟨hg2, hm⟩ := gb_some hm
    obtain ⟨o3, he4, hm⟩ := lo_some hm
    refine rk_get (pc := 5) hx hb hts hown hK (pl_rg hW0) flJ1_111 p1 (Nat.lt_succ_self _) (Nat.zero_add _).symm (shP_18 (kd_PL hg2) (kd_k hg2)) (x := va_rf o3) (congrArg (fun z => some (va_rf z)) he4) dJ1_rotateRight_5 ?_
    refine lv_astore_nO (pc := 8) (lv' := [(2, va_rf o3), (0, .ref p0), (1, .ref p1)]) hx hb dJ1_rotateRight_8 rfl hl (by decide) rfl (fun ls hl => ?_)
    refine lv_aload_n (pc := 9) hx hb dJ1_rotateRight_9 rfl (lv_at hl 2 rfl) ?_
    refine lv_aload_nO (pc := 10) hx hb dJ1_rotateRight_10 rfl (lv_at hl 0 rfl) ?_
    obtain ⟨p5, he6, hm⟩ := ob_some hm
    subst he6
    obtain ⟨hg7, hm⟩ := gb_some hm
    obtain ⟨o8, he9, hm⟩ := lo_some hm
    refine rk_get (pc := 11) hx hb hts hown hK (pl_rg hW0) flJ1_114 p5 (Nat.lt_succ_self _) (Nat.zero_add _).symm (shP_18 (kd_PL hg7) (kd_k hg7)) (x := va_rf o8) (congrArg (fun z => some (va_rf z)) he9) dJ1_rotateRight_11 ?_
    obtain ⟨hg10, hm⟩ := gb_some hm
    refine rp_put (pc := 14) (q := p1) hx hb hts hown hK hW0 hS flJ1_111 ft_J11 (kd_A hKM hg10 (by decide)) (shP_18 (kd_PL hg10) (kd_k hg10)) rfl (x := va_rf o8) (rf_nar _ rfl o8) (rf_fit _ rfl o8) (Nat.le_of_ble_eq_true rfl) (sR v0 p1 2 o8) sR_ne (by rw [sR_eq]; exact shP_18 (kd_PL hg10) (kd_k hg10)) dJ1_rotateRight_14 (fun H12 locs13 hW14 hS15 hz16 hkp17 => ?_)
    have hKM18 := KM.sR (o := p1) (j := 2) (x := o8) hKM
    obtain ⟨v0_11, he9, hm⟩ := lm_some hm
    rw [he9] at hW14 hKM18
    have hz19 := hz16.trans hz
    refine lv_aload_n (pc := 17) hx hb dJ1_rotateRight_17 rfl (lv_at hl 0 rfl) ?_
    obtain ⟨hg20, hm⟩ := gb_some hm
    obtain ⟨o21, he22, hm⟩ := lo_some hm
    refine rk_get (pc := 18) hx hb hts hown hK (pl_rg hW14) flJ1_114 p5 (Nat.lt_succ_self _) (Nat.zero_add _).symm (shP_18 (kd_PL hg20) (kd_k hg20)) (x := va_rf o21) (congrArg (fun z => some (va_rf z)) he22) dJ1_rotateRight_18 ?_
    rcases o21 with _ | p23
    · have hm := od_n hm
      refine lv_ifnullN (pc := 21) (tgt := 32) hx hb dJ1_rotateRight_21 (by decide) ?_
      exact (w_fJ1_rotateRight_32 C) v0_11 p0 p1 p5 hm H12 locs13 ls hW14 hS15 hz19 hKM18 (lv_sub hl [1, 2, 0] rfl)
    · have hm := od_s hm
      refine lv_ifnull (pc := 21) hx hb dJ1_rotateRight_21 ?_
      refine lv_aload_n (pc := 24) hx hb dJ1_rotateRight_24 rfl (lv_at hl 0 rfl) ?_
      obtain ⟨hg24, hm⟩ := gb_some hm
      obtain ⟨o25, he26, hm⟩ := lo_some hm
      refine rk_get (pc := 25) hx hb hts hown hK (pl_rg hW14) flJ1_114 p5 (Nat.lt_succ_self _) (Nat.zero_add _).symm (shP_18 (kd_PL hg24) (kd_k hg24)) (x := va_rf o25) (congrArg (fun z => some (va_rf z)) he26) dJ1_rotateRight_25 ?_
      refine lv_aload_n (pc := 28) hx hb dJ1_rotateRight_28 rfl (lv_at hl 2 rfl) ?_
      obtain ⟨p27, he28, hm⟩ := ob_some hm
      subst he28
      obtain ⟨hg29, hm⟩ := gb_some hm
      refine rp_put (pc := 29) (q := p27) hx hb hts hown hK hW14 hS15 flJ1_124 ft_J11 (kd_A hKM18 hg29 (by decide)) (shP_18 (kd_PL hg29) (kd_k hg29)) rfl (x := va_rf (some p1)) (rf_nar _ rfl (some p1)) (rf_fit _ rfl (some p1)) (Nat.le_of_ble_eq_true rfl) (sR v0_11 p27 4 (some p1)) sR_ne (by rw [sR_eq]; exact shP_18 (kd_PL hg29) (kd_k hg29)) dJ1_rotateRight_29 (fun H31 locs32 hW33 hS34 hz35 hkp36 => ?_)
      have hKM37 := KM.sR (o := p27) (j := 4) (x := (some p1)) hKM18
      obtain ⟨v0_30, he9, hm⟩ := lm_some hm
      rw [he9] at hW33 hKM37
      have hz38 := hz35.trans hz19
      exact (w_fJ1_rotateRight_32 C) v0_30 p0 p1 p5 hm H31 locs32 ls hW33 hS34 hz38 hKM37 (lv_sub hl [1, 2, 0] rfl)
set_option maxHeartbeats 4000000 in
theorem ct_J1_rotateRight {G : Gv} {l : Launch} {PL : Nat → Bool} {v0 : Mem} {p0 : Nat} {o1 : Option Nat} {rw0 : Mem} {sz : Nat} (hm : fJ1_rotateRight PL v0 p0 o1 = some rw0) : CT G l yJ1_rotateRight (ws_ yJ1_rotateRight cJ1_rotateRight 3 none) 0 0 0 0 [.ref p0, va_rf o1] (fP PL v0) sz (fun H => pl G PL v0 H) (fun ov H => ov = none ∧ pl G PL rw0 H ∧ H.size = sz ∧ KM v0 rw0 sz) := by
  cases o1 with
  | none =>
    refine Met.ofW (cc := cJ1_rotateRight) (maxL := 3) (ret := none) (by decide +kernel) rfl ?_
    intro p e s m args below meth c s₁ B hml hv
    obtain ⟨rfl, ⟨hz, hW0⟩, hK⟩ := hv
    subst hz
    have hts := atoms_spec (ws := ws_ yJ1_rotateRight cJ1_rotateRight 3 none) B.pre
    have hts : ∀ w ∈ lw_all, w.before _ s = true := fun w h => hts w (List.mem_cons_of_mem _ h)
    have C : Cx G p s m _ meth c RJ1 cJ1_rotateRight 3 none := ⟨B.exec, B.bytes, B.returns, B.notSynchronized, hml, findClass_of_methodNamed B.named, hts, hK⟩
    have hl := lv_entry ([.ref p0, va_rf none]) (n := 3) (Nat.le_of_ble_eq_true rfl)
    rw [lg_entry_eq]
    generalize (lg_sl ([.ref p0, va_rf none]) ++ List.replicate (3 - (lg_sl ([.ref p0, va_rf none])).length) Slot.unset).toArray = ls at hl ⊢
    have hl : lv_has ls 3 [(0, .ref p0), (1, va_rf none)] := hl
    exact w_fJ1_rotateRight C _ _ _ hm s.heap [] ls hW0 va_S.rf rfl KM.rf hl
  | some ao1 =>
    refine Met.ofW (cc := cJ1_rotateRight) (maxL := 3) (ret := none) (by decide +kernel) rfl ?_
    intro p e s m args below meth c s₁ B hml hv
    obtain ⟨rfl, ⟨hz, hW0⟩, hK⟩ := hv
    subst hz
    have hts := atoms_spec (ws := ws_ yJ1_rotateRight cJ1_rotateRight 3 none) B.pre
    have hts : ∀ w ∈ lw_all, w.before _ s = true := fun w h => hts w (List.mem_cons_of_mem _ h)
    have C : Cx G p s m _ meth c RJ1 cJ1_rotateRight 3 none := ⟨B.exec, B.bytes, B.returns, B.notSynchronized, hml, findClass_of_methodNamed B.named, hts, hK⟩
    have hl := lv_entry ([.ref p0, va_rf (some ao1)]) (n := 3) (Nat.le_of_ble_eq_true rfl)
    rw [lg_entry_eq]
    generalize (lg_sl ([.ref p0, va_rf (some ao1)]) ++ List.replicate (3 - (lg_sl ([.ref p0, va_rf (some ao1)])).length) Slot.unset).toArray = ls at hl ⊢
    have hl : lv_has ls 3 [(0, .ref p0), (1, va_rf (some ao1))] := hl
    exact w_fJ1_rotateRight C _ _ _ hm s.heap [] ls hW0 va_S.rf rfl KM.rf hl
theorem yn_J1_rotateRight : YN yJ1_rotateRight 1 := by
  unfold YN
  decide +kernel
theorem lkJ1_314 : LV RJ1 314 RJ1 yJ1_rotateRight cJ1_rotateRight 3 none := ⟨q1454, q1456, qs53, q120, q1457⟩
noncomputable def fJ1_setColor (PL : Nat → Bool) (v0 : Mem) (o0 : Option Nat) (i1 : Int32) : Option (Mem) :=
  od o0 (
  some v0) (fun p1 =>
  gb (kd PL v0 p1 18) (
  gb (z01 i1) (
  lm (sI v0 p1 5 i1) fun v0_4 =>
  some v0_4)))
set_option maxHeartbeats 4000000 in
theorem w_fJ1_setColor (C : Cx G p s m args meth c RJ1 cJ1_setColor 2 none) {PL : Nat → Bool} {vP0 : Mem} {rw0 : Mem} : ∀ (v0 : Mem) (o0 : Option Nat) (i1 : Int32), fJ1_setColor PL v0 o0 i1 = some rw0 → ∀ (H : Heap) (locs : List Loc) (ls : Array Slot), pl G PL v0 H → va_S (FA (fP PL vP0) s.heap.size) s.heap H locs → H.size = s.heap.size → KM vP0 v0 s.heap.size → lv_has ls 2 [(0, va_rf o0), (1, .int i1)] → W p l e (rmT 0 0 0 0) s m args below meth c H locs 0 0 (MQ below (QcT (FA (fP PL vP0) s.heap.size) (fun ov H => ov = none ∧ pl G PL rw0 H ∧ H.size = s.heap.size ∧ KM vP0 rw0 s.heap.size)) args s 0 0 (FA (fP PL vP0) s.heap.size)) (F0 m 0 ls []) := by
  intro v0 o0 i1 hm H locs ls hW0 hS hz hKM hl
  obtain ⟨hx, hb, hr, hlk, hml, hown, hts, hK⟩ := id C
  unfold fJ1_setColor at hm
  refine lv_aload_nO (pc := 0) hx hb dJ1_setColor_0 rfl (lv_at hl 0 rfl) ?_
  rcases o0 with _ | p1
  · have hm := od_n hm
    refine lv_ifnullN (pc := 1) (tgt := 9) hx hb dJ1_setColor_1 (by decide) ?_
    have e9 := rs1 hm
    subst e9
    exact rk_vret (pc := 9) hx hb hr hlk hS ⟨rfl, hW0, hz, hKM⟩ dJ1_setColor_9
  · have hm := od_s hm
    refine lv_ifnull (pc := 1) hx hb dJ1_setColor_1 ?_
    refine lv_aload_n (pc := 4) hx hb dJ1_setColor_4 rfl (lv_at hl 0 rfl) ?_
    refine lv_iload_n (pc := 5) hx hb dJ1_setColor_5 rfl (lv_at hl 1 rfl) ?_
    obtain ⟨hg2, hm⟩ := gb_some hm
    obtain ⟨hg3, hm⟩ := gb_some hm
    refine rp_put (pc := 6) (q := p1) hx hb hts hown hK hW0 hS flJ1_290 ft_J11 (kd_A hKM hg2 (by decide)) (shP_18 (kd_PL hg2) (kd_k hg2)) rfl (x := .int i1) (z01_nar hg3) (z01_fit hg3) (Nat.le_of_ble_eq_true rfl) (sI v0 p1 5 i1) sI_ne (by rw [sI_eq]; exact shP_18 (kd_PL hg2) (kd_k hg2)) dJ1_setColor_6 (fun H5 locs6 hW7 hS8 hz9 hkp10 => ?_)
    have hKM11 := KM.sI (o := p1) (j := 5) (x := i1) hKM (by decide)
    obtain ⟨v0_4, he9, hm⟩ := lm_some hm
    rw [he9] at hW7 hKM11
    have hz12 := hz9.trans hz
    have e9 := rs1 hm
    subst e9
    exact rk_vret (pc := 9) hx hb hr hlk hS8 ⟨rfl, hW7, hz12, hKM11⟩ dJ1_setColor_9
set_option maxHeartbeats 4000000 in
theorem ct_J1_setColor {G : Gv} {l : Launch} {PL : Nat → Bool} {v0 : Mem} {o0 : Option Nat} {i1 : Int32} {rw0 : Mem} {sz : Nat} (hm : fJ1_setColor PL v0 o0 i1 = some rw0) : CT G l yJ1_setColor (ws_ yJ1_setColor cJ1_setColor 2 none) 0 0 0 0 [va_rf o0, .int i1] (fP PL v0) sz (fun H => pl G PL v0 H) (fun ov H => ov = none ∧ pl G PL rw0 H ∧ H.size = sz ∧ KM v0 rw0 sz) := by
  cases o0 with
  | none =>
    refine Met.ofW (cc := cJ1_setColor) (maxL := 2) (ret := none) (by decide +kernel) rfl ?_
    intro p e s m args below meth c s₁ B hml hv
    obtain ⟨rfl, ⟨hz, hW0⟩, hK⟩ := hv
    subst hz
    have hts := atoms_spec (ws := ws_ yJ1_setColor cJ1_setColor 2 none) B.pre
    have hts : ∀ w ∈ lw_all, w.before _ s = true := fun w h => hts w (List.mem_cons_of_mem _ h)
    have C : Cx G p s m _ meth c RJ1 cJ1_setColor 2 none := ⟨B.exec, B.bytes, B.returns, B.notSynchronized, hml, findClass_of_methodNamed B.named, hts, hK⟩
    have hl := lv_entry ([va_rf none, .int i1]) (n := 2) (Nat.le_of_ble_eq_true rfl)
    rw [lg_entry_eq]
    generalize (lg_sl ([va_rf none, .int i1]) ++ List.replicate (2 - (lg_sl ([va_rf none, .int i1])).length) Slot.unset).toArray = ls at hl ⊢
    have hl : lv_has ls 2 [(0, va_rf none), (1, .int i1)] := hl
    exact w_fJ1_setColor C _ _ _ hm s.heap [] ls hW0 va_S.rf rfl KM.rf hl
  | some ao0 =>
    refine Met.ofW (cc := cJ1_setColor) (maxL := 2) (ret := none) (by decide +kernel) rfl ?_
    intro p e s m args below meth c s₁ B hml hv
    obtain ⟨rfl, ⟨hz, hW0⟩, hK⟩ := hv
    subst hz
    have hts := atoms_spec (ws := ws_ yJ1_setColor cJ1_setColor 2 none) B.pre
    have hts : ∀ w ∈ lw_all, w.before _ s = true := fun w h => hts w (List.mem_cons_of_mem _ h)
    have C : Cx G p s m _ meth c RJ1 cJ1_setColor 2 none := ⟨B.exec, B.bytes, B.returns, B.notSynchronized, hml, findClass_of_methodNamed B.named, hts, hK⟩
    have hl := lv_entry ([va_rf (some ao0), .int i1]) (n := 2) (Nat.le_of_ble_eq_true rfl)
    rw [lg_entry_eq]
    generalize (lg_sl ([va_rf (some ao0), .int i1]) ++ List.replicate (2 - (lg_sl ([va_rf (some ao0), .int i1])).length) Slot.unset).toArray = ls at hl ⊢
    have hl : lv_has ls 2 [(0, va_rf (some ao0)), (1, .int i1)] := hl
    exact w_fJ1_setColor C _ _ _ hm s.heap [] ls hW0 va_S.rf rfl KM.rf hl
theorem yn_J1_setColor : YN yJ1_setColor 2 := by
  unfold YN
  decide +kernel
theorem lkJ1_307 : LSt RJ1 307 yJ1_setColor cJ1_setColor 2 none := ⟨q1447, q1448, q120, q1449⟩
noncomputable def fJ1_rightOf (PL : Nat → Bool) (V0 : Mem) (o0 : Option Nat) : Option (Option Nat) :=
  od o0 (
  some none) (fun p1 =>
  gb (kd PL V0 p1 18) (
  lo (gR V0 p1 3) fun o3 =>
  some o3))
set_option maxHeartbeats 4000000 in
theorem w_fJ1_rightOf (C : Cx G p s m args meth c RJ1 cJ1_rightOf 1 (some (.object "java/util/TreeMap$Entry"))) {PL : Nat → Bool} {V0 : Mem} {rx : Option Nat} (hW0 : pl G PL V0 s.heap) : ∀ (o0 : Option Nat), fJ1_rightOf PL V0 o0 = some rx → ∀ (ls : Array Slot), lv_has ls 1 [(0, va_rf o0)] → W p l e (rmP 0 0) s m args below meth c s.heap [] 0 0 (MQ below (QcP (some (va_rf rx))) args s 0 0 (fun _ => False)) (F0 m 0 ls []) := by
  intro o0 hm ls hl
  obtain ⟨hx, hb, hr, hlk, hml, hown, hts, hK⟩ := id C
  unfold fJ1_rightOf at hm
  refine lv_aload_nO (pc := 0) hx hb dJ1_rightOf_0 rfl (lv_at hl 0 rfl) ?_
  rcases o0 with _ | p1
  · have hm := od_n hm
    refine lv_ifnonnullN (pc := 1) hx hb dJ1_rightOf_1 ?_
    refine lv_null (pc := 4) hx hb dJ1_rightOf_4 ?_
    refine lv_goto (pc := 5) (tgt := 12) hx hb dJ1_rightOf_5 (by decide) ?_
    have e9 := rs1 hm
    subst e9
    exact rp_aretP (x := none) (pc := 12) hx hb hr (Or.inl ⟨_, rfl⟩) hlk rfl dJ1_rightOf_12
  · have hm := od_s hm
    refine lv_ifnonnull (pc := 1) (tgt := 8) hx hb dJ1_rightOf_1 (by decide) ?_
    refine lv_aload_n (pc := 8) hx hb dJ1_rightOf_8 rfl (lv_at hl 0 rfl) ?_
    obtain ⟨hg2, hm⟩ := gb_some hm
    obtain ⟨o3, he4, hm⟩ := lo_some hm
    refine rk_get (pc := 9) hx hb hts hown hK (pl_rg hW0) flJ1_114 p1 (Nat.lt_succ_self _) (Nat.zero_add _).symm (shP_18 (kd_PL hg2) (kd_k hg2)) (x := va_rf o3) (congrArg (fun z => some (va_rf z)) he4) dJ1_rightOf_9 ?_
    have e9 := rs1 hm
    subst e9
    exact rp_aretP (x := o3) (pc := 12) hx hb hr (Or.inl ⟨_, rfl⟩) hlk rfl dJ1_rightOf_12
set_option maxHeartbeats 4000000 in
theorem ct_J1_rightOf {G : Gv} {l : Launch} {PL : Nat → Bool} {V0 : Mem} {o0 : Option Nat} {rx : Option Nat} (hm : fJ1_rightOf PL V0 o0 = some rx) : CP G l yJ1_rightOf (ws_ yJ1_rightOf cJ1_rightOf 1 (some (.object "java/util/TreeMap$Entry"))) 0 0 [va_rf o0] (fun H => pl G PL V0 H) (some (va_rf rx)) := by
  cases o0 with
  | none =>
    refine Met.ofW (cc := cJ1_rightOf) (maxL := 1) (ret := (some (.object "java/util/TreeMap$Entry"))) (by decide +kernel) rfl ?_
    intro p e s m args below meth c s₁ B hml hv
    obtain ⟨rfl, hW0, hK⟩ := hv
    have hts := atoms_spec (ws := ws_ yJ1_rightOf cJ1_rightOf 1 (some (.object "java/util/TreeMap$Entry"))) B.pre
    have hts : ∀ w ∈ lw_all, w.before _ s = true := fun w h => hts w (List.mem_cons_of_mem _ h)
    have C : Cx G p s m _ meth c RJ1 cJ1_rightOf 1 (some (.object "java/util/TreeMap$Entry")) := ⟨B.exec, B.bytes, B.returns, B.notSynchronized, hml, findClass_of_methodNamed B.named, hts, hK⟩
    have hl := lv_entry ([va_rf none]) (n := 1) (Nat.le_of_ble_eq_true rfl)
    rw [lg_entry_eq]
    generalize (lg_sl ([va_rf none]) ++ List.replicate (1 - (lg_sl ([va_rf none])).length) Slot.unset).toArray = ls at hl ⊢
    have hl : lv_has ls 1 [(0, va_rf none)] := hl
    exact w_fJ1_rightOf C hW0 _ hm ls hl
  | some ao0 =>
    refine Met.ofW (cc := cJ1_rightOf) (maxL := 1) (ret := (some (.object "java/util/TreeMap$Entry"))) (by decide +kernel) rfl ?_
    intro p e s m args below meth c s₁ B hml hv
    obtain ⟨rfl, hW0, hK⟩ := hv
    have hts := atoms_spec (ws := ws_ yJ1_rightOf cJ1_rightOf 1 (some (.object "java/util/TreeMap$Entry"))) B.pre
    have hts : ∀ w ∈ lw_all, w.before _ s = true := fun w h => hts w (List.mem_cons_of_mem _ h)
    have C : Cx G p s m _ meth c RJ1 cJ1_rightOf 1 (some (.object "java/util/TreeMap$Entry")) := ⟨B.exec, B.bytes, B.returns, B.notSynchronized, hml, findClass_of_methodNamed B.named, hts, hK⟩
    have hl := lv_entry ([va_rf (some ao0)]) (n := 1) (Nat.le_of_ble_eq_true rfl)
    rw [lg_entry_eq]
    generalize (lg_sl ([va_rf (some ao0)]) ++ List.replicate (1 - (lg_sl ([va_rf (some ao0)])).length) Slot.unset).toArray = ls at hl ⊢
    have hl : lv_has ls 1 [(0, va_rf (some ao0))] := hl
    exact w_fJ1_rightOf C hW0 _ hm ls hl
theorem yn_J1_rightOf : YN yJ1_rightOf 1 := by
  unfold YN
  decide +kernel
theorem lkJ1_300 : LSt RJ1 300 yJ1_rightOf cJ1_rightOf 1 (some (.object "java/util/TreeMap$Entry")) := ⟨q1441, q1442, q120, q1443⟩
noncomputable def fJ1_rotateLeft_85 (PL : Nat → Bool) (v0 : Mem) (p1 : Nat) (p2 : Nat) : Option (Mem) :=
  gb (kd PL v0 p2 18) (
  lm (sR v0 p2 2 (some p1)) fun v0_106 =>
  gb (kd PL v0_106 p1 18) (
  lm (sR v0_106 p1 4 (some p2)) fun v0_116 =>
  some v0_116))
noncomputable def fJ1_rotateLeft_32 (PL : Nat → Bool) (v0 : Mem) (p0 : Nat) (p1 : Nat) (p2 : Nat) : Option (Mem) :=
  gb (kd PL v0 p1 18) (
  lo (gR v0 p1 4) fun o40 =>
  gb (kd PL v0 p2 18) (
  lm (sR v0 p2 4 o40) fun v0_43 =>
  gb (kd PL v0_43 p1 18) (
  lo (gR v0_43 p1 4) fun o53 =>
  od o53 (
  gb (kd PL v0_43 p0 16) (
  lm (sR v0_43 p0 3 (some p2)) fun v0_57 =>
  fJ1_rotateLeft_85 PL v0_57 p1 p2)) (fun p55 =>
  gb (kd PL v0_43 p1 18) (
  lo (gR v0_43 p1 4) fun o67 =>
  ob o67 fun p69 =>
  gb (kd PL v0_43 p69 18) (
  lo (gR v0_43 p69 2) fun o72 =>
  if o72 = (some p1) then (
  gb (kd PL v0_43 p1 18) (
  lo (gR v0_43 p1 4) fun o91 =>
  ob o91 fun p93 =>
  gb (kd PL v0_43 p93 18) (
  lm (sR v0_43 p93 2 (some p2)) fun v0_96 =>
  fJ1_rotateLeft_85 PL v0_96 p1 p2)))
  else (
  gb (kd PL v0_43 p1 18) (
  lo (gR v0_43 p1 4) fun o76 =>
  ob o76 fun p78 =>
  gb (kd PL v0_43 p78 18) (
  lm (sR v0_43 p78 3 (some p2)) fun v0_81 =>
  fJ1_rotateLeft_85 PL v0_81 p1 p2)))))))))
noncomputable def fJ1_rotateLeft (PL : Nat → Bool) (v0 : Mem) (p0 : Nat) (o1 : Option Nat) : Option (Mem) :=
  od o1 (
  some v0) (fun p1 =>
  gb (kd PL v0 p1 18) (
  lo (gR v0 p1 3) fun o3 =>
  ob o3 fun p5 =>
  gb (kd PL v0 p5 18) (
  lo (gR v0 p5 2) fun o8 =>
  gb (kd PL v0 p1 18) (
  lm (sR v0 p1 3 o8) fun v0_11 =>
  gb (kd PL v0_11 p5 18) (
  lo (gR v0_11 p5 2) fun o21 =>
  od o21 (
  fJ1_rotateLeft_32 PL v0_11 p0 p1 p5) (fun p23 =>
  gb (kd PL v0_11 p5 18) (
  lo (gR v0_11 p5 2) fun o25 =>
  ob o25 fun p27 =>
  gb (kd PL v0_11 p27 18) (
  lm (sR v0_11 p27 4 (some p1)) fun v0_30 =>
  fJ1_rotateLeft_32 PL v0_30 p0 p1 p5))))))))
set_option maxHeartbeats 4000000 in
theorem w_fJ1_rotateLeft_85 (C : Cx G p s m args meth c RJ1 cJ1_rotateLeft 3 none) {PL : Nat → Bool} {vP0 : Mem} {rw0 : Mem} : ∀ (v0 : Mem) (p1 : Nat) (p2 : Nat), fJ1_rotateLeft_85 PL v0 p1 p2 = some rw0 → ∀ (H : Heap) (locs : List Loc) (ls : Array Slot), pl G PL v0 H → va_S (FA (fP PL vP0) s.heap.size) s.heap H locs → H.size = s.heap.size → KM vP0 v0 s.heap.size → lv_has ls 3 [(1, .ref p1), (2, .ref p2)] → W p l e (rmT 0 0 0 0) s m args below meth c H locs 0 0 (MQ below (QcT (FA (fP PL vP0) s.heap.size) (fun ov H => ov = none ∧ pl G PL rw0 H ∧ H.size = s.heap.size ∧ KM vP0 rw0 s.heap.size)) args s 0 0 (FA (fP PL vP0) s.heap.size)) (F0 m 85 ls []) := by
  intro v0 p1 p2 hm H locs ls hW0 hS hz hKM hl
  obtain ⟨hx, hb, hr, hlk, hml, hown, hts, hK⟩ := id C
  unfold fJ1_rotateLeft_85 at hm
  refine lv_aload_n (pc := 85) hx hb dJ1_rotateLeft_85 rfl (lv_at hl 1 rfl) ?_
  refine lv_aload_n (pc := 86) hx hb dJ1_rotateLeft_86 rfl (lv_at hl 0 rfl) ?_
  obtain ⟨hg105, hm⟩ := gb_some hm
  refine rp_put (pc := 87) (q := p2) hx hb hts hown hK hW0 hS flJ1_111 ft_J11 (kd_A hKM hg105 (by decide)) (shP_18 (kd_PL hg105) (kd_k hg105)) rfl (x := va_rf (some p1)) (rf_nar _ rfl (some p1)) (rf_fit _ rfl (some p1)) (Nat.le_of_ble_eq_true rfl) (sR v0 p2 2 (some p1)) sR_ne (by rw [sR_eq]; exact shP_18 (kd_PL hg105) (kd_k hg105)) dJ1_rotateLeft_87 (fun H107 locs108 hW109 hS110 hz111 hkp112 => ?_)
  have hKM113 := KM.sR (o := p2) (j := 2) (x := (some p1)) hKM
  obtain ⟨v0_106, he9, hm⟩ := lm_some hm
  rw [he9] at hW109 hKM113
  have hz114 := hz111.trans hz
  refine lv_aload_n (pc := 90) hx hb dJ1_rotateLeft_90 rfl (lv_at hl 0 rfl) ?_
  refine lv_aload_n (pc := 91) hx hb dJ1_rotateLeft_91 rfl (lv_at hl 1 rfl) ?_
  obtain ⟨hg115, hm⟩ := gb_some hm
  refine rp_put (pc := 92) (q := p1) hx hb hts hown hK hW109 hS110 flJ1_124 ft_J11 (kd_A hKM113 hg115 (by decide)) (shP_18 (kd_PL hg115) (kd_k hg115)) rfl (x := va_rf (some p2)) (rf_nar _ rfl (some p2)) (rf_fit _ rfl (some p2)) (Nat.le_of_ble_eq_true rfl) (sR v0_106 p1 4 (some p2)) sR_ne (by rw [sR_eq]; exact shP_18 (kd_PL hg115) (kd_k hg115)) dJ1_rotateLeft_92 (fun H117 locs118 hW119 hS120 hz121 hkp122 => ?_)
  have hKM123 := KM.sR (o := p1) (j := 4) (x := (some p2)) hKM113
  obtain ⟨v0_116, he9, hm⟩ := lm_some hm
  rw [he9] at hW119 hKM123
  have hz124 := hz121.trans hz114
  have e9 := rs1 hm
  subst e9
  exact rk_vret (pc := 95) hx hb hr hlk hS120 ⟨rfl, hW119, hz124, hKM123⟩ dJ1_rotateLeft_95
set_option maxHeartbeats 4000000 in
theorem w_fJ1_rotateLeft_32 (C : Cx G p s m args meth c RJ1 cJ1_rotateLeft 3 none) {PL : Nat → Bool} {vP0 : Mem} {rw0 : Mem} : ∀ (v0 : Mem) (p0 : Nat) (p1 : Nat) (p2 : Nat), fJ1_rotateLeft_32 PL v0 p0 p1 p2 = some rw0 → ∀ (H : Heap) (locs : List Loc) (ls : Array Slot), pl G PL v0 H → va_S (FA (fP PL vP0) s.heap.size) s.heap H locs → H.size = s.heap.size → KM vP0 v0 s.heap.size → lv_has ls 3 [(0, .ref p0), (1, .ref p1), (2, .ref p2)] → W p l e (rmT 0 0 0 0) s m args below meth c H locs 0 0 (MQ below (QcT (FA (fP PL vP0) s.heap.size) (fun ov H => ov = none ∧ pl G PL rw0 H ∧ H.size = s.heap.size ∧ KM vP0 rw0 s.heap.size)) args s 0 0 (FA (fP PL vP0) s.heap.size)) (F0 m 32 ls []) := by
  intro v0 p0 p1 p2 hm H locs ls hW0 hS hz hKM hl
  obtain ⟨hx, hb, hr, hlk, hml, hown, hts, hK⟩ := id C
  unfold fJ1_rotateLeft_32 at hm
  refine lv_aload_n (pc := 32) hx hb dJ1_rotateLeft_32 rfl (lv_at hl 2 rfl) ?_
  refine lv_aload_n (pc := 33) hx hb dJ1_rotateLeft_33 rfl (lv_at hl 1 rfl) ?_
  obtain ⟨hg39, hm⟩ := gb_some hm
  obtain ⟨o40, he41, hm⟩ := lo_some hm
  refine rk_get (pc := 34) hx hb hts hown hK (pl_rg hW0) flJ1_124 p1 (Nat.lt_succ_self _) (Nat.zero_add _).symm (shP_18 (kd_PL hg39) (kd_k hg39)) (x := va_rf o40) (congrArg (fun z => some (va_rf z)) he41) dJ1_rotateLeft_34 ?_
  obtain ⟨hg42, hm⟩ := gb_some hm
  refine rp_put (pc := 37) (q := p2) hx hb hts hown hK hW0 hS flJ1_124 ft_J11 (kd_A hKM hg42 (by decide)) (shP_18 (kd_PL hg42) (kd_k hg42)) rfl (x := va_rf o40) (rf_nar _ rfl o40) (rf_fit _ rfl o40) (Nat.le_of_ble_eq_true rfl) (sR v0 p2 4 o40) sR_ne (by rw [sR_eq]; exact shP_18 (kd_PL hg42) (kd_k hg42)) dJ1_rotateLeft_37 (fun H44 locs45 hW46 hS47 hz48 hkp49 => ?_)
  have hKM50 := KM.sR (o := p2) (j := 4) (x := o40) hKM
  obtain ⟨v0_43, he9, hm⟩ := lm_some hm
  rw [he9] at hW46 hKM50
  have hz51 := hz48.trans hz
  refine lv_aload_n (pc := 40) hx hb dJ1_rotateLeft_40 rfl (lv_at hl 1 rfl) ?_
  obtain ⟨hg52, hm⟩ := gb_some hm
  obtain ⟨o53, he54, hm⟩ := lo_some hm
  refine rk_get (pc := 41) hx hb hts hown hK (pl_rg hW46) flJ1_124 p1 (Nat.lt_succ_self _) (Nat.zero_add _).symm (shP_18 (kd_PL hg52) (kd_k hg52)) (x := va_rf o53) (congrArg (fun z => some (va_rf z)) he54) dJ1_rotateLeft_41 ?_
  rcases o53 with _ | p55
  · have hm := od_n hm
    refine lv_ifnonnullN (pc := 44) hx hb dJ1_rotateLeft_44 ?_
    refine lv_aload_n (pc := 47) hx hb dJ1_rotateLeft_47 rfl (lv_at hl 0 rfl) ?_
    refine lv_aload_n (pc := 48) hx hb dJ1_rotateLeft_48 rfl (lv_at hl 2 rfl) ?_
    obtain ⟨hg56, hm⟩ := gb_some hm
    refine rp_put (pc := 49) (q := p0) hx hb hts hown hK hW46 hS47 flJ1_101 ft_J1 (kd_A hKM50 hg56 (by decide)) (shP_16 (kd_PL hg56) (kd_k hg56)) rfl (x := va_rf (some p2)) (rf_nar _ rfl (some p2)) (rf_fit _ rfl (some p2)) (Nat.le_of_ble_eq_true rfl) (sR v0_43 p0 3 (some p2)) sR_ne (by rw [sR_eq]; exact shP_16 (kd_PL hg56) (kd_k hg56)) dJ1_rotateLeft_49 (fun H58 locs59 hW60 hS61 hz62 hkp63 => ?_)
    have hKM64 := KM.sR (o := p0) (j := 3) (x := (some p2)) hKM50
    obtain ⟨v0_57, he9, hm⟩ := lm_some hm
    rw [he9] at hW60 hKM64
    have hz65 := hz62.trans hz51
    refine lv_goto (pc := 52) (tgt := 85) hx hb dJ1_rotateLeft_52 (by decide) ?_
    exact (w_fJ1_rotateLeft_85 C) v0_57 p1 p2 hm H58 locs59 ls hW60 hS61 hz65 hKM64 (lv_sub hl [1, 2] rfl)
  · have hm := od_s hm
    refine lv_ifnonnull (pc := 44) (tgt := 55) hx hb dJ1_rotateLeft_44 (by decide) ?_
    refine lv_aload_n (pc := 55) hx hb dJ1_rotateLeft_55 rfl (lv_at hl 1 rfl) ?_
    obtain ⟨hg66, hm⟩ := gb_some hm
    obtain ⟨o67, he68, hm⟩ := lo_some hm
    refine rk_get (pc := 56) hx hb hts hown hK (pl_rg hW46) flJ1_124 p1 (Nat.lt_succ_self _) (Nat.zero_add _).symm (shP_18 (kd_PL hg66) (kd_k hg66)) (x := va_rf o67) (congrArg (fun z => some (va_rf z)) he68) dJ1_rotateLeft_56 ?_
    obtain ⟨p69, he70, hm⟩ := ob_some hm
    subst he70
    obtain ⟨hg71, hm⟩ := gb_some hm
    obtain ⟨o72, he73, hm⟩ := lo_some hm
    refine rk_get (pc := 59) hx hb hts hown hK (pl_rg hW46) flJ1_111 p69 (Nat.lt_succ_self _) (Nat.zero_add _).symm (shP_18 (kd_PL hg71) (kd_k hg71)) (x := va_rf o72) (congrArg (fun z => some (va_rf z)) he73) dJ1_rotateLeft_59 ?_
    refine lv_aload_n (pc := 62) hx hb dJ1_rotateLeft_62 rfl (lv_at hl 1 rfl) ?_
    refine lv_acmp_ne (pc := 63) (rx := o72) (ry := (some p1)) (tgt := 77) hx hb dJ1_rotateLeft_63 (by decide) (fun c74 => ?_) (fun c74 => ?_)
    · have hm := ite_f c74 hm
      refine lv_aload_n (pc := 77) hx hb dJ1_rotateLeft_77 rfl (lv_at hl 1 rfl) ?_
      obtain ⟨hg75, hm⟩ := gb_some hm
      obtain ⟨o76, he77, hm⟩ := lo_some hm
      refine rk_get (pc := 78) hx hb hts hown hK (pl_rg hW46) flJ1_124 p1 (Nat.lt_succ_self _) (Nat.zero_add _).symm (shP_18 (kd_PL hg75) (kd_k hg75)) (x := va_rf o76) (congrArg (fun z => some (va_rf z)) he77) dJ1_rotateLeft_78 ?_
      refine lv_aload_n (pc := 81) hx hb dJ1_rotateLeft_81 rfl (lv_at hl 2 rfl) ?_
      obtain ⟨p78, he79, hm⟩ := ob_some hm
      subst he79
      obtain ⟨hg80, hm⟩ := gb_some hm
      refine rp_put (pc := 82) (q := p78) hx hb hts hown hK hW46 hS47 flJ1_114 ft_J11 (kd_A hKM50 hg80 (by decide)) (shP_18 (kd_PL hg80) (kd_k hg80)) rfl (x := va_rf (some p2)) (rf_nar _ rfl (some p2)) (rf_fit _ rfl (some p2)) (Nat.le_of_ble_eq_true rfl) (sR v0_43 p78 3 (some p2)) sR_ne (by rw [sR_eq]; exact shP_18 (kd_PL hg80) (kd_k hg80)) dJ1_rotateLeft_82 (fun H82 locs83 hW84 hS85 hz86 hkp87 => ?_)
      have hKM88 := KM.sR (o := p78) (j := 3) (x := (some p2)) hKM50
      obtain ⟨v0_81, he9, hm⟩ := lm_some hm
      rw [he9] at hW84 hKM88
      have hz89 := hz86.trans hz51
      exact (w_fJ1_rotateLeft_85 C) v0_81 p1 p2 hm H82 locs83 ls hW84 hS85 hz89 hKM88 (lv_sub hl [1, 2] rfl)
    · have hm := ite_t c74 hm
      refine lv_aload_n (pc := 66) hx hb dJ1_rotateLeft_66 rfl (lv_at hl 1 rfl) ?_
      obtain ⟨hg90, hm⟩ := gb_some hm
      obtain ⟨o91, he92, hm⟩ := lo_some hm
      refine rk_get (pc := 67) hx hb hts hown hK (pl_rg hW46) flJ1_124 p1 (Nat.lt_succ_self _) (Nat.zero_add _).symm (shP_18 (kd_PL hg90) (kd_k hg90)) (x := va_rf o91) (congrArg (fun z => some (va_rf z)) he92) dJ1_rotateLeft_67 ?_
      refine lv_aload_n (pc := 70) hx hb dJ1_rotateLeft_70 rfl (lv_at hl 2 rfl) ?_
      obtain ⟨p93, he94, hm⟩ := ob_some hm
      subst he94
      obtain ⟨hg95, hm⟩ := gb_some hm
      refine rp_put (pc := 71) (q := p93) hx hb hts hown hK hW46 hS47 flJ1_111 ft_J11 (kd_A hKM50 hg95 (by decide)) (shP_18 (kd_PL hg95) (kd_k hg95)) rfl (x := va_rf (some p2)) (rf_nar _ rfl (some p2)) (rf_fit _ rfl (some p2)) (Nat.le_of_ble_eq_true rfl) (sR v0_43 p93 2 (some p2)) sR_ne (by rw [sR_eq]; exact shP_18 (kd_PL hg95) (kd_k hg95)) dJ1_rotateLeft_71 (fun H97 locs98 hW99 hS100 hz101 hkp102 => ?_)
      have hKM103 := KM.sR (o := p93) (j := 2) (x := (some p2)) hKM50
      obtain ⟨v0_96, he9, hm⟩ := lm_some hm
      rw [he9] at hW99 hKM103
      have hz104 := hz101.trans hz51
      refine lv_goto (pc := 74) (tgt := 85) hx hb dJ1_rotateLeft_74 (by decide) ?_
      exact (w_fJ1_rotateLeft_85 C) v0_96 p1 p2 hm H97 locs98 ls hW99 hS100 hz104 hKM103 (lv_sub hl [1, 2] rfl)
set_option maxHeartbeats 4000000 in
theorem w_fJ1_rotateLeft (C : Cx G p s m args meth c RJ1 cJ1_rotateLeft 3 none) {PL : Nat → Bool} {vP0 : Mem} {rw0 : Mem} : ∀ (v0 : Mem) (p0 : Nat) (o1 : Option Nat), fJ1_rotateLeft PL v0 p0 o1 = some rw0 → ∀ (H : Heap) (locs : List Loc) (ls : Array Slot), pl G PL v0 H → va_S (FA (fP PL vP0) s.heap.size) s.heap H locs → H.size = s.heap.size → KM vP0 v0 s.heap.size → lv_has ls 3 [(0, .ref p0), (1, va_rf o1)] → W p l e (rmT 0 0 0 0) s m args below meth c H locs 0 0 (MQ below (QcT (FA (fP PL vP0) s.heap.size) (fun ov H => ov = none ∧ pl G PL rw0 H ∧ H.size = s.heap.size ∧ KM vP0 rw0 s.heap.size)) args s 0 0 (FA (fP PL vP0) s.heap.size)) (F0 m 0 ls []) := by
  intro v0 p0 o1 hm H locs ls hW0 hS hz hKM hl
  obtain ⟨hx, hb, hr, hlk, hml, hown, hts, hK⟩ := id C
  unfold fJ1_rotateLeft at hm
  refine lv_aload_nO (pc := 0) hx hb dJ1_rotateLeft_0 rfl (lv_at hl 1 rfl) ?_
  rcases o1 with _ | p1
  · have hm := od_n hm
    refine lv_ifnullN (pc := 1) (tgt := 95) hx hb dJ1_rotateLeft_1 (by decide) ?_
    have e9 := rs1 hm
    subst e9
    exact rk_vret (pc := 95) hx hb hr hlk hS ⟨rfl, hW0, hz, hKM⟩ dJ1_rotateLeft_95
  · have hm := od_s hm
    refine lv_ifnull (pc := 1) hx hb dJ1_rotateLeft_1 ?_
    refine lv_aload_n (pc := 4) hx hb dJ1_rotateLeft_4 rfl (lv_at hl 1 rfl) ?_
    obtain ⟨hg2, hm⟩ := gb_some hm
    obtain ⟨o3, he4, hm⟩ := lo_some hm
    refine rk_get (pc := 5) hx hb hts hown hK (pl_rg hW0) flJ1_114 p1 (Nat.lt_succ_self _) (Nat.zero_add _).symm (shP_18 (kd_PL hg2) (kd_k hg2)) (x := va_rf o3) (congrArg (fun z => some (va_rf z)) he4) dJ1_rotateLeft_5 ?_
    refine lv_astore_nO (pc := 8) (lv' := [(2, va_rf o3), (0, .ref p0), (1, .ref p1)]) hx hb dJ1_rotateLeft_8 rfl hl (by decide) rfl (fun ls hl => ?_)
    refine lv_aload_n (pc := 9) hx hb dJ1_rotateLeft_9 rfl (lv_at hl 2 rfl) ?_
    refine lv_aload_nO (pc := 10) hx hb dJ1_rotateLeft_10 rfl (lv_at hl 0 rfl) ?_
    obtain ⟨p5, he6, hm⟩ := ob_some hm
    subst he6
    obtain ⟨hg7, hm⟩ := gb_some hm
    obtain ⟨o8, he9, hm⟩ := lo_some hm
    refine rk_get (pc := 11) hx hb hts hown hK (pl_rg hW0) flJ1_111 p5 (Nat.lt_succ_self _) (Nat.zero_add _).symm (shP_18 (kd_PL hg7) (kd_k hg7)) (x := va_rf o8) (congrArg (fun z => some (va_rf z)) he9) dJ1_rotateLeft_11 ?_
    obtain ⟨hg10, hm⟩ := gb_some hm
    refine rp_put (pc := 14) (q := p1) hx hb hts hown hK hW0 hS flJ1_114 ft_J11 (kd_A hKM hg10 (by decide)) (shP_18 (kd_PL hg10) (kd_k hg10)) rfl (x := va_rf o8) (rf_nar _ rfl o8) (rf_fit _ rfl o8) (Nat.le_of_ble_eq_true rfl) (sR v0 p1 3 o8) sR_ne (by rw [sR_eq]; exact shP_18 (kd_PL hg10) (kd_k hg10)) dJ1_rotateLeft_14 (fun H12 locs13 hW14 hS15 hz16 hkp17 => ?_)
    have hKM18 := KM.sR (o := p1) (j := 3) (x := o8) hKM
    obtain ⟨v0_11, he9, hm⟩ := lm_some hm
    rw [he9] at hW14 hKM18
    have hz19 := hz16.trans hz
    refine lv_aload_n (pc := 17) hx hb dJ1_rotateLeft_17 rfl (lv_at hl 0 rfl) ?_
    obtain ⟨hg20, hm⟩ := gb_some hm
    obtain ⟨o21, he22, hm⟩ := lo_some hm
    refine rk_get (pc := 18) hx hb hts hown hK (pl_rg hW14) flJ1_111 p5 (Nat.lt_succ_self _) (Nat.zero_add _).symm (shP_18 (kd_PL hg20) (kd_k hg20)) (x := va_rf o21) (congrArg (fun z => some (va_rf z)) he22) dJ1_rotateLeft_18 ?_
    rcases o21 with _ | p23
    · have hm := od_n hm
      refine lv_ifnullN (pc := 21) (tgt := 32) hx hb dJ1_rotateLeft_21 (by decide) ?_
      exact (w_fJ1_rotateLeft_32 C) v0_11 p0 p1 p5 hm H12 locs13 ls hW14 hS15 hz19 hKM18 (lv_sub hl [1, 2, 0] rfl)
    · have hm := od_s hm
      refine lv_ifnull (pc := 21) hx hb dJ1_rotateLeft_21 ?_
      refine lv_aload_n (pc := 24) hx hb dJ1_rotateLeft_24 rfl (lv_at hl 0 rfl) ?_
      obtain ⟨hg24, hm⟩ := gb_some hm
      obtain ⟨o25, he26, hm⟩ := lo_some hm
      refine rk_get (pc := 25) hx hb hts hown hK (pl_rg hW14) flJ1_111 p5 (Nat.lt_succ_self _) (Nat.zero_add _).symm (shP_18 (kd_PL hg24) (kd_k hg24)) (x := va_rf o25) (congrArg (fun z => some (va_rf z)) he26) dJ1_rotateLeft_25 ?_
      refine lv_aload_n (pc := 28) hx hb dJ1_rotateLeft_28 rfl (lv_at hl 2 rfl) ?_
      obtain ⟨p27, he28, hm⟩ := ob_some hm
      subst he28
      obtain ⟨hg29, hm⟩ := gb_some hm
      refine rp_put (pc := 29) (q := p27) hx hb hts hown hK hW14 hS15 flJ1_124 ft_J11 (kd_A hKM18 hg29 (by decide)) (shP_18 (kd_PL hg29) (kd_k hg29)) rfl (x := va_rf (some p1)) (rf_nar _ rfl (some p1)) (rf_fit _ rfl (some p1)) (Nat.le_of_ble_eq_true rfl) (sR v0_11 p27 4 (some p1)) sR_ne (by rw [sR_eq]; exact shP_18 (kd_PL hg29) (kd_k hg29)) dJ1_rotateLeft_29 (fun H31 locs32 hW33 hS34 hz35 hkp36 => ?_)
      have hKM37 := KM.sR (o := p27) (j := 4) (x := (some p1)) hKM18
      obtain ⟨v0_30, he9, hm⟩ := lm_some hm
      rw [he9] at hW33 hKM37
      have hz38 := hz35.trans hz19
      exact (w_fJ1_rotateLeft_32 C) v0_30 p0 p1 p5 hm H31 locs32 ls hW33 hS34 hz38 hKM37 (lv_sub hl [1, 2, 0] rfl)
set_option maxHeartbeats 4000000 in
theorem ct_J1_rotateLeft {G : Gv} {l : Launch} {PL : Nat → Bool} {v0 : Mem} {p0 : Nat} {o1 : Option Nat} {rw0 : Mem} {sz : Nat} (hm : fJ1_rotateLeft PL v0 p0 o1 = some rw0) : CT G l yJ1_rotateLeft (ws_ yJ1_rotateLeft cJ1_rotateLeft 3 none) 0 0 0 0 [.ref p0, va_rf o1] (fP PL v0) sz (fun H => pl G PL v0 H) (fun ov H => ov = none ∧ pl G PL rw0 H ∧ H.size = sz ∧ KM v0 rw0 sz) := by
  cases o1 with
  | none =>
    refine Met.ofW (cc := cJ1_rotateLeft) (maxL := 3) (ret := none) (by decide +kernel) rfl ?_
    intro p e s m args below meth c s₁ B hml hv
    obtain ⟨rfl, ⟨hz, hW0⟩, hK⟩ := hv
    subst hz
    have hts := atoms_spec (ws := ws_ yJ1_rotateLeft cJ1_rotateLeft 3 none) B.pre
    have hts : ∀ w ∈ lw_all, w.before _ s = true := fun w h => hts w (List.mem_cons_of_mem _ h)
    have C : Cx G p s m _ meth c RJ1 cJ1_rotateLeft 3 none := ⟨B.exec, B.bytes, B.returns, B.notSynchronized, hml, findClass_of_methodNamed B.named, hts, hK⟩
    have hl := lv_entry ([.ref p0, va_rf none]) (n := 3) (Nat.le_of_ble_eq_true rfl)
    rw [lg_entry_eq]
    generalize (lg_sl ([.ref p0, va_rf none]) ++ List.replicate (3 - (lg_sl ([.ref p0, va_rf none])).length) Slot.unset).toArray = ls at hl ⊢
    have hl : lv_has ls 3 [(0, .ref p0), (1, va_rf none)] := hl
    exact w_fJ1_rotateLeft C _ _ _ hm s.heap [] ls hW0 va_S.rf rfl KM.rf hl
  | some ao1 =>
    refine Met.ofW (cc := cJ1_rotateLeft) (maxL := 3) (ret := none) (by decide +kernel) rfl ?_
    intro p e s m args below meth c s₁ B hml hv
    obtain ⟨rfl, ⟨hz, hW0⟩, hK⟩ := hv
    subst hz
    have hts := atoms_spec (ws := ws_ yJ1_rotateLeft cJ1_rotateLeft 3 none) B.pre
    have hts : ∀ w ∈ lw_all, w.before _ s = true := fun w h => hts w (List.mem_cons_of_mem _ h)
    have C : Cx G p s m _ meth c RJ1 cJ1_rotateLeft 3 none := ⟨B.exec, B.bytes, B.returns, B.notSynchronized, hml, findClass_of_methodNamed B.named, hts, hK⟩
    have hl := lv_entry ([.ref p0, va_rf (some ao1)]) (n := 3) (Nat.le_of_ble_eq_true rfl)
    rw [lg_entry_eq]
    generalize (lg_sl ([.ref p0, va_rf (some ao1)]) ++ List.replicate (3 - (lg_sl ([.ref p0, va_rf (some ao1)])).length) Slot.unset).toArray = ls at hl ⊢
    have hl : lv_has ls 3 [(0, .ref p0), (1, va_rf (some ao1))] := hl
    exact w_fJ1_rotateLeft C _ _ _ hm s.heap [] ls hW0 va_S.rf rfl KM.rf hl
theorem yn_J1_rotateLeft : YN yJ1_rotateLeft 1 := by
  unfold YN
  decide +kernel
theorem lkJ1_311 : LV RJ1 311 RJ1 yJ1_rotateLeft cJ1_rotateLeft 3 none := ⟨q1450, q1452, qs52, q120, q1453⟩
noncomputable def fJ1_fixAfterInsertion_225 (PL : Nat → Bool) (k5 : Mem → Nat → Option Nat → Option (Mem)) (v0 : Mem) (p0 : Nat) (p1 : Nat) : Option (Mem) :=
  ob (fJ1_parentOf PL v0 (some p1)) fun o368 =>
  ob (fJ1_setColor PL v0 o368 (1 : Int32)) fun w370 =>
  ob (fJ1_parentOf PL w370 (some p1)) fun o382 =>
  ob (fJ1_parentOf PL w370 o382) fun o384 =>
  ob (fJ1_setColor PL w370 o384 (0 : Int32)) fun w386 =>
  ob (fJ1_parentOf PL w386 (some p1)) fun o398 =>
  ob (fJ1_parentOf PL w386 o398) fun o400 =>
  gb (kd PL w386 p0 16) (
  ob (fJ1_rotateLeft PL w386 p0 o400) fun w403 =>
  k5 w403 p0 (some p1))
noncomputable def fJ1_fixAfterInsertion_225b (PL : Nat → Bool) (k5 : Mem → Nat → Option Nat → Option (Mem)) (v0 : Mem) (p0 : Nat) (o1 : Option Nat) : Option (Mem) :=
  ob (fJ1_parentOf PL v0 o1) fun o321 =>
  ob (fJ1_setColor PL v0 o321 (1 : Int32)) fun w323 =>
  ob (fJ1_parentOf PL w323 o1) fun o335 =>
  ob (fJ1_parentOf PL w323 o335) fun o337 =>
  ob (fJ1_setColor PL w323 o337 (0 : Int32)) fun w339 =>
  ob (fJ1_parentOf PL w339 o1) fun o351 =>
  ob (fJ1_parentOf PL w339 o351) fun o353 =>
  gb (kd PL w339 p0 16) (
  ob (fJ1_rotateLeft PL w339 p0 o353) fun w356 =>
  k5 w356 p0 o1)
noncomputable def fJ1_fixAfterInsertion_118 (PL : Nat → Bool) (k5 : Mem → Nat → Option Nat → Option (Mem)) (v0 : Mem) (p0 : Nat) (p1 : Nat) : Option (Mem) :=
  ob (fJ1_parentOf PL v0 (some p1)) fun o274 =>
  ob (fJ1_setColor PL v0 o274 (1 : Int32)) fun w276 =>
  ob (fJ1_parentOf PL w276 (some p1)) fun o288 =>
  ob (fJ1_parentOf PL w276 o288) fun o290 =>
  ob (fJ1_setColor PL w276 o290 (0 : Int32)) fun w292 =>
  ob (fJ1_parentOf PL w292 (some p1)) fun o304 =>
  ob (fJ1_parentOf PL w292 o304) fun o306 =>
  gb (kd PL w292 p0 16) (
  ob (fJ1_rotateRight PL w292 p0 o306) fun w309 =>
  k5 w309 p0 (some p1))
noncomputable def fJ1_fixAfterInsertion_118b (PL : Nat → Bool) (k5 : Mem → Nat → Option Nat → Option (Mem)) (v0 : Mem) (p0 : Nat) (o1 : Option Nat) : Option (Mem) :=
  ob (fJ1_parentOf PL v0 o1) fun o227 =>
  ob (fJ1_setColor PL v0 o227 (1 : Int32)) fun w229 =>
  ob (fJ1_parentOf PL w229 o1) fun o241 =>
  ob (fJ1_parentOf PL w229 o241) fun o243 =>
  ob (fJ1_setColor PL w229 o243 (0 : Int32)) fun w245 =>
  ob (fJ1_parentOf PL w245 o1) fun o257 =>
  ob (fJ1_parentOf PL w245 o257) fun o259 =>
  gb (kd PL w245 p0 16) (
  ob (fJ1_rotateRight PL w245 p0 o259) fun w262 =>
  k5 w262 p0 o1)
noncomputable def fJ1_fixAfterInsertion_5 (PL : Nat → Bool) (k5 : Mem → Nat → Option Nat → Option (Mem)) (v0 : Mem) (p0 : Nat) (o1 : Option Nat) : Option (Mem) :=
  od o1 (
  gb (kd PL v0 p0 16) (
  lo (gR v0 p0 3) fun o13 =>
  ob o13 fun p15 =>
  gb (kd PL v0 p15 18) (
  lm (sI v0 p15 5 (1 : Int32)) fun v0_18 =>
  some v0_18))) (fun p11 =>
  gb (kd PL v0 p0 16) (
  lo (gR v0 p0 3) fun o28 =>
  if (some p11) = o28 then (
  gb (kd PL v0 p0 16) (
  lo (gR v0 p0 3) fun o32 =>
  ob o32 fun p34 =>
  gb (kd PL v0 p34 18) (
  lm (sI v0 p34 5 (1 : Int32)) fun v0_37 =>
  some v0_37)))
  else (
  gb (kd PL v0 p11 18) (
  lo (gR v0 p11 4) fun o47 =>
  ob o47 fun p49 =>
  gb (kd PL v0 p49 18) (
  if (gI v0 p49 5) = 0 then (
  ob (fJ1_parentOf PL v0 (some p11)) fun o68 =>
  ob (fJ1_parentOf PL v0 (some p11)) fun o70 =>
  ob (fJ1_parentOf PL v0 o70) fun o72 =>
  ob (fJ1_leftOf PL v0 o72) fun o74 =>
  if o68 = o74 then (
  ob (fJ1_parentOf PL v0 (some p11)) fun o152 =>
  ob (fJ1_parentOf PL v0 o152) fun o154 =>
  ob (fJ1_rightOf PL v0 o154) fun o156 =>
  ob (fJ1_colorOf PL v0 o156) fun r158 =>
  if r158 = 0 then (
  ob (fJ1_parentOf PL v0 (some p11)) fun o181 =>
  ob (fJ1_setColor PL v0 o181 (1 : Int32)) fun w183 =>
  ob (fJ1_setColor PL w183 o156 (1 : Int32)) fun w195 =>
  ob (fJ1_parentOf PL w195 (some p11)) fun o207 =>
  ob (fJ1_parentOf PL w195 o207) fun o209 =>
  ob (fJ1_setColor PL w195 o209 (0 : Int32)) fun w211 =>
  ob (fJ1_parentOf PL w211 (some p11)) fun o223 =>
  ob (fJ1_parentOf PL w211 o223) fun o225 =>
  k5 w211 p0 o225)
  else (
  ob (fJ1_parentOf PL v0 (some p11)) fun o161 =>
  ob (fJ1_rightOf PL v0 o161) fun o163 =>
  if (some p11) = o163 then (
  ob (fJ1_parentOf PL v0 (some p11)) fun o166 =>
  gb (kd PL v0 p0 16) (
  ob (fJ1_rotateLeft PL v0 p0 o166) fun w169 =>
  fJ1_fixAfterInsertion_118b PL k5 w169 p0 o166))
  else (
  fJ1_fixAfterInsertion_118 PL k5 v0 p0 p11)))
  else (
  ob (fJ1_parentOf PL v0 (some p11)) fun o77 =>
  ob (fJ1_parentOf PL v0 o77) fun o79 =>
  ob (fJ1_leftOf PL v0 o79) fun o81 =>
  ob (fJ1_colorOf PL v0 o81) fun r83 =>
  if r83 = 0 then (
  ob (fJ1_parentOf PL v0 (some p11)) fun o106 =>
  ob (fJ1_setColor PL v0 o106 (1 : Int32)) fun w108 =>
  ob (fJ1_setColor PL w108 o81 (1 : Int32)) fun w120 =>
  ob (fJ1_parentOf PL w120 (some p11)) fun o132 =>
  ob (fJ1_parentOf PL w120 o132) fun o134 =>
  ob (fJ1_setColor PL w120 o134 (0 : Int32)) fun w136 =>
  ob (fJ1_parentOf PL w136 (some p11)) fun o148 =>
  ob (fJ1_parentOf PL w136 o148) fun o150 =>
  k5 w136 p0 o150)
  else (
  ob (fJ1_parentOf PL v0 (some p11)) fun o86 =>
  ob (fJ1_leftOf PL v0 o86) fun o88 =>
  if (some p11) = o88 then (
  ob (fJ1_parentOf PL v0 (some p11)) fun o91 =>
  gb (kd PL v0 p0 16) (
  ob (fJ1_rotateRight PL v0 p0 o91) fun w94 =>
  fJ1_fixAfterInsertion_225b PL k5 w94 p0 o91))
  else (
  fJ1_fixAfterInsertion_225 PL k5 v0 p0 p11))))
  else (
  gb (kd PL v0 p0 16) (
  lo (gR v0 p0 3) fun o54 =>
  ob o54 fun p56 =>
  gb (kd PL v0 p56 18) (
  lm (sI v0 p56 5 (1 : Int32)) fun v0_59 =>
  some v0_59))))))))
noncomputable def fJ1_fixAfterInsertion (PL : Nat → Bool) (v0 : Mem) (p0 : Nat) (p1 : Nat) : Option (Mem) :=
  gb (kd PL v0 p1 18) (
  lm (sI v0 p1 5 (0 : Int32)) fun v0_2 =>
  lq3 (fJ1_fixAfterInsertion_5 PL) FU v0_2 p0 (some p1))
set_option maxHeartbeats 4000000 in
theorem w_fJ1_fixAfterInsertion_225 (C : Cx G p s m args meth c RJ1 cJ1_fixAfterInsertion 3 none) {PL : Nat → Bool} {vP0 : Mem} {rw0 : Mem} {k5 : Mem → Nat → Option Nat → Option (Mem)} (hk5 : ∀ (v0 : Mem) (p0 : Nat) (o1 : Option Nat), k5 v0 p0 o1 = some rw0 → ∀ (H : Heap) (locs : List Loc) (ls : Array Slot), pl G PL v0 H → va_S (FA (fP PL vP0) s.heap.size) s.heap H locs → H.size = s.heap.size → KM vP0 v0 s.heap.size → lv_has ls 3 [(0, .ref p0), (1, va_rf o1)] → W p l e (rmT 1 0 0 22) s m args below meth c H locs 0 0 (MQ below (QcT (FA (fP PL vP0) s.heap.size) (fun ov H => ov = none ∧ pl G PL rw0 H ∧ H.size = s.heap.size ∧ KM vP0 rw0 s.heap.size)) args s 0 0 (FA (fP PL vP0) s.heap.size)) (F0 m 5 ls [])) : ∀ (v0 : Mem) (p0 : Nat) (p1 : Nat), fJ1_fixAfterInsertion_225 PL k5 v0 p0 p1 = some rw0 → ∀ (H : Heap) (locs : List Loc) (ls : Array Slot), pl G PL v0 H → va_S (FA (fP PL vP0) s.heap.size) s.heap H locs → H.size = s.heap.size → KM vP0 v0 s.heap.size → lv_has ls 3 [(0, .ref p0), (1, .ref p1)] → W p l e (rmT 1 0 0 22) s m args below meth c H locs 0 0 (MQ below (QcT (FA (fP PL vP0) s.heap.size) (fun ov H => ov = none ∧ pl G PL rw0 H ∧ H.size = s.heap.size ∧ KM vP0 rw0 s.heap.size)) args s 0 0 (FA (fP PL vP0) s.heap.size)) (F0 m 225 ls []) := by
  intro v0 p0 p1 hm H locs ls hW0 hS hz hKM hl
  obtain ⟨hx, hb, hr, hlk, hml, hown, hts, hK⟩ := id C
  unfold fJ1_fixAfterInsertion_225 at hm
  refine lv_aload_n (pc := 225) hx hb dJ1_fixAfterInsertion_225 rfl (lv_at hl 1 rfl) ?_
  obtain ⟨o368, hq369, hm⟩ := ob_some hm
  refine rk_PS (pc := 226) (As := [.ref p1]) (rest := []) hx hb hml hown hts hK lkJ1_294 yn_J1_parentOf (ct_J1_parentOf (G := G) (l := l) hq369) ⟨Nat.le_of_ble_eq_true rfl, Nat.le_of_ble_eq_true rfl⟩ hW0 rfl rfl hl.1 (Nat.le_of_ble_eq_true rfl) dJ1_fixAfterInsertion_226 ⟨Nat.zero_le _, Nat.zero_le _⟩ ?_
  refine W.eq (g2 := F0 m 229 ls [va_rf o368]) rfl ?_
  refine lv_iconst (pc := 229) (v := (1 : Int32)) hx hb dJ1_fixAfterInsertion_229 (by decide) ?_
  obtain ⟨w370, hq371, hm⟩ := ob_some hm
  refine rk_TS (pc := 230) (As := [va_rf o368, .int (1 : Int32)]) (rest := []) (mc := 0) (ms := 0) hx hb hml hown hts hK hS (fun q hq => FA_sz rfl q hq) lkJ1_307 yn_J1_setColor (ct_J1_setColor (G := G) (l := l) (sz := H.size) hq371) ⟨Nat.le_of_ble_eq_true rfl, Nat.le_of_ble_eq_true rfl⟩ (fun z h => (KM_hf2 hKM z h)) hW0 rfl rfl hl.1 (Nat.le_of_ble_eq_true rfl) dJ1_fixAfterInsertion_230 ⟨Nat.zero_le _, Nat.zero_le _⟩ (fun ov9 H372 locs373 hP374 hkp375 hS376 => ?_)
  obtain ⟨rfl, hW377, hz378, hKM379⟩ := hP374
  have hz380 := hz378.trans hz
  have hKM381 := KM.trans hKM hKM379 (by omega)
  refine W.eq (g2 := F0 m 233 ls []) rfl ?_
  refine lv_aload_n (pc := 233) hx hb dJ1_fixAfterInsertion_233 rfl (lv_at hl 1 rfl) ?_
  obtain ⟨o382, hq383, hm⟩ := ob_some hm
  refine rk_PS (pc := 234) (As := [.ref p1]) (rest := []) hx hb hml hown hts hK lkJ1_294 yn_J1_parentOf (ct_J1_parentOf (G := G) (l := l) hq383) ⟨Nat.le_of_ble_eq_true rfl, Nat.le_of_ble_eq_true rfl⟩ hW377 rfl rfl hl.1 (Nat.le_of_ble_eq_true rfl) dJ1_fixAfterInsertion_234 ⟨Nat.zero_le _, Nat.zero_le _⟩ ?_
  refine W.eq (g2 := F0 m 237 ls [va_rf o382]) rfl ?_
  obtain ⟨o384, hq385, hm⟩ := ob_some hm
  refine rk_PS (pc := 237) (As := [va_rf o382]) (rest := []) hx hb hml hown hts hK lkJ1_294 yn_J1_parentOf (ct_J1_parentOf (G := G) (l := l) hq385) ⟨Nat.le_of_ble_eq_true rfl, Nat.le_of_ble_eq_true rfl⟩ hW377 rfl rfl hl.1 (Nat.le_of_ble_eq_true rfl) dJ1_fixAfterInsertion_237 ⟨Nat.zero_le _, Nat.zero_le _⟩ ?_
  refine W.eq (g2 := F0 m 240 ls [va_rf o384]) rfl ?_
  refine lv_iconst (pc := 240) (v := (0 : Int32)) hx hb dJ1_fixAfterInsertion_240 (by decide) ?_
  obtain ⟨w386, hq387, hm⟩ := ob_some hm
  refine rk_TS (pc := 241) (As := [va_rf o384, .int (0 : Int32)]) (rest := []) (mc := 0) (ms := 0) hx hb hml hown hts hK hS376 (fun q hq => FA_sz rfl q hq) lkJ1_307 yn_J1_setColor (ct_J1_setColor (G := G) (l := l) (sz := H372.size) hq387) ⟨Nat.le_of_ble_eq_true rfl, Nat.le_of_ble_eq_true rfl⟩ (fun z h => (KM_hf2 hKM381 z h)) hW377 rfl rfl hl.1 (Nat.le_of_ble_eq_true rfl) dJ1_fixAfterInsertion_241 ⟨Nat.zero_le _, Nat.zero_le _⟩ (fun ov9 H388 locs389 hP390 hkp391 hS392 => ?_)
  obtain ⟨rfl, hW393, hz394, hKM395⟩ := hP390
  have hz396 := hz394.trans hz380
  have hKM397 := KM.trans hKM381 hKM395 (by omega)
  refine W.eq (g2 := F0 m 244 ls []) rfl ?_
  refine lv_aload_n (pc := 244) hx hb dJ1_fixAfterInsertion_244 rfl (lv_at hl 0 rfl) ?_
  refine lv_aload_n (pc := 245) hx hb dJ1_fixAfterInsertion_245 rfl (lv_at hl 1 rfl) ?_
  obtain ⟨o398, hq399, hm⟩ := ob_some hm
  refine rk_PS (pc := 246) (As := [.ref p1]) (rest := [.ref p0]) hx hb hml hown hts hK lkJ1_294 yn_J1_parentOf (ct_J1_parentOf (G := G) (l := l) hq399) ⟨Nat.le_of_ble_eq_true rfl, Nat.le_of_ble_eq_true rfl⟩ hW393 rfl rfl hl.1 (Nat.le_of_ble_eq_true rfl) dJ1_fixAfterInsertion_246 ⟨Nat.zero_le _, Nat.zero_le _⟩ ?_
  refine W.eq (g2 := F0 m 249 ls [va_rf o398, .ref p0]) rfl ?_
  obtain ⟨o400, hq401, hm⟩ := ob_some hm
  refine rk_PS (pc := 249) (As := [va_rf o398]) (rest := [.ref p0]) hx hb hml hown hts hK lkJ1_294 yn_J1_parentOf (ct_J1_parentOf (G := G) (l := l) hq401) ⟨Nat.le_of_ble_eq_true rfl, Nat.le_of_ble_eq_true rfl⟩ hW393 rfl rfl hl.1 (Nat.le_of_ble_eq_true rfl) dJ1_fixAfterInsertion_249 ⟨Nat.zero_le _, Nat.zero_le _⟩ ?_
  refine W.eq (g2 := F0 m 252 ls [va_rf o400, .ref p0]) rfl ?_
  obtain ⟨hg402, hm⟩ := gb_some hm
  obtain ⟨w403, hq404, hm⟩ := ob_some hm
  refine rk_TV (pc := 252) (As := [va_rf o400]) (rest := []) (mc := 0) (ms := 0) hx hb hml hown hts hK hS392 (fun q hq => FA_sz rfl q hq) lkJ1_311 rfl yn_J1_rotateLeft (ct_J1_rotateLeft (G := G) (l := l) (sz := H388.size) hq404) ⟨Nat.le_of_ble_eq_true rfl, Nat.le_of_ble_eq_true rfl⟩ (fun z h => (KM_hf2 hKM397 z h)) (rp_recv hK hW393 (C := RJ1) (T := TJ1) (N := 9) rfl (shP_16 (kd_PL hg402) (kd_k hg402))) hW393 rfl rfl hl.1 (Nat.le_of_ble_eq_true rfl) dJ1_fixAfterInsertion_252 ⟨Nat.zero_le _, Nat.zero_le _⟩ (fun ov9 H405 locs406 hP407 hkp408 hS409 => ?_)
  obtain ⟨rfl, hW410, hz411, hKM412⟩ := hP407
  have hz413 := hz411.trans hz396
  have hKM414 := KM.trans hKM397 hKM412 (by omega)
  refine W.eq (g2 := F0 m 255 ls []) rfl ?_
  refine lv_goto (pc := 255) (tgt := 5) hx hb dJ1_fixAfterInsertion_255 (by decide) ?_
  exact hk5 w403 p0 (some p1) hm H405 locs406 ls hW410 hS409 hz413 hKM414 (lv_sub hl [0, 1] rfl)
set_option maxHeartbeats 4000000 in
theorem w_fJ1_fixAfterInsertion_225b (C : Cx G p s m args meth c RJ1 cJ1_fixAfterInsertion 3 none) {PL : Nat → Bool} {vP0 : Mem} {rw0 : Mem} {k5 : Mem → Nat → Option Nat → Option (Mem)} (hk5 : ∀ (v0 : Mem) (p0 : Nat) (o1 : Option Nat), k5 v0 p0 o1 = some rw0 → ∀ (H : Heap) (locs : List Loc) (ls : Array Slot), pl G PL v0 H → va_S (FA (fP PL vP0) s.heap.size) s.heap H locs → H.size = s.heap.size → KM vP0 v0 s.heap.size → lv_has ls 3 [(0, .ref p0), (1, va_rf o1)] → W p l e (rmT 1 0 0 22) s m args below meth c H locs 0 0 (MQ below (QcT (FA (fP PL vP0) s.heap.size) (fun ov H => ov = none ∧ pl G PL rw0 H ∧ H.size = s.heap.size ∧ KM vP0 rw0 s.heap.size)) args s 0 0 (FA (fP PL vP0) s.heap.size)) (F0 m 5 ls [])) : ∀ (v0 : Mem) (p0 : Nat) (o1 : Option Nat), fJ1_fixAfterInsertion_225b PL k5 v0 p0 o1 = some rw0 → ∀ (H : Heap) (locs : List Loc) (ls : Array Slot), pl G PL v0 H → va_S (FA (fP PL vP0) s.heap.size) s.heap H locs → H.size = s.heap.size → KM vP0 v0 s.heap.size → lv_has ls 3 [(0, .ref p0), (1, va_rf o1)] → W p l e (rmT 1 0 0 22) s m args below meth c H locs 0 0 (MQ below (QcT (FA (fP PL vP0) s.heap.size) (fun ov H => ov = none ∧ pl G PL rw0 H ∧ H.size = s.heap.size ∧ KM vP0 rw0 s.heap.size)) args s 0 0 (FA (fP PL vP0) s.heap.size)) (F0 m 225 ls []) := by
  intro v0 p0 o1 hm H locs ls hW0 hS hz hKM hl
  obtain ⟨hx, hb, hr, hlk, hml, hown, hts, hK⟩ := id C
  unfold fJ1_fixAfterInsertion_225b at hm
  refine lv_aload_nO (pc := 225) hx hb dJ1_fixAfterInsertion_225 rfl (lv_at hl 1 rfl) ?_
  obtain ⟨o321, hq322, hm⟩ := ob_some hm
  refine rk_PS (pc := 226) (As := [va_rf o1]) (rest := []) hx hb hml hown hts hK lkJ1_294 yn_J1_parentOf (ct_J1_parentOf (G := G) (l := l) hq322) ⟨Nat.le_of_ble_eq_true rfl, Nat.le_of_ble_eq_true rfl⟩ hW0 rfl rfl hl.1 (Nat.le_of_ble_eq_true rfl) dJ1_fixAfterInsertion_226 ⟨Nat.zero_le _, Nat.zero_le _⟩ ?_
  refine W.eq (g2 := F0 m 229 ls [va_rf o321]) rfl ?_
  refine lv_iconst (pc := 229) (v := (1 : Int32)) hx hb dJ1_fixAfterInsertion_229 (by decide) ?_
  obtain ⟨w323, hq324, hm⟩ := ob_some hm
  refine rk_TS (pc := 230) (As := [va_rf o321, .int (1 : Int32)]) (rest := []) (mc := 0) (ms := 0) hx hb hml hown hts hK hS (fun q hq => FA_sz rfl q hq) lkJ1_307 yn_J1_setColor (ct_J1_setColor (G := G) (l := l) (sz := H.size) hq324) ⟨Nat.le_of_ble_eq_true rfl, Nat.le_of_ble_eq_true rfl⟩ (fun z h => (KM_hf2 hKM z h)) hW0 rfl rfl hl.1 (Nat.le_of_ble_eq_true rfl) dJ1_fixAfterInsertion_230 ⟨Nat.zero_le _, Nat.zero_le _⟩ (fun ov9 H325 locs326 hP327 hkp328 hS329 => ?_)
  obtain ⟨rfl, hW330, hz331, hKM332⟩ := hP327
  have hz333 := hz331.trans hz
  have hKM334 := KM.trans hKM hKM332 (by omega)
  refine W.eq (g2 := F0 m 233 ls []) rfl ?_
  refine lv_aload_nO (pc := 233) hx hb dJ1_fixAfterInsertion_233 rfl (lv_at hl 1 rfl) ?_
  obtain ⟨o335, hq336, hm⟩ := ob_some hm
  refine rk_PS (pc := 234) (As := [va_rf o1]) (rest := []) hx hb hml hown hts hK lkJ1_294 yn_J1_parentOf (ct_J1_parentOf (G := G) (l := l) hq336) ⟨Nat.le_of_ble_eq_true rfl, Nat.le_of_ble_eq_true rfl⟩ hW330 rfl rfl hl.1 (Nat.le_of_ble_eq_true rfl) dJ1_fixAfterInsertion_234 ⟨Nat.zero_le _, Nat.zero_le _⟩ ?_
  refine W.eq (g2 := F0 m 237 ls [va_rf o335]) rfl ?_
  obtain ⟨o337, hq338, hm⟩ := ob_some hm
  refine rk_PS (pc := 237) (As := [va_rf o335]) (rest := []) hx hb hml hown hts hK lkJ1_294 yn_J1_parentOf (ct_J1_parentOf (G := G) (l := l) hq338) ⟨Nat.le_of_ble_eq_true rfl, Nat.le_of_ble_eq_true rfl⟩ hW330 rfl rfl hl.1 (Nat.le_of_ble_eq_true rfl) dJ1_fixAfterInsertion_237 ⟨Nat.zero_le _, Nat.zero_le _⟩ ?_
  refine W.eq (g2 := F0 m 240 ls [va_rf o337]) rfl ?_
  refine lv_iconst (pc := 240) (v := (0 : Int32)) hx hb dJ1_fixAfterInsertion_240 (by decide) ?_
  obtain ⟨w339, hq340, hm⟩ := ob_some hm
  refine rk_TS (pc := 241) (As := [va_rf o337, .int (0 : Int32)]) (rest := []) (mc := 0) (ms := 0) hx hb hml hown hts hK hS329 (fun q hq => FA_sz rfl q hq) lkJ1_307 yn_J1_setColor (ct_J1_setColor (G := G) (l := l) (sz := H325.size) hq340) ⟨Nat.le_of_ble_eq_true rfl, Nat.le_of_ble_eq_true rfl⟩ (fun z h => (KM_hf2 hKM334 z h)) hW330 rfl rfl hl.1 (Nat.le_of_ble_eq_true rfl) dJ1_fixAfterInsertion_241 ⟨Nat.zero_le _, Nat.zero_le _⟩ (fun ov9 H341 locs342 hP343 hkp344 hS345 => ?_)
  obtain ⟨rfl, hW346, hz347, hKM348⟩ := hP343
  have hz349 := hz347.trans hz333
  have hKM350 := KM.trans hKM334 hKM348 (by omega)
  refine W.eq (g2 := F0 m 244 ls []) rfl ?_
  refine lv_aload_n (pc := 244) hx hb dJ1_fixAfterInsertion_244 rfl (lv_at hl 0 rfl) ?_
  refine lv_aload_nO (pc := 245) hx hb dJ1_fixAfterInsertion_245 rfl (lv_at hl 1 rfl) ?_
  obtain ⟨o351, hq352, hm⟩ := ob_some hm
  refine rk_PS (pc := 246) (As := [va_rf o1]) (rest := [.ref p0]) hx hb hml hown hts hK lkJ1_294 yn_J1_parentOf (ct_J1_parentOf (G := G) (l := l) hq352) ⟨Nat.le_of_ble_eq_true rfl, Nat.le_of_ble_eq_true rfl⟩ hW346 rfl rfl hl.1 (Nat.le_of_ble_eq_true rfl) dJ1_fixAfterInsertion_246 ⟨Nat.zero_le _, Nat.zero_le _⟩ ?_
  refine W.eq (g2 := F0 m 249 ls [va_rf o351, .ref p0]) rfl ?_
  obtain ⟨o353, hq354, hm⟩ := ob_some hm
  refine rk_PS (pc := 249) (As := [va_rf o351]) (rest := [.ref p0]) hx hb hml hown hts hK lkJ1_294 yn_J1_parentOf (ct_J1_parentOf (G := G) (l := l) hq354) ⟨Nat.le_of_ble_eq_true rfl, Nat.le_of_ble_eq_true rfl⟩ hW346 rfl rfl hl.1 (Nat.le_of_ble_eq_true rfl) dJ1_fixAfterInsertion_249 ⟨Nat.zero_le _, Nat.zero_le _⟩ ?_
  refine W.eq (g2 := F0 m 252 ls [va_rf o353, .ref p0]) rfl ?_
  obtain ⟨hg355, hm⟩ := gb_some hm
  obtain ⟨w356, hq357, hm⟩ := ob_some hm
  refine rk_TV (pc := 252) (As := [va_rf o353]) (rest := []) (mc := 0) (ms := 0) hx hb hml hown hts hK hS345 (fun q hq => FA_sz rfl q hq) lkJ1_311 rfl yn_J1_rotateLeft (ct_J1_rotateLeft (G := G) (l := l) (sz := H341.size) hq357) ⟨Nat.le_of_ble_eq_true rfl, Nat.le_of_ble_eq_true rfl⟩ (fun z h => (KM_hf2 hKM350 z h)) (rp_recv hK hW346 (C := RJ1) (T := TJ1) (N := 9) rfl (shP_16 (kd_PL hg355) (kd_k hg355))) hW346 rfl rfl hl.1 (Nat.le_of_ble_eq_true rfl) dJ1_fixAfterInsertion_252 ⟨Nat.zero_le _, Nat.zero_le _⟩ (fun ov9 H358 locs359 hP360 hkp361 hS362 => ?_)
  obtain ⟨rfl, hW363, hz364, hKM365⟩ := hP360
  have hz366 := hz364.trans hz349
  have hKM367 := KM.trans hKM350 hKM365 (by omega)
  refine W.eq (g2 := F0 m 255 ls []) rfl ?_
  refine lv_goto (pc := 255) (tgt := 5) hx hb dJ1_fixAfterInsertion_255 (by decide) ?_
  exact hk5 w356 p0 o1 hm H358 locs359 ls hW363 hS362 hz366 hKM367 (lv_sub hl [0, 1] rfl)
set_option maxHeartbeats 4000000 in
theorem w_fJ1_fixAfterInsertion_118 (C : Cx G p s m args meth c RJ1 cJ1_fixAfterInsertion 3 none) {PL : Nat → Bool} {vP0 : Mem} {rw0 : Mem} {k5 : Mem → Nat → Option Nat → Option (Mem)} (hk5 : ∀ (v0 : Mem) (p0 : Nat) (o1 : Option Nat), k5 v0 p0 o1 = some rw0 → ∀ (H : Heap) (locs : List Loc) (ls : Array Slot), pl G PL v0 H → va_S (FA (fP PL vP0) s.heap.size) s.heap H locs → H.size = s.heap.size → KM vP0 v0 s.heap.size → lv_has ls 3 [(0, .ref p0), (1, va_rf o1)] → W p l e (rmT 1 0 0 22) s m args below meth c H locs 0 0 (MQ below (QcT (FA (fP PL vP0) s.heap.size) (fun ov H => ov = none ∧ pl G PL rw0 H ∧ H.size = s.heap.size ∧ KM vP0 rw0 s.heap.size)) args s 0 0 (FA (fP PL vP0) s.heap.size)) (F0 m 5 ls [])) : ∀ (v0 : Mem) (p0 : Nat) (p1 : Nat), fJ1_fixAfterInsertion_118 PL k5 v0 p0 p1 = some rw0 → ∀ (H : Heap) (locs : List Loc) (ls : Array Slot), pl G PL v0 H → va_S (FA (fP PL vP0) s.heap.size) s.heap H locs → H.size = s.heap.size → KM vP0 v0 s.heap.size → lv_has ls 3 [(0, .ref p0), (1, .ref p1)] → W p l e (rmT 1 0 0 22) s m args below meth c H locs 0 0 (MQ below (QcT (FA (fP PL vP0) s.heap.size) (fun ov H => ov = none ∧ pl G PL rw0 H ∧ H.size = s.heap.size ∧ KM vP0 rw0 s.heap.size)) args s 0 0 (FA (fP PL vP0) s.heap.size)) (F0 m 118 ls []) := by
  intro v0 p0 p1 hm H locs ls hW0 hS hz hKM hl
  obtain ⟨hx, hb, hr, hlk, hml, hown, hts, hK⟩ := id C
  unfold fJ1_fixAfterInsertion_118 at hm
  refine lv_aload_n (pc := 118) hx hb dJ1_fixAfterInsertion_118 rfl (lv_at hl 1 rfl) ?_
  obtain ⟨o274, hq275, hm⟩ := ob_some hm
  refine rk_PS (pc := 119) (As := [.ref p1]) (rest := []) hx hb hml hown hts hK lkJ1_294 yn_J1_parentOf (ct_J1_parentOf (G := G) (l := l) hq275) ⟨Nat.le_of_ble_eq_true rfl, Nat.le_of_ble_eq_true rfl⟩ hW0 rfl rfl hl.1 (Nat.le_of_ble_eq_true rfl) dJ1_fixAfterInsertion_119 ⟨Nat.zero_le _, Nat.zero_le _⟩ ?_
  refine W.eq (g2 := F0 m 122 ls [va_rf o274]) rfl ?_
  refine lv_iconst (pc := 122) (v := (1 : Int32)) hx hb dJ1_fixAfterInsertion_122 (by decide) ?_
  obtain ⟨w276, hq277, hm⟩ := ob_some hm
  refine rk_TS (pc := 123) (As := [va_rf o274, .int (1 : Int32)]) (rest := []) (mc := 0) (ms := 0) hx hb hml hown hts hK hS (fun q hq => FA_sz rfl q hq) lkJ1_307 yn_J1_setColor (ct_J1_setColor (G := G) (l := l) (sz := H.size) hq277) ⟨Nat.le_of_ble_eq_true rfl, Nat.le_of_ble_eq_true rfl⟩ (fun z h => (KM_hf2 hKM z h)) hW0 rfl rfl hl.1 (Nat.le_of_ble_eq_true rfl) dJ1_fixAfterInsertion_123 ⟨Nat.zero_le _, Nat.zero_le _⟩ (fun ov9 H278 locs279 hP280 hkp281 hS282 => ?_)
  obtain ⟨rfl, hW283, hz284, hKM285⟩ := hP280
  have hz286 := hz284.trans hz
  have hKM287 := KM.trans hKM hKM285 (by omega)
  refine W.eq (g2 := F0 m 126 ls []) rfl ?_
  refine lv_aload_n (pc := 126) hx hb dJ1_fixAfterInsertion_126 rfl (lv_at hl 1 rfl) ?_
  obtain ⟨o288, hq289, hm⟩ := ob_some hm
  refine rk_PS (pc := 127) (As := [.ref p1]) (rest := []) hx hb hml hown hts hK lkJ1_294 yn_J1_parentOf (ct_J1_parentOf (G := G) (l := l) hq289) ⟨Nat.le_of_ble_eq_true rfl, Nat.le_of_ble_eq_true rfl⟩ hW283 rfl rfl hl.1 (Nat.le_of_ble_eq_true rfl) dJ1_fixAfterInsertion_127 ⟨Nat.zero_le _, Nat.zero_le _⟩ ?_
  refine W.eq (g2 := F0 m 130 ls [va_rf o288]) rfl ?_
  obtain ⟨o290, hq291, hm⟩ := ob_some hm
  refine rk_PS (pc := 130) (As := [va_rf o288]) (rest := []) hx hb hml hown hts hK lkJ1_294 yn_J1_parentOf (ct_J1_parentOf (G := G) (l := l) hq291) ⟨Nat.le_of_ble_eq_true rfl, Nat.le_of_ble_eq_true rfl⟩ hW283 rfl rfl hl.1 (Nat.le_of_ble_eq_true rfl) dJ1_fixAfterInsertion_130 ⟨Nat.zero_le _, Nat.zero_le _⟩ ?_
  refine W.eq (g2 := F0 m 133 ls [va_rf o290]) rfl ?_
  refine lv_iconst (pc := 133) (v := (0 : Int32)) hx hb dJ1_fixAfterInsertion_133 (by decide) ?_
  obtain ⟨w292, hq293, hm⟩ := ob_some hm
  refine rk_TS (pc := 134) (As := [va_rf o290, .int (0 : Int32)]) (rest := []) (mc := 0) (ms := 0) hx hb hml hown hts hK hS282 (fun q hq => FA_sz rfl q hq) lkJ1_307 yn_J1_setColor (ct_J1_setColor (G := G) (l := l) (sz := H278.size) hq293) ⟨Nat.le_of_ble_eq_true rfl, Nat.le_of_ble_eq_true rfl⟩ (fun z h => (KM_hf2 hKM287 z h)) hW283 rfl rfl hl.1 (Nat.le_of_ble_eq_true rfl) dJ1_fixAfterInsertion_134 ⟨Nat.zero_le _, Nat.zero_le _⟩ (fun ov9 H294 locs295 hP296 hkp297 hS298 => ?_)
  obtain ⟨rfl, hW299, hz300, hKM301⟩ := hP296
  have hz302 := hz300.trans hz286
  have hKM303 := KM.trans hKM287 hKM301 (by omega)
  refine W.eq (g2 := F0 m 137 ls []) rfl ?_
  refine lv_aload_n (pc := 137) hx hb dJ1_fixAfterInsertion_137 rfl (lv_at hl 0 rfl) ?_
  refine lv_aload_n (pc := 138) hx hb dJ1_fixAfterInsertion_138 rfl (lv_at hl 1 rfl) ?_
  obtain ⟨o304, hq305, hm⟩ := ob_some hm
  refine rk_PS (pc := 139) (As := [.ref p1]) (rest := [.ref p0]) hx hb hml hown hts hK lkJ1_294 yn_J1_parentOf (ct_J1_parentOf (G := G) (l := l) hq305) ⟨Nat.le_of_ble_eq_true rfl, Nat.le_of_ble_eq_true rfl⟩ hW299 rfl rfl hl.1 (Nat.le_of_ble_eq_true rfl) dJ1_fixAfterInsertion_139 ⟨Nat.zero_le _, Nat.zero_le _⟩ ?_
  refine W.eq (g2 := F0 m 142 ls [va_rf o304, .ref p0]) rfl ?_
  obtain ⟨o306, hq307, hm⟩ := ob_some hm
  refine rk_PS (pc := 142) (As := [va_rf o304]) (rest := [.ref p0]) hx hb hml hown hts hK lkJ1_294 yn_J1_parentOf (ct_J1_parentOf (G := G) (l := l) hq307) ⟨Nat.le_of_ble_eq_true rfl, Nat.le_of_ble_eq_true rfl⟩ hW299 rfl rfl hl.1 (Nat.le_of_ble_eq_true rfl) dJ1_fixAfterInsertion_142 ⟨Nat.zero_le _, Nat.zero_le _⟩ ?_
  refine W.eq (g2 := F0 m 145 ls [va_rf o306, .ref p0]) rfl ?_
  obtain ⟨hg308, hm⟩ := gb_some hm
  obtain ⟨w309, hq310, hm⟩ := ob_some hm
  refine rk_TV (pc := 145) (As := [va_rf o306]) (rest := []) (mc := 0) (ms := 0) hx hb hml hown hts hK hS298 (fun q hq => FA_sz rfl q hq) lkJ1_314 rfl yn_J1_rotateRight (ct_J1_rotateRight (G := G) (l := l) (sz := H294.size) hq310) ⟨Nat.le_of_ble_eq_true rfl, Nat.le_of_ble_eq_true rfl⟩ (fun z h => (KM_hf2 hKM303 z h)) (rp_recv hK hW299 (C := RJ1) (T := TJ1) (N := 9) rfl (shP_16 (kd_PL hg308) (kd_k hg308))) hW299 rfl rfl hl.1 (Nat.le_of_ble_eq_true rfl) dJ1_fixAfterInsertion_145 ⟨Nat.zero_le _, Nat.zero_le _⟩ (fun ov9 H311 locs312 hP313 hkp314 hS315 => ?_)
  obtain ⟨rfl, hW316, hz317, hKM318⟩ := hP313
  have hz319 := hz317.trans hz302
  have hKM320 := KM.trans hKM303 hKM318 (by omega)
  refine W.eq (g2 := F0 m 148 ls []) rfl ?_
  refine lv_goto (pc := 148) (tgt := 5) hx hb dJ1_fixAfterInsertion_148 (by decide) ?_
  exact hk5 w309 p0 (some p1) hm H311 locs312 ls hW316 hS315 hz319 hKM320 (lv_sub hl [0, 1] rfl)
set_option maxHeartbeats 4000000 in
theorem w_fJ1_fixAfterInsertion_118b (C : Cx G p s m args meth c RJ1 cJ1_fixAfterInsertion 3 none) {PL : Nat → Bool} {vP0 : Mem} {rw0 : Mem} {k5 : Mem → Nat → Option Nat → Option (Mem)} (hk5 : ∀ (v0 : Mem) (p0 : Nat) (o1 : Option Nat), k5 v0 p0 o1 = some rw0 → ∀ (H : Heap) (locs : List Loc) (ls : Array Slot), pl G PL v0 H → va_S (FA (fP PL vP0) s.heap.size) s.heap H locs → H.size = s.heap.size → KM vP0 v0 s.heap.size → lv_has ls 3 [(0, .ref p0), (1, va_rf o1)] → W p l e (rmT 1 0 0 22) s m args below meth c H locs 0 0 (MQ below (QcT (FA (fP PL vP0) s.heap.size) (fun ov H => ov = none ∧ pl G PL rw0 H ∧ H.size = s.heap.size ∧ KM vP0 rw0 s.heap.size)) args s 0 0 (FA (fP PL vP0) s.heap.size)) (F0 m 5 ls [])) : ∀ (v0 : Mem) (p0 : Nat) (o1 : Option Nat), fJ1_fixAfterInsertion_118b PL k5 v0 p0 o1 = some rw0 → ∀ (H : Heap) (locs : List Loc) (ls : Array Slot), pl G PL v0 H → va_S (FA (fP PL vP0) s.heap.size) s.heap H locs → H.size = s.heap.size → KM vP0 v0 s.heap.size → lv_has ls 3 [(0, .ref p0), (1, va_rf o1)] → W p l e (rmT 1 0 0 22) s m args below meth c H locs 0 0 (MQ below (QcT (FA (fP PL vP0) s.heap.size) (fun ov H => ov = none ∧ pl G PL rw0 H ∧ H.size = s.heap.size ∧ KM vP0 rw0 s.heap.size)) args s 0 0 (FA (fP PL vP0) s.heap.size)) (F0 m 118 ls []) := by
  intro v0 p0 o1 hm H locs ls hW0 hS hz hKM hl
  obtain ⟨hx, hb, hr, hlk, hml, hown, hts, hK⟩ := id C
  unfold fJ1_fixAfterInsertion_118b at hm
  refine lv_aload_nO (pc := 118) hx hb dJ1_fixAfterInsertion_118 rfl (lv_at hl 1 rfl) ?_
  obtain ⟨o227, hq228, hm⟩ := ob_some hm
  refine rk_PS (pc := 119) (As := [va_rf o1]) (rest := []) hx hb hml hown hts hK lkJ1_294 yn_J1_parentOf (ct_J1_parentOf (G := G) (l := l) hq228) ⟨Nat.le_of_ble_eq_true rfl, Nat.le_of_ble_eq_true rfl⟩ hW0 rfl rfl hl.1 (Nat.le_of_ble_eq_true rfl) dJ1_fixAfterInsertion_119 ⟨Nat.zero_le _, Nat.zero_le _⟩ ?_
  refine W.eq (g2 := F0 m 122 ls [va_rf o227]) rfl ?_
  refine lv_iconst (pc := 122) (v := (1 : Int32)) hx hb dJ1_fixAfterInsertion_122 (by decide) ?_
  obtain ⟨w229, hq230, hm⟩ := ob_some hm
  refine rk_TS (pc := 123) (As := [va_rf o227, .int (1 : Int32)]) (rest := []) (mc := 0) (ms := 0) hx hb hml hown hts hK hS (fun q hq => FA_sz rfl q hq) lkJ1_307 yn_J1_setColor (ct_J1_setColor (G := G) (l := l) (sz := H.size) hq230) ⟨Nat.le_of_ble_eq_true rfl, Nat.le_of_ble_eq_true rfl⟩ (fun z h => (KM_hf2 hKM z h)) hW0 rfl rfl hl.1 (Nat.le_of_ble_eq_true rfl) dJ1_fixAfterInsertion_123 ⟨Nat.zero_le _, Nat.zero_le _⟩ (fun ov9 H231 locs232 hP233 hkp234 hS235 => ?_)
  obtain ⟨rfl, hW236, hz237, hKM238⟩ := hP233
  have hz239 := hz237.trans hz
  have hKM240 := KM.trans hKM hKM238 (by omega)
  refine W.eq (g2 := F0 m 126 ls []) rfl ?_
  refine lv_aload_nO (pc := 126) hx hb dJ1_fixAfterInsertion_126 rfl (lv_at hl 1 rfl) ?_
  obtain ⟨o241, hq242, hm⟩ := ob_some hm
  refine rk_PS (pc := 127) (As := [va_rf o1]) (rest := []) hx hb hml hown hts hK lkJ1_294 yn_J1_parentOf (ct_J1_parentOf (G := G) (l := l) hq242) ⟨Nat.le_of_ble_eq_true rfl, Nat.le_of_ble_eq_true rfl⟩ hW236 rfl rfl hl.1 (Nat.le_of_ble_eq_true rfl) dJ1_fixAfterInsertion_127 ⟨Nat.zero_le _, Nat.zero_le _⟩ ?_
  refine W.eq (g2 := F0 m 130 ls [va_rf o241]) rfl ?_
  obtain ⟨o243, hq244, hm⟩ := ob_some hm
  refine rk_PS (pc := 130) (As := [va_rf o241]) (rest := []) hx hb hml hown hts hK lkJ1_294 yn_J1_parentOf (ct_J1_parentOf (G := G) (l := l) hq244) ⟨Nat.le_of_ble_eq_true rfl, Nat.le_of_ble_eq_true rfl⟩ hW236 rfl rfl hl.1 (Nat.le_of_ble_eq_true rfl) dJ1_fixAfterInsertion_130 ⟨Nat.zero_le _, Nat.zero_le _⟩ ?_
  refine W.eq (g2 := F0 m 133 ls [va_rf o243]) rfl ?_
  refine lv_iconst (pc := 133) (v := (0 : Int32)) hx hb dJ1_fixAfterInsertion_133 (by decide) ?_
  obtain ⟨w245, hq246, hm⟩ := ob_some hm
  refine rk_TS (pc := 134) (As := [va_rf o243, .int (0 : Int32)]) (rest := []) (mc := 0) (ms := 0) hx hb hml hown hts hK hS235 (fun q hq => FA_sz rfl q hq) lkJ1_307 yn_J1_setColor (ct_J1_setColor (G := G) (l := l) (sz := H231.size) hq246) ⟨Nat.le_of_ble_eq_true rfl, Nat.le_of_ble_eq_true rfl⟩ (fun z h => (KM_hf2 hKM240 z h)) hW236 rfl rfl hl.1 (Nat.le_of_ble_eq_true rfl) dJ1_fixAfterInsertion_134 ⟨Nat.zero_le _, Nat.zero_le _⟩ (fun ov9 H247 locs248 hP249 hkp250 hS251 => ?_)
  obtain ⟨rfl, hW252, hz253, hKM254⟩ := hP249
  have hz255 := hz253.trans hz239
  have hKM256 := KM.trans hKM240 hKM254 (by omega)
  refine W.eq (g2 := F0 m 137 ls []) rfl ?_
  refine lv_aload_n (pc := 137) hx hb dJ1_fixAfterInsertion_137 rfl (lv_at hl 0 rfl) ?_
  refine lv_aload_nO (pc := 138) hx hb dJ1_fixAfterInsertion_138 rfl (lv_at hl 1 rfl) ?_
  obtain ⟨o257, hq258, hm⟩ := ob_some hm
  refine rk_PS (pc := 139) (As := [va_rf o1]) (rest := [.ref p0]) hx hb hml hown hts hK lkJ1_294 yn_J1_parentOf (ct_J1_parentOf (G := G) (l := l) hq258) ⟨Nat.le_of_ble_eq_true rfl, Nat.le_of_ble_eq_true rfl⟩ hW252 rfl rfl hl.1 (Nat.le_of_ble_eq_true rfl) dJ1_fixAfterInsertion_139 ⟨Nat.zero_le _, Nat.zero_le _⟩ ?_
  refine W.eq (g2 := F0 m 142 ls [va_rf o257, .ref p0]) rfl ?_
  obtain ⟨o259, hq260, hm⟩ := ob_some hm
  refine rk_PS (pc := 142) (As := [va_rf o257]) (rest := [.ref p0]) hx hb hml hown hts hK lkJ1_294 yn_J1_parentOf (ct_J1_parentOf (G := G) (l := l) hq260) ⟨Nat.le_of_ble_eq_true rfl, Nat.le_of_ble_eq_true rfl⟩ hW252 rfl rfl hl.1 (Nat.le_of_ble_eq_true rfl) dJ1_fixAfterInsertion_142 ⟨Nat.zero_le _, Nat.zero_le _⟩ ?_
  refine W.eq (g2 := F0 m 145 ls [va_rf o259, .ref p0]) rfl ?_
  obtain ⟨hg261, hm⟩ := gb_some hm
  obtain ⟨w262, hq263, hm⟩ := ob_some hm
  refine rk_TV (pc := 145) (As := [va_rf o259]) (rest := []) (mc := 0) (ms := 0) hx hb hml hown hts hK hS251 (fun q hq => FA_sz rfl q hq) lkJ1_314 rfl yn_J1_rotateRight (ct_J1_rotateRight (G := G) (l := l) (sz := H247.size) hq263) ⟨Nat.le_of_ble_eq_true rfl, Nat.le_of_ble_eq_true rfl⟩ (fun z h => (KM_hf2 hKM256 z h)) (rp_recv hK hW252 (C := RJ1) (T := TJ1) (N := 9) rfl (shP_16 (kd_PL hg261) (kd_k hg261))) hW252 rfl rfl hl.1 (Nat.le_of_ble_eq_true rfl) dJ1_fixAfterInsertion_145 ⟨Nat.zero_le _, Nat.zero_le _⟩ (fun ov9 H264 locs265 hP266 hkp267 hS268 => ?_)
  obtain ⟨rfl, hW269, hz270, hKM271⟩ := hP266
  have hz272 := hz270.trans hz255
  have hKM273 := KM.trans hKM256 hKM271 (by omega)
  refine W.eq (g2 := F0 m 148 ls []) rfl ?_
  refine lv_goto (pc := 148) (tgt := 5) hx hb dJ1_fixAfterInsertion_148 (by decide) ?_
  exact hk5 w262 p0 o1 hm H264 locs265 ls hW269 hS268 hz272 hKM273 (lv_sub hl [0, 1] rfl)
set_option maxHeartbeats 4000000 in
theorem w_fJ1_fixAfterInsertion_5 (C : Cx G p s m args meth c RJ1 cJ1_fixAfterInsertion 3 none) {PL : Nat → Bool} {vP0 : Mem} {rw0 : Mem} {k5 : Mem → Nat → Option Nat → Option (Mem)} (hk5 : ∀ (v0 : Mem) (p0 : Nat) (o1 : Option Nat), k5 v0 p0 o1 = some rw0 → ∀ (H : Heap) (locs : List Loc) (ls : Array Slot), pl G PL v0 H → va_S (FA (fP PL vP0) s.heap.size) s.heap H locs → H.size = s.heap.size → KM vP0 v0 s.heap.size → lv_has ls 3 [(0, .ref p0), (1, va_rf o1)] → W p l e (rmT 1 0 0 22) s m args below meth c H locs 0 0 (MQ below (QcT (FA (fP PL vP0) s.heap.size) (fun ov H => ov = none ∧ pl G PL rw0 H ∧ H.size = s.heap.size ∧ KM vP0 rw0 s.heap.size)) args s 0 0 (FA (fP PL vP0) s.heap.size)) (F0 m 5 ls [])) : ∀ (v0 : Mem) (p0 : Nat) (o1 : Option Nat), fJ1_fixAfterInsertion_5 PL k5 v0 p0 o1 = some rw0 → ∀ (H : Heap) (locs : List Loc) (ls : Array Slot), pl G PL v0 H → va_S (FA (fP PL vP0) s.heap.size) s.heap H locs → H.size = s.heap.size → KM vP0 v0 s.heap.size → lv_has ls 3 [(0, .ref p0), (1, va_rf o1)] → W p l e (rmT 1 0 0 22) s m args below meth c H locs 0 0 (MQ below (QcT (FA (fP PL vP0) s.heap.size) (fun ov H => ov = none ∧ pl G PL rw0 H ∧ H.size = s.heap.size ∧ KM vP0 rw0 s.heap.size)) args s 0 0 (FA (fP PL vP0) s.heap.size)) (F0 m 5 ls []) := by
  intro v0 p0 o1 hm H locs ls hW0 hS hz hKM hl
  obtain ⟨hx, hb, hr, hlk, hml, hown, hts, hK⟩ := id C
  unfold fJ1_fixAfterInsertion_5 at hm
  refine lv_aload_nO (pc := 5) hx hb dJ1_fixAfterInsertion_5 rfl (lv_at hl 1 rfl) ?_
  rcases o1 with _ | p11
  · have hm := od_n hm
    refine lv_ifnullN (pc := 6) (tgt := 258) hx hb dJ1_fixAfterInsertion_6 (by decide) ?_
    refine lv_aload_n (pc := 258) hx hb dJ1_fixAfterInsertion_258 rfl (lv_at hl 0 rfl) ?_
    obtain ⟨hg12, hm⟩ := gb_some hm
    obtain ⟨o13, he14, hm⟩ := lo_some hm
    refine rk_get (pc := 259) hx hb hts hown hK (pl_rg hW0) flJ1_101 p0 (Nat.lt_succ_self _) (Nat.zero_add _).symm (shP_16 (kd_PL hg12) (kd_k hg12)) (x := va_rf o13) (congrArg (fun z => some (va_rf z)) he14) dJ1_fixAfterInsertion_259 ?_
    refine lv_iconst (pc := 262) (v := (1 : Int32)) hx hb dJ1_fixAfterInsertion_262 (by decide) ?_
    obtain ⟨p15, he16, hm⟩ := ob_some hm
    subst he16
    obtain ⟨hg17, hm⟩ := gb_some hm
    refine rp_put (pc := 263) (q := p15) hx hb hts hown hK hW0 hS flJ1_290 ft_J11 (kd_A hKM hg17 (by decide)) (shP_18 (kd_PL hg17) (kd_k hg17)) rfl (x := .int (1 : Int32)) rfl rfl (Nat.le_of_ble_eq_true rfl) (sI v0 p15 5 (1 : Int32)) sI_ne (by rw [sI_eq]; exact shP_18 (kd_PL hg17) (kd_k hg17)) dJ1_fixAfterInsertion_263 (fun H19 locs20 hW21 hS22 hz23 hkp24 => ?_)
    have hKM25 := KM.sI (o := p15) (j := 5) (x := (1 : Int32)) hKM (by decide)
    obtain ⟨v0_18, he9, hm⟩ := lm_some hm
    rw [he9] at hW21 hKM25
    have hz26 := hz23.trans hz
    have e9 := rs1 hm
    subst e9
    exact rk_vret (pc := 266) hx hb hr hlk hS22 ⟨rfl, hW21, hz26, hKM25⟩ dJ1_fixAfterInsertion_266
  · have hm := od_s hm
    refine lv_ifnull (pc := 6) hx hb dJ1_fixAfterInsertion_6 ?_
    refine lv_aload_n (pc := 9) hx hb dJ1_fixAfterInsertion_9 rfl (lv_at hl 1 rfl) ?_
    refine lv_aload_n (pc := 10) hx hb dJ1_fixAfterInsertion_10 rfl (lv_at hl 0 rfl) ?_
    obtain ⟨hg27, hm⟩ := gb_some hm
    obtain ⟨o28, he29, hm⟩ := lo_some hm
    refine rk_get (pc := 11) hx hb hts hown hK (pl_rg hW0) flJ1_101 p0 (Nat.lt_succ_self _) (Nat.zero_add _).symm (shP_16 (kd_PL hg27) (kd_k hg27)) (x := va_rf o28) (congrArg (fun z => some (va_rf z)) he29) dJ1_fixAfterInsertion_11 ?_
    refine lv_acmp_eq (pc := 14) (rx := (some p11)) (ry := o28) (tgt := 258) hx hb dJ1_fixAfterInsertion_14 (by decide) (fun c30 => ?_) (fun c30 => ?_)
    · have hm := ite_t c30 hm
      refine lv_aload_n (pc := 258) hx hb dJ1_fixAfterInsertion_258 rfl (lv_at hl 0 rfl) ?_
      obtain ⟨hg31, hm⟩ := gb_some hm
      obtain ⟨o32, he33, hm⟩ := lo_some hm
      refine rk_get (pc := 259) hx hb hts hown hK (pl_rg hW0) flJ1_101 p0 (Nat.lt_succ_self _) (Nat.zero_add _).symm (shP_16 (kd_PL hg31) (kd_k hg31)) (x := va_rf o32) (congrArg (fun z => some (va_rf z)) he33) dJ1_fixAfterInsertion_259 ?_
      refine lv_iconst (pc := 262) (v := (1 : Int32)) hx hb dJ1_fixAfterInsertion_262 (by decide) ?_
      obtain ⟨p34, he35, hm⟩ := ob_some hm
      subst he35
      obtain ⟨hg36, hm⟩ := gb_some hm
      refine rp_put (pc := 263) (q := p34) hx hb hts hown hK hW0 hS flJ1_290 ft_J11 (kd_A hKM hg36 (by decide)) (shP_18 (kd_PL hg36) (kd_k hg36)) rfl (x := .int (1 : Int32)) rfl rfl (Nat.le_of_ble_eq_true rfl) (sI v0 p34 5 (1 : Int32)) sI_ne (by rw [sI_eq]; exact shP_18 (kd_PL hg36) (kd_k hg36)) dJ1_fixAfterInsertion_263 (fun H38 locs39 hW40 hS41 hz42 hkp43 => ?_)
      have hKM44 := KM.sI (o := p34) (j := 5) (x := (1 : Int32)) hKM (by decide)
      obtain ⟨v0_37, he9, hm⟩ := lm_some hm
      rw [he9] at hW40 hKM44
      have hz45 := hz42.trans hz
      have e9 := rs1 hm
      subst e9
      exact rk_vret (pc := 266) hx hb hr hlk hS41 ⟨rfl, hW40, hz45, hKM44⟩ dJ1_fixAfterInsertion_266
    · have hm := ite_f c30 hm
      refine lv_aload_n (pc := 17) hx hb dJ1_fixAfterInsertion_17 rfl (lv_at hl 1 rfl) ?_
      obtain ⟨hg46, hm⟩ := gb_some hm
      obtain ⟨o47, he48, hm⟩ := lo_some hm
      refine rk_get (pc := 18) hx hb hts hown hK (pl_rg hW0) flJ1_124 p11 (Nat.lt_succ_self _) (Nat.zero_add _).symm (shP_18 (kd_PL hg46) (kd_k hg46)) (x := va_rf o47) (congrArg (fun z => some (va_rf z)) he48) dJ1_fixAfterInsertion_18 ?_
      obtain ⟨p49, he50, hm⟩ := ob_some hm
      subst he50
      obtain ⟨hg51, hm⟩ := gb_some hm
      refine rk_get (pc := 21) hx hb hts hown hK (pl_rg hW0) flJ1_290 p49 (Nat.lt_succ_self _) (Nat.zero_add _).symm (shP_18 (kd_PL hg51) (kd_k hg51)) (x := .int (gI v0 p49 5)) rfl dJ1_fixAfterInsertion_21 ?_
      refine lv_if_ne (pc := 24) (tgt := 258) hx hb dJ1_fixAfterInsertion_24 (by decide) (fun c52 => ?_) (fun c52 => ?_)
      · have hm := ite_f c52 hm
        refine lv_aload_n (pc := 258) hx hb dJ1_fixAfterInsertion_258 rfl (lv_at hl 0 rfl) ?_
        obtain ⟨hg53, hm⟩ := gb_some hm
        obtain ⟨o54, he55, hm⟩ := lo_some hm
        refine rk_get (pc := 259) hx hb hts hown hK (pl_rg hW0) flJ1_101 p0 (Nat.lt_succ_self _) (Nat.zero_add _).symm (shP_16 (kd_PL hg53) (kd_k hg53)) (x := va_rf o54) (congrArg (fun z => some (va_rf z)) he55) dJ1_fixAfterInsertion_259 ?_
        refine lv_iconst (pc := 262) (v := (1 : Int32)) hx hb dJ1_fixAfterInsertion_262 (by decide) ?_
        obtain ⟨p56, he57, hm⟩ := ob_some hm
        subst he57
        obtain ⟨hg58, hm⟩ := gb_some hm
        refine rp_put (pc := 263) (q := p56) hx hb hts hown hK hW0 hS flJ1_290 ft_J11 (kd_A hKM hg58 (by decide)) (shP_18 (kd_PL hg58) (kd_k hg58)) rfl (x := .int (1 : Int32)) rfl rfl (Nat.le_of_ble_eq_true rfl) (sI v0 p56 5 (1 : Int32)) sI_ne (by rw [sI_eq]; exact shP_18 (kd_PL hg58) (kd_k hg58)) dJ1_fixAfterInsertion_263 (fun H60 locs61 hW62 hS63 hz64 hkp65 => ?_)
        have hKM66 := KM.sI (o := p56) (j := 5) (x := (1 : Int32)) hKM (by decide)
        obtain ⟨v0_59, he9, hm⟩ := lm_some hm
        rw [he9] at hW62 hKM66
        have hz67 := hz64.trans hz
        have e9 := rs1 hm
        subst e9
        exact rk_vret (pc := 266) hx hb hr hlk hS63 ⟨rfl, hW62, hz67, hKM66⟩ dJ1_fixAfterInsertion_266
      · have hm := ite_t c52 hm
        refine lv_aload_n (pc := 27) hx hb dJ1_fixAfterInsertion_27 rfl (lv_at hl 1 rfl) ?_
        obtain ⟨o68, hq69, hm⟩ := ob_some hm
        refine rk_PS (pc := 28) (As := [.ref p11]) (rest := []) hx hb hml hown hts hK lkJ1_294 yn_J1_parentOf (ct_J1_parentOf (G := G) (l := l) hq69) ⟨Nat.le_of_ble_eq_true rfl, Nat.le_of_ble_eq_true rfl⟩ hW0 rfl rfl hl.1 (Nat.le_of_ble_eq_true rfl) dJ1_fixAfterInsertion_28 ⟨Nat.zero_le _, Nat.zero_le _⟩ ?_
        refine W.eq (g2 := F0 m 31 ls [va_rf o68]) rfl ?_
        refine lv_aload_n (pc := 31) hx hb dJ1_fixAfterInsertion_31 rfl (lv_at hl 1 rfl) ?_
        obtain ⟨o70, hq71, hm⟩ := ob_some hm
        refine rk_PS (pc := 32) (As := [.ref p11]) (rest := [va_rf o68]) hx hb hml hown hts hK lkJ1_294 yn_J1_parentOf (ct_J1_parentOf (G := G) (l := l) hq71) ⟨Nat.le_of_ble_eq_true rfl, Nat.le_of_ble_eq_true rfl⟩ hW0 rfl rfl hl.1 (by simp only [List.map_cons, List.map_nil, cat_rf]; exact Nat.le_of_ble_eq_true rfl) dJ1_fixAfterInsertion_32 ⟨Nat.zero_le _, Nat.zero_le _⟩ ?_
        refine W.eq (g2 := F0 m 35 ls [va_rf o70, va_rf o68]) rfl ?_
        obtain ⟨o72, hq73, hm⟩ := ob_some hm
        refine rk_PS (pc := 35) (As := [va_rf o70]) (rest := [va_rf o68]) hx hb hml hown hts hK lkJ1_294 yn_J1_parentOf (ct_J1_parentOf (G := G) (l := l) hq73) ⟨Nat.le_of_ble_eq_true rfl, Nat.le_of_ble_eq_true rfl⟩ hW0 rfl rfl hl.1 (by simp only [List.map_cons, List.map_nil, cat_rf]; exact Nat.le_of_ble_eq_true rfl) dJ1_fixAfterInsertion_35 ⟨Nat.zero_le _, Nat.zero_le _⟩ ?_
        refine W.eq (g2 := F0 m 38 ls [va_rf o72, va_rf o68]) rfl ?_
        obtain ⟨o74, hq75, hm⟩ := ob_some hm
        refine rk_PS (pc := 38) (As := [va_rf o72]) (rest := [va_rf o68]) hx hb hml hown hts hK lkJ1_297 yn_J1_leftOf (ct_J1_leftOf (G := G) (l := l) hq75) ⟨Nat.le_of_ble_eq_true rfl, Nat.le_of_ble_eq_true rfl⟩ hW0 rfl rfl hl.1 (by simp only [List.map_cons, List.map_nil, cat_rf]; exact Nat.le_of_ble_eq_true rfl) dJ1_fixAfterInsertion_38 ⟨Nat.zero_le _, Nat.zero_le _⟩ ?_
        refine W.eq (g2 := F0 m 41 ls [va_rf o74, va_rf o68]) rfl ?_
        refine lv_acmp_ne (pc := 41) (rx := o68) (ry := o74) (tgt := 151) hx hb dJ1_fixAfterInsertion_41 (by decide) (fun c76 => ?_) (fun c76 => ?_)
        · have hm := ite_f c76 hm
          refine lv_aload_n (pc := 151) hx hb dJ1_fixAfterInsertion_151 rfl (lv_at hl 1 rfl) ?_
          obtain ⟨o77, hq78, hm⟩ := ob_some hm
          refine rk_PS (pc := 152) (As := [.ref p11]) (rest := []) hx hb hml hown hts hK lkJ1_294 yn_J1_parentOf (ct_J1_parentOf (G := G) (l := l) hq78) ⟨Nat.le_of_ble_eq_true rfl, Nat.le_of_ble_eq_true rfl⟩ hW0 rfl rfl hl.1 (Nat.le_of_ble_eq_true rfl) dJ1_fixAfterInsertion_152 ⟨Nat.zero_le _, Nat.zero_le _⟩ ?_
          refine W.eq (g2 := F0 m 155 ls [va_rf o77]) rfl ?_
          obtain ⟨o79, hq80, hm⟩ := ob_some hm
          refine rk_PS (pc := 155) (As := [va_rf o77]) (rest := []) hx hb hml hown hts hK lkJ1_294 yn_J1_parentOf (ct_J1_parentOf (G := G) (l := l) hq80) ⟨Nat.le_of_ble_eq_true rfl, Nat.le_of_ble_eq_true rfl⟩ hW0 rfl rfl hl.1 (Nat.le_of_ble_eq_true rfl) dJ1_fixAfterInsertion_155 ⟨Nat.zero_le _, Nat.zero_le _⟩ ?_
          refine W.eq (g2 := F0 m 158 ls [va_rf o79]) rfl ?_
          obtain ⟨o81, hq82, hm⟩ := ob_some hm
          refine rk_PS (pc := 158) (As := [va_rf o79]) (rest := []) hx hb hml hown hts hK lkJ1_297 yn_J1_leftOf (ct_J1_leftOf (G := G) (l := l) hq82) ⟨Nat.le_of_ble_eq_true rfl, Nat.le_of_ble_eq_true rfl⟩ hW0 rfl rfl hl.1 (Nat.le_of_ble_eq_true rfl) dJ1_fixAfterInsertion_158 ⟨Nat.zero_le _, Nat.zero_le _⟩ ?_
          refine W.eq (g2 := F0 m 161 ls [va_rf o81]) rfl ?_
          refine lv_astore_nO (pc := 161) (lv' := [(2, va_rf o81), (0, .ref p0), (1, .ref p11)]) hx hb dJ1_fixAfterInsertion_161 rfl hl (by decide) rfl (fun ls hl => ?_)
          refine lv_aload_nO (pc := 162) hx hb dJ1_fixAfterInsertion_162 rfl (lv_at hl 0 rfl) ?_
          obtain ⟨r83, hq84, hm⟩ := ob_some hm
          refine rk_PS (pc := 163) (As := [va_rf o81]) (rest := []) hx hb hml hown hts hK lkJ1_303 yn_J1_colorOf (ct_J1_colorOf (G := G) (l := l) hq84) ⟨Nat.le_of_ble_eq_true rfl, Nat.le_of_ble_eq_true rfl⟩ hW0 rfl rfl hl.1 (Nat.le_of_ble_eq_true rfl) dJ1_fixAfterInsertion_163 ⟨Nat.zero_le _, Nat.zero_le _⟩ ?_
          refine W.eq (g2 := F0 m 166 ls [.int r83]) rfl ?_
          refine lv_if_ne (pc := 166) (tgt := 204) hx hb dJ1_fixAfterInsertion_166 (by decide) (fun c85 => ?_) (fun c85 => ?_)
          · have hm := ite_f c85 hm
            refine lv_aload_n (pc := 204) hx hb dJ1_fixAfterInsertion_204 rfl (lv_at hl 2 rfl) ?_
            refine lv_aload_n (pc := 205) hx hb dJ1_fixAfterInsertion_205 rfl (lv_at hl 2 rfl) ?_
            obtain ⟨o86, hq87, hm⟩ := ob_some hm
            refine rk_PS (pc := 206) (As := [.ref p11]) (rest := [.ref p11]) hx hb hml hown hts hK lkJ1_294 yn_J1_parentOf (ct_J1_parentOf (G := G) (l := l) hq87) ⟨Nat.le_of_ble_eq_true rfl, Nat.le_of_ble_eq_true rfl⟩ hW0 rfl rfl hl.1 (Nat.le_of_ble_eq_true rfl) dJ1_fixAfterInsertion_206 ⟨Nat.zero_le _, Nat.zero_le _⟩ ?_
            refine W.eq (g2 := F0 m 209 ls [va_rf o86, .ref p11]) rfl ?_
            obtain ⟨o88, hq89, hm⟩ := ob_some hm
            refine rk_PS (pc := 209) (As := [va_rf o86]) (rest := [.ref p11]) hx hb hml hown hts hK lkJ1_297 yn_J1_leftOf (ct_J1_leftOf (G := G) (l := l) hq89) ⟨Nat.le_of_ble_eq_true rfl, Nat.le_of_ble_eq_true rfl⟩ hW0 rfl rfl hl.1 (Nat.le_of_ble_eq_true rfl) dJ1_fixAfterInsertion_209 ⟨Nat.zero_le _, Nat.zero_le _⟩ ?_
            refine W.eq (g2 := F0 m 212 ls [va_rf o88, .ref p11]) rfl ?_
            refine lv_acmp_ne (pc := 212) (rx := (some p11)) (ry := o88) (tgt := 225) hx hb dJ1_fixAfterInsertion_212 (by decide) (fun c90 => ?_) (fun c90 => ?_)
            · have hm := ite_f c90 hm
              exact (w_fJ1_fixAfterInsertion_225 C hk5) v0 p0 p11 hm H locs ls hW0 hS hz hKM (lv_sub hl [1, 2] rfl)
            · have hm := ite_t c90 hm
              refine lv_aload_n (pc := 215) hx hb dJ1_fixAfterInsertion_215 rfl (lv_at hl 2 rfl) ?_
              obtain ⟨o91, hq92, hm⟩ := ob_some hm
              refine rk_PS (pc := 216) (As := [.ref p11]) (rest := []) hx hb hml hown hts hK lkJ1_294 yn_J1_parentOf (ct_J1_parentOf (G := G) (l := l) hq92) ⟨Nat.le_of_ble_eq_true rfl, Nat.le_of_ble_eq_true rfl⟩ hW0 rfl rfl hl.1 (Nat.le_of_ble_eq_true rfl) dJ1_fixAfterInsertion_216 ⟨Nat.zero_le _, Nat.zero_le _⟩ ?_
              refine W.eq (g2 := F0 m 219 ls [va_rf o91]) rfl ?_
              refine lv_astore_nO (pc := 219) (lv' := [(1, va_rf o91), (2, va_rf o81), (0, .ref p0)]) hx hb dJ1_fixAfterInsertion_219 rfl hl (by decide) rfl (fun ls hl => ?_)
              refine lv_aload_n (pc := 220) hx hb dJ1_fixAfterInsertion_220 rfl (lv_at hl 2 rfl) ?_
              refine lv_aload_nO (pc := 221) hx hb dJ1_fixAfterInsertion_221 rfl (lv_at hl 0 rfl) ?_
              obtain ⟨hg93, hm⟩ := gb_some hm
              obtain ⟨w94, hq95, hm⟩ := ob_some hm
              refine rk_TV (pc := 222) (As := [va_rf o91]) (rest := []) (mc := 0) (ms := 0) hx hb hml hown hts hK hS (fun q hq => FA_sz rfl q hq) lkJ1_314 rfl yn_J1_rotateRight (ct_J1_rotateRight (G := G) (l := l) (sz := H.size) hq95) ⟨Nat.le_of_ble_eq_true rfl, Nat.le_of_ble_eq_true rfl⟩ (fun z h => (KM_hf2 hKM z h)) (rp_recv hK hW0 (C := RJ1) (T := TJ1) (N := 9) rfl (shP_16 (kd_PL hg93) (kd_k hg93))) hW0 rfl rfl hl.1 (Nat.le_of_ble_eq_true rfl) dJ1_fixAfterInsertion_222 ⟨Nat.zero_le _, Nat.zero_le _⟩ (fun ov9 H96 locs97 hP98 hkp99 hS100 => ?_)
              obtain ⟨rfl, hW101, hz102, hKM103⟩ := hP98
              have hz104 := hz102.trans hz
              have hKM105 := KM.trans hKM hKM103 (by omega)
              refine W.eq (g2 := F0 m 225 ls []) rfl ?_
              exact (w_fJ1_fixAfterInsertion_225b C hk5) w94 p0 o91 hm H96 locs97 ls hW101 hS100 hz104 hKM105 (lv_sub hl [2, 0] rfl)
          · have hm := ite_t c85 hm
            refine lv_aload_n (pc := 169) hx hb dJ1_fixAfterInsertion_169 rfl (lv_at hl 2 rfl) ?_
            obtain ⟨o106, hq107, hm⟩ := ob_some hm
            refine rk_PS (pc := 170) (As := [.ref p11]) (rest := []) hx hb hml hown hts hK lkJ1_294 yn_J1_parentOf (ct_J1_parentOf (G := G) (l := l) hq107) ⟨Nat.le_of_ble_eq_true rfl, Nat.le_of_ble_eq_true rfl⟩ hW0 rfl rfl hl.1 (Nat.le_of_ble_eq_true rfl) dJ1_fixAfterInsertion_170 ⟨Nat.zero_le _, Nat.zero_le _⟩ ?_
            refine W.eq (g2 := F0 m 173 ls [va_rf o106]) rfl ?_
            refine lv_iconst (pc := 173) (v := (1 : Int32)) hx hb dJ1_fixAfterInsertion_173 (by decide) ?_
            obtain ⟨w108, hq109, hm⟩ := ob_some hm
            refine rk_TS (pc := 174) (As := [va_rf o106, .int (1 : Int32)]) (rest := []) (mc := 0) (ms := 0) hx hb hml hown hts hK hS (fun q hq => FA_sz rfl q hq) lkJ1_307 yn_J1_setColor (ct_J1_setColor (G := G) (l := l) (sz := H.size) hq109) ⟨Nat.le_of_ble_eq_true rfl, Nat.le_of_ble_eq_true rfl⟩ (fun z h => (KM_hf2 hKM z h)) hW0 rfl rfl hl.1 (Nat.le_of_ble_eq_true rfl) dJ1_fixAfterInsertion_174 ⟨Nat.zero_le _, Nat.zero_le _⟩ (fun ov9 H110 locs111 hP112 hkp113 hS114 => ?_)
            obtain ⟨rfl, hW115, hz116, hKM117⟩ := hP112
            have hz118 := hz116.trans hz
            have hKM119 := KM.trans hKM hKM117 (by omega)
            refine W.eq (g2 := F0 m 177 ls []) rfl ?_
            refine lv_aload_nO (pc := 177) hx hb dJ1_fixAfterInsertion_177 rfl (lv_at hl 0 rfl) ?_
            refine lv_iconst (pc := 178) (v := (1 : Int32)) hx hb dJ1_fixAfterInsertion_178 (by decide) ?_
            obtain ⟨w120, hq121, hm⟩ := ob_some hm
            refine rk_TS (pc := 179) (As := [va_rf o81, .int (1 : Int32)]) (rest := []) (mc := 0) (ms := 0) hx hb hml hown hts hK hS114 (fun q hq => FA_sz rfl q hq) lkJ1_307 yn_J1_setColor (ct_J1_setColor (G := G) (l := l) (sz := H110.size) hq121) ⟨Nat.le_of_ble_eq_true rfl, Nat.le_of_ble_eq_true rfl⟩ (fun z h => (KM_hf2 hKM119 z h)) hW115 rfl rfl hl.1 (Nat.le_of_ble_eq_true rfl) dJ1_fixAfterInsertion_179 ⟨Nat.zero_le _, Nat.zero_le _⟩ (fun ov9 H122 locs123 hP124 hkp125 hS126 => ?_)
            obtain ⟨rfl, hW127, hz128, hKM129⟩ := hP124
            have hz130 := hz128.trans hz118
            have hKM131 := KM.trans hKM119 hKM129 (by omega)
            refine W.eq (g2 := F0 m 182 ls []) rfl ?_
            refine lv_aload_n (pc := 182) hx hb dJ1_fixAfterInsertion_182 rfl (lv_at hl 2 rfl) ?_
            obtain ⟨o132, hq133, hm⟩ := ob_some hm
            refine rk_PS (pc := 183) (As := [.ref p11]) (rest := []) hx hb hml hown hts hK lkJ1_294 yn_J1_parentOf (ct_J1_parentOf (G := G) (l := l) hq133) ⟨Nat.le_of_ble_eq_true rfl, Nat.le_of_ble_eq_true rfl⟩ hW127 rfl rfl hl.1 (Nat.le_of_ble_eq_true rfl) dJ1_fixAfterInsertion_183 ⟨Nat.zero_le _, Nat.zero_le _⟩ ?_
            refine W.eq (g2 := F0 m 186 ls [va_rf o132]) rfl ?_
            obtain ⟨o134, hq135, hm⟩ := ob_some hm
            refine rk_PS (pc := 186) (As := [va_rf o132]) (rest := []) hx hb hml hown hts hK lkJ1_294 yn_J1_parentOf (ct_J1_parentOf (G := G) (l := l) hq135) ⟨Nat.le_of_ble_eq_true rfl, Nat.le_of_ble_eq_true rfl⟩ hW127 rfl rfl hl.1 (Nat.le_of_ble_eq_true rfl) dJ1_fixAfterInsertion_186 ⟨Nat.zero_le _, Nat.zero_le _⟩ ?_
            refine W.eq (g2 := F0 m 189 ls [va_rf o134]) rfl ?_
            refine lv_iconst (pc := 189) (v := (0 : Int32)) hx hb dJ1_fixAfterInsertion_189 (by decide) ?_
            obtain ⟨w136, hq137, hm⟩ := ob_some hm
            refine rk_TS (pc := 190) (As := [va_rf o134, .int (0 : Int32)]) (rest := []) (mc := 0) (ms := 0) hx hb hml hown hts hK hS126 (fun q hq => FA_sz rfl q hq) lkJ1_307 yn_J1_setColor (ct_J1_setColor (G := G) (l := l) (sz := H122.size) hq137) ⟨Nat.le_of_ble_eq_true rfl, Nat.le_of_ble_eq_true rfl⟩ (fun z h => (KM_hf2 hKM131 z h)) hW127 rfl rfl hl.1 (Nat.le_of_ble_eq_true rfl) dJ1_fixAfterInsertion_190 ⟨Nat.zero_le _, Nat.zero_le _⟩ (fun ov9 H138 locs139 hP140 hkp141 hS142 => ?_)
            obtain ⟨rfl, hW143, hz144, hKM145⟩ := hP140
            have hz146 := hz144.trans hz130
            have hKM147 := KM.trans hKM131 hKM145 (by omega)
            refine W.eq (g2 := F0 m 193 ls []) rfl ?_
            refine lv_aload_n (pc := 193) hx hb dJ1_fixAfterInsertion_193 rfl (lv_at hl 2 rfl) ?_
            obtain ⟨o148, hq149, hm⟩ := ob_some hm
            refine rk_PS (pc := 194) (As := [.ref p11]) (rest := []) hx hb hml hown hts hK lkJ1_294 yn_J1_parentOf (ct_J1_parentOf (G := G) (l := l) hq149) ⟨Nat.le_of_ble_eq_true rfl, Nat.le_of_ble_eq_true rfl⟩ hW143 rfl rfl hl.1 (Nat.le_of_ble_eq_true rfl) dJ1_fixAfterInsertion_194 ⟨Nat.zero_le _, Nat.zero_le _⟩ ?_
            refine W.eq (g2 := F0 m 197 ls [va_rf o148]) rfl ?_
            obtain ⟨o150, hq151, hm⟩ := ob_some hm
            refine rk_PS (pc := 197) (As := [va_rf o148]) (rest := []) hx hb hml hown hts hK lkJ1_294 yn_J1_parentOf (ct_J1_parentOf (G := G) (l := l) hq151) ⟨Nat.le_of_ble_eq_true rfl, Nat.le_of_ble_eq_true rfl⟩ hW143 rfl rfl hl.1 (Nat.le_of_ble_eq_true rfl) dJ1_fixAfterInsertion_197 ⟨Nat.zero_le _, Nat.zero_le _⟩ ?_
            refine W.eq (g2 := F0 m 200 ls [va_rf o150]) rfl ?_
            refine lv_astore_nO (pc := 200) (lv' := [(1, va_rf o150), (2, va_rf o81), (0, .ref p0)]) hx hb dJ1_fixAfterInsertion_200 rfl hl (by decide) rfl (fun ls hl => ?_)
            refine lv_goto (pc := 201) (tgt := 255) hx hb dJ1_fixAfterInsertion_201 (by decide) ?_
            refine lv_goto (pc := 255) (tgt := 5) hx hb dJ1_fixAfterInsertion_255 (by decide) ?_
            exact hk5 w136 p0 o150 hm H138 locs139 ls hW143 hS142 hz146 hKM147 (lv_sub hl [2, 0] rfl)
        · have hm := ite_t c76 hm
          refine lv_aload_n (pc := 44) hx hb dJ1_fixAfterInsertion_44 rfl (lv_at hl 1 rfl) ?_
          obtain ⟨o152, hq153, hm⟩ := ob_some hm
          refine rk_PS (pc := 45) (As := [.ref p11]) (rest := []) hx hb hml hown hts hK lkJ1_294 yn_J1_parentOf (ct_J1_parentOf (G := G) (l := l) hq153) ⟨Nat.le_of_ble_eq_true rfl, Nat.le_of_ble_eq_true rfl⟩ hW0 rfl rfl hl.1 (Nat.le_of_ble_eq_true rfl) dJ1_fixAfterInsertion_45 ⟨Nat.zero_le _, Nat.zero_le _⟩ ?_
          refine W.eq (g2 := F0 m 48 ls [va_rf o152]) rfl ?_
          obtain ⟨o154, hq155, hm⟩ := ob_some hm
          refine rk_PS (pc := 48) (As := [va_rf o152]) (rest := []) hx hb hml hown hts hK lkJ1_294 yn_J1_parentOf (ct_J1_parentOf (G := G) (l := l) hq155) ⟨Nat.le_of_ble_eq_true rfl, Nat.le_of_ble_eq_true rfl⟩ hW0 rfl rfl hl.1 (Nat.le_of_ble_eq_true rfl) dJ1_fixAfterInsertion_48 ⟨Nat.zero_le _, Nat.zero_le _⟩ ?_
          refine W.eq (g2 := F0 m 51 ls [va_rf o154]) rfl ?_
          obtain ⟨o156, hq157, hm⟩ := ob_some hm
          refine rk_PS (pc := 51) (As := [va_rf o154]) (rest := []) hx hb hml hown hts hK lkJ1_300 yn_J1_rightOf (ct_J1_rightOf (G := G) (l := l) hq157) ⟨Nat.le_of_ble_eq_true rfl, Nat.le_of_ble_eq_true rfl⟩ hW0 rfl rfl hl.1 (Nat.le_of_ble_eq_true rfl) dJ1_fixAfterInsertion_51 ⟨Nat.zero_le _, Nat.zero_le _⟩ ?_
          refine W.eq (g2 := F0 m 54 ls [va_rf o156]) rfl ?_
          refine lv_astore_nO (pc := 54) (lv' := [(2, va_rf o156), (0, .ref p0), (1, .ref p11)]) hx hb dJ1_fixAfterInsertion_54 rfl hl (by decide) rfl (fun ls hl => ?_)
          refine lv_aload_nO (pc := 55) hx hb dJ1_fixAfterInsertion_55 rfl (lv_at hl 0 rfl) ?_
          obtain ⟨r158, hq159, hm⟩ := ob_some hm
          refine rk_PS (pc := 56) (As := [va_rf o156]) (rest := []) hx hb hml hown hts hK lkJ1_303 yn_J1_colorOf (ct_J1_colorOf (G := G) (l := l) hq159) ⟨Nat.le_of_ble_eq_true rfl, Nat.le_of_ble_eq_true rfl⟩ hW0 rfl rfl hl.1 (Nat.le_of_ble_eq_true rfl) dJ1_fixAfterInsertion_56 ⟨Nat.zero_le _, Nat.zero_le _⟩ ?_
          refine W.eq (g2 := F0 m 59 ls [.int r158]) rfl ?_
          refine lv_if_ne (pc := 59) (tgt := 97) hx hb dJ1_fixAfterInsertion_59 (by decide) (fun c160 => ?_) (fun c160 => ?_)
          · have hm := ite_f c160 hm
            refine lv_aload_n (pc := 97) hx hb dJ1_fixAfterInsertion_97 rfl (lv_at hl 2 rfl) ?_
            refine lv_aload_n (pc := 98) hx hb dJ1_fixAfterInsertion_98 rfl (lv_at hl 2 rfl) ?_
            obtain ⟨o161, hq162, hm⟩ := ob_some hm
            refine rk_PS (pc := 99) (As := [.ref p11]) (rest := [.ref p11]) hx hb hml hown hts hK lkJ1_294 yn_J1_parentOf (ct_J1_parentOf (G := G) (l := l) hq162) ⟨Nat.le_of_ble_eq_true rfl, Nat.le_of_ble_eq_true rfl⟩ hW0 rfl rfl hl.1 (Nat.le_of_ble_eq_true rfl) dJ1_fixAfterInsertion_99 ⟨Nat.zero_le _, Nat.zero_le _⟩ ?_
            refine W.eq (g2 := F0 m 102 ls [va_rf o161, .ref p11]) rfl ?_
            obtain ⟨o163, hq164, hm⟩ := ob_some hm
            refine rk_PS (pc := 102) (As := [va_rf o161]) (rest := [.ref p11]) hx hb hml hown hts hK lkJ1_300 yn_J1_rightOf (ct_J1_rightOf (G := G) (l := l) hq164) ⟨Nat.le_of_ble_eq_true rfl, Nat.le_of_ble_eq_true rfl⟩ hW0 rfl rfl hl.1 (Nat.le_of_ble_eq_true rfl) dJ1_fixAfterInsertion_102 ⟨Nat.zero_le _, Nat.zero_le _⟩ ?_
            refine W.eq (g2 := F0 m 105 ls [va_rf o163, .ref p11]) rfl ?_
            refine lv_acmp_ne (pc := 105) (rx := (some p11)) (ry := o163) (tgt := 118) hx hb dJ1_fixAfterInsertion_105 (by decide) (fun c165 => ?_) (fun c165 => ?_)
            · have hm := ite_f c165 hm
              exact (w_fJ1_fixAfterInsertion_118 C hk5) v0 p0 p11 hm H locs ls hW0 hS hz hKM (lv_sub hl [1, 2] rfl)
            · have hm := ite_t c165 hm
              refine lv_aload_n (pc := 108) hx hb dJ1_fixAfterInsertion_108 rfl (lv_at hl 2 rfl) ?_
              obtain ⟨o166, hq167, hm⟩ := ob_some hm
              refine rk_PS (pc := 109) (As := [.ref p11]) (rest := []) hx hb hml hown hts hK lkJ1_294 yn_J1_parentOf (ct_J1_parentOf (G := G) (l := l) hq167) ⟨Nat.le_of_ble_eq_true rfl, Nat.le_of_ble_eq_true rfl⟩ hW0 rfl rfl hl.1 (Nat.le_of_ble_eq_true rfl) dJ1_fixAfterInsertion_109 ⟨Nat.zero_le _, Nat.zero_le _⟩ ?_
              refine W.eq (g2 := F0 m 112 ls [va_rf o166]) rfl ?_
              refine lv_astore_nO (pc := 112) (lv' := [(1, va_rf o166), (2, va_rf o156), (0, .ref p0)]) hx hb dJ1_fixAfterInsertion_112 rfl hl (by decide) rfl (fun ls hl => ?_)
              refine lv_aload_n (pc := 113) hx hb dJ1_fixAfterInsertion_113 rfl (lv_at hl 2 rfl) ?_
              refine lv_aload_nO (pc := 114) hx hb dJ1_fixAfterInsertion_114 rfl (lv_at hl 0 rfl) ?_
              obtain ⟨hg168, hm⟩ := gb_some hm
              obtain ⟨w169, hq170, hm⟩ := ob_some hm
              refine rk_TV (pc := 115) (As := [va_rf o166]) (rest := []) (mc := 0) (ms := 0) hx hb hml hown hts hK hS (fun q hq => FA_sz rfl q hq) lkJ1_311 rfl yn_J1_rotateLeft (ct_J1_rotateLeft (G := G) (l := l) (sz := H.size) hq170) ⟨Nat.le_of_ble_eq_true rfl, Nat.le_of_ble_eq_true rfl⟩ (fun z h => (KM_hf2 hKM z h)) (rp_recv hK hW0 (C := RJ1) (T := TJ1) (N := 9) rfl (shP_16 (kd_PL hg168) (kd_k hg168))) hW0 rfl rfl hl.1 (Nat.le_of_ble_eq_true rfl) dJ1_fixAfterInsertion_115 ⟨Nat.zero_le _, Nat.zero_le _⟩ (fun ov9 H171 locs172 hP173 hkp174 hS175 => ?_)
              obtain ⟨rfl, hW176, hz177, hKM178⟩ := hP173
              have hz179 := hz177.trans hz
              have hKM180 := KM.trans hKM hKM178 (by omega)
              refine W.eq (g2 := F0 m 118 ls []) rfl ?_
              exact (w_fJ1_fixAfterInsertion_118b C hk5) w169 p0 o166 hm H171 locs172 ls hW176 hS175 hz179 hKM180 (lv_sub hl [2, 0] rfl)
          · have hm := ite_t c160 hm
            refine lv_aload_n (pc := 62) hx hb dJ1_fixAfterInsertion_62 rfl (lv_at hl 2 rfl) ?_
            obtain ⟨o181, hq182, hm⟩ := ob_some hm
            refine rk_PS (pc := 63) (As := [.ref p11]) (rest := []) hx hb hml hown hts hK lkJ1_294 yn_J1_parentOf (ct_J1_parentOf (G := G) (l := l) hq182) ⟨Nat.le_of_ble_eq_true rfl, Nat.le_of_ble_eq_true rfl⟩ hW0 rfl rfl hl.1 (Nat.le_of_ble_eq_true rfl) dJ1_fixAfterInsertion_63 ⟨Nat.zero_le _, Nat.zero_le _⟩ ?_
            refine W.eq (g2 := F0 m 66 ls [va_rf o181]) rfl ?_
            refine lv_iconst (pc := 66) (v := (1 : Int32)) hx hb dJ1_fixAfterInsertion_66 (by decide) ?_
            obtain ⟨w183, hq184, hm⟩ := ob_some hm
            refine rk_TS (pc := 67) (As := [va_rf o181, .int (1 : Int32)]) (rest := []) (mc := 0) (ms := 0) hx hb hml hown hts hK hS (fun q hq => FA_sz rfl q hq) lkJ1_307 yn_J1_setColor (ct_J1_setColor (G := G) (l := l) (sz := H.size) hq184) ⟨Nat.le_of_ble_eq_true rfl, Nat.le_of_ble_eq_true rfl⟩ (fun z h => (KM_hf2 hKM z h)) hW0 rfl rfl hl.1 (Nat.le_of_ble_eq_true rfl) dJ1_fixAfterInsertion_67 ⟨Nat.zero_le _, Nat.zero_le _⟩ (fun ov9 H185 locs186 hP187 hkp188 hS189 => ?_)
            obtain ⟨rfl, hW190, hz191, hKM192⟩ := hP187
            have hz193 := hz191.trans hz
            have hKM194 := KM.trans hKM hKM192 (by omega)
            refine W.eq (g2 := F0 m 70 ls []) rfl ?_
            refine lv_aload_nO (pc := 70) hx hb dJ1_fixAfterInsertion_70 rfl (lv_at hl 0 rfl) ?_
            refine lv_iconst (pc := 71) (v := (1 : Int32)) hx hb dJ1_fixAfterInsertion_71 (by decide) ?_
            obtain ⟨w195, hq196, hm⟩ := ob_some hm
            refine rk_TS (pc := 72) (As := [va_rf o156, .int (1 : Int32)]) (rest := []) (mc := 0) (ms := 0) hx hb hml hown hts hK hS189 (fun q hq => FA_sz rfl q hq) lkJ1_307 yn_J1_setColor (ct_J1_setColor (G := G) (l := l) (sz := H185.size) hq196) ⟨Nat.le_of_ble_eq_true rfl, Nat.le_of_ble_eq_true rfl⟩ (fun z h => (KM_hf2 hKM194 z h)) hW190 rfl rfl hl.1 (Nat.le_of_ble_eq_true rfl) dJ1_fixAfterInsertion_72 ⟨Nat.zero_le _, Nat.zero_le _⟩ (fun ov9 H197 locs198 hP199 hkp200 hS201 => ?_)
            obtain ⟨rfl, hW202, hz203, hKM204⟩ := hP199
            have hz205 := hz203.trans hz193
            have hKM206 := KM.trans hKM194 hKM204 (by omega)
            refine W.eq (g2 := F0 m 75 ls []) rfl ?_
            refine lv_aload_n (pc := 75) hx hb dJ1_fixAfterInsertion_75 rfl (lv_at hl 2 rfl) ?_
            obtain ⟨o207, hq208, hm⟩ := ob_some hm
            refine rk_PS (pc := 76) (As := [.ref p11]) (rest := []) hx hb hml hown hts hK lkJ1_294 yn_J1_parentOf (ct_J1_parentOf (G := G) (l := l) hq208) ⟨Nat.le_of_ble_eq_true rfl, Nat.le_of_ble_eq_true rfl⟩ hW202 rfl rfl hl.1 (Nat.le_of_ble_eq_true rfl) dJ1_fixAfterInsertion_76 ⟨Nat.zero_le _, Nat.zero_le _⟩ ?_
            refine W.eq (g2 := F0 m 79 ls [va_rf o207]) rfl ?_
            obtain ⟨o209, hq210, hm⟩ := ob_some hm
            refine rk_PS (pc := 79) (As := [va_rf o207]) (rest := []) hx hb hml hown hts hK lkJ1_294 yn_J1_parentOf (ct_J1_parentOf (G := G) (l := l) hq210) ⟨Nat.le_of_ble_eq_true rfl, Nat.le_of_ble_eq_true rfl⟩ hW202 rfl rfl hl.1 (Nat.le_of_ble_eq_true rfl) dJ1_fixAfterInsertion_79 ⟨Nat.zero_le _, Nat.zero_le _⟩ ?_
            refine W.eq (g2 := F0 m 82 ls [va_rf o209]) rfl ?_
            refine lv_iconst (pc := 82) (v := (0 : Int32)) hx hb dJ1_fixAfterInsertion_82 (by decide) ?_
            obtain ⟨w211, hq212, hm⟩ := ob_some hm
            refine rk_TS (pc := 83) (As := [va_rf o209, .int (0 : Int32)]) (rest := []) (mc := 0) (ms := 0) hx hb hml hown hts hK hS201 (fun q hq => FA_sz rfl q hq) lkJ1_307 yn_J1_setColor (ct_J1_setColor (G := G) (l := l) (sz := H197.size) hq212) ⟨Nat.le_of_ble_eq_true rfl, Nat.le_of_ble_eq_true rfl⟩ (fun z h => (KM_hf2 hKM206 z h)) hW202 rfl rfl hl.1 (Nat.le_of_ble_eq_true rfl) dJ1_fixAfterInsertion_83 ⟨Nat.zero_le _, Nat.zero_le _⟩ (fun ov9 H213 locs214 hP215 hkp216 hS217 => ?_)
            obtain ⟨rfl, hW218, hz219, hKM220⟩ := hP215
            have hz221 := hz219.trans hz205
            have hKM222 := KM.trans hKM206 hKM220 (by omega)
            refine W.eq (g2 := F0 m 86 ls []) rfl ?_
            refine lv_aload_n (pc := 86) hx hb dJ1_fixAfterInsertion_86 rfl (lv_at hl 2 rfl) ?_
            obtain ⟨o223, hq224, hm⟩ := ob_some hm
            refine rk_PS (pc := 87) (As := [.ref p11]) (rest := []) hx hb hml hown hts hK lkJ1_294 yn_J1_parentOf (ct_J1_parentOf (G := G) (l := l) hq224) ⟨Nat.le_of_ble_eq_true rfl, Nat.le_of_ble_eq_true rfl⟩ hW218 rfl rfl hl.1 (Nat.le_of_ble_eq_true rfl) dJ1_fixAfterInsertion_87 ⟨Nat.zero_le _, Nat.zero_le _⟩ ?_
            refine W.eq (g2 := F0 m 90 ls [va_rf o223]) rfl ?_
            obtain ⟨o225, hq226, hm⟩ := ob_some hm
            refine rk_PS (pc := 90) (As := [va_rf o223]) (rest := []) hx hb hml hown hts hK lkJ1_294 yn_J1_parentOf (ct_J1_parentOf (G := G) (l := l) hq226) ⟨Nat.le_of_ble_eq_true rfl, Nat.le_of_ble_eq_true rfl⟩ hW218 rfl rfl hl.1 (Nat.le_of_ble_eq_true rfl) dJ1_fixAfterInsertion_90 ⟨Nat.zero_le _, Nat.zero_le _⟩ ?_
            refine W.eq (g2 := F0 m 93 ls [va_rf o225]) rfl ?_
            refine lv_astore_nO (pc := 93) (lv' := [(1, va_rf o225), (2, va_rf o156), (0, .ref p0)]) hx hb dJ1_fixAfterInsertion_93 rfl hl (by decide) rfl (fun ls hl => ?_)
            refine lv_goto (pc := 94) (tgt := 148) hx hb dJ1_fixAfterInsertion_94 (by decide) ?_
            refine lv_goto (pc := 148) (tgt := 5) hx hb dJ1_fixAfterInsertion_148 (by decide) ?_
            exact hk5 w211 p0 o225 hm H213 locs214 ls hW218 hS217 hz221 hKM222 (lv_sub hl [2, 0] rfl)
theorem w_fJ1_fixAfterInsertion_5_l (C : Cx G p s m args meth c RJ1 cJ1_fixAfterInsertion 3 none) {PL : Nat → Bool} {vP0 : Mem} {rw0 : Mem} : ∀ (n : Nat) (v0 : Mem) (p0 : Nat) (o1 : Option Nat), lq3 (fJ1_fixAfterInsertion_5 PL) n v0 p0 o1 = some rw0 → ∀ (H : Heap) (locs : List Loc) (ls : Array Slot), pl G PL v0 H → va_S (FA (fP PL vP0) s.heap.size) s.heap H locs → H.size = s.heap.size → KM vP0 v0 s.heap.size → lv_has ls 3 [(0, .ref p0), (1, va_rf o1)] → W p l e (rmT 1 0 0 22) s m args below meth c H locs 0 0 (MQ below (QcT (FA (fP PL vP0) s.heap.size) (fun ov H => ov = none ∧ pl G PL rw0 H ∧ H.size = s.heap.size ∧ KM vP0 rw0 s.heap.size)) args s 0 0 (FA (fP PL vP0) s.heap.size)) (F0 m 5 ls []) := by
  intro n
  induction n with
  | zero => intro v0 p0 o1 hm; exact (lq3_0 hm).elim
  | succ n ih => intro v0 p0 o1 hm; exact w_fJ1_fixAfterInsertion_5 C ih v0 p0 o1 (lq3_s hm)
set_option maxHeartbeats 4000000 in
theorem w_fJ1_fixAfterInsertion (C : Cx G p s m args meth c RJ1 cJ1_fixAfterInsertion 3 none) {PL : Nat → Bool} {vP0 : Mem} {rw0 : Mem} : ∀ (v0 : Mem) (p0 : Nat) (p1 : Nat), fJ1_fixAfterInsertion PL v0 p0 p1 = some rw0 → ∀ (H : Heap) (locs : List Loc) (ls : Array Slot), pl G PL v0 H → va_S (FA (fP PL vP0) s.heap.size) s.heap H locs → H.size = s.heap.size → KM vP0 v0 s.heap.size → lv_has ls 3 [(0, .ref p0), (1, .ref p1)] → W p l e (rmT 1 0 0 22) s m args below meth c H locs 0 0 (MQ below (QcT (FA (fP PL vP0) s.heap.size) (fun ov H => ov = none ∧ pl G PL rw0 H ∧ H.size = s.heap.size ∧ KM vP0 rw0 s.heap.size)) args s 0 0 (FA (fP PL vP0) s.heap.size)) (F0 m 0 ls []) := by
  intro v0 p0 p1 hm H locs ls hW0 hS hz hKM hl
  obtain ⟨hx, hb, hr, hlk, hml, hown, hts, hK⟩ := id C
  unfold fJ1_fixAfterInsertion at hm
  refine lv_aload_n (pc := 0) hx hb dJ1_fixAfterInsertion_0 rfl (lv_at hl 1 rfl) ?_
  refine lv_iconst (pc := 1) (v := (0 : Int32)) hx hb dJ1_fixAfterInsertion_1 (by decide) ?_
  obtain ⟨hg1, hm⟩ := gb_some hm
  refine rp_put (pc := 2) (q := p1) hx hb hts hown hK hW0 hS flJ1_290 ft_J11 (kd_A hKM hg1 (by decide)) (shP_18 (kd_PL hg1) (kd_k hg1)) rfl (x := .int (0 : Int32)) rfl rfl (Nat.le_of_ble_eq_true rfl) (sI v0 p1 5 (0 : Int32)) sI_ne (by rw [sI_eq]; exact shP_18 (kd_PL hg1) (kd_k hg1)) dJ1_fixAfterInsertion_2 (fun H3 locs4 hW5 hS6 hz7 hkp8 => ?_)
  have hKM9 := KM.sI (o := p1) (j := 5) (x := (0 : Int32)) hKM (by decide)
  obtain ⟨v0_2, he9, hm⟩ := lm_some hm
  rw [he9] at hW5 hKM9
  have hz10 := hz7.trans hz
  exact (w_fJ1_fixAfterInsertion_5_l C FU) v0_2 p0 (some p1) hm H3 locs4 ls hW5 hS6 hz10 hKM9 (lv_sub hl [0, 1] rfl)
set_option maxHeartbeats 4000000 in
theorem ct_J1_fixAfterInsertion {G : Gv} {l : Launch} {PL : Nat → Bool} {v0 : Mem} {p0 : Nat} {p1 : Nat} {rw0 : Mem} {sz : Nat} (hm : fJ1_fixAfterInsertion PL v0 p0 p1 = some rw0) : CT G l yJ1_fixAfterInsertion (ws_ yJ1_fixAfterInsertion cJ1_fixAfterInsertion 3 none) 1 0 0 22 [.ref p0, .ref p1] (fP PL v0) sz (fun H => pl G PL v0 H) (fun ov H => ov = none ∧ pl G PL rw0 H ∧ H.size = sz ∧ KM v0 rw0 sz) := by
  refine Met.ofW (cc := cJ1_fixAfterInsertion) (maxL := 3) (ret := none) (by decide +kernel) rfl ?_
  intro p e s m args below meth c s₁ B hml hv
  obtain ⟨rfl, ⟨hz, hW0⟩, hK⟩ := hv
  subst hz
  have hts := atoms_spec (ws := ws_ yJ1_fixAfterInsertion cJ1_fixAfterInsertion 3 none) B.pre
  have hts : ∀ w ∈ lw_all, w.before _ s = true := fun w h => hts w (List.mem_cons_of_mem _ h)
  have C : Cx G p s m _ meth c RJ1 cJ1_fixAfterInsertion 3 none := ⟨B.exec, B.bytes, B.returns, B.notSynchronized, hml, findClass_of_methodNamed B.named, hts, hK⟩
  have hl := lv_entry ([.ref p0, .ref p1]) (n := 3) (Nat.le_of_ble_eq_true rfl)
  rw [lg_entry_eq]
  generalize (lg_sl ([.ref p0, .ref p1]) ++ List.replicate (3 - (lg_sl ([.ref p0, .ref p1])).length) Slot.unset).toArray = ls at hl ⊢
  have hl : lv_has ls 3 [(0, .ref p0), (1, .ref p1)] := hl
  exact w_fJ1_fixAfterInsertion C _ _ _ hm s.heap [] ls hW0 va_S.rf rfl KM.rf hl
end
