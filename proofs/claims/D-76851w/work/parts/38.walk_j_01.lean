set_option maxRecDepth 100000
section
variable {p : Program} {l : Launch} {e : Env} {s : State} {m : MethodId} {args : Array Value} {below : List Frame} {meth : Method} {c : Code} {G : Gv}
theorem ft_X15 : FT TX15 1 tyX15 := ⟨tyX15_ok, nmX15⟩
theorem flX15_7 : FL RX15 7 15 0 RX15 TX15 1 := ⟨in_X15, rfl, by decide, q1376⟩
noncomputable def fX15_init (PL : Nat → Bool) (v0 : Mem) (p0 : Nat) (i1 : Int32) : Option (Mem) :=
  gb (kd PL v0 p0 15) (
  lm (sI v0 p0 0 i1) fun v0_2 =>
  some v0_2)
set_option maxHeartbeats 4000000 in
theorem w_fX15_init (C : Cx G p s m args meth c RX15 cX15_init 2 none) {PL : Nat → Bool} {vP0 : Mem} {rw0 : Mem} (hin : meth.name = "<init>") : ∀ (v0 : Mem) (p0 : Nat) (i1 : Int32), fX15_init PL v0 p0 i1 = some rw0 → ∀ (H : Heap) (locs : List Loc) (ls : Array Slot), pl G PL v0 H → va_S (FA (fP PL vP0) s.heap.size) s.heap H locs → H.size = s.heap.size → KM vP0 v0 s.heap.size → lv_has ls 2 [(0, .ref p0), (1, .int i1)] → W p l e (rmT 1 0 0 32) s m args below meth c H locs 0 0 (MQ below (QcT (FA (fP PL vP0) s.heap.size) (fun ov H => ov = none ∧ pl G PL rw0 H ∧ H.size = s.heap.size ∧ KM vP0 rw0 s.heap.size)) args s 0 0 (FA (fP PL vP0) s.heap.size)) (F0 m 0 ls []) := by
  intro v0 p0 i1 hm H locs ls hW0 hS hz hKM hl
  obtain ⟨hx, hb, hr, hlk, hml, hown, hts, hK⟩ := id C
  unfold fX15_init at hm
  refine lv_aload_n (pc := 0) hx hb dX15_init_0 rfl (lv_at hl 0 rfl) ?_
  refine W.objInit  hx hb hown (hts _ q1375) (hts _ q159) (hts _ q160) rfl (by rw [hml]; exact hl.1) rfl dX15_init_1 (Nat.le_of_ble_eq_true rfl) (Nat.le_of_ble_eq_true rfl) ?_
  refine W.eq (g2 := F0 m 4 ls []) rfl ?_
  refine lv_aload_n (pc := 4) hx hb dX15_init_4 rfl (lv_at hl 0 rfl) ?_
  refine lv_iload_n (pc := 5) hx hb dX15_init_5 rfl (lv_at hl 1 rfl) ?_
  obtain ⟨hg1, hm⟩ := gb_some hm
  refine rp_putF (pc := 6) (q := p0) hx hb hts hown hK hW0 hS flX15_7 ft_X15 (kd_A hKM hg1 (by decide)) (shP_15 (kd_PL hg1) (kd_k hg1)) rfl hin rfl (x := .int i1) rfl rfl (Nat.le_of_ble_eq_true rfl) (sI v0 p0 0 i1) sI_ne (by rw [sI_eq]; exact shP_15 (kd_PL hg1) (kd_k hg1)) dX15_init_6 (fun H3 locs4 hW5 hS6 hz7 hkp8 => ?_)
  have hKM9 := KM.sI (o := p0) (j := 0) (x := i1) hKM (by decide)
  obtain ⟨v0_2, he9, hm⟩ := lm_some hm
  rw [he9] at hW5 hKM9
  have hz10 := hz7.trans hz
  have e9 := rs1 hm
  subst e9
  exact rk_vret (pc := 9) hx hb hr hlk hS6 ⟨rfl, hW5, hz10, hKM9⟩ dX15_init_9
set_option maxHeartbeats 4000000 in
theorem ct_X15_init {G : Gv} {l : Launch} {PL : Nat → Bool} {v0 : Mem} {p0 : Nat} {i1 : Int32} {rw0 : Mem} {sz : Nat} (hm : fX15_init PL v0 p0 i1 = some rw0) : CT G l yX15_init (ws_ yX15_init cX15_init 2 none) 1 0 0 32 [.ref p0, .int i1] (fP PL v0) sz (fun H => pl G PL v0 H) (fun ov H => ov = none ∧ pl G PL rw0 H ∧ H.size = sz ∧ KM v0 rw0 sz) := by
  refine Met.ofW (cc := cX15_init) (maxL := 2) (ret := none) (by decide +kernel) rfl ?_
  intro p e s m args below meth c s₁ B hml hv
  obtain ⟨rfl, ⟨hz, hW0⟩, hK⟩ := hv
  subst hz
  have hin : meth.name = "<init>" := (name_of_methodNamed B.named B.method).1
  have hts := atoms_spec (ws := ws_ yX15_init cX15_init 2 none) B.pre
  have hts : ∀ w ∈ lw_all, w.before _ s = true := fun w h => hts w (List.mem_cons_of_mem _ h)
  have C : Cx G p s m _ meth c RX15 cX15_init 2 none := ⟨B.exec, B.bytes, B.returns, B.notSynchronized, hml, findClass_of_methodNamed B.named, hts, hK⟩
  have hl := lv_entry ([.ref p0, .int i1]) (n := 2) (Nat.le_of_ble_eq_true rfl)
  rw [lg_entry_eq]
  generalize (lg_sl ([.ref p0, .int i1]) ++ List.replicate (2 - (lg_sl ([.ref p0, .int i1])).length) Slot.unset).toArray = ls at hl ⊢
  have hl : lv_has ls 2 [(0, .ref p0), (1, .int i1)] := hl
  exact w_fX15_init C hin _ _ _ hm s.heap [] ls hW0 va_S.rf rfl KM.rf hl
theorem ft_X14 : FT TX14 2 tyX14 := ⟨tyX14_ok, nmX14⟩
theorem flX14_7 : FL RX14 7 14 0 RX14 TX14 2 := ⟨in_X14, rfl, by decide, q1340⟩
theorem flX14_13 : FL RX14 13 14 1 RX14 TX14 2 := ⟨in_X14, rfl, by decide, q1342⟩
noncomputable def fX14_init (PL : Nat → Bool) (v0 : Mem) (p0 : Nat) (i1 : Int32) (i2 : Int32) : Option (Mem) :=
  gb (kd PL v0 p0 14) (
  lm (sI v0 p0 0 i1) fun v0_2 =>
  gb (kd PL v0_2 p0 14) (
  lm (sI v0_2 p0 1 i2) fun v0_12 =>
  some v0_12))
set_option maxHeartbeats 4000000 in
theorem w_fX14_init (C : Cx G p s m args meth c RX14 cX14_init 3 none) {PL : Nat → Bool} {vP0 : Mem} {rw0 : Mem} (hin : meth.name = "<init>") : ∀ (v0 : Mem) (p0 : Nat) (i1 : Int32) (i2 : Int32), fX14_init PL v0 p0 i1 i2 = some rw0 → ∀ (H : Heap) (locs : List Loc) (ls : Array Slot), pl G PL v0 H → va_S (FA (fP PL vP0) s.heap.size) s.heap H locs → H.size = s.heap.size → KM vP0 v0 s.heap.size → lv_has ls 3 [(0, .ref p0), (1, .int i1), (2, .int i2)] → W p l e (rmT 1 0 0 32) s m args below meth c H locs 0 0 (MQ below (QcT (FA (fP PL vP0) s.heap.size) (fun ov H => ov = none ∧ pl G PL rw0 H ∧ H.size = s.heap.size ∧ KM vP0 rw0 s.heap.size)) args s 0 0 (FA (fP PL vP0) s.heap.size)) (F0 m 0 ls []) := by
  intro v0 p0 i1 i2 hm H locs ls hW0 hS hz hKM hl
  obtain ⟨hx, hb, hr, hlk, hml, hown, hts, hK⟩ := id C
  unfold fX14_init at hm
  refine lv_aload_n (pc := 0) hx hb dX14_init_0 rfl (lv_at hl 0 rfl) ?_
  refine W.objInit  hx hb hown (hts _ q1339) (hts _ q159) (hts _ q160) rfl (by rw [hml]; exact hl.1) rfl dX14_init_1 (Nat.le_of_ble_eq_true rfl) (Nat.le_of_ble_eq_true rfl) ?_
  refine W.eq (g2 := F0 m 4 ls []) rfl ?_
  refine lv_aload_n (pc := 4) hx hb dX14_init_4 rfl (lv_at hl 0 rfl) ?_
  refine lv_iload_n (pc := 5) hx hb dX14_init_5 rfl (lv_at hl 1 rfl) ?_
  obtain ⟨hg1, hm⟩ := gb_some hm
  refine rp_putF (pc := 6) (q := p0) hx hb hts hown hK hW0 hS flX14_7 ft_X14 (kd_A hKM hg1 (by decide)) (shP_14 (kd_PL hg1) (kd_k hg1)) rfl hin rfl (x := .int i1) rfl rfl (Nat.le_of_ble_eq_true rfl) (sI v0 p0 0 i1) sI_ne (by rw [sI_eq]; exact shP_14 (kd_PL hg1) (kd_k hg1)) dX14_init_6 (fun H3 locs4 hW5 hS6 hz7 hkp8 => ?_)
  have hKM9 := KM.sI (o := p0) (j := 0) (x := i1) hKM (by decide)
  obtain ⟨v0_2, he9, hm⟩ := lm_some hm
  rw [he9] at hW5 hKM9
  have hz10 := hz7.trans hz
  refine lv_aload_n (pc := 9) hx hb dX14_init_9 rfl (lv_at hl 0 rfl) ?_
  refine lv_iload_n (pc := 10) hx hb dX14_init_10 rfl (lv_at hl 2 rfl) ?_
  obtain ⟨hg11, hm⟩ := gb_some hm
  refine rp_putF (pc := 11) (q := p0) hx hb hts hown hK hW5 hS6 flX14_13 ft_X14 (kd_A hKM9 hg11 (by decide)) (shP_14 (kd_PL hg11) (kd_k hg11)) rfl hin rfl (x := .int i2) rfl rfl (Nat.le_of_ble_eq_true rfl) (sI v0_2 p0 1 i2) sI_ne (by rw [sI_eq]; exact shP_14 (kd_PL hg11) (kd_k hg11)) dX14_init_11 (fun H13 locs14 hW15 hS16 hz17 hkp18 => ?_)
  have hKM19 := KM.sI (o := p0) (j := 1) (x := i2) hKM9 (by decide)
  obtain ⟨v0_12, he9, hm⟩ := lm_some hm
  rw [he9] at hW15 hKM19
  have hz20 := hz17.trans hz10
  have e9 := rs1 hm
  subst e9
  exact rk_vret (pc := 14) hx hb hr hlk hS16 ⟨rfl, hW15, hz20, hKM19⟩ dX14_init_14
set_option maxHeartbeats 4000000 in
theorem ct_X14_init {G : Gv} {l : Launch} {PL : Nat → Bool} {v0 : Mem} {p0 : Nat} {i1 : Int32} {i2 : Int32} {rw0 : Mem} {sz : Nat} (hm : fX14_init PL v0 p0 i1 i2 = some rw0) : CT G l yX14_init (ws_ yX14_init cX14_init 3 none) 1 0 0 32 [.ref p0, .int i1, .int i2] (fP PL v0) sz (fun H => pl G PL v0 H) (fun ov H => ov = none ∧ pl G PL rw0 H ∧ H.size = sz ∧ KM v0 rw0 sz) := by
  refine Met.ofW (cc := cX14_init) (maxL := 3) (ret := none) (by decide +kernel) rfl ?_
  intro p e s m args below meth c s₁ B hml hv
  obtain ⟨rfl, ⟨hz, hW0⟩, hK⟩ := hv
  subst hz
  have hin : meth.name = "<init>" := (name_of_methodNamed B.named B.method).1
  have hts := atoms_spec (ws := ws_ yX14_init cX14_init 3 none) B.pre
  have hts : ∀ w ∈ lw_all, w.before _ s = true := fun w h => hts w (List.mem_cons_of_mem _ h)
  have C : Cx G p s m _ meth c RX14 cX14_init 3 none := ⟨B.exec, B.bytes, B.returns, B.notSynchronized, hml, findClass_of_methodNamed B.named, hts, hK⟩
  have hl := lv_entry ([.ref p0, .int i1, .int i2]) (n := 3) (Nat.le_of_ble_eq_true rfl)
  rw [lg_entry_eq]
  generalize (lg_sl ([.ref p0, .int i1, .int i2]) ++ List.replicate (3 - (lg_sl ([.ref p0, .int i1, .int i2])).length) Slot.unset).toArray = ls at hl ⊢
  have hl : lv_has ls 3 [(0, .ref p0), (1, .int i1), (2, .int i2)] := hl
  exact w_fX14_init C hin _ _ _ _ hm s.heap [] ls hW0 va_S.rf rfl KM.rf hl
noncomputable def fX14_compareTo_2_45 (PL : Nat → Bool) (V0 : Mem) (i2 : Int32) (t0 : Int32) : Option (Int32) :=
  if t0 ≤ i2 then (
  if i2 = t0 then (
  some (0 : Int32))
  else (
  some (1 : Int32)))
  else (
  some (-1 : Int32))
noncomputable def fX14_compareTo_2_22 (PL : Nat → Bool) (V0 : Mem) (p0 : Nat) (p1 : Nat) (t0 : Int32) : Option (Int32) :=
  gb (kd PL V0 p0 14) (
  gb (kd PL V0 p1 14) (
  if (gI V0 p0 0) = (gI V0 p1 0) then (
  gb (kd PL V0 p1 14) (
  fX14_compareTo_2_45 PL V0 t0 (gI V0 p1 1)))
  else (
  gb (kd PL V0 p1 14) (
  fX14_compareTo_2_45 PL V0 t0 (gI V0 p1 0)))))
noncomputable def fX14_compareTo_2 (PL : Nat → Bool) (V0 : Mem) (p0 : Nat) (p1 : Nat) : Option (Int32) :=
  gb (kd PL V0 p0 14) (
  gb (kd PL V0 p1 14) (
  if (gI V0 p0 0) = (gI V0 p1 0) then (
  gb (kd PL V0 p0 14) (
  fX14_compareTo_2_22 PL V0 p0 p1 (gI V0 p0 1)))
  else (
  gb (kd PL V0 p0 14) (
  fX14_compareTo_2_22 PL V0 p0 p1 (gI V0 p0 0)))))
set_option maxHeartbeats 4000000 in
theorem w_fX14_compareTo_2_45 (C : Cx G p s m args meth c RX14 cX14_compareTo_2 4 (some .int)) {PL : Nat → Bool} {V0 : Mem} {rx : Int32} (hW0 : pl G PL V0 s.heap) : ∀ (i2 : Int32) (t0 : Int32), fX14_compareTo_2_45 PL V0 i2 t0 = some rx → ∀ (ls : Array Slot), lv_has ls 4 [(2, .int i2)] → W p l e (rmP 0 0) s m args below meth c s.heap [] 0 0 (MQ below (QcP (some (.int rx))) args s 0 0 (fun _ => False)) (F0 m 45 ls [.int t0]) := by
  intro i2 t0 hm ls hl
  obtain ⟨hx, hb, hr, hlk, hml, hown, hts, hK⟩ := id C
  unfold fX14_compareTo_2_45 at hm
  refine lv_istore_n (pc := 45) (lv' := [(3, .int t0), (2, .int i2)]) hx hb dX14_compareTo_2_45 rfl hl (by decide) rfl (fun ls hl => ?_)
  refine lv_iload_n (pc := 46) hx hb dX14_compareTo_2_46 rfl (lv_at hl 1 rfl) ?_
  refine lv_iload_n (pc := 47) hx hb dX14_compareTo_2_47 rfl (lv_at hl 0 rfl) ?_
  refine lv_icmp_ge (pc := 48) (tgt := 55) hx hb dX14_compareTo_2_48 (by decide) (fun c11 => ?_) (fun c11 => ?_)
  · have hm := ite_t c11 hm
    refine lv_iload_n (pc := 55) hx hb dX14_compareTo_2_55 rfl (lv_at hl 1 rfl) ?_
    refine lv_iload_n (pc := 56) hx hb dX14_compareTo_2_56 rfl (lv_at hl 0 rfl) ?_
    refine lv_icmp_ne (pc := 57) (tgt := 64) hx hb dX14_compareTo_2_57 (by decide) (fun c12 => ?_) (fun c12 => ?_)
    · have hm := ite_f c12 hm
      refine lv_iconst (pc := 64) (v := (1 : Int32)) hx hb dX14_compareTo_2_64 (by decide) ?_
      have e9 := rs1 hm
      subst e9
      exact rk_iretP (pc := 65) hx hb hr hlk rfl dX14_compareTo_2_65
    · have hm := ite_t c12 hm
      refine lv_iconst (pc := 60) (v := (0 : Int32)) hx hb dX14_compareTo_2_60 (by decide) ?_
      refine lv_goto (pc := 61) (tgt := 65) hx hb dX14_compareTo_2_61 (by decide) ?_
      have e9 := rs1 hm
      subst e9
      exact rk_iretP (pc := 65) hx hb hr hlk rfl dX14_compareTo_2_65
  · have hm := ite_f c11 hm
    refine lv_iconst (pc := 51) (v := (-1 : Int32)) hx hb dX14_compareTo_2_51 (by decide) ?_
    refine lv_goto (pc := 52) (tgt := 65) hx hb dX14_compareTo_2_52 (by decide) ?_
    have e9 := rs1 hm
    subst e9
    exact rk_iretP (pc := 65) hx hb hr hlk rfl dX14_compareTo_2_65
set_option maxHeartbeats 4000000 in
theorem w_fX14_compareTo_2_22 (C : Cx G p s m args meth c RX14 cX14_compareTo_2 4 (some .int)) {PL : Nat → Bool} {V0 : Mem} {rx : Int32} (hW0 : pl G PL V0 s.heap) : ∀ (p0 : Nat) (p1 : Nat) (t0 : Int32), fX14_compareTo_2_22 PL V0 p0 p1 t0 = some rx → ∀ (ls : Array Slot), lv_has ls 4 [(0, .ref p0), (1, .ref p1)] → W p l e (rmP 0 0) s m args below meth c s.heap [] 0 0 (MQ below (QcP (some (.int rx))) args s 0 0 (fun _ => False)) (F0 m 22 ls [.int t0]) := by
  intro p0 p1 t0 hm ls hl
  obtain ⟨hx, hb, hr, hlk, hml, hown, hts, hK⟩ := id C
  unfold fX14_compareTo_2_22 at hm
  refine lv_istore_n (pc := 22) (lv' := [(2, .int t0), (0, .ref p0), (1, .ref p1)]) hx hb dX14_compareTo_2_22 rfl hl (by decide) rfl (fun ls hl => ?_)
  refine lv_aload_n (pc := 23) hx hb dX14_compareTo_2_23 rfl (lv_at hl 1 rfl) ?_
  obtain ⟨hg6, hm⟩ := gb_some hm
  refine rk_get (pc := 24) hx hb hts hown hK (pl_rg hW0) flX14_7 p0 (Nat.lt_succ_self _) (Nat.zero_add _).symm (shP_14 (kd_PL hg6) (kd_k hg6)) (x := .int (gI V0 p0 0)) rfl dX14_compareTo_2_24 ?_
  refine lv_aload_n (pc := 27) hx hb dX14_compareTo_2_27 rfl (lv_at hl 2 rfl) ?_
  obtain ⟨hg7, hm⟩ := gb_some hm
  refine rk_get (pc := 28) hx hb hts hown hK (pl_rg hW0) flX14_7 p1 (Nat.lt_succ_self _) (Nat.zero_add _).symm (shP_14 (kd_PL hg7) (kd_k hg7)) (x := .int (gI V0 p1 0)) rfl dX14_compareTo_2_28 ?_
  refine lv_icmp_ne (pc := 31) (tgt := 41) hx hb dX14_compareTo_2_31 (by decide) (fun c8 => ?_) (fun c8 => ?_)
  · have hm := ite_f c8 hm
    refine lv_aload_n (pc := 41) hx hb dX14_compareTo_2_41 rfl (lv_at hl 2 rfl) ?_
    obtain ⟨hg9, hm⟩ := gb_some hm
    refine rk_get (pc := 42) hx hb hts hown hK (pl_rg hW0) flX14_7 p1 (Nat.lt_succ_self _) (Nat.zero_add _).symm (shP_14 (kd_PL hg9) (kd_k hg9)) (x := .int (gI V0 p1 0)) rfl dX14_compareTo_2_42 ?_
    exact (w_fX14_compareTo_2_45 C hW0) t0 (gI V0 p1 0) hm ls (lv_sub hl [0] rfl)
  · have hm := ite_t c8 hm
    refine lv_aload_n (pc := 34) hx hb dX14_compareTo_2_34 rfl (lv_at hl 2 rfl) ?_
    obtain ⟨hg10, hm⟩ := gb_some hm
    refine rk_get (pc := 35) hx hb hts hown hK (pl_rg hW0) flX14_13 p1 (Nat.lt_succ_self _) (Nat.zero_add _).symm (shP_14 (kd_PL hg10) (kd_k hg10)) (x := .int (gI V0 p1 1)) rfl dX14_compareTo_2_35 ?_
    refine lv_goto (pc := 38) (tgt := 45) hx hb dX14_compareTo_2_38 (by decide) ?_
    exact (w_fX14_compareTo_2_45 C hW0) t0 (gI V0 p1 1) hm ls (lv_sub hl [0] rfl)
set_option maxHeartbeats 4000000 in
theorem w_fX14_compareTo_2 (C : Cx G p s m args meth c RX14 cX14_compareTo_2 4 (some .int)) {PL : Nat → Bool} {V0 : Mem} {rx : Int32} (hW0 : pl G PL V0 s.heap) : ∀ (p0 : Nat) (p1 : Nat), fX14_compareTo_2 PL V0 p0 p1 = some rx → ∀ (ls : Array Slot), lv_has ls 4 [(0, .ref p0), (1, .ref p1)] → W p l e (rmP 0 0) s m args below meth c s.heap [] 0 0 (MQ below (QcP (some (.int rx))) args s 0 0 (fun _ => False)) (F0 m 0 ls []) := by
  intro p0 p1 hm ls hl
  obtain ⟨hx, hb, hr, hlk, hml, hown, hts, hK⟩ := id C
  unfold fX14_compareTo_2 at hm
  refine lv_aload_n (pc := 0) hx hb dX14_compareTo_2_0 rfl (lv_at hl 0 rfl) ?_
  obtain ⟨hg1, hm⟩ := gb_some hm
  refine rk_get (pc := 1) hx hb hts hown hK (pl_rg hW0) flX14_7 p0 (Nat.lt_succ_self _) (Nat.zero_add _).symm (shP_14 (kd_PL hg1) (kd_k hg1)) (x := .int (gI V0 p0 0)) rfl dX14_compareTo_2_1 ?_
  refine lv_aload_n (pc := 4) hx hb dX14_compareTo_2_4 rfl (lv_at hl 1 rfl) ?_
  obtain ⟨hg2, hm⟩ := gb_some hm
  refine rk_get (pc := 5) hx hb hts hown hK (pl_rg hW0) flX14_7 p1 (Nat.lt_succ_self _) (Nat.zero_add _).symm (shP_14 (kd_PL hg2) (kd_k hg2)) (x := .int (gI V0 p1 0)) rfl dX14_compareTo_2_5 ?_
  refine lv_icmp_ne (pc := 8) (tgt := 18) hx hb dX14_compareTo_2_8 (by decide) (fun c3 => ?_) (fun c3 => ?_)
  · have hm := ite_f c3 hm
    refine lv_aload_n (pc := 18) hx hb dX14_compareTo_2_18 rfl (lv_at hl 0 rfl) ?_
    obtain ⟨hg4, hm⟩ := gb_some hm
    refine rk_get (pc := 19) hx hb hts hown hK (pl_rg hW0) flX14_7 p0 (Nat.lt_succ_self _) (Nat.zero_add _).symm (shP_14 (kd_PL hg4) (kd_k hg4)) (x := .int (gI V0 p0 0)) rfl dX14_compareTo_2_19 ?_
    exact (w_fX14_compareTo_2_22 C hW0) p0 p1 (gI V0 p0 0) hm ls (lv_sub hl [0, 1] rfl)
  · have hm := ite_t c3 hm
    refine lv_aload_n (pc := 11) hx hb dX14_compareTo_2_11 rfl (lv_at hl 0 rfl) ?_
    obtain ⟨hg5, hm⟩ := gb_some hm
    refine rk_get (pc := 12) hx hb hts hown hK (pl_rg hW0) flX14_13 p0 (Nat.lt_succ_self _) (Nat.zero_add _).symm (shP_14 (kd_PL hg5) (kd_k hg5)) (x := .int (gI V0 p0 1)) rfl dX14_compareTo_2_12 ?_
    refine lv_goto (pc := 15) (tgt := 22) hx hb dX14_compareTo_2_15 (by decide) ?_
    exact (w_fX14_compareTo_2_22 C hW0) p0 p1 (gI V0 p0 1) hm ls (lv_sub hl [0, 1] rfl)
set_option maxHeartbeats 4000000 in
theorem ct_X14_compareTo_2 {G : Gv} {l : Launch} {PL : Nat → Bool} {V0 : Mem} {p0 : Nat} {p1 : Nat} {rx : Int32} (hm : fX14_compareTo_2 PL V0 p0 p1 = some rx) : CP G l yX14_compareTo_2 (ws_ yX14_compareTo_2 cX14_compareTo_2 4 (some .int)) 0 0 [.ref p0, .ref p1] (fun H => pl G PL V0 H) (some (.int rx)) := by
  refine Met.ofW (cc := cX14_compareTo_2) (maxL := 4) (ret := (some .int)) (by decide +kernel) rfl ?_
  intro p e s m args below meth c s₁ B hml hv
  obtain ⟨rfl, hW0, hK⟩ := hv
  have hts := atoms_spec (ws := ws_ yX14_compareTo_2 cX14_compareTo_2 4 (some .int)) B.pre
  have hts : ∀ w ∈ lw_all, w.before _ s = true := fun w h => hts w (List.mem_cons_of_mem _ h)
  have C : Cx G p s m _ meth c RX14 cX14_compareTo_2 4 (some .int) := ⟨B.exec, B.bytes, B.returns, B.notSynchronized, hml, findClass_of_methodNamed B.named, hts, hK⟩
  have hl := lv_entry ([.ref p0, .ref p1]) (n := 4) (Nat.le_of_ble_eq_true rfl)
  rw [lg_entry_eq]
  generalize (lg_sl ([.ref p0, .ref p1]) ++ List.replicate (4 - (lg_sl ([.ref p0, .ref p1])).length) Slot.unset).toArray = ls at hl ⊢
  have hl : lv_has ls 4 [(0, .ref p0), (1, .ref p1)] := hl
  exact w_fX14_compareTo_2 C hW0 _ _ hm ls hl
theorem yn_X14_compareTo_2 : YN yX14_compareTo_2 1 := by
  unfold YN
  decide +kernel
theorem lkX14_16 : LV RX14 16 RX14 yX14_compareTo_2 cX14_compareTo_2 4 (some .int) := ⟨q1111, q1112, q1113, q139, q1114⟩
noncomputable def fX14_compareTo (PL : Nat → Bool) (V0 : Mem) (p0 : Nat) (p1 : Nat) : Option (Int32) :=
  gb (kd PL V0 p1 14) (
  gb (kd PL V0 p0 14) (
  ob (fX14_compareTo_2 PL V0 p0 p1) fun r3 =>
  some r3))
set_option maxHeartbeats 4000000 in
theorem w_fX14_compareTo (C : Cx G p s m args meth c RX14 cX14_compareTo 2 (some .int)) {PL : Nat → Bool} {V0 : Mem} {rx : Int32} (hW0 : pl G PL V0 s.heap) : ∀ (p0 : Nat) (p1 : Nat), fX14_compareTo PL V0 p0 p1 = some rx → ∀ (ls : Array Slot), lv_has ls 2 [(0, .ref p0), (1, .ref p1)] → W p l e (rmP 1 23) s m args below meth c s.heap [] 0 0 (MQ below (QcP (some (.int rx))) args s 0 0 (fun _ => False)) (F0 m 0 ls []) := by
  intro p0 p1 hm ls hl
  obtain ⟨hx, hb, hr, hlk, hml, hown, hts, hK⟩ := id C
  unfold fX14_compareTo at hm
  refine lv_aload_n (pc := 0) hx hb dX14_compareTo_0 rfl (lv_at hl 0 rfl) ?_
  refine lv_aload_n (pc := 1) hx hb dX14_compareTo_1 rfl (lv_at hl 1 rfl) ?_
  obtain ⟨hg1, hm⟩ := gb_some hm
  refine rp_castS (pc := 2) (C := RX14) (T := TX14) (N := 2) (ci := 14) hx hb hown hts hK q1110 rfl (rp_recv hK hW0 (C := RX14) (T := TX14) (N := 2) rfl (shP_14 (kd_PL hg1) (kd_k hg1))) dX14_compareTo_2 ?_
  obtain ⟨hg2, hm⟩ := gb_some hm
  obtain ⟨r3, hq4, hm⟩ := ob_some hm
  refine rk_PV (pc := 5) (As := [.ref p1]) (rest := []) hx hb hml hown hts hK lkX14_16 rfl yn_X14_compareTo_2 (ct_X14_compareTo_2 (G := G) (l := l) hq4) ⟨Nat.le_of_ble_eq_true rfl, Nat.le_of_ble_eq_true rfl⟩ (rp_recv hK hW0 (C := RX14) (T := TX14) (N := 2) rfl (shP_14 (kd_PL hg2) (kd_k hg2))) hW0 rfl rfl hl.1 (Nat.le_of_ble_eq_true rfl) dX14_compareTo_5 ⟨Nat.zero_le _, Nat.zero_le _⟩ ?_
  refine W.eq (g2 := F0 m 8 ls [.int r3]) rfl ?_
  have e9 := rs1 hm
  subst e9
  exact rk_iretP (pc := 8) hx hb hr hlk rfl dX14_compareTo_8
set_option maxHeartbeats 4000000 in
theorem ct_X14_compareTo {G : Gv} {l : Launch} {PL : Nat → Bool} {V0 : Mem} {p0 : Nat} {p1 : Nat} {rx : Int32} (hm : fX14_compareTo PL V0 p0 p1 = some rx) : CP G l yX14_compareTo (ws_ yX14_compareTo cX14_compareTo 2 (some .int)) 1 23 [.ref p0, .ref p1] (fun H => pl G PL V0 H) (some (.int rx)) := by
  refine Met.ofW (cc := cX14_compareTo) (maxL := 2) (ret := (some .int)) (by decide +kernel) rfl ?_
  intro p e s m args below meth c s₁ B hml hv
  obtain ⟨rfl, hW0, hK⟩ := hv
  have hts := atoms_spec (ws := ws_ yX14_compareTo cX14_compareTo 2 (some .int)) B.pre
  have hts : ∀ w ∈ lw_all, w.before _ s = true := fun w h => hts w (List.mem_cons_of_mem _ h)
  have C : Cx G p s m _ meth c RX14 cX14_compareTo 2 (some .int) := ⟨B.exec, B.bytes, B.returns, B.notSynchronized, hml, findClass_of_methodNamed B.named, hts, hK⟩
  have hl := lv_entry ([.ref p0, .ref p1]) (n := 2) (Nat.le_of_ble_eq_true rfl)
  rw [lg_entry_eq]
  generalize (lg_sl ([.ref p0, .ref p1]) ++ List.replicate (2 - (lg_sl ([.ref p0, .ref p1])).length) Slot.unset).toArray = ls at hl ⊢
  have hl : lv_has ls 2 [(0, .ref p0), (1, .ref p1)] := hl
  exact w_fX14_compareTo C hW0 _ _ hm ls hl
noncomputable def fJ2_init (p0 : Nat) : Option (Unit) :=
  some ()
set_option maxHeartbeats 4000000 in
theorem w_fJ2_init (C : Cx G p s m args meth c RJ2 cJ2_init 1 none) (hin : meth.name = "<init>") : ∀ (p0 : Nat), fJ2_init p0 = some () → ∀ (ls : Array Slot), lv_has ls 1 [(0, .ref p0)] → W p l e (rmP 1 32) s m args below meth c s.heap [] 0 0 (MQ below (QcP none) args s 0 0 (fun _ => False)) (F0 m 0 ls []) := by
  intro p0 hm ls hl
  obtain ⟨hx, hb, hr, hlk, hml, hown, hts, hK⟩ := id C
  unfold fJ2_init at hm
  refine lv_aload_n (pc := 0) hx hb dJ2_init_0 rfl (lv_at hl 0 rfl) ?_
  refine W.objInit  hx hb hown (hts _ q386) (hts _ q159) (hts _ q160) rfl (by rw [hml]; exact hl.1) rfl dJ2_init_1 (Nat.le_of_ble_eq_true rfl) (Nat.le_of_ble_eq_true rfl) ?_
  refine W.eq (g2 := F0 m 4 ls []) rfl ?_
  exact rk_vretP (pc := 4) hx hb hr hlk rfl dJ2_init_4
set_option maxHeartbeats 4000000 in
theorem ct_J2_init {G : Gv} {l : Launch} {p0 : Nat} (hm : fJ2_init p0 = some ()) : CP G l yJ2_init (ws_ yJ2_init cJ2_init 1 none) 1 32 [.ref p0] (fun H => True) none := by
  refine Met.ofW (cc := cJ2_init) (maxL := 1) (ret := none) (by decide +kernel) rfl ?_
  intro p e s m args below meth c s₁ B hml hv
  obtain ⟨rfl, -, hK⟩ := hv
  have hin : meth.name = "<init>" := (name_of_methodNamed B.named B.method).1
  have hts := atoms_spec (ws := ws_ yJ2_init cJ2_init 1 none) B.pre
  have hts : ∀ w ∈ lw_all, w.before _ s = true := fun w h => hts w (List.mem_cons_of_mem _ h)
  have C : Cx G p s m _ meth c RJ2 cJ2_init 1 none := ⟨B.exec, B.bytes, B.returns, B.notSynchronized, hml, findClass_of_methodNamed B.named, hts, hK⟩
  have hl := lv_entry ([.ref p0]) (n := 1) (Nat.le_of_ble_eq_true rfl)
  rw [lg_entry_eq]
  generalize (lg_sl ([.ref p0]) ++ List.replicate (1 - (lg_sl ([.ref p0])).length) Slot.unset).toArray = ls at hl ⊢
  have hl : lv_has ls 1 [(0, .ref p0)] := hl
  exact w_fJ2_init C hin _ hm ls hl
theorem ft_J4 : FT TJ4 4 tyJ4 := ⟨tyJ4_ok, nmJ4⟩
theorem flJ4_58 : FL RJ4 58 17 1 RJ4 TJ4 4 := ⟨in_J4, rfl, by decide, q390⟩
noncomputable def fJ4_size (PL : Nat → Bool) (V0 : Mem) (p0 : Nat) : Option (Int32) :=
  gb (kd PL V0 p0 17) (
  some (gI V0 p0 1))
set_option maxHeartbeats 4000000 in
theorem w_fJ4_size (C : Cx G p s m args meth c RJ4 cJ4_size 1 (some .int)) {PL : Nat → Bool} {V0 : Mem} {rx : Int32} (hW0 : pl G PL V0 s.heap) : ∀ (p0 : Nat), fJ4_size PL V0 p0 = some rx → ∀ (ls : Array Slot), lv_has ls 1 [(0, .ref p0)] → W p l e (rmP 0 0) s m args below meth c s.heap [] 0 0 (MQ below (QcP (some (.int rx))) args s 0 0 (fun _ => False)) (F0 m 0 ls []) := by
  intro p0 hm ls hl
  obtain ⟨hx, hb, hr, hlk, hml, hown, hts, hK⟩ := id C
  unfold fJ4_size at hm
  refine lv_aload_n (pc := 0) hx hb dJ4_size_0 rfl (lv_at hl 0 rfl) ?_
  obtain ⟨hg1, hm⟩ := gb_some hm
  refine rk_get (pc := 1) hx hb hts hown hK (pl_rg hW0) flJ4_58 p0 (Nat.lt_succ_self _) (Nat.zero_add _).symm (shP_17 (kd_PL hg1) (kd_k hg1)) (x := .int (gI V0 p0 1)) rfl dJ4_size_1 ?_
  have e9 := rs1 hm
  subst e9
  exact rk_iretP (pc := 4) hx hb hr hlk rfl dJ4_size_4
set_option maxHeartbeats 4000000 in
theorem ct_J4_size {G : Gv} {l : Launch} {PL : Nat → Bool} {V0 : Mem} {p0 : Nat} {rx : Int32} (hm : fJ4_size PL V0 p0 = some rx) : CP G l yJ4_size (ws_ yJ4_size cJ4_size 1 (some .int)) 0 0 [.ref p0] (fun H => pl G PL V0 H) (some (.int rx)) := by
  refine Met.ofW (cc := cJ4_size) (maxL := 1) (ret := (some .int)) (by decide +kernel) rfl ?_
  intro p e s m args below meth c s₁ B hml hv
  obtain ⟨rfl, hW0, hK⟩ := hv
  have hts := atoms_spec (ws := ws_ yJ4_size cJ4_size 1 (some .int)) B.pre
  have hts : ∀ w ∈ lw_all, w.before _ s = true := fun w h => hts w (List.mem_cons_of_mem _ h)
  have C : Cx G p s m _ meth c RJ4 cJ4_size 1 (some .int) := ⟨B.exec, B.bytes, B.returns, B.notSynchronized, hml, findClass_of_methodNamed B.named, hts, hK⟩
  have hl := lv_entry ([.ref p0]) (n := 1) (Nat.le_of_ble_eq_true rfl)
  rw [lg_entry_eq]
  generalize (lg_sl ([.ref p0]) ++ List.replicate (1 - (lg_sl ([.ref p0])).length) Slot.unset).toArray = ls at hl ⊢
  have hl : lv_has ls 1 [(0, .ref p0)] := hl
  exact w_fJ4_size C hW0 _ hm ls hl
theorem yn_J4_size : YN yJ4_size 0 := by
  unfold YN
  decide +kernel
theorem lfJ2_7_J4 : LU RJ2 7 RJ4 "java/util/AbstractCollection" ⟨"java/util/AbstractCollection", "size", "()I"⟩ yJ4_size cJ4_size 1 (some .int) := ⟨⟨q1252, q1254, q1255, q1001, q123⟩, q1003, by decide, by decide⟩
theorem ynx_J2_7 : YN ⟨"java/util/AbstractCollection", "size", "()I"⟩ 0 := by
  unfold YN
  decide +kernel
noncomputable def fJ2_isEmpty (PL : Nat → Bool) (V0 : Mem) (p0 : Nat) : Option (Int32) :=
  gb (kd PL V0 p0 17) (
  ob (fJ4_size PL V0 p0) fun r2 =>
  if r2 = 0 then (
  some (1 : Int32))
  else (
  some (0 : Int32)))
set_option maxHeartbeats 4000000 in
theorem w_fJ2_isEmpty (C : Cx G p s m args meth c RJ2 cJ2_isEmpty 1 (some .boolean)) {PL : Nat → Bool} {V0 : Mem} {rx : Int32} (hW0 : pl G PL V0 s.heap) : ∀ (p0 : Nat), fJ2_isEmpty PL V0 p0 = some rx → ∀ (ls : Array Slot), lv_has ls 1 [(0, .ref p0)] → W p l e (rmP 1 20) s m args below meth c s.heap [] 0 0 (MQ below (QcP (some (.int rx))) args s 0 0 (fun _ => False)) (F0 m 0 ls []) := by
  intro p0 hm ls hl
  obtain ⟨hx, hb, hr, hlk, hml, hown, hts, hK⟩ := id C
  unfold fJ2_isEmpty at hm
  refine lv_aload_n (pc := 0) hx hb dJ2_isEmpty_0 rfl (lv_at hl 0 rfl) ?_
  obtain ⟨hg1, hm⟩ := gb_some hm
  obtain ⟨r2, hq3, hm⟩ := ob_some hm
  refine rp_PU (pc := 1) (As := []) (rest := []) hx hb hml hown hts hK lfJ2_7_J4 q1253 ynx_J2_7 (ct_J4_size (G := G) (l := l) hq3) ⟨Nat.le_of_ble_eq_true rfl, Nat.le_of_ble_eq_true rfl⟩ (rp_recv hK hW0 (C := RJ4) (T := TJ4) (N := 4) rfl (shP_17 (kd_PL hg1) (kd_k hg1))) hW0 rfl rfl hl.1 (Nat.le_of_ble_eq_true rfl) dJ2_isEmpty_1 ⟨Nat.zero_le _, Nat.zero_le _⟩ ?_
  refine W.eq (g2 := F0 m 4 ls [.int r2]) rfl ?_
  refine lv_if_ne (pc := 4) (tgt := 11) hx hb dJ2_isEmpty_4 (by decide) (fun c4 => ?_) (fun c4 => ?_)
  · have hm := ite_f c4 hm
    refine lv_iconst (pc := 11) (v := (0 : Int32)) hx hb dJ2_isEmpty_11 (by decide) ?_
    have e9 := rs1 hm
    subst e9
    exact rk_zretP (pc := 12) hx hb hr hlk rfl rfl dJ2_isEmpty_12
  · have hm := ite_t c4 hm
    refine lv_iconst (pc := 7) (v := (1 : Int32)) hx hb dJ2_isEmpty_7 (by decide) ?_
    refine lv_goto (pc := 8) (tgt := 12) hx hb dJ2_isEmpty_8 (by decide) ?_
    have e9 := rs1 hm
    subst e9
    exact rk_zretP (pc := 12) hx hb hr hlk rfl rfl dJ2_isEmpty_12
set_option maxHeartbeats 4000000 in
theorem ct_J2_isEmpty {G : Gv} {l : Launch} {PL : Nat → Bool} {V0 : Mem} {p0 : Nat} {rx : Int32} (hm : fJ2_isEmpty PL V0 p0 = some rx) : CP G l yJ2_isEmpty (ws_ yJ2_isEmpty cJ2_isEmpty 1 (some .boolean)) 1 20 [.ref p0] (fun H => pl G PL V0 H) (some (.int rx)) := by
  refine Met.ofW (cc := cJ2_isEmpty) (maxL := 1) (ret := (some .boolean)) (by decide +kernel) rfl ?_
  intro p e s m args below meth c s₁ B hml hv
  obtain ⟨rfl, hW0, hK⟩ := hv
  have hts := atoms_spec (ws := ws_ yJ2_isEmpty cJ2_isEmpty 1 (some .boolean)) B.pre
  have hts : ∀ w ∈ lw_all, w.before _ s = true := fun w h => hts w (List.mem_cons_of_mem _ h)
  have C : Cx G p s m _ meth c RJ2 cJ2_isEmpty 1 (some .boolean) := ⟨B.exec, B.bytes, B.returns, B.notSynchronized, hml, findClass_of_methodNamed B.named, hts, hK⟩
  have hl := lv_entry ([.ref p0]) (n := 1) (Nat.le_of_ble_eq_true rfl)
  rw [lg_entry_eq]
  generalize (lg_sl ([.ref p0]) ++ List.replicate (1 - (lg_sl ([.ref p0])).length) Slot.unset).toArray = ls at hl ⊢
  have hl : lv_has ls 1 [(0, .ref p0)] := hl
  exact w_fJ2_isEmpty C hW0 _ hm ls hl
noncomputable def fJ0_init (p0 : Nat) : Option (Unit) :=
  some ()
set_option maxHeartbeats 4000000 in
theorem w_fJ0_init (C : Cx G p s m args meth c RJ0 cJ0_init 1 none) (hin : meth.name = "<init>") : ∀ (p0 : Nat), fJ0_init p0 = some () → ∀ (ls : Array Slot), lv_has ls 1 [(0, .ref p0)] → W p l e (rmP 1 32) s m args below meth c s.heap [] 0 0 (MQ below (QcP none) args s 0 0 (fun _ => False)) (F0 m 0 ls []) := by
  intro p0 hm ls hl
  obtain ⟨hx, hb, hr, hlk, hml, hown, hts, hK⟩ := id C
  unfold fJ0_init at hm
  refine lv_aload_n (pc := 0) hx hb dJ0_init_0 rfl (lv_at hl 0 rfl) ?_
  refine W.objInit  hx hb hown (hts _ q332) (hts _ q159) (hts _ q160) rfl (by rw [hml]; exact hl.1) rfl dJ0_init_1 (Nat.le_of_ble_eq_true rfl) (Nat.le_of_ble_eq_true rfl) ?_
  refine W.eq (g2 := F0 m 4 ls []) rfl ?_
  exact rk_vretP (pc := 4) hx hb hr hlk rfl dJ0_init_4
set_option maxHeartbeats 4000000 in
theorem ct_J0_init {G : Gv} {l : Launch} {p0 : Nat} (hm : fJ0_init p0 = some ()) : CP G l yJ0_init (ws_ yJ0_init cJ0_init 1 none) 1 32 [.ref p0] (fun H => True) none := by
  refine Met.ofW (cc := cJ0_init) (maxL := 1) (ret := none) (by decide +kernel) rfl ?_
  intro p e s m args below meth c s₁ B hml hv
  obtain ⟨rfl, -, hK⟩ := hv
  have hin : meth.name = "<init>" := (name_of_methodNamed B.named B.method).1
  have hts := atoms_spec (ws := ws_ yJ0_init cJ0_init 1 none) B.pre
  have hts : ∀ w ∈ lw_all, w.before _ s = true := fun w h => hts w (List.mem_cons_of_mem _ h)
  have C : Cx G p s m _ meth c RJ0 cJ0_init 1 none := ⟨B.exec, B.bytes, B.returns, B.notSynchronized, hml, findClass_of_methodNamed B.named, hts, hK⟩
  have hl := lv_entry ([.ref p0]) (n := 1) (Nat.le_of_ble_eq_true rfl)
  rw [lg_entry_eq]
  generalize (lg_sl ([.ref p0]) ++ List.replicate (1 - (lg_sl ([.ref p0])).length) Slot.unset).toArray = ls at hl ⊢
  have hl : lv_has ls 1 [(0, .ref p0)] := hl
  exact w_fJ0_init C hin _ hm ls hl
theorem yn_J2_init : YN yJ2_init 0 := by
  unfold YN
  decide +kernel
theorem lkJ3_1 : LI RJ3 1 yJ2_init cJ2_init 1 := ⟨q383, q384, q121, q385, rfl⟩
noncomputable def fJ3_init (p0 : Nat) : Option (Unit) :=
  ob (fJ2_init p0) fun _ =>
  some ()
set_option maxHeartbeats 4000000 in
theorem w_fJ3_init (C : Cx G p s m args meth c RJ3 cJ3_init 1 none) (hin : meth.name = "<init>") : ∀ (p0 : Nat), fJ3_init p0 = some () → ∀ (ls : Array Slot), lv_has ls 1 [(0, .ref p0)] → W p l e (rmP 2 52) s m args below meth c s.heap [] 0 0 (MQ below (QcP none) args s 0 0 (fun _ => False)) (F0 m 0 ls []) := by
  intro p0 hm ls hl
  obtain ⟨hx, hb, hr, hlk, hml, hown, hts, hK⟩ := id C
  unfold fJ3_init at hm
  refine lv_aload_n (pc := 0) hx hb dJ3_init_0 rfl (lv_at hl 0 rfl) ?_
  obtain ⟨_, hq1, hm⟩ := ob_some hm
  refine rk_PI (pc := 1) (As := []) (rest := []) hx hb hml hown hts hK lkJ3_1 yn_J2_init (ct_J2_init (G := G) (l := l) hq1) ⟨Nat.le_of_ble_eq_true rfl, Nat.le_of_ble_eq_true rfl⟩ trivial rfl rfl hl.1 (Nat.le_of_ble_eq_true rfl) dJ3_init_1 ⟨Nat.zero_le _, Nat.zero_le _⟩ ?_
  refine W.eq (g2 := F0 m 4 ls []) rfl ?_
  exact rk_vretP (pc := 4) hx hb hr hlk rfl dJ3_init_4
set_option maxHeartbeats 4000000 in
theorem ct_J3_init {G : Gv} {l : Launch} {p0 : Nat} (hm : fJ3_init p0 = some ()) : CP G l yJ3_init (ws_ yJ3_init cJ3_init 1 none) 2 52 [.ref p0] (fun H => True) none := by
  refine Met.ofW (cc := cJ3_init) (maxL := 1) (ret := none) (by decide +kernel) rfl ?_
  intro p e s m args below meth c s₁ B hml hv
  obtain ⟨rfl, -, hK⟩ := hv
  have hin : meth.name = "<init>" := (name_of_methodNamed B.named B.method).1
  have hts := atoms_spec (ws := ws_ yJ3_init cJ3_init 1 none) B.pre
  have hts : ∀ w ∈ lw_all, w.before _ s = true := fun w h => hts w (List.mem_cons_of_mem _ h)
  have C : Cx G p s m _ meth c RJ3 cJ3_init 1 none := ⟨B.exec, B.bytes, B.returns, B.notSynchronized, hml, findClass_of_methodNamed B.named, hts, hK⟩
  have hl := lv_entry ([.ref p0]) (n := 1) (Nat.le_of_ble_eq_true rfl)
  rw [lg_entry_eq]
  generalize (lg_sl ([.ref p0]) ++ List.replicate (1 - (lg_sl ([.ref p0])).length) Slot.unset).toArray = ls at hl ⊢
  have hl : lv_has ls 1 [(0, .ref p0)] := hl
  exact w_fJ3_init C hin _ hm ls hl
theorem lkJ12_1 : LI RJ12 1 yJ2_init cJ2_init 1 := ⟨q1522, q384, q121, q385, rfl⟩
noncomputable def fJ12_init (p0 : Nat) : Option (Unit) :=
  ob (fJ2_init p0) fun _ =>
  some ()
set_option maxHeartbeats 4000000 in
theorem w_fJ12_init (C : Cx G p s m args meth c RJ12 cJ12_init 1 none) (hin : meth.name = "<init>") : ∀ (p0 : Nat), fJ12_init p0 = some () → ∀ (ls : Array Slot), lv_has ls 1 [(0, .ref p0)] → W p l e (rmP 2 52) s m args below meth c s.heap [] 0 0 (MQ below (QcP none) args s 0 0 (fun _ => False)) (F0 m 0 ls []) := by
  intro p0 hm ls hl
  obtain ⟨hx, hb, hr, hlk, hml, hown, hts, hK⟩ := id C
  unfold fJ12_init at hm
  refine lv_aload_n (pc := 0) hx hb dJ12_init_0 rfl (lv_at hl 0 rfl) ?_
  obtain ⟨_, hq1, hm⟩ := ob_some hm
  refine rk_PI (pc := 1) (As := []) (rest := []) hx hb hml hown hts hK lkJ12_1 yn_J2_init (ct_J2_init (G := G) (l := l) hq1) ⟨Nat.le_of_ble_eq_true rfl, Nat.le_of_ble_eq_true rfl⟩ trivial rfl rfl hl.1 (Nat.le_of_ble_eq_true rfl) dJ12_init_1 ⟨Nat.zero_le _, Nat.zero_le _⟩ ?_
  refine W.eq (g2 := F0 m 4 ls []) rfl ?_
  exact rk_vretP (pc := 4) hx hb hr hlk rfl dJ12_init_4
set_option maxHeartbeats 4000000 in
theorem ct_J12_init {G : Gv} {l : Launch} {p0 : Nat} (hm : fJ12_init p0 = some ()) : CP G l yJ12_init (ws_ yJ12_init cJ12_init 1 none) 2 52 [.ref p0] (fun H => True) none := by
  refine Met.ofW (cc := cJ12_init) (maxL := 1) (ret := none) (by decide +kernel) rfl ?_
  intro p e s m args below meth c s₁ B hml hv
  obtain ⟨rfl, -, hK⟩ := hv
  have hin : meth.name = "<init>" := (name_of_methodNamed B.named B.method).1
  have hts := atoms_spec (ws := ws_ yJ12_init cJ12_init 1 none) B.pre
  have hts : ∀ w ∈ lw_all, w.before _ s = true := fun w h => hts w (List.mem_cons_of_mem _ h)
  have C : Cx G p s m _ meth c RJ12 cJ12_init 1 none := ⟨B.exec, B.bytes, B.returns, B.notSynchronized, hml, findClass_of_methodNamed B.named, hts, hK⟩
  have hl := lv_entry ([.ref p0]) (n := 1) (Nat.le_of_ble_eq_true rfl)
  rw [lg_entry_eq]
  generalize (lg_sl ([.ref p0]) ++ List.replicate (1 - (lg_sl ([.ref p0])).length) Slot.unset).toArray = ls at hl ⊢
  have hl : lv_has ls 1 [(0, .ref p0)] := hl
  exact w_fJ12_init C hin _ hm ls hl
noncomputable def fJ10_requireNonNull (p0 : Nat) : Option (Option Nat) :=
  some (some p0)
set_option maxHeartbeats 4000000 in
theorem w_fJ10_requireNonNull (C : Cx G p s m args meth c RJ10 cJ10_requireNonNull 1 (some (.object "java/lang/Object"))) {rx : Option Nat} : ∀ (p0 : Nat), fJ10_requireNonNull p0 = some rx → ∀ (ls : Array Slot), lv_has ls 1 [(0, .ref p0)] → W p l e (rmP 0 0) s m args below meth c s.heap [] 0 0 (MQ below (QcP (some (va_rf rx))) args s 0 0 (fun _ => False)) (F0 m 0 ls []) := by
  intro p0 hm ls hl
  obtain ⟨hx, hb, hr, hlk, hml, hown, hts, hK⟩ := id C
  unfold fJ10_requireNonNull at hm
  refine lv_aload_n (pc := 0) hx hb dJ10_requireNonNull_0 rfl (lv_at hl 0 rfl) ?_
  refine lv_ifnonnull (pc := 1) (tgt := 12) hx hb dJ10_requireNonNull_1 (by decide) ?_
  refine lv_aload_n (pc := 12) hx hb dJ10_requireNonNull_12 rfl (lv_at hl 0 rfl) ?_
  have e9 := rs1 hm
  subst e9
  exact rp_aretP (x := (some p0)) (pc := 13) hx hb hr (Or.inl ⟨_, rfl⟩) hlk rfl dJ10_requireNonNull_13
set_option maxHeartbeats 4000000 in
theorem ct_J10_requireNonNull {G : Gv} {l : Launch} {p0 : Nat} {rx : Option Nat} (hm : fJ10_requireNonNull p0 = some rx) : CP G l yJ10_requireNonNull (ws_ yJ10_requireNonNull cJ10_requireNonNull 1 (some (.object "java/lang/Object"))) 0 0 [.ref p0] (fun H => True) (some (va_rf rx)) := by
  refine Met.ofW (cc := cJ10_requireNonNull) (maxL := 1) (ret := (some (.object "java/lang/Object"))) (by decide +kernel) rfl ?_
  intro p e s m args below meth c s₁ B hml hv
  obtain ⟨rfl, -, hK⟩ := hv
  have hts := atoms_spec (ws := ws_ yJ10_requireNonNull cJ10_requireNonNull 1 (some (.object "java/lang/Object"))) B.pre
  have hts : ∀ w ∈ lw_all, w.before _ s = true := fun w h => hts w (List.mem_cons_of_mem _ h)
  have C : Cx G p s m _ meth c RJ10 cJ10_requireNonNull 1 (some (.object "java/lang/Object")) := ⟨B.exec, B.bytes, B.returns, B.notSynchronized, hml, findClass_of_methodNamed B.named, hts, hK⟩
  have hl := lv_entry ([.ref p0]) (n := 1) (Nat.le_of_ble_eq_true rfl)
  rw [lg_entry_eq]
  generalize (lg_sl ([.ref p0]) ++ List.replicate (1 - (lg_sl ([.ref p0])).length) Slot.unset).toArray = ls at hl ⊢
  have hl : lv_has ls 1 [(0, .ref p0)] := hl
  exact w_fJ10_requireNonNull C _ hm ls hl
theorem flJ4_93 : FL RJ4 93 17 3 RJ4 TJ4 4 := ⟨in_J4, rfl, by decide, q392⟩
theorem flJ4_17 : FL RJ4 17 17 0 RJ4 TJ4 4 := ⟨in_J4, rfl, by decide, q389⟩
noncomputable def fJ4_clear_22 (PL : Nat → Bool) (k22 : Mem → Nat → Option Nat → Int32 → Int32 → Option (Mem)) (v0 : Mem) (p0 : Nat) (o1 : Option Nat) (i2 : Int32) (i3 : Int32) : Option (Mem) :=
  if i3 ≤ i2 then (
  gb (kd PL v0 p0 17) (
  lm (sI v0 p0 1 (0 : Int32)) fun v0_18 =>
  some v0_18))
  else (
  ob o1 fun pa27 =>
  gb (ka PL v0 pa27 44) (
  gb (inR i2 (gI v0 pa27 98).toNatClampNeg) (
  lm (sR v0 pa27 i2.toNatClampNeg none) fun v0_32 =>
  k22 v0_32 p0 (some pa27) (i2 + (1 : Int32)) i3)))
noncomputable def fJ4_clear (PL : Nat → Bool) (v0 : Mem) (p0 : Nat) : Option (Mem) :=
  gb (kd PL v0 p0 17) (
  gb (kd PL v0 p0 17) (
  lm (sI v0 p0 3 ((gI v0 p0 3) + (1 : Int32))) fun v0_3 =>
  gb (kd PL v0_3 p0 17) (
  lo (gR v0_3 p0 0) fun oa13 =>
  gb (kd PL v0_3 p0 17) (
  lq5 (fJ4_clear_22 PL) FU v0_3 p0 oa13 (0 : Int32) (gI v0_3 p0 1)))))
set_option maxHeartbeats 4000000 in
theorem w_fJ4_clear_22 (C : Cx G p s m args meth c RJ4 cJ4_clear 4 none) {PL : Nat → Bool} {vP0 : Mem} {rw0 : Mem} {k22 : Mem → Nat → Option Nat → Int32 → Int32 → Option (Mem)} (hk22 : ∀ (v0 : Mem) (p0 : Nat) (o1 : Option Nat) (i2 : Int32) (i3 : Int32), k22 v0 p0 o1 i2 i3 = some rw0 → ∀ (H : Heap) (locs : List Loc) (ls : Array Slot), pl G PL v0 H → va_S (FA (fP PL vP0) s.heap.size) s.heap H locs → H.size = s.heap.size → KM vP0 v0 s.heap.size → lv_has ls 4 [(0, .ref p0), (1, va_rf o1), (2, .int i2), (3, .int i3)] → W p l e (rmT 0 0 0 0) s m args below meth c H locs 0 0 (MQ below (QcT (FA (fP PL vP0) s.heap.size) (fun ov H => ov = none ∧ pl G PL rw0 H ∧ H.size = s.heap.size ∧ KM vP0 rw0 s.heap.size)) args s 0 0 (FA (fP PL vP0) s.heap.size)) (F0 m 22 ls [])) : ∀ (v0 : Mem) (p0 : Nat) (o1 : Option Nat) (i2 : Int32) (i3 : Int32), fJ4_clear_22 PL k22 v0 p0 o1 i2 i3 = some rw0 → ∀ (H : Heap) (locs : List Loc) (ls : Array Slot), pl G PL v0 H → va_S (FA (fP PL vP0) s.heap.size) s.heap H locs → H.size = s.heap.size → KM vP0 v0 s.heap.size → lv_has ls 4 [(0, .ref p0), (1, va_rf o1), (2, .int i2), (3, .int i3)] → W p l e (rmT 0 0 0 0) s m args below meth c H locs 0 0 (MQ below (QcT (FA (fP PL vP0) s.heap.size) (fun ov H => ov = none ∧ pl G PL rw0 H ∧ H.size = s.heap.size ∧ KM vP0 rw0 s.heap.size)) args s 0 0 (FA (fP PL vP0) s.heap.size)) (F0 m 22 ls []) := by
  intro v0 p0 o1 i2 i3 hm H locs ls hW0 hS hz hKM hl
  obtain ⟨hx, hb, hr, hlk, hml, hown, hts, hK⟩ := id C
  unfold fJ4_clear_22 at hm
  refine lv_iload_n (pc := 22) hx hb dJ4_clear_22 rfl (lv_at hl 2 rfl) ?_
  refine lv_iload_n (pc := 23) hx hb dJ4_clear_23 rfl (lv_at hl 3 rfl) ?_
  refine lv_icmp_ge (pc := 24) (tgt := 37) hx hb dJ4_clear_24 (by decide) (fun c16 => ?_) (fun c16 => ?_)
  · have hm := ite_t c16 hm
    refine lv_aload_n (pc := 37) hx hb dJ4_clear_37 rfl (lv_at hl 0 rfl) ?_
    refine lv_iconst (pc := 38) (v := (0 : Int32)) hx hb dJ4_clear_38 (by decide) ?_
    obtain ⟨hg17, hm⟩ := gb_some hm
    refine rp_put (pc := 39) (q := p0) hx hb hts hown hK hW0 hS flJ4_58 ft_J4 (kd_A hKM hg17 (by decide)) (shP_17 (kd_PL hg17) (kd_k hg17)) rfl (x := .int (0 : Int32)) rfl rfl (Nat.le_of_ble_eq_true rfl) (sI v0 p0 1 (0 : Int32)) sI_ne (by rw [sI_eq]; exact shP_17 (kd_PL hg17) (kd_k hg17)) dJ4_clear_39 (fun H19 locs20 hW21 hS22 hz23 hkp24 => ?_)
    have hKM25 := KM.sI (o := p0) (j := 1) (x := (0 : Int32)) hKM (by decide)
    obtain ⟨v0_18, he9, hm⟩ := lm_some hm
    rw [he9] at hW21 hKM25
    have hz26 := hz23.trans hz
    have e9 := rs1 hm
    subst e9
    exact rk_vret (pc := 42) hx hb hr hlk hS22 ⟨rfl, hW21, hz26, hKM25⟩ dJ4_clear_42
  · have hm := ite_f c16 hm
    refine lv_aload_nO (pc := 27) hx hb dJ4_clear_27 rfl (lv_at hl 1 rfl) ?_
    refine lv_iload_n (pc := 28) hx hb dJ4_clear_28 rfl (lv_at hl 2 rfl) ?_
    refine lv_null (pc := 29) hx hb dJ4_clear_29 ?_
    obtain ⟨pa27, he28, hm29⟩ := ob_some hm
    subst he28
    have hm := hm29
    obtain ⟨hg30, hm⟩ := gb_some hm
    obtain ⟨hg31, hm⟩ := gb_some hm
    refine rp_aastN (pc := 30) hx hb hK hW0 hS (kd_A hKM (ka_kd hg30) (by decide)) hg30 hg31 dJ4_clear_30 (fun H33 locs34 hW35 hS36 hz37 hkp38 => ?_)
    have hKM39 := KM.sR (o := pa27) (j := i2.toNatClampNeg) (x := none) hKM
    obtain ⟨v0_32, he9, hm⟩ := lm_some hm
    rw [he9] at hW35 hKM39
    have hz40 := hz37.trans hz
    refine lv_iinc (pc := 31) (v := (i2 + (1 : Int32))) (lv' := [(2, .int (i2 + (1 : Int32))), (0, .ref p0), (1, .ref pa27), (3, .int i3)]) hx hb dJ4_clear_31 hl (k := 2) rfl rfl (by decide) rfl (fun ls hl => ?_)
    refine lv_goto (pc := 34) (tgt := 22) hx hb dJ4_clear_34 (by decide) ?_
    exact hk22 v0_32 p0 (some pa27) (i2 + (1 : Int32)) i3 hm H33 locs34 ls hW35 hS36 hz40 hKM39 (lv_sub hl [1, 2, 0, 3] rfl)
theorem w_fJ4_clear_22_l (C : Cx G p s m args meth c RJ4 cJ4_clear 4 none) {PL : Nat → Bool} {vP0 : Mem} {rw0 : Mem} : ∀ (n : Nat) (v0 : Mem) (p0 : Nat) (o1 : Option Nat) (i2 : Int32) (i3 : Int32), lq5 (fJ4_clear_22 PL) n v0 p0 o1 i2 i3 = some rw0 → ∀ (H : Heap) (locs : List Loc) (ls : Array Slot), pl G PL v0 H → va_S (FA (fP PL vP0) s.heap.size) s.heap H locs → H.size = s.heap.size → KM vP0 v0 s.heap.size → lv_has ls 4 [(0, .ref p0), (1, va_rf o1), (2, .int i2), (3, .int i3)] → W p l e (rmT 0 0 0 0) s m args below meth c H locs 0 0 (MQ below (QcT (FA (fP PL vP0) s.heap.size) (fun ov H => ov = none ∧ pl G PL rw0 H ∧ H.size = s.heap.size ∧ KM vP0 rw0 s.heap.size)) args s 0 0 (FA (fP PL vP0) s.heap.size)) (F0 m 22 ls []) := by
  intro n
  induction n with
  | zero => intro v0 p0 o1 i2 i3 hm; exact (lq5_0 hm).elim
  | succ n ih => intro v0 p0 o1 i2 i3 hm; exact w_fJ4_clear_22 C ih v0 p0 o1 i2 i3 (lq5_s hm)
set_option maxHeartbeats 4000000 in
theorem w_fJ4_clear (C : Cx G p s m args meth c RJ4 cJ4_clear 4 none) {PL : Nat → Bool} {vP0 : Mem} {rw0 : Mem} : ∀ (v0 : Mem) (p0 : Nat), fJ4_clear PL v0 p0 = some rw0 → ∀ (H : Heap) (locs : List Loc) (ls : Array Slot), pl G PL v0 H → va_S (FA (fP PL vP0) s.heap.size) s.heap H locs → H.size = s.heap.size → KM vP0 v0 s.heap.size → lv_has ls 4 [(0, .ref p0)] → W p l e (rmT 0 0 0 0) s m args below meth c H locs 0 0 (MQ below (QcT (FA (fP PL vP0) s.heap.size) (fun ov H => ov = none ∧ pl G PL rw0 H ∧ H.size = s.heap.size ∧ KM vP0 rw0 s.heap.size)) args s 0 0 (FA (fP PL vP0) s.heap.size)) (F0 m 0 ls []) := by
  intro v0 p0 hm H locs ls hW0 hS hz hKM hl
  obtain ⟨hx, hb, hr, hlk, hml, hown, hts, hK⟩ := id C
  unfold fJ4_clear at hm
  refine lv_aload_n (pc := 0) hx hb dJ4_clear_0 rfl (lv_at hl 0 rfl) ?_
  refine lv_dup (pc := 1) hx hb dJ4_clear_1 rfl ?_
  obtain ⟨hg1, hm⟩ := gb_some hm
  refine rk_get (pc := 2) hx hb hts hown hK (pl_rg hW0) flJ4_93 p0 (Nat.lt_succ_self _) (Nat.zero_add _).symm (shP_17 (kd_PL hg1) (kd_k hg1)) (x := .int (gI v0 p0 3)) rfl dJ4_clear_2 ?_
  refine lv_iconst (pc := 5) (v := (1 : Int32)) hx hb dJ4_clear_5 (by decide) ?_
  refine lv_iadd (pc := 6) hx hb dJ4_clear_6 ?_
  obtain ⟨hg2, hm⟩ := gb_some hm
  refine rp_put (pc := 7) (q := p0) hx hb hts hown hK hW0 hS flJ4_93 ft_J4 (kd_A hKM hg2 (by decide)) (shP_17 (kd_PL hg2) (kd_k hg2)) rfl (x := .int ((gI v0 p0 3) + (1 : Int32))) rfl rfl (Nat.le_of_ble_eq_true rfl) (sI v0 p0 3 ((gI v0 p0 3) + (1 : Int32))) sI_ne (by rw [sI_eq]; exact shP_17 (kd_PL hg2) (kd_k hg2)) dJ4_clear_7 (fun H4 locs5 hW6 hS7 hz8 hkp9 => ?_)
  have hKM10 := KM.sI (o := p0) (j := 3) (x := ((gI v0 p0 3) + (1 : Int32))) hKM (by decide)
  obtain ⟨v0_3, he9, hm⟩ := lm_some hm
  rw [he9] at hW6 hKM10
  have hz11 := hz8.trans hz
  refine lv_aload_n (pc := 10) hx hb dJ4_clear_10 rfl (lv_at hl 0 rfl) ?_
  obtain ⟨hg12, hm⟩ := gb_some hm
  obtain ⟨oa13, he14, hm⟩ := lo_some hm
  refine rk_get (pc := 11) hx hb hts hown hK (pl_rg hW6) flJ4_17 p0 (Nat.lt_succ_self _) (Nat.zero_add _).symm (shP_17 (kd_PL hg12) (kd_k hg12)) (x := va_rf oa13) (congrArg (fun z => some (va_rf z)) he14) dJ4_clear_11 ?_
  refine lv_astore_nO (pc := 14) (lv' := [(1, va_rf oa13), (0, .ref p0)]) hx hb dJ4_clear_14 rfl hl (by decide) rfl (fun ls hl => ?_)
  refine lv_iconst (pc := 15) (v := (0 : Int32)) hx hb dJ4_clear_15 (by decide) ?_
  refine lv_istore_n (pc := 16) (lv' := [(2, .int (0 : Int32)), (1, va_rf oa13), (0, .ref p0)]) hx hb dJ4_clear_16 rfl hl (by decide) (by simp [List.filter, cat_rf]) (fun ls hl => ?_)
  refine lv_aload_n (pc := 17) hx hb dJ4_clear_17 rfl (lv_at hl 2 rfl) ?_
  obtain ⟨hg15, hm⟩ := gb_some hm
  refine rk_get (pc := 18) hx hb hts hown hK (pl_rg hW6) flJ4_58 p0 (Nat.lt_succ_self _) (Nat.zero_add _).symm (shP_17 (kd_PL hg15) (kd_k hg15)) (x := .int (gI v0_3 p0 1)) rfl dJ4_clear_18 ?_
  refine lv_istore_n (pc := 21) (lv' := [(3, .int (gI v0_3 p0 1)), (2, .int (0 : Int32)), (1, va_rf oa13), (0, .ref p0)]) hx hb dJ4_clear_21 rfl hl (by decide) rfl (fun ls hl => ?_)
  exact (w_fJ4_clear_22_l C FU) v0_3 p0 oa13 (0 : Int32) (gI v0_3 p0 1) hm H4 locs5 ls hW6 hS7 hz11 hKM10 (lv_sub hl [3, 2, 1, 0] rfl)
set_option maxHeartbeats 4000000 in
theorem ct_J4_clear {G : Gv} {l : Launch} {PL : Nat → Bool} {v0 : Mem} {p0 : Nat} {rw0 : Mem} {sz : Nat} (hm : fJ4_clear PL v0 p0 = some rw0) : CT G l yJ4_clear (ws_ yJ4_clear cJ4_clear 4 none) 0 0 0 0 [.ref p0] (fP PL v0) sz (fun H => pl G PL v0 H) (fun ov H => ov = none ∧ pl G PL rw0 H ∧ H.size = sz ∧ KM v0 rw0 sz) := by
  refine Met.ofW (cc := cJ4_clear) (maxL := 4) (ret := none) (by decide +kernel) rfl ?_
  intro p e s m args below meth c s₁ B hml hv
  obtain ⟨rfl, ⟨hz, hW0⟩, hK⟩ := hv
  subst hz
  have hts := atoms_spec (ws := ws_ yJ4_clear cJ4_clear 4 none) B.pre
  have hts : ∀ w ∈ lw_all, w.before _ s = true := fun w h => hts w (List.mem_cons_of_mem _ h)
  have C : Cx G p s m _ meth c RJ4 cJ4_clear 4 none := ⟨B.exec, B.bytes, B.returns, B.notSynchronized, hml, findClass_of_methodNamed B.named, hts, hK⟩
  have hl := lv_entry ([.ref p0]) (n := 4) (Nat.le_of_ble_eq_true rfl)
  rw [lg_entry_eq]
  generalize (lg_sl ([.ref p0]) ++ List.replicate (4 - (lg_sl ([.ref p0])).length) Slot.unset).toArray = ls at hl ⊢
  have hl : lv_has ls 4 [(0, .ref p0)] := hl
  exact w_fJ4_clear C _ _ hm s.heap [] ls hW0 va_S.rf rfl KM.rf hl
noncomputable def fJ4_peek (PL : Nat → Bool) (V0 : Mem) (p0 : Nat) : Option (Option Nat) :=
  gb (kd PL V0 p0 17) (
  lo (gR V0 p0 0) fun oa2 =>
  ob oa2 fun pa4 =>
  gb (ka PL V0 pa4 44) (
  gb (inR (0 : Int32) (gI V0 pa4 98).toNatClampNeg) (
  lo (gR V0 pa4 (0 : Int32).toNatClampNeg) fun oa9 =>
  some oa9)))
set_option maxHeartbeats 4000000 in
theorem w_fJ4_peek (C : Cx G p s m args meth c RJ4 cJ4_peek 1 (some (.object "java/lang/Object"))) {PL : Nat → Bool} {V0 : Mem} {rx : Option Nat} (hW0 : pl G PL V0 s.heap) : ∀ (p0 : Nat), fJ4_peek PL V0 p0 = some rx → ∀ (ls : Array Slot), lv_has ls 1 [(0, .ref p0)] → W p l e (rmP 0 0) s m args below meth c s.heap [] 0 0 (MQ below (QcP (some (va_rf rx))) args s 0 0 (fun _ => False)) (F0 m 0 ls []) := by
  intro p0 hm ls hl
  obtain ⟨hx, hb, hr, hlk, hml, hown, hts, hK⟩ := id C
  unfold fJ4_peek at hm
  refine lv_aload_n (pc := 0) hx hb dJ4_peek_0 rfl (lv_at hl 0 rfl) ?_
  obtain ⟨hg1, hm⟩ := gb_some hm
  obtain ⟨oa2, he3, hm⟩ := lo_some hm
  refine rk_get (pc := 1) hx hb hts hown hK (pl_rg hW0) flJ4_17 p0 (Nat.lt_succ_self _) (Nat.zero_add _).symm (shP_17 (kd_PL hg1) (kd_k hg1)) (x := va_rf oa2) (congrArg (fun z => some (va_rf z)) he3) dJ4_peek_1 ?_
  refine lv_iconst (pc := 4) (v := (0 : Int32)) hx hb dJ4_peek_4 (by decide) ?_
  obtain ⟨pa4, he5, hm6⟩ := ob_some hm
  subst he5
  have hm := hm6
  obtain ⟨hg7, hm⟩ := gb_some hm
  obtain ⟨hg8, hm⟩ := gb_some hm
  obtain ⟨oa9, he10, hm⟩ := lo_some hm
  refine rp_aald (pc := 5) hx hb hK hW0 hg7 hg8 he10 dJ4_peek_5 ?_
  have e9 := rs1 hm
  subst e9
  exact rp_aretP (x := oa9) (pc := 6) hx hb hr (Or.inl ⟨_, rfl⟩) hlk rfl dJ4_peek_6
set_option maxHeartbeats 4000000 in
theorem ct_J4_peek {G : Gv} {l : Launch} {PL : Nat → Bool} {V0 : Mem} {p0 : Nat} {rx : Option Nat} (hm : fJ4_peek PL V0 p0 = some rx) : CP G l yJ4_peek (ws_ yJ4_peek cJ4_peek 1 (some (.object "java/lang/Object"))) 0 0 [.ref p0] (fun H => pl G PL V0 H) (some (va_rf rx)) := by
  refine Met.ofW (cc := cJ4_peek) (maxL := 1) (ret := (some (.object "java/lang/Object"))) (by decide +kernel) rfl ?_
  intro p e s m args below meth c s₁ B hml hv
  obtain ⟨rfl, hW0, hK⟩ := hv
  have hts := atoms_spec (ws := ws_ yJ4_peek cJ4_peek 1 (some (.object "java/lang/Object"))) B.pre
  have hts : ∀ w ∈ lw_all, w.before _ s = true := fun w h => hts w (List.mem_cons_of_mem _ h)
  have C : Cx G p s m _ meth c RJ4 cJ4_peek 1 (some (.object "java/lang/Object")) := ⟨B.exec, B.bytes, B.returns, B.notSynchronized, hml, findClass_of_methodNamed B.named, hts, hK⟩
  have hl := lv_entry ([.ref p0]) (n := 1) (Nat.le_of_ble_eq_true rfl)
  rw [lg_entry_eq]
  generalize (lg_sl ([.ref p0]) ++ List.replicate (1 - (lg_sl ([.ref p0])).length) Slot.unset).toArray = ls at hl ⊢
  have hl : lv_has ls 1 [(0, .ref p0)] := hl
  exact w_fJ4_peek C hW0 _ hm ls hl
theorem df_J11 (fs : List Value) (h : fs = [.null, .null, .null, .null, .null, .int 0]) : ∀ j, j < 6 → defaultValue (tyJ11 j) = vp_V fs j := by
  subst h
  intro j hj
  match j, hj with
  | 0, _ => rfl
  | 1, _ => rfl
  | 2, _ => rfl
  | 3, _ => rfl
  | 4, _ => rfl
  | 5, _ => rfl
  | n + 6, h => exact absurd h (by omega)
theorem ft_J11 : FT TJ11 6 tyJ11 := ⟨tyJ11_ok, nmJ11⟩
theorem flJ11_9 : FL RJ11 9 18 5 RJ11 TJ11 6 := ⟨in_J11, rfl, by decide, q1412⟩
theorem flJ11_15 : FL RJ11 15 18 0 RJ11 TJ11 6 := ⟨in_J11, rfl, by decide, q1403⟩
theorem flJ11_19 : FL RJ11 19 18 1 RJ11 TJ11 6 := ⟨in_J11, rfl, by decide, q1406⟩
theorem flJ11_22 : FL RJ11 22 18 4 RJ11 TJ11 6 := ⟨in_J11, rfl, by decide, q1410⟩
noncomputable def fJ11_init (PL : Nat → Bool) (v0 : Mem) (p0 : Nat) (p1 : Nat) (p2 : Nat) (o3 : Option Nat) : Option (Mem) :=
  gb (kd PL v0 p0 18) (
  lm (sI v0 p0 5 (1 : Int32)) fun v0_2 =>
  gb (kd PL v0_2 p0 18) (
  lm (sR v0_2 p0 0 (some p1)) fun v0_12 =>
  gb (kd PL v0_12 p0 18) (
  lm (sR v0_12 p0 1 (some p2)) fun v0_22 =>
  gb (kd PL v0_22 p0 18) (
  lm (sR v0_22 p0 4 o3) fun v0_32 =>
  some v0_32))))
set_option maxHeartbeats 4000000 in
theorem w_fJ11_init (C : Cx G p s m args meth c RJ11 cJ11_init 4 none) {PL : Nat → Bool} {vP0 : Mem} {rw0 : Mem} (hin : meth.name = "<init>") : ∀ (v0 : Mem) (p0 : Nat) (p1 : Nat) (p2 : Nat) (o3 : Option Nat), fJ11_init PL v0 p0 p1 p2 o3 = some rw0 → ∀ (H : Heap) (locs : List Loc) (ls : Array Slot), pl G PL v0 H → va_S (FA (fP PL vP0) s.heap.size) s.heap H locs → H.size = s.heap.size → KM vP0 v0 s.heap.size → lv_has ls 4 [(0, .ref p0), (1, .ref p1), (2, .ref p2), (3, va_rf o3)] → W p l e (rmT 1 0 0 32) s m args below meth c H locs 0 0 (MQ below (QcT (FA (fP PL vP0) s.heap.size) (fun ov H => ov = none ∧ pl G PL rw0 H ∧ H.size = s.heap.size ∧ KM vP0 rw0 s.heap.size)) args s 0 0 (FA (fP PL vP0) s.heap.size)) (F0 m 0 ls []) := by
  intro v0 p0 p1 p2 o3 hm H locs ls hW0 hS hz hKM hl
  obtain ⟨hx, hb, hr, hlk, hml, hown, hts, hK⟩ := id C
  unfold fJ11_init at hm
  refine lv_aload_n (pc := 0) hx hb dJ11_init_0 rfl (lv_at hl 0 rfl) ?_
  refine W.objInit  hx hb hown (hts _ q1402) (hts _ q159) (hts _ q160) rfl (by rw [hml]; exact hl.1) rfl dJ11_init_1 (Nat.le_of_ble_eq_true rfl) (Nat.le_of_ble_eq_true rfl) ?_
  refine W.eq (g2 := F0 m 4 ls []) rfl ?_
  refine lv_aload_n (pc := 4) hx hb dJ11_init_4 rfl (lv_at hl 0 rfl) ?_
  refine lv_iconst (pc := 5) (v := (1 : Int32)) hx hb dJ11_init_5 (by decide) ?_
  obtain ⟨hg1, hm⟩ := gb_some hm
  refine rp_put (pc := 6) (q := p0) hx hb hts hown hK hW0 hS flJ11_9 ft_J11 (kd_A hKM hg1 (by decide)) (shP_18 (kd_PL hg1) (kd_k hg1)) rfl (x := .int (1 : Int32)) rfl rfl (Nat.le_of_ble_eq_true rfl) (sI v0 p0 5 (1 : Int32)) sI_ne (by rw [sI_eq]; exact shP_18 (kd_PL hg1) (kd_k hg1)) dJ11_init_6 (fun H3 locs4 hW5 hS6 hz7 hkp8 => ?_)
  have hKM9 := KM.sI (o := p0) (j := 5) (x := (1 : Int32)) hKM (by decide)
  obtain ⟨v0_2, he9, hm⟩ := lm_some hm
  rw [he9] at hW5 hKM9
  have hz10 := hz7.trans hz
  refine lv_aload_n (pc := 9) hx hb dJ11_init_9 rfl (lv_at hl 0 rfl) ?_
  refine lv_aload_n (pc := 10) hx hb dJ11_init_10 rfl (lv_at hl 1 rfl) ?_
  obtain ⟨hg11, hm⟩ := gb_some hm
  refine rp_put (pc := 11) (q := p0) hx hb hts hown hK hW5 hS6 flJ11_15 ft_J11 (kd_A hKM9 hg11 (by decide)) (shP_18 (kd_PL hg11) (kd_k hg11)) rfl (x := va_rf (some p1)) (rf_nar _ rfl (some p1)) (rf_fit _ rfl (some p1)) (Nat.le_of_ble_eq_true rfl) (sR v0_2 p0 0 (some p1)) sR_ne (by rw [sR_eq]; exact shP_18 (kd_PL hg11) (kd_k hg11)) dJ11_init_11 (fun H13 locs14 hW15 hS16 hz17 hkp18 => ?_)
  have hKM19 := KM.sR (o := p0) (j := 0) (x := (some p1)) hKM9
  obtain ⟨v0_12, he9, hm⟩ := lm_some hm
  rw [he9] at hW15 hKM19
  have hz20 := hz17.trans hz10
  refine lv_aload_n (pc := 14) hx hb dJ11_init_14 rfl (lv_at hl 0 rfl) ?_
  refine lv_aload_n (pc := 15) hx hb dJ11_init_15 rfl (lv_at hl 2 rfl) ?_
  obtain ⟨hg21, hm⟩ := gb_some hm
  refine rp_put (pc := 16) (q := p0) hx hb hts hown hK hW15 hS16 flJ11_19 ft_J11 (kd_A hKM19 hg21 (by decide)) (shP_18 (kd_PL hg21) (kd_k hg21)) rfl (x := va_rf (some p2)) (rf_nar _ rfl (some p2)) (rf_fit _ rfl (some p2)) (Nat.le_of_ble_eq_true rfl) (sR v0_12 p0 1 (some p2)) sR_ne (by rw [sR_eq]; exact shP_18 (kd_PL hg21) (kd_k hg21)) dJ11_init_16 (fun H23 locs24 hW25 hS26 hz27 hkp28 => ?_)
  have hKM29 := KM.sR (o := p0) (j := 1) (x := (some p2)) hKM19
  obtain ⟨v0_22, he9, hm⟩ := lm_some hm
  rw [he9] at hW25 hKM29
  have hz30 := hz27.trans hz20
  refine lv_aload_n (pc := 19) hx hb dJ11_init_19 rfl (lv_at hl 0 rfl) ?_
  refine lv_aload_nO (pc := 20) hx hb dJ11_init_20 rfl (lv_at hl 3 rfl) ?_
  obtain ⟨hg31, hm⟩ := gb_some hm
  refine rp_put (pc := 21) (q := p0) hx hb hts hown hK hW25 hS26 flJ11_22 ft_J11 (kd_A hKM29 hg31 (by decide)) (shP_18 (kd_PL hg31) (kd_k hg31)) rfl (x := va_rf o3) (rf_nar _ rfl o3) (rf_fit _ rfl o3) (Nat.le_of_ble_eq_true rfl) (sR v0_22 p0 4 o3) sR_ne (by rw [sR_eq]; exact shP_18 (kd_PL hg31) (kd_k hg31)) dJ11_init_21 (fun H33 locs34 hW35 hS36 hz37 hkp38 => ?_)
  have hKM39 := KM.sR (o := p0) (j := 4) (x := o3) hKM29
  obtain ⟨v0_32, he9, hm⟩ := lm_some hm
  rw [he9] at hW35 hKM39
  have hz40 := hz37.trans hz30
  have e9 := rs1 hm
  subst e9
  exact rk_vret (pc := 24) hx hb hr hlk hS36 ⟨rfl, hW35, hz40, hKM39⟩ dJ11_init_24
set_option maxHeartbeats 4000000 in
theorem ct_J11_init {G : Gv} {l : Launch} {PL : Nat → Bool} {v0 : Mem} {p0 : Nat} {p1 : Nat} {p2 : Nat} {o3 : Option Nat} {rw0 : Mem} {sz : Nat} (hm : fJ11_init PL v0 p0 p1 p2 o3 = some rw0) : CT G l yJ11_init (ws_ yJ11_init cJ11_init 4 none) 1 0 0 32 [.ref p0, .ref p1, .ref p2, va_rf o3] (fP PL v0) sz (fun H => pl G PL v0 H) (fun ov H => ov = none ∧ pl G PL rw0 H ∧ H.size = sz ∧ KM v0 rw0 sz) := by
  cases o3 with
  | none =>
    refine Met.ofW (cc := cJ11_init) (maxL := 4) (ret := none) (by decide +kernel) rfl ?_
    intro p e s m args below meth c s₁ B hml hv
    obtain ⟨rfl, ⟨hz, hW0⟩, hK⟩ := hv
    subst hz
    have hin : meth.name = "<init>" := (name_of_methodNamed B.named B.method).1
    have hts := atoms_spec (ws := ws_ yJ11_init cJ11_init 4 none) B.pre
    have hts : ∀ w ∈ lw_all, w.before _ s = true := fun w h => hts w (List.mem_cons_of_mem _ h)
    have C : Cx G p s m _ meth c RJ11 cJ11_init 4 none := ⟨B.exec, B.bytes, B.returns, B.notSynchronized, hml, findClass_of_methodNamed B.named, hts, hK⟩
    have hl := lv_entry ([.ref p0, .ref p1, .ref p2, va_rf none]) (n := 4) (Nat.le_of_ble_eq_true rfl)
    rw [lg_entry_eq]
    generalize (lg_sl ([.ref p0, .ref p1, .ref p2, va_rf none]) ++ List.replicate (4 - (lg_sl ([.ref p0, .ref p1, .ref p2, va_rf none])).length) Slot.unset).toArray = ls at hl ⊢
    have hl : lv_has ls 4 [(0, .ref p0), (1, .ref p1), (2, .ref p2), (3, va_rf none)] := hl
    exact w_fJ11_init C hin _ _ _ _ _ hm s.heap [] ls hW0 va_S.rf rfl KM.rf hl
  | some ao3 =>
    refine Met.ofW (cc := cJ11_init) (maxL := 4) (ret := none) (by decide +kernel) rfl ?_
    intro p e s m args below meth c s₁ B hml hv
    obtain ⟨rfl, ⟨hz, hW0⟩, hK⟩ := hv
    subst hz
    have hin : meth.name = "<init>" := (name_of_methodNamed B.named B.method).1
    have hts := atoms_spec (ws := ws_ yJ11_init cJ11_init 4 none) B.pre
    have hts : ∀ w ∈ lw_all, w.before _ s = true := fun w h => hts w (List.mem_cons_of_mem _ h)
    have C : Cx G p s m _ meth c RJ11 cJ11_init 4 none := ⟨B.exec, B.bytes, B.returns, B.notSynchronized, hml, findClass_of_methodNamed B.named, hts, hK⟩
    have hl := lv_entry ([.ref p0, .ref p1, .ref p2, va_rf (some ao3)]) (n := 4) (Nat.le_of_ble_eq_true rfl)
    rw [lg_entry_eq]
    generalize (lg_sl ([.ref p0, .ref p1, .ref p2, va_rf (some ao3)]) ++ List.replicate (4 - (lg_sl ([.ref p0, .ref p1, .ref p2, va_rf (some ao3)])).length) Slot.unset).toArray = ls at hl ⊢
    have hl : lv_has ls 4 [(0, .ref p0), (1, .ref p1), (2, .ref p2), (3, va_rf (some ao3))] := hl
    exact w_fJ11_init C hin _ _ _ _ _ hm s.heap [] ls hW0 va_S.rf rfl KM.rf hl
theorem yn_J11_init : YN yJ11_init 3 := by
  unfold YN
  decide +kernel
theorem lkJ1_167 : LI RJ1 167 yJ11_init cJ11_init 4 := ⟨q1399, q1400, q142, q1401, rfl⟩
theorem flJ1_114 : FL RJ1 114 18 3 RJ11 TJ11 6 := ⟨in_J11, rfl, by decide, q1409⟩
theorem flJ1_111 : FL RJ1 111 18 2 RJ11 TJ11 6 := ⟨in_J11, rfl, by decide, q1408⟩
theorem flJ1_290 : FL RJ1 290 18 5 RJ11 TJ11 6 := ⟨in_J11, rfl, by decide, q1413⟩
theorem ft_J1 : FT TJ1 9 tyJ1 := ⟨tyJ1_ok, nmJ1⟩
theorem flJ1_101 : FL RJ1 101 16 3 RJ1 TJ1 9 := ⟨in_J1, rfl, by decide, q334⟩
theorem flJ1_124 : FL RJ1 124 18 4 RJ11 TJ11 6 := ⟨in_J11, rfl, by decide, q1411⟩
noncomputable def fJ1_parentOf (PL : Nat → Bool) (V0 : Mem) (o0 : Option Nat) : Option (Option Nat) :=
  od o0 (
  some none) (fun pa1 =>
  gb (kd PL V0 pa1 18) (
  lo (gR V0 pa1 4) fun oa3 =>
  some oa3))
set_option maxHeartbeats 4000000 in
theorem w_fJ1_parentOf (C : Cx G p s m args meth c RJ1 cJ1_parentOf 1 (some (.object "java/util/TreeMap$Entry"))) {PL : Nat → Bool} {V0 : Mem} {rx : Option Nat} (hW0 : pl G PL V0 s.heap) : ∀ (o0 : Option Nat), fJ1_parentOf PL V0 o0 = some rx → ∀ (ls : Array Slot), lv_has ls 1 [(0, va_rf o0)] → W p l e (rmP 0 0) s m args below meth c s.heap [] 0 0 (MQ below (QcP (some (va_rf rx))) args s 0 0 (fun _ => False)) (F0 m 0 ls []) := by
  intro o0 hm ls hl
  obtain ⟨hx, hb, hr, hlk, hml, hown, hts, hK⟩ := id C
  unfold fJ1_parentOf at hm
  refine lv_aload_nO (pc := 0) hx hb dJ1_parentOf_0 rfl (lv_at hl 0 rfl) ?_
  rcases o0 with _ | pa1
  · have hm := od_n hm
    refine lv_ifnonnullN (pc := 1) hx hb dJ1_parentOf_1 ?_
    refine lv_null (pc := 4) hx hb dJ1_parentOf_4 ?_
    refine lv_goto (pc := 5) (tgt := 12) hx hb dJ1_parentOf_5 (by decide) ?_
    have e9 := rs1 hm
    subst e9
    exact rp_aretP (x := none) (pc := 12) hx hb hr (Or.inl ⟨_, rfl⟩) hlk rfl dJ1_parentOf_12
  · have hm := od_s hm
    refine lv_ifnonnull (pc := 1) (tgt := 8) hx hb dJ1_parentOf_1 (by decide) ?_
    refine lv_aload_n (pc := 8) hx hb dJ1_parentOf_8 rfl (lv_at hl 0 rfl) ?_
    obtain ⟨hg2, hm⟩ := gb_some hm
    obtain ⟨oa3, he4, hm⟩ := lo_some hm
    refine rk_get (pc := 9) hx hb hts hown hK (pl_rg hW0) flJ1_124 pa1 (Nat.lt_succ_self _) (Nat.zero_add _).symm (shP_18 (kd_PL hg2) (kd_k hg2)) (x := va_rf oa3) (congrArg (fun z => some (va_rf z)) he4) dJ1_parentOf_9 ?_
    have e9 := rs1 hm
    subst e9
    exact rp_aretP (x := oa3) (pc := 12) hx hb hr (Or.inl ⟨_, rfl⟩) hlk rfl dJ1_parentOf_12
set_option maxHeartbeats 4000000 in
theorem ct_J1_parentOf {G : Gv} {l : Launch} {PL : Nat → Bool} {V0 : Mem} {o0 : Option Nat} {rx : Option Nat} (hm : fJ1_parentOf PL V0 o0 = some rx) : CP G l yJ1_parentOf (ws_ yJ1_parentOf cJ1_parentOf 1 (some (.object "java/util/TreeMap$Entry"))) 0 0 [va_rf o0] (fun H => pl G PL V0 H) (some (va_rf rx)) := by
  cases o0 with
  | none =>
    refine Met.ofW (cc := cJ1_parentOf) (maxL := 1) (ret := (some (.object "java/util/TreeMap$Entry"))) (by decide +kernel) rfl ?_
    intro p e s m args below meth c s₁ B hml hv
    obtain ⟨rfl, hW0, hK⟩ := hv
    have hts := atoms_spec (ws := ws_ yJ1_parentOf cJ1_parentOf 1 (some (.object "java/util/TreeMap$Entry"))) B.pre
    have hts : ∀ w ∈ lw_all, w.before _ s = true := fun w h => hts w (List.mem_cons_of_mem _ h)
    have C : Cx G p s m _ meth c RJ1 cJ1_parentOf 1 (some (.object "java/util/TreeMap$Entry")) := ⟨B.exec, B.bytes, B.returns, B.notSynchronized, hml, findClass_of_methodNamed B.named, hts, hK⟩
    have hl := lv_entry ([va_rf none]) (n := 1) (Nat.le_of_ble_eq_true rfl)
    rw [lg_entry_eq]
    generalize (lg_sl ([va_rf none]) ++ List.replicate (1 - (lg_sl ([va_rf none])).length) Slot.unset).toArray = ls at hl ⊢
    have hl : lv_has ls 1 [(0, va_rf none)] := hl
    exact w_fJ1_parentOf C hW0 _ hm ls hl
  | some ao0 =>
    refine Met.ofW (cc := cJ1_parentOf) (maxL := 1) (ret := (some (.object "java/util/TreeMap$Entry"))) (by decide +kernel) rfl ?_
    intro p e s m args below meth c s₁ B hml hv
    obtain ⟨rfl, hW0, hK⟩ := hv
    have hts := atoms_spec (ws := ws_ yJ1_parentOf cJ1_parentOf 1 (some (.object "java/util/TreeMap$Entry"))) B.pre
    have hts : ∀ w ∈ lw_all, w.before _ s = true := fun w h => hts w (List.mem_cons_of_mem _ h)
    have C : Cx G p s m _ meth c RJ1 cJ1_parentOf 1 (some (.object "java/util/TreeMap$Entry")) := ⟨B.exec, B.bytes, B.returns, B.notSynchronized, hml, findClass_of_methodNamed B.named, hts, hK⟩
    have hl := lv_entry ([va_rf (some ao0)]) (n := 1) (Nat.le_of_ble_eq_true rfl)
    rw [lg_entry_eq]
    generalize (lg_sl ([va_rf (some ao0)]) ++ List.replicate (1 - (lg_sl ([va_rf (some ao0)])).length) Slot.unset).toArray = ls at hl ⊢
    have hl : lv_has ls 1 [(0, va_rf (some ao0))] := hl
    exact w_fJ1_parentOf C hW0 _ hm ls hl
theorem yn_J1_parentOf : YN yJ1_parentOf 1 := by
  unfold YN
  decide +kernel
theorem lkJ1_294 : LSt RJ1 294 yJ1_parentOf cJ1_parentOf 1 (some (.object "java/util/TreeMap$Entry")) := ⟨q1435, q1436, q120, q1437⟩
noncomputable def fJ1_leftOf (PL : Nat → Bool) (V0 : Mem) (o0 : Option Nat) : Option (Option Nat) :=
  od o0 (
  some none) (fun pa1 =>
  gb (kd PL V0 pa1 18) (
  lo (gR V0 pa1 2) fun oa3 =>
  some oa3))
set_option maxHeartbeats 4000000 in
theorem w_fJ1_leftOf (C : Cx G p s m args meth c RJ1 cJ1_leftOf 1 (some (.object "java/util/TreeMap$Entry"))) {PL : Nat → Bool} {V0 : Mem} {rx : Option Nat} (hW0 : pl G PL V0 s.heap) : ∀ (o0 : Option Nat), fJ1_leftOf PL V0 o0 = some rx → ∀ (ls : Array Slot), lv_has ls 1 [(0, va_rf o0)] → W p l e (rmP 0 0) s m args below meth c s.heap [] 0 0 (MQ below (QcP (some (va_rf rx))) args s 0 0 (fun _ => False)) (F0 m 0 ls []) := by
  intro o0 hm ls hl
  obtain ⟨hx, hb, hr, hlk, hml, hown, hts, hK⟩ := id C
  unfold fJ1_leftOf at hm
  refine lv_aload_nO (pc := 0) hx hb dJ1_leftOf_0 rfl (lv_at hl 0 rfl) ?_
  rcases o0 with _ | pa1
  · have hm := od_n hm
    refine lv_ifnonnullN (pc := 1) hx hb dJ1_leftOf_1 ?_
    refine lv_null (pc := 4) hx hb dJ1_leftOf_4 ?_
    refine lv_goto (pc := 5) (tgt := 12) hx hb dJ1_leftOf_5 (by decide) ?_
    have e9 := rs1 hm
    subst e9
    exact rp_aretP (x := none) (pc := 12) hx hb hr (Or.inl ⟨_, rfl⟩) hlk rfl dJ1_leftOf_12
  · have hm := od_s hm
    refine lv_ifnonnull (pc := 1) (tgt := 8) hx hb dJ1_leftOf_1 (by decide) ?_
    refine lv_aload_n (pc := 8) hx hb dJ1_leftOf_8 rfl (lv_at hl 0 rfl) ?_
    obtain ⟨hg2, hm⟩ := gb_some hm
    obtain ⟨oa3, he4, hm⟩ := lo_some hm
    refine rk_get (pc := 9) hx hb hts hown hK (pl_rg hW0) flJ1_111 pa1 (Nat.lt_succ_self _) (Nat.zero_add _).symm (shP_18 (kd_PL hg2) (kd_k hg2)) (x := va_rf oa3) (congrArg (fun z => some (va_rf z)) he4) dJ1_leftOf_9 ?_
    have e9 := rs1 hm
    subst e9
    exact rp_aretP (x := oa3) (pc := 12) hx hb hr (Or.inl ⟨_, rfl⟩) hlk rfl dJ1_leftOf_12
set_option maxHeartbeats 4000000 in
theorem ct_J1_leftOf {G : Gv} {l : Launch} {PL : Nat → Bool} {V0 : Mem} {o0 : Option Nat} {rx : Option Nat} (hm : fJ1_leftOf PL V0 o0 = some rx) : CP G l yJ1_leftOf (ws_ yJ1_leftOf cJ1_leftOf 1 (some (.object "java/util/TreeMap$Entry"))) 0 0 [va_rf o0] (fun H => pl G PL V0 H) (some (va_rf rx)) := by
  cases o0 with
  | none =>
    refine Met.ofW (cc := cJ1_leftOf) (maxL := 1) (ret := (some (.object "java/util/TreeMap$Entry"))) (by decide +kernel) rfl ?_
    intro p e s m args below meth c s₁ B hml hv
    obtain ⟨rfl, hW0, hK⟩ := hv
    have hts := atoms_spec (ws := ws_ yJ1_leftOf cJ1_leftOf 1 (some (.object "java/util/TreeMap$Entry"))) B.pre
    have hts : ∀ w ∈ lw_all, w.before _ s = true := fun w h => hts w (List.mem_cons_of_mem _ h)
    have C : Cx G p s m _ meth c RJ1 cJ1_leftOf 1 (some (.object "java/util/TreeMap$Entry")) := ⟨B.exec, B.bytes, B.returns, B.notSynchronized, hml, findClass_of_methodNamed B.named, hts, hK⟩
    have hl := lv_entry ([va_rf none]) (n := 1) (Nat.le_of_ble_eq_true rfl)
    rw [lg_entry_eq]
    generalize (lg_sl ([va_rf none]) ++ List.replicate (1 - (lg_sl ([va_rf none])).length) Slot.unset).toArray = ls at hl ⊢
    have hl : lv_has ls 1 [(0, va_rf none)] := hl
    exact w_fJ1_leftOf C hW0 _ hm ls hl
  | some ao0 =>
    refine Met.ofW (cc := cJ1_leftOf) (maxL := 1) (ret := (some (.object "java/util/TreeMap$Entry"))) (by decide +kernel) rfl ?_
    intro p e s m args below meth c s₁ B hml hv
    obtain ⟨rfl, hW0, hK⟩ := hv
    have hts := atoms_spec (ws := ws_ yJ1_leftOf cJ1_leftOf 1 (some (.object "java/util/TreeMap$Entry"))) B.pre
    have hts : ∀ w ∈ lw_all, w.before _ s = true := fun w h => hts w (List.mem_cons_of_mem _ h)
    have C : Cx G p s m _ meth c RJ1 cJ1_leftOf 1 (some (.object "java/util/TreeMap$Entry")) := ⟨B.exec, B.bytes, B.returns, B.notSynchronized, hml, findClass_of_methodNamed B.named, hts, hK⟩
    have hl := lv_entry ([va_rf (some ao0)]) (n := 1) (Nat.le_of_ble_eq_true rfl)
    rw [lg_entry_eq]
    generalize (lg_sl ([va_rf (some ao0)]) ++ List.replicate (1 - (lg_sl ([va_rf (some ao0)])).length) Slot.unset).toArray = ls at hl ⊢
    have hl : lv_has ls 1 [(0, va_rf (some ao0))] := hl
    exact w_fJ1_leftOf C hW0 _ hm ls hl
theorem yn_J1_leftOf : YN yJ1_leftOf 1 := by
  unfold YN
  decide +kernel
theorem lkJ1_297 : LSt RJ1 297 yJ1_leftOf cJ1_leftOf 1 (some (.object "java/util/TreeMap$Entry")) := ⟨q1438, q1439, q120, q1440⟩
noncomputable def fJ1_colorOf (PL : Nat → Bool) (V0 : Mem) (o0 : Option Nat) : Option (Int32) :=
  od o0 (
  some (1 : Int32)) (fun pa1 =>
  gb (kd PL V0 pa1 18) (
  gb (z01 (gI V0 pa1 5)) (some (gI V0 pa1 5))))
set_option maxHeartbeats 4000000 in
theorem w_fJ1_colorOf (C : Cx G p s m args meth c RJ1 cJ1_colorOf 1 (some .boolean)) {PL : Nat → Bool} {V0 : Mem} {rx : Int32} (hW0 : pl G PL V0 s.heap) : ∀ (o0 : Option Nat), fJ1_colorOf PL V0 o0 = some rx → ∀ (ls : Array Slot), lv_has ls 1 [(0, va_rf o0)] → W p l e (rmP 0 0) s m args below meth c s.heap [] 0 0 (MQ below (QcP (some (.int rx))) args s 0 0 (fun _ => False)) (F0 m 0 ls []) := by
  intro o0 hm ls hl
  obtain ⟨hx, hb, hr, hlk, hml, hown, hts, hK⟩ := id C
  unfold fJ1_colorOf at hm
  refine lv_aload_nO (pc := 0) hx hb dJ1_colorOf_0 rfl (lv_at hl 0 rfl) ?_
  rcases o0 with _ | pa1
  · have hm := od_n hm
    refine lv_ifnonnullN (pc := 1) hx hb dJ1_colorOf_1 ?_
    refine lv_iconst (pc := 4) (v := (1 : Int32)) hx hb dJ1_colorOf_4 (by decide) ?_
    refine lv_goto (pc := 5) (tgt := 12) hx hb dJ1_colorOf_5 (by decide) ?_
    have e9 := rs1 hm
    subst e9
    exact rk_zretP (pc := 12) hx hb hr hlk rfl rfl dJ1_colorOf_12
  · have hm := od_s hm
    refine lv_ifnonnull (pc := 1) (tgt := 8) hx hb dJ1_colorOf_1 (by decide) ?_
    refine lv_aload_n (pc := 8) hx hb dJ1_colorOf_8 rfl (lv_at hl 0 rfl) ?_
    obtain ⟨hg2, hm⟩ := gb_some hm
    refine rk_get (pc := 9) hx hb hts hown hK (pl_rg hW0) flJ1_290 pa1 (Nat.lt_succ_self _) (Nat.zero_add _).symm (shP_18 (kd_PL hg2) (kd_k hg2)) (x := .int (gI V0 pa1 5)) rfl dJ1_colorOf_9 ?_
    obtain ⟨hg3, hm⟩ := gb_some hm
    have e9 := rs1 hm
    subst e9
    exact rk_zretP (pc := 12) hx hb hr hlk hg3 rfl dJ1_colorOf_12
set_option maxHeartbeats 4000000 in
theorem ct_J1_colorOf {G : Gv} {l : Launch} {PL : Nat → Bool} {V0 : Mem} {o0 : Option Nat} {rx : Int32} (hm : fJ1_colorOf PL V0 o0 = some rx) : CP G l yJ1_colorOf (ws_ yJ1_colorOf cJ1_colorOf 1 (some .boolean)) 0 0 [va_rf o0] (fun H => pl G PL V0 H) (some (.int rx)) := by
  cases o0 with
  | none =>
    refine Met.ofW (cc := cJ1_colorOf) (maxL := 1) (ret := (some .boolean)) (by decide +kernel) rfl ?_
    intro p e s m args below meth c s₁ B hml hv
    obtain ⟨rfl, hW0, hK⟩ := hv
    have hts := atoms_spec (ws := ws_ yJ1_colorOf cJ1_colorOf 1 (some .boolean)) B.pre
    have hts : ∀ w ∈ lw_all, w.before _ s = true := fun w h => hts w (List.mem_cons_of_mem _ h)
    have C : Cx G p s m _ meth c RJ1 cJ1_colorOf 1 (some .boolean) := ⟨B.exec, B.bytes, B.returns, B.notSynchronized, hml, findClass_of_methodNamed B.named, hts, hK⟩
    have hl := lv_entry ([va_rf none]) (n := 1) (Nat.le_of_ble_eq_true rfl)
    rw [lg_entry_eq]
    generalize (lg_sl ([va_rf none]) ++ List.replicate (1 - (lg_sl ([va_rf none])).length) Slot.unset).toArray = ls at hl ⊢
    have hl : lv_has ls 1 [(0, va_rf none)] := hl
    exact w_fJ1_colorOf C hW0 _ hm ls hl
  | some ao0 =>
    refine Met.ofW (cc := cJ1_colorOf) (maxL := 1) (ret := (some .boolean)) (by decide +kernel) rfl ?_
    intro p e s m args below meth c s₁ B hml hv
    obtain ⟨rfl, hW0, hK⟩ := hv
    have hts := atoms_spec (ws := ws_ yJ1_colorOf cJ1_colorOf 1 (some .boolean)) B.pre
    have hts : ∀ w ∈ lw_all, w.before _ s = true := fun w h => hts w (List.mem_cons_of_mem _ h)
    have C : Cx G p s m _ meth c RJ1 cJ1_colorOf 1 (some .boolean) := ⟨B.exec, B.bytes, B.returns, B.notSynchronized, hml, findClass_of_methodNamed B.named, hts, hK⟩
    have hl := lv_entry ([va_rf (some ao0)]) (n := 1) (Nat.le_of_ble_eq_true rfl)
    rw [lg_entry_eq]
    generalize (lg_sl ([va_rf (some ao0)]) ++ List.replicate (1 - (lg_sl ([va_rf (some ao0)])).length) Slot.unset).toArray = ls at hl ⊢
    have hl : lv_has ls 1 [(0, va_rf (some ao0))] := hl
    exact w_fJ1_colorOf C hW0 _ hm ls hl
theorem yn_J1_colorOf : YN yJ1_colorOf 1 := by
  unfold YN
  decide +kernel
theorem lkJ1_303 : LSt RJ1 303 yJ1_colorOf cJ1_colorOf 1 (some .boolean) := ⟨q1444, q1445, q120, q1446⟩
noncomputable def fJ1_rotateRight_85 (PL : Nat → Bool) (v0 : Mem) (p1 : Nat) (p2 : Nat) : Option (Mem) :=
  gb (kd PL v0 p2 18) (
  lm (sR v0 p2 3 (some p1)) fun v0_111 =>
  gb (kd PL v0_111 p1 18) (
  lm (sR v0_111 p1 4 (some p2)) fun v0_121 =>
  some v0_121))
noncomputable def fJ1_rotateRight_32 (PL : Nat → Bool) (v0 : Mem) (p0 : Nat) (p1 : Nat) (p2 : Nat) : Option (Mem) :=
  gb (kd PL v0 p1 18) (
  lo (gR v0 p1 4) fun oa42 =>
  gb (kd PL v0 p2 18) (
  lm (sR v0 p2 4 oa42) fun v0_45 =>
  gb (kd PL v0_45 p1 18) (
  lo (gR v0_45 p1 4) fun oa55 =>
  od oa55 (
  gb (kd PL v0_45 p0 16) (
  lm (sR v0_45 p0 3 (some p2)) fun v0_59 =>
  fJ1_rotateRight_85 PL v0_59 p1 p2)) (fun pa57 =>
  gb (kd PL v0_45 p1 18) (
  lo (gR v0_45 p1 4) fun oa69 =>
  ob oa69 fun pa71 =>
  gb (kd PL v0_45 pa71 18) (
  lo (gR v0_45 pa71 3) fun oa75 =>
  if oa75 = (some p1) then (
  gb (kd PL v0_45 p1 18) (
  lo (gR v0_45 p1 4) fun oa95 =>
  ob oa95 fun pa97 =>
  gb (kd PL v0_45 pa97 18) (
  lm (sR v0_45 pa97 3 (some p2)) fun v0_101 =>
  fJ1_rotateRight_85 PL v0_101 p1 p2)))
  else (
  gb (kd PL v0_45 p1 18) (
  lo (gR v0_45 p1 4) fun oa79 =>
  ob oa79 fun pa81 =>
  gb (kd PL v0_45 pa81 18) (
  lm (sR v0_45 pa81 2 (some p2)) fun v0_85 =>
  fJ1_rotateRight_85 PL v0_85 p1 p2)))))))))
noncomputable def fJ1_rotateRight (PL : Nat → Bool) (v0 : Mem) (p0 : Nat) (o1 : Option Nat) : Option (Mem) :=
  od o1 (
  some v0) (fun pa1 =>
  gb (kd PL v0 pa1 18) (
  lo (gR v0 pa1 2) fun oa3 =>
  ob oa3 fun pa5 =>
  gb (kd PL v0 pa5 18) (
  lo (gR v0 pa5 3) fun oa9 =>
  gb (kd PL v0 pa1 18) (
  lm (sR v0 pa1 2 oa9) fun v0_12 =>
  gb (kd PL v0_12 pa5 18) (
  lo (gR v0_12 pa5 3) fun oa22 =>
  od oa22 (
  fJ1_rotateRight_32 PL v0_12 p0 pa1 pa5) (fun pa24 =>
  gb (kd PL v0_12 pa5 18) (
  lo (gR v0_12 pa5 3) fun oa26 =>
  ob oa26 fun pa28 =>
  gb (kd PL v0_12 pa28 18) (
  lm (sR v0_12 pa28 4 (some pa1)) fun v0_32 =>
  fJ1_rotateRight_32 PL v0_32 p0 pa1 pa5))))))))
set_option maxHeartbeats 4000000 in
theorem w_fJ1_rotateRight_85 (C : Cx G p s m args meth c RJ1 cJ1_rotateRight 3 none) {PL : Nat → Bool} {vP0 : Mem} {rw0 : Mem} : ∀ (v0 : Mem) (p1 : Nat) (p2 : Nat), fJ1_rotateRight_85 PL v0 p1 p2 = some rw0 → ∀ (H : Heap) (locs : List Loc) (ls : Array Slot), pl G PL v0 H → va_S (FA (fP PL vP0) s.heap.size) s.heap H locs → H.size = s.heap.size → KM vP0 v0 s.heap.size → lv_has ls 3 [(1, .ref p1), (2, .ref p2)] → W p l e (rmT 0 0 0 0) s m args below meth c H locs 0 0 (MQ below (QcT (FA (fP PL vP0) s.heap.size) (fun ov H => ov = none ∧ pl G PL rw0 H ∧ H.size = s.heap.size ∧ KM vP0 rw0 s.heap.size)) args s 0 0 (FA (fP PL vP0) s.heap.size)) (F0 m 85 ls []) := by
  intro v0 p1 p2 hm H locs ls hW0 hS hz hKM hl
  obtain ⟨hx, hb, hr, hlk, hml, hown, hts, hK⟩ := id C
  unfold fJ1_rotateRight_85 at hm
  refine lv_aload_n (pc := 85) hx hb dJ1_rotateRight_85 rfl (lv_at hl 1 rfl) ?_
  refine lv_aload_n (pc := 86) hx hb dJ1_rotateRight_86 rfl (lv_at hl 0 rfl) ?_
  obtain ⟨hg110, hm⟩ := gb_some hm
  refine rp_put (pc := 87) (q := p2) hx hb hts hown hK hW0 hS flJ1_114 ft_J11 (kd_A hKM hg110 (by decide)) (shP_18 (kd_PL hg110) (kd_k hg110)) rfl (x := va_rf (some p1)) (rf_nar _ rfl (some p1)) (rf_fit _ rfl (some p1)) (Nat.le_of_ble_eq_true rfl) (sR v0 p2 3 (some p1)) sR_ne (by rw [sR_eq]; exact shP_18 (kd_PL hg110) (kd_k hg110)) dJ1_rotateRight_87 (fun H112 locs113 hW114 hS115 hz116 hkp117 => ?_)
  have hKM118 := KM.sR (o := p2) (j := 3) (x := (some p1)) hKM
  obtain ⟨v0_111, he9, hm⟩ := lm_some hm
  rw [he9] at hW114 hKM118
  have hz119 := hz116.trans hz
  refine lv_aload_n (pc := 90) hx hb dJ1_rotateRight_90 rfl (lv_at hl 0 rfl) ?_
  refine lv_aload_n (pc := 91) hx hb dJ1_rotateRight_91 rfl (lv_at hl 1 rfl) ?_
  obtain ⟨hg120, hm⟩ := gb_some hm
  refine rp_put (pc := 92) (q := p1) hx hb hts hown hK hW114 hS115 flJ1_124 ft_J11 (kd_A hKM118 hg120 (by decide)) (shP_18 (kd_PL hg120) (kd_k hg120)) rfl (x := va_rf (some p2)) (rf_nar _ rfl (some p2)) (rf_fit _ rfl (some p2)) (Nat.le_of_ble_eq_true rfl) (sR v0_111 p1 4 (some p2)) sR_ne (by rw [sR_eq]; exact shP_18 (kd_PL hg120) (kd_k hg120)) dJ1_rotateRight_92 (fun H122 locs123 hW124 hS125 hz126 hkp127 => ?_)
  have hKM128 := KM.sR (o := p1) (j := 4) (x := (some p2)) hKM118
  obtain ⟨v0_121, he9, hm⟩ := lm_some hm
  rw [he9] at hW124 hKM128
  have hz129 := hz126.trans hz119
  have e9 := rs1 hm
  subst e9
  exact rk_vret (pc := 95) hx hb hr hlk hS125 ⟨rfl, hW124, hz129, hKM128⟩ dJ1_rotateRight_95
set_option maxHeartbeats 4000000 in
theorem w_fJ1_rotateRight_32 (C : Cx G p s m args meth c RJ1 cJ1_rotateRight 3 none) {PL : Nat → Bool} {vP0 : Mem} {rw0 : Mem} : ∀ (v0 : Mem) (p0 : Nat) (p1 : Nat) (p2 : Nat), fJ1_rotateRight_32 PL v0 p0 p1 p2 = some rw0 → ∀ (H : Heap) (locs : List Loc) (ls : Array Slot), pl G PL v0 H → va_S (FA (fP PL vP0) s.heap.size) s.heap H locs → H.size = s.heap.size → KM vP0 v0 s.heap.size → lv_has ls 3 [(0, .ref p0), (1, .ref p1), (2, .ref p2)] → W p l e (rmT 0 0 0 0) s m args below meth c H locs 0 0 (MQ below (QcT (FA (fP PL vP0) s.heap.size) (fun ov H => ov = none ∧ pl G PL rw0 H ∧ H.size = s.heap.size ∧ KM vP0 rw0 s.heap.size)) args s 0 0 (FA (fP PL vP0) s.heap.size)) (F0 m 32 ls []) := by
  intro v0 p0 p1 p2 hm H locs ls hW0 hS hz hKM hl
  obtain ⟨hx, hb, hr, hlk, hml, hown, hts, hK⟩ := id C
  unfold fJ1_rotateRight_32 at hm
  refine lv_aload_n (pc := 32) hx hb dJ1_rotateRight_32 rfl (lv_at hl 2 rfl) ?_
  refine lv_aload_n (pc := 33) hx hb dJ1_rotateRight_33 rfl (lv_at hl 1 rfl) ?_
  obtain ⟨hg41, hm⟩ := gb_some hm
  obtain ⟨oa42, he43, hm⟩ := lo_some hm
  refine rk_get (pc := 34) hx hb hts hown hK (pl_rg hW0) flJ1_124 p1 (Nat.lt_succ_self _) (Nat.zero_add _).symm (shP_18 (kd_PL hg41) (kd_k hg41)) (x := va_rf oa42) (congrArg (fun z => some (va_rf z)) he43) dJ1_rotateRight_34 ?_
  obtain ⟨hg44, hm⟩ := gb_some hm
  refine rp_put (pc := 37) (q := p2) hx hb hts hown hK hW0 hS flJ1_124 ft_J11 (kd_A hKM hg44 (by decide)) (shP_18 (kd_PL hg44) (kd_k hg44)) rfl (x := va_rf oa42) (rf_nar _ rfl oa42) (rf_fit _ rfl oa42) (Nat.le_of_ble_eq_true rfl) (sR v0 p2 4 oa42) sR_ne (by rw [sR_eq]; exact shP_18 (kd_PL hg44) (kd_k hg44)) dJ1_rotateRight_37 (fun H46 locs47 hW48 hS49 hz50 hkp51 => ?_)
  have hKM52 := KM.sR (o := p2) (j := 4) (x := oa42) hKM
  obtain ⟨v0_45, he9, hm⟩ := lm_some hm
  rw [he9] at hW48 hKM52
  have hz53 := hz50.trans hz
  refine lv_aload_n (pc := 40) hx hb dJ1_rotateRight_40 rfl (lv_at hl 1 rfl) ?_
  obtain ⟨hg54, hm⟩ := gb_some hm
  obtain ⟨oa55, he56, hm⟩ := lo_some hm
  refine rk_get (pc := 41) hx hb hts hown hK (pl_rg hW48) flJ1_124 p1 (Nat.lt_succ_self _) (Nat.zero_add _).symm (shP_18 (kd_PL hg54) (kd_k hg54)) (x := va_rf oa55) (congrArg (fun z => some (va_rf z)) he56) dJ1_rotateRight_41 ?_
  rcases oa55 with _ | pa57
  · have hm := od_n hm
    refine lv_ifnonnullN (pc := 44) hx hb dJ1_rotateRight_44 ?_
    refine lv_aload_n (pc := 47) hx hb dJ1_rotateRight_47 rfl (lv_at hl 0 rfl) ?_
    refine lv_aload_n (pc := 48) hx hb dJ1_rotateRight_48 rfl (lv_at hl 2 rfl) ?_
    obtain ⟨hg58, hm⟩ := gb_some hm
    refine rp_put (pc := 49) (q := p0) hx hb hts hown hK hW48 hS49 flJ1_101 ft_J1 (kd_A hKM52 hg58 (by decide)) (shP_16 (kd_PL hg58) (kd_k hg58)) rfl (x := va_rf (some p2)) (rf_nar _ rfl (some p2)) (rf_fit _ rfl (some p2)) (Nat.le_of_ble_eq_true rfl) (sR v0_45 p0 3 (some p2)) sR_ne (by rw [sR_eq]; exact shP_16 (kd_PL hg58) (kd_k hg58)) dJ1_rotateRight_49 (fun H60 locs61 hW62 hS63 hz64 hkp65 => ?_)
    have hKM66 := KM.sR (o := p0) (j := 3) (x := (some p2)) hKM52
    obtain ⟨v0_59, he9, hm⟩ := lm_some hm
    rw [he9] at hW62 hKM66
    have hz67 := hz64.trans hz53
    refine lv_goto (pc := 52) (tgt := 85) hx hb dJ1_rotateRight_52 (by decide) ?_
    exact (w_fJ1_rotateRight_85 C) v0_59 p1 p2 hm H60 locs61 ls hW62 hS63 hz67 hKM66 (lv_sub hl [1, 2] rfl)
  · have hm := od_s hm
    refine lv_ifnonnull (pc := 44) (tgt := 55) hx hb dJ1_rotateRight_44 (by decide) ?_
    refine lv_aload_n (pc := 55) hx hb dJ1_rotateRight_55 rfl (lv_at hl 1 rfl) ?_
    obtain ⟨hg68, hm⟩ := gb_some hm
    obtain ⟨oa69, he70, hm⟩ := lo_some hm
    refine rk_get (pc := 56) hx hb hts hown hK (pl_rg hW48) flJ1_124 p1 (Nat.lt_succ_self _) (Nat.zero_add _).symm (shP_18 (kd_PL hg68) (kd_k hg68)) (x := va_rf oa69) (congrArg (fun z => some (va_rf z)) he70) dJ1_rotateRight_56 ?_
    obtain ⟨pa71, he72, hm73⟩ := ob_some hm
    subst he72
    have hm := hm73
    obtain ⟨hg74, hm⟩ := gb_some hm
    obtain ⟨oa75, he76, hm⟩ := lo_some hm
    refine rk_get (pc := 59) hx hb hts hown hK (pl_rg hW48) flJ1_114 pa71 (Nat.lt_succ_self _) (Nat.zero_add _).symm (shP_18 (kd_PL hg74) (kd_k hg74)) (x := va_rf oa75) (congrArg (fun z => some (va_rf z)) he76) dJ1_rotateRight_59 ?_
    refine lv_aload_n (pc := 62) hx hb dJ1_rotateRight_62 rfl (lv_at hl 1 rfl) ?_
    refine lv_acmp_ne (pc := 63) (rx := oa75) (ry := (some p1)) (tgt := 77) hx hb dJ1_rotateRight_63 (by decide) (fun c77 => ?_) (fun c77 => ?_)
    · have hm := ite_f c77 hm
      refine lv_aload_n (pc := 77) hx hb dJ1_rotateRight_77 rfl (lv_at hl 1 rfl) ?_
      obtain ⟨hg78, hm⟩ := gb_some hm
      obtain ⟨oa79, he80, hm⟩ := lo_some hm
      refine rk_get (pc := 78) hx hb hts hown hK (pl_rg hW48) flJ1_124 p1 (Nat.lt_succ_self _) (Nat.zero_add _).symm (shP_18 (kd_PL hg78) (kd_k hg78)) (x := va_rf oa79) (congrArg (fun z => some (va_rf z)) he80) dJ1_rotateRight_78 ?_
      refine lv_aload_n (pc := 81) hx hb dJ1_rotateRight_81 rfl (lv_at hl 2 rfl) ?_
      obtain ⟨pa81, he82, hm83⟩ := ob_some hm
      subst he82
      have hm := hm83
      obtain ⟨hg84, hm⟩ := gb_some hm
      refine rp_put (pc := 82) (q := pa81) hx hb hts hown hK hW48 hS49 flJ1_111 ft_J11 (kd_A hKM52 hg84 (by decide)) (shP_18 (kd_PL hg84) (kd_k hg84)) rfl (x := va_rf (some p2)) (rf_nar _ rfl (some p2)) (rf_fit _ rfl (some p2)) (Nat.le_of_ble_eq_true rfl) (sR v0_45 pa81 2 (some p2)) sR_ne (by rw [sR_eq]; exact shP_18 (kd_PL hg84) (kd_k hg84)) dJ1_rotateRight_82 (fun H86 locs87 hW88 hS89 hz90 hkp91 => ?_)
      have hKM92 := KM.sR (o := pa81) (j := 2) (x := (some p2)) hKM52
      obtain ⟨v0_85, he9, hm⟩ := lm_some hm
      rw [he9] at hW88 hKM92
      have hz93 := hz90.trans hz53
      exact (w_fJ1_rotateRight_85 C) v0_85 p1 p2 hm H86 locs87 ls hW88 hS89 hz93 hKM92 (lv_sub hl [1, 2] rfl)
    · have hm := ite_t c77 hm
      refine lv_aload_n (pc := 66) hx hb dJ1_rotateRight_66 rfl (lv_at hl 1 rfl) ?_
      obtain ⟨hg94, hm⟩ := gb_some hm
      obtain ⟨oa95, he96, hm⟩ := lo_some hm
      refine rk_get (pc := 67) hx hb hts hown hK (pl_rg hW48) flJ1_124 p1 (Nat.lt_succ_self _) (Nat.zero_add _).symm (shP_18 (kd_PL hg94) (kd_k hg94)) (x := va_rf oa95) (congrArg (fun z => some (va_rf z)) he96) dJ1_rotateRight_67 ?_
      refine lv_aload_n (pc := 70) hx hb dJ1_rotateRight_70 rfl (lv_at hl 2 rfl) ?_
      obtain ⟨pa97, he98, hm99⟩ := ob_some hm
      subst he98
      have hm := hm99
      obtain ⟨hg100, hm⟩ := gb_some hm
      refine rp_put (pc := 71) (q := pa97) hx hb hts hown hK hW48 hS49 flJ1_114 ft_J11 (kd_A hKM52 hg100 (by decide)) (shP_18 (kd_PL hg100) (kd_k hg100)) rfl (x := va_rf (some p2)) (rf_nar _ rfl (some p2)) (rf_fit _ rfl (some p2)) (Nat.le_of_ble_eq_true rfl) (sR v0_45 pa97 3 (some p2)) sR_ne (by rw [sR_eq]; exact shP_18 (kd_PL hg100) (kd_k hg100)) dJ1_rotateRight_71 (fun H102 locs103 hW104 hS105 hz106 hkp107 => ?_)
      have hKM108 := KM.sR (o := pa97) (j := 3) (x := (some p2)) hKM52
      obtain ⟨v0_101, he9, hm⟩ := lm_some hm
      rw [he9] at hW104 hKM108
      have hz109 := hz106.trans hz53
      refine lv_goto (pc := 74) (tgt := 85) hx hb dJ1_rotateRight_74 (by decide) ?_
      exact (w_fJ1_rotateRight_85 C) v0_101 p1 p2 hm H102 locs103 ls hW104 hS105 hz109 hKM108 (lv_sub hl [1, 2] rfl)
set_option maxHeartbeats 4000000 in
theorem w_fJ1_rotateRight (C : Cx G p s m args meth c RJ1 cJ1_rotateRight 3 none) {PL : Nat → Bool} {vP0 : Mem} {rw0 : Mem} : ∀ (v0 : Mem) (p0 : Nat) (o1 : Option Nat), fJ1_rotateRight PL v0 p0 o1 = some rw0 → ∀ (H : Heap) (locs : List Loc) (ls : Array Slot), pl G PL v0 H → va_S (FA (fP PL vP0) s.heap.size) s.heap H locs → H.size = s.heap.size → KM vP0 v0 s.heap.size → lv_has ls 3 [(0, .ref p0), (1, va_rf o1)] → W p l e (rmT 0 0 0 0) s m args below meth c H locs 0 0 (MQ below (QcT (FA (fP PL vP0) s.heap.size) (fun ov H => ov = none ∧ pl G PL rw0 H ∧ H.size = s.heap.size ∧ KM vP0 rw0 s.heap.size)) args s 0 0 (FA (fP PL vP0) s.heap.size)) (F0 m 0 ls []) := by
  intro v0 p0 o1 hm H locs ls hW0 hS hz hKM hl
  obtain ⟨hx, hb, hr, hlk, hml, hown, hts, hK⟩ := id C
  unfold fJ1_rotateRight at hm
  refine lv_aload_nO (pc := 0) hx hb dJ1_rotateRight_0 rfl (lv_at hl 1 rfl) ?_
  rcases o1 with _ | pa1
  · have hm := od_n hm
    refine lv_ifnullN (pc := 1) (tgt := 95) hx hb dJ1_rotateRight_1 (by decide) ?_
    have e9 := rs1 hm
    subst e9
    exact rk_vret (pc := 95) hx hb hr hlk hS ⟨rfl, hW0, hz, hKM⟩ dJ1_rotateRight_95
  · have hm := od_s hm
    refine lv_ifnull (pc := 1) hx hb dJ1_rotateRight_1 ?_
    refine lv_aload_n (pc := 4) hx hb dJ1_rotateRight_4 rfl (lv_at hl 1 rfl) ?_
    obtain ⟨hg2, hm⟩ := gb_some hm
    obtain ⟨oa3, he4, hm⟩ := lo_some hm
    refine rk_get (pc := 5) hx hb hts hown hK (pl_rg hW0) flJ1_111 pa1 (Nat.lt_succ_self _) (Nat.zero_add _).symm (shP_18 (kd_PL hg2) (kd_k hg2)) (x := va_rf oa3) (congrArg (fun z => some (va_rf z)) he4) dJ1_rotateRight_5 ?_
    refine lv_astore_nO (pc := 8) (lv' := [(2, va_rf oa3), (0, .ref p0), (1, .ref pa1)]) hx hb dJ1_rotateRight_8 rfl hl (by decide) rfl (fun ls hl => ?_)
    refine lv_aload_n (pc := 9) hx hb dJ1_rotateRight_9 rfl (lv_at hl 2 rfl) ?_
    refine lv_aload_nO (pc := 10) hx hb dJ1_rotateRight_10 rfl (lv_at hl 0 rfl) ?_
    obtain ⟨pa5, he6, hm7⟩ := ob_some hm
    subst he6
    have hm := hm7
    obtain ⟨hg8, hm⟩ := gb_some hm
    obtain ⟨oa9, he10, hm⟩ := lo_some hm
    refine rk_get (pc := 11) hx hb hts hown hK (pl_rg hW0) flJ1_114 pa5 (Nat.lt_succ_self _) (Nat.zero_add _).symm (shP_18 (kd_PL hg8) (kd_k hg8)) (x := va_rf oa9) (congrArg (fun z => some (va_rf z)) he10) dJ1_rotateRight_11 ?_
    obtain ⟨hg11, hm⟩ := gb_some hm
    refine rp_put (pc := 14) (q := pa1) hx hb hts hown hK hW0 hS flJ1_111 ft_J11 (kd_A hKM hg11 (by decide)) (shP_18 (kd_PL hg11) (kd_k hg11)) rfl (x := va_rf oa9) (rf_nar _ rfl oa9) (rf_fit _ rfl oa9) (Nat.le_of_ble_eq_true rfl) (sR v0 pa1 2 oa9) sR_ne (by rw [sR_eq]; exact shP_18 (kd_PL hg11) (kd_k hg11)) dJ1_rotateRight_14 (fun H13 locs14 hW15 hS16 hz17 hkp18 => ?_)
    have hKM19 := KM.sR (o := pa1) (j := 2) (x := oa9) hKM
    obtain ⟨v0_12, he9, hm⟩ := lm_some hm
    rw [he9] at hW15 hKM19
    have hz20 := hz17.trans hz
    refine lv_aload_n (pc := 17) hx hb dJ1_rotateRight_17 rfl (lv_at hl 0 rfl) ?_
    obtain ⟨hg21, hm⟩ := gb_some hm
    obtain ⟨oa22, he23, hm⟩ := lo_some hm
    refine rk_get (pc := 18) hx hb hts hown hK (pl_rg hW15) flJ1_114 pa5 (Nat.lt_succ_self _) (Nat.zero_add _).symm (shP_18 (kd_PL hg21) (kd_k hg21)) (x := va_rf oa22) (congrArg (fun z => some (va_rf z)) he23) dJ1_rotateRight_18 ?_
    rcases oa22 with _ | pa24
    · have hm := od_n hm
      refine lv_ifnullN (pc := 21) (tgt := 32) hx hb dJ1_rotateRight_21 (by decide) ?_
      exact (w_fJ1_rotateRight_32 C) v0_12 p0 pa1 pa5 hm H13 locs14 ls hW15 hS16 hz20 hKM19 (lv_sub hl [1, 2, 0] rfl)
    · have hm := od_s hm
      refine lv_ifnull (pc := 21) hx hb dJ1_rotateRight_21 ?_
      refine lv_aload_n (pc := 24) hx hb dJ1_rotateRight_24 rfl (lv_at hl 0 rfl) ?_
      obtain ⟨hg25, hm⟩ := gb_some hm
      obtain ⟨oa26, he27, hm⟩ := lo_some hm
      refine rk_get (pc := 25) hx hb hts hown hK (pl_rg hW15) flJ1_114 pa5 (Nat.lt_succ_self _) (Nat.zero_add _).symm (shP_18 (kd_PL hg25) (kd_k hg25)) (x := va_rf oa26) (congrArg (fun z => some (va_rf z)) he27) dJ1_rotateRight_25 ?_
      refine lv_aload_n (pc := 28) hx hb dJ1_rotateRight_28 rfl (lv_at hl 2 rfl) ?_
      obtain ⟨pa28, he29, hm30⟩ := ob_some hm
      subst he29
      have hm := hm30
      obtain ⟨hg31, hm⟩ := gb_some hm
      refine rp_put (pc := 29) (q := pa28) hx hb hts hown hK hW15 hS16 flJ1_124 ft_J11 (kd_A hKM19 hg31 (by decide)) (shP_18 (kd_PL hg31) (kd_k hg31)) rfl (x := va_rf (some pa1)) (rf_nar _ rfl (some pa1)) (rf_fit _ rfl (some pa1)) (Nat.le_of_ble_eq_true rfl) (sR v0_12 pa28 4 (some pa1)) sR_ne (by rw [sR_eq]; exact shP_18 (kd_PL hg31) (kd_k hg31)) dJ1_rotateRight_29 (fun H33 locs34 hW35 hS36 hz37 hkp38 => ?_)
      have hKM39 := KM.sR (o := pa28) (j := 4) (x := (some pa1)) hKM19
      obtain ⟨v0_32, he9, hm⟩ := lm_some hm
      rw [he9] at hW35 hKM39
      have hz40 := hz37.trans hz20
      exact (w_fJ1_rotateRight_32 C) v0_32 p0 pa1 pa5 hm H33 locs34 ls hW35 hS36 hz40 hKM39 (lv_sub hl [1, 2, 0] rfl)
set_option maxHeartbeats 4000000 in
theorem ct_J1_rotateRight {G : Gv} {l : Launch} {PL : Nat → Bool} {v0 : Mem} {p0 : Nat} {o1 : Option Nat} {rw0 : Mem} {sz : Nat} (hm : fJ1_rotateRight PL v0 p0 o1 = some rw0) : CT G l yJ1_rotateRight (ws_ yJ1_rotateRight cJ1_rotateRight 3 none) 0 0 0 0 [.ref p0, va_rf o1] (fP PL v0) sz (fun H => pl G PL v0 H) (fun ov H => ov = none ∧ pl G PL rw0 H ∧ H.size = sz ∧ KM v0 rw0 sz) := by
  cases o1 with
  | none =>
    refine Met.ofW (cc := cJ1_rotateRight) (maxL := 3) (ret := none) (by decide +kernel) rfl ?_
    intro p e s m args below meth c s₁ B hml hv
    obtain ⟨rfl, ⟨hz, hW0⟩, hK⟩ := hv
    subst hz
    have hts := atoms_spec (ws := ws_ yJ1_rotateRight cJ1_rotateRight 3 none) B.pre
    have hts : ∀ w ∈ lw_all, w.before _ s = true := fun w h => hts w (List.mem_cons_of_mem _ h)
    have C : Cx G p s m _ meth c RJ1 cJ1_rotateRight 3 none := ⟨B.exec, B.bytes, B.returns, B.notSynchronized, hml, findClass_of_methodNamed B.named, hts, hK⟩
    have hl := lv_entry ([.ref p0, va_rf none]) (n := 3) (Nat.le_of_ble_eq_true rfl)
    rw [lg_entry_eq]
    generalize (lg_sl ([.ref p0, va_rf none]) ++ List.replicate (3 - (lg_sl ([.ref p0, va_rf none])).length) Slot.unset).toArray = ls at hl ⊢
    have hl : lv_has ls 3 [(0, .ref p0), (1, va_rf none)] := hl
    exact w_fJ1_rotateRight C _ _ _ hm s.heap [] ls hW0 va_S.rf rfl KM.rf hl
  | some ao1 =>
    refine Met.ofW (cc := cJ1_rotateRight) (maxL := 3) (ret := none) (by decide +kernel) rfl ?_
    intro p e s m args below meth c s₁ B hml hv
    obtain ⟨rfl, ⟨hz, hW0⟩, hK⟩ := hv
    subst hz
    have hts := atoms_spec (ws := ws_ yJ1_rotateRight cJ1_rotateRight 3 none) B.pre
    have hts : ∀ w ∈ lw_all, w.before _ s = true := fun w h => hts w (List.mem_cons_of_mem _ h)
    have C : Cx G p s m _ meth c RJ1 cJ1_rotateRight 3 none := ⟨B.exec, B.bytes, B.returns, B.notSynchronized, hml, findClass_of_methodNamed B.named, hts, hK⟩
    have hl := lv_entry ([.ref p0, va_rf (some ao1)]) (n := 3) (Nat.le_of_ble_eq_true rfl)
    rw [lg_entry_eq]
    generalize (lg_sl ([.ref p0, va_rf (some ao1)]) ++ List.replicate (3 - (lg_sl ([.ref p0, va_rf (some ao1)])).length) Slot.unset).toArray = ls at hl ⊢
    have hl : lv_has ls 3 [(0, .ref p0), (1, va_rf (some ao1))] := hl
    exact w_fJ1_rotateRight C _ _ _ hm s.heap [] ls hW0 va_S.rf rfl KM.rf hl
theorem yn_J1_rotateRight : YN yJ1_rotateRight 1 := by
  unfold YN
  decide +kernel
theorem lkJ1_314 : LV RJ1 314 RJ1 yJ1_rotateRight cJ1_rotateRight 3 none := ⟨q1454, q1456, qs53, q120, q1457⟩
noncomputable def fJ1_setColor (PL : Nat → Bool) (v0 : Mem) (o0 : Option Nat) (i1 : Int32) : Option (Mem) :=
  od o0 (
  some v0) (fun pa1 =>
  gb (kd PL v0 pa1 18) (
  gb (z01 i1) (
  lm (sI v0 pa1 5 i1) fun v0_4 =>
  some v0_4)))
set_option maxHeartbeats 4000000 in
theorem w_fJ1_setColor (C : Cx G p s m args meth c RJ1 cJ1_setColor 2 none) {PL : Nat → Bool} {vP0 : Mem} {rw0 : Mem} : ∀ (v0 : Mem) (o0 : Option Nat) (i1 : Int32), fJ1_setColor PL v0 o0 i1 = some rw0 → ∀ (H : Heap) (locs : List Loc) (ls : Array Slot), pl G PL v0 H → va_S (FA (fP PL vP0) s.heap.size) s.heap H locs → H.size = s.heap.size → KM vP0 v0 s.heap.size → lv_has ls 2 [(0, va_rf o0), (1, .int i1)] → W p l e (rmT 0 0 0 0) s m args below meth c H locs 0 0 (MQ below (QcT (FA (fP PL vP0) s.heap.size) (fun ov H => ov = none ∧ pl G PL rw0 H ∧ H.size = s.heap.size ∧ KM vP0 rw0 s.heap.size)) args s 0 0 (FA (fP PL vP0) s.heap.size)) (F0 m 0 ls []) := by
  intro v0 o0 i1 hm H locs ls hW0 hS hz hKM hl
  obtain ⟨hx, hb, hr, hlk, hml, hown, hts, hK⟩ := id C
  unfold fJ1_setColor at hm
  refine lv_aload_nO (pc := 0) hx hb dJ1_setColor_0 rfl (lv_at hl 0 rfl) ?_
  rcases o0 with _ | pa1
  · have hm := od_n hm
    refine lv_ifnullN (pc := 1) (tgt := 9) hx hb dJ1_setColor_1 (by decide) ?_
    have e9 := rs1 hm
    subst e9
    exact rk_vret (pc := 9) hx hb hr hlk hS ⟨rfl, hW0, hz, hKM⟩ dJ1_setColor_9
  · have hm := od_s hm
    refine lv_ifnull (pc := 1) hx hb dJ1_setColor_1 ?_
    refine lv_aload_n (pc := 4) hx hb dJ1_setColor_4 rfl (lv_at hl 0 rfl) ?_
    refine lv_iload_n (pc := 5) hx hb dJ1_setColor_5 rfl (lv_at hl 1 rfl) ?_
    obtain ⟨hg2, hm⟩ := gb_some hm
    obtain ⟨hg3, hm⟩ := gb_some hm
    refine rp_put (pc := 6) (q := pa1) hx hb hts hown hK hW0 hS flJ1_290 ft_J11 (kd_A hKM hg2 (by decide)) (shP_18 (kd_PL hg2) (kd_k hg2)) rfl (x := .int i1) (z01_nar hg3) (z01_fit hg3) (Nat.le_of_ble_eq_true rfl) (sI v0 pa1 5 i1) sI_ne (by rw [sI_eq]; exact shP_18 (kd_PL hg2) (kd_k hg2)) dJ1_setColor_6 (fun H5 locs6 hW7 hS8 hz9 hkp10 => ?_)
    have hKM11 := KM.sI (o := pa1) (j := 5) (x := i1) hKM (by decide)
    obtain ⟨v0_4, he9, hm⟩ := lm_some hm
    rw [he9] at hW7 hKM11
    have hz12 := hz9.trans hz
    have e9 := rs1 hm
    subst e9
    exact rk_vret (pc := 9) hx hb hr hlk hS8 ⟨rfl, hW7, hz12, hKM11⟩ dJ1_setColor_9
set_option maxHeartbeats 4000000 in
theorem ct_J1_setColor {G : Gv} {l : Launch} {PL : Nat → Bool} {v0 : Mem} {o0 : Option Nat} {i1 : Int32} {rw0 : Mem} {sz : Nat} (hm : fJ1_setColor PL v0 o0 i1 = some rw0) : CT G l yJ1_setColor (ws_ yJ1_setColor cJ1_setColor 2 none) 0 0 0 0 [va_rf o0, .int i1] (fP PL v0) sz (fun H => pl G PL v0 H) (fun ov H => ov = none ∧ pl G PL rw0 H ∧ H.size = sz ∧ KM v0 rw0 sz) := by
  cases o0 with
  | none =>
    refine Met.ofW (cc := cJ1_setColor) (maxL := 2) (ret := none) (by decide +kernel) rfl ?_
    intro p e s m args below meth c s₁ B hml hv
    obtain ⟨rfl, ⟨hz, hW0⟩, hK⟩ := hv
    subst hz
    have hts := atoms_spec (ws := ws_ yJ1_setColor cJ1_setColor 2 none) B.pre
    have hts : ∀ w ∈ lw_all, w.before _ s = true := fun w h => hts w (List.mem_cons_of_mem _ h)
    have C : Cx G p s m _ meth c RJ1 cJ1_setColor 2 none := ⟨B.exec, B.bytes, B.returns, B.notSynchronized, hml, findClass_of_methodNamed B.named, hts, hK⟩
    have hl := lv_entry ([va_rf none, .int i1]) (n := 2) (Nat.le_of_ble_eq_true rfl)
    rw [lg_entry_eq]
    generalize (lg_sl ([va_rf none, .int i1]) ++ List.replicate (2 - (lg_sl ([va_rf none, .int i1])).length) Slot.unset).toArray = ls at hl ⊢
    have hl : lv_has ls 2 [(0, va_rf none), (1, .int i1)] := hl
    exact w_fJ1_setColor C _ _ _ hm s.heap [] ls hW0 va_S.rf rfl KM.rf hl
  | some ao0 =>
    refine Met.ofW (cc := cJ1_setColor) (maxL := 2) (ret := none) (by decide +kernel) rfl ?_
    intro p e s m args below meth c s₁ B hml hv
    obtain ⟨rfl, ⟨hz, hW0⟩, hK⟩ := hv
    subst hz
    have hts := atoms_spec (ws := ws_ yJ1_setColor cJ1_setColor 2 none) B.pre
    have hts : ∀ w ∈ lw_all, w.before _ s = true := fun w h => hts w (List.mem_cons_of_mem _ h)
    have C : Cx G p s m _ meth c RJ1 cJ1_setColor 2 none := ⟨B.exec, B.bytes, B.returns, B.notSynchronized, hml, findClass_of_methodNamed B.named, hts, hK⟩
    have hl := lv_entry ([va_rf (some ao0), .int i1]) (n := 2) (Nat.le_of_ble_eq_true rfl)
    rw [lg_entry_eq]
    generalize (lg_sl ([va_rf (some ao0), .int i1]) ++ List.replicate (2 - (lg_sl ([va_rf (some ao0), .int i1])).length) Slot.unset).toArray = ls at hl ⊢
    have hl : lv_has ls 2 [(0, va_rf (some ao0)), (1, .int i1)] := hl
    exact w_fJ1_setColor C _ _ _ hm s.heap [] ls hW0 va_S.rf rfl KM.rf hl
theorem yn_J1_setColor : YN yJ1_setColor 2 := by
  unfold YN
  decide +kernel
theorem lkJ1_307 : LSt RJ1 307 yJ1_setColor cJ1_setColor 2 none := ⟨q1447, q1448, q120, q1449⟩
noncomputable def fJ1_rightOf (PL : Nat → Bool) (V0 : Mem) (o0 : Option Nat) : Option (Option Nat) :=
  od o0 (
  some none) (fun pa1 =>
  gb (kd PL V0 pa1 18) (
  lo (gR V0 pa1 3) fun oa3 =>
  some oa3))
set_option maxHeartbeats 4000000 in
theorem w_fJ1_rightOf (C : Cx G p s m args meth c RJ1 cJ1_rightOf 1 (some (.object "java/util/TreeMap$Entry"))) {PL : Nat → Bool} {V0 : Mem} {rx : Option Nat} (hW0 : pl G PL V0 s.heap) : ∀ (o0 : Option Nat), fJ1_rightOf PL V0 o0 = some rx → ∀ (ls : Array Slot), lv_has ls 1 [(0, va_rf o0)] → W p l e (rmP 0 0) s m args below meth c s.heap [] 0 0 (MQ below (QcP (some (va_rf rx))) args s 0 0 (fun _ => False)) (F0 m 0 ls []) := by
  intro o0 hm ls hl
  obtain ⟨hx, hb, hr, hlk, hml, hown, hts, hK⟩ := id C
  unfold fJ1_rightOf at hm
  refine lv_aload_nO (pc := 0) hx hb dJ1_rightOf_0 rfl (lv_at hl 0 rfl) ?_
  rcases o0 with _ | pa1
  · have hm := od_n hm
    refine lv_ifnonnullN (pc := 1) hx hb dJ1_rightOf_1 ?_
    refine lv_null (pc := 4) hx hb dJ1_rightOf_4 ?_
    refine lv_goto (pc := 5) (tgt := 12) hx hb dJ1_rightOf_5 (by decide) ?_
    have e9 := rs1 hm
    subst e9
    exact rp_aretP (x := none) (pc := 12) hx hb hr (Or.inl ⟨_, rfl⟩) hlk rfl dJ1_rightOf_12
  · have hm := od_s hm
    refine lv_ifnonnull (pc := 1) (tgt := 8) hx hb dJ1_rightOf_1 (by decide) ?_
    refine lv_aload_n (pc := 8) hx hb dJ1_rightOf_8 rfl (lv_at hl 0 rfl) ?_
    obtain ⟨hg2, hm⟩ := gb_some hm
    obtain ⟨oa3, he4, hm⟩ := lo_some hm
    refine rk_get (pc := 9) hx hb hts hown hK (pl_rg hW0) flJ1_114 pa1 (Nat.lt_succ_self _) (Nat.zero_add _).symm (shP_18 (kd_PL hg2) (kd_k hg2)) (x := va_rf oa3) (congrArg (fun z => some (va_rf z)) he4) dJ1_rightOf_9 ?_
    have e9 := rs1 hm
    subst e9
    exact rp_aretP (x := oa3) (pc := 12) hx hb hr (Or.inl ⟨_, rfl⟩) hlk rfl dJ1_rightOf_12
set_option maxHeartbeats 4000000 in
theorem ct_J1_rightOf {G : Gv} {l : Launch} {PL : Nat → Bool} {V0 : Mem} {o0 : Option Nat} {rx : Option Nat} (hm : fJ1_rightOf PL V0 o0 = some rx) : CP G l yJ1_rightOf (ws_ yJ1_rightOf cJ1_rightOf 1 (some (.object "java/util/TreeMap$Entry"))) 0 0 [va_rf o0] (fun H => pl G PL V0 H) (some (va_rf rx)) := by
  cases o0 with
  | none =>
    refine Met.ofW (cc := cJ1_rightOf) (maxL := 1) (ret := (some (.object "java/util/TreeMap$Entry"))) (by decide +kernel) rfl ?_
    intro p e s m args below meth c s₁ B hml hv
    obtain ⟨rfl, hW0, hK⟩ := hv
    have hts := atoms_spec (ws := ws_ yJ1_rightOf cJ1_rightOf 1 (some (.object "java/util/TreeMap$Entry"))) B.pre
    have hts : ∀ w ∈ lw_all, w.before _ s = true := fun w h => hts w (List.mem_cons_of_mem _ h)
    have C : Cx G p s m _ meth c RJ1 cJ1_rightOf 1 (some (.object "java/util/TreeMap$Entry")) := ⟨B.exec, B.bytes, B.returns, B.notSynchronized, hml, findClass_of_methodNamed B.named, hts, hK⟩
    have hl := lv_entry ([va_rf none]) (n := 1) (Nat.le_of_ble_eq_true rfl)
    rw [lg_entry_eq]
    generalize (lg_sl ([va_rf none]) ++ List.replicate (1 - (lg_sl ([va_rf none])).length) Slot.unset).toArray = ls at hl ⊢
    have hl : lv_has ls 1 [(0, va_rf none)] := hl
    exact w_fJ1_rightOf C hW0 _ hm ls hl
  | some ao0 =>
    refine Met.ofW (cc := cJ1_rightOf) (maxL := 1) (ret := (some (.object "java/util/TreeMap$Entry"))) (by decide +kernel) rfl ?_
    intro p e s m args below meth c s₁ B hml hv
    obtain ⟨rfl, hW0, hK⟩ := hv
    have hts := atoms_spec (ws := ws_ yJ1_rightOf cJ1_rightOf 1 (some (.object "java/util/TreeMap$Entry"))) B.pre
    have hts : ∀ w ∈ lw_all, w.before _ s = true := fun w h => hts w (List.mem_cons_of_mem _ h)
    have C : Cx G p s m _ meth c RJ1 cJ1_rightOf 1 (some (.object "java/util/TreeMap$Entry")) := ⟨B.exec, B.bytes, B.returns, B.notSynchronized, hml, findClass_of_methodNamed B.named, hts, hK⟩
    have hl := lv_entry ([va_rf (some ao0)]) (n := 1) (Nat.le_of_ble_eq_true rfl)
    rw [lg_entry_eq]
    generalize (lg_sl ([va_rf (some ao0)]) ++ List.replicate (1 - (lg_sl ([va_rf (some ao0)])).length) Slot.unset).toArray = ls at hl ⊢
    have hl : lv_has ls 1 [(0, va_rf (some ao0))] := hl
    exact w_fJ1_rightOf C hW0 _ hm ls hl
theorem yn_J1_rightOf : YN yJ1_rightOf 1 := by
  unfold YN
  decide +kernel
theorem lkJ1_300 : LSt RJ1 300 yJ1_rightOf cJ1_rightOf 1 (some (.object "java/util/TreeMap$Entry")) := ⟨q1441, q1442, q120, q1443⟩
noncomputable def fJ1_rotateLeft_85 (PL : Nat → Bool) (v0 : Mem) (p1 : Nat) (p2 : Nat) : Option (Mem) :=
  gb (kd PL v0 p2 18) (
  lm (sR v0 p2 2 (some p1)) fun v0_111 =>
  gb (kd PL v0_111 p1 18) (
  lm (sR v0_111 p1 4 (some p2)) fun v0_121 =>
  some v0_121))
noncomputable def fJ1_rotateLeft_32 (PL : Nat → Bool) (v0 : Mem) (p0 : Nat) (p1 : Nat) (p2 : Nat) : Option (Mem) :=
  gb (kd PL v0 p1 18) (
  lo (gR v0 p1 4) fun oa42 =>
  gb (kd PL v0 p2 18) (
  lm (sR v0 p2 4 oa42) fun v0_45 =>
  gb (kd PL v0_45 p1 18) (
  lo (gR v0_45 p1 4) fun oa55 =>
  od oa55 (
  gb (kd PL v0_45 p0 16) (
  lm (sR v0_45 p0 3 (some p2)) fun v0_59 =>
  fJ1_rotateLeft_85 PL v0_59 p1 p2)) (fun pa57 =>
  gb (kd PL v0_45 p1 18) (
  lo (gR v0_45 p1 4) fun oa69 =>
  ob oa69 fun pa71 =>
  gb (kd PL v0_45 pa71 18) (
  lo (gR v0_45 pa71 2) fun oa75 =>
  if oa75 = (some p1) then (
  gb (kd PL v0_45 p1 18) (
  lo (gR v0_45 p1 4) fun oa95 =>
  ob oa95 fun pa97 =>
  gb (kd PL v0_45 pa97 18) (
  lm (sR v0_45 pa97 2 (some p2)) fun v0_101 =>
  fJ1_rotateLeft_85 PL v0_101 p1 p2)))
  else (
  gb (kd PL v0_45 p1 18) (
  lo (gR v0_45 p1 4) fun oa79 =>
  ob oa79 fun pa81 =>
  gb (kd PL v0_45 pa81 18) (
  lm (sR v0_45 pa81 3 (some p2)) fun v0_85 =>
  fJ1_rotateLeft_85 PL v0_85 p1 p2)))))))))
noncomputable def fJ1_rotateLeft (PL : Nat → Bool) (v0 : Mem) (p0 : Nat) (o1 : Option Nat) : Option (Mem) :=
  od o1 (
  some v0) (fun pa1 =>
  gb (kd PL v0 pa1 18) (
  lo (gR v0 pa1 3) fun oa3 =>
  ob oa3 fun pa5 =>
  gb (kd PL v0 pa5 18) (
  lo (gR v0 pa5 2) fun oa9 =>
  gb (kd PL v0 pa1 18) (
  lm (sR v0 pa1 3 oa9) fun v0_12 =>
  gb (kd PL v0_12 pa5 18) (
  lo (gR v0_12 pa5 2) fun oa22 =>
  od oa22 (
  fJ1_rotateLeft_32 PL v0_12 p0 pa1 pa5) (fun pa24 =>
  gb (kd PL v0_12 pa5 18) (
  lo (gR v0_12 pa5 2) fun oa26 =>
  ob oa26 fun pa28 =>
  gb (kd PL v0_12 pa28 18) (
  lm (sR v0_12 pa28 4 (some pa1)) fun v0_32 =>
  fJ1_rotateLeft_32 PL v0_32 p0 pa1 pa5))))))))
set_option maxHeartbeats 4000000 in
theorem w_fJ1_rotateLeft_85 (C : Cx G p s m args meth c RJ1 cJ1_rotateLeft 3 none) {PL : Nat → Bool} {vP0 : Mem} {rw0 : Mem} : ∀ (v0 : Mem) (p1 : Nat) (p2 : Nat), fJ1_rotateLeft_85 PL v0 p1 p2 = some rw0 → ∀ (H : Heap) (locs : List Loc) (ls : Array Slot), pl G PL v0 H → va_S (FA (fP PL vP0) s.heap.size) s.heap H locs → H.size = s.heap.size → KM vP0 v0 s.heap.size → lv_has ls 3 [(1, .ref p1), (2, .ref p2)] → W p l e (rmT 0 0 0 0) s m args below meth c H locs 0 0 (MQ below (QcT (FA (fP PL vP0) s.heap.size) (fun ov H => ov = none ∧ pl G PL rw0 H ∧ H.size = s.heap.size ∧ KM vP0 rw0 s.heap.size)) args s 0 0 (FA (fP PL vP0) s.heap.size)) (F0 m 85 ls []) := by
  intro v0 p1 p2 hm H locs ls hW0 hS hz hKM hl
  obtain ⟨hx, hb, hr, hlk, hml, hown, hts, hK⟩ := id C
  unfold fJ1_rotateLeft_85 at hm
  refine lv_aload_n (pc := 85) hx hb dJ1_rotateLeft_85 rfl (lv_at hl 1 rfl) ?_
  refine lv_aload_n (pc := 86) hx hb dJ1_rotateLeft_86 rfl (lv_at hl 0 rfl) ?_
  obtain ⟨hg110, hm⟩ := gb_some hm
  refine rp_put (pc := 87) (q := p2) hx hb hts hown hK hW0 hS flJ1_111 ft_J11 (kd_A hKM hg110 (by decide)) (shP_18 (kd_PL hg110) (kd_k hg110)) rfl (x := va_rf (some p1)) (rf_nar _ rfl (some p1)) (rf_fit _ rfl (some p1)) (Nat.le_of_ble_eq_true rfl) (sR v0 p2 2 (some p1)) sR_ne (by rw [sR_eq]; exact shP_18 (kd_PL hg110) (kd_k hg110)) dJ1_rotateLeft_87 (fun H112 locs113 hW114 hS115 hz116 hkp117 => ?_)
  have hKM118 := KM.sR (o := p2) (j := 2) (x := (some p1)) hKM
  obtain ⟨v0_111, he9, hm⟩ := lm_some hm
  rw [he9] at hW114 hKM118
  have hz119 := hz116.trans hz
  refine lv_aload_n (pc := 90) hx hb dJ1_rotateLeft_90 rfl (lv_at hl 0 rfl) ?_
  refine lv_aload_n (pc := 91) hx hb dJ1_rotateLeft_91 rfl (lv_at hl 1 rfl) ?_
  obtain ⟨hg120, hm⟩ := gb_some hm
  refine rp_put (pc := 92) (q := p1) hx hb hts hown hK hW114 hS115 flJ1_124 ft_J11 (kd_A hKM118 hg120 (by decide)) (shP_18 (kd_PL hg120) (kd_k hg120)) rfl (x := va_rf (some p2)) (rf_nar _ rfl (some p2)) (rf_fit _ rfl (some p2)) (Nat.le_of_ble_eq_true rfl) (sR v0_111 p1 4 (some p2)) sR_ne (by rw [sR_eq]; exact shP_18 (kd_PL hg120) (kd_k hg120)) dJ1_rotateLeft_92 (fun H122 locs123 hW124 hS125 hz126 hkp127 => ?_)
  have hKM128 := KM.sR (o := p1) (j := 4) (x := (some p2)) hKM118
  obtain ⟨v0_121, he9, hm⟩ := lm_some hm
  rw [he9] at hW124 hKM128
  have hz129 := hz126.trans hz119
  have e9 := rs1 hm
  subst e9
  exact rk_vret (pc := 95) hx hb hr hlk hS125 ⟨rfl, hW124, hz129, hKM128⟩ dJ1_rotateLeft_95
set_option maxHeartbeats 4000000 in
theorem w_fJ1_rotateLeft_32 (C : Cx G p s m args meth c RJ1 cJ1_rotateLeft 3 none) {PL : Nat → Bool} {vP0 : Mem} {rw0 : Mem} : ∀ (v0 : Mem) (p0 : Nat) (p1 : Nat) (p2 : Nat), fJ1_rotateLeft_32 PL v0 p0 p1 p2 = some rw0 → ∀ (H : Heap) (locs : List Loc) (ls : Array Slot), pl G PL v0 H → va_S (FA (fP PL vP0) s.heap.size) s.heap H locs → H.size = s.heap.size → KM vP0 v0 s.heap.size → lv_has ls 3 [(0, .ref p0), (1, .ref p1), (2, .ref p2)] → W p l e (rmT 0 0 0 0) s m args below meth c H locs 0 0 (MQ below (QcT (FA (fP PL vP0) s.heap.size) (fun ov H => ov = none ∧ pl G PL rw0 H ∧ H.size = s.heap.size ∧ KM vP0 rw0 s.heap.size)) args s 0 0 (FA (fP PL vP0) s.heap.size)) (F0 m 32 ls []) := by
  intro v0 p0 p1 p2 hm H locs ls hW0 hS hz hKM hl
  obtain ⟨hx, hb, hr, hlk, hml, hown, hts, hK⟩ := id C
  unfold fJ1_rotateLeft_32 at hm
  refine lv_aload_n (pc := 32) hx hb dJ1_rotateLeft_32 rfl (lv_at hl 2 rfl) ?_
  refine lv_aload_n (pc := 33) hx hb dJ1_rotateLeft_33 rfl (lv_at hl 1 rfl) ?_
  obtain ⟨hg41, hm⟩ := gb_some hm
  obtain ⟨oa42, he43, hm⟩ := lo_some hm
  refine rk_get (pc := 34) hx hb hts hown hK (pl_rg hW0) flJ1_124 p1 (Nat.lt_succ_self _) (Nat.zero_add _).symm (shP_18 (kd_PL hg41) (kd_k hg41)) (x := va_rf oa42) (congrArg (fun z => some (va_rf z)) he43) dJ1_rotateLeft_34 ?_
  obtain ⟨hg44, hm⟩ := gb_some hm
  refine rp_put (pc := 37) (q := p2) hx hb hts hown hK hW0 hS flJ1_124 ft_J11 (kd_A hKM hg44 (by decide)) (shP_18 (kd_PL hg44) (kd_k hg44)) rfl (x := va_rf oa42) (rf_nar _ rfl oa42) (rf_fit _ rfl oa42) (Nat.le_of_ble_eq_true rfl) (sR v0 p2 4 oa42) sR_ne (by rw [sR_eq]; exact shP_18 (kd_PL hg44) (kd_k hg44)) dJ1_rotateLeft_37 (fun H46 locs47 hW48 hS49 hz50 hkp51 => ?_)
  have hKM52 := KM.sR (o := p2) (j := 4) (x := oa42) hKM
  obtain ⟨v0_45, he9, hm⟩ := lm_some hm
  rw [he9] at hW48 hKM52
  have hz53 := hz50.trans hz
  refine lv_aload_n (pc := 40) hx hb dJ1_rotateLeft_40 rfl (lv_at hl 1 rfl) ?_
  obtain ⟨hg54, hm⟩ := gb_some hm
  obtain ⟨oa55, he56, hm⟩ := lo_some hm
  refine rk_get (pc := 41) hx hb hts hown hK (pl_rg hW48) flJ1_124 p1 (Nat.lt_succ_self _) (Nat.zero_add _).symm (shP_18 (kd_PL hg54) (kd_k hg54)) (x := va_rf oa55) (congrArg (fun z => some (va_rf z)) he56) dJ1_rotateLeft_41 ?_
  rcases oa55 with _ | pa57
  · have hm := od_n hm
    refine lv_ifnonnullN (pc := 44) hx hb dJ1_rotateLeft_44 ?_
    refine lv_aload_n (pc := 47) hx hb dJ1_rotateLeft_47 rfl (lv_at hl 0 rfl) ?_
    refine lv_aload_n (pc := 48) hx hb dJ1_rotateLeft_48 rfl (lv_at hl 2 rfl) ?_
    obtain ⟨hg58, hm⟩ := gb_some hm
    refine rp_put (pc := 49) (q := p0) hx hb hts hown hK hW48 hS49 flJ1_101 ft_J1 (kd_A hKM52 hg58 (by decide)) (shP_16 (kd_PL hg58) (kd_k hg58)) rfl (x := va_rf (some p2)) (rf_nar _ rfl (some p2)) (rf_fit _ rfl (some p2)) (Nat.le_of_ble_eq_true rfl) (sR v0_45 p0 3 (some p2)) sR_ne (by rw [sR_eq]; exact shP_16 (kd_PL hg58) (kd_k hg58)) dJ1_rotateLeft_49 (fun H60 locs61 hW62 hS63 hz64 hkp65 => ?_)
    have hKM66 := KM.sR (o := p0) (j := 3) (x := (some p2)) hKM52
    obtain ⟨v0_59, he9, hm⟩ := lm_some hm
    rw [he9] at hW62 hKM66
    have hz67 := hz64.trans hz53
    refine lv_goto (pc := 52) (tgt := 85) hx hb dJ1_rotateLeft_52 (by decide) ?_
    exact (w_fJ1_rotateLeft_85 C) v0_59 p1 p2 hm H60 locs61 ls hW62 hS63 hz67 hKM66 (lv_sub hl [1, 2] rfl)
  · have hm := od_s hm
    refine lv_ifnonnull (pc := 44) (tgt := 55) hx hb dJ1_rotateLeft_44 (by decide) ?_
    refine lv_aload_n (pc := 55) hx hb dJ1_rotateLeft_55 rfl (lv_at hl 1 rfl) ?_
    obtain ⟨hg68, hm⟩ := gb_some hm
    obtain ⟨oa69, he70, hm⟩ := lo_some hm
    refine rk_get (pc := 56) hx hb hts hown hK (pl_rg hW48) flJ1_124 p1 (Nat.lt_succ_self _) (Nat.zero_add _).symm (shP_18 (kd_PL hg68) (kd_k hg68)) (x := va_rf oa69) (congrArg (fun z => some (va_rf z)) he70) dJ1_rotateLeft_56 ?_
    obtain ⟨pa71, he72, hm73⟩ := ob_some hm
    subst he72
    have hm := hm73
    obtain ⟨hg74, hm⟩ := gb_some hm
    obtain ⟨oa75, he76, hm⟩ := lo_some hm
    refine rk_get (pc := 59) hx hb hts hown hK (pl_rg hW48) flJ1_111 pa71 (Nat.lt_succ_self _) (Nat.zero_add _).symm (shP_18 (kd_PL hg74) (kd_k hg74)) (x := va_rf oa75) (congrArg (fun z => some (va_rf z)) he76) dJ1_rotateLeft_59 ?_
    refine lv_aload_n (pc := 62) hx hb dJ1_rotateLeft_62 rfl (lv_at hl 1 rfl) ?_
    refine lv_acmp_ne (pc := 63) (rx := oa75) (ry := (some p1)) (tgt := 77) hx hb dJ1_rotateLeft_63 (by decide) (fun c77 => ?_) (fun c77 => ?_)
    · have hm := ite_f c77 hm
      refine lv_aload_n (pc := 77) hx hb dJ1_rotateLeft_77 rfl (lv_at hl 1 rfl) ?_
      obtain ⟨hg78, hm⟩ := gb_some hm
      obtain ⟨oa79, he80, hm⟩ := lo_some hm
      refine rk_get (pc := 78) hx hb hts hown hK (pl_rg hW48) flJ1_124 p1 (Nat.lt_succ_self _) (Nat.zero_add _).symm (shP_18 (kd_PL hg78) (kd_k hg78)) (x := va_rf oa79) (congrArg (fun z => some (va_rf z)) he80) dJ1_rotateLeft_78 ?_
      refine lv_aload_n (pc := 81) hx hb dJ1_rotateLeft_81 rfl (lv_at hl 2 rfl) ?_
      obtain ⟨pa81, he82, hm83⟩ := ob_some hm
      subst he82
      have hm := hm83
      obtain ⟨hg84, hm⟩ := gb_some hm
      refine rp_put (pc := 82) (q := pa81) hx hb hts hown hK hW48 hS49 flJ1_114 ft_J11 (kd_A hKM52 hg84 (by decide)) (shP_18 (kd_PL hg84) (kd_k hg84)) rfl (x := va_rf (some p2)) (rf_nar _ rfl (some p2)) (rf_fit _ rfl (some p2)) (Nat.le_of_ble_eq_true rfl) (sR v0_45 pa81 3 (some p2)) sR_ne (by rw [sR_eq]; exact shP_18 (kd_PL hg84) (kd_k hg84)) dJ1_rotateLeft_82 (fun H86 locs87 hW88 hS89 hz90 hkp91 => ?_)
      have hKM92 := KM.sR (o := pa81) (j := 3) (x := (some p2)) hKM52
      obtain ⟨v0_85, he9, hm⟩ := lm_some hm
      rw [he9] at hW88 hKM92
      have hz93 := hz90.trans hz53
      exact (w_fJ1_rotateLeft_85 C) v0_85 p1 p2 hm H86 locs87 ls hW88 hS89 hz93 hKM92 (lv_sub hl [1, 2] rfl)
    · have hm := ite_t c77 hm
      refine lv_aload_n (pc := 66) hx hb dJ1_rotateLeft_66 rfl (lv_at hl 1 rfl) ?_
      obtain ⟨hg94, hm⟩ := gb_some hm
      obtain ⟨oa95, he96, hm⟩ := lo_some hm
      refine rk_get (pc := 67) hx hb hts hown hK (pl_rg hW48) flJ1_124 p1 (Nat.lt_succ_self _) (Nat.zero_add _).symm (shP_18 (kd_PL hg94) (kd_k hg94)) (x := va_rf oa95) (congrArg (fun z => some (va_rf z)) he96) dJ1_rotateLeft_67 ?_
      refine lv_aload_n (pc := 70) hx hb dJ1_rotateLeft_70 rfl (lv_at hl 2 rfl) ?_
      obtain ⟨pa97, he98, hm99⟩ := ob_some hm
      subst he98
      have hm := hm99
      obtain ⟨hg100, hm⟩ := gb_some hm
      refine rp_put (pc := 71) (q := pa97) hx hb hts hown hK hW48 hS49 flJ1_111 ft_J11 (kd_A hKM52 hg100 (by decide)) (shP_18 (kd_PL hg100) (kd_k hg100)) rfl (x := va_rf (some p2)) (rf_nar _ rfl (some p2)) (rf_fit _ rfl (some p2)) (Nat.le_of_ble_eq_true rfl) (sR v0_45 pa97 2 (some p2)) sR_ne (by rw [sR_eq]; exact shP_18 (kd_PL hg100) (kd_k hg100)) dJ1_rotateLeft_71 (fun H102 locs103 hW104 hS105 hz106 hkp107 => ?_)
      have hKM108 := KM.sR (o := pa97) (j := 2) (x := (some p2)) hKM52
      obtain ⟨v0_101, he9, hm⟩ := lm_some hm
      rw [he9] at hW104 hKM108
      have hz109 := hz106.trans hz53
      refine lv_goto (pc := 74) (tgt := 85) hx hb dJ1_rotateLeft_74 (by decide) ?_
      exact (w_fJ1_rotateLeft_85 C) v0_101 p1 p2 hm H102 locs103 ls hW104 hS105 hz109 hKM108 (lv_sub hl [1, 2] rfl)
set_option maxHeartbeats 4000000 in
theorem w_fJ1_rotateLeft (C : Cx G p s m args meth c RJ1 cJ1_rotateLeft 3 none) {PL : Nat → Bool} {vP0 : Mem} {rw0 : Mem} : ∀ (v0 : Mem) (p0 : Nat) (o1 : Option Nat), fJ1_rotateLeft PL v0 p0 o1 = some rw0 → ∀ (H : Heap) (locs : List Loc) (ls : Array Slot), pl G PL v0 H → va_S (FA (fP PL vP0) s.heap.size) s.heap H locs → H.size = s.heap.size → KM vP0 v0 s.heap.size → lv_has ls 3 [(0, .ref p0), (1, va_rf o1)] → W p l e (rmT 0 0 0 0) s m args below meth c H locs 0 0 (MQ below (QcT (FA (fP PL vP0) s.heap.size) (fun ov H => ov = none ∧ pl G PL rw0 H ∧ H.size = s.heap.size ∧ KM vP0 rw0 s.heap.size)) args s 0 0 (FA (fP PL vP0) s.heap.size)) (F0 m 0 ls []) := by
  intro v0 p0 o1 hm H locs ls hW0 hS hz hKM hl
  obtain ⟨hx, hb, hr, hlk, hml, hown, hts, hK⟩ := id C
  unfold fJ1_rotateLeft at hm
  refine lv_aload_nO (pc := 0) hx hb dJ1_rotateLeft_0 rfl (lv_at hl 1 rfl) ?_
  rcases o1 with _ | pa1
  · have hm := od_n hm
    refine lv_ifnullN (pc := 1) (tgt := 95) hx hb dJ1_rotateLeft_1 (by decide) ?_
    have e9 := rs1 hm
    subst e9
    exact rk_vret (pc := 95) hx hb hr hlk hS ⟨rfl, hW0, hz, hKM⟩ dJ1_rotateLeft_95
  · have hm := od_s hm
    refine lv_ifnull (pc := 1) hx hb dJ1_rotateLeft_1 ?_
    refine lv_aload_n (pc := 4) hx hb dJ1_rotateLeft_4 rfl (lv_at hl 1 rfl) ?_
    obtain ⟨hg2, hm⟩ := gb_some hm
    obtain ⟨oa3, he4, hm⟩ := lo_some hm
    refine rk_get (pc := 5) hx hb hts hown hK (pl_rg hW0) flJ1_114 pa1 (Nat.lt_succ_self _) (Nat.zero_add _).symm (shP_18 (kd_PL hg2) (kd_k hg2)) (x := va_rf oa3) (congrArg (fun z => some (va_rf z)) he4) dJ1_rotateLeft_5 ?_
    refine lv_astore_nO (pc := 8) (lv' := [(2, va_rf oa3), (0, .ref p0), (1, .ref pa1)]) hx hb dJ1_rotateLeft_8 rfl hl (by decide) rfl (fun ls hl => ?_)
    refine lv_aload_n (pc := 9) hx hb dJ1_rotateLeft_9 rfl (lv_at hl 2 rfl) ?_
    refine lv_aload_nO (pc := 10) hx hb dJ1_rotateLeft_10 rfl (lv_at hl 0 rfl) ?_
    obtain ⟨pa5, he6, hm7⟩ := ob_some hm
    subst he6
    have hm := hm7
    obtain ⟨hg8, hm⟩ := gb_some hm
    obtain ⟨oa9, he10, hm⟩ := lo_some hm
    refine rk_get (pc := 11) hx hb hts hown hK (pl_rg hW0) flJ1_111 pa5 (Nat.lt_succ_self _) (Nat.zero_add _).symm (shP_18 (kd_PL hg8) (kd_k hg8)) (x := va_rf oa9) (congrArg (fun z => some (va_rf z)) he10) dJ1_rotateLeft_11 ?_
    obtain ⟨hg11, hm⟩ := gb_some hm
    refine rp_put (pc := 14) (q := pa1) hx hb hts hown hK hW0 hS flJ1_114 ft_J11 (kd_A hKM hg11 (by decide)) (shP_18 (kd_PL hg11) (kd_k hg11)) rfl (x := va_rf oa9) (rf_nar _ rfl oa9) (rf_fit _ rfl oa9) (Nat.le_of_ble_eq_true rfl) (sR v0 pa1 3 oa9) sR_ne (by rw [sR_eq]; exact shP_18 (kd_PL hg11) (kd_k hg11)) dJ1_rotateLeft_14 (fun H13 locs14 hW15 hS16 hz17 hkp18 => ?_)
    have hKM19 := KM.sR (o := pa1) (j := 3) (x := oa9) hKM
    obtain ⟨v0_12, he9, hm⟩ := lm_some hm
    rw [he9] at hW15 hKM19
    have hz20 := hz17.trans hz
    refine lv_aload_n (pc := 17) hx hb dJ1_rotateLeft_17 rfl (lv_at hl 0 rfl) ?_
    obtain ⟨hg21, hm⟩ := gb_some hm
    obtain ⟨oa22, he23, hm⟩ := lo_some hm
    refine rk_get (pc := 18) hx hb hts hown hK (pl_rg hW15) flJ1_111 pa5 (Nat.lt_succ_self _) (Nat.zero_add _).symm (shP_18 (kd_PL hg21) (kd_k hg21)) (x := va_rf oa22) (congrArg (fun z => some (va_rf z)) he23) dJ1_rotateLeft_18 ?_
    rcases oa22 with _ | pa24
    · have hm := od_n hm
      refine lv_ifnullN (pc := 21) (tgt := 32) hx hb dJ1_rotateLeft_21 (by decide) ?_
      exact (w_fJ1_rotateLeft_32 C) v0_12 p0 pa1 pa5 hm H13 locs14 ls hW15 hS16 hz20 hKM19 (lv_sub hl [1, 2, 0] rfl)
    · have hm := od_s hm
      refine lv_ifnull (pc := 21) hx hb dJ1_rotateLeft_21 ?_
      refine lv_aload_n (pc := 24) hx hb dJ1_rotateLeft_24 rfl (lv_at hl 0 rfl) ?_
      obtain ⟨hg25, hm⟩ := gb_some hm
      obtain ⟨oa26, he27, hm⟩ := lo_some hm
      refine rk_get (pc := 25) hx hb hts hown hK (pl_rg hW15) flJ1_111 pa5 (Nat.lt_succ_self _) (Nat.zero_add _).symm (shP_18 (kd_PL hg25) (kd_k hg25)) (x := va_rf oa26) (congrArg (fun z => some (va_rf z)) he27) dJ1_rotateLeft_25 ?_
      refine lv_aload_n (pc := 28) hx hb dJ1_rotateLeft_28 rfl (lv_at hl 2 rfl) ?_
      obtain ⟨pa28, he29, hm30⟩ := ob_some hm
      subst he29
      have hm := hm30
      obtain ⟨hg31, hm⟩ := gb_some hm
      refine rp_put (pc := 29) (q := pa28) hx hb hts hown hK hW15 hS16 flJ1_124 ft_J11 (kd_A hKM19 hg31 (by decide)) (shP_18 (kd_PL hg31) (kd_k hg31)) rfl (x := va_rf (some pa1)) (rf_nar _ rfl (some pa1)) (rf_fit _ rfl (some pa1)) (Nat.le_of_ble_eq_true rfl) (sR v0_12 pa28 4 (some pa1)) sR_ne (by rw [sR_eq]; exact shP_18 (kd_PL hg31) (kd_k hg31)) dJ1_rotateLeft_29 (fun H33 locs34 hW35 hS36 hz37 hkp38 => ?_)
      have hKM39 := KM.sR (o := pa28) (j := 4) (x := (some pa1)) hKM19
      obtain ⟨v0_32, he9, hm⟩ := lm_some hm
      rw [he9] at hW35 hKM39
      have hz40 := hz37.trans hz20
      exact (w_fJ1_rotateLeft_32 C) v0_32 p0 pa1 pa5 hm H33 locs34 ls hW35 hS36 hz40 hKM39 (lv_sub hl [1, 2, 0] rfl)
set_option maxHeartbeats 4000000 in
theorem ct_J1_rotateLeft {G : Gv} {l : Launch} {PL : Nat → Bool} {v0 : Mem} {p0 : Nat} {o1 : Option Nat} {rw0 : Mem} {sz : Nat} (hm : fJ1_rotateLeft PL v0 p0 o1 = some rw0) : CT G l yJ1_rotateLeft (ws_ yJ1_rotateLeft cJ1_rotateLeft 3 none) 0 0 0 0 [.ref p0, va_rf o1] (fP PL v0) sz (fun H => pl G PL v0 H) (fun ov H => ov = none ∧ pl G PL rw0 H ∧ H.size = sz ∧ KM v0 rw0 sz) := by
  cases o1 with
  | none =>
    refine Met.ofW (cc := cJ1_rotateLeft) (maxL := 3) (ret := none) (by decide +kernel) rfl ?_
    intro p e s m args below meth c s₁ B hml hv
    obtain ⟨rfl, ⟨hz, hW0⟩, hK⟩ := hv
    subst hz
    have hts := atoms_spec (ws := ws_ yJ1_rotateLeft cJ1_rotateLeft 3 none) B.pre
    have hts : ∀ w ∈ lw_all, w.before _ s = true := fun w h => hts w (List.mem_cons_of_mem _ h)
    have C : Cx G p s m _ meth c RJ1 cJ1_rotateLeft 3 none := ⟨B.exec, B.bytes, B.returns, B.notSynchronized, hml, findClass_of_methodNamed B.named, hts, hK⟩
    have hl := lv_entry ([.ref p0, va_rf none]) (n := 3) (Nat.le_of_ble_eq_true rfl)
    rw [lg_entry_eq]
    generalize (lg_sl ([.ref p0, va_rf none]) ++ List.replicate (3 - (lg_sl ([.ref p0, va_rf none])).length) Slot.unset).toArray = ls at hl ⊢
    have hl : lv_has ls 3 [(0, .ref p0), (1, va_rf none)] := hl
    exact w_fJ1_rotateLeft C _ _ _ hm s.heap [] ls hW0 va_S.rf rfl KM.rf hl
  | some ao1 =>
    refine Met.ofW (cc := cJ1_rotateLeft) (maxL := 3) (ret := none) (by decide +kernel) rfl ?_
    intro p e s m args below meth c s₁ B hml hv
    obtain ⟨rfl, ⟨hz, hW0⟩, hK⟩ := hv
    subst hz
    have hts := atoms_spec (ws := ws_ yJ1_rotateLeft cJ1_rotateLeft 3 none) B.pre
    have hts : ∀ w ∈ lw_all, w.before _ s = true := fun w h => hts w (List.mem_cons_of_mem _ h)
    have C : Cx G p s m _ meth c RJ1 cJ1_rotateLeft 3 none := ⟨B.exec, B.bytes, B.returns, B.notSynchronized, hml, findClass_of_methodNamed B.named, hts, hK⟩
    have hl := lv_entry ([.ref p0, va_rf (some ao1)]) (n := 3) (Nat.le_of_ble_eq_true rfl)
    rw [lg_entry_eq]
    generalize (lg_sl ([.ref p0, va_rf (some ao1)]) ++ List.replicate (3 - (lg_sl ([.ref p0, va_rf (some ao1)])).length) Slot.unset).toArray = ls at hl ⊢
    have hl : lv_has ls 3 [(0, .ref p0), (1, va_rf (some ao1))] := hl
    exact w_fJ1_rotateLeft C _ _ _ hm s.heap [] ls hW0 va_S.rf rfl KM.rf hl
end
