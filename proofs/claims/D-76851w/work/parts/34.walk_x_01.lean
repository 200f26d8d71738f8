set_option maxRecDepth 100000
section
variable {p : Program} {l : Launch} {e : Env} {s : State} {m : MethodId} {args : Array Value} {below : List Frame} {meth : Method} {c : Code} {G : Gv}
noncomputable def fX0_divisor_6 (k6 : Int64 → Int64 → Option (Int64)) (j4 : Int64) (j6 : Int64) : Option (Int64) :=
  if j6 = (0 : Int64) then (
  some j4)
  else (
  gb (nz64 j6) (
  k6 j6 (j4 - j4 / j6 * j6)))
noncomputable def fX0_divisor (j0 : Int64) (j2 : Int64) : Option (Int64) :=
  lq2 (fX0_divisor_6) FU j0 j2
set_option maxHeartbeats 4000000 in
theorem w_fX0_divisor_6 (C : Cx G p s m args meth c RX0 cX0_divisor 10 (some .long)) {rx : Int64} {k6 : Int64 → Int64 → Option (Int64)} (hk6 : ∀ (j4 : Int64) (j6 : Int64), k6 j4 j6 = some rx → ∀ (ls : Array Slot), lv_has ls 10 [(4, .long j4), (6, .long j6)] → W p l e (rmP 0 0) s m args below meth c s.heap [] 0 0 (MQ below (QcP (some (.long rx))) args s 0 0 (fun _ => False)) (F0 m 6 ls [])) : ∀ (j4 : Int64) (j6 : Int64), fX0_divisor_6 k6 j4 j6 = some rx → ∀ (ls : Array Slot), lv_has ls 10 [(4, .long j4), (6, .long j6)] → W p l e (rmP 0 0) s m args below meth c s.heap [] 0 0 (MQ below (QcP (some (.long rx))) args s 0 0 (fun _ => False)) (F0 m 6 ls []) := by
  intro j4 j6 hm ls hl
  obtain ⟨hx, hb, hr, hlk, hml, hown, hts, hK⟩ := id C
  unfold fX0_divisor_6 at hm
  refine lv_lload (pc := 6) hx hb dX0_divisor_6 (lv_at hl 1 rfl) ?_
  refine lv_lconst (pc := 8) (v := (0 : Int64)) hx hb dX0_divisor_8 (by decide) ?_
  refine rk_lcmp_eq (pc := 9) (tgt := 31) hx hb dX0_divisor_9 rfl dX0_divisor_10 (by decide) (fun c1 => ?_) (fun c1 => ?_)
  · have hm := ite_t c1 hm
    refine lv_lload (pc := 31) hx hb dX0_divisor_31 (lv_at hl 0 rfl) ?_
    have e9 := rs1 hm
    subst e9
    exact rk_lretP (pc := 33) hx hb hr hlk rfl dX0_divisor_33
  · have hm := ite_f c1 hm
    refine lv_lload (pc := 13) hx hb dX0_divisor_13 (lv_at hl 0 rfl) ?_
    refine lv_lload (pc := 15) hx hb dX0_divisor_15 (lv_at hl 1 rfl) ?_
    obtain ⟨hg2, hm⟩ := gb_some hm
    refine lv_lrem (pc := 17) hx hb dX0_divisor_17 (nz64_ne hg2) ?_
    refine lv_lstore (pc := 18) (lv' := [(8, .long (j4 - j4 / j6 * j6)), (4, .long j4), (6, .long j6)]) hx hb dX0_divisor_18 hl (by decide) rfl (fun ls hl => ?_)
    refine lv_lload (pc := 20) hx hb dX0_divisor_20 (lv_at hl 2 rfl) ?_
    refine lv_lstore (pc := 22) (lv' := [(4, .long j6), (8, .long (j4 - j4 / j6 * j6)), (6, .long j6)]) hx hb dX0_divisor_22 hl (by decide) rfl (fun ls hl => ?_)
    refine lv_lload (pc := 24) hx hb dX0_divisor_24 (lv_at hl 1 rfl) ?_
    refine lv_lstore (pc := 26) (lv' := [(6, .long (j4 - j4 / j6 * j6)), (4, .long j6), (8, .long (j4 - j4 / j6 * j6))]) hx hb dX0_divisor_26 hl (by decide) rfl (fun ls hl => ?_)
    refine lv_goto (pc := 28) (tgt := 6) hx hb dX0_divisor_28 (by decide) ?_
    exact hk6 j6 (j4 - j4 / j6 * j6) hm ls (lv_sub hl [1, 0] rfl)
theorem w_fX0_divisor_6_l (C : Cx G p s m args meth c RX0 cX0_divisor 10 (some .long)) {rx : Int64} : ∀ (n : Nat) (j4 : Int64) (j6 : Int64), lq2 (fX0_divisor_6) n j4 j6 = some rx → ∀ (ls : Array Slot), lv_has ls 10 [(4, .long j4), (6, .long j6)] → W p l e (rmP 0 0) s m args below meth c s.heap [] 0 0 (MQ below (QcP (some (.long rx))) args s 0 0 (fun _ => False)) (F0 m 6 ls []) := by
  intro n
  induction n with
  | zero => intro j4 j6 hm; exact (lq2_0 hm).elim
  | succ n ih => intro j4 j6 hm; exact w_fX0_divisor_6 C ih j4 j6 (lq2_s hm)
set_option maxHeartbeats 4000000 in
theorem w_fX0_divisor (C : Cx G p s m args meth c RX0 cX0_divisor 10 (some .long)) {rx : Int64} : ∀ (j0 : Int64) (j2 : Int64), fX0_divisor j0 j2 = some rx → ∀ (ls : Array Slot), lv_has ls 10 [(0, .long j0), (2, .long j2)] → W p l e (rmP 0 0) s m args below meth c s.heap [] 0 0 (MQ below (QcP (some (.long rx))) args s 0 0 (fun _ => False)) (F0 m 0 ls []) := by
  intro j0 j2 hm ls hl
  obtain ⟨hx, hb, hr, hlk, hml, hown, hts, hK⟩ := id C
  unfold fX0_divisor at hm
  refine lv_lload_n (pc := 0) hx hb dX0_divisor_0 rfl (lv_at hl 0 rfl) ?_
  refine lv_lstore (pc := 1) (lv' := [(4, .long j0), (0, .long j0), (2, .long j2)]) hx hb dX0_divisor_1 hl (by decide) rfl (fun ls hl => ?_)
  refine lv_lload_n (pc := 3) hx hb dX0_divisor_3 rfl (lv_at hl 2 rfl) ?_
  refine lv_lstore (pc := 4) (lv' := [(6, .long j2), (4, .long j0), (0, .long j0), (2, .long j2)]) hx hb dX0_divisor_4 hl (by decide) rfl (fun ls hl => ?_)
  exact (w_fX0_divisor_6_l C FU) j0 j2 hm ls (lv_sub hl [1, 0] rfl)
set_option maxHeartbeats 4000000 in
theorem ct_X0_divisor {G : Gv} {l : Launch} {j0 : Int64} {j2 : Int64} {rx : Int64} (hm : fX0_divisor j0 j2 = some rx) : CP G l yX0_divisor (ws_ yX0_divisor cX0_divisor 10 (some .long)) 0 0 [.long j0, .long j2] (fun H => True) (some (.long rx)) := by
  refine Met.ofW (cc := cX0_divisor) (maxL := 10) (ret := (some .long)) (by decide +kernel) rfl ?_
  intro p e s m args below meth c s₁ B hml hv
  obtain ⟨rfl, -, hK⟩ := hv
  have hts := atoms_spec (ws := ws_ yX0_divisor cX0_divisor 10 (some .long)) B.pre
  have hts : ∀ w ∈ lw_all, w.before _ s = true := fun w h => hts w (List.mem_cons_of_mem _ h)
  have C : Cx G p s m _ meth c RX0 cX0_divisor 10 (some .long) := ⟨B.exec, B.bytes, B.returns, B.notSynchronized, hml, findClass_of_methodNamed B.named, hts, hK⟩
  have hl := lv_entry ([.long j0, .long j2]) (n := 10) (Nat.le_of_ble_eq_true rfl)
  rw [lg_entry_eq]
  generalize (lg_sl ([.long j0, .long j2]) ++ List.replicate (10 - (lg_sl ([.long j0, .long j2])).length) Slot.unset).toArray = ls at hl ⊢
  have hl : lv_has ls 10 [(0, .long j0), (2, .long j2)] := hl
  exact w_fX0_divisor C _ _ hm ls hl
theorem yn_X0_divisor : YN yX0_divisor 2 := by
  unfold YN
  decide +kernel
theorem lkX0_117 : LSt RX0 117 yX0_divisor cX0_divisor 10 (some .long) := ⟨q916, q917, q114, q918⟩
noncomputable def fX0_lowest (j0 : Int64) (j2 : Int64) (i4 : Int32) : Option (Int64) :=
  if i4 = 0 then (
  ob (fX0_divisor j0 j2) fun r5 =>
  gb (nz64 r5) (
  some (j0 / r5)))
  else (
  ob (fX0_divisor j0 j2) fun r2 =>
  gb (nz64 r2) (
  some (j2 / r2)))
set_option maxHeartbeats 4000000 in
theorem w_fX0_lowest (C : Cx G p s m args meth c RX0 cX0_lowest 5 (some .long)) {rx : Int64} : ∀ (j0 : Int64) (j2 : Int64) (i4 : Int32), fX0_lowest j0 j2 i4 = some rx → ∀ (ls : Array Slot), lv_has ls 5 [(0, .long j0), (2, .long j2), (4, .int i4)] → W p l e (rmP 1 29) s m args below meth c s.heap [] 0 0 (MQ below (QcP (some (.long rx))) args s 0 0 (fun _ => False)) (F0 m 0 ls []) := by
  intro j0 j2 i4 hm ls hl
  obtain ⟨hx, hb, hr, hlk, hml, hown, hts, hK⟩ := id C
  unfold fX0_lowest at hm
  refine lv_iload (pc := 0) hx hb dX0_lowest_0 (lv_at hl 2 rfl) ?_
  refine lv_if_ne (pc := 2) (tgt := 9) hx hb dX0_lowest_2 (by decide) (fun c1 => ?_) (fun c1 => ?_)
  · have hm := ite_f c1 hm
    refine lv_lload_n (pc := 9) hx hb dX0_lowest_9 rfl (lv_at hl 1 rfl) ?_
    refine lv_lload_n (pc := 10) hx hb dX0_lowest_10 rfl (lv_at hl 0 rfl) ?_
    refine lv_lload_n (pc := 11) hx hb dX0_lowest_11 rfl (lv_at hl 1 rfl) ?_
    obtain ⟨r2, hq3, hm⟩ := ob_some hm
    refine rk_PS (pc := 12) (As := [.long j0, .long j2]) (rest := [.long j2]) hx hb hml hown hts hK lkX0_117 yn_X0_divisor (ct_X0_divisor (G := G) (l := l) hq3) ⟨Nat.le_of_ble_eq_true rfl, Nat.le_of_ble_eq_true rfl⟩ trivial rfl rfl hl.1 (Nat.le_of_ble_eq_true rfl) dX0_lowest_12 ⟨Nat.zero_le _, Nat.zero_le _⟩ ?_
    refine W.eq (g2 := F0 m 15 ls [.long r2, .long j2]) rfl ?_
    obtain ⟨hg4, hm⟩ := gb_some hm
    refine lv_ldiv (pc := 15) hx hb dX0_lowest_15 (nz64_ne hg4) ?_
    have e9 := rs1 hm
    subst e9
    exact rk_lretP (pc := 16) hx hb hr hlk rfl dX0_lowest_16
  · have hm := ite_t c1 hm
    refine lv_lload_n (pc := 5) hx hb dX0_lowest_5 rfl (lv_at hl 0 rfl) ?_
    refine lv_goto (pc := 6) (tgt := 10) hx hb dX0_lowest_6 (by decide) ?_
    refine lv_lload_n (pc := 10) hx hb dX0_lowest_10 rfl (lv_at hl 0 rfl) ?_
    refine lv_lload_n (pc := 11) hx hb dX0_lowest_11 rfl (lv_at hl 1 rfl) ?_
    obtain ⟨r5, hq6, hm⟩ := ob_some hm
    refine rk_PS (pc := 12) (As := [.long j0, .long j2]) (rest := [.long j0]) hx hb hml hown hts hK lkX0_117 yn_X0_divisor (ct_X0_divisor (G := G) (l := l) hq6) ⟨Nat.le_of_ble_eq_true rfl, Nat.le_of_ble_eq_true rfl⟩ trivial rfl rfl hl.1 (Nat.le_of_ble_eq_true rfl) dX0_lowest_12 ⟨Nat.zero_le _, Nat.zero_le _⟩ ?_
    refine W.eq (g2 := F0 m 15 ls [.long r5, .long j0]) rfl ?_
    obtain ⟨hg7, hm⟩ := gb_some hm
    refine lv_ldiv (pc := 15) hx hb dX0_lowest_15 (nz64_ne hg7) ?_
    have e9 := rs1 hm
    subst e9
    exact rk_lretP (pc := 16) hx hb hr hlk rfl dX0_lowest_16
set_option maxHeartbeats 4000000 in
theorem ct_X0_lowest {G : Gv} {l : Launch} {j0 : Int64} {j2 : Int64} {i4 : Int32} {rx : Int64} (hm : fX0_lowest j0 j2 i4 = some rx) : CP G l yX0_lowest (ws_ yX0_lowest cX0_lowest 5 (some .long)) 1 29 [.long j0, .long j2, .int i4] (fun H => True) (some (.long rx)) := by
  refine Met.ofW (cc := cX0_lowest) (maxL := 5) (ret := (some .long)) (by decide +kernel) rfl ?_
  intro p e s m args below meth c s₁ B hml hv
  obtain ⟨rfl, -, hK⟩ := hv
  have hts := atoms_spec (ws := ws_ yX0_lowest cX0_lowest 5 (some .long)) B.pre
  have hts : ∀ w ∈ lw_all, w.before _ s = true := fun w h => hts w (List.mem_cons_of_mem _ h)
  have C : Cx G p s m _ meth c RX0 cX0_lowest 5 (some .long) := ⟨B.exec, B.bytes, B.returns, B.notSynchronized, hml, findClass_of_methodNamed B.named, hts, hK⟩
  have hl := lv_entry ([.long j0, .long j2, .int i4]) (n := 5) (Nat.le_of_ble_eq_true rfl)
  rw [lg_entry_eq]
  generalize (lg_sl ([.long j0, .long j2, .int i4]) ++ List.replicate (5 - (lg_sl ([.long j0, .long j2, .int i4])).length) Slot.unset).toArray = ls at hl ⊢
  have hl : lv_has ls 5 [(0, .long j0), (2, .long j2), (4, .int i4)] := hl
  exact w_fX0_lowest C _ _ _ hm ls hl
theorem ft_X0 : FT TX0 25 tyX0 := ⟨tyX0_ok, nmX0⟩
theorem flX0_121 : FL RX0 121 0 6 RX0 TX0 25 := ⟨in_X0, rfl, by decide, q502⟩
noncomputable def fX0_told (v0 : Mem) (i1 : Int32) : Option (Int32 × Mem) :=
  lm (sI v0 0 6 (0 : Int32)) fun v0_1 =>
  some (i1, v0_1)
set_option maxHeartbeats 4000000 in
theorem w_fX0_told (C : Cx G p s m args meth c RX0 cX0_told 2 (some .int)) {b0 : Nat} {rx : Int32} {rw0 : Mem} : ∀ (v0 : Mem) (i1 : Int32), fX0_told v0 i1 = some (rx, rw0) → ∀ (H : Heap) (locs : List Loc) (ls : Array Slot), rg G b0 357 (shX0 G.2.1) v0 H → va_S (FA (fX b0) s.heap.size) s.heap H locs → H.size = s.heap.size → lv_has ls 2 [(0, .ref b0), (1, .int i1)] → W p l e (rmT 0 0 0 0) s m args below meth c H locs 0 0 (MQ below (QcT (FA (fX b0) s.heap.size) (fun ov H => ov = (some (.int rx)) ∧ rg G b0 357 (shX0 G.2.1) rw0 H ∧ H.size = s.heap.size)) args s 0 0 (FA (fX b0) s.heap.size)) (F0 m 0 ls []) := by
  intro v0 i1 hm H locs ls hW0 hS hz hl
  obtain ⟨hx, hb, hr, hlk, hml, hown, hts, hK⟩ := id C
  unfold fX0_told at hm
  refine lv_aload_n (pc := 0) hx hb dX0_told_0 rfl (lv_at hl 0 rfl) ?_
  refine lv_iconst (pc := 1) (v := (0 : Int32)) hx hb dX0_told_1 (by decide) ?_
  refine rk_put (pc := 2) hx hb hts hown hK hW0 hS flX0_121 ft_X0 0 (by decide) rfl (Or.inl (show fX _ _ from ⟨⟨by omega, by omega⟩, by omega⟩)) rfl rfl (x := .int (0 : Int32)) rfl rfl (Nat.le_of_ble_eq_true rfl) (sI v0 0 6 (0 : Int32)) sI_ne (by rw [sI_eq]; exact rfl) dX0_told_2 (fun H2 locs3 hW4 hS5 hz6 hkp7 => ?_)
  obtain ⟨v0_1, he9, hm⟩ := lm_some hm
  rw [he9] at hW4
  have hz8 := hz6.trans hz
  refine lv_iload_n (pc := 5) hx hb dX0_told_5 rfl (lv_at hl 1 rfl) ?_
  obtain ⟨e8, e9⟩ := rs2 hm
  subst e8
  subst e9
  exact rk_iret (pc := 6) hx hb hr hlk hS5 ⟨rfl, hW4, hz8⟩ dX0_told_6
set_option maxHeartbeats 4000000 in
theorem ct_X0_told {G : Gv} {l : Launch} {b0 : Nat} {v0 : Mem} {i1 : Int32} {rx : Int32} {rw0 : Mem} {sz : Nat} (hm : fX0_told v0 i1 = some (rx, rw0)) : CT G l yX0_told (ws_ yX0_told cX0_told 2 (some .int)) 0 0 0 0 [.ref b0, .int i1] (fX b0) sz (fun H => rg G b0 357 (shX0 G.2.1) v0 H) (fun ov H => ov = (some (.int rx)) ∧ rg G b0 357 (shX0 G.2.1) rw0 H ∧ H.size = sz) := by
  refine Met.ofW (cc := cX0_told) (maxL := 2) (ret := (some .int)) (by decide +kernel) rfl ?_
  intro p e s m args below meth c s₁ B hml hv
  obtain ⟨rfl, ⟨hz, hW0⟩, hK⟩ := hv
  subst hz
  have hts := atoms_spec (ws := ws_ yX0_told cX0_told 2 (some .int)) B.pre
  have hts : ∀ w ∈ lw_all, w.before _ s = true := fun w h => hts w (List.mem_cons_of_mem _ h)
  have C : Cx G p s m _ meth c RX0 cX0_told 2 (some .int) := ⟨B.exec, B.bytes, B.returns, B.notSynchronized, hml, findClass_of_methodNamed B.named, hts, hK⟩
  have hl := lv_entry ([.ref b0, .int i1]) (n := 2) (Nat.le_of_ble_eq_true rfl)
  rw [lg_entry_eq]
  generalize (lg_sl ([.ref b0, .int i1]) ++ List.replicate (2 - (lg_sl ([.ref b0, .int i1])).length) Slot.unset).toArray = ls at hl ⊢
  have hl : lv_has ls 2 [(0, .ref b0), (1, .int i1)] := hl
  exact w_fX0_told C _ _ hm s.heap [] ls hW0 va_S.rf rfl hl
theorem lkX0_127 : LSt RX0 127 yX0_in cX0_in 6 (some .boolean) := ⟨q579, q431, q114, q432⟩
theorem flX0_12 : FL RX0 12 0 0 RX0 TX0 25 := ⟨in_X0, rfl, by decide, q495⟩
theorem fnX0_158 : FN RX0 158 1 1 RX1 TX1 11 "WholePacks" := ⟨in_X1, rfl, by decide, q196⟩
theorem yn_X1_comes : YN yX1_comes 2 := by
  unfold YN
  decide +kernel
theorem lkX0_161 : LV RX0 161 RX1 yX1_comes cX1_comes 4 (some (.object "WholePacks$Rule")) := ⟨q603, q604, q605, q115, q606⟩
theorem yn_X0_told : YN yX0_told 1 := by
  unfold YN
  decide +kernel
theorem lkX0_141 : LV RX0 141 RX0 yX0_told cX0_told 2 (some .int) := ⟨q588, q590, qs3, q114, q591⟩
noncomputable def fX0_rule (v0 : Mem) (i1 : Int32) (i2 : Int32) : Option (Int32 × Mem) :=
  ob (fX0_in i1.toInt64 (0 : Int64) (1 : Int64)) fun r1 =>
  if r1 = 0 then (
  some ((-2 : Int32), v0))
  else (
  ob (fX0_in i2.toInt64 (-99 : Int64) (999 : Int64)) fun r4 =>
  if r4 = 0 then (
  some ((-2 : Int32), v0))
  else (
  if (gI v0 1 1) = (8 : Int32) then (
  some ((-4 : Int32), v0))
  else (
  ob2 (fX1_comes (shf v0 1) i1 i2) fun nf8 w9 =>
  lm (ptm v0 1 22 w9) fun v0_20 =>
  ob2 (fX0_told v0_20 ((gI v0_20 1 1) - (1 : Int32))) fun r22 w23 =>
  some (r22, w23))))
set_option maxHeartbeats 4000000 in
theorem w_fX0_rule (C : Cx G p s m args meth c RX0 cX0_rule 4 (some .int)) {b0 : Nat} {rx : Int32} {rw0 : Mem} : ∀ (v0 : Mem) (i1 : Int32) (i2 : Int32), fX0_rule v0 i1 i2 = some (rx, rw0) → ∀ (H : Heap) (locs : List Loc) (ls : Array Slot), rg G b0 357 (shX0 G.2.1) v0 H → va_S (FA (fX b0) s.heap.size) s.heap H locs → H.size = s.heap.size → lv_has ls 4 [(0, .ref b0), (1, .int i1), (2, .int i2)] → W p l e (rmT 2 0 0 46) s m args below meth c H locs 0 0 (MQ below (QcT (FA (fX b0) s.heap.size) (fun ov H => ov = (some (.int rx)) ∧ rg G b0 357 (shX0 G.2.1) rw0 H ∧ H.size = s.heap.size)) args s 0 0 (FA (fX b0) s.heap.size)) (F0 m 0 ls []) := by
  intro v0 i1 i2 hm H locs ls hW0 hS hz hl
  obtain ⟨hx, hb, hr, hlk, hml, hown, hts, hK⟩ := id C
  unfold fX0_rule at hm
  refine lv_iload_n (pc := 0) hx hb dX0_rule_0 rfl (lv_at hl 1 rfl) ?_
  refine lv_i2l (pc := 1) hx hb dX0_rule_1 rfl ?_
  refine lv_lconst (pc := 2) (v := (0 : Int64)) hx hb dX0_rule_2 (by decide) ?_
  refine lv_lconst (pc := 3) (v := (1 : Int64)) hx hb dX0_rule_3 (by decide) ?_
  obtain ⟨r1, hq2, hm⟩ := ob_some hm
  refine rk_PS (pc := 4) (As := [.long i1.toInt64, .long (0 : Int64), .long (1 : Int64)]) (rest := []) hx hb hml hown hts hK lkX0_127 yn_X0_in (ct_X0_in (G := G) (l := l) hq2) ⟨Nat.le_of_ble_eq_true rfl, Nat.le_of_ble_eq_true rfl⟩ trivial rfl rfl hl.1 (Nat.le_of_ble_eq_true rfl) dX0_rule_4 ⟨Nat.zero_le _, Nat.zero_le _⟩ ?_
  refine W.eq (g2 := F0 m 7 ls [.int r1]) rfl ?_
  refine lv_if_eq (pc := 7) (tgt := 24) hx hb dX0_rule_7 (by decide) (fun c3 => ?_) (fun c3 => ?_)
  · have hm := ite_t c3 hm
    refine lv_bipush (pc := 24) (v := (-2 : Int32)) hx hb dX0_rule_24 (by decide) ?_
    obtain ⟨e8, e9⟩ := rs2 hm
    subst e8
    subst e9
    exact rk_iret (pc := 26) hx hb hr hlk hS ⟨rfl, hW0, hz⟩ dX0_rule_26
  · have hm := ite_f c3 hm
    refine lv_iload_n (pc := 10) hx hb dX0_rule_10 rfl (lv_at hl 2 rfl) ?_
    refine lv_i2l (pc := 11) hx hb dX0_rule_11 rfl ?_
    refine lv_ldc2 (pc := 12) (v := (-99 : Int64)) hx hb hown (hts _ q601) dX0_rule_12 ?_
    refine lv_ldc2 (pc := 15) (v := (999 : Int64)) hx hb hown (hts _ q602) dX0_rule_15 ?_
    obtain ⟨r4, hq5, hm⟩ := ob_some hm
    refine rk_PS (pc := 18) (As := [.long i2.toInt64, .long (-99 : Int64), .long (999 : Int64)]) (rest := []) hx hb hml hown hts hK lkX0_127 yn_X0_in (ct_X0_in (G := G) (l := l) hq5) ⟨Nat.le_of_ble_eq_true rfl, Nat.le_of_ble_eq_true rfl⟩ trivial rfl rfl hl.1 (Nat.le_of_ble_eq_true rfl) dX0_rule_18 ⟨Nat.zero_le _, Nat.zero_le _⟩ ?_
    refine W.eq (g2 := F0 m 21 ls [.int r4]) rfl ?_
    refine lv_if_ne (pc := 21) (tgt := 27) hx hb dX0_rule_21 (by decide) (fun c6 => ?_) (fun c6 => ?_)
    · have hm := ite_f c6 hm
      refine lv_aload_n (pc := 27) hx hb dX0_rule_27 rfl (lv_at hl 0 rfl) ?_
      refine rk_get (pc := 28) hx hb hts hown hK hW0 flX0_12 0 (by decide) rfl rfl (x := .ref (b0 + 1)) (by first | rfl | exact congrArg (fun z => some (Value.ref z)) (by omega)) dX0_rule_28 ?_
      refine rk_getN (pc := 31) hx hb hts hown hK hW0 fnX0_158 1 (by decide) rfl rfl (x := .int (gI v0 1 1)) rfl dX0_rule_31 ?_
      refine lv_bipush (pc := 34) (v := (8 : Int32)) hx hb dX0_rule_34 (by decide) ?_
      refine lv_icmp_ne (pc := 36) (tgt := 42) hx hb dX0_rule_36 (by decide) (fun c7 => ?_) (fun c7 => ?_)
      · have hm := ite_f c7 hm
        refine lv_aload_n (pc := 42) hx hb dX0_rule_42 rfl (lv_at hl 0 rfl) ?_
        refine rk_get (pc := 43) hx hb hts hown hK hW0 flX0_12 0 (by decide) rfl rfl (x := .ref (b0 + 1)) (by first | rfl | exact congrArg (fun z => some (Value.ref z)) (by omega)) dX0_rule_43 ?_
        refine lv_iload_n (pc := 46) hx hb dX0_rule_46 rfl (lv_at hl 1 rfl) ?_
        refine lv_iload_n (pc := 47) hx hb dX0_rule_47 rfl (lv_at hl 2 rfl) ?_
        obtain ⟨nf8, w9, hq10, hm⟩ := ob2_some hm
        refine rk_TV (pc := 48) (As := [.int i1, .int i2]) (rest := []) (mc := 0) (ms := 0) hx hb hml hown hts hK hS (fun q hq => FA_sz rfl q hq) lkX0_161 rfl yn_X1_comes (ct_X1_comes (G := G) (l := l) (b0 := (b0 + 1)) (sz := H.size) hq10) ⟨Nat.le_of_ble_eq_true rfl, Nat.le_of_ble_eq_true rfl⟩ (fun z h => Or.inl (show fX _ _ from ⟨⟨by have h8 := h.1; have h9 := h.2; omega, by have h8 := h.1; have h9 := h.2; omega⟩, by have h8 := h.1; have h9 := h.2; omega⟩)) (rk_recv hK hW0 1 (by decide) rfl rfl rfl) (rg_sub hW0 rfl (by decide) (fun o ho x y z => shX0_n1 G.2.1 _ rfl o ho x y z)) rfl rfl hl.1 (Nat.le_of_ble_eq_true rfl) dX0_rule_48 ⟨Nat.zero_le _, Nat.zero_le _⟩ (fun ov9 H11 locs12 hP13 hkp14 hS15 => ?_)
        obtain ⟨rfl, hW16, hz17, hlt18⟩ := hP13
        have hW19 := rg_put (d := 1) hW0 hW16 rfl (fun o ho x y z => shX0_n1 G.2.1 _ rfl o ho x y z) hkp14
        obtain ⟨v0_20, he9, hm⟩ := lm_some hm
        rw [he9] at hW19
        have hz21 := hz17.trans hz
        refine W.eq (g2 := F0 m 51 ls [.ref (b0 + (7 + 2 * nf8 + 0))]) (by first | rfl | exact congrArg (fun z => F0 m 51 ls (Value.ref z :: [])) (show _ = (b0 + (7 + 2 * nf8 + 0)) by omega)) ?_
        refine lv_astore_n (pc := 51) (lv' := [(3, .ref (b0 + (7 + 2 * nf8 + 0))), (0, .ref b0), (1, .int i1), (2, .int i2)]) hx hb dX0_rule_51 rfl hl (by decide) rfl (fun ls hl => ?_)
        refine lv_aload_n (pc := 52) hx hb dX0_rule_52 rfl (lv_at hl 1 rfl) ?_
        refine lv_aload_n (pc := 53) hx hb dX0_rule_53 rfl (lv_at hl 1 rfl) ?_
        refine rk_get (pc := 54) hx hb hts hown hK hW19 flX0_12 0 (by decide) rfl rfl (x := .ref (b0 + 1)) (by first | rfl | exact congrArg (fun z => some (Value.ref z)) (by omega)) dX0_rule_54 ?_
        refine rk_getN (pc := 57) hx hb hts hown hK hW19 fnX0_158 1 (by decide) rfl rfl (x := .int (gI v0_20 1 1)) rfl dX0_rule_57 ?_
        refine lv_iconst (pc := 60) (v := (1 : Int32)) hx hb dX0_rule_60 (by decide) ?_
        refine lv_isub (pc := 61) hx hb dX0_rule_61 ?_
        obtain ⟨r22, w23, hq24, hm⟩ := ob2_some hm
        refine rk_TV (pc := 62) (As := [.int ((gI v0_20 1 1) - (1 : Int32))]) (rest := []) (mc := 0) (ms := 0) hx hb hml hown hts hK hS15 (fun q hq => FA_sz rfl q hq) lkX0_141 rfl yn_X0_told (ct_X0_told (G := G) (l := l) (b0 := b0) (sz := H11.size) hq24) ⟨Nat.le_of_ble_eq_true rfl, Nat.le_of_ble_eq_true rfl⟩ (fun z h => Or.inl h) (rk_recv hK hW19 0 (by decide) rfl rfl rfl) hW19 rfl rfl hl.1 (Nat.le_of_ble_eq_true rfl) dX0_rule_62 ⟨Nat.zero_le _, Nat.zero_le _⟩ (fun ov9 H25 locs26 hP27 hkp28 hS29 => ?_)
        obtain ⟨rfl, hW30, hz31⟩ := hP27
        have hz32 := hz31.trans hz21
        refine W.eq (g2 := F0 m 65 ls [.int r22]) rfl ?_
        obtain ⟨e8, e9⟩ := rs2 hm
        subst e8
        subst e9
        exact rk_iret (pc := 65) hx hb hr hlk hS29 ⟨rfl, hW30, hz32⟩ dX0_rule_65
      · have hm := ite_t c7 hm
        refine lv_bipush (pc := 39) (v := (-4 : Int32)) hx hb dX0_rule_39 (by decide) ?_
        obtain ⟨e8, e9⟩ := rs2 hm
        subst e8
        subst e9
        exact rk_iret (pc := 41) hx hb hr hlk hS ⟨rfl, hW0, hz⟩ dX0_rule_41
    · have hm := ite_t c6 hm
      refine lv_bipush (pc := 24) (v := (-2 : Int32)) hx hb dX0_rule_24 (by decide) ?_
      obtain ⟨e8, e9⟩ := rs2 hm
      subst e8
      subst e9
      exact rk_iret (pc := 26) hx hb hr hlk hS ⟨rfl, hW0, hz⟩ dX0_rule_26
set_option maxHeartbeats 4000000 in
theorem ct_X0_rule {G : Gv} {l : Launch} {b0 : Nat} {v0 : Mem} {i1 : Int32} {i2 : Int32} {rx : Int32} {rw0 : Mem} {sz : Nat} (hm : fX0_rule v0 i1 i2 = some (rx, rw0)) : CT G l yX0_rule (ws_ yX0_rule cX0_rule 4 (some .int)) 2 0 0 46 [.ref b0, .int i1, .int i2] (fX b0) sz (fun H => rg G b0 357 (shX0 G.2.1) v0 H) (fun ov H => ov = (some (.int rx)) ∧ rg G b0 357 (shX0 G.2.1) rw0 H ∧ H.size = sz) := by
  refine Met.ofW (cc := cX0_rule) (maxL := 4) (ret := (some .int)) (by decide +kernel) rfl ?_
  intro p e s m args below meth c s₁ B hml hv
  obtain ⟨rfl, ⟨hz, hW0⟩, hK⟩ := hv
  subst hz
  have hts := atoms_spec (ws := ws_ yX0_rule cX0_rule 4 (some .int)) B.pre
  have hts : ∀ w ∈ lw_all, w.before _ s = true := fun w h => hts w (List.mem_cons_of_mem _ h)
  have C : Cx G p s m _ meth c RX0 cX0_rule 4 (some .int) := ⟨B.exec, B.bytes, B.returns, B.notSynchronized, hml, findClass_of_methodNamed B.named, hts, hK⟩
  have hl := lv_entry ([.ref b0, .int i1, .int i2]) (n := 4) (Nat.le_of_ble_eq_true rfl)
  rw [lg_entry_eq]
  generalize (lg_sl ([.ref b0, .int i1, .int i2]) ++ List.replicate (4 - (lg_sl ([.ref b0, .int i1, .int i2])).length) Slot.unset).toArray = ls at hl ⊢
  have hl : lv_has ls 4 [(0, .ref b0), (1, .int i1), (2, .int i2)] := hl
  exact w_fX0_rule C _ _ _ hm s.heap [] ls hW0 va_S.rf rfl hl
theorem yn_X1_hasRule : YN yX1_hasRule 1 := by
  unfold YN
  decide +kernel
theorem lkX0_165 : LV RX0 165 RX1 yX1_hasRule cX1_hasRule 2 (some .boolean) := ⟨q426, q427, q428, q115, q429⟩
theorem yn_X1_hasPack : YN yX1_hasPack 1 := by
  unfold YN
  decide +kernel
theorem lkX0_145 : LV RX0 145 RX1 yX1_hasPack cX1_hasPack 2 (some .boolean) := ⟨q436, q437, q438, q115, q439⟩
theorem fnX0_172 : FN RX0 172 1 7 RX1 TX1 11 "WholePacks" := ⟨in_X1, rfl, by decide, q210⟩
theorem fnX0_176 : FN RX0 176 2 2 RX2 TX2 3 "WholePacks" := ⟨in_X2, rfl, by decide, q182⟩
noncomputable def fX0_factor (v0 : Mem) (i1 : Int32) (i2 : Int32) (i3 : Int32) : Option (Int32 × Mem) :=
  ob (fX1_hasRule (shf v0 1) i1) fun r1 =>
  if r1 = 0 then (
  some ((-1 : Int32), v0))
  else (
  ob (fX1_hasPack (shf v0 1) i2) fun r4 =>
  if r4 = 0 then (
  some ((-1 : Int32), v0))
  else (
  ob (fX0_in i3.toInt64 (-9 : Int64) (9 : Int64)) fun r7 =>
  if r7 = 0 then (
  some ((-2 : Int32), v0))
  else (
  gb (inR i1 8) (
  gb (inR i2 5) (
  gb (inR i1 8) (
  gb (inR i2 5) (
  lm (sI v0 (7 + 2 * i1.toNatClampNeg + 1) i2.toNatClampNeg i3) fun v0_16 =>
  ob2 (fX0_told v0_16 ((gI v0 (7 + 2 * i1.toNatClampNeg + 1) i2.toNatClampNeg) + (100 : Int32))) fun r24 w25 =>
  some (r24, w25))))))))
set_option maxHeartbeats 4000000 in
theorem w_fX0_factor (C : Cx G p s m args meth c RX0 cX0_factor 5 (some .int)) {b0 : Nat} {rx : Int32} {rw0 : Mem} : ∀ (v0 : Mem) (i1 : Int32) (i2 : Int32) (i3 : Int32), fX0_factor v0 i1 i2 i3 = some (rx, rw0) → ∀ (H : Heap) (locs : List Loc) (ls : Array Slot), rg G b0 357 (shX0 G.2.1) v0 H → va_S (FA (fX b0) s.heap.size) s.heap H locs → H.size = s.heap.size → lv_has ls 5 [(0, .ref b0), (1, .int i1), (2, .int i2), (3, .int i3)] → W p l e (rmT 2 0 0 46) s m args below meth c H locs 0 0 (MQ below (QcT (FA (fX b0) s.heap.size) (fun ov H => ov = (some (.int rx)) ∧ rg G b0 357 (shX0 G.2.1) rw0 H ∧ H.size = s.heap.size)) args s 0 0 (FA (fX b0) s.heap.size)) (F0 m 0 ls []) := by
  intro v0 i1 i2 i3 hm H locs ls hW0 hS hz hl
  obtain ⟨hx, hb, hr, hlk, hml, hown, hts, hK⟩ := id C
  unfold fX0_factor at hm
  refine lv_aload_n (pc := 0) hx hb dX0_factor_0 rfl (lv_at hl 0 rfl) ?_
  refine rk_get (pc := 1) hx hb hts hown hK hW0 flX0_12 0 (by decide) rfl rfl (x := .ref (b0 + 1)) (by first | rfl | exact congrArg (fun z => some (Value.ref z)) (by omega)) dX0_factor_1 ?_
  refine lv_iload_n (pc := 4) hx hb dX0_factor_4 rfl (lv_at hl 1 rfl) ?_
  obtain ⟨r1, hq2, hm⟩ := ob_some hm
  refine rk_PV (pc := 5) (As := [.int i1]) (rest := []) hx hb hml hown hts hK lkX0_165 rfl yn_X1_hasRule (ct_X1_hasRule (G := G) (l := l) (b0 := (b0 + 1)) hq2) ⟨Nat.le_of_ble_eq_true rfl, Nat.le_of_ble_eq_true rfl⟩ (rk_recv hK hW0 1 (by decide) rfl rfl rfl) (rg_sub hW0 rfl (by decide) (fun o ho x y z => shX0_n1 G.2.1 _ rfl o ho x y z)) rfl rfl hl.1 (Nat.le_of_ble_eq_true rfl) dX0_factor_5 ⟨Nat.zero_le _, Nat.zero_le _⟩ ?_
  refine W.eq (g2 := F0 m 8 ls [.int r1]) rfl ?_
  refine lv_if_eq (pc := 8) (tgt := 22) hx hb dX0_factor_8 (by decide) (fun c3 => ?_) (fun c3 => ?_)
  · have hm := ite_t c3 hm
    refine lv_iconst (pc := 22) (v := (-1 : Int32)) hx hb dX0_factor_22 (by decide) ?_
    obtain ⟨e8, e9⟩ := rs2 hm
    subst e8
    subst e9
    exact rk_iret (pc := 23) hx hb hr hlk hS ⟨rfl, hW0, hz⟩ dX0_factor_23
  · have hm := ite_f c3 hm
    refine lv_aload_n (pc := 11) hx hb dX0_factor_11 rfl (lv_at hl 0 rfl) ?_
    refine rk_get (pc := 12) hx hb hts hown hK hW0 flX0_12 0 (by decide) rfl rfl (x := .ref (b0 + 1)) (by first | rfl | exact congrArg (fun z => some (Value.ref z)) (by omega)) dX0_factor_12 ?_
    refine lv_iload_n (pc := 15) hx hb dX0_factor_15 rfl (lv_at hl 2 rfl) ?_
    obtain ⟨r4, hq5, hm⟩ := ob_some hm
    refine rk_PV (pc := 16) (As := [.int i2]) (rest := []) hx hb hml hown hts hK lkX0_145 rfl yn_X1_hasPack (ct_X1_hasPack (G := G) (l := l) (b0 := (b0 + 1)) hq5) ⟨Nat.le_of_ble_eq_true rfl, Nat.le_of_ble_eq_true rfl⟩ (rk_recv hK hW0 1 (by decide) rfl rfl rfl) (rg_sub hW0 rfl (by decide) (fun o ho x y z => shX0_n1 G.2.1 _ rfl o ho x y z)) rfl rfl hl.1 (Nat.le_of_ble_eq_true rfl) dX0_factor_16 ⟨Nat.zero_le _, Nat.zero_le _⟩ ?_
    refine W.eq (g2 := F0 m 19 ls [.int r4]) rfl ?_
    refine lv_if_ne (pc := 19) (tgt := 24) hx hb dX0_factor_19 (by decide) (fun c6 => ?_) (fun c6 => ?_)
    · have hm := ite_f c6 hm
      refine lv_iload_n (pc := 24) hx hb dX0_factor_24 rfl (lv_at hl 3 rfl) ?_
      refine lv_i2l (pc := 25) hx hb dX0_factor_25 rfl ?_
      refine lv_ldc2 (pc := 26) (v := (-9 : Int64)) hx hb hown (hts _ q615) dX0_factor_26 ?_
      refine lv_ldc2 (pc := 29) (v := (9 : Int64)) hx hb hown (hts _ q616) dX0_factor_29 ?_
      obtain ⟨r7, hq8, hm⟩ := ob_some hm
      refine rk_PS (pc := 32) (As := [.long i3.toInt64, .long (-9 : Int64), .long (9 : Int64)]) (rest := []) hx hb hml hown hts hK lkX0_127 yn_X0_in (ct_X0_in (G := G) (l := l) hq8) ⟨Nat.le_of_ble_eq_true rfl, Nat.le_of_ble_eq_true rfl⟩ trivial rfl rfl hl.1 (Nat.le_of_ble_eq_true rfl) dX0_factor_32 ⟨Nat.zero_le _, Nat.zero_le _⟩ ?_
      refine W.eq (g2 := F0 m 35 ls [.int r7]) rfl ?_
      refine lv_if_ne (pc := 35) (tgt := 41) hx hb dX0_factor_35 (by decide) (fun c9 => ?_) (fun c9 => ?_)
      · have hm := ite_f c9 hm
        refine lv_aload_n (pc := 41) hx hb dX0_factor_41 rfl (lv_at hl 0 rfl) ?_
        refine rk_get (pc := 42) hx hb hts hown hK hW0 flX0_12 0 (by decide) rfl rfl (x := .ref (b0 + 1)) (by first | rfl | exact congrArg (fun z => some (Value.ref z)) (by omega)) dX0_factor_42 ?_
        refine rk_getN (pc := 45) hx hb hts hown hK hW0 fnX0_172 1 (by decide) rfl rfl (x := .ref (b0 + 3)) (by first | rfl | exact congrArg (fun z => some (Value.ref z)) (by omega)) dX0_factor_45 ?_
        refine lv_iload_n (pc := 48) hx hb dX0_factor_48 rfl (lv_at hl 1 rfl) ?_
        obtain ⟨hg10, hm⟩ := gb_some hm
        have hlt11 := inR_lt hg10
        refine rk_aald (pc := 49) hx hb hK hW0 3 5 (by decide) rfl rfl rfl hg10 (x := (b0 + (7 + 2 * i1.toNatClampNeg + 0))) (by first | rfl | exact congrArg some (by omega)) dX0_factor_49 ?_
        refine rk_getN (pc := 50) hx hb hts hown hK hW0 fnX0_176 (7 + 2 * i1.toNatClampNeg + 0) (by omega) rfl ((shX0_f7 G.2.1 hlt11 _ rfl 0 (by decide) _ _ _).trans rfl) (x := .ref (b0 + (7 + 2 * i1.toNatClampNeg + 1))) (by first | rfl | exact congrArg (fun z => some (Value.ref z)) (by omega)) dX0_factor_50 ?_
        refine lv_iload_n (pc := 53) hx hb dX0_factor_53 rfl (lv_at hl 2 rfl) ?_
        obtain ⟨hg12, hm⟩ := gb_some hm
        refine rk_iald (pc := 54) hx hb hK hW0 (7 + 2 * i1.toNatClampNeg + 1) (by omega) rfl ((shX0_f7 G.2.1 hlt11 _ rfl 1 (by decide) _ _ _).trans rfl) hg12 (x := (gI v0 (7 + 2 * i1.toNatClampNeg + 1) i2.toNatClampNeg)) rfl dX0_factor_54 ?_
        refine lv_istore (pc := 55) (lv' := [(4, .int (gI v0 (7 + 2 * i1.toNatClampNeg + 1) i2.toNatClampNeg)), (0, .ref b0), (1, .int i1), (2, .int i2), (3, .int i3)]) hx hb dX0_factor_55 hl (by decide) rfl (fun ls hl => ?_)
        refine lv_aload_n (pc := 57) hx hb dX0_factor_57 rfl (lv_at hl 1 rfl) ?_
        refine rk_get (pc := 58) hx hb hts hown hK hW0 flX0_12 0 (by decide) rfl rfl (x := .ref (b0 + 1)) (by first | rfl | exact congrArg (fun z => some (Value.ref z)) (by omega)) dX0_factor_58 ?_
        refine rk_getN (pc := 61) hx hb hts hown hK hW0 fnX0_172 1 (by decide) rfl rfl (x := .ref (b0 + 3)) (by first | rfl | exact congrArg (fun z => some (Value.ref z)) (by omega)) dX0_factor_61 ?_
        refine lv_iload_n (pc := 64) hx hb dX0_factor_64 rfl (lv_at hl 2 rfl) ?_
        obtain ⟨hg13, hm⟩ := gb_some hm
        have hlt14 := inR_lt hg13
        refine rk_aald (pc := 65) hx hb hK hW0 3 5 (by decide) rfl rfl rfl hg13 (x := (b0 + (7 + 2 * i1.toNatClampNeg + 0))) (by first | rfl | exact congrArg some (by omega)) dX0_factor_65 ?_
        refine rk_getN (pc := 66) hx hb hts hown hK hW0 fnX0_176 (7 + 2 * i1.toNatClampNeg + 0) (by omega) rfl ((shX0_f7 G.2.1 hlt14 _ rfl 0 (by decide) _ _ _).trans rfl) (x := .ref (b0 + (7 + 2 * i1.toNatClampNeg + 1))) (by first | rfl | exact congrArg (fun z => some (Value.ref z)) (by omega)) dX0_factor_66 ?_
        refine lv_iload_n (pc := 69) hx hb dX0_factor_69 rfl (lv_at hl 3 rfl) ?_
        refine lv_iload_n (pc := 70) hx hb dX0_factor_70 rfl (lv_at hl 4 rfl) ?_
        obtain ⟨hg15, hm⟩ := gb_some hm
        refine rk_iast (pc := 71) hx hb hK hW0 hS (7 + 2 * i1.toNatClampNeg + 1) (by omega) rfl (Or.inl (show fX _ _ from ⟨⟨by omega, by omega⟩, by omega⟩)) (fun _ _ _ => ((shX0_f7 G.2.1 hlt14 _ rfl 1 (by decide) _ _ _).trans rfl)) hg15 dX0_factor_71 (fun H17 locs18 hW19 hS20 hz21 hkp22 => ?_)
        obtain ⟨v0_16, he9, hm⟩ := lm_some hm
        rw [he9] at hW19
        have hz23 := hz21.trans hz
        refine lv_aload_n (pc := 72) hx hb dX0_factor_72 rfl (lv_at hl 1 rfl) ?_
        refine lv_iload (pc := 73) hx hb dX0_factor_73 (lv_at hl 0 rfl) ?_
        refine lv_bipush (pc := 75) (v := (100 : Int32)) hx hb dX0_factor_75 (by decide) ?_
        refine lv_iadd (pc := 77) hx hb dX0_factor_77 ?_
        obtain ⟨r24, w25, hq26, hm⟩ := ob2_some hm
        refine rk_TV (pc := 78) (As := [.int ((gI v0 (7 + 2 * i1.toNatClampNeg + 1) i2.toNatClampNeg) + (100 : Int32))]) (rest := []) (mc := 0) (ms := 0) hx hb hml hown hts hK hS20 (fun q hq => FA_sz rfl q hq) lkX0_141 rfl yn_X0_told (ct_X0_told (G := G) (l := l) (b0 := b0) (sz := H17.size) hq26) ⟨Nat.le_of_ble_eq_true rfl, Nat.le_of_ble_eq_true rfl⟩ (fun z h => Or.inl h) (rk_recv hK hW19 0 (by decide) rfl rfl rfl) hW19 rfl rfl hl.1 (Nat.le_of_ble_eq_true rfl) dX0_factor_78 ⟨Nat.zero_le _, Nat.zero_le _⟩ (fun ov9 H27 locs28 hP29 hkp30 hS31 => ?_)
        obtain ⟨rfl, hW32, hz33⟩ := hP29
        have hz34 := hz33.trans hz23
        refine W.eq (g2 := F0 m 81 ls [.int r24]) rfl ?_
        obtain ⟨e8, e9⟩ := rs2 hm
        subst e8
        subst e9
        exact rk_iret (pc := 81) hx hb hr hlk hS31 ⟨rfl, hW32, hz34⟩ dX0_factor_81
      · have hm := ite_t c9 hm
        refine lv_bipush (pc := 38) (v := (-2 : Int32)) hx hb dX0_factor_38 (by decide) ?_
        obtain ⟨e8, e9⟩ := rs2 hm
        subst e8
        subst e9
        exact rk_iret (pc := 40) hx hb hr hlk hS ⟨rfl, hW0, hz⟩ dX0_factor_40
    · have hm := ite_t c6 hm
      refine lv_iconst (pc := 22) (v := (-1 : Int32)) hx hb dX0_factor_22 (by decide) ?_
      obtain ⟨e8, e9⟩ := rs2 hm
      subst e8
      subst e9
      exact rk_iret (pc := 23) hx hb hr hlk hS ⟨rfl, hW0, hz⟩ dX0_factor_23
set_option maxHeartbeats 4000000 in
theorem ct_X0_factor {G : Gv} {l : Launch} {b0 : Nat} {v0 : Mem} {i1 : Int32} {i2 : Int32} {i3 : Int32} {rx : Int32} {rw0 : Mem} {sz : Nat} (hm : fX0_factor v0 i1 i2 i3 = some (rx, rw0)) : CT G l yX0_factor (ws_ yX0_factor cX0_factor 5 (some .int)) 2 0 0 46 [.ref b0, .int i1, .int i2, .int i3] (fX b0) sz (fun H => rg G b0 357 (shX0 G.2.1) v0 H) (fun ov H => ov = (some (.int rx)) ∧ rg G b0 357 (shX0 G.2.1) rw0 H ∧ H.size = sz) := by
  refine Met.ofW (cc := cX0_factor) (maxL := 5) (ret := (some .int)) (by decide +kernel) rfl ?_
  intro p e s m args below meth c s₁ B hml hv
  obtain ⟨rfl, ⟨hz, hW0⟩, hK⟩ := hv
  subst hz
  have hts := atoms_spec (ws := ws_ yX0_factor cX0_factor 5 (some .int)) B.pre
  have hts : ∀ w ∈ lw_all, w.before _ s = true := fun w h => hts w (List.mem_cons_of_mem _ h)
  have C : Cx G p s m _ meth c RX0 cX0_factor 5 (some .int) := ⟨B.exec, B.bytes, B.returns, B.notSynchronized, hml, findClass_of_methodNamed B.named, hts, hK⟩
  have hl := lv_entry ([.ref b0, .int i1, .int i2, .int i3]) (n := 5) (Nat.le_of_ble_eq_true rfl)
  rw [lg_entry_eq]
  generalize (lg_sl ([.ref b0, .int i1, .int i2, .int i3]) ++ List.replicate (5 - (lg_sl ([.ref b0, .int i1, .int i2, .int i3])).length) Slot.unset).toArray = ls at hl ⊢
  have hl : lv_has ls 5 [(0, .ref b0), (1, .int i1), (2, .int i2), (3, .int i3)] := hl
  exact w_fX0_factor C _ _ _ _ hm s.heap [] ls hW0 va_S.rf rfl hl
theorem fnX0_181 : FN RX0 181 2 1 RX2 TX2 3 "WholePacks" := ⟨in_X2, rfl, by decide, q179⟩
noncomputable def fX0_bound (v0 : Mem) (i1 : Int32) (i2 : Int32) : Option (Int32 × Mem) :=
  ob (fX1_hasRule (shf v0 1) i1) fun r1 =>
  if r1 = 0 then (
  some ((-1 : Int32), v0))
  else (
  ob (fX0_in i2.toInt64 (-99 : Int64) (999 : Int64)) fun r4 =>
  if r4 = 0 then (
  some ((-2 : Int32), v0))
  else (
  gb (inR i1 8) (
  gb (inR i1 8) (
  lm (sI v0 (7 + 2 * i1.toNatClampNeg + 0) 1 i2) fun v0_11 =>
  ob2 (fX0_told v0_11 ((gI v0 (7 + 2 * i1.toNatClampNeg + 0) 1) + (1000 : Int32))) fun r19 w20 =>
  some (r19, w20)))))
set_option maxHeartbeats 4000000 in
theorem w_fX0_bound (C : Cx G p s m args meth c RX0 cX0_bound 4 (some .int)) {b0 : Nat} {rx : Int32} {rw0 : Mem} : ∀ (v0 : Mem) (i1 : Int32) (i2 : Int32), fX0_bound v0 i1 i2 = some (rx, rw0) → ∀ (H : Heap) (locs : List Loc) (ls : Array Slot), rg G b0 357 (shX0 G.2.1) v0 H → va_S (FA (fX b0) s.heap.size) s.heap H locs → H.size = s.heap.size → lv_has ls 4 [(0, .ref b0), (1, .int i1), (2, .int i2)] → W p l e (rmT 2 0 0 46) s m args below meth c H locs 0 0 (MQ below (QcT (FA (fX b0) s.heap.size) (fun ov H => ov = (some (.int rx)) ∧ rg G b0 357 (shX0 G.2.1) rw0 H ∧ H.size = s.heap.size)) args s 0 0 (FA (fX b0) s.heap.size)) (F0 m 0 ls []) := by
  intro v0 i1 i2 hm H locs ls hW0 hS hz hl
  obtain ⟨hx, hb, hr, hlk, hml, hown, hts, hK⟩ := id C
  unfold fX0_bound at hm
  refine lv_aload_n (pc := 0) hx hb dX0_bound_0 rfl (lv_at hl 0 rfl) ?_
  refine rk_get (pc := 1) hx hb hts hown hK hW0 flX0_12 0 (by decide) rfl rfl (x := .ref (b0 + 1)) (by first | rfl | exact congrArg (fun z => some (Value.ref z)) (by omega)) dX0_bound_1 ?_
  refine lv_iload_n (pc := 4) hx hb dX0_bound_4 rfl (lv_at hl 1 rfl) ?_
  obtain ⟨r1, hq2, hm⟩ := ob_some hm
  refine rk_PV (pc := 5) (As := [.int i1]) (rest := []) hx hb hml hown hts hK lkX0_165 rfl yn_X1_hasRule (ct_X1_hasRule (G := G) (l := l) (b0 := (b0 + 1)) hq2) ⟨Nat.le_of_ble_eq_true rfl, Nat.le_of_ble_eq_true rfl⟩ (rk_recv hK hW0 1 (by decide) rfl rfl rfl) (rg_sub hW0 rfl (by decide) (fun o ho x y z => shX0_n1 G.2.1 _ rfl o ho x y z)) rfl rfl hl.1 (Nat.le_of_ble_eq_true rfl) dX0_bound_5 ⟨Nat.zero_le _, Nat.zero_le _⟩ ?_
  refine W.eq (g2 := F0 m 8 ls [.int r1]) rfl ?_
  refine lv_if_ne (pc := 8) (tgt := 13) hx hb dX0_bound_8 (by decide) (fun c3 => ?_) (fun c3 => ?_)
  · have hm := ite_f c3 hm
    refine lv_iload_n (pc := 13) hx hb dX0_bound_13 rfl (lv_at hl 2 rfl) ?_
    refine lv_i2l (pc := 14) hx hb dX0_bound_14 rfl ?_
    refine lv_ldc2 (pc := 15) (v := (-99 : Int64)) hx hb hown (hts _ q601) dX0_bound_15 ?_
    refine lv_ldc2 (pc := 18) (v := (999 : Int64)) hx hb hown (hts _ q602) dX0_bound_18 ?_
    obtain ⟨r4, hq5, hm⟩ := ob_some hm
    refine rk_PS (pc := 21) (As := [.long i2.toInt64, .long (-99 : Int64), .long (999 : Int64)]) (rest := []) hx hb hml hown hts hK lkX0_127 yn_X0_in (ct_X0_in (G := G) (l := l) hq5) ⟨Nat.le_of_ble_eq_true rfl, Nat.le_of_ble_eq_true rfl⟩ trivial rfl rfl hl.1 (Nat.le_of_ble_eq_true rfl) dX0_bound_21 ⟨Nat.zero_le _, Nat.zero_le _⟩ ?_
    refine W.eq (g2 := F0 m 24 ls [.int r4]) rfl ?_
    refine lv_if_ne (pc := 24) (tgt := 30) hx hb dX0_bound_24 (by decide) (fun c6 => ?_) (fun c6 => ?_)
    · have hm := ite_f c6 hm
      refine lv_aload_n (pc := 30) hx hb dX0_bound_30 rfl (lv_at hl 0 rfl) ?_
      refine rk_get (pc := 31) hx hb hts hown hK hW0 flX0_12 0 (by decide) rfl rfl (x := .ref (b0 + 1)) (by first | rfl | exact congrArg (fun z => some (Value.ref z)) (by omega)) dX0_bound_31 ?_
      refine rk_getN (pc := 34) hx hb hts hown hK hW0 fnX0_172 1 (by decide) rfl rfl (x := .ref (b0 + 3)) (by first | rfl | exact congrArg (fun z => some (Value.ref z)) (by omega)) dX0_bound_34 ?_
      refine lv_iload_n (pc := 37) hx hb dX0_bound_37 rfl (lv_at hl 1 rfl) ?_
      obtain ⟨hg7, hm⟩ := gb_some hm
      have hlt8 := inR_lt hg7
      refine rk_aald (pc := 38) hx hb hK hW0 3 5 (by decide) rfl rfl rfl hg7 (x := (b0 + (7 + 2 * i1.toNatClampNeg + 0))) (by first | rfl | exact congrArg some (by omega)) dX0_bound_38 ?_
      refine rk_getN (pc := 39) hx hb hts hown hK hW0 fnX0_181 (7 + 2 * i1.toNatClampNeg + 0) (by omega) rfl ((shX0_f7 G.2.1 hlt8 _ rfl 0 (by decide) _ _ _).trans rfl) (x := .int (gI v0 (7 + 2 * i1.toNatClampNeg + 0) 1)) rfl dX0_bound_39 ?_
      refine lv_istore_n (pc := 42) (lv' := [(3, .int (gI v0 (7 + 2 * i1.toNatClampNeg + 0) 1)), (0, .ref b0), (1, .int i1), (2, .int i2)]) hx hb dX0_bound_42 rfl hl (by decide) rfl (fun ls hl => ?_)
      refine lv_aload_n (pc := 43) hx hb dX0_bound_43 rfl (lv_at hl 1 rfl) ?_
      refine rk_get (pc := 44) hx hb hts hown hK hW0 flX0_12 0 (by decide) rfl rfl (x := .ref (b0 + 1)) (by first | rfl | exact congrArg (fun z => some (Value.ref z)) (by omega)) dX0_bound_44 ?_
      refine rk_getN (pc := 47) hx hb hts hown hK hW0 fnX0_172 1 (by decide) rfl rfl (x := .ref (b0 + 3)) (by first | rfl | exact congrArg (fun z => some (Value.ref z)) (by omega)) dX0_bound_47 ?_
      refine lv_iload_n (pc := 50) hx hb dX0_bound_50 rfl (lv_at hl 2 rfl) ?_
      obtain ⟨hg9, hm⟩ := gb_some hm
      have hlt10 := inR_lt hg9
      refine rk_aald (pc := 51) hx hb hK hW0 3 5 (by decide) rfl rfl rfl hg9 (x := (b0 + (7 + 2 * i1.toNatClampNeg + 0))) (by first | rfl | exact congrArg some (by omega)) dX0_bound_51 ?_
      refine lv_iload_n (pc := 52) hx hb dX0_bound_52 rfl (lv_at hl 3 rfl) ?_
      refine rk_putN (pc := 53) hx hb hts hown hK hW0 hS fnX0_181 ft_X2 (7 + 2 * i1.toNatClampNeg + 0) (by omega) rfl (Or.inl (show fX _ _ from ⟨⟨by omega, by omega⟩, by omega⟩)) ((shX0_f7 G.2.1 hlt10 _ rfl 0 (by decide) _ _ _).trans rfl) rfl (x := .int i2) rfl rfl (Nat.le_of_ble_eq_true rfl) (sI v0 (7 + 2 * i1.toNatClampNeg + 0) 1 i2) sI_ne (by rw [sI_eq]; exact ((shX0_f7 G.2.1 hlt10 _ rfl 0 (by decide) _ _ _).trans rfl)) dX0_bound_53 (fun H12 locs13 hW14 hS15 hz16 hkp17 => ?_)
      obtain ⟨v0_11, he9, hm⟩ := lm_some hm
      rw [he9] at hW14
      have hz18 := hz16.trans hz
      refine lv_aload_n (pc := 56) hx hb dX0_bound_56 rfl (lv_at hl 1 rfl) ?_
      refine lv_iload_n (pc := 57) hx hb dX0_bound_57 rfl (lv_at hl 0 rfl) ?_
      refine lv_sipush (pc := 58) (v := (1000 : Int32)) hx hb dX0_bound_58 (by decide) ?_
      refine lv_iadd (pc := 61) hx hb dX0_bound_61 ?_
      obtain ⟨r19, w20, hq21, hm⟩ := ob2_some hm
      refine rk_TV (pc := 62) (As := [.int ((gI v0 (7 + 2 * i1.toNatClampNeg + 0) 1) + (1000 : Int32))]) (rest := []) (mc := 0) (ms := 0) hx hb hml hown hts hK hS15 (fun q hq => FA_sz rfl q hq) lkX0_141 rfl yn_X0_told (ct_X0_told (G := G) (l := l) (b0 := b0) (sz := H12.size) hq21) ⟨Nat.le_of_ble_eq_true rfl, Nat.le_of_ble_eq_true rfl⟩ (fun z h => Or.inl h) (rk_recv hK hW14 0 (by decide) rfl rfl rfl) hW14 rfl rfl hl.1 (Nat.le_of_ble_eq_true rfl) dX0_bound_62 ⟨Nat.zero_le _, Nat.zero_le _⟩ (fun ov9 H22 locs23 hP24 hkp25 hS26 => ?_)
      obtain ⟨rfl, hW27, hz28⟩ := hP24
      have hz29 := hz28.trans hz18
      refine W.eq (g2 := F0 m 65 ls [.int r19]) rfl ?_
      obtain ⟨e8, e9⟩ := rs2 hm
      subst e8
      subst e9
      exact rk_iret (pc := 65) hx hb hr hlk hS26 ⟨rfl, hW27, hz29⟩ dX0_bound_65
    · have hm := ite_t c6 hm
      refine lv_bipush (pc := 27) (v := (-2 : Int32)) hx hb dX0_bound_27 (by decide) ?_
      obtain ⟨e8, e9⟩ := rs2 hm
      subst e8
      subst e9
      exact rk_iret (pc := 29) hx hb hr hlk hS ⟨rfl, hW0, hz⟩ dX0_bound_29
  · have hm := ite_t c3 hm
    refine lv_iconst (pc := 11) (v := (-1 : Int32)) hx hb dX0_bound_11 (by decide) ?_
    obtain ⟨e8, e9⟩ := rs2 hm
    subst e8
    subst e9
    exact rk_iret (pc := 12) hx hb hr hlk hS ⟨rfl, hW0, hz⟩ dX0_bound_12
set_option maxHeartbeats 4000000 in
theorem ct_X0_bound {G : Gv} {l : Launch} {b0 : Nat} {v0 : Mem} {i1 : Int32} {i2 : Int32} {rx : Int32} {rw0 : Mem} {sz : Nat} (hm : fX0_bound v0 i1 i2 = some (rx, rw0)) : CT G l yX0_bound (ws_ yX0_bound cX0_bound 4 (some .int)) 2 0 0 46 [.ref b0, .int i1, .int i2] (fX b0) sz (fun H => rg G b0 357 (shX0 G.2.1) v0 H) (fun ov H => ov = (some (.int rx)) ∧ rg G b0 357 (shX0 G.2.1) rw0 H ∧ H.size = sz) := by
  refine Met.ofW (cc := cX0_bound) (maxL := 4) (ret := (some .int)) (by decide +kernel) rfl ?_
  intro p e s m args below meth c s₁ B hml hv
  obtain ⟨rfl, ⟨hz, hW0⟩, hK⟩ := hv
  subst hz
  have hts := atoms_spec (ws := ws_ yX0_bound cX0_bound 4 (some .int)) B.pre
  have hts : ∀ w ∈ lw_all, w.before _ s = true := fun w h => hts w (List.mem_cons_of_mem _ h)
  have C : Cx G p s m _ meth c RX0 cX0_bound 4 (some .int) := ⟨B.exec, B.bytes, B.returns, B.notSynchronized, hml, findClass_of_methodNamed B.named, hts, hK⟩
  have hl := lv_entry ([.ref b0, .int i1, .int i2]) (n := 4) (Nat.le_of_ble_eq_true rfl)
  rw [lg_entry_eq]
  generalize (lg_sl ([.ref b0, .int i1, .int i2]) ++ List.replicate (4 - (lg_sl ([.ref b0, .int i1, .int i2])).length) Slot.unset).toArray = ls at hl ⊢
  have hl : lv_has ls 4 [(0, .ref b0), (1, .int i1), (2, .int i2)] := hl
  exact w_fX0_bound C _ _ _ hm s.heap [] ls hW0 va_S.rf rfl hl
theorem fnX0_184 : FN RX0 184 1 8 RX1 TX1 11 "WholePacks" := ⟨in_X1, rfl, by decide, q212⟩
noncomputable def fX0_less (v0 : Mem) : Option (Int32 × Mem) :=
  if (gI v0 1 1) = 0 then (
  some ((-3 : Int32), v0))
  else (
  lm (sI v0 1 1 ((gI v0 1 1) - (1 : Int32))) fun v0_2 =>
  gb (inR (gI v0_2 1 1) 8) (
  lm (sI v0_2 4 (gI v0_2 1 1).toNatClampNeg (0 : Int32)) fun v0_11 =>
  ob2 (fX0_told v0_11 (gI v0_11 1 1)) fun r19 w20 =>
  some (r19, w20)))
set_option maxHeartbeats 4000000 in
theorem w_fX0_less (C : Cx G p s m args meth c RX0 cX0_less 1 (some .int)) {b0 : Nat} {rx : Int32} {rw0 : Mem} : ∀ (v0 : Mem), fX0_less v0 = some (rx, rw0) → ∀ (H : Heap) (locs : List Loc) (ls : Array Slot), rg G b0 357 (shX0 G.2.1) v0 H → va_S (FA (fX b0) s.heap.size) s.heap H locs → H.size = s.heap.size → lv_has ls 1 [(0, .ref b0)] → W p l e (rmT 1 0 0 21) s m args below meth c H locs 0 0 (MQ below (QcT (FA (fX b0) s.heap.size) (fun ov H => ov = (some (.int rx)) ∧ rg G b0 357 (shX0 G.2.1) rw0 H ∧ H.size = s.heap.size)) args s 0 0 (FA (fX b0) s.heap.size)) (F0 m 0 ls []) := by
  intro v0 hm H locs ls hW0 hS hz hl
  obtain ⟨hx, hb, hr, hlk, hml, hown, hts, hK⟩ := id C
  unfold fX0_less at hm
  refine lv_aload_n (pc := 0) hx hb dX0_less_0 rfl (lv_at hl 0 rfl) ?_
  refine rk_get (pc := 1) hx hb hts hown hK hW0 flX0_12 0 (by decide) rfl rfl (x := .ref (b0 + 1)) (by first | rfl | exact congrArg (fun z => some (Value.ref z)) (by omega)) dX0_less_1 ?_
  refine rk_getN (pc := 4) hx hb hts hown hK hW0 fnX0_158 1 (by decide) rfl rfl (x := .int (gI v0 1 1)) rfl dX0_less_4 ?_
  refine lv_if_ne (pc := 7) (tgt := 13) hx hb dX0_less_7 (by decide) (fun c1 => ?_) (fun c1 => ?_)
  · have hm := ite_f c1 hm
    refine lv_aload_n (pc := 13) hx hb dX0_less_13 rfl (lv_at hl 0 rfl) ?_
    refine rk_get (pc := 14) hx hb hts hown hK hW0 flX0_12 0 (by decide) rfl rfl (x := .ref (b0 + 1)) (by first | rfl | exact congrArg (fun z => some (Value.ref z)) (by omega)) dX0_less_14 ?_
    refine lv_dup (pc := 17) hx hb dX0_less_17 rfl ?_
    refine rk_getN (pc := 18) hx hb hts hown hK hW0 fnX0_158 1 (by decide) rfl rfl (x := .int (gI v0 1 1)) rfl dX0_less_18 ?_
    refine lv_iconst (pc := 21) (v := (1 : Int32)) hx hb dX0_less_21 (by decide) ?_
    refine lv_isub (pc := 22) hx hb dX0_less_22 ?_
    refine rk_putN (pc := 23) hx hb hts hown hK hW0 hS fnX0_158 ft_X1 1 (by decide) rfl (Or.inl (show fX _ _ from ⟨⟨by omega, by omega⟩, by omega⟩)) rfl rfl (x := .int ((gI v0 1 1) - (1 : Int32))) rfl rfl (Nat.le_of_ble_eq_true rfl) (sI v0 1 1 ((gI v0 1 1) - (1 : Int32))) sI_ne (by rw [sI_eq]; exact rfl) dX0_less_23 (fun H3 locs4 hW5 hS6 hz7 hkp8 => ?_)
    obtain ⟨v0_2, he9, hm⟩ := lm_some hm
    rw [he9] at hW5
    have hz9 := hz7.trans hz
    refine lv_aload_n (pc := 26) hx hb dX0_less_26 rfl (lv_at hl 0 rfl) ?_
    refine rk_get (pc := 27) hx hb hts hown hK hW5 flX0_12 0 (by decide) rfl rfl (x := .ref (b0 + 1)) (by first | rfl | exact congrArg (fun z => some (Value.ref z)) (by omega)) dX0_less_27 ?_
    refine rk_getN (pc := 30) hx hb hts hown hK hW5 fnX0_184 1 (by decide) rfl rfl (x := .ref (b0 + 4)) (by first | rfl | exact congrArg (fun z => some (Value.ref z)) (by omega)) dX0_less_30 ?_
    refine lv_aload_n (pc := 33) hx hb dX0_less_33 rfl (lv_at hl 0 rfl) ?_
    refine rk_get (pc := 34) hx hb hts hown hK hW5 flX0_12 0 (by decide) rfl rfl (x := .ref (b0 + 1)) (by first | rfl | exact congrArg (fun z => some (Value.ref z)) (by omega)) dX0_less_34 ?_
    refine rk_getN (pc := 37) hx hb hts hown hK hW5 fnX0_158 1 (by decide) rfl rfl (x := .int (gI v0_2 1 1)) rfl dX0_less_37 ?_
    refine lv_iconst (pc := 40) (v := (0 : Int32)) hx hb dX0_less_40 (by decide) ?_
    obtain ⟨hg10, hm⟩ := gb_some hm
    refine rk_iast (pc := 41) hx hb hK hW5 hS6 4 (by decide) rfl (Or.inl (show fX _ _ from ⟨⟨by omega, by omega⟩, by omega⟩)) (fun _ _ _ => rfl) hg10 dX0_less_41 (fun H12 locs13 hW14 hS15 hz16 hkp17 => ?_)
    obtain ⟨v0_11, he9, hm⟩ := lm_some hm
    rw [he9] at hW14
    have hz18 := hz16.trans hz9
    refine lv_aload_n (pc := 42) hx hb dX0_less_42 rfl (lv_at hl 0 rfl) ?_
    refine lv_aload_n (pc := 43) hx hb dX0_less_43 rfl (lv_at hl 0 rfl) ?_
    refine rk_get (pc := 44) hx hb hts hown hK hW14 flX0_12 0 (by decide) rfl rfl (x := .ref (b0 + 1)) (by first | rfl | exact congrArg (fun z => some (Value.ref z)) (by omega)) dX0_less_44 ?_
    refine rk_getN (pc := 47) hx hb hts hown hK hW14 fnX0_158 1 (by decide) rfl rfl (x := .int (gI v0_11 1 1)) rfl dX0_less_47 ?_
    obtain ⟨r19, w20, hq21, hm⟩ := ob2_some hm
    refine rk_TV (pc := 50) (As := [.int (gI v0_11 1 1)]) (rest := []) (mc := 0) (ms := 0) hx hb hml hown hts hK hS15 (fun q hq => FA_sz rfl q hq) lkX0_141 rfl yn_X0_told (ct_X0_told (G := G) (l := l) (b0 := b0) (sz := H12.size) hq21) ⟨Nat.le_of_ble_eq_true rfl, Nat.le_of_ble_eq_true rfl⟩ (fun z h => Or.inl h) (rk_recv hK hW14 0 (by decide) rfl rfl rfl) hW14 rfl rfl hl.1 (Nat.le_of_ble_eq_true rfl) dX0_less_50 ⟨Nat.zero_le _, Nat.zero_le _⟩ (fun ov9 H22 locs23 hP24 hkp25 hS26 => ?_)
    obtain ⟨rfl, hW27, hz28⟩ := hP24
    have hz29 := hz28.trans hz18
    refine W.eq (g2 := F0 m 53 ls [.int r19]) rfl ?_
    obtain ⟨e8, e9⟩ := rs2 hm
    subst e8
    subst e9
    exact rk_iret (pc := 53) hx hb hr hlk hS26 ⟨rfl, hW27, hz29⟩ dX0_less_53
  · have hm := ite_t c1 hm
    refine lv_bipush (pc := 10) (v := (-3 : Int32)) hx hb dX0_less_10 (by decide) ?_
    obtain ⟨e8, e9⟩ := rs2 hm
    subst e8
    subst e9
    exact rk_iret (pc := 12) hx hb hr hlk hS ⟨rfl, hW0, hz⟩ dX0_less_12
set_option maxHeartbeats 4000000 in
theorem ct_X0_less {G : Gv} {l : Launch} {b0 : Nat} {v0 : Mem} {rx : Int32} {rw0 : Mem} {sz : Nat} (hm : fX0_less v0 = some (rx, rw0)) : CT G l yX0_less (ws_ yX0_less cX0_less 1 (some .int)) 1 0 0 21 [.ref b0] (fX b0) sz (fun H => rg G b0 357 (shX0 G.2.1) v0 H) (fun ov H => ov = (some (.int rx)) ∧ rg G b0 357 (shX0 G.2.1) rw0 H ∧ H.size = sz) := by
  refine Met.ofW (cc := cX0_less) (maxL := 1) (ret := (some .int)) (by decide +kernel) rfl ?_
  intro p e s m args below meth c s₁ B hml hv
  obtain ⟨rfl, ⟨hz, hW0⟩, hK⟩ := hv
  subst hz
  have hts := atoms_spec (ws := ws_ yX0_less cX0_less 1 (some .int)) B.pre
  have hts : ∀ w ∈ lw_all, w.before _ s = true := fun w h => hts w (List.mem_cons_of_mem _ h)
  have C : Cx G p s m _ meth c RX0 cX0_less 1 (some .int) := ⟨B.exec, B.bytes, B.returns, B.notSynchronized, hml, findClass_of_methodNamed B.named, hts, hK⟩
  have hl := lv_entry ([.ref b0]) (n := 1) (Nat.le_of_ble_eq_true rfl)
  rw [lg_entry_eq]
  generalize (lg_sl ([.ref b0]) ++ List.replicate (1 - (lg_sl ([.ref b0])).length) Slot.unset).toArray = ls at hl ⊢
  have hl : lv_has ls 1 [(0, .ref b0)] := hl
  exact w_fX0_less C _ hm s.heap [] ls hW0 va_S.rf rfl hl
theorem flX0_189 : FL RX0 189 0 12 RX0 TX0 25 := ⟨in_X0, rfl, by decide, q510⟩
theorem flX0_56 : FL RX0 56 0 11 RX0 TX0 25 := ⟨in_X0, rfl, by decide, q507⟩
noncomputable def fX0_feed (v0 : Mem) (i1 : Int32) : Option (Int32 × Mem) :=
  ob (fX0_in i1.toInt64 (0 : Int64) (127 : Int64)) fun r1 =>
  if r1 = 0 then (
  some ((-2 : Int32), v0))
  else (
  if (gI v0 0 12) = (80 : Int32) then (
  some ((-4 : Int32), v0))
  else (
  gb (inR (gI v0 0 12) 80) (
  lm (sI v0 157 (gI v0 0 12).toNatClampNeg i1.toInt8.toInt32.toInt8.toInt32) fun v0_6 =>
  lm (sI v0_6 0 12 ((gI v0_6 0 12) + (1 : Int32))) fun v0_14 =>
  some ((gI v0_14 0 12), v0_14))))
set_option maxHeartbeats 4000000 in
theorem w_fX0_feed (C : Cx G p s m args meth c RX0 cX0_feed 2 (some .int)) {b0 : Nat} {rx : Int32} {rw0 : Mem} : ∀ (v0 : Mem) (i1 : Int32), fX0_feed v0 i1 = some (rx, rw0) → ∀ (H : Heap) (locs : List Loc) (ls : Array Slot), rg G b0 357 (shX0 G.2.1) v0 H → va_S (FA (fX b0) s.heap.size) s.heap H locs → H.size = s.heap.size → lv_has ls 2 [(0, .ref b0), (1, .int i1)] → W p l e (rmT 1 0 0 25) s m args below meth c H locs 0 0 (MQ below (QcT (FA (fX b0) s.heap.size) (fun ov H => ov = (some (.int rx)) ∧ rg G b0 357 (shX0 G.2.1) rw0 H ∧ H.size = s.heap.size)) args s 0 0 (FA (fX b0) s.heap.size)) (F0 m 0 ls []) := by
  intro v0 i1 hm H locs ls hW0 hS hz hl
  obtain ⟨hx, hb, hr, hlk, hml, hown, hts, hK⟩ := id C
  unfold fX0_feed at hm
  refine lv_iload_n (pc := 0) hx hb dX0_feed_0 rfl (lv_at hl 1 rfl) ?_
  refine lv_i2l (pc := 1) hx hb dX0_feed_1 rfl ?_
  refine lv_lconst (pc := 2) (v := (0 : Int64)) hx hb dX0_feed_2 (by decide) ?_
  refine lv_ldc2 (pc := 3) (v := (127 : Int64)) hx hb hown (hts _ q629) dX0_feed_3 ?_
  obtain ⟨r1, hq2, hm⟩ := ob_some hm
  refine rk_PS (pc := 6) (As := [.long i1.toInt64, .long (0 : Int64), .long (127 : Int64)]) (rest := []) hx hb hml hown hts hK lkX0_127 yn_X0_in (ct_X0_in (G := G) (l := l) hq2) ⟨Nat.le_of_ble_eq_true rfl, Nat.le_of_ble_eq_true rfl⟩ trivial rfl rfl hl.1 (Nat.le_of_ble_eq_true rfl) dX0_feed_6 ⟨Nat.zero_le _, Nat.zero_le _⟩ ?_
  refine W.eq (g2 := F0 m 9 ls [.int r1]) rfl ?_
  refine lv_if_ne (pc := 9) (tgt := 15) hx hb dX0_feed_9 (by decide) (fun c3 => ?_) (fun c3 => ?_)
  · have hm := ite_f c3 hm
    refine lv_aload_n (pc := 15) hx hb dX0_feed_15 rfl (lv_at hl 0 rfl) ?_
    refine rk_get (pc := 16) hx hb hts hown hK hW0 flX0_189 0 (by decide) rfl rfl (x := .int (gI v0 0 12)) rfl dX0_feed_16 ?_
    refine lv_bipush (pc := 19) (v := (80 : Int32)) hx hb dX0_feed_19 (by decide) ?_
    refine lv_icmp_ne (pc := 21) (tgt := 27) hx hb dX0_feed_21 (by decide) (fun c4 => ?_) (fun c4 => ?_)
    · have hm := ite_f c4 hm
      refine lv_aload_n (pc := 27) hx hb dX0_feed_27 rfl (lv_at hl 0 rfl) ?_
      refine rk_get (pc := 28) hx hb hts hown hK hW0 flX0_56 0 (by decide) rfl rfl (x := .ref (b0 + 157)) (by first | rfl | exact congrArg (fun z => some (Value.ref z)) (by omega)) dX0_feed_28 ?_
      refine lv_aload_n (pc := 31) hx hb dX0_feed_31 rfl (lv_at hl 0 rfl) ?_
      refine rk_get (pc := 32) hx hb hts hown hK hW0 flX0_189 0 (by decide) rfl rfl (x := .int (gI v0 0 12)) rfl dX0_feed_32 ?_
      refine lv_iload_n (pc := 35) hx hb dX0_feed_35 rfl (lv_at hl 1 rfl) ?_
      refine lv_i2b (pc := 36) hx hb dX0_feed_36 rfl ?_
      obtain ⟨hg5, hm⟩ := gb_some hm
      refine rk_bast (pc := 37) hx hb hK hW0 hS 157 (by decide) rfl (Or.inl (show fX _ _ from ⟨⟨by omega, by omega⟩, by omega⟩)) (fun _ _ _ => rfl) hg5 dX0_feed_37 (fun H7 locs8 hW9 hS10 hz11 hkp12 => ?_)
      obtain ⟨v0_6, he9, hm⟩ := lm_some hm
      rw [he9] at hW9
      have hz13 := hz11.trans hz
      refine lv_aload_n (pc := 38) hx hb dX0_feed_38 rfl (lv_at hl 0 rfl) ?_
      refine lv_dup (pc := 39) hx hb dX0_feed_39 rfl ?_
      refine rk_get (pc := 40) hx hb hts hown hK hW9 flX0_189 0 (by decide) rfl rfl (x := .int (gI v0_6 0 12)) rfl dX0_feed_40 ?_
      refine lv_iconst (pc := 43) (v := (1 : Int32)) hx hb dX0_feed_43 (by decide) ?_
      refine lv_iadd (pc := 44) hx hb dX0_feed_44 ?_
      refine rk_put (pc := 45) hx hb hts hown hK hW9 hS10 flX0_189 ft_X0 0 (by decide) rfl (Or.inl (show fX _ _ from ⟨⟨by omega, by omega⟩, by omega⟩)) rfl rfl (x := .int ((gI v0_6 0 12) + (1 : Int32))) rfl rfl (Nat.le_of_ble_eq_true rfl) (sI v0_6 0 12 ((gI v0_6 0 12) + (1 : Int32))) sI_ne (by rw [sI_eq]; exact rfl) dX0_feed_45 (fun H15 locs16 hW17 hS18 hz19 hkp20 => ?_)
      obtain ⟨v0_14, he9, hm⟩ := lm_some hm
      rw [he9] at hW17
      have hz21 := hz19.trans hz13
      refine lv_aload_n (pc := 48) hx hb dX0_feed_48 rfl (lv_at hl 0 rfl) ?_
      refine rk_get (pc := 49) hx hb hts hown hK hW17 flX0_189 0 (by decide) rfl rfl (x := .int (gI v0_14 0 12)) rfl dX0_feed_49 ?_
      obtain ⟨e8, e9⟩ := rs2 hm
      subst e8
      subst e9
      exact rk_iret (pc := 52) hx hb hr hlk hS18 ⟨rfl, hW17, hz21⟩ dX0_feed_52
    · have hm := ite_t c4 hm
      refine lv_bipush (pc := 24) (v := (-4 : Int32)) hx hb dX0_feed_24 (by decide) ?_
      obtain ⟨e8, e9⟩ := rs2 hm
      subst e8
      subst e9
      exact rk_iret (pc := 26) hx hb hr hlk hS ⟨rfl, hW0, hz⟩ dX0_feed_26
  · have hm := ite_t c3 hm
    refine lv_bipush (pc := 12) (v := (-2 : Int32)) hx hb dX0_feed_12 (by decide) ?_
    obtain ⟨e8, e9⟩ := rs2 hm
    subst e8
    subst e9
    exact rk_iret (pc := 14) hx hb hr hlk hS ⟨rfl, hW0, hz⟩ dX0_feed_14
set_option maxHeartbeats 4000000 in
theorem ct_X0_feed {G : Gv} {l : Launch} {b0 : Nat} {v0 : Mem} {i1 : Int32} {rx : Int32} {rw0 : Mem} {sz : Nat} (hm : fX0_feed v0 i1 = some (rx, rw0)) : CT G l yX0_feed (ws_ yX0_feed cX0_feed 2 (some .int)) 1 0 0 25 [.ref b0, .int i1] (fX b0) sz (fun H => rg G b0 357 (shX0 G.2.1) v0 H) (fun ov H => ov = (some (.int rx)) ∧ rg G b0 357 (shX0 G.2.1) rw0 H ∧ H.size = sz) := by
  refine Met.ofW (cc := cX0_feed) (maxL := 2) (ret := (some .int)) (by decide +kernel) rfl ?_
  intro p e s m args below meth c s₁ B hml hv
  obtain ⟨rfl, ⟨hz, hW0⟩, hK⟩ := hv
  subst hz
  have hts := atoms_spec (ws := ws_ yX0_feed cX0_feed 2 (some .int)) B.pre
  have hts : ∀ w ∈ lw_all, w.before _ s = true := fun w h => hts w (List.mem_cons_of_mem _ h)
  have C : Cx G p s m _ meth c RX0 cX0_feed 2 (some .int) := ⟨B.exec, B.bytes, B.returns, B.notSynchronized, hml, findClass_of_methodNamed B.named, hts, hK⟩
  have hl := lv_entry ([.ref b0, .int i1]) (n := 2) (Nat.le_of_ble_eq_true rfl)
  rw [lg_entry_eq]
  generalize (lg_sl ([.ref b0, .int i1]) ++ List.replicate (2 - (lg_sl ([.ref b0, .int i1])).length) Slot.unset).toArray = ls at hl ⊢
  have hl : lv_has ls 2 [(0, .ref b0), (1, .int i1)] := hl
  exact w_fX0_feed C _ _ hm s.heap [] ls hW0 va_S.rf rfl hl
theorem fnX0_131 : FN RX0 131 1 0 RX1 TX1 11 "WholePacks" := ⟨in_X1, rfl, by decide, q193⟩
theorem fnX0_215 : FN RX0 215 2 0 RX2 TX2 3 "WholePacks" := ⟨in_X2, rfl, by decide, q176⟩
noncomputable def fX0_ruleOf (V0 : Mem) (i1 : Int32) (i2 : Int32) : Option (Int32) :=
  ob (fX1_hasRule (shf V0 1) i1) fun r1 =>
  if r1 = 0 then (
  some (-1 : Int32))
  else (
  ob (fX0_in i2.toInt64 (0 : Int64) ((gI V0 1 0) + (1 : Int32)).toInt64) fun r4 =>
  if r4 = 0 then (
  some (-1 : Int32))
  else (
  gb (inR i1 8) (
  if i2 = 0 then (
  some ((1000 : Int32) + (gI V0 (7 + 2 * i1.toNatClampNeg + 0) 0)))
  else (
  if i2 = (1 : Int32) then (
  some ((1000 : Int32) + (gI V0 (7 + 2 * i1.toNatClampNeg + 0) 1)))
  else (
  gb (inR (i2 - (2 : Int32)) 5) (
  some ((1000 : Int32) + (gI V0 (7 + 2 * i1.toNatClampNeg + 1) (i2 - (2 : Int32)).toNatClampNeg))))))))
set_option maxHeartbeats 4000000 in
theorem w_fX0_ruleOf (C : Cx G p s m args meth c RX0 cX0_ruleOf 4 (some .int)) {b0 : Nat} {V0 : Mem} {rx : Int32} (hW0 : rg G b0 357 (shX0 G.2.1) V0 s.heap) : ∀ (i1 : Int32) (i2 : Int32), fX0_ruleOf V0 i1 i2 = some rx → ∀ (ls : Array Slot), lv_has ls 4 [(0, .ref b0), (1, .int i1), (2, .int i2)] → W p l e (rmP 2 46) s m args below meth c s.heap [] 0 0 (MQ below (QcP (some (.int rx))) args s 0 0 (fun _ => False)) (F0 m 0 ls []) := by
  intro i1 i2 hm ls hl
  obtain ⟨hx, hb, hr, hlk, hml, hown, hts, hK⟩ := id C
  unfold fX0_ruleOf at hm
  refine lv_aload_n (pc := 0) hx hb dX0_ruleOf_0 rfl (lv_at hl 0 rfl) ?_
  refine rk_get (pc := 1) hx hb hts hown hK hW0 flX0_12 0 (by decide) rfl rfl (x := .ref (b0 + 1)) (by first | rfl | exact congrArg (fun z => some (Value.ref z)) (by omega)) dX0_ruleOf_1 ?_
  refine lv_iload_n (pc := 4) hx hb dX0_ruleOf_4 rfl (lv_at hl 1 rfl) ?_
  obtain ⟨r1, hq2, hm⟩ := ob_some hm
  refine rk_PV (pc := 5) (As := [.int i1]) (rest := []) hx hb hml hown hts hK lkX0_165 rfl yn_X1_hasRule (ct_X1_hasRule (G := G) (l := l) (b0 := (b0 + 1)) hq2) ⟨Nat.le_of_ble_eq_true rfl, Nat.le_of_ble_eq_true rfl⟩ (rk_recv hK hW0 1 (by decide) rfl rfl rfl) (rg_sub hW0 rfl (by decide) (fun o ho x y z => shX0_n1 G.2.1 _ rfl o ho x y z)) rfl rfl hl.1 (Nat.le_of_ble_eq_true rfl) dX0_ruleOf_5 ⟨Nat.zero_le _, Nat.zero_le _⟩ ?_
  refine W.eq (g2 := F0 m 8 ls [.int r1]) rfl ?_
  refine lv_if_eq (pc := 8) (tgt := 30) hx hb dX0_ruleOf_8 (by decide) (fun c3 => ?_) (fun c3 => ?_)
  · have hm := ite_t c3 hm
    refine lv_iconst (pc := 30) (v := (-1 : Int32)) hx hb dX0_ruleOf_30 (by decide) ?_
    have e9 := rs1 hm
    subst e9
    exact rk_iretP (pc := 31) hx hb hr hlk rfl dX0_ruleOf_31
  · have hm := ite_f c3 hm
    refine lv_iload_n (pc := 11) hx hb dX0_ruleOf_11 rfl (lv_at hl 2 rfl) ?_
    refine lv_i2l (pc := 12) hx hb dX0_ruleOf_12 rfl ?_
    refine lv_lconst (pc := 13) (v := (0 : Int64)) hx hb dX0_ruleOf_13 (by decide) ?_
    refine lv_aload_n (pc := 14) hx hb dX0_ruleOf_14 rfl (lv_at hl 0 rfl) ?_
    refine rk_get (pc := 15) hx hb hts hown hK hW0 flX0_12 0 (by decide) rfl rfl (x := .ref (b0 + 1)) (by first | rfl | exact congrArg (fun z => some (Value.ref z)) (by omega)) dX0_ruleOf_15 ?_
    refine rk_getN (pc := 18) hx hb hts hown hK hW0 fnX0_131 1 (by decide) rfl rfl (x := .int (gI V0 1 0)) rfl dX0_ruleOf_18 ?_
    refine lv_iconst (pc := 21) (v := (1 : Int32)) hx hb dX0_ruleOf_21 (by decide) ?_
    refine lv_iadd (pc := 22) hx hb dX0_ruleOf_22 ?_
    refine lv_i2l (pc := 23) hx hb dX0_ruleOf_23 rfl ?_
    obtain ⟨r4, hq5, hm⟩ := ob_some hm
    refine rk_PS (pc := 24) (As := [.long i2.toInt64, .long (0 : Int64), .long ((gI V0 1 0) + (1 : Int32)).toInt64]) (rest := []) hx hb hml hown hts hK lkX0_127 yn_X0_in (ct_X0_in (G := G) (l := l) hq5) ⟨Nat.le_of_ble_eq_true rfl, Nat.le_of_ble_eq_true rfl⟩ trivial rfl rfl hl.1 (Nat.le_of_ble_eq_true rfl) dX0_ruleOf_24 ⟨Nat.zero_le _, Nat.zero_le _⟩ ?_
    refine W.eq (g2 := F0 m 27 ls [.int r4]) rfl ?_
    refine lv_if_ne (pc := 27) (tgt := 32) hx hb dX0_ruleOf_27 (by decide) (fun c6 => ?_) (fun c6 => ?_)
    · have hm := ite_f c6 hm
      refine lv_aload_n (pc := 32) hx hb dX0_ruleOf_32 rfl (lv_at hl 0 rfl) ?_
      refine rk_get (pc := 33) hx hb hts hown hK hW0 flX0_12 0 (by decide) rfl rfl (x := .ref (b0 + 1)) (by first | rfl | exact congrArg (fun z => some (Value.ref z)) (by omega)) dX0_ruleOf_33 ?_
      refine rk_getN (pc := 36) hx hb hts hown hK hW0 fnX0_172 1 (by decide) rfl rfl (x := .ref (b0 + 3)) (by first | rfl | exact congrArg (fun z => some (Value.ref z)) (by omega)) dX0_ruleOf_36 ?_
      refine lv_iload_n (pc := 39) hx hb dX0_ruleOf_39 rfl (lv_at hl 1 rfl) ?_
      obtain ⟨hg7, hm⟩ := gb_some hm
      have hlt8 := inR_lt hg7
      refine rk_aald (pc := 40) hx hb hK hW0 3 5 (by decide) rfl rfl rfl hg7 (x := (b0 + (7 + 2 * i1.toNatClampNeg + 0))) (by first | rfl | exact congrArg some (by omega)) dX0_ruleOf_40 ?_
      refine lv_astore_n (pc := 41) (lv' := [(3, .ref (b0 + (7 + 2 * i1.toNatClampNeg + 0))), (0, .ref b0), (1, .int i1), (2, .int i2)]) hx hb dX0_ruleOf_41 rfl hl (by decide) rfl (fun ls hl => ?_)
      refine lv_sipush (pc := 42) (v := (1000 : Int32)) hx hb dX0_ruleOf_42 (by decide) ?_
      refine lv_iload_n (pc := 45) hx hb dX0_ruleOf_45 rfl (lv_at hl 3 rfl) ?_
      refine lv_if_ne (pc := 46) (tgt := 56) hx hb dX0_ruleOf_46 (by decide) (fun c9 => ?_) (fun c9 => ?_)
      · have hm := ite_f c9 hm
        refine lv_iload_n (pc := 56) hx hb dX0_ruleOf_56 rfl (lv_at hl 3 rfl) ?_
        refine lv_iconst (pc := 57) (v := (1 : Int32)) hx hb dX0_ruleOf_57 (by decide) ?_
        refine lv_icmp_ne (pc := 58) (tgt := 68) hx hb dX0_ruleOf_58 (by decide) (fun c10 => ?_) (fun c10 => ?_)
        · have hm := ite_f c10 hm
          refine lv_aload_n (pc := 68) hx hb dX0_ruleOf_68 rfl (lv_at hl 0 rfl) ?_
          refine rk_getN (pc := 69) hx hb hts hown hK hW0 fnX0_176 (7 + 2 * i1.toNatClampNeg + 0) (by omega) rfl ((shX0_f7 G.2.1 hlt8 _ rfl 0 (by decide) _ _ _).trans rfl) (x := .ref (b0 + (7 + 2 * i1.toNatClampNeg + 1))) (by first | rfl | exact congrArg (fun z => some (Value.ref z)) (by omega)) dX0_ruleOf_69 ?_
          refine lv_iload_n (pc := 72) hx hb dX0_ruleOf_72 rfl (lv_at hl 3 rfl) ?_
          refine lv_iconst (pc := 73) (v := (2 : Int32)) hx hb dX0_ruleOf_73 (by decide) ?_
          refine lv_isub (pc := 74) hx hb dX0_ruleOf_74 ?_
          obtain ⟨hg11, hm⟩ := gb_some hm
          refine rk_iald (pc := 75) hx hb hK hW0 (7 + 2 * i1.toNatClampNeg + 1) (by omega) rfl ((shX0_f7 G.2.1 hlt8 _ rfl 1 (by decide) _ _ _).trans rfl) hg11 (x := (gI V0 (7 + 2 * i1.toNatClampNeg + 1) (i2 - (2 : Int32)).toNatClampNeg)) rfl dX0_ruleOf_75 ?_
          refine lv_iadd (pc := 76) hx hb dX0_ruleOf_76 ?_
          have e9 := rs1 hm
          subst e9
          exact rk_iretP (pc := 77) hx hb hr hlk rfl dX0_ruleOf_77
        · have hm := ite_t c10 hm
          refine lv_aload_n (pc := 61) hx hb dX0_ruleOf_61 rfl (lv_at hl 0 rfl) ?_
          refine rk_getN (pc := 62) hx hb hts hown hK hW0 fnX0_181 (7 + 2 * i1.toNatClampNeg + 0) (by omega) rfl ((shX0_f7 G.2.1 hlt8 _ rfl 0 (by decide) _ _ _).trans rfl) (x := .int (gI V0 (7 + 2 * i1.toNatClampNeg + 0) 1)) rfl dX0_ruleOf_62 ?_
          refine lv_goto (pc := 65) (tgt := 76) hx hb dX0_ruleOf_65 (by decide) ?_
          refine lv_iadd (pc := 76) hx hb dX0_ruleOf_76 ?_
          have e9 := rs1 hm
          subst e9
          exact rk_iretP (pc := 77) hx hb hr hlk rfl dX0_ruleOf_77
      · have hm := ite_t c9 hm
        refine lv_aload_n (pc := 49) hx hb dX0_ruleOf_49 rfl (lv_at hl 0 rfl) ?_
        refine rk_getN (pc := 50) hx hb hts hown hK hW0 fnX0_215 (7 + 2 * i1.toNatClampNeg + 0) (by omega) rfl ((shX0_f7 G.2.1 hlt8 _ rfl 0 (by decide) _ _ _).trans rfl) (x := .int (gI V0 (7 + 2 * i1.toNatClampNeg + 0) 0)) rfl dX0_ruleOf_50 ?_
        refine lv_goto (pc := 53) (tgt := 76) hx hb dX0_ruleOf_53 (by decide) ?_
        refine lv_iadd (pc := 76) hx hb dX0_ruleOf_76 ?_
        have e9 := rs1 hm
        subst e9
        exact rk_iretP (pc := 77) hx hb hr hlk rfl dX0_ruleOf_77
    · have hm := ite_t c6 hm
      refine lv_iconst (pc := 30) (v := (-1 : Int32)) hx hb dX0_ruleOf_30 (by decide) ?_
      have e9 := rs1 hm
      subst e9
      exact rk_iretP (pc := 31) hx hb hr hlk rfl dX0_ruleOf_31
set_option maxHeartbeats 4000000 in
theorem ct_X0_ruleOf {G : Gv} {l : Launch} {b0 : Nat} {V0 : Mem} {i1 : Int32} {i2 : Int32} {rx : Int32} (hm : fX0_ruleOf V0 i1 i2 = some rx) : CP G l yX0_ruleOf (ws_ yX0_ruleOf cX0_ruleOf 4 (some .int)) 2 46 [.ref b0, .int i1, .int i2] (fun H => rg G b0 357 (shX0 G.2.1) V0 H) (some (.int rx)) := by
  refine Met.ofW (cc := cX0_ruleOf) (maxL := 4) (ret := (some .int)) (by decide +kernel) rfl ?_
  intro p e s m args below meth c s₁ B hml hv
  obtain ⟨rfl, hW0, hK⟩ := hv
  have hts := atoms_spec (ws := ws_ yX0_ruleOf cX0_ruleOf 4 (some .int)) B.pre
  have hts : ∀ w ∈ lw_all, w.before _ s = true := fun w h => hts w (List.mem_cons_of_mem _ h)
  have C : Cx G p s m _ meth c RX0 cX0_ruleOf 4 (some .int) := ⟨B.exec, B.bytes, B.returns, B.notSynchronized, hml, findClass_of_methodNamed B.named, hts, hK⟩
  have hl := lv_entry ([.ref b0, .int i1, .int i2]) (n := 4) (Nat.le_of_ble_eq_true rfl)
  rw [lg_entry_eq]
  generalize (lg_sl ([.ref b0, .int i1, .int i2]) ++ List.replicate (4 - (lg_sl ([.ref b0, .int i1, .int i2])).length) Slot.unset).toArray = ls at hl ⊢
  have hl : lv_has ls 4 [(0, .ref b0), (1, .int i1), (2, .int i2)] := hl
  exact w_fX0_ruleOf C hW0 _ _ hm ls hl
theorem flX0_27 : FL RX0 27 0 3 RX0 TX0 25 := ⟨in_X0, rfl, by decide, q499⟩
theorem lkX0_220 : LVW RX0 220 RX3 yX3_solves cX3_solves 4 (some .int) [(5, 28, 49, 108), (29, 48, 49, 108)] := ⟨q772, q773, q774, q117, q775⟩
theorem flX0_224 : FL RX0 224 0 5 RX0 TX0 25 := ⟨in_X0, rfl, by decide, q501⟩
noncomputable def fX0_solve (v0 : Mem) (i1 : Int32) : Option (Int32 × Nat × Mem) :=
  ob (fX0_in i1.toInt64 (0 : Int64) (12 : Int64)) fun r1 =>
  if r1 = 0 then (
  some ((-2 : Int32), 0, v0))
  else (
  ob3 (fX3_solves (shf v0 1) (shf v0 67) i1) fun r4 rc5 w6 =>
  lm (ptm v0 67 43 w6) fun v0_16 =>
  lm (sI v0_16 0 5 r4) fun v0_19 =>
  lm (sI v0_19 0 6 (1 : Int32)) fun v0_28 =>
  some ((gI v0_28 0 5), rc5, v0_28))
set_option maxHeartbeats 4000000 in
theorem w_fX0_solve (C : Cx G p s m args meth c RX0 cX0_solve 2 (some .int)) {b0 : Nat} {rx : Int32} {rc : Nat} {rw0 : Mem} (he0 : b0 + 357 ≤ s.heap.size) (hZ : ZQ G) (hgb0 : gB G ≤ b0) : ∀ (v0 : Mem) (i1 : Int32), fX0_solve v0 i1 = some (rx, rc, rw0) → ∀ (H : Heap) (locs : List Loc) (ls : Array Slot), rg G b0 357 (shX0 G.2.1) v0 H → va_S (FA (fX b0) s.heap.size) s.heap H locs → H.size = s.heap.size + 0 → GO G H → lv_has ls 2 [(0, .ref b0), (1, .int i1)] → W p l e (rmT 7 1 7 154) s m args below meth c H locs 0 0 (MQ below (QcT (FA (fX b0) s.heap.size) (fun ov H => ov = (some (.int rx)) ∧ rg G b0 357 (shX0 G.2.1) rw0 H ∧ H.size = s.heap.size + rc)) args s 1 7 (FA (fX b0) s.heap.size)) (F0 m 0 ls []) := by
  intro v0 i1 hm H locs ls hW0 hS hz hG hl
  obtain ⟨hx, hb, hr, hlk, hml, hown, hts, hK⟩ := id C
  unfold fX0_solve at hm
  refine lv_iload_n (pc := 0) hx hb dX0_solve_0 rfl (lv_at hl 1 rfl) ?_
  refine lv_i2l (pc := 1) hx hb dX0_solve_1 rfl ?_
  refine lv_lconst (pc := 2) (v := (0 : Int64)) hx hb dX0_solve_2 (by decide) ?_
  refine lv_ldc2 (pc := 3) (v := (12 : Int64)) hx hb hown (hts _ q771) dX0_solve_3 ?_
  obtain ⟨r1, hq2, hm⟩ := ob_some hm
  refine rk_PS (pc := 6) (As := [.long i1.toInt64, .long (0 : Int64), .long (12 : Int64)]) (rest := []) hx hb hml hown hts hK lkX0_127 yn_X0_in (ct_X0_in (G := G) (l := l) hq2) ⟨Nat.le_of_ble_eq_true rfl, Nat.le_of_ble_eq_true rfl⟩ trivial rfl rfl hl.1 (Nat.le_of_ble_eq_true rfl) dX0_solve_6 ⟨Nat.zero_le _, Nat.zero_le _⟩ ?_
  refine W.eq (g2 := F0 m 9 ls [.int r1]) rfl ?_
  refine lv_if_ne (pc := 9) (tgt := 15) hx hb dX0_solve_9 (by decide) (fun c3 => ?_) (fun c3 => ?_)
  · have hm := ite_f c3 hm
    refine lv_aload_n (pc := 15) hx hb dX0_solve_15 rfl (lv_at hl 0 rfl) ?_
    refine lv_aload_n (pc := 16) hx hb dX0_solve_16 rfl (lv_at hl 0 rfl) ?_
    refine rk_get (pc := 17) hx hb hts hown hK hW0 flX0_27 0 (by decide) rfl rfl (x := .ref (b0 + 67)) (by first | rfl | exact congrArg (fun z => some (Value.ref z)) (by omega)) dX0_solve_17 ?_
    refine lv_aload_n (pc := 20) hx hb dX0_solve_20 rfl (lv_at hl 0 rfl) ?_
    refine rk_get (pc := 21) hx hb hts hown hK hW0 flX0_12 0 (by decide) rfl rfl (x := .ref (b0 + 1)) (by first | rfl | exact congrArg (fun z => some (Value.ref z)) (by omega)) dX0_solve_21 ?_
    refine lv_iload_n (pc := 24) hx hb dX0_solve_24 rfl (lv_at hl 1 rfl) ?_
    obtain ⟨r4, rc5, w6, hq7, hm⟩ := ob3_some hm
    refine rk_TVW (pc := 25) (As := [.ref (b0 + 1), .int i1]) (rest := [.ref b0]) (mc := 1) (ms := 7) hx hb hml hown hts hK hS (fun q hq => FA_sz rfl q hq) lkX0_220 rfl yn_X3_solves (ct_X3_solves (G := G) (l := l) (b0 := (b0 + 67)) (b1 := (b0 + 1)) (sz := H.size) hq7 (by omega) hZ (by omega) (by omega)) ⟨Nat.le_of_ble_eq_true rfl, Nat.le_of_ble_eq_true rfl⟩ (fun z h => Or.inl (show fX _ _ from ⟨⟨by have h8 := h.1; have h9 := h.2; omega, by have h8 := h.1; have h9 := h.2; omega⟩, by have h8 := h.1; have h9 := h.2; omega⟩)) (rk_recv hK hW0 67 (by decide) rfl rfl rfl) ⟨(rg_sub hW0 rfl (by decide) (fun o ho x y z => shX0_n67 G.2.1 _ rfl o ho x y z)), (rg_sub hW0 rfl (by decide) (fun o ho x y z => shX0_n1 G.2.1 _ rfl o ho x y z)), hG⟩ rfl rfl hl.1 (Nat.le_of_ble_eq_true rfl) dX0_solve_25 ⟨Nat.le_of_ble_eq_true rfl, Nat.le_of_ble_eq_true rfl⟩ (fun ov9 H8 locs9 hP10 hkp11 hS12 => ?_)
    obtain ⟨rfl, hW13, hz14⟩ := hP10
    have hW15 := rg_put (d := 67) hW0 hW13 rfl (fun o ho x y z => shX0_n67 G.2.1 _ rfl o ho x y z) hkp11
    obtain ⟨v0_16, he9, hm⟩ := lm_some hm
    rw [he9] at hW15
    have hG17 := GO_keepA hG hkp11 (Nat.le_trans (show gB G ≤ s.heap.size by omega) hS.1) (by intro z h3; have h8 := h3.1; have h9 := h3.2; omega)
    have hz18 : H8.size = s.heap.size + rc5 := by omega
    refine W.eq (g2 := F0 m 28 ls [.int r4, .ref b0]) rfl ?_
    refine rk_put (pc := 28) hx hb hts hown hK hW15 hS12 flX0_224 ft_X0 0 (by decide) rfl (Or.inl (show fX _ _ from ⟨⟨by omega, by omega⟩, by omega⟩)) rfl rfl (x := .int r4) rfl rfl (Nat.le_of_ble_eq_true rfl) (sI v0_16 0 5 r4) sI_ne (by rw [sI_eq]; exact rfl) dX0_solve_28 (fun H20 locs21 hW22 hS23 hz24 hkp25 => ?_)
    obtain ⟨v0_19, he9, hm⟩ := lm_some hm
    rw [he9] at hW22
    have hz26 := hz24.trans hz18
    have hG27 := GO_keepq hG17 hkp25 (by omega)
    refine lv_aload_n (pc := 31) hx hb dX0_solve_31 rfl (lv_at hl 0 rfl) ?_
    refine lv_iconst (pc := 32) (v := (1 : Int32)) hx hb dX0_solve_32 (by decide) ?_
    refine rk_put (pc := 33) hx hb hts hown hK hW22 hS23 flX0_121 ft_X0 0 (by decide) rfl (Or.inl (show fX _ _ from ⟨⟨by omega, by omega⟩, by omega⟩)) rfl rfl (x := .int (1 : Int32)) rfl rfl (Nat.le_of_ble_eq_true rfl) (sI v0_19 0 6 (1 : Int32)) sI_ne (by rw [sI_eq]; exact rfl) dX0_solve_33 (fun H29 locs30 hW31 hS32 hz33 hkp34 => ?_)
    obtain ⟨v0_28, he9, hm⟩ := lm_some hm
    rw [he9] at hW31
    have hz35 := hz33.trans hz26
    have hG36 := GO_keepq hG27 hkp34 (by omega)
    refine lv_aload_n (pc := 36) hx hb dX0_solve_36 rfl (lv_at hl 0 rfl) ?_
    refine rk_get (pc := 37) hx hb hts hown hK hW31 flX0_224 0 (by decide) rfl rfl (x := .int (gI v0_28 0 5)) rfl dX0_solve_37 ?_
    obtain ⟨e7, e8, e9⟩ := rs3 hm
    subst e7
    subst e8
    subst e9
    exact rk_iretA (pc := 40) hx hb hr hlk hS32 ⟨rfl, hW31, hz35⟩ dX0_solve_40 (by exact Nat.le_of_ble_eq_true rfl) (by exact Nat.le_of_ble_eq_true rfl)
  · have hm := ite_t c3 hm
    refine lv_bipush (pc := 12) (v := (-2 : Int32)) hx hb dX0_solve_12 (by decide) ?_
    obtain ⟨e7, e8, e9⟩ := rs3 hm
    subst e7
    subst e8
    subst e9
    exact rk_iretA (pc := 14) hx hb hr hlk hS ⟨rfl, hW0, hz⟩ dX0_solve_14 (by exact Nat.le_of_ble_eq_true rfl) (by exact Nat.le_of_ble_eq_true rfl)
set_option maxHeartbeats 4000000 in
theorem ct_X0_solve {G : Gv} {l : Launch} {b0 : Nat} {v0 : Mem} {i1 : Int32} {rx : Int32} {rc : Nat} {rw0 : Mem} {sz : Nat} (hm : fX0_solve v0 i1 = some (rx, rc, rw0)) (hZ : ZQ G) (hgb0 : gB G ≤ b0) : CT G l yX0_solve (ws_ yX0_solve cX0_solve 2 (some .int)) 7 1 7 154 [.ref b0, .int i1] (fX b0) sz (fun H => rg G b0 357 (shX0 G.2.1) v0 H ∧ GO G H) (fun ov H => ov = (some (.int rx)) ∧ rg G b0 357 (shX0 G.2.1) rw0 H ∧ H.size = sz + rc) := by
  refine Met.ofW (cc := cX0_solve) (maxL := 2) (ret := (some .int)) (by decide +kernel) rfl ?_
  intro p e s m args below meth c s₁ B hml hv
  obtain ⟨rfl, ⟨hz, hW0, hG⟩, hK⟩ := hv
  subst hz
  have he0 := rg_end hW0 356 (by decide) rfl (fun _ _ _ => rfl)
  have hts := atoms_spec (ws := ws_ yX0_solve cX0_solve 2 (some .int)) B.pre
  have hts : ∀ w ∈ lw_all, w.before _ s = true := fun w h => hts w (List.mem_cons_of_mem _ h)
  have C : Cx G p s m _ meth c RX0 cX0_solve 2 (some .int) := ⟨B.exec, B.bytes, B.returns, B.notSynchronized, hml, findClass_of_methodNamed B.named, hts, hK⟩
  have hl := lv_entry ([.ref b0, .int i1]) (n := 2) (Nat.le_of_ble_eq_true rfl)
  rw [lg_entry_eq]
  generalize (lg_sl ([.ref b0, .int i1]) ++ List.replicate (2 - (lg_sl ([.ref b0, .int i1])).length) Slot.unset).toArray = ls at hl ⊢
  have hl : lv_has ls 2 [(0, .ref b0), (1, .int i1)] := hl
  exact w_fX0_solve C he0 hZ hgb0 _ _ hm s.heap [] ls hW0 va_S.rf rfl hG hl
theorem fnX0_229 : FN RX0 229 3 1 RX3 TX3 12 "WholePacks" := ⟨in_X3, rfl, by decide, q277⟩
theorem lkX0_254 : LV RX0 254 RX3 yX3_entry cX3_entry 3 (some .long) := ⟨q894, q810, q811, q117, q812⟩
theorem fnX0_251 : FN RX0 251 3 7 RX3 TX3 12 "WholePacks" := ⟨in_X3, rfl, by decide, q290⟩
theorem fnX0_248 : FN RX0 248 3 9 RX3 TX3 12 "WholePacks" := ⟨in_X3, rfl, by decide, q294⟩
theorem fnX0_244 : FN RX0 244 3 8 RX3 TX3 12 "WholePacks" := ⟨in_X3, rfl, by decide, q292⟩
theorem fnX0_241 : FN RX0 241 3 5 RX3 TX3 12 "WholePacks" := ⟨in_X3, rfl, by decide, q287⟩
theorem fnX0_237 : FN RX0 237 3 4 RX3 TX3 12 "WholePacks" := ⟨in_X3, rfl, by decide, q284⟩
theorem fnX0_234 : FN RX0 234 3 10 RX3 TX3 12 "WholePacks" := ⟨in_X3, rfl, by decide, q296⟩
noncomputable def fX0_entry_56 (V0 : Mem) (i1 : Int32) (i2 : Int32) (i3 : Int32) (u0 : Int64) (u1 : Int64) (u2 : Int64) : Option (Int64) :=
  ob (fX0_in u0 u1 u2) fun r6 =>
  if r6 = 0 then (
  some (-9223372036854775808 : Int64))
  else (
  if i1 = (-2 : Int32) then (
  gb (inR i2 5) (
  some (gI V0 72 i2.toNatClampNeg).toInt64))
  else (
  if i1 = (-1 : Int32) then (
  if i2 = (i3 + (1 : Int32)) then (
  some (gL V0 67 4))
  else (
  if i2 = i3 then (
  some (gL V0 67 5))
  else (
  gb (inR i2 5) (
  some (gL V0 70 i2.toNatClampNeg)))))
  else (
  if i2 = (i3 + (1 : Int32)) then (
  gb (inR i1 30) (
  some (gI V0 71 i1.toNatClampNeg).toInt64))
  else (
  if i2 = i3 then (
  gb (inR i1 30) (
  some (gL V0 69 i1.toNatClampNeg)))
  else (
  ob (fX3_entry (shf V0 67) i1 i2) fun r13 =>
  some r13)))))
noncomputable def fX0_entry (V0 : Mem) (i1 : Int32) (i2 : Int32) : Option (Int64) :=
  if (gI V0 0 6) = 0 then (
  some (-9223372036854775808 : Int64))
  else (
  ob (fX0_in i1.toInt64 (-2 : Int64) ((gI V0 67 1) - (1 : Int32)).toInt64) fun r2 =>
  if r2 = 0 then (
  some (-9223372036854775808 : Int64))
  else (
  if i1 = (-2 : Int32) then (
  fX0_entry_56 V0 i1 i2 (gI V0 1 0) i2.toInt64 (0 : Int64) ((gI V0 1 0) - (1 : Int32)).toInt64)
  else (
  fX0_entry_56 V0 i1 i2 (gI V0 1 0) i2.toInt64 (0 : Int64) ((gI V0 1 0) + (1 : Int32)).toInt64)))
set_option maxHeartbeats 4000000 in
theorem w_fX0_entry_56 (C : Cx G p s m args meth c RX0 cX0_entry 4 (some .long)) {b0 : Nat} {V0 : Mem} {rx : Int64} (hW0 : rg G b0 357 (shX0 G.2.1) V0 s.heap) : ∀ (i1 : Int32) (i2 : Int32) (i3 : Int32) (u0 : Int64) (u1 : Int64) (u2 : Int64), fX0_entry_56 V0 i1 i2 i3 u0 u1 u2 = some rx → ∀ (ls : Array Slot), lv_has ls 4 [(0, .ref b0), (1, .int i1), (2, .int i2), (3, .int i3)] → W p l e (rmP 1 25) s m args below meth c s.heap [] 0 0 (MQ below (QcP (some (.long rx))) args s 0 0 (fun _ => False)) (F0 m 56 ls [.long u2, .long u1, .long u0]) := by
  intro i1 i2 i3 u0 u1 u2 hm ls hl
  obtain ⟨hx, hb, hr, hlk, hml, hown, hts, hK⟩ := id C
  unfold fX0_entry_56 at hm
  obtain ⟨r6, hq7, hm⟩ := ob_some hm
  refine rk_PS (pc := 56) (As := [.long u0, .long u1, .long u2]) (rest := []) hx hb hml hown hts hK lkX0_127 yn_X0_in (ct_X0_in (G := G) (l := l) hq7) ⟨Nat.le_of_ble_eq_true rfl, Nat.le_of_ble_eq_true rfl⟩ trivial rfl rfl hl.1 (Nat.le_of_ble_eq_true rfl) dX0_entry_56 ⟨Nat.zero_le _, Nat.zero_le _⟩ ?_
  refine W.eq (g2 := F0 m 59 ls [.int r6]) rfl ?_
  refine lv_if_ne (pc := 59) (tgt := 66) hx hb dX0_entry_59 (by decide) (fun c8 => ?_) (fun c8 => ?_)
  · have hm := ite_f c8 hm
    refine lv_iload_n (pc := 66) hx hb dX0_entry_66 rfl (lv_at hl 1 rfl) ?_
    refine lv_bipush (pc := 67) (v := (-2 : Int32)) hx hb dX0_entry_67 (by decide) ?_
    refine lv_icmp_ne (pc := 69) (tgt := 83) hx hb dX0_entry_69 (by decide) (fun c9 => ?_) (fun c9 => ?_)
    · have hm := ite_f c9 hm
      refine lv_iload_n (pc := 83) hx hb dX0_entry_83 rfl (lv_at hl 1 rfl) ?_
      refine lv_iconst (pc := 84) (v := (-1 : Int32)) hx hb dX0_entry_84 (by decide) ?_
      refine lv_icmp_ne (pc := 85) (tgt := 130) hx hb dX0_entry_85 (by decide) (fun c10 => ?_) (fun c10 => ?_)
      · have hm := ite_f c10 hm
        refine lv_iload_n (pc := 130) hx hb dX0_entry_130 rfl (lv_at hl 2 rfl) ?_
        refine lv_iload_n (pc := 131) hx hb dX0_entry_131 rfl (lv_at hl 3 rfl) ?_
        refine lv_iconst (pc := 132) (v := (1 : Int32)) hx hb dX0_entry_132 (by decide) ?_
        refine lv_iadd (pc := 133) hx hb dX0_entry_133 ?_
        refine lv_icmp_ne (pc := 134) (tgt := 150) hx hb dX0_entry_134 (by decide) (fun c11 => ?_) (fun c11 => ?_)
        · have hm := ite_f c11 hm
          refine lv_iload_n (pc := 150) hx hb dX0_entry_150 rfl (lv_at hl 2 rfl) ?_
          refine lv_iload_n (pc := 151) hx hb dX0_entry_151 rfl (lv_at hl 3 rfl) ?_
          refine lv_icmp_ne (pc := 152) (tgt := 167) hx hb dX0_entry_152 (by decide) (fun c12 => ?_) (fun c12 => ?_)
          · have hm := ite_f c12 hm
            refine lv_aload_n (pc := 167) hx hb dX0_entry_167 rfl (lv_at hl 0 rfl) ?_
            refine rk_get (pc := 168) hx hb hts hown hK hW0 flX0_27 0 (by decide) rfl rfl (x := .ref (b0 + 67)) (by first | rfl | exact congrArg (fun z => some (Value.ref z)) (by omega)) dX0_entry_168 ?_
            refine lv_iload_n (pc := 171) hx hb dX0_entry_171 rfl (lv_at hl 1 rfl) ?_
            refine lv_iload_n (pc := 172) hx hb dX0_entry_172 rfl (lv_at hl 2 rfl) ?_
            obtain ⟨r13, hq14, hm⟩ := ob_some hm
            refine rk_PV (pc := 173) (As := [.int i1, .int i2]) (rest := []) hx hb hml hown hts hK lkX0_254 rfl yn_X3_entry (ct_X3_entry (G := G) (l := l) (b0 := (b0 + 67)) hq14) ⟨Nat.le_of_ble_eq_true rfl, Nat.le_of_ble_eq_true rfl⟩ (rk_recv hK hW0 67 (by decide) rfl rfl rfl) (rg_sub hW0 rfl (by decide) (fun o ho x y z => shX0_n67 G.2.1 _ rfl o ho x y z)) rfl rfl hl.1 (Nat.le_of_ble_eq_true rfl) dX0_entry_173 ⟨Nat.zero_le _, Nat.zero_le _⟩ ?_
            refine W.eq (g2 := F0 m 176 ls [.long r13]) rfl ?_
            have e9 := rs1 hm
            subst e9
            exact rk_lretP (pc := 176) hx hb hr hlk rfl dX0_entry_176
          · have hm := ite_t c12 hm
            refine lv_aload_n (pc := 155) hx hb dX0_entry_155 rfl (lv_at hl 0 rfl) ?_
            refine rk_get (pc := 156) hx hb hts hown hK hW0 flX0_27 0 (by decide) rfl rfl (x := .ref (b0 + 67)) (by first | rfl | exact congrArg (fun z => some (Value.ref z)) (by omega)) dX0_entry_156 ?_
            refine rk_getN (pc := 159) hx hb hts hown hK hW0 fnX0_251 67 (by decide) rfl rfl (x := .ref (b0 + 69)) (by first | rfl | exact congrArg (fun z => some (Value.ref z)) (by omega)) dX0_entry_159 ?_
            refine lv_iload_n (pc := 162) hx hb dX0_entry_162 rfl (lv_at hl 1 rfl) ?_
            obtain ⟨hg15, hm⟩ := gb_some hm
            refine rk_lald (pc := 163) hx hb hK hW0 69 (by decide) rfl rfl hg15 (x := (gL V0 69 i1.toNatClampNeg)) rfl dX0_entry_163 ?_
            refine lv_goto (pc := 164) (tgt := 176) hx hb dX0_entry_164 (by decide) ?_
            have e9 := rs1 hm
            subst e9
            exact rk_lretP (pc := 176) hx hb hr hlk rfl dX0_entry_176
        · have hm := ite_t c11 hm
          refine lv_aload_n (pc := 137) hx hb dX0_entry_137 rfl (lv_at hl 0 rfl) ?_
          refine rk_get (pc := 138) hx hb hts hown hK hW0 flX0_27 0 (by decide) rfl rfl (x := .ref (b0 + 67)) (by first | rfl | exact congrArg (fun z => some (Value.ref z)) (by omega)) dX0_entry_138 ?_
          refine rk_getN (pc := 141) hx hb hts hown hK hW0 fnX0_248 67 (by decide) rfl rfl (x := .ref (b0 + 71)) (by first | rfl | exact congrArg (fun z => some (Value.ref z)) (by omega)) dX0_entry_141 ?_
          refine lv_iload_n (pc := 144) hx hb dX0_entry_144 rfl (lv_at hl 1 rfl) ?_
          obtain ⟨hg16, hm⟩ := gb_some hm
          refine rk_iald (pc := 145) hx hb hK hW0 71 (by decide) rfl rfl hg16 (x := (gI V0 71 i1.toNatClampNeg)) rfl dX0_entry_145 ?_
          refine lv_i2l (pc := 146) hx hb dX0_entry_146 rfl ?_
          refine lv_goto (pc := 147) (tgt := 176) hx hb dX0_entry_147 (by decide) ?_
          have e9 := rs1 hm
          subst e9
          exact rk_lretP (pc := 176) hx hb hr hlk rfl dX0_entry_176
      · have hm := ite_t c10 hm
        refine lv_iload_n (pc := 88) hx hb dX0_entry_88 rfl (lv_at hl 2 rfl) ?_
        refine lv_iload_n (pc := 89) hx hb dX0_entry_89 rfl (lv_at hl 3 rfl) ?_
        refine lv_iconst (pc := 90) (v := (1 : Int32)) hx hb dX0_entry_90 (by decide) ?_
        refine lv_iadd (pc := 91) hx hb dX0_entry_91 ?_
        refine lv_icmp_ne (pc := 92) (tgt := 105) hx hb dX0_entry_92 (by decide) (fun c17 => ?_) (fun c17 => ?_)
        · have hm := ite_f c17 hm
          refine lv_iload_n (pc := 105) hx hb dX0_entry_105 rfl (lv_at hl 2 rfl) ?_
          refine lv_iload_n (pc := 106) hx hb dX0_entry_106 rfl (lv_at hl 3 rfl) ?_
          refine lv_icmp_ne (pc := 107) (tgt := 120) hx hb dX0_entry_107 (by decide) (fun c18 => ?_) (fun c18 => ?_)
          · have hm := ite_f c18 hm
            refine lv_aload_n (pc := 120) hx hb dX0_entry_120 rfl (lv_at hl 0 rfl) ?_
            refine rk_get (pc := 121) hx hb hts hown hK hW0 flX0_27 0 (by decide) rfl rfl (x := .ref (b0 + 67)) (by first | rfl | exact congrArg (fun z => some (Value.ref z)) (by omega)) dX0_entry_121 ?_
            refine rk_getN (pc := 124) hx hb hts hown hK hW0 fnX0_244 67 (by decide) rfl rfl (x := .ref (b0 + 70)) (by first | rfl | exact congrArg (fun z => some (Value.ref z)) (by omega)) dX0_entry_124 ?_
            refine lv_iload_n (pc := 127) hx hb dX0_entry_127 rfl (lv_at hl 2 rfl) ?_
            obtain ⟨hg19, hm⟩ := gb_some hm
            refine rk_lald (pc := 128) hx hb hK hW0 70 (by decide) rfl rfl hg19 (x := (gL V0 70 i2.toNatClampNeg)) rfl dX0_entry_128 ?_
            have e9 := rs1 hm
            subst e9
            exact rk_lretP (pc := 129) hx hb hr hlk rfl dX0_entry_129
          · have hm := ite_t c18 hm
            refine lv_aload_n (pc := 110) hx hb dX0_entry_110 rfl (lv_at hl 0 rfl) ?_
            refine rk_get (pc := 111) hx hb hts hown hK hW0 flX0_27 0 (by decide) rfl rfl (x := .ref (b0 + 67)) (by first | rfl | exact congrArg (fun z => some (Value.ref z)) (by omega)) dX0_entry_111 ?_
            refine rk_getN (pc := 114) hx hb hts hown hK hW0 fnX0_241 67 (by decide) rfl rfl (x := .long (gL V0 67 5)) rfl dX0_entry_114 ?_
            refine lv_goto (pc := 117) (tgt := 129) hx hb dX0_entry_117 (by decide) ?_
            have e9 := rs1 hm
            subst e9
            exact rk_lretP (pc := 129) hx hb hr hlk rfl dX0_entry_129
        · have hm := ite_t c17 hm
          refine lv_aload_n (pc := 95) hx hb dX0_entry_95 rfl (lv_at hl 0 rfl) ?_
          refine rk_get (pc := 96) hx hb hts hown hK hW0 flX0_27 0 (by decide) rfl rfl (x := .ref (b0 + 67)) (by first | rfl | exact congrArg (fun z => some (Value.ref z)) (by omega)) dX0_entry_96 ?_
          refine rk_getN (pc := 99) hx hb hts hown hK hW0 fnX0_237 67 (by decide) rfl rfl (x := .long (gL V0 67 4)) rfl dX0_entry_99 ?_
          refine lv_goto (pc := 102) (tgt := 129) hx hb dX0_entry_102 (by decide) ?_
          have e9 := rs1 hm
          subst e9
          exact rk_lretP (pc := 129) hx hb hr hlk rfl dX0_entry_129
    · have hm := ite_t c9 hm
      refine lv_aload_n (pc := 72) hx hb dX0_entry_72 rfl (lv_at hl 0 rfl) ?_
      refine rk_get (pc := 73) hx hb hts hown hK hW0 flX0_27 0 (by decide) rfl rfl (x := .ref (b0 + 67)) (by first | rfl | exact congrArg (fun z => some (Value.ref z)) (by omega)) dX0_entry_73 ?_
      refine rk_getN (pc := 76) hx hb hts hown hK hW0 fnX0_234 67 (by decide) rfl rfl (x := .ref (b0 + 72)) (by first | rfl | exact congrArg (fun z => some (Value.ref z)) (by omega)) dX0_entry_76 ?_
      refine lv_iload_n (pc := 79) hx hb dX0_entry_79 rfl (lv_at hl 2 rfl) ?_
      obtain ⟨hg20, hm⟩ := gb_some hm
      refine rk_iald (pc := 80) hx hb hK hW0 72 (by decide) rfl rfl hg20 (x := (gI V0 72 i2.toNatClampNeg)) rfl dX0_entry_80 ?_
      refine lv_i2l (pc := 81) hx hb dX0_entry_81 rfl ?_
      have e9 := rs1 hm
      subst e9
      exact rk_lretP (pc := 82) hx hb hr hlk rfl dX0_entry_82
  · have hm := ite_t c8 hm
    refine lv_ldc2 (pc := 62) (v := (-9223372036854775808 : Int64)) hx hb hown (hts _ q893) dX0_entry_62 ?_
    have e9 := rs1 hm
    subst e9
    exact rk_lretP (pc := 65) hx hb hr hlk rfl dX0_entry_65
set_option maxHeartbeats 4000000 in
theorem w_fX0_entry (C : Cx G p s m args meth c RX0 cX0_entry 4 (some .long)) {b0 : Nat} {V0 : Mem} {rx : Int64} (hW0 : rg G b0 357 (shX0 G.2.1) V0 s.heap) : ∀ (i1 : Int32) (i2 : Int32), fX0_entry V0 i1 i2 = some rx → ∀ (ls : Array Slot), lv_has ls 4 [(0, .ref b0), (1, .int i1), (2, .int i2)] → W p l e (rmP 1 25) s m args below meth c s.heap [] 0 0 (MQ below (QcP (some (.long rx))) args s 0 0 (fun _ => False)) (F0 m 0 ls []) := by
  intro i1 i2 hm ls hl
  obtain ⟨hx, hb, hr, hlk, hml, hown, hts, hK⟩ := id C
  unfold fX0_entry at hm
  refine lv_aload_n (pc := 0) hx hb dX0_entry_0 rfl (lv_at hl 0 rfl) ?_
  refine rk_get (pc := 1) hx hb hts hown hK hW0 flX0_12 0 (by decide) rfl rfl (x := .ref (b0 + 1)) (by first | rfl | exact congrArg (fun z => some (Value.ref z)) (by omega)) dX0_entry_1 ?_
  refine rk_getN (pc := 4) hx hb hts hown hK hW0 fnX0_131 1 (by decide) rfl rfl (x := .int (gI V0 1 0)) rfl dX0_entry_4 ?_
  refine lv_istore_n (pc := 7) (lv' := [(3, .int (gI V0 1 0)), (0, .ref b0), (1, .int i1), (2, .int i2)]) hx hb dX0_entry_7 rfl hl (by decide) rfl (fun ls hl => ?_)
  refine lv_aload_n (pc := 8) hx hb dX0_entry_8 rfl (lv_at hl 1 rfl) ?_
  refine rk_get (pc := 9) hx hb hts hown hK hW0 flX0_121 0 (by decide) rfl rfl (x := .int (gI V0 0 6)) rfl dX0_entry_9 ?_
  refine lv_if_eq (pc := 12) (tgt := 62) hx hb dX0_entry_12 (by decide) (fun c1 => ?_) (fun c1 => ?_)
  · have hm := ite_t c1 hm
    refine lv_ldc2 (pc := 62) (v := (-9223372036854775808 : Int64)) hx hb hown (hts _ q893) dX0_entry_62 ?_
    have e9 := rs1 hm
    subst e9
    exact rk_lretP (pc := 65) hx hb hr hlk rfl dX0_entry_65
  · have hm := ite_f c1 hm
    refine lv_iload_n (pc := 15) hx hb dX0_entry_15 rfl (lv_at hl 2 rfl) ?_
    refine lv_i2l (pc := 16) hx hb dX0_entry_16 rfl ?_
    refine lv_ldc2 (pc := 17) (v := (-2 : Int64)) hx hb hown (hts _ q892) dX0_entry_17 ?_
    refine lv_aload_n (pc := 20) hx hb dX0_entry_20 rfl (lv_at hl 1 rfl) ?_
    refine rk_get (pc := 21) hx hb hts hown hK hW0 flX0_27 0 (by decide) rfl rfl (x := .ref (b0 + 67)) (by first | rfl | exact congrArg (fun z => some (Value.ref z)) (by omega)) dX0_entry_21 ?_
    refine rk_getN (pc := 24) hx hb hts hown hK hW0 fnX0_229 67 (by decide) rfl rfl (x := .int (gI V0 67 1)) rfl dX0_entry_24 ?_
    refine lv_iconst (pc := 27) (v := (1 : Int32)) hx hb dX0_entry_27 (by decide) ?_
    refine lv_isub (pc := 28) hx hb dX0_entry_28 ?_
    refine lv_i2l (pc := 29) hx hb dX0_entry_29 rfl ?_
    obtain ⟨r2, hq3, hm⟩ := ob_some hm
    refine rk_PS (pc := 30) (As := [.long i1.toInt64, .long (-2 : Int64), .long ((gI V0 67 1) - (1 : Int32)).toInt64]) (rest := []) hx hb hml hown hts hK lkX0_127 yn_X0_in (ct_X0_in (G := G) (l := l) hq3) ⟨Nat.le_of_ble_eq_true rfl, Nat.le_of_ble_eq_true rfl⟩ trivial rfl rfl hl.1 (Nat.le_of_ble_eq_true rfl) dX0_entry_30 ⟨Nat.zero_le _, Nat.zero_le _⟩ ?_
    refine W.eq (g2 := F0 m 33 ls [.int r2]) rfl ?_
    refine lv_if_eq (pc := 33) (tgt := 62) hx hb dX0_entry_33 (by decide) (fun c4 => ?_) (fun c4 => ?_)
    · have hm := ite_t c4 hm
      refine lv_ldc2 (pc := 62) (v := (-9223372036854775808 : Int64)) hx hb hown (hts _ q893) dX0_entry_62 ?_
      have e9 := rs1 hm
      subst e9
      exact rk_lretP (pc := 65) hx hb hr hlk rfl dX0_entry_65
    · have hm := ite_f c4 hm
      refine lv_iload_n (pc := 36) hx hb dX0_entry_36 rfl (lv_at hl 3 rfl) ?_
      refine lv_i2l (pc := 37) hx hb dX0_entry_37 rfl ?_
      refine lv_lconst (pc := 38) (v := (0 : Int64)) hx hb dX0_entry_38 (by decide) ?_
      refine lv_iload_n (pc := 39) hx hb dX0_entry_39 rfl (lv_at hl 2 rfl) ?_
      refine lv_bipush (pc := 40) (v := (-2 : Int32)) hx hb dX0_entry_40 (by decide) ?_
      refine lv_icmp_ne (pc := 42) (tgt := 52) hx hb dX0_entry_42 (by decide) (fun c5 => ?_) (fun c5 => ?_)
      · have hm := ite_f c5 hm
        refine lv_iload_n (pc := 52) hx hb dX0_entry_52 rfl (lv_at hl 0 rfl) ?_
        refine lv_iconst (pc := 53) (v := (1 : Int32)) hx hb dX0_entry_53 (by decide) ?_
        refine lv_iadd (pc := 54) hx hb dX0_entry_54 ?_
        refine lv_i2l (pc := 55) hx hb dX0_entry_55 rfl ?_
        exact (w_fX0_entry_56 C hW0) i1 i2 (gI V0 1 0) i2.toInt64 (0 : Int64) ((gI V0 1 0) + (1 : Int32)).toInt64 hm ls (lv_sub hl [1, 2, 3, 0] rfl)
      · have hm := ite_t c5 hm
        refine lv_iload_n (pc := 45) hx hb dX0_entry_45 rfl (lv_at hl 0 rfl) ?_
        refine lv_iconst (pc := 46) (v := (1 : Int32)) hx hb dX0_entry_46 (by decide) ?_
        refine lv_isub (pc := 47) hx hb dX0_entry_47 ?_
        refine lv_i2l (pc := 48) hx hb dX0_entry_48 rfl ?_
        refine lv_goto (pc := 49) (tgt := 56) hx hb dX0_entry_49 (by decide) ?_
        exact (w_fX0_entry_56 C hW0) i1 i2 (gI V0 1 0) i2.toInt64 (0 : Int64) ((gI V0 1 0) - (1 : Int32)).toInt64 hm ls (lv_sub hl [1, 2, 3, 0] rfl)
set_option maxHeartbeats 4000000 in
theorem ct_X0_entry {G : Gv} {l : Launch} {b0 : Nat} {V0 : Mem} {i1 : Int32} {i2 : Int32} {rx : Int64} (hm : fX0_entry V0 i1 i2 = some rx) : CP G l yX0_entry (ws_ yX0_entry cX0_entry 4 (some .long)) 1 25 [.ref b0, .int i1, .int i2] (fun H => rg G b0 357 (shX0 G.2.1) V0 H) (some (.long rx)) := by
  refine Met.ofW (cc := cX0_entry) (maxL := 4) (ret := (some .long)) (by decide +kernel) rfl ?_
  intro p e s m args below meth c s₁ B hml hv
  obtain ⟨rfl, hW0, hK⟩ := hv
  have hts := atoms_spec (ws := ws_ yX0_entry cX0_entry 4 (some .long)) B.pre
  have hts : ∀ w ∈ lw_all, w.before _ s = true := fun w h => hts w (List.mem_cons_of_mem _ h)
  have C : Cx G p s m _ meth c RX0 cX0_entry 4 (some .long) := ⟨B.exec, B.bytes, B.returns, B.notSynchronized, hml, findClass_of_methodNamed B.named, hts, hK⟩
  have hl := lv_entry ([.ref b0, .int i1, .int i2]) (n := 4) (Nat.le_of_ble_eq_true rfl)
  rw [lg_entry_eq]
  generalize (lg_sl ([.ref b0, .int i1, .int i2]) ++ List.replicate (4 - (lg_sl ([.ref b0, .int i1, .int i2])).length) Slot.unset).toArray = ls at hl ⊢
  have hl : lv_has ls 4 [(0, .ref b0), (1, .int i1), (2, .int i2)] := hl
  exact w_fX0_entry C hW0 _ _ hm ls hl
noncomputable def fX0_isPart (i0 : Int32) : Option (Int32) :=
  ob (fX0_in i0.toInt64 (0 : Int64) (1 : Int64)) fun r1 =>
  gb (z01 r1) (some r1)
set_option maxHeartbeats 4000000 in
theorem w_fX0_isPart (C : Cx G p s m args meth c RX0 cX0_isPart 1 (some .boolean)) {rx : Int32} : ∀ (i0 : Int32), fX0_isPart i0 = some rx → ∀ (ls : Array Slot), lv_has ls 1 [(0, .int i0)] → W p l e (rmP 1 25) s m args below meth c s.heap [] 0 0 (MQ below (QcP (some (.int rx))) args s 0 0 (fun _ => False)) (F0 m 0 ls []) := by
  intro i0 hm ls hl
  obtain ⟨hx, hb, hr, hlk, hml, hown, hts, hK⟩ := id C
  unfold fX0_isPart at hm
  refine lv_iload_n (pc := 0) hx hb dX0_isPart_0 rfl (lv_at hl 0 rfl) ?_
  refine lv_i2l (pc := 1) hx hb dX0_isPart_1 rfl ?_
  refine lv_lconst (pc := 2) (v := (0 : Int64)) hx hb dX0_isPart_2 (by decide) ?_
  refine lv_lconst (pc := 3) (v := (1 : Int64)) hx hb dX0_isPart_3 (by decide) ?_
  obtain ⟨r1, hq2, hm⟩ := ob_some hm
  refine rk_PS (pc := 4) (As := [.long i0.toInt64, .long (0 : Int64), .long (1 : Int64)]) (rest := []) hx hb hml hown hts hK lkX0_127 yn_X0_in (ct_X0_in (G := G) (l := l) hq2) ⟨Nat.le_of_ble_eq_true rfl, Nat.le_of_ble_eq_true rfl⟩ trivial rfl rfl hl.1 (Nat.le_of_ble_eq_true rfl) dX0_isPart_4 ⟨Nat.zero_le _, Nat.zero_le _⟩ ?_
  refine W.eq (g2 := F0 m 7 ls [.int r1]) rfl ?_
  obtain ⟨hg3, hm⟩ := gb_some hm
  have e9 := rs1 hm
  subst e9
  exact rk_zretP (pc := 7) hx hb hr hlk hg3 rfl dX0_isPart_7
set_option maxHeartbeats 4000000 in
theorem ct_X0_isPart {G : Gv} {l : Launch} {i0 : Int32} {rx : Int32} (hm : fX0_isPart i0 = some rx) : CP G l yX0_isPart (ws_ yX0_isPart cX0_isPart 1 (some .boolean)) 1 25 [.int i0] (fun H => True) (some (.int rx)) := by
  refine Met.ofW (cc := cX0_isPart) (maxL := 1) (ret := (some .boolean)) (by decide +kernel) rfl ?_
  intro p e s m args below meth c s₁ B hml hv
  obtain ⟨rfl, -, hK⟩ := hv
  have hts := atoms_spec (ws := ws_ yX0_isPart cX0_isPart 1 (some .boolean)) B.pre
  have hts : ∀ w ∈ lw_all, w.before _ s = true := fun w h => hts w (List.mem_cons_of_mem _ h)
  have C : Cx G p s m _ meth c RX0 cX0_isPart 1 (some .boolean) := ⟨B.exec, B.bytes, B.returns, B.notSynchronized, hml, findClass_of_methodNamed B.named, hts, hK⟩
  have hl := lv_entry ([.int i0]) (n := 1) (Nat.le_of_ble_eq_true rfl)
  rw [lg_entry_eq]
  generalize (lg_sl ([.int i0]) ++ List.replicate (1 - (lg_sl ([.int i0])).length) Slot.unset).toArray = ls at hl ⊢
  have hl : lv_has ls 1 [(0, .int i0)] := hl
  exact w_fX0_isPart C _ hm ls hl
theorem yn_J7_abs : YN yJ7_abs 1 := by
  unfold YN
  decide +kernel
theorem lkX0_258 : LSt RX0 258 yJ7_abs cJ7_abs 2 (some .long) := ⟨q913, q914, q136, q915⟩
noncomputable def fX0_share (j0 : Int64) (j2 : Int64) (i4 : Int32) : Option (Int64) :=
  ob (fJ7_abs j0) fun r1 =>
  ob (fX0_divisor r1 j2) fun r3 =>
  if i4 = 0 then (
  gb (nz64 r3) (
  some (j0 / r3)))
  else (
  gb (nz64 r3) (
  some (j2 / r3)))
set_option maxHeartbeats 4000000 in
theorem w_fX0_share (C : Cx G p s m args meth c RX0 cX0_share 7 (some .long)) {rx : Int64} : ∀ (j0 : Int64) (j2 : Int64) (i4 : Int32), fX0_share j0 j2 i4 = some rx → ∀ (ls : Array Slot), lv_has ls 7 [(0, .long j0), (2, .long j2), (4, .int i4)] → W p l e (rmP 1 29) s m args below meth c s.heap [] 0 0 (MQ below (QcP (some (.long rx))) args s 0 0 (fun _ => False)) (F0 m 0 ls []) := by
  intro j0 j2 i4 hm ls hl
  obtain ⟨hx, hb, hr, hlk, hml, hown, hts, hK⟩ := id C
  unfold fX0_share at hm
  refine lv_lload_n (pc := 0) hx hb dX0_share_0 rfl (lv_at hl 0 rfl) ?_
  obtain ⟨r1, hq2, hm⟩ := ob_some hm
  refine rk_PS (pc := 1) (As := [.long j0]) (rest := []) hx hb hml hown hts hK lkX0_258 yn_J7_abs (ct_J7_abs (G := G) (l := l) hq2) ⟨Nat.le_of_ble_eq_true rfl, Nat.le_of_ble_eq_true rfl⟩ trivial rfl rfl hl.1 (Nat.le_of_ble_eq_true rfl) dX0_share_1 ⟨Nat.zero_le _, Nat.zero_le _⟩ ?_
  refine W.eq (g2 := F0 m 4 ls [.long r1]) rfl ?_
  refine lv_lload_n (pc := 4) hx hb dX0_share_4 rfl (lv_at hl 1 rfl) ?_
  obtain ⟨r3, hq4, hm⟩ := ob_some hm
  refine rk_PS (pc := 5) (As := [.long r1, .long j2]) (rest := []) hx hb hml hown hts hK lkX0_117 yn_X0_divisor (ct_X0_divisor (G := G) (l := l) hq4) ⟨Nat.le_of_ble_eq_true rfl, Nat.le_of_ble_eq_true rfl⟩ trivial rfl rfl hl.1 (Nat.le_of_ble_eq_true rfl) dX0_share_5 ⟨Nat.zero_le _, Nat.zero_le _⟩ ?_
  refine W.eq (g2 := F0 m 8 ls [.long r3]) rfl ?_
  refine lv_lstore (pc := 8) (lv' := [(5, .long r3), (0, .long j0), (2, .long j2), (4, .int i4)]) hx hb dX0_share_8 hl (by decide) rfl (fun ls hl => ?_)
  refine lv_iload (pc := 10) hx hb dX0_share_10 (lv_at hl 3 rfl) ?_
  refine lv_if_ne (pc := 12) (tgt := 22) hx hb dX0_share_12 (by decide) (fun c5 => ?_) (fun c5 => ?_)
  · have hm := ite_f c5 hm
    refine lv_lload_n (pc := 22) hx hb dX0_share_22 rfl (lv_at hl 2 rfl) ?_
    refine lv_lload (pc := 23) hx hb dX0_share_23 (lv_at hl 0 rfl) ?_
    obtain ⟨hg6, hm⟩ := gb_some hm
    refine lv_ldiv (pc := 25) hx hb dX0_share_25 (nz64_ne hg6) ?_
    have e9 := rs1 hm
    subst e9
    exact rk_lretP (pc := 26) hx hb hr hlk rfl dX0_share_26
  · have hm := ite_t c5 hm
    refine lv_lload_n (pc := 15) hx hb dX0_share_15 rfl (lv_at hl 1 rfl) ?_
    refine lv_lload (pc := 16) hx hb dX0_share_16 (lv_at hl 0 rfl) ?_
    obtain ⟨hg7, hm⟩ := gb_some hm
    refine lv_ldiv (pc := 18) hx hb dX0_share_18 (nz64_ne hg7) ?_
    refine lv_goto (pc := 19) (tgt := 26) hx hb dX0_share_19 (by decide) ?_
    have e9 := rs1 hm
    subst e9
    exact rk_lretP (pc := 26) hx hb hr hlk rfl dX0_share_26
set_option maxHeartbeats 4000000 in
theorem ct_X0_share {G : Gv} {l : Launch} {j0 : Int64} {j2 : Int64} {i4 : Int32} {rx : Int64} (hm : fX0_share j0 j2 i4 = some rx) : CP G l yX0_share (ws_ yX0_share cX0_share 7 (some .long)) 1 29 [.long j0, .long j2, .int i4] (fun H => True) (some (.long rx)) := by
  refine Met.ofW (cc := cX0_share) (maxL := 7) (ret := (some .long)) (by decide +kernel) rfl ?_
  intro p e s m args below meth c s₁ B hml hv
  obtain ⟨rfl, -, hK⟩ := hv
  have hts := atoms_spec (ws := ws_ yX0_share cX0_share 7 (some .long)) B.pre
  have hts : ∀ w ∈ lw_all, w.before _ s = true := fun w h => hts w (List.mem_cons_of_mem _ h)
  have C : Cx G p s m _ meth c RX0 cX0_share 7 (some .long) := ⟨B.exec, B.bytes, B.returns, B.notSynchronized, hml, findClass_of_methodNamed B.named, hts, hK⟩
  have hl := lv_entry ([.long j0, .long j2, .int i4]) (n := 7) (Nat.le_of_ble_eq_true rfl)
  rw [lg_entry_eq]
  generalize (lg_sl ([.long j0, .long j2, .int i4]) ++ List.replicate (7 - (lg_sl ([.long j0, .long j2, .int i4])).length) Slot.unset).toArray = ls at hl ⊢
  have hl : lv_has ls 7 [(0, .long j0), (2, .long j2), (4, .int i4)] := hl
  exact w_fX0_share C _ _ _ hm ls hl
theorem yn_X0_isPart : YN yX0_isPart 1 := by
  unfold YN
  decide +kernel
theorem lkX0_264 : LSt RX0 264 yX0_isPart cX0_isPart 1 (some .boolean) := ⟨q899, q900, q114, q901⟩
theorem lkX0_267 : LV RX0 267 RX3 yX3_right cX3_right 3 (some .long) := ⟨q902, q903, q904, q117, q905⟩
theorem yn_X0_share : YN yX0_share 3 := by
  unfold YN
  decide +kernel
theorem lkX0_271 : LSt RX0 271 yX0_share cX0_share 7 (some .long) := ⟨q910, q911, q114, q912⟩
noncomputable def fX0_amount (V0 : Mem) (i1 : Int32) (i2 : Int32) : Option (Int64) :=
  if (gI V0 0 6) = 0 then (
  some (-9223372036854775808 : Int64))
  else (
  ob (fX1_hasPack (shf V0 1) i1) fun r2 =>
  if r2 = 0 then (
  some (-9223372036854775808 : Int64))
  else (
  ob (fX0_isPart i2) fun r5 =>
  if r5 = 0 then (
  some (-9223372036854775808 : Int64))
  else (
  ob (fX3_right (shf V0 67) i1) fun r8 =>
  ob (fX0_share r8 (gL V0 67 4) i2) fun r10 =>
  some r10)))
set_option maxHeartbeats 4000000 in
theorem w_fX0_amount (C : Cx G p s m args meth c RX0 cX0_amount 3 (some .long)) {b0 : Nat} {V0 : Mem} {rx : Int64} (hW0 : rg G b0 357 (shX0 G.2.1) V0 s.heap) : ∀ (i1 : Int32) (i2 : Int32), fX0_amount V0 i1 i2 = some rx → ∀ (ls : Array Slot), lv_has ls 3 [(0, .ref b0), (1, .int i1), (2, .int i2)] → W p l e (rmP 2 55) s m args below meth c s.heap [] 0 0 (MQ below (QcP (some (.long rx))) args s 0 0 (fun _ => False)) (F0 m 0 ls []) := by
  intro i1 i2 hm ls hl
  obtain ⟨hx, hb, hr, hlk, hml, hown, hts, hK⟩ := id C
  unfold fX0_amount at hm
  refine lv_aload_n (pc := 0) hx hb dX0_amount_0 rfl (lv_at hl 0 rfl) ?_
  refine rk_get (pc := 1) hx hb hts hown hK hW0 flX0_121 0 (by decide) rfl rfl (x := .int (gI V0 0 6)) rfl dX0_amount_1 ?_
  refine lv_if_eq (pc := 4) (tgt := 47) hx hb dX0_amount_4 (by decide) (fun c1 => ?_) (fun c1 => ?_)
  · have hm := ite_t c1 hm
    refine lv_ldc2 (pc := 47) (v := (-9223372036854775808 : Int64)) hx hb hown (hts _ q893) dX0_amount_47 ?_
    have e9 := rs1 hm
    subst e9
    exact rk_lretP (pc := 50) hx hb hr hlk rfl dX0_amount_50
  · have hm := ite_f c1 hm
    refine lv_aload_n (pc := 7) hx hb dX0_amount_7 rfl (lv_at hl 0 rfl) ?_
    refine rk_get (pc := 8) hx hb hts hown hK hW0 flX0_12 0 (by decide) rfl rfl (x := .ref (b0 + 1)) (by first | rfl | exact congrArg (fun z => some (Value.ref z)) (by omega)) dX0_amount_8 ?_
    refine lv_iload_n (pc := 11) hx hb dX0_amount_11 rfl (lv_at hl 1 rfl) ?_
    obtain ⟨r2, hq3, hm⟩ := ob_some hm
    refine rk_PV (pc := 12) (As := [.int i1]) (rest := []) hx hb hml hown hts hK lkX0_145 rfl yn_X1_hasPack (ct_X1_hasPack (G := G) (l := l) (b0 := (b0 + 1)) hq3) ⟨Nat.le_of_ble_eq_true rfl, Nat.le_of_ble_eq_true rfl⟩ (rk_recv hK hW0 1 (by decide) rfl rfl rfl) (rg_sub hW0 rfl (by decide) (fun o ho x y z => shX0_n1 G.2.1 _ rfl o ho x y z)) rfl rfl hl.1 (Nat.le_of_ble_eq_true rfl) dX0_amount_12 ⟨Nat.zero_le _, Nat.zero_le _⟩ ?_
    refine W.eq (g2 := F0 m 15 ls [.int r2]) rfl ?_
    refine lv_if_eq (pc := 15) (tgt := 47) hx hb dX0_amount_15 (by decide) (fun c4 => ?_) (fun c4 => ?_)
    · have hm := ite_t c4 hm
      refine lv_ldc2 (pc := 47) (v := (-9223372036854775808 : Int64)) hx hb hown (hts _ q893) dX0_amount_47 ?_
      have e9 := rs1 hm
      subst e9
      exact rk_lretP (pc := 50) hx hb hr hlk rfl dX0_amount_50
    · have hm := ite_f c4 hm
      refine lv_iload_n (pc := 18) hx hb dX0_amount_18 rfl (lv_at hl 2 rfl) ?_
      obtain ⟨r5, hq6, hm⟩ := ob_some hm
      refine rk_PS (pc := 19) (As := [.int i2]) (rest := []) hx hb hml hown hts hK lkX0_264 yn_X0_isPart (ct_X0_isPart (G := G) (l := l) hq6) ⟨Nat.le_of_ble_eq_true rfl, Nat.le_of_ble_eq_true rfl⟩ trivial rfl rfl hl.1 (Nat.le_of_ble_eq_true rfl) dX0_amount_19 ⟨Nat.zero_le _, Nat.zero_le _⟩ ?_
      refine W.eq (g2 := F0 m 22 ls [.int r5]) rfl ?_
      refine lv_if_eq (pc := 22) (tgt := 47) hx hb dX0_amount_22 (by decide) (fun c7 => ?_) (fun c7 => ?_)
      · have hm := ite_t c7 hm
        refine lv_ldc2 (pc := 47) (v := (-9223372036854775808 : Int64)) hx hb hown (hts _ q893) dX0_amount_47 ?_
        have e9 := rs1 hm
        subst e9
        exact rk_lretP (pc := 50) hx hb hr hlk rfl dX0_amount_50
      · have hm := ite_f c7 hm
        refine lv_aload_n (pc := 25) hx hb dX0_amount_25 rfl (lv_at hl 0 rfl) ?_
        refine rk_get (pc := 26) hx hb hts hown hK hW0 flX0_27 0 (by decide) rfl rfl (x := .ref (b0 + 67)) (by first | rfl | exact congrArg (fun z => some (Value.ref z)) (by omega)) dX0_amount_26 ?_
        refine lv_iload_n (pc := 29) hx hb dX0_amount_29 rfl (lv_at hl 1 rfl) ?_
        obtain ⟨r8, hq9, hm⟩ := ob_some hm
        refine rk_PV (pc := 30) (As := [.int i1]) (rest := []) hx hb hml hown hts hK lkX0_267 rfl yn_X3_right (ct_X3_right (G := G) (l := l) (b0 := (b0 + 67)) hq9) ⟨Nat.le_of_ble_eq_true rfl, Nat.le_of_ble_eq_true rfl⟩ (rk_recv hK hW0 67 (by decide) rfl rfl rfl) (rg_sub hW0 rfl (by decide) (fun o ho x y z => shX0_n67 G.2.1 _ rfl o ho x y z)) rfl rfl hl.1 (Nat.le_of_ble_eq_true rfl) dX0_amount_30 ⟨Nat.zero_le _, Nat.zero_le _⟩ ?_
        refine W.eq (g2 := F0 m 33 ls [.long r8]) rfl ?_
        refine lv_aload_n (pc := 33) hx hb dX0_amount_33 rfl (lv_at hl 0 rfl) ?_
        refine rk_get (pc := 34) hx hb hts hown hK hW0 flX0_27 0 (by decide) rfl rfl (x := .ref (b0 + 67)) (by first | rfl | exact congrArg (fun z => some (Value.ref z)) (by omega)) dX0_amount_34 ?_
        refine rk_getN (pc := 37) hx hb hts hown hK hW0 fnX0_237 67 (by decide) rfl rfl (x := .long (gL V0 67 4)) rfl dX0_amount_37 ?_
        refine lv_iload_n (pc := 40) hx hb dX0_amount_40 rfl (lv_at hl 2 rfl) ?_
        obtain ⟨r10, hq11, hm⟩ := ob_some hm
        refine rk_PS (pc := 41) (As := [.long r8, .long (gL V0 67 4), .int i2]) (rest := []) hx hb hml hown hts hK lkX0_271 yn_X0_share (ct_X0_share (G := G) (l := l) hq11) ⟨Nat.le_of_ble_eq_true rfl, Nat.le_of_ble_eq_true rfl⟩ trivial rfl rfl hl.1 (Nat.le_of_ble_eq_true rfl) dX0_amount_41 ⟨Nat.zero_le _, Nat.zero_le _⟩ ?_
        refine W.eq (g2 := F0 m 44 ls [.long r10]) rfl ?_
        refine lv_goto (pc := 44) (tgt := 50) hx hb dX0_amount_44 (by decide) ?_
        have e9 := rs1 hm
        subst e9
        exact rk_lretP (pc := 50) hx hb hr hlk rfl dX0_amount_50
set_option maxHeartbeats 4000000 in
theorem ct_X0_amount {G : Gv} {l : Launch} {b0 : Nat} {V0 : Mem} {i1 : Int32} {i2 : Int32} {rx : Int64} (hm : fX0_amount V0 i1 i2 = some rx) : CP G l yX0_amount (ws_ yX0_amount cX0_amount 3 (some .long)) 2 55 [.ref b0, .int i1, .int i2] (fun H => rg G b0 357 (shX0 G.2.1) V0 H) (some (.long rx)) := by
  refine Met.ofW (cc := cX0_amount) (maxL := 3) (ret := (some .long)) (by decide +kernel) rfl ?_
  intro p e s m args below meth c s₁ B hml hv
  obtain ⟨rfl, hW0, hK⟩ := hv
  have hts := atoms_spec (ws := ws_ yX0_amount cX0_amount 3 (some .long)) B.pre
  have hts : ∀ w ∈ lw_all, w.before _ s = true := fun w h => hts w (List.mem_cons_of_mem _ h)
  have C : Cx G p s m _ meth c RX0 cX0_amount 3 (some .long) := ⟨B.exec, B.bytes, B.returns, B.notSynchronized, hml, findClass_of_methodNamed B.named, hts, hK⟩
  have hl := lv_entry ([.ref b0, .int i1, .int i2]) (n := 3) (Nat.le_of_ble_eq_true rfl)
  rw [lg_entry_eq]
  generalize (lg_sl ([.ref b0, .int i1, .int i2]) ++ List.replicate (3 - (lg_sl ([.ref b0, .int i1, .int i2])).length) Slot.unset).toArray = ls at hl ⊢
  have hl : lv_has ls 3 [(0, .ref b0), (1, .int i1), (2, .int i2)] := hl
  exact w_fX0_amount C hW0 _ _ hm ls hl
noncomputable def fX0_value (V0 : Mem) (i1 : Int32) : Option (Int64) :=
  if (gI V0 0 6) = 0 then (
  some (-9223372036854775808 : Int64))
  else (
  ob (fX0_isPart i1) fun r2 =>
  if r2 = 0 then (
  some (-9223372036854775808 : Int64))
  else (
  ob (fX0_share (gL V0 67 5) (gL V0 67 4) i1) fun r5 =>
  some r5))
set_option maxHeartbeats 4000000 in
theorem w_fX0_value (C : Cx G p s m args meth c RX0 cX0_value 2 (some .long)) {b0 : Nat} {V0 : Mem} {rx : Int64} (hW0 : rg G b0 357 (shX0 G.2.1) V0 s.heap) : ∀ (i1 : Int32), fX0_value V0 i1 = some rx → ∀ (ls : Array Slot), lv_has ls 2 [(0, .ref b0), (1, .int i1)] → W p l e (rmP 2 55) s m args below meth c s.heap [] 0 0 (MQ below (QcP (some (.long rx))) args s 0 0 (fun _ => False)) (F0 m 0 ls []) := by
  intro i1 hm ls hl
  obtain ⟨hx, hb, hr, hlk, hml, hown, hts, hK⟩ := id C
  unfold fX0_value at hm
  refine lv_aload_n (pc := 0) hx hb dX0_value_0 rfl (lv_at hl 0 rfl) ?_
  refine rk_get (pc := 1) hx hb hts hown hK hW0 flX0_121 0 (by decide) rfl rfl (x := .int (gI V0 0 6)) rfl dX0_value_1 ?_
  refine lv_if_eq (pc := 4) (tgt := 35) hx hb dX0_value_4 (by decide) (fun c1 => ?_) (fun c1 => ?_)
  · have hm := ite_t c1 hm
    refine lv_ldc2 (pc := 35) (v := (-9223372036854775808 : Int64)) hx hb hown (hts _ q893) dX0_value_35 ?_
    have e9 := rs1 hm
    subst e9
    exact rk_lretP (pc := 38) hx hb hr hlk rfl dX0_value_38
  · have hm := ite_f c1 hm
    refine lv_iload_n (pc := 7) hx hb dX0_value_7 rfl (lv_at hl 1 rfl) ?_
    obtain ⟨r2, hq3, hm⟩ := ob_some hm
    refine rk_PS (pc := 8) (As := [.int i1]) (rest := []) hx hb hml hown hts hK lkX0_264 yn_X0_isPart (ct_X0_isPart (G := G) (l := l) hq3) ⟨Nat.le_of_ble_eq_true rfl, Nat.le_of_ble_eq_true rfl⟩ trivial rfl rfl hl.1 (Nat.le_of_ble_eq_true rfl) dX0_value_8 ⟨Nat.zero_le _, Nat.zero_le _⟩ ?_
    refine W.eq (g2 := F0 m 11 ls [.int r2]) rfl ?_
    refine lv_if_eq (pc := 11) (tgt := 35) hx hb dX0_value_11 (by decide) (fun c4 => ?_) (fun c4 => ?_)
    · have hm := ite_t c4 hm
      refine lv_ldc2 (pc := 35) (v := (-9223372036854775808 : Int64)) hx hb hown (hts _ q893) dX0_value_35 ?_
      have e9 := rs1 hm
      subst e9
      exact rk_lretP (pc := 38) hx hb hr hlk rfl dX0_value_38
    · have hm := ite_f c4 hm
      refine lv_aload_n (pc := 14) hx hb dX0_value_14 rfl (lv_at hl 0 rfl) ?_
      refine rk_get (pc := 15) hx hb hts hown hK hW0 flX0_27 0 (by decide) rfl rfl (x := .ref (b0 + 67)) (by first | rfl | exact congrArg (fun z => some (Value.ref z)) (by omega)) dX0_value_15 ?_
      refine rk_getN (pc := 18) hx hb hts hown hK hW0 fnX0_241 67 (by decide) rfl rfl (x := .long (gL V0 67 5)) rfl dX0_value_18 ?_
      refine lv_aload_n (pc := 21) hx hb dX0_value_21 rfl (lv_at hl 0 rfl) ?_
      refine rk_get (pc := 22) hx hb hts hown hK hW0 flX0_27 0 (by decide) rfl rfl (x := .ref (b0 + 67)) (by first | rfl | exact congrArg (fun z => some (Value.ref z)) (by omega)) dX0_value_22 ?_
      refine rk_getN (pc := 25) hx hb hts hown hK hW0 fnX0_237 67 (by decide) rfl rfl (x := .long (gL V0 67 4)) rfl dX0_value_25 ?_
      refine lv_iload_n (pc := 28) hx hb dX0_value_28 rfl (lv_at hl 1 rfl) ?_
      obtain ⟨r5, hq6, hm⟩ := ob_some hm
      refine rk_PS (pc := 29) (As := [.long (gL V0 67 5), .long (gL V0 67 4), .int i1]) (rest := []) hx hb hml hown hts hK lkX0_271 yn_X0_share (ct_X0_share (G := G) (l := l) hq6) ⟨Nat.le_of_ble_eq_true rfl, Nat.le_of_ble_eq_true rfl⟩ trivial rfl rfl hl.1 (Nat.le_of_ble_eq_true rfl) dX0_value_29 ⟨Nat.zero_le _, Nat.zero_le _⟩ ?_
      refine W.eq (g2 := F0 m 32 ls [.long r5]) rfl ?_
      refine lv_goto (pc := 32) (tgt := 38) hx hb dX0_value_32 (by decide) ?_
      have e9 := rs1 hm
      subst e9
      exact rk_lretP (pc := 38) hx hb hr hlk rfl dX0_value_38
set_option maxHeartbeats 4000000 in
theorem ct_X0_value {G : Gv} {l : Launch} {b0 : Nat} {V0 : Mem} {i1 : Int32} {rx : Int64} (hm : fX0_value V0 i1 = some rx) : CP G l yX0_value (ws_ yX0_value cX0_value 2 (some .long)) 2 55 [.ref b0, .int i1] (fun H => rg G b0 357 (shX0 G.2.1) V0 H) (some (.long rx)) := by
  refine Met.ofW (cc := cX0_value) (maxL := 2) (ret := (some .long)) (by decide +kernel) rfl ?_
  intro p e s m args below meth c s₁ B hml hv
  obtain ⟨rfl, hW0, hK⟩ := hv
  have hts := atoms_spec (ws := ws_ yX0_value cX0_value 2 (some .long)) B.pre
  have hts : ∀ w ∈ lw_all, w.before _ s = true := fun w h => hts w (List.mem_cons_of_mem _ h)
  have C : Cx G p s m _ meth c RX0 cX0_value 2 (some .long) := ⟨B.exec, B.bytes, B.returns, B.notSynchronized, hml, findClass_of_methodNamed B.named, hts, hK⟩
  have hl := lv_entry ([.ref b0, .int i1]) (n := 2) (Nat.le_of_ble_eq_true rfl)
  rw [lg_entry_eq]
  generalize (lg_sl ([.ref b0, .int i1]) ++ List.replicate (2 - (lg_sl ([.ref b0, .int i1])).length) Slot.unset).toArray = ls at hl ⊢
  have hl : lv_has ls 2 [(0, .ref b0), (1, .int i1)] := hl
  exact w_fX0_value C hW0 _ hm ls hl
theorem yn_X3_rise : YN yX3_rise 1 := by
  unfold YN
  decide +kernel
theorem lkX0_275 : LV RX0 275 RX3 yX3_rise cX3_rise 3 (some .long) := ⟨q927, q928, q929, q117, q930⟩
noncomputable def fX0_price (V0 : Mem) (i1 : Int32) (i2 : Int32) : Option (Int64) :=
  if (gI V0 0 6) = 0 then (
  some (-9223372036854775808 : Int64))
  else (
  ob (fX1_hasRule (shf V0 1) i1) fun r2 =>
  if r2 = 0 then (
  some (-9223372036854775808 : Int64))
  else (
  ob (fX0_isPart i2) fun r5 =>
  if r5 = 0 then (
  some (-9223372036854775808 : Int64))
  else (
  ob (fX3_rise (shf V0 67) ((10 : Int32) + i1)) fun r8 =>
  ob (fX0_share r8 (gL V0 67 4) i2) fun r10 =>
  some r10)))
set_option maxHeartbeats 4000000 in
theorem w_fX0_price (C : Cx G p s m args meth c RX0 cX0_price 3 (some .long)) {b0 : Nat} {V0 : Mem} {rx : Int64} (hW0 : rg G b0 357 (shX0 G.2.1) V0 s.heap) : ∀ (i1 : Int32) (i2 : Int32), fX0_price V0 i1 i2 = some rx → ∀ (ls : Array Slot), lv_has ls 3 [(0, .ref b0), (1, .int i1), (2, .int i2)] → W p l e (rmP 2 55) s m args below meth c s.heap [] 0 0 (MQ below (QcP (some (.long rx))) args s 0 0 (fun _ => False)) (F0 m 0 ls []) := by
  intro i1 i2 hm ls hl
  obtain ⟨hx, hb, hr, hlk, hml, hown, hts, hK⟩ := id C
  unfold fX0_price at hm
  refine lv_aload_n (pc := 0) hx hb dX0_price_0 rfl (lv_at hl 0 rfl) ?_
  refine rk_get (pc := 1) hx hb hts hown hK hW0 flX0_121 0 (by decide) rfl rfl (x := .int (gI V0 0 6)) rfl dX0_price_1 ?_
  refine lv_if_eq (pc := 4) (tgt := 50) hx hb dX0_price_4 (by decide) (fun c1 => ?_) (fun c1 => ?_)
  · have hm := ite_t c1 hm
    refine lv_ldc2 (pc := 50) (v := (-9223372036854775808 : Int64)) hx hb hown (hts _ q893) dX0_price_50 ?_
    have e9 := rs1 hm
    subst e9
    exact rk_lretP (pc := 53) hx hb hr hlk rfl dX0_price_53
  · have hm := ite_f c1 hm
    refine lv_aload_n (pc := 7) hx hb dX0_price_7 rfl (lv_at hl 0 rfl) ?_
    refine rk_get (pc := 8) hx hb hts hown hK hW0 flX0_12 0 (by decide) rfl rfl (x := .ref (b0 + 1)) (by first | rfl | exact congrArg (fun z => some (Value.ref z)) (by omega)) dX0_price_8 ?_
    refine lv_iload_n (pc := 11) hx hb dX0_price_11 rfl (lv_at hl 1 rfl) ?_
    obtain ⟨r2, hq3, hm⟩ := ob_some hm
    refine rk_PV (pc := 12) (As := [.int i1]) (rest := []) hx hb hml hown hts hK lkX0_165 rfl yn_X1_hasRule (ct_X1_hasRule (G := G) (l := l) (b0 := (b0 + 1)) hq3) ⟨Nat.le_of_ble_eq_true rfl, Nat.le_of_ble_eq_true rfl⟩ (rk_recv hK hW0 1 (by decide) rfl rfl rfl) (rg_sub hW0 rfl (by decide) (fun o ho x y z => shX0_n1 G.2.1 _ rfl o ho x y z)) rfl rfl hl.1 (Nat.le_of_ble_eq_true rfl) dX0_price_12 ⟨Nat.zero_le _, Nat.zero_le _⟩ ?_
    refine W.eq (g2 := F0 m 15 ls [.int r2]) rfl ?_
    refine lv_if_eq (pc := 15) (tgt := 50) hx hb dX0_price_15 (by decide) (fun c4 => ?_) (fun c4 => ?_)
    · have hm := ite_t c4 hm
      refine lv_ldc2 (pc := 50) (v := (-9223372036854775808 : Int64)) hx hb hown (hts _ q893) dX0_price_50 ?_
      have e9 := rs1 hm
      subst e9
      exact rk_lretP (pc := 53) hx hb hr hlk rfl dX0_price_53
    · have hm := ite_f c4 hm
      refine lv_iload_n (pc := 18) hx hb dX0_price_18 rfl (lv_at hl 2 rfl) ?_
      obtain ⟨r5, hq6, hm⟩ := ob_some hm
      refine rk_PS (pc := 19) (As := [.int i2]) (rest := []) hx hb hml hown hts hK lkX0_264 yn_X0_isPart (ct_X0_isPart (G := G) (l := l) hq6) ⟨Nat.le_of_ble_eq_true rfl, Nat.le_of_ble_eq_true rfl⟩ trivial rfl rfl hl.1 (Nat.le_of_ble_eq_true rfl) dX0_price_19 ⟨Nat.zero_le _, Nat.zero_le _⟩ ?_
      refine W.eq (g2 := F0 m 22 ls [.int r5]) rfl ?_
      refine lv_if_eq (pc := 22) (tgt := 50) hx hb dX0_price_22 (by decide) (fun c7 => ?_) (fun c7 => ?_)
      · have hm := ite_t c7 hm
        refine lv_ldc2 (pc := 50) (v := (-9223372036854775808 : Int64)) hx hb hown (hts _ q893) dX0_price_50 ?_
        have e9 := rs1 hm
        subst e9
        exact rk_lretP (pc := 53) hx hb hr hlk rfl dX0_price_53
      · have hm := ite_f c7 hm
        refine lv_aload_n (pc := 25) hx hb dX0_price_25 rfl (lv_at hl 0 rfl) ?_
        refine rk_get (pc := 26) hx hb hts hown hK hW0 flX0_27 0 (by decide) rfl rfl (x := .ref (b0 + 67)) (by first | rfl | exact congrArg (fun z => some (Value.ref z)) (by omega)) dX0_price_26 ?_
        refine lv_bipush (pc := 29) (v := (10 : Int32)) hx hb dX0_price_29 (by decide) ?_
        refine lv_iload_n (pc := 31) hx hb dX0_price_31 rfl (lv_at hl 1 rfl) ?_
        refine lv_iadd (pc := 32) hx hb dX0_price_32 ?_
        obtain ⟨r8, hq9, hm⟩ := ob_some hm
        refine rk_PV (pc := 33) (As := [.int ((10 : Int32) + i1)]) (rest := []) hx hb hml hown hts hK lkX0_275 rfl yn_X3_rise (ct_X3_rise (G := G) (l := l) (b0 := (b0 + 67)) hq9) ⟨Nat.le_of_ble_eq_true rfl, Nat.le_of_ble_eq_true rfl⟩ (rk_recv hK hW0 67 (by decide) rfl rfl rfl) (rg_sub hW0 rfl (by decide) (fun o ho x y z => shX0_n67 G.2.1 _ rfl o ho x y z)) rfl rfl hl.1 (Nat.le_of_ble_eq_true rfl) dX0_price_33 ⟨Nat.zero_le _, Nat.zero_le _⟩ ?_
        refine W.eq (g2 := F0 m 36 ls [.long r8]) rfl ?_
        refine lv_aload_n (pc := 36) hx hb dX0_price_36 rfl (lv_at hl 0 rfl) ?_
        refine rk_get (pc := 37) hx hb hts hown hK hW0 flX0_27 0 (by decide) rfl rfl (x := .ref (b0 + 67)) (by first | rfl | exact congrArg (fun z => some (Value.ref z)) (by omega)) dX0_price_37 ?_
        refine rk_getN (pc := 40) hx hb hts hown hK hW0 fnX0_237 67 (by decide) rfl rfl (x := .long (gL V0 67 4)) rfl dX0_price_40 ?_
        refine lv_iload_n (pc := 43) hx hb dX0_price_43 rfl (lv_at hl 2 rfl) ?_
        obtain ⟨r10, hq11, hm⟩ := ob_some hm
        refine rk_PS (pc := 44) (As := [.long r8, .long (gL V0 67 4), .int i2]) (rest := []) hx hb hml hown hts hK lkX0_271 yn_X0_share (ct_X0_share (G := G) (l := l) hq11) ⟨Nat.le_of_ble_eq_true rfl, Nat.le_of_ble_eq_true rfl⟩ trivial rfl rfl hl.1 (Nat.le_of_ble_eq_true rfl) dX0_price_44 ⟨Nat.zero_le _, Nat.zero_le _⟩ ?_
        refine W.eq (g2 := F0 m 47 ls [.long r10]) rfl ?_
        refine lv_goto (pc := 47) (tgt := 53) hx hb dX0_price_47 (by decide) ?_
        have e9 := rs1 hm
        subst e9
        exact rk_lretP (pc := 53) hx hb hr hlk rfl dX0_price_53
set_option maxHeartbeats 4000000 in
theorem ct_X0_price {G : Gv} {l : Launch} {b0 : Nat} {V0 : Mem} {i1 : Int32} {i2 : Int32} {rx : Int64} (hm : fX0_price V0 i1 i2 = some rx) : CP G l yX0_price (ws_ yX0_price cX0_price 3 (some .long)) 2 55 [.ref b0, .int i1, .int i2] (fun H => rg G b0 357 (shX0 G.2.1) V0 H) (some (.long rx)) := by
  refine Met.ofW (cc := cX0_price) (maxL := 3) (ret := (some .long)) (by decide +kernel) rfl ?_
  intro p e s m args below meth c s₁ B hml hv
  obtain ⟨rfl, hW0, hK⟩ := hv
  have hts := atoms_spec (ws := ws_ yX0_price cX0_price 3 (some .long)) B.pre
  have hts : ∀ w ∈ lw_all, w.before _ s = true := fun w h => hts w (List.mem_cons_of_mem _ h)
  have C : Cx G p s m _ meth c RX0 cX0_price 3 (some .long) := ⟨B.exec, B.bytes, B.returns, B.notSynchronized, hml, findClass_of_methodNamed B.named, hts, hK⟩
  have hl := lv_entry ([.ref b0, .int i1, .int i2]) (n := 3) (Nat.le_of_ble_eq_true rfl)
  rw [lg_entry_eq]
  generalize (lg_sl ([.ref b0, .int i1, .int i2]) ++ List.replicate (3 - (lg_sl ([.ref b0, .int i1, .int i2])).length) Slot.unset).toArray = ls at hl ⊢
  have hl : lv_has ls 3 [(0, .ref b0), (1, .int i1), (2, .int i2)] := hl
  exact w_fX0_price C hW0 _ _ hm ls hl
theorem fnX0_278 : FN RX0 278 3 3 RX3 TX3 12 "WholePacks" := ⟨in_X3, rfl, by decide, q281⟩
noncomputable def fX0_isCut (V0 : Mem) (i1 : Int32) : Option (Int32) :=
  if (gI V0 0 6) = 0 then (
  some (0 : Int32))
  else (
  ob (fX0_in i1.toInt64 (0 : Int64) ((gI V0 67 3) - (1 : Int32)).toInt64) fun r2 =>
  if r2 = 0 then (
  some (0 : Int32))
  else (
  some (1 : Int32)))
set_option maxHeartbeats 4000000 in
theorem w_fX0_isCut (C : Cx G p s m args meth c RX0 cX0_isCut 2 (some .boolean)) {b0 : Nat} {V0 : Mem} {rx : Int32} (hW0 : rg G b0 357 (shX0 G.2.1) V0 s.heap) : ∀ (i1 : Int32), fX0_isCut V0 i1 = some rx → ∀ (ls : Array Slot), lv_has ls 2 [(0, .ref b0), (1, .int i1)] → W p l e (rmP 1 25) s m args below meth c s.heap [] 0 0 (MQ below (QcP (some (.int rx))) args s 0 0 (fun _ => False)) (F0 m 0 ls []) := by
  intro i1 hm ls hl
  obtain ⟨hx, hb, hr, hlk, hml, hown, hts, hK⟩ := id C
  unfold fX0_isCut at hm
  refine lv_aload_n (pc := 0) hx hb dX0_isCut_0 rfl (lv_at hl 0 rfl) ?_
  refine rk_get (pc := 1) hx hb hts hown hK hW0 flX0_121 0 (by decide) rfl rfl (x := .int (gI V0 0 6)) rfl dX0_isCut_1 ?_
  refine lv_if_eq (pc := 4) (tgt := 30) hx hb dX0_isCut_4 (by decide) (fun c1 => ?_) (fun c1 => ?_)
  · have hm := ite_t c1 hm
    refine lv_iconst (pc := 30) (v := (0 : Int32)) hx hb dX0_isCut_30 (by decide) ?_
    have e9 := rs1 hm
    subst e9
    exact rk_zretP (pc := 31) hx hb hr hlk rfl rfl dX0_isCut_31
  · have hm := ite_f c1 hm
    refine lv_iload_n (pc := 7) hx hb dX0_isCut_7 rfl (lv_at hl 1 rfl) ?_
    refine lv_i2l (pc := 8) hx hb dX0_isCut_8 rfl ?_
    refine lv_lconst (pc := 9) (v := (0 : Int64)) hx hb dX0_isCut_9 (by decide) ?_
    refine lv_aload_n (pc := 10) hx hb dX0_isCut_10 rfl (lv_at hl 0 rfl) ?_
    refine rk_get (pc := 11) hx hb hts hown hK hW0 flX0_27 0 (by decide) rfl rfl (x := .ref (b0 + 67)) (by first | rfl | exact congrArg (fun z => some (Value.ref z)) (by omega)) dX0_isCut_11 ?_
    refine rk_getN (pc := 14) hx hb hts hown hK hW0 fnX0_278 67 (by decide) rfl rfl (x := .int (gI V0 67 3)) rfl dX0_isCut_14 ?_
    refine lv_iconst (pc := 17) (v := (1 : Int32)) hx hb dX0_isCut_17 (by decide) ?_
    refine lv_isub (pc := 18) hx hb dX0_isCut_18 ?_
    refine lv_i2l (pc := 19) hx hb dX0_isCut_19 rfl ?_
    obtain ⟨r2, hq3, hm⟩ := ob_some hm
    refine rk_PS (pc := 20) (As := [.long i1.toInt64, .long (0 : Int64), .long ((gI V0 67 3) - (1 : Int32)).toInt64]) (rest := []) hx hb hml hown hts hK lkX0_127 yn_X0_in (ct_X0_in (G := G) (l := l) hq3) ⟨Nat.le_of_ble_eq_true rfl, Nat.le_of_ble_eq_true rfl⟩ trivial rfl rfl hl.1 (Nat.le_of_ble_eq_true rfl) dX0_isCut_20 ⟨Nat.zero_le _, Nat.zero_le _⟩ ?_
    refine W.eq (g2 := F0 m 23 ls [.int r2]) rfl ?_
    refine lv_if_eq (pc := 23) (tgt := 30) hx hb dX0_isCut_23 (by decide) (fun c4 => ?_) (fun c4 => ?_)
    · have hm := ite_t c4 hm
      refine lv_iconst (pc := 30) (v := (0 : Int32)) hx hb dX0_isCut_30 (by decide) ?_
      have e9 := rs1 hm
      subst e9
      exact rk_zretP (pc := 31) hx hb hr hlk rfl rfl dX0_isCut_31
    · have hm := ite_f c4 hm
      refine lv_iconst (pc := 26) (v := (1 : Int32)) hx hb dX0_isCut_26 (by decide) ?_
      refine lv_goto (pc := 27) (tgt := 31) hx hb dX0_isCut_27 (by decide) ?_
      have e9 := rs1 hm
      subst e9
      exact rk_zretP (pc := 31) hx hb hr hlk rfl rfl dX0_isCut_31
set_option maxHeartbeats 4000000 in
theorem ct_X0_isCut {G : Gv} {l : Launch} {b0 : Nat} {V0 : Mem} {i1 : Int32} {rx : Int32} (hm : fX0_isCut V0 i1 = some rx) : CP G l yX0_isCut (ws_ yX0_isCut cX0_isCut 2 (some .boolean)) 1 25 [.ref b0, .int i1] (fun H => rg G b0 357 (shX0 G.2.1) V0 H) (some (.int rx)) := by
  refine Met.ofW (cc := cX0_isCut) (maxL := 2) (ret := (some .boolean)) (by decide +kernel) rfl ?_
  intro p e s m args below meth c s₁ B hml hv
  obtain ⟨rfl, hW0, hK⟩ := hv
  have hts := atoms_spec (ws := ws_ yX0_isCut cX0_isCut 2 (some .boolean)) B.pre
  have hts : ∀ w ∈ lw_all, w.before _ s = true := fun w h => hts w (List.mem_cons_of_mem _ h)
  have C : Cx G p s m _ meth c RX0 cX0_isCut 2 (some .boolean) := ⟨B.exec, B.bytes, B.returns, B.notSynchronized, hml, findClass_of_methodNamed B.named, hts, hK⟩
  have hl := lv_entry ([.ref b0, .int i1]) (n := 2) (Nat.le_of_ble_eq_true rfl)
  rw [lg_entry_eq]
  generalize (lg_sl ([.ref b0, .int i1]) ++ List.replicate (2 - (lg_sl ([.ref b0, .int i1])).length) Slot.unset).toArray = ls at hl ⊢
  have hl : lv_has ls 2 [(0, .ref b0), (1, .int i1)] := hl
  exact w_fX0_isCut C hW0 _ hm ls hl
theorem yn_X0_isCut : YN yX0_isCut 1 := by
  unfold YN
  decide +kernel
theorem lkX0_281 : LV RX0 281 RX0 yX0_isCut cX0_isCut 2 (some .boolean) := ⟨q935, q937, qs23, q114, q938⟩
theorem fnX0_284 : FN RX0 284 3 11 RX3 TX3 12 "WholePacks" := ⟨in_X3, rfl, by decide, q298⟩
theorem fnX0_293 : FN RX0 293 4 0 RX4 TX4 4 "WholePacks" := ⟨in_X4, rfl, by decide, q255⟩
theorem fnX0_288 : FN RX0 288 4 1 RX4 TX4 4 "WholePacks" := ⟨in_X4, rfl, by decide, q258⟩
noncomputable def fX0_cut (V0 : Mem) (i1 : Int32) (i2 : Int32) : Option (Int64) :=
  ob (fX0_isCut V0 i1) fun r1 =>
  if r1 = 0 then (
  some (-9223372036854775808 : Int64))
  else (
  ob (fX0_in i2.toInt64 (0 : Int64) (gI V0 1 0).toInt64) fun r4 =>
  if r4 = 0 then (
  some (-9223372036854775808 : Int64))
  else (
  if i2 = (gI V0 1 0) then (
  gb (inR i1 12) (
  some (gL V0 (74 + 3 * i1.toNatClampNeg + 0) 1)))
  else (
  gb (inR i1 12) (
  gb (inR i2 5) (
  some (gL V0 (74 + 3 * i1.toNatClampNeg + 1) i2.toNatClampNeg))))))
set_option maxHeartbeats 4000000 in
theorem w_fX0_cut (C : Cx G p s m args meth c RX0 cX0_cut 3 (some .long)) {b0 : Nat} {V0 : Mem} {rx : Int64} (hW0 : rg G b0 357 (shX0 G.2.1) V0 s.heap) : ∀ (i1 : Int32) (i2 : Int32), fX0_cut V0 i1 i2 = some rx → ∀ (ls : Array Slot), lv_has ls 3 [(0, .ref b0), (1, .int i1), (2, .int i2)] → W p l e (rmP 2 46) s m args below meth c s.heap [] 0 0 (MQ below (QcP (some (.long rx))) args s 0 0 (fun _ => False)) (F0 m 0 ls []) := by
  intro i1 i2 hm ls hl
  obtain ⟨hx, hb, hr, hlk, hml, hown, hts, hK⟩ := id C
  unfold fX0_cut at hm
  refine lv_aload_n (pc := 0) hx hb dX0_cut_0 rfl (lv_at hl 0 rfl) ?_
  refine lv_iload_n (pc := 1) hx hb dX0_cut_1 rfl (lv_at hl 1 rfl) ?_
  obtain ⟨r1, hq2, hm⟩ := ob_some hm
  refine rk_PV (pc := 2) (As := [.int i1]) (rest := []) hx hb hml hown hts hK lkX0_281 rfl yn_X0_isCut (ct_X0_isCut (G := G) (l := l) (b0 := b0) hq2) ⟨Nat.le_of_ble_eq_true rfl, Nat.le_of_ble_eq_true rfl⟩ (rk_recv hK hW0 0 (by decide) rfl rfl rfl) hW0 rfl rfl hl.1 (Nat.le_of_ble_eq_true rfl) dX0_cut_2 ⟨Nat.zero_le _, Nat.zero_le _⟩ ?_
  refine W.eq (g2 := F0 m 5 ls [.int r1]) rfl ?_
  refine lv_if_eq (pc := 5) (tgt := 25) hx hb dX0_cut_5 (by decide) (fun c3 => ?_) (fun c3 => ?_)
  · have hm := ite_t c3 hm
    refine lv_ldc2 (pc := 25) (v := (-9223372036854775808 : Int64)) hx hb hown (hts _ q893) dX0_cut_25 ?_
    have e9 := rs1 hm
    subst e9
    exact rk_lretP (pc := 28) hx hb hr hlk rfl dX0_cut_28
  · have hm := ite_f c3 hm
    refine lv_iload_n (pc := 8) hx hb dX0_cut_8 rfl (lv_at hl 2 rfl) ?_
    refine lv_i2l (pc := 9) hx hb dX0_cut_9 rfl ?_
    refine lv_lconst (pc := 10) (v := (0 : Int64)) hx hb dX0_cut_10 (by decide) ?_
    refine lv_aload_n (pc := 11) hx hb dX0_cut_11 rfl (lv_at hl 0 rfl) ?_
    refine rk_get (pc := 12) hx hb hts hown hK hW0 flX0_12 0 (by decide) rfl rfl (x := .ref (b0 + 1)) (by first | rfl | exact congrArg (fun z => some (Value.ref z)) (by omega)) dX0_cut_12 ?_
    refine rk_getN (pc := 15) hx hb hts hown hK hW0 fnX0_131 1 (by decide) rfl rfl (x := .int (gI V0 1 0)) rfl dX0_cut_15 ?_
    refine lv_i2l (pc := 18) hx hb dX0_cut_18 rfl ?_
    obtain ⟨r4, hq5, hm⟩ := ob_some hm
    refine rk_PS (pc := 19) (As := [.long i2.toInt64, .long (0 : Int64), .long (gI V0 1 0).toInt64]) (rest := []) hx hb hml hown hts hK lkX0_127 yn_X0_in (ct_X0_in (G := G) (l := l) hq5) ⟨Nat.le_of_ble_eq_true rfl, Nat.le_of_ble_eq_true rfl⟩ trivial rfl rfl hl.1 (Nat.le_of_ble_eq_true rfl) dX0_cut_19 ⟨Nat.zero_le _, Nat.zero_le _⟩ ?_
    refine W.eq (g2 := F0 m 22 ls [.int r4]) rfl ?_
    refine lv_if_ne (pc := 22) (tgt := 29) hx hb dX0_cut_22 (by decide) (fun c6 => ?_) (fun c6 => ?_)
    · have hm := ite_f c6 hm
      refine lv_iload_n (pc := 29) hx hb dX0_cut_29 rfl (lv_at hl 2 rfl) ?_
      refine lv_aload_n (pc := 30) hx hb dX0_cut_30 rfl (lv_at hl 0 rfl) ?_
      refine rk_get (pc := 31) hx hb hts hown hK hW0 flX0_12 0 (by decide) rfl rfl (x := .ref (b0 + 1)) (by first | rfl | exact congrArg (fun z => some (Value.ref z)) (by omega)) dX0_cut_31 ?_
      refine rk_getN (pc := 34) hx hb hts hown hK hW0 fnX0_131 1 (by decide) rfl rfl (x := .int (gI V0 1 0)) rfl dX0_cut_34 ?_
      refine lv_icmp_ne (pc := 37) (tgt := 55) hx hb dX0_cut_37 (by decide) (fun c7 => ?_) (fun c7 => ?_)
      · have hm := ite_f c7 hm
        refine lv_aload_n (pc := 55) hx hb dX0_cut_55 rfl (lv_at hl 0 rfl) ?_
        refine rk_get (pc := 56) hx hb hts hown hK hW0 flX0_27 0 (by decide) rfl rfl (x := .ref (b0 + 67)) (by first | rfl | exact congrArg (fun z => some (Value.ref z)) (by omega)) dX0_cut_56 ?_
        refine rk_getN (pc := 59) hx hb hts hown hK hW0 fnX0_284 67 (by decide) rfl rfl (x := .ref (b0 + 73)) (by first | rfl | exact congrArg (fun z => some (Value.ref z)) (by omega)) dX0_cut_59 ?_
        refine lv_iload_n (pc := 62) hx hb dX0_cut_62 rfl (lv_at hl 1 rfl) ?_
        obtain ⟨hg8, hm⟩ := gb_some hm
        have hlt9 := inR_lt hg8
        refine rk_aald (pc := 63) hx hb hK hW0 73 6 (by decide) rfl rfl rfl hg8 (x := (b0 + (74 + 3 * i1.toNatClampNeg + 0))) (by first | rfl | exact congrArg some (by omega)) dX0_cut_63 ?_
        refine rk_getN (pc := 64) hx hb hts hown hK hW0 fnX0_293 (74 + 3 * i1.toNatClampNeg + 0) (by omega) rfl ((shX0_f74 G.2.1 hlt9 _ rfl 0 (by decide) _ _ _).trans rfl) (x := .ref (b0 + (74 + 3 * i1.toNatClampNeg + 1))) (by first | rfl | exact congrArg (fun z => some (Value.ref z)) (by omega)) dX0_cut_64 ?_
        refine lv_iload_n (pc := 67) hx hb dX0_cut_67 rfl (lv_at hl 2 rfl) ?_
        obtain ⟨hg10, hm⟩ := gb_some hm
        refine rk_lald (pc := 68) hx hb hK hW0 (74 + 3 * i1.toNatClampNeg + 1) (by omega) rfl ((shX0_f74 G.2.1 hlt9 _ rfl 1 (by decide) _ _ _).trans rfl) hg10 (x := (gL V0 (74 + 3 * i1.toNatClampNeg + 1) i2.toNatClampNeg)) rfl dX0_cut_68 ?_
        have e9 := rs1 hm
        subst e9
        exact rk_lretP (pc := 69) hx hb hr hlk rfl dX0_cut_69
      · have hm := ite_t c7 hm
        refine lv_aload_n (pc := 40) hx hb dX0_cut_40 rfl (lv_at hl 0 rfl) ?_
        refine rk_get (pc := 41) hx hb hts hown hK hW0 flX0_27 0 (by decide) rfl rfl (x := .ref (b0 + 67)) (by first | rfl | exact congrArg (fun z => some (Value.ref z)) (by omega)) dX0_cut_41 ?_
        refine rk_getN (pc := 44) hx hb hts hown hK hW0 fnX0_284 67 (by decide) rfl rfl (x := .ref (b0 + 73)) (by first | rfl | exact congrArg (fun z => some (Value.ref z)) (by omega)) dX0_cut_44 ?_
        refine lv_iload_n (pc := 47) hx hb dX0_cut_47 rfl (lv_at hl 1 rfl) ?_
        obtain ⟨hg11, hm⟩ := gb_some hm
        have hlt12 := inR_lt hg11
        refine rk_aald (pc := 48) hx hb hK hW0 73 6 (by decide) rfl rfl rfl hg11 (x := (b0 + (74 + 3 * i1.toNatClampNeg + 0))) (by first | rfl | exact congrArg some (by omega)) dX0_cut_48 ?_
        refine rk_getN (pc := 49) hx hb hts hown hK hW0 fnX0_288 (74 + 3 * i1.toNatClampNeg + 0) (by omega) rfl ((shX0_f74 G.2.1 hlt12 _ rfl 0 (by decide) _ _ _).trans rfl) (x := .long (gL V0 (74 + 3 * i1.toNatClampNeg + 0) 1)) rfl dX0_cut_49 ?_
        refine lv_goto (pc := 52) (tgt := 69) hx hb dX0_cut_52 (by decide) ?_
        have e9 := rs1 hm
        subst e9
        exact rk_lretP (pc := 69) hx hb hr hlk rfl dX0_cut_69
    · have hm := ite_t c6 hm
      refine lv_ldc2 (pc := 25) (v := (-9223372036854775808 : Int64)) hx hb hown (hts _ q893) dX0_cut_25 ?_
      have e9 := rs1 hm
      subst e9
      exact rk_lretP (pc := 28) hx hb hr hlk rfl dX0_cut_28
set_option maxHeartbeats 4000000 in
theorem ct_X0_cut {G : Gv} {l : Launch} {b0 : Nat} {V0 : Mem} {i1 : Int32} {i2 : Int32} {rx : Int64} (hm : fX0_cut V0 i1 i2 = some rx) : CP G l yX0_cut (ws_ yX0_cut cX0_cut 3 (some .long)) 2 46 [.ref b0, .int i1, .int i2] (fun H => rg G b0 357 (shX0 G.2.1) V0 H) (some (.long rx)) := by
  refine Met.ofW (cc := cX0_cut) (maxL := 3) (ret := (some .long)) (by decide +kernel) rfl ?_
  intro p e s m args below meth c s₁ B hml hv
  obtain ⟨rfl, hW0, hK⟩ := hv
  have hts := atoms_spec (ws := ws_ yX0_cut cX0_cut 3 (some .long)) B.pre
  have hts : ∀ w ∈ lw_all, w.before _ s = true := fun w h => hts w (List.mem_cons_of_mem _ h)
  have C : Cx G p s m _ meth c RX0 cX0_cut 3 (some .long) := ⟨B.exec, B.bytes, B.returns, B.notSynchronized, hml, findClass_of_methodNamed B.named, hts, hK⟩
  have hl := lv_entry ([.ref b0, .int i1, .int i2]) (n := 3) (Nat.le_of_ble_eq_true rfl)
  rw [lg_entry_eq]
  generalize (lg_sl ([.ref b0, .int i1, .int i2]) ++ List.replicate (3 - (lg_sl ([.ref b0, .int i1, .int i2])).length) Slot.unset).toArray = ls at hl ⊢
  have hl : lv_has ls 3 [(0, .ref b0), (1, .int i1), (2, .int i2)] := hl
  exact w_fX0_cut C hW0 _ _ hm ls hl
end
