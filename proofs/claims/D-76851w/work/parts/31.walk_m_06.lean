set_option maxRecDepth 100000
section
variable {p : Program} {l : Launch} {e : Env} {s : State} {m : MethodId} {args : Array Value} {below : List Frame} {meth : Method} {c : Code} {G : Gv}
noncomputable def fX9_many_39 (k16 : Mem → Int32 → Int32 → Int32 → Option (Int32 × Mem)) (v0 : Mem) (i1 : Int32) (i3 : Int32) (t0 : Int32) (t1 : Int32) : Option (Int32 × Mem) :=
  ob2 (fX9_nextCode v0 i3) fun r18 w19 =>
  k16 w19 i1 (t0 + t1) r18
noncomputable def fX9_many_16 (k16 : Mem → Int32 → Int32 → Int32 → Option (Int32 × Mem)) (v0 : Mem) (i1 : Int32) (i2 : Int32) (i3 : Int32) : Option (Int32 × Mem) :=
  if i3 < 0 then (
  some (i2, v0))
  else (
  ob (fX9_mixes v0 i3) fun w5 =>
  ob (fX9_broken w5) fun r15 =>
  if r15 = i1 then (
  fX9_many_39 k16 w5 i1 i3 i2 (1 : Int32))
  else (
  fX9_many_39 k16 w5 i1 i3 i2 (0 : Int32)))
noncomputable def fX9_many (v0 : Mem) (i1 : Int32) : Option (Int32 × Mem) :=
  ob (fX9_isIn i1.toInt64 (0 : Int64) (1 : Int64)) fun r1 =>
  if r1 = 0 then (
  some ((-1 : Int32), v0))
  else (
  lq4 (fX9_many_16) FU v0 i1 (0 : Int32) (0 : Int32))
set_option maxHeartbeats 4000000 in
theorem w_fX9_many_39 (C : Cx G p s m args meth c RX9 cX9_many 4 (some .int)) {b0 : Nat} {rx : Int32} {rw0 : Mem} {k16 : Mem → Int32 → Int32 → Int32 → Option (Int32 × Mem)} (hk16 : ∀ (v0 : Mem) (i1 : Int32) (i2 : Int32) (i3 : Int32), k16 v0 i1 i2 i3 = some (rx, rw0) → ∀ (H : Heap) (locs : List Loc) (ls : Array Slot), rg G b0 46 (shX9 G.2.1) v0 H → va_S (FA (iv b0 46) s.heap.size) s.heap H locs → H.size = s.heap.size → lv_has ls 4 [(0, .ref b0), (1, .int i1), (2, .int i2), (3, .int i3)] → W p l e (rmT 4 0 0 90) s m args below meth c H locs 0 0 (MQ below (QcT (FA (iv b0 46) s.heap.size) (fun ov H => ov = (some (.int rx)) ∧ rg G b0 46 (shX9 G.2.1) rw0 H ∧ H.size = s.heap.size)) args s 0 0 (FA (iv b0 46) s.heap.size)) (F0 m 16 ls [])) : ∀ (v0 : Mem) (i1 : Int32) (i3 : Int32) (t0 : Int32) (t1 : Int32), fX9_many_39 k16 v0 i1 i3 t0 t1 = some (rx, rw0) → ∀ (H : Heap) (locs : List Loc) (ls : Array Slot), rg G b0 46 (shX9 G.2.1) v0 H → va_S (FA (iv b0 46) s.heap.size) s.heap H locs → H.size = s.heap.size → lv_has ls 4 [(0, .ref b0), (1, .int i1), (3, .int i3)] → W p l e (rmT 4 0 0 90) s m args below meth c H locs 0 0 (MQ below (QcT (FA (iv b0 46) s.heap.size) (fun ov H => ov = (some (.int rx)) ∧ rg G b0 46 (shX9 G.2.1) rw0 H ∧ H.size = s.heap.size)) args s 0 0 (FA (iv b0 46) s.heap.size)) (F0 m 39 ls [.int t1, .int t0]) := by
  intro v0 i1 i3 t0 t1 hm H locs ls hW0 hS hz hl
  obtain ⟨hx, hb, hr, hlk, hml, hown, hts, hK⟩ := id C
  unfold fX9_many_39 at hm
  refine lv_iadd (pc := 39) hx hb dX9_many_39 ?_
  refine lv_istore_n (pc := 40) (lv' := [(2, .int (t0 + t1)), (0, .ref b0), (1, .int i1), (3, .int i3)]) hx hb dX9_many_40 rfl hl (by decide) rfl (fun ls hl => ?_)
  refine lv_aload_n (pc := 41) hx hb dX9_many_41 rfl (lv_at hl 1 rfl) ?_
  refine lv_iload_n (pc := 42) hx hb dX9_many_42 rfl (lv_at hl 3 rfl) ?_
  obtain ⟨r18, w19, hq20, hm⟩ := ob2_some hm
  refine rk_TV (pc := 43) (As := [.int i3]) (rest := []) (mc := 0) (ms := 0) hx hb hml hown hts hK hS (fun q hq => FA_sz rfl q hq) lkX9_362 rfl yn_X9_nextCode (ct_X9_nextCode (G := G) (l := l) (b0 := b0) (sz := H.size) hq20) ⟨Nat.le_of_ble_eq_true rfl, Nat.le_of_ble_eq_true rfl⟩ (fun z h => Or.inl (show iv _ _ _ from ⟨by have h8 := h.1; have h9 := h.2; omega, by have h8 := h.1; have h9 := h.2; omega⟩)) (rk_recv hK hW0 0 (by decide) rfl rfl rfl) hW0 rfl rfl hl.1 (Nat.le_of_ble_eq_true rfl) dX9_many_43 ⟨Nat.zero_le _, Nat.zero_le _⟩ (fun ov9 H21 locs22 hP23 hkp24 hS25 => ?_)
  obtain ⟨rfl, hW26, hz27⟩ := hP23
  have hz28 := hz27.trans hz
  refine W.eq (g2 := F0 m 46 ls [.int r18]) rfl ?_
  refine lv_istore_n (pc := 46) (lv' := [(3, .int r18), (2, .int (t0 + t1)), (0, .ref b0), (1, .int i1)]) hx hb dX9_many_46 rfl hl (by decide) rfl (fun ls hl => ?_)
  refine lv_goto (pc := 47) (tgt := 16) hx hb dX9_many_47 (by decide) ?_
  exact hk16 w19 i1 (t0 + t1) r18 hm H21 locs22 ls hW26 hS25 hz28 (lv_sub hl [2, 3, 1, 0] rfl)
set_option maxHeartbeats 4000000 in
theorem w_fX9_many_16 (C : Cx G p s m args meth c RX9 cX9_many 4 (some .int)) {b0 : Nat} {rx : Int32} {rw0 : Mem} {k16 : Mem → Int32 → Int32 → Int32 → Option (Int32 × Mem)} (hk16 : ∀ (v0 : Mem) (i1 : Int32) (i2 : Int32) (i3 : Int32), k16 v0 i1 i2 i3 = some (rx, rw0) → ∀ (H : Heap) (locs : List Loc) (ls : Array Slot), rg G b0 46 (shX9 G.2.1) v0 H → va_S (FA (iv b0 46) s.heap.size) s.heap H locs → H.size = s.heap.size → lv_has ls 4 [(0, .ref b0), (1, .int i1), (2, .int i2), (3, .int i3)] → W p l e (rmT 4 0 0 90) s m args below meth c H locs 0 0 (MQ below (QcT (FA (iv b0 46) s.heap.size) (fun ov H => ov = (some (.int rx)) ∧ rg G b0 46 (shX9 G.2.1) rw0 H ∧ H.size = s.heap.size)) args s 0 0 (FA (iv b0 46) s.heap.size)) (F0 m 16 ls [])) : ∀ (v0 : Mem) (i1 : Int32) (i2 : Int32) (i3 : Int32), fX9_many_16 k16 v0 i1 i2 i3 = some (rx, rw0) → ∀ (H : Heap) (locs : List Loc) (ls : Array Slot), rg G b0 46 (shX9 G.2.1) v0 H → va_S (FA (iv b0 46) s.heap.size) s.heap H locs → H.size = s.heap.size → lv_has ls 4 [(0, .ref b0), (1, .int i1), (2, .int i2), (3, .int i3)] → W p l e (rmT 4 0 0 90) s m args below meth c H locs 0 0 (MQ below (QcT (FA (iv b0 46) s.heap.size) (fun ov H => ov = (some (.int rx)) ∧ rg G b0 46 (shX9 G.2.1) rw0 H ∧ H.size = s.heap.size)) args s 0 0 (FA (iv b0 46) s.heap.size)) (F0 m 16 ls []) := by
  intro v0 i1 i2 i3 hm H locs ls hW0 hS hz hl
  obtain ⟨hx, hb, hr, hlk, hml, hown, hts, hK⟩ := id C
  unfold fX9_many_16 at hm
  refine lv_iload_n (pc := 16) hx hb dX9_many_16 rfl (lv_at hl 3 rfl) ?_
  refine lv_if_lt (pc := 17) (tgt := 50) hx hb dX9_many_17 (by decide) (fun c4 => ?_) (fun c4 => ?_)
  · have hm := ite_t c4 hm
    refine lv_iload_n (pc := 50) hx hb dX9_many_50 rfl (lv_at hl 2 rfl) ?_
    obtain ⟨e8, e9⟩ := rs2 hm
    subst e8
    subst e9
    exact rk_iret (pc := 51) hx hb hr hlk hS ⟨rfl, hW0, hz⟩ dX9_many_51
  · have hm := ite_f c4 hm
    refine lv_aload_n (pc := 20) hx hb dX9_many_20 rfl (lv_at hl 0 rfl) ?_
    refine lv_iload_n (pc := 21) hx hb dX9_many_21 rfl (lv_at hl 3 rfl) ?_
    obtain ⟨w5, hq6, hm⟩ := ob_some hm
    refine rk_TV (pc := 22) (As := [.int i3]) (rest := []) (mc := 0) (ms := 0) hx hb hml hown hts hK hS (fun q hq => FA_sz rfl q hq) lkX9_343 rfl yn_X9_mixes (ct_X9_mixes (G := G) (l := l) (b0 := b0) (sz := H.size) hq6) ⟨Nat.le_of_ble_eq_true rfl, Nat.le_of_ble_eq_true rfl⟩ (fun z h => Or.inl (show iv _ _ _ from ⟨by have h8 := h.1; have h9 := h.2; omega, by have h8 := h.1; have h9 := h.2; omega⟩)) (rk_recv hK hW0 0 (by decide) rfl rfl rfl) hW0 rfl rfl hl.1 (Nat.le_of_ble_eq_true rfl) dX9_many_22 ⟨Nat.zero_le _, Nat.zero_le _⟩ (fun ov9 H7 locs8 hP9 hkp10 hS11 => ?_)
    obtain ⟨rfl, hW12, hz13⟩ := hP9
    have hz14 := hz13.trans hz
    refine W.eq (g2 := F0 m 25 ls []) rfl ?_
    refine lv_iload_n (pc := 25) hx hb dX9_many_25 rfl (lv_at hl 2 rfl) ?_
    refine lv_aload_n (pc := 26) hx hb dX9_many_26 rfl (lv_at hl 0 rfl) ?_
    obtain ⟨r15, hq16, hm⟩ := ob_some hm
    refine rk_PV (pc := 27) (As := []) (rest := [.int i2]) hx hb hml hown hts hK lkX9_356 rfl yn_X9_broken (ct_X9_broken (G := G) (l := l) (b0 := b0) hq16) ⟨Nat.le_of_ble_eq_true rfl, Nat.le_of_ble_eq_true rfl⟩ (rk_recv hK hW12 0 (by decide) rfl rfl rfl) hW12 rfl rfl hl.1 (Nat.le_of_ble_eq_true rfl) dX9_many_27 ⟨Nat.zero_le _, Nat.zero_le _⟩ ?_
    refine W.eq (g2 := F0 m 30 ls [.int r15, .int i2]) rfl ?_
    refine lv_iload_n (pc := 30) hx hb dX9_many_30 rfl (lv_at hl 1 rfl) ?_
    refine lv_icmp_ne (pc := 31) (tgt := 38) hx hb dX9_many_31 (by decide) (fun c17 => ?_) (fun c17 => ?_)
    · have hm := ite_f c17 hm
      refine lv_iconst (pc := 38) (v := (0 : Int32)) hx hb dX9_many_38 (by decide) ?_
      exact (w_fX9_many_39 C hk16) w5 i1 i3 i2 (0 : Int32) hm H7 locs8 ls hW12 hS11 hz14 (lv_sub hl [0, 1, 3] rfl)
    · have hm := ite_t c17 hm
      refine lv_iconst (pc := 34) (v := (1 : Int32)) hx hb dX9_many_34 (by decide) ?_
      refine lv_goto (pc := 35) (tgt := 39) hx hb dX9_many_35 (by decide) ?_
      exact (w_fX9_many_39 C hk16) w5 i1 i3 i2 (1 : Int32) hm H7 locs8 ls hW12 hS11 hz14 (lv_sub hl [0, 1, 3] rfl)
theorem w_fX9_many_16_l (C : Cx G p s m args meth c RX9 cX9_many 4 (some .int)) {b0 : Nat} {rx : Int32} {rw0 : Mem} : ∀ (n : Nat) (v0 : Mem) (i1 : Int32) (i2 : Int32) (i3 : Int32), lq4 (fX9_many_16) n v0 i1 i2 i3 = some (rx, rw0) → ∀ (H : Heap) (locs : List Loc) (ls : Array Slot), rg G b0 46 (shX9 G.2.1) v0 H → va_S (FA (iv b0 46) s.heap.size) s.heap H locs → H.size = s.heap.size → lv_has ls 4 [(0, .ref b0), (1, .int i1), (2, .int i2), (3, .int i3)] → W p l e (rmT 4 0 0 90) s m args below meth c H locs 0 0 (MQ below (QcT (FA (iv b0 46) s.heap.size) (fun ov H => ov = (some (.int rx)) ∧ rg G b0 46 (shX9 G.2.1) rw0 H ∧ H.size = s.heap.size)) args s 0 0 (FA (iv b0 46) s.heap.size)) (F0 m 16 ls []) := by
  intro n
  induction n with
  | zero => intro v0 i1 i2 i3 hm; exact (lq4_0 hm).elim
  | succ n ih => intro v0 i1 i2 i3 hm; exact w_fX9_many_16 C ih v0 i1 i2 i3 (lq4_s hm)
set_option maxHeartbeats 4000000 in
theorem w_fX9_many (C : Cx G p s m args meth c RX9 cX9_many 4 (some .int)) {b0 : Nat} {rx : Int32} {rw0 : Mem} : ∀ (v0 : Mem) (i1 : Int32), fX9_many v0 i1 = some (rx, rw0) → ∀ (H : Heap) (locs : List Loc) (ls : Array Slot), rg G b0 46 (shX9 G.2.1) v0 H → va_S (FA (iv b0 46) s.heap.size) s.heap H locs → H.size = s.heap.size → lv_has ls 4 [(0, .ref b0), (1, .int i1)] → W p l e (rmT 4 0 0 90) s m args below meth c H locs 0 0 (MQ below (QcT (FA (iv b0 46) s.heap.size) (fun ov H => ov = (some (.int rx)) ∧ rg G b0 46 (shX9 G.2.1) rw0 H ∧ H.size = s.heap.size)) args s 0 0 (FA (iv b0 46) s.heap.size)) (F0 m 0 ls []) := by
  intro v0 i1 hm H locs ls hW0 hS hz hl
  obtain ⟨hx, hb, hr, hlk, hml, hown, hts, hK⟩ := id C
  unfold fX9_many at hm
  refine lv_iload_n (pc := 0) hx hb dX9_many_0 rfl (lv_at hl 1 rfl) ?_
  refine lv_i2l (pc := 1) hx hb dX9_many_1 rfl ?_
  refine lv_lconst (pc := 2) (v := (0 : Int64)) hx hb dX9_many_2 (by decide) ?_
  refine lv_lconst (pc := 3) (v := (1 : Int64)) hx hb dX9_many_3 (by decide) ?_
  obtain ⟨r1, hq2, hm⟩ := ob_some hm
  refine rk_PS (pc := 4) (As := [.long i1.toInt64, .long (0 : Int64), .long (1 : Int64)]) (rest := []) hx hb hml hown hts hK lkX9_93 yn_X9_isIn (ct_X9_isIn (G := G) (l := l) hq2) ⟨Nat.le_of_ble_eq_true rfl, Nat.le_of_ble_eq_true rfl⟩ trivial rfl rfl hl.1 (Nat.le_of_ble_eq_true rfl) dX9_many_4 ⟨Nat.zero_le _, Nat.zero_le _⟩ ?_
  refine W.eq (g2 := F0 m 7 ls [.int r1]) rfl ?_
  refine lv_if_ne (pc := 7) (tgt := 12) hx hb dX9_many_7 (by decide) (fun c3 => ?_) (fun c3 => ?_)
  · have hm := ite_f c3 hm
    refine lv_iconst (pc := 12) (v := (0 : Int32)) hx hb dX9_many_12 (by decide) ?_
    refine lv_istore_n (pc := 13) (lv' := [(2, .int (0 : Int32)), (0, .ref b0), (1, .int i1)]) hx hb dX9_many_13 rfl hl (by decide) rfl (fun ls hl => ?_)
    refine lv_iconst (pc := 14) (v := (0 : Int32)) hx hb dX9_many_14 (by decide) ?_
    refine lv_istore_n (pc := 15) (lv' := [(3, .int (0 : Int32)), (2, .int (0 : Int32)), (0, .ref b0), (1, .int i1)]) hx hb dX9_many_15 rfl hl (by decide) rfl (fun ls hl => ?_)
    exact (w_fX9_many_16_l C FU) v0 i1 (0 : Int32) (0 : Int32) hm H locs ls hW0 hS hz (lv_sub hl [2, 3, 1, 0] rfl)
  · have hm := ite_t c3 hm
    refine lv_iconst (pc := 10) (v := (-1 : Int32)) hx hb dX9_many_10 (by decide) ?_
    obtain ⟨e8, e9⟩ := rs2 hm
    subst e8
    subst e9
    exact rk_iret (pc := 11) hx hb hr hlk hS ⟨rfl, hW0, hz⟩ dX9_many_11
set_option maxHeartbeats 4000000 in
theorem ct_X9_many {G : Gv} {l : Launch} {b0 : Nat} {v0 : Mem} {i1 : Int32} {rx : Int32} {rw0 : Mem} {sz : Nat} (hm : fX9_many v0 i1 = some (rx, rw0)) : CT G l yX9_many (ws_ yX9_many cX9_many 4 (some .int)) 4 0 0 90 [.ref b0, .int i1] (iv b0 46) sz (fun H => rg G b0 46 (shX9 G.2.1) v0 H) (fun ov H => ov = (some (.int rx)) ∧ rg G b0 46 (shX9 G.2.1) rw0 H ∧ H.size = sz) := by
  refine Met.ofW (cc := cX9_many) (maxL := 4) (ret := (some .int)) (by decide +kernel) rfl ?_
  intro p e s m args below meth c s₁ B hml hv
  obtain ⟨rfl, ⟨hz, hW0⟩, hK⟩ := hv
  subst hz
  have hts := atoms_spec (ws := ws_ yX9_many cX9_many 4 (some .int)) B.pre
  have hts : ∀ w ∈ lw_all, w.before _ s = true := fun w h => hts w (List.mem_cons_of_mem _ h)
  have C : Cx G p s m _ meth c RX9 cX9_many 4 (some .int) := ⟨B.exec, B.bytes, B.returns, B.notSynchronized, hml, findClass_of_methodNamed B.named, hts, hK⟩
  have hl := lv_entry ([.ref b0, .int i1]) (n := 4) (Nat.le_of_ble_eq_true rfl)
  rw [lg_entry_eq]
  generalize (lg_sl ([.ref b0, .int i1]) ++ List.replicate (4 - (lg_sl ([.ref b0, .int i1])).length) Slot.unset).toArray = ls at hl ⊢
  have hl : lv_has ls 4 [(0, .ref b0), (1, .int i1)] := hl
  exact w_fX9_many C _ _ hm s.heap [] ls hW0 va_S.rf rfl hl
theorem yn_X9_isCode : YN yX9_isCode 1 := by
  unfold YN
  decide +kernel
theorem lkX9_365 : LV RX9 365 RX9 yX9_isCode cX9_isCode 2 (some .boolean) := ⟨q2211, q2213, qs93, q128, q2214⟩
noncomputable def fX9_breaks_18 (k18 : Mem → Int32 → Option (Int32 × Mem)) (v0 : Mem) (i2 : Int32) : Option (Int32 × Mem) :=
  gb (inR (1 : Int32) 150) (
  if (gI v0 1 (1 : Int32).toNatClampNeg) ≤ i2 then (
  some ((-5 : Int32), v0))
  else (
  ob (fX9_isBroken v0 i2) fun r16 =>
  if r16 = 0 then (
  k18 v0 (i2 + (1 : Int32)))
  else (
  some (i2, v0))))
noncomputable def fX9_breaks (v0 : Mem) (i1 : Int32) : Option (Int32 × Mem) :=
  ob (fX9_isCode v0 i1) fun r1 =>
  if r1 = 0 then (
  some ((-2 : Int32), v0))
  else (
  ob (fX9_mixes v0 i1) fun w4 =>
  lq2 (fX9_breaks_18) FU w4 (0 : Int32))
set_option maxHeartbeats 4000000 in
theorem w_fX9_breaks_18 (C : Cx G p s m args meth c RX9 cX9_breaks 3 (some .int)) {b0 : Nat} {rx : Int32} {rw0 : Mem} {k18 : Mem → Int32 → Option (Int32 × Mem)} (hk18 : ∀ (v0 : Mem) (i2 : Int32), k18 v0 i2 = some (rx, rw0) → ∀ (H : Heap) (locs : List Loc) (ls : Array Slot), rg G b0 46 (shX9 G.2.1) v0 H → va_S (FA (iv b0 46) s.heap.size) s.heap H locs → H.size = s.heap.size → lv_has ls 3 [(0, .ref b0), (2, .int i2)] → W p l e (rmT 3 0 0 68) s m args below meth c H locs 0 0 (MQ below (QcT (FA (iv b0 46) s.heap.size) (fun ov H => ov = (some (.int rx)) ∧ rg G b0 46 (shX9 G.2.1) rw0 H ∧ H.size = s.heap.size)) args s 0 0 (FA (iv b0 46) s.heap.size)) (F0 m 18 ls [])) : ∀ (v0 : Mem) (i2 : Int32), fX9_breaks_18 k18 v0 i2 = some (rx, rw0) → ∀ (H : Heap) (locs : List Loc) (ls : Array Slot), rg G b0 46 (shX9 G.2.1) v0 H → va_S (FA (iv b0 46) s.heap.size) s.heap H locs → H.size = s.heap.size → lv_has ls 3 [(0, .ref b0), (2, .int i2)] → W p l e (rmT 3 0 0 68) s m args below meth c H locs 0 0 (MQ below (QcT (FA (iv b0 46) s.heap.size) (fun ov H => ov = (some (.int rx)) ∧ rg G b0 46 (shX9 G.2.1) rw0 H ∧ H.size = s.heap.size)) args s 0 0 (FA (iv b0 46) s.heap.size)) (F0 m 18 ls []) := by
  intro v0 i2 hm H locs ls hW0 hS hz hl
  obtain ⟨hx, hb, hr, hlk, hml, hown, hts, hK⟩ := id C
  unfold fX9_breaks_18 at hm
  refine lv_iload_n (pc := 18) hx hb dX9_breaks_18 rfl (lv_at hl 1 rfl) ?_
  refine lv_aload_n (pc := 19) hx hb dX9_breaks_19 rfl (lv_at hl 0 rfl) ?_
  refine rk_get (pc := 20) hx hb hts hown hK hW0 flX9_11 0 (by decide) rfl rfl (x := .ref (b0 + 1)) (by first | rfl | exact congrArg (fun z => some (Value.ref z)) (by omega)) dX9_breaks_20 ?_
  refine lv_iconst (pc := 23) (v := (1 : Int32)) hx hb dX9_breaks_23 (by decide) ?_
  obtain ⟨hg14, hm⟩ := gb_some hm
  refine rk_iald (pc := 24) hx hb hK hW0 1 (by decide) rfl rfl hg14 (x := (gI v0 1 (1 : Int32).toNatClampNeg)) rfl dX9_breaks_24 ?_
  refine lv_icmp_ge (pc := 25) (tgt := 44) hx hb dX9_breaks_25 (by decide) (fun c15 => ?_) (fun c15 => ?_)
  · have hm := ite_t c15 hm
    refine lv_bipush (pc := 44) (v := (-5 : Int32)) hx hb dX9_breaks_44 (by decide) ?_
    obtain ⟨e8, e9⟩ := rs2 hm
    subst e8
    subst e9
    exact rk_iret (pc := 46) hx hb hr hlk hS ⟨rfl, hW0, hz⟩ dX9_breaks_46
  · have hm := ite_f c15 hm
    refine lv_aload_n (pc := 28) hx hb dX9_breaks_28 rfl (lv_at hl 0 rfl) ?_
    refine lv_iload_n (pc := 29) hx hb dX9_breaks_29 rfl (lv_at hl 1 rfl) ?_
    obtain ⟨r16, hq17, hm⟩ := ob_some hm
    refine rk_PV (pc := 30) (As := [.int i2]) (rest := []) hx hb hml hown hts hK lkX9_346 rfl yn_X9_isBroken (ct_X9_isBroken (G := G) (l := l) (b0 := b0) hq17) ⟨Nat.le_of_ble_eq_true rfl, Nat.le_of_ble_eq_true rfl⟩ (rk_recv hK hW0 0 (by decide) rfl rfl rfl) hW0 rfl rfl hl.1 (Nat.le_of_ble_eq_true rfl) dX9_breaks_30 ⟨Nat.zero_le _, Nat.zero_le _⟩ ?_
    refine W.eq (g2 := F0 m 33 ls [.int r16]) rfl ?_
    refine lv_if_eq (pc := 33) (tgt := 38) hx hb dX9_breaks_33 (by decide) (fun c18 => ?_) (fun c18 => ?_)
    · have hm := ite_t c18 hm
      refine lv_iinc (pc := 38) (v := (i2 + (1 : Int32))) (lv' := [(2, .int (i2 + (1 : Int32))), (0, .ref b0)]) hx hb dX9_breaks_38 hl (k := 1) rfl rfl (by decide) rfl (fun ls hl => ?_)
      refine lv_goto (pc := 41) (tgt := 18) hx hb dX9_breaks_41 (by decide) ?_
      exact hk18 v0 (i2 + (1 : Int32)) hm H locs ls hW0 hS hz (lv_sub hl [1, 0] rfl)
    · have hm := ite_f c18 hm
      refine lv_iload_n (pc := 36) hx hb dX9_breaks_36 rfl (lv_at hl 1 rfl) ?_
      obtain ⟨e8, e9⟩ := rs2 hm
      subst e8
      subst e9
      exact rk_iret (pc := 37) hx hb hr hlk hS ⟨rfl, hW0, hz⟩ dX9_breaks_37
theorem w_fX9_breaks_18_l (C : Cx G p s m args meth c RX9 cX9_breaks 3 (some .int)) {b0 : Nat} {rx : Int32} {rw0 : Mem} : ∀ (n : Nat) (v0 : Mem) (i2 : Int32), lq2 (fX9_breaks_18) n v0 i2 = some (rx, rw0) → ∀ (H : Heap) (locs : List Loc) (ls : Array Slot), rg G b0 46 (shX9 G.2.1) v0 H → va_S (FA (iv b0 46) s.heap.size) s.heap H locs → H.size = s.heap.size → lv_has ls 3 [(0, .ref b0), (2, .int i2)] → W p l e (rmT 3 0 0 68) s m args below meth c H locs 0 0 (MQ below (QcT (FA (iv b0 46) s.heap.size) (fun ov H => ov = (some (.int rx)) ∧ rg G b0 46 (shX9 G.2.1) rw0 H ∧ H.size = s.heap.size)) args s 0 0 (FA (iv b0 46) s.heap.size)) (F0 m 18 ls []) := by
  intro n
  induction n with
  | zero => intro v0 i2 hm; exact (lq2_0 hm).elim
  | succ n ih => intro v0 i2 hm; exact w_fX9_breaks_18 C ih v0 i2 (lq2_s hm)
set_option maxHeartbeats 4000000 in
theorem w_fX9_breaks (C : Cx G p s m args meth c RX9 cX9_breaks 3 (some .int)) {b0 : Nat} {rx : Int32} {rw0 : Mem} : ∀ (v0 : Mem) (i1 : Int32), fX9_breaks v0 i1 = some (rx, rw0) → ∀ (H : Heap) (locs : List Loc) (ls : Array Slot), rg G b0 46 (shX9 G.2.1) v0 H → va_S (FA (iv b0 46) s.heap.size) s.heap H locs → H.size = s.heap.size → lv_has ls 3 [(0, .ref b0), (1, .int i1)] → W p l e (rmT 3 0 0 68) s m args below meth c H locs 0 0 (MQ below (QcT (FA (iv b0 46) s.heap.size) (fun ov H => ov = (some (.int rx)) ∧ rg G b0 46 (shX9 G.2.1) rw0 H ∧ H.size = s.heap.size)) args s 0 0 (FA (iv b0 46) s.heap.size)) (F0 m 0 ls []) := by
  intro v0 i1 hm H locs ls hW0 hS hz hl
  obtain ⟨hx, hb, hr, hlk, hml, hown, hts, hK⟩ := id C
  unfold fX9_breaks at hm
  refine lv_aload_n (pc := 0) hx hb dX9_breaks_0 rfl (lv_at hl 0 rfl) ?_
  refine lv_iload_n (pc := 1) hx hb dX9_breaks_1 rfl (lv_at hl 1 rfl) ?_
  obtain ⟨r1, hq2, hm⟩ := ob_some hm
  refine rk_PV (pc := 2) (As := [.int i1]) (rest := []) hx hb hml hown hts hK lkX9_365 rfl yn_X9_isCode (ct_X9_isCode (G := G) (l := l) (b0 := b0) hq2) ⟨Nat.le_of_ble_eq_true rfl, Nat.le_of_ble_eq_true rfl⟩ (rk_recv hK hW0 0 (by decide) rfl rfl rfl) hW0 rfl rfl hl.1 (Nat.le_of_ble_eq_true rfl) dX9_breaks_2 ⟨Nat.zero_le _, Nat.zero_le _⟩ ?_
  refine W.eq (g2 := F0 m 5 ls [.int r1]) rfl ?_
  refine lv_if_ne (pc := 5) (tgt := 11) hx hb dX9_breaks_5 (by decide) (fun c3 => ?_) (fun c3 => ?_)
  · have hm := ite_f c3 hm
    refine lv_aload_n (pc := 11) hx hb dX9_breaks_11 rfl (lv_at hl 0 rfl) ?_
    refine lv_iload_n (pc := 12) hx hb dX9_breaks_12 rfl (lv_at hl 1 rfl) ?_
    obtain ⟨w4, hq5, hm⟩ := ob_some hm
    refine rk_TV (pc := 13) (As := [.int i1]) (rest := []) (mc := 0) (ms := 0) hx hb hml hown hts hK hS (fun q hq => FA_sz rfl q hq) lkX9_343 rfl yn_X9_mixes (ct_X9_mixes (G := G) (l := l) (b0 := b0) (sz := H.size) hq5) ⟨Nat.le_of_ble_eq_true rfl, Nat.le_of_ble_eq_true rfl⟩ (fun z h => Or.inl (show iv _ _ _ from ⟨by have h8 := h.1; have h9 := h.2; omega, by have h8 := h.1; have h9 := h.2; omega⟩)) (rk_recv hK hW0 0 (by decide) rfl rfl rfl) hW0 rfl rfl hl.1 (Nat.le_of_ble_eq_true rfl) dX9_breaks_13 ⟨Nat.zero_le _, Nat.zero_le _⟩ (fun ov9 H6 locs7 hP8 hkp9 hS10 => ?_)
    obtain ⟨rfl, hW11, hz12⟩ := hP8
    have hz13 := hz12.trans hz
    refine W.eq (g2 := F0 m 16 ls []) rfl ?_
    refine lv_iconst (pc := 16) (v := (0 : Int32)) hx hb dX9_breaks_16 (by decide) ?_
    refine lv_istore_n (pc := 17) (lv' := [(2, .int (0 : Int32)), (0, .ref b0), (1, .int i1)]) hx hb dX9_breaks_17 rfl hl (by decide) rfl (fun ls hl => ?_)
    exact (w_fX9_breaks_18_l C FU) w4 (0 : Int32) hm H6 locs7 ls hW11 hS10 hz13 (lv_sub hl [1, 0] rfl)
  · have hm := ite_t c3 hm
    refine lv_bipush (pc := 8) (v := (-2 : Int32)) hx hb dX9_breaks_8 (by decide) ?_
    obtain ⟨e8, e9⟩ := rs2 hm
    subst e8
    subst e9
    exact rk_iret (pc := 10) hx hb hr hlk hS ⟨rfl, hW0, hz⟩ dX9_breaks_10
set_option maxHeartbeats 4000000 in
theorem ct_X9_breaks {G : Gv} {l : Launch} {b0 : Nat} {v0 : Mem} {i1 : Int32} {rx : Int32} {rw0 : Mem} {sz : Nat} (hm : fX9_breaks v0 i1 = some (rx, rw0)) : CT G l yX9_breaks (ws_ yX9_breaks cX9_breaks 3 (some .int)) 3 0 0 68 [.ref b0, .int i1] (iv b0 46) sz (fun H => rg G b0 46 (shX9 G.2.1) v0 H) (fun ov H => ov = (some (.int rx)) ∧ rg G b0 46 (shX9 G.2.1) rw0 H ∧ H.size = sz) := by
  refine Met.ofW (cc := cX9_breaks) (maxL := 3) (ret := (some .int)) (by decide +kernel) rfl ?_
  intro p e s m args below meth c s₁ B hml hv
  obtain ⟨rfl, ⟨hz, hW0⟩, hK⟩ := hv
  subst hz
  have hts := atoms_spec (ws := ws_ yX9_breaks cX9_breaks 3 (some .int)) B.pre
  have hts : ∀ w ∈ lw_all, w.before _ s = true := fun w h => hts w (List.mem_cons_of_mem _ h)
  have C : Cx G p s m _ meth c RX9 cX9_breaks 3 (some .int) := ⟨B.exec, B.bytes, B.returns, B.notSynchronized, hml, findClass_of_methodNamed B.named, hts, hK⟩
  have hl := lv_entry ([.ref b0, .int i1]) (n := 3) (Nat.le_of_ble_eq_true rfl)
  rw [lg_entry_eq]
  generalize (lg_sl ([.ref b0, .int i1]) ++ List.replicate (3 - (lg_sl ([.ref b0, .int i1])).length) Slot.unset).toArray = ls at hl ⊢
  have hl : lv_has ls 3 [(0, .ref b0), (1, .int i1)] := hl
  exact w_fX9_breaks C _ _ hm s.heap [] ls hW0 va_S.rf rfl hl
noncomputable def fX9_isLost_77 (V0 : Mem) (u0 : Int64) (u1 : Int64) : Option (Int32) :=
  if u0 ≤ u1 then (
  some (0 : Int32))
  else (
  some (1 : Int32))
noncomputable def fX9_isLost_35 (V0 : Mem) (k5 : Int32 → Int64 → Int32 → Option (Int32)) (i1 : Int32) (i4 : Int32) (u0 : Int64) (u1 : Int64) : Option (Int32) :=
  gb (inR i4 5) (
  k5 i1 (u0 + (u1 * (gI V0 32 i4.toNatClampNeg).toInt64)) (i4 + (1 : Int32)))
noncomputable def fX9_isLost_5 (V0 : Mem) (k5 : Int32 → Int64 → Int32 → Option (Int32)) (i1 : Int32) (j2 : Int64) (i4 : Int32) : Option (Int32) :=
  ob (fX9_n V0) fun r1 =>
  if r1 ≤ i4 then (
  if 0 ≤ i1 then (
  ob (fX9_n V0) fun r5 =>
  ob (fX9_cut V0 i1 r5) fun r7 =>
  fX9_isLost_77 V0 j2 r7)
  else (
  ob (fX9_n V0) fun r9 =>
  ob (fX9_points V0 r9) fun r11 =>
  fX9_isLost_77 V0 j2 r11))
  else (
  if 0 ≤ i1 then (
  ob (fX9_cut V0 i1 i4) fun r14 =>
  fX9_isLost_35 V0 k5 i1 i4 j2 r14)
  else (
  ob (fX9_points V0 i4) fun r16 =>
  fX9_isLost_35 V0 k5 i1 i4 j2 r16))
noncomputable def fX9_isLost (V0 : Mem) (i1 : Int32) : Option (Int32) :=
  lq3 (fX9_isLost_5 V0) FU i1 (0 : Int64) (0 : Int32)
set_option maxHeartbeats 4000000 in
theorem w_fX9_isLost_77 (C : Cx G p s m args meth c RX9 cX9_isLost 5 (some .boolean)) {b0 : Nat} {V0 : Mem} {rx : Int32} (hW0 : rg G b0 46 (shX9 G.2.1) V0 s.heap) : ∀ (u0 : Int64) (u1 : Int64), fX9_isLost_77 V0 u0 u1 = some rx → ∀ (ls : Array Slot), lv_has ls 5 [] → W p l e (rmP 3 71) s m args below meth c s.heap [] 0 0 (MQ below (QcP (some (.int rx))) args s 0 0 (fun _ => False)) (F0 m 77 ls [.long u1, .long u0]) := by
  intro u0 u1 hm ls hl
  obtain ⟨hx, hb, hr, hlk, hml, hown, hts, hK⟩ := id C
  unfold fX9_isLost_77 at hm
  refine rk_lcmp_le (pc := 77) (tgt := 85) hx hb dX9_isLost_77 rfl dX9_isLost_78 (by decide) (fun c19 => ?_) (fun c19 => ?_)
  · have hm := ite_t c19 hm
    refine lv_iconst (pc := 85) (v := (0 : Int32)) hx hb dX9_isLost_85 (by decide) ?_
    have e9 := rs1 hm
    subst e9
    exact rk_zretP (pc := 86) hx hb hr hlk rfl rfl dX9_isLost_86
  · have hm := ite_f c19 hm
    refine lv_iconst (pc := 81) (v := (1 : Int32)) hx hb dX9_isLost_81 (by decide) ?_
    refine lv_goto (pc := 82) (tgt := 86) hx hb dX9_isLost_82 (by decide) ?_
    have e9 := rs1 hm
    subst e9
    exact rk_zretP (pc := 86) hx hb hr hlk rfl rfl dX9_isLost_86
set_option maxHeartbeats 4000000 in
theorem w_fX9_isLost_35 (C : Cx G p s m args meth c RX9 cX9_isLost 5 (some .boolean)) {b0 : Nat} {V0 : Mem} {rx : Int32} (hW0 : rg G b0 46 (shX9 G.2.1) V0 s.heap) {k5 : Int32 → Int64 → Int32 → Option (Int32)} (hk5 : ∀ (i1 : Int32) (j2 : Int64) (i4 : Int32), k5 i1 j2 i4 = some rx → ∀ (ls : Array Slot), lv_has ls 5 [(0, .ref b0), (1, .int i1), (2, .long j2), (4, .int i4)] → W p l e (rmP 3 71) s m args below meth c s.heap [] 0 0 (MQ below (QcP (some (.int rx))) args s 0 0 (fun _ => False)) (F0 m 5 ls [])) : ∀ (i1 : Int32) (i4 : Int32) (u0 : Int64) (u1 : Int64), fX9_isLost_35 V0 k5 i1 i4 u0 u1 = some rx → ∀ (ls : Array Slot), lv_has ls 5 [(0, .ref b0), (1, .int i1), (4, .int i4)] → W p l e (rmP 3 71) s m args below meth c s.heap [] 0 0 (MQ below (QcP (some (.int rx))) args s 0 0 (fun _ => False)) (F0 m 35 ls [.long u1, .long u0]) := by
  intro i1 i4 u0 u1 hm ls hl
  obtain ⟨hx, hb, hr, hlk, hml, hown, hts, hK⟩ := id C
  unfold fX9_isLost_35 at hm
  refine lv_aload_n (pc := 35) hx hb dX9_isLost_35 rfl (lv_at hl 0 rfl) ?_
  refine rk_get (pc := 36) hx hb hts hown hK hW0 flX9_37 0 (by decide) rfl rfl (x := .ref (b0 + 32)) (by first | rfl | exact congrArg (fun z => some (Value.ref z)) (by omega)) dX9_isLost_36 ?_
  refine lv_iload (pc := 39) hx hb dX9_isLost_39 (lv_at hl 2 rfl) ?_
  obtain ⟨hg18, hm⟩ := gb_some hm
  refine rk_iald (pc := 41) hx hb hK hW0 32 (by decide) rfl rfl hg18 (x := (gI V0 32 i4.toNatClampNeg)) rfl dX9_isLost_41 ?_
  refine lv_i2l (pc := 42) hx hb dX9_isLost_42 rfl ?_
  refine lv_lmul (pc := 43) hx hb dX9_isLost_43 ?_
  refine lv_ladd (pc := 44) hx hb dX9_isLost_44 ?_
  refine lv_lstore_n (pc := 45) (lv' := [(2, .long (u0 + (u1 * (gI V0 32 i4.toNatClampNeg).toInt64))), (0, .ref b0), (1, .int i1), (4, .int i4)]) hx hb dX9_isLost_45 rfl hl (by decide) rfl (fun ls hl => ?_)
  refine lv_iinc (pc := 46) (v := (i4 + (1 : Int32))) (lv' := [(4, .int (i4 + (1 : Int32))), (2, .long (u0 + (u1 * (gI V0 32 i4.toNatClampNeg).toInt64))), (0, .ref b0), (1, .int i1)]) hx hb dX9_isLost_46 hl (k := 3) rfl rfl (by decide) rfl (fun ls hl => ?_)
  refine lv_goto (pc := 49) (tgt := 5) hx hb dX9_isLost_49 (by decide) ?_
  exact hk5 i1 (u0 + (u1 * (gI V0 32 i4.toNatClampNeg).toInt64)) (i4 + (1 : Int32)) hm ls (lv_sub hl [2, 3, 1, 0] rfl)
set_option maxHeartbeats 4000000 in
theorem w_fX9_isLost_5 (C : Cx G p s m args meth c RX9 cX9_isLost 5 (some .boolean)) {b0 : Nat} {V0 : Mem} {rx : Int32} (hW0 : rg G b0 46 (shX9 G.2.1) V0 s.heap) {k5 : Int32 → Int64 → Int32 → Option (Int32)} (hk5 : ∀ (i1 : Int32) (j2 : Int64) (i4 : Int32), k5 i1 j2 i4 = some rx → ∀ (ls : Array Slot), lv_has ls 5 [(0, .ref b0), (1, .int i1), (2, .long j2), (4, .int i4)] → W p l e (rmP 3 71) s m args below meth c s.heap [] 0 0 (MQ below (QcP (some (.int rx))) args s 0 0 (fun _ => False)) (F0 m 5 ls [])) : ∀ (i1 : Int32) (j2 : Int64) (i4 : Int32), fX9_isLost_5 V0 k5 i1 j2 i4 = some rx → ∀ (ls : Array Slot), lv_has ls 5 [(0, .ref b0), (1, .int i1), (2, .long j2), (4, .int i4)] → W p l e (rmP 3 71) s m args below meth c s.heap [] 0 0 (MQ below (QcP (some (.int rx))) args s 0 0 (fun _ => False)) (F0 m 5 ls []) := by
  intro i1 j2 i4 hm ls hl
  obtain ⟨hx, hb, hr, hlk, hml, hown, hts, hK⟩ := id C
  unfold fX9_isLost_5 at hm
  refine lv_iload (pc := 5) hx hb dX9_isLost_5 (lv_at hl 3 rfl) ?_
  refine lv_aload_n (pc := 7) hx hb dX9_isLost_7 rfl (lv_at hl 0 rfl) ?_
  obtain ⟨r1, hq2, hm⟩ := ob_some hm
  refine rk_PV (pc := 8) (As := []) (rest := [.int i4]) hx hb hml hown hts hK lkX9_89 rfl yn_X9_n (ct_X9_n (G := G) (l := l) (b0 := b0) hq2) ⟨Nat.le_of_ble_eq_true rfl, Nat.le_of_ble_eq_true rfl⟩ (rk_recv hK hW0 0 (by decide) rfl rfl rfl) (rg_take hW0 (by decide)) rfl rfl hl.1 (Nat.le_of_ble_eq_true rfl) dX9_isLost_8 ⟨Nat.zero_le _, Nat.zero_le _⟩ ?_
  refine W.eq (g2 := F0 m 11 ls [.int r1, .int i4]) rfl ?_
  refine lv_icmp_ge (pc := 11) (tgt := 52) hx hb dX9_isLost_11 (by decide) (fun c3 => ?_) (fun c3 => ?_)
  · have hm := ite_t c3 hm
    refine lv_lload_n (pc := 52) hx hb dX9_isLost_52 rfl (lv_at hl 2 rfl) ?_
    refine lv_iload_n (pc := 53) hx hb dX9_isLost_53 rfl (lv_at hl 1 rfl) ?_
    refine lv_if_ge (pc := 54) (tgt := 68) hx hb dX9_isLost_54 (by decide) (fun c4 => ?_) (fun c4 => ?_)
    · have hm := ite_t c4 hm
      refine lv_aload_n (pc := 68) hx hb dX9_isLost_68 rfl (lv_at hl 0 rfl) ?_
      refine lv_iload_n (pc := 69) hx hb dX9_isLost_69 rfl (lv_at hl 1 rfl) ?_
      refine lv_aload_n (pc := 70) hx hb dX9_isLost_70 rfl (lv_at hl 0 rfl) ?_
      obtain ⟨r5, hq6, hm⟩ := ob_some hm
      refine rk_PV (pc := 71) (As := []) (rest := [.int i1, .ref b0, .long j2]) hx hb hml hown hts hK lkX9_89 rfl yn_X9_n (ct_X9_n (G := G) (l := l) (b0 := b0) hq6) ⟨Nat.le_of_ble_eq_true rfl, Nat.le_of_ble_eq_true rfl⟩ (rk_recv hK hW0 0 (by decide) rfl rfl rfl) (rg_take hW0 (by decide)) rfl rfl hl.1 (Nat.le_of_ble_eq_true rfl) dX9_isLost_71 ⟨Nat.zero_le _, Nat.zero_le _⟩ ?_
      refine W.eq (g2 := F0 m 74 ls [.int r5, .int i1, .ref b0, .long j2]) rfl ?_
      obtain ⟨r7, hq8, hm⟩ := ob_some hm
      refine rk_PV (pc := 74) (As := [.int i1, .int r5]) (rest := [.long j2]) hx hb hml hown hts hK lkX9_326 rfl yn_X9_cut (ct_X9_cut (G := G) (l := l) (b0 := b0) hq8) ⟨Nat.le_of_ble_eq_true rfl, Nat.le_of_ble_eq_true rfl⟩ (rk_recv hK hW0 0 (by decide) rfl rfl rfl) hW0 rfl rfl hl.1 (Nat.le_of_ble_eq_true rfl) dX9_isLost_74 ⟨Nat.zero_le _, Nat.zero_le _⟩ ?_
      refine W.eq (g2 := F0 m 77 ls [.long r7, .long j2]) rfl ?_
      exact (w_fX9_isLost_77 C hW0) j2 r7 hm ls (lv_sub hl [] rfl)
    · have hm := ite_f c4 hm
      refine lv_aload_n (pc := 57) hx hb dX9_isLost_57 rfl (lv_at hl 0 rfl) ?_
      refine lv_aload_n (pc := 58) hx hb dX9_isLost_58 rfl (lv_at hl 0 rfl) ?_
      obtain ⟨r9, hq10, hm⟩ := ob_some hm
      refine rk_PV (pc := 59) (As := []) (rest := [.ref b0, .long j2]) hx hb hml hown hts hK lkX9_89 rfl yn_X9_n (ct_X9_n (G := G) (l := l) (b0 := b0) hq10) ⟨Nat.le_of_ble_eq_true rfl, Nat.le_of_ble_eq_true rfl⟩ (rk_recv hK hW0 0 (by decide) rfl rfl rfl) (rg_take hW0 (by decide)) rfl rfl hl.1 (Nat.le_of_ble_eq_true rfl) dX9_isLost_59 ⟨Nat.zero_le _, Nat.zero_le _⟩ ?_
      refine W.eq (g2 := F0 m 62 ls [.int r9, .ref b0, .long j2]) rfl ?_
      obtain ⟨r11, hq12, hm⟩ := ob_some hm
      refine rk_PV (pc := 62) (As := [.int r9]) (rest := [.long j2]) hx hb hml hown hts hK lkX9_337 rfl yn_X9_points (ct_X9_points (G := G) (l := l) (b0 := b0) hq12) ⟨Nat.le_of_ble_eq_true rfl, Nat.le_of_ble_eq_true rfl⟩ (rk_recv hK hW0 0 (by decide) rfl rfl rfl) hW0 rfl rfl hl.1 (Nat.le_of_ble_eq_true rfl) dX9_isLost_62 ⟨Nat.zero_le _, Nat.zero_le _⟩ ?_
      refine W.eq (g2 := F0 m 65 ls [.long r11, .long j2]) rfl ?_
      refine lv_goto (pc := 65) (tgt := 77) hx hb dX9_isLost_65 (by decide) ?_
      exact (w_fX9_isLost_77 C hW0) j2 r11 hm ls (lv_sub hl [] rfl)
  · have hm := ite_f c3 hm
    refine lv_lload_n (pc := 14) hx hb dX9_isLost_14 rfl (lv_at hl 2 rfl) ?_
    refine lv_iload_n (pc := 15) hx hb dX9_isLost_15 rfl (lv_at hl 1 rfl) ?_
    refine lv_if_ge (pc := 16) (tgt := 28) hx hb dX9_isLost_16 (by decide) (fun c13 => ?_) (fun c13 => ?_)
    · have hm := ite_t c13 hm
      refine lv_aload_n (pc := 28) hx hb dX9_isLost_28 rfl (lv_at hl 0 rfl) ?_
      refine lv_iload_n (pc := 29) hx hb dX9_isLost_29 rfl (lv_at hl 1 rfl) ?_
      refine lv_iload (pc := 30) hx hb dX9_isLost_30 (lv_at hl 3 rfl) ?_
      obtain ⟨r14, hq15, hm⟩ := ob_some hm
      refine rk_PV (pc := 32) (As := [.int i1, .int i4]) (rest := [.long j2]) hx hb hml hown hts hK lkX9_326 rfl yn_X9_cut (ct_X9_cut (G := G) (l := l) (b0 := b0) hq15) ⟨Nat.le_of_ble_eq_true rfl, Nat.le_of_ble_eq_true rfl⟩ (rk_recv hK hW0 0 (by decide) rfl rfl rfl) hW0 rfl rfl hl.1 (Nat.le_of_ble_eq_true rfl) dX9_isLost_32 ⟨Nat.zero_le _, Nat.zero_le _⟩ ?_
      refine W.eq (g2 := F0 m 35 ls [.long r14, .long j2]) rfl ?_
      exact (w_fX9_isLost_35 C hW0 hk5) i1 i4 j2 r14 hm ls (lv_sub hl [0, 1, 3] rfl)
    · have hm := ite_f c13 hm
      refine lv_aload_n (pc := 19) hx hb dX9_isLost_19 rfl (lv_at hl 0 rfl) ?_
      refine lv_iload (pc := 20) hx hb dX9_isLost_20 (lv_at hl 3 rfl) ?_
      obtain ⟨r16, hq17, hm⟩ := ob_some hm
      refine rk_PV (pc := 22) (As := [.int i4]) (rest := [.long j2]) hx hb hml hown hts hK lkX9_337 rfl yn_X9_points (ct_X9_points (G := G) (l := l) (b0 := b0) hq17) ⟨Nat.le_of_ble_eq_true rfl, Nat.le_of_ble_eq_true rfl⟩ (rk_recv hK hW0 0 (by decide) rfl rfl rfl) hW0 rfl rfl hl.1 (Nat.le_of_ble_eq_true rfl) dX9_isLost_22 ⟨Nat.zero_le _, Nat.zero_le _⟩ ?_
      refine W.eq (g2 := F0 m 25 ls [.long r16, .long j2]) rfl ?_
      refine lv_goto (pc := 25) (tgt := 35) hx hb dX9_isLost_25 (by decide) ?_
      exact (w_fX9_isLost_35 C hW0 hk5) i1 i4 j2 r16 hm ls (lv_sub hl [0, 1, 3] rfl)
theorem w_fX9_isLost_5_l (C : Cx G p s m args meth c RX9 cX9_isLost 5 (some .boolean)) {b0 : Nat} {V0 : Mem} {rx : Int32} (hW0 : rg G b0 46 (shX9 G.2.1) V0 s.heap) : ∀ (n : Nat) (i1 : Int32) (j2 : Int64) (i4 : Int32), lq3 (fX9_isLost_5 V0) n i1 j2 i4 = some rx → ∀ (ls : Array Slot), lv_has ls 5 [(0, .ref b0), (1, .int i1), (2, .long j2), (4, .int i4)] → W p l e (rmP 3 71) s m args below meth c s.heap [] 0 0 (MQ below (QcP (some (.int rx))) args s 0 0 (fun _ => False)) (F0 m 5 ls []) := by
  intro n
  induction n with
  | zero => intro i1 j2 i4 hm; exact (lq3_0 hm).elim
  | succ n ih => intro i1 j2 i4 hm; exact w_fX9_isLost_5 C hW0 ih i1 j2 i4 (lq3_s hm)
set_option maxHeartbeats 4000000 in
theorem w_fX9_isLost (C : Cx G p s m args meth c RX9 cX9_isLost 5 (some .boolean)) {b0 : Nat} {V0 : Mem} {rx : Int32} (hW0 : rg G b0 46 (shX9 G.2.1) V0 s.heap) : ∀ (i1 : Int32), fX9_isLost V0 i1 = some rx → ∀ (ls : Array Slot), lv_has ls 5 [(0, .ref b0), (1, .int i1)] → W p l e (rmP 3 71) s m args below meth c s.heap [] 0 0 (MQ below (QcP (some (.int rx))) args s 0 0 (fun _ => False)) (F0 m 0 ls []) := by
  intro i1 hm ls hl
  obtain ⟨hx, hb, hr, hlk, hml, hown, hts, hK⟩ := id C
  unfold fX9_isLost at hm
  refine lv_lconst (pc := 0) (v := (0 : Int64)) hx hb dX9_isLost_0 (by decide) ?_
  refine lv_lstore_n (pc := 1) (lv' := [(2, .long (0 : Int64)), (0, .ref b0), (1, .int i1)]) hx hb dX9_isLost_1 rfl hl (by decide) rfl (fun ls hl => ?_)
  refine lv_iconst (pc := 2) (v := (0 : Int32)) hx hb dX9_isLost_2 (by decide) ?_
  refine lv_istore (pc := 3) (lv' := [(4, .int (0 : Int32)), (2, .long (0 : Int64)), (0, .ref b0), (1, .int i1)]) hx hb dX9_isLost_3 hl (by decide) rfl (fun ls hl => ?_)
  exact (w_fX9_isLost_5_l C hW0 FU) i1 (0 : Int64) (0 : Int32) hm ls (lv_sub hl [2, 3, 1, 0] rfl)
set_option maxHeartbeats 4000000 in
theorem ct_X9_isLost {G : Gv} {l : Launch} {b0 : Nat} {V0 : Mem} {i1 : Int32} {rx : Int32} (hm : fX9_isLost V0 i1 = some rx) : CP G l yX9_isLost (ws_ yX9_isLost cX9_isLost 5 (some .boolean)) 3 71 [.ref b0, .int i1] (fun H => rg G b0 46 (shX9 G.2.1) V0 H) (some (.int rx)) := by
  refine Met.ofW (cc := cX9_isLost) (maxL := 5) (ret := (some .boolean)) (by decide +kernel) rfl ?_
  intro p e s m args below meth c s₁ B hml hv
  obtain ⟨rfl, hW0, hK⟩ := hv
  have hts := atoms_spec (ws := ws_ yX9_isLost cX9_isLost 5 (some .boolean)) B.pre
  have hts : ∀ w ∈ lw_all, w.before _ s = true := fun w h => hts w (List.mem_cons_of_mem _ h)
  have C : Cx G p s m _ meth c RX9 cX9_isLost 5 (some .boolean) := ⟨B.exec, B.bytes, B.returns, B.notSynchronized, hml, findClass_of_methodNamed B.named, hts, hK⟩
  have hl := lv_entry ([.ref b0, .int i1]) (n := 5) (Nat.le_of_ble_eq_true rfl)
  rw [lg_entry_eq]
  generalize (lg_sl ([.ref b0, .int i1]) ++ List.replicate (5 - (lg_sl ([.ref b0, .int i1])).length) Slot.unset).toArray = ls at hl ⊢
  have hl : lv_has ls 5 [(0, .ref b0), (1, .int i1)] := hl
  exact w_fX9_isLost C hW0 _ hm ls hl
theorem yn_X9_isLost : YN yX9_isLost 1 := by
  unfold YN
  decide +kernel
theorem lkX9_368 : LV RX9 368 RX9 yX9_isLost cX9_isLost 5 (some .boolean) := ⟨q2223, q2225, qs95, q128, q2226⟩
noncomputable def fX9_lost_17 (k17 : Mem → Int32 → Int32 → Option (Int32 × Mem)) (v0 : Mem) (i1 : Int32) (i2 : Int32) : Option (Int32 × Mem) :=
  if i2 < 0 then (
  some ((-5 : Int32), v0))
  else (
  ob (fX9_mixes v0 i2) fun w6 =>
  ob (fX9_isLost w6 i1) fun r16 =>
  if r16 = 0 then (
  ob2 (fX9_nextCode w6 i2) fun r19 w20 =>
  k17 w20 i1 r19)
  else (
  ob (fX9_broken w6) fun r30 =>
  if r30 = 0 then (
  some (i2, w6))
  else (
  ob2 (fX9_nextCode w6 i2) fun r33 w34 =>
  k17 w34 i1 r33)))
noncomputable def fX9_lost (v0 : Mem) (i1 : Int32) : Option (Int32 × Mem) :=
  if i1 = (-1 : Int32) then (
  lq3 (fX9_lost_17) FU v0 i1 (0 : Int32))
  else (
  ob (fX9_isCut v0 i1) fun r2 =>
  if r2 = 0 then (
  some ((-1 : Int32), v0))
  else (
  lq3 (fX9_lost_17) FU v0 i1 (0 : Int32)))
set_option maxHeartbeats 4000000 in
theorem w_fX9_lost_17 (C : Cx G p s m args meth c RX9 cX9_lost 3 (some .int)) {b0 : Nat} {rx : Int32} {rw0 : Mem} {k17 : Mem → Int32 → Int32 → Option (Int32 × Mem)} (hk17 : ∀ (v0 : Mem) (i1 : Int32) (i2 : Int32), k17 v0 i1 i2 = some (rx, rw0) → ∀ (H : Heap) (locs : List Loc) (ls : Array Slot), rg G b0 46 (shX9 G.2.1) v0 H → va_S (FA (iv b0 46) s.heap.size) s.heap H locs → H.size = s.heap.size → lv_has ls 3 [(0, .ref b0), (1, .int i1), (2, .int i2)] → W p l e (rmT 4 0 0 95) s m args below meth c H locs 0 0 (MQ below (QcT (FA (iv b0 46) s.heap.size) (fun ov H => ov = (some (.int rx)) ∧ rg G b0 46 (shX9 G.2.1) rw0 H ∧ H.size = s.heap.size)) args s 0 0 (FA (iv b0 46) s.heap.size)) (F0 m 17 ls [])) : ∀ (v0 : Mem) (i1 : Int32) (i2 : Int32), fX9_lost_17 k17 v0 i1 i2 = some (rx, rw0) → ∀ (H : Heap) (locs : List Loc) (ls : Array Slot), rg G b0 46 (shX9 G.2.1) v0 H → va_S (FA (iv b0 46) s.heap.size) s.heap H locs → H.size = s.heap.size → lv_has ls 3 [(0, .ref b0), (1, .int i1), (2, .int i2)] → W p l e (rmT 4 0 0 95) s m args below meth c H locs 0 0 (MQ below (QcT (FA (iv b0 46) s.heap.size) (fun ov H => ov = (some (.int rx)) ∧ rg G b0 46 (shX9 G.2.1) rw0 H ∧ H.size = s.heap.size)) args s 0 0 (FA (iv b0 46) s.heap.size)) (F0 m 17 ls []) := by
  intro v0 i1 i2 hm H locs ls hW0 hS hz hl
  obtain ⟨hx, hb, hr, hlk, hml, hown, hts, hK⟩ := id C
  unfold fX9_lost_17 at hm
  refine lv_iload_n (pc := 17) hx hb dX9_lost_17 rfl (lv_at hl 2 rfl) ?_
  refine lv_if_lt (pc := 18) (tgt := 52) hx hb dX9_lost_18 (by decide) (fun c5 => ?_) (fun c5 => ?_)
  · have hm := ite_t c5 hm
    refine lv_bipush (pc := 52) (v := (-5 : Int32)) hx hb dX9_lost_52 (by decide) ?_
    obtain ⟨e8, e9⟩ := rs2 hm
    subst e8
    subst e9
    exact rk_iret (pc := 54) hx hb hr hlk hS ⟨rfl, hW0, hz⟩ dX9_lost_54
  · have hm := ite_f c5 hm
    refine lv_aload_n (pc := 21) hx hb dX9_lost_21 rfl (lv_at hl 0 rfl) ?_
    refine lv_iload_n (pc := 22) hx hb dX9_lost_22 rfl (lv_at hl 2 rfl) ?_
    obtain ⟨w6, hq7, hm⟩ := ob_some hm
    refine rk_TV (pc := 23) (As := [.int i2]) (rest := []) (mc := 0) (ms := 0) hx hb hml hown hts hK hS (fun q hq => FA_sz rfl q hq) lkX9_343 rfl yn_X9_mixes (ct_X9_mixes (G := G) (l := l) (b0 := b0) (sz := H.size) hq7) ⟨Nat.le_of_ble_eq_true rfl, Nat.le_of_ble_eq_true rfl⟩ (fun z h => Or.inl (show iv _ _ _ from ⟨by have h8 := h.1; have h9 := h.2; omega, by have h8 := h.1; have h9 := h.2; omega⟩)) (rk_recv hK hW0 0 (by decide) rfl rfl rfl) hW0 rfl rfl hl.1 (Nat.le_of_ble_eq_true rfl) dX9_lost_23 ⟨Nat.zero_le _, Nat.zero_le _⟩ (fun ov9 H8 locs9 hP10 hkp11 hS12 => ?_)
    obtain ⟨rfl, hW13, hz14⟩ := hP10
    have hz15 := hz14.trans hz
    refine W.eq (g2 := F0 m 26 ls []) rfl ?_
    refine lv_aload_n (pc := 26) hx hb dX9_lost_26 rfl (lv_at hl 0 rfl) ?_
    refine lv_iload_n (pc := 27) hx hb dX9_lost_27 rfl (lv_at hl 1 rfl) ?_
    obtain ⟨r16, hq17, hm⟩ := ob_some hm
    refine rk_PV (pc := 28) (As := [.int i1]) (rest := []) hx hb hml hown hts hK lkX9_368 rfl yn_X9_isLost (ct_X9_isLost (G := G) (l := l) (b0 := b0) hq17) ⟨Nat.le_of_ble_eq_true rfl, Nat.le_of_ble_eq_true rfl⟩ (rk_recv hK hW13 0 (by decide) rfl rfl rfl) hW13 rfl rfl hl.1 (Nat.le_of_ble_eq_true rfl) dX9_lost_28 ⟨Nat.zero_le _, Nat.zero_le _⟩ ?_
    refine W.eq (g2 := F0 m 31 ls [.int r16]) rfl ?_
    refine lv_if_eq (pc := 31) (tgt := 43) hx hb dX9_lost_31 (by decide) (fun c18 => ?_) (fun c18 => ?_)
    · have hm := ite_t c18 hm
      refine lv_aload_n (pc := 43) hx hb dX9_lost_43 rfl (lv_at hl 0 rfl) ?_
      refine lv_iload_n (pc := 44) hx hb dX9_lost_44 rfl (lv_at hl 2 rfl) ?_
      obtain ⟨r19, w20, hq21, hm⟩ := ob2_some hm
      refine rk_TV (pc := 45) (As := [.int i2]) (rest := []) (mc := 0) (ms := 0) hx hb hml hown hts hK hS12 (fun q hq => FA_sz rfl q hq) lkX9_362 rfl yn_X9_nextCode (ct_X9_nextCode (G := G) (l := l) (b0 := b0) (sz := H8.size) hq21) ⟨Nat.le_of_ble_eq_true rfl, Nat.le_of_ble_eq_true rfl⟩ (fun z h => Or.inl (show iv _ _ _ from ⟨by have h8 := h.1; have h9 := h.2; omega, by have h8 := h.1; have h9 := h.2; omega⟩)) (rk_recv hK hW13 0 (by decide) rfl rfl rfl) hW13 rfl rfl hl.1 (Nat.le_of_ble_eq_true rfl) dX9_lost_45 ⟨Nat.zero_le _, Nat.zero_le _⟩ (fun ov9 H22 locs23 hP24 hkp25 hS26 => ?_)
      obtain ⟨rfl, hW27, hz28⟩ := hP24
      have hz29 := hz28.trans hz15
      refine W.eq (g2 := F0 m 48 ls [.int r19]) rfl ?_
      refine lv_istore_n (pc := 48) (lv' := [(2, .int r19), (0, .ref b0), (1, .int i1)]) hx hb dX9_lost_48 rfl hl (by decide) rfl (fun ls hl => ?_)
      refine lv_goto (pc := 49) (tgt := 17) hx hb dX9_lost_49 (by decide) ?_
      exact hk17 w20 i1 r19 hm H22 locs23 ls hW27 hS26 hz29 (lv_sub hl [1, 2, 0] rfl)
    · have hm := ite_f c18 hm
      refine lv_aload_n (pc := 34) hx hb dX9_lost_34 rfl (lv_at hl 0 rfl) ?_
      obtain ⟨r30, hq31, hm⟩ := ob_some hm
      refine rk_PV (pc := 35) (As := []) (rest := []) hx hb hml hown hts hK lkX9_356 rfl yn_X9_broken (ct_X9_broken (G := G) (l := l) (b0 := b0) hq31) ⟨Nat.le_of_ble_eq_true rfl, Nat.le_of_ble_eq_true rfl⟩ (rk_recv hK hW13 0 (by decide) rfl rfl rfl) hW13 rfl rfl hl.1 (Nat.le_of_ble_eq_true rfl) dX9_lost_35 ⟨Nat.zero_le _, Nat.zero_le _⟩ ?_
      refine W.eq (g2 := F0 m 38 ls [.int r30]) rfl ?_
      refine lv_if_ne (pc := 38) (tgt := 43) hx hb dX9_lost_38 (by decide) (fun c32 => ?_) (fun c32 => ?_)
      · have hm := ite_f c32 hm
        refine lv_aload_n (pc := 43) hx hb dX9_lost_43 rfl (lv_at hl 0 rfl) ?_
        refine lv_iload_n (pc := 44) hx hb dX9_lost_44 rfl (lv_at hl 2 rfl) ?_
        obtain ⟨r33, w34, hq35, hm⟩ := ob2_some hm
        refine rk_TV (pc := 45) (As := [.int i2]) (rest := []) (mc := 0) (ms := 0) hx hb hml hown hts hK hS12 (fun q hq => FA_sz rfl q hq) lkX9_362 rfl yn_X9_nextCode (ct_X9_nextCode (G := G) (l := l) (b0 := b0) (sz := H8.size) hq35) ⟨Nat.le_of_ble_eq_true rfl, Nat.le_of_ble_eq_true rfl⟩ (fun z h => Or.inl (show iv _ _ _ from ⟨by have h8 := h.1; have h9 := h.2; omega, by have h8 := h.1; have h9 := h.2; omega⟩)) (rk_recv hK hW13 0 (by decide) rfl rfl rfl) hW13 rfl rfl hl.1 (Nat.le_of_ble_eq_true rfl) dX9_lost_45 ⟨Nat.zero_le _, Nat.zero_le _⟩ (fun ov9 H36 locs37 hP38 hkp39 hS40 => ?_)
        obtain ⟨rfl, hW41, hz42⟩ := hP38
        have hz43 := hz42.trans hz15
        refine W.eq (g2 := F0 m 48 ls [.int r33]) rfl ?_
        refine lv_istore_n (pc := 48) (lv' := [(2, .int r33), (0, .ref b0), (1, .int i1)]) hx hb dX9_lost_48 rfl hl (by decide) rfl (fun ls hl => ?_)
        refine lv_goto (pc := 49) (tgt := 17) hx hb dX9_lost_49 (by decide) ?_
        exact hk17 w34 i1 r33 hm H36 locs37 ls hW41 hS40 hz43 (lv_sub hl [1, 2, 0] rfl)
      · have hm := ite_t c32 hm
        refine lv_iload_n (pc := 41) hx hb dX9_lost_41 rfl (lv_at hl 2 rfl) ?_
        obtain ⟨e8, e9⟩ := rs2 hm
        subst e8
        subst e9
        exact rk_iret (pc := 42) hx hb hr hlk hS12 ⟨rfl, hW13, hz15⟩ dX9_lost_42
theorem w_fX9_lost_17_l (C : Cx G p s m args meth c RX9 cX9_lost 3 (some .int)) {b0 : Nat} {rx : Int32} {rw0 : Mem} : ∀ (n : Nat) (v0 : Mem) (i1 : Int32) (i2 : Int32), lq3 (fX9_lost_17) n v0 i1 i2 = some (rx, rw0) → ∀ (H : Heap) (locs : List Loc) (ls : Array Slot), rg G b0 46 (shX9 G.2.1) v0 H → va_S (FA (iv b0 46) s.heap.size) s.heap H locs → H.size = s.heap.size → lv_has ls 3 [(0, .ref b0), (1, .int i1), (2, .int i2)] → W p l e (rmT 4 0 0 95) s m args below meth c H locs 0 0 (MQ below (QcT (FA (iv b0 46) s.heap.size) (fun ov H => ov = (some (.int rx)) ∧ rg G b0 46 (shX9 G.2.1) rw0 H ∧ H.size = s.heap.size)) args s 0 0 (FA (iv b0 46) s.heap.size)) (F0 m 17 ls []) := by
  intro n
  induction n with
  | zero => intro v0 i1 i2 hm; exact (lq3_0 hm).elim
  | succ n ih => intro v0 i1 i2 hm; exact w_fX9_lost_17 C ih v0 i1 i2 (lq3_s hm)
set_option maxHeartbeats 4000000 in
theorem w_fX9_lost (C : Cx G p s m args meth c RX9 cX9_lost 3 (some .int)) {b0 : Nat} {rx : Int32} {rw0 : Mem} : ∀ (v0 : Mem) (i1 : Int32), fX9_lost v0 i1 = some (rx, rw0) → ∀ (H : Heap) (locs : List Loc) (ls : Array Slot), rg G b0 46 (shX9 G.2.1) v0 H → va_S (FA (iv b0 46) s.heap.size) s.heap H locs → H.size = s.heap.size → lv_has ls 3 [(0, .ref b0), (1, .int i1)] → W p l e (rmT 4 0 0 95) s m args below meth c H locs 0 0 (MQ below (QcT (FA (iv b0 46) s.heap.size) (fun ov H => ov = (some (.int rx)) ∧ rg G b0 46 (shX9 G.2.1) rw0 H ∧ H.size = s.heap.size)) args s 0 0 (FA (iv b0 46) s.heap.size)) (F0 m 0 ls []) := by
  intro v0 i1 hm H locs ls hW0 hS hz hl
  obtain ⟨hx, hb, hr, hlk, hml, hown, hts, hK⟩ := id C
  unfold fX9_lost at hm
  refine lv_iload_n (pc := 0) hx hb dX9_lost_0 rfl (lv_at hl 1 rfl) ?_
  refine lv_iconst (pc := 1) (v := (-1 : Int32)) hx hb dX9_lost_1 (by decide) ?_
  refine lv_icmp_eq (pc := 2) (tgt := 15) hx hb dX9_lost_2 (by decide) (fun c1 => ?_) (fun c1 => ?_)
  · have hm := ite_t c1 hm
    refine lv_iconst (pc := 15) (v := (0 : Int32)) hx hb dX9_lost_15 (by decide) ?_
    refine lv_istore_n (pc := 16) (lv' := [(2, .int (0 : Int32)), (0, .ref b0), (1, .int i1)]) hx hb dX9_lost_16 rfl hl (by decide) rfl (fun ls hl => ?_)
    exact (w_fX9_lost_17_l C FU) v0 i1 (0 : Int32) hm H locs ls hW0 hS hz (lv_sub hl [1, 2, 0] rfl)
  · have hm := ite_f c1 hm
    refine lv_aload_n (pc := 5) hx hb dX9_lost_5 rfl (lv_at hl 0 rfl) ?_
    refine lv_iload_n (pc := 6) hx hb dX9_lost_6 rfl (lv_at hl 1 rfl) ?_
    obtain ⟨r2, hq3, hm⟩ := ob_some hm
    refine rk_PV (pc := 7) (As := [.int i1]) (rest := []) hx hb hml hown hts hK lkX9_321 rfl yn_X9_isCut (ct_X9_isCut (G := G) (l := l) (b0 := b0) hq3) ⟨Nat.le_of_ble_eq_true rfl, Nat.le_of_ble_eq_true rfl⟩ (rk_recv hK hW0 0 (by decide) rfl rfl rfl) hW0 rfl rfl hl.1 (Nat.le_of_ble_eq_true rfl) dX9_lost_7 ⟨Nat.zero_le _, Nat.zero_le _⟩ ?_
    refine W.eq (g2 := F0 m 10 ls [.int r2]) rfl ?_
    refine lv_if_ne (pc := 10) (tgt := 15) hx hb dX9_lost_10 (by decide) (fun c4 => ?_) (fun c4 => ?_)
    · have hm := ite_f c4 hm
      refine lv_iconst (pc := 15) (v := (0 : Int32)) hx hb dX9_lost_15 (by decide) ?_
      refine lv_istore_n (pc := 16) (lv' := [(2, .int (0 : Int32)), (0, .ref b0), (1, .int i1)]) hx hb dX9_lost_16 rfl hl (by decide) rfl (fun ls hl => ?_)
      exact (w_fX9_lost_17_l C FU) v0 i1 (0 : Int32) hm H locs ls hW0 hS hz (lv_sub hl [1, 2, 0] rfl)
    · have hm := ite_t c4 hm
      refine lv_iconst (pc := 13) (v := (-1 : Int32)) hx hb dX9_lost_13 (by decide) ?_
      obtain ⟨e8, e9⟩ := rs2 hm
      subst e8
      subst e9
      exact rk_iret (pc := 14) hx hb hr hlk hS ⟨rfl, hW0, hz⟩ dX9_lost_14
set_option maxHeartbeats 4000000 in
theorem ct_X9_lost {G : Gv} {l : Launch} {b0 : Nat} {v0 : Mem} {i1 : Int32} {rx : Int32} {rw0 : Mem} {sz : Nat} (hm : fX9_lost v0 i1 = some (rx, rw0)) : CT G l yX9_lost (ws_ yX9_lost cX9_lost 3 (some .int)) 4 0 0 95 [.ref b0, .int i1] (iv b0 46) sz (fun H => rg G b0 46 (shX9 G.2.1) v0 H) (fun ov H => ov = (some (.int rx)) ∧ rg G b0 46 (shX9 G.2.1) rw0 H ∧ H.size = sz) := by
  refine Met.ofW (cc := cX9_lost) (maxL := 3) (ret := (some .int)) (by decide +kernel) rfl ?_
  intro p e s m args below meth c s₁ B hml hv
  obtain ⟨rfl, ⟨hz, hW0⟩, hK⟩ := hv
  subst hz
  have hts := atoms_spec (ws := ws_ yX9_lost cX9_lost 3 (some .int)) B.pre
  have hts : ∀ w ∈ lw_all, w.before _ s = true := fun w h => hts w (List.mem_cons_of_mem _ h)
  have C : Cx G p s m _ meth c RX9 cX9_lost 3 (some .int) := ⟨B.exec, B.bytes, B.returns, B.notSynchronized, hml, findClass_of_methodNamed B.named, hts, hK⟩
  have hl := lv_entry ([.ref b0, .int i1]) (n := 3) (Nat.le_of_ble_eq_true rfl)
  rw [lg_entry_eq]
  generalize (lg_sl ([.ref b0, .int i1]) ++ List.replicate (3 - (lg_sl ([.ref b0, .int i1])).length) Slot.unset).toArray = ls at hl ⊢
  have hl : lv_has ls 3 [(0, .ref b0), (1, .int i1)] := hl
  exact w_fX9_lost C _ _ hm s.heap [] ls hW0 va_S.rf rfl hl
theorem flX9_371 : FL RX9 371 9 21 RX9 TX9 29 := ⟨in_X9, rfl, by decide, q1848⟩
theorem flX9_52 : FL RX9 52 9 16 RX9 TX9 29 := ⟨in_X9, rfl, by decide, q1843⟩
theorem flX9_46 : FL RX9 46 9 14 RX9 TX9 29 := ⟨in_X9, rfl, by decide, q1841⟩
theorem flX9_49 : FL RX9 49 9 15 RX9 TX9 29 := ⟨in_X9, rfl, by decide, q1842⟩
theorem flX9_381 : FL RX9 381 9 22 RX9 TX9 29 := ⟨in_X9, rfl, by decide, q1849⟩
theorem flX9_65 : FL RX9 65 9 20 RX9 TX9 29 := ⟨in_X9, rfl, by decide, q1847⟩
noncomputable def fX9_bounds_52 (v0 : Mem) (i2 : Int32) (i3 : Int32) : Option (Mem) :=
  gb (inR (((5 : Int32) * i2) + i3) 200) (
  if (gI v0 36 (((5 : Int32) * i2) + i3).toNatClampNeg) < 0 then (
  some v0)
  else (
  gb (inR (((5 : Int32) * i2) + i3) 200) (
  ob (fX9_addsRow v0 (shf v0 19) ((50 : Int32) + i3) (gI v0 36 (((5 : Int32) * i2) + i3).toNatClampNeg).toInt64) fun w28 =>
  lm (ptm v0 19 13 w28) fun v0_38 =>
  gb (inR (((5 : Int32) * ((gI v0_38 19 15) - (1 : Int32))) + i3) 100) (
  lm (sL v0_38 20 (((5 : Int32) * ((gI v0_38 19 15) - (1 : Int32))) + i3).toNatClampNeg (1 : Int64)) fun v0_41 =>
  some v0_41))))
noncomputable def fX9_bounds (v0 : Mem) (i2 : Int32) (i3 : Int32) : Option (Mem) :=
  gb (inR (((5 : Int32) * i2) + i3) 200) (
  if (gI v0 35 (((5 : Int32) * i2) + i3).toNatClampNeg) ≤ 0 then (
  fX9_bounds_52 v0 i2 i3)
  else (
  gb (inR (((5 : Int32) * i2) + i3) 200) (
  ob (fX9_addsRow v0 (shf v0 19) ((40 : Int32) + i3) (-(gI v0 35 (((5 : Int32) * i2) + i3).toNatClampNeg)).toInt64) fun w4 =>
  lm (ptm v0 19 13 w4) fun v0_14 =>
  gb (inR (((5 : Int32) * ((gI v0_14 19 15) - (1 : Int32))) + i3) 100) (
  lm (sL v0_14 20 (((5 : Int32) * ((gI v0_14 19 15) - (1 : Int32))) + i3).toNatClampNeg (-1 : Int64)) fun v0_17 =>
  fX9_bounds_52 v0_17 i2 i3))))
set_option maxHeartbeats 4000000 in
theorem w_fX9_bounds_52 (C : Cx G p s m args meth c RX9 cX9_bounds 4 none) {b0 : Nat} {rw0 : Mem} : ∀ (v0 : Mem) (i2 : Int32) (i3 : Int32), fX9_bounds_52 v0 i2 i3 = some rw0 → ∀ (H : Heap) (locs : List Loc) (ls : Array Slot), rg G b0 46 (shX9 G.2.1) v0 H → va_S (FA (iv b0 46) s.heap.size) s.heap H locs → H.size = s.heap.size → lv_has ls 4 [(0, .ref b0), (1, .ref (b0 + 19)), (2, .int i2), (3, .int i3)] → W p l e (rmT 1 0 0 25) s m args below meth c H locs 0 0 (MQ below (QcT (FA (iv b0 46) s.heap.size) (fun ov H => ov = none ∧ rg G b0 46 (shX9 G.2.1) rw0 H ∧ H.size = s.heap.size)) args s 0 0 (FA (iv b0 46) s.heap.size)) (F0 m 52 ls []) := by
  intro v0 i2 i3 hm H locs ls hW0 hS hz hl
  obtain ⟨hx, hb, hr, hlk, hml, hown, hts, hK⟩ := id C
  unfold fX9_bounds_52 at hm
  refine lv_aload_n (pc := 52) hx hb dX9_bounds_52 rfl (lv_at hl 0 rfl) ?_
  refine rk_get (pc := 53) hx hb hts hown hK hW0 flX9_49 0 (by decide) rfl rfl (x := .ref (b0 + 36)) (by first | rfl | exact congrArg (fun z => some (Value.ref z)) (by omega)) dX9_bounds_53 ?_
  refine lv_iconst (pc := 56) (v := (5 : Int32)) hx hb dX9_bounds_56 (by decide) ?_
  refine lv_iload_n (pc := 57) hx hb dX9_bounds_57 rfl (lv_at hl 2 rfl) ?_
  refine lv_imul (pc := 58) hx hb dX9_bounds_58 ?_
  refine lv_iload_n (pc := 59) hx hb dX9_bounds_59 rfl (lv_at hl 3 rfl) ?_
  refine lv_iadd (pc := 60) hx hb dX9_bounds_60 ?_
  obtain ⟨hg25, hm⟩ := gb_some hm
  refine rk_iald (pc := 61) hx hb hK hW0 36 (by decide) rfl rfl hg25 (x := (gI v0 36 (((5 : Int32) * i2) + i3).toNatClampNeg)) rfl dX9_bounds_61 ?_
  refine lv_if_lt (pc := 62) (tgt := 101) hx hb dX9_bounds_62 (by decide) (fun c26 => ?_) (fun c26 => ?_)
  · have hm := ite_t c26 hm
    have e9 := rs1 hm
    subst e9
    exact rk_vret (pc := 101) hx hb hr hlk hS ⟨rfl, hW0, hz⟩ dX9_bounds_101
  · have hm := ite_f c26 hm
    refine lv_aload_n (pc := 65) hx hb dX9_bounds_65 rfl (lv_at hl 0 rfl) ?_
    refine lv_aload_n (pc := 66) hx hb dX9_bounds_66 rfl (lv_at hl 1 rfl) ?_
    refine lv_bipush (pc := 67) (v := (50 : Int32)) hx hb dX9_bounds_67 (by decide) ?_
    refine lv_iload_n (pc := 69) hx hb dX9_bounds_69 rfl (lv_at hl 3 rfl) ?_
    refine lv_iadd (pc := 70) hx hb dX9_bounds_70 ?_
    refine lv_aload_n (pc := 71) hx hb dX9_bounds_71 rfl (lv_at hl 0 rfl) ?_
    refine rk_get (pc := 72) hx hb hts hown hK hW0 flX9_49 0 (by decide) rfl rfl (x := .ref (b0 + 36)) (by first | rfl | exact congrArg (fun z => some (Value.ref z)) (by omega)) dX9_bounds_72 ?_
    refine lv_iconst (pc := 75) (v := (5 : Int32)) hx hb dX9_bounds_75 (by decide) ?_
    refine lv_iload_n (pc := 76) hx hb dX9_bounds_76 rfl (lv_at hl 2 rfl) ?_
    refine lv_imul (pc := 77) hx hb dX9_bounds_77 ?_
    refine lv_iload_n (pc := 78) hx hb dX9_bounds_78 rfl (lv_at hl 3 rfl) ?_
    refine lv_iadd (pc := 79) hx hb dX9_bounds_79 ?_
    obtain ⟨hg27, hm⟩ := gb_some hm
    refine rk_iald (pc := 80) hx hb hK hW0 36 (by decide) rfl rfl hg27 (x := (gI v0 36 (((5 : Int32) * i2) + i3).toNatClampNeg)) rfl dX9_bounds_80 ?_
    refine lv_i2l (pc := 81) hx hb dX9_bounds_81 rfl ?_
    obtain ⟨w28, hq29, hm⟩ := ob_some hm
    refine rk_TV (pc := 82) (As := [.ref (b0 + 19), .int ((50 : Int32) + i3), .long (gI v0 36 (((5 : Int32) * i2) + i3).toNatClampNeg).toInt64]) (rest := []) (mc := 0) (ms := 0) hx hb hml hown hts hK hS (fun q hq => FA_sz rfl q hq) lkX9_213 rfl yn_X9_addsRow (ct_X9_addsRow (G := G) (l := l) (b0 := b0) (b1 := (b0 + 19)) (sz := H.size) hq29 (by omega)) ⟨Nat.le_of_ble_eq_true rfl, Nat.le_of_ble_eq_true rfl⟩ (fun z h => Or.inl (show iv _ _ _ from ⟨by have h8 := h.1; have h9 := h.2; omega, by have h8 := h.1; have h9 := h.2; omega⟩)) (rk_recv hK hW0 0 (by decide) rfl rfl rfl) ⟨(rg_take hW0 (by decide)), (rg_sub hW0 rfl (by decide) (fun o ho x y z => shX9_n19 G.2.1 _ rfl o ho x y z))⟩ rfl rfl hl.1 (Nat.le_of_ble_eq_true rfl) dX9_bounds_82 ⟨Nat.zero_le _, Nat.zero_le _⟩ (fun ov9 H30 locs31 hP32 hkp33 hS34 => ?_)
    obtain ⟨rfl, hW35, hz36⟩ := hP32
    have hW37 := rg_put (d := 19) hW0 hW35 rfl (fun o ho x y z => shX9_n19 G.2.1 _ rfl o ho x y z) hkp33
    obtain ⟨v0_38, he9, hm⟩ := lm_some hm
    rw [he9] at hW37
    have hz39 := hz36.trans hz
    refine W.eq (g2 := F0 m 85 ls []) rfl ?_
    refine lv_aload_n (pc := 85) hx hb dX9_bounds_85 rfl (lv_at hl 1 rfl) ?_
    refine rk_getN (pc := 86) hx hb hts hown hK hW37 fnX9_175 19 (by decide) rfl rfl (x := .ref (b0 + 20)) (by first | rfl | exact congrArg (fun z => some (Value.ref z)) (by omega)) dX9_bounds_86 ?_
    refine lv_iconst (pc := 89) (v := (5 : Int32)) hx hb dX9_bounds_89 (by decide) ?_
    refine lv_aload_n (pc := 90) hx hb dX9_bounds_90 rfl (lv_at hl 1 rfl) ?_
    refine rk_getN (pc := 91) hx hb hts hown hK hW37 fnX9_178 19 (by decide) rfl rfl (x := .int (gI v0_38 19 15)) rfl dX9_bounds_91 ?_
    refine lv_iconst (pc := 94) (v := (1 : Int32)) hx hb dX9_bounds_94 (by decide) ?_
    refine lv_isub (pc := 95) hx hb dX9_bounds_95 ?_
    refine lv_imul (pc := 96) hx hb dX9_bounds_96 ?_
    refine lv_iload_n (pc := 97) hx hb dX9_bounds_97 rfl (lv_at hl 3 rfl) ?_
    refine lv_iadd (pc := 98) hx hb dX9_bounds_98 ?_
    refine lv_lconst (pc := 99) (v := (1 : Int64)) hx hb dX9_bounds_99 (by decide) ?_
    obtain ⟨hg40, hm⟩ := gb_some hm
    refine rk_last (pc := 100) hx hb hK hW37 hS34 20 (by decide) rfl (Or.inl (show iv _ _ _ from ⟨by omega, by omega⟩)) (fun _ _ _ => rfl) hg40 dX9_bounds_100 (fun H42 locs43 hW44 hS45 hz46 hkp47 => ?_)
    obtain ⟨v0_41, he9, hm⟩ := lm_some hm
    rw [he9] at hW44
    have hz48 := hz46.trans hz39
    have e9 := rs1 hm
    subst e9
    exact rk_vret (pc := 101) hx hb hr hlk hS45 ⟨rfl, hW44, hz48⟩ dX9_bounds_101
set_option maxHeartbeats 4000000 in
theorem w_fX9_bounds (C : Cx G p s m args meth c RX9 cX9_bounds 4 none) {b0 : Nat} {rw0 : Mem} : ∀ (v0 : Mem) (i2 : Int32) (i3 : Int32), fX9_bounds v0 i2 i3 = some rw0 → ∀ (H : Heap) (locs : List Loc) (ls : Array Slot), rg G b0 46 (shX9 G.2.1) v0 H → va_S (FA (iv b0 46) s.heap.size) s.heap H locs → H.size = s.heap.size → lv_has ls 4 [(0, .ref b0), (1, .ref (b0 + 19)), (2, .int i2), (3, .int i3)] → W p l e (rmT 1 0 0 25) s m args below meth c H locs 0 0 (MQ below (QcT (FA (iv b0 46) s.heap.size) (fun ov H => ov = none ∧ rg G b0 46 (shX9 G.2.1) rw0 H ∧ H.size = s.heap.size)) args s 0 0 (FA (iv b0 46) s.heap.size)) (F0 m 0 ls []) := by
  intro v0 i2 i3 hm H locs ls hW0 hS hz hl
  obtain ⟨hx, hb, hr, hlk, hml, hown, hts, hK⟩ := id C
  unfold fX9_bounds at hm
  refine lv_aload_n (pc := 0) hx hb dX9_bounds_0 rfl (lv_at hl 0 rfl) ?_
  refine rk_get (pc := 1) hx hb hts hown hK hW0 flX9_46 0 (by decide) rfl rfl (x := .ref (b0 + 35)) (by first | rfl | exact congrArg (fun z => some (Value.ref z)) (by omega)) dX9_bounds_1 ?_
  refine lv_iconst (pc := 4) (v := (5 : Int32)) hx hb dX9_bounds_4 (by decide) ?_
  refine lv_iload_n (pc := 5) hx hb dX9_bounds_5 rfl (lv_at hl 2 rfl) ?_
  refine lv_imul (pc := 6) hx hb dX9_bounds_6 ?_
  refine lv_iload_n (pc := 7) hx hb dX9_bounds_7 rfl (lv_at hl 3 rfl) ?_
  refine lv_iadd (pc := 8) hx hb dX9_bounds_8 ?_
  obtain ⟨hg1, hm⟩ := gb_some hm
  refine rk_iald (pc := 9) hx hb hK hW0 35 (by decide) rfl rfl hg1 (x := (gI v0 35 (((5 : Int32) * i2) + i3).toNatClampNeg)) rfl dX9_bounds_9 ?_
  refine lv_if_le (pc := 10) (tgt := 52) hx hb dX9_bounds_10 (by decide) (fun c2 => ?_) (fun c2 => ?_)
  · have hm := ite_t c2 hm
    exact (w_fX9_bounds_52 C) v0 i2 i3 hm H locs ls hW0 hS hz (lv_sub hl [0, 1, 2, 3] rfl)
  · have hm := ite_f c2 hm
    refine lv_aload_n (pc := 13) hx hb dX9_bounds_13 rfl (lv_at hl 0 rfl) ?_
    refine lv_aload_n (pc := 14) hx hb dX9_bounds_14 rfl (lv_at hl 1 rfl) ?_
    refine lv_bipush (pc := 15) (v := (40 : Int32)) hx hb dX9_bounds_15 (by decide) ?_
    refine lv_iload_n (pc := 17) hx hb dX9_bounds_17 rfl (lv_at hl 3 rfl) ?_
    refine lv_iadd (pc := 18) hx hb dX9_bounds_18 ?_
    refine lv_aload_n (pc := 19) hx hb dX9_bounds_19 rfl (lv_at hl 0 rfl) ?_
    refine rk_get (pc := 20) hx hb hts hown hK hW0 flX9_46 0 (by decide) rfl rfl (x := .ref (b0 + 35)) (by first | rfl | exact congrArg (fun z => some (Value.ref z)) (by omega)) dX9_bounds_20 ?_
    refine lv_iconst (pc := 23) (v := (5 : Int32)) hx hb dX9_bounds_23 (by decide) ?_
    refine lv_iload_n (pc := 24) hx hb dX9_bounds_24 rfl (lv_at hl 2 rfl) ?_
    refine lv_imul (pc := 25) hx hb dX9_bounds_25 ?_
    refine lv_iload_n (pc := 26) hx hb dX9_bounds_26 rfl (lv_at hl 3 rfl) ?_
    refine lv_iadd (pc := 27) hx hb dX9_bounds_27 ?_
    obtain ⟨hg3, hm⟩ := gb_some hm
    refine rk_iald (pc := 28) hx hb hK hW0 35 (by decide) rfl rfl hg3 (x := (gI v0 35 (((5 : Int32) * i2) + i3).toNatClampNeg)) rfl dX9_bounds_28 ?_
    refine lv_ineg (pc := 29) hx hb dX9_bounds_29 ?_
    refine lv_i2l (pc := 30) hx hb dX9_bounds_30 rfl ?_
    obtain ⟨w4, hq5, hm⟩ := ob_some hm
    refine rk_TV (pc := 31) (As := [.ref (b0 + 19), .int ((40 : Int32) + i3), .long (-(gI v0 35 (((5 : Int32) * i2) + i3).toNatClampNeg)).toInt64]) (rest := []) (mc := 0) (ms := 0) hx hb hml hown hts hK hS (fun q hq => FA_sz rfl q hq) lkX9_213 rfl yn_X9_addsRow (ct_X9_addsRow (G := G) (l := l) (b0 := b0) (b1 := (b0 + 19)) (sz := H.size) hq5 (by omega)) ⟨Nat.le_of_ble_eq_true rfl, Nat.le_of_ble_eq_true rfl⟩ (fun z h => Or.inl (show iv _ _ _ from ⟨by have h8 := h.1; have h9 := h.2; omega, by have h8 := h.1; have h9 := h.2; omega⟩)) (rk_recv hK hW0 0 (by decide) rfl rfl rfl) ⟨(rg_take hW0 (by decide)), (rg_sub hW0 rfl (by decide) (fun o ho x y z => shX9_n19 G.2.1 _ rfl o ho x y z))⟩ rfl rfl hl.1 (Nat.le_of_ble_eq_true rfl) dX9_bounds_31 ⟨Nat.zero_le _, Nat.zero_le _⟩ (fun ov9 H6 locs7 hP8 hkp9 hS10 => ?_)
    obtain ⟨rfl, hW11, hz12⟩ := hP8
    have hW13 := rg_put (d := 19) hW0 hW11 rfl (fun o ho x y z => shX9_n19 G.2.1 _ rfl o ho x y z) hkp9
    obtain ⟨v0_14, he9, hm⟩ := lm_some hm
    rw [he9] at hW13
    have hz15 := hz12.trans hz
    refine W.eq (g2 := F0 m 34 ls []) rfl ?_
    refine lv_aload_n (pc := 34) hx hb dX9_bounds_34 rfl (lv_at hl 1 rfl) ?_
    refine rk_getN (pc := 35) hx hb hts hown hK hW13 fnX9_175 19 (by decide) rfl rfl (x := .ref (b0 + 20)) (by first | rfl | exact congrArg (fun z => some (Value.ref z)) (by omega)) dX9_bounds_35 ?_
    refine lv_iconst (pc := 38) (v := (5 : Int32)) hx hb dX9_bounds_38 (by decide) ?_
    refine lv_aload_n (pc := 39) hx hb dX9_bounds_39 rfl (lv_at hl 1 rfl) ?_
    refine rk_getN (pc := 40) hx hb hts hown hK hW13 fnX9_178 19 (by decide) rfl rfl (x := .int (gI v0_14 19 15)) rfl dX9_bounds_40 ?_
    refine lv_iconst (pc := 43) (v := (1 : Int32)) hx hb dX9_bounds_43 (by decide) ?_
    refine lv_isub (pc := 44) hx hb dX9_bounds_44 ?_
    refine lv_imul (pc := 45) hx hb dX9_bounds_45 ?_
    refine lv_iload_n (pc := 46) hx hb dX9_bounds_46 rfl (lv_at hl 3 rfl) ?_
    refine lv_iadd (pc := 47) hx hb dX9_bounds_47 ?_
    refine lv_ldc2 (pc := 48) (v := (-1 : Int64)) hx hb hown (hts _ q2057) dX9_bounds_48 ?_
    obtain ⟨hg16, hm⟩ := gb_some hm
    refine rk_last (pc := 51) hx hb hK hW13 hS10 20 (by decide) rfl (Or.inl (show iv _ _ _ from ⟨by omega, by omega⟩)) (fun _ _ _ => rfl) hg16 dX9_bounds_51 (fun H18 locs19 hW20 hS21 hz22 hkp23 => ?_)
    obtain ⟨v0_17, he9, hm⟩ := lm_some hm
    rw [he9] at hW20
    have hz24 := hz22.trans hz15
    exact (w_fX9_bounds_52 C) v0_17 i2 i3 hm H18 locs19 ls hW20 hS21 hz24 (lv_sub hl [0, 1, 2, 3] rfl)
set_option maxHeartbeats 4000000 in
theorem ct_X9_bounds {G : Gv} {l : Launch} {b0 : Nat} {v0 : Mem} {i2 : Int32} {i3 : Int32} {rw0 : Mem} {sz : Nat} (hm : fX9_bounds v0 i2 i3 = some rw0) : CT G l yX9_bounds (ws_ yX9_bounds cX9_bounds 4 none) 1 0 0 25 [.ref b0, .ref (b0 + 19), .int i2, .int i3] (iv b0 46) sz (fun H => rg G b0 46 (shX9 G.2.1) v0 H) (fun ov H => ov = none ∧ rg G b0 46 (shX9 G.2.1) rw0 H ∧ H.size = sz) := by
  refine Met.ofW (cc := cX9_bounds) (maxL := 4) (ret := none) (by decide +kernel) rfl ?_
  intro p e s m args below meth c s₁ B hml hv
  obtain ⟨rfl, ⟨hz, hW0⟩, hK⟩ := hv
  subst hz
  have hts := atoms_spec (ws := ws_ yX9_bounds cX9_bounds 4 none) B.pre
  have hts : ∀ w ∈ lw_all, w.before _ s = true := fun w h => hts w (List.mem_cons_of_mem _ h)
  have C : Cx G p s m _ meth c RX9 cX9_bounds 4 none := ⟨B.exec, B.bytes, B.returns, B.notSynchronized, hml, findClass_of_methodNamed B.named, hts, hK⟩
  have hl := lv_entry ([.ref b0, .ref (b0 + 19), .int i2, .int i3]) (n := 4) (Nat.le_of_ble_eq_true rfl)
  rw [lg_entry_eq]
  generalize (lg_sl ([.ref b0, .ref (b0 + 19), .int i2, .int i3]) ++ List.replicate (4 - (lg_sl ([.ref b0, .ref (b0 + 19), .int i2, .int i3])).length) Slot.unset).toArray = ls at hl ⊢
  have hl : lv_has ls 4 [(0, .ref b0), (1, .ref (b0 + 19)), (2, .int i2), (3, .int i3)] := hl
  exact w_fX9_bounds C _ _ _ hm s.heap [] ls hW0 va_S.rf rfl hl
theorem yn_X9_bounds : YN yX9_bounds 3 := by
  unfold YN
  decide +kernel
theorem lkX9_377 : LV RX9 377 RX9 yX9_bounds cX9_bounds 4 none := ⟨q2243, q2245, qs99, q128, q2246⟩
theorem flX9_59 : FL RX9 59 9 18 RX9 TX9 29 := ⟨in_X9, rfl, by decide, q1845⟩
theorem flX9_62 : FL RX9 62 9 19 RX9 TX9 29 := ⟨in_X9, rfl, by decide, q1846⟩
theorem flX9_55 : FL RX9 55 9 17 RX9 TX9 29 := ⟨in_X9, rfl, by decide, q1844⟩
noncomputable def fX9_relaxes_103 (k103 : Mem → Int32 → Int32 → Int32 → Option (Int32 × Mem)) (v0 : Mem) (i1 : Int32) (i2 : Int32) (i3 : Int32) : Option (Int32 × Mem) :=
  ob (fX9_n v0) fun r76 =>
  if r76 ≤ i3 then (
  if i2 = (-6 : Int32) then (
  some ((-6 : Int32), v0))
  else (
  some ((1 : Int32), v0)))
  else (
  ob (fX9_amountIn v0 (shf v0 19) i3) fun r80 =>
  gb (inR (((5 : Int32) * i1) + i3) 200) (
  lm (sL v0 38 (((5 : Int32) * i1) + i3).toNatClampNeg r80) fun v0_83 =>
  k103 v0_83 i1 i2 (i3 + (1 : Int32))))
noncomputable def fX9_relaxes_74 (v0 : Mem) (i1 : Int32) (i2 : Int32) (t1 : Int32) (t2 : Int32) : Option (Int32 × Mem) :=
  gb (inR t1 40) (
  gb (z01 t2) (
  lm (sI v0 41 t1.toNatClampNeg t2) fun v0_50 =>
  gb (inR i1 40) (
  lm (sL v0_50 39 i1.toNatClampNeg (gL v0_50 19 12)) fun v0_59 =>
  gb (inR i1 40) (
  lm (sL v0_59 40 i1.toNatClampNeg (gL v0_59 19 13)) fun v0_68 =>
  lq4 (fX9_relaxes_103) FU v0_68 i1 i2 (0 : Int32)))))
noncomputable def fX9_relaxes_10 (k10 : Mem → Int32 → Int32 → Option (Int32 × Mem)) (v0 : Mem) (i1 : Int32) (i2 : Int32) : Option (Int32 × Mem) :=
  ob (fX9_n v0) fun r13 =>
  if r13 ≤ i2 then (
  ob2 (fX9_repairs v0 (shf v0 19)) fun r16 w17 =>
  lm (ptm v0 19 13 w17) fun v0_27 =>
  lm (sI v0_27 0 22 ((gI v0_27 0 22) + (gI v0_27 19 17))) fun v0_29 =>
  if r16 = (1 : Int32) then (
  fX9_relaxes_74 v0_29 i1 r16 i1 (1 : Int32))
  else (
  fX9_relaxes_74 v0_29 i1 r16 i1 (0 : Int32)))
  else (
  ob (fX9_bounds v0 i1 i2) fun w38 =>
  k10 w38 i1 (i2 + (1 : Int32)))
noncomputable def fX9_relaxes (v0 : Mem) (i1 : Int32) : Option (Int32 × Mem) :=
  ob (fX9_first v0 (shf v0 19)) fun w1 =>
  lm (ptm v0 19 13 w1) fun v0_11 =>
  lq3 (fX9_relaxes_10) FU v0_11 i1 (0 : Int32)
set_option maxHeartbeats 4000000 in
theorem w_fX9_relaxes_103 (C : Cx G p s m args meth c RX9 cX9_relaxes 4 (some .int)) {b0 : Nat} {rx : Int32} {rw0 : Mem} {k103 : Mem → Int32 → Int32 → Int32 → Option (Int32 × Mem)} (hk103 : ∀ (v0 : Mem) (i1 : Int32) (i2 : Int32) (i3 : Int32), k103 v0 i1 i2 i3 = some (rx, rw0) → ∀ (H : Heap) (locs : List Loc) (ls : Array Slot), rg G b0 46 (shX9 G.2.1) v0 H → va_S (FA (iv b0 46) s.heap.size) s.heap H locs → H.size = s.heap.size → lv_has ls 4 [(0, .ref b0), (1, .int i1), (2, .int i2), (3, .int i3)] → W p l e (rmT 4 0 0 102) s m args below meth c H locs 0 0 (MQ below (QcT (FA (iv b0 46) s.heap.size) (fun ov H => ov = (some (.int rx)) ∧ rg G b0 46 (shX9 G.2.1) rw0 H ∧ H.size = s.heap.size)) args s 0 0 (FA (iv b0 46) s.heap.size)) (F0 m 103 ls [])) : ∀ (v0 : Mem) (i1 : Int32) (i2 : Int32) (i3 : Int32), fX9_relaxes_103 k103 v0 i1 i2 i3 = some (rx, rw0) → ∀ (H : Heap) (locs : List Loc) (ls : Array Slot), rg G b0 46 (shX9 G.2.1) v0 H → va_S (FA (iv b0 46) s.heap.size) s.heap H locs → H.size = s.heap.size → lv_has ls 4 [(0, .ref b0), (1, .int i1), (2, .int i2), (3, .int i3)] → W p l e (rmT 4 0 0 102) s m args below meth c H locs 0 0 (MQ below (QcT (FA (iv b0 46) s.heap.size) (fun ov H => ov = (some (.int rx)) ∧ rg G b0 46 (shX9 G.2.1) rw0 H ∧ H.size = s.heap.size)) args s 0 0 (FA (iv b0 46) s.heap.size)) (F0 m 103 ls []) := by
  intro v0 i1 i2 i3 hm H locs ls hW0 hS hz hl
  obtain ⟨hx, hb, hr, hlk, hml, hown, hts, hK⟩ := id C
  unfold fX9_relaxes_103 at hm
  refine lv_iload_n (pc := 103) hx hb dX9_relaxes_103 rfl (lv_at hl 3 rfl) ?_
  refine lv_aload_n (pc := 104) hx hb dX9_relaxes_104 rfl (lv_at hl 0 rfl) ?_
  obtain ⟨r76, hq77, hm⟩ := ob_some hm
  refine rk_PV (pc := 105) (As := []) (rest := [.int i3]) hx hb hml hown hts hK lkX9_89 rfl yn_X9_n (ct_X9_n (G := G) (l := l) (b0 := b0) hq77) ⟨Nat.le_of_ble_eq_true rfl, Nat.le_of_ble_eq_true rfl⟩ (rk_recv hK hW0 0 (by decide) rfl rfl rfl) (rg_take hW0 (by decide)) rfl rfl hl.1 (Nat.le_of_ble_eq_true rfl) dX9_relaxes_105 ⟨Nat.zero_le _, Nat.zero_le _⟩ ?_
  refine W.eq (g2 := F0 m 108 ls [.int r76, .int i3]) rfl ?_
  refine lv_icmp_ge (pc := 108) (tgt := 136) hx hb dX9_relaxes_108 (by decide) (fun c78 => ?_) (fun c78 => ?_)
  · have hm := ite_t c78 hm
    refine lv_iload_n (pc := 136) hx hb dX9_relaxes_136 rfl (lv_at hl 2 rfl) ?_
    refine lv_bipush (pc := 137) (v := (-6 : Int32)) hx hb dX9_relaxes_137 (by decide) ?_
    refine lv_icmp_ne (pc := 139) (tgt := 147) hx hb dX9_relaxes_139 (by decide) (fun c79 => ?_) (fun c79 => ?_)
    · have hm := ite_f c79 hm
      refine lv_iconst (pc := 147) (v := (1 : Int32)) hx hb dX9_relaxes_147 (by decide) ?_
      obtain ⟨e8, e9⟩ := rs2 hm
      subst e8
      subst e9
      exact rk_iret (pc := 148) hx hb hr hlk hS ⟨rfl, hW0, hz⟩ dX9_relaxes_148
    · have hm := ite_t c79 hm
      refine lv_bipush (pc := 142) (v := (-6 : Int32)) hx hb dX9_relaxes_142 (by decide) ?_
      refine lv_goto (pc := 144) (tgt := 148) hx hb dX9_relaxes_144 (by decide) ?_
      obtain ⟨e8, e9⟩ := rs2 hm
      subst e8
      subst e9
      exact rk_iret (pc := 148) hx hb hr hlk hS ⟨rfl, hW0, hz⟩ dX9_relaxes_148
  · have hm := ite_f c78 hm
    refine lv_aload_n (pc := 111) hx hb dX9_relaxes_111 rfl (lv_at hl 0 rfl) ?_
    refine rk_get (pc := 112) hx hb hts hown hK hW0 flX9_55 0 (by decide) rfl rfl (x := .ref (b0 + 38)) (by first | rfl | exact congrArg (fun z => some (Value.ref z)) (by omega)) dX9_relaxes_112 ?_
    refine lv_iconst (pc := 115) (v := (5 : Int32)) hx hb dX9_relaxes_115 (by decide) ?_
    refine lv_iload_n (pc := 116) hx hb dX9_relaxes_116 rfl (lv_at hl 1 rfl) ?_
    refine lv_imul (pc := 117) hx hb dX9_relaxes_117 ?_
    refine lv_iload_n (pc := 118) hx hb dX9_relaxes_118 rfl (lv_at hl 3 rfl) ?_
    refine lv_iadd (pc := 119) hx hb dX9_relaxes_119 ?_
    refine lv_aload_n (pc := 120) hx hb dX9_relaxes_120 rfl (lv_at hl 0 rfl) ?_
    refine lv_aload_n (pc := 121) hx hb dX9_relaxes_121 rfl (lv_at hl 0 rfl) ?_
    refine rk_get (pc := 122) hx hb hts hown hK hW0 flX9_34 0 (by decide) rfl rfl (x := .ref (b0 + 19)) (by first | rfl | exact congrArg (fun z => some (Value.ref z)) (by omega)) dX9_relaxes_122 ?_
    refine lv_iload_n (pc := 125) hx hb dX9_relaxes_125 rfl (lv_at hl 3 rfl) ?_
    obtain ⟨r80, hq81, hm⟩ := ob_some hm
    refine rk_PV (pc := 126) (As := [.ref (b0 + 19), .int i3]) (rest := [.int (((5 : Int32) * i1) + i3), .ref (b0 + 38)]) hx hb hml hown hts hK lkX9_314 rfl yn_X9_amountIn (ct_X9_amountIn (G := G) (l := l) (b0 := b0) (b1 := (b0 + 19)) hq81) ⟨Nat.le_of_ble_eq_true rfl, Nat.le_of_ble_eq_true rfl⟩ (rk_recv hK hW0 0 (by decide) rfl rfl rfl) ⟨(rg_take hW0 (by decide)), (rg_sub hW0 rfl (by decide) (fun o ho x y z => shX9_n19 G.2.1 _ rfl o ho x y z))⟩ rfl rfl hl.1 (Nat.le_of_ble_eq_true rfl) dX9_relaxes_126 ⟨Nat.zero_le _, Nat.zero_le _⟩ ?_
    refine W.eq (g2 := F0 m 129 ls [.long r80, .int (((5 : Int32) * i1) + i3), .ref (b0 + 38)]) rfl ?_
    obtain ⟨hg82, hm⟩ := gb_some hm
    refine rk_last (pc := 129) hx hb hK hW0 hS 38 (by decide) rfl (Or.inl (show iv _ _ _ from ⟨by omega, by omega⟩)) (fun _ _ _ => rfl) hg82 dX9_relaxes_129 (fun H84 locs85 hW86 hS87 hz88 hkp89 => ?_)
    obtain ⟨v0_83, he9, hm⟩ := lm_some hm
    rw [he9] at hW86
    have hz90 := hz88.trans hz
    refine lv_iinc (pc := 130) (v := (i3 + (1 : Int32))) (lv' := [(3, .int (i3 + (1 : Int32))), (0, .ref b0), (1, .int i1), (2, .int i2)]) hx hb dX9_relaxes_130 hl (k := 3) rfl rfl (by decide) rfl (fun ls hl => ?_)
    refine lv_goto (pc := 133) (tgt := 103) hx hb dX9_relaxes_133 (by decide) ?_
    exact hk103 v0_83 i1 i2 (i3 + (1 : Int32)) hm H84 locs85 ls hW86 hS87 hz90 (lv_sub hl [1, 2, 3, 0] rfl)
theorem w_fX9_relaxes_103_l (C : Cx G p s m args meth c RX9 cX9_relaxes 4 (some .int)) {b0 : Nat} {rx : Int32} {rw0 : Mem} : ∀ (n : Nat) (v0 : Mem) (i1 : Int32) (i2 : Int32) (i3 : Int32), lq4 (fX9_relaxes_103) n v0 i1 i2 i3 = some (rx, rw0) → ∀ (H : Heap) (locs : List Loc) (ls : Array Slot), rg G b0 46 (shX9 G.2.1) v0 H → va_S (FA (iv b0 46) s.heap.size) s.heap H locs → H.size = s.heap.size → lv_has ls 4 [(0, .ref b0), (1, .int i1), (2, .int i2), (3, .int i3)] → W p l e (rmT 4 0 0 102) s m args below meth c H locs 0 0 (MQ below (QcT (FA (iv b0 46) s.heap.size) (fun ov H => ov = (some (.int rx)) ∧ rg G b0 46 (shX9 G.2.1) rw0 H ∧ H.size = s.heap.size)) args s 0 0 (FA (iv b0 46) s.heap.size)) (F0 m 103 ls []) := by
  intro n
  induction n with
  | zero => intro v0 i1 i2 i3 hm; exact (lq4_0 hm).elim
  | succ n ih => intro v0 i1 i2 i3 hm; exact w_fX9_relaxes_103 C ih v0 i1 i2 i3 (lq4_s hm)
set_option maxHeartbeats 4000000 in
theorem w_fX9_relaxes_74 (C : Cx G p s m args meth c RX9 cX9_relaxes 4 (some .int)) {b0 : Nat} {rx : Int32} {rw0 : Mem} : ∀ (v0 : Mem) (i1 : Int32) (i2 : Int32) (t1 : Int32) (t2 : Int32), fX9_relaxes_74 v0 i1 i2 t1 t2 = some (rx, rw0) → ∀ (H : Heap) (locs : List Loc) (ls : Array Slot), rg G b0 46 (shX9 G.2.1) v0 H → va_S (FA (iv b0 46) s.heap.size) s.heap H locs → H.size = s.heap.size → lv_has ls 4 [(0, .ref b0), (1, .int i1), (2, .int i2)] → W p l e (rmT 4 0 0 102) s m args below meth c H locs 0 0 (MQ below (QcT (FA (iv b0 46) s.heap.size) (fun ov H => ov = (some (.int rx)) ∧ rg G b0 46 (shX9 G.2.1) rw0 H ∧ H.size = s.heap.size)) args s 0 0 (FA (iv b0 46) s.heap.size)) (F0 m 74 ls [.int t2, .int t1, .ref (b0 + 41)]) := by
  intro v0 i1 i2 t1 t2 hm H locs ls hW0 hS hz hl
  obtain ⟨hx, hb, hr, hlk, hml, hown, hts, hK⟩ := id C
  unfold fX9_relaxes_74 at hm
  obtain ⟨hg48, hm⟩ := gb_some hm
  obtain ⟨hg49, hm⟩ := gb_some hm
  refine rk_zast (pc := 74) hx hb hK hW0 hS 41 (by decide) rfl (Or.inl (show iv _ _ _ from ⟨by omega, by omega⟩)) (fun _ _ _ => rfl) hg48 hg49 dX9_relaxes_74 (fun H51 locs52 hW53 hS54 hz55 hkp56 => ?_)
  obtain ⟨v0_50, he9, hm⟩ := lm_some hm
  rw [he9] at hW53
  have hz57 := hz55.trans hz
  refine lv_aload_n (pc := 75) hx hb dX9_relaxes_75 rfl (lv_at hl 0 rfl) ?_
  refine rk_get (pc := 76) hx hb hts hown hK hW53 flX9_59 0 (by decide) rfl rfl (x := .ref (b0 + 39)) (by first | rfl | exact congrArg (fun z => some (Value.ref z)) (by omega)) dX9_relaxes_76 ?_
  refine lv_iload_n (pc := 79) hx hb dX9_relaxes_79 rfl (lv_at hl 1 rfl) ?_
  refine lv_aload_n (pc := 80) hx hb dX9_relaxes_80 rfl (lv_at hl 0 rfl) ?_
  refine rk_get (pc := 81) hx hb hts hown hK hW53 flX9_34 0 (by decide) rfl rfl (x := .ref (b0 + 19)) (by first | rfl | exact congrArg (fun z => some (Value.ref z)) (by omega)) dX9_relaxes_81 ?_
  refine rk_getN (pc := 84) hx hb hts hown hK hW53 fnX9_193 19 (by decide) rfl rfl (x := .long (gL v0_50 19 12)) rfl dX9_relaxes_84 ?_
  obtain ⟨hg58, hm⟩ := gb_some hm
  refine rk_last (pc := 87) hx hb hK hW53 hS54 39 (by decide) rfl (Or.inl (show iv _ _ _ from ⟨by omega, by omega⟩)) (fun _ _ _ => rfl) hg58 dX9_relaxes_87 (fun H60 locs61 hW62 hS63 hz64 hkp65 => ?_)
  obtain ⟨v0_59, he9, hm⟩ := lm_some hm
  rw [he9] at hW62
  have hz66 := hz64.trans hz57
  refine lv_aload_n (pc := 88) hx hb dX9_relaxes_88 rfl (lv_at hl 0 rfl) ?_
  refine rk_get (pc := 89) hx hb hts hown hK hW62 flX9_62 0 (by decide) rfl rfl (x := .ref (b0 + 40)) (by first | rfl | exact congrArg (fun z => some (Value.ref z)) (by omega)) dX9_relaxes_89 ?_
  refine lv_iload_n (pc := 92) hx hb dX9_relaxes_92 rfl (lv_at hl 1 rfl) ?_
  refine lv_aload_n (pc := 93) hx hb dX9_relaxes_93 rfl (lv_at hl 0 rfl) ?_
  refine rk_get (pc := 94) hx hb hts hown hK hW62 flX9_34 0 (by decide) rfl rfl (x := .ref (b0 + 19)) (by first | rfl | exact congrArg (fun z => some (Value.ref z)) (by omega)) dX9_relaxes_94 ?_
  refine rk_getN (pc := 97) hx hb hts hown hK hW62 fnX9_197 19 (by decide) rfl rfl (x := .long (gL v0_59 19 13)) rfl dX9_relaxes_97 ?_
  obtain ⟨hg67, hm⟩ := gb_some hm
  refine rk_last (pc := 100) hx hb hK hW62 hS63 40 (by decide) rfl (Or.inl (show iv _ _ _ from ⟨by omega, by omega⟩)) (fun _ _ _ => rfl) hg67 dX9_relaxes_100 (fun H69 locs70 hW71 hS72 hz73 hkp74 => ?_)
  obtain ⟨v0_68, he9, hm⟩ := lm_some hm
  rw [he9] at hW71
  have hz75 := hz73.trans hz66
  refine lv_iconst (pc := 101) (v := (0 : Int32)) hx hb dX9_relaxes_101 (by decide) ?_
  refine lv_istore_n (pc := 102) (lv' := [(3, .int (0 : Int32)), (0, .ref b0), (1, .int i1), (2, .int i2)]) hx hb dX9_relaxes_102 rfl hl (by decide) rfl (fun ls hl => ?_)
  exact (w_fX9_relaxes_103_l C FU) v0_68 i1 i2 (0 : Int32) hm H69 locs70 ls hW71 hS72 hz75 (lv_sub hl [1, 2, 3, 0] rfl)
set_option maxHeartbeats 4000000 in
theorem w_fX9_relaxes_10 (C : Cx G p s m args meth c RX9 cX9_relaxes 4 (some .int)) {b0 : Nat} {rx : Int32} {rw0 : Mem} {k10 : Mem → Int32 → Int32 → Option (Int32 × Mem)} (hk10 : ∀ (v0 : Mem) (i1 : Int32) (i2 : Int32), k10 v0 i1 i2 = some (rx, rw0) → ∀ (H : Heap) (locs : List Loc) (ls : Array Slot), rg G b0 46 (shX9 G.2.1) v0 H → va_S (FA (iv b0 46) s.heap.size) s.heap H locs → H.size = s.heap.size → lv_has ls 4 [(0, .ref b0), (1, .int i1), (2, .int i2)] → W p l e (rmT 4 0 0 102) s m args below meth c H locs 0 0 (MQ below (QcT (FA (iv b0 46) s.heap.size) (fun ov H => ov = (some (.int rx)) ∧ rg G b0 46 (shX9 G.2.1) rw0 H ∧ H.size = s.heap.size)) args s 0 0 (FA (iv b0 46) s.heap.size)) (F0 m 10 ls [])) : ∀ (v0 : Mem) (i1 : Int32) (i2 : Int32), fX9_relaxes_10 k10 v0 i1 i2 = some (rx, rw0) → ∀ (H : Heap) (locs : List Loc) (ls : Array Slot), rg G b0 46 (shX9 G.2.1) v0 H → va_S (FA (iv b0 46) s.heap.size) s.heap H locs → H.size = s.heap.size → lv_has ls 4 [(0, .ref b0), (1, .int i1), (2, .int i2)] → W p l e (rmT 4 0 0 102) s m args below meth c H locs 0 0 (MQ below (QcT (FA (iv b0 46) s.heap.size) (fun ov H => ov = (some (.int rx)) ∧ rg G b0 46 (shX9 G.2.1) rw0 H ∧ H.size = s.heap.size)) args s 0 0 (FA (iv b0 46) s.heap.size)) (F0 m 10 ls []) := by
  intro v0 i1 i2 hm H locs ls hW0 hS hz hl
  obtain ⟨hx, hb, hr, hlk, hml, hown, hts, hK⟩ := id C
  unfold fX9_relaxes_10 at hm
  refine lv_iload_n (pc := 10) hx hb dX9_relaxes_10 rfl (lv_at hl 2 rfl) ?_
  refine lv_aload_n (pc := 11) hx hb dX9_relaxes_11 rfl (lv_at hl 0 rfl) ?_
  obtain ⟨r13, hq14, hm⟩ := ob_some hm
  refine rk_PV (pc := 12) (As := []) (rest := [.int i2]) hx hb hml hown hts hK lkX9_89 rfl yn_X9_n (ct_X9_n (G := G) (l := l) (b0 := b0) hq14) ⟨Nat.le_of_ble_eq_true rfl, Nat.le_of_ble_eq_true rfl⟩ (rk_recv hK hW0 0 (by decide) rfl rfl rfl) (rg_take hW0 (by decide)) rfl rfl hl.1 (Nat.le_of_ble_eq_true rfl) dX9_relaxes_12 ⟨Nat.zero_le _, Nat.zero_le _⟩ ?_
  refine W.eq (g2 := F0 m 15 ls [.int r13, .int i2]) rfl ?_
  refine lv_icmp_ge (pc := 15) (tgt := 34) hx hb dX9_relaxes_15 (by decide) (fun c15 => ?_) (fun c15 => ?_)
  · have hm := ite_t c15 hm
    refine lv_aload_n (pc := 34) hx hb dX9_relaxes_34 rfl (lv_at hl 0 rfl) ?_
    refine lv_aload_n (pc := 35) hx hb dX9_relaxes_35 rfl (lv_at hl 0 rfl) ?_
    refine rk_get (pc := 36) hx hb hts hown hK hW0 flX9_34 0 (by decide) rfl rfl (x := .ref (b0 + 19)) (by first | rfl | exact congrArg (fun z => some (Value.ref z)) (by omega)) dX9_relaxes_36 ?_
    obtain ⟨r16, w17, hq18, hm⟩ := ob2_some hm
    refine rk_TV (pc := 39) (As := [.ref (b0 + 19)]) (rest := []) (mc := 0) (ms := 0) hx hb hml hown hts hK hS (fun q hq => FA_sz rfl q hq) lkX9_290 rfl yn_X9_repairs (ct_X9_repairs (G := G) (l := l) (b0 := b0) (b1 := (b0 + 19)) (sz := H.size) hq18 (by omega)) ⟨Nat.le_of_ble_eq_true rfl, Nat.le_of_ble_eq_true rfl⟩ (fun z h => Or.inl (show iv _ _ _ from ⟨by have h8 := h.1; have h9 := h.2; omega, by have h8 := h.1; have h9 := h.2; omega⟩)) (rk_recv hK hW0 0 (by decide) rfl rfl rfl) ⟨(rg_take hW0 (by decide)), (rg_sub hW0 rfl (by decide) (fun o ho x y z => shX9_n19 G.2.1 _ rfl o ho x y z))⟩ rfl rfl hl.1 (Nat.le_of_ble_eq_true rfl) dX9_relaxes_39 ⟨Nat.zero_le _, Nat.zero_le _⟩ (fun ov9 H19 locs20 hP21 hkp22 hS23 => ?_)
    obtain ⟨rfl, hW24, hz25⟩ := hP21
    have hW26 := rg_put (d := 19) hW0 hW24 rfl (fun o ho x y z => shX9_n19 G.2.1 _ rfl o ho x y z) hkp22
    obtain ⟨v0_27, he9, hm⟩ := lm_some hm
    rw [he9] at hW26
    have hz28 := hz25.trans hz
    refine W.eq (g2 := F0 m 42 ls [.int r16]) rfl ?_
    refine lv_istore_n (pc := 42) (lv' := [(2, .int r16), (0, .ref b0), (1, .int i1)]) hx hb dX9_relaxes_42 rfl hl (by decide) rfl (fun ls hl => ?_)
    refine lv_aload_n (pc := 43) hx hb dX9_relaxes_43 rfl (lv_at hl 1 rfl) ?_
    refine lv_dup (pc := 44) hx hb dX9_relaxes_44 rfl ?_
    refine rk_get (pc := 45) hx hb hts hown hK hW26 flX9_381 0 (by decide) rfl rfl (x := .int (gI v0_27 0 22)) rfl dX9_relaxes_45 ?_
    refine lv_aload_n (pc := 48) hx hb dX9_relaxes_48 rfl (lv_at hl 1 rfl) ?_
    refine rk_get (pc := 49) hx hb hts hown hK hW26 flX9_34 0 (by decide) rfl rfl (x := .ref (b0 + 19)) (by first | rfl | exact congrArg (fun z => some (Value.ref z)) (by omega)) dX9_relaxes_49 ?_
    refine rk_getN (pc := 52) hx hb hts hown hK hW26 fnX9_190 19 (by decide) rfl rfl (x := .int (gI v0_27 19 17)) rfl dX9_relaxes_52 ?_
    refine lv_iadd (pc := 55) hx hb dX9_relaxes_55 ?_
    refine rk_put (pc := 56) hx hb hts hown hK hW26 hS23 flX9_381 ft_X9 0 (by decide) rfl (Or.inl (show iv _ _ _ from ⟨by omega, by omega⟩)) rfl rfl (x := .int ((gI v0_27 0 22) + (gI v0_27 19 17))) rfl rfl (Nat.le_of_ble_eq_true rfl) (sI v0_27 0 22 ((gI v0_27 0 22) + (gI v0_27 19 17))) sI_ne (by rw [sI_eq]; exact rfl) dX9_relaxes_56 (fun H30 locs31 hW32 hS33 hz34 hkp35 => ?_)
    obtain ⟨v0_29, he9, hm⟩ := lm_some hm
    rw [he9] at hW32
    have hz36 := hz34.trans hz28
    refine lv_aload_n (pc := 59) hx hb dX9_relaxes_59 rfl (lv_at hl 1 rfl) ?_
    refine rk_get (pc := 60) hx hb hts hown hK hW32 flX9_65 0 (by decide) rfl rfl (x := .ref (b0 + 41)) (by first | rfl | exact congrArg (fun z => some (Value.ref z)) (by omega)) dX9_relaxes_60 ?_
    refine lv_iload_n (pc := 63) hx hb dX9_relaxes_63 rfl (lv_at hl 2 rfl) ?_
    refine lv_iload_n (pc := 64) hx hb dX9_relaxes_64 rfl (lv_at hl 0 rfl) ?_
    refine lv_iconst (pc := 65) (v := (1 : Int32)) hx hb dX9_relaxes_65 (by decide) ?_
    refine lv_icmp_ne (pc := 66) (tgt := 73) hx hb dX9_relaxes_66 (by decide) (fun c37 => ?_) (fun c37 => ?_)
    · have hm := ite_f c37 hm
      refine lv_iconst (pc := 73) (v := (0 : Int32)) hx hb dX9_relaxes_73 (by decide) ?_
      exact (w_fX9_relaxes_74 C) v0_29 i1 r16 i1 (0 : Int32) hm H30 locs31 ls hW32 hS33 hz36 (lv_sub hl [1, 2, 0] rfl)
    · have hm := ite_t c37 hm
      refine lv_iconst (pc := 69) (v := (1 : Int32)) hx hb dX9_relaxes_69 (by decide) ?_
      refine lv_goto (pc := 70) (tgt := 74) hx hb dX9_relaxes_70 (by decide) ?_
      exact (w_fX9_relaxes_74 C) v0_29 i1 r16 i1 (1 : Int32) hm H30 locs31 ls hW32 hS33 hz36 (lv_sub hl [1, 2, 0] rfl)
  · have hm := ite_f c15 hm
    refine lv_aload_n (pc := 18) hx hb dX9_relaxes_18 rfl (lv_at hl 0 rfl) ?_
    refine lv_aload_n (pc := 19) hx hb dX9_relaxes_19 rfl (lv_at hl 0 rfl) ?_
    refine rk_get (pc := 20) hx hb hts hown hK hW0 flX9_34 0 (by decide) rfl rfl (x := .ref (b0 + 19)) (by first | rfl | exact congrArg (fun z => some (Value.ref z)) (by omega)) dX9_relaxes_20 ?_
    refine lv_iload_n (pc := 23) hx hb dX9_relaxes_23 rfl (lv_at hl 1 rfl) ?_
    refine lv_iload_n (pc := 24) hx hb dX9_relaxes_24 rfl (lv_at hl 2 rfl) ?_
    obtain ⟨w38, hq39, hm⟩ := ob_some hm
    refine rk_TV (pc := 25) (As := [.ref (b0 + 19), .int i1, .int i2]) (rest := []) (mc := 0) (ms := 0) hx hb hml hown hts hK hS (fun q hq => FA_sz rfl q hq) lkX9_377 rfl yn_X9_bounds (ct_X9_bounds (G := G) (l := l) (b0 := b0) (sz := H.size) hq39) ⟨Nat.le_of_ble_eq_true rfl, Nat.le_of_ble_eq_true rfl⟩ (fun z h => Or.inl (show iv _ _ _ from ⟨by have h8 := h.1; have h9 := h.2; omega, by have h8 := h.1; have h9 := h.2; omega⟩)) (rk_recv hK hW0 0 (by decide) rfl rfl rfl) hW0 rfl rfl hl.1 (Nat.le_of_ble_eq_true rfl) dX9_relaxes_25 ⟨Nat.zero_le _, Nat.zero_le _⟩ (fun ov9 H40 locs41 hP42 hkp43 hS44 => ?_)
    obtain ⟨rfl, hW45, hz46⟩ := hP42
    have hz47 := hz46.trans hz
    refine W.eq (g2 := F0 m 28 ls []) rfl ?_
    refine lv_iinc (pc := 28) (v := (i2 + (1 : Int32))) (lv' := [(2, .int (i2 + (1 : Int32))), (0, .ref b0), (1, .int i1)]) hx hb dX9_relaxes_28 hl (k := 2) rfl rfl (by decide) rfl (fun ls hl => ?_)
    refine lv_goto (pc := 31) (tgt := 10) hx hb dX9_relaxes_31 (by decide) ?_
    exact hk10 w38 i1 (i2 + (1 : Int32)) hm H40 locs41 ls hW45 hS44 hz47 (lv_sub hl [1, 2, 0] rfl)
theorem w_fX9_relaxes_10_l (C : Cx G p s m args meth c RX9 cX9_relaxes 4 (some .int)) {b0 : Nat} {rx : Int32} {rw0 : Mem} : ∀ (n : Nat) (v0 : Mem) (i1 : Int32) (i2 : Int32), lq3 (fX9_relaxes_10) n v0 i1 i2 = some (rx, rw0) → ∀ (H : Heap) (locs : List Loc) (ls : Array Slot), rg G b0 46 (shX9 G.2.1) v0 H → va_S (FA (iv b0 46) s.heap.size) s.heap H locs → H.size = s.heap.size → lv_has ls 4 [(0, .ref b0), (1, .int i1), (2, .int i2)] → W p l e (rmT 4 0 0 102) s m args below meth c H locs 0 0 (MQ below (QcT (FA (iv b0 46) s.heap.size) (fun ov H => ov = (some (.int rx)) ∧ rg G b0 46 (shX9 G.2.1) rw0 H ∧ H.size = s.heap.size)) args s 0 0 (FA (iv b0 46) s.heap.size)) (F0 m 10 ls []) := by
  intro n
  induction n with
  | zero => intro v0 i1 i2 hm; exact (lq3_0 hm).elim
  | succ n ih => intro v0 i1 i2 hm; exact w_fX9_relaxes_10 C ih v0 i1 i2 (lq3_s hm)
set_option maxHeartbeats 4000000 in
theorem w_fX9_relaxes (C : Cx G p s m args meth c RX9 cX9_relaxes 4 (some .int)) {b0 : Nat} {rx : Int32} {rw0 : Mem} : ∀ (v0 : Mem) (i1 : Int32), fX9_relaxes v0 i1 = some (rx, rw0) → ∀ (H : Heap) (locs : List Loc) (ls : Array Slot), rg G b0 46 (shX9 G.2.1) v0 H → va_S (FA (iv b0 46) s.heap.size) s.heap H locs → H.size = s.heap.size → lv_has ls 4 [(0, .ref b0), (1, .int i1)] → W p l e (rmT 4 0 0 102) s m args below meth c H locs 0 0 (MQ below (QcT (FA (iv b0 46) s.heap.size) (fun ov H => ov = (some (.int rx)) ∧ rg G b0 46 (shX9 G.2.1) rw0 H ∧ H.size = s.heap.size)) args s 0 0 (FA (iv b0 46) s.heap.size)) (F0 m 0 ls []) := by
  intro v0 i1 hm H locs ls hW0 hS hz hl
  obtain ⟨hx, hb, hr, hlk, hml, hown, hts, hK⟩ := id C
  unfold fX9_relaxes at hm
  refine lv_aload_n (pc := 0) hx hb dX9_relaxes_0 rfl (lv_at hl 0 rfl) ?_
  refine lv_aload_n (pc := 1) hx hb dX9_relaxes_1 rfl (lv_at hl 0 rfl) ?_
  refine rk_get (pc := 2) hx hb hts hown hK hW0 flX9_34 0 (by decide) rfl rfl (x := .ref (b0 + 19)) (by first | rfl | exact congrArg (fun z => some (Value.ref z)) (by omega)) dX9_relaxes_2 ?_
  obtain ⟨w1, hq2, hm⟩ := ob_some hm
  refine rk_TV (pc := 5) (As := [.ref (b0 + 19)]) (rest := []) (mc := 0) (ms := 0) hx hb hml hown hts hK hS (fun q hq => FA_sz rfl q hq) lkX9_286 rfl yn_X9_first (ct_X9_first (G := G) (l := l) (b0 := b0) (b1 := (b0 + 19)) (sz := H.size) hq2 (by omega)) ⟨Nat.le_of_ble_eq_true rfl, Nat.le_of_ble_eq_true rfl⟩ (fun z h => Or.inl (show iv _ _ _ from ⟨by have h8 := h.1; have h9 := h.2; omega, by have h8 := h.1; have h9 := h.2; omega⟩)) (rk_recv hK hW0 0 (by decide) rfl rfl rfl) ⟨(rg_take hW0 (by decide)), (rg_sub hW0 rfl (by decide) (fun o ho x y z => shX9_n19 G.2.1 _ rfl o ho x y z))⟩ rfl rfl hl.1 (Nat.le_of_ble_eq_true rfl) dX9_relaxes_5 ⟨Nat.zero_le _, Nat.zero_le _⟩ (fun ov9 H3 locs4 hP5 hkp6 hS7 => ?_)
  obtain ⟨rfl, hW8, hz9⟩ := hP5
  have hW10 := rg_put (d := 19) hW0 hW8 rfl (fun o ho x y z => shX9_n19 G.2.1 _ rfl o ho x y z) hkp6
  obtain ⟨v0_11, he9, hm⟩ := lm_some hm
  rw [he9] at hW10
  have hz12 := hz9.trans hz
  refine W.eq (g2 := F0 m 8 ls []) rfl ?_
  refine lv_iconst (pc := 8) (v := (0 : Int32)) hx hb dX9_relaxes_8 (by decide) ?_
  refine lv_istore_n (pc := 9) (lv' := [(2, .int (0 : Int32)), (0, .ref b0), (1, .int i1)]) hx hb dX9_relaxes_9 rfl hl (by decide) rfl (fun ls hl => ?_)
  exact (w_fX9_relaxes_10_l C FU) v0_11 i1 (0 : Int32) hm H3 locs4 ls hW10 hS7 hz12 (lv_sub hl [1, 2, 0] rfl)
set_option maxHeartbeats 4000000 in
theorem ct_X9_relaxes {G : Gv} {l : Launch} {b0 : Nat} {v0 : Mem} {i1 : Int32} {rx : Int32} {rw0 : Mem} {sz : Nat} (hm : fX9_relaxes v0 i1 = some (rx, rw0)) : CT G l yX9_relaxes (ws_ yX9_relaxes cX9_relaxes 4 (some .int)) 4 0 0 102 [.ref b0, .int i1] (iv b0 46) sz (fun H => rg G b0 46 (shX9 G.2.1) v0 H) (fun ov H => ov = (some (.int rx)) ∧ rg G b0 46 (shX9 G.2.1) rw0 H ∧ H.size = sz) := by
  refine Met.ofW (cc := cX9_relaxes) (maxL := 4) (ret := (some .int)) (by decide +kernel) rfl ?_
  intro p e s m args below meth c s₁ B hml hv
  obtain ⟨rfl, ⟨hz, hW0⟩, hK⟩ := hv
  subst hz
  have hts := atoms_spec (ws := ws_ yX9_relaxes cX9_relaxes 4 (some .int)) B.pre
  have hts : ∀ w ∈ lw_all, w.before _ s = true := fun w h => hts w (List.mem_cons_of_mem _ h)
  have C : Cx G p s m _ meth c RX9 cX9_relaxes 4 (some .int) := ⟨B.exec, B.bytes, B.returns, B.notSynchronized, hml, findClass_of_methodNamed B.named, hts, hK⟩
  have hl := lv_entry ([.ref b0, .int i1]) (n := 4) (Nat.le_of_ble_eq_true rfl)
  rw [lg_entry_eq]
  generalize (lg_sl ([.ref b0, .int i1]) ++ List.replicate (4 - (lg_sl ([.ref b0, .int i1])).length) Slot.unset).toArray = ls at hl ⊢
  have hl : lv_has ls 4 [(0, .ref b0), (1, .int i1)] := hl
  exact w_fX9_relaxes C _ _ hm s.heap [] ls hW0 va_S.rf rfl hl
theorem yn_X9_relaxes : YN yX9_relaxes 1 := by
  unfold YN
  decide +kernel
theorem lkX9_374 : LV RX9 374 RX9 yX9_relaxes cX9_relaxes 4 (some .int) := ⟨q2239, q2241, qs98, q128, q2242⟩
noncomputable def fX9_comes_144 (v0 : Mem) (i2 : Int32) (i4 : Int32) (i5 : Int32) : Option (Int32 × Mem) :=
  if i4 < 0 then (
  ob2 (fX9_relaxes v0 i5) fun r64 w65 =>
  some (r64, w65))
  else (
  gb (inR (((5 : Int32) * i5) + i2) 200) (
  lm (sI v0 36 (((5 : Int32) * i5) + i2).toNatClampNeg i4) fun v0_76 =>
  ob2 (fX9_relaxes v0_76 i5) fun r84 w85 =>
  some (r84, w85)))
noncomputable def fX9_comes_127 (v0 : Mem) (i2 : Int32) (i3 : Int32) (i4 : Int32) (i5 : Int32) (t1 : Int32) (t2 : Int32) : Option (Int32 × Mem) :=
  gb (inR t1 40) (
  lm (sI v0 37 t1.toNatClampNeg t2) fun v0_45 =>
  if i3 ≤ 0 then (
  fX9_comes_144 v0_45 i2 i4 i5)
  else (
  gb (inR (((5 : Int32) * i5) + i2) 200) (
  lm (sI v0_45 35 (((5 : Int32) * i5) + i2).toNatClampNeg i3) fun v0_55 =>
  fX9_comes_144 v0_55 i2 i4 i5)))
noncomputable def fX9_comes_67 (k31 : Mem → Int32 → Int32 → Int32 → Int32 → Int32 → Int32 → Option (Int32 × Mem)) (v0 : Mem) (i1 : Int32) (i2 : Int32) (i3 : Int32) (i4 : Int32) (i5 : Int32) (i6 : Int32) (t1 : Int32) (t2 : Int32) : Option (Int32 × Mem) :=
  gb (inR t1 200) (
  lm (sI v0 35 t1.toNatClampNeg t2) fun v0_16 =>
  if 0 ≤ i1 then (
  gb (inR (((5 : Int32) * i1) + i6) 200) (
  gb (inR (((5 : Int32) * i5) + i6) 200) (
  lm (sI v0_16 36 (((5 : Int32) * i5) + i6).toNatClampNeg (gI v0_16 36 (((5 : Int32) * i1) + i6).toNatClampNeg)) fun v0_27 =>
  k31 v0_27 i1 i2 i3 i4 i5 (i6 + (1 : Int32)))))
  else (
  gb (inR (((5 : Int32) * i5) + i6) 200) (
  lm (sI v0_16 36 (((5 : Int32) * i5) + i6).toNatClampNeg (-1 : Int32)) fun v0_36 =>
  k31 v0_36 i1 i2 i3 i4 i5 (i6 + (1 : Int32)))))
noncomputable def fX9_comes_31 (k31 : Mem → Int32 → Int32 → Int32 → Int32 → Int32 → Int32 → Option (Int32 × Mem)) (v0 : Mem) (i1 : Int32) (i2 : Int32) (i3 : Int32) (i4 : Int32) (i5 : Int32) (i6 : Int32) : Option (Int32 × Mem) :=
  if (5 : Int32) ≤ i6 then (
  if 0 ≤ i1 then (
  gb (inR i1 40) (
  fX9_comes_127 v0 i2 i3 i4 i5 i5 ((gI v0 37 i1.toNatClampNeg) + (1 : Int32))))
  else (
  fX9_comes_127 v0 i2 i3 i4 i5 i5 (0 : Int32)))
  else (
  if 0 ≤ i1 then (
  gb (inR (((5 : Int32) * i1) + i6) 200) (
  fX9_comes_67 k31 v0 i1 i2 i3 i4 i5 i6 (((5 : Int32) * i5) + i6) (gI v0 35 (((5 : Int32) * i1) + i6).toNatClampNeg)))
  else (
  fX9_comes_67 k31 v0 i1 i2 i3 i4 i5 i6 (((5 : Int32) * i5) + i6) (0 : Int32)))
noncomputable def fX9_comes (v0 : Mem) (i1 : Int32) (i2 : Int32) (i3 : Int32) (i4 : Int32) : Option (Int32 × Mem) :=
  if (gI v0 0 21) = (40 : Int32) then (
  some ((-6 : Int32), v0))
  else (
  lm (sI v0 0 21 ((gI v0 0 21) + (1 : Int32))) fun v0_2 =>
  lq7 (fX9_comes_31) FU v0_2 i1 i2 i3 i4 (gI v0 0 21) (0 : Int32))
set_option maxHeartbeats 4000000 in
theorem w_fX9_comes_144 (C : Cx G p s m args meth c RX9 cX9_comes 7 (some .int)) {b0 : Nat} {rx : Int32} {rw0 : Mem} : ∀ (v0 : Mem) (i2 : Int32) (i4 : Int32) (i5 : Int32), fX9_comes_144 v0 i2 i4 i5 = some (rx, rw0) → ∀ (H : Heap) (locs : List Loc) (ls : Array Slot), rg G b0 46 (shX9 G.2.1) v0 H → va_S (FA (iv b0 46) s.heap.size) s.heap H locs → H.size = s.heap.size → lv_has ls 7 [(0, .ref b0), (2, .int i2), (4, .int i4), (5, .int i5)] → W p l e (rmT 5 0 0 125) s m args below meth c H locs 0 0 (MQ below (QcT (FA (iv b0 46) s.heap.size) (fun ov H => ov = (some (.int rx)) ∧ rg G b0 46 (shX9 G.2.1) rw0 H ∧ H.size = s.heap.size)) args s 0 0 (FA (iv b0 46) s.heap.size)) (F0 m 144 ls []) := by
  intro v0 i2 i4 i5 hm H locs ls hW0 hS hz hl
  obtain ⟨hx, hb, hr, hlk, hml, hown, hts, hK⟩ := id C
  unfold fX9_comes_144 at hm
  refine lv_iload (pc := 144) hx hb dX9_comes_144 (lv_at hl 2 rfl) ?_
  refine lv_if_lt (pc := 146) (tgt := 162) hx hb dX9_comes_146 (by decide) (fun c63 => ?_) (fun c63 => ?_)
  · have hm := ite_t c63 hm
    refine lv_aload_n (pc := 162) hx hb dX9_comes_162 rfl (lv_at hl 0 rfl) ?_
    refine lv_iload (pc := 163) hx hb dX9_comes_163 (lv_at hl 3 rfl) ?_
    obtain ⟨r64, w65, hq66, hm⟩ := ob2_some hm
    refine rk_TV (pc := 165) (As := [.int i5]) (rest := []) (mc := 0) (ms := 0) hx hb hml hown hts hK hS (fun q hq => FA_sz rfl q hq) lkX9_374 rfl yn_X9_relaxes (ct_X9_relaxes (G := G) (l := l) (b0 := b0) (sz := H.size) hq66) ⟨Nat.le_of_ble_eq_true rfl, Nat.le_of_ble_eq_true rfl⟩ (fun z h => Or.inl (show iv _ _ _ from ⟨by have h8 := h.1; have h9 := h.2; omega, by have h8 := h.1; have h9 := h.2; omega⟩)) (rk_recv hK hW0 0 (by decide) rfl rfl rfl) hW0 rfl rfl hl.1 (Nat.le_of_ble_eq_true rfl) dX9_comes_165 ⟨Nat.zero_le _, Nat.zero_le _⟩ (fun ov9 H67 locs68 hP69 hkp70 hS71 => ?_)
    obtain ⟨rfl, hW72, hz73⟩ := hP69
    have hz74 := hz73.trans hz
    refine W.eq (g2 := F0 m 168 ls [.int r64]) rfl ?_
    obtain ⟨e8, e9⟩ := rs2 hm
    subst e8
    subst e9
    exact rk_iret (pc := 168) hx hb hr hlk hS71 ⟨rfl, hW72, hz74⟩ dX9_comes_168
  · have hm := ite_f c63 hm
    refine lv_aload_n (pc := 149) hx hb dX9_comes_149 rfl (lv_at hl 0 rfl) ?_
    refine rk_get (pc := 150) hx hb hts hown hK hW0 flX9_49 0 (by decide) rfl rfl (x := .ref (b0 + 36)) (by first | rfl | exact congrArg (fun z => some (Value.ref z)) (by omega)) dX9_comes_150 ?_
    refine lv_iconst (pc := 153) (v := (5 : Int32)) hx hb dX9_comes_153 (by decide) ?_
    refine lv_iload (pc := 154) hx hb dX9_comes_154 (lv_at hl 3 rfl) ?_
    refine lv_imul (pc := 156) hx hb dX9_comes_156 ?_
    refine lv_iload_n (pc := 157) hx hb dX9_comes_157 rfl (lv_at hl 1 rfl) ?_
    refine lv_iadd (pc := 158) hx hb dX9_comes_158 ?_
    refine lv_iload (pc := 159) hx hb dX9_comes_159 (lv_at hl 2 rfl) ?_
    obtain ⟨hg75, hm⟩ := gb_some hm
    refine rk_iast (pc := 161) hx hb hK hW0 hS 36 (by decide) rfl (Or.inl (show iv _ _ _ from ⟨by omega, by omega⟩)) (fun _ _ _ => rfl) hg75 dX9_comes_161 (fun H77 locs78 hW79 hS80 hz81 hkp82 => ?_)
    obtain ⟨v0_76, he9, hm⟩ := lm_some hm
    rw [he9] at hW79
    have hz83 := hz81.trans hz
    refine lv_aload_n (pc := 162) hx hb dX9_comes_162 rfl (lv_at hl 0 rfl) ?_
    refine lv_iload (pc := 163) hx hb dX9_comes_163 (lv_at hl 3 rfl) ?_
    obtain ⟨r84, w85, hq86, hm⟩ := ob2_some hm
    refine rk_TV (pc := 165) (As := [.int i5]) (rest := []) (mc := 0) (ms := 0) hx hb hml hown hts hK hS80 (fun q hq => FA_sz rfl q hq) lkX9_374 rfl yn_X9_relaxes (ct_X9_relaxes (G := G) (l := l) (b0 := b0) (sz := H77.size) hq86) ⟨Nat.le_of_ble_eq_true rfl, Nat.le_of_ble_eq_true rfl⟩ (fun z h => Or.inl (show iv _ _ _ from ⟨by have h8 := h.1; have h9 := h.2; omega, by have h8 := h.1; have h9 := h.2; omega⟩)) (rk_recv hK hW79 0 (by decide) rfl rfl rfl) hW79 rfl rfl hl.1 (Nat.le_of_ble_eq_true rfl) dX9_comes_165 ⟨Nat.zero_le _, Nat.zero_le _⟩ (fun ov9 H87 locs88 hP89 hkp90 hS91 => ?_)
    obtain ⟨rfl, hW92, hz93⟩ := hP89
    have hz94 := hz93.trans hz83
    refine W.eq (g2 := F0 m 168 ls [.int r84]) rfl ?_
    obtain ⟨e8, e9⟩ := rs2 hm
    subst e8
    subst e9
    exact rk_iret (pc := 168) hx hb hr hlk hS91 ⟨rfl, hW92, hz94⟩ dX9_comes_168
set_option maxHeartbeats 4000000 in
theorem w_fX9_comes_127 (C : Cx G p s m args meth c RX9 cX9_comes 7 (some .int)) {b0 : Nat} {rx : Int32} {rw0 : Mem} : ∀ (v0 : Mem) (i2 : Int32) (i3 : Int32) (i4 : Int32) (i5 : Int32) (t1 : Int32) (t2 : Int32), fX9_comes_127 v0 i2 i3 i4 i5 t1 t2 = some (rx, rw0) → ∀ (H : Heap) (locs : List Loc) (ls : Array Slot), rg G b0 46 (shX9 G.2.1) v0 H → va_S (FA (iv b0 46) s.heap.size) s.heap H locs → H.size = s.heap.size → lv_has ls 7 [(0, .ref b0), (2, .int i2), (3, .int i3), (4, .int i4), (5, .int i5)] → W p l e (rmT 5 0 0 125) s m args below meth c H locs 0 0 (MQ below (QcT (FA (iv b0 46) s.heap.size) (fun ov H => ov = (some (.int rx)) ∧ rg G b0 46 (shX9 G.2.1) rw0 H ∧ H.size = s.heap.size)) args s 0 0 (FA (iv b0 46) s.heap.size)) (F0 m 127 ls [.int t2, .int t1, .ref (b0 + 37)]) := by
  intro v0 i2 i3 i4 i5 t1 t2 hm H locs ls hW0 hS hz hl
  obtain ⟨hx, hb, hr, hlk, hml, hown, hts, hK⟩ := id C
  unfold fX9_comes_127 at hm
  obtain ⟨hg44, hm⟩ := gb_some hm
  refine rk_iast (pc := 127) hx hb hK hW0 hS 37 (by decide) rfl (Or.inl (show iv _ _ _ from ⟨by omega, by omega⟩)) (fun _ _ _ => rfl) hg44 dX9_comes_127 (fun H46 locs47 hW48 hS49 hz50 hkp51 => ?_)
  obtain ⟨v0_45, he9, hm⟩ := lm_some hm
  rw [he9] at hW48
  have hz52 := hz50.trans hz
  refine lv_iload_n (pc := 128) hx hb dX9_comes_128 rfl (lv_at hl 2 rfl) ?_
  refine lv_if_le (pc := 129) (tgt := 144) hx hb dX9_comes_129 (by decide) (fun c53 => ?_) (fun c53 => ?_)
  · have hm := ite_t c53 hm
    exact (w_fX9_comes_144 C) v0_45 i2 i4 i5 hm H46 locs47 ls hW48 hS49 hz52 (lv_sub hl [0, 1, 3, 4] rfl)
  · have hm := ite_f c53 hm
    refine lv_aload_n (pc := 132) hx hb dX9_comes_132 rfl (lv_at hl 0 rfl) ?_
    refine rk_get (pc := 133) hx hb hts hown hK hW48 flX9_46 0 (by decide) rfl rfl (x := .ref (b0 + 35)) (by first | rfl | exact congrArg (fun z => some (Value.ref z)) (by omega)) dX9_comes_133 ?_
    refine lv_iconst (pc := 136) (v := (5 : Int32)) hx hb dX9_comes_136 (by decide) ?_
    refine lv_iload (pc := 137) hx hb dX9_comes_137 (lv_at hl 4 rfl) ?_
    refine lv_imul (pc := 139) hx hb dX9_comes_139 ?_
    refine lv_iload_n (pc := 140) hx hb dX9_comes_140 rfl (lv_at hl 1 rfl) ?_
    refine lv_iadd (pc := 141) hx hb dX9_comes_141 ?_
    refine lv_iload_n (pc := 142) hx hb dX9_comes_142 rfl (lv_at hl 2 rfl) ?_
    obtain ⟨hg54, hm⟩ := gb_some hm
    refine rk_iast (pc := 143) hx hb hK hW48 hS49 35 (by decide) rfl (Or.inl (show iv _ _ _ from ⟨by omega, by omega⟩)) (fun _ _ _ => rfl) hg54 dX9_comes_143 (fun H56 locs57 hW58 hS59 hz60 hkp61 => ?_)
    obtain ⟨v0_55, he9, hm⟩ := lm_some hm
    rw [he9] at hW58
    have hz62 := hz60.trans hz52
    exact (w_fX9_comes_144 C) v0_55 i2 i4 i5 hm H56 locs57 ls hW58 hS59 hz62 (lv_sub hl [0, 1, 3, 4] rfl)
set_option maxHeartbeats 4000000 in
theorem w_fX9_comes_67 (C : Cx G p s m args meth c RX9 cX9_comes 7 (some .int)) {b0 : Nat} {rx : Int32} {rw0 : Mem} {k31 : Mem → Int32 → Int32 → Int32 → Int32 → Int32 → Int32 → Option (Int32 × Mem)} (hk31 : ∀ (v0 : Mem) (i1 : Int32) (i2 : Int32) (i3 : Int32) (i4 : Int32) (i5 : Int32) (i6 : Int32), k31 v0 i1 i2 i3 i4 i5 i6 = some (rx, rw0) → ∀ (H : Heap) (locs : List Loc) (ls : Array Slot), rg G b0 46 (shX9 G.2.1) v0 H → va_S (FA (iv b0 46) s.heap.size) s.heap H locs → H.size = s.heap.size → lv_has ls 7 [(0, .ref b0), (1, .int i1), (2, .int i2), (3, .int i3), (4, .int i4), (5, .int i5), (6, .int i6)] → W p l e (rmT 5 0 0 125) s m args below meth c H locs 0 0 (MQ below (QcT (FA (iv b0 46) s.heap.size) (fun ov H => ov = (some (.int rx)) ∧ rg G b0 46 (shX9 G.2.1) rw0 H ∧ H.size = s.heap.size)) args s 0 0 (FA (iv b0 46) s.heap.size)) (F0 m 31 ls [])) : ∀ (v0 : Mem) (i1 : Int32) (i2 : Int32) (i3 : Int32) (i4 : Int32) (i5 : Int32) (i6 : Int32) (t1 : Int32) (t2 : Int32), fX9_comes_67 k31 v0 i1 i2 i3 i4 i5 i6 t1 t2 = some (rx, rw0) → ∀ (H : Heap) (locs : List Loc) (ls : Array Slot), rg G b0 46 (shX9 G.2.1) v0 H → va_S (FA (iv b0 46) s.heap.size) s.heap H locs → H.size = s.heap.size → lv_has ls 7 [(0, .ref b0), (1, .int i1), (2, .int i2), (3, .int i3), (4, .int i4), (5, .int i5), (6, .int i6)] → W p l e (rmT 5 0 0 125) s m args below meth c H locs 0 0 (MQ below (QcT (FA (iv b0 46) s.heap.size) (fun ov H => ov = (some (.int rx)) ∧ rg G b0 46 (shX9 G.2.1) rw0 H ∧ H.size = s.heap.size)) args s 0 0 (FA (iv b0 46) s.heap.size)) (F0 m 67 ls [.int t2, .int t1, .ref (b0 + 35)]) := by
  intro v0 i1 i2 i3 i4 i5 i6 t1 t2 hm H locs ls hW0 hS hz hl
  obtain ⟨hx, hb, hr, hlk, hml, hown, hts, hK⟩ := id C
  unfold fX9_comes_67 at hm
  obtain ⟨hg15, hm⟩ := gb_some hm
  refine rk_iast (pc := 67) hx hb hK hW0 hS 35 (by decide) rfl (Or.inl (show iv _ _ _ from ⟨by omega, by omega⟩)) (fun _ _ _ => rfl) hg15 dX9_comes_67 (fun H17 locs18 hW19 hS20 hz21 hkp22 => ?_)
  obtain ⟨v0_16, he9, hm⟩ := lm_some hm
  rw [he9] at hW19
  have hz23 := hz21.trans hz
  refine lv_aload_n (pc := 68) hx hb dX9_comes_68 rfl (lv_at hl 0 rfl) ?_
  refine rk_get (pc := 69) hx hb hts hown hK hW19 flX9_49 0 (by decide) rfl rfl (x := .ref (b0 + 36)) (by first | rfl | exact congrArg (fun z => some (Value.ref z)) (by omega)) dX9_comes_69 ?_
  refine lv_iconst (pc := 72) (v := (5 : Int32)) hx hb dX9_comes_72 (by decide) ?_
  refine lv_iload (pc := 73) hx hb dX9_comes_73 (lv_at hl 5 rfl) ?_
  refine lv_imul (pc := 75) hx hb dX9_comes_75 ?_
  refine lv_iload (pc := 76) hx hb dX9_comes_76 (lv_at hl 6 rfl) ?_
  refine lv_iadd (pc := 78) hx hb dX9_comes_78 ?_
  refine lv_iload_n (pc := 79) hx hb dX9_comes_79 rfl (lv_at hl 1 rfl) ?_
  refine lv_if_ge (pc := 80) (tgt := 87) hx hb dX9_comes_80 (by decide) (fun c24 => ?_) (fun c24 => ?_)
  · have hm := ite_t c24 hm
    refine lv_aload_n (pc := 87) hx hb dX9_comes_87 rfl (lv_at hl 0 rfl) ?_
    refine rk_get (pc := 88) hx hb hts hown hK hW19 flX9_49 0 (by decide) rfl rfl (x := .ref (b0 + 36)) (by first | rfl | exact congrArg (fun z => some (Value.ref z)) (by omega)) dX9_comes_88 ?_
    refine lv_iconst (pc := 91) (v := (5 : Int32)) hx hb dX9_comes_91 (by decide) ?_
    refine lv_iload_n (pc := 92) hx hb dX9_comes_92 rfl (lv_at hl 1 rfl) ?_
    refine lv_imul (pc := 93) hx hb dX9_comes_93 ?_
    refine lv_iload (pc := 94) hx hb dX9_comes_94 (lv_at hl 6 rfl) ?_
    refine lv_iadd (pc := 96) hx hb dX9_comes_96 ?_
    obtain ⟨hg25, hm⟩ := gb_some hm
    refine rk_iald (pc := 97) hx hb hK hW19 36 (by decide) rfl rfl hg25 (x := (gI v0_16 36 (((5 : Int32) * i1) + i6).toNatClampNeg)) rfl dX9_comes_97 ?_
    obtain ⟨hg26, hm⟩ := gb_some hm
    refine rk_iast (pc := 98) hx hb hK hW19 hS20 36 (by decide) rfl (Or.inl (show iv _ _ _ from ⟨by omega, by omega⟩)) (fun _ _ _ => rfl) hg26 dX9_comes_98 (fun H28 locs29 hW30 hS31 hz32 hkp33 => ?_)
    obtain ⟨v0_27, he9, hm⟩ := lm_some hm
    rw [he9] at hW30
    have hz34 := hz32.trans hz23
    refine lv_iinc (pc := 99) (v := (i6 + (1 : Int32))) (lv' := [(6, .int (i6 + (1 : Int32))), (0, .ref b0), (1, .int i1), (2, .int i2), (3, .int i3), (4, .int i4), (5, .int i5)]) hx hb dX9_comes_99 hl (k := 6) rfl rfl (by decide) rfl (fun ls hl => ?_)
    refine lv_goto (pc := 102) (tgt := 31) hx hb dX9_comes_102 (by decide) ?_
    exact hk31 v0_27 i1 i2 i3 i4 i5 (i6 + (1 : Int32)) hm H28 locs29 ls hW30 hS31 hz34 (lv_sub hl [1, 2, 3, 4, 5, 6, 0] rfl)
  · have hm := ite_f c24 hm
    refine lv_iconst (pc := 83) (v := (-1 : Int32)) hx hb dX9_comes_83 (by decide) ?_
    refine lv_goto (pc := 84) (tgt := 98) hx hb dX9_comes_84 (by decide) ?_
    obtain ⟨hg35, hm⟩ := gb_some hm
    refine rk_iast (pc := 98) hx hb hK hW19 hS20 36 (by decide) rfl (Or.inl (show iv _ _ _ from ⟨by omega, by omega⟩)) (fun _ _ _ => rfl) hg35 dX9_comes_98 (fun H37 locs38 hW39 hS40 hz41 hkp42 => ?_)
    obtain ⟨v0_36, he9, hm⟩ := lm_some hm
    rw [he9] at hW39
    have hz43 := hz41.trans hz23
    refine lv_iinc (pc := 99) (v := (i6 + (1 : Int32))) (lv' := [(6, .int (i6 + (1 : Int32))), (0, .ref b0), (1, .int i1), (2, .int i2), (3, .int i3), (4, .int i4), (5, .int i5)]) hx hb dX9_comes_99 hl (k := 6) rfl rfl (by decide) rfl (fun ls hl => ?_)
    refine lv_goto (pc := 102) (tgt := 31) hx hb dX9_comes_102 (by decide) ?_
    exact hk31 v0_36 i1 i2 i3 i4 i5 (i6 + (1 : Int32)) hm H37 locs38 ls hW39 hS40 hz43 (lv_sub hl [1, 2, 3, 4, 5, 6, 0] rfl)
set_option maxHeartbeats 4000000 in
theorem w_fX9_comes_31 (C : Cx G p s m args meth c RX9 cX9_comes 7 (some .int)) {b0 : Nat} {rx : Int32} {rw0 : Mem} {k31 : Mem → Int32 → Int32 → Int32 → Int32 → Int32 → Int32 → Option (Int32 × Mem)} (hk31 : ∀ (v0 : Mem) (i1 : Int32) (i2 : Int32) (i3 : Int32) (i4 : Int32) (i5 : Int32) (i6 : Int32), k31 v0 i1 i2 i3 i4 i5 i6 = some (rx, rw0) → ∀ (H : Heap) (locs : List Loc) (ls : Array Slot), rg G b0 46 (shX9 G.2.1) v0 H → va_S (FA (iv b0 46) s.heap.size) s.heap H locs → H.size = s.heap.size → lv_has ls 7 [(0, .ref b0), (1, .int i1), (2, .int i2), (3, .int i3), (4, .int i4), (5, .int i5), (6, .int i6)] → W p l e (rmT 5 0 0 125) s m args below meth c H locs 0 0 (MQ below (QcT (FA (iv b0 46) s.heap.size) (fun ov H => ov = (some (.int rx)) ∧ rg G b0 46 (shX9 G.2.1) rw0 H ∧ H.size = s.heap.size)) args s 0 0 (FA (iv b0 46) s.heap.size)) (F0 m 31 ls [])) : ∀ (v0 : Mem) (i1 : Int32) (i2 : Int32) (i3 : Int32) (i4 : Int32) (i5 : Int32) (i6 : Int32), fX9_comes_31 k31 v0 i1 i2 i3 i4 i5 i6 = some (rx, rw0) → ∀ (H : Heap) (locs : List Loc) (ls : Array Slot), rg G b0 46 (shX9 G.2.1) v0 H → va_S (FA (iv b0 46) s.heap.size) s.heap H locs → H.size = s.heap.size → lv_has ls 7 [(0, .ref b0), (1, .int i1), (2, .int i2), (3, .int i3), (4, .int i4), (5, .int i5), (6, .int i6)] → W p l e (rmT 5 0 0 125) s m args below meth c H locs 0 0 (MQ below (QcT (FA (iv b0 46) s.heap.size) (fun ov H => ov = (some (.int rx)) ∧ rg G b0 46 (shX9 G.2.1) rw0 H ∧ H.size = s.heap.size)) args s 0 0 (FA (iv b0 46) s.heap.size)) (F0 m 31 ls []) := by
  intro v0 i1 i2 i3 i4 i5 i6 hm H locs ls hW0 hS hz hl
  obtain ⟨hx, hb, hr, hlk, hml, hown, hts, hK⟩ := id C
  unfold fX9_comes_31 at hm
  refine lv_iload (pc := 31) hx hb dX9_comes_31 (lv_at hl 6 rfl) ?_
  refine lv_iconst (pc := 33) (v := (5 : Int32)) hx hb dX9_comes_33 (by decide) ?_
  refine lv_icmp_ge (pc := 34) (tgt := 105) hx hb dX9_comes_34 (by decide) (fun c10 => ?_) (fun c10 => ?_)
  · have hm := ite_t c10 hm
    refine lv_aload_n (pc := 105) hx hb dX9_comes_105 rfl (lv_at hl 0 rfl) ?_
    refine rk_get (pc := 106) hx hb hts hown hK hW0 flX9_52 0 (by decide) rfl rfl (x := .ref (b0 + 37)) (by first | rfl | exact congrArg (fun z => some (Value.ref z)) (by omega)) dX9_comes_106 ?_
    refine lv_iload (pc := 109) hx hb dX9_comes_109 (lv_at hl 5 rfl) ?_
    refine lv_iload_n (pc := 111) hx hb dX9_comes_111 rfl (lv_at hl 1 rfl) ?_
    refine lv_if_ge (pc := 112) (tgt := 119) hx hb dX9_comes_112 (by decide) (fun c11 => ?_) (fun c11 => ?_)
    · have hm := ite_t c11 hm
      refine lv_aload_n (pc := 119) hx hb dX9_comes_119 rfl (lv_at hl 0 rfl) ?_
      refine rk_get (pc := 120) hx hb hts hown hK hW0 flX9_52 0 (by decide) rfl rfl (x := .ref (b0 + 37)) (by first | rfl | exact congrArg (fun z => some (Value.ref z)) (by omega)) dX9_comes_120 ?_
      refine lv_iload_n (pc := 123) hx hb dX9_comes_123 rfl (lv_at hl 1 rfl) ?_
      obtain ⟨hg12, hm⟩ := gb_some hm
      refine rk_iald (pc := 124) hx hb hK hW0 37 (by decide) rfl rfl hg12 (x := (gI v0 37 i1.toNatClampNeg)) rfl dX9_comes_124 ?_
      refine lv_iconst (pc := 125) (v := (1 : Int32)) hx hb dX9_comes_125 (by decide) ?_
      refine lv_iadd (pc := 126) hx hb dX9_comes_126 ?_
      exact (w_fX9_comes_127 C) v0 i2 i3 i4 i5 i5 ((gI v0 37 i1.toNatClampNeg) + (1 : Int32)) hm H locs ls hW0 hS hz (lv_sub hl [0, 2, 3, 4, 5] rfl)
    · have hm := ite_f c11 hm
      refine lv_iconst (pc := 115) (v := (0 : Int32)) hx hb dX9_comes_115 (by decide) ?_
      refine lv_goto (pc := 116) (tgt := 127) hx hb dX9_comes_116 (by decide) ?_
      exact (w_fX9_comes_127 C) v0 i2 i3 i4 i5 i5 (0 : Int32) hm H locs ls hW0 hS hz (lv_sub hl [0, 2, 3, 4, 5] rfl)
  · have hm := ite_f c10 hm
    refine lv_aload_n (pc := 37) hx hb dX9_comes_37 rfl (lv_at hl 0 rfl) ?_
    refine rk_get (pc := 38) hx hb hts hown hK hW0 flX9_46 0 (by decide) rfl rfl (x := .ref (b0 + 35)) (by first | rfl | exact congrArg (fun z => some (Value.ref z)) (by omega)) dX9_comes_38 ?_
    refine lv_iconst (pc := 41) (v := (5 : Int32)) hx hb dX9_comes_41 (by decide) ?_
    refine lv_iload (pc := 42) hx hb dX9_comes_42 (lv_at hl 5 rfl) ?_
    refine lv_imul (pc := 44) hx hb dX9_comes_44 ?_
    refine lv_iload (pc := 45) hx hb dX9_comes_45 (lv_at hl 6 rfl) ?_
    refine lv_iadd (pc := 47) hx hb dX9_comes_47 ?_
    refine lv_iload_n (pc := 48) hx hb dX9_comes_48 rfl (lv_at hl 1 rfl) ?_
    refine lv_if_ge (pc := 49) (tgt := 56) hx hb dX9_comes_49 (by decide) (fun c13 => ?_) (fun c13 => ?_)
    · have hm := ite_t c13 hm
      refine lv_aload_n (pc := 56) hx hb dX9_comes_56 rfl (lv_at hl 0 rfl) ?_
      refine rk_get (pc := 57) hx hb hts hown hK hW0 flX9_46 0 (by decide) rfl rfl (x := .ref (b0 + 35)) (by first | rfl | exact congrArg (fun z => some (Value.ref z)) (by omega)) dX9_comes_57 ?_
      refine lv_iconst (pc := 60) (v := (5 : Int32)) hx hb dX9_comes_60 (by decide) ?_
      refine lv_iload_n (pc := 61) hx hb dX9_comes_61 rfl (lv_at hl 1 rfl) ?_
      refine lv_imul (pc := 62) hx hb dX9_comes_62 ?_
      refine lv_iload (pc := 63) hx hb dX9_comes_63 (lv_at hl 6 rfl) ?_
      refine lv_iadd (pc := 65) hx hb dX9_comes_65 ?_
      obtain ⟨hg14, hm⟩ := gb_some hm
      refine rk_iald (pc := 66) hx hb hK hW0 35 (by decide) rfl rfl hg14 (x := (gI v0 35 (((5 : Int32) * i1) + i6).toNatClampNeg)) rfl dX9_comes_66 ?_
      exact (w_fX9_comes_67 C hk31) v0 i1 i2 i3 i4 i5 i6 (((5 : Int32) * i5) + i6) (gI v0 35 (((5 : Int32) * i1) + i6).toNatClampNeg) hm H locs ls hW0 hS hz (lv_sub hl [0, 1, 2, 3, 4, 5, 6] rfl)
    · have hm := ite_f c13 hm
      refine lv_iconst (pc := 52) (v := (0 : Int32)) hx hb dX9_comes_52 (by decide) ?_
      refine lv_goto (pc := 53) (tgt := 67) hx hb dX9_comes_53 (by decide) ?_
      exact (w_fX9_comes_67 C hk31) v0 i1 i2 i3 i4 i5 i6 (((5 : Int32) * i5) + i6) (0 : Int32) hm H locs ls hW0 hS hz (lv_sub hl [0, 1, 2, 3, 4, 5, 6] rfl)
theorem w_fX9_comes_31_l (C : Cx G p s m args meth c RX9 cX9_comes 7 (some .int)) {b0 : Nat} {rx : Int32} {rw0 : Mem} : ∀ (n : Nat) (v0 : Mem) (i1 : Int32) (i2 : Int32) (i3 : Int32) (i4 : Int32) (i5 : Int32) (i6 : Int32), lq7 (fX9_comes_31) n v0 i1 i2 i3 i4 i5 i6 = some (rx, rw0) → ∀ (H : Heap) (locs : List Loc) (ls : Array Slot), rg G b0 46 (shX9 G.2.1) v0 H → va_S (FA (iv b0 46) s.heap.size) s.heap H locs → H.size = s.heap.size → lv_has ls 7 [(0, .ref b0), (1, .int i1), (2, .int i2), (3, .int i3), (4, .int i4), (5, .int i5), (6, .int i6)] → W p l e (rmT 5 0 0 125) s m args below meth c H locs 0 0 (MQ below (QcT (FA (iv b0 46) s.heap.size) (fun ov H => ov = (some (.int rx)) ∧ rg G b0 46 (shX9 G.2.1) rw0 H ∧ H.size = s.heap.size)) args s 0 0 (FA (iv b0 46) s.heap.size)) (F0 m 31 ls []) := by
  intro n
  induction n with
  | zero => intro v0 i1 i2 i3 i4 i5 i6 hm; exact (lq7_0 hm).elim
  | succ n ih => intro v0 i1 i2 i3 i4 i5 i6 hm; exact w_fX9_comes_31 C ih v0 i1 i2 i3 i4 i5 i6 (lq7_s hm)
set_option maxHeartbeats 4000000 in
theorem w_fX9_comes (C : Cx G p s m args meth c RX9 cX9_comes 7 (some .int)) {b0 : Nat} {rx : Int32} {rw0 : Mem} : ∀ (v0 : Mem) (i1 : Int32) (i2 : Int32) (i3 : Int32) (i4 : Int32), fX9_comes v0 i1 i2 i3 i4 = some (rx, rw0) → ∀ (H : Heap) (locs : List Loc) (ls : Array Slot), rg G b0 46 (shX9 G.2.1) v0 H → va_S (FA (iv b0 46) s.heap.size) s.heap H locs → H.size = s.heap.size → lv_has ls 7 [(0, .ref b0), (1, .int i1), (2, .int i2), (3, .int i3), (4, .int i4)] → W p l e (rmT 5 0 0 125) s m args below meth c H locs 0 0 (MQ below (QcT (FA (iv b0 46) s.heap.size) (fun ov H => ov = (some (.int rx)) ∧ rg G b0 46 (shX9 G.2.1) rw0 H ∧ H.size = s.heap.size)) args s 0 0 (FA (iv b0 46) s.heap.size)) (F0 m 0 ls []) := by
  intro v0 i1 i2 i3 i4 hm H locs ls hW0 hS hz hl
  obtain ⟨hx, hb, hr, hlk, hml, hown, hts, hK⟩ := id C
  unfold fX9_comes at hm
  refine lv_aload_n (pc := 0) hx hb dX9_comes_0 rfl (lv_at hl 0 rfl) ?_
  refine rk_get (pc := 1) hx hb hts hown hK hW0 flX9_371 0 (by decide) rfl rfl (x := .int (gI v0 0 21)) rfl dX9_comes_1 ?_
  refine lv_bipush (pc := 4) (v := (40 : Int32)) hx hb dX9_comes_4 (by decide) ?_
  refine lv_icmp_ne (pc := 6) (tgt := 12) hx hb dX9_comes_6 (by decide) (fun c1 => ?_) (fun c1 => ?_)
  · have hm := ite_f c1 hm
    refine lv_aload_n (pc := 12) hx hb dX9_comes_12 rfl (lv_at hl 0 rfl) ?_
    refine rk_get (pc := 13) hx hb hts hown hK hW0 flX9_371 0 (by decide) rfl rfl (x := .int (gI v0 0 21)) rfl dX9_comes_13 ?_
    refine lv_istore (pc := 16) (lv' := [(5, .int (gI v0 0 21)), (0, .ref b0), (1, .int i1), (2, .int i2), (3, .int i3), (4, .int i4)]) hx hb dX9_comes_16 hl (by decide) rfl (fun ls hl => ?_)
    refine lv_aload_n (pc := 18) hx hb dX9_comes_18 rfl (lv_at hl 1 rfl) ?_
    refine lv_dup (pc := 19) hx hb dX9_comes_19 rfl ?_
    refine rk_get (pc := 20) hx hb hts hown hK hW0 flX9_371 0 (by decide) rfl rfl (x := .int (gI v0 0 21)) rfl dX9_comes_20 ?_
    refine lv_iconst (pc := 23) (v := (1 : Int32)) hx hb dX9_comes_23 (by decide) ?_
    refine lv_iadd (pc := 24) hx hb dX9_comes_24 ?_
    refine rk_put (pc := 25) hx hb hts hown hK hW0 hS flX9_371 ft_X9 0 (by decide) rfl (Or.inl (show iv _ _ _ from ⟨by omega, by omega⟩)) rfl rfl (x := .int ((gI v0 0 21) + (1 : Int32))) rfl rfl (Nat.le_of_ble_eq_true rfl) (sI v0 0 21 ((gI v0 0 21) + (1 : Int32))) sI_ne (by rw [sI_eq]; exact rfl) dX9_comes_25 (fun H3 locs4 hW5 hS6 hz7 hkp8 => ?_)
    obtain ⟨v0_2, he9, hm⟩ := lm_some hm
    rw [he9] at hW5
    have hz9 := hz7.trans hz
    refine lv_iconst (pc := 28) (v := (0 : Int32)) hx hb dX9_comes_28 (by decide) ?_
    refine lv_istore (pc := 29) (lv' := [(6, .int (0 : Int32)), (5, .int (gI v0 0 21)), (0, .ref b0), (1, .int i1), (2, .int i2), (3, .int i3), (4, .int i4)]) hx hb dX9_comes_29 hl (by decide) rfl (fun ls hl => ?_)
    exact (w_fX9_comes_31_l C FU) v0_2 i1 i2 i3 i4 (gI v0 0 21) (0 : Int32) hm H3 locs4 ls hW5 hS6 hz9 (lv_sub hl [2, 3, 4, 5, 6, 1, 0] rfl)
  · have hm := ite_t c1 hm
    refine lv_bipush (pc := 9) (v := (-6 : Int32)) hx hb dX9_comes_9 (by decide) ?_
    obtain ⟨e8, e9⟩ := rs2 hm
    subst e8
    subst e9
    exact rk_iret (pc := 11) hx hb hr hlk hS ⟨rfl, hW0, hz⟩ dX9_comes_11
set_option maxHeartbeats 4000000 in
theorem ct_X9_comes {G : Gv} {l : Launch} {b0 : Nat} {v0 : Mem} {i1 : Int32} {i2 : Int32} {i3 : Int32} {i4 : Int32} {rx : Int32} {rw0 : Mem} {sz : Nat} (hm : fX9_comes v0 i1 i2 i3 i4 = some (rx, rw0)) : CT G l yX9_comes (ws_ yX9_comes cX9_comes 7 (some .int)) 5 0 0 125 [.ref b0, .int i1, .int i2, .int i3, .int i4] (iv b0 46) sz (fun H => rg G b0 46 (shX9 G.2.1) v0 H) (fun ov H => ov = (some (.int rx)) ∧ rg G b0 46 (shX9 G.2.1) rw0 H ∧ H.size = sz) := by
  refine Met.ofW (cc := cX9_comes) (maxL := 7) (ret := (some .int)) (by decide +kernel) rfl ?_
  intro p e s m args below meth c s₁ B hml hv
  obtain ⟨rfl, ⟨hz, hW0⟩, hK⟩ := hv
  subst hz
  have hts := atoms_spec (ws := ws_ yX9_comes cX9_comes 7 (some .int)) B.pre
  have hts : ∀ w ∈ lw_all, w.before _ s = true := fun w h => hts w (List.mem_cons_of_mem _ h)
  have C : Cx G p s m _ meth c RX9 cX9_comes 7 (some .int) := ⟨B.exec, B.bytes, B.returns, B.notSynchronized, hml, findClass_of_methodNamed B.named, hts, hK⟩
  have hl := lv_entry ([.ref b0, .int i1, .int i2, .int i3, .int i4]) (n := 7) (Nat.le_of_ble_eq_true rfl)
  rw [lg_entry_eq]
  generalize (lg_sl ([.ref b0, .int i1, .int i2, .int i3, .int i4]) ++ List.replicate (7 - (lg_sl ([.ref b0, .int i1, .int i2, .int i3, .int i4])).length) Slot.unset).toArray = ls at hl ⊢
  have hl : lv_has ls 7 [(0, .ref b0), (1, .int i1), (2, .int i2), (3, .int i3), (4, .int i4)] := hl
  exact w_fX9_comes C _ _ _ _ _ hm s.heap [] ls hW0 va_S.rf rfl hl
noncomputable def fX9_hopeful_4 (V0 : Mem) (k4 : Int32 → Int32 → Option (Int32)) (i1 : Int32) (i2 : Int32) : Option (Int32) :=
  if (gI V0 0 21) ≤ i2 then (
  some i1)
  else (
  gb (inR i2 40) (
  if (gI V0 41 i2.toNatClampNeg) = 0 then (
  k4 i1 (i2 + (1 : Int32)))
  else (
  if i1 < 0 then (
  k4 i2 (i2 + (1 : Int32)))
  else (
  gb (inR i2 40) (
  gb (inR i1 40) (
  gb (inR i1 40) (
  gb (inR i2 40) (
  if ((gL V0 39 i1.toNatClampNeg) * (gL V0 40 i2.toNatClampNeg)) ≤ ((gL V0 39 i2.toNatClampNeg) * (gL V0 40 i1.toNatClampNeg)) then (
  k4 i1 (i2 + (1 : Int32)))
  else (
  k4 i2 (i2 + (1 : Int32)))))))))))
noncomputable def fX9_hopeful (V0 : Mem) : Option (Int32) :=
  lq2 (fX9_hopeful_4 V0) FU (-1 : Int32) (0 : Int32)
set_option maxHeartbeats 4000000 in
theorem w_fX9_hopeful_4 (C : Cx G p s m args meth c RX9 cX9_hopeful 3 (some .int)) {b0 : Nat} {V0 : Mem} {rx : Int32} (hW0 : rg G b0 46 (shX9 G.2.1) V0 s.heap) {k4 : Int32 → Int32 → Option (Int32)} (hk4 : ∀ (i1 : Int32) (i2 : Int32), k4 i1 i2 = some rx → ∀ (ls : Array Slot), lv_has ls 3 [(0, .ref b0), (1, .int i1), (2, .int i2)] → W p l e (rmP 0 0) s m args below meth c s.heap [] 0 0 (MQ below (QcP (some (.int rx))) args s 0 0 (fun _ => False)) (F0 m 4 ls [])) : ∀ (i1 : Int32) (i2 : Int32), fX9_hopeful_4 V0 k4 i1 i2 = some rx → ∀ (ls : Array Slot), lv_has ls 3 [(0, .ref b0), (1, .int i1), (2, .int i2)] → W p l e (rmP 0 0) s m args below meth c s.heap [] 0 0 (MQ below (QcP (some (.int rx))) args s 0 0 (fun _ => False)) (F0 m 4 ls []) := by
  intro i1 i2 hm ls hl
  obtain ⟨hx, hb, hr, hlk, hml, hown, hts, hK⟩ := id C
  unfold fX9_hopeful_4 at hm
  refine lv_iload_n (pc := 4) hx hb dX9_hopeful_4 rfl (lv_at hl 2 rfl) ?_
  refine lv_aload_n (pc := 5) hx hb dX9_hopeful_5 rfl (lv_at hl 0 rfl) ?_
  refine rk_get (pc := 6) hx hb hts hown hK hW0 flX9_371 0 (by decide) rfl rfl (x := .int (gI V0 0 21)) rfl dX9_hopeful_6 ?_
  refine lv_icmp_ge (pc := 9) (tgt := 63) hx hb dX9_hopeful_9 (by decide) (fun c1 => ?_) (fun c1 => ?_)
  · have hm := ite_t c1 hm
    refine lv_iload_n (pc := 63) hx hb dX9_hopeful_63 rfl (lv_at hl 1 rfl) ?_
    have e9 := rs1 hm
    subst e9
    exact rk_iretP (pc := 64) hx hb hr hlk rfl dX9_hopeful_64
  · have hm := ite_f c1 hm
    refine lv_aload_n (pc := 12) hx hb dX9_hopeful_12 rfl (lv_at hl 0 rfl) ?_
    refine rk_get (pc := 13) hx hb hts hown hK hW0 flX9_65 0 (by decide) rfl rfl (x := .ref (b0 + 41)) (by first | rfl | exact congrArg (fun z => some (Value.ref z)) (by omega)) dX9_hopeful_13 ?_
    refine lv_iload_n (pc := 16) hx hb dX9_hopeful_16 rfl (lv_at hl 2 rfl) ?_
    obtain ⟨hg2, hm⟩ := gb_some hm
    refine rk_zald (pc := 17) hx hb hK hW0 41 (by decide) rfl rfl hg2 (x := (gI V0 41 i2.toNatClampNeg)) rfl dX9_hopeful_17 ?_
    refine lv_if_eq (pc := 18) (tgt := 57) hx hb dX9_hopeful_18 (by decide) (fun c3 => ?_) (fun c3 => ?_)
    · have hm := ite_t c3 hm
      refine lv_iinc (pc := 57) (v := (i2 + (1 : Int32))) (lv' := [(2, .int (i2 + (1 : Int32))), (0, .ref b0), (1, .int i1)]) hx hb dX9_hopeful_57 hl (k := 2) rfl rfl (by decide) rfl (fun ls hl => ?_)
      refine lv_goto (pc := 60) (tgt := 4) hx hb dX9_hopeful_60 (by decide) ?_
      exact hk4 i1 (i2 + (1 : Int32)) hm ls (lv_sub hl [1, 2, 0] rfl)
    · have hm := ite_f c3 hm
      refine lv_iload_n (pc := 21) hx hb dX9_hopeful_21 rfl (lv_at hl 1 rfl) ?_
      refine lv_if_lt (pc := 22) (tgt := 55) hx hb dX9_hopeful_22 (by decide) (fun c4 => ?_) (fun c4 => ?_)
      · have hm := ite_t c4 hm
        refine lv_iload_n (pc := 55) hx hb dX9_hopeful_55 rfl (lv_at hl 2 rfl) ?_
        refine lv_istore_n (pc := 56) (lv' := [(1, .int i2), (0, .ref b0), (2, .int i2)]) hx hb dX9_hopeful_56 rfl hl (by decide) rfl (fun ls hl => ?_)
        refine lv_iinc (pc := 57) (v := (i2 + (1 : Int32))) (lv' := [(2, .int (i2 + (1 : Int32))), (1, .int i2), (0, .ref b0)]) hx hb dX9_hopeful_57 hl (k := 2) rfl rfl (by decide) rfl (fun ls hl => ?_)
        refine lv_goto (pc := 60) (tgt := 4) hx hb dX9_hopeful_60 (by decide) ?_
        exact hk4 i2 (i2 + (1 : Int32)) hm ls (lv_sub hl [2, 1, 0] rfl)
      · have hm := ite_f c4 hm
        refine lv_aload_n (pc := 25) hx hb dX9_hopeful_25 rfl (lv_at hl 0 rfl) ?_
        refine rk_get (pc := 26) hx hb hts hown hK hW0 flX9_59 0 (by decide) rfl rfl (x := .ref (b0 + 39)) (by first | rfl | exact congrArg (fun z => some (Value.ref z)) (by omega)) dX9_hopeful_26 ?_
        refine lv_iload_n (pc := 29) hx hb dX9_hopeful_29 rfl (lv_at hl 2 rfl) ?_
        obtain ⟨hg5, hm⟩ := gb_some hm
        refine rk_lald (pc := 30) hx hb hK hW0 39 (by decide) rfl rfl hg5 (x := (gL V0 39 i2.toNatClampNeg)) rfl dX9_hopeful_30 ?_
        refine lv_aload_n (pc := 31) hx hb dX9_hopeful_31 rfl (lv_at hl 0 rfl) ?_
        refine rk_get (pc := 32) hx hb hts hown hK hW0 flX9_62 0 (by decide) rfl rfl (x := .ref (b0 + 40)) (by first | rfl | exact congrArg (fun z => some (Value.ref z)) (by omega)) dX9_hopeful_32 ?_
        refine lv_iload_n (pc := 35) hx hb dX9_hopeful_35 rfl (lv_at hl 1 rfl) ?_
        obtain ⟨hg6, hm⟩ := gb_some hm
        refine rk_lald (pc := 36) hx hb hK hW0 40 (by decide) rfl rfl hg6 (x := (gL V0 40 i1.toNatClampNeg)) rfl dX9_hopeful_36 ?_
        refine lv_lmul (pc := 37) hx hb dX9_hopeful_37 ?_
        refine lv_aload_n (pc := 38) hx hb dX9_hopeful_38 rfl (lv_at hl 0 rfl) ?_
        refine rk_get (pc := 39) hx hb hts hown hK hW0 flX9_59 0 (by decide) rfl rfl (x := .ref (b0 + 39)) (by first | rfl | exact congrArg (fun z => some (Value.ref z)) (by omega)) dX9_hopeful_39 ?_
        refine lv_iload_n (pc := 42) hx hb dX9_hopeful_42 rfl (lv_at hl 1 rfl) ?_
        obtain ⟨hg7, hm⟩ := gb_some hm
        refine rk_lald (pc := 43) hx hb hK hW0 39 (by decide) rfl rfl hg7 (x := (gL V0 39 i1.toNatClampNeg)) rfl dX9_hopeful_43 ?_
        refine lv_aload_n (pc := 44) hx hb dX9_hopeful_44 rfl (lv_at hl 0 rfl) ?_
        refine rk_get (pc := 45) hx hb hts hown hK hW0 flX9_62 0 (by decide) rfl rfl (x := .ref (b0 + 40)) (by first | rfl | exact congrArg (fun z => some (Value.ref z)) (by omega)) dX9_hopeful_45 ?_
        refine lv_iload_n (pc := 48) hx hb dX9_hopeful_48 rfl (lv_at hl 2 rfl) ?_
        obtain ⟨hg8, hm⟩ := gb_some hm
        refine rk_lald (pc := 49) hx hb hK hW0 40 (by decide) rfl rfl hg8 (x := (gL V0 40 i2.toNatClampNeg)) rfl dX9_hopeful_49 ?_
        refine lv_lmul (pc := 50) hx hb dX9_hopeful_50 ?_
        refine rk_lcmp_ge (pc := 51) (tgt := 57) hx hb dX9_hopeful_51 rfl dX9_hopeful_52 (by decide) (fun c9 => ?_) (fun c9 => ?_)
        · have hm := ite_t c9 hm
          refine lv_iinc (pc := 57) (v := (i2 + (1 : Int32))) (lv' := [(2, .int (i2 + (1 : Int32))), (0, .ref b0), (1, .int i1)]) hx hb dX9_hopeful_57 hl (k := 2) rfl rfl (by decide) rfl (fun ls hl => ?_)
          refine lv_goto (pc := 60) (tgt := 4) hx hb dX9_hopeful_60 (by decide) ?_
          exact hk4 i1 (i2 + (1 : Int32)) hm ls (lv_sub hl [1, 2, 0] rfl)
        · have hm := ite_f c9 hm
          refine lv_iload_n (pc := 55) hx hb dX9_hopeful_55 rfl (lv_at hl 2 rfl) ?_
          refine lv_istore_n (pc := 56) (lv' := [(1, .int i2), (0, .ref b0), (2, .int i2)]) hx hb dX9_hopeful_56 rfl hl (by decide) rfl (fun ls hl => ?_)
          refine lv_iinc (pc := 57) (v := (i2 + (1 : Int32))) (lv' := [(2, .int (i2 + (1 : Int32))), (1, .int i2), (0, .ref b0)]) hx hb dX9_hopeful_57 hl (k := 2) rfl rfl (by decide) rfl (fun ls hl => ?_)
          refine lv_goto (pc := 60) (tgt := 4) hx hb dX9_hopeful_60 (by decide) ?_
          exact hk4 i2 (i2 + (1 : Int32)) hm ls (lv_sub hl [2, 1, 0] rfl)
theorem w_fX9_hopeful_4_l (C : Cx G p s m args meth c RX9 cX9_hopeful 3 (some .int)) {b0 : Nat} {V0 : Mem} {rx : Int32} (hW0 : rg G b0 46 (shX9 G.2.1) V0 s.heap) : ∀ (n : Nat) (i1 : Int32) (i2 : Int32), lq2 (fX9_hopeful_4 V0) n i1 i2 = some rx → ∀ (ls : Array Slot), lv_has ls 3 [(0, .ref b0), (1, .int i1), (2, .int i2)] → W p l e (rmP 0 0) s m args below meth c s.heap [] 0 0 (MQ below (QcP (some (.int rx))) args s 0 0 (fun _ => False)) (F0 m 4 ls []) := by
  intro n
  induction n with
  | zero => intro i1 i2 hm; exact (lq2_0 hm).elim
  | succ n ih => intro i1 i2 hm; exact w_fX9_hopeful_4 C hW0 ih i1 i2 (lq2_s hm)
set_option maxHeartbeats 4000000 in
theorem w_fX9_hopeful (C : Cx G p s m args meth c RX9 cX9_hopeful 3 (some .int)) {b0 : Nat} {V0 : Mem} {rx : Int32} (hW0 : rg G b0 46 (shX9 G.2.1) V0 s.heap) : fX9_hopeful V0 = some rx → ∀ (ls : Array Slot), lv_has ls 3 [(0, .ref b0)] → W p l e (rmP 0 0) s m args below meth c s.heap [] 0 0 (MQ below (QcP (some (.int rx))) args s 0 0 (fun _ => False)) (F0 m 0 ls []) := by
  intro hm ls hl
  obtain ⟨hx, hb, hr, hlk, hml, hown, hts, hK⟩ := id C
  unfold fX9_hopeful at hm
  refine lv_iconst (pc := 0) (v := (-1 : Int32)) hx hb dX9_hopeful_0 (by decide) ?_
  refine lv_istore_n (pc := 1) (lv' := [(1, .int (-1 : Int32)), (0, .ref b0)]) hx hb dX9_hopeful_1 rfl hl (by decide) rfl (fun ls hl => ?_)
  refine lv_iconst (pc := 2) (v := (0 : Int32)) hx hb dX9_hopeful_2 (by decide) ?_
  refine lv_istore_n (pc := 3) (lv' := [(2, .int (0 : Int32)), (1, .int (-1 : Int32)), (0, .ref b0)]) hx hb dX9_hopeful_3 rfl hl (by decide) rfl (fun ls hl => ?_)
  exact (w_fX9_hopeful_4_l C hW0 FU) (-1 : Int32) (0 : Int32) hm ls (lv_sub hl [2, 1, 0] rfl)
set_option maxHeartbeats 4000000 in
theorem ct_X9_hopeful {G : Gv} {l : Launch} {b0 : Nat} {V0 : Mem} {rx : Int32} (hm : fX9_hopeful V0  = some rx) : CP G l yX9_hopeful (ws_ yX9_hopeful cX9_hopeful 3 (some .int)) 0 0 [.ref b0] (fun H => rg G b0 46 (shX9 G.2.1) V0 H) (some (.int rx)) := by
  refine Met.ofW (cc := cX9_hopeful) (maxL := 3) (ret := (some .int)) (by decide +kernel) rfl ?_
  intro p e s m args below meth c s₁ B hml hv
  obtain ⟨rfl, hW0, hK⟩ := hv
  have hts := atoms_spec (ws := ws_ yX9_hopeful cX9_hopeful 3 (some .int)) B.pre
  have hts : ∀ w ∈ lw_all, w.before _ s = true := fun w h => hts w (List.mem_cons_of_mem _ h)
  have C : Cx G p s m _ meth c RX9 cX9_hopeful 3 (some .int) := ⟨B.exec, B.bytes, B.returns, B.notSynchronized, hml, findClass_of_methodNamed B.named, hts, hK⟩
  have hl := lv_entry ([.ref b0]) (n := 3) (Nat.le_of_ble_eq_true rfl)
  rw [lg_entry_eq]
  generalize (lg_sl ([.ref b0]) ++ List.replicate (3 - (lg_sl ([.ref b0])).length) Slot.unset).toArray = ls at hl ⊢
  have hl : lv_has ls 3 [(0, .ref b0)] := hl
  exact w_fX9_hopeful C hW0  hm ls hl
noncomputable def fX9_partlyOf_2 (V0 : Mem) (k2 : Int32 → Int32 → Option (Int32)) (i1 : Int32) (i2 : Int32) : Option (Int32) :=
  ob (fX9_n V0) fun r1 =>
  if r1 ≤ i2 then (
  some (-1 : Int32))
  else (
  gb (inR (((5 : Int32) * i1) + i2) 200) (
  gb (inR i1 40) (
  gb (nz64 (gL V0 40 i1.toNatClampNeg)) (
  if ((gL V0 38 (((5 : Int32) * i1) + i2).toNatClampNeg) - (gL V0 38 (((5 : Int32) * i1) + i2).toNatClampNeg) / (gL V0 40 i1.toNatClampNeg) * (gL V0 40 i1.toNatClampNeg)) = (0 : Int64) then (
  k2 i1 (i2 + (1 : Int32)))
  else (
  some i2)))))
noncomputable def fX9_partlyOf (V0 : Mem) (i1 : Int32) : Option (Int32) :=
  lq2 (fX9_partlyOf_2 V0) FU i1 (0 : Int32)
set_option maxHeartbeats 4000000 in
theorem w_fX9_partlyOf_2 (C : Cx G p s m args meth c RX9 cX9_partlyOf 3 (some .int)) {b0 : Nat} {V0 : Mem} {rx : Int32} (hW0 : rg G b0 46 (shX9 G.2.1) V0 s.heap) {k2 : Int32 → Int32 → Option (Int32)} (hk2 : ∀ (i1 : Int32) (i2 : Int32), k2 i1 i2 = some rx → ∀ (ls : Array Slot), lv_has ls 3 [(0, .ref b0), (1, .int i1), (2, .int i2)] → W p l e (rmP 1 20) s m args below meth c s.heap [] 0 0 (MQ below (QcP (some (.int rx))) args s 0 0 (fun _ => False)) (F0 m 2 ls [])) : ∀ (i1 : Int32) (i2 : Int32), fX9_partlyOf_2 V0 k2 i1 i2 = some rx → ∀ (ls : Array Slot), lv_has ls 3 [(0, .ref b0), (1, .int i1), (2, .int i2)] → W p l e (rmP 1 20) s m args below meth c s.heap [] 0 0 (MQ below (QcP (some (.int rx))) args s 0 0 (fun _ => False)) (F0 m 2 ls []) := by
  intro i1 i2 hm ls hl
  obtain ⟨hx, hb, hr, hlk, hml, hown, hts, hK⟩ := id C
  unfold fX9_partlyOf_2 at hm
  refine lv_iload_n (pc := 2) hx hb dX9_partlyOf_2 rfl (lv_at hl 2 rfl) ?_
  refine lv_aload_n (pc := 3) hx hb dX9_partlyOf_3 rfl (lv_at hl 0 rfl) ?_
  obtain ⟨r1, hq2, hm⟩ := ob_some hm
  refine rk_PV (pc := 4) (As := []) (rest := [.int i2]) hx hb hml hown hts hK lkX9_89 rfl yn_X9_n (ct_X9_n (G := G) (l := l) (b0 := b0) hq2) ⟨Nat.le_of_ble_eq_true rfl, Nat.le_of_ble_eq_true rfl⟩ (rk_recv hK hW0 0 (by decide) rfl rfl rfl) (rg_take hW0 (by decide)) rfl rfl hl.1 (Nat.le_of_ble_eq_true rfl) dX9_partlyOf_4 ⟨Nat.zero_le _, Nat.zero_le _⟩ ?_
  refine W.eq (g2 := F0 m 7 ls [.int r1, .int i2]) rfl ?_
  refine lv_icmp_ge (pc := 7) (tgt := 40) hx hb dX9_partlyOf_7 (by decide) (fun c3 => ?_) (fun c3 => ?_)
  · have hm := ite_t c3 hm
    refine lv_iconst (pc := 40) (v := (-1 : Int32)) hx hb dX9_partlyOf_40 (by decide) ?_
    have e9 := rs1 hm
    subst e9
    exact rk_iretP (pc := 41) hx hb hr hlk rfl dX9_partlyOf_41
  · have hm := ite_f c3 hm
    refine lv_aload_n (pc := 10) hx hb dX9_partlyOf_10 rfl (lv_at hl 0 rfl) ?_
    refine rk_get (pc := 11) hx hb hts hown hK hW0 flX9_55 0 (by decide) rfl rfl (x := .ref (b0 + 38)) (by first | rfl | exact congrArg (fun z => some (Value.ref z)) (by omega)) dX9_partlyOf_11 ?_
    refine lv_iconst (pc := 14) (v := (5 : Int32)) hx hb dX9_partlyOf_14 (by decide) ?_
    refine lv_iload_n (pc := 15) hx hb dX9_partlyOf_15 rfl (lv_at hl 1 rfl) ?_
    refine lv_imul (pc := 16) hx hb dX9_partlyOf_16 ?_
    refine lv_iload_n (pc := 17) hx hb dX9_partlyOf_17 rfl (lv_at hl 2 rfl) ?_
    refine lv_iadd (pc := 18) hx hb dX9_partlyOf_18 ?_
    obtain ⟨hg4, hm⟩ := gb_some hm
    refine rk_lald (pc := 19) hx hb hK hW0 38 (by decide) rfl rfl hg4 (x := (gL V0 38 (((5 : Int32) * i1) + i2).toNatClampNeg)) rfl dX9_partlyOf_19 ?_
    refine lv_aload_n (pc := 20) hx hb dX9_partlyOf_20 rfl (lv_at hl 0 rfl) ?_
    refine rk_get (pc := 21) hx hb hts hown hK hW0 flX9_62 0 (by decide) rfl rfl (x := .ref (b0 + 40)) (by first | rfl | exact congrArg (fun z => some (Value.ref z)) (by omega)) dX9_partlyOf_21 ?_
    refine lv_iload_n (pc := 24) hx hb dX9_partlyOf_24 rfl (lv_at hl 1 rfl) ?_
    obtain ⟨hg5, hm⟩ := gb_some hm
    refine rk_lald (pc := 25) hx hb hK hW0 40 (by decide) rfl rfl hg5 (x := (gL V0 40 i1.toNatClampNeg)) rfl dX9_partlyOf_25 ?_
    obtain ⟨hg6, hm⟩ := gb_some hm
    refine lv_lrem (pc := 26) hx hb dX9_partlyOf_26 (nz64_ne hg6) ?_
    refine lv_lconst (pc := 27) (v := (0 : Int64)) hx hb dX9_partlyOf_27 (by decide) ?_
    refine rk_lcmp_eq (pc := 28) (tgt := 34) hx hb dX9_partlyOf_28 rfl dX9_partlyOf_29 (by decide) (fun c7 => ?_) (fun c7 => ?_)
    · have hm := ite_t c7 hm
      refine lv_iinc (pc := 34) (v := (i2 + (1 : Int32))) (lv' := [(2, .int (i2 + (1 : Int32))), (0, .ref b0), (1, .int i1)]) hx hb dX9_partlyOf_34 hl (k := 2) rfl rfl (by decide) rfl (fun ls hl => ?_)
      refine lv_goto (pc := 37) (tgt := 2) hx hb dX9_partlyOf_37 (by decide) ?_
      exact hk2 i1 (i2 + (1 : Int32)) hm ls (lv_sub hl [1, 2, 0] rfl)
    · have hm := ite_f c7 hm
      refine lv_iload_n (pc := 32) hx hb dX9_partlyOf_32 rfl (lv_at hl 2 rfl) ?_
      have e9 := rs1 hm
      subst e9
      exact rk_iretP (pc := 33) hx hb hr hlk rfl dX9_partlyOf_33
theorem w_fX9_partlyOf_2_l (C : Cx G p s m args meth c RX9 cX9_partlyOf 3 (some .int)) {b0 : Nat} {V0 : Mem} {rx : Int32} (hW0 : rg G b0 46 (shX9 G.2.1) V0 s.heap) : ∀ (n : Nat) (i1 : Int32) (i2 : Int32), lq2 (fX9_partlyOf_2 V0) n i1 i2 = some rx → ∀ (ls : Array Slot), lv_has ls 3 [(0, .ref b0), (1, .int i1), (2, .int i2)] → W p l e (rmP 1 20) s m args below meth c s.heap [] 0 0 (MQ below (QcP (some (.int rx))) args s 0 0 (fun _ => False)) (F0 m 2 ls []) := by
  intro n
  induction n with
  | zero => intro i1 i2 hm; exact (lq2_0 hm).elim
  | succ n ih => intro i1 i2 hm; exact w_fX9_partlyOf_2 C hW0 ih i1 i2 (lq2_s hm)
set_option maxHeartbeats 4000000 in
theorem w_fX9_partlyOf (C : Cx G p s m args meth c RX9 cX9_partlyOf 3 (some .int)) {b0 : Nat} {V0 : Mem} {rx : Int32} (hW0 : rg G b0 46 (shX9 G.2.1) V0 s.heap) : ∀ (i1 : Int32), fX9_partlyOf V0 i1 = some rx → ∀ (ls : Array Slot), lv_has ls 3 [(0, .ref b0), (1, .int i1)] → W p l e (rmP 1 20) s m args below meth c s.heap [] 0 0 (MQ below (QcP (some (.int rx))) args s 0 0 (fun _ => False)) (F0 m 0 ls []) := by
  intro i1 hm ls hl
  obtain ⟨hx, hb, hr, hlk, hml, hown, hts, hK⟩ := id C
  unfold fX9_partlyOf at hm
  refine lv_iconst (pc := 0) (v := (0 : Int32)) hx hb dX9_partlyOf_0 (by decide) ?_
  refine lv_istore_n (pc := 1) (lv' := [(2, .int (0 : Int32)), (0, .ref b0), (1, .int i1)]) hx hb dX9_partlyOf_1 rfl hl (by decide) rfl (fun ls hl => ?_)
  exact (w_fX9_partlyOf_2_l C hW0 FU) i1 (0 : Int32) hm ls (lv_sub hl [1, 2, 0] rfl)
set_option maxHeartbeats 4000000 in
theorem ct_X9_partlyOf {G : Gv} {l : Launch} {b0 : Nat} {V0 : Mem} {i1 : Int32} {rx : Int32} (hm : fX9_partlyOf V0 i1 = some rx) : CP G l yX9_partlyOf (ws_ yX9_partlyOf cX9_partlyOf 3 (some .int)) 1 20 [.ref b0, .int i1] (fun H => rg G b0 46 (shX9 G.2.1) V0 H) (some (.int rx)) := by
  refine Met.ofW (cc := cX9_partlyOf) (maxL := 3) (ret := (some .int)) (by decide +kernel) rfl ?_
  intro p e s m args below meth c s₁ B hml hv
  obtain ⟨rfl, hW0, hK⟩ := hv
  have hts := atoms_spec (ws := ws_ yX9_partlyOf cX9_partlyOf 3 (some .int)) B.pre
  have hts : ∀ w ∈ lw_all, w.before _ s = true := fun w h => hts w (List.mem_cons_of_mem _ h)
  have C : Cx G p s m _ meth c RX9 cX9_partlyOf 3 (some .int) := ⟨B.exec, B.bytes, B.returns, B.notSynchronized, hml, findClass_of_methodNamed B.named, hts, hK⟩
  have hl := lv_entry ([.ref b0, .int i1]) (n := 3) (Nat.le_of_ble_eq_true rfl)
  rw [lg_entry_eq]
  generalize (lg_sl ([.ref b0, .int i1]) ++ List.replicate (3 - (lg_sl ([.ref b0, .int i1])).length) Slot.unset).toArray = ls at hl ⊢
  have hl : lv_has ls 3 [(0, .ref b0), (1, .int i1)] := hl
  exact w_fX9_partlyOf C hW0 _ hm ls hl
theorem yn_X9_comes : YN yX9_comes 4 := by
  unfold YN
  decide +kernel
theorem lkX9_384 : LV RX9 384 RX9 yX9_comes cX9_comes 7 (some .int) := ⟨q2235, q2237, qs97, q128, q2238⟩
theorem yn_X9_hopeful : YN yX9_hopeful 0 := by
  unfold YN
  decide +kernel
theorem lkX9_388 : LV RX9 388 RX9 yX9_hopeful cX9_hopeful 3 (some .int) := ⟨q2247, q2249, qs100, q128, q2250⟩
theorem flX9_391 : FL RX9 391 9 23 RX9 TX9 29 := ⟨in_X9, rfl, by decide, q1850⟩
theorem yn_X9_partlyOf : YN yX9_partlyOf 1 := by
  unfold YN
  decide +kernel
theorem lkX9_394 : LV RX9 394 RX9 yX9_partlyOf cX9_partlyOf 3 (some .int) := ⟨q2251, q2253, qs101, q128, q2254⟩
noncomputable def fX9_branches_19 (k19 : Mem → Int32 → Option (Int32 × Mem)) (v0 : Mem) (i1 : Int32) : Option (Int32 × Mem) :=
  if i1 = (1 : Int32) then (
  ob (fX9_hopeful v0) fun r29 =>
  if 0 ≤ r29 then (
  gb (inR r29 40) (
  lm (sI v0 41 r29.toNatClampNeg (0 : Int32)) fun v0_33 =>
  lm (sI v0_33 0 23 r29) fun v0_41 =>
  ob (fX9_partlyOf v0_41 r29) fun r49 =>
  if 0 ≤ r49 then (
  gb (inR (((5 : Int32) * r29) + r49) 200) (
  gb (inR r29 40) (
  gb (nz64 (gL v0_41 40 r29.toNatClampNeg)) (
  ob2 (fX9_comes v0_41 r29 r49 (0 : Int32) ((gL v0_41 38 (((5 : Int32) * r29) + r49).toNatClampNeg) / (gL v0_41 40 r29.toNatClampNeg)).toInt32) fun r55 w56 =>
  if r55 = (1 : Int32) then (
  ob2 (fX9_comes w56 r29 r49 (((gL v0_41 38 (((5 : Int32) * r29) + r49).toNatClampNeg) / (gL v0_41 40 r29.toNatClampNeg)).toInt32 + (1 : Int32)) (-1 : Int32)) fun r67 w68 =>
  k19 w68 r67)
  else (
  k19 w56 r55)))))
  else (
  some ((1 : Int32), v0_41))))
  else (
  some ((-5 : Int32), v0)))
  else (
  some (i1, v0))
noncomputable def fX9_branches (v0 : Mem) : Option (Int32 × Mem) :=
  lm (sI v0 0 21 (0 : Int32)) fun v0_1 =>
  lm (sI v0_1 0 22 (0 : Int32)) fun v0_9 =>
  ob2 (fX9_comes v0_9 (-1 : Int32) (0 : Int32) (0 : Int32) (-1 : Int32)) fun r17 w18 =>
  lq2 (fX9_branches_19) FU w18 r17
set_option maxHeartbeats 4000000 in
theorem w_fX9_branches_19 (C : Cx G p s m args meth c RX9 cX9_branches 5 (some .int)) {b0 : Nat} {rx : Int32} {rw0 : Mem} {k19 : Mem → Int32 → Option (Int32 × Mem)} (hk19 : ∀ (v0 : Mem) (i1 : Int32), k19 v0 i1 = some (rx, rw0) → ∀ (H : Heap) (locs : List Loc) (ls : Array Slot), rg G b0 46 (shX9 G.2.1) v0 H → va_S (FA (iv b0 46) s.heap.size) s.heap H locs → H.size = s.heap.size → lv_has ls 5 [(0, .ref b0), (1, .int i1)] → W p l e (rmT 6 0 0 151) s m args below meth c H locs 0 0 (MQ below (QcT (FA (iv b0 46) s.heap.size) (fun ov H => ov = (some (.int rx)) ∧ rg G b0 46 (shX9 G.2.1) rw0 H ∧ H.size = s.heap.size)) args s 0 0 (FA (iv b0 46) s.heap.size)) (F0 m 19 ls [])) : ∀ (v0 : Mem) (i1 : Int32), fX9_branches_19 k19 v0 i1 = some (rx, rw0) → ∀ (H : Heap) (locs : List Loc) (ls : Array Slot), rg G b0 46 (shX9 G.2.1) v0 H → va_S (FA (iv b0 46) s.heap.size) s.heap H locs → H.size = s.heap.size → lv_has ls 5 [(0, .ref b0), (1, .int i1)] → W p l e (rmT 6 0 0 151) s m args below meth c H locs 0 0 (MQ below (QcT (FA (iv b0 46) s.heap.size) (fun ov H => ov = (some (.int rx)) ∧ rg G b0 46 (shX9 G.2.1) rw0 H ∧ H.size = s.heap.size)) args s 0 0 (FA (iv b0 46) s.heap.size)) (F0 m 19 ls []) := by
  intro v0 i1 hm H locs ls hW0 hS hz hl
  obtain ⟨hx, hb, hr, hlk, hml, hown, hts, hK⟩ := id C
  unfold fX9_branches_19 at hm
  refine lv_iload_n (pc := 19) hx hb dX9_branches_19 rfl (lv_at hl 1 rfl) ?_
  refine lv_iconst (pc := 20) (v := (1 : Int32)) hx hb dX9_branches_20 (by decide) ?_
  refine lv_icmp_ne (pc := 21) (tgt := 110) hx hb dX9_branches_21 (by decide) (fun c28 => ?_) (fun c28 => ?_)
  · have hm := ite_f c28 hm
    refine lv_iload_n (pc := 110) hx hb dX9_branches_110 rfl (lv_at hl 1 rfl) ?_
    obtain ⟨e8, e9⟩ := rs2 hm
    subst e8
    subst e9
    exact rk_iret (pc := 111) hx hb hr hlk hS ⟨rfl, hW0, hz⟩ dX9_branches_111
  · have hm := ite_t c28 hm
    refine lv_aload_n (pc := 24) hx hb dX9_branches_24 rfl (lv_at hl 0 rfl) ?_
    obtain ⟨r29, hq30, hm⟩ := ob_some hm
    refine rk_PV (pc := 25) (As := []) (rest := []) hx hb hml hown hts hK lkX9_388 rfl yn_X9_hopeful (ct_X9_hopeful (G := G) (l := l) (b0 := b0) hq30) ⟨Nat.le_of_ble_eq_true rfl, Nat.le_of_ble_eq_true rfl⟩ (rk_recv hK hW0 0 (by decide) rfl rfl rfl) hW0 rfl rfl hl.1 (Nat.le_of_ble_eq_true rfl) dX9_branches_25 ⟨Nat.zero_le _, Nat.zero_le _⟩ ?_
    refine W.eq (g2 := F0 m 28 ls [.int r29]) rfl ?_
    refine lv_istore_n (pc := 28) (lv' := [(2, .int r29), (0, .ref b0), (1, .int i1)]) hx hb dX9_branches_28 rfl hl (by decide) rfl (fun ls hl => ?_)
    refine lv_iload_n (pc := 29) hx hb dX9_branches_29 rfl (lv_at hl 0 rfl) ?_
    refine lv_if_ge (pc := 30) (tgt := 36) hx hb dX9_branches_30 (by decide) (fun c31 => ?_) (fun c31 => ?_)
    · have hm := ite_t c31 hm
      refine lv_aload_n (pc := 36) hx hb dX9_branches_36 rfl (lv_at hl 1 rfl) ?_
      refine rk_get (pc := 37) hx hb hts hown hK hW0 flX9_65 0 (by decide) rfl rfl (x := .ref (b0 + 41)) (by first | rfl | exact congrArg (fun z => some (Value.ref z)) (by omega)) dX9_branches_37 ?_
      refine lv_iload_n (pc := 40) hx hb dX9_branches_40 rfl (lv_at hl 0 rfl) ?_
      refine lv_iconst (pc := 41) (v := (0 : Int32)) hx hb dX9_branches_41 (by decide) ?_
      obtain ⟨hg32, hm⟩ := gb_some hm
      refine rk_zast (pc := 42) hx hb hK hW0 hS 41 (by decide) rfl (Or.inl (show iv _ _ _ from ⟨by omega, by omega⟩)) (fun _ _ _ => rfl) hg32 rfl dX9_branches_42 (fun H34 locs35 hW36 hS37 hz38 hkp39 => ?_)
      obtain ⟨v0_33, he9, hm⟩ := lm_some hm
      rw [he9] at hW36
      have hz40 := hz38.trans hz
      refine lv_aload_n (pc := 43) hx hb dX9_branches_43 rfl (lv_at hl 1 rfl) ?_
      refine lv_iload_n (pc := 44) hx hb dX9_branches_44 rfl (lv_at hl 0 rfl) ?_
      refine rk_put (pc := 45) hx hb hts hown hK hW36 hS37 flX9_391 ft_X9 0 (by decide) rfl (Or.inl (show iv _ _ _ from ⟨by omega, by omega⟩)) rfl rfl (x := .int r29) rfl rfl (Nat.le_of_ble_eq_true rfl) (sI v0_33 0 23 r29) sI_ne (by rw [sI_eq]; exact rfl) dX9_branches_45 (fun H42 locs43 hW44 hS45 hz46 hkp47 => ?_)
      obtain ⟨v0_41, he9, hm⟩ := lm_some hm
      rw [he9] at hW44
      have hz48 := hz46.trans hz40
      refine lv_aload_n (pc := 48) hx hb dX9_branches_48 rfl (lv_at hl 1 rfl) ?_
      refine lv_iload_n (pc := 49) hx hb dX9_branches_49 rfl (lv_at hl 0 rfl) ?_
      obtain ⟨r49, hq50, hm⟩ := ob_some hm
      refine rk_PV (pc := 50) (As := [.int r29]) (rest := []) hx hb hml hown hts hK lkX9_394 rfl yn_X9_partlyOf (ct_X9_partlyOf (G := G) (l := l) (b0 := b0) hq50) ⟨Nat.le_of_ble_eq_true rfl, Nat.le_of_ble_eq_true rfl⟩ (rk_recv hK hW44 0 (by decide) rfl rfl rfl) hW44 rfl rfl hl.1 (Nat.le_of_ble_eq_true rfl) dX9_branches_50 ⟨Nat.zero_le _, Nat.zero_le _⟩ ?_
      refine W.eq (g2 := F0 m 53 ls [.int r49]) rfl ?_
      refine lv_istore_n (pc := 53) (lv' := [(3, .int r49), (2, .int r29), (0, .ref b0), (1, .int i1)]) hx hb dX9_branches_53 rfl hl (by decide) rfl (fun ls hl => ?_)
      refine lv_iload_n (pc := 54) hx hb dX9_branches_54 rfl (lv_at hl 0 rfl) ?_
      refine lv_if_ge (pc := 55) (tgt := 60) hx hb dX9_branches_55 (by decide) (fun c51 => ?_) (fun c51 => ?_)
      · have hm := ite_t c51 hm
        refine lv_aload_n (pc := 60) hx hb dX9_branches_60 rfl (lv_at hl 2 rfl) ?_
        refine rk_get (pc := 61) hx hb hts hown hK hW44 flX9_55 0 (by decide) rfl rfl (x := .ref (b0 + 38)) (by first | rfl | exact congrArg (fun z => some (Value.ref z)) (by omega)) dX9_branches_61 ?_
        refine lv_iconst (pc := 64) (v := (5 : Int32)) hx hb dX9_branches_64 (by decide) ?_
        refine lv_iload_n (pc := 65) hx hb dX9_branches_65 rfl (lv_at hl 1 rfl) ?_
        refine lv_imul (pc := 66) hx hb dX9_branches_66 ?_
        refine lv_iload_n (pc := 67) hx hb dX9_branches_67 rfl (lv_at hl 0 rfl) ?_
        refine lv_iadd (pc := 68) hx hb dX9_branches_68 ?_
        obtain ⟨hg52, hm⟩ := gb_some hm
        refine rk_lald (pc := 69) hx hb hK hW44 38 (by decide) rfl rfl hg52 (x := (gL v0_41 38 (((5 : Int32) * r29) + r49).toNatClampNeg)) rfl dX9_branches_69 ?_
        refine lv_aload_n (pc := 70) hx hb dX9_branches_70 rfl (lv_at hl 2 rfl) ?_
        refine rk_get (pc := 71) hx hb hts hown hK hW44 flX9_62 0 (by decide) rfl rfl (x := .ref (b0 + 40)) (by first | rfl | exact congrArg (fun z => some (Value.ref z)) (by omega)) dX9_branches_71 ?_
        refine lv_iload_n (pc := 74) hx hb dX9_branches_74 rfl (lv_at hl 1 rfl) ?_
        obtain ⟨hg53, hm⟩ := gb_some hm
        refine rk_lald (pc := 75) hx hb hK hW44 40 (by decide) rfl rfl hg53 (x := (gL v0_41 40 r29.toNatClampNeg)) rfl dX9_branches_75 ?_
        obtain ⟨hg54, hm⟩ := gb_some hm
        refine lv_ldiv (pc := 76) hx hb dX9_branches_76 (nz64_ne hg54) ?_
        refine lv_l2i (pc := 77) hx hb dX9_branches_77 rfl ?_
        refine lv_istore (pc := 78) (lv' := [(4, .int ((gL v0_41 38 (((5 : Int32) * r29) + r49).toNatClampNeg) / (gL v0_41 40 r29.toNatClampNeg)).toInt32), (3, .int r49), (2, .int r29), (0, .ref b0), (1, .int i1)]) hx hb dX9_branches_78 hl (by decide) rfl (fun ls hl => ?_)
        refine lv_aload_n (pc := 80) hx hb dX9_branches_80 rfl (lv_at hl 3 rfl) ?_
        refine lv_iload_n (pc := 81) hx hb dX9_branches_81 rfl (lv_at hl 2 rfl) ?_
        refine lv_iload_n (pc := 82) hx hb dX9_branches_82 rfl (lv_at hl 1 rfl) ?_
        refine lv_iconst (pc := 83) (v := (0 : Int32)) hx hb dX9_branches_83 (by decide) ?_
        refine lv_iload (pc := 84) hx hb dX9_branches_84 (lv_at hl 0 rfl) ?_
        obtain ⟨r55, w56, hq57, hm⟩ := ob2_some hm
        refine rk_TV (pc := 86) (As := [.int r29, .int r49, .int (0 : Int32), .int ((gL v0_41 38 (((5 : Int32) * r29) + r49).toNatClampNeg) / (gL v0_41 40 r29.toNatClampNeg)).toInt32]) (rest := []) (mc := 0) (ms := 0) hx hb hml hown hts hK hS45 (fun q hq => FA_sz rfl q hq) lkX9_384 rfl yn_X9_comes (ct_X9_comes (G := G) (l := l) (b0 := b0) (sz := H42.size) hq57) ⟨Nat.le_of_ble_eq_true rfl, Nat.le_of_ble_eq_true rfl⟩ (fun z h => Or.inl (show iv _ _ _ from ⟨by have h8 := h.1; have h9 := h.2; omega, by have h8 := h.1; have h9 := h.2; omega⟩)) (rk_recv hK hW44 0 (by decide) rfl rfl rfl) hW44 rfl rfl hl.1 (Nat.le_of_ble_eq_true rfl) dX9_branches_86 ⟨Nat.zero_le _, Nat.zero_le _⟩ (fun ov9 H58 locs59 hP60 hkp61 hS62 => ?_)
        obtain ⟨rfl, hW63, hz64⟩ := hP60
        have hz65 := hz64.trans hz48
        refine W.eq (g2 := F0 m 89 ls [.int r55]) rfl ?_
        refine lv_istore_n (pc := 89) (lv' := [(1, .int r55), (4, .int ((gL v0_41 38 (((5 : Int32) * r29) + r49).toNatClampNeg) / (gL v0_41 40 r29.toNatClampNeg)).toInt32), (3, .int r49), (2, .int r29), (0, .ref b0)]) hx hb dX9_branches_89 rfl hl (by decide) rfl (fun ls hl => ?_)
        refine lv_iload_n (pc := 90) hx hb dX9_branches_90 rfl (lv_at hl 0 rfl) ?_
        refine lv_iconst (pc := 91) (v := (1 : Int32)) hx hb dX9_branches_91 (by decide) ?_
        refine lv_icmp_ne (pc := 92) (tgt := 107) hx hb dX9_branches_92 (by decide) (fun c66 => ?_) (fun c66 => ?_)
        · have hm := ite_f c66 hm
          refine lv_goto (pc := 107) (tgt := 19) hx hb dX9_branches_107 (by decide) ?_
          exact hk19 w56 r55 hm H58 locs59 ls hW63 hS62 hz65 (lv_sub hl [4, 0] rfl)
        · have hm := ite_t c66 hm
          refine lv_aload_n (pc := 95) hx hb dX9_branches_95 rfl (lv_at hl 4 rfl) ?_
          refine lv_iload_n (pc := 96) hx hb dX9_branches_96 rfl (lv_at hl 3 rfl) ?_
          refine lv_iload_n (pc := 97) hx hb dX9_branches_97 rfl (lv_at hl 2 rfl) ?_
          refine lv_iload (pc := 98) hx hb dX9_branches_98 (lv_at hl 1 rfl) ?_
          refine lv_iconst (pc := 100) (v := (1 : Int32)) hx hb dX9_branches_100 (by decide) ?_
          refine lv_iadd (pc := 101) hx hb dX9_branches_101 ?_
          refine lv_iconst (pc := 102) (v := (-1 : Int32)) hx hb dX9_branches_102 (by decide) ?_
          obtain ⟨r67, w68, hq69, hm⟩ := ob2_some hm
          refine rk_TV (pc := 103) (As := [.int r29, .int r49, .int (((gL v0_41 38 (((5 : Int32) * r29) + r49).toNatClampNeg) / (gL v0_41 40 r29.toNatClampNeg)).toInt32 + (1 : Int32)), .int (-1 : Int32)]) (rest := []) (mc := 0) (ms := 0) hx hb hml hown hts hK hS62 (fun q hq => FA_sz rfl q hq) lkX9_384 rfl yn_X9_comes (ct_X9_comes (G := G) (l := l) (b0 := b0) (sz := H58.size) hq69) ⟨Nat.le_of_ble_eq_true rfl, Nat.le_of_ble_eq_true rfl⟩ (fun z h => Or.inl (show iv _ _ _ from ⟨by have h8 := h.1; have h9 := h.2; omega, by have h8 := h.1; have h9 := h.2; omega⟩)) (rk_recv hK hW63 0 (by decide) rfl rfl rfl) hW63 rfl rfl hl.1 (Nat.le_of_ble_eq_true rfl) dX9_branches_103 ⟨Nat.zero_le _, Nat.zero_le _⟩ (fun ov9 H70 locs71 hP72 hkp73 hS74 => ?_)
          obtain ⟨rfl, hW75, hz76⟩ := hP72
          have hz77 := hz76.trans hz65
          refine W.eq (g2 := F0 m 106 ls [.int r67]) rfl ?_
          refine lv_istore_n (pc := 106) (lv' := [(1, .int r67), (4, .int ((gL v0_41 38 (((5 : Int32) * r29) + r49).toNatClampNeg) / (gL v0_41 40 r29.toNatClampNeg)).toInt32), (3, .int r49), (2, .int r29), (0, .ref b0)]) hx hb dX9_branches_106 rfl hl (by decide) rfl (fun ls hl => ?_)
          refine lv_goto (pc := 107) (tgt := 19) hx hb dX9_branches_107 (by decide) ?_
          exact hk19 w68 r67 hm H70 locs71 ls hW75 hS74 hz77 (lv_sub hl [4, 0] rfl)
      · have hm := ite_f c51 hm
        refine lv_iconst (pc := 58) (v := (1 : Int32)) hx hb dX9_branches_58 (by decide) ?_
        obtain ⟨e8, e9⟩ := rs2 hm
        subst e8
        subst e9
        exact rk_iret (pc := 59) hx hb hr hlk hS45 ⟨rfl, hW44, hz48⟩ dX9_branches_59
    · have hm := ite_f c31 hm
      refine lv_bipush (pc := 33) (v := (-5 : Int32)) hx hb dX9_branches_33 (by decide) ?_
      obtain ⟨e8, e9⟩ := rs2 hm
      subst e8
      subst e9
      exact rk_iret (pc := 35) hx hb hr hlk hS ⟨rfl, hW0, hz⟩ dX9_branches_35
theorem w_fX9_branches_19_l (C : Cx G p s m args meth c RX9 cX9_branches 5 (some .int)) {b0 : Nat} {rx : Int32} {rw0 : Mem} : ∀ (n : Nat) (v0 : Mem) (i1 : Int32), lq2 (fX9_branches_19) n v0 i1 = some (rx, rw0) → ∀ (H : Heap) (locs : List Loc) (ls : Array Slot), rg G b0 46 (shX9 G.2.1) v0 H → va_S (FA (iv b0 46) s.heap.size) s.heap H locs → H.size = s.heap.size → lv_has ls 5 [(0, .ref b0), (1, .int i1)] → W p l e (rmT 6 0 0 151) s m args below meth c H locs 0 0 (MQ below (QcT (FA (iv b0 46) s.heap.size) (fun ov H => ov = (some (.int rx)) ∧ rg G b0 46 (shX9 G.2.1) rw0 H ∧ H.size = s.heap.size)) args s 0 0 (FA (iv b0 46) s.heap.size)) (F0 m 19 ls []) := by
  intro n
  induction n with
  | zero => intro v0 i1 hm; exact (lq2_0 hm).elim
  | succ n ih => intro v0 i1 hm; exact w_fX9_branches_19 C ih v0 i1 (lq2_s hm)
set_option maxHeartbeats 4000000 in
theorem w_fX9_branches (C : Cx G p s m args meth c RX9 cX9_branches 5 (some .int)) {b0 : Nat} {rx : Int32} {rw0 : Mem} : ∀ (v0 : Mem), fX9_branches v0 = some (rx, rw0) → ∀ (H : Heap) (locs : List Loc) (ls : Array Slot), rg G b0 46 (shX9 G.2.1) v0 H → va_S (FA (iv b0 46) s.heap.size) s.heap H locs → H.size = s.heap.size → lv_has ls 5 [(0, .ref b0)] → W p l e (rmT 6 0 0 151) s m args below meth c H locs 0 0 (MQ below (QcT (FA (iv b0 46) s.heap.size) (fun ov H => ov = (some (.int rx)) ∧ rg G b0 46 (shX9 G.2.1) rw0 H ∧ H.size = s.heap.size)) args s 0 0 (FA (iv b0 46) s.heap.size)) (F0 m 0 ls []) := by
  intro v0 hm H locs ls hW0 hS hz hl
  obtain ⟨hx, hb, hr, hlk, hml, hown, hts, hK⟩ := id C
  unfold fX9_branches at hm
  refine lv_aload_n (pc := 0) hx hb dX9_branches_0 rfl (lv_at hl 0 rfl) ?_
  refine lv_iconst (pc := 1) (v := (0 : Int32)) hx hb dX9_branches_1 (by decide) ?_
  refine rk_put (pc := 2) hx hb hts hown hK hW0 hS flX9_371 ft_X9 0 (by decide) rfl (Or.inl (show iv _ _ _ from ⟨by omega, by omega⟩)) rfl rfl (x := .int (0 : Int32)) rfl rfl (Nat.le_of_ble_eq_true rfl) (sI v0 0 21 (0 : Int32)) sI_ne (by rw [sI_eq]; exact rfl) dX9_branches_2 (fun H2 locs3 hW4 hS5 hz6 hkp7 => ?_)
  obtain ⟨v0_1, he9, hm⟩ := lm_some hm
  rw [he9] at hW4
  have hz8 := hz6.trans hz
  refine lv_aload_n (pc := 5) hx hb dX9_branches_5 rfl (lv_at hl 0 rfl) ?_
  refine lv_iconst (pc := 6) (v := (0 : Int32)) hx hb dX9_branches_6 (by decide) ?_
  refine rk_put (pc := 7) hx hb hts hown hK hW4 hS5 flX9_381 ft_X9 0 (by decide) rfl (Or.inl (show iv _ _ _ from ⟨by omega, by omega⟩)) rfl rfl (x := .int (0 : Int32)) rfl rfl (Nat.le_of_ble_eq_true rfl) (sI v0_1 0 22 (0 : Int32)) sI_ne (by rw [sI_eq]; exact rfl) dX9_branches_7 (fun H10 locs11 hW12 hS13 hz14 hkp15 => ?_)
  obtain ⟨v0_9, he9, hm⟩ := lm_some hm
  rw [he9] at hW12
  have hz16 := hz14.trans hz8
  refine lv_aload_n (pc := 10) hx hb dX9_branches_10 rfl (lv_at hl 0 rfl) ?_
  refine lv_iconst (pc := 11) (v := (-1 : Int32)) hx hb dX9_branches_11 (by decide) ?_
  refine lv_iconst (pc := 12) (v := (0 : Int32)) hx hb dX9_branches_12 (by decide) ?_
  refine lv_iconst (pc := 13) (v := (0 : Int32)) hx hb dX9_branches_13 (by decide) ?_
  refine lv_iconst (pc := 14) (v := (-1 : Int32)) hx hb dX9_branches_14 (by decide) ?_
  obtain ⟨r17, w18, hq19, hm⟩ := ob2_some hm
  refine rk_TV (pc := 15) (As := [.int (-1 : Int32), .int (0 : Int32), .int (0 : Int32), .int (-1 : Int32)]) (rest := []) (mc := 0) (ms := 0) hx hb hml hown hts hK hS13 (fun q hq => FA_sz rfl q hq) lkX9_384 rfl yn_X9_comes (ct_X9_comes (G := G) (l := l) (b0 := b0) (sz := H10.size) hq19) ⟨Nat.le_of_ble_eq_true rfl, Nat.le_of_ble_eq_true rfl⟩ (fun z h => Or.inl (show iv _ _ _ from ⟨by have h8 := h.1; have h9 := h.2; omega, by have h8 := h.1; have h9 := h.2; omega⟩)) (rk_recv hK hW12 0 (by decide) rfl rfl rfl) hW12 rfl rfl hl.1 (Nat.le_of_ble_eq_true rfl) dX9_branches_15 ⟨Nat.zero_le _, Nat.zero_le _⟩ (fun ov9 H20 locs21 hP22 hkp23 hS24 => ?_)
  obtain ⟨rfl, hW25, hz26⟩ := hP22
  have hz27 := hz26.trans hz16
  refine W.eq (g2 := F0 m 18 ls [.int r17]) rfl ?_
  refine lv_istore_n (pc := 18) (lv' := [(1, .int r17), (0, .ref b0)]) hx hb dX9_branches_18 rfl hl (by decide) rfl (fun ls hl => ?_)
  exact (w_fX9_branches_19_l C FU) w18 r17 hm H20 locs21 ls hW25 hS24 hz27 (lv_sub hl [1, 0] rfl)
set_option maxHeartbeats 4000000 in
theorem ct_X9_branches {G : Gv} {l : Launch} {b0 : Nat} {v0 : Mem} {rx : Int32} {rw0 : Mem} {sz : Nat} (hm : fX9_branches v0 = some (rx, rw0)) : CT G l yX9_branches (ws_ yX9_branches cX9_branches 5 (some .int)) 6 0 0 151 [.ref b0] (iv b0 46) sz (fun H => rg G b0 46 (shX9 G.2.1) v0 H) (fun ov H => ov = (some (.int rx)) ∧ rg G b0 46 (shX9 G.2.1) rw0 H ∧ H.size = sz) := by
  refine Met.ofW (cc := cX9_branches) (maxL := 5) (ret := (some .int)) (by decide +kernel) rfl ?_
  intro p e s m args below meth c s₁ B hml hv
  obtain ⟨rfl, ⟨hz, hW0⟩, hK⟩ := hv
  subst hz
  have hts := atoms_spec (ws := ws_ yX9_branches cX9_branches 5 (some .int)) B.pre
  have hts : ∀ w ∈ lw_all, w.before _ s = true := fun w h => hts w (List.mem_cons_of_mem _ h)
  have C : Cx G p s m _ meth c RX9 cX9_branches 5 (some .int) := ⟨B.exec, B.bytes, B.returns, B.notSynchronized, hml, findClass_of_methodNamed B.named, hts, hK⟩
  have hl := lv_entry ([.ref b0]) (n := 5) (Nat.le_of_ble_eq_true rfl)
  rw [lg_entry_eq]
  generalize (lg_sl ([.ref b0]) ++ List.replicate (5 - (lg_sl ([.ref b0])).length) Slot.unset).toArray = ls at hl ⊢
  have hl : lv_has ls 5 [(0, .ref b0)] := hl
  exact w_fX9_branches C _ hm s.heap [] ls hW0 va_S.rf rfl hl
end
