set_option maxRecDepth 100000
section
variable {p : Program} {l : Launch} {e : Env} {s : State} {m : MethodId} {args : Array Value} {below : List Frame} {meth : Method} {c : Code} {G : Gv}
theorem flX3_51 : FL RX3 51 3 4 RX3 TX3 12 := ⟨in_X3, rfl, by decide, q283⟩
noncomputable def fX3_brokenPack_2 (V0 : Mem) (k2 : Int32 → Option (Int32)) (i1 : Int32) : Option (Int32) :=
  if (gI V0 0 0) ≤ i1 then (
  some (-1 : Int32))
  else (
  ob (fX3_right V0 i1) fun r2 =>
  gb (nz64 (gL V0 0 4)) (
  if (r2 - r2 / (gL V0 0 4) * (gL V0 0 4)) = (0 : Int64) then (
  k2 (i1 + (1 : Int32)))
  else (
  some i1)))
noncomputable def fX3_brokenPack (V0 : Mem) : Option (Int32) :=
  lq1 (fX3_brokenPack_2 V0) FU (0 : Int32)
set_option maxHeartbeats 4000000 in
theorem w_fX3_brokenPack_2 (C : Cx G p s m args meth c RX3 cX3_brokenPack 2 (some .int)) {b0 : Nat} {V0 : Mem} {rx : Int32} (hW0 : rg G b0 43 (shX3 G.2.1) V0 s.heap) {k2 : Int32 → Option (Int32)} (hk2 : ∀ (i1 : Int32), k2 i1 = some rx → ∀ (ls : Array Slot), lv_has ls 2 [(0, .ref b0), (1, .int i1)] → W p l e (rmP 2 44) s m args below meth c s.heap [] 0 0 (MQ below (QcP (some (.int rx))) args s 0 0 (fun _ => False)) (F0 m 2 ls [])) : ∀ (i1 : Int32), fX3_brokenPack_2 V0 k2 i1 = some rx → ∀ (ls : Array Slot), lv_has ls 2 [(0, .ref b0), (1, .int i1)] → W p l e (rmP 2 44) s m args below meth c s.heap [] 0 0 (MQ below (QcP (some (.int rx))) args s 0 0 (fun _ => False)) (F0 m 2 ls []) := by
  intro i1 hm ls hl
  obtain ⟨hx, hb, hr, hlk, hml, hown, hts, hK⟩ := id C
  unfold fX3_brokenPack_2 at hm
  refine lv_iload_n (pc := 2) hx hb dX3_brokenPack_2 rfl (lv_at hl 1 rfl) ?_
  refine lv_aload_n (pc := 3) hx hb dX3_brokenPack_3 rfl (lv_at hl 0 rfl) ?_
  refine rk_get (pc := 4) hx hb hts hown hK hW0 flX3_44 0 (by decide) rfl rfl (x := .int (gI V0 0 0)) rfl dX3_brokenPack_4 ?_
  refine lv_icmp_ge (pc := 7) (tgt := 33) hx hb dX3_brokenPack_7 (by decide) (fun c1 => ?_) (fun c1 => ?_)
  · have hm := ite_t c1 hm
    refine lv_iconst (pc := 33) (v := (-1 : Int32)) hx hb dX3_brokenPack_33 (by decide) ?_
    have e9 := rs1 hm
    subst e9
    exact rk_iretP (pc := 34) hx hb hr hlk rfl dX3_brokenPack_34
  · have hm := ite_f c1 hm
    refine lv_aload_n (pc := 10) hx hb dX3_brokenPack_10 rfl (lv_at hl 0 rfl) ?_
    refine lv_iload_n (pc := 11) hx hb dX3_brokenPack_11 rfl (lv_at hl 1 rfl) ?_
    obtain ⟨r2, hq3, hm⟩ := ob_some hm
    refine rk_PV (pc := 12) (As := [.int i1]) (rest := []) hx hb hml hown hts hK lkX3_183 rfl yn_X3_right (ct_X3_right (G := G) (l := l) (b0 := b0) hq3) ⟨Nat.le_of_ble_eq_true rfl, Nat.le_of_ble_eq_true rfl⟩ (rk_recv hK hW0 0 (by decide) rfl rfl rfl) hW0 rfl rfl hl.1 (Nat.le_of_ble_eq_true rfl) dX3_brokenPack_12 ⟨Nat.zero_le _, Nat.zero_le _⟩ ?_
    refine W.eq (g2 := F0 m 15 ls [.long r2]) rfl ?_
    refine lv_aload_n (pc := 15) hx hb dX3_brokenPack_15 rfl (lv_at hl 0 rfl) ?_
    refine rk_get (pc := 16) hx hb hts hown hK hW0 flX3_51 0 (by decide) rfl rfl (x := .long (gL V0 0 4)) rfl dX3_brokenPack_16 ?_
    obtain ⟨hg4, hm⟩ := gb_some hm
    refine lv_lrem (pc := 19) hx hb dX3_brokenPack_19 (nz64_ne hg4) ?_
    refine lv_lconst (pc := 20) (v := (0 : Int64)) hx hb dX3_brokenPack_20 (by decide) ?_
    refine rk_lcmp_eq (pc := 21) (tgt := 27) hx hb dX3_brokenPack_21 rfl dX3_brokenPack_22 (by decide) (fun c5 => ?_) (fun c5 => ?_)
    · have hm := ite_t c5 hm
      refine lv_iinc (pc := 27) (v := (i1 + (1 : Int32))) (lv' := [(1, .int (i1 + (1 : Int32))), (0, .ref b0)]) hx hb dX3_brokenPack_27 hl (k := 1) rfl rfl (by decide) rfl (fun ls hl => ?_)
      refine lv_goto (pc := 30) (tgt := 2) hx hb dX3_brokenPack_30 (by decide) ?_
      exact hk2 (i1 + (1 : Int32)) hm ls (lv_sub hl [1, 0] rfl)
    · have hm := ite_f c5 hm
      refine lv_iload_n (pc := 25) hx hb dX3_brokenPack_25 rfl (lv_at hl 1 rfl) ?_
      have e9 := rs1 hm
      subst e9
      exact rk_iretP (pc := 26) hx hb hr hlk rfl dX3_brokenPack_26
theorem w_fX3_brokenPack_2_l (C : Cx G p s m args meth c RX3 cX3_brokenPack 2 (some .int)) {b0 : Nat} {V0 : Mem} {rx : Int32} (hW0 : rg G b0 43 (shX3 G.2.1) V0 s.heap) : ∀ (n : Nat) (i1 : Int32), lq1 (fX3_brokenPack_2 V0) n i1 = some rx → ∀ (ls : Array Slot), lv_has ls 2 [(0, .ref b0), (1, .int i1)] → W p l e (rmP 2 44) s m args below meth c s.heap [] 0 0 (MQ below (QcP (some (.int rx))) args s 0 0 (fun _ => False)) (F0 m 2 ls []) := by
  intro n
  induction n with
  | zero => intro i1 hm; exact (lq1_0 hm).elim
  | succ n ih => intro i1 hm; exact w_fX3_brokenPack_2 C hW0 ih i1 (lq1_s hm)
set_option maxHeartbeats 4000000 in
theorem w_fX3_brokenPack (C : Cx G p s m args meth c RX3 cX3_brokenPack 2 (some .int)) {b0 : Nat} {V0 : Mem} {rx : Int32} (hW0 : rg G b0 43 (shX3 G.2.1) V0 s.heap) : fX3_brokenPack V0 = some rx → ∀ (ls : Array Slot), lv_has ls 2 [(0, .ref b0)] → W p l e (rmP 2 44) s m args below meth c s.heap [] 0 0 (MQ below (QcP (some (.int rx))) args s 0 0 (fun _ => False)) (F0 m 0 ls []) := by
  intro hm ls hl
  obtain ⟨hx, hb, hr, hlk, hml, hown, hts, hK⟩ := id C
  unfold fX3_brokenPack at hm
  refine lv_iconst (pc := 0) (v := (0 : Int32)) hx hb dX3_brokenPack_0 (by decide) ?_
  refine lv_istore_n (pc := 1) (lv' := [(1, .int (0 : Int32)), (0, .ref b0)]) hx hb dX3_brokenPack_1 rfl hl (by decide) rfl (fun ls hl => ?_)
  exact (w_fX3_brokenPack_2_l C hW0 FU) (0 : Int32) hm ls (lv_sub hl [1, 0] rfl)
set_option maxHeartbeats 4000000 in
theorem ct_X3_brokenPack {G : Gv} {l : Launch} {b0 : Nat} {V0 : Mem} {rx : Int32} (hm : fX3_brokenPack V0  = some rx) : CP G l yX3_brokenPack (ws_ yX3_brokenPack cX3_brokenPack 2 (some .int)) 2 44 [.ref b0] (fun H => rg G b0 43 (shX3 G.2.1) V0 H) (some (.int rx)) := by
  refine Met.ofW (cc := cX3_brokenPack) (maxL := 2) (ret := (some .int)) (by decide +kernel) rfl ?_
  intro p e s m args below meth c s₁ B hml hv
  obtain ⟨rfl, hW0, hK⟩ := hv
  have hts := atoms_spec (ws := ws_ yX3_brokenPack cX3_brokenPack 2 (some .int)) B.pre
  have hts : ∀ w ∈ lw_all, w.before _ s = true := fun w h => hts w (List.mem_cons_of_mem _ h)
  have C : Cx G p s m _ meth c RX3 cX3_brokenPack 2 (some .int) := ⟨B.exec, B.bytes, B.returns, B.notSynchronized, hml, findClass_of_methodNamed B.named, hts, hK⟩
  have hl := lv_entry ([.ref b0]) (n := 2) (Nat.le_of_ble_eq_true rfl)
  rw [lg_entry_eq]
  generalize (lg_sl ([.ref b0]) ++ List.replicate (2 - (lg_sl ([.ref b0])).length) Slot.unset).toArray = ls at hl ⊢
  have hl : lv_has ls 2 [(0, .ref b0)] := hl
  exact w_fX3_brokenPack C hW0  hm ls hl
theorem yn_X3_brokenPack : YN yX3_brokenPack 0 := by
  unfold YN
  decide +kernel
theorem lkX8_45 : LV RX8 45 RX3 yX3_brokenPack cX3_brokenPack 2 (some .int) := ⟨q1240, q1241, q1242, q117, q1243⟩
theorem flX8_49 : FL RX8 49 8 4 RX8 TX8 8 := ⟨in_X8, rfl, by decide, q470⟩
theorem fnX8_52 : FN RX8 52 3 0 RX3 TX3 12 "WholePacks" := ⟨in_X3, rfl, by decide, q274⟩
theorem flX8_18 : FL RX8 18 8 7 RX8 TX8 8 := ⟨in_X8, rfl, by decide, q476⟩
theorem lkX8_55 : LV RX8 55 RX3 yX3_right cX3_right 3 (some .long) := ⟨q1245, q903, q904, q117, q905⟩
noncomputable def fX8_reads_26 (V1 : Mem) (k26 : Mem → Int32 → Option (Mem)) (v0 : Mem) (i2 : Int32) : Option (Mem) :=
  if (gI V1 0 0) ≤ i2 then (
  some v0)
  else (
  ob (fX3_right V1 i2) fun r31 =>
  gb (nz64 (gL V1 0 4)) (
  gb (inR i2 5) (
  lm (sI v0 3 i2.toNatClampNeg (r31 / (gL V1 0 4)).toInt32) fun v0_35 =>
  k26 v0_35 (i2 + (1 : Int32)))))
noncomputable def fX8_reads (V1 : Mem) (v0 : Mem) : Option (Mem) :=
  lm (sL v0 0 2 (gL V1 0 5)) fun v0_1 =>
  lm (sL v0_1 0 3 (gL V1 0 4)) fun v0_10 =>
  ob (fX3_brokenPack V1) fun r19 =>
  lm (sI v0_10 0 4 r19) fun v0_21 =>
  lq2 (fX8_reads_26 V1) FU v0_21 (0 : Int32)
set_option maxHeartbeats 4000000 in
theorem w_fX8_reads_26 (C : Cx G p s m args meth c RX8 cX8_reads 3 none) {b0 : Nat} {b1 : Nat} {V1 : Mem} {rw0 : Mem} (hd01 : b0 + 4 ≤ b1 ∨ b1 + 43 ≤ b0) {k26 : Mem → Int32 → Option (Mem)} (hk26 : ∀ (v0 : Mem) (i2 : Int32), k26 v0 i2 = some rw0 → ∀ (H : Heap) (locs : List Loc) (ls : Array Slot), rg G b0 4 (shX8 G.2.1) v0 H → rg G b1 43 (shX3 G.2.1) V1 H → va_S (FA (iv b0 4) s.heap.size) s.heap H locs → H.size = s.heap.size → lv_has ls 3 [(0, .ref b0), (1, .ref b1), (2, .int i2)] → W p l e (rmT 3 0 0 65) s m args below meth c H locs 0 0 (MQ below (QcT (FA (iv b0 4) s.heap.size) (fun ov H => ov = none ∧ rg G b0 4 (shX8 G.2.1) rw0 H ∧ H.size = s.heap.size)) args s 0 0 (FA (iv b0 4) s.heap.size)) (F0 m 26 ls [])) : ∀ (v0 : Mem) (i2 : Int32), fX8_reads_26 V1 k26 v0 i2 = some rw0 → ∀ (H : Heap) (locs : List Loc) (ls : Array Slot), rg G b0 4 (shX8 G.2.1) v0 H → rg G b1 43 (shX3 G.2.1) V1 H → va_S (FA (iv b0 4) s.heap.size) s.heap H locs → H.size = s.heap.size → lv_has ls 3 [(0, .ref b0), (1, .ref b1), (2, .int i2)] → W p l e (rmT 3 0 0 65) s m args below meth c H locs 0 0 (MQ below (QcT (FA (iv b0 4) s.heap.size) (fun ov H => ov = none ∧ rg G b0 4 (shX8 G.2.1) rw0 H ∧ H.size = s.heap.size)) args s 0 0 (FA (iv b0 4) s.heap.size)) (F0 m 26 ls []) := by
  intro v0 i2 hm H locs ls hW0 hW1 hS hz hl
  obtain ⟨hx, hb, hr, hlk, hml, hown, hts, hK⟩ := id C
  unfold fX8_reads_26 at hm
  refine lv_iload_n (pc := 26) hx hb dX8_reads_26 rfl (lv_at hl 2 rfl) ?_
  refine lv_aload_n (pc := 27) hx hb dX8_reads_27 rfl (lv_at hl 1 rfl) ?_
  refine rk_getN (pc := 28) hx hb hts hown hK hW1 fnX8_52 0 (by decide) rfl rfl (x := .int (gI V1 0 0)) rfl dX8_reads_28 ?_
  refine lv_icmp_ge (pc := 31) (tgt := 57) hx hb dX8_reads_31 (by decide) (fun c30 => ?_) (fun c30 => ?_)
  · have hm := ite_t c30 hm
    have e9 := rs1 hm
    subst e9
    exact rk_vret (pc := 57) hx hb hr hlk hS ⟨rfl, hW0, hz⟩ dX8_reads_57
  · have hm := ite_f c30 hm
    refine lv_aload_n (pc := 34) hx hb dX8_reads_34 rfl (lv_at hl 0 rfl) ?_
    refine rk_get (pc := 35) hx hb hts hown hK hW0 flX8_18 0 (by decide) rfl rfl (x := .ref (b0 + 3)) (by first | rfl | exact congrArg (fun z => some (Value.ref z)) (by omega)) dX8_reads_35 ?_
    refine lv_iload_n (pc := 38) hx hb dX8_reads_38 rfl (lv_at hl 2 rfl) ?_
    refine lv_aload_n (pc := 39) hx hb dX8_reads_39 rfl (lv_at hl 1 rfl) ?_
    refine lv_iload_n (pc := 40) hx hb dX8_reads_40 rfl (lv_at hl 2 rfl) ?_
    obtain ⟨r31, hq32, hm⟩ := ob_some hm
    refine rk_PV (pc := 41) (As := [.int i2]) (rest := [.int i2, .ref (b0 + 3)]) hx hb hml hown hts hK lkX8_55 rfl yn_X3_right (ct_X3_right (G := G) (l := l) (b0 := b1) hq32) ⟨Nat.le_of_ble_eq_true rfl, Nat.le_of_ble_eq_true rfl⟩ (rk_recv hK hW1 0 (by decide) rfl rfl rfl) hW1 rfl rfl hl.1 (Nat.le_of_ble_eq_true rfl) dX8_reads_41 ⟨Nat.zero_le _, Nat.zero_le _⟩ ?_
    refine W.eq (g2 := F0 m 44 ls [.long r31, .int i2, .ref (b0 + 3)]) rfl ?_
    refine lv_aload_n (pc := 44) hx hb dX8_reads_44 rfl (lv_at hl 1 rfl) ?_
    refine rk_getN (pc := 45) hx hb hts hown hK hW1 fnX8_41 0 (by decide) rfl rfl (x := .long (gL V1 0 4)) rfl dX8_reads_45 ?_
    obtain ⟨hg33, hm⟩ := gb_some hm
    refine lv_ldiv (pc := 48) hx hb dX8_reads_48 (nz64_ne hg33) ?_
    refine lv_l2i (pc := 49) hx hb dX8_reads_49 rfl ?_
    obtain ⟨hg34, hm⟩ := gb_some hm
    refine rk_iast (pc := 50) hx hb hK hW0 hS 3 (by decide) rfl (Or.inl (show iv _ _ _ from ⟨by omega, by omega⟩)) (fun _ _ _ => rfl) hg34 dX8_reads_50 (fun H36 locs37 hW38 hS39 hz40 hkp41 => ?_)
    obtain ⟨v0_35, he9, hm⟩ := lm_some hm
    rw [he9] at hW38
    have hW42 := rg_keepq hW1 hkp41 (by omega)
    have hz43 := hz40.trans hz
    refine lv_iinc (pc := 51) (v := (i2 + (1 : Int32))) (lv' := [(2, .int (i2 + (1 : Int32))), (0, .ref b0), (1, .ref b1)]) hx hb dX8_reads_51 hl (k := 2) rfl rfl (by decide) rfl (fun ls hl => ?_)
    refine lv_goto (pc := 54) (tgt := 26) hx hb dX8_reads_54 (by decide) ?_
    exact hk26 v0_35 (i2 + (1 : Int32)) hm H36 locs37 ls hW38 hW42 hS39 hz43 (lv_sub hl [1, 2, 0] rfl)
theorem w_fX8_reads_26_l (C : Cx G p s m args meth c RX8 cX8_reads 3 none) {b0 : Nat} {b1 : Nat} {V1 : Mem} {rw0 : Mem} (hd01 : b0 + 4 ≤ b1 ∨ b1 + 43 ≤ b0) : ∀ (n : Nat) (v0 : Mem) (i2 : Int32), lq2 (fX8_reads_26 V1) n v0 i2 = some rw0 → ∀ (H : Heap) (locs : List Loc) (ls : Array Slot), rg G b0 4 (shX8 G.2.1) v0 H → rg G b1 43 (shX3 G.2.1) V1 H → va_S (FA (iv b0 4) s.heap.size) s.heap H locs → H.size = s.heap.size → lv_has ls 3 [(0, .ref b0), (1, .ref b1), (2, .int i2)] → W p l e (rmT 3 0 0 65) s m args below meth c H locs 0 0 (MQ below (QcT (FA (iv b0 4) s.heap.size) (fun ov H => ov = none ∧ rg G b0 4 (shX8 G.2.1) rw0 H ∧ H.size = s.heap.size)) args s 0 0 (FA (iv b0 4) s.heap.size)) (F0 m 26 ls []) := by
  intro n
  induction n with
  | zero => intro v0 i2 hm; exact (lq2_0 hm).elim
  | succ n ih => intro v0 i2 hm; exact w_fX8_reads_26 C hd01 ih v0 i2 (lq2_s hm)
set_option maxHeartbeats 4000000 in
theorem w_fX8_reads (C : Cx G p s m args meth c RX8 cX8_reads 3 none) {b0 : Nat} {b1 : Nat} {V1 : Mem} {rw0 : Mem} (hd01 : b0 + 4 ≤ b1 ∨ b1 + 43 ≤ b0) : ∀ (v0 : Mem), fX8_reads V1 v0 = some rw0 → ∀ (H : Heap) (locs : List Loc) (ls : Array Slot), rg G b0 4 (shX8 G.2.1) v0 H → rg G b1 43 (shX3 G.2.1) V1 H → va_S (FA (iv b0 4) s.heap.size) s.heap H locs → H.size = s.heap.size → lv_has ls 3 [(0, .ref b0), (1, .ref b1)] → W p l e (rmT 3 0 0 65) s m args below meth c H locs 0 0 (MQ below (QcT (FA (iv b0 4) s.heap.size) (fun ov H => ov = none ∧ rg G b0 4 (shX8 G.2.1) rw0 H ∧ H.size = s.heap.size)) args s 0 0 (FA (iv b0 4) s.heap.size)) (F0 m 0 ls []) := by
  intro v0 hm H locs ls hW0 hW1 hS hz hl
  obtain ⟨hx, hb, hr, hlk, hml, hown, hts, hK⟩ := id C
  unfold fX8_reads at hm
  refine lv_aload_n (pc := 0) hx hb dX8_reads_0 rfl (lv_at hl 0 rfl) ?_
  refine lv_aload_n (pc := 1) hx hb dX8_reads_1 rfl (lv_at hl 1 rfl) ?_
  refine rk_getN (pc := 2) hx hb hts hown hK hW1 fnX8_34 0 (by decide) rfl rfl (x := .long (gL V1 0 5)) rfl dX8_reads_2 ?_
  refine rk_put (pc := 5) hx hb hts hown hK hW0 hS flX8_40 ft_X8 0 (by decide) rfl (Or.inl (show iv _ _ _ from ⟨by omega, by omega⟩)) rfl rfl (x := .long (gL V1 0 5)) rfl rfl (Nat.le_of_ble_eq_true rfl) (sL v0 0 2 (gL V1 0 5)) sL_ne (by rw [sL_eq]; exact rfl) dX8_reads_5 (fun H2 locs3 hW4 hS5 hz6 hkp7 => ?_)
  obtain ⟨v0_1, he9, hm⟩ := lm_some hm
  rw [he9] at hW4
  have hW8 := rg_keepq hW1 hkp7 (by omega)
  have hz9 := hz6.trans hz
  refine lv_aload_n (pc := 8) hx hb dX8_reads_8 rfl (lv_at hl 0 rfl) ?_
  refine lv_aload_n (pc := 9) hx hb dX8_reads_9 rfl (lv_at hl 1 rfl) ?_
  refine rk_getN (pc := 10) hx hb hts hown hK hW8 fnX8_41 0 (by decide) rfl rfl (x := .long (gL V1 0 4)) rfl dX8_reads_10 ?_
  refine rk_put (pc := 13) hx hb hts hown hK hW4 hS5 flX8_44 ft_X8 0 (by decide) rfl (Or.inl (show iv _ _ _ from ⟨by omega, by omega⟩)) rfl rfl (x := .long (gL V1 0 4)) rfl rfl (Nat.le_of_ble_eq_true rfl) (sL v0_1 0 3 (gL V1 0 4)) sL_ne (by rw [sL_eq]; exact rfl) dX8_reads_13 (fun H11 locs12 hW13 hS14 hz15 hkp16 => ?_)
  obtain ⟨v0_10, he9, hm⟩ := lm_some hm
  rw [he9] at hW13
  have hW17 := rg_keepq hW8 hkp16 (by omega)
  have hz18 := hz15.trans hz9
  refine lv_aload_n (pc := 16) hx hb dX8_reads_16 rfl (lv_at hl 0 rfl) ?_
  refine lv_aload_n (pc := 17) hx hb dX8_reads_17 rfl (lv_at hl 1 rfl) ?_
  obtain ⟨r19, hq20, hm⟩ := ob_some hm
  refine rk_PV (pc := 18) (As := []) (rest := [.ref b0]) hx hb hml hown hts hK lkX8_45 rfl yn_X3_brokenPack (ct_X3_brokenPack (G := G) (l := l) (b0 := b1) hq20) ⟨Nat.le_of_ble_eq_true rfl, Nat.le_of_ble_eq_true rfl⟩ (rk_recv hK hW17 0 (by decide) rfl rfl rfl) hW17 rfl rfl hl.1 (Nat.le_of_ble_eq_true rfl) dX8_reads_18 ⟨Nat.zero_le _, Nat.zero_le _⟩ ?_
  refine W.eq (g2 := F0 m 21 ls [.int r19, .ref b0]) rfl ?_
  refine rk_put (pc := 21) hx hb hts hown hK hW13 hS14 flX8_49 ft_X8 0 (by decide) rfl (Or.inl (show iv _ _ _ from ⟨by omega, by omega⟩)) rfl rfl (x := .int r19) rfl rfl (Nat.le_of_ble_eq_true rfl) (sI v0_10 0 4 r19) sI_ne (by rw [sI_eq]; exact rfl) dX8_reads_21 (fun H22 locs23 hW24 hS25 hz26 hkp27 => ?_)
  obtain ⟨v0_21, he9, hm⟩ := lm_some hm
  rw [he9] at hW24
  have hW28 := rg_keepq hW17 hkp27 (by omega)
  have hz29 := hz26.trans hz18
  refine lv_iconst (pc := 24) (v := (0 : Int32)) hx hb dX8_reads_24 (by decide) ?_
  refine lv_istore_n (pc := 25) (lv' := [(2, .int (0 : Int32)), (0, .ref b0), (1, .ref b1)]) hx hb dX8_reads_25 rfl hl (by decide) rfl (fun ls hl => ?_)
  exact (w_fX8_reads_26_l C hd01 FU) v0_21 (0 : Int32) hm H22 locs23 ls hW24 hW28 hS25 hz29 (lv_sub hl [1, 2, 0] rfl)
set_option maxHeartbeats 4000000 in
theorem ct_X8_reads {G : Gv} {l : Launch} {b0 : Nat} {b1 : Nat} {V1 : Mem} {v0 : Mem} {rw0 : Mem} {sz : Nat} (hm : fX8_reads V1 v0 = some rw0) (hd01 : b0 + 4 ≤ b1 ∨ b1 + 43 ≤ b0) : CT G l yX8_reads (ws_ yX8_reads cX8_reads 3 none) 3 0 0 65 [.ref b0, .ref b1] (iv b0 4) sz (fun H => rg G b0 4 (shX8 G.2.1) v0 H ∧ rg G b1 43 (shX3 G.2.1) V1 H) (fun ov H => ov = none ∧ rg G b0 4 (shX8 G.2.1) rw0 H ∧ H.size = sz) := by
  refine Met.ofW (cc := cX8_reads) (maxL := 3) (ret := none) (by decide +kernel) rfl ?_
  intro p e s m args below meth c s₁ B hml hv
  obtain ⟨rfl, ⟨hz, hW0, hW1⟩, hK⟩ := hv
  subst hz
  have hts := atoms_spec (ws := ws_ yX8_reads cX8_reads 3 none) B.pre
  have hts : ∀ w ∈ lw_all, w.before _ s = true := fun w h => hts w (List.mem_cons_of_mem _ h)
  have C : Cx G p s m _ meth c RX8 cX8_reads 3 none := ⟨B.exec, B.bytes, B.returns, B.notSynchronized, hml, findClass_of_methodNamed B.named, hts, hK⟩
  have hl := lv_entry ([.ref b0, .ref b1]) (n := 3) (Nat.le_of_ble_eq_true rfl)
  rw [lg_entry_eq]
  generalize (lg_sl ([.ref b0, .ref b1]) ++ List.replicate (3 - (lg_sl ([.ref b0, .ref b1])).length) Slot.unset).toArray = ls at hl ⊢
  have hl : lv_has ls 3 [(0, .ref b0), (1, .ref b1)] := hl
  exact w_fX8_reads C hd01 _ hm s.heap [] ls hW0 hW1 va_S.rf rfl hl
theorem flX8_21 : FL RX8 21 8 0 RX8 TX8 8 := ⟨in_X8, rfl, by decide, q463⟩
noncomputable def fX8_compareTo_2 (V0 : Mem) (V1 : Mem) : Option (Int32) :=
  if ((gL V0 0 2) * (gL V1 0 3)) = ((gL V1 0 2) * (gL V0 0 3)) then (
  if (gI V1 0 0) ≤ (gI V0 0 0) then (
  if (gI V0 0 0) = (gI V1 0 0) then (
  some (0 : Int32))
  else (
  some (1 : Int32)))
  else (
  some (-1 : Int32)))
  else (
  if ((gL V1 0 2) * (gL V0 0 3)) ≤ ((gL V0 0 2) * (gL V1 0 3)) then (
  some (1 : Int32))
  else (
  some (-1 : Int32)))
set_option maxHeartbeats 4000000 in
theorem w_fX8_compareTo_2 (C : Cx G p s m args meth c RX8 cX8_compareTo_2 6 (some .int)) {b0 : Nat} {b1 : Nat} {V0 : Mem} {V1 : Mem} {rx : Int32} (hW0 : rg G b0 4 (shX8 G.2.1) V0 s.heap) (hW1 : rg G b1 4 (shX8 G.2.1) V1 s.heap) : fX8_compareTo_2 V0 V1 = some rx → ∀ (ls : Array Slot), lv_has ls 6 [(0, .ref b0), (1, .ref b1)] → W p l e (rmP 0 0) s m args below meth c s.heap [] 0 0 (MQ below (QcP (some (.int rx))) args s 0 0 (fun _ => False)) (F0 m 0 ls []) := by
  intro hm ls hl
  obtain ⟨hx, hb, hr, hlk, hml, hown, hts, hK⟩ := id C
  unfold fX8_compareTo_2 at hm
  refine lv_aload_n (pc := 0) hx hb dX8_compareTo_2_0 rfl (lv_at hl 0 rfl) ?_
  refine rk_get (pc := 1) hx hb hts hown hK hW0 flX8_40 0 (by decide) rfl rfl (x := .long (gL V0 0 2)) rfl dX8_compareTo_2_1 ?_
  refine lv_aload_n (pc := 4) hx hb dX8_compareTo_2_4 rfl (lv_at hl 1 rfl) ?_
  refine rk_get (pc := 5) hx hb hts hown hK hW1 flX8_44 0 (by decide) rfl rfl (x := .long (gL V1 0 3)) rfl dX8_compareTo_2_5 ?_
  refine lv_lmul (pc := 8) hx hb dX8_compareTo_2_8 ?_
  refine lv_lstore_n (pc := 9) (lv' := [(2, .long ((gL V0 0 2) * (gL V1 0 3))), (0, .ref b0), (1, .ref b1)]) hx hb dX8_compareTo_2_9 rfl hl (by decide) rfl (fun ls hl => ?_)
  refine lv_aload_n (pc := 10) hx hb dX8_compareTo_2_10 rfl (lv_at hl 2 rfl) ?_
  refine rk_get (pc := 11) hx hb hts hown hK hW1 flX8_40 0 (by decide) rfl rfl (x := .long (gL V1 0 2)) rfl dX8_compareTo_2_11 ?_
  refine lv_aload_n (pc := 14) hx hb dX8_compareTo_2_14 rfl (lv_at hl 1 rfl) ?_
  refine rk_get (pc := 15) hx hb hts hown hK hW0 flX8_44 0 (by decide) rfl rfl (x := .long (gL V0 0 3)) rfl dX8_compareTo_2_15 ?_
  refine lv_lmul (pc := 18) hx hb dX8_compareTo_2_18 ?_
  refine lv_lstore (pc := 19) (lv' := [(4, .long ((gL V1 0 2) * (gL V0 0 3))), (2, .long ((gL V0 0 2) * (gL V1 0 3))), (0, .ref b0), (1, .ref b1)]) hx hb dX8_compareTo_2_19 hl (by decide) rfl (fun ls hl => ?_)
  refine lv_lload_n (pc := 21) hx hb dX8_compareTo_2_21 rfl (lv_at hl 1 rfl) ?_
  refine lv_lload (pc := 22) hx hb dX8_compareTo_2_22 (lv_at hl 0 rfl) ?_
  refine rk_lcmp_eq (pc := 24) (tgt := 41) hx hb dX8_compareTo_2_24 rfl dX8_compareTo_2_25 (by decide) (fun c1 => ?_) (fun c1 => ?_)
  · have hm := ite_t c1 hm
    refine lv_aload_n (pc := 41) hx hb dX8_compareTo_2_41 rfl (lv_at hl 2 rfl) ?_
    refine rk_get (pc := 42) hx hb hts hown hK hW0 flX8_21 0 (by decide) rfl rfl (x := .int (gI V0 0 0)) rfl dX8_compareTo_2_42 ?_
    refine lv_aload_n (pc := 45) hx hb dX8_compareTo_2_45 rfl (lv_at hl 3 rfl) ?_
    refine rk_get (pc := 46) hx hb hts hown hK hW1 flX8_21 0 (by decide) rfl rfl (x := .int (gI V1 0 0)) rfl dX8_compareTo_2_46 ?_
    refine lv_icmp_ge (pc := 49) (tgt := 56) hx hb dX8_compareTo_2_49 (by decide) (fun c2 => ?_) (fun c2 => ?_)
    · have hm := ite_t c2 hm
      refine lv_aload_n (pc := 56) hx hb dX8_compareTo_2_56 rfl (lv_at hl 2 rfl) ?_
      refine rk_get (pc := 57) hx hb hts hown hK hW0 flX8_21 0 (by decide) rfl rfl (x := .int (gI V0 0 0)) rfl dX8_compareTo_2_57 ?_
      refine lv_aload_n (pc := 60) hx hb dX8_compareTo_2_60 rfl (lv_at hl 3 rfl) ?_
      refine rk_get (pc := 61) hx hb hts hown hK hW1 flX8_21 0 (by decide) rfl rfl (x := .int (gI V1 0 0)) rfl dX8_compareTo_2_61 ?_
      refine lv_icmp_ne (pc := 64) (tgt := 71) hx hb dX8_compareTo_2_64 (by decide) (fun c3 => ?_) (fun c3 => ?_)
      · have hm := ite_f c3 hm
        refine lv_iconst (pc := 71) (v := (1 : Int32)) hx hb dX8_compareTo_2_71 (by decide) ?_
        have e9 := rs1 hm
        subst e9
        exact rk_iretP (pc := 72) hx hb hr hlk rfl dX8_compareTo_2_72
      · have hm := ite_t c3 hm
        refine lv_iconst (pc := 67) (v := (0 : Int32)) hx hb dX8_compareTo_2_67 (by decide) ?_
        refine lv_goto (pc := 68) (tgt := 72) hx hb dX8_compareTo_2_68 (by decide) ?_
        have e9 := rs1 hm
        subst e9
        exact rk_iretP (pc := 72) hx hb hr hlk rfl dX8_compareTo_2_72
    · have hm := ite_f c2 hm
      refine lv_iconst (pc := 52) (v := (-1 : Int32)) hx hb dX8_compareTo_2_52 (by decide) ?_
      refine lv_goto (pc := 53) (tgt := 72) hx hb dX8_compareTo_2_53 (by decide) ?_
      have e9 := rs1 hm
      subst e9
      exact rk_iretP (pc := 72) hx hb hr hlk rfl dX8_compareTo_2_72
  · have hm := ite_f c1 hm
    refine lv_lload_n (pc := 28) hx hb dX8_compareTo_2_28 rfl (lv_at hl 1 rfl) ?_
    refine lv_lload (pc := 29) hx hb dX8_compareTo_2_29 (lv_at hl 0 rfl) ?_
    refine rk_lcmp_ge (pc := 31) (tgt := 39) hx hb dX8_compareTo_2_31 rfl dX8_compareTo_2_32 (by decide) (fun c4 => ?_) (fun c4 => ?_)
    · have hm := ite_t c4 hm
      refine lv_iconst (pc := 39) (v := (1 : Int32)) hx hb dX8_compareTo_2_39 (by decide) ?_
      have e9 := rs1 hm
      subst e9
      exact rk_iretP (pc := 40) hx hb hr hlk rfl dX8_compareTo_2_40
    · have hm := ite_f c4 hm
      refine lv_iconst (pc := 35) (v := (-1 : Int32)) hx hb dX8_compareTo_2_35 (by decide) ?_
      refine lv_goto (pc := 36) (tgt := 40) hx hb dX8_compareTo_2_36 (by decide) ?_
      have e9 := rs1 hm
      subst e9
      exact rk_iretP (pc := 40) hx hb hr hlk rfl dX8_compareTo_2_40
set_option maxHeartbeats 4000000 in
theorem ct_X8_compareTo_2 {G : Gv} {l : Launch} {b0 : Nat} {b1 : Nat} {V0 : Mem} {V1 : Mem} {rx : Int32} (hm : fX8_compareTo_2 V0 V1  = some rx) : CP G l yX8_compareTo_2 (ws_ yX8_compareTo_2 cX8_compareTo_2 6 (some .int)) 0 0 [.ref b0, .ref b1] (fun H => rg G b0 4 (shX8 G.2.1) V0 H ∧ rg G b1 4 (shX8 G.2.1) V1 H) (some (.int rx)) := by
  refine Met.ofW (cc := cX8_compareTo_2) (maxL := 6) (ret := (some .int)) (by decide +kernel) rfl ?_
  intro p e s m args below meth c s₁ B hml hv
  obtain ⟨rfl, ⟨hW0, hW1⟩, hK⟩ := hv
  have hts := atoms_spec (ws := ws_ yX8_compareTo_2 cX8_compareTo_2 6 (some .int)) B.pre
  have hts : ∀ w ∈ lw_all, w.before _ s = true := fun w h => hts w (List.mem_cons_of_mem _ h)
  have C : Cx G p s m _ meth c RX8 cX8_compareTo_2 6 (some .int) := ⟨B.exec, B.bytes, B.returns, B.notSynchronized, hml, findClass_of_methodNamed B.named, hts, hK⟩
  have hl := lv_entry ([.ref b0, .ref b1]) (n := 6) (Nat.le_of_ble_eq_true rfl)
  rw [lg_entry_eq]
  generalize (lg_sl ([.ref b0, .ref b1]) ++ List.replicate (6 - (lg_sl ([.ref b0, .ref b1])).length) Slot.unset).toArray = ls at hl ⊢
  have hl : lv_has ls 6 [(0, .ref b0), (1, .ref b1)] := hl
  exact w_fX8_compareTo_2 C hW0 hW1  hm ls hl
theorem yn_X8_compareTo_2 : YN yX8_compareTo_2 1 := by
  unfold YN
  decide +kernel
theorem lkX8_59 : LV RX8 59 RX8 yX8_compareTo_2 cX8_compareTo_2 6 (some .int) := ⟨q1122, q1123, q1124, q127, q1125⟩
noncomputable def fX8_compareTo (V0 : Mem) (V1 : Mem) : Option (Int32) :=
  ob (fX8_compareTo_2 V0 V1) fun r1 =>
  some r1
set_option maxHeartbeats 4000000 in
theorem w_fX8_compareTo (C : Cx G p s m args meth c RX8 cX8_compareTo 2 (some .int)) {b0 : Nat} {b1 : Nat} {V0 : Mem} {V1 : Mem} {rx : Int32} (hW0 : rg G b0 4 (shX8 G.2.1) V0 s.heap) (hW1 : rg G b1 4 (shX8 G.2.1) V1 s.heap) : fX8_compareTo V0 V1 = some rx → ∀ (ls : Array Slot), lv_has ls 2 [(0, .ref b0), (1, .ref b1)] → W p l e (rmP 1 25) s m args below meth c s.heap [] 0 0 (MQ below (QcP (some (.int rx))) args s 0 0 (fun _ => False)) (F0 m 0 ls []) := by
  intro hm ls hl
  obtain ⟨hx, hb, hr, hlk, hml, hown, hts, hK⟩ := id C
  unfold fX8_compareTo at hm
  refine lv_aload_n (pc := 0) hx hb dX8_compareTo_0 rfl (lv_at hl 0 rfl) ?_
  refine lv_aload_n (pc := 1) hx hb dX8_compareTo_1 rfl (lv_at hl 1 rfl) ?_
  refine rk_castS (pc := 2) hx hb hown hts hK q1121 hW1 0 (by decide) rfl rfl rfl dX8_compareTo_2 ?_
  obtain ⟨r1, hq2, hm⟩ := ob_some hm
  refine rk_PV (pc := 5) (As := [.ref b1]) (rest := []) hx hb hml hown hts hK lkX8_59 rfl yn_X8_compareTo_2 (ct_X8_compareTo_2 (G := G) (l := l) (b0 := b0) (b1 := b1) hq2) ⟨Nat.le_of_ble_eq_true rfl, Nat.le_of_ble_eq_true rfl⟩ (rk_recv hK hW0 0 (by decide) rfl rfl rfl) ⟨hW0, hW1⟩ rfl rfl hl.1 (Nat.le_of_ble_eq_true rfl) dX8_compareTo_5 ⟨Nat.zero_le _, Nat.zero_le _⟩ ?_
  refine W.eq (g2 := F0 m 8 ls [.int r1]) rfl ?_
  have e9 := rs1 hm
  subst e9
  exact rk_iretP (pc := 8) hx hb hr hlk rfl dX8_compareTo_8
set_option maxHeartbeats 4000000 in
theorem ct_X8_compareTo {G : Gv} {l : Launch} {b0 : Nat} {b1 : Nat} {V0 : Mem} {V1 : Mem} {rx : Int32} (hm : fX8_compareTo V0 V1  = some rx) : CP G l yX8_compareTo (ws_ yX8_compareTo cX8_compareTo 2 (some .int)) 1 25 [.ref b0, .ref b1] (fun H => rg G b0 4 (shX8 G.2.1) V0 H ∧ rg G b1 4 (shX8 G.2.1) V1 H) (some (.int rx)) := by
  refine Met.ofW (cc := cX8_compareTo) (maxL := 2) (ret := (some .int)) (by decide +kernel) rfl ?_
  intro p e s m args below meth c s₁ B hml hv
  obtain ⟨rfl, ⟨hW0, hW1⟩, hK⟩ := hv
  have hts := atoms_spec (ws := ws_ yX8_compareTo cX8_compareTo 2 (some .int)) B.pre
  have hts : ∀ w ∈ lw_all, w.before _ s = true := fun w h => hts w (List.mem_cons_of_mem _ h)
  have C : Cx G p s m _ meth c RX8 cX8_compareTo 2 (some .int) := ⟨B.exec, B.bytes, B.returns, B.notSynchronized, hml, findClass_of_methodNamed B.named, hts, hK⟩
  have hl := lv_entry ([.ref b0, .ref b1]) (n := 2) (Nat.le_of_ble_eq_true rfl)
  rw [lg_entry_eq]
  generalize (lg_sl ([.ref b0, .ref b1]) ++ List.replicate (2 - (lg_sl ([.ref b0, .ref b1])).length) Slot.unset).toArray = ls at hl ⊢
  have hl : lv_has ls 2 [(0, .ref b0), (1, .ref b1)] := hl
  exact w_fX8_compareTo C hW0 hW1  hm ls hl
theorem flX3_9 : FL RX3 9 3 6 RX3 TX3 12 := ⟨in_X3, rfl, by decide, q288⟩
noncomputable def fX3_entry (V0 : Mem) (i1 : Int32) (i2 : Int32) : Option (Int64) :=
  gb (inR (((5 : Int32) * i1) + i2) 150) (
  some (gL V0 1 (((5 : Int32) * i1) + i2).toNatClampNeg))
set_option maxHeartbeats 4000000 in
theorem w_fX3_entry (C : Cx G p s m args meth c RX3 cX3_entry 3 (some .long)) {b0 : Nat} {V0 : Mem} {rx : Int64} (hW0 : rg G b0 43 (shX3 G.2.1) V0 s.heap) : ∀ (i1 : Int32) (i2 : Int32), fX3_entry V0 i1 i2 = some rx → ∀ (ls : Array Slot), lv_has ls 3 [(0, .ref b0), (1, .int i1), (2, .int i2)] → W p l e (rmP 0 0) s m args below meth c s.heap [] 0 0 (MQ below (QcP (some (.long rx))) args s 0 0 (fun _ => False)) (F0 m 0 ls []) := by
  intro i1 i2 hm ls hl
  obtain ⟨hx, hb, hr, hlk, hml, hown, hts, hK⟩ := id C
  unfold fX3_entry at hm
  refine lv_aload_n (pc := 0) hx hb dX3_entry_0 rfl (lv_at hl 0 rfl) ?_
  refine rk_get (pc := 1) hx hb hts hown hK hW0 flX3_9 0 (by decide) rfl rfl (x := .ref (b0 + 1)) (by first | rfl | exact congrArg (fun z => some (Value.ref z)) (by omega)) dX3_entry_1 ?_
  refine lv_iconst (pc := 4) (v := (5 : Int32)) hx hb dX3_entry_4 (by decide) ?_
  refine lv_iload_n (pc := 5) hx hb dX3_entry_5 rfl (lv_at hl 1 rfl) ?_
  refine lv_imul (pc := 6) hx hb dX3_entry_6 ?_
  refine lv_iload_n (pc := 7) hx hb dX3_entry_7 rfl (lv_at hl 2 rfl) ?_
  refine lv_iadd (pc := 8) hx hb dX3_entry_8 ?_
  obtain ⟨hg1, hm⟩ := gb_some hm
  refine rk_lald (pc := 9) hx hb hK hW0 1 (by decide) rfl rfl hg1 (x := (gL V0 1 (((5 : Int32) * i1) + i2).toNatClampNeg)) rfl dX3_entry_9 ?_
  have e9 := rs1 hm
  subst e9
  exact rk_lretP (pc := 10) hx hb hr hlk rfl dX3_entry_10
set_option maxHeartbeats 4000000 in
theorem ct_X3_entry {G : Gv} {l : Launch} {b0 : Nat} {V0 : Mem} {i1 : Int32} {i2 : Int32} {rx : Int64} (hm : fX3_entry V0 i1 i2 = some rx) : CP G l yX3_entry (ws_ yX3_entry cX3_entry 3 (some .long)) 0 0 [.ref b0, .int i1, .int i2] (fun H => rg G b0 43 (shX3 G.2.1) V0 H) (some (.long rx)) := by
  refine Met.ofW (cc := cX3_entry) (maxL := 3) (ret := (some .long)) (by decide +kernel) rfl ?_
  intro p e s m args below meth c s₁ B hml hv
  obtain ⟨rfl, hW0, hK⟩ := hv
  have hts := atoms_spec (ws := ws_ yX3_entry cX3_entry 3 (some .long)) B.pre
  have hts : ∀ w ∈ lw_all, w.before _ s = true := fun w h => hts w (List.mem_cons_of_mem _ h)
  have C : Cx G p s m _ meth c RX3 cX3_entry 3 (some .long) := ⟨B.exec, B.bytes, B.returns, B.notSynchronized, hml, findClass_of_methodNamed B.named, hts, hK⟩
  have hl := lv_entry ([.ref b0, .int i1, .int i2]) (n := 3) (Nat.le_of_ble_eq_true rfl)
  rw [lg_entry_eq]
  generalize (lg_sl ([.ref b0, .int i1, .int i2]) ++ List.replicate (3 - (lg_sl ([.ref b0, .int i1, .int i2])).length) Slot.unset).toArray = ls at hl ⊢
  have hl : lv_has ls 3 [(0, .ref b0), (1, .int i1), (2, .int i2)] := hl
  exact w_fX3_entry C hW0 _ _ hm ls hl
noncomputable def fX3_puts (v0 : Mem) (i1 : Int32) (i2 : Int32) (j3 : Int64) : Option (Mem) :=
  gb (inR (((5 : Int32) * i1) + i2) 150) (
  lm (sL v0 1 (((5 : Int32) * i1) + i2).toNatClampNeg j3) fun v0_2 =>
  some v0_2)
set_option maxHeartbeats 4000000 in
theorem w_fX3_puts (C : Cx G p s m args meth c RX3 cX3_puts 5 none) {b0 : Nat} {rw0 : Mem} : ∀ (v0 : Mem) (i1 : Int32) (i2 : Int32) (j3 : Int64), fX3_puts v0 i1 i2 j3 = some rw0 → ∀ (H : Heap) (locs : List Loc) (ls : Array Slot), rg G b0 43 (shX3 G.2.1) v0 H → va_S (FA (iv b0 43) s.heap.size) s.heap H locs → H.size = s.heap.size → lv_has ls 5 [(0, .ref b0), (1, .int i1), (2, .int i2), (3, .long j3)] → W p l e (rmT 0 0 0 0) s m args below meth c H locs 0 0 (MQ below (QcT (FA (iv b0 43) s.heap.size) (fun ov H => ov = none ∧ rg G b0 43 (shX3 G.2.1) rw0 H ∧ H.size = s.heap.size)) args s 0 0 (FA (iv b0 43) s.heap.size)) (F0 m 0 ls []) := by
  intro v0 i1 i2 j3 hm H locs ls hW0 hS hz hl
  obtain ⟨hx, hb, hr, hlk, hml, hown, hts, hK⟩ := id C
  unfold fX3_puts at hm
  refine lv_aload_n (pc := 0) hx hb dX3_puts_0 rfl (lv_at hl 0 rfl) ?_
  refine rk_get (pc := 1) hx hb hts hown hK hW0 flX3_9 0 (by decide) rfl rfl (x := .ref (b0 + 1)) (by first | rfl | exact congrArg (fun z => some (Value.ref z)) (by omega)) dX3_puts_1 ?_
  refine lv_iconst (pc := 4) (v := (5 : Int32)) hx hb dX3_puts_4 (by decide) ?_
  refine lv_iload_n (pc := 5) hx hb dX3_puts_5 rfl (lv_at hl 1 rfl) ?_
  refine lv_imul (pc := 6) hx hb dX3_puts_6 ?_
  refine lv_iload_n (pc := 7) hx hb dX3_puts_7 rfl (lv_at hl 2 rfl) ?_
  refine lv_iadd (pc := 8) hx hb dX3_puts_8 ?_
  refine lv_lload_n (pc := 9) hx hb dX3_puts_9 rfl (lv_at hl 3 rfl) ?_
  obtain ⟨hg1, hm⟩ := gb_some hm
  refine rk_last (pc := 10) hx hb hK hW0 hS 1 (by decide) rfl (Or.inl (show iv _ _ _ from ⟨by omega, by omega⟩)) (fun _ _ _ => rfl) hg1 dX3_puts_10 (fun H3 locs4 hW5 hS6 hz7 hkp8 => ?_)
  obtain ⟨v0_2, he9, hm⟩ := lm_some hm
  rw [he9] at hW5
  have hz9 := hz7.trans hz
  have e9 := rs1 hm
  subst e9
  exact rk_vret (pc := 11) hx hb hr hlk hS6 ⟨rfl, hW5, hz9⟩ dX3_puts_11
set_option maxHeartbeats 4000000 in
theorem ct_X3_puts {G : Gv} {l : Launch} {b0 : Nat} {v0 : Mem} {i1 : Int32} {i2 : Int32} {j3 : Int64} {rw0 : Mem} {sz : Nat} (hm : fX3_puts v0 i1 i2 j3 = some rw0) : CT G l yX3_puts (ws_ yX3_puts cX3_puts 5 none) 0 0 0 0 [.ref b0, .int i1, .int i2, .long j3] (iv b0 43) sz (fun H => rg G b0 43 (shX3 G.2.1) v0 H) (fun ov H => ov = none ∧ rg G b0 43 (shX3 G.2.1) rw0 H ∧ H.size = sz) := by
  refine Met.ofW (cc := cX3_puts) (maxL := 5) (ret := none) (by decide +kernel) rfl ?_
  intro p e s m args below meth c s₁ B hml hv
  obtain ⟨rfl, ⟨hz, hW0⟩, hK⟩ := hv
  subst hz
  have hts := atoms_spec (ws := ws_ yX3_puts cX3_puts 5 none) B.pre
  have hts : ∀ w ∈ lw_all, w.before _ s = true := fun w h => hts w (List.mem_cons_of_mem _ h)
  have C : Cx G p s m _ meth c RX3 cX3_puts 5 none := ⟨B.exec, B.bytes, B.returns, B.notSynchronized, hml, findClass_of_methodNamed B.named, hts, hK⟩
  have hl := lv_entry ([.ref b0, .int i1, .int i2, .long j3]) (n := 5) (Nat.le_of_ble_eq_true rfl)
  rw [lg_entry_eq]
  generalize (lg_sl ([.ref b0, .int i1, .int i2, .long j3]) ++ List.replicate (5 - (lg_sl ([.ref b0, .int i1, .int i2, .long j3])).length) Slot.unset).toArray = ls at hl ⊢
  have hl : lv_has ls 5 [(0, .ref b0), (1, .int i1), (2, .int i2), (3, .long j3)] := hl
  exact w_fX3_puts C _ _ _ _ hm s.heap [] ls hW0 va_S.rf rfl hl
noncomputable def fX3_rowComes (v0 : Mem) (i1 : Int32) (j2 : Int64) : Option (Int32 × Mem) :=
  gb (inR (gI v0 0 1) 30) (
  lm (sI v0 4 (gI v0 0 1).toNatClampNeg i1) fun v0_2 =>
  gb (inR (gI v0_2 0 1) 30) (
  lm (sL v0_2 2 (gI v0_2 0 1).toNatClampNeg j2) fun v0_11 =>
  lm (sI v0_11 0 1 ((gI v0_11 0 1) + (1 : Int32))) fun v0_19 =>
  some (((gI v0_19 0 1) - (1 : Int32)), v0_19)))
set_option maxHeartbeats 4000000 in
theorem w_fX3_rowComes (C : Cx G p s m args meth c RX3 cX3_rowComes 4 (some .int)) {b0 : Nat} {rx : Int32} {rw0 : Mem} : ∀ (v0 : Mem) (i1 : Int32) (j2 : Int64), fX3_rowComes v0 i1 j2 = some (rx, rw0) → ∀ (H : Heap) (locs : List Loc) (ls : Array Slot), rg G b0 43 (shX3 G.2.1) v0 H → va_S (FA (iv b0 43) s.heap.size) s.heap H locs → H.size = s.heap.size → lv_has ls 4 [(0, .ref b0), (1, .int i1), (2, .long j2)] → W p l e (rmT 0 0 0 0) s m args below meth c H locs 0 0 (MQ below (QcT (FA (iv b0 43) s.heap.size) (fun ov H => ov = (some (.int rx)) ∧ rg G b0 43 (shX3 G.2.1) rw0 H ∧ H.size = s.heap.size)) args s 0 0 (FA (iv b0 43) s.heap.size)) (F0 m 0 ls []) := by
  intro v0 i1 j2 hm H locs ls hW0 hS hz hl
  obtain ⟨hx, hb, hr, hlk, hml, hown, hts, hK⟩ := id C
  unfold fX3_rowComes at hm
  refine lv_aload_n (pc := 0) hx hb dX3_rowComes_0 rfl (lv_at hl 0 rfl) ?_
  refine rk_get (pc := 1) hx hb hts hown hK hW0 flX3_21 0 (by decide) rfl rfl (x := .ref (b0 + 4)) (by first | rfl | exact congrArg (fun z => some (Value.ref z)) (by omega)) dX3_rowComes_1 ?_
  refine lv_aload_n (pc := 4) hx hb dX3_rowComes_4 rfl (lv_at hl 0 rfl) ?_
  refine rk_get (pc := 5) hx hb hts hown hK hW0 flX3_35 0 (by decide) rfl rfl (x := .int (gI v0 0 1)) rfl dX3_rowComes_5 ?_
  refine lv_iload_n (pc := 8) hx hb dX3_rowComes_8 rfl (lv_at hl 1 rfl) ?_
  obtain ⟨hg1, hm⟩ := gb_some hm
  refine rk_iast (pc := 9) hx hb hK hW0 hS 4 (by decide) rfl (Or.inl (show iv _ _ _ from ⟨by omega, by omega⟩)) (fun _ _ _ => rfl) hg1 dX3_rowComes_9 (fun H3 locs4 hW5 hS6 hz7 hkp8 => ?_)
  obtain ⟨v0_2, he9, hm⟩ := lm_some hm
  rw [he9] at hW5
  have hz9 := hz7.trans hz
  refine lv_aload_n (pc := 10) hx hb dX3_rowComes_10 rfl (lv_at hl 0 rfl) ?_
  refine rk_get (pc := 11) hx hb hts hown hK hW5 flX3_15 0 (by decide) rfl rfl (x := .ref (b0 + 2)) (by first | rfl | exact congrArg (fun z => some (Value.ref z)) (by omega)) dX3_rowComes_11 ?_
  refine lv_aload_n (pc := 14) hx hb dX3_rowComes_14 rfl (lv_at hl 0 rfl) ?_
  refine rk_get (pc := 15) hx hb hts hown hK hW5 flX3_35 0 (by decide) rfl rfl (x := .int (gI v0_2 0 1)) rfl dX3_rowComes_15 ?_
  refine lv_lload_n (pc := 18) hx hb dX3_rowComes_18 rfl (lv_at hl 2 rfl) ?_
  obtain ⟨hg10, hm⟩ := gb_some hm
  refine rk_last (pc := 19) hx hb hK hW5 hS6 2 (by decide) rfl (Or.inl (show iv _ _ _ from ⟨by omega, by omega⟩)) (fun _ _ _ => rfl) hg10 dX3_rowComes_19 (fun H12 locs13 hW14 hS15 hz16 hkp17 => ?_)
  obtain ⟨v0_11, he9, hm⟩ := lm_some hm
  rw [he9] at hW14
  have hz18 := hz16.trans hz9
  refine lv_aload_n (pc := 20) hx hb dX3_rowComes_20 rfl (lv_at hl 0 rfl) ?_
  refine lv_dup (pc := 21) hx hb dX3_rowComes_21 rfl ?_
  refine rk_get (pc := 22) hx hb hts hown hK hW14 flX3_35 0 (by decide) rfl rfl (x := .int (gI v0_11 0 1)) rfl dX3_rowComes_22 ?_
  refine lv_iconst (pc := 25) (v := (1 : Int32)) hx hb dX3_rowComes_25 (by decide) ?_
  refine lv_iadd (pc := 26) hx hb dX3_rowComes_26 ?_
  refine rk_put (pc := 27) hx hb hts hown hK hW14 hS15 flX3_35 ft_X3 0 (by decide) rfl (Or.inl (show iv _ _ _ from ⟨by omega, by omega⟩)) rfl rfl (x := .int ((gI v0_11 0 1) + (1 : Int32))) rfl rfl (Nat.le_of_ble_eq_true rfl) (sI v0_11 0 1 ((gI v0_11 0 1) + (1 : Int32))) sI_ne (by rw [sI_eq]; exact rfl) dX3_rowComes_27 (fun H20 locs21 hW22 hS23 hz24 hkp25 => ?_)
  obtain ⟨v0_19, he9, hm⟩ := lm_some hm
  rw [he9] at hW22
  have hz26 := hz24.trans hz18
  refine lv_aload_n (pc := 30) hx hb dX3_rowComes_30 rfl (lv_at hl 0 rfl) ?_
  refine rk_get (pc := 31) hx hb hts hown hK hW22 flX3_35 0 (by decide) rfl rfl (x := .int (gI v0_19 0 1)) rfl dX3_rowComes_31 ?_
  refine lv_iconst (pc := 34) (v := (1 : Int32)) hx hb dX3_rowComes_34 (by decide) ?_
  refine lv_isub (pc := 35) hx hb dX3_rowComes_35 ?_
  obtain ⟨e8, e9⟩ := rs2 hm
  subst e8
  subst e9
  exact rk_iret (pc := 36) hx hb hr hlk hS23 ⟨rfl, hW22, hz26⟩ dX3_rowComes_36
set_option maxHeartbeats 4000000 in
theorem ct_X3_rowComes {G : Gv} {l : Launch} {b0 : Nat} {v0 : Mem} {i1 : Int32} {j2 : Int64} {rx : Int32} {rw0 : Mem} {sz : Nat} (hm : fX3_rowComes v0 i1 j2 = some (rx, rw0)) : CT G l yX3_rowComes (ws_ yX3_rowComes cX3_rowComes 4 (some .int)) 0 0 0 0 [.ref b0, .int i1, .long j2] (iv b0 43) sz (fun H => rg G b0 43 (shX3 G.2.1) v0 H) (fun ov H => ov = (some (.int rx)) ∧ rg G b0 43 (shX3 G.2.1) rw0 H ∧ H.size = sz) := by
  refine Met.ofW (cc := cX3_rowComes) (maxL := 4) (ret := (some .int)) (by decide +kernel) rfl ?_
  intro p e s m args below meth c s₁ B hml hv
  obtain ⟨rfl, ⟨hz, hW0⟩, hK⟩ := hv
  subst hz
  have hts := atoms_spec (ws := ws_ yX3_rowComes cX3_rowComes 4 (some .int)) B.pre
  have hts : ∀ w ∈ lw_all, w.before _ s = true := fun w h => hts w (List.mem_cons_of_mem _ h)
  have C : Cx G p s m _ meth c RX3 cX3_rowComes 4 (some .int) := ⟨B.exec, B.bytes, B.returns, B.notSynchronized, hml, findClass_of_methodNamed B.named, hts, hK⟩
  have hl := lv_entry ([.ref b0, .int i1, .long j2]) (n := 4) (Nat.le_of_ble_eq_true rfl)
  rw [lg_entry_eq]
  generalize (lg_sl ([.ref b0, .int i1, .long j2]) ++ List.replicate (4 - (lg_sl ([.ref b0, .int i1, .long j2])).length) Slot.unset).toArray = ls at hl ⊢
  have hl : lv_has ls 4 [(0, .ref b0), (1, .int i1), (2, .long j2)] := hl
  exact w_fX3_rowComes C _ _ _ hm s.heap [] ls hW0 va_S.rf rfl hl
theorem fnX3_39 : FN RX3 39 1 0 RX1 TX1 11 "WholePacks" := ⟨in_X1, rfl, by decide, q192⟩
theorem flX3_45 : FL RX3 45 3 2 RX3 TX3 12 := ⟨in_X3, rfl, by decide, q278⟩
theorem flX3_48 : FL RX3 48 3 3 RX3 TX3 12 := ⟨in_X3, rfl, by decide, q280⟩
theorem flX3_55 : FL RX3 55 3 5 RX3 TX3 12 := ⟨in_X3, rfl, by decide, q286⟩
theorem flX3_25 : FL RX3 25 3 10 RX3 TX3 12 := ⟨in_X3, rfl, by decide, q295⟩
theorem flX3_18 : FL RX3 18 3 8 RX3 TX3 12 := ⟨in_X3, rfl, by decide, q291⟩
theorem fnX3_58 : FN RX3 58 1 6 RX1 TX1 11 "WholePacks" := ⟨in_X1, rfl, by decide, q206⟩
theorem fnX3_61 : FN RX3 61 1 1 RX1 TX1 11 "WholePacks" := ⟨in_X1, rfl, by decide, q195⟩
theorem fnX3_64 : FN RX3 64 1 7 RX1 TX1 11 "WholePacks" := ⟨in_X1, rfl, by decide, q209⟩
theorem lkX3_68 : LV RX3 68 RX2 yX2_limit cX2_limit 1 (some .long) := ⟨q781, q782, q783, q116, q784⟩
theorem yn_X3_rowComes : YN yX3_rowComes 2 := by
  unfold YN
  decide +kernel
theorem lkX3_74 : LV RX3 74 RX3 yX3_rowComes cX3_rowComes 4 (some .int) := ⟨q785, q787, qs10, q117, q788⟩
theorem lkX3_78 : LV RX3 78 RX2 yX2_points cX2_points 2 (some .long) := ⟨q789, q790, q791, q116, q792⟩
theorem yn_X3_puts : YN yX3_puts 3 := by
  unfold YN
  decide +kernel
theorem lkX3_82 : LV RX3 82 RX3 yX3_puts cX3_puts 5 none := ⟨q793, q795, qs11, q117, q796⟩
noncomputable def fX3_begins_100 (V1 : Mem) (k71 : Mem → Int32 → Option (Mem)) (k100 : Mem → Int32 → Int32 → Int32 → Option (Mem)) (v0 : Mem) (i2 : Int32) (i3 : Int32) (i4 : Int32) : Option (Mem) :=
  if (gI v0 0 0) ≤ i4 then (
  k71 v0 (i2 + (1 : Int32)))
  else (
  gb (inR i2 8) (
  ob (fX2_points (shf V1 (6 + 2 * i2.toNatClampNeg)) i4) fun r97 =>
  ob (fX3_puts v0 i3 i4 r97) fun w99 =>
  k100 w99 i2 i3 (i4 + (1 : Int32))))
noncomputable def fX3_begins_71 (V1 : Mem) (k71 : Mem → Int32 → Option (Mem)) (v0 : Mem) (i2 : Int32) : Option (Mem) :=
  if (gI V1 0 1) ≤ i2 then (
  some v0)
  else (
  gb (inR i2 8) (
  ob (fX2_limit (shf V1 (6 + 2 * i2.toNatClampNeg))) fun r80 =>
  ob2 (fX3_rowComes v0 ((10 : Int32) + i2) r80) fun r82 w83 =>
  lq4 (fX3_begins_100 V1 k71) FU w83 i2 r82 (0 : Int32)))
noncomputable def fX3_begins_35 (V1 : Mem) (k35 : Mem → Int32 → Option (Mem)) (v0 : Mem) (i2 : Int32) : Option (Mem) :=
  if (gI v0 0 0) ≤ i2 then (
  lq2 (fX3_begins_71 V1) FU v0 (0 : Int32))
  else (
  gb (inR i2 5) (
  lm (sI v0 5 i2.toNatClampNeg i2) fun v0_57 =>
  gb (inR i2 5) (
  gb (inR i2 5) (
  lm (sL v0_57 3 i2.toNatClampNeg (gI V1 1 i2.toNatClampNeg).toInt64) fun v0_68 =>
  k35 v0_68 (i2 + (1 : Int32))))))
noncomputable def fX3_begins (V1 : Mem) (v0 : Mem) : Option (Mem) :=
  lm (sI v0 0 0 (gI V1 0 0)) fun v0_1 =>
  lm (sI v0_1 0 1 (0 : Int32)) fun v0_10 =>
  lm (sI v0_10 0 2 (0 : Int32)) fun v0_19 =>
  lm (sI v0_19 0 3 (0 : Int32)) fun v0_28 =>
  lm (sL v0_28 0 4 (1 : Int64)) fun v0_37 =>
  lm (sL v0_37 0 5 (0 : Int64)) fun v0_46 =>
  lq2 (fX3_begins_35 V1) FU v0_46 (0 : Int32)
set_option maxHeartbeats 4000000 in
theorem w_fX3_begins_100 (C : Cx G p s m args meth c RX3 cX3_begins 5 none) {b0 : Nat} {b1 : Nat} {V1 : Mem} {rw0 : Mem} (hd01 : b0 + 43 ≤ b1 ∨ b1 + 22 ≤ b0) {k71 : Mem → Int32 → Option (Mem)} {k100 : Mem → Int32 → Int32 → Int32 → Option (Mem)} (hk71 : ∀ (v0 : Mem) (i2 : Int32), k71 v0 i2 = some rw0 → ∀ (H : Heap) (locs : List Loc) (ls : Array Slot), rg G b0 43 (shX3 G.2.1) v0 H → rg G b1 22 (shX1 G.2.1) V1 H → va_S (FA (iv b0 43) s.heap.size) s.heap H locs → H.size = s.heap.size → lv_has ls 5 [(0, .ref b0), (1, .ref b1), (2, .int i2)] → W p l e (rmT 1 0 0 24) s m args below meth c H locs 0 0 (MQ below (QcT (FA (iv b0 43) s.heap.size) (fun ov H => ov = none ∧ rg G b0 43 (shX3 G.2.1) rw0 H ∧ H.size = s.heap.size)) args s 0 0 (FA (iv b0 43) s.heap.size)) (F0 m 71 ls [])) (hk100 : ∀ (v0 : Mem) (i2 : Int32) (i3 : Int32) (i4 : Int32), k100 v0 i2 i3 i4 = some rw0 → ∀ (H : Heap) (locs : List Loc) (ls : Array Slot), rg G b0 43 (shX3 G.2.1) v0 H → rg G b1 22 (shX1 G.2.1) V1 H → va_S (FA (iv b0 43) s.heap.size) s.heap H locs → H.size = s.heap.size → lv_has ls 5 [(0, .ref b0), (1, .ref b1), (2, .int i2), (3, .int i3), (4, .int i4)] → W p l e (rmT 1 0 0 24) s m args below meth c H locs 0 0 (MQ below (QcT (FA (iv b0 43) s.heap.size) (fun ov H => ov = none ∧ rg G b0 43 (shX3 G.2.1) rw0 H ∧ H.size = s.heap.size)) args s 0 0 (FA (iv b0 43) s.heap.size)) (F0 m 100 ls [])) : ∀ (v0 : Mem) (i2 : Int32) (i3 : Int32) (i4 : Int32), fX3_begins_100 V1 k71 k100 v0 i2 i3 i4 = some rw0 → ∀ (H : Heap) (locs : List Loc) (ls : Array Slot), rg G b0 43 (shX3 G.2.1) v0 H → rg G b1 22 (shX1 G.2.1) V1 H → va_S (FA (iv b0 43) s.heap.size) s.heap H locs → H.size = s.heap.size → lv_has ls 5 [(0, .ref b0), (1, .ref b1), (2, .int i2), (3, .int i3), (4, .int i4)] → W p l e (rmT 1 0 0 24) s m args below meth c H locs 0 0 (MQ below (QcT (FA (iv b0 43) s.heap.size) (fun ov H => ov = none ∧ rg G b0 43 (shX3 G.2.1) rw0 H ∧ H.size = s.heap.size)) args s 0 0 (FA (iv b0 43) s.heap.size)) (F0 m 100 ls []) := by
  intro v0 i2 i3 i4 hm H locs ls hW0 hW1 hS hz hl
  obtain ⟨hx, hb, hr, hlk, hml, hown, hts, hK⟩ := id C
  unfold fX3_begins_100 at hm
  refine lv_iload (pc := 100) hx hb dX3_begins_100 (lv_at hl 4 rfl) ?_
  refine lv_aload_n (pc := 102) hx hb dX3_begins_102 rfl (lv_at hl 0 rfl) ?_
  refine rk_get (pc := 103) hx hb hts hown hK hW0 flX3_44 0 (by decide) rfl rfl (x := .int (gI v0 0 0)) rfl dX3_begins_103 ?_
  refine lv_icmp_ge (pc := 106) (tgt := 133) hx hb dX3_begins_106 (by decide) (fun c94 => ?_) (fun c94 => ?_)
  · have hm := ite_t c94 hm
    refine lv_iinc (pc := 133) (v := (i2 + (1 : Int32))) (lv' := [(2, .int (i2 + (1 : Int32))), (0, .ref b0), (1, .ref b1), (3, .int i3), (4, .int i4)]) hx hb dX3_begins_133 hl (k := 2) rfl rfl (by decide) rfl (fun ls hl => ?_)
    refine lv_goto (pc := 136) (tgt := 71) hx hb dX3_begins_136 (by decide) ?_
    exact hk71 v0 (i2 + (1 : Int32)) hm H locs ls hW0 hW1 hS hz (lv_sub hl [1, 2, 0] rfl)
  · have hm := ite_f c94 hm
    refine lv_aload_n (pc := 109) hx hb dX3_begins_109 rfl (lv_at hl 0 rfl) ?_
    refine lv_iload_n (pc := 110) hx hb dX3_begins_110 rfl (lv_at hl 3 rfl) ?_
    refine lv_iload (pc := 111) hx hb dX3_begins_111 (lv_at hl 4 rfl) ?_
    refine lv_aload_n (pc := 113) hx hb dX3_begins_113 rfl (lv_at hl 1 rfl) ?_
    refine rk_getN (pc := 114) hx hb hts hown hK hW1 fnX3_64 0 (by decide) rfl rfl (x := .ref (b1 + 2)) (by first | rfl | exact congrArg (fun z => some (Value.ref z)) (by omega)) dX3_begins_114 ?_
    refine lv_iload_n (pc := 117) hx hb dX3_begins_117 rfl (lv_at hl 2 rfl) ?_
    obtain ⟨hg95, hm⟩ := gb_some hm
    have hlt96 := inR_lt hg95
    refine rk_aald (pc := 118) hx hb hK hW1 2 5 (by decide) rfl rfl rfl hg95 (x := (b1 + (6 + 2 * i2.toNatClampNeg + 0))) (by first | rfl | exact congrArg some (by omega)) dX3_begins_118 ?_
    refine lv_iload (pc := 119) hx hb dX3_begins_119 (lv_at hl 4 rfl) ?_
    obtain ⟨r97, hq98, hm⟩ := ob_some hm
    refine rk_PV (pc := 121) (As := [.int i4]) (rest := [.int i4, .int i3, .ref b0]) hx hb hml hown hts hK lkX3_78 rfl yn_X2_points (ct_X2_points (G := G) (l := l) (b0 := (b1 + (6 + 2 * i2.toNatClampNeg + 0))) hq98) ⟨Nat.le_of_ble_eq_true rfl, Nat.le_of_ble_eq_true rfl⟩ (rk_recv hK hW1 (6 + 2 * i2.toNatClampNeg + 0) (by omega) rfl rfl ((shX1_f6 G.2.1 hlt96 _ rfl 0 (by decide) _ _ _).trans rfl)) (rg_sub (d := (6 + 2 * i2.toNatClampNeg)) hW1 rfl (by omega) (fun o ho x y z => shX1_f6 G.2.1 hlt96 _ rfl o ho x y z)) rfl rfl hl.1 (Nat.le_of_ble_eq_true rfl) dX3_begins_121 ⟨Nat.zero_le _, Nat.zero_le _⟩ ?_
    refine W.eq (g2 := F0 m 124 ls [.long r97, .int i4, .int i3, .ref b0]) rfl ?_
    obtain ⟨w99, hq100, hm⟩ := ob_some hm
    refine rk_TV (pc := 124) (As := [.int i3, .int i4, .long r97]) (rest := []) (mc := 0) (ms := 0) hx hb hml hown hts hK hS (fun q hq => FA_sz rfl q hq) lkX3_82 rfl yn_X3_puts (ct_X3_puts (G := G) (l := l) (b0 := b0) (sz := H.size) hq100) ⟨Nat.le_of_ble_eq_true rfl, Nat.le_of_ble_eq_true rfl⟩ (fun z h => Or.inl (show iv _ _ _ from ⟨by have h8 := h.1; have h9 := h.2; omega, by have h8 := h.1; have h9 := h.2; omega⟩)) (rk_recv hK hW0 0 (by decide) rfl rfl rfl) hW0 rfl rfl hl.1 (Nat.le_of_ble_eq_true rfl) dX3_begins_124 ⟨Nat.zero_le _, Nat.zero_le _⟩ (fun ov9 H101 locs102 hP103 hkp104 hS105 => ?_)
    obtain ⟨rfl, hW106, hz107⟩ := hP103
    have hW108 := rg_keepA hW1 hkp104 (by intro z h1 h2 h3; have h8 := h3.1; have h9 := h3.2; omega)
    have hz109 := hz107.trans hz
    refine W.eq (g2 := F0 m 127 ls []) rfl ?_
    refine lv_iinc (pc := 127) (v := (i4 + (1 : Int32))) (lv' := [(4, .int (i4 + (1 : Int32))), (0, .ref b0), (1, .ref b1), (2, .int i2), (3, .int i3)]) hx hb dX3_begins_127 hl (k := 4) rfl rfl (by decide) rfl (fun ls hl => ?_)
    refine lv_goto (pc := 130) (tgt := 100) hx hb dX3_begins_130 (by decide) ?_
    exact hk100 w99 i2 i3 (i4 + (1 : Int32)) hm H101 locs102 ls hW106 hW108 hS105 hz109 (lv_sub hl [1, 2, 3, 4, 0] rfl)
theorem w_fX3_begins_100_l (C : Cx G p s m args meth c RX3 cX3_begins 5 none) {b0 : Nat} {b1 : Nat} {V1 : Mem} {rw0 : Mem} (hd01 : b0 + 43 ≤ b1 ∨ b1 + 22 ≤ b0) {k71 : Mem → Int32 → Option (Mem)} (hk71 : ∀ (v0 : Mem) (i2 : Int32), k71 v0 i2 = some rw0 → ∀ (H : Heap) (locs : List Loc) (ls : Array Slot), rg G b0 43 (shX3 G.2.1) v0 H → rg G b1 22 (shX1 G.2.1) V1 H → va_S (FA (iv b0 43) s.heap.size) s.heap H locs → H.size = s.heap.size → lv_has ls 5 [(0, .ref b0), (1, .ref b1), (2, .int i2)] → W p l e (rmT 1 0 0 24) s m args below meth c H locs 0 0 (MQ below (QcT (FA (iv b0 43) s.heap.size) (fun ov H => ov = none ∧ rg G b0 43 (shX3 G.2.1) rw0 H ∧ H.size = s.heap.size)) args s 0 0 (FA (iv b0 43) s.heap.size)) (F0 m 71 ls [])) : ∀ (n : Nat) (v0 : Mem) (i2 : Int32) (i3 : Int32) (i4 : Int32), lq4 (fX3_begins_100 V1 k71) n v0 i2 i3 i4 = some rw0 → ∀ (H : Heap) (locs : List Loc) (ls : Array Slot), rg G b0 43 (shX3 G.2.1) v0 H → rg G b1 22 (shX1 G.2.1) V1 H → va_S (FA (iv b0 43) s.heap.size) s.heap H locs → H.size = s.heap.size → lv_has ls 5 [(0, .ref b0), (1, .ref b1), (2, .int i2), (3, .int i3), (4, .int i4)] → W p l e (rmT 1 0 0 24) s m args below meth c H locs 0 0 (MQ below (QcT (FA (iv b0 43) s.heap.size) (fun ov H => ov = none ∧ rg G b0 43 (shX3 G.2.1) rw0 H ∧ H.size = s.heap.size)) args s 0 0 (FA (iv b0 43) s.heap.size)) (F0 m 100 ls []) := by
  intro n
  induction n with
  | zero => intro v0 i2 i3 i4 hm; exact (lq4_0 hm).elim
  | succ n ih => intro v0 i2 i3 i4 hm; exact w_fX3_begins_100 C hd01 hk71 ih v0 i2 i3 i4 (lq4_s hm)
set_option maxHeartbeats 4000000 in
theorem w_fX3_begins_71 (C : Cx G p s m args meth c RX3 cX3_begins 5 none) {b0 : Nat} {b1 : Nat} {V1 : Mem} {rw0 : Mem} (hd01 : b0 + 43 ≤ b1 ∨ b1 + 22 ≤ b0) {k71 : Mem → Int32 → Option (Mem)} (hk71 : ∀ (v0 : Mem) (i2 : Int32), k71 v0 i2 = some rw0 → ∀ (H : Heap) (locs : List Loc) (ls : Array Slot), rg G b0 43 (shX3 G.2.1) v0 H → rg G b1 22 (shX1 G.2.1) V1 H → va_S (FA (iv b0 43) s.heap.size) s.heap H locs → H.size = s.heap.size → lv_has ls 5 [(0, .ref b0), (1, .ref b1), (2, .int i2)] → W p l e (rmT 1 0 0 24) s m args below meth c H locs 0 0 (MQ below (QcT (FA (iv b0 43) s.heap.size) (fun ov H => ov = none ∧ rg G b0 43 (shX3 G.2.1) rw0 H ∧ H.size = s.heap.size)) args s 0 0 (FA (iv b0 43) s.heap.size)) (F0 m 71 ls [])) : ∀ (v0 : Mem) (i2 : Int32), fX3_begins_71 V1 k71 v0 i2 = some rw0 → ∀ (H : Heap) (locs : List Loc) (ls : Array Slot), rg G b0 43 (shX3 G.2.1) v0 H → rg G b1 22 (shX1 G.2.1) V1 H → va_S (FA (iv b0 43) s.heap.size) s.heap H locs → H.size = s.heap.size → lv_has ls 5 [(0, .ref b0), (1, .ref b1), (2, .int i2)] → W p l e (rmT 1 0 0 24) s m args below meth c H locs 0 0 (MQ below (QcT (FA (iv b0 43) s.heap.size) (fun ov H => ov = none ∧ rg G b0 43 (shX3 G.2.1) rw0 H ∧ H.size = s.heap.size)) args s 0 0 (FA (iv b0 43) s.heap.size)) (F0 m 71 ls []) := by
  intro v0 i2 hm H locs ls hW0 hW1 hS hz hl
  obtain ⟨hx, hb, hr, hlk, hml, hown, hts, hK⟩ := id C
  unfold fX3_begins_71 at hm
  refine lv_iload_n (pc := 71) hx hb dX3_begins_71 rfl (lv_at hl 2 rfl) ?_
  refine lv_aload_n (pc := 72) hx hb dX3_begins_72 rfl (lv_at hl 1 rfl) ?_
  refine rk_getN (pc := 73) hx hb hts hown hK hW1 fnX3_61 0 (by decide) rfl rfl (x := .int (gI V1 0 1)) rfl dX3_begins_73 ?_
  refine lv_icmp_ge (pc := 76) (tgt := 139) hx hb dX3_begins_76 (by decide) (fun c77 => ?_) (fun c77 => ?_)
  · have hm := ite_t c77 hm
    have e9 := rs1 hm
    subst e9
    exact rk_vret (pc := 139) hx hb hr hlk hS ⟨rfl, hW0, hz⟩ dX3_begins_139
  · have hm := ite_f c77 hm
    refine lv_aload_n (pc := 79) hx hb dX3_begins_79 rfl (lv_at hl 0 rfl) ?_
    refine lv_bipush (pc := 80) (v := (10 : Int32)) hx hb dX3_begins_80 (by decide) ?_
    refine lv_iload_n (pc := 82) hx hb dX3_begins_82 rfl (lv_at hl 2 rfl) ?_
    refine lv_iadd (pc := 83) hx hb dX3_begins_83 ?_
    refine lv_aload_n (pc := 84) hx hb dX3_begins_84 rfl (lv_at hl 1 rfl) ?_
    refine rk_getN (pc := 85) hx hb hts hown hK hW1 fnX3_64 0 (by decide) rfl rfl (x := .ref (b1 + 2)) (by first | rfl | exact congrArg (fun z => some (Value.ref z)) (by omega)) dX3_begins_85 ?_
    refine lv_iload_n (pc := 88) hx hb dX3_begins_88 rfl (lv_at hl 2 rfl) ?_
    obtain ⟨hg78, hm⟩ := gb_some hm
    have hlt79 := inR_lt hg78
    refine rk_aald (pc := 89) hx hb hK hW1 2 5 (by decide) rfl rfl rfl hg78 (x := (b1 + (6 + 2 * i2.toNatClampNeg + 0))) (by first | rfl | exact congrArg some (by omega)) dX3_begins_89 ?_
    obtain ⟨r80, hq81, hm⟩ := ob_some hm
    refine rk_PV (pc := 90) (As := []) (rest := [.int ((10 : Int32) + i2), .ref b0]) hx hb hml hown hts hK lkX3_68 rfl yn_X2_limit (ct_X2_limit (G := G) (l := l) (b0 := (b1 + (6 + 2 * i2.toNatClampNeg + 0))) hq81) ⟨Nat.le_of_ble_eq_true rfl, Nat.le_of_ble_eq_true rfl⟩ (rk_recv hK hW1 (6 + 2 * i2.toNatClampNeg + 0) (by omega) rfl rfl ((shX1_f6 G.2.1 hlt79 _ rfl 0 (by decide) _ _ _).trans rfl)) (rg_sub (d := (6 + 2 * i2.toNatClampNeg)) hW1 rfl (by omega) (fun o ho x y z => shX1_f6 G.2.1 hlt79 _ rfl o ho x y z)) rfl rfl hl.1 (Nat.le_of_ble_eq_true rfl) dX3_begins_90 ⟨Nat.zero_le _, Nat.zero_le _⟩ ?_
    refine W.eq (g2 := F0 m 93 ls [.long r80, .int ((10 : Int32) + i2), .ref b0]) rfl ?_
    obtain ⟨r82, w83, hq84, hm⟩ := ob2_some hm
    refine rk_TV (pc := 93) (As := [.int ((10 : Int32) + i2), .long r80]) (rest := []) (mc := 0) (ms := 0) hx hb hml hown hts hK hS (fun q hq => FA_sz rfl q hq) lkX3_74 rfl yn_X3_rowComes (ct_X3_rowComes (G := G) (l := l) (b0 := b0) (sz := H.size) hq84) ⟨Nat.le_of_ble_eq_true rfl, Nat.le_of_ble_eq_true rfl⟩ (fun z h => Or.inl (show iv _ _ _ from ⟨by have h8 := h.1; have h9 := h.2; omega, by have h8 := h.1; have h9 := h.2; omega⟩)) (rk_recv hK hW0 0 (by decide) rfl rfl rfl) hW0 rfl rfl hl.1 (Nat.le_of_ble_eq_true rfl) dX3_begins_93 ⟨Nat.zero_le _, Nat.zero_le _⟩ (fun ov9 H85 locs86 hP87 hkp88 hS89 => ?_)
    obtain ⟨rfl, hW90, hz91⟩ := hP87
    have hW92 := rg_keepA hW1 hkp88 (by intro z h1 h2 h3; have h8 := h3.1; have h9 := h3.2; omega)
    have hz93 := hz91.trans hz
    refine W.eq (g2 := F0 m 96 ls [.int r82]) rfl ?_
    refine lv_istore_n (pc := 96) (lv' := [(3, .int r82), (0, .ref b0), (1, .ref b1), (2, .int i2)]) hx hb dX3_begins_96 rfl hl (by decide) rfl (fun ls hl => ?_)
    refine lv_iconst (pc := 97) (v := (0 : Int32)) hx hb dX3_begins_97 (by decide) ?_
    refine lv_istore (pc := 98) (lv' := [(4, .int (0 : Int32)), (3, .int r82), (0, .ref b0), (1, .ref b1), (2, .int i2)]) hx hb dX3_begins_98 hl (by decide) rfl (fun ls hl => ?_)
    exact (w_fX3_begins_100_l C hd01 hk71 FU) w83 i2 r82 (0 : Int32) hm H85 locs86 ls hW90 hW92 hS89 hz93 (lv_sub hl [2, 3, 4, 1, 0] rfl)
theorem w_fX3_begins_71_l (C : Cx G p s m args meth c RX3 cX3_begins 5 none) {b0 : Nat} {b1 : Nat} {V1 : Mem} {rw0 : Mem} (hd01 : b0 + 43 ≤ b1 ∨ b1 + 22 ≤ b0) : ∀ (n : Nat) (v0 : Mem) (i2 : Int32), lq2 (fX3_begins_71 V1) n v0 i2 = some rw0 → ∀ (H : Heap) (locs : List Loc) (ls : Array Slot), rg G b0 43 (shX3 G.2.1) v0 H → rg G b1 22 (shX1 G.2.1) V1 H → va_S (FA (iv b0 43) s.heap.size) s.heap H locs → H.size = s.heap.size → lv_has ls 5 [(0, .ref b0), (1, .ref b1), (2, .int i2)] → W p l e (rmT 1 0 0 24) s m args below meth c H locs 0 0 (MQ below (QcT (FA (iv b0 43) s.heap.size) (fun ov H => ov = none ∧ rg G b0 43 (shX3 G.2.1) rw0 H ∧ H.size = s.heap.size)) args s 0 0 (FA (iv b0 43) s.heap.size)) (F0 m 71 ls []) := by
  intro n
  induction n with
  | zero => intro v0 i2 hm; exact (lq2_0 hm).elim
  | succ n ih => intro v0 i2 hm; exact w_fX3_begins_71 C hd01 ih v0 i2 (lq2_s hm)
set_option maxHeartbeats 4000000 in
theorem w_fX3_begins_35 (C : Cx G p s m args meth c RX3 cX3_begins 5 none) {b0 : Nat} {b1 : Nat} {V1 : Mem} {rw0 : Mem} (hd01 : b0 + 43 ≤ b1 ∨ b1 + 22 ≤ b0) {k35 : Mem → Int32 → Option (Mem)} (hk35 : ∀ (v0 : Mem) (i2 : Int32), k35 v0 i2 = some rw0 → ∀ (H : Heap) (locs : List Loc) (ls : Array Slot), rg G b0 43 (shX3 G.2.1) v0 H → rg G b1 22 (shX1 G.2.1) V1 H → va_S (FA (iv b0 43) s.heap.size) s.heap H locs → H.size = s.heap.size → lv_has ls 5 [(0, .ref b0), (1, .ref b1), (2, .int i2)] → W p l e (rmT 1 0 0 24) s m args below meth c H locs 0 0 (MQ below (QcT (FA (iv b0 43) s.heap.size) (fun ov H => ov = none ∧ rg G b0 43 (shX3 G.2.1) rw0 H ∧ H.size = s.heap.size)) args s 0 0 (FA (iv b0 43) s.heap.size)) (F0 m 35 ls [])) : ∀ (v0 : Mem) (i2 : Int32), fX3_begins_35 V1 k35 v0 i2 = some rw0 → ∀ (H : Heap) (locs : List Loc) (ls : Array Slot), rg G b0 43 (shX3 G.2.1) v0 H → rg G b1 22 (shX1 G.2.1) V1 H → va_S (FA (iv b0 43) s.heap.size) s.heap H locs → H.size = s.heap.size → lv_has ls 5 [(0, .ref b0), (1, .ref b1), (2, .int i2)] → W p l e (rmT 1 0 0 24) s m args below meth c H locs 0 0 (MQ below (QcT (FA (iv b0 43) s.heap.size) (fun ov H => ov = none ∧ rg G b0 43 (shX3 G.2.1) rw0 H ∧ H.size = s.heap.size)) args s 0 0 (FA (iv b0 43) s.heap.size)) (F0 m 35 ls []) := by
  intro v0 i2 hm H locs ls hW0 hW1 hS hz hl
  obtain ⟨hx, hb, hr, hlk, hml, hown, hts, hK⟩ := id C
  unfold fX3_begins_35 at hm
  refine lv_iload_n (pc := 35) hx hb dX3_begins_35 rfl (lv_at hl 2 rfl) ?_
  refine lv_aload_n (pc := 36) hx hb dX3_begins_36 rfl (lv_at hl 0 rfl) ?_
  refine rk_get (pc := 37) hx hb hts hown hK hW0 flX3_44 0 (by decide) rfl rfl (x := .int (gI v0 0 0)) rfl dX3_begins_37 ?_
  refine lv_icmp_ge (pc := 40) (tgt := 69) hx hb dX3_begins_40 (by decide) (fun c55 => ?_) (fun c55 => ?_)
  · have hm := ite_t c55 hm
    refine lv_iconst (pc := 69) (v := (0 : Int32)) hx hb dX3_begins_69 (by decide) ?_
    refine lv_istore_n (pc := 70) (lv' := [(2, .int (0 : Int32)), (0, .ref b0), (1, .ref b1)]) hx hb dX3_begins_70 rfl hl (by decide) rfl (fun ls hl => ?_)
    exact (w_fX3_begins_71_l C hd01 FU) v0 (0 : Int32) hm H locs ls hW0 hW1 hS hz (lv_sub hl [1, 2, 0] rfl)
  · have hm := ite_f c55 hm
    refine lv_aload_n (pc := 43) hx hb dX3_begins_43 rfl (lv_at hl 0 rfl) ?_
    refine rk_get (pc := 44) hx hb hts hown hK hW0 flX3_25 0 (by decide) rfl rfl (x := .ref (b0 + 5)) (by first | rfl | exact congrArg (fun z => some (Value.ref z)) (by omega)) dX3_begins_44 ?_
    refine lv_iload_n (pc := 47) hx hb dX3_begins_47 rfl (lv_at hl 2 rfl) ?_
    refine lv_iload_n (pc := 48) hx hb dX3_begins_48 rfl (lv_at hl 2 rfl) ?_
    obtain ⟨hg56, hm⟩ := gb_some hm
    refine rk_iast (pc := 49) hx hb hK hW0 hS 5 (by decide) rfl (Or.inl (show iv _ _ _ from ⟨by omega, by omega⟩)) (fun _ _ _ => rfl) hg56 dX3_begins_49 (fun H58 locs59 hW60 hS61 hz62 hkp63 => ?_)
    obtain ⟨v0_57, he9, hm⟩ := lm_some hm
    rw [he9] at hW60
    have hW64 := rg_keepq hW1 hkp63 (by omega)
    have hz65 := hz62.trans hz
    refine lv_aload_n (pc := 50) hx hb dX3_begins_50 rfl (lv_at hl 0 rfl) ?_
    refine rk_get (pc := 51) hx hb hts hown hK hW60 flX3_18 0 (by decide) rfl rfl (x := .ref (b0 + 3)) (by first | rfl | exact congrArg (fun z => some (Value.ref z)) (by omega)) dX3_begins_51 ?_
    refine lv_iload_n (pc := 54) hx hb dX3_begins_54 rfl (lv_at hl 2 rfl) ?_
    refine lv_aload_n (pc := 55) hx hb dX3_begins_55 rfl (lv_at hl 1 rfl) ?_
    refine rk_getN (pc := 56) hx hb hts hown hK hW64 fnX3_58 0 (by decide) rfl rfl (x := .ref (b1 + 1)) (by first | rfl | exact congrArg (fun z => some (Value.ref z)) (by omega)) dX3_begins_56 ?_
    refine lv_iload_n (pc := 59) hx hb dX3_begins_59 rfl (lv_at hl 2 rfl) ?_
    obtain ⟨hg66, hm⟩ := gb_some hm
    refine rk_iald (pc := 60) hx hb hK hW64 1 (by decide) rfl rfl hg66 (x := (gI V1 1 i2.toNatClampNeg)) rfl dX3_begins_60 ?_
    refine lv_i2l (pc := 61) hx hb dX3_begins_61 rfl ?_
    obtain ⟨hg67, hm⟩ := gb_some hm
    refine rk_last (pc := 62) hx hb hK hW60 hS61 3 (by decide) rfl (Or.inl (show iv _ _ _ from ⟨by omega, by omega⟩)) (fun _ _ _ => rfl) hg67 dX3_begins_62 (fun H69 locs70 hW71 hS72 hz73 hkp74 => ?_)
    obtain ⟨v0_68, he9, hm⟩ := lm_some hm
    rw [he9] at hW71
    have hW75 := rg_keepq hW64 hkp74 (by omega)
    have hz76 := hz73.trans hz65
    refine lv_iinc (pc := 63) (v := (i2 + (1 : Int32))) (lv' := [(2, .int (i2 + (1 : Int32))), (0, .ref b0), (1, .ref b1)]) hx hb dX3_begins_63 hl (k := 2) rfl rfl (by decide) rfl (fun ls hl => ?_)
    refine lv_goto (pc := 66) (tgt := 35) hx hb dX3_begins_66 (by decide) ?_
    exact hk35 v0_68 (i2 + (1 : Int32)) hm H69 locs70 ls hW71 hW75 hS72 hz76 (lv_sub hl [1, 2, 0] rfl)
theorem w_fX3_begins_35_l (C : Cx G p s m args meth c RX3 cX3_begins 5 none) {b0 : Nat} {b1 : Nat} {V1 : Mem} {rw0 : Mem} (hd01 : b0 + 43 ≤ b1 ∨ b1 + 22 ≤ b0) : ∀ (n : Nat) (v0 : Mem) (i2 : Int32), lq2 (fX3_begins_35 V1) n v0 i2 = some rw0 → ∀ (H : Heap) (locs : List Loc) (ls : Array Slot), rg G b0 43 (shX3 G.2.1) v0 H → rg G b1 22 (shX1 G.2.1) V1 H → va_S (FA (iv b0 43) s.heap.size) s.heap H locs → H.size = s.heap.size → lv_has ls 5 [(0, .ref b0), (1, .ref b1), (2, .int i2)] → W p l e (rmT 1 0 0 24) s m args below meth c H locs 0 0 (MQ below (QcT (FA (iv b0 43) s.heap.size) (fun ov H => ov = none ∧ rg G b0 43 (shX3 G.2.1) rw0 H ∧ H.size = s.heap.size)) args s 0 0 (FA (iv b0 43) s.heap.size)) (F0 m 35 ls []) := by
  intro n
  induction n with
  | zero => intro v0 i2 hm; exact (lq2_0 hm).elim
  | succ n ih => intro v0 i2 hm; exact w_fX3_begins_35 C hd01 ih v0 i2 (lq2_s hm)
set_option maxHeartbeats 4000000 in
theorem w_fX3_begins (C : Cx G p s m args meth c RX3 cX3_begins 5 none) {b0 : Nat} {b1 : Nat} {V1 : Mem} {rw0 : Mem} (hd01 : b0 + 43 ≤ b1 ∨ b1 + 22 ≤ b0) : ∀ (v0 : Mem), fX3_begins V1 v0 = some rw0 → ∀ (H : Heap) (locs : List Loc) (ls : Array Slot), rg G b0 43 (shX3 G.2.1) v0 H → rg G b1 22 (shX1 G.2.1) V1 H → va_S (FA (iv b0 43) s.heap.size) s.heap H locs → H.size = s.heap.size → lv_has ls 5 [(0, .ref b0), (1, .ref b1)] → W p l e (rmT 1 0 0 24) s m args below meth c H locs 0 0 (MQ below (QcT (FA (iv b0 43) s.heap.size) (fun ov H => ov = none ∧ rg G b0 43 (shX3 G.2.1) rw0 H ∧ H.size = s.heap.size)) args s 0 0 (FA (iv b0 43) s.heap.size)) (F0 m 0 ls []) := by
  intro v0 hm H locs ls hW0 hW1 hS hz hl
  obtain ⟨hx, hb, hr, hlk, hml, hown, hts, hK⟩ := id C
  unfold fX3_begins at hm
  refine lv_aload_n (pc := 0) hx hb dX3_begins_0 rfl (lv_at hl 0 rfl) ?_
  refine lv_aload_n (pc := 1) hx hb dX3_begins_1 rfl (lv_at hl 1 rfl) ?_
  refine rk_getN (pc := 2) hx hb hts hown hK hW1 fnX3_39 0 (by decide) rfl rfl (x := .int (gI V1 0 0)) rfl dX3_begins_2 ?_
  refine rk_put (pc := 5) hx hb hts hown hK hW0 hS flX3_44 ft_X3 0 (by decide) rfl (Or.inl (show iv _ _ _ from ⟨by omega, by omega⟩)) rfl rfl (x := .int (gI V1 0 0)) rfl rfl (Nat.le_of_ble_eq_true rfl) (sI v0 0 0 (gI V1 0 0)) sI_ne (by rw [sI_eq]; exact rfl) dX3_begins_5 (fun H2 locs3 hW4 hS5 hz6 hkp7 => ?_)
  obtain ⟨v0_1, he9, hm⟩ := lm_some hm
  rw [he9] at hW4
  have hW8 := rg_keepq hW1 hkp7 (by omega)
  have hz9 := hz6.trans hz
  refine lv_aload_n (pc := 8) hx hb dX3_begins_8 rfl (lv_at hl 0 rfl) ?_
  refine lv_iconst (pc := 9) (v := (0 : Int32)) hx hb dX3_begins_9 (by decide) ?_
  refine rk_put (pc := 10) hx hb hts hown hK hW4 hS5 flX3_35 ft_X3 0 (by decide) rfl (Or.inl (show iv _ _ _ from ⟨by omega, by omega⟩)) rfl rfl (x := .int (0 : Int32)) rfl rfl (Nat.le_of_ble_eq_true rfl) (sI v0_1 0 1 (0 : Int32)) sI_ne (by rw [sI_eq]; exact rfl) dX3_begins_10 (fun H11 locs12 hW13 hS14 hz15 hkp16 => ?_)
  obtain ⟨v0_10, he9, hm⟩ := lm_some hm
  rw [he9] at hW13
  have hW17 := rg_keepq hW8 hkp16 (by omega)
  have hz18 := hz15.trans hz9
  refine lv_aload_n (pc := 13) hx hb dX3_begins_13 rfl (lv_at hl 0 rfl) ?_
  refine lv_iconst (pc := 14) (v := (0 : Int32)) hx hb dX3_begins_14 (by decide) ?_
  refine rk_put (pc := 15) hx hb hts hown hK hW13 hS14 flX3_45 ft_X3 0 (by decide) rfl (Or.inl (show iv _ _ _ from ⟨by omega, by omega⟩)) rfl rfl (x := .int (0 : Int32)) rfl rfl (Nat.le_of_ble_eq_true rfl) (sI v0_10 0 2 (0 : Int32)) sI_ne (by rw [sI_eq]; exact rfl) dX3_begins_15 (fun H20 locs21 hW22 hS23 hz24 hkp25 => ?_)
  obtain ⟨v0_19, he9, hm⟩ := lm_some hm
  rw [he9] at hW22
  have hW26 := rg_keepq hW17 hkp25 (by omega)
  have hz27 := hz24.trans hz18
  refine lv_aload_n (pc := 18) hx hb dX3_begins_18 rfl (lv_at hl 0 rfl) ?_
  refine lv_iconst (pc := 19) (v := (0 : Int32)) hx hb dX3_begins_19 (by decide) ?_
  refine rk_put (pc := 20) hx hb hts hown hK hW22 hS23 flX3_48 ft_X3 0 (by decide) rfl (Or.inl (show iv _ _ _ from ⟨by omega, by omega⟩)) rfl rfl (x := .int (0 : Int32)) rfl rfl (Nat.le_of_ble_eq_true rfl) (sI v0_19 0 3 (0 : Int32)) sI_ne (by rw [sI_eq]; exact rfl) dX3_begins_20 (fun H29 locs30 hW31 hS32 hz33 hkp34 => ?_)
  obtain ⟨v0_28, he9, hm⟩ := lm_some hm
  rw [he9] at hW31
  have hW35 := rg_keepq hW26 hkp34 (by omega)
  have hz36 := hz33.trans hz27
  refine lv_aload_n (pc := 23) hx hb dX3_begins_23 rfl (lv_at hl 0 rfl) ?_
  refine lv_lconst (pc := 24) (v := (1 : Int64)) hx hb dX3_begins_24 (by decide) ?_
  refine rk_put (pc := 25) hx hb hts hown hK hW31 hS32 flX3_51 ft_X3 0 (by decide) rfl (Or.inl (show iv _ _ _ from ⟨by omega, by omega⟩)) rfl rfl (x := .long (1 : Int64)) rfl rfl (Nat.le_of_ble_eq_true rfl) (sL v0_28 0 4 (1 : Int64)) sL_ne (by rw [sL_eq]; exact rfl) dX3_begins_25 (fun H38 locs39 hW40 hS41 hz42 hkp43 => ?_)
  obtain ⟨v0_37, he9, hm⟩ := lm_some hm
  rw [he9] at hW40
  have hW44 := rg_keepq hW35 hkp43 (by omega)
  have hz45 := hz42.trans hz36
  refine lv_aload_n (pc := 28) hx hb dX3_begins_28 rfl (lv_at hl 0 rfl) ?_
  refine lv_lconst (pc := 29) (v := (0 : Int64)) hx hb dX3_begins_29 (by decide) ?_
  refine rk_put (pc := 30) hx hb hts hown hK hW40 hS41 flX3_55 ft_X3 0 (by decide) rfl (Or.inl (show iv _ _ _ from ⟨by omega, by omega⟩)) rfl rfl (x := .long (0 : Int64)) rfl rfl (Nat.le_of_ble_eq_true rfl) (sL v0_37 0 5 (0 : Int64)) sL_ne (by rw [sL_eq]; exact rfl) dX3_begins_30 (fun H47 locs48 hW49 hS50 hz51 hkp52 => ?_)
  obtain ⟨v0_46, he9, hm⟩ := lm_some hm
  rw [he9] at hW49
  have hW53 := rg_keepq hW44 hkp52 (by omega)
  have hz54 := hz51.trans hz45
  refine lv_iconst (pc := 33) (v := (0 : Int32)) hx hb dX3_begins_33 (by decide) ?_
  refine lv_istore_n (pc := 34) (lv' := [(2, .int (0 : Int32)), (0, .ref b0), (1, .ref b1)]) hx hb dX3_begins_34 rfl hl (by decide) rfl (fun ls hl => ?_)
  exact (w_fX3_begins_35_l C hd01 FU) v0_46 (0 : Int32) hm H47 locs48 ls hW49 hW53 hS50 hz54 (lv_sub hl [1, 2, 0] rfl)
set_option maxHeartbeats 4000000 in
theorem ct_X3_begins {G : Gv} {l : Launch} {b0 : Nat} {b1 : Nat} {V1 : Mem} {v0 : Mem} {rw0 : Mem} {sz : Nat} (hm : fX3_begins V1 v0 = some rw0) (hd01 : b0 + 43 ≤ b1 ∨ b1 + 22 ≤ b0) : CT G l yX3_begins (ws_ yX3_begins cX3_begins 5 none) 1 0 0 24 [.ref b0, .ref b1] (iv b0 43) sz (fun H => rg G b0 43 (shX3 G.2.1) v0 H ∧ rg G b1 22 (shX1 G.2.1) V1 H) (fun ov H => ov = none ∧ rg G b0 43 (shX3 G.2.1) rw0 H ∧ H.size = sz) := by
  refine Met.ofW (cc := cX3_begins) (maxL := 5) (ret := none) (by decide +kernel) rfl ?_
  intro p e s m args below meth c s₁ B hml hv
  obtain ⟨rfl, ⟨hz, hW0, hW1⟩, hK⟩ := hv
  subst hz
  have hts := atoms_spec (ws := ws_ yX3_begins cX3_begins 5 none) B.pre
  have hts : ∀ w ∈ lw_all, w.before _ s = true := fun w h => hts w (List.mem_cons_of_mem _ h)
  have C : Cx G p s m _ meth c RX3 cX3_begins 5 none := ⟨B.exec, B.bytes, B.returns, B.notSynchronized, hml, findClass_of_methodNamed B.named, hts, hK⟩
  have hl := lv_entry ([.ref b0, .ref b1]) (n := 5) (Nat.le_of_ble_eq_true rfl)
  rw [lg_entry_eq]
  generalize (lg_sl ([.ref b0, .ref b1]) ++ List.replicate (5 - (lg_sl ([.ref b0, .ref b1])).length) Slot.unset).toArray = ls at hl ⊢
  have hl : lv_has ls 5 [(0, .ref b0), (1, .ref b1)] := hl
  exact w_fX3_begins C hd01 _ hm s.heap [] ls hW0 hW1 va_S.rf rfl hl
noncomputable def fX3_holds_34 (k34 : Mem → Int32 → Int32 → Int32 → Int32 → Option (Mem)) (v0 : Mem) (i1 : Int32) (i3 : Int32) (i4 : Int32) (i5 : Int32) : Option (Mem) :=
  if (gI v0 0 0) ≤ i5 then (
  some v0)
  else (
  if i5 = i1 then (
  if i3 = 0 then (
  ob (fX3_puts v0 i4 i5 (1 : Int64)) fun w28 =>
  k34 w28 i1 i3 i4 (i5 + (1 : Int32)))
  else (
  ob (fX3_puts v0 i4 i5 (-1 : Int64)) fun w38 =>
  k34 w38 i1 i3 i4 (i5 + (1 : Int32))))
  else (
  ob (fX3_puts v0 i4 i5 (0 : Int64)) fun w48 =>
  k34 w48 i1 i3 i4 (i5 + (1 : Int32))))
noncomputable def fX3_holds_12 (v0 : Mem) (i1 : Int32) (i2 : Int32) (i3 : Int32) (t1 : Int32) : Option (Mem) :=
  if i3 = 0 then (
  ob2 (fX3_rowComes v0 (t1 + i1) i2.toInt64) fun r3 w4 =>
  lq5 (fX3_holds_34) FU w4 i1 i3 r3 (0 : Int32))
  else (
  ob2 (fX3_rowComes v0 (t1 + i1) (-i2).toInt64) fun r14 w15 =>
  lq5 (fX3_holds_34) FU w15 i1 i3 r14 (0 : Int32))
noncomputable def fX3_holds (v0 : Mem) (i1 : Int32) (i2 : Int32) (i3 : Int32) : Option (Mem) :=
  if i3 = 0 then (
  fX3_holds_12 v0 i1 i2 i3 (50 : Int32))
  else (
  fX3_holds_12 v0 i1 i2 i3 (40 : Int32))
set_option maxHeartbeats 4000000 in
theorem w_fX3_holds_34 (C : Cx G p s m args meth c RX3 cX3_holds 6 none) {b0 : Nat} {rw0 : Mem} {k34 : Mem → Int32 → Int32 → Int32 → Int32 → Option (Mem)} (hk34 : ∀ (v0 : Mem) (i1 : Int32) (i3 : Int32) (i4 : Int32) (i5 : Int32), k34 v0 i1 i3 i4 i5 = some rw0 → ∀ (H : Heap) (locs : List Loc) (ls : Array Slot), rg G b0 43 (shX3 G.2.1) v0 H → va_S (FA (iv b0 43) s.heap.size) s.heap H locs → H.size = s.heap.size → lv_has ls 6 [(0, .ref b0), (1, .int i1), (3, .int i3), (4, .int i4), (5, .int i5)] → W p l e (rmT 1 0 0 24) s m args below meth c H locs 0 0 (MQ below (QcT (FA (iv b0 43) s.heap.size) (fun ov H => ov = none ∧ rg G b0 43 (shX3 G.2.1) rw0 H ∧ H.size = s.heap.size)) args s 0 0 (FA (iv b0 43) s.heap.size)) (F0 m 34 ls [])) : ∀ (v0 : Mem) (i1 : Int32) (i3 : Int32) (i4 : Int32) (i5 : Int32), fX3_holds_34 k34 v0 i1 i3 i4 i5 = some rw0 → ∀ (H : Heap) (locs : List Loc) (ls : Array Slot), rg G b0 43 (shX3 G.2.1) v0 H → va_S (FA (iv b0 43) s.heap.size) s.heap H locs → H.size = s.heap.size → lv_has ls 6 [(0, .ref b0), (1, .int i1), (3, .int i3), (4, .int i4), (5, .int i5)] → W p l e (rmT 1 0 0 24) s m args below meth c H locs 0 0 (MQ below (QcT (FA (iv b0 43) s.heap.size) (fun ov H => ov = none ∧ rg G b0 43 (shX3 G.2.1) rw0 H ∧ H.size = s.heap.size)) args s 0 0 (FA (iv b0 43) s.heap.size)) (F0 m 34 ls []) := by
  intro v0 i1 i3 i4 i5 hm H locs ls hW0 hS hz hl
  obtain ⟨hx, hb, hr, hlk, hml, hown, hts, hK⟩ := id C
  unfold fX3_holds_34 at hm
  refine lv_iload (pc := 34) hx hb dX3_holds_34 (lv_at hl 4 rfl) ?_
  refine lv_aload_n (pc := 36) hx hb dX3_holds_36 rfl (lv_at hl 0 rfl) ?_
  refine rk_get (pc := 37) hx hb hts hown hK hW0 flX3_44 0 (by decide) rfl rfl (x := .int (gI v0 0 0)) rfl dX3_holds_37 ?_
  refine lv_icmp_ge (pc := 40) (tgt := 78) hx hb dX3_holds_40 (by decide) (fun c25 => ?_) (fun c25 => ?_)
  · have hm := ite_t c25 hm
    have e9 := rs1 hm
    subst e9
    exact rk_vret (pc := 78) hx hb hr hlk hS ⟨rfl, hW0, hz⟩ dX3_holds_78
  · have hm := ite_f c25 hm
    refine lv_aload_n (pc := 43) hx hb dX3_holds_43 rfl (lv_at hl 0 rfl) ?_
    refine lv_iload (pc := 44) hx hb dX3_holds_44 (lv_at hl 3 rfl) ?_
    refine lv_iload (pc := 46) hx hb dX3_holds_46 (lv_at hl 4 rfl) ?_
    refine lv_iload (pc := 48) hx hb dX3_holds_48 (lv_at hl 4 rfl) ?_
    refine lv_iload_n (pc := 50) hx hb dX3_holds_50 rfl (lv_at hl 1 rfl) ?_
    refine lv_icmp_eq (pc := 51) (tgt := 58) hx hb dX3_holds_51 (by decide) (fun c26 => ?_) (fun c26 => ?_)
    · have hm := ite_t c26 hm
      refine lv_iload_n (pc := 58) hx hb dX3_holds_58 rfl (lv_at hl 2 rfl) ?_
      refine lv_if_eq (pc := 59) (tgt := 68) hx hb dX3_holds_59 (by decide) (fun c27 => ?_) (fun c27 => ?_)
      · have hm := ite_t c27 hm
        refine lv_lconst (pc := 68) (v := (1 : Int64)) hx hb dX3_holds_68 (by decide) ?_
        obtain ⟨w28, hq29, hm⟩ := ob_some hm
        refine rk_TV (pc := 69) (As := [.int i4, .int i5, .long (1 : Int64)]) (rest := []) (mc := 0) (ms := 0) hx hb hml hown hts hK hS (fun q hq => FA_sz rfl q hq) lkX3_82 rfl yn_X3_puts (ct_X3_puts (G := G) (l := l) (b0 := b0) (sz := H.size) hq29) ⟨Nat.le_of_ble_eq_true rfl, Nat.le_of_ble_eq_true rfl⟩ (fun z h => Or.inl (show iv _ _ _ from ⟨by have h8 := h.1; have h9 := h.2; omega, by have h8 := h.1; have h9 := h.2; omega⟩)) (rk_recv hK hW0 0 (by decide) rfl rfl rfl) hW0 rfl rfl hl.1 (Nat.le_of_ble_eq_true rfl) dX3_holds_69 ⟨Nat.zero_le _, Nat.zero_le _⟩ (fun ov9 H30 locs31 hP32 hkp33 hS34 => ?_)
        obtain ⟨rfl, hW35, hz36⟩ := hP32
        have hz37 := hz36.trans hz
        refine W.eq (g2 := F0 m 72 ls []) rfl ?_
        refine lv_iinc (pc := 72) (v := (i5 + (1 : Int32))) (lv' := [(5, .int (i5 + (1 : Int32))), (0, .ref b0), (1, .int i1), (3, .int i3), (4, .int i4)]) hx hb dX3_holds_72 hl (k := 4) rfl rfl (by decide) rfl (fun ls hl => ?_)
        refine lv_goto (pc := 75) (tgt := 34) hx hb dX3_holds_75 (by decide) ?_
        exact hk34 w28 i1 i3 i4 (i5 + (1 : Int32)) hm H30 locs31 ls hW35 hS34 hz37 (lv_sub hl [1, 2, 3, 4, 0] rfl)
      · have hm := ite_f c27 hm
        refine lv_ldc2 (pc := 62) (v := (-1 : Int64)) hx hb hown (hts _ q1234) dX3_holds_62 ?_
        refine lv_goto (pc := 65) (tgt := 69) hx hb dX3_holds_65 (by decide) ?_
        obtain ⟨w38, hq39, hm⟩ := ob_some hm
        refine rk_TV (pc := 69) (As := [.int i4, .int i5, .long (-1 : Int64)]) (rest := []) (mc := 0) (ms := 0) hx hb hml hown hts hK hS (fun q hq => FA_sz rfl q hq) lkX3_82 rfl yn_X3_puts (ct_X3_puts (G := G) (l := l) (b0 := b0) (sz := H.size) hq39) ⟨Nat.le_of_ble_eq_true rfl, Nat.le_of_ble_eq_true rfl⟩ (fun z h => Or.inl (show iv _ _ _ from ⟨by have h8 := h.1; have h9 := h.2; omega, by have h8 := h.1; have h9 := h.2; omega⟩)) (rk_recv hK hW0 0 (by decide) rfl rfl rfl) hW0 rfl rfl hl.1 (Nat.le_of_ble_eq_true rfl) dX3_holds_69 ⟨Nat.zero_le _, Nat.zero_le _⟩ (fun ov9 H40 locs41 hP42 hkp43 hS44 => ?_)
        obtain ⟨rfl, hW45, hz46⟩ := hP42
        have hz47 := hz46.trans hz
        refine W.eq (g2 := F0 m 72 ls []) rfl ?_
        refine lv_iinc (pc := 72) (v := (i5 + (1 : Int32))) (lv' := [(5, .int (i5 + (1 : Int32))), (0, .ref b0), (1, .int i1), (3, .int i3), (4, .int i4)]) hx hb dX3_holds_72 hl (k := 4) rfl rfl (by decide) rfl (fun ls hl => ?_)
        refine lv_goto (pc := 75) (tgt := 34) hx hb dX3_holds_75 (by decide) ?_
        exact hk34 w38 i1 i3 i4 (i5 + (1 : Int32)) hm H40 locs41 ls hW45 hS44 hz47 (lv_sub hl [1, 2, 3, 4, 0] rfl)
    · have hm := ite_f c26 hm
      refine lv_lconst (pc := 54) (v := (0 : Int64)) hx hb dX3_holds_54 (by decide) ?_
      refine lv_goto (pc := 55) (tgt := 69) hx hb dX3_holds_55 (by decide) ?_
      obtain ⟨w48, hq49, hm⟩ := ob_some hm
      refine rk_TV (pc := 69) (As := [.int i4, .int i5, .long (0 : Int64)]) (rest := []) (mc := 0) (ms := 0) hx hb hml hown hts hK hS (fun q hq => FA_sz rfl q hq) lkX3_82 rfl yn_X3_puts (ct_X3_puts (G := G) (l := l) (b0 := b0) (sz := H.size) hq49) ⟨Nat.le_of_ble_eq_true rfl, Nat.le_of_ble_eq_true rfl⟩ (fun z h => Or.inl (show iv _ _ _ from ⟨by have h8 := h.1; have h9 := h.2; omega, by have h8 := h.1; have h9 := h.2; omega⟩)) (rk_recv hK hW0 0 (by decide) rfl rfl rfl) hW0 rfl rfl hl.1 (Nat.le_of_ble_eq_true rfl) dX3_holds_69 ⟨Nat.zero_le _, Nat.zero_le _⟩ (fun ov9 H50 locs51 hP52 hkp53 hS54 => ?_)
      obtain ⟨rfl, hW55, hz56⟩ := hP52
      have hz57 := hz56.trans hz
      refine W.eq (g2 := F0 m 72 ls []) rfl ?_
      refine lv_iinc (pc := 72) (v := (i5 + (1 : Int32))) (lv' := [(5, .int (i5 + (1 : Int32))), (0, .ref b0), (1, .int i1), (3, .int i3), (4, .int i4)]) hx hb dX3_holds_72 hl (k := 4) rfl rfl (by decide) rfl (fun ls hl => ?_)
      refine lv_goto (pc := 75) (tgt := 34) hx hb dX3_holds_75 (by decide) ?_
      exact hk34 w48 i1 i3 i4 (i5 + (1 : Int32)) hm H50 locs51 ls hW55 hS54 hz57 (lv_sub hl [1, 2, 3, 4, 0] rfl)
theorem w_fX3_holds_34_l (C : Cx G p s m args meth c RX3 cX3_holds 6 none) {b0 : Nat} {rw0 : Mem} : ∀ (n : Nat) (v0 : Mem) (i1 : Int32) (i3 : Int32) (i4 : Int32) (i5 : Int32), lq5 (fX3_holds_34) n v0 i1 i3 i4 i5 = some rw0 → ∀ (H : Heap) (locs : List Loc) (ls : Array Slot), rg G b0 43 (shX3 G.2.1) v0 H → va_S (FA (iv b0 43) s.heap.size) s.heap H locs → H.size = s.heap.size → lv_has ls 6 [(0, .ref b0), (1, .int i1), (3, .int i3), (4, .int i4), (5, .int i5)] → W p l e (rmT 1 0 0 24) s m args below meth c H locs 0 0 (MQ below (QcT (FA (iv b0 43) s.heap.size) (fun ov H => ov = none ∧ rg G b0 43 (shX3 G.2.1) rw0 H ∧ H.size = s.heap.size)) args s 0 0 (FA (iv b0 43) s.heap.size)) (F0 m 34 ls []) := by
  intro n
  induction n with
  | zero => intro v0 i1 i3 i4 i5 hm; exact (lq5_0 hm).elim
  | succ n ih => intro v0 i1 i3 i4 i5 hm; exact w_fX3_holds_34 C ih v0 i1 i3 i4 i5 (lq5_s hm)
set_option maxHeartbeats 4000000 in
theorem w_fX3_holds_12 (C : Cx G p s m args meth c RX3 cX3_holds 6 none) {b0 : Nat} {rw0 : Mem} : ∀ (v0 : Mem) (i1 : Int32) (i2 : Int32) (i3 : Int32) (t1 : Int32), fX3_holds_12 v0 i1 i2 i3 t1 = some rw0 → ∀ (H : Heap) (locs : List Loc) (ls : Array Slot), rg G b0 43 (shX3 G.2.1) v0 H → va_S (FA (iv b0 43) s.heap.size) s.heap H locs → H.size = s.heap.size → lv_has ls 6 [(0, .ref b0), (1, .int i1), (2, .int i2), (3, .int i3)] → W p l e (rmT 1 0 0 24) s m args below meth c H locs 0 0 (MQ below (QcT (FA (iv b0 43) s.heap.size) (fun ov H => ov = none ∧ rg G b0 43 (shX3 G.2.1) rw0 H ∧ H.size = s.heap.size)) args s 0 0 (FA (iv b0 43) s.heap.size)) (F0 m 12 ls [.int t1, .ref b0]) := by
  intro v0 i1 i2 i3 t1 hm H locs ls hW0 hS hz hl
  obtain ⟨hx, hb, hr, hlk, hml, hown, hts, hK⟩ := id C
  unfold fX3_holds_12 at hm
  refine lv_iload_n (pc := 12) hx hb dX3_holds_12 rfl (lv_at hl 1 rfl) ?_
  refine lv_iadd (pc := 13) hx hb dX3_holds_13 ?_
  refine lv_iload_n (pc := 14) hx hb dX3_holds_14 rfl (lv_at hl 3 rfl) ?_
  refine lv_if_eq (pc := 15) (tgt := 24) hx hb dX3_holds_15 (by decide) (fun c2 => ?_) (fun c2 => ?_)
  · have hm := ite_t c2 hm
    refine lv_iload_n (pc := 24) hx hb dX3_holds_24 rfl (lv_at hl 2 rfl) ?_
    refine lv_i2l (pc := 25) hx hb dX3_holds_25 rfl ?_
    obtain ⟨r3, w4, hq5, hm⟩ := ob2_some hm
    refine rk_TV (pc := 26) (As := [.int (t1 + i1), .long i2.toInt64]) (rest := []) (mc := 0) (ms := 0) hx hb hml hown hts hK hS (fun q hq => FA_sz rfl q hq) lkX3_74 rfl yn_X3_rowComes (ct_X3_rowComes (G := G) (l := l) (b0 := b0) (sz := H.size) hq5) ⟨Nat.le_of_ble_eq_true rfl, Nat.le_of_ble_eq_true rfl⟩ (fun z h => Or.inl (show iv _ _ _ from ⟨by have h8 := h.1; have h9 := h.2; omega, by have h8 := h.1; have h9 := h.2; omega⟩)) (rk_recv hK hW0 0 (by decide) rfl rfl rfl) hW0 rfl rfl hl.1 (Nat.le_of_ble_eq_true rfl) dX3_holds_26 ⟨Nat.zero_le _, Nat.zero_le _⟩ (fun ov9 H6 locs7 hP8 hkp9 hS10 => ?_)
    obtain ⟨rfl, hW11, hz12⟩ := hP8
    have hz13 := hz12.trans hz
    refine W.eq (g2 := F0 m 29 ls [.int r3]) rfl ?_
    refine lv_istore (pc := 29) (lv' := [(4, .int r3), (0, .ref b0), (1, .int i1), (2, .int i2), (3, .int i3)]) hx hb dX3_holds_29 hl (by decide) rfl (fun ls hl => ?_)
    refine lv_iconst (pc := 31) (v := (0 : Int32)) hx hb dX3_holds_31 (by decide) ?_
    refine lv_istore (pc := 32) (lv' := [(5, .int (0 : Int32)), (4, .int r3), (0, .ref b0), (1, .int i1), (2, .int i2), (3, .int i3)]) hx hb dX3_holds_32 hl (by decide) rfl (fun ls hl => ?_)
    exact (w_fX3_holds_34_l C FU) w4 i1 i3 r3 (0 : Int32) hm H6 locs7 ls hW11 hS10 hz13 (lv_sub hl [2, 3, 5, 1, 0] rfl)
  · have hm := ite_f c2 hm
    refine lv_iload_n (pc := 18) hx hb dX3_holds_18 rfl (lv_at hl 2 rfl) ?_
    refine lv_ineg (pc := 19) hx hb dX3_holds_19 ?_
    refine lv_i2l (pc := 20) hx hb dX3_holds_20 rfl ?_
    refine lv_goto (pc := 21) (tgt := 26) hx hb dX3_holds_21 (by decide) ?_
    obtain ⟨r14, w15, hq16, hm⟩ := ob2_some hm
    refine rk_TV (pc := 26) (As := [.int (t1 + i1), .long (-i2).toInt64]) (rest := []) (mc := 0) (ms := 0) hx hb hml hown hts hK hS (fun q hq => FA_sz rfl q hq) lkX3_74 rfl yn_X3_rowComes (ct_X3_rowComes (G := G) (l := l) (b0 := b0) (sz := H.size) hq16) ⟨Nat.le_of_ble_eq_true rfl, Nat.le_of_ble_eq_true rfl⟩ (fun z h => Or.inl (show iv _ _ _ from ⟨by have h8 := h.1; have h9 := h.2; omega, by have h8 := h.1; have h9 := h.2; omega⟩)) (rk_recv hK hW0 0 (by decide) rfl rfl rfl) hW0 rfl rfl hl.1 (Nat.le_of_ble_eq_true rfl) dX3_holds_26 ⟨Nat.zero_le _, Nat.zero_le _⟩ (fun ov9 H17 locs18 hP19 hkp20 hS21 => ?_)
    obtain ⟨rfl, hW22, hz23⟩ := hP19
    have hz24 := hz23.trans hz
    refine W.eq (g2 := F0 m 29 ls [.int r14]) rfl ?_
    refine lv_istore (pc := 29) (lv' := [(4, .int r14), (0, .ref b0), (1, .int i1), (2, .int i2), (3, .int i3)]) hx hb dX3_holds_29 hl (by decide) rfl (fun ls hl => ?_)
    refine lv_iconst (pc := 31) (v := (0 : Int32)) hx hb dX3_holds_31 (by decide) ?_
    refine lv_istore (pc := 32) (lv' := [(5, .int (0 : Int32)), (4, .int r14), (0, .ref b0), (1, .int i1), (2, .int i2), (3, .int i3)]) hx hb dX3_holds_32 hl (by decide) rfl (fun ls hl => ?_)
    exact (w_fX3_holds_34_l C FU) w15 i1 i3 r14 (0 : Int32) hm H17 locs18 ls hW22 hS21 hz24 (lv_sub hl [2, 3, 5, 1, 0] rfl)
set_option maxHeartbeats 4000000 in
theorem w_fX3_holds (C : Cx G p s m args meth c RX3 cX3_holds 6 none) {b0 : Nat} {rw0 : Mem} : ∀ (v0 : Mem) (i1 : Int32) (i2 : Int32) (i3 : Int32), fX3_holds v0 i1 i2 i3 = some rw0 → ∀ (H : Heap) (locs : List Loc) (ls : Array Slot), rg G b0 43 (shX3 G.2.1) v0 H → va_S (FA (iv b0 43) s.heap.size) s.heap H locs → H.size = s.heap.size → lv_has ls 6 [(0, .ref b0), (1, .int i1), (2, .int i2), (3, .int i3)] → W p l e (rmT 1 0 0 24) s m args below meth c H locs 0 0 (MQ below (QcT (FA (iv b0 43) s.heap.size) (fun ov H => ov = none ∧ rg G b0 43 (shX3 G.2.1) rw0 H ∧ H.size = s.heap.size)) args s 0 0 (FA (iv b0 43) s.heap.size)) (F0 m 0 ls []) := by
  intro v0 i1 i2 i3 hm H locs ls hW0 hS hz hl
  obtain ⟨hx, hb, hr, hlk, hml, hown, hts, hK⟩ := id C
  unfold fX3_holds at hm
  refine lv_aload_n (pc := 0) hx hb dX3_holds_0 rfl (lv_at hl 0 rfl) ?_
  refine lv_iload_n (pc := 1) hx hb dX3_holds_1 rfl (lv_at hl 3 rfl) ?_
  refine lv_if_eq (pc := 2) (tgt := 10) hx hb dX3_holds_2 (by decide) (fun c1 => ?_) (fun c1 => ?_)
  · have hm := ite_t c1 hm
    refine lv_bipush (pc := 10) (v := (50 : Int32)) hx hb dX3_holds_10 (by decide) ?_
    exact (w_fX3_holds_12 C) v0 i1 i2 i3 (50 : Int32) hm H locs ls hW0 hS hz (lv_sub hl [0, 1, 2, 3] rfl)
  · have hm := ite_f c1 hm
    refine lv_bipush (pc := 5) (v := (40 : Int32)) hx hb dX3_holds_5 (by decide) ?_
    refine lv_goto (pc := 7) (tgt := 12) hx hb dX3_holds_7 (by decide) ?_
    exact (w_fX3_holds_12 C) v0 i1 i2 i3 (40 : Int32) hm H locs ls hW0 hS hz (lv_sub hl [0, 1, 2, 3] rfl)
set_option maxHeartbeats 4000000 in
theorem ct_X3_holds {G : Gv} {l : Launch} {b0 : Nat} {v0 : Mem} {i1 : Int32} {i2 : Int32} {i3 : Int32} {rw0 : Mem} {sz : Nat} (hm : fX3_holds v0 i1 i2 i3 = some rw0) : CT G l yX3_holds (ws_ yX3_holds cX3_holds 6 none) 1 0 0 24 [.ref b0, .int i1, .int i2, .int i3] (iv b0 43) sz (fun H => rg G b0 43 (shX3 G.2.1) v0 H) (fun ov H => ov = none ∧ rg G b0 43 (shX3 G.2.1) rw0 H ∧ H.size = sz) := by
  refine Met.ofW (cc := cX3_holds) (maxL := 6) (ret := none) (by decide +kernel) rfl ?_
  intro p e s m args below meth c s₁ B hml hv
  obtain ⟨rfl, ⟨hz, hW0⟩, hK⟩ := hv
  subst hz
  have hts := atoms_spec (ws := ws_ yX3_holds cX3_holds 6 none) B.pre
  have hts : ∀ w ∈ lw_all, w.before _ s = true := fun w h => hts w (List.mem_cons_of_mem _ h)
  have C : Cx G p s m _ meth c RX3 cX3_holds 6 none := ⟨B.exec, B.bytes, B.returns, B.notSynchronized, hml, findClass_of_methodNamed B.named, hts, hK⟩
  have hl := lv_entry ([.ref b0, .int i1, .int i2, .int i3]) (n := 6) (Nat.le_of_ble_eq_true rfl)
  rw [lg_entry_eq]
  generalize (lg_sl ([.ref b0, .int i1, .int i2, .int i3]) ++ List.replicate (6 - (lg_sl ([.ref b0, .int i1, .int i2, .int i3])).length) Slot.unset).toArray = ls at hl ⊢
  have hl : lv_has ls 6 [(0, .ref b0), (1, .int i1), (2, .int i2), (3, .int i3)] := hl
  exact w_fX3_holds C _ _ _ _ hm s.heap [] ls hW0 va_S.rf rfl hl
noncomputable def fX3_mixed (V0 : Mem) (j1 : Int64) (j3 : Int64) (j5 : Int64) (j7 : Int64) : Option (Int64) :=
  gb (nz64 (gL V0 0 4)) (
  some (((j1 * j3) + (j5 * j7)) / (gL V0 0 4)))
set_option maxHeartbeats 4000000 in
theorem w_fX3_mixed (C : Cx G p s m args meth c RX3 cX3_mixed 9 (some .long)) {b0 : Nat} {V0 : Mem} {rx : Int64} (hW0 : rg G b0 43 (shX3 G.2.1) V0 s.heap) : ∀ (j1 : Int64) (j3 : Int64) (j5 : Int64) (j7 : Int64), fX3_mixed V0 j1 j3 j5 j7 = some rx → ∀ (ls : Array Slot), lv_has ls 9 [(0, .ref b0), (1, .long j1), (3, .long j3), (5, .long j5), (7, .long j7)] → W p l e (rmP 0 0) s m args below meth c s.heap [] 0 0 (MQ below (QcP (some (.long rx))) args s 0 0 (fun _ => False)) (F0 m 0 ls []) := by
  intro j1 j3 j5 j7 hm ls hl
  obtain ⟨hx, hb, hr, hlk, hml, hown, hts, hK⟩ := id C
  unfold fX3_mixed at hm
  refine lv_lload_n (pc := 0) hx hb dX3_mixed_0 rfl (lv_at hl 1 rfl) ?_
  refine lv_lload_n (pc := 1) hx hb dX3_mixed_1 rfl (lv_at hl 2 rfl) ?_
  refine lv_lmul (pc := 2) hx hb dX3_mixed_2 ?_
  refine lv_lload (pc := 3) hx hb dX3_mixed_3 (lv_at hl 3 rfl) ?_
  refine lv_lload (pc := 5) hx hb dX3_mixed_5 (lv_at hl 4 rfl) ?_
  refine lv_lmul (pc := 7) hx hb dX3_mixed_7 ?_
  refine lv_ladd (pc := 8) hx hb dX3_mixed_8 ?_
  refine lv_aload_n (pc := 9) hx hb dX3_mixed_9 rfl (lv_at hl 0 rfl) ?_
  refine rk_get (pc := 10) hx hb hts hown hK hW0 flX3_51 0 (by decide) rfl rfl (x := .long (gL V0 0 4)) rfl dX3_mixed_10 ?_
  obtain ⟨hg1, hm⟩ := gb_some hm
  refine lv_ldiv (pc := 13) hx hb dX3_mixed_13 (nz64_ne hg1) ?_
  have e9 := rs1 hm
  subst e9
  exact rk_lretP (pc := 14) hx hb hr hlk rfl dX3_mixed_14
set_option maxHeartbeats 4000000 in
theorem ct_X3_mixed {G : Gv} {l : Launch} {b0 : Nat} {V0 : Mem} {j1 : Int64} {j3 : Int64} {j5 : Int64} {j7 : Int64} {rx : Int64} (hm : fX3_mixed V0 j1 j3 j5 j7 = some rx) : CP G l yX3_mixed (ws_ yX3_mixed cX3_mixed 9 (some .long)) 0 0 [.ref b0, .long j1, .long j3, .long j5, .long j7] (fun H => rg G b0 43 (shX3 G.2.1) V0 H) (some (.long rx)) := by
  refine Met.ofW (cc := cX3_mixed) (maxL := 9) (ret := (some .long)) (by decide +kernel) rfl ?_
  intro p e s m args below meth c s₁ B hml hv
  obtain ⟨rfl, hW0, hK⟩ := hv
  have hts := atoms_spec (ws := ws_ yX3_mixed cX3_mixed 9 (some .long)) B.pre
  have hts : ∀ w ∈ lw_all, w.before _ s = true := fun w h => hts w (List.mem_cons_of_mem _ h)
  have C : Cx G p s m _ meth c RX3 cX3_mixed 9 (some .long) := ⟨B.exec, B.bytes, B.returns, B.notSynchronized, hml, findClass_of_methodNamed B.named, hts, hK⟩
  have hl := lv_entry ([.ref b0, .long j1, .long j3, .long j5, .long j7]) (n := 9) (Nat.le_of_ble_eq_true rfl)
  rw [lg_entry_eq]
  generalize (lg_sl ([.ref b0, .long j1, .long j3, .long j5, .long j7]) ++ List.replicate (9 - (lg_sl ([.ref b0, .long j1, .long j3, .long j5, .long j7])).length) Slot.unset).toArray = ls at hl ⊢
  have hl : lv_has ls 9 [(0, .ref b0), (1, .long j1), (3, .long j3), (5, .long j5), (7, .long j7)] := hl
  exact w_fX3_mixed C hW0 _ _ _ _ hm ls hl
theorem yn_X3_entry : YN yX3_entry 2 := by
  unfold YN
  decide +kernel
theorem lkX3_88 : LV RX3 88 RX3 yX3_entry cX3_entry 3 (some .long) := ⟨q809, q810, q811, q117, q812⟩
theorem yn_X3_mixed : YN yX3_mixed 4 := by
  unfold YN
  decide +kernel
theorem lkX3_92 : LV RX3 92 RX3 yX3_mixed cX3_mixed 9 (some .long) := ⟨q844, q846, qs17, q117, q847⟩
theorem lkX3_100 : LSN RX3 100 yX0_in "WholePacks" cX0_in 6 (some .boolean) := ⟨q850, q431, q114, q432⟩
noncomputable def fX3_staysSmall_149 (V0 : Mem) (k149 : Int32 → Int32 → Int64 → Int64 → Int32 → Option (Int32)) (i1 : Int32) (i2 : Int32) (j3 : Int64) (j5 : Int64) (i7 : Int32) : Option (Int32) :=
  if (gI V0 0 0) ≤ i7 then (
  gb (inR i1 30) (
  ob (fX3_mixed V0 j3 (gL V0 0 5) (-j5) (gL V0 2 i1.toNatClampNeg)) fun r28 =>
  ob (fX0_in r28 (-1000000000 : Int64) (1000000000 : Int64)) fun r30 =>
  gb (z01 r30) (some r30)))
  else (
  if i7 = i2 then (
  k149 i1 i2 j3 j5 (i7 + (1 : Int32)))
  else (
  gb (inR i7 5) (
  ob (fX3_entry V0 i1 i7) fun r35 =>
  ob (fX3_mixed V0 j3 (gL V0 3 i7.toNatClampNeg) j5 r35) fun r37 =>
  ob (fX0_in r37 (-1000000000 : Int64) (1000000000 : Int64)) fun r39 =>
  if r39 = 0 then (
  some (0 : Int32))
  else (
  k149 i1 i2 j3 j5 (i7 + (1 : Int32))))))
noncomputable def fX3_staysSmall_41 (V0 : Mem) (k11 : Int32 → Int32 → Int64 → Int32 → Option (Int32)) (k41 : Int32 → Int32 → Int64 → Int32 → Int64 → Int32 → Option (Int32)) (i1 : Int32) (i2 : Int32) (j3 : Int64) (i5 : Int32) (j6 : Int64) (i8 : Int32) : Option (Int32) :=
  if (gI V0 0 0) ≤ i8 then (
  gb (inR i5 30) (
  gb (inR i1 30) (
  ob (fX3_mixed V0 j3 (gL V0 2 i5.toNatClampNeg) j6 (gL V0 2 i1.toNatClampNeg)) fun r11 =>
  ob (fX0_in r11 (-1000000000 : Int64) (1000000000 : Int64)) fun r13 =>
  if r13 = 0 then (
  some (0 : Int32))
  else (
  k11 i1 i2 j3 (i5 + (1 : Int32))))))
  else (
  if i8 = i2 then (
  k41 i1 i2 j3 i5 j6 (i8 + (1 : Int32)))
  else (
  ob (fX3_entry V0 i5 i8) fun r17 =>
  ob (fX3_entry V0 i1 i8) fun r19 =>
  ob (fX3_mixed V0 j3 r17 j6 r19) fun r21 =>
  ob (fX0_in r21 (-1000000000 : Int64) (1000000000 : Int64)) fun r23 =>
  if r23 = 0 then (
  some (0 : Int32))
  else (
  k41 i1 i2 j3 i5 j6 (i8 + (1 : Int32)))))
noncomputable def fX3_staysSmall_11 (V0 : Mem) (k11 : Int32 → Int32 → Int64 → Int32 → Option (Int32)) (i1 : Int32) (i2 : Int32) (j3 : Int64) (i5 : Int32) : Option (Int32) :=
  if (gI V0 0 1) ≤ i5 then (
  gb (inR i2 5) (
  lq5 (fX3_staysSmall_149 V0) FU i1 i2 j3 (gL V0 3 i2.toNatClampNeg) (0 : Int32)))
  else (
  ob (fX3_entry V0 i5 i2) fun r5 =>
  if i5 = i1 then (
  k11 i1 i2 j3 (i5 + (1 : Int32)))
  else (
  lq6 (fX3_staysSmall_41 V0 k11) FU i1 i2 j3 i5 r5 (0 : Int32)))
noncomputable def fX3_staysSmall (V0 : Mem) (i1 : Int32) (i2 : Int32) : Option (Int32) :=
  ob (fX3_entry V0 i1 i2) fun r1 =>
  lq4 (fX3_staysSmall_11 V0) FU i1 i2 (-r1) (0 : Int32)
set_option maxHeartbeats 4000000 in
theorem w_fX3_staysSmall_149 (C : Cx G p s m args meth c RX3 cX3_staysSmall 9 (some .boolean)) {b0 : Nat} {V0 : Mem} {rx : Int32} (hW0 : rg G b0 43 (shX3 G.2.1) V0 s.heap) {k149 : Int32 → Int32 → Int64 → Int64 → Int32 → Option (Int32)} (hk149 : ∀ (i1 : Int32) (i2 : Int32) (j3 : Int64) (j5 : Int64) (i7 : Int32), k149 i1 i2 j3 j5 i7 = some rx → ∀ (ls : Array Slot), lv_has ls 9 [(0, .ref b0), (1, .int i1), (2, .int i2), (3, .long j3), (5, .long j5), (7, .int i7)] → W p l e (rmP 1 28) s m args below meth c s.heap [] 0 0 (MQ below (QcP (some (.int rx))) args s 0 0 (fun _ => False)) (F0 m 149 ls [])) : ∀ (i1 : Int32) (i2 : Int32) (j3 : Int64) (j5 : Int64) (i7 : Int32), fX3_staysSmall_149 V0 k149 i1 i2 j3 j5 i7 = some rx → ∀ (ls : Array Slot), lv_has ls 9 [(0, .ref b0), (1, .int i1), (2, .int i2), (3, .long j3), (5, .long j5), (7, .int i7)] → W p l e (rmP 1 28) s m args below meth c s.heap [] 0 0 (MQ below (QcP (some (.int rx))) args s 0 0 (fun _ => False)) (F0 m 149 ls []) := by
  intro i1 i2 j3 j5 i7 hm ls hl
  obtain ⟨hx, hb, hr, hlk, hml, hown, hts, hK⟩ := id C
  unfold fX3_staysSmall_149 at hm
  refine lv_iload (pc := 149) hx hb dX3_staysSmall_149 (lv_at hl 5 rfl) ?_
  refine lv_aload_n (pc := 151) hx hb dX3_staysSmall_151 rfl (lv_at hl 0 rfl) ?_
  refine rk_get (pc := 152) hx hb hts hown hK hW0 flX3_44 0 (by decide) rfl rfl (x := .int (gI V0 0 0)) rfl dX3_staysSmall_152 ?_
  refine lv_icmp_ge (pc := 155) (tgt := 205) hx hb dX3_staysSmall_155 (by decide) (fun c26 => ?_) (fun c26 => ?_)
  · have hm := ite_t c26 hm
    refine lv_aload_n (pc := 205) hx hb dX3_staysSmall_205 rfl (lv_at hl 0 rfl) ?_
    refine lv_lload_n (pc := 206) hx hb dX3_staysSmall_206 rfl (lv_at hl 3 rfl) ?_
    refine lv_aload_n (pc := 207) hx hb dX3_staysSmall_207 rfl (lv_at hl 0 rfl) ?_
    refine rk_get (pc := 208) hx hb hts hown hK hW0 flX3_55 0 (by decide) rfl rfl (x := .long (gL V0 0 5)) rfl dX3_staysSmall_208 ?_
    refine lv_lload (pc := 211) hx hb dX3_staysSmall_211 (lv_at hl 4 rfl) ?_
    refine lv_lneg (pc := 213) hx hb dX3_staysSmall_213 ?_
    refine lv_aload_n (pc := 214) hx hb dX3_staysSmall_214 rfl (lv_at hl 0 rfl) ?_
    refine rk_get (pc := 215) hx hb hts hown hK hW0 flX3_15 0 (by decide) rfl rfl (x := .ref (b0 + 2)) (by first | rfl | exact congrArg (fun z => some (Value.ref z)) (by omega)) dX3_staysSmall_215 ?_
    refine lv_iload_n (pc := 218) hx hb dX3_staysSmall_218 rfl (lv_at hl 1 rfl) ?_
    obtain ⟨hg27, hm⟩ := gb_some hm
    refine rk_lald (pc := 219) hx hb hK hW0 2 (by decide) rfl rfl hg27 (x := (gL V0 2 i1.toNatClampNeg)) rfl dX3_staysSmall_219 ?_
    obtain ⟨r28, hq29, hm⟩ := ob_some hm
    refine rk_PV (pc := 220) (As := [.long j3, .long (gL V0 0 5), .long (-j5), .long (gL V0 2 i1.toNatClampNeg)]) (rest := []) hx hb hml hown hts hK lkX3_92 rfl yn_X3_mixed (ct_X3_mixed (G := G) (l := l) (b0 := b0) hq29) ⟨Nat.le_of_ble_eq_true rfl, Nat.le_of_ble_eq_true rfl⟩ (rk_recv hK hW0 0 (by decide) rfl rfl rfl) hW0 rfl rfl hl.1 (Nat.le_of_ble_eq_true rfl) dX3_staysSmall_220 ⟨Nat.zero_le _, Nat.zero_le _⟩ ?_
    refine W.eq (g2 := F0 m 223 ls [.long r28]) rfl ?_
    refine lv_ldc2 (pc := 223) (v := (-1000000000 : Int64)) hx hb hown (hts _ q848) dX3_staysSmall_223 ?_
    refine lv_ldc2 (pc := 226) (v := (1000000000 : Int64)) hx hb hown (hts _ q849) dX3_staysSmall_226 ?_
    obtain ⟨r30, hq31, hm⟩ := ob_some hm
    refine rk_PSN (pc := 229) (As := [.long r28, .long (-1000000000 : Int64), .long (1000000000 : Int64)]) (rest := []) hx hb hml hown hts hK lkX3_100 yn_X0_in (ct_X0_in (G := G) (l := l) hq31) ⟨Nat.le_of_ble_eq_true rfl, Nat.le_of_ble_eq_true rfl⟩ trivial rfl rfl hl.1 (Nat.le_of_ble_eq_true rfl) dX3_staysSmall_229 ⟨Nat.zero_le _, Nat.zero_le _⟩ ?_
    refine W.eq (g2 := F0 m 232 ls [.int r30]) rfl ?_
    obtain ⟨hg32, hm⟩ := gb_some hm
    have e9 := rs1 hm
    subst e9
    exact rk_zretP (pc := 232) hx hb hr hlk hg32 rfl dX3_staysSmall_232
  · have hm := ite_f c26 hm
    refine lv_iload (pc := 158) hx hb dX3_staysSmall_158 (lv_at hl 5 rfl) ?_
    refine lv_iload_n (pc := 160) hx hb dX3_staysSmall_160 rfl (lv_at hl 2 rfl) ?_
    refine lv_icmp_eq (pc := 161) (tgt := 199) hx hb dX3_staysSmall_161 (by decide) (fun c33 => ?_) (fun c33 => ?_)
    · have hm := ite_t c33 hm
      refine lv_iinc (pc := 199) (v := (i7 + (1 : Int32))) (lv' := [(7, .int (i7 + (1 : Int32))), (0, .ref b0), (1, .int i1), (2, .int i2), (3, .long j3), (5, .long j5)]) hx hb dX3_staysSmall_199 hl (k := 5) rfl rfl (by decide) rfl (fun ls hl => ?_)
      refine lv_goto (pc := 202) (tgt := 149) hx hb dX3_staysSmall_202 (by decide) ?_
      exact hk149 i1 i2 j3 j5 (i7 + (1 : Int32)) hm ls (lv_sub hl [1, 2, 3, 4, 5, 0] rfl)
    · have hm := ite_f c33 hm
      refine lv_aload_n (pc := 164) hx hb dX3_staysSmall_164 rfl (lv_at hl 0 rfl) ?_
      refine lv_lload_n (pc := 165) hx hb dX3_staysSmall_165 rfl (lv_at hl 3 rfl) ?_
      refine lv_aload_n (pc := 166) hx hb dX3_staysSmall_166 rfl (lv_at hl 0 rfl) ?_
      refine rk_get (pc := 167) hx hb hts hown hK hW0 flX3_18 0 (by decide) rfl rfl (x := .ref (b0 + 3)) (by first | rfl | exact congrArg (fun z => some (Value.ref z)) (by omega)) dX3_staysSmall_167 ?_
      refine lv_iload (pc := 170) hx hb dX3_staysSmall_170 (lv_at hl 5 rfl) ?_
      obtain ⟨hg34, hm⟩ := gb_some hm
      refine rk_lald (pc := 172) hx hb hK hW0 3 (by decide) rfl rfl hg34 (x := (gL V0 3 i7.toNatClampNeg)) rfl dX3_staysSmall_172 ?_
      refine lv_lload (pc := 173) hx hb dX3_staysSmall_173 (lv_at hl 4 rfl) ?_
      refine lv_aload_n (pc := 175) hx hb dX3_staysSmall_175 rfl (lv_at hl 0 rfl) ?_
      refine lv_iload_n (pc := 176) hx hb dX3_staysSmall_176 rfl (lv_at hl 1 rfl) ?_
      refine lv_iload (pc := 177) hx hb dX3_staysSmall_177 (lv_at hl 5 rfl) ?_
      obtain ⟨r35, hq36, hm⟩ := ob_some hm
      refine rk_PV (pc := 179) (As := [.int i1, .int i7]) (rest := [.long j5, .long (gL V0 3 i7.toNatClampNeg), .long j3, .ref b0]) hx hb hml hown hts hK lkX3_88 rfl yn_X3_entry (ct_X3_entry (G := G) (l := l) (b0 := b0) hq36) ⟨Nat.le_of_ble_eq_true rfl, Nat.le_of_ble_eq_true rfl⟩ (rk_recv hK hW0 0 (by decide) rfl rfl rfl) hW0 rfl rfl hl.1 (Nat.le_of_ble_eq_true rfl) dX3_staysSmall_179 ⟨Nat.zero_le _, Nat.zero_le _⟩ ?_
      refine W.eq (g2 := F0 m 182 ls [.long r35, .long j5, .long (gL V0 3 i7.toNatClampNeg), .long j3, .ref b0]) rfl ?_
      obtain ⟨r37, hq38, hm⟩ := ob_some hm
      refine rk_PV (pc := 182) (As := [.long j3, .long (gL V0 3 i7.toNatClampNeg), .long j5, .long r35]) (rest := []) hx hb hml hown hts hK lkX3_92 rfl yn_X3_mixed (ct_X3_mixed (G := G) (l := l) (b0 := b0) hq38) ⟨Nat.le_of_ble_eq_true rfl, Nat.le_of_ble_eq_true rfl⟩ (rk_recv hK hW0 0 (by decide) rfl rfl rfl) hW0 rfl rfl hl.1 (Nat.le_of_ble_eq_true rfl) dX3_staysSmall_182 ⟨Nat.zero_le _, Nat.zero_le _⟩ ?_
      refine W.eq (g2 := F0 m 185 ls [.long r37]) rfl ?_
      refine lv_ldc2 (pc := 185) (v := (-1000000000 : Int64)) hx hb hown (hts _ q848) dX3_staysSmall_185 ?_
      refine lv_ldc2 (pc := 188) (v := (1000000000 : Int64)) hx hb hown (hts _ q849) dX3_staysSmall_188 ?_
      obtain ⟨r39, hq40, hm⟩ := ob_some hm
      refine rk_PSN (pc := 191) (As := [.long r37, .long (-1000000000 : Int64), .long (1000000000 : Int64)]) (rest := []) hx hb hml hown hts hK lkX3_100 yn_X0_in (ct_X0_in (G := G) (l := l) hq40) ⟨Nat.le_of_ble_eq_true rfl, Nat.le_of_ble_eq_true rfl⟩ trivial rfl rfl hl.1 (Nat.le_of_ble_eq_true rfl) dX3_staysSmall_191 ⟨Nat.zero_le _, Nat.zero_le _⟩ ?_
      refine W.eq (g2 := F0 m 194 ls [.int r39]) rfl ?_
      refine lv_if_ne (pc := 194) (tgt := 199) hx hb dX3_staysSmall_194 (by decide) (fun c41 => ?_) (fun c41 => ?_)
      · have hm := ite_f c41 hm
        refine lv_iinc (pc := 199) (v := (i7 + (1 : Int32))) (lv' := [(7, .int (i7 + (1 : Int32))), (0, .ref b0), (1, .int i1), (2, .int i2), (3, .long j3), (5, .long j5)]) hx hb dX3_staysSmall_199 hl (k := 5) rfl rfl (by decide) rfl (fun ls hl => ?_)
        refine lv_goto (pc := 202) (tgt := 149) hx hb dX3_staysSmall_202 (by decide) ?_
        exact hk149 i1 i2 j3 j5 (i7 + (1 : Int32)) hm ls (lv_sub hl [1, 2, 3, 4, 5, 0] rfl)
      · have hm := ite_t c41 hm
        refine lv_iconst (pc := 197) (v := (0 : Int32)) hx hb dX3_staysSmall_197 (by decide) ?_
        have e9 := rs1 hm
        subst e9
        exact rk_zretP (pc := 198) hx hb hr hlk rfl rfl dX3_staysSmall_198
theorem w_fX3_staysSmall_149_l (C : Cx G p s m args meth c RX3 cX3_staysSmall 9 (some .boolean)) {b0 : Nat} {V0 : Mem} {rx : Int32} (hW0 : rg G b0 43 (shX3 G.2.1) V0 s.heap) : ∀ (n : Nat) (i1 : Int32) (i2 : Int32) (j3 : Int64) (j5 : Int64) (i7 : Int32), lq5 (fX3_staysSmall_149 V0) n i1 i2 j3 j5 i7 = some rx → ∀ (ls : Array Slot), lv_has ls 9 [(0, .ref b0), (1, .int i1), (2, .int i2), (3, .long j3), (5, .long j5), (7, .int i7)] → W p l e (rmP 1 28) s m args below meth c s.heap [] 0 0 (MQ below (QcP (some (.int rx))) args s 0 0 (fun _ => False)) (F0 m 149 ls []) := by
  intro n
  induction n with
  | zero => intro i1 i2 j3 j5 i7 hm; exact (lq5_0 hm).elim
  | succ n ih => intro i1 i2 j3 j5 i7 hm; exact w_fX3_staysSmall_149 C hW0 ih i1 i2 j3 j5 i7 (lq5_s hm)
set_option maxHeartbeats 4000000 in
theorem w_fX3_staysSmall_41 (C : Cx G p s m args meth c RX3 cX3_staysSmall 9 (some .boolean)) {b0 : Nat} {V0 : Mem} {rx : Int32} (hW0 : rg G b0 43 (shX3 G.2.1) V0 s.heap) {k11 : Int32 → Int32 → Int64 → Int32 → Option (Int32)} {k41 : Int32 → Int32 → Int64 → Int32 → Int64 → Int32 → Option (Int32)} (hk11 : ∀ (i1 : Int32) (i2 : Int32) (j3 : Int64) (i5 : Int32), k11 i1 i2 j3 i5 = some rx → ∀ (ls : Array Slot), lv_has ls 9 [(0, .ref b0), (1, .int i1), (2, .int i2), (3, .long j3), (5, .int i5)] → W p l e (rmP 1 28) s m args below meth c s.heap [] 0 0 (MQ below (QcP (some (.int rx))) args s 0 0 (fun _ => False)) (F0 m 11 ls [])) (hk41 : ∀ (i1 : Int32) (i2 : Int32) (j3 : Int64) (i5 : Int32) (j6 : Int64) (i8 : Int32), k41 i1 i2 j3 i5 j6 i8 = some rx → ∀ (ls : Array Slot), lv_has ls 9 [(0, .ref b0), (1, .int i1), (2, .int i2), (3, .long j3), (5, .int i5), (6, .long j6), (8, .int i8)] → W p l e (rmP 1 28) s m args below meth c s.heap [] 0 0 (MQ below (QcP (some (.int rx))) args s 0 0 (fun _ => False)) (F0 m 41 ls [])) : ∀ (i1 : Int32) (i2 : Int32) (j3 : Int64) (i5 : Int32) (j6 : Int64) (i8 : Int32), fX3_staysSmall_41 V0 k11 k41 i1 i2 j3 i5 j6 i8 = some rx → ∀ (ls : Array Slot), lv_has ls 9 [(0, .ref b0), (1, .int i1), (2, .int i2), (3, .long j3), (5, .int i5), (6, .long j6), (8, .int i8)] → W p l e (rmP 1 28) s m args below meth c s.heap [] 0 0 (MQ below (QcP (some (.int rx))) args s 0 0 (fun _ => False)) (F0 m 41 ls []) := by
  intro i1 i2 j3 i5 j6 i8 hm ls hl
  obtain ⟨hx, hb, hr, hlk, hml, hown, hts, hK⟩ := id C
  unfold fX3_staysSmall_41 at hm
  refine lv_iload (pc := 41) hx hb dX3_staysSmall_41 (lv_at hl 6 rfl) ?_
  refine lv_aload_n (pc := 43) hx hb dX3_staysSmall_43 rfl (lv_at hl 0 rfl) ?_
  refine rk_get (pc := 44) hx hb hts hown hK hW0 flX3_44 0 (by decide) rfl rfl (x := .int (gI V0 0 0)) rfl dX3_staysSmall_44 ?_
  refine lv_icmp_ge (pc := 47) (tgt := 98) hx hb dX3_staysSmall_47 (by decide) (fun c8 => ?_) (fun c8 => ?_)
  · have hm := ite_t c8 hm
    refine lv_aload_n (pc := 98) hx hb dX3_staysSmall_98 rfl (lv_at hl 0 rfl) ?_
    refine lv_lload_n (pc := 99) hx hb dX3_staysSmall_99 rfl (lv_at hl 3 rfl) ?_
    refine lv_aload_n (pc := 100) hx hb dX3_staysSmall_100 rfl (lv_at hl 0 rfl) ?_
    refine rk_get (pc := 101) hx hb hts hown hK hW0 flX3_15 0 (by decide) rfl rfl (x := .ref (b0 + 2)) (by first | rfl | exact congrArg (fun z => some (Value.ref z)) (by omega)) dX3_staysSmall_101 ?_
    refine lv_iload (pc := 104) hx hb dX3_staysSmall_104 (lv_at hl 4 rfl) ?_
    obtain ⟨hg9, hm⟩ := gb_some hm
    refine rk_lald (pc := 106) hx hb hK hW0 2 (by decide) rfl rfl hg9 (x := (gL V0 2 i5.toNatClampNeg)) rfl dX3_staysSmall_106 ?_
    refine lv_lload (pc := 107) hx hb dX3_staysSmall_107 (lv_at hl 5 rfl) ?_
    refine lv_aload_n (pc := 109) hx hb dX3_staysSmall_109 rfl (lv_at hl 0 rfl) ?_
    refine rk_get (pc := 110) hx hb hts hown hK hW0 flX3_15 0 (by decide) rfl rfl (x := .ref (b0 + 2)) (by first | rfl | exact congrArg (fun z => some (Value.ref z)) (by omega)) dX3_staysSmall_110 ?_
    refine lv_iload_n (pc := 113) hx hb dX3_staysSmall_113 rfl (lv_at hl 1 rfl) ?_
    obtain ⟨hg10, hm⟩ := gb_some hm
    refine rk_lald (pc := 114) hx hb hK hW0 2 (by decide) rfl rfl hg10 (x := (gL V0 2 i1.toNatClampNeg)) rfl dX3_staysSmall_114 ?_
    obtain ⟨r11, hq12, hm⟩ := ob_some hm
    refine rk_PV (pc := 115) (As := [.long j3, .long (gL V0 2 i5.toNatClampNeg), .long j6, .long (gL V0 2 i1.toNatClampNeg)]) (rest := []) hx hb hml hown hts hK lkX3_92 rfl yn_X3_mixed (ct_X3_mixed (G := G) (l := l) (b0 := b0) hq12) ⟨Nat.le_of_ble_eq_true rfl, Nat.le_of_ble_eq_true rfl⟩ (rk_recv hK hW0 0 (by decide) rfl rfl rfl) hW0 rfl rfl hl.1 (Nat.le_of_ble_eq_true rfl) dX3_staysSmall_115 ⟨Nat.zero_le _, Nat.zero_le _⟩ ?_
    refine W.eq (g2 := F0 m 118 ls [.long r11]) rfl ?_
    refine lv_ldc2 (pc := 118) (v := (-1000000000 : Int64)) hx hb hown (hts _ q848) dX3_staysSmall_118 ?_
    refine lv_ldc2 (pc := 121) (v := (1000000000 : Int64)) hx hb hown (hts _ q849) dX3_staysSmall_121 ?_
    obtain ⟨r13, hq14, hm⟩ := ob_some hm
    refine rk_PSN (pc := 124) (As := [.long r11, .long (-1000000000 : Int64), .long (1000000000 : Int64)]) (rest := []) hx hb hml hown hts hK lkX3_100 yn_X0_in (ct_X0_in (G := G) (l := l) hq14) ⟨Nat.le_of_ble_eq_true rfl, Nat.le_of_ble_eq_true rfl⟩ trivial rfl rfl hl.1 (Nat.le_of_ble_eq_true rfl) dX3_staysSmall_124 ⟨Nat.zero_le _, Nat.zero_le _⟩ ?_
    refine W.eq (g2 := F0 m 127 ls [.int r13]) rfl ?_
    refine lv_if_ne (pc := 127) (tgt := 132) hx hb dX3_staysSmall_127 (by decide) (fun c15 => ?_) (fun c15 => ?_)
    · have hm := ite_f c15 hm
      refine lv_iinc (pc := 132) (v := (i5 + (1 : Int32))) (lv' := [(5, .int (i5 + (1 : Int32))), (0, .ref b0), (1, .int i1), (2, .int i2), (3, .long j3), (6, .long j6), (8, .int i8)]) hx hb dX3_staysSmall_132 hl (k := 4) rfl rfl (by decide) rfl (fun ls hl => ?_)
      refine lv_goto (pc := 135) (tgt := 11) hx hb dX3_staysSmall_135 (by decide) ?_
      exact hk11 i1 i2 j3 (i5 + (1 : Int32)) hm ls (lv_sub hl [1, 2, 3, 4, 0] rfl)
    · have hm := ite_t c15 hm
      refine lv_iconst (pc := 130) (v := (0 : Int32)) hx hb dX3_staysSmall_130 (by decide) ?_
      have e9 := rs1 hm
      subst e9
      exact rk_zretP (pc := 131) hx hb hr hlk rfl rfl dX3_staysSmall_131
  · have hm := ite_f c8 hm
    refine lv_iload (pc := 50) hx hb dX3_staysSmall_50 (lv_at hl 6 rfl) ?_
    refine lv_iload_n (pc := 52) hx hb dX3_staysSmall_52 rfl (lv_at hl 2 rfl) ?_
    refine lv_icmp_eq (pc := 53) (tgt := 92) hx hb dX3_staysSmall_53 (by decide) (fun c16 => ?_) (fun c16 => ?_)
    · have hm := ite_t c16 hm
      refine lv_iinc (pc := 92) (v := (i8 + (1 : Int32))) (lv' := [(8, .int (i8 + (1 : Int32))), (0, .ref b0), (1, .int i1), (2, .int i2), (3, .long j3), (5, .int i5), (6, .long j6)]) hx hb dX3_staysSmall_92 hl (k := 6) rfl rfl (by decide) rfl (fun ls hl => ?_)
      refine lv_goto (pc := 95) (tgt := 41) hx hb dX3_staysSmall_95 (by decide) ?_
      exact hk41 i1 i2 j3 i5 j6 (i8 + (1 : Int32)) hm ls (lv_sub hl [1, 2, 3, 4, 5, 6, 0] rfl)
    · have hm := ite_f c16 hm
      refine lv_aload_n (pc := 56) hx hb dX3_staysSmall_56 rfl (lv_at hl 0 rfl) ?_
      refine lv_lload_n (pc := 57) hx hb dX3_staysSmall_57 rfl (lv_at hl 3 rfl) ?_
      refine lv_aload_n (pc := 58) hx hb dX3_staysSmall_58 rfl (lv_at hl 0 rfl) ?_
      refine lv_iload (pc := 59) hx hb dX3_staysSmall_59 (lv_at hl 4 rfl) ?_
      refine lv_iload (pc := 61) hx hb dX3_staysSmall_61 (lv_at hl 6 rfl) ?_
      obtain ⟨r17, hq18, hm⟩ := ob_some hm
      refine rk_PV (pc := 63) (As := [.int i5, .int i8]) (rest := [.long j3, .ref b0]) hx hb hml hown hts hK lkX3_88 rfl yn_X3_entry (ct_X3_entry (G := G) (l := l) (b0 := b0) hq18) ⟨Nat.le_of_ble_eq_true rfl, Nat.le_of_ble_eq_true rfl⟩ (rk_recv hK hW0 0 (by decide) rfl rfl rfl) hW0 rfl rfl hl.1 (Nat.le_of_ble_eq_true rfl) dX3_staysSmall_63 ⟨Nat.zero_le _, Nat.zero_le _⟩ ?_
      refine W.eq (g2 := F0 m 66 ls [.long r17, .long j3, .ref b0]) rfl ?_
      refine lv_lload (pc := 66) hx hb dX3_staysSmall_66 (lv_at hl 5 rfl) ?_
      refine lv_aload_n (pc := 68) hx hb dX3_staysSmall_68 rfl (lv_at hl 0 rfl) ?_
      refine lv_iload_n (pc := 69) hx hb dX3_staysSmall_69 rfl (lv_at hl 1 rfl) ?_
      refine lv_iload (pc := 70) hx hb dX3_staysSmall_70 (lv_at hl 6 rfl) ?_
      obtain ⟨r19, hq20, hm⟩ := ob_some hm
      refine rk_PV (pc := 72) (As := [.int i1, .int i8]) (rest := [.long j6, .long r17, .long j3, .ref b0]) hx hb hml hown hts hK lkX3_88 rfl yn_X3_entry (ct_X3_entry (G := G) (l := l) (b0 := b0) hq20) ⟨Nat.le_of_ble_eq_true rfl, Nat.le_of_ble_eq_true rfl⟩ (rk_recv hK hW0 0 (by decide) rfl rfl rfl) hW0 rfl rfl hl.1 (Nat.le_of_ble_eq_true rfl) dX3_staysSmall_72 ⟨Nat.zero_le _, Nat.zero_le _⟩ ?_
      refine W.eq (g2 := F0 m 75 ls [.long r19, .long j6, .long r17, .long j3, .ref b0]) rfl ?_
      obtain ⟨r21, hq22, hm⟩ := ob_some hm
      refine rk_PV (pc := 75) (As := [.long j3, .long r17, .long j6, .long r19]) (rest := []) hx hb hml hown hts hK lkX3_92 rfl yn_X3_mixed (ct_X3_mixed (G := G) (l := l) (b0 := b0) hq22) ⟨Nat.le_of_ble_eq_true rfl, Nat.le_of_ble_eq_true rfl⟩ (rk_recv hK hW0 0 (by decide) rfl rfl rfl) hW0 rfl rfl hl.1 (Nat.le_of_ble_eq_true rfl) dX3_staysSmall_75 ⟨Nat.zero_le _, Nat.zero_le _⟩ ?_
      refine W.eq (g2 := F0 m 78 ls [.long r21]) rfl ?_
      refine lv_ldc2 (pc := 78) (v := (-1000000000 : Int64)) hx hb hown (hts _ q848) dX3_staysSmall_78 ?_
      refine lv_ldc2 (pc := 81) (v := (1000000000 : Int64)) hx hb hown (hts _ q849) dX3_staysSmall_81 ?_
      obtain ⟨r23, hq24, hm⟩ := ob_some hm
      refine rk_PSN (pc := 84) (As := [.long r21, .long (-1000000000 : Int64), .long (1000000000 : Int64)]) (rest := []) hx hb hml hown hts hK lkX3_100 yn_X0_in (ct_X0_in (G := G) (l := l) hq24) ⟨Nat.le_of_ble_eq_true rfl, Nat.le_of_ble_eq_true rfl⟩ trivial rfl rfl hl.1 (Nat.le_of_ble_eq_true rfl) dX3_staysSmall_84 ⟨Nat.zero_le _, Nat.zero_le _⟩ ?_
      refine W.eq (g2 := F0 m 87 ls [.int r23]) rfl ?_
      refine lv_if_ne (pc := 87) (tgt := 92) hx hb dX3_staysSmall_87 (by decide) (fun c25 => ?_) (fun c25 => ?_)
      · have hm := ite_f c25 hm
        refine lv_iinc (pc := 92) (v := (i8 + (1 : Int32))) (lv' := [(8, .int (i8 + (1 : Int32))), (0, .ref b0), (1, .int i1), (2, .int i2), (3, .long j3), (5, .int i5), (6, .long j6)]) hx hb dX3_staysSmall_92 hl (k := 6) rfl rfl (by decide) rfl (fun ls hl => ?_)
        refine lv_goto (pc := 95) (tgt := 41) hx hb dX3_staysSmall_95 (by decide) ?_
        exact hk41 i1 i2 j3 i5 j6 (i8 + (1 : Int32)) hm ls (lv_sub hl [1, 2, 3, 4, 5, 6, 0] rfl)
      · have hm := ite_t c25 hm
        refine lv_iconst (pc := 90) (v := (0 : Int32)) hx hb dX3_staysSmall_90 (by decide) ?_
        have e9 := rs1 hm
        subst e9
        exact rk_zretP (pc := 91) hx hb hr hlk rfl rfl dX3_staysSmall_91
theorem w_fX3_staysSmall_41_l (C : Cx G p s m args meth c RX3 cX3_staysSmall 9 (some .boolean)) {b0 : Nat} {V0 : Mem} {rx : Int32} (hW0 : rg G b0 43 (shX3 G.2.1) V0 s.heap) {k11 : Int32 → Int32 → Int64 → Int32 → Option (Int32)} (hk11 : ∀ (i1 : Int32) (i2 : Int32) (j3 : Int64) (i5 : Int32), k11 i1 i2 j3 i5 = some rx → ∀ (ls : Array Slot), lv_has ls 9 [(0, .ref b0), (1, .int i1), (2, .int i2), (3, .long j3), (5, .int i5)] → W p l e (rmP 1 28) s m args below meth c s.heap [] 0 0 (MQ below (QcP (some (.int rx))) args s 0 0 (fun _ => False)) (F0 m 11 ls [])) : ∀ (n : Nat) (i1 : Int32) (i2 : Int32) (j3 : Int64) (i5 : Int32) (j6 : Int64) (i8 : Int32), lq6 (fX3_staysSmall_41 V0 k11) n i1 i2 j3 i5 j6 i8 = some rx → ∀ (ls : Array Slot), lv_has ls 9 [(0, .ref b0), (1, .int i1), (2, .int i2), (3, .long j3), (5, .int i5), (6, .long j6), (8, .int i8)] → W p l e (rmP 1 28) s m args below meth c s.heap [] 0 0 (MQ below (QcP (some (.int rx))) args s 0 0 (fun _ => False)) (F0 m 41 ls []) := by
  intro n
  induction n with
  | zero => intro i1 i2 j3 i5 j6 i8 hm; exact (lq6_0 hm).elim
  | succ n ih => intro i1 i2 j3 i5 j6 i8 hm; exact w_fX3_staysSmall_41 C hW0 hk11 ih i1 i2 j3 i5 j6 i8 (lq6_s hm)
set_option maxHeartbeats 4000000 in
theorem w_fX3_staysSmall_11 (C : Cx G p s m args meth c RX3 cX3_staysSmall 9 (some .boolean)) {b0 : Nat} {V0 : Mem} {rx : Int32} (hW0 : rg G b0 43 (shX3 G.2.1) V0 s.heap) {k11 : Int32 → Int32 → Int64 → Int32 → Option (Int32)} (hk11 : ∀ (i1 : Int32) (i2 : Int32) (j3 : Int64) (i5 : Int32), k11 i1 i2 j3 i5 = some rx → ∀ (ls : Array Slot), lv_has ls 9 [(0, .ref b0), (1, .int i1), (2, .int i2), (3, .long j3), (5, .int i5)] → W p l e (rmP 1 28) s m args below meth c s.heap [] 0 0 (MQ below (QcP (some (.int rx))) args s 0 0 (fun _ => False)) (F0 m 11 ls [])) : ∀ (i1 : Int32) (i2 : Int32) (j3 : Int64) (i5 : Int32), fX3_staysSmall_11 V0 k11 i1 i2 j3 i5 = some rx → ∀ (ls : Array Slot), lv_has ls 9 [(0, .ref b0), (1, .int i1), (2, .int i2), (3, .long j3), (5, .int i5)] → W p l e (rmP 1 28) s m args below meth c s.heap [] 0 0 (MQ below (QcP (some (.int rx))) args s 0 0 (fun _ => False)) (F0 m 11 ls []) := by
  intro i1 i2 j3 i5 hm ls hl
  obtain ⟨hx, hb, hr, hlk, hml, hown, hts, hK⟩ := id C
  unfold fX3_staysSmall_11 at hm
  refine lv_iload (pc := 11) hx hb dX3_staysSmall_11 (lv_at hl 4 rfl) ?_
  refine lv_aload_n (pc := 13) hx hb dX3_staysSmall_13 rfl (lv_at hl 0 rfl) ?_
  refine rk_get (pc := 14) hx hb hts hown hK hW0 flX3_35 0 (by decide) rfl rfl (x := .int (gI V0 0 1)) rfl dX3_staysSmall_14 ?_
  refine lv_icmp_ge (pc := 17) (tgt := 138) hx hb dX3_staysSmall_17 (by decide) (fun c3 => ?_) (fun c3 => ?_)
  · have hm := ite_t c3 hm
    refine lv_aload_n (pc := 138) hx hb dX3_staysSmall_138 rfl (lv_at hl 0 rfl) ?_
    refine rk_get (pc := 139) hx hb hts hown hK hW0 flX3_18 0 (by decide) rfl rfl (x := .ref (b0 + 3)) (by first | rfl | exact congrArg (fun z => some (Value.ref z)) (by omega)) dX3_staysSmall_139 ?_
    refine lv_iload_n (pc := 142) hx hb dX3_staysSmall_142 rfl (lv_at hl 2 rfl) ?_
    obtain ⟨hg4, hm⟩ := gb_some hm
    refine rk_lald (pc := 143) hx hb hK hW0 3 (by decide) rfl rfl hg4 (x := (gL V0 3 i2.toNatClampNeg)) rfl dX3_staysSmall_143 ?_
    refine lv_lstore (pc := 144) (lv' := [(5, .long (gL V0 3 i2.toNatClampNeg)), (0, .ref b0), (1, .int i1), (2, .int i2), (3, .long j3)]) hx hb dX3_staysSmall_144 hl (by decide) rfl (fun ls hl => ?_)
    refine lv_iconst (pc := 146) (v := (0 : Int32)) hx hb dX3_staysSmall_146 (by decide) ?_
    refine lv_istore (pc := 147) (lv' := [(7, .int (0 : Int32)), (5, .long (gL V0 3 i2.toNatClampNeg)), (0, .ref b0), (1, .int i1), (2, .int i2), (3, .long j3)]) hx hb dX3_staysSmall_147 hl (by decide) rfl (fun ls hl => ?_)
    exact (w_fX3_staysSmall_149_l C hW0 FU) i1 i2 j3 (gL V0 3 i2.toNatClampNeg) (0 : Int32) hm ls (lv_sub hl [2, 3, 4, 5, 1, 0] rfl)
  · have hm := ite_f c3 hm
    refine lv_aload_n (pc := 20) hx hb dX3_staysSmall_20 rfl (lv_at hl 0 rfl) ?_
    refine lv_iload (pc := 21) hx hb dX3_staysSmall_21 (lv_at hl 4 rfl) ?_
    refine lv_iload_n (pc := 23) hx hb dX3_staysSmall_23 rfl (lv_at hl 2 rfl) ?_
    obtain ⟨r5, hq6, hm⟩ := ob_some hm
    refine rk_PV (pc := 24) (As := [.int i5, .int i2]) (rest := []) hx hb hml hown hts hK lkX3_88 rfl yn_X3_entry (ct_X3_entry (G := G) (l := l) (b0 := b0) hq6) ⟨Nat.le_of_ble_eq_true rfl, Nat.le_of_ble_eq_true rfl⟩ (rk_recv hK hW0 0 (by decide) rfl rfl rfl) hW0 rfl rfl hl.1 (Nat.le_of_ble_eq_true rfl) dX3_staysSmall_24 ⟨Nat.zero_le _, Nat.zero_le _⟩ ?_
    refine W.eq (g2 := F0 m 27 ls [.long r5]) rfl ?_
    refine lv_lstore (pc := 27) (lv' := [(6, .long r5), (0, .ref b0), (1, .int i1), (2, .int i2), (3, .long j3), (5, .int i5)]) hx hb dX3_staysSmall_27 hl (by decide) rfl (fun ls hl => ?_)
    refine lv_iload (pc := 29) hx hb dX3_staysSmall_29 (lv_at hl 5 rfl) ?_
    refine lv_iload_n (pc := 31) hx hb dX3_staysSmall_31 rfl (lv_at hl 2 rfl) ?_
    refine lv_icmp_ne (pc := 32) (tgt := 38) hx hb dX3_staysSmall_32 (by decide) (fun c7 => ?_) (fun c7 => ?_)
    · have hm := ite_f c7 hm
      refine lv_iconst (pc := 38) (v := (0 : Int32)) hx hb dX3_staysSmall_38 (by decide) ?_
      refine lv_istore (pc := 39) (lv' := [(8, .int (0 : Int32)), (6, .long r5), (0, .ref b0), (1, .int i1), (2, .int i2), (3, .long j3), (5, .int i5)]) hx hb dX3_staysSmall_39 hl (by decide) rfl (fun ls hl => ?_)
      exact (w_fX3_staysSmall_41_l C hW0 hk11 FU) i1 i2 j3 i5 r5 (0 : Int32) hm ls (lv_sub hl [2, 3, 4, 5, 6, 1, 0] rfl)
    · have hm := ite_t c7 hm
      refine lv_goto (pc := 35) (tgt := 132) hx hb dX3_staysSmall_35 (by decide) ?_
      refine lv_iinc (pc := 132) (v := (i5 + (1 : Int32))) (lv' := [(5, .int (i5 + (1 : Int32))), (6, .long r5), (0, .ref b0), (1, .int i1), (2, .int i2), (3, .long j3)]) hx hb dX3_staysSmall_132 hl (k := 5) rfl rfl (by decide) rfl (fun ls hl => ?_)
      refine lv_goto (pc := 135) (tgt := 11) hx hb dX3_staysSmall_135 (by decide) ?_
      exact hk11 i1 i2 j3 (i5 + (1 : Int32)) hm ls (lv_sub hl [2, 3, 4, 5, 0] rfl)
theorem w_fX3_staysSmall_11_l (C : Cx G p s m args meth c RX3 cX3_staysSmall 9 (some .boolean)) {b0 : Nat} {V0 : Mem} {rx : Int32} (hW0 : rg G b0 43 (shX3 G.2.1) V0 s.heap) : ∀ (n : Nat) (i1 : Int32) (i2 : Int32) (j3 : Int64) (i5 : Int32), lq4 (fX3_staysSmall_11 V0) n i1 i2 j3 i5 = some rx → ∀ (ls : Array Slot), lv_has ls 9 [(0, .ref b0), (1, .int i1), (2, .int i2), (3, .long j3), (5, .int i5)] → W p l e (rmP 1 28) s m args below meth c s.heap [] 0 0 (MQ below (QcP (some (.int rx))) args s 0 0 (fun _ => False)) (F0 m 11 ls []) := by
  intro n
  induction n with
  | zero => intro i1 i2 j3 i5 hm; exact (lq4_0 hm).elim
  | succ n ih => intro i1 i2 j3 i5 hm; exact w_fX3_staysSmall_11 C hW0 ih i1 i2 j3 i5 (lq4_s hm)
set_option maxHeartbeats 4000000 in
theorem w_fX3_staysSmall (C : Cx G p s m args meth c RX3 cX3_staysSmall 9 (some .boolean)) {b0 : Nat} {V0 : Mem} {rx : Int32} (hW0 : rg G b0 43 (shX3 G.2.1) V0 s.heap) : ∀ (i1 : Int32) (i2 : Int32), fX3_staysSmall V0 i1 i2 = some rx → ∀ (ls : Array Slot), lv_has ls 9 [(0, .ref b0), (1, .int i1), (2, .int i2)] → W p l e (rmP 1 28) s m args below meth c s.heap [] 0 0 (MQ below (QcP (some (.int rx))) args s 0 0 (fun _ => False)) (F0 m 0 ls []) := by
  intro i1 i2 hm ls hl
  obtain ⟨hx, hb, hr, hlk, hml, hown, hts, hK⟩ := id C
  unfold fX3_staysSmall at hm
  refine lv_aload_n (pc := 0) hx hb dX3_staysSmall_0 rfl (lv_at hl 0 rfl) ?_
  refine lv_iload_n (pc := 1) hx hb dX3_staysSmall_1 rfl (lv_at hl 1 rfl) ?_
  refine lv_iload_n (pc := 2) hx hb dX3_staysSmall_2 rfl (lv_at hl 2 rfl) ?_
  obtain ⟨r1, hq2, hm⟩ := ob_some hm
  refine rk_PV (pc := 3) (As := [.int i1, .int i2]) (rest := []) hx hb hml hown hts hK lkX3_88 rfl yn_X3_entry (ct_X3_entry (G := G) (l := l) (b0 := b0) hq2) ⟨Nat.le_of_ble_eq_true rfl, Nat.le_of_ble_eq_true rfl⟩ (rk_recv hK hW0 0 (by decide) rfl rfl rfl) hW0 rfl rfl hl.1 (Nat.le_of_ble_eq_true rfl) dX3_staysSmall_3 ⟨Nat.zero_le _, Nat.zero_le _⟩ ?_
  refine W.eq (g2 := F0 m 6 ls [.long r1]) rfl ?_
  refine lv_lneg (pc := 6) hx hb dX3_staysSmall_6 ?_
  refine lv_lstore_n (pc := 7) (lv' := [(3, .long (-r1)), (0, .ref b0), (1, .int i1), (2, .int i2)]) hx hb dX3_staysSmall_7 rfl hl (by decide) rfl (fun ls hl => ?_)
  refine lv_iconst (pc := 8) (v := (0 : Int32)) hx hb dX3_staysSmall_8 (by decide) ?_
  refine lv_istore (pc := 9) (lv' := [(5, .int (0 : Int32)), (3, .long (-r1)), (0, .ref b0), (1, .int i1), (2, .int i2)]) hx hb dX3_staysSmall_9 hl (by decide) rfl (fun ls hl => ?_)
  exact (w_fX3_staysSmall_11_l C hW0 FU) i1 i2 (-r1) (0 : Int32) hm ls (lv_sub hl [2, 3, 4, 1, 0] rfl)
set_option maxHeartbeats 4000000 in
theorem ct_X3_staysSmall {G : Gv} {l : Launch} {b0 : Nat} {V0 : Mem} {i1 : Int32} {i2 : Int32} {rx : Int32} (hm : fX3_staysSmall V0 i1 i2 = some rx) : CP G l yX3_staysSmall (ws_ yX3_staysSmall cX3_staysSmall 9 (some .boolean)) 1 28 [.ref b0, .int i1, .int i2] (fun H => rg G b0 43 (shX3 G.2.1) V0 H) (some (.int rx)) := by
  refine Met.ofW (cc := cX3_staysSmall) (maxL := 9) (ret := (some .boolean)) (by decide +kernel) rfl ?_
  intro p e s m args below meth c s₁ B hml hv
  obtain ⟨rfl, hW0, hK⟩ := hv
  have hts := atoms_spec (ws := ws_ yX3_staysSmall cX3_staysSmall 9 (some .boolean)) B.pre
  have hts : ∀ w ∈ lw_all, w.before _ s = true := fun w h => hts w (List.mem_cons_of_mem _ h)
  have C : Cx G p s m _ meth c RX3 cX3_staysSmall 9 (some .boolean) := ⟨B.exec, B.bytes, B.returns, B.notSynchronized, hml, findClass_of_methodNamed B.named, hts, hK⟩
  have hl := lv_entry ([.ref b0, .int i1, .int i2]) (n := 9) (Nat.le_of_ble_eq_true rfl)
  rw [lg_entry_eq]
  generalize (lg_sl ([.ref b0, .int i1, .int i2]) ++ List.replicate (9 - (lg_sl ([.ref b0, .int i1, .int i2])).length) Slot.unset).toArray = ls at hl ⊢
  have hl : lv_has ls 9 [(0, .ref b0), (1, .int i1), (2, .int i2)] := hl
  exact w_fX3_staysSmall C hW0 _ _ hm ls hl
theorem yn_X3_staysSmall : YN yX3_staysSmall 2 := by
  unfold YN
  decide +kernel
theorem lkX3_104 : LV RX3 104 RX3 yX3_staysSmall cX3_staysSmall 9 (some .boolean) := ⟨q840, q842, qs16, q117, q843⟩
theorem df_X13 (fs : List Value) (h : fs = [.null, .null, .null, .null, .null, .int 0, .int 0]) : ∀ j, j < 7 → defaultValue (tyX13 j) = vp_V fs j := by
  subst h
  intro j hj
  match j, hj with
  | 0, _ => rfl
  | 1, _ => rfl
  | 2, _ => rfl
  | 3, _ => rfl
  | 4, _ => rfl
  | 5, _ => rfl
  | 6, _ => rfl
  | n + 7, h => exact absurd h (by omega)
theorem lkX3_110 : LI RX3 110 yX13_init cX13_init 2 := ⟨q825, q826, q135, q827, rfl⟩
theorem yn_X13_init : YN yX13_init 1 := by
  unfold YN
  decide +kernel
noncomputable def fX3_pivot_229 (k229 : Mem → Nat → Int32 → Int32 → Int64 → Int32 → Option (Bool × Int32 × Nat × Mem)) (v0 : Mem) (zc : Nat) (i1 : Int32) (i2 : Int32) (j3 : Int64) (i7 : Int32) : Option (Bool × Int32 × Nat × Mem) :=
  if (gI v0 0 0) ≤ i7 then (
  gb (inR i1 30) (
  gb (inR i1 30) (
  lm (sL v0 2 i1.toNatClampNeg (-(gL v0 2 i1.toNatClampNeg))) fun v0_98 =>
  lm (sL v0_98 0 4 j3) fun v0_107 =>
  gb (inR i1 30) (
  gb (inR i2 5) (
  gb (inR i1 30) (
  lm (sI v0_107 4 i1.toNatClampNeg (gI v0_107 5 i2.toNatClampNeg)) fun v0_119 =>
  gb (inR i2 5) (
  lm (sI v0_119 5 i2.toNatClampNeg (gI v0_107 4 i1.toNatClampNeg)) fun v0_129 =>
  lm (sI v0_129 0 2 ((gI v0_129 0 2) + (1 : Int32))) fun v0_138 =>
  some (true, (0 : Int32), zc, v0_138))))))))
  else (
  if i7 = i2 then (
  ob (fX3_puts v0 i1 i7 (-(gL v0 0 4))) fun w161 =>
  k229 w161 zc i1 i2 j3 (i7 + (1 : Int32)))
  else (
  ob (fX3_entry v0 i1 i7) fun r148 =>
  ob (fX3_puts v0 i1 i7 (-r148)) fun w150 =>
  k229 w150 zc i1 i2 j3 (i7 + (1 : Int32))))
noncomputable def fX3_pivot_155 (k155 : Mem → Nat → Int32 → Int32 → Int64 → Int64 → Int32 → Option (Bool × Int32 × Nat × Mem)) (v0 : Mem) (zc : Nat) (i1 : Int32) (i2 : Int32) (j3 : Int64) (j5 : Int64) (i7 : Int32) : Option (Bool × Int32 × Nat × Mem) :=
  if (gI v0 0 0) ≤ i7 then (
  gb (inR i1 30) (
  ob (fX3_mixed v0 j3 (gL v0 0 5) (-j5) (gL v0 2 i1.toNatClampNeg)) fun r68 =>
  lm (sL v0 0 5 r68) fun v0_70 =>
  lq6 (fX3_pivot_229) FU v0_70 zc i1 i2 j3 (0 : Int32)))
  else (
  if i7 = i2 then (
  k155 v0 zc i1 i2 j3 j5 (i7 + (1 : Int32)))
  else (
  gb (inR i7 5) (
  ob (fX3_entry v0 i1 i7) fun r81 =>
  ob (fX3_mixed v0 j3 (gL v0 3 i7.toNatClampNeg) j5 r81) fun r83 =>
  gb (inR i7 5) (
  lm (sL v0 3 i7.toNatClampNeg r83) fun v0_86 =>
  k155 v0_86 zc i1 i2 j3 j5 (i7 + (1 : Int32))))))
noncomputable def fX3_pivot_60 (k30 : Mem → Nat → Int32 → Int32 → Int64 → Int32 → Option (Bool × Int32 × Nat × Mem)) (k60 : Mem → Nat → Int32 → Int32 → Int64 → Int32 → Int64 → Int32 → Option (Bool × Int32 × Nat × Mem)) (v0 : Mem) (zc : Nat) (i1 : Int32) (i2 : Int32) (j3 : Int64) (i5 : Int32) (j6 : Int64) (i8 : Int32) : Option (Bool × Int32 × Nat × Mem) :=
  if (gI v0 0 0) ≤ i8 then (
  gb (inR i5 30) (
  gb (inR i1 30) (
  ob (fX3_mixed v0 j3 (gL v0 2 i5.toNatClampNeg) j6 (gL v0 2 i1.toNatClampNeg)) fun r36 =>
  gb (inR i5 30) (
  lm (sL v0 2 i5.toNatClampNeg r36) fun v0_39 =>
  k30 v0_39 zc i1 i2 j3 (i5 + (1 : Int32))))))
  else (
  if i8 = i2 then (
  k60 v0 zc i1 i2 j3 i5 j6 (i8 + (1 : Int32)))
  else (
  ob (fX3_entry v0 i5 i8) fun r49 =>
  ob (fX3_entry v0 i1 i8) fun r51 =>
  ob (fX3_mixed v0 j3 r49 j6 r51) fun r53 =>
  ob (fX3_puts v0 i5 i8 r53) fun w55 =>
  k60 w55 zc i1 i2 j3 i5 j6 (i8 + (1 : Int32))))
noncomputable def fX3_pivot_30 (k30 : Mem → Nat → Int32 → Int32 → Int64 → Int32 → Option (Bool × Int32 × Nat × Mem)) (v0 : Mem) (zc : Nat) (i1 : Int32) (i2 : Int32) (j3 : Int64) (i5 : Int32) : Option (Bool × Int32 × Nat × Mem) :=
  if (gI v0 0 1) ≤ i5 then (
  gb (inR i2 5) (
  lq7 (fX3_pivot_155) FU v0 zc i1 i2 j3 (gL v0 3 i2.toNatClampNeg) (0 : Int32)))
  else (
  ob (fX3_entry v0 i5 i2) fun r30 =>
  if i5 = i1 then (
  k30 v0 zc i1 i2 j3 (i5 + (1 : Int32)))
  else (
  lq8 (fX3_pivot_60 k30) FU v0 zc i1 i2 j3 i5 r30 (0 : Int32)))
noncomputable def fX3_pivot (v0 : Mem) (i1 : Int32) (i2 : Int32) : Option (Bool × Int32 × Nat × Mem) :=
  ob (fX3_staysSmall v0 i1 i2) fun r1 =>
  if r1 = 0 then (
  some (false, (-6 : Int32), 1, v0))
  else (
  ob (fX3_entry v0 i1 i2) fun r4 =>
  lq6 (fX3_pivot_30) FU v0 0 i1 i2 (-r4) (0 : Int32))
set_option maxHeartbeats 4000000 in
theorem w_fX3_pivot_229 (C : Cx G p s m args meth c RX3 cX3_pivot 9 none) {b0 : Nat} {rok : Bool} {re : Int32} {rc : Nat} {rw0 : Mem} (he0 : b0 + 43 ≤ s.heap.size) (hZ : ZQ G) (hgb0 : gB G ≤ b0) (ht : ∀ x ∈ c.exceptionTable.toList, False) {k229 : Mem → Nat → Int32 → Int32 → Int64 → Int32 → Option (Bool × Int32 × Nat × Mem)} (hk229 : ∀ (v0 : Mem) (zc : Nat) (i1 : Int32) (i2 : Int32) (j3 : Int64) (i7 : Int32), k229 v0 zc i1 i2 j3 i7 = some (rok, re, rc, rw0) → ∀ (H : Heap) (locs : List Loc) (ls : Array Slot), rg G b0 43 (shX3 G.2.1) v0 H → va_S (FA (iv b0 43) s.heap.size) s.heap H locs → H.size = s.heap.size + zc → GO G H → lv_has ls 9 [(0, .ref b0), (1, .int i1), (2, .int i2), (3, .long j3), (7, .int i7)] → W p l e (rmT 4 (bif rok then 0 else 1) (bif rok then 0 else 7) 81) s m args below meth c H locs 0 0 (vx_MQ below (QcX rok (FA (iv b0 43) s.heap.size) (fun ov H => ov = none ∧ rg G b0 43 (shX3 G.2.1) rw0 H ∧ H.size = s.heap.size + rc)) (XcX rok (FA (iv b0 43) s.heap.size) (fun q E H => E = "WholePacks$Stuck" ∧ s.heap.size ≤ q ∧ (∃ wx, rg G q 1 (shX13 G.2.1) wx H ∧ gI wx 0 6 = re) ∧ rg G b0 43 (shX3 G.2.1) rw0 H ∧ H.size = s.heap.size + rc)) args s (bif rok then 0 else 1) (bif rok then 0 else 7) (FA (iv b0 43) s.heap.size)) (F0 m 229 ls [])) : ∀ (v0 : Mem) (zc : Nat) (i1 : Int32) (i2 : Int32) (j3 : Int64) (i7 : Int32), fX3_pivot_229 k229 v0 zc i1 i2 j3 i7 = some (rok, re, rc, rw0) → ∀ (H : Heap) (locs : List Loc) (ls : Array Slot), rg G b0 43 (shX3 G.2.1) v0 H → va_S (FA (iv b0 43) s.heap.size) s.heap H locs → H.size = s.heap.size + zc → GO G H → lv_has ls 9 [(0, .ref b0), (1, .int i1), (2, .int i2), (3, .long j3), (7, .int i7)] → W p l e (rmT 4 (bif rok then 0 else 1) (bif rok then 0 else 7) 81) s m args below meth c H locs 0 0 (vx_MQ below (QcX rok (FA (iv b0 43) s.heap.size) (fun ov H => ov = none ∧ rg G b0 43 (shX3 G.2.1) rw0 H ∧ H.size = s.heap.size + rc)) (XcX rok (FA (iv b0 43) s.heap.size) (fun q E H => E = "WholePacks$Stuck" ∧ s.heap.size ≤ q ∧ (∃ wx, rg G q 1 (shX13 G.2.1) wx H ∧ gI wx 0 6 = re) ∧ rg G b0 43 (shX3 G.2.1) rw0 H ∧ H.size = s.heap.size + rc)) args s (bif rok then 0 else 1) (bif rok then 0 else 7) (FA (iv b0 43) s.heap.size)) (F0 m 229 ls []) := by
  intro v0 zc i1 i2 j3 i7 hm H locs ls hW0 hS hz hG hl
  obtain ⟨hx, hb, hr, hlk, hml, hown, hts, hK⟩ := id C
  unfold fX3_pivot_229 at hm
  refine lv_iload (pc := 229) hx hb dX3_pivot_229 (lv_at hl 4 rfl) ?_
  refine lv_aload_n (pc := 231) hx hb dX3_pivot_231 rfl (lv_at hl 0 rfl) ?_
  refine rk_get (pc := 232) hx hb hts hown hK hW0 flX3_44 0 (by decide) rfl rfl (x := .int (gI v0 0 0)) rfl dX3_pivot_232 ?_
  refine lv_icmp_ge (pc := 235) (tgt := 273) hx hb dX3_pivot_235 (by decide) (fun c95 => ?_) (fun c95 => ?_)
  · have hm := ite_t c95 hm
    refine lv_aload_n (pc := 273) hx hb dX3_pivot_273 rfl (lv_at hl 0 rfl) ?_
    refine rk_get (pc := 274) hx hb hts hown hK hW0 flX3_15 0 (by decide) rfl rfl (x := .ref (b0 + 2)) (by first | rfl | exact congrArg (fun z => some (Value.ref z)) (by omega)) dX3_pivot_274 ?_
    refine lv_iload_n (pc := 277) hx hb dX3_pivot_277 rfl (lv_at hl 1 rfl) ?_
    refine lv_aload_n (pc := 278) hx hb dX3_pivot_278 rfl (lv_at hl 0 rfl) ?_
    refine rk_get (pc := 279) hx hb hts hown hK hW0 flX3_15 0 (by decide) rfl rfl (x := .ref (b0 + 2)) (by first | rfl | exact congrArg (fun z => some (Value.ref z)) (by omega)) dX3_pivot_279 ?_
    refine lv_iload_n (pc := 282) hx hb dX3_pivot_282 rfl (lv_at hl 1 rfl) ?_
    obtain ⟨hg96, hm⟩ := gb_some hm
    refine rk_lald (pc := 283) hx hb hK hW0 2 (by decide) rfl rfl hg96 (x := (gL v0 2 i1.toNatClampNeg)) rfl dX3_pivot_283 ?_
    refine lv_lneg (pc := 284) hx hb dX3_pivot_284 ?_
    obtain ⟨hg97, hm⟩ := gb_some hm
    refine rk_last (pc := 285) hx hb hK hW0 hS 2 (by decide) rfl (Or.inl (show iv _ _ _ from ⟨by omega, by omega⟩)) (fun _ _ _ => rfl) hg97 dX3_pivot_285 (fun H99 locs100 hW101 hS102 hz103 hkp104 => ?_)
    obtain ⟨v0_98, he9, hm⟩ := lm_some hm
    rw [he9] at hW101
    have hz105 := hz103.trans hz
    have hG106 := GO_keepq hG hkp104 (by omega)
    refine lv_aload_n (pc := 286) hx hb dX3_pivot_286 rfl (lv_at hl 0 rfl) ?_
    refine lv_lload_n (pc := 287) hx hb dX3_pivot_287 rfl (lv_at hl 3 rfl) ?_
    refine rk_put (pc := 288) hx hb hts hown hK hW101 hS102 flX3_51 ft_X3 0 (by decide) rfl (Or.inl (show iv _ _ _ from ⟨by omega, by omega⟩)) rfl rfl (x := .long j3) rfl rfl (Nat.le_of_ble_eq_true rfl) (sL v0_98 0 4 j3) sL_ne (by rw [sL_eq]; exact rfl) dX3_pivot_288 (fun H108 locs109 hW110 hS111 hz112 hkp113 => ?_)
    obtain ⟨v0_107, he9, hm⟩ := lm_some hm
    rw [he9] at hW110
    have hz114 := hz112.trans hz105
    have hG115 := GO_keepq hG106 hkp113 (by omega)
    refine lv_aload_n (pc := 291) hx hb dX3_pivot_291 rfl (lv_at hl 0 rfl) ?_
    refine rk_get (pc := 292) hx hb hts hown hK hW110 flX3_21 0 (by decide) rfl rfl (x := .ref (b0 + 4)) (by first | rfl | exact congrArg (fun z => some (Value.ref z)) (by omega)) dX3_pivot_292 ?_
    refine lv_iload_n (pc := 295) hx hb dX3_pivot_295 rfl (lv_at hl 1 rfl) ?_
    obtain ⟨hg116, hm⟩ := gb_some hm
    refine rk_iald (pc := 296) hx hb hK hW110 4 (by decide) rfl rfl hg116 (x := (gI v0_107 4 i1.toNatClampNeg)) rfl dX3_pivot_296 ?_
    refine lv_istore (pc := 297) (lv' := [(7, .int (gI v0_107 4 i1.toNatClampNeg)), (0, .ref b0), (1, .int i1), (2, .int i2), (3, .long j3)]) hx hb dX3_pivot_297 hl (by decide) rfl (fun ls hl => ?_)
    refine lv_aload_n (pc := 299) hx hb dX3_pivot_299 rfl (lv_at hl 1 rfl) ?_
    refine rk_get (pc := 300) hx hb hts hown hK hW110 flX3_21 0 (by decide) rfl rfl (x := .ref (b0 + 4)) (by first | rfl | exact congrArg (fun z => some (Value.ref z)) (by omega)) dX3_pivot_300 ?_
    refine lv_iload_n (pc := 303) hx hb dX3_pivot_303 rfl (lv_at hl 2 rfl) ?_
    refine lv_aload_n (pc := 304) hx hb dX3_pivot_304 rfl (lv_at hl 1 rfl) ?_
    refine rk_get (pc := 305) hx hb hts hown hK hW110 flX3_25 0 (by decide) rfl rfl (x := .ref (b0 + 5)) (by first | rfl | exact congrArg (fun z => some (Value.ref z)) (by omega)) dX3_pivot_305 ?_
    refine lv_iload_n (pc := 308) hx hb dX3_pivot_308 rfl (lv_at hl 3 rfl) ?_
    obtain ⟨hg117, hm⟩ := gb_some hm
    refine rk_iald (pc := 309) hx hb hK hW110 5 (by decide) rfl rfl hg117 (x := (gI v0_107 5 i2.toNatClampNeg)) rfl dX3_pivot_309 ?_
    obtain ⟨hg118, hm⟩ := gb_some hm
    refine rk_iast (pc := 310) hx hb hK hW110 hS111 4 (by decide) rfl (Or.inl (show iv _ _ _ from ⟨by omega, by omega⟩)) (fun _ _ _ => rfl) hg118 dX3_pivot_310 (fun H120 locs121 hW122 hS123 hz124 hkp125 => ?_)
    obtain ⟨v0_119, he9, hm⟩ := lm_some hm
    rw [he9] at hW122
    have hz126 := hz124.trans hz114
    have hG127 := GO_keepq hG115 hkp125 (by omega)
    refine lv_aload_n (pc := 311) hx hb dX3_pivot_311 rfl (lv_at hl 1 rfl) ?_
    refine rk_get (pc := 312) hx hb hts hown hK hW122 flX3_25 0 (by decide) rfl rfl (x := .ref (b0 + 5)) (by first | rfl | exact congrArg (fun z => some (Value.ref z)) (by omega)) dX3_pivot_312 ?_
    refine lv_iload_n (pc := 315) hx hb dX3_pivot_315 rfl (lv_at hl 3 rfl) ?_
    refine lv_iload (pc := 316) hx hb dX3_pivot_316 (lv_at hl 0 rfl) ?_
    obtain ⟨hg128, hm⟩ := gb_some hm
    refine rk_iast (pc := 318) hx hb hK hW122 hS123 5 (by decide) rfl (Or.inl (show iv _ _ _ from ⟨by omega, by omega⟩)) (fun _ _ _ => rfl) hg128 dX3_pivot_318 (fun H130 locs131 hW132 hS133 hz134 hkp135 => ?_)
    obtain ⟨v0_129, he9, hm⟩ := lm_some hm
    rw [he9] at hW132
    have hz136 := hz134.trans hz126
    have hG137 := GO_keepq hG127 hkp135 (by omega)
    refine lv_aload_n (pc := 319) hx hb dX3_pivot_319 rfl (lv_at hl 1 rfl) ?_
    refine lv_dup (pc := 320) hx hb dX3_pivot_320 rfl ?_
    refine rk_get (pc := 321) hx hb hts hown hK hW132 flX3_45 0 (by decide) rfl rfl (x := .int (gI v0_129 0 2)) rfl dX3_pivot_321 ?_
    refine lv_iconst (pc := 324) (v := (1 : Int32)) hx hb dX3_pivot_324 (by decide) ?_
    refine lv_iadd (pc := 325) hx hb dX3_pivot_325 ?_
    refine rk_put (pc := 326) hx hb hts hown hK hW132 hS133 flX3_45 ft_X3 0 (by decide) rfl (Or.inl (show iv _ _ _ from ⟨by omega, by omega⟩)) rfl rfl (x := .int ((gI v0_129 0 2) + (1 : Int32))) rfl rfl (Nat.le_of_ble_eq_true rfl) (sI v0_129 0 2 ((gI v0_129 0 2) + (1 : Int32))) sI_ne (by rw [sI_eq]; exact rfl) dX3_pivot_326 (fun H139 locs140 hW141 hS142 hz143 hkp144 => ?_)
    obtain ⟨v0_138, he9, hm⟩ := lm_some hm
    rw [he9] at hW141
    have hz145 := hz143.trans hz136
    have hG146 := GO_keepq hG137 hkp144 (by omega)
    obtain ⟨e6, e7, e8, e9⟩ := rs4 hm
    cases e6
    subst e7
    subst e8
    subst e9
    exact rk_vretX (pc := 329) hx hb hr hlk hS142 ⟨rfl, hW141, hz145⟩ dX3_pivot_329 (by exact Nat.le_of_ble_eq_true rfl) (by exact Nat.le_of_ble_eq_true rfl)
  · have hm := ite_f c95 hm
    refine lv_aload_n (pc := 238) hx hb dX3_pivot_238 rfl (lv_at hl 0 rfl) ?_
    refine lv_iload_n (pc := 239) hx hb dX3_pivot_239 rfl (lv_at hl 1 rfl) ?_
    refine lv_iload (pc := 240) hx hb dX3_pivot_240 (lv_at hl 4 rfl) ?_
    refine lv_iload (pc := 242) hx hb dX3_pivot_242 (lv_at hl 4 rfl) ?_
    refine lv_iload_n (pc := 244) hx hb dX3_pivot_244 rfl (lv_at hl 2 rfl) ?_
    refine lv_icmp_ne (pc := 245) (tgt := 256) hx hb dX3_pivot_245 (by decide) (fun c147 => ?_) (fun c147 => ?_)
    · have hm := ite_f c147 hm
      refine lv_aload_n (pc := 256) hx hb dX3_pivot_256 rfl (lv_at hl 0 rfl) ?_
      refine lv_iload_n (pc := 257) hx hb dX3_pivot_257 rfl (lv_at hl 1 rfl) ?_
      refine lv_iload (pc := 258) hx hb dX3_pivot_258 (lv_at hl 4 rfl) ?_
      obtain ⟨r148, hq149, hm⟩ := ob_some hm
      refine rk_PV (pc := 260) (As := [.int i1, .int i7]) (rest := [.int i7, .int i1, .ref b0]) hx hb hml hown hts hK lkX3_88 rfl yn_X3_entry (ct_X3_entry (G := G) (l := l) (b0 := b0) hq149) ⟨Nat.le_of_ble_eq_true rfl, Nat.le_of_ble_eq_true rfl⟩ (rk_recv hK hW0 0 (by decide) rfl rfl rfl) hW0 rfl rfl hl.1 (Nat.le_of_ble_eq_true rfl) dX3_pivot_260 ⟨Nat.zero_le _, Nat.zero_le _⟩ ?_
      refine W.eq (g2 := F0 m 263 ls [.long r148, .int i7, .int i1, .ref b0]) rfl ?_
      refine lv_lneg (pc := 263) hx hb dX3_pivot_263 ?_
      obtain ⟨w150, hq151, hm⟩ := ob_some hm
      refine rk_TV (pc := 264) (As := [.int i1, .int i7, .long (-r148)]) (rest := []) (mc := 0) (ms := 0) hx hb hml hown hts hK hS (fun q hq => FA_sz rfl q hq) lkX3_82 rfl yn_X3_puts (ct_X3_puts (G := G) (l := l) (b0 := b0) (sz := H.size) hq151) ⟨Nat.le_of_ble_eq_true rfl, Nat.le_of_ble_eq_true rfl⟩ (fun z h => Or.inl (show iv _ _ _ from ⟨by have h8 := h.1; have h9 := h.2; omega, by have h8 := h.1; have h9 := h.2; omega⟩)) (rk_recv hK hW0 0 (by decide) rfl rfl rfl) hW0 rfl rfl hl.1 (Nat.le_of_ble_eq_true rfl) dX3_pivot_264 ⟨Nat.zero_le _, Nat.zero_le _⟩ (fun ov9 H152 locs153 hP154 hkp155 hS156 => ?_)
      obtain ⟨rfl, hW157, hz158⟩ := hP154
      have hG159 := GO_keepA hG hkp155 (Nat.le_trans (show gB G ≤ s.heap.size by omega) hS.1) (by intro z h3; have h8 := h3.1; have h9 := h3.2; omega)
      have hz160 := hz158.trans hz
      refine W.eq (g2 := F0 m 267 ls []) rfl ?_
      refine lv_iinc (pc := 267) (v := (i7 + (1 : Int32))) (lv' := [(7, .int (i7 + (1 : Int32))), (0, .ref b0), (1, .int i1), (2, .int i2), (3, .long j3)]) hx hb dX3_pivot_267 hl (k := 4) rfl rfl (by decide) rfl (fun ls hl => ?_)
      refine lv_goto (pc := 270) (tgt := 229) hx hb dX3_pivot_270 (by decide) ?_
      exact hk229 w150 zc i1 i2 j3 (i7 + (1 : Int32)) hm H152 locs153 ls hW157 hS156 hz160 hG159 (lv_sub hl [1, 2, 3, 4, 0] rfl)
    · have hm := ite_t c147 hm
      refine lv_aload_n (pc := 248) hx hb dX3_pivot_248 rfl (lv_at hl 0 rfl) ?_
      refine rk_get (pc := 249) hx hb hts hown hK hW0 flX3_51 0 (by decide) rfl rfl (x := .long (gL v0 0 4)) rfl dX3_pivot_249 ?_
      refine lv_lneg (pc := 252) hx hb dX3_pivot_252 ?_
      refine lv_goto (pc := 253) (tgt := 264) hx hb dX3_pivot_253 (by decide) ?_
      obtain ⟨w161, hq162, hm⟩ := ob_some hm
      refine rk_TV (pc := 264) (As := [.int i1, .int i7, .long (-(gL v0 0 4))]) (rest := []) (mc := 0) (ms := 0) hx hb hml hown hts hK hS (fun q hq => FA_sz rfl q hq) lkX3_82 rfl yn_X3_puts (ct_X3_puts (G := G) (l := l) (b0 := b0) (sz := H.size) hq162) ⟨Nat.le_of_ble_eq_true rfl, Nat.le_of_ble_eq_true rfl⟩ (fun z h => Or.inl (show iv _ _ _ from ⟨by have h8 := h.1; have h9 := h.2; omega, by have h8 := h.1; have h9 := h.2; omega⟩)) (rk_recv hK hW0 0 (by decide) rfl rfl rfl) hW0 rfl rfl hl.1 (Nat.le_of_ble_eq_true rfl) dX3_pivot_264 ⟨Nat.zero_le _, Nat.zero_le _⟩ (fun ov9 H163 locs164 hP165 hkp166 hS167 => ?_)
      obtain ⟨rfl, hW168, hz169⟩ := hP165
      have hG170 := GO_keepA hG hkp166 (Nat.le_trans (show gB G ≤ s.heap.size by omega) hS.1) (by intro z h3; have h8 := h3.1; have h9 := h3.2; omega)
      have hz171 := hz169.trans hz
      refine W.eq (g2 := F0 m 267 ls []) rfl ?_
      refine lv_iinc (pc := 267) (v := (i7 + (1 : Int32))) (lv' := [(7, .int (i7 + (1 : Int32))), (0, .ref b0), (1, .int i1), (2, .int i2), (3, .long j3)]) hx hb dX3_pivot_267 hl (k := 4) rfl rfl (by decide) rfl (fun ls hl => ?_)
      refine lv_goto (pc := 270) (tgt := 229) hx hb dX3_pivot_270 (by decide) ?_
      exact hk229 w161 zc i1 i2 j3 (i7 + (1 : Int32)) hm H163 locs164 ls hW168 hS167 hz171 hG170 (lv_sub hl [1, 2, 3, 4, 0] rfl)
theorem w_fX3_pivot_229_l (C : Cx G p s m args meth c RX3 cX3_pivot 9 none) {b0 : Nat} {rok : Bool} {re : Int32} {rc : Nat} {rw0 : Mem} (he0 : b0 + 43 ≤ s.heap.size) (hZ : ZQ G) (hgb0 : gB G ≤ b0) (ht : ∀ x ∈ c.exceptionTable.toList, False) : ∀ (n : Nat) (v0 : Mem) (zc : Nat) (i1 : Int32) (i2 : Int32) (j3 : Int64) (i7 : Int32), lq6 (fX3_pivot_229) n v0 zc i1 i2 j3 i7 = some (rok, re, rc, rw0) → ∀ (H : Heap) (locs : List Loc) (ls : Array Slot), rg G b0 43 (shX3 G.2.1) v0 H → va_S (FA (iv b0 43) s.heap.size) s.heap H locs → H.size = s.heap.size + zc → GO G H → lv_has ls 9 [(0, .ref b0), (1, .int i1), (2, .int i2), (3, .long j3), (7, .int i7)] → W p l e (rmT 4 (bif rok then 0 else 1) (bif rok then 0 else 7) 81) s m args below meth c H locs 0 0 (vx_MQ below (QcX rok (FA (iv b0 43) s.heap.size) (fun ov H => ov = none ∧ rg G b0 43 (shX3 G.2.1) rw0 H ∧ H.size = s.heap.size + rc)) (XcX rok (FA (iv b0 43) s.heap.size) (fun q E H => E = "WholePacks$Stuck" ∧ s.heap.size ≤ q ∧ (∃ wx, rg G q 1 (shX13 G.2.1) wx H ∧ gI wx 0 6 = re) ∧ rg G b0 43 (shX3 G.2.1) rw0 H ∧ H.size = s.heap.size + rc)) args s (bif rok then 0 else 1) (bif rok then 0 else 7) (FA (iv b0 43) s.heap.size)) (F0 m 229 ls []) := by
  intro n
  induction n with
  | zero => intro v0 zc i1 i2 j3 i7 hm; exact (lq6_0 hm).elim
  | succ n ih => intro v0 zc i1 i2 j3 i7 hm; exact w_fX3_pivot_229 C he0 hZ hgb0 ht ih v0 zc i1 i2 j3 i7 (lq6_s hm)
set_option maxHeartbeats 4000000 in
theorem w_fX3_pivot_155 (C : Cx G p s m args meth c RX3 cX3_pivot 9 none) {b0 : Nat} {rok : Bool} {re : Int32} {rc : Nat} {rw0 : Mem} (he0 : b0 + 43 ≤ s.heap.size) (hZ : ZQ G) (hgb0 : gB G ≤ b0) (ht : ∀ x ∈ c.exceptionTable.toList, False) {k155 : Mem → Nat → Int32 → Int32 → Int64 → Int64 → Int32 → Option (Bool × Int32 × Nat × Mem)} (hk155 : ∀ (v0 : Mem) (zc : Nat) (i1 : Int32) (i2 : Int32) (j3 : Int64) (j5 : Int64) (i7 : Int32), k155 v0 zc i1 i2 j3 j5 i7 = some (rok, re, rc, rw0) → ∀ (H : Heap) (locs : List Loc) (ls : Array Slot), rg G b0 43 (shX3 G.2.1) v0 H → va_S (FA (iv b0 43) s.heap.size) s.heap H locs → H.size = s.heap.size + zc → GO G H → lv_has ls 9 [(0, .ref b0), (1, .int i1), (2, .int i2), (3, .long j3), (5, .long j5), (7, .int i7)] → W p l e (rmT 4 (bif rok then 0 else 1) (bif rok then 0 else 7) 81) s m args below meth c H locs 0 0 (vx_MQ below (QcX rok (FA (iv b0 43) s.heap.size) (fun ov H => ov = none ∧ rg G b0 43 (shX3 G.2.1) rw0 H ∧ H.size = s.heap.size + rc)) (XcX rok (FA (iv b0 43) s.heap.size) (fun q E H => E = "WholePacks$Stuck" ∧ s.heap.size ≤ q ∧ (∃ wx, rg G q 1 (shX13 G.2.1) wx H ∧ gI wx 0 6 = re) ∧ rg G b0 43 (shX3 G.2.1) rw0 H ∧ H.size = s.heap.size + rc)) args s (bif rok then 0 else 1) (bif rok then 0 else 7) (FA (iv b0 43) s.heap.size)) (F0 m 155 ls [])) : ∀ (v0 : Mem) (zc : Nat) (i1 : Int32) (i2 : Int32) (j3 : Int64) (j5 : Int64) (i7 : Int32), fX3_pivot_155 k155 v0 zc i1 i2 j3 j5 i7 = some (rok, re, rc, rw0) → ∀ (H : Heap) (locs : List Loc) (ls : Array Slot), rg G b0 43 (shX3 G.2.1) v0 H → va_S (FA (iv b0 43) s.heap.size) s.heap H locs → H.size = s.heap.size + zc → GO G H → lv_has ls 9 [(0, .ref b0), (1, .int i1), (2, .int i2), (3, .long j3), (5, .long j5), (7, .int i7)] → W p l e (rmT 4 (bif rok then 0 else 1) (bif rok then 0 else 7) 81) s m args below meth c H locs 0 0 (vx_MQ below (QcX rok (FA (iv b0 43) s.heap.size) (fun ov H => ov = none ∧ rg G b0 43 (shX3 G.2.1) rw0 H ∧ H.size = s.heap.size + rc)) (XcX rok (FA (iv b0 43) s.heap.size) (fun q E H => E = "WholePacks$Stuck" ∧ s.heap.size ≤ q ∧ (∃ wx, rg G q 1 (shX13 G.2.1) wx H ∧ gI wx 0 6 = re) ∧ rg G b0 43 (shX3 G.2.1) rw0 H ∧ H.size = s.heap.size + rc)) args s (bif rok then 0 else 1) (bif rok then 0 else 7) (FA (iv b0 43) s.heap.size)) (F0 m 155 ls []) := by
  intro v0 zc i1 i2 j3 j5 i7 hm H locs ls hW0 hS hz hG hl
  obtain ⟨hx, hb, hr, hlk, hml, hown, hts, hK⟩ := id C
  unfold fX3_pivot_155 at hm
  refine lv_iload (pc := 155) hx hb dX3_pivot_155 (lv_at hl 5 rfl) ?_
  refine lv_aload_n (pc := 157) hx hb dX3_pivot_157 rfl (lv_at hl 0 rfl) ?_
  refine rk_get (pc := 158) hx hb hts hown hK hW0 flX3_44 0 (by decide) rfl rfl (x := .int (gI v0 0 0)) rfl dX3_pivot_158 ?_
  refine lv_icmp_ge (pc := 161) (tgt := 204) hx hb dX3_pivot_161 (by decide) (fun c66 => ?_) (fun c66 => ?_)
  · have hm := ite_t c66 hm
    refine lv_aload_n (pc := 204) hx hb dX3_pivot_204 rfl (lv_at hl 0 rfl) ?_
    refine lv_aload_n (pc := 205) hx hb dX3_pivot_205 rfl (lv_at hl 0 rfl) ?_
    refine lv_lload_n (pc := 206) hx hb dX3_pivot_206 rfl (lv_at hl 3 rfl) ?_
    refine lv_aload_n (pc := 207) hx hb dX3_pivot_207 rfl (lv_at hl 0 rfl) ?_
    refine rk_get (pc := 208) hx hb hts hown hK hW0 flX3_55 0 (by decide) rfl rfl (x := .long (gL v0 0 5)) rfl dX3_pivot_208 ?_
    refine lv_lload (pc := 211) hx hb dX3_pivot_211 (lv_at hl 4 rfl) ?_
    refine lv_lneg (pc := 213) hx hb dX3_pivot_213 ?_
    refine lv_aload_n (pc := 214) hx hb dX3_pivot_214 rfl (lv_at hl 0 rfl) ?_
    refine rk_get (pc := 215) hx hb hts hown hK hW0 flX3_15 0 (by decide) rfl rfl (x := .ref (b0 + 2)) (by first | rfl | exact congrArg (fun z => some (Value.ref z)) (by omega)) dX3_pivot_215 ?_
    refine lv_iload_n (pc := 218) hx hb dX3_pivot_218 rfl (lv_at hl 1 rfl) ?_
    obtain ⟨hg67, hm⟩ := gb_some hm
    refine rk_lald (pc := 219) hx hb hK hW0 2 (by decide) rfl rfl hg67 (x := (gL v0 2 i1.toNatClampNeg)) rfl dX3_pivot_219 ?_
    obtain ⟨r68, hq69, hm⟩ := ob_some hm
    refine rk_PV (pc := 220) (As := [.long j3, .long (gL v0 0 5), .long (-j5), .long (gL v0 2 i1.toNatClampNeg)]) (rest := [.ref b0]) hx hb hml hown hts hK lkX3_92 rfl yn_X3_mixed (ct_X3_mixed (G := G) (l := l) (b0 := b0) hq69) ⟨Nat.le_of_ble_eq_true rfl, Nat.le_of_ble_eq_true rfl⟩ (rk_recv hK hW0 0 (by decide) rfl rfl rfl) hW0 rfl rfl hl.1 (Nat.le_of_ble_eq_true rfl) dX3_pivot_220 ⟨Nat.zero_le _, Nat.zero_le _⟩ ?_
    refine W.eq (g2 := F0 m 223 ls [.long r68, .ref b0]) rfl ?_
    refine rk_put (pc := 223) hx hb hts hown hK hW0 hS flX3_55 ft_X3 0 (by decide) rfl (Or.inl (show iv _ _ _ from ⟨by omega, by omega⟩)) rfl rfl (x := .long r68) rfl rfl (Nat.le_of_ble_eq_true rfl) (sL v0 0 5 r68) sL_ne (by rw [sL_eq]; exact rfl) dX3_pivot_223 (fun H71 locs72 hW73 hS74 hz75 hkp76 => ?_)
    obtain ⟨v0_70, he9, hm⟩ := lm_some hm
    rw [he9] at hW73
    have hz77 := hz75.trans hz
    have hG78 := GO_keepq hG hkp76 (by omega)
    refine lv_iconst (pc := 226) (v := (0 : Int32)) hx hb dX3_pivot_226 (by decide) ?_
    refine lv_istore (pc := 227) (lv' := [(7, .int (0 : Int32)), (0, .ref b0), (1, .int i1), (2, .int i2), (3, .long j3), (5, .long j5)]) hx hb dX3_pivot_227 hl (by decide) rfl (fun ls hl => ?_)
    exact (w_fX3_pivot_229_l C he0 hZ hgb0 ht FU) v0_70 zc i1 i2 j3 (0 : Int32) hm H71 locs72 ls hW73 hS74 hz77 hG78 (lv_sub hl [1, 2, 3, 4, 0] rfl)
  · have hm := ite_f c66 hm
    refine lv_iload (pc := 164) hx hb dX3_pivot_164 (lv_at hl 5 rfl) ?_
    refine lv_iload_n (pc := 166) hx hb dX3_pivot_166 rfl (lv_at hl 2 rfl) ?_
    refine lv_icmp_eq (pc := 167) (tgt := 198) hx hb dX3_pivot_167 (by decide) (fun c79 => ?_) (fun c79 => ?_)
    · have hm := ite_t c79 hm
      refine lv_iinc (pc := 198) (v := (i7 + (1 : Int32))) (lv' := [(7, .int (i7 + (1 : Int32))), (0, .ref b0), (1, .int i1), (2, .int i2), (3, .long j3), (5, .long j5)]) hx hb dX3_pivot_198 hl (k := 5) rfl rfl (by decide) rfl (fun ls hl => ?_)
      refine lv_goto (pc := 201) (tgt := 155) hx hb dX3_pivot_201 (by decide) ?_
      exact hk155 v0 zc i1 i2 j3 j5 (i7 + (1 : Int32)) hm H locs ls hW0 hS hz hG (lv_sub hl [1, 2, 3, 4, 5, 0] rfl)
    · have hm := ite_f c79 hm
      refine lv_aload_n (pc := 170) hx hb dX3_pivot_170 rfl (lv_at hl 0 rfl) ?_
      refine rk_get (pc := 171) hx hb hts hown hK hW0 flX3_18 0 (by decide) rfl rfl (x := .ref (b0 + 3)) (by first | rfl | exact congrArg (fun z => some (Value.ref z)) (by omega)) dX3_pivot_171 ?_
      refine lv_iload (pc := 174) hx hb dX3_pivot_174 (lv_at hl 5 rfl) ?_
      refine lv_aload_n (pc := 176) hx hb dX3_pivot_176 rfl (lv_at hl 0 rfl) ?_
      refine lv_lload_n (pc := 177) hx hb dX3_pivot_177 rfl (lv_at hl 3 rfl) ?_
      refine lv_aload_n (pc := 178) hx hb dX3_pivot_178 rfl (lv_at hl 0 rfl) ?_
      refine rk_get (pc := 179) hx hb hts hown hK hW0 flX3_18 0 (by decide) rfl rfl (x := .ref (b0 + 3)) (by first | rfl | exact congrArg (fun z => some (Value.ref z)) (by omega)) dX3_pivot_179 ?_
      refine lv_iload (pc := 182) hx hb dX3_pivot_182 (lv_at hl 5 rfl) ?_
      obtain ⟨hg80, hm⟩ := gb_some hm
      refine rk_lald (pc := 184) hx hb hK hW0 3 (by decide) rfl rfl hg80 (x := (gL v0 3 i7.toNatClampNeg)) rfl dX3_pivot_184 ?_
      refine lv_lload (pc := 185) hx hb dX3_pivot_185 (lv_at hl 4 rfl) ?_
      refine lv_aload_n (pc := 187) hx hb dX3_pivot_187 rfl (lv_at hl 0 rfl) ?_
      refine lv_iload_n (pc := 188) hx hb dX3_pivot_188 rfl (lv_at hl 1 rfl) ?_
      refine lv_iload (pc := 189) hx hb dX3_pivot_189 (lv_at hl 5 rfl) ?_
      obtain ⟨r81, hq82, hm⟩ := ob_some hm
      refine rk_PVb (pc := 191) (As := [.int i1, .int i7]) (rest := [.long j5, .long (gL v0 3 i7.toNatClampNeg), .long j3, .ref b0, .int i7, .ref (b0 + 3)]) hx hb hml hown hts hK lkX3_88 rfl yn_X3_entry (ct_X3_entry (G := G) (l := l) (b0 := b0) hq82) ⟨Nat.le_of_ble_eq_true rfl, Nat.le_of_ble_eq_true rfl⟩ (rk_recv hK hW0 0 (by decide) rfl rfl rfl) hW0 rfl rfl hl.1 (Nat.le_of_ble_eq_true rfl) dX3_pivot_191 ⟨Nat.zero_le _, Nat.zero_le _⟩ ?_
      refine W.eq (g2 := F0 m 194 ls [.long r81, .long j5, .long (gL v0 3 i7.toNatClampNeg), .long j3, .ref b0, .int i7, .ref (b0 + 3)]) rfl ?_
      obtain ⟨r83, hq84, hm⟩ := ob_some hm
      refine rk_PV (pc := 194) (As := [.long j3, .long (gL v0 3 i7.toNatClampNeg), .long j5, .long r81]) (rest := [.int i7, .ref (b0 + 3)]) hx hb hml hown hts hK lkX3_92 rfl yn_X3_mixed (ct_X3_mixed (G := G) (l := l) (b0 := b0) hq84) ⟨Nat.le_of_ble_eq_true rfl, Nat.le_of_ble_eq_true rfl⟩ (rk_recv hK hW0 0 (by decide) rfl rfl rfl) hW0 rfl rfl hl.1 (Nat.le_of_ble_eq_true rfl) dX3_pivot_194 ⟨Nat.zero_le _, Nat.zero_le _⟩ ?_
      refine W.eq (g2 := F0 m 197 ls [.long r83, .int i7, .ref (b0 + 3)]) rfl ?_
      obtain ⟨hg85, hm⟩ := gb_some hm
      refine rk_last (pc := 197) hx hb hK hW0 hS 3 (by decide) rfl (Or.inl (show iv _ _ _ from ⟨by omega, by omega⟩)) (fun _ _ _ => rfl) hg85 dX3_pivot_197 (fun H87 locs88 hW89 hS90 hz91 hkp92 => ?_)
      obtain ⟨v0_86, he9, hm⟩ := lm_some hm
      rw [he9] at hW89
      have hz93 := hz91.trans hz
      have hG94 := GO_keepq hG hkp92 (by omega)
      refine lv_iinc (pc := 198) (v := (i7 + (1 : Int32))) (lv' := [(7, .int (i7 + (1 : Int32))), (0, .ref b0), (1, .int i1), (2, .int i2), (3, .long j3), (5, .long j5)]) hx hb dX3_pivot_198 hl (k := 5) rfl rfl (by decide) rfl (fun ls hl => ?_)
      refine lv_goto (pc := 201) (tgt := 155) hx hb dX3_pivot_201 (by decide) ?_
      exact hk155 v0_86 zc i1 i2 j3 j5 (i7 + (1 : Int32)) hm H87 locs88 ls hW89 hS90 hz93 hG94 (lv_sub hl [1, 2, 3, 4, 5, 0] rfl)
theorem w_fX3_pivot_155_l (C : Cx G p s m args meth c RX3 cX3_pivot 9 none) {b0 : Nat} {rok : Bool} {re : Int32} {rc : Nat} {rw0 : Mem} (he0 : b0 + 43 ≤ s.heap.size) (hZ : ZQ G) (hgb0 : gB G ≤ b0) (ht : ∀ x ∈ c.exceptionTable.toList, False) : ∀ (n : Nat) (v0 : Mem) (zc : Nat) (i1 : Int32) (i2 : Int32) (j3 : Int64) (j5 : Int64) (i7 : Int32), lq7 (fX3_pivot_155) n v0 zc i1 i2 j3 j5 i7 = some (rok, re, rc, rw0) → ∀ (H : Heap) (locs : List Loc) (ls : Array Slot), rg G b0 43 (shX3 G.2.1) v0 H → va_S (FA (iv b0 43) s.heap.size) s.heap H locs → H.size = s.heap.size + zc → GO G H → lv_has ls 9 [(0, .ref b0), (1, .int i1), (2, .int i2), (3, .long j3), (5, .long j5), (7, .int i7)] → W p l e (rmT 4 (bif rok then 0 else 1) (bif rok then 0 else 7) 81) s m args below meth c H locs 0 0 (vx_MQ below (QcX rok (FA (iv b0 43) s.heap.size) (fun ov H => ov = none ∧ rg G b0 43 (shX3 G.2.1) rw0 H ∧ H.size = s.heap.size + rc)) (XcX rok (FA (iv b0 43) s.heap.size) (fun q E H => E = "WholePacks$Stuck" ∧ s.heap.size ≤ q ∧ (∃ wx, rg G q 1 (shX13 G.2.1) wx H ∧ gI wx 0 6 = re) ∧ rg G b0 43 (shX3 G.2.1) rw0 H ∧ H.size = s.heap.size + rc)) args s (bif rok then 0 else 1) (bif rok then 0 else 7) (FA (iv b0 43) s.heap.size)) (F0 m 155 ls []) := by
  intro n
  induction n with
  | zero => intro v0 zc i1 i2 j3 j5 i7 hm; exact (lq7_0 hm).elim
  | succ n ih => intro v0 zc i1 i2 j3 j5 i7 hm; exact w_fX3_pivot_155 C he0 hZ hgb0 ht ih v0 zc i1 i2 j3 j5 i7 (lq7_s hm)
set_option maxHeartbeats 4000000 in
theorem w_fX3_pivot_60 (C : Cx G p s m args meth c RX3 cX3_pivot 9 none) {b0 : Nat} {rok : Bool} {re : Int32} {rc : Nat} {rw0 : Mem} (he0 : b0 + 43 ≤ s.heap.size) (hZ : ZQ G) (hgb0 : gB G ≤ b0) (ht : ∀ x ∈ c.exceptionTable.toList, False) {k30 : Mem → Nat → Int32 → Int32 → Int64 → Int32 → Option (Bool × Int32 × Nat × Mem)} {k60 : Mem → Nat → Int32 → Int32 → Int64 → Int32 → Int64 → Int32 → Option (Bool × Int32 × Nat × Mem)} (hk30 : ∀ (v0 : Mem) (zc : Nat) (i1 : Int32) (i2 : Int32) (j3 : Int64) (i5 : Int32), k30 v0 zc i1 i2 j3 i5 = some (rok, re, rc, rw0) → ∀ (H : Heap) (locs : List Loc) (ls : Array Slot), rg G b0 43 (shX3 G.2.1) v0 H → va_S (FA (iv b0 43) s.heap.size) s.heap H locs → H.size = s.heap.size + zc → GO G H → lv_has ls 9 [(0, .ref b0), (1, .int i1), (2, .int i2), (3, .long j3), (5, .int i5)] → W p l e (rmT 4 (bif rok then 0 else 1) (bif rok then 0 else 7) 81) s m args below meth c H locs 0 0 (vx_MQ below (QcX rok (FA (iv b0 43) s.heap.size) (fun ov H => ov = none ∧ rg G b0 43 (shX3 G.2.1) rw0 H ∧ H.size = s.heap.size + rc)) (XcX rok (FA (iv b0 43) s.heap.size) (fun q E H => E = "WholePacks$Stuck" ∧ s.heap.size ≤ q ∧ (∃ wx, rg G q 1 (shX13 G.2.1) wx H ∧ gI wx 0 6 = re) ∧ rg G b0 43 (shX3 G.2.1) rw0 H ∧ H.size = s.heap.size + rc)) args s (bif rok then 0 else 1) (bif rok then 0 else 7) (FA (iv b0 43) s.heap.size)) (F0 m 30 ls [])) (hk60 : ∀ (v0 : Mem) (zc : Nat) (i1 : Int32) (i2 : Int32) (j3 : Int64) (i5 : Int32) (j6 : Int64) (i8 : Int32), k60 v0 zc i1 i2 j3 i5 j6 i8 = some (rok, re, rc, rw0) → ∀ (H : Heap) (locs : List Loc) (ls : Array Slot), rg G b0 43 (shX3 G.2.1) v0 H → va_S (FA (iv b0 43) s.heap.size) s.heap H locs → H.size = s.heap.size + zc → GO G H → lv_has ls 9 [(0, .ref b0), (1, .int i1), (2, .int i2), (3, .long j3), (5, .int i5), (6, .long j6), (8, .int i8)] → W p l e (rmT 4 (bif rok then 0 else 1) (bif rok then 0 else 7) 81) s m args below meth c H locs 0 0 (vx_MQ below (QcX rok (FA (iv b0 43) s.heap.size) (fun ov H => ov = none ∧ rg G b0 43 (shX3 G.2.1) rw0 H ∧ H.size = s.heap.size + rc)) (XcX rok (FA (iv b0 43) s.heap.size) (fun q E H => E = "WholePacks$Stuck" ∧ s.heap.size ≤ q ∧ (∃ wx, rg G q 1 (shX13 G.2.1) wx H ∧ gI wx 0 6 = re) ∧ rg G b0 43 (shX3 G.2.1) rw0 H ∧ H.size = s.heap.size + rc)) args s (bif rok then 0 else 1) (bif rok then 0 else 7) (FA (iv b0 43) s.heap.size)) (F0 m 60 ls [])) : ∀ (v0 : Mem) (zc : Nat) (i1 : Int32) (i2 : Int32) (j3 : Int64) (i5 : Int32) (j6 : Int64) (i8 : Int32), fX3_pivot_60 k30 k60 v0 zc i1 i2 j3 i5 j6 i8 = some (rok, re, rc, rw0) → ∀ (H : Heap) (locs : List Loc) (ls : Array Slot), rg G b0 43 (shX3 G.2.1) v0 H → va_S (FA (iv b0 43) s.heap.size) s.heap H locs → H.size = s.heap.size + zc → GO G H → lv_has ls 9 [(0, .ref b0), (1, .int i1), (2, .int i2), (3, .long j3), (5, .int i5), (6, .long j6), (8, .int i8)] → W p l e (rmT 4 (bif rok then 0 else 1) (bif rok then 0 else 7) 81) s m args below meth c H locs 0 0 (vx_MQ below (QcX rok (FA (iv b0 43) s.heap.size) (fun ov H => ov = none ∧ rg G b0 43 (shX3 G.2.1) rw0 H ∧ H.size = s.heap.size + rc)) (XcX rok (FA (iv b0 43) s.heap.size) (fun q E H => E = "WholePacks$Stuck" ∧ s.heap.size ≤ q ∧ (∃ wx, rg G q 1 (shX13 G.2.1) wx H ∧ gI wx 0 6 = re) ∧ rg G b0 43 (shX3 G.2.1) rw0 H ∧ H.size = s.heap.size + rc)) args s (bif rok then 0 else 1) (bif rok then 0 else 7) (FA (iv b0 43) s.heap.size)) (F0 m 60 ls []) := by
  intro v0 zc i1 i2 j3 i5 j6 i8 hm H locs ls hW0 hS hz hG hl
  obtain ⟨hx, hb, hr, hlk, hml, hown, hts, hK⟩ := id C
  unfold fX3_pivot_60 at hm
  refine lv_iload (pc := 60) hx hb dX3_pivot_60 (lv_at hl 6 rfl) ?_
  refine lv_aload_n (pc := 62) hx hb dX3_pivot_62 rfl (lv_at hl 0 rfl) ?_
  refine rk_get (pc := 63) hx hb hts hown hK hW0 flX3_44 0 (by decide) rfl rfl (x := .int (gI v0 0 0)) rfl dX3_pivot_63 ?_
  refine lv_icmp_ge (pc := 66) (tgt := 111) hx hb dX3_pivot_66 (by decide) (fun c33 => ?_) (fun c33 => ?_)
  · have hm := ite_t c33 hm
    refine lv_aload_n (pc := 111) hx hb dX3_pivot_111 rfl (lv_at hl 0 rfl) ?_
    refine rk_get (pc := 112) hx hb hts hown hK hW0 flX3_15 0 (by decide) rfl rfl (x := .ref (b0 + 2)) (by first | rfl | exact congrArg (fun z => some (Value.ref z)) (by omega)) dX3_pivot_112 ?_
    refine lv_iload (pc := 115) hx hb dX3_pivot_115 (lv_at hl 4 rfl) ?_
    refine lv_aload_n (pc := 117) hx hb dX3_pivot_117 rfl (lv_at hl 0 rfl) ?_
    refine lv_lload_n (pc := 118) hx hb dX3_pivot_118 rfl (lv_at hl 3 rfl) ?_
    refine lv_aload_n (pc := 119) hx hb dX3_pivot_119 rfl (lv_at hl 0 rfl) ?_
    refine rk_get (pc := 120) hx hb hts hown hK hW0 flX3_15 0 (by decide) rfl rfl (x := .ref (b0 + 2)) (by first | rfl | exact congrArg (fun z => some (Value.ref z)) (by omega)) dX3_pivot_120 ?_
    refine lv_iload (pc := 123) hx hb dX3_pivot_123 (lv_at hl 4 rfl) ?_
    obtain ⟨hg34, hm⟩ := gb_some hm
    refine rk_lald (pc := 125) hx hb hK hW0 2 (by decide) rfl rfl hg34 (x := (gL v0 2 i5.toNatClampNeg)) rfl dX3_pivot_125 ?_
    refine lv_lload (pc := 126) hx hb dX3_pivot_126 (lv_at hl 5 rfl) ?_
    refine lv_aload_n (pc := 128) hx hb dX3_pivot_128 rfl (lv_at hl 0 rfl) ?_
    refine rk_get (pc := 129) hx hb hts hown hK hW0 flX3_15 0 (by decide) rfl rfl (x := .ref (b0 + 2)) (by first | rfl | exact congrArg (fun z => some (Value.ref z)) (by omega)) dX3_pivot_129 ?_
    refine lv_iload_n (pc := 132) hx hb dX3_pivot_132 rfl (lv_at hl 1 rfl) ?_
    obtain ⟨hg35, hm⟩ := gb_some hm
    refine rk_lald (pc := 133) hx hb hK hW0 2 (by decide) rfl rfl hg35 (x := (gL v0 2 i1.toNatClampNeg)) rfl dX3_pivot_133 ?_
    obtain ⟨r36, hq37, hm⟩ := ob_some hm
    refine rk_PV (pc := 134) (As := [.long j3, .long (gL v0 2 i5.toNatClampNeg), .long j6, .long (gL v0 2 i1.toNatClampNeg)]) (rest := [.int i5, .ref (b0 + 2)]) hx hb hml hown hts hK lkX3_92 rfl yn_X3_mixed (ct_X3_mixed (G := G) (l := l) (b0 := b0) hq37) ⟨Nat.le_of_ble_eq_true rfl, Nat.le_of_ble_eq_true rfl⟩ (rk_recv hK hW0 0 (by decide) rfl rfl rfl) hW0 rfl rfl hl.1 (Nat.le_of_ble_eq_true rfl) dX3_pivot_134 ⟨Nat.zero_le _, Nat.zero_le _⟩ ?_
    refine W.eq (g2 := F0 m 137 ls [.long r36, .int i5, .ref (b0 + 2)]) rfl ?_
    obtain ⟨hg38, hm⟩ := gb_some hm
    refine rk_last (pc := 137) hx hb hK hW0 hS 2 (by decide) rfl (Or.inl (show iv _ _ _ from ⟨by omega, by omega⟩)) (fun _ _ _ => rfl) hg38 dX3_pivot_137 (fun H40 locs41 hW42 hS43 hz44 hkp45 => ?_)
    obtain ⟨v0_39, he9, hm⟩ := lm_some hm
    rw [he9] at hW42
    have hz46 := hz44.trans hz
    have hG47 := GO_keepq hG hkp45 (by omega)
    refine lv_iinc (pc := 138) (v := (i5 + (1 : Int32))) (lv' := [(5, .int (i5 + (1 : Int32))), (0, .ref b0), (1, .int i1), (2, .int i2), (3, .long j3), (6, .long j6), (8, .int i8)]) hx hb dX3_pivot_138 hl (k := 4) rfl rfl (by decide) rfl (fun ls hl => ?_)
    refine lv_goto (pc := 141) (tgt := 30) hx hb dX3_pivot_141 (by decide) ?_
    exact hk30 v0_39 zc i1 i2 j3 (i5 + (1 : Int32)) hm H40 locs41 ls hW42 hS43 hz46 hG47 (lv_sub hl [1, 2, 3, 4, 0] rfl)
  · have hm := ite_f c33 hm
    refine lv_iload (pc := 69) hx hb dX3_pivot_69 (lv_at hl 6 rfl) ?_
    refine lv_iload_n (pc := 71) hx hb dX3_pivot_71 rfl (lv_at hl 2 rfl) ?_
    refine lv_icmp_eq (pc := 72) (tgt := 105) hx hb dX3_pivot_72 (by decide) (fun c48 => ?_) (fun c48 => ?_)
    · have hm := ite_t c48 hm
      refine lv_iinc (pc := 105) (v := (i8 + (1 : Int32))) (lv' := [(8, .int (i8 + (1 : Int32))), (0, .ref b0), (1, .int i1), (2, .int i2), (3, .long j3), (5, .int i5), (6, .long j6)]) hx hb dX3_pivot_105 hl (k := 6) rfl rfl (by decide) rfl (fun ls hl => ?_)
      refine lv_goto (pc := 108) (tgt := 60) hx hb dX3_pivot_108 (by decide) ?_
      exact hk60 v0 zc i1 i2 j3 i5 j6 (i8 + (1 : Int32)) hm H locs ls hW0 hS hz hG (lv_sub hl [1, 2, 3, 4, 5, 6, 0] rfl)
    · have hm := ite_f c48 hm
      refine lv_aload_n (pc := 75) hx hb dX3_pivot_75 rfl (lv_at hl 0 rfl) ?_
      refine lv_iload (pc := 76) hx hb dX3_pivot_76 (lv_at hl 4 rfl) ?_
      refine lv_iload (pc := 78) hx hb dX3_pivot_78 (lv_at hl 6 rfl) ?_
      refine lv_aload_n (pc := 80) hx hb dX3_pivot_80 rfl (lv_at hl 0 rfl) ?_
      refine lv_lload_n (pc := 81) hx hb dX3_pivot_81 rfl (lv_at hl 3 rfl) ?_
      refine lv_aload_n (pc := 82) hx hb dX3_pivot_82 rfl (lv_at hl 0 rfl) ?_
      refine lv_iload (pc := 83) hx hb dX3_pivot_83 (lv_at hl 4 rfl) ?_
      refine lv_iload (pc := 85) hx hb dX3_pivot_85 (lv_at hl 6 rfl) ?_
      obtain ⟨r49, hq50, hm⟩ := ob_some hm
      refine rk_PV (pc := 87) (As := [.int i5, .int i8]) (rest := [.long j3, .ref b0, .int i8, .int i5, .ref b0]) hx hb hml hown hts hK lkX3_88 rfl yn_X3_entry (ct_X3_entry (G := G) (l := l) (b0 := b0) hq50) ⟨Nat.le_of_ble_eq_true rfl, Nat.le_of_ble_eq_true rfl⟩ (rk_recv hK hW0 0 (by decide) rfl rfl rfl) hW0 rfl rfl hl.1 (Nat.le_of_ble_eq_true rfl) dX3_pivot_87 ⟨Nat.zero_le _, Nat.zero_le _⟩ ?_
      refine W.eq (g2 := F0 m 90 ls [.long r49, .long j3, .ref b0, .int i8, .int i5, .ref b0]) rfl ?_
      refine lv_lload (pc := 90) hx hb dX3_pivot_90 (lv_at hl 5 rfl) ?_
      refine lv_aload_n (pc := 92) hx hb dX3_pivot_92 rfl (lv_at hl 0 rfl) ?_
      refine lv_iload_n (pc := 93) hx hb dX3_pivot_93 rfl (lv_at hl 1 rfl) ?_
      refine lv_iload (pc := 94) hx hb dX3_pivot_94 (lv_at hl 6 rfl) ?_
      obtain ⟨r51, hq52, hm⟩ := ob_some hm
      refine rk_PVb (pc := 96) (As := [.int i1, .int i8]) (rest := [.long j6, .long r49, .long j3, .ref b0, .int i8, .int i5, .ref b0]) hx hb hml hown hts hK lkX3_88 rfl yn_X3_entry (ct_X3_entry (G := G) (l := l) (b0 := b0) hq52) ⟨Nat.le_of_ble_eq_true rfl, Nat.le_of_ble_eq_true rfl⟩ (rk_recv hK hW0 0 (by decide) rfl rfl rfl) hW0 rfl rfl hl.1 (Nat.le_of_ble_eq_true rfl) dX3_pivot_96 ⟨Nat.zero_le _, Nat.zero_le _⟩ ?_
      refine W.eq (g2 := F0 m 99 ls [.long r51, .long j6, .long r49, .long j3, .ref b0, .int i8, .int i5, .ref b0]) rfl ?_
      obtain ⟨r53, hq54, hm⟩ := ob_some hm
      refine rk_PV (pc := 99) (As := [.long j3, .long r49, .long j6, .long r51]) (rest := [.int i8, .int i5, .ref b0]) hx hb hml hown hts hK lkX3_92 rfl yn_X3_mixed (ct_X3_mixed (G := G) (l := l) (b0 := b0) hq54) ⟨Nat.le_of_ble_eq_true rfl, Nat.le_of_ble_eq_true rfl⟩ (rk_recv hK hW0 0 (by decide) rfl rfl rfl) hW0 rfl rfl hl.1 (Nat.le_of_ble_eq_true rfl) dX3_pivot_99 ⟨Nat.zero_le _, Nat.zero_le _⟩ ?_
      refine W.eq (g2 := F0 m 102 ls [.long r53, .int i8, .int i5, .ref b0]) rfl ?_
      obtain ⟨w55, hq56, hm⟩ := ob_some hm
      refine rk_TV (pc := 102) (As := [.int i5, .int i8, .long r53]) (rest := []) (mc := 0) (ms := 0) hx hb hml hown hts hK hS (fun q hq => FA_sz rfl q hq) lkX3_82 rfl yn_X3_puts (ct_X3_puts (G := G) (l := l) (b0 := b0) (sz := H.size) hq56) ⟨Nat.le_of_ble_eq_true rfl, Nat.le_of_ble_eq_true rfl⟩ (fun z h => Or.inl (show iv _ _ _ from ⟨by have h8 := h.1; have h9 := h.2; omega, by have h8 := h.1; have h9 := h.2; omega⟩)) (rk_recv hK hW0 0 (by decide) rfl rfl rfl) hW0 rfl rfl hl.1 (Nat.le_of_ble_eq_true rfl) dX3_pivot_102 ⟨Nat.zero_le _, Nat.zero_le _⟩ (fun ov9 H57 locs58 hP59 hkp60 hS61 => ?_)
      obtain ⟨rfl, hW62, hz63⟩ := hP59
      have hG64 := GO_keepA hG hkp60 (Nat.le_trans (show gB G ≤ s.heap.size by omega) hS.1) (by intro z h3; have h8 := h3.1; have h9 := h3.2; omega)
      have hz65 := hz63.trans hz
      refine W.eq (g2 := F0 m 105 ls []) rfl ?_
      refine lv_iinc (pc := 105) (v := (i8 + (1 : Int32))) (lv' := [(8, .int (i8 + (1 : Int32))), (0, .ref b0), (1, .int i1), (2, .int i2), (3, .long j3), (5, .int i5), (6, .long j6)]) hx hb dX3_pivot_105 hl (k := 6) rfl rfl (by decide) rfl (fun ls hl => ?_)
      refine lv_goto (pc := 108) (tgt := 60) hx hb dX3_pivot_108 (by decide) ?_
      exact hk60 w55 zc i1 i2 j3 i5 j6 (i8 + (1 : Int32)) hm H57 locs58 ls hW62 hS61 hz65 hG64 (lv_sub hl [1, 2, 3, 4, 5, 6, 0] rfl)
theorem w_fX3_pivot_60_l (C : Cx G p s m args meth c RX3 cX3_pivot 9 none) {b0 : Nat} {rok : Bool} {re : Int32} {rc : Nat} {rw0 : Mem} (he0 : b0 + 43 ≤ s.heap.size) (hZ : ZQ G) (hgb0 : gB G ≤ b0) (ht : ∀ x ∈ c.exceptionTable.toList, False) {k30 : Mem → Nat → Int32 → Int32 → Int64 → Int32 → Option (Bool × Int32 × Nat × Mem)} (hk30 : ∀ (v0 : Mem) (zc : Nat) (i1 : Int32) (i2 : Int32) (j3 : Int64) (i5 : Int32), k30 v0 zc i1 i2 j3 i5 = some (rok, re, rc, rw0) → ∀ (H : Heap) (locs : List Loc) (ls : Array Slot), rg G b0 43 (shX3 G.2.1) v0 H → va_S (FA (iv b0 43) s.heap.size) s.heap H locs → H.size = s.heap.size + zc → GO G H → lv_has ls 9 [(0, .ref b0), (1, .int i1), (2, .int i2), (3, .long j3), (5, .int i5)] → W p l e (rmT 4 (bif rok then 0 else 1) (bif rok then 0 else 7) 81) s m args below meth c H locs 0 0 (vx_MQ below (QcX rok (FA (iv b0 43) s.heap.size) (fun ov H => ov = none ∧ rg G b0 43 (shX3 G.2.1) rw0 H ∧ H.size = s.heap.size + rc)) (XcX rok (FA (iv b0 43) s.heap.size) (fun q E H => E = "WholePacks$Stuck" ∧ s.heap.size ≤ q ∧ (∃ wx, rg G q 1 (shX13 G.2.1) wx H ∧ gI wx 0 6 = re) ∧ rg G b0 43 (shX3 G.2.1) rw0 H ∧ H.size = s.heap.size + rc)) args s (bif rok then 0 else 1) (bif rok then 0 else 7) (FA (iv b0 43) s.heap.size)) (F0 m 30 ls [])) : ∀ (n : Nat) (v0 : Mem) (zc : Nat) (i1 : Int32) (i2 : Int32) (j3 : Int64) (i5 : Int32) (j6 : Int64) (i8 : Int32), lq8 (fX3_pivot_60 k30) n v0 zc i1 i2 j3 i5 j6 i8 = some (rok, re, rc, rw0) → ∀ (H : Heap) (locs : List Loc) (ls : Array Slot), rg G b0 43 (shX3 G.2.1) v0 H → va_S (FA (iv b0 43) s.heap.size) s.heap H locs → H.size = s.heap.size + zc → GO G H → lv_has ls 9 [(0, .ref b0), (1, .int i1), (2, .int i2), (3, .long j3), (5, .int i5), (6, .long j6), (8, .int i8)] → W p l e (rmT 4 (bif rok then 0 else 1) (bif rok then 0 else 7) 81) s m args below meth c H locs 0 0 (vx_MQ below (QcX rok (FA (iv b0 43) s.heap.size) (fun ov H => ov = none ∧ rg G b0 43 (shX3 G.2.1) rw0 H ∧ H.size = s.heap.size + rc)) (XcX rok (FA (iv b0 43) s.heap.size) (fun q E H => E = "WholePacks$Stuck" ∧ s.heap.size ≤ q ∧ (∃ wx, rg G q 1 (shX13 G.2.1) wx H ∧ gI wx 0 6 = re) ∧ rg G b0 43 (shX3 G.2.1) rw0 H ∧ H.size = s.heap.size + rc)) args s (bif rok then 0 else 1) (bif rok then 0 else 7) (FA (iv b0 43) s.heap.size)) (F0 m 60 ls []) := by
  intro n
  induction n with
  | zero => intro v0 zc i1 i2 j3 i5 j6 i8 hm; exact (lq8_0 hm).elim
  | succ n ih => intro v0 zc i1 i2 j3 i5 j6 i8 hm; exact w_fX3_pivot_60 C he0 hZ hgb0 ht hk30 ih v0 zc i1 i2 j3 i5 j6 i8 (lq8_s hm)
set_option maxHeartbeats 4000000 in
theorem w_fX3_pivot_30 (C : Cx G p s m args meth c RX3 cX3_pivot 9 none) {b0 : Nat} {rok : Bool} {re : Int32} {rc : Nat} {rw0 : Mem} (he0 : b0 + 43 ≤ s.heap.size) (hZ : ZQ G) (hgb0 : gB G ≤ b0) (ht : ∀ x ∈ c.exceptionTable.toList, False) {k30 : Mem → Nat → Int32 → Int32 → Int64 → Int32 → Option (Bool × Int32 × Nat × Mem)} (hk30 : ∀ (v0 : Mem) (zc : Nat) (i1 : Int32) (i2 : Int32) (j3 : Int64) (i5 : Int32), k30 v0 zc i1 i2 j3 i5 = some (rok, re, rc, rw0) → ∀ (H : Heap) (locs : List Loc) (ls : Array Slot), rg G b0 43 (shX3 G.2.1) v0 H → va_S (FA (iv b0 43) s.heap.size) s.heap H locs → H.size = s.heap.size + zc → GO G H → lv_has ls 9 [(0, .ref b0), (1, .int i1), (2, .int i2), (3, .long j3), (5, .int i5)] → W p l e (rmT 4 (bif rok then 0 else 1) (bif rok then 0 else 7) 81) s m args below meth c H locs 0 0 (vx_MQ below (QcX rok (FA (iv b0 43) s.heap.size) (fun ov H => ov = none ∧ rg G b0 43 (shX3 G.2.1) rw0 H ∧ H.size = s.heap.size + rc)) (XcX rok (FA (iv b0 43) s.heap.size) (fun q E H => E = "WholePacks$Stuck" ∧ s.heap.size ≤ q ∧ (∃ wx, rg G q 1 (shX13 G.2.1) wx H ∧ gI wx 0 6 = re) ∧ rg G b0 43 (shX3 G.2.1) rw0 H ∧ H.size = s.heap.size + rc)) args s (bif rok then 0 else 1) (bif rok then 0 else 7) (FA (iv b0 43) s.heap.size)) (F0 m 30 ls [])) : ∀ (v0 : Mem) (zc : Nat) (i1 : Int32) (i2 : Int32) (j3 : Int64) (i5 : Int32), fX3_pivot_30 k30 v0 zc i1 i2 j3 i5 = some (rok, re, rc, rw0) → ∀ (H : Heap) (locs : List Loc) (ls : Array Slot), rg G b0 43 (shX3 G.2.1) v0 H → va_S (FA (iv b0 43) s.heap.size) s.heap H locs → H.size = s.heap.size + zc → GO G H → lv_has ls 9 [(0, .ref b0), (1, .int i1), (2, .int i2), (3, .long j3), (5, .int i5)] → W p l e (rmT 4 (bif rok then 0 else 1) (bif rok then 0 else 7) 81) s m args below meth c H locs 0 0 (vx_MQ below (QcX rok (FA (iv b0 43) s.heap.size) (fun ov H => ov = none ∧ rg G b0 43 (shX3 G.2.1) rw0 H ∧ H.size = s.heap.size + rc)) (XcX rok (FA (iv b0 43) s.heap.size) (fun q E H => E = "WholePacks$Stuck" ∧ s.heap.size ≤ q ∧ (∃ wx, rg G q 1 (shX13 G.2.1) wx H ∧ gI wx 0 6 = re) ∧ rg G b0 43 (shX3 G.2.1) rw0 H ∧ H.size = s.heap.size + rc)) args s (bif rok then 0 else 1) (bif rok then 0 else 7) (FA (iv b0 43) s.heap.size)) (F0 m 30 ls []) := by
  intro v0 zc i1 i2 j3 i5 hm H locs ls hW0 hS hz hG hl
  obtain ⟨hx, hb, hr, hlk, hml, hown, hts, hK⟩ := id C
  unfold fX3_pivot_30 at hm
  refine lv_iload (pc := 30) hx hb dX3_pivot_30 (lv_at hl 4 rfl) ?_
  refine lv_aload_n (pc := 32) hx hb dX3_pivot_32 rfl (lv_at hl 0 rfl) ?_
  refine rk_get (pc := 33) hx hb hts hown hK hW0 flX3_35 0 (by decide) rfl rfl (x := .int (gI v0 0 1)) rfl dX3_pivot_33 ?_
  refine lv_icmp_ge (pc := 36) (tgt := 144) hx hb dX3_pivot_36 (by decide) (fun c28 => ?_) (fun c28 => ?_)
  · have hm := ite_t c28 hm
    refine lv_aload_n (pc := 144) hx hb dX3_pivot_144 rfl (lv_at hl 0 rfl) ?_
    refine rk_get (pc := 145) hx hb hts hown hK hW0 flX3_18 0 (by decide) rfl rfl (x := .ref (b0 + 3)) (by first | rfl | exact congrArg (fun z => some (Value.ref z)) (by omega)) dX3_pivot_145 ?_
    refine lv_iload_n (pc := 148) hx hb dX3_pivot_148 rfl (lv_at hl 2 rfl) ?_
    obtain ⟨hg29, hm⟩ := gb_some hm
    refine rk_lald (pc := 149) hx hb hK hW0 3 (by decide) rfl rfl hg29 (x := (gL v0 3 i2.toNatClampNeg)) rfl dX3_pivot_149 ?_
    refine lv_lstore (pc := 150) (lv' := [(5, .long (gL v0 3 i2.toNatClampNeg)), (0, .ref b0), (1, .int i1), (2, .int i2), (3, .long j3)]) hx hb dX3_pivot_150 hl (by decide) rfl (fun ls hl => ?_)
    refine lv_iconst (pc := 152) (v := (0 : Int32)) hx hb dX3_pivot_152 (by decide) ?_
    refine lv_istore (pc := 153) (lv' := [(7, .int (0 : Int32)), (5, .long (gL v0 3 i2.toNatClampNeg)), (0, .ref b0), (1, .int i1), (2, .int i2), (3, .long j3)]) hx hb dX3_pivot_153 hl (by decide) rfl (fun ls hl => ?_)
    exact (w_fX3_pivot_155_l C he0 hZ hgb0 ht FU) v0 zc i1 i2 j3 (gL v0 3 i2.toNatClampNeg) (0 : Int32) hm H locs ls hW0 hS hz hG (lv_sub hl [2, 3, 4, 5, 1, 0] rfl)
  · have hm := ite_f c28 hm
    refine lv_aload_n (pc := 39) hx hb dX3_pivot_39 rfl (lv_at hl 0 rfl) ?_
    refine lv_iload (pc := 40) hx hb dX3_pivot_40 (lv_at hl 4 rfl) ?_
    refine lv_iload_n (pc := 42) hx hb dX3_pivot_42 rfl (lv_at hl 2 rfl) ?_
    obtain ⟨r30, hq31, hm⟩ := ob_some hm
    refine rk_PV (pc := 43) (As := [.int i5, .int i2]) (rest := []) hx hb hml hown hts hK lkX3_88 rfl yn_X3_entry (ct_X3_entry (G := G) (l := l) (b0 := b0) hq31) ⟨Nat.le_of_ble_eq_true rfl, Nat.le_of_ble_eq_true rfl⟩ (rk_recv hK hW0 0 (by decide) rfl rfl rfl) hW0 rfl rfl hl.1 (Nat.le_of_ble_eq_true rfl) dX3_pivot_43 ⟨Nat.zero_le _, Nat.zero_le _⟩ ?_
    refine W.eq (g2 := F0 m 46 ls [.long r30]) rfl ?_
    refine lv_lstore (pc := 46) (lv' := [(6, .long r30), (0, .ref b0), (1, .int i1), (2, .int i2), (3, .long j3), (5, .int i5)]) hx hb dX3_pivot_46 hl (by decide) rfl (fun ls hl => ?_)
    refine lv_iload (pc := 48) hx hb dX3_pivot_48 (lv_at hl 5 rfl) ?_
    refine lv_iload_n (pc := 50) hx hb dX3_pivot_50 rfl (lv_at hl 2 rfl) ?_
    refine lv_icmp_ne (pc := 51) (tgt := 57) hx hb dX3_pivot_51 (by decide) (fun c32 => ?_) (fun c32 => ?_)
    · have hm := ite_f c32 hm
      refine lv_iconst (pc := 57) (v := (0 : Int32)) hx hb dX3_pivot_57 (by decide) ?_
      refine lv_istore (pc := 58) (lv' := [(8, .int (0 : Int32)), (6, .long r30), (0, .ref b0), (1, .int i1), (2, .int i2), (3, .long j3), (5, .int i5)]) hx hb dX3_pivot_58 hl (by decide) rfl (fun ls hl => ?_)
      exact (w_fX3_pivot_60_l C he0 hZ hgb0 ht hk30 FU) v0 zc i1 i2 j3 i5 r30 (0 : Int32) hm H locs ls hW0 hS hz hG (lv_sub hl [2, 3, 4, 5, 6, 1, 0] rfl)
    · have hm := ite_t c32 hm
      refine lv_goto (pc := 54) (tgt := 138) hx hb dX3_pivot_54 (by decide) ?_
      refine lv_iinc (pc := 138) (v := (i5 + (1 : Int32))) (lv' := [(5, .int (i5 + (1 : Int32))), (6, .long r30), (0, .ref b0), (1, .int i1), (2, .int i2), (3, .long j3)]) hx hb dX3_pivot_138 hl (k := 5) rfl rfl (by decide) rfl (fun ls hl => ?_)
      refine lv_goto (pc := 141) (tgt := 30) hx hb dX3_pivot_141 (by decide) ?_
      exact hk30 v0 zc i1 i2 j3 (i5 + (1 : Int32)) hm H locs ls hW0 hS hz hG (lv_sub hl [2, 3, 4, 5, 0] rfl)
theorem w_fX3_pivot_30_l (C : Cx G p s m args meth c RX3 cX3_pivot 9 none) {b0 : Nat} {rok : Bool} {re : Int32} {rc : Nat} {rw0 : Mem} (he0 : b0 + 43 ≤ s.heap.size) (hZ : ZQ G) (hgb0 : gB G ≤ b0) (ht : ∀ x ∈ c.exceptionTable.toList, False) : ∀ (n : Nat) (v0 : Mem) (zc : Nat) (i1 : Int32) (i2 : Int32) (j3 : Int64) (i5 : Int32), lq6 (fX3_pivot_30) n v0 zc i1 i2 j3 i5 = some (rok, re, rc, rw0) → ∀ (H : Heap) (locs : List Loc) (ls : Array Slot), rg G b0 43 (shX3 G.2.1) v0 H → va_S (FA (iv b0 43) s.heap.size) s.heap H locs → H.size = s.heap.size + zc → GO G H → lv_has ls 9 [(0, .ref b0), (1, .int i1), (2, .int i2), (3, .long j3), (5, .int i5)] → W p l e (rmT 4 (bif rok then 0 else 1) (bif rok then 0 else 7) 81) s m args below meth c H locs 0 0 (vx_MQ below (QcX rok (FA (iv b0 43) s.heap.size) (fun ov H => ov = none ∧ rg G b0 43 (shX3 G.2.1) rw0 H ∧ H.size = s.heap.size + rc)) (XcX rok (FA (iv b0 43) s.heap.size) (fun q E H => E = "WholePacks$Stuck" ∧ s.heap.size ≤ q ∧ (∃ wx, rg G q 1 (shX13 G.2.1) wx H ∧ gI wx 0 6 = re) ∧ rg G b0 43 (shX3 G.2.1) rw0 H ∧ H.size = s.heap.size + rc)) args s (bif rok then 0 else 1) (bif rok then 0 else 7) (FA (iv b0 43) s.heap.size)) (F0 m 30 ls []) := by
  intro n
  induction n with
  | zero => intro v0 zc i1 i2 j3 i5 hm; exact (lq6_0 hm).elim
  | succ n ih => intro v0 zc i1 i2 j3 i5 hm; exact w_fX3_pivot_30 C he0 hZ hgb0 ht ih v0 zc i1 i2 j3 i5 (lq6_s hm)
set_option maxHeartbeats 4000000 in
theorem w_fX3_pivot (C : Cx G p s m args meth c RX3 cX3_pivot 9 none) {b0 : Nat} {rok : Bool} {re : Int32} {rc : Nat} {rw0 : Mem} (he0 : b0 + 43 ≤ s.heap.size) (hZ : ZQ G) (hgb0 : gB G ≤ b0) (ht : ∀ x ∈ c.exceptionTable.toList, False) : ∀ (v0 : Mem) (i1 : Int32) (i2 : Int32), fX3_pivot v0 i1 i2 = some (rok, re, rc, rw0) → ∀ (H : Heap) (locs : List Loc) (ls : Array Slot), rg G b0 43 (shX3 G.2.1) v0 H → va_S (FA (iv b0 43) s.heap.size) s.heap H locs → H.size = s.heap.size + 0 → GO G H → lv_has ls 9 [(0, .ref b0), (1, .int i1), (2, .int i2)] → W p l e (rmT 4 (bif rok then 0 else 1) (bif rok then 0 else 7) 81) s m args below meth c H locs 0 0 (vx_MQ below (QcX rok (FA (iv b0 43) s.heap.size) (fun ov H => ov = none ∧ rg G b0 43 (shX3 G.2.1) rw0 H ∧ H.size = s.heap.size + rc)) (XcX rok (FA (iv b0 43) s.heap.size) (fun q E H => E = "WholePacks$Stuck" ∧ s.heap.size ≤ q ∧ (∃ wx, rg G q 1 (shX13 G.2.1) wx H ∧ gI wx 0 6 = re) ∧ rg G b0 43 (shX3 G.2.1) rw0 H ∧ H.size = s.heap.size + rc)) args s (bif rok then 0 else 1) (bif rok then 0 else 7) (FA (iv b0 43) s.heap.size)) (F0 m 0 ls []) := by
  intro v0 i1 i2 hm H locs ls hW0 hS hz hG hl
  obtain ⟨hx, hb, hr, hlk, hml, hown, hts, hK⟩ := id C
  unfold fX3_pivot at hm
  refine lv_aload_n (pc := 0) hx hb dX3_pivot_0 rfl (lv_at hl 0 rfl) ?_
  refine lv_iload_n (pc := 1) hx hb dX3_pivot_1 rfl (lv_at hl 1 rfl) ?_
  refine lv_iload_n (pc := 2) hx hb dX3_pivot_2 rfl (lv_at hl 2 rfl) ?_
  obtain ⟨r1, hq2, hm⟩ := ob_some hm
  refine rk_PV (pc := 3) (As := [.int i1, .int i2]) (rest := []) hx hb hml hown hts hK lkX3_104 rfl yn_X3_staysSmall (ct_X3_staysSmall (G := G) (l := l) (b0 := b0) hq2) ⟨Nat.le_of_ble_eq_true rfl, Nat.le_of_ble_eq_true rfl⟩ (rk_recv hK hW0 0 (by decide) rfl rfl rfl) hW0 rfl rfl hl.1 (Nat.le_of_ble_eq_true rfl) dX3_pivot_3 ⟨Nat.zero_le _, Nat.zero_le _⟩ ?_
  refine W.eq (g2 := F0 m 6 ls [.int r1]) rfl ?_
  refine lv_if_ne (pc := 6) (tgt := 19) hx hb dX3_pivot_6 (by decide) (fun c3 => ?_) (fun c3 => ?_)
  · have hm := ite_f c3 hm
    refine lv_aload_n (pc := 19) hx hb dX3_pivot_19 rfl (lv_at hl 0 rfl) ?_
    refine lv_iload_n (pc := 20) hx hb dX3_pivot_20 rfl (lv_at hl 1 rfl) ?_
    refine lv_iload_n (pc := 21) hx hb dX3_pivot_21 rfl (lv_at hl 2 rfl) ?_
    obtain ⟨r4, hq5, hm⟩ := ob_some hm
    refine rk_PV (pc := 22) (As := [.int i1, .int i2]) (rest := []) hx hb hml hown hts hK lkX3_88 rfl yn_X3_entry (ct_X3_entry (G := G) (l := l) (b0 := b0) hq5) ⟨Nat.le_of_ble_eq_true rfl, Nat.le_of_ble_eq_true rfl⟩ (rk_recv hK hW0 0 (by decide) rfl rfl rfl) hW0 rfl rfl hl.1 (Nat.le_of_ble_eq_true rfl) dX3_pivot_22 ⟨Nat.zero_le _, Nat.zero_le _⟩ ?_
    refine W.eq (g2 := F0 m 25 ls [.long r4]) rfl ?_
    refine lv_lneg (pc := 25) hx hb dX3_pivot_25 ?_
    refine lv_lstore_n (pc := 26) (lv' := [(3, .long (-r4)), (0, .ref b0), (1, .int i1), (2, .int i2)]) hx hb dX3_pivot_26 rfl hl (by decide) rfl (fun ls hl => ?_)
    refine lv_iconst (pc := 27) (v := (0 : Int32)) hx hb dX3_pivot_27 (by decide) ?_
    refine lv_istore (pc := 28) (lv' := [(5, .int (0 : Int32)), (3, .long (-r4)), (0, .ref b0), (1, .int i1), (2, .int i2)]) hx hb dX3_pivot_28 hl (by decide) rfl (fun ls hl => ?_)
    exact (w_fX3_pivot_30_l C he0 hZ hgb0 ht FU) v0 0 i1 i2 (-r4) (0 : Int32) hm H locs ls hW0 hS hz hG (lv_sub hl [2, 3, 4, 1, 0] rfl)
  · have hm := ite_t c3 hm
    obtain ⟨h6, hh6⟩ : ∃ h, H.size = h := ⟨_, rfl⟩
    have hqh6 : s.heap.size ≤ h6 := Nat.le_trans hS.1 (Nat.le_of_eq hh6)
    have hok9 : false = rok := (by exact (rs4 hm).1)
    subst hok9
    refine rk_new (pc := 9) (h := h6) (sh := (shX13 G.2.1)) hx hb hts hown hK hS in_X13 ft_X13 rfl q776 q817 q135 hh6 rfl (df_X13 _ rfl) (Nat.le_of_ble_eq_true rfl) (Nat.le_of_ble_eq_true rfl) dX3_pivot_9 (fun H7 hW9 hS10 hz11 hkp12 => ?_)
    have hW13 := rg_keepN hW0 hh6 hkp12
    have hz14 : H7.size = s.heap.size + 1 := by omega
    have hG15 := GO_keepN hG (by omega) hkp12
    refine lv_dup (pc := 12) hx hb dX3_pivot_12 rfl ?_
    refine lv_bipush (pc := 13) (v := (-6 : Int32)) hx hb dX3_pivot_13 (by decide) ?_
    refine rk_TI (pc := 15) (As := [.int (-6 : Int32)]) (rest := [.ref h6]) (mc := 0) (ms := 0) hx hb hml hown hts hK hS10 (fun q hq => FA_sz rfl q hq) lkX3_110 yn_X13_init (ct_X13_init (G := G) (l := l) (b0 := h6) (v0 := mz) (i1 := (-6 : Int32)) (sz := H7.size) hZ (by omega)) ⟨Nat.le_of_ble_eq_true rfl, Nat.le_of_ble_eq_true rfl⟩ (fun z h9 => Or.inr (show s.heap.size ≤ z by have := h9.1; omega)) ⟨hW9, hG15⟩ rfl rfl hl.1 (Nat.le_of_ble_eq_true rfl) dX3_pivot_15 ⟨Nat.le_of_ble_eq_true rfl, Nat.le_of_ble_eq_true rfl⟩ (fun ov9 H16 locs17 hP18 hkp19 hS20 => ?_)
    obtain ⟨rfl, ⟨wx21, hW22, hre23⟩, hz24⟩ := hP18
    have hW25 := rg_keepA hW13 hkp19 (by intro z h1 h2 h3; have h8 := h3.1; have h9 := h3.2; omega)
    have hG26 := GO_keepA hG15 hkp19 (Nat.le_trans (show gB G ≤ s.heap.size by omega) hS10.1) (by intro z h3; have h8 := h3.1; have h9 := h3.2; omega)
    have hz27 := hz24.trans hz14
    refine W.eq (g2 := F0 m 18 ls [.ref h6]) rfl ?_
    refine vx_athrow (pc := 18) hx hb dX3_pivot_18 ?_
    obtain ⟨ce8, hce8, hcv8, hcl8⟩ := rk_exc hK hW22 rfl rfl
    obtain ⟨e6, e7, e8, e9⟩ := rs4 hm
    cases e6
    subst e7
    subst e8
    subst e9
    exact rk_xout (fun x h => (ht x h).elim) hlk hS20 hce8 hcv8 hcl8 ⟨rfl, hqh6, ⟨_, hW22, hre23⟩, hW25, hz27⟩ (by exact Nat.le_of_ble_eq_true rfl) (by exact Nat.le_of_ble_eq_true rfl)
set_option maxHeartbeats 4000000 in
theorem ct_X3_pivot {G : Gv} {l : Launch} {b0 : Nat} {v0 : Mem} {i1 : Int32} {i2 : Int32} {rok : Bool} {re : Int32} {rc : Nat} {rw0 : Mem} {sz : Nat} (hm : fX3_pivot v0 i1 i2 = some (rok, re, rc, rw0)) (hZ : ZQ G) (hgb0 : gB G ≤ b0) : CX G l yX3_pivot (ws_ yX3_pivot cX3_pivot 9 none) 4 (bif rok then 0 else 1) (bif rok then 0 else 7) 81 [.ref b0, .int i1, .int i2] (iv b0 43) sz (fun H => rg G b0 43 (shX3 G.2.1) v0 H ∧ GO G H) rok (fun ov H => ov = none ∧ rg G b0 43 (shX3 G.2.1) rw0 H ∧ H.size = sz + rc) (fun q E H => E = "WholePacks$Stuck" ∧ sz ≤ q ∧ (∃ wx, rg G q 1 (shX13 G.2.1) wx H ∧ gI wx 0 6 = re) ∧ rg G b0 43 (shX3 G.2.1) rw0 H ∧ H.size = sz + rc) := by
  refine vx_ofW (cc := cX3_pivot) (maxL := 9) (ret := none) (by decide +kernel) rfl ?_
  intro p e s m args below meth c s₁ B hml ht hv
  obtain ⟨rfl, ⟨hz, hW0, hG⟩, hK⟩ := hv
  subst hz
  have he0 := rg_end hW0 42 (by decide) rfl (fun _ _ _ => rfl)
  have hts := atoms_spec (ws := ws_ yX3_pivot cX3_pivot 9 none) B.pre
  have hts : ∀ w ∈ lw_all, w.before _ s = true := fun w h => hts w (List.mem_cons_of_mem _ h)
  have C : Cx G p s m _ meth c RX3 cX3_pivot 9 none := ⟨B.exec, B.bytes, B.returns, B.notSynchronized, hml, findClass_of_methodNamed B.named, hts, hK⟩
  have hl := lv_entry ([.ref b0, .int i1, .int i2]) (n := 9) (Nat.le_of_ble_eq_true rfl)
  rw [lg_entry_eq]
  generalize (lg_sl ([.ref b0, .int i1, .int i2]) ++ List.replicate (9 - (lg_sl ([.ref b0, .int i1, .int i2])).length) Slot.unset).toArray = ls at hl ⊢
  have hl : lv_has ls 9 [(0, .ref b0), (1, .int i1), (2, .int i2)] := hl
  exact w_fX3_pivot C he0 hZ hgb0 ht _ _ _ hm s.heap [] ls hW0 va_S.rf rfl hG hl
end
