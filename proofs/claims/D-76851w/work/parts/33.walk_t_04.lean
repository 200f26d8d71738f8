set_option maxRecDepth 100000
section
variable {p : Program} {l : Launch} {e : Env} {s : State} {m : MethodId} {args : Array Value} {below : List Frame} {meth : Method} {c : Code} {G : Gv}
noncomputable def fX3_rise_2 (V0 : Mem) (k2 : Int32 → Int32 → Option (Int64)) (i1 : Int32) (i2 : Int32) : Option (Int64) :=
  if (gI V0 0 0) ≤ i2 then (
  some (0 : Int64))
  else (
  gb (inR i2 5) (
  if (gI V0 5 i2.toNatClampNeg) = i1 then (
  gb (inR i2 5) (
  some (gL V0 3 i2.toNatClampNeg)))
  else (
  k2 i1 (i2 + (1 : Int32)))))
noncomputable def fX3_rise (V0 : Mem) (i1 : Int32) : Option (Int64) :=
  lq2 (fX3_rise_2 V0) FU i1 (0 : Int32)
set_option maxHeartbeats 4000000 in
theorem w_fX3_rise_2 (C : Cx G p s m args meth c RX3 cX3_rise 3 (some .long)) {b0 : Nat} {V0 : Mem} {rx : Int64} (hW0 : rg G b0 43 (shX3 G.2.1) V0 s.heap) {k2 : Int32 → Int32 → Option (Int64)} (hk2 : ∀ (i1 : Int32) (i2 : Int32), k2 i1 i2 = some rx → ∀ (ls : Array Slot), lv_has ls 3 [(0, .ref b0), (1, .int i1), (2, .int i2)] → W p l e (rmP 0 0) s m args below meth c s.heap [] 0 0 (MQ below (QcP (some (.long rx))) args s 0 0 (fun _ => False)) (F0 m 2 ls [])) : ∀ (i1 : Int32) (i2 : Int32), fX3_rise_2 V0 k2 i1 i2 = some rx → ∀ (ls : Array Slot), lv_has ls 3 [(0, .ref b0), (1, .int i1), (2, .int i2)] → W p l e (rmP 0 0) s m args below meth c s.heap [] 0 0 (MQ below (QcP (some (.long rx))) args s 0 0 (fun _ => False)) (F0 m 2 ls []) := by
  intro i1 i2 hm ls hl
  obtain ⟨hx, hb, hr, hlk, hml, hown, hts, hK⟩ := id C
  unfold fX3_rise_2 at hm
  refine lv_iload_n (pc := 2) hx hb dX3_rise_2 rfl (lv_at hl 2 rfl) ?_
  refine lv_aload_n (pc := 3) hx hb dX3_rise_3 rfl (lv_at hl 0 rfl) ?_
  refine rk_get (pc := 4) hx hb hts hown hK hW0 flX3_44 0 (by decide) rfl rfl (x := .int (gI V0 0 0)) rfl dX3_rise_4 ?_
  refine lv_icmp_ge (pc := 7) (tgt := 33) hx hb dX3_rise_7 (by decide) (fun c1 => ?_) (fun c1 => ?_)
  · have hm := ite_t c1 hm
    refine lv_lconst (pc := 33) (v := (0 : Int64)) hx hb dX3_rise_33 (by decide) ?_
    have e9 := rs1 hm
    subst e9
    exact rk_lretP (pc := 34) hx hb hr hlk rfl dX3_rise_34
  · have hm := ite_f c1 hm
    refine lv_aload_n (pc := 10) hx hb dX3_rise_10 rfl (lv_at hl 0 rfl) ?_
    refine rk_get (pc := 11) hx hb hts hown hK hW0 flX3_25 0 (by decide) rfl rfl (x := .ref (b0 + 5)) (by first | rfl | exact congrArg (fun z => some (Value.ref z)) (by omega)) dX3_rise_11 ?_
    refine lv_iload_n (pc := 14) hx hb dX3_rise_14 rfl (lv_at hl 2 rfl) ?_
    obtain ⟨hg2, hm⟩ := gb_some hm
    refine rk_iald (pc := 15) hx hb hK hW0 5 (by decide) rfl rfl hg2 (x := (gI V0 5 i2.toNatClampNeg)) rfl dX3_rise_15 ?_
    refine lv_iload_n (pc := 16) hx hb dX3_rise_16 rfl (lv_at hl 1 rfl) ?_
    refine lv_icmp_ne (pc := 17) (tgt := 27) hx hb dX3_rise_17 (by decide) (fun c3 => ?_) (fun c3 => ?_)
    · have hm := ite_f c3 hm
      refine lv_iinc (pc := 27) (v := (i2 + (1 : Int32))) (lv' := [(2, .int (i2 + (1 : Int32))), (0, .ref b0), (1, .int i1)]) hx hb dX3_rise_27 hl (k := 2) rfl rfl (by decide) rfl (fun ls hl => ?_)
      refine lv_goto (pc := 30) (tgt := 2) hx hb dX3_rise_30 (by decide) ?_
      exact hk2 i1 (i2 + (1 : Int32)) hm ls (lv_sub hl [1, 2, 0] rfl)
    · have hm := ite_t c3 hm
      refine lv_aload_n (pc := 20) hx hb dX3_rise_20 rfl (lv_at hl 0 rfl) ?_
      refine rk_get (pc := 21) hx hb hts hown hK hW0 flX3_18 0 (by decide) rfl rfl (x := .ref (b0 + 3)) (by first | rfl | exact congrArg (fun z => some (Value.ref z)) (by omega)) dX3_rise_21 ?_
      refine lv_iload_n (pc := 24) hx hb dX3_rise_24 rfl (lv_at hl 2 rfl) ?_
      obtain ⟨hg4, hm⟩ := gb_some hm
      refine rk_lald (pc := 25) hx hb hK hW0 3 (by decide) rfl rfl hg4 (x := (gL V0 3 i2.toNatClampNeg)) rfl dX3_rise_25 ?_
      have e9 := rs1 hm
      subst e9
      exact rk_lretP (pc := 26) hx hb hr hlk rfl dX3_rise_26
theorem w_fX3_rise_2_l (C : Cx G p s m args meth c RX3 cX3_rise 3 (some .long)) {b0 : Nat} {V0 : Mem} {rx : Int64} (hW0 : rg G b0 43 (shX3 G.2.1) V0 s.heap) : ∀ (n : Nat) (i1 : Int32) (i2 : Int32), lq2 (fX3_rise_2 V0) n i1 i2 = some rx → ∀ (ls : Array Slot), lv_has ls 3 [(0, .ref b0), (1, .int i1), (2, .int i2)] → W p l e (rmP 0 0) s m args below meth c s.heap [] 0 0 (MQ below (QcP (some (.long rx))) args s 0 0 (fun _ => False)) (F0 m 2 ls []) := by
  intro n
  induction n with
  | zero => intro i1 i2 hm; exact (lq2_0 hm).elim
  | succ n ih => intro i1 i2 hm; exact w_fX3_rise_2 C hW0 ih i1 i2 (lq2_s hm)
set_option maxHeartbeats 4000000 in
theorem w_fX3_rise (C : Cx G p s m args meth c RX3 cX3_rise 3 (some .long)) {b0 : Nat} {V0 : Mem} {rx : Int64} (hW0 : rg G b0 43 (shX3 G.2.1) V0 s.heap) : ∀ (i1 : Int32), fX3_rise V0 i1 = some rx → ∀ (ls : Array Slot), lv_has ls 3 [(0, .ref b0), (1, .int i1)] → W p l e (rmP 0 0) s m args below meth c s.heap [] 0 0 (MQ below (QcP (some (.long rx))) args s 0 0 (fun _ => False)) (F0 m 0 ls []) := by
  intro i1 hm ls hl
  obtain ⟨hx, hb, hr, hlk, hml, hown, hts, hK⟩ := id C
  unfold fX3_rise at hm
  refine lv_iconst (pc := 0) (v := (0 : Int32)) hx hb dX3_rise_0 (by decide) ?_
  refine lv_istore_n (pc := 1) (lv' := [(2, .int (0 : Int32)), (0, .ref b0), (1, .int i1)]) hx hb dX3_rise_1 rfl hl (by decide) rfl (fun ls hl => ?_)
  exact (w_fX3_rise_2_l C hW0 FU) i1 (0 : Int32) hm ls (lv_sub hl [1, 2, 0] rfl)
set_option maxHeartbeats 4000000 in
theorem ct_X3_rise {G : Gv} {l : Launch} {b0 : Nat} {V0 : Mem} {i1 : Int32} {rx : Int64} (hm : fX3_rise V0 i1 = some rx) : CP G l yX3_rise (ws_ yX3_rise cX3_rise 3 (some .long)) 0 0 [.ref b0, .int i1] (fun H => rg G b0 43 (shX3 G.2.1) V0 H) (some (.long rx)) := by
  refine Met.ofW (cc := cX3_rise) (maxL := 3) (ret := (some .long)) (by decide +kernel) rfl ?_
  intro p e s m args below meth c s₁ B hml hv
  obtain ⟨rfl, hW0, hK⟩ := hv
  have hts := atoms_spec (ws := ws_ yX3_rise cX3_rise 3 (some .long)) B.pre
  have hts : ∀ w ∈ lw_all, w.before _ s = true := fun w h => hts w (List.mem_cons_of_mem _ h)
  have C : Cx G p s m _ meth c RX3 cX3_rise 3 (some .long) := ⟨B.exec, B.bytes, B.returns, B.notSynchronized, hml, findClass_of_methodNamed B.named, hts, hK⟩
  have hl := lv_entry ([.ref b0, .int i1]) (n := 3) (Nat.le_of_ble_eq_true rfl)
  rw [lg_entry_eq]
  generalize (lg_sl ([.ref b0, .int i1]) ++ List.replicate (3 - (lg_sl ([.ref b0, .int i1])).length) Slot.unset).toArray = ls at hl ⊢
  have hl : lv_has ls 3 [(0, .ref b0), (1, .int i1)] := hl
  exact w_fX3_rise C hW0 _ hm ls hl
theorem yn_X3_solves : YN yX3_solves 2 := by
  unfold YN
  decide +kernel
theorem lkX3_186 : LVW RX3 186 RX3 yX3_solves cX3_solves 4 (some .int) [(5, 28, 49, 108), (29, 48, 49, 108)] := ⟨q1295, q773, q774, q117, q775⟩
noncomputable def fX3_worth (V1 : Mem) (v0 : Mem) : Option (Int32 × Mem) :=
  ob2 (fX3_solves V1 v0 (12 : Int32)) fun r1 w2 =>
  if r1 = (1 : Int32) then (
  gb (nz64 (gL w2 0 4)) (
  some (((gL w2 0 5) / (gL w2 0 4)).toInt32, w2)))
  else (
  if r1 = 0 then (
  some ((-5 : Int32), w2))
  else (
  some ((-6 : Int32), w2)))
set_option maxHeartbeats 4000000 in
theorem w_fX3_worth (C : Cx G p s m args meth c RX3 cX3_worth 3 (some .int)) {b0 : Nat} {b1 : Nat} {V1 : Mem} {rx : Int32} {rw0 : Mem} (hd01 : b0 + 43 ≤ b1 ∨ b1 + 22 ≤ b0) (he0 : b0 + 43 ≤ s.heap.size) (he1 : b1 + 22 ≤ s.heap.size) (hZ : ZQ G) (hgb0 : gB G ≤ b0) (hgb1 : gB G ≤ b1) : ∀ (v0 : Mem), fX3_worth V1 v0 = some (rx, rw0) → ∀ (H : Heap) (locs : List Loc) (ls : Array Slot), rg G b0 43 (shX3 G.2.1) v0 H → rg G b1 22 (shX1 G.2.1) V1 H → va_S (FA (iv b0 43) s.heap.size) s.heap H locs → GO G H → lv_has ls 3 [(0, .ref b0), (1, .ref b1)] → W p l e (rmT 7 1 7 154) s m args below meth c H locs 0 0 (MQ below (QcT (FA (iv b0 43) s.heap.size) (fun ov H => ov = (some (.int rx)) ∧ rg G b0 43 (shX3 G.2.1) rw0 H)) args s 1 7 (FA (iv b0 43) s.heap.size)) (F0 m 0 ls []) := by
  intro v0 hm H locs ls hW0 hW1 hS hG hl
  obtain ⟨hx, hb, hr, hlk, hml, hown, hts, hK⟩ := id C
  unfold fX3_worth at hm
  refine lv_aload_n (pc := 0) hx hb dX3_worth_0 rfl (lv_at hl 0 rfl) ?_
  refine lv_aload_n (pc := 1) hx hb dX3_worth_1 rfl (lv_at hl 1 rfl) ?_
  refine lv_bipush (pc := 2) (v := (12 : Int32)) hx hb dX3_worth_2 (by decide) ?_
  obtain ⟨r1, w2, hq3, hm⟩ := ob2_some hm
  refine rk_TVW (pc := 4) (As := [.ref b1, .int (12 : Int32)]) (rest := []) (mc := 1) (ms := 7) hx hb hml hown hts hK hS (fun q hq => FA_sz rfl q hq) lkX3_186 rfl yn_X3_solves (ct_X3_solves (G := G) (l := l) (b0 := b0) (b1 := b1) (sz := H.size) hq3 (by omega) hZ (by omega) (by omega)) ⟨Nat.le_of_ble_eq_true rfl, Nat.le_of_ble_eq_true rfl⟩ (fun z h => Or.inl (show iv _ _ _ from ⟨by have h8 := h.1; have h9 := h.2; omega, by have h8 := h.1; have h9 := h.2; omega⟩)) (rk_recv hK hW0 0 (by decide) rfl rfl rfl) ⟨hW0, hW1, hG⟩ rfl rfl hl.1 (Nat.le_of_ble_eq_true rfl) dX3_worth_4 ⟨Nat.le_of_ble_eq_true rfl, Nat.le_of_ble_eq_true rfl⟩ (fun ov9 H4 locs5 hP6 hkp7 hS8 => ?_)
  obtain ⟨rfl, hW9⟩ := hP6
  have hW10 := rg_keepA hW1 hkp7 (by intro z h1 h2 h3; have h8 := h3.1; have h9 := h3.2; omega)
  have hG11 := GO_keepA hG hkp7 (Nat.le_trans (show gB G ≤ s.heap.size by omega) hS.1) (by intro z h3; have h8 := h3.1; have h9 := h3.2; omega)
  refine W.eq (g2 := F0 m 7 ls [.int r1]) rfl ?_
  refine lv_istore_n (pc := 7) (lv' := [(2, .int r1), (0, .ref b0), (1, .ref b1)]) hx hb dX3_worth_7 rfl hl (by decide) rfl (fun ls hl => ?_)
  refine lv_iload_n (pc := 8) hx hb dX3_worth_8 rfl (lv_at hl 0 rfl) ?_
  refine lv_iconst (pc := 9) (v := (1 : Int32)) hx hb dX3_worth_9 (by decide) ?_
  refine lv_icmp_ne (pc := 10) (tgt := 26) hx hb dX3_worth_10 (by decide) (fun c12 => ?_) (fun c12 => ?_)
  · have hm := ite_f c12 hm
    refine lv_iload_n (pc := 26) hx hb dX3_worth_26 rfl (lv_at hl 0 rfl) ?_
    refine lv_if_ne (pc := 27) (tgt := 35) hx hb dX3_worth_27 (by decide) (fun c13 => ?_) (fun c13 => ?_)
    · have hm := ite_f c13 hm
      refine lv_bipush (pc := 35) (v := (-6 : Int32)) hx hb dX3_worth_35 (by decide) ?_
      obtain ⟨e8, e9⟩ := rs2 hm
      subst e8
      subst e9
      exact rk_iretA (pc := 37) hx hb hr hlk hS8 ⟨rfl, hW9⟩ dX3_worth_37 (by exact Nat.le_of_ble_eq_true rfl) (by exact Nat.le_of_ble_eq_true rfl)
    · have hm := ite_t c13 hm
      refine lv_bipush (pc := 30) (v := (-5 : Int32)) hx hb dX3_worth_30 (by decide) ?_
      refine lv_goto (pc := 32) (tgt := 37) hx hb dX3_worth_32 (by decide) ?_
      obtain ⟨e8, e9⟩ := rs2 hm
      subst e8
      subst e9
      exact rk_iretA (pc := 37) hx hb hr hlk hS8 ⟨rfl, hW9⟩ dX3_worth_37 (by exact Nat.le_of_ble_eq_true rfl) (by exact Nat.le_of_ble_eq_true rfl)
  · have hm := ite_t c12 hm
    refine lv_aload_n (pc := 13) hx hb dX3_worth_13 rfl (lv_at hl 1 rfl) ?_
    refine rk_get (pc := 14) hx hb hts hown hK hW9 flX3_55 0 (by decide) rfl rfl (x := .long (gL w2 0 5)) rfl dX3_worth_14 ?_
    refine lv_aload_n (pc := 17) hx hb dX3_worth_17 rfl (lv_at hl 1 rfl) ?_
    refine rk_get (pc := 18) hx hb hts hown hK hW9 flX3_51 0 (by decide) rfl rfl (x := .long (gL w2 0 4)) rfl dX3_worth_18 ?_
    obtain ⟨hg14, hm⟩ := gb_some hm
    refine lv_ldiv (pc := 21) hx hb dX3_worth_21 (nz64_ne hg14) ?_
    refine lv_l2i (pc := 22) hx hb dX3_worth_22 rfl ?_
    refine lv_goto (pc := 23) (tgt := 37) hx hb dX3_worth_23 (by decide) ?_
    obtain ⟨e8, e9⟩ := rs2 hm
    subst e8
    subst e9
    exact rk_iretA (pc := 37) hx hb hr hlk hS8 ⟨rfl, hW9⟩ dX3_worth_37 (by exact Nat.le_of_ble_eq_true rfl) (by exact Nat.le_of_ble_eq_true rfl)
set_option maxHeartbeats 4000000 in
theorem ct_X3_worth {G : Gv} {l : Launch} {b0 : Nat} {b1 : Nat} {V1 : Mem} {v0 : Mem} {rx : Int32} {rw0 : Mem} {sz : Nat} (hm : fX3_worth V1 v0 = some (rx, rw0)) (hd01 : b0 + 43 ≤ b1 ∨ b1 + 22 ≤ b0) (hZ : ZQ G) (hgb0 : gB G ≤ b0) (hgb1 : gB G ≤ b1) : CT G l yX3_worth (ws_ yX3_worth cX3_worth 3 (some .int)) 7 1 7 154 [.ref b0, .ref b1] (iv b0 43) sz (fun H => rg G b0 43 (shX3 G.2.1) v0 H ∧ rg G b1 22 (shX1 G.2.1) V1 H ∧ GO G H) (fun ov H => ov = (some (.int rx)) ∧ rg G b0 43 (shX3 G.2.1) rw0 H) := by
  refine Met.ofW (cc := cX3_worth) (maxL := 3) (ret := (some .int)) (by decide +kernel) rfl ?_
  intro p e s m args below meth c s₁ B hml hv
  obtain ⟨rfl, ⟨hz, hW0, hW1, hG⟩, hK⟩ := hv
  subst hz
  have he0 := rg_end hW0 42 (by decide) rfl (fun _ _ _ => rfl)
  have he1 := rg_end hW1 21 (by decide) rfl (fun _ _ _ => rfl)
  have hts := atoms_spec (ws := ws_ yX3_worth cX3_worth 3 (some .int)) B.pre
  have hts : ∀ w ∈ lw_all, w.before _ s = true := fun w h => hts w (List.mem_cons_of_mem _ h)
  have C : Cx G p s m _ meth c RX3 cX3_worth 3 (some .int) := ⟨B.exec, B.bytes, B.returns, B.notSynchronized, hml, findClass_of_methodNamed B.named, hts, hK⟩
  have hl := lv_entry ([.ref b0, .ref b1]) (n := 3) (Nat.le_of_ble_eq_true rfl)
  rw [lg_entry_eq]
  generalize (lg_sl ([.ref b0, .ref b1]) ++ List.replicate (3 - (lg_sl ([.ref b0, .ref b1])).length) Slot.unset).toArray = ls at hl ⊢
  have hl : lv_has ls 3 [(0, .ref b0), (1, .ref b1)] := hl
  exact w_fX3_worth C hd01 he0 he1 hZ hgb0 hgb1 _ hm s.heap [] ls hW0 hW1 va_S.rf hG hl
end
