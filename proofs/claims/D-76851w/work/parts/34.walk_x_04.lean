set_option maxRecDepth 100000
section
variable {p : Program} {l : Launch} {e : Env} {s : State} {m : MethodId} {args : Array Value} {below : List Frame} {meth : Method} {c : Code} {G : Gv}
noncomputable def fX0_isSeen_2 (V0 : Mem) (k2 : Int32 → Option (Int32)) (i1 : Int32) : Option (Int32) :=
  if (gI V0 1 4) ≤ i1 then (
  some (1 : Int32))
  else (
  gb (inR ((2 : Int32) * i1) 10) (
  ob (fX3_right (shf V0 110) (gI V0 5 ((2 : Int32) * i1).toNatClampNeg)) fun r3 =>
  gb (inR (((2 : Int32) * i1) + (1 : Int32)) 10) (
  if r3 = ((gI V0 5 (((2 : Int32) * i1) + (1 : Int32)).toNatClampNeg).toInt64 * (gL V0 110 4)) then (
  k2 (i1 + (1 : Int32)))
  else (
  some (0 : Int32)))))
noncomputable def fX0_isSeen (V0 : Mem) : Option (Int32) :=
  lq1 (fX0_isSeen_2 V0) FU (0 : Int32)
set_option maxHeartbeats 4000000 in
theorem w_fX0_isSeen_2 (C : Cx G p s m args meth c RX0 cX0_isSeen 2 (some .boolean)) {b0 : Nat} {V0 : Mem} {rx : Int32} (hW0 : rg G b0 357 (shX0 G.2.1) V0 s.heap) {k2 : Int32 → Option (Int32)} (hk2 : ∀ (i1 : Int32), k2 i1 = some rx → ∀ (ls : Array Slot), lv_has ls 2 [(0, .ref b0), (1, .int i1)] → W p l e (rmP 2 44) s m args below meth c s.heap [] 0 0 (MQ below (QcP (some (.int rx))) args s 0 0 (fun _ => False)) (F0 m 2 ls [])) : ∀ (i1 : Int32), fX0_isSeen_2 V0 k2 i1 = some rx → ∀ (ls : Array Slot), lv_has ls 2 [(0, .ref b0), (1, .int i1)] → W p l e (rmP 2 44) s m args below meth c s.heap [] 0 0 (MQ below (QcP (some (.int rx))) args s 0 0 (fun _ => False)) (F0 m 2 ls []) := by
  intro i1 hm ls hl
  obtain ⟨hx, hb, hr, hlk, hml, hown, hts, hK⟩ := id C
  unfold fX0_isSeen_2 at hm
  refine lv_iload_n (pc := 2) hx hb dX0_isSeen_2 rfl (lv_at hl 1 rfl) ?_
  refine lv_aload_n (pc := 3) hx hb dX0_isSeen_3 rfl (lv_at hl 0 rfl) ?_
  refine rk_get (pc := 4) hx hb hts hown hK hW0 flX0_12 0 (by decide) rfl rfl (x := .ref (b0 + 1)) (by first | rfl | exact congrArg (fun z => some (Value.ref z)) (by omega)) dX0_isSeen_4 ?_
  refine rk_getN (pc := 7) hx hb hts hown hK hW0 fnX0_476 1 (by decide) rfl rfl (x := .int (gI V0 1 4)) rfl dX0_isSeen_7 ?_
  refine lv_icmp_ge (pc := 10) (tgt := 65) hx hb dX0_isSeen_10 (by decide) (fun c1 => ?_) (fun c1 => ?_)
  · have hm := ite_t c1 hm
    refine lv_iconst (pc := 65) (v := (1 : Int32)) hx hb dX0_isSeen_65 (by decide) ?_
    have e9 := rs1 hm
    subst e9
    exact rk_zretP (pc := 66) hx hb hr hlk rfl rfl dX0_isSeen_66
  · have hm := ite_f c1 hm
    refine lv_aload_n (pc := 13) hx hb dX0_isSeen_13 rfl (lv_at hl 0 rfl) ?_
    refine rk_get (pc := 14) hx hb hts hown hK hW0 flX0_31 0 (by decide) rfl rfl (x := .ref (b0 + 110)) (by first | rfl | exact congrArg (fun z => some (Value.ref z)) (by omega)) dX0_isSeen_14 ?_
    refine lv_aload_n (pc := 17) hx hb dX0_isSeen_17 rfl (lv_at hl 0 rfl) ?_
    refine rk_get (pc := 18) hx hb hts hown hK hW0 flX0_12 0 (by decide) rfl rfl (x := .ref (b0 + 1)) (by first | rfl | exact congrArg (fun z => some (Value.ref z)) (by omega)) dX0_isSeen_18 ?_
    refine rk_getN (pc := 21) hx hb hts hown hK hW0 fnX0_479 1 (by decide) rfl rfl (x := .ref (b0 + 5)) (by first | rfl | exact congrArg (fun z => some (Value.ref z)) (by omega)) dX0_isSeen_21 ?_
    refine lv_iconst (pc := 24) (v := (2 : Int32)) hx hb dX0_isSeen_24 (by decide) ?_
    refine lv_iload_n (pc := 25) hx hb dX0_isSeen_25 rfl (lv_at hl 1 rfl) ?_
    refine lv_imul (pc := 26) hx hb dX0_isSeen_26 ?_
    obtain ⟨hg2, hm⟩ := gb_some hm
    refine rk_iald (pc := 27) hx hb hK hW0 5 (by decide) rfl rfl hg2 (x := (gI V0 5 ((2 : Int32) * i1).toNatClampNeg)) rfl dX0_isSeen_27 ?_
    obtain ⟨r3, hq4, hm⟩ := ob_some hm
    refine rk_PV (pc := 28) (As := [.int (gI V0 5 ((2 : Int32) * i1).toNatClampNeg)]) (rest := []) hx hb hml hown hts hK lkX0_267 rfl yn_X3_right (ct_X3_right (G := G) (l := l) (b0 := (b0 + 110)) hq4) ⟨Nat.le_of_ble_eq_true rfl, Nat.le_of_ble_eq_true rfl⟩ (rk_recv hK hW0 110 (by decide) rfl rfl rfl) (rg_sub hW0 rfl (by decide) (fun o ho x y z => shX0_n110 G.2.1 _ rfl o ho x y z)) rfl rfl hl.1 (Nat.le_of_ble_eq_true rfl) dX0_isSeen_28 ⟨Nat.zero_le _, Nat.zero_le _⟩ ?_
    refine W.eq (g2 := F0 m 31 ls [.long r3]) rfl ?_
    refine lv_aload_n (pc := 31) hx hb dX0_isSeen_31 rfl (lv_at hl 0 rfl) ?_
    refine rk_get (pc := 32) hx hb hts hown hK hW0 flX0_12 0 (by decide) rfl rfl (x := .ref (b0 + 1)) (by first | rfl | exact congrArg (fun z => some (Value.ref z)) (by omega)) dX0_isSeen_32 ?_
    refine rk_getN (pc := 35) hx hb hts hown hK hW0 fnX0_479 1 (by decide) rfl rfl (x := .ref (b0 + 5)) (by first | rfl | exact congrArg (fun z => some (Value.ref z)) (by omega)) dX0_isSeen_35 ?_
    refine lv_iconst (pc := 38) (v := (2 : Int32)) hx hb dX0_isSeen_38 (by decide) ?_
    refine lv_iload_n (pc := 39) hx hb dX0_isSeen_39 rfl (lv_at hl 1 rfl) ?_
    refine lv_imul (pc := 40) hx hb dX0_isSeen_40 ?_
    refine lv_iconst (pc := 41) (v := (1 : Int32)) hx hb dX0_isSeen_41 (by decide) ?_
    refine lv_iadd (pc := 42) hx hb dX0_isSeen_42 ?_
    obtain ⟨hg5, hm⟩ := gb_some hm
    refine rk_iald (pc := 43) hx hb hK hW0 5 (by decide) rfl rfl hg5 (x := (gI V0 5 (((2 : Int32) * i1) + (1 : Int32)).toNatClampNeg)) rfl dX0_isSeen_43 ?_
    refine lv_i2l (pc := 44) hx hb dX0_isSeen_44 rfl ?_
    refine lv_aload_n (pc := 45) hx hb dX0_isSeen_45 rfl (lv_at hl 0 rfl) ?_
    refine rk_get (pc := 46) hx hb hts hown hK hW0 flX0_31 0 (by decide) rfl rfl (x := .ref (b0 + 110)) (by first | rfl | exact congrArg (fun z => some (Value.ref z)) (by omega)) dX0_isSeen_46 ?_
    refine rk_getN (pc := 49) hx hb hts hown hK hW0 fnX0_237 110 (by decide) rfl rfl (x := .long (gL V0 110 4)) rfl dX0_isSeen_49 ?_
    refine lv_lmul (pc := 52) hx hb dX0_isSeen_52 ?_
    refine rk_lcmp_eq (pc := 53) (tgt := 59) hx hb dX0_isSeen_53 rfl dX0_isSeen_54 (by decide) (fun c6 => ?_) (fun c6 => ?_)
    · have hm := ite_t c6 hm
      refine lv_iinc (pc := 59) (v := (i1 + (1 : Int32))) (lv' := [(1, .int (i1 + (1 : Int32))), (0, .ref b0)]) hx hb dX0_isSeen_59 hl (k := 1) rfl rfl (by decide) rfl (fun ls hl => ?_)
      refine lv_goto (pc := 62) (tgt := 2) hx hb dX0_isSeen_62 (by decide) ?_
      exact hk2 (i1 + (1 : Int32)) hm ls (lv_sub hl [1, 0] rfl)
    · have hm := ite_f c6 hm
      refine lv_iconst (pc := 57) (v := (0 : Int32)) hx hb dX0_isSeen_57 (by decide) ?_
      have e9 := rs1 hm
      subst e9
      exact rk_zretP (pc := 58) hx hb hr hlk rfl rfl dX0_isSeen_58
theorem w_fX0_isSeen_2_l (C : Cx G p s m args meth c RX0 cX0_isSeen 2 (some .boolean)) {b0 : Nat} {V0 : Mem} {rx : Int32} (hW0 : rg G b0 357 (shX0 G.2.1) V0 s.heap) : ∀ (n : Nat) (i1 : Int32), lq1 (fX0_isSeen_2 V0) n i1 = some rx → ∀ (ls : Array Slot), lv_has ls 2 [(0, .ref b0), (1, .int i1)] → W p l e (rmP 2 44) s m args below meth c s.heap [] 0 0 (MQ below (QcP (some (.int rx))) args s 0 0 (fun _ => False)) (F0 m 2 ls []) := by
  intro n
  induction n with
  | zero => intro i1 hm; exact (lq1_0 hm).elim
  | succ n ih => intro i1 hm; exact w_fX0_isSeen_2 C hW0 ih i1 (lq1_s hm)
set_option maxHeartbeats 4000000 in
theorem w_fX0_isSeen (C : Cx G p s m args meth c RX0 cX0_isSeen 2 (some .boolean)) {b0 : Nat} {V0 : Mem} {rx : Int32} (hW0 : rg G b0 357 (shX0 G.2.1) V0 s.heap) : fX0_isSeen V0 = some rx → ∀ (ls : Array Slot), lv_has ls 2 [(0, .ref b0)] → W p l e (rmP 2 44) s m args below meth c s.heap [] 0 0 (MQ below (QcP (some (.int rx))) args s 0 0 (fun _ => False)) (F0 m 0 ls []) := by
  intro hm ls hl
  obtain ⟨hx, hb, hr, hlk, hml, hown, hts, hK⟩ := id C
  unfold fX0_isSeen at hm
  refine lv_iconst (pc := 0) (v := (0 : Int32)) hx hb dX0_isSeen_0 (by decide) ?_
  refine lv_istore_n (pc := 1) (lv' := [(1, .int (0 : Int32)), (0, .ref b0)]) hx hb dX0_isSeen_1 rfl hl (by decide) rfl (fun ls hl => ?_)
  exact (w_fX0_isSeen_2_l C hW0 FU) (0 : Int32) hm ls (lv_sub hl [1, 0] rfl)
set_option maxHeartbeats 4000000 in
theorem ct_X0_isSeen {G : Gv} {l : Launch} {b0 : Nat} {V0 : Mem} {rx : Int32} (hm : fX0_isSeen V0  = some rx) : CP G l yX0_isSeen (ws_ yX0_isSeen cX0_isSeen 2 (some .boolean)) 2 44 [.ref b0] (fun H => rg G b0 357 (shX0 G.2.1) V0 H) (some (.int rx)) := by
  refine Met.ofW (cc := cX0_isSeen) (maxL := 2) (ret := (some .boolean)) (by decide +kernel) rfl ?_
  intro p e s m args below meth c s₁ B hml hv
  obtain ⟨rfl, hW0, hK⟩ := hv
  have hts := atoms_spec (ws := ws_ yX0_isSeen cX0_isSeen 2 (some .boolean)) B.pre
  have hts : ∀ w ∈ lw_all, w.before _ s = true := fun w h => hts w (List.mem_cons_of_mem _ h)
  have C : Cx G p s m _ meth c RX0 cX0_isSeen 2 (some .boolean) := ⟨B.exec, B.bytes, B.returns, B.notSynchronized, hml, findClass_of_methodNamed B.named, hts, hK⟩
  have hl := lv_entry ([.ref b0]) (n := 2) (Nat.le_of_ble_eq_true rfl)
  rw [lg_entry_eq]
  generalize (lg_sl ([.ref b0]) ++ List.replicate (2 - (lg_sl ([.ref b0])).length) Slot.unset).toArray = ls at hl ⊢
  have hl : lv_has ls 2 [(0, .ref b0)] := hl
  exact w_fX0_isSeen C hW0  hm ls hl
theorem yn_X0_isSeen : YN yX0_isSeen 0 := by
  unfold YN
  decide +kernel
theorem lkX0_482 : LV RX0 482 RX0 yX0_isSeen cX0_isSeen 2 (some .boolean) := ⟨q1304, q1306, qs46, q114, q1307⟩
noncomputable def fX0_fits_33 (k33 : Mem → Nat → Nat → Nat → Int32 → Int32 → Int32 → Int32 → Int32 → Option (Int32 × Nat × Mem)) (v0 : Mem) (cb : Nat) (sb : Nat) (zc : Nat) (i1 : Int32) (i2 : Int32) (i3 : Int32) (i4 : Int32) (i5 : Int32) : Option (Int32 × Nat × Mem) :=
  if i5 < 0 then (
  if i2 = 0 then (
  some (i3, zc, v0))
  else (
  some (i4, zc, v0)))
  else (
  ob3 (fX0_worthBy v0 i1 ((5 : Int32) * i5)) fun r9 rc10 w11 =>
  gb (decide ((cb + 1) ≤ 10 ∧ (sb + 7) ≤ 70)) (
  if r9 < 0 then (
  k33 w11 (cb + 1) (sb + 7) (zc + rc10) i1 i2 i3 i4 (i5 + (-1 : Int32)))
  else (
  ob (fX0_isSeen w11) fun r24 =>
  if r24 = 0 then (
  k33 w11 (cb + 1) (sb + 7) (zc + rc10) i1 i2 i3 i4 (i5 + (-1 : Int32)))
  else (
  k33 w11 (cb + 1) (sb + 7) (zc + rc10) i1 i2 (i3 + (1 : Int32)) ((5 : Int32) * i5) (i5 + (-1 : Int32))))))
noncomputable def fX0_fits (v0 : Mem) (i1 : Int32) (i2 : Int32) : Option (Int32 × Nat × Mem) :=
  ob (fX1_hasRule (shf v0 1) i1) fun r1 =>
  if r1 = 0 then (
  some ((-1 : Int32), 0, v0))
  else (
  ob (fX0_in i2.toInt64 (0 : Int64) (1 : Int64)) fun r4 =>
  if r4 = 0 then (
  some ((-1 : Int32), 0, v0))
  else (
  lq9 (fX0_fits_33) FU v0 0 0 0 i1 i2 (0 : Int32) (-5 : Int32) (9 : Int32)))
set_option maxHeartbeats 4000000 in
theorem w_fX0_fits_33 (C : Cx G p s m args meth c RX0 cX0_fits 6 (some .int)) {b0 : Nat} {rx : Int32} {rc : Nat} {rw0 : Mem} (he0 : b0 + 357 ≤ s.heap.size) (hZ : ZQ G) (hgb0 : gB G ≤ b0) {k33 : Mem → Nat → Nat → Nat → Int32 → Int32 → Int32 → Int32 → Int32 → Option (Int32 × Nat × Mem)} (hk33 : ∀ (v0 : Mem) (cb : Nat) (sb : Nat) (zc : Nat) (i1 : Int32) (i2 : Int32) (i3 : Int32) (i4 : Int32) (i5 : Int32), k33 v0 cb sb zc i1 i2 i3 i4 i5 = some (rx, rc, rw0) → ∀ (H : Heap) (locs : List Loc) (ls : Array Slot), rg G b0 357 (shX0 G.2.1) v0 H → va_S (FA (fX b0) s.heap.size) s.heap H locs → H.size = s.heap.size + zc → GO G H → cb ≤ 10 ∧ sb ≤ 70 → lv_has ls 6 [(0, .ref b0), (1, .int i1), (2, .int i2), (3, .int i3), (4, .int i4), (5, .int i5)] → W p l e (rmT 9 10 70 199) s m args below meth c H locs cb sb (MQ below (QcT (FA (fX b0) s.heap.size) (fun ov H => ov = (some (.int rx)) ∧ rg G b0 357 (shX0 G.2.1) rw0 H ∧ H.size = s.heap.size + rc)) args s 10 70 (FA (fX b0) s.heap.size)) (F0 m 33 ls [])) : ∀ (v0 : Mem) (cb : Nat) (sb : Nat) (zc : Nat) (i1 : Int32) (i2 : Int32) (i3 : Int32) (i4 : Int32) (i5 : Int32), fX0_fits_33 k33 v0 cb sb zc i1 i2 i3 i4 i5 = some (rx, rc, rw0) → ∀ (H : Heap) (locs : List Loc) (ls : Array Slot), rg G b0 357 (shX0 G.2.1) v0 H → va_S (FA (fX b0) s.heap.size) s.heap H locs → H.size = s.heap.size + zc → GO G H → cb ≤ 10 ∧ sb ≤ 70 → lv_has ls 6 [(0, .ref b0), (1, .int i1), (2, .int i2), (3, .int i3), (4, .int i4), (5, .int i5)] → W p l e (rmT 9 10 70 199) s m args below meth c H locs cb sb (MQ below (QcT (FA (fX b0) s.heap.size) (fun ov H => ov = (some (.int rx)) ∧ rg G b0 357 (shX0 G.2.1) rw0 H ∧ H.size = s.heap.size + rc)) args s 10 70 (FA (fX b0) s.heap.size)) (F0 m 33 ls []) := by
  intro v0 cb sb zc i1 i2 i3 i4 i5 hm H locs ls hW0 hS hz hG hcb hl
  obtain ⟨hx, hb, hr, hlk, hml, hown, hts, hK⟩ := id C
  unfold fX0_fits_33 at hm
  refine lv_iload (pc := 33) hx hb dX0_fits_33 (lv_at hl 5 rfl) ?_
  refine lv_if_lt (pc := 35) (tgt := 72) hx hb dX0_fits_35 (by decide) (fun c7 => ?_) (fun c7 => ?_)
  · have hm := ite_t c7 hm
    refine lv_iload_n (pc := 72) hx hb dX0_fits_72 rfl (lv_at hl 2 rfl) ?_
    refine lv_if_ne (pc := 73) (tgt := 80) hx hb dX0_fits_73 (by decide) (fun c8 => ?_) (fun c8 => ?_)
    · have hm := ite_f c8 hm
      refine lv_iload (pc := 80) hx hb dX0_fits_80 (lv_at hl 4 rfl) ?_
      obtain ⟨e7, e8, e9⟩ := rs3 hm
      subst e7
      subst e8
      subst e9
      exact rk_iretA (pc := 82) hx hb hr hlk hS ⟨rfl, hW0, hz⟩ dX0_fits_82 hcb.1 hcb.2
    · have hm := ite_t c8 hm
      refine lv_iload_n (pc := 76) hx hb dX0_fits_76 rfl (lv_at hl 3 rfl) ?_
      refine lv_goto (pc := 77) (tgt := 82) hx hb dX0_fits_77 (by decide) ?_
      obtain ⟨e7, e8, e9⟩ := rs3 hm
      subst e7
      subst e8
      subst e9
      exact rk_iretA (pc := 82) hx hb hr hlk hS ⟨rfl, hW0, hz⟩ dX0_fits_82 hcb.1 hcb.2
  · have hm := ite_f c7 hm
    refine lv_aload_n (pc := 38) hx hb dX0_fits_38 rfl (lv_at hl 0 rfl) ?_
    refine lv_iload_n (pc := 39) hx hb dX0_fits_39 rfl (lv_at hl 1 rfl) ?_
    refine lv_iconst (pc := 40) (v := (5 : Int32)) hx hb dX0_fits_40 (by decide) ?_
    refine lv_iload (pc := 41) hx hb dX0_fits_41 (lv_at hl 5 rfl) ?_
    refine lv_imul (pc := 43) hx hb dX0_fits_43 ?_
    obtain ⟨r9, rc10, w11, hq12, hm⟩ := ob3_some hm
    obtain ⟨hg18, hm⟩ := gb_some hm
    have hg18 := of_decide_eq_true hg18
    refine rk_TV (pc := 44) (As := [.int i1, .int ((5 : Int32) * i5)]) (rest := []) (mc := 1) (ms := 7) hx hb hml hown hts hK hS (fun q hq => FA_sz rfl q hq) lkX0_465 rfl yn_X0_worthBy (ct_X0_worthBy (G := G) (l := l) (b0 := b0) (sz := H.size) hq12 hZ (by omega)) ⟨Nat.le_of_ble_eq_true rfl, Nat.le_of_ble_eq_true rfl⟩ (fun z h => Or.inl h) (rk_recv hK hW0 0 (by decide) rfl rfl rfl) ⟨hW0, hG⟩ rfl rfl hl.1 (Nat.le_of_ble_eq_true rfl) dX0_fits_44 ⟨hg18.1, hg18.2⟩ (fun ov9 H13 locs14 hP15 hkp16 hS17 => ?_)
    obtain ⟨rfl, hW19, hz20⟩ := hP15
    have hG21 := GO_keepA hG hkp16 (Nat.le_trans (show gB G ≤ s.heap.size by omega) hS.1) (by intro z h3; have h8 := h3.1.1; have h9 := h3.1.2; omega)
    have hz22 : H13.size = s.heap.size + (zc + rc10) := by omega
    refine W.eq (g2 := F0 m 47 ls [.int r9]) rfl ?_
    refine lv_if_lt (pc := 47) (tgt := 66) hx hb dX0_fits_47 (by decide) (fun c23 => ?_) (fun c23 => ?_)
    · have hm := ite_t c23 hm
      refine lv_iinc (pc := 66) (v := (i5 + (-1 : Int32))) (lv' := [(5, .int (i5 + (-1 : Int32))), (0, .ref b0), (1, .int i1), (2, .int i2), (3, .int i3), (4, .int i4)]) hx hb dX0_fits_66 hl (k := 5) rfl (congrArg (i5 + ·) (show Int32.ofInt (-1) = (-1 : Int32) by decide)) (by decide) rfl (fun ls hl => ?_)
      refine lv_goto (pc := 69) (tgt := 33) hx hb dX0_fits_69 (by decide) ?_
      exact hk33 w11 (cb + 1) (sb + 7) (zc + rc10) i1 i2 i3 i4 (i5 + (-1 : Int32)) hm H13 locs14 ls hW19 hS17 hz22 hG21 hg18 (lv_sub hl [1, 2, 3, 4, 5, 0] rfl)
    · have hm := ite_f c23 hm
      refine lv_aload_n (pc := 50) hx hb dX0_fits_50 rfl (lv_at hl 0 rfl) ?_
      obtain ⟨r24, hq25, hm⟩ := ob_some hm
      refine rk_PV (pc := 51) (As := []) (rest := []) hx hb hml hown hts hK lkX0_482 rfl yn_X0_isSeen (ct_X0_isSeen (G := G) (l := l) (b0 := b0) hq25) ⟨Nat.le_of_ble_eq_true rfl, Nat.le_of_ble_eq_true rfl⟩ (rk_recv hK hW19 0 (by decide) rfl rfl rfl) hW19 rfl rfl hl.1 (Nat.le_of_ble_eq_true rfl) dX0_fits_51 hg18 ?_
      refine W.eq (g2 := F0 m 54 ls [.int r24]) rfl ?_
      refine lv_if_eq (pc := 54) (tgt := 66) hx hb dX0_fits_54 (by decide) (fun c26 => ?_) (fun c26 => ?_)
      · have hm := ite_t c26 hm
        refine lv_iinc (pc := 66) (v := (i5 + (-1 : Int32))) (lv' := [(5, .int (i5 + (-1 : Int32))), (0, .ref b0), (1, .int i1), (2, .int i2), (3, .int i3), (4, .int i4)]) hx hb dX0_fits_66 hl (k := 5) rfl (congrArg (i5 + ·) (show Int32.ofInt (-1) = (-1 : Int32) by decide)) (by decide) rfl (fun ls hl => ?_)
        refine lv_goto (pc := 69) (tgt := 33) hx hb dX0_fits_69 (by decide) ?_
        exact hk33 w11 (cb + 1) (sb + 7) (zc + rc10) i1 i2 i3 i4 (i5 + (-1 : Int32)) hm H13 locs14 ls hW19 hS17 hz22 hG21 hg18 (lv_sub hl [1, 2, 3, 4, 5, 0] rfl)
      · have hm := ite_f c26 hm
        refine lv_iinc (pc := 57) (v := (i3 + (1 : Int32))) (lv' := [(3, .int (i3 + (1 : Int32))), (0, .ref b0), (1, .int i1), (2, .int i2), (4, .int i4), (5, .int i5)]) hx hb dX0_fits_57 hl (k := 3) rfl rfl (by decide) rfl (fun ls hl => ?_)
        refine lv_iconst (pc := 60) (v := (5 : Int32)) hx hb dX0_fits_60 (by decide) ?_
        refine lv_iload (pc := 61) hx hb dX0_fits_61 (lv_at hl 5 rfl) ?_
        refine lv_imul (pc := 63) hx hb dX0_fits_63 ?_
        refine lv_istore (pc := 64) (lv' := [(4, .int ((5 : Int32) * i5)), (3, .int (i3 + (1 : Int32))), (0, .ref b0), (1, .int i1), (2, .int i2), (5, .int i5)]) hx hb dX0_fits_64 hl (by decide) rfl (fun ls hl => ?_)
        refine lv_iinc (pc := 66) (v := (i5 + (-1 : Int32))) (lv' := [(5, .int (i5 + (-1 : Int32))), (4, .int ((5 : Int32) * i5)), (3, .int (i3 + (1 : Int32))), (0, .ref b0), (1, .int i1), (2, .int i2)]) hx hb dX0_fits_66 hl (k := 5) rfl (congrArg (i5 + ·) (show Int32.ofInt (-1) = (-1 : Int32) by decide)) (by decide) rfl (fun ls hl => ?_)
        refine lv_goto (pc := 69) (tgt := 33) hx hb dX0_fits_69 (by decide) ?_
        exact hk33 w11 (cb + 1) (sb + 7) (zc + rc10) i1 i2 (i3 + (1 : Int32)) ((5 : Int32) * i5) (i5 + (-1 : Int32)) hm H13 locs14 ls hW19 hS17 hz22 hG21 hg18 (lv_sub hl [3, 4, 5, 2, 1, 0] rfl)
theorem w_fX0_fits_33_l (C : Cx G p s m args meth c RX0 cX0_fits 6 (some .int)) {b0 : Nat} {rx : Int32} {rc : Nat} {rw0 : Mem} (he0 : b0 + 357 ≤ s.heap.size) (hZ : ZQ G) (hgb0 : gB G ≤ b0) : ∀ (n : Nat) (v0 : Mem) (cb : Nat) (sb : Nat) (zc : Nat) (i1 : Int32) (i2 : Int32) (i3 : Int32) (i4 : Int32) (i5 : Int32), lq9 (fX0_fits_33) n v0 cb sb zc i1 i2 i3 i4 i5 = some (rx, rc, rw0) → ∀ (H : Heap) (locs : List Loc) (ls : Array Slot), rg G b0 357 (shX0 G.2.1) v0 H → va_S (FA (fX b0) s.heap.size) s.heap H locs → H.size = s.heap.size + zc → GO G H → cb ≤ 10 ∧ sb ≤ 70 → lv_has ls 6 [(0, .ref b0), (1, .int i1), (2, .int i2), (3, .int i3), (4, .int i4), (5, .int i5)] → W p l e (rmT 9 10 70 199) s m args below meth c H locs cb sb (MQ below (QcT (FA (fX b0) s.heap.size) (fun ov H => ov = (some (.int rx)) ∧ rg G b0 357 (shX0 G.2.1) rw0 H ∧ H.size = s.heap.size + rc)) args s 10 70 (FA (fX b0) s.heap.size)) (F0 m 33 ls []) := by
  intro n
  induction n with
  | zero => intro v0 cb sb zc i1 i2 i3 i4 i5 hm; exact (lq9_0 hm).elim
  | succ n ih => intro v0 cb sb zc i1 i2 i3 i4 i5 hm; exact w_fX0_fits_33 C he0 hZ hgb0 ih v0 cb sb zc i1 i2 i3 i4 i5 (lq9_s hm)
set_option maxHeartbeats 4000000 in
theorem w_fX0_fits (C : Cx G p s m args meth c RX0 cX0_fits 6 (some .int)) {b0 : Nat} {rx : Int32} {rc : Nat} {rw0 : Mem} (he0 : b0 + 357 ≤ s.heap.size) (hZ : ZQ G) (hgb0 : gB G ≤ b0) : ∀ (v0 : Mem) (i1 : Int32) (i2 : Int32), fX0_fits v0 i1 i2 = some (rx, rc, rw0) → ∀ (H : Heap) (locs : List Loc) (ls : Array Slot), rg G b0 357 (shX0 G.2.1) v0 H → va_S (FA (fX b0) s.heap.size) s.heap H locs → H.size = s.heap.size + 0 → GO G H → 0 ≤ 10 ∧ 0 ≤ 70 → lv_has ls 6 [(0, .ref b0), (1, .int i1), (2, .int i2)] → W p l e (rmT 9 10 70 199) s m args below meth c H locs 0 0 (MQ below (QcT (FA (fX b0) s.heap.size) (fun ov H => ov = (some (.int rx)) ∧ rg G b0 357 (shX0 G.2.1) rw0 H ∧ H.size = s.heap.size + rc)) args s 10 70 (FA (fX b0) s.heap.size)) (F0 m 0 ls []) := by
  intro v0 i1 i2 hm H locs ls hW0 hS hz hG hcb hl
  obtain ⟨hx, hb, hr, hlk, hml, hown, hts, hK⟩ := id C
  unfold fX0_fits at hm
  refine lv_aload_n (pc := 0) hx hb dX0_fits_0 rfl (lv_at hl 0 rfl) ?_
  refine rk_get (pc := 1) hx hb hts hown hK hW0 flX0_12 0 (by decide) rfl rfl (x := .ref (b0 + 1)) (by first | rfl | exact congrArg (fun z => some (Value.ref z)) (by omega)) dX0_fits_1 ?_
  refine lv_iload_n (pc := 4) hx hb dX0_fits_4 rfl (lv_at hl 1 rfl) ?_
  obtain ⟨r1, hq2, hm⟩ := ob_some hm
  refine rk_PV (pc := 5) (As := [.int i1]) (rest := []) hx hb hml hown hts hK lkX0_165 rfl yn_X1_hasRule (ct_X1_hasRule (G := G) (l := l) (b0 := (b0 + 1)) hq2) ⟨Nat.le_of_ble_eq_true rfl, Nat.le_of_ble_eq_true rfl⟩ (rk_recv hK hW0 1 (by decide) rfl rfl rfl) (rg_sub hW0 rfl (by decide) (fun o ho x y z => shX0_n1 G.2.1 _ rfl o ho x y z)) rfl rfl hl.1 (Nat.le_of_ble_eq_true rfl) dX0_fits_5 hcb ?_
  refine W.eq (g2 := F0 m 8 ls [.int r1]) rfl ?_
  refine lv_if_eq (pc := 8) (tgt := 21) hx hb dX0_fits_8 (by decide) (fun c3 => ?_) (fun c3 => ?_)
  · have hm := ite_t c3 hm
    refine lv_iconst (pc := 21) (v := (-1 : Int32)) hx hb dX0_fits_21 (by decide) ?_
    obtain ⟨e7, e8, e9⟩ := rs3 hm
    subst e7
    subst e8
    subst e9
    exact rk_iretA (pc := 22) hx hb hr hlk hS ⟨rfl, hW0, hz⟩ dX0_fits_22 hcb.1 hcb.2
  · have hm := ite_f c3 hm
    refine lv_iload_n (pc := 11) hx hb dX0_fits_11 rfl (lv_at hl 2 rfl) ?_
    refine lv_i2l (pc := 12) hx hb dX0_fits_12 rfl ?_
    refine lv_lconst (pc := 13) (v := (0 : Int64)) hx hb dX0_fits_13 (by decide) ?_
    refine lv_lconst (pc := 14) (v := (1 : Int64)) hx hb dX0_fits_14 (by decide) ?_
    obtain ⟨r4, hq5, hm⟩ := ob_some hm
    refine rk_PS (pc := 15) (As := [.long i2.toInt64, .long (0 : Int64), .long (1 : Int64)]) (rest := []) hx hb hml hown hts hK lkX0_127 yn_X0_in (ct_X0_in (G := G) (l := l) hq5) ⟨Nat.le_of_ble_eq_true rfl, Nat.le_of_ble_eq_true rfl⟩ trivial rfl rfl hl.1 (Nat.le_of_ble_eq_true rfl) dX0_fits_15 hcb ?_
    refine W.eq (g2 := F0 m 18 ls [.int r4]) rfl ?_
    refine lv_if_ne (pc := 18) (tgt := 23) hx hb dX0_fits_18 (by decide) (fun c6 => ?_) (fun c6 => ?_)
    · have hm := ite_f c6 hm
      refine lv_iconst (pc := 23) (v := (0 : Int32)) hx hb dX0_fits_23 (by decide) ?_
      refine lv_istore_n (pc := 24) (lv' := [(3, .int (0 : Int32)), (0, .ref b0), (1, .int i1), (2, .int i2)]) hx hb dX0_fits_24 rfl hl (by decide) rfl (fun ls hl => ?_)
      refine lv_bipush (pc := 25) (v := (-5 : Int32)) hx hb dX0_fits_25 (by decide) ?_
      refine lv_istore (pc := 27) (lv' := [(4, .int (-5 : Int32)), (3, .int (0 : Int32)), (0, .ref b0), (1, .int i1), (2, .int i2)]) hx hb dX0_fits_27 hl (by decide) rfl (fun ls hl => ?_)
      refine lv_bipush (pc := 29) (v := (9 : Int32)) hx hb dX0_fits_29 (by decide) ?_
      refine lv_istore (pc := 31) (lv' := [(5, .int (9 : Int32)), (4, .int (-5 : Int32)), (3, .int (0 : Int32)), (0, .ref b0), (1, .int i1), (2, .int i2)]) hx hb dX0_fits_31 hl (by decide) rfl (fun ls hl => ?_)
      exact (w_fX0_fits_33_l C he0 hZ hgb0 FU) v0 0 0 0 i1 i2 (0 : Int32) (-5 : Int32) (9 : Int32) hm H locs ls hW0 hS hz hG hcb (lv_sub hl [3, 4, 5, 2, 1, 0] rfl)
    · have hm := ite_t c6 hm
      refine lv_iconst (pc := 21) (v := (-1 : Int32)) hx hb dX0_fits_21 (by decide) ?_
      obtain ⟨e7, e8, e9⟩ := rs3 hm
      subst e7
      subst e8
      subst e9
      exact rk_iretA (pc := 22) hx hb hr hlk hS ⟨rfl, hW0, hz⟩ dX0_fits_22 hcb.1 hcb.2
set_option maxHeartbeats 4000000 in
theorem ct_X0_fits {G : Gv} {l : Launch} {b0 : Nat} {v0 : Mem} {i1 : Int32} {i2 : Int32} {rx : Int32} {rc : Nat} {rw0 : Mem} {sz : Nat} (hm : fX0_fits v0 i1 i2 = some (rx, rc, rw0)) (hZ : ZQ G) (hgb0 : gB G ≤ b0) : CT G l yX0_fits (ws_ yX0_fits cX0_fits 6 (some .int)) 9 10 70 199 [.ref b0, .int i1, .int i2] (fX b0) sz (fun H => rg G b0 357 (shX0 G.2.1) v0 H ∧ GO G H) (fun ov H => ov = (some (.int rx)) ∧ rg G b0 357 (shX0 G.2.1) rw0 H ∧ H.size = sz + rc) := by
  refine Met.ofW (cc := cX0_fits) (maxL := 6) (ret := (some .int)) (by decide +kernel) rfl ?_
  intro p e s m args below meth c s₁ B hml hv
  obtain ⟨rfl, ⟨hz, hW0, hG⟩, hK⟩ := hv
  subst hz
  have he0 := rg_end hW0 356 (by decide) rfl (fun _ _ _ => rfl)
  have hts := atoms_spec (ws := ws_ yX0_fits cX0_fits 6 (some .int)) B.pre
  have hts : ∀ w ∈ lw_all, w.before _ s = true := fun w h => hts w (List.mem_cons_of_mem _ h)
  have C : Cx G p s m _ meth c RX0 cX0_fits 6 (some .int) := ⟨B.exec, B.bytes, B.returns, B.notSynchronized, hml, findClass_of_methodNamed B.named, hts, hK⟩
  have hl := lv_entry ([.ref b0, .int i1, .int i2]) (n := 6) (Nat.le_of_ble_eq_true rfl)
  rw [lg_entry_eq]
  generalize (lg_sl ([.ref b0, .int i1, .int i2]) ++ List.replicate (6 - (lg_sl ([.ref b0, .int i1, .int i2])).length) Slot.unset).toArray = ls at hl ⊢
  have hl : lv_has ls 6 [(0, .ref b0), (1, .int i1), (2, .int i2)] := hl
  exact w_fX0_fits C he0 hZ hgb0 _ _ _ hm s.heap [] ls hW0 va_S.rf rfl hG ⟨Nat.zero_le _, Nat.zero_le _⟩ hl
theorem yn_X0_lowest : YN yX0_lowest 3 := by
  unfold YN
  decide +kernel
theorem lkX0_487 : LSt RX0 487 yX0_lowest cX0_lowest 5 (some .long) := ⟨q1313, q1314, q114, q1315⟩
noncomputable def fX0_odds_69 (k69 : Mem → Nat → Nat → Nat → Int32 → Int32 → Int32 → Int32 → Int32 → Int32 → Int32 → Option (Int64 × Nat × Mem)) (v0 : Mem) (cb : Nat) (sb : Nat) (zc : Nat) (i1 : Int32) (i2 : Int32) (i3 : Int32) (i4 : Int32) (i5 : Int32) (i6 : Int32) (i7 : Int32) : Option (Int64 × Nat × Mem) :=
  if i3 ≤ i7 then (
  ob (fX0_lowest i6.toInt64 i3.toInt64 i5) fun r16 =>
  some (r16, zc, v0))
  else (
  ob3 (fX0_worthBy v0 i1 (i2 + i7)) fun r18 rc19 w20 =>
  gb (decide ((cb + 1) ≤ 8 ∧ (sb + 7) ≤ 56)) (
  ob (fX0_in r18.toInt64 (0 : Int64) i4.toInt64) fun r32 =>
  if r32 = 0 then (
  k69 w20 (cb + 1) (sb + 7) (zc + rc19) i1 i2 i3 i4 i5 (i6 + (0 : Int32)) (i7 + (1 : Int32)))
  else (
  k69 w20 (cb + 1) (sb + 7) (zc + rc19) i1 i2 i3 i4 i5 (i6 + (1 : Int32)) (i7 + (1 : Int32)))))
noncomputable def fX0_odds (v0 : Mem) (i1 : Int32) (i2 : Int32) (i3 : Int32) (i4 : Int32) (i5 : Int32) : Option (Int64 × Nat × Mem) :=
  ob (fX1_hasRule (shf v0 1) i1) fun r1 =>
  if r1 = 0 then (
  some ((-9223372036854775808 : Int64), 0, v0))
  else (
  ob (fX0_in i2.toInt64 (-99 : Int64) (999 : Int64)) fun r4 =>
  if r4 = 0 then (
  some ((-9223372036854775808 : Int64), 0, v0))
  else (
  ob (fX0_in i3.toInt64 (1 : Int64) (8 : Int64)) fun r7 =>
  if r7 = 0 then (
  some ((-9223372036854775808 : Int64), 0, v0))
  else (
  if (1000 : Int32) < (i2 + i3) then (
  some ((-9223372036854775808 : Int64), 0, v0))
  else (
  if i4 < 0 then (
  some ((-9223372036854775808 : Int64), 0, v0))
  else (
  ob (fX0_isPart i5) fun r12 =>
  if r12 = 0 then (
  some ((-9223372036854775808 : Int64), 0, v0))
  else (
  lq11 (fX0_odds_69) FU v0 0 0 0 i1 i2 i3 i4 i5 (0 : Int32) (0 : Int32)))))))
set_option maxHeartbeats 4000000 in
theorem w_fX0_odds_69 (C : Cx G p s m args meth c RX0 cX0_odds 8 (some .long)) {b0 : Nat} {rx : Int64} {rc : Nat} {rw0 : Mem} (he0 : b0 + 357 ≤ s.heap.size) (hZ : ZQ G) (hgb0 : gB G ≤ b0) {k69 : Mem → Nat → Nat → Nat → Int32 → Int32 → Int32 → Int32 → Int32 → Int32 → Int32 → Option (Int64 × Nat × Mem)} (hk69 : ∀ (v0 : Mem) (cb : Nat) (sb : Nat) (zc : Nat) (i1 : Int32) (i2 : Int32) (i3 : Int32) (i4 : Int32) (i5 : Int32) (i6 : Int32) (i7 : Int32), k69 v0 cb sb zc i1 i2 i3 i4 i5 i6 i7 = some (rx, rc, rw0) → ∀ (H : Heap) (locs : List Loc) (ls : Array Slot), rg G b0 357 (shX0 G.2.1) v0 H → va_S (FA (fX b0) s.heap.size) s.heap H locs → H.size = s.heap.size + zc → GO G H → cb ≤ 8 ∧ sb ≤ 56 → lv_has ls 8 [(0, .ref b0), (1, .int i1), (2, .int i2), (3, .int i3), (4, .int i4), (5, .int i5), (6, .int i6), (7, .int i7)] → W p l e (rmT 9 8 56 199) s m args below meth c H locs cb sb (MQ below (QcT (FA (fX b0) s.heap.size) (fun ov H => ov = (some (.long rx)) ∧ rg G b0 357 (shX0 G.2.1) rw0 H ∧ H.size = s.heap.size + rc)) args s 8 56 (FA (fX b0) s.heap.size)) (F0 m 69 ls [])) : ∀ (v0 : Mem) (cb : Nat) (sb : Nat) (zc : Nat) (i1 : Int32) (i2 : Int32) (i3 : Int32) (i4 : Int32) (i5 : Int32) (i6 : Int32) (i7 : Int32), fX0_odds_69 k69 v0 cb sb zc i1 i2 i3 i4 i5 i6 i7 = some (rx, rc, rw0) → ∀ (H : Heap) (locs : List Loc) (ls : Array Slot), rg G b0 357 (shX0 G.2.1) v0 H → va_S (FA (fX b0) s.heap.size) s.heap H locs → H.size = s.heap.size + zc → GO G H → cb ≤ 8 ∧ sb ≤ 56 → lv_has ls 8 [(0, .ref b0), (1, .int i1), (2, .int i2), (3, .int i3), (4, .int i4), (5, .int i5), (6, .int i6), (7, .int i7)] → W p l e (rmT 9 8 56 199) s m args below meth c H locs cb sb (MQ below (QcT (FA (fX b0) s.heap.size) (fun ov H => ov = (some (.long rx)) ∧ rg G b0 357 (shX0 G.2.1) rw0 H ∧ H.size = s.heap.size + rc)) args s 8 56 (FA (fX b0) s.heap.size)) (F0 m 69 ls []) := by
  intro v0 cb sb zc i1 i2 i3 i4 i5 i6 i7 hm H locs ls hW0 hS hz hG hcb hl
  obtain ⟨hx, hb, hr, hlk, hml, hown, hts, hK⟩ := id C
  unfold fX0_odds_69 at hm
  refine lv_iload (pc := 69) hx hb dX0_odds_69 (lv_at hl 7 rfl) ?_
  refine lv_iload_n (pc := 71) hx hb dX0_odds_71 rfl (lv_at hl 3 rfl) ?_
  refine lv_icmp_ge (pc := 72) (tgt := 111) hx hb dX0_odds_72 (by decide) (fun c15 => ?_) (fun c15 => ?_)
  · have hm := ite_t c15 hm
    refine lv_iload (pc := 111) hx hb dX0_odds_111 (lv_at hl 6 rfl) ?_
    refine lv_i2l (pc := 113) hx hb dX0_odds_113 rfl ?_
    refine lv_iload_n (pc := 114) hx hb dX0_odds_114 rfl (lv_at hl 3 rfl) ?_
    refine lv_i2l (pc := 115) hx hb dX0_odds_115 rfl ?_
    refine lv_iload (pc := 116) hx hb dX0_odds_116 (lv_at hl 5 rfl) ?_
    obtain ⟨r16, hq17, hm⟩ := ob_some hm
    refine rk_PS (pc := 118) (As := [.long i6.toInt64, .long i3.toInt64, .int i5]) (rest := []) hx hb hml hown hts hK lkX0_487 yn_X0_lowest (ct_X0_lowest (G := G) (l := l) hq17) ⟨Nat.le_of_ble_eq_true rfl, Nat.le_of_ble_eq_true rfl⟩ trivial rfl rfl hl.1 (Nat.le_of_ble_eq_true rfl) dX0_odds_118 hcb ?_
    refine W.eq (g2 := F0 m 121 ls [.long r16]) rfl ?_
    obtain ⟨e7, e8, e9⟩ := rs3 hm
    subst e7
    subst e8
    subst e9
    exact rk_lretA (pc := 121) hx hb hr hlk hS ⟨rfl, hW0, hz⟩ dX0_odds_121 hcb.1 hcb.2
  · have hm := ite_f c15 hm
    refine lv_iload (pc := 75) hx hb dX0_odds_75 (lv_at hl 6 rfl) ?_
    refine lv_aload_n (pc := 77) hx hb dX0_odds_77 rfl (lv_at hl 0 rfl) ?_
    refine lv_iload_n (pc := 78) hx hb dX0_odds_78 rfl (lv_at hl 1 rfl) ?_
    refine lv_iload_n (pc := 79) hx hb dX0_odds_79 rfl (lv_at hl 2 rfl) ?_
    refine lv_iload (pc := 80) hx hb dX0_odds_80 (lv_at hl 7 rfl) ?_
    refine lv_iadd (pc := 82) hx hb dX0_odds_82 ?_
    obtain ⟨r18, rc19, w20, hq21, hm⟩ := ob3_some hm
    obtain ⟨hg27, hm⟩ := gb_some hm
    have hg27 := of_decide_eq_true hg27
    refine rk_TV (pc := 83) (As := [.int i1, .int (i2 + i7)]) (rest := [.int i6]) (mc := 1) (ms := 7) hx hb hml hown hts hK hS (fun q hq => FA_sz rfl q hq) lkX0_465 rfl yn_X0_worthBy (ct_X0_worthBy (G := G) (l := l) (b0 := b0) (sz := H.size) hq21 hZ (by omega)) ⟨Nat.le_of_ble_eq_true rfl, Nat.le_of_ble_eq_true rfl⟩ (fun z h => Or.inl h) (rk_recv hK hW0 0 (by decide) rfl rfl rfl) ⟨hW0, hG⟩ rfl rfl hl.1 (Nat.le_of_ble_eq_true rfl) dX0_odds_83 ⟨hg27.1, hg27.2⟩ (fun ov9 H22 locs23 hP24 hkp25 hS26 => ?_)
    obtain ⟨rfl, hW28, hz29⟩ := hP24
    have hG30 := GO_keepA hG hkp25 (Nat.le_trans (show gB G ≤ s.heap.size by omega) hS.1) (by intro z h3; have h8 := h3.1.1; have h9 := h3.1.2; omega)
    have hz31 : H22.size = s.heap.size + (zc + rc19) := by omega
    refine W.eq (g2 := F0 m 86 ls [.int r18, .int i6]) rfl ?_
    refine lv_i2l (pc := 86) hx hb dX0_odds_86 rfl ?_
    refine lv_lconst (pc := 87) (v := (0 : Int64)) hx hb dX0_odds_87 (by decide) ?_
    refine lv_iload (pc := 88) hx hb dX0_odds_88 (lv_at hl 4 rfl) ?_
    refine lv_i2l (pc := 90) hx hb dX0_odds_90 rfl ?_
    obtain ⟨r32, hq33, hm⟩ := ob_some hm
    refine rk_PS (pc := 91) (As := [.long r18.toInt64, .long (0 : Int64), .long i4.toInt64]) (rest := [.int i6]) hx hb hml hown hts hK lkX0_127 yn_X0_in (ct_X0_in (G := G) (l := l) hq33) ⟨Nat.le_of_ble_eq_true rfl, Nat.le_of_ble_eq_true rfl⟩ trivial rfl rfl hl.1 (Nat.le_of_ble_eq_true rfl) dX0_odds_91 hg27 ?_
    refine W.eq (g2 := F0 m 94 ls [.int r32, .int i6]) rfl ?_
    refine lv_if_eq (pc := 94) (tgt := 101) hx hb dX0_odds_94 (by decide) (fun c34 => ?_) (fun c34 => ?_)
    · have hm := ite_t c34 hm
      refine lv_iconst (pc := 101) (v := (0 : Int32)) hx hb dX0_odds_101 (by decide) ?_
      refine lv_iadd (pc := 102) hx hb dX0_odds_102 ?_
      refine lv_istore (pc := 103) (lv' := [(6, .int (i6 + (0 : Int32))), (0, .ref b0), (1, .int i1), (2, .int i2), (3, .int i3), (4, .int i4), (5, .int i5), (7, .int i7)]) hx hb dX0_odds_103 hl (by decide) rfl (fun ls hl => ?_)
      refine lv_iinc (pc := 105) (v := (i7 + (1 : Int32))) (lv' := [(7, .int (i7 + (1 : Int32))), (6, .int (i6 + (0 : Int32))), (0, .ref b0), (1, .int i1), (2, .int i2), (3, .int i3), (4, .int i4), (5, .int i5)]) hx hb dX0_odds_105 hl (k := 7) rfl rfl (by decide) rfl (fun ls hl => ?_)
      refine lv_goto (pc := 108) (tgt := 69) hx hb dX0_odds_108 (by decide) ?_
      exact hk69 w20 (cb + 1) (sb + 7) (zc + rc19) i1 i2 i3 i4 i5 (i6 + (0 : Int32)) (i7 + (1 : Int32)) hm H22 locs23 ls hW28 hS26 hz31 hG30 hg27 (lv_sub hl [2, 3, 4, 5, 6, 7, 1, 0] rfl)
    · have hm := ite_f c34 hm
      refine lv_iconst (pc := 97) (v := (1 : Int32)) hx hb dX0_odds_97 (by decide) ?_
      refine lv_goto (pc := 98) (tgt := 102) hx hb dX0_odds_98 (by decide) ?_
      refine lv_iadd (pc := 102) hx hb dX0_odds_102 ?_
      refine lv_istore (pc := 103) (lv' := [(6, .int (i6 + (1 : Int32))), (0, .ref b0), (1, .int i1), (2, .int i2), (3, .int i3), (4, .int i4), (5, .int i5), (7, .int i7)]) hx hb dX0_odds_103 hl (by decide) rfl (fun ls hl => ?_)
      refine lv_iinc (pc := 105) (v := (i7 + (1 : Int32))) (lv' := [(7, .int (i7 + (1 : Int32))), (6, .int (i6 + (1 : Int32))), (0, .ref b0), (1, .int i1), (2, .int i2), (3, .int i3), (4, .int i4), (5, .int i5)]) hx hb dX0_odds_105 hl (k := 7) rfl rfl (by decide) rfl (fun ls hl => ?_)
      refine lv_goto (pc := 108) (tgt := 69) hx hb dX0_odds_108 (by decide) ?_
      exact hk69 w20 (cb + 1) (sb + 7) (zc + rc19) i1 i2 i3 i4 i5 (i6 + (1 : Int32)) (i7 + (1 : Int32)) hm H22 locs23 ls hW28 hS26 hz31 hG30 hg27 (lv_sub hl [2, 3, 4, 5, 6, 7, 1, 0] rfl)
theorem w_fX0_odds_69_l (C : Cx G p s m args meth c RX0 cX0_odds 8 (some .long)) {b0 : Nat} {rx : Int64} {rc : Nat} {rw0 : Mem} (he0 : b0 + 357 ≤ s.heap.size) (hZ : ZQ G) (hgb0 : gB G ≤ b0) : ∀ (n : Nat) (v0 : Mem) (cb : Nat) (sb : Nat) (zc : Nat) (i1 : Int32) (i2 : Int32) (i3 : Int32) (i4 : Int32) (i5 : Int32) (i6 : Int32) (i7 : Int32), lq11 (fX0_odds_69) n v0 cb sb zc i1 i2 i3 i4 i5 i6 i7 = some (rx, rc, rw0) → ∀ (H : Heap) (locs : List Loc) (ls : Array Slot), rg G b0 357 (shX0 G.2.1) v0 H → va_S (FA (fX b0) s.heap.size) s.heap H locs → H.size = s.heap.size + zc → GO G H → cb ≤ 8 ∧ sb ≤ 56 → lv_has ls 8 [(0, .ref b0), (1, .int i1), (2, .int i2), (3, .int i3), (4, .int i4), (5, .int i5), (6, .int i6), (7, .int i7)] → W p l e (rmT 9 8 56 199) s m args below meth c H locs cb sb (MQ below (QcT (FA (fX b0) s.heap.size) (fun ov H => ov = (some (.long rx)) ∧ rg G b0 357 (shX0 G.2.1) rw0 H ∧ H.size = s.heap.size + rc)) args s 8 56 (FA (fX b0) s.heap.size)) (F0 m 69 ls []) := by
  intro n
  induction n with
  | zero => intro v0 cb sb zc i1 i2 i3 i4 i5 i6 i7 hm; exact (lq11_0 hm).elim
  | succ n ih => intro v0 cb sb zc i1 i2 i3 i4 i5 i6 i7 hm; exact w_fX0_odds_69 C he0 hZ hgb0 ih v0 cb sb zc i1 i2 i3 i4 i5 i6 i7 (lq11_s hm)
set_option maxHeartbeats 4000000 in
theorem w_fX0_odds (C : Cx G p s m args meth c RX0 cX0_odds 8 (some .long)) {b0 : Nat} {rx : Int64} {rc : Nat} {rw0 : Mem} (he0 : b0 + 357 ≤ s.heap.size) (hZ : ZQ G) (hgb0 : gB G ≤ b0) : ∀ (v0 : Mem) (i1 : Int32) (i2 : Int32) (i3 : Int32) (i4 : Int32) (i5 : Int32), fX0_odds v0 i1 i2 i3 i4 i5 = some (rx, rc, rw0) → ∀ (H : Heap) (locs : List Loc) (ls : Array Slot), rg G b0 357 (shX0 G.2.1) v0 H → va_S (FA (fX b0) s.heap.size) s.heap H locs → H.size = s.heap.size + 0 → GO G H → 0 ≤ 8 ∧ 0 ≤ 56 → lv_has ls 8 [(0, .ref b0), (1, .int i1), (2, .int i2), (3, .int i3), (4, .int i4), (5, .int i5)] → W p l e (rmT 9 8 56 199) s m args below meth c H locs 0 0 (MQ below (QcT (FA (fX b0) s.heap.size) (fun ov H => ov = (some (.long rx)) ∧ rg G b0 357 (shX0 G.2.1) rw0 H ∧ H.size = s.heap.size + rc)) args s 8 56 (FA (fX b0) s.heap.size)) (F0 m 0 ls []) := by
  intro v0 i1 i2 i3 i4 i5 hm H locs ls hW0 hS hz hG hcb hl
  obtain ⟨hx, hb, hr, hlk, hml, hown, hts, hK⟩ := id C
  unfold fX0_odds at hm
  refine lv_aload_n (pc := 0) hx hb dX0_odds_0 rfl (lv_at hl 0 rfl) ?_
  refine rk_get (pc := 1) hx hb hts hown hK hW0 flX0_12 0 (by decide) rfl rfl (x := .ref (b0 + 1)) (by first | rfl | exact congrArg (fun z => some (Value.ref z)) (by omega)) dX0_odds_1 ?_
  refine lv_iload_n (pc := 4) hx hb dX0_odds_4 rfl (lv_at hl 1 rfl) ?_
  obtain ⟨r1, hq2, hm⟩ := ob_some hm
  refine rk_PV (pc := 5) (As := [.int i1]) (rest := []) hx hb hml hown hts hK lkX0_165 rfl yn_X1_hasRule (ct_X1_hasRule (G := G) (l := l) (b0 := (b0 + 1)) hq2) ⟨Nat.le_of_ble_eq_true rfl, Nat.le_of_ble_eq_true rfl⟩ (rk_recv hK hW0 1 (by decide) rfl rfl rfl) (rg_sub hW0 rfl (by decide) (fun o ho x y z => shX0_n1 G.2.1 _ rfl o ho x y z)) rfl rfl hl.1 (Nat.le_of_ble_eq_true rfl) dX0_odds_5 hcb ?_
  refine W.eq (g2 := F0 m 8 ls [.int r1]) rfl ?_
  refine lv_if_eq (pc := 8) (tgt := 59) hx hb dX0_odds_8 (by decide) (fun c3 => ?_) (fun c3 => ?_)
  · have hm := ite_t c3 hm
    refine lv_ldc2 (pc := 59) (v := (-9223372036854775808 : Int64)) hx hb hown (hts _ q893) dX0_odds_59 ?_
    obtain ⟨e7, e8, e9⟩ := rs3 hm
    subst e7
    subst e8
    subst e9
    exact rk_lretA (pc := 62) hx hb hr hlk hS ⟨rfl, hW0, hz⟩ dX0_odds_62 hcb.1 hcb.2
  · have hm := ite_f c3 hm
    refine lv_iload_n (pc := 11) hx hb dX0_odds_11 rfl (lv_at hl 2 rfl) ?_
    refine lv_i2l (pc := 12) hx hb dX0_odds_12 rfl ?_
    refine lv_ldc2 (pc := 13) (v := (-99 : Int64)) hx hb hown (hts _ q601) dX0_odds_13 ?_
    refine lv_ldc2 (pc := 16) (v := (999 : Int64)) hx hb hown (hts _ q602) dX0_odds_16 ?_
    obtain ⟨r4, hq5, hm⟩ := ob_some hm
    refine rk_PS (pc := 19) (As := [.long i2.toInt64, .long (-99 : Int64), .long (999 : Int64)]) (rest := []) hx hb hml hown hts hK lkX0_127 yn_X0_in (ct_X0_in (G := G) (l := l) hq5) ⟨Nat.le_of_ble_eq_true rfl, Nat.le_of_ble_eq_true rfl⟩ trivial rfl rfl hl.1 (Nat.le_of_ble_eq_true rfl) dX0_odds_19 hcb ?_
    refine W.eq (g2 := F0 m 22 ls [.int r4]) rfl ?_
    refine lv_if_eq (pc := 22) (tgt := 59) hx hb dX0_odds_22 (by decide) (fun c6 => ?_) (fun c6 => ?_)
    · have hm := ite_t c6 hm
      refine lv_ldc2 (pc := 59) (v := (-9223372036854775808 : Int64)) hx hb hown (hts _ q893) dX0_odds_59 ?_
      obtain ⟨e7, e8, e9⟩ := rs3 hm
      subst e7
      subst e8
      subst e9
      exact rk_lretA (pc := 62) hx hb hr hlk hS ⟨rfl, hW0, hz⟩ dX0_odds_62 hcb.1 hcb.2
    · have hm := ite_f c6 hm
      refine lv_iload_n (pc := 25) hx hb dX0_odds_25 rfl (lv_at hl 3 rfl) ?_
      refine lv_i2l (pc := 26) hx hb dX0_odds_26 rfl ?_
      refine lv_lconst (pc := 27) (v := (1 : Int64)) hx hb dX0_odds_27 (by decide) ?_
      refine lv_ldc2 (pc := 28) (v := (8 : Int64)) hx hb hown (hts _ q1312) dX0_odds_28 ?_
      obtain ⟨r7, hq8, hm⟩ := ob_some hm
      refine rk_PS (pc := 31) (As := [.long i3.toInt64, .long (1 : Int64), .long (8 : Int64)]) (rest := []) hx hb hml hown hts hK lkX0_127 yn_X0_in (ct_X0_in (G := G) (l := l) hq8) ⟨Nat.le_of_ble_eq_true rfl, Nat.le_of_ble_eq_true rfl⟩ trivial rfl rfl hl.1 (Nat.le_of_ble_eq_true rfl) dX0_odds_31 hcb ?_
      refine W.eq (g2 := F0 m 34 ls [.int r7]) rfl ?_
      refine lv_if_eq (pc := 34) (tgt := 59) hx hb dX0_odds_34 (by decide) (fun c9 => ?_) (fun c9 => ?_)
      · have hm := ite_t c9 hm
        refine lv_ldc2 (pc := 59) (v := (-9223372036854775808 : Int64)) hx hb hown (hts _ q893) dX0_odds_59 ?_
        obtain ⟨e7, e8, e9⟩ := rs3 hm
        subst e7
        subst e8
        subst e9
        exact rk_lretA (pc := 62) hx hb hr hlk hS ⟨rfl, hW0, hz⟩ dX0_odds_62 hcb.1 hcb.2
      · have hm := ite_f c9 hm
        refine lv_iload_n (pc := 37) hx hb dX0_odds_37 rfl (lv_at hl 2 rfl) ?_
        refine lv_iload_n (pc := 38) hx hb dX0_odds_38 rfl (lv_at hl 3 rfl) ?_
        refine lv_iadd (pc := 39) hx hb dX0_odds_39 ?_
        refine lv_sipush (pc := 40) (v := (1000 : Int32)) hx hb dX0_odds_40 (by decide) ?_
        refine lv_icmp_gt (pc := 43) (tgt := 59) hx hb dX0_odds_43 (by decide) (fun c10 => ?_) (fun c10 => ?_)
        · have hm := ite_t c10 hm
          refine lv_ldc2 (pc := 59) (v := (-9223372036854775808 : Int64)) hx hb hown (hts _ q893) dX0_odds_59 ?_
          obtain ⟨e7, e8, e9⟩ := rs3 hm
          subst e7
          subst e8
          subst e9
          exact rk_lretA (pc := 62) hx hb hr hlk hS ⟨rfl, hW0, hz⟩ dX0_odds_62 hcb.1 hcb.2
        · have hm := ite_f c10 hm
          refine lv_iload (pc := 46) hx hb dX0_odds_46 (lv_at hl 4 rfl) ?_
          refine lv_if_lt (pc := 48) (tgt := 59) hx hb dX0_odds_48 (by decide) (fun c11 => ?_) (fun c11 => ?_)
          · have hm := ite_t c11 hm
            refine lv_ldc2 (pc := 59) (v := (-9223372036854775808 : Int64)) hx hb hown (hts _ q893) dX0_odds_59 ?_
            obtain ⟨e7, e8, e9⟩ := rs3 hm
            subst e7
            subst e8
            subst e9
            exact rk_lretA (pc := 62) hx hb hr hlk hS ⟨rfl, hW0, hz⟩ dX0_odds_62 hcb.1 hcb.2
          · have hm := ite_f c11 hm
            refine lv_iload (pc := 51) hx hb dX0_odds_51 (lv_at hl 5 rfl) ?_
            obtain ⟨r12, hq13, hm⟩ := ob_some hm
            refine rk_PS (pc := 53) (As := [.int i5]) (rest := []) hx hb hml hown hts hK lkX0_264 yn_X0_isPart (ct_X0_isPart (G := G) (l := l) hq13) ⟨Nat.le_of_ble_eq_true rfl, Nat.le_of_ble_eq_true rfl⟩ trivial rfl rfl hl.1 (Nat.le_of_ble_eq_true rfl) dX0_odds_53 hcb ?_
            refine W.eq (g2 := F0 m 56 ls [.int r12]) rfl ?_
            refine lv_if_ne (pc := 56) (tgt := 63) hx hb dX0_odds_56 (by decide) (fun c14 => ?_) (fun c14 => ?_)
            · have hm := ite_f c14 hm
              refine lv_iconst (pc := 63) (v := (0 : Int32)) hx hb dX0_odds_63 (by decide) ?_
              refine lv_istore (pc := 64) (lv' := [(6, .int (0 : Int32)), (0, .ref b0), (1, .int i1), (2, .int i2), (3, .int i3), (4, .int i4), (5, .int i5)]) hx hb dX0_odds_64 hl (by decide) rfl (fun ls hl => ?_)
              refine lv_iconst (pc := 66) (v := (0 : Int32)) hx hb dX0_odds_66 (by decide) ?_
              refine lv_istore (pc := 67) (lv' := [(7, .int (0 : Int32)), (6, .int (0 : Int32)), (0, .ref b0), (1, .int i1), (2, .int i2), (3, .int i3), (4, .int i4), (5, .int i5)]) hx hb dX0_odds_67 hl (by decide) rfl (fun ls hl => ?_)
              exact (w_fX0_odds_69_l C he0 hZ hgb0 FU) v0 0 0 0 i1 i2 i3 i4 i5 (0 : Int32) (0 : Int32) hm H locs ls hW0 hS hz hG hcb (lv_sub hl [2, 3, 4, 5, 6, 7, 1, 0] rfl)
            · have hm := ite_t c14 hm
              refine lv_ldc2 (pc := 59) (v := (-9223372036854775808 : Int64)) hx hb hown (hts _ q893) dX0_odds_59 ?_
              obtain ⟨e7, e8, e9⟩ := rs3 hm
              subst e7
              subst e8
              subst e9
              exact rk_lretA (pc := 62) hx hb hr hlk hS ⟨rfl, hW0, hz⟩ dX0_odds_62 hcb.1 hcb.2
set_option maxHeartbeats 4000000 in
theorem ct_X0_odds {G : Gv} {l : Launch} {b0 : Nat} {v0 : Mem} {i1 : Int32} {i2 : Int32} {i3 : Int32} {i4 : Int32} {i5 : Int32} {rx : Int64} {rc : Nat} {rw0 : Mem} {sz : Nat} (hm : fX0_odds v0 i1 i2 i3 i4 i5 = some (rx, rc, rw0)) (hZ : ZQ G) (hgb0 : gB G ≤ b0) : CT G l yX0_odds (ws_ yX0_odds cX0_odds 8 (some .long)) 9 8 56 199 [.ref b0, .int i1, .int i2, .int i3, .int i4, .int i5] (fX b0) sz (fun H => rg G b0 357 (shX0 G.2.1) v0 H ∧ GO G H) (fun ov H => ov = (some (.long rx)) ∧ rg G b0 357 (shX0 G.2.1) rw0 H ∧ H.size = sz + rc) := by
  refine Met.ofW (cc := cX0_odds) (maxL := 8) (ret := (some .long)) (by decide +kernel) rfl ?_
  intro p e s m args below meth c s₁ B hml hv
  obtain ⟨rfl, ⟨hz, hW0, hG⟩, hK⟩ := hv
  subst hz
  have he0 := rg_end hW0 356 (by decide) rfl (fun _ _ _ => rfl)
  have hts := atoms_spec (ws := ws_ yX0_odds cX0_odds 8 (some .long)) B.pre
  have hts : ∀ w ∈ lw_all, w.before _ s = true := fun w h => hts w (List.mem_cons_of_mem _ h)
  have C : Cx G p s m _ meth c RX0 cX0_odds 8 (some .long) := ⟨B.exec, B.bytes, B.returns, B.notSynchronized, hml, findClass_of_methodNamed B.named, hts, hK⟩
  have hl := lv_entry ([.ref b0, .int i1, .int i2, .int i3, .int i4, .int i5]) (n := 8) (Nat.le_of_ble_eq_true rfl)
  rw [lg_entry_eq]
  generalize (lg_sl ([.ref b0, .int i1, .int i2, .int i3, .int i4, .int i5]) ++ List.replicate (8 - (lg_sl ([.ref b0, .int i1, .int i2, .int i3, .int i4, .int i5])).length) Slot.unset).toArray = ls at hl ⊢
  have hl : lv_has ls 8 [(0, .ref b0), (1, .int i1), (2, .int i2), (3, .int i3), (4, .int i4), (5, .int i5)] := hl
  exact w_fX0_odds C he0 hZ hgb0 _ _ _ _ _ _ hm s.heap [] ls hW0 va_S.rf rfl hG ⟨Nat.zero_le _, Nat.zero_le _⟩ hl
noncomputable def fX0_mean_4 (V0 : Mem) (k4 : Int32 → Int32 → Int32 → Option (Int64)) (i1 : Int32) (i2 : Int32) (i3 : Int32) : Option (Int64) :=
  if (gI V0 1 0) ≤ i3 then (
  ob (fX0_isPart i1) fun r2 =>
  if r2 = 0 then (
  some (-9223372036854775808 : Int64))
  else (
  ob (fX0_lowest i2.toInt64 (gI V0 1 0).toInt64 i1) fun r5 =>
  some r5))
  else (
  gb (inR i3 5) (
  k4 i1 (i2 + (gI V0 2 i3.toNatClampNeg)) (i3 + (1 : Int32))))
noncomputable def fX0_mean (V0 : Mem) (i1 : Int32) : Option (Int64) :=
  lq3 (fX0_mean_4 V0) FU i1 (0 : Int32) (0 : Int32)
set_option maxHeartbeats 4000000 in
theorem w_fX0_mean_4 (C : Cx G p s m args meth c RX0 cX0_mean 4 (some .long)) {b0 : Nat} {V0 : Mem} {rx : Int64} (hW0 : rg G b0 357 (shX0 G.2.1) V0 s.heap) {k4 : Int32 → Int32 → Int32 → Option (Int64)} (hk4 : ∀ (i1 : Int32) (i2 : Int32) (i3 : Int32), k4 i1 i2 i3 = some rx → ∀ (ls : Array Slot), lv_has ls 4 [(0, .ref b0), (1, .int i1), (2, .int i2), (3, .int i3)] → W p l e (rmP 2 53) s m args below meth c s.heap [] 0 0 (MQ below (QcP (some (.long rx))) args s 0 0 (fun _ => False)) (F0 m 4 ls [])) : ∀ (i1 : Int32) (i2 : Int32) (i3 : Int32), fX0_mean_4 V0 k4 i1 i2 i3 = some rx → ∀ (ls : Array Slot), lv_has ls 4 [(0, .ref b0), (1, .int i1), (2, .int i2), (3, .int i3)] → W p l e (rmP 2 53) s m args below meth c s.heap [] 0 0 (MQ below (QcP (some (.long rx))) args s 0 0 (fun _ => False)) (F0 m 4 ls []) := by
  intro i1 i2 i3 hm ls hl
  obtain ⟨hx, hb, hr, hlk, hml, hown, hts, hK⟩ := id C
  unfold fX0_mean_4 at hm
  refine lv_iload_n (pc := 4) hx hb dX0_mean_4 rfl (lv_at hl 3 rfl) ?_
  refine lv_aload_n (pc := 5) hx hb dX0_mean_5 rfl (lv_at hl 0 rfl) ?_
  refine rk_get (pc := 6) hx hb hts hown hK hW0 flX0_12 0 (by decide) rfl rfl (x := .ref (b0 + 1)) (by first | rfl | exact congrArg (fun z => some (Value.ref z)) (by omega)) dX0_mean_6 ?_
  refine rk_getN (pc := 9) hx hb hts hown hK hW0 fnX0_131 1 (by decide) rfl rfl (x := .int (gI V0 1 0)) rfl dX0_mean_9 ?_
  refine lv_icmp_ge (pc := 12) (tgt := 33) hx hb dX0_mean_12 (by decide) (fun c1 => ?_) (fun c1 => ?_)
  · have hm := ite_t c1 hm
    refine lv_iload_n (pc := 33) hx hb dX0_mean_33 rfl (lv_at hl 1 rfl) ?_
    obtain ⟨r2, hq3, hm⟩ := ob_some hm
    refine rk_PS (pc := 34) (As := [.int i1]) (rest := []) hx hb hml hown hts hK lkX0_264 yn_X0_isPart (ct_X0_isPart (G := G) (l := l) hq3) ⟨Nat.le_of_ble_eq_true rfl, Nat.le_of_ble_eq_true rfl⟩ trivial rfl rfl hl.1 (Nat.le_of_ble_eq_true rfl) dX0_mean_34 ⟨Nat.zero_le _, Nat.zero_le _⟩ ?_
    refine W.eq (g2 := F0 m 37 ls [.int r2]) rfl ?_
    refine lv_if_eq (pc := 37) (tgt := 57) hx hb dX0_mean_37 (by decide) (fun c4 => ?_) (fun c4 => ?_)
    · have hm := ite_t c4 hm
      refine lv_ldc2 (pc := 57) (v := (-9223372036854775808 : Int64)) hx hb hown (hts _ q893) dX0_mean_57 ?_
      have e9 := rs1 hm
      subst e9
      exact rk_lretP (pc := 60) hx hb hr hlk rfl dX0_mean_60
    · have hm := ite_f c4 hm
      refine lv_iload_n (pc := 40) hx hb dX0_mean_40 rfl (lv_at hl 2 rfl) ?_
      refine lv_i2l (pc := 41) hx hb dX0_mean_41 rfl ?_
      refine lv_aload_n (pc := 42) hx hb dX0_mean_42 rfl (lv_at hl 0 rfl) ?_
      refine rk_get (pc := 43) hx hb hts hown hK hW0 flX0_12 0 (by decide) rfl rfl (x := .ref (b0 + 1)) (by first | rfl | exact congrArg (fun z => some (Value.ref z)) (by omega)) dX0_mean_43 ?_
      refine rk_getN (pc := 46) hx hb hts hown hK hW0 fnX0_131 1 (by decide) rfl rfl (x := .int (gI V0 1 0)) rfl dX0_mean_46 ?_
      refine lv_i2l (pc := 49) hx hb dX0_mean_49 rfl ?_
      refine lv_iload_n (pc := 50) hx hb dX0_mean_50 rfl (lv_at hl 1 rfl) ?_
      obtain ⟨r5, hq6, hm⟩ := ob_some hm
      refine rk_PS (pc := 51) (As := [.long i2.toInt64, .long (gI V0 1 0).toInt64, .int i1]) (rest := []) hx hb hml hown hts hK lkX0_487 yn_X0_lowest (ct_X0_lowest (G := G) (l := l) hq6) ⟨Nat.le_of_ble_eq_true rfl, Nat.le_of_ble_eq_true rfl⟩ trivial rfl rfl hl.1 (Nat.le_of_ble_eq_true rfl) dX0_mean_51 ⟨Nat.zero_le _, Nat.zero_le _⟩ ?_
      refine W.eq (g2 := F0 m 54 ls [.long r5]) rfl ?_
      refine lv_goto (pc := 54) (tgt := 60) hx hb dX0_mean_54 (by decide) ?_
      have e9 := rs1 hm
      subst e9
      exact rk_lretP (pc := 60) hx hb hr hlk rfl dX0_mean_60
  · have hm := ite_f c1 hm
    refine lv_iload_n (pc := 15) hx hb dX0_mean_15 rfl (lv_at hl 2 rfl) ?_
    refine lv_aload_n (pc := 16) hx hb dX0_mean_16 rfl (lv_at hl 0 rfl) ?_
    refine rk_get (pc := 17) hx hb hts hown hK hW0 flX0_12 0 (by decide) rfl rfl (x := .ref (b0 + 1)) (by first | rfl | exact congrArg (fun z => some (Value.ref z)) (by omega)) dX0_mean_17 ?_
    refine rk_getN (pc := 20) hx hb hts hown hK hW0 fnX0_151 1 (by decide) rfl rfl (x := .ref (b0 + 2)) (by first | rfl | exact congrArg (fun z => some (Value.ref z)) (by omega)) dX0_mean_20 ?_
    refine lv_iload_n (pc := 23) hx hb dX0_mean_23 rfl (lv_at hl 3 rfl) ?_
    obtain ⟨hg7, hm⟩ := gb_some hm
    refine rk_iald (pc := 24) hx hb hK hW0 2 (by decide) rfl rfl hg7 (x := (gI V0 2 i3.toNatClampNeg)) rfl dX0_mean_24 ?_
    refine lv_iadd (pc := 25) hx hb dX0_mean_25 ?_
    refine lv_istore_n (pc := 26) (lv' := [(2, .int (i2 + (gI V0 2 i3.toNatClampNeg))), (0, .ref b0), (1, .int i1), (3, .int i3)]) hx hb dX0_mean_26 rfl hl (by decide) rfl (fun ls hl => ?_)
    refine lv_iinc (pc := 27) (v := (i3 + (1 : Int32))) (lv' := [(3, .int (i3 + (1 : Int32))), (2, .int (i2 + (gI V0 2 i3.toNatClampNeg))), (0, .ref b0), (1, .int i1)]) hx hb dX0_mean_27 hl (k := 3) rfl rfl (by decide) rfl (fun ls hl => ?_)
    refine lv_goto (pc := 30) (tgt := 4) hx hb dX0_mean_30 (by decide) ?_
    exact hk4 i1 (i2 + (gI V0 2 i3.toNatClampNeg)) (i3 + (1 : Int32)) hm ls (lv_sub hl [2, 3, 1, 0] rfl)
theorem w_fX0_mean_4_l (C : Cx G p s m args meth c RX0 cX0_mean 4 (some .long)) {b0 : Nat} {V0 : Mem} {rx : Int64} (hW0 : rg G b0 357 (shX0 G.2.1) V0 s.heap) : ∀ (n : Nat) (i1 : Int32) (i2 : Int32) (i3 : Int32), lq3 (fX0_mean_4 V0) n i1 i2 i3 = some rx → ∀ (ls : Array Slot), lv_has ls 4 [(0, .ref b0), (1, .int i1), (2, .int i2), (3, .int i3)] → W p l e (rmP 2 53) s m args below meth c s.heap [] 0 0 (MQ below (QcP (some (.long rx))) args s 0 0 (fun _ => False)) (F0 m 4 ls []) := by
  intro n
  induction n with
  | zero => intro i1 i2 i3 hm; exact (lq3_0 hm).elim
  | succ n ih => intro i1 i2 i3 hm; exact w_fX0_mean_4 C hW0 ih i1 i2 i3 (lq3_s hm)
set_option maxHeartbeats 4000000 in
theorem w_fX0_mean (C : Cx G p s m args meth c RX0 cX0_mean 4 (some .long)) {b0 : Nat} {V0 : Mem} {rx : Int64} (hW0 : rg G b0 357 (shX0 G.2.1) V0 s.heap) : ∀ (i1 : Int32), fX0_mean V0 i1 = some rx → ∀ (ls : Array Slot), lv_has ls 4 [(0, .ref b0), (1, .int i1)] → W p l e (rmP 2 53) s m args below meth c s.heap [] 0 0 (MQ below (QcP (some (.long rx))) args s 0 0 (fun _ => False)) (F0 m 0 ls []) := by
  intro i1 hm ls hl
  obtain ⟨hx, hb, hr, hlk, hml, hown, hts, hK⟩ := id C
  unfold fX0_mean at hm
  refine lv_iconst (pc := 0) (v := (0 : Int32)) hx hb dX0_mean_0 (by decide) ?_
  refine lv_istore_n (pc := 1) (lv' := [(2, .int (0 : Int32)), (0, .ref b0), (1, .int i1)]) hx hb dX0_mean_1 rfl hl (by decide) rfl (fun ls hl => ?_)
  refine lv_iconst (pc := 2) (v := (0 : Int32)) hx hb dX0_mean_2 (by decide) ?_
  refine lv_istore_n (pc := 3) (lv' := [(3, .int (0 : Int32)), (2, .int (0 : Int32)), (0, .ref b0), (1, .int i1)]) hx hb dX0_mean_3 rfl hl (by decide) rfl (fun ls hl => ?_)
  exact (w_fX0_mean_4_l C hW0 FU) i1 (0 : Int32) (0 : Int32) hm ls (lv_sub hl [2, 3, 1, 0] rfl)
set_option maxHeartbeats 4000000 in
theorem ct_X0_mean {G : Gv} {l : Launch} {b0 : Nat} {V0 : Mem} {i1 : Int32} {rx : Int64} (hm : fX0_mean V0 i1 = some rx) : CP G l yX0_mean (ws_ yX0_mean cX0_mean 4 (some .long)) 2 53 [.ref b0, .int i1] (fun H => rg G b0 357 (shX0 G.2.1) V0 H) (some (.long rx)) := by
  refine Met.ofW (cc := cX0_mean) (maxL := 4) (ret := (some .long)) (by decide +kernel) rfl ?_
  intro p e s m args below meth c s₁ B hml hv
  obtain ⟨rfl, hW0, hK⟩ := hv
  have hts := atoms_spec (ws := ws_ yX0_mean cX0_mean 4 (some .long)) B.pre
  have hts : ∀ w ∈ lw_all, w.before _ s = true := fun w h => hts w (List.mem_cons_of_mem _ h)
  have C : Cx G p s m _ meth c RX0 cX0_mean 4 (some .long) := ⟨B.exec, B.bytes, B.returns, B.notSynchronized, hml, findClass_of_methodNamed B.named, hts, hK⟩
  have hl := lv_entry ([.ref b0, .int i1]) (n := 4) (Nat.le_of_ble_eq_true rfl)
  rw [lg_entry_eq]
  generalize (lg_sl ([.ref b0, .int i1]) ++ List.replicate (4 - (lg_sl ([.ref b0, .int i1])).length) Slot.unset).toArray = ls at hl ⊢
  have hl : lv_has ls 4 [(0, .ref b0), (1, .int i1)] := hl
  exact w_fX0_mean C hW0 _ hm ls hl
theorem flX0_490 : FL RX0 490 0 22 RX0 TX0 25 := ⟨in_X0, rfl, by decide, q520⟩
noncomputable def fX0_draw (v0 : Mem) (i1 : Int32) : Option (Int32 × Mem) :=
  lm (sI v0 0 22 (((gI v0 0 22) * (1103515245 : Int32)) + (12345 : Int32))) fun v0_1 =>
  gb (nz32 i1) (
  some ((((gI v0_1 0 22).toUInt32 >>> ((9 : Int32).toUInt32 &&& Int32.toUInt32 31)).toInt32 - ((gI v0_1 0 22).toUInt32 >>> ((9 : Int32).toUInt32 &&& Int32.toUInt32 31)).toInt32 / i1 * i1), v0_1))
set_option maxHeartbeats 4000000 in
theorem w_fX0_draw (C : Cx G p s m args meth c RX0 cX0_draw 2 (some .int)) {b0 : Nat} {rx : Int32} {rw0 : Mem} : ∀ (v0 : Mem) (i1 : Int32), fX0_draw v0 i1 = some (rx, rw0) → ∀ (H : Heap) (locs : List Loc) (ls : Array Slot), rg G b0 357 (shX0 G.2.1) v0 H → va_S (FA (fX b0) s.heap.size) s.heap H locs → H.size = s.heap.size → lv_has ls 2 [(0, .ref b0), (1, .int i1)] → W p l e (rmT 0 0 0 0) s m args below meth c H locs 0 0 (MQ below (QcT (FA (fX b0) s.heap.size) (fun ov H => ov = (some (.int rx)) ∧ rg G b0 357 (shX0 G.2.1) rw0 H ∧ H.size = s.heap.size)) args s 0 0 (FA (fX b0) s.heap.size)) (F0 m 0 ls []) := by
  intro v0 i1 hm H locs ls hW0 hS hz hl
  obtain ⟨hx, hb, hr, hlk, hml, hown, hts, hK⟩ := id C
  unfold fX0_draw at hm
  refine lv_aload_n (pc := 0) hx hb dX0_draw_0 rfl (lv_at hl 0 rfl) ?_
  refine lv_aload_n (pc := 1) hx hb dX0_draw_1 rfl (lv_at hl 0 rfl) ?_
  refine rk_get (pc := 2) hx hb hts hown hK hW0 flX0_490 0 (by decide) rfl rfl (x := .int (gI v0 0 22)) rfl dX0_draw_2 ?_
  refine lv_ldcw (pc := 5) (v := (1103515245 : Int32)) hx hb hown (hts _ q1329) dX0_draw_5 ?_
  refine lv_imul (pc := 8) hx hb dX0_draw_8 ?_
  refine lv_sipush (pc := 9) (v := (12345 : Int32)) hx hb dX0_draw_9 (by decide) ?_
  refine lv_iadd (pc := 12) hx hb dX0_draw_12 ?_
  refine rk_put (pc := 13) hx hb hts hown hK hW0 hS flX0_490 ft_X0 0 (by decide) rfl (Or.inl (show fX _ _ from ⟨⟨by omega, by omega⟩, by omega⟩)) rfl rfl (x := .int (((gI v0 0 22) * (1103515245 : Int32)) + (12345 : Int32))) rfl rfl (Nat.le_of_ble_eq_true rfl) (sI v0 0 22 (((gI v0 0 22) * (1103515245 : Int32)) + (12345 : Int32))) sI_ne (by rw [sI_eq]; exact rfl) dX0_draw_13 (fun H2 locs3 hW4 hS5 hz6 hkp7 => ?_)
  obtain ⟨v0_1, he9, hm⟩ := lm_some hm
  rw [he9] at hW4
  have hz8 := hz6.trans hz
  refine lv_aload_n (pc := 16) hx hb dX0_draw_16 rfl (lv_at hl 0 rfl) ?_
  refine rk_get (pc := 17) hx hb hts hown hK hW4 flX0_490 0 (by decide) rfl rfl (x := .int (gI v0_1 0 22)) rfl dX0_draw_17 ?_
  refine lv_bipush (pc := 20) (v := (9 : Int32)) hx hb dX0_draw_20 (by decide) ?_
  refine lv_iushr (pc := 22) hx hb dX0_draw_22 rfl ?_
  refine lv_iload_n (pc := 23) hx hb dX0_draw_23 rfl (lv_at hl 1 rfl) ?_
  obtain ⟨hg9, hm⟩ := gb_some hm
  refine lv_irem (pc := 24) hx hb dX0_draw_24 (nz32_ne hg9) ?_
  obtain ⟨e8, e9⟩ := rs2 hm
  subst e8
  subst e9
  exact rk_iret (pc := 25) hx hb hr hlk hS5 ⟨rfl, hW4, hz8⟩ dX0_draw_25
set_option maxHeartbeats 4000000 in
theorem ct_X0_draw {G : Gv} {l : Launch} {b0 : Nat} {v0 : Mem} {i1 : Int32} {rx : Int32} {rw0 : Mem} {sz : Nat} (hm : fX0_draw v0 i1 = some (rx, rw0)) : CT G l yX0_draw (ws_ yX0_draw cX0_draw 2 (some .int)) 0 0 0 0 [.ref b0, .int i1] (fX b0) sz (fun H => rg G b0 357 (shX0 G.2.1) v0 H) (fun ov H => ov = (some (.int rx)) ∧ rg G b0 357 (shX0 G.2.1) rw0 H ∧ H.size = sz) := by
  refine Met.ofW (cc := cX0_draw) (maxL := 2) (ret := (some .int)) (by decide +kernel) rfl ?_
  intro p e s m args below meth c s₁ B hml hv
  obtain ⟨rfl, ⟨hz, hW0⟩, hK⟩ := hv
  subst hz
  have hts := atoms_spec (ws := ws_ yX0_draw cX0_draw 2 (some .int)) B.pre
  have hts : ∀ w ∈ lw_all, w.before _ s = true := fun w h => hts w (List.mem_cons_of_mem _ h)
  have C : Cx G p s m _ meth c RX0 cX0_draw 2 (some .int) := ⟨B.exec, B.bytes, B.returns, B.notSynchronized, hml, findClass_of_methodNamed B.named, hts, hK⟩
  have hl := lv_entry ([.ref b0, .int i1]) (n := 2) (Nat.le_of_ble_eq_true rfl)
  rw [lg_entry_eq]
  generalize (lg_sl ([.ref b0, .int i1]) ++ List.replicate (2 - (lg_sl ([.ref b0, .int i1])).length) Slot.unset).toArray = ls at hl ⊢
  have hl : lv_has ls 2 [(0, .ref b0), (1, .int i1)] := hl
  exact w_fX0_draw C _ _ hm s.heap [] ls hW0 va_S.rf rfl hl
theorem yn_X0_draw : YN yX0_draw 1 := by
  unfold YN
  decide +kernel
theorem lkX0_496 : LV RX0 496 RX0 yX0_draw cX0_draw 2 (some .int) := ⟨q1325, q1327, qs47, q114, q1328⟩
noncomputable def fX0_drawn_57 (k40 : Mem → Nat → Int32 → Int32 → Option (Int32 × Nat × Mem)) (k57 : Mem → Nat → Int32 → Int32 → Nat → Int32 → Option (Int32 × Nat × Mem)) (v0 : Mem) (zc : Nat) (i2 : Int32) (i4 : Int32) (n5 : Nat) (i6 : Int32) : Option (Int32 × Nat × Mem) :=
  if (gI v0 23 0) ≤ i6 then (
  ob2 (fX0_draw v0 (60 : Int32)) fun r67 w68 =>
  lm (sI w68 (29 + 2 * n5 + 0) 1 r67) fun v0_79 =>
  k40 v0_79 zc i2 (i4 + (1 : Int32)))
  else (
  ob2 (fX0_draw v0 (10 : Int32)) fun r88 w89 =>
  gb (inR i6 5) (
  lm (sI w89 (29 + 2 * n5 + 1) i6.toNatClampNeg r88) fun v0_101 =>
  k57 v0_101 zc i2 i4 n5 (i6 + (1 : Int32))))
noncomputable def fX0_drawn_40 (k40 : Mem → Nat → Int32 → Int32 → Option (Int32 × Nat × Mem)) (v0 : Mem) (zc : Nat) (i2 : Int32) (i4 : Int32) : Option (Int32 × Nat × Mem) :=
  if i2 ≤ i4 then (
  ob3 (fX3_worth (shf v0 23) (shf v0 110)) fun r36 rc37 w38 =>
  lm (ptm v0 110 43 w38) fun v0_48 =>
  some (r36, (zc + rc37), v0_48))
  else (
  ob2 (fX1_comes (shf v0 23) (0 : Int32) (0 : Int32)) fun nf51 w52 =>
  lm (ptm v0 23 22 w52) fun v0_63 =>
  lq6 (fX0_drawn_57 k40) FU v0_63 zc i2 i4 nf51 (0 : Int32))
noncomputable def fX0_drawn (v0 : Mem) (i1 : Int32) (i2 : Int32) : Option (Int32 × Nat × Mem) :=
  ob (fX0_in i2.toInt64 (1 : Int64) (4 : Int64)) fun r1 =>
  if r1 = 0 then (
  some ((-2 : Int32), 0, v0))
  else (
  lm (sI v0 0 22 i1) fun v0_4 =>
  ob (fX1_like (shf v0_4 1) (shf v0_4 23)) fun w13 =>
  lm (ptm v0_4 23 22 w13) fun v0_23 =>
  lm (sI v0_23 23 1 (0 : Int32)) fun v0_26 =>
  lq4 (fX0_drawn_40) FU v0_26 0 i2 (0 : Int32))
set_option maxHeartbeats 4000000 in
theorem w_fX0_drawn_57 (C : Cx G p s m args meth c RX0 cX0_drawn 7 (some .int)) {b0 : Nat} {rx : Int32} {rc : Nat} {rw0 : Mem} (he0 : b0 + 357 ≤ s.heap.size) (hZ : ZQ G) (hgb0 : gB G ≤ b0) {k40 : Mem → Nat → Int32 → Int32 → Option (Int32 × Nat × Mem)} {k57 : Mem → Nat → Int32 → Int32 → Nat → Int32 → Option (Int32 × Nat × Mem)} (hk40 : ∀ (v0 : Mem) (zc : Nat) (i2 : Int32) (i4 : Int32), k40 v0 zc i2 i4 = some (rx, rc, rw0) → ∀ (H : Heap) (locs : List Loc) (ls : Array Slot), rg G b0 357 (shX0 G.2.1) v0 H → va_S (FA (fX b0) s.heap.size) s.heap H locs → H.size = s.heap.size + zc → GO G H → lv_has ls 7 [(0, .ref b0), (2, .int i2), (3, .ref (b0 + 23)), (4, .int i4)] → W p l e (rmT 8 1 7 176) s m args below meth c H locs 0 0 (MQ below (QcT (FA (fX b0) s.heap.size) (fun ov H => ov = (some (.int rx)) ∧ rg G b0 357 (shX0 G.2.1) rw0 H ∧ H.size = s.heap.size + rc)) args s 1 7 (FA (fX b0) s.heap.size)) (F0 m 40 ls [])) (hk57 : ∀ (v0 : Mem) (zc : Nat) (i2 : Int32) (i4 : Int32) (n5 : Nat) (i6 : Int32), k57 v0 zc i2 i4 n5 i6 = some (rx, rc, rw0) → (hn_n5 : n5 < 8) → ∀ (H : Heap) (locs : List Loc) (ls : Array Slot), rg G b0 357 (shX0 G.2.1) v0 H → va_S (FA (fX b0) s.heap.size) s.heap H locs → H.size = s.heap.size + zc → GO G H → lv_has ls 7 [(0, .ref b0), (2, .int i2), (3, .ref (b0 + 23)), (4, .int i4), (5, .ref (b0 + (29 + 2 * n5 + 0))), (6, .int i6)] → W p l e (rmT 8 1 7 176) s m args below meth c H locs 0 0 (MQ below (QcT (FA (fX b0) s.heap.size) (fun ov H => ov = (some (.int rx)) ∧ rg G b0 357 (shX0 G.2.1) rw0 H ∧ H.size = s.heap.size + rc)) args s 1 7 (FA (fX b0) s.heap.size)) (F0 m 57 ls [])) : ∀ (v0 : Mem) (zc : Nat) (i2 : Int32) (i4 : Int32) (n5 : Nat) (i6 : Int32), fX0_drawn_57 k40 k57 v0 zc i2 i4 n5 i6 = some (rx, rc, rw0) → (hn_n5 : n5 < 8) → ∀ (H : Heap) (locs : List Loc) (ls : Array Slot), rg G b0 357 (shX0 G.2.1) v0 H → va_S (FA (fX b0) s.heap.size) s.heap H locs → H.size = s.heap.size + zc → GO G H → lv_has ls 7 [(0, .ref b0), (2, .int i2), (3, .ref (b0 + 23)), (4, .int i4), (5, .ref (b0 + (29 + 2 * n5 + 0))), (6, .int i6)] → W p l e (rmT 8 1 7 176) s m args below meth c H locs 0 0 (MQ below (QcT (FA (fX b0) s.heap.size) (fun ov H => ov = (some (.int rx)) ∧ rg G b0 357 (shX0 G.2.1) rw0 H ∧ H.size = s.heap.size + rc)) args s 1 7 (FA (fX b0) s.heap.size)) (F0 m 57 ls []) := by
  intro v0 zc i2 i4 n5 i6 hm hn_n5 H locs ls hW0 hS hz hG hl
  obtain ⟨hx, hb, hr, hlk, hml, hown, hts, hK⟩ := id C
  unfold fX0_drawn_57 at hm
  refine lv_iload (pc := 57) hx hb dX0_drawn_57 (lv_at hl 5 rfl) ?_
  refine lv_aload_n (pc := 59) hx hb dX0_drawn_59 rfl (lv_at hl 2 rfl) ?_
  refine rk_getN (pc := 60) hx hb hts hown hK hW0 fnX0_131 23 (by decide) rfl rfl (x := .int (gI v0 23 0)) rfl dX0_drawn_60 ?_
  refine lv_icmp_ge (pc := 63) (tgt := 86) hx hb dX0_drawn_63 (by decide) (fun c66 => ?_) (fun c66 => ?_)
  · have hm := ite_t c66 hm
    refine lv_aload (pc := 86) hx hb dX0_drawn_86 (lv_at hl 4 rfl) ?_
    refine lv_aload_n (pc := 88) hx hb dX0_drawn_88 rfl (lv_at hl 0 rfl) ?_
    refine lv_bipush (pc := 89) (v := (60 : Int32)) hx hb dX0_drawn_89 (by decide) ?_
    obtain ⟨r67, w68, hq69, hm⟩ := ob2_some hm
    refine rk_TV (pc := 91) (As := [.int (60 : Int32)]) (rest := [.ref (b0 + (29 + 2 * n5 + 0))]) (mc := 0) (ms := 0) hx hb hml hown hts hK hS (fun q hq => FA_sz rfl q hq) lkX0_496 rfl yn_X0_draw (ct_X0_draw (G := G) (l := l) (b0 := b0) (sz := H.size) hq69) ⟨Nat.le_of_ble_eq_true rfl, Nat.le_of_ble_eq_true rfl⟩ (fun z h => Or.inl h) (rk_recv hK hW0 0 (by decide) rfl rfl rfl) hW0 rfl rfl hl.1 (Nat.le_of_ble_eq_true rfl) dX0_drawn_91 ⟨Nat.zero_le _, Nat.zero_le _⟩ (fun ov9 H70 locs71 hP72 hkp73 hS74 => ?_)
    obtain ⟨rfl, hW75, hz76⟩ := hP72
    have hG77 := GO_keepA hG hkp73 (Nat.le_trans (show gB G ≤ s.heap.size by omega) hS.1) (by intro z h3; have h8 := h3.1.1; have h9 := h3.1.2; omega)
    have hz78 := hz76.trans hz
    refine W.eq (g2 := F0 m 94 ls [.int r67, .ref (b0 + (29 + 2 * n5 + 0))]) rfl ?_
    refine rk_putN (pc := 94) hx hb hts hown hK hW75 hS74 fnX0_181 ft_X2 (29 + 2 * n5 + 0) (by omega) rfl (Or.inl (show fX _ _ from ⟨⟨by omega, by omega⟩, by omega⟩)) ((shX0_f29 G.2.1 hn_n5 _ rfl 0 (by decide) _ _ _).trans rfl) rfl (x := .int r67) rfl rfl (Nat.le_of_ble_eq_true rfl) (sI w68 (29 + 2 * n5 + 0) 1 r67) sI_ne (by rw [sI_eq]; exact ((shX0_f29 G.2.1 hn_n5 _ rfl 0 (by decide) _ _ _).trans rfl)) dX0_drawn_94 (fun H80 locs81 hW82 hS83 hz84 hkp85 => ?_)
    obtain ⟨v0_79, he9, hm⟩ := lm_some hm
    rw [he9] at hW82
    have hz86 := hz84.trans hz78
    have hG87 := GO_keepq hG77 hkp85 (by omega)
    refine lv_iinc (pc := 97) (v := (i4 + (1 : Int32))) (lv' := [(4, .int (i4 + (1 : Int32))), (0, .ref b0), (2, .int i2), (3, .ref (b0 + 23)), (5, .ref (b0 + (29 + 2 * n5 + 0))), (6, .int i6)]) hx hb dX0_drawn_97 hl (k := 3) rfl rfl (by decide) rfl (fun ls hl => ?_)
    refine lv_goto (pc := 100) (tgt := 40) hx hb dX0_drawn_100 (by decide) ?_
    exact hk40 v0_79 zc i2 (i4 + (1 : Int32)) hm H80 locs81 ls hW82 hS83 hz86 hG87 (lv_sub hl [1, 2, 3, 0] rfl)
  · have hm := ite_f c66 hm
    refine lv_aload (pc := 66) hx hb dX0_drawn_66 (lv_at hl 4 rfl) ?_
    refine rk_getN (pc := 68) hx hb hts hown hK hW0 fnX0_176 (29 + 2 * n5 + 0) (by omega) rfl ((shX0_f29 G.2.1 hn_n5 _ rfl 0 (by decide) _ _ _).trans rfl) (x := .ref (b0 + (29 + 2 * n5 + 1))) (by first | rfl | exact congrArg (fun z => some (Value.ref z)) (by omega)) dX0_drawn_68 ?_
    refine lv_iload (pc := 71) hx hb dX0_drawn_71 (lv_at hl 5 rfl) ?_
    refine lv_aload_n (pc := 73) hx hb dX0_drawn_73 rfl (lv_at hl 0 rfl) ?_
    refine lv_bipush (pc := 74) (v := (10 : Int32)) hx hb dX0_drawn_74 (by decide) ?_
    obtain ⟨r88, w89, hq90, hm⟩ := ob2_some hm
    refine rk_TV (pc := 76) (As := [.int (10 : Int32)]) (rest := [.int i6, .ref (b0 + (29 + 2 * n5 + 1))]) (mc := 0) (ms := 0) hx hb hml hown hts hK hS (fun q hq => FA_sz rfl q hq) lkX0_496 rfl yn_X0_draw (ct_X0_draw (G := G) (l := l) (b0 := b0) (sz := H.size) hq90) ⟨Nat.le_of_ble_eq_true rfl, Nat.le_of_ble_eq_true rfl⟩ (fun z h => Or.inl h) (rk_recv hK hW0 0 (by decide) rfl rfl rfl) hW0 rfl rfl hl.1 (Nat.le_of_ble_eq_true rfl) dX0_drawn_76 ⟨Nat.zero_le _, Nat.zero_le _⟩ (fun ov9 H91 locs92 hP93 hkp94 hS95 => ?_)
    obtain ⟨rfl, hW96, hz97⟩ := hP93
    have hG98 := GO_keepA hG hkp94 (Nat.le_trans (show gB G ≤ s.heap.size by omega) hS.1) (by intro z h3; have h8 := h3.1.1; have h9 := h3.1.2; omega)
    have hz99 := hz97.trans hz
    refine W.eq (g2 := F0 m 79 ls [.int r88, .int i6, .ref (b0 + (29 + 2 * n5 + 1))]) rfl ?_
    obtain ⟨hg100, hm⟩ := gb_some hm
    refine rk_iast (pc := 79) hx hb hK hW96 hS95 (29 + 2 * n5 + 1) (by omega) rfl (Or.inl (show fX _ _ from ⟨⟨by omega, by omega⟩, by omega⟩)) (fun _ _ _ => ((shX0_f29 G.2.1 hn_n5 _ rfl 1 (by decide) _ _ _).trans rfl)) hg100 dX0_drawn_79 (fun H102 locs103 hW104 hS105 hz106 hkp107 => ?_)
    obtain ⟨v0_101, he9, hm⟩ := lm_some hm
    rw [he9] at hW104
    have hz108 := hz106.trans hz99
    have hG109 := GO_keepq hG98 hkp107 (by omega)
    refine lv_iinc (pc := 80) (v := (i6 + (1 : Int32))) (lv' := [(6, .int (i6 + (1 : Int32))), (0, .ref b0), (2, .int i2), (3, .ref (b0 + 23)), (4, .int i4), (5, .ref (b0 + (29 + 2 * n5 + 0)))]) hx hb dX0_drawn_80 hl (k := 5) rfl rfl (by decide) rfl (fun ls hl => ?_)
    refine lv_goto (pc := 83) (tgt := 57) hx hb dX0_drawn_83 (by decide) ?_
    exact hk57 v0_101 zc i2 i4 n5 (i6 + (1 : Int32)) hm hn_n5 H102 locs103 ls hW104 hS105 hz108 hG109 (lv_sub hl [1, 2, 3, 4, 5, 0] rfl)
theorem w_fX0_drawn_57_l (C : Cx G p s m args meth c RX0 cX0_drawn 7 (some .int)) {b0 : Nat} {rx : Int32} {rc : Nat} {rw0 : Mem} (he0 : b0 + 357 ≤ s.heap.size) (hZ : ZQ G) (hgb0 : gB G ≤ b0) {k40 : Mem → Nat → Int32 → Int32 → Option (Int32 × Nat × Mem)} (hk40 : ∀ (v0 : Mem) (zc : Nat) (i2 : Int32) (i4 : Int32), k40 v0 zc i2 i4 = some (rx, rc, rw0) → ∀ (H : Heap) (locs : List Loc) (ls : Array Slot), rg G b0 357 (shX0 G.2.1) v0 H → va_S (FA (fX b0) s.heap.size) s.heap H locs → H.size = s.heap.size + zc → GO G H → lv_has ls 7 [(0, .ref b0), (2, .int i2), (3, .ref (b0 + 23)), (4, .int i4)] → W p l e (rmT 8 1 7 176) s m args below meth c H locs 0 0 (MQ below (QcT (FA (fX b0) s.heap.size) (fun ov H => ov = (some (.int rx)) ∧ rg G b0 357 (shX0 G.2.1) rw0 H ∧ H.size = s.heap.size + rc)) args s 1 7 (FA (fX b0) s.heap.size)) (F0 m 40 ls [])) : ∀ (n : Nat) (v0 : Mem) (zc : Nat) (i2 : Int32) (i4 : Int32) (n5 : Nat) (i6 : Int32), lq6 (fX0_drawn_57 k40) n v0 zc i2 i4 n5 i6 = some (rx, rc, rw0) → (hn_n5 : n5 < 8) → ∀ (H : Heap) (locs : List Loc) (ls : Array Slot), rg G b0 357 (shX0 G.2.1) v0 H → va_S (FA (fX b0) s.heap.size) s.heap H locs → H.size = s.heap.size + zc → GO G H → lv_has ls 7 [(0, .ref b0), (2, .int i2), (3, .ref (b0 + 23)), (4, .int i4), (5, .ref (b0 + (29 + 2 * n5 + 0))), (6, .int i6)] → W p l e (rmT 8 1 7 176) s m args below meth c H locs 0 0 (MQ below (QcT (FA (fX b0) s.heap.size) (fun ov H => ov = (some (.int rx)) ∧ rg G b0 357 (shX0 G.2.1) rw0 H ∧ H.size = s.heap.size + rc)) args s 1 7 (FA (fX b0) s.heap.size)) (F0 m 57 ls []) := by
  intro n
  induction n with
  | zero => intro v0 zc i2 i4 n5 i6 hm; exact (lq6_0 hm).elim
  | succ n ih => intro v0 zc i2 i4 n5 i6 hm; exact w_fX0_drawn_57 C he0 hZ hgb0 hk40 ih v0 zc i2 i4 n5 i6 (lq6_s hm)
set_option maxHeartbeats 4000000 in
theorem w_fX0_drawn_40 (C : Cx G p s m args meth c RX0 cX0_drawn 7 (some .int)) {b0 : Nat} {rx : Int32} {rc : Nat} {rw0 : Mem} (he0 : b0 + 357 ≤ s.heap.size) (hZ : ZQ G) (hgb0 : gB G ≤ b0) {k40 : Mem → Nat → Int32 → Int32 → Option (Int32 × Nat × Mem)} (hk40 : ∀ (v0 : Mem) (zc : Nat) (i2 : Int32) (i4 : Int32), k40 v0 zc i2 i4 = some (rx, rc, rw0) → ∀ (H : Heap) (locs : List Loc) (ls : Array Slot), rg G b0 357 (shX0 G.2.1) v0 H → va_S (FA (fX b0) s.heap.size) s.heap H locs → H.size = s.heap.size + zc → GO G H → lv_has ls 7 [(0, .ref b0), (2, .int i2), (3, .ref (b0 + 23)), (4, .int i4)] → W p l e (rmT 8 1 7 176) s m args below meth c H locs 0 0 (MQ below (QcT (FA (fX b0) s.heap.size) (fun ov H => ov = (some (.int rx)) ∧ rg G b0 357 (shX0 G.2.1) rw0 H ∧ H.size = s.heap.size + rc)) args s 1 7 (FA (fX b0) s.heap.size)) (F0 m 40 ls [])) : ∀ (v0 : Mem) (zc : Nat) (i2 : Int32) (i4 : Int32), fX0_drawn_40 k40 v0 zc i2 i4 = some (rx, rc, rw0) → ∀ (H : Heap) (locs : List Loc) (ls : Array Slot), rg G b0 357 (shX0 G.2.1) v0 H → va_S (FA (fX b0) s.heap.size) s.heap H locs → H.size = s.heap.size + zc → GO G H → lv_has ls 7 [(0, .ref b0), (2, .int i2), (3, .ref (b0 + 23)), (4, .int i4)] → W p l e (rmT 8 1 7 176) s m args below meth c H locs 0 0 (MQ below (QcT (FA (fX b0) s.heap.size) (fun ov H => ov = (some (.int rx)) ∧ rg G b0 357 (shX0 G.2.1) rw0 H ∧ H.size = s.heap.size + rc)) args s 1 7 (FA (fX b0) s.heap.size)) (F0 m 40 ls []) := by
  intro v0 zc i2 i4 hm H locs ls hW0 hS hz hG hl
  obtain ⟨hx, hb, hr, hlk, hml, hown, hts, hK⟩ := id C
  unfold fX0_drawn_40 at hm
  refine lv_iload (pc := 40) hx hb dX0_drawn_40 (lv_at hl 3 rfl) ?_
  refine lv_iload_n (pc := 42) hx hb dX0_drawn_42 rfl (lv_at hl 1 rfl) ?_
  refine lv_icmp_ge (pc := 43) (tgt := 103) hx hb dX0_drawn_43 (by decide) (fun c35 => ?_) (fun c35 => ?_)
  · have hm := ite_t c35 hm
    refine lv_aload_n (pc := 103) hx hb dX0_drawn_103 rfl (lv_at hl 0 rfl) ?_
    refine rk_get (pc := 104) hx hb hts hown hK hW0 flX0_31 0 (by decide) rfl rfl (x := .ref (b0 + 110)) (by first | rfl | exact congrArg (fun z => some (Value.ref z)) (by omega)) dX0_drawn_104 ?_
    refine lv_aload_n (pc := 107) hx hb dX0_drawn_107 rfl (lv_at hl 2 rfl) ?_
    obtain ⟨r36, rc37, w38, hq39, hm⟩ := ob3_some hm
    refine rk_TV (pc := 108) (As := [.ref (b0 + 23)]) (rest := []) (mc := 1) (ms := 7) hx hb hml hown hts hK hS (fun q hq => FA_sz rfl q hq) lkX0_472 rfl yn_X3_worth (ct_X3_worth (G := G) (l := l) (b0 := (b0 + 110)) (b1 := (b0 + 23)) (sz := H.size) hq39 (by omega) hZ (by omega) (by omega)) ⟨Nat.le_of_ble_eq_true rfl, Nat.le_of_ble_eq_true rfl⟩ (fun z h => Or.inl (show fX _ _ from ⟨⟨by have h8 := h.1; have h9 := h.2; omega, by have h8 := h.1; have h9 := h.2; omega⟩, by have h8 := h.1; have h9 := h.2; omega⟩)) (rk_recv hK hW0 110 (by decide) rfl rfl rfl) ⟨(rg_sub hW0 rfl (by decide) (fun o ho x y z => shX0_n110 G.2.1 _ rfl o ho x y z)), (rg_sub hW0 rfl (by decide) (fun o ho x y z => shX0_n23 G.2.1 _ rfl o ho x y z)), hG⟩ rfl rfl hl.1 (Nat.le_of_ble_eq_true rfl) dX0_drawn_108 ⟨Nat.le_of_ble_eq_true rfl, Nat.le_of_ble_eq_true rfl⟩ (fun ov9 H40 locs41 hP42 hkp43 hS44 => ?_)
    obtain ⟨rfl, hW45, hz46⟩ := hP42
    have hW47 := rg_put (d := 110) hW0 hW45 rfl (fun o ho x y z => shX0_n110 G.2.1 _ rfl o ho x y z) hkp43
    obtain ⟨v0_48, he9, hm⟩ := lm_some hm
    rw [he9] at hW47
    have hG49 := GO_keepA hG hkp43 (Nat.le_trans (show gB G ≤ s.heap.size by omega) hS.1) (by intro z h3; have h8 := h3.1; have h9 := h3.2; omega)
    have hz50 : H40.size = s.heap.size + (zc + rc37) := by omega
    refine W.eq (g2 := F0 m 111 ls [.int r36]) rfl ?_
    obtain ⟨e7, e8, e9⟩ := rs3 hm
    subst e7
    subst e8
    subst e9
    exact rk_iretA (pc := 111) hx hb hr hlk hS44 ⟨rfl, hW47, hz50⟩ dX0_drawn_111 (by exact Nat.le_of_ble_eq_true rfl) (by exact Nat.le_of_ble_eq_true rfl)
  · have hm := ite_f c35 hm
    refine lv_aload_n (pc := 46) hx hb dX0_drawn_46 rfl (lv_at hl 2 rfl) ?_
    refine lv_iconst (pc := 47) (v := (0 : Int32)) hx hb dX0_drawn_47 (by decide) ?_
    refine lv_iconst (pc := 48) (v := (0 : Int32)) hx hb dX0_drawn_48 (by decide) ?_
    obtain ⟨nf51, w52, hq53, hm⟩ := ob2_some hm
    refine rk_TV (pc := 49) (As := [.int (0 : Int32), .int (0 : Int32)]) (rest := []) (mc := 0) (ms := 0) hx hb hml hown hts hK hS (fun q hq => FA_sz rfl q hq) lkX0_161 rfl yn_X1_comes (ct_X1_comes (G := G) (l := l) (b0 := (b0 + 23)) (sz := H.size) hq53) ⟨Nat.le_of_ble_eq_true rfl, Nat.le_of_ble_eq_true rfl⟩ (fun z h => Or.inl (show fX _ _ from ⟨⟨by have h8 := h.1; have h9 := h.2; omega, by have h8 := h.1; have h9 := h.2; omega⟩, by have h8 := h.1; have h9 := h.2; omega⟩)) (rk_recv hK hW0 23 (by decide) rfl rfl rfl) (rg_sub hW0 rfl (by decide) (fun o ho x y z => shX0_n23 G.2.1 _ rfl o ho x y z)) rfl rfl hl.1 (Nat.le_of_ble_eq_true rfl) dX0_drawn_49 ⟨Nat.zero_le _, Nat.zero_le _⟩ (fun ov9 H54 locs55 hP56 hkp57 hS58 => ?_)
    obtain ⟨rfl, hW59, hz60, hlt61⟩ := hP56
    have hW62 := rg_put (d := 23) hW0 hW59 rfl (fun o ho x y z => shX0_n23 G.2.1 _ rfl o ho x y z) hkp57
    obtain ⟨v0_63, he9, hm⟩ := lm_some hm
    rw [he9] at hW62
    have hG64 := GO_keepA hG hkp57 (Nat.le_trans (show gB G ≤ s.heap.size by omega) hS.1) (by intro z h3; have h8 := h3.1; have h9 := h3.2; omega)
    have hz65 := hz60.trans hz
    refine W.eq (g2 := F0 m 52 ls [.ref (b0 + (29 + 2 * nf51 + 0))]) (by first | rfl | exact congrArg (fun z => F0 m 52 ls (Value.ref z :: [])) (show _ = (b0 + (29 + 2 * nf51 + 0)) by omega)) ?_
    refine lv_astore (pc := 52) (lv' := [(5, .ref (b0 + (29 + 2 * nf51 + 0))), (0, .ref b0), (2, .int i2), (3, .ref (b0 + 23)), (4, .int i4)]) hx hb dX0_drawn_52 hl (by decide) rfl (fun ls hl => ?_)
    refine lv_iconst (pc := 54) (v := (0 : Int32)) hx hb dX0_drawn_54 (by decide) ?_
    refine lv_istore (pc := 55) (lv' := [(6, .int (0 : Int32)), (5, .ref (b0 + (29 + 2 * nf51 + 0))), (0, .ref b0), (2, .int i2), (3, .ref (b0 + 23)), (4, .int i4)]) hx hb dX0_drawn_55 hl (by decide) rfl (fun ls hl => ?_)
    exact (w_fX0_drawn_57_l C he0 hZ hgb0 hk40 FU) v0_63 zc i2 i4 nf51 (0 : Int32) hm hlt61 H54 locs55 ls hW62 hS58 hz65 hG64 (lv_sub hl [2, 3, 4, 5, 1, 0] rfl)
theorem w_fX0_drawn_40_l (C : Cx G p s m args meth c RX0 cX0_drawn 7 (some .int)) {b0 : Nat} {rx : Int32} {rc : Nat} {rw0 : Mem} (he0 : b0 + 357 ≤ s.heap.size) (hZ : ZQ G) (hgb0 : gB G ≤ b0) : ∀ (n : Nat) (v0 : Mem) (zc : Nat) (i2 : Int32) (i4 : Int32), lq4 (fX0_drawn_40) n v0 zc i2 i4 = some (rx, rc, rw0) → ∀ (H : Heap) (locs : List Loc) (ls : Array Slot), rg G b0 357 (shX0 G.2.1) v0 H → va_S (FA (fX b0) s.heap.size) s.heap H locs → H.size = s.heap.size + zc → GO G H → lv_has ls 7 [(0, .ref b0), (2, .int i2), (3, .ref (b0 + 23)), (4, .int i4)] → W p l e (rmT 8 1 7 176) s m args below meth c H locs 0 0 (MQ below (QcT (FA (fX b0) s.heap.size) (fun ov H => ov = (some (.int rx)) ∧ rg G b0 357 (shX0 G.2.1) rw0 H ∧ H.size = s.heap.size + rc)) args s 1 7 (FA (fX b0) s.heap.size)) (F0 m 40 ls []) := by
  intro n
  induction n with
  | zero => intro v0 zc i2 i4 hm; exact (lq4_0 hm).elim
  | succ n ih => intro v0 zc i2 i4 hm; exact w_fX0_drawn_40 C he0 hZ hgb0 ih v0 zc i2 i4 (lq4_s hm)
set_option maxHeartbeats 4000000 in
theorem w_fX0_drawn (C : Cx G p s m args meth c RX0 cX0_drawn 7 (some .int)) {b0 : Nat} {rx : Int32} {rc : Nat} {rw0 : Mem} (he0 : b0 + 357 ≤ s.heap.size) (hZ : ZQ G) (hgb0 : gB G ≤ b0) : ∀ (v0 : Mem) (i1 : Int32) (i2 : Int32), fX0_drawn v0 i1 i2 = some (rx, rc, rw0) → ∀ (H : Heap) (locs : List Loc) (ls : Array Slot), rg G b0 357 (shX0 G.2.1) v0 H → va_S (FA (fX b0) s.heap.size) s.heap H locs → H.size = s.heap.size + 0 → GO G H → lv_has ls 7 [(0, .ref b0), (1, .int i1), (2, .int i2)] → W p l e (rmT 8 1 7 176) s m args below meth c H locs 0 0 (MQ below (QcT (FA (fX b0) s.heap.size) (fun ov H => ov = (some (.int rx)) ∧ rg G b0 357 (shX0 G.2.1) rw0 H ∧ H.size = s.heap.size + rc)) args s 1 7 (FA (fX b0) s.heap.size)) (F0 m 0 ls []) := by
  intro v0 i1 i2 hm H locs ls hW0 hS hz hG hl
  obtain ⟨hx, hb, hr, hlk, hml, hown, hts, hK⟩ := id C
  unfold fX0_drawn at hm
  refine lv_iload_n (pc := 0) hx hb dX0_drawn_0 rfl (lv_at hl 2 rfl) ?_
  refine lv_i2l (pc := 1) hx hb dX0_drawn_1 rfl ?_
  refine lv_lconst (pc := 2) (v := (1 : Int64)) hx hb dX0_drawn_2 (by decide) ?_
  refine lv_ldc2 (pc := 3) (v := (4 : Int64)) hx hb hown (hts _ q1324) dX0_drawn_3 ?_
  obtain ⟨r1, hq2, hm⟩ := ob_some hm
  refine rk_PS (pc := 6) (As := [.long i2.toInt64, .long (1 : Int64), .long (4 : Int64)]) (rest := []) hx hb hml hown hts hK lkX0_127 yn_X0_in (ct_X0_in (G := G) (l := l) hq2) ⟨Nat.le_of_ble_eq_true rfl, Nat.le_of_ble_eq_true rfl⟩ trivial rfl rfl hl.1 (Nat.le_of_ble_eq_true rfl) dX0_drawn_6 ⟨Nat.zero_le _, Nat.zero_le _⟩ ?_
  refine W.eq (g2 := F0 m 9 ls [.int r1]) rfl ?_
  refine lv_if_ne (pc := 9) (tgt := 15) hx hb dX0_drawn_9 (by decide) (fun c3 => ?_) (fun c3 => ?_)
  · have hm := ite_f c3 hm
    refine lv_aload_n (pc := 15) hx hb dX0_drawn_15 rfl (lv_at hl 0 rfl) ?_
    refine lv_iload_n (pc := 16) hx hb dX0_drawn_16 rfl (lv_at hl 1 rfl) ?_
    refine rk_put (pc := 17) hx hb hts hown hK hW0 hS flX0_490 ft_X0 0 (by decide) rfl (Or.inl (show fX _ _ from ⟨⟨by omega, by omega⟩, by omega⟩)) rfl rfl (x := .int i1) rfl rfl (Nat.le_of_ble_eq_true rfl) (sI v0 0 22 i1) sI_ne (by rw [sI_eq]; exact rfl) dX0_drawn_17 (fun H5 locs6 hW7 hS8 hz9 hkp10 => ?_)
    obtain ⟨v0_4, he9, hm⟩ := lm_some hm
    rw [he9] at hW7
    have hz11 := hz9.trans hz
    have hG12 := GO_keepq hG hkp10 (by omega)
    refine lv_aload_n (pc := 20) hx hb dX0_drawn_20 rfl (lv_at hl 0 rfl) ?_
    refine rk_get (pc := 21) hx hb hts hown hK hW7 flX0_18 0 (by decide) rfl rfl (x := .ref (b0 + 23)) (by first | rfl | exact congrArg (fun z => some (Value.ref z)) (by omega)) dX0_drawn_21 ?_
    refine lv_aload_n (pc := 24) hx hb dX0_drawn_24 rfl (lv_at hl 0 rfl) ?_
    refine rk_get (pc := 25) hx hb hts hown hK hW7 flX0_12 0 (by decide) rfl rfl (x := .ref (b0 + 1)) (by first | rfl | exact congrArg (fun z => some (Value.ref z)) (by omega)) dX0_drawn_25 ?_
    obtain ⟨w13, hq14, hm⟩ := ob_some hm
    refine rk_TV (pc := 28) (As := [.ref (b0 + 1)]) (rest := []) (mc := 0) (ms := 0) hx hb hml hown hts hK hS8 (fun q hq => FA_sz rfl q hq) lkX0_469 rfl yn_X1_like (ct_X1_like (G := G) (l := l) (b0 := (b0 + 23)) (b1 := (b0 + 1)) (sz := H5.size) hq14 (by omega)) ⟨Nat.le_of_ble_eq_true rfl, Nat.le_of_ble_eq_true rfl⟩ (fun z h => Or.inl (show fX _ _ from ⟨⟨by have h8 := h.1; have h9 := h.2; omega, by have h8 := h.1; have h9 := h.2; omega⟩, by have h8 := h.1; have h9 := h.2; omega⟩)) (rk_recv hK hW7 23 (by decide) rfl rfl rfl) ⟨(rg_sub hW7 rfl (by decide) (fun o ho x y z => shX0_n23 G.2.1 _ rfl o ho x y z)), (rg_sub hW7 rfl (by decide) (fun o ho x y z => shX0_n1 G.2.1 _ rfl o ho x y z))⟩ rfl rfl hl.1 (Nat.le_of_ble_eq_true rfl) dX0_drawn_28 ⟨Nat.zero_le _, Nat.zero_le _⟩ (fun ov9 H15 locs16 hP17 hkp18 hS19 => ?_)
    obtain ⟨rfl, hW20, hz21⟩ := hP17
    have hW22 := rg_put (d := 23) hW7 hW20 rfl (fun o ho x y z => shX0_n23 G.2.1 _ rfl o ho x y z) hkp18
    obtain ⟨v0_23, he9, hm⟩ := lm_some hm
    rw [he9] at hW22
    have hG24 := GO_keepA hG12 hkp18 (Nat.le_trans (show gB G ≤ s.heap.size by omega) hS8.1) (by intro z h3; have h8 := h3.1; have h9 := h3.2; omega)
    have hz25 := hz21.trans hz11
    refine W.eq (g2 := F0 m 31 ls [.ref (b0 + 23)]) rfl ?_
    refine lv_astore_n (pc := 31) (lv' := [(3, .ref (b0 + 23)), (0, .ref b0), (1, .int i1), (2, .int i2)]) hx hb dX0_drawn_31 rfl hl (by decide) rfl (fun ls hl => ?_)
    refine lv_aload_n (pc := 32) hx hb dX0_drawn_32 rfl (lv_at hl 0 rfl) ?_
    refine lv_iconst (pc := 33) (v := (0 : Int32)) hx hb dX0_drawn_33 (by decide) ?_
    refine rk_putN (pc := 34) hx hb hts hown hK hW22 hS19 fnX0_158 ft_X1 23 (by decide) rfl (Or.inl (show fX _ _ from ⟨⟨by omega, by omega⟩, by omega⟩)) rfl rfl (x := .int (0 : Int32)) rfl rfl (Nat.le_of_ble_eq_true rfl) (sI v0_23 23 1 (0 : Int32)) sI_ne (by rw [sI_eq]; exact rfl) dX0_drawn_34 (fun H27 locs28 hW29 hS30 hz31 hkp32 => ?_)
    obtain ⟨v0_26, he9, hm⟩ := lm_some hm
    rw [he9] at hW29
    have hz33 := hz31.trans hz25
    have hG34 := GO_keepq hG24 hkp32 (by omega)
    refine lv_iconst (pc := 37) (v := (0 : Int32)) hx hb dX0_drawn_37 (by decide) ?_
    refine lv_istore (pc := 38) (lv' := [(4, .int (0 : Int32)), (3, .ref (b0 + 23)), (0, .ref b0), (1, .int i1), (2, .int i2)]) hx hb dX0_drawn_38 hl (by decide) rfl (fun ls hl => ?_)
    exact (w_fX0_drawn_40_l C he0 hZ hgb0 FU) v0_26 0 i2 (0 : Int32) hm H27 locs28 ls hW29 hS30 hz33 hG34 (lv_sub hl [2, 4, 1, 0] rfl)
  · have hm := ite_t c3 hm
    refine lv_bipush (pc := 12) (v := (-2 : Int32)) hx hb dX0_drawn_12 (by decide) ?_
    obtain ⟨e7, e8, e9⟩ := rs3 hm
    subst e7
    subst e8
    subst e9
    exact rk_iretA (pc := 14) hx hb hr hlk hS ⟨rfl, hW0, hz⟩ dX0_drawn_14 (by exact Nat.le_of_ble_eq_true rfl) (by exact Nat.le_of_ble_eq_true rfl)
set_option maxHeartbeats 4000000 in
theorem ct_X0_drawn {G : Gv} {l : Launch} {b0 : Nat} {v0 : Mem} {i1 : Int32} {i2 : Int32} {rx : Int32} {rc : Nat} {rw0 : Mem} {sz : Nat} (hm : fX0_drawn v0 i1 i2 = some (rx, rc, rw0)) (hZ : ZQ G) (hgb0 : gB G ≤ b0) : CT G l yX0_drawn (ws_ yX0_drawn cX0_drawn 7 (some .int)) 8 1 7 176 [.ref b0, .int i1, .int i2] (fX b0) sz (fun H => rg G b0 357 (shX0 G.2.1) v0 H ∧ GO G H) (fun ov H => ov = (some (.int rx)) ∧ rg G b0 357 (shX0 G.2.1) rw0 H ∧ H.size = sz + rc) := by
  refine Met.ofW (cc := cX0_drawn) (maxL := 7) (ret := (some .int)) (by decide +kernel) rfl ?_
  intro p e s m args below meth c s₁ B hml hv
  obtain ⟨rfl, ⟨hz, hW0, hG⟩, hK⟩ := hv
  subst hz
  have he0 := rg_end hW0 356 (by decide) rfl (fun _ _ _ => rfl)
  have hts := atoms_spec (ws := ws_ yX0_drawn cX0_drawn 7 (some .int)) B.pre
  have hts : ∀ w ∈ lw_all, w.before _ s = true := fun w h => hts w (List.mem_cons_of_mem _ h)
  have C : Cx G p s m _ meth c RX0 cX0_drawn 7 (some .int) := ⟨B.exec, B.bytes, B.returns, B.notSynchronized, hml, findClass_of_methodNamed B.named, hts, hK⟩
  have hl := lv_entry ([.ref b0, .int i1, .int i2]) (n := 7) (Nat.le_of_ble_eq_true rfl)
  rw [lg_entry_eq]
  generalize (lg_sl ([.ref b0, .int i1, .int i2]) ++ List.replicate (7 - (lg_sl ([.ref b0, .int i1, .int i2])).length) Slot.unset).toArray = ls at hl ⊢
  have hl : lv_has ls 7 [(0, .ref b0), (1, .int i1), (2, .int i2)] := hl
  exact w_fX0_drawn C he0 hZ hgb0 _ _ _ hm s.heap [] ls hW0 va_S.rf rfl hG hl
theorem fnX0_555 : FN RX0 555 1 5 RX1 TX1 11 "WholePacks" := ⟨in_X1, rfl, by decide, q204⟩
theorem fnX0_558 : FN RX0 558 1 10 RX1 TX1 11 "WholePacks" := ⟨in_X1, rfl, by decide, q216⟩
noncomputable def fX0_plan_117 (v0 : Mem) (i1 : Int32) (i2 : Int32) (i3 : Int32) : Option (Int32 × Mem) :=
  if (gI v0 1 5) = (8 : Int32) then (
  some ((-4 : Int32), v0))
  else (
  gb (inR ((3 : Int32) * (gI v0 1 5)) 24) (
  lm (sI v0 6 ((3 : Int32) * (gI v0 1 5)).toNatClampNeg i1) fun v0_33 =>
  gb (inR (((3 : Int32) * (gI v0_33 1 5)) + (1 : Int32)) 24) (
  lm (sI v0_33 6 (((3 : Int32) * (gI v0_33 1 5)) + (1 : Int32)).toNatClampNeg i2) fun v0_42 =>
  gb (inR (((3 : Int32) * (gI v0_42 1 5)) + (2 : Int32)) 24) (
  lm (sI v0_42 6 (((3 : Int32) * (gI v0_42 1 5)) + (2 : Int32)).toNatClampNeg i3) fun v0_51 =>
  lm (sI v0_51 1 5 ((gI v0_51 1 5) + (1 : Int32))) fun v0_59 =>
  some ((gI v0_59 1 5), v0_59)))))
noncomputable def fX0_plan_59 (v0 : Mem) (i1 : Int32) (i2 : Int32) (i3 : Int32) : Option (Int32 × Mem) :=
  if i1 = 0 then (
  ob (fX0_in i3.toInt64 (-99 : Int64) (999 : Int64)) fun r28 =>
  if r28 = 0 then (
  some ((-2 : Int32), v0))
  else (
  fX0_plan_117 v0 i1 i2 i3))
  else (
  if i1 = (1 : Int32) then (
  ob (fX0_in i3.toInt64 (0 : Int64) (99 : Int64)) fun r25 =>
  if r25 = 0 then (
  some ((-2 : Int32), v0))
  else (
  fX0_plan_117 v0 i1 i2 i3))
  else (
  ob (fX0_in i3.toInt64 (-9 : Int64) (9 : Int64)) fun r22 =>
  if r22 = 0 then (
  some ((-2 : Int32), v0))
  else (
  fX0_plan_117 v0 i1 i2 i3)))
noncomputable def fX0_plan (v0 : Mem) (i1 : Int32) (i2 : Int32) (i3 : Int32) : Option (Int32 × Mem) :=
  if i1 = (-1 : Int32) then (
  lm (sI v0 1 5 (0 : Int32)) fun v0_12 =>
  some ((0 : Int32), v0_12))
  else (
  ob (fX0_in i1.toInt64 (0 : Int64) (2 : Int64)) fun r2 =>
  if r2 = 0 then (
  some ((-1 : Int32), v0))
  else (
  if i1 = (1 : Int32) then (
  ob (fX1_hasPack (shf v0 1) i2) fun r9 =>
  if r9 = 0 then (
  some ((-1 : Int32), v0))
  else (
  fX0_plan_59 v0 i1 i2 i3))
  else (
  ob (fX1_hasRule (shf v0 1) i2) fun r6 =>
  if r6 = 0 then (
  some ((-1 : Int32), v0))
  else (
  fX0_plan_59 v0 i1 i2 i3))))
set_option maxHeartbeats 4000000 in
theorem w_fX0_plan_117 (C : Cx G p s m args meth c RX0 cX0_plan 4 (some .int)) {b0 : Nat} {rx : Int32} {rw0 : Mem} : ∀ (v0 : Mem) (i1 : Int32) (i2 : Int32) (i3 : Int32), fX0_plan_117 v0 i1 i2 i3 = some (rx, rw0) → ∀ (H : Heap) (locs : List Loc) (ls : Array Slot), rg G b0 357 (shX0 G.2.1) v0 H → va_S (FA (fX b0) s.heap.size) s.heap H locs → H.size = s.heap.size → lv_has ls 4 [(0, .ref b0), (1, .int i1), (2, .int i2), (3, .int i3)] → W p l e (rmT 2 0 0 46) s m args below meth c H locs 0 0 (MQ below (QcT (FA (fX b0) s.heap.size) (fun ov H => ov = (some (.int rx)) ∧ rg G b0 357 (shX0 G.2.1) rw0 H ∧ H.size = s.heap.size)) args s 0 0 (FA (fX b0) s.heap.size)) (F0 m 117 ls []) := by
  intro v0 i1 i2 i3 hm H locs ls hW0 hS hz hl
  obtain ⟨hx, hb, hr, hlk, hml, hown, hts, hK⟩ := id C
  unfold fX0_plan_117 at hm
  refine lv_aload_n (pc := 117) hx hb dX0_plan_117 rfl (lv_at hl 0 rfl) ?_
  refine rk_get (pc := 118) hx hb hts hown hK hW0 flX0_12 0 (by decide) rfl rfl (x := .ref (b0 + 1)) (by first | rfl | exact congrArg (fun z => some (Value.ref z)) (by omega)) dX0_plan_118 ?_
  refine rk_getN (pc := 121) hx hb hts hown hK hW0 fnX0_555 1 (by decide) rfl rfl (x := .int (gI v0 1 5)) rfl dX0_plan_121 ?_
  refine lv_bipush (pc := 124) (v := (8 : Int32)) hx hb dX0_plan_124 (by decide) ?_
  refine lv_icmp_ne (pc := 126) (tgt := 132) hx hb dX0_plan_126 (by decide) (fun c31 => ?_) (fun c31 => ?_)
  · have hm := ite_f c31 hm
    refine lv_aload_n (pc := 132) hx hb dX0_plan_132 rfl (lv_at hl 0 rfl) ?_
    refine rk_get (pc := 133) hx hb hts hown hK hW0 flX0_12 0 (by decide) rfl rfl (x := .ref (b0 + 1)) (by first | rfl | exact congrArg (fun z => some (Value.ref z)) (by omega)) dX0_plan_133 ?_
    refine rk_getN (pc := 136) hx hb hts hown hK hW0 fnX0_558 1 (by decide) rfl rfl (x := .ref (b0 + 6)) (by first | rfl | exact congrArg (fun z => some (Value.ref z)) (by omega)) dX0_plan_136 ?_
    refine lv_iconst (pc := 139) (v := (3 : Int32)) hx hb dX0_plan_139 (by decide) ?_
    refine lv_aload_n (pc := 140) hx hb dX0_plan_140 rfl (lv_at hl 0 rfl) ?_
    refine rk_get (pc := 141) hx hb hts hown hK hW0 flX0_12 0 (by decide) rfl rfl (x := .ref (b0 + 1)) (by first | rfl | exact congrArg (fun z => some (Value.ref z)) (by omega)) dX0_plan_141 ?_
    refine rk_getN (pc := 144) hx hb hts hown hK hW0 fnX0_555 1 (by decide) rfl rfl (x := .int (gI v0 1 5)) rfl dX0_plan_144 ?_
    refine lv_imul (pc := 147) hx hb dX0_plan_147 ?_
    refine lv_iload_n (pc := 148) hx hb dX0_plan_148 rfl (lv_at hl 1 rfl) ?_
    obtain ⟨hg32, hm⟩ := gb_some hm
    refine rk_iast (pc := 149) hx hb hK hW0 hS 6 (by decide) rfl (Or.inl (show fX _ _ from ⟨⟨by omega, by omega⟩, by omega⟩)) (fun _ _ _ => rfl) hg32 dX0_plan_149 (fun H34 locs35 hW36 hS37 hz38 hkp39 => ?_)
    obtain ⟨v0_33, he9, hm⟩ := lm_some hm
    rw [he9] at hW36
    have hz40 := hz38.trans hz
    refine lv_aload_n (pc := 150) hx hb dX0_plan_150 rfl (lv_at hl 0 rfl) ?_
    refine rk_get (pc := 151) hx hb hts hown hK hW36 flX0_12 0 (by decide) rfl rfl (x := .ref (b0 + 1)) (by first | rfl | exact congrArg (fun z => some (Value.ref z)) (by omega)) dX0_plan_151 ?_
    refine rk_getN (pc := 154) hx hb hts hown hK hW36 fnX0_558 1 (by decide) rfl rfl (x := .ref (b0 + 6)) (by first | rfl | exact congrArg (fun z => some (Value.ref z)) (by omega)) dX0_plan_154 ?_
    refine lv_iconst (pc := 157) (v := (3 : Int32)) hx hb dX0_plan_157 (by decide) ?_
    refine lv_aload_n (pc := 158) hx hb dX0_plan_158 rfl (lv_at hl 0 rfl) ?_
    refine rk_get (pc := 159) hx hb hts hown hK hW36 flX0_12 0 (by decide) rfl rfl (x := .ref (b0 + 1)) (by first | rfl | exact congrArg (fun z => some (Value.ref z)) (by omega)) dX0_plan_159 ?_
    refine rk_getN (pc := 162) hx hb hts hown hK hW36 fnX0_555 1 (by decide) rfl rfl (x := .int (gI v0_33 1 5)) rfl dX0_plan_162 ?_
    refine lv_imul (pc := 165) hx hb dX0_plan_165 ?_
    refine lv_iconst (pc := 166) (v := (1 : Int32)) hx hb dX0_plan_166 (by decide) ?_
    refine lv_iadd (pc := 167) hx hb dX0_plan_167 ?_
    refine lv_iload_n (pc := 168) hx hb dX0_plan_168 rfl (lv_at hl 2 rfl) ?_
    obtain ⟨hg41, hm⟩ := gb_some hm
    refine rk_iast (pc := 169) hx hb hK hW36 hS37 6 (by decide) rfl (Or.inl (show fX _ _ from ⟨⟨by omega, by omega⟩, by omega⟩)) (fun _ _ _ => rfl) hg41 dX0_plan_169 (fun H43 locs44 hW45 hS46 hz47 hkp48 => ?_)
    obtain ⟨v0_42, he9, hm⟩ := lm_some hm
    rw [he9] at hW45
    have hz49 := hz47.trans hz40
    refine lv_aload_n (pc := 170) hx hb dX0_plan_170 rfl (lv_at hl 0 rfl) ?_
    refine rk_get (pc := 171) hx hb hts hown hK hW45 flX0_12 0 (by decide) rfl rfl (x := .ref (b0 + 1)) (by first | rfl | exact congrArg (fun z => some (Value.ref z)) (by omega)) dX0_plan_171 ?_
    refine rk_getN (pc := 174) hx hb hts hown hK hW45 fnX0_558 1 (by decide) rfl rfl (x := .ref (b0 + 6)) (by first | rfl | exact congrArg (fun z => some (Value.ref z)) (by omega)) dX0_plan_174 ?_
    refine lv_iconst (pc := 177) (v := (3 : Int32)) hx hb dX0_plan_177 (by decide) ?_
    refine lv_aload_n (pc := 178) hx hb dX0_plan_178 rfl (lv_at hl 0 rfl) ?_
    refine rk_get (pc := 179) hx hb hts hown hK hW45 flX0_12 0 (by decide) rfl rfl (x := .ref (b0 + 1)) (by first | rfl | exact congrArg (fun z => some (Value.ref z)) (by omega)) dX0_plan_179 ?_
    refine rk_getN (pc := 182) hx hb hts hown hK hW45 fnX0_555 1 (by decide) rfl rfl (x := .int (gI v0_42 1 5)) rfl dX0_plan_182 ?_
    refine lv_imul (pc := 185) hx hb dX0_plan_185 ?_
    refine lv_iconst (pc := 186) (v := (2 : Int32)) hx hb dX0_plan_186 (by decide) ?_
    refine lv_iadd (pc := 187) hx hb dX0_plan_187 ?_
    refine lv_iload_n (pc := 188) hx hb dX0_plan_188 rfl (lv_at hl 3 rfl) ?_
    obtain ⟨hg50, hm⟩ := gb_some hm
    refine rk_iast (pc := 189) hx hb hK hW45 hS46 6 (by decide) rfl (Or.inl (show fX _ _ from ⟨⟨by omega, by omega⟩, by omega⟩)) (fun _ _ _ => rfl) hg50 dX0_plan_189 (fun H52 locs53 hW54 hS55 hz56 hkp57 => ?_)
    obtain ⟨v0_51, he9, hm⟩ := lm_some hm
    rw [he9] at hW54
    have hz58 := hz56.trans hz49
    refine lv_aload_n (pc := 190) hx hb dX0_plan_190 rfl (lv_at hl 0 rfl) ?_
    refine rk_get (pc := 191) hx hb hts hown hK hW54 flX0_12 0 (by decide) rfl rfl (x := .ref (b0 + 1)) (by first | rfl | exact congrArg (fun z => some (Value.ref z)) (by omega)) dX0_plan_191 ?_
    refine lv_dup (pc := 194) hx hb dX0_plan_194 rfl ?_
    refine rk_getN (pc := 195) hx hb hts hown hK hW54 fnX0_555 1 (by decide) rfl rfl (x := .int (gI v0_51 1 5)) rfl dX0_plan_195 ?_
    refine lv_iconst (pc := 198) (v := (1 : Int32)) hx hb dX0_plan_198 (by decide) ?_
    refine lv_iadd (pc := 199) hx hb dX0_plan_199 ?_
    refine rk_putN (pc := 200) hx hb hts hown hK hW54 hS55 fnX0_555 ft_X1 1 (by decide) rfl (Or.inl (show fX _ _ from ⟨⟨by omega, by omega⟩, by omega⟩)) rfl rfl (x := .int ((gI v0_51 1 5) + (1 : Int32))) rfl rfl (Nat.le_of_ble_eq_true rfl) (sI v0_51 1 5 ((gI v0_51 1 5) + (1 : Int32))) sI_ne (by rw [sI_eq]; exact rfl) dX0_plan_200 (fun H60 locs61 hW62 hS63 hz64 hkp65 => ?_)
    obtain ⟨v0_59, he9, hm⟩ := lm_some hm
    rw [he9] at hW62
    have hz66 := hz64.trans hz58
    refine lv_aload_n (pc := 203) hx hb dX0_plan_203 rfl (lv_at hl 0 rfl) ?_
    refine rk_get (pc := 204) hx hb hts hown hK hW62 flX0_12 0 (by decide) rfl rfl (x := .ref (b0 + 1)) (by first | rfl | exact congrArg (fun z => some (Value.ref z)) (by omega)) dX0_plan_204 ?_
    refine rk_getN (pc := 207) hx hb hts hown hK hW62 fnX0_555 1 (by decide) rfl rfl (x := .int (gI v0_59 1 5)) rfl dX0_plan_207 ?_
    obtain ⟨e8, e9⟩ := rs2 hm
    subst e8
    subst e9
    exact rk_iret (pc := 210) hx hb hr hlk hS63 ⟨rfl, hW62, hz66⟩ dX0_plan_210
  · have hm := ite_t c31 hm
    refine lv_bipush (pc := 129) (v := (-4 : Int32)) hx hb dX0_plan_129 (by decide) ?_
    obtain ⟨e8, e9⟩ := rs2 hm
    subst e8
    subst e9
    exact rk_iret (pc := 131) hx hb hr hlk hS ⟨rfl, hW0, hz⟩ dX0_plan_131
set_option maxHeartbeats 4000000 in
theorem w_fX0_plan_59 (C : Cx G p s m args meth c RX0 cX0_plan 4 (some .int)) {b0 : Nat} {rx : Int32} {rw0 : Mem} : ∀ (v0 : Mem) (i1 : Int32) (i2 : Int32) (i3 : Int32), fX0_plan_59 v0 i1 i2 i3 = some (rx, rw0) → ∀ (H : Heap) (locs : List Loc) (ls : Array Slot), rg G b0 357 (shX0 G.2.1) v0 H → va_S (FA (fX b0) s.heap.size) s.heap H locs → H.size = s.heap.size → lv_has ls 4 [(0, .ref b0), (1, .int i1), (2, .int i2), (3, .int i3)] → W p l e (rmT 2 0 0 46) s m args below meth c H locs 0 0 (MQ below (QcT (FA (fX b0) s.heap.size) (fun ov H => ov = (some (.int rx)) ∧ rg G b0 357 (shX0 G.2.1) rw0 H ∧ H.size = s.heap.size)) args s 0 0 (FA (fX b0) s.heap.size)) (F0 m 59 ls []) := by
  intro v0 i1 i2 i3 hm H locs ls hW0 hS hz hl
  obtain ⟨hx, hb, hr, hlk, hml, hown, hts, hK⟩ := id C
  unfold fX0_plan_59 at hm
  refine lv_iload_n (pc := 59) hx hb dX0_plan_59 rfl (lv_at hl 1 rfl) ?_
  refine lv_if_ne (pc := 60) (tgt := 80) hx hb dX0_plan_60 (by decide) (fun c20 => ?_) (fun c20 => ?_)
  · have hm := ite_f c20 hm
    refine lv_iload_n (pc := 80) hx hb dX0_plan_80 rfl (lv_at hl 1 rfl) ?_
    refine lv_iconst (pc := 81) (v := (1 : Int32)) hx hb dX0_plan_81 (by decide) ?_
    refine lv_icmp_ne (pc := 82) (tgt := 100) hx hb dX0_plan_82 (by decide) (fun c21 => ?_) (fun c21 => ?_)
    · have hm := ite_f c21 hm
      refine lv_iload_n (pc := 100) hx hb dX0_plan_100 rfl (lv_at hl 3 rfl) ?_
      refine lv_i2l (pc := 101) hx hb dX0_plan_101 rfl ?_
      refine lv_ldc2 (pc := 102) (v := (-9 : Int64)) hx hb hown (hts _ q615) dX0_plan_102 ?_
      refine lv_ldc2 (pc := 105) (v := (9 : Int64)) hx hb hown (hts _ q616) dX0_plan_105 ?_
      obtain ⟨r22, hq23, hm⟩ := ob_some hm
      refine rk_PS (pc := 108) (As := [.long i3.toInt64, .long (-9 : Int64), .long (9 : Int64)]) (rest := []) hx hb hml hown hts hK lkX0_127 yn_X0_in (ct_X0_in (G := G) (l := l) hq23) ⟨Nat.le_of_ble_eq_true rfl, Nat.le_of_ble_eq_true rfl⟩ trivial rfl rfl hl.1 (Nat.le_of_ble_eq_true rfl) dX0_plan_108 ⟨Nat.zero_le _, Nat.zero_le _⟩ ?_
      refine W.eq (g2 := F0 m 111 ls [.int r22]) rfl ?_
      refine lv_if_ne (pc := 111) (tgt := 117) hx hb dX0_plan_111 (by decide) (fun c24 => ?_) (fun c24 => ?_)
      · have hm := ite_f c24 hm
        exact (w_fX0_plan_117 C) v0 i1 i2 i3 hm H locs ls hW0 hS hz (lv_sub hl [0, 1, 2, 3] rfl)
      · have hm := ite_t c24 hm
        refine lv_bipush (pc := 114) (v := (-2 : Int32)) hx hb dX0_plan_114 (by decide) ?_
        obtain ⟨e8, e9⟩ := rs2 hm
        subst e8
        subst e9
        exact rk_iret (pc := 116) hx hb hr hlk hS ⟨rfl, hW0, hz⟩ dX0_plan_116
    · have hm := ite_t c21 hm
      refine lv_iload_n (pc := 85) hx hb dX0_plan_85 rfl (lv_at hl 3 rfl) ?_
      refine lv_i2l (pc := 86) hx hb dX0_plan_86 rfl ?_
      refine lv_lconst (pc := 87) (v := (0 : Int64)) hx hb dX0_plan_87 (by decide) ?_
      refine lv_ldc2 (pc := 88) (v := (99 : Int64)) hx hb hown (hts _ q596) dX0_plan_88 ?_
      obtain ⟨r25, hq26, hm⟩ := ob_some hm
      refine rk_PS (pc := 91) (As := [.long i3.toInt64, .long (0 : Int64), .long (99 : Int64)]) (rest := []) hx hb hml hown hts hK lkX0_127 yn_X0_in (ct_X0_in (G := G) (l := l) hq26) ⟨Nat.le_of_ble_eq_true rfl, Nat.le_of_ble_eq_true rfl⟩ trivial rfl rfl hl.1 (Nat.le_of_ble_eq_true rfl) dX0_plan_91 ⟨Nat.zero_le _, Nat.zero_le _⟩ ?_
      refine W.eq (g2 := F0 m 94 ls [.int r25]) rfl ?_
      refine lv_if_eq (pc := 94) (tgt := 114) hx hb dX0_plan_94 (by decide) (fun c27 => ?_) (fun c27 => ?_)
      · have hm := ite_t c27 hm
        refine lv_bipush (pc := 114) (v := (-2 : Int32)) hx hb dX0_plan_114 (by decide) ?_
        obtain ⟨e8, e9⟩ := rs2 hm
        subst e8
        subst e9
        exact rk_iret (pc := 116) hx hb hr hlk hS ⟨rfl, hW0, hz⟩ dX0_plan_116
      · have hm := ite_f c27 hm
        refine lv_goto (pc := 97) (tgt := 117) hx hb dX0_plan_97 (by decide) ?_
        exact (w_fX0_plan_117 C) v0 i1 i2 i3 hm H locs ls hW0 hS hz (lv_sub hl [0, 1, 2, 3] rfl)
  · have hm := ite_t c20 hm
    refine lv_iload_n (pc := 63) hx hb dX0_plan_63 rfl (lv_at hl 3 rfl) ?_
    refine lv_i2l (pc := 64) hx hb dX0_plan_64 rfl ?_
    refine lv_ldc2 (pc := 65) (v := (-99 : Int64)) hx hb hown (hts _ q601) dX0_plan_65 ?_
    refine lv_ldc2 (pc := 68) (v := (999 : Int64)) hx hb hown (hts _ q602) dX0_plan_68 ?_
    obtain ⟨r28, hq29, hm⟩ := ob_some hm
    refine rk_PS (pc := 71) (As := [.long i3.toInt64, .long (-99 : Int64), .long (999 : Int64)]) (rest := []) hx hb hml hown hts hK lkX0_127 yn_X0_in (ct_X0_in (G := G) (l := l) hq29) ⟨Nat.le_of_ble_eq_true rfl, Nat.le_of_ble_eq_true rfl⟩ trivial rfl rfl hl.1 (Nat.le_of_ble_eq_true rfl) dX0_plan_71 ⟨Nat.zero_le _, Nat.zero_le _⟩ ?_
    refine W.eq (g2 := F0 m 74 ls [.int r28]) rfl ?_
    refine lv_if_eq (pc := 74) (tgt := 114) hx hb dX0_plan_74 (by decide) (fun c30 => ?_) (fun c30 => ?_)
    · have hm := ite_t c30 hm
      refine lv_bipush (pc := 114) (v := (-2 : Int32)) hx hb dX0_plan_114 (by decide) ?_
      obtain ⟨e8, e9⟩ := rs2 hm
      subst e8
      subst e9
      exact rk_iret (pc := 116) hx hb hr hlk hS ⟨rfl, hW0, hz⟩ dX0_plan_116
    · have hm := ite_f c30 hm
      refine lv_goto (pc := 77) (tgt := 117) hx hb dX0_plan_77 (by decide) ?_
      exact (w_fX0_plan_117 C) v0 i1 i2 i3 hm H locs ls hW0 hS hz (lv_sub hl [0, 1, 2, 3] rfl)
set_option maxHeartbeats 4000000 in
theorem w_fX0_plan (C : Cx G p s m args meth c RX0 cX0_plan 4 (some .int)) {b0 : Nat} {rx : Int32} {rw0 : Mem} : ∀ (v0 : Mem) (i1 : Int32) (i2 : Int32) (i3 : Int32), fX0_plan v0 i1 i2 i3 = some (rx, rw0) → ∀ (H : Heap) (locs : List Loc) (ls : Array Slot), rg G b0 357 (shX0 G.2.1) v0 H → va_S (FA (fX b0) s.heap.size) s.heap H locs → H.size = s.heap.size → lv_has ls 4 [(0, .ref b0), (1, .int i1), (2, .int i2), (3, .int i3)] → W p l e (rmT 2 0 0 46) s m args below meth c H locs 0 0 (MQ below (QcT (FA (fX b0) s.heap.size) (fun ov H => ov = (some (.int rx)) ∧ rg G b0 357 (shX0 G.2.1) rw0 H ∧ H.size = s.heap.size)) args s 0 0 (FA (fX b0) s.heap.size)) (F0 m 0 ls []) := by
  intro v0 i1 i2 i3 hm H locs ls hW0 hS hz hl
  obtain ⟨hx, hb, hr, hlk, hml, hown, hts, hK⟩ := id C
  unfold fX0_plan at hm
  refine lv_iload_n (pc := 0) hx hb dX0_plan_0 rfl (lv_at hl 1 rfl) ?_
  refine lv_iconst (pc := 1) (v := (-1 : Int32)) hx hb dX0_plan_1 (by decide) ?_
  refine lv_icmp_ne (pc := 2) (tgt := 15) hx hb dX0_plan_2 (by decide) (fun c1 => ?_) (fun c1 => ?_)
  · have hm := ite_f c1 hm
    refine lv_iload_n (pc := 15) hx hb dX0_plan_15 rfl (lv_at hl 1 rfl) ?_
    refine lv_i2l (pc := 16) hx hb dX0_plan_16 rfl ?_
    refine lv_lconst (pc := 17) (v := (0 : Int64)) hx hb dX0_plan_17 (by decide) ?_
    refine lv_ldc2 (pc := 18) (v := (2 : Int64)) hx hb hown (hts _ q1462) dX0_plan_18 ?_
    obtain ⟨r2, hq3, hm⟩ := ob_some hm
    refine rk_PS (pc := 21) (As := [.long i1.toInt64, .long (0 : Int64), .long (2 : Int64)]) (rest := []) hx hb hml hown hts hK lkX0_127 yn_X0_in (ct_X0_in (G := G) (l := l) hq3) ⟨Nat.le_of_ble_eq_true rfl, Nat.le_of_ble_eq_true rfl⟩ trivial rfl rfl hl.1 (Nat.le_of_ble_eq_true rfl) dX0_plan_21 ⟨Nat.zero_le _, Nat.zero_le _⟩ ?_
    refine W.eq (g2 := F0 m 24 ls [.int r2]) rfl ?_
    refine lv_if_eq (pc := 24) (tgt := 57) hx hb dX0_plan_24 (by decide) (fun c4 => ?_) (fun c4 => ?_)
    · have hm := ite_t c4 hm
      refine lv_iconst (pc := 57) (v := (-1 : Int32)) hx hb dX0_plan_57 (by decide) ?_
      obtain ⟨e8, e9⟩ := rs2 hm
      subst e8
      subst e9
      exact rk_iret (pc := 58) hx hb hr hlk hS ⟨rfl, hW0, hz⟩ dX0_plan_58
    · have hm := ite_f c4 hm
      refine lv_iload_n (pc := 27) hx hb dX0_plan_27 rfl (lv_at hl 1 rfl) ?_
      refine lv_iconst (pc := 28) (v := (1 : Int32)) hx hb dX0_plan_28 (by decide) ?_
      refine lv_icmp_ne (pc := 29) (tgt := 46) hx hb dX0_plan_29 (by decide) (fun c5 => ?_) (fun c5 => ?_)
      · have hm := ite_f c5 hm
        refine lv_aload_n (pc := 46) hx hb dX0_plan_46 rfl (lv_at hl 0 rfl) ?_
        refine rk_get (pc := 47) hx hb hts hown hK hW0 flX0_12 0 (by decide) rfl rfl (x := .ref (b0 + 1)) (by first | rfl | exact congrArg (fun z => some (Value.ref z)) (by omega)) dX0_plan_47 ?_
        refine lv_iload_n (pc := 50) hx hb dX0_plan_50 rfl (lv_at hl 2 rfl) ?_
        obtain ⟨r6, hq7, hm⟩ := ob_some hm
        refine rk_PV (pc := 51) (As := [.int i2]) (rest := []) hx hb hml hown hts hK lkX0_165 rfl yn_X1_hasRule (ct_X1_hasRule (G := G) (l := l) (b0 := (b0 + 1)) hq7) ⟨Nat.le_of_ble_eq_true rfl, Nat.le_of_ble_eq_true rfl⟩ (rk_recv hK hW0 1 (by decide) rfl rfl rfl) (rg_sub hW0 rfl (by decide) (fun o ho x y z => shX0_n1 G.2.1 _ rfl o ho x y z)) rfl rfl hl.1 (Nat.le_of_ble_eq_true rfl) dX0_plan_51 ⟨Nat.zero_le _, Nat.zero_le _⟩ ?_
        refine W.eq (g2 := F0 m 54 ls [.int r6]) rfl ?_
        refine lv_if_ne (pc := 54) (tgt := 59) hx hb dX0_plan_54 (by decide) (fun c8 => ?_) (fun c8 => ?_)
        · have hm := ite_f c8 hm
          exact (w_fX0_plan_59 C) v0 i1 i2 i3 hm H locs ls hW0 hS hz (lv_sub hl [0, 1, 2, 3] rfl)
        · have hm := ite_t c8 hm
          refine lv_iconst (pc := 57) (v := (-1 : Int32)) hx hb dX0_plan_57 (by decide) ?_
          obtain ⟨e8, e9⟩ := rs2 hm
          subst e8
          subst e9
          exact rk_iret (pc := 58) hx hb hr hlk hS ⟨rfl, hW0, hz⟩ dX0_plan_58
      · have hm := ite_t c5 hm
        refine lv_aload_n (pc := 32) hx hb dX0_plan_32 rfl (lv_at hl 0 rfl) ?_
        refine rk_get (pc := 33) hx hb hts hown hK hW0 flX0_12 0 (by decide) rfl rfl (x := .ref (b0 + 1)) (by first | rfl | exact congrArg (fun z => some (Value.ref z)) (by omega)) dX0_plan_33 ?_
        refine lv_iload_n (pc := 36) hx hb dX0_plan_36 rfl (lv_at hl 2 rfl) ?_
        obtain ⟨r9, hq10, hm⟩ := ob_some hm
        refine rk_PV (pc := 37) (As := [.int i2]) (rest := []) hx hb hml hown hts hK lkX0_145 rfl yn_X1_hasPack (ct_X1_hasPack (G := G) (l := l) (b0 := (b0 + 1)) hq10) ⟨Nat.le_of_ble_eq_true rfl, Nat.le_of_ble_eq_true rfl⟩ (rk_recv hK hW0 1 (by decide) rfl rfl rfl) (rg_sub hW0 rfl (by decide) (fun o ho x y z => shX0_n1 G.2.1 _ rfl o ho x y z)) rfl rfl hl.1 (Nat.le_of_ble_eq_true rfl) dX0_plan_37 ⟨Nat.zero_le _, Nat.zero_le _⟩ ?_
        refine W.eq (g2 := F0 m 40 ls [.int r9]) rfl ?_
        refine lv_if_eq (pc := 40) (tgt := 57) hx hb dX0_plan_40 (by decide) (fun c11 => ?_) (fun c11 => ?_)
        · have hm := ite_t c11 hm
          refine lv_iconst (pc := 57) (v := (-1 : Int32)) hx hb dX0_plan_57 (by decide) ?_
          obtain ⟨e8, e9⟩ := rs2 hm
          subst e8
          subst e9
          exact rk_iret (pc := 58) hx hb hr hlk hS ⟨rfl, hW0, hz⟩ dX0_plan_58
        · have hm := ite_f c11 hm
          refine lv_goto (pc := 43) (tgt := 59) hx hb dX0_plan_43 (by decide) ?_
          exact (w_fX0_plan_59 C) v0 i1 i2 i3 hm H locs ls hW0 hS hz (lv_sub hl [0, 1, 2, 3] rfl)
  · have hm := ite_t c1 hm
    refine lv_aload_n (pc := 5) hx hb dX0_plan_5 rfl (lv_at hl 0 rfl) ?_
    refine rk_get (pc := 6) hx hb hts hown hK hW0 flX0_12 0 (by decide) rfl rfl (x := .ref (b0 + 1)) (by first | rfl | exact congrArg (fun z => some (Value.ref z)) (by omega)) dX0_plan_6 ?_
    refine lv_iconst (pc := 9) (v := (0 : Int32)) hx hb dX0_plan_9 (by decide) ?_
    refine rk_putN (pc := 10) hx hb hts hown hK hW0 hS fnX0_555 ft_X1 1 (by decide) rfl (Or.inl (show fX _ _ from ⟨⟨by omega, by omega⟩, by omega⟩)) rfl rfl (x := .int (0 : Int32)) rfl rfl (Nat.le_of_ble_eq_true rfl) (sI v0 1 5 (0 : Int32)) sI_ne (by rw [sI_eq]; exact rfl) dX0_plan_10 (fun H13 locs14 hW15 hS16 hz17 hkp18 => ?_)
    obtain ⟨v0_12, he9, hm⟩ := lm_some hm
    rw [he9] at hW15
    have hz19 := hz17.trans hz
    refine lv_iconst (pc := 13) (v := (0 : Int32)) hx hb dX0_plan_13 (by decide) ?_
    obtain ⟨e8, e9⟩ := rs2 hm
    subst e8
    subst e9
    exact rk_iret (pc := 14) hx hb hr hlk hS16 ⟨rfl, hW15, hz19⟩ dX0_plan_14
set_option maxHeartbeats 4000000 in
theorem ct_X0_plan {G : Gv} {l : Launch} {b0 : Nat} {v0 : Mem} {i1 : Int32} {i2 : Int32} {i3 : Int32} {rx : Int32} {rw0 : Mem} {sz : Nat} (hm : fX0_plan v0 i1 i2 i3 = some (rx, rw0)) : CT G l yX0_plan (ws_ yX0_plan cX0_plan 4 (some .int)) 2 0 0 46 [.ref b0, .int i1, .int i2, .int i3] (fX b0) sz (fun H => rg G b0 357 (shX0 G.2.1) v0 H) (fun ov H => ov = (some (.int rx)) ∧ rg G b0 357 (shX0 G.2.1) rw0 H ∧ H.size = sz) := by
  refine Met.ofW (cc := cX0_plan) (maxL := 4) (ret := (some .int)) (by decide +kernel) rfl ?_
  intro p e s m args below meth c s₁ B hml hv
  obtain ⟨rfl, ⟨hz, hW0⟩, hK⟩ := hv
  subst hz
  have hts := atoms_spec (ws := ws_ yX0_plan cX0_plan 4 (some .int)) B.pre
  have hts : ∀ w ∈ lw_all, w.before _ s = true := fun w h => hts w (List.mem_cons_of_mem _ h)
  have C : Cx G p s m _ meth c RX0 cX0_plan 4 (some .int) := ⟨B.exec, B.bytes, B.returns, B.notSynchronized, hml, findClass_of_methodNamed B.named, hts, hK⟩
  have hl := lv_entry ([.ref b0, .int i1, .int i2, .int i3]) (n := 4) (Nat.le_of_ble_eq_true rfl)
  rw [lg_entry_eq]
  generalize (lg_sl ([.ref b0, .int i1, .int i2, .int i3]) ++ List.replicate (4 - (lg_sl ([.ref b0, .int i1, .int i2, .int i3])).length) Slot.unset).toArray = ls at hl ⊢
  have hl : lv_has ls 4 [(0, .ref b0), (1, .int i1), (2, .int i2), (3, .int i3)] := hl
  exact w_fX0_plan C _ _ _ _ hm s.heap [] ls hW0 va_S.rf rfl hl
noncomputable def fX0_bounds (v0 : Mem) (i1 : Int32) (i2 : Int32) : Option (Mem) :=
  ob (fX1_hasRule (shf v0 23) i1) fun r1 =>
  if r1 = 0 then (
  some v0)
  else (
  gb (inR i1 8) (
  lm (sI v0 (29 + 2 * i1.toNatClampNeg + 0) 1 i2) fun v0_6 =>
  some v0_6))
set_option maxHeartbeats 4000000 in
theorem w_fX0_bounds (C : Cx G p s m args meth c RX0 cX0_bounds 3 none) {b0 : Nat} {rw0 : Mem} : ∀ (v0 : Mem) (i1 : Int32) (i2 : Int32), fX0_bounds v0 i1 i2 = some rw0 → ∀ (H : Heap) (locs : List Loc) (ls : Array Slot), rg G b0 357 (shX0 G.2.1) v0 H → va_S (FA (fX b0) s.heap.size) s.heap H locs → H.size = s.heap.size → lv_has ls 3 [(0, .ref b0), (1, .int i1), (2, .int i2)] → W p l e (rmT 2 0 0 46) s m args below meth c H locs 0 0 (MQ below (QcT (FA (fX b0) s.heap.size) (fun ov H => ov = none ∧ rg G b0 357 (shX0 G.2.1) rw0 H ∧ H.size = s.heap.size)) args s 0 0 (FA (fX b0) s.heap.size)) (F0 m 0 ls []) := by
  intro v0 i1 i2 hm H locs ls hW0 hS hz hl
  obtain ⟨hx, hb, hr, hlk, hml, hown, hts, hK⟩ := id C
  unfold fX0_bounds at hm
  refine lv_aload_n (pc := 0) hx hb dX0_bounds_0 rfl (lv_at hl 0 rfl) ?_
  refine rk_get (pc := 1) hx hb hts hown hK hW0 flX0_18 0 (by decide) rfl rfl (x := .ref (b0 + 23)) (by first | rfl | exact congrArg (fun z => some (Value.ref z)) (by omega)) dX0_bounds_1 ?_
  refine lv_iload_n (pc := 4) hx hb dX0_bounds_4 rfl (lv_at hl 1 rfl) ?_
  obtain ⟨r1, hq2, hm⟩ := ob_some hm
  refine rk_PV (pc := 5) (As := [.int i1]) (rest := []) hx hb hml hown hts hK lkX0_165 rfl yn_X1_hasRule (ct_X1_hasRule (G := G) (l := l) (b0 := (b0 + 23)) hq2) ⟨Nat.le_of_ble_eq_true rfl, Nat.le_of_ble_eq_true rfl⟩ (rk_recv hK hW0 23 (by decide) rfl rfl rfl) (rg_sub hW0 rfl (by decide) (fun o ho x y z => shX0_n23 G.2.1 _ rfl o ho x y z)) rfl rfl hl.1 (Nat.le_of_ble_eq_true rfl) dX0_bounds_5 ⟨Nat.zero_le _, Nat.zero_le _⟩ ?_
  refine W.eq (g2 := F0 m 8 ls [.int r1]) rfl ?_
  refine lv_if_eq (pc := 8) (tgt := 24) hx hb dX0_bounds_8 (by decide) (fun c3 => ?_) (fun c3 => ?_)
  · have hm := ite_t c3 hm
    have e9 := rs1 hm
    subst e9
    exact rk_vret (pc := 24) hx hb hr hlk hS ⟨rfl, hW0, hz⟩ dX0_bounds_24
  · have hm := ite_f c3 hm
    refine lv_aload_n (pc := 11) hx hb dX0_bounds_11 rfl (lv_at hl 0 rfl) ?_
    refine rk_get (pc := 12) hx hb hts hown hK hW0 flX0_18 0 (by decide) rfl rfl (x := .ref (b0 + 23)) (by first | rfl | exact congrArg (fun z => some (Value.ref z)) (by omega)) dX0_bounds_12 ?_
    refine rk_getN (pc := 15) hx hb hts hown hK hW0 fnX0_172 23 (by decide) rfl rfl (x := .ref (b0 + 25)) (by first | rfl | exact congrArg (fun z => some (Value.ref z)) (by omega)) dX0_bounds_15 ?_
    refine lv_iload_n (pc := 18) hx hb dX0_bounds_18 rfl (lv_at hl 1 rfl) ?_
    obtain ⟨hg4, hm⟩ := gb_some hm
    have hlt5 := inR_lt hg4
    refine rk_aald (pc := 19) hx hb hK hW0 25 5 (by decide) rfl rfl rfl hg4 (x := (b0 + (29 + 2 * i1.toNatClampNeg + 0))) (by first | rfl | exact congrArg some (by omega)) dX0_bounds_19 ?_
    refine lv_iload_n (pc := 20) hx hb dX0_bounds_20 rfl (lv_at hl 2 rfl) ?_
    refine rk_putN (pc := 21) hx hb hts hown hK hW0 hS fnX0_181 ft_X2 (29 + 2 * i1.toNatClampNeg + 0) (by omega) rfl (Or.inl (show fX _ _ from ⟨⟨by omega, by omega⟩, by omega⟩)) ((shX0_f29 G.2.1 hlt5 _ rfl 0 (by decide) _ _ _).trans rfl) rfl (x := .int i2) rfl rfl (Nat.le_of_ble_eq_true rfl) (sI v0 (29 + 2 * i1.toNatClampNeg + 0) 1 i2) sI_ne (by rw [sI_eq]; exact ((shX0_f29 G.2.1 hlt5 _ rfl 0 (by decide) _ _ _).trans rfl)) dX0_bounds_21 (fun H7 locs8 hW9 hS10 hz11 hkp12 => ?_)
    obtain ⟨v0_6, he9, hm⟩ := lm_some hm
    rw [he9] at hW9
    have hz13 := hz11.trans hz
    have e9 := rs1 hm
    subst e9
    exact rk_vret (pc := 24) hx hb hr hlk hS10 ⟨rfl, hW9, hz13⟩ dX0_bounds_24
set_option maxHeartbeats 4000000 in
theorem ct_X0_bounds {G : Gv} {l : Launch} {b0 : Nat} {v0 : Mem} {i1 : Int32} {i2 : Int32} {rw0 : Mem} {sz : Nat} (hm : fX0_bounds v0 i1 i2 = some rw0) : CT G l yX0_bounds (ws_ yX0_bounds cX0_bounds 3 none) 2 0 0 46 [.ref b0, .int i1, .int i2] (fX b0) sz (fun H => rg G b0 357 (shX0 G.2.1) v0 H) (fun ov H => ov = none ∧ rg G b0 357 (shX0 G.2.1) rw0 H ∧ H.size = sz) := by
  refine Met.ofW (cc := cX0_bounds) (maxL := 3) (ret := none) (by decide +kernel) rfl ?_
  intro p e s m args below meth c s₁ B hml hv
  obtain ⟨rfl, ⟨hz, hW0⟩, hK⟩ := hv
  subst hz
  have hts := atoms_spec (ws := ws_ yX0_bounds cX0_bounds 3 none) B.pre
  have hts : ∀ w ∈ lw_all, w.before _ s = true := fun w h => hts w (List.mem_cons_of_mem _ h)
  have C : Cx G p s m _ meth c RX0 cX0_bounds 3 none := ⟨B.exec, B.bytes, B.returns, B.notSynchronized, hml, findClass_of_methodNamed B.named, hts, hK⟩
  have hl := lv_entry ([.ref b0, .int i1, .int i2]) (n := 3) (Nat.le_of_ble_eq_true rfl)
  rw [lg_entry_eq]
  generalize (lg_sl ([.ref b0, .int i1, .int i2]) ++ List.replicate (3 - (lg_sl ([.ref b0, .int i1, .int i2])).length) Slot.unset).toArray = ls at hl ⊢
  have hl : lv_has ls 3 [(0, .ref b0), (1, .int i1), (2, .int i2)] := hl
  exact w_fX0_bounds C _ _ _ hm s.heap [] ls hW0 va_S.rf rfl hl
noncomputable def fX0_factors (v0 : Mem) (i1 : Int32) (i2 : Int32) : Option (Mem) :=
  ob (fX1_hasRule (shf v0 23) i1) fun r1 =>
  if r1 = 0 then (
  some v0)
  else (
  gb (inR i1 8) (
  gb (inR (0 : Int32) 5) (
  lm (sI v0 (29 + 2 * i1.toNatClampNeg + 1) (0 : Int32).toNatClampNeg i2) fun v0_7 =>
  some v0_7)))
set_option maxHeartbeats 4000000 in
theorem w_fX0_factors (C : Cx G p s m args meth c RX0 cX0_factors 3 none) {b0 : Nat} {rw0 : Mem} : ∀ (v0 : Mem) (i1 : Int32) (i2 : Int32), fX0_factors v0 i1 i2 = some rw0 → ∀ (H : Heap) (locs : List Loc) (ls : Array Slot), rg G b0 357 (shX0 G.2.1) v0 H → va_S (FA (fX b0) s.heap.size) s.heap H locs → H.size = s.heap.size → lv_has ls 3 [(0, .ref b0), (1, .int i1), (2, .int i2)] → W p l e (rmT 2 0 0 46) s m args below meth c H locs 0 0 (MQ below (QcT (FA (fX b0) s.heap.size) (fun ov H => ov = none ∧ rg G b0 357 (shX0 G.2.1) rw0 H ∧ H.size = s.heap.size)) args s 0 0 (FA (fX b0) s.heap.size)) (F0 m 0 ls []) := by
  intro v0 i1 i2 hm H locs ls hW0 hS hz hl
  obtain ⟨hx, hb, hr, hlk, hml, hown, hts, hK⟩ := id C
  unfold fX0_factors at hm
  refine lv_aload_n (pc := 0) hx hb dX0_factors_0 rfl (lv_at hl 0 rfl) ?_
  refine rk_get (pc := 1) hx hb hts hown hK hW0 flX0_18 0 (by decide) rfl rfl (x := .ref (b0 + 23)) (by first | rfl | exact congrArg (fun z => some (Value.ref z)) (by omega)) dX0_factors_1 ?_
  refine lv_iload_n (pc := 4) hx hb dX0_factors_4 rfl (lv_at hl 1 rfl) ?_
  obtain ⟨r1, hq2, hm⟩ := ob_some hm
  refine rk_PV (pc := 5) (As := [.int i1]) (rest := []) hx hb hml hown hts hK lkX0_165 rfl yn_X1_hasRule (ct_X1_hasRule (G := G) (l := l) (b0 := (b0 + 23)) hq2) ⟨Nat.le_of_ble_eq_true rfl, Nat.le_of_ble_eq_true rfl⟩ (rk_recv hK hW0 23 (by decide) rfl rfl rfl) (rg_sub hW0 rfl (by decide) (fun o ho x y z => shX0_n23 G.2.1 _ rfl o ho x y z)) rfl rfl hl.1 (Nat.le_of_ble_eq_true rfl) dX0_factors_5 ⟨Nat.zero_le _, Nat.zero_le _⟩ ?_
  refine W.eq (g2 := F0 m 8 ls [.int r1]) rfl ?_
  refine lv_if_eq (pc := 8) (tgt := 26) hx hb dX0_factors_8 (by decide) (fun c3 => ?_) (fun c3 => ?_)
  · have hm := ite_t c3 hm
    have e9 := rs1 hm
    subst e9
    exact rk_vret (pc := 26) hx hb hr hlk hS ⟨rfl, hW0, hz⟩ dX0_factors_26
  · have hm := ite_f c3 hm
    refine lv_aload_n (pc := 11) hx hb dX0_factors_11 rfl (lv_at hl 0 rfl) ?_
    refine rk_get (pc := 12) hx hb hts hown hK hW0 flX0_18 0 (by decide) rfl rfl (x := .ref (b0 + 23)) (by first | rfl | exact congrArg (fun z => some (Value.ref z)) (by omega)) dX0_factors_12 ?_
    refine rk_getN (pc := 15) hx hb hts hown hK hW0 fnX0_172 23 (by decide) rfl rfl (x := .ref (b0 + 25)) (by first | rfl | exact congrArg (fun z => some (Value.ref z)) (by omega)) dX0_factors_15 ?_
    refine lv_iload_n (pc := 18) hx hb dX0_factors_18 rfl (lv_at hl 1 rfl) ?_
    obtain ⟨hg4, hm⟩ := gb_some hm
    have hlt5 := inR_lt hg4
    refine rk_aald (pc := 19) hx hb hK hW0 25 5 (by decide) rfl rfl rfl hg4 (x := (b0 + (29 + 2 * i1.toNatClampNeg + 0))) (by first | rfl | exact congrArg some (by omega)) dX0_factors_19 ?_
    refine rk_getN (pc := 20) hx hb hts hown hK hW0 fnX0_176 (29 + 2 * i1.toNatClampNeg + 0) (by omega) rfl ((shX0_f29 G.2.1 hlt5 _ rfl 0 (by decide) _ _ _).trans rfl) (x := .ref (b0 + (29 + 2 * i1.toNatClampNeg + 1))) (by first | rfl | exact congrArg (fun z => some (Value.ref z)) (by omega)) dX0_factors_20 ?_
    refine lv_iconst (pc := 23) (v := (0 : Int32)) hx hb dX0_factors_23 (by decide) ?_
    refine lv_iload_n (pc := 24) hx hb dX0_factors_24 rfl (lv_at hl 2 rfl) ?_
    obtain ⟨hg6, hm⟩ := gb_some hm
    refine rk_iast (pc := 25) hx hb hK hW0 hS (29 + 2 * i1.toNatClampNeg + 1) (by omega) rfl (Or.inl (show fX _ _ from ⟨⟨by omega, by omega⟩, by omega⟩)) (fun _ _ _ => ((shX0_f29 G.2.1 hlt5 _ rfl 1 (by decide) _ _ _).trans rfl)) hg6 dX0_factors_25 (fun H8 locs9 hW10 hS11 hz12 hkp13 => ?_)
    obtain ⟨v0_7, he9, hm⟩ := lm_some hm
    rw [he9] at hW10
    have hz14 := hz12.trans hz
    have e9 := rs1 hm
    subst e9
    exact rk_vret (pc := 26) hx hb hr hlk hS11 ⟨rfl, hW10, hz14⟩ dX0_factors_26
set_option maxHeartbeats 4000000 in
theorem ct_X0_factors {G : Gv} {l : Launch} {b0 : Nat} {v0 : Mem} {i1 : Int32} {i2 : Int32} {rw0 : Mem} {sz : Nat} (hm : fX0_factors v0 i1 i2 = some rw0) : CT G l yX0_factors (ws_ yX0_factors cX0_factors 3 none) 2 0 0 46 [.ref b0, .int i1, .int i2] (fX b0) sz (fun H => rg G b0 357 (shX0 G.2.1) v0 H) (fun ov H => ov = none ∧ rg G b0 357 (shX0 G.2.1) rw0 H ∧ H.size = sz) := by
  refine Met.ofW (cc := cX0_factors) (maxL := 3) (ret := none) (by decide +kernel) rfl ?_
  intro p e s m args below meth c s₁ B hml hv
  obtain ⟨rfl, ⟨hz, hW0⟩, hK⟩ := hv
  subst hz
  have hts := atoms_spec (ws := ws_ yX0_factors cX0_factors 3 none) B.pre
  have hts : ∀ w ∈ lw_all, w.before _ s = true := fun w h => hts w (List.mem_cons_of_mem _ h)
  have C : Cx G p s m _ meth c RX0 cX0_factors 3 none := ⟨B.exec, B.bytes, B.returns, B.notSynchronized, hml, findClass_of_methodNamed B.named, hts, hK⟩
  have hl := lv_entry ([.ref b0, .int i1, .int i2]) (n := 3) (Nat.le_of_ble_eq_true rfl)
  rw [lg_entry_eq]
  generalize (lg_sl ([.ref b0, .int i1, .int i2]) ++ List.replicate (3 - (lg_sl ([.ref b0, .int i1, .int i2])).length) Slot.unset).toArray = ls at hl ⊢
  have hl : lv_has ls 3 [(0, .ref b0), (1, .int i1), (2, .int i2)] := hl
  exact w_fX0_factors C _ _ _ hm s.heap [] ls hW0 va_S.rf rfl hl
theorem flX0_52 : FL RX0 52 0 10 RX0 TX0 25 := ⟨in_X0, rfl, by decide, q506⟩
theorem yn_X0_bounds : YN yX0_bounds 2 := by
  unfold YN
  decide +kernel
noncomputable def fX0_lambda_new_2 (v0 : Mem) (i1 : Int32) (i2 : Int32) : Option (Mem) :=
  ob (fX1_hasPack (shf v0 23) i1) fun r1 =>
  if r1 = 0 then (
  gb (inR i1 5) (
  gb (inR i1 5) (
  lm (sI v0 24 i1.toNatClampNeg (gI v0 24 i1.toNatClampNeg)) fun v0_6 =>
  some v0_6)))
  else (
  gb (inR i1 5) (
  lm (sI v0 24 i1.toNatClampNeg i2) fun v0_15 =>
  some v0_15))
set_option maxHeartbeats 4000000 in
theorem w_fX0_lambda_new_2 (C : Cx G p s m args meth c RX0 cX0_lambda_new_2 3 none) {b0 : Nat} {rw0 : Mem} : ∀ (v0 : Mem) (i1 : Int32) (i2 : Int32), fX0_lambda_new_2 v0 i1 i2 = some rw0 → ∀ (H : Heap) (locs : List Loc) (ls : Array Slot), rg G b0 357 (shX0 G.2.1) v0 H → va_S (FA (fX b0) s.heap.size) s.heap H locs → H.size = s.heap.size → lv_has ls 3 [(0, .ref b0), (1, .int i1), (2, .int i2)] → W p l e (rmT 2 0 0 46) s m args below meth c H locs 0 0 (MQ below (QcT (FA (fX b0) s.heap.size) (fun ov H => ov = none ∧ rg G b0 357 (shX0 G.2.1) rw0 H ∧ H.size = s.heap.size)) args s 0 0 (FA (fX b0) s.heap.size)) (F0 m 0 ls []) := by
  intro v0 i1 i2 hm H locs ls hW0 hS hz hl
  obtain ⟨hx, hb, hr, hlk, hml, hown, hts, hK⟩ := id C
  unfold fX0_lambda_new_2 at hm
  refine lv_aload_n (pc := 0) hx hb dX0_lambda_new_2_0 rfl (lv_at hl 0 rfl) ?_
  refine rk_get (pc := 1) hx hb hts hown hK hW0 flX0_18 0 (by decide) rfl rfl (x := .ref (b0 + 23)) (by first | rfl | exact congrArg (fun z => some (Value.ref z)) (by omega)) dX0_lambda_new_2_1 ?_
  refine rk_getN (pc := 4) hx hb hts hown hK hW0 fnX0_151 23 (by decide) rfl rfl (x := .ref (b0 + 24)) (by first | rfl | exact congrArg (fun z => some (Value.ref z)) (by omega)) dX0_lambda_new_2_4 ?_
  refine lv_iload_n (pc := 7) hx hb dX0_lambda_new_2_7 rfl (lv_at hl 1 rfl) ?_
  refine lv_aload_n (pc := 8) hx hb dX0_lambda_new_2_8 rfl (lv_at hl 0 rfl) ?_
  refine rk_get (pc := 9) hx hb hts hown hK hW0 flX0_18 0 (by decide) rfl rfl (x := .ref (b0 + 23)) (by first | rfl | exact congrArg (fun z => some (Value.ref z)) (by omega)) dX0_lambda_new_2_9 ?_
  refine lv_iload_n (pc := 12) hx hb dX0_lambda_new_2_12 rfl (lv_at hl 1 rfl) ?_
  obtain ⟨r1, hq2, hm⟩ := ob_some hm
  refine rk_PV (pc := 13) (As := [.int i1]) (rest := [.int i1, .ref (b0 + 24)]) hx hb hml hown hts hK lkX0_145 rfl yn_X1_hasPack (ct_X1_hasPack (G := G) (l := l) (b0 := (b0 + 23)) hq2) ⟨Nat.le_of_ble_eq_true rfl, Nat.le_of_ble_eq_true rfl⟩ (rk_recv hK hW0 23 (by decide) rfl rfl rfl) (rg_sub hW0 rfl (by decide) (fun o ho x y z => shX0_n23 G.2.1 _ rfl o ho x y z)) rfl rfl hl.1 (Nat.le_of_ble_eq_true rfl) dX0_lambda_new_2_13 ⟨Nat.zero_le _, Nat.zero_le _⟩ ?_
  refine W.eq (g2 := F0 m 16 ls [.int r1, .int i1, .ref (b0 + 24)]) rfl ?_
  refine lv_if_eq (pc := 16) (tgt := 23) hx hb dX0_lambda_new_2_16 (by decide) (fun c3 => ?_) (fun c3 => ?_)
  · have hm := ite_t c3 hm
    refine lv_aload_n (pc := 23) hx hb dX0_lambda_new_2_23 rfl (lv_at hl 0 rfl) ?_
    refine rk_get (pc := 24) hx hb hts hown hK hW0 flX0_18 0 (by decide) rfl rfl (x := .ref (b0 + 23)) (by first | rfl | exact congrArg (fun z => some (Value.ref z)) (by omega)) dX0_lambda_new_2_24 ?_
    refine rk_getN (pc := 27) hx hb hts hown hK hW0 fnX0_151 23 (by decide) rfl rfl (x := .ref (b0 + 24)) (by first | rfl | exact congrArg (fun z => some (Value.ref z)) (by omega)) dX0_lambda_new_2_27 ?_
    refine lv_iload_n (pc := 30) hx hb dX0_lambda_new_2_30 rfl (lv_at hl 1 rfl) ?_
    obtain ⟨hg4, hm⟩ := gb_some hm
    refine rk_iald (pc := 31) hx hb hK hW0 24 (by decide) rfl rfl hg4 (x := (gI v0 24 i1.toNatClampNeg)) rfl dX0_lambda_new_2_31 ?_
    obtain ⟨hg5, hm⟩ := gb_some hm
    refine rk_iast (pc := 32) hx hb hK hW0 hS 24 (by decide) rfl (Or.inl (show fX _ _ from ⟨⟨by omega, by omega⟩, by omega⟩)) (fun _ _ _ => rfl) hg5 dX0_lambda_new_2_32 (fun H7 locs8 hW9 hS10 hz11 hkp12 => ?_)
    obtain ⟨v0_6, he9, hm⟩ := lm_some hm
    rw [he9] at hW9
    have hz13 := hz11.trans hz
    have e9 := rs1 hm
    subst e9
    exact rk_vret (pc := 33) hx hb hr hlk hS10 ⟨rfl, hW9, hz13⟩ dX0_lambda_new_2_33
  · have hm := ite_f c3 hm
    refine lv_iload_n (pc := 19) hx hb dX0_lambda_new_2_19 rfl (lv_at hl 2 rfl) ?_
    refine lv_goto (pc := 20) (tgt := 32) hx hb dX0_lambda_new_2_20 (by decide) ?_
    obtain ⟨hg14, hm⟩ := gb_some hm
    refine rk_iast (pc := 32) hx hb hK hW0 hS 24 (by decide) rfl (Or.inl (show fX _ _ from ⟨⟨by omega, by omega⟩, by omega⟩)) (fun _ _ _ => rfl) hg14 dX0_lambda_new_2_32 (fun H16 locs17 hW18 hS19 hz20 hkp21 => ?_)
    obtain ⟨v0_15, he9, hm⟩ := lm_some hm
    rw [he9] at hW18
    have hz22 := hz20.trans hz
    have e9 := rs1 hm
    subst e9
    exact rk_vret (pc := 33) hx hb hr hlk hS19 ⟨rfl, hW18, hz22⟩ dX0_lambda_new_2_33
set_option maxHeartbeats 4000000 in
theorem ct_X0_lambda_new_2 {G : Gv} {l : Launch} {b0 : Nat} {v0 : Mem} {i1 : Int32} {i2 : Int32} {rw0 : Mem} {sz : Nat} (hm : fX0_lambda_new_2 v0 i1 i2 = some rw0) : CT G l yX0_lambda_new_2 (ws_ yX0_lambda_new_2 cX0_lambda_new_2 3 none) 2 0 0 46 [.ref b0, .int i1, .int i2] (fX b0) sz (fun H => rg G b0 357 (shX0 G.2.1) v0 H) (fun ov H => ov = none ∧ rg G b0 357 (shX0 G.2.1) rw0 H ∧ H.size = sz) := by
  refine Met.ofW (cc := cX0_lambda_new_2) (maxL := 3) (ret := none) (by decide +kernel) rfl ?_
  intro p e s m args below meth c s₁ B hml hv
  obtain ⟨rfl, ⟨hz, hW0⟩, hK⟩ := hv
  subst hz
  have hts := atoms_spec (ws := ws_ yX0_lambda_new_2 cX0_lambda_new_2 3 none) B.pre
  have hts : ∀ w ∈ lw_all, w.before _ s = true := fun w h => hts w (List.mem_cons_of_mem _ h)
  have C : Cx G p s m _ meth c RX0 cX0_lambda_new_2 3 none := ⟨B.exec, B.bytes, B.returns, B.notSynchronized, hml, findClass_of_methodNamed B.named, hts, hK⟩
  have hl := lv_entry ([.ref b0, .int i1, .int i2]) (n := 3) (Nat.le_of_ble_eq_true rfl)
  rw [lg_entry_eq]
  generalize (lg_sl ([.ref b0, .int i1, .int i2]) ++ List.replicate (3 - (lg_sl ([.ref b0, .int i1, .int i2])).length) Slot.unset).toArray = ls at hl ⊢
  have hl : lv_has ls 3 [(0, .ref b0), (1, .int i1), (2, .int i2)] := hl
  exact w_fX0_lambda_new_2 C _ _ _ hm s.heap [] ls hW0 va_S.rf rfl hl
theorem yn_X0_lambda_new_2 : YN yX0_lambda_new_2 2 := by
  unfold YN
  decide +kernel
theorem yn_X0_factors : YN yX0_factors 2 := by
  unfold YN
  decide +kernel
noncomputable def fX0_ends_14 (k14 : Mem → Nat → Int32 → Option (Int32 × Nat × Mem)) (v0 : Mem) (zc : Nat) (i2 : Int32) : Option (Int32 × Nat × Mem) :=
  if (gI v0 1 5) ≤ i2 then (
  ob3 (fX3_worth (shf v0 23) (shf v0 110)) fun r15 rc16 w17 =>
  lm (ptm v0 110 43 w17) fun v0_27 =>
  some (r15, (zc + rc16), v0_27))
  else (
  gb (inR ((3 : Int32) * i2) 24) (
  gb (inR (gI v0 6 ((3 : Int32) * i2).toNatClampNeg) 3) (
  if (gI v0 6 ((3 : Int32) * i2).toNatClampNeg) = (0 : Int32) then (
  gb (inR (((3 : Int32) * i2) + (1 : Int32)) 24) (
  gb (inR (((3 : Int32) * i2) + (2 : Int32)) 24) (
  ob (fX0_bounds v0 (gI v0 6 (((3 : Int32) * i2) + (1 : Int32)).toNatClampNeg) (gI v0 6 (((3 : Int32) * i2) + (2 : Int32)).toNatClampNeg)) fun w35 =>
  k14 w35 zc (i2 + (1 : Int32)))))
  else if (gI v0 6 ((3 : Int32) * i2).toNatClampNeg) = (1 : Int32) then (
  gb (inR (((3 : Int32) * i2) + (1 : Int32)) 24) (
  gb (inR (((3 : Int32) * i2) + (2 : Int32)) 24) (
  ob (fX0_lambda_new_2 v0 (gI v0 6 (((3 : Int32) * i2) + (1 : Int32)).toNatClampNeg) (gI v0 6 (((3 : Int32) * i2) + (2 : Int32)).toNatClampNeg)) fun w49 =>
  k14 w49 zc (i2 + (1 : Int32)))))
  else if (gI v0 6 ((3 : Int32) * i2).toNatClampNeg) = (2 : Int32) then (
  gb (inR (((3 : Int32) * i2) + (1 : Int32)) 24) (
  gb (inR (((3 : Int32) * i2) + (2 : Int32)) 24) (
  ob (fX0_factors v0 (gI v0 6 (((3 : Int32) * i2) + (1 : Int32)).toNatClampNeg) (gI v0 6 (((3 : Int32) * i2) + (2 : Int32)).toNatClampNeg)) fun w63 =>
  k14 w63 zc (i2 + (1 : Int32)))))
  else none)))
noncomputable def fX0_ends (v0 : Mem) : Option (Int32 × Nat × Mem) :=
  ob (fX1_like (shf v0 1) (shf v0 23)) fun w1 =>
  lm (ptm v0 23 22 w1) fun v0_11 =>
  lq3 (fX0_ends_14) FU v0_11 0 (0 : Int32)
set_option maxHeartbeats 4000000 in
theorem w_fX0_ends_14 (C : Cx G p s m args meth c RX0 cX0_ends 3 (some .int)) {b0 : Nat} {rx : Int32} {rc : Nat} {rw0 : Mem} (he0 : b0 + 357 ≤ s.heap.size) (hZ : ZQ G) (hgb0 : gB G ≤ b0) (hZL : ZL G) {k14 : Mem → Nat → Int32 → Option (Int32 × Nat × Mem)} (hk14 : ∀ (v0 : Mem) (zc : Nat) (i2 : Int32), k14 v0 zc i2 = some (rx, rc, rw0) → ∀ (H : Heap) (locs : List Loc) (ls : Array Slot), rg G b0 357 (shX0 G.2.1) v0 H → va_S (FA (fX b0) s.heap.size) s.heap H locs → H.size = s.heap.size + zc → GO G H → lv_has ls 3 [(0, .ref b0), (1, .ref (b0 + 23)), (2, .int i2)] → W p l e (rmT 8 1 7 176) s m args below meth c H locs 0 0 (MQ below (QcT (FA (fX b0) s.heap.size) (fun ov H => ov = (some (.int rx)) ∧ rg G b0 357 (shX0 G.2.1) rw0 H ∧ H.size = s.heap.size + rc)) args s 1 7 (FA (fX b0) s.heap.size)) (F0 m 14 ls [])) : ∀ (v0 : Mem) (zc : Nat) (i2 : Int32), fX0_ends_14 k14 v0 zc i2 = some (rx, rc, rw0) → ∀ (H : Heap) (locs : List Loc) (ls : Array Slot), rg G b0 357 (shX0 G.2.1) v0 H → va_S (FA (fX b0) s.heap.size) s.heap H locs → H.size = s.heap.size + zc → GO G H → lv_has ls 3 [(0, .ref b0), (1, .ref (b0 + 23)), (2, .int i2)] → W p l e (rmT 8 1 7 176) s m args below meth c H locs 0 0 (MQ below (QcT (FA (fX b0) s.heap.size) (fun ov H => ov = (some (.int rx)) ∧ rg G b0 357 (shX0 G.2.1) rw0 H ∧ H.size = s.heap.size + rc)) args s 1 7 (FA (fX b0) s.heap.size)) (F0 m 14 ls []) := by
  intro v0 zc i2 hm H locs ls hW0 hS hz hG hl
  obtain ⟨hx, hb, hr, hlk, hml, hown, hts, hK⟩ := id C
  unfold fX0_ends_14 at hm
  refine lv_iload_n (pc := 14) hx hb dX0_ends_14 rfl (lv_at hl 2 rfl) ?_
  refine lv_aload_n (pc := 15) hx hb dX0_ends_15 rfl (lv_at hl 0 rfl) ?_
  refine rk_get (pc := 16) hx hb hts hown hK hW0 flX0_12 0 (by decide) rfl rfl (x := .ref (b0 + 1)) (by first | rfl | exact congrArg (fun z => some (Value.ref z)) (by omega)) dX0_ends_16 ?_
  refine rk_getN (pc := 19) hx hb hts hown hK hW0 fnX0_555 1 (by decide) rfl rfl (x := .int (gI v0 1 5)) rfl dX0_ends_19 ?_
  refine lv_icmp_ge (pc := 22) (tgt := 78) hx hb dX0_ends_22 (by decide) (fun c14 => ?_) (fun c14 => ?_)
  · have hm := ite_t c14 hm
    refine lv_aload_n (pc := 78) hx hb dX0_ends_78 rfl (lv_at hl 0 rfl) ?_
    refine rk_get (pc := 79) hx hb hts hown hK hW0 flX0_31 0 (by decide) rfl rfl (x := .ref (b0 + 110)) (by first | rfl | exact congrArg (fun z => some (Value.ref z)) (by omega)) dX0_ends_79 ?_
    refine lv_aload_n (pc := 82) hx hb dX0_ends_82 rfl (lv_at hl 1 rfl) ?_
    obtain ⟨r15, rc16, w17, hq18, hm⟩ := ob3_some hm
    refine rk_TV (pc := 83) (As := [.ref (b0 + 23)]) (rest := []) (mc := 1) (ms := 7) hx hb hml hown hts hK hS (fun q hq => FA_sz rfl q hq) lkX0_472 rfl yn_X3_worth (ct_X3_worth (G := G) (l := l) (b0 := (b0 + 110)) (b1 := (b0 + 23)) (sz := H.size) hq18 (by omega) hZ (by omega) (by omega)) ⟨Nat.le_of_ble_eq_true rfl, Nat.le_of_ble_eq_true rfl⟩ (fun z h => Or.inl (show fX _ _ from ⟨⟨by have h8 := h.1; have h9 := h.2; omega, by have h8 := h.1; have h9 := h.2; omega⟩, by have h8 := h.1; have h9 := h.2; omega⟩)) (rk_recv hK hW0 110 (by decide) rfl rfl rfl) ⟨(rg_sub hW0 rfl (by decide) (fun o ho x y z => shX0_n110 G.2.1 _ rfl o ho x y z)), (rg_sub hW0 rfl (by decide) (fun o ho x y z => shX0_n23 G.2.1 _ rfl o ho x y z)), hG⟩ rfl rfl hl.1 (Nat.le_of_ble_eq_true rfl) dX0_ends_83 ⟨Nat.le_of_ble_eq_true rfl, Nat.le_of_ble_eq_true rfl⟩ (fun ov9 H19 locs20 hP21 hkp22 hS23 => ?_)
    obtain ⟨rfl, hW24, hz25⟩ := hP21
    have hW26 := rg_put (d := 110) hW0 hW24 rfl (fun o ho x y z => shX0_n110 G.2.1 _ rfl o ho x y z) hkp22
    obtain ⟨v0_27, he9, hm⟩ := lm_some hm
    rw [he9] at hW26
    have hG28 := GO_keepA hG hkp22 (Nat.le_trans (show gB G ≤ s.heap.size by omega) hS.1) (by intro z h3; have h8 := h3.1; have h9 := h3.2; omega)
    have hz29 : H19.size = s.heap.size + (zc + rc16) := by omega
    refine W.eq (g2 := F0 m 86 ls [.int r15]) rfl ?_
    obtain ⟨e7, e8, e9⟩ := rs3 hm
    subst e7
    subst e8
    subst e9
    exact rk_iretA (pc := 86) hx hb hr hlk hS23 ⟨rfl, hW26, hz29⟩ dX0_ends_86 (by exact Nat.le_of_ble_eq_true rfl) (by exact Nat.le_of_ble_eq_true rfl)
  · have hm := ite_f c14 hm
    refine lv_aload_n (pc := 25) hx hb dX0_ends_25 rfl (lv_at hl 0 rfl) ?_
    refine rk_get (pc := 26) hx hb hts hown hK hW0 flX0_52 0 (by decide) rfl rfl (x := .ref (b0 + 156)) (by first | rfl | exact congrArg (fun z => some (Value.ref z)) (by omega)) dX0_ends_26 ?_
    refine lv_aload_n (pc := 29) hx hb dX0_ends_29 rfl (lv_at hl 0 rfl) ?_
    refine rk_get (pc := 30) hx hb hts hown hK hW0 flX0_12 0 (by decide) rfl rfl (x := .ref (b0 + 1)) (by first | rfl | exact congrArg (fun z => some (Value.ref z)) (by omega)) dX0_ends_30 ?_
    refine rk_getN (pc := 33) hx hb hts hown hK hW0 fnX0_558 1 (by decide) rfl rfl (x := .ref (b0 + 6)) (by first | rfl | exact congrArg (fun z => some (Value.ref z)) (by omega)) dX0_ends_33 ?_
    refine lv_iconst (pc := 36) (v := (3 : Int32)) hx hb dX0_ends_36 (by decide) ?_
    refine lv_iload_n (pc := 37) hx hb dX0_ends_37 rfl (lv_at hl 2 rfl) ?_
    refine lv_imul (pc := 38) hx hb dX0_ends_38 ?_
    obtain ⟨hg30, hm⟩ := gb_some hm
    refine rk_iald (pc := 39) hx hb hK hW0 6 (by decide) rfl rfl hg30 (x := (gI v0 6 ((3 : Int32) * i2).toNatClampNeg)) rfl dX0_ends_39 ?_
    obtain ⟨hg31, hm⟩ := gb_some hm
    by_cases c32 : (gI v0 6 ((3 : Int32) * i2).toNatClampNeg) = (0 : Int32)
    · have hm := ite_t c32 hm
      refine rk_aald (pc := 40) hx hb hK hW0 156 8 (by decide) rfl rfl rfl hg31 (x := (b0 + 174)) (by rw [c32]; rfl) dX0_ends_40 ?_
      refine lv_aload_n (pc := 41) hx hb dX0_ends_41 rfl (lv_at hl 0 rfl) ?_
      refine rk_get (pc := 42) hx hb hts hown hK hW0 flX0_12 0 (by decide) rfl rfl (x := .ref (b0 + 1)) (by first | rfl | exact congrArg (fun z => some (Value.ref z)) (by omega)) dX0_ends_42 ?_
      refine rk_getN (pc := 45) hx hb hts hown hK hW0 fnX0_558 1 (by decide) rfl rfl (x := .ref (b0 + 6)) (by first | rfl | exact congrArg (fun z => some (Value.ref z)) (by omega)) dX0_ends_45 ?_
      refine lv_iconst (pc := 48) (v := (3 : Int32)) hx hb dX0_ends_48 (by decide) ?_
      refine lv_iload_n (pc := 49) hx hb dX0_ends_49 rfl (lv_at hl 2 rfl) ?_
      refine lv_imul (pc := 50) hx hb dX0_ends_50 ?_
      refine lv_iconst (pc := 51) (v := (1 : Int32)) hx hb dX0_ends_51 (by decide) ?_
      refine lv_iadd (pc := 52) hx hb dX0_ends_52 ?_
      obtain ⟨hg33, hm⟩ := gb_some hm
      refine rk_iald (pc := 53) hx hb hK hW0 6 (by decide) rfl rfl hg33 (x := (gI v0 6 (((3 : Int32) * i2) + (1 : Int32)).toNatClampNeg)) rfl dX0_ends_53 ?_
      refine lv_aload_n (pc := 54) hx hb dX0_ends_54 rfl (lv_at hl 0 rfl) ?_
      refine rk_get (pc := 55) hx hb hts hown hK hW0 flX0_12 0 (by decide) rfl rfl (x := .ref (b0 + 1)) (by first | rfl | exact congrArg (fun z => some (Value.ref z)) (by omega)) dX0_ends_55 ?_
      refine rk_getN (pc := 58) hx hb hts hown hK hW0 fnX0_558 1 (by decide) rfl rfl (x := .ref (b0 + 6)) (by first | rfl | exact congrArg (fun z => some (Value.ref z)) (by omega)) dX0_ends_58 ?_
      refine lv_iconst (pc := 61) (v := (3 : Int32)) hx hb dX0_ends_61 (by decide) ?_
      refine lv_iload_n (pc := 62) hx hb dX0_ends_62 rfl (lv_at hl 2 rfl) ?_
      refine lv_imul (pc := 63) hx hb dX0_ends_63 ?_
      refine lv_iconst (pc := 64) (v := (2 : Int32)) hx hb dX0_ends_64 (by decide) ?_
      refine lv_iadd (pc := 65) hx hb dX0_ends_65 ?_
      obtain ⟨hg34, hm⟩ := gb_some hm
      refine rk_iald (pc := 66) hx hb hK hW0 6 (by decide) rfl rfl hg34 (x := (gI v0 6 (((3 : Int32) * i2) + (2 : Int32)).toNatClampNeg)) rfl dX0_ends_66 ?_
      obtain ⟨w35, hq36, hm⟩ := ob_some hm
      refine rk_lamC (pc := 67) (y := yX0_bounds) (k := (gI v0 6 (((3 : Int32) * i2) + (1 : Int32)).toNatClampNeg)) (v := (gI v0 6 (((3 : Int32) * i2) + (2 : Int32)).toNatClampNeg)) (b := b0) (rest := []) (mc := 0) (ms := 0) hx hb hml hown hts hK hS (fun q hq => FA_sz rfl q hq) lfC0 (hZL.1 s hK).1.2.2.1 (hZL.1 s hK).2.1.2.1 q1605 q1607 (rg_lam hW0 174 (by decide) rfl rfl) rfl rfl rfl yn_X0_bounds ⟨q424, qs0, q114, q425⟩ (ct_X0_bounds (G := G) (l := l) (b0 := b0) (sz := H.size) hq36) (fun ov H h => h.1) ⟨Nat.le_of_ble_eq_true rfl, Nat.le_of_ble_eq_true rfl⟩ (fun z h => Or.inl h) (rk_recv hK hW0 0 (by decide) rfl rfl rfl) hW0 hl.1 (Nat.le_of_ble_eq_true rfl) dX0_ends_67 ⟨Nat.zero_le _, Nat.zero_le _⟩ (fun H37 locs38 hP39 hkp40 hS41 => ?_)
      obtain ⟨-, hW42, hz43⟩ := hP39
      have hG44 := GO_keepA hG hkp40 (Nat.le_trans (show gB G ≤ s.heap.size by omega) hS.1) (by intro z h3; have h8 := h3.1.1; have h9 := h3.1.2; omega)
      have hz45 := hz43.trans hz
      refine lv_iinc (pc := 72) (v := (i2 + (1 : Int32))) (lv' := [(2, .int (i2 + (1 : Int32))), (0, .ref b0), (1, .ref (b0 + 23))]) hx hb dX0_ends_72 hl (k := 2) rfl rfl (by decide) rfl (fun ls hl => ?_)
      refine lv_goto (pc := 75) (tgt := 14) hx hb dX0_ends_75 (by decide) ?_
      exact hk14 w35 zc (i2 + (1 : Int32)) hm H37 locs38 ls hW42 hS41 hz45 hG44 (lv_sub hl [1, 2, 0] rfl)
    have hm := ite_f c32 hm
    by_cases c46 : (gI v0 6 ((3 : Int32) * i2).toNatClampNeg) = (1 : Int32)
    · have hm := ite_t c46 hm
      refine rk_aald (pc := 40) hx hb hK hW0 156 8 (by decide) rfl rfl rfl hg31 (x := (b0 + 175)) (by rw [c46]; rfl) dX0_ends_40 ?_
      refine lv_aload_n (pc := 41) hx hb dX0_ends_41 rfl (lv_at hl 0 rfl) ?_
      refine rk_get (pc := 42) hx hb hts hown hK hW0 flX0_12 0 (by decide) rfl rfl (x := .ref (b0 + 1)) (by first | rfl | exact congrArg (fun z => some (Value.ref z)) (by omega)) dX0_ends_42 ?_
      refine rk_getN (pc := 45) hx hb hts hown hK hW0 fnX0_558 1 (by decide) rfl rfl (x := .ref (b0 + 6)) (by first | rfl | exact congrArg (fun z => some (Value.ref z)) (by omega)) dX0_ends_45 ?_
      refine lv_iconst (pc := 48) (v := (3 : Int32)) hx hb dX0_ends_48 (by decide) ?_
      refine lv_iload_n (pc := 49) hx hb dX0_ends_49 rfl (lv_at hl 2 rfl) ?_
      refine lv_imul (pc := 50) hx hb dX0_ends_50 ?_
      refine lv_iconst (pc := 51) (v := (1 : Int32)) hx hb dX0_ends_51 (by decide) ?_
      refine lv_iadd (pc := 52) hx hb dX0_ends_52 ?_
      obtain ⟨hg47, hm⟩ := gb_some hm
      refine rk_iald (pc := 53) hx hb hK hW0 6 (by decide) rfl rfl hg47 (x := (gI v0 6 (((3 : Int32) * i2) + (1 : Int32)).toNatClampNeg)) rfl dX0_ends_53 ?_
      refine lv_aload_n (pc := 54) hx hb dX0_ends_54 rfl (lv_at hl 0 rfl) ?_
      refine rk_get (pc := 55) hx hb hts hown hK hW0 flX0_12 0 (by decide) rfl rfl (x := .ref (b0 + 1)) (by first | rfl | exact congrArg (fun z => some (Value.ref z)) (by omega)) dX0_ends_55 ?_
      refine rk_getN (pc := 58) hx hb hts hown hK hW0 fnX0_558 1 (by decide) rfl rfl (x := .ref (b0 + 6)) (by first | rfl | exact congrArg (fun z => some (Value.ref z)) (by omega)) dX0_ends_58 ?_
      refine lv_iconst (pc := 61) (v := (3 : Int32)) hx hb dX0_ends_61 (by decide) ?_
      refine lv_iload_n (pc := 62) hx hb dX0_ends_62 rfl (lv_at hl 2 rfl) ?_
      refine lv_imul (pc := 63) hx hb dX0_ends_63 ?_
      refine lv_iconst (pc := 64) (v := (2 : Int32)) hx hb dX0_ends_64 (by decide) ?_
      refine lv_iadd (pc := 65) hx hb dX0_ends_65 ?_
      obtain ⟨hg48, hm⟩ := gb_some hm
      refine rk_iald (pc := 66) hx hb hK hW0 6 (by decide) rfl rfl hg48 (x := (gI v0 6 (((3 : Int32) * i2) + (2 : Int32)).toNatClampNeg)) rfl dX0_ends_66 ?_
      obtain ⟨w49, hq50, hm⟩ := ob_some hm
      refine rk_lamC (pc := 67) (y := yX0_lambda_new_2) (k := (gI v0 6 (((3 : Int32) * i2) + (1 : Int32)).toNatClampNeg)) (v := (gI v0 6 (((3 : Int32) * i2) + (2 : Int32)).toNatClampNeg)) (b := b0) (rest := []) (mc := 0) (ms := 0) hx hb hml hown hts hK hS (fun q hq => FA_sz rfl q hq) lfC1 (hZL.1 s hK).1.2.2.2.1 (hZL.1 s hK).2.1.2.1 q1605 q1607 (rg_lam hW0 175 (by decide) rfl rfl) rfl rfl rfl yn_X0_lambda_new_2 ⟨q434, qs1, q114, q435⟩ (ct_X0_lambda_new_2 (G := G) (l := l) (b0 := b0) (sz := H.size) hq50) (fun ov H h => h.1) ⟨Nat.le_of_ble_eq_true rfl, Nat.le_of_ble_eq_true rfl⟩ (fun z h => Or.inl h) (rk_recv hK hW0 0 (by decide) rfl rfl rfl) hW0 hl.1 (Nat.le_of_ble_eq_true rfl) dX0_ends_67 ⟨Nat.zero_le _, Nat.zero_le _⟩ (fun H51 locs52 hP53 hkp54 hS55 => ?_)
      obtain ⟨-, hW56, hz57⟩ := hP53
      have hG58 := GO_keepA hG hkp54 (Nat.le_trans (show gB G ≤ s.heap.size by omega) hS.1) (by intro z h3; have h8 := h3.1.1; have h9 := h3.1.2; omega)
      have hz59 := hz57.trans hz
      refine lv_iinc (pc := 72) (v := (i2 + (1 : Int32))) (lv' := [(2, .int (i2 + (1 : Int32))), (0, .ref b0), (1, .ref (b0 + 23))]) hx hb dX0_ends_72 hl (k := 2) rfl rfl (by decide) rfl (fun ls hl => ?_)
      refine lv_goto (pc := 75) (tgt := 14) hx hb dX0_ends_75 (by decide) ?_
      exact hk14 w49 zc (i2 + (1 : Int32)) hm H51 locs52 ls hW56 hS55 hz59 hG58 (lv_sub hl [1, 2, 0] rfl)
    have hm := ite_f c46 hm
    by_cases c60 : (gI v0 6 ((3 : Int32) * i2).toNatClampNeg) = (2 : Int32)
    · have hm := ite_t c60 hm
      refine rk_aald (pc := 40) hx hb hK hW0 156 8 (by decide) rfl rfl rfl hg31 (x := (b0 + 176)) (by rw [c60]; rfl) dX0_ends_40 ?_
      refine lv_aload_n (pc := 41) hx hb dX0_ends_41 rfl (lv_at hl 0 rfl) ?_
      refine rk_get (pc := 42) hx hb hts hown hK hW0 flX0_12 0 (by decide) rfl rfl (x := .ref (b0 + 1)) (by first | rfl | exact congrArg (fun z => some (Value.ref z)) (by omega)) dX0_ends_42 ?_
      refine rk_getN (pc := 45) hx hb hts hown hK hW0 fnX0_558 1 (by decide) rfl rfl (x := .ref (b0 + 6)) (by first | rfl | exact congrArg (fun z => some (Value.ref z)) (by omega)) dX0_ends_45 ?_
      refine lv_iconst (pc := 48) (v := (3 : Int32)) hx hb dX0_ends_48 (by decide) ?_
      refine lv_iload_n (pc := 49) hx hb dX0_ends_49 rfl (lv_at hl 2 rfl) ?_
      refine lv_imul (pc := 50) hx hb dX0_ends_50 ?_
      refine lv_iconst (pc := 51) (v := (1 : Int32)) hx hb dX0_ends_51 (by decide) ?_
      refine lv_iadd (pc := 52) hx hb dX0_ends_52 ?_
      obtain ⟨hg61, hm⟩ := gb_some hm
      refine rk_iald (pc := 53) hx hb hK hW0 6 (by decide) rfl rfl hg61 (x := (gI v0 6 (((3 : Int32) * i2) + (1 : Int32)).toNatClampNeg)) rfl dX0_ends_53 ?_
      refine lv_aload_n (pc := 54) hx hb dX0_ends_54 rfl (lv_at hl 0 rfl) ?_
      refine rk_get (pc := 55) hx hb hts hown hK hW0 flX0_12 0 (by decide) rfl rfl (x := .ref (b0 + 1)) (by first | rfl | exact congrArg (fun z => some (Value.ref z)) (by omega)) dX0_ends_55 ?_
      refine rk_getN (pc := 58) hx hb hts hown hK hW0 fnX0_558 1 (by decide) rfl rfl (x := .ref (b0 + 6)) (by first | rfl | exact congrArg (fun z => some (Value.ref z)) (by omega)) dX0_ends_58 ?_
      refine lv_iconst (pc := 61) (v := (3 : Int32)) hx hb dX0_ends_61 (by decide) ?_
      refine lv_iload_n (pc := 62) hx hb dX0_ends_62 rfl (lv_at hl 2 rfl) ?_
      refine lv_imul (pc := 63) hx hb dX0_ends_63 ?_
      refine lv_iconst (pc := 64) (v := (2 : Int32)) hx hb dX0_ends_64 (by decide) ?_
      refine lv_iadd (pc := 65) hx hb dX0_ends_65 ?_
      obtain ⟨hg62, hm⟩ := gb_some hm
      refine rk_iald (pc := 66) hx hb hK hW0 6 (by decide) rfl rfl hg62 (x := (gI v0 6 (((3 : Int32) * i2) + (2 : Int32)).toNatClampNeg)) rfl dX0_ends_66 ?_
      obtain ⟨w63, hq64, hm⟩ := ob_some hm
      refine rk_lamC (pc := 67) (y := yX0_factors) (k := (gI v0 6 (((3 : Int32) * i2) + (1 : Int32)).toNatClampNeg)) (v := (gI v0 6 (((3 : Int32) * i2) + (2 : Int32)).toNatClampNeg)) (b := b0) (rest := []) (mc := 0) (ms := 0) hx hb hml hown hts hK hS (fun q hq => FA_sz rfl q hq) lfC2 (hZL.1 s hK).1.2.2.2.2.1 (hZL.1 s hK).2.1.2.1 q1605 q1607 (rg_lam hW0 176 (by decide) rfl rfl) rfl rfl rfl yn_X0_factors ⟨q441, qs2, q114, q442⟩ (ct_X0_factors (G := G) (l := l) (b0 := b0) (sz := H.size) hq64) (fun ov H h => h.1) ⟨Nat.le_of_ble_eq_true rfl, Nat.le_of_ble_eq_true rfl⟩ (fun z h => Or.inl h) (rk_recv hK hW0 0 (by decide) rfl rfl rfl) hW0 hl.1 (Nat.le_of_ble_eq_true rfl) dX0_ends_67 ⟨Nat.zero_le _, Nat.zero_le _⟩ (fun H65 locs66 hP67 hkp68 hS69 => ?_)
      obtain ⟨-, hW70, hz71⟩ := hP67
      have hG72 := GO_keepA hG hkp68 (Nat.le_trans (show gB G ≤ s.heap.size by omega) hS.1) (by intro z h3; have h8 := h3.1.1; have h9 := h3.1.2; omega)
      have hz73 := hz71.trans hz
      refine lv_iinc (pc := 72) (v := (i2 + (1 : Int32))) (lv' := [(2, .int (i2 + (1 : Int32))), (0, .ref b0), (1, .ref (b0 + 23))]) hx hb dX0_ends_72 hl (k := 2) rfl rfl (by decide) rfl (fun ls hl => ?_)
      refine lv_goto (pc := 75) (tgt := 14) hx hb dX0_ends_75 (by decide) ?_
      exact hk14 w63 zc (i2 + (1 : Int32)) hm H65 locs66 ls hW70 hS69 hz73 hG72 (lv_sub hl [1, 2, 0] rfl)
    have hm := ite_f c60 hm
    exact nomatch hm
theorem w_fX0_ends_14_l (C : Cx G p s m args meth c RX0 cX0_ends 3 (some .int)) {b0 : Nat} {rx : Int32} {rc : Nat} {rw0 : Mem} (he0 : b0 + 357 ≤ s.heap.size) (hZ : ZQ G) (hgb0 : gB G ≤ b0) (hZL : ZL G) : ∀ (n : Nat) (v0 : Mem) (zc : Nat) (i2 : Int32), lq3 (fX0_ends_14) n v0 zc i2 = some (rx, rc, rw0) → ∀ (H : Heap) (locs : List Loc) (ls : Array Slot), rg G b0 357 (shX0 G.2.1) v0 H → va_S (FA (fX b0) s.heap.size) s.heap H locs → H.size = s.heap.size + zc → GO G H → lv_has ls 3 [(0, .ref b0), (1, .ref (b0 + 23)), (2, .int i2)] → W p l e (rmT 8 1 7 176) s m args below meth c H locs 0 0 (MQ below (QcT (FA (fX b0) s.heap.size) (fun ov H => ov = (some (.int rx)) ∧ rg G b0 357 (shX0 G.2.1) rw0 H ∧ H.size = s.heap.size + rc)) args s 1 7 (FA (fX b0) s.heap.size)) (F0 m 14 ls []) := by
  intro n
  induction n with
  | zero => intro v0 zc i2 hm; exact (lq3_0 hm).elim
  | succ n ih => intro v0 zc i2 hm; exact w_fX0_ends_14 C he0 hZ hgb0 hZL ih v0 zc i2 (lq3_s hm)
set_option maxHeartbeats 4000000 in
theorem w_fX0_ends (C : Cx G p s m args meth c RX0 cX0_ends 3 (some .int)) {b0 : Nat} {rx : Int32} {rc : Nat} {rw0 : Mem} (he0 : b0 + 357 ≤ s.heap.size) (hZ : ZQ G) (hgb0 : gB G ≤ b0) (hZL : ZL G) : ∀ (v0 : Mem), fX0_ends v0 = some (rx, rc, rw0) → ∀ (H : Heap) (locs : List Loc) (ls : Array Slot), rg G b0 357 (shX0 G.2.1) v0 H → va_S (FA (fX b0) s.heap.size) s.heap H locs → H.size = s.heap.size + 0 → GO G H → lv_has ls 3 [(0, .ref b0)] → W p l e (rmT 8 1 7 176) s m args below meth c H locs 0 0 (MQ below (QcT (FA (fX b0) s.heap.size) (fun ov H => ov = (some (.int rx)) ∧ rg G b0 357 (shX0 G.2.1) rw0 H ∧ H.size = s.heap.size + rc)) args s 1 7 (FA (fX b0) s.heap.size)) (F0 m 0 ls []) := by
  intro v0 hm H locs ls hW0 hS hz hG hl
  obtain ⟨hx, hb, hr, hlk, hml, hown, hts, hK⟩ := id C
  unfold fX0_ends at hm
  refine lv_aload_n (pc := 0) hx hb dX0_ends_0 rfl (lv_at hl 0 rfl) ?_
  refine rk_get (pc := 1) hx hb hts hown hK hW0 flX0_18 0 (by decide) rfl rfl (x := .ref (b0 + 23)) (by first | rfl | exact congrArg (fun z => some (Value.ref z)) (by omega)) dX0_ends_1 ?_
  refine lv_aload_n (pc := 4) hx hb dX0_ends_4 rfl (lv_at hl 0 rfl) ?_
  refine rk_get (pc := 5) hx hb hts hown hK hW0 flX0_12 0 (by decide) rfl rfl (x := .ref (b0 + 1)) (by first | rfl | exact congrArg (fun z => some (Value.ref z)) (by omega)) dX0_ends_5 ?_
  obtain ⟨w1, hq2, hm⟩ := ob_some hm
  refine rk_TV (pc := 8) (As := [.ref (b0 + 1)]) (rest := []) (mc := 0) (ms := 0) hx hb hml hown hts hK hS (fun q hq => FA_sz rfl q hq) lkX0_469 rfl yn_X1_like (ct_X1_like (G := G) (l := l) (b0 := (b0 + 23)) (b1 := (b0 + 1)) (sz := H.size) hq2 (by omega)) ⟨Nat.le_of_ble_eq_true rfl, Nat.le_of_ble_eq_true rfl⟩ (fun z h => Or.inl (show fX _ _ from ⟨⟨by have h8 := h.1; have h9 := h.2; omega, by have h8 := h.1; have h9 := h.2; omega⟩, by have h8 := h.1; have h9 := h.2; omega⟩)) (rk_recv hK hW0 23 (by decide) rfl rfl rfl) ⟨(rg_sub hW0 rfl (by decide) (fun o ho x y z => shX0_n23 G.2.1 _ rfl o ho x y z)), (rg_sub hW0 rfl (by decide) (fun o ho x y z => shX0_n1 G.2.1 _ rfl o ho x y z))⟩ rfl rfl hl.1 (Nat.le_of_ble_eq_true rfl) dX0_ends_8 ⟨Nat.zero_le _, Nat.zero_le _⟩ (fun ov9 H3 locs4 hP5 hkp6 hS7 => ?_)
  obtain ⟨rfl, hW8, hz9⟩ := hP5
  have hW10 := rg_put (d := 23) hW0 hW8 rfl (fun o ho x y z => shX0_n23 G.2.1 _ rfl o ho x y z) hkp6
  obtain ⟨v0_11, he9, hm⟩ := lm_some hm
  rw [he9] at hW10
  have hG12 := GO_keepA hG hkp6 (Nat.le_trans (show gB G ≤ s.heap.size by omega) hS.1) (by intro z h3; have h8 := h3.1; have h9 := h3.2; omega)
  have hz13 := hz9.trans hz
  refine W.eq (g2 := F0 m 11 ls [.ref (b0 + 23)]) rfl ?_
  refine lv_astore_n (pc := 11) (lv' := [(1, .ref (b0 + 23)), (0, .ref b0)]) hx hb dX0_ends_11 rfl hl (by decide) rfl (fun ls hl => ?_)
  refine lv_iconst (pc := 12) (v := (0 : Int32)) hx hb dX0_ends_12 (by decide) ?_
  refine lv_istore_n (pc := 13) (lv' := [(2, .int (0 : Int32)), (1, .ref (b0 + 23)), (0, .ref b0)]) hx hb dX0_ends_13 rfl hl (by decide) rfl (fun ls hl => ?_)
  exact (w_fX0_ends_14_l C he0 hZ hgb0 hZL FU) v0_11 0 (0 : Int32) hm H3 locs4 ls hW10 hS7 hz13 hG12 (lv_sub hl [2, 1, 0] rfl)
set_option maxHeartbeats 4000000 in
theorem ct_X0_ends {G : Gv} {l : Launch} {b0 : Nat} {v0 : Mem} {rx : Int32} {rc : Nat} {rw0 : Mem} {sz : Nat} (hm : fX0_ends v0 = some (rx, rc, rw0)) (hZ : ZQ G) (hgb0 : gB G ≤ b0) (hZL : ZL G) : CT G l yX0_ends (ws_ yX0_ends cX0_ends 3 (some .int)) 8 1 7 176 [.ref b0] (fX b0) sz (fun H => rg G b0 357 (shX0 G.2.1) v0 H ∧ GO G H) (fun ov H => ov = (some (.int rx)) ∧ rg G b0 357 (shX0 G.2.1) rw0 H ∧ H.size = sz + rc) := by
  refine Met.ofW (cc := cX0_ends) (maxL := 3) (ret := (some .int)) (by decide +kernel) rfl ?_
  intro p e s m args below meth c s₁ B hml hv
  obtain ⟨rfl, ⟨hz, hW0, hG⟩, hK⟩ := hv
  subst hz
  have he0 := rg_end hW0 356 (by decide) rfl (fun _ _ _ => rfl)
  have hts := atoms_spec (ws := ws_ yX0_ends cX0_ends 3 (some .int)) B.pre
  have hts : ∀ w ∈ lw_all, w.before _ s = true := fun w h => hts w (List.mem_cons_of_mem _ h)
  have C : Cx G p s m _ meth c RX0 cX0_ends 3 (some .int) := ⟨B.exec, B.bytes, B.returns, B.notSynchronized, hml, findClass_of_methodNamed B.named, hts, hK⟩
  have hl := lv_entry ([.ref b0]) (n := 3) (Nat.le_of_ble_eq_true rfl)
  rw [lg_entry_eq]
  generalize (lg_sl ([.ref b0]) ++ List.replicate (3 - (lg_sl ([.ref b0])).length) Slot.unset).toArray = ls at hl ⊢
  have hl : lv_has ls 3 [(0, .ref b0)] := hl
  exact w_fX0_ends C he0 hZ hgb0 hZL _ hm s.heap [] ls hW0 va_S.rf rfl hG hl
noncomputable def fX0_isTape (i0 : Int32) : Option (Int32) :=
  ob (fX0_in i0.toInt64 (0 : Int64) (5 : Int64)) fun r1 =>
  gb (z01 r1) (some r1)
set_option maxHeartbeats 4000000 in
theorem w_fX0_isTape (C : Cx G p s m args meth c RX0 cX0_isTape 1 (some .boolean)) {rx : Int32} : ∀ (i0 : Int32), fX0_isTape i0 = some rx → ∀ (ls : Array Slot), lv_has ls 1 [(0, .int i0)] → W p l e (rmP 1 25) s m args below meth c s.heap [] 0 0 (MQ below (QcP (some (.int rx))) args s 0 0 (fun _ => False)) (F0 m 0 ls []) := by
  intro i0 hm ls hl
  obtain ⟨hx, hb, hr, hlk, hml, hown, hts, hK⟩ := id C
  unfold fX0_isTape at hm
  refine lv_iload_n (pc := 0) hx hb dX0_isTape_0 rfl (lv_at hl 0 rfl) ?_
  refine lv_i2l (pc := 1) hx hb dX0_isTape_1 rfl ?_
  refine lv_lconst (pc := 2) (v := (0 : Int64)) hx hb dX0_isTape_2 (by decide) ?_
  refine lv_ldc2 (pc := 3) (v := (5 : Int64)) hx hb hown (hts _ q578) dX0_isTape_3 ?_
  obtain ⟨r1, hq2, hm⟩ := ob_some hm
  refine rk_PS (pc := 6) (As := [.long i0.toInt64, .long (0 : Int64), .long (5 : Int64)]) (rest := []) hx hb hml hown hts hK lkX0_127 yn_X0_in (ct_X0_in (G := G) (l := l) hq2) ⟨Nat.le_of_ble_eq_true rfl, Nat.le_of_ble_eq_true rfl⟩ trivial rfl rfl hl.1 (Nat.le_of_ble_eq_true rfl) dX0_isTape_6 ⟨Nat.zero_le _, Nat.zero_le _⟩ ?_
  refine W.eq (g2 := F0 m 9 ls [.int r1]) rfl ?_
  obtain ⟨hg3, hm⟩ := gb_some hm
  have e9 := rs1 hm
  subst e9
  exact rk_zretP (pc := 9) hx hb hr hlk hg3 rfl dX0_isTape_9
set_option maxHeartbeats 4000000 in
theorem ct_X0_isTape {G : Gv} {l : Launch} {i0 : Int32} {rx : Int32} (hm : fX0_isTape i0 = some rx) : CP G l yX0_isTape (ws_ yX0_isTape cX0_isTape 1 (some .boolean)) 1 25 [.int i0] (fun H => True) (some (.int rx)) := by
  refine Met.ofW (cc := cX0_isTape) (maxL := 1) (ret := (some .boolean)) (by decide +kernel) rfl ?_
  intro p e s m args below meth c s₁ B hml hv
  obtain ⟨rfl, -, hK⟩ := hv
  have hts := atoms_spec (ws := ws_ yX0_isTape cX0_isTape 1 (some .boolean)) B.pre
  have hts : ∀ w ∈ lw_all, w.before _ s = true := fun w h => hts w (List.mem_cons_of_mem _ h)
  have C : Cx G p s m _ meth c RX0 cX0_isTape 1 (some .boolean) := ⟨B.exec, B.bytes, B.returns, B.notSynchronized, hml, findClass_of_methodNamed B.named, hts, hK⟩
  have hl := lv_entry ([.int i0]) (n := 1) (Nat.le_of_ble_eq_true rfl)
  rw [lg_entry_eq]
  generalize (lg_sl ([.int i0]) ++ List.replicate (1 - (lg_sl ([.int i0])).length) Slot.unset).toArray = ls at hl ⊢
  have hl : lv_has ls 1 [(0, .int i0)] := hl
  exact w_fX0_isTape C _ hm ls hl
end
