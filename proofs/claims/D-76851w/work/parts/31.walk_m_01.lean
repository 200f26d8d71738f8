set_option maxRecDepth 100000
section
variable {p : Program} {l : Launch} {e : Env} {s : State} {m : MethodId} {args : Array Value} {below : List Frame} {meth : Method} {c : Code} {G : Gv}
theorem ft_X9 : FT TX9 29 tyX9 := ⟨tyX9_ok, nmX9⟩
theorem flX9_11 : FL RX9 11 9 0 RX9 TX9 29 := ⟨in_X9, rfl, by decide, q1828⟩
theorem flX9_30 : FL RX9 30 9 9 RX9 TX9 29 := ⟨in_X9, rfl, by decide, q1836⟩
theorem ft_X10 : FT TX10 20 tyX10 := ⟨tyX10_ok, nmX10⟩
theorem fnX9_85 : FN RX9 85 10 18 RX10 TX10 20 "WholePacksModel" := ⟨in_X10, rfl, by decide, q1781⟩
noncomputable def fX9_begins_52 (k52 : Mem → Int32 → Option (Mem)) (v0 : Mem) (i3 : Int32) : Option (Mem) :=
  if (5 : Int32) ≤ i3 then (
  lm (sI v0 6 18 (0 : Int32)) fun v0_40 =>
  some v0_40)
  else (
  gb (inR ((7 : Int32) + i3) 150) (
  lm (sI v0 1 ((7 : Int32) + i3).toNatClampNeg (1 : Int32)) fun v0_49 =>
  k52 v0_49 (i3 + (1 : Int32))))
noncomputable def fX9_begins_9 (k9 : Mem → Int32 → Int32 → Int32 → Option (Mem)) (v0 : Mem) (i1 : Int32) (i2 : Int32) (i3 : Int32) : Option (Mem) :=
  if (150 : Int32) ≤ i3 then (
  gb (inR (0 : Int32) 150) (
  lm (sI v0 1 (0 : Int32).toNatClampNeg i1) fun v0_4 =>
  gb (inR (2 : Int32) 150) (
  lm (sI v0_4 1 (2 : Int32).toNatClampNeg (1 : Int32)) fun v0_13 =>
  gb (inR (3 : Int32) 150) (
  lm (sI v0_13 1 (3 : Int32).toNatClampNeg i2) fun v0_22 =>
  lq2 (fX9_begins_52) FU v0_22 (0 : Int32)))))
  else (
  gb (inR i3 150) (
  lm (sI v0 1 i3.toNatClampNeg (0 : Int32)) fun v0_31 =>
  k9 v0_31 i1 i2 (i3 + (1 : Int32))))
noncomputable def fX9_begins (v0 : Mem) (i1 : Int32) : Option (Mem) :=
  gb (inR (3 : Int32) 150) (
  lq4 (fX9_begins_9) FU v0 i1 (gI v0 1 (3 : Int32).toNatClampNeg) (0 : Int32))
set_option maxHeartbeats 4000000 in
theorem w_fX9_begins_52 (C : Cx G p s m args meth c RX9 cX9_begins 4 none) {b0 : Nat} {rw0 : Mem} {k52 : Mem → Int32 → Option (Mem)} (hk52 : ∀ (v0 : Mem) (i3 : Int32), k52 v0 i3 = some rw0 → ∀ (H : Heap) (locs : List Loc) (ls : Array Slot), rg G b0 46 (shX9 G.2.1) v0 H → va_S (FA (iv b0 46) s.heap.size) s.heap H locs → H.size = s.heap.size → lv_has ls 4 [(0, .ref b0), (3, .int i3)] → W p l e (rmT 0 0 0 0) s m args below meth c H locs 0 0 (MQ below (QcT (FA (iv b0 46) s.heap.size) (fun ov H => ov = none ∧ rg G b0 46 (shX9 G.2.1) rw0 H ∧ H.size = s.heap.size)) args s 0 0 (FA (iv b0 46) s.heap.size)) (F0 m 52 ls [])) : ∀ (v0 : Mem) (i3 : Int32), fX9_begins_52 k52 v0 i3 = some rw0 → ∀ (H : Heap) (locs : List Loc) (ls : Array Slot), rg G b0 46 (shX9 G.2.1) v0 H → va_S (FA (iv b0 46) s.heap.size) s.heap H locs → H.size = s.heap.size → lv_has ls 4 [(0, .ref b0), (3, .int i3)] → W p l e (rmT 0 0 0 0) s m args below meth c H locs 0 0 (MQ below (QcT (FA (iv b0 46) s.heap.size) (fun ov H => ov = none ∧ rg G b0 46 (shX9 G.2.1) rw0 H ∧ H.size = s.heap.size)) args s 0 0 (FA (iv b0 46) s.heap.size)) (F0 m 52 ls []) := by
  intro v0 i3 hm H locs ls hW0 hS hz hl
  obtain ⟨hx, hb, hr, hlk, hml, hown, hts, hK⟩ := id C
  unfold fX9_begins_52 at hm
  refine lv_iload_n (pc := 52) hx hb dX9_begins_52 rfl (lv_at hl 1 rfl) ?_
  refine lv_iconst (pc := 53) (v := (5 : Int32)) hx hb dX9_begins_53 (by decide) ?_
  refine lv_icmp_ge (pc := 54) (tgt := 73) hx hb dX9_begins_54 (by decide) (fun c39 => ?_) (fun c39 => ?_)
  · have hm := ite_t c39 hm
    refine lv_aload_n (pc := 73) hx hb dX9_begins_73 rfl (lv_at hl 0 rfl) ?_
    refine rk_get (pc := 74) hx hb hts hown hK hW0 flX9_30 0 (by decide) rfl rfl (x := .ref (b0 + 6)) (by first | rfl | exact congrArg (fun z => some (Value.ref z)) (by omega)) dX9_begins_74 ?_
    refine lv_iconst (pc := 77) (v := (0 : Int32)) hx hb dX9_begins_77 (by decide) ?_
    refine rk_putN (pc := 78) hx hb hts hown hK hW0 hS fnX9_85 ft_X10 6 (by decide) rfl (Or.inl (show iv _ _ _ from ⟨by omega, by omega⟩)) rfl rfl (x := .int (0 : Int32)) rfl rfl (Nat.le_of_ble_eq_true rfl) (sI v0 6 18 (0 : Int32)) sI_ne (by rw [sI_eq]; exact rfl) dX9_begins_78 (fun H41 locs42 hW43 hS44 hz45 hkp46 => ?_)
    obtain ⟨v0_40, he9, hm⟩ := lm_some hm
    rw [he9] at hW43
    have hz47 := hz45.trans hz
    have e9 := rs1 hm
    subst e9
    exact rk_vret (pc := 81) hx hb hr hlk hS44 ⟨rfl, hW43, hz47⟩ dX9_begins_81
  · have hm := ite_f c39 hm
    refine lv_aload_n (pc := 57) hx hb dX9_begins_57 rfl (lv_at hl 0 rfl) ?_
    refine rk_get (pc := 58) hx hb hts hown hK hW0 flX9_11 0 (by decide) rfl rfl (x := .ref (b0 + 1)) (by first | rfl | exact congrArg (fun z => some (Value.ref z)) (by omega)) dX9_begins_58 ?_
    refine lv_bipush (pc := 61) (v := (7 : Int32)) hx hb dX9_begins_61 (by decide) ?_
    refine lv_iload_n (pc := 63) hx hb dX9_begins_63 rfl (lv_at hl 1 rfl) ?_
    refine lv_iadd (pc := 64) hx hb dX9_begins_64 ?_
    refine lv_iconst (pc := 65) (v := (1 : Int32)) hx hb dX9_begins_65 (by decide) ?_
    obtain ⟨hg48, hm⟩ := gb_some hm
    refine rk_iast (pc := 66) hx hb hK hW0 hS 1 (by decide) rfl (Or.inl (show iv _ _ _ from ⟨by omega, by omega⟩)) (fun _ _ _ => rfl) hg48 dX9_begins_66 (fun H50 locs51 hW52 hS53 hz54 hkp55 => ?_)
    obtain ⟨v0_49, he9, hm⟩ := lm_some hm
    rw [he9] at hW52
    have hz56 := hz54.trans hz
    refine lv_iinc (pc := 67) (v := (i3 + (1 : Int32))) (lv' := [(3, .int (i3 + (1 : Int32))), (0, .ref b0)]) hx hb dX9_begins_67 hl (k := 1) rfl rfl (by decide) rfl (fun ls hl => ?_)
    refine lv_goto (pc := 70) (tgt := 52) hx hb dX9_begins_70 (by decide) ?_
    exact hk52 v0_49 (i3 + (1 : Int32)) hm H50 locs51 ls hW52 hS53 hz56 (lv_sub hl [1, 0] rfl)
theorem w_fX9_begins_52_l (C : Cx G p s m args meth c RX9 cX9_begins 4 none) {b0 : Nat} {rw0 : Mem} : ∀ (n : Nat) (v0 : Mem) (i3 : Int32), lq2 (fX9_begins_52) n v0 i3 = some rw0 → ∀ (H : Heap) (locs : List Loc) (ls : Array Slot), rg G b0 46 (shX9 G.2.1) v0 H → va_S (FA (iv b0 46) s.heap.size) s.heap H locs → H.size = s.heap.size → lv_has ls 4 [(0, .ref b0), (3, .int i3)] → W p l e (rmT 0 0 0 0) s m args below meth c H locs 0 0 (MQ below (QcT (FA (iv b0 46) s.heap.size) (fun ov H => ov = none ∧ rg G b0 46 (shX9 G.2.1) rw0 H ∧ H.size = s.heap.size)) args s 0 0 (FA (iv b0 46) s.heap.size)) (F0 m 52 ls []) := by
  intro n
  induction n with
  | zero => intro v0 i3 hm; exact (lq2_0 hm).elim
  | succ n ih => intro v0 i3 hm; exact w_fX9_begins_52 C ih v0 i3 (lq2_s hm)
set_option maxHeartbeats 4000000 in
theorem w_fX9_begins_9 (C : Cx G p s m args meth c RX9 cX9_begins 4 none) {b0 : Nat} {rw0 : Mem} {k9 : Mem → Int32 → Int32 → Int32 → Option (Mem)} (hk9 : ∀ (v0 : Mem) (i1 : Int32) (i2 : Int32) (i3 : Int32), k9 v0 i1 i2 i3 = some rw0 → ∀ (H : Heap) (locs : List Loc) (ls : Array Slot), rg G b0 46 (shX9 G.2.1) v0 H → va_S (FA (iv b0 46) s.heap.size) s.heap H locs → H.size = s.heap.size → lv_has ls 4 [(0, .ref b0), (1, .int i1), (2, .int i2), (3, .int i3)] → W p l e (rmT 0 0 0 0) s m args below meth c H locs 0 0 (MQ below (QcT (FA (iv b0 46) s.heap.size) (fun ov H => ov = none ∧ rg G b0 46 (shX9 G.2.1) rw0 H ∧ H.size = s.heap.size)) args s 0 0 (FA (iv b0 46) s.heap.size)) (F0 m 9 ls [])) : ∀ (v0 : Mem) (i1 : Int32) (i2 : Int32) (i3 : Int32), fX9_begins_9 k9 v0 i1 i2 i3 = some rw0 → ∀ (H : Heap) (locs : List Loc) (ls : Array Slot), rg G b0 46 (shX9 G.2.1) v0 H → va_S (FA (iv b0 46) s.heap.size) s.heap H locs → H.size = s.heap.size → lv_has ls 4 [(0, .ref b0), (1, .int i1), (2, .int i2), (3, .int i3)] → W p l e (rmT 0 0 0 0) s m args below meth c H locs 0 0 (MQ below (QcT (FA (iv b0 46) s.heap.size) (fun ov H => ov = none ∧ rg G b0 46 (shX9 G.2.1) rw0 H ∧ H.size = s.heap.size)) args s 0 0 (FA (iv b0 46) s.heap.size)) (F0 m 9 ls []) := by
  intro v0 i1 i2 i3 hm H locs ls hW0 hS hz hl
  obtain ⟨hx, hb, hr, hlk, hml, hown, hts, hK⟩ := id C
  unfold fX9_begins_9 at hm
  refine lv_iload_n (pc := 9) hx hb dX9_begins_9 rfl (lv_at hl 3 rfl) ?_
  refine lv_sipush (pc := 10) (v := (150 : Int32)) hx hb dX9_begins_10 (by decide) ?_
  refine lv_icmp_ge (pc := 13) (tgt := 29) hx hb dX9_begins_13 (by decide) (fun c2 => ?_) (fun c2 => ?_)
  · have hm := ite_t c2 hm
    refine lv_aload_n (pc := 29) hx hb dX9_begins_29 rfl (lv_at hl 0 rfl) ?_
    refine rk_get (pc := 30) hx hb hts hown hK hW0 flX9_11 0 (by decide) rfl rfl (x := .ref (b0 + 1)) (by first | rfl | exact congrArg (fun z => some (Value.ref z)) (by omega)) dX9_begins_30 ?_
    refine lv_iconst (pc := 33) (v := (0 : Int32)) hx hb dX9_begins_33 (by decide) ?_
    refine lv_iload_n (pc := 34) hx hb dX9_begins_34 rfl (lv_at hl 1 rfl) ?_
    obtain ⟨hg3, hm⟩ := gb_some hm
    refine rk_iast (pc := 35) hx hb hK hW0 hS 1 (by decide) rfl (Or.inl (show iv _ _ _ from ⟨by omega, by omega⟩)) (fun _ _ _ => rfl) hg3 dX9_begins_35 (fun H5 locs6 hW7 hS8 hz9 hkp10 => ?_)
    obtain ⟨v0_4, he9, hm⟩ := lm_some hm
    rw [he9] at hW7
    have hz11 := hz9.trans hz
    refine lv_aload_n (pc := 36) hx hb dX9_begins_36 rfl (lv_at hl 0 rfl) ?_
    refine rk_get (pc := 37) hx hb hts hown hK hW7 flX9_11 0 (by decide) rfl rfl (x := .ref (b0 + 1)) (by first | rfl | exact congrArg (fun z => some (Value.ref z)) (by omega)) dX9_begins_37 ?_
    refine lv_iconst (pc := 40) (v := (2 : Int32)) hx hb dX9_begins_40 (by decide) ?_
    refine lv_iconst (pc := 41) (v := (1 : Int32)) hx hb dX9_begins_41 (by decide) ?_
    obtain ⟨hg12, hm⟩ := gb_some hm
    refine rk_iast (pc := 42) hx hb hK hW7 hS8 1 (by decide) rfl (Or.inl (show iv _ _ _ from ⟨by omega, by omega⟩)) (fun _ _ _ => rfl) hg12 dX9_begins_42 (fun H14 locs15 hW16 hS17 hz18 hkp19 => ?_)
    obtain ⟨v0_13, he9, hm⟩ := lm_some hm
    rw [he9] at hW16
    have hz20 := hz18.trans hz11
    refine lv_aload_n (pc := 43) hx hb dX9_begins_43 rfl (lv_at hl 0 rfl) ?_
    refine rk_get (pc := 44) hx hb hts hown hK hW16 flX9_11 0 (by decide) rfl rfl (x := .ref (b0 + 1)) (by first | rfl | exact congrArg (fun z => some (Value.ref z)) (by omega)) dX9_begins_44 ?_
    refine lv_iconst (pc := 47) (v := (3 : Int32)) hx hb dX9_begins_47 (by decide) ?_
    refine lv_iload_n (pc := 48) hx hb dX9_begins_48 rfl (lv_at hl 2 rfl) ?_
    obtain ⟨hg21, hm⟩ := gb_some hm
    refine rk_iast (pc := 49) hx hb hK hW16 hS17 1 (by decide) rfl (Or.inl (show iv _ _ _ from ⟨by omega, by omega⟩)) (fun _ _ _ => rfl) hg21 dX9_begins_49 (fun H23 locs24 hW25 hS26 hz27 hkp28 => ?_)
    obtain ⟨v0_22, he9, hm⟩ := lm_some hm
    rw [he9] at hW25
    have hz29 := hz27.trans hz20
    refine lv_iconst (pc := 50) (v := (0 : Int32)) hx hb dX9_begins_50 (by decide) ?_
    refine lv_istore_n (pc := 51) (lv' := [(3, .int (0 : Int32)), (0, .ref b0), (1, .int i1), (2, .int i2)]) hx hb dX9_begins_51 rfl hl (by decide) rfl (fun ls hl => ?_)
    exact (w_fX9_begins_52_l C FU) v0_22 (0 : Int32) hm H23 locs24 ls hW25 hS26 hz29 (lv_sub hl [1, 0] rfl)
  · have hm := ite_f c2 hm
    refine lv_aload_n (pc := 16) hx hb dX9_begins_16 rfl (lv_at hl 0 rfl) ?_
    refine rk_get (pc := 17) hx hb hts hown hK hW0 flX9_11 0 (by decide) rfl rfl (x := .ref (b0 + 1)) (by first | rfl | exact congrArg (fun z => some (Value.ref z)) (by omega)) dX9_begins_17 ?_
    refine lv_iload_n (pc := 20) hx hb dX9_begins_20 rfl (lv_at hl 3 rfl) ?_
    refine lv_iconst (pc := 21) (v := (0 : Int32)) hx hb dX9_begins_21 (by decide) ?_
    obtain ⟨hg30, hm⟩ := gb_some hm
    refine rk_iast (pc := 22) hx hb hK hW0 hS 1 (by decide) rfl (Or.inl (show iv _ _ _ from ⟨by omega, by omega⟩)) (fun _ _ _ => rfl) hg30 dX9_begins_22 (fun H32 locs33 hW34 hS35 hz36 hkp37 => ?_)
    obtain ⟨v0_31, he9, hm⟩ := lm_some hm
    rw [he9] at hW34
    have hz38 := hz36.trans hz
    refine lv_iinc (pc := 23) (v := (i3 + (1 : Int32))) (lv' := [(3, .int (i3 + (1 : Int32))), (0, .ref b0), (1, .int i1), (2, .int i2)]) hx hb dX9_begins_23 hl (k := 3) rfl rfl (by decide) rfl (fun ls hl => ?_)
    refine lv_goto (pc := 26) (tgt := 9) hx hb dX9_begins_26 (by decide) ?_
    exact hk9 v0_31 i1 i2 (i3 + (1 : Int32)) hm H32 locs33 ls hW34 hS35 hz38 (lv_sub hl [1, 2, 3, 0] rfl)
theorem w_fX9_begins_9_l (C : Cx G p s m args meth c RX9 cX9_begins 4 none) {b0 : Nat} {rw0 : Mem} : ∀ (n : Nat) (v0 : Mem) (i1 : Int32) (i2 : Int32) (i3 : Int32), lq4 (fX9_begins_9) n v0 i1 i2 i3 = some rw0 → ∀ (H : Heap) (locs : List Loc) (ls : Array Slot), rg G b0 46 (shX9 G.2.1) v0 H → va_S (FA (iv b0 46) s.heap.size) s.heap H locs → H.size = s.heap.size → lv_has ls 4 [(0, .ref b0), (1, .int i1), (2, .int i2), (3, .int i3)] → W p l e (rmT 0 0 0 0) s m args below meth c H locs 0 0 (MQ below (QcT (FA (iv b0 46) s.heap.size) (fun ov H => ov = none ∧ rg G b0 46 (shX9 G.2.1) rw0 H ∧ H.size = s.heap.size)) args s 0 0 (FA (iv b0 46) s.heap.size)) (F0 m 9 ls []) := by
  intro n
  induction n with
  | zero => intro v0 i1 i2 i3 hm; exact (lq4_0 hm).elim
  | succ n ih => intro v0 i1 i2 i3 hm; exact w_fX9_begins_9 C ih v0 i1 i2 i3 (lq4_s hm)
set_option maxHeartbeats 4000000 in
theorem w_fX9_begins (C : Cx G p s m args meth c RX9 cX9_begins 4 none) {b0 : Nat} {rw0 : Mem} : ∀ (v0 : Mem) (i1 : Int32), fX9_begins v0 i1 = some rw0 → ∀ (H : Heap) (locs : List Loc) (ls : Array Slot), rg G b0 46 (shX9 G.2.1) v0 H → va_S (FA (iv b0 46) s.heap.size) s.heap H locs → H.size = s.heap.size → lv_has ls 4 [(0, .ref b0), (1, .int i1)] → W p l e (rmT 0 0 0 0) s m args below meth c H locs 0 0 (MQ below (QcT (FA (iv b0 46) s.heap.size) (fun ov H => ov = none ∧ rg G b0 46 (shX9 G.2.1) rw0 H ∧ H.size = s.heap.size)) args s 0 0 (FA (iv b0 46) s.heap.size)) (F0 m 0 ls []) := by
  intro v0 i1 hm H locs ls hW0 hS hz hl
  obtain ⟨hx, hb, hr, hlk, hml, hown, hts, hK⟩ := id C
  unfold fX9_begins at hm
  refine lv_aload_n (pc := 0) hx hb dX9_begins_0 rfl (lv_at hl 0 rfl) ?_
  refine rk_get (pc := 1) hx hb hts hown hK hW0 flX9_11 0 (by decide) rfl rfl (x := .ref (b0 + 1)) (by first | rfl | exact congrArg (fun z => some (Value.ref z)) (by omega)) dX9_begins_1 ?_
  refine lv_iconst (pc := 4) (v := (3 : Int32)) hx hb dX9_begins_4 (by decide) ?_
  obtain ⟨hg1, hm⟩ := gb_some hm
  refine rk_iald (pc := 5) hx hb hK hW0 1 (by decide) rfl rfl hg1 (x := (gI v0 1 (3 : Int32).toNatClampNeg)) rfl dX9_begins_5 ?_
  refine lv_istore_n (pc := 6) (lv' := [(2, .int (gI v0 1 (3 : Int32).toNatClampNeg)), (0, .ref b0), (1, .int i1)]) hx hb dX9_begins_6 rfl hl (by decide) rfl (fun ls hl => ?_)
  refine lv_iconst (pc := 7) (v := (0 : Int32)) hx hb dX9_begins_7 (by decide) ?_
  refine lv_istore_n (pc := 8) (lv' := [(3, .int (0 : Int32)), (2, .int (gI v0 1 (3 : Int32).toNatClampNeg)), (0, .ref b0), (1, .int i1)]) hx hb dX9_begins_8 rfl hl (by decide) rfl (fun ls hl => ?_)
  exact (w_fX9_begins_9_l C FU) v0 i1 (gI v0 1 (3 : Int32).toNatClampNeg) (0 : Int32) hm H locs ls hW0 hS hz (lv_sub hl [2, 3, 1, 0] rfl)
set_option maxHeartbeats 4000000 in
theorem ct_X9_begins {G : Gv} {l : Launch} {b0 : Nat} {v0 : Mem} {i1 : Int32} {rw0 : Mem} {sz : Nat} (hm : fX9_begins v0 i1 = some rw0) : CT G l yX9_begins (ws_ yX9_begins cX9_begins 4 none) 0 0 0 0 [.ref b0, .int i1] (iv b0 46) sz (fun H => rg G b0 46 (shX9 G.2.1) v0 H) (fun ov H => ov = none ∧ rg G b0 46 (shX9 G.2.1) rw0 H ∧ H.size = sz) := by
  refine Met.ofW (cc := cX9_begins) (maxL := 4) (ret := none) (by decide +kernel) rfl ?_
  intro p e s m args below meth c s₁ B hml hv
  obtain ⟨rfl, ⟨hz, hW0⟩, hK⟩ := hv
  subst hz
  have hts := atoms_spec (ws := ws_ yX9_begins cX9_begins 4 none) B.pre
  have hts : ∀ w ∈ lw_all, w.before _ s = true := fun w h => hts w (List.mem_cons_of_mem _ h)
  have C : Cx G p s m _ meth c RX9 cX9_begins 4 none := ⟨B.exec, B.bytes, B.returns, B.notSynchronized, hml, findClass_of_methodNamed B.named, hts, hK⟩
  have hl := lv_entry ([.ref b0, .int i1]) (n := 4) (Nat.le_of_ble_eq_true rfl)
  rw [lg_entry_eq]
  generalize (lg_sl ([.ref b0, .int i1]) ++ List.replicate (4 - (lg_sl ([.ref b0, .int i1])).length) Slot.unset).toArray = ls at hl ⊢
  have hl : lv_has ls 4 [(0, .ref b0), (1, .int i1)] := hl
  exact w_fX9_begins C _ _ hm s.heap [] ls hW0 va_S.rf rfl hl
noncomputable def fX9_isIn (j0 : Int64) (j2 : Int64) (j4 : Int64) : Option (Int32) :=
  if j0 < j2 then (
  some (0 : Int32))
  else (
  if j4 < j0 then (
  some (0 : Int32))
  else (
  some (1 : Int32)))
set_option maxHeartbeats 4000000 in
theorem w_fX9_isIn (C : Cx G p s m args meth c RX9 cX9_isIn 6 (some .boolean)) {rx : Int32} : ∀ (j0 : Int64) (j2 : Int64) (j4 : Int64), fX9_isIn j0 j2 j4 = some rx → ∀ (ls : Array Slot), lv_has ls 6 [(0, .long j0), (2, .long j2), (4, .long j4)] → W p l e (rmP 0 0) s m args below meth c s.heap [] 0 0 (MQ below (QcP (some (.int rx))) args s 0 0 (fun _ => False)) (F0 m 0 ls []) := by
  intro j0 j2 j4 hm ls hl
  obtain ⟨hx, hb, hr, hlk, hml, hown, hts, hK⟩ := id C
  unfold fX9_isIn at hm
  refine lv_lload_n (pc := 0) hx hb dX9_isIn_0 rfl (lv_at hl 0 rfl) ?_
  refine lv_lload_n (pc := 1) hx hb dX9_isIn_1 rfl (lv_at hl 1 rfl) ?_
  refine rk_lcmp_lt (pc := 2) (tgt := 17) hx hb dX9_isIn_2 rfl dX9_isIn_3 (by decide) (fun c1 => ?_) (fun c1 => ?_)
  · have hm := ite_t c1 hm
    refine lv_iconst (pc := 17) (v := (0 : Int32)) hx hb dX9_isIn_17 (by decide) ?_
    have e9 := rs1 hm
    subst e9
    exact rk_zretP (pc := 18) hx hb hr hlk rfl rfl dX9_isIn_18
  · have hm := ite_f c1 hm
    refine lv_lload_n (pc := 6) hx hb dX9_isIn_6 rfl (lv_at hl 0 rfl) ?_
    refine lv_lload (pc := 7) hx hb dX9_isIn_7 (lv_at hl 2 rfl) ?_
    refine rk_lcmp_gt (pc := 9) (tgt := 17) hx hb dX9_isIn_9 rfl dX9_isIn_10 (by decide) (fun c2 => ?_) (fun c2 => ?_)
    · have hm := ite_t c2 hm
      refine lv_iconst (pc := 17) (v := (0 : Int32)) hx hb dX9_isIn_17 (by decide) ?_
      have e9 := rs1 hm
      subst e9
      exact rk_zretP (pc := 18) hx hb hr hlk rfl rfl dX9_isIn_18
    · have hm := ite_f c2 hm
      refine lv_iconst (pc := 13) (v := (1 : Int32)) hx hb dX9_isIn_13 (by decide) ?_
      refine lv_goto (pc := 14) (tgt := 18) hx hb dX9_isIn_14 (by decide) ?_
      have e9 := rs1 hm
      subst e9
      exact rk_zretP (pc := 18) hx hb hr hlk rfl rfl dX9_isIn_18
set_option maxHeartbeats 4000000 in
theorem ct_X9_isIn {G : Gv} {l : Launch} {j0 : Int64} {j2 : Int64} {j4 : Int64} {rx : Int32} (hm : fX9_isIn j0 j2 j4 = some rx) : CP G l yX9_isIn (ws_ yX9_isIn cX9_isIn 6 (some .boolean)) 0 0 [.long j0, .long j2, .long j4] (fun H => True) (some (.int rx)) := by
  refine Met.ofW (cc := cX9_isIn) (maxL := 6) (ret := (some .boolean)) (by decide +kernel) rfl ?_
  intro p e s m args below meth c s₁ B hml hv
  obtain ⟨rfl, -, hK⟩ := hv
  have hts := atoms_spec (ws := ws_ yX9_isIn cX9_isIn 6 (some .boolean)) B.pre
  have hts : ∀ w ∈ lw_all, w.before _ s = true := fun w h => hts w (List.mem_cons_of_mem _ h)
  have C : Cx G p s m _ meth c RX9 cX9_isIn 6 (some .boolean) := ⟨B.exec, B.bytes, B.returns, B.notSynchronized, hml, findClass_of_methodNamed B.named, hts, hK⟩
  have hl := lv_entry ([.long j0, .long j2, .long j4]) (n := 6) (Nat.le_of_ble_eq_true rfl)
  rw [lg_entry_eq]
  generalize (lg_sl ([.long j0, .long j2, .long j4]) ++ List.replicate (6 - (lg_sl ([.long j0, .long j2, .long j4])).length) Slot.unset).toArray = ls at hl ⊢
  have hl : lv_has ls 6 [(0, .long j0), (2, .long j2), (4, .long j4)] := hl
  exact w_fX9_isIn C _ _ _ hm ls hl
noncomputable def fX9_n (V0 : Mem) : Option (Int32) :=
  gb (inR (0 : Int32) 150) (
  some (gI V0 1 (0 : Int32).toNatClampNeg))
set_option maxHeartbeats 4000000 in
theorem w_fX9_n (C : Cx G p s m args meth c RX9 cX9_n 1 (some .int)) {b0 : Nat} {V0 : Mem} {rx : Int32} (hW0 : rg G b0 6 (shX9 G.2.1) V0 s.heap) : fX9_n V0 = some rx → ∀ (ls : Array Slot), lv_has ls 1 [(0, .ref b0)] → W p l e (rmP 0 0) s m args below meth c s.heap [] 0 0 (MQ below (QcP (some (.int rx))) args s 0 0 (fun _ => False)) (F0 m 0 ls []) := by
  intro hm ls hl
  obtain ⟨hx, hb, hr, hlk, hml, hown, hts, hK⟩ := id C
  unfold fX9_n at hm
  refine lv_aload_n (pc := 0) hx hb dX9_n_0 rfl (lv_at hl 0 rfl) ?_
  refine rk_get (pc := 1) hx hb hts hown hK hW0 flX9_11 0 (by decide) rfl rfl (x := .ref (b0 + 1)) (by first | rfl | exact congrArg (fun z => some (Value.ref z)) (by omega)) dX9_n_1 ?_
  refine lv_iconst (pc := 4) (v := (0 : Int32)) hx hb dX9_n_4 (by decide) ?_
  obtain ⟨hg1, hm⟩ := gb_some hm
  refine rk_iald (pc := 5) hx hb hK hW0 1 (by decide) rfl rfl hg1 (x := (gI V0 1 (0 : Int32).toNatClampNeg)) rfl dX9_n_5 ?_
  have e9 := rs1 hm
  subst e9
  exact rk_iretP (pc := 6) hx hb hr hlk rfl dX9_n_6
set_option maxHeartbeats 4000000 in
theorem ct_X9_n {G : Gv} {l : Launch} {b0 : Nat} {V0 : Mem} {rx : Int32} (hm : fX9_n V0  = some rx) : CP G l yX9_n (ws_ yX9_n cX9_n 1 (some .int)) 0 0 [.ref b0] (fun H => rg G b0 6 (shX9 G.2.1) V0 H) (some (.int rx)) := by
  refine Met.ofW (cc := cX9_n) (maxL := 1) (ret := (some .int)) (by decide +kernel) rfl ?_
  intro p e s m args below meth c s₁ B hml hv
  obtain ⟨rfl, hW0, hK⟩ := hv
  have hts := atoms_spec (ws := ws_ yX9_n cX9_n 1 (some .int)) B.pre
  have hts : ∀ w ∈ lw_all, w.before _ s = true := fun w h => hts w (List.mem_cons_of_mem _ h)
  have C : Cx G p s m _ meth c RX9 cX9_n 1 (some .int) := ⟨B.exec, B.bytes, B.returns, B.notSynchronized, hml, findClass_of_methodNamed B.named, hts, hK⟩
  have hl := lv_entry ([.ref b0]) (n := 1) (Nat.le_of_ble_eq_true rfl)
  rw [lg_entry_eq]
  generalize (lg_sl ([.ref b0]) ++ List.replicate (1 - (lg_sl ([.ref b0])).length) Slot.unset).toArray = ls at hl ⊢
  have hl : lv_has ls 1 [(0, .ref b0)] := hl
  exact w_fX9_n C hW0  hm ls hl
theorem yn_X9_n : YN yX9_n 0 := by
  unfold YN
  decide +kernel
theorem lkX9_89 : LV RX9 89 RX9 yX9_n cX9_n 1 (some .int) := ⟨q1923, q1925, qs55, q128, q1926⟩
theorem yn_X9_isIn : YN yX9_isIn 3 := by
  unfold YN
  decide +kernel
theorem lkX9_93 : LSt RX9 93 yX9_isIn cX9_isIn 6 (some .boolean) := ⟨q1920, q1921, q128, q1922⟩
noncomputable def fX9_isPack (V0 : Mem) (i1 : Int32) : Option (Int32) :=
  ob (fX9_n V0) fun r1 =>
  ob (fX9_isIn i1.toInt64 (0 : Int64) (r1 - (1 : Int32)).toInt64) fun r3 =>
  gb (z01 r3) (some r3)
set_option maxHeartbeats 4000000 in
theorem w_fX9_isPack (C : Cx G p s m args meth c RX9 cX9_isPack 2 (some .boolean)) {b0 : Nat} {V0 : Mem} {rx : Int32} (hW0 : rg G b0 6 (shX9 G.2.1) V0 s.heap) : ∀ (i1 : Int32), fX9_isPack V0 i1 = some rx → ∀ (ls : Array Slot), lv_has ls 2 [(0, .ref b0), (1, .int i1)] → W p l e (rmP 1 25) s m args below meth c s.heap [] 0 0 (MQ below (QcP (some (.int rx))) args s 0 0 (fun _ => False)) (F0 m 0 ls []) := by
  intro i1 hm ls hl
  obtain ⟨hx, hb, hr, hlk, hml, hown, hts, hK⟩ := id C
  unfold fX9_isPack at hm
  refine lv_iload_n (pc := 0) hx hb dX9_isPack_0 rfl (lv_at hl 1 rfl) ?_
  refine lv_i2l (pc := 1) hx hb dX9_isPack_1 rfl ?_
  refine lv_lconst (pc := 2) (v := (0 : Int64)) hx hb dX9_isPack_2 (by decide) ?_
  refine lv_aload_n (pc := 3) hx hb dX9_isPack_3 rfl (lv_at hl 0 rfl) ?_
  obtain ⟨r1, hq2, hm⟩ := ob_some hm
  refine rk_PV (pc := 4) (As := []) (rest := [.long (0 : Int64), .long i1.toInt64]) hx hb hml hown hts hK lkX9_89 rfl yn_X9_n (ct_X9_n (G := G) (l := l) (b0 := b0) hq2) ⟨Nat.le_of_ble_eq_true rfl, Nat.le_of_ble_eq_true rfl⟩ (rk_recv hK hW0 0 (by decide) rfl rfl rfl) hW0 rfl rfl hl.1 (Nat.le_of_ble_eq_true rfl) dX9_isPack_4 ⟨Nat.zero_le _, Nat.zero_le _⟩ ?_
  refine W.eq (g2 := F0 m 7 ls [.int r1, .long (0 : Int64), .long i1.toInt64]) rfl ?_
  refine lv_iconst (pc := 7) (v := (1 : Int32)) hx hb dX9_isPack_7 (by decide) ?_
  refine lv_isub (pc := 8) hx hb dX9_isPack_8 ?_
  refine lv_i2l (pc := 9) hx hb dX9_isPack_9 rfl ?_
  obtain ⟨r3, hq4, hm⟩ := ob_some hm
  refine rk_PS (pc := 10) (As := [.long i1.toInt64, .long (0 : Int64), .long (r1 - (1 : Int32)).toInt64]) (rest := []) hx hb hml hown hts hK lkX9_93 yn_X9_isIn (ct_X9_isIn (G := G) (l := l) hq4) ⟨Nat.le_of_ble_eq_true rfl, Nat.le_of_ble_eq_true rfl⟩ trivial rfl rfl hl.1 (Nat.le_of_ble_eq_true rfl) dX9_isPack_10 ⟨Nat.zero_le _, Nat.zero_le _⟩ ?_
  refine W.eq (g2 := F0 m 13 ls [.int r3]) rfl ?_
  obtain ⟨hg5, hm⟩ := gb_some hm
  have e9 := rs1 hm
  subst e9
  exact rk_zretP (pc := 13) hx hb hr hlk hg5 rfl dX9_isPack_13
set_option maxHeartbeats 4000000 in
theorem ct_X9_isPack {G : Gv} {l : Launch} {b0 : Nat} {V0 : Mem} {i1 : Int32} {rx : Int32} (hm : fX9_isPack V0 i1 = some rx) : CP G l yX9_isPack (ws_ yX9_isPack cX9_isPack 2 (some .boolean)) 1 25 [.ref b0, .int i1] (fun H => rg G b0 6 (shX9 G.2.1) V0 H) (some (.int rx)) := by
  refine Met.ofW (cc := cX9_isPack) (maxL := 2) (ret := (some .boolean)) (by decide +kernel) rfl ?_
  intro p e s m args below meth c s₁ B hml hv
  obtain ⟨rfl, hW0, hK⟩ := hv
  have hts := atoms_spec (ws := ws_ yX9_isPack cX9_isPack 2 (some .boolean)) B.pre
  have hts : ∀ w ∈ lw_all, w.before _ s = true := fun w h => hts w (List.mem_cons_of_mem _ h)
  have C : Cx G p s m _ meth c RX9 cX9_isPack 2 (some .boolean) := ⟨B.exec, B.bytes, B.returns, B.notSynchronized, hml, findClass_of_methodNamed B.named, hts, hK⟩
  have hl := lv_entry ([.ref b0, .int i1]) (n := 2) (Nat.le_of_ble_eq_true rfl)
  rw [lg_entry_eq]
  generalize (lg_sl ([.ref b0, .int i1]) ++ List.replicate (2 - (lg_sl ([.ref b0, .int i1])).length) Slot.unset).toArray = ls at hl ⊢
  have hl : lv_has ls 2 [(0, .ref b0), (1, .int i1)] := hl
  exact w_fX9_isPack C hW0 _ hm ls hl
noncomputable def fX9_isRule (V0 : Mem) (i1 : Int32) : Option (Int32) :=
  gb (inR (1 : Int32) 150) (
  ob (fX9_isIn i1.toInt64 (0 : Int64) ((gI V0 1 (1 : Int32).toNatClampNeg) - (1 : Int32)).toInt64) fun r2 =>
  gb (z01 r2) (some r2))
set_option maxHeartbeats 4000000 in
theorem w_fX9_isRule (C : Cx G p s m args meth c RX9 cX9_isRule 2 (some .boolean)) {b0 : Nat} {V0 : Mem} {rx : Int32} (hW0 : rg G b0 6 (shX9 G.2.1) V0 s.heap) : ∀ (i1 : Int32), fX9_isRule V0 i1 = some rx → ∀ (ls : Array Slot), lv_has ls 2 [(0, .ref b0), (1, .int i1)] → W p l e (rmP 1 25) s m args below meth c s.heap [] 0 0 (MQ below (QcP (some (.int rx))) args s 0 0 (fun _ => False)) (F0 m 0 ls []) := by
  intro i1 hm ls hl
  obtain ⟨hx, hb, hr, hlk, hml, hown, hts, hK⟩ := id C
  unfold fX9_isRule at hm
  refine lv_iload_n (pc := 0) hx hb dX9_isRule_0 rfl (lv_at hl 1 rfl) ?_
  refine lv_i2l (pc := 1) hx hb dX9_isRule_1 rfl ?_
  refine lv_lconst (pc := 2) (v := (0 : Int64)) hx hb dX9_isRule_2 (by decide) ?_
  refine lv_aload_n (pc := 3) hx hb dX9_isRule_3 rfl (lv_at hl 0 rfl) ?_
  refine rk_get (pc := 4) hx hb hts hown hK hW0 flX9_11 0 (by decide) rfl rfl (x := .ref (b0 + 1)) (by first | rfl | exact congrArg (fun z => some (Value.ref z)) (by omega)) dX9_isRule_4 ?_
  refine lv_iconst (pc := 7) (v := (1 : Int32)) hx hb dX9_isRule_7 (by decide) ?_
  obtain ⟨hg1, hm⟩ := gb_some hm
  refine rk_iald (pc := 8) hx hb hK hW0 1 (by decide) rfl rfl hg1 (x := (gI V0 1 (1 : Int32).toNatClampNeg)) rfl dX9_isRule_8 ?_
  refine lv_iconst (pc := 9) (v := (1 : Int32)) hx hb dX9_isRule_9 (by decide) ?_
  refine lv_isub (pc := 10) hx hb dX9_isRule_10 ?_
  refine lv_i2l (pc := 11) hx hb dX9_isRule_11 rfl ?_
  obtain ⟨r2, hq3, hm⟩ := ob_some hm
  refine rk_PS (pc := 12) (As := [.long i1.toInt64, .long (0 : Int64), .long ((gI V0 1 (1 : Int32).toNatClampNeg) - (1 : Int32)).toInt64]) (rest := []) hx hb hml hown hts hK lkX9_93 yn_X9_isIn (ct_X9_isIn (G := G) (l := l) hq3) ⟨Nat.le_of_ble_eq_true rfl, Nat.le_of_ble_eq_true rfl⟩ trivial rfl rfl hl.1 (Nat.le_of_ble_eq_true rfl) dX9_isRule_12 ⟨Nat.zero_le _, Nat.zero_le _⟩ ?_
  refine W.eq (g2 := F0 m 15 ls [.int r2]) rfl ?_
  obtain ⟨hg4, hm⟩ := gb_some hm
  have e9 := rs1 hm
  subst e9
  exact rk_zretP (pc := 15) hx hb hr hlk hg4 rfl dX9_isRule_15
set_option maxHeartbeats 4000000 in
theorem ct_X9_isRule {G : Gv} {l : Launch} {b0 : Nat} {V0 : Mem} {i1 : Int32} {rx : Int32} (hm : fX9_isRule V0 i1 = some rx) : CP G l yX9_isRule (ws_ yX9_isRule cX9_isRule 2 (some .boolean)) 1 25 [.ref b0, .int i1] (fun H => rg G b0 6 (shX9 G.2.1) V0 H) (some (.int rx)) := by
  refine Met.ofW (cc := cX9_isRule) (maxL := 2) (ret := (some .boolean)) (by decide +kernel) rfl ?_
  intro p e s m args below meth c s₁ B hml hv
  obtain ⟨rfl, hW0, hK⟩ := hv
  have hts := atoms_spec (ws := ws_ yX9_isRule cX9_isRule 2 (some .boolean)) B.pre
  have hts : ∀ w ∈ lw_all, w.before _ s = true := fun w h => hts w (List.mem_cons_of_mem _ h)
  have C : Cx G p s m _ meth c RX9 cX9_isRule 2 (some .boolean) := ⟨B.exec, B.bytes, B.returns, B.notSynchronized, hml, findClass_of_methodNamed B.named, hts, hK⟩
  have hl := lv_entry ([.ref b0, .int i1]) (n := 2) (Nat.le_of_ble_eq_true rfl)
  rw [lg_entry_eq]
  generalize (lg_sl ([.ref b0, .int i1]) ++ List.replicate (2 - (lg_sl ([.ref b0, .int i1])).length) Slot.unset).toArray = ls at hl ⊢
  have hl : lv_has ls 2 [(0, .ref b0), (1, .int i1)] := hl
  exact w_fX9_isRule C hW0 _ hm ls hl
noncomputable def fX9_sortOf (V0 : Mem) (i1 : Int32) : Option (Int32) :=
  gb (inR ((12 : Int32) + ((7 : Int32) * i1)) 150) (
  some (gI V0 1 ((12 : Int32) + ((7 : Int32) * i1)).toNatClampNeg))
set_option maxHeartbeats 4000000 in
theorem w_fX9_sortOf (C : Cx G p s m args meth c RX9 cX9_sortOf 2 (some .int)) {b0 : Nat} {V0 : Mem} {rx : Int32} (hW0 : rg G b0 6 (shX9 G.2.1) V0 s.heap) : ∀ (i1 : Int32), fX9_sortOf V0 i1 = some rx → ∀ (ls : Array Slot), lv_has ls 2 [(0, .ref b0), (1, .int i1)] → W p l e (rmP 0 0) s m args below meth c s.heap [] 0 0 (MQ below (QcP (some (.int rx))) args s 0 0 (fun _ => False)) (F0 m 0 ls []) := by
  intro i1 hm ls hl
  obtain ⟨hx, hb, hr, hlk, hml, hown, hts, hK⟩ := id C
  unfold fX9_sortOf at hm
  refine lv_aload_n (pc := 0) hx hb dX9_sortOf_0 rfl (lv_at hl 0 rfl) ?_
  refine rk_get (pc := 1) hx hb hts hown hK hW0 flX9_11 0 (by decide) rfl rfl (x := .ref (b0 + 1)) (by first | rfl | exact congrArg (fun z => some (Value.ref z)) (by omega)) dX9_sortOf_1 ?_
  refine lv_bipush (pc := 4) (v := (12 : Int32)) hx hb dX9_sortOf_4 (by decide) ?_
  refine lv_bipush (pc := 6) (v := (7 : Int32)) hx hb dX9_sortOf_6 (by decide) ?_
  refine lv_iload_n (pc := 8) hx hb dX9_sortOf_8 rfl (lv_at hl 1 rfl) ?_
  refine lv_imul (pc := 9) hx hb dX9_sortOf_9 ?_
  refine lv_iadd (pc := 10) hx hb dX9_sortOf_10 ?_
  obtain ⟨hg1, hm⟩ := gb_some hm
  refine rk_iald (pc := 11) hx hb hK hW0 1 (by decide) rfl rfl hg1 (x := (gI V0 1 ((12 : Int32) + ((7 : Int32) * i1)).toNatClampNeg)) rfl dX9_sortOf_11 ?_
  have e9 := rs1 hm
  subst e9
  exact rk_iretP (pc := 12) hx hb hr hlk rfl dX9_sortOf_12
set_option maxHeartbeats 4000000 in
theorem ct_X9_sortOf {G : Gv} {l : Launch} {b0 : Nat} {V0 : Mem} {i1 : Int32} {rx : Int32} (hm : fX9_sortOf V0 i1 = some rx) : CP G l yX9_sortOf (ws_ yX9_sortOf cX9_sortOf 2 (some .int)) 0 0 [.ref b0, .int i1] (fun H => rg G b0 6 (shX9 G.2.1) V0 H) (some (.int rx)) := by
  refine Met.ofW (cc := cX9_sortOf) (maxL := 2) (ret := (some .int)) (by decide +kernel) rfl ?_
  intro p e s m args below meth c s₁ B hml hv
  obtain ⟨rfl, hW0, hK⟩ := hv
  have hts := atoms_spec (ws := ws_ yX9_sortOf cX9_sortOf 2 (some .int)) B.pre
  have hts : ∀ w ∈ lw_all, w.before _ s = true := fun w h => hts w (List.mem_cons_of_mem _ h)
  have C : Cx G p s m _ meth c RX9 cX9_sortOf 2 (some .int) := ⟨B.exec, B.bytes, B.returns, B.notSynchronized, hml, findClass_of_methodNamed B.named, hts, hK⟩
  have hl := lv_entry ([.ref b0, .int i1]) (n := 2) (Nat.le_of_ble_eq_true rfl)
  rw [lg_entry_eq]
  generalize (lg_sl ([.ref b0, .int i1]) ++ List.replicate (2 - (lg_sl ([.ref b0, .int i1])).length) Slot.unset).toArray = ls at hl ⊢
  have hl : lv_has ls 2 [(0, .ref b0), (1, .int i1)] := hl
  exact w_fX9_sortOf C hW0 _ hm ls hl
noncomputable def fX9_boundOf (V0 : Mem) (i1 : Int32) : Option (Int32) :=
  gb (inR (((12 : Int32) + ((7 : Int32) * i1)) + (1 : Int32)) 150) (
  some (gI V0 1 (((12 : Int32) + ((7 : Int32) * i1)) + (1 : Int32)).toNatClampNeg))
set_option maxHeartbeats 4000000 in
theorem w_fX9_boundOf (C : Cx G p s m args meth c RX9 cX9_boundOf 2 (some .int)) {b0 : Nat} {V0 : Mem} {rx : Int32} (hW0 : rg G b0 6 (shX9 G.2.1) V0 s.heap) : ∀ (i1 : Int32), fX9_boundOf V0 i1 = some rx → ∀ (ls : Array Slot), lv_has ls 2 [(0, .ref b0), (1, .int i1)] → W p l e (rmP 0 0) s m args below meth c s.heap [] 0 0 (MQ below (QcP (some (.int rx))) args s 0 0 (fun _ => False)) (F0 m 0 ls []) := by
  intro i1 hm ls hl
  obtain ⟨hx, hb, hr, hlk, hml, hown, hts, hK⟩ := id C
  unfold fX9_boundOf at hm
  refine lv_aload_n (pc := 0) hx hb dX9_boundOf_0 rfl (lv_at hl 0 rfl) ?_
  refine rk_get (pc := 1) hx hb hts hown hK hW0 flX9_11 0 (by decide) rfl rfl (x := .ref (b0 + 1)) (by first | rfl | exact congrArg (fun z => some (Value.ref z)) (by omega)) dX9_boundOf_1 ?_
  refine lv_bipush (pc := 4) (v := (12 : Int32)) hx hb dX9_boundOf_4 (by decide) ?_
  refine lv_bipush (pc := 6) (v := (7 : Int32)) hx hb dX9_boundOf_6 (by decide) ?_
  refine lv_iload_n (pc := 8) hx hb dX9_boundOf_8 rfl (lv_at hl 1 rfl) ?_
  refine lv_imul (pc := 9) hx hb dX9_boundOf_9 ?_
  refine lv_iadd (pc := 10) hx hb dX9_boundOf_10 ?_
  refine lv_iconst (pc := 11) (v := (1 : Int32)) hx hb dX9_boundOf_11 (by decide) ?_
  refine lv_iadd (pc := 12) hx hb dX9_boundOf_12 ?_
  obtain ⟨hg1, hm⟩ := gb_some hm
  refine rk_iald (pc := 13) hx hb hK hW0 1 (by decide) rfl rfl hg1 (x := (gI V0 1 (((12 : Int32) + ((7 : Int32) * i1)) + (1 : Int32)).toNatClampNeg)) rfl dX9_boundOf_13 ?_
  have e9 := rs1 hm
  subst e9
  exact rk_iretP (pc := 14) hx hb hr hlk rfl dX9_boundOf_14
set_option maxHeartbeats 4000000 in
theorem ct_X9_boundOf {G : Gv} {l : Launch} {b0 : Nat} {V0 : Mem} {i1 : Int32} {rx : Int32} (hm : fX9_boundOf V0 i1 = some rx) : CP G l yX9_boundOf (ws_ yX9_boundOf cX9_boundOf 2 (some .int)) 0 0 [.ref b0, .int i1] (fun H => rg G b0 6 (shX9 G.2.1) V0 H) (some (.int rx)) := by
  refine Met.ofW (cc := cX9_boundOf) (maxL := 2) (ret := (some .int)) (by decide +kernel) rfl ?_
  intro p e s m args below meth c s₁ B hml hv
  obtain ⟨rfl, hW0, hK⟩ := hv
  have hts := atoms_spec (ws := ws_ yX9_boundOf cX9_boundOf 2 (some .int)) B.pre
  have hts : ∀ w ∈ lw_all, w.before _ s = true := fun w h => hts w (List.mem_cons_of_mem _ h)
  have C : Cx G p s m _ meth c RX9 cX9_boundOf 2 (some .int) := ⟨B.exec, B.bytes, B.returns, B.notSynchronized, hml, findClass_of_methodNamed B.named, hts, hK⟩
  have hl := lv_entry ([.ref b0, .int i1]) (n := 2) (Nat.le_of_ble_eq_true rfl)
  rw [lg_entry_eq]
  generalize (lg_sl ([.ref b0, .int i1]) ++ List.replicate (2 - (lg_sl ([.ref b0, .int i1])).length) Slot.unset).toArray = ls at hl ⊢
  have hl : lv_has ls 2 [(0, .ref b0), (1, .int i1)] := hl
  exact w_fX9_boundOf C hW0 _ hm ls hl
noncomputable def fX9_factorOf (V0 : Mem) (i1 : Int32) (i2 : Int32) : Option (Int32) :=
  gb (inR ((((12 : Int32) + ((7 : Int32) * i1)) + (2 : Int32)) + i2) 150) (
  some (gI V0 1 ((((12 : Int32) + ((7 : Int32) * i1)) + (2 : Int32)) + i2).toNatClampNeg))
set_option maxHeartbeats 4000000 in
theorem w_fX9_factorOf (C : Cx G p s m args meth c RX9 cX9_factorOf 3 (some .int)) {b0 : Nat} {V0 : Mem} {rx : Int32} (hW0 : rg G b0 6 (shX9 G.2.1) V0 s.heap) : ∀ (i1 : Int32) (i2 : Int32), fX9_factorOf V0 i1 i2 = some rx → ∀ (ls : Array Slot), lv_has ls 3 [(0, .ref b0), (1, .int i1), (2, .int i2)] → W p l e (rmP 0 0) s m args below meth c s.heap [] 0 0 (MQ below (QcP (some (.int rx))) args s 0 0 (fun _ => False)) (F0 m 0 ls []) := by
  intro i1 i2 hm ls hl
  obtain ⟨hx, hb, hr, hlk, hml, hown, hts, hK⟩ := id C
  unfold fX9_factorOf at hm
  refine lv_aload_n (pc := 0) hx hb dX9_factorOf_0 rfl (lv_at hl 0 rfl) ?_
  refine rk_get (pc := 1) hx hb hts hown hK hW0 flX9_11 0 (by decide) rfl rfl (x := .ref (b0 + 1)) (by first | rfl | exact congrArg (fun z => some (Value.ref z)) (by omega)) dX9_factorOf_1 ?_
  refine lv_bipush (pc := 4) (v := (12 : Int32)) hx hb dX9_factorOf_4 (by decide) ?_
  refine lv_bipush (pc := 6) (v := (7 : Int32)) hx hb dX9_factorOf_6 (by decide) ?_
  refine lv_iload_n (pc := 8) hx hb dX9_factorOf_8 rfl (lv_at hl 1 rfl) ?_
  refine lv_imul (pc := 9) hx hb dX9_factorOf_9 ?_
  refine lv_iadd (pc := 10) hx hb dX9_factorOf_10 ?_
  refine lv_iconst (pc := 11) (v := (2 : Int32)) hx hb dX9_factorOf_11 (by decide) ?_
  refine lv_iadd (pc := 12) hx hb dX9_factorOf_12 ?_
  refine lv_iload_n (pc := 13) hx hb dX9_factorOf_13 rfl (lv_at hl 2 rfl) ?_
  refine lv_iadd (pc := 14) hx hb dX9_factorOf_14 ?_
  obtain ⟨hg1, hm⟩ := gb_some hm
  refine rk_iald (pc := 15) hx hb hK hW0 1 (by decide) rfl rfl hg1 (x := (gI V0 1 ((((12 : Int32) + ((7 : Int32) * i1)) + (2 : Int32)) + i2).toNatClampNeg)) rfl dX9_factorOf_15 ?_
  have e9 := rs1 hm
  subst e9
  exact rk_iretP (pc := 16) hx hb hr hlk rfl dX9_factorOf_16
set_option maxHeartbeats 4000000 in
theorem ct_X9_factorOf {G : Gv} {l : Launch} {b0 : Nat} {V0 : Mem} {i1 : Int32} {i2 : Int32} {rx : Int32} (hm : fX9_factorOf V0 i1 i2 = some rx) : CP G l yX9_factorOf (ws_ yX9_factorOf cX9_factorOf 3 (some .int)) 0 0 [.ref b0, .int i1, .int i2] (fun H => rg G b0 6 (shX9 G.2.1) V0 H) (some (.int rx)) := by
  refine Met.ofW (cc := cX9_factorOf) (maxL := 3) (ret := (some .int)) (by decide +kernel) rfl ?_
  intro p e s m args below meth c s₁ B hml hv
  obtain ⟨rfl, hW0, hK⟩ := hv
  have hts := atoms_spec (ws := ws_ yX9_factorOf cX9_factorOf 3 (some .int)) B.pre
  have hts : ∀ w ∈ lw_all, w.before _ s = true := fun w h => hts w (List.mem_cons_of_mem _ h)
  have C : Cx G p s m _ meth c RX9 cX9_factorOf 3 (some .int) := ⟨B.exec, B.bytes, B.returns, B.notSynchronized, hml, findClass_of_methodNamed B.named, hts, hK⟩
  have hl := lv_entry ([.ref b0, .int i1, .int i2]) (n := 3) (Nat.le_of_ble_eq_true rfl)
  rw [lg_entry_eq]
  generalize (lg_sl ([.ref b0, .int i1, .int i2]) ++ List.replicate (3 - (lg_sl ([.ref b0, .int i1, .int i2])).length) Slot.unset).toArray = ls at hl ⊢
  have hl : lv_has ls 3 [(0, .ref b0), (1, .int i1), (2, .int i2)] := hl
  exact w_fX9_factorOf C hW0 _ _ hm ls hl
theorem yn_X9_sortOf : YN yX9_sortOf 1 := by
  unfold YN
  decide +kernel
theorem lkX9_97 : LV RX9 97 RX9 yX9_sortOf cX9_sortOf 2 (some .int) := ⟨q2037, q2039, qs72, q128, q2040⟩
theorem yn_X9_factorOf : YN yX9_factorOf 2 := by
  unfold YN
  decide +kernel
theorem lkX9_101 : LV RX9 101 RX9 yX9_factorOf cX9_factorOf 3 (some .int) := ⟨q1956, q1958, qs59, q128, q1959⟩
noncomputable def fX9_pointOf (V0 : Mem) (i1 : Int32) (i2 : Int32) : Option (Int64) :=
  ob (fX9_sortOf V0 i1) fun r1 =>
  if r1 = 0 then (
  ob (fX9_factorOf V0 i1 i2) fun r6 =>
  some (-r6).toInt64)
  else (
  ob (fX9_factorOf V0 i1 i2) fun r4 =>
  some r4.toInt64)
set_option maxHeartbeats 4000000 in
theorem w_fX9_pointOf (C : Cx G p s m args meth c RX9 cX9_pointOf 3 (some .long)) {b0 : Nat} {V0 : Mem} {rx : Int64} (hW0 : rg G b0 6 (shX9 G.2.1) V0 s.heap) : ∀ (i1 : Int32) (i2 : Int32), fX9_pointOf V0 i1 i2 = some rx → ∀ (ls : Array Slot), lv_has ls 3 [(0, .ref b0), (1, .int i1), (2, .int i2)] → W p l e (rmP 1 22) s m args below meth c s.heap [] 0 0 (MQ below (QcP (some (.long rx))) args s 0 0 (fun _ => False)) (F0 m 0 ls []) := by
  intro i1 i2 hm ls hl
  obtain ⟨hx, hb, hr, hlk, hml, hown, hts, hK⟩ := id C
  unfold fX9_pointOf at hm
  refine lv_aload_n (pc := 0) hx hb dX9_pointOf_0 rfl (lv_at hl 0 rfl) ?_
  refine lv_iload_n (pc := 1) hx hb dX9_pointOf_1 rfl (lv_at hl 1 rfl) ?_
  obtain ⟨r1, hq2, hm⟩ := ob_some hm
  refine rk_PV (pc := 2) (As := [.int i1]) (rest := []) hx hb hml hown hts hK lkX9_97 rfl yn_X9_sortOf (ct_X9_sortOf (G := G) (l := l) (b0 := b0) hq2) ⟨Nat.le_of_ble_eq_true rfl, Nat.le_of_ble_eq_true rfl⟩ (rk_recv hK hW0 0 (by decide) rfl rfl rfl) hW0 rfl rfl hl.1 (Nat.le_of_ble_eq_true rfl) dX9_pointOf_2 ⟨Nat.zero_le _, Nat.zero_le _⟩ ?_
  refine W.eq (g2 := F0 m 5 ls [.int r1]) rfl ?_
  refine lv_if_ne (pc := 5) (tgt := 19) hx hb dX9_pointOf_5 (by decide) (fun c3 => ?_) (fun c3 => ?_)
  · have hm := ite_f c3 hm
    refine lv_aload_n (pc := 19) hx hb dX9_pointOf_19 rfl (lv_at hl 0 rfl) ?_
    refine lv_iload_n (pc := 20) hx hb dX9_pointOf_20 rfl (lv_at hl 1 rfl) ?_
    refine lv_iload_n (pc := 21) hx hb dX9_pointOf_21 rfl (lv_at hl 2 rfl) ?_
    obtain ⟨r4, hq5, hm⟩ := ob_some hm
    refine rk_PV (pc := 22) (As := [.int i1, .int i2]) (rest := []) hx hb hml hown hts hK lkX9_101 rfl yn_X9_factorOf (ct_X9_factorOf (G := G) (l := l) (b0 := b0) hq5) ⟨Nat.le_of_ble_eq_true rfl, Nat.le_of_ble_eq_true rfl⟩ (rk_recv hK hW0 0 (by decide) rfl rfl rfl) hW0 rfl rfl hl.1 (Nat.le_of_ble_eq_true rfl) dX9_pointOf_22 ⟨Nat.zero_le _, Nat.zero_le _⟩ ?_
    refine W.eq (g2 := F0 m 25 ls [.int r4]) rfl ?_
    refine lv_i2l (pc := 25) hx hb dX9_pointOf_25 rfl ?_
    have e9 := rs1 hm
    subst e9
    exact rk_lretP (pc := 26) hx hb hr hlk rfl dX9_pointOf_26
  · have hm := ite_t c3 hm
    refine lv_aload_n (pc := 8) hx hb dX9_pointOf_8 rfl (lv_at hl 0 rfl) ?_
    refine lv_iload_n (pc := 9) hx hb dX9_pointOf_9 rfl (lv_at hl 1 rfl) ?_
    refine lv_iload_n (pc := 10) hx hb dX9_pointOf_10 rfl (lv_at hl 2 rfl) ?_
    obtain ⟨r6, hq7, hm⟩ := ob_some hm
    refine rk_PV (pc := 11) (As := [.int i1, .int i2]) (rest := []) hx hb hml hown hts hK lkX9_101 rfl yn_X9_factorOf (ct_X9_factorOf (G := G) (l := l) (b0 := b0) hq7) ⟨Nat.le_of_ble_eq_true rfl, Nat.le_of_ble_eq_true rfl⟩ (rk_recv hK hW0 0 (by decide) rfl rfl rfl) hW0 rfl rfl hl.1 (Nat.le_of_ble_eq_true rfl) dX9_pointOf_11 ⟨Nat.zero_le _, Nat.zero_le _⟩ ?_
    refine W.eq (g2 := F0 m 14 ls [.int r6]) rfl ?_
    refine lv_ineg (pc := 14) hx hb dX9_pointOf_14 ?_
    refine lv_i2l (pc := 15) hx hb dX9_pointOf_15 rfl ?_
    refine lv_goto (pc := 16) (tgt := 26) hx hb dX9_pointOf_16 (by decide) ?_
    have e9 := rs1 hm
    subst e9
    exact rk_lretP (pc := 26) hx hb hr hlk rfl dX9_pointOf_26
set_option maxHeartbeats 4000000 in
theorem ct_X9_pointOf {G : Gv} {l : Launch} {b0 : Nat} {V0 : Mem} {i1 : Int32} {i2 : Int32} {rx : Int64} (hm : fX9_pointOf V0 i1 i2 = some rx) : CP G l yX9_pointOf (ws_ yX9_pointOf cX9_pointOf 3 (some .long)) 1 22 [.ref b0, .int i1, .int i2] (fun H => rg G b0 6 (shX9 G.2.1) V0 H) (some (.long rx)) := by
  refine Met.ofW (cc := cX9_pointOf) (maxL := 3) (ret := (some .long)) (by decide +kernel) rfl ?_
  intro p e s m args below meth c s₁ B hml hv
  obtain ⟨rfl, hW0, hK⟩ := hv
  have hts := atoms_spec (ws := ws_ yX9_pointOf cX9_pointOf 3 (some .long)) B.pre
  have hts : ∀ w ∈ lw_all, w.before _ s = true := fun w h => hts w (List.mem_cons_of_mem _ h)
  have C : Cx G p s m _ meth c RX9 cX9_pointOf 3 (some .long) := ⟨B.exec, B.bytes, B.returns, B.notSynchronized, hml, findClass_of_methodNamed B.named, hts, hK⟩
  have hl := lv_entry ([.ref b0, .int i1, .int i2]) (n := 3) (Nat.le_of_ble_eq_true rfl)
  rw [lg_entry_eq]
  generalize (lg_sl ([.ref b0, .int i1, .int i2]) ++ List.replicate (3 - (lg_sl ([.ref b0, .int i1, .int i2])).length) Slot.unset).toArray = ls at hl ⊢
  have hl : lv_has ls 3 [(0, .ref b0), (1, .int i1), (2, .int i2)] := hl
  exact w_fX9_pointOf C hW0 _ _ hm ls hl
theorem yn_X9_boundOf : YN yX9_boundOf 1 := by
  unfold YN
  decide +kernel
theorem lkX9_105 : LV RX9 105 RX9 yX9_boundOf cX9_boundOf 2 (some .int) := ⟨q1964, q1966, qs60, q128, q1967⟩
noncomputable def fX9_limitOf (V0 : Mem) (i1 : Int32) : Option (Int64) :=
  ob (fX9_sortOf V0 i1) fun r1 =>
  if r1 = 0 then (
  ob (fX9_boundOf V0 i1) fun r6 =>
  some (-r6).toInt64)
  else (
  ob (fX9_boundOf V0 i1) fun r4 =>
  some r4.toInt64)
set_option maxHeartbeats 4000000 in
theorem w_fX9_limitOf (C : Cx G p s m args meth c RX9 cX9_limitOf 2 (some .long)) {b0 : Nat} {V0 : Mem} {rx : Int64} (hW0 : rg G b0 6 (shX9 G.2.1) V0 s.heap) : ∀ (i1 : Int32), fX9_limitOf V0 i1 = some rx → ∀ (ls : Array Slot), lv_has ls 2 [(0, .ref b0), (1, .int i1)] → W p l e (rmP 1 21) s m args below meth c s.heap [] 0 0 (MQ below (QcP (some (.long rx))) args s 0 0 (fun _ => False)) (F0 m 0 ls []) := by
  intro i1 hm ls hl
  obtain ⟨hx, hb, hr, hlk, hml, hown, hts, hK⟩ := id C
  unfold fX9_limitOf at hm
  refine lv_aload_n (pc := 0) hx hb dX9_limitOf_0 rfl (lv_at hl 0 rfl) ?_
  refine lv_iload_n (pc := 1) hx hb dX9_limitOf_1 rfl (lv_at hl 1 rfl) ?_
  obtain ⟨r1, hq2, hm⟩ := ob_some hm
  refine rk_PV (pc := 2) (As := [.int i1]) (rest := []) hx hb hml hown hts hK lkX9_97 rfl yn_X9_sortOf (ct_X9_sortOf (G := G) (l := l) (b0 := b0) hq2) ⟨Nat.le_of_ble_eq_true rfl, Nat.le_of_ble_eq_true rfl⟩ (rk_recv hK hW0 0 (by decide) rfl rfl rfl) hW0 rfl rfl hl.1 (Nat.le_of_ble_eq_true rfl) dX9_limitOf_2 ⟨Nat.zero_le _, Nat.zero_le _⟩ ?_
  refine W.eq (g2 := F0 m 5 ls [.int r1]) rfl ?_
  refine lv_if_ne (pc := 5) (tgt := 18) hx hb dX9_limitOf_5 (by decide) (fun c3 => ?_) (fun c3 => ?_)
  · have hm := ite_f c3 hm
    refine lv_aload_n (pc := 18) hx hb dX9_limitOf_18 rfl (lv_at hl 0 rfl) ?_
    refine lv_iload_n (pc := 19) hx hb dX9_limitOf_19 rfl (lv_at hl 1 rfl) ?_
    obtain ⟨r4, hq5, hm⟩ := ob_some hm
    refine rk_PV (pc := 20) (As := [.int i1]) (rest := []) hx hb hml hown hts hK lkX9_105 rfl yn_X9_boundOf (ct_X9_boundOf (G := G) (l := l) (b0 := b0) hq5) ⟨Nat.le_of_ble_eq_true rfl, Nat.le_of_ble_eq_true rfl⟩ (rk_recv hK hW0 0 (by decide) rfl rfl rfl) hW0 rfl rfl hl.1 (Nat.le_of_ble_eq_true rfl) dX9_limitOf_20 ⟨Nat.zero_le _, Nat.zero_le _⟩ ?_
    refine W.eq (g2 := F0 m 23 ls [.int r4]) rfl ?_
    refine lv_i2l (pc := 23) hx hb dX9_limitOf_23 rfl ?_
    have e9 := rs1 hm
    subst e9
    exact rk_lretP (pc := 24) hx hb hr hlk rfl dX9_limitOf_24
  · have hm := ite_t c3 hm
    refine lv_aload_n (pc := 8) hx hb dX9_limitOf_8 rfl (lv_at hl 0 rfl) ?_
    refine lv_iload_n (pc := 9) hx hb dX9_limitOf_9 rfl (lv_at hl 1 rfl) ?_
    obtain ⟨r6, hq7, hm⟩ := ob_some hm
    refine rk_PV (pc := 10) (As := [.int i1]) (rest := []) hx hb hml hown hts hK lkX9_105 rfl yn_X9_boundOf (ct_X9_boundOf (G := G) (l := l) (b0 := b0) hq7) ⟨Nat.le_of_ble_eq_true rfl, Nat.le_of_ble_eq_true rfl⟩ (rk_recv hK hW0 0 (by decide) rfl rfl rfl) hW0 rfl rfl hl.1 (Nat.le_of_ble_eq_true rfl) dX9_limitOf_10 ⟨Nat.zero_le _, Nat.zero_le _⟩ ?_
    refine W.eq (g2 := F0 m 13 ls [.int r6]) rfl ?_
    refine lv_ineg (pc := 13) hx hb dX9_limitOf_13 ?_
    refine lv_i2l (pc := 14) hx hb dX9_limitOf_14 rfl ?_
    refine lv_goto (pc := 15) (tgt := 24) hx hb dX9_limitOf_15 (by decide) ?_
    have e9 := rs1 hm
    subst e9
    exact rk_lretP (pc := 24) hx hb hr hlk rfl dX9_limitOf_24
set_option maxHeartbeats 4000000 in
theorem ct_X9_limitOf {G : Gv} {l : Launch} {b0 : Nat} {V0 : Mem} {i1 : Int32} {rx : Int64} (hm : fX9_limitOf V0 i1 = some rx) : CP G l yX9_limitOf (ws_ yX9_limitOf cX9_limitOf 2 (some .long)) 1 21 [.ref b0, .int i1] (fun H => rg G b0 6 (shX9 G.2.1) V0 H) (some (.long rx)) := by
  refine Met.ofW (cc := cX9_limitOf) (maxL := 2) (ret := (some .long)) (by decide +kernel) rfl ?_
  intro p e s m args below meth c s₁ B hml hv
  obtain ⟨rfl, hW0, hK⟩ := hv
  have hts := atoms_spec (ws := ws_ yX9_limitOf cX9_limitOf 2 (some .long)) B.pre
  have hts : ∀ w ∈ lw_all, w.before _ s = true := fun w h => hts w (List.mem_cons_of_mem _ h)
  have C : Cx G p s m _ meth c RX9 cX9_limitOf 2 (some .long) := ⟨B.exec, B.bytes, B.returns, B.notSynchronized, hml, findClass_of_methodNamed B.named, hts, hK⟩
  have hl := lv_entry ([.ref b0, .int i1]) (n := 2) (Nat.le_of_ble_eq_true rfl)
  rw [lg_entry_eq]
  generalize (lg_sl ([.ref b0, .int i1]) ++ List.replicate (2 - (lg_sl ([.ref b0, .int i1])).length) Slot.unset).toArray = ls at hl ⊢
  have hl : lv_has ls 2 [(0, .ref b0), (1, .int i1)] := hl
  exact w_fX9_limitOf C hW0 _ hm ls hl
theorem yn_X9_begins : YN yX9_begins 1 := by
  unfold YN
  decide +kernel
theorem lkX9_81 : LV RX9 81 RX9 yX9_begins cX9_begins 4 none := ⟨q1824, q1826, qs54, q128, q1827⟩
noncomputable def fX9_size (v0 : Mem) (i1 : Int32) : Option (Int32 × Mem) :=
  ob (fX9_isIn i1.toInt64 (1 : Int64) (5 : Int64)) fun r1 =>
  if r1 = 0 then (
  some ((-2 : Int32), v0))
  else (
  ob (fX9_n v0) fun r4 =>
  ob (fX9_begins v0 i1) fun w6 =>
  some (r4, w6))
set_option maxHeartbeats 4000000 in
theorem w_fX9_size (C : Cx G p s m args meth c RX9 cX9_size 3 (some .int)) {b0 : Nat} {rx : Int32} {rw0 : Mem} : ∀ (v0 : Mem) (i1 : Int32), fX9_size v0 i1 = some (rx, rw0) → ∀ (H : Heap) (locs : List Loc) (ls : Array Slot), rg G b0 46 (shX9 G.2.1) v0 H → va_S (FA (iv b0 46) s.heap.size) s.heap H locs → H.size = s.heap.size → lv_has ls 3 [(0, .ref b0), (1, .int i1)] → W p l e (rmT 1 0 0 25) s m args below meth c H locs 0 0 (MQ below (QcT (FA (iv b0 46) s.heap.size) (fun ov H => ov = (some (.int rx)) ∧ rg G b0 46 (shX9 G.2.1) rw0 H ∧ H.size = s.heap.size)) args s 0 0 (FA (iv b0 46) s.heap.size)) (F0 m 0 ls []) := by
  intro v0 i1 hm H locs ls hW0 hS hz hl
  obtain ⟨hx, hb, hr, hlk, hml, hown, hts, hK⟩ := id C
  unfold fX9_size at hm
  refine lv_iload_n (pc := 0) hx hb dX9_size_0 rfl (lv_at hl 1 rfl) ?_
  refine lv_i2l (pc := 1) hx hb dX9_size_1 rfl ?_
  refine lv_lconst (pc := 2) (v := (1 : Int64)) hx hb dX9_size_2 (by decide) ?_
  refine lv_ldc2 (pc := 3) (v := (5 : Int64)) hx hb hown (hts _ q1919) dX9_size_3 ?_
  obtain ⟨r1, hq2, hm⟩ := ob_some hm
  refine rk_PS (pc := 6) (As := [.long i1.toInt64, .long (1 : Int64), .long (5 : Int64)]) (rest := []) hx hb hml hown hts hK lkX9_93 yn_X9_isIn (ct_X9_isIn (G := G) (l := l) hq2) ⟨Nat.le_of_ble_eq_true rfl, Nat.le_of_ble_eq_true rfl⟩ trivial rfl rfl hl.1 (Nat.le_of_ble_eq_true rfl) dX9_size_6 ⟨Nat.zero_le _, Nat.zero_le _⟩ ?_
  refine W.eq (g2 := F0 m 9 ls [.int r1]) rfl ?_
  refine lv_if_ne (pc := 9) (tgt := 15) hx hb dX9_size_9 (by decide) (fun c3 => ?_) (fun c3 => ?_)
  · have hm := ite_f c3 hm
    refine lv_aload_n (pc := 15) hx hb dX9_size_15 rfl (lv_at hl 0 rfl) ?_
    obtain ⟨r4, hq5, hm⟩ := ob_some hm
    refine rk_PV (pc := 16) (As := []) (rest := []) hx hb hml hown hts hK lkX9_89 rfl yn_X9_n (ct_X9_n (G := G) (l := l) (b0 := b0) hq5) ⟨Nat.le_of_ble_eq_true rfl, Nat.le_of_ble_eq_true rfl⟩ (rk_recv hK hW0 0 (by decide) rfl rfl rfl) (rg_take hW0 (by decide)) rfl rfl hl.1 (Nat.le_of_ble_eq_true rfl) dX9_size_16 ⟨Nat.zero_le _, Nat.zero_le _⟩ ?_
    refine W.eq (g2 := F0 m 19 ls [.int r4]) rfl ?_
    refine lv_istore_n (pc := 19) (lv' := [(2, .int r4), (0, .ref b0), (1, .int i1)]) hx hb dX9_size_19 rfl hl (by decide) rfl (fun ls hl => ?_)
    refine lv_aload_n (pc := 20) hx hb dX9_size_20 rfl (lv_at hl 1 rfl) ?_
    refine lv_iload_n (pc := 21) hx hb dX9_size_21 rfl (lv_at hl 2 rfl) ?_
    obtain ⟨w6, hq7, hm⟩ := ob_some hm
    refine rk_TV (pc := 22) (As := [.int i1]) (rest := []) (mc := 0) (ms := 0) hx hb hml hown hts hK hS (fun q hq => FA_sz rfl q hq) lkX9_81 rfl yn_X9_begins (ct_X9_begins (G := G) (l := l) (b0 := b0) (sz := H.size) hq7) ⟨Nat.le_of_ble_eq_true rfl, Nat.le_of_ble_eq_true rfl⟩ (fun z h => Or.inl (show iv _ _ _ from ⟨by have h8 := h.1; have h9 := h.2; omega, by have h8 := h.1; have h9 := h.2; omega⟩)) (rk_recv hK hW0 0 (by decide) rfl rfl rfl) hW0 rfl rfl hl.1 (Nat.le_of_ble_eq_true rfl) dX9_size_22 ⟨Nat.zero_le _, Nat.zero_le _⟩ (fun ov9 H8 locs9 hP10 hkp11 hS12 => ?_)
    obtain ⟨rfl, hW13, hz14⟩ := hP10
    have hz15 := hz14.trans hz
    refine W.eq (g2 := F0 m 25 ls []) rfl ?_
    refine lv_iload_n (pc := 25) hx hb dX9_size_25 rfl (lv_at hl 0 rfl) ?_
    obtain ⟨e8, e9⟩ := rs2 hm
    subst e8
    subst e9
    exact rk_iret (pc := 26) hx hb hr hlk hS12 ⟨rfl, hW13, hz15⟩ dX9_size_26
  · have hm := ite_t c3 hm
    refine lv_bipush (pc := 12) (v := (-2 : Int32)) hx hb dX9_size_12 (by decide) ?_
    obtain ⟨e8, e9⟩ := rs2 hm
    subst e8
    subst e9
    exact rk_iret (pc := 14) hx hb hr hlk hS ⟨rfl, hW0, hz⟩ dX9_size_14
set_option maxHeartbeats 4000000 in
theorem ct_X9_size {G : Gv} {l : Launch} {b0 : Nat} {v0 : Mem} {i1 : Int32} {rx : Int32} {rw0 : Mem} {sz : Nat} (hm : fX9_size v0 i1 = some (rx, rw0)) : CT G l yX9_size (ws_ yX9_size cX9_size 3 (some .int)) 1 0 0 25 [.ref b0, .int i1] (iv b0 46) sz (fun H => rg G b0 46 (shX9 G.2.1) v0 H) (fun ov H => ov = (some (.int rx)) ∧ rg G b0 46 (shX9 G.2.1) rw0 H ∧ H.size = sz) := by
  refine Met.ofW (cc := cX9_size) (maxL := 3) (ret := (some .int)) (by decide +kernel) rfl ?_
  intro p e s m args below meth c s₁ B hml hv
  obtain ⟨rfl, ⟨hz, hW0⟩, hK⟩ := hv
  subst hz
  have hts := atoms_spec (ws := ws_ yX9_size cX9_size 3 (some .int)) B.pre
  have hts : ∀ w ∈ lw_all, w.before _ s = true := fun w h => hts w (List.mem_cons_of_mem _ h)
  have C : Cx G p s m _ meth c RX9 cX9_size 3 (some .int) := ⟨B.exec, B.bytes, B.returns, B.notSynchronized, hml, findClass_of_methodNamed B.named, hts, hK⟩
  have hl := lv_entry ([.ref b0, .int i1]) (n := 3) (Nat.le_of_ble_eq_true rfl)
  rw [lg_entry_eq]
  generalize (lg_sl ([.ref b0, .int i1]) ++ List.replicate (3 - (lg_sl ([.ref b0, .int i1])).length) Slot.unset).toArray = ls at hl ⊢
  have hl : lv_has ls 3 [(0, .ref b0), (1, .int i1)] := hl
  exact w_fX9_size C _ _ hm s.heap [] ls hW0 va_S.rf rfl hl
theorem yn_X9_isPack : YN yX9_isPack 1 := by
  unfold YN
  decide +kernel
theorem lkX9_110 : LV RX9 110 RX9 yX9_isPack cX9_isPack 2 (some .boolean) := ⟨q1931, q1933, qs56, q128, q1934⟩
noncomputable def fX9_cost (v0 : Mem) (i1 : Int32) (i2 : Int32) : Option (Int32 × Mem) :=
  ob (fX9_isPack v0 i1) fun r1 =>
  if r1 = 0 then (
  some ((-1 : Int32), v0))
  else (
  ob (fX9_isIn i2.toInt64 (0 : Int64) (99 : Int64)) fun r4 =>
  if r4 = 0 then (
  some ((-2 : Int32), v0))
  else (
  gb (inR ((7 : Int32) + i1) 150) (
  gb (inR ((7 : Int32) + i1) 150) (
  lm (sI v0 1 ((7 : Int32) + i1).toNatClampNeg i2) fun v0_9 =>
  gb (inR (6 : Int32) 150) (
  lm (sI v0_9 1 (6 : Int32).toNatClampNeg (0 : Int32)) fun v0_18 =>
  lm (sI v0_18 6 18 (0 : Int32)) fun v0_26 =>
  some ((gI v0 1 ((7 : Int32) + i1).toNatClampNeg), v0_26))))))
set_option maxHeartbeats 4000000 in
theorem w_fX9_cost (C : Cx G p s m args meth c RX9 cX9_cost 4 (some .int)) {b0 : Nat} {rx : Int32} {rw0 : Mem} : ∀ (v0 : Mem) (i1 : Int32) (i2 : Int32), fX9_cost v0 i1 i2 = some (rx, rw0) → ∀ (H : Heap) (locs : List Loc) (ls : Array Slot), rg G b0 46 (shX9 G.2.1) v0 H → va_S (FA (iv b0 46) s.heap.size) s.heap H locs → H.size = s.heap.size → lv_has ls 4 [(0, .ref b0), (1, .int i1), (2, .int i2)] → W p l e (rmT 2 0 0 46) s m args below meth c H locs 0 0 (MQ below (QcT (FA (iv b0 46) s.heap.size) (fun ov H => ov = (some (.int rx)) ∧ rg G b0 46 (shX9 G.2.1) rw0 H ∧ H.size = s.heap.size)) args s 0 0 (FA (iv b0 46) s.heap.size)) (F0 m 0 ls []) := by
  intro v0 i1 i2 hm H locs ls hW0 hS hz hl
  obtain ⟨hx, hb, hr, hlk, hml, hown, hts, hK⟩ := id C
  unfold fX9_cost at hm
  refine lv_aload_n (pc := 0) hx hb dX9_cost_0 rfl (lv_at hl 0 rfl) ?_
  refine lv_iload_n (pc := 1) hx hb dX9_cost_1 rfl (lv_at hl 1 rfl) ?_
  obtain ⟨r1, hq2, hm⟩ := ob_some hm
  refine rk_PV (pc := 2) (As := [.int i1]) (rest := []) hx hb hml hown hts hK lkX9_110 rfl yn_X9_isPack (ct_X9_isPack (G := G) (l := l) (b0 := b0) hq2) ⟨Nat.le_of_ble_eq_true rfl, Nat.le_of_ble_eq_true rfl⟩ (rk_recv hK hW0 0 (by decide) rfl rfl rfl) (rg_take hW0 (by decide)) rfl rfl hl.1 (Nat.le_of_ble_eq_true rfl) dX9_cost_2 ⟨Nat.zero_le _, Nat.zero_le _⟩ ?_
  refine W.eq (g2 := F0 m 5 ls [.int r1]) rfl ?_
  refine lv_if_ne (pc := 5) (tgt := 10) hx hb dX9_cost_5 (by decide) (fun c3 => ?_) (fun c3 => ?_)
  · have hm := ite_f c3 hm
    refine lv_iload_n (pc := 10) hx hb dX9_cost_10 rfl (lv_at hl 2 rfl) ?_
    refine lv_i2l (pc := 11) hx hb dX9_cost_11 rfl ?_
    refine lv_lconst (pc := 12) (v := (0 : Int64)) hx hb dX9_cost_12 (by decide) ?_
    refine lv_ldc2 (pc := 13) (v := (99 : Int64)) hx hb hown (hts _ q1935) dX9_cost_13 ?_
    obtain ⟨r4, hq5, hm⟩ := ob_some hm
    refine rk_PS (pc := 16) (As := [.long i2.toInt64, .long (0 : Int64), .long (99 : Int64)]) (rest := []) hx hb hml hown hts hK lkX9_93 yn_X9_isIn (ct_X9_isIn (G := G) (l := l) hq5) ⟨Nat.le_of_ble_eq_true rfl, Nat.le_of_ble_eq_true rfl⟩ trivial rfl rfl hl.1 (Nat.le_of_ble_eq_true rfl) dX9_cost_16 ⟨Nat.zero_le _, Nat.zero_le _⟩ ?_
    refine W.eq (g2 := F0 m 19 ls [.int r4]) rfl ?_
    refine lv_if_ne (pc := 19) (tgt := 25) hx hb dX9_cost_19 (by decide) (fun c6 => ?_) (fun c6 => ?_)
    · have hm := ite_f c6 hm
      refine lv_aload_n (pc := 25) hx hb dX9_cost_25 rfl (lv_at hl 0 rfl) ?_
      refine rk_get (pc := 26) hx hb hts hown hK hW0 flX9_11 0 (by decide) rfl rfl (x := .ref (b0 + 1)) (by first | rfl | exact congrArg (fun z => some (Value.ref z)) (by omega)) dX9_cost_26 ?_
      refine lv_bipush (pc := 29) (v := (7 : Int32)) hx hb dX9_cost_29 (by decide) ?_
      refine lv_iload_n (pc := 31) hx hb dX9_cost_31 rfl (lv_at hl 1 rfl) ?_
      refine lv_iadd (pc := 32) hx hb dX9_cost_32 ?_
      obtain ⟨hg7, hm⟩ := gb_some hm
      refine rk_iald (pc := 33) hx hb hK hW0 1 (by decide) rfl rfl hg7 (x := (gI v0 1 ((7 : Int32) + i1).toNatClampNeg)) rfl dX9_cost_33 ?_
      refine lv_istore_n (pc := 34) (lv' := [(3, .int (gI v0 1 ((7 : Int32) + i1).toNatClampNeg)), (0, .ref b0), (1, .int i1), (2, .int i2)]) hx hb dX9_cost_34 rfl hl (by decide) rfl (fun ls hl => ?_)
      refine lv_aload_n (pc := 35) hx hb dX9_cost_35 rfl (lv_at hl 1 rfl) ?_
      refine rk_get (pc := 36) hx hb hts hown hK hW0 flX9_11 0 (by decide) rfl rfl (x := .ref (b0 + 1)) (by first | rfl | exact congrArg (fun z => some (Value.ref z)) (by omega)) dX9_cost_36 ?_
      refine lv_bipush (pc := 39) (v := (7 : Int32)) hx hb dX9_cost_39 (by decide) ?_
      refine lv_iload_n (pc := 41) hx hb dX9_cost_41 rfl (lv_at hl 2 rfl) ?_
      refine lv_iadd (pc := 42) hx hb dX9_cost_42 ?_
      refine lv_iload_n (pc := 43) hx hb dX9_cost_43 rfl (lv_at hl 3 rfl) ?_
      obtain ⟨hg8, hm⟩ := gb_some hm
      refine rk_iast (pc := 44) hx hb hK hW0 hS 1 (by decide) rfl (Or.inl (show iv _ _ _ from ⟨by omega, by omega⟩)) (fun _ _ _ => rfl) hg8 dX9_cost_44 (fun H10 locs11 hW12 hS13 hz14 hkp15 => ?_)
      obtain ⟨v0_9, he9, hm⟩ := lm_some hm
      rw [he9] at hW12
      have hz16 := hz14.trans hz
      refine lv_aload_n (pc := 45) hx hb dX9_cost_45 rfl (lv_at hl 1 rfl) ?_
      refine rk_get (pc := 46) hx hb hts hown hK hW12 flX9_11 0 (by decide) rfl rfl (x := .ref (b0 + 1)) (by first | rfl | exact congrArg (fun z => some (Value.ref z)) (by omega)) dX9_cost_46 ?_
      refine lv_bipush (pc := 49) (v := (6 : Int32)) hx hb dX9_cost_49 (by decide) ?_
      refine lv_iconst (pc := 51) (v := (0 : Int32)) hx hb dX9_cost_51 (by decide) ?_
      obtain ⟨hg17, hm⟩ := gb_some hm
      refine rk_iast (pc := 52) hx hb hK hW12 hS13 1 (by decide) rfl (Or.inl (show iv _ _ _ from ⟨by omega, by omega⟩)) (fun _ _ _ => rfl) hg17 dX9_cost_52 (fun H19 locs20 hW21 hS22 hz23 hkp24 => ?_)
      obtain ⟨v0_18, he9, hm⟩ := lm_some hm
      rw [he9] at hW21
      have hz25 := hz23.trans hz16
      refine lv_aload_n (pc := 53) hx hb dX9_cost_53 rfl (lv_at hl 1 rfl) ?_
      refine rk_get (pc := 54) hx hb hts hown hK hW21 flX9_30 0 (by decide) rfl rfl (x := .ref (b0 + 6)) (by first | rfl | exact congrArg (fun z => some (Value.ref z)) (by omega)) dX9_cost_54 ?_
      refine lv_iconst (pc := 57) (v := (0 : Int32)) hx hb dX9_cost_57 (by decide) ?_
      refine rk_putN (pc := 58) hx hb hts hown hK hW21 hS22 fnX9_85 ft_X10 6 (by decide) rfl (Or.inl (show iv _ _ _ from ⟨by omega, by omega⟩)) rfl rfl (x := .int (0 : Int32)) rfl rfl (Nat.le_of_ble_eq_true rfl) (sI v0_18 6 18 (0 : Int32)) sI_ne (by rw [sI_eq]; exact rfl) dX9_cost_58 (fun H27 locs28 hW29 hS30 hz31 hkp32 => ?_)
      obtain ⟨v0_26, he9, hm⟩ := lm_some hm
      rw [he9] at hW29
      have hz33 := hz31.trans hz25
      refine lv_iload_n (pc := 61) hx hb dX9_cost_61 rfl (lv_at hl 0 rfl) ?_
      obtain ⟨e8, e9⟩ := rs2 hm
      subst e8
      subst e9
      exact rk_iret (pc := 62) hx hb hr hlk hS30 ⟨rfl, hW29, hz33⟩ dX9_cost_62
    · have hm := ite_t c6 hm
      refine lv_bipush (pc := 22) (v := (-2 : Int32)) hx hb dX9_cost_22 (by decide) ?_
      obtain ⟨e8, e9⟩ := rs2 hm
      subst e8
      subst e9
      exact rk_iret (pc := 24) hx hb hr hlk hS ⟨rfl, hW0, hz⟩ dX9_cost_24
  · have hm := ite_t c3 hm
    refine lv_iconst (pc := 8) (v := (-1 : Int32)) hx hb dX9_cost_8 (by decide) ?_
    obtain ⟨e8, e9⟩ := rs2 hm
    subst e8
    subst e9
    exact rk_iret (pc := 9) hx hb hr hlk hS ⟨rfl, hW0, hz⟩ dX9_cost_9
set_option maxHeartbeats 4000000 in
theorem ct_X9_cost {G : Gv} {l : Launch} {b0 : Nat} {v0 : Mem} {i1 : Int32} {i2 : Int32} {rx : Int32} {rw0 : Mem} {sz : Nat} (hm : fX9_cost v0 i1 i2 = some (rx, rw0)) : CT G l yX9_cost (ws_ yX9_cost cX9_cost 4 (some .int)) 2 0 0 46 [.ref b0, .int i1, .int i2] (iv b0 46) sz (fun H => rg G b0 46 (shX9 G.2.1) v0 H) (fun ov H => ov = (some (.int rx)) ∧ rg G b0 46 (shX9 G.2.1) rw0 H ∧ H.size = sz) := by
  refine Met.ofW (cc := cX9_cost) (maxL := 4) (ret := (some .int)) (by decide +kernel) rfl ?_
  intro p e s m args below meth c s₁ B hml hv
  obtain ⟨rfl, ⟨hz, hW0⟩, hK⟩ := hv
  subst hz
  have hts := atoms_spec (ws := ws_ yX9_cost cX9_cost 4 (some .int)) B.pre
  have hts : ∀ w ∈ lw_all, w.before _ s = true := fun w h => hts w (List.mem_cons_of_mem _ h)
  have C : Cx G p s m _ meth c RX9 cX9_cost 4 (some .int) := ⟨B.exec, B.bytes, B.returns, B.notSynchronized, hml, findClass_of_methodNamed B.named, hts, hK⟩
  have hl := lv_entry ([.ref b0, .int i1, .int i2]) (n := 4) (Nat.le_of_ble_eq_true rfl)
  rw [lg_entry_eq]
  generalize (lg_sl ([.ref b0, .int i1, .int i2]) ++ List.replicate (4 - (lg_sl ([.ref b0, .int i1, .int i2])).length) Slot.unset).toArray = ls at hl ⊢
  have hl : lv_has ls 4 [(0, .ref b0), (1, .int i1), (2, .int i2)] := hl
  exact w_fX9_cost C _ _ _ hm s.heap [] ls hW0 va_S.rf rfl hl
noncomputable def fX9_addsRule_32 (k32 : Mem → Int32 → Int32 → Option (Mem)) (v0 : Mem) (i3 : Int32) (i4 : Int32) : Option (Mem) :=
  if (5 : Int32) ≤ i4 then (
  gb (inR (1 : Int32) 150) (
  gb (inR (1 : Int32) 150) (
  lm (sI v0 1 (1 : Int32).toNatClampNeg ((gI v0 1 (1 : Int32).toNatClampNeg) + (1 : Int32))) fun v0_23 =>
  lm (sI v0_23 6 18 (0 : Int32)) fun v0_31 =>
  some v0_31)))
  else (
  gb (inR ((i3 + (2 : Int32)) + i4) 150) (
  lm (sI v0 1 ((i3 + (2 : Int32)) + i4).toNatClampNeg (0 : Int32)) fun v0_40 =>
  k32 v0_40 i3 (i4 + (1 : Int32))))
noncomputable def fX9_addsRule (v0 : Mem) (i1 : Int32) (i2 : Int32) : Option (Mem) :=
  gb (inR (1 : Int32) 150) (
  gb (inR ((12 : Int32) + ((7 : Int32) * (gI v0 1 (1 : Int32).toNatClampNeg))) 150) (
  lm (sI v0 1 ((12 : Int32) + ((7 : Int32) * (gI v0 1 (1 : Int32).toNatClampNeg))).toNatClampNeg i1) fun v0_3 =>
  gb (inR (((12 : Int32) + ((7 : Int32) * (gI v0 1 (1 : Int32).toNatClampNeg))) + (1 : Int32)) 150) (
  lm (sI v0_3 1 (((12 : Int32) + ((7 : Int32) * (gI v0 1 (1 : Int32).toNatClampNeg))) + (1 : Int32)).toNatClampNeg i2) fun v0_12 =>
  lq3 (fX9_addsRule_32) FU v0_12 ((12 : Int32) + ((7 : Int32) * (gI v0 1 (1 : Int32).toNatClampNeg))) (0 : Int32))))
set_option maxHeartbeats 4000000 in
theorem w_fX9_addsRule_32 (C : Cx G p s m args meth c RX9 cX9_addsRule 5 none) {b0 : Nat} {rw0 : Mem} {k32 : Mem → Int32 → Int32 → Option (Mem)} (hk32 : ∀ (v0 : Mem) (i3 : Int32) (i4 : Int32), k32 v0 i3 i4 = some rw0 → ∀ (H : Heap) (locs : List Loc) (ls : Array Slot), rg G b0 46 (shX9 G.2.1) v0 H → va_S (FA (iv b0 46) s.heap.size) s.heap H locs → H.size = s.heap.size → lv_has ls 5 [(0, .ref b0), (3, .int i3), (4, .int i4)] → W p l e (rmT 0 0 0 0) s m args below meth c H locs 0 0 (MQ below (QcT (FA (iv b0 46) s.heap.size) (fun ov H => ov = none ∧ rg G b0 46 (shX9 G.2.1) rw0 H ∧ H.size = s.heap.size)) args s 0 0 (FA (iv b0 46) s.heap.size)) (F0 m 32 ls [])) : ∀ (v0 : Mem) (i3 : Int32) (i4 : Int32), fX9_addsRule_32 k32 v0 i3 i4 = some rw0 → ∀ (H : Heap) (locs : List Loc) (ls : Array Slot), rg G b0 46 (shX9 G.2.1) v0 H → va_S (FA (iv b0 46) s.heap.size) s.heap H locs → H.size = s.heap.size → lv_has ls 5 [(0, .ref b0), (3, .int i3), (4, .int i4)] → W p l e (rmT 0 0 0 0) s m args below meth c H locs 0 0 (MQ below (QcT (FA (iv b0 46) s.heap.size) (fun ov H => ov = none ∧ rg G b0 46 (shX9 G.2.1) rw0 H ∧ H.size = s.heap.size)) args s 0 0 (FA (iv b0 46) s.heap.size)) (F0 m 32 ls []) := by
  intro v0 i3 i4 hm H locs ls hW0 hS hz hl
  obtain ⟨hx, hb, hr, hlk, hml, hown, hts, hK⟩ := id C
  unfold fX9_addsRule_32 at hm
  refine lv_iload (pc := 32) hx hb dX9_addsRule_32 (lv_at hl 2 rfl) ?_
  refine lv_iconst (pc := 34) (v := (5 : Int32)) hx hb dX9_addsRule_34 (by decide) ?_
  refine lv_icmp_ge (pc := 35) (tgt := 56) hx hb dX9_addsRule_35 (by decide) (fun c20 => ?_) (fun c20 => ?_)
  · have hm := ite_t c20 hm
    refine lv_aload_n (pc := 56) hx hb dX9_addsRule_56 rfl (lv_at hl 0 rfl) ?_
    refine rk_get (pc := 57) hx hb hts hown hK hW0 flX9_11 0 (by decide) rfl rfl (x := .ref (b0 + 1)) (by first | rfl | exact congrArg (fun z => some (Value.ref z)) (by omega)) dX9_addsRule_57 ?_
    refine lv_iconst (pc := 60) (v := (1 : Int32)) hx hb dX9_addsRule_60 (by decide) ?_
    refine lv_dup2_11 (pc := 61) hx hb dX9_addsRule_61 rfl rfl ?_
    obtain ⟨hg21, hm⟩ := gb_some hm
    refine rk_iald (pc := 62) hx hb hK hW0 1 (by decide) rfl rfl hg21 (x := (gI v0 1 (1 : Int32).toNatClampNeg)) rfl dX9_addsRule_62 ?_
    refine lv_iconst (pc := 63) (v := (1 : Int32)) hx hb dX9_addsRule_63 (by decide) ?_
    refine lv_iadd (pc := 64) hx hb dX9_addsRule_64 ?_
    obtain ⟨hg22, hm⟩ := gb_some hm
    refine rk_iast (pc := 65) hx hb hK hW0 hS 1 (by decide) rfl (Or.inl (show iv _ _ _ from ⟨by omega, by omega⟩)) (fun _ _ _ => rfl) hg22 dX9_addsRule_65 (fun H24 locs25 hW26 hS27 hz28 hkp29 => ?_)
    obtain ⟨v0_23, he9, hm⟩ := lm_some hm
    rw [he9] at hW26
    have hz30 := hz28.trans hz
    refine lv_aload_n (pc := 66) hx hb dX9_addsRule_66 rfl (lv_at hl 0 rfl) ?_
    refine rk_get (pc := 67) hx hb hts hown hK hW26 flX9_30 0 (by decide) rfl rfl (x := .ref (b0 + 6)) (by first | rfl | exact congrArg (fun z => some (Value.ref z)) (by omega)) dX9_addsRule_67 ?_
    refine lv_iconst (pc := 70) (v := (0 : Int32)) hx hb dX9_addsRule_70 (by decide) ?_
    refine rk_putN (pc := 71) hx hb hts hown hK hW26 hS27 fnX9_85 ft_X10 6 (by decide) rfl (Or.inl (show iv _ _ _ from ⟨by omega, by omega⟩)) rfl rfl (x := .int (0 : Int32)) rfl rfl (Nat.le_of_ble_eq_true rfl) (sI v0_23 6 18 (0 : Int32)) sI_ne (by rw [sI_eq]; exact rfl) dX9_addsRule_71 (fun H32 locs33 hW34 hS35 hz36 hkp37 => ?_)
    obtain ⟨v0_31, he9, hm⟩ := lm_some hm
    rw [he9] at hW34
    have hz38 := hz36.trans hz30
    have e9 := rs1 hm
    subst e9
    exact rk_vret (pc := 74) hx hb hr hlk hS35 ⟨rfl, hW34, hz38⟩ dX9_addsRule_74
  · have hm := ite_f c20 hm
    refine lv_aload_n (pc := 38) hx hb dX9_addsRule_38 rfl (lv_at hl 0 rfl) ?_
    refine rk_get (pc := 39) hx hb hts hown hK hW0 flX9_11 0 (by decide) rfl rfl (x := .ref (b0 + 1)) (by first | rfl | exact congrArg (fun z => some (Value.ref z)) (by omega)) dX9_addsRule_39 ?_
    refine lv_iload_n (pc := 42) hx hb dX9_addsRule_42 rfl (lv_at hl 1 rfl) ?_
    refine lv_iconst (pc := 43) (v := (2 : Int32)) hx hb dX9_addsRule_43 (by decide) ?_
    refine lv_iadd (pc := 44) hx hb dX9_addsRule_44 ?_
    refine lv_iload (pc := 45) hx hb dX9_addsRule_45 (lv_at hl 2 rfl) ?_
    refine lv_iadd (pc := 47) hx hb dX9_addsRule_47 ?_
    refine lv_iconst (pc := 48) (v := (0 : Int32)) hx hb dX9_addsRule_48 (by decide) ?_
    obtain ⟨hg39, hm⟩ := gb_some hm
    refine rk_iast (pc := 49) hx hb hK hW0 hS 1 (by decide) rfl (Or.inl (show iv _ _ _ from ⟨by omega, by omega⟩)) (fun _ _ _ => rfl) hg39 dX9_addsRule_49 (fun H41 locs42 hW43 hS44 hz45 hkp46 => ?_)
    obtain ⟨v0_40, he9, hm⟩ := lm_some hm
    rw [he9] at hW43
    have hz47 := hz45.trans hz
    refine lv_iinc (pc := 50) (v := (i4 + (1 : Int32))) (lv' := [(4, .int (i4 + (1 : Int32))), (0, .ref b0), (3, .int i3)]) hx hb dX9_addsRule_50 hl (k := 2) rfl rfl (by decide) rfl (fun ls hl => ?_)
    refine lv_goto (pc := 53) (tgt := 32) hx hb dX9_addsRule_53 (by decide) ?_
    exact hk32 v0_40 i3 (i4 + (1 : Int32)) hm H41 locs42 ls hW43 hS44 hz47 (lv_sub hl [1, 2, 0] rfl)
theorem w_fX9_addsRule_32_l (C : Cx G p s m args meth c RX9 cX9_addsRule 5 none) {b0 : Nat} {rw0 : Mem} : ∀ (n : Nat) (v0 : Mem) (i3 : Int32) (i4 : Int32), lq3 (fX9_addsRule_32) n v0 i3 i4 = some rw0 → ∀ (H : Heap) (locs : List Loc) (ls : Array Slot), rg G b0 46 (shX9 G.2.1) v0 H → va_S (FA (iv b0 46) s.heap.size) s.heap H locs → H.size = s.heap.size → lv_has ls 5 [(0, .ref b0), (3, .int i3), (4, .int i4)] → W p l e (rmT 0 0 0 0) s m args below meth c H locs 0 0 (MQ below (QcT (FA (iv b0 46) s.heap.size) (fun ov H => ov = none ∧ rg G b0 46 (shX9 G.2.1) rw0 H ∧ H.size = s.heap.size)) args s 0 0 (FA (iv b0 46) s.heap.size)) (F0 m 32 ls []) := by
  intro n
  induction n with
  | zero => intro v0 i3 i4 hm; exact (lq3_0 hm).elim
  | succ n ih => intro v0 i3 i4 hm; exact w_fX9_addsRule_32 C ih v0 i3 i4 (lq3_s hm)
set_option maxHeartbeats 4000000 in
theorem w_fX9_addsRule (C : Cx G p s m args meth c RX9 cX9_addsRule 5 none) {b0 : Nat} {rw0 : Mem} : ∀ (v0 : Mem) (i1 : Int32) (i2 : Int32), fX9_addsRule v0 i1 i2 = some rw0 → ∀ (H : Heap) (locs : List Loc) (ls : Array Slot), rg G b0 46 (shX9 G.2.1) v0 H → va_S (FA (iv b0 46) s.heap.size) s.heap H locs → H.size = s.heap.size → lv_has ls 5 [(0, .ref b0), (1, .int i1), (2, .int i2)] → W p l e (rmT 0 0 0 0) s m args below meth c H locs 0 0 (MQ below (QcT (FA (iv b0 46) s.heap.size) (fun ov H => ov = none ∧ rg G b0 46 (shX9 G.2.1) rw0 H ∧ H.size = s.heap.size)) args s 0 0 (FA (iv b0 46) s.heap.size)) (F0 m 0 ls []) := by
  intro v0 i1 i2 hm H locs ls hW0 hS hz hl
  obtain ⟨hx, hb, hr, hlk, hml, hown, hts, hK⟩ := id C
  unfold fX9_addsRule at hm
  refine lv_bipush (pc := 0) (v := (12 : Int32)) hx hb dX9_addsRule_0 (by decide) ?_
  refine lv_bipush (pc := 2) (v := (7 : Int32)) hx hb dX9_addsRule_2 (by decide) ?_
  refine lv_aload_n (pc := 4) hx hb dX9_addsRule_4 rfl (lv_at hl 0 rfl) ?_
  refine rk_get (pc := 5) hx hb hts hown hK hW0 flX9_11 0 (by decide) rfl rfl (x := .ref (b0 + 1)) (by first | rfl | exact congrArg (fun z => some (Value.ref z)) (by omega)) dX9_addsRule_5 ?_
  refine lv_iconst (pc := 8) (v := (1 : Int32)) hx hb dX9_addsRule_8 (by decide) ?_
  obtain ⟨hg1, hm⟩ := gb_some hm
  refine rk_iald (pc := 9) hx hb hK hW0 1 (by decide) rfl rfl hg1 (x := (gI v0 1 (1 : Int32).toNatClampNeg)) rfl dX9_addsRule_9 ?_
  refine lv_imul (pc := 10) hx hb dX9_addsRule_10 ?_
  refine lv_iadd (pc := 11) hx hb dX9_addsRule_11 ?_
  refine lv_istore_n (pc := 12) (lv' := [(3, .int ((12 : Int32) + ((7 : Int32) * (gI v0 1 (1 : Int32).toNatClampNeg)))), (0, .ref b0), (1, .int i1), (2, .int i2)]) hx hb dX9_addsRule_12 rfl hl (by decide) rfl (fun ls hl => ?_)
  refine lv_aload_n (pc := 13) hx hb dX9_addsRule_13 rfl (lv_at hl 1 rfl) ?_
  refine rk_get (pc := 14) hx hb hts hown hK hW0 flX9_11 0 (by decide) rfl rfl (x := .ref (b0 + 1)) (by first | rfl | exact congrArg (fun z => some (Value.ref z)) (by omega)) dX9_addsRule_14 ?_
  refine lv_iload_n (pc := 17) hx hb dX9_addsRule_17 rfl (lv_at hl 0 rfl) ?_
  refine lv_iload_n (pc := 18) hx hb dX9_addsRule_18 rfl (lv_at hl 2 rfl) ?_
  obtain ⟨hg2, hm⟩ := gb_some hm
  refine rk_iast (pc := 19) hx hb hK hW0 hS 1 (by decide) rfl (Or.inl (show iv _ _ _ from ⟨by omega, by omega⟩)) (fun _ _ _ => rfl) hg2 dX9_addsRule_19 (fun H4 locs5 hW6 hS7 hz8 hkp9 => ?_)
  obtain ⟨v0_3, he9, hm⟩ := lm_some hm
  rw [he9] at hW6
  have hz10 := hz8.trans hz
  refine lv_aload_n (pc := 20) hx hb dX9_addsRule_20 rfl (lv_at hl 1 rfl) ?_
  refine rk_get (pc := 21) hx hb hts hown hK hW6 flX9_11 0 (by decide) rfl rfl (x := .ref (b0 + 1)) (by first | rfl | exact congrArg (fun z => some (Value.ref z)) (by omega)) dX9_addsRule_21 ?_
  refine lv_iload_n (pc := 24) hx hb dX9_addsRule_24 rfl (lv_at hl 0 rfl) ?_
  refine lv_iconst (pc := 25) (v := (1 : Int32)) hx hb dX9_addsRule_25 (by decide) ?_
  refine lv_iadd (pc := 26) hx hb dX9_addsRule_26 ?_
  refine lv_iload_n (pc := 27) hx hb dX9_addsRule_27 rfl (lv_at hl 3 rfl) ?_
  obtain ⟨hg11, hm⟩ := gb_some hm
  refine rk_iast (pc := 28) hx hb hK hW6 hS7 1 (by decide) rfl (Or.inl (show iv _ _ _ from ⟨by omega, by omega⟩)) (fun _ _ _ => rfl) hg11 dX9_addsRule_28 (fun H13 locs14 hW15 hS16 hz17 hkp18 => ?_)
  obtain ⟨v0_12, he9, hm⟩ := lm_some hm
  rw [he9] at hW15
  have hz19 := hz17.trans hz10
  refine lv_iconst (pc := 29) (v := (0 : Int32)) hx hb dX9_addsRule_29 (by decide) ?_
  refine lv_istore (pc := 30) (lv' := [(4, .int (0 : Int32)), (3, .int ((12 : Int32) + ((7 : Int32) * (gI v0 1 (1 : Int32).toNatClampNeg)))), (0, .ref b0), (1, .int i1), (2, .int i2)]) hx hb dX9_addsRule_30 hl (by decide) rfl (fun ls hl => ?_)
  exact (w_fX9_addsRule_32_l C FU) v0_12 ((12 : Int32) + ((7 : Int32) * (gI v0 1 (1 : Int32).toNatClampNeg))) (0 : Int32) hm H13 locs14 ls hW15 hS16 hz19 (lv_sub hl [2, 1, 0] rfl)
set_option maxHeartbeats 4000000 in
theorem ct_X9_addsRule {G : Gv} {l : Launch} {b0 : Nat} {v0 : Mem} {i1 : Int32} {i2 : Int32} {rw0 : Mem} {sz : Nat} (hm : fX9_addsRule v0 i1 i2 = some rw0) : CT G l yX9_addsRule (ws_ yX9_addsRule cX9_addsRule 5 none) 0 0 0 0 [.ref b0, .int i1, .int i2] (iv b0 46) sz (fun H => rg G b0 46 (shX9 G.2.1) v0 H) (fun ov H => ov = none ∧ rg G b0 46 (shX9 G.2.1) rw0 H ∧ H.size = sz) := by
  refine Met.ofW (cc := cX9_addsRule) (maxL := 5) (ret := none) (by decide +kernel) rfl ?_
  intro p e s m args below meth c s₁ B hml hv
  obtain ⟨rfl, ⟨hz, hW0⟩, hK⟩ := hv
  subst hz
  have hts := atoms_spec (ws := ws_ yX9_addsRule cX9_addsRule 5 none) B.pre
  have hts : ∀ w ∈ lw_all, w.before _ s = true := fun w h => hts w (List.mem_cons_of_mem _ h)
  have C : Cx G p s m _ meth c RX9 cX9_addsRule 5 none := ⟨B.exec, B.bytes, B.returns, B.notSynchronized, hml, findClass_of_methodNamed B.named, hts, hK⟩
  have hl := lv_entry ([.ref b0, .int i1, .int i2]) (n := 5) (Nat.le_of_ble_eq_true rfl)
  rw [lg_entry_eq]
  generalize (lg_sl ([.ref b0, .int i1, .int i2]) ++ List.replicate (5 - (lg_sl ([.ref b0, .int i1, .int i2])).length) Slot.unset).toArray = ls at hl ⊢
  have hl : lv_has ls 5 [(0, .ref b0), (1, .int i1), (2, .int i2)] := hl
  exact w_fX9_addsRule C _ _ _ hm s.heap [] ls hW0 va_S.rf rfl hl
theorem yn_X9_addsRule : YN yX9_addsRule 2 := by
  unfold YN
  decide +kernel
theorem lkX9_120 : LV RX9 120 RX9 yX9_addsRule cX9_addsRule 5 none := ⟨q1942, q1944, qs57, q128, q1945⟩
noncomputable def fX9_rule (v0 : Mem) (i1 : Int32) (i2 : Int32) : Option (Int32 × Mem) :=
  ob (fX9_isIn i1.toInt64 (0 : Int64) (1 : Int64)) fun r1 =>
  if r1 = 0 then (
  some ((-2 : Int32), v0))
  else (
  ob (fX9_isIn i2.toInt64 (-99 : Int64) (999 : Int64)) fun r4 =>
  if r4 = 0 then (
  some ((-2 : Int32), v0))
  else (
  gb (inR (1 : Int32) 150) (
  if (gI v0 1 (1 : Int32).toNatClampNeg) = (8 : Int32) then (
  some ((-4 : Int32), v0))
  else (
  ob (fX9_addsRule v0 i1 i2) fun w9 =>
  gb (inR (1 : Int32) 150) (
  some (((gI w9 1 (1 : Int32).toNatClampNeg) - (1 : Int32)), w9))))))
set_option maxHeartbeats 4000000 in
theorem w_fX9_rule (C : Cx G p s m args meth c RX9 cX9_rule 3 (some .int)) {b0 : Nat} {rx : Int32} {rw0 : Mem} : ∀ (v0 : Mem) (i1 : Int32) (i2 : Int32), fX9_rule v0 i1 i2 = some (rx, rw0) → ∀ (H : Heap) (locs : List Loc) (ls : Array Slot), rg G b0 46 (shX9 G.2.1) v0 H → va_S (FA (iv b0 46) s.heap.size) s.heap H locs → H.size = s.heap.size → lv_has ls 3 [(0, .ref b0), (1, .int i1), (2, .int i2)] → W p l e (rmT 1 0 0 25) s m args below meth c H locs 0 0 (MQ below (QcT (FA (iv b0 46) s.heap.size) (fun ov H => ov = (some (.int rx)) ∧ rg G b0 46 (shX9 G.2.1) rw0 H ∧ H.size = s.heap.size)) args s 0 0 (FA (iv b0 46) s.heap.size)) (F0 m 0 ls []) := by
  intro v0 i1 i2 hm H locs ls hW0 hS hz hl
  obtain ⟨hx, hb, hr, hlk, hml, hown, hts, hK⟩ := id C
  unfold fX9_rule at hm
  refine lv_iload_n (pc := 0) hx hb dX9_rule_0 rfl (lv_at hl 1 rfl) ?_
  refine lv_i2l (pc := 1) hx hb dX9_rule_1 rfl ?_
  refine lv_lconst (pc := 2) (v := (0 : Int64)) hx hb dX9_rule_2 (by decide) ?_
  refine lv_lconst (pc := 3) (v := (1 : Int64)) hx hb dX9_rule_3 (by decide) ?_
  obtain ⟨r1, hq2, hm⟩ := ob_some hm
  refine rk_PS (pc := 4) (As := [.long i1.toInt64, .long (0 : Int64), .long (1 : Int64)]) (rest := []) hx hb hml hown hts hK lkX9_93 yn_X9_isIn (ct_X9_isIn (G := G) (l := l) hq2) ⟨Nat.le_of_ble_eq_true rfl, Nat.le_of_ble_eq_true rfl⟩ trivial rfl rfl hl.1 (Nat.le_of_ble_eq_true rfl) dX9_rule_4 ⟨Nat.zero_le _, Nat.zero_le _⟩ ?_
  refine W.eq (g2 := F0 m 7 ls [.int r1]) rfl ?_
  refine lv_if_eq (pc := 7) (tgt := 24) hx hb dX9_rule_7 (by decide) (fun c3 => ?_) (fun c3 => ?_)
  · have hm := ite_t c3 hm
    refine lv_bipush (pc := 24) (v := (-2 : Int32)) hx hb dX9_rule_24 (by decide) ?_
    obtain ⟨e8, e9⟩ := rs2 hm
    subst e8
    subst e9
    exact rk_iret (pc := 26) hx hb hr hlk hS ⟨rfl, hW0, hz⟩ dX9_rule_26
  · have hm := ite_f c3 hm
    refine lv_iload_n (pc := 10) hx hb dX9_rule_10 rfl (lv_at hl 2 rfl) ?_
    refine lv_i2l (pc := 11) hx hb dX9_rule_11 rfl ?_
    refine lv_ldc2 (pc := 12) (v := (-99 : Int64)) hx hb hown (hts _ q1940) dX9_rule_12 ?_
    refine lv_ldc2 (pc := 15) (v := (999 : Int64)) hx hb hown (hts _ q1941) dX9_rule_15 ?_
    obtain ⟨r4, hq5, hm⟩ := ob_some hm
    refine rk_PS (pc := 18) (As := [.long i2.toInt64, .long (-99 : Int64), .long (999 : Int64)]) (rest := []) hx hb hml hown hts hK lkX9_93 yn_X9_isIn (ct_X9_isIn (G := G) (l := l) hq5) ⟨Nat.le_of_ble_eq_true rfl, Nat.le_of_ble_eq_true rfl⟩ trivial rfl rfl hl.1 (Nat.le_of_ble_eq_true rfl) dX9_rule_18 ⟨Nat.zero_le _, Nat.zero_le _⟩ ?_
    refine W.eq (g2 := F0 m 21 ls [.int r4]) rfl ?_
    refine lv_if_ne (pc := 21) (tgt := 27) hx hb dX9_rule_21 (by decide) (fun c6 => ?_) (fun c6 => ?_)
    · have hm := ite_f c6 hm
      refine lv_aload_n (pc := 27) hx hb dX9_rule_27 rfl (lv_at hl 0 rfl) ?_
      refine rk_get (pc := 28) hx hb hts hown hK hW0 flX9_11 0 (by decide) rfl rfl (x := .ref (b0 + 1)) (by first | rfl | exact congrArg (fun z => some (Value.ref z)) (by omega)) dX9_rule_28 ?_
      refine lv_iconst (pc := 31) (v := (1 : Int32)) hx hb dX9_rule_31 (by decide) ?_
      obtain ⟨hg7, hm⟩ := gb_some hm
      refine rk_iald (pc := 32) hx hb hK hW0 1 (by decide) rfl rfl hg7 (x := (gI v0 1 (1 : Int32).toNatClampNeg)) rfl dX9_rule_32 ?_
      refine lv_bipush (pc := 33) (v := (8 : Int32)) hx hb dX9_rule_33 (by decide) ?_
      refine lv_icmp_ne (pc := 35) (tgt := 41) hx hb dX9_rule_35 (by decide) (fun c8 => ?_) (fun c8 => ?_)
      · have hm := ite_f c8 hm
        refine lv_aload_n (pc := 41) hx hb dX9_rule_41 rfl (lv_at hl 0 rfl) ?_
        refine lv_iload_n (pc := 42) hx hb dX9_rule_42 rfl (lv_at hl 1 rfl) ?_
        refine lv_iload_n (pc := 43) hx hb dX9_rule_43 rfl (lv_at hl 2 rfl) ?_
        obtain ⟨w9, hq10, hm⟩ := ob_some hm
        refine rk_TV (pc := 44) (As := [.int i1, .int i2]) (rest := []) (mc := 0) (ms := 0) hx hb hml hown hts hK hS (fun q hq => FA_sz rfl q hq) lkX9_120 rfl yn_X9_addsRule (ct_X9_addsRule (G := G) (l := l) (b0 := b0) (sz := H.size) hq10) ⟨Nat.le_of_ble_eq_true rfl, Nat.le_of_ble_eq_true rfl⟩ (fun z h => Or.inl (show iv _ _ _ from ⟨by have h8 := h.1; have h9 := h.2; omega, by have h8 := h.1; have h9 := h.2; omega⟩)) (rk_recv hK hW0 0 (by decide) rfl rfl rfl) hW0 rfl rfl hl.1 (Nat.le_of_ble_eq_true rfl) dX9_rule_44 ⟨Nat.zero_le _, Nat.zero_le _⟩ (fun ov9 H11 locs12 hP13 hkp14 hS15 => ?_)
        obtain ⟨rfl, hW16, hz17⟩ := hP13
        have hz18 := hz17.trans hz
        refine W.eq (g2 := F0 m 47 ls []) rfl ?_
        refine lv_aload_n (pc := 47) hx hb dX9_rule_47 rfl (lv_at hl 0 rfl) ?_
        refine rk_get (pc := 48) hx hb hts hown hK hW16 flX9_11 0 (by decide) rfl rfl (x := .ref (b0 + 1)) (by first | rfl | exact congrArg (fun z => some (Value.ref z)) (by omega)) dX9_rule_48 ?_
        refine lv_iconst (pc := 51) (v := (1 : Int32)) hx hb dX9_rule_51 (by decide) ?_
        obtain ⟨hg19, hm⟩ := gb_some hm
        refine rk_iald (pc := 52) hx hb hK hW16 1 (by decide) rfl rfl hg19 (x := (gI w9 1 (1 : Int32).toNatClampNeg)) rfl dX9_rule_52 ?_
        refine lv_iconst (pc := 53) (v := (1 : Int32)) hx hb dX9_rule_53 (by decide) ?_
        refine lv_isub (pc := 54) hx hb dX9_rule_54 ?_
        obtain ⟨e8, e9⟩ := rs2 hm
        subst e8
        subst e9
        exact rk_iret (pc := 55) hx hb hr hlk hS15 ⟨rfl, hW16, hz18⟩ dX9_rule_55
      · have hm := ite_t c8 hm
        refine lv_bipush (pc := 38) (v := (-4 : Int32)) hx hb dX9_rule_38 (by decide) ?_
        obtain ⟨e8, e9⟩ := rs2 hm
        subst e8
        subst e9
        exact rk_iret (pc := 40) hx hb hr hlk hS ⟨rfl, hW0, hz⟩ dX9_rule_40
    · have hm := ite_t c6 hm
      refine lv_bipush (pc := 24) (v := (-2 : Int32)) hx hb dX9_rule_24 (by decide) ?_
      obtain ⟨e8, e9⟩ := rs2 hm
      subst e8
      subst e9
      exact rk_iret (pc := 26) hx hb hr hlk hS ⟨rfl, hW0, hz⟩ dX9_rule_26
set_option maxHeartbeats 4000000 in
theorem ct_X9_rule {G : Gv} {l : Launch} {b0 : Nat} {v0 : Mem} {i1 : Int32} {i2 : Int32} {rx : Int32} {rw0 : Mem} {sz : Nat} (hm : fX9_rule v0 i1 i2 = some (rx, rw0)) : CT G l yX9_rule (ws_ yX9_rule cX9_rule 3 (some .int)) 1 0 0 25 [.ref b0, .int i1, .int i2] (iv b0 46) sz (fun H => rg G b0 46 (shX9 G.2.1) v0 H) (fun ov H => ov = (some (.int rx)) ∧ rg G b0 46 (shX9 G.2.1) rw0 H ∧ H.size = sz) := by
  refine Met.ofW (cc := cX9_rule) (maxL := 3) (ret := (some .int)) (by decide +kernel) rfl ?_
  intro p e s m args below meth c s₁ B hml hv
  obtain ⟨rfl, ⟨hz, hW0⟩, hK⟩ := hv
  subst hz
  have hts := atoms_spec (ws := ws_ yX9_rule cX9_rule 3 (some .int)) B.pre
  have hts : ∀ w ∈ lw_all, w.before _ s = true := fun w h => hts w (List.mem_cons_of_mem _ h)
  have C : Cx G p s m _ meth c RX9 cX9_rule 3 (some .int) := ⟨B.exec, B.bytes, B.returns, B.notSynchronized, hml, findClass_of_methodNamed B.named, hts, hK⟩
  have hl := lv_entry ([.ref b0, .int i1, .int i2]) (n := 3) (Nat.le_of_ble_eq_true rfl)
  rw [lg_entry_eq]
  generalize (lg_sl ([.ref b0, .int i1, .int i2]) ++ List.replicate (3 - (lg_sl ([.ref b0, .int i1, .int i2])).length) Slot.unset).toArray = ls at hl ⊢
  have hl : lv_has ls 3 [(0, .ref b0), (1, .int i1), (2, .int i2)] := hl
  exact w_fX9_rule C _ _ _ hm s.heap [] ls hW0 va_S.rf rfl hl
theorem yn_X9_isRule : YN yX9_isRule 1 := by
  unfold YN
  decide +kernel
theorem lkX9_124 : LV RX9 124 RX9 yX9_isRule cX9_isRule 2 (some .boolean) := ⟨q1950, q1952, qs58, q128, q1953⟩
noncomputable def fX9_factor (v0 : Mem) (i1 : Int32) (i2 : Int32) (i3 : Int32) : Option (Int32 × Mem) :=
  ob (fX9_isRule v0 i1) fun r1 =>
  if r1 = 0 then (
  some ((-1 : Int32), v0))
  else (
  ob (fX9_isPack v0 i2) fun r4 =>
  if r4 = 0 then (
  some ((-1 : Int32), v0))
  else (
  ob (fX9_isIn i3.toInt64 (-9 : Int64) (9 : Int64)) fun r7 =>
  if r7 = 0 then (
  some ((-2 : Int32), v0))
  else (
  ob (fX9_factorOf v0 i1 i2) fun r10 =>
  gb (inR ((((12 : Int32) + ((7 : Int32) * i1)) + (2 : Int32)) + i2) 150) (
  lm (sI v0 1 ((((12 : Int32) + ((7 : Int32) * i1)) + (2 : Int32)) + i2).toNatClampNeg i3) fun v0_13 =>
  lm (sI v0_13 6 18 (0 : Int32)) fun v0_21 =>
  some (((100 : Int32) + r10), v0_21)))))
set_option maxHeartbeats 4000000 in
theorem w_fX9_factor (C : Cx G p s m args meth c RX9 cX9_factor 5 (some .int)) {b0 : Nat} {rx : Int32} {rw0 : Mem} : ∀ (v0 : Mem) (i1 : Int32) (i2 : Int32) (i3 : Int32), fX9_factor v0 i1 i2 i3 = some (rx, rw0) → ∀ (H : Heap) (locs : List Loc) (ls : Array Slot), rg G b0 46 (shX9 G.2.1) v0 H → va_S (FA (iv b0 46) s.heap.size) s.heap H locs → H.size = s.heap.size → lv_has ls 5 [(0, .ref b0), (1, .int i1), (2, .int i2), (3, .int i3)] → W p l e (rmT 2 0 0 46) s m args below meth c H locs 0 0 (MQ below (QcT (FA (iv b0 46) s.heap.size) (fun ov H => ov = (some (.int rx)) ∧ rg G b0 46 (shX9 G.2.1) rw0 H ∧ H.size = s.heap.size)) args s 0 0 (FA (iv b0 46) s.heap.size)) (F0 m 0 ls []) := by
  intro v0 i1 i2 i3 hm H locs ls hW0 hS hz hl
  obtain ⟨hx, hb, hr, hlk, hml, hown, hts, hK⟩ := id C
  unfold fX9_factor at hm
  refine lv_aload_n (pc := 0) hx hb dX9_factor_0 rfl (lv_at hl 0 rfl) ?_
  refine lv_iload_n (pc := 1) hx hb dX9_factor_1 rfl (lv_at hl 1 rfl) ?_
  obtain ⟨r1, hq2, hm⟩ := ob_some hm
  refine rk_PV (pc := 2) (As := [.int i1]) (rest := []) hx hb hml hown hts hK lkX9_124 rfl yn_X9_isRule (ct_X9_isRule (G := G) (l := l) (b0 := b0) hq2) ⟨Nat.le_of_ble_eq_true rfl, Nat.le_of_ble_eq_true rfl⟩ (rk_recv hK hW0 0 (by decide) rfl rfl rfl) (rg_take hW0 (by decide)) rfl rfl hl.1 (Nat.le_of_ble_eq_true rfl) dX9_factor_2 ⟨Nat.zero_le _, Nat.zero_le _⟩ ?_
  refine W.eq (g2 := F0 m 5 ls [.int r1]) rfl ?_
  refine lv_if_eq (pc := 5) (tgt := 16) hx hb dX9_factor_5 (by decide) (fun c3 => ?_) (fun c3 => ?_)
  · have hm := ite_t c3 hm
    refine lv_iconst (pc := 16) (v := (-1 : Int32)) hx hb dX9_factor_16 (by decide) ?_
    obtain ⟨e8, e9⟩ := rs2 hm
    subst e8
    subst e9
    exact rk_iret (pc := 17) hx hb hr hlk hS ⟨rfl, hW0, hz⟩ dX9_factor_17
  · have hm := ite_f c3 hm
    refine lv_aload_n (pc := 8) hx hb dX9_factor_8 rfl (lv_at hl 0 rfl) ?_
    refine lv_iload_n (pc := 9) hx hb dX9_factor_9 rfl (lv_at hl 2 rfl) ?_
    obtain ⟨r4, hq5, hm⟩ := ob_some hm
    refine rk_PV (pc := 10) (As := [.int i2]) (rest := []) hx hb hml hown hts hK lkX9_110 rfl yn_X9_isPack (ct_X9_isPack (G := G) (l := l) (b0 := b0) hq5) ⟨Nat.le_of_ble_eq_true rfl, Nat.le_of_ble_eq_true rfl⟩ (rk_recv hK hW0 0 (by decide) rfl rfl rfl) (rg_take hW0 (by decide)) rfl rfl hl.1 (Nat.le_of_ble_eq_true rfl) dX9_factor_10 ⟨Nat.zero_le _, Nat.zero_le _⟩ ?_
    refine W.eq (g2 := F0 m 13 ls [.int r4]) rfl ?_
    refine lv_if_ne (pc := 13) (tgt := 18) hx hb dX9_factor_13 (by decide) (fun c6 => ?_) (fun c6 => ?_)
    · have hm := ite_f c6 hm
      refine lv_iload_n (pc := 18) hx hb dX9_factor_18 rfl (lv_at hl 3 rfl) ?_
      refine lv_i2l (pc := 19) hx hb dX9_factor_19 rfl ?_
      refine lv_ldc2 (pc := 20) (v := (-9 : Int64)) hx hb hown (hts _ q1954) dX9_factor_20 ?_
      refine lv_ldc2 (pc := 23) (v := (9 : Int64)) hx hb hown (hts _ q1955) dX9_factor_23 ?_
      obtain ⟨r7, hq8, hm⟩ := ob_some hm
      refine rk_PS (pc := 26) (As := [.long i3.toInt64, .long (-9 : Int64), .long (9 : Int64)]) (rest := []) hx hb hml hown hts hK lkX9_93 yn_X9_isIn (ct_X9_isIn (G := G) (l := l) hq8) ⟨Nat.le_of_ble_eq_true rfl, Nat.le_of_ble_eq_true rfl⟩ trivial rfl rfl hl.1 (Nat.le_of_ble_eq_true rfl) dX9_factor_26 ⟨Nat.zero_le _, Nat.zero_le _⟩ ?_
      refine W.eq (g2 := F0 m 29 ls [.int r7]) rfl ?_
      refine lv_if_ne (pc := 29) (tgt := 35) hx hb dX9_factor_29 (by decide) (fun c9 => ?_) (fun c9 => ?_)
      · have hm := ite_f c9 hm
        refine lv_aload_n (pc := 35) hx hb dX9_factor_35 rfl (lv_at hl 0 rfl) ?_
        refine lv_iload_n (pc := 36) hx hb dX9_factor_36 rfl (lv_at hl 1 rfl) ?_
        refine lv_iload_n (pc := 37) hx hb dX9_factor_37 rfl (lv_at hl 2 rfl) ?_
        obtain ⟨r10, hq11, hm⟩ := ob_some hm
        refine rk_PV (pc := 38) (As := [.int i1, .int i2]) (rest := []) hx hb hml hown hts hK lkX9_101 rfl yn_X9_factorOf (ct_X9_factorOf (G := G) (l := l) (b0 := b0) hq11) ⟨Nat.le_of_ble_eq_true rfl, Nat.le_of_ble_eq_true rfl⟩ (rk_recv hK hW0 0 (by decide) rfl rfl rfl) (rg_take hW0 (by decide)) rfl rfl hl.1 (Nat.le_of_ble_eq_true rfl) dX9_factor_38 ⟨Nat.zero_le _, Nat.zero_le _⟩ ?_
        refine W.eq (g2 := F0 m 41 ls [.int r10]) rfl ?_
        refine lv_istore (pc := 41) (lv' := [(4, .int r10), (0, .ref b0), (1, .int i1), (2, .int i2), (3, .int i3)]) hx hb dX9_factor_41 hl (by decide) rfl (fun ls hl => ?_)
        refine lv_aload_n (pc := 43) hx hb dX9_factor_43 rfl (lv_at hl 1 rfl) ?_
        refine rk_get (pc := 44) hx hb hts hown hK hW0 flX9_11 0 (by decide) rfl rfl (x := .ref (b0 + 1)) (by first | rfl | exact congrArg (fun z => some (Value.ref z)) (by omega)) dX9_factor_44 ?_
        refine lv_bipush (pc := 47) (v := (12 : Int32)) hx hb dX9_factor_47 (by decide) ?_
        refine lv_bipush (pc := 49) (v := (7 : Int32)) hx hb dX9_factor_49 (by decide) ?_
        refine lv_iload_n (pc := 51) hx hb dX9_factor_51 rfl (lv_at hl 2 rfl) ?_
        refine lv_imul (pc := 52) hx hb dX9_factor_52 ?_
        refine lv_iadd (pc := 53) hx hb dX9_factor_53 ?_
        refine lv_iconst (pc := 54) (v := (2 : Int32)) hx hb dX9_factor_54 (by decide) ?_
        refine lv_iadd (pc := 55) hx hb dX9_factor_55 ?_
        refine lv_iload_n (pc := 56) hx hb dX9_factor_56 rfl (lv_at hl 3 rfl) ?_
        refine lv_iadd (pc := 57) hx hb dX9_factor_57 ?_
        refine lv_iload_n (pc := 58) hx hb dX9_factor_58 rfl (lv_at hl 4 rfl) ?_
        obtain ⟨hg12, hm⟩ := gb_some hm
        refine rk_iast (pc := 59) hx hb hK hW0 hS 1 (by decide) rfl (Or.inl (show iv _ _ _ from ⟨by omega, by omega⟩)) (fun _ _ _ => rfl) hg12 dX9_factor_59 (fun H14 locs15 hW16 hS17 hz18 hkp19 => ?_)
        obtain ⟨v0_13, he9, hm⟩ := lm_some hm
        rw [he9] at hW16
        have hz20 := hz18.trans hz
        refine lv_aload_n (pc := 60) hx hb dX9_factor_60 rfl (lv_at hl 1 rfl) ?_
        refine rk_get (pc := 61) hx hb hts hown hK hW16 flX9_30 0 (by decide) rfl rfl (x := .ref (b0 + 6)) (by first | rfl | exact congrArg (fun z => some (Value.ref z)) (by omega)) dX9_factor_61 ?_
        refine lv_iconst (pc := 64) (v := (0 : Int32)) hx hb dX9_factor_64 (by decide) ?_
        refine rk_putN (pc := 65) hx hb hts hown hK hW16 hS17 fnX9_85 ft_X10 6 (by decide) rfl (Or.inl (show iv _ _ _ from ⟨by omega, by omega⟩)) rfl rfl (x := .int (0 : Int32)) rfl rfl (Nat.le_of_ble_eq_true rfl) (sI v0_13 6 18 (0 : Int32)) sI_ne (by rw [sI_eq]; exact rfl) dX9_factor_65 (fun H22 locs23 hW24 hS25 hz26 hkp27 => ?_)
        obtain ⟨v0_21, he9, hm⟩ := lm_some hm
        rw [he9] at hW24
        have hz28 := hz26.trans hz20
        refine lv_bipush (pc := 68) (v := (100 : Int32)) hx hb dX9_factor_68 (by decide) ?_
        refine lv_iload (pc := 70) hx hb dX9_factor_70 (lv_at hl 0 rfl) ?_
        refine lv_iadd (pc := 72) hx hb dX9_factor_72 ?_
        obtain ⟨e8, e9⟩ := rs2 hm
        subst e8
        subst e9
        exact rk_iret (pc := 73) hx hb hr hlk hS25 ⟨rfl, hW24, hz28⟩ dX9_factor_73
      · have hm := ite_t c9 hm
        refine lv_bipush (pc := 32) (v := (-2 : Int32)) hx hb dX9_factor_32 (by decide) ?_
        obtain ⟨e8, e9⟩ := rs2 hm
        subst e8
        subst e9
        exact rk_iret (pc := 34) hx hb hr hlk hS ⟨rfl, hW0, hz⟩ dX9_factor_34
    · have hm := ite_t c6 hm
      refine lv_iconst (pc := 16) (v := (-1 : Int32)) hx hb dX9_factor_16 (by decide) ?_
      obtain ⟨e8, e9⟩ := rs2 hm
      subst e8
      subst e9
      exact rk_iret (pc := 17) hx hb hr hlk hS ⟨rfl, hW0, hz⟩ dX9_factor_17
set_option maxHeartbeats 4000000 in
theorem ct_X9_factor {G : Gv} {l : Launch} {b0 : Nat} {v0 : Mem} {i1 : Int32} {i2 : Int32} {i3 : Int32} {rx : Int32} {rw0 : Mem} {sz : Nat} (hm : fX9_factor v0 i1 i2 i3 = some (rx, rw0)) : CT G l yX9_factor (ws_ yX9_factor cX9_factor 5 (some .int)) 2 0 0 46 [.ref b0, .int i1, .int i2, .int i3] (iv b0 46) sz (fun H => rg G b0 46 (shX9 G.2.1) v0 H) (fun ov H => ov = (some (.int rx)) ∧ rg G b0 46 (shX9 G.2.1) rw0 H ∧ H.size = sz) := by
  refine Met.ofW (cc := cX9_factor) (maxL := 5) (ret := (some .int)) (by decide +kernel) rfl ?_
  intro p e s m args below meth c s₁ B hml hv
  obtain ⟨rfl, ⟨hz, hW0⟩, hK⟩ := hv
  subst hz
  have hts := atoms_spec (ws := ws_ yX9_factor cX9_factor 5 (some .int)) B.pre
  have hts : ∀ w ∈ lw_all, w.before _ s = true := fun w h => hts w (List.mem_cons_of_mem _ h)
  have C : Cx G p s m _ meth c RX9 cX9_factor 5 (some .int) := ⟨B.exec, B.bytes, B.returns, B.notSynchronized, hml, findClass_of_methodNamed B.named, hts, hK⟩
  have hl := lv_entry ([.ref b0, .int i1, .int i2, .int i3]) (n := 5) (Nat.le_of_ble_eq_true rfl)
  rw [lg_entry_eq]
  generalize (lg_sl ([.ref b0, .int i1, .int i2, .int i3]) ++ List.replicate (5 - (lg_sl ([.ref b0, .int i1, .int i2, .int i3])).length) Slot.unset).toArray = ls at hl ⊢
  have hl : lv_has ls 5 [(0, .ref b0), (1, .int i1), (2, .int i2), (3, .int i3)] := hl
  exact w_fX9_factor C _ _ _ _ hm s.heap [] ls hW0 va_S.rf rfl hl
noncomputable def fX9_bound (v0 : Mem) (i1 : Int32) (i2 : Int32) : Option (Int32 × Mem) :=
  ob (fX9_isRule v0 i1) fun r1 =>
  if r1 = 0 then (
  some ((-1 : Int32), v0))
  else (
  ob (fX9_isIn i2.toInt64 (-99 : Int64) (999 : Int64)) fun r4 =>
  if r4 = 0 then (
  some ((-2 : Int32), v0))
  else (
  ob (fX9_boundOf v0 i1) fun r7 =>
  gb (inR (((12 : Int32) + ((7 : Int32) * i1)) + (1 : Int32)) 150) (
  lm (sI v0 1 (((12 : Int32) + ((7 : Int32) * i1)) + (1 : Int32)).toNatClampNeg i2) fun v0_10 =>
  lm (sI v0_10 6 18 (0 : Int32)) fun v0_18 =>
  some (((1000 : Int32) + r7), v0_18))))
set_option maxHeartbeats 4000000 in
theorem w_fX9_bound (C : Cx G p s m args meth c RX9 cX9_bound 4 (some .int)) {b0 : Nat} {rx : Int32} {rw0 : Mem} : ∀ (v0 : Mem) (i1 : Int32) (i2 : Int32), fX9_bound v0 i1 i2 = some (rx, rw0) → ∀ (H : Heap) (locs : List Loc) (ls : Array Slot), rg G b0 46 (shX9 G.2.1) v0 H → va_S (FA (iv b0 46) s.heap.size) s.heap H locs → H.size = s.heap.size → lv_has ls 4 [(0, .ref b0), (1, .int i1), (2, .int i2)] → W p l e (rmT 2 0 0 46) s m args below meth c H locs 0 0 (MQ below (QcT (FA (iv b0 46) s.heap.size) (fun ov H => ov = (some (.int rx)) ∧ rg G b0 46 (shX9 G.2.1) rw0 H ∧ H.size = s.heap.size)) args s 0 0 (FA (iv b0 46) s.heap.size)) (F0 m 0 ls []) := by
  intro v0 i1 i2 hm H locs ls hW0 hS hz hl
  obtain ⟨hx, hb, hr, hlk, hml, hown, hts, hK⟩ := id C
  unfold fX9_bound at hm
  refine lv_aload_n (pc := 0) hx hb dX9_bound_0 rfl (lv_at hl 0 rfl) ?_
  refine lv_iload_n (pc := 1) hx hb dX9_bound_1 rfl (lv_at hl 1 rfl) ?_
  obtain ⟨r1, hq2, hm⟩ := ob_some hm
  refine rk_PV (pc := 2) (As := [.int i1]) (rest := []) hx hb hml hown hts hK lkX9_124 rfl yn_X9_isRule (ct_X9_isRule (G := G) (l := l) (b0 := b0) hq2) ⟨Nat.le_of_ble_eq_true rfl, Nat.le_of_ble_eq_true rfl⟩ (rk_recv hK hW0 0 (by decide) rfl rfl rfl) (rg_take hW0 (by decide)) rfl rfl hl.1 (Nat.le_of_ble_eq_true rfl) dX9_bound_2 ⟨Nat.zero_le _, Nat.zero_le _⟩ ?_
  refine W.eq (g2 := F0 m 5 ls [.int r1]) rfl ?_
  refine lv_if_ne (pc := 5) (tgt := 10) hx hb dX9_bound_5 (by decide) (fun c3 => ?_) (fun c3 => ?_)
  · have hm := ite_f c3 hm
    refine lv_iload_n (pc := 10) hx hb dX9_bound_10 rfl (lv_at hl 2 rfl) ?_
    refine lv_i2l (pc := 11) hx hb dX9_bound_11 rfl ?_
    refine lv_ldc2 (pc := 12) (v := (-99 : Int64)) hx hb hown (hts _ q1940) dX9_bound_12 ?_
    refine lv_ldc2 (pc := 15) (v := (999 : Int64)) hx hb hown (hts _ q1941) dX9_bound_15 ?_
    obtain ⟨r4, hq5, hm⟩ := ob_some hm
    refine rk_PS (pc := 18) (As := [.long i2.toInt64, .long (-99 : Int64), .long (999 : Int64)]) (rest := []) hx hb hml hown hts hK lkX9_93 yn_X9_isIn (ct_X9_isIn (G := G) (l := l) hq5) ⟨Nat.le_of_ble_eq_true rfl, Nat.le_of_ble_eq_true rfl⟩ trivial rfl rfl hl.1 (Nat.le_of_ble_eq_true rfl) dX9_bound_18 ⟨Nat.zero_le _, Nat.zero_le _⟩ ?_
    refine W.eq (g2 := F0 m 21 ls [.int r4]) rfl ?_
    refine lv_if_ne (pc := 21) (tgt := 27) hx hb dX9_bound_21 (by decide) (fun c6 => ?_) (fun c6 => ?_)
    · have hm := ite_f c6 hm
      refine lv_aload_n (pc := 27) hx hb dX9_bound_27 rfl (lv_at hl 0 rfl) ?_
      refine lv_iload_n (pc := 28) hx hb dX9_bound_28 rfl (lv_at hl 1 rfl) ?_
      obtain ⟨r7, hq8, hm⟩ := ob_some hm
      refine rk_PV (pc := 29) (As := [.int i1]) (rest := []) hx hb hml hown hts hK lkX9_105 rfl yn_X9_boundOf (ct_X9_boundOf (G := G) (l := l) (b0 := b0) hq8) ⟨Nat.le_of_ble_eq_true rfl, Nat.le_of_ble_eq_true rfl⟩ (rk_recv hK hW0 0 (by decide) rfl rfl rfl) (rg_take hW0 (by decide)) rfl rfl hl.1 (Nat.le_of_ble_eq_true rfl) dX9_bound_29 ⟨Nat.zero_le _, Nat.zero_le _⟩ ?_
      refine W.eq (g2 := F0 m 32 ls [.int r7]) rfl ?_
      refine lv_istore_n (pc := 32) (lv' := [(3, .int r7), (0, .ref b0), (1, .int i1), (2, .int i2)]) hx hb dX9_bound_32 rfl hl (by decide) rfl (fun ls hl => ?_)
      refine lv_aload_n (pc := 33) hx hb dX9_bound_33 rfl (lv_at hl 1 rfl) ?_
      refine rk_get (pc := 34) hx hb hts hown hK hW0 flX9_11 0 (by decide) rfl rfl (x := .ref (b0 + 1)) (by first | rfl | exact congrArg (fun z => some (Value.ref z)) (by omega)) dX9_bound_34 ?_
      refine lv_bipush (pc := 37) (v := (12 : Int32)) hx hb dX9_bound_37 (by decide) ?_
      refine lv_bipush (pc := 39) (v := (7 : Int32)) hx hb dX9_bound_39 (by decide) ?_
      refine lv_iload_n (pc := 41) hx hb dX9_bound_41 rfl (lv_at hl 2 rfl) ?_
      refine lv_imul (pc := 42) hx hb dX9_bound_42 ?_
      refine lv_iadd (pc := 43) hx hb dX9_bound_43 ?_
      refine lv_iconst (pc := 44) (v := (1 : Int32)) hx hb dX9_bound_44 (by decide) ?_
      refine lv_iadd (pc := 45) hx hb dX9_bound_45 ?_
      refine lv_iload_n (pc := 46) hx hb dX9_bound_46 rfl (lv_at hl 3 rfl) ?_
      obtain ⟨hg9, hm⟩ := gb_some hm
      refine rk_iast (pc := 47) hx hb hK hW0 hS 1 (by decide) rfl (Or.inl (show iv _ _ _ from ⟨by omega, by omega⟩)) (fun _ _ _ => rfl) hg9 dX9_bound_47 (fun H11 locs12 hW13 hS14 hz15 hkp16 => ?_)
      obtain ⟨v0_10, he9, hm⟩ := lm_some hm
      rw [he9] at hW13
      have hz17 := hz15.trans hz
      refine lv_aload_n (pc := 48) hx hb dX9_bound_48 rfl (lv_at hl 1 rfl) ?_
      refine rk_get (pc := 49) hx hb hts hown hK hW13 flX9_30 0 (by decide) rfl rfl (x := .ref (b0 + 6)) (by first | rfl | exact congrArg (fun z => some (Value.ref z)) (by omega)) dX9_bound_49 ?_
      refine lv_iconst (pc := 52) (v := (0 : Int32)) hx hb dX9_bound_52 (by decide) ?_
      refine rk_putN (pc := 53) hx hb hts hown hK hW13 hS14 fnX9_85 ft_X10 6 (by decide) rfl (Or.inl (show iv _ _ _ from ⟨by omega, by omega⟩)) rfl rfl (x := .int (0 : Int32)) rfl rfl (Nat.le_of_ble_eq_true rfl) (sI v0_10 6 18 (0 : Int32)) sI_ne (by rw [sI_eq]; exact rfl) dX9_bound_53 (fun H19 locs20 hW21 hS22 hz23 hkp24 => ?_)
      obtain ⟨v0_18, he9, hm⟩ := lm_some hm
      rw [he9] at hW21
      have hz25 := hz23.trans hz17
      refine lv_sipush (pc := 56) (v := (1000 : Int32)) hx hb dX9_bound_56 (by decide) ?_
      refine lv_iload_n (pc := 59) hx hb dX9_bound_59 rfl (lv_at hl 0 rfl) ?_
      refine lv_iadd (pc := 60) hx hb dX9_bound_60 ?_
      obtain ⟨e8, e9⟩ := rs2 hm
      subst e8
      subst e9
      exact rk_iret (pc := 61) hx hb hr hlk hS22 ⟨rfl, hW21, hz25⟩ dX9_bound_61
    · have hm := ite_t c6 hm
      refine lv_bipush (pc := 24) (v := (-2 : Int32)) hx hb dX9_bound_24 (by decide) ?_
      obtain ⟨e8, e9⟩ := rs2 hm
      subst e8
      subst e9
      exact rk_iret (pc := 26) hx hb hr hlk hS ⟨rfl, hW0, hz⟩ dX9_bound_26
  · have hm := ite_t c3 hm
    refine lv_iconst (pc := 8) (v := (-1 : Int32)) hx hb dX9_bound_8 (by decide) ?_
    obtain ⟨e8, e9⟩ := rs2 hm
    subst e8
    subst e9
    exact rk_iret (pc := 9) hx hb hr hlk hS ⟨rfl, hW0, hz⟩ dX9_bound_9
set_option maxHeartbeats 4000000 in
theorem ct_X9_bound {G : Gv} {l : Launch} {b0 : Nat} {v0 : Mem} {i1 : Int32} {i2 : Int32} {rx : Int32} {rw0 : Mem} {sz : Nat} (hm : fX9_bound v0 i1 i2 = some (rx, rw0)) : CT G l yX9_bound (ws_ yX9_bound cX9_bound 4 (some .int)) 2 0 0 46 [.ref b0, .int i1, .int i2] (iv b0 46) sz (fun H => rg G b0 46 (shX9 G.2.1) v0 H) (fun ov H => ov = (some (.int rx)) ∧ rg G b0 46 (shX9 G.2.1) rw0 H ∧ H.size = sz) := by
  refine Met.ofW (cc := cX9_bound) (maxL := 4) (ret := (some .int)) (by decide +kernel) rfl ?_
  intro p e s m args below meth c s₁ B hml hv
  obtain ⟨rfl, ⟨hz, hW0⟩, hK⟩ := hv
  subst hz
  have hts := atoms_spec (ws := ws_ yX9_bound cX9_bound 4 (some .int)) B.pre
  have hts : ∀ w ∈ lw_all, w.before _ s = true := fun w h => hts w (List.mem_cons_of_mem _ h)
  have C : Cx G p s m _ meth c RX9 cX9_bound 4 (some .int) := ⟨B.exec, B.bytes, B.returns, B.notSynchronized, hml, findClass_of_methodNamed B.named, hts, hK⟩
  have hl := lv_entry ([.ref b0, .int i1, .int i2]) (n := 4) (Nat.le_of_ble_eq_true rfl)
  rw [lg_entry_eq]
  generalize (lg_sl ([.ref b0, .int i1, .int i2]) ++ List.replicate (4 - (lg_sl ([.ref b0, .int i1, .int i2])).length) Slot.unset).toArray = ls at hl ⊢
  have hl : lv_has ls 4 [(0, .ref b0), (1, .int i1), (2, .int i2)] := hl
  exact w_fX9_bound C _ _ _ hm s.heap [] ls hW0 va_S.rf rfl hl
noncomputable def fX9_less (v0 : Mem) : Option (Int32 × Mem) :=
  gb (inR (1 : Int32) 150) (
  if (gI v0 1 (1 : Int32).toNatClampNeg) = 0 then (
  some ((-3 : Int32), v0))
  else (
  gb (inR (1 : Int32) 150) (
  gb (inR (1 : Int32) 150) (
  lm (sI v0 1 (1 : Int32).toNatClampNeg ((gI v0 1 (1 : Int32).toNatClampNeg) - (1 : Int32))) fun v0_5 =>
  gb (inR (1 : Int32) 150) (
  gb (inR ((68 : Int32) + (gI v0_5 1 (1 : Int32).toNatClampNeg)) 150) (
  lm (sI v0_5 1 ((68 : Int32) + (gI v0_5 1 (1 : Int32).toNatClampNeg)).toNatClampNeg (0 : Int32)) fun v0_15 =>
  lm (sI v0_15 6 18 (0 : Int32)) fun v0_23 =>
  gb (inR (1 : Int32) 150) (
  some ((gI v0_23 1 (1 : Int32).toNatClampNeg), v0_23))))))))
set_option maxHeartbeats 4000000 in
theorem w_fX9_less (C : Cx G p s m args meth c RX9 cX9_less 1 (some .int)) {b0 : Nat} {rx : Int32} {rw0 : Mem} : ∀ (v0 : Mem), fX9_less v0 = some (rx, rw0) → ∀ (H : Heap) (locs : List Loc) (ls : Array Slot), rg G b0 46 (shX9 G.2.1) v0 H → va_S (FA (iv b0 46) s.heap.size) s.heap H locs → H.size = s.heap.size → lv_has ls 1 [(0, .ref b0)] → W p l e (rmT 0 0 0 0) s m args below meth c H locs 0 0 (MQ below (QcT (FA (iv b0 46) s.heap.size) (fun ov H => ov = (some (.int rx)) ∧ rg G b0 46 (shX9 G.2.1) rw0 H ∧ H.size = s.heap.size)) args s 0 0 (FA (iv b0 46) s.heap.size)) (F0 m 0 ls []) := by
  intro v0 hm H locs ls hW0 hS hz hl
  obtain ⟨hx, hb, hr, hlk, hml, hown, hts, hK⟩ := id C
  unfold fX9_less at hm
  refine lv_aload_n (pc := 0) hx hb dX9_less_0 rfl (lv_at hl 0 rfl) ?_
  refine rk_get (pc := 1) hx hb hts hown hK hW0 flX9_11 0 (by decide) rfl rfl (x := .ref (b0 + 1)) (by first | rfl | exact congrArg (fun z => some (Value.ref z)) (by omega)) dX9_less_1 ?_
  refine lv_iconst (pc := 4) (v := (1 : Int32)) hx hb dX9_less_4 (by decide) ?_
  obtain ⟨hg1, hm⟩ := gb_some hm
  refine rk_iald (pc := 5) hx hb hK hW0 1 (by decide) rfl rfl hg1 (x := (gI v0 1 (1 : Int32).toNatClampNeg)) rfl dX9_less_5 ?_
  refine lv_if_ne (pc := 6) (tgt := 12) hx hb dX9_less_6 (by decide) (fun c2 => ?_) (fun c2 => ?_)
  · have hm := ite_f c2 hm
    refine lv_aload_n (pc := 12) hx hb dX9_less_12 rfl (lv_at hl 0 rfl) ?_
    refine rk_get (pc := 13) hx hb hts hown hK hW0 flX9_11 0 (by decide) rfl rfl (x := .ref (b0 + 1)) (by first | rfl | exact congrArg (fun z => some (Value.ref z)) (by omega)) dX9_less_13 ?_
    refine lv_iconst (pc := 16) (v := (1 : Int32)) hx hb dX9_less_16 (by decide) ?_
    refine lv_dup2_11 (pc := 17) hx hb dX9_less_17 rfl rfl ?_
    obtain ⟨hg3, hm⟩ := gb_some hm
    refine rk_iald (pc := 18) hx hb hK hW0 1 (by decide) rfl rfl hg3 (x := (gI v0 1 (1 : Int32).toNatClampNeg)) rfl dX9_less_18 ?_
    refine lv_iconst (pc := 19) (v := (1 : Int32)) hx hb dX9_less_19 (by decide) ?_
    refine lv_isub (pc := 20) hx hb dX9_less_20 ?_
    obtain ⟨hg4, hm⟩ := gb_some hm
    refine rk_iast (pc := 21) hx hb hK hW0 hS 1 (by decide) rfl (Or.inl (show iv _ _ _ from ⟨by omega, by omega⟩)) (fun _ _ _ => rfl) hg4 dX9_less_21 (fun H6 locs7 hW8 hS9 hz10 hkp11 => ?_)
    obtain ⟨v0_5, he9, hm⟩ := lm_some hm
    rw [he9] at hW8
    have hz12 := hz10.trans hz
    refine lv_aload_n (pc := 22) hx hb dX9_less_22 rfl (lv_at hl 0 rfl) ?_
    refine rk_get (pc := 23) hx hb hts hown hK hW8 flX9_11 0 (by decide) rfl rfl (x := .ref (b0 + 1)) (by first | rfl | exact congrArg (fun z => some (Value.ref z)) (by omega)) dX9_less_23 ?_
    refine lv_bipush (pc := 26) (v := (68 : Int32)) hx hb dX9_less_26 (by decide) ?_
    refine lv_aload_n (pc := 28) hx hb dX9_less_28 rfl (lv_at hl 0 rfl) ?_
    refine rk_get (pc := 29) hx hb hts hown hK hW8 flX9_11 0 (by decide) rfl rfl (x := .ref (b0 + 1)) (by first | rfl | exact congrArg (fun z => some (Value.ref z)) (by omega)) dX9_less_29 ?_
    refine lv_iconst (pc := 32) (v := (1 : Int32)) hx hb dX9_less_32 (by decide) ?_
    obtain ⟨hg13, hm⟩ := gb_some hm
    refine rk_iald (pc := 33) hx hb hK hW8 1 (by decide) rfl rfl hg13 (x := (gI v0_5 1 (1 : Int32).toNatClampNeg)) rfl dX9_less_33 ?_
    refine lv_iadd (pc := 34) hx hb dX9_less_34 ?_
    refine lv_iconst (pc := 35) (v := (0 : Int32)) hx hb dX9_less_35 (by decide) ?_
    obtain ⟨hg14, hm⟩ := gb_some hm
    refine rk_iast (pc := 36) hx hb hK hW8 hS9 1 (by decide) rfl (Or.inl (show iv _ _ _ from ⟨by omega, by omega⟩)) (fun _ _ _ => rfl) hg14 dX9_less_36 (fun H16 locs17 hW18 hS19 hz20 hkp21 => ?_)
    obtain ⟨v0_15, he9, hm⟩ := lm_some hm
    rw [he9] at hW18
    have hz22 := hz20.trans hz12
    refine lv_aload_n (pc := 37) hx hb dX9_less_37 rfl (lv_at hl 0 rfl) ?_
    refine rk_get (pc := 38) hx hb hts hown hK hW18 flX9_30 0 (by decide) rfl rfl (x := .ref (b0 + 6)) (by first | rfl | exact congrArg (fun z => some (Value.ref z)) (by omega)) dX9_less_38 ?_
    refine lv_iconst (pc := 41) (v := (0 : Int32)) hx hb dX9_less_41 (by decide) ?_
    refine rk_putN (pc := 42) hx hb hts hown hK hW18 hS19 fnX9_85 ft_X10 6 (by decide) rfl (Or.inl (show iv _ _ _ from ⟨by omega, by omega⟩)) rfl rfl (x := .int (0 : Int32)) rfl rfl (Nat.le_of_ble_eq_true rfl) (sI v0_15 6 18 (0 : Int32)) sI_ne (by rw [sI_eq]; exact rfl) dX9_less_42 (fun H24 locs25 hW26 hS27 hz28 hkp29 => ?_)
    obtain ⟨v0_23, he9, hm⟩ := lm_some hm
    rw [he9] at hW26
    have hz30 := hz28.trans hz22
    refine lv_aload_n (pc := 45) hx hb dX9_less_45 rfl (lv_at hl 0 rfl) ?_
    refine rk_get (pc := 46) hx hb hts hown hK hW26 flX9_11 0 (by decide) rfl rfl (x := .ref (b0 + 1)) (by first | rfl | exact congrArg (fun z => some (Value.ref z)) (by omega)) dX9_less_46 ?_
    refine lv_iconst (pc := 49) (v := (1 : Int32)) hx hb dX9_less_49 (by decide) ?_
    obtain ⟨hg31, hm⟩ := gb_some hm
    refine rk_iald (pc := 50) hx hb hK hW26 1 (by decide) rfl rfl hg31 (x := (gI v0_23 1 (1 : Int32).toNatClampNeg)) rfl dX9_less_50 ?_
    obtain ⟨e8, e9⟩ := rs2 hm
    subst e8
    subst e9
    exact rk_iret (pc := 51) hx hb hr hlk hS27 ⟨rfl, hW26, hz30⟩ dX9_less_51
  · have hm := ite_t c2 hm
    refine lv_bipush (pc := 9) (v := (-3 : Int32)) hx hb dX9_less_9 (by decide) ?_
    obtain ⟨e8, e9⟩ := rs2 hm
    subst e8
    subst e9
    exact rk_iret (pc := 11) hx hb hr hlk hS ⟨rfl, hW0, hz⟩ dX9_less_11
set_option maxHeartbeats 4000000 in
theorem ct_X9_less {G : Gv} {l : Launch} {b0 : Nat} {v0 : Mem} {rx : Int32} {rw0 : Mem} {sz : Nat} (hm : fX9_less v0 = some (rx, rw0)) : CT G l yX9_less (ws_ yX9_less cX9_less 1 (some .int)) 0 0 0 0 [.ref b0] (iv b0 46) sz (fun H => rg G b0 46 (shX9 G.2.1) v0 H) (fun ov H => ov = (some (.int rx)) ∧ rg G b0 46 (shX9 G.2.1) rw0 H ∧ H.size = sz) := by
  refine Met.ofW (cc := cX9_less) (maxL := 1) (ret := (some .int)) (by decide +kernel) rfl ?_
  intro p e s m args below meth c s₁ B hml hv
  obtain ⟨rfl, ⟨hz, hW0⟩, hK⟩ := hv
  subst hz
  have hts := atoms_spec (ws := ws_ yX9_less cX9_less 1 (some .int)) B.pre
  have hts : ∀ w ∈ lw_all, w.before _ s = true := fun w h => hts w (List.mem_cons_of_mem _ h)
  have C : Cx G p s m _ meth c RX9 cX9_less 1 (some .int) := ⟨B.exec, B.bytes, B.returns, B.notSynchronized, hml, findClass_of_methodNamed B.named, hts, hK⟩
  have hl := lv_entry ([.ref b0]) (n := 1) (Nat.le_of_ble_eq_true rfl)
  rw [lg_entry_eq]
  generalize (lg_sl ([.ref b0]) ++ List.replicate (1 - (lg_sl ([.ref b0])).length) Slot.unset).toArray = ls at hl ⊢
  have hl : lv_has ls 1 [(0, .ref b0)] := hl
  exact w_fX9_less C _ hm s.heap [] ls hW0 va_S.rf rfl hl
noncomputable def fX9_ruleOf (V0 : Mem) (i1 : Int32) (i2 : Int32) : Option (Int32) :=
  ob (fX9_isRule V0 i1) fun r1 =>
  if r1 = 0 then (
  some (-1 : Int32))
  else (
  ob (fX9_n V0) fun r4 =>
  ob (fX9_isIn i2.toInt64 (0 : Int64) ((1 : Int32) + r4).toInt64) fun r6 =>
  if r6 = 0 then (
  some (-1 : Int32))
  else (
  gb (inR (((12 : Int32) + ((7 : Int32) * i1)) + i2) 150) (
  some ((1000 : Int32) + (gI V0 1 (((12 : Int32) + ((7 : Int32) * i1)) + i2).toNatClampNeg)))))
set_option maxHeartbeats 4000000 in
theorem w_fX9_ruleOf (C : Cx G p s m args meth c RX9 cX9_ruleOf 3 (some .int)) {b0 : Nat} {V0 : Mem} {rx : Int32} (hW0 : rg G b0 46 (shX9 G.2.1) V0 s.heap) : ∀ (i1 : Int32) (i2 : Int32), fX9_ruleOf V0 i1 i2 = some rx → ∀ (ls : Array Slot), lv_has ls 3 [(0, .ref b0), (1, .int i1), (2, .int i2)] → W p l e (rmP 2 46) s m args below meth c s.heap [] 0 0 (MQ below (QcP (some (.int rx))) args s 0 0 (fun _ => False)) (F0 m 0 ls []) := by
  intro i1 i2 hm ls hl
  obtain ⟨hx, hb, hr, hlk, hml, hown, hts, hK⟩ := id C
  unfold fX9_ruleOf at hm
  refine lv_aload_n (pc := 0) hx hb dX9_ruleOf_0 rfl (lv_at hl 0 rfl) ?_
  refine lv_iload_n (pc := 1) hx hb dX9_ruleOf_1 rfl (lv_at hl 1 rfl) ?_
  obtain ⟨r1, hq2, hm⟩ := ob_some hm
  refine rk_PV (pc := 2) (As := [.int i1]) (rest := []) hx hb hml hown hts hK lkX9_124 rfl yn_X9_isRule (ct_X9_isRule (G := G) (l := l) (b0 := b0) hq2) ⟨Nat.le_of_ble_eq_true rfl, Nat.le_of_ble_eq_true rfl⟩ (rk_recv hK hW0 0 (by decide) rfl rfl rfl) (rg_take hW0 (by decide)) rfl rfl hl.1 (Nat.le_of_ble_eq_true rfl) dX9_ruleOf_2 ⟨Nat.zero_le _, Nat.zero_le _⟩ ?_
  refine W.eq (g2 := F0 m 5 ls [.int r1]) rfl ?_
  refine lv_if_eq (pc := 5) (tgt := 45) hx hb dX9_ruleOf_5 (by decide) (fun c3 => ?_) (fun c3 => ?_)
  · have hm := ite_t c3 hm
    refine lv_iconst (pc := 45) (v := (-1 : Int32)) hx hb dX9_ruleOf_45 (by decide) ?_
    have e9 := rs1 hm
    subst e9
    exact rk_iretP (pc := 46) hx hb hr hlk rfl dX9_ruleOf_46
  · have hm := ite_f c3 hm
    refine lv_iload_n (pc := 8) hx hb dX9_ruleOf_8 rfl (lv_at hl 2 rfl) ?_
    refine lv_i2l (pc := 9) hx hb dX9_ruleOf_9 rfl ?_
    refine lv_lconst (pc := 10) (v := (0 : Int64)) hx hb dX9_ruleOf_10 (by decide) ?_
    refine lv_iconst (pc := 11) (v := (1 : Int32)) hx hb dX9_ruleOf_11 (by decide) ?_
    refine lv_aload_n (pc := 12) hx hb dX9_ruleOf_12 rfl (lv_at hl 0 rfl) ?_
    obtain ⟨r4, hq5, hm⟩ := ob_some hm
    refine rk_PV (pc := 13) (As := []) (rest := [.int (1 : Int32), .long (0 : Int64), .long i2.toInt64]) hx hb hml hown hts hK lkX9_89 rfl yn_X9_n (ct_X9_n (G := G) (l := l) (b0 := b0) hq5) ⟨Nat.le_of_ble_eq_true rfl, Nat.le_of_ble_eq_true rfl⟩ (rk_recv hK hW0 0 (by decide) rfl rfl rfl) (rg_take hW0 (by decide)) rfl rfl hl.1 (Nat.le_of_ble_eq_true rfl) dX9_ruleOf_13 ⟨Nat.zero_le _, Nat.zero_le _⟩ ?_
    refine W.eq (g2 := F0 m 16 ls [.int r4, .int (1 : Int32), .long (0 : Int64), .long i2.toInt64]) rfl ?_
    refine lv_iadd (pc := 16) hx hb dX9_ruleOf_16 ?_
    refine lv_i2l (pc := 17) hx hb dX9_ruleOf_17 rfl ?_
    obtain ⟨r6, hq7, hm⟩ := ob_some hm
    refine rk_PS (pc := 18) (As := [.long i2.toInt64, .long (0 : Int64), .long ((1 : Int32) + r4).toInt64]) (rest := []) hx hb hml hown hts hK lkX9_93 yn_X9_isIn (ct_X9_isIn (G := G) (l := l) hq7) ⟨Nat.le_of_ble_eq_true rfl, Nat.le_of_ble_eq_true rfl⟩ trivial rfl rfl hl.1 (Nat.le_of_ble_eq_true rfl) dX9_ruleOf_18 ⟨Nat.zero_le _, Nat.zero_le _⟩ ?_
    refine W.eq (g2 := F0 m 21 ls [.int r6]) rfl ?_
    refine lv_if_eq (pc := 21) (tgt := 45) hx hb dX9_ruleOf_21 (by decide) (fun c8 => ?_) (fun c8 => ?_)
    · have hm := ite_t c8 hm
      refine lv_iconst (pc := 45) (v := (-1 : Int32)) hx hb dX9_ruleOf_45 (by decide) ?_
      have e9 := rs1 hm
      subst e9
      exact rk_iretP (pc := 46) hx hb hr hlk rfl dX9_ruleOf_46
    · have hm := ite_f c8 hm
      refine lv_sipush (pc := 24) (v := (1000 : Int32)) hx hb dX9_ruleOf_24 (by decide) ?_
      refine lv_aload_n (pc := 27) hx hb dX9_ruleOf_27 rfl (lv_at hl 0 rfl) ?_
      refine rk_get (pc := 28) hx hb hts hown hK hW0 flX9_11 0 (by decide) rfl rfl (x := .ref (b0 + 1)) (by first | rfl | exact congrArg (fun z => some (Value.ref z)) (by omega)) dX9_ruleOf_28 ?_
      refine lv_bipush (pc := 31) (v := (12 : Int32)) hx hb dX9_ruleOf_31 (by decide) ?_
      refine lv_bipush (pc := 33) (v := (7 : Int32)) hx hb dX9_ruleOf_33 (by decide) ?_
      refine lv_iload_n (pc := 35) hx hb dX9_ruleOf_35 rfl (lv_at hl 1 rfl) ?_
      refine lv_imul (pc := 36) hx hb dX9_ruleOf_36 ?_
      refine lv_iadd (pc := 37) hx hb dX9_ruleOf_37 ?_
      refine lv_iload_n (pc := 38) hx hb dX9_ruleOf_38 rfl (lv_at hl 2 rfl) ?_
      refine lv_iadd (pc := 39) hx hb dX9_ruleOf_39 ?_
      obtain ⟨hg9, hm⟩ := gb_some hm
      refine rk_iald (pc := 40) hx hb hK hW0 1 (by decide) rfl rfl hg9 (x := (gI V0 1 (((12 : Int32) + ((7 : Int32) * i1)) + i2).toNatClampNeg)) rfl dX9_ruleOf_40 ?_
      refine lv_iadd (pc := 41) hx hb dX9_ruleOf_41 ?_
      refine lv_goto (pc := 42) (tgt := 46) hx hb dX9_ruleOf_42 (by decide) ?_
      have e9 := rs1 hm
      subst e9
      exact rk_iretP (pc := 46) hx hb hr hlk rfl dX9_ruleOf_46
set_option maxHeartbeats 4000000 in
theorem ct_X9_ruleOf {G : Gv} {l : Launch} {b0 : Nat} {V0 : Mem} {i1 : Int32} {i2 : Int32} {rx : Int32} (hm : fX9_ruleOf V0 i1 i2 = some rx) : CP G l yX9_ruleOf (ws_ yX9_ruleOf cX9_ruleOf 3 (some .int)) 2 46 [.ref b0, .int i1, .int i2] (fun H => rg G b0 46 (shX9 G.2.1) V0 H) (some (.int rx)) := by
  refine Met.ofW (cc := cX9_ruleOf) (maxL := 3) (ret := (some .int)) (by decide +kernel) rfl ?_
  intro p e s m args below meth c s₁ B hml hv
  obtain ⟨rfl, hW0, hK⟩ := hv
  have hts := atoms_spec (ws := ws_ yX9_ruleOf cX9_ruleOf 3 (some .int)) B.pre
  have hts : ∀ w ∈ lw_all, w.before _ s = true := fun w h => hts w (List.mem_cons_of_mem _ h)
  have C : Cx G p s m _ meth c RX9 cX9_ruleOf 3 (some .int) := ⟨B.exec, B.bytes, B.returns, B.notSynchronized, hml, findClass_of_methodNamed B.named, hts, hK⟩
  have hl := lv_entry ([.ref b0, .int i1, .int i2]) (n := 3) (Nat.le_of_ble_eq_true rfl)
  rw [lg_entry_eq]
  generalize (lg_sl ([.ref b0, .int i1, .int i2]) ++ List.replicate (3 - (lg_sl ([.ref b0, .int i1, .int i2])).length) Slot.unset).toArray = ls at hl ⊢
  have hl : lv_has ls 3 [(0, .ref b0), (1, .int i1), (2, .int i2)] := hl
  exact w_fX9_ruleOf C hW0 _ _ hm ls hl
theorem flX9_133 : FL RX9 133 9 6 RX9 TX9 29 := ⟨in_X9, rfl, by decide, q1834⟩
theorem flX9_21 : FL RX9 21 9 4 RX9 TX9 29 := ⟨in_X9, rfl, by decide, q1832⟩
noncomputable def fX9_feed (v0 : Mem) (i1 : Int32) : Option (Int32 × Mem) :=
  ob (fX9_isIn i1.toInt64 (0 : Int64) (127 : Int64)) fun r1 =>
  if r1 = 0 then (
  some ((-2 : Int32), v0))
  else (
  if (gI v0 0 6) = (80 : Int32) then (
  some ((-4 : Int32), v0))
  else (
  gb (inR (gI v0 0 6) 80) (
  lm (sI v0 4 (gI v0 0 6).toNatClampNeg i1) fun v0_6 =>
  lm (sI v0_6 0 6 ((gI v0_6 0 6) + (1 : Int32))) fun v0_14 =>
  some ((gI v0_14 0 6), v0_14))))
set_option maxHeartbeats 4000000 in
theorem w_fX9_feed (C : Cx G p s m args meth c RX9 cX9_feed 2 (some .int)) {b0 : Nat} {rx : Int32} {rw0 : Mem} : ∀ (v0 : Mem) (i1 : Int32), fX9_feed v0 i1 = some (rx, rw0) → ∀ (H : Heap) (locs : List Loc) (ls : Array Slot), rg G b0 46 (shX9 G.2.1) v0 H → va_S (FA (iv b0 46) s.heap.size) s.heap H locs → H.size = s.heap.size → lv_has ls 2 [(0, .ref b0), (1, .int i1)] → W p l e (rmT 1 0 0 25) s m args below meth c H locs 0 0 (MQ below (QcT (FA (iv b0 46) s.heap.size) (fun ov H => ov = (some (.int rx)) ∧ rg G b0 46 (shX9 G.2.1) rw0 H ∧ H.size = s.heap.size)) args s 0 0 (FA (iv b0 46) s.heap.size)) (F0 m 0 ls []) := by
  intro v0 i1 hm H locs ls hW0 hS hz hl
  obtain ⟨hx, hb, hr, hlk, hml, hown, hts, hK⟩ := id C
  unfold fX9_feed at hm
  refine lv_iload_n (pc := 0) hx hb dX9_feed_0 rfl (lv_at hl 1 rfl) ?_
  refine lv_i2l (pc := 1) hx hb dX9_feed_1 rfl ?_
  refine lv_lconst (pc := 2) (v := (0 : Int64)) hx hb dX9_feed_2 (by decide) ?_
  refine lv_ldc2 (pc := 3) (v := (127 : Int64)) hx hb hown (hts _ q1980) dX9_feed_3 ?_
  obtain ⟨r1, hq2, hm⟩ := ob_some hm
  refine rk_PS (pc := 6) (As := [.long i1.toInt64, .long (0 : Int64), .long (127 : Int64)]) (rest := []) hx hb hml hown hts hK lkX9_93 yn_X9_isIn (ct_X9_isIn (G := G) (l := l) hq2) ⟨Nat.le_of_ble_eq_true rfl, Nat.le_of_ble_eq_true rfl⟩ trivial rfl rfl hl.1 (Nat.le_of_ble_eq_true rfl) dX9_feed_6 ⟨Nat.zero_le _, Nat.zero_le _⟩ ?_
  refine W.eq (g2 := F0 m 9 ls [.int r1]) rfl ?_
  refine lv_if_ne (pc := 9) (tgt := 15) hx hb dX9_feed_9 (by decide) (fun c3 => ?_) (fun c3 => ?_)
  · have hm := ite_f c3 hm
    refine lv_aload_n (pc := 15) hx hb dX9_feed_15 rfl (lv_at hl 0 rfl) ?_
    refine rk_get (pc := 16) hx hb hts hown hK hW0 flX9_133 0 (by decide) rfl rfl (x := .int (gI v0 0 6)) rfl dX9_feed_16 ?_
    refine lv_bipush (pc := 19) (v := (80 : Int32)) hx hb dX9_feed_19 (by decide) ?_
    refine lv_icmp_ne (pc := 21) (tgt := 27) hx hb dX9_feed_21 (by decide) (fun c4 => ?_) (fun c4 => ?_)
    · have hm := ite_f c4 hm
      refine lv_aload_n (pc := 27) hx hb dX9_feed_27 rfl (lv_at hl 0 rfl) ?_
      refine rk_get (pc := 28) hx hb hts hown hK hW0 flX9_21 0 (by decide) rfl rfl (x := .ref (b0 + 4)) (by first | rfl | exact congrArg (fun z => some (Value.ref z)) (by omega)) dX9_feed_28 ?_
      refine lv_aload_n (pc := 31) hx hb dX9_feed_31 rfl (lv_at hl 0 rfl) ?_
      refine rk_get (pc := 32) hx hb hts hown hK hW0 flX9_133 0 (by decide) rfl rfl (x := .int (gI v0 0 6)) rfl dX9_feed_32 ?_
      refine lv_iload_n (pc := 35) hx hb dX9_feed_35 rfl (lv_at hl 1 rfl) ?_
      obtain ⟨hg5, hm⟩ := gb_some hm
      refine rk_iast (pc := 36) hx hb hK hW0 hS 4 (by decide) rfl (Or.inl (show iv _ _ _ from ⟨by omega, by omega⟩)) (fun _ _ _ => rfl) hg5 dX9_feed_36 (fun H7 locs8 hW9 hS10 hz11 hkp12 => ?_)
      obtain ⟨v0_6, he9, hm⟩ := lm_some hm
      rw [he9] at hW9
      have hz13 := hz11.trans hz
      refine lv_aload_n (pc := 37) hx hb dX9_feed_37 rfl (lv_at hl 0 rfl) ?_
      refine lv_dup (pc := 38) hx hb dX9_feed_38 rfl ?_
      refine rk_get (pc := 39) hx hb hts hown hK hW9 flX9_133 0 (by decide) rfl rfl (x := .int (gI v0_6 0 6)) rfl dX9_feed_39 ?_
      refine lv_iconst (pc := 42) (v := (1 : Int32)) hx hb dX9_feed_42 (by decide) ?_
      refine lv_iadd (pc := 43) hx hb dX9_feed_43 ?_
      refine rk_put (pc := 44) hx hb hts hown hK hW9 hS10 flX9_133 ft_X9 0 (by decide) rfl (Or.inl (show iv _ _ _ from ⟨by omega, by omega⟩)) rfl rfl (x := .int ((gI v0_6 0 6) + (1 : Int32))) rfl rfl (Nat.le_of_ble_eq_true rfl) (sI v0_6 0 6 ((gI v0_6 0 6) + (1 : Int32))) sI_ne (by rw [sI_eq]; exact rfl) dX9_feed_44 (fun H15 locs16 hW17 hS18 hz19 hkp20 => ?_)
      obtain ⟨v0_14, he9, hm⟩ := lm_some hm
      rw [he9] at hW17
      have hz21 := hz19.trans hz13
      refine lv_aload_n (pc := 47) hx hb dX9_feed_47 rfl (lv_at hl 0 rfl) ?_
      refine rk_get (pc := 48) hx hb hts hown hK hW17 flX9_133 0 (by decide) rfl rfl (x := .int (gI v0_14 0 6)) rfl dX9_feed_48 ?_
      obtain ⟨e8, e9⟩ := rs2 hm
      subst e8
      subst e9
      exact rk_iret (pc := 51) hx hb hr hlk hS18 ⟨rfl, hW17, hz21⟩ dX9_feed_51
    · have hm := ite_t c4 hm
      refine lv_bipush (pc := 24) (v := (-4 : Int32)) hx hb dX9_feed_24 (by decide) ?_
      obtain ⟨e8, e9⟩ := rs2 hm
      subst e8
      subst e9
      exact rk_iret (pc := 26) hx hb hr hlk hS ⟨rfl, hW0, hz⟩ dX9_feed_26
  · have hm := ite_t c3 hm
    refine lv_bipush (pc := 12) (v := (-2 : Int32)) hx hb dX9_feed_12 (by decide) ?_
    obtain ⟨e8, e9⟩ := rs2 hm
    subst e8
    subst e9
    exact rk_iret (pc := 14) hx hb hr hlk hS ⟨rfl, hW0, hz⟩ dX9_feed_14
set_option maxHeartbeats 4000000 in
theorem ct_X9_feed {G : Gv} {l : Launch} {b0 : Nat} {v0 : Mem} {i1 : Int32} {rx : Int32} {rw0 : Mem} {sz : Nat} (hm : fX9_feed v0 i1 = some (rx, rw0)) : CT G l yX9_feed (ws_ yX9_feed cX9_feed 2 (some .int)) 1 0 0 25 [.ref b0, .int i1] (iv b0 46) sz (fun H => rg G b0 46 (shX9 G.2.1) v0 H) (fun ov H => ov = (some (.int rx)) ∧ rg G b0 46 (shX9 G.2.1) rw0 H ∧ H.size = sz) := by
  refine Met.ofW (cc := cX9_feed) (maxL := 2) (ret := (some .int)) (by decide +kernel) rfl ?_
  intro p e s m args below meth c s₁ B hml hv
  obtain ⟨rfl, ⟨hz, hW0⟩, hK⟩ := hv
  subst hz
  have hts := atoms_spec (ws := ws_ yX9_feed cX9_feed 2 (some .int)) B.pre
  have hts : ∀ w ∈ lw_all, w.before _ s = true := fun w h => hts w (List.mem_cons_of_mem _ h)
  have C : Cx G p s m _ meth c RX9 cX9_feed 2 (some .int) := ⟨B.exec, B.bytes, B.returns, B.notSynchronized, hml, findClass_of_methodNamed B.named, hts, hK⟩
  have hl := lv_entry ([.ref b0, .int i1]) (n := 2) (Nat.le_of_ble_eq_true rfl)
  rw [lg_entry_eq]
  generalize (lg_sl ([.ref b0, .int i1]) ++ List.replicate (2 - (lg_sl ([.ref b0, .int i1])).length) Slot.unset).toArray = ls at hl ⊢
  have hl : lv_has ls 2 [(0, .ref b0), (1, .int i1)] := hl
  exact w_fX9_feed C _ _ hm s.heap [] ls hW0 va_S.rf rfl hl
theorem flX9_137 : FL RX9 137 9 7 RX9 TX9 29 := ⟨in_X9, rfl, by decide, q1835⟩
noncomputable def fX9_here (V0 : Mem) : Option (Int32) :=
  if (gI V0 0 6) ≤ (gI V0 0 7) then (
  some (-1 : Int32))
  else (
  gb (inR (gI V0 0 7) 80) (
  some (gI V0 4 (gI V0 0 7).toNatClampNeg)))
set_option maxHeartbeats 4000000 in
theorem w_fX9_here (C : Cx G p s m args meth c RX9 cX9_here 1 (some .int)) {b0 : Nat} {V0 : Mem} {rx : Int32} (hW0 : rg G b0 46 (shX9 G.2.1) V0 s.heap) : fX9_here V0 = some rx → ∀ (ls : Array Slot), lv_has ls 1 [(0, .ref b0)] → W p l e (rmP 0 0) s m args below meth c s.heap [] 0 0 (MQ below (QcP (some (.int rx))) args s 0 0 (fun _ => False)) (F0 m 0 ls []) := by
  intro hm ls hl
  obtain ⟨hx, hb, hr, hlk, hml, hown, hts, hK⟩ := id C
  unfold fX9_here at hm
  refine lv_aload_n (pc := 0) hx hb dX9_here_0 rfl (lv_at hl 0 rfl) ?_
  refine rk_get (pc := 1) hx hb hts hown hK hW0 flX9_137 0 (by decide) rfl rfl (x := .int (gI V0 0 7)) rfl dX9_here_1 ?_
  refine lv_aload_n (pc := 4) hx hb dX9_here_4 rfl (lv_at hl 0 rfl) ?_
  refine rk_get (pc := 5) hx hb hts hown hK hW0 flX9_133 0 (by decide) rfl rfl (x := .int (gI V0 0 6)) rfl dX9_here_5 ?_
  refine lv_icmp_ge (pc := 8) (tgt := 23) hx hb dX9_here_8 (by decide) (fun c1 => ?_) (fun c1 => ?_)
  · have hm := ite_t c1 hm
    refine lv_iconst (pc := 23) (v := (-1 : Int32)) hx hb dX9_here_23 (by decide) ?_
    have e9 := rs1 hm
    subst e9
    exact rk_iretP (pc := 24) hx hb hr hlk rfl dX9_here_24
  · have hm := ite_f c1 hm
    refine lv_aload_n (pc := 11) hx hb dX9_here_11 rfl (lv_at hl 0 rfl) ?_
    refine rk_get (pc := 12) hx hb hts hown hK hW0 flX9_21 0 (by decide) rfl rfl (x := .ref (b0 + 4)) (by first | rfl | exact congrArg (fun z => some (Value.ref z)) (by omega)) dX9_here_12 ?_
    refine lv_aload_n (pc := 15) hx hb dX9_here_15 rfl (lv_at hl 0 rfl) ?_
    refine rk_get (pc := 16) hx hb hts hown hK hW0 flX9_137 0 (by decide) rfl rfl (x := .int (gI V0 0 7)) rfl dX9_here_16 ?_
    obtain ⟨hg2, hm⟩ := gb_some hm
    refine rk_iald (pc := 19) hx hb hK hW0 4 (by decide) rfl rfl hg2 (x := (gI V0 4 (gI V0 0 7).toNatClampNeg)) rfl dX9_here_19 ?_
    refine lv_goto (pc := 20) (tgt := 24) hx hb dX9_here_20 (by decide) ?_
    have e9 := rs1 hm
    subst e9
    exact rk_iretP (pc := 24) hx hb hr hlk rfl dX9_here_24
set_option maxHeartbeats 4000000 in
theorem ct_X9_here {G : Gv} {l : Launch} {b0 : Nat} {V0 : Mem} {rx : Int32} (hm : fX9_here V0  = some rx) : CP G l yX9_here (ws_ yX9_here cX9_here 1 (some .int)) 0 0 [.ref b0] (fun H => rg G b0 46 (shX9 G.2.1) V0 H) (some (.int rx)) := by
  refine Met.ofW (cc := cX9_here) (maxL := 1) (ret := (some .int)) (by decide +kernel) rfl ?_
  intro p e s m args below meth c s₁ B hml hv
  obtain ⟨rfl, hW0, hK⟩ := hv
  have hts := atoms_spec (ws := ws_ yX9_here cX9_here 1 (some .int)) B.pre
  have hts : ∀ w ∈ lw_all, w.before _ s = true := fun w h => hts w (List.mem_cons_of_mem _ h)
  have C : Cx G p s m _ meth c RX9 cX9_here 1 (some .int) := ⟨B.exec, B.bytes, B.returns, B.notSynchronized, hml, findClass_of_methodNamed B.named, hts, hK⟩
  have hl := lv_entry ([.ref b0]) (n := 1) (Nat.le_of_ble_eq_true rfl)
  rw [lg_entry_eq]
  generalize (lg_sl ([.ref b0]) ++ List.replicate (1 - (lg_sl ([.ref b0])).length) Slot.unset).toArray = ls at hl ⊢
  have hl : lv_has ls 1 [(0, .ref b0)] := hl
  exact w_fX9_here C hW0  hm ls hl
theorem yn_X9_here : YN yX9_here 0 := by
  unfold YN
  decide +kernel
theorem lkX9_140 : LV RX9 140 RX9 yX9_here cX9_here 1 (some .int) := ⟨q2001, q2003, qs65, q128, q2004⟩
noncomputable def fX9_takes (v0 : Mem) (i1 : Int32) : Option (Int32 × Mem) :=
  ob (fX9_here v0) fun r1 =>
  if r1 = i1 then (
  lm (sI v0 0 7 ((gI v0 0 7) + (1 : Int32))) fun v0_4 =>
  some ((1 : Int32), v0_4))
  else (
  some ((0 : Int32), v0))
set_option maxHeartbeats 4000000 in
theorem w_fX9_takes (C : Cx G p s m args meth c RX9 cX9_takes 2 (some .boolean)) {b0 : Nat} {rx : Int32} {rw0 : Mem} : ∀ (v0 : Mem) (i1 : Int32), fX9_takes v0 i1 = some (rx, rw0) → ∀ (H : Heap) (locs : List Loc) (ls : Array Slot), rg G b0 46 (shX9 G.2.1) v0 H → va_S (FA (iv b0 46) s.heap.size) s.heap H locs → H.size = s.heap.size → lv_has ls 2 [(0, .ref b0), (1, .int i1)] → W p l e (rmT 1 0 0 20) s m args below meth c H locs 0 0 (MQ below (QcT (FA (iv b0 46) s.heap.size) (fun ov H => ov = (some (.int rx)) ∧ rg G b0 46 (shX9 G.2.1) rw0 H ∧ H.size = s.heap.size)) args s 0 0 (FA (iv b0 46) s.heap.size)) (F0 m 0 ls []) := by
  intro v0 i1 hm H locs ls hW0 hS hz hl
  obtain ⟨hx, hb, hr, hlk, hml, hown, hts, hK⟩ := id C
  unfold fX9_takes at hm
  refine lv_aload_n (pc := 0) hx hb dX9_takes_0 rfl (lv_at hl 0 rfl) ?_
  obtain ⟨r1, hq2, hm⟩ := ob_some hm
  refine rk_PV (pc := 1) (As := []) (rest := []) hx hb hml hown hts hK lkX9_140 rfl yn_X9_here (ct_X9_here (G := G) (l := l) (b0 := b0) hq2) ⟨Nat.le_of_ble_eq_true rfl, Nat.le_of_ble_eq_true rfl⟩ (rk_recv hK hW0 0 (by decide) rfl rfl rfl) hW0 rfl rfl hl.1 (Nat.le_of_ble_eq_true rfl) dX9_takes_1 ⟨Nat.zero_le _, Nat.zero_le _⟩ ?_
  refine W.eq (g2 := F0 m 4 ls [.int r1]) rfl ?_
  refine lv_iload_n (pc := 4) hx hb dX9_takes_4 rfl (lv_at hl 1 rfl) ?_
  refine lv_icmp_eq (pc := 5) (tgt := 10) hx hb dX9_takes_5 (by decide) (fun c3 => ?_) (fun c3 => ?_)
  · have hm := ite_t c3 hm
    refine lv_aload_n (pc := 10) hx hb dX9_takes_10 rfl (lv_at hl 0 rfl) ?_
    refine lv_dup (pc := 11) hx hb dX9_takes_11 rfl ?_
    refine rk_get (pc := 12) hx hb hts hown hK hW0 flX9_137 0 (by decide) rfl rfl (x := .int (gI v0 0 7)) rfl dX9_takes_12 ?_
    refine lv_iconst (pc := 15) (v := (1 : Int32)) hx hb dX9_takes_15 (by decide) ?_
    refine lv_iadd (pc := 16) hx hb dX9_takes_16 ?_
    refine rk_put (pc := 17) hx hb hts hown hK hW0 hS flX9_137 ft_X9 0 (by decide) rfl (Or.inl (show iv _ _ _ from ⟨by omega, by omega⟩)) rfl rfl (x := .int ((gI v0 0 7) + (1 : Int32))) rfl rfl (Nat.le_of_ble_eq_true rfl) (sI v0 0 7 ((gI v0 0 7) + (1 : Int32))) sI_ne (by rw [sI_eq]; exact rfl) dX9_takes_17 (fun H5 locs6 hW7 hS8 hz9 hkp10 => ?_)
    obtain ⟨v0_4, he9, hm⟩ := lm_some hm
    rw [he9] at hW7
    have hz11 := hz9.trans hz
    refine lv_iconst (pc := 20) (v := (1 : Int32)) hx hb dX9_takes_20 (by decide) ?_
    obtain ⟨e8, e9⟩ := rs2 hm
    subst e8
    subst e9
    exact rk_zret (pc := 21) hx hb hr hlk rfl hS8 ⟨rfl, hW7, hz11⟩ dX9_takes_21
  · have hm := ite_f c3 hm
    refine lv_iconst (pc := 8) (v := (0 : Int32)) hx hb dX9_takes_8 (by decide) ?_
    obtain ⟨e8, e9⟩ := rs2 hm
    subst e8
    subst e9
    exact rk_zret (pc := 9) hx hb hr hlk rfl hS ⟨rfl, hW0, hz⟩ dX9_takes_9
set_option maxHeartbeats 4000000 in
theorem ct_X9_takes {G : Gv} {l : Launch} {b0 : Nat} {v0 : Mem} {i1 : Int32} {rx : Int32} {rw0 : Mem} {sz : Nat} (hm : fX9_takes v0 i1 = some (rx, rw0)) : CT G l yX9_takes (ws_ yX9_takes cX9_takes 2 (some .boolean)) 1 0 0 20 [.ref b0, .int i1] (iv b0 46) sz (fun H => rg G b0 46 (shX9 G.2.1) v0 H) (fun ov H => ov = (some (.int rx)) ∧ rg G b0 46 (shX9 G.2.1) rw0 H ∧ H.size = sz) := by
  refine Met.ofW (cc := cX9_takes) (maxL := 2) (ret := (some .boolean)) (by decide +kernel) rfl ?_
  intro p e s m args below meth c s₁ B hml hv
  obtain ⟨rfl, ⟨hz, hW0⟩, hK⟩ := hv
  subst hz
  have hts := atoms_spec (ws := ws_ yX9_takes cX9_takes 2 (some .boolean)) B.pre
  have hts : ∀ w ∈ lw_all, w.before _ s = true := fun w h => hts w (List.mem_cons_of_mem _ h)
  have C : Cx G p s m _ meth c RX9 cX9_takes 2 (some .boolean) := ⟨B.exec, B.bytes, B.returns, B.notSynchronized, hml, findClass_of_methodNamed B.named, hts, hK⟩
  have hl := lv_entry ([.ref b0, .int i1]) (n := 2) (Nat.le_of_ble_eq_true rfl)
  rw [lg_entry_eq]
  generalize (lg_sl ([.ref b0, .int i1]) ++ List.replicate (2 - (lg_sl ([.ref b0, .int i1])).length) Slot.unset).toArray = ls at hl ⊢
  have hl : lv_has ls 2 [(0, .ref b0), (1, .int i1)] := hl
  exact w_fX9_takes C _ _ hm s.heap [] ls hW0 va_S.rf rfl hl
end
