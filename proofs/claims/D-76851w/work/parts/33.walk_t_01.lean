set_option maxRecDepth 100000
section
variable {p : Program} {l : Launch} {e : Env} {s : State} {m : MethodId} {args : Array Value} {below : List Frame} {meth : Method} {c : Code} {G : Gv}
theorem ft_X4 : FT TX4 4 tyX4 := ⟨tyX4_ok, nmX4⟩
theorem flX4_18 : FL RX4 18 4 1 RX4 TX4 4 := ⟨in_X4, rfl, by decide, q256⟩
theorem flX4_9 : FL RX4 9 4 0 RX4 TX4 4 := ⟨in_X4, rfl, by decide, q253⟩
theorem flX4_15 : FL RX4 15 4 3 RX4 TX4 4 := ⟨in_X4, rfl, by decide, q261⟩
noncomputable def fX4_begins_27 (k27 : Mem → Int32 → Option (Mem)) (v0 : Mem) (i1 : Int32) : Option (Mem) :=
  if (20 : Int32) ≤ i1 then (
  some v0)
  else (
  gb (inR i1 20) (
  lm (sL v0 2 i1.toNatClampNeg (0 : Int64)) fun v0_21 =>
  k27 v0_21 (i1 + (1 : Int32))))
noncomputable def fX4_begins_7 (k7 : Mem → Int32 → Option (Mem)) (v0 : Mem) (i1 : Int32) : Option (Mem) :=
  if (5 : Int32) ≤ i1 then (
  lq2 (fX4_begins_27) FU v0 (0 : Int32))
  else (
  gb (inR i1 5) (
  lm (sL v0 1 i1.toNatClampNeg (0 : Int64)) fun v0_11 =>
  k7 v0_11 (i1 + (1 : Int32))))
noncomputable def fX4_begins (v0 : Mem) : Option (Mem) :=
  lm (sL v0 0 1 (0 : Int64)) fun v0_1 =>
  lq2 (fX4_begins_7) FU v0_1 (0 : Int32)
set_option maxHeartbeats 4000000 in
theorem w_fX4_begins_27 (C : Cx G p s m args meth c RX4 cX4_begins 2 none) {b0 : Nat} {rw0 : Mem} {k27 : Mem → Int32 → Option (Mem)} (hk27 : ∀ (v0 : Mem) (i1 : Int32), k27 v0 i1 = some rw0 → ∀ (H : Heap) (locs : List Loc) (ls : Array Slot), rg G b0 3 (shX4 G.2.1) v0 H → va_S (FA (iv b0 3) s.heap.size) s.heap H locs → H.size = s.heap.size → lv_has ls 2 [(0, .ref b0), (1, .int i1)] → W p l e (rmT 0 0 0 0) s m args below meth c H locs 0 0 (MQ below (QcT (FA (iv b0 3) s.heap.size) (fun ov H => ov = none ∧ rg G b0 3 (shX4 G.2.1) rw0 H ∧ H.size = s.heap.size)) args s 0 0 (FA (iv b0 3) s.heap.size)) (F0 m 27 ls [])) : ∀ (v0 : Mem) (i1 : Int32), fX4_begins_27 k27 v0 i1 = some rw0 → ∀ (H : Heap) (locs : List Loc) (ls : Array Slot), rg G b0 3 (shX4 G.2.1) v0 H → va_S (FA (iv b0 3) s.heap.size) s.heap H locs → H.size = s.heap.size → lv_has ls 2 [(0, .ref b0), (1, .int i1)] → W p l e (rmT 0 0 0 0) s m args below meth c H locs 0 0 (MQ below (QcT (FA (iv b0 3) s.heap.size) (fun ov H => ov = none ∧ rg G b0 3 (shX4 G.2.1) rw0 H ∧ H.size = s.heap.size)) args s 0 0 (FA (iv b0 3) s.heap.size)) (F0 m 27 ls []) := by
  intro v0 i1 hm H locs ls hW0 hS hz hl
  obtain ⟨hx, hb, hr, hlk, hml, hown, hts, hK⟩ := id C
  unfold fX4_begins_27 at hm
  refine lv_iload_n (pc := 27) hx hb dX4_begins_27 rfl (lv_at hl 1 rfl) ?_
  refine lv_bipush (pc := 28) (v := (20 : Int32)) hx hb dX4_begins_28 (by decide) ?_
  refine lv_icmp_ge (pc := 30) (tgt := 46) hx hb dX4_begins_30 (by decide) (fun c19 => ?_) (fun c19 => ?_)
  · have hm := ite_t c19 hm
    have e9 := rs1 hm
    subst e9
    exact rk_vret (pc := 46) hx hb hr hlk hS ⟨rfl, hW0, hz⟩ dX4_begins_46
  · have hm := ite_f c19 hm
    refine lv_aload_n (pc := 33) hx hb dX4_begins_33 rfl (lv_at hl 0 rfl) ?_
    refine rk_get (pc := 34) hx hb hts hown hK hW0 flX4_15 0 (by decide) rfl rfl (x := .ref (b0 + 2)) (by first | rfl | exact congrArg (fun z => some (Value.ref z)) (by omega)) dX4_begins_34 ?_
    refine lv_iload_n (pc := 37) hx hb dX4_begins_37 rfl (lv_at hl 1 rfl) ?_
    refine lv_lconst (pc := 38) (v := (0 : Int64)) hx hb dX4_begins_38 (by decide) ?_
    obtain ⟨hg20, hm⟩ := gb_some hm
    refine rk_last (pc := 39) hx hb hK hW0 hS 2 (by decide) rfl (Or.inl (show iv _ _ _ from ⟨by omega, by omega⟩)) (fun _ _ _ => rfl) hg20 dX4_begins_39 (fun H22 locs23 hW24 hS25 hz26 hkp27 => ?_)
    obtain ⟨v0_21, he9, hm⟩ := lm_some hm
    rw [he9] at hW24
    have hz28 := hz26.trans hz
    refine lv_iinc (pc := 40) (v := (i1 + (1 : Int32))) (lv' := [(1, .int (i1 + (1 : Int32))), (0, .ref b0)]) hx hb dX4_begins_40 hl (k := 1) rfl rfl (by decide) rfl (fun ls hl => ?_)
    refine lv_goto (pc := 43) (tgt := 27) hx hb dX4_begins_43 (by decide) ?_
    exact hk27 v0_21 (i1 + (1 : Int32)) hm H22 locs23 ls hW24 hS25 hz28 (lv_sub hl [1, 0] rfl)
theorem w_fX4_begins_27_l (C : Cx G p s m args meth c RX4 cX4_begins 2 none) {b0 : Nat} {rw0 : Mem} : ∀ (n : Nat) (v0 : Mem) (i1 : Int32), lq2 (fX4_begins_27) n v0 i1 = some rw0 → ∀ (H : Heap) (locs : List Loc) (ls : Array Slot), rg G b0 3 (shX4 G.2.1) v0 H → va_S (FA (iv b0 3) s.heap.size) s.heap H locs → H.size = s.heap.size → lv_has ls 2 [(0, .ref b0), (1, .int i1)] → W p l e (rmT 0 0 0 0) s m args below meth c H locs 0 0 (MQ below (QcT (FA (iv b0 3) s.heap.size) (fun ov H => ov = none ∧ rg G b0 3 (shX4 G.2.1) rw0 H ∧ H.size = s.heap.size)) args s 0 0 (FA (iv b0 3) s.heap.size)) (F0 m 27 ls []) := by
  intro n
  induction n with
  | zero => intro v0 i1 hm; exact (lq2_0 hm).elim
  | succ n ih => intro v0 i1 hm; exact w_fX4_begins_27 C ih v0 i1 (lq2_s hm)
set_option maxHeartbeats 4000000 in
theorem w_fX4_begins_7 (C : Cx G p s m args meth c RX4 cX4_begins 2 none) {b0 : Nat} {rw0 : Mem} {k7 : Mem → Int32 → Option (Mem)} (hk7 : ∀ (v0 : Mem) (i1 : Int32), k7 v0 i1 = some rw0 → ∀ (H : Heap) (locs : List Loc) (ls : Array Slot), rg G b0 3 (shX4 G.2.1) v0 H → va_S (FA (iv b0 3) s.heap.size) s.heap H locs → H.size = s.heap.size → lv_has ls 2 [(0, .ref b0), (1, .int i1)] → W p l e (rmT 0 0 0 0) s m args below meth c H locs 0 0 (MQ below (QcT (FA (iv b0 3) s.heap.size) (fun ov H => ov = none ∧ rg G b0 3 (shX4 G.2.1) rw0 H ∧ H.size = s.heap.size)) args s 0 0 (FA (iv b0 3) s.heap.size)) (F0 m 7 ls [])) : ∀ (v0 : Mem) (i1 : Int32), fX4_begins_7 k7 v0 i1 = some rw0 → ∀ (H : Heap) (locs : List Loc) (ls : Array Slot), rg G b0 3 (shX4 G.2.1) v0 H → va_S (FA (iv b0 3) s.heap.size) s.heap H locs → H.size = s.heap.size → lv_has ls 2 [(0, .ref b0), (1, .int i1)] → W p l e (rmT 0 0 0 0) s m args below meth c H locs 0 0 (MQ below (QcT (FA (iv b0 3) s.heap.size) (fun ov H => ov = none ∧ rg G b0 3 (shX4 G.2.1) rw0 H ∧ H.size = s.heap.size)) args s 0 0 (FA (iv b0 3) s.heap.size)) (F0 m 7 ls []) := by
  intro v0 i1 hm H locs ls hW0 hS hz hl
  obtain ⟨hx, hb, hr, hlk, hml, hown, hts, hK⟩ := id C
  unfold fX4_begins_7 at hm
  refine lv_iload_n (pc := 7) hx hb dX4_begins_7 rfl (lv_at hl 1 rfl) ?_
  refine lv_iconst (pc := 8) (v := (5 : Int32)) hx hb dX4_begins_8 (by decide) ?_
  refine lv_icmp_ge (pc := 9) (tgt := 25) hx hb dX4_begins_9 (by decide) (fun c9 => ?_) (fun c9 => ?_)
  · have hm := ite_t c9 hm
    refine lv_iconst (pc := 25) (v := (0 : Int32)) hx hb dX4_begins_25 (by decide) ?_
    refine lv_istore_n (pc := 26) (lv' := [(1, .int (0 : Int32)), (0, .ref b0)]) hx hb dX4_begins_26 rfl hl (by decide) rfl (fun ls hl => ?_)
    exact (w_fX4_begins_27_l C FU) v0 (0 : Int32) hm H locs ls hW0 hS hz (lv_sub hl [1, 0] rfl)
  · have hm := ite_f c9 hm
    refine lv_aload_n (pc := 12) hx hb dX4_begins_12 rfl (lv_at hl 0 rfl) ?_
    refine rk_get (pc := 13) hx hb hts hown hK hW0 flX4_9 0 (by decide) rfl rfl (x := .ref (b0 + 1)) (by first | rfl | exact congrArg (fun z => some (Value.ref z)) (by omega)) dX4_begins_13 ?_
    refine lv_iload_n (pc := 16) hx hb dX4_begins_16 rfl (lv_at hl 1 rfl) ?_
    refine lv_lconst (pc := 17) (v := (0 : Int64)) hx hb dX4_begins_17 (by decide) ?_
    obtain ⟨hg10, hm⟩ := gb_some hm
    refine rk_last (pc := 18) hx hb hK hW0 hS 1 (by decide) rfl (Or.inl (show iv _ _ _ from ⟨by omega, by omega⟩)) (fun _ _ _ => rfl) hg10 dX4_begins_18 (fun H12 locs13 hW14 hS15 hz16 hkp17 => ?_)
    obtain ⟨v0_11, he9, hm⟩ := lm_some hm
    rw [he9] at hW14
    have hz18 := hz16.trans hz
    refine lv_iinc (pc := 19) (v := (i1 + (1 : Int32))) (lv' := [(1, .int (i1 + (1 : Int32))), (0, .ref b0)]) hx hb dX4_begins_19 hl (k := 1) rfl rfl (by decide) rfl (fun ls hl => ?_)
    refine lv_goto (pc := 22) (tgt := 7) hx hb dX4_begins_22 (by decide) ?_
    exact hk7 v0_11 (i1 + (1 : Int32)) hm H12 locs13 ls hW14 hS15 hz18 (lv_sub hl [1, 0] rfl)
theorem w_fX4_begins_7_l (C : Cx G p s m args meth c RX4 cX4_begins 2 none) {b0 : Nat} {rw0 : Mem} : ∀ (n : Nat) (v0 : Mem) (i1 : Int32), lq2 (fX4_begins_7) n v0 i1 = some rw0 → ∀ (H : Heap) (locs : List Loc) (ls : Array Slot), rg G b0 3 (shX4 G.2.1) v0 H → va_S (FA (iv b0 3) s.heap.size) s.heap H locs → H.size = s.heap.size → lv_has ls 2 [(0, .ref b0), (1, .int i1)] → W p l e (rmT 0 0 0 0) s m args below meth c H locs 0 0 (MQ below (QcT (FA (iv b0 3) s.heap.size) (fun ov H => ov = none ∧ rg G b0 3 (shX4 G.2.1) rw0 H ∧ H.size = s.heap.size)) args s 0 0 (FA (iv b0 3) s.heap.size)) (F0 m 7 ls []) := by
  intro n
  induction n with
  | zero => intro v0 i1 hm; exact (lq2_0 hm).elim
  | succ n ih => intro v0 i1 hm; exact w_fX4_begins_7 C ih v0 i1 (lq2_s hm)
set_option maxHeartbeats 4000000 in
theorem w_fX4_begins (C : Cx G p s m args meth c RX4 cX4_begins 2 none) {b0 : Nat} {rw0 : Mem} : ∀ (v0 : Mem), fX4_begins v0 = some rw0 → ∀ (H : Heap) (locs : List Loc) (ls : Array Slot), rg G b0 3 (shX4 G.2.1) v0 H → va_S (FA (iv b0 3) s.heap.size) s.heap H locs → H.size = s.heap.size → lv_has ls 2 [(0, .ref b0)] → W p l e (rmT 0 0 0 0) s m args below meth c H locs 0 0 (MQ below (QcT (FA (iv b0 3) s.heap.size) (fun ov H => ov = none ∧ rg G b0 3 (shX4 G.2.1) rw0 H ∧ H.size = s.heap.size)) args s 0 0 (FA (iv b0 3) s.heap.size)) (F0 m 0 ls []) := by
  intro v0 hm H locs ls hW0 hS hz hl
  obtain ⟨hx, hb, hr, hlk, hml, hown, hts, hK⟩ := id C
  unfold fX4_begins at hm
  refine lv_aload_n (pc := 0) hx hb dX4_begins_0 rfl (lv_at hl 0 rfl) ?_
  refine lv_lconst (pc := 1) (v := (0 : Int64)) hx hb dX4_begins_1 (by decide) ?_
  refine rk_put (pc := 2) hx hb hts hown hK hW0 hS flX4_18 ft_X4 0 (by decide) rfl (Or.inl (show iv _ _ _ from ⟨by omega, by omega⟩)) rfl rfl (x := .long (0 : Int64)) rfl rfl (Nat.le_of_ble_eq_true rfl) (sL v0 0 1 (0 : Int64)) sL_ne (by rw [sL_eq]; exact rfl) dX4_begins_2 (fun H2 locs3 hW4 hS5 hz6 hkp7 => ?_)
  obtain ⟨v0_1, he9, hm⟩ := lm_some hm
  rw [he9] at hW4
  have hz8 := hz6.trans hz
  refine lv_iconst (pc := 5) (v := (0 : Int32)) hx hb dX4_begins_5 (by decide) ?_
  refine lv_istore_n (pc := 6) (lv' := [(1, .int (0 : Int32)), (0, .ref b0)]) hx hb dX4_begins_6 rfl hl (by decide) rfl (fun ls hl => ?_)
  exact (w_fX4_begins_7_l C FU) v0_1 (0 : Int32) hm H2 locs3 ls hW4 hS5 hz8 (lv_sub hl [1, 0] rfl)
set_option maxHeartbeats 4000000 in
theorem ct_X4_begins {G : Gv} {l : Launch} {b0 : Nat} {v0 : Mem} {rw0 : Mem} {sz : Nat} (hm : fX4_begins v0 = some rw0) : CT G l yX4_begins (ws_ yX4_begins cX4_begins 2 none) 0 0 0 0 [.ref b0] (iv b0 3) sz (fun H => rg G b0 3 (shX4 G.2.1) v0 H) (fun ov H => ov = none ∧ rg G b0 3 (shX4 G.2.1) rw0 H ∧ H.size = sz) := by
  refine Met.ofW (cc := cX4_begins) (maxL := 2) (ret := none) (by decide +kernel) rfl ?_
  intro p e s m args below meth c s₁ B hml hv
  obtain ⟨rfl, ⟨hz, hW0⟩, hK⟩ := hv
  subst hz
  have hts := atoms_spec (ws := ws_ yX4_begins cX4_begins 2 none) B.pre
  have hts : ∀ w ∈ lw_all, w.before _ s = true := fun w h => hts w (List.mem_cons_of_mem _ h)
  have C : Cx G p s m _ meth c RX4 cX4_begins 2 none := ⟨B.exec, B.bytes, B.returns, B.notSynchronized, hml, findClass_of_methodNamed B.named, hts, hK⟩
  have hl := lv_entry ([.ref b0]) (n := 2) (Nat.le_of_ble_eq_true rfl)
  rw [lg_entry_eq]
  generalize (lg_sl ([.ref b0]) ++ List.replicate (2 - (lg_sl ([.ref b0])).length) Slot.unset).toArray = ls at hl ⊢
  have hl : lv_has ls 2 [(0, .ref b0)] := hl
  exact w_fX4_begins C _ hm s.heap [] ls hW0 va_S.rf rfl hl
noncomputable def fX4_gets (v0 : Mem) (j1 : Int64) (i3 : Int32) (j4 : Int64) : Option (Mem) :=
  gb (inR i3 5) (
  gb (inR i3 5) (
  lm (sL v0 1 i3.toNatClampNeg ((gL v0 1 i3.toNatClampNeg) + (j1 * j4))) fun v0_3 =>
  some v0_3))
set_option maxHeartbeats 4000000 in
theorem w_fX4_gets (C : Cx G p s m args meth c RX4 cX4_gets 6 none) {b0 : Nat} {rw0 : Mem} : ∀ (v0 : Mem) (j1 : Int64) (i3 : Int32) (j4 : Int64), fX4_gets v0 j1 i3 j4 = some rw0 → ∀ (H : Heap) (locs : List Loc) (ls : Array Slot), rg G b0 3 (shX4 G.2.1) v0 H → va_S (FA (iv b0 3) s.heap.size) s.heap H locs → H.size = s.heap.size → lv_has ls 6 [(0, .ref b0), (1, .long j1), (3, .int i3), (4, .long j4)] → W p l e (rmT 0 0 0 0) s m args below meth c H locs 0 0 (MQ below (QcT (FA (iv b0 3) s.heap.size) (fun ov H => ov = none ∧ rg G b0 3 (shX4 G.2.1) rw0 H ∧ H.size = s.heap.size)) args s 0 0 (FA (iv b0 3) s.heap.size)) (F0 m 0 ls []) := by
  intro v0 j1 i3 j4 hm H locs ls hW0 hS hz hl
  obtain ⟨hx, hb, hr, hlk, hml, hown, hts, hK⟩ := id C
  unfold fX4_gets at hm
  refine lv_aload_n (pc := 0) hx hb dX4_gets_0 rfl (lv_at hl 0 rfl) ?_
  refine rk_get (pc := 1) hx hb hts hown hK hW0 flX4_9 0 (by decide) rfl rfl (x := .ref (b0 + 1)) (by first | rfl | exact congrArg (fun z => some (Value.ref z)) (by omega)) dX4_gets_1 ?_
  refine lv_iload_n (pc := 4) hx hb dX4_gets_4 rfl (lv_at hl 2 rfl) ?_
  refine lv_dup2_11 (pc := 5) hx hb dX4_gets_5 rfl rfl ?_
  obtain ⟨hg1, hm⟩ := gb_some hm
  refine rk_lald (pc := 6) hx hb hK hW0 1 (by decide) rfl rfl hg1 (x := (gL v0 1 i3.toNatClampNeg)) rfl dX4_gets_6 ?_
  refine lv_lload_n (pc := 7) hx hb dX4_gets_7 rfl (lv_at hl 1 rfl) ?_
  refine lv_lload (pc := 8) hx hb dX4_gets_8 (lv_at hl 3 rfl) ?_
  refine lv_lmul (pc := 10) hx hb dX4_gets_10 ?_
  refine lv_ladd (pc := 11) hx hb dX4_gets_11 ?_
  obtain ⟨hg2, hm⟩ := gb_some hm
  refine rk_last (pc := 12) hx hb hK hW0 hS 1 (by decide) rfl (Or.inl (show iv _ _ _ from ⟨by omega, by omega⟩)) (fun _ _ _ => rfl) hg2 dX4_gets_12 (fun H4 locs5 hW6 hS7 hz8 hkp9 => ?_)
  obtain ⟨v0_3, he9, hm⟩ := lm_some hm
  rw [he9] at hW6
  have hz10 := hz8.trans hz
  have e9 := rs1 hm
  subst e9
  exact rk_vret (pc := 13) hx hb hr hlk hS7 ⟨rfl, hW6, hz10⟩ dX4_gets_13
set_option maxHeartbeats 4000000 in
theorem ct_X4_gets {G : Gv} {l : Launch} {b0 : Nat} {v0 : Mem} {j1 : Int64} {i3 : Int32} {j4 : Int64} {rw0 : Mem} {sz : Nat} (hm : fX4_gets v0 j1 i3 j4 = some rw0) : CT G l yX4_gets (ws_ yX4_gets cX4_gets 6 none) 0 0 0 0 [.ref b0, .long j1, .int i3, .long j4] (iv b0 3) sz (fun H => rg G b0 3 (shX4 G.2.1) v0 H) (fun ov H => ov = none ∧ rg G b0 3 (shX4 G.2.1) rw0 H ∧ H.size = sz) := by
  refine Met.ofW (cc := cX4_gets) (maxL := 6) (ret := none) (by decide +kernel) rfl ?_
  intro p e s m args below meth c s₁ B hml hv
  obtain ⟨rfl, ⟨hz, hW0⟩, hK⟩ := hv
  subst hz
  have hts := atoms_spec (ws := ws_ yX4_gets cX4_gets 6 none) B.pre
  have hts : ∀ w ∈ lw_all, w.before _ s = true := fun w h => hts w (List.mem_cons_of_mem _ h)
  have C : Cx G p s m _ meth c RX4 cX4_gets 6 none := ⟨B.exec, B.bytes, B.returns, B.notSynchronized, hml, findClass_of_methodNamed B.named, hts, hK⟩
  have hl := lv_entry ([.ref b0, .long j1, .int i3, .long j4]) (n := 6) (Nat.le_of_ble_eq_true rfl)
  rw [lg_entry_eq]
  generalize (lg_sl ([.ref b0, .long j1, .int i3, .long j4]) ++ List.replicate (6 - (lg_sl ([.ref b0, .long j1, .int i3, .long j4])).length) Slot.unset).toArray = ls at hl ⊢
  have hl : lv_has ls 6 [(0, .ref b0), (1, .long j1), (3, .int i3), (4, .long j4)] := hl
  exact w_fX4_gets C _ _ _ _ hm s.heap [] ls hW0 va_S.rf rfl hl
noncomputable def fX0_in (j0 : Int64) (j2 : Int64) (j4 : Int64) : Option (Int32) :=
  if j0 < j2 then (
  some (0 : Int32))
  else (
  if j4 < j0 then (
  some (0 : Int32))
  else (
  some (1 : Int32)))
set_option maxHeartbeats 4000000 in
theorem w_fX0_in (C : Cx G p s m args meth c RX0 cX0_in 6 (some .boolean)) {rx : Int32} : ∀ (j0 : Int64) (j2 : Int64) (j4 : Int64), fX0_in j0 j2 j4 = some rx → ∀ (ls : Array Slot), lv_has ls 6 [(0, .long j0), (2, .long j2), (4, .long j4)] → W p l e (rmP 0 0) s m args below meth c s.heap [] 0 0 (MQ below (QcP (some (.int rx))) args s 0 0 (fun _ => False)) (F0 m 0 ls []) := by
  intro j0 j2 j4 hm ls hl
  obtain ⟨hx, hb, hr, hlk, hml, hown, hts, hK⟩ := id C
  unfold fX0_in at hm
  refine lv_lload_n (pc := 0) hx hb dX0_in_0 rfl (lv_at hl 0 rfl) ?_
  refine lv_lload_n (pc := 1) hx hb dX0_in_1 rfl (lv_at hl 1 rfl) ?_
  refine rk_lcmp_lt (pc := 2) (tgt := 17) hx hb dX0_in_2 rfl dX0_in_3 (by decide) (fun c1 => ?_) (fun c1 => ?_)
  · have hm := ite_t c1 hm
    refine lv_iconst (pc := 17) (v := (0 : Int32)) hx hb dX0_in_17 (by decide) ?_
    have e9 := rs1 hm
    subst e9
    exact rk_zretP (pc := 18) hx hb hr hlk rfl rfl dX0_in_18
  · have hm := ite_f c1 hm
    refine lv_lload_n (pc := 6) hx hb dX0_in_6 rfl (lv_at hl 0 rfl) ?_
    refine lv_lload (pc := 7) hx hb dX0_in_7 (lv_at hl 2 rfl) ?_
    refine rk_lcmp_gt (pc := 9) (tgt := 17) hx hb dX0_in_9 rfl dX0_in_10 (by decide) (fun c2 => ?_) (fun c2 => ?_)
    · have hm := ite_t c2 hm
      refine lv_iconst (pc := 17) (v := (0 : Int32)) hx hb dX0_in_17 (by decide) ?_
      have e9 := rs1 hm
      subst e9
      exact rk_zretP (pc := 18) hx hb hr hlk rfl rfl dX0_in_18
    · have hm := ite_f c2 hm
      refine lv_iconst (pc := 13) (v := (1 : Int32)) hx hb dX0_in_13 (by decide) ?_
      refine lv_goto (pc := 14) (tgt := 18) hx hb dX0_in_14 (by decide) ?_
      have e9 := rs1 hm
      subst e9
      exact rk_zretP (pc := 18) hx hb hr hlk rfl rfl dX0_in_18
set_option maxHeartbeats 4000000 in
theorem ct_X0_in {G : Gv} {l : Launch} {j0 : Int64} {j2 : Int64} {j4 : Int64} {rx : Int32} (hm : fX0_in j0 j2 j4 = some rx) : CP G l yX0_in (ws_ yX0_in cX0_in 6 (some .boolean)) 0 0 [.long j0, .long j2, .long j4] (fun H => True) (some (.int rx)) := by
  refine Met.ofW (cc := cX0_in) (maxL := 6) (ret := (some .boolean)) (by decide +kernel) rfl ?_
  intro p e s m args below meth c s₁ B hml hv
  obtain ⟨rfl, -, hK⟩ := hv
  have hts := atoms_spec (ws := ws_ yX0_in cX0_in 6 (some .boolean)) B.pre
  have hts : ∀ w ∈ lw_all, w.before _ s = true := fun w h => hts w (List.mem_cons_of_mem _ h)
  have C : Cx G p s m _ meth c RX0 cX0_in 6 (some .boolean) := ⟨B.exec, B.bytes, B.returns, B.notSynchronized, hml, findClass_of_methodNamed B.named, hts, hK⟩
  have hl := lv_entry ([.long j0, .long j2, .long j4]) (n := 6) (Nat.le_of_ble_eq_true rfl)
  rw [lg_entry_eq]
  generalize (lg_sl ([.long j0, .long j2, .long j4]) ++ List.replicate (6 - (lg_sl ([.long j0, .long j2, .long j4])).length) Slot.unset).toArray = ls at hl ⊢
  have hl : lv_has ls 6 [(0, .long j0), (2, .long j2), (4, .long j4)] := hl
  exact w_fX0_in C _ _ _ hm ls hl
theorem yn_X0_in : YN yX0_in 3 := by
  unfold YN
  decide +kernel
theorem lkX4_26 : LSN RX4 26 yX0_in "WholePacks" cX0_in 6 (some .boolean) := ⟨q887, q431, q114, q432⟩
noncomputable def fX4_isSmall_16 (V0 : Mem) (k16 : Int32 → Int32 → Option (Int32)) (i1 : Int32) (i2 : Int32) : Option (Int32) :=
  if (5 : Int32) ≤ i2 then (
  gb (z01 i1) (some i1))
  else (
  if i1 = 0 then (
  k16 (0 : Int32) (i2 + (1 : Int32)))
  else (
  gb (inR i2 5) (
  ob (fX0_in (gL V0 1 i2.toNatClampNeg) (-1000000000 : Int64) (1000000000 : Int64)) fun r7 =>
  if r7 = 0 then (
  k16 (0 : Int32) (i2 + (1 : Int32)))
  else (
  k16 (1 : Int32) (i2 + (1 : Int32))))))
noncomputable def fX4_isSmall (V0 : Mem) : Option (Int32) :=
  ob (fX0_in (gL V0 0 1) (-1000000000 : Int64) (1000000000 : Int64)) fun r1 =>
  lq2 (fX4_isSmall_16 V0) FU r1 (0 : Int32)
set_option maxHeartbeats 4000000 in
theorem w_fX4_isSmall_16 (C : Cx G p s m args meth c RX4 cX4_isSmall 3 (some .boolean)) {b0 : Nat} {V0 : Mem} {rx : Int32} (hW0 : rg G b0 3 (shX4 G.2.1) V0 s.heap) {k16 : Int32 → Int32 → Option (Int32)} (hk16 : ∀ (i1 : Int32) (i2 : Int32), k16 i1 i2 = some rx → ∀ (ls : Array Slot), lv_has ls 3 [(0, .ref b0), (1, .int i1), (2, .int i2)] → W p l e (rmP 1 25) s m args below meth c s.heap [] 0 0 (MQ below (QcP (some (.int rx))) args s 0 0 (fun _ => False)) (F0 m 16 ls [])) : ∀ (i1 : Int32) (i2 : Int32), fX4_isSmall_16 V0 k16 i1 i2 = some rx → ∀ (ls : Array Slot), lv_has ls 3 [(0, .ref b0), (1, .int i1), (2, .int i2)] → W p l e (rmP 1 25) s m args below meth c s.heap [] 0 0 (MQ below (QcP (some (.int rx))) args s 0 0 (fun _ => False)) (F0 m 16 ls []) := by
  intro i1 i2 hm ls hl
  obtain ⟨hx, hb, hr, hlk, hml, hown, hts, hK⟩ := id C
  unfold fX4_isSmall_16 at hm
  refine lv_iload_n (pc := 16) hx hb dX4_isSmall_16 rfl (lv_at hl 2 rfl) ?_
  refine lv_iconst (pc := 17) (v := (5 : Int32)) hx hb dX4_isSmall_17 (by decide) ?_
  refine lv_icmp_ge (pc := 18) (tgt := 55) hx hb dX4_isSmall_18 (by decide) (fun c3 => ?_) (fun c3 => ?_)
  · have hm := ite_t c3 hm
    refine lv_iload_n (pc := 55) hx hb dX4_isSmall_55 rfl (lv_at hl 1 rfl) ?_
    obtain ⟨hg4, hm⟩ := gb_some hm
    have e9 := rs1 hm
    subst e9
    exact rk_zretP (pc := 56) hx hb hr hlk hg4 rfl dX4_isSmall_56
  · have hm := ite_f c3 hm
    refine lv_iload_n (pc := 21) hx hb dX4_isSmall_21 rfl (lv_at hl 1 rfl) ?_
    refine lv_if_eq (pc := 22) (tgt := 47) hx hb dX4_isSmall_22 (by decide) (fun c5 => ?_) (fun c5 => ?_)
    · have hm := ite_t c5 hm
      refine lv_iconst (pc := 47) (v := (0 : Int32)) hx hb dX4_isSmall_47 (by decide) ?_
      refine lv_istore_n (pc := 48) (lv' := [(1, .int (0 : Int32)), (0, .ref b0), (2, .int i2)]) hx hb dX4_isSmall_48 rfl hl (by decide) rfl (fun ls hl => ?_)
      refine lv_iinc (pc := 49) (v := (i2 + (1 : Int32))) (lv' := [(2, .int (i2 + (1 : Int32))), (1, .int (0 : Int32)), (0, .ref b0)]) hx hb dX4_isSmall_49 hl (k := 2) rfl rfl (by decide) rfl (fun ls hl => ?_)
      refine lv_goto (pc := 52) (tgt := 16) hx hb dX4_isSmall_52 (by decide) ?_
      exact hk16 (0 : Int32) (i2 + (1 : Int32)) hm ls (lv_sub hl [2, 1, 0] rfl)
    · have hm := ite_f c5 hm
      refine lv_aload_n (pc := 25) hx hb dX4_isSmall_25 rfl (lv_at hl 0 rfl) ?_
      refine rk_get (pc := 26) hx hb hts hown hK hW0 flX4_9 0 (by decide) rfl rfl (x := .ref (b0 + 1)) (by first | rfl | exact congrArg (fun z => some (Value.ref z)) (by omega)) dX4_isSmall_26 ?_
      refine lv_iload_n (pc := 29) hx hb dX4_isSmall_29 rfl (lv_at hl 2 rfl) ?_
      obtain ⟨hg6, hm⟩ := gb_some hm
      refine rk_lald (pc := 30) hx hb hK hW0 1 (by decide) rfl rfl hg6 (x := (gL V0 1 i2.toNatClampNeg)) rfl dX4_isSmall_30 ?_
      refine lv_ldc2 (pc := 31) (v := (-1000000000 : Int64)) hx hb hown (hts _ q885) dX4_isSmall_31 ?_
      refine lv_ldc2 (pc := 34) (v := (1000000000 : Int64)) hx hb hown (hts _ q886) dX4_isSmall_34 ?_
      obtain ⟨r7, hq8, hm⟩ := ob_some hm
      refine rk_PSN (pc := 37) (As := [.long (gL V0 1 i2.toNatClampNeg), .long (-1000000000 : Int64), .long (1000000000 : Int64)]) (rest := []) hx hb hml hown hts hK lkX4_26 yn_X0_in (ct_X0_in (G := G) (l := l) hq8) ⟨Nat.le_of_ble_eq_true rfl, Nat.le_of_ble_eq_true rfl⟩ trivial rfl rfl hl.1 (Nat.le_of_ble_eq_true rfl) dX4_isSmall_37 ⟨Nat.zero_le _, Nat.zero_le _⟩ ?_
      refine W.eq (g2 := F0 m 40 ls [.int r7]) rfl ?_
      refine lv_if_eq (pc := 40) (tgt := 47) hx hb dX4_isSmall_40 (by decide) (fun c9 => ?_) (fun c9 => ?_)
      · have hm := ite_t c9 hm
        refine lv_iconst (pc := 47) (v := (0 : Int32)) hx hb dX4_isSmall_47 (by decide) ?_
        refine lv_istore_n (pc := 48) (lv' := [(1, .int (0 : Int32)), (0, .ref b0), (2, .int i2)]) hx hb dX4_isSmall_48 rfl hl (by decide) rfl (fun ls hl => ?_)
        refine lv_iinc (pc := 49) (v := (i2 + (1 : Int32))) (lv' := [(2, .int (i2 + (1 : Int32))), (1, .int (0 : Int32)), (0, .ref b0)]) hx hb dX4_isSmall_49 hl (k := 2) rfl rfl (by decide) rfl (fun ls hl => ?_)
        refine lv_goto (pc := 52) (tgt := 16) hx hb dX4_isSmall_52 (by decide) ?_
        exact hk16 (0 : Int32) (i2 + (1 : Int32)) hm ls (lv_sub hl [2, 1, 0] rfl)
      · have hm := ite_f c9 hm
        refine lv_iconst (pc := 43) (v := (1 : Int32)) hx hb dX4_isSmall_43 (by decide) ?_
        refine lv_goto (pc := 44) (tgt := 48) hx hb dX4_isSmall_44 (by decide) ?_
        refine lv_istore_n (pc := 48) (lv' := [(1, .int (1 : Int32)), (0, .ref b0), (2, .int i2)]) hx hb dX4_isSmall_48 rfl hl (by decide) rfl (fun ls hl => ?_)
        refine lv_iinc (pc := 49) (v := (i2 + (1 : Int32))) (lv' := [(2, .int (i2 + (1 : Int32))), (1, .int (1 : Int32)), (0, .ref b0)]) hx hb dX4_isSmall_49 hl (k := 2) rfl rfl (by decide) rfl (fun ls hl => ?_)
        refine lv_goto (pc := 52) (tgt := 16) hx hb dX4_isSmall_52 (by decide) ?_
        exact hk16 (1 : Int32) (i2 + (1 : Int32)) hm ls (lv_sub hl [2, 1, 0] rfl)
theorem w_fX4_isSmall_16_l (C : Cx G p s m args meth c RX4 cX4_isSmall 3 (some .boolean)) {b0 : Nat} {V0 : Mem} {rx : Int32} (hW0 : rg G b0 3 (shX4 G.2.1) V0 s.heap) : ∀ (n : Nat) (i1 : Int32) (i2 : Int32), lq2 (fX4_isSmall_16 V0) n i1 i2 = some rx → ∀ (ls : Array Slot), lv_has ls 3 [(0, .ref b0), (1, .int i1), (2, .int i2)] → W p l e (rmP 1 25) s m args below meth c s.heap [] 0 0 (MQ below (QcP (some (.int rx))) args s 0 0 (fun _ => False)) (F0 m 16 ls []) := by
  intro n
  induction n with
  | zero => intro i1 i2 hm; exact (lq2_0 hm).elim
  | succ n ih => intro i1 i2 hm; exact w_fX4_isSmall_16 C hW0 ih i1 i2 (lq2_s hm)
set_option maxHeartbeats 4000000 in
theorem w_fX4_isSmall (C : Cx G p s m args meth c RX4 cX4_isSmall 3 (some .boolean)) {b0 : Nat} {V0 : Mem} {rx : Int32} (hW0 : rg G b0 3 (shX4 G.2.1) V0 s.heap) : fX4_isSmall V0 = some rx → ∀ (ls : Array Slot), lv_has ls 3 [(0, .ref b0)] → W p l e (rmP 1 25) s m args below meth c s.heap [] 0 0 (MQ below (QcP (some (.int rx))) args s 0 0 (fun _ => False)) (F0 m 0 ls []) := by
  intro hm ls hl
  obtain ⟨hx, hb, hr, hlk, hml, hown, hts, hK⟩ := id C
  unfold fX4_isSmall at hm
  refine lv_aload_n (pc := 0) hx hb dX4_isSmall_0 rfl (lv_at hl 0 rfl) ?_
  refine rk_get (pc := 1) hx hb hts hown hK hW0 flX4_18 0 (by decide) rfl rfl (x := .long (gL V0 0 1)) rfl dX4_isSmall_1 ?_
  refine lv_ldc2 (pc := 4) (v := (-1000000000 : Int64)) hx hb hown (hts _ q885) dX4_isSmall_4 ?_
  refine lv_ldc2 (pc := 7) (v := (1000000000 : Int64)) hx hb hown (hts _ q886) dX4_isSmall_7 ?_
  obtain ⟨r1, hq2, hm⟩ := ob_some hm
  refine rk_PSN (pc := 10) (As := [.long (gL V0 0 1), .long (-1000000000 : Int64), .long (1000000000 : Int64)]) (rest := []) hx hb hml hown hts hK lkX4_26 yn_X0_in (ct_X0_in (G := G) (l := l) hq2) ⟨Nat.le_of_ble_eq_true rfl, Nat.le_of_ble_eq_true rfl⟩ trivial rfl rfl hl.1 (Nat.le_of_ble_eq_true rfl) dX4_isSmall_10 ⟨Nat.zero_le _, Nat.zero_le _⟩ ?_
  refine W.eq (g2 := F0 m 13 ls [.int r1]) rfl ?_
  refine lv_istore_n (pc := 13) (lv' := [(1, .int r1), (0, .ref b0)]) hx hb dX4_isSmall_13 rfl hl (by decide) rfl (fun ls hl => ?_)
  refine lv_iconst (pc := 14) (v := (0 : Int32)) hx hb dX4_isSmall_14 (by decide) ?_
  refine lv_istore_n (pc := 15) (lv' := [(2, .int (0 : Int32)), (1, .int r1), (0, .ref b0)]) hx hb dX4_isSmall_15 rfl hl (by decide) rfl (fun ls hl => ?_)
  exact (w_fX4_isSmall_16_l C hW0 FU) r1 (0 : Int32) hm ls (lv_sub hl [2, 1, 0] rfl)
set_option maxHeartbeats 4000000 in
theorem ct_X4_isSmall {G : Gv} {l : Launch} {b0 : Nat} {V0 : Mem} {rx : Int32} (hm : fX4_isSmall V0  = some rx) : CP G l yX4_isSmall (ws_ yX4_isSmall cX4_isSmall 3 (some .boolean)) 1 25 [.ref b0] (fun H => rg G b0 3 (shX4 G.2.1) V0 H) (some (.int rx)) := by
  refine Met.ofW (cc := cX4_isSmall) (maxL := 3) (ret := (some .boolean)) (by decide +kernel) rfl ?_
  intro p e s m args below meth c s₁ B hml hv
  obtain ⟨rfl, hW0, hK⟩ := hv
  have hts := atoms_spec (ws := ws_ yX4_isSmall cX4_isSmall 3 (some .boolean)) B.pre
  have hts : ∀ w ∈ lw_all, w.before _ s = true := fun w h => hts w (List.mem_cons_of_mem _ h)
  have C : Cx G p s m _ meth c RX4 cX4_isSmall 3 (some .boolean) := ⟨B.exec, B.bytes, B.returns, B.notSynchronized, hml, findClass_of_methodNamed B.named, hts, hK⟩
  have hl := lv_entry ([.ref b0]) (n := 3) (Nat.le_of_ble_eq_true rfl)
  rw [lg_entry_eq]
  generalize (lg_sl ([.ref b0]) ++ List.replicate (3 - (lg_sl ([.ref b0])).length) Slot.unset).toArray = ls at hl ⊢
  have hl : lv_has ls 3 [(0, .ref b0)] := hl
  exact w_fX4_isSmall C hW0  hm ls hl
theorem ft_X1 : FT TX1 11 tyX1 := ⟨tyX1_ok, nmX1⟩
theorem flX1_9 : FL RX1 9 1 0 RX1 TX1 11 := ⟨in_X1, rfl, by decide, q191⟩
theorem flX1_41 : FL RX1 41 1 1 RX1 TX1 11 := ⟨in_X1, rfl, by decide, q194⟩
theorem flX1_15 : FL RX1 15 1 2 RX1 TX1 11 := ⟨in_X1, rfl, by decide, q197⟩
theorem flX1_44 : FL RX1 44 1 4 RX1 TX1 11 := ⟨in_X1, rfl, by decide, q201⟩
theorem flX1_47 : FL RX1 47 1 5 RX1 TX1 11 := ⟨in_X1, rfl, by decide, q203⟩
theorem flX1_21 : FL RX1 21 1 6 RX1 TX1 11 := ⟨in_X1, rfl, by decide, q205⟩
theorem flX1_31 : FL RX1 31 1 8 RX1 TX1 11 := ⟨in_X1, rfl, by decide, q211⟩
noncomputable def fX1_begins_47 (k47 : Mem → Int32 → Option (Mem)) (v0 : Mem) (i2 : Int32) : Option (Mem) :=
  if (8 : Int32) ≤ i2 then (
  some v0)
  else (
  gb (inR i2 8) (
  lm (sI v0 3 i2.toNatClampNeg (0 : Int32)) fun v0_53 =>
  k47 v0_53 (i2 + (1 : Int32))))
noncomputable def fX1_begins_27 (k27 : Mem → Int32 → Option (Mem)) (v0 : Mem) (i2 : Int32) : Option (Mem) :=
  if (5 : Int32) ≤ i2 then (
  lq2 (fX1_begins_47) FU v0 (0 : Int32))
  else (
  gb (inR i2 5) (
  lm (sI v0 1 i2.toNatClampNeg (1 : Int32)) fun v0_43 =>
  k27 v0_43 (i2 + (1 : Int32))))
noncomputable def fX1_begins (v0 : Mem) (i1 : Int32) : Option (Mem) :=
  lm (sI v0 0 0 i1) fun v0_1 =>
  lm (sI v0_1 0 1 (0 : Int32)) fun v0_9 =>
  lm (sI v0_9 0 2 (1 : Int32)) fun v0_17 =>
  lm (sI v0_17 0 4 (0 : Int32)) fun v0_25 =>
  lm (sI v0_25 0 5 (0 : Int32)) fun v0_33 =>
  lq2 (fX1_begins_27) FU v0_33 (0 : Int32)
set_option maxHeartbeats 4000000 in
theorem w_fX1_begins_47 (C : Cx G p s m args meth c RX1 cX1_begins 3 none) {b0 : Nat} {rw0 : Mem} {k47 : Mem → Int32 → Option (Mem)} (hk47 : ∀ (v0 : Mem) (i2 : Int32), k47 v0 i2 = some rw0 → ∀ (H : Heap) (locs : List Loc) (ls : Array Slot), rg G b0 22 (shX1 G.2.1) v0 H → va_S (FA (iv b0 22) s.heap.size) s.heap H locs → H.size = s.heap.size → lv_has ls 3 [(0, .ref b0), (2, .int i2)] → W p l e (rmT 0 0 0 0) s m args below meth c H locs 0 0 (MQ below (QcT (FA (iv b0 22) s.heap.size) (fun ov H => ov = none ∧ rg G b0 22 (shX1 G.2.1) rw0 H ∧ H.size = s.heap.size)) args s 0 0 (FA (iv b0 22) s.heap.size)) (F0 m 47 ls [])) : ∀ (v0 : Mem) (i2 : Int32), fX1_begins_47 k47 v0 i2 = some rw0 → ∀ (H : Heap) (locs : List Loc) (ls : Array Slot), rg G b0 22 (shX1 G.2.1) v0 H → va_S (FA (iv b0 22) s.heap.size) s.heap H locs → H.size = s.heap.size → lv_has ls 3 [(0, .ref b0), (2, .int i2)] → W p l e (rmT 0 0 0 0) s m args below meth c H locs 0 0 (MQ below (QcT (FA (iv b0 22) s.heap.size) (fun ov H => ov = none ∧ rg G b0 22 (shX1 G.2.1) rw0 H ∧ H.size = s.heap.size)) args s 0 0 (FA (iv b0 22) s.heap.size)) (F0 m 47 ls []) := by
  intro v0 i2 hm H locs ls hW0 hS hz hl
  obtain ⟨hx, hb, hr, hlk, hml, hown, hts, hK⟩ := id C
  unfold fX1_begins_47 at hm
  refine lv_iload_n (pc := 47) hx hb dX1_begins_47 rfl (lv_at hl 1 rfl) ?_
  refine lv_bipush (pc := 48) (v := (8 : Int32)) hx hb dX1_begins_48 (by decide) ?_
  refine lv_icmp_ge (pc := 50) (tgt := 66) hx hb dX1_begins_50 (by decide) (fun c51 => ?_) (fun c51 => ?_)
  · have hm := ite_t c51 hm
    have e9 := rs1 hm
    subst e9
    exact rk_vret (pc := 66) hx hb hr hlk hS ⟨rfl, hW0, hz⟩ dX1_begins_66
  · have hm := ite_f c51 hm
    refine lv_aload_n (pc := 53) hx hb dX1_begins_53 rfl (lv_at hl 0 rfl) ?_
    refine rk_get (pc := 54) hx hb hts hown hK hW0 flX1_31 0 (by decide) rfl rfl (x := .ref (b0 + 3)) (by first | rfl | exact congrArg (fun z => some (Value.ref z)) (by omega)) dX1_begins_54 ?_
    refine lv_iload_n (pc := 57) hx hb dX1_begins_57 rfl (lv_at hl 1 rfl) ?_
    refine lv_iconst (pc := 58) (v := (0 : Int32)) hx hb dX1_begins_58 (by decide) ?_
    obtain ⟨hg52, hm⟩ := gb_some hm
    refine rk_iast (pc := 59) hx hb hK hW0 hS 3 (by decide) rfl (Or.inl (show iv _ _ _ from ⟨by omega, by omega⟩)) (fun _ _ _ => rfl) hg52 dX1_begins_59 (fun H54 locs55 hW56 hS57 hz58 hkp59 => ?_)
    obtain ⟨v0_53, he9, hm⟩ := lm_some hm
    rw [he9] at hW56
    have hz60 := hz58.trans hz
    refine lv_iinc (pc := 60) (v := (i2 + (1 : Int32))) (lv' := [(2, .int (i2 + (1 : Int32))), (0, .ref b0)]) hx hb dX1_begins_60 hl (k := 1) rfl rfl (by decide) rfl (fun ls hl => ?_)
    refine lv_goto (pc := 63) (tgt := 47) hx hb dX1_begins_63 (by decide) ?_
    exact hk47 v0_53 (i2 + (1 : Int32)) hm H54 locs55 ls hW56 hS57 hz60 (lv_sub hl [1, 0] rfl)
theorem w_fX1_begins_47_l (C : Cx G p s m args meth c RX1 cX1_begins 3 none) {b0 : Nat} {rw0 : Mem} : ∀ (n : Nat) (v0 : Mem) (i2 : Int32), lq2 (fX1_begins_47) n v0 i2 = some rw0 → ∀ (H : Heap) (locs : List Loc) (ls : Array Slot), rg G b0 22 (shX1 G.2.1) v0 H → va_S (FA (iv b0 22) s.heap.size) s.heap H locs → H.size = s.heap.size → lv_has ls 3 [(0, .ref b0), (2, .int i2)] → W p l e (rmT 0 0 0 0) s m args below meth c H locs 0 0 (MQ below (QcT (FA (iv b0 22) s.heap.size) (fun ov H => ov = none ∧ rg G b0 22 (shX1 G.2.1) rw0 H ∧ H.size = s.heap.size)) args s 0 0 (FA (iv b0 22) s.heap.size)) (F0 m 47 ls []) := by
  intro n
  induction n with
  | zero => intro v0 i2 hm; exact (lq2_0 hm).elim
  | succ n ih => intro v0 i2 hm; exact w_fX1_begins_47 C ih v0 i2 (lq2_s hm)
set_option maxHeartbeats 4000000 in
theorem w_fX1_begins_27 (C : Cx G p s m args meth c RX1 cX1_begins 3 none) {b0 : Nat} {rw0 : Mem} {k27 : Mem → Int32 → Option (Mem)} (hk27 : ∀ (v0 : Mem) (i2 : Int32), k27 v0 i2 = some rw0 → ∀ (H : Heap) (locs : List Loc) (ls : Array Slot), rg G b0 22 (shX1 G.2.1) v0 H → va_S (FA (iv b0 22) s.heap.size) s.heap H locs → H.size = s.heap.size → lv_has ls 3 [(0, .ref b0), (2, .int i2)] → W p l e (rmT 0 0 0 0) s m args below meth c H locs 0 0 (MQ below (QcT (FA (iv b0 22) s.heap.size) (fun ov H => ov = none ∧ rg G b0 22 (shX1 G.2.1) rw0 H ∧ H.size = s.heap.size)) args s 0 0 (FA (iv b0 22) s.heap.size)) (F0 m 27 ls [])) : ∀ (v0 : Mem) (i2 : Int32), fX1_begins_27 k27 v0 i2 = some rw0 → ∀ (H : Heap) (locs : List Loc) (ls : Array Slot), rg G b0 22 (shX1 G.2.1) v0 H → va_S (FA (iv b0 22) s.heap.size) s.heap H locs → H.size = s.heap.size → lv_has ls 3 [(0, .ref b0), (2, .int i2)] → W p l e (rmT 0 0 0 0) s m args below meth c H locs 0 0 (MQ below (QcT (FA (iv b0 22) s.heap.size) (fun ov H => ov = none ∧ rg G b0 22 (shX1 G.2.1) rw0 H ∧ H.size = s.heap.size)) args s 0 0 (FA (iv b0 22) s.heap.size)) (F0 m 27 ls []) := by
  intro v0 i2 hm H locs ls hW0 hS hz hl
  obtain ⟨hx, hb, hr, hlk, hml, hown, hts, hK⟩ := id C
  unfold fX1_begins_27 at hm
  refine lv_iload_n (pc := 27) hx hb dX1_begins_27 rfl (lv_at hl 1 rfl) ?_
  refine lv_iconst (pc := 28) (v := (5 : Int32)) hx hb dX1_begins_28 (by decide) ?_
  refine lv_icmp_ge (pc := 29) (tgt := 45) hx hb dX1_begins_29 (by decide) (fun c41 => ?_) (fun c41 => ?_)
  · have hm := ite_t c41 hm
    refine lv_iconst (pc := 45) (v := (0 : Int32)) hx hb dX1_begins_45 (by decide) ?_
    refine lv_istore_n (pc := 46) (lv' := [(2, .int (0 : Int32)), (0, .ref b0)]) hx hb dX1_begins_46 rfl hl (by decide) rfl (fun ls hl => ?_)
    exact (w_fX1_begins_47_l C FU) v0 (0 : Int32) hm H locs ls hW0 hS hz (lv_sub hl [1, 0] rfl)
  · have hm := ite_f c41 hm
    refine lv_aload_n (pc := 32) hx hb dX1_begins_32 rfl (lv_at hl 0 rfl) ?_
    refine rk_get (pc := 33) hx hb hts hown hK hW0 flX1_21 0 (by decide) rfl rfl (x := .ref (b0 + 1)) (by first | rfl | exact congrArg (fun z => some (Value.ref z)) (by omega)) dX1_begins_33 ?_
    refine lv_iload_n (pc := 36) hx hb dX1_begins_36 rfl (lv_at hl 1 rfl) ?_
    refine lv_iconst (pc := 37) (v := (1 : Int32)) hx hb dX1_begins_37 (by decide) ?_
    obtain ⟨hg42, hm⟩ := gb_some hm
    refine rk_iast (pc := 38) hx hb hK hW0 hS 1 (by decide) rfl (Or.inl (show iv _ _ _ from ⟨by omega, by omega⟩)) (fun _ _ _ => rfl) hg42 dX1_begins_38 (fun H44 locs45 hW46 hS47 hz48 hkp49 => ?_)
    obtain ⟨v0_43, he9, hm⟩ := lm_some hm
    rw [he9] at hW46
    have hz50 := hz48.trans hz
    refine lv_iinc (pc := 39) (v := (i2 + (1 : Int32))) (lv' := [(2, .int (i2 + (1 : Int32))), (0, .ref b0)]) hx hb dX1_begins_39 hl (k := 1) rfl rfl (by decide) rfl (fun ls hl => ?_)
    refine lv_goto (pc := 42) (tgt := 27) hx hb dX1_begins_42 (by decide) ?_
    exact hk27 v0_43 (i2 + (1 : Int32)) hm H44 locs45 ls hW46 hS47 hz50 (lv_sub hl [1, 0] rfl)
theorem w_fX1_begins_27_l (C : Cx G p s m args meth c RX1 cX1_begins 3 none) {b0 : Nat} {rw0 : Mem} : ∀ (n : Nat) (v0 : Mem) (i2 : Int32), lq2 (fX1_begins_27) n v0 i2 = some rw0 → ∀ (H : Heap) (locs : List Loc) (ls : Array Slot), rg G b0 22 (shX1 G.2.1) v0 H → va_S (FA (iv b0 22) s.heap.size) s.heap H locs → H.size = s.heap.size → lv_has ls 3 [(0, .ref b0), (2, .int i2)] → W p l e (rmT 0 0 0 0) s m args below meth c H locs 0 0 (MQ below (QcT (FA (iv b0 22) s.heap.size) (fun ov H => ov = none ∧ rg G b0 22 (shX1 G.2.1) rw0 H ∧ H.size = s.heap.size)) args s 0 0 (FA (iv b0 22) s.heap.size)) (F0 m 27 ls []) := by
  intro n
  induction n with
  | zero => intro v0 i2 hm; exact (lq2_0 hm).elim
  | succ n ih => intro v0 i2 hm; exact w_fX1_begins_27 C ih v0 i2 (lq2_s hm)
set_option maxHeartbeats 4000000 in
theorem w_fX1_begins (C : Cx G p s m args meth c RX1 cX1_begins 3 none) {b0 : Nat} {rw0 : Mem} : ∀ (v0 : Mem) (i1 : Int32), fX1_begins v0 i1 = some rw0 → ∀ (H : Heap) (locs : List Loc) (ls : Array Slot), rg G b0 22 (shX1 G.2.1) v0 H → va_S (FA (iv b0 22) s.heap.size) s.heap H locs → H.size = s.heap.size → lv_has ls 3 [(0, .ref b0), (1, .int i1)] → W p l e (rmT 0 0 0 0) s m args below meth c H locs 0 0 (MQ below (QcT (FA (iv b0 22) s.heap.size) (fun ov H => ov = none ∧ rg G b0 22 (shX1 G.2.1) rw0 H ∧ H.size = s.heap.size)) args s 0 0 (FA (iv b0 22) s.heap.size)) (F0 m 0 ls []) := by
  intro v0 i1 hm H locs ls hW0 hS hz hl
  obtain ⟨hx, hb, hr, hlk, hml, hown, hts, hK⟩ := id C
  unfold fX1_begins at hm
  refine lv_aload_n (pc := 0) hx hb dX1_begins_0 rfl (lv_at hl 0 rfl) ?_
  refine lv_iload_n (pc := 1) hx hb dX1_begins_1 rfl (lv_at hl 1 rfl) ?_
  refine rk_put (pc := 2) hx hb hts hown hK hW0 hS flX1_9 ft_X1 0 (by decide) rfl (Or.inl (show iv _ _ _ from ⟨by omega, by omega⟩)) rfl rfl (x := .int i1) rfl rfl (Nat.le_of_ble_eq_true rfl) (sI v0 0 0 i1) sI_ne (by rw [sI_eq]; exact rfl) dX1_begins_2 (fun H2 locs3 hW4 hS5 hz6 hkp7 => ?_)
  obtain ⟨v0_1, he9, hm⟩ := lm_some hm
  rw [he9] at hW4
  have hz8 := hz6.trans hz
  refine lv_aload_n (pc := 5) hx hb dX1_begins_5 rfl (lv_at hl 0 rfl) ?_
  refine lv_iconst (pc := 6) (v := (0 : Int32)) hx hb dX1_begins_6 (by decide) ?_
  refine rk_put (pc := 7) hx hb hts hown hK hW4 hS5 flX1_41 ft_X1 0 (by decide) rfl (Or.inl (show iv _ _ _ from ⟨by omega, by omega⟩)) rfl rfl (x := .int (0 : Int32)) rfl rfl (Nat.le_of_ble_eq_true rfl) (sI v0_1 0 1 (0 : Int32)) sI_ne (by rw [sI_eq]; exact rfl) dX1_begins_7 (fun H10 locs11 hW12 hS13 hz14 hkp15 => ?_)
  obtain ⟨v0_9, he9, hm⟩ := lm_some hm
  rw [he9] at hW12
  have hz16 := hz14.trans hz8
  refine lv_aload_n (pc := 10) hx hb dX1_begins_10 rfl (lv_at hl 0 rfl) ?_
  refine lv_iconst (pc := 11) (v := (1 : Int32)) hx hb dX1_begins_11 (by decide) ?_
  refine rk_put (pc := 12) hx hb hts hown hK hW12 hS13 flX1_15 ft_X1 0 (by decide) rfl (Or.inl (show iv _ _ _ from ⟨by omega, by omega⟩)) rfl rfl (x := .int (1 : Int32)) rfl rfl (Nat.le_of_ble_eq_true rfl) (sI v0_9 0 2 (1 : Int32)) sI_ne (by rw [sI_eq]; exact rfl) dX1_begins_12 (fun H18 locs19 hW20 hS21 hz22 hkp23 => ?_)
  obtain ⟨v0_17, he9, hm⟩ := lm_some hm
  rw [he9] at hW20
  have hz24 := hz22.trans hz16
  refine lv_aload_n (pc := 15) hx hb dX1_begins_15 rfl (lv_at hl 0 rfl) ?_
  refine lv_iconst (pc := 16) (v := (0 : Int32)) hx hb dX1_begins_16 (by decide) ?_
  refine rk_put (pc := 17) hx hb hts hown hK hW20 hS21 flX1_44 ft_X1 0 (by decide) rfl (Or.inl (show iv _ _ _ from ⟨by omega, by omega⟩)) rfl rfl (x := .int (0 : Int32)) rfl rfl (Nat.le_of_ble_eq_true rfl) (sI v0_17 0 4 (0 : Int32)) sI_ne (by rw [sI_eq]; exact rfl) dX1_begins_17 (fun H26 locs27 hW28 hS29 hz30 hkp31 => ?_)
  obtain ⟨v0_25, he9, hm⟩ := lm_some hm
  rw [he9] at hW28
  have hz32 := hz30.trans hz24
  refine lv_aload_n (pc := 20) hx hb dX1_begins_20 rfl (lv_at hl 0 rfl) ?_
  refine lv_iconst (pc := 21) (v := (0 : Int32)) hx hb dX1_begins_21 (by decide) ?_
  refine rk_put (pc := 22) hx hb hts hown hK hW28 hS29 flX1_47 ft_X1 0 (by decide) rfl (Or.inl (show iv _ _ _ from ⟨by omega, by omega⟩)) rfl rfl (x := .int (0 : Int32)) rfl rfl (Nat.le_of_ble_eq_true rfl) (sI v0_25 0 5 (0 : Int32)) sI_ne (by rw [sI_eq]; exact rfl) dX1_begins_22 (fun H34 locs35 hW36 hS37 hz38 hkp39 => ?_)
  obtain ⟨v0_33, he9, hm⟩ := lm_some hm
  rw [he9] at hW36
  have hz40 := hz38.trans hz32
  refine lv_iconst (pc := 25) (v := (0 : Int32)) hx hb dX1_begins_25 (by decide) ?_
  refine lv_istore_n (pc := 26) (lv' := [(2, .int (0 : Int32)), (0, .ref b0), (1, .int i1)]) hx hb dX1_begins_26 rfl hl (by decide) rfl (fun ls hl => ?_)
  exact (w_fX1_begins_27_l C FU) v0_33 (0 : Int32) hm H34 locs35 ls hW36 hS37 hz40 (lv_sub hl [1, 0] rfl)
set_option maxHeartbeats 4000000 in
theorem ct_X1_begins {G : Gv} {l : Launch} {b0 : Nat} {v0 : Mem} {i1 : Int32} {rw0 : Mem} {sz : Nat} (hm : fX1_begins v0 i1 = some rw0) : CT G l yX1_begins (ws_ yX1_begins cX1_begins 3 none) 0 0 0 0 [.ref b0, .int i1] (iv b0 22) sz (fun H => rg G b0 22 (shX1 G.2.1) v0 H) (fun ov H => ov = none ∧ rg G b0 22 (shX1 G.2.1) rw0 H ∧ H.size = sz) := by
  refine Met.ofW (cc := cX1_begins) (maxL := 3) (ret := none) (by decide +kernel) rfl ?_
  intro p e s m args below meth c s₁ B hml hv
  obtain ⟨rfl, ⟨hz, hW0⟩, hK⟩ := hv
  subst hz
  have hts := atoms_spec (ws := ws_ yX1_begins cX1_begins 3 none) B.pre
  have hts : ∀ w ∈ lw_all, w.before _ s = true := fun w h => hts w (List.mem_cons_of_mem _ h)
  have C : Cx G p s m _ meth c RX1 cX1_begins 3 none := ⟨B.exec, B.bytes, B.returns, B.notSynchronized, hml, findClass_of_methodNamed B.named, hts, hK⟩
  have hl := lv_entry ([.ref b0, .int i1]) (n := 3) (Nat.le_of_ble_eq_true rfl)
  rw [lg_entry_eq]
  generalize (lg_sl ([.ref b0, .int i1]) ++ List.replicate (3 - (lg_sl ([.ref b0, .int i1])).length) Slot.unset).toArray = ls at hl ⊢
  have hl : lv_has ls 3 [(0, .ref b0), (1, .int i1)] := hl
  exact w_fX1_begins C _ _ hm s.heap [] ls hW0 va_S.rf rfl hl
theorem flX1_18 : FL RX1 18 1 3 RX1 TX1 11 := ⟨in_X1, rfl, by decide, q199⟩
theorem lacX1_50 : LAC RX1 50 := ⟨q1289, q762, q761, q134⟩
theorem flX1_34 : FL RX1 34 1 9 RX1 TX1 11 := ⟨in_X1, rfl, by decide, q213⟩
theorem flX1_37 : FL RX1 37 1 10 RX1 TX1 11 := ⟨in_X1, rfl, by decide, q215⟩
theorem flX1_27 : FL RX1 27 1 7 RX1 TX1 11 := ⟨in_X1, rfl, by decide, q208⟩
theorem ft_X2 : FT TX2 3 tyX2 := ⟨tyX2_ok, nmX2⟩
theorem flX2_15 : FL RX2 15 2 0 RX2 TX2 3 := ⟨in_X2, rfl, by decide, q174⟩
theorem flX2_19 : FL RX2 19 2 1 RX2 TX2 3 := ⟨in_X2, rfl, by decide, q177⟩
theorem flX2_9 : FL RX2 9 2 2 RX2 TX2 3 := ⟨in_X2, rfl, by decide, q180⟩
theorem lacX2_22 : LAC RX2 22 := ⟨q760, q762, q761, q134⟩
noncomputable def fX2_like (V1 : Mem) (v0 : Mem) : Option (Mem) :=
  lm (sI v0 0 0 (gI V1 0 0)) fun v0_1 =>
  lm (sI v0_1 0 1 (gI V1 0 1)) fun v0_10 =>
  lm (cpI v0_10 1 V1 1 (0 : Int32).toNatClampNeg (0 : Int32).toNatClampNeg (5 : Int32).toNatClampNeg) fun v0_19 =>
  some v0_19
set_option maxHeartbeats 4000000 in
theorem w_fX2_like (C : Cx G p s m args meth c RX2 cX2_like 2 none) {b0 : Nat} {b1 : Nat} {V1 : Mem} {rw0 : Mem} (hd01 : b0 + 2 ≤ b1 ∨ b1 + 2 ≤ b0) : ∀ (v0 : Mem), fX2_like V1 v0 = some rw0 → ∀ (H : Heap) (locs : List Loc) (ls : Array Slot), rg G b0 2 (shX2 G.2.1) v0 H → rg G b1 2 (shX2 G.2.1) V1 H → va_S (FA (iv b0 2) s.heap.size) s.heap H locs → H.size = s.heap.size → lv_has ls 2 [(0, .ref b0), (1, .ref b1)] → W p l e (rmT 1 0 0 64) s m args below meth c H locs 0 0 (MQ below (QcT (FA (iv b0 2) s.heap.size) (fun ov H => ov = none ∧ rg G b0 2 (shX2 G.2.1) rw0 H ∧ H.size = s.heap.size)) args s 0 0 (FA (iv b0 2) s.heap.size)) (F0 m 0 ls []) := by
  intro v0 hm H locs ls hW0 hW1 hS hz hl
  obtain ⟨hx, hb, hr, hlk, hml, hown, hts, hK⟩ := id C
  unfold fX2_like at hm
  refine lv_aload_n (pc := 0) hx hb dX2_like_0 rfl (lv_at hl 0 rfl) ?_
  refine lv_aload_n (pc := 1) hx hb dX2_like_1 rfl (lv_at hl 1 rfl) ?_
  refine rk_get (pc := 2) hx hb hts hown hK hW1 flX2_15 0 (by decide) rfl rfl (x := .int (gI V1 0 0)) rfl dX2_like_2 ?_
  refine rk_put (pc := 5) hx hb hts hown hK hW0 hS flX2_15 ft_X2 0 (by decide) rfl (Or.inl (show iv _ _ _ from ⟨by omega, by omega⟩)) rfl rfl (x := .int (gI V1 0 0)) rfl rfl (Nat.le_of_ble_eq_true rfl) (sI v0 0 0 (gI V1 0 0)) sI_ne (by rw [sI_eq]; exact rfl) dX2_like_5 (fun H2 locs3 hW4 hS5 hz6 hkp7 => ?_)
  obtain ⟨v0_1, he9, hm⟩ := lm_some hm
  rw [he9] at hW4
  have hW8 := rg_keepq hW1 hkp7 (by omega)
  have hz9 := hz6.trans hz
  refine lv_aload_n (pc := 8) hx hb dX2_like_8 rfl (lv_at hl 0 rfl) ?_
  refine lv_aload_n (pc := 9) hx hb dX2_like_9 rfl (lv_at hl 1 rfl) ?_
  refine rk_get (pc := 10) hx hb hts hown hK hW8 flX2_19 0 (by decide) rfl rfl (x := .int (gI V1 0 1)) rfl dX2_like_10 ?_
  refine rk_put (pc := 13) hx hb hts hown hK hW4 hS5 flX2_19 ft_X2 0 (by decide) rfl (Or.inl (show iv _ _ _ from ⟨by omega, by omega⟩)) rfl rfl (x := .int (gI V1 0 1)) rfl rfl (Nat.le_of_ble_eq_true rfl) (sI v0_1 0 1 (gI V1 0 1)) sI_ne (by rw [sI_eq]; exact rfl) dX2_like_13 (fun H11 locs12 hW13 hS14 hz15 hkp16 => ?_)
  obtain ⟨v0_10, he9, hm⟩ := lm_some hm
  rw [he9] at hW13
  have hW17 := rg_keepq hW8 hkp16 (by omega)
  have hz18 := hz15.trans hz9
  refine lv_aload_n (pc := 16) hx hb dX2_like_16 rfl (lv_at hl 1 rfl) ?_
  refine rk_get (pc := 17) hx hb hts hown hK hW17 flX2_9 0 (by decide) rfl rfl (x := .ref (b1 + 1)) (by first | rfl | exact congrArg (fun z => some (Value.ref z)) (by omega)) dX2_like_17 ?_
  refine lv_iconst (pc := 20) (v := (0 : Int32)) hx hb dX2_like_20 (by decide) ?_
  refine lv_aload_n (pc := 21) hx hb dX2_like_21 rfl (lv_at hl 0 rfl) ?_
  refine rk_get (pc := 22) hx hb hts hown hK hW13 flX2_9 0 (by decide) rfl rfl (x := .ref (b0 + 1)) (by first | rfl | exact congrArg (fun z => some (Value.ref z)) (by omega)) dX2_like_22 ?_
  refine lv_iconst (pc := 25) (v := (0 : Int32)) hx hb dX2_like_25 (by decide) ?_
  refine lv_iconst (pc := 26) (v := (5 : Int32)) hx hb dX2_like_26 (by decide) ?_
  refine rk_copyi (pc := 27) hx hb hml hown hts hK lacX2_22 hW13 hW17 hS14 1 (by decide) rfl (Or.inl (show iv _ _ _ from ⟨by omega, by omega⟩)) 1 (by decide) rfl (fun _ _ _ => rfl) (fun _ _ _ => rfl) (by decide) (by decide) (by decide) (by decide) (by decide) hl.1 (Nat.le_of_ble_eq_true rfl) (Nat.le_of_ble_eq_true rfl) dX2_like_27 (fun H20 locs21 hW22 hS23 hz24 hkp25 => ?_)
  obtain ⟨v0_19, he9, hm⟩ := lm_some hm
  rw [he9] at hW22
  have hW26 := rg_keepq hW17 hkp25 (by omega)
  have hz27 := hz24.trans hz18
  have e9 := rs1 hm
  subst e9
  exact rk_vret (pc := 30) hx hb hr hlk hS23 ⟨rfl, hW22, hz27⟩ dX2_like_30
set_option maxHeartbeats 4000000 in
theorem ct_X2_like {G : Gv} {l : Launch} {b0 : Nat} {b1 : Nat} {V1 : Mem} {v0 : Mem} {rw0 : Mem} {sz : Nat} (hm : fX2_like V1 v0 = some rw0) (hd01 : b0 + 2 ≤ b1 ∨ b1 + 2 ≤ b0) : CT G l yX2_like (ws_ yX2_like cX2_like 2 none) 1 0 0 64 [.ref b0, .ref b1] (iv b0 2) sz (fun H => rg G b0 2 (shX2 G.2.1) v0 H ∧ rg G b1 2 (shX2 G.2.1) V1 H) (fun ov H => ov = none ∧ rg G b0 2 (shX2 G.2.1) rw0 H ∧ H.size = sz) := by
  refine Met.ofW (cc := cX2_like) (maxL := 2) (ret := none) (by decide +kernel) rfl ?_
  intro p e s m args below meth c s₁ B hml hv
  obtain ⟨rfl, ⟨hz, hW0, hW1⟩, hK⟩ := hv
  subst hz
  have hts := atoms_spec (ws := ws_ yX2_like cX2_like 2 none) B.pre
  have hts : ∀ w ∈ lw_all, w.before _ s = true := fun w h => hts w (List.mem_cons_of_mem _ h)
  have C : Cx G p s m _ meth c RX2 cX2_like 2 none := ⟨B.exec, B.bytes, B.returns, B.notSynchronized, hml, findClass_of_methodNamed B.named, hts, hK⟩
  have hl := lv_entry ([.ref b0, .ref b1]) (n := 2) (Nat.le_of_ble_eq_true rfl)
  rw [lg_entry_eq]
  generalize (lg_sl ([.ref b0, .ref b1]) ++ List.replicate (2 - (lg_sl ([.ref b0, .ref b1])).length) Slot.unset).toArray = ls at hl ⊢
  have hl : lv_has ls 2 [(0, .ref b0), (1, .ref b1)] := hl
  exact w_fX2_like C hd01 _ hm s.heap [] ls hW0 hW1 va_S.rf rfl hl
theorem yn_X2_like : YN yX2_like 1 := by
  unfold YN
  decide +kernel
theorem lkX1_56 : LV RX1 56 RX2 yX2_like cX2_like 2 none := ⟨q1290, q757, q758, q116, q759⟩
noncomputable def fX1_like_64 (V1 : Mem) (k64 : Mem → Int32 → Option (Mem)) (v0 : Mem) (i2 : Int32) : Option (Mem) :=
  if (gI v0 0 1) ≤ i2 then (
  lm (cpI v0 3 V1 3 (0 : Int32).toNatClampNeg (0 : Int32).toNatClampNeg (8 : Int32).toNatClampNeg) fun v0_65 =>
  lm (cpI v0_65 4 V1 4 (0 : Int32).toNatClampNeg (0 : Int32).toNatClampNeg (10 : Int32).toNatClampNeg) fun v0_74 =>
  lm (cpI v0_74 5 V1 5 (0 : Int32).toNatClampNeg (0 : Int32).toNatClampNeg (24 : Int32).toNatClampNeg) fun v0_83 =>
  some v0_83)
  else (
  gb (inR i2 8) (
  gb (inR i2 8) (
  ob (fX2_like (shf V1 (6 + 2 * i2.toNatClampNeg)) (shf v0 (6 + 2 * i2.toNatClampNeg))) fun w96 =>
  lm (ptm v0 (6 + 2 * i2.toNatClampNeg) 2 w96) fun v0_107 =>
  k64 v0_107 (i2 + (1 : Int32)))))
noncomputable def fX1_like (V1 : Mem) (v0 : Mem) : Option (Mem) :=
  lm (sI v0 0 0 (gI V1 0 0)) fun v0_1 =>
  lm (sI v0_1 0 1 (gI V1 0 1)) fun v0_10 =>
  lm (sI v0_10 0 2 (gI V1 0 2)) fun v0_19 =>
  lm (sI v0_19 0 3 (gI V1 0 3)) fun v0_28 =>
  lm (sI v0_28 0 4 (gI V1 0 4)) fun v0_37 =>
  lm (sI v0_37 0 5 (gI V1 0 5)) fun v0_46 =>
  lm (cpI v0_46 1 V1 1 (0 : Int32).toNatClampNeg (0 : Int32).toNatClampNeg (5 : Int32).toNatClampNeg) fun v0_55 =>
  lq2 (fX1_like_64 V1) FU v0_55 (0 : Int32)
set_option maxHeartbeats 4000000 in
theorem w_fX1_like_64 (C : Cx G p s m args meth c RX1 cX1_like 3 (some (.object "WholePacks$Desk"))) {b0 : Nat} {b1 : Nat} {V1 : Mem} {rw0 : Mem} (hd01 : b0 + 22 ≤ b1 ∨ b1 + 22 ≤ b0) {k64 : Mem → Int32 → Option (Mem)} (hk64 : ∀ (v0 : Mem) (i2 : Int32), k64 v0 i2 = some rw0 → ∀ (H : Heap) (locs : List Loc) (ls : Array Slot), rg G b0 22 (shX1 G.2.1) v0 H → rg G b1 22 (shX1 G.2.1) V1 H → va_S (FA (iv b0 22) s.heap.size) s.heap H locs → H.size = s.heap.size → lv_has ls 3 [(0, .ref b0), (1, .ref b1), (2, .int i2)] → W p l e (rmT 2 0 0 85) s m args below meth c H locs 0 0 (MQ below (QcT (FA (iv b0 22) s.heap.size) (fun ov H => ov = (some (.ref b0)) ∧ rg G b0 22 (shX1 G.2.1) rw0 H ∧ H.size = s.heap.size)) args s 0 0 (FA (iv b0 22) s.heap.size)) (F0 m 64 ls [])) : ∀ (v0 : Mem) (i2 : Int32), fX1_like_64 V1 k64 v0 i2 = some rw0 → ∀ (H : Heap) (locs : List Loc) (ls : Array Slot), rg G b0 22 (shX1 G.2.1) v0 H → rg G b1 22 (shX1 G.2.1) V1 H → va_S (FA (iv b0 22) s.heap.size) s.heap H locs → H.size = s.heap.size → lv_has ls 3 [(0, .ref b0), (1, .ref b1), (2, .int i2)] → W p l e (rmT 2 0 0 85) s m args below meth c H locs 0 0 (MQ below (QcT (FA (iv b0 22) s.heap.size) (fun ov H => ov = (some (.ref b0)) ∧ rg G b0 22 (shX1 G.2.1) rw0 H ∧ H.size = s.heap.size)) args s 0 0 (FA (iv b0 22) s.heap.size)) (F0 m 64 ls []) := by
  intro v0 i2 hm H locs ls hW0 hW1 hS hz hl
  obtain ⟨hx, hb, hr, hlk, hml, hown, hts, hK⟩ := id C
  unfold fX1_like_64 at hm
  refine lv_iload_n (pc := 64) hx hb dX1_like_64 rfl (lv_at hl 2 rfl) ?_
  refine lv_aload_n (pc := 65) hx hb dX1_like_65 rfl (lv_at hl 0 rfl) ?_
  refine rk_get (pc := 66) hx hb hts hown hK hW0 flX1_41 0 (by decide) rfl rfl (x := .int (gI v0 0 1)) rfl dX1_like_66 ?_
  refine lv_icmp_ge (pc := 69) (tgt := 93) hx hb dX1_like_69 (by decide) (fun c64 => ?_) (fun c64 => ?_)
  · have hm := ite_t c64 hm
    refine lv_aload_n (pc := 93) hx hb dX1_like_93 rfl (lv_at hl 1 rfl) ?_
    refine rk_get (pc := 94) hx hb hts hown hK hW1 flX1_31 0 (by decide) rfl rfl (x := .ref (b1 + 3)) (by first | rfl | exact congrArg (fun z => some (Value.ref z)) (by omega)) dX1_like_94 ?_
    refine lv_iconst (pc := 97) (v := (0 : Int32)) hx hb dX1_like_97 (by decide) ?_
    refine lv_aload_n (pc := 98) hx hb dX1_like_98 rfl (lv_at hl 0 rfl) ?_
    refine rk_get (pc := 99) hx hb hts hown hK hW0 flX1_31 0 (by decide) rfl rfl (x := .ref (b0 + 3)) (by first | rfl | exact congrArg (fun z => some (Value.ref z)) (by omega)) dX1_like_99 ?_
    refine lv_iconst (pc := 102) (v := (0 : Int32)) hx hb dX1_like_102 (by decide) ?_
    refine lv_bipush (pc := 103) (v := (8 : Int32)) hx hb dX1_like_103 (by decide) ?_
    refine rk_copyi (pc := 105) hx hb hml hown hts hK lacX1_50 hW0 hW1 hS 3 (by decide) rfl (Or.inl (show iv _ _ _ from ⟨by omega, by omega⟩)) 3 (by decide) rfl (fun _ _ _ => rfl) (fun _ _ _ => rfl) (by decide) (by decide) (by decide) (by decide) (by decide) hl.1 (Nat.le_of_ble_eq_true rfl) (Nat.le_of_ble_eq_true rfl) dX1_like_105 (fun H66 locs67 hW68 hS69 hz70 hkp71 => ?_)
    obtain ⟨v0_65, he9, hm⟩ := lm_some hm
    rw [he9] at hW68
    have hW72 := rg_keepq hW1 hkp71 (by omega)
    have hz73 := hz70.trans hz
    refine lv_aload_n (pc := 108) hx hb dX1_like_108 rfl (lv_at hl 1 rfl) ?_
    refine rk_get (pc := 109) hx hb hts hown hK hW72 flX1_34 0 (by decide) rfl rfl (x := .ref (b1 + 4)) (by first | rfl | exact congrArg (fun z => some (Value.ref z)) (by omega)) dX1_like_109 ?_
    refine lv_iconst (pc := 112) (v := (0 : Int32)) hx hb dX1_like_112 (by decide) ?_
    refine lv_aload_n (pc := 113) hx hb dX1_like_113 rfl (lv_at hl 0 rfl) ?_
    refine rk_get (pc := 114) hx hb hts hown hK hW68 flX1_34 0 (by decide) rfl rfl (x := .ref (b0 + 4)) (by first | rfl | exact congrArg (fun z => some (Value.ref z)) (by omega)) dX1_like_114 ?_
    refine lv_iconst (pc := 117) (v := (0 : Int32)) hx hb dX1_like_117 (by decide) ?_
    refine lv_bipush (pc := 118) (v := (10 : Int32)) hx hb dX1_like_118 (by decide) ?_
    refine rk_copyi (pc := 120) hx hb hml hown hts hK lacX1_50 hW68 hW72 hS69 4 (by decide) rfl (Or.inl (show iv _ _ _ from ⟨by omega, by omega⟩)) 4 (by decide) rfl (fun _ _ _ => rfl) (fun _ _ _ => rfl) (by decide) (by decide) (by decide) (by decide) (by decide) hl.1 (Nat.le_of_ble_eq_true rfl) (Nat.le_of_ble_eq_true rfl) dX1_like_120 (fun H75 locs76 hW77 hS78 hz79 hkp80 => ?_)
    obtain ⟨v0_74, he9, hm⟩ := lm_some hm
    rw [he9] at hW77
    have hW81 := rg_keepq hW72 hkp80 (by omega)
    have hz82 := hz79.trans hz73
    refine lv_aload_n (pc := 123) hx hb dX1_like_123 rfl (lv_at hl 1 rfl) ?_
    refine rk_get (pc := 124) hx hb hts hown hK hW81 flX1_37 0 (by decide) rfl rfl (x := .ref (b1 + 5)) (by first | rfl | exact congrArg (fun z => some (Value.ref z)) (by omega)) dX1_like_124 ?_
    refine lv_iconst (pc := 127) (v := (0 : Int32)) hx hb dX1_like_127 (by decide) ?_
    refine lv_aload_n (pc := 128) hx hb dX1_like_128 rfl (lv_at hl 0 rfl) ?_
    refine rk_get (pc := 129) hx hb hts hown hK hW77 flX1_37 0 (by decide) rfl rfl (x := .ref (b0 + 5)) (by first | rfl | exact congrArg (fun z => some (Value.ref z)) (by omega)) dX1_like_129 ?_
    refine lv_iconst (pc := 132) (v := (0 : Int32)) hx hb dX1_like_132 (by decide) ?_
    refine lv_bipush (pc := 133) (v := (24 : Int32)) hx hb dX1_like_133 (by decide) ?_
    refine rk_copyi (pc := 135) hx hb hml hown hts hK lacX1_50 hW77 hW81 hS78 5 (by decide) rfl (Or.inl (show iv _ _ _ from ⟨by omega, by omega⟩)) 5 (by decide) rfl (fun _ _ _ => rfl) (fun _ _ _ => rfl) (by decide) (by decide) (by decide) (by decide) (by decide) hl.1 (Nat.le_of_ble_eq_true rfl) (Nat.le_of_ble_eq_true rfl) dX1_like_135 (fun H84 locs85 hW86 hS87 hz88 hkp89 => ?_)
    obtain ⟨v0_83, he9, hm⟩ := lm_some hm
    rw [he9] at hW86
    have hW90 := rg_keepq hW81 hkp89 (by omega)
    have hz91 := hz88.trans hz82
    refine lv_aload_n (pc := 138) hx hb dX1_like_138 rfl (lv_at hl 0 rfl) ?_
    have e9 := rs1 hm
    subst e9
    exact rk_aret (pc := 139) hx hb hr (Or.inl ⟨_, rfl⟩) hlk hS87 ⟨rfl, hW86, hz91⟩ dX1_like_139
  · have hm := ite_f c64 hm
    refine lv_aload_n (pc := 72) hx hb dX1_like_72 rfl (lv_at hl 0 rfl) ?_
    refine rk_get (pc := 73) hx hb hts hown hK hW0 flX1_27 0 (by decide) rfl rfl (x := .ref (b0 + 2)) (by first | rfl | exact congrArg (fun z => some (Value.ref z)) (by omega)) dX1_like_73 ?_
    refine lv_iload_n (pc := 76) hx hb dX1_like_76 rfl (lv_at hl 2 rfl) ?_
    obtain ⟨hg92, hm⟩ := gb_some hm
    have hlt93 := inR_lt hg92
    refine rk_aald (pc := 77) hx hb hK hW0 2 5 (by decide) rfl rfl rfl hg92 (x := (b0 + (6 + 2 * i2.toNatClampNeg + 0))) (by first | rfl | exact congrArg some (by omega)) dX1_like_77 ?_
    refine lv_aload_n (pc := 78) hx hb dX1_like_78 rfl (lv_at hl 1 rfl) ?_
    refine rk_get (pc := 79) hx hb hts hown hK hW1 flX1_27 0 (by decide) rfl rfl (x := .ref (b1 + 2)) (by first | rfl | exact congrArg (fun z => some (Value.ref z)) (by omega)) dX1_like_79 ?_
    refine lv_iload_n (pc := 82) hx hb dX1_like_82 rfl (lv_at hl 2 rfl) ?_
    obtain ⟨hg94, hm⟩ := gb_some hm
    have hlt95 := inR_lt hg94
    refine rk_aald (pc := 83) hx hb hK hW1 2 5 (by decide) rfl rfl rfl hg94 (x := (b1 + (6 + 2 * i2.toNatClampNeg + 0))) (by first | rfl | exact congrArg some (by omega)) dX1_like_83 ?_
    obtain ⟨w96, hq97, hm⟩ := ob_some hm
    refine rk_TV (pc := 84) (As := [.ref (b1 + (6 + 2 * i2.toNatClampNeg + 0))]) (rest := []) (mc := 0) (ms := 0) hx hb hml hown hts hK hS (fun q hq => FA_sz rfl q hq) lkX1_56 rfl yn_X2_like (ct_X2_like (G := G) (l := l) (b0 := (b0 + (6 + 2 * i2.toNatClampNeg + 0))) (b1 := (b1 + (6 + 2 * i2.toNatClampNeg + 0))) (sz := H.size) hq97 (by omega)) ⟨Nat.le_of_ble_eq_true rfl, Nat.le_of_ble_eq_true rfl⟩ (fun z h => Or.inl (show iv _ _ _ from ⟨by have h8 := h.1; have h9 := h.2; omega, by have h8 := h.1; have h9 := h.2; omega⟩)) (rk_recv hK hW0 (6 + 2 * i2.toNatClampNeg + 0) (by omega) rfl rfl ((shX1_f6 G.2.1 hlt93 _ rfl 0 (by decide) _ _ _).trans rfl)) ⟨(rg_sub (d := (6 + 2 * i2.toNatClampNeg)) hW0 rfl (by omega) (fun o ho x y z => shX1_f6 G.2.1 hlt93 _ rfl o ho x y z)), (rg_sub (d := (6 + 2 * i2.toNatClampNeg)) hW1 rfl (by omega) (fun o ho x y z => shX1_f6 G.2.1 hlt95 _ rfl o ho x y z))⟩ rfl rfl hl.1 (Nat.le_of_ble_eq_true rfl) dX1_like_84 ⟨Nat.zero_le _, Nat.zero_le _⟩ (fun ov9 H98 locs99 hP100 hkp101 hS102 => ?_)
    obtain ⟨rfl, hW103, hz104⟩ := hP100
    have hW105 := rg_keepA hW1 hkp101 (by intro z h1 h2 h3; have h8 := h3.1; have h9 := h3.2; omega)
    have hW106 := rg_put (d := (6 + 2 * i2.toNatClampNeg)) hW0 hW103 rfl (fun o ho x y z => shX1_f6 G.2.1 hlt93 _ rfl o ho x y z) hkp101
    obtain ⟨v0_107, he9, hm⟩ := lm_some hm
    rw [he9] at hW106
    have hz108 := hz104.trans hz
    refine W.eq (g2 := F0 m 87 ls []) rfl ?_
    refine lv_iinc (pc := 87) (v := (i2 + (1 : Int32))) (lv' := [(2, .int (i2 + (1 : Int32))), (0, .ref b0), (1, .ref b1)]) hx hb dX1_like_87 hl (k := 2) rfl rfl (by decide) rfl (fun ls hl => ?_)
    refine lv_goto (pc := 90) (tgt := 64) hx hb dX1_like_90 (by decide) ?_
    exact hk64 v0_107 (i2 + (1 : Int32)) hm H98 locs99 ls hW106 hW105 hS102 hz108 (lv_sub hl [1, 2, 0] rfl)
theorem w_fX1_like_64_l (C : Cx G p s m args meth c RX1 cX1_like 3 (some (.object "WholePacks$Desk"))) {b0 : Nat} {b1 : Nat} {V1 : Mem} {rw0 : Mem} (hd01 : b0 + 22 ≤ b1 ∨ b1 + 22 ≤ b0) : ∀ (n : Nat) (v0 : Mem) (i2 : Int32), lq2 (fX1_like_64 V1) n v0 i2 = some rw0 → ∀ (H : Heap) (locs : List Loc) (ls : Array Slot), rg G b0 22 (shX1 G.2.1) v0 H → rg G b1 22 (shX1 G.2.1) V1 H → va_S (FA (iv b0 22) s.heap.size) s.heap H locs → H.size = s.heap.size → lv_has ls 3 [(0, .ref b0), (1, .ref b1), (2, .int i2)] → W p l e (rmT 2 0 0 85) s m args below meth c H locs 0 0 (MQ below (QcT (FA (iv b0 22) s.heap.size) (fun ov H => ov = (some (.ref b0)) ∧ rg G b0 22 (shX1 G.2.1) rw0 H ∧ H.size = s.heap.size)) args s 0 0 (FA (iv b0 22) s.heap.size)) (F0 m 64 ls []) := by
  intro n
  induction n with
  | zero => intro v0 i2 hm; exact (lq2_0 hm).elim
  | succ n ih => intro v0 i2 hm; exact w_fX1_like_64 C hd01 ih v0 i2 (lq2_s hm)
set_option maxHeartbeats 4000000 in
theorem w_fX1_like (C : Cx G p s m args meth c RX1 cX1_like 3 (some (.object "WholePacks$Desk"))) {b0 : Nat} {b1 : Nat} {V1 : Mem} {rw0 : Mem} (hd01 : b0 + 22 ≤ b1 ∨ b1 + 22 ≤ b0) : ∀ (v0 : Mem), fX1_like V1 v0 = some rw0 → ∀ (H : Heap) (locs : List Loc) (ls : Array Slot), rg G b0 22 (shX1 G.2.1) v0 H → rg G b1 22 (shX1 G.2.1) V1 H → va_S (FA (iv b0 22) s.heap.size) s.heap H locs → H.size = s.heap.size → lv_has ls 3 [(0, .ref b0), (1, .ref b1)] → W p l e (rmT 2 0 0 85) s m args below meth c H locs 0 0 (MQ below (QcT (FA (iv b0 22) s.heap.size) (fun ov H => ov = (some (.ref b0)) ∧ rg G b0 22 (shX1 G.2.1) rw0 H ∧ H.size = s.heap.size)) args s 0 0 (FA (iv b0 22) s.heap.size)) (F0 m 0 ls []) := by
  intro v0 hm H locs ls hW0 hW1 hS hz hl
  obtain ⟨hx, hb, hr, hlk, hml, hown, hts, hK⟩ := id C
  unfold fX1_like at hm
  refine lv_aload_n (pc := 0) hx hb dX1_like_0 rfl (lv_at hl 0 rfl) ?_
  refine lv_aload_n (pc := 1) hx hb dX1_like_1 rfl (lv_at hl 1 rfl) ?_
  refine rk_get (pc := 2) hx hb hts hown hK hW1 flX1_9 0 (by decide) rfl rfl (x := .int (gI V1 0 0)) rfl dX1_like_2 ?_
  refine rk_put (pc := 5) hx hb hts hown hK hW0 hS flX1_9 ft_X1 0 (by decide) rfl (Or.inl (show iv _ _ _ from ⟨by omega, by omega⟩)) rfl rfl (x := .int (gI V1 0 0)) rfl rfl (Nat.le_of_ble_eq_true rfl) (sI v0 0 0 (gI V1 0 0)) sI_ne (by rw [sI_eq]; exact rfl) dX1_like_5 (fun H2 locs3 hW4 hS5 hz6 hkp7 => ?_)
  obtain ⟨v0_1, he9, hm⟩ := lm_some hm
  rw [he9] at hW4
  have hW8 := rg_keepq hW1 hkp7 (by omega)
  have hz9 := hz6.trans hz
  refine lv_aload_n (pc := 8) hx hb dX1_like_8 rfl (lv_at hl 0 rfl) ?_
  refine lv_aload_n (pc := 9) hx hb dX1_like_9 rfl (lv_at hl 1 rfl) ?_
  refine rk_get (pc := 10) hx hb hts hown hK hW8 flX1_41 0 (by decide) rfl rfl (x := .int (gI V1 0 1)) rfl dX1_like_10 ?_
  refine rk_put (pc := 13) hx hb hts hown hK hW4 hS5 flX1_41 ft_X1 0 (by decide) rfl (Or.inl (show iv _ _ _ from ⟨by omega, by omega⟩)) rfl rfl (x := .int (gI V1 0 1)) rfl rfl (Nat.le_of_ble_eq_true rfl) (sI v0_1 0 1 (gI V1 0 1)) sI_ne (by rw [sI_eq]; exact rfl) dX1_like_13 (fun H11 locs12 hW13 hS14 hz15 hkp16 => ?_)
  obtain ⟨v0_10, he9, hm⟩ := lm_some hm
  rw [he9] at hW13
  have hW17 := rg_keepq hW8 hkp16 (by omega)
  have hz18 := hz15.trans hz9
  refine lv_aload_n (pc := 16) hx hb dX1_like_16 rfl (lv_at hl 0 rfl) ?_
  refine lv_aload_n (pc := 17) hx hb dX1_like_17 rfl (lv_at hl 1 rfl) ?_
  refine rk_get (pc := 18) hx hb hts hown hK hW17 flX1_15 0 (by decide) rfl rfl (x := .int (gI V1 0 2)) rfl dX1_like_18 ?_
  refine rk_put (pc := 21) hx hb hts hown hK hW13 hS14 flX1_15 ft_X1 0 (by decide) rfl (Or.inl (show iv _ _ _ from ⟨by omega, by omega⟩)) rfl rfl (x := .int (gI V1 0 2)) rfl rfl (Nat.le_of_ble_eq_true rfl) (sI v0_10 0 2 (gI V1 0 2)) sI_ne (by rw [sI_eq]; exact rfl) dX1_like_21 (fun H20 locs21 hW22 hS23 hz24 hkp25 => ?_)
  obtain ⟨v0_19, he9, hm⟩ := lm_some hm
  rw [he9] at hW22
  have hW26 := rg_keepq hW17 hkp25 (by omega)
  have hz27 := hz24.trans hz18
  refine lv_aload_n (pc := 24) hx hb dX1_like_24 rfl (lv_at hl 0 rfl) ?_
  refine lv_aload_n (pc := 25) hx hb dX1_like_25 rfl (lv_at hl 1 rfl) ?_
  refine rk_get (pc := 26) hx hb hts hown hK hW26 flX1_18 0 (by decide) rfl rfl (x := .int (gI V1 0 3)) rfl dX1_like_26 ?_
  refine rk_put (pc := 29) hx hb hts hown hK hW22 hS23 flX1_18 ft_X1 0 (by decide) rfl (Or.inl (show iv _ _ _ from ⟨by omega, by omega⟩)) rfl rfl (x := .int (gI V1 0 3)) rfl rfl (Nat.le_of_ble_eq_true rfl) (sI v0_19 0 3 (gI V1 0 3)) sI_ne (by rw [sI_eq]; exact rfl) dX1_like_29 (fun H29 locs30 hW31 hS32 hz33 hkp34 => ?_)
  obtain ⟨v0_28, he9, hm⟩ := lm_some hm
  rw [he9] at hW31
  have hW35 := rg_keepq hW26 hkp34 (by omega)
  have hz36 := hz33.trans hz27
  refine lv_aload_n (pc := 32) hx hb dX1_like_32 rfl (lv_at hl 0 rfl) ?_
  refine lv_aload_n (pc := 33) hx hb dX1_like_33 rfl (lv_at hl 1 rfl) ?_
  refine rk_get (pc := 34) hx hb hts hown hK hW35 flX1_44 0 (by decide) rfl rfl (x := .int (gI V1 0 4)) rfl dX1_like_34 ?_
  refine rk_put (pc := 37) hx hb hts hown hK hW31 hS32 flX1_44 ft_X1 0 (by decide) rfl (Or.inl (show iv _ _ _ from ⟨by omega, by omega⟩)) rfl rfl (x := .int (gI V1 0 4)) rfl rfl (Nat.le_of_ble_eq_true rfl) (sI v0_28 0 4 (gI V1 0 4)) sI_ne (by rw [sI_eq]; exact rfl) dX1_like_37 (fun H38 locs39 hW40 hS41 hz42 hkp43 => ?_)
  obtain ⟨v0_37, he9, hm⟩ := lm_some hm
  rw [he9] at hW40
  have hW44 := rg_keepq hW35 hkp43 (by omega)
  have hz45 := hz42.trans hz36
  refine lv_aload_n (pc := 40) hx hb dX1_like_40 rfl (lv_at hl 0 rfl) ?_
  refine lv_aload_n (pc := 41) hx hb dX1_like_41 rfl (lv_at hl 1 rfl) ?_
  refine rk_get (pc := 42) hx hb hts hown hK hW44 flX1_47 0 (by decide) rfl rfl (x := .int (gI V1 0 5)) rfl dX1_like_42 ?_
  refine rk_put (pc := 45) hx hb hts hown hK hW40 hS41 flX1_47 ft_X1 0 (by decide) rfl (Or.inl (show iv _ _ _ from ⟨by omega, by omega⟩)) rfl rfl (x := .int (gI V1 0 5)) rfl rfl (Nat.le_of_ble_eq_true rfl) (sI v0_37 0 5 (gI V1 0 5)) sI_ne (by rw [sI_eq]; exact rfl) dX1_like_45 (fun H47 locs48 hW49 hS50 hz51 hkp52 => ?_)
  obtain ⟨v0_46, he9, hm⟩ := lm_some hm
  rw [he9] at hW49
  have hW53 := rg_keepq hW44 hkp52 (by omega)
  have hz54 := hz51.trans hz45
  refine lv_aload_n (pc := 48) hx hb dX1_like_48 rfl (lv_at hl 1 rfl) ?_
  refine rk_get (pc := 49) hx hb hts hown hK hW53 flX1_21 0 (by decide) rfl rfl (x := .ref (b1 + 1)) (by first | rfl | exact congrArg (fun z => some (Value.ref z)) (by omega)) dX1_like_49 ?_
  refine lv_iconst (pc := 52) (v := (0 : Int32)) hx hb dX1_like_52 (by decide) ?_
  refine lv_aload_n (pc := 53) hx hb dX1_like_53 rfl (lv_at hl 0 rfl) ?_
  refine rk_get (pc := 54) hx hb hts hown hK hW49 flX1_21 0 (by decide) rfl rfl (x := .ref (b0 + 1)) (by first | rfl | exact congrArg (fun z => some (Value.ref z)) (by omega)) dX1_like_54 ?_
  refine lv_iconst (pc := 57) (v := (0 : Int32)) hx hb dX1_like_57 (by decide) ?_
  refine lv_iconst (pc := 58) (v := (5 : Int32)) hx hb dX1_like_58 (by decide) ?_
  refine rk_copyi (pc := 59) hx hb hml hown hts hK lacX1_50 hW49 hW53 hS50 1 (by decide) rfl (Or.inl (show iv _ _ _ from ⟨by omega, by omega⟩)) 1 (by decide) rfl (fun _ _ _ => rfl) (fun _ _ _ => rfl) (by decide) (by decide) (by decide) (by decide) (by decide) hl.1 (Nat.le_of_ble_eq_true rfl) (Nat.le_of_ble_eq_true rfl) dX1_like_59 (fun H56 locs57 hW58 hS59 hz60 hkp61 => ?_)
  obtain ⟨v0_55, he9, hm⟩ := lm_some hm
  rw [he9] at hW58
  have hW62 := rg_keepq hW53 hkp61 (by omega)
  have hz63 := hz60.trans hz54
  refine lv_iconst (pc := 62) (v := (0 : Int32)) hx hb dX1_like_62 (by decide) ?_
  refine lv_istore_n (pc := 63) (lv' := [(2, .int (0 : Int32)), (0, .ref b0), (1, .ref b1)]) hx hb dX1_like_63 rfl hl (by decide) rfl (fun ls hl => ?_)
  exact (w_fX1_like_64_l C hd01 FU) v0_55 (0 : Int32) hm H56 locs57 ls hW58 hW62 hS59 hz63 (lv_sub hl [1, 2, 0] rfl)
set_option maxHeartbeats 4000000 in
theorem ct_X1_like {G : Gv} {l : Launch} {b0 : Nat} {b1 : Nat} {V1 : Mem} {v0 : Mem} {rw0 : Mem} {sz : Nat} (hm : fX1_like V1 v0 = some rw0) (hd01 : b0 + 22 ≤ b1 ∨ b1 + 22 ≤ b0) : CT G l yX1_like (ws_ yX1_like cX1_like 3 (some (.object "WholePacks$Desk"))) 2 0 0 85 [.ref b0, .ref b1] (iv b0 22) sz (fun H => rg G b0 22 (shX1 G.2.1) v0 H ∧ rg G b1 22 (shX1 G.2.1) V1 H) (fun ov H => ov = (some (.ref b0)) ∧ rg G b0 22 (shX1 G.2.1) rw0 H ∧ H.size = sz) := by
  refine Met.ofW (cc := cX1_like) (maxL := 3) (ret := (some (.object "WholePacks$Desk"))) (by decide +kernel) rfl ?_
  intro p e s m args below meth c s₁ B hml hv
  obtain ⟨rfl, ⟨hz, hW0, hW1⟩, hK⟩ := hv
  subst hz
  have hts := atoms_spec (ws := ws_ yX1_like cX1_like 3 (some (.object "WholePacks$Desk"))) B.pre
  have hts : ∀ w ∈ lw_all, w.before _ s = true := fun w h => hts w (List.mem_cons_of_mem _ h)
  have C : Cx G p s m _ meth c RX1 cX1_like 3 (some (.object "WholePacks$Desk")) := ⟨B.exec, B.bytes, B.returns, B.notSynchronized, hml, findClass_of_methodNamed B.named, hts, hK⟩
  have hl := lv_entry ([.ref b0, .ref b1]) (n := 3) (Nat.le_of_ble_eq_true rfl)
  rw [lg_entry_eq]
  generalize (lg_sl ([.ref b0, .ref b1]) ++ List.replicate (3 - (lg_sl ([.ref b0, .ref b1])).length) Slot.unset).toArray = ls at hl ⊢
  have hl : lv_has ls 3 [(0, .ref b0), (1, .ref b1)] := hl
  exact w_fX1_like C hd01 _ hm s.heap [] ls hW0 hW1 va_S.rf rfl hl
noncomputable def fX2_begins_12 (k12 : Mem → Int32 → Option (Mem)) (v0 : Mem) (i3 : Int32) : Option (Mem) :=
  if (5 : Int32) ≤ i3 then (
  some v0)
  else (
  gb (inR i3 5) (
  lm (sI v0 1 i3.toNatClampNeg (0 : Int32)) fun v0_19 =>
  k12 v0_19 (i3 + (1 : Int32))))
noncomputable def fX2_begins (v0 : Mem) (i1 : Int32) (i2 : Int32) : Option (Mem) :=
  lm (sI v0 0 0 i1) fun v0_1 =>
  lm (sI v0_1 0 1 i2) fun v0_9 =>
  lq2 (fX2_begins_12) FU v0_9 (0 : Int32)
set_option maxHeartbeats 4000000 in
theorem w_fX2_begins_12 (C : Cx G p s m args meth c RX2 cX2_begins 4 none) {b0 : Nat} {rw0 : Mem} {k12 : Mem → Int32 → Option (Mem)} (hk12 : ∀ (v0 : Mem) (i3 : Int32), k12 v0 i3 = some rw0 → ∀ (H : Heap) (locs : List Loc) (ls : Array Slot), rg G b0 2 (shX2 G.2.1) v0 H → va_S (FA (iv b0 2) s.heap.size) s.heap H locs → H.size = s.heap.size → lv_has ls 4 [(0, .ref b0), (3, .int i3)] → W p l e (rmT 0 0 0 0) s m args below meth c H locs 0 0 (MQ below (QcT (FA (iv b0 2) s.heap.size) (fun ov H => ov = none ∧ rg G b0 2 (shX2 G.2.1) rw0 H ∧ H.size = s.heap.size)) args s 0 0 (FA (iv b0 2) s.heap.size)) (F0 m 12 ls [])) : ∀ (v0 : Mem) (i3 : Int32), fX2_begins_12 k12 v0 i3 = some rw0 → ∀ (H : Heap) (locs : List Loc) (ls : Array Slot), rg G b0 2 (shX2 G.2.1) v0 H → va_S (FA (iv b0 2) s.heap.size) s.heap H locs → H.size = s.heap.size → lv_has ls 4 [(0, .ref b0), (3, .int i3)] → W p l e (rmT 0 0 0 0) s m args below meth c H locs 0 0 (MQ below (QcT (FA (iv b0 2) s.heap.size) (fun ov H => ov = none ∧ rg G b0 2 (shX2 G.2.1) rw0 H ∧ H.size = s.heap.size)) args s 0 0 (FA (iv b0 2) s.heap.size)) (F0 m 12 ls []) := by
  intro v0 i3 hm H locs ls hW0 hS hz hl
  obtain ⟨hx, hb, hr, hlk, hml, hown, hts, hK⟩ := id C
  unfold fX2_begins_12 at hm
  refine lv_iload_n (pc := 12) hx hb dX2_begins_12 rfl (lv_at hl 1 rfl) ?_
  refine lv_iconst (pc := 13) (v := (5 : Int32)) hx hb dX2_begins_13 (by decide) ?_
  refine lv_icmp_ge (pc := 14) (tgt := 30) hx hb dX2_begins_14 (by decide) (fun c17 => ?_) (fun c17 => ?_)
  · have hm := ite_t c17 hm
    have e9 := rs1 hm
    subst e9
    exact rk_vret (pc := 30) hx hb hr hlk hS ⟨rfl, hW0, hz⟩ dX2_begins_30
  · have hm := ite_f c17 hm
    refine lv_aload_n (pc := 17) hx hb dX2_begins_17 rfl (lv_at hl 0 rfl) ?_
    refine rk_get (pc := 18) hx hb hts hown hK hW0 flX2_9 0 (by decide) rfl rfl (x := .ref (b0 + 1)) (by first | rfl | exact congrArg (fun z => some (Value.ref z)) (by omega)) dX2_begins_18 ?_
    refine lv_iload_n (pc := 21) hx hb dX2_begins_21 rfl (lv_at hl 1 rfl) ?_
    refine lv_iconst (pc := 22) (v := (0 : Int32)) hx hb dX2_begins_22 (by decide) ?_
    obtain ⟨hg18, hm⟩ := gb_some hm
    refine rk_iast (pc := 23) hx hb hK hW0 hS 1 (by decide) rfl (Or.inl (show iv _ _ _ from ⟨by omega, by omega⟩)) (fun _ _ _ => rfl) hg18 dX2_begins_23 (fun H20 locs21 hW22 hS23 hz24 hkp25 => ?_)
    obtain ⟨v0_19, he9, hm⟩ := lm_some hm
    rw [he9] at hW22
    have hz26 := hz24.trans hz
    refine lv_iinc (pc := 24) (v := (i3 + (1 : Int32))) (lv' := [(3, .int (i3 + (1 : Int32))), (0, .ref b0)]) hx hb dX2_begins_24 hl (k := 1) rfl rfl (by decide) rfl (fun ls hl => ?_)
    refine lv_goto (pc := 27) (tgt := 12) hx hb dX2_begins_27 (by decide) ?_
    exact hk12 v0_19 (i3 + (1 : Int32)) hm H20 locs21 ls hW22 hS23 hz26 (lv_sub hl [1, 0] rfl)
theorem w_fX2_begins_12_l (C : Cx G p s m args meth c RX2 cX2_begins 4 none) {b0 : Nat} {rw0 : Mem} : ∀ (n : Nat) (v0 : Mem) (i3 : Int32), lq2 (fX2_begins_12) n v0 i3 = some rw0 → ∀ (H : Heap) (locs : List Loc) (ls : Array Slot), rg G b0 2 (shX2 G.2.1) v0 H → va_S (FA (iv b0 2) s.heap.size) s.heap H locs → H.size = s.heap.size → lv_has ls 4 [(0, .ref b0), (3, .int i3)] → W p l e (rmT 0 0 0 0) s m args below meth c H locs 0 0 (MQ below (QcT (FA (iv b0 2) s.heap.size) (fun ov H => ov = none ∧ rg G b0 2 (shX2 G.2.1) rw0 H ∧ H.size = s.heap.size)) args s 0 0 (FA (iv b0 2) s.heap.size)) (F0 m 12 ls []) := by
  intro n
  induction n with
  | zero => intro v0 i3 hm; exact (lq2_0 hm).elim
  | succ n ih => intro v0 i3 hm; exact w_fX2_begins_12 C ih v0 i3 (lq2_s hm)
set_option maxHeartbeats 4000000 in
theorem w_fX2_begins (C : Cx G p s m args meth c RX2 cX2_begins 4 none) {b0 : Nat} {rw0 : Mem} : ∀ (v0 : Mem) (i1 : Int32) (i2 : Int32), fX2_begins v0 i1 i2 = some rw0 → ∀ (H : Heap) (locs : List Loc) (ls : Array Slot), rg G b0 2 (shX2 G.2.1) v0 H → va_S (FA (iv b0 2) s.heap.size) s.heap H locs → H.size = s.heap.size → lv_has ls 4 [(0, .ref b0), (1, .int i1), (2, .int i2)] → W p l e (rmT 0 0 0 0) s m args below meth c H locs 0 0 (MQ below (QcT (FA (iv b0 2) s.heap.size) (fun ov H => ov = none ∧ rg G b0 2 (shX2 G.2.1) rw0 H ∧ H.size = s.heap.size)) args s 0 0 (FA (iv b0 2) s.heap.size)) (F0 m 0 ls []) := by
  intro v0 i1 i2 hm H locs ls hW0 hS hz hl
  obtain ⟨hx, hb, hr, hlk, hml, hown, hts, hK⟩ := id C
  unfold fX2_begins at hm
  refine lv_aload_n (pc := 0) hx hb dX2_begins_0 rfl (lv_at hl 0 rfl) ?_
  refine lv_iload_n (pc := 1) hx hb dX2_begins_1 rfl (lv_at hl 1 rfl) ?_
  refine rk_put (pc := 2) hx hb hts hown hK hW0 hS flX2_15 ft_X2 0 (by decide) rfl (Or.inl (show iv _ _ _ from ⟨by omega, by omega⟩)) rfl rfl (x := .int i1) rfl rfl (Nat.le_of_ble_eq_true rfl) (sI v0 0 0 i1) sI_ne (by rw [sI_eq]; exact rfl) dX2_begins_2 (fun H2 locs3 hW4 hS5 hz6 hkp7 => ?_)
  obtain ⟨v0_1, he9, hm⟩ := lm_some hm
  rw [he9] at hW4
  have hz8 := hz6.trans hz
  refine lv_aload_n (pc := 5) hx hb dX2_begins_5 rfl (lv_at hl 0 rfl) ?_
  refine lv_iload_n (pc := 6) hx hb dX2_begins_6 rfl (lv_at hl 2 rfl) ?_
  refine rk_put (pc := 7) hx hb hts hown hK hW4 hS5 flX2_19 ft_X2 0 (by decide) rfl (Or.inl (show iv _ _ _ from ⟨by omega, by omega⟩)) rfl rfl (x := .int i2) rfl rfl (Nat.le_of_ble_eq_true rfl) (sI v0_1 0 1 i2) sI_ne (by rw [sI_eq]; exact rfl) dX2_begins_7 (fun H10 locs11 hW12 hS13 hz14 hkp15 => ?_)
  obtain ⟨v0_9, he9, hm⟩ := lm_some hm
  rw [he9] at hW12
  have hz16 := hz14.trans hz8
  refine lv_iconst (pc := 10) (v := (0 : Int32)) hx hb dX2_begins_10 (by decide) ?_
  refine lv_istore_n (pc := 11) (lv' := [(3, .int (0 : Int32)), (0, .ref b0), (1, .int i1), (2, .int i2)]) hx hb dX2_begins_11 rfl hl (by decide) rfl (fun ls hl => ?_)
  exact (w_fX2_begins_12_l C FU) v0_9 (0 : Int32) hm H10 locs11 ls hW12 hS13 hz16 (lv_sub hl [1, 0] rfl)
set_option maxHeartbeats 4000000 in
theorem ct_X2_begins {G : Gv} {l : Launch} {b0 : Nat} {v0 : Mem} {i1 : Int32} {i2 : Int32} {rw0 : Mem} {sz : Nat} (hm : fX2_begins v0 i1 i2 = some rw0) : CT G l yX2_begins (ws_ yX2_begins cX2_begins 4 none) 0 0 0 0 [.ref b0, .int i1, .int i2] (iv b0 2) sz (fun H => rg G b0 2 (shX2 G.2.1) v0 H) (fun ov H => ov = none ∧ rg G b0 2 (shX2 G.2.1) rw0 H ∧ H.size = sz) := by
  refine Met.ofW (cc := cX2_begins) (maxL := 4) (ret := none) (by decide +kernel) rfl ?_
  intro p e s m args below meth c s₁ B hml hv
  obtain ⟨rfl, ⟨hz, hW0⟩, hK⟩ := hv
  subst hz
  have hts := atoms_spec (ws := ws_ yX2_begins cX2_begins 4 none) B.pre
  have hts : ∀ w ∈ lw_all, w.before _ s = true := fun w h => hts w (List.mem_cons_of_mem _ h)
  have C : Cx G p s m _ meth c RX2 cX2_begins 4 none := ⟨B.exec, B.bytes, B.returns, B.notSynchronized, hml, findClass_of_methodNamed B.named, hts, hK⟩
  have hl := lv_entry ([.ref b0, .int i1, .int i2]) (n := 4) (Nat.le_of_ble_eq_true rfl)
  rw [lg_entry_eq]
  generalize (lg_sl ([.ref b0, .int i1, .int i2]) ++ List.replicate (4 - (lg_sl ([.ref b0, .int i1, .int i2])).length) Slot.unset).toArray = ls at hl ⊢
  have hl : lv_has ls 4 [(0, .ref b0), (1, .int i1), (2, .int i2)] := hl
  exact w_fX2_begins C _ _ _ hm s.heap [] ls hW0 va_S.rf rfl hl
theorem yn_X2_begins : YN yX2_begins 2 := by
  unfold YN
  decide +kernel
theorem lkX1_60 : LV RX1 60 RX2 yX2_begins cX2_begins 4 none := ⟨q607, q608, q609, q116, q610⟩
noncomputable def fX1_comes (v0 : Mem) (i1 : Int32) (i2 : Int32) : Option (Nat × Mem) :=
  gb (inR (gI v0 0 1) 8) (
  ob (fX2_begins (shf v0 (6 + 2 * (gI v0 0 1).toNatClampNeg)) i1 i2) fun w3 =>
  lm (ptm v0 (6 + 2 * (gI v0 0 1).toNatClampNeg) 2 w3) fun v0_13 =>
  lm (sI v0_13 0 1 ((gI v0_13 0 1) + (1 : Int32))) fun v0_15 =>
  some ((gI v0 0 1).toNatClampNeg, v0_15))
set_option maxHeartbeats 4000000 in
theorem w_fX1_comes (C : Cx G p s m args meth c RX1 cX1_comes 4 (some (.object "WholePacks$Rule"))) {b0 : Nat} {rx : Nat} {rw0 : Mem} : ∀ (v0 : Mem) (i1 : Int32) (i2 : Int32), fX1_comes v0 i1 i2 = some (rx, rw0) → ∀ (H : Heap) (locs : List Loc) (ls : Array Slot), rg G b0 22 (shX1 G.2.1) v0 H → va_S (FA (iv b0 22) s.heap.size) s.heap H locs → H.size = s.heap.size → lv_has ls 4 [(0, .ref b0), (1, .int i1), (2, .int i2)] → W p l e (rmT 1 0 0 23) s m args below meth c H locs 0 0 (MQ below (QcT (FA (iv b0 22) s.heap.size) (fun ov H => ov = (some (.ref (b0 + (6 + 2 * rx + 0)))) ∧ rg G b0 22 (shX1 G.2.1) rw0 H ∧ H.size = s.heap.size ∧ rx < 8)) args s 0 0 (FA (iv b0 22) s.heap.size)) (F0 m 0 ls []) := by
  intro v0 i1 i2 hm H locs ls hW0 hS hz hl
  obtain ⟨hx, hb, hr, hlk, hml, hown, hts, hK⟩ := id C
  unfold fX1_comes at hm
  refine lv_aload_n (pc := 0) hx hb dX1_comes_0 rfl (lv_at hl 0 rfl) ?_
  refine rk_get (pc := 1) hx hb hts hown hK hW0 flX1_27 0 (by decide) rfl rfl (x := .ref (b0 + 2)) (by first | rfl | exact congrArg (fun z => some (Value.ref z)) (by omega)) dX1_comes_1 ?_
  refine lv_aload_n (pc := 4) hx hb dX1_comes_4 rfl (lv_at hl 0 rfl) ?_
  refine rk_get (pc := 5) hx hb hts hown hK hW0 flX1_41 0 (by decide) rfl rfl (x := .int (gI v0 0 1)) rfl dX1_comes_5 ?_
  obtain ⟨hg1, hm⟩ := gb_some hm
  have hlt2 := inR_lt hg1
  refine rk_aald (pc := 8) hx hb hK hW0 2 5 (by decide) rfl rfl rfl hg1 (x := (b0 + (6 + 2 * (gI v0 0 1).toNatClampNeg + 0))) (by first | rfl | exact congrArg some (by omega)) dX1_comes_8 ?_
  refine lv_astore_n (pc := 9) (lv' := [(3, .ref (b0 + (6 + 2 * (gI v0 0 1).toNatClampNeg + 0))), (0, .ref b0), (1, .int i1), (2, .int i2)]) hx hb dX1_comes_9 rfl hl (by decide) rfl (fun ls hl => ?_)
  refine lv_aload_n (pc := 10) hx hb dX1_comes_10 rfl (lv_at hl 0 rfl) ?_
  refine lv_iload_n (pc := 11) hx hb dX1_comes_11 rfl (lv_at hl 2 rfl) ?_
  refine lv_iload_n (pc := 12) hx hb dX1_comes_12 rfl (lv_at hl 3 rfl) ?_
  obtain ⟨w3, hq4, hm⟩ := ob_some hm
  refine rk_TV (pc := 13) (As := [.int i1, .int i2]) (rest := []) (mc := 0) (ms := 0) hx hb hml hown hts hK hS (fun q hq => FA_sz rfl q hq) lkX1_60 rfl yn_X2_begins (ct_X2_begins (G := G) (l := l) (b0 := (b0 + (6 + 2 * (gI v0 0 1).toNatClampNeg + 0))) (sz := H.size) hq4) ⟨Nat.le_of_ble_eq_true rfl, Nat.le_of_ble_eq_true rfl⟩ (fun z h => Or.inl (show iv _ _ _ from ⟨by have h8 := h.1; have h9 := h.2; omega, by have h8 := h.1; have h9 := h.2; omega⟩)) (rk_recv hK hW0 (6 + 2 * (gI v0 0 1).toNatClampNeg + 0) (by omega) rfl rfl ((shX1_f6 G.2.1 hlt2 _ rfl 0 (by decide) _ _ _).trans rfl)) (rg_sub (d := (6 + 2 * (gI v0 0 1).toNatClampNeg)) hW0 rfl (by omega) (fun o ho x y z => shX1_f6 G.2.1 hlt2 _ rfl o ho x y z)) rfl rfl hl.1 (Nat.le_of_ble_eq_true rfl) dX1_comes_13 ⟨Nat.zero_le _, Nat.zero_le _⟩ (fun ov9 H5 locs6 hP7 hkp8 hS9 => ?_)
  obtain ⟨rfl, hW10, hz11⟩ := hP7
  have hW12 := rg_put (d := (6 + 2 * (gI v0 0 1).toNatClampNeg)) hW0 hW10 rfl (fun o ho x y z => shX1_f6 G.2.1 hlt2 _ rfl o ho x y z) hkp8
  obtain ⟨v0_13, he9, hm⟩ := lm_some hm
  rw [he9] at hW12
  have hz14 := hz11.trans hz
  refine W.eq (g2 := F0 m 16 ls []) rfl ?_
  refine lv_aload_n (pc := 16) hx hb dX1_comes_16 rfl (lv_at hl 1 rfl) ?_
  refine lv_dup (pc := 17) hx hb dX1_comes_17 rfl ?_
  refine rk_get (pc := 18) hx hb hts hown hK hW12 flX1_41 0 (by decide) rfl rfl (x := .int (gI v0_13 0 1)) rfl dX1_comes_18 ?_
  refine lv_iconst (pc := 21) (v := (1 : Int32)) hx hb dX1_comes_21 (by decide) ?_
  refine lv_iadd (pc := 22) hx hb dX1_comes_22 ?_
  refine rk_put (pc := 23) hx hb hts hown hK hW12 hS9 flX1_41 ft_X1 0 (by decide) rfl (Or.inl (show iv _ _ _ from ⟨by omega, by omega⟩)) rfl rfl (x := .int ((gI v0_13 0 1) + (1 : Int32))) rfl rfl (Nat.le_of_ble_eq_true rfl) (sI v0_13 0 1 ((gI v0_13 0 1) + (1 : Int32))) sI_ne (by rw [sI_eq]; exact rfl) dX1_comes_23 (fun H16 locs17 hW18 hS19 hz20 hkp21 => ?_)
  obtain ⟨v0_15, he9, hm⟩ := lm_some hm
  rw [he9] at hW18
  have hz22 := hz20.trans hz14
  refine lv_aload_n (pc := 26) hx hb dX1_comes_26 rfl (lv_at hl 0 rfl) ?_
  obtain ⟨e8, e9⟩ := rs2 hm
  subst e8
  subst e9
  exact rk_aret (pc := 27) hx hb hr (Or.inl ⟨_, rfl⟩) hlk hS19 ⟨rfl, hW18, hz22, hlt2⟩ dX1_comes_27
set_option maxHeartbeats 4000000 in
theorem ct_X1_comes {G : Gv} {l : Launch} {b0 : Nat} {v0 : Mem} {i1 : Int32} {i2 : Int32} {rx : Nat} {rw0 : Mem} {sz : Nat} (hm : fX1_comes v0 i1 i2 = some (rx, rw0)) : CT G l yX1_comes (ws_ yX1_comes cX1_comes 4 (some (.object "WholePacks$Rule"))) 1 0 0 23 [.ref b0, .int i1, .int i2] (iv b0 22) sz (fun H => rg G b0 22 (shX1 G.2.1) v0 H) (fun ov H => ov = (some (.ref (b0 + (6 + 2 * rx + 0)))) ∧ rg G b0 22 (shX1 G.2.1) rw0 H ∧ H.size = sz ∧ rx < 8) := by
  refine Met.ofW (cc := cX1_comes) (maxL := 4) (ret := (some (.object "WholePacks$Rule"))) (by decide +kernel) rfl ?_
  intro p e s m args below meth c s₁ B hml hv
  obtain ⟨rfl, ⟨hz, hW0⟩, hK⟩ := hv
  subst hz
  have hts := atoms_spec (ws := ws_ yX1_comes cX1_comes 4 (some (.object "WholePacks$Rule"))) B.pre
  have hts : ∀ w ∈ lw_all, w.before _ s = true := fun w h => hts w (List.mem_cons_of_mem _ h)
  have C : Cx G p s m _ meth c RX1 cX1_comes 4 (some (.object "WholePacks$Rule")) := ⟨B.exec, B.bytes, B.returns, B.notSynchronized, hml, findClass_of_methodNamed B.named, hts, hK⟩
  have hl := lv_entry ([.ref b0, .int i1, .int i2]) (n := 4) (Nat.le_of_ble_eq_true rfl)
  rw [lg_entry_eq]
  generalize (lg_sl ([.ref b0, .int i1, .int i2]) ++ List.replicate (4 - (lg_sl ([.ref b0, .int i1, .int i2])).length) Slot.unset).toArray = ls at hl ⊢
  have hl : lv_has ls 4 [(0, .ref b0), (1, .int i1), (2, .int i2)] := hl
  exact w_fX1_comes C _ _ _ hm s.heap [] ls hW0 va_S.rf rfl hl
theorem lkX1_64 : LSN RX1 64 yX0_in "WholePacks" cX0_in 6 (some .boolean) := ⟨q430, q431, q114, q432⟩
noncomputable def fX1_hasRule (V0 : Mem) (i1 : Int32) : Option (Int32) :=
  ob (fX0_in i1.toInt64 (0 : Int64) ((gI V0 0 1) - (1 : Int32)).toInt64) fun r1 =>
  gb (z01 r1) (some r1)
set_option maxHeartbeats 4000000 in
theorem w_fX1_hasRule (C : Cx G p s m args meth c RX1 cX1_hasRule 2 (some .boolean)) {b0 : Nat} {V0 : Mem} {rx : Int32} (hW0 : rg G b0 22 (shX1 G.2.1) V0 s.heap) : ∀ (i1 : Int32), fX1_hasRule V0 i1 = some rx → ∀ (ls : Array Slot), lv_has ls 2 [(0, .ref b0), (1, .int i1)] → W p l e (rmP 1 25) s m args below meth c s.heap [] 0 0 (MQ below (QcP (some (.int rx))) args s 0 0 (fun _ => False)) (F0 m 0 ls []) := by
  intro i1 hm ls hl
  obtain ⟨hx, hb, hr, hlk, hml, hown, hts, hK⟩ := id C
  unfold fX1_hasRule at hm
  refine lv_iload_n (pc := 0) hx hb dX1_hasRule_0 rfl (lv_at hl 1 rfl) ?_
  refine lv_i2l (pc := 1) hx hb dX1_hasRule_1 rfl ?_
  refine lv_lconst (pc := 2) (v := (0 : Int64)) hx hb dX1_hasRule_2 (by decide) ?_
  refine lv_aload_n (pc := 3) hx hb dX1_hasRule_3 rfl (lv_at hl 0 rfl) ?_
  refine rk_get (pc := 4) hx hb hts hown hK hW0 flX1_41 0 (by decide) rfl rfl (x := .int (gI V0 0 1)) rfl dX1_hasRule_4 ?_
  refine lv_iconst (pc := 7) (v := (1 : Int32)) hx hb dX1_hasRule_7 (by decide) ?_
  refine lv_isub (pc := 8) hx hb dX1_hasRule_8 ?_
  refine lv_i2l (pc := 9) hx hb dX1_hasRule_9 rfl ?_
  obtain ⟨r1, hq2, hm⟩ := ob_some hm
  refine rk_PSN (pc := 10) (As := [.long i1.toInt64, .long (0 : Int64), .long ((gI V0 0 1) - (1 : Int32)).toInt64]) (rest := []) hx hb hml hown hts hK lkX1_64 yn_X0_in (ct_X0_in (G := G) (l := l) hq2) ⟨Nat.le_of_ble_eq_true rfl, Nat.le_of_ble_eq_true rfl⟩ trivial rfl rfl hl.1 (Nat.le_of_ble_eq_true rfl) dX1_hasRule_10 ⟨Nat.zero_le _, Nat.zero_le _⟩ ?_
  refine W.eq (g2 := F0 m 13 ls [.int r1]) rfl ?_
  obtain ⟨hg3, hm⟩ := gb_some hm
  have e9 := rs1 hm
  subst e9
  exact rk_zretP (pc := 13) hx hb hr hlk hg3 rfl dX1_hasRule_13
set_option maxHeartbeats 4000000 in
theorem ct_X1_hasRule {G : Gv} {l : Launch} {b0 : Nat} {V0 : Mem} {i1 : Int32} {rx : Int32} (hm : fX1_hasRule V0 i1 = some rx) : CP G l yX1_hasRule (ws_ yX1_hasRule cX1_hasRule 2 (some .boolean)) 1 25 [.ref b0, .int i1] (fun H => rg G b0 22 (shX1 G.2.1) V0 H) (some (.int rx)) := by
  refine Met.ofW (cc := cX1_hasRule) (maxL := 2) (ret := (some .boolean)) (by decide +kernel) rfl ?_
  intro p e s m args below meth c s₁ B hml hv
  obtain ⟨rfl, hW0, hK⟩ := hv
  have hts := atoms_spec (ws := ws_ yX1_hasRule cX1_hasRule 2 (some .boolean)) B.pre
  have hts : ∀ w ∈ lw_all, w.before _ s = true := fun w h => hts w (List.mem_cons_of_mem _ h)
  have C : Cx G p s m _ meth c RX1 cX1_hasRule 2 (some .boolean) := ⟨B.exec, B.bytes, B.returns, B.notSynchronized, hml, findClass_of_methodNamed B.named, hts, hK⟩
  have hl := lv_entry ([.ref b0, .int i1]) (n := 2) (Nat.le_of_ble_eq_true rfl)
  rw [lg_entry_eq]
  generalize (lg_sl ([.ref b0, .int i1]) ++ List.replicate (2 - (lg_sl ([.ref b0, .int i1])).length) Slot.unset).toArray = ls at hl ⊢
  have hl : lv_has ls 2 [(0, .ref b0), (1, .int i1)] := hl
  exact w_fX1_hasRule C hW0 _ hm ls hl
noncomputable def fX1_hasPack (V0 : Mem) (i1 : Int32) : Option (Int32) :=
  ob (fX0_in i1.toInt64 (0 : Int64) ((gI V0 0 0) - (1 : Int32)).toInt64) fun r1 =>
  gb (z01 r1) (some r1)
set_option maxHeartbeats 4000000 in
theorem w_fX1_hasPack (C : Cx G p s m args meth c RX1 cX1_hasPack 2 (some .boolean)) {b0 : Nat} {V0 : Mem} {rx : Int32} (hW0 : rg G b0 22 (shX1 G.2.1) V0 s.heap) : ∀ (i1 : Int32), fX1_hasPack V0 i1 = some rx → ∀ (ls : Array Slot), lv_has ls 2 [(0, .ref b0), (1, .int i1)] → W p l e (rmP 1 25) s m args below meth c s.heap [] 0 0 (MQ below (QcP (some (.int rx))) args s 0 0 (fun _ => False)) (F0 m 0 ls []) := by
  intro i1 hm ls hl
  obtain ⟨hx, hb, hr, hlk, hml, hown, hts, hK⟩ := id C
  unfold fX1_hasPack at hm
  refine lv_iload_n (pc := 0) hx hb dX1_hasPack_0 rfl (lv_at hl 1 rfl) ?_
  refine lv_i2l (pc := 1) hx hb dX1_hasPack_1 rfl ?_
  refine lv_lconst (pc := 2) (v := (0 : Int64)) hx hb dX1_hasPack_2 (by decide) ?_
  refine lv_aload_n (pc := 3) hx hb dX1_hasPack_3 rfl (lv_at hl 0 rfl) ?_
  refine rk_get (pc := 4) hx hb hts hown hK hW0 flX1_9 0 (by decide) rfl rfl (x := .int (gI V0 0 0)) rfl dX1_hasPack_4 ?_
  refine lv_iconst (pc := 7) (v := (1 : Int32)) hx hb dX1_hasPack_7 (by decide) ?_
  refine lv_isub (pc := 8) hx hb dX1_hasPack_8 ?_
  refine lv_i2l (pc := 9) hx hb dX1_hasPack_9 rfl ?_
  obtain ⟨r1, hq2, hm⟩ := ob_some hm
  refine rk_PSN (pc := 10) (As := [.long i1.toInt64, .long (0 : Int64), .long ((gI V0 0 0) - (1 : Int32)).toInt64]) (rest := []) hx hb hml hown hts hK lkX1_64 yn_X0_in (ct_X0_in (G := G) (l := l) hq2) ⟨Nat.le_of_ble_eq_true rfl, Nat.le_of_ble_eq_true rfl⟩ trivial rfl rfl hl.1 (Nat.le_of_ble_eq_true rfl) dX1_hasPack_10 ⟨Nat.zero_le _, Nat.zero_le _⟩ ?_
  refine W.eq (g2 := F0 m 13 ls [.int r1]) rfl ?_
  obtain ⟨hg3, hm⟩ := gb_some hm
  have e9 := rs1 hm
  subst e9
  exact rk_zretP (pc := 13) hx hb hr hlk hg3 rfl dX1_hasPack_13
set_option maxHeartbeats 4000000 in
theorem ct_X1_hasPack {G : Gv} {l : Launch} {b0 : Nat} {V0 : Mem} {i1 : Int32} {rx : Int32} (hm : fX1_hasPack V0 i1 = some rx) : CP G l yX1_hasPack (ws_ yX1_hasPack cX1_hasPack 2 (some .boolean)) 1 25 [.ref b0, .int i1] (fun H => rg G b0 22 (shX1 G.2.1) V0 H) (some (.int rx)) := by
  refine Met.ofW (cc := cX1_hasPack) (maxL := 2) (ret := (some .boolean)) (by decide +kernel) rfl ?_
  intro p e s m args below meth c s₁ B hml hv
  obtain ⟨rfl, hW0, hK⟩ := hv
  have hts := atoms_spec (ws := ws_ yX1_hasPack cX1_hasPack 2 (some .boolean)) B.pre
  have hts : ∀ w ∈ lw_all, w.before _ s = true := fun w h => hts w (List.mem_cons_of_mem _ h)
  have C : Cx G p s m _ meth c RX1 cX1_hasPack 2 (some .boolean) := ⟨B.exec, B.bytes, B.returns, B.notSynchronized, hml, findClass_of_methodNamed B.named, hts, hK⟩
  have hl := lv_entry ([.ref b0, .int i1]) (n := 2) (Nat.le_of_ble_eq_true rfl)
  rw [lg_entry_eq]
  generalize (lg_sl ([.ref b0, .int i1]) ++ List.replicate (2 - (lg_sl ([.ref b0, .int i1])).length) Slot.unset).toArray = ls at hl ⊢
  have hl : lv_has ls 2 [(0, .ref b0), (1, .int i1)] := hl
  exact w_fX1_hasPack C hW0 _ hm ls hl
theorem lkX1_76 : LSt RX1 76 yJ7_floorDiv cJ7_floorDiv 6 (some .long) := ⟨q974, q872, q136, q873⟩
noncomputable def fX2_points (V0 : Mem) (i1 : Int32) : Option (Int64) :=
  if (gI V0 0 0) = 0 then (
  gb (inR i1 5) (
  some (-(gI V0 1 i1.toNatClampNeg)).toInt64))
  else (
  gb (inR i1 5) (
  some (gI V0 1 i1.toNatClampNeg).toInt64))
set_option maxHeartbeats 4000000 in
theorem w_fX2_points (C : Cx G p s m args meth c RX2 cX2_points 2 (some .long)) {b0 : Nat} {V0 : Mem} {rx : Int64} (hW0 : rg G b0 2 (shX2 G.2.1) V0 s.heap) : ∀ (i1 : Int32), fX2_points V0 i1 = some rx → ∀ (ls : Array Slot), lv_has ls 2 [(0, .ref b0), (1, .int i1)] → W p l e (rmP 0 0) s m args below meth c s.heap [] 0 0 (MQ below (QcP (some (.long rx))) args s 0 0 (fun _ => False)) (F0 m 0 ls []) := by
  intro i1 hm ls hl
  obtain ⟨hx, hb, hr, hlk, hml, hown, hts, hK⟩ := id C
  unfold fX2_points at hm
  refine lv_aload_n (pc := 0) hx hb dX2_points_0 rfl (lv_at hl 0 rfl) ?_
  refine rk_get (pc := 1) hx hb hts hown hK hW0 flX2_15 0 (by decide) rfl rfl (x := .int (gI V0 0 0)) rfl dX2_points_1 ?_
  refine lv_if_ne (pc := 4) (tgt := 18) hx hb dX2_points_4 (by decide) (fun c1 => ?_) (fun c1 => ?_)
  · have hm := ite_f c1 hm
    refine lv_aload_n (pc := 18) hx hb dX2_points_18 rfl (lv_at hl 0 rfl) ?_
    refine rk_get (pc := 19) hx hb hts hown hK hW0 flX2_9 0 (by decide) rfl rfl (x := .ref (b0 + 1)) (by first | rfl | exact congrArg (fun z => some (Value.ref z)) (by omega)) dX2_points_19 ?_
    refine lv_iload_n (pc := 22) hx hb dX2_points_22 rfl (lv_at hl 1 rfl) ?_
    obtain ⟨hg2, hm⟩ := gb_some hm
    refine rk_iald (pc := 23) hx hb hK hW0 1 (by decide) rfl rfl hg2 (x := (gI V0 1 i1.toNatClampNeg)) rfl dX2_points_23 ?_
    refine lv_i2l (pc := 24) hx hb dX2_points_24 rfl ?_
    have e9 := rs1 hm
    subst e9
    exact rk_lretP (pc := 25) hx hb hr hlk rfl dX2_points_25
  · have hm := ite_t c1 hm
    refine lv_aload_n (pc := 7) hx hb dX2_points_7 rfl (lv_at hl 0 rfl) ?_
    refine rk_get (pc := 8) hx hb hts hown hK hW0 flX2_9 0 (by decide) rfl rfl (x := .ref (b0 + 1)) (by first | rfl | exact congrArg (fun z => some (Value.ref z)) (by omega)) dX2_points_8 ?_
    refine lv_iload_n (pc := 11) hx hb dX2_points_11 rfl (lv_at hl 1 rfl) ?_
    obtain ⟨hg3, hm⟩ := gb_some hm
    refine rk_iald (pc := 12) hx hb hK hW0 1 (by decide) rfl rfl hg3 (x := (gI V0 1 i1.toNatClampNeg)) rfl dX2_points_12 ?_
    refine lv_ineg (pc := 13) hx hb dX2_points_13 ?_
    refine lv_i2l (pc := 14) hx hb dX2_points_14 rfl ?_
    refine lv_goto (pc := 15) (tgt := 25) hx hb dX2_points_15 (by decide) ?_
    have e9 := rs1 hm
    subst e9
    exact rk_lretP (pc := 25) hx hb hr hlk rfl dX2_points_25
set_option maxHeartbeats 4000000 in
theorem ct_X2_points {G : Gv} {l : Launch} {b0 : Nat} {V0 : Mem} {i1 : Int32} {rx : Int64} (hm : fX2_points V0 i1 = some rx) : CP G l yX2_points (ws_ yX2_points cX2_points 2 (some .long)) 0 0 [.ref b0, .int i1] (fun H => rg G b0 2 (shX2 G.2.1) V0 H) (some (.long rx)) := by
  refine Met.ofW (cc := cX2_points) (maxL := 2) (ret := (some .long)) (by decide +kernel) rfl ?_
  intro p e s m args below meth c s₁ B hml hv
  obtain ⟨rfl, hW0, hK⟩ := hv
  have hts := atoms_spec (ws := ws_ yX2_points cX2_points 2 (some .long)) B.pre
  have hts : ∀ w ∈ lw_all, w.before _ s = true := fun w h => hts w (List.mem_cons_of_mem _ h)
  have C : Cx G p s m _ meth c RX2 cX2_points 2 (some .long) := ⟨B.exec, B.bytes, B.returns, B.notSynchronized, hml, findClass_of_methodNamed B.named, hts, hK⟩
  have hl := lv_entry ([.ref b0, .int i1]) (n := 2) (Nat.le_of_ble_eq_true rfl)
  rw [lg_entry_eq]
  generalize (lg_sl ([.ref b0, .int i1]) ++ List.replicate (2 - (lg_sl ([.ref b0, .int i1])).length) Slot.unset).toArray = ls at hl ⊢
  have hl : lv_has ls 2 [(0, .ref b0), (1, .int i1)] := hl
  exact w_fX2_points C hW0 _ hm ls hl
theorem yn_X2_points : YN yX2_points 1 := by
  unfold YN
  decide +kernel
theorem lkX1_72 : LV RX1 72 RX2 yX2_points cX2_points 2 (some .long) := ⟨q973, q790, q791, q116, q792⟩
noncomputable def fX2_limit (V0 : Mem) : Option (Int64) :=
  if (gI V0 0 0) = 0 then (
  some (-(gI V0 0 1)).toInt64)
  else (
  some (gI V0 0 1).toInt64)
set_option maxHeartbeats 4000000 in
theorem w_fX2_limit (C : Cx G p s m args meth c RX2 cX2_limit 1 (some .long)) {b0 : Nat} {V0 : Mem} {rx : Int64} (hW0 : rg G b0 2 (shX2 G.2.1) V0 s.heap) : fX2_limit V0 = some rx → ∀ (ls : Array Slot), lv_has ls 1 [(0, .ref b0)] → W p l e (rmP 0 0) s m args below meth c s.heap [] 0 0 (MQ below (QcP (some (.long rx))) args s 0 0 (fun _ => False)) (F0 m 0 ls []) := by
  intro hm ls hl
  obtain ⟨hx, hb, hr, hlk, hml, hown, hts, hK⟩ := id C
  unfold fX2_limit at hm
  refine lv_aload_n (pc := 0) hx hb dX2_limit_0 rfl (lv_at hl 0 rfl) ?_
  refine rk_get (pc := 1) hx hb hts hown hK hW0 flX2_15 0 (by decide) rfl rfl (x := .int (gI V0 0 0)) rfl dX2_limit_1 ?_
  refine lv_if_ne (pc := 4) (tgt := 16) hx hb dX2_limit_4 (by decide) (fun c1 => ?_) (fun c1 => ?_)
  · have hm := ite_f c1 hm
    refine lv_aload_n (pc := 16) hx hb dX2_limit_16 rfl (lv_at hl 0 rfl) ?_
    refine rk_get (pc := 17) hx hb hts hown hK hW0 flX2_19 0 (by decide) rfl rfl (x := .int (gI V0 0 1)) rfl dX2_limit_17 ?_
    refine lv_i2l (pc := 20) hx hb dX2_limit_20 rfl ?_
    have e9 := rs1 hm
    subst e9
    exact rk_lretP (pc := 21) hx hb hr hlk rfl dX2_limit_21
  · have hm := ite_t c1 hm
    refine lv_aload_n (pc := 7) hx hb dX2_limit_7 rfl (lv_at hl 0 rfl) ?_
    refine rk_get (pc := 8) hx hb hts hown hK hW0 flX2_19 0 (by decide) rfl rfl (x := .int (gI V0 0 1)) rfl dX2_limit_8 ?_
    refine lv_ineg (pc := 11) hx hb dX2_limit_11 ?_
    refine lv_i2l (pc := 12) hx hb dX2_limit_12 rfl ?_
    refine lv_goto (pc := 13) (tgt := 21) hx hb dX2_limit_13 (by decide) ?_
    have e9 := rs1 hm
    subst e9
    exact rk_lretP (pc := 21) hx hb hr hlk rfl dX2_limit_21
set_option maxHeartbeats 4000000 in
theorem ct_X2_limit {G : Gv} {l : Launch} {b0 : Nat} {V0 : Mem} {rx : Int64} (hm : fX2_limit V0  = some rx) : CP G l yX2_limit (ws_ yX2_limit cX2_limit 1 (some .long)) 0 0 [.ref b0] (fun H => rg G b0 2 (shX2 G.2.1) V0 H) (some (.long rx)) := by
  refine Met.ofW (cc := cX2_limit) (maxL := 1) (ret := (some .long)) (by decide +kernel) rfl ?_
  intro p e s m args below meth c s₁ B hml hv
  obtain ⟨rfl, hW0, hK⟩ := hv
  have hts := atoms_spec (ws := ws_ yX2_limit cX2_limit 1 (some .long)) B.pre
  have hts : ∀ w ∈ lw_all, w.before _ s = true := fun w h => hts w (List.mem_cons_of_mem _ h)
  have C : Cx G p s m _ meth c RX2 cX2_limit 1 (some .long) := ⟨B.exec, B.bytes, B.returns, B.notSynchronized, hml, findClass_of_methodNamed B.named, hts, hK⟩
  have hl := lv_entry ([.ref b0]) (n := 1) (Nat.le_of_ble_eq_true rfl)
  rw [lg_entry_eq]
  generalize (lg_sl ([.ref b0]) ++ List.replicate (1 - (lg_sl ([.ref b0])).length) Slot.unset).toArray = ls at hl ⊢
  have hl : lv_has ls 1 [(0, .ref b0)] := hl
  exact w_fX2_limit C hW0  hm ls hl
theorem yn_X2_limit : YN yX2_limit 0 := by
  unfold YN
  decide +kernel
theorem lkX1_68 : LV RX1 68 RX2 yX2_limit cX2_limit 1 (some .long) := ⟨q972, q782, q783, q116, q784⟩
noncomputable def fX1_handPoints_5 (V0 : Mem) (k5 : Int32 → Int64 → Int32 → Option (Int64)) (i1 : Int32) (j2 : Int64) (i4 : Int32) : Option (Int64) :=
  if (gI V0 0 1) ≤ i4 then (
  ob (fJ7_floorDiv j2 (gI V0 0 2).toInt64) fun r2 =>
  some r2)
  else (
  gb (inR i4 8) (
  if i1 = (gI V0 0 0) then (
  gb (inR i4 8) (
  ob (fX2_limit (shf V0 (6 + 2 * i4.toNatClampNeg))) fun r12 =>
  k5 i1 (j2 + ((gI V0 3 i4.toNatClampNeg).toInt64 * r12)) (i4 + (1 : Int32))))
  else (
  gb (inR i4 8) (
  ob (fX2_points (shf V0 (6 + 2 * i4.toNatClampNeg)) i1) fun r8 =>
  k5 i1 (j2 + ((gI V0 3 i4.toNatClampNeg).toInt64 * r8)) (i4 + (1 : Int32))))))
noncomputable def fX1_handPoints (V0 : Mem) (i1 : Int32) : Option (Int64) :=
  lq3 (fX1_handPoints_5 V0) FU i1 (0 : Int64) (0 : Int32)
set_option maxHeartbeats 4000000 in
theorem w_fX1_handPoints_5 (C : Cx G p s m args meth c RX1 cX1_handPoints 5 (some .long)) {b0 : Nat} {V0 : Mem} {rx : Int64} (hW0 : rg G b0 22 (shX1 G.2.1) V0 s.heap) {k5 : Int32 → Int64 → Int32 → Option (Int64)} (hk5 : ∀ (i1 : Int32) (j2 : Int64) (i4 : Int32), k5 i1 j2 i4 = some rx → ∀ (ls : Array Slot), lv_has ls 5 [(0, .ref b0), (1, .int i1), (2, .long j2), (4, .int i4)] → W p l e (rmP 1 25) s m args below meth c s.heap [] 0 0 (MQ below (QcP (some (.long rx))) args s 0 0 (fun _ => False)) (F0 m 5 ls [])) : ∀ (i1 : Int32) (j2 : Int64) (i4 : Int32), fX1_handPoints_5 V0 k5 i1 j2 i4 = some rx → ∀ (ls : Array Slot), lv_has ls 5 [(0, .ref b0), (1, .int i1), (2, .long j2), (4, .int i4)] → W p l e (rmP 1 25) s m args below meth c s.heap [] 0 0 (MQ below (QcP (some (.long rx))) args s 0 0 (fun _ => False)) (F0 m 5 ls []) := by
  intro i1 j2 i4 hm ls hl
  obtain ⟨hx, hb, hr, hlk, hml, hown, hts, hK⟩ := id C
  unfold fX1_handPoints_5 at hm
  refine lv_iload (pc := 5) hx hb dX1_handPoints_5 (lv_at hl 3 rfl) ?_
  refine lv_aload_n (pc := 7) hx hb dX1_handPoints_7 rfl (lv_at hl 0 rfl) ?_
  refine rk_get (pc := 8) hx hb hts hown hK hW0 flX1_41 0 (by decide) rfl rfl (x := .int (gI V0 0 1)) rfl dX1_handPoints_8 ?_
  refine lv_icmp_ge (pc := 11) (tgt := 64) hx hb dX1_handPoints_11 (by decide) (fun c1 => ?_) (fun c1 => ?_)
  · have hm := ite_t c1 hm
    refine lv_lload_n (pc := 64) hx hb dX1_handPoints_64 rfl (lv_at hl 2 rfl) ?_
    refine lv_aload_n (pc := 65) hx hb dX1_handPoints_65 rfl (lv_at hl 0 rfl) ?_
    refine rk_get (pc := 66) hx hb hts hown hK hW0 flX1_15 0 (by decide) rfl rfl (x := .int (gI V0 0 2)) rfl dX1_handPoints_66 ?_
    refine lv_i2l (pc := 69) hx hb dX1_handPoints_69 rfl ?_
    obtain ⟨r2, hq3, hm⟩ := ob_some hm
    refine rk_PS (pc := 70) (As := [.long j2, .long (gI V0 0 2).toInt64]) (rest := []) hx hb hml hown hts hK lkX1_76 yn_J7_floorDiv (ct_J7_floorDiv (G := G) (l := l) hq3) ⟨Nat.le_of_ble_eq_true rfl, Nat.le_of_ble_eq_true rfl⟩ trivial rfl rfl hl.1 (Nat.le_of_ble_eq_true rfl) dX1_handPoints_70 ⟨Nat.zero_le _, Nat.zero_le _⟩ ?_
    refine W.eq (g2 := F0 m 73 ls [.long r2]) rfl ?_
    have e9 := rs1 hm
    subst e9
    exact rk_lretP (pc := 73) hx hb hr hlk rfl dX1_handPoints_73
  · have hm := ite_f c1 hm
    refine lv_lload_n (pc := 14) hx hb dX1_handPoints_14 rfl (lv_at hl 2 rfl) ?_
    refine lv_aload_n (pc := 15) hx hb dX1_handPoints_15 rfl (lv_at hl 0 rfl) ?_
    refine rk_get (pc := 16) hx hb hts hown hK hW0 flX1_31 0 (by decide) rfl rfl (x := .ref (b0 + 3)) (by first | rfl | exact congrArg (fun z => some (Value.ref z)) (by omega)) dX1_handPoints_16 ?_
    refine lv_iload (pc := 19) hx hb dX1_handPoints_19 (lv_at hl 3 rfl) ?_
    obtain ⟨hg4, hm⟩ := gb_some hm
    refine rk_iald (pc := 21) hx hb hK hW0 3 (by decide) rfl rfl hg4 (x := (gI V0 3 i4.toNatClampNeg)) rfl dX1_handPoints_21 ?_
    refine lv_i2l (pc := 22) hx hb dX1_handPoints_22 rfl ?_
    refine lv_iload_n (pc := 23) hx hb dX1_handPoints_23 rfl (lv_at hl 1 rfl) ?_
    refine lv_aload_n (pc := 24) hx hb dX1_handPoints_24 rfl (lv_at hl 0 rfl) ?_
    refine rk_get (pc := 25) hx hb hts hown hK hW0 flX1_9 0 (by decide) rfl rfl (x := .int (gI V0 0 0)) rfl dX1_handPoints_25 ?_
    refine lv_icmp_ne (pc := 28) (tgt := 44) hx hb dX1_handPoints_28 (by decide) (fun c5 => ?_) (fun c5 => ?_)
    · have hm := ite_f c5 hm
      refine lv_aload_n (pc := 44) hx hb dX1_handPoints_44 rfl (lv_at hl 0 rfl) ?_
      refine rk_get (pc := 45) hx hb hts hown hK hW0 flX1_27 0 (by decide) rfl rfl (x := .ref (b0 + 2)) (by first | rfl | exact congrArg (fun z => some (Value.ref z)) (by omega)) dX1_handPoints_45 ?_
      refine lv_iload (pc := 48) hx hb dX1_handPoints_48 (lv_at hl 3 rfl) ?_
      obtain ⟨hg6, hm⟩ := gb_some hm
      have hlt7 := inR_lt hg6
      refine rk_aald (pc := 50) hx hb hK hW0 2 5 (by decide) rfl rfl rfl hg6 (x := (b0 + (6 + 2 * i4.toNatClampNeg + 0))) (by first | rfl | exact congrArg some (by omega)) dX1_handPoints_50 ?_
      refine lv_iload_n (pc := 51) hx hb dX1_handPoints_51 rfl (lv_at hl 1 rfl) ?_
      obtain ⟨r8, hq9, hm⟩ := ob_some hm
      refine rk_PV (pc := 52) (As := [.int i1]) (rest := [.long (gI V0 3 i4.toNatClampNeg).toInt64, .long j2]) hx hb hml hown hts hK lkX1_72 rfl yn_X2_points (ct_X2_points (G := G) (l := l) (b0 := (b0 + (6 + 2 * i4.toNatClampNeg + 0))) hq9) ⟨Nat.le_of_ble_eq_true rfl, Nat.le_of_ble_eq_true rfl⟩ (rk_recv hK hW0 (6 + 2 * i4.toNatClampNeg + 0) (by omega) rfl rfl ((shX1_f6 G.2.1 hlt7 _ rfl 0 (by decide) _ _ _).trans rfl)) (rg_sub (d := (6 + 2 * i4.toNatClampNeg)) hW0 rfl (by omega) (fun o ho x y z => shX1_f6 G.2.1 hlt7 _ rfl o ho x y z)) rfl rfl hl.1 (Nat.le_of_ble_eq_true rfl) dX1_handPoints_52 ⟨Nat.zero_le _, Nat.zero_le _⟩ ?_
      refine W.eq (g2 := F0 m 55 ls [.long r8, .long (gI V0 3 i4.toNatClampNeg).toInt64, .long j2]) rfl ?_
      refine lv_lmul (pc := 55) hx hb dX1_handPoints_55 ?_
      refine lv_ladd (pc := 56) hx hb dX1_handPoints_56 ?_
      refine lv_lstore_n (pc := 57) (lv' := [(2, .long (j2 + ((gI V0 3 i4.toNatClampNeg).toInt64 * r8))), (0, .ref b0), (1, .int i1), (4, .int i4)]) hx hb dX1_handPoints_57 rfl hl (by decide) rfl (fun ls hl => ?_)
      refine lv_iinc (pc := 58) (v := (i4 + (1 : Int32))) (lv' := [(4, .int (i4 + (1 : Int32))), (2, .long (j2 + ((gI V0 3 i4.toNatClampNeg).toInt64 * r8))), (0, .ref b0), (1, .int i1)]) hx hb dX1_handPoints_58 hl (k := 3) rfl rfl (by decide) rfl (fun ls hl => ?_)
      refine lv_goto (pc := 61) (tgt := 5) hx hb dX1_handPoints_61 (by decide) ?_
      exact hk5 i1 (j2 + ((gI V0 3 i4.toNatClampNeg).toInt64 * r8)) (i4 + (1 : Int32)) hm ls (lv_sub hl [2, 3, 1, 0] rfl)
    · have hm := ite_t c5 hm
      refine lv_aload_n (pc := 31) hx hb dX1_handPoints_31 rfl (lv_at hl 0 rfl) ?_
      refine rk_get (pc := 32) hx hb hts hown hK hW0 flX1_27 0 (by decide) rfl rfl (x := .ref (b0 + 2)) (by first | rfl | exact congrArg (fun z => some (Value.ref z)) (by omega)) dX1_handPoints_32 ?_
      refine lv_iload (pc := 35) hx hb dX1_handPoints_35 (lv_at hl 3 rfl) ?_
      obtain ⟨hg10, hm⟩ := gb_some hm
      have hlt11 := inR_lt hg10
      refine rk_aald (pc := 37) hx hb hK hW0 2 5 (by decide) rfl rfl rfl hg10 (x := (b0 + (6 + 2 * i4.toNatClampNeg + 0))) (by first | rfl | exact congrArg some (by omega)) dX1_handPoints_37 ?_
      obtain ⟨r12, hq13, hm⟩ := ob_some hm
      refine rk_PV (pc := 38) (As := []) (rest := [.long (gI V0 3 i4.toNatClampNeg).toInt64, .long j2]) hx hb hml hown hts hK lkX1_68 rfl yn_X2_limit (ct_X2_limit (G := G) (l := l) (b0 := (b0 + (6 + 2 * i4.toNatClampNeg + 0))) hq13) ⟨Nat.le_of_ble_eq_true rfl, Nat.le_of_ble_eq_true rfl⟩ (rk_recv hK hW0 (6 + 2 * i4.toNatClampNeg + 0) (by omega) rfl rfl ((shX1_f6 G.2.1 hlt11 _ rfl 0 (by decide) _ _ _).trans rfl)) (rg_sub (d := (6 + 2 * i4.toNatClampNeg)) hW0 rfl (by omega) (fun o ho x y z => shX1_f6 G.2.1 hlt11 _ rfl o ho x y z)) rfl rfl hl.1 (Nat.le_of_ble_eq_true rfl) dX1_handPoints_38 ⟨Nat.zero_le _, Nat.zero_le _⟩ ?_
      refine W.eq (g2 := F0 m 41 ls [.long r12, .long (gI V0 3 i4.toNatClampNeg).toInt64, .long j2]) rfl ?_
      refine lv_goto (pc := 41) (tgt := 55) hx hb dX1_handPoints_41 (by decide) ?_
      refine lv_lmul (pc := 55) hx hb dX1_handPoints_55 ?_
      refine lv_ladd (pc := 56) hx hb dX1_handPoints_56 ?_
      refine lv_lstore_n (pc := 57) (lv' := [(2, .long (j2 + ((gI V0 3 i4.toNatClampNeg).toInt64 * r12))), (0, .ref b0), (1, .int i1), (4, .int i4)]) hx hb dX1_handPoints_57 rfl hl (by decide) rfl (fun ls hl => ?_)
      refine lv_iinc (pc := 58) (v := (i4 + (1 : Int32))) (lv' := [(4, .int (i4 + (1 : Int32))), (2, .long (j2 + ((gI V0 3 i4.toNatClampNeg).toInt64 * r12))), (0, .ref b0), (1, .int i1)]) hx hb dX1_handPoints_58 hl (k := 3) rfl rfl (by decide) rfl (fun ls hl => ?_)
      refine lv_goto (pc := 61) (tgt := 5) hx hb dX1_handPoints_61 (by decide) ?_
      exact hk5 i1 (j2 + ((gI V0 3 i4.toNatClampNeg).toInt64 * r12)) (i4 + (1 : Int32)) hm ls (lv_sub hl [2, 3, 1, 0] rfl)
theorem w_fX1_handPoints_5_l (C : Cx G p s m args meth c RX1 cX1_handPoints 5 (some .long)) {b0 : Nat} {V0 : Mem} {rx : Int64} (hW0 : rg G b0 22 (shX1 G.2.1) V0 s.heap) : ∀ (n : Nat) (i1 : Int32) (j2 : Int64) (i4 : Int32), lq3 (fX1_handPoints_5 V0) n i1 j2 i4 = some rx → ∀ (ls : Array Slot), lv_has ls 5 [(0, .ref b0), (1, .int i1), (2, .long j2), (4, .int i4)] → W p l e (rmP 1 25) s m args below meth c s.heap [] 0 0 (MQ below (QcP (some (.long rx))) args s 0 0 (fun _ => False)) (F0 m 5 ls []) := by
  intro n
  induction n with
  | zero => intro i1 j2 i4 hm; exact (lq3_0 hm).elim
  | succ n ih => intro i1 j2 i4 hm; exact w_fX1_handPoints_5 C hW0 ih i1 j2 i4 (lq3_s hm)
set_option maxHeartbeats 4000000 in
theorem w_fX1_handPoints (C : Cx G p s m args meth c RX1 cX1_handPoints 5 (some .long)) {b0 : Nat} {V0 : Mem} {rx : Int64} (hW0 : rg G b0 22 (shX1 G.2.1) V0 s.heap) : ∀ (i1 : Int32), fX1_handPoints V0 i1 = some rx → ∀ (ls : Array Slot), lv_has ls 5 [(0, .ref b0), (1, .int i1)] → W p l e (rmP 1 25) s m args below meth c s.heap [] 0 0 (MQ below (QcP (some (.long rx))) args s 0 0 (fun _ => False)) (F0 m 0 ls []) := by
  intro i1 hm ls hl
  obtain ⟨hx, hb, hr, hlk, hml, hown, hts, hK⟩ := id C
  unfold fX1_handPoints at hm
  refine lv_lconst (pc := 0) (v := (0 : Int64)) hx hb dX1_handPoints_0 (by decide) ?_
  refine lv_lstore_n (pc := 1) (lv' := [(2, .long (0 : Int64)), (0, .ref b0), (1, .int i1)]) hx hb dX1_handPoints_1 rfl hl (by decide) rfl (fun ls hl => ?_)
  refine lv_iconst (pc := 2) (v := (0 : Int32)) hx hb dX1_handPoints_2 (by decide) ?_
  refine lv_istore (pc := 3) (lv' := [(4, .int (0 : Int32)), (2, .long (0 : Int64)), (0, .ref b0), (1, .int i1)]) hx hb dX1_handPoints_3 hl (by decide) rfl (fun ls hl => ?_)
  exact (w_fX1_handPoints_5_l C hW0 FU) i1 (0 : Int64) (0 : Int32) hm ls (lv_sub hl [2, 3, 1, 0] rfl)
set_option maxHeartbeats 4000000 in
theorem ct_X1_handPoints {G : Gv} {l : Launch} {b0 : Nat} {V0 : Mem} {i1 : Int32} {rx : Int64} (hm : fX1_handPoints V0 i1 = some rx) : CP G l yX1_handPoints (ws_ yX1_handPoints cX1_handPoints 5 (some .long)) 1 25 [.ref b0, .int i1] (fun H => rg G b0 22 (shX1 G.2.1) V0 H) (some (.long rx)) := by
  refine Met.ofW (cc := cX1_handPoints) (maxL := 5) (ret := (some .long)) (by decide +kernel) rfl ?_
  intro p e s m args below meth c s₁ B hml hv
  obtain ⟨rfl, hW0, hK⟩ := hv
  have hts := atoms_spec (ws := ws_ yX1_handPoints cX1_handPoints 5 (some .long)) B.pre
  have hts : ∀ w ∈ lw_all, w.before _ s = true := fun w h => hts w (List.mem_cons_of_mem _ h)
  have C : Cx G p s m _ meth c RX1 cX1_handPoints 5 (some .long) := ⟨B.exec, B.bytes, B.returns, B.notSynchronized, hml, findClass_of_methodNamed B.named, hts, hK⟩
  have hl := lv_entry ([.ref b0, .int i1]) (n := 5) (Nat.le_of_ble_eq_true rfl)
  rw [lg_entry_eq]
  generalize (lg_sl ([.ref b0, .int i1]) ++ List.replicate (5 - (lg_sl ([.ref b0, .int i1])).length) Slot.unset).toArray = ls at hl ⊢
  have hl : lv_has ls 5 [(0, .ref b0), (1, .int i1)] := hl
  exact w_fX1_handPoints C hW0 _ hm ls hl
theorem ft_X7 : FT TX7 2 tyX7 := ⟨tyX7_ok, nmX7⟩
theorem flX7_7 : FL RX7 7 7 0 RX7 TX7 2 := ⟨in_X7, rfl, by decide, q448⟩
theorem flX7_13 : FL RX7 13 7 1 RX7 TX7 2 := ⟨in_X7, rfl, by decide, q450⟩
noncomputable def fX7_is (v0 : Mem) (i1 : Int32) (i2 : Int32) : Option (Mem) :=
  lm (sI v0 0 0 i1) fun v0_1 =>
  lm (sI v0_1 0 1 i2) fun v0_9 =>
  some v0_9
set_option maxHeartbeats 4000000 in
theorem w_fX7_is (C : Cx G p s m args meth c RX7 cX7_is 3 none) {b0 : Nat} {rw0 : Mem} : ∀ (v0 : Mem) (i1 : Int32) (i2 : Int32), fX7_is v0 i1 i2 = some rw0 → ∀ (H : Heap) (locs : List Loc) (ls : Array Slot), rg G b0 1 (shX7 G.2.1) v0 H → va_S (FA (iv b0 1) s.heap.size) s.heap H locs → H.size = s.heap.size → lv_has ls 3 [(0, .ref b0), (1, .int i1), (2, .int i2)] → W p l e (rmT 0 0 0 0) s m args below meth c H locs 0 0 (MQ below (QcT (FA (iv b0 1) s.heap.size) (fun ov H => ov = none ∧ rg G b0 1 (shX7 G.2.1) rw0 H ∧ H.size = s.heap.size)) args s 0 0 (FA (iv b0 1) s.heap.size)) (F0 m 0 ls []) := by
  intro v0 i1 i2 hm H locs ls hW0 hS hz hl
  obtain ⟨hx, hb, hr, hlk, hml, hown, hts, hK⟩ := id C
  unfold fX7_is at hm
  refine lv_aload_n (pc := 0) hx hb dX7_is_0 rfl (lv_at hl 0 rfl) ?_
  refine lv_iload_n (pc := 1) hx hb dX7_is_1 rfl (lv_at hl 1 rfl) ?_
  refine rk_put (pc := 2) hx hb hts hown hK hW0 hS flX7_7 ft_X7 0 (by decide) rfl (Or.inl (show iv _ _ _ from ⟨by omega, by omega⟩)) rfl rfl (x := .int i1) rfl rfl (Nat.le_of_ble_eq_true rfl) (sI v0 0 0 i1) sI_ne (by rw [sI_eq]; exact rfl) dX7_is_2 (fun H2 locs3 hW4 hS5 hz6 hkp7 => ?_)
  obtain ⟨v0_1, he9, hm⟩ := lm_some hm
  rw [he9] at hW4
  have hz8 := hz6.trans hz
  refine lv_aload_n (pc := 5) hx hb dX7_is_5 rfl (lv_at hl 0 rfl) ?_
  refine lv_iload_n (pc := 6) hx hb dX7_is_6 rfl (lv_at hl 2 rfl) ?_
  refine rk_put (pc := 7) hx hb hts hown hK hW4 hS5 flX7_13 ft_X7 0 (by decide) rfl (Or.inl (show iv _ _ _ from ⟨by omega, by omega⟩)) rfl rfl (x := .int i2) rfl rfl (Nat.le_of_ble_eq_true rfl) (sI v0_1 0 1 i2) sI_ne (by rw [sI_eq]; exact rfl) dX7_is_7 (fun H10 locs11 hW12 hS13 hz14 hkp15 => ?_)
  obtain ⟨v0_9, he9, hm⟩ := lm_some hm
  rw [he9] at hW12
  have hz16 := hz14.trans hz8
  have e9 := rs1 hm
  subst e9
  exact rk_vret (pc := 10) hx hb hr hlk hS13 ⟨rfl, hW12, hz16⟩ dX7_is_10
set_option maxHeartbeats 4000000 in
theorem ct_X7_is {G : Gv} {l : Launch} {b0 : Nat} {v0 : Mem} {i1 : Int32} {i2 : Int32} {rw0 : Mem} {sz : Nat} (hm : fX7_is v0 i1 i2 = some rw0) : CT G l yX7_is (ws_ yX7_is cX7_is 3 none) 0 0 0 0 [.ref b0, .int i1, .int i2] (iv b0 1) sz (fun H => rg G b0 1 (shX7 G.2.1) v0 H) (fun ov H => ov = none ∧ rg G b0 1 (shX7 G.2.1) rw0 H ∧ H.size = sz) := by
  refine Met.ofW (cc := cX7_is) (maxL := 3) (ret := none) (by decide +kernel) rfl ?_
  intro p e s m args below meth c s₁ B hml hv
  obtain ⟨rfl, ⟨hz, hW0⟩, hK⟩ := hv
  subst hz
  have hts := atoms_spec (ws := ws_ yX7_is cX7_is 3 none) B.pre
  have hts : ∀ w ∈ lw_all, w.before _ s = true := fun w h => hts w (List.mem_cons_of_mem _ h)
  have C : Cx G p s m _ meth c RX7 cX7_is 3 none := ⟨B.exec, B.bytes, B.returns, B.notSynchronized, hml, findClass_of_methodNamed B.named, hts, hK⟩
  have hl := lv_entry ([.ref b0, .int i1, .int i2]) (n := 3) (Nat.le_of_ble_eq_true rfl)
  rw [lg_entry_eq]
  generalize (lg_sl ([.ref b0, .int i1, .int i2]) ++ List.replicate (3 - (lg_sl ([.ref b0, .int i1, .int i2])).length) Slot.unset).toArray = ls at hl ⊢
  have hl : lv_has ls 3 [(0, .ref b0), (1, .int i1), (2, .int i2)] := hl
  exact w_fX7_is C _ _ _ hm s.heap [] ls hW0 va_S.rf rfl hl
noncomputable def fX7_isBehind (V0 : Mem) (i1 : Int32) (i2 : Int32) : Option (Int32) :=
  if i1 < (gI V0 0 0) then (
  some (1 : Int32))
  else (
  if (gI V0 0 0) = i1 then (
  if (gI V0 0 1) ≤ i2 then (
  some (0 : Int32))
  else (
  some (1 : Int32)))
  else (
  some (0 : Int32)))
set_option maxHeartbeats 4000000 in
theorem w_fX7_isBehind (C : Cx G p s m args meth c RX7 cX7_isBehind 3 (some .boolean)) {b0 : Nat} {V0 : Mem} {rx : Int32} (hW0 : rg G b0 1 (shX7 G.2.1) V0 s.heap) : ∀ (i1 : Int32) (i2 : Int32), fX7_isBehind V0 i1 i2 = some rx → ∀ (ls : Array Slot), lv_has ls 3 [(0, .ref b0), (1, .int i1), (2, .int i2)] → W p l e (rmP 0 0) s m args below meth c s.heap [] 0 0 (MQ below (QcP (some (.int rx))) args s 0 0 (fun _ => False)) (F0 m 0 ls []) := by
  intro i1 i2 hm ls hl
  obtain ⟨hx, hb, hr, hlk, hml, hown, hts, hK⟩ := id C
  unfold fX7_isBehind at hm
  refine lv_aload_n (pc := 0) hx hb dX7_isBehind_0 rfl (lv_at hl 0 rfl) ?_
  refine rk_get (pc := 1) hx hb hts hown hK hW0 flX7_7 0 (by decide) rfl rfl (x := .int (gI V0 0 0)) rfl dX7_isBehind_1 ?_
  refine lv_iload_n (pc := 4) hx hb dX7_isBehind_4 rfl (lv_at hl 1 rfl) ?_
  refine lv_icmp_gt (pc := 5) (tgt := 24) hx hb dX7_isBehind_5 (by decide) (fun c1 => ?_) (fun c1 => ?_)
  · have hm := ite_t c1 hm
    refine lv_iconst (pc := 24) (v := (1 : Int32)) hx hb dX7_isBehind_24 (by decide) ?_
    refine lv_goto (pc := 25) (tgt := 29) hx hb dX7_isBehind_25 (by decide) ?_
    have e9 := rs1 hm
    subst e9
    exact rk_zretP (pc := 29) hx hb hr hlk rfl rfl dX7_isBehind_29
  · have hm := ite_f c1 hm
    refine lv_aload_n (pc := 8) hx hb dX7_isBehind_8 rfl (lv_at hl 0 rfl) ?_
    refine rk_get (pc := 9) hx hb hts hown hK hW0 flX7_7 0 (by decide) rfl rfl (x := .int (gI V0 0 0)) rfl dX7_isBehind_9 ?_
    refine lv_iload_n (pc := 12) hx hb dX7_isBehind_12 rfl (lv_at hl 1 rfl) ?_
    refine lv_icmp_ne (pc := 13) (tgt := 28) hx hb dX7_isBehind_13 (by decide) (fun c2 => ?_) (fun c2 => ?_)
    · have hm := ite_f c2 hm
      refine lv_iconst (pc := 28) (v := (0 : Int32)) hx hb dX7_isBehind_28 (by decide) ?_
      have e9 := rs1 hm
      subst e9
      exact rk_zretP (pc := 29) hx hb hr hlk rfl rfl dX7_isBehind_29
    · have hm := ite_t c2 hm
      refine lv_aload_n (pc := 16) hx hb dX7_isBehind_16 rfl (lv_at hl 0 rfl) ?_
      refine rk_get (pc := 17) hx hb hts hown hK hW0 flX7_13 0 (by decide) rfl rfl (x := .int (gI V0 0 1)) rfl dX7_isBehind_17 ?_
      refine lv_iload_n (pc := 20) hx hb dX7_isBehind_20 rfl (lv_at hl 2 rfl) ?_
      refine lv_icmp_le (pc := 21) (tgt := 28) hx hb dX7_isBehind_21 (by decide) (fun c3 => ?_) (fun c3 => ?_)
      · have hm := ite_t c3 hm
        refine lv_iconst (pc := 28) (v := (0 : Int32)) hx hb dX7_isBehind_28 (by decide) ?_
        have e9 := rs1 hm
        subst e9
        exact rk_zretP (pc := 29) hx hb hr hlk rfl rfl dX7_isBehind_29
      · have hm := ite_f c3 hm
        refine lv_iconst (pc := 24) (v := (1 : Int32)) hx hb dX7_isBehind_24 (by decide) ?_
        refine lv_goto (pc := 25) (tgt := 29) hx hb dX7_isBehind_25 (by decide) ?_
        have e9 := rs1 hm
        subst e9
        exact rk_zretP (pc := 29) hx hb hr hlk rfl rfl dX7_isBehind_29
set_option maxHeartbeats 4000000 in
theorem ct_X7_isBehind {G : Gv} {l : Launch} {b0 : Nat} {V0 : Mem} {i1 : Int32} {i2 : Int32} {rx : Int32} (hm : fX7_isBehind V0 i1 i2 = some rx) : CP G l yX7_isBehind (ws_ yX7_isBehind cX7_isBehind 3 (some .boolean)) 0 0 [.ref b0, .int i1, .int i2] (fun H => rg G b0 1 (shX7 G.2.1) V0 H) (some (.int rx)) := by
  refine Met.ofW (cc := cX7_isBehind) (maxL := 3) (ret := (some .boolean)) (by decide +kernel) rfl ?_
  intro p e s m args below meth c s₁ B hml hv
  obtain ⟨rfl, hW0, hK⟩ := hv
  have hts := atoms_spec (ws := ws_ yX7_isBehind cX7_isBehind 3 (some .boolean)) B.pre
  have hts : ∀ w ∈ lw_all, w.before _ s = true := fun w h => hts w (List.mem_cons_of_mem _ h)
  have C : Cx G p s m _ meth c RX7 cX7_isBehind 3 (some .boolean) := ⟨B.exec, B.bytes, B.returns, B.notSynchronized, hml, findClass_of_methodNamed B.named, hts, hK⟩
  have hl := lv_entry ([.ref b0, .int i1, .int i2]) (n := 3) (Nat.le_of_ble_eq_true rfl)
  rw [lg_entry_eq]
  generalize (lg_sl ([.ref b0, .int i1, .int i2]) ++ List.replicate (3 - (lg_sl ([.ref b0, .int i1, .int i2])).length) Slot.unset).toArray = ls at hl ⊢
  have hl : lv_has ls 3 [(0, .ref b0), (1, .int i1), (2, .int i2)] := hl
  exact w_fX7_isBehind C hW0 _ _ hm ls hl
theorem ft_X8 : FT TX8 8 tyX8 := ⟨tyX8_ok, nmX8⟩
theorem flX8_25 : FL RX8 25 8 1 RX8 TX8 8 := ⟨in_X8, rfl, by decide, q464⟩
theorem flX8_9 : FL RX8 9 8 5 RX8 TX8 8 := ⟨in_X8, rfl, by decide, q472⟩
theorem flX8_15 : FL RX8 15 8 6 RX8 TX8 8 := ⟨in_X8, rfl, by decide, q474⟩
noncomputable def fX8_begins_7 (k7 : Mem → Int32 → Option (Mem)) (v0 : Mem) (i1 : Int32) : Option (Mem) :=
  if (5 : Int32) ≤ i1 then (
  some v0)
  else (
  gb (inR i1 5) (
  lm (sI v0 1 i1.toNatClampNeg (0 : Int32)) fun v0_11 =>
  gb (inR i1 5) (
  lm (sI v0_11 2 i1.toNatClampNeg (-1 : Int32)) fun v0_20 =>
  k7 v0_20 (i1 + (1 : Int32)))))
noncomputable def fX8_begins (v0 : Mem) : Option (Mem) :=
  lm (sI v0 0 1 (0 : Int32)) fun v0_1 =>
  lq2 (fX8_begins_7) FU v0_1 (0 : Int32)
set_option maxHeartbeats 4000000 in
theorem w_fX8_begins_7 (C : Cx G p s m args meth c RX8 cX8_begins 2 none) {b0 : Nat} {rw0 : Mem} {k7 : Mem → Int32 → Option (Mem)} (hk7 : ∀ (v0 : Mem) (i1 : Int32), k7 v0 i1 = some rw0 → ∀ (H : Heap) (locs : List Loc) (ls : Array Slot), rg G b0 4 (shX8 G.2.1) v0 H → va_S (FA (iv b0 4) s.heap.size) s.heap H locs → H.size = s.heap.size → lv_has ls 2 [(0, .ref b0), (1, .int i1)] → W p l e (rmT 0 0 0 0) s m args below meth c H locs 0 0 (MQ below (QcT (FA (iv b0 4) s.heap.size) (fun ov H => ov = none ∧ rg G b0 4 (shX8 G.2.1) rw0 H ∧ H.size = s.heap.size)) args s 0 0 (FA (iv b0 4) s.heap.size)) (F0 m 7 ls [])) : ∀ (v0 : Mem) (i1 : Int32), fX8_begins_7 k7 v0 i1 = some rw0 → ∀ (H : Heap) (locs : List Loc) (ls : Array Slot), rg G b0 4 (shX8 G.2.1) v0 H → va_S (FA (iv b0 4) s.heap.size) s.heap H locs → H.size = s.heap.size → lv_has ls 2 [(0, .ref b0), (1, .int i1)] → W p l e (rmT 0 0 0 0) s m args below meth c H locs 0 0 (MQ below (QcT (FA (iv b0 4) s.heap.size) (fun ov H => ov = none ∧ rg G b0 4 (shX8 G.2.1) rw0 H ∧ H.size = s.heap.size)) args s 0 0 (FA (iv b0 4) s.heap.size)) (F0 m 7 ls []) := by
  intro v0 i1 hm H locs ls hW0 hS hz hl
  obtain ⟨hx, hb, hr, hlk, hml, hown, hts, hK⟩ := id C
  unfold fX8_begins_7 at hm
  refine lv_iload_n (pc := 7) hx hb dX8_begins_7 rfl (lv_at hl 1 rfl) ?_
  refine lv_iconst (pc := 8) (v := (5 : Int32)) hx hb dX8_begins_8 (by decide) ?_
  refine lv_icmp_ge (pc := 9) (tgt := 32) hx hb dX8_begins_9 (by decide) (fun c9 => ?_) (fun c9 => ?_)
  · have hm := ite_t c9 hm
    have e9 := rs1 hm
    subst e9
    exact rk_vret (pc := 32) hx hb hr hlk hS ⟨rfl, hW0, hz⟩ dX8_begins_32
  · have hm := ite_f c9 hm
    refine lv_aload_n (pc := 12) hx hb dX8_begins_12 rfl (lv_at hl 0 rfl) ?_
    refine rk_get (pc := 13) hx hb hts hown hK hW0 flX8_9 0 (by decide) rfl rfl (x := .ref (b0 + 1)) (by first | rfl | exact congrArg (fun z => some (Value.ref z)) (by omega)) dX8_begins_13 ?_
    refine lv_iload_n (pc := 16) hx hb dX8_begins_16 rfl (lv_at hl 1 rfl) ?_
    refine lv_iconst (pc := 17) (v := (0 : Int32)) hx hb dX8_begins_17 (by decide) ?_
    obtain ⟨hg10, hm⟩ := gb_some hm
    refine rk_iast (pc := 18) hx hb hK hW0 hS 1 (by decide) rfl (Or.inl (show iv _ _ _ from ⟨by omega, by omega⟩)) (fun _ _ _ => rfl) hg10 dX8_begins_18 (fun H12 locs13 hW14 hS15 hz16 hkp17 => ?_)
    obtain ⟨v0_11, he9, hm⟩ := lm_some hm
    rw [he9] at hW14
    have hz18 := hz16.trans hz
    refine lv_aload_n (pc := 19) hx hb dX8_begins_19 rfl (lv_at hl 0 rfl) ?_
    refine rk_get (pc := 20) hx hb hts hown hK hW14 flX8_15 0 (by decide) rfl rfl (x := .ref (b0 + 2)) (by first | rfl | exact congrArg (fun z => some (Value.ref z)) (by omega)) dX8_begins_20 ?_
    refine lv_iload_n (pc := 23) hx hb dX8_begins_23 rfl (lv_at hl 1 rfl) ?_
    refine lv_iconst (pc := 24) (v := (-1 : Int32)) hx hb dX8_begins_24 (by decide) ?_
    obtain ⟨hg19, hm⟩ := gb_some hm
    refine rk_iast (pc := 25) hx hb hK hW14 hS15 2 (by decide) rfl (Or.inl (show iv _ _ _ from ⟨by omega, by omega⟩)) (fun _ _ _ => rfl) hg19 dX8_begins_25 (fun H21 locs22 hW23 hS24 hz25 hkp26 => ?_)
    obtain ⟨v0_20, he9, hm⟩ := lm_some hm
    rw [he9] at hW23
    have hz27 := hz25.trans hz18
    refine lv_iinc (pc := 26) (v := (i1 + (1 : Int32))) (lv' := [(1, .int (i1 + (1 : Int32))), (0, .ref b0)]) hx hb dX8_begins_26 hl (k := 1) rfl rfl (by decide) rfl (fun ls hl => ?_)
    refine lv_goto (pc := 29) (tgt := 7) hx hb dX8_begins_29 (by decide) ?_
    exact hk7 v0_20 (i1 + (1 : Int32)) hm H21 locs22 ls hW23 hS24 hz27 (lv_sub hl [1, 0] rfl)
theorem w_fX8_begins_7_l (C : Cx G p s m args meth c RX8 cX8_begins 2 none) {b0 : Nat} {rw0 : Mem} : ∀ (n : Nat) (v0 : Mem) (i1 : Int32), lq2 (fX8_begins_7) n v0 i1 = some rw0 → ∀ (H : Heap) (locs : List Loc) (ls : Array Slot), rg G b0 4 (shX8 G.2.1) v0 H → va_S (FA (iv b0 4) s.heap.size) s.heap H locs → H.size = s.heap.size → lv_has ls 2 [(0, .ref b0), (1, .int i1)] → W p l e (rmT 0 0 0 0) s m args below meth c H locs 0 0 (MQ below (QcT (FA (iv b0 4) s.heap.size) (fun ov H => ov = none ∧ rg G b0 4 (shX8 G.2.1) rw0 H ∧ H.size = s.heap.size)) args s 0 0 (FA (iv b0 4) s.heap.size)) (F0 m 7 ls []) := by
  intro n
  induction n with
  | zero => intro v0 i1 hm; exact (lq2_0 hm).elim
  | succ n ih => intro v0 i1 hm; exact w_fX8_begins_7 C ih v0 i1 (lq2_s hm)
set_option maxHeartbeats 4000000 in
theorem w_fX8_begins (C : Cx G p s m args meth c RX8 cX8_begins 2 none) {b0 : Nat} {rw0 : Mem} : ∀ (v0 : Mem), fX8_begins v0 = some rw0 → ∀ (H : Heap) (locs : List Loc) (ls : Array Slot), rg G b0 4 (shX8 G.2.1) v0 H → va_S (FA (iv b0 4) s.heap.size) s.heap H locs → H.size = s.heap.size → lv_has ls 2 [(0, .ref b0)] → W p l e (rmT 0 0 0 0) s m args below meth c H locs 0 0 (MQ below (QcT (FA (iv b0 4) s.heap.size) (fun ov H => ov = none ∧ rg G b0 4 (shX8 G.2.1) rw0 H ∧ H.size = s.heap.size)) args s 0 0 (FA (iv b0 4) s.heap.size)) (F0 m 0 ls []) := by
  intro v0 hm H locs ls hW0 hS hz hl
  obtain ⟨hx, hb, hr, hlk, hml, hown, hts, hK⟩ := id C
  unfold fX8_begins at hm
  refine lv_aload_n (pc := 0) hx hb dX8_begins_0 rfl (lv_at hl 0 rfl) ?_
  refine lv_iconst (pc := 1) (v := (0 : Int32)) hx hb dX8_begins_1 (by decide) ?_
  refine rk_put (pc := 2) hx hb hts hown hK hW0 hS flX8_25 ft_X8 0 (by decide) rfl (Or.inl (show iv _ _ _ from ⟨by omega, by omega⟩)) rfl rfl (x := .int (0 : Int32)) rfl rfl (Nat.le_of_ble_eq_true rfl) (sI v0 0 1 (0 : Int32)) sI_ne (by rw [sI_eq]; exact rfl) dX8_begins_2 (fun H2 locs3 hW4 hS5 hz6 hkp7 => ?_)
  obtain ⟨v0_1, he9, hm⟩ := lm_some hm
  rw [he9] at hW4
  have hz8 := hz6.trans hz
  refine lv_iconst (pc := 5) (v := (0 : Int32)) hx hb dX8_begins_5 (by decide) ?_
  refine lv_istore_n (pc := 6) (lv' := [(1, .int (0 : Int32)), (0, .ref b0)]) hx hb dX8_begins_6 rfl hl (by decide) rfl (fun ls hl => ?_)
  exact (w_fX8_begins_7_l C FU) v0_1 (0 : Int32) hm H2 locs3 ls hW4 hS5 hz8 (lv_sub hl [1, 0] rfl)
set_option maxHeartbeats 4000000 in
theorem ct_X8_begins {G : Gv} {l : Launch} {b0 : Nat} {v0 : Mem} {rw0 : Mem} {sz : Nat} (hm : fX8_begins v0 = some rw0) : CT G l yX8_begins (ws_ yX8_begins cX8_begins 2 none) 0 0 0 0 [.ref b0] (iv b0 4) sz (fun H => rg G b0 4 (shX8 G.2.1) v0 H) (fun ov H => ov = none ∧ rg G b0 4 (shX8 G.2.1) rw0 H ∧ H.size = sz) := by
  refine Met.ofW (cc := cX8_begins) (maxL := 2) (ret := none) (by decide +kernel) rfl ?_
  intro p e s m args below meth c s₁ B hml hv
  obtain ⟨rfl, ⟨hz, hW0⟩, hK⟩ := hv
  subst hz
  have hts := atoms_spec (ws := ws_ yX8_begins cX8_begins 2 none) B.pre
  have hts : ∀ w ∈ lw_all, w.before _ s = true := fun w h => hts w (List.mem_cons_of_mem _ h)
  have C : Cx G p s m _ meth c RX8 cX8_begins 2 none := ⟨B.exec, B.bytes, B.returns, B.notSynchronized, hml, findClass_of_methodNamed B.named, hts, hK⟩
  have hl := lv_entry ([.ref b0]) (n := 2) (Nat.le_of_ble_eq_true rfl)
  rw [lg_entry_eq]
  generalize (lg_sl ([.ref b0]) ++ List.replicate (2 - (lg_sl ([.ref b0])).length) Slot.unset).toArray = ls at hl ⊢
  have hl : lv_has ls 2 [(0, .ref b0)] := hl
  exact w_fX8_begins C _ hm s.heap [] ls hW0 va_S.rf rfl hl
theorem lacX8_28 : LAC RX8 28 := ⟨q1276, q762, q761, q134⟩
noncomputable def fX8_begins_2 (V1 : Mem) (v0 : Mem) : Option (Mem) :=
  lm (sI v0 0 1 ((gI V1 0 1) + (1 : Int32))) fun v0_1 =>
  lm (cpI v0_1 1 V1 1 (0 : Int32).toNatClampNeg (0 : Int32).toNatClampNeg (5 : Int32).toNatClampNeg) fun v0_10 =>
  lm (cpI v0_10 2 V1 2 (0 : Int32).toNatClampNeg (0 : Int32).toNatClampNeg (5 : Int32).toNatClampNeg) fun v0_19 =>
  some v0_19
set_option maxHeartbeats 4000000 in
theorem w_fX8_begins_2 (C : Cx G p s m args meth c RX8 cX8_begins_2 2 none) {b0 : Nat} {b1 : Nat} {V1 : Mem} {rw0 : Mem} (hd01 : b0 + 4 ≤ b1 ∨ b1 + 4 ≤ b0) : ∀ (v0 : Mem), fX8_begins_2 V1 v0 = some rw0 → ∀ (H : Heap) (locs : List Loc) (ls : Array Slot), rg G b0 4 (shX8 G.2.1) v0 H → rg G b1 4 (shX8 G.2.1) V1 H → va_S (FA (iv b0 4) s.heap.size) s.heap H locs → H.size = s.heap.size → lv_has ls 2 [(0, .ref b0), (1, .ref b1)] → W p l e (rmT 1 0 0 64) s m args below meth c H locs 0 0 (MQ below (QcT (FA (iv b0 4) s.heap.size) (fun ov H => ov = none ∧ rg G b0 4 (shX8 G.2.1) rw0 H ∧ H.size = s.heap.size)) args s 0 0 (FA (iv b0 4) s.heap.size)) (F0 m 0 ls []) := by
  intro v0 hm H locs ls hW0 hW1 hS hz hl
  obtain ⟨hx, hb, hr, hlk, hml, hown, hts, hK⟩ := id C
  unfold fX8_begins_2 at hm
  refine lv_aload_n (pc := 0) hx hb dX8_begins_2_0 rfl (lv_at hl 0 rfl) ?_
  refine lv_aload_n (pc := 1) hx hb dX8_begins_2_1 rfl (lv_at hl 1 rfl) ?_
  refine rk_get (pc := 2) hx hb hts hown hK hW1 flX8_25 0 (by decide) rfl rfl (x := .int (gI V1 0 1)) rfl dX8_begins_2_2 ?_
  refine lv_iconst (pc := 5) (v := (1 : Int32)) hx hb dX8_begins_2_5 (by decide) ?_
  refine lv_iadd (pc := 6) hx hb dX8_begins_2_6 ?_
  refine rk_put (pc := 7) hx hb hts hown hK hW0 hS flX8_25 ft_X8 0 (by decide) rfl (Or.inl (show iv _ _ _ from ⟨by omega, by omega⟩)) rfl rfl (x := .int ((gI V1 0 1) + (1 : Int32))) rfl rfl (Nat.le_of_ble_eq_true rfl) (sI v0 0 1 ((gI V1 0 1) + (1 : Int32))) sI_ne (by rw [sI_eq]; exact rfl) dX8_begins_2_7 (fun H2 locs3 hW4 hS5 hz6 hkp7 => ?_)
  obtain ⟨v0_1, he9, hm⟩ := lm_some hm
  rw [he9] at hW4
  have hW8 := rg_keepq hW1 hkp7 (by omega)
  have hz9 := hz6.trans hz
  refine lv_aload_n (pc := 10) hx hb dX8_begins_2_10 rfl (lv_at hl 1 rfl) ?_
  refine rk_get (pc := 11) hx hb hts hown hK hW8 flX8_9 0 (by decide) rfl rfl (x := .ref (b1 + 1)) (by first | rfl | exact congrArg (fun z => some (Value.ref z)) (by omega)) dX8_begins_2_11 ?_
  refine lv_iconst (pc := 14) (v := (0 : Int32)) hx hb dX8_begins_2_14 (by decide) ?_
  refine lv_aload_n (pc := 15) hx hb dX8_begins_2_15 rfl (lv_at hl 0 rfl) ?_
  refine rk_get (pc := 16) hx hb hts hown hK hW4 flX8_9 0 (by decide) rfl rfl (x := .ref (b0 + 1)) (by first | rfl | exact congrArg (fun z => some (Value.ref z)) (by omega)) dX8_begins_2_16 ?_
  refine lv_iconst (pc := 19) (v := (0 : Int32)) hx hb dX8_begins_2_19 (by decide) ?_
  refine lv_iconst (pc := 20) (v := (5 : Int32)) hx hb dX8_begins_2_20 (by decide) ?_
  refine rk_copyi (pc := 21) hx hb hml hown hts hK lacX8_28 hW4 hW8 hS5 1 (by decide) rfl (Or.inl (show iv _ _ _ from ⟨by omega, by omega⟩)) 1 (by decide) rfl (fun _ _ _ => rfl) (fun _ _ _ => rfl) (by decide) (by decide) (by decide) (by decide) (by decide) hl.1 (Nat.le_of_ble_eq_true rfl) (Nat.le_of_ble_eq_true rfl) dX8_begins_2_21 (fun H11 locs12 hW13 hS14 hz15 hkp16 => ?_)
  obtain ⟨v0_10, he9, hm⟩ := lm_some hm
  rw [he9] at hW13
  have hW17 := rg_keepq hW8 hkp16 (by omega)
  have hz18 := hz15.trans hz9
  refine lv_aload_n (pc := 24) hx hb dX8_begins_2_24 rfl (lv_at hl 1 rfl) ?_
  refine rk_get (pc := 25) hx hb hts hown hK hW17 flX8_15 0 (by decide) rfl rfl (x := .ref (b1 + 2)) (by first | rfl | exact congrArg (fun z => some (Value.ref z)) (by omega)) dX8_begins_2_25 ?_
  refine lv_iconst (pc := 28) (v := (0 : Int32)) hx hb dX8_begins_2_28 (by decide) ?_
  refine lv_aload_n (pc := 29) hx hb dX8_begins_2_29 rfl (lv_at hl 0 rfl) ?_
  refine rk_get (pc := 30) hx hb hts hown hK hW13 flX8_15 0 (by decide) rfl rfl (x := .ref (b0 + 2)) (by first | rfl | exact congrArg (fun z => some (Value.ref z)) (by omega)) dX8_begins_2_30 ?_
  refine lv_iconst (pc := 33) (v := (0 : Int32)) hx hb dX8_begins_2_33 (by decide) ?_
  refine lv_iconst (pc := 34) (v := (5 : Int32)) hx hb dX8_begins_2_34 (by decide) ?_
  refine rk_copyi (pc := 35) hx hb hml hown hts hK lacX8_28 hW13 hW17 hS14 2 (by decide) rfl (Or.inl (show iv _ _ _ from ⟨by omega, by omega⟩)) 2 (by decide) rfl (fun _ _ _ => rfl) (fun _ _ _ => rfl) (by decide) (by decide) (by decide) (by decide) (by decide) hl.1 (Nat.le_of_ble_eq_true rfl) (Nat.le_of_ble_eq_true rfl) dX8_begins_2_35 (fun H20 locs21 hW22 hS23 hz24 hkp25 => ?_)
  obtain ⟨v0_19, he9, hm⟩ := lm_some hm
  rw [he9] at hW22
  have hW26 := rg_keepq hW17 hkp25 (by omega)
  have hz27 := hz24.trans hz18
  have e9 := rs1 hm
  subst e9
  exact rk_vret (pc := 38) hx hb hr hlk hS23 ⟨rfl, hW22, hz27⟩ dX8_begins_2_38
set_option maxHeartbeats 4000000 in
theorem ct_X8_begins_2 {G : Gv} {l : Launch} {b0 : Nat} {b1 : Nat} {V1 : Mem} {v0 : Mem} {rw0 : Mem} {sz : Nat} (hm : fX8_begins_2 V1 v0 = some rw0) (hd01 : b0 + 4 ≤ b1 ∨ b1 + 4 ≤ b0) : CT G l yX8_begins_2 (ws_ yX8_begins_2 cX8_begins_2 2 none) 1 0 0 64 [.ref b0, .ref b1] (iv b0 4) sz (fun H => rg G b0 4 (shX8 G.2.1) v0 H ∧ rg G b1 4 (shX8 G.2.1) V1 H) (fun ov H => ov = none ∧ rg G b0 4 (shX8 G.2.1) rw0 H ∧ H.size = sz) := by
  refine Met.ofW (cc := cX8_begins_2) (maxL := 2) (ret := none) (by decide +kernel) rfl ?_
  intro p e s m args below meth c s₁ B hml hv
  obtain ⟨rfl, ⟨hz, hW0, hW1⟩, hK⟩ := hv
  subst hz
  have hts := atoms_spec (ws := ws_ yX8_begins_2 cX8_begins_2 2 none) B.pre
  have hts : ∀ w ∈ lw_all, w.before _ s = true := fun w h => hts w (List.mem_cons_of_mem _ h)
  have C : Cx G p s m _ meth c RX8 cX8_begins_2 2 none := ⟨B.exec, B.bytes, B.returns, B.notSynchronized, hml, findClass_of_methodNamed B.named, hts, hK⟩
  have hl := lv_entry ([.ref b0, .ref b1]) (n := 2) (Nat.le_of_ble_eq_true rfl)
  rw [lg_entry_eq]
  generalize (lg_sl ([.ref b0, .ref b1]) ++ List.replicate (2 - (lg_sl ([.ref b0, .ref b1])).length) Slot.unset).toArray = ls at hl ⊢
  have hl : lv_has ls 2 [(0, .ref b0), (1, .ref b1)] := hl
  exact w_fX8_begins_2 C hd01 _ hm s.heap [] ls hW0 hW1 va_S.rf rfl hl
theorem ft_X3 : FT TX3 12 tyX3 := ⟨tyX3_ok, nmX3⟩
theorem fnX8_34 : FN RX8 34 3 5 RX3 TX3 12 "WholePacks" := ⟨in_X3, rfl, by decide, q285⟩
theorem flX8_40 : FL RX8 40 8 2 RX8 TX8 8 := ⟨in_X8, rfl, by decide, q466⟩
theorem fnX8_41 : FN RX8 41 3 4 RX3 TX3 12 "WholePacks" := ⟨in_X3, rfl, by decide, q282⟩
theorem flX8_44 : FL RX8 44 8 3 RX8 TX8 8 := ⟨in_X8, rfl, by decide, q468⟩
theorem flX3_44 : FL RX3 44 3 0 RX3 TX3 12 := ⟨in_X3, rfl, by decide, q275⟩
theorem flX3_35 : FL RX3 35 3 1 RX3 TX3 12 := ⟨in_X3, rfl, by decide, q276⟩
theorem flX3_21 : FL RX3 21 3 9 RX3 TX3 12 := ⟨in_X3, rfl, by decide, q293⟩
noncomputable def fX3_rowOf_2 (V0 : Mem) (k2 : Int32 → Int32 → Option (Int32)) (i1 : Int32) (i2 : Int32) : Option (Int32) :=
  if (gI V0 0 1) ≤ i2 then (
  some (-1 : Int32))
  else (
  gb (inR i2 30) (
  if (gI V0 4 i2.toNatClampNeg) = i1 then (
  some i2)
  else (
  k2 i1 (i2 + (1 : Int32)))))
noncomputable def fX3_rowOf (V0 : Mem) (i1 : Int32) : Option (Int32) :=
  lq2 (fX3_rowOf_2 V0) FU i1 (0 : Int32)
set_option maxHeartbeats 4000000 in
theorem w_fX3_rowOf_2 (C : Cx G p s m args meth c RX3 cX3_rowOf 3 (some .int)) {b0 : Nat} {V0 : Mem} {rx : Int32} (hW0 : rg G b0 43 (shX3 G.2.1) V0 s.heap) {k2 : Int32 → Int32 → Option (Int32)} (hk2 : ∀ (i1 : Int32) (i2 : Int32), k2 i1 i2 = some rx → ∀ (ls : Array Slot), lv_has ls 3 [(0, .ref b0), (1, .int i1), (2, .int i2)] → W p l e (rmP 0 0) s m args below meth c s.heap [] 0 0 (MQ below (QcP (some (.int rx))) args s 0 0 (fun _ => False)) (F0 m 2 ls [])) : ∀ (i1 : Int32) (i2 : Int32), fX3_rowOf_2 V0 k2 i1 i2 = some rx → ∀ (ls : Array Slot), lv_has ls 3 [(0, .ref b0), (1, .int i1), (2, .int i2)] → W p l e (rmP 0 0) s m args below meth c s.heap [] 0 0 (MQ below (QcP (some (.int rx))) args s 0 0 (fun _ => False)) (F0 m 2 ls []) := by
  intro i1 i2 hm ls hl
  obtain ⟨hx, hb, hr, hlk, hml, hown, hts, hK⟩ := id C
  unfold fX3_rowOf_2 at hm
  refine lv_iload_n (pc := 2) hx hb dX3_rowOf_2 rfl (lv_at hl 2 rfl) ?_
  refine lv_aload_n (pc := 3) hx hb dX3_rowOf_3 rfl (lv_at hl 0 rfl) ?_
  refine rk_get (pc := 4) hx hb hts hown hK hW0 flX3_35 0 (by decide) rfl rfl (x := .int (gI V0 0 1)) rfl dX3_rowOf_4 ?_
  refine lv_icmp_ge (pc := 7) (tgt := 28) hx hb dX3_rowOf_7 (by decide) (fun c1 => ?_) (fun c1 => ?_)
  · have hm := ite_t c1 hm
    refine lv_iconst (pc := 28) (v := (-1 : Int32)) hx hb dX3_rowOf_28 (by decide) ?_
    have e9 := rs1 hm
    subst e9
    exact rk_iretP (pc := 29) hx hb hr hlk rfl dX3_rowOf_29
  · have hm := ite_f c1 hm
    refine lv_aload_n (pc := 10) hx hb dX3_rowOf_10 rfl (lv_at hl 0 rfl) ?_
    refine rk_get (pc := 11) hx hb hts hown hK hW0 flX3_21 0 (by decide) rfl rfl (x := .ref (b0 + 4)) (by first | rfl | exact congrArg (fun z => some (Value.ref z)) (by omega)) dX3_rowOf_11 ?_
    refine lv_iload_n (pc := 14) hx hb dX3_rowOf_14 rfl (lv_at hl 2 rfl) ?_
    obtain ⟨hg2, hm⟩ := gb_some hm
    refine rk_iald (pc := 15) hx hb hK hW0 4 (by decide) rfl rfl hg2 (x := (gI V0 4 i2.toNatClampNeg)) rfl dX3_rowOf_15 ?_
    refine lv_iload_n (pc := 16) hx hb dX3_rowOf_16 rfl (lv_at hl 1 rfl) ?_
    refine lv_icmp_ne (pc := 17) (tgt := 22) hx hb dX3_rowOf_17 (by decide) (fun c3 => ?_) (fun c3 => ?_)
    · have hm := ite_f c3 hm
      refine lv_iinc (pc := 22) (v := (i2 + (1 : Int32))) (lv' := [(2, .int (i2 + (1 : Int32))), (0, .ref b0), (1, .int i1)]) hx hb dX3_rowOf_22 hl (k := 2) rfl rfl (by decide) rfl (fun ls hl => ?_)
      refine lv_goto (pc := 25) (tgt := 2) hx hb dX3_rowOf_25 (by decide) ?_
      exact hk2 i1 (i2 + (1 : Int32)) hm ls (lv_sub hl [1, 2, 0] rfl)
    · have hm := ite_t c3 hm
      refine lv_iload_n (pc := 20) hx hb dX3_rowOf_20 rfl (lv_at hl 2 rfl) ?_
      have e9 := rs1 hm
      subst e9
      exact rk_iretP (pc := 21) hx hb hr hlk rfl dX3_rowOf_21
theorem w_fX3_rowOf_2_l (C : Cx G p s m args meth c RX3 cX3_rowOf 3 (some .int)) {b0 : Nat} {V0 : Mem} {rx : Int32} (hW0 : rg G b0 43 (shX3 G.2.1) V0 s.heap) : ∀ (n : Nat) (i1 : Int32) (i2 : Int32), lq2 (fX3_rowOf_2 V0) n i1 i2 = some rx → ∀ (ls : Array Slot), lv_has ls 3 [(0, .ref b0), (1, .int i1), (2, .int i2)] → W p l e (rmP 0 0) s m args below meth c s.heap [] 0 0 (MQ below (QcP (some (.int rx))) args s 0 0 (fun _ => False)) (F0 m 2 ls []) := by
  intro n
  induction n with
  | zero => intro i1 i2 hm; exact (lq2_0 hm).elim
  | succ n ih => intro i1 i2 hm; exact w_fX3_rowOf_2 C hW0 ih i1 i2 (lq2_s hm)
set_option maxHeartbeats 4000000 in
theorem w_fX3_rowOf (C : Cx G p s m args meth c RX3 cX3_rowOf 3 (some .int)) {b0 : Nat} {V0 : Mem} {rx : Int32} (hW0 : rg G b0 43 (shX3 G.2.1) V0 s.heap) : ∀ (i1 : Int32), fX3_rowOf V0 i1 = some rx → ∀ (ls : Array Slot), lv_has ls 3 [(0, .ref b0), (1, .int i1)] → W p l e (rmP 0 0) s m args below meth c s.heap [] 0 0 (MQ below (QcP (some (.int rx))) args s 0 0 (fun _ => False)) (F0 m 0 ls []) := by
  intro i1 hm ls hl
  obtain ⟨hx, hb, hr, hlk, hml, hown, hts, hK⟩ := id C
  unfold fX3_rowOf at hm
  refine lv_iconst (pc := 0) (v := (0 : Int32)) hx hb dX3_rowOf_0 (by decide) ?_
  refine lv_istore_n (pc := 1) (lv' := [(2, .int (0 : Int32)), (0, .ref b0), (1, .int i1)]) hx hb dX3_rowOf_1 rfl hl (by decide) rfl (fun ls hl => ?_)
  exact (w_fX3_rowOf_2_l C hW0 FU) i1 (0 : Int32) hm ls (lv_sub hl [1, 2, 0] rfl)
set_option maxHeartbeats 4000000 in
theorem ct_X3_rowOf {G : Gv} {l : Launch} {b0 : Nat} {V0 : Mem} {i1 : Int32} {rx : Int32} (hm : fX3_rowOf V0 i1 = some rx) : CP G l yX3_rowOf (ws_ yX3_rowOf cX3_rowOf 3 (some .int)) 0 0 [.ref b0, .int i1] (fun H => rg G b0 43 (shX3 G.2.1) V0 H) (some (.int rx)) := by
  refine Met.ofW (cc := cX3_rowOf) (maxL := 3) (ret := (some .int)) (by decide +kernel) rfl ?_
  intro p e s m args below meth c s₁ B hml hv
  obtain ⟨rfl, hW0, hK⟩ := hv
  have hts := atoms_spec (ws := ws_ yX3_rowOf cX3_rowOf 3 (some .int)) B.pre
  have hts : ∀ w ∈ lw_all, w.before _ s = true := fun w h => hts w (List.mem_cons_of_mem _ h)
  have C : Cx G p s m _ meth c RX3 cX3_rowOf 3 (some .int) := ⟨B.exec, B.bytes, B.returns, B.notSynchronized, hml, findClass_of_methodNamed B.named, hts, hK⟩
  have hl := lv_entry ([.ref b0, .int i1]) (n := 3) (Nat.le_of_ble_eq_true rfl)
  rw [lg_entry_eq]
  generalize (lg_sl ([.ref b0, .int i1]) ++ List.replicate (3 - (lg_sl ([.ref b0, .int i1])).length) Slot.unset).toArray = ls at hl ⊢
  have hl : lv_has ls 3 [(0, .ref b0), (1, .int i1)] := hl
  exact w_fX3_rowOf C hW0 _ hm ls hl
theorem yn_X3_rowOf : YN yX3_rowOf 1 := by
  unfold YN
  decide +kernel
theorem lkX3_180 : LV RX3 180 RX3 yX3_rowOf cX3_rowOf 3 (some .int) := ⟨q906, q908, qs22, q117, q909⟩
theorem flX3_15 : FL RX3 15 3 7 RX3 TX3 12 := ⟨in_X3, rfl, by decide, q289⟩
noncomputable def fX3_right (V0 : Mem) (i1 : Int32) : Option (Int64) :=
  ob (fX3_rowOf V0 i1) fun r1 =>
  if r1 = (-1 : Int32) then (
  some (0 : Int64))
  else (
  gb (inR r1 30) (
  some (gL V0 2 r1.toNatClampNeg)))
set_option maxHeartbeats 4000000 in
theorem w_fX3_right (C : Cx G p s m args meth c RX3 cX3_right 3 (some .long)) {b0 : Nat} {V0 : Mem} {rx : Int64} (hW0 : rg G b0 43 (shX3 G.2.1) V0 s.heap) : ∀ (i1 : Int32), fX3_right V0 i1 = some rx → ∀ (ls : Array Slot), lv_has ls 3 [(0, .ref b0), (1, .int i1)] → W p l e (rmP 1 22) s m args below meth c s.heap [] 0 0 (MQ below (QcP (some (.long rx))) args s 0 0 (fun _ => False)) (F0 m 0 ls []) := by
  intro i1 hm ls hl
  obtain ⟨hx, hb, hr, hlk, hml, hown, hts, hK⟩ := id C
  unfold fX3_right at hm
  refine lv_aload_n (pc := 0) hx hb dX3_right_0 rfl (lv_at hl 0 rfl) ?_
  refine lv_iload_n (pc := 1) hx hb dX3_right_1 rfl (lv_at hl 1 rfl) ?_
  obtain ⟨r1, hq2, hm⟩ := ob_some hm
  refine rk_PV (pc := 2) (As := [.int i1]) (rest := []) hx hb hml hown hts hK lkX3_180 rfl yn_X3_rowOf (ct_X3_rowOf (G := G) (l := l) (b0 := b0) hq2) ⟨Nat.le_of_ble_eq_true rfl, Nat.le_of_ble_eq_true rfl⟩ (rk_recv hK hW0 0 (by decide) rfl rfl rfl) hW0 rfl rfl hl.1 (Nat.le_of_ble_eq_true rfl) dX3_right_2 ⟨Nat.zero_le _, Nat.zero_le _⟩ ?_
  refine W.eq (g2 := F0 m 5 ls [.int r1]) rfl ?_
  refine lv_istore_n (pc := 5) (lv' := [(2, .int r1), (0, .ref b0), (1, .int i1)]) hx hb dX3_right_5 rfl hl (by decide) rfl (fun ls hl => ?_)
  refine lv_iload_n (pc := 6) hx hb dX3_right_6 rfl (lv_at hl 0 rfl) ?_
  refine lv_iconst (pc := 7) (v := (-1 : Int32)) hx hb dX3_right_7 (by decide) ?_
  refine lv_icmp_ne (pc := 8) (tgt := 15) hx hb dX3_right_8 (by decide) (fun c3 => ?_) (fun c3 => ?_)
  · have hm := ite_f c3 hm
    refine lv_aload_n (pc := 15) hx hb dX3_right_15 rfl (lv_at hl 1 rfl) ?_
    refine rk_get (pc := 16) hx hb hts hown hK hW0 flX3_15 0 (by decide) rfl rfl (x := .ref (b0 + 2)) (by first | rfl | exact congrArg (fun z => some (Value.ref z)) (by omega)) dX3_right_16 ?_
    refine lv_iload_n (pc := 19) hx hb dX3_right_19 rfl (lv_at hl 0 rfl) ?_
    obtain ⟨hg4, hm⟩ := gb_some hm
    refine rk_lald (pc := 20) hx hb hK hW0 2 (by decide) rfl rfl hg4 (x := (gL V0 2 r1.toNatClampNeg)) rfl dX3_right_20 ?_
    have e9 := rs1 hm
    subst e9
    exact rk_lretP (pc := 21) hx hb hr hlk rfl dX3_right_21
  · have hm := ite_t c3 hm
    refine lv_lconst (pc := 11) (v := (0 : Int64)) hx hb dX3_right_11 (by decide) ?_
    refine lv_goto (pc := 12) (tgt := 21) hx hb dX3_right_12 (by decide) ?_
    have e9 := rs1 hm
    subst e9
    exact rk_lretP (pc := 21) hx hb hr hlk rfl dX3_right_21
set_option maxHeartbeats 4000000 in
theorem ct_X3_right {G : Gv} {l : Launch} {b0 : Nat} {V0 : Mem} {i1 : Int32} {rx : Int64} (hm : fX3_right V0 i1 = some rx) : CP G l yX3_right (ws_ yX3_right cX3_right 3 (some .long)) 1 22 [.ref b0, .int i1] (fun H => rg G b0 43 (shX3 G.2.1) V0 H) (some (.long rx)) := by
  refine Met.ofW (cc := cX3_right) (maxL := 3) (ret := (some .long)) (by decide +kernel) rfl ?_
  intro p e s m args below meth c s₁ B hml hv
  obtain ⟨rfl, hW0, hK⟩ := hv
  have hts := atoms_spec (ws := ws_ yX3_right cX3_right 3 (some .long)) B.pre
  have hts : ∀ w ∈ lw_all, w.before _ s = true := fun w h => hts w (List.mem_cons_of_mem _ h)
  have C : Cx G p s m _ meth c RX3 cX3_right 3 (some .long) := ⟨B.exec, B.bytes, B.returns, B.notSynchronized, hml, findClass_of_methodNamed B.named, hts, hK⟩
  have hl := lv_entry ([.ref b0, .int i1]) (n := 3) (Nat.le_of_ble_eq_true rfl)
  rw [lg_entry_eq]
  generalize (lg_sl ([.ref b0, .int i1]) ++ List.replicate (3 - (lg_sl ([.ref b0, .int i1])).length) Slot.unset).toArray = ls at hl ⊢
  have hl : lv_has ls 3 [(0, .ref b0), (1, .int i1)] := hl
  exact w_fX3_right C hW0 _ hm ls hl
theorem yn_X3_right : YN yX3_right 1 := by
  unfold YN
  decide +kernel
theorem lkX3_183 : LV RX3 183 RX3 yX3_right cX3_right 3 (some .long) := ⟨q1244, q903, q904, q117, q905⟩
end
