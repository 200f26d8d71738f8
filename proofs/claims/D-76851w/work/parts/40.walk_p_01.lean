set_option maxRecDepth 100000
section
variable {p : Program} {l : Launch} {e : Env} {s : State} {m : MethodId} {args : Array Value} {below : List Frame} {meth : Method} {c : Code} {G : Gv}
theorem fnX5_7 : FN RX5 7 7 0 RX7 TX7 2 "WholePacks" := ⟨in_X7, rfl, by decide, q449⟩
theorem fnX5_13 : FN RX5 13 7 1 RX7 TX7 2 "WholePacks" := ⟨in_X7, rfl, by decide, q451⟩
theorem yn_X7_isBehind : YN yX7_isBehind 2 := by
  unfold YN
  decide +kernel
theorem lkX5_16 : LV RX5 16 RX7 yX7_isBehind cX7_isBehind 3 (some .boolean) := ⟨q1092, q1093, q1094, q126, q1095⟩
noncomputable def fX5_compare_2 (PL : Nat → Bool) (b0 : Nat) (V0 : Mem) (V1 : Mem) (n1 : Nat) (n2 : Nat) (p0 : Nat) : Option (Int32) :=
  if n1 = n2 then (
  some (0 : Int32))
  else (
  ob (fX7_isBehind (shf V0 (177 + 1 * n1)) (gI V0 (177 + 1 * n2 + 0) 0) (gI V0 (177 + 1 * n2 + 0) 1)) fun r2 =>
  if r2 = 0 then (
  some (1 : Int32))
  else (
  some (-1 : Int32)))
set_option maxHeartbeats 4000000 in
theorem w_fX5_compare_2 (C : Cx G p s m args meth c RX5 cX5_compare_2 3 (some .int)) {b0 : Nat} {PL : Nat → Bool} {V0 : Mem} {V1 : Mem} {n1 : Nat} {n2 : Nat} {rx : Int32} (hW0 : rg G b0 357 (shX0 G.2.1) V0 s.heap) (hW1 : pl G PL V1 s.heap) (hn1 : n1 < 20) (hn2 : n2 < 20) : ∀ (p0 : Nat), fX5_compare_2 PL b0 V0 V1 n1 n2 p0 = some rx → ∀ (ls : Array Slot), lv_has ls 3 [(0, .ref p0), (1, .ref (b0 + (177 + 1 * n1 + 0))), (2, .ref (b0 + (177 + 1 * n2 + 0)))] → W p l e (rmP 1 22) s m args below meth c s.heap [] 0 0 (MQ below (QcP (some (.int rx))) args s 0 0 (fun _ => False)) (F0 m 0 ls []) := by
  intro p0 hm ls hl
  obtain ⟨hx, hb, hr, hlk, hml, hown, hts, hK⟩ := id C
  unfold fX5_compare_2 at hm
  refine lv_aload_n (pc := 0) hx hb dX5_compare_2_0 rfl (lv_at hl 1 rfl) ?_
  refine lv_aload_n (pc := 1) hx hb dX5_compare_2_1 rfl (lv_at hl 2 rfl) ?_
  refine lv_acmp_ne (pc := 2) (rx := (some (b0 + (177 + 1 * n1 + 0)))) (ry := (some (b0 + (177 + 1 * n2 + 0)))) (tgt := 9) hx hb dX5_compare_2_2 (by decide) (fun hc5 => ?_) (fun hc5 => ?_)
  · have c1 : ¬ n1 = n2 := fun h9 => hc5 (by rw [h9])
    have hm := ite_f c1 hm
    refine lv_aload_n (pc := 9) hx hb dX5_compare_2_9 rfl (lv_at hl 1 rfl) ?_
    refine lv_aload_n (pc := 10) hx hb dX5_compare_2_10 rfl (lv_at hl 2 rfl) ?_
    refine rk_getN (pc := 11) hx hb hts hown hK hW0 fnX5_7 (177 + 1 * n2 + 0) (by omega) rfl ((shX0_f177 G.2.1 hn2 _ rfl 0 (by decide) _ _ _).trans rfl) (x := .int (gI V0 (177 + 1 * n2 + 0) 0)) rfl dX5_compare_2_11 ?_
    refine lv_aload_n (pc := 14) hx hb dX5_compare_2_14 rfl (lv_at hl 2 rfl) ?_
    refine rk_getN (pc := 15) hx hb hts hown hK hW0 fnX5_13 (177 + 1 * n2 + 0) (by omega) rfl ((shX0_f177 G.2.1 hn2 _ rfl 0 (by decide) _ _ _).trans rfl) (x := .int (gI V0 (177 + 1 * n2 + 0) 1)) rfl dX5_compare_2_15 ?_
    obtain ⟨r2, hq3, hm⟩ := ob_some hm
    refine rk_PV (pc := 18) (As := [.int (gI V0 (177 + 1 * n2 + 0) 0), .int (gI V0 (177 + 1 * n2 + 0) 1)]) (rest := []) hx hb hml hown hts hK lkX5_16 rfl yn_X7_isBehind (ct_X7_isBehind (G := G) (l := l) (b0 := (b0 + (177 + 1 * n1 + 0))) hq3) ⟨Nat.le_of_ble_eq_true rfl, Nat.le_of_ble_eq_true rfl⟩ (rk_recv hK hW0 (177 + 1 * n1 + 0) (by omega) rfl rfl ((shX0_f177 G.2.1 hn1 _ rfl 0 (by decide) _ _ _).trans rfl)) (rg_sub (d := (177 + 1 * n1)) hW0 rfl (by omega) (fun o ho x y z => shX0_f177 G.2.1 hn1 _ rfl o ho x y z)) rfl rfl hl.1 (Nat.le_of_ble_eq_true rfl) dX5_compare_2_18 ⟨Nat.zero_le _, Nat.zero_le _⟩ ?_
    refine W.eq (g2 := F0 m 21 ls [.int r2]) rfl ?_
    refine lv_if_eq (pc := 21) (tgt := 28) hx hb dX5_compare_2_21 (by decide) (fun c4 => ?_) (fun c4 => ?_)
    · have hm := ite_t c4 hm
      refine lv_iconst (pc := 28) (v := (1 : Int32)) hx hb dX5_compare_2_28 (by decide) ?_
      have e9 := rs1 hm
      subst e9
      exact rk_iretP (pc := 29) hx hb hr hlk rfl dX5_compare_2_29
    · have hm := ite_f c4 hm
      refine lv_iconst (pc := 24) (v := (-1 : Int32)) hx hb dX5_compare_2_24 (by decide) ?_
      refine lv_goto (pc := 25) (tgt := 29) hx hb dX5_compare_2_25 (by decide) ?_
      have e9 := rs1 hm
      subst e9
      exact rk_iretP (pc := 29) hx hb hr hlk rfl dX5_compare_2_29
  · have c1 : n1 = n2 := by have h8 := Option.some.inj hc5; omega
    have hm := ite_t c1 hm
    refine lv_iconst (pc := 5) (v := (0 : Int32)) hx hb dX5_compare_2_5 (by decide) ?_
    refine lv_goto (pc := 6) (tgt := 29) hx hb dX5_compare_2_6 (by decide) ?_
    have e9 := rs1 hm
    subst e9
    exact rk_iretP (pc := 29) hx hb hr hlk rfl dX5_compare_2_29
set_option maxHeartbeats 4000000 in
theorem ct_X5_compare_2 {G : Gv} {l : Launch} {b0 : Nat} {PL : Nat → Bool} {V0 : Mem} {V1 : Mem} {n1 : Nat} {n2 : Nat} {p0 : Nat} {rx : Int32} (hm : fX5_compare_2 PL b0 V0 V1 n1 n2 p0 = some rx) (hn1 : n1 < 20) (hn2 : n2 < 20) : CP G l yX5_compare_2 (ws_ yX5_compare_2 cX5_compare_2 3 (some .int)) 1 22 [.ref p0, .ref (b0 + (177 + 1 * n1 + 0)), .ref (b0 + (177 + 1 * n2 + 0))] (fun H => rg G b0 357 (shX0 G.2.1) V0 H ∧ pl G PL V1 H) (some (.int rx)) := by
  refine Met.ofW (cc := cX5_compare_2) (maxL := 3) (ret := (some .int)) (by decide +kernel) rfl ?_
  intro p e s m args below meth c s₁ B hml hv
  obtain ⟨rfl, ⟨hW0, hW1⟩, hK⟩ := hv
  have hts := atoms_spec (ws := ws_ yX5_compare_2 cX5_compare_2 3 (some .int)) B.pre
  have hts : ∀ w ∈ lw_all, w.before _ s = true := fun w h => hts w (List.mem_cons_of_mem _ h)
  have C : Cx G p s m _ meth c RX5 cX5_compare_2 3 (some .int) := ⟨B.exec, B.bytes, B.returns, B.notSynchronized, hml, findClass_of_methodNamed B.named, hts, hK⟩
  have hl := lv_entry ([.ref p0, .ref (b0 + (177 + 1 * n1 + 0)), .ref (b0 + (177 + 1 * n2 + 0))]) (n := 3) (Nat.le_of_ble_eq_true rfl)
  rw [lg_entry_eq]
  generalize (lg_sl ([.ref p0, .ref (b0 + (177 + 1 * n1 + 0)), .ref (b0 + (177 + 1 * n2 + 0))]) ++ List.replicate (3 - (lg_sl ([.ref p0, .ref (b0 + (177 + 1 * n1 + 0)), .ref (b0 + (177 + 1 * n2 + 0))])).length) Slot.unset).toArray = ls at hl ⊢
  have hl : lv_has ls 3 [(0, .ref p0), (1, .ref (b0 + (177 + 1 * n1 + 0))), (2, .ref (b0 + (177 + 1 * n2 + 0)))] := hl
  exact w_fX5_compare_2 C hW0 hW1 hn1 hn2 _ hm ls hl
theorem yn_X5_compare_2 : YN yX5_compare_2 2 := by
  unfold YN
  decide +kernel
theorem lkX5_20 : LV RX5 20 RX5 yX5_compare_2 cX5_compare_2 3 (some .int) := ⟨q1088, q1089, q1090, q124, q1091⟩
noncomputable def fX5_compare (PL : Nat → Bool) (b0 : Nat) (V0 : Mem) (V1 : Mem) (n1 : Nat) (n2 : Nat) (p0 : Nat) : Option (Int32) :=
  gb (kd PL V1 p0 5) (
  ob (fX5_compare_2 PL b0 V0 V1 n1 n2 p0) fun r2 =>
  some r2)
set_option maxHeartbeats 4000000 in
theorem w_fX5_compare (C : Cx G p s m args meth c RX5 cX5_compare 3 (some .int)) {b0 : Nat} {PL : Nat → Bool} {V0 : Mem} {V1 : Mem} {n1 : Nat} {n2 : Nat} {rx : Int32} (hW0 : rg G b0 357 (shX0 G.2.1) V0 s.heap) (hW1 : pl G PL V1 s.heap) (hn1 : n1 < 20) (hn2 : n2 < 20) : ∀ (p0 : Nat), fX5_compare PL b0 V0 V1 n1 n2 p0 = some rx → ∀ (ls : Array Slot), lv_has ls 3 [(0, .ref p0), (1, .ref (b0 + (177 + 1 * n1 + 0))), (2, .ref (b0 + (177 + 1 * n2 + 0)))] → W p l e (rmP 2 44) s m args below meth c s.heap [] 0 0 (MQ below (QcP (some (.int rx))) args s 0 0 (fun _ => False)) (F0 m 0 ls []) := by
  intro p0 hm ls hl
  obtain ⟨hx, hb, hr, hlk, hml, hown, hts, hK⟩ := id C
  unfold fX5_compare at hm
  refine lv_aload_n (pc := 0) hx hb dX5_compare_0 rfl (lv_at hl 0 rfl) ?_
  refine lv_aload_n (pc := 1) hx hb dX5_compare_1 rfl (lv_at hl 1 rfl) ?_
  refine rk_castS (pc := 2) hx hb hown hts hK q1087 hW0 (177 + 1 * n1 + 0) (by omega) rfl rfl ((shX0_f177 G.2.1 hn1 _ rfl 0 (by decide) _ _ _).trans rfl) dX5_compare_2 ?_
  refine lv_aload_n (pc := 5) hx hb dX5_compare_5 rfl (lv_at hl 2 rfl) ?_
  refine rk_castS (pc := 6) hx hb hown hts hK q1087 hW0 (177 + 1 * n2 + 0) (by omega) rfl rfl ((shX0_f177 G.2.1 hn2 _ rfl 0 (by decide) _ _ _).trans rfl) dX5_compare_6 ?_
  obtain ⟨hg1, hm⟩ := gb_some hm
  obtain ⟨r2, hq3, hm⟩ := ob_some hm
  refine rk_PV (pc := 9) (As := [.ref (b0 + (177 + 1 * n1 + 0)), .ref (b0 + (177 + 1 * n2 + 0))]) (rest := []) hx hb hml hown hts hK lkX5_20 rfl yn_X5_compare_2 (ct_X5_compare_2 (G := G) (l := l) (b0 := b0) hq3 hn1 hn2) ⟨Nat.le_of_ble_eq_true rfl, Nat.le_of_ble_eq_true rfl⟩ (rp_recv hK hW1 (C := RX5) (T := TX5z) (N := 0) rfl (shP_5 (kd_PL hg1) (kd_k hg1))) ⟨hW0, hW1⟩ rfl rfl hl.1 (Nat.le_of_ble_eq_true rfl) dX5_compare_9 ⟨Nat.zero_le _, Nat.zero_le _⟩ ?_
  refine W.eq (g2 := F0 m 12 ls [.int r2]) rfl ?_
  have e9 := rs1 hm
  subst e9
  exact rk_iretP (pc := 12) hx hb hr hlk rfl dX5_compare_12
set_option maxHeartbeats 4000000 in
theorem ct_X5_compare {G : Gv} {l : Launch} {b0 : Nat} {PL : Nat → Bool} {V0 : Mem} {V1 : Mem} {n1 : Nat} {n2 : Nat} {p0 : Nat} {rx : Int32} (hm : fX5_compare PL b0 V0 V1 n1 n2 p0 = some rx) (hn1 : n1 < 20) (hn2 : n2 < 20) : CP G l yX5_compare (ws_ yX5_compare cX5_compare 3 (some .int)) 2 44 [.ref p0, .ref (b0 + (177 + 1 * n1 + 0)), .ref (b0 + (177 + 1 * n2 + 0))] (fun H => rg G b0 357 (shX0 G.2.1) V0 H ∧ pl G PL V1 H) (some (.int rx)) := by
  refine Met.ofW (cc := cX5_compare) (maxL := 3) (ret := (some .int)) (by decide +kernel) rfl ?_
  intro p e s m args below meth c s₁ B hml hv
  obtain ⟨rfl, ⟨hW0, hW1⟩, hK⟩ := hv
  have hts := atoms_spec (ws := ws_ yX5_compare cX5_compare 3 (some .int)) B.pre
  have hts : ∀ w ∈ lw_all, w.before _ s = true := fun w h => hts w (List.mem_cons_of_mem _ h)
  have C : Cx G p s m _ meth c RX5 cX5_compare 3 (some .int) := ⟨B.exec, B.bytes, B.returns, B.notSynchronized, hml, findClass_of_methodNamed B.named, hts, hK⟩
  have hl := lv_entry ([.ref p0, .ref (b0 + (177 + 1 * n1 + 0)), .ref (b0 + (177 + 1 * n2 + 0))]) (n := 3) (Nat.le_of_ble_eq_true rfl)
  rw [lg_entry_eq]
  generalize (lg_sl ([.ref p0, .ref (b0 + (177 + 1 * n1 + 0)), .ref (b0 + (177 + 1 * n2 + 0))]) ++ List.replicate (3 - (lg_sl ([.ref p0, .ref (b0 + (177 + 1 * n1 + 0)), .ref (b0 + (177 + 1 * n2 + 0))])).length) Slot.unset).toArray = ls at hl ⊢
  have hl : lv_has ls 3 [(0, .ref p0), (1, .ref (b0 + (177 + 1 * n1 + 0))), (2, .ref (b0 + (177 + 1 * n2 + 0)))] := hl
  exact w_fX5_compare C hW0 hW1 hn1 hn2 _ hm ls hl
theorem yn_J7_max : YN yJ7_max 2 := by
  unfold YN
  decide +kernel
theorem lkJ8_194 : LSt RJ8 194 yJ7_max cJ7_max 2 (some .int) := ⟨q1023, q1024, q136, q1025⟩
noncomputable def fJ8_newLength (i0 : Int32) (i1 : Int32) (i2 : Int32) : Option (Int32) :=
  ob (fJ7_max i1 i2) fun r1 =>
  if (i0 + r1) ≤ (0 : Int32) then (
  none)
  else (
  if (2147483639 : Int32) < (i0 + r1) then (
  none)
  else (
  some (i0 + r1)))
set_option maxHeartbeats 4000000 in
theorem w_fJ8_newLength (C : Cx G p s m args meth c RJ8 cJ8_newLength 4 (some .int)) {rx : Int32} : ∀ (i0 : Int32) (i1 : Int32) (i2 : Int32), fJ8_newLength i0 i1 i2 = some rx → ∀ (ls : Array Slot), lv_has ls 4 [(0, .int i0), (1, .int i1), (2, .int i2)] → W p l e (rmP 1 21) s m args below meth c s.heap [] 0 0 (MQ below (QcP (some (.int rx))) args s 0 0 (fun _ => False)) (F0 m 0 ls []) := by
  intro i0 i1 i2 hm ls hl
  obtain ⟨hx, hb, hr, hlk, hml, hown, hts, hK⟩ := id C
  unfold fJ8_newLength at hm
  refine lv_iload_n (pc := 0) hx hb dJ8_newLength_0 rfl (lv_at hl 0 rfl) ?_
  refine lv_iload_n (pc := 1) hx hb dJ8_newLength_1 rfl (lv_at hl 1 rfl) ?_
  refine lv_iload_n (pc := 2) hx hb dJ8_newLength_2 rfl (lv_at hl 2 rfl) ?_
  obtain ⟨r1, hq2, hm⟩ := ob_some hm
  refine rk_PS (pc := 3) (As := [.int i1, .int i2]) (rest := [.int i0]) hx hb hml hown hts hK lkJ8_194 yn_J7_max (ct_J7_max (G := G) (l := l) hq2) ⟨Nat.le_of_ble_eq_true rfl, Nat.le_of_ble_eq_true rfl⟩ trivial rfl rfl hl.1 (Nat.le_of_ble_eq_true rfl) dJ8_newLength_3 ⟨Nat.zero_le _, Nat.zero_le _⟩ ?_
  refine W.eq (g2 := F0 m 6 ls [.int r1, .int i0]) rfl ?_
  refine lv_iadd (pc := 6) hx hb dJ8_newLength_6 ?_
  refine lv_istore_n (pc := 7) (lv' := [(3, .int (i0 + r1)), (0, .int i0), (1, .int i1), (2, .int i2)]) hx hb dJ8_newLength_7 rfl hl (by decide) rfl (fun ls hl => ?_)
  refine lv_iconst (pc := 8) (v := (0 : Int32)) hx hb dJ8_newLength_8 (by decide) ?_
  refine lv_iload_n (pc := 9) hx hb dJ8_newLength_9 rfl (lv_at hl 0 rfl) ?_
  refine lv_icmp_ge (pc := 10) (tgt := 21) hx hb dJ8_newLength_10 (by decide) (fun c3 => ?_) (fun c3 => ?_)
  · have hm := ite_t c3 hm
    refine lv_iload_n (pc := 21) hx hb dJ8_newLength_21 rfl (lv_at hl 1 rfl) ?_
    refine lv_iload_n (pc := 22) hx hb dJ8_newLength_22 rfl (lv_at hl 2 rfl) ?_
    exact nomatch hm
  · have hm := ite_f c3 hm
    refine lv_iload_n (pc := 13) hx hb dJ8_newLength_13 rfl (lv_at hl 0 rfl) ?_
    refine lv_ldc (pc := 14) (v := (2147483639 : Int32)) hx hb hown (hts _ q1026) dJ8_newLength_14 ?_
    refine lv_icmp_gt (pc := 16) (tgt := 21) hx hb dJ8_newLength_16 (by decide) (fun c4 => ?_) (fun c4 => ?_)
    · have hm := ite_t c4 hm
      refine lv_iload_n (pc := 21) hx hb dJ8_newLength_21 rfl (lv_at hl 1 rfl) ?_
      refine lv_iload_n (pc := 22) hx hb dJ8_newLength_22 rfl (lv_at hl 2 rfl) ?_
      exact nomatch hm
    · have hm := ite_f c4 hm
      refine lv_iload_n (pc := 19) hx hb dJ8_newLength_19 rfl (lv_at hl 0 rfl) ?_
      have e9 := rs1 hm
      subst e9
      exact rk_iretP (pc := 20) hx hb hr hlk rfl dJ8_newLength_20
set_option maxHeartbeats 4000000 in
theorem ct_J8_newLength {G : Gv} {l : Launch} {i0 : Int32} {i1 : Int32} {i2 : Int32} {rx : Int32} (hm : fJ8_newLength i0 i1 i2 = some rx) : CP G l yJ8_newLength (ws_ yJ8_newLength cJ8_newLength 4 (some .int)) 1 21 [.int i0, .int i1, .int i2] (fun H => True) (some (.int rx)) := by
  refine Met.ofW (cc := cJ8_newLength) (maxL := 4) (ret := (some .int)) (by decide +kernel) rfl ?_
  intro p e s m args below meth c s₁ B hml hv
  obtain ⟨rfl, -, hK⟩ := hv
  have hts := atoms_spec (ws := ws_ yJ8_newLength cJ8_newLength 4 (some .int)) B.pre
  have hts : ∀ w ∈ lw_all, w.before _ s = true := fun w h => hts w (List.mem_cons_of_mem _ h)
  have C : Cx G p s m _ meth c RJ8 cJ8_newLength 4 (some .int) := ⟨B.exec, B.bytes, B.returns, B.notSynchronized, hml, findClass_of_methodNamed B.named, hts, hK⟩
  have hl := lv_entry ([.int i0, .int i1, .int i2]) (n := 4) (Nat.le_of_ble_eq_true rfl)
  rw [lg_entry_eq]
  generalize (lg_sl ([.int i0, .int i1, .int i2]) ++ List.replicate (4 - (lg_sl ([.int i0, .int i1, .int i2])).length) Slot.unset).toArray = ls at hl ⊢
  have hl : lv_has ls 4 [(0, .int i0), (1, .int i1), (2, .int i2)] := hl
  exact w_fJ8_newLength C _ _ _ hm ls hl
theorem yn_J8_newLength : YN yJ8_newLength 3 := by
  unfold YN
  decide +kernel
theorem lkJ4_80 : LSt RJ4 80 yJ8_newLength cJ8_newLength 4 (some .int) := ⟨q1020, q1021, q137, q1022⟩
theorem yn_J9_copyOf : YN yJ9_copyOf 2 := by
  unfold YN
  decide +kernel
theorem lkJ4_86 : LSt RJ4 86 yJ9_copyOf cJ9_copyOf 2 (some (.array (.object "java/lang/Object"))) := ⟨q1030, q1031, q138, q1032⟩
noncomputable def fJ4_grow_node_25 (PL : Nat → Bool) (Z : Nat) (b0 : Nat) (V0 : Mem) (v1 : Mem) (zc : Nat) (p0 : Nat) (t0 : Int32) (t1 : Int32) (t2 : Int32) : Option (Nat × Mem) :=
  ob (fJ8_newLength t0 t1 t2) fun r9 =>
  gb (kd PL v1 p0 17) (
  lo (gR v1 p0 0) fun oa12 =>
  ob oa12 fun pa14 =>
  ob3 (fJ9_copyOf_node PL (Z + zc) b0 V0 v1 pa14 r9) fun oa17 rc18 w19 =>
  gb (kd PL w19 p0 17) (
  lm (sR w19 p0 0 oa17) fun v1_34 =>
  some ((zc + rc18), v1_34)))
noncomputable def fJ4_grow_node (PL : Nat → Bool) (Z : Nat) (b0 : Nat) (V0 : Mem) (v1 : Mem) (p0 : Nat) (i1 : Int32) : Option (Nat × Mem) :=
  gb (kd PL v1 p0 17) (
  lo (gR v1 p0 0) fun oa2 =>
  ob oa2 fun pa4 =>
  gb (ka PL v1 pa4 44) (
  if (64 : Int32) ≤ (Int32.ofNat (gI v1 pa4 98).toNatClampNeg) then (
  fJ4_grow_node_25 PL Z b0 V0 v1 0 p0 (Int32.ofNat (gI v1 pa4 98).toNatClampNeg) (i1 - (Int32.ofNat (gI v1 pa4 98).toNatClampNeg)) ((Int32.ofNat (gI v1 pa4 98).toNatClampNeg) >>> ((1 : Int32) &&& 31)))
  else (
  fJ4_grow_node_25 PL Z b0 V0 v1 0 p0 (Int32.ofNat (gI v1 pa4 98).toNatClampNeg) (i1 - (Int32.ofNat (gI v1 pa4 98).toNatClampNeg)) ((Int32.ofNat (gI v1 pa4 98).toNatClampNeg) + (2 : Int32)))))
set_option maxHeartbeats 4000000 in
theorem w_fJ4_grow_node_25 (C : Cx G p s m args meth c RJ4 cJ4_grow 4 none) {b0 : Nat} {PL : Nat → Bool} {Z : Nat} {V0 : Mem} {vP0 : Mem} {rc : Nat} {rw1 : Mem} (hPX : ∀ z, PL z = true → ¬ fX b0 z) (he0 : b0 + 357 ≤ s.heap.size) (hZz : s.heap.size = Z) (hZP : ZP G) : ∀ (v1 : Mem) (zc : Nat) (p0 : Nat) (t0 : Int32) (t1 : Int32) (t2 : Int32), fJ4_grow_node_25 PL Z b0 V0 v1 zc p0 t0 t1 t2 = some (rc, rw1) → ∀ (H : Heap) (locs : List Loc) (ls : Array Slot), rg G b0 357 (shX0 G.2.1) V0 H → pl G PL v1 H → va_S (FA (fP PL vP0) s.heap.size) s.heap H locs → H.size = s.heap.size + zc → KM vP0 v1 s.heap.size → lv_has ls 4 [(0, .ref p0)] → W p l e (rmT 4 1 90 141) s m args below meth c H locs 0 0 (MQ below (QcT (FA (fP PL vP0) s.heap.size) (fun ov H => ov = none ∧ pl G PL rw1 H ∧ H.size = s.heap.size + rc ∧ KM vP0 rw1 s.heap.size)) args s 1 90 (FA (fP PL vP0) s.heap.size)) (F0 m 25 ls [.int t2, .int t1, .int t0]) := by
  intro v1 zc p0 t0 t1 t2 hm H locs ls hW0 hW1 hS hz hKM hl
  obtain ⟨hx, hb, hr, hlk, hml, hown, hts, hK⟩ := id C
  unfold fJ4_grow_node_25 at hm
  obtain ⟨r9, hq10, hm⟩ := ob_some hm
  refine rk_PS (pc := 25) (As := [.int t0, .int t1, .int t2]) (rest := []) hx hb hml hown hts hK lkJ4_80 yn_J8_newLength (ct_J8_newLength (G := G) (l := l) hq10) ⟨Nat.le_of_ble_eq_true rfl, Nat.le_of_ble_eq_true rfl⟩ trivial rfl rfl hl.1 (Nat.le_of_ble_eq_true rfl) dJ4_grow_25 ⟨Nat.zero_le _, Nat.zero_le _⟩ ?_
  refine W.eq (g2 := F0 m 28 ls [.int r9]) rfl ?_
  refine lv_istore_n (pc := 28) (lv' := [(3, .int r9), (0, .ref p0)]) hx hb dJ4_grow_28 rfl hl (by decide) rfl (fun ls hl => ?_)
  refine lv_aload_n (pc := 29) hx hb dJ4_grow_29 rfl (lv_at hl 1 rfl) ?_
  refine lv_aload_n (pc := 30) hx hb dJ4_grow_30 rfl (lv_at hl 1 rfl) ?_
  obtain ⟨hg11, hm⟩ := gb_some hm
  obtain ⟨oa12, he13, hm⟩ := lo_some hm
  refine rk_get (pc := 31) hx hb hts hown hK (pl_rg hW1) flJ4_17 p0 (Nat.lt_succ_self _) (Nat.zero_add _).symm (shP_17 (kd_PL hg11) (kd_k hg11)) (x := va_rf oa12) (congrArg (fun z => some (va_rf z)) he13) dJ4_grow_31 ?_
  refine lv_iload_n (pc := 34) hx hb dJ4_grow_34 rfl (lv_at hl 0 rfl) ?_
  obtain ⟨pa14, he15, hm16⟩ := ob_some hm
  subst he15
  have hm := hm16
  obtain ⟨oa17, rc18, w19, hq20, hm⟩ := ob3_some hm
  have hq21 := hq20
  rw [show (Z + zc) = H.size by omega] at hq21
  refine rk_TS (pc := 35) (As := [.ref pa14, .int r9]) (rest := [.ref p0]) (mc := 1) (ms := 90) hx hb hml hown hts hK hS (fun q hq => FA_sz rfl q hq) lkJ4_86 yn_J9_copyOf (ct_J9_copyOf_node (G := G) (l := l) (b0 := b0) hq21 hPX hZP) ⟨Nat.le_of_ble_eq_true rfl, Nat.le_of_ble_eq_true rfl⟩ (fun z h => (KM_hf2 hKM z h)) ⟨hW0, hW1⟩ rfl rfl hl.1 (Nat.le_of_ble_eq_true rfl) dJ4_grow_35 ⟨Nat.le_of_ble_eq_true rfl, Nat.le_of_ble_eq_true rfl⟩ (fun ov9 H22 locs23 hP24 hkp25 hS26 => ?_)
  obtain ⟨rfl, hW27, hz28, hKM29⟩ := hP24
  have hW30 := rg_keepX hW0 hkp25 (by intro z h0 h3; have h1 := h0.1.1; have h2 := h0.1.2; have h4 := h0.2; exact hPX _ h3.1 h0)
  have hz31 : H22.size = s.heap.size + (zc + rc18) := by omega
  have hKM32 := KM.trans hKM hKM29 (by omega)
  refine W.eq (g2 := F0 m 38 ls [va_rf oa17, .ref p0]) rfl ?_
  obtain ⟨hg33, hm⟩ := gb_some hm
  refine rp_put (pc := 38) (q := p0) hx hb hts hown hK hW27 hS26 flJ4_17 ft_J4 (kd_A hKM32 hg33 (by decide)) (shP_17 (kd_PL hg33) (kd_k hg33)) rfl (x := va_rf oa17) (rf_nar _ rfl oa17) (rf_fit _ rfl oa17) (Nat.le_of_ble_eq_true rfl) (sR w19 p0 0 oa17) sR_ne (by rw [sR_eq]; exact shP_17 (kd_PL hg33) (kd_k hg33)) dJ4_grow_38 (fun H35 locs36 hW37 hS38 hz39 hkp40 => ?_)
  have hKM41 := KM.sR (o := p0) (j := 0) (x := oa17) hKM32
  obtain ⟨v1_34, he9, hm⟩ := lm_some hm
  rw [he9] at hW37 hKM41
  have hW42 := rg_keepqX hW30 hkp40 (hPX _ (kd_PL hg33))
  have hz43 := hz39.trans hz31
  obtain ⟨e8, e9⟩ := rs2 hm
  subst e8
  subst e9
  exact rk_vretA (pc := 41) hx hb hr hlk hS38 ⟨rfl, hW37, hz43, hKM41⟩ dJ4_grow_41 (by exact Nat.le_of_ble_eq_true rfl) (by exact Nat.le_of_ble_eq_true rfl)
set_option maxHeartbeats 4000000 in
theorem w_fJ4_grow_node (C : Cx G p s m args meth c RJ4 cJ4_grow 4 none) {b0 : Nat} {PL : Nat → Bool} {Z : Nat} {V0 : Mem} {vP0 : Mem} {rc : Nat} {rw1 : Mem} (hPX : ∀ z, PL z = true → ¬ fX b0 z) (he0 : b0 + 357 ≤ s.heap.size) (hZz : s.heap.size = Z) (hZP : ZP G) : ∀ (v1 : Mem) (p0 : Nat) (i1 : Int32), fJ4_grow_node PL Z b0 V0 v1 p0 i1 = some (rc, rw1) → ∀ (H : Heap) (locs : List Loc) (ls : Array Slot), rg G b0 357 (shX0 G.2.1) V0 H → pl G PL v1 H → va_S (FA (fP PL vP0) s.heap.size) s.heap H locs → H.size = s.heap.size + 0 → KM vP0 v1 s.heap.size → lv_has ls 4 [(0, .ref p0), (1, .int i1)] → W p l e (rmT 4 1 90 141) s m args below meth c H locs 0 0 (MQ below (QcT (FA (fP PL vP0) s.heap.size) (fun ov H => ov = none ∧ pl G PL rw1 H ∧ H.size = s.heap.size + rc ∧ KM vP0 rw1 s.heap.size)) args s 1 90 (FA (fP PL vP0) s.heap.size)) (F0 m 0 ls []) := by
  intro v1 p0 i1 hm H locs ls hW0 hW1 hS hz hKM hl
  obtain ⟨hx, hb, hr, hlk, hml, hown, hts, hK⟩ := id C
  unfold fJ4_grow_node at hm
  refine lv_aload_n (pc := 0) hx hb dJ4_grow_0 rfl (lv_at hl 0 rfl) ?_
  obtain ⟨hg1, hm⟩ := gb_some hm
  obtain ⟨oa2, he3, hm⟩ := lo_some hm
  refine rk_get (pc := 1) hx hb hts hown hK (pl_rg hW1) flJ4_17 p0 (Nat.lt_succ_self _) (Nat.zero_add _).symm (shP_17 (kd_PL hg1) (kd_k hg1)) (x := va_rf oa2) (congrArg (fun z => some (va_rf z)) he3) dJ4_grow_1 ?_
  obtain ⟨pa4, he5, hm6⟩ := ob_some hm
  subst he5
  have hm := hm6
  obtain ⟨hg7, hm⟩ := gb_some hm
  refine rp_alen (pc := 4) hx hb hK hW1 hg7 dJ4_grow_4 ?_
  refine lv_istore_n (pc := 5) (lv' := [(2, .int (Int32.ofNat (gI v1 pa4 98).toNatClampNeg)), (0, .ref p0), (1, .int i1)]) hx hb dJ4_grow_5 rfl hl (by decide) rfl (fun ls hl => ?_)
  refine lv_iload_n (pc := 6) hx hb dJ4_grow_6 rfl (lv_at hl 0 rfl) ?_
  refine lv_iload_n (pc := 7) hx hb dJ4_grow_7 rfl (lv_at hl 2 rfl) ?_
  refine lv_iload_n (pc := 8) hx hb dJ4_grow_8 rfl (lv_at hl 0 rfl) ?_
  refine lv_isub (pc := 9) hx hb dJ4_grow_9 ?_
  refine lv_iload_n (pc := 10) hx hb dJ4_grow_10 rfl (lv_at hl 0 rfl) ?_
  refine lv_bipush (pc := 11) (v := (64 : Int32)) hx hb dJ4_grow_11 (by decide) ?_
  refine lv_icmp_ge (pc := 13) (tgt := 22) hx hb dJ4_grow_13 (by decide) (fun c8 => ?_) (fun c8 => ?_)
  · have hm := ite_t c8 hm
    refine lv_iload_n (pc := 22) hx hb dJ4_grow_22 rfl (lv_at hl 0 rfl) ?_
    refine lv_iconst (pc := 23) (v := (1 : Int32)) hx hb dJ4_grow_23 (by decide) ?_
    refine lv_ishr (pc := 24) hx hb dJ4_grow_24 ?_
    exact (w_fJ4_grow_node_25 C hPX he0 hZz hZP) v1 0 p0 (Int32.ofNat (gI v1 pa4 98).toNatClampNeg) (i1 - (Int32.ofNat (gI v1 pa4 98).toNatClampNeg)) ((Int32.ofNat (gI v1 pa4 98).toNatClampNeg) >>> ((1 : Int32) &&& 31)) hm H locs ls hW0 hW1 hS hz hKM (lv_sub hl [1] rfl)
  · have hm := ite_f c8 hm
    refine lv_iload_n (pc := 16) hx hb dJ4_grow_16 rfl (lv_at hl 0 rfl) ?_
    refine lv_iconst (pc := 17) (v := (2 : Int32)) hx hb dJ4_grow_17 (by decide) ?_
    refine lv_iadd (pc := 18) hx hb dJ4_grow_18 ?_
    refine lv_goto (pc := 19) (tgt := 25) hx hb dJ4_grow_19 (by decide) ?_
    exact (w_fJ4_grow_node_25 C hPX he0 hZz hZP) v1 0 p0 (Int32.ofNat (gI v1 pa4 98).toNatClampNeg) (i1 - (Int32.ofNat (gI v1 pa4 98).toNatClampNeg)) ((Int32.ofNat (gI v1 pa4 98).toNatClampNeg) + (2 : Int32)) hm H locs ls hW0 hW1 hS hz hKM (lv_sub hl [1] rfl)
set_option maxHeartbeats 4000000 in
theorem ct_J4_grow_node {G : Gv} {l : Launch} {b0 : Nat} {PL : Nat → Bool} {Z : Nat} {V0 : Mem} {v1 : Mem} {p0 : Nat} {i1 : Int32} {rc : Nat} {rw1 : Mem} (hm : fJ4_grow_node PL Z b0 V0 v1 p0 i1 = some (rc, rw1)) (hPX : ∀ z, PL z = true → ¬ fX b0 z) (hZP : ZP G) : CT G l yJ4_grow (ws_ yJ4_grow cJ4_grow 4 none) 4 1 90 141 [.ref p0, .int i1] (fP PL v1) Z (fun H => rg G b0 357 (shX0 G.2.1) V0 H ∧ pl G PL v1 H) (fun ov H => ov = none ∧ pl G PL rw1 H ∧ H.size = Z + rc ∧ KM v1 rw1 Z) := by
  refine Met.ofW (cc := cJ4_grow) (maxL := 4) (ret := none) (by decide +kernel) rfl ?_
  intro p e s m args below meth c s₁ B hml hv
  obtain ⟨rfl, ⟨hz, hW0, hW1⟩, hK⟩ := hv
  subst hz
  have he0 := rg_end hW0 356 (by decide) rfl (fun _ _ _ => rfl)
  have hZz : s.heap.size = s.heap.size := rfl
  have hts := atoms_spec (ws := ws_ yJ4_grow cJ4_grow 4 none) B.pre
  have hts : ∀ w ∈ lw_all, w.before _ s = true := fun w h => hts w (List.mem_cons_of_mem _ h)
  have C : Cx G p s m _ meth c RJ4 cJ4_grow 4 none := ⟨B.exec, B.bytes, B.returns, B.notSynchronized, hml, findClass_of_methodNamed B.named, hts, hK⟩
  have hl := lv_entry ([.ref p0, .int i1]) (n := 4) (Nat.le_of_ble_eq_true rfl)
  rw [lg_entry_eq]
  generalize (lg_sl ([.ref p0, .int i1]) ++ List.replicate (4 - (lg_sl ([.ref p0, .int i1])).length) Slot.unset).toArray = ls at hl ⊢
  have hl : lv_has ls 4 [(0, .ref p0), (1, .int i1)] := hl
  exact w_fJ4_grow_node C hPX he0 hZz hZP _ _ _ hm s.heap [] ls hW0 hW1 va_S.rf rfl KM.rf hl
theorem yn_J4_grow : YN yJ4_grow 1 := by
  unfold YN
  decide +kernel
theorem lkJ4_96 : LV RJ4 96 RJ4 yJ4_grow cJ4_grow 4 none := ⟨q1016, q1018, qs27, q123, q1019⟩
theorem flJ4_21 : FL RJ4 21 17 2 RJ4 TJ4 4 := ⟨in_J4, rfl, by decide, q391⟩
theorem yn_X8_compareTo : YN yX8_compareTo 1 := by
  unfold YN
  decide +kernel
theorem lfJ4_146_X8 : LF RJ4 146 RX8 ⟨"java/lang/Comparable", "compareTo", "(Ljava/lang/Object;)I"⟩ yX8_compareTo cX8_compareTo 2 (some .int) := ⟨q1101, q1116, q1118, q127, q1120⟩
theorem ynx_J4_146 : YN ⟨"java/lang/Comparable", "compareTo", "(Ljava/lang/Object;)I"⟩ 1 := by
  unfold YN
  decide +kernel
noncomputable def fJ4_siftUpComparable_node_5 (PL : Nat → Bool) (b0 : Nat) (V0 : Mem) (k5 : Mem → Int32 → Nat → Nat → Option (Mem)) (v1 : Mem) (i0 : Int32) (p2 : Nat) (n3 : Nat) : Option (Mem) :=
  if i0 ≤ 0 then (
  gb (ka PL v1 p2 44) (
  gb (inR i0 (gI v1 p2 98).toNatClampNeg) (
  lm (sR v1 p2 i0.toNatClampNeg (some (b0 + (197 + 4 * n3 + 0)))) fun v1_9 =>
  some v1_9)))
  else (
  gb (ka PL v1 p2 44) (
  gb (inR ((i0 - (1 : Int32)).toUInt32 >>> ((1 : Int32).toUInt32 &&& Int32.toUInt32 31)).toInt32 (gI v1 p2 98).toNatClampNeg) (
  lo (gR v1 p2 ((i0 - (1 : Int32)).toUInt32 >>> ((1 : Int32).toUInt32 &&& Int32.toUInt32 31)).toInt32.toNatClampNeg) fun oa21 =>
  ob oa21 fun pa23 =>
  ob (fi b0 197 4 40 pa23) fun nf26 =>
  ob (fX8_compareTo (shf V0 (197 + 4 * n3)) (shf V0 (197 + 4 * nf26))) fun r31 =>
  if r31 < 0 then (
  gb (ka PL v1 p2 44) (
  gb (inR i0 (gI v1 p2 98).toNatClampNeg) (
  lm (sR v1 p2 i0.toNatClampNeg (some (b0 + (197 + 4 * nf26 + 0)))) fun v1_36 =>
  k5 v1_36 ((i0 - (1 : Int32)).toUInt32 >>> ((1 : Int32).toUInt32 &&& Int32.toUInt32 31)).toInt32 p2 n3)))
  else (
  gb (ka PL v1 p2 44) (
  gb (inR i0 (gI v1 p2 98).toNatClampNeg) (
  lm (sR v1 p2 i0.toNatClampNeg (some (b0 + (197 + 4 * n3 + 0)))) fun v1_48 =>
  some v1_48))))))
noncomputable def fJ4_siftUpComparable_node (PL : Nat → Bool) (b0 : Nat) (V0 : Mem) (v1 : Mem) (i0 : Int32) (p1 : Nat) (p2 : Nat) : Option (Mem) :=
  ob (fi b0 197 4 40 p1) fun nf1 =>
  lq4 (fJ4_siftUpComparable_node_5 PL b0 V0) FU v1 i0 p2 nf1
set_option maxHeartbeats 4000000 in
theorem w_fJ4_siftUpComparable_node_5 (C : Cx G p s m args meth c RJ4 cJ4_siftUpComparable 6 none) {b0 : Nat} {PL : Nat → Bool} {V0 : Mem} {vP0 : Mem} {rw1 : Mem} (hPX : ∀ z, PL z = true → ¬ fX b0 z) (hZP : ZP G) {k5 : Mem → Int32 → Nat → Nat → Option (Mem)} (hk5 : ∀ (v1 : Mem) (i0 : Int32) (p2 : Nat) (n3 : Nat), k5 v1 i0 p2 n3 = some rw1 → (hn_n3 : n3 < 40) → ∀ (H : Heap) (locs : List Loc) (ls : Array Slot), rg G b0 357 (shX0 G.2.1) V0 H → pl G PL v1 H → va_S (FA (fP PL vP0) s.heap.size) s.heap H locs → H.size = s.heap.size → KM vP0 v1 s.heap.size → lv_has ls 6 [(0, .int i0), (2, .ref p2), (3, .ref (b0 + (197 + 4 * n3 + 0)))] → W p l e (rmT 2 0 0 46) s m args below meth c H locs 0 0 (MQ below (QcT (FA (fP PL vP0) s.heap.size) (fun ov H => ov = none ∧ pl G PL rw1 H ∧ H.size = s.heap.size ∧ KM vP0 rw1 s.heap.size)) args s 0 0 (FA (fP PL vP0) s.heap.size)) (F0 m 5 ls [])) : ∀ (v1 : Mem) (i0 : Int32) (p2 : Nat) (n3 : Nat), fJ4_siftUpComparable_node_5 PL b0 V0 k5 v1 i0 p2 n3 = some rw1 → (hn_n3 : n3 < 40) → ∀ (H : Heap) (locs : List Loc) (ls : Array Slot), rg G b0 357 (shX0 G.2.1) V0 H → pl G PL v1 H → va_S (FA (fP PL vP0) s.heap.size) s.heap H locs → H.size = s.heap.size → KM vP0 v1 s.heap.size → lv_has ls 6 [(0, .int i0), (2, .ref p2), (3, .ref (b0 + (197 + 4 * n3 + 0)))] → W p l e (rmT 2 0 0 46) s m args below meth c H locs 0 0 (MQ below (QcT (FA (fP PL vP0) s.heap.size) (fun ov H => ov = none ∧ pl G PL rw1 H ∧ H.size = s.heap.size ∧ KM vP0 rw1 s.heap.size)) args s 0 0 (FA (fP PL vP0) s.heap.size)) (F0 m 5 ls []) := by
  intro v1 i0 p2 n3 hm hn_n3 H locs ls hW0 hW1 hS hz hKM hl
  obtain ⟨hx, hb, hr, hlk, hml, hown, hts, hK⟩ := id C
  unfold fJ4_siftUpComparable_node_5 at hm
  refine lv_iload_n (pc := 5) hx hb dJ4_siftUpComparable_5 rfl (lv_at hl 0 rfl) ?_
  refine lv_if_le (pc := 6) (tgt := 47) hx hb dJ4_siftUpComparable_6 (by decide) (fun c6 => ?_) (fun c6 => ?_)
  · have hm := ite_t c6 hm
    refine lv_aload_n (pc := 47) hx hb dJ4_siftUpComparable_47 rfl (lv_at hl 1 rfl) ?_
    refine lv_iload_n (pc := 48) hx hb dJ4_siftUpComparable_48 rfl (lv_at hl 0 rfl) ?_
    refine lv_aload_n (pc := 49) hx hb dJ4_siftUpComparable_49 rfl (lv_at hl 2 rfl) ?_
    obtain ⟨hg7, hm⟩ := gb_some hm
    obtain ⟨hg8, hm⟩ := gb_some hm
    refine rp_aastR (pc := 50) (C := RX8) hx hb hts hK hW1 hS (kd_A hKM (ka_kd hg7) (by decide)) hg7 hg8 q2402 (rk_recv hK hW0 (197 + 4 * n3 + 0) (by omega) rfl rfl ((shX0_f197 G.2.1 hn_n3 _ rfl 0 (by decide) _ _ _).trans rfl)) dJ4_siftUpComparable_50 (fun H10 locs11 hW12 hS13 hz14 hkp15 => ?_)
    have hKM16 := KM.sR (o := p2) (j := i0.toNatClampNeg) (x := (some (b0 + (197 + 4 * n3 + 0)))) hKM
    obtain ⟨v1_9, he9, hm⟩ := lm_some hm
    rw [he9] at hW12 hKM16
    have hW17 := rg_keepqX hW0 hkp15 (hPX _ (kd_PL (ka_kd hg7)))
    have hz18 := hz14.trans hz
    have e9 := rs1 hm
    subst e9
    exact rk_vret (pc := 51) hx hb hr hlk hS13 ⟨rfl, hW12, hz18, hKM16⟩ dJ4_siftUpComparable_51
  · have hm := ite_f c6 hm
    refine lv_iload_n (pc := 9) hx hb dJ4_siftUpComparable_9 rfl (lv_at hl 0 rfl) ?_
    refine lv_iconst (pc := 10) (v := (1 : Int32)) hx hb dJ4_siftUpComparable_10 (by decide) ?_
    refine lv_isub (pc := 11) hx hb dJ4_siftUpComparable_11 ?_
    refine lv_iconst (pc := 12) (v := (1 : Int32)) hx hb dJ4_siftUpComparable_12 (by decide) ?_
    refine lv_iushr (pc := 13) hx hb dJ4_siftUpComparable_13 rfl ?_
    refine lv_istore (pc := 14) (lv' := [(4, .int ((i0 - (1 : Int32)).toUInt32 >>> ((1 : Int32).toUInt32 &&& Int32.toUInt32 31)).toInt32), (0, .int i0), (2, .ref p2), (3, .ref (b0 + (197 + 4 * n3 + 0)))]) hx hb dJ4_siftUpComparable_14 hl (by decide) rfl (fun ls hl => ?_)
    refine lv_aload_n (pc := 16) hx hb dJ4_siftUpComparable_16 rfl (lv_at hl 2 rfl) ?_
    refine lv_iload (pc := 17) hx hb dJ4_siftUpComparable_17 (lv_at hl 0 rfl) ?_
    obtain ⟨hg19, hm⟩ := gb_some hm
    obtain ⟨hg20, hm⟩ := gb_some hm
    obtain ⟨oa21, he22, hm⟩ := lo_some hm
    refine rp_aald (pc := 19) hx hb hK hW1 hg19 hg20 he22 dJ4_siftUpComparable_19 ?_
    refine lv_astoreO (pc := 20) (lv' := [(5, va_rf oa21), (4, .int ((i0 - (1 : Int32)).toUInt32 >>> ((1 : Int32).toUInt32 &&& Int32.toUInt32 31)).toInt32), (0, .int i0), (2, .ref p2), (3, .ref (b0 + (197 + 4 * n3 + 0)))]) hx hb dJ4_siftUpComparable_20 hl (by decide) rfl (fun ls hl => ?_)
    refine lv_aload_n (pc := 22) hx hb dJ4_siftUpComparable_22 rfl (lv_at hl 4 rfl) ?_
    refine lv_aloadO (pc := 23) hx hb dJ4_siftUpComparable_23 (lv_at hl 0 rfl) ?_
    obtain ⟨pa23, he24, hm25⟩ := ob_some hm
    subst he24
    have hm := hm25
    obtain ⟨nf26, hf27, hm30⟩ := ob_some hm
    obtain ⟨ha28, hlt29⟩ := fi_some hf27
    subst ha28
    have hm := hm30
    obtain ⟨r31, hq32, hm⟩ := ob_some hm
    refine rp_PF (pc := 25) (As := [.ref (b0 + (197 + 4 * nf26 + 0))]) (rest := []) hx hb hml hown hts hK lfJ4_146_X8 ((hZP s hK).1.2.1) (T := TX8) (N := 8) (ci := 8) rfl ynx_J4_146 (ct_X8_compareTo (G := G) (l := l) (b0 := (b0 + (197 + 4 * n3 + 0))) (b1 := (b0 + (197 + 4 * nf26 + 0))) hq32) ⟨Nat.le_of_ble_eq_true rfl, Nat.le_of_ble_eq_true rfl⟩ (rk_recv hK hW0 (197 + 4 * n3 + 0) (by omega) rfl rfl ((shX0_f197 G.2.1 hn_n3 _ rfl 0 (by decide) _ _ _).trans rfl)) ⟨(rg_sub (d := (197 + 4 * n3)) hW0 rfl (by omega) (fun o ho x y z => shX0_f197 G.2.1 hn_n3 _ rfl o ho x y z)), (rg_sub (d := (197 + 4 * nf26)) hW0 rfl (by omega) (fun o ho x y z => shX0_f197 G.2.1 hlt29 _ rfl o ho x y z))⟩ rfl rfl hl.1 (Nat.le_of_ble_eq_true rfl) dJ4_siftUpComparable_25 ⟨Nat.zero_le _, Nat.zero_le _⟩ ?_
    refine W.eq (g2 := F0 m 30 ls [.int r31]) rfl ?_
    refine lv_if_lt (pc := 30) (tgt := 36) hx hb dJ4_siftUpComparable_30 (by decide) (fun c33 => ?_) (fun c33 => ?_)
    · have hm := ite_t c33 hm
      refine lv_aload_n (pc := 36) hx hb dJ4_siftUpComparable_36 rfl (lv_at hl 3 rfl) ?_
      refine lv_iload_n (pc := 37) hx hb dJ4_siftUpComparable_37 rfl (lv_at hl 2 rfl) ?_
      refine lv_aload (pc := 38) hx hb dJ4_siftUpComparable_38 (lv_at hl 0 rfl) ?_
      obtain ⟨hg34, hm⟩ := gb_some hm
      obtain ⟨hg35, hm⟩ := gb_some hm
      refine rp_aastR (pc := 40) (C := RX8) hx hb hts hK hW1 hS (kd_A hKM (ka_kd hg34) (by decide)) hg34 hg35 q2402 (rk_recv hK hW0 (197 + 4 * nf26 + 0) (by omega) rfl rfl ((shX0_f197 G.2.1 hlt29 _ rfl 0 (by decide) _ _ _).trans rfl)) dJ4_siftUpComparable_40 (fun H37 locs38 hW39 hS40 hz41 hkp42 => ?_)
      have hKM43 := KM.sR (o := p2) (j := i0.toNatClampNeg) (x := (some (b0 + (197 + 4 * nf26 + 0)))) hKM
      obtain ⟨v1_36, he9, hm⟩ := lm_some hm
      rw [he9] at hW39 hKM43
      have hW44 := rg_keepqX hW0 hkp42 (hPX _ (kd_PL (ka_kd hg34)))
      have hz45 := hz41.trans hz
      refine lv_iload (pc := 41) hx hb dJ4_siftUpComparable_41 (lv_at hl 1 rfl) ?_
      refine lv_istore_n (pc := 43) (lv' := [(0, .int ((i0 - (1 : Int32)).toUInt32 >>> ((1 : Int32).toUInt32 &&& Int32.toUInt32 31)).toInt32), (5, .ref (b0 + (197 + 4 * nf26 + 0))), (4, .int ((i0 - (1 : Int32)).toUInt32 >>> ((1 : Int32).toUInt32 &&& Int32.toUInt32 31)).toInt32), (2, .ref p2), (3, .ref (b0 + (197 + 4 * n3 + 0)))]) hx hb dJ4_siftUpComparable_43 rfl hl (by decide) rfl (fun ls hl => ?_)
      refine lv_goto (pc := 44) (tgt := 5) hx hb dJ4_siftUpComparable_44 (by decide) ?_
      exact hk5 v1_36 ((i0 - (1 : Int32)).toUInt32 >>> ((1 : Int32).toUInt32 &&& Int32.toUInt32 31)).toInt32 p2 n3 hm hn_n3 H37 locs38 ls hW44 hW39 hS40 hz45 hKM43 (lv_sub hl [0, 3, 4] rfl)
    · have hm := ite_f c33 hm
      refine lv_goto (pc := 33) (tgt := 47) hx hb dJ4_siftUpComparable_33 (by decide) ?_
      refine lv_aload_n (pc := 47) hx hb dJ4_siftUpComparable_47 rfl (lv_at hl 3 rfl) ?_
      refine lv_iload_n (pc := 48) hx hb dJ4_siftUpComparable_48 rfl (lv_at hl 2 rfl) ?_
      refine lv_aload_n (pc := 49) hx hb dJ4_siftUpComparable_49 rfl (lv_at hl 4 rfl) ?_
      obtain ⟨hg46, hm⟩ := gb_some hm
      obtain ⟨hg47, hm⟩ := gb_some hm
      refine rp_aastR (pc := 50) (C := RX8) hx hb hts hK hW1 hS (kd_A hKM (ka_kd hg46) (by decide)) hg46 hg47 q2402 (rk_recv hK hW0 (197 + 4 * n3 + 0) (by omega) rfl rfl ((shX0_f197 G.2.1 hn_n3 _ rfl 0 (by decide) _ _ _).trans rfl)) dJ4_siftUpComparable_50 (fun H49 locs50 hW51 hS52 hz53 hkp54 => ?_)
      have hKM55 := KM.sR (o := p2) (j := i0.toNatClampNeg) (x := (some (b0 + (197 + 4 * n3 + 0)))) hKM
      obtain ⟨v1_48, he9, hm⟩ := lm_some hm
      rw [he9] at hW51 hKM55
      have hW56 := rg_keepqX hW0 hkp54 (hPX _ (kd_PL (ka_kd hg46)))
      have hz57 := hz53.trans hz
      have e9 := rs1 hm
      subst e9
      exact rk_vret (pc := 51) hx hb hr hlk hS52 ⟨rfl, hW51, hz57, hKM55⟩ dJ4_siftUpComparable_51
theorem w_fJ4_siftUpComparable_node_5_l (C : Cx G p s m args meth c RJ4 cJ4_siftUpComparable 6 none) {b0 : Nat} {PL : Nat → Bool} {V0 : Mem} {vP0 : Mem} {rw1 : Mem} (hPX : ∀ z, PL z = true → ¬ fX b0 z) (hZP : ZP G) : ∀ (n : Nat) (v1 : Mem) (i0 : Int32) (p2 : Nat) (n3 : Nat), lq4 (fJ4_siftUpComparable_node_5 PL b0 V0) n v1 i0 p2 n3 = some rw1 → (hn_n3 : n3 < 40) → ∀ (H : Heap) (locs : List Loc) (ls : Array Slot), rg G b0 357 (shX0 G.2.1) V0 H → pl G PL v1 H → va_S (FA (fP PL vP0) s.heap.size) s.heap H locs → H.size = s.heap.size → KM vP0 v1 s.heap.size → lv_has ls 6 [(0, .int i0), (2, .ref p2), (3, .ref (b0 + (197 + 4 * n3 + 0)))] → W p l e (rmT 2 0 0 46) s m args below meth c H locs 0 0 (MQ below (QcT (FA (fP PL vP0) s.heap.size) (fun ov H => ov = none ∧ pl G PL rw1 H ∧ H.size = s.heap.size ∧ KM vP0 rw1 s.heap.size)) args s 0 0 (FA (fP PL vP0) s.heap.size)) (F0 m 5 ls []) := by
  intro n
  induction n with
  | zero => intro v1 i0 p2 n3 hm; exact (lq4_0 hm).elim
  | succ n ih => intro v1 i0 p2 n3 hm; exact w_fJ4_siftUpComparable_node_5 C hPX hZP ih v1 i0 p2 n3 (lq4_s hm)
set_option maxHeartbeats 4000000 in
theorem w_fJ4_siftUpComparable_node (C : Cx G p s m args meth c RJ4 cJ4_siftUpComparable 6 none) {b0 : Nat} {PL : Nat → Bool} {V0 : Mem} {vP0 : Mem} {rw1 : Mem} (hPX : ∀ z, PL z = true → ¬ fX b0 z) (hZP : ZP G) : ∀ (v1 : Mem) (i0 : Int32) (p1 : Nat) (p2 : Nat), fJ4_siftUpComparable_node PL b0 V0 v1 i0 p1 p2 = some rw1 → ∀ (H : Heap) (locs : List Loc) (ls : Array Slot), rg G b0 357 (shX0 G.2.1) V0 H → pl G PL v1 H → va_S (FA (fP PL vP0) s.heap.size) s.heap H locs → H.size = s.heap.size → KM vP0 v1 s.heap.size → lv_has ls 6 [(0, .int i0), (1, .ref p1), (2, .ref p2)] → W p l e (rmT 2 0 0 46) s m args below meth c H locs 0 0 (MQ below (QcT (FA (fP PL vP0) s.heap.size) (fun ov H => ov = none ∧ pl G PL rw1 H ∧ H.size = s.heap.size ∧ KM vP0 rw1 s.heap.size)) args s 0 0 (FA (fP PL vP0) s.heap.size)) (F0 m 0 ls []) := by
  intro v1 i0 p1 p2 hm H locs ls hW0 hW1 hS hz hKM hl
  obtain ⟨hx, hb, hr, hlk, hml, hown, hts, hK⟩ := id C
  unfold fJ4_siftUpComparable_node at hm
  refine lv_aload_n (pc := 0) hx hb dJ4_siftUpComparable_0 rfl (lv_at hl 1 rfl) ?_
  obtain ⟨nf1, hf2, hm5⟩ := ob_some hm
  obtain ⟨ha3, hlt4⟩ := fi_some hf2
  subst ha3
  have hm := hm5
  refine rp_castY (pc := 1) (nm := "java/lang/Comparable") (C := RX8) hx hb hown hts hK q1099 q1115 (rk_recv hK hW0 (197 + 4 * nf1 + 0) (by omega) rfl rfl ((shX0_f197 G.2.1 hlt4 _ rfl 0 (by decide) _ _ _).trans rfl)) dJ4_siftUpComparable_1 ?_
  refine lv_astore_n (pc := 4) (lv' := [(3, .ref (b0 + (197 + 4 * nf1 + 0))), (0, .int i0), (1, .ref (b0 + (197 + 4 * nf1 + 0))), (2, .ref p2)]) hx hb dJ4_siftUpComparable_4 rfl hl (by decide) rfl (fun ls hl => ?_)
  exact (w_fJ4_siftUpComparable_node_5_l C hPX hZP FU) v1 i0 p2 nf1 hm hlt4 H locs ls hW0 hW1 hS hz hKM (lv_sub hl [1, 3, 0] rfl)
set_option maxHeartbeats 4000000 in
theorem ct_J4_siftUpComparable_node {G : Gv} {l : Launch} {b0 : Nat} {PL : Nat → Bool} {V0 : Mem} {v1 : Mem} {i0 : Int32} {p1 : Nat} {p2 : Nat} {rw1 : Mem} {sz : Nat} (hm : fJ4_siftUpComparable_node PL b0 V0 v1 i0 p1 p2 = some rw1) (hPX : ∀ z, PL z = true → ¬ fX b0 z) (hZP : ZP G) : CT G l yJ4_siftUpComparable (ws_ yJ4_siftUpComparable cJ4_siftUpComparable 6 none) 2 0 0 46 [.int i0, .ref p1, .ref p2] (fP PL v1) sz (fun H => rg G b0 357 (shX0 G.2.1) V0 H ∧ pl G PL v1 H) (fun ov H => ov = none ∧ pl G PL rw1 H ∧ H.size = sz ∧ KM v1 rw1 sz) := by
  refine Met.ofW (cc := cJ4_siftUpComparable) (maxL := 6) (ret := none) (by decide +kernel) rfl ?_
  intro p e s m args below meth c s₁ B hml hv
  obtain ⟨rfl, ⟨hz, hW0, hW1⟩, hK⟩ := hv
  subst hz
  have hts := atoms_spec (ws := ws_ yJ4_siftUpComparable cJ4_siftUpComparable 6 none) B.pre
  have hts : ∀ w ∈ lw_all, w.before _ s = true := fun w h => hts w (List.mem_cons_of_mem _ h)
  have C : Cx G p s m _ meth c RJ4 cJ4_siftUpComparable 6 none := ⟨B.exec, B.bytes, B.returns, B.notSynchronized, hml, findClass_of_methodNamed B.named, hts, hK⟩
  have hl := lv_entry ([.int i0, .ref p1, .ref p2]) (n := 6) (Nat.le_of_ble_eq_true rfl)
  rw [lg_entry_eq]
  generalize (lg_sl ([.int i0, .ref p1, .ref p2]) ++ List.replicate (6 - (lg_sl ([.int i0, .ref p1, .ref p2])).length) Slot.unset).toArray = ls at hl ⊢
  have hl : lv_has ls 6 [(0, .int i0), (1, .ref p1), (2, .ref p2)] := hl
  exact w_fJ4_siftUpComparable_node C hPX hZP _ _ _ _ hm s.heap [] ls hW0 hW1 va_S.rf rfl KM.rf hl
theorem yn_J4_siftUpComparable : YN yJ4_siftUpComparable 3 := by
  unfold YN
  decide +kernel
theorem lkJ4_140 : LSt RJ4 140 yJ4_siftUpComparable cJ4_siftUpComparable 6 none := ⟨q1096, q1097, q123, q1098⟩
noncomputable def fJ4_siftUp_node (PL : Nat → Bool) (b0 : Nat) (V0 : Mem) (v1 : Mem) (p0 : Nat) (i1 : Int32) (p2 : Nat) : Option (Mem) :=
  gb (kd PL v1 p0 17) (
  lo (gR v1 p0 2) fun oa2 =>
  od oa2 (
  gb (kd PL v1 p0 17) (
  lo (gR v1 p0 0) fun oa6 =>
  ob oa6 fun pa8 =>
  ob (fJ4_siftUpComparable_node PL b0 V0 v1 i1 p2 pa8) fun w11 =>
  some w11)) (fun pa4 =>
  gb (kd PL v1 p0 17) (
  lo (gR v1 p0 0) fun oa25 =>
  gb (kd PL v1 p0 17) (
  lo (gR v1 p0 2) fun oa28 =>
  none))))
set_option maxHeartbeats 4000000 in
theorem w_fJ4_siftUp_node (C : Cx G p s m args meth c RJ4 cJ4_siftUp 3 none) {b0 : Nat} {PL : Nat → Bool} {V0 : Mem} {vP0 : Mem} {rw1 : Mem} (hPX : ∀ z, PL z = true → ¬ fX b0 z) (hZP : ZP G) : ∀ (v1 : Mem) (p0 : Nat) (i1 : Int32) (p2 : Nat), fJ4_siftUp_node PL b0 V0 v1 p0 i1 p2 = some rw1 → ∀ (H : Heap) (locs : List Loc) (ls : Array Slot), rg G b0 357 (shX0 G.2.1) V0 H → pl G PL v1 H → va_S (FA (fP PL vP0) s.heap.size) s.heap H locs → H.size = s.heap.size → KM vP0 v1 s.heap.size → lv_has ls 3 [(0, .ref p0), (1, .int i1), (2, .ref p2)] → W p l e (rmT 3 0 0 71) s m args below meth c H locs 0 0 (MQ below (QcT (FA (fP PL vP0) s.heap.size) (fun ov H => ov = none ∧ pl G PL rw1 H ∧ H.size = s.heap.size ∧ KM vP0 rw1 s.heap.size)) args s 0 0 (FA (fP PL vP0) s.heap.size)) (F0 m 0 ls []) := by
  intro v1 p0 i1 p2 hm H locs ls hW0 hW1 hS hz hKM hl
  obtain ⟨hx, hb, hr, hlk, hml, hown, hts, hK⟩ := id C
  unfold fJ4_siftUp_node at hm
  refine lv_aload_n (pc := 0) hx hb dJ4_siftUp_0 rfl (lv_at hl 0 rfl) ?_
  obtain ⟨hg1, hm⟩ := gb_some hm
  obtain ⟨oa2, he3, hm⟩ := lo_some hm
  refine rk_get (pc := 1) hx hb hts hown hK (pl_rg hW1) flJ4_21 p0 (Nat.lt_succ_self _) (Nat.zero_add _).symm (shP_17 (kd_PL hg1) (kd_k hg1)) (x := va_rf oa2) (congrArg (fun z => some (va_rf z)) he3) dJ4_siftUp_1 ?_
  rcases oa2 with _ | pa4
  · have hm := od_n hm
    refine lv_ifnullN (pc := 4) (tgt := 23) hx hb dJ4_siftUp_4 (by decide) ?_
    refine lv_iload_n (pc := 23) hx hb dJ4_siftUp_23 rfl (lv_at hl 1 rfl) ?_
    refine lv_aload_n (pc := 24) hx hb dJ4_siftUp_24 rfl (lv_at hl 2 rfl) ?_
    refine lv_aload_n (pc := 25) hx hb dJ4_siftUp_25 rfl (lv_at hl 0 rfl) ?_
    obtain ⟨hg5, hm⟩ := gb_some hm
    obtain ⟨oa6, he7, hm⟩ := lo_some hm
    refine rk_get (pc := 26) hx hb hts hown hK (pl_rg hW1) flJ4_17 p0 (Nat.lt_succ_self _) (Nat.zero_add _).symm (shP_17 (kd_PL hg5) (kd_k hg5)) (x := va_rf oa6) (congrArg (fun z => some (va_rf z)) he7) dJ4_siftUp_26 ?_
    obtain ⟨pa8, he9, hm10⟩ := ob_some hm
    subst he9
    have hm := hm10
    obtain ⟨w11, hq12, hm⟩ := ob_some hm
    refine rk_TS (pc := 29) (As := [.int i1, .ref p2, .ref pa8]) (rest := []) (mc := 0) (ms := 0) hx hb hml hown hts hK hS (fun q hq => FA_sz rfl q hq) lkJ4_140 yn_J4_siftUpComparable (ct_J4_siftUpComparable_node (G := G) (l := l) (b0 := b0) (sz := H.size) hq12 hPX hZP) ⟨Nat.le_of_ble_eq_true rfl, Nat.le_of_ble_eq_true rfl⟩ (fun z h => (KM_hf2 hKM z h)) ⟨hW0, hW1⟩ rfl rfl hl.1 (Nat.le_of_ble_eq_true rfl) dJ4_siftUp_29 ⟨Nat.zero_le _, Nat.zero_le _⟩ (fun ov9 H13 locs14 hP15 hkp16 hS17 => ?_)
    obtain ⟨rfl, hW18, hz19, hKM20⟩ := hP15
    have hW21 := rg_keepX hW0 hkp16 (by intro z h0 h3; have h1 := h0.1.1; have h2 := h0.1.2; have h4 := h0.2; exact hPX _ h3.1 h0)
    have hz22 := hz19.trans hz
    have hKM23 := KM.trans hKM hKM20 (by omega)
    refine W.eq (g2 := F0 m 32 ls []) rfl ?_
    have e9 := rs1 hm
    subst e9
    exact rk_vret (pc := 32) hx hb hr hlk hS17 ⟨rfl, hW18, hz22, hKM23⟩ dJ4_siftUp_32
  · have hm := od_s hm
    refine lv_ifnull (pc := 4) hx hb dJ4_siftUp_4 ?_
    refine lv_iload_n (pc := 7) hx hb dJ4_siftUp_7 rfl (lv_at hl 1 rfl) ?_
    refine lv_aload_n (pc := 8) hx hb dJ4_siftUp_8 rfl (lv_at hl 2 rfl) ?_
    refine lv_aload_n (pc := 9) hx hb dJ4_siftUp_9 rfl (lv_at hl 0 rfl) ?_
    obtain ⟨hg24, hm⟩ := gb_some hm
    obtain ⟨oa25, he26, hm⟩ := lo_some hm
    refine rk_get (pc := 10) hx hb hts hown hK (pl_rg hW1) flJ4_17 p0 (Nat.lt_succ_self _) (Nat.zero_add _).symm (shP_17 (kd_PL hg24) (kd_k hg24)) (x := va_rf oa25) (congrArg (fun z => some (va_rf z)) he26) dJ4_siftUp_10 ?_
    refine lv_aload_n (pc := 13) hx hb dJ4_siftUp_13 rfl (lv_at hl 0 rfl) ?_
    obtain ⟨hg27, hm⟩ := gb_some hm
    obtain ⟨oa28, he29, hm⟩ := lo_some hm
    refine rk_get (pc := 14) hx hb hts hown hK (pl_rg hW1) flJ4_21 p0 (Nat.lt_succ_self _) (Nat.zero_add _).symm (shP_17 (kd_PL hg27) (kd_k hg27)) (x := va_rf oa28) (congrArg (fun z => some (va_rf z)) he29) dJ4_siftUp_14 ?_
    exact nomatch hm
set_option maxHeartbeats 4000000 in
theorem ct_J4_siftUp_node {G : Gv} {l : Launch} {b0 : Nat} {PL : Nat → Bool} {V0 : Mem} {v1 : Mem} {p0 : Nat} {i1 : Int32} {p2 : Nat} {rw1 : Mem} {sz : Nat} (hm : fJ4_siftUp_node PL b0 V0 v1 p0 i1 p2 = some rw1) (hPX : ∀ z, PL z = true → ¬ fX b0 z) (hZP : ZP G) : CT G l yJ4_siftUp (ws_ yJ4_siftUp cJ4_siftUp 3 none) 3 0 0 71 [.ref p0, .int i1, .ref p2] (fP PL v1) sz (fun H => rg G b0 357 (shX0 G.2.1) V0 H ∧ pl G PL v1 H) (fun ov H => ov = none ∧ pl G PL rw1 H ∧ H.size = sz ∧ KM v1 rw1 sz) := by
  refine Met.ofW (cc := cJ4_siftUp) (maxL := 3) (ret := none) (by decide +kernel) rfl ?_
  intro p e s m args below meth c s₁ B hml hv
  obtain ⟨rfl, ⟨hz, hW0, hW1⟩, hK⟩ := hv
  subst hz
  have hts := atoms_spec (ws := ws_ yJ4_siftUp cJ4_siftUp 3 none) B.pre
  have hts : ∀ w ∈ lw_all, w.before _ s = true := fun w h => hts w (List.mem_cons_of_mem _ h)
  have C : Cx G p s m _ meth c RJ4 cJ4_siftUp 3 none := ⟨B.exec, B.bytes, B.returns, B.notSynchronized, hml, findClass_of_methodNamed B.named, hts, hK⟩
  have hl := lv_entry ([.ref p0, .int i1, .ref p2]) (n := 3) (Nat.le_of_ble_eq_true rfl)
  rw [lg_entry_eq]
  generalize (lg_sl ([.ref p0, .int i1, .ref p2]) ++ List.replicate (3 - (lg_sl ([.ref p0, .int i1, .ref p2])).length) Slot.unset).toArray = ls at hl ⊢
  have hl : lv_has ls 3 [(0, .ref p0), (1, .int i1), (2, .ref p2)] := hl
  exact w_fJ4_siftUp_node C hPX hZP _ _ _ _ hm s.heap [] ls hW0 hW1 va_S.rf rfl KM.rf hl
theorem yn_J4_siftUp : YN yJ4_siftUp 2 := by
  unfold YN
  decide +kernel
theorem lkJ4_100 : LV RJ4 100 RJ4 yJ4_siftUp cJ4_siftUp 3 none := ⟨q1070, q1072, qs28, q123, q1073⟩
noncomputable def fJ4_offer_node_43 (PL : Nat → Bool) (Z : Nat) (b0 : Nat) (V0 : Mem) (v1 : Mem) (zc : Nat) (p0 : Nat) (p1 : Nat) (i2 : Int32) : Option (Int32 × Nat × Mem) :=
  gb (kd PL v1 p0 17) (
  ob (fJ4_siftUp_node PL b0 V0 v1 p0 i2 p1) fun w64 =>
  gb (kd PL w64 p0 17) (
  lm (sI w64 p0 1 (i2 + (1 : Int32))) fun v1_78 =>
  some ((1 : Int32), zc, v1_78)))
noncomputable def fJ4_offer_node_43b (PL : Nat → Bool) (Z : Nat) (b0 : Nat) (V0 : Mem) (v1 : Mem) (zc : Nat) (p0 : Nat) (p1 : Nat) (i2 : Int32) : Option (Int32 × Nat × Mem) :=
  gb (kd PL v1 p0 17) (
  ob (fJ4_siftUp_node PL b0 V0 v1 p0 i2 p1) fun w39 =>
  gb (kd PL w39 p0 17) (
  lm (sI w39 p0 1 (i2 + (1 : Int32))) fun v1_53 =>
  some ((1 : Int32), zc, v1_53)))
noncomputable def fJ4_offer_node (PL : Nat → Bool) (Z : Nat) (b0 : Nat) (V0 : Mem) (v1 : Mem) (p0 : Nat) (p1 : Nat) : Option (Int32 × Nat × Mem) :=
  gb (kd PL v1 p0 17) (
  gb (kd PL v1 p0 17) (
  lm (sI v1 p0 3 ((gI v1 p0 3) + (1 : Int32))) fun v1_3 =>
  gb (kd PL v1_3 p0 17) (
  gb (kd PL v1_3 p0 17) (
  lo (gR v1_3 p0 0) fun oa15 =>
  ob oa15 fun pa17 =>
  gb (ka PL v1_3 pa17 44) (
  if (gI v1_3 p0 1) < (Int32.ofNat (gI v1_3 pa17 98).toNatClampNeg) then (
  fJ4_offer_node_43 PL Z b0 V0 v1_3 0 p0 p1 (gI v1_3 p0 1))
  else (
  gb (kd PL v1_3 p0 17) (
  ob2 (fJ4_grow_node PL (Z + 0) b0 V0 v1_3 p0 ((gI v1_3 p0 1) + (1 : Int32))) fun rc23 w24 =>
  fJ4_offer_node_43b PL Z b0 V0 w24 rc23 p0 p1 (gI v1_3 p0 1))))))))
set_option maxHeartbeats 4000000 in
theorem w_fJ4_offer_node_43 (C : Cx G p s m args meth c RJ4 cJ4_offer 3 (some .boolean)) {b0 : Nat} {PL : Nat → Bool} {Z : Nat} {V0 : Mem} {vP0 : Mem} {rx : Int32} {rc : Nat} {rw1 : Mem} (hPX : ∀ z, PL z = true → ¬ fX b0 z) (he0 : b0 + 357 ≤ s.heap.size) (hZz : s.heap.size = Z) (hZP : ZP G) : ∀ (v1 : Mem) (zc : Nat) (p0 : Nat) (p1 : Nat) (i2 : Int32), fJ4_offer_node_43 PL Z b0 V0 v1 zc p0 p1 i2 = some (rx, rc, rw1) → ∀ (H : Heap) (locs : List Loc) (ls : Array Slot), rg G b0 357 (shX0 G.2.1) V0 H → pl G PL v1 H → va_S (FA (fP PL vP0) s.heap.size) s.heap H locs → H.size = s.heap.size + zc → KM vP0 v1 s.heap.size → lv_has ls 3 [(0, .ref p0), (1, .ref p1), (2, .int i2)] → W p l e (rmT 5 1 90 164) s m args below meth c H locs 0 0 (MQ below (QcT (FA (fP PL vP0) s.heap.size) (fun ov H => ov = (some (.int rx)) ∧ pl G PL rw1 H ∧ H.size = s.heap.size + rc ∧ KM vP0 rw1 s.heap.size)) args s 1 90 (FA (fP PL vP0) s.heap.size)) (F0 m 43 ls []) := by
  intro v1 zc p0 p1 i2 hm H locs ls hW0 hW1 hS hz hKM hl
  obtain ⟨hx, hb, hr, hlk, hml, hown, hts, hK⟩ := id C
  unfold fJ4_offer_node_43 at hm
  refine lv_aload_n (pc := 43) hx hb dJ4_offer_43 rfl (lv_at hl 0 rfl) ?_
  refine lv_iload_n (pc := 44) hx hb dJ4_offer_44 rfl (lv_at hl 2 rfl) ?_
  refine lv_aload_n (pc := 45) hx hb dJ4_offer_45 rfl (lv_at hl 1 rfl) ?_
  obtain ⟨hg63, hm⟩ := gb_some hm
  obtain ⟨w64, hq65, hm⟩ := ob_some hm
  refine rk_TV (pc := 46) (As := [.int i2, .ref p1]) (rest := []) (mc := 0) (ms := 0) hx hb hml hown hts hK hS (fun q hq => FA_sz rfl q hq) lkJ4_100 rfl yn_J4_siftUp (ct_J4_siftUp_node (G := G) (l := l) (b0 := b0) (sz := H.size) hq65 hPX hZP) ⟨Nat.le_of_ble_eq_true rfl, Nat.le_of_ble_eq_true rfl⟩ (fun z h => (KM_hf2 hKM z h)) (rp_recv hK hW1 (C := RJ4) (T := TJ4) (N := 4) rfl (shP_17 (kd_PL hg63) (kd_k hg63))) ⟨hW0, hW1⟩ rfl rfl hl.1 (Nat.le_of_ble_eq_true rfl) dJ4_offer_46 ⟨Nat.zero_le _, Nat.zero_le _⟩ (fun ov9 H66 locs67 hP68 hkp69 hS70 => ?_)
  obtain ⟨rfl, hW71, hz72, hKM73⟩ := hP68
  have hW74 := rg_keepX hW0 hkp69 (by intro z h0 h3; have h1 := h0.1.1; have h2 := h0.1.2; have h4 := h0.2; exact hPX _ h3.1 h0)
  have hz75 := hz72.trans hz
  have hKM76 := KM.trans hKM hKM73 (by omega)
  refine W.eq (g2 := F0 m 49 ls []) rfl ?_
  refine lv_aload_n (pc := 49) hx hb dJ4_offer_49 rfl (lv_at hl 0 rfl) ?_
  refine lv_iload_n (pc := 50) hx hb dJ4_offer_50 rfl (lv_at hl 2 rfl) ?_
  refine lv_iconst (pc := 51) (v := (1 : Int32)) hx hb dJ4_offer_51 (by decide) ?_
  refine lv_iadd (pc := 52) hx hb dJ4_offer_52 ?_
  obtain ⟨hg77, hm⟩ := gb_some hm
  refine rp_put (pc := 53) (q := p0) hx hb hts hown hK hW71 hS70 flJ4_58 ft_J4 (kd_A hKM76 hg77 (by decide)) (shP_17 (kd_PL hg77) (kd_k hg77)) rfl (x := .int (i2 + (1 : Int32))) rfl rfl (Nat.le_of_ble_eq_true rfl) (sI w64 p0 1 (i2 + (1 : Int32))) sI_ne (by rw [sI_eq]; exact shP_17 (kd_PL hg77) (kd_k hg77)) dJ4_offer_53 (fun H79 locs80 hW81 hS82 hz83 hkp84 => ?_)
  have hKM85 := KM.sI (o := p0) (j := 1) (x := (i2 + (1 : Int32))) hKM76 (by decide)
  obtain ⟨v1_78, he9, hm⟩ := lm_some hm
  rw [he9] at hW81 hKM85
  have hW86 := rg_keepqX hW74 hkp84 (hPX _ (kd_PL hg77))
  have hz87 := hz83.trans hz75
  refine lv_iconst (pc := 56) (v := (1 : Int32)) hx hb dJ4_offer_56 (by decide) ?_
  obtain ⟨e7, e8, e9⟩ := rs3 hm
  subst e7
  subst e8
  subst e9
  exact rk_zretA (pc := 57) hx hb hr hlk rfl hS82 ⟨rfl, hW81, hz87, hKM85⟩ dJ4_offer_57 (by exact Nat.le_of_ble_eq_true rfl) (by exact Nat.le_of_ble_eq_true rfl)
set_option maxHeartbeats 4000000 in
theorem w_fJ4_offer_node_43b (C : Cx G p s m args meth c RJ4 cJ4_offer 3 (some .boolean)) {b0 : Nat} {PL : Nat → Bool} {Z : Nat} {V0 : Mem} {vP0 : Mem} {rx : Int32} {rc : Nat} {rw1 : Mem} (hPX : ∀ z, PL z = true → ¬ fX b0 z) (he0 : b0 + 357 ≤ s.heap.size) (hZz : s.heap.size = Z) (hZP : ZP G) : ∀ (v1 : Mem) (zc : Nat) (p0 : Nat) (p1 : Nat) (i2 : Int32), fJ4_offer_node_43b PL Z b0 V0 v1 zc p0 p1 i2 = some (rx, rc, rw1) → ∀ (H : Heap) (locs : List Loc) (ls : Array Slot), rg G b0 357 (shX0 G.2.1) V0 H → pl G PL v1 H → va_S (FA (fP PL vP0) s.heap.size) s.heap H locs → H.size = s.heap.size + zc → KM vP0 v1 s.heap.size → lv_has ls 3 [(0, .ref p0), (1, .ref p1), (2, .int i2)] → W p l e (rmT 5 1 90 164) s m args below meth c H locs 1 90 (MQ below (QcT (FA (fP PL vP0) s.heap.size) (fun ov H => ov = (some (.int rx)) ∧ pl G PL rw1 H ∧ H.size = s.heap.size + rc ∧ KM vP0 rw1 s.heap.size)) args s 1 90 (FA (fP PL vP0) s.heap.size)) (F0 m 43 ls []) := by
  intro v1 zc p0 p1 i2 hm H locs ls hW0 hW1 hS hz hKM hl
  obtain ⟨hx, hb, hr, hlk, hml, hown, hts, hK⟩ := id C
  unfold fJ4_offer_node_43b at hm
  refine lv_aload_n (pc := 43) hx hb dJ4_offer_43 rfl (lv_at hl 0 rfl) ?_
  refine lv_iload_n (pc := 44) hx hb dJ4_offer_44 rfl (lv_at hl 2 rfl) ?_
  refine lv_aload_n (pc := 45) hx hb dJ4_offer_45 rfl (lv_at hl 1 rfl) ?_
  obtain ⟨hg38, hm⟩ := gb_some hm
  obtain ⟨w39, hq40, hm⟩ := ob_some hm
  refine rk_TV (pc := 46) (As := [.int i2, .ref p1]) (rest := []) (mc := 0) (ms := 0) hx hb hml hown hts hK hS (fun q hq => FA_sz rfl q hq) lkJ4_100 rfl yn_J4_siftUp (ct_J4_siftUp_node (G := G) (l := l) (b0 := b0) (sz := H.size) hq40 hPX hZP) ⟨Nat.le_of_ble_eq_true rfl, Nat.le_of_ble_eq_true rfl⟩ (fun z h => (KM_hf2 hKM z h)) (rp_recv hK hW1 (C := RJ4) (T := TJ4) (N := 4) rfl (shP_17 (kd_PL hg38) (kd_k hg38))) ⟨hW0, hW1⟩ rfl rfl hl.1 (Nat.le_of_ble_eq_true rfl) dJ4_offer_46 ⟨Nat.le_of_ble_eq_true rfl, Nat.le_of_ble_eq_true rfl⟩ (fun ov9 H41 locs42 hP43 hkp44 hS45 => ?_)
  obtain ⟨rfl, hW46, hz47, hKM48⟩ := hP43
  have hW49 := rg_keepX hW0 hkp44 (by intro z h0 h3; have h1 := h0.1.1; have h2 := h0.1.2; have h4 := h0.2; exact hPX _ h3.1 h0)
  have hz50 := hz47.trans hz
  have hKM51 := KM.trans hKM hKM48 (by omega)
  refine W.eq (g2 := F0 m 49 ls []) rfl ?_
  refine lv_aload_n (pc := 49) hx hb dJ4_offer_49 rfl (lv_at hl 0 rfl) ?_
  refine lv_iload_n (pc := 50) hx hb dJ4_offer_50 rfl (lv_at hl 2 rfl) ?_
  refine lv_iconst (pc := 51) (v := (1 : Int32)) hx hb dJ4_offer_51 (by decide) ?_
  refine lv_iadd (pc := 52) hx hb dJ4_offer_52 ?_
  obtain ⟨hg52, hm⟩ := gb_some hm
  refine rp_put (pc := 53) (q := p0) hx hb hts hown hK hW46 hS45 flJ4_58 ft_J4 (kd_A hKM51 hg52 (by decide)) (shP_17 (kd_PL hg52) (kd_k hg52)) rfl (x := .int (i2 + (1 : Int32))) rfl rfl (Nat.le_of_ble_eq_true rfl) (sI w39 p0 1 (i2 + (1 : Int32))) sI_ne (by rw [sI_eq]; exact shP_17 (kd_PL hg52) (kd_k hg52)) dJ4_offer_53 (fun H54 locs55 hW56 hS57 hz58 hkp59 => ?_)
  have hKM60 := KM.sI (o := p0) (j := 1) (x := (i2 + (1 : Int32))) hKM51 (by decide)
  obtain ⟨v1_53, he9, hm⟩ := lm_some hm
  rw [he9] at hW56 hKM60
  have hW61 := rg_keepqX hW49 hkp59 (hPX _ (kd_PL hg52))
  have hz62 := hz58.trans hz50
  refine lv_iconst (pc := 56) (v := (1 : Int32)) hx hb dJ4_offer_56 (by decide) ?_
  obtain ⟨e7, e8, e9⟩ := rs3 hm
  subst e7
  subst e8
  subst e9
  exact rk_zretA (pc := 57) hx hb hr hlk rfl hS57 ⟨rfl, hW56, hz62, hKM60⟩ dJ4_offer_57 (by exact Nat.le_of_ble_eq_true rfl) (by exact Nat.le_of_ble_eq_true rfl)
set_option maxHeartbeats 4000000 in
theorem w_fJ4_offer_node (C : Cx G p s m args meth c RJ4 cJ4_offer 3 (some .boolean)) {b0 : Nat} {PL : Nat → Bool} {Z : Nat} {V0 : Mem} {vP0 : Mem} {rx : Int32} {rc : Nat} {rw1 : Mem} (hPX : ∀ z, PL z = true → ¬ fX b0 z) (he0 : b0 + 357 ≤ s.heap.size) (hZz : s.heap.size = Z) (hZP : ZP G) : ∀ (v1 : Mem) (p0 : Nat) (p1 : Nat), fJ4_offer_node PL Z b0 V0 v1 p0 p1 = some (rx, rc, rw1) → ∀ (H : Heap) (locs : List Loc) (ls : Array Slot), rg G b0 357 (shX0 G.2.1) V0 H → pl G PL v1 H → va_S (FA (fP PL vP0) s.heap.size) s.heap H locs → H.size = s.heap.size + 0 → KM vP0 v1 s.heap.size → lv_has ls 3 [(0, .ref p0), (1, .ref p1)] → W p l e (rmT 5 1 90 164) s m args below meth c H locs 0 0 (MQ below (QcT (FA (fP PL vP0) s.heap.size) (fun ov H => ov = (some (.int rx)) ∧ pl G PL rw1 H ∧ H.size = s.heap.size + rc ∧ KM vP0 rw1 s.heap.size)) args s 1 90 (FA (fP PL vP0) s.heap.size)) (F0 m 0 ls []) := by
  intro v1 p0 p1 hm H locs ls hW0 hW1 hS hz hKM hl
  obtain ⟨hx, hb, hr, hlk, hml, hown, hts, hK⟩ := id C
  unfold fJ4_offer_node at hm
  refine lv_aload_n (pc := 0) hx hb dJ4_offer_0 rfl (lv_at hl 1 rfl) ?_
  refine lv_ifnonnull (pc := 1) (tgt := 12) hx hb dJ4_offer_1 (by decide) ?_
  refine lv_aload_n (pc := 12) hx hb dJ4_offer_12 rfl (lv_at hl 0 rfl) ?_
  refine lv_dup (pc := 13) hx hb dJ4_offer_13 rfl ?_
  obtain ⟨hg1, hm⟩ := gb_some hm
  refine rk_get (pc := 14) hx hb hts hown hK (pl_rg hW1) flJ4_93 p0 (Nat.lt_succ_self _) (Nat.zero_add _).symm (shP_17 (kd_PL hg1) (kd_k hg1)) (x := .int (gI v1 p0 3)) rfl dJ4_offer_14 ?_
  refine lv_iconst (pc := 17) (v := (1 : Int32)) hx hb dJ4_offer_17 (by decide) ?_
  refine lv_iadd (pc := 18) hx hb dJ4_offer_18 ?_
  obtain ⟨hg2, hm⟩ := gb_some hm
  refine rp_put (pc := 19) (q := p0) hx hb hts hown hK hW1 hS flJ4_93 ft_J4 (kd_A hKM hg2 (by decide)) (shP_17 (kd_PL hg2) (kd_k hg2)) rfl (x := .int ((gI v1 p0 3) + (1 : Int32))) rfl rfl (Nat.le_of_ble_eq_true rfl) (sI v1 p0 3 ((gI v1 p0 3) + (1 : Int32))) sI_ne (by rw [sI_eq]; exact shP_17 (kd_PL hg2) (kd_k hg2)) dJ4_offer_19 (fun H4 locs5 hW6 hS7 hz8 hkp9 => ?_)
  have hKM10 := KM.sI (o := p0) (j := 3) (x := ((gI v1 p0 3) + (1 : Int32))) hKM (by decide)
  obtain ⟨v1_3, he9, hm⟩ := lm_some hm
  rw [he9] at hW6 hKM10
  have hW11 := rg_keepqX hW0 hkp9 (hPX _ (kd_PL hg2))
  have hz12 := hz8.trans hz
  refine lv_aload_n (pc := 22) hx hb dJ4_offer_22 rfl (lv_at hl 0 rfl) ?_
  obtain ⟨hg13, hm⟩ := gb_some hm
  refine rk_get (pc := 23) hx hb hts hown hK (pl_rg hW6) flJ4_58 p0 (Nat.lt_succ_self _) (Nat.zero_add _).symm (shP_17 (kd_PL hg13) (kd_k hg13)) (x := .int (gI v1_3 p0 1)) rfl dJ4_offer_23 ?_
  refine lv_istore_n (pc := 26) (lv' := [(2, .int (gI v1_3 p0 1)), (0, .ref p0), (1, .ref p1)]) hx hb dJ4_offer_26 rfl hl (by decide) rfl (fun ls hl => ?_)
  refine lv_iload_n (pc := 27) hx hb dJ4_offer_27 rfl (lv_at hl 0 rfl) ?_
  refine lv_aload_n (pc := 28) hx hb dJ4_offer_28 rfl (lv_at hl 1 rfl) ?_
  obtain ⟨hg14, hm⟩ := gb_some hm
  obtain ⟨oa15, he16, hm⟩ := lo_some hm
  refine rk_get (pc := 29) hx hb hts hown hK (pl_rg hW6) flJ4_17 p0 (Nat.lt_succ_self _) (Nat.zero_add _).symm (shP_17 (kd_PL hg14) (kd_k hg14)) (x := va_rf oa15) (congrArg (fun z => some (va_rf z)) he16) dJ4_offer_29 ?_
  obtain ⟨pa17, he18, hm19⟩ := ob_some hm
  subst he18
  have hm := hm19
  obtain ⟨hg20, hm⟩ := gb_some hm
  refine rp_alen (pc := 32) hx hb hK hW6 hg20 dJ4_offer_32 ?_
  refine lv_icmp_lt (pc := 33) (tgt := 43) hx hb dJ4_offer_33 (by decide) (fun c21 => ?_) (fun c21 => ?_)
  · have hm := ite_t c21 hm
    exact (w_fJ4_offer_node_43 C hPX he0 hZz hZP) v1_3 0 p0 p1 (gI v1_3 p0 1) hm H4 locs5 ls hW11 hW6 hS7 hz12 hKM10 (lv_sub hl [1, 2, 0] rfl)
  · have hm := ite_f c21 hm
    refine lv_aload_n (pc := 36) hx hb dJ4_offer_36 rfl (lv_at hl 1 rfl) ?_
    refine lv_iload_n (pc := 37) hx hb dJ4_offer_37 rfl (lv_at hl 0 rfl) ?_
    refine lv_iconst (pc := 38) (v := (1 : Int32)) hx hb dJ4_offer_38 (by decide) ?_
    refine lv_iadd (pc := 39) hx hb dJ4_offer_39 ?_
    obtain ⟨hg22, hm⟩ := gb_some hm
    obtain ⟨rc23, w24, hq25, hm⟩ := ob2_some hm
    have hq26 := hq25
    rw [show (Z + 0) = H4.size by omega] at hq26
    refine rk_TV (pc := 40) (As := [.int ((gI v1_3 p0 1) + (1 : Int32))]) (rest := []) (mc := 1) (ms := 90) hx hb hml hown hts hK hS7 (fun q hq => FA_sz rfl q hq) lkJ4_96 rfl yn_J4_grow (ct_J4_grow_node (G := G) (l := l) (b0 := b0) hq26 hPX hZP) ⟨Nat.le_of_ble_eq_true rfl, Nat.le_of_ble_eq_true rfl⟩ (fun z h => (KM_hf2 hKM10 z h)) (rp_recv hK hW6 (C := RJ4) (T := TJ4) (N := 4) rfl (shP_17 (kd_PL hg22) (kd_k hg22))) ⟨hW11, hW6⟩ rfl rfl hl.1 (Nat.le_of_ble_eq_true rfl) dJ4_offer_40 ⟨Nat.le_of_ble_eq_true rfl, Nat.le_of_ble_eq_true rfl⟩ (fun ov9 H27 locs28 hP29 hkp30 hS31 => ?_)
    obtain ⟨rfl, hW32, hz33, hKM34⟩ := hP29
    have hW35 := rg_keepX hW11 hkp30 (by intro z h0 h3; have h1 := h0.1.1; have h2 := h0.1.2; have h4 := h0.2; exact hPX _ h3.1 h0)
    have hz36 : H27.size = s.heap.size + rc23 := by omega
    have hKM37 := KM.trans hKM10 hKM34 (by omega)
    refine W.eq (g2 := F0 m 43 ls []) rfl ?_
    exact (w_fJ4_offer_node_43b C hPX he0 hZz hZP) w24 rc23 p0 p1 (gI v1_3 p0 1) hm H27 locs28 ls hW35 hW32 hS31 hz36 hKM37 (lv_sub hl [1, 2, 0] rfl)
set_option maxHeartbeats 4000000 in
theorem ct_J4_offer_node {G : Gv} {l : Launch} {b0 : Nat} {PL : Nat → Bool} {Z : Nat} {V0 : Mem} {v1 : Mem} {p0 : Nat} {p1 : Nat} {rx : Int32} {rc : Nat} {rw1 : Mem} (hm : fJ4_offer_node PL Z b0 V0 v1 p0 p1 = some (rx, rc, rw1)) (hPX : ∀ z, PL z = true → ¬ fX b0 z) (hZP : ZP G) : CT G l yJ4_offer (ws_ yJ4_offer cJ4_offer 3 (some .boolean)) 5 1 90 164 [.ref p0, .ref p1] (fP PL v1) Z (fun H => rg G b0 357 (shX0 G.2.1) V0 H ∧ pl G PL v1 H) (fun ov H => ov = (some (.int rx)) ∧ pl G PL rw1 H ∧ H.size = Z + rc ∧ KM v1 rw1 Z) := by
  refine Met.ofW (cc := cJ4_offer) (maxL := 3) (ret := (some .boolean)) (by decide +kernel) rfl ?_
  intro p e s m args below meth c s₁ B hml hv
  obtain ⟨rfl, ⟨hz, hW0, hW1⟩, hK⟩ := hv
  subst hz
  have he0 := rg_end hW0 356 (by decide) rfl (fun _ _ _ => rfl)
  have hZz : s.heap.size = s.heap.size := rfl
  have hts := atoms_spec (ws := ws_ yJ4_offer cJ4_offer 3 (some .boolean)) B.pre
  have hts : ∀ w ∈ lw_all, w.before _ s = true := fun w h => hts w (List.mem_cons_of_mem _ h)
  have C : Cx G p s m _ meth c RJ4 cJ4_offer 3 (some .boolean) := ⟨B.exec, B.bytes, B.returns, B.notSynchronized, hml, findClass_of_methodNamed B.named, hts, hK⟩
  have hl := lv_entry ([.ref p0, .ref p1]) (n := 3) (Nat.le_of_ble_eq_true rfl)
  rw [lg_entry_eq]
  generalize (lg_sl ([.ref p0, .ref p1]) ++ List.replicate (3 - (lg_sl ([.ref p0, .ref p1])).length) Slot.unset).toArray = ls at hl ⊢
  have hl : lv_has ls 3 [(0, .ref p0), (1, .ref p1)] := hl
  exact w_fJ4_offer_node C hPX he0 hZz hZP _ _ _ hm s.heap [] ls hW0 hW1 va_S.rf rfl KM.rf hl
theorem yn_J4_offer : YN yJ4_offer 1 := by
  unfold YN
  decide +kernel
theorem lkJ4_89 : LV RJ4 89 RJ4 yJ4_offer cJ4_offer 3 (some .boolean) := ⟨q1012, q1013, q1014, q123, q1015⟩
noncomputable def fJ4_add_node (PL : Nat → Bool) (Z : Nat) (b0 : Nat) (V0 : Mem) (v1 : Mem) (p0 : Nat) (p1 : Nat) : Option (Int32 × Nat × Mem) :=
  gb (kd PL v1 p0 17) (
  ob3 (fJ4_offer_node PL (Z + 0) b0 V0 v1 p0 p1) fun r2 rc3 w4 =>
  gb (z01 r2) (some (r2, rc3, w4)))
set_option maxHeartbeats 4000000 in
theorem w_fJ4_add_node (C : Cx G p s m args meth c RJ4 cJ4_add 2 (some .boolean)) {b0 : Nat} {PL : Nat → Bool} {Z : Nat} {V0 : Mem} {vP0 : Mem} {rx : Int32} {rc : Nat} {rw1 : Mem} (hPX : ∀ z, PL z = true → ¬ fX b0 z) (he0 : b0 + 357 ≤ s.heap.size) (hZz : s.heap.size = Z) (hZP : ZP G) : ∀ (v1 : Mem) (p0 : Nat) (p1 : Nat), fJ4_add_node PL Z b0 V0 v1 p0 p1 = some (rx, rc, rw1) → ∀ (H : Heap) (locs : List Loc) (ls : Array Slot), rg G b0 357 (shX0 G.2.1) V0 H → pl G PL v1 H → va_S (FA (fP PL vP0) s.heap.size) s.heap H locs → H.size = s.heap.size + 0 → KM vP0 v1 s.heap.size → lv_has ls 2 [(0, .ref p0), (1, .ref p1)] → W p l e (rmT 6 1 90 186) s m args below meth c H locs 0 0 (MQ below (QcT (FA (fP PL vP0) s.heap.size) (fun ov H => ov = (some (.int rx)) ∧ pl G PL rw1 H ∧ H.size = s.heap.size + rc ∧ KM vP0 rw1 s.heap.size)) args s 1 90 (FA (fP PL vP0) s.heap.size)) (F0 m 0 ls []) := by
  intro v1 p0 p1 hm H locs ls hW0 hW1 hS hz hKM hl
  obtain ⟨hx, hb, hr, hlk, hml, hown, hts, hK⟩ := id C
  unfold fJ4_add_node at hm
  refine lv_aload_n (pc := 0) hx hb dJ4_add_0 rfl (lv_at hl 0 rfl) ?_
  refine lv_aload_n (pc := 1) hx hb dJ4_add_1 rfl (lv_at hl 1 rfl) ?_
  obtain ⟨hg1, hm⟩ := gb_some hm
  obtain ⟨r2, rc3, w4, hq5, hm⟩ := ob3_some hm
  have hq6 := hq5
  rw [show (Z + 0) = H.size by omega] at hq6
  refine rk_TV (pc := 2) (As := [.ref p1]) (rest := []) (mc := 1) (ms := 90) hx hb hml hown hts hK hS (fun q hq => FA_sz rfl q hq) lkJ4_89 rfl yn_J4_offer (ct_J4_offer_node (G := G) (l := l) (b0 := b0) hq6 hPX hZP) ⟨Nat.le_of_ble_eq_true rfl, Nat.le_of_ble_eq_true rfl⟩ (fun z h => (KM_hf2 hKM z h)) (rp_recv hK hW1 (C := RJ4) (T := TJ4) (N := 4) rfl (shP_17 (kd_PL hg1) (kd_k hg1))) ⟨hW0, hW1⟩ rfl rfl hl.1 (Nat.le_of_ble_eq_true rfl) dJ4_add_2 ⟨Nat.le_of_ble_eq_true rfl, Nat.le_of_ble_eq_true rfl⟩ (fun ov9 H7 locs8 hP9 hkp10 hS11 => ?_)
  obtain ⟨rfl, hW12, hz13, hKM14⟩ := hP9
  have hW15 := rg_keepX hW0 hkp10 (by intro z h0 h3; have h1 := h0.1.1; have h2 := h0.1.2; have h4 := h0.2; exact hPX _ h3.1 h0)
  have hz16 : H7.size = s.heap.size + rc3 := by omega
  have hKM17 := KM.trans hKM hKM14 (by omega)
  refine W.eq (g2 := F0 m 5 ls [.int r2]) rfl ?_
  obtain ⟨hg18, hm⟩ := gb_some hm
  obtain ⟨e7, e8, e9⟩ := rs3 hm
  subst e7
  subst e8
  subst e9
  exact rk_zretA (pc := 5) hx hb hr hlk hg18 hS11 ⟨rfl, hW12, hz16, hKM17⟩ dJ4_add_5 (by exact Nat.le_of_ble_eq_true rfl) (by exact Nat.le_of_ble_eq_true rfl)
set_option maxHeartbeats 4000000 in
theorem ct_J4_add_node {G : Gv} {l : Launch} {b0 : Nat} {PL : Nat → Bool} {Z : Nat} {V0 : Mem} {v1 : Mem} {p0 : Nat} {p1 : Nat} {rx : Int32} {rc : Nat} {rw1 : Mem} (hm : fJ4_add_node PL Z b0 V0 v1 p0 p1 = some (rx, rc, rw1)) (hPX : ∀ z, PL z = true → ¬ fX b0 z) (hZP : ZP G) : CT G l yJ4_add (ws_ yJ4_add cJ4_add 2 (some .boolean)) 6 1 90 186 [.ref p0, .ref p1] (fP PL v1) Z (fun H => rg G b0 357 (shX0 G.2.1) V0 H ∧ pl G PL v1 H) (fun ov H => ov = (some (.int rx)) ∧ pl G PL rw1 H ∧ H.size = Z + rc ∧ KM v1 rw1 Z) := by
  refine Met.ofW (cc := cJ4_add) (maxL := 2) (ret := (some .boolean)) (by decide +kernel) rfl ?_
  intro p e s m args below meth c s₁ B hml hv
  obtain ⟨rfl, ⟨hz, hW0, hW1⟩, hK⟩ := hv
  subst hz
  have he0 := rg_end hW0 356 (by decide) rfl (fun _ _ _ => rfl)
  have hZz : s.heap.size = s.heap.size := rfl
  have hts := atoms_spec (ws := ws_ yJ4_add cJ4_add 2 (some .boolean)) B.pre
  have hts : ∀ w ∈ lw_all, w.before _ s = true := fun w h => hts w (List.mem_cons_of_mem _ h)
  have C : Cx G p s m _ meth c RJ4 cJ4_add 2 (some .boolean) := ⟨B.exec, B.bytes, B.returns, B.notSynchronized, hml, findClass_of_methodNamed B.named, hts, hK⟩
  have hl := lv_entry ([.ref p0, .ref p1]) (n := 2) (Nat.le_of_ble_eq_true rfl)
  rw [lg_entry_eq]
  generalize (lg_sl ([.ref p0, .ref p1]) ++ List.replicate (2 - (lg_sl ([.ref p0, .ref p1])).length) Slot.unset).toArray = ls at hl ⊢
  have hl : lv_has ls 2 [(0, .ref p0), (1, .ref p1)] := hl
  exact w_fJ4_add_node C hPX he0 hZz hZP _ _ _ hm s.heap [] ls hW0 hW1 va_S.rf rfl KM.rf hl
noncomputable def fJ4_grow_found_25 (PL : Nat → Bool) (Z : Nat) (b0 : Nat) (V0 : Mem) (v1 : Mem) (zc : Nat) (p0 : Nat) (t0 : Int32) (t1 : Int32) (t2 : Int32) : Option (Nat × Mem) :=
  ob (fJ8_newLength t0 t1 t2) fun r9 =>
  gb (kd PL v1 p0 17) (
  lo (gR v1 p0 0) fun oa12 =>
  ob oa12 fun pa14 =>
  ob3 (fJ9_copyOf_found PL (Z + zc) b0 V0 v1 pa14 r9) fun oa17 rc18 w19 =>
  gb (kd PL w19 p0 17) (
  lm (sR w19 p0 0 oa17) fun v1_34 =>
  some ((zc + rc18), v1_34)))
noncomputable def fJ4_grow_found (PL : Nat → Bool) (Z : Nat) (b0 : Nat) (V0 : Mem) (v1 : Mem) (p0 : Nat) (i1 : Int32) : Option (Nat × Mem) :=
  gb (kd PL v1 p0 17) (
  lo (gR v1 p0 0) fun oa2 =>
  ob oa2 fun pa4 =>
  gb (ka PL v1 pa4 44) (
  if (64 : Int32) ≤ (Int32.ofNat (gI v1 pa4 98).toNatClampNeg) then (
  fJ4_grow_found_25 PL Z b0 V0 v1 0 p0 (Int32.ofNat (gI v1 pa4 98).toNatClampNeg) (i1 - (Int32.ofNat (gI v1 pa4 98).toNatClampNeg)) ((Int32.ofNat (gI v1 pa4 98).toNatClampNeg) >>> ((1 : Int32) &&& 31)))
  else (
  fJ4_grow_found_25 PL Z b0 V0 v1 0 p0 (Int32.ofNat (gI v1 pa4 98).toNatClampNeg) (i1 - (Int32.ofNat (gI v1 pa4 98).toNatClampNeg)) ((Int32.ofNat (gI v1 pa4 98).toNatClampNeg) + (2 : Int32)))))
set_option maxHeartbeats 4000000 in
theorem w_fJ4_grow_found_25 (C : Cx G p s m args meth c RJ4 cJ4_grow 4 none) {b0 : Nat} {PL : Nat → Bool} {Z : Nat} {V0 : Mem} {vP0 : Mem} {rc : Nat} {rw1 : Mem} (hPX : ∀ z, PL z = true → ¬ fX b0 z) (he0 : b0 + 357 ≤ s.heap.size) (hZz : s.heap.size = Z) (hZP : ZP G) : ∀ (v1 : Mem) (zc : Nat) (p0 : Nat) (t0 : Int32) (t1 : Int32) (t2 : Int32), fJ4_grow_found_25 PL Z b0 V0 v1 zc p0 t0 t1 t2 = some (rc, rw1) → ∀ (H : Heap) (locs : List Loc) (ls : Array Slot), rg G b0 357 (shX0 G.2.1) V0 H → pl G PL v1 H → va_S (FA (fP PL vP0) s.heap.size) s.heap H locs → H.size = s.heap.size + zc → KM vP0 v1 s.heap.size → lv_has ls 4 [(0, .ref p0)] → W p l e (rmT 4 1 90 141) s m args below meth c H locs 0 0 (MQ below (QcT (FA (fP PL vP0) s.heap.size) (fun ov H => ov = none ∧ pl G PL rw1 H ∧ H.size = s.heap.size + rc ∧ KM vP0 rw1 s.heap.size)) args s 1 90 (FA (fP PL vP0) s.heap.size)) (F0 m 25 ls [.int t2, .int t1, .int t0]) := by
  intro v1 zc p0 t0 t1 t2 hm H locs ls hW0 hW1 hS hz hKM hl
  obtain ⟨hx, hb, hr, hlk, hml, hown, hts, hK⟩ := id C
  unfold fJ4_grow_found_25 at hm
  obtain ⟨r9, hq10, hm⟩ := ob_some hm
  refine rk_PS (pc := 25) (As := [.int t0, .int t1, .int t2]) (rest := []) hx hb hml hown hts hK lkJ4_80 yn_J8_newLength (ct_J8_newLength (G := G) (l := l) hq10) ⟨Nat.le_of_ble_eq_true rfl, Nat.le_of_ble_eq_true rfl⟩ trivial rfl rfl hl.1 (Nat.le_of_ble_eq_true rfl) dJ4_grow_25 ⟨Nat.zero_le _, Nat.zero_le _⟩ ?_
  refine W.eq (g2 := F0 m 28 ls [.int r9]) rfl ?_
  refine lv_istore_n (pc := 28) (lv' := [(3, .int r9), (0, .ref p0)]) hx hb dJ4_grow_28 rfl hl (by decide) rfl (fun ls hl => ?_)
  refine lv_aload_n (pc := 29) hx hb dJ4_grow_29 rfl (lv_at hl 1 rfl) ?_
  refine lv_aload_n (pc := 30) hx hb dJ4_grow_30 rfl (lv_at hl 1 rfl) ?_
  obtain ⟨hg11, hm⟩ := gb_some hm
  obtain ⟨oa12, he13, hm⟩ := lo_some hm
  refine rk_get (pc := 31) hx hb hts hown hK (pl_rg hW1) flJ4_17 p0 (Nat.lt_succ_self _) (Nat.zero_add _).symm (shP_17 (kd_PL hg11) (kd_k hg11)) (x := va_rf oa12) (congrArg (fun z => some (va_rf z)) he13) dJ4_grow_31 ?_
  refine lv_iload_n (pc := 34) hx hb dJ4_grow_34 rfl (lv_at hl 0 rfl) ?_
  obtain ⟨pa14, he15, hm16⟩ := ob_some hm
  subst he15
  have hm := hm16
  obtain ⟨oa17, rc18, w19, hq20, hm⟩ := ob3_some hm
  have hq21 := hq20
  rw [show (Z + zc) = H.size by omega] at hq21
  refine rk_TS (pc := 35) (As := [.ref pa14, .int r9]) (rest := [.ref p0]) (mc := 1) (ms := 90) hx hb hml hown hts hK hS (fun q hq => FA_sz rfl q hq) lkJ4_86 yn_J9_copyOf (ct_J9_copyOf_found (G := G) (l := l) (b0 := b0) hq21 hPX hZP) ⟨Nat.le_of_ble_eq_true rfl, Nat.le_of_ble_eq_true rfl⟩ (fun z h => (KM_hf2 hKM z h)) ⟨hW0, hW1⟩ rfl rfl hl.1 (Nat.le_of_ble_eq_true rfl) dJ4_grow_35 ⟨Nat.le_of_ble_eq_true rfl, Nat.le_of_ble_eq_true rfl⟩ (fun ov9 H22 locs23 hP24 hkp25 hS26 => ?_)
  obtain ⟨rfl, hW27, hz28, hKM29⟩ := hP24
  have hW30 := rg_keepX hW0 hkp25 (by intro z h0 h3; have h1 := h0.1.1; have h2 := h0.1.2; have h4 := h0.2; exact hPX _ h3.1 h0)
  have hz31 : H22.size = s.heap.size + (zc + rc18) := by omega
  have hKM32 := KM.trans hKM hKM29 (by omega)
  refine W.eq (g2 := F0 m 38 ls [va_rf oa17, .ref p0]) rfl ?_
  obtain ⟨hg33, hm⟩ := gb_some hm
  refine rp_put (pc := 38) (q := p0) hx hb hts hown hK hW27 hS26 flJ4_17 ft_J4 (kd_A hKM32 hg33 (by decide)) (shP_17 (kd_PL hg33) (kd_k hg33)) rfl (x := va_rf oa17) (rf_nar _ rfl oa17) (rf_fit _ rfl oa17) (Nat.le_of_ble_eq_true rfl) (sR w19 p0 0 oa17) sR_ne (by rw [sR_eq]; exact shP_17 (kd_PL hg33) (kd_k hg33)) dJ4_grow_38 (fun H35 locs36 hW37 hS38 hz39 hkp40 => ?_)
  have hKM41 := KM.sR (o := p0) (j := 0) (x := oa17) hKM32
  obtain ⟨v1_34, he9, hm⟩ := lm_some hm
  rw [he9] at hW37 hKM41
  have hW42 := rg_keepqX hW30 hkp40 (hPX _ (kd_PL hg33))
  have hz43 := hz39.trans hz31
  obtain ⟨e8, e9⟩ := rs2 hm
  subst e8
  subst e9
  exact rk_vretA (pc := 41) hx hb hr hlk hS38 ⟨rfl, hW37, hz43, hKM41⟩ dJ4_grow_41 (by exact Nat.le_of_ble_eq_true rfl) (by exact Nat.le_of_ble_eq_true rfl)
set_option maxHeartbeats 4000000 in
theorem w_fJ4_grow_found (C : Cx G p s m args meth c RJ4 cJ4_grow 4 none) {b0 : Nat} {PL : Nat → Bool} {Z : Nat} {V0 : Mem} {vP0 : Mem} {rc : Nat} {rw1 : Mem} (hPX : ∀ z, PL z = true → ¬ fX b0 z) (he0 : b0 + 357 ≤ s.heap.size) (hZz : s.heap.size = Z) (hZP : ZP G) : ∀ (v1 : Mem) (p0 : Nat) (i1 : Int32), fJ4_grow_found PL Z b0 V0 v1 p0 i1 = some (rc, rw1) → ∀ (H : Heap) (locs : List Loc) (ls : Array Slot), rg G b0 357 (shX0 G.2.1) V0 H → pl G PL v1 H → va_S (FA (fP PL vP0) s.heap.size) s.heap H locs → H.size = s.heap.size + 0 → KM vP0 v1 s.heap.size → lv_has ls 4 [(0, .ref p0), (1, .int i1)] → W p l e (rmT 4 1 90 141) s m args below meth c H locs 0 0 (MQ below (QcT (FA (fP PL vP0) s.heap.size) (fun ov H => ov = none ∧ pl G PL rw1 H ∧ H.size = s.heap.size + rc ∧ KM vP0 rw1 s.heap.size)) args s 1 90 (FA (fP PL vP0) s.heap.size)) (F0 m 0 ls []) := by
  intro v1 p0 i1 hm H locs ls hW0 hW1 hS hz hKM hl
  obtain ⟨hx, hb, hr, hlk, hml, hown, hts, hK⟩ := id C
  unfold fJ4_grow_found at hm
  refine lv_aload_n (pc := 0) hx hb dJ4_grow_0 rfl (lv_at hl 0 rfl) ?_
  obtain ⟨hg1, hm⟩ := gb_some hm
  obtain ⟨oa2, he3, hm⟩ := lo_some hm
  refine rk_get (pc := 1) hx hb hts hown hK (pl_rg hW1) flJ4_17 p0 (Nat.lt_succ_self _) (Nat.zero_add _).symm (shP_17 (kd_PL hg1) (kd_k hg1)) (x := va_rf oa2) (congrArg (fun z => some (va_rf z)) he3) dJ4_grow_1 ?_
  obtain ⟨pa4, he5, hm6⟩ := ob_some hm
  subst he5
  have hm := hm6
  obtain ⟨hg7, hm⟩ := gb_some hm
  refine rp_alen (pc := 4) hx hb hK hW1 hg7 dJ4_grow_4 ?_
  refine lv_istore_n (pc := 5) (lv' := [(2, .int (Int32.ofNat (gI v1 pa4 98).toNatClampNeg)), (0, .ref p0), (1, .int i1)]) hx hb dJ4_grow_5 rfl hl (by decide) rfl (fun ls hl => ?_)
  refine lv_iload_n (pc := 6) hx hb dJ4_grow_6 rfl (lv_at hl 0 rfl) ?_
  refine lv_iload_n (pc := 7) hx hb dJ4_grow_7 rfl (lv_at hl 2 rfl) ?_
  refine lv_iload_n (pc := 8) hx hb dJ4_grow_8 rfl (lv_at hl 0 rfl) ?_
  refine lv_isub (pc := 9) hx hb dJ4_grow_9 ?_
  refine lv_iload_n (pc := 10) hx hb dJ4_grow_10 rfl (lv_at hl 0 rfl) ?_
  refine lv_bipush (pc := 11) (v := (64 : Int32)) hx hb dJ4_grow_11 (by decide) ?_
  refine lv_icmp_ge (pc := 13) (tgt := 22) hx hb dJ4_grow_13 (by decide) (fun c8 => ?_) (fun c8 => ?_)
  · have hm := ite_t c8 hm
    refine lv_iload_n (pc := 22) hx hb dJ4_grow_22 rfl (lv_at hl 0 rfl) ?_
    refine lv_iconst (pc := 23) (v := (1 : Int32)) hx hb dJ4_grow_23 (by decide) ?_
    refine lv_ishr (pc := 24) hx hb dJ4_grow_24 ?_
    exact (w_fJ4_grow_found_25 C hPX he0 hZz hZP) v1 0 p0 (Int32.ofNat (gI v1 pa4 98).toNatClampNeg) (i1 - (Int32.ofNat (gI v1 pa4 98).toNatClampNeg)) ((Int32.ofNat (gI v1 pa4 98).toNatClampNeg) >>> ((1 : Int32) &&& 31)) hm H locs ls hW0 hW1 hS hz hKM (lv_sub hl [1] rfl)
  · have hm := ite_f c8 hm
    refine lv_iload_n (pc := 16) hx hb dJ4_grow_16 rfl (lv_at hl 0 rfl) ?_
    refine lv_iconst (pc := 17) (v := (2 : Int32)) hx hb dJ4_grow_17 (by decide) ?_
    refine lv_iadd (pc := 18) hx hb dJ4_grow_18 ?_
    refine lv_goto (pc := 19) (tgt := 25) hx hb dJ4_grow_19 (by decide) ?_
    exact (w_fJ4_grow_found_25 C hPX he0 hZz hZP) v1 0 p0 (Int32.ofNat (gI v1 pa4 98).toNatClampNeg) (i1 - (Int32.ofNat (gI v1 pa4 98).toNatClampNeg)) ((Int32.ofNat (gI v1 pa4 98).toNatClampNeg) + (2 : Int32)) hm H locs ls hW0 hW1 hS hz hKM (lv_sub hl [1] rfl)
set_option maxHeartbeats 4000000 in
theorem ct_J4_grow_found {G : Gv} {l : Launch} {b0 : Nat} {PL : Nat → Bool} {Z : Nat} {V0 : Mem} {v1 : Mem} {p0 : Nat} {i1 : Int32} {rc : Nat} {rw1 : Mem} (hm : fJ4_grow_found PL Z b0 V0 v1 p0 i1 = some (rc, rw1)) (hPX : ∀ z, PL z = true → ¬ fX b0 z) (hZP : ZP G) : CT G l yJ4_grow (ws_ yJ4_grow cJ4_grow 4 none) 4 1 90 141 [.ref p0, .int i1] (fP PL v1) Z (fun H => rg G b0 357 (shX0 G.2.1) V0 H ∧ pl G PL v1 H) (fun ov H => ov = none ∧ pl G PL rw1 H ∧ H.size = Z + rc ∧ KM v1 rw1 Z) := by
  refine Met.ofW (cc := cJ4_grow) (maxL := 4) (ret := none) (by decide +kernel) rfl ?_
  intro p e s m args below meth c s₁ B hml hv
  obtain ⟨rfl, ⟨hz, hW0, hW1⟩, hK⟩ := hv
  subst hz
  have he0 := rg_end hW0 356 (by decide) rfl (fun _ _ _ => rfl)
  have hZz : s.heap.size = s.heap.size := rfl
  have hts := atoms_spec (ws := ws_ yJ4_grow cJ4_grow 4 none) B.pre
  have hts : ∀ w ∈ lw_all, w.before _ s = true := fun w h => hts w (List.mem_cons_of_mem _ h)
  have C : Cx G p s m _ meth c RJ4 cJ4_grow 4 none := ⟨B.exec, B.bytes, B.returns, B.notSynchronized, hml, findClass_of_methodNamed B.named, hts, hK⟩
  have hl := lv_entry ([.ref p0, .int i1]) (n := 4) (Nat.le_of_ble_eq_true rfl)
  rw [lg_entry_eq]
  generalize (lg_sl ([.ref p0, .int i1]) ++ List.replicate (4 - (lg_sl ([.ref p0, .int i1])).length) Slot.unset).toArray = ls at hl ⊢
  have hl : lv_has ls 4 [(0, .ref p0), (1, .int i1)] := hl
  exact w_fJ4_grow_found C hPX he0 hZz hZP _ _ _ hm s.heap [] ls hW0 hW1 va_S.rf rfl KM.rf hl
theorem yn_X5_compare : YN yX5_compare 2 := by
  unfold YN
  decide +kernel
theorem lfJ4_149_X5 : LF RJ4 149 RX5 ⟨"java/util/Comparator", "compare", "(Ljava/lang/Object;Ljava/lang/Object;)I"⟩ yX5_compare cX5_compare 3 (some .int) := ⟨q1078, q1082, q1084, q124, q1086⟩
theorem ynx_J4_149 : YN ⟨"java/util/Comparator", "compare", "(Ljava/lang/Object;Ljava/lang/Object;)I"⟩ 2 := by
  unfold YN
  decide +kernel
noncomputable def fJ4_siftUpUsingComparator_found_0 (PL : Nat → Bool) (b0 : Nat) (V0 : Mem) (k0 : Mem → Int32 → Nat → Nat → Nat → Option (Mem)) (v1 : Mem) (i0 : Int32) (p1 : Nat) (p2 : Nat) (p3 : Nat) : Option (Mem) :=
  if i0 ≤ 0 then (
  ob (fi b0 177 1 20 p1) fun nf2 =>
  gb (ka PL v1 p2 44) (
  gb (inR i0 (gI v1 p2 98).toNatClampNeg) (
  lm (sR v1 p2 i0.toNatClampNeg (some (b0 + (177 + 1 * nf2 + 0)))) fun v1_9 =>
  some v1_9)))
  else (
  gb (ka PL v1 p2 44) (
  gb (inR ((i0 - (1 : Int32)).toUInt32 >>> ((1 : Int32).toUInt32 &&& Int32.toUInt32 31)).toInt32 (gI v1 p2 98).toNatClampNeg) (
  lo (gR v1 p2 ((i0 - (1 : Int32)).toUInt32 >>> ((1 : Int32).toUInt32 &&& Int32.toUInt32 31)).toInt32.toNatClampNeg) fun oa21 =>
  ob oa21 fun pa23 =>
  ob (fi b0 177 1 20 pa23) fun nf26 =>
  ob (fi b0 177 1 20 p1) fun nf31 =>
  gb (kd PL v1 p3 5) (
  ob (fX5_compare PL b0 V0 v1 nf31 nf26 p3) fun r37 =>
  if r37 < 0 then (
  gb (ka PL v1 p2 44) (
  gb (inR i0 (gI v1 p2 98).toNatClampNeg) (
  lm (sR v1 p2 i0.toNatClampNeg (some (b0 + (177 + 1 * nf26 + 0)))) fun v1_42 =>
  k0 v1_42 ((i0 - (1 : Int32)).toUInt32 >>> ((1 : Int32).toUInt32 &&& Int32.toUInt32 31)).toInt32 (b0 + (177 + 1 * nf31 + 0)) p2 p3)))
  else (
  gb (ka PL v1 p2 44) (
  gb (inR i0 (gI v1 p2 98).toNatClampNeg) (
  lm (sR v1 p2 i0.toNatClampNeg (some (b0 + (177 + 1 * nf31 + 0)))) fun v1_54 =>
  some v1_54)))))))
noncomputable def fJ4_siftUpUsingComparator_found (PL : Nat → Bool) (b0 : Nat) (V0 : Mem) (v1 : Mem) (i0 : Int32) (p1 : Nat) (p2 : Nat) (p3 : Nat) : Option (Mem) :=
  lq5 (fJ4_siftUpUsingComparator_found_0 PL b0 V0) FU v1 i0 p1 p2 p3
set_option maxHeartbeats 4000000 in
theorem w_fJ4_siftUpUsingComparator_found_0 (C : Cx G p s m args meth c RJ4 cJ4_siftUpUsingComparator 6 none) {b0 : Nat} {PL : Nat → Bool} {V0 : Mem} {vP0 : Mem} {rw1 : Mem} (hPX : ∀ z, PL z = true → ¬ fX b0 z) (hZP : ZP G) {k0 : Mem → Int32 → Nat → Nat → Nat → Option (Mem)} (hk0 : ∀ (v1 : Mem) (i0 : Int32) (p1 : Nat) (p2 : Nat) (p3 : Nat), k0 v1 i0 p1 p2 p3 = some rw1 → ∀ (H : Heap) (locs : List Loc) (ls : Array Slot), rg G b0 357 (shX0 G.2.1) V0 H → pl G PL v1 H → va_S (FA (fP PL vP0) s.heap.size) s.heap H locs → H.size = s.heap.size → KM vP0 v1 s.heap.size → lv_has ls 6 [(0, .int i0), (1, .ref p1), (2, .ref p2), (3, .ref p3)] → W p l e (rmT 3 0 0 66) s m args below meth c H locs 0 0 (MQ below (QcT (FA (fP PL vP0) s.heap.size) (fun ov H => ov = none ∧ pl G PL rw1 H ∧ H.size = s.heap.size ∧ KM vP0 rw1 s.heap.size)) args s 0 0 (FA (fP PL vP0) s.heap.size)) (F0 m 0 ls [])) : ∀ (v1 : Mem) (i0 : Int32) (p1 : Nat) (p2 : Nat) (p3 : Nat), fJ4_siftUpUsingComparator_found_0 PL b0 V0 k0 v1 i0 p1 p2 p3 = some rw1 → ∀ (H : Heap) (locs : List Loc) (ls : Array Slot), rg G b0 357 (shX0 G.2.1) V0 H → pl G PL v1 H → va_S (FA (fP PL vP0) s.heap.size) s.heap H locs → H.size = s.heap.size → KM vP0 v1 s.heap.size → lv_has ls 6 [(0, .int i0), (1, .ref p1), (2, .ref p2), (3, .ref p3)] → W p l e (rmT 3 0 0 66) s m args below meth c H locs 0 0 (MQ below (QcT (FA (fP PL vP0) s.heap.size) (fun ov H => ov = none ∧ pl G PL rw1 H ∧ H.size = s.heap.size ∧ KM vP0 rw1 s.heap.size)) args s 0 0 (FA (fP PL vP0) s.heap.size)) (F0 m 0 ls []) := by
  intro v1 i0 p1 p2 p3 hm H locs ls hW0 hW1 hS hz hKM hl
  obtain ⟨hx, hb, hr, hlk, hml, hown, hts, hK⟩ := id C
  unfold fJ4_siftUpUsingComparator_found_0 at hm
  refine lv_iload_n (pc := 0) hx hb dJ4_siftUpUsingComparator_0 rfl (lv_at hl 0 rfl) ?_
  refine lv_if_le (pc := 1) (tgt := 43) hx hb dJ4_siftUpUsingComparator_1 (by decide) (fun c1 => ?_) (fun c1 => ?_)
  · have hm := ite_t c1 hm
    refine lv_aload_n (pc := 43) hx hb dJ4_siftUpUsingComparator_43 rfl (lv_at hl 2 rfl) ?_
    refine lv_iload_n (pc := 44) hx hb dJ4_siftUpUsingComparator_44 rfl (lv_at hl 0 rfl) ?_
    refine lv_aload_n (pc := 45) hx hb dJ4_siftUpUsingComparator_45 rfl (lv_at hl 1 rfl) ?_
    obtain ⟨nf2, hf3, hm6⟩ := ob_some hm
    obtain ⟨ha4, hlt5⟩ := fi_some hf3
    subst ha4
    have hm := hm6
    obtain ⟨hg7, hm⟩ := gb_some hm
    obtain ⟨hg8, hm⟩ := gb_some hm
    refine rp_aastR (pc := 46) (C := RX7) hx hb hts hK hW1 hS (kd_A hKM (ka_kd hg7) (by decide)) hg7 hg8 q2401 (rk_recv hK hW0 (177 + 1 * nf2 + 0) (by omega) rfl rfl ((shX0_f177 G.2.1 hlt5 _ rfl 0 (by decide) _ _ _).trans rfl)) dJ4_siftUpUsingComparator_46 (fun H10 locs11 hW12 hS13 hz14 hkp15 => ?_)
    have hKM16 := KM.sR (o := p2) (j := i0.toNatClampNeg) (x := (some (b0 + (177 + 1 * nf2 + 0)))) hKM
    obtain ⟨v1_9, he9, hm⟩ := lm_some hm
    rw [he9] at hW12 hKM16
    have hW17 := rg_keepqX hW0 hkp15 (hPX _ (kd_PL (ka_kd hg7)))
    have hz18 := hz14.trans hz
    have e9 := rs1 hm
    subst e9
    exact rk_vret (pc := 47) hx hb hr hlk hS13 ⟨rfl, hW12, hz18, hKM16⟩ dJ4_siftUpUsingComparator_47
  · have hm := ite_f c1 hm
    refine lv_iload_n (pc := 4) hx hb dJ4_siftUpUsingComparator_4 rfl (lv_at hl 0 rfl) ?_
    refine lv_iconst (pc := 5) (v := (1 : Int32)) hx hb dJ4_siftUpUsingComparator_5 (by decide) ?_
    refine lv_isub (pc := 6) hx hb dJ4_siftUpUsingComparator_6 ?_
    refine lv_iconst (pc := 7) (v := (1 : Int32)) hx hb dJ4_siftUpUsingComparator_7 (by decide) ?_
    refine lv_iushr (pc := 8) hx hb dJ4_siftUpUsingComparator_8 rfl ?_
    refine lv_istore (pc := 9) (lv' := [(4, .int ((i0 - (1 : Int32)).toUInt32 >>> ((1 : Int32).toUInt32 &&& Int32.toUInt32 31)).toInt32), (0, .int i0), (1, .ref p1), (2, .ref p2), (3, .ref p3)]) hx hb dJ4_siftUpUsingComparator_9 hl (by decide) rfl (fun ls hl => ?_)
    refine lv_aload_n (pc := 11) hx hb dJ4_siftUpUsingComparator_11 rfl (lv_at hl 3 rfl) ?_
    refine lv_iload (pc := 12) hx hb dJ4_siftUpUsingComparator_12 (lv_at hl 0 rfl) ?_
    obtain ⟨hg19, hm⟩ := gb_some hm
    obtain ⟨hg20, hm⟩ := gb_some hm
    obtain ⟨oa21, he22, hm⟩ := lo_some hm
    refine rp_aald (pc := 14) hx hb hK hW1 hg19 hg20 he22 dJ4_siftUpUsingComparator_14 ?_
    refine lv_astoreO (pc := 15) (lv' := [(5, va_rf oa21), (4, .int ((i0 - (1 : Int32)).toUInt32 >>> ((1 : Int32).toUInt32 &&& Int32.toUInt32 31)).toInt32), (0, .int i0), (1, .ref p1), (2, .ref p2), (3, .ref p3)]) hx hb dJ4_siftUpUsingComparator_15 hl (by decide) rfl (fun ls hl => ?_)
    refine lv_aload_n (pc := 17) hx hb dJ4_siftUpUsingComparator_17 rfl (lv_at hl 5 rfl) ?_
    refine lv_aload_n (pc := 18) hx hb dJ4_siftUpUsingComparator_18 rfl (lv_at hl 3 rfl) ?_
    refine lv_aloadO (pc := 19) hx hb dJ4_siftUpUsingComparator_19 (lv_at hl 0 rfl) ?_
    obtain ⟨pa23, he24, hm25⟩ := ob_some hm
    subst he24
    have hm := hm25
    obtain ⟨nf26, hf27, hm30⟩ := ob_some hm
    obtain ⟨ha28, hlt29⟩ := fi_some hf27
    subst ha28
    have hm := hm30
    obtain ⟨nf31, hf32, hm35⟩ := ob_some hm
    obtain ⟨ha33, hlt34⟩ := fi_some hf32
    subst ha33
    have hm := hm35
    obtain ⟨hg36, hm⟩ := gb_some hm
    obtain ⟨r37, hq38, hm⟩ := ob_some hm
    refine rp_PF (pc := 21) (As := [.ref (b0 + (177 + 1 * nf31 + 0)), .ref (b0 + (177 + 1 * nf26 + 0))]) (rest := []) hx hb hml hown hts hK lfJ4_149_X5 ((hZP s hK).1.2.2.1) (T := TX5z) (N := 0) (ci := 5) rfl ynx_J4_149 (ct_X5_compare (G := G) (l := l) (b0 := b0) hq38 hlt34 hlt29) ⟨Nat.le_of_ble_eq_true rfl, Nat.le_of_ble_eq_true rfl⟩ (rp_recv hK hW1 (C := RX5) (T := TX5z) (N := 0) rfl (shP_5 (kd_PL hg36) (kd_k hg36))) ⟨hW0, hW1⟩ rfl rfl hl.1 (Nat.le_of_ble_eq_true rfl) dJ4_siftUpUsingComparator_21 ⟨Nat.zero_le _, Nat.zero_le _⟩ ?_
    refine W.eq (g2 := F0 m 26 ls [.int r37]) rfl ?_
    refine lv_if_lt (pc := 26) (tgt := 32) hx hb dJ4_siftUpUsingComparator_26 (by decide) (fun c39 => ?_) (fun c39 => ?_)
    · have hm := ite_t c39 hm
      refine lv_aload_n (pc := 32) hx hb dJ4_siftUpUsingComparator_32 rfl (lv_at hl 4 rfl) ?_
      refine lv_iload_n (pc := 33) hx hb dJ4_siftUpUsingComparator_33 rfl (lv_at hl 2 rfl) ?_
      refine lv_aload (pc := 34) hx hb dJ4_siftUpUsingComparator_34 (lv_at hl 0 rfl) ?_
      obtain ⟨hg40, hm⟩ := gb_some hm
      obtain ⟨hg41, hm⟩ := gb_some hm
      refine rp_aastR (pc := 36) (C := RX7) hx hb hts hK hW1 hS (kd_A hKM (ka_kd hg40) (by decide)) hg40 hg41 q2401 (rk_recv hK hW0 (177 + 1 * nf26 + 0) (by omega) rfl rfl ((shX0_f177 G.2.1 hlt29 _ rfl 0 (by decide) _ _ _).trans rfl)) dJ4_siftUpUsingComparator_36 (fun H43 locs44 hW45 hS46 hz47 hkp48 => ?_)
      have hKM49 := KM.sR (o := p2) (j := i0.toNatClampNeg) (x := (some (b0 + (177 + 1 * nf26 + 0)))) hKM
      obtain ⟨v1_42, he9, hm⟩ := lm_some hm
      rw [he9] at hW45 hKM49
      have hW50 := rg_keepqX hW0 hkp48 (hPX _ (kd_PL (ka_kd hg40)))
      have hz51 := hz47.trans hz
      refine lv_iload (pc := 37) hx hb dJ4_siftUpUsingComparator_37 (lv_at hl 1 rfl) ?_
      refine lv_istore_n (pc := 39) (lv' := [(0, .int ((i0 - (1 : Int32)).toUInt32 >>> ((1 : Int32).toUInt32 &&& Int32.toUInt32 31)).toInt32), (5, .ref (b0 + (177 + 1 * nf26 + 0))), (4, .int ((i0 - (1 : Int32)).toUInt32 >>> ((1 : Int32).toUInt32 &&& Int32.toUInt32 31)).toInt32), (1, .ref (b0 + (177 + 1 * nf31 + 0))), (2, .ref p2), (3, .ref p3)]) hx hb dJ4_siftUpUsingComparator_39 rfl hl (by decide) rfl (fun ls hl => ?_)
      refine lv_goto (pc := 40) (tgt := 0) hx hb dJ4_siftUpUsingComparator_40 (by decide) ?_
      exact hk0 v1_42 ((i0 - (1 : Int32)).toUInt32 >>> ((1 : Int32).toUInt32 &&& Int32.toUInt32 31)).toInt32 (b0 + (177 + 1 * nf31 + 0)) p2 p3 hm H43 locs44 ls hW50 hW45 hS46 hz51 hKM49 (lv_sub hl [0, 3, 4, 5] rfl)
    · have hm := ite_f c39 hm
      refine lv_goto (pc := 29) (tgt := 43) hx hb dJ4_siftUpUsingComparator_29 (by decide) ?_
      refine lv_aload_n (pc := 43) hx hb dJ4_siftUpUsingComparator_43 rfl (lv_at hl 4 rfl) ?_
      refine lv_iload_n (pc := 44) hx hb dJ4_siftUpUsingComparator_44 rfl (lv_at hl 2 rfl) ?_
      refine lv_aload_n (pc := 45) hx hb dJ4_siftUpUsingComparator_45 rfl (lv_at hl 3 rfl) ?_
      obtain ⟨hg52, hm⟩ := gb_some hm
      obtain ⟨hg53, hm⟩ := gb_some hm
      refine rp_aastR (pc := 46) (C := RX7) hx hb hts hK hW1 hS (kd_A hKM (ka_kd hg52) (by decide)) hg52 hg53 q2401 (rk_recv hK hW0 (177 + 1 * nf31 + 0) (by omega) rfl rfl ((shX0_f177 G.2.1 hlt34 _ rfl 0 (by decide) _ _ _).trans rfl)) dJ4_siftUpUsingComparator_46 (fun H55 locs56 hW57 hS58 hz59 hkp60 => ?_)
      have hKM61 := KM.sR (o := p2) (j := i0.toNatClampNeg) (x := (some (b0 + (177 + 1 * nf31 + 0)))) hKM
      obtain ⟨v1_54, he9, hm⟩ := lm_some hm
      rw [he9] at hW57 hKM61
      have hW62 := rg_keepqX hW0 hkp60 (hPX _ (kd_PL (ka_kd hg52)))
      have hz63 := hz59.trans hz
      have e9 := rs1 hm
      subst e9
      exact rk_vret (pc := 47) hx hb hr hlk hS58 ⟨rfl, hW57, hz63, hKM61⟩ dJ4_siftUpUsingComparator_47
theorem w_fJ4_siftUpUsingComparator_found_0_l (C : Cx G p s m args meth c RJ4 cJ4_siftUpUsingComparator 6 none) {b0 : Nat} {PL : Nat → Bool} {V0 : Mem} {vP0 : Mem} {rw1 : Mem} (hPX : ∀ z, PL z = true → ¬ fX b0 z) (hZP : ZP G) : ∀ (n : Nat) (v1 : Mem) (i0 : Int32) (p1 : Nat) (p2 : Nat) (p3 : Nat), lq5 (fJ4_siftUpUsingComparator_found_0 PL b0 V0) n v1 i0 p1 p2 p3 = some rw1 → ∀ (H : Heap) (locs : List Loc) (ls : Array Slot), rg G b0 357 (shX0 G.2.1) V0 H → pl G PL v1 H → va_S (FA (fP PL vP0) s.heap.size) s.heap H locs → H.size = s.heap.size → KM vP0 v1 s.heap.size → lv_has ls 6 [(0, .int i0), (1, .ref p1), (2, .ref p2), (3, .ref p3)] → W p l e (rmT 3 0 0 66) s m args below meth c H locs 0 0 (MQ below (QcT (FA (fP PL vP0) s.heap.size) (fun ov H => ov = none ∧ pl G PL rw1 H ∧ H.size = s.heap.size ∧ KM vP0 rw1 s.heap.size)) args s 0 0 (FA (fP PL vP0) s.heap.size)) (F0 m 0 ls []) := by
  intro n
  induction n with
  | zero => intro v1 i0 p1 p2 p3 hm; exact (lq5_0 hm).elim
  | succ n ih => intro v1 i0 p1 p2 p3 hm; exact w_fJ4_siftUpUsingComparator_found_0 C hPX hZP ih v1 i0 p1 p2 p3 (lq5_s hm)
set_option maxHeartbeats 4000000 in
theorem w_fJ4_siftUpUsingComparator_found (C : Cx G p s m args meth c RJ4 cJ4_siftUpUsingComparator 6 none) {b0 : Nat} {PL : Nat → Bool} {V0 : Mem} {vP0 : Mem} {rw1 : Mem} (hPX : ∀ z, PL z = true → ¬ fX b0 z) (hZP : ZP G) : ∀ (v1 : Mem) (i0 : Int32) (p1 : Nat) (p2 : Nat) (p3 : Nat), fJ4_siftUpUsingComparator_found PL b0 V0 v1 i0 p1 p2 p3 = some rw1 → ∀ (H : Heap) (locs : List Loc) (ls : Array Slot), rg G b0 357 (shX0 G.2.1) V0 H → pl G PL v1 H → va_S (FA (fP PL vP0) s.heap.size) s.heap H locs → H.size = s.heap.size → KM vP0 v1 s.heap.size → lv_has ls 6 [(0, .int i0), (1, .ref p1), (2, .ref p2), (3, .ref p3)] → W p l e (rmT 3 0 0 66) s m args below meth c H locs 0 0 (MQ below (QcT (FA (fP PL vP0) s.heap.size) (fun ov H => ov = none ∧ pl G PL rw1 H ∧ H.size = s.heap.size ∧ KM vP0 rw1 s.heap.size)) args s 0 0 (FA (fP PL vP0) s.heap.size)) (F0 m 0 ls []) := by
  intro v1 i0 p1 p2 p3 hm H locs ls hW0 hW1 hS hz hKM hl
  obtain ⟨hx, hb, hr, hlk, hml, hown, hts, hK⟩ := id C
  unfold fJ4_siftUpUsingComparator_found at hm
  exact (w_fJ4_siftUpUsingComparator_found_0_l C hPX hZP FU) v1 i0 p1 p2 p3 hm H locs ls hW0 hW1 hS hz hKM (lv_sub hl [0, 1, 2, 3] rfl)
set_option maxHeartbeats 4000000 in
theorem ct_J4_siftUpUsingComparator_found {G : Gv} {l : Launch} {b0 : Nat} {PL : Nat → Bool} {V0 : Mem} {v1 : Mem} {i0 : Int32} {p1 : Nat} {p2 : Nat} {p3 : Nat} {rw1 : Mem} {sz : Nat} (hm : fJ4_siftUpUsingComparator_found PL b0 V0 v1 i0 p1 p2 p3 = some rw1) (hPX : ∀ z, PL z = true → ¬ fX b0 z) (hZP : ZP G) : CT G l yJ4_siftUpUsingComparator (ws_ yJ4_siftUpUsingComparator cJ4_siftUpUsingComparator 6 none) 3 0 0 66 [.int i0, .ref p1, .ref p2, .ref p3] (fP PL v1) sz (fun H => rg G b0 357 (shX0 G.2.1) V0 H ∧ pl G PL v1 H) (fun ov H => ov = none ∧ pl G PL rw1 H ∧ H.size = sz ∧ KM v1 rw1 sz) := by
  refine Met.ofW (cc := cJ4_siftUpUsingComparator) (maxL := 6) (ret := none) (by decide +kernel) rfl ?_
  intro p e s m args below meth c s₁ B hml hv
  obtain ⟨rfl, ⟨hz, hW0, hW1⟩, hK⟩ := hv
  subst hz
  have hts := atoms_spec (ws := ws_ yJ4_siftUpUsingComparator cJ4_siftUpUsingComparator 6 none) B.pre
  have hts : ∀ w ∈ lw_all, w.before _ s = true := fun w h => hts w (List.mem_cons_of_mem _ h)
  have C : Cx G p s m _ meth c RJ4 cJ4_siftUpUsingComparator 6 none := ⟨B.exec, B.bytes, B.returns, B.notSynchronized, hml, findClass_of_methodNamed B.named, hts, hK⟩
  have hl := lv_entry ([.int i0, .ref p1, .ref p2, .ref p3]) (n := 6) (Nat.le_of_ble_eq_true rfl)
  rw [lg_entry_eq]
  generalize (lg_sl ([.int i0, .ref p1, .ref p2, .ref p3]) ++ List.replicate (6 - (lg_sl ([.int i0, .ref p1, .ref p2, .ref p3])).length) Slot.unset).toArray = ls at hl ⊢
  have hl : lv_has ls 6 [(0, .int i0), (1, .ref p1), (2, .ref p2), (3, .ref p3)] := hl
  exact w_fJ4_siftUpUsingComparator_found C hPX hZP _ _ _ _ _ hm s.heap [] ls hW0 hW1 va_S.rf rfl KM.rf hl
theorem yn_J4_siftUpUsingComparator : YN yJ4_siftUpUsingComparator 4 := by
  unfold YN
  decide +kernel
theorem lkJ4_136 : LSt RJ4 136 yJ4_siftUpUsingComparator cJ4_siftUpUsingComparator 6 none := ⟨q1074, q1075, q123, q1076⟩
noncomputable def fJ4_siftUp_found (PL : Nat → Bool) (b0 : Nat) (V0 : Mem) (v1 : Mem) (p0 : Nat) (i1 : Int32) (p2 : Nat) : Option (Mem) :=
  gb (kd PL v1 p0 17) (
  lo (gR v1 p0 2) fun oa2 =>
  od oa2 (
  gb (kd PL v1 p0 17) (
  lo (gR v1 p0 0) fun oa6 =>
  none)) (fun pa4 =>
  gb (kd PL v1 p0 17) (
  lo (gR v1 p0 0) fun oa9 =>
  gb (kd PL v1 p0 17) (
  lo (gR v1 p0 2) fun oa12 =>
  ob oa9 fun pa14 =>
  ob oa12 fun pa17 =>
  ob (fJ4_siftUpUsingComparator_found PL b0 V0 v1 i1 p2 pa14 pa17) fun w20 =>
  some w20))))
set_option maxHeartbeats 4000000 in
theorem w_fJ4_siftUp_found (C : Cx G p s m args meth c RJ4 cJ4_siftUp 3 none) {b0 : Nat} {PL : Nat → Bool} {V0 : Mem} {vP0 : Mem} {rw1 : Mem} (hPX : ∀ z, PL z = true → ¬ fX b0 z) (hZP : ZP G) : ∀ (v1 : Mem) (p0 : Nat) (i1 : Int32) (p2 : Nat), fJ4_siftUp_found PL b0 V0 v1 p0 i1 p2 = some rw1 → ∀ (H : Heap) (locs : List Loc) (ls : Array Slot), rg G b0 357 (shX0 G.2.1) V0 H → pl G PL v1 H → va_S (FA (fP PL vP0) s.heap.size) s.heap H locs → H.size = s.heap.size → KM vP0 v1 s.heap.size → lv_has ls 3 [(0, .ref p0), (1, .int i1), (2, .ref p2)] → W p l e (rmT 4 0 0 91) s m args below meth c H locs 0 0 (MQ below (QcT (FA (fP PL vP0) s.heap.size) (fun ov H => ov = none ∧ pl G PL rw1 H ∧ H.size = s.heap.size ∧ KM vP0 rw1 s.heap.size)) args s 0 0 (FA (fP PL vP0) s.heap.size)) (F0 m 0 ls []) := by
  intro v1 p0 i1 p2 hm H locs ls hW0 hW1 hS hz hKM hl
  obtain ⟨hx, hb, hr, hlk, hml, hown, hts, hK⟩ := id C
  unfold fJ4_siftUp_found at hm
  refine lv_aload_n (pc := 0) hx hb dJ4_siftUp_0 rfl (lv_at hl 0 rfl) ?_
  obtain ⟨hg1, hm⟩ := gb_some hm
  obtain ⟨oa2, he3, hm⟩ := lo_some hm
  refine rk_get (pc := 1) hx hb hts hown hK (pl_rg hW1) flJ4_21 p0 (Nat.lt_succ_self _) (Nat.zero_add _).symm (shP_17 (kd_PL hg1) (kd_k hg1)) (x := va_rf oa2) (congrArg (fun z => some (va_rf z)) he3) dJ4_siftUp_1 ?_
  rcases oa2 with _ | pa4
  · have hm := od_n hm
    refine lv_ifnullN (pc := 4) (tgt := 23) hx hb dJ4_siftUp_4 (by decide) ?_
    refine lv_iload_n (pc := 23) hx hb dJ4_siftUp_23 rfl (lv_at hl 1 rfl) ?_
    refine lv_aload_n (pc := 24) hx hb dJ4_siftUp_24 rfl (lv_at hl 2 rfl) ?_
    refine lv_aload_n (pc := 25) hx hb dJ4_siftUp_25 rfl (lv_at hl 0 rfl) ?_
    obtain ⟨hg5, hm⟩ := gb_some hm
    obtain ⟨oa6, he7, hm⟩ := lo_some hm
    refine rk_get (pc := 26) hx hb hts hown hK (pl_rg hW1) flJ4_17 p0 (Nat.lt_succ_self _) (Nat.zero_add _).symm (shP_17 (kd_PL hg5) (kd_k hg5)) (x := va_rf oa6) (congrArg (fun z => some (va_rf z)) he7) dJ4_siftUp_26 ?_
    exact nomatch hm
  · have hm := od_s hm
    refine lv_ifnull (pc := 4) hx hb dJ4_siftUp_4 ?_
    refine lv_iload_n (pc := 7) hx hb dJ4_siftUp_7 rfl (lv_at hl 1 rfl) ?_
    refine lv_aload_n (pc := 8) hx hb dJ4_siftUp_8 rfl (lv_at hl 2 rfl) ?_
    refine lv_aload_n (pc := 9) hx hb dJ4_siftUp_9 rfl (lv_at hl 0 rfl) ?_
    obtain ⟨hg8, hm⟩ := gb_some hm
    obtain ⟨oa9, he10, hm⟩ := lo_some hm
    refine rk_get (pc := 10) hx hb hts hown hK (pl_rg hW1) flJ4_17 p0 (Nat.lt_succ_self _) (Nat.zero_add _).symm (shP_17 (kd_PL hg8) (kd_k hg8)) (x := va_rf oa9) (congrArg (fun z => some (va_rf z)) he10) dJ4_siftUp_10 ?_
    refine lv_aload_n (pc := 13) hx hb dJ4_siftUp_13 rfl (lv_at hl 0 rfl) ?_
    obtain ⟨hg11, hm⟩ := gb_some hm
    obtain ⟨oa12, he13, hm⟩ := lo_some hm
    refine rk_get (pc := 14) hx hb hts hown hK (pl_rg hW1) flJ4_21 p0 (Nat.lt_succ_self _) (Nat.zero_add _).symm (shP_17 (kd_PL hg11) (kd_k hg11)) (x := va_rf oa12) (congrArg (fun z => some (va_rf z)) he13) dJ4_siftUp_14 ?_
    obtain ⟨pa14, he15, hm16⟩ := ob_some hm
    subst he15
    have hm := hm16
    obtain ⟨pa17, he18, hm19⟩ := ob_some hm
    subst he18
    have hm := hm19
    obtain ⟨w20, hq21, hm⟩ := ob_some hm
    refine rk_TS (pc := 17) (As := [.int i1, .ref p2, .ref pa14, .ref pa17]) (rest := []) (mc := 0) (ms := 0) hx hb hml hown hts hK hS (fun q hq => FA_sz rfl q hq) lkJ4_136 yn_J4_siftUpUsingComparator (ct_J4_siftUpUsingComparator_found (G := G) (l := l) (b0 := b0) (sz := H.size) hq21 hPX hZP) ⟨Nat.le_of_ble_eq_true rfl, Nat.le_of_ble_eq_true rfl⟩ (fun z h => (KM_hf2 hKM z h)) ⟨hW0, hW1⟩ rfl rfl hl.1 (Nat.le_of_ble_eq_true rfl) dJ4_siftUp_17 ⟨Nat.zero_le _, Nat.zero_le _⟩ (fun ov9 H22 locs23 hP24 hkp25 hS26 => ?_)
    obtain ⟨rfl, hW27, hz28, hKM29⟩ := hP24
    have hW30 := rg_keepX hW0 hkp25 (by intro z h0 h3; have h1 := h0.1.1; have h2 := h0.1.2; have h4 := h0.2; exact hPX _ h3.1 h0)
    have hz31 := hz28.trans hz
    have hKM32 := KM.trans hKM hKM29 (by omega)
    refine W.eq (g2 := F0 m 20 ls []) rfl ?_
    refine lv_goto (pc := 20) (tgt := 32) hx hb dJ4_siftUp_20 (by decide) ?_
    have e9 := rs1 hm
    subst e9
    exact rk_vret (pc := 32) hx hb hr hlk hS26 ⟨rfl, hW27, hz31, hKM32⟩ dJ4_siftUp_32
set_option maxHeartbeats 4000000 in
theorem ct_J4_siftUp_found {G : Gv} {l : Launch} {b0 : Nat} {PL : Nat → Bool} {V0 : Mem} {v1 : Mem} {p0 : Nat} {i1 : Int32} {p2 : Nat} {rw1 : Mem} {sz : Nat} (hm : fJ4_siftUp_found PL b0 V0 v1 p0 i1 p2 = some rw1) (hPX : ∀ z, PL z = true → ¬ fX b0 z) (hZP : ZP G) : CT G l yJ4_siftUp (ws_ yJ4_siftUp cJ4_siftUp 3 none) 4 0 0 91 [.ref p0, .int i1, .ref p2] (fP PL v1) sz (fun H => rg G b0 357 (shX0 G.2.1) V0 H ∧ pl G PL v1 H) (fun ov H => ov = none ∧ pl G PL rw1 H ∧ H.size = sz ∧ KM v1 rw1 sz) := by
  refine Met.ofW (cc := cJ4_siftUp) (maxL := 3) (ret := none) (by decide +kernel) rfl ?_
  intro p e s m args below meth c s₁ B hml hv
  obtain ⟨rfl, ⟨hz, hW0, hW1⟩, hK⟩ := hv
  subst hz
  have hts := atoms_spec (ws := ws_ yJ4_siftUp cJ4_siftUp 3 none) B.pre
  have hts : ∀ w ∈ lw_all, w.before _ s = true := fun w h => hts w (List.mem_cons_of_mem _ h)
  have C : Cx G p s m _ meth c RJ4 cJ4_siftUp 3 none := ⟨B.exec, B.bytes, B.returns, B.notSynchronized, hml, findClass_of_methodNamed B.named, hts, hK⟩
  have hl := lv_entry ([.ref p0, .int i1, .ref p2]) (n := 3) (Nat.le_of_ble_eq_true rfl)
  rw [lg_entry_eq]
  generalize (lg_sl ([.ref p0, .int i1, .ref p2]) ++ List.replicate (3 - (lg_sl ([.ref p0, .int i1, .ref p2])).length) Slot.unset).toArray = ls at hl ⊢
  have hl : lv_has ls 3 [(0, .ref p0), (1, .int i1), (2, .ref p2)] := hl
  exact w_fJ4_siftUp_found C hPX hZP _ _ _ _ hm s.heap [] ls hW0 hW1 va_S.rf rfl KM.rf hl
noncomputable def fJ4_offer_found_43 (PL : Nat → Bool) (Z : Nat) (b0 : Nat) (V0 : Mem) (v1 : Mem) (zc : Nat) (p0 : Nat) (p1 : Nat) (i2 : Int32) : Option (Int32 × Nat × Mem) :=
  gb (kd PL v1 p0 17) (
  ob (fJ4_siftUp_found PL b0 V0 v1 p0 i2 p1) fun w64 =>
  gb (kd PL w64 p0 17) (
  lm (sI w64 p0 1 (i2 + (1 : Int32))) fun v1_78 =>
  some ((1 : Int32), zc, v1_78)))
noncomputable def fJ4_offer_found_43b (PL : Nat → Bool) (Z : Nat) (b0 : Nat) (V0 : Mem) (v1 : Mem) (zc : Nat) (p0 : Nat) (p1 : Nat) (i2 : Int32) : Option (Int32 × Nat × Mem) :=
  gb (kd PL v1 p0 17) (
  ob (fJ4_siftUp_found PL b0 V0 v1 p0 i2 p1) fun w39 =>
  gb (kd PL w39 p0 17) (
  lm (sI w39 p0 1 (i2 + (1 : Int32))) fun v1_53 =>
  some ((1 : Int32), zc, v1_53)))
noncomputable def fJ4_offer_found (PL : Nat → Bool) (Z : Nat) (b0 : Nat) (V0 : Mem) (v1 : Mem) (p0 : Nat) (p1 : Nat) : Option (Int32 × Nat × Mem) :=
  gb (kd PL v1 p0 17) (
  gb (kd PL v1 p0 17) (
  lm (sI v1 p0 3 ((gI v1 p0 3) + (1 : Int32))) fun v1_3 =>
  gb (kd PL v1_3 p0 17) (
  gb (kd PL v1_3 p0 17) (
  lo (gR v1_3 p0 0) fun oa15 =>
  ob oa15 fun pa17 =>
  gb (ka PL v1_3 pa17 44) (
  if (gI v1_3 p0 1) < (Int32.ofNat (gI v1_3 pa17 98).toNatClampNeg) then (
  fJ4_offer_found_43 PL Z b0 V0 v1_3 0 p0 p1 (gI v1_3 p0 1))
  else (
  gb (kd PL v1_3 p0 17) (
  ob2 (fJ4_grow_found PL (Z + 0) b0 V0 v1_3 p0 ((gI v1_3 p0 1) + (1 : Int32))) fun rc23 w24 =>
  fJ4_offer_found_43b PL Z b0 V0 w24 rc23 p0 p1 (gI v1_3 p0 1))))))))
set_option maxHeartbeats 4000000 in
theorem w_fJ4_offer_found_43 (C : Cx G p s m args meth c RJ4 cJ4_offer 3 (some .boolean)) {b0 : Nat} {PL : Nat → Bool} {Z : Nat} {V0 : Mem} {vP0 : Mem} {rx : Int32} {rc : Nat} {rw1 : Mem} (hPX : ∀ z, PL z = true → ¬ fX b0 z) (he0 : b0 + 357 ≤ s.heap.size) (hZz : s.heap.size = Z) (hZP : ZP G) : ∀ (v1 : Mem) (zc : Nat) (p0 : Nat) (p1 : Nat) (i2 : Int32), fJ4_offer_found_43 PL Z b0 V0 v1 zc p0 p1 i2 = some (rx, rc, rw1) → ∀ (H : Heap) (locs : List Loc) (ls : Array Slot), rg G b0 357 (shX0 G.2.1) V0 H → pl G PL v1 H → va_S (FA (fP PL vP0) s.heap.size) s.heap H locs → H.size = s.heap.size + zc → KM vP0 v1 s.heap.size → lv_has ls 3 [(0, .ref p0), (1, .ref p1), (2, .int i2)] → W p l e (rmT 5 1 90 164) s m args below meth c H locs 0 0 (MQ below (QcT (FA (fP PL vP0) s.heap.size) (fun ov H => ov = (some (.int rx)) ∧ pl G PL rw1 H ∧ H.size = s.heap.size + rc ∧ KM vP0 rw1 s.heap.size)) args s 1 90 (FA (fP PL vP0) s.heap.size)) (F0 m 43 ls []) := by
  intro v1 zc p0 p1 i2 hm H locs ls hW0 hW1 hS hz hKM hl
  obtain ⟨hx, hb, hr, hlk, hml, hown, hts, hK⟩ := id C
  unfold fJ4_offer_found_43 at hm
  refine lv_aload_n (pc := 43) hx hb dJ4_offer_43 rfl (lv_at hl 0 rfl) ?_
  refine lv_iload_n (pc := 44) hx hb dJ4_offer_44 rfl (lv_at hl 2 rfl) ?_
  refine lv_aload_n (pc := 45) hx hb dJ4_offer_45 rfl (lv_at hl 1 rfl) ?_
  obtain ⟨hg63, hm⟩ := gb_some hm
  obtain ⟨w64, hq65, hm⟩ := ob_some hm
  refine rk_TV (pc := 46) (As := [.int i2, .ref p1]) (rest := []) (mc := 0) (ms := 0) hx hb hml hown hts hK hS (fun q hq => FA_sz rfl q hq) lkJ4_100 rfl yn_J4_siftUp (ct_J4_siftUp_found (G := G) (l := l) (b0 := b0) (sz := H.size) hq65 hPX hZP) ⟨Nat.le_of_ble_eq_true rfl, Nat.le_of_ble_eq_true rfl⟩ (fun z h => (KM_hf2 hKM z h)) (rp_recv hK hW1 (C := RJ4) (T := TJ4) (N := 4) rfl (shP_17 (kd_PL hg63) (kd_k hg63))) ⟨hW0, hW1⟩ rfl rfl hl.1 (Nat.le_of_ble_eq_true rfl) dJ4_offer_46 ⟨Nat.zero_le _, Nat.zero_le _⟩ (fun ov9 H66 locs67 hP68 hkp69 hS70 => ?_)
  obtain ⟨rfl, hW71, hz72, hKM73⟩ := hP68
  have hW74 := rg_keepX hW0 hkp69 (by intro z h0 h3; have h1 := h0.1.1; have h2 := h0.1.2; have h4 := h0.2; exact hPX _ h3.1 h0)
  have hz75 := hz72.trans hz
  have hKM76 := KM.trans hKM hKM73 (by omega)
  refine W.eq (g2 := F0 m 49 ls []) rfl ?_
  refine lv_aload_n (pc := 49) hx hb dJ4_offer_49 rfl (lv_at hl 0 rfl) ?_
  refine lv_iload_n (pc := 50) hx hb dJ4_offer_50 rfl (lv_at hl 2 rfl) ?_
  refine lv_iconst (pc := 51) (v := (1 : Int32)) hx hb dJ4_offer_51 (by decide) ?_
  refine lv_iadd (pc := 52) hx hb dJ4_offer_52 ?_
  obtain ⟨hg77, hm⟩ := gb_some hm
  refine rp_put (pc := 53) (q := p0) hx hb hts hown hK hW71 hS70 flJ4_58 ft_J4 (kd_A hKM76 hg77 (by decide)) (shP_17 (kd_PL hg77) (kd_k hg77)) rfl (x := .int (i2 + (1 : Int32))) rfl rfl (Nat.le_of_ble_eq_true rfl) (sI w64 p0 1 (i2 + (1 : Int32))) sI_ne (by rw [sI_eq]; exact shP_17 (kd_PL hg77) (kd_k hg77)) dJ4_offer_53 (fun H79 locs80 hW81 hS82 hz83 hkp84 => ?_)
  have hKM85 := KM.sI (o := p0) (j := 1) (x := (i2 + (1 : Int32))) hKM76 (by decide)
  obtain ⟨v1_78, he9, hm⟩ := lm_some hm
  rw [he9] at hW81 hKM85
  have hW86 := rg_keepqX hW74 hkp84 (hPX _ (kd_PL hg77))
  have hz87 := hz83.trans hz75
  refine lv_iconst (pc := 56) (v := (1 : Int32)) hx hb dJ4_offer_56 (by decide) ?_
  obtain ⟨e7, e8, e9⟩ := rs3 hm
  subst e7
  subst e8
  subst e9
  exact rk_zretA (pc := 57) hx hb hr hlk rfl hS82 ⟨rfl, hW81, hz87, hKM85⟩ dJ4_offer_57 (by exact Nat.le_of_ble_eq_true rfl) (by exact Nat.le_of_ble_eq_true rfl)
set_option maxHeartbeats 4000000 in
theorem w_fJ4_offer_found_43b (C : Cx G p s m args meth c RJ4 cJ4_offer 3 (some .boolean)) {b0 : Nat} {PL : Nat → Bool} {Z : Nat} {V0 : Mem} {vP0 : Mem} {rx : Int32} {rc : Nat} {rw1 : Mem} (hPX : ∀ z, PL z = true → ¬ fX b0 z) (he0 : b0 + 357 ≤ s.heap.size) (hZz : s.heap.size = Z) (hZP : ZP G) : ∀ (v1 : Mem) (zc : Nat) (p0 : Nat) (p1 : Nat) (i2 : Int32), fJ4_offer_found_43b PL Z b0 V0 v1 zc p0 p1 i2 = some (rx, rc, rw1) → ∀ (H : Heap) (locs : List Loc) (ls : Array Slot), rg G b0 357 (shX0 G.2.1) V0 H → pl G PL v1 H → va_S (FA (fP PL vP0) s.heap.size) s.heap H locs → H.size = s.heap.size + zc → KM vP0 v1 s.heap.size → lv_has ls 3 [(0, .ref p0), (1, .ref p1), (2, .int i2)] → W p l e (rmT 5 1 90 164) s m args below meth c H locs 1 90 (MQ below (QcT (FA (fP PL vP0) s.heap.size) (fun ov H => ov = (some (.int rx)) ∧ pl G PL rw1 H ∧ H.size = s.heap.size + rc ∧ KM vP0 rw1 s.heap.size)) args s 1 90 (FA (fP PL vP0) s.heap.size)) (F0 m 43 ls []) := by
  intro v1 zc p0 p1 i2 hm H locs ls hW0 hW1 hS hz hKM hl
  obtain ⟨hx, hb, hr, hlk, hml, hown, hts, hK⟩ := id C
  unfold fJ4_offer_found_43b at hm
  refine lv_aload_n (pc := 43) hx hb dJ4_offer_43 rfl (lv_at hl 0 rfl) ?_
  refine lv_iload_n (pc := 44) hx hb dJ4_offer_44 rfl (lv_at hl 2 rfl) ?_
  refine lv_aload_n (pc := 45) hx hb dJ4_offer_45 rfl (lv_at hl 1 rfl) ?_
  obtain ⟨hg38, hm⟩ := gb_some hm
  obtain ⟨w39, hq40, hm⟩ := ob_some hm
  refine rk_TV (pc := 46) (As := [.int i2, .ref p1]) (rest := []) (mc := 0) (ms := 0) hx hb hml hown hts hK hS (fun q hq => FA_sz rfl q hq) lkJ4_100 rfl yn_J4_siftUp (ct_J4_siftUp_found (G := G) (l := l) (b0 := b0) (sz := H.size) hq40 hPX hZP) ⟨Nat.le_of_ble_eq_true rfl, Nat.le_of_ble_eq_true rfl⟩ (fun z h => (KM_hf2 hKM z h)) (rp_recv hK hW1 (C := RJ4) (T := TJ4) (N := 4) rfl (shP_17 (kd_PL hg38) (kd_k hg38))) ⟨hW0, hW1⟩ rfl rfl hl.1 (Nat.le_of_ble_eq_true rfl) dJ4_offer_46 ⟨Nat.le_of_ble_eq_true rfl, Nat.le_of_ble_eq_true rfl⟩ (fun ov9 H41 locs42 hP43 hkp44 hS45 => ?_)
  obtain ⟨rfl, hW46, hz47, hKM48⟩ := hP43
  have hW49 := rg_keepX hW0 hkp44 (by intro z h0 h3; have h1 := h0.1.1; have h2 := h0.1.2; have h4 := h0.2; exact hPX _ h3.1 h0)
  have hz50 := hz47.trans hz
  have hKM51 := KM.trans hKM hKM48 (by omega)
  refine W.eq (g2 := F0 m 49 ls []) rfl ?_
  refine lv_aload_n (pc := 49) hx hb dJ4_offer_49 rfl (lv_at hl 0 rfl) ?_
  refine lv_iload_n (pc := 50) hx hb dJ4_offer_50 rfl (lv_at hl 2 rfl) ?_
  refine lv_iconst (pc := 51) (v := (1 : Int32)) hx hb dJ4_offer_51 (by decide) ?_
  refine lv_iadd (pc := 52) hx hb dJ4_offer_52 ?_
  obtain ⟨hg52, hm⟩ := gb_some hm
  refine rp_put (pc := 53) (q := p0) hx hb hts hown hK hW46 hS45 flJ4_58 ft_J4 (kd_A hKM51 hg52 (by decide)) (shP_17 (kd_PL hg52) (kd_k hg52)) rfl (x := .int (i2 + (1 : Int32))) rfl rfl (Nat.le_of_ble_eq_true rfl) (sI w39 p0 1 (i2 + (1 : Int32))) sI_ne (by rw [sI_eq]; exact shP_17 (kd_PL hg52) (kd_k hg52)) dJ4_offer_53 (fun H54 locs55 hW56 hS57 hz58 hkp59 => ?_)
  have hKM60 := KM.sI (o := p0) (j := 1) (x := (i2 + (1 : Int32))) hKM51 (by decide)
  obtain ⟨v1_53, he9, hm⟩ := lm_some hm
  rw [he9] at hW56 hKM60
  have hW61 := rg_keepqX hW49 hkp59 (hPX _ (kd_PL hg52))
  have hz62 := hz58.trans hz50
  refine lv_iconst (pc := 56) (v := (1 : Int32)) hx hb dJ4_offer_56 (by decide) ?_
  obtain ⟨e7, e8, e9⟩ := rs3 hm
  subst e7
  subst e8
  subst e9
  exact rk_zretA (pc := 57) hx hb hr hlk rfl hS57 ⟨rfl, hW56, hz62, hKM60⟩ dJ4_offer_57 (by exact Nat.le_of_ble_eq_true rfl) (by exact Nat.le_of_ble_eq_true rfl)
set_option maxHeartbeats 4000000 in
theorem w_fJ4_offer_found (C : Cx G p s m args meth c RJ4 cJ4_offer 3 (some .boolean)) {b0 : Nat} {PL : Nat → Bool} {Z : Nat} {V0 : Mem} {vP0 : Mem} {rx : Int32} {rc : Nat} {rw1 : Mem} (hPX : ∀ z, PL z = true → ¬ fX b0 z) (he0 : b0 + 357 ≤ s.heap.size) (hZz : s.heap.size = Z) (hZP : ZP G) : ∀ (v1 : Mem) (p0 : Nat) (p1 : Nat), fJ4_offer_found PL Z b0 V0 v1 p0 p1 = some (rx, rc, rw1) → ∀ (H : Heap) (locs : List Loc) (ls : Array Slot), rg G b0 357 (shX0 G.2.1) V0 H → pl G PL v1 H → va_S (FA (fP PL vP0) s.heap.size) s.heap H locs → H.size = s.heap.size + 0 → KM vP0 v1 s.heap.size → lv_has ls 3 [(0, .ref p0), (1, .ref p1)] → W p l e (rmT 5 1 90 164) s m args below meth c H locs 0 0 (MQ below (QcT (FA (fP PL vP0) s.heap.size) (fun ov H => ov = (some (.int rx)) ∧ pl G PL rw1 H ∧ H.size = s.heap.size + rc ∧ KM vP0 rw1 s.heap.size)) args s 1 90 (FA (fP PL vP0) s.heap.size)) (F0 m 0 ls []) := by
  intro v1 p0 p1 hm H locs ls hW0 hW1 hS hz hKM hl
  obtain ⟨hx, hb, hr, hlk, hml, hown, hts, hK⟩ := id C
  unfold fJ4_offer_found at hm
  refine lv_aload_n (pc := 0) hx hb dJ4_offer_0 rfl (lv_at hl 1 rfl) ?_
  refine lv_ifnonnull (pc := 1) (tgt := 12) hx hb dJ4_offer_1 (by decide) ?_
  refine lv_aload_n (pc := 12) hx hb dJ4_offer_12 rfl (lv_at hl 0 rfl) ?_
  refine lv_dup (pc := 13) hx hb dJ4_offer_13 rfl ?_
  obtain ⟨hg1, hm⟩ := gb_some hm
  refine rk_get (pc := 14) hx hb hts hown hK (pl_rg hW1) flJ4_93 p0 (Nat.lt_succ_self _) (Nat.zero_add _).symm (shP_17 (kd_PL hg1) (kd_k hg1)) (x := .int (gI v1 p0 3)) rfl dJ4_offer_14 ?_
  refine lv_iconst (pc := 17) (v := (1 : Int32)) hx hb dJ4_offer_17 (by decide) ?_
  refine lv_iadd (pc := 18) hx hb dJ4_offer_18 ?_
  obtain ⟨hg2, hm⟩ := gb_some hm
  refine rp_put (pc := 19) (q := p0) hx hb hts hown hK hW1 hS flJ4_93 ft_J4 (kd_A hKM hg2 (by decide)) (shP_17 (kd_PL hg2) (kd_k hg2)) rfl (x := .int ((gI v1 p0 3) + (1 : Int32))) rfl rfl (Nat.le_of_ble_eq_true rfl) (sI v1 p0 3 ((gI v1 p0 3) + (1 : Int32))) sI_ne (by rw [sI_eq]; exact shP_17 (kd_PL hg2) (kd_k hg2)) dJ4_offer_19 (fun H4 locs5 hW6 hS7 hz8 hkp9 => ?_)
  have hKM10 := KM.sI (o := p0) (j := 3) (x := ((gI v1 p0 3) + (1 : Int32))) hKM (by decide)
  obtain ⟨v1_3, he9, hm⟩ := lm_some hm
  rw [he9] at hW6 hKM10
  have hW11 := rg_keepqX hW0 hkp9 (hPX _ (kd_PL hg2))
  have hz12 := hz8.trans hz
  refine lv_aload_n (pc := 22) hx hb dJ4_offer_22 rfl (lv_at hl 0 rfl) ?_
  obtain ⟨hg13, hm⟩ := gb_some hm
  refine rk_get (pc := 23) hx hb hts hown hK (pl_rg hW6) flJ4_58 p0 (Nat.lt_succ_self _) (Nat.zero_add _).symm (shP_17 (kd_PL hg13) (kd_k hg13)) (x := .int (gI v1_3 p0 1)) rfl dJ4_offer_23 ?_
  refine lv_istore_n (pc := 26) (lv' := [(2, .int (gI v1_3 p0 1)), (0, .ref p0), (1, .ref p1)]) hx hb dJ4_offer_26 rfl hl (by decide) rfl (fun ls hl => ?_)
  refine lv_iload_n (pc := 27) hx hb dJ4_offer_27 rfl (lv_at hl 0 rfl) ?_
  refine lv_aload_n (pc := 28) hx hb dJ4_offer_28 rfl (lv_at hl 1 rfl) ?_
  obtain ⟨hg14, hm⟩ := gb_some hm
  obtain ⟨oa15, he16, hm⟩ := lo_some hm
  refine rk_get (pc := 29) hx hb hts hown hK (pl_rg hW6) flJ4_17 p0 (Nat.lt_succ_self _) (Nat.zero_add _).symm (shP_17 (kd_PL hg14) (kd_k hg14)) (x := va_rf oa15) (congrArg (fun z => some (va_rf z)) he16) dJ4_offer_29 ?_
  obtain ⟨pa17, he18, hm19⟩ := ob_some hm
  subst he18
  have hm := hm19
  obtain ⟨hg20, hm⟩ := gb_some hm
  refine rp_alen (pc := 32) hx hb hK hW6 hg20 dJ4_offer_32 ?_
  refine lv_icmp_lt (pc := 33) (tgt := 43) hx hb dJ4_offer_33 (by decide) (fun c21 => ?_) (fun c21 => ?_)
  · have hm := ite_t c21 hm
    exact (w_fJ4_offer_found_43 C hPX he0 hZz hZP) v1_3 0 p0 p1 (gI v1_3 p0 1) hm H4 locs5 ls hW11 hW6 hS7 hz12 hKM10 (lv_sub hl [1, 2, 0] rfl)
  · have hm := ite_f c21 hm
    refine lv_aload_n (pc := 36) hx hb dJ4_offer_36 rfl (lv_at hl 1 rfl) ?_
    refine lv_iload_n (pc := 37) hx hb dJ4_offer_37 rfl (lv_at hl 0 rfl) ?_
    refine lv_iconst (pc := 38) (v := (1 : Int32)) hx hb dJ4_offer_38 (by decide) ?_
    refine lv_iadd (pc := 39) hx hb dJ4_offer_39 ?_
    obtain ⟨hg22, hm⟩ := gb_some hm
    obtain ⟨rc23, w24, hq25, hm⟩ := ob2_some hm
    have hq26 := hq25
    rw [show (Z + 0) = H4.size by omega] at hq26
    refine rk_TV (pc := 40) (As := [.int ((gI v1_3 p0 1) + (1 : Int32))]) (rest := []) (mc := 1) (ms := 90) hx hb hml hown hts hK hS7 (fun q hq => FA_sz rfl q hq) lkJ4_96 rfl yn_J4_grow (ct_J4_grow_found (G := G) (l := l) (b0 := b0) hq26 hPX hZP) ⟨Nat.le_of_ble_eq_true rfl, Nat.le_of_ble_eq_true rfl⟩ (fun z h => (KM_hf2 hKM10 z h)) (rp_recv hK hW6 (C := RJ4) (T := TJ4) (N := 4) rfl (shP_17 (kd_PL hg22) (kd_k hg22))) ⟨hW11, hW6⟩ rfl rfl hl.1 (Nat.le_of_ble_eq_true rfl) dJ4_offer_40 ⟨Nat.le_of_ble_eq_true rfl, Nat.le_of_ble_eq_true rfl⟩ (fun ov9 H27 locs28 hP29 hkp30 hS31 => ?_)
    obtain ⟨rfl, hW32, hz33, hKM34⟩ := hP29
    have hW35 := rg_keepX hW11 hkp30 (by intro z h0 h3; have h1 := h0.1.1; have h2 := h0.1.2; have h4 := h0.2; exact hPX _ h3.1 h0)
    have hz36 : H27.size = s.heap.size + rc23 := by omega
    have hKM37 := KM.trans hKM10 hKM34 (by omega)
    refine W.eq (g2 := F0 m 43 ls []) rfl ?_
    exact (w_fJ4_offer_found_43b C hPX he0 hZz hZP) w24 rc23 p0 p1 (gI v1_3 p0 1) hm H27 locs28 ls hW35 hW32 hS31 hz36 hKM37 (lv_sub hl [1, 2, 0] rfl)
set_option maxHeartbeats 4000000 in
theorem ct_J4_offer_found {G : Gv} {l : Launch} {b0 : Nat} {PL : Nat → Bool} {Z : Nat} {V0 : Mem} {v1 : Mem} {p0 : Nat} {p1 : Nat} {rx : Int32} {rc : Nat} {rw1 : Mem} (hm : fJ4_offer_found PL Z b0 V0 v1 p0 p1 = some (rx, rc, rw1)) (hPX : ∀ z, PL z = true → ¬ fX b0 z) (hZP : ZP G) : CT G l yJ4_offer (ws_ yJ4_offer cJ4_offer 3 (some .boolean)) 5 1 90 164 [.ref p0, .ref p1] (fP PL v1) Z (fun H => rg G b0 357 (shX0 G.2.1) V0 H ∧ pl G PL v1 H) (fun ov H => ov = (some (.int rx)) ∧ pl G PL rw1 H ∧ H.size = Z + rc ∧ KM v1 rw1 Z) := by
  refine Met.ofW (cc := cJ4_offer) (maxL := 3) (ret := (some .boolean)) (by decide +kernel) rfl ?_
  intro p e s m args below meth c s₁ B hml hv
  obtain ⟨rfl, ⟨hz, hW0, hW1⟩, hK⟩ := hv
  subst hz
  have he0 := rg_end hW0 356 (by decide) rfl (fun _ _ _ => rfl)
  have hZz : s.heap.size = s.heap.size := rfl
  have hts := atoms_spec (ws := ws_ yJ4_offer cJ4_offer 3 (some .boolean)) B.pre
  have hts : ∀ w ∈ lw_all, w.before _ s = true := fun w h => hts w (List.mem_cons_of_mem _ h)
  have C : Cx G p s m _ meth c RJ4 cJ4_offer 3 (some .boolean) := ⟨B.exec, B.bytes, B.returns, B.notSynchronized, hml, findClass_of_methodNamed B.named, hts, hK⟩
  have hl := lv_entry ([.ref p0, .ref p1]) (n := 3) (Nat.le_of_ble_eq_true rfl)
  rw [lg_entry_eq]
  generalize (lg_sl ([.ref p0, .ref p1]) ++ List.replicate (3 - (lg_sl ([.ref p0, .ref p1])).length) Slot.unset).toArray = ls at hl ⊢
  have hl : lv_has ls 3 [(0, .ref p0), (1, .ref p1)] := hl
  exact w_fJ4_offer_found C hPX he0 hZz hZP _ _ _ hm s.heap [] ls hW0 hW1 va_S.rf rfl KM.rf hl
noncomputable def fJ4_add_found (PL : Nat → Bool) (Z : Nat) (b0 : Nat) (V0 : Mem) (v1 : Mem) (p0 : Nat) (p1 : Nat) : Option (Int32 × Nat × Mem) :=
  gb (kd PL v1 p0 17) (
  ob3 (fJ4_offer_found PL (Z + 0) b0 V0 v1 p0 p1) fun r2 rc3 w4 =>
  gb (z01 r2) (some (r2, rc3, w4)))
set_option maxHeartbeats 4000000 in
theorem w_fJ4_add_found (C : Cx G p s m args meth c RJ4 cJ4_add 2 (some .boolean)) {b0 : Nat} {PL : Nat → Bool} {Z : Nat} {V0 : Mem} {vP0 : Mem} {rx : Int32} {rc : Nat} {rw1 : Mem} (hPX : ∀ z, PL z = true → ¬ fX b0 z) (he0 : b0 + 357 ≤ s.heap.size) (hZz : s.heap.size = Z) (hZP : ZP G) : ∀ (v1 : Mem) (p0 : Nat) (p1 : Nat), fJ4_add_found PL Z b0 V0 v1 p0 p1 = some (rx, rc, rw1) → ∀ (H : Heap) (locs : List Loc) (ls : Array Slot), rg G b0 357 (shX0 G.2.1) V0 H → pl G PL v1 H → va_S (FA (fP PL vP0) s.heap.size) s.heap H locs → H.size = s.heap.size + 0 → KM vP0 v1 s.heap.size → lv_has ls 2 [(0, .ref p0), (1, .ref p1)] → W p l e (rmT 6 1 90 186) s m args below meth c H locs 0 0 (MQ below (QcT (FA (fP PL vP0) s.heap.size) (fun ov H => ov = (some (.int rx)) ∧ pl G PL rw1 H ∧ H.size = s.heap.size + rc ∧ KM vP0 rw1 s.heap.size)) args s 1 90 (FA (fP PL vP0) s.heap.size)) (F0 m 0 ls []) := by
  intro v1 p0 p1 hm H locs ls hW0 hW1 hS hz hKM hl
  obtain ⟨hx, hb, hr, hlk, hml, hown, hts, hK⟩ := id C
  unfold fJ4_add_found at hm
  refine lv_aload_n (pc := 0) hx hb dJ4_add_0 rfl (lv_at hl 0 rfl) ?_
  refine lv_aload_n (pc := 1) hx hb dJ4_add_1 rfl (lv_at hl 1 rfl) ?_
  obtain ⟨hg1, hm⟩ := gb_some hm
  obtain ⟨r2, rc3, w4, hq5, hm⟩ := ob3_some hm
  have hq6 := hq5
  rw [show (Z + 0) = H.size by omega] at hq6
  refine rk_TV (pc := 2) (As := [.ref p1]) (rest := []) (mc := 1) (ms := 90) hx hb hml hown hts hK hS (fun q hq => FA_sz rfl q hq) lkJ4_89 rfl yn_J4_offer (ct_J4_offer_found (G := G) (l := l) (b0 := b0) hq6 hPX hZP) ⟨Nat.le_of_ble_eq_true rfl, Nat.le_of_ble_eq_true rfl⟩ (fun z h => (KM_hf2 hKM z h)) (rp_recv hK hW1 (C := RJ4) (T := TJ4) (N := 4) rfl (shP_17 (kd_PL hg1) (kd_k hg1))) ⟨hW0, hW1⟩ rfl rfl hl.1 (Nat.le_of_ble_eq_true rfl) dJ4_add_2 ⟨Nat.le_of_ble_eq_true rfl, Nat.le_of_ble_eq_true rfl⟩ (fun ov9 H7 locs8 hP9 hkp10 hS11 => ?_)
  obtain ⟨rfl, hW12, hz13, hKM14⟩ := hP9
  have hW15 := rg_keepX hW0 hkp10 (by intro z h0 h3; have h1 := h0.1.1; have h2 := h0.1.2; have h4 := h0.2; exact hPX _ h3.1 h0)
  have hz16 : H7.size = s.heap.size + rc3 := by omega
  have hKM17 := KM.trans hKM hKM14 (by omega)
  refine W.eq (g2 := F0 m 5 ls [.int r2]) rfl ?_
  obtain ⟨hg18, hm⟩ := gb_some hm
  obtain ⟨e7, e8, e9⟩ := rs3 hm
  subst e7
  subst e8
  subst e9
  exact rk_zretA (pc := 5) hx hb hr hlk hg18 hS11 ⟨rfl, hW12, hz16, hKM17⟩ dJ4_add_5 (by exact Nat.le_of_ble_eq_true rfl) (by exact Nat.le_of_ble_eq_true rfl)
set_option maxHeartbeats 4000000 in
theorem ct_J4_add_found {G : Gv} {l : Launch} {b0 : Nat} {PL : Nat → Bool} {Z : Nat} {V0 : Mem} {v1 : Mem} {p0 : Nat} {p1 : Nat} {rx : Int32} {rc : Nat} {rw1 : Mem} (hm : fJ4_add_found PL Z b0 V0 v1 p0 p1 = some (rx, rc, rw1)) (hPX : ∀ z, PL z = true → ¬ fX b0 z) (hZP : ZP G) : CT G l yJ4_add (ws_ yJ4_add cJ4_add 2 (some .boolean)) 6 1 90 186 [.ref p0, .ref p1] (fP PL v1) Z (fun H => rg G b0 357 (shX0 G.2.1) V0 H ∧ pl G PL v1 H) (fun ov H => ov = (some (.int rx)) ∧ pl G PL rw1 H ∧ H.size = Z + rc ∧ KM v1 rw1 Z) := by
  refine Met.ofW (cc := cJ4_add) (maxL := 2) (ret := (some .boolean)) (by decide +kernel) rfl ?_
  intro p e s m args below meth c s₁ B hml hv
  obtain ⟨rfl, ⟨hz, hW0, hW1⟩, hK⟩ := hv
  subst hz
  have he0 := rg_end hW0 356 (by decide) rfl (fun _ _ _ => rfl)
  have hZz : s.heap.size = s.heap.size := rfl
  have hts := atoms_spec (ws := ws_ yJ4_add cJ4_add 2 (some .boolean)) B.pre
  have hts : ∀ w ∈ lw_all, w.before _ s = true := fun w h => hts w (List.mem_cons_of_mem _ h)
  have C : Cx G p s m _ meth c RJ4 cJ4_add 2 (some .boolean) := ⟨B.exec, B.bytes, B.returns, B.notSynchronized, hml, findClass_of_methodNamed B.named, hts, hK⟩
  have hl := lv_entry ([.ref p0, .ref p1]) (n := 2) (Nat.le_of_ble_eq_true rfl)
  rw [lg_entry_eq]
  generalize (lg_sl ([.ref p0, .ref p1]) ++ List.replicate (2 - (lg_sl ([.ref p0, .ref p1])).length) Slot.unset).toArray = ls at hl ⊢
  have hl : lv_has ls 2 [(0, .ref p0), (1, .ref p1)] := hl
  exact w_fJ4_add_found C hPX he0 hZz hZP _ _ _ hm s.heap [] ls hW0 hW1 va_S.rf rfl KM.rf hl
noncomputable def fJ4_siftUpUsingComparator_foundfit_0 (PL : Nat → Bool) (b0 : Nat) (V0 : Mem) (k0 : Mem → Int32 → Nat → Nat → Nat → Option (Mem)) (v1 : Mem) (i0 : Int32) (p1 : Nat) (p2 : Nat) (p3 : Nat) : Option (Mem) :=
  if i0 ≤ 0 then (
  ob (fi b0 177 1 20 p1) fun nf2 =>
  gb (ka PL v1 p2 44) (
  gb (inR i0 (gI v1 p2 98).toNatClampNeg) (
  lm (sR v1 p2 i0.toNatClampNeg (some (b0 + (177 + 1 * nf2 + 0)))) fun v1_9 =>
  some v1_9)))
  else (
  gb (ka PL v1 p2 44) (
  gb (inR ((i0 - (1 : Int32)).toUInt32 >>> ((1 : Int32).toUInt32 &&& Int32.toUInt32 31)).toInt32 (gI v1 p2 98).toNatClampNeg) (
  lo (gR v1 p2 ((i0 - (1 : Int32)).toUInt32 >>> ((1 : Int32).toUInt32 &&& Int32.toUInt32 31)).toInt32.toNatClampNeg) fun oa21 =>
  ob oa21 fun pa23 =>
  ob (fi b0 177 1 20 pa23) fun nf26 =>
  ob (fi b0 177 1 20 p1) fun nf31 =>
  gb (kd PL v1 p3 5) (
  ob (fX5_compare PL b0 V0 v1 nf31 nf26 p3) fun r37 =>
  if r37 < 0 then (
  gb (ka PL v1 p2 44) (
  gb (inR i0 (gI v1 p2 98).toNatClampNeg) (
  lm (sR v1 p2 i0.toNatClampNeg (some (b0 + (177 + 1 * nf26 + 0)))) fun v1_42 =>
  k0 v1_42 ((i0 - (1 : Int32)).toUInt32 >>> ((1 : Int32).toUInt32 &&& Int32.toUInt32 31)).toInt32 (b0 + (177 + 1 * nf31 + 0)) p2 p3)))
  else (
  gb (ka PL v1 p2 44) (
  gb (inR i0 (gI v1 p2 98).toNatClampNeg) (
  lm (sR v1 p2 i0.toNatClampNeg (some (b0 + (177 + 1 * nf31 + 0)))) fun v1_54 =>
  some v1_54)))))))
noncomputable def fJ4_siftUpUsingComparator_foundfit (PL : Nat → Bool) (b0 : Nat) (V0 : Mem) (v1 : Mem) (i0 : Int32) (p1 : Nat) (p2 : Nat) (p3 : Nat) : Option (Mem) :=
  lq5 (fJ4_siftUpUsingComparator_foundfit_0 PL b0 V0) FU v1 i0 p1 p2 p3
set_option maxHeartbeats 4000000 in
theorem w_fJ4_siftUpUsingComparator_foundfit_0 (C : Cx G p s m args meth c RJ4 cJ4_siftUpUsingComparator 6 none) {b0 : Nat} {PL : Nat → Bool} {V0 : Mem} {vP0 : Mem} {rw1 : Mem} (hPX : ∀ z, PL z = true → ¬ fX b0 z) (hZP : ZP G) {k0 : Mem → Int32 → Nat → Nat → Nat → Option (Mem)} (hk0 : ∀ (v1 : Mem) (i0 : Int32) (p1 : Nat) (p2 : Nat) (p3 : Nat), k0 v1 i0 p1 p2 p3 = some rw1 → ∀ (H : Heap) (locs : List Loc) (ls : Array Slot), rg G b0 357 (shX0 G.2.1) V0 H → pl G PL v1 H → va_S (FA (fP PL vP0) s.heap.size) s.heap H locs → H.size = s.heap.size → KM vP0 v1 s.heap.size → lv_has ls 6 [(0, .int i0), (1, .ref p1), (2, .ref p2), (3, .ref p3)] → W p l e (rmT 3 0 0 66) s m args below meth c H locs 0 0 (MQ below (QcT (FA (fP PL vP0) s.heap.size) (fun ov H => ov = none ∧ pl G PL rw1 H ∧ H.size = s.heap.size ∧ KM vP0 rw1 s.heap.size)) args s 0 0 (FA (fP PL vP0) s.heap.size)) (F0 m 0 ls [])) : ∀ (v1 : Mem) (i0 : Int32) (p1 : Nat) (p2 : Nat) (p3 : Nat), fJ4_siftUpUsingComparator_foundfit_0 PL b0 V0 k0 v1 i0 p1 p2 p3 = some rw1 → ∀ (H : Heap) (locs : List Loc) (ls : Array Slot), rg G b0 357 (shX0 G.2.1) V0 H → pl G PL v1 H → va_S (FA (fP PL vP0) s.heap.size) s.heap H locs → H.size = s.heap.size → KM vP0 v1 s.heap.size → lv_has ls 6 [(0, .int i0), (1, .ref p1), (2, .ref p2), (3, .ref p3)] → W p l e (rmT 3 0 0 66) s m args below meth c H locs 0 0 (MQ below (QcT (FA (fP PL vP0) s.heap.size) (fun ov H => ov = none ∧ pl G PL rw1 H ∧ H.size = s.heap.size ∧ KM vP0 rw1 s.heap.size)) args s 0 0 (FA (fP PL vP0) s.heap.size)) (F0 m 0 ls []) := by
  intro v1 i0 p1 p2 p3 hm H locs ls hW0 hW1 hS hz hKM hl
  obtain ⟨hx, hb, hr, hlk, hml, hown, hts, hK⟩ := id C
  unfold fJ4_siftUpUsingComparator_foundfit_0 at hm
  refine lv_iload_n (pc := 0) hx hb dJ4_siftUpUsingComparator_0 rfl (lv_at hl 0 rfl) ?_
  refine lv_if_le (pc := 1) (tgt := 43) hx hb dJ4_siftUpUsingComparator_1 (by decide) (fun c1 => ?_) (fun c1 => ?_)
  · have hm := ite_t c1 hm
    refine lv_aload_n (pc := 43) hx hb dJ4_siftUpUsingComparator_43 rfl (lv_at hl 2 rfl) ?_
    refine lv_iload_n (pc := 44) hx hb dJ4_siftUpUsingComparator_44 rfl (lv_at hl 0 rfl) ?_
    refine lv_aload_n (pc := 45) hx hb dJ4_siftUpUsingComparator_45 rfl (lv_at hl 1 rfl) ?_
    obtain ⟨nf2, hf3, hm6⟩ := ob_some hm
    obtain ⟨ha4, hlt5⟩ := fi_some hf3
    subst ha4
    have hm := hm6
    obtain ⟨hg7, hm⟩ := gb_some hm
    obtain ⟨hg8, hm⟩ := gb_some hm
    refine rp_aastR (pc := 46) (C := RX7) hx hb hts hK hW1 hS (kd_A hKM (ka_kd hg7) (by decide)) hg7 hg8 q2401 (rk_recv hK hW0 (177 + 1 * nf2 + 0) (by omega) rfl rfl ((shX0_f177 G.2.1 hlt5 _ rfl 0 (by decide) _ _ _).trans rfl)) dJ4_siftUpUsingComparator_46 (fun H10 locs11 hW12 hS13 hz14 hkp15 => ?_)
    have hKM16 := KM.sR (o := p2) (j := i0.toNatClampNeg) (x := (some (b0 + (177 + 1 * nf2 + 0)))) hKM
    obtain ⟨v1_9, he9, hm⟩ := lm_some hm
    rw [he9] at hW12 hKM16
    have hW17 := rg_keepqX hW0 hkp15 (hPX _ (kd_PL (ka_kd hg7)))
    have hz18 := hz14.trans hz
    have e9 := rs1 hm
    subst e9
    exact rk_vret (pc := 47) hx hb hr hlk hS13 ⟨rfl, hW12, hz18, hKM16⟩ dJ4_siftUpUsingComparator_47
  · have hm := ite_f c1 hm
    refine lv_iload_n (pc := 4) hx hb dJ4_siftUpUsingComparator_4 rfl (lv_at hl 0 rfl) ?_
    refine lv_iconst (pc := 5) (v := (1 : Int32)) hx hb dJ4_siftUpUsingComparator_5 (by decide) ?_
    refine lv_isub (pc := 6) hx hb dJ4_siftUpUsingComparator_6 ?_
    refine lv_iconst (pc := 7) (v := (1 : Int32)) hx hb dJ4_siftUpUsingComparator_7 (by decide) ?_
    refine lv_iushr (pc := 8) hx hb dJ4_siftUpUsingComparator_8 rfl ?_
    refine lv_istore (pc := 9) (lv' := [(4, .int ((i0 - (1 : Int32)).toUInt32 >>> ((1 : Int32).toUInt32 &&& Int32.toUInt32 31)).toInt32), (0, .int i0), (1, .ref p1), (2, .ref p2), (3, .ref p3)]) hx hb dJ4_siftUpUsingComparator_9 hl (by decide) rfl (fun ls hl => ?_)
    refine lv_aload_n (pc := 11) hx hb dJ4_siftUpUsingComparator_11 rfl (lv_at hl 3 rfl) ?_
    refine lv_iload (pc := 12) hx hb dJ4_siftUpUsingComparator_12 (lv_at hl 0 rfl) ?_
    obtain ⟨hg19, hm⟩ := gb_some hm
    obtain ⟨hg20, hm⟩ := gb_some hm
    obtain ⟨oa21, he22, hm⟩ := lo_some hm
    refine rp_aald (pc := 14) hx hb hK hW1 hg19 hg20 he22 dJ4_siftUpUsingComparator_14 ?_
    refine lv_astoreO (pc := 15) (lv' := [(5, va_rf oa21), (4, .int ((i0 - (1 : Int32)).toUInt32 >>> ((1 : Int32).toUInt32 &&& Int32.toUInt32 31)).toInt32), (0, .int i0), (1, .ref p1), (2, .ref p2), (3, .ref p3)]) hx hb dJ4_siftUpUsingComparator_15 hl (by decide) rfl (fun ls hl => ?_)
    refine lv_aload_n (pc := 17) hx hb dJ4_siftUpUsingComparator_17 rfl (lv_at hl 5 rfl) ?_
    refine lv_aload_n (pc := 18) hx hb dJ4_siftUpUsingComparator_18 rfl (lv_at hl 3 rfl) ?_
    refine lv_aloadO (pc := 19) hx hb dJ4_siftUpUsingComparator_19 (lv_at hl 0 rfl) ?_
    obtain ⟨pa23, he24, hm25⟩ := ob_some hm
    subst he24
    have hm := hm25
    obtain ⟨nf26, hf27, hm30⟩ := ob_some hm
    obtain ⟨ha28, hlt29⟩ := fi_some hf27
    subst ha28
    have hm := hm30
    obtain ⟨nf31, hf32, hm35⟩ := ob_some hm
    obtain ⟨ha33, hlt34⟩ := fi_some hf32
    subst ha33
    have hm := hm35
    obtain ⟨hg36, hm⟩ := gb_some hm
    obtain ⟨r37, hq38, hm⟩ := ob_some hm
    refine rp_PF (pc := 21) (As := [.ref (b0 + (177 + 1 * nf31 + 0)), .ref (b0 + (177 + 1 * nf26 + 0))]) (rest := []) hx hb hml hown hts hK lfJ4_149_X5 ((hZP s hK).1.2.2.1) (T := TX5z) (N := 0) (ci := 5) rfl ynx_J4_149 (ct_X5_compare (G := G) (l := l) (b0 := b0) hq38 hlt34 hlt29) ⟨Nat.le_of_ble_eq_true rfl, Nat.le_of_ble_eq_true rfl⟩ (rp_recv hK hW1 (C := RX5) (T := TX5z) (N := 0) rfl (shP_5 (kd_PL hg36) (kd_k hg36))) ⟨hW0, hW1⟩ rfl rfl hl.1 (Nat.le_of_ble_eq_true rfl) dJ4_siftUpUsingComparator_21 ⟨Nat.zero_le _, Nat.zero_le _⟩ ?_
    refine W.eq (g2 := F0 m 26 ls [.int r37]) rfl ?_
    refine lv_if_lt (pc := 26) (tgt := 32) hx hb dJ4_siftUpUsingComparator_26 (by decide) (fun c39 => ?_) (fun c39 => ?_)
    · have hm := ite_t c39 hm
      refine lv_aload_n (pc := 32) hx hb dJ4_siftUpUsingComparator_32 rfl (lv_at hl 4 rfl) ?_
      refine lv_iload_n (pc := 33) hx hb dJ4_siftUpUsingComparator_33 rfl (lv_at hl 2 rfl) ?_
      refine lv_aload (pc := 34) hx hb dJ4_siftUpUsingComparator_34 (lv_at hl 0 rfl) ?_
      obtain ⟨hg40, hm⟩ := gb_some hm
      obtain ⟨hg41, hm⟩ := gb_some hm
      refine rp_aastR (pc := 36) (C := RX7) hx hb hts hK hW1 hS (kd_A hKM (ka_kd hg40) (by decide)) hg40 hg41 q2401 (rk_recv hK hW0 (177 + 1 * nf26 + 0) (by omega) rfl rfl ((shX0_f177 G.2.1 hlt29 _ rfl 0 (by decide) _ _ _).trans rfl)) dJ4_siftUpUsingComparator_36 (fun H43 locs44 hW45 hS46 hz47 hkp48 => ?_)
      have hKM49 := KM.sR (o := p2) (j := i0.toNatClampNeg) (x := (some (b0 + (177 + 1 * nf26 + 0)))) hKM
      obtain ⟨v1_42, he9, hm⟩ := lm_some hm
      rw [he9] at hW45 hKM49
      have hW50 := rg_keepqX hW0 hkp48 (hPX _ (kd_PL (ka_kd hg40)))
      have hz51 := hz47.trans hz
      refine lv_iload (pc := 37) hx hb dJ4_siftUpUsingComparator_37 (lv_at hl 1 rfl) ?_
      refine lv_istore_n (pc := 39) (lv' := [(0, .int ((i0 - (1 : Int32)).toUInt32 >>> ((1 : Int32).toUInt32 &&& Int32.toUInt32 31)).toInt32), (5, .ref (b0 + (177 + 1 * nf26 + 0))), (4, .int ((i0 - (1 : Int32)).toUInt32 >>> ((1 : Int32).toUInt32 &&& Int32.toUInt32 31)).toInt32), (1, .ref (b0 + (177 + 1 * nf31 + 0))), (2, .ref p2), (3, .ref p3)]) hx hb dJ4_siftUpUsingComparator_39 rfl hl (by decide) rfl (fun ls hl => ?_)
      refine lv_goto (pc := 40) (tgt := 0) hx hb dJ4_siftUpUsingComparator_40 (by decide) ?_
      exact hk0 v1_42 ((i0 - (1 : Int32)).toUInt32 >>> ((1 : Int32).toUInt32 &&& Int32.toUInt32 31)).toInt32 (b0 + (177 + 1 * nf31 + 0)) p2 p3 hm H43 locs44 ls hW50 hW45 hS46 hz51 hKM49 (lv_sub hl [0, 3, 4, 5] rfl)
    · have hm := ite_f c39 hm
      refine lv_goto (pc := 29) (tgt := 43) hx hb dJ4_siftUpUsingComparator_29 (by decide) ?_
      refine lv_aload_n (pc := 43) hx hb dJ4_siftUpUsingComparator_43 rfl (lv_at hl 4 rfl) ?_
      refine lv_iload_n (pc := 44) hx hb dJ4_siftUpUsingComparator_44 rfl (lv_at hl 2 rfl) ?_
      refine lv_aload_n (pc := 45) hx hb dJ4_siftUpUsingComparator_45 rfl (lv_at hl 3 rfl) ?_
      obtain ⟨hg52, hm⟩ := gb_some hm
      obtain ⟨hg53, hm⟩ := gb_some hm
      refine rp_aastR (pc := 46) (C := RX7) hx hb hts hK hW1 hS (kd_A hKM (ka_kd hg52) (by decide)) hg52 hg53 q2401 (rk_recv hK hW0 (177 + 1 * nf31 + 0) (by omega) rfl rfl ((shX0_f177 G.2.1 hlt34 _ rfl 0 (by decide) _ _ _).trans rfl)) dJ4_siftUpUsingComparator_46 (fun H55 locs56 hW57 hS58 hz59 hkp60 => ?_)
      have hKM61 := KM.sR (o := p2) (j := i0.toNatClampNeg) (x := (some (b0 + (177 + 1 * nf31 + 0)))) hKM
      obtain ⟨v1_54, he9, hm⟩ := lm_some hm
      rw [he9] at hW57 hKM61
      have hW62 := rg_keepqX hW0 hkp60 (hPX _ (kd_PL (ka_kd hg52)))
      have hz63 := hz59.trans hz
      have e9 := rs1 hm
      subst e9
      exact rk_vret (pc := 47) hx hb hr hlk hS58 ⟨rfl, hW57, hz63, hKM61⟩ dJ4_siftUpUsingComparator_47
theorem w_fJ4_siftUpUsingComparator_foundfit_0_l (C : Cx G p s m args meth c RJ4 cJ4_siftUpUsingComparator 6 none) {b0 : Nat} {PL : Nat → Bool} {V0 : Mem} {vP0 : Mem} {rw1 : Mem} (hPX : ∀ z, PL z = true → ¬ fX b0 z) (hZP : ZP G) : ∀ (n : Nat) (v1 : Mem) (i0 : Int32) (p1 : Nat) (p2 : Nat) (p3 : Nat), lq5 (fJ4_siftUpUsingComparator_foundfit_0 PL b0 V0) n v1 i0 p1 p2 p3 = some rw1 → ∀ (H : Heap) (locs : List Loc) (ls : Array Slot), rg G b0 357 (shX0 G.2.1) V0 H → pl G PL v1 H → va_S (FA (fP PL vP0) s.heap.size) s.heap H locs → H.size = s.heap.size → KM vP0 v1 s.heap.size → lv_has ls 6 [(0, .int i0), (1, .ref p1), (2, .ref p2), (3, .ref p3)] → W p l e (rmT 3 0 0 66) s m args below meth c H locs 0 0 (MQ below (QcT (FA (fP PL vP0) s.heap.size) (fun ov H => ov = none ∧ pl G PL rw1 H ∧ H.size = s.heap.size ∧ KM vP0 rw1 s.heap.size)) args s 0 0 (FA (fP PL vP0) s.heap.size)) (F0 m 0 ls []) := by
  intro n
  induction n with
  | zero => intro v1 i0 p1 p2 p3 hm; exact (lq5_0 hm).elim
  | succ n ih => intro v1 i0 p1 p2 p3 hm; exact w_fJ4_siftUpUsingComparator_foundfit_0 C hPX hZP ih v1 i0 p1 p2 p3 (lq5_s hm)
set_option maxHeartbeats 4000000 in
theorem w_fJ4_siftUpUsingComparator_foundfit (C : Cx G p s m args meth c RJ4 cJ4_siftUpUsingComparator 6 none) {b0 : Nat} {PL : Nat → Bool} {V0 : Mem} {vP0 : Mem} {rw1 : Mem} (hPX : ∀ z, PL z = true → ¬ fX b0 z) (hZP : ZP G) : ∀ (v1 : Mem) (i0 : Int32) (p1 : Nat) (p2 : Nat) (p3 : Nat), fJ4_siftUpUsingComparator_foundfit PL b0 V0 v1 i0 p1 p2 p3 = some rw1 → ∀ (H : Heap) (locs : List Loc) (ls : Array Slot), rg G b0 357 (shX0 G.2.1) V0 H → pl G PL v1 H → va_S (FA (fP PL vP0) s.heap.size) s.heap H locs → H.size = s.heap.size → KM vP0 v1 s.heap.size → lv_has ls 6 [(0, .int i0), (1, .ref p1), (2, .ref p2), (3, .ref p3)] → W p l e (rmT 3 0 0 66) s m args below meth c H locs 0 0 (MQ below (QcT (FA (fP PL vP0) s.heap.size) (fun ov H => ov = none ∧ pl G PL rw1 H ∧ H.size = s.heap.size ∧ KM vP0 rw1 s.heap.size)) args s 0 0 (FA (fP PL vP0) s.heap.size)) (F0 m 0 ls []) := by
  intro v1 i0 p1 p2 p3 hm H locs ls hW0 hW1 hS hz hKM hl
  obtain ⟨hx, hb, hr, hlk, hml, hown, hts, hK⟩ := id C
  unfold fJ4_siftUpUsingComparator_foundfit at hm
  exact (w_fJ4_siftUpUsingComparator_foundfit_0_l C hPX hZP FU) v1 i0 p1 p2 p3 hm H locs ls hW0 hW1 hS hz hKM (lv_sub hl [0, 1, 2, 3] rfl)
set_option maxHeartbeats 4000000 in
theorem ct_J4_siftUpUsingComparator_foundfit {G : Gv} {l : Launch} {b0 : Nat} {PL : Nat → Bool} {V0 : Mem} {v1 : Mem} {i0 : Int32} {p1 : Nat} {p2 : Nat} {p3 : Nat} {rw1 : Mem} {sz : Nat} (hm : fJ4_siftUpUsingComparator_foundfit PL b0 V0 v1 i0 p1 p2 p3 = some rw1) (hPX : ∀ z, PL z = true → ¬ fX b0 z) (hZP : ZP G) : CT G l yJ4_siftUpUsingComparator (ws_ yJ4_siftUpUsingComparator cJ4_siftUpUsingComparator 6 none) 3 0 0 66 [.int i0, .ref p1, .ref p2, .ref p3] (fP PL v1) sz (fun H => rg G b0 357 (shX0 G.2.1) V0 H ∧ pl G PL v1 H) (fun ov H => ov = none ∧ pl G PL rw1 H ∧ H.size = sz ∧ KM v1 rw1 sz) := by
  refine Met.ofW (cc := cJ4_siftUpUsingComparator) (maxL := 6) (ret := none) (by decide +kernel) rfl ?_
  intro p e s m args below meth c s₁ B hml hv
  obtain ⟨rfl, ⟨hz, hW0, hW1⟩, hK⟩ := hv
  subst hz
  have hts := atoms_spec (ws := ws_ yJ4_siftUpUsingComparator cJ4_siftUpUsingComparator 6 none) B.pre
  have hts : ∀ w ∈ lw_all, w.before _ s = true := fun w h => hts w (List.mem_cons_of_mem _ h)
  have C : Cx G p s m _ meth c RJ4 cJ4_siftUpUsingComparator 6 none := ⟨B.exec, B.bytes, B.returns, B.notSynchronized, hml, findClass_of_methodNamed B.named, hts, hK⟩
  have hl := lv_entry ([.int i0, .ref p1, .ref p2, .ref p3]) (n := 6) (Nat.le_of_ble_eq_true rfl)
  rw [lg_entry_eq]
  generalize (lg_sl ([.int i0, .ref p1, .ref p2, .ref p3]) ++ List.replicate (6 - (lg_sl ([.int i0, .ref p1, .ref p2, .ref p3])).length) Slot.unset).toArray = ls at hl ⊢
  have hl : lv_has ls 6 [(0, .int i0), (1, .ref p1), (2, .ref p2), (3, .ref p3)] := hl
  exact w_fJ4_siftUpUsingComparator_foundfit C hPX hZP _ _ _ _ _ hm s.heap [] ls hW0 hW1 va_S.rf rfl KM.rf hl
noncomputable def fJ4_siftUp_foundfit (PL : Nat → Bool) (b0 : Nat) (V0 : Mem) (v1 : Mem) (p0 : Nat) (i1 : Int32) (p2 : Nat) : Option (Mem) :=
  gb (kd PL v1 p0 17) (
  lo (gR v1 p0 2) fun oa2 =>
  od oa2 (
  gb (kd PL v1 p0 17) (
  lo (gR v1 p0 0) fun oa6 =>
  none)) (fun pa4 =>
  gb (kd PL v1 p0 17) (
  lo (gR v1 p0 0) fun oa9 =>
  gb (kd PL v1 p0 17) (
  lo (gR v1 p0 2) fun oa12 =>
  ob oa9 fun pa14 =>
  ob oa12 fun pa17 =>
  ob (fJ4_siftUpUsingComparator_foundfit PL b0 V0 v1 i1 p2 pa14 pa17) fun w20 =>
  some w20))))
set_option maxHeartbeats 4000000 in
theorem w_fJ4_siftUp_foundfit (C : Cx G p s m args meth c RJ4 cJ4_siftUp 3 none) {b0 : Nat} {PL : Nat → Bool} {V0 : Mem} {vP0 : Mem} {rw1 : Mem} (hPX : ∀ z, PL z = true → ¬ fX b0 z) (hZP : ZP G) : ∀ (v1 : Mem) (p0 : Nat) (i1 : Int32) (p2 : Nat), fJ4_siftUp_foundfit PL b0 V0 v1 p0 i1 p2 = some rw1 → ∀ (H : Heap) (locs : List Loc) (ls : Array Slot), rg G b0 357 (shX0 G.2.1) V0 H → pl G PL v1 H → va_S (FA (fP PL vP0) s.heap.size) s.heap H locs → H.size = s.heap.size → KM vP0 v1 s.heap.size → lv_has ls 3 [(0, .ref p0), (1, .int i1), (2, .ref p2)] → W p l e (rmT 4 0 0 91) s m args below meth c H locs 0 0 (MQ below (QcT (FA (fP PL vP0) s.heap.size) (fun ov H => ov = none ∧ pl G PL rw1 H ∧ H.size = s.heap.size ∧ KM vP0 rw1 s.heap.size)) args s 0 0 (FA (fP PL vP0) s.heap.size)) (F0 m 0 ls []) := by
  intro v1 p0 i1 p2 hm H locs ls hW0 hW1 hS hz hKM hl
  obtain ⟨hx, hb, hr, hlk, hml, hown, hts, hK⟩ := id C
  unfold fJ4_siftUp_foundfit at hm
  refine lv_aload_n (pc := 0) hx hb dJ4_siftUp_0 rfl (lv_at hl 0 rfl) ?_
  obtain ⟨hg1, hm⟩ := gb_some hm
  obtain ⟨oa2, he3, hm⟩ := lo_some hm
  refine rk_get (pc := 1) hx hb hts hown hK (pl_rg hW1) flJ4_21 p0 (Nat.lt_succ_self _) (Nat.zero_add _).symm (shP_17 (kd_PL hg1) (kd_k hg1)) (x := va_rf oa2) (congrArg (fun z => some (va_rf z)) he3) dJ4_siftUp_1 ?_
  rcases oa2 with _ | pa4
  · have hm := od_n hm
    refine lv_ifnullN (pc := 4) (tgt := 23) hx hb dJ4_siftUp_4 (by decide) ?_
    refine lv_iload_n (pc := 23) hx hb dJ4_siftUp_23 rfl (lv_at hl 1 rfl) ?_
    refine lv_aload_n (pc := 24) hx hb dJ4_siftUp_24 rfl (lv_at hl 2 rfl) ?_
    refine lv_aload_n (pc := 25) hx hb dJ4_siftUp_25 rfl (lv_at hl 0 rfl) ?_
    obtain ⟨hg5, hm⟩ := gb_some hm
    obtain ⟨oa6, he7, hm⟩ := lo_some hm
    refine rk_get (pc := 26) hx hb hts hown hK (pl_rg hW1) flJ4_17 p0 (Nat.lt_succ_self _) (Nat.zero_add _).symm (shP_17 (kd_PL hg5) (kd_k hg5)) (x := va_rf oa6) (congrArg (fun z => some (va_rf z)) he7) dJ4_siftUp_26 ?_
    exact nomatch hm
  · have hm := od_s hm
    refine lv_ifnull (pc := 4) hx hb dJ4_siftUp_4 ?_
    refine lv_iload_n (pc := 7) hx hb dJ4_siftUp_7 rfl (lv_at hl 1 rfl) ?_
    refine lv_aload_n (pc := 8) hx hb dJ4_siftUp_8 rfl (lv_at hl 2 rfl) ?_
    refine lv_aload_n (pc := 9) hx hb dJ4_siftUp_9 rfl (lv_at hl 0 rfl) ?_
    obtain ⟨hg8, hm⟩ := gb_some hm
    obtain ⟨oa9, he10, hm⟩ := lo_some hm
    refine rk_get (pc := 10) hx hb hts hown hK (pl_rg hW1) flJ4_17 p0 (Nat.lt_succ_self _) (Nat.zero_add _).symm (shP_17 (kd_PL hg8) (kd_k hg8)) (x := va_rf oa9) (congrArg (fun z => some (va_rf z)) he10) dJ4_siftUp_10 ?_
    refine lv_aload_n (pc := 13) hx hb dJ4_siftUp_13 rfl (lv_at hl 0 rfl) ?_
    obtain ⟨hg11, hm⟩ := gb_some hm
    obtain ⟨oa12, he13, hm⟩ := lo_some hm
    refine rk_get (pc := 14) hx hb hts hown hK (pl_rg hW1) flJ4_21 p0 (Nat.lt_succ_self _) (Nat.zero_add _).symm (shP_17 (kd_PL hg11) (kd_k hg11)) (x := va_rf oa12) (congrArg (fun z => some (va_rf z)) he13) dJ4_siftUp_14 ?_
    obtain ⟨pa14, he15, hm16⟩ := ob_some hm
    subst he15
    have hm := hm16
    obtain ⟨pa17, he18, hm19⟩ := ob_some hm
    subst he18
    have hm := hm19
    obtain ⟨w20, hq21, hm⟩ := ob_some hm
    refine rk_TS (pc := 17) (As := [.int i1, .ref p2, .ref pa14, .ref pa17]) (rest := []) (mc := 0) (ms := 0) hx hb hml hown hts hK hS (fun q hq => FA_sz rfl q hq) lkJ4_136 yn_J4_siftUpUsingComparator (ct_J4_siftUpUsingComparator_foundfit (G := G) (l := l) (b0 := b0) (sz := H.size) hq21 hPX hZP) ⟨Nat.le_of_ble_eq_true rfl, Nat.le_of_ble_eq_true rfl⟩ (fun z h => (KM_hf2 hKM z h)) ⟨hW0, hW1⟩ rfl rfl hl.1 (Nat.le_of_ble_eq_true rfl) dJ4_siftUp_17 ⟨Nat.zero_le _, Nat.zero_le _⟩ (fun ov9 H22 locs23 hP24 hkp25 hS26 => ?_)
    obtain ⟨rfl, hW27, hz28, hKM29⟩ := hP24
    have hW30 := rg_keepX hW0 hkp25 (by intro z h0 h3; have h1 := h0.1.1; have h2 := h0.1.2; have h4 := h0.2; exact hPX _ h3.1 h0)
    have hz31 := hz28.trans hz
    have hKM32 := KM.trans hKM hKM29 (by omega)
    refine W.eq (g2 := F0 m 20 ls []) rfl ?_
    refine lv_goto (pc := 20) (tgt := 32) hx hb dJ4_siftUp_20 (by decide) ?_
    have e9 := rs1 hm
    subst e9
    exact rk_vret (pc := 32) hx hb hr hlk hS26 ⟨rfl, hW27, hz31, hKM32⟩ dJ4_siftUp_32
set_option maxHeartbeats 4000000 in
theorem ct_J4_siftUp_foundfit {G : Gv} {l : Launch} {b0 : Nat} {PL : Nat → Bool} {V0 : Mem} {v1 : Mem} {p0 : Nat} {i1 : Int32} {p2 : Nat} {rw1 : Mem} {sz : Nat} (hm : fJ4_siftUp_foundfit PL b0 V0 v1 p0 i1 p2 = some rw1) (hPX : ∀ z, PL z = true → ¬ fX b0 z) (hZP : ZP G) : CT G l yJ4_siftUp (ws_ yJ4_siftUp cJ4_siftUp 3 none) 4 0 0 91 [.ref p0, .int i1, .ref p2] (fP PL v1) sz (fun H => rg G b0 357 (shX0 G.2.1) V0 H ∧ pl G PL v1 H) (fun ov H => ov = none ∧ pl G PL rw1 H ∧ H.size = sz ∧ KM v1 rw1 sz) := by
  refine Met.ofW (cc := cJ4_siftUp) (maxL := 3) (ret := none) (by decide +kernel) rfl ?_
  intro p e s m args below meth c s₁ B hml hv
  obtain ⟨rfl, ⟨hz, hW0, hW1⟩, hK⟩ := hv
  subst hz
  have hts := atoms_spec (ws := ws_ yJ4_siftUp cJ4_siftUp 3 none) B.pre
  have hts : ∀ w ∈ lw_all, w.before _ s = true := fun w h => hts w (List.mem_cons_of_mem _ h)
  have C : Cx G p s m _ meth c RJ4 cJ4_siftUp 3 none := ⟨B.exec, B.bytes, B.returns, B.notSynchronized, hml, findClass_of_methodNamed B.named, hts, hK⟩
  have hl := lv_entry ([.ref p0, .int i1, .ref p2]) (n := 3) (Nat.le_of_ble_eq_true rfl)
  rw [lg_entry_eq]
  generalize (lg_sl ([.ref p0, .int i1, .ref p2]) ++ List.replicate (3 - (lg_sl ([.ref p0, .int i1, .ref p2])).length) Slot.unset).toArray = ls at hl ⊢
  have hl : lv_has ls 3 [(0, .ref p0), (1, .int i1), (2, .ref p2)] := hl
  exact w_fJ4_siftUp_foundfit C hPX hZP _ _ _ _ hm s.heap [] ls hW0 hW1 va_S.rf rfl KM.rf hl
noncomputable def fJ4_offer_foundfit_43 (PL : Nat → Bool) (b0 : Nat) (V0 : Mem) (v1 : Mem) (p0 : Nat) (p1 : Nat) (i2 : Int32) : Option (Int32 × Mem) :=
  gb (kd PL v1 p0 17) (
  ob (fJ4_siftUp_foundfit PL b0 V0 v1 p0 i2 p1) fun w23 =>
  gb (kd PL w23 p0 17) (
  lm (sI w23 p0 1 (i2 + (1 : Int32))) fun v1_37 =>
  some ((1 : Int32), v1_37)))
noncomputable def fJ4_offer_foundfit (PL : Nat → Bool) (b0 : Nat) (V0 : Mem) (v1 : Mem) (p0 : Nat) (p1 : Nat) : Option (Int32 × Mem) :=
  gb (kd PL v1 p0 17) (
  gb (kd PL v1 p0 17) (
  lm (sI v1 p0 3 ((gI v1 p0 3) + (1 : Int32))) fun v1_3 =>
  gb (kd PL v1_3 p0 17) (
  gb (kd PL v1_3 p0 17) (
  lo (gR v1_3 p0 0) fun oa15 =>
  ob oa15 fun pa17 =>
  gb (ka PL v1_3 pa17 44) (
  if (gI v1_3 p0 1) < (Int32.ofNat (gI v1_3 pa17 98).toNatClampNeg) then (
  fJ4_offer_foundfit_43 PL b0 V0 v1_3 p0 p1 (gI v1_3 p0 1))
  else (
  none))))))
set_option maxHeartbeats 4000000 in
theorem w_fJ4_offer_foundfit_43 (C : Cx G p s m args meth c RJ4 cJ4_offer 3 (some .boolean)) {b0 : Nat} {PL : Nat → Bool} {V0 : Mem} {vP0 : Mem} {rx : Int32} {rw1 : Mem} (hPX : ∀ z, PL z = true → ¬ fX b0 z) (hZP : ZP G) : ∀ (v1 : Mem) (p0 : Nat) (p1 : Nat) (i2 : Int32), fJ4_offer_foundfit_43 PL b0 V0 v1 p0 p1 i2 = some (rx, rw1) → ∀ (H : Heap) (locs : List Loc) (ls : Array Slot), rg G b0 357 (shX0 G.2.1) V0 H → pl G PL v1 H → va_S (FA (fP PL vP0) s.heap.size) s.heap H locs → H.size = s.heap.size → KM vP0 v1 s.heap.size → lv_has ls 3 [(0, .ref p0), (1, .ref p1), (2, .int i2)] → W p l e (rmT 5 0 0 113) s m args below meth c H locs 0 0 (MQ below (QcT (FA (fP PL vP0) s.heap.size) (fun ov H => ov = (some (.int rx)) ∧ pl G PL rw1 H ∧ H.size = s.heap.size ∧ KM vP0 rw1 s.heap.size)) args s 0 0 (FA (fP PL vP0) s.heap.size)) (F0 m 43 ls []) := by
  intro v1 p0 p1 i2 hm H locs ls hW0 hW1 hS hz hKM hl
  obtain ⟨hx, hb, hr, hlk, hml, hown, hts, hK⟩ := id C
  unfold fJ4_offer_foundfit_43 at hm
  refine lv_aload_n (pc := 43) hx hb dJ4_offer_43 rfl (lv_at hl 0 rfl) ?_
  refine lv_iload_n (pc := 44) hx hb dJ4_offer_44 rfl (lv_at hl 2 rfl) ?_
  refine lv_aload_n (pc := 45) hx hb dJ4_offer_45 rfl (lv_at hl 1 rfl) ?_
  obtain ⟨hg22, hm⟩ := gb_some hm
  obtain ⟨w23, hq24, hm⟩ := ob_some hm
  refine rk_TV (pc := 46) (As := [.int i2, .ref p1]) (rest := []) (mc := 0) (ms := 0) hx hb hml hown hts hK hS (fun q hq => FA_sz rfl q hq) lkJ4_100 rfl yn_J4_siftUp (ct_J4_siftUp_foundfit (G := G) (l := l) (b0 := b0) (sz := H.size) hq24 hPX hZP) ⟨Nat.le_of_ble_eq_true rfl, Nat.le_of_ble_eq_true rfl⟩ (fun z h => (KM_hf2 hKM z h)) (rp_recv hK hW1 (C := RJ4) (T := TJ4) (N := 4) rfl (shP_17 (kd_PL hg22) (kd_k hg22))) ⟨hW0, hW1⟩ rfl rfl hl.1 (Nat.le_of_ble_eq_true rfl) dJ4_offer_46 ⟨Nat.zero_le _, Nat.zero_le _⟩ (fun ov9 H25 locs26 hP27 hkp28 hS29 => ?_)
  obtain ⟨rfl, hW30, hz31, hKM32⟩ := hP27
  have hW33 := rg_keepX hW0 hkp28 (by intro z h0 h3; have h1 := h0.1.1; have h2 := h0.1.2; have h4 := h0.2; exact hPX _ h3.1 h0)
  have hz34 := hz31.trans hz
  have hKM35 := KM.trans hKM hKM32 (by omega)
  refine W.eq (g2 := F0 m 49 ls []) rfl ?_
  refine lv_aload_n (pc := 49) hx hb dJ4_offer_49 rfl (lv_at hl 0 rfl) ?_
  refine lv_iload_n (pc := 50) hx hb dJ4_offer_50 rfl (lv_at hl 2 rfl) ?_
  refine lv_iconst (pc := 51) (v := (1 : Int32)) hx hb dJ4_offer_51 (by decide) ?_
  refine lv_iadd (pc := 52) hx hb dJ4_offer_52 ?_
  obtain ⟨hg36, hm⟩ := gb_some hm
  refine rp_put (pc := 53) (q := p0) hx hb hts hown hK hW30 hS29 flJ4_58 ft_J4 (kd_A hKM35 hg36 (by decide)) (shP_17 (kd_PL hg36) (kd_k hg36)) rfl (x := .int (i2 + (1 : Int32))) rfl rfl (Nat.le_of_ble_eq_true rfl) (sI w23 p0 1 (i2 + (1 : Int32))) sI_ne (by rw [sI_eq]; exact shP_17 (kd_PL hg36) (kd_k hg36)) dJ4_offer_53 (fun H38 locs39 hW40 hS41 hz42 hkp43 => ?_)
  have hKM44 := KM.sI (o := p0) (j := 1) (x := (i2 + (1 : Int32))) hKM35 (by decide)
  obtain ⟨v1_37, he9, hm⟩ := lm_some hm
  rw [he9] at hW40 hKM44
  have hW45 := rg_keepqX hW33 hkp43 (hPX _ (kd_PL hg36))
  have hz46 := hz42.trans hz34
  refine lv_iconst (pc := 56) (v := (1 : Int32)) hx hb dJ4_offer_56 (by decide) ?_
  obtain ⟨e8, e9⟩ := rs2 hm
  subst e8
  subst e9
  exact rk_zret (pc := 57) hx hb hr hlk rfl hS41 ⟨rfl, hW40, hz46, hKM44⟩ dJ4_offer_57
set_option maxHeartbeats 4000000 in
theorem w_fJ4_offer_foundfit (C : Cx G p s m args meth c RJ4 cJ4_offer 3 (some .boolean)) {b0 : Nat} {PL : Nat → Bool} {V0 : Mem} {vP0 : Mem} {rx : Int32} {rw1 : Mem} (hPX : ∀ z, PL z = true → ¬ fX b0 z) (hZP : ZP G) : ∀ (v1 : Mem) (p0 : Nat) (p1 : Nat), fJ4_offer_foundfit PL b0 V0 v1 p0 p1 = some (rx, rw1) → ∀ (H : Heap) (locs : List Loc) (ls : Array Slot), rg G b0 357 (shX0 G.2.1) V0 H → pl G PL v1 H → va_S (FA (fP PL vP0) s.heap.size) s.heap H locs → H.size = s.heap.size → KM vP0 v1 s.heap.size → lv_has ls 3 [(0, .ref p0), (1, .ref p1)] → W p l e (rmT 5 0 0 113) s m args below meth c H locs 0 0 (MQ below (QcT (FA (fP PL vP0) s.heap.size) (fun ov H => ov = (some (.int rx)) ∧ pl G PL rw1 H ∧ H.size = s.heap.size ∧ KM vP0 rw1 s.heap.size)) args s 0 0 (FA (fP PL vP0) s.heap.size)) (F0 m 0 ls []) := by
  intro v1 p0 p1 hm H locs ls hW0 hW1 hS hz hKM hl
  obtain ⟨hx, hb, hr, hlk, hml, hown, hts, hK⟩ := id C
  unfold fJ4_offer_foundfit at hm
  refine lv_aload_n (pc := 0) hx hb dJ4_offer_0 rfl (lv_at hl 1 rfl) ?_
  refine lv_ifnonnull (pc := 1) (tgt := 12) hx hb dJ4_offer_1 (by decide) ?_
  refine lv_aload_n (pc := 12) hx hb dJ4_offer_12 rfl (lv_at hl 0 rfl) ?_
  refine lv_dup (pc := 13) hx hb dJ4_offer_13 rfl ?_
  obtain ⟨hg1, hm⟩ := gb_some hm
  refine rk_get (pc := 14) hx hb hts hown hK (pl_rg hW1) flJ4_93 p0 (Nat.lt_succ_self _) (Nat.zero_add _).symm (shP_17 (kd_PL hg1) (kd_k hg1)) (x := .int (gI v1 p0 3)) rfl dJ4_offer_14 ?_
  refine lv_iconst (pc := 17) (v := (1 : Int32)) hx hb dJ4_offer_17 (by decide) ?_
  refine lv_iadd (pc := 18) hx hb dJ4_offer_18 ?_
  obtain ⟨hg2, hm⟩ := gb_some hm
  refine rp_put (pc := 19) (q := p0) hx hb hts hown hK hW1 hS flJ4_93 ft_J4 (kd_A hKM hg2 (by decide)) (shP_17 (kd_PL hg2) (kd_k hg2)) rfl (x := .int ((gI v1 p0 3) + (1 : Int32))) rfl rfl (Nat.le_of_ble_eq_true rfl) (sI v1 p0 3 ((gI v1 p0 3) + (1 : Int32))) sI_ne (by rw [sI_eq]; exact shP_17 (kd_PL hg2) (kd_k hg2)) dJ4_offer_19 (fun H4 locs5 hW6 hS7 hz8 hkp9 => ?_)
  have hKM10 := KM.sI (o := p0) (j := 3) (x := ((gI v1 p0 3) + (1 : Int32))) hKM (by decide)
  obtain ⟨v1_3, he9, hm⟩ := lm_some hm
  rw [he9] at hW6 hKM10
  have hW11 := rg_keepqX hW0 hkp9 (hPX _ (kd_PL hg2))
  have hz12 := hz8.trans hz
  refine lv_aload_n (pc := 22) hx hb dJ4_offer_22 rfl (lv_at hl 0 rfl) ?_
  obtain ⟨hg13, hm⟩ := gb_some hm
  refine rk_get (pc := 23) hx hb hts hown hK (pl_rg hW6) flJ4_58 p0 (Nat.lt_succ_self _) (Nat.zero_add _).symm (shP_17 (kd_PL hg13) (kd_k hg13)) (x := .int (gI v1_3 p0 1)) rfl dJ4_offer_23 ?_
  refine lv_istore_n (pc := 26) (lv' := [(2, .int (gI v1_3 p0 1)), (0, .ref p0), (1, .ref p1)]) hx hb dJ4_offer_26 rfl hl (by decide) rfl (fun ls hl => ?_)
  refine lv_iload_n (pc := 27) hx hb dJ4_offer_27 rfl (lv_at hl 0 rfl) ?_
  refine lv_aload_n (pc := 28) hx hb dJ4_offer_28 rfl (lv_at hl 1 rfl) ?_
  obtain ⟨hg14, hm⟩ := gb_some hm
  obtain ⟨oa15, he16, hm⟩ := lo_some hm
  refine rk_get (pc := 29) hx hb hts hown hK (pl_rg hW6) flJ4_17 p0 (Nat.lt_succ_self _) (Nat.zero_add _).symm (shP_17 (kd_PL hg14) (kd_k hg14)) (x := va_rf oa15) (congrArg (fun z => some (va_rf z)) he16) dJ4_offer_29 ?_
  obtain ⟨pa17, he18, hm19⟩ := ob_some hm
  subst he18
  have hm := hm19
  obtain ⟨hg20, hm⟩ := gb_some hm
  refine rp_alen (pc := 32) hx hb hK hW6 hg20 dJ4_offer_32 ?_
  refine lv_icmp_lt (pc := 33) (tgt := 43) hx hb dJ4_offer_33 (by decide) (fun c21 => ?_) (fun c21 => ?_)
  · have hm := ite_t c21 hm
    exact (w_fJ4_offer_foundfit_43 C hPX hZP) v1_3 p0 p1 (gI v1_3 p0 1) hm H4 locs5 ls hW11 hW6 hS7 hz12 hKM10 (lv_sub hl [1, 2, 0] rfl)
  · have hm := ite_f c21 hm
    refine lv_aload_n (pc := 36) hx hb dJ4_offer_36 rfl (lv_at hl 1 rfl) ?_
    refine lv_iload_n (pc := 37) hx hb dJ4_offer_37 rfl (lv_at hl 0 rfl) ?_
    refine lv_iconst (pc := 38) (v := (1 : Int32)) hx hb dJ4_offer_38 (by decide) ?_
    refine lv_iadd (pc := 39) hx hb dJ4_offer_39 ?_
    exact nomatch hm
set_option maxHeartbeats 4000000 in
theorem ct_J4_offer_foundfit {G : Gv} {l : Launch} {b0 : Nat} {PL : Nat → Bool} {V0 : Mem} {v1 : Mem} {p0 : Nat} {p1 : Nat} {rx : Int32} {rw1 : Mem} {sz : Nat} (hm : fJ4_offer_foundfit PL b0 V0 v1 p0 p1 = some (rx, rw1)) (hPX : ∀ z, PL z = true → ¬ fX b0 z) (hZP : ZP G) : CT G l yJ4_offer (ws_ yJ4_offer cJ4_offer 3 (some .boolean)) 5 0 0 113 [.ref p0, .ref p1] (fP PL v1) sz (fun H => rg G b0 357 (shX0 G.2.1) V0 H ∧ pl G PL v1 H) (fun ov H => ov = (some (.int rx)) ∧ pl G PL rw1 H ∧ H.size = sz ∧ KM v1 rw1 sz) := by
  refine Met.ofW (cc := cJ4_offer) (maxL := 3) (ret := (some .boolean)) (by decide +kernel) rfl ?_
  intro p e s m args below meth c s₁ B hml hv
  obtain ⟨rfl, ⟨hz, hW0, hW1⟩, hK⟩ := hv
  subst hz
  have hts := atoms_spec (ws := ws_ yJ4_offer cJ4_offer 3 (some .boolean)) B.pre
  have hts : ∀ w ∈ lw_all, w.before _ s = true := fun w h => hts w (List.mem_cons_of_mem _ h)
  have C : Cx G p s m _ meth c RJ4 cJ4_offer 3 (some .boolean) := ⟨B.exec, B.bytes, B.returns, B.notSynchronized, hml, findClass_of_methodNamed B.named, hts, hK⟩
  have hl := lv_entry ([.ref p0, .ref p1]) (n := 3) (Nat.le_of_ble_eq_true rfl)
  rw [lg_entry_eq]
  generalize (lg_sl ([.ref p0, .ref p1]) ++ List.replicate (3 - (lg_sl ([.ref p0, .ref p1])).length) Slot.unset).toArray = ls at hl ⊢
  have hl : lv_has ls 3 [(0, .ref p0), (1, .ref p1)] := hl
  exact w_fJ4_offer_foundfit C hPX hZP _ _ _ hm s.heap [] ls hW0 hW1 va_S.rf rfl KM.rf hl
end
