set_option maxRecDepth 100000
section
variable {p : Program} {l : Launch} {e : Env} {s : State} {m : MethodId} {args : Array Value} {below : List Frame} {meth : Method} {c : Code} {G : Gv}
theorem fnX5_7 : FN RX5 7 7 0 RX7 TX7 2 "WholePacks" := ⟨in_X7, rfl, by decide, q449⟩
theorem fnX5_13 : FN RX5 13 7 1 RX7 TX7 2 "WholePacks" := ⟨in_X7, rfl, by decide, q451⟩
theorem yn_X7_isBehind : YN yX7_isBehind 2 := by
  unfold YN
  decide +kernel
theorem lkX5_16 : LV RX5 16 RX7 yX7_isBehind cX7_isBehind 3 (some .boolean) := ⟨q1092, q1093, q1094, q126, q1095⟩
noncomputable def fX5_compare_2 (PL : Nat → Bool) (b0 : Nat) (V0 : Mem) (V1 : Mem) (n1 : Nat) (n2 : Nat) (p0 : Nat) : Option (Int32) :=
  if n1 = n2 then (
  some (0 : Int32))
  else (
  ob (fX7_isBehind (shf V0 (177 + 1 * n1)) (gI V0 (177 + 1 * n2 + 0) 0) (gI V0 (177 + 1 * n2 + 0) 1)) fun r2 =>
  if r2 = 0 then (
  some (1 : Int32))
  else (
  some (-1 : Int32)))
set_option maxHeartbeats 4000000 in
theorem w_fX5_compare_2 (C : Cx G p s m args meth c RX5 cX5_compare_2 3 (some .int)) {b0 : Nat} {PL : Nat → Bool} {V0 : Mem} {V1 : Mem} {n1 : Nat} {n2 : Nat} {rx : Int32} (hW0 : rg G b0 357 (shX0 G.2.1) V0 s.heap) (hW1 : pl G PL V1 s.heap) (hn1 : n1 < 20) (hn2 : n2 < 20) : ∀ (p0 : Nat), fX5_compare_2 PL b0 V0 V1 n1 n2 p0 = some rx → ∀ (ls : Array Slot), lv_has ls 3 [(0, .ref p0), (1, .ref (b0 + (177 + 1 * n1 + 0))), (2, .ref (b0 + (177 + 1 * n2 + 0)))] → W p l e (rmP 1 22) s m args below meth c s.heap [] 0 0 (MQ below (QcP (some (.int rx))) args s 0 0 (fun _ => False)) (F0 m 0 ls []) := by
  intro p0 hm ls hl
  obtain ⟨hx, hb, hr, hlk, hml, hown, hts, hK⟩ := id C
  unfold fX5_compare_2 at hm
  refine lv_aload_n (pc := 0) hx hb dX5_compare_2_0 rfl (lv_at hl 1 rfl) ?_
  refine lv_aload_n (pc := 1) hx hb dX5_compare_2_1 rfl (lv_at hl 2 rfl) ?_
  refine lv_acmp_ne (pc := 2) (rx := (some (b0 + (177 + 1 * n1 + 0)))) (ry := (some (b0 + (177 + 1 * n2 + 0)))) (tgt := 9) hx hb dX5_compare_2_2 (by decide) (fun hc5 => ?_) (fun hc5 => ?_)
  · have c1 : ¬ n1 = n2 := fun h9 => hc5 (by rw [h9])
    have hm := ite_f c1 hm
    refine lv_aload_n (pc := 9) hx hb dX5_compare_2_9 rfl (lv_at hl 1 rfl) ?_
    refine lv_aload_n (pc := 10) hx hb dX5_compare_2_10 rfl (lv_at hl 2 rfl) ?_
    refine rk_getN (pc := 11) hx hb hts hown hK hW0 fnX5_7 (177 + 1 * n2 + 0) (by omega) rfl ((shX0_f177 G.2.1 hn2 _ rfl 0 (by decide) _ _ _).trans rfl) (x := .int (gI V0 (177 + 1 * n2 + 0) 0)) rfl dX5_compare_2_11 ?_
    refine lv_aload_n (pc := 14) hx hb dX5_compare_2_14 rfl (lv_at hl 2 rfl) ?_
    refine rk_getN (pc := 15) hx hb hts hown hK hW0 fnX5_13 (177 + 1 * n2 + 0) (by omega) rfl ((shX0_f177 G.2.1 hn2 _ rfl 0 (by decide) _ _ _).trans rfl) (x := .int (gI V0 (177 + 1 * n2 + 0) 1)) rfl dX5_compare_2_15 ?_
    obtain ⟨r2, hq3, hm⟩ := ob_some hm
    refine rk_PV (pc := 18) (As := [.int (gI V0 (177 + 1 * n2 + 0) 0), .int (gI V0 (177 + 1 * n2 + 0) 1)]) (rest := []) hx hb hml hown hts hK lkX5_16 rfl yn_X7_isBehind (ct_X7_isBehind (G := G) (l := l) (b0 := (b0 + (177 + 1 * n1 + 0))) hq3) ⟨Nat.le_of_ble_eq_true rfl, Nat.le_of_ble_eq_true rfl⟩ (rk_recv hK hW0 (177 + 1 * n1 + 0) (by omega) rfl rfl ((shX0_f177 G.2.1 hn1 _ rfl 0 (by decide) _ _ _).trans rfl)) (rg_sub (d := (177 + 1 * n1)) hW0 rfl (by omega) (fun o ho x y z => shX0_f177 G.2.1 hn1 _ rfl o ho x y z)) rfl rfl hl.1 (Nat.le_of_ble_eq_true rfl) dX5_compare_2_18 ⟨Nat.zero_le _, Nat.zero_le _⟩ ?_
    refine W.eq (g2 := F0 m 21 ls [.int r2]) rfl ?_
    refine lv_if_eq (pc := 21) (tgt := 28) hx hb dX5_compare_2_21 (by decide) (fun c4 => ?_) (fun c4 => ?_)
    · have hm := ite_t c4 hm
      refine lv_iconst (pc := 28) (v := (1 : Int32)) hx hb dX5_compare_2_28 (by decide) ?_
      have e9 := rs1 hm
      subst e9
      exact rk_iretP (pc := 29) hx hb hr hlk rfl dX5_compare_2_29
    · have hm := ite_f c4 hm
      refine lv_iconst (pc := 24) (v := (-1 : Int32)) hx hb dX5_compare_2_24 (by decide) ?_
      refine lv_goto (pc := 25) (tgt := 29) hx hb dX5_compare_2_25 (by decide) ?_
      have e9 := rs1 hm
      subst e9
      exact rk_iretP (pc := 29) hx hb hr hlk rfl dX5_compare_2_29
  · have c1 : n1 = n2 := by have h8 := Option.some.inj hc5; omega
    have hm := ite_t c1 hm
    refine lv_iconst (pc := 5) (v := (0 : Int32)) hx hb dX5_compare_2_5 (by decide) ?_
    refine lv_goto (pc := 6) (tgt := 29) hx hb dX5_compare_2_6 (by decide) ?_
    have e9 := rs1 hm
    subst e9
    exact rk_iretP (pc := 29) hx hb hr hlk rfl dX5_compare_2_29
set_option maxHeartbeats 4000000 in
theorem ct_X5_compare_2 {G : Gv} {l : Launch} {b0 : Nat} {PL : Nat → Bool} {V0 : Mem} {V1 : Mem} {n1 : Nat} {n2 : Nat} {p0 : Nat} {rx : Int32} (hm : fX5_compare_2 PL b0 V0 V1 n1 n2 p0 = some rx) (hn1 : n1 < 20) (hn2 : n2 < 20) : CP G l yX5_compare_2 (ws_ yX5_compare_2 cX5_compare_2 3 (some .int)) 1 22 [.ref p0, .ref (b0 + (177 + 1 * n1 + 0)), .ref (b0 + (177 + 1 * n2 + 0))] (fun H => rg G b0 357 (shX0 G.2.1) V0 H ∧ pl G PL V1 H) (some (.int rx)) := by
  refine Met.ofW (cc := cX5_compare_2) (maxL := 3) (ret := (some .int)) (by decide +kernel) rfl ?_
  intro p e s m args below meth c s₁ B hml hv
  obtain ⟨rfl, ⟨hW0, hW1⟩, hK⟩ := hv
  have hts := atoms_spec (ws := ws_ yX5_compare_2 cX5_compare_2 3 (some .int)) B.pre
  have hts : ∀ w ∈ lw_all, w.before _ s = true := fun w h => hts w (List.mem_cons_of_mem _ h)
  have C : Cx G p s m _ meth c RX5 cX5_compare_2 3 (some .int) := ⟨B.exec, B.bytes, B.returns, B.notSynchronized, hml, findClass_of_methodNamed B.named, hts, hK⟩
  have hl := lv_entry ([.ref p0, .ref (b0 + (177 + 1 * n1 + 0)), .ref (b0 + (177 + 1 * n2 + 0))]) (n := 3) (Nat.le_of_ble_eq_true rfl)
  rw [lg_entry_eq]
  generalize (lg_sl ([.ref p0, .ref (b0 + (177 + 1 * n1 + 0)), .ref (b0 + (177 + 1 * n2 + 0))]) ++ List.replicate (3 - (lg_sl ([.ref p0, .ref (b0 + (177 + 1 * n1 + 0)), .ref (b0 + (177 + 1 * n2 + 0))])).length) Slot.unset).toArray = ls at hl ⊢
  have hl : lv_has ls 3 [(0, .ref p0), (1, .ref (b0 + (177 + 1 * n1 + 0))), (2, .ref (b0 + (177 + 1 * n2 + 0)))] := hl
  exact w_fX5_compare_2 C hW0 hW1 hn1 hn2 _ hm ls hl
theorem yn_X5_compare_2 : YN yX5_compare_2 2 := by
  unfold YN
  decide +kernel
theorem lkX5_20 : LV RX5 20 RX5 yX5_compare_2 cX5_compare_2 3 (some .int) := ⟨q1088, q1089, q1090, q124, q1091⟩
noncomputable def fX5_compare (PL : Nat → Bool) (b0 : Nat) (V0 : Mem) (V1 : Mem) (n1 : Nat) (n2 : Nat) (p0 : Nat) : Option (Int32) :=
  gb (kd PL V1 p0 5) (
  ob (fX5_compare_2 PL b0 V0 V1 n1 n2 p0) fun r2 =>
  some r2)
set_option maxHeartbeats 4000000 in
theorem w_fX5_compare (C : Cx G p s m args meth c RX5 cX5_compare 3 (some .int)) {b0 : Nat} {PL : Nat → Bool} {V0 : Mem} {V1 : Mem} {n1 : Nat} {n2 : Nat} {rx : Int32} (hW0 : rg G b0 357 (shX0 G.2.1) V0 s.heap) (hW1 : pl G PL V1 s.heap) (hn1 : n1 < 20) (hn2 : n2 < 20) : ∀ (p0 : Nat), fX5_compare PL b0 V0 V1 n1 n2 p0 = some rx → ∀ (ls : Array Slot), lv_has ls 3 [(0, .ref p0), (1, .ref (b0 + (177 + 1 * n1 + 0))), (2, .ref (b0 + (177 + 1 * n2 + 0)))] → W p l e (rmP 2 44) s m args below meth c s.heap [] 0 0 (MQ below (QcP (some (.int rx))) args s 0 0 (fun _ => False)) (F0 m 0 ls []) := by
  intro p0 hm ls hl
  obtain ⟨hx, hb, hr, hlk, hml, hown, hts, hK⟩ := id C
  unfold fX5_compare at hm
  refine lv_aload_n (pc := 0) hx hb dX5_compare_0 rfl (lv_at hl 0 rfl) ?_
  refine lv_aload_n (pc := 1) hx hb dX5_compare_1 rfl (lv_at hl 1 rfl) ?_
  refine rk_castS (pc := 2) hx hb hown hts hK q1087 hW0 (177 + 1 * n1 + 0) (by omega) rfl rfl ((shX0_f177 G.2.1 hn1 _ rfl 0 (by decide) _ _ _).trans rfl) dX5_compare_2 ?_
  refine lv_aload_n (pc := 5) hx hb dX5_compare_5 rfl (lv_at hl 2 rfl) ?_
  refine rk_castS (pc := 6) hx hb hown hts hK q1087 hW0 (177 + 1 * n2 + 0) (by omega) rfl rfl ((shX0_f177 G.2.1 hn2 _ rfl 0 (by decide) _ _ _).trans rfl) dX5_compare_6 ?_
  obtain ⟨hg1, hm⟩ := gb_some hm
  obtain ⟨r2, hq3, hm⟩ := ob_some hm
  refine rk_PV (pc := 9) (As := [.ref (b0 + (177 + 1 * n1 + 0)), .ref (b0 + (177 + 1 * n2 + 0))]) (rest := []) hx hb hml hown hts hK lkX5_20 rfl yn_X5_compare_2 (ct_X5_compare_2 (G := G) (l := l) (b0 := b0) hq3 hn1 hn2) ⟨Nat.le_of_ble_eq_true rfl, Nat.le_of_ble_eq_true rfl⟩ (rp_recv hK hW1 (C := RX5) (T := TX5z) (N := 0) rfl (shP_5 (kd_PL hg1) (kd_k hg1))) ⟨hW0, hW1⟩ rfl rfl hl.1 (Nat.le_of_ble_eq_true rfl) dX5_compare_9 ⟨Nat.zero_le _, Nat.zero_le _⟩ ?_
  refine W.eq (g2 := F0 m 12 ls [.int r2]) rfl ?_
  have e9 := rs1 hm
  subst e9
  exact rk_iretP (pc := 12) hx hb hr hlk rfl dX5_compare_12
set_option maxHeartbeats 4000000 in
theorem ct_X5_compare {G : Gv} {l : Launch} {b0 : Nat} {PL : Nat → Bool} {V0 : Mem} {V1 : Mem} {n1 : Nat} {n2 : Nat} {p0 : Nat} {rx : Int32} (hm : fX5_compare PL b0 V0 V1 n1 n2 p0 = some rx) (hn1 : n1 < 20) (hn2 : n2 < 20) : CP G l yX5_compare (ws_ yX5_compare cX5_compare 3 (some .int)) 2 44 [.ref p0, .ref (b0 + (177 + 1 * n1 + 0)), .ref (b0 + (177 + 1 * n2 + 0))] (fun H => rg G b0 357 (shX0 G.2.1) V0 H ∧ pl G PL V1 H) (some (.int rx)) := by
  refine Met.ofW (cc := cX5_compare) (maxL := 3) (ret := (some .int)) (by decide +kernel) rfl ?_
  intro p e s m args below meth c s₁ B hml hv
  obtain ⟨rfl, ⟨hW0, hW1⟩, hK⟩ := hv
  have hts := atoms_spec (ws := ws_ yX5_compare cX5_compare 3 (some .int)) B.pre
  have hts : ∀ w ∈ lw_all, w.before _ s = true := fun w h => hts w (List.mem_cons_of_mem _ h)
  have C : Cx G p s m _ meth c RX5 cX5_compare 3 (some .int) := ⟨B.exec, B.bytes, B.returns, B.notSynchronized, hml, findClass_of_methodNamed B.named, hts, hK⟩
  have hl := lv_entry ([.ref p0, .ref (b0 + (177 + 1 * n1 + 0)), .ref (b0 + (177 + 1 * n2 + 0))]) (n := 3) (Nat.le_of_ble_eq_true rfl)
  rw [lg_entry_eq]
  generalize (lg_sl ([.ref p0, .ref (b0 + (177 + 1 * n1 + 0)), .ref (b0 + (177 + 1 * n2 + 0))]) ++ List.replicate (3 - (lg_sl ([.ref p0, .ref (b0 + (177 + 1 * n1 + 0)), .ref (b0 + (177 + 1 * n2 + 0))])).length) Slot.unset).toArray = ls at hl ⊢
  have hl : lv_has ls 3 [(0, .ref p0), (1, .ref (b0 + (177 + 1 * n1 + 0))), (2, .ref (b0 + (177 + 1 * n2 + 0)))] := hl
  exact w_fX5_compare C hW0 hW1 hn1 hn2 _ hm ls hl
theorem yn_J7_max : YN yJ7_max 2 := by
  unfold YN
  decide +kernel
theorem lkJ8_194 : LSt RJ8 194 yJ7_max cJ7_max 2 (some .int) := ⟨q1023, q1024, q136, q1025⟩
noncomputable def fJ8_newLength (i0 : Int32) (i1 : Int32) (i2 : Int32) : Option (Int32) :=
  ob (fJ7_max i1 i2) fun r1 =>
  if (i0 + r1) ≤ (0 : Int32) then (
  none)
  else (
  if (2147483639 : Int32) < (i0 + r1) then (
  none)
  else (
  some (i0 + r1)))
set_option maxHeartbeats 4000000 in
theorem w_fJ8_newLength (C : Cx G p s m args meth c RJ8 cJ8_newLength 4 (some .int)) {rx : Int32} : ∀ (i0 : Int32) (i1 : Int32) (i2 : Int32), fJ8_newLength i0 i1 i2 = some rx → ∀ (ls : Array Slot), lv_has ls 4 [(0, .int i0), (1, .int i1), (2, .int i2)] → W p l e (rmP 1 21) s m args below meth c s.heap [] 0 0 (MQ below (QcP (some (.int rx))) args s 0 0 (fun _ => False)) (F0 m 0 ls []) := by
  intro i0 i1 i2 hm ls hl
  obtain ⟨hx, hb, hr, hlk, hml, hown, hts, hK⟩ := id C
  unfold fJ8_newLength at hm
  refine lv_iload_n (pc := 0) hx hb dJ8_newLength_0 rfl (lv_at hl 0 rfl) ?_
  refine lv_iload_n (pc := 1) hx hb dJ8_newLength_1 rfl (lv_at hl 1 rfl) ?_
  refine lv_iload_n (pc := 2) hx hb dJ8_newLength_2 rfl (lv_at hl 2 rfl) ?_
  obtain ⟨r1, hq2, hm⟩ := ob_some hm
  refine rk_PS (pc := 3) (As := [.int i1, .int i2]) (rest := [.int i0]) hx hb hml hown hts hK lkJ8_194 yn_J7_max (ct_J7_max (G := G) (l := l) hq2) ⟨Nat.le_of_ble_eq_true rfl, Nat.le_of_ble_eq_true rfl⟩ trivial rfl rfl hl.1 (Nat.le_of_ble_eq_true rfl) dJ8_newLength_3 ⟨Nat.zero_le _, Nat.zero_le _⟩ ?_
  refine W.eq (g2 := F0 m 6 ls [.int r1, .int i0]) rfl ?_
  refine lv_iadd (pc := 6) hx hb dJ8_newLength_6 ?_
  refine lv_istore_n (pc := 7) (lv' := [(3, .int (i0 + r1)), (0, .int i0), (1, .int i1), (2, .int i2)]) hx hb dJ8_newLength_7 rfl hl (by decide) rfl (fun ls hl => ?_)
  refine lv_iconst (pc := 8) (v := (0 : Int32)) hx hb dJ8_newLength_8 (by decide) ?_
  refine lv_iload_n (pc := 9) hx hb dJ8_newLength_9 rfl (lv_at hl 0 rfl) ?_
  refine lv_icmp_ge (pc := 10) (tgt := 21) hx hb dJ8_newLength_10 (by decide) (fun c3 => ?_) (fun c3 => ?_)
  · have hm := ite_t c3 hm
    refine lv_iload_n (pc := 21) hx hb dJ8_newLength_21 rfl (lv_at hl 1 rfl) ?_
    refine lv_iload_n (pc := 22) hx hb dJ8_newLength_22 rfl (lv_at hl 2 rfl) ?_
    exact nomatch hm
  · have hm := ite_f c3 hm
    refine lv_iload_n (pc := 13) hx hb dJ8_newLength_13 rfl (lv_at hl 0 rfl) ?_
    refine lv_ldc (pc := 14) (v := (2147483639 : Int32)) hx hb hown (hts _ q1026) dJ8_newLength_14 ?_
    refine lv_icmp_gt (pc := 16) (tgt := 21) hx hb dJ8_newLength_16 (by decide) (fun c4 => ?_) (fun c4 => ?_)
    · have hm := ite_t c4 hm
      refine lv_iload_n (pc := 21) hx hb dJ8_newLength_21 rfl (lv_at hl 1 rfl) ?_
      refine lv_iload_n (pc := 22) hx hb dJ8_newLength_22 rfl (lv_at hl 2 rfl) ?_
      exact nomatch hm
    · have hm := ite_f c4 hm
      refine lv_iload_n (pc := 19) hx hb dJ8_newLength_19 rfl (lv_at hl 0 rfl) ?_
      have e9 := rs1 hm
      subst e9
      exact rk_iretP (pc := 20) hx hb hr hlk rfl dJ8_newLength_20
set_option maxHeartbeats 4000000 in
theorem ct_J8_newLength {G : Gv} {l : Launch} {i0 : Int32} {i1 : Int32} {i2 : Int32} {rx : Int32} (hm : fJ8_newLength i0 i1 i2 = some rx) : CP G l yJ8_newLength (ws_ yJ8_newLength cJ8_newLength 4 (some .int)) 1 21 [.int i0, .int i1, .int i2] (fun H => True) (some (.int rx)) := by
  refine Met.ofW (cc := cJ8_newLength) (maxL := 4) (ret := (some .int)) (by decide +kernel) rfl ?_
  intro p e s m args below meth c s₁ B hml hv
  obtain ⟨rfl, -, hK⟩ := hv
  have hts := atoms_spec (ws := ws_ yJ8_newLength cJ8_newLength 4 (some .int)) B.pre
  have hts : ∀ w ∈ lw_all, w.before _ s = true := fun w h => hts w (List.mem_cons_of_mem _ h)
  have C : Cx G p s m _ meth c RJ8 cJ8_newLength 4 (some .int) := ⟨B.exec, B.bytes, B.returns, B.notSynchronized, hml, findClass_of_methodNamed B.named, hts, hK⟩
  have hl := lv_entry ([.int i0, .int i1, .int i2]) (n := 4) (Nat.le_of_ble_eq_true rfl)
  rw [lg_entry_eq]
  generalize (lg_sl ([.int i0, .int i1, .int i2]) ++ List.replicate (4 - (lg_sl ([.int i0, .int i1, .int i2])).length) Slot.unset).toArray = ls at hl ⊢
  have hl : lv_has ls 4 [(0, .int i0), (1, .int i1), (2, .int i2)] := hl
  exact w_fJ8_newLength C _ _ _ hm ls hl
theorem yn_J8_newLength : YN yJ8_newLength 3 := by
  unfold YN
  decide +kernel
theorem lkJ4_80 : LSt RJ4 80 yJ8_newLength cJ8_newLength 4 (some .int) := ⟨q1020, q1021, q137, q1022⟩
theorem yn_J9_copyOf : YN yJ9_copyOf 2 := by
  unfold YN
  decide +kernel
theorem lkJ4_86 : LSt RJ4 86 yJ9_copyOf cJ9_copyOf 2 (some (.array (.object "java/lang/Object"))) := ⟨q1030, q1031, q138, q1032⟩
noncomputable def fJ4_grow_node_25 (PL : Nat → Bool) (Z : Nat) (b0 : Nat) (V0 : Mem) (v1 : Mem) (zc : Nat) (p0 : Nat) (t0 : Int32) (t1 : Int32) (t2 : Int32) : Option (Nat × Mem) :=
  ob (fJ8_newLength t0 t1 t2) fun r8 =>
  gb (kd PL v1 p0 17) (
  lo (gR v1 p0 0) fun o11 =>
  ob o11 fun p13 =>
  ob3 (fJ9_copyOf_node PL (Z + zc) b0 V0 v1 p13 r8) fun o15 rc16 w17 =>
  gb (kd PL w17 p0 17) (
  lm (sR w17 p0 0 o15) fun v1_32 =>
  some ((zc + rc16), v1_32)))
noncomputable def fJ4_grow_node (PL : Nat → Bool) (Z : Nat) (b0 : Nat) (V0 : Mem) (v1 : Mem) (p0 : Nat) (i1 : Int32) : Option (Nat × Mem) :=
  gb (kd PL v1 p0 17) (
  lo (gR v1 p0 0) fun o2 =>
  ob o2 fun p4 =>
  gb (ka PL v1 p4 44) (
  if (64 : Int32) ≤ (Int32.ofNat (gI v1 p4 98).toNatClampNeg) then (
  fJ4_grow_node_25 PL Z b0 V0 v1 0 p0 (Int32.ofNat (gI v1 p4 98).toNatClampNeg) (i1 - (Int32.ofNat (gI v1 p4 98).toNatClampNeg)) ((Int32.ofNat (gI v1 p4 98).toNatClampNeg) >>> ((1 : Int32) &&& 31)))
  else (
  fJ4_grow_node_25 PL Z b0 V0 v1 0 p0 (Int32.ofNat (gI v1 p4 98).toNatClampNeg) (i1 - (Int32.ofNat (gI v1 p4 98).toNatClampNeg)) ((Int32.ofNat (gI v1 p4 98).toNatClampNeg) + (2 : Int32)))))
set_option maxHeartbeats 4000000 in
theorem w_fJ4_grow_node_25 (C : Cx G p s m args meth c RJ4 cJ4_grow 4 none) {b0 : Nat} {PL : Nat → Bool} {Z : Nat} {V0 : Mem} {vP0 : Mem} {rc : Nat} {rw1 : Mem} (hPX : ∀ z, PL z = true → ¬ fX b0 z) (he0 : b0 + 357 ≤ s.heap.size) (hZz : s.heap.size = Z) (hZP : ZP G) : ∀ (v1 : Mem) (zc : Nat) (p0 : Nat) (t0 : Int32) (t1 : Int32) (t2 : Int32), fJ4_grow_node_25 PL Z b0 V0 v1 zc p0 t0 t1 t2 = some (rc, rw1) → ∀ (H : Heap) (locs : List Loc) (ls : Array Slot), rg G b0 357 (shX0 G.2.1) V0 H → pl G PL v1 H → va_S (FA (fP PL vP0) s.heap.size) s.heap H locs → H.size = s.heap.size + zc → KM vP0 v1 s.heap.size → lv_has ls 4 [(0, .ref p0)] → W p l e (rmT 4 1 90 141) s m args below meth c H locs 0 0 (MQ below (QcT (FA (fP PL vP0) s.heap.size) (fun ov H => ov = none ∧ pl G PL rw1 H ∧ H.size = s.heap.size + rc ∧ KM vP0 rw1 s.heap.size)) args s 1 90 (FA (fP PL vP0) s.heap.size)) (F0 m 25 ls [.int t2, .int t1, .int t0]) := by
  intro v1 zc p0 t0 t1 t2 hm H locs ls hW0 hW1 hS hz hKM hl
  obtain ⟨hx, hb, hr, hlk, hml, hown, hts, hK⟩ := id C
  unfold fJ4_grow_node_25 at hm
  obtain ⟨r8, hq9, hm⟩ := ob_some hm
  refine rk_PS (pc := 25) (As := [.int t0, .int t1, .int t2]) (rest := []) hx hb hml hown hts hK lkJ4_80 yn_J8_newLength (ct_J8_newLength (G := G) (l := l) hq9) ⟨Nat.le_of_ble_eq_true rfl, Nat.le_of_ble_eq_true rfl⟩ trivial rfl rfl hl.1 (Nat.le_of_ble_eq_true rfl) dJ4_grow_25 ⟨Nat.zero_le _, Nat.zero_le _⟩ ?_
  refine W.eq (g2 := F0 m 28 ls [.int r8]) rfl ?_
  refine lv_istore_n (pc := 28) (lv' := [(3, .int r8), (0, .ref p0)]) hx hb dJ4_grow_28 rfl hl (by decide) rfl (fun ls hl => ?_)
  refine lv_aload_n (pc := 29) hx hb dJ4_grow_29 rfl (lv_at hl 1 rfl) ?_
  refine lv_aload_n (pc := 30) hx hb dJ4_grow_30 rfl (lv_at hl 1 rfl) ?_
  obtain ⟨hg10, hm⟩ := gb_some hm
  obtain ⟨o11, he12, hm⟩ := lo_some hm
  refine rk_get (pc := 31) hx hb hts hown hK (pl_rg hW1) flJ4_17 p0 (Nat.lt_succ_self _) (Nat.zero_add _).symm (shP_17 (kd_PL hg10) (kd_k hg10)) (x := va_rf o11) (congrArg (fun z => some (va_rf z)) he12) dJ4_grow_31 ?_
  refine lv_iload_n (pc := 34) hx hb dJ4_grow_34 rfl (lv_at hl 0 rfl) ?_
  obtain ⟨p13, he14, hm⟩ := ob_some hm
  subst he14
  obtain ⟨o15, rc16, w17, hq18, hm⟩ := ob3_some hm
  have hq19 := hq18
  rw [show (Z + zc) = H.size by omega] at hq19
  refine rk_TS (pc := 35) (As := [.ref p13, .int r8]) (rest := [.ref p0]) (mc := 1) (ms := 90) hx hb hml hown hts hK hS (fun q hq => FA_sz rfl q hq) lkJ4_86 yn_J9_copyOf (ct_J9_copyOf_node (G := G) (l := l) (b0 := b0) hq19 hPX hZP) ⟨Nat.le_of_ble_eq_true rfl, Nat.le_of_ble_eq_true rfl⟩ (fun z h => (KM_hf2 hKM z h)) ⟨hW0, hW1⟩ rfl rfl hl.1 (Nat.le_of_ble_eq_true rfl) dJ4_grow_35 ⟨Nat.le_of_ble_eq_true rfl, Nat.le_of_ble_eq_true rfl⟩ (fun ov9 H20 locs21 hP22 hkp23 hS24 => ?_)
  obtain ⟨rfl, hW25, hz26, hKM27⟩ := hP22
  have hW28 := rg_keepX hW0 hkp23 (by intro z h0 h3; have h1 := h0.1.1; have h2 := h0.1.2; have h4 := h0.2; exact hPX _ h3.1 h0)
  have hz29 : H20.size = s.heap.size + (zc + rc16) := by omega
  have hKM30 := KM.trans hKM hKM27 (by omega)
  refine W.eq (g2 := F0 m 38 ls [va_rf o15, .ref p0]) rfl ?_
  obtain ⟨hg31, hm⟩ := gb_some hm
  refine rp_put (pc := 38) (q := p0) hx hb hts hown hK hW25 hS24 flJ4_17 ft_J4 (kd_A hKM30 hg31 (by decide)) (shP_17 (kd_PL hg31) (kd_k hg31)) rfl (x := va_rf o15) (rf_nar _ rfl o15) (rf_fit _ rfl o15) (Nat.le_of_ble_eq_true rfl) (sR w17 p0 0 o15) sR_ne (by rw [sR_eq]; exact shP_17 (kd_PL hg31) (kd_k hg31)) dJ4_grow_38 (fun H33 locs34 hW35 hS36 hz37 hkp38 => ?_)
  have hKM39 := KM.sR (o := p0) (j := 0) (x := o15) hKM30
  obtain ⟨v1_32, he9, hm⟩ := lm_some hm
  rw [he9] at hW35 hKM39
  have hW40 := rg_keepqX hW28 hkp38 (hPX _ (kd_PL hg31))
  have hz41 := hz37.trans hz29
  obtain ⟨e8, e9⟩ := rs2 hm
  subst e8
  subst e9
  exact rk_vretA (pc := 41) hx hb hr hlk hS36 ⟨rfl, hW35, hz41, hKM39⟩ dJ4_grow_41 (by exact Nat.le_of_ble_eq_true rfl) (by exact Nat.le_of_ble_eq_true rfl)
set_option maxHeartbeats 4000000 in
theorem w_fJ4_grow_node (C : Cx G p s m args meth c RJ4 cJ4_grow 4 none) {b0 : Nat} {PL : Nat → Bool} {Z : Nat} {V0 : Mem} {vP0 : Mem} {rc : Nat} {rw1 : Mem} (hPX : ∀ z, PL z = true → ¬ fX b0 z) (he0 : b0 + 357 ≤ s.heap.size) (hZz : s.heap.size = Z) (hZP : ZP G) : ∀ (v1 : Mem) (p0 : Nat) (i1 : Int32), fJ4_grow_node PL Z b0 V0 v1 p0 i1 = some (rc, rw1) → ∀ (H : Heap) (locs : List Loc) (ls : Array Slot), rg G b0 357 (shX0 G.2.1) V0 H → pl G PL v1 H → va_S (FA (fP PL vP0) s.heap.size) s.heap H locs → H.size = s.heap.size + 0 → KM vP0 v1 s.heap.size → lv_has ls 4 [(0, .ref p0), (1, .int i1)] → W p l e (rmT 4 1 90 141) s m args below meth c H locs 0 0 (MQ below (QcT (FA (fP PL vP0) s.heap.size) (fun ov H => ov = none ∧ pl G PL rw1 H ∧ H.size = s.heap.size + rc ∧ KM vP0 rw1 s.heap.size)) args s 1 90 (FA (fP PL vP0) s.heap.size)) (F0 m 0 ls []) := by
  intro v1 p0 i1 hm H locs ls hW0 hW1 hS hz hKM hl
  obtain ⟨hx, hb, hr, hlk, hml, hown, hts, hK⟩ := id C
  unfold fJ4_grow_node at hm
  refine lv_aload_n (pc := 0) hx hb dJ4_grow_0 rfl (lv_at hl 0 rfl) ?_
  obtain ⟨hg1, hm⟩ := gb_some hm
  obtain ⟨o2, he3, hm⟩ := lo_some hm
  refine rk_get (pc := 1) hx hb hts hown hK (pl_rg hW1) flJ4_17 p0 (Nat.lt_succ_self _) (Nat.zero_add _).symm (shP_17 (kd_PL hg1) (kd_k hg1)) (x := va_rf o2) (congrArg (fun z => some (va_rf z)) he3) dJ4_grow_1 ?_
  obtain ⟨p4, he5, hm⟩ := ob_some hm
  subst he5
  obtain ⟨hg6, hm⟩ := gb_some hm
  refine rp_alen (pc := 4) hx hb hK hW1 hg6 dJ4_grow_4 ?_
  refine lv_istore_n (pc := 5) (lv' := [(2, .int (Int32.ofNat (gI v1 p4 98).toNatClampNeg)), (0, .ref p0), (1, .int i1)]) hx hb dJ4_grow_5 rfl hl (by decide) rfl (fun ls hl => ?_)
  refine lv_iload_n (pc := 6) hx hb dJ4_grow_6 rfl (lv_at hl 0 rfl) ?_
  refine lv_iload_n (pc := 7) hx hb dJ4_grow_7 rfl (lv_at hl 2 rfl) ?_
  refine lv_iload_n (pc := 8) hx hb dJ4_grow_8 rfl (lv_at hl 0 rfl) ?_
  refine lv_isub (pc := 9) hx hb dJ4_grow_9 ?_
  refine lv_iload_n (pc := 10) hx hb dJ4_grow_10 rfl (lv_at hl 0 rfl) ?_
  refine lv_bipush (pc := 11) (v := (64 : Int32)) hx hb dJ4_grow_11 (by decide) ?_
  refine lv_icmp_ge (pc := 13) (tgt := 22) hx hb dJ4_grow_13 (by decide) (fun c7 => ?_) (fun c7 => ?_)
  · have hm := ite_t c7 hm
    refine lv_iload_n (pc := 22) hx hb dJ4_grow_22 rfl (lv_at hl 0 rfl) ?_
    refine lv_iconst (pc := 23) (v := (1 : Int32)) hx hb dJ4_grow_23 (by decide) ?_
    refine lv_ishr (pc := 24) hx hb dJ4_grow_24 ?_
    exact (w_fJ4_grow_node_25 C hPX he0 hZz hZP) v1 0 p0 (Int32.ofNat (gI v1 p4 98).toNatClampNeg) (i1 - (Int32.ofNat (gI v1 p4 98).toNatClampNeg)) ((Int32.ofNat (gI v1 p4 98).toNatClampNeg) >>> ((1 : Int32) &&& 31)) hm H locs ls hW0 hW1 hS hz hKM (lv_sub hl [1] rfl)
  · have hm := ite_f c7 hm
    refine lv_iload_n (pc := 16) hx hb dJ4_grow_16 rfl (lv_at hl 0 rfl) ?_
    refine lv_iconst (pc := 17) (v := (2 : Int32)) hx hb dJ4_grow_17 (by decide) ?_
    refine lv_iadd (pc := 18) hx hb dJ4_grow_18 ?_
    refine lv_goto (pc := 19) (tgt := 25) hx hb dJ4_grow_19 (by decide) ?_
    exact (w_fJ4_grow_node_25 C hPX he0 hZz hZP) v1 0 p0 (Int32.ofNat (gI v1 p4 98).toNatClampNeg) (i1 - (Int32.ofNat (gI v1 p4 98).toNatClampNeg)) ((Int32.ofNat (gI v1 p4 98).toNatClampNeg) + (2 : Int32)) hm H locs ls hW0 hW1 hS hz hKM (lv_sub hl [1] rfl)
set_option maxHeartbeats 4000000 in
theorem ct_J4_grow_node {G : Gv} {l : Launch} {b0 : Nat} {PL : Nat → Bool} {Z : Nat} {V0 : Mem} {v1 : Mem} {p0 : Nat} {i1 : Int32} {rc : Nat} {rw1 : Mem} (hm : fJ4_grow_node PL Z b0 V0 v1 p0 i1 = some (rc, rw1)) (hPX : ∀ z, PL z = true → ¬ fX b0 z) (hZP : ZP G) : CT G l yJ4_grow (ws_ yJ4_grow cJ4_grow 4 none) 4 1 90 141 [.ref p0, .int i1] (fP PL v1) Z (fun H => rg G b0 357 (shX0 G.2.1) V0 H ∧ pl G PL v1 H) (fun ov H => ov = none ∧ pl G PL rw1 H ∧ H.size = Z + rc ∧ KM v1 rw1 Z) := by
  refine Met.ofW (cc := cJ4_grow) (maxL := 4) (ret := none) (by decide +kernel) rfl ?_
  intro p e s m args below meth c s₁ B hml hv
  obtain ⟨rfl, ⟨hz, hW0, hW1⟩, hK⟩ := hv
  subst hz
  have he0 := rg_end hW0 356 (by decide) rfl (fun _ _ _ => rfl)
  have hZz : s.heap.size = s.heap.size := rfl
  have hts := atoms_spec (ws := ws_ yJ4_grow cJ4_grow 4 none) B.pre
  have hts : ∀ w ∈ lw_all, w.before _ s = true := fun w h => hts w (List.mem_cons_of_mem _ h)
  have C : Cx G p s m _ meth c RJ4 cJ4_grow 4 none := ⟨B.exec, B.bytes, B.returns, B.notSynchronized, hml, findClass_of_methodNamed B.named, hts, hK⟩
  have hl := lv_entry ([.ref p0, .int i1]) (n := 4) (Nat.le_of_ble_eq_true rfl)
  rw [lg_entry_eq]
  generalize (lg_sl ([.ref p0, .int i1]) ++ List.replicate (4 - (lg_sl ([.ref p0, .int i1])).length) Slot.unset).toArray = ls at hl ⊢
  have hl : lv_has ls 4 [(0, .ref p0), (1, .int i1)] := hl
  exact w_fJ4_grow_node C hPX he0 hZz hZP _ _ _ hm s.heap [] ls hW0 hW1 va_S.rf rfl KM.rf hl
theorem yn_J4_grow : YN yJ4_grow 1 := by
  unfold YN
  decide +kernel
theorem lkJ4_96 : LV RJ4 96 RJ4 yJ4_grow cJ4_grow 4 none := ⟨q1016, q1018, qs27, q123, q1019⟩
theorem flJ4_21 : FL RJ4 21 17 2 RJ4 TJ4 4 := ⟨in_J4, rfl, by decide, q391⟩
theorem yn_X8_compareTo : YN yX8_compareTo 1 := by
  unfold YN
  decide +kernel
theorem lfJ4_146_X8 : LF RJ4 146 RX8 ⟨"java/lang/Comparable", "compareTo", "(Ljava/lang/Object;)I"⟩ yX8_compareTo cX8_compareTo 2 (some .int) := ⟨q1101, q1116, q1118, q127, q1120⟩
theorem ynx_J4_146 : YN ⟨"java/lang/Comparable", "compareTo", "(Ljava/lang/Object;)I"⟩ 1 := by
  unfold YN
  decide +kernel
noncomputable def fJ4_siftUpComparable_node_5 (PL : Nat → Bool) (b0 : Nat) (V0 : Mem) (k5 : Mem → Int32 → Nat → Nat → Option (Mem)) (v1 : Mem) (i0 : Int32) (p2 : Nat) (n3 : Nat) : Option (Mem) :=
  if i0 ≤ 0 then (
  gb (ka PL v1 p2 44) (
  gb (inR i0 (gI v1 p2 98).toNatClampNeg) (
  lm (sR v1 p2 i0.toNatClampNeg (some (b0 + (197 + 4 * n3 + 0)))) fun v1_8 =>
  some v1_8)))
  else (
  gb (ka PL v1 p2 44) (
  gb (inR ((i0 - (1 : Int32)).toUInt32 >>> ((1 : Int32).toUInt32 &&& Int32.toUInt32 31)).toInt32 (gI v1 p2 98).toNatClampNeg) (
  lo (gR v1 p2 ((i0 - (1 : Int32)).toUInt32 >>> ((1 : Int32).toUInt32 &&& Int32.toUInt32 31)).toInt32.toNatClampNeg) fun o20 =>
  ob o20 fun p22 =>
  ob (fi b0 197 4 40 p22) fun n24 =>
  ob (fX8_compareTo (shf V0 (197 + 4 * n3)) (shf V0 (197 + 4 * n24))) fun r28 =>
  if r28 < 0 then (
  gb (ka PL v1 p2 44) (
  gb (inR i0 (gI v1 p2 98).toNatClampNeg) (
  lm (sR v1 p2 i0.toNatClampNeg (some (b0 + (197 + 4 * n24 + 0)))) fun v1_33 =>
  k5 v1_33 ((i0 - (1 : Int32)).toUInt32 >>> ((1 : Int32).toUInt32 &&& Int32.toUInt32 31)).toInt32 p2 n3)))
  else (
  gb (ka PL v1 p2 44) (
  gb (inR i0 (gI v1 p2 98).toNatClampNeg) (
  lm (sR v1 p2 i0.toNatClampNeg (some (b0 + (197 + 4 * n3 + 0)))) fun v1_45 =>
  some v1_45))))))
noncomputable def fJ4_siftUpComparable_node (PL : Nat → Bool) (b0 : Nat) (V0 : Mem) (v1 : Mem) (i0 : Int32) (p1 : Nat) (p2 : Nat) : Option (Mem) :=
  ob (fi b0 197 4 40 p1) fun n1 =>
  lq4 (fJ4_siftUpComparable_node_5 PL b0 V0) FU v1 i0 p2 n1
set_option maxHeartbeats 4000000 in
theorem w_fJ4_siftUpComparable_node_5 (C : Cx G p s m args meth c RJ4 cJ4_siftUpComparable 6 none) {b0 : Nat} {PL : Nat → Bool} {V0 : Mem} {vP0 : Mem} {rw1 : Mem} (hPX : ∀ z, PL z = true → ¬ fX b0 z) (hZP : ZP G) {k5 : Mem → Int32 → Nat → Nat → Option (Mem)} (hk5 : ∀ (v1 : Mem) (i0 : Int32) (p2 : Nat) (n3 : Nat), k5 v1 i0 p2 n3 = some rw1 → (hn_n3 : n3 < 40) → ∀ (H : Heap) (locs : List Loc) (ls : Array Slot), rg G b0 357 (shX0 G.2.1) V0 H → pl G PL v1 H → va_S (FA (fP PL vP0) s.heap.size) s.heap H locs → H.size = s.heap.size → KM vP0 v1 s.heap.size → lv_has ls 6 [(0, .int i0), (2, .ref p2), (3, .ref (b0 + (197 + 4 * n3 + 0)))] → W p l e (rmT 2 0 0 46) s m args below meth c H locs 0 0 (MQ below (QcT (FA (fP PL vP0) s.heap.size) (fun ov H => ov = none ∧ pl G PL rw1 H ∧ H.size = s.heap.size ∧ KM vP0 rw1 s.heap.size)) args s 0 0 (FA (fP PL vP0) s.heap.size)) (F0 m 5 ls [])) : ∀ (v1 : Mem) (i0 : Int32) (p2 : Nat) (n3 : Nat), fJ4_siftUpComparable_node_5 PL b0 V0 k5 v1 i0 p2 n3 = some rw1 → (hn_n3 : n3 < 40) → ∀ (H : Heap) (locs : List Loc) (ls : Array Slot), rg G b0 357 (shX0 G.2.1) V0 H → pl G PL v1 H → va_S (FA (fP PL vP0) s.heap.size) s.heap H locs → H.size = s.heap.size → KM vP0 v1 s.heap.size → lv_has ls 6 [(0, .int i0), (2, .ref p2), (3, .ref (b0 + (197 + 4 * n3 + 0)))] → W p l e (rmT 2 0 0 46) s m args below meth c H locs 0 0 (MQ below (QcT (FA (fP PL vP0) s.heap.size) (fun ov H => ov = none ∧ pl G PL rw1 H ∧ H.size = s.heap.size ∧ KM vP0 rw1 s.heap.size)) args s 0 0 (FA (fP PL vP0) s.heap.size)) (F0 m 5 ls []) := by
  intro v1 i0 p2 n3 hm hn_n3 H locs ls hW0 hW1 hS hz hKM hl
  obtain ⟨hx, hb, hr, hlk, hml, hown, hts, hK⟩ := id C
  unfold fJ4_siftUpComparable_node_5 at hm
  refine lv_iload_n (pc := 5) hx hb dJ4_siftUpComparable_5 rfl (lv_at hl 0 rfl) ?_
  refine lv_if_le (pc := 6) (tgt := 47) hx hb dJ4_siftUpComparable_6 (by decide) (fun c5 => ?_) (fun c5 => ?_)
  · have hm := ite_t c5 hm
    refine lv_aload_n (pc := 47) hx hb dJ4_siftUpComparable_47 rfl (lv_at hl 1 rfl) ?_
    refine lv_iload_n (pc := 48) hx hb dJ4_siftUpComparable_48 rfl (lv_at hl 0 rfl) ?_
    refine lv_aload_n (pc := 49) hx hb dJ4_siftUpComparable_49 rfl (lv_at hl 2 rfl) ?_
    obtain ⟨hg6, hm⟩ := gb_some hm
    obtain ⟨hg7, hm⟩ := gb_some hm
    refine rp_aastR (pc := 50) (C := RX8) hx hb hts hK hW1 hS (kd_A hKM (ka_kd hg6) (by decide)) hg6 hg7 q2402 (rk_recv hK hW0 (197 + 4 * n3 + 0) (by omega) rfl rfl ((shX0_f197 G.2.1 hn_n3 _ rfl 0 (by decide) _ _ _).trans rfl)) dJ4_siftUpComparable_50 (fun H9 locs10 hW11 hS12 hz13 hkp14 => ?_)
    have hKM15 := KM.sR (o := p2) (j := i0.toNatClampNeg) (x := (some (b0 + (197 + 4 * n3 + 0)))) hKM
    obtain ⟨v1_8, he9, hm⟩ := lm_some hm
    rw [he9] at hW11 hKM15
    have hW16 := rg_keepqX hW0 hkp14 (hPX _ (kd_PL (ka_kd hg6)))
    have hz17 := hz13.trans hz
    have e9 := rs1 hm
    subst e9
    exact rk_vret (pc := 51) hx hb hr hlk hS12 ⟨rfl, hW11, hz17, hKM15⟩ dJ4_siftUpComparable_51
  · have hm := ite_f c5 hm
    refine lv_iload_n (pc := 9) hx hb dJ4_siftUpComparable_9 rfl (lv_at hl 0 rfl) ?_
    refine lv_iconst (pc := 10) (v := (1 : Int32)) hx hb dJ4_siftUpComparable_10 (by decide) ?_
    refine lv_isub (pc := 11) hx hb dJ4_siftUpComparable_11 ?_
    refine lv_iconst (pc := 12) (v := (1 : Int32)) hx hb dJ4_siftUpComparable_12 (by decide) ?_
    refine lv_iushr (pc := 13) hx hb dJ4_siftUpComparable_13 rfl ?_
    refine lv_istore (pc := 14) (lv' := [(4, .int ((i0 - (1 : Int32)).toUInt32 >>> ((1 : Int32).toUInt32 &&& Int32.toUInt32 31)).toInt32), (0, .int i0), (2, .ref p2), (3, .ref (b0 + (197 + 4 * n3 + 0)))]) hx hb dJ4_siftUpComparable_14 hl (by decide) rfl (fun ls hl => ?_)
    refine lv_aload_n (pc := 16) hx hb dJ4_siftUpComparable_16 rfl (lv_at hl 2 rfl) ?_
    refine lv_iload (pc := 17) hx hb dJ4_siftUpComparable_17 (lv_at hl 0 rfl) ?_
    obtain ⟨hg18, hm⟩ := gb_some hm
    obtain ⟨hg19, hm⟩ := gb_some hm
    obtain ⟨o20, he21, hm⟩ := lo_some hm
    refine rp_aald (pc := 19) hx hb hK hW1 hg18 hg19 he21 dJ4_siftUpComparable_19 ?_
    refine lv_astoreO (pc := 20) (lv' := [(5, va_rf o20), (4, .int ((i0 - (1 : Int32)).toUInt32 >>> ((1 : Int32).toUInt32 &&& Int32.toUInt32 31)).toInt32), (0, .int i0), (2, .ref p2), (3, .ref (b0 + (197 + 4 * n3 + 0)))]) hx hb dJ4_siftUpComparable_20 hl (by decide) rfl (fun ls hl => ?_)
    refine lv_aload_n (pc := 22) hx hb dJ4_siftUpComparable_22 rfl (lv_at hl 4 rfl) ?_
    refine lv_aloadO (pc := 23) hx hb dJ4_siftUpComparable_23 (lv_at hl 0 rfl) ?_
    obtain ⟨p22, he23, hm⟩ := ob_some hm
    subst he23
    obtain ⟨n24, hf25, hm⟩ := ob_some hm
    obtain ⟨ha26, hlt27⟩ := fi_some hf25
    subst ha26
    obtain ⟨r28, hq29, hm⟩ := ob_some hm
    refine rp_PF (pc := 25) (As := [.ref (b0 + (197 + 4 * n24 + 0))]) (rest := []) hx hb hml hown hts hK lfJ4_146_X8 ((hZP s hK).1.2.1) (T := TX8) (N := 8) (ci := 8) rfl ynx_J4_146 (ct_X8_compareTo (G := G) (l := l) (b0 := (b0 + (197 + 4 * n3 + 0))) (b1 := (b0 + (197 + 4 * n24 + 0))) hq29) ⟨Nat.le_of_ble_eq_true rfl, Nat.le_of_ble_eq_true rfl⟩ (rk_recv hK hW0 (197 + 4 * n3 + 0) (by omega) rfl rfl ((shX0_f197 G.2.1 hn_n3 _ rfl 0 (by decide) _ _ _).trans rfl)) ⟨(rg_sub (d := (197 + 4 * n3)) hW0 rfl (by omega) (fun o ho x y z => shX0_f197 G.2.1 hn_n3 _ rfl o ho x y z)), (rg_sub (d := (197 + 4 * n24)) hW0 rfl (by omega) (fun o ho x y z => shX0_f197 G.2.1 hlt27 _ rfl o ho x y z))⟩ rfl rfl hl.1 (Nat.le_of_ble_eq_true rfl) dJ4_siftUpComparable_25 ⟨Nat.zero_le _, Nat.zero_le _⟩ ?_
    refine W.eq (g2 := F0 m 30 ls [.int r28]) rfl ?_
    refine lv_if_lt (pc := 30) (tgt := 36) hx hb dJ4_siftUpComparable_30 (by decide) (fun c30 => ?_) (fun c30 => ?_)
    · have hm := ite_t c30 hm
      refine lv_aload_n (pc := 36) hx hb dJ4_siftUpComparable_36 rfl (lv_at hl 3 rfl) ?_
      refine lv_iload_n (pc := 37) hx hb dJ4_siftUpComparable_37 rfl (lv_at hl 2 rfl) ?_
      refine lv_aload (pc := 38) hx hb dJ4_siftUpComparable_38 (lv_at hl 0 rfl) ?_
      obtain ⟨hg31, hm⟩ := gb_some hm
      obtain ⟨hg32, hm⟩ := gb_some hm
      refine rp_aastR (pc := 40) (C := RX8) hx hb hts hK hW1 hS (kd_A hKM (ka_kd hg31) (by decide)) hg31 hg32 q2402 (rk_recv hK hW0 (197 + 4 * n24 + 0) (by omega) rfl rfl ((shX0_f197 G.2.1 hlt27 _ rfl 0 (by decide) _ _ _).trans rfl)) dJ4_siftUpComparable_40 (fun H34 locs35 hW36 hS37 hz38 hkp39 => ?_)
      have hKM40 := KM.sR (o := p2) (j := i0.toNatClampNeg) (x := (some (b0 + (197 + 4 * n24 + 0)))) hKM
      obtain ⟨v1_33, he9, hm⟩ := lm_some hm
      rw [he9] at hW36 hKM40
      have hW41 := rg_keepqX hW0 hkp39 (hPX _ (kd_PL (ka_kd hg31)))
      have hz42 := hz38.trans hz
      refine lv_iload (pc := 41) hx hb dJ4_siftUpComparable_41 (lv_at hl 1 rfl) ?_
      refine lv_istore_n (pc := 43) (lv' := [(0, .int ((i0 - (1 : Int32)).toUInt32 >>> ((1 : Int32).toUInt32 &&& Int32.toUInt32 31)).toInt32), (5, .ref (b0 + (197 + 4 * n24 + 0))), (4, .int ((i0 - (1 : Int32)).toUInt32 >>> ((1 : Int32).toUInt32 &&& Int32.toUInt32 31)).toInt32), (2, .ref p2), (3, .ref (b0 + (197 + 4 * n3 + 0)))]) hx hb dJ4_siftUpComparable_43 rfl hl (by decide) rfl (fun ls hl => ?_)
      refine lv_goto (pc := 44) (tgt := 5) hx hb dJ4_siftUpComparable_44 (by decide) ?_
      exact hk5 v1_33 ((i0 - (1 : Int32)).toUInt32 >>> ((1 : Int32).toUInt32 &&& Int32.toUInt32 31)).toInt32 p2 n3 hm hn_n3 H34 locs35 ls hW41 hW36 hS37 hz42 hKM40 (lv_sub hl [0, 3, 4] rfl)
    · have hm := ite_f c30 hm
      refine lv_goto (pc := 33) (tgt := 47) hx hb dJ4_siftUpComparable_33 (by decide) ?_
      refine lv_aload_n (pc := 47) hx hb dJ4_siftUpComparable_47 rfl (lv_at hl 3 rfl) ?_
      refine lv_iload_n (pc := 48) hx hb dJ4_siftUpComparable_48 rfl (lv_at hl 2 rfl) ?_
      refine lv_aload_n (pc := 49) hx hb dJ4_siftUpComparable_49 rfl (lv_at hl 4 rfl) ?_
      obtain ⟨hg43, hm⟩ := gb_some hm
      obtain ⟨hg44, hm⟩ := gb_some hm
      refine rp_aastR (pc := 50) (C := RX8) hx hb hts hK hW1 hS (kd_A hKM (ka_kd hg43) (by decide)) hg43 hg44 q2402 (rk_recv hK hW0 (197 + 4 * n3 + 0) (by omega) rfl rfl ((shX0_f197 G.2.1 hn_n3 _ rfl 0 (by decide) _ _ _).trans rfl)) dJ4_siftUpComparable_50 (fun H46 locs47 hW48 hS49 hz50 hkp51 => ?_)
      have hKM52 := KM.sR (o := p2) (j := i0.toNatClampNeg) (x := (some (b0 + (197 + 4 * n3 + 0)))) hKM
      obtain ⟨v1_45, he9, hm⟩ := lm_some hm
      rw [he9] at hW48 hKM52
      have hW53 := rg_keepqX hW0 hkp51 (hPX _ (kd_PL (ka_kd hg43)))
      have hz54 := hz50.trans hz
      have e9 := rs1 hm
      subst e9
      exact rk_vret (pc := 51) hx hb hr hlk hS49 ⟨rfl, hW48, hz54, hKM52⟩ dJ4_siftUpComparable_51
theorem w_fJ4_siftUpComparable_node_5_l (C : Cx G p s m args meth c RJ4 cJ4_siftUpComparable 6 none) {b0 : Nat} {PL : Nat → Bool} {V0 : Mem} {vP0 : Mem} {rw1 : Mem} (hPX : ∀ z, PL z = true → ¬ fX b0 z) (hZP : ZP G) : ∀ (n : Nat) (v1 : Mem) (i0 : Int32) (p2 : Nat) (n3 : Nat), lq4 (fJ4_siftUpComparable_node_5 PL b0 V0) n v1 i0 p2 n3 = some rw1 → (hn_n3 : n3 < 40) → ∀ (H : Heap) (locs : List Loc) (ls : Array Slot), rg G b0 357 (shX0 G.2.1) V0 H → pl G PL v1 H → va_S (FA (fP PL vP0) s.heap.size) s.heap H locs → H.size = s.heap.size → KM vP0 v1 s.heap.size → lv_has ls 6 [(0, .int i0), (2, .ref p2), (3, .ref (b0 + (197 + 4 * n3 + 0)))] → W p l e (rmT 2 0 0 46) s m args below meth c H locs 0 0 (MQ below (QcT (FA (fP PL vP0) s.heap.size) (fun ov H => ov = none ∧ pl G PL rw1 H ∧ H.size = s.heap.size ∧ KM vP0 rw1 s.heap.size)) args s 0 0 (FA (fP PL vP0) s.heap.size)) (F0 m 5 ls []) := by
  intro n
  induction n with
  | zero => intro v1 i0 p2 n3 hm; exact (lq4_0 hm).elim
  | succ n ih => intro v1 i0 p2 n3 hm; exact w_fJ4_siftUpComparable_node_5 C hPX hZP ih v1 i0 p2 n3 (lq4_s hm)
set_option maxHeartbeats 4000000 in
theorem w_fJ4_siftUpComparable_node (C : Cx G p s m args meth c RJ4 cJ4_siftUpComparable 6 none) {b0 : Nat} {PL : Nat → Bool} {V0 : Mem} {vP0 : Mem} {rw1 : Mem} (hPX : ∀ z, PL z = true → ¬ fX b0 z) (hZP : ZP G) : ∀ (v1 : Mem) (i0 : Int32) (p1 : Nat) (p2 : Nat), fJ4_siftUpComparable_node PL b0 V0 v1 i0 p1 p2 = some rw1 → ∀ (H : Heap) (locs : List Loc) (ls : Array Slot), rg G b0 357 (shX0 G.2.1) V0 H → pl G PL v1 H → va_S (FA (fP PL vP0) s.heap.size) s.heap H locs → H.size = s.heap.size → KM vP0 v1 s.heap.size → lv_has ls 6 [(0, .int i0), (1, .ref p1), (2, .ref p2)] → W p l e (rmT 2 0 0 46) s m args below meth c H locs 0 0 (MQ below (QcT (FA (fP PL vP0) s.heap.size) (fun ov H => ov = none ∧ pl G PL rw1 H ∧ H.size = s.heap.size ∧ KM vP0 rw1 s.heap.size)) args s 0 0 (FA (fP PL vP0) s.heap.size)) (F0 m 0 ls []) := by
  intro v1 i0 p1 p2 hm H locs ls hW0 hW1 hS hz hKM hl
  obtain ⟨hx, hb, hr, hlk, hml, hown, hts, hK⟩ := id C
  unfold fJ4_siftUpComparable_node at hm
  refine lv_aload_n (pc := 0) hx hb dJ4_siftUpComparable_0 rfl (lv_at hl 1 rfl) ?_
  obtain ⟨n1, hf2, hm⟩ := ob_some hm
  obtain ⟨ha3, hlt4⟩ := fi_some hf2
  subst ha3
  refine rp_castY (pc := 1) (nm := "java/lang/Comparable") (C := RX8) hx hb hown hts hK q1099 q1115 (rk_recv hK hW0 (197 + 4 * n1 + 0) (by omega) rfl rfl ((shX0_f197 G.2.1 hlt4 _ rfl 0 (by decide) _ _ _).trans rfl)) dJ4_siftUpComparable_1 ?_
  refine lv_astore_n (pc := 4) (lv' := [(3, .ref (b0 + (197 + 4 * n1 + 0))), (0, .int i0), (1, .ref (b0 + (197 + 4 * n1 + 0))), (2, .ref p2)]) hx hb dJ4_siftUpComparable_4 rfl hl (by decide) rfl (fun ls hl => ?_)
  exact (w_fJ4_siftUpComparable_node_5_l C hPX hZP FU) v1 i0 p2 n1 hm hlt4 H locs ls hW0 hW1 hS hz hKM (lv_sub hl [1, 3, 0] rfl)
set_option maxHeartbeats 4000000 in
theorem ct_J4_siftUpComparable_node {G : Gv} {l : Launch} {b0 : Nat} {PL : Nat → Bool} {V0 : Mem} {v1 : Mem} {i0 : Int32} {p1 : Nat} {p2 : Nat} {rw1 : Mem} {sz : Nat} (hm : fJ4_siftUpComparable_node PL b0 V0 v1 i0 p1 p2 = some rw1) (hPX : ∀ z, PL z = true → ¬ fX b0 z) (hZP : ZP G) : CT G l yJ4_siftUpComparable (ws_ yJ4_siftUpComparable cJ4_siftUpComparable 6 none) 2 0 0 46 [.int i0, .ref p1, .ref p2] (fP PL v1) sz (fun H => rg G b0 357 (shX0 G.2.1) V0 H ∧ pl G PL v1 H) (fun ov H => ov = none ∧ pl G PL rw1 H ∧ H.size = sz ∧ KM v1 rw1 sz) := by
  refine Met.ofW (cc := cJ4_siftUpComparable) (maxL := 6) (ret := none) (by decide +kernel) rfl ?_
  intro p e s m args below meth c s₁ B hml hv
  obtain ⟨rfl, ⟨hz, hW0, hW1⟩, hK⟩ := hv
  subst hz
  have hts := atoms_spec (ws := ws_ yJ4_siftUpComparable cJ4_siftUpComparable 6 none) B.pre
  have hts : ∀ w ∈ lw_all, w.before _ s = true := fun w h => hts w (List.mem_cons_of_mem _ h)
  have C : Cx G p s m _ meth c RJ4 cJ4_siftUpComparable 6 none := ⟨B.exec, B.bytes, B.returns, B.notSynchronized, hml, findClass_of_methodNamed B.named, hts, hK⟩
  have hl := lv_entry ([.int i0, .ref p1, .ref p2]) (n := 6) (Nat.le_of_ble_eq_true rfl)
  rw [lg_entry_eq]
  generalize (lg_sl ([.int i0, .ref p1, .ref p2]) ++ List.replicate (6 - (lg_sl ([.int i0, .ref p1, .ref p2])).length) Slot.unset).toArray = ls at hl ⊢
  have hl : lv_has ls 6 [(0, .int i0), (1, .ref p1), (2, .ref p2)] := hl
  exact w_fJ4_siftUpComparable_node C hPX hZP _ _ _ _ hm s.heap [] ls hW0 hW1 va_S.rf rfl KM.rf hl
theorem yn_J4_siftUpComparable : YN yJ4_siftUpComparable 3 := by
  unfold YN
  decide +kernel
theorem lkJ4_140 : LSt RJ4 140 yJ4_siftUpComparable cJ4_siftUpComparable 6 none := ⟨q1096, q1097, q123, q1098⟩
noncomputable def fJ4_siftUp_node (PL : Nat → Bool) (b0 : Nat) (V0 : Mem) (v1 : Mem) (p0 : Nat) (i1 : Int32) (p2 : Nat) : Option (Mem) :=
  gb (kd PL v1 p0 17) (
  lo (gR v1 p0 2) fun o2 =>
  od o2 (
  gb (kd PL v1 p0 17) (
  lo (gR v1 p0 0) fun o6 =>
  ob o6 fun p8 =>
  ob (fJ4_siftUpComparable_node PL b0 V0 v1 i1 p2 p8) fun w10 =>
  some w10)) (fun p4 =>
  gb (kd PL v1 p0 17) (
  lo (gR v1 p0 0) fun o24 =>
  gb (kd PL v1 p0 17) (
  lo (gR v1 p0 2) fun o27 =>
  none))))
set_option maxHeartbeats 4000000 in
theorem w_fJ4_siftUp_node (C : Cx G p s m args meth c RJ4 cJ4_siftUp 3 none) {b0 : Nat} {PL : Nat → Bool} {V0 : Mem} {vP0 : Mem} {rw1 : Mem} (hPX : ∀ z, PL z = true → ¬ fX b0 z) (hZP : ZP G) : ∀ (v1 : Mem) (p0 : Nat) (i1 : Int32) (p2 : Nat), fJ4_siftUp_node PL b0 V0 v1 p0 i1 p2 = some rw1 → ∀ (H : Heap) (locs : List Loc) (ls : Array Slot), rg G b0 357 (shX0 G.2.1) V0 H → pl G PL v1 H → va_S (FA (fP PL vP0) s.heap.size) s.heap H locs → H.size = s.heap.size → KM vP0 v1 s.heap.size → lv_has ls 3 [(0, .ref p0), (1, .int i1), (2, .ref p2)] → W p l e (rmT 3 0 0 71) s m args below meth c H locs 0 0 (MQ below (QcT (FA (fP PL vP0) s.heap.size) (fun ov H => ov = none ∧ pl G PL rw1 H ∧ H.size = s.heap.size ∧ KM vP0 rw1 s.heap.size)) args s 0 0 (FA (fP PL vP0) s.heap.size)) (F0 m 0 ls []) := by
  intro v1 p0 i1 p2 hm H locs ls hW0 hW1 hS hz hKM hl
  obtain ⟨hx, hb, hr, hlk, hml, hown, hts, hK⟩ := id C
  unfold fJ4_siftUp_node at hm
  refine lv_aload_n (pc := 0) hx hb dJ4_siftUp_0 rfl (lv_at hl 0 rfl) ?_
  obtain ⟨hg1, hm⟩ := gb_some hm
  obtain ⟨o2, he3, hm⟩ := lo_some hm
  refine rk_get (pc := 1) hx hb hts hown hK (pl_rg hW1) flJ4_21 p0 (Nat.lt_succ_self _) (Nat.zero_add _).symm (shP_17 (kd_PL hg1) (kd_k hg1)) (x := va_rf o2) (congrArg (fun z => some (va_rf z)) he3) dJ4_siftUp_1 ?_
  rcases o2 with _ | p4
  · have hm := od_n hm
    refine lv_ifnullN (pc := 4) (tgt := 23) hx hb dJ4_siftUp_4 (by decide) ?_
    refine lv_iload_n (pc := 23) hx hb dJ4_siftUp_23 rfl (lv_at hl 1 rfl) ?_
    refine lv_aload_n (pc := 24) hx hb dJ4_siftUp_24 rfl (lv_at hl 2 rfl) ?_
    refine lv_aload_n (pc := 25) hx hb dJ4_siftUp_25 rfl (lv_at hl 0 rfl) ?_
    obtain ⟨hg5, hm⟩ := gb_some hm
    obtain ⟨o6, he7, hm⟩ := lo_some hm
    refine rk_get (pc := 26) hx hb hts hown hK (pl_rg hW1) flJ4_17 p0 (Nat.lt_succ_self _) (Nat.zero_add _).symm (shP_17 (kd_PL hg5) (kd_k hg5)) (x := va_rf o6) (congrArg (fun z => some (va_rf z)) he7) dJ4_siftUp_26 ?_
    obtain ⟨p8, he9, hm⟩ := ob_some hm
    subst he9
    obtain ⟨w10, hq11, hm⟩ := ob_some hm
    refine rk_TS (pc := 29) (As := [.int i1, .ref p2, .ref p8]) (rest := []) (mc := 0) (ms := 0) hx hb hml hown hts hK hS (fun q hq => FA_sz rfl q hq) lkJ4_140 yn_J4_siftUpComparable (ct_J4_siftUpComparable_node (G := G) (l := l) (b0 := b0) (sz := H.size) hq11 hPX hZP) ⟨Nat.le_of_ble_eq_true rfl, Nat.le_of_ble_eq_true rfl⟩ (fun z h => (KM_hf2 hKM z h)) ⟨hW0, hW1⟩ rfl rfl hl.1 (Nat.le_of_ble_eq_true rfl) dJ4_siftUp_29 ⟨Nat.zero_le _, Nat.zero_le _⟩ (fun ov9 H12 locs13 hP14 hkp15 hS16 => ?_)
    obtain ⟨rfl, hW17, hz18, hKM19⟩ := hP14
    have hW20 := rg_keepX hW0 hkp15 (by intro z h0 h3; have h1 := h0.1.1; have h2 := h0.1.2; have h4 := h0.2; exact hPX _ h3.1 h0)
    have hz21 := hz18.trans hz
    have hKM22 := KM.trans hKM hKM19 (by omega)
    refine W.eq (g2 := F0 m 32 ls []) rfl ?_
    have e9 := rs1 hm
    subst e9
    exact rk_vret (pc := 32) hx hb hr hlk hS16 ⟨rfl, hW17, hz21, hKM22⟩ dJ4_siftUp_32
  · have hm := od_s hm
    refine lv_ifnull (pc := 4) hx hb dJ4_siftUp_4 ?_
    refine lv_iload_n (pc := 7) hx hb dJ4_siftUp_7 rfl (lv_at hl 1 rfl) ?_
    refine lv_aload_n (pc := 8) hx hb dJ4_siftUp_8 rfl (lv_at hl 2 rfl) ?_
    refine lv_aload_n (pc := 9) hx hb dJ4_siftUp_9 rfl (lv_at hl 0 rfl) ?_
    obtain ⟨hg23, hm⟩ := gb_some hm
    obtain ⟨o24, he25, hm⟩ := lo_some hm
    refine rk_get (pc := 10) hx hb hts hown hK (pl_rg hW1) flJ4_17 p0 (Nat.lt_succ_self _) (Nat.zero_add _).symm (shP_17 (kd_PL hg23) (kd_k hg23)) (x := va_rf o24) (congrArg (fun z => some (va_rf z)) he25) dJ4_siftUp_10 ?_
    refine lv_aload_n (pc := 13) hx hb dJ4_siftUp_13 rfl (lv_at hl 0 rfl) ?_
    obtain ⟨hg26, hm⟩ := gb_some hm
    obtain ⟨o27, he28, hm⟩ := lo_some hm
    refine rk_get (pc := 14) hx hb hts hown hK (pl_rg hW1) flJ4_21 p0 (Nat.lt_succ_self _) (Nat.zero_add _).symm (shP_17 (kd_PL hg26) (kd_k hg26)) (x := va_rf o27) (congrArg (fun z => some (va_rf z)) he28) dJ4_siftUp_14 ?_
    exact nomatch hm
set_option maxHeartbeats 4000000 in
theorem ct_J4_siftUp_node {G : Gv} {l : Launch} {b0 : Nat} {PL : Nat → Bool} {V0 : Mem} {v1 : Mem} {p0 : Nat} {i1 : Int32} {p2 : Nat} {rw1 : Mem} {sz : Nat} (hm : fJ4_siftUp_node PL b0 V0 v1 p0 i1 p2 = some rw1) (hPX : ∀ z, PL z = true → ¬ fX b0 z) (hZP : ZP G) : CT G l yJ4_siftUp (ws_ yJ4_siftUp cJ4_siftUp 3 none) 3 0 0 71 [.ref p0, .int i1, .ref p2] (fP PL v1) sz (fun H => rg G b0 357 (shX0 G.2.1) V0 H ∧ pl G PL v1 H) (fun ov H => ov = none ∧ pl G PL rw1 H ∧ H.size = sz ∧ KM v1 rw1 sz) := by
  refine Met.ofW (cc := cJ4_siftUp) (maxL := 3) (ret := none) (by decide +kernel) rfl ?_
  intro p e s m args below meth c s₁ B hml hv
  obtain ⟨rfl, ⟨hz, hW0, hW1⟩, hK⟩ := hv
  subst hz
  have hts := atoms_spec (ws := ws_ yJ4_siftUp cJ4_siftUp 3 none) B.pre
  have hts : ∀ w ∈ lw_all, w.before _ s = true := fun w h => hts w (List.mem_cons_of_mem _ h)
  have C : Cx G p s m _ meth c RJ4 cJ4_siftUp 3 none := ⟨B.exec, B.bytes, B.returns, B.notSynchronized, hml, findClass_of_methodNamed B.named, hts, hK⟩
  have hl := lv_entry ([.ref p0, .int i1, .ref p2]) (n := 3) (Nat.le_of_ble_eq_true rfl)
  rw [lg_entry_eq]
  generalize (lg_sl ([.ref p0, .int i1, .ref p2]) ++ List.replicate (3 - (lg_sl ([.ref p0, .int i1, .ref p2])).length) Slot.unset).toArray = ls at hl ⊢
  have hl : lv_has ls 3 [(0, .ref p0), (1, .int i1), (2, .ref p2)] := hl
  exact w_fJ4_siftUp_node C hPX hZP _ _ _ _ hm s.heap [] ls hW0 hW1 va_S.rf rfl KM.rf hl
theorem yn_J4_siftUp : YN yJ4_siftUp 2 := by
  unfold YN
  decide +kernel
theorem lkJ4_100 : LV RJ4 100 RJ4 yJ4_siftUp cJ4_siftUp 3 none := ⟨q1070, q1072, qs28, q123, q1073⟩
noncomputable def fJ4_offer_node_43 (PL : Nat → Bool) (Z : Nat) (b0 : Nat) (V0 : Mem) (v1 : Mem) (zc : Nat) (p0 : Nat) (p1 : Nat) (i2 : Int32) : Option (Int32 × Nat × Mem) :=
  gb (kd PL v1 p0 17) (
  ob (fJ4_siftUp_node PL b0 V0 v1 p0 i2 p1) fun w63 =>
  gb (kd PL w63 p0 17) (
  lm (sI w63 p0 1 (i2 + (1 : Int32))) fun v1_77 =>
  some ((1 : Int32), zc, v1_77)))
noncomputable def fJ4_offer_node_43b (PL : Nat → Bool) (Z : Nat) (b0 : Nat) (V0 : Mem) (v1 : Mem) (zc : Nat) (p0 : Nat) (p1 : Nat) (i2 : Int32) : Option (Int32 × Nat × Mem) :=
  gb (kd PL v1 p0 17) (
  ob (fJ4_siftUp_node PL b0 V0 v1 p0 i2 p1) fun w38 =>
  gb (kd PL w38 p0 17) (
  lm (sI w38 p0 1 (i2 + (1 : Int32))) fun v1_52 =>
  some ((1 : Int32), zc, v1_52)))
noncomputable def fJ4_offer_node (PL : Nat → Bool) (Z : Nat) (b0 : Nat) (V0 : Mem) (v1 : Mem) (p0 : Nat) (p1 : Nat) : Option (Int32 × Nat × Mem) :=
  gb (kd PL v1 p0 17) (
  gb (kd PL v1 p0 17) (
  lm (sI v1 p0 3 ((gI v1 p0 3) + (1 : Int32))) fun v1_3 =>
  gb (kd PL v1_3 p0 17) (
  gb (kd PL v1_3 p0 17) (
  lo (gR v1_3 p0 0) fun o15 =>
  ob o15 fun p17 =>
  gb (ka PL v1_3 p17 44) (
  if (gI v1_3 p0 1) < (Int32.ofNat (gI v1_3 p17 98).toNatClampNeg) then (
  fJ4_offer_node_43 PL Z b0 V0 v1_3 0 p0 p1 (gI v1_3 p0 1))
  else (
  gb (kd PL v1_3 p0 17) (
  ob2 (fJ4_grow_node PL (Z + 0) b0 V0 v1_3 p0 ((gI v1_3 p0 1) + (1 : Int32))) fun rc22 w23 =>
  fJ4_offer_node_43b PL Z b0 V0 w23 rc22 p0 p1 (gI v1_3 p0 1))))))))
set_option maxHeartbeats 4000000 in
theorem w_fJ4_offer_node_43 (C : Cx G p s m args meth c RJ4 cJ4_offer 3 (some .boolean)) {b0 : Nat} {PL : Nat → Bool} {Z : Nat} {V0 : Mem} {vP0 : Mem} {rx : Int32} {rc : Nat} {rw1 : Mem} (hPX : ∀ z, PL z = true → ¬ fX b0 z) (he0 : b0 + 357 ≤ s.heap.size) (hZz : s.heap.size = Z) (hZP : ZP G) : ∀ (v1 : Mem) (zc : Nat) (p0 : Nat) (p1 : Nat) (i2 : Int32), fJ4_offer_node_43 PL Z b0 V0 v1 zc p0 p1 i2 = some (rx, rc, rw1) → ∀ (H : Heap) (locs : List Loc) (ls : Array Slot), rg G b0 357 (shX0 G.2.1) V0 H → pl G PL v1 H → va_S (FA (fP PL vP0) s.heap.size) s.heap H locs → H.size = s.heap.size + zc → KM vP0 v1 s.heap.size → lv_has ls 3 [(0, .ref p0), (1, .ref p1), (2, .int i2)] → W p l e (rmT 5 1 90 164) s m args below meth c H locs 0 0 (MQ below (QcT (FA (fP PL vP0) s.heap.size) (fun ov H => ov = (some (.int rx)) ∧ pl G PL rw1 H ∧ H.size = s.heap.size + rc ∧ KM vP0 rw1 s.heap.size)) args s 1 90 (FA (fP PL vP0) s.heap.size)) (F0 m 43 ls []) := by
  intro v1 zc p0 p1 i2 hm H locs ls hW0 hW1 hS hz hKM hl
  obtain ⟨hx, hb, hr, hlk, hml, hown, hts, hK⟩ := id C
  unfold fJ4_offer_node_43 at hm
  refine lv_aload_n (pc := 43) hx hb dJ4_offer_43 rfl (lv_at hl 0 rfl) ?_
  refine lv_iload_n (pc := 44) hx hb dJ4_offer_44 rfl (lv_at hl 2 rfl) ?_
  refine lv_aload_n (pc := 45) hx hb dJ4_offer_45 rfl (lv_at hl 1 rfl) ?_
  obtain ⟨hg62, hm⟩ := gb_some hm
  obtain ⟨w63, hq64, hm⟩ := ob_some hm
  refine rk_TV (pc := 46) (As := [.int i2, .ref p1]) (rest := []) (mc := 0) (ms := 0) hx hb hml hown hts hK hS (fun q hq => FA_sz rfl q hq) lkJ4_100 rfl yn_J4_siftUp (ct_J4_siftUp_node (G := G) (l := l) (b0 := b0) (sz := H.size) hq64 hPX hZP) ⟨Nat.le_of_ble_eq_true rfl, Nat.le_of_ble_eq_true rfl⟩ (fun z h => (KM_hf2 hKM z h)) (rp_recv hK hW1 (C := RJ4) (T := TJ4) (N := 4) rfl (shP_17 (kd_PL hg62) (kd_k hg62))) ⟨hW0, hW1⟩ rfl rfl hl.1 (Nat.le_of_ble_eq_true rfl) dJ4_offer_46 ⟨Nat.zero_le _, Nat.zero_le _⟩ (fun ov9 H65 locs66 hP67 hkp68 hS69 => ?_)
  obtain ⟨rfl, hW70, hz71, hKM72⟩ := hP67
  have hW73 := rg_keepX hW0 hkp68 (by intro z h0 h3; have h1 := h0.1.1; have h2 := h0.1.2; have h4 := h0.2; exact hPX _ h3.1 h0)
  have hz74 := hz71.trans hz
  have hKM75 := KM.trans hKM hKM72 (by omega)
  refine W.eq (g2 := F0 m 49 ls []) rfl ?_
  refine lv_aload_n (pc := 49) hx hb dJ4_offer_49 rfl (lv_at hl 0 rfl) ?_
  refine lv_iload_n (pc := 50) hx hb dJ4_offer_50 rfl (lv_at hl 2 rfl) ?_
  refine lv_iconst (pc := 51) (v := (1 : Int32)) hx hb dJ4_offer_51 (by decide) ?_
  refine lv_iadd (pc := 52) hx hb dJ4_offer_52 ?_
  obtain ⟨hg76, hm⟩ := gb_some hm
  refine rp_put (pc := 53) (q := p0) hx hb hts hown hK hW70 hS69 flJ4_58 ft_J4 (kd_A hKM75 hg76 (by decide)) (shP_17 (kd_PL hg76) (kd_k hg76)) rfl (x := .int (i2 + (1 : Int32))) rfl rfl (Nat.le_of_ble_eq_true rfl) (sI w63 p0 1 (i2 + (1 : Int32))) sI_ne (by rw [sI_eq]; exact shP_17 (kd_PL hg76) (kd_k hg76)) dJ4_offer_53 (fun H78 locs79 hW80 hS81 hz82 hkp83 => ?_)
  have hKM84 := KM.sI (o := p0) (j := 1) (x := (i2 + (1 : Int32))) hKM75 (by decide)
  obtain ⟨v1_77, he9, hm⟩ := lm_some hm
  rw [he9] at hW80 hKM84
  have hW85 := rg_keepqX hW73 hkp83 (hPX _ (kd_PL hg76))
  have hz86 := hz82.trans hz74
  refine lv_iconst (pc := 56) (v := (1 : Int32)) hx hb dJ4_offer_56 (by decide) ?_
  obtain ⟨e7, e8, e9⟩ := rs3 hm
  subst e7
  subst e8
  subst e9
  exact rk_zretA (pc := 57) hx hb hr hlk rfl hS81 ⟨rfl, hW80, hz86, hKM84⟩ dJ4_offer_57 (by exact Nat.le_of_ble_eq_true rfl) (by exact Nat.le_of_ble_eq_true rfl)
set_option maxHeartbeats 4000000 in
theorem w_fJ4_offer_node_43b (C : Cx G p s m args meth c RJ4 cJ4_offer 3 (some .boolean)) {b0 : Nat} {PL : Nat → Bool} {Z : Nat} {V0 : Mem} {vP0 : Mem} {rx : Int32} {rc : Nat} {rw1 : Mem} (hPX : ∀ z, PL z = true → ¬ fX b0 z) (he0 : b0 + 357 ≤ s.heap.size) (hZz : s.heap.size = Z) (hZP : ZP G) : ∀ (v1 : Mem) (zc : Nat) (p0 : Nat) (p1 : Nat) (i2 : Int32), fJ4_offer_node_43b PL Z b0 V0 v1 zc p0 p1 i2 = some (rx, rc, rw1) → ∀ (H : Heap) (locs : List Loc) (ls : Array Slot), rg G b0 357 (shX0 G.2.1) V0 H → pl G PL v1 H → va_S (FA (fP PL vP0) s.heap.size) s.heap H locs → H.size = s.heap.size + zc → KM vP0 v1 s.heap.size → lv_has ls 3 [(0, .ref p0), (1, .ref p1), (2, .int i2)] → W p l e (rmT 5 1 90 164) s m args below meth c H locs 1 90 (MQ below (QcT (FA (fP PL vP0) s.heap.size) (fun ov H => ov = (some (.int rx)) ∧ pl G PL rw1 H ∧ H.size = s.heap.size + rc ∧ KM vP0 rw1 s.heap.size)) args s 1 90 (FA (fP PL vP0) s.heap.size)) (F0 m 43 ls []) := by
  intro v1 zc p0 p1 i2 hm H locs ls hW0 hW1 hS hz hKM hl
  obtain ⟨hx, hb, hr, hlk, hml, hown, hts, hK⟩ := id C
  unfold fJ4_offer_node_43b at hm
  refine lv_aload_n (pc := 43) hx hb dJ4_offer_43 rfl (lv_at hl 0 rfl) ?_
  refine lv_iload_n (pc := 44) hx hb dJ4_offer_44 rfl (lv_at hl 2 rfl) ?_
  refine lv_aload_n (pc := 45) hx hb dJ4_offer_45 rfl (lv_at hl 1 rfl) ?_
  obtain ⟨hg37, hm⟩ := gb_some hm
  obtain ⟨w38, hq39, hm⟩ := ob_some hm
  refine rk_TV (pc := 46) (As := [.int i2, .ref p1]) (rest := []) (mc := 0) (ms := 0) hx hb hml hown hts hK hS (fun q hq => FA_sz rfl q hq) lkJ4_100 rfl yn_J4_siftUp (ct_J4_siftUp_node (G := G) (l := l) (b0 := b0) (sz := H.size) hq39 hPX hZP) ⟨Nat.le_of_ble_eq_true rfl, Nat.le_of_ble_eq_true rfl⟩ (fun z h => (KM_hf2 hKM z h)) (rp_recv hK hW1 (C := RJ4) (T := TJ4) (N := 4) rfl (shP_17 (kd_PL hg37) (kd_k hg37))) ⟨hW0, hW1⟩ rfl rfl hl.1 (Nat.le_of_ble_eq_true rfl) dJ4_offer_46 ⟨Nat.le_of_ble_eq_true rfl, Nat.le_of_ble_eq_true rfl⟩ (fun ov9 H40 locs41 hP42 hkp43 hS44 => ?_)
  obtain ⟨rfl, hW45, hz46, hKM47⟩ := hP42
  have hW48 := rg_keepX hW0 hkp43 (by intro z h0 h3; have h1 := h0.1.1; have h2 := h0.1.2; have h4 := h0.2; exact hPX _ h3.1 h0)
  have hz49 := hz46.trans hz
  have hKM50 := KM.trans hKM hKM47 (by omega)
  refine W.eq (g2 := F0 m 49 ls []) rfl ?_
  refine lv_aload_n (pc := 49) hx hb dJ4_offer_49 rfl (lv_at hl 0 rfl) ?_
  refine lv_iload_n (pc := 50) hx hb dJ4_offer_50 rfl (lv_at hl 2 rfl) ?_
  refine lv_iconst (pc := 51) (v := (1 : Int32)) hx hb dJ4_offer_51 (by decide) ?_
  refine lv_iadd (pc := 52) hx hb dJ4_offer_52 ?_
  obtain ⟨hg51, hm⟩ := gb_some hm
  refine rp_put (pc := 53) (q := p0) hx hb hts hown hK hW45 hS44 flJ4_58 ft_J4 (kd_A hKM50 hg51 (by decide)) (shP_17 (kd_PL hg51) (kd_k hg51)) rfl (x := .int (i2 + (1 : Int32))) rfl rfl (Nat.le_of_ble_eq_true rfl) (sI w38 p0 1 (i2 + (1 : Int32))) sI_ne (by rw [sI_eq]; exact shP_17 (kd_PL hg51) (kd_k hg51)) dJ4_offer_53 (fun H53 locs54 hW55 hS56 hz57 hkp58 => ?_)
  have hKM59 := KM.sI (o := p0) (j := 1) (x := (i2 + (1 : Int32))) hKM50 (by decide)
  obtain ⟨v1_52, he9, hm⟩ := lm_some hm
  rw [he9] at hW55 hKM59
  have hW60 := rg_keepqX hW48 hkp58 (hPX _ (kd_PL hg51))
  have hz61 := hz57.trans hz49
  refine lv_iconst (pc := 56) (v := (1 : Int32)) hx hb dJ4_offer_56 (by decide) ?_
  obtain ⟨e7, e8, e9⟩ := rs3 hm
  subst e7
  subst e8
  subst e9
  exact rk_zretA (pc := 57) hx hb hr hlk rfl hS56 ⟨rfl, hW55, hz61, hKM59⟩ dJ4_offer_57 (by exact Nat.le_of_ble_eq_true rfl) (by exact Nat.le_of_ble_eq_true rfl)
set_option maxHeartbeats 4000000 in
theorem w_fJ4_offer_node (C : Cx G p s m args meth c RJ4 cJ4_offer 3 (some .boolean)) {b0 : Nat} {PL : Nat → Bool} {Z : Nat} {V0 : Mem} {vP0 : Mem} {rx : Int32} {rc : Nat} {rw1 : Mem} (hPX : ∀ z, PL z = true → ¬ fX b0 z) (he0 : b0 + 357 ≤ s.heap.size) (hZz : s.heap.size = Z) (hZP : ZP G) : ∀ (v1 : Mem) (p0 : Nat) (p1 : Nat), fJ4_offer_node PL Z b0 V0 v1 p0 p1 = some (rx, rc, rw1) → ∀ (H : Heap) (locs : List Loc) (ls : Array Slot), rg G b0 357 (shX0 G.2.1) V0 H → pl G PL v1 H → va_S (FA (fP PL vP0) s.heap.size) s.heap H locs → H.size = s.heap.size + 0 → KM vP0 v1 s.heap.size → lv_has ls 3 [(0, .ref p0), (1, .ref p1)] → W p l e (rmT 5 1 90 164) s m args below meth c H locs 0 0 (MQ below (QcT (FA (fP PL vP0) s.heap.size) (fun ov H => ov = (some (.int rx)) ∧ pl G PL rw1 H ∧ H.size = s.heap.size + rc ∧ KM vP0 rw1 s.heap.size)) args s 1 90 (FA (fP PL vP0) s.heap.size)) (F0 m 0 ls []) := by
  intro v1 p0 p1 hm H locs ls hW0 hW1 hS hz hKM hl
  obtain ⟨hx, hb, hr, hlk, hml, hown, hts, hK⟩ := id C
  unfold fJ4_offer_node at hm
  refine lv_aload_n (pc := 0) hx hb dJ4_offer_0 rfl (lv_at hl 1 rfl) ?_
  refine lv_ifnonnull (pc := 1) (tgt := 12) hx hb dJ4_offer_1 (by decide) ?_
  refine lv_aload_n (pc := 12) hx hb dJ4_offer_12 rfl (lv_at hl 0 rfl) ?_
  refine lv_dup (pc := 13) hx hb dJ4_offer_13 rfl ?_
  obtain ⟨hg1, hm⟩ := gb_some hm
  refine rk_get (pc := 14) hx hb hts hown hK (pl_rg hW1) flJ4_93 p0 (Nat.lt_succ_self _) (Nat.zero_add _).symm (shP_17 (kd_PL hg1) (kd_k hg1)) (x := .int (gI v1 p0 3)) rfl dJ4_offer_14 ?_
  refine lv_iconst (pc := 17) (v := (1 : Int32)) hx hb dJ4_offer_17 (by decide) ?_
  refine lv_iadd (pc := 18) hx hb dJ4_offer_18 ?_
  obtain ⟨hg2, hm⟩ := gb_some hm
  refine rp_put (pc := 19) (q := p0) hx hb hts hown hK hW1 hS flJ4_93 ft_J4 (kd_A hKM hg2 (by decide)) (shP_17 (kd_PL hg2) (kd_k hg2)) rfl (x := .int ((gI v1 p0 3) + (1 : Int32))) rfl rfl (Nat.le_of_ble_eq_true rfl) (sI v1 p0 3 ((gI v1 p0 3) + (1 : Int32))) sI_ne (by rw [sI_eq]; exact shP_17 (kd_PL hg2) (kd_k hg2)) dJ4_offer_19 (fun H4 locs5 hW6 hS7 hz8 hkp9 => ?_)
  have hKM10 := KM.sI (o := p0) (j := 3) (x := ((gI v1 p0 3) + (1 : Int32))) hKM (by decide)
  obtain ⟨v1_3, he9, hm⟩ := lm_some hm
  rw [he9] at hW6 hKM10
  have hW11 := rg_keepqX hW0 hkp9 (hPX _ (kd_PL hg2))
  have hz12 := hz8.trans hz
  refine lv_aload_n (pc := 22) hx hb dJ4_offer_22 rfl (lv_at hl 0 rfl) ?_
  obtain ⟨hg13, hm⟩ := gb_some hm
  refine rk_get (pc := 23) hx hb hts hown hK (pl_rg hW6) flJ4_58 p0 (Nat.lt_succ_self _) (Nat.zero_add _).symm (shP_17 (kd_PL hg13) (kd_k hg13)) (x := .int (gI v1_3 p0 1)) rfl dJ4_offer_23 ?_
  refine lv_istore_n (pc := 26) (lv' := [(2, .int (gI v1_3 p0 1)), (0, .ref p0), (1, .ref p1)]) hx hb dJ4_offer_26 rfl hl (by decide) rfl (fun ls hl => ?_)
  refine lv_iload_n (pc := 27) hx hb dJ4_offer_27 rfl (lv_at hl 0 rfl) ?_
  refine lv_aload_n (pc := 28) hx hb dJ4_offer_28 rfl (lv_at hl 1 rfl) ?_
  obtain ⟨hg14, hm⟩ := gb_some hm
  obtain ⟨o15, he16, hm⟩ := lo_some hm
  refine rk_get (pc := 29) hx hb hts hown hK (pl_rg hW6) flJ4_17 p0 (Nat.lt_succ_self _) (Nat.zero_add _).symm (shP_17 (kd_PL hg14) (kd_k hg14)) (x := va_rf o15) (congrArg (fun z => some (va_rf z)) he16) dJ4_offer_29 ?_
  obtain ⟨p17, he18, hm⟩ := ob_some hm
  subst he18
  obtain ⟨hg19, hm⟩ := gb_some hm
  refine rp_alen (pc := 32) hx hb hK hW6 hg19 dJ4_offer_32 ?_
  refine lv_icmp_lt (pc := 33) (tgt := 43) hx hb dJ4_offer_33 (by decide) (fun c20 => ?_) (fun c20 => ?_)
  · have hm := ite_t c20 hm
    exact (w_fJ4_offer_node_43 C hPX he0 hZz hZP) v1_3 0 p0 p1 (gI v1_3 p0 1) hm H4 locs5 ls hW11 hW6 hS7 hz12 hKM10 (lv_sub hl [1, 2, 0] rfl)
  · have hm := ite_f c20 hm
    refine lv_aload_n (pc := 36) hx hb dJ4_offer_36 rfl (lv_at hl 1 rfl) ?_
    refine lv_iload_n (pc := 37) hx hb dJ4_offer_37 rfl (lv_at hl 0 rfl) ?_
    refine lv_iconst (pc := 38) (v := (1 : Int32)) hx hb dJ4_offer_38 (by decide) ?_
    refine lv_iadd (pc := 39) hx hb dJ4_offer_39 ?_
    obtain ⟨hg21, hm⟩ := gb_some hm
    obtain ⟨rc22, w23, hq24, hm⟩ := ob2_some hm
    have hq25 := hq24
    rw [show (Z + 0) = H4.size by omega] at hq25
    refine rk_TV (pc := 40) (As := [.int ((gI v1_3 p0 1) + (1 : Int32))]) (rest := []) (mc := 1) (ms := 90) hx hb hml hown hts hK hS7 (fun q hq => FA_sz rfl q hq) lkJ4_96 rfl yn_J4_grow (ct_J4_grow_node (G := G) (l := l) (b0 := b0) hq25 hPX hZP) ⟨Nat.le_of_ble_eq_true rfl, Nat.le_of_ble_eq_true rfl⟩ (fun z h => (KM_hf2 hKM10 z h)) (rp_recv hK hW6 (C := RJ4) (T := TJ4) (N := 4) rfl (shP_17 (kd_PL hg21) (kd_k hg21))) ⟨hW11, hW6⟩ rfl rfl hl.1 (Nat.le_of_ble_eq_true rfl) dJ4_offer_40 ⟨Nat.le_of_ble_eq_true rfl, Nat.le_of_ble_eq_true rfl⟩ (fun ov9 H26 locs27 hP28 hkp29 hS30 => ?_)
    obtain ⟨rfl, hW31, hz32, hKM33⟩ := hP28
    have hW34 := rg_keepX hW11 hkp29 (by intro z h0 h3; have h1 := h0.1.1; have h2 := h0.1.2; have h4 := h0.2; exact hPX _ h3.1 h0)
    have hz35 : H26.size = s.heap.size + rc22 := by omega
    have hKM36 := KM.trans hKM10 hKM33 (by omega)
    refine W.eq (g2 := F0 m 43 ls []) rfl ?_
    exact (w_fJ4_offer_node_43b C hPX he0 hZz hZP) w23 rc22 p0 p1 (gI v1_3 p0 1) hm H26 locs27 ls hW34 hW31 hS30 hz35 hKM36 (lv_sub hl [1, 2, 0] rfl)
set_option maxHeartbeats 4000000 in
theorem ct_J4_offer_node {G : Gv} {l : Launch} {b0 : Nat} {PL : Nat → Bool} {Z : Nat} {V0 : Mem} {v1 : Mem} {p0 : Nat} {p1 : Nat} {rx : Int32} {rc : Nat} {rw1 : Mem} (hm : fJ4_offer_node PL Z b0 V0 v1 p0 p1 = some (rx, rc, rw1)) (hPX : ∀ z, PL z = true → ¬ fX b0 z) (hZP : ZP G) : CT G l yJ4_offer (ws_ yJ4_offer cJ4_offer 3 (some .boolean)) 5 1 90 164 [.ref p0, .ref p1] (fP PL v1) Z (fun H => rg G b0 357 (shX0 G.2.1) V0 H ∧ pl G PL v1 H) (fun ov H => ov = (some (.int rx)) ∧ pl G PL rw1 H ∧ H.size = Z + rc ∧ KM v1 rw1 Z) := by
  refine Met.ofW (cc := cJ4_offer) (maxL := 3) (ret := (some .boolean)) (by decide +kernel) rfl ?_
  intro p e s m args below meth c s₁ B hml hv
  obtain ⟨rfl, ⟨hz, hW0, hW1⟩, hK⟩ := hv
  subst hz
  have he0 := rg_end hW0 356 (by decide) rfl (fun _ _ _ => rfl)
  have hZz : s.heap.size = s.heap.size := rfl
  have hts := atoms_spec (ws := ws_ yJ4_offer cJ4_offer 3 (some .boolean)) B.pre
  have hts : ∀ w ∈ lw_all, w.before _ s = true := fun w h => hts w (List.mem_cons_of_mem _ h)
  have C : Cx G p s m _ meth c RJ4 cJ4_offer 3 (some .boolean) := ⟨B.exec, B.bytes, B.returns, B.notSynchronized, hml, findClass_of_methodNamed B.named, hts, hK⟩
  have hl := lv_entry ([.ref p0, .ref p1]) (n := 3) (Nat.le_of_ble_eq_true rfl)
  rw [lg_entry_eq]
  generalize (lg_sl ([.ref p0, .ref p1]) ++ List.replicate (3 - (lg_sl ([.ref p0, .ref p1])).length) Slot.unset).toArray = ls at hl ⊢
  have hl : lv_has ls 3 [(0, .ref p0), (1, .ref p1)] := hl
  exact w_fJ4_offer_node C hPX he0 hZz hZP _ _ _ hm s.heap [] ls hW0 hW1 va_S.rf rfl KM.rf hl
theorem yn_J4_offer : YN yJ4_offer 1 := by
  unfold YN
  decide +kernel
theorem lkJ4_89 : LV RJ4 89 RJ4 yJ4_offer cJ4_offer 3 (some .boolean) := ⟨q1012, q1013, q1014, q123, q1015⟩
noncomputable def fJ4_add_node (PL : Nat → Bool) (Z : Nat) (b0 : Nat) (V0 : Mem) (v1 : Mem) (p0 : Nat) (p1 : Nat) : Option (Int32 × Nat × Mem) :=
  gb (kd PL v1 p0 17) (
  ob3 (fJ4_offer_node PL (Z + 0) b0 V0 v1 p0 p1) fun r2 rc3 w4 =>
  gb (z01 r2) (some (r2, rc3, w4)))
set_option maxHeartbeats 4000000 in
theorem w_fJ4_add_node (C : Cx G p s m args meth c RJ4 cJ4_add 2 (some .boolean)) {b0 : Nat} {PL : Nat → Bool} {Z : Nat} {V0 : Mem} {vP0 : Mem} {rx : Int32} {rc : Nat} {rw1 : Mem} (hPX : ∀ z, PL z = true → ¬ fX b0 z) (he0 : b0 + 357 ≤ s.heap.size) (hZz : s.heap.size = Z) (hZP : ZP G) : ∀ (v1 : Mem) (p0 : Nat) (p1 : Nat), fJ4_add_node PL Z b0 V0 v1 p0 p1 = some (rx, rc, rw1) → ∀ (H : Heap) (locs : List Loc) (ls : Array Slot), rg G b0 357 (shX0 G.2.1) V0 H → pl G PL v1 H → va_S (FA (fP PL vP0) s.heap.size) s.heap H locs → H.size = s.heap.size + 0 → KM vP0 v1 s.heap.size → lv_has ls 2 [(0, .ref p0), (1, .ref p1)] → W p l e (rmT 6 1 90 186) s m args below meth c H locs 0 0 (MQ below (QcT (FA (fP PL vP0) s.heap.size) (fun ov H => ov = (some (.int rx)) ∧ pl G PL rw1 H ∧ H.size = s.heap.size + rc ∧ KM vP0 rw1 s.heap.size)) args s 1 90 (FA (fP PL vP0) s.heap.size)) (F0 m 0 ls []) := by
  intro v1 p0 p1 hm H locs ls hW0 hW1 hS hz hKM hl
  obtain ⟨hx, hb, hr, hlk, hml, hown, hts, hK⟩ := id C
  unfold fJ4_add_node at hm
  refine lv_aload_n (pc := 0) hx hb dJ4_add_0 rfl (lv_at hl 0 rfl) ?_
  refine lv_aload_n (pc := 1) hx hb dJ4_add_1 rfl (lv_at hl 1 rfl) ?_
  obtain ⟨hg1, hm⟩ := gb_some hm
  obtain ⟨r2, rc3, w4, hq5, hm⟩ := ob3_some hm
  have hq6 := hq5
  rw [show (Z + 0) = H.size by omega] at hq6
  refine rk_TV (pc := 2) (As := [.ref p1]) (rest := []) (mc := 1) (ms := 90) hx hb hml hown hts hK hS (fun q hq => FA_sz rfl q hq) lkJ4_89 rfl yn_J4_offer (ct_J4_offer_node (G := G) (l := l) (b0 := b0) hq6 hPX hZP) ⟨Nat.le_of_ble_eq_true rfl, Nat.le_of_ble_eq_true rfl⟩ (fun z h => (KM_hf2 hKM z h)) (rp_recv hK hW1 (C := RJ4) (T := TJ4) (N := 4) rfl (shP_17 (kd_PL hg1) (kd_k hg1))) ⟨hW0, hW1⟩ rfl rfl hl.1 (Nat.le_of_ble_eq_true rfl) dJ4_add_2 ⟨Nat.le_of_ble_eq_true rfl, Nat.le_of_ble_eq_true rfl⟩ (fun ov9 H7 locs8 hP9 hkp10 hS11 => ?_)
  obtain ⟨rfl, hW12, hz13, hKM14⟩ := hP9
  have hW15 := rg_keepX hW0 hkp10 (by intro z h0 h3; have h1 := h0.1.1; have h2 := h0.1.2; have h4 := h0.2; exact hPX _ h3.1 h0)
  have hz16 : H7.size = s.heap.size + rc3 := by omega
  have hKM17 := KM.trans hKM hKM14 (by omega)
  refine W.eq (g2 := F0 m 5 ls [.int r2]) rfl ?_
  obtain ⟨hg18, hm⟩ := gb_some hm
  obtain ⟨e7, e8, e9⟩ := rs3 hm
  subst e7
  subst e8
  subst e9
  exact rk_zretA (pc := 5) hx hb hr hlk hg18 hS11 ⟨rfl, hW12, hz16, hKM17⟩ dJ4_add_5 (by exact Nat.le_of_ble_eq_true rfl) (by exact Nat.le_of_ble_eq_true rfl)
set_option maxHeartbeats 4000000 in
theorem ct_J4_add_node {G : Gv} {l : Launch} {b0 : Nat} {PL : Nat → Bool} {Z : Nat} {V0 : Mem} {v1 : Mem} {p0 : Nat} {p1 : Nat} {rx : Int32} {rc : Nat} {rw1 : Mem} (hm : fJ4_add_node PL Z b0 V0 v1 p0 p1 = some (rx, rc, rw1)) (hPX : ∀ z, PL z = true → ¬ fX b0 z) (hZP : ZP G) : CT G l yJ4_add (ws_ yJ4_add cJ4_add 2 (some .boolean)) 6 1 90 186 [.ref p0, .ref p1] (fP PL v1) Z (fun H => rg G b0 357 (shX0 G.2.1) V0 H ∧ pl G PL v1 H) (fun ov H => ov = (some (.int rx)) ∧ pl G PL rw1 H ∧ H.size = Z + rc ∧ KM v1 rw1 Z) := by
  refine Met.ofW (cc := cJ4_add) (maxL := 2) (ret := (some .boolean)) (by decide +kernel) rfl ?_
  intro p e s m args below meth c s₁ B hml hv
  obtain ⟨rfl, ⟨hz, hW0, hW1⟩, hK⟩ := hv
  subst hz
  have he0 := rg_end hW0 356 (by decide) rfl (fun _ _ _ => rfl)
  have hZz : s.heap.size = s.heap.size := rfl
  have hts := atoms_spec (ws := ws_ yJ4_add cJ4_add 2 (some .boolean)) B.pre
  have hts : ∀ w ∈ lw_all, w.before _ s = true := fun w h => hts w (List.mem_cons_of_mem _ h)
  have C : Cx G p s m _ meth c RJ4 cJ4_add 2 (some .boolean) := ⟨B.exec, B.bytes, B.returns, B.notSynchronized, hml, findClass_of_methodNamed B.named, hts, hK⟩
  have hl := lv_entry ([.ref p0, .ref p1]) (n := 2) (Nat.le_of_ble_eq_true rfl)
  rw [lg_entry_eq]
  generalize (lg_sl ([.ref p0, .ref p1]) ++ List.replicate (2 - (lg_sl ([.ref p0, .ref p1])).length) Slot.unset).toArray = ls at hl ⊢
  have hl : lv_has ls 2 [(0, .ref p0), (1, .ref p1)] := hl
  exact w_fJ4_add_node C hPX he0 hZz hZP _ _ _ hm s.heap [] ls hW0 hW1 va_S.rf rfl KM.rf hl
noncomputable def fJ4_grow_found_25 (PL : Nat → Bool) (Z : Nat) (b0 : Nat) (V0 : Mem) (v1 : Mem) (zc : Nat) (p0 : Nat) (t0 : Int32) (t1 : Int32) (t2 : Int32) : Option (Nat × Mem) :=
  ob (fJ8_newLength t0 t1 t2) fun r8 =>
  gb (kd PL v1 p0 17) (
  lo (gR v1 p0 0) fun o11 =>
  ob o11 fun p13 =>
  ob3 (fJ9_copyOf_found PL (Z + zc) b0 V0 v1 p13 r8) fun o15 rc16 w17 =>
  gb (kd PL w17 p0 17) (
  lm (sR w17 p0 0 o15) fun v1_32 =>
  some ((zc + rc16), v1_32)))
noncomputable def fJ4_grow_found (PL : Nat → Bool) (Z : Nat) (b0 : Nat) (V0 : Mem) (v1 : Mem) (p0 : Nat) (i1 : Int32) : Option (Nat × Mem) :=
  gb (kd PL v1 p0 17) (
  lo (gR v1 p0 0) fun o2 =>
  ob o2 fun p4 =>
  gb (ka PL v1 p4 44) (
  if (64 : Int32) ≤ (Int32.ofNat (gI v1 p4 98).toNatClampNeg) then (
  fJ4_grow_found_25 PL Z b0 V0 v1 0 p0 (Int32.ofNat (gI v1 p4 98).toNatClampNeg) (i1 - (Int32.ofNat (gI v1 p4 98).toNatClampNeg)) ((Int32.ofNat (gI v1 p4 98).toNatClampNeg) >>> ((1 : Int32) &&& 31)))
  else (
  fJ4_grow_found_25 PL Z b0 V0 v1 0 p0 (Int32.ofNat (gI v1 p4 98).toNatClampNeg) (i1 - (Int32.ofNat (gI v1 p4 98).toNatClampNeg)) ((Int32.ofNat (gI v1 p4 98).toNatClampNeg) + (2 : Int32)))))
set_option maxHeartbeats 4000000 in
theorem w_fJ4_grow_found_25 (C : Cx G p s m args meth c RJ4 cJ4_grow 4 none) {b0 : Nat} {PL : Nat → Bool} {Z : Nat} {V0 : Mem} {vP0 : Mem} {rc : Nat} {rw1 : Mem} (hPX : ∀ z, PL z = true → ¬ fX b0 z) (he0 : b0 + 357 ≤ s.heap.size) (hZz : s.heap.size = Z) (hZP : ZP G) : ∀ (v1 : Mem) (zc : Nat) (p0 : Nat) (t0 : Int32) (t1 : Int32) (t2 : Int32), fJ4_grow_found_25 PL Z b0 V0 v1 zc p0 t0 t1 t2 = some (rc, rw1) → ∀ (H : Heap) (locs : List Loc) (ls : Array Slot), rg G b0 357 (shX0 G.2.1) V0 H → pl G PL v1 H → va_S (FA (fP PL vP0) s.heap.size) s.heap H locs → H.size = s.heap.size + zc → KM vP0 v1 s.heap.size → lv_has ls 4 [(0, .ref p0)] → W p l e (rmT 4 1 90 141) s m args below meth c H locs 0 0 (MQ below (QcT (FA (fP PL vP0) s.heap.size) (fun ov H => ov = none ∧ pl G PL rw1 H ∧ H.size = s.heap.size + rc ∧ KM vP0 rw1 s.heap.size)) args s 1 90 (FA (fP PL vP0) s.heap.size)) (F0 m 25 ls [.int t2, .int t1, .int t0]) := by
  intro v1 zc p0 t0 t1 t2 hm H locs ls hW0 hW1 hS hz hKM hl
  obtain ⟨hx, hb, hr, hlk, hml, hown, hts, hK⟩ := id C
  unfold fJ4_grow_found_25 at hm
  obtain ⟨r8, hq9, hm⟩ := ob_some hm
  refine rk_PS (pc := 25) (As := [.int t0, .int t1, .int t2]) (rest := []) hx hb hml hown hts hK lkJ4_80 yn_J8_newLength (ct_J8_newLength (G := G) (l := l) hq9) ⟨Nat.le_of_ble_eq_true rfl, Nat.le_of_ble_eq_true rfl⟩ trivial rfl rfl hl.1 (Nat.le_of_ble_eq_true rfl) dJ4_grow_25 ⟨Nat.zero_le _, Nat.zero_le _⟩ ?_
  refine W.eq (g2 := F0 m 28 ls [.int r8]) rfl ?_
  refine lv_istore_n (pc := 28) (lv' := [(3, .int r8), (0, .ref p0)]) hx hb dJ4_grow_28 rfl hl (by decide) rfl (fun ls hl => ?_)
  refine lv_aload_n (pc := 29) hx hb dJ4_grow_29 rfl (lv_at hl 1 rfl) ?_
  refine lv_aload_n (pc := 30) hx hb dJ4_grow_30 rfl (lv_at hl 1 rfl) ?_
  obtain ⟨hg10, hm⟩ := gb_some hm
  obtain ⟨o11, he12, hm⟩ := lo_some hm
  refine rk_get (pc := 31) hx hb hts hown hK (pl_rg hW1) flJ4_17 p0 (Nat.lt_succ_self _) (Nat.zero_add _).symm (shP_17 (kd_PL hg10) (kd_k hg10)) (x := va_rf o11) (congrArg (fun z => some (va_rf z)) he12) dJ4_grow_31 ?_
  refine lv_iload_n (pc := 34) hx hb dJ4_grow_34 rfl (lv_at hl 0 rfl) ?_
  obtain ⟨p13, he14, hm⟩ := ob_some hm
  subst he14
  obtain ⟨o15, rc16, w17, hq18, hm⟩ := ob3_some hm
  have hq19 := hq18
  rw [show (Z + zc) = H.size by omega] at hq19
  refine rk_TS (pc := 35) (As := [.ref p13, .int r8]) (rest := [.ref p0]) (mc := 1) (ms := 90) hx hb hml hown hts hK hS (fun q hq => FA_sz rfl q hq) lkJ4_86 yn_J9_copyOf (ct_J9_copyOf_found (G := G) (l := l) (b0 := b0) hq19 hPX hZP) ⟨Nat.le_of_ble_eq_true rfl, Nat.le_of_ble_eq_true rfl⟩ (fun z h => (KM_hf2 hKM z h)) ⟨hW0, hW1⟩ rfl rfl hl.1 (Nat.le_of_ble_eq_true rfl) dJ4_grow_35 ⟨Nat.le_of_ble_eq_true rfl, Nat.le_of_ble_eq_true rfl⟩ (fun ov9 H20 locs21 hP22 hkp23 hS24 => ?_)
  obtain ⟨rfl, hW25, hz26, hKM27⟩ := hP22
  have hW28 := rg_keepX hW0 hkp23 (by intro z h0 h3; have h1 := h0.1.1; have h2 := h0.1.2; have h4 := h0.2; exact hPX _ h3.1 h0)
  have hz29 : H20.size = s.heap.size + (zc + rc16) := by omega
  have hKM30 := KM.trans hKM hKM27 (by omega)
  refine W.eq (g2 := F0 m 38 ls [va_rf o15, .ref p0]) rfl ?_
  obtain ⟨hg31, hm⟩ := gb_some hm
  refine rp_put (pc := 38) (q := p0) hx hb hts hown hK hW25 hS24 flJ4_17 ft_J4 (kd_A hKM30 hg31 (by decide)) (shP_17 (kd_PL hg31) (kd_k hg31)) rfl (x := va_rf o15) (rf_nar _ rfl o15) (rf_fit _ rfl o15) (Nat.le_of_ble_eq_true rfl) (sR w17 p0 0 o15) sR_ne (by rw [sR_eq]; exact shP_17 (kd_PL hg31) (kd_k hg31)) dJ4_grow_38 (fun H33 locs34 hW35 hS36 hz37 hkp38 => ?_)
  have hKM39 := KM.sR (o := p0) (j := 0) (x := o15) hKM30
  obtain ⟨v1_32, he9, hm⟩ := lm_some hm
  rw [he9] at hW35 hKM39
  have hW40 := rg_keepqX hW28 hkp38 (hPX _ (kd_PL hg31))
  have hz41 := hz37.trans hz29
  obtain ⟨e8, e9⟩ := rs2 hm
  subst e8
  subst e9
  exact rk_vretA (pc := 41) hx hb hr hlk hS36 ⟨rfl, hW35, hz41, hKM39⟩ dJ4_grow_41 (by exact Nat.le_of_ble_eq_true rfl) (by exact Nat.le_of_ble_eq_true rfl)
set_option maxHeartbeats 4000000 in
theorem w_fJ4_grow_found (C : Cx G p s m args meth c RJ4 cJ4_grow 4 none) {b0 : Nat} {PL : Nat → Bool} {Z : Nat} {V0 : Mem} {vP0 : Mem} {rc : Nat} {rw1 : Mem} (hPX : ∀ z, PL z = true → ¬ fX b0 z) (he0 : b0 + 357 ≤ s.heap.size) (hZz : s.heap.size = Z) (hZP : ZP G) : ∀ (v1 : Mem) (p0 : Nat) (i1 : Int32), fJ4_grow_found PL Z b0 V0 v1 p0 i1 = some (rc, rw1) → ∀ (H : Heap) (locs : List Loc) (ls : Array Slot), rg G b0 357 (shX0 G.2.1) V0 H → pl G PL v1 H → va_S (FA (fP PL vP0) s.heap.size) s.heap H locs → H.size = s.heap.size + 0 → KM vP0 v1 s.heap.size → lv_has ls 4 [(0, .ref p0), (1, .int i1)] → W p l e (rmT 4 1 90 141) s m args below meth c H locs 0 0 (MQ below (QcT (FA (fP PL vP0) s.heap.size) (fun ov H => ov = none ∧ pl G PL rw1 H ∧ H.size = s.heap.size + rc ∧ KM vP0 rw1 s.heap.size)) args s 1 90 (FA (fP PL vP0) s.heap.size)) (F0 m 0 ls []) := by
  intro v1 p0 i1 hm H locs ls hW0 hW1 hS hz hKM hl
  obtain ⟨hx, hb, hr, hlk, hml, hown, hts, hK⟩ := id C
  unfold fJ4_grow_found at hm
  refine lv_aload_n (pc := 0) hx hb dJ4_grow_0 rfl (lv_at hl 0 rfl) ?_
  obtain ⟨hg1, hm⟩ := gb_some hm
  obtain ⟨o2, he3, hm⟩ := lo_some hm
  refine rk_get (pc := 1) hx hb hts hown hK (pl_rg hW1) flJ4_17 p0 (Nat.lt_succ_self _) (Nat.zero_add _).symm (shP_17 (kd_PL hg1) (kd_k hg1)) (x := va_rf o2) (congrArg (fun z => some (va_rf z)) he3) dJ4_grow_1 ?_
  obtain ⟨p4, he5, hm⟩ := ob_some hm
  subst he5
  obtain ⟨hg6, hm⟩ := gb_some hm
  refine rp_alen (pc := 4) hx hb hK hW1 hg6 dJ4_grow_4 ?_
  refine lv_istore_n (pc := 5) (lv' := [(2, .int (Int32.ofNat (gI v1 p4 98).toNatClampNeg)), (0, .ref p0), (1, .int i1)]) hx hb dJ4_grow_5 rfl hl (by decide) rfl (fun ls hl => ?_)
  refine lv_iload_n (pc := 6) hx hb dJ4_grow_6 rfl (lv_at hl 0 rfl) ?_
  refine lv_iload_n (pc := 7) hx hb dJ4_grow_7 rfl (lv_at hl 2 rfl) ?_
  refine lv_iload_n (pc := 8) hx hb dJ4_grow_8 rfl (lv_at hl 0 rfl) ?_
  refine lv_isub (pc := 9) hx hb dJ4_grow_9 ?_
  refine lv_iload_n (pc := 10) hx hb dJ4_grow_10 rfl (lv_at hl 0 rfl) ?_
  refine lv_bipush (pc := 11) (v := (64 : Int32)) hx hb dJ4_grow_11 (by decide) ?_
  refine lv_icmp_ge (pc := 13) (tgt := 22) hx hb dJ4_grow_13 (by decide) (fun c7 => ?_) (fun c7 => ?_)
  · have hm := ite_t c7 hm
    refine lv_iload_n (pc := 22) hx hb dJ4_grow_22 rfl (lv_at hl 0 rfl) ?_
    refine lv_iconst (pc := 23) (v := (1 : Int32)) hx hb dJ4_grow_23 (by decide) ?_
    refine lv_ishr (pc := 24) hx hb dJ4_grow_24 ?_
    exact (w_fJ4_grow_found_25 C hPX he0 hZz hZP) v1 0 p0 (Int32.ofNat (gI v1 p4 98).toNatClampNeg) (i1 - (Int32.ofNat (gI v1 p4 98).toNatClampNeg)) ((Int32.ofNat (gI v1 p4 98).toNatClampNeg) >>> ((1 : Int32) &&& 31)) hm H locs ls hW0 hW1 hS hz hKM (lv_sub hl [1] rfl)
  · have hm := ite_f c7 hm
    refine lv_iload_n (pc := 16) hx hb dJ4_grow_16 rfl (lv_at hl 0 rfl) ?_
    refine lv_iconst (pc := 17) (v := (2 : Int32)) hx hb dJ4_grow_17 (by decide) ?_
    refine lv_iadd (pc := 18) hx hb dJ4_grow_18 ?_
    refine lv_goto (pc := 19) (tgt := 25) hx hb dJ4_grow_19 (by decide) ?_
    exact (w_fJ4_grow_found_25 C hPX he0 hZz hZP) v1 0 p0 (Int32.ofNat (gI v1 p4 98).toNatClampNeg) (i1 - (Int32.ofNat (gI v1 p4 98).toNatClampNeg)) ((Int32.ofNat (gI v1 p4 98).toNatClampNeg) + (2 : Int32)) hm H locs ls hW0 hW1 hS hz hKM (lv_sub hl [1] rfl)
set_option maxHeartbeats 4000000 in
theorem ct_J4_grow_found {G : Gv} {l : Launch} {b0 : Nat} {PL : Nat → Bool} {Z : Nat} {V0 : Mem} {v1 : Mem} {p0 : Nat} {i1 : Int32} {rc : Nat} {rw1 : Mem} (hm : fJ4_grow_found PL Z b0 V0 v1 p0 i1 = some (rc, rw1)) (hPX : ∀ z, PL z = true → ¬ fX b0 z) (hZP : ZP G) : CT G l yJ4_grow (ws_ yJ4_grow cJ4_grow 4 none) 4 1 90 141 [.ref p0, .int i1] (fP PL v1) Z (fun H => rg G b0 357 (shX0 G.2.1) V0 H ∧ pl G PL v1 H) (fun ov H => ov = none ∧ pl G PL rw1 H ∧ H.size = Z + rc ∧ KM v1 rw1 Z) := by
  refine Met.ofW (cc := cJ4_grow) (maxL := 4) (ret := none) (by decide +kernel) rfl ?_
  intro p e s m args below meth c s₁ B hml hv
  obtain ⟨rfl, ⟨hz, hW0, hW1⟩, hK⟩ := hv
  subst hz
  have he0 := rg_end hW0 356 (by decide) rfl (fun _ _ _ => rfl)
  have hZz : s.heap.size = s.heap.size := rfl
  have hts := atoms_spec (ws := ws_ yJ4_grow cJ4_grow 4 none) B.pre
  have hts : ∀ w ∈ lw_all, w.before _ s = true := fun w h => hts w (List.mem_cons_of_mem _ h)
  have C : Cx G p s m _ meth c RJ4 cJ4_grow 4 none := ⟨B.exec, B.bytes, B.returns, B.notSynchronized, hml, findClass_of_methodNamed B.named, hts, hK⟩
  have hl := lv_entry ([.ref p0, .int i1]) (n := 4) (Nat.le_of_ble_eq_true rfl)
  rw [lg_entry_eq]
  generalize (lg_sl ([.ref p0, .int i1]) ++ List.replicate (4 - (lg_sl ([.ref p0, .int i1])).length) Slot.unset).toArray = ls at hl ⊢
  have hl : lv_has ls 4 [(0, .ref p0), (1, .int i1)] := hl
  exact w_fJ4_grow_found C hPX he0 hZz hZP _ _ _ hm s.heap [] ls hW0 hW1 va_S.rf rfl KM.rf hl
theorem yn_X5_compare : YN yX5_compare 2 := by
  unfold YN
  decide +kernel
theorem lfJ4_149_X5 : LF RJ4 149 RX5 ⟨"java/util/Comparator", "compare", "(Ljava/lang/Object;Ljava/lang/Object;)I"⟩ yX5_compare cX5_compare 3 (some .int) := ⟨q1078, q1082, q1084, q124, q1086⟩
theorem ynx_J4_149 : YN ⟨"java/util/Comparator", "compare", "(Ljava/lang/Object;Ljava/lang/Object;)I"⟩ 2 := by
  unfold YN
  decide +kernel
noncomputable def fJ4_siftUpUsingComparator_found_0 (PL : Nat → Bool) (b0 : Nat) (V0 : Mem) (k0 : Mem → Int32 → Nat → Nat → Nat → Option (Mem)) (v1 : Mem) (i0 : Int32) (p1 : Nat) (p2 : Nat) (p3 : Nat) : Option (Mem) :=
  if i0 ≤ 0 then (
  ob (fi b0 177 1 20 p1) fun n2 =>
  gb (ka PL v1 p2 44) (
  gb (inR i0 (gI v1 p2 98).toNatClampNeg) (
  lm (sR v1 p2 i0.toNatClampNeg (some (b0 + (177 + 1 * n2 + 0)))) fun v1_8 =>
  some v1_8)))
  else (
  gb (ka PL v1 p2 44) (
  gb (inR ((i0 - (1 : Int32)).toUInt32 >>> ((1 : Int32).toUInt32 &&& Int32.toUInt32 31)).toInt32 (gI v1 p2 98).toNatClampNeg) (
  lo (gR v1 p2 ((i0 - (1 : Int32)).toUInt32 >>> ((1 : Int32).toUInt32 &&& Int32.toUInt32 31)).toInt32.toNatClampNeg) fun o20 =>
  ob o20 fun p22 =>
  ob (fi b0 177 1 20 p22) fun n24 =>
  ob (fi b0 177 1 20 p1) fun n28 =>
  gb (kd PL v1 p3 5) (
  ob (fX5_compare PL b0 V0 v1 n28 n24 p3) fun r33 =>
  if r33 < 0 then (
  gb (ka PL v1 p2 44) (
  gb (inR i0 (gI v1 p2 98).toNatClampNeg) (
  lm (sR v1 p2 i0.toNatClampNeg (some (b0 + (177 + 1 * n24 + 0)))) fun v1_38 =>
  k0 v1_38 ((i0 - (1 : Int32)).toUInt32 >>> ((1 : Int32).toUInt32 &&& Int32.toUInt32 31)).toInt32 (b0 + (177 + 1 * n28 + 0)) p2 p3)))
  else (
  gb (ka PL v1 p2 44) (
  gb (inR i0 (gI v1 p2 98).toNatClampNeg) (
  lm (sR v1 p2 i0.toNatClampNeg (some (b0 + (177 + 1 * n28 + 0)))) fun v1_50 =>
  some v1_50)))))))
noncomputable def fJ4_siftUpUsingComparator_found (PL : Nat → Bool) (b0 : Nat) (V0 : Mem) (v1 : Mem) (i0 : Int32) (p1 : Nat) (p2 : Nat) (p3 : Nat) : Option (Mem) :=
  lq5 (fJ4_siftUpUsingComparator_found_0 PL b0 V0) FU v1 i0 p1 p2 p3
set_option maxHeartbeats 4000000 in
theorem w_fJ4_siftUpUsingComparator_found_0 (C : Cx G p s m args meth c RJ4 cJ4_siftUpUsingComparator 6 none) {b0 : Nat} {PL : Nat → Bool} {V0 : Mem} {vP0 : Mem} {rw1 : Mem} (hPX : ∀ z, PL z = true → ¬ fX b0 z) (hZP : ZP G) {k0 : Mem → Int32 → Nat → Nat → Nat → Option (Mem)} (hk0 : ∀ (v1 : Mem) (i0 : Int32) (p1 : Nat) (p2 : Nat) (p3 : Nat), k0 v1 i0 p1 p2 p3 = some rw1 → ∀ (H : Heap) (locs : List Loc) (ls : Array Slot), rg G b0 357 (shX0 G.2.1) V0 H → pl G PL v1 H → va_S (FA (fP PL vP0) s.heap.size) s.heap H locs → H.size = s.heap.size → KM vP0 v1 s.heap.size → lv_has ls 6 [(0, .int i0), (1, .ref p1), (2, .ref p2), (3, .ref p3)] → W p l e (rmT 3 0 0 66) s m args below meth c H locs 0 0 (MQ below (QcT (FA (fP PL vP0) s.heap.size) (fun ov H => ov = none ∧ pl G PL rw1 H ∧ H.size = s.heap.size ∧ KM vP0 rw1 s.heap.size)) args s 0 0 (FA (fP PL vP0) s.heap.size)) (F0 m 0 ls [])) : ∀ (v1 : Mem) (i0 : Int32) (p1 : Nat) (p2 : Nat) (p3 : Nat), fJ4_siftUpUsingComparator_found_0 PL b0 V0 k0 v1 i0 p1 p2 p3 = some rw1 → ∀ (H : Heap) (locs : List Loc) (ls : Array Slot), rg G b0 357 (shX0 G.2.1) V0 H → pl G PL v1 H → va_S (FA (fP PL vP0) s.heap.size) s.heap H locs → H.size = s.heap.size → KM vP0 v1 s.heap.size → lv_has ls 6 [(0, .int i0), (1, .ref p1), (2, .ref p2), (3, .ref p3)] → W p l e (rmT 3 0 0 66) s m args below meth c H locs 0 0 (MQ below (QcT (FA (fP PL vP0) s.heap.size) (fun ov H => ov = none ∧ pl G PL rw1 H ∧ H.size = s.heap.size ∧ KM vP0 rw1 s.heap.size)) args s 0 0 (FA (fP PL vP0) s.heap.size)) (F0 m 0 ls []) := by
  intro v1 i0 p1 p2 p3 hm H locs ls hW0 hW1 hS hz hKM hl
  obtain ⟨hx, hb, hr, hlk, hml, hown, hts, hK⟩ := id C
  unfold fJ4_siftUpUsingComparator_found_0 at hm
  refine lv_iload_n (pc := 0) hx hb dJ4_siftUpUsingComparator_0 rfl (lv_at hl 0 rfl) ?_
  refine lv_if_le (pc := 1) (tgt := 43) hx hb dJ4_siftUpUsingComparator_1 (by decide) (fun c1 => ?_) (fun c1 => ?_)
  · have hm := ite_t c1 hm
    refine lv_aload_n (pc := 43) hx hb dJ4_siftUpUsingComparator_43 rfl (lv_at hl 2 rfl) ?_
    refine lv_iload_n (pc := 44) hx hb dJ4_siftUpUsingComparator_44 rfl (lv_at hl 0 rfl) ?_
    refine lv_aload_n (pc := 45) hx hb dJ4_siftUpUsingComparator_45 rfl (lv_at hl 1 rfl) ?_
    obtain ⟨n2, hf3, hm⟩ := ob_some hm
    obtain ⟨ha4, hlt5⟩ := fi_some hf3
    subst ha4
    obtain ⟨hg6, hm⟩ := gb_some hm
    obtain ⟨hg7, hm⟩ := gb_some hm
    refine rp_aastR (pc := 46) (C := RX7) hx hb hts hK hW1 hS (kd_A hKM (ka_kd hg6) (by decide)) hg6 hg7 q2401 (rk_recv hK hW0 (177 + 1 * n2 + 0) (by omega) rfl rfl ((shX0_f177 G.2.1 hlt5 _ rfl 0 (by decide) _ _ _).trans rfl)) dJ4_siftUpUsingComparator_46 (fun H9 locs10 hW11 hS12 hz13 hkp14 => ?_)
    have hKM15 := KM.sR (o := p2) (j := i0.toNatClampNeg) (x := (some (b0 + (177 + 1 * n2 + 0)))) hKM
    obtain ⟨v1_8, he9, hm⟩ := lm_some hm
    rw [he9] at hW11 hKM15
    have hW16 := rg_keepqX hW0 hkp14 (hPX _ (kd_PL (ka_kd hg6)))
    have hz17 := hz13.trans hz
    have e9 := rs1 hm
    subst e9
    exact rk_vret (pc := 47) hx hb hr hlk hS12 ⟨rfl, hW11, hz17, hKM15⟩ dJ4_siftUpUsingComparator_47
  · have hm := ite_f c1 hm
    refine lv_iload_n (pc := 4) hx hb dJ4_siftUpUsingComparator_4 rfl (lv_at hl 0 rfl) ?_
    refine lv_iconst (pc := 5) (v := (1 : Int32)) hx hb dJ4_siftUpUsingComparator_5 (by decide) ?_
    refine lv_isub (pc := 6) hx hb dJ4_siftUpUsingComparator_6 ?_
    refine lv_iconst (pc := 7) (v := (1 : Int32)) hx hb dJ4_siftUpUsingComparator_7 (by decide) ?_
    refine lv_iushr (pc := 8) hx hb dJ4_siftUpUsingComparator_8 rfl ?_
    refine lv_istore (pc := 9) (lv' := [(4, .int ((i0 - (1 : Int32)).toUInt32 >>> ((1 : Int32).toUInt32 &&& Int32.toUInt32 31)).toInt32), (0, .int i0), (1, .ref p1), (2, .ref p2), (3, .ref p3)]) hx hb dJ4_siftUpUsingComparator_9 hl (by decide) rfl (fun ls hl => ?_)
    refine lv_aload_n (pc := 11) hx hb dJ4_siftUpUsingComparator_11 rfl (lv_at hl 3 rfl) ?_
    refine lv_iload (pc := 12) hx hb dJ4_siftUpUsingComparator_12 (lv_at hl 0 rfl) ?_
    obtain ⟨hg18, hm⟩ := gb_some hm
    obtain ⟨hg19, hm⟩ := gb_some hm
    obtain ⟨o20, he21, hm⟩ := lo_some hm
    refine rp_aald (pc := 14) hx hb hK hW1 hg18 hg19 he21 dJ4_siftUpUsingComparator_14 ?_
    refine lv_astoreO (pc := 15) (lv' := [(5, va_rf o20), (4, .int ((i0 - (1 : Int32)).toUInt32 >>> ((1 : Int32).toUInt32 &&& Int32.toUInt32 31)).toInt32), (0, .int i0), (1, .ref p1), (2, .ref p2), (3, .ref p3)]) hx hb dJ4_siftUpUsingComparator_15 hl (by decide) rfl (fun ls hl => ?_)
    refine lv_aload_n (pc := 17) hx hb dJ4_siftUpUsingComparator_17 rfl (lv_at hl 5 rfl) ?_
    refine lv_aload_n (pc := 18) hx hb dJ4_siftUpUsingComparator_18 rfl (lv_at hl 3 rfl) ?_
    refine lv_aloadO (pc := 19) hx hb dJ4_siftUpUsingComparator_19 (lv_at hl 0 rfl) ?_
    obtain ⟨p22, he23, hm⟩ := ob_some hm
    subst he23
    obtain ⟨n24, hf25, hm⟩ := ob_some hm
    obtain ⟨ha26, hlt27⟩ := fi_some hf25
    subst ha26
    obtain ⟨n28, hf29, hm⟩ := ob_some hm
    obtain ⟨ha30, hlt31⟩ := fi_some hf29
    subst ha30
    obtain ⟨hg32, hm⟩ := gb_some hm
    obtain ⟨r33, hq34, hm⟩ := ob_some hm
    refine rp_PF (pc := 21) (As := [.ref (b0 + (177 + 1 * n28 + 0)), .ref (b0 + (177 + 1 * n24 + 0))]) (rest := []) hx hb hml hown hts hK lfJ4_149_X5 ((hZP s hK).1.2.2.1) (T := TX5z) (N := 0) (ci := 5) rfl ynx_J4_149 (ct_X5_compare (G := G) (l := l) (b0 := b0) hq34 hlt31 hlt27) ⟨Nat.le_of_ble_eq_true rfl, Nat.le_of_ble_eq_true rfl⟩ (rp_recv hK hW1 (C := RX5) (T := TX5z) (N := 0) rfl (shP_5 (kd_PL hg32) (kd_k hg32))) ⟨hW0, hW1⟩ rfl rfl hl.1 (Nat.le_of_ble_eq_true rfl) dJ4_siftUpUsingComparator_21 ⟨Nat.zero_le _, Nat.zero_le _⟩ ?_
    refine W.eq (g2 := F0 m 26 ls [.int r33]) rfl ?_
    refine lv_if_lt (pc := 26) (tgt := 32) hx hb dJ4_siftUpUsingComparator_26 (by decide) (fun c35 => ?_) (fun c35 => ?_)
    · have hm := ite_t c35 hm
      refine lv_aload_n (pc := 32) hx hb dJ4_siftUpUsingComparator_32 rfl (lv_at hl 4 rfl) ?_
      refine lv_iload_n (pc := 33) hx hb dJ4_siftUpUsingComparator_33 rfl (lv_at hl 2 rfl) ?_
      refine lv_aload (pc := 34) hx hb dJ4_siftUpUsingComparator_34 (lv_at hl 0 rfl) ?_
      obtain ⟨hg36, hm⟩ := gb_some hm
      obtain ⟨hg37, hm⟩ := gb_some hm
      refine rp_aastR (pc := 36) (C := RX7) hx hb hts hK hW1 hS (kd_A hKM (ka_kd hg36) (by decide)) hg36 hg37 q2401 (rk_recv hK hW0 (177 + 1 * n24 + 0) (by omega) rfl rfl ((shX0_f177 G.2.1 hlt27 _ rfl 0 (by decide) _ _ _).trans rfl)) dJ4_siftUpUsingComparator_36 (fun H39 locs40 hW41 hS42 hz43 hkp44 => ?_)
      have hKM45 := KM.sR (o := p2) (j := i0.toNatClampNeg) (x := (some (b0 + (177 + 1 * n24 + 0)))) hKM
      obtain ⟨v1_38, he9, hm⟩ := lm_some hm
      rw [he9] at hW41 hKM45
      have hW46 := rg_keepqX hW0 hkp44 (hPX _ (kd_PL (ka_kd hg36)))
      have hz47 := hz43.trans hz
      refine lv_iload (pc := 37) hx hb dJ4_siftUpUsingComparator_37 (lv_at hl 1 rfl) ?_
      refine lv_istore_n (pc := 39) (lv' := [(0, .int ((i0 - (1 : Int32)).toUInt32 >>> ((1 : Int32).toUInt32 &&& Int32.toUInt32 31)).toInt32), (5, .ref (b0 + (177 + 1 * n24 + 0))), (4, .int ((i0 - (1 : Int32)).toUInt32 >>> ((1 : Int32).toUInt32 &&& Int32.toUInt32 31)).toInt32), (1, .ref (b0 + (177 + 1 * n28 + 0))), (2, .ref p2), (3, .ref p3)]) hx hb dJ4_siftUpUsingComparator_39 rfl hl (by decide) rfl (fun ls hl => ?_)
      refine lv_goto (pc := 40) (tgt := 0) hx hb dJ4_siftUpUsingComparator_40 (by decide) ?_
      exact hk0 v1_38 ((i0 - (1 : Int32)).toUInt32 >>> ((1 : Int32).toUInt32 &&& Int32.toUInt32 31)).toInt32 (b0 + (177 + 1 * n28 + 0)) p2 p3 hm H39 locs40 ls hW46 hW41 hS42 hz47 hKM45 (lv_sub hl [0, 3, 4, 5] rfl)
    · have hm := ite_f c35 hm
      refine lv_goto (pc := 29) (tgt := 43) hx hb dJ4_siftUpUsingComparator_29 (by decide) ?_
      refine lv_aload_n (pc := 43) hx hb dJ4_siftUpUsingComparator_43 rfl (lv_at hl 4 rfl) ?_
      refine lv_iload_n (pc := 44) hx hb dJ4_siftUpUsingComparator_44 rfl (lv_at hl 2 rfl) ?_
      refine lv_aload_n (pc := 45) hx hb dJ4_siftUpUsingComparator_45 rfl (lv_at hl 3 rfl) ?_
      obtain ⟨hg48, hm⟩ := gb_some hm
      obtain ⟨hg49, hm⟩ := gb_some hm
      refine rp_aastR (pc := 46) (C := RX7) hx hb hts hK hW1 hS (kd_A hKM (ka_kd hg48) (by decide)) hg48 hg49 q2401 (rk_recv hK hW0 (177 + 1 * n28 + 0) (by omega) rfl rfl ((shX0_f177 G.2.1 hlt31 _ rfl 0 (by decide) _ _ _).trans rfl)) dJ4_siftUpUsingComparator_46 (fun H51 locs52 hW53 hS54 hz55 hkp56 => ?_)
      have hKM57 := KM.sR (o := p2) (j := i0.toNatClampNeg) (x := (some (b0 + (177 + 1 * n28 + 0)))) hKM
      obtain ⟨v1_50, he9, hm⟩ := lm_some hm
      rw [he9] at hW53 hKM57
      have hW58 := rg_keepqX hW0 hkp56 (hPX _ (kd_PL (ka_kd hg48)))
      have hz59 := hz55.trans hz
      have e9 := rs1 hm
      subst e9
      exact rk_vret (pc := 47) hx hb hr hlk hS54 ⟨rfl, hW53, hz59, hKM57⟩ dJ4_siftUpUsingComparator_47
theorem w_fJ4_siftUpUsingComparator_found_0_l (C : Cx G p s m args meth c RJ4 cJ4_siftUpUsingComparator 6 none) {b0 : Nat} {PL : Nat → Bool} {V0 : Mem} {vP0 : Mem} {rw1 : Mem} (hPX : ∀ z, PL z = true → ¬ fX b0 z) (hZP : ZP G) : ∀ (n : Nat) (v1 : Mem) (i0 : Int32) (p1 : Nat) (p2 : Nat) (p3 : Nat), lq5 (fJ4_siftUpUsingComparator_found_0 PL b0 V0) n v1 i0 p1 p2 p3 = some rw1 → ∀ (H : Heap) (locs : List Loc) (ls : Array Slot), rg G b0 357 (shX0 G.2.1) V0 H → pl G PL v1 H → va_S (FA (fP PL vP0) s.heap.size) s.heap H locs → H.size = s.heap.size → KM vP0 v1 s.heap.size → lv_has ls 6 [(0, .int i0), (1, .ref p1), (2, .ref p2), (3, .ref p3)] → W p l e (rmT 3 0 0 66) s m args below meth c H locs 0 0 (MQ below (QcT (FA (fP PL vP0) s.heap.size) (fun ov H => ov = none ∧ pl G PL rw1 H ∧ H.size = s.heap.size ∧ KM vP0 rw1 s.heap.size)) args s 0 0 (FA (fP PL vP0) s.heap.size)) (F0 m 0 ls []) := by
  intro n
  induction n with
  | zero => intro v1 i0 p1 p2 p3 hm; exact (lq5_0 hm).elim
  | succ n ih => intro v1 i0 p1 p2 p3 hm; exact w_fJ4_siftUpUsingComparator_found_0 C hPX hZP ih v1 i0 p1 p2 p3 (lq5_s hm)
set_option maxHeartbeats 4000000 in
theorem w_fJ4_siftUpUsingComparator_found (C : Cx G p s m args meth c RJ4 cJ4_siftUpUsingComparator 6 none) {b0 : Nat} {PL : Nat → Bool} {V0 : Mem} {vP0 : Mem} {rw1 : Mem} (hPX : ∀ z, PL z = true → ¬ fX b0 z) (hZP : ZP G) : ∀ (v1 : Mem) (i0 : Int32) (p1 : Nat) (p2 : Nat) (p3 : Nat), fJ4_siftUpUsingComparator_found PL b0 V0 v1 i0 p1 p2 p3 = some rw1 → ∀ (H : Heap) (locs : List Loc) (ls : Array Slot), rg G b0 357 (shX0 G.2.1) V0 H → pl G PL v1 H → va_S (FA (fP PL vP0) s.heap.size) s.heap H locs → H.size = s.heap.size → KM vP0 v1 s.heap.size → lv_has ls 6 [(0, .int i0), (1, .ref p1), (2, .ref p2), (3, .ref p3)] → W p l e (rmT 3 0 0 66) s m args below meth c H locs 0 0 (MQ below (QcT (FA (fP PL vP0) s.heap.size) (fun ov H => ov = none ∧ pl G PL rw1 H ∧ H.size = s.heap.size ∧ KM vP0 rw1 s.heap.size)) args s 0 0 (FA (fP PL vP0) s.heap.size)) (F0 m 0 ls []) := by
  intro v1 i0 p1 p2 p3 hm H locs ls hW0 hW1 hS hz hKM hl
  obtain ⟨hx, hb, hr, hlk, hml, hown, hts, hK⟩ := id C
  unfold fJ4_siftUpUsingComparator_found at hm
  exact (w_fJ4_siftUpUsingComparator_found_0_l C hPX hZP FU) v1 i0 p1 p2 p3 hm H locs ls hW0 hW1 hS hz hKM (lv_sub hl [0, 1, 2, 3] rfl)
set_option maxHeartbeats 4000000 in
theorem ct_J4_siftUpUsingComparator_found {G : Gv} {l : Launch} {b0 : Nat} {PL : Nat → Bool} {V0 : Mem} {v1 : Mem} {i0 : Int32} {p1 : Nat} {p2 : Nat} {p3 : Nat} {rw1 : Mem} {sz : Nat} (hm : fJ4_siftUpUsingComparator_found PL b0 V0 v1 i0 p1 p2 p3 = some rw1) (hPX : ∀ z, PL z = true → ¬ fX b0 z) (hZP : ZP G) : CT G l yJ4_siftUpUsingComparator (ws_ yJ4_siftUpUsingComparator cJ4_siftUpUsingComparator 6 none) 3 0 0 66 [.int i0, .ref p1, .ref p2, .ref p3] (fP PL v1) sz (fun H => rg G b0 357 (shX0 G.2.1) V0 H ∧ pl G PL v1 H) (fun ov H => ov = none ∧ pl G PL rw1 H ∧ H.size = sz ∧ KM v1 rw1 sz) := by
  refine Met.ofW (cc := cJ4_siftUpUsingComparator) (maxL := 6) (ret := none) (by decide +kernel) rfl ?_
  intro p e s m args below meth c s₁ B hml hv
  obtain ⟨rfl, ⟨hz, hW0, hW1⟩, hK⟩ := hv
  subst hz
  have hts := atoms_spec (ws := ws_ yJ4_siftUpUsingComparator cJ4_siftUpUsingComparator 6 none) B.pre
  have hts : ∀ w ∈ lw_all, w.before _ s = true := fun w h => hts w (List.mem_cons_of_mem _ h)
  have C : Cx G p s m _ meth c RJ4 cJ4_siftUpUsingComparator 6 none := ⟨B.exec, B.bytes, B.returns, B.notSynchronized, hml, findClass_of_methodNamed B.named, hts, hK⟩
  have hl := lv_entry ([.int i0, .ref p1, .ref p2, .ref p3]) (n := 6) (Nat.le_of_ble_eq_true rfl)
  rw [lg_entry_eq]
  generalize (lg_sl ([.int i0, .ref p1, .ref p2, .ref p3]) ++ List.replicate (6 - (lg_sl ([.int i0, .ref p1, .ref p2, .ref p3])).length) Slot.unset).toArray = ls at hl ⊢
  have hl : lv_has ls 6 [(0, .int i0), (1, .ref p1), (2, .ref p2), (3, .ref p3)] := hl
  exact w_fJ4_siftUpUsingComparator_found C hPX hZP _ _ _ _ _ hm s.heap [] ls hW0 hW1 va_S.rf rfl KM.rf hl
theorem yn_J4_siftUpUsingComparator : YN yJ4_siftUpUsingComparator 4 := by
  unfold YN
  decide +kernel
theorem lkJ4_136 : LSt RJ4 136 yJ4_siftUpUsingComparator cJ4_siftUpUsingComparator 6 none := ⟨q1074, q1075, q123, q1076⟩
noncomputable def fJ4_siftUp_found (PL : Nat → Bool) (b0 : Nat) (V0 : Mem) (v1 : Mem) (p0 : Nat) (i1 : Int32) (p2 : Nat) : Option (Mem) :=
  gb (kd PL v1 p0 17) (
  lo (gR v1 p0 2) fun o2 =>
  od o2 (
  gb (kd PL v1 p0 17) (
  lo (gR v1 p0 0) fun o6 =>
  none)) (fun p4 =>
  gb (kd PL v1 p0 17) (
  lo (gR v1 p0 0) fun o9 =>
  gb (kd PL v1 p0 17) (
  lo (gR v1 p0 2) fun o12 =>
  ob o9 fun p14 =>
  ob o12 fun p16 =>
  ob (fJ4_siftUpUsingComparator_found PL b0 V0 v1 i1 p2 p14 p16) fun w18 =>
  some w18))))
set_option maxHeartbeats 4000000 in
theorem w_fJ4_siftUp_found (C : Cx G p s m args meth c RJ4 cJ4_siftUp 3 none) {b0 : Nat} {PL : Nat → Bool} {V0 : Mem} {vP0 : Mem} {rw1 : Mem} (hPX : ∀ z, PL z = true → ¬ fX b0 z) (hZP : ZP G) : ∀ (v1 : Mem) (p0 : Nat) (i1 : Int32) (p2 : Nat), fJ4_siftUp_found PL b0 V0 v1 p0 i1 p2 = some rw1 → ∀ (H : Heap) (locs : List Loc) (ls : Array Slot), rg G b0 357 (shX0 G.2.1) V0 H → pl G PL v1 H → va_S (FA (fP PL vP0) s.heap.size) s.heap H locs → H.size = s.heap.size → KM vP0 v1 s.heap.size → lv_has ls 3 [(0, .ref p0), (1, .int i1), (2, .ref p2)] → W p l e (rmT 4 0 0 91) s m args below meth c H locs 0 0 (MQ below (QcT (FA (fP PL vP0) s.heap.size) (fun ov H => ov = none ∧ pl G PL rw1 H ∧ H.size = s.heap.size ∧ KM vP0 rw1 s.heap.size)) args s 0 0 (FA (fP PL vP0) s.heap.size)) (F0 m 0 ls []) := by
  intro v1 p0 i1 p2 hm H locs ls hW0 hW1 hS hz hKM hl
  obtain ⟨hx, hb, hr, hlk, hml, hown, hts, hK⟩ := id C
  unfold fJ4_siftUp_found at hm
  refine lv_aload_n (pc := 0) hx hb dJ4_siftUp_0 rfl (lv_at hl 0 rfl) ?_
  obtain ⟨hg1, hm⟩ := gb_some hm
  obtain ⟨o2, he3, hm⟩ := lo_some hm
  refine rk_get (pc := 1) hx hb hts hown hK (pl_rg hW1) flJ4_21 p0 (Nat.lt_succ_self _) (Nat.zero_add _).symm (shP_17 (kd_PL hg1) (kd_k hg1)) (x := va_rf o2) (congrArg (fun z => some (va_rf z)) he3) dJ4_siftUp_1 ?_
  rcases o2 with _ | p4
  · have hm := od_n hm
    refine lv_ifnullN (pc := 4) (tgt := 23) hx hb dJ4_siftUp_4 (by decide) ?_
    refine lv_iload_n (pc := 23) hx hb dJ4_siftUp_23 rfl (lv_at hl 1 rfl) ?_
    refine lv_aload_n (pc := 24) hx hb dJ4_siftUp_24 rfl (lv_at hl 2 rfl) ?_
    refine lv_aload_n (pc := 25) hx hb dJ4_siftUp_25 rfl (lv_at hl 0 rfl) ?_
    obtain ⟨hg5, hm⟩ := gb_some hm
    obtain ⟨o6, he7, hm⟩ := lo_some hm
    refine rk_get (pc := 26) hx hb hts hown hK (pl_rg hW1) flJ4_17 p0 (Nat.lt_succ_self _) (Nat.zero_add _).symm (shP_17 (kd_PL hg5) (kd_k hg5)) (x := va_rf o6) (congrArg (fun z => some (va_rf z)) he7) dJ4_siftUp_26 ?_
    exact nomatch hm
  · have hm := od_s hm
    refine lv_ifnull (pc := 4) hx hb dJ4_siftUp_4 ?_
    refine lv_iload_n (pc := 7) hx hb dJ4_siftUp_7 rfl (lv_at hl 1 rfl) ?_
    refine lv_aload_n (pc := 8) hx hb dJ4_siftUp_8 rfl (lv_at hl 2 rfl) ?_
    refine lv_aload_n (pc := 9) hx hb dJ4_siftUp_9 rfl (lv_at hl 0 rfl) ?_
    obtain ⟨hg8, hm⟩ := gb_some hm
    obtain ⟨o9, he10, hm⟩ := lo_some hm
    refine rk_get (pc := 10) hx hb hts hown hK (pl_rg hW1) flJ4_17 p0 (Nat.lt_succ_self _) (Nat.zero_add _).symm (shP_17 (kd_PL hg8) (kd_k hg8)) (x := va_rf o9) (congrArg (fun z => some (va_rf z)) he10) dJ4_siftUp_10 ?_
    refine lv_aload_n (pc := 13) hx hb dJ4_siftUp_13 rfl (lv_at hl 0 rfl) ?_
    obtain ⟨hg11, hm⟩ := gb_some hm
    obtain ⟨o12, he13, hm⟩ := lo_some hm
    refine rk_get (pc := 14) hx hb hts hown hK (pl_rg hW1) flJ4_21 p0 (Nat.lt_succ_self _) (Nat.zero_add _).symm (shP_17 (kd_PL hg11) (kd_k hg11)) (x := va_rf o12) (congrArg (fun z => some (va_rf z)) he13) dJ4_siftUp_14 ?_
    obtain ⟨p14, he15, hm⟩ := ob_some hm
    subst he15
    obtain ⟨p16, he17, hm⟩ := ob_some hm
    subst he17
    obtain ⟨w18, hq19, hm⟩ := ob_some hm
    refine rk_TS (pc := 17) (As := [.int i1, .ref p2, .ref p14, .ref p16]) (rest := []) (mc := 0) (ms := 0) hx hb hml hown hts hK hS (fun q hq => FA_sz rfl q hq) lkJ4_136 yn_J4_siftUpUsingComparator (ct_J4_siftUpUsingComparator_found (G := G) (l := l) (b0 := b0) (sz := H.size) hq19 hPX hZP) ⟨Nat.le_of_ble_eq_true rfl, Nat.le_of_ble_eq_true rfl⟩ (fun z h => (KM_hf2 hKM z h)) ⟨hW0, hW1⟩ rfl rfl hl.1 (Nat.le_of_ble_eq_true rfl) dJ4_siftUp_17 ⟨Nat.zero_le _, Nat.zero_le _⟩ (fun ov9 H20 locs21 hP22 hkp23 hS24 => ?_)
    obtain ⟨rfl, hW25, hz26, hKM27⟩ := hP22
    have hW28 := rg_keepX hW0 hkp23 (by intro z h0 h3; have h1 := h0.1.1; have h2 := h0.1.2; have h4 := h0.2; exact hPX _ h3.1 h0)
    have hz29 := hz26.trans hz
    have hKM30 := KM.trans hKM hKM27 (by omega)
    refine W.eq (g2 := F0 m 20 ls []) rfl ?_
    refine lv_goto (pc := 20) (tgt := 32) hx hb dJ4_siftUp_20 (by decide) ?_
    have e9 := rs1 hm
    subst e9
    exact rk_vret (pc := 32) hx hb hr hlk hS24 ⟨rfl, hW25, hz29, hKM30⟩ dJ4_siftUp_32
set_option maxHeartbeats 4000000 in
theorem ct_J4_siftUp_found {G : Gv} {l : Launch} {b0 : Nat} {PL : Nat → Bool} {V0 : Mem} {v1 : Mem} {p0 : Nat} {i1 : Int32} {p2 : Nat} {rw1 : Mem} {sz : Nat} (hm : fJ4_siftUp_found PL b0 V0 v1 p0 i1 p2 = some rw1) (hPX : ∀ z, PL z = true → ¬ fX b0 z) (hZP : ZP G) : CT G l yJ4_siftUp (ws_ yJ4_siftUp cJ4_siftUp 3 none) 4 0 0 91 [.ref p0, .int i1, .ref p2] (fP PL v1) sz (fun H => rg G b0 357 (shX0 G.2.1) V0 H ∧ pl G PL v1 H) (fun ov H => ov = none ∧ pl G PL rw1 H ∧ H.size = sz ∧ KM v1 rw1 sz) := by
  refine Met.ofW (cc := cJ4_siftUp) (maxL := 3) (ret := none) (by decide +kernel) rfl ?_
  intro p e s m args below meth c s₁ B hml hv
  obtain ⟨rfl, ⟨hz, hW0, hW1⟩, hK⟩ := hv
  subst hz
  have hts := atoms_spec (ws := ws_ yJ4_siftUp cJ4_siftUp 3 none) B.pre
  have hts : ∀ w ∈ lw_all, w.before _ s = true := fun w h => hts w (List.mem_cons_of_mem _ h)
  have C : Cx G p s m _ meth c RJ4 cJ4_siftUp 3 none := ⟨B.exec, B.bytes, B.returns, B.notSynchronized, hml, findClass_of_methodNamed B.named, hts, hK⟩
  have hl := lv_entry ([.ref p0, .int i1, .ref p2]) (n := 3) (Nat.le_of_ble_eq_true rfl)
  rw [lg_entry_eq]
  generalize (lg_sl ([.ref p0, .int i1, .ref p2]) ++ List.replicate (3 - (lg_sl ([.ref p0, .int i1, .ref p2])).length) Slot.unset).toArray = ls at hl ⊢
  have hl : lv_has ls 3 [(0, .ref p0), (1, .int i1), (2, .ref p2)] := hl
  exact w_fJ4_siftUp_found C hPX hZP _ _ _ _ hm s.heap [] ls hW0 hW1 va_S.rf rfl KM.rf hl
noncomputable def fJ4_offer_found_43 (PL : Nat → Bool) (Z : Nat) (b0 : Nat) (V0 : Mem) (v1 : Mem) (zc : Nat) (p0 : Nat) (p1 : Nat) (i2 : Int32) : Option (Int32 × Nat × Mem) :=
  gb (kd PL v1 p0 17) (
  ob (fJ4_siftUp_found PL b0 V0 v1 p0 i2 p1) fun w63 =>
  gb (kd PL w63 p0 17) (
  lm (sI w63 p0 1 (i2 + (1 : Int32))) fun v1_77 =>
  some ((1 : Int32), zc, v1_77)))
noncomputable def fJ4_offer_found_43b (PL : Nat → Bool) (Z : Nat) (b0 : Nat) (V0 : Mem) (v1 : Mem) (zc : Nat) (p0 : Nat) (p1 : Nat) (i2 : Int32) : Option (Int32 × Nat × Mem) :=
  gb (kd PL v1 p0 17) (
  ob (fJ4_siftUp_found PL b0 V0 v1 p0 i2 p1) fun w38 =>
  gb (kd PL w38 p0 17) (
  lm (sI w38 p0 1 (i2 + (1 : Int32))) fun v1_52 =>
  some ((1 : Int32), zc, v1_52)))
noncomputable def fJ4_offer_found (PL : Nat → Bool) (Z : Nat) (b0 : Nat) (V0 : Mem) (v1 : Mem) (p0 : Nat) (p1 : Nat) : Option (Int32 × Nat × Mem) :=
  gb (kd PL v1 p0 17) (
  gb (kd PL v1 p0 17) (
  lm (sI v1 p0 3 ((gI v1 p0 3) + (1 : Int32))) fun v1_3 =>
  gb (kd PL v1_3 p0 17) (
  gb (kd PL v1_3 p0 17) (
  lo (gR v1_3 p0 0) fun o15 =>
  ob o15 fun p17 =>
  gb (ka PL v1_3 p17 44) (
  if (gI v1_3 p0 1) < (Int32.ofNat (gI v1_3 p17 98).toNatClampNeg) then (
  fJ4_offer_found_43 PL Z b0 V0 v1_3 0 p0 p1 (gI v1_3 p0 1))
  else (
  gb (kd PL v1_3 p0 17) (
  ob2 (fJ4_grow_found PL (Z + 0) b0 V0 v1_3 p0 ((gI v1_3 p0 1) + (1 : Int32))) fun rc22 w23 =>
  fJ4_offer_found_43b PL Z b0 V0 w23 rc22 p0 p1 (gI v1_3 p0 1))))))))
set_option maxHeartbeats 4000000 in
theorem w_fJ4_offer_found_43 (C : Cx G p s m args meth c RJ4 cJ4_offer 3 (some .boolean)) {b0 : Nat} {PL : Nat → Bool} {Z : Nat} {V0 : Mem} {vP0 : Mem} {rx : Int32} {rc : Nat} {rw1 : Mem} (hPX : ∀ z, PL z = true → ¬ fX b0 z) (he0 : b0 + 357 ≤ s.heap.size) (hZz : s.heap.size = Z) (hZP : ZP G) : ∀ (v1 : Mem) (zc : Nat) (p0 : Nat) (p1 : Nat) (i2 : Int32), fJ4_offer_found_43 PL Z b0 V0 v1 zc p0 p1 i2 = some (rx, rc, rw1) → ∀ (H : Heap) (locs : List Loc) (ls : Array Slot), rg G b0 357 (shX0 G.2.1) V0 H → pl G PL v1 H → va_S (FA (fP PL vP0) s.heap.size) s.heap H locs → H.size = s.heap.size + zc → KM vP0 v1 s.heap.size → lv_has ls 3 [(0, .ref p0), (1, .ref p1), (2, .int i2)] → W p l e (rmT 5 1 90 164) s m args below meth c H locs 0 0 (MQ below (QcT (FA (fP PL vP0) s.heap.size) (fun ov H => ov = (some (.int rx)) ∧ pl G PL rw1 H ∧ H.size = s.heap.size + rc ∧ KM vP0 rw1 s.heap.size)) args s 1 90 (FA (fP PL vP0) s.heap.size)) (F0 m 43 ls []) := by
  intro v1 zc p0 p1 i2 hm H locs ls hW0 hW1 hS hz hKM hl
  obtain ⟨hx, hb, hr, hlk, hml, hown, hts, hK⟩ := id C
  unfold fJ4_offer_found_43 at hm
  refine lv_aload_n (pc := 43) hx hb dJ4_offer_43 rfl (lv_at hl 0 rfl) ?_
  refine lv_iload_n (pc := 44) hx hb dJ4_offer_44 rfl (lv_at hl 2 rfl) ?_
  refine lv_aload_n (pc := 45) hx hb dJ4_offer_45 rfl (lv_at hl 1 rfl) ?_
  obtain ⟨hg62, hm⟩ := gb_some hm
  obtain ⟨w63, hq64, hm⟩ := ob_some hm
  refine rk_TV (pc := 46) (As := [.int i2, .ref p1]) (rest := []) (mc := 0) (ms := 0) hx hb hml hown hts hK hS (fun q hq => FA_sz rfl q hq) lkJ4_100 rfl yn_J4_siftUp (ct_J4_siftUp_found (G := G) (l := l) (b0 := b0) (sz := H.size) hq64 hPX hZP) ⟨Nat.le_of_ble_eq_true rfl, Nat.le_of_ble_eq_true rfl⟩ (fun z h => (KM_hf2 hKM z h)) (rp_recv hK hW1 (C := RJ4) (T := TJ4) (N := 4) rfl (shP_17 (kd_PL hg62) (kd_k hg62))) ⟨hW0, hW1⟩ rfl rfl hl.1 (Nat.le_of_ble_eq_true rfl) dJ4_offer_46 ⟨Nat.zero_le _, Nat.zero_le _⟩ (fun ov9 H65 locs66 hP67 hkp68 hS69 => ?_)
  obtain ⟨rfl, hW70, hz71, hKM72⟩ := hP67
  have hW73 := rg_keepX hW0 hkp68 (by intro z h0 h3; have h1 := h0.1.1; have h2 := h0.1.2; have h4 := h0.2; exact hPX _ h3.1 h0)
  have hz74 := hz71.trans hz
  have hKM75 := KM.trans hKM hKM72 (by omega)
  refine W.eq (g2 := F0 m 49 ls []) rfl ?_
  refine lv_aload_n (pc := 49) hx hb dJ4_offer_49 rfl (lv_at hl 0 rfl) ?_
  refine lv_iload_n (pc := 50) hx hb dJ4_offer_50 rfl (lv_at hl 2 rfl) ?_
  refine lv_iconst (pc := 51) (v := (1 : Int32)) hx hb dJ4_offer_51 (by decide) ?_
  refine lv_iadd (pc := 52) hx hb dJ4_offer_52 ?_
  obtain ⟨hg76, hm⟩ := gb_some hm
  refine rp_put (pc := 53) (q := p0) hx hb hts hown hK hW70 hS69 flJ4_58 ft_J4 (kd_A hKM75 hg76 (by decide)) (shP_17 (kd_PL hg76) (kd_k hg76)) rfl (x := .int (i2 + (1 : Int32))) rfl rfl (Nat.le_of_ble_eq_true rfl) (sI w63 p0 1 (i2 + (1 : Int32))) sI_ne (by rw [sI_eq]; exact shP_17 (kd_PL hg76) (kd_k hg76)) dJ4_offer_53 (fun H78 locs79 hW80 hS81 hz82 hkp83 => ?_)
  have hKM84 := KM.sI (o := p0) (j := 1) (x := (i2 + (1 : Int32))) hKM75 (by decide)
  obtain ⟨v1_77, he9, hm⟩ := lm_some hm
  rw [he9] at hW80 hKM84
  have hW85 := rg_keepqX hW73 hkp83 (hPX _ (kd_PL hg76))
  have hz86 := hz82.trans hz74
  refine lv_iconst (pc := 56) (v := (1 : Int32)) hx hb dJ4_offer_56 (by decide) ?_
  obtain ⟨e7, e8, e9⟩ := rs3 hm
  subst e7
  subst e8
  subst e9
  exact rk_zretA (pc := 57) hx hb hr hlk rfl hS81 ⟨rfl, hW80, hz86, hKM84⟩ dJ4_offer_57 (by exact Nat.le_of_ble_eq_true rfl) (by exact Nat.le_of_ble_eq_true rfl)
set_option maxHeartbeats 4000000 in
theorem w_fJ4_offer_found_43b (C : Cx G p s m args meth c RJ4 cJ4_offer 3 (some .boolean)) {b0 : Nat} {PL : Nat → Bool} {Z : Nat} {V0 : Mem} {vP0 : Mem} {rx : Int32} {rc : Nat} {rw1 : Mem} (hPX : ∀ z, PL z = true → ¬ fX b0 z) (he0 : b0 + 357 ≤ s.heap.size) (hZz : s.heap.size = Z) (hZP : ZP G) : ∀ (v1 : Mem) (zc : Nat) (p0 : Nat) (p1 : Nat) (i2 : Int32), fJ4_offer_found_43b PL Z b0 V0 v1 zc p0 p1 i2 = some (rx, rc, rw1) → ∀ (H : Heap) (locs : List Loc) (ls : Array Slot), rg G b0 357 (shX0 G.2.1) V0 H → pl G PL v1 H → va_S (FA (fP PL vP0) s.heap.size) s.heap H locs → H.size = s.heap.size + zc → KM vP0 v1 s.heap.size → lv_has ls 3 [(0, .ref p0), (1, .ref p1), (2, .int i2)] → W p l e (rmT 5 1 90 164) s m args below meth c H locs 1 90 (MQ below (QcT (FA (fP PL vP0) s.heap.size) (fun ov H => ov = (some (.int rx)) ∧ pl G PL rw1 H ∧ H.size = s.heap.size + rc ∧ KM vP0 rw1 s.heap.size)) args s 1 90 (FA (fP PL vP0) s.heap.size)) (F0 m 43 ls []) := by
  intro v1 zc p0 p1 i2 hm H locs ls hW0 hW1 hS hz hKM hl
  obtain ⟨hx, hb, hr, hlk, hml, hown, hts, hK⟩ := id C
  unfold fJ4_offer_found_43b at hm
  refine lv_aload_n (pc := 43) hx hb dJ4_offer_43 rfl (lv_at hl 0 rfl) ?_
  refine lv_iload_n (pc := 44) hx hb dJ4_offer_44 rfl (lv_at hl 2 rfl) ?_
  refine lv_aload_n (pc := 45) hx hb dJ4_offer_45 rfl (lv_at hl 1 rfl) ?_
  obtain ⟨hg37, hm⟩ := gb_some hm
  obtain ⟨w38, hq39, hm⟩ := ob_some hm
  refine rk_TV (pc := 46) (As := [.int i2, .ref p1]) (rest := []) (mc := 0) (ms := 0) hx hb hml hown hts hK hS (fun q hq => FA_sz rfl q hq) lkJ4_100 rfl yn_J4_siftUp (ct_J4_siftUp_found (G := G) (l := l) (b0 := b0) (sz := H.size) hq39 hPX hZP) ⟨Nat.le_of_ble_eq_true rfl, Nat.le_of_ble_eq_true rfl⟩ (fun z h => (KM_hf2 hKM z h)) (rp_recv hK hW1 (C := RJ4) (T := TJ4) (N := 4) rfl (shP_17 (kd_PL hg37) (kd_k hg37))) ⟨hW0, hW1⟩ rfl rfl hl.1 (Nat.le_of_ble_eq_true rfl) dJ4_offer_46 ⟨Nat.le_of_ble_eq_true rfl, Nat.le_of_ble_eq_true rfl⟩ (fun ov9 H40 locs41 hP42 hkp43 hS44 => ?_)
  obtain ⟨rfl, hW45, hz46, hKM47⟩ := hP42
  have hW48 := rg_keepX hW0 hkp43 (by intro z h0 h3; have h1 := h0.1.1; have h2 := h0.1.2; have h4 := h0.2; exact hPX _ h3.1 h0)
  have hz49 := hz46.trans hz
  have hKM50 := KM.trans hKM hKM47 (by omega)
  refine W.eq (g2 := F0 m 49 ls []) rfl ?_
  refine lv_aload_n (pc := 49) hx hb dJ4_offer_49 rfl (lv_at hl 0 rfl) ?_
  refine lv_iload_n (pc := 50) hx hb dJ4_offer_50 rfl (lv_at hl 2 rfl) ?_
  refine lv_iconst (pc := 51) (v := (1 : Int32)) hx hb dJ4_offer_51 (by decide) ?_
  refine lv_iadd (pc := 52) hx hb dJ4_offer_52 ?_
  obtain ⟨hg51, hm⟩ := gb_some hm
  refine rp_put (pc := 53) (q := p0) hx hb hts hown hK hW45 hS44 flJ4_58 ft_J4 (kd_A hKM50 hg51 (by decide)) (shP_17 (kd_PL hg51) (kd_k hg51)) rfl (x := .int (i2 + (1 : Int32))) rfl rfl (Nat.le_of_ble_eq_true rfl) (sI w38 p0 1 (i2 + (1 : Int32))) sI_ne (by rw [sI_eq]; exact shP_17 (kd_PL hg51) (kd_k hg51)) dJ4_offer_53 (fun H53 locs54 hW55 hS56 hz57 hkp58 => ?_)
  have hKM59 := KM.sI (o := p0) (j := 1) (x := (i2 + (1 : Int32))) hKM50 (by decide)
  obtain ⟨v1_52, he9, hm⟩ := lm_some hm
  rw [he9] at hW55 hKM59
  have hW60 := rg_keepqX hW48 hkp58 (hPX _ (kd_PL hg51))
  have hz61 := hz57.trans hz49
  refine lv_iconst (pc := 56) (v := (1 : Int32)) hx hb dJ4_offer_56 (by decide) ?_
  obtain ⟨e7, e8, e9⟩ := rs3 hm
  subst e7
  subst e8
  subst e9
  exact rk_zretA (pc := 57) hx hb hr hlk rfl hS56 ⟨rfl, hW55, hz61, hKM59⟩ dJ4_offer_57 (by exact Nat.le_of_ble_eq_true rfl) (by exact Nat.le_of_ble_eq_true rfl)
set_option maxHeartbeats 4000000 in
theorem w_fJ4_offer_found (C : Cx G p s m args meth c RJ4 cJ4_offer 3 (some .boolean)) {b0 : Nat} {PL : Nat → Bool} {Z : Nat} {V0 : Mem} {vP0 : Mem} {rx : Int32} {rc : Nat} {rw1 : Mem} (hPX : ∀ z, PL z = true → ¬ fX b0 z) (he0 : b0 + 357 ≤ s.heap.size) (hZz : s.heap.size = Z) (hZP : ZP G) : ∀ (v1 : Mem) (p0 : Nat) (p1 : Nat), fJ4_offer_found PL Z b0 V0 v1 p0 p1 = some (rx, rc, rw1) → ∀ (H : Heap) (locs : List Loc) (ls : Array Slot), rg G b0 357 (shX0 G.2.1) V0 H → pl G PL v1 H → va_S (FA (fP PL vP0) s.heap.size) s.heap H locs → H.size = s.heap.size + 0 → KM vP0 v1 s.heap.size → lv_has ls 3 [(0, .ref p0), (1, .ref p1)] → W p l e (rmT 5 1 90 164) s m args below meth c H locs 0 0 (MQ below (QcT (FA (fP PL vP0) s.heap.size) (fun ov H => ov = (some (.int rx)) ∧ pl G PL rw1 H ∧ H.size = s.heap.size + rc ∧ KM vP0 rw1 s.heap.size)) args s 1 90 (FA (fP PL vP0) s.heap.size)) (F0 m 0 ls []) := by
  intro v1 p0 p1 hm H locs ls hW0 hW1 hS hz hKM hl
  obtain ⟨hx, hb, hr, hlk, hml, hown, hts, hK⟩ := id C
  unfold fJ4_offer_found at hm
  refine lv_aload_n (pc := 0) hx hb dJ4_offer_0 rfl (lv_at hl 1 rfl) ?_
  refine lv_ifnonnull (pc := 1) (tgt := 12) hx hb dJ4_offer_1 (by decide) ?_
  refine lv_aload_n (pc := 12) hx hb dJ4_offer_12 rfl (lv_at hl 0 rfl) ?_
  refine lv_dup (pc := 13) hx hb dJ4_offer_13 rfl ?_
  obtain ⟨hg1, hm⟩ := gb_some hm
  refine rk_get (pc := 14) hx hb hts hown hK (pl_rg hW1) flJ4_93 p0 (Nat.lt_succ_self _) (Nat.zero_add _).symm (shP_17 (kd_PL hg1) (kd_k hg1)) (x := .int (gI v1 p0 3)) rfl dJ4_offer_14 ?_
  refine lv_iconst (pc := 17) (v := (1 : Int32)) hx hb dJ4_offer_17 (by decide) ?_
  refine lv_iadd (pc := 18) hx hb dJ4_offer_18 ?_
  obtain ⟨hg2, hm⟩ := gb_some hm
  refine rp_put (pc := 19) (q := p0) hx hb hts hown hK hW1 hS flJ4_93 ft_J4 (kd_A hKM hg2 (by decide)) (shP_17 (kd_PL hg2) (kd_k hg2)) rfl (x := .int ((gI v1 p0 3) + (1 : Int32))) rfl rfl (Nat.le_of_ble_eq_true rfl) (sI v1 p0 3 ((gI v1 p0 3) + (1 : Int32))) sI_ne (by rw [sI_eq]; exact shP_17 (kd_PL hg2) (kd_k hg2)) dJ4_offer_19 (fun H4 locs5 hW6 hS7 hz8 hkp9 => ?_)
  have hKM10 := KM.sI (o := p0) (j := 3) (x := ((gI v1 p0 3) + (1 : Int32))) hKM (by decide)
  obtain ⟨v1_3, he9, hm⟩ := lm_some hm
  rw [he9] at hW6 hKM10
  have hW11 := rg_keepqX hW0 hkp9 (hPX _ (kd_PL hg2))
  have hz12 := hz8.trans hz
  refine lv_aload_n (pc := 22) hx hb dJ4_offer_22 rfl (lv_at hl 0 rfl) ?_
  obtain ⟨hg13, hm⟩ := gb_some hm
  refine rk_get (pc := 23) hx hb hts hown hK (pl_rg hW6) flJ4_58 p0 (Nat.lt_succ_self _) (Nat.zero_add _).symm (shP_17 (kd_PL hg13) (kd_k hg13)) (x := .int (gI v1_3 p0 1)) rfl dJ4_offer_23 ?_
  refine lv_istore_n (pc := 26) (lv' := [(2, .int (gI v1_3 p0 1)), (0, .ref p0), (1, .ref p1)]) hx hb dJ4_offer_26 rfl hl (by decide) rfl (fun ls hl => ?_)
  refine lv_iload_n (pc := 27) hx hb dJ4_offer_27 rfl (lv_at hl 0 rfl) ?_
  refine lv_aload_n (pc := 28) hx hb dJ4_offer_28 rfl (lv_at hl 1 rfl) ?_
  obtain ⟨hg14, hm⟩ := gb_some hm
  obtain ⟨o15, he16, hm⟩ := lo_some hm
  refine rk_get (pc := 29) hx hb hts hown hK (pl_rg hW6) flJ4_17 p0 (Nat.lt_succ_self _) (Nat.zero_add _).symm (shP_17 (kd_PL hg14) (kd_k hg14)) (x := va_rf o15) (congrArg (fun z => some (va_rf z)) he16) dJ4_offer_29 ?_
  obtain ⟨p17, he18, hm⟩ := ob_some hm
  subst he18
  obtain ⟨hg19, hm⟩ := gb_some hm
  refine rp_alen (pc := 32) hx hb hK hW6 hg19 dJ4_offer_32 ?_
  refine lv_icmp_lt (pc := 33) (tgt := 43) hx hb dJ4_offer_33 (by decide) (fun c20 => ?_) (fun c20 => ?_)
  · have hm := ite_t c20 hm
    exact (w_fJ4_offer_found_43 C hPX he0 hZz hZP) v1_3 0 p0 p1 (gI v1_3 p0 1) hm H4 locs5 ls hW11 hW6 hS7 hz12 hKM10 (lv_sub hl [1, 2, 0] rfl)
  · have hm := ite_f c20 hm
    refine lv_aload_n (pc := 36) hx hb dJ4_offer_36 rfl (lv_at hl 1 rfl) ?_
    refine lv_iload_n (pc := 37) hx hb dJ4_offer_37 rfl (lv_at hl 0 rfl) ?_
    refine lv_iconst (pc := 38) (v := (1 : Int32)) hx hb dJ4_offer_38 (by decide) ?_
    refine lv_iadd (pc := 39) hx hb dJ4_offer_39 ?_
    obtain ⟨hg21, hm⟩ := gb_some hm
    obtain ⟨rc22, w23, hq24, hm⟩ := ob2_some hm
    have hq25 := hq24
    rw [show (Z + 0) = H4.size by omega] at hq25
    refine rk_TV (pc := 40) (As := [.int ((gI v1_3 p0 1) + (1 : Int32))]) (rest := []) (mc := 1) (ms := 90) hx hb hml hown hts hK hS7 (fun q hq => FA_sz rfl q hq) lkJ4_96 rfl yn_J4_grow (ct_J4_grow_found (G := G) (l := l) (b0 := b0) hq25 hPX hZP) ⟨Nat.le_of_ble_eq_true rfl, Nat.le_of_ble_eq_true rfl⟩ (fun z h => (KM_hf2 hKM10 z h)) (rp_recv hK hW6 (C := RJ4) (T := TJ4) (N := 4) rfl (shP_17 (kd_PL hg21) (kd_k hg21))) ⟨hW11, hW6⟩ rfl rfl hl.1 (Nat.le_of_ble_eq_true rfl) dJ4_offer_40 ⟨Nat.le_of_ble_eq_true rfl, Nat.le_of_ble_eq_true rfl⟩ (fun ov9 H26 locs27 hP28 hkp29 hS30 => ?_)
    obtain ⟨rfl, hW31, hz32, hKM33⟩ := hP28
    have hW34 := rg_keepX hW11 hkp29 (by intro z h0 h3; have h1 := h0.1.1; have h2 := h0.1.2; have h4 := h0.2; exact hPX _ h3.1 h0)
    have hz35 : H26.size = s.heap.size + rc22 := by omega
    have hKM36 := KM.trans hKM10 hKM33 (by omega)
    refine W.eq (g2 := F0 m 43 ls []) rfl ?_
    exact (w_fJ4_offer_found_43b C hPX he0 hZz hZP) w23 rc22 p0 p1 (gI v1_3 p0 1) hm H26 locs27 ls hW34 hW31 hS30 hz35 hKM36 (lv_sub hl [1, 2, 0] rfl)
set_option maxHeartbeats 4000000 in
theorem ct_J4_offer_found {G : Gv} {l : Launch} {b0 : Nat} {PL : Nat → Bool} {Z : Nat} {V0 : Mem} {v1 : Mem} {p0 : Nat} {p1 : Nat} {rx : Int32} {rc : Nat} {rw1 : Mem} (hm : fJ4_offer_found PL Z b0 V0 v1 p0 p1 = some (rx, rc, rw1)) (hPX : ∀ z, PL z = true → ¬ fX b0 z) (hZP : ZP G) : CT G l yJ4_offer (ws_ yJ4_offer cJ4_offer 3 (some .boolean)) 5 1 90 164 [.ref p0, .ref p1] (fP PL v1) Z (fun H => rg G b0 357 (shX0 G.2.1) V0 H ∧ pl G PL v1 H) (fun ov H => ov = (some (.int rx)) ∧ pl G PL rw1 H ∧ H.size = Z + rc ∧ KM v1 rw1 Z) := by
  refine Met.ofW (cc := cJ4_offer) (maxL := 3) (ret := (some .boolean)) (by decide +kernel) rfl ?_
  intro p e s m args below meth c s₁ B hml hv
  obtain ⟨rfl, ⟨hz, hW0, hW1⟩, hK⟩ := hv
  subst hz
  have he0 := rg_end hW0 356 (by decide) rfl (fun _ _ _ => rfl)
  have hZz : s.heap.size = s.heap.size := rfl
  have hts := atoms_spec (ws := ws_ yJ4_offer cJ4_offer 3 (some .boolean)) B.pre
  have hts : ∀ w ∈ lw_all, w.before _ s = true := fun w h => hts w (List.mem_cons_of_mem _ h)
  have C : Cx G p s m _ meth c RJ4 cJ4_offer 3 (some .boolean) := ⟨B.exec, B.bytes, B.returns, B.notSynchronized, hml, findClass_of_methodNamed B.named, hts, hK⟩
  have hl := lv_entry ([.ref p0, .ref p1]) (n := 3) (Nat.le_of_ble_eq_true rfl)
  rw [lg_entry_eq]
  generalize (lg_sl ([.ref p0, .ref p1]) ++ List.replicate (3 - (lg_sl ([.ref p0, .ref p1])).length) Slot.unset).toArray = ls at hl ⊢
  have hl : lv_has ls 3 [(0, .ref p0), (1, .ref p1)] := hl
  exact w_fJ4_offer_found C hPX he0 hZz hZP _ _ _ hm s.heap [] ls hW0 hW1 va_S.rf rfl KM.rf hl
noncomputable def fJ4_add_found (PL : Nat → Bool) (Z : Nat) (b0 : Nat) (V0 : Mem) (v1 : Mem) (p0 : Nat) (p1 : Nat) : Option (Int32 × Nat × Mem) :=
  gb (kd PL v1 p0 17) (
  ob3 (fJ4_offer_found PL (Z + 0) b0 V0 v1 p0 p1) fun r2 rc3 w4 =>
  gb (z01 r2) (some (r2, rc3, w4)))
set_option maxHeartbeats 4000000 in
theorem w_fJ4_add_found (C : Cx G p s m args meth c RJ4 cJ4_add 2 (some .boolean)) {b0 : Nat} {PL : Nat → Bool} {Z : Nat} {V0 : Mem} {vP0 : Mem} {rx : Int32} {rc : Nat} {rw1 : Mem} (hPX : ∀ z, PL z = true → ¬ fX b0 z) (he0 : b0 + 357 ≤ s.heap.size) (hZz : s.heap.size = Z) (hZP : ZP G) : ∀ (v1 : Mem) (p0 : Nat) (p1 : Nat), fJ4_add_found PL Z b0 V0 v1 p0 p1 = some (rx, rc, rw1) → ∀ (H : Heap) (locs : List Loc) (ls : Array Slot), rg G b0 357 (shX0 G.2.1) V0 H → pl G PL v1 H → va_S (FA (fP PL vP0) s.heap.size) s.heap H locs → H.size = s.heap.size + 0 → KM vP0 v1 s.heap.size → lv_has ls 2 [(0, .ref p0), (1, .ref p1)] → W p l e (rmT 6 1 90 186) s m args below meth c H locs 0 0 (MQ below (QcT (FA (fP PL vP0) s.heap.size) (fun ov H => ov = (some (.int rx)) ∧ pl G PL rw1 H ∧ H.size = s.heap.size + rc ∧ KM vP0 rw1 s.heap.size)) args s 1 90 (FA (fP PL vP0) s.heap.size)) (F0 m 0 ls []) := by
  intro v1 p0 p1 hm H locs ls hW0 hW1 hS hz hKM hl
  obtain ⟨hx, hb, hr, hlk, hml, hown, hts, hK⟩ := id C
  unfold fJ4_add_found at hm
  refine lv_aload_n (pc := 0) hx hb dJ4_add_0 rfl (lv_at hl 0 rfl) ?_
  refine lv_aload_n (pc := 1) hx hb dJ4_add_1 rfl (lv_at hl 1 rfl) ?_
  obtain ⟨hg1, hm⟩ := gb_some hm
  obtain ⟨r2, rc3, w4, hq5, hm⟩ := ob3_some hm
  have hq6 := hq5
  rw [show (Z + 0) = H.size by omega] at hq6
  refine rk_TV (pc := 2) (As := [.ref p1]) (rest := []) (mc := 1) (ms := 90) hx hb hml hown hts hK hS (fun q hq => FA_sz rfl q hq) lkJ4_89 rfl yn_J4_offer (ct_J4_offer_found (G := G) (l := l) (b0 := b0) hq6 hPX hZP) ⟨Nat.le_of_ble_eq_true rfl, Nat.le_of_ble_eq_true rfl⟩ (fun z h => (KM_hf2 hKM z h)) (rp_recv hK hW1 (C := RJ4) (T := TJ4) (N := 4) rfl (shP_17 (kd_PL hg1) (kd_k hg1))) ⟨hW0, hW1⟩ rfl rfl hl.1 (Nat.le_of_ble_eq_true rfl) dJ4_add_2 ⟨Nat.le_of_ble_eq_true rfl, Nat.le_of_ble_eq_true rfl⟩ (fun ov9 H7 locs8 hP9 hkp10 hS11 => ?_)
  obtain ⟨rfl, hW12, hz13, hKM14⟩ := hP9
  have hW15 := rg_keepX hW0 hkp10 (by intro z h0 h3; have h1 := h0.1.1; have h2 := h0.1.2; have h4 := h0.2; exact hPX _ h3.1 h0)
  have hz16 : H7.size = s.heap.size + rc3 := by omega
  have hKM17 := KM.trans hKM hKM14 (by omega)
  refine W.eq (g2 := F0 m 5 ls [.int r2]) rfl ?_
  obtain ⟨hg18, hm⟩ := gb_some hm
  obtain ⟨e7, e8, e9⟩ := rs3 hm
  subst e7
  subst e8
  subst e9
  exact rk_zretA (pc := 5) hx hb hr hlk hg18 hS11 ⟨rfl, hW12, hz16, hKM17⟩ dJ4_add_5 (by exact Nat.le_of_ble_eq_true rfl) (by exact Nat.le_of_ble_eq_true rfl)
set_option maxHeartbeats 4000000 in
theorem ct_J4_add_found {G : Gv} {l : Launch} {b0 : Nat} {PL : Nat → Bool} {Z : Nat} {V0 : Mem} {v1 : Mem} {p0 : Nat} {p1 : Nat} {rx : Int32} {rc : Nat} {rw1 : Mem} (hm : fJ4_add_found PL Z b0 V0 v1 p0 p1 = some (rx, rc, rw1)) (hPX : ∀ z, PL z = true → ¬ fX b0 z) (hZP : ZP G) : CT G l yJ4_add (ws_ yJ4_add cJ4_add 2 (some .boolean)) 6 1 90 186 [.ref p0, .ref p1] (fP PL v1) Z (fun H => rg G b0 357 (shX0 G.2.1) V0 H ∧ pl G PL v1 H) (fun ov H => ov = (some (.int rx)) ∧ pl G PL rw1 H ∧ H.size = Z + rc ∧ KM v1 rw1 Z) := by
  refine Met.ofW (cc := cJ4_add) (maxL := 2) (ret := (some .boolean)) (by decide +kernel) rfl ?_
  intro p e s m args below meth c s₁ B hml hv
  obtain ⟨rfl, ⟨hz, hW0, hW1⟩, hK⟩ := hv
  subst hz
  have he0 := rg_end hW0 356 (by decide) rfl (fun _ _ _ => rfl)
  have hZz : s.heap.size = s.heap.size := rfl
  have hts := atoms_spec (ws := ws_ yJ4_add cJ4_add 2 (some .boolean)) B.pre
  have hts : ∀ w ∈ lw_all, w.before _ s = true := fun w h => hts w (List.mem_cons_of_mem _ h)
  have C : Cx G p s m _ meth c RJ4 cJ4_add 2 (some .boolean) := ⟨B.exec, B.bytes, B.returns, B.notSynchronized, hml, findClass_of_methodNamed B.named, hts, hK⟩
  have hl := lv_entry ([.ref p0, .ref p1]) (n := 2) (Nat.le_of_ble_eq_true rfl)
  rw [lg_entry_eq]
  generalize (lg_sl ([.ref p0, .ref p1]) ++ List.replicate (2 - (lg_sl ([.ref p0, .ref p1])).length) Slot.unset).toArray = ls at hl ⊢
  have hl : lv_has ls 2 [(0, .ref p0), (1, .ref p1)] := hl
  exact w_fJ4_add_found C hPX he0 hZz hZP _ _ _ hm s.heap [] ls hW0 hW1 va_S.rf rfl KM.rf hl
noncomputable def fJ4_siftUpUsingComparator_foundfit_0 (PL : Nat → Bool) (b0 : Nat) (V0 : Mem) (k0 : Mem → Int32 → Nat → Nat → Nat → Option (Mem)) (v1 : Mem) (i0 : Int32) (p1 : Nat) (p2 : Nat) (p3 : Nat) : Option (Mem) :=
  if i0 ≤ 0 then (
  ob (fi b0 177 1 20 p1) fun n2 =>
  gb (ka PL v1 p2 44) (
  gb (inR i0 (gI v1 p2 98).toNatClampNeg) (
  lm (sR v1 p2 i0.toNatClampNeg (some (b0 + (177 + 1 * n2 + 0)))) fun v1_8 =>
  some v1_8)))
  else (
  gb (ka PL v1 p2 44) (
  gb (inR ((i0 - (1 : Int32)).toUInt32 >>> ((1 : Int32).toUInt32 &&& Int32.toUInt32 31)).toInt32 (gI v1 p2 98).toNatClampNeg) (
  lo (gR v1 p2 ((i0 - (1 : Int32)).toUInt32 >>> ((1 : Int32).toUInt32 &&& Int32.toUInt32 31)).toInt32.toNatClampNeg) fun o20 =>
  ob o20 fun p22 =>
  ob (fi b0 177 1 20 p22) fun n24 =>
  ob (fi b0 177 1 20 p1) fun n28 =>
  gb (kd PL v1 p3 5) (
  ob (fX5_compare PL b0 V0 v1 n28 n24 p3) fun r33 =>
  if r33 < 0 then (
  gb (ka PL v1 p2 44) (
  gb (inR i0 (gI v1 p2 98).toNatClampNeg) (
  lm (sR v1 p2 i0.toNatClampNeg (some (b0 + (177 + 1 * n24 + 0)))) fun v1_38 =>
  k0 v1_38 ((i0 - (1 : Int32)).toUInt32 >>> ((1 : Int32).toUInt32 &&& Int32.toUInt32 31)).toInt32 (b0 + (177 + 1 * n28 + 0)) p2 p3)))
  else (
  gb (ka PL v1 p2 44) (
  gb (inR i0 (gI v1 p2 98).toNatClampNeg) (
  lm (sR v1 p2 i0.toNatClampNeg (some (b0 + (177 + 1 * n28 + 0)))) fun v1_50 =>
  some v1_50)))))))
noncomputable def fJ4_siftUpUsingComparator_foundfit (PL : Nat → Bool) (b0 : Nat) (V0 : Mem) (v1 : Mem) (i0 : Int32) (p1 : Nat) (p2 : Nat) (p3 : Nat) : Option (Mem) :=
  lq5 (fJ4_siftUpUsingComparator_foundfit_0 PL b0 V0) FU v1 i0 p1 p2 p3
set_option maxHeartbeats 4000000 in
theorem w_fJ4_siftUpUsingComparator_foundfit_0 (C : Cx G p s m args meth c RJ4 cJ4_siftUpUsingComparator 6 none) {b0 : Nat} {PL : Nat → Bool} {V0 : Mem} {vP0 : Mem} {rw1 : Mem} (hPX : ∀ z, PL z = true → ¬ fX b0 z) (hZP : ZP G) {k0 : Mem → Int32 → Nat → Nat → Nat → Option (Mem)} (hk0 : ∀ (v1 : Mem) (i0 : Int32) (p1 : Nat) (p2 : Nat) (p3 : Nat), k0 v1 i0 p1 p2 p3 = some rw1 → ∀ (H : Heap) (locs : List Loc) (ls : Array Slot), rg G b0 357 (shX0 G.2.1) V0 H → pl G PL v1 H → va_S (FA (fP PL vP0) s.heap.size) s.heap H locs → H.size = s.heap.size → KM vP0 v1 s.heap.size → lv_has ls 6 [(0, .int i0), (1, .ref p1), (2, .ref p2), (3, .ref p3)] → W p l e (rmT 3 0 0 66) s m args below meth c H locs 0 0 (MQ below (QcT (FA (fP PL vP0) s.heap.size) (fun ov H => ov = none ∧ pl G PL rw1 H ∧ H.size = s.heap.size ∧ KM vP0 rw1 s.heap.size)) args s 0 0 (FA (fP PL vP0) s.heap.size)) (F0 m 0 ls [])) : ∀ (v1 : Mem) (i0 : Int32) (p1 : Nat) (p2 : Nat) (p3 : Nat), fJ4_siftUpUsingComparator_foundfit_0 PL b0 V0 k0 v1 i0 p1 p2 p3 = some rw1 → ∀ (H : Heap) (locs : List Loc) (ls : Array Slot), rg G b0 357 (shX0 G.2.1) V0 H → pl G PL v1 H → va_S (FA (fP PL vP0) s.heap.size) s.heap H locs → H.size = s.heap.size → KM vP0 v1 s.heap.size → lv_has ls 6 [(0, .int i0), (1, .ref p1), (2, .ref p2), (3, .ref p3)] → W p l e (rmT 3 0 0 66) s m args below meth c H locs 0 0 (MQ below (QcT (FA (fP PL vP0) s.heap.size) (fun ov H => ov = none ∧ pl G PL rw1 H ∧ H.size = s.heap.size ∧ KM vP0 rw1 s.heap.size)) args s 0 0 (FA (fP PL vP0) s.heap.size)) (F0 m 0 ls []) := by
  intro v1 i0 p1 p2 p3 hm H locs ls hW0 hW1 hS hz hKM hl
  obtain ⟨hx, hb, hr, hlk, hml, hown, hts, hK⟩ := id C
  unfold fJ4_siftUpUsingComparator_foundfit_0 at hm
  refine lv_iload_n (pc := 0) hx hb dJ4_siftUpUsingComparator_0 rfl (lv_at hl 0 rfl) ?_
  refine lv_if_le (pc := 1) (tgt := 43) hx hb dJ4_siftUpUsingComparator_1 (by decide) (fun c1 => ?_) (fun c1 => ?_)
  · have hm := ite_t c1 hm
    refine lv_aload_n (pc := 43) hx hb dJ4_siftUpUsingComparator_43 rfl (lv_at hl 2 rfl) ?_
    refine lv_iload_n (pc := 44) hx hb dJ4_siftUpUsingComparator_44 rfl (lv_at hl 0 rfl) ?_
    refine lv_aload_n (pc := 45) hx hb dJ4_siftUpUsingComparator_45 rfl (lv_at hl 1 rfl) ?_
    obtain ⟨n2, hf3, hm⟩ := ob_some hm
    obtain ⟨ha4, hlt5⟩ := fi_some hf3
    subst ha4
    obtain ⟨hg6, hm⟩ := gb_some hm
    obtain ⟨hg7, hm⟩ := gb_some hm
    refine rp_aastR (pc := 46) (C := RX7) hx hb hts hK hW1 hS (kd_A hKM (ka_kd hg6) (by decide)) hg6 hg7 q2401 (rk_recv hK hW0 (177 + 1 * n2 + 0) (by omega) rfl rfl ((shX0_f177 G.2.1 hlt5 _ rfl 0 (by decide) _ _ _).trans rfl)) dJ4_siftUpUsingComparator_46 (fun H9 locs10 hW11 hS12 hz13 hkp14 => ?_)
    have hKM15 := KM.sR (o := p2) (j := i0.toNatClampNeg) (x := (some (b0 + (177 + 1 * n2 + 0)))) hKM
    obtain ⟨v1_8, he9, hm⟩ := lm_some hm
    rw [he9] at hW11 hKM15
    have hW16 := rg_keepqX hW0 hkp14 (hPX _ (kd_PL (ka_kd hg6)))
    have hz17 := hz13.trans hz
    have e9 := rs1 hm
    subst e9
    exact rk_vret (pc := 47) hx hb hr hlk hS12 ⟨rfl, hW11, hz17, hKM15⟩ dJ4_siftUpUsingComparator_47
  · have hm := ite_f c1 hm
    refine lv_iload_n (pc := 4) hx hb dJ4_siftUpUsingComparator_4 rfl (lv_at hl 0 rfl) ?_
    refine lv_iconst (pc := 5) (v := (1 : Int32)) hx hb dJ4_siftUpUsingComparator_5 (by decide) ?_
    refine lv_isub (pc := 6) hx hb dJ4_siftUpUsingComparator_6 ?_
    refine lv_iconst (pc := 7) (v := (1 : Int32)) hx hb dJ4_siftUpUsingComparator_7 (by decide) ?_
    refine lv_iushr (pc := 8) hx hb dJ4_siftUpUsingComparator_8 rfl ?_
    refine lv_istore (pc := 9) (lv' := [(4, .int ((i0 - (1 : Int32)).toUInt32 >>> ((1 : Int32).toUInt32 &&& Int32.toUInt32 31)).toInt32), (0, .int i0), (1, .ref p1), (2, .ref p2), (3, .ref p3)]) hx hb dJ4_siftUpUsingComparator_9 hl (by decide) rfl (fun ls hl => ?_)
    refine lv_aload_n (pc := 11) hx hb dJ4_siftUpUsingComparator_11 rfl (lv_at hl 3 rfl) ?_
    refine lv_iload (pc := 12) hx hb dJ4_siftUpUsingComparator_12 (lv_at hl 0 rfl) ?_
    obtain ⟨hg18, hm⟩ := gb_some hm
    obtain ⟨hg19, hm⟩ := gb_some hm
    obtain ⟨o20, he21, hm⟩ := lo_some hm
    refine rp_aald (pc := 14) hx hb hK hW1 hg18 hg19 he21 dJ4_siftUpUsingComparator_14 ?_
    refine lv_astoreO (pc := 15) (lv' := [(5, va_rf o20), (4, .int ((i0 - (1 : Int32)).toUInt32 >>> ((1 : Int32).toUInt32 &&& Int32.toUInt32 31)).toInt32), (0, .int i0), (1, .ref p1), (2, .ref p2), (3, .ref p3)]) hx hb dJ4_siftUpUsingComparator_15 hl (by decide) rfl (fun ls hl => ?_)
    refine lv_aload_n (pc := 17) hx hb dJ4_siftUpUsingComparator_17 rfl (lv_at hl 5 rfl) ?_
    refine lv_aload_n (pc := 18) hx hb dJ4_siftUpUsingComparator_18 rfl (lv_at hl 3 rfl) ?_
    refine lv_aloadO (pc := 19) hx hb dJ4_siftUpUsingComparator_19 (lv_at hl 0 rfl) ?_
    obtain ⟨p22, he23, hm⟩ := ob_some hm
    subst he23
    obtain ⟨n24, hf25, hm⟩ := ob_some hm
    obtain ⟨ha26, hlt27⟩ := fi_some hf25
    subst ha26
    obtain ⟨n28, hf29, hm⟩ := ob_some hm
    obtain ⟨ha30, hlt31⟩ := fi_some hf29
    subst ha30
    obtain ⟨hg32, hm⟩ := gb_some hm
    obtain ⟨r33, hq34, hm⟩ := ob_some hm
    refine rp_PF (pc := 21) (As := [.ref (b0 + (177 + 1 * n28 + 0)), .ref (b0 + (177 + 1 * n24 + 0))]) (rest := []) hx hb hml hown hts hK lfJ4_149_X5 ((hZP s hK).1.2.2.1) (T := TX5z) (N := 0) (ci := 5) rfl ynx_J4_149 (ct_X5_compare (G := G) (l := l) (b0 := b0) hq34 hlt31 hlt27) ⟨Nat.le_of_ble_eq_true rfl, Nat.le_of_ble_eq_true rfl⟩ (rp_recv hK hW1 (C := RX5) (T := TX5z) (N := 0) rfl (shP_5 (kd_PL hg32) (kd_k hg32))) ⟨hW0, hW1⟩ rfl rfl hl.1 (Nat.le_of_ble_eq_true rfl) dJ4_siftUpUsingComparator_21 ⟨Nat.zero_le _, Nat.zero_le _⟩ ?_
    refine W.eq (g2 := F0 m 26 ls [.int r33]) rfl ?_
    refine lv_if_lt (pc := 26) (tgt := 32) hx hb dJ4_siftUpUsingComparator_26 (by decide) (fun c35 => ?_) (fun c35 => ?_)
    · have hm := ite_t c35 hm
      refine lv_aload_n (pc := 32) hx hb dJ4_siftUpUsingComparator_32 rfl (lv_at hl 4 rfl) ?_
      refine lv_iload_n (pc := 33) hx hb dJ4_siftUpUsingComparator_33 rfl (lv_at hl 2 rfl) ?_
      refine lv_aload (pc := 34) hx hb dJ4_siftUpUsingComparator_34 (lv_at hl 0 rfl) ?_
      obtain ⟨hg36, hm⟩ := gb_some hm
      obtain ⟨hg37, hm⟩ := gb_some hm
      refine rp_aastR (pc := 36) (C := RX7) hx hb hts hK hW1 hS (kd_A hKM (ka_kd hg36) (by decide)) hg36 hg37 q2401 (rk_recv hK hW0 (177 + 1 * n24 + 0) (by omega) rfl rfl ((shX0_f177 G.2.1 hlt27 _ rfl 0 (by decide) _ _ _).trans rfl)) dJ4_siftUpUsingComparator_36 (fun H39 locs40 hW41 hS42 hz43 hkp44 => ?_)
      have hKM45 := KM.sR (o := p2) (j := i0.toNatClampNeg) (x := (some (b0 + (177 + 1 * n24 + 0)))) hKM
      obtain ⟨v1_38, he9, hm⟩ := lm_some hm
      rw [he9] at hW41 hKM45
      have hW46 := rg_keepqX hW0 hkp44 (hPX _ (kd_PL (ka_kd hg36)))
      have hz47 := hz43.trans hz
      refine lv_iload (pc := 37) hx hb dJ4_siftUpUsingComparator_37 (lv_at hl 1 rfl) ?_
      refine lv_istore_n (pc := 39) (lv' := [(0, .int ((i0 - (1 : Int32)).toUInt32 >>> ((1 : Int32).toUInt32 &&& Int32.toUInt32 31)).toInt32), (5, .ref (b0 + (177 + 1 * n24 + 0))), (4, .int ((i0 - (1 : Int32)).toUInt32 >>> ((1 : Int32).toUInt32 &&& Int32.toUInt32 31)).toInt32), (1, .ref (b0 + (177 + 1 * n28 + 0))), (2, .ref p2), (3, .ref p3)]) hx hb dJ4_siftUpUsingComparator_39 rfl hl (by decide) rfl (fun ls hl => ?_)
      refine lv_goto (pc := 40) (tgt := 0) hx hb dJ4_siftUpUsingComparator_40 (by decide) ?_
      exact hk0 v1_38 ((i0 - (1 : Int32)).toUInt32 >>> ((1 : Int32).toUInt32 &&& Int32.toUInt32 31)).toInt32 (b0 + (177 + 1 * n28 + 0)) p2 p3 hm H39 locs40 ls hW46 hW41 hS42 hz47 hKM45 (lv_sub hl [0, 3, 4, 5] rfl)
    · have hm := ite_f c35 hm
      refine lv_goto (pc := 29) (tgt := 43) hx hb dJ4_siftUpUsingComparator_29 (by decide) ?_
      refine lv_aload_n (pc := 43) hx hb dJ4_siftUpUsingComparator_43 rfl (lv_at hl 4 rfl) ?_
      refine lv_iload_n (pc := 44) hx hb dJ4_siftUpUsingComparator_44 rfl (lv_at hl 2 rfl) ?_
      refine lv_aload_n (pc := 45) hx hb dJ4_siftUpUsingComparator_45 rfl (lv_at hl 3 rfl) ?_
      obtain ⟨hg48, hm⟩ := gb_some hm
      obtain ⟨hg49, hm⟩ := gb_some hm
      refine rp_aastR (pc := 46) (C := RX7) hx hb hts hK hW1 hS (kd_A hKM (ka_kd hg48) (by decide)) hg48 hg49 q2401 (rk_recv hK hW0 (177 + 1 * n28 + 0) (by omega) rfl rfl ((shX0_f177 G.2.1 hlt31 _ rfl 0 (by decide) _ _ _).trans rfl)) dJ4_siftUpUsingComparator_46 (fun H51 locs52 hW53 hS54 hz55 hkp56 => ?_)
      have hKM57 := KM.sR (o := p2) (j := i0.toNatClampNeg) (x := (some (b0 + (177 + 1 * n28 + 0)))) hKM
      obtain ⟨v1_50, he9, hm⟩ := lm_some hm
      rw [he9] at hW53 hKM57
      have hW58 := rg_keepqX hW0 hkp56 (hPX _ (kd_PL (ka_kd hg48)))
      have hz59 := hz55.trans hz
      have e9 := rs1 hm
      subst e9
      exact rk_vret (pc := 47) hx hb hr hlk hS54 ⟨rfl, hW53, hz59, hKM57⟩ dJ4_siftUpUsingComparator_47
theorem w_fJ4_siftUpUsingComparator_foundfit_0_l (C : Cx G p s m args meth c RJ4 cJ4_siftUpUsingComparator 6 none) {b0 : Nat} {PL : Nat → Bool} {V0 : Mem} {vP0 : Mem} {rw1 : Mem} (hPX : ∀ z, PL z = true → ¬ fX b0 z) (hZP : ZP G) : ∀ (n : Nat) (v1 : Mem) (i0 : Int32) (p1 : Nat) (p2 : Nat) (p3 : Nat), lq5 (fJ4_siftUpUsingComparator_foundfit_0 PL b0 V0) n v1 i0 p1 p2 p3 = some rw1 → ∀ (H : Heap) (locs : List Loc) (ls : Array Slot), rg G b0 357 (shX0 G.2.1) V0 H → pl G PL v1 H → va_S (FA (fP PL vP0) s.heap.size) s.heap H locs → H.size = s.heap.size → KM vP0 v1 s.heap.size → lv_has ls 6 [(0, .int i0), (1, .ref p1), (2, .ref p2), (3, .ref p3)] → W p l e (rmT 3 0 0 66) s m args below meth c H locs 0 0 (MQ below (QcT (FA (fP PL vP0) s.heap.size) (fun ov H => ov = none ∧ pl G PL rw1 H ∧ H.size = s.heap.size ∧ KM vP0 rw1 s.heap.size)) args s 0 0 (FA (fP PL vP0) s.heap.size)) (F0 m 0 ls []) := by
  intro n
  induction n with
  | zero => intro v1 i0 p1 p2 p3 hm; exact (lq5_0 hm).elim
  | succ n ih => intro v1 i0 p1 p2 p3 hm; exact w_fJ4_siftUpUsingComparator_foundfit_0 C hPX hZP ih v1 i0 p1 p2 p3 (lq5_s hm)
set_option maxHeartbeats 4000000 in
theorem w_fJ4_siftUpUsingComparator_foundfit (C : Cx G p s m args meth c RJ4 cJ4_siftUpUsingComparator 6 none) {b0 : Nat} {PL : Nat → Bool} {V0 : Mem} {vP0 : Mem} {rw1 : Mem} (hPX : ∀ z, PL z = true → ¬ fX b0 z) (hZP : ZP G) : ∀ (v1 : Mem) (i0 : Int32) (p1 : Nat) (p2 : Nat) (p3 : Nat), fJ4_siftUpUsingComparator_foundfit PL b0 V0 v1 i0 p1 p2 p3 = some rw1 → ∀ (H : Heap) (locs : List Loc) (ls : Array Slot), rg G b0 357 (shX0 G.2.1) V0 H → pl G PL v1 H → va_S (FA (fP PL vP0) s.heap.size) s.heap H locs → H.size = s.heap.size → KM vP0 v1 s.heap.size → lv_has ls 6 [(0, .int i0), (1, .ref p1), (2, .ref p2), (3, .ref p3)] → W p l e (rmT 3 0 0 66) s m args below meth c H locs 0 0 (MQ below (QcT (FA (fP PL vP0) s.heap.size) (fun ov H => ov = none ∧ pl G PL rw1 H ∧ H.size = s.heap.size ∧ KM vP0 rw1 s.heap.size)) args s 0 0 (FA (fP PL vP0) s.heap.size)) (F0 m 0 ls []) := by
  intro v1 i0 p1 p2 p3 hm H locs ls hW0 hW1 hS hz hKM hl
  obtain ⟨hx, hb, hr, hlk, hml, hown, hts, hK⟩ := id C
  unfold fJ4_siftUpUsingComparator_foundfit at hm
  exact (w_fJ4_siftUpUsingComparator_foundfit_0_l C hPX hZP FU) v1 i0 p1 p2 p3 hm H locs ls hW0 hW1 hS hz hKM (lv_sub hl [0, 1, 2, 3] rfl)
set_option maxHeartbeats 4000000 in
theorem ct_J4_siftUpUsingComparator_foundfit {G : Gv} {l : Launch} {b0 : Nat} {PL : Nat → Bool} {V0 : Mem} {v1 : Mem} {i0 : Int32} {p1 : Nat} {p2 : Nat} {p3 : Nat} {rw1 : Mem} {sz : Nat} (hm : fJ4_siftUpUsingComparator_foundfit PL b0 V0 v1 i0 p1 p2 p3 = some rw1) (hPX : ∀ z, PL z = true → ¬ fX b0 z) (hZP : ZP G) : CT G l yJ4_siftUpUsingComparator (ws_ yJ4_siftUpUsingComparator cJ4_siftUpUsingComparator 6 none) 3 0 0 66 [.int i0, .ref p1, .ref p2, .ref p3] (fP PL v1) sz (fun H => rg G b0 357 (shX0 G.2.1) V0 H ∧ pl G PL v1 H) (fun ov H => ov = none ∧ pl G PL rw1 H ∧ H.size = sz ∧ KM v1 rw1 sz) := by
  refine Met.ofW (cc := cJ4_siftUpUsingComparator) (maxL := 6) (ret := none) (by decide +kernel) rfl ?_
  intro p e s m args below meth c s₁ B hml hv
  obtain ⟨rfl, ⟨hz, hW0, hW1⟩, hK⟩ := hv
  subst hz
  have hts := atoms_spec (ws := ws_ yJ4_siftUpUsingComparator cJ4_siftUpUsingComparator 6 none) B.pre
  have hts : ∀ w ∈ lw_all, w.before _ s = true := fun w h => hts w (List.mem_cons_of_mem _ h)
  have C : Cx G p s m _ meth c RJ4 cJ4_siftUpUsingComparator 6 none := ⟨B.exec, B.bytes, B.returns, B.notSynchronized, hml, findClass_of_methodNamed B.named, hts, hK⟩
  have hl := lv_entry ([.int i0, .ref p1, .ref p2, .ref p3]) (n := 6) (Nat.le_of_ble_eq_true rfl)
  rw [lg_entry_eq]
  generalize (lg_sl ([.int i0, .ref p1, .ref p2, .ref p3]) ++ List.replicate (6 - (lg_sl ([.int i0, .ref p1, .ref p2, .ref p3])).length) Slot.unset).toArray = ls at hl ⊢
  have hl : lv_has ls 6 [(0, .int i0), (1, .ref p1), (2, .ref p2), (3, .ref p3)] := hl
  exact w_fJ4_siftUpUsingComparator_foundfit C hPX hZP _ _ _ _ _ hm s.heap [] ls hW0 hW1 va_S.rf rfl KM.rf hl
noncomputable def fJ4_siftUp_foundfit (PL : Nat → Bool) (b0 : Nat) (V0 : Mem) (v1 : Mem) (p0 : Nat) (i1 : Int32) (p2 : Nat) : Option (Mem) :=
  gb (kd PL v1 p0 17) (
  lo (gR v1 p0 2) fun o2 =>
  od o2 (
  gb (kd PL v1 p0 17) (
  lo (gR v1 p0 0) fun o6 =>
  none)) (fun p4 =>
  gb (kd PL v1 p0 17) (
  lo (gR v1 p0 0) fun o9 =>
  gb (kd PL v1 p0 17) (
  lo (gR v1 p0 2) fun o12 =>
  ob o9 fun p14 =>
  ob o12 fun p16 =>
  ob (fJ4_siftUpUsingComparator_foundfit PL b0 V0 v1 i1 p2 p14 p16) fun w18 =>
  some w18))))
set_option maxHeartbeats 4000000 in
theorem w_fJ4_siftUp_foundfit (C : Cx G p s m args meth c RJ4 cJ4_siftUp 3 none) {b0 : Nat} {PL : Nat → Bool} {V0 : Mem} {vP0 : Mem} {rw1 : Mem} (hPX : ∀ z, PL z = true → ¬ fX b0 z) (hZP : ZP G) : ∀ (v1 : Mem) (p0 : Nat) (i1 : Int32) (p2 : Nat), fJ4_siftUp_foundfit PL b0 V0 v1 p0 i1 p2 = some rw1 → ∀ (H : Heap) (locs : List Loc) (ls : Array Slot), rg G b0 357 (shX0 G.2.1) V0 H → pl G PL v1 H → va_S (FA (fP PL vP0) s.heap.size) s.heap H locs → H.size = s.heap.size → KM vP0 v1 s.heap.size → lv_has ls 3 [(0, .ref p0), (1, .int i1), (2, .ref p2)] → W p l e (rmT 4 0 0 91) s m args below meth c H locs 0 0 (MQ below (QcT (FA (fP PL vP0) s.heap.size) (fun ov H => ov = none ∧ pl G PL rw1 H ∧ H.size = s.heap.size ∧ KM vP0 rw1 s.heap.size)) args s 0 0 (FA (fP PL vP0) s.heap.size)) (F0 m 0 ls []) := by
  intro v1 p0 i1 p2 hm H locs ls hW0 hW1 hS hz hKM hl
  obtain ⟨hx, hb, hr, hlk, hml, hown, hts, hK⟩ := id C
  unfold fJ4_siftUp_foundfit at hm
  refine lv_aload_n (pc := 0) hx hb dJ4_siftUp_0 rfl (lv_at hl 0 rfl) ?_
  obtain ⟨hg1, hm⟩ := gb_some hm
  obtain ⟨o2, he3, hm⟩ := lo_some hm
  refine rk_get (pc := 1) hx hb hts hown hK (pl_rg hW1) flJ4_21 p0 (Nat.lt_succ_self _) (Nat.zero_add _).symm (shP_17 (kd_PL hg1) (kd_k hg1)) (x := va_rf o2) (congrArg (fun z => some (va_rf z)) he3) dJ4_siftUp_1 ?_
  rcases o2 with _ | p4
  · have hm := od_n hm
    refine lv_ifnullN (pc := 4) (tgt := 23) hx hb dJ4_siftUp_4 (by decide) ?_
    refine lv_iload_n (pc := 23) hx hb dJ4_siftUp_23 rfl (lv_at hl 1 rfl) ?_
    refine lv_aload_n (pc := 24) hx hb dJ4_siftUp_24 rfl (lv_at hl 2 rfl) ?_
    refine lv_aload_n (pc := 25) hx hb dJ4_siftUp_25 rfl (lv_at hl 0 rfl) ?_
    obtain ⟨hg5, hm⟩ := gb_some hm
    obtain ⟨o6, he7, hm⟩ := lo_some hm
    refine rk_get (pc := 26) hx hb hts hown hK (pl_rg hW1) flJ4_17 p0 (Nat.lt_succ_self _) (Nat.zero_add _).symm (shP_17 (kd_PL hg5) (kd_k hg5)) (x := va_rf o6) (congrArg (fun z => some (va_rf z)) he7) dJ4_siftUp_26 ?_
    exact nomatch hm
  · have hm := od_s hm
    refine lv_ifnull (pc := 4) hx hb dJ4_siftUp_4 ?_
    refine lv_iload_n (pc := 7) hx hb dJ4_siftUp_7 rfl (lv_at hl 1 rfl) ?_
    refine lv_aload_n (pc := 8) hx hb dJ4_siftUp_8 rfl (lv_at hl 2 rfl) ?_
    refine lv_aload_n (pc := 9) hx hb dJ4_siftUp_9 rfl (lv_at hl 0 rfl) ?_
    obtain ⟨hg8, hm⟩ := gb_some hm
    obtain ⟨o9, he10, hm⟩ := lo_some hm
    refine rk_get (pc := 10) hx hb hts hown hK (pl_rg hW1) flJ4_17 p0 (Nat.lt_succ_self _) (Nat.zero_add _).symm (shP_17 (kd_PL hg8) (kd_k hg8)) (x := va_rf o9) (congrArg (fun z => some (va_rf z)) he10) dJ4_siftUp_10 ?_
    refine lv_aload_n (pc := 13) hx hb dJ4_siftUp_13 rfl (lv_at hl 0 rfl) ?_
    obtain ⟨hg11, hm⟩ := gb_some hm
    obtain ⟨o12, he13, hm⟩ := lo_some hm
    refine rk_get (pc := 14) hx hb hts hown hK (pl_rg hW1) flJ4_21 p0 (Nat.lt_succ_self _) (Nat.zero_add _).symm (shP_17 (kd_PL hg11) (kd_k hg11)) (x := va_rf o12) (congrArg (fun z => some (va_rf z)) he13) dJ4_siftUp_14 ?_
    obtain ⟨p14, he15, hm⟩ := ob_some hm
    subst he15
    obtain ⟨p16, he17, hm⟩ := ob_some hm
    subst he17
    obtain ⟨w18, hq19, hm⟩ := ob_some hm
    refine rk_TS (pc := 17) (As := [.int i1, .ref p2, .ref p14, .ref p16]) (rest := []) (mc := 0) (ms := 0) hx hb hml hown hts hK hS (fun q hq => FA_sz rfl q hq) lkJ4_136 yn_J4_siftUpUsingComparator (ct_J4_siftUpUsingComparator_foundfit (G := G) (l := l) (b0 := b0) (sz := H.size) hq19 hPX hZP) ⟨Nat.le_of_ble_eq_true rfl, Nat.le_of_ble_eq_true rfl⟩ (fun z h => (KM_hf2 hKM z h)) ⟨hW0, hW1⟩ rfl rfl hl.1 (Nat.le_of_ble_eq_true rfl) dJ4_siftUp_17 ⟨Nat.zero_le _, Nat.zero_le _⟩ (fun ov9 H20 locs21 hP22 hkp23 hS24 => ?_)
    obtain ⟨rfl, hW25, hz26, hKM27⟩ := hP22
    have hW28 := rg_keepX hW0 hkp23 (by intro z h0 h3; have h1 := h0.1.1; have h2 := h0.1.2; have h4 := h0.2; exact hPX _ h3.1 h0)
    have hz29 := hz26.trans hz
    have hKM30 := KM.trans hKM hKM27 (by omega)
    refine W.eq (g2 := F0 m 20 ls []) rfl ?_
    refine lv_goto (pc := 20) (tgt := 32) hx hb dJ4_siftUp_20 (by decide) ?_
    have e9 := rs1 hm
    subst e9
    exact rk_vret (pc := 32) hx hb hr hlk hS24 ⟨rfl, hW25, hz29, hKM30⟩ dJ4_siftUp_32
set_option maxHeartbeats 4000000 in
theorem ct_J4_siftUp_foundfit {G : Gv} {l : Launch} {b0 : Nat} {PL : Nat → Bool} {V0 : Mem} {v1 : Mem} {p0 : Nat} {i1 : Int32} {p2 : Nat} {rw1 : Mem} {sz : Nat} (hm : fJ4_siftUp_foundfit PL b0 V0 v1 p0 i1 p2 = some rw1) (hPX : ∀ z, PL z = true → ¬ fX b0 z) (hZP : ZP G) : CT G l yJ4_siftUp (ws_ yJ4_siftUp cJ4_siftUp 3 none) 4 0 0 91 [.ref p0, .int i1, .ref p2] (fP PL v1) sz (fun H => rg G b0 357 (shX0 G.2.1) V0 H ∧ pl G PL v1 H) (fun ov H => ov = none ∧ pl G PL rw1 H ∧ H.size = sz ∧ KM v1 rw1 sz) := by
  refine Met.ofW (cc := cJ4_siftUp) (maxL := 3) (ret := none) (by decide +kernel) rfl ?_
  intro p e s m args below meth c s₁ B hml hv
  obtain ⟨rfl, ⟨hz, hW0, hW1⟩, hK⟩ := hv
  subst hz
  have hts := atoms_spec (ws := ws_ yJ4_siftUp cJ4_siftUp 3 none) B.pre
  have hts : ∀ w ∈ lw_all, w.before _ s = true := fun w h => hts w (List.mem_cons_of_mem _ h)
  have C : Cx G p s m _ meth c RJ4 cJ4_siftUp 3 none := ⟨B.exec, B.bytes, B.returns, B.notSynchronized, hml, findClass_of_methodNamed B.named, hts, hK⟩
  have hl := lv_entry ([.ref p0, .int i1, .ref p2]) (n := 3) (Nat.le_of_ble_eq_true rfl)
  rw [lg_entry_eq]
  generalize (lg_sl ([.ref p0, .int i1, .ref p2]) ++ List.replicate (3 - (lg_sl ([.ref p0, .int i1, .ref p2])).length) Slot.unset).toArray = ls at hl ⊢
  have hl : lv_has ls 3 [(0, .ref p0), (1, .int i1), (2, .ref p2)] := hl
  exact w_fJ4_siftUp_foundfit C hPX hZP _ _ _ _ hm s.heap [] ls hW0 hW1 va_S.rf rfl KM.rf hl
noncomputable def fJ4_offer_foundfit_43 (PL : Nat → Bool) (b0 : Nat) (V0 : Mem) (v1 : Mem) (p0 : Nat) (p1 : Nat) (i2 : Int32) : Option (Int32 × Mem) :=
  gb (kd PL v1 p0 17) (
  ob (fJ4_siftUp_foundfit PL b0 V0 v1 p0 i2 p1) fun w22 =>
  gb (kd PL w22 p0 17) (
  lm (sI w22 p0 1 (i2 + (1 : Int32))) fun v1_36 =>
  some ((1 : Int32), v1_36)))
noncomputable def fJ4_offer_foundfit (PL : Nat → Bool) (b0 : Nat) (V0 : Mem) (v1 : Mem) (p0 : Nat) (p1 : Nat) : Option (Int32 × Mem) :=
  gb (kd PL v1 p0 17) (
  gb (kd PL v1 p0 17) (
  lm (sI v1 p0 3 ((gI v1 p0 3) + (1 : Int32))) fun v1_3 =>
  gb (kd PL v1_3 p0 17) (
  gb (kd PL v1_3 p0 17) (
  lo (gR v1_3 p0 0) fun o15 =>
  ob o15 fun p17 =>
  gb (ka PL v1_3 p17 44) (
  if (gI v1_3 p0 1) < (Int32.ofNat (gI v1_3 p17 98).toNatClampNeg) then (
  fJ4_offer_foundfit_43 PL b0 V0 v1_3 p0 p1 (gI v1_3 p0 1))
  else (
  none))))))
set_option maxHeartbeats 4000000 in
theorem w_fJ4_offer_foundfit_43 (C : Cx G p s m args meth c RJ4 cJ4_offer 3 (some .boolean)) {b0 : Nat} {PL : Nat → Bool} {V0 : Mem} {vP0 : Mem} {rx : Int32} {rw1 : Mem} (hPX : ∀ z, PL z = true → ¬ fX b0 z) (hZP : ZP G) : ∀ (v1 : Mem) (p0 : Nat) (p1 : Nat) (i2 : Int32), fJ4_offer_foundfit_43 PL b0 V0 v1 p0 p1 i2 = some (rx, rw1) → ∀ (H : Heap) (locs : List Loc) (ls : Array Slot), rg G b0 357 (shX0 G.2.1) V0 H → pl G PL v1 H → va_S (FA (fP PL vP0) s.heap.size) s.heap H locs → H.size = s.heap.size → KM vP0 v1 s.heap.size → lv_has ls 3 [(0, .ref p0), (1, .ref p1), (2, .int i2)] → W p l e (rmT 5 0 0 113) s m args below meth c H locs 0 0 (MQ below (QcT (FA (fP PL vP0) s.heap.size) (fun ov H => ov = (some (.int rx)) ∧ pl G PL rw1 H ∧ H.size = s.heap.size ∧ KM vP0 rw1 s.heap.size)) args s 0 0 (FA (fP PL vP0) s.heap.size)) (F0 m 43 ls []) := by
  intro v1 p0 p1 i2 hm H locs ls hW0 hW1 hS hz hKM hl
  obtain ⟨hx, hb, hr, hlk, hml, hown, hts, hK⟩ := id C
  unfold fJ4_offer_foundfit_43 at hm
  refine lv_aload_n (pc := 43) hx hb dJ4_offer_43 rfl (lv_at hl 0 rfl) ?_
  refine lv_iload_n (pc := 44) hx hb dJ4_offer_44 rfl (lv_at hl 2 rfl) ?_
  refine lv_aload_n (pc := 45) hx hb dJ4_offer_45 rfl (lv_at hl 1 rfl) ?_
  obtain ⟨hg21, hm⟩ := gb_some hm
  obtain ⟨w22, hq23, hm⟩ := ob_some hm
  refine rk_TV (pc := 46) (As := [.int i2, .ref p1]) (rest := []) (mc := 0) (ms := 0) hx hb hml hown hts hK hS (fun q hq => FA_sz rfl q hq) lkJ4_100 rfl yn_J4_siftUp (ct_J4_siftUp_foundfit (G := G) (l := l) (b0 := b0) (sz := H.size) hq23 hPX hZP) ⟨Nat.le_of_ble_eq_true rfl, Nat.le_of_ble_eq_true rfl⟩ (fun z h => (KM_hf2 hKM z h)) (rp_recv hK hW1 (C := RJ4) (T := TJ4) (N := 4) rfl (shP_17 (kd_PL hg21) (kd_k hg21))) ⟨hW0, hW1⟩ rfl rfl hl.1 (Nat.le_of_ble_eq_true rfl) dJ4_offer_46 ⟨Nat.zero_le _, Nat.zero_le _⟩ (fun ov9 H24 locs25 hP26 hkp27 hS28 => ?_)
  obtain ⟨rfl, hW29, hz30, hKM31⟩ := hP26
  have hW32 := rg_keepX hW0 hkp27 (by intro z h0 h3; have h1 := h0.1.1; have h2 := h0.1.2; have h4 := h0.2; exact hPX _ h3.1 h0)
  have hz33 := hz30.trans hz
  have hKM34 := KM.trans hKM hKM31 (by omega)
  refine W.eq (g2 := F0 m 49 ls []) rfl ?_
  refine lv_aload_n (pc := 49) hx hb dJ4_offer_49 rfl (lv_at hl 0 rfl) ?_
  refine lv_iload_n (pc := 50) hx hb dJ4_offer_50 rfl (lv_at hl 2 rfl) ?_
  refine lv_iconst (pc := 51) (v := (1 : Int32)) hx hb dJ4_offer_51 (by decide) ?_
  refine lv_iadd (pc := 52) hx hb dJ4_offer_52 ?_
  obtain ⟨hg35, hm⟩ := gb_some hm
  refine rp_put (pc := 53) (q := p0) hx hb hts hown hK hW29 hS28 flJ4_58 ft_J4 (kd_A hKM34 hg35 (by decide)) (shP_17 (kd_PL hg35) (kd_k hg35)) rfl (x := .int (i2 + (1 : Int32))) rfl rfl (Nat.le_of_ble_eq_true rfl) (sI w22 p0 1 (i2 + (1 : Int32))) sI_ne (by rw [sI_eq]; exact shP_17 (kd_PL hg35) (kd_k hg35)) dJ4_offer_53 (fun H37 locs38 hW39 hS40 hz41 hkp42 => ?_)
  have hKM43 := KM.sI (o := p0) (j := 1) (x := (i2 + (1 : Int32))) hKM34 (by decide)
  obtain ⟨v1_36, he9, hm⟩ := lm_some hm
  rw [he9] at hW39 hKM43
  have hW44 := rg_keepqX hW32 hkp42 (hPX _ (kd_PL hg35))
  have hz45 := hz41.trans hz33
  refine lv_iconst (pc := 56) (v := (1 : Int32)) hx hb dJ4_offer_56 (by decide) ?_
  obtain ⟨e8, e9⟩ := rs2 hm
  subst e8
  subst e9
  exact rk_zret (pc := 57) hx hb hr hlk rfl hS40 ⟨rfl, hW39, hz45, hKM43⟩ dJ4_offer_57
set_option maxHeartbeats 4000000 in
theorem w_fJ4_offer_foundfit (C : Cx G p s m args meth c RJ4 cJ4_offer 3 (some .boolean)) {b0 : Nat} {PL : Nat → Bool} {V0 : Mem} {vP0 : Mem} {rx : Int32} {rw1 : Mem} (hPX : ∀ z, PL z = true → ¬ fX b0 z) (hZP : ZP G) : ∀ (v1 : Mem) (p0 : Nat) (p1 : Nat), fJ4_offer_foundfit PL b0 V0 v1 p0 p1 = some (rx, rw1) → ∀ (H : Heap) (locs : List Loc) (ls : Array Slot), rg G b0 357 (shX0 G.2.1) V0 H → pl G PL v1 H → va_S (FA (fP PL vP0) s.heap.size) s.heap H locs → H.size = s.heap.size → KM vP0 v1 s.heap.size → lv_has ls 3 [(0, .ref p0), (1, .ref p1)] → W p l e (rmT 5 0 0 113) s m args below meth c H locs 0 0 (MQ below (QcT (FA (fP PL vP0) s.heap.size) (fun ov H => ov = (some (.int rx)) ∧ pl G PL rw1 H ∧ H.size = s.heap.size ∧ KM vP0 rw1 s.heap.size)) args s 0 0 (FA (fP PL vP0) s.heap.size)) (F0 m 0 ls []) := by
  intro v1 p0 p1 hm H locs ls hW0 hW1 hS hz hKM hl
  obtain ⟨hx, hb, hr, hlk, hml, hown, hts, hK⟩ := id C
  unfold fJ4_offer_foundfit at hm
  refine lv_aload_n (pc := 0) hx hb dJ4_offer_0 rfl (lv_at hl 1 rfl) ?_
  refine lv_ifnonnull (pc := 1) (tgt := 12) hx hb dJ4_offer_1 (by decide) ?_
  refine lv_aload_n (pc := 12) hx hb dJ4_offer_12 rfl (lv_at hl 0 rfl) ?_
  refine lv_dup (pc := 13) hx hb dJ4_offer_13 rfl ?_
  obtain ⟨hg1, hm⟩ := gb_some hm
  refine rk_get (pc := 14) hx hb hts hown hK (pl_rg hW1) flJ4_93 p0 (Nat.lt_succ_self _) (Nat.zero_add _).symm (shP_17 (kd_PL hg1) (kd_k hg1)) (x := .int (gI v1 p0 3)) rfl dJ4_offer_14 ?_
  refine lv_iconst (pc := 17) (v := (1 : Int32)) hx hb dJ4_offer_17 (by decide) ?_
  refine lv_iadd (pc := 18) hx hb dJ4_offer_18 ?_
  obtain ⟨hg2, hm⟩ := gb_some hm
  refine rp_put (pc := 19) (q := p0) hx hb hts hown hK hW1 hS flJ4_93 ft_J4 (kd_A hKM hg2 (by decide)) (shP_17 (kd_PL hg2) (kd_k hg2)) rfl (x := .int ((gI v1 p0 3) + (1 : Int32))) rfl rfl (Nat.le_of_ble_eq_true rfl) (sI v1 p0 3 ((gI v1 p0 3) + (1 : Int32))) sI_ne (by rw [sI_eq]; exact shP_17 (kd_PL hg2) (kd_k hg2)) dJ4_offer_19 (fun H4 locs5 hW6 hS7 hz8 hkp9 => ?_)
  have hKM10 := KM.sI (o := p0) (j := 3) (x := ((gI v1 p0 3) + (1 : Int32))) hKM (by decide)
  obtain ⟨v1_3, he9, hm⟩ := lm_some hm
  rw [he9] at hW6 hKM10
  have hW11 := rg_keepqX hW0 hkp9 (hPX _ (kd_PL hg2))
  have hz12 := hz8.trans hz
  refine lv_aload_n (pc := 22) hx hb dJ4_offer_22 rfl (lv_at hl 0 rfl) ?_
  obtain ⟨hg13, hm⟩ := gb_some hm
  refine rk_get (pc := 23) hx hb hts hown hK (pl_rg hW6) flJ4_58 p0 (Nat.lt_succ_self _) (Nat.zero_add _).symm (shP_17 (kd_PL hg13) (kd_k hg13)) (x := .int (gI v1_3 p0 1)) rfl dJ4_offer_23 ?_
  refine lv_istore_n (pc := 26) (lv' := [(2, .int (gI v1_3 p0 1)), (0, .ref p0), (1, .ref p1)]) hx hb dJ4_offer_26 rfl hl (by decide) rfl (fun ls hl => ?_)
  refine lv_iload_n (pc := 27) hx hb dJ4_offer_27 rfl (lv_at hl 0 rfl) ?_
  refine lv_aload_n (pc := 28) hx hb dJ4_offer_28 rfl (lv_at hl 1 rfl) ?_
  obtain ⟨hg14, hm⟩ := gb_some hm
  obtain ⟨o15, he16, hm⟩ := lo_some hm
  refine rk_get (pc := 29) hx hb hts hown hK (pl_rg hW6) flJ4_17 p0 (Nat.lt_succ_self _) (Nat.zero_add _).symm (shP_17 (kd_PL hg14) (kd_k hg14)) (x := va_rf o15) (congrArg (fun z => some (va_rf z)) he16) dJ4_offer_29 ?_
  obtain ⟨p17, he18, hm⟩ := ob_some hm
  subst he18
  obtain ⟨hg19, hm⟩ := gb_some hm
  refine rp_alen (pc := 32) hx hb hK hW6 hg19 dJ4_offer_32 ?_
  refine lv_icmp_lt (pc := 33) (tgt := 43) hx hb dJ4_offer_33 (by decide) (fun c20 => ?_) (fun c20 => ?_)
  · have hm := ite_t c20 hm
    exact (w_fJ4_offer_foundfit_43 C hPX hZP) v1_3 p0 p1 (gI v1_3 p0 1) hm H4 locs5 ls hW11 hW6 hS7 hz12 hKM10 (lv_sub hl [1, 2, 0] rfl)
  · have hm := ite_f c20 hm
    refine lv_aload_n (pc := 36) hx hb dJ4_offer_36 rfl (lv_at hl 1 rfl) ?_
    refine lv_iload_n (pc := 37) hx hb dJ4_offer_37 rfl (lv_at hl 0 rfl) ?_
    refine lv_iconst (pc := 38) (v := (1 : Int32)) hx hb dJ4_offer_38 (by decide) ?_
    refine lv_iadd (pc := 39) hx hb dJ4_offer_39 ?_
    exact nomatch hm
set_option maxHeartbeats 4000000 in
theorem ct_J4_offer_foundfit {G : Gv} {l : Launch} {b0 : Nat} {PL : Nat → Bool} {V0 : Mem} {v1 : Mem} {p0 : Nat} {p1 : Nat} {rx : Int32} {rw1 : Mem} {sz : Nat} (hm : fJ4_offer_foundfit PL b0 V0 v1 p0 p1 = some (rx, rw1)) (hPX : ∀ z, PL z = true → ¬ fX b0 z) (hZP : ZP G) : CT G l yJ4_offer (ws_ yJ4_offer cJ4_offer 3 (some .boolean)) 5 0 0 113 [.ref p0, .ref p1] (fP PL v1) sz (fun H => rg G b0 357 (shX0 G.2.1) V0 H ∧ pl G PL v1 H) (fun ov H => ov = (some (.int rx)) ∧ pl G PL rw1 H ∧ H.size = sz ∧ KM v1 rw1 sz) := by
  refine Met.ofW (cc := cJ4_offer) (maxL := 3) (ret := (some .boolean)) (by decide +kernel) rfl ?_
  intro p e s m args below meth c s₁ B hml hv
  obtain ⟨rfl, ⟨hz, hW0, hW1⟩, hK⟩ := hv
  subst hz
  have hts := atoms_spec (ws := ws_ yJ4_offer cJ4_offer 3 (some .boolean)) B.pre
  have hts : ∀ w ∈ lw_all, w.before _ s = true := fun w h => hts w (List.mem_cons_of_mem _ h)
  have C : Cx G p s m _ meth c RJ4 cJ4_offer 3 (some .boolean) := ⟨B.exec, B.bytes, B.returns, B.notSynchronized, hml, findClass_of_methodNamed B.named, hts, hK⟩
  have hl := lv_entry ([.ref p0, .ref p1]) (n := 3) (Nat.le_of_ble_eq_true rfl)
  rw [lg_entry_eq]
  generalize (lg_sl ([.ref p0, .ref p1]) ++ List.replicate (3 - (lg_sl ([.ref p0, .ref p1])).length) Slot.unset).toArray = ls at hl ⊢
  have hl : lv_has ls 3 [(0, .ref p0), (1, .ref p1)] := hl
  exact w_fJ4_offer_foundfit C hPX hZP _ _ _ hm s.heap [] ls hW0 hW1 va_S.rf rfl KM.rf hl
end
