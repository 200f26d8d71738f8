set_option maxRecDepth 100000
section
variable {p : Program} {l : Launch} {e : Env} {s : State} {m : MethodId} {args : Array Value} {below : List Frame} {meth : Method} {c : Code} {G : Gv}
theorem yn_J1_getFloorEntry : YN yJ1_getFloorEntry 1 := by
  unfold YN
  decide +kernel
theorem lkJ1_210 : LV RJ1 210 RJ1 yJ1_getFloorEntry cJ1_getFloorEntry 6 (some (.object "java/util/TreeMap$Entry")) := ⟨q1498, q1499, q1500, q120, q1501⟩
noncomputable def fJ1_keyOrNull (PL : Nat → Bool) (V0 : Mem) (o0 : Option Nat) : Option (Option Nat) :=
  od o0 (
  some none) (fun pa1 =>
  gb (kd PL V0 pa1 18) (
  lo (gR V0 pa1 0) fun oa3 =>
  some oa3))
set_option maxHeartbeats 4000000 in
theorem w_fJ1_keyOrNull (C : Cx G p s m args meth c RJ1 cJ1_keyOrNull 1 (some (.object "java/lang/Object"))) {PL : Nat → Bool} {V0 : Mem} {rx : Option Nat} (hW0 : pl G PL V0 s.heap) : ∀ (o0 : Option Nat), fJ1_keyOrNull PL V0 o0 = some rx → ∀ (ls : Array Slot), lv_has ls 1 [(0, va_rf o0)] → W p l e (rmP 0 0) s m args below meth c s.heap [] 0 0 (MQ below (QcP (some (va_rf rx))) args s 0 0 (fun _ => False)) (F0 m 0 ls []) := by
  intro o0 hm ls hl
  obtain ⟨hx, hb, hr, hlk, hml, hown, hts, hK⟩ := id C
  unfold fJ1_keyOrNull at hm
  refine lv_aload_nO (pc := 0) hx hb dJ1_keyOrNull_0 rfl (lv_at hl 0 rfl) ?_
  rcases o0 with _ | pa1
  · have hm := od_n hm
    refine lv_ifnonnullN (pc := 1) hx hb dJ1_keyOrNull_1 ?_
    refine lv_null (pc := 4) hx hb dJ1_keyOrNull_4 ?_
    refine lv_goto (pc := 5) (tgt := 12) hx hb dJ1_keyOrNull_5 (by decide) ?_
    have e9 := rs1 hm
    subst e9
    exact rp_aretP (x := none) (pc := 12) hx hb hr (Or.inl ⟨_, rfl⟩) hlk rfl dJ1_keyOrNull_12
  · have hm := od_s hm
    refine lv_ifnonnull (pc := 1) (tgt := 8) hx hb dJ1_keyOrNull_1 (by decide) ?_
    refine lv_aload_n (pc := 8) hx hb dJ1_keyOrNull_8 rfl (lv_at hl 0 rfl) ?_
    obtain ⟨hg2, hm⟩ := gb_some hm
    obtain ⟨oa3, he4, hm⟩ := lo_some hm
    refine rk_get (pc := 9) hx hb hts hown hK (pl_rg hW0) flJ1_105 pa1 (Nat.lt_succ_self _) (Nat.zero_add _).symm (shP_18 (kd_PL hg2) (kd_k hg2)) (x := va_rf oa3) (congrArg (fun z => some (va_rf z)) he4) dJ1_keyOrNull_9 ?_
    have e9 := rs1 hm
    subst e9
    exact rp_aretP (x := oa3) (pc := 12) hx hb hr (Or.inl ⟨_, rfl⟩) hlk rfl dJ1_keyOrNull_12
set_option maxHeartbeats 4000000 in
theorem ct_J1_keyOrNull {G : Gv} {l : Launch} {PL : Nat → Bool} {V0 : Mem} {o0 : Option Nat} {rx : Option Nat} (hm : fJ1_keyOrNull PL V0 o0 = some rx) : CP G l yJ1_keyOrNull (ws_ yJ1_keyOrNull cJ1_keyOrNull 1 (some (.object "java/lang/Object"))) 0 0 [va_rf o0] (fun H => pl G PL V0 H) (some (va_rf rx)) := by
  cases o0 with
  | none =>
    refine Met.ofW (cc := cJ1_keyOrNull) (maxL := 1) (ret := (some (.object "java/lang/Object"))) (by decide +kernel) rfl ?_
    intro p e s m args below meth c s₁ B hml hv
    obtain ⟨rfl, hW0, hK⟩ := hv
    have hts := atoms_spec (ws := ws_ yJ1_keyOrNull cJ1_keyOrNull 1 (some (.object "java/lang/Object"))) B.pre
    have hts : ∀ w ∈ lw_all, w.before _ s = true := fun w h => hts w (List.mem_cons_of_mem _ h)
    have C : Cx G p s m _ meth c RJ1 cJ1_keyOrNull 1 (some (.object "java/lang/Object")) := ⟨B.exec, B.bytes, B.returns, B.notSynchronized, hml, findClass_of_methodNamed B.named, hts, hK⟩
    have hl := lv_entry ([va_rf none]) (n := 1) (Nat.le_of_ble_eq_true rfl)
    rw [lg_entry_eq]
    generalize (lg_sl ([va_rf none]) ++ List.replicate (1 - (lg_sl ([va_rf none])).length) Slot.unset).toArray = ls at hl ⊢
    have hl : lv_has ls 1 [(0, va_rf none)] := hl
    exact w_fJ1_keyOrNull C hW0 _ hm ls hl
  | some ao0 =>
    refine Met.ofW (cc := cJ1_keyOrNull) (maxL := 1) (ret := (some (.object "java/lang/Object"))) (by decide +kernel) rfl ?_
    intro p e s m args below meth c s₁ B hml hv
    obtain ⟨rfl, hW0, hK⟩ := hv
    have hts := atoms_spec (ws := ws_ yJ1_keyOrNull cJ1_keyOrNull 1 (some (.object "java/lang/Object"))) B.pre
    have hts : ∀ w ∈ lw_all, w.before _ s = true := fun w h => hts w (List.mem_cons_of_mem _ h)
    have C : Cx G p s m _ meth c RJ1 cJ1_keyOrNull 1 (some (.object "java/lang/Object")) := ⟨B.exec, B.bytes, B.returns, B.notSynchronized, hml, findClass_of_methodNamed B.named, hts, hK⟩
    have hl := lv_entry ([va_rf (some ao0)]) (n := 1) (Nat.le_of_ble_eq_true rfl)
    rw [lg_entry_eq]
    generalize (lg_sl ([va_rf (some ao0)]) ++ List.replicate (1 - (lg_sl ([va_rf (some ao0)])).length) Slot.unset).toArray = ls at hl ⊢
    have hl : lv_has ls 1 [(0, va_rf (some ao0))] := hl
    exact w_fJ1_keyOrNull C hW0 _ hm ls hl
theorem yn_J1_keyOrNull : YN yJ1_keyOrNull 1 := by
  unfold YN
  decide +kernel
theorem lkJ1_207 : LSt RJ1 207 yJ1_keyOrNull cJ1_keyOrNull 1 (some (.object "java/lang/Object")) := ⟨q1482, q1483, q120, q1484⟩
noncomputable def fJ1_floorKey (PL : Nat → Bool) (V0 : Mem) (p0 : Nat) (p1 : Nat) : Option (Option Nat) :=
  gb (kd PL V0 p0 16) (
  ob (fJ1_getFloorEntry PL V0 p0 p1) fun oa2 =>
  ob (fJ1_keyOrNull PL V0 oa2) fun oa4 =>
  some oa4)
set_option maxHeartbeats 4000000 in
theorem w_fJ1_floorKey (C : Cx G p s m args meth c RJ1 cJ1_floorKey 2 (some (.object "java/lang/Object"))) {PL : Nat → Bool} {V0 : Mem} {rx : Option Nat} (hW0 : pl G PL V0 s.heap) (hZP : ZP G) : ∀ (p0 : Nat) (p1 : Nat), fJ1_floorKey PL V0 p0 p1 = some rx → ∀ (ls : Array Slot), lv_has ls 2 [(0, .ref p0), (1, .ref p1)] → W p l e (rmP 4 91) s m args below meth c s.heap [] 0 0 (MQ below (QcP (some (va_rf rx))) args s 0 0 (fun _ => False)) (F0 m 0 ls []) := by
  intro p0 p1 hm ls hl
  obtain ⟨hx, hb, hr, hlk, hml, hown, hts, hK⟩ := id C
  unfold fJ1_floorKey at hm
  refine lv_aload_n (pc := 0) hx hb dJ1_floorKey_0 rfl (lv_at hl 0 rfl) ?_
  refine lv_aload_n (pc := 1) hx hb dJ1_floorKey_1 rfl (lv_at hl 1 rfl) ?_
  obtain ⟨hg1, hm⟩ := gb_some hm
  obtain ⟨oa2, hq3, hm⟩ := ob_some hm
  refine rk_PV (pc := 2) (As := [.ref p1]) (rest := []) hx hb hml hown hts hK lkJ1_210 rfl yn_J1_getFloorEntry (ct_J1_getFloorEntry (G := G) (l := l) hq3 hZP) ⟨Nat.le_of_ble_eq_true rfl, Nat.le_of_ble_eq_true rfl⟩ (rp_recv hK hW0 (C := RJ1) (T := TJ1) (N := 9) rfl (shP_16 (kd_PL hg1) (kd_k hg1))) hW0 rfl rfl hl.1 (Nat.le_of_ble_eq_true rfl) dJ1_floorKey_2 ⟨Nat.zero_le _, Nat.zero_le _⟩ ?_
  refine W.eq (g2 := F0 m 5 ls [va_rf oa2]) rfl ?_
  obtain ⟨oa4, hq5, hm⟩ := ob_some hm
  refine rk_PS (pc := 5) (As := [va_rf oa2]) (rest := []) hx hb hml hown hts hK lkJ1_207 yn_J1_keyOrNull (ct_J1_keyOrNull (G := G) (l := l) hq5) ⟨Nat.le_of_ble_eq_true rfl, Nat.le_of_ble_eq_true rfl⟩ hW0 rfl rfl hl.1 (Nat.le_of_ble_eq_true rfl) dJ1_floorKey_5 ⟨Nat.zero_le _, Nat.zero_le _⟩ ?_
  refine W.eq (g2 := F0 m 8 ls [va_rf oa4]) rfl ?_
  have e9 := rs1 hm
  subst e9
  exact rp_aretP (x := oa4) (pc := 8) hx hb hr (Or.inl ⟨_, rfl⟩) hlk rfl dJ1_floorKey_8
set_option maxHeartbeats 4000000 in
theorem ct_J1_floorKey {G : Gv} {l : Launch} {PL : Nat → Bool} {V0 : Mem} {p0 : Nat} {p1 : Nat} {rx : Option Nat} (hm : fJ1_floorKey PL V0 p0 p1 = some rx) (hZP : ZP G) : CP G l yJ1_floorKey (ws_ yJ1_floorKey cJ1_floorKey 2 (some (.object "java/lang/Object"))) 4 91 [.ref p0, .ref p1] (fun H => pl G PL V0 H) (some (va_rf rx)) := by
  refine Met.ofW (cc := cJ1_floorKey) (maxL := 2) (ret := (some (.object "java/lang/Object"))) (by decide +kernel) rfl ?_
  intro p e s m args below meth c s₁ B hml hv
  obtain ⟨rfl, hW0, hK⟩ := hv
  have hts := atoms_spec (ws := ws_ yJ1_floorKey cJ1_floorKey 2 (some (.object "java/lang/Object"))) B.pre
  have hts : ∀ w ∈ lw_all, w.before _ s = true := fun w h => hts w (List.mem_cons_of_mem _ h)
  have C : Cx G p s m _ meth c RJ1 cJ1_floorKey 2 (some (.object "java/lang/Object")) := ⟨B.exec, B.bytes, B.returns, B.notSynchronized, hml, findClass_of_methodNamed B.named, hts, hK⟩
  have hl := lv_entry ([.ref p0, .ref p1]) (n := 2) (Nat.le_of_ble_eq_true rfl)
  rw [lg_entry_eq]
  generalize (lg_sl ([.ref p0, .ref p1]) ++ List.replicate (2 - (lg_sl ([.ref p0, .ref p1])).length) Slot.unset).toArray = ls at hl ⊢
  have hl : lv_has ls 2 [(0, .ref p0), (1, .ref p1)] := hl
  exact w_fJ1_floorKey C hW0 hZP _ _ hm ls hl
theorem flJ1_58 : FL RJ1 58 18 1 RJ11 TJ11 6 := ⟨in_J11, rfl, by decide, q1407⟩
noncomputable def fJ1_get (PL : Nat → Bool) (V0 : Mem) (p0 : Nat) (p1 : Nat) : Option (Option Nat) :=
  gb (kd PL V0 p0 16) (
  ob (fJ1_getEntry PL V0 p0 p1) fun oa2 =>
  od oa2 (
  some none) (fun pa4 =>
  gb (kd PL V0 pa4 18) (
  lo (gR V0 pa4 1) fun oa6 =>
  some oa6)))
set_option maxHeartbeats 4000000 in
theorem w_fJ1_get (C : Cx G p s m args meth c RJ1 cJ1_get 3 (some (.object "java/lang/Object"))) {PL : Nat → Bool} {V0 : Mem} {rx : Option Nat} (hW0 : pl G PL V0 s.heap) (hZP : ZP G) : ∀ (p0 : Nat) (p1 : Nat), fJ1_get PL V0 p0 p1 = some rx → ∀ (ls : Array Slot), lv_has ls 3 [(0, .ref p0), (1, .ref p1)] → W p l e (rmP 3 68) s m args below meth c s.heap [] 0 0 (MQ below (QcP (some (va_rf rx))) args s 0 0 (fun _ => False)) (F0 m 0 ls []) := by
  intro p0 p1 hm ls hl
  obtain ⟨hx, hb, hr, hlk, hml, hown, hts, hK⟩ := id C
  unfold fJ1_get at hm
  refine lv_aload_n (pc := 0) hx hb dJ1_get_0 rfl (lv_at hl 0 rfl) ?_
  refine lv_aload_n (pc := 1) hx hb dJ1_get_1 rfl (lv_at hl 1 rfl) ?_
  obtain ⟨hg1, hm⟩ := gb_some hm
  obtain ⟨oa2, hq3, hm⟩ := ob_some hm
  refine rk_PV (pc := 2) (As := [.ref p1]) (rest := []) hx hb hml hown hts hK lkJ1_50 rfl yn_J1_getEntry (ct_J1_getEntry (G := G) (l := l) hq3 hZP) ⟨Nat.le_of_ble_eq_true rfl, Nat.le_of_ble_eq_true rfl⟩ (rp_recv hK hW0 (C := RJ1) (T := TJ1) (N := 9) rfl (shP_16 (kd_PL hg1) (kd_k hg1))) hW0 rfl rfl hl.1 (Nat.le_of_ble_eq_true rfl) dJ1_get_2 ⟨Nat.zero_le _, Nat.zero_le _⟩ ?_
  refine W.eq (g2 := F0 m 5 ls [va_rf oa2]) rfl ?_
  refine lv_astore_nO (pc := 5) (lv' := [(2, va_rf oa2), (0, .ref p0), (1, .ref p1)]) hx hb dJ1_get_5 rfl hl (by decide) rfl (fun ls hl => ?_)
  refine lv_aload_nO (pc := 6) hx hb dJ1_get_6 rfl (lv_at hl 0 rfl) ?_
  rcases oa2 with _ | pa4
  · have hm := od_n hm
    refine lv_ifnonnullN (pc := 7) hx hb dJ1_get_7 ?_
    refine lv_null (pc := 10) hx hb dJ1_get_10 ?_
    refine lv_goto (pc := 11) (tgt := 18) hx hb dJ1_get_11 (by decide) ?_
    have e9 := rs1 hm
    subst e9
    exact rp_aretP (x := none) (pc := 18) hx hb hr (Or.inl ⟨_, rfl⟩) hlk rfl dJ1_get_18
  · have hm := od_s hm
    refine lv_ifnonnull (pc := 7) (tgt := 14) hx hb dJ1_get_7 (by decide) ?_
    refine lv_aload_n (pc := 14) hx hb dJ1_get_14 rfl (lv_at hl 0 rfl) ?_
    obtain ⟨hg5, hm⟩ := gb_some hm
    obtain ⟨oa6, he7, hm⟩ := lo_some hm
    refine rk_get (pc := 15) hx hb hts hown hK (pl_rg hW0) flJ1_58 pa4 (Nat.lt_succ_self _) (Nat.zero_add _).symm (shP_18 (kd_PL hg5) (kd_k hg5)) (x := va_rf oa6) (congrArg (fun z => some (va_rf z)) he7) dJ1_get_15 ?_
    have e9 := rs1 hm
    subst e9
    exact rp_aretP (x := oa6) (pc := 18) hx hb hr (Or.inl ⟨_, rfl⟩) hlk rfl dJ1_get_18
set_option maxHeartbeats 4000000 in
theorem ct_J1_get {G : Gv} {l : Launch} {PL : Nat → Bool} {V0 : Mem} {p0 : Nat} {p1 : Nat} {rx : Option Nat} (hm : fJ1_get PL V0 p0 p1 = some rx) (hZP : ZP G) : CP G l yJ1_get (ws_ yJ1_get cJ1_get 3 (some (.object "java/lang/Object"))) 3 68 [.ref p0, .ref p1] (fun H => pl G PL V0 H) (some (va_rf rx)) := by
  refine Met.ofW (cc := cJ1_get) (maxL := 3) (ret := (some (.object "java/lang/Object"))) (by decide +kernel) rfl ?_
  intro p e s m args below meth c s₁ B hml hv
  obtain ⟨rfl, hW0, hK⟩ := hv
  have hts := atoms_spec (ws := ws_ yJ1_get cJ1_get 3 (some (.object "java/lang/Object"))) B.pre
  have hts : ∀ w ∈ lw_all, w.before _ s = true := fun w h => hts w (List.mem_cons_of_mem _ h)
  have C : Cx G p s m _ meth c RJ1 cJ1_get 3 (some (.object "java/lang/Object")) := ⟨B.exec, B.bytes, B.returns, B.notSynchronized, hml, findClass_of_methodNamed B.named, hts, hK⟩
  have hl := lv_entry ([.ref p0, .ref p1]) (n := 3) (Nat.le_of_ble_eq_true rfl)
  rw [lg_entry_eq]
  generalize (lg_sl ([.ref p0, .ref p1]) ++ List.replicate (3 - (lg_sl ([.ref p0, .ref p1])).length) Slot.unset).toArray = ls at hl ⊢
  have hl : lv_has ls 3 [(0, .ref p0), (1, .ref p1)] := hl
  exact w_fJ1_get C hW0 hZP _ _ hm ls hl
noncomputable def fJ1_getHigherEntry_64 (PL : Nat → Bool) (V0 : Mem) (k64 : Option Nat → Option Nat → Option (Option Nat)) (o4 : Option Nat) (o5 : Option Nat) : Option (Option Nat) :=
  od o4 (
  some none) (fun pa32 =>
  gb (kd PL V0 pa32 18) (
  lo (gR V0 pa32 3) fun oa34 =>
  if o5 = oa34 then (
  gb (kd PL V0 pa32 18) (
  lo (gR V0 pa32 4) fun oa38 =>
  k64 oa38 (some pa32)))
  else (
  some (some pa32))))
noncomputable def fJ1_getHigherEntry_5 (PL : Nat → Bool) (V0 : Mem) (k5 : Nat → Nat → Option Nat → Option (Option Nat)) (p0 : Nat) (p1 : Nat) (o2 : Option Nat) : Option (Option Nat) :=
  od o2 (
  some none) (fun pa4 =>
  gb (kd PL V0 pa4 18) (
  lo (gR V0 pa4 0) fun oa6 =>
  ob oa6 fun pa8 =>
  gb (kd PL V0 p0 16) (
  ob (fJ1_compare PL V0 p0 p1 pa8) fun r12 =>
  if 0 ≤ r12 then (
  gb (kd PL V0 pa4 18) (
  lo (gR V0 pa4 3) fun oa16 =>
  od oa16 (
  gb (kd PL V0 pa4 18) (
  lo (gR V0 pa4 4) fun oa20 =>
  lq2 (fJ1_getHigherEntry_64 PL V0) FU oa20 (some pa4))) (fun pa18 =>
  gb (kd PL V0 pa4 18) (
  lo (gR V0 pa4 3) fun oa23 =>
  k5 p0 p1 oa23))))
  else (
  gb (kd PL V0 pa4 18) (
  lo (gR V0 pa4 2) fun oa26 =>
  od oa26 (
  some (some pa4)) (fun pa28 =>
  gb (kd PL V0 pa4 18) (
  lo (gR V0 pa4 2) fun oa30 =>
  k5 p0 p1 oa30)))))))
noncomputable def fJ1_getHigherEntry (PL : Nat → Bool) (V0 : Mem) (p0 : Nat) (p1 : Nat) : Option (Option Nat) :=
  gb (kd PL V0 p0 16) (
  lo (gR V0 p0 3) fun oa2 =>
  lq3 (fJ1_getHigherEntry_5 PL V0) FU p0 p1 oa2)
set_option maxHeartbeats 4000000 in
theorem w_fJ1_getHigherEntry_64 (C : Cx G p s m args meth c RJ1 cJ1_getHigherEntry 6 (some (.object "java/util/TreeMap$Entry"))) {PL : Nat → Bool} {V0 : Mem} {rx : Option Nat} (hW0 : pl G PL V0 s.heap) (hZP : ZP G) {k64 : Option Nat → Option Nat → Option (Option Nat)} (hk64 : ∀ (o4 : Option Nat) (o5 : Option Nat), k64 o4 o5 = some rx → ∀ (ls : Array Slot), lv_has ls 6 [(4, va_rf o4), (5, va_rf o5)] → W p l e (rmP 3 66) s m args below meth c s.heap [] 0 0 (MQ below (QcP (some (va_rf rx))) args s 0 0 (fun _ => False)) (F0 m 64 ls [])) : ∀ (o4 : Option Nat) (o5 : Option Nat), fJ1_getHigherEntry_64 PL V0 k64 o4 o5 = some rx → ∀ (ls : Array Slot), lv_has ls 6 [(4, va_rf o4), (5, va_rf o5)] → W p l e (rmP 3 66) s m args below meth c s.heap [] 0 0 (MQ below (QcP (some (va_rf rx))) args s 0 0 (fun _ => False)) (F0 m 64 ls []) := by
  intro o4 o5 hm ls hl
  obtain ⟨hx, hb, hr, hlk, hml, hown, hts, hK⟩ := id C
  unfold fJ1_getHigherEntry_64 at hm
  refine lv_aloadO (pc := 64) hx hb dJ1_getHigherEntry_64 (lv_at hl 0 rfl) ?_
  rcases o4 with _ | pa32
  · have hm := od_n hm
    refine lv_ifnullN (pc := 66) (tgt := 93) hx hb dJ1_getHigherEntry_66 (by decide) ?_
    refine lv_aloadN (pc := 93) hx hb dJ1_getHigherEntry_93 (lv_at hl 0 rfl) ?_
    have e9 := rs1 hm
    subst e9
    exact rp_aretP (x := none) (pc := 95) hx hb hr (Or.inl ⟨_, rfl⟩) hlk rfl dJ1_getHigherEntry_95
  · have hm := od_s hm
    refine lv_ifnull (pc := 66) hx hb dJ1_getHigherEntry_66 ?_
    refine lv_aloadO (pc := 69) hx hb dJ1_getHigherEntry_69 (lv_at hl 1 rfl) ?_
    refine lv_aload (pc := 71) hx hb dJ1_getHigherEntry_71 (lv_at hl 0 rfl) ?_
    obtain ⟨hg33, hm⟩ := gb_some hm
    obtain ⟨oa34, he35, hm⟩ := lo_some hm
    refine rk_get (pc := 73) hx hb hts hown hK (pl_rg hW0) flJ1_114 pa32 (Nat.lt_succ_self _) (Nat.zero_add _).symm (shP_18 (kd_PL hg33) (kd_k hg33)) (x := va_rf oa34) (congrArg (fun z => some (va_rf z)) he35) dJ1_getHigherEntry_73 ?_
    refine lv_acmp_ne (pc := 76) (rx := o5) (ry := oa34) (tgt := 93) hx hb dJ1_getHigherEntry_76 (by decide) (fun c36 => ?_) (fun c36 => ?_)
    · have hm := ite_f c36 hm
      refine lv_aload (pc := 93) hx hb dJ1_getHigherEntry_93 (lv_at hl 0 rfl) ?_
      have e9 := rs1 hm
      subst e9
      exact rp_aretP (x := (some pa32)) (pc := 95) hx hb hr (Or.inl ⟨_, rfl⟩) hlk rfl dJ1_getHigherEntry_95
    · have hm := ite_t c36 hm
      refine lv_aload (pc := 79) hx hb dJ1_getHigherEntry_79 (lv_at hl 0 rfl) ?_
      refine lv_astore (pc := 81) (lv' := [(5, .ref pa32), (4, .ref pa32)]) hx hb dJ1_getHigherEntry_81 hl (by decide) rfl (fun ls hl => ?_)
      refine lv_aload (pc := 83) hx hb dJ1_getHigherEntry_83 (lv_at hl 1 rfl) ?_
      obtain ⟨hg37, hm⟩ := gb_some hm
      obtain ⟨oa38, he39, hm⟩ := lo_some hm
      refine rk_get (pc := 85) hx hb hts hown hK (pl_rg hW0) flJ1_124 pa32 (Nat.lt_succ_self _) (Nat.zero_add _).symm (shP_18 (kd_PL hg37) (kd_k hg37)) (x := va_rf oa38) (congrArg (fun z => some (va_rf z)) he39) dJ1_getHigherEntry_85 ?_
      refine lv_astoreO (pc := 88) (lv' := [(4, va_rf oa38), (5, .ref pa32)]) hx hb dJ1_getHigherEntry_88 hl (by decide) rfl (fun ls hl => ?_)
      refine lv_goto (pc := 90) (tgt := 64) hx hb dJ1_getHigherEntry_90 (by decide) ?_
      exact hk64 oa38 (some pa32) hm ls (lv_sub hl [0, 1] rfl)
theorem w_fJ1_getHigherEntry_64_l (C : Cx G p s m args meth c RJ1 cJ1_getHigherEntry 6 (some (.object "java/util/TreeMap$Entry"))) {PL : Nat → Bool} {V0 : Mem} {rx : Option Nat} (hW0 : pl G PL V0 s.heap) (hZP : ZP G) : ∀ (n : Nat) (o4 : Option Nat) (o5 : Option Nat), lq2 (fJ1_getHigherEntry_64 PL V0) n o4 o5 = some rx → ∀ (ls : Array Slot), lv_has ls 6 [(4, va_rf o4), (5, va_rf o5)] → W p l e (rmP 3 66) s m args below meth c s.heap [] 0 0 (MQ below (QcP (some (va_rf rx))) args s 0 0 (fun _ => False)) (F0 m 64 ls []) := by
  intro n
  induction n with
  | zero => intro o4 o5 hm; exact (lq2_0 hm).elim
  | succ n ih => intro o4 o5 hm; exact w_fJ1_getHigherEntry_64 C hW0 hZP ih o4 o5 (lq2_s hm)
set_option maxHeartbeats 4000000 in
theorem w_fJ1_getHigherEntry_5 (C : Cx G p s m args meth c RJ1 cJ1_getHigherEntry 6 (some (.object "java/util/TreeMap$Entry"))) {PL : Nat → Bool} {V0 : Mem} {rx : Option Nat} (hW0 : pl G PL V0 s.heap) (hZP : ZP G) {k5 : Nat → Nat → Option Nat → Option (Option Nat)} (hk5 : ∀ (p0 : Nat) (p1 : Nat) (o2 : Option Nat), k5 p0 p1 o2 = some rx → ∀ (ls : Array Slot), lv_has ls 6 [(0, .ref p0), (1, .ref p1), (2, va_rf o2)] → W p l e (rmP 3 66) s m args below meth c s.heap [] 0 0 (MQ below (QcP (some (va_rf rx))) args s 0 0 (fun _ => False)) (F0 m 5 ls [])) : ∀ (p0 : Nat) (p1 : Nat) (o2 : Option Nat), fJ1_getHigherEntry_5 PL V0 k5 p0 p1 o2 = some rx → ∀ (ls : Array Slot), lv_has ls 6 [(0, .ref p0), (1, .ref p1), (2, va_rf o2)] → W p l e (rmP 3 66) s m args below meth c s.heap [] 0 0 (MQ below (QcP (some (va_rf rx))) args s 0 0 (fun _ => False)) (F0 m 5 ls []) := by
  intro p0 p1 o2 hm ls hl
  obtain ⟨hx, hb, hr, hlk, hml, hown, hts, hK⟩ := id C
  unfold fJ1_getHigherEntry_5 at hm
  refine lv_aload_nO (pc := 5) hx hb dJ1_getHigherEntry_5 rfl (lv_at hl 2 rfl) ?_
  rcases o2 with _ | pa4
  · have hm := od_n hm
    refine lv_ifnullN (pc := 6) (tgt := 99) hx hb dJ1_getHigherEntry_6 (by decide) ?_
    refine lv_null (pc := 99) hx hb dJ1_getHigherEntry_99 ?_
    have e9 := rs1 hm
    subst e9
    exact rp_aretP (x := none) (pc := 100) hx hb hr (Or.inl ⟨_, rfl⟩) hlk rfl dJ1_getHigherEntry_100
  · have hm := od_s hm
    refine lv_ifnull (pc := 6) hx hb dJ1_getHigherEntry_6 ?_
    refine lv_aload_n (pc := 9) hx hb dJ1_getHigherEntry_9 rfl (lv_at hl 0 rfl) ?_
    refine lv_aload_n (pc := 10) hx hb dJ1_getHigherEntry_10 rfl (lv_at hl 1 rfl) ?_
    refine lv_aload_n (pc := 11) hx hb dJ1_getHigherEntry_11 rfl (lv_at hl 2 rfl) ?_
    obtain ⟨hg5, hm⟩ := gb_some hm
    obtain ⟨oa6, he7, hm⟩ := lo_some hm
    refine rk_get (pc := 12) hx hb hts hown hK (pl_rg hW0) flJ1_105 pa4 (Nat.lt_succ_self _) (Nat.zero_add _).symm (shP_18 (kd_PL hg5) (kd_k hg5)) (x := va_rf oa6) (congrArg (fun z => some (va_rf z)) he7) dJ1_getHigherEntry_12 ?_
    obtain ⟨pa8, he9, hm10⟩ := ob_some hm
    subst he9
    have hm := hm10
    obtain ⟨hg11, hm⟩ := gb_some hm
    obtain ⟨r12, hq13, hm⟩ := ob_some hm
    refine rk_PV (pc := 15) (As := [.ref p1, .ref pa8]) (rest := []) hx hb hml hown hts hK lkJ1_123 rfl yn_J1_compare (ct_J1_compare (G := G) (l := l) hq13 hZP) ⟨Nat.le_of_ble_eq_true rfl, Nat.le_of_ble_eq_true rfl⟩ (rp_recv hK hW0 (C := RJ1) (T := TJ1) (N := 9) rfl (shP_16 (kd_PL hg11) (kd_k hg11))) hW0 rfl rfl hl.1 (Nat.le_of_ble_eq_true rfl) dJ1_getHigherEntry_15 ⟨Nat.zero_le _, Nat.zero_le _⟩ ?_
    refine W.eq (g2 := F0 m 18 ls [.int r12]) rfl ?_
    refine lv_istore_n (pc := 18) (lv' := [(3, .int r12), (0, .ref p0), (1, .ref p1), (2, .ref pa4)]) hx hb dJ1_getHigherEntry_18 rfl hl (by decide) rfl (fun ls hl => ?_)
    refine lv_iload_n (pc := 19) hx hb dJ1_getHigherEntry_19 rfl (lv_at hl 0 rfl) ?_
    refine lv_if_ge (pc := 20) (tgt := 40) hx hb dJ1_getHigherEntry_20 (by decide) (fun c14 => ?_) (fun c14 => ?_)
    · have hm := ite_t c14 hm
      refine lv_aload_n (pc := 40) hx hb dJ1_getHigherEntry_40 rfl (lv_at hl 3 rfl) ?_
      obtain ⟨hg15, hm⟩ := gb_some hm
      obtain ⟨oa16, he17, hm⟩ := lo_some hm
      refine rk_get (pc := 41) hx hb hts hown hK (pl_rg hW0) flJ1_114 pa4 (Nat.lt_succ_self _) (Nat.zero_add _).symm (shP_18 (kd_PL hg15) (kd_k hg15)) (x := va_rf oa16) (congrArg (fun z => some (va_rf z)) he17) dJ1_getHigherEntry_41 ?_
      rcases oa16 with _ | pa18
      · have hm := od_n hm
        refine lv_ifnullN (pc := 44) (tgt := 55) hx hb dJ1_getHigherEntry_44 (by decide) ?_
        refine lv_aload_n (pc := 55) hx hb dJ1_getHigherEntry_55 rfl (lv_at hl 3 rfl) ?_
        obtain ⟨hg19, hm⟩ := gb_some hm
        obtain ⟨oa20, he21, hm⟩ := lo_some hm
        refine rk_get (pc := 56) hx hb hts hown hK (pl_rg hW0) flJ1_124 pa4 (Nat.lt_succ_self _) (Nat.zero_add _).symm (shP_18 (kd_PL hg19) (kd_k hg19)) (x := va_rf oa20) (congrArg (fun z => some (va_rf z)) he21) dJ1_getHigherEntry_56 ?_
        refine lv_astoreO (pc := 59) (lv' := [(4, va_rf oa20), (3, .int r12), (0, .ref p0), (1, .ref p1), (2, .ref pa4)]) hx hb dJ1_getHigherEntry_59 hl (by decide) rfl (fun ls hl => ?_)
        refine lv_aload_n (pc := 61) hx hb dJ1_getHigherEntry_61 rfl (lv_at hl 4 rfl) ?_
        refine lv_astore (pc := 62) (lv' := [(5, .ref pa4), (4, va_rf oa20), (3, .int r12), (0, .ref p0), (1, .ref p1), (2, .ref pa4)]) hx hb dJ1_getHigherEntry_62 hl (by decide) (by simp [List.filter, cat_rf]) (fun ls hl => ?_)
        exact (w_fJ1_getHigherEntry_64_l C hW0 hZP FU) oa20 (some pa4) hm ls (lv_sub hl [1, 0] rfl)
      · have hm := od_s hm
        refine lv_ifnull (pc := 44) hx hb dJ1_getHigherEntry_44 ?_
        refine lv_aload_n (pc := 47) hx hb dJ1_getHigherEntry_47 rfl (lv_at hl 3 rfl) ?_
        obtain ⟨hg22, hm⟩ := gb_some hm
        obtain ⟨oa23, he24, hm⟩ := lo_some hm
        refine rk_get (pc := 48) hx hb hts hown hK (pl_rg hW0) flJ1_114 pa4 (Nat.lt_succ_self _) (Nat.zero_add _).symm (shP_18 (kd_PL hg22) (kd_k hg22)) (x := va_rf oa23) (congrArg (fun z => some (va_rf z)) he24) dJ1_getHigherEntry_48 ?_
        refine lv_astore_nO (pc := 51) (lv' := [(2, va_rf oa23), (3, .int r12), (0, .ref p0), (1, .ref p1)]) hx hb dJ1_getHigherEntry_51 rfl hl (by decide) rfl (fun ls hl => ?_)
        refine lv_goto (pc := 52) (tgt := 96) hx hb dJ1_getHigherEntry_52 (by decide) ?_
        refine lv_goto (pc := 96) (tgt := 5) hx hb dJ1_getHigherEntry_96 (by decide) ?_
        exact hk5 p0 p1 oa23 hm ls (lv_sub hl [2, 3, 0] rfl)
    · have hm := ite_f c14 hm
      refine lv_aload_n (pc := 23) hx hb dJ1_getHigherEntry_23 rfl (lv_at hl 3 rfl) ?_
      obtain ⟨hg25, hm⟩ := gb_some hm
      obtain ⟨oa26, he27, hm⟩ := lo_some hm
      refine rk_get (pc := 24) hx hb hts hown hK (pl_rg hW0) flJ1_111 pa4 (Nat.lt_succ_self _) (Nat.zero_add _).symm (shP_18 (kd_PL hg25) (kd_k hg25)) (x := va_rf oa26) (congrArg (fun z => some (va_rf z)) he27) dJ1_getHigherEntry_24 ?_
      rcases oa26 with _ | pa28
      · have hm := od_n hm
        refine lv_ifnullN (pc := 27) (tgt := 38) hx hb dJ1_getHigherEntry_27 (by decide) ?_
        refine lv_aload_n (pc := 38) hx hb dJ1_getHigherEntry_38 rfl (lv_at hl 3 rfl) ?_
        have e9 := rs1 hm
        subst e9
        exact rp_aretP (x := (some pa4)) (pc := 39) hx hb hr (Or.inl ⟨_, rfl⟩) hlk rfl dJ1_getHigherEntry_39
      · have hm := od_s hm
        refine lv_ifnull (pc := 27) hx hb dJ1_getHigherEntry_27 ?_
        refine lv_aload_n (pc := 30) hx hb dJ1_getHigherEntry_30 rfl (lv_at hl 3 rfl) ?_
        obtain ⟨hg29, hm⟩ := gb_some hm
        obtain ⟨oa30, he31, hm⟩ := lo_some hm
        refine rk_get (pc := 31) hx hb hts hown hK (pl_rg hW0) flJ1_111 pa4 (Nat.lt_succ_self _) (Nat.zero_add _).symm (shP_18 (kd_PL hg29) (kd_k hg29)) (x := va_rf oa30) (congrArg (fun z => some (va_rf z)) he31) dJ1_getHigherEntry_31 ?_
        refine lv_astore_nO (pc := 34) (lv' := [(2, va_rf oa30), (3, .int r12), (0, .ref p0), (1, .ref p1)]) hx hb dJ1_getHigherEntry_34 rfl hl (by decide) rfl (fun ls hl => ?_)
        refine lv_goto (pc := 35) (tgt := 96) hx hb dJ1_getHigherEntry_35 (by decide) ?_
        refine lv_goto (pc := 96) (tgt := 5) hx hb dJ1_getHigherEntry_96 (by decide) ?_
        exact hk5 p0 p1 oa30 hm ls (lv_sub hl [2, 3, 0] rfl)
theorem w_fJ1_getHigherEntry_5_l (C : Cx G p s m args meth c RJ1 cJ1_getHigherEntry 6 (some (.object "java/util/TreeMap$Entry"))) {PL : Nat → Bool} {V0 : Mem} {rx : Option Nat} (hW0 : pl G PL V0 s.heap) (hZP : ZP G) : ∀ (n : Nat) (p0 : Nat) (p1 : Nat) (o2 : Option Nat), lq3 (fJ1_getHigherEntry_5 PL V0) n p0 p1 o2 = some rx → ∀ (ls : Array Slot), lv_has ls 6 [(0, .ref p0), (1, .ref p1), (2, va_rf o2)] → W p l e (rmP 3 66) s m args below meth c s.heap [] 0 0 (MQ below (QcP (some (va_rf rx))) args s 0 0 (fun _ => False)) (F0 m 5 ls []) := by
  intro n
  induction n with
  | zero => intro p0 p1 o2 hm; exact (lq3_0 hm).elim
  | succ n ih => intro p0 p1 o2 hm; exact w_fJ1_getHigherEntry_5 C hW0 hZP ih p0 p1 o2 (lq3_s hm)
set_option maxHeartbeats 4000000 in
theorem w_fJ1_getHigherEntry (C : Cx G p s m args meth c RJ1 cJ1_getHigherEntry 6 (some (.object "java/util/TreeMap$Entry"))) {PL : Nat → Bool} {V0 : Mem} {rx : Option Nat} (hW0 : pl G PL V0 s.heap) (hZP : ZP G) : ∀ (p0 : Nat) (p1 : Nat), fJ1_getHigherEntry PL V0 p0 p1 = some rx → ∀ (ls : Array Slot), lv_has ls 6 [(0, .ref p0), (1, .ref p1)] → W p l e (rmP 3 66) s m args below meth c s.heap [] 0 0 (MQ below (QcP (some (va_rf rx))) args s 0 0 (fun _ => False)) (F0 m 0 ls []) := by
  intro p0 p1 hm ls hl
  obtain ⟨hx, hb, hr, hlk, hml, hown, hts, hK⟩ := id C
  unfold fJ1_getHigherEntry at hm
  refine lv_aload_n (pc := 0) hx hb dJ1_getHigherEntry_0 rfl (lv_at hl 0 rfl) ?_
  obtain ⟨hg1, hm⟩ := gb_some hm
  obtain ⟨oa2, he3, hm⟩ := lo_some hm
  refine rk_get (pc := 1) hx hb hts hown hK (pl_rg hW0) flJ1_101 p0 (Nat.lt_succ_self _) (Nat.zero_add _).symm (shP_16 (kd_PL hg1) (kd_k hg1)) (x := va_rf oa2) (congrArg (fun z => some (va_rf z)) he3) dJ1_getHigherEntry_1 ?_
  refine lv_astore_nO (pc := 4) (lv' := [(2, va_rf oa2), (0, .ref p0), (1, .ref p1)]) hx hb dJ1_getHigherEntry_4 rfl hl (by decide) rfl (fun ls hl => ?_)
  exact (w_fJ1_getHigherEntry_5_l C hW0 hZP FU) p0 p1 oa2 hm ls (lv_sub hl [1, 2, 0] rfl)
set_option maxHeartbeats 4000000 in
theorem ct_J1_getHigherEntry {G : Gv} {l : Launch} {PL : Nat → Bool} {V0 : Mem} {p0 : Nat} {p1 : Nat} {rx : Option Nat} (hm : fJ1_getHigherEntry PL V0 p0 p1 = some rx) (hZP : ZP G) : CP G l yJ1_getHigherEntry (ws_ yJ1_getHigherEntry cJ1_getHigherEntry 6 (some (.object "java/util/TreeMap$Entry"))) 3 66 [.ref p0, .ref p1] (fun H => pl G PL V0 H) (some (va_rf rx)) := by
  refine Met.ofW (cc := cJ1_getHigherEntry) (maxL := 6) (ret := (some (.object "java/util/TreeMap$Entry"))) (by decide +kernel) rfl ?_
  intro p e s m args below meth c s₁ B hml hv
  obtain ⟨rfl, hW0, hK⟩ := hv
  have hts := atoms_spec (ws := ws_ yJ1_getHigherEntry cJ1_getHigherEntry 6 (some (.object "java/util/TreeMap$Entry"))) B.pre
  have hts : ∀ w ∈ lw_all, w.before _ s = true := fun w h => hts w (List.mem_cons_of_mem _ h)
  have C : Cx G p s m _ meth c RJ1 cJ1_getHigherEntry 6 (some (.object "java/util/TreeMap$Entry")) := ⟨B.exec, B.bytes, B.returns, B.notSynchronized, hml, findClass_of_methodNamed B.named, hts, hK⟩
  have hl := lv_entry ([.ref p0, .ref p1]) (n := 6) (Nat.le_of_ble_eq_true rfl)
  rw [lg_entry_eq]
  generalize (lg_sl ([.ref p0, .ref p1]) ++ List.replicate (6 - (lg_sl ([.ref p0, .ref p1])).length) Slot.unset).toArray = ls at hl ⊢
  have hl : lv_has ls 6 [(0, .ref p0), (1, .ref p1)] := hl
  exact w_fJ1_getHigherEntry C hW0 hZP _ _ hm ls hl
theorem yn_J1_getHigherEntry : YN yJ1_getHigherEntry 1 := by
  unfold YN
  decide +kernel
theorem lkJ1_216 : LV RJ1 216 RJ1 yJ1_getHigherEntry cJ1_getHigherEntry 6 (some (.object "java/util/TreeMap$Entry")) := ⟨q1478, q1479, q1480, q120, q1481⟩
noncomputable def fJ1_higherKey (PL : Nat → Bool) (V0 : Mem) (p0 : Nat) (p1 : Nat) : Option (Option Nat) :=
  gb (kd PL V0 p0 16) (
  ob (fJ1_getHigherEntry PL V0 p0 p1) fun oa2 =>
  ob (fJ1_keyOrNull PL V0 oa2) fun oa4 =>
  some oa4)
set_option maxHeartbeats 4000000 in
theorem w_fJ1_higherKey (C : Cx G p s m args meth c RJ1 cJ1_higherKey 2 (some (.object "java/lang/Object"))) {PL : Nat → Bool} {V0 : Mem} {rx : Option Nat} (hW0 : pl G PL V0 s.heap) (hZP : ZP G) : ∀ (p0 : Nat) (p1 : Nat), fJ1_higherKey PL V0 p0 p1 = some rx → ∀ (ls : Array Slot), lv_has ls 2 [(0, .ref p0), (1, .ref p1)] → W p l e (rmP 4 91) s m args below meth c s.heap [] 0 0 (MQ below (QcP (some (va_rf rx))) args s 0 0 (fun _ => False)) (F0 m 0 ls []) := by
  intro p0 p1 hm ls hl
  obtain ⟨hx, hb, hr, hlk, hml, hown, hts, hK⟩ := id C
  unfold fJ1_higherKey at hm
  refine lv_aload_n (pc := 0) hx hb dJ1_higherKey_0 rfl (lv_at hl 0 rfl) ?_
  refine lv_aload_n (pc := 1) hx hb dJ1_higherKey_1 rfl (lv_at hl 1 rfl) ?_
  obtain ⟨hg1, hm⟩ := gb_some hm
  obtain ⟨oa2, hq3, hm⟩ := ob_some hm
  refine rk_PV (pc := 2) (As := [.ref p1]) (rest := []) hx hb hml hown hts hK lkJ1_216 rfl yn_J1_getHigherEntry (ct_J1_getHigherEntry (G := G) (l := l) hq3 hZP) ⟨Nat.le_of_ble_eq_true rfl, Nat.le_of_ble_eq_true rfl⟩ (rp_recv hK hW0 (C := RJ1) (T := TJ1) (N := 9) rfl (shP_16 (kd_PL hg1) (kd_k hg1))) hW0 rfl rfl hl.1 (Nat.le_of_ble_eq_true rfl) dJ1_higherKey_2 ⟨Nat.zero_le _, Nat.zero_le _⟩ ?_
  refine W.eq (g2 := F0 m 5 ls [va_rf oa2]) rfl ?_
  obtain ⟨oa4, hq5, hm⟩ := ob_some hm
  refine rk_PS (pc := 5) (As := [va_rf oa2]) (rest := []) hx hb hml hown hts hK lkJ1_207 yn_J1_keyOrNull (ct_J1_keyOrNull (G := G) (l := l) hq5) ⟨Nat.le_of_ble_eq_true rfl, Nat.le_of_ble_eq_true rfl⟩ hW0 rfl rfl hl.1 (Nat.le_of_ble_eq_true rfl) dJ1_higherKey_5 ⟨Nat.zero_le _, Nat.zero_le _⟩ ?_
  refine W.eq (g2 := F0 m 8 ls [va_rf oa4]) rfl ?_
  have e9 := rs1 hm
  subst e9
  exact rp_aretP (x := oa4) (pc := 8) hx hb hr (Or.inl ⟨_, rfl⟩) hlk rfl dJ1_higherKey_8
set_option maxHeartbeats 4000000 in
theorem ct_J1_higherKey {G : Gv} {l : Launch} {PL : Nat → Bool} {V0 : Mem} {p0 : Nat} {p1 : Nat} {rx : Option Nat} (hm : fJ1_higherKey PL V0 p0 p1 = some rx) (hZP : ZP G) : CP G l yJ1_higherKey (ws_ yJ1_higherKey cJ1_higherKey 2 (some (.object "java/lang/Object"))) 4 91 [.ref p0, .ref p1] (fun H => pl G PL V0 H) (some (va_rf rx)) := by
  refine Met.ofW (cc := cJ1_higherKey) (maxL := 2) (ret := (some (.object "java/lang/Object"))) (by decide +kernel) rfl ?_
  intro p e s m args below meth c s₁ B hml hv
  obtain ⟨rfl, hW0, hK⟩ := hv
  have hts := atoms_spec (ws := ws_ yJ1_higherKey cJ1_higherKey 2 (some (.object "java/lang/Object"))) B.pre
  have hts : ∀ w ∈ lw_all, w.before _ s = true := fun w h => hts w (List.mem_cons_of_mem _ h)
  have C : Cx G p s m _ meth c RJ1 cJ1_higherKey 2 (some (.object "java/lang/Object")) := ⟨B.exec, B.bytes, B.returns, B.notSynchronized, hml, findClass_of_methodNamed B.named, hts, hK⟩
  have hl := lv_entry ([.ref p0, .ref p1]) (n := 2) (Nat.le_of_ble_eq_true rfl)
  rw [lg_entry_eq]
  generalize (lg_sl ([.ref p0, .ref p1]) ++ List.replicate (2 - (lg_sl ([.ref p0, .ref p1])).length) Slot.unset).toArray = ls at hl ⊢
  have hl : lv_has ls 2 [(0, .ref p0), (1, .ref p1)] := hl
  exact w_fJ1_higherKey C hW0 hZP _ _ hm ls hl
theorem flJ1_191 : FL RJ1 191 16 7 RJ1 TJ1 9 := ⟨in_J1, rfl, by decide, q338⟩
theorem df_J13 (fs : List Value) (h : fs = [.null]) : ∀ j, j < 1 → defaultValue (tyJ13 j) = vp_V fs j := by
  subst h
  intro j hj
  match j, hj with
  | 0, _ => rfl
  | n + 1, h => exact absurd h (by omega)
theorem ft_J13 : FT TJ13 1 tyJ13 := ⟨tyJ13_ok, nmJ13⟩
theorem yn_J12_init : YN yJ12_init 0 := by
  unfold YN
  decide +kernel
theorem lkJ13_1 : LI RJ13 1 yJ12_init cJ12_init 1 := ⟨q1519, q1520, q143, q1521, rfl⟩
theorem flJ13_7 : FL RJ13 7 19 0 RJ13 TJ13 1 := ⟨in_J13, rfl, by decide, q1523⟩
noncomputable def fJ13_init (PL : Nat → Bool) (v0 : Mem) (p0 : Nat) (p1 : Nat) : Option (Mem) :=
  ob (fJ12_init p0) fun _ =>
  gb (kd PL v0 p0 19) (
  lm (sR v0 p0 0 (some p1)) fun v0_3 =>
  some v0_3)
set_option maxHeartbeats 4000000 in
theorem w_fJ13_init (C : Cx G p s m args meth c RJ13 cJ13_init 2 none) {PL : Nat → Bool} {vP0 : Mem} {rw0 : Mem} (hin : meth.name = "<init>") : ∀ (v0 : Mem) (p0 : Nat) (p1 : Nat), fJ13_init PL v0 p0 p1 = some rw0 → ∀ (H : Heap) (locs : List Loc) (ls : Array Slot), pl G PL v0 H → va_S (FA (fP PL vP0) s.heap.size) s.heap H locs → H.size = s.heap.size → KM vP0 v0 s.heap.size → lv_has ls 2 [(0, .ref p0), (1, .ref p1)] → W p l e (rmT 3 0 0 72) s m args below meth c H locs 0 0 (MQ below (QcT (FA (fP PL vP0) s.heap.size) (fun ov H => ov = none ∧ pl G PL rw0 H ∧ H.size = s.heap.size ∧ KM vP0 rw0 s.heap.size)) args s 0 0 (FA (fP PL vP0) s.heap.size)) (F0 m 0 ls []) := by
  intro v0 p0 p1 hm H locs ls hW0 hS hz hKM hl
  obtain ⟨hx, hb, hr, hlk, hml, hown, hts, hK⟩ := id C
  unfold fJ13_init at hm
  refine lv_aload_n (pc := 0) hx hb dJ13_init_0 rfl (lv_at hl 0 rfl) ?_
  obtain ⟨_, hq1, hm⟩ := ob_some hm
  refine rk_PI (pc := 1) (As := []) (rest := []) hx hb hml hown hts hK lkJ13_1 yn_J12_init (ct_J12_init (G := G) (l := l) hq1) ⟨Nat.le_of_ble_eq_true rfl, Nat.le_of_ble_eq_true rfl⟩ trivial rfl rfl hl.1 (Nat.le_of_ble_eq_true rfl) dJ13_init_1 ⟨Nat.zero_le _, Nat.zero_le _⟩ ?_
  refine W.eq (g2 := F0 m 4 ls []) rfl ?_
  refine lv_aload_n (pc := 4) hx hb dJ13_init_4 rfl (lv_at hl 0 rfl) ?_
  refine lv_aload_n (pc := 5) hx hb dJ13_init_5 rfl (lv_at hl 1 rfl) ?_
  obtain ⟨hg2, hm⟩ := gb_some hm
  refine rp_putF (pc := 6) (q := p0) hx hb hts hown hK hW0 hS flJ13_7 ft_J13 (kd_A hKM hg2 (by decide)) (shP_19 (kd_PL hg2) (kd_k hg2)) rfl hin rfl (x := va_rf (some p1)) (rf_nar _ rfl (some p1)) (rf_fit _ rfl (some p1)) (Nat.le_of_ble_eq_true rfl) (sR v0 p0 0 (some p1)) sR_ne (by rw [sR_eq]; exact shP_19 (kd_PL hg2) (kd_k hg2)) dJ13_init_6 (fun H4 locs5 hW6 hS7 hz8 hkp9 => ?_)
  have hKM10 := KM.sR (o := p0) (j := 0) (x := (some p1)) hKM
  obtain ⟨v0_3, he9, hm⟩ := lm_some hm
  rw [he9] at hW6 hKM10
  have hz11 := hz8.trans hz
  have e9 := rs1 hm
  subst e9
  exact rk_vret (pc := 9) hx hb hr hlk hS7 ⟨rfl, hW6, hz11, hKM10⟩ dJ13_init_9
set_option maxHeartbeats 4000000 in
theorem ct_J13_init {G : Gv} {l : Launch} {PL : Nat → Bool} {v0 : Mem} {p0 : Nat} {p1 : Nat} {rw0 : Mem} {sz : Nat} (hm : fJ13_init PL v0 p0 p1 = some rw0) : CT G l yJ13_init (ws_ yJ13_init cJ13_init 2 none) 3 0 0 72 [.ref p0, .ref p1] (fP PL v0) sz (fun H => pl G PL v0 H) (fun ov H => ov = none ∧ pl G PL rw0 H ∧ H.size = sz ∧ KM v0 rw0 sz) := by
  refine Met.ofW (cc := cJ13_init) (maxL := 2) (ret := none) (by decide +kernel) rfl ?_
  intro p e s m args below meth c s₁ B hml hv
  obtain ⟨rfl, ⟨hz, hW0⟩, hK⟩ := hv
  subst hz
  have hin : meth.name = "<init>" := (name_of_methodNamed B.named B.method).1
  have hts := atoms_spec (ws := ws_ yJ13_init cJ13_init 2 none) B.pre
  have hts : ∀ w ∈ lw_all, w.before _ s = true := fun w h => hts w (List.mem_cons_of_mem _ h)
  have C : Cx G p s m _ meth c RJ13 cJ13_init 2 none := ⟨B.exec, B.bytes, B.returns, B.notSynchronized, hml, findClass_of_methodNamed B.named, hts, hK⟩
  have hl := lv_entry ([.ref p0, .ref p1]) (n := 2) (Nat.le_of_ble_eq_true rfl)
  rw [lg_entry_eq]
  generalize (lg_sl ([.ref p0, .ref p1]) ++ List.replicate (2 - (lg_sl ([.ref p0, .ref p1])).length) Slot.unset).toArray = ls at hl ⊢
  have hl : lv_has ls 2 [(0, .ref p0), (1, .ref p1)] := hl
  exact w_fJ13_init C hin _ _ _ hm s.heap [] ls hW0 va_S.rf rfl KM.rf hl
theorem yn_J13_init : YN yJ13_init 1 := by
  unfold YN
  decide +kernel
theorem lkJ1_224 : LI RJ1 224 yJ13_init cJ13_init 2 := ⟨q1516, q1517, q144, q1518, rfl⟩
noncomputable def fJ1_navigableKeySet (PL : Nat → Bool) (Z : Nat) (v0 : Mem) (p0 : Nat) : Option (Option Nat × Nat × Mem) :=
  gb (kd PL v0 p0 16) (
  lo (gR v0 p0 7) fun oa2 =>
  od oa2 (
  ln (Z + 0) fun h5 =>
  gb (PL h5) (
  lm (nwP v0 h5 19 0) fun v0_9 =>
  ob (fJ13_init PL v0_9 h5 p0) fun w17 =>
  gb (kd PL w17 p0 16) (
  lm (sR w17 p0 7 (some h5)) fun v0_30 =>
  some ((some h5), 1, v0_30)))) (fun pa4 =>
  some ((some pa4), 0, v0)))
set_option maxHeartbeats 4000000 in
theorem w_fJ1_navigableKeySet (C : Cx G p s m args meth c RJ1 cJ1_navigableKeySet 2 (some (.object "java/util/NavigableSet"))) {PL : Nat → Bool} {Z : Nat} {vP0 : Mem} {rx : Option Nat} {rc : Nat} {rw0 : Mem} (hZz : s.heap.size = Z) : ∀ (v0 : Mem) (p0 : Nat), fJ1_navigableKeySet PL Z v0 p0 = some (rx, rc, rw0) → ∀ (H : Heap) (locs : List Loc) (ls : Array Slot), pl G PL v0 H → va_S (FA (fP PL vP0) s.heap.size) s.heap H locs → H.size = s.heap.size + 0 → KM vP0 v0 s.heap.size → lv_has ls 2 [(0, .ref p0)] → W p l e (rmT 4 1 1 93) s m args below meth c H locs 0 0 (MQ below (QcT (FA (fP PL vP0) s.heap.size) (fun ov H => ov = (some (va_rf rx)) ∧ pl G PL rw0 H ∧ H.size = s.heap.size + rc ∧ KM vP0 rw0 s.heap.size)) args s 1 1 (FA (fP PL vP0) s.heap.size)) (F0 m 0 ls []) := by
  intro v0 p0 hm H locs ls hW0 hS hz hKM hl
  obtain ⟨hx, hb, hr, hlk, hml, hown, hts, hK⟩ := id C
  unfold fJ1_navigableKeySet at hm
  refine lv_aload_n (pc := 0) hx hb dJ1_navigableKeySet_0 rfl (lv_at hl 0 rfl) ?_
  obtain ⟨hg1, hm⟩ := gb_some hm
  obtain ⟨oa2, he3, hm⟩ := lo_some hm
  refine rk_get (pc := 1) hx hb hts hown hK (pl_rg hW0) flJ1_191 p0 (Nat.lt_succ_self _) (Nat.zero_add _).symm (shP_16 (kd_PL hg1) (kd_k hg1)) (x := va_rf oa2) (congrArg (fun z => some (va_rf z)) he3) dJ1_navigableKeySet_1 ?_
  refine lv_astore_nO (pc := 4) (lv' := [(1, va_rf oa2), (0, .ref p0)]) hx hb dJ1_navigableKeySet_4 rfl hl (by decide) rfl (fun ls hl => ?_)
  refine lv_aload_nO (pc := 5) hx hb dJ1_navigableKeySet_5 rfl (lv_at hl 0 rfl) ?_
  rcases oa2 with _ | pa4
  · have hm := od_n hm
    refine lv_ifnullN (pc := 6) (tgt := 13) hx hb dJ1_navigableKeySet_6 (by decide) ?_
    refine lv_aload_n (pc := 13) hx hb dJ1_navigableKeySet_13 rfl (lv_at hl 1 rfl) ?_
    obtain ⟨h5, hh6, hm⟩ := ln_some hm
    obtain ⟨hg7, hm⟩ := gb_some hm
    have hs8 : H.size = h5 := by omega
    refine rp_new (pc := 14) (h := h5) (kn := 19) (n := 0) hx hb hts hown hK hW0 hS in_J13 ft_J13 rfl q1514 q1515 q144 hs8 (shP_19 hg7 rfl) (df_J13 _ rfl) (Nat.le_of_ble_eq_true rfl) (Nat.le_of_ble_eq_true rfl) dJ1_navigableKeySet_14 (fun H10 hW11 hS12 hz13 hkp14 => ?_)
    have hKM15 := KM.nw (h := h5) (k := 19) (n := 0) hKM (by omega)
    obtain ⟨v0_9, he9, hm⟩ := lm_some hm
    rw [he9] at hW11 hKM15
    have hz16 : H10.size = s.heap.size + 1 := by omega
    refine lv_dup (pc := 17) hx hb dJ1_navigableKeySet_17 rfl ?_
    refine lv_aload_n (pc := 18) hx hb dJ1_navigableKeySet_18 rfl (lv_at hl 1 rfl) ?_
    obtain ⟨w17, hq18, hm⟩ := ob_some hm
    refine rk_TI (pc := 19) (As := [.ref p0]) (rest := [.ref h5, .ref p0]) (mc := 0) (ms := 0) hx hb hml hown hts hK hS12 (fun q hq => FA_sz rfl q hq) lkJ1_224 yn_J13_init (ct_J13_init (G := G) (l := l) (sz := H10.size) hq18) ⟨Nat.le_of_ble_eq_true rfl, Nat.le_of_ble_eq_true rfl⟩ (fun z h => (KM_hf2 hKM15 z h)) hW11 rfl rfl hl.1 (Nat.le_of_ble_eq_true rfl) dJ1_navigableKeySet_19 ⟨Nat.le_of_ble_eq_true rfl, Nat.le_of_ble_eq_true rfl⟩ (fun ov9 H19 locs20 hP21 hkp22 hS23 => ?_)
    obtain ⟨rfl, hW24, hz25, hKM26⟩ := hP21
    have hz27 := hz25.trans hz16
    have hKM28 := KM.trans hKM15 hKM26 (by omega)
    refine W.eq (g2 := F0 m 22 ls [.ref h5, .ref p0]) rfl ?_
    refine lv_dup_x1 (pc := 22) hx hb dJ1_navigableKeySet_22 rfl rfl ?_
    obtain ⟨hg29, hm⟩ := gb_some hm
    refine rp_put (pc := 23) (q := p0) hx hb hts hown hK hW24 hS23 flJ1_191 ft_J1 (kd_A hKM28 hg29 (by decide)) (shP_16 (kd_PL hg29) (kd_k hg29)) rfl (x := va_rf (some h5)) (rf_nar _ rfl (some h5)) (rf_fit _ rfl (some h5)) (Nat.le_of_ble_eq_true rfl) (sR w17 p0 7 (some h5)) sR_ne (by rw [sR_eq]; exact shP_16 (kd_PL hg29) (kd_k hg29)) dJ1_navigableKeySet_23 (fun H31 locs32 hW33 hS34 hz35 hkp36 => ?_)
    have hKM37 := KM.sR (o := p0) (j := 7) (x := (some h5)) hKM28
    obtain ⟨v0_30, he9, hm⟩ := lm_some hm
    rw [he9] at hW33 hKM37
    have hz38 := hz35.trans hz27
    obtain ⟨e7, e8, e9⟩ := rs3 hm
    subst e7
    subst e8
    subst e9
    exact rp_aretA (pc := 26) (x := (some h5)) hx hb hr (Or.inl ⟨_, rfl⟩) hlk hS34 ⟨rfl, hW33, hz38, hKM37⟩ dJ1_navigableKeySet_26 (by exact Nat.le_of_ble_eq_true rfl) (by exact Nat.le_of_ble_eq_true rfl)
  · have hm := od_s hm
    refine lv_ifnull (pc := 6) hx hb dJ1_navigableKeySet_6 ?_
    refine lv_aload_n (pc := 9) hx hb dJ1_navigableKeySet_9 rfl (lv_at hl 0 rfl) ?_
    refine lv_goto (pc := 10) (tgt := 26) hx hb dJ1_navigableKeySet_10 (by decide) ?_
    obtain ⟨e7, e8, e9⟩ := rs3 hm
    subst e7
    subst e8
    subst e9
    exact rp_aretA (pc := 26) (x := (some pa4)) hx hb hr (Or.inl ⟨_, rfl⟩) hlk hS ⟨rfl, hW0, hz, hKM⟩ dJ1_navigableKeySet_26 (by exact Nat.le_of_ble_eq_true rfl) (by exact Nat.le_of_ble_eq_true rfl)
set_option maxHeartbeats 4000000 in
theorem ct_J1_navigableKeySet {G : Gv} {l : Launch} {PL : Nat → Bool} {Z : Nat} {v0 : Mem} {p0 : Nat} {rx : Option Nat} {rc : Nat} {rw0 : Mem} (hm : fJ1_navigableKeySet PL Z v0 p0 = some (rx, rc, rw0)) : CT G l yJ1_navigableKeySet (ws_ yJ1_navigableKeySet cJ1_navigableKeySet 2 (some (.object "java/util/NavigableSet"))) 4 1 1 93 [.ref p0] (fP PL v0) Z (fun H => pl G PL v0 H) (fun ov H => ov = (some (va_rf rx)) ∧ pl G PL rw0 H ∧ H.size = Z + rc ∧ KM v0 rw0 Z) := by
  refine Met.ofW (cc := cJ1_navigableKeySet) (maxL := 2) (ret := (some (.object "java/util/NavigableSet"))) (by decide +kernel) rfl ?_
  intro p e s m args below meth c s₁ B hml hv
  obtain ⟨rfl, ⟨hz, hW0⟩, hK⟩ := hv
  subst hz
  have hZz : s.heap.size = s.heap.size := rfl
  have hts := atoms_spec (ws := ws_ yJ1_navigableKeySet cJ1_navigableKeySet 2 (some (.object "java/util/NavigableSet"))) B.pre
  have hts : ∀ w ∈ lw_all, w.before _ s = true := fun w h => hts w (List.mem_cons_of_mem _ h)
  have C : Cx G p s m _ meth c RJ1 cJ1_navigableKeySet 2 (some (.object "java/util/NavigableSet")) := ⟨B.exec, B.bytes, B.returns, B.notSynchronized, hml, findClass_of_methodNamed B.named, hts, hK⟩
  have hl := lv_entry ([.ref p0]) (n := 2) (Nat.le_of_ble_eq_true rfl)
  rw [lg_entry_eq]
  generalize (lg_sl ([.ref p0]) ++ List.replicate (2 - (lg_sl ([.ref p0])).length) Slot.unset).toArray = ls at hl ⊢
  have hl : lv_has ls 2 [(0, .ref p0)] := hl
  exact w_fJ1_navigableKeySet C hZz _ _ hm s.heap [] ls hW0 va_S.rf rfl KM.rf hl
theorem yn_J1_navigableKeySet : YN yJ1_navigableKeySet 0 := by
  unfold YN
  decide +kernel
theorem lkJ1_219 : LV RJ1 219 RJ1 yJ1_navigableKeySet cJ1_navigableKeySet 2 (some (.object "java/util/NavigableSet")) := ⟨q1510, q1511, q1512, q120, q1513⟩
noncomputable def fJ1_keySet (PL : Nat → Bool) (Z : Nat) (v0 : Mem) (p0 : Nat) : Option (Option Nat × Nat × Mem) :=
  gb (kd PL v0 p0 16) (
  ob3 (fJ1_navigableKeySet PL (Z + 0) v0 p0) fun oa2 rc3 w4 =>
  some (oa2, rc3, w4))
set_option maxHeartbeats 4000000 in
theorem w_fJ1_keySet (C : Cx G p s m args meth c RJ1 cJ1_keySet 1 (some (.object "java/util/Set"))) {PL : Nat → Bool} {Z : Nat} {vP0 : Mem} {rx : Option Nat} {rc : Nat} {rw0 : Mem} (hZz : s.heap.size = Z) : ∀ (v0 : Mem) (p0 : Nat), fJ1_keySet PL Z v0 p0 = some (rx, rc, rw0) → ∀ (H : Heap) (locs : List Loc) (ls : Array Slot), pl G PL v0 H → va_S (FA (fP PL vP0) s.heap.size) s.heap H locs → H.size = s.heap.size + 0 → KM vP0 v0 s.heap.size → lv_has ls 1 [(0, .ref p0)] → W p l e (rmT 5 1 1 114) s m args below meth c H locs 0 0 (MQ below (QcT (FA (fP PL vP0) s.heap.size) (fun ov H => ov = (some (va_rf rx)) ∧ pl G PL rw0 H ∧ H.size = s.heap.size + rc ∧ KM vP0 rw0 s.heap.size)) args s 1 1 (FA (fP PL vP0) s.heap.size)) (F0 m 0 ls []) := by
  intro v0 p0 hm H locs ls hW0 hS hz hKM hl
  obtain ⟨hx, hb, hr, hlk, hml, hown, hts, hK⟩ := id C
  unfold fJ1_keySet at hm
  refine lv_aload_n (pc := 0) hx hb dJ1_keySet_0 rfl (lv_at hl 0 rfl) ?_
  obtain ⟨hg1, hm⟩ := gb_some hm
  obtain ⟨oa2, rc3, w4, hq5, hm⟩ := ob3_some hm
  have hq6 := hq5
  rw [show (Z + 0) = H.size by omega] at hq6
  refine rk_TV (pc := 1) (As := []) (rest := []) (mc := 1) (ms := 1) hx hb hml hown hts hK hS (fun q hq => FA_sz rfl q hq) lkJ1_219 rfl yn_J1_navigableKeySet (ct_J1_navigableKeySet (G := G) (l := l) hq6) ⟨Nat.le_of_ble_eq_true rfl, Nat.le_of_ble_eq_true rfl⟩ (fun z h => (KM_hf2 hKM z h)) (rp_recv hK hW0 (C := RJ1) (T := TJ1) (N := 9) rfl (shP_16 (kd_PL hg1) (kd_k hg1))) hW0 rfl rfl hl.1 (Nat.le_of_ble_eq_true rfl) dJ1_keySet_1 ⟨Nat.le_of_ble_eq_true rfl, Nat.le_of_ble_eq_true rfl⟩ (fun ov9 H7 locs8 hP9 hkp10 hS11 => ?_)
  obtain ⟨rfl, hW12, hz13, hKM14⟩ := hP9
  have hz15 : H7.size = s.heap.size + rc3 := by omega
  have hKM16 := KM.trans hKM hKM14 (by omega)
  refine W.eq (g2 := F0 m 4 ls [va_rf oa2]) rfl ?_
  obtain ⟨e7, e8, e9⟩ := rs3 hm
  subst e7
  subst e8
  subst e9
  exact rp_aretA (pc := 4) (x := oa2) hx hb hr (Or.inl ⟨_, rfl⟩) hlk hS11 ⟨rfl, hW12, hz15, hKM16⟩ dJ1_keySet_4 (by exact Nat.le_of_ble_eq_true rfl) (by exact Nat.le_of_ble_eq_true rfl)
set_option maxHeartbeats 4000000 in
theorem ct_J1_keySet {G : Gv} {l : Launch} {PL : Nat → Bool} {Z : Nat} {v0 : Mem} {p0 : Nat} {rx : Option Nat} {rc : Nat} {rw0 : Mem} (hm : fJ1_keySet PL Z v0 p0 = some (rx, rc, rw0)) : CT G l yJ1_keySet (ws_ yJ1_keySet cJ1_keySet 1 (some (.object "java/util/Set"))) 5 1 1 114 [.ref p0] (fP PL v0) Z (fun H => pl G PL v0 H) (fun ov H => ov = (some (va_rf rx)) ∧ pl G PL rw0 H ∧ H.size = Z + rc ∧ KM v0 rw0 Z) := by
  refine Met.ofW (cc := cJ1_keySet) (maxL := 1) (ret := (some (.object "java/util/Set"))) (by decide +kernel) rfl ?_
  intro p e s m args below meth c s₁ B hml hv
  obtain ⟨rfl, ⟨hz, hW0⟩, hK⟩ := hv
  subst hz
  have hZz : s.heap.size = s.heap.size := rfl
  have hts := atoms_spec (ws := ws_ yJ1_keySet cJ1_keySet 1 (some (.object "java/util/Set"))) B.pre
  have hts : ∀ w ∈ lw_all, w.before _ s = true := fun w h => hts w (List.mem_cons_of_mem _ h)
  have C : Cx G p s m _ meth c RJ1 cJ1_keySet 1 (some (.object "java/util/Set")) := ⟨B.exec, B.bytes, B.returns, B.notSynchronized, hml, findClass_of_methodNamed B.named, hts, hK⟩
  have hl := lv_entry ([.ref p0]) (n := 1) (Nat.le_of_ble_eq_true rfl)
  rw [lg_entry_eq]
  generalize (lg_sl ([.ref p0]) ++ List.replicate (1 - (lg_sl ([.ref p0])).length) Slot.unset).toArray = ls at hl ⊢
  have hl : lv_has ls 1 [(0, .ref p0)] := hl
  exact w_fJ1_keySet C hZz _ _ hm s.heap [] ls hW0 va_S.rf rfl KM.rf hl
theorem yn_J1_addEntryToEmptyMap : YN yJ1_addEntryToEmptyMap 2 := by
  unfold YN
  decide +kernel
theorem lkJ1_135 : LV RJ1 135 RJ1 yJ1_addEntryToEmptyMap cJ1_addEntryToEmptyMap 3 none := ⟨q1389, q1391, qs49, q120, q1392⟩
theorem yn_J1_addEntry : YN yJ1_addEntry 4 := by
  unfold YN
  decide +kernel
theorem lkJ1_139 : LV RJ1 139 RJ1 yJ1_addEntry cJ1_addEntry 6 none := ⟨q1427, q1429, qs50, q120, q1430⟩
noncomputable def fJ1_put_2_201 (PL : Nat → Bool) (Z : Nat) (v0 : Mem) (zc : Nat) (p0 : Nat) (p1 : Nat) (p2 : Nat) (i5 : Int32) (p6 : Nat) : Option (Option Nat × Nat × Mem) :=
  if 0 ≤ i5 then (
  gb (kd PL v0 p0 16) (
  ob2 (fJ1_addEntry PL (Z + zc) v0 p0 p1 p2 p6 (0 : Int32)) fun rc81 w82 =>
  some (none, (zc + rc81), w82)))
  else (
  gb (kd PL v0 p0 16) (
  ob2 (fJ1_addEntry PL (Z + zc) v0 p0 p1 p2 p6 (1 : Int32)) fun rc96 w97 =>
  some (none, (zc + rc96), w97)))
noncomputable def fJ1_put_2_196 (PL : Nat → Bool) (Z : Nat) (k123 : Mem → Nat → Nat → Nat → Nat → Int32 → Option Nat → Nat → Option (Option Nat × Nat × Mem)) (v0 : Mem) (zc : Nat) (p0 : Nat) (p1 : Nat) (p2 : Nat) (i3 : Int32) (o4 : Option Nat) (i5 : Int32) (p6 : Nat) (p8 : Nat) : Option (Option Nat × Nat × Mem) :=
  od o4 (
  fJ1_put_2_201 PL Z v0 zc p0 p1 p2 i5 p6) (fun pa78 =>
  k123 v0 zc p0 p1 p2 i3 (some pa78) p8)
noncomputable def fJ1_put_2_123 (PL : Nat → Bool) (Z : Nat) (k123 : Mem → Nat → Nat → Nat → Nat → Int32 → Option Nat → Nat → Option (Option Nat × Nat × Mem)) (v0 : Mem) (zc : Nat) (p0 : Nat) (p1 : Nat) (p2 : Nat) (i3 : Int32) (o4 : Option Nat) (p8 : Nat) : Option (Option Nat × Nat × Mem) :=
  ob o4 fun pa33 =>
  gb (kd PL v0 pa33 18) (
  lo (gR v0 pa33 0) fun oa37 =>
  ob oa37 fun pa39 =>
  gb (kd PL v0 p8 14) (
  ob (fX14_compareTo PL v0 p8 pa39) fun r43 =>
  if 0 ≤ r43 then (
  if r43 ≤ 0 then (
  gb (kd PL v0 pa33 18) (
  lo (gR v0 pa33 1) fun oa48 =>
  if i3 = 0 then (
  od oa48 (
  gb (kd PL v0 pa33 18) (
  lm (sR v0 pa33 1 (some p2)) fun v0_63 =>
  some (none, zc, v0_63))) (fun pa61 =>
  some ((some pa61), zc, v0)))
  else (
  gb (kd PL v0 pa33 18) (
  lm (sR v0 pa33 1 (some p2)) fun v0_52 =>
  some (oa48, zc, v0_52)))))
  else (
  gb (kd PL v0 pa33 18) (
  lo (gR v0 pa33 3) fun oa73 =>
  fJ1_put_2_196 PL Z k123 v0 zc p0 p1 p2 i3 oa73 r43 pa33 p8)))
  else (
  gb (kd PL v0 pa33 18) (
  lo (gR v0 pa33 2) fun oa76 =>
  fJ1_put_2_196 PL Z k123 v0 zc p0 p1 p2 i3 oa76 r43 pa33 p8))))
noncomputable def fJ1_put_2_30 (PL : Nat → Bool) (Z : Nat) (k30 : Mem → Nat → Nat → Nat → Nat → Int32 → Option Nat → Nat → Option (Option Nat × Nat × Mem)) (v0 : Mem) (zc : Nat) (p0 : Nat) (p1 : Nat) (p2 : Nat) (i3 : Int32) (o4 : Option Nat) (p7 : Nat) : Option (Option Nat × Nat × Mem) :=
  ob o4 fun pa27 =>
  gb (kd PL v0 pa27 18) (
  lo (gR v0 pa27 0) fun oa31 =>
  none)
noncomputable def fJ1_put_2 (PL : Nat → Bool) (Z : Nat) (v0 : Mem) (p0 : Nat) (p1 : Nat) (p2 : Nat) (i3 : Int32) : Option (Option Nat × Nat × Mem) :=
  gb (kd PL v0 p0 16) (
  lo (gR v0 p0 3) fun oa2 =>
  od oa2 (
  gb (kd PL v0 p0 16) (
  ob2 (fJ1_addEntryToEmptyMap PL (Z + 0) v0 p0 p1 p2) fun rc6 w7 =>
  some (none, rc6, w7))) (fun pa4 =>
  gb (kd PL v0 p0 16) (
  lo (gR v0 p0 2) fun oa21 =>
  od oa21 (
  ob (fJ10_requireNonNull p1) fun oa24 =>
  gb (kd PL v0 p1 14) (
  lq8 (fJ1_put_2_123 PL Z) FU v0 0 p0 p1 p2 i3 (some pa4) p1)) (fun pa23 =>
  lq8 (fJ1_put_2_30 PL Z) FU v0 0 p0 p1 p2 i3 (some pa4) pa23))))
set_option maxHeartbeats 4000000 in
theorem w_fJ1_put_2_201 (C : Cx G p s m args meth c RJ1 cJ1_put_2 10 (some (.object "java/lang/Object"))) {PL : Nat → Bool} {Z : Nat} {vP0 : Mem} {rx : Option Nat} {rc : Nat} {rw0 : Mem} (hZz : s.heap.size = Z) (hZP : ZP G) : ∀ (v0 : Mem) (zc : Nat) (p0 : Nat) (p1 : Nat) (p2 : Nat) (i5 : Int32) (p6 : Nat), fJ1_put_2_201 PL Z v0 zc p0 p1 p2 i5 p6 = some (rx, rc, rw0) → ∀ (H : Heap) (locs : List Loc) (ls : Array Slot), pl G PL v0 H → va_S (FA (fP PL vP0) s.heap.size) s.heap H locs → H.size = s.heap.size + zc → KM vP0 v0 s.heap.size → lv_has ls 10 [(0, .ref p0), (1, .ref p1), (2, .ref p2), (5, .int i5), (6, .ref p6)] → W p l e (rmT 4 1 6 88) s m args below meth c H locs 0 0 (MQ below (QcT (FA (fP PL vP0) s.heap.size) (fun ov H => ov = (some (va_rf rx)) ∧ pl G PL rw0 H ∧ H.size = s.heap.size + rc ∧ KM vP0 rw0 s.heap.size)) args s 1 6 (FA (fP PL vP0) s.heap.size)) (F0 m 201 ls []) := by
  intro v0 zc p0 p1 p2 i5 p6 hm H locs ls hW0 hS hz hKM hl
  obtain ⟨hx, hb, hr, hlk, hml, hown, hts, hK⟩ := id C
  unfold fJ1_put_2_201 at hm
  refine lv_aload_n (pc := 201) hx hb dJ1_put_2_201 rfl (lv_at hl 0 rfl) ?_
  refine lv_aload_n (pc := 202) hx hb dJ1_put_2_202 rfl (lv_at hl 1 rfl) ?_
  refine lv_aload_n (pc := 203) hx hb dJ1_put_2_203 rfl (lv_at hl 2 rfl) ?_
  refine lv_aload (pc := 204) hx hb dJ1_put_2_204 (lv_at hl 4 rfl) ?_
  refine lv_iload (pc := 206) hx hb dJ1_put_2_206 (lv_at hl 3 rfl) ?_
  refine lv_if_ge (pc := 208) (tgt := 215) hx hb dJ1_put_2_208 (by decide) (fun c79 => ?_) (fun c79 => ?_)
  · have hm := ite_t c79 hm
    refine lv_iconst (pc := 215) (v := (0 : Int32)) hx hb dJ1_put_2_215 (by decide) ?_
    obtain ⟨hg80, hm⟩ := gb_some hm
    obtain ⟨rc81, w82, hq83, hm⟩ := ob2_some hm
    have hq84 := hq83
    rw [show (Z + zc) = H.size by omega] at hq84
    refine rk_TV (pc := 216) (As := [.ref p1, .ref p2, .ref p6, .int (0 : Int32)]) (rest := []) (mc := 1) (ms := 6) hx hb hml hown hts hK hS (fun q hq => FA_sz rfl q hq) lkJ1_139 rfl yn_J1_addEntry (ct_J1_addEntry (G := G) (l := l) hq84) ⟨Nat.le_of_ble_eq_true rfl, Nat.le_of_ble_eq_true rfl⟩ (fun z h => (KM_hf2 hKM z h)) (rp_recv hK hW0 (C := RJ1) (T := TJ1) (N := 9) rfl (shP_16 (kd_PL hg80) (kd_k hg80))) hW0 rfl rfl hl.1 (Nat.le_of_ble_eq_true rfl) dJ1_put_2_216 ⟨Nat.le_of_ble_eq_true rfl, Nat.le_of_ble_eq_true rfl⟩ (fun ov9 H85 locs86 hP87 hkp88 hS89 => ?_)
    obtain ⟨rfl, hW90, hz91, hKM92⟩ := hP87
    have hz93 : H85.size = s.heap.size + (zc + rc81) := by omega
    have hKM94 := KM.trans hKM hKM92 (by omega)
    refine W.eq (g2 := F0 m 219 ls []) rfl ?_
    refine lv_null (pc := 219) hx hb dJ1_put_2_219 ?_
    obtain ⟨e7, e8, e9⟩ := rs3 hm
    subst e7
    subst e8
    subst e9
    exact rp_aretA (pc := 220) (x := none) hx hb hr (Or.inl ⟨_, rfl⟩) hlk hS89 ⟨rfl, hW90, hz93, hKM94⟩ dJ1_put_2_220 (by exact Nat.le_of_ble_eq_true rfl) (by exact Nat.le_of_ble_eq_true rfl)
  · have hm := ite_f c79 hm
    refine lv_iconst (pc := 211) (v := (1 : Int32)) hx hb dJ1_put_2_211 (by decide) ?_
    refine lv_goto (pc := 212) (tgt := 216) hx hb dJ1_put_2_212 (by decide) ?_
    obtain ⟨hg95, hm⟩ := gb_some hm
    obtain ⟨rc96, w97, hq98, hm⟩ := ob2_some hm
    have hq99 := hq98
    rw [show (Z + zc) = H.size by omega] at hq99
    refine rk_TV (pc := 216) (As := [.ref p1, .ref p2, .ref p6, .int (1 : Int32)]) (rest := []) (mc := 1) (ms := 6) hx hb hml hown hts hK hS (fun q hq => FA_sz rfl q hq) lkJ1_139 rfl yn_J1_addEntry (ct_J1_addEntry (G := G) (l := l) hq99) ⟨Nat.le_of_ble_eq_true rfl, Nat.le_of_ble_eq_true rfl⟩ (fun z h => (KM_hf2 hKM z h)) (rp_recv hK hW0 (C := RJ1) (T := TJ1) (N := 9) rfl (shP_16 (kd_PL hg95) (kd_k hg95))) hW0 rfl rfl hl.1 (Nat.le_of_ble_eq_true rfl) dJ1_put_2_216 ⟨Nat.le_of_ble_eq_true rfl, Nat.le_of_ble_eq_true rfl⟩ (fun ov9 H100 locs101 hP102 hkp103 hS104 => ?_)
    obtain ⟨rfl, hW105, hz106, hKM107⟩ := hP102
    have hz108 : H100.size = s.heap.size + (zc + rc96) := by omega
    have hKM109 := KM.trans hKM hKM107 (by omega)
    refine W.eq (g2 := F0 m 219 ls []) rfl ?_
    refine lv_null (pc := 219) hx hb dJ1_put_2_219 ?_
    obtain ⟨e7, e8, e9⟩ := rs3 hm
    subst e7
    subst e8
    subst e9
    exact rp_aretA (pc := 220) (x := none) hx hb hr (Or.inl ⟨_, rfl⟩) hlk hS104 ⟨rfl, hW105, hz108, hKM109⟩ dJ1_put_2_220 (by exact Nat.le_of_ble_eq_true rfl) (by exact Nat.le_of_ble_eq_true rfl)
set_option maxHeartbeats 4000000 in
theorem w_fJ1_put_2_196 (C : Cx G p s m args meth c RJ1 cJ1_put_2 10 (some (.object "java/lang/Object"))) {PL : Nat → Bool} {Z : Nat} {vP0 : Mem} {rx : Option Nat} {rc : Nat} {rw0 : Mem} (hZz : s.heap.size = Z) (hZP : ZP G) {k123 : Mem → Nat → Nat → Nat → Nat → Int32 → Option Nat → Nat → Option (Option Nat × Nat × Mem)} (hk123 : ∀ (v0 : Mem) (zc : Nat) (p0 : Nat) (p1 : Nat) (p2 : Nat) (i3 : Int32) (o4 : Option Nat) (p8 : Nat), k123 v0 zc p0 p1 p2 i3 o4 p8 = some (rx, rc, rw0) → ∀ (H : Heap) (locs : List Loc) (ls : Array Slot), pl G PL v0 H → va_S (FA (fP PL vP0) s.heap.size) s.heap H locs → H.size = s.heap.size + zc → KM vP0 v0 s.heap.size → lv_has ls 10 [(0, .ref p0), (1, .ref p1), (2, .ref p2), (3, .int i3), (4, va_rf o4), (8, .ref p8)] → W p l e (rmT 4 1 6 88) s m args below meth c H locs 0 0 (MQ below (QcT (FA (fP PL vP0) s.heap.size) (fun ov H => ov = (some (va_rf rx)) ∧ pl G PL rw0 H ∧ H.size = s.heap.size + rc ∧ KM vP0 rw0 s.heap.size)) args s 1 6 (FA (fP PL vP0) s.heap.size)) (F0 m 123 ls [])) : ∀ (v0 : Mem) (zc : Nat) (p0 : Nat) (p1 : Nat) (p2 : Nat) (i3 : Int32) (o4 : Option Nat) (i5 : Int32) (p6 : Nat) (p8 : Nat), fJ1_put_2_196 PL Z k123 v0 zc p0 p1 p2 i3 o4 i5 p6 p8 = some (rx, rc, rw0) → ∀ (H : Heap) (locs : List Loc) (ls : Array Slot), pl G PL v0 H → va_S (FA (fP PL vP0) s.heap.size) s.heap H locs → H.size = s.heap.size + zc → KM vP0 v0 s.heap.size → lv_has ls 10 [(0, .ref p0), (1, .ref p1), (2, .ref p2), (3, .int i3), (4, va_rf o4), (5, .int i5), (6, .ref p6), (8, .ref p8)] → W p l e (rmT 4 1 6 88) s m args below meth c H locs 0 0 (MQ below (QcT (FA (fP PL vP0) s.heap.size) (fun ov H => ov = (some (va_rf rx)) ∧ pl G PL rw0 H ∧ H.size = s.heap.size + rc ∧ KM vP0 rw0 s.heap.size)) args s 1 6 (FA (fP PL vP0) s.heap.size)) (F0 m 196 ls []) := by
  intro v0 zc p0 p1 p2 i3 o4 i5 p6 p8 hm H locs ls hW0 hS hz hKM hl
  obtain ⟨hx, hb, hr, hlk, hml, hown, hts, hK⟩ := id C
  unfold fJ1_put_2_196 at hm
  refine lv_aloadO (pc := 196) hx hb dJ1_put_2_196 (lv_at hl 4 rfl) ?_
  rcases o4 with _ | pa78
  · have hm := od_n hm
    refine lv_ifnonnullN (pc := 198) hx hb dJ1_put_2_198 ?_
    exact (w_fJ1_put_2_201 C hZz hZP) v0 zc p0 p1 p2 i5 p6 hm H locs ls hW0 hS hz hKM (lv_sub hl [0, 1, 2, 5, 6] rfl)
  · have hm := od_s hm
    refine lv_ifnonnull (pc := 198) (tgt := 123) hx hb dJ1_put_2_198 (by decide) ?_
    exact hk123 v0 zc p0 p1 p2 i3 (some pa78) p8 hm H locs ls hW0 hS hz hKM (lv_sub hl [0, 1, 2, 3, 4, 7] rfl)
set_option maxHeartbeats 4000000 in
theorem w_fJ1_put_2_123 (C : Cx G p s m args meth c RJ1 cJ1_put_2 10 (some (.object "java/lang/Object"))) {PL : Nat → Bool} {Z : Nat} {vP0 : Mem} {rx : Option Nat} {rc : Nat} {rw0 : Mem} (hZz : s.heap.size = Z) (hZP : ZP G) {k123 : Mem → Nat → Nat → Nat → Nat → Int32 → Option Nat → Nat → Option (Option Nat × Nat × Mem)} (hk123 : ∀ (v0 : Mem) (zc : Nat) (p0 : Nat) (p1 : Nat) (p2 : Nat) (i3 : Int32) (o4 : Option Nat) (p8 : Nat), k123 v0 zc p0 p1 p2 i3 o4 p8 = some (rx, rc, rw0) → ∀ (H : Heap) (locs : List Loc) (ls : Array Slot), pl G PL v0 H → va_S (FA (fP PL vP0) s.heap.size) s.heap H locs → H.size = s.heap.size + zc → KM vP0 v0 s.heap.size → lv_has ls 10 [(0, .ref p0), (1, .ref p1), (2, .ref p2), (3, .int i3), (4, va_rf o4), (8, .ref p8)] → W p l e (rmT 4 1 6 88) s m args below meth c H locs 0 0 (MQ below (QcT (FA (fP PL vP0) s.heap.size) (fun ov H => ov = (some (va_rf rx)) ∧ pl G PL rw0 H ∧ H.size = s.heap.size + rc ∧ KM vP0 rw0 s.heap.size)) args s 1 6 (FA (fP PL vP0) s.heap.size)) (F0 m 123 ls [])) : ∀ (v0 : Mem) (zc : Nat) (p0 : Nat) (p1 : Nat) (p2 : Nat) (i3 : Int32) (o4 : Option Nat) (p8 : Nat), fJ1_put_2_123 PL Z k123 v0 zc p0 p1 p2 i3 o4 p8 = some (rx, rc, rw0) → ∀ (H : Heap) (locs : List Loc) (ls : Array Slot), pl G PL v0 H → va_S (FA (fP PL vP0) s.heap.size) s.heap H locs → H.size = s.heap.size + zc → KM vP0 v0 s.heap.size → lv_has ls 10 [(0, .ref p0), (1, .ref p1), (2, .ref p2), (3, .int i3), (4, va_rf o4), (8, .ref p8)] → W p l e (rmT 4 1 6 88) s m args below meth c H locs 0 0 (MQ below (QcT (FA (fP PL vP0) s.heap.size) (fun ov H => ov = (some (va_rf rx)) ∧ pl G PL rw0 H ∧ H.size = s.heap.size + rc ∧ KM vP0 rw0 s.heap.size)) args s 1 6 (FA (fP PL vP0) s.heap.size)) (F0 m 123 ls []) := by
  intro v0 zc p0 p1 p2 i3 o4 p8 hm H locs ls hW0 hS hz hKM hl
  obtain ⟨hx, hb, hr, hlk, hml, hown, hts, hK⟩ := id C
  unfold fJ1_put_2_123 at hm
  refine lv_aloadO (pc := 123) hx hb dJ1_put_2_123 (lv_at hl 4 rfl) ?_
  refine lv_astoreO (pc := 125) (lv' := [(6, va_rf o4), (0, .ref p0), (1, .ref p1), (2, .ref p2), (3, .int i3), (4, va_rf o4), (8, .ref p8)]) hx hb dJ1_put_2_125 hl (by decide) rfl (fun ls hl => ?_)
  refine lv_aload (pc := 127) hx hb dJ1_put_2_127 (lv_at hl 6 rfl) ?_
  refine lv_aloadO (pc := 129) hx hb dJ1_put_2_129 (lv_at hl 5 rfl) ?_
  obtain ⟨pa33, he34, hm35⟩ := ob_some hm
  subst he34
  have hm := hm35
  obtain ⟨hg36, hm⟩ := gb_some hm
  obtain ⟨oa37, he38, hm⟩ := lo_some hm
  refine rk_get (pc := 131) hx hb hts hown hK (pl_rg hW0) flJ1_105 pa33 (Nat.lt_succ_self _) (Nat.zero_add _).symm (shP_18 (kd_PL hg36) (kd_k hg36)) (x := va_rf oa37) (congrArg (fun z => some (va_rf z)) he38) dJ1_put_2_131 ?_
  obtain ⟨pa39, he40, hm41⟩ := ob_some hm
  subst he40
  have hm := hm41
  obtain ⟨hg42, hm⟩ := gb_some hm
  obtain ⟨r43, hq44, hm⟩ := ob_some hm
  refine rp_PF (pc := 134) (As := [.ref pa39]) (rest := []) hx hb hml hown hts hK lfJ1_107_X14 ((hZP s hK).1.1) (T := TX14) (N := 2) (ci := 14) rfl ynx_J1_107 (ct_X14_compareTo (G := G) (l := l) hq44) ⟨Nat.le_of_ble_eq_true rfl, Nat.le_of_ble_eq_true rfl⟩ (rp_recv hK hW0 (C := RX14) (T := TX14) (N := 2) rfl (shP_14 (kd_PL hg42) (kd_k hg42))) hW0 rfl rfl hl.1 (Nat.le_of_ble_eq_true rfl) dJ1_put_2_134 ⟨Nat.zero_le _, Nat.zero_le _⟩ ?_
  refine W.eq (g2 := F0 m 139 ls [.int r43]) rfl ?_
  refine lv_istore (pc := 139) (lv' := [(5, .int r43), (6, .ref pa33), (0, .ref p0), (1, .ref p1), (2, .ref p2), (3, .int i3), (4, .ref pa33), (8, .ref p8)]) hx hb dJ1_put_2_139 hl (by decide) rfl (fun ls hl => ?_)
  refine lv_iload (pc := 141) hx hb dJ1_put_2_141 (lv_at hl 0 rfl) ?_
  refine lv_if_ge (pc := 143) (tgt := 156) hx hb dJ1_put_2_143 (by decide) (fun c45 => ?_) (fun c45 => ?_)
  · have hm := ite_t c45 hm
    refine lv_iload (pc := 156) hx hb dJ1_put_2_156 (lv_at hl 0 rfl) ?_
    refine lv_if_le (pc := 158) (tgt := 171) hx hb dJ1_put_2_158 (by decide) (fun c46 => ?_) (fun c46 => ?_)
    · have hm := ite_t c46 hm
      refine lv_aload (pc := 171) hx hb dJ1_put_2_171 (lv_at hl 6 rfl) ?_
      obtain ⟨hg47, hm⟩ := gb_some hm
      obtain ⟨oa48, he49, hm⟩ := lo_some hm
      refine rk_get (pc := 173) hx hb hts hown hK (pl_rg hW0) flJ1_58 pa33 (Nat.lt_succ_self _) (Nat.zero_add _).symm (shP_18 (kd_PL hg47) (kd_k hg47)) (x := va_rf oa48) (congrArg (fun z => some (va_rf z)) he49) dJ1_put_2_173 ?_
      refine lv_astoreO (pc := 176) (lv' := [(9, va_rf oa48), (5, .int r43), (6, .ref pa33), (0, .ref p0), (1, .ref p1), (2, .ref p2), (3, .int i3), (4, .ref pa33), (8, .ref p8)]) hx hb dJ1_put_2_176 hl (by decide) rfl (fun ls hl => ?_)
      refine lv_iload_n (pc := 178) hx hb dJ1_put_2_178 rfl (lv_at hl 6 rfl) ?_
      refine lv_if_ne (pc := 179) (tgt := 187) hx hb dJ1_put_2_179 (by decide) (fun c50 => ?_) (fun c50 => ?_)
      · have hm := ite_f c50 hm
        refine lv_aload (pc := 187) hx hb dJ1_put_2_187 (lv_at hl 7 rfl) ?_
        refine lv_aload_n (pc := 189) hx hb dJ1_put_2_189 rfl (lv_at hl 5 rfl) ?_
        obtain ⟨hg51, hm⟩ := gb_some hm
        refine rp_put (pc := 190) (q := pa33) hx hb hts hown hK hW0 hS flJ1_58 ft_J11 (kd_A hKM hg51 (by decide)) (shP_18 (kd_PL hg51) (kd_k hg51)) rfl (x := va_rf (some p2)) (rf_nar _ rfl (some p2)) (rf_fit _ rfl (some p2)) (Nat.le_of_ble_eq_true rfl) (sR v0 pa33 1 (some p2)) sR_ne (by rw [sR_eq]; exact shP_18 (kd_PL hg51) (kd_k hg51)) dJ1_put_2_190 (fun H53 locs54 hW55 hS56 hz57 hkp58 => ?_)
        have hKM59 := KM.sR (o := pa33) (j := 1) (x := (some p2)) hKM
        obtain ⟨v0_52, he9, hm⟩ := lm_some hm
        rw [he9] at hW55 hKM59
        have hz60 := hz57.trans hz
        refine lv_aloadO (pc := 193) hx hb dJ1_put_2_193 (lv_at hl 0 rfl) ?_
        obtain ⟨e7, e8, e9⟩ := rs3 hm
        subst e7
        subst e8
        subst e9
        exact rp_aretA (pc := 195) (x := oa48) hx hb hr (Or.inl ⟨_, rfl⟩) hlk hS56 ⟨rfl, hW55, hz60, hKM59⟩ dJ1_put_2_195 (by exact Nat.le_of_ble_eq_true rfl) (by exact Nat.le_of_ble_eq_true rfl)
      · have hm := ite_t c50 hm
        refine lv_aloadO (pc := 182) hx hb dJ1_put_2_182 (lv_at hl 0 rfl) ?_
        rcases oa48 with _ | pa61
        · have hm := od_n hm
          refine lv_ifnonnullN (pc := 184) hx hb dJ1_put_2_184 ?_
          refine lv_aload (pc := 187) hx hb dJ1_put_2_187 (lv_at hl 7 rfl) ?_
          refine lv_aload_n (pc := 189) hx hb dJ1_put_2_189 rfl (lv_at hl 5 rfl) ?_
          obtain ⟨hg62, hm⟩ := gb_some hm
          refine rp_put (pc := 190) (q := pa33) hx hb hts hown hK hW0 hS flJ1_58 ft_J11 (kd_A hKM hg62 (by decide)) (shP_18 (kd_PL hg62) (kd_k hg62)) rfl (x := va_rf (some p2)) (rf_nar _ rfl (some p2)) (rf_fit _ rfl (some p2)) (Nat.le_of_ble_eq_true rfl) (sR v0 pa33 1 (some p2)) sR_ne (by rw [sR_eq]; exact shP_18 (kd_PL hg62) (kd_k hg62)) dJ1_put_2_190 (fun H64 locs65 hW66 hS67 hz68 hkp69 => ?_)
          have hKM70 := KM.sR (o := pa33) (j := 1) (x := (some p2)) hKM
          obtain ⟨v0_63, he9, hm⟩ := lm_some hm
          rw [he9] at hW66 hKM70
          have hz71 := hz68.trans hz
          refine lv_aloadN (pc := 193) hx hb dJ1_put_2_193 (lv_at hl 0 rfl) ?_
          obtain ⟨e7, e8, e9⟩ := rs3 hm
          subst e7
          subst e8
          subst e9
          exact rp_aretA (pc := 195) (x := none) hx hb hr (Or.inl ⟨_, rfl⟩) hlk hS67 ⟨rfl, hW66, hz71, hKM70⟩ dJ1_put_2_195 (by exact Nat.le_of_ble_eq_true rfl) (by exact Nat.le_of_ble_eq_true rfl)
        · have hm := od_s hm
          refine lv_ifnonnull (pc := 184) (tgt := 193) hx hb dJ1_put_2_184 (by decide) ?_
          refine lv_aload (pc := 193) hx hb dJ1_put_2_193 (lv_at hl 0 rfl) ?_
          obtain ⟨e7, e8, e9⟩ := rs3 hm
          subst e7
          subst e8
          subst e9
          exact rp_aretA (pc := 195) (x := (some pa61)) hx hb hr (Or.inl ⟨_, rfl⟩) hlk hS ⟨rfl, hW0, hz, hKM⟩ dJ1_put_2_195 (by exact Nat.le_of_ble_eq_true rfl) (by exact Nat.le_of_ble_eq_true rfl)
    · have hm := ite_f c46 hm
      refine lv_aload (pc := 161) hx hb dJ1_put_2_161 (lv_at hl 6 rfl) ?_
      obtain ⟨hg72, hm⟩ := gb_some hm
      obtain ⟨oa73, he74, hm⟩ := lo_some hm
      refine rk_get (pc := 163) hx hb hts hown hK (pl_rg hW0) flJ1_114 pa33 (Nat.lt_succ_self _) (Nat.zero_add _).symm (shP_18 (kd_PL hg72) (kd_k hg72)) (x := va_rf oa73) (congrArg (fun z => some (va_rf z)) he74) dJ1_put_2_163 ?_
      refine lv_astoreO (pc := 166) (lv' := [(4, va_rf oa73), (5, .int r43), (6, .ref pa33), (0, .ref p0), (1, .ref p1), (2, .ref p2), (3, .int i3), (8, .ref p8)]) hx hb dJ1_put_2_166 hl (by decide) rfl (fun ls hl => ?_)
      refine lv_goto (pc := 168) (tgt := 196) hx hb dJ1_put_2_168 (by decide) ?_
      exact (w_fJ1_put_2_196 C hZz hZP hk123) v0 zc p0 p1 p2 i3 oa73 r43 pa33 p8 hm H locs ls hW0 hS hz hKM (lv_sub hl [3, 4, 5, 6, 0, 1, 2, 7] rfl)
  · have hm := ite_f c45 hm
    refine lv_aload (pc := 146) hx hb dJ1_put_2_146 (lv_at hl 6 rfl) ?_
    obtain ⟨hg75, hm⟩ := gb_some hm
    obtain ⟨oa76, he77, hm⟩ := lo_some hm
    refine rk_get (pc := 148) hx hb hts hown hK (pl_rg hW0) flJ1_111 pa33 (Nat.lt_succ_self _) (Nat.zero_add _).symm (shP_18 (kd_PL hg75) (kd_k hg75)) (x := va_rf oa76) (congrArg (fun z => some (va_rf z)) he77) dJ1_put_2_148 ?_
    refine lv_astoreO (pc := 151) (lv' := [(4, va_rf oa76), (5, .int r43), (6, .ref pa33), (0, .ref p0), (1, .ref p1), (2, .ref p2), (3, .int i3), (8, .ref p8)]) hx hb dJ1_put_2_151 hl (by decide) rfl (fun ls hl => ?_)
    refine lv_goto (pc := 153) (tgt := 196) hx hb dJ1_put_2_153 (by decide) ?_
    exact (w_fJ1_put_2_196 C hZz hZP hk123) v0 zc p0 p1 p2 i3 oa76 r43 pa33 p8 hm H locs ls hW0 hS hz hKM (lv_sub hl [3, 4, 5, 6, 0, 1, 2, 7] rfl)
theorem w_fJ1_put_2_123_l (C : Cx G p s m args meth c RJ1 cJ1_put_2 10 (some (.object "java/lang/Object"))) {PL : Nat → Bool} {Z : Nat} {vP0 : Mem} {rx : Option Nat} {rc : Nat} {rw0 : Mem} (hZz : s.heap.size = Z) (hZP : ZP G) : ∀ (n : Nat) (v0 : Mem) (zc : Nat) (p0 : Nat) (p1 : Nat) (p2 : Nat) (i3 : Int32) (o4 : Option Nat) (p8 : Nat), lq8 (fJ1_put_2_123 PL Z) n v0 zc p0 p1 p2 i3 o4 p8 = some (rx, rc, rw0) → ∀ (H : Heap) (locs : List Loc) (ls : Array Slot), pl G PL v0 H → va_S (FA (fP PL vP0) s.heap.size) s.heap H locs → H.size = s.heap.size + zc → KM vP0 v0 s.heap.size → lv_has ls 10 [(0, .ref p0), (1, .ref p1), (2, .ref p2), (3, .int i3), (4, va_rf o4), (8, .ref p8)] → W p l e (rmT 4 1 6 88) s m args below meth c H locs 0 0 (MQ below (QcT (FA (fP PL vP0) s.heap.size) (fun ov H => ov = (some (va_rf rx)) ∧ pl G PL rw0 H ∧ H.size = s.heap.size + rc ∧ KM vP0 rw0 s.heap.size)) args s 1 6 (FA (fP PL vP0) s.heap.size)) (F0 m 123 ls []) := by
  intro n
  induction n with
  | zero => intro v0 zc p0 p1 p2 i3 o4 p8 hm; exact (lq8_0 hm).elim
  | succ n ih => intro v0 zc p0 p1 p2 i3 o4 p8 hm; exact w_fJ1_put_2_123 C hZz hZP ih v0 zc p0 p1 p2 i3 o4 p8 (lq8_s hm)
set_option maxHeartbeats 4000000 in
theorem w_fJ1_put_2_30 (C : Cx G p s m args meth c RJ1 cJ1_put_2 10 (some (.object "java/lang/Object"))) {PL : Nat → Bool} {Z : Nat} {vP0 : Mem} {rx : Option Nat} {rc : Nat} {rw0 : Mem} (hZz : s.heap.size = Z) (hZP : ZP G) {k30 : Mem → Nat → Nat → Nat → Nat → Int32 → Option Nat → Nat → Option (Option Nat × Nat × Mem)} (hk30 : ∀ (v0 : Mem) (zc : Nat) (p0 : Nat) (p1 : Nat) (p2 : Nat) (i3 : Int32) (o4 : Option Nat) (p7 : Nat), k30 v0 zc p0 p1 p2 i3 o4 p7 = some (rx, rc, rw0) → ∀ (H : Heap) (locs : List Loc) (ls : Array Slot), pl G PL v0 H → va_S (FA (fP PL vP0) s.heap.size) s.heap H locs → H.size = s.heap.size + zc → KM vP0 v0 s.heap.size → lv_has ls 10 [(0, .ref p0), (1, .ref p1), (2, .ref p2), (3, .int i3), (4, va_rf o4), (7, .ref p7)] → W p l e (rmT 4 1 6 88) s m args below meth c H locs 0 0 (MQ below (QcT (FA (fP PL vP0) s.heap.size) (fun ov H => ov = (some (va_rf rx)) ∧ pl G PL rw0 H ∧ H.size = s.heap.size + rc ∧ KM vP0 rw0 s.heap.size)) args s 1 6 (FA (fP PL vP0) s.heap.size)) (F0 m 30 ls [])) : ∀ (v0 : Mem) (zc : Nat) (p0 : Nat) (p1 : Nat) (p2 : Nat) (i3 : Int32) (o4 : Option Nat) (p7 : Nat), fJ1_put_2_30 PL Z k30 v0 zc p0 p1 p2 i3 o4 p7 = some (rx, rc, rw0) → ∀ (H : Heap) (locs : List Loc) (ls : Array Slot), pl G PL v0 H → va_S (FA (fP PL vP0) s.heap.size) s.heap H locs → H.size = s.heap.size + zc → KM vP0 v0 s.heap.size → lv_has ls 10 [(0, .ref p0), (1, .ref p1), (2, .ref p2), (3, .int i3), (4, va_rf o4), (7, .ref p7)] → W p l e (rmT 4 1 6 88) s m args below meth c H locs 0 0 (MQ below (QcT (FA (fP PL vP0) s.heap.size) (fun ov H => ov = (some (va_rf rx)) ∧ pl G PL rw0 H ∧ H.size = s.heap.size + rc ∧ KM vP0 rw0 s.heap.size)) args s 1 6 (FA (fP PL vP0) s.heap.size)) (F0 m 30 ls []) := by
  intro v0 zc p0 p1 p2 i3 o4 p7 hm H locs ls hW0 hS hz hKM hl
  obtain ⟨hx, hb, hr, hlk, hml, hown, hts, hK⟩ := id C
  unfold fJ1_put_2_30 at hm
  refine lv_aloadO (pc := 30) hx hb dJ1_put_2_30 (lv_at hl 4 rfl) ?_
  refine lv_astoreO (pc := 32) (lv' := [(6, va_rf o4), (0, .ref p0), (1, .ref p1), (2, .ref p2), (3, .int i3), (4, va_rf o4), (7, .ref p7)]) hx hb dJ1_put_2_32 hl (by decide) rfl (fun ls hl => ?_)
  refine lv_aload (pc := 34) hx hb dJ1_put_2_34 (lv_at hl 6 rfl) ?_
  refine lv_aload_n (pc := 36) hx hb dJ1_put_2_36 rfl (lv_at hl 2 rfl) ?_
  refine lv_aloadO (pc := 37) hx hb dJ1_put_2_37 (lv_at hl 5 rfl) ?_
  obtain ⟨pa27, he28, hm29⟩ := ob_some hm
  subst he28
  have hm := hm29
  obtain ⟨hg30, hm⟩ := gb_some hm
  obtain ⟨oa31, he32, hm⟩ := lo_some hm
  refine rk_get (pc := 39) hx hb hts hown hK (pl_rg hW0) flJ1_105 pa27 (Nat.lt_succ_self _) (Nat.zero_add _).symm (shP_18 (kd_PL hg30) (kd_k hg30)) (x := va_rf oa31) (congrArg (fun z => some (va_rf z)) he32) dJ1_put_2_39 ?_
  exact nomatch hm
theorem w_fJ1_put_2_30_l (C : Cx G p s m args meth c RJ1 cJ1_put_2 10 (some (.object "java/lang/Object"))) {PL : Nat → Bool} {Z : Nat} {vP0 : Mem} {rx : Option Nat} {rc : Nat} {rw0 : Mem} (hZz : s.heap.size = Z) (hZP : ZP G) : ∀ (n : Nat) (v0 : Mem) (zc : Nat) (p0 : Nat) (p1 : Nat) (p2 : Nat) (i3 : Int32) (o4 : Option Nat) (p7 : Nat), lq8 (fJ1_put_2_30 PL Z) n v0 zc p0 p1 p2 i3 o4 p7 = some (rx, rc, rw0) → ∀ (H : Heap) (locs : List Loc) (ls : Array Slot), pl G PL v0 H → va_S (FA (fP PL vP0) s.heap.size) s.heap H locs → H.size = s.heap.size + zc → KM vP0 v0 s.heap.size → lv_has ls 10 [(0, .ref p0), (1, .ref p1), (2, .ref p2), (3, .int i3), (4, va_rf o4), (7, .ref p7)] → W p l e (rmT 4 1 6 88) s m args below meth c H locs 0 0 (MQ below (QcT (FA (fP PL vP0) s.heap.size) (fun ov H => ov = (some (va_rf rx)) ∧ pl G PL rw0 H ∧ H.size = s.heap.size + rc ∧ KM vP0 rw0 s.heap.size)) args s 1 6 (FA (fP PL vP0) s.heap.size)) (F0 m 30 ls []) := by
  intro n
  induction n with
  | zero => intro v0 zc p0 p1 p2 i3 o4 p7 hm; exact (lq8_0 hm).elim
  | succ n ih => intro v0 zc p0 p1 p2 i3 o4 p7 hm; exact w_fJ1_put_2_30 C hZz hZP ih v0 zc p0 p1 p2 i3 o4 p7 (lq8_s hm)
set_option maxHeartbeats 4000000 in
theorem w_fJ1_put_2 (C : Cx G p s m args meth c RJ1 cJ1_put_2 10 (some (.object "java/lang/Object"))) {PL : Nat → Bool} {Z : Nat} {vP0 : Mem} {rx : Option Nat} {rc : Nat} {rw0 : Mem} (hZz : s.heap.size = Z) (hZP : ZP G) : ∀ (v0 : Mem) (p0 : Nat) (p1 : Nat) (p2 : Nat) (i3 : Int32), fJ1_put_2 PL Z v0 p0 p1 p2 i3 = some (rx, rc, rw0) → ∀ (H : Heap) (locs : List Loc) (ls : Array Slot), pl G PL v0 H → va_S (FA (fP PL vP0) s.heap.size) s.heap H locs → H.size = s.heap.size + 0 → KM vP0 v0 s.heap.size → lv_has ls 10 [(0, .ref p0), (1, .ref p1), (2, .ref p2), (3, .int i3)] → W p l e (rmT 4 1 6 88) s m args below meth c H locs 0 0 (MQ below (QcT (FA (fP PL vP0) s.heap.size) (fun ov H => ov = (some (va_rf rx)) ∧ pl G PL rw0 H ∧ H.size = s.heap.size + rc ∧ KM vP0 rw0 s.heap.size)) args s 1 6 (FA (fP PL vP0) s.heap.size)) (F0 m 0 ls []) := by
  intro v0 p0 p1 p2 i3 hm H locs ls hW0 hS hz hKM hl
  obtain ⟨hx, hb, hr, hlk, hml, hown, hts, hK⟩ := id C
  unfold fJ1_put_2 at hm
  refine lv_aload_n (pc := 0) hx hb dJ1_put_2_0 rfl (lv_at hl 0 rfl) ?_
  obtain ⟨hg1, hm⟩ := gb_some hm
  obtain ⟨oa2, he3, hm⟩ := lo_some hm
  refine rk_get (pc := 1) hx hb hts hown hK (pl_rg hW0) flJ1_101 p0 (Nat.lt_succ_self _) (Nat.zero_add _).symm (shP_16 (kd_PL hg1) (kd_k hg1)) (x := va_rf oa2) (congrArg (fun z => some (va_rf z)) he3) dJ1_put_2_1 ?_
  refine lv_astoreO (pc := 4) (lv' := [(4, va_rf oa2), (0, .ref p0), (1, .ref p1), (2, .ref p2), (3, .int i3)]) hx hb dJ1_put_2_4 hl (by decide) rfl (fun ls hl => ?_)
  refine lv_aloadO (pc := 6) hx hb dJ1_put_2_6 (lv_at hl 0 rfl) ?_
  rcases oa2 with _ | pa4
  · have hm := od_n hm
    refine lv_ifnonnullN (pc := 8) hx hb dJ1_put_2_8 ?_
    refine lv_aload_n (pc := 11) hx hb dJ1_put_2_11 rfl (lv_at hl 1 rfl) ?_
    refine lv_aload_n (pc := 12) hx hb dJ1_put_2_12 rfl (lv_at hl 2 rfl) ?_
    refine lv_aload_n (pc := 13) hx hb dJ1_put_2_13 rfl (lv_at hl 3 rfl) ?_
    obtain ⟨hg5, hm⟩ := gb_some hm
    obtain ⟨rc6, w7, hq8, hm⟩ := ob2_some hm
    have hq9 := hq8
    rw [show (Z + 0) = H.size by omega] at hq9
    refine rk_TV (pc := 14) (As := [.ref p1, .ref p2]) (rest := []) (mc := 1) (ms := 6) hx hb hml hown hts hK hS (fun q hq => FA_sz rfl q hq) lkJ1_135 rfl yn_J1_addEntryToEmptyMap (ct_J1_addEntryToEmptyMap (G := G) (l := l) hq9 hZP) ⟨Nat.le_of_ble_eq_true rfl, Nat.le_of_ble_eq_true rfl⟩ (fun z h => (KM_hf2 hKM z h)) (rp_recv hK hW0 (C := RJ1) (T := TJ1) (N := 9) rfl (shP_16 (kd_PL hg5) (kd_k hg5))) hW0 rfl rfl hl.1 (Nat.le_of_ble_eq_true rfl) dJ1_put_2_14 ⟨Nat.le_of_ble_eq_true rfl, Nat.le_of_ble_eq_true rfl⟩ (fun ov9 H10 locs11 hP12 hkp13 hS14 => ?_)
    obtain ⟨rfl, hW15, hz16, hKM17⟩ := hP12
    have hz18 : H10.size = s.heap.size + rc6 := by omega
    have hKM19 := KM.trans hKM hKM17 (by omega)
    refine W.eq (g2 := F0 m 17 ls []) rfl ?_
    refine lv_null (pc := 17) hx hb dJ1_put_2_17 ?_
    obtain ⟨e7, e8, e9⟩ := rs3 hm
    subst e7
    subst e8
    subst e9
    exact rp_aretA (pc := 18) (x := none) hx hb hr (Or.inl ⟨_, rfl⟩) hlk hS14 ⟨rfl, hW15, hz18, hKM19⟩ dJ1_put_2_18 (by exact Nat.le_of_ble_eq_true rfl) (by exact Nat.le_of_ble_eq_true rfl)
  · have hm := od_s hm
    refine lv_ifnonnull (pc := 8) (tgt := 19) hx hb dJ1_put_2_8 (by decide) ?_
    refine lv_aload_n (pc := 19) hx hb dJ1_put_2_19 rfl (lv_at hl 1 rfl) ?_
    obtain ⟨hg20, hm⟩ := gb_some hm
    obtain ⟨oa21, he22, hm⟩ := lo_some hm
    refine rk_get (pc := 20) hx hb hts hown hK (pl_rg hW0) flJ1_16 p0 (Nat.lt_succ_self _) (Nat.zero_add _).symm (shP_16 (kd_PL hg20) (kd_k hg20)) (x := va_rf oa21) (congrArg (fun z => some (va_rf z)) he22) dJ1_put_2_20 ?_
    refine lv_astoreO (pc := 23) (lv' := [(7, va_rf oa21), (4, .ref pa4), (0, .ref p0), (1, .ref p1), (2, .ref p2), (3, .int i3)]) hx hb dJ1_put_2_23 hl (by decide) rfl (fun ls hl => ?_)
    refine lv_aloadO (pc := 25) hx hb dJ1_put_2_25 (lv_at hl 0 rfl) ?_
    rcases oa21 with _ | pa23
    · have hm := od_n hm
      refine lv_ifnullN (pc := 27) (tgt := 112) hx hb dJ1_put_2_27 (by decide) ?_
      refine lv_aload_n (pc := 112) hx hb dJ1_put_2_112 rfl (lv_at hl 3 rfl) ?_
      obtain ⟨oa24, hq25, hm⟩ := ob_some hm
      refine rk_PS (pc := 113) (As := [.ref p1]) (rest := []) hx hb hml hown hts hK lkJ1_95 yn_J10_requireNonNull (ct_J10_requireNonNull (G := G) (l := l) hq25) ⟨Nat.le_of_ble_eq_true rfl, Nat.le_of_ble_eq_true rfl⟩ trivial rfl rfl hl.1 (Nat.le_of_ble_eq_true rfl) dJ1_put_2_113 ⟨Nat.zero_le _, Nat.zero_le _⟩ ?_
      refine W.eq (g2 := F0 m 116 ls [va_rf oa24]) rfl ?_
      refine lv_pop (pc := 116) hx hb dJ1_put_2_116 (cat_rf _) ?_
      refine lv_aload_n (pc := 117) hx hb dJ1_put_2_117 rfl (lv_at hl 3 rfl) ?_
      obtain ⟨hg26, hm⟩ := gb_some hm
      refine rp_castY (pc := 118) (nm := "java/lang/Comparable") hx hb hown hts hK q1367 q1104 (rp_recv hK hW0 (C := RX14) (T := TX14) (N := 2) rfl (shP_14 (kd_PL hg26) (kd_k hg26))) dJ1_put_2_118 ?_
      refine lv_astore (pc := 121) (lv' := [(8, .ref p1), (7, .null), (4, .ref pa4), (0, .ref p0), (1, .ref p1), (2, .ref p2), (3, .int i3)]) hx hb dJ1_put_2_121 hl (by decide) rfl (fun ls hl => ?_)
      exact (w_fJ1_put_2_123_l C hZz hZP FU) v0 0 p0 p1 p2 i3 (some pa4) p1 hm H locs ls hW0 hS hz hKM (lv_sub hl [3, 4, 5, 6, 2, 0] rfl)
    · have hm := od_s hm
      refine lv_ifnull (pc := 27) hx hb dJ1_put_2_27 ?_
      exact (w_fJ1_put_2_30_l C hZz hZP FU) v0 0 p0 p1 p2 i3 (some pa4) pa23 hm H locs ls hW0 hS hz hKM (lv_sub hl [2, 3, 4, 5, 1, 0] rfl)
set_option maxHeartbeats 4000000 in
theorem ct_J1_put_2 {G : Gv} {l : Launch} {PL : Nat → Bool} {Z : Nat} {v0 : Mem} {p0 : Nat} {p1 : Nat} {p2 : Nat} {i3 : Int32} {rx : Option Nat} {rc : Nat} {rw0 : Mem} (hm : fJ1_put_2 PL Z v0 p0 p1 p2 i3 = some (rx, rc, rw0)) (hZP : ZP G) : CT G l yJ1_put_2 (ws_ yJ1_put_2 cJ1_put_2 10 (some (.object "java/lang/Object"))) 4 1 6 88 [.ref p0, .ref p1, .ref p2, .int i3] (fP PL v0) Z (fun H => pl G PL v0 H) (fun ov H => ov = (some (va_rf rx)) ∧ pl G PL rw0 H ∧ H.size = Z + rc ∧ KM v0 rw0 Z) := by
  refine Met.ofW (cc := cJ1_put_2) (maxL := 10) (ret := (some (.object "java/lang/Object"))) (by decide +kernel) rfl ?_
  intro p e s m args below meth c s₁ B hml hv
  obtain ⟨rfl, ⟨hz, hW0⟩, hK⟩ := hv
  subst hz
  have hZz : s.heap.size = s.heap.size := rfl
  have hts := atoms_spec (ws := ws_ yJ1_put_2 cJ1_put_2 10 (some (.object "java/lang/Object"))) B.pre
  have hts : ∀ w ∈ lw_all, w.before _ s = true := fun w h => hts w (List.mem_cons_of_mem _ h)
  have C : Cx G p s m _ meth c RJ1 cJ1_put_2 10 (some (.object "java/lang/Object")) := ⟨B.exec, B.bytes, B.returns, B.notSynchronized, hml, findClass_of_methodNamed B.named, hts, hK⟩
  have hl := lv_entry ([.ref p0, .ref p1, .ref p2, .int i3]) (n := 10) (Nat.le_of_ble_eq_true rfl)
  rw [lg_entry_eq]
  generalize (lg_sl ([.ref p0, .ref p1, .ref p2, .int i3]) ++ List.replicate (10 - (lg_sl ([.ref p0, .ref p1, .ref p2, .int i3])).length) Slot.unset).toArray = ls at hl ⊢
  have hl : lv_has ls 10 [(0, .ref p0), (1, .ref p1), (2, .ref p2), (3, .int i3)] := hl
  exact w_fJ1_put_2 C hZz hZP _ _ _ _ _ hm s.heap [] ls hW0 va_S.rf rfl KM.rf hl
theorem yn_J1_put_2 : YN yJ1_put_2 3 := by
  unfold YN
  decide +kernel
theorem lkJ1_127 : LV RJ1 127 RJ1 yJ1_put_2 cJ1_put_2 10 (some (.object "java/lang/Object")) := ⟨q1385, q1387, qs48, q120, q1388⟩
noncomputable def fJ1_put (PL : Nat → Bool) (Z : Nat) (v0 : Mem) (p0 : Nat) (p1 : Nat) (p2 : Nat) : Option (Option Nat × Nat × Mem) :=
  gb (kd PL v0 p0 16) (
  ob3 (fJ1_put_2 PL (Z + 0) v0 p0 p1 p2 (1 : Int32)) fun oa2 rc3 w4 =>
  some (oa2, rc3, w4))
set_option maxHeartbeats 4000000 in
theorem w_fJ1_put (C : Cx G p s m args meth c RJ1 cJ1_put 3 (some (.object "java/lang/Object"))) {PL : Nat → Bool} {Z : Nat} {vP0 : Mem} {rx : Option Nat} {rc : Nat} {rw0 : Mem} (hZz : s.heap.size = Z) (hZP : ZP G) : ∀ (v0 : Mem) (p0 : Nat) (p1 : Nat) (p2 : Nat), fJ1_put PL Z v0 p0 p1 p2 = some (rx, rc, rw0) → ∀ (H : Heap) (locs : List Loc) (ls : Array Slot), pl G PL v0 H → va_S (FA (fP PL vP0) s.heap.size) s.heap H locs → H.size = s.heap.size + 0 → KM vP0 v0 s.heap.size → lv_has ls 3 [(0, .ref p0), (1, .ref p1), (2, .ref p2)] → W p l e (rmT 5 1 6 117) s m args below meth c H locs 0 0 (MQ below (QcT (FA (fP PL vP0) s.heap.size) (fun ov H => ov = (some (va_rf rx)) ∧ pl G PL rw0 H ∧ H.size = s.heap.size + rc ∧ KM vP0 rw0 s.heap.size)) args s 1 6 (FA (fP PL vP0) s.heap.size)) (F0 m 0 ls []) := by
  intro v0 p0 p1 p2 hm H locs ls hW0 hS hz hKM hl
  obtain ⟨hx, hb, hr, hlk, hml, hown, hts, hK⟩ := id C
  unfold fJ1_put at hm
  refine lv_aload_n (pc := 0) hx hb dJ1_put_0 rfl (lv_at hl 0 rfl) ?_
  refine lv_aload_n (pc := 1) hx hb dJ1_put_1 rfl (lv_at hl 1 rfl) ?_
  refine lv_aload_n (pc := 2) hx hb dJ1_put_2 rfl (lv_at hl 2 rfl) ?_
  refine lv_iconst (pc := 3) (v := (1 : Int32)) hx hb dJ1_put_3 (by decide) ?_
  obtain ⟨hg1, hm⟩ := gb_some hm
  obtain ⟨oa2, rc3, w4, hq5, hm⟩ := ob3_some hm
  have hq6 := hq5
  rw [show (Z + 0) = H.size by omega] at hq6
  refine rk_TV (pc := 4) (As := [.ref p1, .ref p2, .int (1 : Int32)]) (rest := []) (mc := 1) (ms := 6) hx hb hml hown hts hK hS (fun q hq => FA_sz rfl q hq) lkJ1_127 rfl yn_J1_put_2 (ct_J1_put_2 (G := G) (l := l) hq6 hZP) ⟨Nat.le_of_ble_eq_true rfl, Nat.le_of_ble_eq_true rfl⟩ (fun z h => (KM_hf2 hKM z h)) (rp_recv hK hW0 (C := RJ1) (T := TJ1) (N := 9) rfl (shP_16 (kd_PL hg1) (kd_k hg1))) hW0 rfl rfl hl.1 (Nat.le_of_ble_eq_true rfl) dJ1_put_4 ⟨Nat.le_of_ble_eq_true rfl, Nat.le_of_ble_eq_true rfl⟩ (fun ov9 H7 locs8 hP9 hkp10 hS11 => ?_)
  obtain ⟨rfl, hW12, hz13, hKM14⟩ := hP9
  have hz15 : H7.size = s.heap.size + rc3 := by omega
  have hKM16 := KM.trans hKM hKM14 (by omega)
  refine W.eq (g2 := F0 m 7 ls [va_rf oa2]) rfl ?_
  obtain ⟨e7, e8, e9⟩ := rs3 hm
  subst e7
  subst e8
  subst e9
  exact rp_aretA (pc := 7) (x := oa2) hx hb hr (Or.inl ⟨_, rfl⟩) hlk hS11 ⟨rfl, hW12, hz15, hKM16⟩ dJ1_put_7 (by exact Nat.le_of_ble_eq_true rfl) (by exact Nat.le_of_ble_eq_true rfl)
set_option maxHeartbeats 4000000 in
theorem ct_J1_put {G : Gv} {l : Launch} {PL : Nat → Bool} {Z : Nat} {v0 : Mem} {p0 : Nat} {p1 : Nat} {p2 : Nat} {rx : Option Nat} {rc : Nat} {rw0 : Mem} (hm : fJ1_put PL Z v0 p0 p1 p2 = some (rx, rc, rw0)) (hZP : ZP G) : CT G l yJ1_put (ws_ yJ1_put cJ1_put 3 (some (.object "java/lang/Object"))) 5 1 6 117 [.ref p0, .ref p1, .ref p2] (fP PL v0) Z (fun H => pl G PL v0 H) (fun ov H => ov = (some (va_rf rx)) ∧ pl G PL rw0 H ∧ H.size = Z + rc ∧ KM v0 rw0 Z) := by
  refine Met.ofW (cc := cJ1_put) (maxL := 3) (ret := (some (.object "java/lang/Object"))) (by decide +kernel) rfl ?_
  intro p e s m args below meth c s₁ B hml hv
  obtain ⟨rfl, ⟨hz, hW0⟩, hK⟩ := hv
  subst hz
  have hZz : s.heap.size = s.heap.size := rfl
  have hts := atoms_spec (ws := ws_ yJ1_put cJ1_put 3 (some (.object "java/lang/Object"))) B.pre
  have hts : ∀ w ∈ lw_all, w.before _ s = true := fun w h => hts w (List.mem_cons_of_mem _ h)
  have C : Cx G p s m _ meth c RJ1 cJ1_put 3 (some (.object "java/lang/Object")) := ⟨B.exec, B.bytes, B.returns, B.notSynchronized, hml, findClass_of_methodNamed B.named, hts, hK⟩
  have hl := lv_entry ([.ref p0, .ref p1, .ref p2]) (n := 3) (Nat.le_of_ble_eq_true rfl)
  rw [lg_entry_eq]
  generalize (lg_sl ([.ref p0, .ref p1, .ref p2]) ++ List.replicate (3 - (lg_sl ([.ref p0, .ref p1, .ref p2])).length) Slot.unset).toArray = ls at hl ⊢
  have hl : lv_has ls 3 [(0, .ref p0), (1, .ref p1), (2, .ref p2)] := hl
  exact w_fJ1_put C hZz hZP _ _ _ _ hm s.heap [] ls hW0 va_S.rf rfl KM.rf hl
noncomputable def fJ1_size (PL : Nat → Bool) (V0 : Mem) (p0 : Nat) : Option (Int32) :=
  gb (kd PL V0 p0 16) (
  some (gI V0 p0 4))
set_option maxHeartbeats 4000000 in
theorem w_fJ1_size (C : Cx G p s m args meth c RJ1 cJ1_size 1 (some .int)) {PL : Nat → Bool} {V0 : Mem} {rx : Int32} (hW0 : pl G PL V0 s.heap) : ∀ (p0 : Nat), fJ1_size PL V0 p0 = some rx → ∀ (ls : Array Slot), lv_has ls 1 [(0, .ref p0)] → W p l e (rmP 0 0) s m args below meth c s.heap [] 0 0 (MQ below (QcP (some (.int rx))) args s 0 0 (fun _ => False)) (F0 m 0 ls []) := by
  intro p0 hm ls hl
  obtain ⟨hx, hb, hr, hlk, hml, hown, hts, hK⟩ := id C
  unfold fJ1_size at hm
  refine lv_aload_n (pc := 0) hx hb dJ1_size_0 rfl (lv_at hl 0 rfl) ?_
  obtain ⟨hg1, hm⟩ := gb_some hm
  refine rk_get (pc := 1) hx hb hts hown hK (pl_rg hW0) flJ1_7 p0 (Nat.lt_succ_self _) (Nat.zero_add _).symm (shP_16 (kd_PL hg1) (kd_k hg1)) (x := .int (gI V0 p0 4)) rfl dJ1_size_1 ?_
  have e9 := rs1 hm
  subst e9
  exact rk_iretP (pc := 4) hx hb hr hlk rfl dJ1_size_4
set_option maxHeartbeats 4000000 in
theorem ct_J1_size {G : Gv} {l : Launch} {PL : Nat → Bool} {V0 : Mem} {p0 : Nat} {rx : Int32} (hm : fJ1_size PL V0 p0 = some rx) : CP G l yJ1_size (ws_ yJ1_size cJ1_size 1 (some .int)) 0 0 [.ref p0] (fun H => pl G PL V0 H) (some (.int rx)) := by
  refine Met.ofW (cc := cJ1_size) (maxL := 1) (ret := (some .int)) (by decide +kernel) rfl ?_
  intro p e s m args below meth c s₁ B hml hv
  obtain ⟨rfl, hW0, hK⟩ := hv
  have hts := atoms_spec (ws := ws_ yJ1_size cJ1_size 1 (some .int)) B.pre
  have hts : ∀ w ∈ lw_all, w.before _ s = true := fun w h => hts w (List.mem_cons_of_mem _ h)
  have C : Cx G p s m _ meth c RJ1 cJ1_size 1 (some .int) := ⟨B.exec, B.bytes, B.returns, B.notSynchronized, hml, findClass_of_methodNamed B.named, hts, hK⟩
  have hl := lv_entry ([.ref p0]) (n := 1) (Nat.le_of_ble_eq_true rfl)
  rw [lg_entry_eq]
  generalize (lg_sl ([.ref p0]) ++ List.replicate (1 - (lg_sl ([.ref p0])).length) Slot.unset).toArray = ls at hl ⊢
  have hl : lv_has ls 1 [(0, .ref p0)] := hl
  exact w_fJ1_size C hW0 _ hm ls hl
theorem df_J15 (fs : List Value) (h : fs = [.null, .null, .int 0, .null]) : ∀ j, j < 4 → defaultValue (tyJ15 j) = vp_V fs j := by
  subst h
  intro j hj
  match j, hj with
  | 0, _ => rfl
  | 1, _ => rfl
  | 2, _ => rfl
  | 3, _ => rfl
  | n + 4, h => exact absurd h (by omega)
theorem ft_J15 : FT TJ15 4 tyJ15 := ⟨tyJ15_ok, nmJ15⟩
theorem flJ14_1 : FL RJ14 1 20 3 RJ15 TJ15 4 := ⟨in_J15, rfl, by decide, q1554⟩
theorem fnJ14_13 : FN RJ14 13 16 5 RJ1 TJ1 9 "java/util/TreeMap" := ⟨in_J1, rfl, by decide, q337⟩
theorem flJ14_19 : FL RJ14 19 20 2 RJ15 TJ15 4 := ⟨in_J15, rfl, by decide, q1553⟩
theorem flJ14_22 : FL RJ14 22 20 1 RJ15 TJ15 4 := ⟨in_J15, rfl, by decide, q1552⟩
theorem flJ14_26 : FL RJ14 26 20 0 RJ15 TJ15 4 := ⟨in_J15, rfl, by decide, q1551⟩
noncomputable def fJ14_init (PL : Nat → Bool) (v0 : Mem) (p0 : Nat) (p1 : Nat) (o2 : Option Nat) : Option (Mem) :=
  gb (kd PL v0 p0 20) (
  lm (sR v0 p0 3 (some p1)) fun v0_2 =>
  gb (kd PL v0_2 p1 16) (
  gb (kd PL v0_2 p0 20) (
  lm (sI v0_2 p0 2 (gI v0_2 p1 5)) fun v0_13 =>
  gb (kd PL v0_13 p0 20) (
  lm (sR v0_13 p0 1 none) fun v0_23 =>
  gb (kd PL v0_23 p0 20) (
  lm (sR v0_23 p0 0 o2) fun v0_33 =>
  some v0_33)))))
set_option maxHeartbeats 4000000 in
theorem w_fJ14_init (C : Cx G p s m args meth c RJ14 cJ14_init 3 none) {PL : Nat → Bool} {vP0 : Mem} {rw0 : Mem} (hin : meth.name = "<init>") : ∀ (v0 : Mem) (p0 : Nat) (p1 : Nat) (o2 : Option Nat), fJ14_init PL v0 p0 p1 o2 = some rw0 → ∀ (H : Heap) (locs : List Loc) (ls : Array Slot), pl G PL v0 H → va_S (FA (fP PL vP0) s.heap.size) s.heap H locs → H.size = s.heap.size → KM vP0 v0 s.heap.size → lv_has ls 3 [(0, .ref p0), (1, .ref p1), (2, va_rf o2)] → W p l e (rmT 1 0 0 32) s m args below meth c H locs 0 0 (MQ below (QcT (FA (fP PL vP0) s.heap.size) (fun ov H => ov = none ∧ pl G PL rw0 H ∧ H.size = s.heap.size ∧ KM vP0 rw0 s.heap.size)) args s 0 0 (FA (fP PL vP0) s.heap.size)) (F0 m 0 ls []) := by
  intro v0 p0 p1 o2 hm H locs ls hW0 hS hz hKM hl
  obtain ⟨hx, hb, hr, hlk, hml, hown, hts, hK⟩ := id C
  unfold fJ14_init at hm
  refine lv_aload_n (pc := 0) hx hb dJ14_init_0 rfl (lv_at hl 0 rfl) ?_
  refine lv_aload_n (pc := 1) hx hb dJ14_init_1 rfl (lv_at hl 1 rfl) ?_
  obtain ⟨hg1, hm⟩ := gb_some hm
  refine rp_putF (pc := 2) (q := p0) hx hb hts hown hK hW0 hS flJ14_1 ft_J15 (kd_A hKM hg1 (by decide)) (shP_20 (kd_PL hg1) (kd_k hg1)) rfl hin rfl (x := va_rf (some p1)) (rf_nar _ rfl (some p1)) (rf_fit _ rfl (some p1)) (Nat.le_of_ble_eq_true rfl) (sR v0 p0 3 (some p1)) sR_ne (by rw [sR_eq]; exact shP_20 (kd_PL hg1) (kd_k hg1)) dJ14_init_2 (fun H3 locs4 hW5 hS6 hz7 hkp8 => ?_)
  have hKM9 := KM.sR (o := p0) (j := 3) (x := (some p1)) hKM
  obtain ⟨v0_2, he9, hm⟩ := lm_some hm
  rw [he9] at hW5 hKM9
  have hz10 := hz7.trans hz
  refine lv_aload_n (pc := 5) hx hb dJ14_init_5 rfl (lv_at hl 0 rfl) ?_
  refine W.objInit  hx hb hown (hts _ q1550) (hts _ q159) (hts _ q160) rfl (by rw [hml]; exact hl.1) rfl dJ14_init_6 (Nat.le_of_ble_eq_true rfl) (Nat.le_of_ble_eq_true rfl) ?_
  refine W.eq (g2 := F0 m 9 ls []) rfl ?_
  refine lv_aload_n (pc := 9) hx hb dJ14_init_9 rfl (lv_at hl 0 rfl) ?_
  refine lv_aload_n (pc := 10) hx hb dJ14_init_10 rfl (lv_at hl 1 rfl) ?_
  obtain ⟨hg11, hm⟩ := gb_some hm
  refine rk_getN (pc := 11) hx hb hts hown hK (pl_rg hW5) fnJ14_13 p1 (Nat.lt_succ_self _) (Nat.zero_add _).symm (shP_16 (kd_PL hg11) (kd_k hg11)) (x := .int (gI v0_2 p1 5)) rfl dJ14_init_11 ?_
  obtain ⟨hg12, hm⟩ := gb_some hm
  refine rp_put (pc := 14) (q := p0) hx hb hts hown hK hW5 hS6 flJ14_19 ft_J15 (kd_A hKM9 hg12 (by decide)) (shP_20 (kd_PL hg12) (kd_k hg12)) rfl (x := .int (gI v0_2 p1 5)) rfl rfl (Nat.le_of_ble_eq_true rfl) (sI v0_2 p0 2 (gI v0_2 p1 5)) sI_ne (by rw [sI_eq]; exact shP_20 (kd_PL hg12) (kd_k hg12)) dJ14_init_14 (fun H14 locs15 hW16 hS17 hz18 hkp19 => ?_)
  have hKM20 := KM.sI (o := p0) (j := 2) (x := (gI v0_2 p1 5)) hKM9 (by decide)
  obtain ⟨v0_13, he9, hm⟩ := lm_some hm
  rw [he9] at hW16 hKM20
  have hz21 := hz18.trans hz10
  refine lv_aload_n (pc := 17) hx hb dJ14_init_17 rfl (lv_at hl 0 rfl) ?_
  refine lv_null (pc := 18) hx hb dJ14_init_18 ?_
  obtain ⟨hg22, hm⟩ := gb_some hm
  refine rp_put (pc := 19) (q := p0) hx hb hts hown hK hW16 hS17 flJ14_22 ft_J15 (kd_A hKM20 hg22 (by decide)) (shP_20 (kd_PL hg22) (kd_k hg22)) rfl (x := va_rf none) (rf_nar _ rfl none) (rf_fit _ rfl none) (Nat.le_of_ble_eq_true rfl) (sR v0_13 p0 1 none) sR_ne (by rw [sR_eq]; exact shP_20 (kd_PL hg22) (kd_k hg22)) dJ14_init_19 (fun H24 locs25 hW26 hS27 hz28 hkp29 => ?_)
  have hKM30 := KM.sR (o := p0) (j := 1) (x := none) hKM20
  obtain ⟨v0_23, he9, hm⟩ := lm_some hm
  rw [he9] at hW26 hKM30
  have hz31 := hz28.trans hz21
  refine lv_aload_n (pc := 22) hx hb dJ14_init_22 rfl (lv_at hl 0 rfl) ?_
  refine lv_aload_nO (pc := 23) hx hb dJ14_init_23 rfl (lv_at hl 2 rfl) ?_
  obtain ⟨hg32, hm⟩ := gb_some hm
  refine rp_put (pc := 24) (q := p0) hx hb hts hown hK hW26 hS27 flJ14_26 ft_J15 (kd_A hKM30 hg32 (by decide)) (shP_20 (kd_PL hg32) (kd_k hg32)) rfl (x := va_rf o2) (rf_nar _ rfl o2) (rf_fit _ rfl o2) (Nat.le_of_ble_eq_true rfl) (sR v0_23 p0 0 o2) sR_ne (by rw [sR_eq]; exact shP_20 (kd_PL hg32) (kd_k hg32)) dJ14_init_24 (fun H34 locs35 hW36 hS37 hz38 hkp39 => ?_)
  have hKM40 := KM.sR (o := p0) (j := 0) (x := o2) hKM30
  obtain ⟨v0_33, he9, hm⟩ := lm_some hm
  rw [he9] at hW36 hKM40
  have hz41 := hz38.trans hz31
  have e9 := rs1 hm
  subst e9
  exact rk_vret (pc := 27) hx hb hr hlk hS37 ⟨rfl, hW36, hz41, hKM40⟩ dJ14_init_27
set_option maxHeartbeats 4000000 in
theorem ct_J14_init {G : Gv} {l : Launch} {PL : Nat → Bool} {v0 : Mem} {p0 : Nat} {p1 : Nat} {o2 : Option Nat} {rw0 : Mem} {sz : Nat} (hm : fJ14_init PL v0 p0 p1 o2 = some rw0) : CT G l yJ14_init (ws_ yJ14_init cJ14_init 3 none) 1 0 0 32 [.ref p0, .ref p1, va_rf o2] (fP PL v0) sz (fun H => pl G PL v0 H) (fun ov H => ov = none ∧ pl G PL rw0 H ∧ H.size = sz ∧ KM v0 rw0 sz) := by
  cases o2 with
  | none =>
    refine Met.ofW (cc := cJ14_init) (maxL := 3) (ret := none) (by decide +kernel) rfl ?_
    intro p e s m args below meth c s₁ B hml hv
    obtain ⟨rfl, ⟨hz, hW0⟩, hK⟩ := hv
    subst hz
    have hin : meth.name = "<init>" := (name_of_methodNamed B.named B.method).1
    have hts := atoms_spec (ws := ws_ yJ14_init cJ14_init 3 none) B.pre
    have hts : ∀ w ∈ lw_all, w.before _ s = true := fun w h => hts w (List.mem_cons_of_mem _ h)
    have C : Cx G p s m _ meth c RJ14 cJ14_init 3 none := ⟨B.exec, B.bytes, B.returns, B.notSynchronized, hml, findClass_of_methodNamed B.named, hts, hK⟩
    have hl := lv_entry ([.ref p0, .ref p1, va_rf none]) (n := 3) (Nat.le_of_ble_eq_true rfl)
    rw [lg_entry_eq]
    generalize (lg_sl ([.ref p0, .ref p1, va_rf none]) ++ List.replicate (3 - (lg_sl ([.ref p0, .ref p1, va_rf none])).length) Slot.unset).toArray = ls at hl ⊢
    have hl : lv_has ls 3 [(0, .ref p0), (1, .ref p1), (2, va_rf none)] := hl
    exact w_fJ14_init C hin _ _ _ _ hm s.heap [] ls hW0 va_S.rf rfl KM.rf hl
  | some ao2 =>
    refine Met.ofW (cc := cJ14_init) (maxL := 3) (ret := none) (by decide +kernel) rfl ?_
    intro p e s m args below meth c s₁ B hml hv
    obtain ⟨rfl, ⟨hz, hW0⟩, hK⟩ := hv
    subst hz
    have hin : meth.name = "<init>" := (name_of_methodNamed B.named B.method).1
    have hts := atoms_spec (ws := ws_ yJ14_init cJ14_init 3 none) B.pre
    have hts : ∀ w ∈ lw_all, w.before _ s = true := fun w h => hts w (List.mem_cons_of_mem _ h)
    have C : Cx G p s m _ meth c RJ14 cJ14_init 3 none := ⟨B.exec, B.bytes, B.returns, B.notSynchronized, hml, findClass_of_methodNamed B.named, hts, hK⟩
    have hl := lv_entry ([.ref p0, .ref p1, va_rf (some ao2)]) (n := 3) (Nat.le_of_ble_eq_true rfl)
    rw [lg_entry_eq]
    generalize (lg_sl ([.ref p0, .ref p1, va_rf (some ao2)]) ++ List.replicate (3 - (lg_sl ([.ref p0, .ref p1, va_rf (some ao2)])).length) Slot.unset).toArray = ls at hl ⊢
    have hl : lv_has ls 3 [(0, .ref p0), (1, .ref p1), (2, va_rf (some ao2))] := hl
    exact w_fJ14_init C hin _ _ _ _ hm s.heap [] ls hW0 va_S.rf rfl KM.rf hl
theorem yn_J14_init : YN yJ14_init 2 := by
  unfold YN
  decide +kernel
theorem lkJ15_1 : LI RJ15 1 yJ14_init cJ14_init 3 := ⟨q1547, q1548, q145, q1549, rfl⟩
noncomputable def fJ15_init (PL : Nat → Bool) (v0 : Mem) (p0 : Nat) (p1 : Nat) (o2 : Option Nat) : Option (Mem) :=
  ob (fJ14_init PL v0 p0 p1 o2) fun w1 =>
  some w1
set_option maxHeartbeats 4000000 in
theorem w_fJ15_init (C : Cx G p s m args meth c RJ15 cJ15_init 3 none) {PL : Nat → Bool} {vP0 : Mem} {rw0 : Mem} (hin : meth.name = "<init>") : ∀ (v0 : Mem) (p0 : Nat) (p1 : Nat) (o2 : Option Nat), fJ15_init PL v0 p0 p1 o2 = some rw0 → ∀ (H : Heap) (locs : List Loc) (ls : Array Slot), pl G PL v0 H → va_S (FA (fP PL vP0) s.heap.size) s.heap H locs → H.size = s.heap.size → KM vP0 v0 s.heap.size → lv_has ls 3 [(0, .ref p0), (1, .ref p1), (2, va_rf o2)] → W p l e (rmT 2 0 0 54) s m args below meth c H locs 0 0 (MQ below (QcT (FA (fP PL vP0) s.heap.size) (fun ov H => ov = none ∧ pl G PL rw0 H ∧ H.size = s.heap.size ∧ KM vP0 rw0 s.heap.size)) args s 0 0 (FA (fP PL vP0) s.heap.size)) (F0 m 0 ls []) := by
  intro v0 p0 p1 o2 hm H locs ls hW0 hS hz hKM hl
  obtain ⟨hx, hb, hr, hlk, hml, hown, hts, hK⟩ := id C
  unfold fJ15_init at hm
  refine lv_aload_n (pc := 0) hx hb dJ15_init_0 rfl (lv_at hl 0 rfl) ?_
  refine lv_aload_n (pc := 1) hx hb dJ15_init_1 rfl (lv_at hl 1 rfl) ?_
  refine lv_aload_nO (pc := 2) hx hb dJ15_init_2 rfl (lv_at hl 2 rfl) ?_
  obtain ⟨w1, hq2, hm⟩ := ob_some hm
  refine rk_TI (pc := 3) (As := [.ref p1, va_rf o2]) (rest := []) (mc := 0) (ms := 0) hx hb hml hown hts hK hS (fun q hq => FA_sz rfl q hq) lkJ15_1 yn_J14_init (ct_J14_init (G := G) (l := l) (sz := H.size) hq2) ⟨Nat.le_of_ble_eq_true rfl, Nat.le_of_ble_eq_true rfl⟩ (fun z h => (KM_hf2 hKM z h)) hW0 rfl rfl hl.1 (Nat.le_of_ble_eq_true rfl) dJ15_init_3 ⟨Nat.zero_le _, Nat.zero_le _⟩ (fun ov9 H3 locs4 hP5 hkp6 hS7 => ?_)
  obtain ⟨rfl, hW8, hz9, hKM10⟩ := hP5
  have hz11 := hz9.trans hz
  have hKM12 := KM.trans hKM hKM10 (by omega)
  refine W.eq (g2 := F0 m 6 ls []) rfl ?_
  have e9 := rs1 hm
  subst e9
  exact rk_vret (pc := 6) hx hb hr hlk hS7 ⟨rfl, hW8, hz11, hKM12⟩ dJ15_init_6
set_option maxHeartbeats 4000000 in
theorem ct_J15_init {G : Gv} {l : Launch} {PL : Nat → Bool} {v0 : Mem} {p0 : Nat} {p1 : Nat} {o2 : Option Nat} {rw0 : Mem} {sz : Nat} (hm : fJ15_init PL v0 p0 p1 o2 = some rw0) : CT G l yJ15_init (ws_ yJ15_init cJ15_init 3 none) 2 0 0 54 [.ref p0, .ref p1, va_rf o2] (fP PL v0) sz (fun H => pl G PL v0 H) (fun ov H => ov = none ∧ pl G PL rw0 H ∧ H.size = sz ∧ KM v0 rw0 sz) := by
  cases o2 with
  | none =>
    refine Met.ofW (cc := cJ15_init) (maxL := 3) (ret := none) (by decide +kernel) rfl ?_
    intro p e s m args below meth c s₁ B hml hv
    obtain ⟨rfl, ⟨hz, hW0⟩, hK⟩ := hv
    subst hz
    have hin : meth.name = "<init>" := (name_of_methodNamed B.named B.method).1
    have hts := atoms_spec (ws := ws_ yJ15_init cJ15_init 3 none) B.pre
    have hts : ∀ w ∈ lw_all, w.before _ s = true := fun w h => hts w (List.mem_cons_of_mem _ h)
    have C : Cx G p s m _ meth c RJ15 cJ15_init 3 none := ⟨B.exec, B.bytes, B.returns, B.notSynchronized, hml, findClass_of_methodNamed B.named, hts, hK⟩
    have hl := lv_entry ([.ref p0, .ref p1, va_rf none]) (n := 3) (Nat.le_of_ble_eq_true rfl)
    rw [lg_entry_eq]
    generalize (lg_sl ([.ref p0, .ref p1, va_rf none]) ++ List.replicate (3 - (lg_sl ([.ref p0, .ref p1, va_rf none])).length) Slot.unset).toArray = ls at hl ⊢
    have hl : lv_has ls 3 [(0, .ref p0), (1, .ref p1), (2, va_rf none)] := hl
    exact w_fJ15_init C hin _ _ _ _ hm s.heap [] ls hW0 va_S.rf rfl KM.rf hl
  | some ao2 =>
    refine Met.ofW (cc := cJ15_init) (maxL := 3) (ret := none) (by decide +kernel) rfl ?_
    intro p e s m args below meth c s₁ B hml hv
    obtain ⟨rfl, ⟨hz, hW0⟩, hK⟩ := hv
    subst hz
    have hin : meth.name = "<init>" := (name_of_methodNamed B.named B.method).1
    have hts := atoms_spec (ws := ws_ yJ15_init cJ15_init 3 none) B.pre
    have hts : ∀ w ∈ lw_all, w.before _ s = true := fun w h => hts w (List.mem_cons_of_mem _ h)
    have C : Cx G p s m _ meth c RJ15 cJ15_init 3 none := ⟨B.exec, B.bytes, B.returns, B.notSynchronized, hml, findClass_of_methodNamed B.named, hts, hK⟩
    have hl := lv_entry ([.ref p0, .ref p1, va_rf (some ao2)]) (n := 3) (Nat.le_of_ble_eq_true rfl)
    rw [lg_entry_eq]
    generalize (lg_sl ([.ref p0, .ref p1, va_rf (some ao2)]) ++ List.replicate (3 - (lg_sl ([.ref p0, .ref p1, va_rf (some ao2)])).length) Slot.unset).toArray = ls at hl ⊢
    have hl : lv_has ls 3 [(0, .ref p0), (1, .ref p1), (2, va_rf (some ao2))] := hl
    exact w_fJ15_init C hin _ _ _ _ hm s.heap [] ls hW0 va_S.rf rfl KM.rf hl
theorem yn_J15_init : YN yJ15_init 2 := by
  unfold YN
  decide +kernel
theorem lkJ1_271 : LI RJ1 271 yJ15_init cJ15_init 3 := ⟨q1544, q1545, q146, q1546, rfl⟩
noncomputable def fJ1_keyIterator (PL : Nat → Bool) (Z : Nat) (v0 : Mem) (p0 : Nat) : Option (Option Nat × Nat × Mem) :=
  ln (Z + 0) fun h1 =>
  gb (PL h1) (
  lm (nwP v0 h1 20 0) fun v0_5 =>
  gb (kd PL v0_5 p0 16) (
  ob (fJ1_getFirstEntry PL v0_5 p0) fun oa14 =>
  ob (fJ15_init PL v0_5 h1 p0 oa14) fun w16 =>
  some ((some h1), 1, w16)))
set_option maxHeartbeats 4000000 in
theorem w_fJ1_keyIterator (C : Cx G p s m args meth c RJ1 cJ1_keyIterator 1 (some (.object "java/util/Iterator"))) {PL : Nat → Bool} {Z : Nat} {vP0 : Mem} {rx : Option Nat} {rc : Nat} {rw0 : Mem} (hZz : s.heap.size = Z) : ∀ (v0 : Mem) (p0 : Nat), fJ1_keyIterator PL Z v0 p0 = some (rx, rc, rw0) → ∀ (H : Heap) (locs : List Loc) (ls : Array Slot), pl G PL v0 H → va_S (FA (fP PL vP0) s.heap.size) s.heap H locs → H.size = s.heap.size + 0 → KM vP0 v0 s.heap.size → lv_has ls 1 [(0, .ref p0)] → W p l e (rmT 3 1 4 76) s m args below meth c H locs 0 0 (MQ below (QcT (FA (fP PL vP0) s.heap.size) (fun ov H => ov = (some (va_rf rx)) ∧ pl G PL rw0 H ∧ H.size = s.heap.size + rc ∧ KM vP0 rw0 s.heap.size)) args s 1 4 (FA (fP PL vP0) s.heap.size)) (F0 m 0 ls []) := by
  intro v0 p0 hm H locs ls hW0 hS hz hKM hl
  obtain ⟨hx, hb, hr, hlk, hml, hown, hts, hK⟩ := id C
  unfold fJ1_keyIterator at hm
  obtain ⟨h1, hh2, hm⟩ := ln_some hm
  obtain ⟨hg3, hm⟩ := gb_some hm
  have hs4 : H.size = h1 := by omega
  refine rp_new (pc := 0) (h := h1) (kn := 20) (n := 0) hx hb hts hown hK hW0 hS in_J15 ft_J15 rfl q1542 q1543 q146 hs4 (shP_20 hg3 rfl) (df_J15 _ rfl) (Nat.le_of_ble_eq_true rfl) (Nat.le_of_ble_eq_true rfl) dJ1_keyIterator_0 (fun H6 hW7 hS8 hz9 hkp10 => ?_)
  have hKM11 := KM.nw (h := h1) (k := 20) (n := 0) hKM (by omega)
  obtain ⟨v0_5, he9, hm⟩ := lm_some hm
  rw [he9] at hW7 hKM11
  have hz12 : H6.size = s.heap.size + 1 := by omega
  refine lv_dup (pc := 3) hx hb dJ1_keyIterator_3 rfl ?_
  refine lv_aload_n (pc := 4) hx hb dJ1_keyIterator_4 rfl (lv_at hl 0 rfl) ?_
  refine lv_aload_n (pc := 5) hx hb dJ1_keyIterator_5 rfl (lv_at hl 0 rfl) ?_
  obtain ⟨hg13, hm⟩ := gb_some hm
  obtain ⟨oa14, hq15, hm⟩ := ob_some hm
  refine rk_PV (pc := 6) (As := []) (rest := [.ref p0, .ref h1, .ref h1]) hx hb hml hown hts hK lkJ1_54 rfl yn_J1_getFirstEntry (ct_J1_getFirstEntry (G := G) (l := l) hq15) ⟨Nat.le_of_ble_eq_true rfl, Nat.le_of_ble_eq_true rfl⟩ (rp_recv hK hW7 (C := RJ1) (T := TJ1) (N := 9) rfl (shP_16 (kd_PL hg13) (kd_k hg13))) hW7 rfl rfl hl.1 (Nat.le_of_ble_eq_true rfl) dJ1_keyIterator_6 ⟨Nat.le_of_ble_eq_true rfl, Nat.le_of_ble_eq_true rfl⟩ ?_
  refine W.eq (g2 := F0 m 9 ls [va_rf oa14, .ref p0, .ref h1, .ref h1]) rfl ?_
  obtain ⟨w16, hq17, hm⟩ := ob_some hm
  refine rk_TI (pc := 9) (As := [.ref p0, va_rf oa14]) (rest := [.ref h1]) (mc := 0) (ms := 0) hx hb hml hown hts hK hS8 (fun q hq => FA_sz rfl q hq) lkJ1_271 yn_J15_init (ct_J15_init (G := G) (l := l) (sz := H6.size) hq17) ⟨Nat.le_of_ble_eq_true rfl, Nat.le_of_ble_eq_true rfl⟩ (fun z h => (KM_hf2 hKM11 z h)) hW7 rfl rfl hl.1 (Nat.le_of_ble_eq_true rfl) dJ1_keyIterator_9 ⟨Nat.le_of_ble_eq_true rfl, Nat.le_of_ble_eq_true rfl⟩ (fun ov9 H18 locs19 hP20 hkp21 hS22 => ?_)
  obtain ⟨rfl, hW23, hz24, hKM25⟩ := hP20
  have hz26 := hz24.trans hz12
  have hKM27 := KM.trans hKM11 hKM25 (by omega)
  refine W.eq (g2 := F0 m 12 ls [.ref h1]) rfl ?_
  obtain ⟨e7, e8, e9⟩ := rs3 hm
  subst e7
  subst e8
  subst e9
  exact rp_aretA (pc := 12) (x := (some h1)) hx hb hr (Or.inl ⟨_, rfl⟩) hlk hS22 ⟨rfl, hW23, hz26, hKM27⟩ dJ1_keyIterator_12 (by exact Nat.le_of_ble_eq_true rfl) (by exact Nat.le_of_ble_eq_true rfl)
set_option maxHeartbeats 4000000 in
theorem ct_J1_keyIterator {G : Gv} {l : Launch} {PL : Nat → Bool} {Z : Nat} {v0 : Mem} {p0 : Nat} {rx : Option Nat} {rc : Nat} {rw0 : Mem} (hm : fJ1_keyIterator PL Z v0 p0 = some (rx, rc, rw0)) : CT G l yJ1_keyIterator (ws_ yJ1_keyIterator cJ1_keyIterator 1 (some (.object "java/util/Iterator"))) 3 1 4 76 [.ref p0] (fP PL v0) Z (fun H => pl G PL v0 H) (fun ov H => ov = (some (va_rf rx)) ∧ pl G PL rw0 H ∧ H.size = Z + rc ∧ KM v0 rw0 Z) := by
  refine Met.ofW (cc := cJ1_keyIterator) (maxL := 1) (ret := (some (.object "java/util/Iterator"))) (by decide +kernel) rfl ?_
  intro p e s m args below meth c s₁ B hml hv
  obtain ⟨rfl, ⟨hz, hW0⟩, hK⟩ := hv
  subst hz
  have hZz : s.heap.size = s.heap.size := rfl
  have hts := atoms_spec (ws := ws_ yJ1_keyIterator cJ1_keyIterator 1 (some (.object "java/util/Iterator"))) B.pre
  have hts : ∀ w ∈ lw_all, w.before _ s = true := fun w h => hts w (List.mem_cons_of_mem _ h)
  have C : Cx G p s m _ meth c RJ1 cJ1_keyIterator 1 (some (.object "java/util/Iterator")) := ⟨B.exec, B.bytes, B.returns, B.notSynchronized, hml, findClass_of_methodNamed B.named, hts, hK⟩
  have hl := lv_entry ([.ref p0]) (n := 1) (Nat.le_of_ble_eq_true rfl)
  rw [lg_entry_eq]
  generalize (lg_sl ([.ref p0]) ++ List.replicate (1 - (lg_sl ([.ref p0])).length) Slot.unset).toArray = ls at hl ⊢
  have hl : lv_has ls 1 [(0, .ref p0)] := hl
  exact w_fJ1_keyIterator C hZz _ _ hm s.heap [] ls hW0 va_S.rf rfl KM.rf hl
noncomputable def fJ1_successor_42 (PL : Nat → Bool) (V0 : Mem) (k42 : Option Nat → Option Nat → Option (Option Nat)) (o1 : Option Nat) (o2 : Option Nat) : Option (Option Nat) :=
  od o1 (
  some none) (fun pa22 =>
  gb (kd PL V0 pa22 18) (
  lo (gR V0 pa22 3) fun oa24 =>
  if o2 = oa24 then (
  gb (kd PL V0 pa22 18) (
  lo (gR V0 pa22 4) fun oa28 =>
  k42 oa28 (some pa22)))
  else (
  some (some pa22))))
noncomputable def fJ1_successor_18 (PL : Nat → Bool) (V0 : Mem) (k18 : Option Nat → Option (Option Nat)) (o1 : Option Nat) : Option (Option Nat) :=
  ob o1 fun pa12 =>
  gb (kd PL V0 pa12 18) (
  lo (gR V0 pa12 2) fun oa16 =>
  od oa16 (
  some (some pa12)) (fun pa18 =>
  gb (kd PL V0 pa12 18) (
  lo (gR V0 pa12 2) fun oa20 =>
  k18 oa20)))
noncomputable def fJ1_successor (PL : Nat → Bool) (V0 : Mem) (o0 : Option Nat) : Option (Option Nat) :=
  od o0 (
  some none) (fun pa1 =>
  gb (kd PL V0 pa1 18) (
  lo (gR V0 pa1 3) fun oa3 =>
  od oa3 (
  gb (kd PL V0 pa1 18) (
  lo (gR V0 pa1 4) fun oa7 =>
  lq2 (fJ1_successor_42 PL V0) FU oa7 (some pa1))) (fun pa5 =>
  gb (kd PL V0 pa1 18) (
  lo (gR V0 pa1 3) fun oa10 =>
  lq1 (fJ1_successor_18 PL V0) FU oa10))))
set_option maxHeartbeats 4000000 in
theorem w_fJ1_successor_42 (C : Cx G p s m args meth c RJ1 cJ1_successor 3 (some (.object "java/util/TreeMap$Entry"))) {PL : Nat → Bool} {V0 : Mem} {rx : Option Nat} (hW0 : pl G PL V0 s.heap) {k42 : Option Nat → Option Nat → Option (Option Nat)} (hk42 : ∀ (o1 : Option Nat) (o2 : Option Nat), k42 o1 o2 = some rx → ∀ (ls : Array Slot), lv_has ls 3 [(1, va_rf o1), (2, va_rf o2)] → W p l e (rmP 0 0) s m args below meth c s.heap [] 0 0 (MQ below (QcP (some (va_rf rx))) args s 0 0 (fun _ => False)) (F0 m 42 ls [])) : ∀ (o1 : Option Nat) (o2 : Option Nat), fJ1_successor_42 PL V0 k42 o1 o2 = some rx → ∀ (ls : Array Slot), lv_has ls 3 [(1, va_rf o1), (2, va_rf o2)] → W p l e (rmP 0 0) s m args below meth c s.heap [] 0 0 (MQ below (QcP (some (va_rf rx))) args s 0 0 (fun _ => False)) (F0 m 42 ls []) := by
  intro o1 o2 hm ls hl
  obtain ⟨hx, hb, hr, hlk, hml, hown, hts, hK⟩ := id C
  unfold fJ1_successor_42 at hm
  refine lv_aload_nO (pc := 42) hx hb dJ1_successor_42 rfl (lv_at hl 0 rfl) ?_
  rcases o1 with _ | pa22
  · have hm := od_n hm
    refine lv_ifnullN (pc := 43) (tgt := 64) hx hb dJ1_successor_43 (by decide) ?_
    refine lv_aload_nN (pc := 64) hx hb dJ1_successor_64 rfl (lv_at hl 0 rfl) ?_
    have e9 := rs1 hm
    subst e9
    exact rp_aretP (x := none) (pc := 65) hx hb hr (Or.inl ⟨_, rfl⟩) hlk rfl dJ1_successor_65
  · have hm := od_s hm
    refine lv_ifnull (pc := 43) hx hb dJ1_successor_43 ?_
    refine lv_aload_nO (pc := 46) hx hb dJ1_successor_46 rfl (lv_at hl 1 rfl) ?_
    refine lv_aload_n (pc := 47) hx hb dJ1_successor_47 rfl (lv_at hl 0 rfl) ?_
    obtain ⟨hg23, hm⟩ := gb_some hm
    obtain ⟨oa24, he25, hm⟩ := lo_some hm
    refine rk_get (pc := 48) hx hb hts hown hK (pl_rg hW0) flJ1_114 pa22 (Nat.lt_succ_self _) (Nat.zero_add _).symm (shP_18 (kd_PL hg23) (kd_k hg23)) (x := va_rf oa24) (congrArg (fun z => some (va_rf z)) he25) dJ1_successor_48 ?_
    refine lv_acmp_ne (pc := 51) (rx := o2) (ry := oa24) (tgt := 64) hx hb dJ1_successor_51 (by decide) (fun c26 => ?_) (fun c26 => ?_)
    · have hm := ite_f c26 hm
      refine lv_aload_n (pc := 64) hx hb dJ1_successor_64 rfl (lv_at hl 0 rfl) ?_
      have e9 := rs1 hm
      subst e9
      exact rp_aretP (x := (some pa22)) (pc := 65) hx hb hr (Or.inl ⟨_, rfl⟩) hlk rfl dJ1_successor_65
    · have hm := ite_t c26 hm
      refine lv_aload_n (pc := 54) hx hb dJ1_successor_54 rfl (lv_at hl 0 rfl) ?_
      refine lv_astore_n (pc := 55) (lv' := [(2, .ref pa22), (1, .ref pa22)]) hx hb dJ1_successor_55 rfl hl (by decide) rfl (fun ls hl => ?_)
      refine lv_aload_n (pc := 56) hx hb dJ1_successor_56 rfl (lv_at hl 1 rfl) ?_
      obtain ⟨hg27, hm⟩ := gb_some hm
      obtain ⟨oa28, he29, hm⟩ := lo_some hm
      refine rk_get (pc := 57) hx hb hts hown hK (pl_rg hW0) flJ1_124 pa22 (Nat.lt_succ_self _) (Nat.zero_add _).symm (shP_18 (kd_PL hg27) (kd_k hg27)) (x := va_rf oa28) (congrArg (fun z => some (va_rf z)) he29) dJ1_successor_57 ?_
      refine lv_astore_nO (pc := 60) (lv' := [(1, va_rf oa28), (2, .ref pa22)]) hx hb dJ1_successor_60 rfl hl (by decide) rfl (fun ls hl => ?_)
      refine lv_goto (pc := 61) (tgt := 42) hx hb dJ1_successor_61 (by decide) ?_
      exact hk42 oa28 (some pa22) hm ls (lv_sub hl [0, 1] rfl)
theorem w_fJ1_successor_42_l (C : Cx G p s m args meth c RJ1 cJ1_successor 3 (some (.object "java/util/TreeMap$Entry"))) {PL : Nat → Bool} {V0 : Mem} {rx : Option Nat} (hW0 : pl G PL V0 s.heap) : ∀ (n : Nat) (o1 : Option Nat) (o2 : Option Nat), lq2 (fJ1_successor_42 PL V0) n o1 o2 = some rx → ∀ (ls : Array Slot), lv_has ls 3 [(1, va_rf o1), (2, va_rf o2)] → W p l e (rmP 0 0) s m args below meth c s.heap [] 0 0 (MQ below (QcP (some (va_rf rx))) args s 0 0 (fun _ => False)) (F0 m 42 ls []) := by
  intro n
  induction n with
  | zero => intro o1 o2 hm; exact (lq2_0 hm).elim
  | succ n ih => intro o1 o2 hm; exact w_fJ1_successor_42 C hW0 ih o1 o2 (lq2_s hm)
set_option maxHeartbeats 4000000 in
theorem w_fJ1_successor_18 (C : Cx G p s m args meth c RJ1 cJ1_successor 3 (some (.object "java/util/TreeMap$Entry"))) {PL : Nat → Bool} {V0 : Mem} {rx : Option Nat} (hW0 : pl G PL V0 s.heap) {k18 : Option Nat → Option (Option Nat)} (hk18 : ∀ (o1 : Option Nat), k18 o1 = some rx → ∀ (ls : Array Slot), lv_has ls 3 [(1, va_rf o1)] → W p l e (rmP 0 0) s m args below meth c s.heap [] 0 0 (MQ below (QcP (some (va_rf rx))) args s 0 0 (fun _ => False)) (F0 m 18 ls [])) : ∀ (o1 : Option Nat), fJ1_successor_18 PL V0 k18 o1 = some rx → ∀ (ls : Array Slot), lv_has ls 3 [(1, va_rf o1)] → W p l e (rmP 0 0) s m args below meth c s.heap [] 0 0 (MQ below (QcP (some (va_rf rx))) args s 0 0 (fun _ => False)) (F0 m 18 ls []) := by
  intro o1 hm ls hl
  obtain ⟨hx, hb, hr, hlk, hml, hown, hts, hK⟩ := id C
  unfold fJ1_successor_18 at hm
  refine lv_aload_nO (pc := 18) hx hb dJ1_successor_18 rfl (lv_at hl 0 rfl) ?_
  obtain ⟨pa12, he13, hm14⟩ := ob_some hm
  subst he13
  have hm := hm14
  obtain ⟨hg15, hm⟩ := gb_some hm
  obtain ⟨oa16, he17, hm⟩ := lo_some hm
  refine rk_get (pc := 19) hx hb hts hown hK (pl_rg hW0) flJ1_111 pa12 (Nat.lt_succ_self _) (Nat.zero_add _).symm (shP_18 (kd_PL hg15) (kd_k hg15)) (x := va_rf oa16) (congrArg (fun z => some (va_rf z)) he17) dJ1_successor_19 ?_
  rcases oa16 with _ | pa18
  · have hm := od_n hm
    refine lv_ifnullN (pc := 22) (tgt := 33) hx hb dJ1_successor_22 (by decide) ?_
    refine lv_aload_n (pc := 33) hx hb dJ1_successor_33 rfl (lv_at hl 0 rfl) ?_
    have e9 := rs1 hm
    subst e9
    exact rp_aretP (x := (some pa12)) (pc := 34) hx hb hr (Or.inl ⟨_, rfl⟩) hlk rfl dJ1_successor_34
  · have hm := od_s hm
    refine lv_ifnull (pc := 22) hx hb dJ1_successor_22 ?_
    refine lv_aload_n (pc := 25) hx hb dJ1_successor_25 rfl (lv_at hl 0 rfl) ?_
    obtain ⟨hg19, hm⟩ := gb_some hm
    obtain ⟨oa20, he21, hm⟩ := lo_some hm
    refine rk_get (pc := 26) hx hb hts hown hK (pl_rg hW0) flJ1_111 pa12 (Nat.lt_succ_self _) (Nat.zero_add _).symm (shP_18 (kd_PL hg19) (kd_k hg19)) (x := va_rf oa20) (congrArg (fun z => some (va_rf z)) he21) dJ1_successor_26 ?_
    refine lv_astore_nO (pc := 29) (lv' := [(1, va_rf oa20)]) hx hb dJ1_successor_29 rfl hl (by decide) rfl (fun ls hl => ?_)
    refine lv_goto (pc := 30) (tgt := 18) hx hb dJ1_successor_30 (by decide) ?_
    exact hk18 oa20 hm ls (lv_sub hl [0] rfl)
theorem w_fJ1_successor_18_l (C : Cx G p s m args meth c RJ1 cJ1_successor 3 (some (.object "java/util/TreeMap$Entry"))) {PL : Nat → Bool} {V0 : Mem} {rx : Option Nat} (hW0 : pl G PL V0 s.heap) : ∀ (n : Nat) (o1 : Option Nat), lq1 (fJ1_successor_18 PL V0) n o1 = some rx → ∀ (ls : Array Slot), lv_has ls 3 [(1, va_rf o1)] → W p l e (rmP 0 0) s m args below meth c s.heap [] 0 0 (MQ below (QcP (some (va_rf rx))) args s 0 0 (fun _ => False)) (F0 m 18 ls []) := by
  intro n
  induction n with
  | zero => intro o1 hm; exact (lq1_0 hm).elim
  | succ n ih => intro o1 hm; exact w_fJ1_successor_18 C hW0 ih o1 (lq1_s hm)
set_option maxHeartbeats 4000000 in
theorem w_fJ1_successor (C : Cx G p s m args meth c RJ1 cJ1_successor 3 (some (.object "java/util/TreeMap$Entry"))) {PL : Nat → Bool} {V0 : Mem} {rx : Option Nat} (hW0 : pl G PL V0 s.heap) : ∀ (o0 : Option Nat), fJ1_successor PL V0 o0 = some rx → ∀ (ls : Array Slot), lv_has ls 3 [(0, va_rf o0)] → W p l e (rmP 0 0) s m args below meth c s.heap [] 0 0 (MQ below (QcP (some (va_rf rx))) args s 0 0 (fun _ => False)) (F0 m 0 ls []) := by
  intro o0 hm ls hl
  obtain ⟨hx, hb, hr, hlk, hml, hown, hts, hK⟩ := id C
  unfold fJ1_successor at hm
  refine lv_aload_nO (pc := 0) hx hb dJ1_successor_0 rfl (lv_at hl 0 rfl) ?_
  rcases o0 with _ | pa1
  · have hm := od_n hm
    refine lv_ifnonnullN (pc := 1) hx hb dJ1_successor_1 ?_
    refine lv_null (pc := 4) hx hb dJ1_successor_4 ?_
    have e9 := rs1 hm
    subst e9
    exact rp_aretP (x := none) (pc := 5) hx hb hr (Or.inl ⟨_, rfl⟩) hlk rfl dJ1_successor_5
  · have hm := od_s hm
    refine lv_ifnonnull (pc := 1) (tgt := 6) hx hb dJ1_successor_1 (by decide) ?_
    refine lv_aload_n (pc := 6) hx hb dJ1_successor_6 rfl (lv_at hl 0 rfl) ?_
    obtain ⟨hg2, hm⟩ := gb_some hm
    obtain ⟨oa3, he4, hm⟩ := lo_some hm
    refine rk_get (pc := 7) hx hb hts hown hK (pl_rg hW0) flJ1_114 pa1 (Nat.lt_succ_self _) (Nat.zero_add _).symm (shP_18 (kd_PL hg2) (kd_k hg2)) (x := va_rf oa3) (congrArg (fun z => some (va_rf z)) he4) dJ1_successor_7 ?_
    rcases oa3 with _ | pa5
    · have hm := od_n hm
      refine lv_ifnullN (pc := 10) (tgt := 35) hx hb dJ1_successor_10 (by decide) ?_
      refine lv_aload_n (pc := 35) hx hb dJ1_successor_35 rfl (lv_at hl 0 rfl) ?_
      obtain ⟨hg6, hm⟩ := gb_some hm
      obtain ⟨oa7, he8, hm⟩ := lo_some hm
      refine rk_get (pc := 36) hx hb hts hown hK (pl_rg hW0) flJ1_124 pa1 (Nat.lt_succ_self _) (Nat.zero_add _).symm (shP_18 (kd_PL hg6) (kd_k hg6)) (x := va_rf oa7) (congrArg (fun z => some (va_rf z)) he8) dJ1_successor_36 ?_
      refine lv_astore_nO (pc := 39) (lv' := [(1, va_rf oa7), (0, .ref pa1)]) hx hb dJ1_successor_39 rfl hl (by decide) rfl (fun ls hl => ?_)
      refine lv_aload_n (pc := 40) hx hb dJ1_successor_40 rfl (lv_at hl 1 rfl) ?_
      refine lv_astore_n (pc := 41) (lv' := [(2, .ref pa1), (1, va_rf oa7), (0, .ref pa1)]) hx hb dJ1_successor_41 rfl hl (by decide) (by simp [List.filter, cat_rf]) (fun ls hl => ?_)
      exact (w_fJ1_successor_42_l C hW0 FU) oa7 (some pa1) hm ls (lv_sub hl [1, 0] rfl)
    · have hm := od_s hm
      refine lv_ifnull (pc := 10) hx hb dJ1_successor_10 ?_
      refine lv_aload_n (pc := 13) hx hb dJ1_successor_13 rfl (lv_at hl 0 rfl) ?_
      obtain ⟨hg9, hm⟩ := gb_some hm
      obtain ⟨oa10, he11, hm⟩ := lo_some hm
      refine rk_get (pc := 14) hx hb hts hown hK (pl_rg hW0) flJ1_114 pa1 (Nat.lt_succ_self _) (Nat.zero_add _).symm (shP_18 (kd_PL hg9) (kd_k hg9)) (x := va_rf oa10) (congrArg (fun z => some (va_rf z)) he11) dJ1_successor_14 ?_
      refine lv_astore_nO (pc := 17) (lv' := [(1, va_rf oa10), (0, .ref pa1)]) hx hb dJ1_successor_17 rfl hl (by decide) rfl (fun ls hl => ?_)
      exact (w_fJ1_successor_18_l C hW0 FU) oa10 hm ls (lv_sub hl [0] rfl)
set_option maxHeartbeats 4000000 in
theorem ct_J1_successor {G : Gv} {l : Launch} {PL : Nat → Bool} {V0 : Mem} {o0 : Option Nat} {rx : Option Nat} (hm : fJ1_successor PL V0 o0 = some rx) : CP G l yJ1_successor (ws_ yJ1_successor cJ1_successor 3 (some (.object "java/util/TreeMap$Entry"))) 0 0 [va_rf o0] (fun H => pl G PL V0 H) (some (va_rf rx)) := by
  cases o0 with
  | none =>
    refine Met.ofW (cc := cJ1_successor) (maxL := 3) (ret := (some (.object "java/util/TreeMap$Entry"))) (by decide +kernel) rfl ?_
    intro p e s m args below meth c s₁ B hml hv
    obtain ⟨rfl, hW0, hK⟩ := hv
    have hts := atoms_spec (ws := ws_ yJ1_successor cJ1_successor 3 (some (.object "java/util/TreeMap$Entry"))) B.pre
    have hts : ∀ w ∈ lw_all, w.before _ s = true := fun w h => hts w (List.mem_cons_of_mem _ h)
    have C : Cx G p s m _ meth c RJ1 cJ1_successor 3 (some (.object "java/util/TreeMap$Entry")) := ⟨B.exec, B.bytes, B.returns, B.notSynchronized, hml, findClass_of_methodNamed B.named, hts, hK⟩
    have hl := lv_entry ([va_rf none]) (n := 3) (Nat.le_of_ble_eq_true rfl)
    rw [lg_entry_eq]
    generalize (lg_sl ([va_rf none]) ++ List.replicate (3 - (lg_sl ([va_rf none])).length) Slot.unset).toArray = ls at hl ⊢
    have hl : lv_has ls 3 [(0, va_rf none)] := hl
    exact w_fJ1_successor C hW0 _ hm ls hl
  | some ao0 =>
    refine Met.ofW (cc := cJ1_successor) (maxL := 3) (ret := (some (.object "java/util/TreeMap$Entry"))) (by decide +kernel) rfl ?_
    intro p e s m args below meth c s₁ B hml hv
    obtain ⟨rfl, hW0, hK⟩ := hv
    have hts := atoms_spec (ws := ws_ yJ1_successor cJ1_successor 3 (some (.object "java/util/TreeMap$Entry"))) B.pre
    have hts : ∀ w ∈ lw_all, w.before _ s = true := fun w h => hts w (List.mem_cons_of_mem _ h)
    have C : Cx G p s m _ meth c RJ1 cJ1_successor 3 (some (.object "java/util/TreeMap$Entry")) := ⟨B.exec, B.bytes, B.returns, B.notSynchronized, hml, findClass_of_methodNamed B.named, hts, hK⟩
    have hl := lv_entry ([va_rf (some ao0)]) (n := 3) (Nat.le_of_ble_eq_true rfl)
    rw [lg_entry_eq]
    generalize (lg_sl ([va_rf (some ao0)]) ++ List.replicate (3 - (lg_sl ([va_rf (some ao0)])).length) Slot.unset).toArray = ls at hl ⊢
    have hl : lv_has ls 3 [(0, va_rf (some ao0))] := hl
    exact w_fJ1_successor C hW0 _ hm ls hl
theorem yn_J1_keyIterator : YN yJ1_keyIterator 0 := by
  unfold YN
  decide +kernel
theorem lkJ13_15 : LV RJ13 15 RJ1 yJ1_keyIterator cJ1_keyIterator 1 (some (.object "java/util/Iterator")) := ⟨q1538, q1539, q1540, q120, q1541⟩
noncomputable def fJ13_iterator (PL : Nat → Bool) (Z : Nat) (v0 : Mem) (p0 : Nat) : Option (Option Nat × Nat × Mem) :=
  gb (kd PL v0 p0 19) (
  lo (gR v0 p0 0) fun oa2 =>
  ob oa2 fun pa4 =>
  gb (kd PL v0 pa4 16) (
  gb (kd PL v0 p0 19) (
  lo (gR v0 p0 0) fun oa10 =>
  od oa10 (
  none) (fun pa12 =>
  gb (kd PL v0 pa12 16) (
  gb (kd PL v0 pa12 16) (
  ob3 (fJ1_keyIterator PL (Z + 0) v0 pa12) fun oa15 rc16 w17 =>
  some (oa15, rc16, w17)))))))
set_option maxHeartbeats 4000000 in
theorem w_fJ13_iterator (C : Cx G p s m args meth c RJ13 cJ13_iterator 1 (some (.object "java/util/Iterator"))) {PL : Nat → Bool} {Z : Nat} {vP0 : Mem} {rx : Option Nat} {rc : Nat} {rw0 : Mem} (hZz : s.heap.size = Z) : ∀ (v0 : Mem) (p0 : Nat), fJ13_iterator PL Z v0 p0 = some (rx, rc, rw0) → ∀ (H : Heap) (locs : List Loc) (ls : Array Slot), pl G PL v0 H → va_S (FA (fP PL vP0) s.heap.size) s.heap H locs → H.size = s.heap.size + 0 → KM vP0 v0 s.heap.size → lv_has ls 1 [(0, .ref p0)] → W p l e (rmT 4 1 4 96) s m args below meth c H locs 0 0 (MQ below (QcT (FA (fP PL vP0) s.heap.size) (fun ov H => ov = (some (va_rf rx)) ∧ pl G PL rw0 H ∧ H.size = s.heap.size + rc ∧ KM vP0 rw0 s.heap.size)) args s 1 4 (FA (fP PL vP0) s.heap.size)) (F0 m 0 ls []) := by
  intro v0 p0 hm H locs ls hW0 hS hz hKM hl
  obtain ⟨hx, hb, hr, hlk, hml, hown, hts, hK⟩ := id C
  unfold fJ13_iterator at hm
  refine lv_aload_n (pc := 0) hx hb dJ13_iterator_0 rfl (lv_at hl 0 rfl) ?_
  obtain ⟨hg1, hm⟩ := gb_some hm
  obtain ⟨oa2, he3, hm⟩ := lo_some hm
  refine rk_get (pc := 1) hx hb hts hown hK (pl_rg hW0) flJ13_7 p0 (Nat.lt_succ_self _) (Nat.zero_add _).symm (shP_19 (kd_PL hg1) (kd_k hg1)) (x := va_rf oa2) (congrArg (fun z => some (va_rf z)) he3) dJ13_iterator_1 ?_
  obtain ⟨pa4, he5, hm6⟩ := ob_some hm
  subst he5
  have hm := hm6
  obtain ⟨hg7, hm⟩ := gb_some hm
  refine rp_instS (pc := 4) (C := RJ1) (T := TJ1) (N := 9) (ci := 16) hx hb hown hts hK q1537 rfl (rp_recv hK hW0 rfl (shP_16 (kd_PL hg7) (kd_k hg7))) dJ13_iterator_4 ?_
  refine lv_if_eq (pc := 7) (tgt := 21) hx hb dJ13_iterator_7 (by decide) (fun c8 => absurd c8 (by decide)) (fun _ => ?_)
  refine lv_aload_n (pc := 10) hx hb dJ13_iterator_10 rfl (lv_at hl 0 rfl) ?_
  obtain ⟨hg9, hm⟩ := gb_some hm
  obtain ⟨oa10, he11, hm⟩ := lo_some hm
  refine rk_get (pc := 11) hx hb hts hown hK (pl_rg hW0) flJ13_7 p0 (Nat.lt_succ_self _) (Nat.zero_add _).symm (shP_19 (kd_PL hg9) (kd_k hg9)) (x := va_rf oa10) (congrArg (fun z => some (va_rf z)) he11) dJ13_iterator_11 ?_
  rcases oa10 with _ | pa12
  · have hm := od_n hm
    refine lv_castN (pc := 14) hx hb dJ13_iterator_14 ?_
    exact nomatch hm
  · have hm := od_s hm
    obtain ⟨hg13, hm⟩ := gb_some hm
    refine rp_castS (pc := 14) (C := RJ1) (T := TJ1) (N := 9) (ci := 16) hx hb hown hts hK q1537 rfl (rp_recv hK hW0 (C := RJ1) (T := TJ1) (N := 9) rfl (shP_16 (kd_PL hg13) (kd_k hg13))) dJ13_iterator_14 ?_
    obtain ⟨hg14, hm⟩ := gb_some hm
    obtain ⟨oa15, rc16, w17, hq18, hm⟩ := ob3_some hm
    have hq19 := hq18
    rw [show (Z + 0) = H.size by omega] at hq19
    refine rk_TV (pc := 17) (As := []) (rest := []) (mc := 1) (ms := 4) hx hb hml hown hts hK hS (fun q hq => FA_sz rfl q hq) lkJ13_15 rfl yn_J1_keyIterator (ct_J1_keyIterator (G := G) (l := l) hq19) ⟨Nat.le_of_ble_eq_true rfl, Nat.le_of_ble_eq_true rfl⟩ (fun z h => (KM_hf2 hKM z h)) (rp_recv hK hW0 (C := RJ1) (T := TJ1) (N := 9) rfl (shP_16 (kd_PL hg14) (kd_k hg14))) hW0 rfl rfl hl.1 (Nat.le_of_ble_eq_true rfl) dJ13_iterator_17 ⟨Nat.le_of_ble_eq_true rfl, Nat.le_of_ble_eq_true rfl⟩ (fun ov9 H20 locs21 hP22 hkp23 hS24 => ?_)
    obtain ⟨rfl, hW25, hz26, hKM27⟩ := hP22
    have hz28 : H20.size = s.heap.size + rc16 := by omega
    have hKM29 := KM.trans hKM hKM27 (by omega)
    refine W.eq (g2 := F0 m 20 ls [va_rf oa15]) rfl ?_
    obtain ⟨e7, e8, e9⟩ := rs3 hm
    subst e7
    subst e8
    subst e9
    exact rp_aretA (pc := 20) (x := oa15) hx hb hr (Or.inl ⟨_, rfl⟩) hlk hS24 ⟨rfl, hW25, hz28, hKM29⟩ dJ13_iterator_20 (by exact Nat.le_of_ble_eq_true rfl) (by exact Nat.le_of_ble_eq_true rfl)
set_option maxHeartbeats 4000000 in
theorem ct_J13_iterator {G : Gv} {l : Launch} {PL : Nat → Bool} {Z : Nat} {v0 : Mem} {p0 : Nat} {rx : Option Nat} {rc : Nat} {rw0 : Mem} (hm : fJ13_iterator PL Z v0 p0 = some (rx, rc, rw0)) : CT G l yJ13_iterator (ws_ yJ13_iterator cJ13_iterator 1 (some (.object "java/util/Iterator"))) 4 1 4 96 [.ref p0] (fP PL v0) Z (fun H => pl G PL v0 H) (fun ov H => ov = (some (va_rf rx)) ∧ pl G PL rw0 H ∧ H.size = Z + rc ∧ KM v0 rw0 Z) := by
  refine Met.ofW (cc := cJ13_iterator) (maxL := 1) (ret := (some (.object "java/util/Iterator"))) (by decide +kernel) rfl ?_
  intro p e s m args below meth c s₁ B hml hv
  obtain ⟨rfl, ⟨hz, hW0⟩, hK⟩ := hv
  subst hz
  have hZz : s.heap.size = s.heap.size := rfl
  have hts := atoms_spec (ws := ws_ yJ13_iterator cJ13_iterator 1 (some (.object "java/util/Iterator"))) B.pre
  have hts : ∀ w ∈ lw_all, w.before _ s = true := fun w h => hts w (List.mem_cons_of_mem _ h)
  have C : Cx G p s m _ meth c RJ13 cJ13_iterator 1 (some (.object "java/util/Iterator")) := ⟨B.exec, B.bytes, B.returns, B.notSynchronized, hml, findClass_of_methodNamed B.named, hts, hK⟩
  have hl := lv_entry ([.ref p0]) (n := 1) (Nat.le_of_ble_eq_true rfl)
  rw [lg_entry_eq]
  generalize (lg_sl ([.ref p0]) ++ List.replicate (1 - (lg_sl ([.ref p0])).length) Slot.unset).toArray = ls at hl ⊢
  have hl : lv_has ls 1 [(0, .ref p0)] := hl
  exact w_fJ13_iterator C hZz _ _ hm s.heap [] ls hW0 va_S.rf rfl KM.rf hl
noncomputable def fJ14_hasNext (PL : Nat → Bool) (V0 : Mem) (p0 : Nat) : Option (Int32) :=
  gb (kd PL V0 p0 20) (
  lo (gR V0 p0 0) fun oa2 =>
  od oa2 (
  some (0 : Int32)) (fun pa4 =>
  some (1 : Int32)))
set_option maxHeartbeats 4000000 in
theorem w_fJ14_hasNext (C : Cx G p s m args meth c RJ14 cJ14_hasNext 1 (some .boolean)) {PL : Nat → Bool} {V0 : Mem} {rx : Int32} (hW0 : pl G PL V0 s.heap) : ∀ (p0 : Nat), fJ14_hasNext PL V0 p0 = some rx → ∀ (ls : Array Slot), lv_has ls 1 [(0, .ref p0)] → W p l e (rmP 0 0) s m args below meth c s.heap [] 0 0 (MQ below (QcP (some (.int rx))) args s 0 0 (fun _ => False)) (F0 m 0 ls []) := by
  intro p0 hm ls hl
  obtain ⟨hx, hb, hr, hlk, hml, hown, hts, hK⟩ := id C
  unfold fJ14_hasNext at hm
  refine lv_aload_n (pc := 0) hx hb dJ14_hasNext_0 rfl (lv_at hl 0 rfl) ?_
  obtain ⟨hg1, hm⟩ := gb_some hm
  obtain ⟨oa2, he3, hm⟩ := lo_some hm
  refine rk_get (pc := 1) hx hb hts hown hK (pl_rg hW0) flJ14_26 p0 (Nat.lt_succ_self _) (Nat.zero_add _).symm (shP_20 (kd_PL hg1) (kd_k hg1)) (x := va_rf oa2) (congrArg (fun z => some (va_rf z)) he3) dJ14_hasNext_1 ?_
  rcases oa2 with _ | pa4
  · have hm := od_n hm
    refine lv_ifnullN (pc := 4) (tgt := 11) hx hb dJ14_hasNext_4 (by decide) ?_
    refine lv_iconst (pc := 11) (v := (0 : Int32)) hx hb dJ14_hasNext_11 (by decide) ?_
    have e9 := rs1 hm
    subst e9
    exact rk_zretP (pc := 12) hx hb hr hlk rfl rfl dJ14_hasNext_12
  · have hm := od_s hm
    refine lv_ifnull (pc := 4) hx hb dJ14_hasNext_4 ?_
    refine lv_iconst (pc := 7) (v := (1 : Int32)) hx hb dJ14_hasNext_7 (by decide) ?_
    refine lv_goto (pc := 8) (tgt := 12) hx hb dJ14_hasNext_8 (by decide) ?_
    have e9 := rs1 hm
    subst e9
    exact rk_zretP (pc := 12) hx hb hr hlk rfl rfl dJ14_hasNext_12
set_option maxHeartbeats 4000000 in
theorem ct_J14_hasNext {G : Gv} {l : Launch} {PL : Nat → Bool} {V0 : Mem} {p0 : Nat} {rx : Int32} (hm : fJ14_hasNext PL V0 p0 = some rx) : CP G l yJ14_hasNext (ws_ yJ14_hasNext cJ14_hasNext 1 (some .boolean)) 0 0 [.ref p0] (fun H => pl G PL V0 H) (some (.int rx)) := by
  refine Met.ofW (cc := cJ14_hasNext) (maxL := 1) (ret := (some .boolean)) (by decide +kernel) rfl ?_
  intro p e s m args below meth c s₁ B hml hv
  obtain ⟨rfl, hW0, hK⟩ := hv
  have hts := atoms_spec (ws := ws_ yJ14_hasNext cJ14_hasNext 1 (some .boolean)) B.pre
  have hts : ∀ w ∈ lw_all, w.before _ s = true := fun w h => hts w (List.mem_cons_of_mem _ h)
  have C : Cx G p s m _ meth c RJ14 cJ14_hasNext 1 (some .boolean) := ⟨B.exec, B.bytes, B.returns, B.notSynchronized, hml, findClass_of_methodNamed B.named, hts, hK⟩
  have hl := lv_entry ([.ref p0]) (n := 1) (Nat.le_of_ble_eq_true rfl)
  rw [lg_entry_eq]
  generalize (lg_sl ([.ref p0]) ++ List.replicate (1 - (lg_sl ([.ref p0])).length) Slot.unset).toArray = ls at hl ⊢
  have hl : lv_has ls 1 [(0, .ref p0)] := hl
  exact w_fJ14_hasNext C hW0 _ hm ls hl
theorem yn_J1_successor : YN yJ1_successor 1 := by
  unfold YN
  decide +kernel
theorem lkJ14_35 : LSt RJ14 35 yJ1_successor cJ1_successor 3 (some (.object "java/util/TreeMap$Entry")) := ⟨q1593, q1594, q120, q1595⟩
noncomputable def fJ14_nextEntry (PL : Nat → Bool) (v0 : Mem) (p0 : Nat) : Option (Option Nat × Mem) :=
  gb (kd PL v0 p0 20) (
  lo (gR v0 p0 0) fun oa2 =>
  od oa2 (
  none) (fun pa4 =>
  gb (kd PL v0 p0 20) (
  lo (gR v0 p0 3) fun oa6 =>
  ob oa6 fun pa8 =>
  gb (kd PL v0 pa8 16) (
  gb (kd PL v0 p0 20) (
  if (gI v0 pa8 5) = (gI v0 p0 2) then (
  ob (fJ1_successor PL v0 (some pa4)) fun oa14 =>
  gb (kd PL v0 p0 20) (
  lm (sR v0 p0 0 oa14) fun v0_17 =>
  gb (kd PL v0_17 p0 20) (
  lm (sR v0_17 p0 1 (some pa4)) fun v0_27 =>
  some ((some pa4), v0_27))))
  else (
  none))))))
set_option maxHeartbeats 4000000 in
theorem w_fJ14_nextEntry (C : Cx G p s m args meth c RJ14 cJ14_nextEntry 2 (some (.object "java/util/TreeMap$Entry"))) {PL : Nat → Bool} {vP0 : Mem} {rx : Option Nat} {rw0 : Mem} : ∀ (v0 : Mem) (p0 : Nat), fJ14_nextEntry PL v0 p0 = some (rx, rw0) → ∀ (H : Heap) (locs : List Loc) (ls : Array Slot), pl G PL v0 H → va_S (FA (fP PL vP0) s.heap.size) s.heap H locs → H.size = s.heap.size → KM vP0 v0 s.heap.size → lv_has ls 2 [(0, .ref p0)] → W p l e (rmT 1 0 0 22) s m args below meth c H locs 0 0 (MQ below (QcT (FA (fP PL vP0) s.heap.size) (fun ov H => ov = (some (va_rf rx)) ∧ pl G PL rw0 H ∧ H.size = s.heap.size ∧ KM vP0 rw0 s.heap.size)) args s 0 0 (FA (fP PL vP0) s.heap.size)) (F0 m 0 ls []) := by
  intro v0 p0 hm H locs ls hW0 hS hz hKM hl
  obtain ⟨hx, hb, hr, hlk, hml, hown, hts, hK⟩ := id C
  unfold fJ14_nextEntry at hm
  refine lv_aload_n (pc := 0) hx hb dJ14_nextEntry_0 rfl (lv_at hl 0 rfl) ?_
  obtain ⟨hg1, hm⟩ := gb_some hm
  obtain ⟨oa2, he3, hm⟩ := lo_some hm
  refine rk_get (pc := 1) hx hb hts hown hK (pl_rg hW0) flJ14_26 p0 (Nat.lt_succ_self _) (Nat.zero_add _).symm (shP_20 (kd_PL hg1) (kd_k hg1)) (x := va_rf oa2) (congrArg (fun z => some (va_rf z)) he3) dJ14_nextEntry_1 ?_
  refine lv_astore_nO (pc := 4) (lv' := [(1, va_rf oa2), (0, .ref p0)]) hx hb dJ14_nextEntry_4 rfl hl (by decide) rfl (fun ls hl => ?_)
  refine lv_aload_nO (pc := 5) hx hb dJ14_nextEntry_5 rfl (lv_at hl 0 rfl) ?_
  rcases oa2 with _ | pa4
  · have hm := od_n hm
    refine lv_ifnonnullN (pc := 6) hx hb dJ14_nextEntry_6 ?_
    exact nomatch hm
  · have hm := od_s hm
    refine lv_ifnonnull (pc := 6) (tgt := 17) hx hb dJ14_nextEntry_6 (by decide) ?_
    refine lv_aload_n (pc := 17) hx hb dJ14_nextEntry_17 rfl (lv_at hl 1 rfl) ?_
    obtain ⟨hg5, hm⟩ := gb_some hm
    obtain ⟨oa6, he7, hm⟩ := lo_some hm
    refine rk_get (pc := 18) hx hb hts hown hK (pl_rg hW0) flJ14_1 p0 (Nat.lt_succ_self _) (Nat.zero_add _).symm (shP_20 (kd_PL hg5) (kd_k hg5)) (x := va_rf oa6) (congrArg (fun z => some (va_rf z)) he7) dJ14_nextEntry_18 ?_
    obtain ⟨pa8, he9, hm10⟩ := ob_some hm
    subst he9
    have hm := hm10
    obtain ⟨hg11, hm⟩ := gb_some hm
    refine rk_getN (pc := 21) hx hb hts hown hK (pl_rg hW0) fnJ14_13 pa8 (Nat.lt_succ_self _) (Nat.zero_add _).symm (shP_16 (kd_PL hg11) (kd_k hg11)) (x := .int (gI v0 pa8 5)) rfl dJ14_nextEntry_21 ?_
    refine lv_aload_n (pc := 24) hx hb dJ14_nextEntry_24 rfl (lv_at hl 1 rfl) ?_
    obtain ⟨hg12, hm⟩ := gb_some hm
    refine rk_get (pc := 25) hx hb hts hown hK (pl_rg hW0) flJ14_19 p0 (Nat.lt_succ_self _) (Nat.zero_add _).symm (shP_20 (kd_PL hg12) (kd_k hg12)) (x := .int (gI v0 p0 2)) rfl dJ14_nextEntry_25 ?_
    refine lv_icmp_eq (pc := 28) (tgt := 39) hx hb dJ14_nextEntry_28 (by decide) (fun c13 => ?_) (fun c13 => ?_)
    · have hm := ite_t c13 hm
      refine lv_aload_n (pc := 39) hx hb dJ14_nextEntry_39 rfl (lv_at hl 1 rfl) ?_
      refine lv_aload_n (pc := 40) hx hb dJ14_nextEntry_40 rfl (lv_at hl 0 rfl) ?_
      obtain ⟨oa14, hq15, hm⟩ := ob_some hm
      refine rk_PS (pc := 41) (As := [.ref pa4]) (rest := [.ref p0]) hx hb hml hown hts hK lkJ14_35 yn_J1_successor (ct_J1_successor (G := G) (l := l) hq15) ⟨Nat.le_of_ble_eq_true rfl, Nat.le_of_ble_eq_true rfl⟩ hW0 rfl rfl hl.1 (Nat.le_of_ble_eq_true rfl) dJ14_nextEntry_41 ⟨Nat.zero_le _, Nat.zero_le _⟩ ?_
      refine W.eq (g2 := F0 m 44 ls [va_rf oa14, .ref p0]) rfl ?_
      obtain ⟨hg16, hm⟩ := gb_some hm
      refine rp_put (pc := 44) (q := p0) hx hb hts hown hK hW0 hS flJ14_26 ft_J15 (kd_A hKM hg16 (by decide)) (shP_20 (kd_PL hg16) (kd_k hg16)) rfl (x := va_rf oa14) (rf_nar _ rfl oa14) (rf_fit _ rfl oa14) (Nat.le_of_ble_eq_true rfl) (sR v0 p0 0 oa14) sR_ne (by rw [sR_eq]; exact shP_20 (kd_PL hg16) (kd_k hg16)) dJ14_nextEntry_44 (fun H18 locs19 hW20 hS21 hz22 hkp23 => ?_)
      have hKM24 := KM.sR (o := p0) (j := 0) (x := oa14) hKM
      obtain ⟨v0_17, he9, hm⟩ := lm_some hm
      rw [he9] at hW20 hKM24
      have hz25 := hz22.trans hz
      refine lv_aload_n (pc := 47) hx hb dJ14_nextEntry_47 rfl (lv_at hl 1 rfl) ?_
      refine lv_aload_n (pc := 48) hx hb dJ14_nextEntry_48 rfl (lv_at hl 0 rfl) ?_
      obtain ⟨hg26, hm⟩ := gb_some hm
      refine rp_put (pc := 49) (q := p0) hx hb hts hown hK hW20 hS21 flJ14_22 ft_J15 (kd_A hKM24 hg26 (by decide)) (shP_20 (kd_PL hg26) (kd_k hg26)) rfl (x := va_rf (some pa4)) (rf_nar _ rfl (some pa4)) (rf_fit _ rfl (some pa4)) (Nat.le_of_ble_eq_true rfl) (sR v0_17 p0 1 (some pa4)) sR_ne (by rw [sR_eq]; exact shP_20 (kd_PL hg26) (kd_k hg26)) dJ14_nextEntry_49 (fun H28 locs29 hW30 hS31 hz32 hkp33 => ?_)
      have hKM34 := KM.sR (o := p0) (j := 1) (x := (some pa4)) hKM24
      obtain ⟨v0_27, he9, hm⟩ := lm_some hm
      rw [he9] at hW30 hKM34
      have hz35 := hz32.trans hz25
      refine lv_aload_n (pc := 52) hx hb dJ14_nextEntry_52 rfl (lv_at hl 0 rfl) ?_
      obtain ⟨e8, e9⟩ := rs2 hm
      subst e8
      subst e9
      exact rp_aret (pc := 53) (x := (some pa4)) hx hb hr (Or.inl ⟨_, rfl⟩) hlk hS31 ⟨rfl, hW30, hz35, hKM34⟩ dJ14_nextEntry_53
    · have hm := ite_f c13 hm
      exact nomatch hm
set_option maxHeartbeats 4000000 in
theorem ct_J14_nextEntry {G : Gv} {l : Launch} {PL : Nat → Bool} {v0 : Mem} {p0 : Nat} {rx : Option Nat} {rw0 : Mem} {sz : Nat} (hm : fJ14_nextEntry PL v0 p0 = some (rx, rw0)) : CT G l yJ14_nextEntry (ws_ yJ14_nextEntry cJ14_nextEntry 2 (some (.object "java/util/TreeMap$Entry"))) 1 0 0 22 [.ref p0] (fP PL v0) sz (fun H => pl G PL v0 H) (fun ov H => ov = (some (va_rf rx)) ∧ pl G PL rw0 H ∧ H.size = sz ∧ KM v0 rw0 sz) := by
  refine Met.ofW (cc := cJ14_nextEntry) (maxL := 2) (ret := (some (.object "java/util/TreeMap$Entry"))) (by decide +kernel) rfl ?_
  intro p e s m args below meth c s₁ B hml hv
  obtain ⟨rfl, ⟨hz, hW0⟩, hK⟩ := hv
  subst hz
  have hts := atoms_spec (ws := ws_ yJ14_nextEntry cJ14_nextEntry 2 (some (.object "java/util/TreeMap$Entry"))) B.pre
  have hts : ∀ w ∈ lw_all, w.before _ s = true := fun w h => hts w (List.mem_cons_of_mem _ h)
  have C : Cx G p s m _ meth c RJ14 cJ14_nextEntry 2 (some (.object "java/util/TreeMap$Entry")) := ⟨B.exec, B.bytes, B.returns, B.notSynchronized, hml, findClass_of_methodNamed B.named, hts, hK⟩
  have hl := lv_entry ([.ref p0]) (n := 2) (Nat.le_of_ble_eq_true rfl)
  rw [lg_entry_eq]
  generalize (lg_sl ([.ref p0]) ++ List.replicate (2 - (lg_sl ([.ref p0])).length) Slot.unset).toArray = ls at hl ⊢
  have hl : lv_has ls 2 [(0, .ref p0)] := hl
  exact w_fJ14_nextEntry C _ _ hm s.heap [] ls hW0 va_S.rf rfl KM.rf hl
end
