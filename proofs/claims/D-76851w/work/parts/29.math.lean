set_option maxRecDepth 100000
section
variable {p : Program} {l : Launch} {e : Env} {s : State} {m : MethodId} {args : Array Value} {below : List Frame} {meth : Method} {c : Code} {G : Gv}
noncomputable def fJ7_abs (j0 : Int64) : Option (Int64) :=
  if (0 : Int64) ≤ j0 then (
  some j0)
  else (
  some (-j0))
set_option maxHeartbeats 4000000 in
theorem w_fJ7_abs (C : Cx G p s m args meth c RJ7 cJ7_abs 2 (some .long)) {rx : Int64} : ∀ (j0 : Int64), fJ7_abs j0 = some rx → ∀ (ls : Array Slot), lv_has ls 2 [(0, .long j0)] → W p l e (rmP 0 0) s m args below meth c s.heap [] 0 0 (MQ below (QcP (some (.long rx))) args s 0 0 (fun _ => False)) (F0 m 0 ls []) := by
  intro j0 hm ls hl
  obtain ⟨hx, hb, hr, hlk, hml, hown, hts, hK⟩ := id C
  unfold fJ7_abs at hm
  refine lv_lload_n (pc := 0) hx hb dJ7_abs_0 rfl (lv_at hl 0 rfl) ?_
  refine lv_lconst (pc := 1) (v := (0 : Int64)) hx hb dJ7_abs_1 (by decide) ?_
  refine rk_lcmp_ge (pc := 2) (tgt := 11) hx hb dJ7_abs_2 rfl dJ7_abs_3 (by decide) (fun c1 => ?_) (fun c1 => ?_)
  · have hm := ite_t c1 hm
    refine lv_lload_n (pc := 11) hx hb dJ7_abs_11 rfl (lv_at hl 0 rfl) ?_
    have e9 := rs1 hm
    subst e9
    exact rk_lretP (pc := 12) hx hb hr hlk rfl dJ7_abs_12
  · have hm := ite_f c1 hm
    refine lv_lload_n (pc := 6) hx hb dJ7_abs_6 rfl (lv_at hl 0 rfl) ?_
    refine lv_lneg (pc := 7) hx hb dJ7_abs_7 ?_
    refine lv_goto (pc := 8) (tgt := 12) hx hb dJ7_abs_8 (by decide) ?_
    have e9 := rs1 hm
    subst e9
    exact rk_lretP (pc := 12) hx hb hr hlk rfl dJ7_abs_12
set_option maxHeartbeats 4000000 in
theorem ct_J7_abs {G : Gv} {l : Launch} {j0 : Int64} {rx : Int64} (hm : fJ7_abs j0 = some rx) : CP G l yJ7_abs (ws_ yJ7_abs cJ7_abs 2 (some .long)) 0 0 [.long j0] (fun H => True) (some (.long rx)) := by
  refine va_MetF (cc := cJ7_abs) (maxL := 2) (ret := (some .long)) (by decide +kernel) rfl ?_
  intro p e s m args below meth c s₁ B hml hv
  obtain ⟨rfl, -, hK⟩ := hv
  have hts := atoms_spec (ws := ws_ yJ7_abs cJ7_abs 2 (some .long)) B.pre
  have hts : ∀ w ∈ lw_all, w.before _ s = true := fun w h => hts w (List.mem_cons_of_mem _ h)
  have C : Cx G p s m _ meth c RJ7 cJ7_abs 2 (some .long) := ⟨B.exec, B.bytes, B.returns, B.notSynchronized, hml, findClass_of_methodNamed B.named, hts, hK⟩
  have hl := lv_entry ([.long j0]) (n := 2) (Nat.le_of_ble_eq_true rfl)
  rw [lg_entry_eq]
  generalize (lg_sl ([.long j0]) ++ List.replicate (2 - (lg_sl ([.long j0])).length) Slot.unset).toArray = ls at hl ⊢
  have hl : lv_has ls 2 [(0, .long j0)] := hl
  exact w_fJ7_abs C _ hm ls hl
noncomputable def fJ7_floorDiv (j0 : Int64) (j2 : Int64) : Option (Int64) :=
  gb (nz64 j2) (
  if (0 : Int64) ≤ (j0 ^^^ j2) then (
  some (j0 / j2))
  else (
  if ((j0 / j2) * j2) = j0 then (
  some (j0 / j2))
  else (
  some ((j0 / j2) - (1 : Int64)))))
set_option maxHeartbeats 4000000 in
theorem w_fJ7_floorDiv (C : Cx G p s m args meth c RJ7 cJ7_floorDiv 6 (some .long)) {rx : Int64} : ∀ (j0 : Int64) (j2 : Int64), fJ7_floorDiv j0 j2 = some rx → ∀ (ls : Array Slot), lv_has ls 6 [(0, .long j0), (2, .long j2)] → W p l e (rmP 0 0) s m args below meth c s.heap [] 0 0 (MQ below (QcP (some (.long rx))) args s 0 0 (fun _ => False)) (F0 m 0 ls []) := by
  intro j0 j2 hm ls hl
  obtain ⟨hx, hb, hr, hlk, hml, hown, hts, hK⟩ := id C
  unfold fJ7_floorDiv at hm
  refine lv_lload_n (pc := 0) hx hb dJ7_floorDiv_0 rfl (lv_at hl 0 rfl) ?_
  refine lv_lload_n (pc := 1) hx hb dJ7_floorDiv_1 rfl (lv_at hl 1 rfl) ?_
  obtain ⟨hg1, hm⟩ := gb_some hm
  refine lv_ldiv (pc := 2) hx hb dJ7_floorDiv_2 (nz64_ne hg1) ?_
  refine lv_lstore (pc := 3) (lv' := [(4, .long (j0 / j2)), (0, .long j0), (2, .long j2)]) hx hb dJ7_floorDiv_3 hl (by decide) rfl (fun ls hl => ?_)
  refine lv_lload_n (pc := 5) hx hb dJ7_floorDiv_5 rfl (lv_at hl 1 rfl) ?_
  refine lv_lload_n (pc := 6) hx hb dJ7_floorDiv_6 rfl (lv_at hl 2 rfl) ?_
  refine lv_lxor (pc := 7) hx hb dJ7_floorDiv_7 ?_
  refine lv_lconst (pc := 8) (v := (0 : Int64)) hx hb dJ7_floorDiv_8 (by decide) ?_
  refine rk_lcmp_ge (pc := 9) (tgt := 27) hx hb dJ7_floorDiv_9 rfl dJ7_floorDiv_10 (by decide) (fun c2 => ?_) (fun c2 => ?_)
  · have hm := ite_t c2 hm
    refine lv_lload (pc := 27) hx hb dJ7_floorDiv_27 (lv_at hl 0 rfl) ?_
    have e9 := rs1 hm
    subst e9
    exact rk_lretP (pc := 29) hx hb hr hlk rfl dJ7_floorDiv_29
  · have hm := ite_f c2 hm
    refine lv_lload (pc := 13) hx hb dJ7_floorDiv_13 (lv_at hl 0 rfl) ?_
    refine lv_lload_n (pc := 15) hx hb dJ7_floorDiv_15 rfl (lv_at hl 2 rfl) ?_
    refine lv_lmul (pc := 16) hx hb dJ7_floorDiv_16 ?_
    refine lv_lload_n (pc := 17) hx hb dJ7_floorDiv_17 rfl (lv_at hl 1 rfl) ?_
    refine rk_lcmp_eq (pc := 18) (tgt := 27) hx hb dJ7_floorDiv_18 rfl dJ7_floorDiv_19 (by decide) (fun c3 => ?_) (fun c3 => ?_)
    · have hm := ite_t c3 hm
      refine lv_lload (pc := 27) hx hb dJ7_floorDiv_27 (lv_at hl 0 rfl) ?_
      have e9 := rs1 hm
      subst e9
      exact rk_lretP (pc := 29) hx hb hr hlk rfl dJ7_floorDiv_29
    · have hm := ite_f c3 hm
      refine lv_lload (pc := 22) hx hb dJ7_floorDiv_22 (lv_at hl 0 rfl) ?_
      refine lv_lconst (pc := 24) (v := (1 : Int64)) hx hb dJ7_floorDiv_24 (by decide) ?_
      refine lv_lsub (pc := 25) hx hb dJ7_floorDiv_25 ?_
      have e9 := rs1 hm
      subst e9
      exact rk_lretP (pc := 26) hx hb hr hlk rfl dJ7_floorDiv_26
set_option maxHeartbeats 4000000 in
theorem ct_J7_floorDiv {G : Gv} {l : Launch} {j0 : Int64} {j2 : Int64} {rx : Int64} (hm : fJ7_floorDiv j0 j2 = some rx) : CP G l yJ7_floorDiv (ws_ yJ7_floorDiv cJ7_floorDiv 6 (some .long)) 0 0 [.long j0, .long j2] (fun H => True) (some (.long rx)) := by
  refine va_MetF (cc := cJ7_floorDiv) (maxL := 6) (ret := (some .long)) (by decide +kernel) rfl ?_
  intro p e s m args below meth c s₁ B hml hv
  obtain ⟨rfl, -, hK⟩ := hv
  have hts := atoms_spec (ws := ws_ yJ7_floorDiv cJ7_floorDiv 6 (some .long)) B.pre
  have hts : ∀ w ∈ lw_all, w.before _ s = true := fun w h => hts w (List.mem_cons_of_mem _ h)
  have C : Cx G p s m _ meth c RJ7 cJ7_floorDiv 6 (some .long) := ⟨B.exec, B.bytes, B.returns, B.notSynchronized, hml, findClass_of_methodNamed B.named, hts, hK⟩
  have hl := lv_entry ([.long j0, .long j2]) (n := 6) (Nat.le_of_ble_eq_true rfl)
  rw [lg_entry_eq]
  generalize (lg_sl ([.long j0, .long j2]) ++ List.replicate (6 - (lg_sl ([.long j0, .long j2])).length) Slot.unset).toArray = ls at hl ⊢
  have hl : lv_has ls 6 [(0, .long j0), (2, .long j2)] := hl
  exact w_fJ7_floorDiv C _ _ hm ls hl
theorem yn_J7_floorDiv : YN yJ7_floorDiv 2 := by
  unfold YN
  decide +kernel
theorem lkJ7_143 : LSt RJ7 143 yJ7_floorDiv cJ7_floorDiv 6 (some .long) := ⟨q2166, q872, q136, q873⟩
noncomputable def fJ7_floorDiv_2 (j0 : Int64) (i2 : Int32) : Option (Int64) :=
  ob (fJ7_floorDiv j0 i2.toInt64) fun r1 =>
  some r1
set_option maxHeartbeats 4000000 in
theorem w_fJ7_floorDiv_2 (C : Cx G p s m args meth c RJ7 cJ7_floorDiv_2 3 (some .long)) {rx : Int64} : ∀ (j0 : Int64) (i2 : Int32), fJ7_floorDiv_2 j0 i2 = some rx → ∀ (ls : Array Slot), lv_has ls 3 [(0, .long j0), (2, .int i2)] → W p l e (rmP 1 25) s m args below meth c s.heap [] 0 0 (MQ below (QcP (some (.long rx))) args s 0 0 (fun _ => False)) (F0 m 0 ls []) := by
  intro j0 i2 hm ls hl
  obtain ⟨hx, hb, hr, hlk, hml, hown, hts, hK⟩ := id C
  unfold fJ7_floorDiv_2 at hm
  refine lv_lload_n (pc := 0) hx hb dJ7_floorDiv_2_0 rfl (lv_at hl 0 rfl) ?_
  refine lv_iload_n (pc := 1) hx hb dJ7_floorDiv_2_1 rfl (lv_at hl 1 rfl) ?_
  refine lv_i2l (pc := 2) hx hb dJ7_floorDiv_2_2 rfl ?_
  obtain ⟨r1, hq2, hm⟩ := ob_some hm
  refine rk_PS (pc := 3) (As := [.long j0, .long i2.toInt64]) (rest := []) hx hb hml hown hts hK lkJ7_143 yn_J7_floorDiv (ct_J7_floorDiv (G := G) (l := l) hq2) ⟨Nat.le_of_ble_eq_true rfl, Nat.le_of_ble_eq_true rfl⟩ trivial rfl rfl hl.1 (Nat.le_of_ble_eq_true rfl) dJ7_floorDiv_2_3 ⟨Nat.zero_le _, Nat.zero_le _⟩ ?_
  refine W.eq (g2 := F0 m 6 ls [.long r1]) rfl ?_
  have e9 := rs1 hm
  subst e9
  exact rk_lretP (pc := 6) hx hb hr hlk rfl dJ7_floorDiv_2_6
set_option maxHeartbeats 4000000 in
theorem ct_J7_floorDiv_2 {G : Gv} {l : Launch} {j0 : Int64} {i2 : Int32} {rx : Int64} (hm : fJ7_floorDiv_2 j0 i2 = some rx) : CP G l yJ7_floorDiv_2 (ws_ yJ7_floorDiv_2 cJ7_floorDiv_2 3 (some .long)) 1 25 [.long j0, .int i2] (fun H => True) (some (.long rx)) := by
  refine va_MetF (cc := cJ7_floorDiv_2) (maxL := 3) (ret := (some .long)) (by decide +kernel) rfl ?_
  intro p e s m args below meth c s₁ B hml hv
  obtain ⟨rfl, -, hK⟩ := hv
  have hts := atoms_spec (ws := ws_ yJ7_floorDiv_2 cJ7_floorDiv_2 3 (some .long)) B.pre
  have hts : ∀ w ∈ lw_all, w.before _ s = true := fun w h => hts w (List.mem_cons_of_mem _ h)
  have C : Cx G p s m _ meth c RJ7 cJ7_floorDiv_2 3 (some .long) := ⟨B.exec, B.bytes, B.returns, B.notSynchronized, hml, findClass_of_methodNamed B.named, hts, hK⟩
  have hl := lv_entry ([.long j0, .int i2]) (n := 3) (Nat.le_of_ble_eq_true rfl)
  rw [lg_entry_eq]
  generalize (lg_sl ([.long j0, .int i2]) ++ List.replicate (3 - (lg_sl ([.long j0, .int i2])).length) Slot.unset).toArray = ls at hl ⊢
  have hl : lv_has ls 3 [(0, .long j0), (2, .int i2)] := hl
  exact w_fJ7_floorDiv_2 C _ _ hm ls hl
noncomputable def fJ7_floorMod (j0 : Int64) (j2 : Int64) : Option (Int64) :=
  gb (nz64 j2) (
  if (0 : Int64) ≤ (j0 ^^^ j2) then (
  some (j0 - j0 / j2 * j2))
  else (
  if (j0 - j0 / j2 * j2) = (0 : Int64) then (
  some (j0 - j0 / j2 * j2))
  else (
  some ((j0 - j0 / j2 * j2) + j2))))
set_option maxHeartbeats 4000000 in
theorem w_fJ7_floorMod (C : Cx G p s m args meth c RJ7 cJ7_floorMod 6 (some .long)) {rx : Int64} : ∀ (j0 : Int64) (j2 : Int64), fJ7_floorMod j0 j2 = some rx → ∀ (ls : Array Slot), lv_has ls 6 [(0, .long j0), (2, .long j2)] → W p l e (rmP 0 0) s m args below meth c s.heap [] 0 0 (MQ below (QcP (some (.long rx))) args s 0 0 (fun _ => False)) (F0 m 0 ls []) := by
  intro j0 j2 hm ls hl
  obtain ⟨hx, hb, hr, hlk, hml, hown, hts, hK⟩ := id C
  unfold fJ7_floorMod at hm
  refine lv_lload_n (pc := 0) hx hb dJ7_floorMod_0 rfl (lv_at hl 0 rfl) ?_
  refine lv_lload_n (pc := 1) hx hb dJ7_floorMod_1 rfl (lv_at hl 1 rfl) ?_
  obtain ⟨hg1, hm⟩ := gb_some hm
  refine lv_lrem (pc := 2) hx hb dJ7_floorMod_2 (nz64_ne hg1) ?_
  refine lv_lstore (pc := 3) (lv' := [(4, .long (j0 - j0 / j2 * j2)), (0, .long j0), (2, .long j2)]) hx hb dJ7_floorMod_3 hl (by decide) rfl (fun ls hl => ?_)
  refine lv_lload_n (pc := 5) hx hb dJ7_floorMod_5 rfl (lv_at hl 1 rfl) ?_
  refine lv_lload_n (pc := 6) hx hb dJ7_floorMod_6 rfl (lv_at hl 2 rfl) ?_
  refine lv_lxor (pc := 7) hx hb dJ7_floorMod_7 ?_
  refine lv_lconst (pc := 8) (v := (0 : Int64)) hx hb dJ7_floorMod_8 (by decide) ?_
  refine rk_lcmp_ge (pc := 9) (tgt := 25) hx hb dJ7_floorMod_9 rfl dJ7_floorMod_10 (by decide) (fun c2 => ?_) (fun c2 => ?_)
  · have hm := ite_t c2 hm
    refine lv_lload (pc := 25) hx hb dJ7_floorMod_25 (lv_at hl 0 rfl) ?_
    have e9 := rs1 hm
    subst e9
    exact rk_lretP (pc := 27) hx hb hr hlk rfl dJ7_floorMod_27
  · have hm := ite_f c2 hm
    refine lv_lload (pc := 13) hx hb dJ7_floorMod_13 (lv_at hl 0 rfl) ?_
    refine lv_lconst (pc := 15) (v := (0 : Int64)) hx hb dJ7_floorMod_15 (by decide) ?_
    refine rk_lcmp_eq (pc := 16) (tgt := 25) hx hb dJ7_floorMod_16 rfl dJ7_floorMod_17 (by decide) (fun c3 => ?_) (fun c3 => ?_)
    · have hm := ite_t c3 hm
      refine lv_lload (pc := 25) hx hb dJ7_floorMod_25 (lv_at hl 0 rfl) ?_
      have e9 := rs1 hm
      subst e9
      exact rk_lretP (pc := 27) hx hb hr hlk rfl dJ7_floorMod_27
    · have hm := ite_f c3 hm
      refine lv_lload (pc := 20) hx hb dJ7_floorMod_20 (lv_at hl 0 rfl) ?_
      refine lv_lload_n (pc := 22) hx hb dJ7_floorMod_22 rfl (lv_at hl 2 rfl) ?_
      refine lv_ladd (pc := 23) hx hb dJ7_floorMod_23 ?_
      have e9 := rs1 hm
      subst e9
      exact rk_lretP (pc := 24) hx hb hr hlk rfl dJ7_floorMod_24
set_option maxHeartbeats 4000000 in
theorem ct_J7_floorMod {G : Gv} {l : Launch} {j0 : Int64} {j2 : Int64} {rx : Int64} (hm : fJ7_floorMod j0 j2 = some rx) : CP G l yJ7_floorMod (ws_ yJ7_floorMod cJ7_floorMod 6 (some .long)) 0 0 [.long j0, .long j2] (fun H => True) (some (.long rx)) := by
  refine va_MetF (cc := cJ7_floorMod) (maxL := 6) (ret := (some .long)) (by decide +kernel) rfl ?_
  intro p e s m args below meth c s₁ B hml hv
  obtain ⟨rfl, -, hK⟩ := hv
  have hts := atoms_spec (ws := ws_ yJ7_floorMod cJ7_floorMod 6 (some .long)) B.pre
  have hts : ∀ w ∈ lw_all, w.before _ s = true := fun w h => hts w (List.mem_cons_of_mem _ h)
  have C : Cx G p s m _ meth c RJ7 cJ7_floorMod 6 (some .long) := ⟨B.exec, B.bytes, B.returns, B.notSynchronized, hml, findClass_of_methodNamed B.named, hts, hK⟩
  have hl := lv_entry ([.long j0, .long j2]) (n := 6) (Nat.le_of_ble_eq_true rfl)
  rw [lg_entry_eq]
  generalize (lg_sl ([.long j0, .long j2]) ++ List.replicate (6 - (lg_sl ([.long j0, .long j2])).length) Slot.unset).toArray = ls at hl ⊢
  have hl : lv_has ls 6 [(0, .long j0), (2, .long j2)] := hl
  exact w_fJ7_floorMod C _ _ hm ls hl
noncomputable def fJ7_max (i0 : Int32) (i1 : Int32) : Option (Int32) :=
  if i0 < i1 then (
  some i1)
  else (
  some i0)
set_option maxHeartbeats 4000000 in
theorem w_fJ7_max (C : Cx G p s m args meth c RJ7 cJ7_max 2 (some .int)) {rx : Int32} : ∀ (i0 : Int32) (i1 : Int32), fJ7_max i0 i1 = some rx → ∀ (ls : Array Slot), lv_has ls 2 [(0, .int i0), (1, .int i1)] → W p l e (rmP 0 0) s m args below meth c s.heap [] 0 0 (MQ below (QcP (some (.int rx))) args s 0 0 (fun _ => False)) (F0 m 0 ls []) := by
  intro i0 i1 hm ls hl
  obtain ⟨hx, hb, hr, hlk, hml, hown, hts, hK⟩ := id C
  unfold fJ7_max at hm
  refine lv_iload_n (pc := 0) hx hb dJ7_max_0 rfl (lv_at hl 0 rfl) ?_
  refine lv_iload_n (pc := 1) hx hb dJ7_max_1 rfl (lv_at hl 1 rfl) ?_
  refine lv_icmp_lt (pc := 2) (tgt := 9) hx hb dJ7_max_2 (by decide) (fun c1 => ?_) (fun c1 => ?_)
  · have hm := ite_t c1 hm
    refine lv_iload_n (pc := 9) hx hb dJ7_max_9 rfl (lv_at hl 1 rfl) ?_
    have e9 := rs1 hm
    subst e9
    exact rk_iretP (pc := 10) hx hb hr hlk rfl dJ7_max_10
  · have hm := ite_f c1 hm
    refine lv_iload_n (pc := 5) hx hb dJ7_max_5 rfl (lv_at hl 0 rfl) ?_
    refine lv_goto (pc := 6) (tgt := 10) hx hb dJ7_max_6 (by decide) ?_
    have e9 := rs1 hm
    subst e9
    exact rk_iretP (pc := 10) hx hb hr hlk rfl dJ7_max_10
set_option maxHeartbeats 4000000 in
theorem ct_J7_max {G : Gv} {l : Launch} {i0 : Int32} {i1 : Int32} {rx : Int32} (hm : fJ7_max i0 i1 = some rx) : CP G l yJ7_max (ws_ yJ7_max cJ7_max 2 (some .int)) 0 0 [.int i0, .int i1] (fun H => True) (some (.int rx)) := by
  refine va_MetF (cc := cJ7_max) (maxL := 2) (ret := (some .int)) (by decide +kernel) rfl ?_
  intro p e s m args below meth c s₁ B hml hv
  obtain ⟨rfl, -, hK⟩ := hv
  have hts := atoms_spec (ws := ws_ yJ7_max cJ7_max 2 (some .int)) B.pre
  have hts : ∀ w ∈ lw_all, w.before _ s = true := fun w h => hts w (List.mem_cons_of_mem _ h)
  have C : Cx G p s m _ meth c RJ7 cJ7_max 2 (some .int) := ⟨B.exec, B.bytes, B.returns, B.notSynchronized, hml, findClass_of_methodNamed B.named, hts, hK⟩
  have hl := lv_entry ([.int i0, .int i1]) (n := 2) (Nat.le_of_ble_eq_true rfl)
  rw [lg_entry_eq]
  generalize (lg_sl ([.int i0, .int i1]) ++ List.replicate (2 - (lg_sl ([.int i0, .int i1])).length) Slot.unset).toArray = ls at hl ⊢
  have hl : lv_has ls 2 [(0, .int i0), (1, .int i1)] := hl
  exact w_fJ7_max C _ _ hm ls hl
noncomputable def fJ7_min (i0 : Int32) (i1 : Int32) : Option (Int32) :=
  if i1 < i0 then (
  some i1)
  else (
  some i0)
set_option maxHeartbeats 4000000 in
theorem w_fJ7_min (C : Cx G p s m args meth c RJ7 cJ7_min 2 (some .int)) {rx : Int32} : ∀ (i0 : Int32) (i1 : Int32), fJ7_min i0 i1 = some rx → ∀ (ls : Array Slot), lv_has ls 2 [(0, .int i0), (1, .int i1)] → W p l e (rmP 0 0) s m args below meth c s.heap [] 0 0 (MQ below (QcP (some (.int rx))) args s 0 0 (fun _ => False)) (F0 m 0 ls []) := by
  intro i0 i1 hm ls hl
  obtain ⟨hx, hb, hr, hlk, hml, hown, hts, hK⟩ := id C
  unfold fJ7_min at hm
  refine lv_iload_n (pc := 0) hx hb dJ7_min_0 rfl (lv_at hl 0 rfl) ?_
  refine lv_iload_n (pc := 1) hx hb dJ7_min_1 rfl (lv_at hl 1 rfl) ?_
  refine lv_icmp_gt (pc := 2) (tgt := 9) hx hb dJ7_min_2 (by decide) (fun c1 => ?_) (fun c1 => ?_)
  · have hm := ite_t c1 hm
    refine lv_iload_n (pc := 9) hx hb dJ7_min_9 rfl (lv_at hl 1 rfl) ?_
    have e9 := rs1 hm
    subst e9
    exact rk_iretP (pc := 10) hx hb hr hlk rfl dJ7_min_10
  · have hm := ite_f c1 hm
    refine lv_iload_n (pc := 5) hx hb dJ7_min_5 rfl (lv_at hl 0 rfl) ?_
    refine lv_goto (pc := 6) (tgt := 10) hx hb dJ7_min_6 (by decide) ?_
    have e9 := rs1 hm
    subst e9
    exact rk_iretP (pc := 10) hx hb hr hlk rfl dJ7_min_10
set_option maxHeartbeats 4000000 in
theorem ct_J7_min {G : Gv} {l : Launch} {i0 : Int32} {i1 : Int32} {rx : Int32} (hm : fJ7_min i0 i1 = some rx) : CP G l yJ7_min (ws_ yJ7_min cJ7_min 2 (some .int)) 0 0 [.int i0, .int i1] (fun H => True) (some (.int rx)) := by
  refine va_MetF (cc := cJ7_min) (maxL := 2) (ret := (some .int)) (by decide +kernel) rfl ?_
  intro p e s m args below meth c s₁ B hml hv
  obtain ⟨rfl, -, hK⟩ := hv
  have hts := atoms_spec (ws := ws_ yJ7_min cJ7_min 2 (some .int)) B.pre
  have hts : ∀ w ∈ lw_all, w.before _ s = true := fun w h => hts w (List.mem_cons_of_mem _ h)
  have C : Cx G p s m _ meth c RJ7 cJ7_min 2 (some .int) := ⟨B.exec, B.bytes, B.returns, B.notSynchronized, hml, findClass_of_methodNamed B.named, hts, hK⟩
  have hl := lv_entry ([.int i0, .int i1]) (n := 2) (Nat.le_of_ble_eq_true rfl)
  rw [lg_entry_eq]
  generalize (lg_sl ([.int i0, .int i1]) ++ List.replicate (2 - (lg_sl ([.int i0, .int i1])).length) Slot.unset).toArray = ls at hl ⊢
  have hl : lv_has ls 2 [(0, .int i0), (1, .int i1)] := hl
  exact w_fJ7_min C _ _ hm ls hl
end
