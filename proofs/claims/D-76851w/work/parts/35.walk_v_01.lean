set_option maxRecDepth 100000
section
variable {p : Program} {l : Launch} {e : Env} {s : State} {m : MethodId} {args : Array Value} {below : List Frame} {meth : Method} {c : Code} {G : Gv}
noncomputable def fX0_costOf_asked_4 (V0 : Mem) (k4 : Int32 → Int32 → Option (Int32)) (i2 : Int32) (i3 : Int32) : Option (Int32) :=
  if (gI V0 1 0) ≤ i3 then (
  some i2)
  else (
  gb (inR i3 5) (
  gb (inR i3 5) (
  k4 (i2 + ((gI V0 2 i3.toNatClampNeg) * (gI V0 163 i3.toNatClampNeg))) (i3 + (1 : Int32)))))
noncomputable def fX0_costOf_asked (V0 : Mem) : Option (Int32) :=
  lq2 (fX0_costOf_asked_4 V0) FU (0 : Int32) (0 : Int32)
set_option maxHeartbeats 4000000 in
theorem w_fX0_costOf_asked_4 (C : Cx G p s m args meth c RX0 cX0_costOf 4 (some .int)) {b0 : Nat} {V0 : Mem} {rx : Int32} (hW0 : rg G b0 357 (shX0 G.2.1) V0 s.heap) {k4 : Int32 → Int32 → Option (Int32)} (hk4 : ∀ (i2 : Int32) (i3 : Int32), k4 i2 i3 = some rx → ∀ (ls : Array Slot), lv_has ls 4 [(0, .ref b0), (1, .ref (b0 + 163)), (2, .int i2), (3, .int i3)] → W p l e (rmP 0 0) s m args below meth c s.heap [] 0 0 (MQ below (QcP (some (.int rx))) args s 0 0 (fun _ => False)) (F0 m 4 ls [])) : ∀ (i2 : Int32) (i3 : Int32), fX0_costOf_asked_4 V0 k4 i2 i3 = some rx → ∀ (ls : Array Slot), lv_has ls 4 [(0, .ref b0), (1, .ref (b0 + 163)), (2, .int i2), (3, .int i3)] → W p l e (rmP 0 0) s m args below meth c s.heap [] 0 0 (MQ below (QcP (some (.int rx))) args s 0 0 (fun _ => False)) (F0 m 4 ls []) := by
  intro i2 i3 hm ls hl
  obtain ⟨hx, hb, hr, hlk, hml, hown, hts, hK⟩ := id C
  unfold fX0_costOf_asked_4 at hm
  refine lv_iload_n (pc := 4) hx hb dX0_costOf_4 rfl (lv_at hl 3 rfl) ?_
  refine lv_aload_n (pc := 5) hx hb dX0_costOf_5 rfl (lv_at hl 0 rfl) ?_
  refine rk_get (pc := 6) hx hb hts hown hK hW0 flX0_12 0 (by decide) rfl rfl (x := .ref (b0 + 1)) (by first | rfl | exact congrArg (fun z => some (Value.ref z)) (by omega)) dX0_costOf_6 ?_
  refine rk_getN (pc := 9) hx hb hts hown hK hW0 fnX0_131 1 (by decide) rfl rfl (x := .int (gI V0 1 0)) rfl dX0_costOf_9 ?_
  refine lv_icmp_ge (pc := 12) (tgt := 37) hx hb dX0_costOf_12 (by decide) (fun c1 => ?_) (fun c1 => ?_)
  · have hm := ite_t c1 hm
    refine lv_iload_n (pc := 37) hx hb dX0_costOf_37 rfl (lv_at hl 2 rfl) ?_
    have e9 := rs1 hm
    subst e9
    exact rk_iretP (pc := 38) hx hb hr hlk rfl dX0_costOf_38
  · have hm := ite_f c1 hm
    refine lv_iload_n (pc := 15) hx hb dX0_costOf_15 rfl (lv_at hl 2 rfl) ?_
    refine lv_aload_n (pc := 16) hx hb dX0_costOf_16 rfl (lv_at hl 0 rfl) ?_
    refine rk_get (pc := 17) hx hb hts hown hK hW0 flX0_12 0 (by decide) rfl rfl (x := .ref (b0 + 1)) (by first | rfl | exact congrArg (fun z => some (Value.ref z)) (by omega)) dX0_costOf_17 ?_
    refine rk_getN (pc := 20) hx hb hts hown hK hW0 fnX0_151 1 (by decide) rfl rfl (x := .ref (b0 + 2)) (by first | rfl | exact congrArg (fun z => some (Value.ref z)) (by omega)) dX0_costOf_20 ?_
    refine lv_iload_n (pc := 23) hx hb dX0_costOf_23 rfl (lv_at hl 3 rfl) ?_
    obtain ⟨hg2, hm⟩ := gb_some hm
    refine rk_iald (pc := 24) hx hb hK hW0 2 (by decide) rfl rfl hg2 (x := (gI V0 2 i3.toNatClampNeg)) rfl dX0_costOf_24 ?_
    refine lv_aload_n (pc := 25) hx hb dX0_costOf_25 rfl (lv_at hl 1 rfl) ?_
    refine lv_iload_n (pc := 26) hx hb dX0_costOf_26 rfl (lv_at hl 3 rfl) ?_
    obtain ⟨hg3, hm⟩ := gb_some hm
    refine rk_iald (pc := 27) hx hb hK hW0 163 (by decide) rfl rfl hg3 (x := (gI V0 163 i3.toNatClampNeg)) rfl dX0_costOf_27 ?_
    refine lv_imul (pc := 28) hx hb dX0_costOf_28 ?_
    refine lv_iadd (pc := 29) hx hb dX0_costOf_29 ?_
    refine lv_istore_n (pc := 30) (lv' := [(2, .int (i2 + ((gI V0 2 i3.toNatClampNeg) * (gI V0 163 i3.toNatClampNeg)))), (0, .ref b0), (1, .ref (b0 + 163)), (3, .int i3)]) hx hb dX0_costOf_30 rfl hl (by decide) rfl (fun ls hl => ?_)
    refine lv_iinc (pc := 31) (v := (i3 + (1 : Int32))) (lv' := [(3, .int (i3 + (1 : Int32))), (2, .int (i2 + ((gI V0 2 i3.toNatClampNeg) * (gI V0 163 i3.toNatClampNeg)))), (0, .ref b0), (1, .ref (b0 + 163))]) hx hb dX0_costOf_31 hl (k := 3) rfl rfl (by decide) rfl (fun ls hl => ?_)
    refine lv_goto (pc := 34) (tgt := 4) hx hb dX0_costOf_34 (by decide) ?_
    exact hk4 (i2 + ((gI V0 2 i3.toNatClampNeg) * (gI V0 163 i3.toNatClampNeg))) (i3 + (1 : Int32)) hm ls (lv_sub hl [2, 3, 1, 0] rfl)
theorem w_fX0_costOf_asked_4_l (C : Cx G p s m args meth c RX0 cX0_costOf 4 (some .int)) {b0 : Nat} {V0 : Mem} {rx : Int32} (hW0 : rg G b0 357 (shX0 G.2.1) V0 s.heap) : ∀ (n : Nat) (i2 : Int32) (i3 : Int32), lq2 (fX0_costOf_asked_4 V0) n i2 i3 = some rx → ∀ (ls : Array Slot), lv_has ls 4 [(0, .ref b0), (1, .ref (b0 + 163)), (2, .int i2), (3, .int i3)] → W p l e (rmP 0 0) s m args below meth c s.heap [] 0 0 (MQ below (QcP (some (.int rx))) args s 0 0 (fun _ => False)) (F0 m 4 ls []) := by
  intro n
  induction n with
  | zero => intro i2 i3 hm; exact (lq2_0 hm).elim
  | succ n ih => intro i2 i3 hm; exact w_fX0_costOf_asked_4 C hW0 ih i2 i3 (lq2_s hm)
set_option maxHeartbeats 4000000 in
theorem w_fX0_costOf_asked (C : Cx G p s m args meth c RX0 cX0_costOf 4 (some .int)) {b0 : Nat} {V0 : Mem} {rx : Int32} (hW0 : rg G b0 357 (shX0 G.2.1) V0 s.heap) : fX0_costOf_asked V0 = some rx → ∀ (ls : Array Slot), lv_has ls 4 [(0, .ref b0), (1, .ref (b0 + 163))] → W p l e (rmP 0 0) s m args below meth c s.heap [] 0 0 (MQ below (QcP (some (.int rx))) args s 0 0 (fun _ => False)) (F0 m 0 ls []) := by
  intro hm ls hl
  obtain ⟨hx, hb, hr, hlk, hml, hown, hts, hK⟩ := id C
  unfold fX0_costOf_asked at hm
  refine lv_iconst (pc := 0) (v := (0 : Int32)) hx hb dX0_costOf_0 (by decide) ?_
  refine lv_istore_n (pc := 1) (lv' := [(2, .int (0 : Int32)), (0, .ref b0), (1, .ref (b0 + 163))]) hx hb dX0_costOf_1 rfl hl (by decide) rfl (fun ls hl => ?_)
  refine lv_iconst (pc := 2) (v := (0 : Int32)) hx hb dX0_costOf_2 (by decide) ?_
  refine lv_istore_n (pc := 3) (lv' := [(3, .int (0 : Int32)), (2, .int (0 : Int32)), (0, .ref b0), (1, .ref (b0 + 163))]) hx hb dX0_costOf_3 rfl hl (by decide) rfl (fun ls hl => ?_)
  exact (w_fX0_costOf_asked_4_l C hW0 FU) (0 : Int32) (0 : Int32) hm ls (lv_sub hl [2, 3, 1, 0] rfl)
set_option maxHeartbeats 4000000 in
theorem ct_X0_costOf_asked {G : Gv} {l : Launch} {b0 : Nat} {V0 : Mem} {rx : Int32} (hm : fX0_costOf_asked V0  = some rx) : CP G l yX0_costOf (ws_ yX0_costOf cX0_costOf 4 (some .int)) 0 0 [.ref b0, .ref (b0 + 163)] (fun H => rg G b0 357 (shX0 G.2.1) V0 H) (some (.int rx)) := by
  refine Met.ofW (cc := cX0_costOf) (maxL := 4) (ret := (some .int)) (by decide +kernel) rfl ?_
  intro p e s m args below meth c s₁ B hml hv
  obtain ⟨rfl, hW0, hK⟩ := hv
  have hts := atoms_spec (ws := ws_ yX0_costOf cX0_costOf 4 (some .int)) B.pre
  have hts : ∀ w ∈ lw_all, w.before _ s = true := fun w h => hts w (List.mem_cons_of_mem _ h)
  have C : Cx G p s m _ meth c RX0 cX0_costOf 4 (some .int) := ⟨B.exec, B.bytes, B.returns, B.notSynchronized, hml, findClass_of_methodNamed B.named, hts, hK⟩
  have hl := lv_entry ([.ref b0, .ref (b0 + 163)]) (n := 4) (Nat.le_of_ble_eq_true rfl)
  rw [lg_entry_eq]
  generalize (lg_sl ([.ref b0, .ref (b0 + 163)]) ++ List.replicate (4 - (lg_sl ([.ref b0, .ref (b0 + 163)])).length) Slot.unset).toArray = ls at hl ⊢
  have hl : lv_has ls 4 [(0, .ref b0), (1, .ref (b0 + 163))] := hl
  exact w_fX0_costOf_asked C hW0  hm ls hl
noncomputable def fX0_codeOf_asked_4 (V0 : Mem) (k4 : Int32 → Int32 → Option (Int32)) (i2 : Int32) (i3 : Int32) : Option (Int32) :=
  if (gI V0 1 0) ≤ i3 then (
  some i2)
  else (
  gb (inR i3 5) (
  k4 (((10 : Int32) * i2) + (gI V0 163 i3.toNatClampNeg)) (i3 + (1 : Int32))))
noncomputable def fX0_codeOf_asked (V0 : Mem) : Option (Int32) :=
  lq2 (fX0_codeOf_asked_4 V0) FU (0 : Int32) (0 : Int32)
set_option maxHeartbeats 4000000 in
theorem w_fX0_codeOf_asked_4 (C : Cx G p s m args meth c RX0 cX0_codeOf 4 (some .int)) {b0 : Nat} {V0 : Mem} {rx : Int32} (hW0 : rg G b0 357 (shX0 G.2.1) V0 s.heap) {k4 : Int32 → Int32 → Option (Int32)} (hk4 : ∀ (i2 : Int32) (i3 : Int32), k4 i2 i3 = some rx → ∀ (ls : Array Slot), lv_has ls 4 [(0, .ref b0), (1, .ref (b0 + 163)), (2, .int i2), (3, .int i3)] → W p l e (rmP 0 0) s m args below meth c s.heap [] 0 0 (MQ below (QcP (some (.int rx))) args s 0 0 (fun _ => False)) (F0 m 4 ls [])) : ∀ (i2 : Int32) (i3 : Int32), fX0_codeOf_asked_4 V0 k4 i2 i3 = some rx → ∀ (ls : Array Slot), lv_has ls 4 [(0, .ref b0), (1, .ref (b0 + 163)), (2, .int i2), (3, .int i3)] → W p l e (rmP 0 0) s m args below meth c s.heap [] 0 0 (MQ below (QcP (some (.int rx))) args s 0 0 (fun _ => False)) (F0 m 4 ls []) := by
  intro i2 i3 hm ls hl
  obtain ⟨hx, hb, hr, hlk, hml, hown, hts, hK⟩ := id C
  unfold fX0_codeOf_asked_4 at hm
  refine lv_iload_n (pc := 4) hx hb dX0_codeOf_4 rfl (lv_at hl 3 rfl) ?_
  refine lv_aload_n (pc := 5) hx hb dX0_codeOf_5 rfl (lv_at hl 0 rfl) ?_
  refine rk_get (pc := 6) hx hb hts hown hK hW0 flX0_12 0 (by decide) rfl rfl (x := .ref (b0 + 1)) (by first | rfl | exact congrArg (fun z => some (Value.ref z)) (by omega)) dX0_codeOf_6 ?_
  refine rk_getN (pc := 9) hx hb hts hown hK hW0 fnX0_131 1 (by decide) rfl rfl (x := .int (gI V0 1 0)) rfl dX0_codeOf_9 ?_
  refine lv_icmp_ge (pc := 12) (tgt := 30) hx hb dX0_codeOf_12 (by decide) (fun c1 => ?_) (fun c1 => ?_)
  · have hm := ite_t c1 hm
    refine lv_iload_n (pc := 30) hx hb dX0_codeOf_30 rfl (lv_at hl 2 rfl) ?_
    have e9 := rs1 hm
    subst e9
    exact rk_iretP (pc := 31) hx hb hr hlk rfl dX0_codeOf_31
  · have hm := ite_f c1 hm
    refine lv_bipush (pc := 15) (v := (10 : Int32)) hx hb dX0_codeOf_15 (by decide) ?_
    refine lv_iload_n (pc := 17) hx hb dX0_codeOf_17 rfl (lv_at hl 2 rfl) ?_
    refine lv_imul (pc := 18) hx hb dX0_codeOf_18 ?_
    refine lv_aload_n (pc := 19) hx hb dX0_codeOf_19 rfl (lv_at hl 1 rfl) ?_
    refine lv_iload_n (pc := 20) hx hb dX0_codeOf_20 rfl (lv_at hl 3 rfl) ?_
    obtain ⟨hg2, hm⟩ := gb_some hm
    refine rk_iald (pc := 21) hx hb hK hW0 163 (by decide) rfl rfl hg2 (x := (gI V0 163 i3.toNatClampNeg)) rfl dX0_codeOf_21 ?_
    refine lv_iadd (pc := 22) hx hb dX0_codeOf_22 ?_
    refine lv_istore_n (pc := 23) (lv' := [(2, .int (((10 : Int32) * i2) + (gI V0 163 i3.toNatClampNeg))), (0, .ref b0), (1, .ref (b0 + 163)), (3, .int i3)]) hx hb dX0_codeOf_23 rfl hl (by decide) rfl (fun ls hl => ?_)
    refine lv_iinc (pc := 24) (v := (i3 + (1 : Int32))) (lv' := [(3, .int (i3 + (1 : Int32))), (2, .int (((10 : Int32) * i2) + (gI V0 163 i3.toNatClampNeg))), (0, .ref b0), (1, .ref (b0 + 163))]) hx hb dX0_codeOf_24 hl (k := 3) rfl rfl (by decide) rfl (fun ls hl => ?_)
    refine lv_goto (pc := 27) (tgt := 4) hx hb dX0_codeOf_27 (by decide) ?_
    exact hk4 (((10 : Int32) * i2) + (gI V0 163 i3.toNatClampNeg)) (i3 + (1 : Int32)) hm ls (lv_sub hl [2, 3, 1, 0] rfl)
theorem w_fX0_codeOf_asked_4_l (C : Cx G p s m args meth c RX0 cX0_codeOf 4 (some .int)) {b0 : Nat} {V0 : Mem} {rx : Int32} (hW0 : rg G b0 357 (shX0 G.2.1) V0 s.heap) : ∀ (n : Nat) (i2 : Int32) (i3 : Int32), lq2 (fX0_codeOf_asked_4 V0) n i2 i3 = some rx → ∀ (ls : Array Slot), lv_has ls 4 [(0, .ref b0), (1, .ref (b0 + 163)), (2, .int i2), (3, .int i3)] → W p l e (rmP 0 0) s m args below meth c s.heap [] 0 0 (MQ below (QcP (some (.int rx))) args s 0 0 (fun _ => False)) (F0 m 4 ls []) := by
  intro n
  induction n with
  | zero => intro i2 i3 hm; exact (lq2_0 hm).elim
  | succ n ih => intro i2 i3 hm; exact w_fX0_codeOf_asked_4 C hW0 ih i2 i3 (lq2_s hm)
set_option maxHeartbeats 4000000 in
theorem w_fX0_codeOf_asked (C : Cx G p s m args meth c RX0 cX0_codeOf 4 (some .int)) {b0 : Nat} {V0 : Mem} {rx : Int32} (hW0 : rg G b0 357 (shX0 G.2.1) V0 s.heap) : fX0_codeOf_asked V0 = some rx → ∀ (ls : Array Slot), lv_has ls 4 [(0, .ref b0), (1, .ref (b0 + 163))] → W p l e (rmP 0 0) s m args below meth c s.heap [] 0 0 (MQ below (QcP (some (.int rx))) args s 0 0 (fun _ => False)) (F0 m 0 ls []) := by
  intro hm ls hl
  obtain ⟨hx, hb, hr, hlk, hml, hown, hts, hK⟩ := id C
  unfold fX0_codeOf_asked at hm
  refine lv_iconst (pc := 0) (v := (0 : Int32)) hx hb dX0_codeOf_0 (by decide) ?_
  refine lv_istore_n (pc := 1) (lv' := [(2, .int (0 : Int32)), (0, .ref b0), (1, .ref (b0 + 163))]) hx hb dX0_codeOf_1 rfl hl (by decide) rfl (fun ls hl => ?_)
  refine lv_iconst (pc := 2) (v := (0 : Int32)) hx hb dX0_codeOf_2 (by decide) ?_
  refine lv_istore_n (pc := 3) (lv' := [(3, .int (0 : Int32)), (2, .int (0 : Int32)), (0, .ref b0), (1, .ref (b0 + 163))]) hx hb dX0_codeOf_3 rfl hl (by decide) rfl (fun ls hl => ?_)
  exact (w_fX0_codeOf_asked_4_l C hW0 FU) (0 : Int32) (0 : Int32) hm ls (lv_sub hl [2, 3, 1, 0] rfl)
set_option maxHeartbeats 4000000 in
theorem ct_X0_codeOf_asked {G : Gv} {l : Launch} {b0 : Nat} {V0 : Mem} {rx : Int32} (hm : fX0_codeOf_asked V0  = some rx) : CP G l yX0_codeOf (ws_ yX0_codeOf cX0_codeOf 4 (some .int)) 0 0 [.ref b0, .ref (b0 + 163)] (fun H => rg G b0 357 (shX0 G.2.1) V0 H) (some (.int rx)) := by
  refine Met.ofW (cc := cX0_codeOf) (maxL := 4) (ret := (some .int)) (by decide +kernel) rfl ?_
  intro p e s m args below meth c s₁ B hml hv
  obtain ⟨rfl, hW0, hK⟩ := hv
  have hts := atoms_spec (ws := ws_ yX0_codeOf cX0_codeOf 4 (some .int)) B.pre
  have hts : ∀ w ∈ lw_all, w.before _ s = true := fun w h => hts w (List.mem_cons_of_mem _ h)
  have C : Cx G p s m _ meth c RX0 cX0_codeOf 4 (some .int) := ⟨B.exec, B.bytes, B.returns, B.notSynchronized, hml, findClass_of_methodNamed B.named, hts, hK⟩
  have hl := lv_entry ([.ref b0, .ref (b0 + 163)]) (n := 4) (Nat.le_of_ble_eq_true rfl)
  rw [lg_entry_eq]
  generalize (lg_sl ([.ref b0, .ref (b0 + 163)]) ++ List.replicate (4 - (lg_sl ([.ref b0, .ref (b0 + 163)])).length) Slot.unset).toArray = ls at hl ⊢
  have hl : lv_has ls 4 [(0, .ref b0), (1, .ref (b0 + 163))] := hl
  exact w_fX0_codeOf_asked C hW0  hm ls hl
noncomputable def fX0_brokenBy_asked_4 (V0 : Mem) (k4 : Int32 → Int32 → Option (Int32)) (i2 : Int32) (i3 : Int32) : Option (Int32) :=
  if (gI V0 1 1) ≤ i3 then (
  some i2)
  else (
  gb (inR i3 8) (
  ob (fX0_isBroken_asked V0 i3.toNatClampNeg) fun r4 =>
  if r4 = 0 then (
  k4 (i2 + (0 : Int32)) (i3 + (1 : Int32)))
  else (
  k4 (i2 + (1 : Int32)) (i3 + (1 : Int32)))))
noncomputable def fX0_brokenBy_asked (V0 : Mem) : Option (Int32) :=
  lq2 (fX0_brokenBy_asked_4 V0) FU (0 : Int32) (0 : Int32)
set_option maxHeartbeats 4000000 in
theorem w_fX0_brokenBy_asked_4 (C : Cx G p s m args meth c RX0 cX0_brokenBy 4 (some .int)) {b0 : Nat} {V0 : Mem} {rx : Int32} (hW0 : rg G b0 357 (shX0 G.2.1) V0 s.heap) (hG : GO G s.heap) (hZ : ZQ G) (hgb0 : gB G ≤ b0) (hZL : ZL G) {k4 : Int32 → Int32 → Option (Int32)} (hk4 : ∀ (i2 : Int32) (i3 : Int32), k4 i2 i3 = some rx → ∀ (ls : Array Slot), lv_has ls 4 [(0, .ref b0), (1, .ref (b0 + 163)), (2, .int i2), (3, .int i3)] → W p l e (rmP 3 72) s m args below meth c s.heap [] 0 0 (MQ below (QcP (some (.int rx))) args s 0 0 (fun _ => False)) (F0 m 4 ls [])) : ∀ (i2 : Int32) (i3 : Int32), fX0_brokenBy_asked_4 V0 k4 i2 i3 = some rx → ∀ (ls : Array Slot), lv_has ls 4 [(0, .ref b0), (1, .ref (b0 + 163)), (2, .int i2), (3, .int i3)] → W p l e (rmP 3 72) s m args below meth c s.heap [] 0 0 (MQ below (QcP (some (.int rx))) args s 0 0 (fun _ => False)) (F0 m 4 ls []) := by
  intro i2 i3 hm ls hl
  obtain ⟨hx, hb, hr, hlk, hml, hown, hts, hK⟩ := id C
  unfold fX0_brokenBy_asked_4 at hm
  refine lv_iload_n (pc := 4) hx hb dX0_brokenBy_4 rfl (lv_at hl 3 rfl) ?_
  refine lv_aload_n (pc := 5) hx hb dX0_brokenBy_5 rfl (lv_at hl 0 rfl) ?_
  refine rk_get (pc := 6) hx hb hts hown hK hW0 flX0_12 0 (by decide) rfl rfl (x := .ref (b0 + 1)) (by first | rfl | exact congrArg (fun z => some (Value.ref z)) (by omega)) dX0_brokenBy_6 ?_
  refine rk_getN (pc := 9) hx hb hts hown hK hW0 fnX0_158 1 (by decide) rfl rfl (x := .int (gI V0 1 1)) rfl dX0_brokenBy_9 ?_
  refine lv_icmp_ge (pc := 12) (tgt := 46) hx hb dX0_brokenBy_12 (by decide) (fun c1 => ?_) (fun c1 => ?_)
  · have hm := ite_t c1 hm
    refine lv_iload_n (pc := 46) hx hb dX0_brokenBy_46 rfl (lv_at hl 2 rfl) ?_
    have e9 := rs1 hm
    subst e9
    exact rk_iretP (pc := 47) hx hb hr hlk rfl dX0_brokenBy_47
  · have hm := ite_f c1 hm
    refine lv_iload_n (pc := 15) hx hb dX0_brokenBy_15 rfl (lv_at hl 2 rfl) ?_
    refine lv_aload_n (pc := 16) hx hb dX0_brokenBy_16 rfl (lv_at hl 0 rfl) ?_
    refine lv_aload_n (pc := 17) hx hb dX0_brokenBy_17 rfl (lv_at hl 0 rfl) ?_
    refine rk_get (pc := 18) hx hb hts hown hK hW0 flX0_12 0 (by decide) rfl rfl (x := .ref (b0 + 1)) (by first | rfl | exact congrArg (fun z => some (Value.ref z)) (by omega)) dX0_brokenBy_18 ?_
    refine rk_getN (pc := 21) hx hb hts hown hK hW0 fnX0_172 1 (by decide) rfl rfl (x := .ref (b0 + 3)) (by first | rfl | exact congrArg (fun z => some (Value.ref z)) (by omega)) dX0_brokenBy_21 ?_
    refine lv_iload_n (pc := 24) hx hb dX0_brokenBy_24 rfl (lv_at hl 3 rfl) ?_
    obtain ⟨hg2, hm⟩ := gb_some hm
    have hlt3 := inR_lt hg2
    refine rk_aald (pc := 25) hx hb hK hW0 3 5 (by decide) rfl rfl rfl hg2 (x := (b0 + (7 + 2 * i3.toNatClampNeg + 0))) (by first | rfl | exact congrArg some (by omega)) dX0_brokenBy_25 ?_
    refine lv_aload_n (pc := 26) hx hb dX0_brokenBy_26 rfl (lv_at hl 1 rfl) ?_
    obtain ⟨r4, hq5, hm⟩ := ob_some hm
    refine rk_PV (pc := 27) (As := [.ref (b0 + (7 + 2 * i3.toNatClampNeg + 0)), .ref (b0 + 163)]) (rest := [.int i2]) hx hb hml hown hts hK lkX0_329 rfl yn_X0_isBroken (ct_X0_isBroken_asked (G := G) (l := l) (b0 := b0) hq5 hlt3 hZ (by omega) hZL) ⟨Nat.le_of_ble_eq_true rfl, Nat.le_of_ble_eq_true rfl⟩ (rk_recv hK hW0 0 (by decide) rfl rfl rfl) ⟨hW0, hG⟩ rfl rfl hl.1 (Nat.le_of_ble_eq_true rfl) dX0_brokenBy_27 ⟨Nat.zero_le _, Nat.zero_le _⟩ ?_
    refine W.eq (g2 := F0 m 30 ls [.int r4, .int i2]) rfl ?_
    refine lv_if_eq (pc := 30) (tgt := 37) hx hb dX0_brokenBy_30 (by decide) (fun c6 => ?_) (fun c6 => ?_)
    · have hm := ite_t c6 hm
      refine lv_iconst (pc := 37) (v := (0 : Int32)) hx hb dX0_brokenBy_37 (by decide) ?_
      refine lv_iadd (pc := 38) hx hb dX0_brokenBy_38 ?_
      refine lv_istore_n (pc := 39) (lv' := [(2, .int (i2 + (0 : Int32))), (0, .ref b0), (1, .ref (b0 + 163)), (3, .int i3)]) hx hb dX0_brokenBy_39 rfl hl (by decide) rfl (fun ls hl => ?_)
      refine lv_iinc (pc := 40) (v := (i3 + (1 : Int32))) (lv' := [(3, .int (i3 + (1 : Int32))), (2, .int (i2 + (0 : Int32))), (0, .ref b0), (1, .ref (b0 + 163))]) hx hb dX0_brokenBy_40 hl (k := 3) rfl rfl (by decide) rfl (fun ls hl => ?_)
      refine lv_goto (pc := 43) (tgt := 4) hx hb dX0_brokenBy_43 (by decide) ?_
      exact hk4 (i2 + (0 : Int32)) (i3 + (1 : Int32)) hm ls (lv_sub hl [2, 3, 1, 0] rfl)
    · have hm := ite_f c6 hm
      refine lv_iconst (pc := 33) (v := (1 : Int32)) hx hb dX0_brokenBy_33 (by decide) ?_
      refine lv_goto (pc := 34) (tgt := 38) hx hb dX0_brokenBy_34 (by decide) ?_
      refine lv_iadd (pc := 38) hx hb dX0_brokenBy_38 ?_
      refine lv_istore_n (pc := 39) (lv' := [(2, .int (i2 + (1 : Int32))), (0, .ref b0), (1, .ref (b0 + 163)), (3, .int i3)]) hx hb dX0_brokenBy_39 rfl hl (by decide) rfl (fun ls hl => ?_)
      refine lv_iinc (pc := 40) (v := (i3 + (1 : Int32))) (lv' := [(3, .int (i3 + (1 : Int32))), (2, .int (i2 + (1 : Int32))), (0, .ref b0), (1, .ref (b0 + 163))]) hx hb dX0_brokenBy_40 hl (k := 3) rfl rfl (by decide) rfl (fun ls hl => ?_)
      refine lv_goto (pc := 43) (tgt := 4) hx hb dX0_brokenBy_43 (by decide) ?_
      exact hk4 (i2 + (1 : Int32)) (i3 + (1 : Int32)) hm ls (lv_sub hl [2, 3, 1, 0] rfl)
theorem w_fX0_brokenBy_asked_4_l (C : Cx G p s m args meth c RX0 cX0_brokenBy 4 (some .int)) {b0 : Nat} {V0 : Mem} {rx : Int32} (hW0 : rg G b0 357 (shX0 G.2.1) V0 s.heap) (hG : GO G s.heap) (hZ : ZQ G) (hgb0 : gB G ≤ b0) (hZL : ZL G) : ∀ (n : Nat) (i2 : Int32) (i3 : Int32), lq2 (fX0_brokenBy_asked_4 V0) n i2 i3 = some rx → ∀ (ls : Array Slot), lv_has ls 4 [(0, .ref b0), (1, .ref (b0 + 163)), (2, .int i2), (3, .int i3)] → W p l e (rmP 3 72) s m args below meth c s.heap [] 0 0 (MQ below (QcP (some (.int rx))) args s 0 0 (fun _ => False)) (F0 m 4 ls []) := by
  intro n
  induction n with
  | zero => intro i2 i3 hm; exact (lq2_0 hm).elim
  | succ n ih => intro i2 i3 hm; exact w_fX0_brokenBy_asked_4 C hW0 hG hZ hgb0 hZL ih i2 i3 (lq2_s hm)
set_option maxHeartbeats 4000000 in
theorem w_fX0_brokenBy_asked (C : Cx G p s m args meth c RX0 cX0_brokenBy 4 (some .int)) {b0 : Nat} {V0 : Mem} {rx : Int32} (hW0 : rg G b0 357 (shX0 G.2.1) V0 s.heap) (hG : GO G s.heap) (hZ : ZQ G) (hgb0 : gB G ≤ b0) (hZL : ZL G) : fX0_brokenBy_asked V0 = some rx → ∀ (ls : Array Slot), lv_has ls 4 [(0, .ref b0), (1, .ref (b0 + 163))] → W p l e (rmP 3 72) s m args below meth c s.heap [] 0 0 (MQ below (QcP (some (.int rx))) args s 0 0 (fun _ => False)) (F0 m 0 ls []) := by
  intro hm ls hl
  obtain ⟨hx, hb, hr, hlk, hml, hown, hts, hK⟩ := id C
  unfold fX0_brokenBy_asked at hm
  refine lv_iconst (pc := 0) (v := (0 : Int32)) hx hb dX0_brokenBy_0 (by decide) ?_
  refine lv_istore_n (pc := 1) (lv' := [(2, .int (0 : Int32)), (0, .ref b0), (1, .ref (b0 + 163))]) hx hb dX0_brokenBy_1 rfl hl (by decide) rfl (fun ls hl => ?_)
  refine lv_iconst (pc := 2) (v := (0 : Int32)) hx hb dX0_brokenBy_2 (by decide) ?_
  refine lv_istore_n (pc := 3) (lv' := [(3, .int (0 : Int32)), (2, .int (0 : Int32)), (0, .ref b0), (1, .ref (b0 + 163))]) hx hb dX0_brokenBy_3 rfl hl (by decide) rfl (fun ls hl => ?_)
  exact (w_fX0_brokenBy_asked_4_l C hW0 hG hZ hgb0 hZL FU) (0 : Int32) (0 : Int32) hm ls (lv_sub hl [2, 3, 1, 0] rfl)
set_option maxHeartbeats 4000000 in
theorem ct_X0_brokenBy_asked {G : Gv} {l : Launch} {b0 : Nat} {V0 : Mem} {rx : Int32} (hm : fX0_brokenBy_asked V0  = some rx) (hZ : ZQ G) (hgb0 : gB G ≤ b0) (hZL : ZL G) : CP G l yX0_brokenBy (ws_ yX0_brokenBy cX0_brokenBy 4 (some .int)) 3 72 [.ref b0, .ref (b0 + 163)] (fun H => rg G b0 357 (shX0 G.2.1) V0 H ∧ GO G H) (some (.int rx)) := by
  refine Met.ofW (cc := cX0_brokenBy) (maxL := 4) (ret := (some .int)) (by decide +kernel) rfl ?_
  intro p e s m args below meth c s₁ B hml hv
  obtain ⟨rfl, ⟨hW0, hG⟩, hK⟩ := hv
  have hts := atoms_spec (ws := ws_ yX0_brokenBy cX0_brokenBy 4 (some .int)) B.pre
  have hts : ∀ w ∈ lw_all, w.before _ s = true := fun w h => hts w (List.mem_cons_of_mem _ h)
  have C : Cx G p s m _ meth c RX0 cX0_brokenBy 4 (some .int) := ⟨B.exec, B.bytes, B.returns, B.notSynchronized, hml, findClass_of_methodNamed B.named, hts, hK⟩
  have hl := lv_entry ([.ref b0, .ref (b0 + 163)]) (n := 4) (Nat.le_of_ble_eq_true rfl)
  rw [lg_entry_eq]
  generalize (lg_sl ([.ref b0, .ref (b0 + 163)]) ++ List.replicate (4 - (lg_sl ([.ref b0, .ref (b0 + 163)])).length) Slot.unset).toArray = ls at hl ⊢
  have hl : lv_has ls 4 [(0, .ref b0), (1, .ref (b0 + 163))] := hl
  exact w_fX0_brokenBy_asked C hW0 hG hZ hgb0 hZL  hm ls hl
end
