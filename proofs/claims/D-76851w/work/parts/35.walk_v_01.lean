set_option maxRecDepth 100000
section
variable {p : Program} {l : Launch} {e : Env} {s : State} {m : MethodId} {args : Array Value} {below : List Frame} {meth : Method} {c : Code} {G : Gv}
noncomputable def fX0_costOf_mix_4 (V0 : Mem) (k4 : Int32 → Int32 → Option (Int32)) (i2 : Int32) (i3 : Int32) : Option (Int32) :=
  if (gI V0 1 0) ≤ i3 then (
  some i2)
  else (
  gb (inR i3 5) (
  gb (inR i3 5) (
  k4 (i2 + ((gI V0 2 i3.toNatClampNeg) * (gI V0 158 i3.toNatClampNeg))) (i3 + (1 : Int32)))))
noncomputable def fX0_costOf_mix (V0 : Mem) : Option (Int32) :=
  lq2 (fX0_costOf_mix_4 V0) FU (0 : Int32) (0 : Int32)
set_option maxHeartbeats 4000000 in
theorem w_fX0_costOf_mix_4 (C : Cx G p s m args meth c RX0 cX0_costOf 4 (some .int)) {b0 : Nat} {V0 : Mem} {rx : Int32} (hW0 : rg G b0 357 (shX0 G.2.1) V0 s.heap) {k4 : Int32 → Int32 → Option (Int32)} (hk4 : ∀ (i2 : Int32) (i3 : Int32), k4 i2 i3 = some rx → ∀ (ls : Array Slot), lv_has ls 4 [(0, .ref b0), (1, .ref (b0 + 158)), (2, .int i2), (3, .int i3)] → W p l e (rmP 0 0) s m args below meth c s.heap [] 0 0 (MQ below (QcP (some (.int rx))) args s 0 0 (fun _ => False)) (F0 m 4 ls [])) : ∀ (i2 : Int32) (i3 : Int32), fX0_costOf_mix_4 V0 k4 i2 i3 = some rx → ∀ (ls : Array Slot), lv_has ls 4 [(0, .ref b0), (1, .ref (b0 + 158)), (2, .int i2), (3, .int i3)] → W p l e (rmP 0 0) s m args below meth c s.heap [] 0 0 (MQ below (QcP (some (.int rx))) args s 0 0 (fun _ => False)) (F0 m 4 ls []) := by
  intro i2 i3 hm ls hl
  obtain ⟨hx, hb, hr, hlk, hml, hown, hts, hK⟩ := id C
  unfold fX0_costOf_mix_4 at hm
  refine lv_iload_n (pc := 4) hx hb dX0_costOf_4 rfl (lv_at hl 3 rfl) ?_
  refine lv_aload_n (pc := 5) hx hb dX0_costOf_5 rfl (lv_at hl 0 rfl) ?_
  refine rk_get (pc := 6) hx hb hts hown hK hW0 flX0_12 0 (by decide) rfl rfl (x := .ref (b0 + 1)) (by first | rfl | exact congrArg (fun z => some (Value.ref z)) (by omega)) dX0_costOf_6 ?_
  refine rk_getN (pc := 9) hx hb hts hown hK hW0 fnX0_131 1 (by decide) rfl rfl (x := .int (gI V0 1 0)) rfl dX0_costOf_9 ?_
  refine lv_icmp_ge (pc := 12) (tgt := 37) hx hb dX0_costOf_12 (by decide) (fun c1 => ?_) (fun c1 => ?_)
  · have hm := ite_t c1 hm
    refine lv_iload_n (pc := 37) hx hb dX0_costOf_37 rfl (lv_at hl 2 rfl) ?_
    have e9 := rs1 hm
    subst e9
    exact rk_iretP (pc := 38) hx hb hr hlk rfl dX0_costOf_38
  · have hm := ite_f c1 hm
    refine lv_iload_n (pc := 15) hx hb dX0_costOf_15 rfl (lv_at hl 2 rfl) ?_
    refine lv_aload_n (pc := 16) hx hb dX0_costOf_16 rfl (lv_at hl 0 rfl) ?_
    refine rk_get (pc := 17) hx hb hts hown hK hW0 flX0_12 0 (by decide) rfl rfl (x := .ref (b0 + 1)) (by first | rfl | exact congrArg (fun z => some (Value.ref z)) (by omega)) dX0_costOf_17 ?_
    refine rk_getN (pc := 20) hx hb hts hown hK hW0 fnX0_151 1 (by decide) rfl rfl (x := .ref (b0 + 2)) (by first | rfl | exact congrArg (fun z => some (Value.ref z)) (by omega)) dX0_costOf_20 ?_
    refine lv_iload_n (pc := 23) hx hb dX0_costOf_23 rfl (lv_at hl 3 rfl) ?_
    obtain ⟨hg2, hm⟩ := gb_some hm
    refine rk_iald (pc := 24) hx hb hK hW0 2 (by decide) rfl rfl hg2 (x := (gI V0 2 i3.toNatClampNeg)) rfl dX0_costOf_24 ?_
    refine lv_aload_n (pc := 25) hx hb dX0_costOf_25 rfl (lv_at hl 1 rfl) ?_
    refine lv_iload_n (pc := 26) hx hb dX0_costOf_26 rfl (lv_at hl 3 rfl) ?_
    obtain ⟨hg3, hm⟩ := gb_some hm
    refine rk_iald (pc := 27) hx hb hK hW0 158 (by decide) rfl rfl hg3 (x := (gI V0 158 i3.toNatClampNeg)) rfl dX0_costOf_27 ?_
    refine lv_imul (pc := 28) hx hb dX0_costOf_28 ?_
    refine lv_iadd (pc := 29) hx hb dX0_costOf_29 ?_
    refine lv_istore_n (pc := 30) (lv' := [(2, .int (i2 + ((gI V0 2 i3.toNatClampNeg) * (gI V0 158 i3.toNatClampNeg)))), (0, .ref b0), (1, .ref (b0 + 158)), (3, .int i3)]) hx hb dX0_costOf_30 rfl hl (by decide) rfl (fun ls hl => ?_)
    refine lv_iinc (pc := 31) (v := (i3 + (1 : Int32))) (lv' := [(3, .int (i3 + (1 : Int32))), (2, .int (i2 + ((gI V0 2 i3.toNatClampNeg) * (gI V0 158 i3.toNatClampNeg)))), (0, .ref b0), (1, .ref (b0 + 158))]) hx hb dX0_costOf_31 hl (k := 3) rfl rfl (by decide) rfl (fun ls hl => ?_)
    refine lv_goto (pc := 34) (tgt := 4) hx hb dX0_costOf_34 (by decide) ?_
    exact hk4 (i2 + ((gI V0 2 i3.toNatClampNeg) * (gI V0 158 i3.toNatClampNeg))) (i3 + (1 : Int32)) hm ls (lv_sub hl [2, 3, 1, 0] rfl)
theorem w_fX0_costOf_mix_4_l (C : Cx G p s m args meth c RX0 cX0_costOf 4 (some .int)) {b0 : Nat} {V0 : Mem} {rx : Int32} (hW0 : rg G b0 357 (shX0 G.2.1) V0 s.heap) : ∀ (n : Nat) (i2 : Int32) (i3 : Int32), lq2 (fX0_costOf_mix_4 V0) n i2 i3 = some rx → ∀ (ls : Array Slot), lv_has ls 4 [(0, .ref b0), (1, .ref (b0 + 158)), (2, .int i2), (3, .int i3)] → W p l e (rmP 0 0) s m args below meth c s.heap [] 0 0 (MQ below (QcP (some (.int rx))) args s 0 0 (fun _ => False)) (F0 m 4 ls []) := by
  intro n
  induction n with
  | zero => intro i2 i3 hm; exact (lq2_0 hm).elim
  | succ n ih => intro i2 i3 hm; exact w_fX0_costOf_mix_4 C hW0 ih i2 i3 (lq2_s hm)
set_option maxHeartbeats 4000000 in
theorem w_fX0_costOf_mix (C : Cx G p s m args meth c RX0 cX0_costOf 4 (some .int)) {b0 : Nat} {V0 : Mem} {rx : Int32} (hW0 : rg G b0 357 (shX0 G.2.1) V0 s.heap) : fX0_costOf_mix V0 = some rx → ∀ (ls : Array Slot), lv_has ls 4 [(0, .ref b0), (1, .ref (b0 + 158))] → W p l e (rmP 0 0) s m args below meth c s.heap [] 0 0 (MQ below (QcP (some (.int rx))) args s 0 0 (fun _ => False)) (F0 m 0 ls []) := by
  intro hm ls hl
  obtain ⟨hx, hb, hr, hlk, hml, hown, hts, hK⟩ := id C
  unfold fX0_costOf_mix at hm
  refine lv_iconst (pc := 0) (v := (0 : Int32)) hx hb dX0_costOf_0 (by decide) ?_
  refine lv_istore_n (pc := 1) (lv' := [(2, .int (0 : Int32)), (0, .ref b0), (1, .ref (b0 + 158))]) hx hb dX0_costOf_1 rfl hl (by decide) rfl (fun ls hl => ?_)
  refine lv_iconst (pc := 2) (v := (0 : Int32)) hx hb dX0_costOf_2 (by decide) ?_
  refine lv_istore_n (pc := 3) (lv' := [(3, .int (0 : Int32)), (2, .int (0 : Int32)), (0, .ref b0), (1, .ref (b0 + 158))]) hx hb dX0_costOf_3 rfl hl (by decide) rfl (fun ls hl => ?_)
  exact (w_fX0_costOf_mix_4_l C hW0 FU) (0 : Int32) (0 : Int32) hm ls (lv_sub hl [2, 3, 1, 0] rfl)
set_option maxHeartbeats 4000000 in
theorem ct_X0_costOf_mix {G : Gv} {l : Launch} {b0 : Nat} {V0 : Mem} {rx : Int32} (hm : fX0_costOf_mix V0  = some rx) : CP G l yX0_costOf (ws_ yX0_costOf cX0_costOf 4 (some .int)) 0 0 [.ref b0, .ref (b0 + 158)] (fun H => rg G b0 357 (shX0 G.2.1) V0 H) (some (.int rx)) := by
  refine Met.ofW (cc := cX0_costOf) (maxL := 4) (ret := (some .int)) (by decide +kernel) rfl ?_
  intro p e s m args below meth c s₁ B hml hv
  obtain ⟨rfl, hW0, hK⟩ := hv
  have hts := atoms_spec (ws := ws_ yX0_costOf cX0_costOf 4 (some .int)) B.pre
  have hts : ∀ w ∈ lw_all, w.before _ s = true := fun w h => hts w (List.mem_cons_of_mem _ h)
  have C : Cx G p s m _ meth c RX0 cX0_costOf 4 (some .int) := ⟨B.exec, B.bytes, B.returns, B.notSynchronized, hml, findClass_of_methodNamed B.named, hts, hK⟩
  have hl := lv_entry ([.ref b0, .ref (b0 + 158)]) (n := 4) (Nat.le_of_ble_eq_true rfl)
  rw [lg_entry_eq]
  generalize (lg_sl ([.ref b0, .ref (b0 + 158)]) ++ List.replicate (4 - (lg_sl ([.ref b0, .ref (b0 + 158)])).length) Slot.unset).toArray = ls at hl ⊢
  have hl : lv_has ls 4 [(0, .ref b0), (1, .ref (b0 + 158))] := hl
  exact w_fX0_costOf_mix C hW0  hm ls hl
noncomputable def fX0_costOf_asked_4 (V0 : Mem) (k4 : Int32 → Int32 → Option (Int32)) (i2 : Int32) (i3 : Int32) : Option (Int32) :=
  if (gI V0 1 0) ≤ i3 then (
  some i2)
  else (
  gb (inR i3 5) (
  gb (inR i3 5) (
  k4 (i2 + ((gI V0 2 i3.toNatClampNeg) * (gI V0 163 i3.toNatClampNeg))) (i3 + (1 : Int32)))))
noncomputable def fX0_costOf_asked (V0 : Mem) : Option (Int32) :=
  lq2 (fX0_costOf_asked_4 V0) FU (0 : Int32) (0 : Int32)
set_option maxHeartbeats 4000000 in
theorem w_fX0_costOf_asked_4 (C : Cx G p s m args meth c RX0 cX0_costOf 4 (some .int)) {b0 : Nat} {V0 : Mem} {rx : Int32} (hW0 : rg G b0 357 (shX0 G.2.1) V0 s.heap) {k4 : Int32 → Int32 → Option (Int32)} (hk4 : ∀ (i2 : Int32) (i3 : Int32), k4 i2 i3 = some rx → ∀ (ls : Array Slot), lv_has ls 4 [(0, .ref b0), (1, .ref (b0 + 163)), (2, .int i2), (3, .int i3)] → W p l e (rmP 0 0) s m args below meth c s.heap [] 0 0 (MQ below (QcP (some (.int rx))) args s 0 0 (fun _ => False)) (F0 m 4 ls [])) : ∀ (i2 : Int32) (i3 : Int32), fX0_costOf_asked_4 V0 k4 i2 i3 = some rx → ∀ (ls : Array Slot), lv_has ls 4 [(0, .ref b0), (1, .ref (b0 + 163)), (2, .int i2), (3, .int i3)] → W p l e (rmP 0 0) s m args below meth c s.heap [] 0 0 (MQ below (QcP (some (.int rx))) args s 0 0 (fun _ => False)) (F0 m 4 ls []) := by
  intro i2 i3 hm ls hl
  obtain ⟨hx, hb, hr, hlk, hml, hown, hts, hK⟩ := id C
  unfold fX0_costOf_asked_4 at hm
  refine lv_iload_n (pc := 4) hx hb dX0_costOf_4 rfl (lv_at hl 3 rfl) ?_
  refine lv_aload_n (pc := 5) hx hb dX0_costOf_5 rfl (lv_at hl 0 rfl) ?_
  refine rk_get (pc := 6) hx hb hts hown hK hW0 flX0_12 0 (by decide) rfl rfl (x := .ref (b0 + 1)) (by first | rfl | exact congrArg (fun z => some (Value.ref z)) (by omega)) dX0_costOf_6 ?_
  refine rk_getN (pc := 9) hx hb hts hown hK hW0 fnX0_131 1 (by decide) rfl rfl (x := .int (gI V0 1 0)) rfl dX0_costOf_9 ?_
  refine lv_icmp_ge (pc := 12) (tgt := 37) hx hb dX0_costOf_12 (by decide) (fun c1 => ?_) (fun c1 => ?_)
  · have hm := ite_t c1 hm
    refine lv_iload_n (pc := 37) hx hb dX0_costOf_37 rfl (lv_at hl 2 rfl) ?_
    have e9 := rs1 hm
    subst e9
    exact rk_iretP (pc := 38) hx hb hr hlk rfl dX0_costOf_38
  · have hm := ite_f c1 hm
    refine lv_iload_n (pc := 15) hx hb dX0_costOf_15 rfl (lv_at hl 2 rfl) ?_
    refine lv_aload_n (pc := 16) hx hb dX0_costOf_16 rfl (lv_at hl 0 rfl) ?_
    refine rk_get (pc := 17) hx hb hts hown hK hW0 flX0_12 0 (by decide) rfl rfl (x := .ref (b0 + 1)) (by first | rfl | exact congrArg (fun z => some (Value.ref z)) (by omega)) dX0_costOf_17 ?_
    refine rk_getN (pc := 20) hx hb hts hown hK hW0 fnX0_151 1 (by decide) rfl rfl (x := .ref (b0 + 2)) (by first | rfl | exact congrArg (fun z => some (Value.ref z)) (by omega)) dX0_costOf_20 ?_
    refine lv_iload_n (pc := 23) hx hb dX0_costOf_23 rfl (lv_at hl 3 rfl) ?_
    obtain ⟨hg2, hm⟩ := gb_some hm
    refine rk_iald (pc := 24) hx hb hK hW0 2 (by decide) rfl rfl hg2 (x := (gI V0 2 i3.toNatClampNeg)) rfl dX0_costOf_24 ?_
    refine lv_aload_n (pc := 25) hx hb dX0_costOf_25 rfl (lv_at hl 1 rfl) ?_
    refine lv_iload_n (pc := 26) hx hb dX0_costOf_26 rfl (lv_at hl 3 rfl) ?_
    obtain ⟨hg3, hm⟩ := gb_some hm
    refine rk_iald (pc := 27) hx hb hK hW0 163 (by decide) rfl rfl hg3 (x := (gI V0 163 i3.toNatClampNeg)) rfl dX0_costOf_27 ?_
    refine lv_imul (pc := 28) hx hb dX0_costOf_28 ?_
    refine lv_iadd (pc := 29) hx hb dX0_costOf_29 ?_
    refine lv_istore_n (pc := 30) (lv' := [(2, .int (i2 + ((gI V0 2 i3.toNatClampNeg) * (gI V0 163 i3.toNatClampNeg)))), (0, .ref b0), (1, .ref (b0 + 163)), (3, .int i3)]) hx hb dX0_costOf_30 rfl hl (by decide) rfl (fun ls hl => ?_)
    refine lv_iinc (pc := 31) (v := (i3 + (1 : Int32))) (lv' := [(3, .int (i3 + (1 : Int32))), (2, .int (i2 + ((gI V0 2 i3.toNatClampNeg) * (gI V0 163 i3.toNatClampNeg)))), (0, .ref b0), (1, .ref (b0 + 163))]) hx hb dX0_costOf_31 hl (k := 3) rfl rfl (by decide) rfl (fun ls hl => ?_)
    refine lv_goto (pc := 34) (tgt := 4) hx hb dX0_costOf_34 (by decide) ?_
    exact hk4 (i2 + ((gI V0 2 i3.toNatClampNeg) * (gI V0 163 i3.toNatClampNeg))) (i3 + (1 : Int32)) hm ls (lv_sub hl [2, 3, 1, 0] rfl)
theorem w_fX0_costOf_asked_4_l (C : Cx G p s m args meth c RX0 cX0_costOf 4 (some .int)) {b0 : Nat} {V0 : Mem} {rx : Int32} (hW0 : rg G b0 357 (shX0 G.2.1) V0 s.heap) : ∀ (n : Nat) (i2 : Int32) (i3 : Int32), lq2 (fX0_costOf_asked_4 V0) n i2 i3 = some rx → ∀ (ls : Array Slot), lv_has ls 4 [(0, .ref b0), (1, .ref (b0 + 163)), (2, .int i2), (3, .int i3)] → W p l e (rmP 0 0) s m args below meth c s.heap [] 0 0 (MQ below (QcP (some (.int rx))) args s 0 0 (fun _ => False)) (F0 m 4 ls []) := by
  intro n
  induction n with
  | zero => intro i2 i3 hm; exact (lq2_0 hm).elim
  | succ n ih => intro i2 i3 hm; exact w_fX0_costOf_asked_4 C hW0 ih i2 i3 (lq2_s hm)
set_option maxHeartbeats 4000000 in
theorem w_fX0_costOf_asked (C : Cx G p s m args meth c RX0 cX0_costOf 4 (some .int)) {b0 : Nat} {V0 : Mem} {rx : Int32} (hW0 : rg G b0 357 (shX0 G.2.1) V0 s.heap) : fX0_costOf_asked V0 = some rx → ∀ (ls : Array Slot), lv_has ls 4 [(0, .ref b0), (1, .ref (b0 + 163))] → W p l e (rmP 0 0) s m args below meth c s.heap [] 0 0 (MQ below (QcP (some (.int rx))) args s 0 0 (fun _ => False)) (F0 m 0 ls []) := by
  intro hm ls hl
  obtain ⟨hx, hb, hr, hlk, hml, hown, hts, hK⟩ := id C
  unfold fX0_costOf_asked at hm
  refine lv_iconst (pc := 0) (v := (0 : Int32)) hx hb dX0_costOf_0 (by decide) ?_
  refine lv_istore_n (pc := 1) (lv' := [(2, .int (0 : Int32)), (0, .ref b0), (1, .ref (b0 + 163))]) hx hb dX0_costOf_1 rfl hl (by decide) rfl (fun ls hl => ?_)
  refine lv_iconst (pc := 2) (v := (0 : Int32)) hx hb dX0_costOf_2 (by decide) ?_
  refine lv_istore_n (pc := 3) (lv' := [(3, .int (0 : Int32)), (2, .int (0 : Int32)), (0, .ref b0), (1, .ref (b0 + 163))]) hx hb dX0_costOf_3 rfl hl (by decide) rfl (fun ls hl => ?_)
  exact (w_fX0_costOf_asked_4_l C hW0 FU) (0 : Int32) (0 : Int32) hm ls (lv_sub hl [2, 3, 1, 0] rfl)
set_option maxHeartbeats 4000000 in
theorem ct_X0_costOf_asked {G : Gv} {l : Launch} {b0 : Nat} {V0 : Mem} {rx : Int32} (hm : fX0_costOf_asked V0  = some rx) : CP G l yX0_costOf (ws_ yX0_costOf cX0_costOf 4 (some .int)) 0 0 [.ref b0, .ref (b0 + 163)] (fun H => rg G b0 357 (shX0 G.2.1) V0 H) (some (.int rx)) := by
  refine Met.ofW (cc := cX0_costOf) (maxL := 4) (ret := (some .int)) (by decide +kernel) rfl ?_
  intro p e s m args below meth c s₁ B hml hv
  obtain ⟨rfl, hW0, hK⟩ := hv
  have hts := atoms_spec (ws := ws_ yX0_costOf cX0_costOf 4 (some .int)) B.pre
  have hts : ∀ w ∈ lw_all, w.before _ s = true := fun w h => hts w (List.mem_cons_of_mem _ h)
  have C : Cx G p s m _ meth c RX0 cX0_costOf 4 (some .int) := ⟨B.exec, B.bytes, B.returns, B.notSynchronized, hml, findClass_of_methodNamed B.named, hts, hK⟩
  have hl := lv_entry ([.ref b0, .ref (b0 + 163)]) (n := 4) (Nat.le_of_ble_eq_true rfl)
  rw [lg_entry_eq]
  generalize (lg_sl ([.ref b0, .ref (b0 + 163)]) ++ List.replicate (4 - (lg_sl ([.ref b0, .ref (b0 + 163)])).length) Slot.unset).toArray = ls at hl ⊢
  have hl : lv_has ls 4 [(0, .ref b0), (1, .ref (b0 + 163))] := hl
  exact w_fX0_costOf_asked C hW0  hm ls hl
noncomputable def fX0_codeOf_mix_4 (V0 : Mem) (k4 : Int32 → Int32 → Option (Int32)) (i2 : Int32) (i3 : Int32) : Option (Int32) :=
  if (gI V0 1 0) ≤ i3 then (
  some i2)
  else (
  gb (inR i3 5) (
  k4 (((10 : Int32) * i2) + (gI V0 158 i3.toNatClampNeg)) (i3 + (1 : Int32))))
noncomputable def fX0_codeOf_mix (V0 : Mem) : Option (Int32) :=
  lq2 (fX0_codeOf_mix_4 V0) FU (0 : Int32) (0 : Int32)
set_option maxHeartbeats 4000000 in
theorem w_fX0_codeOf_mix_4 (C : Cx G p s m args meth c RX0 cX0_codeOf 4 (some .int)) {b0 : Nat} {V0 : Mem} {rx : Int32} (hW0 : rg G b0 357 (shX0 G.2.1) V0 s.heap) {k4 : Int32 → Int32 → Option (Int32)} (hk4 : ∀ (i2 : Int32) (i3 : Int32), k4 i2 i3 = some rx → ∀ (ls : Array Slot), lv_has ls 4 [(0, .ref b0), (1, .ref (b0 + 158)), (2, .int i2), (3, .int i3)] → W p l e (rmP 0 0) s m args below meth c s.heap [] 0 0 (MQ below (QcP (some (.int rx))) args s 0 0 (fun _ => False)) (F0 m 4 ls [])) : ∀ (i2 : Int32) (i3 : Int32), fX0_codeOf_mix_4 V0 k4 i2 i3 = some rx → ∀ (ls : Array Slot), lv_has ls 4 [(0, .ref b0), (1, .ref (b0 + 158)), (2, .int i2), (3, .int i3)] → W p l e (rmP 0 0) s m args below meth c s.heap [] 0 0 (MQ below (QcP (some (.int rx))) args s 0 0 (fun _ => False)) (F0 m 4 ls []) := by
  intro i2 i3 hm ls hl
  obtain ⟨hx, hb, hr, hlk, hml, hown, hts, hK⟩ := id C
  unfold fX0_codeOf_mix_4 at hm
  refine lv_iload_n (pc := 4) hx hb dX0_codeOf_4 rfl (lv_at hl 3 rfl) ?_
  refine lv_aload_n (pc := 5) hx hb dX0_codeOf_5 rfl (lv_at hl 0 rfl) ?_
  refine rk_get (pc := 6) hx hb hts hown hK hW0 flX0_12 0 (by decide) rfl rfl (x := .ref (b0 + 1)) (by first | rfl | exact congrArg (fun z => some (Value.ref z)) (by omega)) dX0_codeOf_6 ?_
  refine rk_getN (pc := 9) hx hb hts hown hK hW0 fnX0_131 1 (by decide) rfl rfl (x := .int (gI V0 1 0)) rfl dX0_codeOf_9 ?_
  refine lv_icmp_ge (pc := 12) (tgt := 30) hx hb dX0_codeOf_12 (by decide) (fun c1 => ?_) (fun c1 => ?_)
  · have hm := ite_t c1 hm
    refine lv_iload_n (pc := 30) hx hb dX0_codeOf_30 rfl (lv_at hl 2 rfl) ?_
    have e9 := rs1 hm
    subst e9
    exact rk_iretP (pc := 31) hx hb hr hlk rfl dX0_codeOf_31
  · have hm := ite_f c1 hm
    refine lv_bipush (pc := 15) (v := (10 : Int32)) hx hb dX0_codeOf_15 (by decide) ?_
    refine lv_iload_n (pc := 17) hx hb dX0_codeOf_17 rfl (lv_at hl 2 rfl) ?_
    refine lv_imul (pc := 18) hx hb dX0_codeOf_18 ?_
    refine lv_aload_n (pc := 19) hx hb dX0_codeOf_19 rfl (lv_at hl 1 rfl) ?_
    refine lv_iload_n (pc := 20) hx hb dX0_codeOf_20 rfl (lv_at hl 3 rfl) ?_
    obtain ⟨hg2, hm⟩ := gb_some hm
    refine rk_iald (pc := 21) hx hb hK hW0 158 (by decide) rfl rfl hg2 (x := (gI V0 158 i3.toNatClampNeg)) rfl dX0_codeOf_21 ?_
    refine lv_iadd (pc := 22) hx hb dX0_codeOf_22 ?_
    refine lv_istore_n (pc := 23) (lv' := [(2, .int (((10 : Int32) * i2) + (gI V0 158 i3.toNatClampNeg))), (0, .ref b0), (1, .ref (b0 + 158)), (3, .int i3)]) hx hb dX0_codeOf_23 rfl hl (by decide) rfl (fun ls hl => ?_)
    refine lv_iinc (pc := 24) (v := (i3 + (1 : Int32))) (lv' := [(3, .int (i3 + (1 : Int32))), (2, .int (((10 : Int32) * i2) + (gI V0 158 i3.toNatClampNeg))), (0, .ref b0), (1, .ref (b0 + 158))]) hx hb dX0_codeOf_24 hl (k := 3) rfl rfl (by decide) rfl (fun ls hl => ?_)
    refine lv_goto (pc := 27) (tgt := 4) hx hb dX0_codeOf_27 (by decide) ?_
    exact hk4 (((10 : Int32) * i2) + (gI V0 158 i3.toNatClampNeg)) (i3 + (1 : Int32)) hm ls (lv_sub hl [2, 3, 1, 0] rfl)
theorem w_fX0_codeOf_mix_4_l (C : Cx G p s m args meth c RX0 cX0_codeOf 4 (some .int)) {b0 : Nat} {V0 : Mem} {rx : Int32} (hW0 : rg G b0 357 (shX0 G.2.1) V0 s.heap) : ∀ (n : Nat) (i2 : Int32) (i3 : Int32), lq2 (fX0_codeOf_mix_4 V0) n i2 i3 = some rx → ∀ (ls : Array Slot), lv_has ls 4 [(0, .ref b0), (1, .ref (b0 + 158)), (2, .int i2), (3, .int i3)] → W p l e (rmP 0 0) s m args below meth c s.heap [] 0 0 (MQ below (QcP (some (.int rx))) args s 0 0 (fun _ => False)) (F0 m 4 ls []) := by
  intro n
  induction n with
  | zero => intro i2 i3 hm; exact (lq2_0 hm).elim
  | succ n ih => intro i2 i3 hm; exact w_fX0_codeOf_mix_4 C hW0 ih i2 i3 (lq2_s hm)
set_option maxHeartbeats 4000000 in
theorem w_fX0_codeOf_mix (C : Cx G p s m args meth c RX0 cX0_codeOf 4 (some .int)) {b0 : Nat} {V0 : Mem} {rx : Int32} (hW0 : rg G b0 357 (shX0 G.2.1) V0 s.heap) : fX0_codeOf_mix V0 = some rx → ∀ (ls : Array Slot), lv_has ls 4 [(0, .ref b0), (1, .ref (b0 + 158))] → W p l e (rmP 0 0) s m args below meth c s.heap [] 0 0 (MQ below (QcP (some (.int rx))) args s 0 0 (fun _ => False)) (F0 m 0 ls []) := by
  intro hm ls hl
  obtain ⟨hx, hb, hr, hlk, hml, hown, hts, hK⟩ := id C
  unfold fX0_codeOf_mix at hm
  refine lv_iconst (pc := 0) (v := (0 : Int32)) hx hb dX0_codeOf_0 (by decide) ?_
  refine lv_istore_n (pc := 1) (lv' := [(2, .int (0 : Int32)), (0, .ref b0), (1, .ref (b0 + 158))]) hx hb dX0_codeOf_1 rfl hl (by decide) rfl (fun ls hl => ?_)
  refine lv_iconst (pc := 2) (v := (0 : Int32)) hx hb dX0_codeOf_2 (by decide) ?_
  refine lv_istore_n (pc := 3) (lv' := [(3, .int (0 : Int32)), (2, .int (0 : Int32)), (0, .ref b0), (1, .ref (b0 + 158))]) hx hb dX0_codeOf_3 rfl hl (by decide) rfl (fun ls hl => ?_)
  exact (w_fX0_codeOf_mix_4_l C hW0 FU) (0 : Int32) (0 : Int32) hm ls (lv_sub hl [2, 3, 1, 0] rfl)
set_option maxHeartbeats 4000000 in
theorem ct_X0_codeOf_mix {G : Gv} {l : Launch} {b0 : Nat} {V0 : Mem} {rx : Int32} (hm : fX0_codeOf_mix V0  = some rx) : CP G l yX0_codeOf (ws_ yX0_codeOf cX0_codeOf 4 (some .int)) 0 0 [.ref b0, .ref (b0 + 158)] (fun H => rg G b0 357 (shX0 G.2.1) V0 H) (some (.int rx)) := by
  refine Met.ofW (cc := cX0_codeOf) (maxL := 4) (ret := (some .int)) (by decide +kernel) rfl ?_
  intro p e s m args below meth c s₁ B hml hv
  obtain ⟨rfl, hW0, hK⟩ := hv
  have hts := atoms_spec (ws := ws_ yX0_codeOf cX0_codeOf 4 (some .int)) B.pre
  have hts : ∀ w ∈ lw_all, w.before _ s = true := fun w h => hts w (List.mem_cons_of_mem _ h)
  have C : Cx G p s m _ meth c RX0 cX0_codeOf 4 (some .int) := ⟨B.exec, B.bytes, B.returns, B.notSynchronized, hml, findClass_of_methodNamed B.named, hts, hK⟩
  have hl := lv_entry ([.ref b0, .ref (b0 + 158)]) (n := 4) (Nat.le_of_ble_eq_true rfl)
  rw [lg_entry_eq]
  generalize (lg_sl ([.ref b0, .ref (b0 + 158)]) ++ List.replicate (4 - (lg_sl ([.ref b0, .ref (b0 + 158)])).length) Slot.unset).toArray = ls at hl ⊢
  have hl : lv_has ls 4 [(0, .ref b0), (1, .ref (b0 + 158))] := hl
  exact w_fX0_codeOf_mix C hW0  hm ls hl
noncomputable def fX0_codeOf_asked_4 (V0 : Mem) (k4 : Int32 → Int32 → Option (Int32)) (i2 : Int32) (i3 : Int32) : Option (Int32) :=
  if (gI V0 1 0) ≤ i3 then (
  some i2)
  else (
  gb (inR i3 5) (
  k4 (((10 : Int32) * i2) + (gI V0 163 i3.toNatClampNeg)) (i3 + (1 : Int32))))
noncomputable def fX0_codeOf_asked (V0 : Mem) : Option (Int32) :=
  lq2 (fX0_codeOf_asked_4 V0) FU (0 : Int32) (0 : Int32)
set_option maxHeartbeats 4000000 in
theorem w_fX0_codeOf_asked_4 (C : Cx G p s m args meth c RX0 cX0_codeOf 4 (some .int)) {b0 : Nat} {V0 : Mem} {rx : Int32} (hW0 : rg G b0 357 (shX0 G.2.1) V0 s.heap) {k4 : Int32 → Int32 → Option (Int32)} (hk4 : ∀ (i2 : Int32) (i3 : Int32), k4 i2 i3 = some rx → ∀ (ls : Array Slot), lv_has ls 4 [(0, .ref b0), (1, .ref (b0 + 163)), (2, .int i2), (3, .int i3)] → W p l e (rmP 0 0) s m args below meth c s.heap [] 0 0 (MQ below (QcP (some (.int rx))) args s 0 0 (fun _ => False)) (F0 m 4 ls [])) : ∀ (i2 : Int32) (i3 : Int32), fX0_codeOf_asked_4 V0 k4 i2 i3 = some rx → ∀ (ls : Array Slot), lv_has ls 4 [(0, .ref b0), (1, .ref (b0 + 163)), (2, .int i2), (3, .int i3)] → W p l e (rmP 0 0) s m args below meth c s.heap [] 0 0 (MQ below (QcP (some (.int rx))) args s 0 0 (fun _ => False)) (F0 m 4 ls []) := by
  intro i2 i3 hm ls hl
  obtain ⟨hx, hb, hr, hlk, hml, hown, hts, hK⟩ := id C
  unfold fX0_codeOf_asked_4 at hm
  refine lv_iload_n (pc := 4) hx hb dX0_codeOf_4 rfl (lv_at hl 3 rfl) ?_
  refine lv_aload_n (pc := 5) hx hb dX0_codeOf_5 rfl (lv_at hl 0 rfl) ?_
  refine rk_get (pc := 6) hx hb hts hown hK hW0 flX0_12 0 (by decide) rfl rfl (x := .ref (b0 + 1)) (by first | rfl | exact congrArg (fun z => some (Value.ref z)) (by omega)) dX0_codeOf_6 ?_
  refine rk_getN (pc := 9) hx hb hts hown hK hW0 fnX0_131 1 (by decide) rfl rfl (x := .int (gI V0 1 0)) rfl dX0_codeOf_9 ?_
  refine lv_icmp_ge (pc := 12) (tgt := 30) hx hb dX0_codeOf_12 (by decide) (fun c1 => ?_) (fun c1 => ?_)
  · have hm := ite_t c1 hm
    refine lv_iload_n (pc := 30) hx hb dX0_codeOf_30 rfl (lv_at hl 2 rfl) ?_
    have e9 := rs1 hm
    subst e9
    exact rk_iretP (pc := 31) hx hb hr hlk rfl dX0_codeOf_31
  · have hm := ite_f c1 hm
    refine lv_bipush (pc := 15) (v := (10 : Int32)) hx hb dX0_codeOf_15 (by decide) ?_
    refine lv_iload_n (pc := 17) hx hb dX0_codeOf_17 rfl (lv_at hl 2 rfl) ?_
    refine lv_imul (pc := 18) hx hb dX0_codeOf_18 ?_
    refine lv_aload_n (pc := 19) hx hb dX0_codeOf_19 rfl (lv_at hl 1 rfl) ?_
    refine lv_iload_n (pc := 20) hx hb dX0_codeOf_20 rfl (lv_at hl 3 rfl) ?_
    obtain ⟨hg2, hm⟩ := gb_some hm
    refine rk_iald (pc := 21) hx hb hK hW0 163 (by decide) rfl rfl hg2 (x := (gI V0 163 i3.toNatClampNeg)) rfl dX0_codeOf_21 ?_
    refine lv_iadd (pc := 22) hx hb dX0_codeOf_22 ?_
    refine lv_istore_n (pc := 23) (lv' := [(2, .int (((10 : Int32) * i2) + (gI V0 163 i3.toNatClampNeg))), (0, .ref b0), (1, .ref (b0 + 163)), (3, .int i3)]) hx hb dX0_codeOf_23 rfl hl (by decide) rfl (fun ls hl => ?_)
    refine lv_iinc (pc := 24) (v := (i3 + (1 : Int32))) (lv' := [(3, .int (i3 + (1 : Int32))), (2, .int (((10 : Int32) * i2) + (gI V0 163 i3.toNatClampNeg))), (0, .ref b0), (1, .ref (b0 + 163))]) hx hb dX0_codeOf_24 hl (k := 3) rfl rfl (by decide) rfl (fun ls hl => ?_)
    refine lv_goto (pc := 27) (tgt := 4) hx hb dX0_codeOf_27 (by decide) ?_
    exact hk4 (((10 : Int32) * i2) + (gI V0 163 i3.toNatClampNeg)) (i3 + (1 : Int32)) hm ls (lv_sub hl [2, 3, 1, 0] rfl)
theorem w_fX0_codeOf_asked_4_l (C : Cx G p s m args meth c RX0 cX0_codeOf 4 (some .int)) {b0 : Nat} {V0 : Mem} {rx : Int32} (hW0 : rg G b0 357 (shX0 G.2.1) V0 s.heap) : ∀ (n : Nat) (i2 : Int32) (i3 : Int32), lq2 (fX0_codeOf_asked_4 V0) n i2 i3 = some rx → ∀ (ls : Array Slot), lv_has ls 4 [(0, .ref b0), (1, .ref (b0 + 163)), (2, .int i2), (3, .int i3)] → W p l e (rmP 0 0) s m args below meth c s.heap [] 0 0 (MQ below (QcP (some (.int rx))) args s 0 0 (fun _ => False)) (F0 m 4 ls []) := by
  intro n
  induction n with
  | zero => intro i2 i3 hm; exact (lq2_0 hm).elim
  | succ n ih => intro i2 i3 hm; exact w_fX0_codeOf_asked_4 C hW0 ih i2 i3 (lq2_s hm)
set_option maxHeartbeats 4000000 in
theorem w_fX0_codeOf_asked (C : Cx G p s m args meth c RX0 cX0_codeOf 4 (some .int)) {b0 : Nat} {V0 : Mem} {rx : Int32} (hW0 : rg G b0 357 (shX0 G.2.1) V0 s.heap) : fX0_codeOf_asked V0 = some rx → ∀ (ls : Array Slot), lv_has ls 4 [(0, .ref b0), (1, .ref (b0 + 163))] → W p l e (rmP 0 0) s m args below meth c s.heap [] 0 0 (MQ below (QcP (some (.int rx))) args s 0 0 (fun _ => False)) (F0 m 0 ls []) := by
  intro hm ls hl
  obtain ⟨hx, hb, hr, hlk, hml, hown, hts, hK⟩ := id C
  unfold fX0_codeOf_asked at hm
  refine lv_iconst (pc := 0) (v := (0 : Int32)) hx hb dX0_codeOf_0 (by decide) ?_
  refine lv_istore_n (pc := 1) (lv' := [(2, .int (0 : Int32)), (0, .ref b0), (1, .ref (b0 + 163))]) hx hb dX0_codeOf_1 rfl hl (by decide) rfl (fun ls hl => ?_)
  refine lv_iconst (pc := 2) (v := (0 : Int32)) hx hb dX0_codeOf_2 (by decide) ?_
  refine lv_istore_n (pc := 3) (lv' := [(3, .int (0 : Int32)), (2, .int (0 : Int32)), (0, .ref b0), (1, .ref (b0 + 163))]) hx hb dX0_codeOf_3 rfl hl (by decide) rfl (fun ls hl => ?_)
  exact (w_fX0_codeOf_asked_4_l C hW0 FU) (0 : Int32) (0 : Int32) hm ls (lv_sub hl [2, 3, 1, 0] rfl)
set_option maxHeartbeats 4000000 in
theorem ct_X0_codeOf_asked {G : Gv} {l : Launch} {b0 : Nat} {V0 : Mem} {rx : Int32} (hm : fX0_codeOf_asked V0  = some rx) : CP G l yX0_codeOf (ws_ yX0_codeOf cX0_codeOf 4 (some .int)) 0 0 [.ref b0, .ref (b0 + 163)] (fun H => rg G b0 357 (shX0 G.2.1) V0 H) (some (.int rx)) := by
  refine Met.ofW (cc := cX0_codeOf) (maxL := 4) (ret := (some .int)) (by decide +kernel) rfl ?_
  intro p e s m args below meth c s₁ B hml hv
  obtain ⟨rfl, hW0, hK⟩ := hv
  have hts := atoms_spec (ws := ws_ yX0_codeOf cX0_codeOf 4 (some .int)) B.pre
  have hts : ∀ w ∈ lw_all, w.before _ s = true := fun w h => hts w (List.mem_cons_of_mem _ h)
  have C : Cx G p s m _ meth c RX0 cX0_codeOf 4 (some .int) := ⟨B.exec, B.bytes, B.returns, B.notSynchronized, hml, findClass_of_methodNamed B.named, hts, hK⟩
  have hl := lv_entry ([.ref b0, .ref (b0 + 163)]) (n := 4) (Nat.le_of_ble_eq_true rfl)
  rw [lg_entry_eq]
  generalize (lg_sl ([.ref b0, .ref (b0 + 163)]) ++ List.replicate (4 - (lg_sl ([.ref b0, .ref (b0 + 163)])).length) Slot.unset).toArray = ls at hl ⊢
  have hl : lv_has ls 4 [(0, .ref b0), (1, .ref (b0 + 163))] := hl
  exact w_fX0_codeOf_asked C hW0  hm ls hl
noncomputable def fX0_isBroken_mix_5 (V0 : Mem) (n1 : Nat) (k5 : Int64 → Int32 → Option (Int32)) (j3 : Int64) (i5 : Int32) : Option (Int32) :=
  if (gI V0 1 0) ≤ i5 then (
  gb (inR (gI V0 (7 + 2 * n1 + 0) 0) 2) (
  if (gI V0 (7 + 2 * n1 + 0) 0) = (0 : Int32) then (
  ob (fX0_lambda_new_0 j3 (gI V0 (7 + 2 * n1 + 0) 1).toInt64) fun r4 =>
  if (0 : Int64) ≤ r4 then (
  some (0 : Int32))
  else (
  some (1 : Int32)))
  else if (gI V0 (7 + 2 * n1 + 0) 0) = (1 : Int32) then (
  ob (fX0_lambda_new_1 j3 (gI V0 (7 + 2 * n1 + 0) 1).toInt64) fun r8 =>
  if (0 : Int64) ≤ r8 then (
  some (0 : Int32))
  else (
  some (1 : Int32)))
  else none))
  else (
  gb (inR i5 5) (
  gb (inR i5 5) (
  k5 (j3 + ((gI V0 (7 + 2 * n1 + 1) i5.toNatClampNeg) * (gI V0 158 i5.toNatClampNeg)).toInt64) (i5 + (1 : Int32)))))
noncomputable def fX0_isBroken_mix (V0 : Mem) (n1 : Nat) : Option (Int32) :=
  lq2 (fX0_isBroken_mix_5 V0 n1) FU (0 : Int64) (0 : Int32)
set_option maxHeartbeats 4000000 in
theorem w_fX0_isBroken_mix_5 (C : Cx G p s m args meth c RX0 cX0_isBroken 6 (some .boolean)) {b0 : Nat} {V0 : Mem} {n1 : Nat} {rx : Int32} (hW0 : rg G b0 357 (shX0 G.2.1) V0 s.heap) (hG : GO G s.heap) (hn1 : n1 < 8) (hZ : ZQ G) (hgb0 : gB G ≤ b0) (hZL : ZL G) {k5 : Int64 → Int32 → Option (Int32)} (hk5 : ∀ (j3 : Int64) (i5 : Int32), k5 j3 i5 = some rx → ∀ (ls : Array Slot), lv_has ls 6 [(0, .ref b0), (1, .ref (b0 + (7 + 2 * n1 + 0))), (2, .ref (b0 + 158)), (3, .long j3), (5, .int i5)] → W p l e (rmP 2 47) s m args below meth c s.heap [] 0 0 (MQ below (QcP (some (.int rx))) args s 0 0 (fun _ => False)) (F0 m 5 ls [])) : ∀ (j3 : Int64) (i5 : Int32), fX0_isBroken_mix_5 V0 n1 k5 j3 i5 = some rx → ∀ (ls : Array Slot), lv_has ls 6 [(0, .ref b0), (1, .ref (b0 + (7 + 2 * n1 + 0))), (2, .ref (b0 + 158)), (3, .long j3), (5, .int i5)] → W p l e (rmP 2 47) s m args below meth c s.heap [] 0 0 (MQ below (QcP (some (.int rx))) args s 0 0 (fun _ => False)) (F0 m 5 ls []) := by
  intro j3 i5 hm ls hl
  obtain ⟨hx, hb, hr, hlk, hml, hown, hts, hK⟩ := id C
  unfold fX0_isBroken_mix_5 at hm
  refine lv_iload (pc := 5) hx hb dX0_isBroken_5 (lv_at hl 4 rfl) ?_
  refine lv_aload_n (pc := 7) hx hb dX0_isBroken_7 rfl (lv_at hl 0 rfl) ?_
  refine rk_get (pc := 8) hx hb hts hown hK hW0 flX0_12 0 (by decide) rfl rfl (x := .ref (b0 + 1)) (by first | rfl | exact congrArg (fun z => some (Value.ref z)) (by omega)) dX0_isBroken_8 ?_
  refine rk_getN (pc := 11) hx hb hts hown hK hW0 fnX0_131 1 (by decide) rfl rfl (x := .int (gI V0 1 0)) rfl dX0_isBroken_11 ?_
  refine lv_icmp_ge (pc := 14) (tgt := 39) hx hb dX0_isBroken_14 (by decide) (fun c1 => ?_) (fun c1 => ?_)
  · have hm := ite_t c1 hm
    refine lv_aload_n (pc := 39) hx hb dX0_isBroken_39 rfl (lv_at hl 0 rfl) ?_
    refine rk_get (pc := 40) hx hb hts hown hK hW0 flX0_46 0 (by decide) rfl rfl (x := .ref (b0 + 155)) (by first | rfl | exact congrArg (fun z => some (Value.ref z)) (by omega)) dX0_isBroken_40 ?_
    refine lv_aload_n (pc := 43) hx hb dX0_isBroken_43 rfl (lv_at hl 1 rfl) ?_
    refine rk_getN (pc := 44) hx hb hts hown hK hW0 fnX0_215 (7 + 2 * n1 + 0) (by omega) rfl ((shX0_f7 G.2.1 hn1 _ rfl 0 (by decide) _ _ _).trans rfl) (x := .int (gI V0 (7 + 2 * n1 + 0) 0)) rfl dX0_isBroken_44 ?_
    obtain ⟨hg2, hm⟩ := gb_some hm
    by_cases c3 : (gI V0 (7 + 2 * n1 + 0) 0) = (0 : Int32)
    · have hm := ite_t c3 hm
      refine rk_aald (pc := 47) hx hb hK hW0 155 7 (by decide) rfl rfl rfl hg2 (x := (G.2.1 28)) (by rw [c3]; rfl) dX0_isBroken_47 ?_
      refine lv_lload_n (pc := 48) hx hb dX0_isBroken_48 rfl (lv_at hl 3 rfl) ?_
      refine lv_aload_n (pc := 49) hx hb dX0_isBroken_49 rfl (lv_at hl 1 rfl) ?_
      refine rk_getN (pc := 50) hx hb hts hown hK hW0 fnX0_181 (7 + 2 * n1 + 0) (by omega) rfl ((shX0_f7 G.2.1 hn1 _ rfl 0 (by decide) _ _ _).trans rfl) (x := .int (gI V0 (7 + 2 * n1 + 0) 1)) rfl dX0_isBroken_50 ?_
      refine lv_i2l (pc := 53) hx hb dX0_isBroken_53 rfl ?_
      obtain ⟨r4, hq5, hm⟩ := ob_some hm
      refine rk_lamL (pc := 54) (y := yX0_lambda_new_0) (a1 := j3) (a2 := (gI V0 (7 + 2 * n1 + 0) 1).toInt64) (r := r4) (rest := []) hx hb hml hown hts hK lfL0 (hZL.1 s hK).1.1 (hZL.1 s hK).2.1.1 q1154 q1156 (GO.lc hG hZL.2.1) rfl rfl rfl yn_X0_lambda_new_0 ⟨q419, q114, q420⟩ (ct_X0_lambda_new_0 (G := G) (l := l) hq5) ⟨Nat.le_of_ble_eq_true rfl, Nat.le_of_ble_eq_true rfl⟩ trivial hl.1 (Nat.le_of_ble_eq_true rfl) dX0_isBroken_54 ⟨Nat.zero_le _, Nat.zero_le _⟩ ?_
      refine lv_lconst (pc := 59) (v := (0 : Int64)) hx hb dX0_isBroken_59 (by decide) ?_
      refine rk_lcmp_ge (pc := 60) (tgt := 68) hx hb dX0_isBroken_60 rfl dX0_isBroken_61 (by decide) (fun c6 => ?_) (fun c6 => ?_)
      · have hm := ite_t c6 hm
        refine lv_iconst (pc := 68) (v := (0 : Int32)) hx hb dX0_isBroken_68 (by decide) ?_
        have e9 := rs1 hm
        subst e9
        exact rk_zretP (pc := 69) hx hb hr hlk rfl rfl dX0_isBroken_69
      · have hm := ite_f c6 hm
        refine lv_iconst (pc := 64) (v := (1 : Int32)) hx hb dX0_isBroken_64 (by decide) ?_
        refine lv_goto (pc := 65) (tgt := 69) hx hb dX0_isBroken_65 (by decide) ?_
        have e9 := rs1 hm
        subst e9
        exact rk_zretP (pc := 69) hx hb hr hlk rfl rfl dX0_isBroken_69
    have hm := ite_f c3 hm
    by_cases c7 : (gI V0 (7 + 2 * n1 + 0) 0) = (1 : Int32)
    · have hm := ite_t c7 hm
      refine rk_aald (pc := 47) hx hb hK hW0 155 7 (by decide) rfl rfl rfl hg2 (x := (G.2.1 29)) (by rw [c7]; rfl) dX0_isBroken_47 ?_
      refine lv_lload_n (pc := 48) hx hb dX0_isBroken_48 rfl (lv_at hl 3 rfl) ?_
      refine lv_aload_n (pc := 49) hx hb dX0_isBroken_49 rfl (lv_at hl 1 rfl) ?_
      refine rk_getN (pc := 50) hx hb hts hown hK hW0 fnX0_181 (7 + 2 * n1 + 0) (by omega) rfl ((shX0_f7 G.2.1 hn1 _ rfl 0 (by decide) _ _ _).trans rfl) (x := .int (gI V0 (7 + 2 * n1 + 0) 1)) rfl dX0_isBroken_50 ?_
      refine lv_i2l (pc := 53) hx hb dX0_isBroken_53 rfl ?_
      obtain ⟨r8, hq9, hm⟩ := ob_some hm
      refine rk_lamL (pc := 54) (y := yX0_lambda_new_1) (a1 := j3) (a2 := (gI V0 (7 + 2 * n1 + 0) 1).toInt64) (r := r8) (rest := []) hx hb hml hown hts hK lfL1 (hZL.1 s hK).1.2.1 (hZL.1 s hK).2.1.1 q1154 q1156 (GO.lc hG hZL.2.2) rfl rfl rfl yn_X0_lambda_new_1 ⟨q421, q114, q422⟩ (ct_X0_lambda_new_1 (G := G) (l := l) hq9) ⟨Nat.le_of_ble_eq_true rfl, Nat.le_of_ble_eq_true rfl⟩ trivial hl.1 (Nat.le_of_ble_eq_true rfl) dX0_isBroken_54 ⟨Nat.zero_le _, Nat.zero_le _⟩ ?_
      refine lv_lconst (pc := 59) (v := (0 : Int64)) hx hb dX0_isBroken_59 (by decide) ?_
      refine rk_lcmp_ge (pc := 60) (tgt := 68) hx hb dX0_isBroken_60 rfl dX0_isBroken_61 (by decide) (fun c10 => ?_) (fun c10 => ?_)
      · have hm := ite_t c10 hm
        refine lv_iconst (pc := 68) (v := (0 : Int32)) hx hb dX0_isBroken_68 (by decide) ?_
        have e9 := rs1 hm
        subst e9
        exact rk_zretP (pc := 69) hx hb hr hlk rfl rfl dX0_isBroken_69
      · have hm := ite_f c10 hm
        refine lv_iconst (pc := 64) (v := (1 : Int32)) hx hb dX0_isBroken_64 (by decide) ?_
        refine lv_goto (pc := 65) (tgt := 69) hx hb dX0_isBroken_65 (by decide) ?_
        have e9 := rs1 hm
        subst e9
        exact rk_zretP (pc := 69) hx hb hr hlk rfl rfl dX0_isBroken_69
    have hm := ite_f c7 hm
    exact nomatch hm
  · have hm := ite_f c1 hm
    refine lv_lload_n (pc := 17) hx hb dX0_isBroken_17 rfl (lv_at hl 3 rfl) ?_
    refine lv_aload_n (pc := 18) hx hb dX0_isBroken_18 rfl (lv_at hl 1 rfl) ?_
    refine rk_getN (pc := 19) hx hb hts hown hK hW0 fnX0_176 (7 + 2 * n1 + 0) (by omega) rfl ((shX0_f7 G.2.1 hn1 _ rfl 0 (by decide) _ _ _).trans rfl) (x := .ref (b0 + (7 + 2 * n1 + 1))) (by first | rfl | exact congrArg (fun z => some (Value.ref z)) (by omega)) dX0_isBroken_19 ?_
    refine lv_iload (pc := 22) hx hb dX0_isBroken_22 (lv_at hl 4 rfl) ?_
    obtain ⟨hg11, hm⟩ := gb_some hm
    refine rk_iald (pc := 24) hx hb hK hW0 (7 + 2 * n1 + 1) (by omega) rfl ((shX0_f7 G.2.1 hn1 _ rfl 1 (by decide) _ _ _).trans rfl) hg11 (x := (gI V0 (7 + 2 * n1 + 1) i5.toNatClampNeg)) rfl dX0_isBroken_24 ?_
    refine lv_aload_n (pc := 25) hx hb dX0_isBroken_25 rfl (lv_at hl 2 rfl) ?_
    refine lv_iload (pc := 26) hx hb dX0_isBroken_26 (lv_at hl 4 rfl) ?_
    obtain ⟨hg12, hm⟩ := gb_some hm
    refine rk_iald (pc := 28) hx hb hK hW0 158 (by decide) rfl rfl hg12 (x := (gI V0 158 i5.toNatClampNeg)) rfl dX0_isBroken_28 ?_
    refine lv_imul (pc := 29) hx hb dX0_isBroken_29 ?_
    refine lv_i2l (pc := 30) hx hb dX0_isBroken_30 rfl ?_
    refine lv_ladd (pc := 31) hx hb dX0_isBroken_31 ?_
    refine lv_lstore_n (pc := 32) (lv' := [(3, .long (j3 + ((gI V0 (7 + 2 * n1 + 1) i5.toNatClampNeg) * (gI V0 158 i5.toNatClampNeg)).toInt64)), (0, .ref b0), (1, .ref (b0 + (7 + 2 * n1 + 0))), (2, .ref (b0 + 158)), (5, .int i5)]) hx hb dX0_isBroken_32 rfl hl (by decide) rfl (fun ls hl => ?_)
    refine lv_iinc (pc := 33) (v := (i5 + (1 : Int32))) (lv' := [(5, .int (i5 + (1 : Int32))), (3, .long (j3 + ((gI V0 (7 + 2 * n1 + 1) i5.toNatClampNeg) * (gI V0 158 i5.toNatClampNeg)).toInt64)), (0, .ref b0), (1, .ref (b0 + (7 + 2 * n1 + 0))), (2, .ref (b0 + 158))]) hx hb dX0_isBroken_33 hl (k := 4) rfl rfl (by decide) rfl (fun ls hl => ?_)
    refine lv_goto (pc := 36) (tgt := 5) hx hb dX0_isBroken_36 (by decide) ?_
    exact hk5 (j3 + ((gI V0 (7 + 2 * n1 + 1) i5.toNatClampNeg) * (gI V0 158 i5.toNatClampNeg)).toInt64) (i5 + (1 : Int32)) hm ls (lv_sub hl [2, 3, 4, 1, 0] rfl)
theorem w_fX0_isBroken_mix_5_l (C : Cx G p s m args meth c RX0 cX0_isBroken 6 (some .boolean)) {b0 : Nat} {V0 : Mem} {n1 : Nat} {rx : Int32} (hW0 : rg G b0 357 (shX0 G.2.1) V0 s.heap) (hG : GO G s.heap) (hn1 : n1 < 8) (hZ : ZQ G) (hgb0 : gB G ≤ b0) (hZL : ZL G) : ∀ (n : Nat) (j3 : Int64) (i5 : Int32), lq2 (fX0_isBroken_mix_5 V0 n1) n j3 i5 = some rx → ∀ (ls : Array Slot), lv_has ls 6 [(0, .ref b0), (1, .ref (b0 + (7 + 2 * n1 + 0))), (2, .ref (b0 + 158)), (3, .long j3), (5, .int i5)] → W p l e (rmP 2 47) s m args below meth c s.heap [] 0 0 (MQ below (QcP (some (.int rx))) args s 0 0 (fun _ => False)) (F0 m 5 ls []) := by
  intro n
  induction n with
  | zero => intro j3 i5 hm; exact (lq2_0 hm).elim
  | succ n ih => intro j3 i5 hm; exact w_fX0_isBroken_mix_5 C hW0 hG hn1 hZ hgb0 hZL ih j3 i5 (lq2_s hm)
set_option maxHeartbeats 4000000 in
theorem w_fX0_isBroken_mix (C : Cx G p s m args meth c RX0 cX0_isBroken 6 (some .boolean)) {b0 : Nat} {V0 : Mem} {n1 : Nat} {rx : Int32} (hW0 : rg G b0 357 (shX0 G.2.1) V0 s.heap) (hG : GO G s.heap) (hn1 : n1 < 8) (hZ : ZQ G) (hgb0 : gB G ≤ b0) (hZL : ZL G) : fX0_isBroken_mix V0 n1 = some rx → ∀ (ls : Array Slot), lv_has ls 6 [(0, .ref b0), (1, .ref (b0 + (7 + 2 * n1 + 0))), (2, .ref (b0 + 158))] → W p l e (rmP 2 47) s m args below meth c s.heap [] 0 0 (MQ below (QcP (some (.int rx))) args s 0 0 (fun _ => False)) (F0 m 0 ls []) := by
  intro hm ls hl
  obtain ⟨hx, hb, hr, hlk, hml, hown, hts, hK⟩ := id C
  unfold fX0_isBroken_mix at hm
  refine lv_lconst (pc := 0) (v := (0 : Int64)) hx hb dX0_isBroken_0 (by decide) ?_
  refine lv_lstore_n (pc := 1) (lv' := [(3, .long (0 : Int64)), (0, .ref b0), (1, .ref (b0 + (7 + 2 * n1 + 0))), (2, .ref (b0 + 158))]) hx hb dX0_isBroken_1 rfl hl (by decide) rfl (fun ls hl => ?_)
  refine lv_iconst (pc := 2) (v := (0 : Int32)) hx hb dX0_isBroken_2 (by decide) ?_
  refine lv_istore (pc := 3) (lv' := [(5, .int (0 : Int32)), (3, .long (0 : Int64)), (0, .ref b0), (1, .ref (b0 + (7 + 2 * n1 + 0))), (2, .ref (b0 + 158))]) hx hb dX0_isBroken_3 hl (by decide) rfl (fun ls hl => ?_)
  exact (w_fX0_isBroken_mix_5_l C hW0 hG hn1 hZ hgb0 hZL FU) (0 : Int64) (0 : Int32) hm ls (lv_sub hl [2, 3, 4, 1, 0] rfl)
set_option maxHeartbeats 4000000 in
theorem ct_X0_isBroken_mix {G : Gv} {l : Launch} {b0 : Nat} {V0 : Mem} {n1 : Nat} {rx : Int32} (hm : fX0_isBroken_mix V0 n1  = some rx) (hn1 : n1 < 8) (hZ : ZQ G) (hgb0 : gB G ≤ b0) (hZL : ZL G) : CP G l yX0_isBroken (ws_ yX0_isBroken cX0_isBroken 6 (some .boolean)) 2 47 [.ref b0, .ref (b0 + (7 + 2 * n1 + 0)), .ref (b0 + 158)] (fun H => rg G b0 357 (shX0 G.2.1) V0 H ∧ GO G H) (some (.int rx)) := by
  refine Met.ofW (cc := cX0_isBroken) (maxL := 6) (ret := (some .boolean)) (by decide +kernel) rfl ?_
  intro p e s m args below meth c s₁ B hml hv
  obtain ⟨rfl, ⟨hW0, hG⟩, hK⟩ := hv
  have hts := atoms_spec (ws := ws_ yX0_isBroken cX0_isBroken 6 (some .boolean)) B.pre
  have hts : ∀ w ∈ lw_all, w.before _ s = true := fun w h => hts w (List.mem_cons_of_mem _ h)
  have C : Cx G p s m _ meth c RX0 cX0_isBroken 6 (some .boolean) := ⟨B.exec, B.bytes, B.returns, B.notSynchronized, hml, findClass_of_methodNamed B.named, hts, hK⟩
  have hl := lv_entry ([.ref b0, .ref (b0 + (7 + 2 * n1 + 0)), .ref (b0 + 158)]) (n := 6) (Nat.le_of_ble_eq_true rfl)
  rw [lg_entry_eq]
  generalize (lg_sl ([.ref b0, .ref (b0 + (7 + 2 * n1 + 0)), .ref (b0 + 158)]) ++ List.replicate (6 - (lg_sl ([.ref b0, .ref (b0 + (7 + 2 * n1 + 0)), .ref (b0 + 158)])).length) Slot.unset).toArray = ls at hl ⊢
  have hl : lv_has ls 6 [(0, .ref b0), (1, .ref (b0 + (7 + 2 * n1 + 0))), (2, .ref (b0 + 158))] := hl
  exact w_fX0_isBroken_mix C hW0 hG hn1 hZ hgb0 hZL  hm ls hl
noncomputable def fX0_brokenBy_mix_4 (V0 : Mem) (k4 : Int32 → Int32 → Option (Int32)) (i2 : Int32) (i3 : Int32) : Option (Int32) :=
  if (gI V0 1 1) ≤ i3 then (
  some i2)
  else (
  gb (inR i3 8) (
  ob (fX0_isBroken_mix V0 i3.toNatClampNeg) fun r4 =>
  if r4 = 0 then (
  k4 (i2 + (0 : Int32)) (i3 + (1 : Int32)))
  else (
  k4 (i2 + (1 : Int32)) (i3 + (1 : Int32)))))
noncomputable def fX0_brokenBy_mix (V0 : Mem) : Option (Int32) :=
  lq2 (fX0_brokenBy_mix_4 V0) FU (0 : Int32) (0 : Int32)
set_option maxHeartbeats 4000000 in
theorem w_fX0_brokenBy_mix_4 (C : Cx G p s m args meth c RX0 cX0_brokenBy 4 (some .int)) {b0 : Nat} {V0 : Mem} {rx : Int32} (hW0 : rg G b0 357 (shX0 G.2.1) V0 s.heap) (hG : GO G s.heap) (hZ : ZQ G) (hgb0 : gB G ≤ b0) (hZL : ZL G) {k4 : Int32 → Int32 → Option (Int32)} (hk4 : ∀ (i2 : Int32) (i3 : Int32), k4 i2 i3 = some rx → ∀ (ls : Array Slot), lv_has ls 4 [(0, .ref b0), (1, .ref (b0 + 158)), (2, .int i2), (3, .int i3)] → W p l e (rmP 3 72) s m args below meth c s.heap [] 0 0 (MQ below (QcP (some (.int rx))) args s 0 0 (fun _ => False)) (F0 m 4 ls [])) : ∀ (i2 : Int32) (i3 : Int32), fX0_brokenBy_mix_4 V0 k4 i2 i3 = some rx → ∀ (ls : Array Slot), lv_has ls 4 [(0, .ref b0), (1, .ref (b0 + 158)), (2, .int i2), (3, .int i3)] → W p l e (rmP 3 72) s m args below meth c s.heap [] 0 0 (MQ below (QcP (some (.int rx))) args s 0 0 (fun _ => False)) (F0 m 4 ls []) := by
  intro i2 i3 hm ls hl
  obtain ⟨hx, hb, hr, hlk, hml, hown, hts, hK⟩ := id C
  unfold fX0_brokenBy_mix_4 at hm
  refine lv_iload_n (pc := 4) hx hb dX0_brokenBy_4 rfl (lv_at hl 3 rfl) ?_
  refine lv_aload_n (pc := 5) hx hb dX0_brokenBy_5 rfl (lv_at hl 0 rfl) ?_
  refine rk_get (pc := 6) hx hb hts hown hK hW0 flX0_12 0 (by decide) rfl rfl (x := .ref (b0 + 1)) (by first | rfl | exact congrArg (fun z => some (Value.ref z)) (by omega)) dX0_brokenBy_6 ?_
  refine rk_getN (pc := 9) hx hb hts hown hK hW0 fnX0_158 1 (by decide) rfl rfl (x := .int (gI V0 1 1)) rfl dX0_brokenBy_9 ?_
  refine lv_icmp_ge (pc := 12) (tgt := 46) hx hb dX0_brokenBy_12 (by decide) (fun c1 => ?_) (fun c1 => ?_)
  · have hm := ite_t c1 hm
    refine lv_iload_n (pc := 46) hx hb dX0_brokenBy_46 rfl (lv_at hl 2 rfl) ?_
    have e9 := rs1 hm
    subst e9
    exact rk_iretP (pc := 47) hx hb hr hlk rfl dX0_brokenBy_47
  · have hm := ite_f c1 hm
    refine lv_iload_n (pc := 15) hx hb dX0_brokenBy_15 rfl (lv_at hl 2 rfl) ?_
    refine lv_aload_n (pc := 16) hx hb dX0_brokenBy_16 rfl (lv_at hl 0 rfl) ?_
    refine lv_aload_n (pc := 17) hx hb dX0_brokenBy_17 rfl (lv_at hl 0 rfl) ?_
    refine rk_get (pc := 18) hx hb hts hown hK hW0 flX0_12 0 (by decide) rfl rfl (x := .ref (b0 + 1)) (by first | rfl | exact congrArg (fun z => some (Value.ref z)) (by omega)) dX0_brokenBy_18 ?_
    refine rk_getN (pc := 21) hx hb hts hown hK hW0 fnX0_172 1 (by decide) rfl rfl (x := .ref (b0 + 3)) (by first | rfl | exact congrArg (fun z => some (Value.ref z)) (by omega)) dX0_brokenBy_21 ?_
    refine lv_iload_n (pc := 24) hx hb dX0_brokenBy_24 rfl (lv_at hl 3 rfl) ?_
    obtain ⟨hg2, hm⟩ := gb_some hm
    have hlt3 := inR_lt hg2
    refine rk_aald (pc := 25) hx hb hK hW0 3 5 (by decide) rfl rfl rfl hg2 (x := (b0 + (7 + 2 * i3.toNatClampNeg + 0))) (by first | rfl | exact congrArg some (by omega)) dX0_brokenBy_25 ?_
    refine lv_aload_n (pc := 26) hx hb dX0_brokenBy_26 rfl (lv_at hl 1 rfl) ?_
    obtain ⟨r4, hq5, hm⟩ := ob_some hm
    refine rk_PV (pc := 27) (As := [.ref (b0 + (7 + 2 * i3.toNatClampNeg + 0)), .ref (b0 + 158)]) (rest := [.int i2]) hx hb hml hown hts hK lkX0_329 rfl yn_X0_isBroken (ct_X0_isBroken_mix (G := G) (l := l) (b0 := b0) hq5 hlt3 hZ (by omega) hZL) ⟨Nat.le_of_ble_eq_true rfl, Nat.le_of_ble_eq_true rfl⟩ (rk_recv hK hW0 0 (by decide) rfl rfl rfl) ⟨hW0, hG⟩ rfl rfl hl.1 (Nat.le_of_ble_eq_true rfl) dX0_brokenBy_27 ⟨Nat.zero_le _, Nat.zero_le _⟩ ?_
    refine W.eq (g2 := F0 m 30 ls [.int r4, .int i2]) rfl ?_
    refine lv_if_eq (pc := 30) (tgt := 37) hx hb dX0_brokenBy_30 (by decide) (fun c6 => ?_) (fun c6 => ?_)
    · have hm := ite_t c6 hm
      refine lv_iconst (pc := 37) (v := (0 : Int32)) hx hb dX0_brokenBy_37 (by decide) ?_
      refine lv_iadd (pc := 38) hx hb dX0_brokenBy_38 ?_
      refine lv_istore_n (pc := 39) (lv' := [(2, .int (i2 + (0 : Int32))), (0, .ref b0), (1, .ref (b0 + 158)), (3, .int i3)]) hx hb dX0_brokenBy_39 rfl hl (by decide) rfl (fun ls hl => ?_)
      refine lv_iinc (pc := 40) (v := (i3 + (1 : Int32))) (lv' := [(3, .int (i3 + (1 : Int32))), (2, .int (i2 + (0 : Int32))), (0, .ref b0), (1, .ref (b0 + 158))]) hx hb dX0_brokenBy_40 hl (k := 3) rfl rfl (by decide) rfl (fun ls hl => ?_)
      refine lv_goto (pc := 43) (tgt := 4) hx hb dX0_brokenBy_43 (by decide) ?_
      exact hk4 (i2 + (0 : Int32)) (i3 + (1 : Int32)) hm ls (lv_sub hl [2, 3, 1, 0] rfl)
    · have hm := ite_f c6 hm
      refine lv_iconst (pc := 33) (v := (1 : Int32)) hx hb dX0_brokenBy_33 (by decide) ?_
      refine lv_goto (pc := 34) (tgt := 38) hx hb dX0_brokenBy_34 (by decide) ?_
      refine lv_iadd (pc := 38) hx hb dX0_brokenBy_38 ?_
      refine lv_istore_n (pc := 39) (lv' := [(2, .int (i2 + (1 : Int32))), (0, .ref b0), (1, .ref (b0 + 158)), (3, .int i3)]) hx hb dX0_brokenBy_39 rfl hl (by decide) rfl (fun ls hl => ?_)
      refine lv_iinc (pc := 40) (v := (i3 + (1 : Int32))) (lv' := [(3, .int (i3 + (1 : Int32))), (2, .int (i2 + (1 : Int32))), (0, .ref b0), (1, .ref (b0 + 158))]) hx hb dX0_brokenBy_40 hl (k := 3) rfl rfl (by decide) rfl (fun ls hl => ?_)
      refine lv_goto (pc := 43) (tgt := 4) hx hb dX0_brokenBy_43 (by decide) ?_
      exact hk4 (i2 + (1 : Int32)) (i3 + (1 : Int32)) hm ls (lv_sub hl [2, 3, 1, 0] rfl)
theorem w_fX0_brokenBy_mix_4_l (C : Cx G p s m args meth c RX0 cX0_brokenBy 4 (some .int)) {b0 : Nat} {V0 : Mem} {rx : Int32} (hW0 : rg G b0 357 (shX0 G.2.1) V0 s.heap) (hG : GO G s.heap) (hZ : ZQ G) (hgb0 : gB G ≤ b0) (hZL : ZL G) : ∀ (n : Nat) (i2 : Int32) (i3 : Int32), lq2 (fX0_brokenBy_mix_4 V0) n i2 i3 = some rx → ∀ (ls : Array Slot), lv_has ls 4 [(0, .ref b0), (1, .ref (b0 + 158)), (2, .int i2), (3, .int i3)] → W p l e (rmP 3 72) s m args below meth c s.heap [] 0 0 (MQ below (QcP (some (.int rx))) args s 0 0 (fun _ => False)) (F0 m 4 ls []) := by
  intro n
  induction n with
  | zero => intro i2 i3 hm; exact (lq2_0 hm).elim
  | succ n ih => intro i2 i3 hm; exact w_fX0_brokenBy_mix_4 C hW0 hG hZ hgb0 hZL ih i2 i3 (lq2_s hm)
set_option maxHeartbeats 4000000 in
theorem w_fX0_brokenBy_mix (C : Cx G p s m args meth c RX0 cX0_brokenBy 4 (some .int)) {b0 : Nat} {V0 : Mem} {rx : Int32} (hW0 : rg G b0 357 (shX0 G.2.1) V0 s.heap) (hG : GO G s.heap) (hZ : ZQ G) (hgb0 : gB G ≤ b0) (hZL : ZL G) : fX0_brokenBy_mix V0 = some rx → ∀ (ls : Array Slot), lv_has ls 4 [(0, .ref b0), (1, .ref (b0 + 158))] → W p l e (rmP 3 72) s m args below meth c s.heap [] 0 0 (MQ below (QcP (some (.int rx))) args s 0 0 (fun _ => False)) (F0 m 0 ls []) := by
  intro hm ls hl
  obtain ⟨hx, hb, hr, hlk, hml, hown, hts, hK⟩ := id C
  unfold fX0_brokenBy_mix at hm
  refine lv_iconst (pc := 0) (v := (0 : Int32)) hx hb dX0_brokenBy_0 (by decide) ?_
  refine lv_istore_n (pc := 1) (lv' := [(2, .int (0 : Int32)), (0, .ref b0), (1, .ref (b0 + 158))]) hx hb dX0_brokenBy_1 rfl hl (by decide) rfl (fun ls hl => ?_)
  refine lv_iconst (pc := 2) (v := (0 : Int32)) hx hb dX0_brokenBy_2 (by decide) ?_
  refine lv_istore_n (pc := 3) (lv' := [(3, .int (0 : Int32)), (2, .int (0 : Int32)), (0, .ref b0), (1, .ref (b0 + 158))]) hx hb dX0_brokenBy_3 rfl hl (by decide) rfl (fun ls hl => ?_)
  exact (w_fX0_brokenBy_mix_4_l C hW0 hG hZ hgb0 hZL FU) (0 : Int32) (0 : Int32) hm ls (lv_sub hl [2, 3, 1, 0] rfl)
set_option maxHeartbeats 4000000 in
theorem ct_X0_brokenBy_mix {G : Gv} {l : Launch} {b0 : Nat} {V0 : Mem} {rx : Int32} (hm : fX0_brokenBy_mix V0  = some rx) (hZ : ZQ G) (hgb0 : gB G ≤ b0) (hZL : ZL G) : CP G l yX0_brokenBy (ws_ yX0_brokenBy cX0_brokenBy 4 (some .int)) 3 72 [.ref b0, .ref (b0 + 158)] (fun H => rg G b0 357 (shX0 G.2.1) V0 H ∧ GO G H) (some (.int rx)) := by
  refine Met.ofW (cc := cX0_brokenBy) (maxL := 4) (ret := (some .int)) (by decide +kernel) rfl ?_
  intro p e s m args below meth c s₁ B hml hv
  obtain ⟨rfl, ⟨hW0, hG⟩, hK⟩ := hv
  have hts := atoms_spec (ws := ws_ yX0_brokenBy cX0_brokenBy 4 (some .int)) B.pre
  have hts : ∀ w ∈ lw_all, w.before _ s = true := fun w h => hts w (List.mem_cons_of_mem _ h)
  have C : Cx G p s m _ meth c RX0 cX0_brokenBy 4 (some .int) := ⟨B.exec, B.bytes, B.returns, B.notSynchronized, hml, findClass_of_methodNamed B.named, hts, hK⟩
  have hl := lv_entry ([.ref b0, .ref (b0 + 158)]) (n := 4) (Nat.le_of_ble_eq_true rfl)
  rw [lg_entry_eq]
  generalize (lg_sl ([.ref b0, .ref (b0 + 158)]) ++ List.replicate (4 - (lg_sl ([.ref b0, .ref (b0 + 158)])).length) Slot.unset).toArray = ls at hl ⊢
  have hl : lv_has ls 4 [(0, .ref b0), (1, .ref (b0 + 158))] := hl
  exact w_fX0_brokenBy_mix C hW0 hG hZ hgb0 hZL  hm ls hl
noncomputable def fX0_brokenBy_asked_4 (V0 : Mem) (k4 : Int32 → Int32 → Option (Int32)) (i2 : Int32) (i3 : Int32) : Option (Int32) :=
  if (gI V0 1 1) ≤ i3 then (
  some i2)
  else (
  gb (inR i3 8) (
  ob (fX0_isBroken_asked V0 i3.toNatClampNeg) fun r4 =>
  if r4 = 0 then (
  k4 (i2 + (0 : Int32)) (i3 + (1 : Int32)))
  else (
  k4 (i2 + (1 : Int32)) (i3 + (1 : Int32)))))
noncomputable def fX0_brokenBy_asked (V0 : Mem) : Option (Int32) :=
  lq2 (fX0_brokenBy_asked_4 V0) FU (0 : Int32) (0 : Int32)
set_option maxHeartbeats 4000000 in
theorem w_fX0_brokenBy_asked_4 (C : Cx G p s m args meth c RX0 cX0_brokenBy 4 (some .int)) {b0 : Nat} {V0 : Mem} {rx : Int32} (hW0 : rg G b0 357 (shX0 G.2.1) V0 s.heap) (hG : GO G s.heap) (hZ : ZQ G) (hgb0 : gB G ≤ b0) (hZL : ZL G) {k4 : Int32 → Int32 → Option (Int32)} (hk4 : ∀ (i2 : Int32) (i3 : Int32), k4 i2 i3 = some rx → ∀ (ls : Array Slot), lv_has ls 4 [(0, .ref b0), (1, .ref (b0 + 163)), (2, .int i2), (3, .int i3)] → W p l e (rmP 3 72) s m args below meth c s.heap [] 0 0 (MQ below (QcP (some (.int rx))) args s 0 0 (fun _ => False)) (F0 m 4 ls [])) : ∀ (i2 : Int32) (i3 : Int32), fX0_brokenBy_asked_4 V0 k4 i2 i3 = some rx → ∀ (ls : Array Slot), lv_has ls 4 [(0, .ref b0), (1, .ref (b0 + 163)), (2, .int i2), (3, .int i3)] → W p l e (rmP 3 72) s m args below meth c s.heap [] 0 0 (MQ below (QcP (some (.int rx))) args s 0 0 (fun _ => False)) (F0 m 4 ls []) := by
  intro i2 i3 hm ls hl
  obtain ⟨hx, hb, hr, hlk, hml, hown, hts, hK⟩ := id C
  unfold fX0_brokenBy_asked_4 at hm
  refine lv_iload_n (pc := 4) hx hb dX0_brokenBy_4 rfl (lv_at hl 3 rfl) ?_
  refine lv_aload_n (pc := 5) hx hb dX0_brokenBy_5 rfl (lv_at hl 0 rfl) ?_
  refine rk_get (pc := 6) hx hb hts hown hK hW0 flX0_12 0 (by decide) rfl rfl (x := .ref (b0 + 1)) (by first | rfl | exact congrArg (fun z => some (Value.ref z)) (by omega)) dX0_brokenBy_6 ?_
  refine rk_getN (pc := 9) hx hb hts hown hK hW0 fnX0_158 1 (by decide) rfl rfl (x := .int (gI V0 1 1)) rfl dX0_brokenBy_9 ?_
  refine lv_icmp_ge (pc := 12) (tgt := 46) hx hb dX0_brokenBy_12 (by decide) (fun c1 => ?_) (fun c1 => ?_)
  · have hm := ite_t c1 hm
    refine lv_iload_n (pc := 46) hx hb dX0_brokenBy_46 rfl (lv_at hl 2 rfl) ?_
    have e9 := rs1 hm
    subst e9
    exact rk_iretP (pc := 47) hx hb hr hlk rfl dX0_brokenBy_47
  · have hm := ite_f c1 hm
    refine lv_iload_n (pc := 15) hx hb dX0_brokenBy_15 rfl (lv_at hl 2 rfl) ?_
    refine lv_aload_n (pc := 16) hx hb dX0_brokenBy_16 rfl (lv_at hl 0 rfl) ?_
    refine lv_aload_n (pc := 17) hx hb dX0_brokenBy_17 rfl (lv_at hl 0 rfl) ?_
    refine rk_get (pc := 18) hx hb hts hown hK hW0 flX0_12 0 (by decide) rfl rfl (x := .ref (b0 + 1)) (by first | rfl | exact congrArg (fun z => some (Value.ref z)) (by omega)) dX0_brokenBy_18 ?_
    refine rk_getN (pc := 21) hx hb hts hown hK hW0 fnX0_172 1 (by decide) rfl rfl (x := .ref (b0 + 3)) (by first | rfl | exact congrArg (fun z => some (Value.ref z)) (by omega)) dX0_brokenBy_21 ?_
    refine lv_iload_n (pc := 24) hx hb dX0_brokenBy_24 rfl (lv_at hl 3 rfl) ?_
    obtain ⟨hg2, hm⟩ := gb_some hm
    have hlt3 := inR_lt hg2
    refine rk_aald (pc := 25) hx hb hK hW0 3 5 (by decide) rfl rfl rfl hg2 (x := (b0 + (7 + 2 * i3.toNatClampNeg + 0))) (by first | rfl | exact congrArg some (by omega)) dX0_brokenBy_25 ?_
    refine lv_aload_n (pc := 26) hx hb dX0_brokenBy_26 rfl (lv_at hl 1 rfl) ?_
    obtain ⟨r4, hq5, hm⟩ := ob_some hm
    refine rk_PV (pc := 27) (As := [.ref (b0 + (7 + 2 * i3.toNatClampNeg + 0)), .ref (b0 + 163)]) (rest := [.int i2]) hx hb hml hown hts hK lkX0_329 rfl yn_X0_isBroken (ct_X0_isBroken_asked (G := G) (l := l) (b0 := b0) hq5 hlt3 hZ (by omega) hZL) ⟨Nat.le_of_ble_eq_true rfl, Nat.le_of_ble_eq_true rfl⟩ (rk_recv hK hW0 0 (by decide) rfl rfl rfl) ⟨hW0, hG⟩ rfl rfl hl.1 (Nat.le_of_ble_eq_true rfl) dX0_brokenBy_27 ⟨Nat.zero_le _, Nat.zero_le _⟩ ?_
    refine W.eq (g2 := F0 m 30 ls [.int r4, .int i2]) rfl ?_
    refine lv_if_eq (pc := 30) (tgt := 37) hx hb dX0_brokenBy_30 (by decide) (fun c6 => ?_) (fun c6 => ?_)
    · have hm := ite_t c6 hm
      refine lv_iconst (pc := 37) (v := (0 : Int32)) hx hb dX0_brokenBy_37 (by decide) ?_
      refine lv_iadd (pc := 38) hx hb dX0_brokenBy_38 ?_
      refine lv_istore_n (pc := 39) (lv' := [(2, .int (i2 + (0 : Int32))), (0, .ref b0), (1, .ref (b0 + 163)), (3, .int i3)]) hx hb dX0_brokenBy_39 rfl hl (by decide) rfl (fun ls hl => ?_)
      refine lv_iinc (pc := 40) (v := (i3 + (1 : Int32))) (lv' := [(3, .int (i3 + (1 : Int32))), (2, .int (i2 + (0 : Int32))), (0, .ref b0), (1, .ref (b0 + 163))]) hx hb dX0_brokenBy_40 hl (k := 3) rfl rfl (by decide) rfl (fun ls hl => ?_)
      refine lv_goto (pc := 43) (tgt := 4) hx hb dX0_brokenBy_43 (by decide) ?_
      exact hk4 (i2 + (0 : Int32)) (i3 + (1 : Int32)) hm ls (lv_sub hl [2, 3, 1, 0] rfl)
    · have hm := ite_f c6 hm
      refine lv_iconst (pc := 33) (v := (1 : Int32)) hx hb dX0_brokenBy_33 (by decide) ?_
      refine lv_goto (pc := 34) (tgt := 38) hx hb dX0_brokenBy_34 (by decide) ?_
      refine lv_iadd (pc := 38) hx hb dX0_brokenBy_38 ?_
      refine lv_istore_n (pc := 39) (lv' := [(2, .int (i2 + (1 : Int32))), (0, .ref b0), (1, .ref (b0 + 163)), (3, .int i3)]) hx hb dX0_brokenBy_39 rfl hl (by decide) rfl (fun ls hl => ?_)
      refine lv_iinc (pc := 40) (v := (i3 + (1 : Int32))) (lv' := [(3, .int (i3 + (1 : Int32))), (2, .int (i2 + (1 : Int32))), (0, .ref b0), (1, .ref (b0 + 163))]) hx hb dX0_brokenBy_40 hl (k := 3) rfl rfl (by decide) rfl (fun ls hl => ?_)
      refine lv_goto (pc := 43) (tgt := 4) hx hb dX0_brokenBy_43 (by decide) ?_
      exact hk4 (i2 + (1 : Int32)) (i3 + (1 : Int32)) hm ls (lv_sub hl [2, 3, 1, 0] rfl)
theorem w_fX0_brokenBy_asked_4_l (C : Cx G p s m args meth c RX0 cX0_brokenBy 4 (some .int)) {b0 : Nat} {V0 : Mem} {rx : Int32} (hW0 : rg G b0 357 (shX0 G.2.1) V0 s.heap) (hG : GO G s.heap) (hZ : ZQ G) (hgb0 : gB G ≤ b0) (hZL : ZL G) : ∀ (n : Nat) (i2 : Int32) (i3 : Int32), lq2 (fX0_brokenBy_asked_4 V0) n i2 i3 = some rx → ∀ (ls : Array Slot), lv_has ls 4 [(0, .ref b0), (1, .ref (b0 + 163)), (2, .int i2), (3, .int i3)] → W p l e (rmP 3 72) s m args below meth c s.heap [] 0 0 (MQ below (QcP (some (.int rx))) args s 0 0 (fun _ => False)) (F0 m 4 ls []) := by
  intro n
  induction n with
  | zero => intro i2 i3 hm; exact (lq2_0 hm).elim
  | succ n ih => intro i2 i3 hm; exact w_fX0_brokenBy_asked_4 C hW0 hG hZ hgb0 hZL ih i2 i3 (lq2_s hm)
set_option maxHeartbeats 4000000 in
theorem w_fX0_brokenBy_asked (C : Cx G p s m args meth c RX0 cX0_brokenBy 4 (some .int)) {b0 : Nat} {V0 : Mem} {rx : Int32} (hW0 : rg G b0 357 (shX0 G.2.1) V0 s.heap) (hG : GO G s.heap) (hZ : ZQ G) (hgb0 : gB G ≤ b0) (hZL : ZL G) : fX0_brokenBy_asked V0 = some rx → ∀ (ls : Array Slot), lv_has ls 4 [(0, .ref b0), (1, .ref (b0 + 163))] → W p l e (rmP 3 72) s m args below meth c s.heap [] 0 0 (MQ below (QcP (some (.int rx))) args s 0 0 (fun _ => False)) (F0 m 0 ls []) := by
  intro hm ls hl
  obtain ⟨hx, hb, hr, hlk, hml, hown, hts, hK⟩ := id C
  unfold fX0_brokenBy_asked at hm
  refine lv_iconst (pc := 0) (v := (0 : Int32)) hx hb dX0_brokenBy_0 (by decide) ?_
  refine lv_istore_n (pc := 1) (lv' := [(2, .int (0 : Int32)), (0, .ref b0), (1, .ref (b0 + 163))]) hx hb dX0_brokenBy_1 rfl hl (by decide) rfl (fun ls hl => ?_)
  refine lv_iconst (pc := 2) (v := (0 : Int32)) hx hb dX0_brokenBy_2 (by decide) ?_
  refine lv_istore_n (pc := 3) (lv' := [(3, .int (0 : Int32)), (2, .int (0 : Int32)), (0, .ref b0), (1, .ref (b0 + 163))]) hx hb dX0_brokenBy_3 rfl hl (by decide) rfl (fun ls hl => ?_)
  exact (w_fX0_brokenBy_asked_4_l C hW0 hG hZ hgb0 hZL FU) (0 : Int32) (0 : Int32) hm ls (lv_sub hl [2, 3, 1, 0] rfl)
set_option maxHeartbeats 4000000 in
theorem ct_X0_brokenBy_asked {G : Gv} {l : Launch} {b0 : Nat} {V0 : Mem} {rx : Int32} (hm : fX0_brokenBy_asked V0  = some rx) (hZ : ZQ G) (hgb0 : gB G ≤ b0) (hZL : ZL G) : CP G l yX0_brokenBy (ws_ yX0_brokenBy cX0_brokenBy 4 (some .int)) 3 72 [.ref b0, .ref (b0 + 163)] (fun H => rg G b0 357 (shX0 G.2.1) V0 H ∧ GO G H) (some (.int rx)) := by
  refine Met.ofW (cc := cX0_brokenBy) (maxL := 4) (ret := (some .int)) (by decide +kernel) rfl ?_
  intro p e s m args below meth c s₁ B hml hv
  obtain ⟨rfl, ⟨hW0, hG⟩, hK⟩ := hv
  have hts := atoms_spec (ws := ws_ yX0_brokenBy cX0_brokenBy 4 (some .int)) B.pre
  have hts : ∀ w ∈ lw_all, w.before _ s = true := fun w h => hts w (List.mem_cons_of_mem _ h)
  have C : Cx G p s m _ meth c RX0 cX0_brokenBy 4 (some .int) := ⟨B.exec, B.bytes, B.returns, B.notSynchronized, hml, findClass_of_methodNamed B.named, hts, hK⟩
  have hl := lv_entry ([.ref b0, .ref (b0 + 163)]) (n := 4) (Nat.le_of_ble_eq_true rfl)
  rw [lg_entry_eq]
  generalize (lg_sl ([.ref b0, .ref (b0 + 163)]) ++ List.replicate (4 - (lg_sl ([.ref b0, .ref (b0 + 163)])).length) Slot.unset).toArray = ls at hl ⊢
  have hl : lv_has ls 4 [(0, .ref b0), (1, .ref (b0 + 163))] := hl
  exact w_fX0_brokenBy_asked C hW0 hG hZ hgb0 hZL  hm ls hl
end
