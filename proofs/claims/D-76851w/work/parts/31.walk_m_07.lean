set_option maxRecDepth 100000
section
variable {p : Program} {l : Launch} {e : Env} {s : State} {m : MethodId} {args : Array Value} {below : List Frame} {meth : Method} {c : Code} {G : Gv}
noncomputable def fX9_hopeful_4 (V0 : Mem) (k4 : Int32 → Int32 → Option (Int32)) (i1 : Int32) (i2 : Int32) : Option (Int32) :=
  if (gI V0 0 21) ≤ i2 then (
  some i1)
  else (
  gb (inR i2 40) (
  if (gI V0 41 i2.toNatClampNeg) = 0 then (
  k4 i1 (i2 + (1 : Int32)))
  else (
  if i1 < 0 then (
  k4 i2 (i2 + (1 : Int32)))
  else (
  gb (inR i2 40) (
  gb (inR i1 40) (
  gb (inR i1 40) (
  gb (inR i2 40) (
  if ((gL V0 39 i1.toNatClampNeg) * (gL V0 40 i2.toNatClampNeg)) ≤ ((gL V0 39 i2.toNatClampNeg) * (gL V0 40 i1.toNatClampNeg)) then (
  k4 i1 (i2 + (1 : Int32)))
  else (
  k4 i2 (i2 + (1 : Int32)))))))))))
noncomputable def fX9_hopeful (V0 : Mem) : Option (Int32) :=
  lq2 (fX9_hopeful_4 V0) FU (-1 : Int32) (0 : Int32)
set_option maxHeartbeats 4000000 in
theorem w_fX9_hopeful_4 (C : Cx G p s m args meth c RX9 cX9_hopeful 3 (some .int)) {b0 : Nat} {V0 : Mem} {rx : Int32} (hW0 : rg G b0 46 (shX9 G.2.1) V0 s.heap) {k4 : Int32 → Int32 → Option (Int32)} (hk4 : ∀ (i1 : Int32) (i2 : Int32), k4 i1 i2 = some rx → ∀ (ls : Array Slot), lv_has ls 3 [(0, .ref b0), (1, .int i1), (2, .int i2)] → W p l e (rmP 0 0) s m args below meth c s.heap [] 0 0 (MQ below (QcP (some (.int rx))) args s 0 0 (fun _ => False)) (F0 m 4 ls [])) : ∀ (i1 : Int32) (i2 : Int32), fX9_hopeful_4 V0 k4 i1 i2 = some rx → ∀ (ls : Array Slot), lv_has ls 3 [(0, .ref b0), (1, .int i1), (2, .int i2)] → W p l e (rmP 0 0) s m args below meth c s.heap [] 0 0 (MQ below (QcP (some (.int rx))) args s 0 0 (fun _ => False)) (F0 m 4 ls []) := by
  intro i1 i2 hm ls hl
  obtain ⟨hx, hb, hr, hlk, hml, hown, hts, hK⟩ := id C
  unfold fX9_hopeful_4 at hm
  refine lv_iload_n (pc := 4) hx hb dX9_hopeful_4 rfl (lv_at hl 2 rfl) ?_
  refine lv_aload_n (pc := 5) hx hb dX9_hopeful_5 rfl (lv_at hl 0 rfl) ?_
  refine rk_get (pc := 6) hx hb hts hown hK hW0 flX9_371 0 (by decide) rfl rfl (x := .int (gI V0 0 21)) rfl dX9_hopeful_6 ?_
  refine lv_icmp_ge (pc := 9) (tgt := 63) hx hb dX9_hopeful_9 (by decide) (fun c1 => ?_) (fun c1 => ?_)
  · have hm := ite_t c1 hm
    refine lv_iload_n (pc := 63) hx hb dX9_hopeful_63 rfl (lv_at hl 1 rfl) ?_
    have e9 := rs1 hm
    subst e9
    exact rk_iretP (pc := 64) hx hb hr hlk rfl dX9_hopeful_64
  · have hm := ite_f c1 hm
    refine lv_aload_n (pc := 12) hx hb dX9_hopeful_12 rfl (lv_at hl 0 rfl) ?_
    refine rk_get (pc := 13) hx hb hts hown hK hW0 flX9_65 0 (by decide) rfl rfl (x := .ref (b0 + 41)) (by first | rfl | exact congrArg (fun z => some (Value.ref z)) (by omega)) dX9_hopeful_13 ?_
    refine lv_iload_n (pc := 16) hx hb dX9_hopeful_16 rfl (lv_at hl 2 rfl) ?_
    obtain ⟨hg2, hm⟩ := gb_some hm
    refine rk_zald (pc := 17) hx hb hK hW0 41 (by decide) rfl rfl hg2 (x := (gI V0 41 i2.toNatClampNeg)) rfl dX9_hopeful_17 ?_
    refine lv_if_eq (pc := 18) (tgt := 57) hx hb dX9_hopeful_18 (by decide) (fun c3 => ?_) (fun c3 => ?_)
    · have hm := ite_t c3 hm
      refine lv_iinc (pc := 57) (v := (i2 + (1 : Int32))) (lv' := [(2, .int (i2 + (1 : Int32))), (0, .ref b0), (1, .int i1)]) hx hb dX9_hopeful_57 hl (k := 2) rfl rfl (by decide) rfl (fun ls hl => ?_)
      refine lv_goto (pc := 60) (tgt := 4) hx hb dX9_hopeful_60 (by decide) ?_
      exact hk4 i1 (i2 + (1 : Int32)) hm ls (lv_sub hl [1, 2, 0] rfl)
    · have hm := ite_f c3 hm
      refine lv_iload_n (pc := 21) hx hb dX9_hopeful_21 rfl (lv_at hl 1 rfl) ?_
      refine lv_if_lt (pc := 22) (tgt := 55) hx hb dX9_hopeful_22 (by decide) (fun c4 => ?_) (fun c4 => ?_)
      · have hm := ite_t c4 hm
        refine lv_iload_n (pc := 55) hx hb dX9_hopeful_55 rfl (lv_at hl 2 rfl) ?_
        refine lv_istore_n (pc := 56) (lv' := [(1, .int i2), (0, .ref b0), (2, .int i2)]) hx hb dX9_hopeful_56 rfl hl (by decide) rfl (fun ls hl => ?_)
        refine lv_iinc (pc := 57) (v := (i2 + (1 : Int32))) (lv' := [(2, .int (i2 + (1 : Int32))), (1, .int i2), (0, .ref b0)]) hx hb dX9_hopeful_57 hl (k := 2) rfl rfl (by decide) rfl (fun ls hl => ?_)
        refine lv_goto (pc := 60) (tgt := 4) hx hb dX9_hopeful_60 (by decide) ?_
        exact hk4 i2 (i2 + (1 : Int32)) hm ls (lv_sub hl [2, 1, 0] rfl)
      · have hm := ite_f c4 hm
        refine lv_aload_n (pc := 25) hx hb dX9_hopeful_25 rfl (lv_at hl 0 rfl) ?_
        refine rk_get (pc := 26) hx hb hts hown hK hW0 flX9_59 0 (by decide) rfl rfl (x := .ref (b0 + 39)) (by first | rfl | exact congrArg (fun z => some (Value.ref z)) (by omega)) dX9_hopeful_26 ?_
        refine lv_iload_n (pc := 29) hx hb dX9_hopeful_29 rfl (lv_at hl 2 rfl) ?_
        obtain ⟨hg5, hm⟩ := gb_some hm
        refine rk_lald (pc := 30) hx hb hK hW0 39 (by decide) rfl rfl hg5 (x := (gL V0 39 i2.toNatClampNeg)) rfl dX9_hopeful_30 ?_
        refine lv_aload_n (pc := 31) hx hb dX9_hopeful_31 rfl (lv_at hl 0 rfl) ?_
        refine rk_get (pc := 32) hx hb hts hown hK hW0 flX9_62 0 (by decide) rfl rfl (x := .ref (b0 + 40)) (by first | rfl | exact congrArg (fun z => some (Value.ref z)) (by omega)) dX9_hopeful_32 ?_
        refine lv_iload_n (pc := 35) hx hb dX9_hopeful_35 rfl (lv_at hl 1 rfl) ?_
        obtain ⟨hg6, hm⟩ := gb_some hm
        refine rk_lald (pc := 36) hx hb hK hW0 40 (by decide) rfl rfl hg6 (x := (gL V0 40 i1.toNatClampNeg)) rfl dX9_hopeful_36 ?_
        refine lv_lmul (pc := 37) hx hb dX9_hopeful_37 ?_
        refine lv_aload_n (pc := 38) hx hb dX9_hopeful_38 rfl (lv_at hl 0 rfl) ?_
        refine rk_get (pc := 39) hx hb hts hown hK hW0 flX9_59 0 (by decide) rfl rfl (x := .ref (b0 + 39)) (by first | rfl | exact congrArg (fun z => some (Value.ref z)) (by omega)) dX9_hopeful_39 ?_
        refine lv_iload_n (pc := 42) hx hb dX9_hopeful_42 rfl (lv_at hl 1 rfl) ?_
        obtain ⟨hg7, hm⟩ := gb_some hm
        refine rk_lald (pc := 43) hx hb hK hW0 39 (by decide) rfl rfl hg7 (x := (gL V0 39 i1.toNatClampNeg)) rfl dX9_hopeful_43 ?_
        refine lv_aload_n (pc := 44) hx hb dX9_hopeful_44 rfl (lv_at hl 0 rfl) ?_
        refine rk_get (pc := 45) hx hb hts hown hK hW0 flX9_62 0 (by decide) rfl rfl (x := .ref (b0 + 40)) (by first | rfl | exact congrArg (fun z => some (Value.ref z)) (by omega)) dX9_hopeful_45 ?_
        refine lv_iload_n (pc := 48) hx hb dX9_hopeful_48 rfl (lv_at hl 2 rfl) ?_
        obtain ⟨hg8, hm⟩ := gb_some hm
        refine rk_lald (pc := 49) hx hb hK hW0 40 (by decide) rfl rfl hg8 (x := (gL V0 40 i2.toNatClampNeg)) rfl dX9_hopeful_49 ?_
        refine lv_lmul (pc := 50) hx hb dX9_hopeful_50 ?_
        refine rk_lcmp_ge (pc := 51) (tgt := 57) hx hb dX9_hopeful_51 rfl dX9_hopeful_52 (by decide) (fun c9 => ?_) (fun c9 => ?_)
        · have hm := ite_t c9 hm
          refine lv_iinc (pc := 57) (v := (i2 + (1 : Int32))) (lv' := [(2, .int (i2 + (1 : Int32))), (0, .ref b0), (1, .int i1)]) hx hb dX9_hopeful_57 hl (k := 2) rfl rfl (by decide) rfl (fun ls hl => ?_)
          refine lv_goto (pc := 60) (tgt := 4) hx hb dX9_hopeful_60 (by decide) ?_
          exact hk4 i1 (i2 + (1 : Int32)) hm ls (lv_sub hl [1, 2, 0] rfl)
        · have hm := ite_f c9 hm
          refine lv_iload_n (pc := 55) hx hb dX9_hopeful_55 rfl (lv_at hl 2 rfl) ?_
          refine lv_istore_n (pc := 56) (lv' := [(1, .int i2), (0, .ref b0), (2, .int i2)]) hx hb dX9_hopeful_56 rfl hl (by decide) rfl (fun ls hl => ?_)
          refine lv_iinc (pc := 57) (v := (i2 + (1 : Int32))) (lv' := [(2, .int (i2 + (1 : Int32))), (1, .int i2), (0, .ref b0)]) hx hb dX9_hopeful_57 hl (k := 2) rfl rfl (by decide) rfl (fun ls hl => ?_)
          refine lv_goto (pc := 60) (tgt := 4) hx hb dX9_hopeful_60 (by decide) ?_
          exact hk4 i2 (i2 + (1 : Int32)) hm ls (lv_sub hl [2, 1, 0] rfl)
theorem w_fX9_hopeful_4_l (C : Cx G p s m args meth c RX9 cX9_hopeful 3 (some .int)) {b0 : Nat} {V0 : Mem} {rx : Int32} (hW0 : rg G b0 46 (shX9 G.2.1) V0 s.heap) : ∀ (n : Nat) (i1 : Int32) (i2 : Int32), lq2 (fX9_hopeful_4 V0) n i1 i2 = some rx → ∀ (ls : Array Slot), lv_has ls 3 [(0, .ref b0), (1, .int i1), (2, .int i2)] → W p l e (rmP 0 0) s m args below meth c s.heap [] 0 0 (MQ below (QcP (some (.int rx))) args s 0 0 (fun _ => False)) (F0 m 4 ls []) := by
  intro n
  induction n with
  | zero => intro i1 i2 hm; exact (lq2_0 hm).elim
  | succ n ih => intro i1 i2 hm; exact w_fX9_hopeful_4 C hW0 ih i1 i2 (lq2_s hm)
set_option maxHeartbeats 4000000 in
theorem w_fX9_hopeful (C : Cx G p s m args meth c RX9 cX9_hopeful 3 (some .int)) {b0 : Nat} {V0 : Mem} {rx : Int32} (hW0 : rg G b0 46 (shX9 G.2.1) V0 s.heap) : fX9_hopeful V0 = some rx → ∀ (ls : Array Slot), lv_has ls 3 [(0, .ref b0)] → W p l e (rmP 0 0) s m args below meth c s.heap [] 0 0 (MQ below (QcP (some (.int rx))) args s 0 0 (fun _ => False)) (F0 m 0 ls []) := by
  intro hm ls hl
  obtain ⟨hx, hb, hr, hlk, hml, hown, hts, hK⟩ := id C
  unfold fX9_hopeful at hm
  refine lv_iconst (pc := 0) (v := (-1 : Int32)) hx hb dX9_hopeful_0 (by decide) ?_
  refine lv_istore_n (pc := 1) (lv' := [(1, .int (-1 : Int32)), (0, .ref b0)]) hx hb dX9_hopeful_1 rfl hl (by decide) rfl (fun ls hl => ?_)
  refine lv_iconst (pc := 2) (v := (0 : Int32)) hx hb dX9_hopeful_2 (by decide) ?_
  refine lv_istore_n (pc := 3) (lv' := [(2, .int (0 : Int32)), (1, .int (-1 : Int32)), (0, .ref b0)]) hx hb dX9_hopeful_3 rfl hl (by decide) rfl (fun ls hl => ?_)
  exact (w_fX9_hopeful_4_l C hW0 FU) (-1 : Int32) (0 : Int32) hm ls (lv_sub hl [2, 1, 0] rfl)
set_option maxHeartbeats 4000000 in
theorem ct_X9_hopeful {G : Gv} {l : Launch} {b0 : Nat} {V0 : Mem} {rx : Int32} (hm : fX9_hopeful V0  = some rx) : CP G l yX9_hopeful (ws_ yX9_hopeful cX9_hopeful 3 (some .int)) 0 0 [.ref b0] (fun H => rg G b0 46 (shX9 G.2.1) V0 H) (some (.int rx)) := by
  refine Met.ofW (cc := cX9_hopeful) (maxL := 3) (ret := (some .int)) (by decide +kernel) rfl ?_
  intro p e s m args below meth c s₁ B hml hv
  obtain ⟨rfl, hW0, hK⟩ := hv
  have hts := atoms_spec (ws := ws_ yX9_hopeful cX9_hopeful 3 (some .int)) B.pre
  have hts : ∀ w ∈ lw_all, w.before _ s = true := fun w h => hts w (List.mem_cons_of_mem _ h)
  have C : Cx G p s m _ meth c RX9 cX9_hopeful 3 (some .int) := ⟨B.exec, B.bytes, B.returns, B.notSynchronized, hml, findClass_of_methodNamed B.named, hts, hK⟩
  have hl := lv_entry ([.ref b0]) (n := 3) (Nat.le_of_ble_eq_true rfl)
  rw [lg_entry_eq]
  generalize (lg_sl ([.ref b0]) ++ List.replicate (3 - (lg_sl ([.ref b0])).length) Slot.unset).toArray = ls at hl ⊢
  have hl : lv_has ls 3 [(0, .ref b0)] := hl
  exact w_fX9_hopeful C hW0  hm ls hl
noncomputable def fX9_partlyOf_2 (V0 : Mem) (k2 : Int32 → Int32 → Option (Int32)) (i1 : Int32) (i2 : Int32) : Option (Int32) :=
  ob (fX9_n V0) fun r1 =>
  if r1 ≤ i2 then (
  some (-1 : Int32))
  else (
  gb (inR (((5 : Int32) * i1) + i2) 200) (
  gb (inR i1 40) (
  gb (nz64 (gL V0 40 i1.toNatClampNeg)) (
  if ((gL V0 38 (((5 : Int32) * i1) + i2).toNatClampNeg) - (gL V0 38 (((5 : Int32) * i1) + i2).toNatClampNeg) / (gL V0 40 i1.toNatClampNeg) * (gL V0 40 i1.toNatClampNeg)) = (0 : Int64) then (
  k2 i1 (i2 + (1 : Int32)))
  else (
  some i2)))))
noncomputable def fX9_partlyOf (V0 : Mem) (i1 : Int32) : Option (Int32) :=
  lq2 (fX9_partlyOf_2 V0) FU i1 (0 : Int32)
set_option maxHeartbeats 4000000 in
theorem w_fX9_partlyOf_2 (C : Cx G p s m args meth c RX9 cX9_partlyOf 3 (some .int)) {b0 : Nat} {V0 : Mem} {rx : Int32} (hW0 : rg G b0 46 (shX9 G.2.1) V0 s.heap) {k2 : Int32 → Int32 → Option (Int32)} (hk2 : ∀ (i1 : Int32) (i2 : Int32), k2 i1 i2 = some rx → ∀ (ls : Array Slot), lv_has ls 3 [(0, .ref b0), (1, .int i1), (2, .int i2)] → W p l e (rmP 1 20) s m args below meth c s.heap [] 0 0 (MQ below (QcP (some (.int rx))) args s 0 0 (fun _ => False)) (F0 m 2 ls [])) : ∀ (i1 : Int32) (i2 : Int32), fX9_partlyOf_2 V0 k2 i1 i2 = some rx → ∀ (ls : Array Slot), lv_has ls 3 [(0, .ref b0), (1, .int i1), (2, .int i2)] → W p l e (rmP 1 20) s m args below meth c s.heap [] 0 0 (MQ below (QcP (some (.int rx))) args s 0 0 (fun _ => False)) (F0 m 2 ls []) := by
  intro i1 i2 hm ls hl
  obtain ⟨hx, hb, hr, hlk, hml, hown, hts, hK⟩ := id C
  unfold fX9_partlyOf_2 at hm
  refine lv_iload_n (pc := 2) hx hb dX9_partlyOf_2 rfl (lv_at hl 2 rfl) ?_
  refine lv_aload_n (pc := 3) hx hb dX9_partlyOf_3 rfl (lv_at hl 0 rfl) ?_
  obtain ⟨r1, hq2, hm⟩ := ob_some hm
  refine rk_PV (pc := 4) (As := []) (rest := [.int i2]) hx hb hml hown hts hK lkX9_89 rfl yn_X9_n (ct_X9_n (G := G) (l := l) (b0 := b0) hq2) ⟨Nat.le_of_ble_eq_true rfl, Nat.le_of_ble_eq_true rfl⟩ (rk_recv hK hW0 0 (by decide) rfl rfl rfl) (rg_take hW0 (by decide)) rfl rfl hl.1 (Nat.le_of_ble_eq_true rfl) dX9_partlyOf_4 ⟨Nat.zero_le _, Nat.zero_le _⟩ ?_
  refine W.eq (g2 := F0 m 7 ls [.int r1, .int i2]) rfl ?_
  refine lv_icmp_ge (pc := 7) (tgt := 40) hx hb dX9_partlyOf_7 (by decide) (fun c3 => ?_) (fun c3 => ?_)
  · have hm := ite_t c3 hm
    refine lv_iconst (pc := 40) (v := (-1 : Int32)) hx hb dX9_partlyOf_40 (by decide) ?_
    have e9 := rs1 hm
    subst e9
    exact rk_iretP (pc := 41) hx hb hr hlk rfl dX9_partlyOf_41
  · have hm := ite_f c3 hm
    refine lv_aload_n (pc := 10) hx hb dX9_partlyOf_10 rfl (lv_at hl 0 rfl) ?_
    refine rk_get (pc := 11) hx hb hts hown hK hW0 flX9_55 0 (by decide) rfl rfl (x := .ref (b0 + 38)) (by first | rfl | exact congrArg (fun z => some (Value.ref z)) (by omega)) dX9_partlyOf_11 ?_
    refine lv_iconst (pc := 14) (v := (5 : Int32)) hx hb dX9_partlyOf_14 (by decide) ?_
    refine lv_iload_n (pc := 15) hx hb dX9_partlyOf_15 rfl (lv_at hl 1 rfl) ?_
    refine lv_imul (pc := 16) hx hb dX9_partlyOf_16 ?_
    refine lv_iload_n (pc := 17) hx hb dX9_partlyOf_17 rfl (lv_at hl 2 rfl) ?_
    refine lv_iadd (pc := 18) hx hb dX9_partlyOf_18 ?_
    obtain ⟨hg4, hm⟩ := gb_some hm
    refine rk_lald (pc := 19) hx hb hK hW0 38 (by decide) rfl rfl hg4 (x := (gL V0 38 (((5 : Int32) * i1) + i2).toNatClampNeg)) rfl dX9_partlyOf_19 ?_
    refine lv_aload_n (pc := 20) hx hb dX9_partlyOf_20 rfl (lv_at hl 0 rfl) ?_
    refine rk_get (pc := 21) hx hb hts hown hK hW0 flX9_62 0 (by decide) rfl rfl (x := .ref (b0 + 40)) (by first | rfl | exact congrArg (fun z => some (Value.ref z)) (by omega)) dX9_partlyOf_21 ?_
    refine lv_iload_n (pc := 24) hx hb dX9_partlyOf_24 rfl (lv_at hl 1 rfl) ?_
    obtain ⟨hg5, hm⟩ := gb_some hm
    refine rk_lald (pc := 25) hx hb hK hW0 40 (by decide) rfl rfl hg5 (x := (gL V0 40 i1.toNatClampNeg)) rfl dX9_partlyOf_25 ?_
    obtain ⟨hg6, hm⟩ := gb_some hm
    refine lv_lrem (pc := 26) hx hb dX9_partlyOf_26 (nz64_ne hg6) ?_
    refine lv_lconst (pc := 27) (v := (0 : Int64)) hx hb dX9_partlyOf_27 (by decide) ?_
    refine rk_lcmp_eq (pc := 28) (tgt := 34) hx hb dX9_partlyOf_28 rfl dX9_partlyOf_29 (by decide) (fun c7 => ?_) (fun c7 => ?_)
    · have hm := ite_t c7 hm
      refine lv_iinc (pc := 34) (v := (i2 + (1 : Int32))) (lv' := [(2, .int (i2 + (1 : Int32))), (0, .ref b0), (1, .int i1)]) hx hb dX9_partlyOf_34 hl (k := 2) rfl rfl (by decide) rfl (fun ls hl => ?_)
      refine lv_goto (pc := 37) (tgt := 2) hx hb dX9_partlyOf_37 (by decide) ?_
      exact hk2 i1 (i2 + (1 : Int32)) hm ls (lv_sub hl [1, 2, 0] rfl)
    · have hm := ite_f c7 hm
      refine lv_iload_n (pc := 32) hx hb dX9_partlyOf_32 rfl (lv_at hl 2 rfl) ?_
      have e9 := rs1 hm
      subst e9
      exact rk_iretP (pc := 33) hx hb hr hlk rfl dX9_partlyOf_33
theorem w_fX9_partlyOf_2_l (C : Cx G p s m args meth c RX9 cX9_partlyOf 3 (some .int)) {b0 : Nat} {V0 : Mem} {rx : Int32} (hW0 : rg G b0 46 (shX9 G.2.1) V0 s.heap) : ∀ (n : Nat) (i1 : Int32) (i2 : Int32), lq2 (fX9_partlyOf_2 V0) n i1 i2 = some rx → ∀ (ls : Array Slot), lv_has ls 3 [(0, .ref b0), (1, .int i1), (2, .int i2)] → W p l e (rmP 1 20) s m args below meth c s.heap [] 0 0 (MQ below (QcP (some (.int rx))) args s 0 0 (fun _ => False)) (F0 m 2 ls []) := by
  intro n
  induction n with
  | zero => intro i1 i2 hm; exact (lq2_0 hm).elim
  | succ n ih => intro i1 i2 hm; exact w_fX9_partlyOf_2 C hW0 ih i1 i2 (lq2_s hm)
set_option maxHeartbeats 4000000 in
theorem w_fX9_partlyOf (C : Cx G p s m args meth c RX9 cX9_partlyOf 3 (some .int)) {b0 : Nat} {V0 : Mem} {rx : Int32} (hW0 : rg G b0 46 (shX9 G.2.1) V0 s.heap) : ∀ (i1 : Int32), fX9_partlyOf V0 i1 = some rx → ∀ (ls : Array Slot), lv_has ls 3 [(0, .ref b0), (1, .int i1)] → W p l e (rmP 1 20) s m args below meth c s.heap [] 0 0 (MQ below (QcP (some (.int rx))) args s 0 0 (fun _ => False)) (F0 m 0 ls []) := by
  intro i1 hm ls hl
  obtain ⟨hx, hb, hr, hlk, hml, hown, hts, hK⟩ := id C
  unfold fX9_partlyOf at hm
  refine lv_iconst (pc := 0) (v := (0 : Int32)) hx hb dX9_partlyOf_0 (by decide) ?_
  refine lv_istore_n (pc := 1) (lv' := [(2, .int (0 : Int32)), (0, .ref b0), (1, .int i1)]) hx hb dX9_partlyOf_1 rfl hl (by decide) rfl (fun ls hl => ?_)
  exact (w_fX9_partlyOf_2_l C hW0 FU) i1 (0 : Int32) hm ls (lv_sub hl [1, 2, 0] rfl)
set_option maxHeartbeats 4000000 in
theorem ct_X9_partlyOf {G : Gv} {l : Launch} {b0 : Nat} {V0 : Mem} {i1 : Int32} {rx : Int32} (hm : fX9_partlyOf V0 i1 = some rx) : CP G l yX9_partlyOf (ws_ yX9_partlyOf cX9_partlyOf 3 (some .int)) 1 20 [.ref b0, .int i1] (fun H => rg G b0 46 (shX9 G.2.1) V0 H) (some (.int rx)) := by
  refine Met.ofW (cc := cX9_partlyOf) (maxL := 3) (ret := (some .int)) (by decide +kernel) rfl ?_
  intro p e s m args below meth c s₁ B hml hv
  obtain ⟨rfl, hW0, hK⟩ := hv
  have hts := atoms_spec (ws := ws_ yX9_partlyOf cX9_partlyOf 3 (some .int)) B.pre
  have hts : ∀ w ∈ lw_all, w.before _ s = true := fun w h => hts w (List.mem_cons_of_mem _ h)
  have C : Cx G p s m _ meth c RX9 cX9_partlyOf 3 (some .int) := ⟨B.exec, B.bytes, B.returns, B.notSynchronized, hml, findClass_of_methodNamed B.named, hts, hK⟩
  have hl := lv_entry ([.ref b0, .int i1]) (n := 3) (Nat.le_of_ble_eq_true rfl)
  rw [lg_entry_eq]
  generalize (lg_sl ([.ref b0, .int i1]) ++ List.replicate (3 - (lg_sl ([.ref b0, .int i1])).length) Slot.unset).toArray = ls at hl ⊢
  have hl : lv_has ls 3 [(0, .ref b0), (1, .int i1)] := hl
  exact w_fX9_partlyOf C hW0 _ hm ls hl
theorem yn_X9_comes : YN yX9_comes 4 := by
  unfold YN
  decide +kernel
theorem lkX9_384 : LV RX9 384 RX9 yX9_comes cX9_comes 7 (some .int) := ⟨q2235, q2237, qs97, q128, q2238⟩
theorem yn_X9_hopeful : YN yX9_hopeful 0 := by
  unfold YN
  decide +kernel
theorem lkX9_388 : LV RX9 388 RX9 yX9_hopeful cX9_hopeful 3 (some .int) := ⟨q2247, q2249, qs100, q128, q2250⟩
theorem flX9_391 : FL RX9 391 9 23 RX9 TX9 29 := ⟨in_X9, rfl, by decide, q1850⟩
theorem yn_X9_partlyOf : YN yX9_partlyOf 1 := by
  unfold YN
  decide +kernel
theorem lkX9_394 : LV RX9 394 RX9 yX9_partlyOf cX9_partlyOf 3 (some .int) := ⟨q2251, q2253, qs101, q128, q2254⟩
noncomputable def fX9_branches_19 (k19 : Mem → Int32 → Option (Int32 × Mem)) (v0 : Mem) (i1 : Int32) : Option (Int32 × Mem) :=
  if i1 = (1 : Int32) then (
  ob (fX9_hopeful v0) fun r29 =>
  if 0 ≤ r29 then (
  gb (inR r29 40) (
  lm (sI v0 41 r29.toNatClampNeg (0 : Int32)) fun v0_33 =>
  lm (sI v0_33 0 23 r29) fun v0_41 =>
  ob (fX9_partlyOf v0_41 r29) fun r49 =>
  if 0 ≤ r49 then (
  gb (inR (((5 : Int32) * r29) + r49) 200) (
  gb (inR r29 40) (
  gb (nz64 (gL v0_41 40 r29.toNatClampNeg)) (
  ob2 (fX9_comes v0_41 r29 r49 (0 : Int32) ((gL v0_41 38 (((5 : Int32) * r29) + r49).toNatClampNeg) / (gL v0_41 40 r29.toNatClampNeg)).toInt32) fun r55 w56 =>
  if r55 = (1 : Int32) then (
  ob2 (fX9_comes w56 r29 r49 (((gL v0_41 38 (((5 : Int32) * r29) + r49).toNatClampNeg) / (gL v0_41 40 r29.toNatClampNeg)).toInt32 + (1 : Int32)) (-1 : Int32)) fun r67 w68 =>
  k19 w68 r67)
  else (
  k19 w56 r55)))))
  else (
  some ((1 : Int32), v0_41))))
  else (
  some ((-5 : Int32), v0)))
  else (
  some (i1, v0))
noncomputable def fX9_branches (v0 : Mem) : Option (Int32 × Mem) :=
  lm (sI v0 0 21 (0 : Int32)) fun v0_1 =>
  lm (sI v0_1 0 22 (0 : Int32)) fun v0_9 =>
  ob2 (fX9_comes v0_9 (-1 : Int32) (0 : Int32) (0 : Int32) (-1 : Int32)) fun r17 w18 =>
  lq2 (fX9_branches_19) FU w18 r17
set_option maxHeartbeats 4000000 in
theorem w_fX9_branches_19 (C : Cx G p s m args meth c RX9 cX9_branches 5 (some .int)) {b0 : Nat} {rx : Int32} {rw0 : Mem} {k19 : Mem → Int32 → Option (Int32 × Mem)} (hk19 : ∀ (v0 : Mem) (i1 : Int32), k19 v0 i1 = some (rx, rw0) → ∀ (H : Heap) (locs : List Loc) (ls : Array Slot), rg G b0 46 (shX9 G.2.1) v0 H → va_S (FA (iv b0 46) s.heap.size) s.heap H locs → H.size = s.heap.size → lv_has ls 5 [(0, .ref b0), (1, .int i1)] → W p l e (rmT 6 0 0 151) s m args below meth c H locs 0 0 (MQ below (QcT (FA (iv b0 46) s.heap.size) (fun ov H => ov = (some (.int rx)) ∧ rg G b0 46 (shX9 G.2.1) rw0 H ∧ H.size = s.heap.size)) args s 0 0 (FA (iv b0 46) s.heap.size)) (F0 m 19 ls [])) : ∀ (v0 : Mem) (i1 : Int32), fX9_branches_19 k19 v0 i1 = some (rx, rw0) → ∀ (H : Heap) (locs : List Loc) (ls : Array Slot), rg G b0 46 (shX9 G.2.1) v0 H → va_S (FA (iv b0 46) s.heap.size) s.heap H locs → H.size = s.heap.size → lv_has ls 5 [(0, .ref b0), (1, .int i1)] → W p l e (rmT 6 0 0 151) s m args below meth c H locs 0 0 (MQ below (QcT (FA (iv b0 46) s.heap.size) (fun ov H => ov = (some (.int rx)) ∧ rg G b0 46 (shX9 G.2.1) rw0 H ∧ H.size = s.heap.size)) args s 0 0 (FA (iv b0 46) s.heap.size)) (F0 m 19 ls []) := by
  intro v0 i1 hm H locs ls hW0 hS hz hl
  obtain ⟨hx, hb, hr, hlk, hml, hown, hts, hK⟩ := id C
  unfold fX9_branches_19 at hm
  refine lv_iload_n (pc := 19) hx hb dX9_branches_19 rfl (lv_at hl 1 rfl) ?_
  refine lv_iconst (pc := 20) (v := (1 : Int32)) hx hb dX9_branches_20 (by decide) ?_
  refine lv_icmp_ne (pc := 21) (tgt := 110) hx hb dX9_branches_21 (by decide) (fun c28 => ?_) (fun c28 => ?_)
  · have hm := ite_f c28 hm
    refine lv_iload_n (pc := 110) hx hb dX9_branches_110 rfl (lv_at hl 1 rfl) ?_
    obtain ⟨e8, e9⟩ := rs2 hm
    subst e8
    subst e9
    exact rk_iret (pc := 111) hx hb hr hlk hS ⟨rfl, hW0, hz⟩ dX9_branches_111
  · have hm := ite_t c28 hm
    refine lv_aload_n (pc := 24) hx hb dX9_branches_24 rfl (lv_at hl 0 rfl) ?_
    obtain ⟨r29, hq30, hm⟩ := ob_some hm
    refine rk_PV (pc := 25) (As := []) (rest := []) hx hb hml hown hts hK lkX9_388 rfl yn_X9_hopeful (ct_X9_hopeful (G := G) (l := l) (b0 := b0) hq30) ⟨Nat.le_of_ble_eq_true rfl, Nat.le_of_ble_eq_true rfl⟩ (rk_recv hK hW0 0 (by decide) rfl rfl rfl) hW0 rfl rfl hl.1 (Nat.le_of_ble_eq_true rfl) dX9_branches_25 ⟨Nat.zero_le _, Nat.zero_le _⟩ ?_
    refine W.eq (g2 := F0 m 28 ls [.int r29]) rfl ?_
    refine lv_istore_n (pc := 28) (lv' := [(2, .int r29), (0, .ref b0), (1, .int i1)]) hx hb dX9_branches_28 rfl hl (by decide) rfl (fun ls hl => ?_)
    refine lv_iload_n (pc := 29) hx hb dX9_branches_29 rfl (lv_at hl 0 rfl) ?_
    refine lv_if_ge (pc := 30) (tgt := 36) hx hb dX9_branches_30 (by decide) (fun c31 => ?_) (fun c31 => ?_)
    · have hm := ite_t c31 hm
      refine lv_aload_n (pc := 36) hx hb dX9_branches_36 rfl (lv_at hl 1 rfl) ?_
      refine rk_get (pc := 37) hx hb hts hown hK hW0 flX9_65 0 (by decide) rfl rfl (x := .ref (b0 + 41)) (by first | rfl | exact congrArg (fun z => some (Value.ref z)) (by omega)) dX9_branches_37 ?_
      refine lv_iload_n (pc := 40) hx hb dX9_branches_40 rfl (lv_at hl 0 rfl) ?_
      refine lv_iconst (pc := 41) (v := (0 : Int32)) hx hb dX9_branches_41 (by decide) ?_
      obtain ⟨hg32, hm⟩ := gb_some hm
      refine rk_zast (pc := 42) hx hb hK hW0 hS 41 (by decide) rfl (Or.inl (show iv _ _ _ from ⟨by omega, by omega⟩)) (fun _ _ _ => rfl) hg32 rfl dX9_branches_42 (fun H34 locs35 hW36 hS37 hz38 hkp39 => ?_)
      obtain ⟨v0_33, he9, hm⟩ := lm_some hm
      rw [he9] at hW36
      have hz40 := hz38.trans hz
      refine lv_aload_n (pc := 43) hx hb dX9_branches_43 rfl (lv_at hl 1 rfl) ?_
      refine lv_iload_n (pc := 44) hx hb dX9_branches_44 rfl (lv_at hl 0 rfl) ?_
      refine rk_put (pc := 45) hx hb hts hown hK hW36 hS37 flX9_391 ft_X9 0 (by decide) rfl (Or.inl (show iv _ _ _ from ⟨by omega, by omega⟩)) rfl rfl (x := .int r29) rfl rfl (Nat.le_of_ble_eq_true rfl) (sI v0_33 0 23 r29) sI_ne (by rw [sI_eq]; exact rfl) dX9_branches_45 (fun H42 locs43 hW44 hS45 hz46 hkp47 => ?_)
      obtain ⟨v0_41, he9, hm⟩ := lm_some hm
      rw [he9] at hW44
      have hz48 := hz46.trans hz40
      refine lv_aload_n (pc := 48) hx hb dX9_branches_48 rfl (lv_at hl 1 rfl) ?_
      refine lv_iload_n (pc := 49) hx hb dX9_branches_49 rfl (lv_at hl 0 rfl) ?_
      obtain ⟨r49, hq50, hm⟩ := ob_some hm
      refine rk_PV (pc := 50) (As := [.int r29]) (rest := []) hx hb hml hown hts hK lkX9_394 rfl yn_X9_partlyOf (ct_X9_partlyOf (G := G) (l := l) (b0 := b0) hq50) ⟨Nat.le_of_ble_eq_true rfl, Nat.le_of_ble_eq_true rfl⟩ (rk_recv hK hW44 0 (by decide) rfl rfl rfl) hW44 rfl rfl hl.1 (Nat.le_of_ble_eq_true rfl) dX9_branches_50 ⟨Nat.zero_le _, Nat.zero_le _⟩ ?_
      refine W.eq (g2 := F0 m 53 ls [.int r49]) rfl ?_
      refine lv_istore_n (pc := 53) (lv' := [(3, .int r49), (2, .int r29), (0, .ref b0), (1, .int i1)]) hx hb dX9_branches_53 rfl hl (by decide) rfl (fun ls hl => ?_)
      refine lv_iload_n (pc := 54) hx hb dX9_branches_54 rfl (lv_at hl 0 rfl) ?_
      refine lv_if_ge (pc := 55) (tgt := 60) hx hb dX9_branches_55 (by decide) (fun c51 => ?_) (fun c51 => ?_)
      · have hm := ite_t c51 hm
        refine lv_aload_n (pc := 60) hx hb dX9_branches_60 rfl (lv_at hl 2 rfl) ?_
        refine rk_get (pc := 61) hx hb hts hown hK hW44 flX9_55 0 (by decide) rfl rfl (x := .ref (b0 + 38)) (by first | rfl | exact congrArg (fun z => some (Value.ref z)) (by omega)) dX9_branches_61 ?_
        refine lv_iconst (pc := 64) (v := (5 : Int32)) hx hb dX9_branches_64 (by decide) ?_
        refine lv_iload_n (pc := 65) hx hb dX9_branches_65 rfl (lv_at hl 1 rfl) ?_
        refine lv_imul (pc := 66) hx hb dX9_branches_66 ?_
        refine lv_iload_n (pc := 67) hx hb dX9_branches_67 rfl (lv_at hl 0 rfl) ?_
        refine lv_iadd (pc := 68) hx hb dX9_branches_68 ?_
        obtain ⟨hg52, hm⟩ := gb_some hm
        refine rk_lald (pc := 69) hx hb hK hW44 38 (by decide) rfl rfl hg52 (x := (gL v0_41 38 (((5 : Int32) * r29) + r49).toNatClampNeg)) rfl dX9_branches_69 ?_
        refine lv_aload_n (pc := 70) hx hb dX9_branches_70 rfl (lv_at hl 2 rfl) ?_
        refine rk_get (pc := 71) hx hb hts hown hK hW44 flX9_62 0 (by decide) rfl rfl (x := .ref (b0 + 40)) (by first | rfl | exact congrArg (fun z => some (Value.ref z)) (by omega)) dX9_branches_71 ?_
        refine lv_iload_n (pc := 74) hx hb dX9_branches_74 rfl (lv_at hl 1 rfl) ?_
        obtain ⟨hg53, hm⟩ := gb_some hm
        refine rk_lald (pc := 75) hx hb hK hW44 40 (by decide) rfl rfl hg53 (x := (gL v0_41 40 r29.toNatClampNeg)) rfl dX9_branches_75 ?_
        obtain ⟨hg54, hm⟩ := gb_some hm
        refine lv_ldiv (pc := 76) hx hb dX9_branches_76 (nz64_ne hg54) ?_
        refine lv_l2i (pc := 77) hx hb dX9_branches_77 rfl ?_
        refine lv_istore (pc := 78) (lv' := [(4, .int ((gL v0_41 38 (((5 : Int32) * r29) + r49).toNatClampNeg) / (gL v0_41 40 r29.toNatClampNeg)).toInt32), (3, .int r49), (2, .int r29), (0, .ref b0), (1, .int i1)]) hx hb dX9_branches_78 hl (by decide) rfl (fun ls hl => ?_)
        refine lv_aload_n (pc := 80) hx hb dX9_branches_80 rfl (lv_at hl 3 rfl) ?_
        refine lv_iload_n (pc := 81) hx hb dX9_branches_81 rfl (lv_at hl 2 rfl) ?_
        refine lv_iload_n (pc := 82) hx hb dX9_branches_82 rfl (lv_at hl 1 rfl) ?_
        refine lv_iconst (pc := 83) (v := (0 : Int32)) hx hb dX9_branches_83 (by decide) ?_
        refine lv_iload (pc := 84) hx hb dX9_branches_84 (lv_at hl 0 rfl) ?_
        obtain ⟨r55, w56, hq57, hm⟩ := ob2_some hm
        refine rk_TV (pc := 86) (As := [.int r29, .int r49, .int (0 : Int32), .int ((gL v0_41 38 (((5 : Int32) * r29) + r49).toNatClampNeg) / (gL v0_41 40 r29.toNatClampNeg)).toInt32]) (rest := []) (mc := 0) (ms := 0) hx hb hml hown hts hK hS45 (fun q hq => FA_sz rfl q hq) lkX9_384 rfl yn_X9_comes (ct_X9_comes (G := G) (l := l) (b0 := b0) (sz := H42.size) hq57) ⟨Nat.le_of_ble_eq_true rfl, Nat.le_of_ble_eq_true rfl⟩ (fun z h => Or.inl (show iv _ _ _ from ⟨by have h8 := h.1; have h9 := h.2; omega, by have h8 := h.1; have h9 := h.2; omega⟩)) (rk_recv hK hW44 0 (by decide) rfl rfl rfl) hW44 rfl rfl hl.1 (Nat.le_of_ble_eq_true rfl) dX9_branches_86 ⟨Nat.zero_le _, Nat.zero_le _⟩ (fun ov9 H58 locs59 hP60 hkp61 hS62 => ?_)
        obtain ⟨rfl, hW63, hz64⟩ := hP60
        have hz65 := hz64.trans hz48
        refine W.eq (g2 := F0 m 89 ls [.int r55]) rfl ?_
        refine lv_istore_n (pc := 89) (lv' := [(1, .int r55), (4, .int ((gL v0_41 38 (((5 : Int32) * r29) + r49).toNatClampNeg) / (gL v0_41 40 r29.toNatClampNeg)).toInt32), (3, .int r49), (2, .int r29), (0, .ref b0)]) hx hb dX9_branches_89 rfl hl (by decide) rfl (fun ls hl => ?_)
        refine lv_iload_n (pc := 90) hx hb dX9_branches_90 rfl (lv_at hl 0 rfl) ?_
        refine lv_iconst (pc := 91) (v := (1 : Int32)) hx hb dX9_branches_91 (by decide) ?_
        refine lv_icmp_ne (pc := 92) (tgt := 107) hx hb dX9_branches_92 (by decide) (fun c66 => ?_) (fun c66 => ?_)
        · have hm := ite_f c66 hm
          refine lv_goto (pc := 107) (tgt := 19) hx hb dX9_branches_107 (by decide) ?_
          exact hk19 w56 r55 hm H58 locs59 ls hW63 hS62 hz65 (lv_sub hl [4, 0] rfl)
        · have hm := ite_t c66 hm
          refine lv_aload_n (pc := 95) hx hb dX9_branches_95 rfl (lv_at hl 4 rfl) ?_
          refine lv_iload_n (pc := 96) hx hb dX9_branches_96 rfl (lv_at hl 3 rfl) ?_
          refine lv_iload_n (pc := 97) hx hb dX9_branches_97 rfl (lv_at hl 2 rfl) ?_
          refine lv_iload (pc := 98) hx hb dX9_branches_98 (lv_at hl 1 rfl) ?_
          refine lv_iconst (pc := 100) (v := (1 : Int32)) hx hb dX9_branches_100 (by decide) ?_
          refine lv_iadd (pc := 101) hx hb dX9_branches_101 ?_
          refine lv_iconst (pc := 102) (v := (-1 : Int32)) hx hb dX9_branches_102 (by decide) ?_
          obtain ⟨r67, w68, hq69, hm⟩ := ob2_some hm
          refine rk_TV (pc := 103) (As := [.int r29, .int r49, .int (((gL v0_41 38 (((5 : Int32) * r29) + r49).toNatClampNeg) / (gL v0_41 40 r29.toNatClampNeg)).toInt32 + (1 : Int32)), .int (-1 : Int32)]) (rest := []) (mc := 0) (ms := 0) hx hb hml hown hts hK hS62 (fun q hq => FA_sz rfl q hq) lkX9_384 rfl yn_X9_comes (ct_X9_comes (G := G) (l := l) (b0 := b0) (sz := H58.size) hq69) ⟨Nat.le_of_ble_eq_true rfl, Nat.le_of_ble_eq_true rfl⟩ (fun z h => Or.inl (show iv _ _ _ from ⟨by have h8 := h.1; have h9 := h.2; omega, by have h8 := h.1; have h9 := h.2; omega⟩)) (rk_recv hK hW63 0 (by decide) rfl rfl rfl) hW63 rfl rfl hl.1 (Nat.le_of_ble_eq_true rfl) dX9_branches_103 ⟨Nat.zero_le _, Nat.zero_le _⟩ (fun ov9 H70 locs71 hP72 hkp73 hS74 => ?_)
          obtain ⟨rfl, hW75, hz76⟩ := hP72
          have hz77 := hz76.trans hz65
          refine W.eq (g2 := F0 m 106 ls [.int r67]) rfl ?_
          refine lv_istore_n (pc := 106) (lv' := [(1, .int r67), (4, .int ((gL v0_41 38 (((5 : Int32) * r29) + r49).toNatClampNeg) / (gL v0_41 40 r29.toNatClampNeg)).toInt32), (3, .int r49), (2, .int r29), (0, .ref b0)]) hx hb dX9_branches_106 rfl hl (by decide) rfl (fun ls hl => ?_)
          refine lv_goto (pc := 107) (tgt := 19) hx hb dX9_branches_107 (by decide) ?_
          exact hk19 w68 r67 hm H70 locs71 ls hW75 hS74 hz77 (lv_sub hl [4, 0] rfl)
      · have hm := ite_f c51 hm
        refine lv_iconst (pc := 58) (v := (1 : Int32)) hx hb dX9_branches_58 (by decide) ?_
        obtain ⟨e8, e9⟩ := rs2 hm
        subst e8
        subst e9
        exact rk_iret (pc := 59) hx hb hr hlk hS45 ⟨rfl, hW44, hz48⟩ dX9_branches_59
    · have hm := ite_f c31 hm
      refine lv_bipush (pc := 33) (v := (-5 : Int32)) hx hb dX9_branches_33 (by decide) ?_
      obtain ⟨e8, e9⟩ := rs2 hm
      subst e8
      subst e9
      exact rk_iret (pc := 35) hx hb hr hlk hS ⟨rfl, hW0, hz⟩ dX9_branches_35
theorem w_fX9_branches_19_l (C : Cx G p s m args meth c RX9 cX9_branches 5 (some .int)) {b0 : Nat} {rx : Int32} {rw0 : Mem} : ∀ (n : Nat) (v0 : Mem) (i1 : Int32), lq2 (fX9_branches_19) n v0 i1 = some (rx, rw0) → ∀ (H : Heap) (locs : List Loc) (ls : Array Slot), rg G b0 46 (shX9 G.2.1) v0 H → va_S (FA (iv b0 46) s.heap.size) s.heap H locs → H.size = s.heap.size → lv_has ls 5 [(0, .ref b0), (1, .int i1)] → W p l e (rmT 6 0 0 151) s m args below meth c H locs 0 0 (MQ below (QcT (FA (iv b0 46) s.heap.size) (fun ov H => ov = (some (.int rx)) ∧ rg G b0 46 (shX9 G.2.1) rw0 H ∧ H.size = s.heap.size)) args s 0 0 (FA (iv b0 46) s.heap.size)) (F0 m 19 ls []) := by
  intro n
  induction n with
  | zero => intro v0 i1 hm; exact (lq2_0 hm).elim
  | succ n ih => intro v0 i1 hm; exact w_fX9_branches_19 C ih v0 i1 (lq2_s hm)
set_option maxHeartbeats 4000000 in
theorem w_fX9_branches (C : Cx G p s m args meth c RX9 cX9_branches 5 (some .int)) {b0 : Nat} {rx : Int32} {rw0 : Mem} : ∀ (v0 : Mem), fX9_branches v0 = some (rx, rw0) → ∀ (H : Heap) (locs : List Loc) (ls : Array Slot), rg G b0 46 (shX9 G.2.1) v0 H → va_S (FA (iv b0 46) s.heap.size) s.heap H locs → H.size = s.heap.size → lv_has ls 5 [(0, .ref b0)] → W p l e (rmT 6 0 0 151) s m args below meth c H locs 0 0 (MQ below (QcT (FA (iv b0 46) s.heap.size) (fun ov H => ov = (some (.int rx)) ∧ rg G b0 46 (shX9 G.2.1) rw0 H ∧ H.size = s.heap.size)) args s 0 0 (FA (iv b0 46) s.heap.size)) (F0 m 0 ls []) := by
  intro v0 hm H locs ls hW0 hS hz hl
  obtain ⟨hx, hb, hr, hlk, hml, hown, hts, hK⟩ := id C
  unfold fX9_branches at hm
  refine lv_aload_n (pc := 0) hx hb dX9_branches_0 rfl (lv_at hl 0 rfl) ?_
  refine lv_iconst (pc := 1) (v := (0 : Int32)) hx hb dX9_branches_1 (by decide) ?_
  refine rk_put (pc := 2) hx hb hts hown hK hW0 hS flX9_371 ft_X9 0 (by decide) rfl (Or.inl (show iv _ _ _ from ⟨by omega, by omega⟩)) rfl rfl (x := .int (0 : Int32)) rfl rfl (Nat.le_of_ble_eq_true rfl) (sI v0 0 21 (0 : Int32)) sI_ne (by rw [sI_eq]; exact rfl) dX9_branches_2 (fun H2 locs3 hW4 hS5 hz6 hkp7 => ?_)
  obtain ⟨v0_1, he9, hm⟩ := lm_some hm
  rw [he9] at hW4
  have hz8 := hz6.trans hz
  refine lv_aload_n (pc := 5) hx hb dX9_branches_5 rfl (lv_at hl 0 rfl) ?_
  refine lv_iconst (pc := 6) (v := (0 : Int32)) hx hb dX9_branches_6 (by decide) ?_
  refine rk_put (pc := 7) hx hb hts hown hK hW4 hS5 flX9_381 ft_X9 0 (by decide) rfl (Or.inl (show iv _ _ _ from ⟨by omega, by omega⟩)) rfl rfl (x := .int (0 : Int32)) rfl rfl (Nat.le_of_ble_eq_true rfl) (sI v0_1 0 22 (0 : Int32)) sI_ne (by rw [sI_eq]; exact rfl) dX9_branches_7 (fun H10 locs11 hW12 hS13 hz14 hkp15 => ?_)
  obtain ⟨v0_9, he9, hm⟩ := lm_some hm
  rw [he9] at hW12
  have hz16 := hz14.trans hz8
  refine lv_aload_n (pc := 10) hx hb dX9_branches_10 rfl (lv_at hl 0 rfl) ?_
  refine lv_iconst (pc := 11) (v := (-1 : Int32)) hx hb dX9_branches_11 (by decide) ?_
  refine lv_iconst (pc := 12) (v := (0 : Int32)) hx hb dX9_branches_12 (by decide) ?_
  refine lv_iconst (pc := 13) (v := (0 : Int32)) hx hb dX9_branches_13 (by decide) ?_
  refine lv_iconst (pc := 14) (v := (-1 : Int32)) hx hb dX9_branches_14 (by decide) ?_
  obtain ⟨r17, w18, hq19, hm⟩ := ob2_some hm
  refine rk_TV (pc := 15) (As := [.int (-1 : Int32), .int (0 : Int32), .int (0 : Int32), .int (-1 : Int32)]) (rest := []) (mc := 0) (ms := 0) hx hb hml hown hts hK hS13 (fun q hq => FA_sz rfl q hq) lkX9_384 rfl yn_X9_comes (ct_X9_comes (G := G) (l := l) (b0 := b0) (sz := H10.size) hq19) ⟨Nat.le_of_ble_eq_true rfl, Nat.le_of_ble_eq_true rfl⟩ (fun z h => Or.inl (show iv _ _ _ from ⟨by have h8 := h.1; have h9 := h.2; omega, by have h8 := h.1; have h9 := h.2; omega⟩)) (rk_recv hK hW12 0 (by decide) rfl rfl rfl) hW12 rfl rfl hl.1 (Nat.le_of_ble_eq_true rfl) dX9_branches_15 ⟨Nat.zero_le _, Nat.zero_le _⟩ (fun ov9 H20 locs21 hP22 hkp23 hS24 => ?_)
  obtain ⟨rfl, hW25, hz26⟩ := hP22
  have hz27 := hz26.trans hz16
  refine W.eq (g2 := F0 m 18 ls [.int r17]) rfl ?_
  refine lv_istore_n (pc := 18) (lv' := [(1, .int r17), (0, .ref b0)]) hx hb dX9_branches_18 rfl hl (by decide) rfl (fun ls hl => ?_)
  exact (w_fX9_branches_19_l C FU) w18 r17 hm H20 locs21 ls hW25 hS24 hz27 (lv_sub hl [1, 0] rfl)
set_option maxHeartbeats 4000000 in
theorem ct_X9_branches {G : Gv} {l : Launch} {b0 : Nat} {v0 : Mem} {rx : Int32} {rw0 : Mem} {sz : Nat} (hm : fX9_branches v0 = some (rx, rw0)) : CT G l yX9_branches (ws_ yX9_branches cX9_branches 5 (some .int)) 6 0 0 151 [.ref b0] (iv b0 46) sz (fun H => rg G b0 46 (shX9 G.2.1) v0 H) (fun ov H => ov = (some (.int rx)) ∧ rg G b0 46 (shX9 G.2.1) rw0 H ∧ H.size = sz) := by
  refine Met.ofW (cc := cX9_branches) (maxL := 5) (ret := (some .int)) (by decide +kernel) rfl ?_
  intro p e s m args below meth c s₁ B hml hv
  obtain ⟨rfl, ⟨hz, hW0⟩, hK⟩ := hv
  subst hz
  have hts := atoms_spec (ws := ws_ yX9_branches cX9_branches 5 (some .int)) B.pre
  have hts : ∀ w ∈ lw_all, w.before _ s = true := fun w h => hts w (List.mem_cons_of_mem _ h)
  have C : Cx G p s m _ meth c RX9 cX9_branches 5 (some .int) := ⟨B.exec, B.bytes, B.returns, B.notSynchronized, hml, findClass_of_methodNamed B.named, hts, hK⟩
  have hl := lv_entry ([.ref b0]) (n := 5) (Nat.le_of_ble_eq_true rfl)
  rw [lg_entry_eq]
  generalize (lg_sl ([.ref b0]) ++ List.replicate (5 - (lg_sl ([.ref b0])).length) Slot.unset).toArray = ls at hl ⊢
  have hl : lv_has ls 5 [(0, .ref b0)] := hl
  exact w_fX9_branches C _ hm s.heap [] ls hW0 va_S.rf rfl hl
theorem yn_X9_branches : YN yX9_branches 0 := by
  unfold YN
  decide +kernel
theorem lkX9_397 : LV RX9 397 RX9 yX9_branches cX9_branches 5 (some .int) := ⟨q2231, q2233, qs96, q128, q2234⟩
noncomputable def fX9_branch (v0 : Mem) (i1 : Int32) : Option (Int32 × Mem) :=
  ob (fX9_n v0) fun r1 =>
  ob (fX9_isIn i1.toInt64 (0 : Int64) ((3 : Int32) + r1).toInt64) fun r3 =>
  if r3 = 0 then (
  some ((-1 : Int32), v0))
  else (
  ob2 (fX9_branches v0) fun r6 w7 =>
  if i1 = (1 : Int32) then (
  some ((gI w7 0 21), w7))
  else (
  if i1 = (3 : Int32) then (
  some ((gI w7 0 22), w7))
  else (
  if 0 ≤ r6 then (
  if i1 = 0 then (
  gb (inR (gI w7 0 23) 40) (
  gb (inR (gI w7 0 23) 40) (
  gb (nz64 (gL w7 40 (gI w7 0 23).toNatClampNeg)) (
  some (((gL w7 39 (gI w7 0 23).toNatClampNeg) / (gL w7 40 (gI w7 0 23).toNatClampNeg)).toInt32, w7)))))
  else (
  if i1 = (2 : Int32) then (
  gb (inR (gI w7 0 23) 40) (
  some ((gI w7 37 (gI w7 0 23).toNatClampNeg), w7)))
  else (
  gb (inR ((((5 : Int32) * (gI w7 0 23)) + i1) - (4 : Int32)) 200) (
  gb (inR (gI w7 0 23) 40) (
  gb (nz64 (gL w7 40 (gI w7 0 23).toNatClampNeg)) (
  some (((gL w7 38 ((((5 : Int32) * (gI w7 0 23)) + i1) - (4 : Int32)).toNatClampNeg) / (gL w7 40 (gI w7 0 23).toNatClampNeg)).toInt32, w7)))))))
  else (
  some (r6, w7)))))
set_option maxHeartbeats 4000000 in
theorem w_fX9_branch (C : Cx G p s m args meth c RX9 cX9_branch 3 (some .int)) {b0 : Nat} {rx : Int32} {rw0 : Mem} : ∀ (v0 : Mem) (i1 : Int32), fX9_branch v0 i1 = some (rx, rw0) → ∀ (H : Heap) (locs : List Loc) (ls : Array Slot), rg G b0 46 (shX9 G.2.1) v0 H → va_S (FA (iv b0 46) s.heap.size) s.heap H locs → H.size = s.heap.size → lv_has ls 3 [(0, .ref b0), (1, .int i1)] → W p l e (rmT 7 0 0 175) s m args below meth c H locs 0 0 (MQ below (QcT (FA (iv b0 46) s.heap.size) (fun ov H => ov = (some (.int rx)) ∧ rg G b0 46 (shX9 G.2.1) rw0 H ∧ H.size = s.heap.size)) args s 0 0 (FA (iv b0 46) s.heap.size)) (F0 m 0 ls []) := by
  intro v0 i1 hm H locs ls hW0 hS hz hl
  obtain ⟨hx, hb, hr, hlk, hml, hown, hts, hK⟩ := id C
  unfold fX9_branch at hm
  refine lv_iload_n (pc := 0) hx hb dX9_branch_0 rfl (lv_at hl 1 rfl) ?_
  refine lv_i2l (pc := 1) hx hb dX9_branch_1 rfl ?_
  refine lv_lconst (pc := 2) (v := (0 : Int64)) hx hb dX9_branch_2 (by decide) ?_
  refine lv_iconst (pc := 3) (v := (3 : Int32)) hx hb dX9_branch_3 (by decide) ?_
  refine lv_aload_n (pc := 4) hx hb dX9_branch_4 rfl (lv_at hl 0 rfl) ?_
  obtain ⟨r1, hq2, hm⟩ := ob_some hm
  refine rk_PV (pc := 5) (As := []) (rest := [.int (3 : Int32), .long (0 : Int64), .long i1.toInt64]) hx hb hml hown hts hK lkX9_89 rfl yn_X9_n (ct_X9_n (G := G) (l := l) (b0 := b0) hq2) ⟨Nat.le_of_ble_eq_true rfl, Nat.le_of_ble_eq_true rfl⟩ (rk_recv hK hW0 0 (by decide) rfl rfl rfl) (rg_take hW0 (by decide)) rfl rfl hl.1 (Nat.le_of_ble_eq_true rfl) dX9_branch_5 ⟨Nat.zero_le _, Nat.zero_le _⟩ ?_
  refine W.eq (g2 := F0 m 8 ls [.int r1, .int (3 : Int32), .long (0 : Int64), .long i1.toInt64]) rfl ?_
  refine lv_iadd (pc := 8) hx hb dX9_branch_8 ?_
  refine lv_i2l (pc := 9) hx hb dX9_branch_9 rfl ?_
  obtain ⟨r3, hq4, hm⟩ := ob_some hm
  refine rk_PS (pc := 10) (As := [.long i1.toInt64, .long (0 : Int64), .long ((3 : Int32) + r1).toInt64]) (rest := []) hx hb hml hown hts hK lkX9_93 yn_X9_isIn (ct_X9_isIn (G := G) (l := l) hq4) ⟨Nat.le_of_ble_eq_true rfl, Nat.le_of_ble_eq_true rfl⟩ trivial rfl rfl hl.1 (Nat.le_of_ble_eq_true rfl) dX9_branch_10 ⟨Nat.zero_le _, Nat.zero_le _⟩ ?_
  refine W.eq (g2 := F0 m 13 ls [.int r3]) rfl ?_
  refine lv_if_ne (pc := 13) (tgt := 18) hx hb dX9_branch_13 (by decide) (fun c5 => ?_) (fun c5 => ?_)
  · have hm := ite_f c5 hm
    refine lv_aload_n (pc := 18) hx hb dX9_branch_18 rfl (lv_at hl 0 rfl) ?_
    obtain ⟨r6, w7, hq8, hm⟩ := ob2_some hm
    refine rk_TV (pc := 19) (As := []) (rest := []) (mc := 0) (ms := 0) hx hb hml hown hts hK hS (fun q hq => FA_sz rfl q hq) lkX9_397 rfl yn_X9_branches (ct_X9_branches (G := G) (l := l) (b0 := b0) (sz := H.size) hq8) ⟨Nat.le_of_ble_eq_true rfl, Nat.le_of_ble_eq_true rfl⟩ (fun z h => Or.inl (show iv _ _ _ from ⟨by have h8 := h.1; have h9 := h.2; omega, by have h8 := h.1; have h9 := h.2; omega⟩)) (rk_recv hK hW0 0 (by decide) rfl rfl rfl) hW0 rfl rfl hl.1 (Nat.le_of_ble_eq_true rfl) dX9_branch_19 ⟨Nat.zero_le _, Nat.zero_le _⟩ (fun ov9 H9 locs10 hP11 hkp12 hS13 => ?_)
    obtain ⟨rfl, hW14, hz15⟩ := hP11
    have hz16 := hz15.trans hz
    refine W.eq (g2 := F0 m 22 ls [.int r6]) rfl ?_
    refine lv_istore_n (pc := 22) (lv' := [(2, .int r6), (0, .ref b0), (1, .int i1)]) hx hb dX9_branch_22 rfl hl (by decide) rfl (fun ls hl => ?_)
    refine lv_iload_n (pc := 23) hx hb dX9_branch_23 rfl (lv_at hl 2 rfl) ?_
    refine lv_iconst (pc := 24) (v := (1 : Int32)) hx hb dX9_branch_24 (by decide) ?_
    refine lv_icmp_ne (pc := 25) (tgt := 33) hx hb dX9_branch_25 (by decide) (fun c17 => ?_) (fun c17 => ?_)
    · have hm := ite_f c17 hm
      refine lv_iload_n (pc := 33) hx hb dX9_branch_33 rfl (lv_at hl 2 rfl) ?_
      refine lv_iconst (pc := 34) (v := (3 : Int32)) hx hb dX9_branch_34 (by decide) ?_
      refine lv_icmp_ne (pc := 35) (tgt := 43) hx hb dX9_branch_35 (by decide) (fun c18 => ?_) (fun c18 => ?_)
      · have hm := ite_f c18 hm
        refine lv_iload_n (pc := 43) hx hb dX9_branch_43 rfl (lv_at hl 0 rfl) ?_
        refine lv_if_ge (pc := 44) (tgt := 49) hx hb dX9_branch_44 (by decide) (fun c19 => ?_) (fun c19 => ?_)
        · have hm := ite_t c19 hm
          refine lv_iload_n (pc := 49) hx hb dX9_branch_49 rfl (lv_at hl 2 rfl) ?_
          refine lv_if_ne (pc := 50) (tgt := 76) hx hb dX9_branch_50 (by decide) (fun c20 => ?_) (fun c20 => ?_)
          · have hm := ite_f c20 hm
            refine lv_iload_n (pc := 76) hx hb dX9_branch_76 rfl (lv_at hl 2 rfl) ?_
            refine lv_iconst (pc := 77) (v := (2 : Int32)) hx hb dX9_branch_77 (by decide) ?_
            refine lv_icmp_ne (pc := 78) (tgt := 93) hx hb dX9_branch_78 (by decide) (fun c21 => ?_) (fun c21 => ?_)
            · have hm := ite_f c21 hm
              refine lv_aload_n (pc := 93) hx hb dX9_branch_93 rfl (lv_at hl 1 rfl) ?_
              refine rk_get (pc := 94) hx hb hts hown hK hW14 flX9_55 0 (by decide) rfl rfl (x := .ref (b0 + 38)) (by first | rfl | exact congrArg (fun z => some (Value.ref z)) (by omega)) dX9_branch_94 ?_
              refine lv_iconst (pc := 97) (v := (5 : Int32)) hx hb dX9_branch_97 (by decide) ?_
              refine lv_aload_n (pc := 98) hx hb dX9_branch_98 rfl (lv_at hl 1 rfl) ?_
              refine rk_get (pc := 99) hx hb hts hown hK hW14 flX9_391 0 (by decide) rfl rfl (x := .int (gI w7 0 23)) rfl dX9_branch_99 ?_
              refine lv_imul (pc := 102) hx hb dX9_branch_102 ?_
              refine lv_iload_n (pc := 103) hx hb dX9_branch_103 rfl (lv_at hl 2 rfl) ?_
              refine lv_iadd (pc := 104) hx hb dX9_branch_104 ?_
              refine lv_iconst (pc := 105) (v := (4 : Int32)) hx hb dX9_branch_105 (by decide) ?_
              refine lv_isub (pc := 106) hx hb dX9_branch_106 ?_
              obtain ⟨hg22, hm⟩ := gb_some hm
              refine rk_lald (pc := 107) hx hb hK hW14 38 (by decide) rfl rfl hg22 (x := (gL w7 38 ((((5 : Int32) * (gI w7 0 23)) + i1) - (4 : Int32)).toNatClampNeg)) rfl dX9_branch_107 ?_
              refine lv_aload_n (pc := 108) hx hb dX9_branch_108 rfl (lv_at hl 1 rfl) ?_
              refine rk_get (pc := 109) hx hb hts hown hK hW14 flX9_62 0 (by decide) rfl rfl (x := .ref (b0 + 40)) (by first | rfl | exact congrArg (fun z => some (Value.ref z)) (by omega)) dX9_branch_109 ?_
              refine lv_aload_n (pc := 112) hx hb dX9_branch_112 rfl (lv_at hl 1 rfl) ?_
              refine rk_get (pc := 113) hx hb hts hown hK hW14 flX9_391 0 (by decide) rfl rfl (x := .int (gI w7 0 23)) rfl dX9_branch_113 ?_
              obtain ⟨hg23, hm⟩ := gb_some hm
              refine rk_lald (pc := 116) hx hb hK hW14 40 (by decide) rfl rfl hg23 (x := (gL w7 40 (gI w7 0 23).toNatClampNeg)) rfl dX9_branch_116 ?_
              obtain ⟨hg24, hm⟩ := gb_some hm
              refine lv_ldiv (pc := 117) hx hb dX9_branch_117 (nz64_ne hg24) ?_
              refine lv_l2i (pc := 118) hx hb dX9_branch_118 rfl ?_
              obtain ⟨e8, e9⟩ := rs2 hm
              subst e8
              subst e9
              exact rk_iret (pc := 119) hx hb hr hlk hS13 ⟨rfl, hW14, hz16⟩ dX9_branch_119
            · have hm := ite_t c21 hm
              refine lv_aload_n (pc := 81) hx hb dX9_branch_81 rfl (lv_at hl 1 rfl) ?_
              refine rk_get (pc := 82) hx hb hts hown hK hW14 flX9_52 0 (by decide) rfl rfl (x := .ref (b0 + 37)) (by first | rfl | exact congrArg (fun z => some (Value.ref z)) (by omega)) dX9_branch_82 ?_
              refine lv_aload_n (pc := 85) hx hb dX9_branch_85 rfl (lv_at hl 1 rfl) ?_
              refine rk_get (pc := 86) hx hb hts hown hK hW14 flX9_391 0 (by decide) rfl rfl (x := .int (gI w7 0 23)) rfl dX9_branch_86 ?_
              obtain ⟨hg25, hm⟩ := gb_some hm
              refine rk_iald (pc := 89) hx hb hK hW14 37 (by decide) rfl rfl hg25 (x := (gI w7 37 (gI w7 0 23).toNatClampNeg)) rfl dX9_branch_89 ?_
              refine lv_goto (pc := 90) (tgt := 119) hx hb dX9_branch_90 (by decide) ?_
              obtain ⟨e8, e9⟩ := rs2 hm
              subst e8
              subst e9
              exact rk_iret (pc := 119) hx hb hr hlk hS13 ⟨rfl, hW14, hz16⟩ dX9_branch_119
          · have hm := ite_t c20 hm
            refine lv_aload_n (pc := 53) hx hb dX9_branch_53 rfl (lv_at hl 1 rfl) ?_
            refine rk_get (pc := 54) hx hb hts hown hK hW14 flX9_59 0 (by decide) rfl rfl (x := .ref (b0 + 39)) (by first | rfl | exact congrArg (fun z => some (Value.ref z)) (by omega)) dX9_branch_54 ?_
            refine lv_aload_n (pc := 57) hx hb dX9_branch_57 rfl (lv_at hl 1 rfl) ?_
            refine rk_get (pc := 58) hx hb hts hown hK hW14 flX9_391 0 (by decide) rfl rfl (x := .int (gI w7 0 23)) rfl dX9_branch_58 ?_
            obtain ⟨hg26, hm⟩ := gb_some hm
            refine rk_lald (pc := 61) hx hb hK hW14 39 (by decide) rfl rfl hg26 (x := (gL w7 39 (gI w7 0 23).toNatClampNeg)) rfl dX9_branch_61 ?_
            refine lv_aload_n (pc := 62) hx hb dX9_branch_62 rfl (lv_at hl 1 rfl) ?_
            refine rk_get (pc := 63) hx hb hts hown hK hW14 flX9_62 0 (by decide) rfl rfl (x := .ref (b0 + 40)) (by first | rfl | exact congrArg (fun z => some (Value.ref z)) (by omega)) dX9_branch_63 ?_
            refine lv_aload_n (pc := 66) hx hb dX9_branch_66 rfl (lv_at hl 1 rfl) ?_
            refine rk_get (pc := 67) hx hb hts hown hK hW14 flX9_391 0 (by decide) rfl rfl (x := .int (gI w7 0 23)) rfl dX9_branch_67 ?_
            obtain ⟨hg27, hm⟩ := gb_some hm
            refine rk_lald (pc := 70) hx hb hK hW14 40 (by decide) rfl rfl hg27 (x := (gL w7 40 (gI w7 0 23).toNatClampNeg)) rfl dX9_branch_70 ?_
            obtain ⟨hg28, hm⟩ := gb_some hm
            refine lv_ldiv (pc := 71) hx hb dX9_branch_71 (nz64_ne hg28) ?_
            refine lv_l2i (pc := 72) hx hb dX9_branch_72 rfl ?_
            refine lv_goto (pc := 73) (tgt := 119) hx hb dX9_branch_73 (by decide) ?_
            obtain ⟨e8, e9⟩ := rs2 hm
            subst e8
            subst e9
            exact rk_iret (pc := 119) hx hb hr hlk hS13 ⟨rfl, hW14, hz16⟩ dX9_branch_119
        · have hm := ite_f c19 hm
          refine lv_iload_n (pc := 47) hx hb dX9_branch_47 rfl (lv_at hl 0 rfl) ?_
          obtain ⟨e8, e9⟩ := rs2 hm
          subst e8
          subst e9
          exact rk_iret (pc := 48) hx hb hr hlk hS13 ⟨rfl, hW14, hz16⟩ dX9_branch_48
      · have hm := ite_t c18 hm
        refine lv_aload_n (pc := 38) hx hb dX9_branch_38 rfl (lv_at hl 1 rfl) ?_
        refine rk_get (pc := 39) hx hb hts hown hK hW14 flX9_381 0 (by decide) rfl rfl (x := .int (gI w7 0 22)) rfl dX9_branch_39 ?_
        obtain ⟨e8, e9⟩ := rs2 hm
        subst e8
        subst e9
        exact rk_iret (pc := 42) hx hb hr hlk hS13 ⟨rfl, hW14, hz16⟩ dX9_branch_42
    · have hm := ite_t c17 hm
      refine lv_aload_n (pc := 28) hx hb dX9_branch_28 rfl (lv_at hl 1 rfl) ?_
      refine rk_get (pc := 29) hx hb hts hown hK hW14 flX9_371 0 (by decide) rfl rfl (x := .int (gI w7 0 21)) rfl dX9_branch_29 ?_
      obtain ⟨e8, e9⟩ := rs2 hm
      subst e8
      subst e9
      exact rk_iret (pc := 32) hx hb hr hlk hS13 ⟨rfl, hW14, hz16⟩ dX9_branch_32
  · have hm := ite_t c5 hm
    refine lv_iconst (pc := 16) (v := (-1 : Int32)) hx hb dX9_branch_16 (by decide) ?_
    obtain ⟨e8, e9⟩ := rs2 hm
    subst e8
    subst e9
    exact rk_iret (pc := 17) hx hb hr hlk hS ⟨rfl, hW0, hz⟩ dX9_branch_17
set_option maxHeartbeats 4000000 in
theorem ct_X9_branch {G : Gv} {l : Launch} {b0 : Nat} {v0 : Mem} {i1 : Int32} {rx : Int32} {rw0 : Mem} {sz : Nat} (hm : fX9_branch v0 i1 = some (rx, rw0)) : CT G l yX9_branch (ws_ yX9_branch cX9_branch 3 (some .int)) 7 0 0 175 [.ref b0, .int i1] (iv b0 46) sz (fun H => rg G b0 46 (shX9 G.2.1) v0 H) (fun ov H => ov = (some (.int rx)) ∧ rg G b0 46 (shX9 G.2.1) rw0 H ∧ H.size = sz) := by
  refine Met.ofW (cc := cX9_branch) (maxL := 3) (ret := (some .int)) (by decide +kernel) rfl ?_
  intro p e s m args below meth c s₁ B hml hv
  obtain ⟨rfl, ⟨hz, hW0⟩, hK⟩ := hv
  subst hz
  have hts := atoms_spec (ws := ws_ yX9_branch cX9_branch 3 (some .int)) B.pre
  have hts : ∀ w ∈ lw_all, w.before _ s = true := fun w h => hts w (List.mem_cons_of_mem _ h)
  have C : Cx G p s m _ meth c RX9 cX9_branch 3 (some .int) := ⟨B.exec, B.bytes, B.returns, B.notSynchronized, hml, findClass_of_methodNamed B.named, hts, hK⟩
  have hl := lv_entry ([.ref b0, .int i1]) (n := 3) (Nat.le_of_ble_eq_true rfl)
  rw [lg_entry_eq]
  generalize (lg_sl ([.ref b0, .int i1]) ++ List.replicate (3 - (lg_sl ([.ref b0, .int i1])).length) Slot.unset).toArray = ls at hl ⊢
  have hl : lv_has ls 3 [(0, .ref b0), (1, .int i1)] := hl
  exact w_fX9_branch C _ _ hm s.heap [] ls hW0 va_S.rf rfl hl
theorem yn_X9_worth : YN yX9_worth 0 := by
  unfold YN
  decide +kernel
theorem lkX9_400 : LV RX9 400 RX9 yX9_worth cX9_worth 2 (some .int) := ⟨q2263, q2265, qs103, q128, q2266⟩
noncomputable def fX9_worthWith (v0 : Mem) (i1 : Int32) (i2 : Int32) : Option (Int32 × Mem) :=
  gb (inR (((12 : Int32) + ((7 : Int32) * i1)) + (1 : Int32)) 150) (
  gb (inR (((12 : Int32) + ((7 : Int32) * i1)) + (1 : Int32)) 150) (
  lm (sI v0 1 (((12 : Int32) + ((7 : Int32) * i1)) + (1 : Int32)).toNatClampNeg i2) fun v0_3 =>
  ob2 (fX9_worth v0_3) fun r11 w12 =>
  gb (inR (((12 : Int32) + ((7 : Int32) * i1)) + (1 : Int32)) 150) (
  lm (sI w12 1 (((12 : Int32) + ((7 : Int32) * i1)) + (1 : Int32)).toNatClampNeg (gI v0 1 (((12 : Int32) + ((7 : Int32) * i1)) + (1 : Int32)).toNatClampNeg)) fun v0_23 =>
  some (r11, v0_23))))
set_option maxHeartbeats 4000000 in
theorem w_fX9_worthWith (C : Cx G p s m args meth c RX9 cX9_worthWith 6 (some .int)) {b0 : Nat} {rx : Int32} {rw0 : Mem} : ∀ (v0 : Mem) (i1 : Int32) (i2 : Int32), fX9_worthWith v0 i1 i2 = some (rx, rw0) → ∀ (H : Heap) (locs : List Loc) (ls : Array Slot), rg G b0 46 (shX9 G.2.1) v0 H → va_S (FA (iv b0 46) s.heap.size) s.heap H locs → H.size = s.heap.size → lv_has ls 6 [(0, .ref b0), (1, .int i1), (2, .int i2)] → W p l e (rmT 7 0 0 168) s m args below meth c H locs 0 0 (MQ below (QcT (FA (iv b0 46) s.heap.size) (fun ov H => ov = (some (.int rx)) ∧ rg G b0 46 (shX9 G.2.1) rw0 H ∧ H.size = s.heap.size)) args s 0 0 (FA (iv b0 46) s.heap.size)) (F0 m 0 ls []) := by
  intro v0 i1 i2 hm H locs ls hW0 hS hz hl
  obtain ⟨hx, hb, hr, hlk, hml, hown, hts, hK⟩ := id C
  unfold fX9_worthWith at hm
  refine lv_bipush (pc := 0) (v := (12 : Int32)) hx hb dX9_worthWith_0 (by decide) ?_
  refine lv_bipush (pc := 2) (v := (7 : Int32)) hx hb dX9_worthWith_2 (by decide) ?_
  refine lv_iload_n (pc := 4) hx hb dX9_worthWith_4 rfl (lv_at hl 1 rfl) ?_
  refine lv_imul (pc := 5) hx hb dX9_worthWith_5 ?_
  refine lv_iadd (pc := 6) hx hb dX9_worthWith_6 ?_
  refine lv_iconst (pc := 7) (v := (1 : Int32)) hx hb dX9_worthWith_7 (by decide) ?_
  refine lv_iadd (pc := 8) hx hb dX9_worthWith_8 ?_
  refine lv_istore_n (pc := 9) (lv' := [(3, .int (((12 : Int32) + ((7 : Int32) * i1)) + (1 : Int32))), (0, .ref b0), (1, .int i1), (2, .int i2)]) hx hb dX9_worthWith_9 rfl hl (by decide) rfl (fun ls hl => ?_)
  refine lv_aload_n (pc := 10) hx hb dX9_worthWith_10 rfl (lv_at hl 1 rfl) ?_
  refine rk_get (pc := 11) hx hb hts hown hK hW0 flX9_11 0 (by decide) rfl rfl (x := .ref (b0 + 1)) (by first | rfl | exact congrArg (fun z => some (Value.ref z)) (by omega)) dX9_worthWith_11 ?_
  refine lv_iload_n (pc := 14) hx hb dX9_worthWith_14 rfl (lv_at hl 0 rfl) ?_
  obtain ⟨hg1, hm⟩ := gb_some hm
  refine rk_iald (pc := 15) hx hb hK hW0 1 (by decide) rfl rfl hg1 (x := (gI v0 1 (((12 : Int32) + ((7 : Int32) * i1)) + (1 : Int32)).toNatClampNeg)) rfl dX9_worthWith_15 ?_
  refine lv_istore (pc := 16) (lv' := [(4, .int (gI v0 1 (((12 : Int32) + ((7 : Int32) * i1)) + (1 : Int32)).toNatClampNeg)), (3, .int (((12 : Int32) + ((7 : Int32) * i1)) + (1 : Int32))), (0, .ref b0), (1, .int i1), (2, .int i2)]) hx hb dX9_worthWith_16 hl (by decide) rfl (fun ls hl => ?_)
  refine lv_aload_n (pc := 18) hx hb dX9_worthWith_18 rfl (lv_at hl 2 rfl) ?_
  refine rk_get (pc := 19) hx hb hts hown hK hW0 flX9_11 0 (by decide) rfl rfl (x := .ref (b0 + 1)) (by first | rfl | exact congrArg (fun z => some (Value.ref z)) (by omega)) dX9_worthWith_19 ?_
  refine lv_iload_n (pc := 22) hx hb dX9_worthWith_22 rfl (lv_at hl 1 rfl) ?_
  refine lv_iload_n (pc := 23) hx hb dX9_worthWith_23 rfl (lv_at hl 4 rfl) ?_
  obtain ⟨hg2, hm⟩ := gb_some hm
  refine rk_iast (pc := 24) hx hb hK hW0 hS 1 (by decide) rfl (Or.inl (show iv _ _ _ from ⟨by omega, by omega⟩)) (fun _ _ _ => rfl) hg2 dX9_worthWith_24 (fun H4 locs5 hW6 hS7 hz8 hkp9 => ?_)
  obtain ⟨v0_3, he9, hm⟩ := lm_some hm
  rw [he9] at hW6
  have hz10 := hz8.trans hz
  refine lv_aload_n (pc := 25) hx hb dX9_worthWith_25 rfl (lv_at hl 2 rfl) ?_
  obtain ⟨r11, w12, hq13, hm⟩ := ob2_some hm
  refine rk_TV (pc := 26) (As := []) (rest := []) (mc := 0) (ms := 0) hx hb hml hown hts hK hS7 (fun q hq => FA_sz rfl q hq) lkX9_400 rfl yn_X9_worth (ct_X9_worth (G := G) (l := l) (b0 := b0) (sz := H4.size) hq13) ⟨Nat.le_of_ble_eq_true rfl, Nat.le_of_ble_eq_true rfl⟩ (fun z h => Or.inl (show iv _ _ _ from ⟨by have h8 := h.1; have h9 := h.2; omega, by have h8 := h.1; have h9 := h.2; omega⟩)) (rk_recv hK hW6 0 (by decide) rfl rfl rfl) hW6 rfl rfl hl.1 (Nat.le_of_ble_eq_true rfl) dX9_worthWith_26 ⟨Nat.zero_le _, Nat.zero_le _⟩ (fun ov9 H14 locs15 hP16 hkp17 hS18 => ?_)
  obtain ⟨rfl, hW19, hz20⟩ := hP16
  have hz21 := hz20.trans hz10
  refine W.eq (g2 := F0 m 29 ls [.int r11]) rfl ?_
  refine lv_istore (pc := 29) (lv' := [(5, .int r11), (4, .int (gI v0 1 (((12 : Int32) + ((7 : Int32) * i1)) + (1 : Int32)).toNatClampNeg)), (3, .int (((12 : Int32) + ((7 : Int32) * i1)) + (1 : Int32))), (0, .ref b0), (1, .int i1), (2, .int i2)]) hx hb dX9_worthWith_29 hl (by decide) rfl (fun ls hl => ?_)
  refine lv_aload_n (pc := 31) hx hb dX9_worthWith_31 rfl (lv_at hl 3 rfl) ?_
  refine rk_get (pc := 32) hx hb hts hown hK hW19 flX9_11 0 (by decide) rfl rfl (x := .ref (b0 + 1)) (by first | rfl | exact congrArg (fun z => some (Value.ref z)) (by omega)) dX9_worthWith_32 ?_
  refine lv_iload_n (pc := 35) hx hb dX9_worthWith_35 rfl (lv_at hl 2 rfl) ?_
  refine lv_iload (pc := 36) hx hb dX9_worthWith_36 (lv_at hl 1 rfl) ?_
  obtain ⟨hg22, hm⟩ := gb_some hm
  refine rk_iast (pc := 38) hx hb hK hW19 hS18 1 (by decide) rfl (Or.inl (show iv _ _ _ from ⟨by omega, by omega⟩)) (fun _ _ _ => rfl) hg22 dX9_worthWith_38 (fun H24 locs25 hW26 hS27 hz28 hkp29 => ?_)
  obtain ⟨v0_23, he9, hm⟩ := lm_some hm
  rw [he9] at hW26
  have hz30 := hz28.trans hz21
  refine lv_iload (pc := 39) hx hb dX9_worthWith_39 (lv_at hl 0 rfl) ?_
  obtain ⟨e8, e9⟩ := rs2 hm
  subst e8
  subst e9
  exact rk_iret (pc := 41) hx hb hr hlk hS27 ⟨rfl, hW26, hz30⟩ dX9_worthWith_41
set_option maxHeartbeats 4000000 in
theorem ct_X9_worthWith {G : Gv} {l : Launch} {b0 : Nat} {v0 : Mem} {i1 : Int32} {i2 : Int32} {rx : Int32} {rw0 : Mem} {sz : Nat} (hm : fX9_worthWith v0 i1 i2 = some (rx, rw0)) : CT G l yX9_worthWith (ws_ yX9_worthWith cX9_worthWith 6 (some .int)) 7 0 0 168 [.ref b0, .int i1, .int i2] (iv b0 46) sz (fun H => rg G b0 46 (shX9 G.2.1) v0 H) (fun ov H => ov = (some (.int rx)) ∧ rg G b0 46 (shX9 G.2.1) rw0 H ∧ H.size = sz) := by
  refine Met.ofW (cc := cX9_worthWith) (maxL := 6) (ret := (some .int)) (by decide +kernel) rfl ?_
  intro p e s m args below meth c s₁ B hml hv
  obtain ⟨rfl, ⟨hz, hW0⟩, hK⟩ := hv
  subst hz
  have hts := atoms_spec (ws := ws_ yX9_worthWith cX9_worthWith 6 (some .int)) B.pre
  have hts : ∀ w ∈ lw_all, w.before _ s = true := fun w h => hts w (List.mem_cons_of_mem _ h)
  have C : Cx G p s m _ meth c RX9 cX9_worthWith 6 (some .int) := ⟨B.exec, B.bytes, B.returns, B.notSynchronized, hml, findClass_of_methodNamed B.named, hts, hK⟩
  have hl := lv_entry ([.ref b0, .int i1, .int i2]) (n := 6) (Nat.le_of_ble_eq_true rfl)
  rw [lg_entry_eq]
  generalize (lg_sl ([.ref b0, .int i1, .int i2]) ++ List.replicate (6 - (lg_sl ([.ref b0, .int i1, .int i2])).length) Slot.unset).toArray = ls at hl ⊢
  have hl : lv_has ls 6 [(0, .ref b0), (1, .int i1), (2, .int i2)] := hl
  exact w_fX9_worthWith C _ _ _ hm s.heap [] ls hW0 va_S.rf rfl hl
theorem yn_X9_worthWith : YN yX9_worthWith 2 := by
  unfold YN
  decide +kernel
theorem lkX9_403 : LV RX9 403 RX9 yX9_worthWith cX9_worthWith 6 (some .int) := ⟨q2259, q2261, qs102, q128, q2262⟩
noncomputable def fX9_would (v0 : Mem) (i1 : Int32) (i2 : Int32) : Option (Int32 × Mem) :=
  ob (fX9_isRule v0 i1) fun r1 =>
  if r1 = 0 then (
  some ((-1 : Int32), v0))
  else (
  ob (fX9_isIn i2.toInt64 (-99 : Int64) (999 : Int64)) fun r4 =>
  if r4 = 0 then (
  some ((-2 : Int32), v0))
  else (
  ob2 (fX9_worthWith v0 i1 i2) fun r7 w8 =>
  some (r7, w8)))
set_option maxHeartbeats 4000000 in
theorem w_fX9_would (C : Cx G p s m args meth c RX9 cX9_would 3 (some .int)) {b0 : Nat} {rx : Int32} {rw0 : Mem} : ∀ (v0 : Mem) (i1 : Int32) (i2 : Int32), fX9_would v0 i1 i2 = some (rx, rw0) → ∀ (H : Heap) (locs : List Loc) (ls : Array Slot), rg G b0 46 (shX9 G.2.1) v0 H → va_S (FA (iv b0 46) s.heap.size) s.heap H locs → H.size = s.heap.size → lv_has ls 3 [(0, .ref b0), (1, .int i1), (2, .int i2)] → W p l e (rmT 8 0 0 193) s m args below meth c H locs 0 0 (MQ below (QcT (FA (iv b0 46) s.heap.size) (fun ov H => ov = (some (.int rx)) ∧ rg G b0 46 (shX9 G.2.1) rw0 H ∧ H.size = s.heap.size)) args s 0 0 (FA (iv b0 46) s.heap.size)) (F0 m 0 ls []) := by
  intro v0 i1 i2 hm H locs ls hW0 hS hz hl
  obtain ⟨hx, hb, hr, hlk, hml, hown, hts, hK⟩ := id C
  unfold fX9_would at hm
  refine lv_aload_n (pc := 0) hx hb dX9_would_0 rfl (lv_at hl 0 rfl) ?_
  refine lv_iload_n (pc := 1) hx hb dX9_would_1 rfl (lv_at hl 1 rfl) ?_
  obtain ⟨r1, hq2, hm⟩ := ob_some hm
  refine rk_PV (pc := 2) (As := [.int i1]) (rest := []) hx hb hml hown hts hK lkX9_124 rfl yn_X9_isRule (ct_X9_isRule (G := G) (l := l) (b0 := b0) hq2) ⟨Nat.le_of_ble_eq_true rfl, Nat.le_of_ble_eq_true rfl⟩ (rk_recv hK hW0 0 (by decide) rfl rfl rfl) (rg_take hW0 (by decide)) rfl rfl hl.1 (Nat.le_of_ble_eq_true rfl) dX9_would_2 ⟨Nat.zero_le _, Nat.zero_le _⟩ ?_
  refine W.eq (g2 := F0 m 5 ls [.int r1]) rfl ?_
  refine lv_if_ne (pc := 5) (tgt := 12) hx hb dX9_would_5 (by decide) (fun c3 => ?_) (fun c3 => ?_)
  · have hm := ite_f c3 hm
    refine lv_iload_n (pc := 12) hx hb dX9_would_12 rfl (lv_at hl 2 rfl) ?_
    refine lv_i2l (pc := 13) hx hb dX9_would_13 rfl ?_
    refine lv_ldc2 (pc := 14) (v := (-99 : Int64)) hx hb hown (hts _ q1940) dX9_would_14 ?_
    refine lv_ldc2 (pc := 17) (v := (999 : Int64)) hx hb hown (hts _ q1941) dX9_would_17 ?_
    obtain ⟨r4, hq5, hm⟩ := ob_some hm
    refine rk_PS (pc := 20) (As := [.long i2.toInt64, .long (-99 : Int64), .long (999 : Int64)]) (rest := []) hx hb hml hown hts hK lkX9_93 yn_X9_isIn (ct_X9_isIn (G := G) (l := l) hq5) ⟨Nat.le_of_ble_eq_true rfl, Nat.le_of_ble_eq_true rfl⟩ trivial rfl rfl hl.1 (Nat.le_of_ble_eq_true rfl) dX9_would_20 ⟨Nat.zero_le _, Nat.zero_le _⟩ ?_
    refine W.eq (g2 := F0 m 23 ls [.int r4]) rfl ?_
    refine lv_if_eq (pc := 23) (tgt := 35) hx hb dX9_would_23 (by decide) (fun c6 => ?_) (fun c6 => ?_)
    · have hm := ite_t c6 hm
      refine lv_bipush (pc := 35) (v := (-2 : Int32)) hx hb dX9_would_35 (by decide) ?_
      obtain ⟨e8, e9⟩ := rs2 hm
      subst e8
      subst e9
      exact rk_iret (pc := 37) hx hb hr hlk hS ⟨rfl, hW0, hz⟩ dX9_would_37
    · have hm := ite_f c6 hm
      refine lv_aload_n (pc := 26) hx hb dX9_would_26 rfl (lv_at hl 0 rfl) ?_
      refine lv_iload_n (pc := 27) hx hb dX9_would_27 rfl (lv_at hl 1 rfl) ?_
      refine lv_iload_n (pc := 28) hx hb dX9_would_28 rfl (lv_at hl 2 rfl) ?_
      obtain ⟨r7, w8, hq9, hm⟩ := ob2_some hm
      refine rk_TV (pc := 29) (As := [.int i1, .int i2]) (rest := []) (mc := 0) (ms := 0) hx hb hml hown hts hK hS (fun q hq => FA_sz rfl q hq) lkX9_403 rfl yn_X9_worthWith (ct_X9_worthWith (G := G) (l := l) (b0 := b0) (sz := H.size) hq9) ⟨Nat.le_of_ble_eq_true rfl, Nat.le_of_ble_eq_true rfl⟩ (fun z h => Or.inl (show iv _ _ _ from ⟨by have h8 := h.1; have h9 := h.2; omega, by have h8 := h.1; have h9 := h.2; omega⟩)) (rk_recv hK hW0 0 (by decide) rfl rfl rfl) hW0 rfl rfl hl.1 (Nat.le_of_ble_eq_true rfl) dX9_would_29 ⟨Nat.zero_le _, Nat.zero_le _⟩ (fun ov9 H10 locs11 hP12 hkp13 hS14 => ?_)
      obtain ⟨rfl, hW15, hz16⟩ := hP12
      have hz17 := hz16.trans hz
      refine W.eq (g2 := F0 m 32 ls [.int r7]) rfl ?_
      refine lv_goto (pc := 32) (tgt := 37) hx hb dX9_would_32 (by decide) ?_
      obtain ⟨e8, e9⟩ := rs2 hm
      subst e8
      subst e9
      exact rk_iret (pc := 37) hx hb hr hlk hS14 ⟨rfl, hW15, hz17⟩ dX9_would_37
  · have hm := ite_t c3 hm
    refine lv_iconst (pc := 8) (v := (-1 : Int32)) hx hb dX9_would_8 (by decide) ?_
    refine lv_goto (pc := 9) (tgt := 37) hx hb dX9_would_9 (by decide) ?_
    obtain ⟨e8, e9⟩ := rs2 hm
    subst e8
    subst e9
    exact rk_iret (pc := 37) hx hb hr hlk hS ⟨rfl, hW0, hz⟩ dX9_would_37
set_option maxHeartbeats 4000000 in
theorem ct_X9_would {G : Gv} {l : Launch} {b0 : Nat} {v0 : Mem} {i1 : Int32} {i2 : Int32} {rx : Int32} {rw0 : Mem} {sz : Nat} (hm : fX9_would v0 i1 i2 = some (rx, rw0)) : CT G l yX9_would (ws_ yX9_would cX9_would 3 (some .int)) 8 0 0 193 [.ref b0, .int i1, .int i2] (iv b0 46) sz (fun H => rg G b0 46 (shX9 G.2.1) v0 H) (fun ov H => ov = (some (.int rx)) ∧ rg G b0 46 (shX9 G.2.1) rw0 H ∧ H.size = sz) := by
  refine Met.ofW (cc := cX9_would) (maxL := 3) (ret := (some .int)) (by decide +kernel) rfl ?_
  intro p e s m args below meth c s₁ B hml hv
  obtain ⟨rfl, ⟨hz, hW0⟩, hK⟩ := hv
  subst hz
  have hts := atoms_spec (ws := ws_ yX9_would cX9_would 3 (some .int)) B.pre
  have hts : ∀ w ∈ lw_all, w.before _ s = true := fun w h => hts w (List.mem_cons_of_mem _ h)
  have C : Cx G p s m _ meth c RX9 cX9_would 3 (some .int) := ⟨B.exec, B.bytes, B.returns, B.notSynchronized, hml, findClass_of_methodNamed B.named, hts, hK⟩
  have hl := lv_entry ([.ref b0, .int i1, .int i2]) (n := 3) (Nat.le_of_ble_eq_true rfl)
  rw [lg_entry_eq]
  generalize (lg_sl ([.ref b0, .int i1, .int i2]) ++ List.replicate (3 - (lg_sl ([.ref b0, .int i1, .int i2])).length) Slot.unset).toArray = ls at hl ⊢
  have hl : lv_has ls 3 [(0, .ref b0), (1, .int i1), (2, .int i2)] := hl
  exact w_fX9_would C _ _ _ hm s.heap [] ls hW0 va_S.rf rfl hl
noncomputable def fX9_see (v0 : Mem) (i1 : Int32) (i2 : Int32) : Option (Int32 × Mem) :=
  if i1 = (-1 : Int32) then (
  gb (inR (4 : Int32) 150) (
  lm (sI v0 1 (4 : Int32).toNatClampNeg (0 : Int32)) fun v0_42 =>
  some ((0 : Int32), v0_42)))
  else (
  ob (fX9_isPack v0 i1) fun r2 =>
  if r2 = 0 then (
  some ((-1 : Int32), v0))
  else (
  ob (fX9_isIn i2.toInt64 (0 : Int64) (999 : Int64)) fun r5 =>
  if r5 = 0 then (
  some ((-2 : Int32), v0))
  else (
  gb (inR (4 : Int32) 150) (
  if (gI v0 1 (4 : Int32).toNatClampNeg) = (5 : Int32) then (
  some ((-4 : Int32), v0))
  else (
  gb (inR (4 : Int32) 150) (
  gb (inR ((76 : Int32) + ((2 : Int32) * (gI v0 1 (4 : Int32).toNatClampNeg))) 150) (
  lm (sI v0 1 ((76 : Int32) + ((2 : Int32) * (gI v0 1 (4 : Int32).toNatClampNeg))).toNatClampNeg i1) fun v0_12 =>
  gb (inR (4 : Int32) 150) (
  gb (inR (((76 : Int32) + ((2 : Int32) * (gI v0_12 1 (4 : Int32).toNatClampNeg))) + (1 : Int32)) 150) (
  lm (sI v0_12 1 (((76 : Int32) + ((2 : Int32) * (gI v0_12 1 (4 : Int32).toNatClampNeg))) + (1 : Int32)).toNatClampNeg i2) fun v0_22 =>
  gb (inR (4 : Int32) 150) (
  gb (inR (4 : Int32) 150) (
  lm (sI v0_22 1 (4 : Int32).toNatClampNeg ((gI v0_22 1 (4 : Int32).toNatClampNeg) + (1 : Int32))) fun v0_32 =>
  gb (inR (4 : Int32) 150) (
  some ((gI v0_32 1 (4 : Int32).toNatClampNeg), v0_32)))))))))))))
set_option maxHeartbeats 4000000 in
theorem w_fX9_see (C : Cx G p s m args meth c RX9 cX9_see 3 (some .int)) {b0 : Nat} {rx : Int32} {rw0 : Mem} : ∀ (v0 : Mem) (i1 : Int32) (i2 : Int32), fX9_see v0 i1 i2 = some (rx, rw0) → ∀ (H : Heap) (locs : List Loc) (ls : Array Slot), rg G b0 46 (shX9 G.2.1) v0 H → va_S (FA (iv b0 46) s.heap.size) s.heap H locs → H.size = s.heap.size → lv_has ls 3 [(0, .ref b0), (1, .int i1), (2, .int i2)] → W p l e (rmT 2 0 0 46) s m args below meth c H locs 0 0 (MQ below (QcT (FA (iv b0 46) s.heap.size) (fun ov H => ov = (some (.int rx)) ∧ rg G b0 46 (shX9 G.2.1) rw0 H ∧ H.size = s.heap.size)) args s 0 0 (FA (iv b0 46) s.heap.size)) (F0 m 0 ls []) := by
  intro v0 i1 i2 hm H locs ls hW0 hS hz hl
  obtain ⟨hx, hb, hr, hlk, hml, hown, hts, hK⟩ := id C
  unfold fX9_see at hm
  refine lv_iload_n (pc := 0) hx hb dX9_see_0 rfl (lv_at hl 1 rfl) ?_
  refine lv_iconst (pc := 1) (v := (-1 : Int32)) hx hb dX9_see_1 (by decide) ?_
  refine lv_icmp_ne (pc := 2) (tgt := 14) hx hb dX9_see_2 (by decide) (fun c1 => ?_) (fun c1 => ?_)
  · have hm := ite_f c1 hm
    refine lv_aload_n (pc := 14) hx hb dX9_see_14 rfl (lv_at hl 0 rfl) ?_
    refine lv_iload_n (pc := 15) hx hb dX9_see_15 rfl (lv_at hl 1 rfl) ?_
    obtain ⟨r2, hq3, hm⟩ := ob_some hm
    refine rk_PV (pc := 16) (As := [.int i1]) (rest := []) hx hb hml hown hts hK lkX9_110 rfl yn_X9_isPack (ct_X9_isPack (G := G) (l := l) (b0 := b0) hq3) ⟨Nat.le_of_ble_eq_true rfl, Nat.le_of_ble_eq_true rfl⟩ (rk_recv hK hW0 0 (by decide) rfl rfl rfl) (rg_take hW0 (by decide)) rfl rfl hl.1 (Nat.le_of_ble_eq_true rfl) dX9_see_16 ⟨Nat.zero_le _, Nat.zero_le _⟩ ?_
    refine W.eq (g2 := F0 m 19 ls [.int r2]) rfl ?_
    refine lv_if_ne (pc := 19) (tgt := 24) hx hb dX9_see_19 (by decide) (fun c4 => ?_) (fun c4 => ?_)
    · have hm := ite_f c4 hm
      refine lv_iload_n (pc := 24) hx hb dX9_see_24 rfl (lv_at hl 2 rfl) ?_
      refine lv_i2l (pc := 25) hx hb dX9_see_25 rfl ?_
      refine lv_lconst (pc := 26) (v := (0 : Int64)) hx hb dX9_see_26 (by decide) ?_
      refine lv_ldc2 (pc := 27) (v := (999 : Int64)) hx hb hown (hts _ q1941) dX9_see_27 ?_
      obtain ⟨r5, hq6, hm⟩ := ob_some hm
      refine rk_PS (pc := 30) (As := [.long i2.toInt64, .long (0 : Int64), .long (999 : Int64)]) (rest := []) hx hb hml hown hts hK lkX9_93 yn_X9_isIn (ct_X9_isIn (G := G) (l := l) hq6) ⟨Nat.le_of_ble_eq_true rfl, Nat.le_of_ble_eq_true rfl⟩ trivial rfl rfl hl.1 (Nat.le_of_ble_eq_true rfl) dX9_see_30 ⟨Nat.zero_le _, Nat.zero_le _⟩ ?_
      refine W.eq (g2 := F0 m 33 ls [.int r5]) rfl ?_
      refine lv_if_ne (pc := 33) (tgt := 39) hx hb dX9_see_33 (by decide) (fun c7 => ?_) (fun c7 => ?_)
      · have hm := ite_f c7 hm
        refine lv_aload_n (pc := 39) hx hb dX9_see_39 rfl (lv_at hl 0 rfl) ?_
        refine rk_get (pc := 40) hx hb hts hown hK hW0 flX9_11 0 (by decide) rfl rfl (x := .ref (b0 + 1)) (by first | rfl | exact congrArg (fun z => some (Value.ref z)) (by omega)) dX9_see_40 ?_
        refine lv_iconst (pc := 43) (v := (4 : Int32)) hx hb dX9_see_43 (by decide) ?_
        obtain ⟨hg8, hm⟩ := gb_some hm
        refine rk_iald (pc := 44) hx hb hK hW0 1 (by decide) rfl rfl hg8 (x := (gI v0 1 (4 : Int32).toNatClampNeg)) rfl dX9_see_44 ?_
        refine lv_iconst (pc := 45) (v := (5 : Int32)) hx hb dX9_see_45 (by decide) ?_
        refine lv_icmp_ne (pc := 46) (tgt := 52) hx hb dX9_see_46 (by decide) (fun c9 => ?_) (fun c9 => ?_)
        · have hm := ite_f c9 hm
          refine lv_aload_n (pc := 52) hx hb dX9_see_52 rfl (lv_at hl 0 rfl) ?_
          refine rk_get (pc := 53) hx hb hts hown hK hW0 flX9_11 0 (by decide) rfl rfl (x := .ref (b0 + 1)) (by first | rfl | exact congrArg (fun z => some (Value.ref z)) (by omega)) dX9_see_53 ?_
          refine lv_bipush (pc := 56) (v := (76 : Int32)) hx hb dX9_see_56 (by decide) ?_
          refine lv_iconst (pc := 58) (v := (2 : Int32)) hx hb dX9_see_58 (by decide) ?_
          refine lv_aload_n (pc := 59) hx hb dX9_see_59 rfl (lv_at hl 0 rfl) ?_
          refine rk_get (pc := 60) hx hb hts hown hK hW0 flX9_11 0 (by decide) rfl rfl (x := .ref (b0 + 1)) (by first | rfl | exact congrArg (fun z => some (Value.ref z)) (by omega)) dX9_see_60 ?_
          refine lv_iconst (pc := 63) (v := (4 : Int32)) hx hb dX9_see_63 (by decide) ?_
          obtain ⟨hg10, hm⟩ := gb_some hm
          refine rk_iald (pc := 64) hx hb hK hW0 1 (by decide) rfl rfl hg10 (x := (gI v0 1 (4 : Int32).toNatClampNeg)) rfl dX9_see_64 ?_
          refine lv_imul (pc := 65) hx hb dX9_see_65 ?_
          refine lv_iadd (pc := 66) hx hb dX9_see_66 ?_
          refine lv_iload_n (pc := 67) hx hb dX9_see_67 rfl (lv_at hl 1 rfl) ?_
          obtain ⟨hg11, hm⟩ := gb_some hm
          refine rk_iast (pc := 68) hx hb hK hW0 hS 1 (by decide) rfl (Or.inl (show iv _ _ _ from ⟨by omega, by omega⟩)) (fun _ _ _ => rfl) hg11 dX9_see_68 (fun H13 locs14 hW15 hS16 hz17 hkp18 => ?_)
          obtain ⟨v0_12, he9, hm⟩ := lm_some hm
          rw [he9] at hW15
          have hz19 := hz17.trans hz
          refine lv_aload_n (pc := 69) hx hb dX9_see_69 rfl (lv_at hl 0 rfl) ?_
          refine rk_get (pc := 70) hx hb hts hown hK hW15 flX9_11 0 (by decide) rfl rfl (x := .ref (b0 + 1)) (by first | rfl | exact congrArg (fun z => some (Value.ref z)) (by omega)) dX9_see_70 ?_
          refine lv_bipush (pc := 73) (v := (76 : Int32)) hx hb dX9_see_73 (by decide) ?_
          refine lv_iconst (pc := 75) (v := (2 : Int32)) hx hb dX9_see_75 (by decide) ?_
          refine lv_aload_n (pc := 76) hx hb dX9_see_76 rfl (lv_at hl 0 rfl) ?_
          refine rk_get (pc := 77) hx hb hts hown hK hW15 flX9_11 0 (by decide) rfl rfl (x := .ref (b0 + 1)) (by first | rfl | exact congrArg (fun z => some (Value.ref z)) (by omega)) dX9_see_77 ?_
          refine lv_iconst (pc := 80) (v := (4 : Int32)) hx hb dX9_see_80 (by decide) ?_
          obtain ⟨hg20, hm⟩ := gb_some hm
          refine rk_iald (pc := 81) hx hb hK hW15 1 (by decide) rfl rfl hg20 (x := (gI v0_12 1 (4 : Int32).toNatClampNeg)) rfl dX9_see_81 ?_
          refine lv_imul (pc := 82) hx hb dX9_see_82 ?_
          refine lv_iadd (pc := 83) hx hb dX9_see_83 ?_
          refine lv_iconst (pc := 84) (v := (1 : Int32)) hx hb dX9_see_84 (by decide) ?_
          refine lv_iadd (pc := 85) hx hb dX9_see_85 ?_
          refine lv_iload_n (pc := 86) hx hb dX9_see_86 rfl (lv_at hl 2 rfl) ?_
          obtain ⟨hg21, hm⟩ := gb_some hm
          refine rk_iast (pc := 87) hx hb hK hW15 hS16 1 (by decide) rfl (Or.inl (show iv _ _ _ from ⟨by omega, by omega⟩)) (fun _ _ _ => rfl) hg21 dX9_see_87 (fun H23 locs24 hW25 hS26 hz27 hkp28 => ?_)
          obtain ⟨v0_22, he9, hm⟩ := lm_some hm
          rw [he9] at hW25
          have hz29 := hz27.trans hz19
          refine lv_aload_n (pc := 88) hx hb dX9_see_88 rfl (lv_at hl 0 rfl) ?_
          refine rk_get (pc := 89) hx hb hts hown hK hW25 flX9_11 0 (by decide) rfl rfl (x := .ref (b0 + 1)) (by first | rfl | exact congrArg (fun z => some (Value.ref z)) (by omega)) dX9_see_89 ?_
          refine lv_iconst (pc := 92) (v := (4 : Int32)) hx hb dX9_see_92 (by decide) ?_
          refine lv_dup2_11 (pc := 93) hx hb dX9_see_93 rfl rfl ?_
          obtain ⟨hg30, hm⟩ := gb_some hm
          refine rk_iald (pc := 94) hx hb hK hW25 1 (by decide) rfl rfl hg30 (x := (gI v0_22 1 (4 : Int32).toNatClampNeg)) rfl dX9_see_94 ?_
          refine lv_iconst (pc := 95) (v := (1 : Int32)) hx hb dX9_see_95 (by decide) ?_
          refine lv_iadd (pc := 96) hx hb dX9_see_96 ?_
          obtain ⟨hg31, hm⟩ := gb_some hm
          refine rk_iast (pc := 97) hx hb hK hW25 hS26 1 (by decide) rfl (Or.inl (show iv _ _ _ from ⟨by omega, by omega⟩)) (fun _ _ _ => rfl) hg31 dX9_see_97 (fun H33 locs34 hW35 hS36 hz37 hkp38 => ?_)
          obtain ⟨v0_32, he9, hm⟩ := lm_some hm
          rw [he9] at hW35
          have hz39 := hz37.trans hz29
          refine lv_aload_n (pc := 98) hx hb dX9_see_98 rfl (lv_at hl 0 rfl) ?_
          refine rk_get (pc := 99) hx hb hts hown hK hW35 flX9_11 0 (by decide) rfl rfl (x := .ref (b0 + 1)) (by first | rfl | exact congrArg (fun z => some (Value.ref z)) (by omega)) dX9_see_99 ?_
          refine lv_iconst (pc := 102) (v := (4 : Int32)) hx hb dX9_see_102 (by decide) ?_
          obtain ⟨hg40, hm⟩ := gb_some hm
          refine rk_iald (pc := 103) hx hb hK hW35 1 (by decide) rfl rfl hg40 (x := (gI v0_32 1 (4 : Int32).toNatClampNeg)) rfl dX9_see_103 ?_
          obtain ⟨e8, e9⟩ := rs2 hm
          subst e8
          subst e9
          exact rk_iret (pc := 104) hx hb hr hlk hS36 ⟨rfl, hW35, hz39⟩ dX9_see_104
        · have hm := ite_t c9 hm
          refine lv_bipush (pc := 49) (v := (-4 : Int32)) hx hb dX9_see_49 (by decide) ?_
          obtain ⟨e8, e9⟩ := rs2 hm
          subst e8
          subst e9
          exact rk_iret (pc := 51) hx hb hr hlk hS ⟨rfl, hW0, hz⟩ dX9_see_51
      · have hm := ite_t c7 hm
        refine lv_bipush (pc := 36) (v := (-2 : Int32)) hx hb dX9_see_36 (by decide) ?_
        obtain ⟨e8, e9⟩ := rs2 hm
        subst e8
        subst e9
        exact rk_iret (pc := 38) hx hb hr hlk hS ⟨rfl, hW0, hz⟩ dX9_see_38
    · have hm := ite_t c4 hm
      refine lv_iconst (pc := 22) (v := (-1 : Int32)) hx hb dX9_see_22 (by decide) ?_
      obtain ⟨e8, e9⟩ := rs2 hm
      subst e8
      subst e9
      exact rk_iret (pc := 23) hx hb hr hlk hS ⟨rfl, hW0, hz⟩ dX9_see_23
  · have hm := ite_t c1 hm
    refine lv_aload_n (pc := 5) hx hb dX9_see_5 rfl (lv_at hl 0 rfl) ?_
    refine rk_get (pc := 6) hx hb hts hown hK hW0 flX9_11 0 (by decide) rfl rfl (x := .ref (b0 + 1)) (by first | rfl | exact congrArg (fun z => some (Value.ref z)) (by omega)) dX9_see_6 ?_
    refine lv_iconst (pc := 9) (v := (4 : Int32)) hx hb dX9_see_9 (by decide) ?_
    refine lv_iconst (pc := 10) (v := (0 : Int32)) hx hb dX9_see_10 (by decide) ?_
    obtain ⟨hg41, hm⟩ := gb_some hm
    refine rk_iast (pc := 11) hx hb hK hW0 hS 1 (by decide) rfl (Or.inl (show iv _ _ _ from ⟨by omega, by omega⟩)) (fun _ _ _ => rfl) hg41 dX9_see_11 (fun H43 locs44 hW45 hS46 hz47 hkp48 => ?_)
    obtain ⟨v0_42, he9, hm⟩ := lm_some hm
    rw [he9] at hW45
    have hz49 := hz47.trans hz
    refine lv_iconst (pc := 12) (v := (0 : Int32)) hx hb dX9_see_12 (by decide) ?_
    obtain ⟨e8, e9⟩ := rs2 hm
    subst e8
    subst e9
    exact rk_iret (pc := 13) hx hb hr hlk hS46 ⟨rfl, hW45, hz49⟩ dX9_see_13
set_option maxHeartbeats 4000000 in
theorem ct_X9_see {G : Gv} {l : Launch} {b0 : Nat} {v0 : Mem} {i1 : Int32} {i2 : Int32} {rx : Int32} {rw0 : Mem} {sz : Nat} (hm : fX9_see v0 i1 i2 = some (rx, rw0)) : CT G l yX9_see (ws_ yX9_see cX9_see 3 (some .int)) 2 0 0 46 [.ref b0, .int i1, .int i2] (iv b0 46) sz (fun H => rg G b0 46 (shX9 G.2.1) v0 H) (fun ov H => ov = (some (.int rx)) ∧ rg G b0 46 (shX9 G.2.1) rw0 H ∧ H.size = sz) := by
  refine Met.ofW (cc := cX9_see) (maxL := 3) (ret := (some .int)) (by decide +kernel) rfl ?_
  intro p e s m args below meth c s₁ B hml hv
  obtain ⟨rfl, ⟨hz, hW0⟩, hK⟩ := hv
  subst hz
  have hts := atoms_spec (ws := ws_ yX9_see cX9_see 3 (some .int)) B.pre
  have hts : ∀ w ∈ lw_all, w.before _ s = true := fun w h => hts w (List.mem_cons_of_mem _ h)
  have C : Cx G p s m _ meth c RX9 cX9_see 3 (some .int) := ⟨B.exec, B.bytes, B.returns, B.notSynchronized, hml, findClass_of_methodNamed B.named, hts, hK⟩
  have hl := lv_entry ([.ref b0, .int i1, .int i2]) (n := 3) (Nat.le_of_ble_eq_true rfl)
  rw [lg_entry_eq]
  generalize (lg_sl ([.ref b0, .int i1, .int i2]) ++ List.replicate (3 - (lg_sl ([.ref b0, .int i1, .int i2])).length) Slot.unset).toArray = ls at hl ⊢
  have hl : lv_has ls 3 [(0, .ref b0), (1, .int i1), (2, .int i2)] := hl
  exact w_fX9_see C _ _ _ hm s.heap [] ls hW0 va_S.rf rfl hl
noncomputable def fX9_isSeen_2 (V0 : Mem) (k2 : Int32 → Option (Int32)) (i1 : Int32) : Option (Int32) :=
  gb (inR (4 : Int32) 150) (
  if (gI V0 1 (4 : Int32).toNatClampNeg) ≤ i1 then (
  some (1 : Int32))
  else (
  gb (inR ((76 : Int32) + ((2 : Int32) * i1)) 150) (
  ob (fX9_amountIn V0 (shf V0 19) (gI V0 1 ((76 : Int32) + ((2 : Int32) * i1)).toNatClampNeg)) fun r4 =>
  gb (inR (((76 : Int32) + ((2 : Int32) * i1)) + (1 : Int32)) 150) (
  if r4 = ((gI V0 1 (((76 : Int32) + ((2 : Int32) * i1)) + (1 : Int32)).toNatClampNeg).toInt64 * (gL V0 19 13)) then (
  k2 (i1 + (1 : Int32)))
  else (
  some (0 : Int32))))))
noncomputable def fX9_isSeen (V0 : Mem) : Option (Int32) :=
  lq1 (fX9_isSeen_2 V0) FU (0 : Int32)
set_option maxHeartbeats 4000000 in
theorem w_fX9_isSeen_2 (C : Cx G p s m args meth c RX9 cX9_isSeen 2 (some .boolean)) {b0 : Nat} {V0 : Mem} {rx : Int32} (hW0 : rg G b0 46 (shX9 G.2.1) V0 s.heap) {k2 : Int32 → Option (Int32)} (hk2 : ∀ (i1 : Int32), k2 i1 = some rx → ∀ (ls : Array Slot), lv_has ls 2 [(0, .ref b0), (1, .int i1)] → W p l e (rmP 2 46) s m args below meth c s.heap [] 0 0 (MQ below (QcP (some (.int rx))) args s 0 0 (fun _ => False)) (F0 m 2 ls [])) : ∀ (i1 : Int32), fX9_isSeen_2 V0 k2 i1 = some rx → ∀ (ls : Array Slot), lv_has ls 2 [(0, .ref b0), (1, .int i1)] → W p l e (rmP 2 46) s m args below meth c s.heap [] 0 0 (MQ below (QcP (some (.int rx))) args s 0 0 (fun _ => False)) (F0 m 2 ls []) := by
  intro i1 hm ls hl
  obtain ⟨hx, hb, hr, hlk, hml, hown, hts, hK⟩ := id C
  unfold fX9_isSeen_2 at hm
  refine lv_iload_n (pc := 2) hx hb dX9_isSeen_2 rfl (lv_at hl 1 rfl) ?_
  refine lv_aload_n (pc := 3) hx hb dX9_isSeen_3 rfl (lv_at hl 0 rfl) ?_
  refine rk_get (pc := 4) hx hb hts hown hK hW0 flX9_11 0 (by decide) rfl rfl (x := .ref (b0 + 1)) (by first | rfl | exact congrArg (fun z => some (Value.ref z)) (by omega)) dX9_isSeen_4 ?_
  refine lv_iconst (pc := 7) (v := (4 : Int32)) hx hb dX9_isSeen_7 (by decide) ?_
  obtain ⟨hg1, hm⟩ := gb_some hm
  refine rk_iald (pc := 8) hx hb hK hW0 1 (by decide) rfl rfl hg1 (x := (gI V0 1 (4 : Int32).toNatClampNeg)) rfl dX9_isSeen_8 ?_
  refine lv_icmp_ge (pc := 9) (tgt := 65) hx hb dX9_isSeen_9 (by decide) (fun c2 => ?_) (fun c2 => ?_)
  · have hm := ite_t c2 hm
    refine lv_iconst (pc := 65) (v := (1 : Int32)) hx hb dX9_isSeen_65 (by decide) ?_
    have e9 := rs1 hm
    subst e9
    exact rk_zretP (pc := 66) hx hb hr hlk rfl rfl dX9_isSeen_66
  · have hm := ite_f c2 hm
    refine lv_aload_n (pc := 12) hx hb dX9_isSeen_12 rfl (lv_at hl 0 rfl) ?_
    refine lv_aload_n (pc := 13) hx hb dX9_isSeen_13 rfl (lv_at hl 0 rfl) ?_
    refine rk_get (pc := 14) hx hb hts hown hK hW0 flX9_34 0 (by decide) rfl rfl (x := .ref (b0 + 19)) (by first | rfl | exact congrArg (fun z => some (Value.ref z)) (by omega)) dX9_isSeen_14 ?_
    refine lv_aload_n (pc := 17) hx hb dX9_isSeen_17 rfl (lv_at hl 0 rfl) ?_
    refine rk_get (pc := 18) hx hb hts hown hK hW0 flX9_11 0 (by decide) rfl rfl (x := .ref (b0 + 1)) (by first | rfl | exact congrArg (fun z => some (Value.ref z)) (by omega)) dX9_isSeen_18 ?_
    refine lv_bipush (pc := 21) (v := (76 : Int32)) hx hb dX9_isSeen_21 (by decide) ?_
    refine lv_iconst (pc := 23) (v := (2 : Int32)) hx hb dX9_isSeen_23 (by decide) ?_
    refine lv_iload_n (pc := 24) hx hb dX9_isSeen_24 rfl (lv_at hl 1 rfl) ?_
    refine lv_imul (pc := 25) hx hb dX9_isSeen_25 ?_
    refine lv_iadd (pc := 26) hx hb dX9_isSeen_26 ?_
    obtain ⟨hg3, hm⟩ := gb_some hm
    refine rk_iald (pc := 27) hx hb hK hW0 1 (by decide) rfl rfl hg3 (x := (gI V0 1 ((76 : Int32) + ((2 : Int32) * i1)).toNatClampNeg)) rfl dX9_isSeen_27 ?_
    obtain ⟨r4, hq5, hm⟩ := ob_some hm
    refine rk_PV (pc := 28) (As := [.ref (b0 + 19), .int (gI V0 1 ((76 : Int32) + ((2 : Int32) * i1)).toNatClampNeg)]) (rest := []) hx hb hml hown hts hK lkX9_314 rfl yn_X9_amountIn (ct_X9_amountIn (G := G) (l := l) (b0 := b0) (b1 := (b0 + 19)) hq5) ⟨Nat.le_of_ble_eq_true rfl, Nat.le_of_ble_eq_true rfl⟩ (rk_recv hK hW0 0 (by decide) rfl rfl rfl) ⟨(rg_take hW0 (by decide)), (rg_sub hW0 rfl (by decide) (fun o ho x y z => shX9_n19 G.2.1 _ rfl o ho x y z))⟩ rfl rfl hl.1 (Nat.le_of_ble_eq_true rfl) dX9_isSeen_28 ⟨Nat.zero_le _, Nat.zero_le _⟩ ?_
    refine W.eq (g2 := F0 m 31 ls [.long r4]) rfl ?_
    refine lv_aload_n (pc := 31) hx hb dX9_isSeen_31 rfl (lv_at hl 0 rfl) ?_
    refine rk_get (pc := 32) hx hb hts hown hK hW0 flX9_11 0 (by decide) rfl rfl (x := .ref (b0 + 1)) (by first | rfl | exact congrArg (fun z => some (Value.ref z)) (by omega)) dX9_isSeen_32 ?_
    refine lv_bipush (pc := 35) (v := (76 : Int32)) hx hb dX9_isSeen_35 (by decide) ?_
    refine lv_iconst (pc := 37) (v := (2 : Int32)) hx hb dX9_isSeen_37 (by decide) ?_
    refine lv_iload_n (pc := 38) hx hb dX9_isSeen_38 rfl (lv_at hl 1 rfl) ?_
    refine lv_imul (pc := 39) hx hb dX9_isSeen_39 ?_
    refine lv_iadd (pc := 40) hx hb dX9_isSeen_40 ?_
    refine lv_iconst (pc := 41) (v := (1 : Int32)) hx hb dX9_isSeen_41 (by decide) ?_
    refine lv_iadd (pc := 42) hx hb dX9_isSeen_42 ?_
    obtain ⟨hg6, hm⟩ := gb_some hm
    refine rk_iald (pc := 43) hx hb hK hW0 1 (by decide) rfl rfl hg6 (x := (gI V0 1 (((76 : Int32) + ((2 : Int32) * i1)) + (1 : Int32)).toNatClampNeg)) rfl dX9_isSeen_43 ?_
    refine lv_i2l (pc := 44) hx hb dX9_isSeen_44 rfl ?_
    refine lv_aload_n (pc := 45) hx hb dX9_isSeen_45 rfl (lv_at hl 0 rfl) ?_
    refine rk_get (pc := 46) hx hb hts hown hK hW0 flX9_34 0 (by decide) rfl rfl (x := .ref (b0 + 19)) (by first | rfl | exact congrArg (fun z => some (Value.ref z)) (by omega)) dX9_isSeen_46 ?_
    refine rk_getN (pc := 49) hx hb hts hown hK hW0 fnX9_197 19 (by decide) rfl rfl (x := .long (gL V0 19 13)) rfl dX9_isSeen_49 ?_
    refine lv_lmul (pc := 52) hx hb dX9_isSeen_52 ?_
    refine rk_lcmp_eq (pc := 53) (tgt := 59) hx hb dX9_isSeen_53 rfl dX9_isSeen_54 (by decide) (fun c7 => ?_) (fun c7 => ?_)
    · have hm := ite_t c7 hm
      refine lv_iinc (pc := 59) (v := (i1 + (1 : Int32))) (lv' := [(1, .int (i1 + (1 : Int32))), (0, .ref b0)]) hx hb dX9_isSeen_59 hl (k := 1) rfl rfl (by decide) rfl (fun ls hl => ?_)
      refine lv_goto (pc := 62) (tgt := 2) hx hb dX9_isSeen_62 (by decide) ?_
      exact hk2 (i1 + (1 : Int32)) hm ls (lv_sub hl [1, 0] rfl)
    · have hm := ite_f c7 hm
      refine lv_iconst (pc := 57) (v := (0 : Int32)) hx hb dX9_isSeen_57 (by decide) ?_
      have e9 := rs1 hm
      subst e9
      exact rk_zretP (pc := 58) hx hb hr hlk rfl rfl dX9_isSeen_58
theorem w_fX9_isSeen_2_l (C : Cx G p s m args meth c RX9 cX9_isSeen 2 (some .boolean)) {b0 : Nat} {V0 : Mem} {rx : Int32} (hW0 : rg G b0 46 (shX9 G.2.1) V0 s.heap) : ∀ (n : Nat) (i1 : Int32), lq1 (fX9_isSeen_2 V0) n i1 = some rx → ∀ (ls : Array Slot), lv_has ls 2 [(0, .ref b0), (1, .int i1)] → W p l e (rmP 2 46) s m args below meth c s.heap [] 0 0 (MQ below (QcP (some (.int rx))) args s 0 0 (fun _ => False)) (F0 m 2 ls []) := by
  intro n
  induction n with
  | zero => intro i1 hm; exact (lq1_0 hm).elim
  | succ n ih => intro i1 hm; exact w_fX9_isSeen_2 C hW0 ih i1 (lq1_s hm)
set_option maxHeartbeats 4000000 in
theorem w_fX9_isSeen (C : Cx G p s m args meth c RX9 cX9_isSeen 2 (some .boolean)) {b0 : Nat} {V0 : Mem} {rx : Int32} (hW0 : rg G b0 46 (shX9 G.2.1) V0 s.heap) : fX9_isSeen V0 = some rx → ∀ (ls : Array Slot), lv_has ls 2 [(0, .ref b0)] → W p l e (rmP 2 46) s m args below meth c s.heap [] 0 0 (MQ below (QcP (some (.int rx))) args s 0 0 (fun _ => False)) (F0 m 0 ls []) := by
  intro hm ls hl
  obtain ⟨hx, hb, hr, hlk, hml, hown, hts, hK⟩ := id C
  unfold fX9_isSeen at hm
  refine lv_iconst (pc := 0) (v := (0 : Int32)) hx hb dX9_isSeen_0 (by decide) ?_
  refine lv_istore_n (pc := 1) (lv' := [(1, .int (0 : Int32)), (0, .ref b0)]) hx hb dX9_isSeen_1 rfl hl (by decide) rfl (fun ls hl => ?_)
  exact (w_fX9_isSeen_2_l C hW0 FU) (0 : Int32) hm ls (lv_sub hl [1, 0] rfl)
set_option maxHeartbeats 4000000 in
theorem ct_X9_isSeen {G : Gv} {l : Launch} {b0 : Nat} {V0 : Mem} {rx : Int32} (hm : fX9_isSeen V0  = some rx) : CP G l yX9_isSeen (ws_ yX9_isSeen cX9_isSeen 2 (some .boolean)) 2 46 [.ref b0] (fun H => rg G b0 46 (shX9 G.2.1) V0 H) (some (.int rx)) := by
  refine Met.ofW (cc := cX9_isSeen) (maxL := 2) (ret := (some .boolean)) (by decide +kernel) rfl ?_
  intro p e s m args below meth c s₁ B hml hv
  obtain ⟨rfl, hW0, hK⟩ := hv
  have hts := atoms_spec (ws := ws_ yX9_isSeen cX9_isSeen 2 (some .boolean)) B.pre
  have hts : ∀ w ∈ lw_all, w.before _ s = true := fun w h => hts w (List.mem_cons_of_mem _ h)
  have C : Cx G p s m _ meth c RX9 cX9_isSeen 2 (some .boolean) := ⟨B.exec, B.bytes, B.returns, B.notSynchronized, hml, findClass_of_methodNamed B.named, hts, hK⟩
  have hl := lv_entry ([.ref b0]) (n := 2) (Nat.le_of_ble_eq_true rfl)
  rw [lg_entry_eq]
  generalize (lg_sl ([.ref b0]) ++ List.replicate (2 - (lg_sl ([.ref b0])).length) Slot.unset).toArray = ls at hl ⊢
  have hl : lv_has ls 2 [(0, .ref b0)] := hl
  exact w_fX9_isSeen C hW0  hm ls hl
theorem yn_X9_isSeen : YN yX9_isSeen 0 := by
  unfold YN
  decide +kernel
theorem lkX9_406 : LV RX9 406 RX9 yX9_isSeen cX9_isSeen 2 (some .boolean) := ⟨q2275, q2277, qs104, q128, q2278⟩
noncomputable def fX9_fits_30 (k30 : Mem → Int32 → Int32 → Int32 → Int32 → Int32 → Option (Int32 × Mem)) (v0 : Mem) (i1 : Int32) (i2 : Int32) (i3 : Int32) (i4 : Int32) (i5 : Int32) : Option (Int32 × Mem) :=
  if i5 < 0 then (
  if i2 = 0 then (
  some (i3, v0))
  else (
  some (i4, v0)))
  else (
  ob2 (fX9_worthWith v0 i1 i5) fun r9 w10 =>
  if r9 < 0 then (
  k30 w10 i1 i2 i3 i4 (i5 + (-5 : Int32)))
  else (
  ob (fX9_isSeen w10) fun r21 =>
  if r21 = 0 then (
  k30 w10 i1 i2 i3 i4 (i5 + (-5 : Int32)))
  else (
  k30 w10 i1 i2 (i3 + (1 : Int32)) i5 (i5 + (-5 : Int32)))))
noncomputable def fX9_fits (v0 : Mem) (i1 : Int32) (i2 : Int32) : Option (Int32 × Mem) :=
  ob (fX9_isRule v0 i1) fun r1 =>
  if r1 = 0 then (
  some ((-1 : Int32), v0))
  else (
  ob (fX9_isIn i2.toInt64 (0 : Int64) (1 : Int64)) fun r4 =>
  if r4 = 0 then (
  some ((-1 : Int32), v0))
  else (
  lq6 (fX9_fits_30) FU v0 i1 i2 (0 : Int32) (-5 : Int32) (45 : Int32)))
set_option maxHeartbeats 4000000 in
theorem w_fX9_fits_30 (C : Cx G p s m args meth c RX9 cX9_fits 6 (some .int)) {b0 : Nat} {rx : Int32} {rw0 : Mem} {k30 : Mem → Int32 → Int32 → Int32 → Int32 → Int32 → Option (Int32 × Mem)} (hk30 : ∀ (v0 : Mem) (i1 : Int32) (i2 : Int32) (i3 : Int32) (i4 : Int32) (i5 : Int32), k30 v0 i1 i2 i3 i4 i5 = some (rx, rw0) → ∀ (H : Heap) (locs : List Loc) (ls : Array Slot), rg G b0 46 (shX9 G.2.1) v0 H → va_S (FA (iv b0 46) s.heap.size) s.heap H locs → H.size = s.heap.size → lv_has ls 6 [(0, .ref b0), (1, .int i1), (2, .int i2), (3, .int i3), (4, .int i4), (5, .int i5)] → W p l e (rmT 8 0 0 193) s m args below meth c H locs 0 0 (MQ below (QcT (FA (iv b0 46) s.heap.size) (fun ov H => ov = (some (.int rx)) ∧ rg G b0 46 (shX9 G.2.1) rw0 H ∧ H.size = s.heap.size)) args s 0 0 (FA (iv b0 46) s.heap.size)) (F0 m 30 ls [])) : ∀ (v0 : Mem) (i1 : Int32) (i2 : Int32) (i3 : Int32) (i4 : Int32) (i5 : Int32), fX9_fits_30 k30 v0 i1 i2 i3 i4 i5 = some (rx, rw0) → ∀ (H : Heap) (locs : List Loc) (ls : Array Slot), rg G b0 46 (shX9 G.2.1) v0 H → va_S (FA (iv b0 46) s.heap.size) s.heap H locs → H.size = s.heap.size → lv_has ls 6 [(0, .ref b0), (1, .int i1), (2, .int i2), (3, .int i3), (4, .int i4), (5, .int i5)] → W p l e (rmT 8 0 0 193) s m args below meth c H locs 0 0 (MQ below (QcT (FA (iv b0 46) s.heap.size) (fun ov H => ov = (some (.int rx)) ∧ rg G b0 46 (shX9 G.2.1) rw0 H ∧ H.size = s.heap.size)) args s 0 0 (FA (iv b0 46) s.heap.size)) (F0 m 30 ls []) := by
  intro v0 i1 i2 i3 i4 i5 hm H locs ls hW0 hS hz hl
  obtain ⟨hx, hb, hr, hlk, hml, hown, hts, hK⟩ := id C
  unfold fX9_fits_30 at hm
  refine lv_iload (pc := 30) hx hb dX9_fits_30 (lv_at hl 5 rfl) ?_
  refine lv_if_lt (pc := 32) (tgt := 68) hx hb dX9_fits_32 (by decide) (fun c7 => ?_) (fun c7 => ?_)
  · have hm := ite_t c7 hm
    refine lv_iload_n (pc := 68) hx hb dX9_fits_68 rfl (lv_at hl 2 rfl) ?_
    refine lv_if_ne (pc := 69) (tgt := 76) hx hb dX9_fits_69 (by decide) (fun c8 => ?_) (fun c8 => ?_)
    · have hm := ite_f c8 hm
      refine lv_iload (pc := 76) hx hb dX9_fits_76 (lv_at hl 4 rfl) ?_
      obtain ⟨e8, e9⟩ := rs2 hm
      subst e8
      subst e9
      exact rk_iret (pc := 78) hx hb hr hlk hS ⟨rfl, hW0, hz⟩ dX9_fits_78
    · have hm := ite_t c8 hm
      refine lv_iload_n (pc := 72) hx hb dX9_fits_72 rfl (lv_at hl 3 rfl) ?_
      refine lv_goto (pc := 73) (tgt := 78) hx hb dX9_fits_73 (by decide) ?_
      obtain ⟨e8, e9⟩ := rs2 hm
      subst e8
      subst e9
      exact rk_iret (pc := 78) hx hb hr hlk hS ⟨rfl, hW0, hz⟩ dX9_fits_78
  · have hm := ite_f c7 hm
    refine lv_aload_n (pc := 35) hx hb dX9_fits_35 rfl (lv_at hl 0 rfl) ?_
    refine lv_iload_n (pc := 36) hx hb dX9_fits_36 rfl (lv_at hl 1 rfl) ?_
    refine lv_iload (pc := 37) hx hb dX9_fits_37 (lv_at hl 5 rfl) ?_
    obtain ⟨r9, w10, hq11, hm⟩ := ob2_some hm
    refine rk_TV (pc := 39) (As := [.int i1, .int i5]) (rest := []) (mc := 0) (ms := 0) hx hb hml hown hts hK hS (fun q hq => FA_sz rfl q hq) lkX9_403 rfl yn_X9_worthWith (ct_X9_worthWith (G := G) (l := l) (b0 := b0) (sz := H.size) hq11) ⟨Nat.le_of_ble_eq_true rfl, Nat.le_of_ble_eq_true rfl⟩ (fun z h => Or.inl (show iv _ _ _ from ⟨by have h8 := h.1; have h9 := h.2; omega, by have h8 := h.1; have h9 := h.2; omega⟩)) (rk_recv hK hW0 0 (by decide) rfl rfl rfl) hW0 rfl rfl hl.1 (Nat.le_of_ble_eq_true rfl) dX9_fits_39 ⟨Nat.zero_le _, Nat.zero_le _⟩ (fun ov9 H12 locs13 hP14 hkp15 hS16 => ?_)
    obtain ⟨rfl, hW17, hz18⟩ := hP14
    have hz19 := hz18.trans hz
    refine W.eq (g2 := F0 m 42 ls [.int r9]) rfl ?_
    refine lv_if_lt (pc := 42) (tgt := 62) hx hb dX9_fits_42 (by decide) (fun c20 => ?_) (fun c20 => ?_)
    · have hm := ite_t c20 hm
      refine lv_iinc (pc := 62) (v := (i5 + (-5 : Int32))) (lv' := [(5, .int (i5 + (-5 : Int32))), (0, .ref b0), (1, .int i1), (2, .int i2), (3, .int i3), (4, .int i4)]) hx hb dX9_fits_62 hl (k := 5) rfl (congrArg (i5 + ·) (show Int32.ofInt (-5) = (-5 : Int32) by decide)) (by decide) rfl (fun ls hl => ?_)
      refine lv_goto (pc := 65) (tgt := 30) hx hb dX9_fits_65 (by decide) ?_
      exact hk30 w10 i1 i2 i3 i4 (i5 + (-5 : Int32)) hm H12 locs13 ls hW17 hS16 hz19 (lv_sub hl [1, 2, 3, 4, 5, 0] rfl)
    · have hm := ite_f c20 hm
      refine lv_aload_n (pc := 45) hx hb dX9_fits_45 rfl (lv_at hl 0 rfl) ?_
      obtain ⟨r21, hq22, hm⟩ := ob_some hm
      refine rk_PV (pc := 46) (As := []) (rest := []) hx hb hml hown hts hK lkX9_406 rfl yn_X9_isSeen (ct_X9_isSeen (G := G) (l := l) (b0 := b0) hq22) ⟨Nat.le_of_ble_eq_true rfl, Nat.le_of_ble_eq_true rfl⟩ (rk_recv hK hW17 0 (by decide) rfl rfl rfl) hW17 rfl rfl hl.1 (Nat.le_of_ble_eq_true rfl) dX9_fits_46 ⟨Nat.zero_le _, Nat.zero_le _⟩ ?_
      refine W.eq (g2 := F0 m 49 ls [.int r21]) rfl ?_
      refine lv_if_ne (pc := 49) (tgt := 55) hx hb dX9_fits_49 (by decide) (fun c23 => ?_) (fun c23 => ?_)
      · have hm := ite_f c23 hm
        refine lv_iinc (pc := 55) (v := (i3 + (1 : Int32))) (lv' := [(3, .int (i3 + (1 : Int32))), (0, .ref b0), (1, .int i1), (2, .int i2), (4, .int i4), (5, .int i5)]) hx hb dX9_fits_55 hl (k := 3) rfl rfl (by decide) rfl (fun ls hl => ?_)
        refine lv_iload (pc := 58) hx hb dX9_fits_58 (lv_at hl 5 rfl) ?_
        refine lv_istore (pc := 60) (lv' := [(4, .int i5), (3, .int (i3 + (1 : Int32))), (0, .ref b0), (1, .int i1), (2, .int i2), (5, .int i5)]) hx hb dX9_fits_60 hl (by decide) rfl (fun ls hl => ?_)
        refine lv_iinc (pc := 62) (v := (i5 + (-5 : Int32))) (lv' := [(5, .int (i5 + (-5 : Int32))), (4, .int i5), (3, .int (i3 + (1 : Int32))), (0, .ref b0), (1, .int i1), (2, .int i2)]) hx hb dX9_fits_62 hl (k := 5) rfl (congrArg (i5 + ·) (show Int32.ofInt (-5) = (-5 : Int32) by decide)) (by decide) rfl (fun ls hl => ?_)
        refine lv_goto (pc := 65) (tgt := 30) hx hb dX9_fits_65 (by decide) ?_
        exact hk30 w10 i1 i2 (i3 + (1 : Int32)) i5 (i5 + (-5 : Int32)) hm H12 locs13 ls hW17 hS16 hz19 (lv_sub hl [3, 4, 5, 2, 1, 0] rfl)
      · have hm := ite_t c23 hm
        refine lv_goto (pc := 52) (tgt := 62) hx hb dX9_fits_52 (by decide) ?_
        refine lv_iinc (pc := 62) (v := (i5 + (-5 : Int32))) (lv' := [(5, .int (i5 + (-5 : Int32))), (0, .ref b0), (1, .int i1), (2, .int i2), (3, .int i3), (4, .int i4)]) hx hb dX9_fits_62 hl (k := 5) rfl (congrArg (i5 + ·) (show Int32.ofInt (-5) = (-5 : Int32) by decide)) (by decide) rfl (fun ls hl => ?_)
        refine lv_goto (pc := 65) (tgt := 30) hx hb dX9_fits_65 (by decide) ?_
        exact hk30 w10 i1 i2 i3 i4 (i5 + (-5 : Int32)) hm H12 locs13 ls hW17 hS16 hz19 (lv_sub hl [1, 2, 3, 4, 5, 0] rfl)
theorem w_fX9_fits_30_l (C : Cx G p s m args meth c RX9 cX9_fits 6 (some .int)) {b0 : Nat} {rx : Int32} {rw0 : Mem} : ∀ (n : Nat) (v0 : Mem) (i1 : Int32) (i2 : Int32) (i3 : Int32) (i4 : Int32) (i5 : Int32), lq6 (fX9_fits_30) n v0 i1 i2 i3 i4 i5 = some (rx, rw0) → ∀ (H : Heap) (locs : List Loc) (ls : Array Slot), rg G b0 46 (shX9 G.2.1) v0 H → va_S (FA (iv b0 46) s.heap.size) s.heap H locs → H.size = s.heap.size → lv_has ls 6 [(0, .ref b0), (1, .int i1), (2, .int i2), (3, .int i3), (4, .int i4), (5, .int i5)] → W p l e (rmT 8 0 0 193) s m args below meth c H locs 0 0 (MQ below (QcT (FA (iv b0 46) s.heap.size) (fun ov H => ov = (some (.int rx)) ∧ rg G b0 46 (shX9 G.2.1) rw0 H ∧ H.size = s.heap.size)) args s 0 0 (FA (iv b0 46) s.heap.size)) (F0 m 30 ls []) := by
  intro n
  induction n with
  | zero => intro v0 i1 i2 i3 i4 i5 hm; exact (lq6_0 hm).elim
  | succ n ih => intro v0 i1 i2 i3 i4 i5 hm; exact w_fX9_fits_30 C ih v0 i1 i2 i3 i4 i5 (lq6_s hm)
set_option maxHeartbeats 4000000 in
theorem w_fX9_fits (C : Cx G p s m args meth c RX9 cX9_fits 6 (some .int)) {b0 : Nat} {rx : Int32} {rw0 : Mem} : ∀ (v0 : Mem) (i1 : Int32) (i2 : Int32), fX9_fits v0 i1 i2 = some (rx, rw0) → ∀ (H : Heap) (locs : List Loc) (ls : Array Slot), rg G b0 46 (shX9 G.2.1) v0 H → va_S (FA (iv b0 46) s.heap.size) s.heap H locs → H.size = s.heap.size → lv_has ls 6 [(0, .ref b0), (1, .int i1), (2, .int i2)] → W p l e (rmT 8 0 0 193) s m args below meth c H locs 0 0 (MQ below (QcT (FA (iv b0 46) s.heap.size) (fun ov H => ov = (some (.int rx)) ∧ rg G b0 46 (shX9 G.2.1) rw0 H ∧ H.size = s.heap.size)) args s 0 0 (FA (iv b0 46) s.heap.size)) (F0 m 0 ls []) := by
  intro v0 i1 i2 hm H locs ls hW0 hS hz hl
  obtain ⟨hx, hb, hr, hlk, hml, hown, hts, hK⟩ := id C
  unfold fX9_fits at hm
  refine lv_aload_n (pc := 0) hx hb dX9_fits_0 rfl (lv_at hl 0 rfl) ?_
  refine lv_iload_n (pc := 1) hx hb dX9_fits_1 rfl (lv_at hl 1 rfl) ?_
  obtain ⟨r1, hq2, hm⟩ := ob_some hm
  refine rk_PV (pc := 2) (As := [.int i1]) (rest := []) hx hb hml hown hts hK lkX9_124 rfl yn_X9_isRule (ct_X9_isRule (G := G) (l := l) (b0 := b0) hq2) ⟨Nat.le_of_ble_eq_true rfl, Nat.le_of_ble_eq_true rfl⟩ (rk_recv hK hW0 0 (by decide) rfl rfl rfl) (rg_take hW0 (by decide)) rfl rfl hl.1 (Nat.le_of_ble_eq_true rfl) dX9_fits_2 ⟨Nat.zero_le _, Nat.zero_le _⟩ ?_
  refine W.eq (g2 := F0 m 5 ls [.int r1]) rfl ?_
  refine lv_if_eq (pc := 5) (tgt := 18) hx hb dX9_fits_5 (by decide) (fun c3 => ?_) (fun c3 => ?_)
  · have hm := ite_t c3 hm
    refine lv_iconst (pc := 18) (v := (-1 : Int32)) hx hb dX9_fits_18 (by decide) ?_
    obtain ⟨e8, e9⟩ := rs2 hm
    subst e8
    subst e9
    exact rk_iret (pc := 19) hx hb hr hlk hS ⟨rfl, hW0, hz⟩ dX9_fits_19
  · have hm := ite_f c3 hm
    refine lv_iload_n (pc := 8) hx hb dX9_fits_8 rfl (lv_at hl 2 rfl) ?_
    refine lv_i2l (pc := 9) hx hb dX9_fits_9 rfl ?_
    refine lv_lconst (pc := 10) (v := (0 : Int64)) hx hb dX9_fits_10 (by decide) ?_
    refine lv_lconst (pc := 11) (v := (1 : Int64)) hx hb dX9_fits_11 (by decide) ?_
    obtain ⟨r4, hq5, hm⟩ := ob_some hm
    refine rk_PS (pc := 12) (As := [.long i2.toInt64, .long (0 : Int64), .long (1 : Int64)]) (rest := []) hx hb hml hown hts hK lkX9_93 yn_X9_isIn (ct_X9_isIn (G := G) (l := l) hq5) ⟨Nat.le_of_ble_eq_true rfl, Nat.le_of_ble_eq_true rfl⟩ trivial rfl rfl hl.1 (Nat.le_of_ble_eq_true rfl) dX9_fits_12 ⟨Nat.zero_le _, Nat.zero_le _⟩ ?_
    refine W.eq (g2 := F0 m 15 ls [.int r4]) rfl ?_
    refine lv_if_ne (pc := 15) (tgt := 20) hx hb dX9_fits_15 (by decide) (fun c6 => ?_) (fun c6 => ?_)
    · have hm := ite_f c6 hm
      refine lv_iconst (pc := 20) (v := (0 : Int32)) hx hb dX9_fits_20 (by decide) ?_
      refine lv_istore_n (pc := 21) (lv' := [(3, .int (0 : Int32)), (0, .ref b0), (1, .int i1), (2, .int i2)]) hx hb dX9_fits_21 rfl hl (by decide) rfl (fun ls hl => ?_)
      refine lv_bipush (pc := 22) (v := (-5 : Int32)) hx hb dX9_fits_22 (by decide) ?_
      refine lv_istore (pc := 24) (lv' := [(4, .int (-5 : Int32)), (3, .int (0 : Int32)), (0, .ref b0), (1, .int i1), (2, .int i2)]) hx hb dX9_fits_24 hl (by decide) rfl (fun ls hl => ?_)
      refine lv_bipush (pc := 26) (v := (45 : Int32)) hx hb dX9_fits_26 (by decide) ?_
      refine lv_istore (pc := 28) (lv' := [(5, .int (45 : Int32)), (4, .int (-5 : Int32)), (3, .int (0 : Int32)), (0, .ref b0), (1, .int i1), (2, .int i2)]) hx hb dX9_fits_28 hl (by decide) rfl (fun ls hl => ?_)
      exact (w_fX9_fits_30_l C FU) v0 i1 i2 (0 : Int32) (-5 : Int32) (45 : Int32) hm H locs ls hW0 hS hz (lv_sub hl [3, 4, 5, 2, 1, 0] rfl)
    · have hm := ite_t c6 hm
      refine lv_iconst (pc := 18) (v := (-1 : Int32)) hx hb dX9_fits_18 (by decide) ?_
      obtain ⟨e8, e9⟩ := rs2 hm
      subst e8
      subst e9
      exact rk_iret (pc := 19) hx hb hr hlk hS ⟨rfl, hW0, hz⟩ dX9_fits_19
set_option maxHeartbeats 4000000 in
theorem ct_X9_fits {G : Gv} {l : Launch} {b0 : Nat} {v0 : Mem} {i1 : Int32} {i2 : Int32} {rx : Int32} {rw0 : Mem} {sz : Nat} (hm : fX9_fits v0 i1 i2 = some (rx, rw0)) : CT G l yX9_fits (ws_ yX9_fits cX9_fits 6 (some .int)) 8 0 0 193 [.ref b0, .int i1, .int i2] (iv b0 46) sz (fun H => rg G b0 46 (shX9 G.2.1) v0 H) (fun ov H => ov = (some (.int rx)) ∧ rg G b0 46 (shX9 G.2.1) rw0 H ∧ H.size = sz) := by
  refine Met.ofW (cc := cX9_fits) (maxL := 6) (ret := (some .int)) (by decide +kernel) rfl ?_
  intro p e s m args below meth c s₁ B hml hv
  obtain ⟨rfl, ⟨hz, hW0⟩, hK⟩ := hv
  subst hz
  have hts := atoms_spec (ws := ws_ yX9_fits cX9_fits 6 (some .int)) B.pre
  have hts : ∀ w ∈ lw_all, w.before _ s = true := fun w h => hts w (List.mem_cons_of_mem _ h)
  have C : Cx G p s m _ meth c RX9 cX9_fits 6 (some .int) := ⟨B.exec, B.bytes, B.returns, B.notSynchronized, hml, findClass_of_methodNamed B.named, hts, hK⟩
  have hl := lv_entry ([.ref b0, .int i1, .int i2]) (n := 6) (Nat.le_of_ble_eq_true rfl)
  rw [lg_entry_eq]
  generalize (lg_sl ([.ref b0, .int i1, .int i2]) ++ List.replicate (6 - (lg_sl ([.ref b0, .int i1, .int i2])).length) Slot.unset).toArray = ls at hl ⊢
  have hl : lv_has ls 6 [(0, .ref b0), (1, .int i1), (2, .int i2)] := hl
  exact w_fX9_fits C _ _ _ hm s.heap [] ls hW0 va_S.rf rfl hl
noncomputable def fX9_odds_66 (k66 : Mem → Int32 → Int32 → Int32 → Int32 → Int32 → Int32 → Int32 → Option (Int64 × Mem)) (v0 : Mem) (i1 : Int32) (i2 : Int32) (i3 : Int32) (i4 : Int32) (i5 : Int32) (i6 : Int32) (i7 : Int32) : Option (Int64 × Mem) :=
  if i3 ≤ i7 then (
  ob (fX9_lowest i6.toInt64 i3.toInt64 i5) fun r16 =>
  some (r16, v0))
  else (
  ob2 (fX9_worthWith v0 i1 (i2 + i7)) fun r18 w19 =>
  ob (fX9_isIn r18.toInt64 (0 : Int64) i4.toInt64) fun r29 =>
  if r29 = 0 then (
  k66 w19 i1 i2 i3 i4 i5 (i6 + (0 : Int32)) (i7 + (1 : Int32)))
  else (
  k66 w19 i1 i2 i3 i4 i5 (i6 + (1 : Int32)) (i7 + (1 : Int32))))
noncomputable def fX9_odds (v0 : Mem) (i1 : Int32) (i2 : Int32) (i3 : Int32) (i4 : Int32) (i5 : Int32) : Option (Int64 × Mem) :=
  ob (fX9_isRule v0 i1) fun r1 =>
  if r1 = 0 then (
  some ((-9223372036854775808 : Int64), v0))
  else (
  ob (fX9_isIn i2.toInt64 (-99 : Int64) (999 : Int64)) fun r4 =>
  if r4 = 0 then (
  some ((-9223372036854775808 : Int64), v0))
  else (
  ob (fX9_isIn i3.toInt64 (1 : Int64) (8 : Int64)) fun r7 =>
  if r7 = 0 then (
  some ((-9223372036854775808 : Int64), v0))
  else (
  if (1000 : Int32) < (i2 + i3) then (
  some ((-9223372036854775808 : Int64), v0))
  else (
  if i4 < 0 then (
  some ((-9223372036854775808 : Int64), v0))
  else (
  ob (fX9_isPart i5) fun r12 =>
  if r12 = 0 then (
  some ((-9223372036854775808 : Int64), v0))
  else (
  lq8 (fX9_odds_66) FU v0 i1 i2 i3 i4 i5 (0 : Int32) (0 : Int32)))))))
set_option maxHeartbeats 4000000 in
theorem w_fX9_odds_66 (C : Cx G p s m args meth c RX9 cX9_odds 8 (some .long)) {b0 : Nat} {rx : Int64} {rw0 : Mem} {k66 : Mem → Int32 → Int32 → Int32 → Int32 → Int32 → Int32 → Int32 → Option (Int64 × Mem)} (hk66 : ∀ (v0 : Mem) (i1 : Int32) (i2 : Int32) (i3 : Int32) (i4 : Int32) (i5 : Int32) (i6 : Int32) (i7 : Int32), k66 v0 i1 i2 i3 i4 i5 i6 i7 = some (rx, rw0) → ∀ (H : Heap) (locs : List Loc) (ls : Array Slot), rg G b0 46 (shX9 G.2.1) v0 H → va_S (FA (iv b0 46) s.heap.size) s.heap H locs → H.size = s.heap.size → lv_has ls 8 [(0, .ref b0), (1, .int i1), (2, .int i2), (3, .int i3), (4, .int i4), (5, .int i5), (6, .int i6), (7, .int i7)] → W p l e (rmT 8 0 0 193) s m args below meth c H locs 0 0 (MQ below (QcT (FA (iv b0 46) s.heap.size) (fun ov H => ov = (some (.long rx)) ∧ rg G b0 46 (shX9 G.2.1) rw0 H ∧ H.size = s.heap.size)) args s 0 0 (FA (iv b0 46) s.heap.size)) (F0 m 66 ls [])) : ∀ (v0 : Mem) (i1 : Int32) (i2 : Int32) (i3 : Int32) (i4 : Int32) (i5 : Int32) (i6 : Int32) (i7 : Int32), fX9_odds_66 k66 v0 i1 i2 i3 i4 i5 i6 i7 = some (rx, rw0) → ∀ (H : Heap) (locs : List Loc) (ls : Array Slot), rg G b0 46 (shX9 G.2.1) v0 H → va_S (FA (iv b0 46) s.heap.size) s.heap H locs → H.size = s.heap.size → lv_has ls 8 [(0, .ref b0), (1, .int i1), (2, .int i2), (3, .int i3), (4, .int i4), (5, .int i5), (6, .int i6), (7, .int i7)] → W p l e (rmT 8 0 0 193) s m args below meth c H locs 0 0 (MQ below (QcT (FA (iv b0 46) s.heap.size) (fun ov H => ov = (some (.long rx)) ∧ rg G b0 46 (shX9 G.2.1) rw0 H ∧ H.size = s.heap.size)) args s 0 0 (FA (iv b0 46) s.heap.size)) (F0 m 66 ls []) := by
  intro v0 i1 i2 i3 i4 i5 i6 i7 hm H locs ls hW0 hS hz hl
  obtain ⟨hx, hb, hr, hlk, hml, hown, hts, hK⟩ := id C
  unfold fX9_odds_66 at hm
  refine lv_iload (pc := 66) hx hb dX9_odds_66 (lv_at hl 7 rfl) ?_
  refine lv_iload_n (pc := 68) hx hb dX9_odds_68 rfl (lv_at hl 3 rfl) ?_
  refine lv_icmp_ge (pc := 69) (tgt := 108) hx hb dX9_odds_69 (by decide) (fun c15 => ?_) (fun c15 => ?_)
  · have hm := ite_t c15 hm
    refine lv_iload (pc := 108) hx hb dX9_odds_108 (lv_at hl 6 rfl) ?_
    refine lv_i2l (pc := 110) hx hb dX9_odds_110 rfl ?_
    refine lv_iload_n (pc := 111) hx hb dX9_odds_111 rfl (lv_at hl 3 rfl) ?_
    refine lv_i2l (pc := 112) hx hb dX9_odds_112 rfl ?_
    refine lv_iload (pc := 113) hx hb dX9_odds_113 (lv_at hl 5 rfl) ?_
    obtain ⟨r16, hq17, hm⟩ := ob_some hm
    refine rk_PS (pc := 115) (As := [.long i6.toInt64, .long i3.toInt64, .int i5]) (rest := []) hx hb hml hown hts hK lkX9_317 yn_X9_lowest (ct_X9_lowest (G := G) (l := l) hq17) ⟨Nat.le_of_ble_eq_true rfl, Nat.le_of_ble_eq_true rfl⟩ trivial rfl rfl hl.1 (Nat.le_of_ble_eq_true rfl) dX9_odds_115 ⟨Nat.zero_le _, Nat.zero_le _⟩ ?_
    refine W.eq (g2 := F0 m 118 ls [.long r16]) rfl ?_
    obtain ⟨e8, e9⟩ := rs2 hm
    subst e8
    subst e9
    exact rk_lret (pc := 118) hx hb hr hlk hS ⟨rfl, hW0, hz⟩ dX9_odds_118
  · have hm := ite_f c15 hm
    refine lv_iload (pc := 72) hx hb dX9_odds_72 (lv_at hl 6 rfl) ?_
    refine lv_aload_n (pc := 74) hx hb dX9_odds_74 rfl (lv_at hl 0 rfl) ?_
    refine lv_iload_n (pc := 75) hx hb dX9_odds_75 rfl (lv_at hl 1 rfl) ?_
    refine lv_iload_n (pc := 76) hx hb dX9_odds_76 rfl (lv_at hl 2 rfl) ?_
    refine lv_iload (pc := 77) hx hb dX9_odds_77 (lv_at hl 7 rfl) ?_
    refine lv_iadd (pc := 79) hx hb dX9_odds_79 ?_
    obtain ⟨r18, w19, hq20, hm⟩ := ob2_some hm
    refine rk_TV (pc := 80) (As := [.int i1, .int (i2 + i7)]) (rest := [.int i6]) (mc := 0) (ms := 0) hx hb hml hown hts hK hS (fun q hq => FA_sz rfl q hq) lkX9_403 rfl yn_X9_worthWith (ct_X9_worthWith (G := G) (l := l) (b0 := b0) (sz := H.size) hq20) ⟨Nat.le_of_ble_eq_true rfl, Nat.le_of_ble_eq_true rfl⟩ (fun z h => Or.inl (show iv _ _ _ from ⟨by have h8 := h.1; have h9 := h.2; omega, by have h8 := h.1; have h9 := h.2; omega⟩)) (rk_recv hK hW0 0 (by decide) rfl rfl rfl) hW0 rfl rfl hl.1 (Nat.le_of_ble_eq_true rfl) dX9_odds_80 ⟨Nat.zero_le _, Nat.zero_le _⟩ (fun ov9 H21 locs22 hP23 hkp24 hS25 => ?_)
    obtain ⟨rfl, hW26, hz27⟩ := hP23
    have hz28 := hz27.trans hz
    refine W.eq (g2 := F0 m 83 ls [.int r18, .int i6]) rfl ?_
    refine lv_i2l (pc := 83) hx hb dX9_odds_83 rfl ?_
    refine lv_lconst (pc := 84) (v := (0 : Int64)) hx hb dX9_odds_84 (by decide) ?_
    refine lv_iload (pc := 85) hx hb dX9_odds_85 (lv_at hl 4 rfl) ?_
    refine lv_i2l (pc := 87) hx hb dX9_odds_87 rfl ?_
    obtain ⟨r29, hq30, hm⟩ := ob_some hm
    refine rk_PS (pc := 88) (As := [.long r18.toInt64, .long (0 : Int64), .long i4.toInt64]) (rest := [.int i6]) hx hb hml hown hts hK lkX9_93 yn_X9_isIn (ct_X9_isIn (G := G) (l := l) hq30) ⟨Nat.le_of_ble_eq_true rfl, Nat.le_of_ble_eq_true rfl⟩ trivial rfl rfl hl.1 (Nat.le_of_ble_eq_true rfl) dX9_odds_88 ⟨Nat.zero_le _, Nat.zero_le _⟩ ?_
    refine W.eq (g2 := F0 m 91 ls [.int r29, .int i6]) rfl ?_
    refine lv_if_eq (pc := 91) (tgt := 98) hx hb dX9_odds_91 (by decide) (fun c31 => ?_) (fun c31 => ?_)
    · have hm := ite_t c31 hm
      refine lv_iconst (pc := 98) (v := (0 : Int32)) hx hb dX9_odds_98 (by decide) ?_
      refine lv_iadd (pc := 99) hx hb dX9_odds_99 ?_
      refine lv_istore (pc := 100) (lv' := [(6, .int (i6 + (0 : Int32))), (0, .ref b0), (1, .int i1), (2, .int i2), (3, .int i3), (4, .int i4), (5, .int i5), (7, .int i7)]) hx hb dX9_odds_100 hl (by decide) rfl (fun ls hl => ?_)
      refine lv_iinc (pc := 102) (v := (i7 + (1 : Int32))) (lv' := [(7, .int (i7 + (1 : Int32))), (6, .int (i6 + (0 : Int32))), (0, .ref b0), (1, .int i1), (2, .int i2), (3, .int i3), (4, .int i4), (5, .int i5)]) hx hb dX9_odds_102 hl (k := 7) rfl rfl (by decide) rfl (fun ls hl => ?_)
      refine lv_goto (pc := 105) (tgt := 66) hx hb dX9_odds_105 (by decide) ?_
      exact hk66 w19 i1 i2 i3 i4 i5 (i6 + (0 : Int32)) (i7 + (1 : Int32)) hm H21 locs22 ls hW26 hS25 hz28 (lv_sub hl [2, 3, 4, 5, 6, 7, 1, 0] rfl)
    · have hm := ite_f c31 hm
      refine lv_iconst (pc := 94) (v := (1 : Int32)) hx hb dX9_odds_94 (by decide) ?_
      refine lv_goto (pc := 95) (tgt := 99) hx hb dX9_odds_95 (by decide) ?_
      refine lv_iadd (pc := 99) hx hb dX9_odds_99 ?_
      refine lv_istore (pc := 100) (lv' := [(6, .int (i6 + (1 : Int32))), (0, .ref b0), (1, .int i1), (2, .int i2), (3, .int i3), (4, .int i4), (5, .int i5), (7, .int i7)]) hx hb dX9_odds_100 hl (by decide) rfl (fun ls hl => ?_)
      refine lv_iinc (pc := 102) (v := (i7 + (1 : Int32))) (lv' := [(7, .int (i7 + (1 : Int32))), (6, .int (i6 + (1 : Int32))), (0, .ref b0), (1, .int i1), (2, .int i2), (3, .int i3), (4, .int i4), (5, .int i5)]) hx hb dX9_odds_102 hl (k := 7) rfl rfl (by decide) rfl (fun ls hl => ?_)
      refine lv_goto (pc := 105) (tgt := 66) hx hb dX9_odds_105 (by decide) ?_
      exact hk66 w19 i1 i2 i3 i4 i5 (i6 + (1 : Int32)) (i7 + (1 : Int32)) hm H21 locs22 ls hW26 hS25 hz28 (lv_sub hl [2, 3, 4, 5, 6, 7, 1, 0] rfl)
theorem w_fX9_odds_66_l (C : Cx G p s m args meth c RX9 cX9_odds 8 (some .long)) {b0 : Nat} {rx : Int64} {rw0 : Mem} : ∀ (n : Nat) (v0 : Mem) (i1 : Int32) (i2 : Int32) (i3 : Int32) (i4 : Int32) (i5 : Int32) (i6 : Int32) (i7 : Int32), lq8 (fX9_odds_66) n v0 i1 i2 i3 i4 i5 i6 i7 = some (rx, rw0) → ∀ (H : Heap) (locs : List Loc) (ls : Array Slot), rg G b0 46 (shX9 G.2.1) v0 H → va_S (FA (iv b0 46) s.heap.size) s.heap H locs → H.size = s.heap.size → lv_has ls 8 [(0, .ref b0), (1, .int i1), (2, .int i2), (3, .int i3), (4, .int i4), (5, .int i5), (6, .int i6), (7, .int i7)] → W p l e (rmT 8 0 0 193) s m args below meth c H locs 0 0 (MQ below (QcT (FA (iv b0 46) s.heap.size) (fun ov H => ov = (some (.long rx)) ∧ rg G b0 46 (shX9 G.2.1) rw0 H ∧ H.size = s.heap.size)) args s 0 0 (FA (iv b0 46) s.heap.size)) (F0 m 66 ls []) := by
  intro n
  induction n with
  | zero => intro v0 i1 i2 i3 i4 i5 i6 i7 hm; exact (lq8_0 hm).elim
  | succ n ih => intro v0 i1 i2 i3 i4 i5 i6 i7 hm; exact w_fX9_odds_66 C ih v0 i1 i2 i3 i4 i5 i6 i7 (lq8_s hm)
set_option maxHeartbeats 4000000 in
theorem w_fX9_odds (C : Cx G p s m args meth c RX9 cX9_odds 8 (some .long)) {b0 : Nat} {rx : Int64} {rw0 : Mem} : ∀ (v0 : Mem) (i1 : Int32) (i2 : Int32) (i3 : Int32) (i4 : Int32) (i5 : Int32), fX9_odds v0 i1 i2 i3 i4 i5 = some (rx, rw0) → ∀ (H : Heap) (locs : List Loc) (ls : Array Slot), rg G b0 46 (shX9 G.2.1) v0 H → va_S (FA (iv b0 46) s.heap.size) s.heap H locs → H.size = s.heap.size → lv_has ls 8 [(0, .ref b0), (1, .int i1), (2, .int i2), (3, .int i3), (4, .int i4), (5, .int i5)] → W p l e (rmT 8 0 0 193) s m args below meth c H locs 0 0 (MQ below (QcT (FA (iv b0 46) s.heap.size) (fun ov H => ov = (some (.long rx)) ∧ rg G b0 46 (shX9 G.2.1) rw0 H ∧ H.size = s.heap.size)) args s 0 0 (FA (iv b0 46) s.heap.size)) (F0 m 0 ls []) := by
  intro v0 i1 i2 i3 i4 i5 hm H locs ls hW0 hS hz hl
  obtain ⟨hx, hb, hr, hlk, hml, hown, hts, hK⟩ := id C
  unfold fX9_odds at hm
  refine lv_aload_n (pc := 0) hx hb dX9_odds_0 rfl (lv_at hl 0 rfl) ?_
  refine lv_iload_n (pc := 1) hx hb dX9_odds_1 rfl (lv_at hl 1 rfl) ?_
  obtain ⟨r1, hq2, hm⟩ := ob_some hm
  refine rk_PV (pc := 2) (As := [.int i1]) (rest := []) hx hb hml hown hts hK lkX9_124 rfl yn_X9_isRule (ct_X9_isRule (G := G) (l := l) (b0 := b0) hq2) ⟨Nat.le_of_ble_eq_true rfl, Nat.le_of_ble_eq_true rfl⟩ (rk_recv hK hW0 0 (by decide) rfl rfl rfl) (rg_take hW0 (by decide)) rfl rfl hl.1 (Nat.le_of_ble_eq_true rfl) dX9_odds_2 ⟨Nat.zero_le _, Nat.zero_le _⟩ ?_
  refine W.eq (g2 := F0 m 5 ls [.int r1]) rfl ?_
  refine lv_if_eq (pc := 5) (tgt := 56) hx hb dX9_odds_5 (by decide) (fun c3 => ?_) (fun c3 => ?_)
  · have hm := ite_t c3 hm
    refine lv_ldc2 (pc := 56) (v := (-9223372036854775808 : Int64)) hx hb hown (hts _ q2101) dX9_odds_56 ?_
    obtain ⟨e8, e9⟩ := rs2 hm
    subst e8
    subst e9
    exact rk_lret (pc := 59) hx hb hr hlk hS ⟨rfl, hW0, hz⟩ dX9_odds_59
  · have hm := ite_f c3 hm
    refine lv_iload_n (pc := 8) hx hb dX9_odds_8 rfl (lv_at hl 2 rfl) ?_
    refine lv_i2l (pc := 9) hx hb dX9_odds_9 rfl ?_
    refine lv_ldc2 (pc := 10) (v := (-99 : Int64)) hx hb hown (hts _ q1940) dX9_odds_10 ?_
    refine lv_ldc2 (pc := 13) (v := (999 : Int64)) hx hb hown (hts _ q1941) dX9_odds_13 ?_
    obtain ⟨r4, hq5, hm⟩ := ob_some hm
    refine rk_PS (pc := 16) (As := [.long i2.toInt64, .long (-99 : Int64), .long (999 : Int64)]) (rest := []) hx hb hml hown hts hK lkX9_93 yn_X9_isIn (ct_X9_isIn (G := G) (l := l) hq5) ⟨Nat.le_of_ble_eq_true rfl, Nat.le_of_ble_eq_true rfl⟩ trivial rfl rfl hl.1 (Nat.le_of_ble_eq_true rfl) dX9_odds_16 ⟨Nat.zero_le _, Nat.zero_le _⟩ ?_
    refine W.eq (g2 := F0 m 19 ls [.int r4]) rfl ?_
    refine lv_if_eq (pc := 19) (tgt := 56) hx hb dX9_odds_19 (by decide) (fun c6 => ?_) (fun c6 => ?_)
    · have hm := ite_t c6 hm
      refine lv_ldc2 (pc := 56) (v := (-9223372036854775808 : Int64)) hx hb hown (hts _ q2101) dX9_odds_56 ?_
      obtain ⟨e8, e9⟩ := rs2 hm
      subst e8
      subst e9
      exact rk_lret (pc := 59) hx hb hr hlk hS ⟨rfl, hW0, hz⟩ dX9_odds_59
    · have hm := ite_f c6 hm
      refine lv_iload_n (pc := 22) hx hb dX9_odds_22 rfl (lv_at hl 3 rfl) ?_
      refine lv_i2l (pc := 23) hx hb dX9_odds_23 rfl ?_
      refine lv_lconst (pc := 24) (v := (1 : Int64)) hx hb dX9_odds_24 (by decide) ?_
      refine lv_ldc2 (pc := 25) (v := (8 : Int64)) hx hb hown (hts _ q2283) dX9_odds_25 ?_
      obtain ⟨r7, hq8, hm⟩ := ob_some hm
      refine rk_PS (pc := 28) (As := [.long i3.toInt64, .long (1 : Int64), .long (8 : Int64)]) (rest := []) hx hb hml hown hts hK lkX9_93 yn_X9_isIn (ct_X9_isIn (G := G) (l := l) hq8) ⟨Nat.le_of_ble_eq_true rfl, Nat.le_of_ble_eq_true rfl⟩ trivial rfl rfl hl.1 (Nat.le_of_ble_eq_true rfl) dX9_odds_28 ⟨Nat.zero_le _, Nat.zero_le _⟩ ?_
      refine W.eq (g2 := F0 m 31 ls [.int r7]) rfl ?_
      refine lv_if_eq (pc := 31) (tgt := 56) hx hb dX9_odds_31 (by decide) (fun c9 => ?_) (fun c9 => ?_)
      · have hm := ite_t c9 hm
        refine lv_ldc2 (pc := 56) (v := (-9223372036854775808 : Int64)) hx hb hown (hts _ q2101) dX9_odds_56 ?_
        obtain ⟨e8, e9⟩ := rs2 hm
        subst e8
        subst e9
        exact rk_lret (pc := 59) hx hb hr hlk hS ⟨rfl, hW0, hz⟩ dX9_odds_59
      · have hm := ite_f c9 hm
        refine lv_iload_n (pc := 34) hx hb dX9_odds_34 rfl (lv_at hl 2 rfl) ?_
        refine lv_iload_n (pc := 35) hx hb dX9_odds_35 rfl (lv_at hl 3 rfl) ?_
        refine lv_iadd (pc := 36) hx hb dX9_odds_36 ?_
        refine lv_sipush (pc := 37) (v := (1000 : Int32)) hx hb dX9_odds_37 (by decide) ?_
        refine lv_icmp_gt (pc := 40) (tgt := 56) hx hb dX9_odds_40 (by decide) (fun c10 => ?_) (fun c10 => ?_)
        · have hm := ite_t c10 hm
          refine lv_ldc2 (pc := 56) (v := (-9223372036854775808 : Int64)) hx hb hown (hts _ q2101) dX9_odds_56 ?_
          obtain ⟨e8, e9⟩ := rs2 hm
          subst e8
          subst e9
          exact rk_lret (pc := 59) hx hb hr hlk hS ⟨rfl, hW0, hz⟩ dX9_odds_59
        · have hm := ite_f c10 hm
          refine lv_iload (pc := 43) hx hb dX9_odds_43 (lv_at hl 4 rfl) ?_
          refine lv_if_lt (pc := 45) (tgt := 56) hx hb dX9_odds_45 (by decide) (fun c11 => ?_) (fun c11 => ?_)
          · have hm := ite_t c11 hm
            refine lv_ldc2 (pc := 56) (v := (-9223372036854775808 : Int64)) hx hb hown (hts _ q2101) dX9_odds_56 ?_
            obtain ⟨e8, e9⟩ := rs2 hm
            subst e8
            subst e9
            exact rk_lret (pc := 59) hx hb hr hlk hS ⟨rfl, hW0, hz⟩ dX9_odds_59
          · have hm := ite_f c11 hm
            refine lv_iload (pc := 48) hx hb dX9_odds_48 (lv_at hl 5 rfl) ?_
            obtain ⟨r12, hq13, hm⟩ := ob_some hm
            refine rk_PS (pc := 50) (As := [.int i5]) (rest := []) hx hb hml hown hts hK lkX9_311 yn_X9_isPart (ct_X9_isPart (G := G) (l := l) hq13) ⟨Nat.le_of_ble_eq_true rfl, Nat.le_of_ble_eq_true rfl⟩ trivial rfl rfl hl.1 (Nat.le_of_ble_eq_true rfl) dX9_odds_50 ⟨Nat.zero_le _, Nat.zero_le _⟩ ?_
            refine W.eq (g2 := F0 m 53 ls [.int r12]) rfl ?_
            refine lv_if_ne (pc := 53) (tgt := 60) hx hb dX9_odds_53 (by decide) (fun c14 => ?_) (fun c14 => ?_)
            · have hm := ite_f c14 hm
              refine lv_iconst (pc := 60) (v := (0 : Int32)) hx hb dX9_odds_60 (by decide) ?_
              refine lv_istore (pc := 61) (lv' := [(6, .int (0 : Int32)), (0, .ref b0), (1, .int i1), (2, .int i2), (3, .int i3), (4, .int i4), (5, .int i5)]) hx hb dX9_odds_61 hl (by decide) rfl (fun ls hl => ?_)
              refine lv_iconst (pc := 63) (v := (0 : Int32)) hx hb dX9_odds_63 (by decide) ?_
              refine lv_istore (pc := 64) (lv' := [(7, .int (0 : Int32)), (6, .int (0 : Int32)), (0, .ref b0), (1, .int i1), (2, .int i2), (3, .int i3), (4, .int i4), (5, .int i5)]) hx hb dX9_odds_64 hl (by decide) rfl (fun ls hl => ?_)
              exact (w_fX9_odds_66_l C FU) v0 i1 i2 i3 i4 i5 (0 : Int32) (0 : Int32) hm H locs ls hW0 hS hz (lv_sub hl [2, 3, 4, 5, 6, 7, 1, 0] rfl)
            · have hm := ite_t c14 hm
              refine lv_ldc2 (pc := 56) (v := (-9223372036854775808 : Int64)) hx hb hown (hts _ q2101) dX9_odds_56 ?_
              obtain ⟨e8, e9⟩ := rs2 hm
              subst e8
              subst e9
              exact rk_lret (pc := 59) hx hb hr hlk hS ⟨rfl, hW0, hz⟩ dX9_odds_59
set_option maxHeartbeats 4000000 in
theorem ct_X9_odds {G : Gv} {l : Launch} {b0 : Nat} {v0 : Mem} {i1 : Int32} {i2 : Int32} {i3 : Int32} {i4 : Int32} {i5 : Int32} {rx : Int64} {rw0 : Mem} {sz : Nat} (hm : fX9_odds v0 i1 i2 i3 i4 i5 = some (rx, rw0)) : CT G l yX9_odds (ws_ yX9_odds cX9_odds 8 (some .long)) 8 0 0 193 [.ref b0, .int i1, .int i2, .int i3, .int i4, .int i5] (iv b0 46) sz (fun H => rg G b0 46 (shX9 G.2.1) v0 H) (fun ov H => ov = (some (.long rx)) ∧ rg G b0 46 (shX9 G.2.1) rw0 H ∧ H.size = sz) := by
  refine Met.ofW (cc := cX9_odds) (maxL := 8) (ret := (some .long)) (by decide +kernel) rfl ?_
  intro p e s m args below meth c s₁ B hml hv
  obtain ⟨rfl, ⟨hz, hW0⟩, hK⟩ := hv
  subst hz
  have hts := atoms_spec (ws := ws_ yX9_odds cX9_odds 8 (some .long)) B.pre
  have hts : ∀ w ∈ lw_all, w.before _ s = true := fun w h => hts w (List.mem_cons_of_mem _ h)
  have C : Cx G p s m _ meth c RX9 cX9_odds 8 (some .long) := ⟨B.exec, B.bytes, B.returns, B.notSynchronized, hml, findClass_of_methodNamed B.named, hts, hK⟩
  have hl := lv_entry ([.ref b0, .int i1, .int i2, .int i3, .int i4, .int i5]) (n := 8) (Nat.le_of_ble_eq_true rfl)
  rw [lg_entry_eq]
  generalize (lg_sl ([.ref b0, .int i1, .int i2, .int i3, .int i4, .int i5]) ++ List.replicate (8 - (lg_sl ([.ref b0, .int i1, .int i2, .int i3, .int i4, .int i5])).length) Slot.unset).toArray = ls at hl ⊢
  have hl : lv_has ls 8 [(0, .ref b0), (1, .int i1), (2, .int i2), (3, .int i3), (4, .int i4), (5, .int i5)] := hl
  exact w_fX9_odds C _ _ _ _ _ _ hm s.heap [] ls hW0 va_S.rf rfl hl
noncomputable def fX9_mean_15 (V0 : Mem) (k15 : Int32 → Int32 → Int32 → Option (Int64)) (i1 : Int32) (i2 : Int32) (i3 : Int32) : Option (Int64) :=
  ob (fX9_n V0) fun r4 =>
  if r4 ≤ i3 then (
  ob (fX9_n V0) fun r7 =>
  ob (fX9_lowest i2.toInt64 r7.toInt64 i1) fun r9 =>
  some r9)
  else (
  gb (inR ((7 : Int32) + i3) 150) (
  k15 i1 (i2 + (gI V0 1 ((7 : Int32) + i3).toNatClampNeg)) (i3 + (1 : Int32))))
noncomputable def fX9_mean (V0 : Mem) (i1 : Int32) : Option (Int64) :=
  ob (fX9_isPart i1) fun r1 =>
  if r1 = 0 then (
  some (-9223372036854775808 : Int64))
  else (
  lq3 (fX9_mean_15 V0) FU i1 (0 : Int32) (0 : Int32))
set_option maxHeartbeats 4000000 in
theorem w_fX9_mean_15 (C : Cx G p s m args meth c RX9 cX9_mean 4 (some .long)) {b0 : Nat} {V0 : Mem} {rx : Int64} (hW0 : rg G b0 46 (shX9 G.2.1) V0 s.heap) {k15 : Int32 → Int32 → Int32 → Option (Int64)} (hk15 : ∀ (i1 : Int32) (i2 : Int32) (i3 : Int32), k15 i1 i2 i3 = some rx → ∀ (ls : Array Slot), lv_has ls 4 [(0, .ref b0), (1, .int i1), (2, .int i2), (3, .int i3)] → W p l e (rmP 2 45) s m args below meth c s.heap [] 0 0 (MQ below (QcP (some (.long rx))) args s 0 0 (fun _ => False)) (F0 m 15 ls [])) : ∀ (i1 : Int32) (i2 : Int32) (i3 : Int32), fX9_mean_15 V0 k15 i1 i2 i3 = some rx → ∀ (ls : Array Slot), lv_has ls 4 [(0, .ref b0), (1, .int i1), (2, .int i2), (3, .int i3)] → W p l e (rmP 2 45) s m args below meth c s.heap [] 0 0 (MQ below (QcP (some (.long rx))) args s 0 0 (fun _ => False)) (F0 m 15 ls []) := by
  intro i1 i2 i3 hm ls hl
  obtain ⟨hx, hb, hr, hlk, hml, hown, hts, hK⟩ := id C
  unfold fX9_mean_15 at hm
  refine lv_iload_n (pc := 15) hx hb dX9_mean_15 rfl (lv_at hl 3 rfl) ?_
  refine lv_aload_n (pc := 16) hx hb dX9_mean_16 rfl (lv_at hl 0 rfl) ?_
  obtain ⟨r4, hq5, hm⟩ := ob_some hm
  refine rk_PV (pc := 17) (As := []) (rest := [.int i3]) hx hb hml hown hts hK lkX9_89 rfl yn_X9_n (ct_X9_n (G := G) (l := l) (b0 := b0) hq5) ⟨Nat.le_of_ble_eq_true rfl, Nat.le_of_ble_eq_true rfl⟩ (rk_recv hK hW0 0 (by decide) rfl rfl rfl) (rg_take hW0 (by decide)) rfl rfl hl.1 (Nat.le_of_ble_eq_true rfl) dX9_mean_17 ⟨Nat.zero_le _, Nat.zero_le _⟩ ?_
  refine W.eq (g2 := F0 m 20 ls [.int r4, .int i3]) rfl ?_
  refine lv_icmp_ge (pc := 20) (tgt := 41) hx hb dX9_mean_20 (by decide) (fun c6 => ?_) (fun c6 => ?_)
  · have hm := ite_t c6 hm
    refine lv_iload_n (pc := 41) hx hb dX9_mean_41 rfl (lv_at hl 2 rfl) ?_
    refine lv_i2l (pc := 42) hx hb dX9_mean_42 rfl ?_
    refine lv_aload_n (pc := 43) hx hb dX9_mean_43 rfl (lv_at hl 0 rfl) ?_
    obtain ⟨r7, hq8, hm⟩ := ob_some hm
    refine rk_PV (pc := 44) (As := []) (rest := [.long i2.toInt64]) hx hb hml hown hts hK lkX9_89 rfl yn_X9_n (ct_X9_n (G := G) (l := l) (b0 := b0) hq8) ⟨Nat.le_of_ble_eq_true rfl, Nat.le_of_ble_eq_true rfl⟩ (rk_recv hK hW0 0 (by decide) rfl rfl rfl) (rg_take hW0 (by decide)) rfl rfl hl.1 (Nat.le_of_ble_eq_true rfl) dX9_mean_44 ⟨Nat.zero_le _, Nat.zero_le _⟩ ?_
    refine W.eq (g2 := F0 m 47 ls [.int r7, .long i2.toInt64]) rfl ?_
    refine lv_i2l (pc := 47) hx hb dX9_mean_47 rfl ?_
    refine lv_iload_n (pc := 48) hx hb dX9_mean_48 rfl (lv_at hl 1 rfl) ?_
    obtain ⟨r9, hq10, hm⟩ := ob_some hm
    refine rk_PS (pc := 49) (As := [.long i2.toInt64, .long r7.toInt64, .int i1]) (rest := []) hx hb hml hown hts hK lkX9_317 yn_X9_lowest (ct_X9_lowest (G := G) (l := l) hq10) ⟨Nat.le_of_ble_eq_true rfl, Nat.le_of_ble_eq_true rfl⟩ trivial rfl rfl hl.1 (Nat.le_of_ble_eq_true rfl) dX9_mean_49 ⟨Nat.zero_le _, Nat.zero_le _⟩ ?_
    refine W.eq (g2 := F0 m 52 ls [.long r9]) rfl ?_
    have e9 := rs1 hm
    subst e9
    exact rk_lretP (pc := 52) hx hb hr hlk rfl dX9_mean_52
  · have hm := ite_f c6 hm
    refine lv_iload_n (pc := 23) hx hb dX9_mean_23 rfl (lv_at hl 2 rfl) ?_
    refine lv_aload_n (pc := 24) hx hb dX9_mean_24 rfl (lv_at hl 0 rfl) ?_
    refine rk_get (pc := 25) hx hb hts hown hK hW0 flX9_11 0 (by decide) rfl rfl (x := .ref (b0 + 1)) (by first | rfl | exact congrArg (fun z => some (Value.ref z)) (by omega)) dX9_mean_25 ?_
    refine lv_bipush (pc := 28) (v := (7 : Int32)) hx hb dX9_mean_28 (by decide) ?_
    refine lv_iload_n (pc := 30) hx hb dX9_mean_30 rfl (lv_at hl 3 rfl) ?_
    refine lv_iadd (pc := 31) hx hb dX9_mean_31 ?_
    obtain ⟨hg11, hm⟩ := gb_some hm
    refine rk_iald (pc := 32) hx hb hK hW0 1 (by decide) rfl rfl hg11 (x := (gI V0 1 ((7 : Int32) + i3).toNatClampNeg)) rfl dX9_mean_32 ?_
    refine lv_iadd (pc := 33) hx hb dX9_mean_33 ?_
    refine lv_istore_n (pc := 34) (lv' := [(2, .int (i2 + (gI V0 1 ((7 : Int32) + i3).toNatClampNeg))), (0, .ref b0), (1, .int i1), (3, .int i3)]) hx hb dX9_mean_34 rfl hl (by decide) rfl (fun ls hl => ?_)
    refine lv_iinc (pc := 35) (v := (i3 + (1 : Int32))) (lv' := [(3, .int (i3 + (1 : Int32))), (2, .int (i2 + (gI V0 1 ((7 : Int32) + i3).toNatClampNeg))), (0, .ref b0), (1, .int i1)]) hx hb dX9_mean_35 hl (k := 3) rfl rfl (by decide) rfl (fun ls hl => ?_)
    refine lv_goto (pc := 38) (tgt := 15) hx hb dX9_mean_38 (by decide) ?_
    exact hk15 i1 (i2 + (gI V0 1 ((7 : Int32) + i3).toNatClampNeg)) (i3 + (1 : Int32)) hm ls (lv_sub hl [2, 3, 1, 0] rfl)
theorem w_fX9_mean_15_l (C : Cx G p s m args meth c RX9 cX9_mean 4 (some .long)) {b0 : Nat} {V0 : Mem} {rx : Int64} (hW0 : rg G b0 46 (shX9 G.2.1) V0 s.heap) : ∀ (n : Nat) (i1 : Int32) (i2 : Int32) (i3 : Int32), lq3 (fX9_mean_15 V0) n i1 i2 i3 = some rx → ∀ (ls : Array Slot), lv_has ls 4 [(0, .ref b0), (1, .int i1), (2, .int i2), (3, .int i3)] → W p l e (rmP 2 45) s m args below meth c s.heap [] 0 0 (MQ below (QcP (some (.long rx))) args s 0 0 (fun _ => False)) (F0 m 15 ls []) := by
  intro n
  induction n with
  | zero => intro i1 i2 i3 hm; exact (lq3_0 hm).elim
  | succ n ih => intro i1 i2 i3 hm; exact w_fX9_mean_15 C hW0 ih i1 i2 i3 (lq3_s hm)
set_option maxHeartbeats 4000000 in
theorem w_fX9_mean (C : Cx G p s m args meth c RX9 cX9_mean 4 (some .long)) {b0 : Nat} {V0 : Mem} {rx : Int64} (hW0 : rg G b0 46 (shX9 G.2.1) V0 s.heap) : ∀ (i1 : Int32), fX9_mean V0 i1 = some rx → ∀ (ls : Array Slot), lv_has ls 4 [(0, .ref b0), (1, .int i1)] → W p l e (rmP 2 45) s m args below meth c s.heap [] 0 0 (MQ below (QcP (some (.long rx))) args s 0 0 (fun _ => False)) (F0 m 0 ls []) := by
  intro i1 hm ls hl
  obtain ⟨hx, hb, hr, hlk, hml, hown, hts, hK⟩ := id C
  unfold fX9_mean at hm
  refine lv_iload_n (pc := 0) hx hb dX9_mean_0 rfl (lv_at hl 1 rfl) ?_
  obtain ⟨r1, hq2, hm⟩ := ob_some hm
  refine rk_PS (pc := 1) (As := [.int i1]) (rest := []) hx hb hml hown hts hK lkX9_311 yn_X9_isPart (ct_X9_isPart (G := G) (l := l) hq2) ⟨Nat.le_of_ble_eq_true rfl, Nat.le_of_ble_eq_true rfl⟩ trivial rfl rfl hl.1 (Nat.le_of_ble_eq_true rfl) dX9_mean_1 ⟨Nat.zero_le _, Nat.zero_le _⟩ ?_
  refine W.eq (g2 := F0 m 4 ls [.int r1]) rfl ?_
  refine lv_if_ne (pc := 4) (tgt := 11) hx hb dX9_mean_4 (by decide) (fun c3 => ?_) (fun c3 => ?_)
  · have hm := ite_f c3 hm
    refine lv_iconst (pc := 11) (v := (0 : Int32)) hx hb dX9_mean_11 (by decide) ?_
    refine lv_istore_n (pc := 12) (lv' := [(2, .int (0 : Int32)), (0, .ref b0), (1, .int i1)]) hx hb dX9_mean_12 rfl hl (by decide) rfl (fun ls hl => ?_)
    refine lv_iconst (pc := 13) (v := (0 : Int32)) hx hb dX9_mean_13 (by decide) ?_
    refine lv_istore_n (pc := 14) (lv' := [(3, .int (0 : Int32)), (2, .int (0 : Int32)), (0, .ref b0), (1, .int i1)]) hx hb dX9_mean_14 rfl hl (by decide) rfl (fun ls hl => ?_)
    exact (w_fX9_mean_15_l C hW0 FU) i1 (0 : Int32) (0 : Int32) hm ls (lv_sub hl [2, 3, 1, 0] rfl)
  · have hm := ite_t c3 hm
    refine lv_ldc2 (pc := 7) (v := (-9223372036854775808 : Int64)) hx hb hown (hts _ q2101) dX9_mean_7 ?_
    have e9 := rs1 hm
    subst e9
    exact rk_lretP (pc := 10) hx hb hr hlk rfl dX9_mean_10
set_option maxHeartbeats 4000000 in
theorem ct_X9_mean {G : Gv} {l : Launch} {b0 : Nat} {V0 : Mem} {i1 : Int32} {rx : Int64} (hm : fX9_mean V0 i1 = some rx) : CP G l yX9_mean (ws_ yX9_mean cX9_mean 4 (some .long)) 2 45 [.ref b0, .int i1] (fun H => rg G b0 46 (shX9 G.2.1) V0 H) (some (.long rx)) := by
  refine Met.ofW (cc := cX9_mean) (maxL := 4) (ret := (some .long)) (by decide +kernel) rfl ?_
  intro p e s m args below meth c s₁ B hml hv
  obtain ⟨rfl, hW0, hK⟩ := hv
  have hts := atoms_spec (ws := ws_ yX9_mean cX9_mean 4 (some .long)) B.pre
  have hts : ∀ w ∈ lw_all, w.before _ s = true := fun w h => hts w (List.mem_cons_of_mem _ h)
  have C : Cx G p s m _ meth c RX9 cX9_mean 4 (some .long) := ⟨B.exec, B.bytes, B.returns, B.notSynchronized, hml, findClass_of_methodNamed B.named, hts, hK⟩
  have hl := lv_entry ([.ref b0, .int i1]) (n := 4) (Nat.le_of_ble_eq_true rfl)
  rw [lg_entry_eq]
  generalize (lg_sl ([.ref b0, .int i1]) ++ List.replicate (4 - (lg_sl ([.ref b0, .int i1])).length) Slot.unset).toArray = ls at hl ⊢
  have hl : lv_has ls 4 [(0, .ref b0), (1, .int i1)] := hl
  exact w_fX9_mean C hW0 _ hm ls hl
theorem flX9_18 : FL RX9 18 9 2 RX9 TX9 29 := ⟨in_X9, rfl, by decide, q1830⟩
noncomputable def fX9_lends_2 (k2 : Mem → Int32 → Option (Mem)) (v0 : Mem) (i1 : Int32) : Option (Mem) :=
  if (150 : Int32) ≤ i1 then (
  some v0)
  else (
  gb (inR i1 150) (
  gb (inR i1 150) (
  lm (sI v0 3 i1.toNatClampNeg (gI v0 1 i1.toNatClampNeg)) fun v0_4 =>
  k2 v0_4 (i1 + (1 : Int32)))))
noncomputable def fX9_lends (v0 : Mem) : Option (Mem) :=
  lq2 (fX9_lends_2) FU v0 (0 : Int32)
set_option maxHeartbeats 4000000 in
theorem w_fX9_lends_2 (C : Cx G p s m args meth c RX9 cX9_lends 2 none) {b0 : Nat} {rw0 : Mem} {k2 : Mem → Int32 → Option (Mem)} (hk2 : ∀ (v0 : Mem) (i1 : Int32), k2 v0 i1 = some rw0 → ∀ (H : Heap) (locs : List Loc) (ls : Array Slot), rg G b0 46 (shX9 G.2.1) v0 H → va_S (FA (iv b0 46) s.heap.size) s.heap H locs → H.size = s.heap.size → lv_has ls 2 [(0, .ref b0), (1, .int i1)] → W p l e (rmT 0 0 0 0) s m args below meth c H locs 0 0 (MQ below (QcT (FA (iv b0 46) s.heap.size) (fun ov H => ov = none ∧ rg G b0 46 (shX9 G.2.1) rw0 H ∧ H.size = s.heap.size)) args s 0 0 (FA (iv b0 46) s.heap.size)) (F0 m 2 ls [])) : ∀ (v0 : Mem) (i1 : Int32), fX9_lends_2 k2 v0 i1 = some rw0 → ∀ (H : Heap) (locs : List Loc) (ls : Array Slot), rg G b0 46 (shX9 G.2.1) v0 H → va_S (FA (iv b0 46) s.heap.size) s.heap H locs → H.size = s.heap.size → lv_has ls 2 [(0, .ref b0), (1, .int i1)] → W p l e (rmT 0 0 0 0) s m args below meth c H locs 0 0 (MQ below (QcT (FA (iv b0 46) s.heap.size) (fun ov H => ov = none ∧ rg G b0 46 (shX9 G.2.1) rw0 H ∧ H.size = s.heap.size)) args s 0 0 (FA (iv b0 46) s.heap.size)) (F0 m 2 ls []) := by
  intro v0 i1 hm H locs ls hW0 hS hz hl
  obtain ⟨hx, hb, hr, hlk, hml, hown, hts, hK⟩ := id C
  unfold fX9_lends_2 at hm
  refine lv_iload_n (pc := 2) hx hb dX9_lends_2 rfl (lv_at hl 1 rfl) ?_
  refine lv_sipush (pc := 3) (v := (150 : Int32)) hx hb dX9_lends_3 (by decide) ?_
  refine lv_icmp_ge (pc := 6) (tgt := 27) hx hb dX9_lends_6 (by decide) (fun c1 => ?_) (fun c1 => ?_)
  · have hm := ite_t c1 hm
    have e9 := rs1 hm
    subst e9
    exact rk_vret (pc := 27) hx hb hr hlk hS ⟨rfl, hW0, hz⟩ dX9_lends_27
  · have hm := ite_f c1 hm
    refine lv_aload_n (pc := 9) hx hb dX9_lends_9 rfl (lv_at hl 0 rfl) ?_
    refine rk_get (pc := 10) hx hb hts hown hK hW0 flX9_18 0 (by decide) rfl rfl (x := .ref (b0 + 3)) (by first | rfl | exact congrArg (fun z => some (Value.ref z)) (by omega)) dX9_lends_10 ?_
    refine lv_iload_n (pc := 13) hx hb dX9_lends_13 rfl (lv_at hl 1 rfl) ?_
    refine lv_aload_n (pc := 14) hx hb dX9_lends_14 rfl (lv_at hl 0 rfl) ?_
    refine rk_get (pc := 15) hx hb hts hown hK hW0 flX9_11 0 (by decide) rfl rfl (x := .ref (b0 + 1)) (by first | rfl | exact congrArg (fun z => some (Value.ref z)) (by omega)) dX9_lends_15 ?_
    refine lv_iload_n (pc := 18) hx hb dX9_lends_18 rfl (lv_at hl 1 rfl) ?_
    obtain ⟨hg2, hm⟩ := gb_some hm
    refine rk_iald (pc := 19) hx hb hK hW0 1 (by decide) rfl rfl hg2 (x := (gI v0 1 i1.toNatClampNeg)) rfl dX9_lends_19 ?_
    obtain ⟨hg3, hm⟩ := gb_some hm
    refine rk_iast (pc := 20) hx hb hK hW0 hS 3 (by decide) rfl (Or.inl (show iv _ _ _ from ⟨by omega, by omega⟩)) (fun _ _ _ => rfl) hg3 dX9_lends_20 (fun H5 locs6 hW7 hS8 hz9 hkp10 => ?_)
    obtain ⟨v0_4, he9, hm⟩ := lm_some hm
    rw [he9] at hW7
    have hz11 := hz9.trans hz
    refine lv_iinc (pc := 21) (v := (i1 + (1 : Int32))) (lv' := [(1, .int (i1 + (1 : Int32))), (0, .ref b0)]) hx hb dX9_lends_21 hl (k := 1) rfl rfl (by decide) rfl (fun ls hl => ?_)
    refine lv_goto (pc := 24) (tgt := 2) hx hb dX9_lends_24 (by decide) ?_
    exact hk2 v0_4 (i1 + (1 : Int32)) hm H5 locs6 ls hW7 hS8 hz11 (lv_sub hl [1, 0] rfl)
theorem w_fX9_lends_2_l (C : Cx G p s m args meth c RX9 cX9_lends 2 none) {b0 : Nat} {rw0 : Mem} : ∀ (n : Nat) (v0 : Mem) (i1 : Int32), lq2 (fX9_lends_2) n v0 i1 = some rw0 → ∀ (H : Heap) (locs : List Loc) (ls : Array Slot), rg G b0 46 (shX9 G.2.1) v0 H → va_S (FA (iv b0 46) s.heap.size) s.heap H locs → H.size = s.heap.size → lv_has ls 2 [(0, .ref b0), (1, .int i1)] → W p l e (rmT 0 0 0 0) s m args below meth c H locs 0 0 (MQ below (QcT (FA (iv b0 46) s.heap.size) (fun ov H => ov = none ∧ rg G b0 46 (shX9 G.2.1) rw0 H ∧ H.size = s.heap.size)) args s 0 0 (FA (iv b0 46) s.heap.size)) (F0 m 2 ls []) := by
  intro n
  induction n with
  | zero => intro v0 i1 hm; exact (lq2_0 hm).elim
  | succ n ih => intro v0 i1 hm; exact w_fX9_lends_2 C ih v0 i1 (lq2_s hm)
set_option maxHeartbeats 4000000 in
theorem w_fX9_lends (C : Cx G p s m args meth c RX9 cX9_lends 2 none) {b0 : Nat} {rw0 : Mem} : ∀ (v0 : Mem), fX9_lends v0 = some rw0 → ∀ (H : Heap) (locs : List Loc) (ls : Array Slot), rg G b0 46 (shX9 G.2.1) v0 H → va_S (FA (iv b0 46) s.heap.size) s.heap H locs → H.size = s.heap.size → lv_has ls 2 [(0, .ref b0)] → W p l e (rmT 0 0 0 0) s m args below meth c H locs 0 0 (MQ below (QcT (FA (iv b0 46) s.heap.size) (fun ov H => ov = none ∧ rg G b0 46 (shX9 G.2.1) rw0 H ∧ H.size = s.heap.size)) args s 0 0 (FA (iv b0 46) s.heap.size)) (F0 m 0 ls []) := by
  intro v0 hm H locs ls hW0 hS hz hl
  obtain ⟨hx, hb, hr, hlk, hml, hown, hts, hK⟩ := id C
  unfold fX9_lends at hm
  refine lv_iconst (pc := 0) (v := (0 : Int32)) hx hb dX9_lends_0 (by decide) ?_
  refine lv_istore_n (pc := 1) (lv' := [(1, .int (0 : Int32)), (0, .ref b0)]) hx hb dX9_lends_1 rfl hl (by decide) rfl (fun ls hl => ?_)
  exact (w_fX9_lends_2_l C FU) v0 (0 : Int32) hm H locs ls hW0 hS hz (lv_sub hl [1, 0] rfl)
set_option maxHeartbeats 4000000 in
theorem ct_X9_lends {G : Gv} {l : Launch} {b0 : Nat} {v0 : Mem} {rw0 : Mem} {sz : Nat} (hm : fX9_lends v0 = some rw0) : CT G l yX9_lends (ws_ yX9_lends cX9_lends 2 none) 0 0 0 0 [.ref b0] (iv b0 46) sz (fun H => rg G b0 46 (shX9 G.2.1) v0 H) (fun ov H => ov = none ∧ rg G b0 46 (shX9 G.2.1) rw0 H ∧ H.size = sz) := by
  refine Met.ofW (cc := cX9_lends) (maxL := 2) (ret := none) (by decide +kernel) rfl ?_
  intro p e s m args below meth c s₁ B hml hv
  obtain ⟨rfl, ⟨hz, hW0⟩, hK⟩ := hv
  subst hz
  have hts := atoms_spec (ws := ws_ yX9_lends cX9_lends 2 none) B.pre
  have hts : ∀ w ∈ lw_all, w.before _ s = true := fun w h => hts w (List.mem_cons_of_mem _ h)
  have C : Cx G p s m _ meth c RX9 cX9_lends 2 none := ⟨B.exec, B.bytes, B.returns, B.notSynchronized, hml, findClass_of_methodNamed B.named, hts, hK⟩
  have hl := lv_entry ([.ref b0]) (n := 2) (Nat.le_of_ble_eq_true rfl)
  rw [lg_entry_eq]
  generalize (lg_sl ([.ref b0]) ++ List.replicate (2 - (lg_sl ([.ref b0])).length) Slot.unset).toArray = ls at hl ⊢
  have hl : lv_has ls 2 [(0, .ref b0)] := hl
  exact w_fX9_lends C _ hm s.heap [] ls hW0 va_S.rf rfl hl
noncomputable def fX9_takesBack_2 (k2 : Mem → Int32 → Option (Mem)) (v0 : Mem) (i1 : Int32) : Option (Mem) :=
  if (150 : Int32) ≤ i1 then (
  some v0)
  else (
  gb (inR i1 150) (
  gb (inR i1 150) (
  lm (sI v0 1 i1.toNatClampNeg (gI v0 3 i1.toNatClampNeg)) fun v0_4 =>
  k2 v0_4 (i1 + (1 : Int32)))))
noncomputable def fX9_takesBack (v0 : Mem) : Option (Mem) :=
  lq2 (fX9_takesBack_2) FU v0 (0 : Int32)
set_option maxHeartbeats 4000000 in
theorem w_fX9_takesBack_2 (C : Cx G p s m args meth c RX9 cX9_takesBack 2 none) {b0 : Nat} {rw0 : Mem} {k2 : Mem → Int32 → Option (Mem)} (hk2 : ∀ (v0 : Mem) (i1 : Int32), k2 v0 i1 = some rw0 → ∀ (H : Heap) (locs : List Loc) (ls : Array Slot), rg G b0 46 (shX9 G.2.1) v0 H → va_S (FA (iv b0 46) s.heap.size) s.heap H locs → H.size = s.heap.size → lv_has ls 2 [(0, .ref b0), (1, .int i1)] → W p l e (rmT 0 0 0 0) s m args below meth c H locs 0 0 (MQ below (QcT (FA (iv b0 46) s.heap.size) (fun ov H => ov = none ∧ rg G b0 46 (shX9 G.2.1) rw0 H ∧ H.size = s.heap.size)) args s 0 0 (FA (iv b0 46) s.heap.size)) (F0 m 2 ls [])) : ∀ (v0 : Mem) (i1 : Int32), fX9_takesBack_2 k2 v0 i1 = some rw0 → ∀ (H : Heap) (locs : List Loc) (ls : Array Slot), rg G b0 46 (shX9 G.2.1) v0 H → va_S (FA (iv b0 46) s.heap.size) s.heap H locs → H.size = s.heap.size → lv_has ls 2 [(0, .ref b0), (1, .int i1)] → W p l e (rmT 0 0 0 0) s m args below meth c H locs 0 0 (MQ below (QcT (FA (iv b0 46) s.heap.size) (fun ov H => ov = none ∧ rg G b0 46 (shX9 G.2.1) rw0 H ∧ H.size = s.heap.size)) args s 0 0 (FA (iv b0 46) s.heap.size)) (F0 m 2 ls []) := by
  intro v0 i1 hm H locs ls hW0 hS hz hl
  obtain ⟨hx, hb, hr, hlk, hml, hown, hts, hK⟩ := id C
  unfold fX9_takesBack_2 at hm
  refine lv_iload_n (pc := 2) hx hb dX9_takesBack_2 rfl (lv_at hl 1 rfl) ?_
  refine lv_sipush (pc := 3) (v := (150 : Int32)) hx hb dX9_takesBack_3 (by decide) ?_
  refine lv_icmp_ge (pc := 6) (tgt := 27) hx hb dX9_takesBack_6 (by decide) (fun c1 => ?_) (fun c1 => ?_)
  · have hm := ite_t c1 hm
    have e9 := rs1 hm
    subst e9
    exact rk_vret (pc := 27) hx hb hr hlk hS ⟨rfl, hW0, hz⟩ dX9_takesBack_27
  · have hm := ite_f c1 hm
    refine lv_aload_n (pc := 9) hx hb dX9_takesBack_9 rfl (lv_at hl 0 rfl) ?_
    refine rk_get (pc := 10) hx hb hts hown hK hW0 flX9_11 0 (by decide) rfl rfl (x := .ref (b0 + 1)) (by first | rfl | exact congrArg (fun z => some (Value.ref z)) (by omega)) dX9_takesBack_10 ?_
    refine lv_iload_n (pc := 13) hx hb dX9_takesBack_13 rfl (lv_at hl 1 rfl) ?_
    refine lv_aload_n (pc := 14) hx hb dX9_takesBack_14 rfl (lv_at hl 0 rfl) ?_
    refine rk_get (pc := 15) hx hb hts hown hK hW0 flX9_18 0 (by decide) rfl rfl (x := .ref (b0 + 3)) (by first | rfl | exact congrArg (fun z => some (Value.ref z)) (by omega)) dX9_takesBack_15 ?_
    refine lv_iload_n (pc := 18) hx hb dX9_takesBack_18 rfl (lv_at hl 1 rfl) ?_
    obtain ⟨hg2, hm⟩ := gb_some hm
    refine rk_iald (pc := 19) hx hb hK hW0 3 (by decide) rfl rfl hg2 (x := (gI v0 3 i1.toNatClampNeg)) rfl dX9_takesBack_19 ?_
    obtain ⟨hg3, hm⟩ := gb_some hm
    refine rk_iast (pc := 20) hx hb hK hW0 hS 1 (by decide) rfl (Or.inl (show iv _ _ _ from ⟨by omega, by omega⟩)) (fun _ _ _ => rfl) hg3 dX9_takesBack_20 (fun H5 locs6 hW7 hS8 hz9 hkp10 => ?_)
    obtain ⟨v0_4, he9, hm⟩ := lm_some hm
    rw [he9] at hW7
    have hz11 := hz9.trans hz
    refine lv_iinc (pc := 21) (v := (i1 + (1 : Int32))) (lv' := [(1, .int (i1 + (1 : Int32))), (0, .ref b0)]) hx hb dX9_takesBack_21 hl (k := 1) rfl rfl (by decide) rfl (fun ls hl => ?_)
    refine lv_goto (pc := 24) (tgt := 2) hx hb dX9_takesBack_24 (by decide) ?_
    exact hk2 v0_4 (i1 + (1 : Int32)) hm H5 locs6 ls hW7 hS8 hz11 (lv_sub hl [1, 0] rfl)
theorem w_fX9_takesBack_2_l (C : Cx G p s m args meth c RX9 cX9_takesBack 2 none) {b0 : Nat} {rw0 : Mem} : ∀ (n : Nat) (v0 : Mem) (i1 : Int32), lq2 (fX9_takesBack_2) n v0 i1 = some rw0 → ∀ (H : Heap) (locs : List Loc) (ls : Array Slot), rg G b0 46 (shX9 G.2.1) v0 H → va_S (FA (iv b0 46) s.heap.size) s.heap H locs → H.size = s.heap.size → lv_has ls 2 [(0, .ref b0), (1, .int i1)] → W p l e (rmT 0 0 0 0) s m args below meth c H locs 0 0 (MQ below (QcT (FA (iv b0 46) s.heap.size) (fun ov H => ov = none ∧ rg G b0 46 (shX9 G.2.1) rw0 H ∧ H.size = s.heap.size)) args s 0 0 (FA (iv b0 46) s.heap.size)) (F0 m 2 ls []) := by
  intro n
  induction n with
  | zero => intro v0 i1 hm; exact (lq2_0 hm).elim
  | succ n ih => intro v0 i1 hm; exact w_fX9_takesBack_2 C ih v0 i1 (lq2_s hm)
set_option maxHeartbeats 4000000 in
theorem w_fX9_takesBack (C : Cx G p s m args meth c RX9 cX9_takesBack 2 none) {b0 : Nat} {rw0 : Mem} : ∀ (v0 : Mem), fX9_takesBack v0 = some rw0 → ∀ (H : Heap) (locs : List Loc) (ls : Array Slot), rg G b0 46 (shX9 G.2.1) v0 H → va_S (FA (iv b0 46) s.heap.size) s.heap H locs → H.size = s.heap.size → lv_has ls 2 [(0, .ref b0)] → W p l e (rmT 0 0 0 0) s m args below meth c H locs 0 0 (MQ below (QcT (FA (iv b0 46) s.heap.size) (fun ov H => ov = none ∧ rg G b0 46 (shX9 G.2.1) rw0 H ∧ H.size = s.heap.size)) args s 0 0 (FA (iv b0 46) s.heap.size)) (F0 m 0 ls []) := by
  intro v0 hm H locs ls hW0 hS hz hl
  obtain ⟨hx, hb, hr, hlk, hml, hown, hts, hK⟩ := id C
  unfold fX9_takesBack at hm
  refine lv_iconst (pc := 0) (v := (0 : Int32)) hx hb dX9_takesBack_0 (by decide) ?_
  refine lv_istore_n (pc := 1) (lv' := [(1, .int (0 : Int32)), (0, .ref b0)]) hx hb dX9_takesBack_1 rfl hl (by decide) rfl (fun ls hl => ?_)
  exact (w_fX9_takesBack_2_l C FU) v0 (0 : Int32) hm H locs ls hW0 hS hz (lv_sub hl [1, 0] rfl)
set_option maxHeartbeats 4000000 in
theorem ct_X9_takesBack {G : Gv} {l : Launch} {b0 : Nat} {v0 : Mem} {rw0 : Mem} {sz : Nat} (hm : fX9_takesBack v0 = some rw0) : CT G l yX9_takesBack (ws_ yX9_takesBack cX9_takesBack 2 none) 0 0 0 0 [.ref b0] (iv b0 46) sz (fun H => rg G b0 46 (shX9 G.2.1) v0 H) (fun ov H => ov = none ∧ rg G b0 46 (shX9 G.2.1) rw0 H ∧ H.size = sz) := by
  refine Met.ofW (cc := cX9_takesBack) (maxL := 2) (ret := none) (by decide +kernel) rfl ?_
  intro p e s m args below meth c s₁ B hml hv
  obtain ⟨rfl, ⟨hz, hW0⟩, hK⟩ := hv
  subst hz
  have hts := atoms_spec (ws := ws_ yX9_takesBack cX9_takesBack 2 none) B.pre
  have hts : ∀ w ∈ lw_all, w.before _ s = true := fun w h => hts w (List.mem_cons_of_mem _ h)
  have C : Cx G p s m _ meth c RX9 cX9_takesBack 2 none := ⟨B.exec, B.bytes, B.returns, B.notSynchronized, hml, findClass_of_methodNamed B.named, hts, hK⟩
  have hl := lv_entry ([.ref b0]) (n := 2) (Nat.le_of_ble_eq_true rfl)
  rw [lg_entry_eq]
  generalize (lg_sl ([.ref b0]) ++ List.replicate (2 - (lg_sl ([.ref b0])).length) Slot.unset).toArray = ls at hl ⊢
  have hl : lv_has ls 2 [(0, .ref b0)] := hl
  exact w_fX9_takesBack C _ hm s.heap [] ls hW0 va_S.rf rfl hl
end
