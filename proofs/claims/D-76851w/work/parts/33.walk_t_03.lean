set_option maxRecDepth 100000
section
variable {p : Program} {l : Launch} {e : Env} {s : State} {m : MethodId} {args : Array Value} {below : List Frame} {meth : Method} {c : Code} {G : Gv}
noncomputable def fX3_lowRow_4 (V0 : Mem) (k4 : Int32 → Int32 → Option (Int32)) (i1 : Int32) (i2 : Int32) : Option (Int32) :=
  if (gI V0 0 1) ≤ i2 then (
  some i1)
  else (
  gb (inR i2 30) (
  if (0 : Int64) ≤ (gL V0 2 i2.toNatClampNeg) then (
  k4 i1 (i2 + (1 : Int32)))
  else (
  if i1 = (-1 : Int32) then (
  k4 i2 (i2 + (1 : Int32)))
  else (
  gb (inR i2 30) (
  gb (inR i1 30) (
  if (gL V0 2 i1.toNatClampNeg) ≤ (gL V0 2 i2.toNatClampNeg) then (
  k4 i1 (i2 + (1 : Int32)))
  else (
  k4 i2 (i2 + (1 : Int32)))))))))
noncomputable def fX3_lowRow (V0 : Mem) : Option (Int32) :=
  lq2 (fX3_lowRow_4 V0) FU (-1 : Int32) (0 : Int32)
set_option maxHeartbeats 4000000 in
theorem w_fX3_lowRow_4 (C : Cx G p s m args meth c RX3 cX3_lowRow 3 (some .int)) {b0 : Nat} {V0 : Mem} {rx : Int32} (hW0 : rg G b0 43 (shX3 G.2.1) V0 s.heap) {k4 : Int32 → Int32 → Option (Int32)} (hk4 : ∀ (i1 : Int32) (i2 : Int32), k4 i1 i2 = some rx → ∀ (ls : Array Slot), lv_has ls 3 [(0, .ref b0), (1, .int i1), (2, .int i2)] → W p l e (rmP 0 0) s m args below meth c s.heap [] 0 0 (MQ below (QcP (some (.int rx))) args s 0 0 (fun _ => False)) (F0 m 4 ls [])) : ∀ (i1 : Int32) (i2 : Int32), fX3_lowRow_4 V0 k4 i1 i2 = some rx → ∀ (ls : Array Slot), lv_has ls 3 [(0, .ref b0), (1, .int i1), (2, .int i2)] → W p l e (rmP 0 0) s m args below meth c s.heap [] 0 0 (MQ below (QcP (some (.int rx))) args s 0 0 (fun _ => False)) (F0 m 4 ls []) := by
  intro i1 i2 hm ls hl
  obtain ⟨hx, hb, hr, hlk, hml, hown, hts, hK⟩ := id C
  unfold fX3_lowRow_4 at hm
  refine lv_iload_n (pc := 4) hx hb dX3_lowRow_4 rfl (lv_at hl 2 rfl) ?_
  refine lv_aload_n (pc := 5) hx hb dX3_lowRow_5 rfl (lv_at hl 0 rfl) ?_
  refine rk_get (pc := 6) hx hb hts hown hK hW0 flX3_35 0 (by decide) rfl rfl (x := .int (gI V0 0 1)) rfl dX3_lowRow_6 ?_
  refine lv_icmp_ge (pc := 9) (tgt := 52) hx hb dX3_lowRow_9 (by decide) (fun c1 => ?_) (fun c1 => ?_)
  · have hm := ite_t c1 hm
    refine lv_iload_n (pc := 52) hx hb dX3_lowRow_52 rfl (lv_at hl 1 rfl) ?_
    have e9 := rs1 hm
    subst e9
    exact rk_iretP (pc := 53) hx hb hr hlk rfl dX3_lowRow_53
  · have hm := ite_f c1 hm
    refine lv_aload_n (pc := 12) hx hb dX3_lowRow_12 rfl (lv_at hl 0 rfl) ?_
    refine rk_get (pc := 13) hx hb hts hown hK hW0 flX3_15 0 (by decide) rfl rfl (x := .ref (b0 + 2)) (by first | rfl | exact congrArg (fun z => some (Value.ref z)) (by omega)) dX3_lowRow_13 ?_
    refine lv_iload_n (pc := 16) hx hb dX3_lowRow_16 rfl (lv_at hl 2 rfl) ?_
    obtain ⟨hg2, hm⟩ := gb_some hm
    refine rk_lald (pc := 17) hx hb hK hW0 2 (by decide) rfl rfl hg2 (x := (gL V0 2 i2.toNatClampNeg)) rfl dX3_lowRow_17 ?_
    refine lv_lconst (pc := 18) (v := (0 : Int64)) hx hb dX3_lowRow_18 (by decide) ?_
    refine rk_lcmp_ge (pc := 19) (tgt := 46) hx hb dX3_lowRow_19 rfl dX3_lowRow_20 (by decide) (fun c3 => ?_) (fun c3 => ?_)
    · have hm := ite_t c3 hm
      refine lv_iinc (pc := 46) (v := (i2 + (1 : Int32))) (lv' := [(2, .int (i2 + (1 : Int32))), (0, .ref b0), (1, .int i1)]) hx hb dX3_lowRow_46 hl (k := 2) rfl rfl (by decide) rfl (fun ls hl => ?_)
      refine lv_goto (pc := 49) (tgt := 4) hx hb dX3_lowRow_49 (by decide) ?_
      exact hk4 i1 (i2 + (1 : Int32)) hm ls (lv_sub hl [1, 2, 0] rfl)
    · have hm := ite_f c3 hm
      refine lv_iload_n (pc := 23) hx hb dX3_lowRow_23 rfl (lv_at hl 1 rfl) ?_
      refine lv_iconst (pc := 24) (v := (-1 : Int32)) hx hb dX3_lowRow_24 (by decide) ?_
      refine lv_icmp_eq (pc := 25) (tgt := 44) hx hb dX3_lowRow_25 (by decide) (fun c4 => ?_) (fun c4 => ?_)
      · have hm := ite_t c4 hm
        refine lv_iload_n (pc := 44) hx hb dX3_lowRow_44 rfl (lv_at hl 2 rfl) ?_
        refine lv_istore_n (pc := 45) (lv' := [(1, .int i2), (0, .ref b0), (2, .int i2)]) hx hb dX3_lowRow_45 rfl hl (by decide) rfl (fun ls hl => ?_)
        refine lv_iinc (pc := 46) (v := (i2 + (1 : Int32))) (lv' := [(2, .int (i2 + (1 : Int32))), (1, .int i2), (0, .ref b0)]) hx hb dX3_lowRow_46 hl (k := 2) rfl rfl (by decide) rfl (fun ls hl => ?_)
        refine lv_goto (pc := 49) (tgt := 4) hx hb dX3_lowRow_49 (by decide) ?_
        exact hk4 i2 (i2 + (1 : Int32)) hm ls (lv_sub hl [2, 1, 0] rfl)
      · have hm := ite_f c4 hm
        refine lv_aload_n (pc := 28) hx hb dX3_lowRow_28 rfl (lv_at hl 0 rfl) ?_
        refine rk_get (pc := 29) hx hb hts hown hK hW0 flX3_15 0 (by decide) rfl rfl (x := .ref (b0 + 2)) (by first | rfl | exact congrArg (fun z => some (Value.ref z)) (by omega)) dX3_lowRow_29 ?_
        refine lv_iload_n (pc := 32) hx hb dX3_lowRow_32 rfl (lv_at hl 2 rfl) ?_
        obtain ⟨hg5, hm⟩ := gb_some hm
        refine rk_lald (pc := 33) hx hb hK hW0 2 (by decide) rfl rfl hg5 (x := (gL V0 2 i2.toNatClampNeg)) rfl dX3_lowRow_33 ?_
        refine lv_aload_n (pc := 34) hx hb dX3_lowRow_34 rfl (lv_at hl 0 rfl) ?_
        refine rk_get (pc := 35) hx hb hts hown hK hW0 flX3_15 0 (by decide) rfl rfl (x := .ref (b0 + 2)) (by first | rfl | exact congrArg (fun z => some (Value.ref z)) (by omega)) dX3_lowRow_35 ?_
        refine lv_iload_n (pc := 38) hx hb dX3_lowRow_38 rfl (lv_at hl 1 rfl) ?_
        obtain ⟨hg6, hm⟩ := gb_some hm
        refine rk_lald (pc := 39) hx hb hK hW0 2 (by decide) rfl rfl hg6 (x := (gL V0 2 i1.toNatClampNeg)) rfl dX3_lowRow_39 ?_
        refine rk_lcmp_ge (pc := 40) (tgt := 46) hx hb dX3_lowRow_40 rfl dX3_lowRow_41 (by decide) (fun c7 => ?_) (fun c7 => ?_)
        · have hm := ite_t c7 hm
          refine lv_iinc (pc := 46) (v := (i2 + (1 : Int32))) (lv' := [(2, .int (i2 + (1 : Int32))), (0, .ref b0), (1, .int i1)]) hx hb dX3_lowRow_46 hl (k := 2) rfl rfl (by decide) rfl (fun ls hl => ?_)
          refine lv_goto (pc := 49) (tgt := 4) hx hb dX3_lowRow_49 (by decide) ?_
          exact hk4 i1 (i2 + (1 : Int32)) hm ls (lv_sub hl [1, 2, 0] rfl)
        · have hm := ite_f c7 hm
          refine lv_iload_n (pc := 44) hx hb dX3_lowRow_44 rfl (lv_at hl 2 rfl) ?_
          refine lv_istore_n (pc := 45) (lv' := [(1, .int i2), (0, .ref b0), (2, .int i2)]) hx hb dX3_lowRow_45 rfl hl (by decide) rfl (fun ls hl => ?_)
          refine lv_iinc (pc := 46) (v := (i2 + (1 : Int32))) (lv' := [(2, .int (i2 + (1 : Int32))), (1, .int i2), (0, .ref b0)]) hx hb dX3_lowRow_46 hl (k := 2) rfl rfl (by decide) rfl (fun ls hl => ?_)
          refine lv_goto (pc := 49) (tgt := 4) hx hb dX3_lowRow_49 (by decide) ?_
          exact hk4 i2 (i2 + (1 : Int32)) hm ls (lv_sub hl [2, 1, 0] rfl)
theorem w_fX3_lowRow_4_l (C : Cx G p s m args meth c RX3 cX3_lowRow 3 (some .int)) {b0 : Nat} {V0 : Mem} {rx : Int32} (hW0 : rg G b0 43 (shX3 G.2.1) V0 s.heap) : ∀ (n : Nat) (i1 : Int32) (i2 : Int32), lq2 (fX3_lowRow_4 V0) n i1 i2 = some rx → ∀ (ls : Array Slot), lv_has ls 3 [(0, .ref b0), (1, .int i1), (2, .int i2)] → W p l e (rmP 0 0) s m args below meth c s.heap [] 0 0 (MQ below (QcP (some (.int rx))) args s 0 0 (fun _ => False)) (F0 m 4 ls []) := by
  intro n
  induction n with
  | zero => intro i1 i2 hm; exact (lq2_0 hm).elim
  | succ n ih => intro i1 i2 hm; exact w_fX3_lowRow_4 C hW0 ih i1 i2 (lq2_s hm)
set_option maxHeartbeats 4000000 in
theorem w_fX3_lowRow (C : Cx G p s m args meth c RX3 cX3_lowRow 3 (some .int)) {b0 : Nat} {V0 : Mem} {rx : Int32} (hW0 : rg G b0 43 (shX3 G.2.1) V0 s.heap) : fX3_lowRow V0 = some rx → ∀ (ls : Array Slot), lv_has ls 3 [(0, .ref b0)] → W p l e (rmP 0 0) s m args below meth c s.heap [] 0 0 (MQ below (QcP (some (.int rx))) args s 0 0 (fun _ => False)) (F0 m 0 ls []) := by
  intro hm ls hl
  obtain ⟨hx, hb, hr, hlk, hml, hown, hts, hK⟩ := id C
  unfold fX3_lowRow at hm
  refine lv_iconst (pc := 0) (v := (-1 : Int32)) hx hb dX3_lowRow_0 (by decide) ?_
  refine lv_istore_n (pc := 1) (lv' := [(1, .int (-1 : Int32)), (0, .ref b0)]) hx hb dX3_lowRow_1 rfl hl (by decide) rfl (fun ls hl => ?_)
  refine lv_iconst (pc := 2) (v := (0 : Int32)) hx hb dX3_lowRow_2 (by decide) ?_
  refine lv_istore_n (pc := 3) (lv' := [(2, .int (0 : Int32)), (1, .int (-1 : Int32)), (0, .ref b0)]) hx hb dX3_lowRow_3 rfl hl (by decide) rfl (fun ls hl => ?_)
  exact (w_fX3_lowRow_4_l C hW0 FU) (-1 : Int32) (0 : Int32) hm ls (lv_sub hl [2, 1, 0] rfl)
set_option maxHeartbeats 4000000 in
theorem ct_X3_lowRow {G : Gv} {l : Launch} {b0 : Nat} {V0 : Mem} {rx : Int32} (hm : fX3_lowRow V0  = some rx) : CP G l yX3_lowRow (ws_ yX3_lowRow cX3_lowRow 3 (some .int)) 0 0 [.ref b0] (fun H => rg G b0 43 (shX3 G.2.1) V0 H) (some (.int rx)) := by
  refine Met.ofW (cc := cX3_lowRow) (maxL := 3) (ret := (some .int)) (by decide +kernel) rfl ?_
  intro p e s m args below meth c s₁ B hml hv
  obtain ⟨rfl, hW0, hK⟩ := hv
  have hts := atoms_spec (ws := ws_ yX3_lowRow cX3_lowRow 3 (some .int)) B.pre
  have hts : ∀ w ∈ lw_all, w.before _ s = true := fun w h => hts w (List.mem_cons_of_mem _ h)
  have C : Cx G p s m _ meth c RX3 cX3_lowRow 3 (some .int) := ⟨B.exec, B.bytes, B.returns, B.notSynchronized, hml, findClass_of_methodNamed B.named, hts, hK⟩
  have hl := lv_entry ([.ref b0]) (n := 3) (Nat.le_of_ble_eq_true rfl)
  rw [lg_entry_eq]
  generalize (lg_sl ([.ref b0]) ++ List.replicate (3 - (lg_sl ([.ref b0])).length) Slot.unset).toArray = ls at hl ⊢
  have hl : lv_has ls 3 [(0, .ref b0)] := hl
  exact w_fX3_lowRow C hW0  hm ls hl
noncomputable def fX3_isBetter (V0 : Mem) (i1 : Int32) (i2 : Int32) (i3 : Int32) : Option (Int32) :=
  gb (inR i2 5) (
  ob (fX3_entry V0 i1 i3) fun r2 =>
  gb (inR i3 5) (
  ob (fX3_entry V0 i1 i2) fun r5 =>
  if ((gL V0 3 i2.toNatClampNeg) * (-r2)) < ((gL V0 3 i3.toNatClampNeg) * (-r5)) then (
  some (1 : Int32))
  else (
  if ((gL V0 3 i2.toNatClampNeg) * (-r2)) = ((gL V0 3 i3.toNatClampNeg) * (-r5)) then (
  gb (inR i2 5) (
  gb (inR i3 5) (
  if (gI V0 5 i3.toNatClampNeg) ≤ (gI V0 5 i2.toNatClampNeg) then (
  some (0 : Int32))
  else (
  some (1 : Int32)))))
  else (
  some (0 : Int32)))))
set_option maxHeartbeats 4000000 in
theorem w_fX3_isBetter (C : Cx G p s m args meth c RX3 cX3_isBetter 8 (some .boolean)) {b0 : Nat} {V0 : Mem} {rx : Int32} (hW0 : rg G b0 43 (shX3 G.2.1) V0 s.heap) : ∀ (i1 : Int32) (i2 : Int32) (i3 : Int32), fX3_isBetter V0 i1 i2 i3 = some rx → ∀ (ls : Array Slot), lv_has ls 8 [(0, .ref b0), (1, .int i1), (2, .int i2), (3, .int i3)] → W p l e (rmP 1 22) s m args below meth c s.heap [] 0 0 (MQ below (QcP (some (.int rx))) args s 0 0 (fun _ => False)) (F0 m 0 ls []) := by
  intro i1 i2 i3 hm ls hl
  obtain ⟨hx, hb, hr, hlk, hml, hown, hts, hK⟩ := id C
  unfold fX3_isBetter at hm
  refine lv_aload_n (pc := 0) hx hb dX3_isBetter_0 rfl (lv_at hl 0 rfl) ?_
  refine rk_get (pc := 1) hx hb hts hown hK hW0 flX3_18 0 (by decide) rfl rfl (x := .ref (b0 + 3)) (by first | rfl | exact congrArg (fun z => some (Value.ref z)) (by omega)) dX3_isBetter_1 ?_
  refine lv_iload_n (pc := 4) hx hb dX3_isBetter_4 rfl (lv_at hl 2 rfl) ?_
  obtain ⟨hg1, hm⟩ := gb_some hm
  refine rk_lald (pc := 5) hx hb hK hW0 3 (by decide) rfl rfl hg1 (x := (gL V0 3 i2.toNatClampNeg)) rfl dX3_isBetter_5 ?_
  refine lv_aload_n (pc := 6) hx hb dX3_isBetter_6 rfl (lv_at hl 0 rfl) ?_
  refine lv_iload_n (pc := 7) hx hb dX3_isBetter_7 rfl (lv_at hl 1 rfl) ?_
  refine lv_iload_n (pc := 8) hx hb dX3_isBetter_8 rfl (lv_at hl 3 rfl) ?_
  obtain ⟨r2, hq3, hm⟩ := ob_some hm
  refine rk_PV (pc := 9) (As := [.int i1, .int i3]) (rest := [.long (gL V0 3 i2.toNatClampNeg)]) hx hb hml hown hts hK lkX3_88 rfl yn_X3_entry (ct_X3_entry (G := G) (l := l) (b0 := b0) hq3) ⟨Nat.le_of_ble_eq_true rfl, Nat.le_of_ble_eq_true rfl⟩ (rk_recv hK hW0 0 (by decide) rfl rfl rfl) hW0 rfl rfl hl.1 (Nat.le_of_ble_eq_true rfl) dX3_isBetter_9 ⟨Nat.zero_le _, Nat.zero_le _⟩ ?_
  refine W.eq (g2 := F0 m 12 ls [.long r2, .long (gL V0 3 i2.toNatClampNeg)]) rfl ?_
  refine lv_lneg (pc := 12) hx hb dX3_isBetter_12 ?_
  refine lv_lmul (pc := 13) hx hb dX3_isBetter_13 ?_
  refine lv_lstore (pc := 14) (lv' := [(4, .long ((gL V0 3 i2.toNatClampNeg) * (-r2))), (0, .ref b0), (1, .int i1), (2, .int i2), (3, .int i3)]) hx hb dX3_isBetter_14 hl (by decide) rfl (fun ls hl => ?_)
  refine lv_aload_n (pc := 16) hx hb dX3_isBetter_16 rfl (lv_at hl 1 rfl) ?_
  refine rk_get (pc := 17) hx hb hts hown hK hW0 flX3_18 0 (by decide) rfl rfl (x := .ref (b0 + 3)) (by first | rfl | exact congrArg (fun z => some (Value.ref z)) (by omega)) dX3_isBetter_17 ?_
  refine lv_iload_n (pc := 20) hx hb dX3_isBetter_20 rfl (lv_at hl 4 rfl) ?_
  obtain ⟨hg4, hm⟩ := gb_some hm
  refine rk_lald (pc := 21) hx hb hK hW0 3 (by decide) rfl rfl hg4 (x := (gL V0 3 i3.toNatClampNeg)) rfl dX3_isBetter_21 ?_
  refine lv_aload_n (pc := 22) hx hb dX3_isBetter_22 rfl (lv_at hl 1 rfl) ?_
  refine lv_iload_n (pc := 23) hx hb dX3_isBetter_23 rfl (lv_at hl 2 rfl) ?_
  refine lv_iload_n (pc := 24) hx hb dX3_isBetter_24 rfl (lv_at hl 3 rfl) ?_
  obtain ⟨r5, hq6, hm⟩ := ob_some hm
  refine rk_PV (pc := 25) (As := [.int i1, .int i2]) (rest := [.long (gL V0 3 i3.toNatClampNeg)]) hx hb hml hown hts hK lkX3_88 rfl yn_X3_entry (ct_X3_entry (G := G) (l := l) (b0 := b0) hq6) ⟨Nat.le_of_ble_eq_true rfl, Nat.le_of_ble_eq_true rfl⟩ (rk_recv hK hW0 0 (by decide) rfl rfl rfl) hW0 rfl rfl hl.1 (Nat.le_of_ble_eq_true rfl) dX3_isBetter_25 ⟨Nat.zero_le _, Nat.zero_le _⟩ ?_
  refine W.eq (g2 := F0 m 28 ls [.long r5, .long (gL V0 3 i3.toNatClampNeg)]) rfl ?_
  refine lv_lneg (pc := 28) hx hb dX3_isBetter_28 ?_
  refine lv_lmul (pc := 29) hx hb dX3_isBetter_29 ?_
  refine lv_lstore (pc := 30) (lv' := [(6, .long ((gL V0 3 i3.toNatClampNeg) * (-r5))), (4, .long ((gL V0 3 i2.toNatClampNeg) * (-r2))), (0, .ref b0), (1, .int i1), (2, .int i2), (3, .int i3)]) hx hb dX3_isBetter_30 hl (by decide) rfl (fun ls hl => ?_)
  refine lv_lload (pc := 32) hx hb dX3_isBetter_32 (lv_at hl 1 rfl) ?_
  refine lv_lload (pc := 34) hx hb dX3_isBetter_34 (lv_at hl 0 rfl) ?_
  refine rk_lcmp_lt (pc := 36) (tgt := 63) hx hb dX3_isBetter_36 rfl dX3_isBetter_37 (by decide) (fun c7 => ?_) (fun c7 => ?_)
  · have hm := ite_t c7 hm
    refine lv_iconst (pc := 63) (v := (1 : Int32)) hx hb dX3_isBetter_63 (by decide) ?_
    refine lv_goto (pc := 64) (tgt := 68) hx hb dX3_isBetter_64 (by decide) ?_
    have e9 := rs1 hm
    subst e9
    exact rk_zretP (pc := 68) hx hb hr hlk rfl rfl dX3_isBetter_68
  · have hm := ite_f c7 hm
    refine lv_lload (pc := 40) hx hb dX3_isBetter_40 (lv_at hl 1 rfl) ?_
    refine lv_lload (pc := 42) hx hb dX3_isBetter_42 (lv_at hl 0 rfl) ?_
    refine rk_lcmp_ne (pc := 44) (tgt := 67) hx hb dX3_isBetter_44 rfl dX3_isBetter_45 (by decide) (fun c8 => ?_) (fun c8 => ?_)
    · have hm := ite_f c8 hm
      refine lv_iconst (pc := 67) (v := (0 : Int32)) hx hb dX3_isBetter_67 (by decide) ?_
      have e9 := rs1 hm
      subst e9
      exact rk_zretP (pc := 68) hx hb hr hlk rfl rfl dX3_isBetter_68
    · have hm := ite_t c8 hm
      refine lv_aload_n (pc := 48) hx hb dX3_isBetter_48 rfl (lv_at hl 2 rfl) ?_
      refine rk_get (pc := 49) hx hb hts hown hK hW0 flX3_25 0 (by decide) rfl rfl (x := .ref (b0 + 5)) (by first | rfl | exact congrArg (fun z => some (Value.ref z)) (by omega)) dX3_isBetter_49 ?_
      refine lv_iload_n (pc := 52) hx hb dX3_isBetter_52 rfl (lv_at hl 4 rfl) ?_
      obtain ⟨hg9, hm⟩ := gb_some hm
      refine rk_iald (pc := 53) hx hb hK hW0 5 (by decide) rfl rfl hg9 (x := (gI V0 5 i2.toNatClampNeg)) rfl dX3_isBetter_53 ?_
      refine lv_aload_n (pc := 54) hx hb dX3_isBetter_54 rfl (lv_at hl 2 rfl) ?_
      refine rk_get (pc := 55) hx hb hts hown hK hW0 flX3_25 0 (by decide) rfl rfl (x := .ref (b0 + 5)) (by first | rfl | exact congrArg (fun z => some (Value.ref z)) (by omega)) dX3_isBetter_55 ?_
      refine lv_iload_n (pc := 58) hx hb dX3_isBetter_58 rfl (lv_at hl 5 rfl) ?_
      obtain ⟨hg10, hm⟩ := gb_some hm
      refine rk_iald (pc := 59) hx hb hK hW0 5 (by decide) rfl rfl hg10 (x := (gI V0 5 i3.toNatClampNeg)) rfl dX3_isBetter_59 ?_
      refine lv_icmp_ge (pc := 60) (tgt := 67) hx hb dX3_isBetter_60 (by decide) (fun c11 => ?_) (fun c11 => ?_)
      · have hm := ite_t c11 hm
        refine lv_iconst (pc := 67) (v := (0 : Int32)) hx hb dX3_isBetter_67 (by decide) ?_
        have e9 := rs1 hm
        subst e9
        exact rk_zretP (pc := 68) hx hb hr hlk rfl rfl dX3_isBetter_68
      · have hm := ite_f c11 hm
        refine lv_iconst (pc := 63) (v := (1 : Int32)) hx hb dX3_isBetter_63 (by decide) ?_
        refine lv_goto (pc := 64) (tgt := 68) hx hb dX3_isBetter_64 (by decide) ?_
        have e9 := rs1 hm
        subst e9
        exact rk_zretP (pc := 68) hx hb hr hlk rfl rfl dX3_isBetter_68
set_option maxHeartbeats 4000000 in
theorem ct_X3_isBetter {G : Gv} {l : Launch} {b0 : Nat} {V0 : Mem} {i1 : Int32} {i2 : Int32} {i3 : Int32} {rx : Int32} (hm : fX3_isBetter V0 i1 i2 i3 = some rx) : CP G l yX3_isBetter (ws_ yX3_isBetter cX3_isBetter 8 (some .boolean)) 1 22 [.ref b0, .int i1, .int i2, .int i3] (fun H => rg G b0 43 (shX3 G.2.1) V0 H) (some (.int rx)) := by
  refine Met.ofW (cc := cX3_isBetter) (maxL := 8) (ret := (some .boolean)) (by decide +kernel) rfl ?_
  intro p e s m args below meth c s₁ B hml hv
  obtain ⟨rfl, hW0, hK⟩ := hv
  have hts := atoms_spec (ws := ws_ yX3_isBetter cX3_isBetter 8 (some .boolean)) B.pre
  have hts : ∀ w ∈ lw_all, w.before _ s = true := fun w h => hts w (List.mem_cons_of_mem _ h)
  have C : Cx G p s m _ meth c RX3 cX3_isBetter 8 (some .boolean) := ⟨B.exec, B.bytes, B.returns, B.notSynchronized, hml, findClass_of_methodNamed B.named, hts, hK⟩
  have hl := lv_entry ([.ref b0, .int i1, .int i2, .int i3]) (n := 8) (Nat.le_of_ble_eq_true rfl)
  rw [lg_entry_eq]
  generalize (lg_sl ([.ref b0, .int i1, .int i2, .int i3]) ++ List.replicate (8 - (lg_sl ([.ref b0, .int i1, .int i2, .int i3])).length) Slot.unset).toArray = ls at hl ⊢
  have hl : lv_has ls 8 [(0, .ref b0), (1, .int i1), (2, .int i2), (3, .int i3)] := hl
  exact w_fX3_isBetter C hW0 _ _ _ hm ls hl
theorem yn_X3_isBetter : YN yX3_isBetter 3 := by
  unfold YN
  decide +kernel
theorem lkX3_113 : LV RX3 113 RX3 yX3_isBetter cX3_isBetter 8 (some .boolean) := ⟨q813, q815, qs14, q117, q816⟩
noncomputable def fX3_columnFor_4 (V0 : Mem) (k4 : Int32 → Int32 → Int32 → Option (Int32)) (i1 : Int32) (i2 : Int32) (i3 : Int32) : Option (Int32) :=
  if (gI V0 0 0) ≤ i3 then (
  some i2)
  else (
  ob (fX3_entry V0 i1 i3) fun r2 =>
  if (0 : Int64) ≤ r2 then (
  k4 i1 i2 (i3 + (1 : Int32)))
  else (
  if i2 = (-1 : Int32) then (
  k4 i1 i3 (i3 + (1 : Int32)))
  else (
  ob (fX3_isBetter V0 i1 i3 i2) fun r6 =>
  if r6 = 0 then (
  k4 i1 i2 (i3 + (1 : Int32)))
  else (
  k4 i1 i3 (i3 + (1 : Int32))))))
noncomputable def fX3_columnFor (V0 : Mem) (i1 : Int32) : Option (Int32) :=
  lq3 (fX3_columnFor_4 V0) FU i1 (-1 : Int32) (0 : Int32)
set_option maxHeartbeats 4000000 in
theorem w_fX3_columnFor_4 (C : Cx G p s m args meth c RX3 cX3_columnFor 4 (some .int)) {b0 : Nat} {V0 : Mem} {rx : Int32} (hW0 : rg G b0 43 (shX3 G.2.1) V0 s.heap) {k4 : Int32 → Int32 → Int32 → Option (Int32)} (hk4 : ∀ (i1 : Int32) (i2 : Int32) (i3 : Int32), k4 i1 i2 i3 = some rx → ∀ (ls : Array Slot), lv_has ls 4 [(0, .ref b0), (1, .int i1), (2, .int i2), (3, .int i3)] → W p l e (rmP 2 49) s m args below meth c s.heap [] 0 0 (MQ below (QcP (some (.int rx))) args s 0 0 (fun _ => False)) (F0 m 4 ls [])) : ∀ (i1 : Int32) (i2 : Int32) (i3 : Int32), fX3_columnFor_4 V0 k4 i1 i2 i3 = some rx → ∀ (ls : Array Slot), lv_has ls 4 [(0, .ref b0), (1, .int i1), (2, .int i2), (3, .int i3)] → W p l e (rmP 2 49) s m args below meth c s.heap [] 0 0 (MQ below (QcP (some (.int rx))) args s 0 0 (fun _ => False)) (F0 m 4 ls []) := by
  intro i1 i2 i3 hm ls hl
  obtain ⟨hx, hb, hr, hlk, hml, hown, hts, hK⟩ := id C
  unfold fX3_columnFor_4 at hm
  refine lv_iload_n (pc := 4) hx hb dX3_columnFor_4 rfl (lv_at hl 3 rfl) ?_
  refine lv_aload_n (pc := 5) hx hb dX3_columnFor_5 rfl (lv_at hl 0 rfl) ?_
  refine rk_get (pc := 6) hx hb hts hown hK hW0 flX3_44 0 (by decide) rfl rfl (x := .int (gI V0 0 0)) rfl dX3_columnFor_6 ?_
  refine lv_icmp_ge (pc := 9) (tgt := 46) hx hb dX3_columnFor_9 (by decide) (fun c1 => ?_) (fun c1 => ?_)
  · have hm := ite_t c1 hm
    refine lv_iload_n (pc := 46) hx hb dX3_columnFor_46 rfl (lv_at hl 2 rfl) ?_
    have e9 := rs1 hm
    subst e9
    exact rk_iretP (pc := 47) hx hb hr hlk rfl dX3_columnFor_47
  · have hm := ite_f c1 hm
    refine lv_aload_n (pc := 12) hx hb dX3_columnFor_12 rfl (lv_at hl 0 rfl) ?_
    refine lv_iload_n (pc := 13) hx hb dX3_columnFor_13 rfl (lv_at hl 1 rfl) ?_
    refine lv_iload_n (pc := 14) hx hb dX3_columnFor_14 rfl (lv_at hl 3 rfl) ?_
    obtain ⟨r2, hq3, hm⟩ := ob_some hm
    refine rk_PV (pc := 15) (As := [.int i1, .int i3]) (rest := []) hx hb hml hown hts hK lkX3_88 rfl yn_X3_entry (ct_X3_entry (G := G) (l := l) (b0 := b0) hq3) ⟨Nat.le_of_ble_eq_true rfl, Nat.le_of_ble_eq_true rfl⟩ (rk_recv hK hW0 0 (by decide) rfl rfl rfl) hW0 rfl rfl hl.1 (Nat.le_of_ble_eq_true rfl) dX3_columnFor_15 ⟨Nat.zero_le _, Nat.zero_le _⟩ ?_
    refine W.eq (g2 := F0 m 18 ls [.long r2]) rfl ?_
    refine lv_lconst (pc := 18) (v := (0 : Int64)) hx hb dX3_columnFor_18 (by decide) ?_
    refine rk_lcmp_ge (pc := 19) (tgt := 40) hx hb dX3_columnFor_19 rfl dX3_columnFor_20 (by decide) (fun c4 => ?_) (fun c4 => ?_)
    · have hm := ite_t c4 hm
      refine lv_iinc (pc := 40) (v := (i3 + (1 : Int32))) (lv' := [(3, .int (i3 + (1 : Int32))), (0, .ref b0), (1, .int i1), (2, .int i2)]) hx hb dX3_columnFor_40 hl (k := 3) rfl rfl (by decide) rfl (fun ls hl => ?_)
      refine lv_goto (pc := 43) (tgt := 4) hx hb dX3_columnFor_43 (by decide) ?_
      exact hk4 i1 i2 (i3 + (1 : Int32)) hm ls (lv_sub hl [1, 2, 3, 0] rfl)
    · have hm := ite_f c4 hm
      refine lv_iload_n (pc := 23) hx hb dX3_columnFor_23 rfl (lv_at hl 2 rfl) ?_
      refine lv_iconst (pc := 24) (v := (-1 : Int32)) hx hb dX3_columnFor_24 (by decide) ?_
      refine lv_icmp_eq (pc := 25) (tgt := 38) hx hb dX3_columnFor_25 (by decide) (fun c5 => ?_) (fun c5 => ?_)
      · have hm := ite_t c5 hm
        refine lv_iload_n (pc := 38) hx hb dX3_columnFor_38 rfl (lv_at hl 3 rfl) ?_
        refine lv_istore_n (pc := 39) (lv' := [(2, .int i3), (0, .ref b0), (1, .int i1), (3, .int i3)]) hx hb dX3_columnFor_39 rfl hl (by decide) rfl (fun ls hl => ?_)
        refine lv_iinc (pc := 40) (v := (i3 + (1 : Int32))) (lv' := [(3, .int (i3 + (1 : Int32))), (2, .int i3), (0, .ref b0), (1, .int i1)]) hx hb dX3_columnFor_40 hl (k := 3) rfl rfl (by decide) rfl (fun ls hl => ?_)
        refine lv_goto (pc := 43) (tgt := 4) hx hb dX3_columnFor_43 (by decide) ?_
        exact hk4 i1 i3 (i3 + (1 : Int32)) hm ls (lv_sub hl [2, 3, 1, 0] rfl)
      · have hm := ite_f c5 hm
        refine lv_aload_n (pc := 28) hx hb dX3_columnFor_28 rfl (lv_at hl 0 rfl) ?_
        refine lv_iload_n (pc := 29) hx hb dX3_columnFor_29 rfl (lv_at hl 1 rfl) ?_
        refine lv_iload_n (pc := 30) hx hb dX3_columnFor_30 rfl (lv_at hl 3 rfl) ?_
        refine lv_iload_n (pc := 31) hx hb dX3_columnFor_31 rfl (lv_at hl 2 rfl) ?_
        obtain ⟨r6, hq7, hm⟩ := ob_some hm
        refine rk_PV (pc := 32) (As := [.int i1, .int i3, .int i2]) (rest := []) hx hb hml hown hts hK lkX3_113 rfl yn_X3_isBetter (ct_X3_isBetter (G := G) (l := l) (b0 := b0) hq7) ⟨Nat.le_of_ble_eq_true rfl, Nat.le_of_ble_eq_true rfl⟩ (rk_recv hK hW0 0 (by decide) rfl rfl rfl) hW0 rfl rfl hl.1 (Nat.le_of_ble_eq_true rfl) dX3_columnFor_32 ⟨Nat.zero_le _, Nat.zero_le _⟩ ?_
        refine W.eq (g2 := F0 m 35 ls [.int r6]) rfl ?_
        refine lv_if_eq (pc := 35) (tgt := 40) hx hb dX3_columnFor_35 (by decide) (fun c8 => ?_) (fun c8 => ?_)
        · have hm := ite_t c8 hm
          refine lv_iinc (pc := 40) (v := (i3 + (1 : Int32))) (lv' := [(3, .int (i3 + (1 : Int32))), (0, .ref b0), (1, .int i1), (2, .int i2)]) hx hb dX3_columnFor_40 hl (k := 3) rfl rfl (by decide) rfl (fun ls hl => ?_)
          refine lv_goto (pc := 43) (tgt := 4) hx hb dX3_columnFor_43 (by decide) ?_
          exact hk4 i1 i2 (i3 + (1 : Int32)) hm ls (lv_sub hl [1, 2, 3, 0] rfl)
        · have hm := ite_f c8 hm
          refine lv_iload_n (pc := 38) hx hb dX3_columnFor_38 rfl (lv_at hl 3 rfl) ?_
          refine lv_istore_n (pc := 39) (lv' := [(2, .int i3), (0, .ref b0), (1, .int i1), (3, .int i3)]) hx hb dX3_columnFor_39 rfl hl (by decide) rfl (fun ls hl => ?_)
          refine lv_iinc (pc := 40) (v := (i3 + (1 : Int32))) (lv' := [(3, .int (i3 + (1 : Int32))), (2, .int i3), (0, .ref b0), (1, .int i1)]) hx hb dX3_columnFor_40 hl (k := 3) rfl rfl (by decide) rfl (fun ls hl => ?_)
          refine lv_goto (pc := 43) (tgt := 4) hx hb dX3_columnFor_43 (by decide) ?_
          exact hk4 i1 i3 (i3 + (1 : Int32)) hm ls (lv_sub hl [2, 3, 1, 0] rfl)
theorem w_fX3_columnFor_4_l (C : Cx G p s m args meth c RX3 cX3_columnFor 4 (some .int)) {b0 : Nat} {V0 : Mem} {rx : Int32} (hW0 : rg G b0 43 (shX3 G.2.1) V0 s.heap) : ∀ (n : Nat) (i1 : Int32) (i2 : Int32) (i3 : Int32), lq3 (fX3_columnFor_4 V0) n i1 i2 i3 = some rx → ∀ (ls : Array Slot), lv_has ls 4 [(0, .ref b0), (1, .int i1), (2, .int i2), (3, .int i3)] → W p l e (rmP 2 49) s m args below meth c s.heap [] 0 0 (MQ below (QcP (some (.int rx))) args s 0 0 (fun _ => False)) (F0 m 4 ls []) := by
  intro n
  induction n with
  | zero => intro i1 i2 i3 hm; exact (lq3_0 hm).elim
  | succ n ih => intro i1 i2 i3 hm; exact w_fX3_columnFor_4 C hW0 ih i1 i2 i3 (lq3_s hm)
set_option maxHeartbeats 4000000 in
theorem w_fX3_columnFor (C : Cx G p s m args meth c RX3 cX3_columnFor 4 (some .int)) {b0 : Nat} {V0 : Mem} {rx : Int32} (hW0 : rg G b0 43 (shX3 G.2.1) V0 s.heap) : ∀ (i1 : Int32), fX3_columnFor V0 i1 = some rx → ∀ (ls : Array Slot), lv_has ls 4 [(0, .ref b0), (1, .int i1)] → W p l e (rmP 2 49) s m args below meth c s.heap [] 0 0 (MQ below (QcP (some (.int rx))) args s 0 0 (fun _ => False)) (F0 m 0 ls []) := by
  intro i1 hm ls hl
  obtain ⟨hx, hb, hr, hlk, hml, hown, hts, hK⟩ := id C
  unfold fX3_columnFor at hm
  refine lv_iconst (pc := 0) (v := (-1 : Int32)) hx hb dX3_columnFor_0 (by decide) ?_
  refine lv_istore_n (pc := 1) (lv' := [(2, .int (-1 : Int32)), (0, .ref b0), (1, .int i1)]) hx hb dX3_columnFor_1 rfl hl (by decide) rfl (fun ls hl => ?_)
  refine lv_iconst (pc := 2) (v := (0 : Int32)) hx hb dX3_columnFor_2 (by decide) ?_
  refine lv_istore_n (pc := 3) (lv' := [(3, .int (0 : Int32)), (2, .int (-1 : Int32)), (0, .ref b0), (1, .int i1)]) hx hb dX3_columnFor_3 rfl hl (by decide) rfl (fun ls hl => ?_)
  exact (w_fX3_columnFor_4_l C hW0 FU) i1 (-1 : Int32) (0 : Int32) hm ls (lv_sub hl [2, 3, 1, 0] rfl)
set_option maxHeartbeats 4000000 in
theorem ct_X3_columnFor {G : Gv} {l : Launch} {b0 : Nat} {V0 : Mem} {i1 : Int32} {rx : Int32} (hm : fX3_columnFor V0 i1 = some rx) : CP G l yX3_columnFor (ws_ yX3_columnFor cX3_columnFor 4 (some .int)) 2 49 [.ref b0, .int i1] (fun H => rg G b0 43 (shX3 G.2.1) V0 H) (some (.int rx)) := by
  refine Met.ofW (cc := cX3_columnFor) (maxL := 4) (ret := (some .int)) (by decide +kernel) rfl ?_
  intro p e s m args below meth c s₁ B hml hv
  obtain ⟨rfl, hW0, hK⟩ := hv
  have hts := atoms_spec (ws := ws_ yX3_columnFor cX3_columnFor 4 (some .int)) B.pre
  have hts : ∀ w ∈ lw_all, w.before _ s = true := fun w h => hts w (List.mem_cons_of_mem _ h)
  have C : Cx G p s m _ meth c RX3 cX3_columnFor 4 (some .int) := ⟨B.exec, B.bytes, B.returns, B.notSynchronized, hml, findClass_of_methodNamed B.named, hts, hK⟩
  have hl := lv_entry ([.ref b0, .int i1]) (n := 4) (Nat.le_of_ble_eq_true rfl)
  rw [lg_entry_eq]
  generalize (lg_sl ([.ref b0, .int i1]) ++ List.replicate (4 - (lg_sl ([.ref b0, .int i1])).length) Slot.unset).toArray = ls at hl ⊢
  have hl : lv_has ls 4 [(0, .ref b0), (1, .int i1)] := hl
  exact w_fX3_columnFor C hW0 _ hm ls hl
theorem yn_X3_lowRow : YN yX3_lowRow 0 := by
  unfold YN
  decide +kernel
theorem lkX3_117 : LV RX3 117 RX3 yX3_lowRow cX3_lowRow 3 (some .int) := ⟨q801, q803, qs12, q117, q804⟩
theorem yn_X3_columnFor : YN yX3_columnFor 1 := by
  unfold YN
  decide +kernel
theorem lkX3_121 : LV RX3 121 RX3 yX3_columnFor cX3_columnFor 4 (some .int) := ⟨q805, q807, qs13, q117, q808⟩
theorem yn_X3_pivot : YN yX3_pivot 2 := by
  unfold YN
  decide +kernel
theorem lkX3_125 : LV RX3 125 RX3 yX3_pivot cX3_pivot 9 none := ⟨q836, q838, qs15, q117, q839⟩
noncomputable def fX3_repairs_5 (k5 : Mem → Nat → Int32 → Option (Bool × Int32 × Nat × Mem)) (v0 : Mem) (zc : Nat) (i1 : Int32) : Option (Bool × Int32 × Nat × Mem) :=
  if i1 = (-1 : Int32) then (
  some (true, (0 : Int32), zc, v0))
  else (
  ob (fX3_columnFor v0 i1) fun r4 =>
  if r4 = (-1 : Int32) then (
  some (false, (0 : Int32), (zc + 1), v0))
  else (
  if (gI v0 0 2) = (60 : Int32) then (
  some (false, (-6 : Int32), (zc + 1), v0))
  else (
  ob4 (fX3_pivot v0 i1 r4) fun ok10 re11 rc8 w9 =>
  if ok10 = true then (
  ob (fX3_lowRow w9) fun r22 =>
  k5 w9 (zc + rc8) r22)
  else (
  some (false, re11, (zc + rc8), w9)))))
noncomputable def fX3_repairs (v0 : Mem) : Option (Bool × Int32 × Nat × Mem) :=
  ob (fX3_lowRow v0) fun r1 =>
  lq3 (fX3_repairs_5) FU v0 0 r1
set_option maxHeartbeats 4000000 in
theorem w_fX3_repairs_5 (C : Cx G p s m args meth c RX3 cX3_repairs 3 none) {b0 : Nat} {rok : Bool} {re : Int32} {rc : Nat} {rw0 : Mem} (he0 : b0 + 43 ≤ s.heap.size) (hZ : ZQ G) (hgb0 : gB G ≤ b0) (ht : ∀ x ∈ c.exceptionTable.toList, False) {k5 : Mem → Nat → Int32 → Option (Bool × Int32 × Nat × Mem)} (hk5 : ∀ (v0 : Mem) (zc : Nat) (i1 : Int32), k5 v0 zc i1 = some (rok, re, rc, rw0) → ∀ (H : Heap) (locs : List Loc) (ls : Array Slot), rg G b0 43 (shX3 G.2.1) v0 H → va_S (FA (iv b0 43) s.heap.size) s.heap H locs → H.size = s.heap.size + zc → GO G H → lv_has ls 3 [(0, .ref b0), (1, .int i1)] → W p l e (rmT 5 (bif rok then 0 else 1) (bif rok then 0 else 7) 109) s m args below meth c H locs 0 0 (vx_MQ below (QcX rok (FA (iv b0 43) s.heap.size) (fun ov H => ov = none ∧ rg G b0 43 (shX3 G.2.1) rw0 H ∧ H.size = s.heap.size + rc)) (XcX rok (FA (iv b0 43) s.heap.size) (fun q E H => E = "WholePacks$Stuck" ∧ s.heap.size ≤ q ∧ (∃ wx, rg G q 1 (shX13 G.2.1) wx H ∧ gI wx 0 6 = re) ∧ rg G b0 43 (shX3 G.2.1) rw0 H ∧ H.size = s.heap.size + rc)) args s (bif rok then 0 else 1) (bif rok then 0 else 7) (FA (iv b0 43) s.heap.size)) (F0 m 5 ls [])) : ∀ (v0 : Mem) (zc : Nat) (i1 : Int32), fX3_repairs_5 k5 v0 zc i1 = some (rok, re, rc, rw0) → ∀ (H : Heap) (locs : List Loc) (ls : Array Slot), rg G b0 43 (shX3 G.2.1) v0 H → va_S (FA (iv b0 43) s.heap.size) s.heap H locs → H.size = s.heap.size + zc → GO G H → lv_has ls 3 [(0, .ref b0), (1, .int i1)] → W p l e (rmT 5 (bif rok then 0 else 1) (bif rok then 0 else 7) 109) s m args below meth c H locs 0 0 (vx_MQ below (QcX rok (FA (iv b0 43) s.heap.size) (fun ov H => ov = none ∧ rg G b0 43 (shX3 G.2.1) rw0 H ∧ H.size = s.heap.size + rc)) (XcX rok (FA (iv b0 43) s.heap.size) (fun q E H => E = "WholePacks$Stuck" ∧ s.heap.size ≤ q ∧ (∃ wx, rg G q 1 (shX13 G.2.1) wx H ∧ gI wx 0 6 = re) ∧ rg G b0 43 (shX3 G.2.1) rw0 H ∧ H.size = s.heap.size + rc)) args s (bif rok then 0 else 1) (bif rok then 0 else 7) (FA (iv b0 43) s.heap.size)) (F0 m 5 ls []) := by
  intro v0 zc i1 hm H locs ls hW0 hS hz hG hl
  obtain ⟨hx, hb, hr, hlk, hml, hown, hts, hK⟩ := id C
  unfold fX3_repairs_5 at hm
  refine lv_iload_n (pc := 5) hx hb dX3_repairs_5 rfl (lv_at hl 1 rfl) ?_
  refine lv_iconst (pc := 6) (v := (-1 : Int32)) hx hb dX3_repairs_6 (by decide) ?_
  refine lv_icmp_eq (pc := 7) (tgt := 63) hx hb dX3_repairs_7 (by decide) (fun c3 => ?_) (fun c3 => ?_)
  · have hm := ite_t c3 hm
    obtain ⟨e6, e7, e8, e9⟩ := rs4 hm
    cases e6
    subst e7
    subst e8
    subst e9
    exact rk_vretX (pc := 63) hx hb hr hlk hS ⟨rfl, hW0, hz⟩ dX3_repairs_63 (by exact Nat.le_of_ble_eq_true rfl) (by exact Nat.le_of_ble_eq_true rfl)
  · have hm := ite_f c3 hm
    refine lv_aload_n (pc := 10) hx hb dX3_repairs_10 rfl (lv_at hl 0 rfl) ?_
    refine lv_iload_n (pc := 11) hx hb dX3_repairs_11 rfl (lv_at hl 1 rfl) ?_
    obtain ⟨r4, hq5, hm⟩ := ob_some hm
    refine rk_PV (pc := 12) (As := [.int i1]) (rest := []) hx hb hml hown hts hK lkX3_121 rfl yn_X3_columnFor (ct_X3_columnFor (G := G) (l := l) (b0 := b0) hq5) ⟨Nat.le_of_ble_eq_true rfl, Nat.le_of_ble_eq_true rfl⟩ (rk_recv hK hW0 0 (by decide) rfl rfl rfl) hW0 rfl rfl hl.1 (Nat.le_of_ble_eq_true rfl) dX3_repairs_12 ⟨Nat.zero_le _, Nat.zero_le _⟩ ?_
    refine W.eq (g2 := F0 m 15 ls [.int r4]) rfl ?_
    refine lv_istore_n (pc := 15) (lv' := [(2, .int r4), (0, .ref b0), (1, .int i1)]) hx hb dX3_repairs_15 rfl hl (by decide) rfl (fun ls hl => ?_)
    refine lv_iload_n (pc := 16) hx hb dX3_repairs_16 rfl (lv_at hl 0 rfl) ?_
    refine lv_iconst (pc := 17) (v := (-1 : Int32)) hx hb dX3_repairs_17 (by decide) ?_
    refine lv_icmp_ne (pc := 18) (tgt := 30) hx hb dX3_repairs_18 (by decide) (fun c6 => ?_) (fun c6 => ?_)
    · have hm := ite_f c6 hm
      refine lv_aload_n (pc := 30) hx hb dX3_repairs_30 rfl (lv_at hl 1 rfl) ?_
      refine rk_get (pc := 31) hx hb hts hown hK hW0 flX3_45 0 (by decide) rfl rfl (x := .int (gI v0 0 2)) rfl dX3_repairs_31 ?_
      refine lv_bipush (pc := 34) (v := (60 : Int32)) hx hb dX3_repairs_34 (by decide) ?_
      refine lv_icmp_ne (pc := 36) (tgt := 49) hx hb dX3_repairs_36 (by decide) (fun c7 => ?_) (fun c7 => ?_)
      · have hm := ite_f c7 hm
        refine lv_aload_n (pc := 49) hx hb dX3_repairs_49 rfl (lv_at hl 1 rfl) ?_
        refine lv_iload_n (pc := 50) hx hb dX3_repairs_50 rfl (lv_at hl 2 rfl) ?_
        refine lv_iload_n (pc := 51) hx hb dX3_repairs_51 rfl (lv_at hl 0 rfl) ?_
        obtain ⟨ok10, re11, rc8, w9, hq12, hm⟩ := ob4_some hm
        by_cases hok : ok10 = true
        · subst hok
          have hm := ite_t rfl hm
          refine rk_TV (pc := 52) (As := [.int i1, .int r4]) (rest := []) (mc := 0) (ms := 0) hx hb hml hown hts hK hS (fun q hq => FA_sz rfl q hq) lkX3_125 rfl yn_X3_pivot (CX.ret (ct_X3_pivot (G := G) (l := l) (rok := true) (b0 := b0) (sz := H.size) hq12 hZ (by omega))) ⟨Nat.le_of_ble_eq_true rfl, Nat.le_of_ble_eq_true rfl⟩ (fun z h => Or.inl (show iv _ _ _ from ⟨by have h8 := h.1; have h9 := h.2; omega, by have h8 := h.1; have h9 := h.2; omega⟩)) (rk_recv hK hW0 0 (by decide) rfl rfl rfl) ⟨hW0, hG⟩ rfl rfl hl.1 (Nat.le_of_ble_eq_true rfl) dX3_repairs_52 ⟨Nat.zero_le _, Nat.zero_le _⟩ (fun ov9 H13 locs14 hP15 hkp16 hS17 => ?_)
          obtain ⟨rfl, hW18, hz19⟩ := hP15
          have hG20 := GO_keepA hG hkp16 (Nat.le_trans (show gB G ≤ s.heap.size by omega) hS.1) (by intro z h3; have h8 := h3.1; have h9 := h3.2; omega)
          have hz21 : H13.size = s.heap.size + (zc + rc8) := by omega
          refine W.eq (g2 := F0 m 55 ls []) rfl ?_
          refine lv_aload_n (pc := 55) hx hb dX3_repairs_55 rfl (lv_at hl 1 rfl) ?_
          obtain ⟨r22, hq23, hm⟩ := ob_some hm
          refine rk_PV (pc := 56) (As := []) (rest := []) hx hb hml hown hts hK lkX3_117 rfl yn_X3_lowRow (ct_X3_lowRow (G := G) (l := l) (b0 := b0) hq23) ⟨Nat.le_of_ble_eq_true rfl, Nat.le_of_ble_eq_true rfl⟩ (rk_recv hK hW18 0 (by decide) rfl rfl rfl) hW18 rfl rfl hl.1 (Nat.le_of_ble_eq_true rfl) dX3_repairs_56 ⟨Nat.zero_le _, Nat.zero_le _⟩ ?_
          refine W.eq (g2 := F0 m 59 ls [.int r22]) rfl ?_
          refine lv_istore_n (pc := 59) (lv' := [(1, .int r22), (2, .int r4), (0, .ref b0)]) hx hb dX3_repairs_59 rfl hl (by decide) rfl (fun ls hl => ?_)
          refine lv_goto (pc := 60) (tgt := 5) hx hb dX3_repairs_60 (by decide) ?_
          exact hk5 w9 (zc + rc8) r22 hm H13 locs14 ls hW18 hS17 hz21 hG20 (lv_sub hl [2, 0] rfl)
        · have hok := eq_false_of_ne_true hok
          subst hok
          have hm := ite_f Bool.false_ne_true hm
          have hok9 : false = rok := (by exact (rs4 hm).1)
          subst hok9
          refine rk_XV (pc := 52) (As := [.int i1, .int r4]) (rest := []) (mc := 1) (ms := 7) hx hb hml hown hts hK hS (fun q hq => FA_sz rfl q hq) lkX3_125 rfl yn_X3_pivot (ct_X3_pivot (G := G) (l := l) (rok := false) (b0 := b0) (sz := H.size) hq12 hZ (by omega)) ⟨Nat.le_of_ble_eq_true rfl, Nat.le_of_ble_eq_true rfl⟩ (fun z h => Or.inl (show iv _ _ _ from ⟨by have h8 := h.1; have h9 := h.2; omega, by have h8 := h.1; have h9 := h.2; omega⟩)) (rk_recv hK hW0 0 (by decide) rfl rfl rfl) ⟨hW0, hG⟩ rfl rfl hl.1 (Nat.le_of_ble_eq_true rfl) dX3_repairs_52 ⟨Nat.le_of_ble_eq_true rfl, Nat.le_of_ble_eq_true rfl⟩ (fun q29 E9 ce9 H24 locs25 hP26 hkp27 hS28 hce9 hcv9 hcl9 => ?_)
          obtain ⟨rfl, hqq29, ⟨wx31, hW32, hre33⟩, hW30, hz34⟩ := hP26
          have hqq29 : s.heap.size ≤ q29 := Nat.le_trans hS.1 hqq29
          have hG35 := GO_keepA hG hkp27 (Nat.le_trans (show gB G ≤ s.heap.size by omega) hS.1) (by intro z h3; have h8 := h3.1; have h9 := h3.2; omega)
          have hz36 : H24.size = s.heap.size + (zc + rc8) := by omega
          obtain ⟨ce8, hce8, hcv8, hcl8⟩ := rk_exc hK hW32 rfl rfl
          obtain ⟨e6, e7, e8, e9⟩ := rs4 hm
          cases e6
          subst e7
          subst e8
          subst e9
          exact rk_xout (fun x h => (ht x h).elim) hlk hS28 hce8 hcv8 hcl8 ⟨rfl, hqq29, ⟨_, hW32, hre33⟩, hW30, hz36⟩ (by exact Nat.le_of_ble_eq_true rfl) (by exact Nat.le_of_ble_eq_true rfl)
      · have hm := ite_t c7 hm
        obtain ⟨h37, hh37⟩ : ∃ h, H.size = h := ⟨_, rfl⟩
        have hqh37 : s.heap.size ≤ h37 := Nat.le_trans hS.1 (Nat.le_of_eq hh37)
        have hok9 : false = rok := (by exact (rs4 hm).1)
        subst hok9
        refine rk_new (pc := 39) (h := h37) (sh := (shX13 G.2.1)) hx hb hts hown hK hS in_X13 ft_X13 rfl q776 q817 q135 hh37 rfl (df_X13 _ rfl) (Nat.le_of_ble_eq_true rfl) (Nat.le_of_ble_eq_true rfl) dX3_repairs_39 (fun H38 hW40 hS41 hz42 hkp43 => ?_)
        have hW44 := rg_keepN hW0 hh37 hkp43
        have hz45 : H38.size = s.heap.size + (zc + 1) := by omega
        have hG46 := GO_keepN hG (by omega) hkp43
        refine lv_dup (pc := 42) hx hb dX3_repairs_42 rfl ?_
        refine lv_bipush (pc := 43) (v := (-6 : Int32)) hx hb dX3_repairs_43 (by decide) ?_
        refine rk_TI (pc := 45) (As := [.int (-6 : Int32)]) (rest := [.ref h37]) (mc := 0) (ms := 0) hx hb hml hown hts hK hS41 (fun q hq => FA_sz rfl q hq) lkX3_110 yn_X13_init (ct_X13_init (G := G) (l := l) (b0 := h37) (v0 := mz) (i1 := (-6 : Int32)) (sz := H38.size) hZ (by omega)) ⟨Nat.le_of_ble_eq_true rfl, Nat.le_of_ble_eq_true rfl⟩ (fun z h9 => Or.inr (show s.heap.size ≤ z by have := h9.1; omega)) ⟨hW40, hG46⟩ rfl rfl hl.1 (Nat.le_of_ble_eq_true rfl) dX3_repairs_45 ⟨Nat.le_of_ble_eq_true rfl, Nat.le_of_ble_eq_true rfl⟩ (fun ov9 H47 locs48 hP49 hkp50 hS51 => ?_)
        obtain ⟨rfl, ⟨wx52, hW53, hre54⟩, hz55⟩ := hP49
        have hW56 := rg_keepA hW44 hkp50 (by intro z h1 h2 h3; have h8 := h3.1; have h9 := h3.2; omega)
        have hG57 := GO_keepA hG46 hkp50 (Nat.le_trans (show gB G ≤ s.heap.size by omega) hS41.1) (by intro z h3; have h8 := h3.1; have h9 := h3.2; omega)
        have hz58 := hz55.trans hz45
        refine W.eq (g2 := F0 m 48 ls [.ref h37]) rfl ?_
        refine vx_athrow (pc := 48) hx hb dX3_repairs_48 ?_
        obtain ⟨ce8, hce8, hcv8, hcl8⟩ := rk_exc hK hW53 rfl rfl
        obtain ⟨e6, e7, e8, e9⟩ := rs4 hm
        cases e6
        subst e7
        subst e8
        subst e9
        exact rk_xout (fun x h => (ht x h).elim) hlk hS51 hce8 hcv8 hcl8 ⟨rfl, hqh37, ⟨_, hW53, hre54⟩, hW56, hz58⟩ (by exact Nat.le_of_ble_eq_true rfl) (by exact Nat.le_of_ble_eq_true rfl)
    · have hm := ite_t c6 hm
      obtain ⟨h59, hh59⟩ : ∃ h, H.size = h := ⟨_, rfl⟩
      have hqh59 : s.heap.size ≤ h59 := Nat.le_trans hS.1 (Nat.le_of_eq hh59)
      have hok9 : false = rok := (by exact (rs4 hm).1)
      subst hok9
      refine rk_new (pc := 21) (h := h59) (sh := (shX13 G.2.1)) hx hb hts hown hK hS in_X13 ft_X13 rfl q776 q817 q135 hh59 rfl (df_X13 _ rfl) (Nat.le_of_ble_eq_true rfl) (Nat.le_of_ble_eq_true rfl) dX3_repairs_21 (fun H60 hW62 hS63 hz64 hkp65 => ?_)
      have hW66 := rg_keepN hW0 hh59 hkp65
      have hz67 : H60.size = s.heap.size + (zc + 1) := by omega
      have hG68 := GO_keepN hG (by omega) hkp65
      refine lv_dup (pc := 24) hx hb dX3_repairs_24 rfl ?_
      refine lv_iconst (pc := 25) (v := (0 : Int32)) hx hb dX3_repairs_25 (by decide) ?_
      refine rk_TI (pc := 26) (As := [.int (0 : Int32)]) (rest := [.ref h59]) (mc := 0) (ms := 0) hx hb hml hown hts hK hS63 (fun q hq => FA_sz rfl q hq) lkX3_110 yn_X13_init (ct_X13_init (G := G) (l := l) (b0 := h59) (v0 := mz) (i1 := (0 : Int32)) (sz := H60.size) hZ (by omega)) ⟨Nat.le_of_ble_eq_true rfl, Nat.le_of_ble_eq_true rfl⟩ (fun z h9 => Or.inr (show s.heap.size ≤ z by have := h9.1; omega)) ⟨hW62, hG68⟩ rfl rfl hl.1 (Nat.le_of_ble_eq_true rfl) dX3_repairs_26 ⟨Nat.le_of_ble_eq_true rfl, Nat.le_of_ble_eq_true rfl⟩ (fun ov9 H69 locs70 hP71 hkp72 hS73 => ?_)
      obtain ⟨rfl, ⟨wx74, hW75, hre76⟩, hz77⟩ := hP71
      have hW78 := rg_keepA hW66 hkp72 (by intro z h1 h2 h3; have h8 := h3.1; have h9 := h3.2; omega)
      have hG79 := GO_keepA hG68 hkp72 (Nat.le_trans (show gB G ≤ s.heap.size by omega) hS63.1) (by intro z h3; have h8 := h3.1; have h9 := h3.2; omega)
      have hz80 := hz77.trans hz67
      refine W.eq (g2 := F0 m 29 ls [.ref h59]) rfl ?_
      refine vx_athrow (pc := 29) hx hb dX3_repairs_29 ?_
      obtain ⟨ce8, hce8, hcv8, hcl8⟩ := rk_exc hK hW75 rfl rfl
      obtain ⟨e6, e7, e8, e9⟩ := rs4 hm
      cases e6
      subst e7
      subst e8
      subst e9
      exact rk_xout (fun x h => (ht x h).elim) hlk hS73 hce8 hcv8 hcl8 ⟨rfl, hqh59, ⟨_, hW75, hre76⟩, hW78, hz80⟩ (by exact Nat.le_of_ble_eq_true rfl) (by exact Nat.le_of_ble_eq_true rfl)
theorem w_fX3_repairs_5_l (C : Cx G p s m args meth c RX3 cX3_repairs 3 none) {b0 : Nat} {rok : Bool} {re : Int32} {rc : Nat} {rw0 : Mem} (he0 : b0 + 43 ≤ s.heap.size) (hZ : ZQ G) (hgb0 : gB G ≤ b0) (ht : ∀ x ∈ c.exceptionTable.toList, False) : ∀ (n : Nat) (v0 : Mem) (zc : Nat) (i1 : Int32), lq3 (fX3_repairs_5) n v0 zc i1 = some (rok, re, rc, rw0) → ∀ (H : Heap) (locs : List Loc) (ls : Array Slot), rg G b0 43 (shX3 G.2.1) v0 H → va_S (FA (iv b0 43) s.heap.size) s.heap H locs → H.size = s.heap.size + zc → GO G H → lv_has ls 3 [(0, .ref b0), (1, .int i1)] → W p l e (rmT 5 (bif rok then 0 else 1) (bif rok then 0 else 7) 109) s m args below meth c H locs 0 0 (vx_MQ below (QcX rok (FA (iv b0 43) s.heap.size) (fun ov H => ov = none ∧ rg G b0 43 (shX3 G.2.1) rw0 H ∧ H.size = s.heap.size + rc)) (XcX rok (FA (iv b0 43) s.heap.size) (fun q E H => E = "WholePacks$Stuck" ∧ s.heap.size ≤ q ∧ (∃ wx, rg G q 1 (shX13 G.2.1) wx H ∧ gI wx 0 6 = re) ∧ rg G b0 43 (shX3 G.2.1) rw0 H ∧ H.size = s.heap.size + rc)) args s (bif rok then 0 else 1) (bif rok then 0 else 7) (FA (iv b0 43) s.heap.size)) (F0 m 5 ls []) := by
  intro n
  induction n with
  | zero => intro v0 zc i1 hm; exact (lq3_0 hm).elim
  | succ n ih => intro v0 zc i1 hm; exact w_fX3_repairs_5 C he0 hZ hgb0 ht ih v0 zc i1 (lq3_s hm)
set_option maxHeartbeats 4000000 in
theorem w_fX3_repairs (C : Cx G p s m args meth c RX3 cX3_repairs 3 none) {b0 : Nat} {rok : Bool} {re : Int32} {rc : Nat} {rw0 : Mem} (he0 : b0 + 43 ≤ s.heap.size) (hZ : ZQ G) (hgb0 : gB G ≤ b0) (ht : ∀ x ∈ c.exceptionTable.toList, False) : ∀ (v0 : Mem), fX3_repairs v0 = some (rok, re, rc, rw0) → ∀ (H : Heap) (locs : List Loc) (ls : Array Slot), rg G b0 43 (shX3 G.2.1) v0 H → va_S (FA (iv b0 43) s.heap.size) s.heap H locs → H.size = s.heap.size + 0 → GO G H → lv_has ls 3 [(0, .ref b0)] → W p l e (rmT 5 (bif rok then 0 else 1) (bif rok then 0 else 7) 109) s m args below meth c H locs 0 0 (vx_MQ below (QcX rok (FA (iv b0 43) s.heap.size) (fun ov H => ov = none ∧ rg G b0 43 (shX3 G.2.1) rw0 H ∧ H.size = s.heap.size + rc)) (XcX rok (FA (iv b0 43) s.heap.size) (fun q E H => E = "WholePacks$Stuck" ∧ s.heap.size ≤ q ∧ (∃ wx, rg G q 1 (shX13 G.2.1) wx H ∧ gI wx 0 6 = re) ∧ rg G b0 43 (shX3 G.2.1) rw0 H ∧ H.size = s.heap.size + rc)) args s (bif rok then 0 else 1) (bif rok then 0 else 7) (FA (iv b0 43) s.heap.size)) (F0 m 0 ls []) := by
  intro v0 hm H locs ls hW0 hS hz hG hl
  obtain ⟨hx, hb, hr, hlk, hml, hown, hts, hK⟩ := id C
  unfold fX3_repairs at hm
  refine lv_aload_n (pc := 0) hx hb dX3_repairs_0 rfl (lv_at hl 0 rfl) ?_
  obtain ⟨r1, hq2, hm⟩ := ob_some hm
  refine rk_PV (pc := 1) (As := []) (rest := []) hx hb hml hown hts hK lkX3_117 rfl yn_X3_lowRow (ct_X3_lowRow (G := G) (l := l) (b0 := b0) hq2) ⟨Nat.le_of_ble_eq_true rfl, Nat.le_of_ble_eq_true rfl⟩ (rk_recv hK hW0 0 (by decide) rfl rfl rfl) hW0 rfl rfl hl.1 (Nat.le_of_ble_eq_true rfl) dX3_repairs_1 ⟨Nat.zero_le _, Nat.zero_le _⟩ ?_
  refine W.eq (g2 := F0 m 4 ls [.int r1]) rfl ?_
  refine lv_istore_n (pc := 4) (lv' := [(1, .int r1), (0, .ref b0)]) hx hb dX3_repairs_4 rfl hl (by decide) rfl (fun ls hl => ?_)
  exact (w_fX3_repairs_5_l C he0 hZ hgb0 ht FU) v0 0 r1 hm H locs ls hW0 hS hz hG (lv_sub hl [1, 0] rfl)
set_option maxHeartbeats 4000000 in
theorem ct_X3_repairs {G : Gv} {l : Launch} {b0 : Nat} {v0 : Mem} {rok : Bool} {re : Int32} {rc : Nat} {rw0 : Mem} {sz : Nat} (hm : fX3_repairs v0 = some (rok, re, rc, rw0)) (hZ : ZQ G) (hgb0 : gB G ≤ b0) : CX G l yX3_repairs (ws_ yX3_repairs cX3_repairs 3 none) 5 (bif rok then 0 else 1) (bif rok then 0 else 7) 109 [.ref b0] (iv b0 43) sz (fun H => rg G b0 43 (shX3 G.2.1) v0 H ∧ GO G H) rok (fun ov H => ov = none ∧ rg G b0 43 (shX3 G.2.1) rw0 H ∧ H.size = sz + rc) (fun q E H => E = "WholePacks$Stuck" ∧ sz ≤ q ∧ (∃ wx, rg G q 1 (shX13 G.2.1) wx H ∧ gI wx 0 6 = re) ∧ rg G b0 43 (shX3 G.2.1) rw0 H ∧ H.size = sz + rc) := by
  refine vx_ofW (cc := cX3_repairs) (maxL := 3) (ret := none) (by decide +kernel) rfl ?_
  intro p e s m args below meth c s₁ B hml ht hv
  obtain ⟨rfl, ⟨hz, hW0, hG⟩, hK⟩ := hv
  subst hz
  have he0 := rg_end hW0 42 (by decide) rfl (fun _ _ _ => rfl)
  have hts := atoms_spec (ws := ws_ yX3_repairs cX3_repairs 3 none) B.pre
  have hts : ∀ w ∈ lw_all, w.before _ s = true := fun w h => hts w (List.mem_cons_of_mem _ h)
  have C : Cx G p s m _ meth c RX3 cX3_repairs 3 none := ⟨B.exec, B.bytes, B.returns, B.notSynchronized, hml, findClass_of_methodNamed B.named, hts, hK⟩
  have hl := lv_entry ([.ref b0]) (n := 3) (Nat.le_of_ble_eq_true rfl)
  rw [lg_entry_eq]
  generalize (lg_sl ([.ref b0]) ++ List.replicate (3 - (lg_sl ([.ref b0])).length) Slot.unset).toArray = ls at hl ⊢
  have hl : lv_has ls 3 [(0, .ref b0)] := hl
  exact w_fX3_repairs C he0 hZ hgb0 ht _ hm s.heap [] ls hW0 va_S.rf rfl hG hl
noncomputable def fX3_isPack (V0 : Mem) (i1 : Int32) : Option (Int32) :=
  if (10 : Int32) ≤ i1 then (
  some (0 : Int32))
  else (
  some (1 : Int32))
set_option maxHeartbeats 4000000 in
theorem w_fX3_isPack (C : Cx G p s m args meth c RX3 cX3_isPack 2 (some .boolean)) {b0 : Nat} {V0 : Mem} {rx : Int32} (hW0 : rg G b0 43 (shX3 G.2.1) V0 s.heap) : ∀ (i1 : Int32), fX3_isPack V0 i1 = some rx → ∀ (ls : Array Slot), lv_has ls 2 [(0, .ref b0), (1, .int i1)] → W p l e (rmP 0 0) s m args below meth c s.heap [] 0 0 (MQ below (QcP (some (.int rx))) args s 0 0 (fun _ => False)) (F0 m 0 ls []) := by
  intro i1 hm ls hl
  obtain ⟨hx, hb, hr, hlk, hml, hown, hts, hK⟩ := id C
  unfold fX3_isPack at hm
  refine lv_iload_n (pc := 0) hx hb dX3_isPack_0 rfl (lv_at hl 1 rfl) ?_
  refine lv_bipush (pc := 1) (v := (10 : Int32)) hx hb dX3_isPack_1 (by decide) ?_
  refine lv_icmp_ge (pc := 3) (tgt := 10) hx hb dX3_isPack_3 (by decide) (fun c1 => ?_) (fun c1 => ?_)
  · have hm := ite_t c1 hm
    refine lv_iconst (pc := 10) (v := (0 : Int32)) hx hb dX3_isPack_10 (by decide) ?_
    have e9 := rs1 hm
    subst e9
    exact rk_zretP (pc := 11) hx hb hr hlk rfl rfl dX3_isPack_11
  · have hm := ite_f c1 hm
    refine lv_iconst (pc := 6) (v := (1 : Int32)) hx hb dX3_isPack_6 (by decide) ?_
    refine lv_goto (pc := 7) (tgt := 11) hx hb dX3_isPack_7 (by decide) ?_
    have e9 := rs1 hm
    subst e9
    exact rk_zretP (pc := 11) hx hb hr hlk rfl rfl dX3_isPack_11
set_option maxHeartbeats 4000000 in
theorem ct_X3_isPack {G : Gv} {l : Launch} {b0 : Nat} {V0 : Mem} {i1 : Int32} {rx : Int32} (hm : fX3_isPack V0 i1 = some rx) : CP G l yX3_isPack (ws_ yX3_isPack cX3_isPack 2 (some .boolean)) 0 0 [.ref b0, .int i1] (fun H => rg G b0 43 (shX3 G.2.1) V0 H) (some (.int rx)) := by
  refine Met.ofW (cc := cX3_isPack) (maxL := 2) (ret := (some .boolean)) (by decide +kernel) rfl ?_
  intro p e s m args below meth c s₁ B hml hv
  obtain ⟨rfl, hW0, hK⟩ := hv
  have hts := atoms_spec (ws := ws_ yX3_isPack cX3_isPack 2 (some .boolean)) B.pre
  have hts : ∀ w ∈ lw_all, w.before _ s = true := fun w h => hts w (List.mem_cons_of_mem _ h)
  have C : Cx G p s m _ meth c RX3 cX3_isPack 2 (some .boolean) := ⟨B.exec, B.bytes, B.returns, B.notSynchronized, hml, findClass_of_methodNamed B.named, hts, hK⟩
  have hl := lv_entry ([.ref b0, .int i1]) (n := 2) (Nat.le_of_ble_eq_true rfl)
  rw [lg_entry_eq]
  generalize (lg_sl ([.ref b0, .int i1]) ++ List.replicate (2 - (lg_sl ([.ref b0, .int i1])).length) Slot.unset).toArray = ls at hl ⊢
  have hl : lv_has ls 2 [(0, .ref b0), (1, .int i1)] := hl
  exact w_fX3_isPack C hW0 _ hm ls hl
theorem yn_X3_isPack : YN yX3_isPack 1 := by
  unfold YN
  decide +kernel
theorem lkX3_129 : LV RX3 129 RX3 yX3_isPack cX3_isPack 2 (some .boolean) := ⟨q855, q857, qs19, q117, q858⟩
noncomputable def fX3_brokenRow_2 (V0 : Mem) (k2 : Int32 → Option (Int32)) (i1 : Int32) : Option (Int32) :=
  if (gI V0 0 1) ≤ i1 then (
  some (-1 : Int32))
  else (
  gb (inR i1 30) (
  ob (fX3_isPack V0 (gI V0 4 i1.toNatClampNeg)) fun r3 =>
  if r3 = 0 then (
  k2 (i1 + (1 : Int32)))
  else (
  gb (inR i1 30) (
  gb (nz64 (gL V0 0 4)) (
  if ((gL V0 2 i1.toNatClampNeg) - (gL V0 2 i1.toNatClampNeg) / (gL V0 0 4) * (gL V0 0 4)) = (0 : Int64) then (
  k2 (i1 + (1 : Int32)))
  else (
  some i1))))))
noncomputable def fX3_brokenRow (V0 : Mem) : Option (Int32) :=
  lq1 (fX3_brokenRow_2 V0) FU (0 : Int32)
set_option maxHeartbeats 4000000 in
theorem w_fX3_brokenRow_2 (C : Cx G p s m args meth c RX3 cX3_brokenRow 2 (some .int)) {b0 : Nat} {V0 : Mem} {rx : Int32} (hW0 : rg G b0 43 (shX3 G.2.1) V0 s.heap) {k2 : Int32 → Option (Int32)} (hk2 : ∀ (i1 : Int32), k2 i1 = some rx → ∀ (ls : Array Slot), lv_has ls 2 [(0, .ref b0), (1, .int i1)] → W p l e (rmP 1 21) s m args below meth c s.heap [] 0 0 (MQ below (QcP (some (.int rx))) args s 0 0 (fun _ => False)) (F0 m 2 ls [])) : ∀ (i1 : Int32), fX3_brokenRow_2 V0 k2 i1 = some rx → ∀ (ls : Array Slot), lv_has ls 2 [(0, .ref b0), (1, .int i1)] → W p l e (rmP 1 21) s m args below meth c s.heap [] 0 0 (MQ below (QcP (some (.int rx))) args s 0 0 (fun _ => False)) (F0 m 2 ls []) := by
  intro i1 hm ls hl
  obtain ⟨hx, hb, hr, hlk, hml, hown, hts, hK⟩ := id C
  unfold fX3_brokenRow_2 at hm
  refine lv_iload_n (pc := 2) hx hb dX3_brokenRow_2 rfl (lv_at hl 1 rfl) ?_
  refine lv_aload_n (pc := 3) hx hb dX3_brokenRow_3 rfl (lv_at hl 0 rfl) ?_
  refine rk_get (pc := 4) hx hb hts hown hK hW0 flX3_35 0 (by decide) rfl rfl (x := .int (gI V0 0 1)) rfl dX3_brokenRow_4 ?_
  refine lv_icmp_ge (pc := 7) (tgt := 47) hx hb dX3_brokenRow_7 (by decide) (fun c1 => ?_) (fun c1 => ?_)
  · have hm := ite_t c1 hm
    refine lv_iconst (pc := 47) (v := (-1 : Int32)) hx hb dX3_brokenRow_47 (by decide) ?_
    have e9 := rs1 hm
    subst e9
    exact rk_iretP (pc := 48) hx hb hr hlk rfl dX3_brokenRow_48
  · have hm := ite_f c1 hm
    refine lv_aload_n (pc := 10) hx hb dX3_brokenRow_10 rfl (lv_at hl 0 rfl) ?_
    refine lv_aload_n (pc := 11) hx hb dX3_brokenRow_11 rfl (lv_at hl 0 rfl) ?_
    refine rk_get (pc := 12) hx hb hts hown hK hW0 flX3_21 0 (by decide) rfl rfl (x := .ref (b0 + 4)) (by first | rfl | exact congrArg (fun z => some (Value.ref z)) (by omega)) dX3_brokenRow_12 ?_
    refine lv_iload_n (pc := 15) hx hb dX3_brokenRow_15 rfl (lv_at hl 1 rfl) ?_
    obtain ⟨hg2, hm⟩ := gb_some hm
    refine rk_iald (pc := 16) hx hb hK hW0 4 (by decide) rfl rfl hg2 (x := (gI V0 4 i1.toNatClampNeg)) rfl dX3_brokenRow_16 ?_
    obtain ⟨r3, hq4, hm⟩ := ob_some hm
    refine rk_PV (pc := 17) (As := [.int (gI V0 4 i1.toNatClampNeg)]) (rest := []) hx hb hml hown hts hK lkX3_129 rfl yn_X3_isPack (ct_X3_isPack (G := G) (l := l) (b0 := b0) hq4) ⟨Nat.le_of_ble_eq_true rfl, Nat.le_of_ble_eq_true rfl⟩ (rk_recv hK hW0 0 (by decide) rfl rfl rfl) hW0 rfl rfl hl.1 (Nat.le_of_ble_eq_true rfl) dX3_brokenRow_17 ⟨Nat.zero_le _, Nat.zero_le _⟩ ?_
    refine W.eq (g2 := F0 m 20 ls [.int r3]) rfl ?_
    refine lv_if_eq (pc := 20) (tgt := 41) hx hb dX3_brokenRow_20 (by decide) (fun c5 => ?_) (fun c5 => ?_)
    · have hm := ite_t c5 hm
      refine lv_iinc (pc := 41) (v := (i1 + (1 : Int32))) (lv' := [(1, .int (i1 + (1 : Int32))), (0, .ref b0)]) hx hb dX3_brokenRow_41 hl (k := 1) rfl rfl (by decide) rfl (fun ls hl => ?_)
      refine lv_goto (pc := 44) (tgt := 2) hx hb dX3_brokenRow_44 (by decide) ?_
      exact hk2 (i1 + (1 : Int32)) hm ls (lv_sub hl [1, 0] rfl)
    · have hm := ite_f c5 hm
      refine lv_aload_n (pc := 23) hx hb dX3_brokenRow_23 rfl (lv_at hl 0 rfl) ?_
      refine rk_get (pc := 24) hx hb hts hown hK hW0 flX3_15 0 (by decide) rfl rfl (x := .ref (b0 + 2)) (by first | rfl | exact congrArg (fun z => some (Value.ref z)) (by omega)) dX3_brokenRow_24 ?_
      refine lv_iload_n (pc := 27) hx hb dX3_brokenRow_27 rfl (lv_at hl 1 rfl) ?_
      obtain ⟨hg6, hm⟩ := gb_some hm
      refine rk_lald (pc := 28) hx hb hK hW0 2 (by decide) rfl rfl hg6 (x := (gL V0 2 i1.toNatClampNeg)) rfl dX3_brokenRow_28 ?_
      refine lv_aload_n (pc := 29) hx hb dX3_brokenRow_29 rfl (lv_at hl 0 rfl) ?_
      refine rk_get (pc := 30) hx hb hts hown hK hW0 flX3_51 0 (by decide) rfl rfl (x := .long (gL V0 0 4)) rfl dX3_brokenRow_30 ?_
      obtain ⟨hg7, hm⟩ := gb_some hm
      refine lv_lrem (pc := 33) hx hb dX3_brokenRow_33 (nz64_ne hg7) ?_
      refine lv_lconst (pc := 34) (v := (0 : Int64)) hx hb dX3_brokenRow_34 (by decide) ?_
      refine rk_lcmp_eq (pc := 35) (tgt := 41) hx hb dX3_brokenRow_35 rfl dX3_brokenRow_36 (by decide) (fun c8 => ?_) (fun c8 => ?_)
      · have hm := ite_t c8 hm
        refine lv_iinc (pc := 41) (v := (i1 + (1 : Int32))) (lv' := [(1, .int (i1 + (1 : Int32))), (0, .ref b0)]) hx hb dX3_brokenRow_41 hl (k := 1) rfl rfl (by decide) rfl (fun ls hl => ?_)
        refine lv_goto (pc := 44) (tgt := 2) hx hb dX3_brokenRow_44 (by decide) ?_
        exact hk2 (i1 + (1 : Int32)) hm ls (lv_sub hl [1, 0] rfl)
      · have hm := ite_f c8 hm
        refine lv_iload_n (pc := 39) hx hb dX3_brokenRow_39 rfl (lv_at hl 1 rfl) ?_
        have e9 := rs1 hm
        subst e9
        exact rk_iretP (pc := 40) hx hb hr hlk rfl dX3_brokenRow_40
theorem w_fX3_brokenRow_2_l (C : Cx G p s m args meth c RX3 cX3_brokenRow 2 (some .int)) {b0 : Nat} {V0 : Mem} {rx : Int32} (hW0 : rg G b0 43 (shX3 G.2.1) V0 s.heap) : ∀ (n : Nat) (i1 : Int32), lq1 (fX3_brokenRow_2 V0) n i1 = some rx → ∀ (ls : Array Slot), lv_has ls 2 [(0, .ref b0), (1, .int i1)] → W p l e (rmP 1 21) s m args below meth c s.heap [] 0 0 (MQ below (QcP (some (.int rx))) args s 0 0 (fun _ => False)) (F0 m 2 ls []) := by
  intro n
  induction n with
  | zero => intro i1 hm; exact (lq1_0 hm).elim
  | succ n ih => intro i1 hm; exact w_fX3_brokenRow_2 C hW0 ih i1 (lq1_s hm)
set_option maxHeartbeats 4000000 in
theorem w_fX3_brokenRow (C : Cx G p s m args meth c RX3 cX3_brokenRow 2 (some .int)) {b0 : Nat} {V0 : Mem} {rx : Int32} (hW0 : rg G b0 43 (shX3 G.2.1) V0 s.heap) : fX3_brokenRow V0 = some rx → ∀ (ls : Array Slot), lv_has ls 2 [(0, .ref b0)] → W p l e (rmP 1 21) s m args below meth c s.heap [] 0 0 (MQ below (QcP (some (.int rx))) args s 0 0 (fun _ => False)) (F0 m 0 ls []) := by
  intro hm ls hl
  obtain ⟨hx, hb, hr, hlk, hml, hown, hts, hK⟩ := id C
  unfold fX3_brokenRow at hm
  refine lv_iconst (pc := 0) (v := (0 : Int32)) hx hb dX3_brokenRow_0 (by decide) ?_
  refine lv_istore_n (pc := 1) (lv' := [(1, .int (0 : Int32)), (0, .ref b0)]) hx hb dX3_brokenRow_1 rfl hl (by decide) rfl (fun ls hl => ?_)
  exact (w_fX3_brokenRow_2_l C hW0 FU) (0 : Int32) hm ls (lv_sub hl [1, 0] rfl)
set_option maxHeartbeats 4000000 in
theorem ct_X3_brokenRow {G : Gv} {l : Launch} {b0 : Nat} {V0 : Mem} {rx : Int32} (hm : fX3_brokenRow V0  = some rx) : CP G l yX3_brokenRow (ws_ yX3_brokenRow cX3_brokenRow 2 (some .int)) 1 21 [.ref b0] (fun H => rg G b0 43 (shX3 G.2.1) V0 H) (some (.int rx)) := by
  refine Met.ofW (cc := cX3_brokenRow) (maxL := 2) (ret := (some .int)) (by decide +kernel) rfl ?_
  intro p e s m args below meth c s₁ B hml hv
  obtain ⟨rfl, hW0, hK⟩ := hv
  have hts := atoms_spec (ws := ws_ yX3_brokenRow cX3_brokenRow 2 (some .int)) B.pre
  have hts : ∀ w ∈ lw_all, w.before _ s = true := fun w h => hts w (List.mem_cons_of_mem _ h)
  have C : Cx G p s m _ meth c RX3 cX3_brokenRow 2 (some .int) := ⟨B.exec, B.bytes, B.returns, B.notSynchronized, hml, findClass_of_methodNamed B.named, hts, hK⟩
  have hl := lv_entry ([.ref b0]) (n := 2) (Nat.le_of_ble_eq_true rfl)
  rw [lg_entry_eq]
  generalize (lg_sl ([.ref b0]) ++ List.replicate (2 - (lg_sl ([.ref b0])).length) Slot.unset).toArray = ls at hl ⊢
  have hl : lv_has ls 2 [(0, .ref b0)] := hl
  exact w_fX3_brokenRow C hW0  hm ls hl
theorem yn_X4_gets : YN yX4_gets 3 := by
  unfold YN
  decide +kernel
theorem lkX3_133 : LV RX3 133 RX4 yX4_gets cX4_gets 6 none := ⟨q867, q868, q869, q118, q870⟩
theorem flX3_30 : FL RX3 30 3 11 RX3 TX3 12 := ⟨in_X3, rfl, by decide, q297⟩
theorem fnX3_139 : FN RX3 139 4 1 RX4 TX4 4 "WholePacks" := ⟨in_X4, rfl, by decide, q257⟩
theorem fnX3_137 : FN RX3 137 4 0 RX4 TX4 4 "WholePacks" := ⟨in_X4, rfl, by decide, q254⟩
noncomputable def fX3_tells_73c (V1 : Mem) (n1 : Nat) (k73 : Mem → Int64 → Int32 → Nat → Int32 → Option (Mem)) (v0 : Mem) (j3 : Int64) (i6 : Int32) (n8 : Nat) (i9 : Int32) : Option (Mem) :=
  if (gI v0 0 0) ≤ i9 then (
  if i6 = 0 then (
  lm (sL v0 (7 + 3 * n1 + 0) 1 ((gL v0 (7 + 3 * n1 + 0) 1) - (j3 * (gL v0 (7 + 3 * n8 + 0) 1)))) fun v0_113 =>
  some v0_113)
  else (
  none))
  else (
  if i6 = 0 then (
  gb (inR i9 5) (
  ob (fX4_gets (shf v0 (7 + 3 * n1)) (-j3) i9 (gL v0 (7 + 3 * n8 + 1) i9.toNatClampNeg)) fun w124 =>
  lm (ptm v0 (7 + 3 * n1) 3 w124) fun v0_135 =>
  k73 v0_135 j3 i6 n8 (i9 + (1 : Int32))))
  else (
  none))
noncomputable def fX3_tells_73d (V1 : Mem) (n1 : Nat) (k73 : Mem → Int64 → Int32 → Int32 → Option (Mem)) (v0 : Mem) (j3 : Int64) (i6 : Int32) (i9 : Int32) : Option (Mem) :=
  if (gI v0 0 0) ≤ i9 then (
  if i6 = 0 then (
  none)
  else (
  none))
  else (
  if i6 = 0 then (
  none)
  else (
  none))
noncomputable def fX3_tells_48 (V1 : Mem) (n1 : Nat) (v0 : Mem) (i2 : Int32) (j3 : Int64) (i6 : Int32) : Option (Mem) :=
  if i6 = 0 then (
  gb (inR (i2 - (20 : Int32)) 12) (
  lq5 (fX3_tells_73c V1 n1) FU v0 j3 i6 (i2 - (20 : Int32)).toNatClampNeg (0 : Int32)))
  else (
  lq4 (fX3_tells_73d V1 n1) FU v0 j3 i6 (0 : Int32))
noncomputable def fX3_tells_73 (V1 : Mem) (n1 : Nat) (k73 : Mem → Int64 → Int32 → Nat → Nat → Int32 → Option (Mem)) (v0 : Mem) (j3 : Int64) (i6 : Int32) (n7 : Nat) (n8 : Nat) (i9 : Int32) : Option (Mem) :=
  if (gI v0 0 0) ≤ i9 then (
  if i6 = 0 then (
  lm (sL v0 (7 + 3 * n1 + 0) 1 ((gL v0 (7 + 3 * n1 + 0) 1) - (j3 * (gL v0 (7 + 3 * n8 + 0) 1)))) fun v0_55 =>
  some v0_55)
  else (
  ob (fX2_limit (shf V1 (6 + 2 * n7))) fun r64 =>
  lm (sL v0 (7 + 3 * n1 + 0) 1 ((gL v0 (7 + 3 * n1 + 0) 1) - (j3 * r64))) fun v0_66 =>
  some v0_66))
  else (
  if i6 = 0 then (
  gb (inR i9 5) (
  ob (fX4_gets (shf v0 (7 + 3 * n1)) (-j3) i9 (gL v0 (7 + 3 * n8 + 1) i9.toNatClampNeg)) fun w77 =>
  lm (ptm v0 (7 + 3 * n1) 3 w77) fun v0_88 =>
  k73 v0_88 j3 i6 n7 n8 (i9 + (1 : Int32))))
  else (
  ob (fX2_points (shf V1 (6 + 2 * n7)) i9) fun r90 =>
  ob (fX4_gets (shf v0 (7 + 3 * n1)) (-j3) i9 r90) fun w92 =>
  lm (ptm v0 (7 + 3 * n1) 3 w92) fun v0_103 =>
  k73 v0_103 j3 i6 n7 n8 (i9 + (1 : Int32))))
noncomputable def fX3_tells_73b (V1 : Mem) (n1 : Nat) (k73 : Mem → Int64 → Int32 → Nat → Int32 → Option (Mem)) (v0 : Mem) (j3 : Int64) (i6 : Int32) (n7 : Nat) (i9 : Int32) : Option (Mem) :=
  if (gI v0 0 0) ≤ i9 then (
  if i6 = 0 then (
  none)
  else (
  ob (fX2_limit (shf V1 (6 + 2 * n7))) fun r26 =>
  lm (sL v0 (7 + 3 * n1 + 0) 1 ((gL v0 (7 + 3 * n1 + 0) 1) - (j3 * r26))) fun v0_28 =>
  some v0_28))
  else (
  if i6 = 0 then (
  none)
  else (
  ob (fX2_points (shf V1 (6 + 2 * n7)) i9) fun r38 =>
  ob (fX4_gets (shf v0 (7 + 3 * n1)) (-j3) i9 r38) fun w40 =>
  lm (ptm v0 (7 + 3 * n1) 3 w40) fun v0_51 =>
  k73 v0_51 j3 i6 n7 (i9 + (1 : Int32))))
noncomputable def fX3_tells_48b (V1 : Mem) (n1 : Nat) (v0 : Mem) (i2 : Int32) (j3 : Int64) (i6 : Int32) (ns0 : Nat) : Option (Mem) :=
  if i6 = 0 then (
  gb (inR (i2 - (20 : Int32)) 12) (
  lq6 (fX3_tells_73 V1 n1) FU v0 j3 i6 ns0 (i2 - (20 : Int32)).toNatClampNeg (0 : Int32)))
  else (
  lq5 (fX3_tells_73b V1 n1) FU v0 j3 i6 ns0 (0 : Int32))
noncomputable def fX3_tells_27 (V1 : Mem) (n1 : Nat) (v0 : Mem) (i2 : Int32) (j3 : Int64) (t0 : Int32) : Option (Mem) :=
  if t0 = 0 then (
  fX3_tells_48 V1 n1 v0 i2 j3 t0)
  else (
  gb (inR (i2 - (10 : Int32)) 8) (
  fX3_tells_48b V1 n1 v0 i2 j3 t0 (i2 - (10 : Int32)).toNatClampNeg))
noncomputable def fX3_tells (V1 : Mem) (n1 : Nat) (v0 : Mem) (i2 : Int32) (j3 : Int64) : Option (Mem) :=
  ob (fX3_isPack v0 i2) fun r1 =>
  if r1 = 0 then (
  if (20 : Int32) ≤ i2 then (
  fX3_tells_27 V1 n1 v0 i2 j3 (0 : Int32))
  else (
  fX3_tells_27 V1 n1 v0 i2 j3 (1 : Int32)))
  else (
  ob (fX4_gets (shf v0 (7 + 3 * n1)) j3 i2 (1 : Int64)) fun w5 =>
  lm (ptm v0 (7 + 3 * n1) 3 w5) fun v0_16 =>
  some v0_16)
set_option maxHeartbeats 4000000 in
theorem w_fX3_tells_73c (C : Cx G p s m args meth c RX3 cX3_tells 10 none) {b0 : Nat} {b1 : Nat} {V1 : Mem} {n1 : Nat} {rw0 : Mem} (hd01 : b0 + 43 ≤ b1 ∨ b1 + 22 ≤ b0) (hn1 : n1 < 12) {k73 : Mem → Int64 → Int32 → Nat → Int32 → Option (Mem)} (hk73 : ∀ (v0 : Mem) (j3 : Int64) (i6 : Int32) (n8 : Nat) (i9 : Int32), k73 v0 j3 i6 n8 i9 = some rw0 → (hn_n8 : n8 < 12) → ∀ (H : Heap) (locs : List Loc) (ls : Array Slot), rg G b0 43 (shX3 G.2.1) v0 H → rg G b1 22 (shX1 G.2.1) V1 H → va_S (FA (iv b0 43) s.heap.size) s.heap H locs → H.size = s.heap.size → lv_has ls 10 [(0, .ref b0), (1, .ref (b0 + (7 + 3 * n1 + 0))), (3, .long j3), (6, .int i6), (7, .null), (8, .ref (b0 + (7 + 3 * n8 + 0))), (9, .int i9)] → W p l e (rmT 1 0 0 25) s m args below meth c H locs 0 0 (MQ below (QcT (FA (iv b0 43) s.heap.size) (fun ov H => ov = none ∧ rg G b0 43 (shX3 G.2.1) rw0 H ∧ H.size = s.heap.size)) args s 0 0 (FA (iv b0 43) s.heap.size)) (F0 m 73 ls [])) : ∀ (v0 : Mem) (j3 : Int64) (i6 : Int32) (n8 : Nat) (i9 : Int32), fX3_tells_73c V1 n1 k73 v0 j3 i6 n8 i9 = some rw0 → (hn_n8 : n8 < 12) → ∀ (H : Heap) (locs : List Loc) (ls : Array Slot), rg G b0 43 (shX3 G.2.1) v0 H → rg G b1 22 (shX1 G.2.1) V1 H → va_S (FA (iv b0 43) s.heap.size) s.heap H locs → H.size = s.heap.size → lv_has ls 10 [(0, .ref b0), (1, .ref (b0 + (7 + 3 * n1 + 0))), (3, .long j3), (6, .int i6), (7, .null), (8, .ref (b0 + (7 + 3 * n8 + 0))), (9, .int i9)] → W p l e (rmT 1 0 0 25) s m args below meth c H locs 0 0 (MQ below (QcT (FA (iv b0 43) s.heap.size) (fun ov H => ov = none ∧ rg G b0 43 (shX3 G.2.1) rw0 H ∧ H.size = s.heap.size)) args s 0 0 (FA (iv b0 43) s.heap.size)) (F0 m 73 ls []) := by
  intro v0 j3 i6 n8 i9 hm hn_n8 H locs ls hW0 hW1 hS hz hl
  obtain ⟨hx, hb, hr, hlk, hml, hown, hts, hK⟩ := id C
  unfold fX3_tells_73c at hm
  refine lv_iload (pc := 73) hx hb dX3_tells_73 (lv_at hl 6 rfl) ?_
  refine lv_aload_n (pc := 75) hx hb dX3_tells_75 rfl (lv_at hl 0 rfl) ?_
  refine rk_get (pc := 76) hx hb hts hown hK hW0 flX3_44 0 (by decide) rfl rfl (x := .int (gI v0 0 0)) rfl dX3_tells_76 ?_
  refine lv_icmp_ge (pc := 79) (tgt := 119) hx hb dX3_tells_79 (by decide) (fun c111 => ?_) (fun c111 => ?_)
  · have hm := ite_t c111 hm
    refine lv_aload_n (pc := 119) hx hb dX3_tells_119 rfl (lv_at hl 1 rfl) ?_
    refine lv_dup (pc := 120) hx hb dX3_tells_120 rfl ?_
    refine rk_getN (pc := 121) hx hb hts hown hK hW0 fnX3_139 (7 + 3 * n1 + 0) (by omega) rfl ((shX3_f7 G.2.1 hn1 _ rfl 0 (by decide) _ _ _).trans rfl) (x := .long (gL v0 (7 + 3 * n1 + 0) 1)) rfl dX3_tells_121 ?_
    refine lv_lload_n (pc := 124) hx hb dX3_tells_124 rfl (lv_at hl 2 rfl) ?_
    refine lv_iload (pc := 125) hx hb dX3_tells_125 (lv_at hl 3 rfl) ?_
    refine lv_if_eq (pc := 127) (tgt := 138) hx hb dX3_tells_127 (by decide) (fun c112 => ?_) (fun c112 => ?_)
    · have hm := ite_t c112 hm
      refine lv_aload (pc := 138) hx hb dX3_tells_138 (lv_at hl 5 rfl) ?_
      refine rk_getN (pc := 140) hx hb hts hown hK hW0 fnX3_139 (7 + 3 * n8 + 0) (by omega) rfl ((shX3_f7 G.2.1 hn_n8 _ rfl 0 (by decide) _ _ _).trans rfl) (x := .long (gL v0 (7 + 3 * n8 + 0) 1)) rfl dX3_tells_140 ?_
      refine lv_lmul (pc := 143) hx hb dX3_tells_143 ?_
      refine lv_lsub (pc := 144) hx hb dX3_tells_144 ?_
      refine rk_putN (pc := 145) hx hb hts hown hK hW0 hS fnX3_139 ft_X4 (7 + 3 * n1 + 0) (by omega) rfl (Or.inl (show iv _ _ _ from ⟨by omega, by omega⟩)) ((shX3_f7 G.2.1 hn1 _ rfl 0 (by decide) _ _ _).trans rfl) rfl (x := .long ((gL v0 (7 + 3 * n1 + 0) 1) - (j3 * (gL v0 (7 + 3 * n8 + 0) 1)))) rfl rfl (Nat.le_of_ble_eq_true rfl) (sL v0 (7 + 3 * n1 + 0) 1 ((gL v0 (7 + 3 * n1 + 0) 1) - (j3 * (gL v0 (7 + 3 * n8 + 0) 1)))) sL_ne (by rw [sL_eq]; exact ((shX3_f7 G.2.1 hn1 _ rfl 0 (by decide) _ _ _).trans rfl)) dX3_tells_145 (fun H114 locs115 hW116 hS117 hz118 hkp119 => ?_)
      obtain ⟨v0_113, he9, hm⟩ := lm_some hm
      rw [he9] at hW116
      have hW120 := rg_keepq hW1 hkp119 (by omega)
      have hz121 := hz118.trans hz
      have e9 := rs1 hm
      subst e9
      exact rk_vret (pc := 148) hx hb hr hlk hS117 ⟨rfl, hW116, hz121⟩ dX3_tells_148
    · have hm := ite_f c112 hm
      refine lv_aloadN (pc := 130) hx hb dX3_tells_130 (lv_at hl 4 rfl) ?_
      exact nomatch hm
  · have hm := ite_f c111 hm
    refine lv_aload_n (pc := 82) hx hb dX3_tells_82 rfl (lv_at hl 1 rfl) ?_
    refine lv_lload_n (pc := 83) hx hb dX3_tells_83 rfl (lv_at hl 2 rfl) ?_
    refine lv_lneg (pc := 84) hx hb dX3_tells_84 ?_
    refine lv_iload (pc := 85) hx hb dX3_tells_85 (lv_at hl 6 rfl) ?_
    refine lv_iload (pc := 87) hx hb dX3_tells_87 (lv_at hl 3 rfl) ?_
    refine lv_if_eq (pc := 89) (tgt := 102) hx hb dX3_tells_89 (by decide) (fun c122 => ?_) (fun c122 => ?_)
    · have hm := ite_t c122 hm
      refine lv_aload (pc := 102) hx hb dX3_tells_102 (lv_at hl 5 rfl) ?_
      refine rk_getN (pc := 104) hx hb hts hown hK hW0 fnX3_137 (7 + 3 * n8 + 0) (by omega) rfl ((shX3_f7 G.2.1 hn_n8 _ rfl 0 (by decide) _ _ _).trans rfl) (x := .ref (b0 + (7 + 3 * n8 + 1))) (by first | rfl | exact congrArg (fun z => some (Value.ref z)) (by omega)) dX3_tells_104 ?_
      refine lv_iload (pc := 107) hx hb dX3_tells_107 (lv_at hl 6 rfl) ?_
      obtain ⟨hg123, hm⟩ := gb_some hm
      refine rk_lald (pc := 109) hx hb hK hW0 (7 + 3 * n8 + 1) (by omega) rfl ((shX3_f7 G.2.1 hn_n8 _ rfl 1 (by decide) _ _ _).trans rfl) hg123 (x := (gL v0 (7 + 3 * n8 + 1) i9.toNatClampNeg)) rfl dX3_tells_109 ?_
      obtain ⟨w124, hq125, hm⟩ := ob_some hm
      refine rk_TV (pc := 110) (As := [.long (-j3), .int i9, .long (gL v0 (7 + 3 * n8 + 1) i9.toNatClampNeg)]) (rest := []) (mc := 0) (ms := 0) hx hb hml hown hts hK hS (fun q hq => FA_sz rfl q hq) lkX3_133 rfl yn_X4_gets (ct_X4_gets (G := G) (l := l) (b0 := (b0 + (7 + 3 * n1 + 0))) (sz := H.size) hq125) ⟨Nat.le_of_ble_eq_true rfl, Nat.le_of_ble_eq_true rfl⟩ (fun z h => Or.inl (show iv _ _ _ from ⟨by have h8 := h.1; have h9 := h.2; omega, by have h8 := h.1; have h9 := h.2; omega⟩)) (rk_recv hK hW0 (7 + 3 * n1 + 0) (by omega) rfl rfl ((shX3_f7 G.2.1 hn1 _ rfl 0 (by decide) _ _ _).trans rfl)) (rg_sub (d := (7 + 3 * n1)) hW0 rfl (by omega) (fun o ho x y z => shX3_f7 G.2.1 hn1 _ rfl o ho x y z)) rfl rfl hl.1 (Nat.le_of_ble_eq_true rfl) dX3_tells_110 ⟨Nat.zero_le _, Nat.zero_le _⟩ (fun ov9 H126 locs127 hP128 hkp129 hS130 => ?_)
      obtain ⟨rfl, hW131, hz132⟩ := hP128
      have hW133 := rg_keepA hW1 hkp129 (by intro z h1 h2 h3; have h8 := h3.1; have h9 := h3.2; omega)
      have hW134 := rg_put (d := (7 + 3 * n1)) hW0 hW131 rfl (fun o ho x y z => shX3_f7 G.2.1 hn1 _ rfl o ho x y z) hkp129
      obtain ⟨v0_135, he9, hm⟩ := lm_some hm
      rw [he9] at hW134
      have hz136 := hz132.trans hz
      refine W.eq (g2 := F0 m 113 ls []) rfl ?_
      refine lv_iinc (pc := 113) (v := (i9 + (1 : Int32))) (lv' := [(9, .int (i9 + (1 : Int32))), (0, .ref b0), (1, .ref (b0 + (7 + 3 * n1 + 0))), (3, .long j3), (6, .int i6), (7, .null), (8, .ref (b0 + (7 + 3 * n8 + 0)))]) hx hb dX3_tells_113 hl (k := 6) rfl rfl (by decide) rfl (fun ls hl => ?_)
      refine lv_goto (pc := 116) (tgt := 73) hx hb dX3_tells_116 (by decide) ?_
      exact hk73 v0_135 j3 i6 n8 (i9 + (1 : Int32)) hm hn_n8 H126 locs127 ls hW134 hW133 hS130 hz136 (lv_sub hl [1, 2, 3, 4, 5, 6, 0] rfl)
    · have hm := ite_f c122 hm
      refine lv_aloadN (pc := 92) hx hb dX3_tells_92 (lv_at hl 4 rfl) ?_
      refine lv_iload (pc := 94) hx hb dX3_tells_94 (lv_at hl 6 rfl) ?_
      exact nomatch hm
theorem w_fX3_tells_73c_l (C : Cx G p s m args meth c RX3 cX3_tells 10 none) {b0 : Nat} {b1 : Nat} {V1 : Mem} {n1 : Nat} {rw0 : Mem} (hd01 : b0 + 43 ≤ b1 ∨ b1 + 22 ≤ b0) (hn1 : n1 < 12) : ∀ (n : Nat) (v0 : Mem) (j3 : Int64) (i6 : Int32) (n8 : Nat) (i9 : Int32), lq5 (fX3_tells_73c V1 n1) n v0 j3 i6 n8 i9 = some rw0 → (hn_n8 : n8 < 12) → ∀ (H : Heap) (locs : List Loc) (ls : Array Slot), rg G b0 43 (shX3 G.2.1) v0 H → rg G b1 22 (shX1 G.2.1) V1 H → va_S (FA (iv b0 43) s.heap.size) s.heap H locs → H.size = s.heap.size → lv_has ls 10 [(0, .ref b0), (1, .ref (b0 + (7 + 3 * n1 + 0))), (3, .long j3), (6, .int i6), (7, .null), (8, .ref (b0 + (7 + 3 * n8 + 0))), (9, .int i9)] → W p l e (rmT 1 0 0 25) s m args below meth c H locs 0 0 (MQ below (QcT (FA (iv b0 43) s.heap.size) (fun ov H => ov = none ∧ rg G b0 43 (shX3 G.2.1) rw0 H ∧ H.size = s.heap.size)) args s 0 0 (FA (iv b0 43) s.heap.size)) (F0 m 73 ls []) := by
  intro n
  induction n with
  | zero => intro v0 j3 i6 n8 i9 hm; exact (lq5_0 hm).elim
  | succ n ih => intro v0 j3 i6 n8 i9 hm; exact w_fX3_tells_73c C hd01 hn1 ih v0 j3 i6 n8 i9 (lq5_s hm)
set_option maxHeartbeats 4000000 in
theorem w_fX3_tells_73d (C : Cx G p s m args meth c RX3 cX3_tells 10 none) {b0 : Nat} {b1 : Nat} {V1 : Mem} {n1 : Nat} {rw0 : Mem} (hd01 : b0 + 43 ≤ b1 ∨ b1 + 22 ≤ b0) (hn1 : n1 < 12) {k73 : Mem → Int64 → Int32 → Int32 → Option (Mem)} (hk73 : ∀ (v0 : Mem) (j3 : Int64) (i6 : Int32) (i9 : Int32), k73 v0 j3 i6 i9 = some rw0 → ∀ (H : Heap) (locs : List Loc) (ls : Array Slot), rg G b0 43 (shX3 G.2.1) v0 H → rg G b1 22 (shX1 G.2.1) V1 H → va_S (FA (iv b0 43) s.heap.size) s.heap H locs → H.size = s.heap.size → lv_has ls 10 [(0, .ref b0), (1, .ref (b0 + (7 + 3 * n1 + 0))), (3, .long j3), (6, .int i6), (7, .null), (8, .null), (9, .int i9)] → W p l e (rmT 1 0 0 25) s m args below meth c H locs 0 0 (MQ below (QcT (FA (iv b0 43) s.heap.size) (fun ov H => ov = none ∧ rg G b0 43 (shX3 G.2.1) rw0 H ∧ H.size = s.heap.size)) args s 0 0 (FA (iv b0 43) s.heap.size)) (F0 m 73 ls [])) : ∀ (v0 : Mem) (j3 : Int64) (i6 : Int32) (i9 : Int32), fX3_tells_73d V1 n1 k73 v0 j3 i6 i9 = some rw0 → ∀ (H : Heap) (locs : List Loc) (ls : Array Slot), rg G b0 43 (shX3 G.2.1) v0 H → rg G b1 22 (shX1 G.2.1) V1 H → va_S (FA (iv b0 43) s.heap.size) s.heap H locs → H.size = s.heap.size → lv_has ls 10 [(0, .ref b0), (1, .ref (b0 + (7 + 3 * n1 + 0))), (3, .long j3), (6, .int i6), (7, .null), (8, .null), (9, .int i9)] → W p l e (rmT 1 0 0 25) s m args below meth c H locs 0 0 (MQ below (QcT (FA (iv b0 43) s.heap.size) (fun ov H => ov = none ∧ rg G b0 43 (shX3 G.2.1) rw0 H ∧ H.size = s.heap.size)) args s 0 0 (FA (iv b0 43) s.heap.size)) (F0 m 73 ls []) := by
  intro v0 j3 i6 i9 hm H locs ls hW0 hW1 hS hz hl
  obtain ⟨hx, hb, hr, hlk, hml, hown, hts, hK⟩ := id C
  unfold fX3_tells_73d at hm
  refine lv_iload (pc := 73) hx hb dX3_tells_73 (lv_at hl 6 rfl) ?_
  refine lv_aload_n (pc := 75) hx hb dX3_tells_75 rfl (lv_at hl 0 rfl) ?_
  refine rk_get (pc := 76) hx hb hts hown hK hW0 flX3_44 0 (by decide) rfl rfl (x := .int (gI v0 0 0)) rfl dX3_tells_76 ?_
  refine lv_icmp_ge (pc := 79) (tgt := 119) hx hb dX3_tells_79 (by decide) (fun c108 => ?_) (fun c108 => ?_)
  · have hm := ite_t c108 hm
    refine lv_aload_n (pc := 119) hx hb dX3_tells_119 rfl (lv_at hl 1 rfl) ?_
    refine lv_dup (pc := 120) hx hb dX3_tells_120 rfl ?_
    refine rk_getN (pc := 121) hx hb hts hown hK hW0 fnX3_139 (7 + 3 * n1 + 0) (by omega) rfl ((shX3_f7 G.2.1 hn1 _ rfl 0 (by decide) _ _ _).trans rfl) (x := .long (gL v0 (7 + 3 * n1 + 0) 1)) rfl dX3_tells_121 ?_
    refine lv_lload_n (pc := 124) hx hb dX3_tells_124 rfl (lv_at hl 2 rfl) ?_
    refine lv_iload (pc := 125) hx hb dX3_tells_125 (lv_at hl 3 rfl) ?_
    refine lv_if_eq (pc := 127) (tgt := 138) hx hb dX3_tells_127 (by decide) (fun c109 => ?_) (fun c109 => ?_)
    · have hm := ite_t c109 hm
      refine lv_aloadN (pc := 138) hx hb dX3_tells_138 (lv_at hl 5 rfl) ?_
      exact nomatch hm
    · have hm := ite_f c109 hm
      refine lv_aloadN (pc := 130) hx hb dX3_tells_130 (lv_at hl 4 rfl) ?_
      exact nomatch hm
  · have hm := ite_f c108 hm
    refine lv_aload_n (pc := 82) hx hb dX3_tells_82 rfl (lv_at hl 1 rfl) ?_
    refine lv_lload_n (pc := 83) hx hb dX3_tells_83 rfl (lv_at hl 2 rfl) ?_
    refine lv_lneg (pc := 84) hx hb dX3_tells_84 ?_
    refine lv_iload (pc := 85) hx hb dX3_tells_85 (lv_at hl 6 rfl) ?_
    refine lv_iload (pc := 87) hx hb dX3_tells_87 (lv_at hl 3 rfl) ?_
    refine lv_if_eq (pc := 89) (tgt := 102) hx hb dX3_tells_89 (by decide) (fun c110 => ?_) (fun c110 => ?_)
    · have hm := ite_t c110 hm
      refine lv_aloadN (pc := 102) hx hb dX3_tells_102 (lv_at hl 5 rfl) ?_
      exact nomatch hm
    · have hm := ite_f c110 hm
      refine lv_aloadN (pc := 92) hx hb dX3_tells_92 (lv_at hl 4 rfl) ?_
      refine lv_iload (pc := 94) hx hb dX3_tells_94 (lv_at hl 6 rfl) ?_
      exact nomatch hm
theorem w_fX3_tells_73d_l (C : Cx G p s m args meth c RX3 cX3_tells 10 none) {b0 : Nat} {b1 : Nat} {V1 : Mem} {n1 : Nat} {rw0 : Mem} (hd01 : b0 + 43 ≤ b1 ∨ b1 + 22 ≤ b0) (hn1 : n1 < 12) : ∀ (n : Nat) (v0 : Mem) (j3 : Int64) (i6 : Int32) (i9 : Int32), lq4 (fX3_tells_73d V1 n1) n v0 j3 i6 i9 = some rw0 → ∀ (H : Heap) (locs : List Loc) (ls : Array Slot), rg G b0 43 (shX3 G.2.1) v0 H → rg G b1 22 (shX1 G.2.1) V1 H → va_S (FA (iv b0 43) s.heap.size) s.heap H locs → H.size = s.heap.size → lv_has ls 10 [(0, .ref b0), (1, .ref (b0 + (7 + 3 * n1 + 0))), (3, .long j3), (6, .int i6), (7, .null), (8, .null), (9, .int i9)] → W p l e (rmT 1 0 0 25) s m args below meth c H locs 0 0 (MQ below (QcT (FA (iv b0 43) s.heap.size) (fun ov H => ov = none ∧ rg G b0 43 (shX3 G.2.1) rw0 H ∧ H.size = s.heap.size)) args s 0 0 (FA (iv b0 43) s.heap.size)) (F0 m 73 ls []) := by
  intro n
  induction n with
  | zero => intro v0 j3 i6 i9 hm; exact (lq4_0 hm).elim
  | succ n ih => intro v0 j3 i6 i9 hm; exact w_fX3_tells_73d C hd01 hn1 ih v0 j3 i6 i9 (lq4_s hm)
set_option maxHeartbeats 4000000 in
theorem w_fX3_tells_48 (C : Cx G p s m args meth c RX3 cX3_tells 10 none) {b0 : Nat} {b1 : Nat} {V1 : Mem} {n1 : Nat} {rw0 : Mem} (hd01 : b0 + 43 ≤ b1 ∨ b1 + 22 ≤ b0) (hn1 : n1 < 12) : ∀ (v0 : Mem) (i2 : Int32) (j3 : Int64) (i6 : Int32), fX3_tells_48 V1 n1 v0 i2 j3 i6 = some rw0 → ∀ (H : Heap) (locs : List Loc) (ls : Array Slot), rg G b0 43 (shX3 G.2.1) v0 H → rg G b1 22 (shX1 G.2.1) V1 H → va_S (FA (iv b0 43) s.heap.size) s.heap H locs → H.size = s.heap.size → lv_has ls 10 [(0, .ref b0), (1, .ref (b0 + (7 + 3 * n1 + 0))), (2, .int i2), (3, .long j3), (6, .int i6)] → W p l e (rmT 1 0 0 25) s m args below meth c H locs 0 0 (MQ below (QcT (FA (iv b0 43) s.heap.size) (fun ov H => ov = none ∧ rg G b0 43 (shX3 G.2.1) rw0 H ∧ H.size = s.heap.size)) args s 0 0 (FA (iv b0 43) s.heap.size)) (F0 m 48 ls [.null]) := by
  intro v0 i2 j3 i6 hm H locs ls hW0 hW1 hS hz hl
  obtain ⟨hx, hb, hr, hlk, hml, hown, hts, hK⟩ := id C
  unfold fX3_tells_48 at hm
  refine lv_astoreN (pc := 48) (lv' := [(7, .null), (0, .ref b0), (1, .ref (b0 + (7 + 3 * n1 + 0))), (2, .int i2), (3, .long j3), (6, .int i6)]) hx hb dX3_tells_48 hl (by decide) rfl (fun ls hl => ?_)
  refine lv_iload (pc := 50) hx hb dX3_tells_50 (lv_at hl 5 rfl) ?_
  refine lv_if_eq (pc := 52) (tgt := 59) hx hb dX3_tells_52 (by decide) (fun c105 => ?_) (fun c105 => ?_)
  · have hm := ite_t c105 hm
    refine lv_aload_n (pc := 59) hx hb dX3_tells_59 rfl (lv_at hl 1 rfl) ?_
    refine rk_get (pc := 60) hx hb hts hown hK hW0 flX3_30 0 (by decide) rfl rfl (x := .ref (b0 + 6)) (by first | rfl | exact congrArg (fun z => some (Value.ref z)) (by omega)) dX3_tells_60 ?_
    refine lv_iload_n (pc := 63) hx hb dX3_tells_63 rfl (lv_at hl 3 rfl) ?_
    refine lv_bipush (pc := 64) (v := (20 : Int32)) hx hb dX3_tells_64 (by decide) ?_
    refine lv_isub (pc := 66) hx hb dX3_tells_66 ?_
    obtain ⟨hg106, hm⟩ := gb_some hm
    have hlt107 := inR_lt hg106
    refine rk_aald (pc := 67) hx hb hK hW0 6 6 (by decide) rfl rfl rfl hg106 (x := (b0 + (7 + 3 * (i2 - (20 : Int32)).toNatClampNeg + 0))) (by first | rfl | exact congrArg some (by omega)) dX3_tells_67 ?_
    refine lv_astore (pc := 68) (lv' := [(8, .ref (b0 + (7 + 3 * (i2 - (20 : Int32)).toNatClampNeg + 0))), (7, .null), (0, .ref b0), (1, .ref (b0 + (7 + 3 * n1 + 0))), (2, .int i2), (3, .long j3), (6, .int i6)]) hx hb dX3_tells_68 hl (by decide) rfl (fun ls hl => ?_)
    refine lv_iconst (pc := 70) (v := (0 : Int32)) hx hb dX3_tells_70 (by decide) ?_
    refine lv_istore (pc := 71) (lv' := [(9, .int (0 : Int32)), (8, .ref (b0 + (7 + 3 * (i2 - (20 : Int32)).toNatClampNeg + 0))), (7, .null), (0, .ref b0), (1, .ref (b0 + (7 + 3 * n1 + 0))), (2, .int i2), (3, .long j3), (6, .int i6)]) hx hb dX3_tells_71 hl (by decide) rfl (fun ls hl => ?_)
    exact (w_fX3_tells_73c_l C hd01 hn1 FU) v0 j3 i6 (i2 - (20 : Int32)).toNatClampNeg (0 : Int32) hm hlt107 H locs ls hW0 hW1 hS hz (lv_sub hl [3, 4, 6, 7, 2, 1, 0] rfl)
  · have hm := ite_f c105 hm
    refine lv_null (pc := 55) hx hb dX3_tells_55 ?_
    refine lv_goto (pc := 56) (tgt := 68) hx hb dX3_tells_56 (by decide) ?_
    refine lv_astoreN (pc := 68) (lv' := [(8, .null), (7, .null), (0, .ref b0), (1, .ref (b0 + (7 + 3 * n1 + 0))), (2, .int i2), (3, .long j3), (6, .int i6)]) hx hb dX3_tells_68 hl (by decide) rfl (fun ls hl => ?_)
    refine lv_iconst (pc := 70) (v := (0 : Int32)) hx hb dX3_tells_70 (by decide) ?_
    refine lv_istore (pc := 71) (lv' := [(9, .int (0 : Int32)), (8, .null), (7, .null), (0, .ref b0), (1, .ref (b0 + (7 + 3 * n1 + 0))), (2, .int i2), (3, .long j3), (6, .int i6)]) hx hb dX3_tells_71 hl (by decide) rfl (fun ls hl => ?_)
    exact (w_fX3_tells_73d_l C hd01 hn1 FU) v0 j3 i6 (0 : Int32) hm H locs ls hW0 hW1 hS hz (lv_sub hl [3, 4, 6, 7, 2, 1, 0] rfl)
set_option maxHeartbeats 4000000 in
theorem w_fX3_tells_73 (C : Cx G p s m args meth c RX3 cX3_tells 10 none) {b0 : Nat} {b1 : Nat} {V1 : Mem} {n1 : Nat} {rw0 : Mem} (hd01 : b0 + 43 ≤ b1 ∨ b1 + 22 ≤ b0) (hn1 : n1 < 12) {k73 : Mem → Int64 → Int32 → Nat → Nat → Int32 → Option (Mem)} (hk73 : ∀ (v0 : Mem) (j3 : Int64) (i6 : Int32) (n7 : Nat) (n8 : Nat) (i9 : Int32), k73 v0 j3 i6 n7 n8 i9 = some rw0 → (hn_n7 : n7 < 8) → (hn_n8 : n8 < 12) → ∀ (H : Heap) (locs : List Loc) (ls : Array Slot), rg G b0 43 (shX3 G.2.1) v0 H → rg G b1 22 (shX1 G.2.1) V1 H → va_S (FA (iv b0 43) s.heap.size) s.heap H locs → H.size = s.heap.size → lv_has ls 10 [(0, .ref b0), (1, .ref (b0 + (7 + 3 * n1 + 0))), (3, .long j3), (6, .int i6), (7, .ref (b1 + (6 + 2 * n7 + 0))), (8, .ref (b0 + (7 + 3 * n8 + 0))), (9, .int i9)] → W p l e (rmT 1 0 0 25) s m args below meth c H locs 0 0 (MQ below (QcT (FA (iv b0 43) s.heap.size) (fun ov H => ov = none ∧ rg G b0 43 (shX3 G.2.1) rw0 H ∧ H.size = s.heap.size)) args s 0 0 (FA (iv b0 43) s.heap.size)) (F0 m 73 ls [])) : ∀ (v0 : Mem) (j3 : Int64) (i6 : Int32) (n7 : Nat) (n8 : Nat) (i9 : Int32), fX3_tells_73 V1 n1 k73 v0 j3 i6 n7 n8 i9 = some rw0 → (hn_n7 : n7 < 8) → (hn_n8 : n8 < 12) → ∀ (H : Heap) (locs : List Loc) (ls : Array Slot), rg G b0 43 (shX3 G.2.1) v0 H → rg G b1 22 (shX1 G.2.1) V1 H → va_S (FA (iv b0 43) s.heap.size) s.heap H locs → H.size = s.heap.size → lv_has ls 10 [(0, .ref b0), (1, .ref (b0 + (7 + 3 * n1 + 0))), (3, .long j3), (6, .int i6), (7, .ref (b1 + (6 + 2 * n7 + 0))), (8, .ref (b0 + (7 + 3 * n8 + 0))), (9, .int i9)] → W p l e (rmT 1 0 0 25) s m args below meth c H locs 0 0 (MQ below (QcT (FA (iv b0 43) s.heap.size) (fun ov H => ov = none ∧ rg G b0 43 (shX3 G.2.1) rw0 H ∧ H.size = s.heap.size)) args s 0 0 (FA (iv b0 43) s.heap.size)) (F0 m 73 ls []) := by
  intro v0 j3 i6 n7 n8 i9 hm hn_n7 hn_n8 H locs ls hW0 hW1 hS hz hl
  obtain ⟨hx, hb, hr, hlk, hml, hown, hts, hK⟩ := id C
  unfold fX3_tells_73 at hm
  refine lv_iload (pc := 73) hx hb dX3_tells_73 (lv_at hl 6 rfl) ?_
  refine lv_aload_n (pc := 75) hx hb dX3_tells_75 rfl (lv_at hl 0 rfl) ?_
  refine rk_get (pc := 76) hx hb hts hown hK hW0 flX3_44 0 (by decide) rfl rfl (x := .int (gI v0 0 0)) rfl dX3_tells_76 ?_
  refine lv_icmp_ge (pc := 79) (tgt := 119) hx hb dX3_tells_79 (by decide) (fun c53 => ?_) (fun c53 => ?_)
  · have hm := ite_t c53 hm
    refine lv_aload_n (pc := 119) hx hb dX3_tells_119 rfl (lv_at hl 1 rfl) ?_
    refine lv_dup (pc := 120) hx hb dX3_tells_120 rfl ?_
    refine rk_getN (pc := 121) hx hb hts hown hK hW0 fnX3_139 (7 + 3 * n1 + 0) (by omega) rfl ((shX3_f7 G.2.1 hn1 _ rfl 0 (by decide) _ _ _).trans rfl) (x := .long (gL v0 (7 + 3 * n1 + 0) 1)) rfl dX3_tells_121 ?_
    refine lv_lload_n (pc := 124) hx hb dX3_tells_124 rfl (lv_at hl 2 rfl) ?_
    refine lv_iload (pc := 125) hx hb dX3_tells_125 (lv_at hl 3 rfl) ?_
    refine lv_if_eq (pc := 127) (tgt := 138) hx hb dX3_tells_127 (by decide) (fun c54 => ?_) (fun c54 => ?_)
    · have hm := ite_t c54 hm
      refine lv_aload (pc := 138) hx hb dX3_tells_138 (lv_at hl 5 rfl) ?_
      refine rk_getN (pc := 140) hx hb hts hown hK hW0 fnX3_139 (7 + 3 * n8 + 0) (by omega) rfl ((shX3_f7 G.2.1 hn_n8 _ rfl 0 (by decide) _ _ _).trans rfl) (x := .long (gL v0 (7 + 3 * n8 + 0) 1)) rfl dX3_tells_140 ?_
      refine lv_lmul (pc := 143) hx hb dX3_tells_143 ?_
      refine lv_lsub (pc := 144) hx hb dX3_tells_144 ?_
      refine rk_putN (pc := 145) hx hb hts hown hK hW0 hS fnX3_139 ft_X4 (7 + 3 * n1 + 0) (by omega) rfl (Or.inl (show iv _ _ _ from ⟨by omega, by omega⟩)) ((shX3_f7 G.2.1 hn1 _ rfl 0 (by decide) _ _ _).trans rfl) rfl (x := .long ((gL v0 (7 + 3 * n1 + 0) 1) - (j3 * (gL v0 (7 + 3 * n8 + 0) 1)))) rfl rfl (Nat.le_of_ble_eq_true rfl) (sL v0 (7 + 3 * n1 + 0) 1 ((gL v0 (7 + 3 * n1 + 0) 1) - (j3 * (gL v0 (7 + 3 * n8 + 0) 1)))) sL_ne (by rw [sL_eq]; exact ((shX3_f7 G.2.1 hn1 _ rfl 0 (by decide) _ _ _).trans rfl)) dX3_tells_145 (fun H56 locs57 hW58 hS59 hz60 hkp61 => ?_)
      obtain ⟨v0_55, he9, hm⟩ := lm_some hm
      rw [he9] at hW58
      have hW62 := rg_keepq hW1 hkp61 (by omega)
      have hz63 := hz60.trans hz
      have e9 := rs1 hm
      subst e9
      exact rk_vret (pc := 148) hx hb hr hlk hS59 ⟨rfl, hW58, hz63⟩ dX3_tells_148
    · have hm := ite_f c54 hm
      refine lv_aload (pc := 130) hx hb dX3_tells_130 (lv_at hl 4 rfl) ?_
      obtain ⟨r64, hq65, hm⟩ := ob_some hm
      refine rk_PV (pc := 132) (As := []) (rest := [.long j3, .long (gL v0 (7 + 3 * n1 + 0) 1), .ref (b0 + (7 + 3 * n1 + 0))]) hx hb hml hown hts hK lkX3_68 rfl yn_X2_limit (ct_X2_limit (G := G) (l := l) (b0 := (b1 + (6 + 2 * n7 + 0))) hq65) ⟨Nat.le_of_ble_eq_true rfl, Nat.le_of_ble_eq_true rfl⟩ (rk_recv hK hW1 (6 + 2 * n7 + 0) (by omega) rfl rfl ((shX1_f6 G.2.1 hn_n7 _ rfl 0 (by decide) _ _ _).trans rfl)) (rg_sub (d := (6 + 2 * n7)) hW1 rfl (by omega) (fun o ho x y z => shX1_f6 G.2.1 hn_n7 _ rfl o ho x y z)) rfl rfl hl.1 (Nat.le_of_ble_eq_true rfl) dX3_tells_132 ⟨Nat.zero_le _, Nat.zero_le _⟩ ?_
      refine W.eq (g2 := F0 m 135 ls [.long r64, .long j3, .long (gL v0 (7 + 3 * n1 + 0) 1), .ref (b0 + (7 + 3 * n1 + 0))]) rfl ?_
      refine lv_goto (pc := 135) (tgt := 143) hx hb dX3_tells_135 (by decide) ?_
      refine lv_lmul (pc := 143) hx hb dX3_tells_143 ?_
      refine lv_lsub (pc := 144) hx hb dX3_tells_144 ?_
      refine rk_putN (pc := 145) hx hb hts hown hK hW0 hS fnX3_139 ft_X4 (7 + 3 * n1 + 0) (by omega) rfl (Or.inl (show iv _ _ _ from ⟨by omega, by omega⟩)) ((shX3_f7 G.2.1 hn1 _ rfl 0 (by decide) _ _ _).trans rfl) rfl (x := .long ((gL v0 (7 + 3 * n1 + 0) 1) - (j3 * r64))) rfl rfl (Nat.le_of_ble_eq_true rfl) (sL v0 (7 + 3 * n1 + 0) 1 ((gL v0 (7 + 3 * n1 + 0) 1) - (j3 * r64))) sL_ne (by rw [sL_eq]; exact ((shX3_f7 G.2.1 hn1 _ rfl 0 (by decide) _ _ _).trans rfl)) dX3_tells_145 (fun H67 locs68 hW69 hS70 hz71 hkp72 => ?_)
      obtain ⟨v0_66, he9, hm⟩ := lm_some hm
      rw [he9] at hW69
      have hW73 := rg_keepq hW1 hkp72 (by omega)
      have hz74 := hz71.trans hz
      have e9 := rs1 hm
      subst e9
      exact rk_vret (pc := 148) hx hb hr hlk hS70 ⟨rfl, hW69, hz74⟩ dX3_tells_148
  · have hm := ite_f c53 hm
    refine lv_aload_n (pc := 82) hx hb dX3_tells_82 rfl (lv_at hl 1 rfl) ?_
    refine lv_lload_n (pc := 83) hx hb dX3_tells_83 rfl (lv_at hl 2 rfl) ?_
    refine lv_lneg (pc := 84) hx hb dX3_tells_84 ?_
    refine lv_iload (pc := 85) hx hb dX3_tells_85 (lv_at hl 6 rfl) ?_
    refine lv_iload (pc := 87) hx hb dX3_tells_87 (lv_at hl 3 rfl) ?_
    refine lv_if_eq (pc := 89) (tgt := 102) hx hb dX3_tells_89 (by decide) (fun c75 => ?_) (fun c75 => ?_)
    · have hm := ite_t c75 hm
      refine lv_aload (pc := 102) hx hb dX3_tells_102 (lv_at hl 5 rfl) ?_
      refine rk_getN (pc := 104) hx hb hts hown hK hW0 fnX3_137 (7 + 3 * n8 + 0) (by omega) rfl ((shX3_f7 G.2.1 hn_n8 _ rfl 0 (by decide) _ _ _).trans rfl) (x := .ref (b0 + (7 + 3 * n8 + 1))) (by first | rfl | exact congrArg (fun z => some (Value.ref z)) (by omega)) dX3_tells_104 ?_
      refine lv_iload (pc := 107) hx hb dX3_tells_107 (lv_at hl 6 rfl) ?_
      obtain ⟨hg76, hm⟩ := gb_some hm
      refine rk_lald (pc := 109) hx hb hK hW0 (7 + 3 * n8 + 1) (by omega) rfl ((shX3_f7 G.2.1 hn_n8 _ rfl 1 (by decide) _ _ _).trans rfl) hg76 (x := (gL v0 (7 + 3 * n8 + 1) i9.toNatClampNeg)) rfl dX3_tells_109 ?_
      obtain ⟨w77, hq78, hm⟩ := ob_some hm
      refine rk_TV (pc := 110) (As := [.long (-j3), .int i9, .long (gL v0 (7 + 3 * n8 + 1) i9.toNatClampNeg)]) (rest := []) (mc := 0) (ms := 0) hx hb hml hown hts hK hS (fun q hq => FA_sz rfl q hq) lkX3_133 rfl yn_X4_gets (ct_X4_gets (G := G) (l := l) (b0 := (b0 + (7 + 3 * n1 + 0))) (sz := H.size) hq78) ⟨Nat.le_of_ble_eq_true rfl, Nat.le_of_ble_eq_true rfl⟩ (fun z h => Or.inl (show iv _ _ _ from ⟨by have h8 := h.1; have h9 := h.2; omega, by have h8 := h.1; have h9 := h.2; omega⟩)) (rk_recv hK hW0 (7 + 3 * n1 + 0) (by omega) rfl rfl ((shX3_f7 G.2.1 hn1 _ rfl 0 (by decide) _ _ _).trans rfl)) (rg_sub (d := (7 + 3 * n1)) hW0 rfl (by omega) (fun o ho x y z => shX3_f7 G.2.1 hn1 _ rfl o ho x y z)) rfl rfl hl.1 (Nat.le_of_ble_eq_true rfl) dX3_tells_110 ⟨Nat.zero_le _, Nat.zero_le _⟩ (fun ov9 H79 locs80 hP81 hkp82 hS83 => ?_)
      obtain ⟨rfl, hW84, hz85⟩ := hP81
      have hW86 := rg_keepA hW1 hkp82 (by intro z h1 h2 h3; have h8 := h3.1; have h9 := h3.2; omega)
      have hW87 := rg_put (d := (7 + 3 * n1)) hW0 hW84 rfl (fun o ho x y z => shX3_f7 G.2.1 hn1 _ rfl o ho x y z) hkp82
      obtain ⟨v0_88, he9, hm⟩ := lm_some hm
      rw [he9] at hW87
      have hz89 := hz85.trans hz
      refine W.eq (g2 := F0 m 113 ls []) rfl ?_
      refine lv_iinc (pc := 113) (v := (i9 + (1 : Int32))) (lv' := [(9, .int (i9 + (1 : Int32))), (0, .ref b0), (1, .ref (b0 + (7 + 3 * n1 + 0))), (3, .long j3), (6, .int i6), (7, .ref (b1 + (6 + 2 * n7 + 0))), (8, .ref (b0 + (7 + 3 * n8 + 0)))]) hx hb dX3_tells_113 hl (k := 6) rfl rfl (by decide) rfl (fun ls hl => ?_)
      refine lv_goto (pc := 116) (tgt := 73) hx hb dX3_tells_116 (by decide) ?_
      exact hk73 v0_88 j3 i6 n7 n8 (i9 + (1 : Int32)) hm hn_n7 hn_n8 H79 locs80 ls hW87 hW86 hS83 hz89 (lv_sub hl [1, 2, 3, 4, 5, 6, 0] rfl)
    · have hm := ite_f c75 hm
      refine lv_aload (pc := 92) hx hb dX3_tells_92 (lv_at hl 4 rfl) ?_
      refine lv_iload (pc := 94) hx hb dX3_tells_94 (lv_at hl 6 rfl) ?_
      obtain ⟨r90, hq91, hm⟩ := ob_some hm
      refine rk_PV (pc := 96) (As := [.int i9]) (rest := [.int i9, .long (-j3), .ref (b0 + (7 + 3 * n1 + 0))]) hx hb hml hown hts hK lkX3_78 rfl yn_X2_points (ct_X2_points (G := G) (l := l) (b0 := (b1 + (6 + 2 * n7 + 0))) hq91) ⟨Nat.le_of_ble_eq_true rfl, Nat.le_of_ble_eq_true rfl⟩ (rk_recv hK hW1 (6 + 2 * n7 + 0) (by omega) rfl rfl ((shX1_f6 G.2.1 hn_n7 _ rfl 0 (by decide) _ _ _).trans rfl)) (rg_sub (d := (6 + 2 * n7)) hW1 rfl (by omega) (fun o ho x y z => shX1_f6 G.2.1 hn_n7 _ rfl o ho x y z)) rfl rfl hl.1 (Nat.le_of_ble_eq_true rfl) dX3_tells_96 ⟨Nat.zero_le _, Nat.zero_le _⟩ ?_
      refine W.eq (g2 := F0 m 99 ls [.long r90, .int i9, .long (-j3), .ref (b0 + (7 + 3 * n1 + 0))]) rfl ?_
      refine lv_goto (pc := 99) (tgt := 110) hx hb dX3_tells_99 (by decide) ?_
      obtain ⟨w92, hq93, hm⟩ := ob_some hm
      refine rk_TV (pc := 110) (As := [.long (-j3), .int i9, .long r90]) (rest := []) (mc := 0) (ms := 0) hx hb hml hown hts hK hS (fun q hq => FA_sz rfl q hq) lkX3_133 rfl yn_X4_gets (ct_X4_gets (G := G) (l := l) (b0 := (b0 + (7 + 3 * n1 + 0))) (sz := H.size) hq93) ⟨Nat.le_of_ble_eq_true rfl, Nat.le_of_ble_eq_true rfl⟩ (fun z h => Or.inl (show iv _ _ _ from ⟨by have h8 := h.1; have h9 := h.2; omega, by have h8 := h.1; have h9 := h.2; omega⟩)) (rk_recv hK hW0 (7 + 3 * n1 + 0) (by omega) rfl rfl ((shX3_f7 G.2.1 hn1 _ rfl 0 (by decide) _ _ _).trans rfl)) (rg_sub (d := (7 + 3 * n1)) hW0 rfl (by omega) (fun o ho x y z => shX3_f7 G.2.1 hn1 _ rfl o ho x y z)) rfl rfl hl.1 (Nat.le_of_ble_eq_true rfl) dX3_tells_110 ⟨Nat.zero_le _, Nat.zero_le _⟩ (fun ov9 H94 locs95 hP96 hkp97 hS98 => ?_)
      obtain ⟨rfl, hW99, hz100⟩ := hP96
      have hW101 := rg_keepA hW1 hkp97 (by intro z h1 h2 h3; have h8 := h3.1; have h9 := h3.2; omega)
      have hW102 := rg_put (d := (7 + 3 * n1)) hW0 hW99 rfl (fun o ho x y z => shX3_f7 G.2.1 hn1 _ rfl o ho x y z) hkp97
      obtain ⟨v0_103, he9, hm⟩ := lm_some hm
      rw [he9] at hW102
      have hz104 := hz100.trans hz
      refine W.eq (g2 := F0 m 113 ls []) rfl ?_
      refine lv_iinc (pc := 113) (v := (i9 + (1 : Int32))) (lv' := [(9, .int (i9 + (1 : Int32))), (0, .ref b0), (1, .ref (b0 + (7 + 3 * n1 + 0))), (3, .long j3), (6, .int i6), (7, .ref (b1 + (6 + 2 * n7 + 0))), (8, .ref (b0 + (7 + 3 * n8 + 0)))]) hx hb dX3_tells_113 hl (k := 6) rfl rfl (by decide) rfl (fun ls hl => ?_)
      refine lv_goto (pc := 116) (tgt := 73) hx hb dX3_tells_116 (by decide) ?_
      exact hk73 v0_103 j3 i6 n7 n8 (i9 + (1 : Int32)) hm hn_n7 hn_n8 H94 locs95 ls hW102 hW101 hS98 hz104 (lv_sub hl [1, 2, 3, 4, 5, 6, 0] rfl)
theorem w_fX3_tells_73_l (C : Cx G p s m args meth c RX3 cX3_tells 10 none) {b0 : Nat} {b1 : Nat} {V1 : Mem} {n1 : Nat} {rw0 : Mem} (hd01 : b0 + 43 ≤ b1 ∨ b1 + 22 ≤ b0) (hn1 : n1 < 12) : ∀ (n : Nat) (v0 : Mem) (j3 : Int64) (i6 : Int32) (n7 : Nat) (n8 : Nat) (i9 : Int32), lq6 (fX3_tells_73 V1 n1) n v0 j3 i6 n7 n8 i9 = some rw0 → (hn_n7 : n7 < 8) → (hn_n8 : n8 < 12) → ∀ (H : Heap) (locs : List Loc) (ls : Array Slot), rg G b0 43 (shX3 G.2.1) v0 H → rg G b1 22 (shX1 G.2.1) V1 H → va_S (FA (iv b0 43) s.heap.size) s.heap H locs → H.size = s.heap.size → lv_has ls 10 [(0, .ref b0), (1, .ref (b0 + (7 + 3 * n1 + 0))), (3, .long j3), (6, .int i6), (7, .ref (b1 + (6 + 2 * n7 + 0))), (8, .ref (b0 + (7 + 3 * n8 + 0))), (9, .int i9)] → W p l e (rmT 1 0 0 25) s m args below meth c H locs 0 0 (MQ below (QcT (FA (iv b0 43) s.heap.size) (fun ov H => ov = none ∧ rg G b0 43 (shX3 G.2.1) rw0 H ∧ H.size = s.heap.size)) args s 0 0 (FA (iv b0 43) s.heap.size)) (F0 m 73 ls []) := by
  intro n
  induction n with
  | zero => intro v0 j3 i6 n7 n8 i9 hm; exact (lq6_0 hm).elim
  | succ n ih => intro v0 j3 i6 n7 n8 i9 hm; exact w_fX3_tells_73 C hd01 hn1 ih v0 j3 i6 n7 n8 i9 (lq6_s hm)
set_option maxHeartbeats 4000000 in
theorem w_fX3_tells_73b (C : Cx G p s m args meth c RX3 cX3_tells 10 none) {b0 : Nat} {b1 : Nat} {V1 : Mem} {n1 : Nat} {rw0 : Mem} (hd01 : b0 + 43 ≤ b1 ∨ b1 + 22 ≤ b0) (hn1 : n1 < 12) {k73 : Mem → Int64 → Int32 → Nat → Int32 → Option (Mem)} (hk73 : ∀ (v0 : Mem) (j3 : Int64) (i6 : Int32) (n7 : Nat) (i9 : Int32), k73 v0 j3 i6 n7 i9 = some rw0 → (hn_n7 : n7 < 8) → ∀ (H : Heap) (locs : List Loc) (ls : Array Slot), rg G b0 43 (shX3 G.2.1) v0 H → rg G b1 22 (shX1 G.2.1) V1 H → va_S (FA (iv b0 43) s.heap.size) s.heap H locs → H.size = s.heap.size → lv_has ls 10 [(0, .ref b0), (1, .ref (b0 + (7 + 3 * n1 + 0))), (3, .long j3), (6, .int i6), (7, .ref (b1 + (6 + 2 * n7 + 0))), (8, .null), (9, .int i9)] → W p l e (rmT 1 0 0 25) s m args below meth c H locs 0 0 (MQ below (QcT (FA (iv b0 43) s.heap.size) (fun ov H => ov = none ∧ rg G b0 43 (shX3 G.2.1) rw0 H ∧ H.size = s.heap.size)) args s 0 0 (FA (iv b0 43) s.heap.size)) (F0 m 73 ls [])) : ∀ (v0 : Mem) (j3 : Int64) (i6 : Int32) (n7 : Nat) (i9 : Int32), fX3_tells_73b V1 n1 k73 v0 j3 i6 n7 i9 = some rw0 → (hn_n7 : n7 < 8) → ∀ (H : Heap) (locs : List Loc) (ls : Array Slot), rg G b0 43 (shX3 G.2.1) v0 H → rg G b1 22 (shX1 G.2.1) V1 H → va_S (FA (iv b0 43) s.heap.size) s.heap H locs → H.size = s.heap.size → lv_has ls 10 [(0, .ref b0), (1, .ref (b0 + (7 + 3 * n1 + 0))), (3, .long j3), (6, .int i6), (7, .ref (b1 + (6 + 2 * n7 + 0))), (8, .null), (9, .int i9)] → W p l e (rmT 1 0 0 25) s m args below meth c H locs 0 0 (MQ below (QcT (FA (iv b0 43) s.heap.size) (fun ov H => ov = none ∧ rg G b0 43 (shX3 G.2.1) rw0 H ∧ H.size = s.heap.size)) args s 0 0 (FA (iv b0 43) s.heap.size)) (F0 m 73 ls []) := by
  intro v0 j3 i6 n7 i9 hm hn_n7 H locs ls hW0 hW1 hS hz hl
  obtain ⟨hx, hb, hr, hlk, hml, hown, hts, hK⟩ := id C
  unfold fX3_tells_73b at hm
  refine lv_iload (pc := 73) hx hb dX3_tells_73 (lv_at hl 6 rfl) ?_
  refine lv_aload_n (pc := 75) hx hb dX3_tells_75 rfl (lv_at hl 0 rfl) ?_
  refine rk_get (pc := 76) hx hb hts hown hK hW0 flX3_44 0 (by decide) rfl rfl (x := .int (gI v0 0 0)) rfl dX3_tells_76 ?_
  refine lv_icmp_ge (pc := 79) (tgt := 119) hx hb dX3_tells_79 (by decide) (fun c24 => ?_) (fun c24 => ?_)
  · have hm := ite_t c24 hm
    refine lv_aload_n (pc := 119) hx hb dX3_tells_119 rfl (lv_at hl 1 rfl) ?_
    refine lv_dup (pc := 120) hx hb dX3_tells_120 rfl ?_
    refine rk_getN (pc := 121) hx hb hts hown hK hW0 fnX3_139 (7 + 3 * n1 + 0) (by omega) rfl ((shX3_f7 G.2.1 hn1 _ rfl 0 (by decide) _ _ _).trans rfl) (x := .long (gL v0 (7 + 3 * n1 + 0) 1)) rfl dX3_tells_121 ?_
    refine lv_lload_n (pc := 124) hx hb dX3_tells_124 rfl (lv_at hl 2 rfl) ?_
    refine lv_iload (pc := 125) hx hb dX3_tells_125 (lv_at hl 3 rfl) ?_
    refine lv_if_eq (pc := 127) (tgt := 138) hx hb dX3_tells_127 (by decide) (fun c25 => ?_) (fun c25 => ?_)
    · have hm := ite_t c25 hm
      refine lv_aloadN (pc := 138) hx hb dX3_tells_138 (lv_at hl 5 rfl) ?_
      exact nomatch hm
    · have hm := ite_f c25 hm
      refine lv_aload (pc := 130) hx hb dX3_tells_130 (lv_at hl 4 rfl) ?_
      obtain ⟨r26, hq27, hm⟩ := ob_some hm
      refine rk_PV (pc := 132) (As := []) (rest := [.long j3, .long (gL v0 (7 + 3 * n1 + 0) 1), .ref (b0 + (7 + 3 * n1 + 0))]) hx hb hml hown hts hK lkX3_68 rfl yn_X2_limit (ct_X2_limit (G := G) (l := l) (b0 := (b1 + (6 + 2 * n7 + 0))) hq27) ⟨Nat.le_of_ble_eq_true rfl, Nat.le_of_ble_eq_true rfl⟩ (rk_recv hK hW1 (6 + 2 * n7 + 0) (by omega) rfl rfl ((shX1_f6 G.2.1 hn_n7 _ rfl 0 (by decide) _ _ _).trans rfl)) (rg_sub (d := (6 + 2 * n7)) hW1 rfl (by omega) (fun o ho x y z => shX1_f6 G.2.1 hn_n7 _ rfl o ho x y z)) rfl rfl hl.1 (Nat.le_of_ble_eq_true rfl) dX3_tells_132 ⟨Nat.zero_le _, Nat.zero_le _⟩ ?_
      refine W.eq (g2 := F0 m 135 ls [.long r26, .long j3, .long (gL v0 (7 + 3 * n1 + 0) 1), .ref (b0 + (7 + 3 * n1 + 0))]) rfl ?_
      refine lv_goto (pc := 135) (tgt := 143) hx hb dX3_tells_135 (by decide) ?_
      refine lv_lmul (pc := 143) hx hb dX3_tells_143 ?_
      refine lv_lsub (pc := 144) hx hb dX3_tells_144 ?_
      refine rk_putN (pc := 145) hx hb hts hown hK hW0 hS fnX3_139 ft_X4 (7 + 3 * n1 + 0) (by omega) rfl (Or.inl (show iv _ _ _ from ⟨by omega, by omega⟩)) ((shX3_f7 G.2.1 hn1 _ rfl 0 (by decide) _ _ _).trans rfl) rfl (x := .long ((gL v0 (7 + 3 * n1 + 0) 1) - (j3 * r26))) rfl rfl (Nat.le_of_ble_eq_true rfl) (sL v0 (7 + 3 * n1 + 0) 1 ((gL v0 (7 + 3 * n1 + 0) 1) - (j3 * r26))) sL_ne (by rw [sL_eq]; exact ((shX3_f7 G.2.1 hn1 _ rfl 0 (by decide) _ _ _).trans rfl)) dX3_tells_145 (fun H29 locs30 hW31 hS32 hz33 hkp34 => ?_)
      obtain ⟨v0_28, he9, hm⟩ := lm_some hm
      rw [he9] at hW31
      have hW35 := rg_keepq hW1 hkp34 (by omega)
      have hz36 := hz33.trans hz
      have e9 := rs1 hm
      subst e9
      exact rk_vret (pc := 148) hx hb hr hlk hS32 ⟨rfl, hW31, hz36⟩ dX3_tells_148
  · have hm := ite_f c24 hm
    refine lv_aload_n (pc := 82) hx hb dX3_tells_82 rfl (lv_at hl 1 rfl) ?_
    refine lv_lload_n (pc := 83) hx hb dX3_tells_83 rfl (lv_at hl 2 rfl) ?_
    refine lv_lneg (pc := 84) hx hb dX3_tells_84 ?_
    refine lv_iload (pc := 85) hx hb dX3_tells_85 (lv_at hl 6 rfl) ?_
    refine lv_iload (pc := 87) hx hb dX3_tells_87 (lv_at hl 3 rfl) ?_
    refine lv_if_eq (pc := 89) (tgt := 102) hx hb dX3_tells_89 (by decide) (fun c37 => ?_) (fun c37 => ?_)
    · have hm := ite_t c37 hm
      refine lv_aloadN (pc := 102) hx hb dX3_tells_102 (lv_at hl 5 rfl) ?_
      exact nomatch hm
    · have hm := ite_f c37 hm
      refine lv_aload (pc := 92) hx hb dX3_tells_92 (lv_at hl 4 rfl) ?_
      refine lv_iload (pc := 94) hx hb dX3_tells_94 (lv_at hl 6 rfl) ?_
      obtain ⟨r38, hq39, hm⟩ := ob_some hm
      refine rk_PV (pc := 96) (As := [.int i9]) (rest := [.int i9, .long (-j3), .ref (b0 + (7 + 3 * n1 + 0))]) hx hb hml hown hts hK lkX3_78 rfl yn_X2_points (ct_X2_points (G := G) (l := l) (b0 := (b1 + (6 + 2 * n7 + 0))) hq39) ⟨Nat.le_of_ble_eq_true rfl, Nat.le_of_ble_eq_true rfl⟩ (rk_recv hK hW1 (6 + 2 * n7 + 0) (by omega) rfl rfl ((shX1_f6 G.2.1 hn_n7 _ rfl 0 (by decide) _ _ _).trans rfl)) (rg_sub (d := (6 + 2 * n7)) hW1 rfl (by omega) (fun o ho x y z => shX1_f6 G.2.1 hn_n7 _ rfl o ho x y z)) rfl rfl hl.1 (Nat.le_of_ble_eq_true rfl) dX3_tells_96 ⟨Nat.zero_le _, Nat.zero_le _⟩ ?_
      refine W.eq (g2 := F0 m 99 ls [.long r38, .int i9, .long (-j3), .ref (b0 + (7 + 3 * n1 + 0))]) rfl ?_
      refine lv_goto (pc := 99) (tgt := 110) hx hb dX3_tells_99 (by decide) ?_
      obtain ⟨w40, hq41, hm⟩ := ob_some hm
      refine rk_TV (pc := 110) (As := [.long (-j3), .int i9, .long r38]) (rest := []) (mc := 0) (ms := 0) hx hb hml hown hts hK hS (fun q hq => FA_sz rfl q hq) lkX3_133 rfl yn_X4_gets (ct_X4_gets (G := G) (l := l) (b0 := (b0 + (7 + 3 * n1 + 0))) (sz := H.size) hq41) ⟨Nat.le_of_ble_eq_true rfl, Nat.le_of_ble_eq_true rfl⟩ (fun z h => Or.inl (show iv _ _ _ from ⟨by have h8 := h.1; have h9 := h.2; omega, by have h8 := h.1; have h9 := h.2; omega⟩)) (rk_recv hK hW0 (7 + 3 * n1 + 0) (by omega) rfl rfl ((shX3_f7 G.2.1 hn1 _ rfl 0 (by decide) _ _ _).trans rfl)) (rg_sub (d := (7 + 3 * n1)) hW0 rfl (by omega) (fun o ho x y z => shX3_f7 G.2.1 hn1 _ rfl o ho x y z)) rfl rfl hl.1 (Nat.le_of_ble_eq_true rfl) dX3_tells_110 ⟨Nat.zero_le _, Nat.zero_le _⟩ (fun ov9 H42 locs43 hP44 hkp45 hS46 => ?_)
      obtain ⟨rfl, hW47, hz48⟩ := hP44
      have hW49 := rg_keepA hW1 hkp45 (by intro z h1 h2 h3; have h8 := h3.1; have h9 := h3.2; omega)
      have hW50 := rg_put (d := (7 + 3 * n1)) hW0 hW47 rfl (fun o ho x y z => shX3_f7 G.2.1 hn1 _ rfl o ho x y z) hkp45
      obtain ⟨v0_51, he9, hm⟩ := lm_some hm
      rw [he9] at hW50
      have hz52 := hz48.trans hz
      refine W.eq (g2 := F0 m 113 ls []) rfl ?_
      refine lv_iinc (pc := 113) (v := (i9 + (1 : Int32))) (lv' := [(9, .int (i9 + (1 : Int32))), (0, .ref b0), (1, .ref (b0 + (7 + 3 * n1 + 0))), (3, .long j3), (6, .int i6), (7, .ref (b1 + (6 + 2 * n7 + 0))), (8, .null)]) hx hb dX3_tells_113 hl (k := 6) rfl rfl (by decide) rfl (fun ls hl => ?_)
      refine lv_goto (pc := 116) (tgt := 73) hx hb dX3_tells_116 (by decide) ?_
      exact hk73 v0_51 j3 i6 n7 (i9 + (1 : Int32)) hm hn_n7 H42 locs43 ls hW50 hW49 hS46 hz52 (lv_sub hl [1, 2, 3, 4, 5, 6, 0] rfl)
theorem w_fX3_tells_73b_l (C : Cx G p s m args meth c RX3 cX3_tells 10 none) {b0 : Nat} {b1 : Nat} {V1 : Mem} {n1 : Nat} {rw0 : Mem} (hd01 : b0 + 43 ≤ b1 ∨ b1 + 22 ≤ b0) (hn1 : n1 < 12) : ∀ (n : Nat) (v0 : Mem) (j3 : Int64) (i6 : Int32) (n7 : Nat) (i9 : Int32), lq5 (fX3_tells_73b V1 n1) n v0 j3 i6 n7 i9 = some rw0 → (hn_n7 : n7 < 8) → ∀ (H : Heap) (locs : List Loc) (ls : Array Slot), rg G b0 43 (shX3 G.2.1) v0 H → rg G b1 22 (shX1 G.2.1) V1 H → va_S (FA (iv b0 43) s.heap.size) s.heap H locs → H.size = s.heap.size → lv_has ls 10 [(0, .ref b0), (1, .ref (b0 + (7 + 3 * n1 + 0))), (3, .long j3), (6, .int i6), (7, .ref (b1 + (6 + 2 * n7 + 0))), (8, .null), (9, .int i9)] → W p l e (rmT 1 0 0 25) s m args below meth c H locs 0 0 (MQ below (QcT (FA (iv b0 43) s.heap.size) (fun ov H => ov = none ∧ rg G b0 43 (shX3 G.2.1) rw0 H ∧ H.size = s.heap.size)) args s 0 0 (FA (iv b0 43) s.heap.size)) (F0 m 73 ls []) := by
  intro n
  induction n with
  | zero => intro v0 j3 i6 n7 i9 hm; exact (lq5_0 hm).elim
  | succ n ih => intro v0 j3 i6 n7 i9 hm; exact w_fX3_tells_73b C hd01 hn1 ih v0 j3 i6 n7 i9 (lq5_s hm)
set_option maxHeartbeats 4000000 in
theorem w_fX3_tells_48b (C : Cx G p s m args meth c RX3 cX3_tells 10 none) {b0 : Nat} {b1 : Nat} {V1 : Mem} {n1 : Nat} {rw0 : Mem} (hd01 : b0 + 43 ≤ b1 ∨ b1 + 22 ≤ b0) (hn1 : n1 < 12) : ∀ (v0 : Mem) (i2 : Int32) (j3 : Int64) (i6 : Int32) (ns0 : Nat), fX3_tells_48b V1 n1 v0 i2 j3 i6 ns0 = some rw0 → (hn_ns0 : ns0 < 8) → ∀ (H : Heap) (locs : List Loc) (ls : Array Slot), rg G b0 43 (shX3 G.2.1) v0 H → rg G b1 22 (shX1 G.2.1) V1 H → va_S (FA (iv b0 43) s.heap.size) s.heap H locs → H.size = s.heap.size → lv_has ls 10 [(0, .ref b0), (1, .ref (b0 + (7 + 3 * n1 + 0))), (2, .int i2), (3, .long j3), (6, .int i6)] → W p l e (rmT 1 0 0 25) s m args below meth c H locs 0 0 (MQ below (QcT (FA (iv b0 43) s.heap.size) (fun ov H => ov = none ∧ rg G b0 43 (shX3 G.2.1) rw0 H ∧ H.size = s.heap.size)) args s 0 0 (FA (iv b0 43) s.heap.size)) (F0 m 48 ls [.ref (b1 + (6 + 2 * ns0 + 0))]) := by
  intro v0 i2 j3 i6 ns0 hm hn_ns0 H locs ls hW0 hW1 hS hz hl
  obtain ⟨hx, hb, hr, hlk, hml, hown, hts, hK⟩ := id C
  unfold fX3_tells_48b at hm
  refine lv_astore (pc := 48) (lv' := [(7, .ref (b1 + (6 + 2 * ns0 + 0))), (0, .ref b0), (1, .ref (b0 + (7 + 3 * n1 + 0))), (2, .int i2), (3, .long j3), (6, .int i6)]) hx hb dX3_tells_48 hl (by decide) rfl (fun ls hl => ?_)
  refine lv_iload (pc := 50) hx hb dX3_tells_50 (lv_at hl 5 rfl) ?_
  refine lv_if_eq (pc := 52) (tgt := 59) hx hb dX3_tells_52 (by decide) (fun c21 => ?_) (fun c21 => ?_)
  · have hm := ite_t c21 hm
    refine lv_aload_n (pc := 59) hx hb dX3_tells_59 rfl (lv_at hl 1 rfl) ?_
    refine rk_get (pc := 60) hx hb hts hown hK hW0 flX3_30 0 (by decide) rfl rfl (x := .ref (b0 + 6)) (by first | rfl | exact congrArg (fun z => some (Value.ref z)) (by omega)) dX3_tells_60 ?_
    refine lv_iload_n (pc := 63) hx hb dX3_tells_63 rfl (lv_at hl 3 rfl) ?_
    refine lv_bipush (pc := 64) (v := (20 : Int32)) hx hb dX3_tells_64 (by decide) ?_
    refine lv_isub (pc := 66) hx hb dX3_tells_66 ?_
    obtain ⟨hg22, hm⟩ := gb_some hm
    have hlt23 := inR_lt hg22
    refine rk_aald (pc := 67) hx hb hK hW0 6 6 (by decide) rfl rfl rfl hg22 (x := (b0 + (7 + 3 * (i2 - (20 : Int32)).toNatClampNeg + 0))) (by first | rfl | exact congrArg some (by omega)) dX3_tells_67 ?_
    refine lv_astore (pc := 68) (lv' := [(8, .ref (b0 + (7 + 3 * (i2 - (20 : Int32)).toNatClampNeg + 0))), (7, .ref (b1 + (6 + 2 * ns0 + 0))), (0, .ref b0), (1, .ref (b0 + (7 + 3 * n1 + 0))), (2, .int i2), (3, .long j3), (6, .int i6)]) hx hb dX3_tells_68 hl (by decide) rfl (fun ls hl => ?_)
    refine lv_iconst (pc := 70) (v := (0 : Int32)) hx hb dX3_tells_70 (by decide) ?_
    refine lv_istore (pc := 71) (lv' := [(9, .int (0 : Int32)), (8, .ref (b0 + (7 + 3 * (i2 - (20 : Int32)).toNatClampNeg + 0))), (7, .ref (b1 + (6 + 2 * ns0 + 0))), (0, .ref b0), (1, .ref (b0 + (7 + 3 * n1 + 0))), (2, .int i2), (3, .long j3), (6, .int i6)]) hx hb dX3_tells_71 hl (by decide) rfl (fun ls hl => ?_)
    exact (w_fX3_tells_73_l C hd01 hn1 FU) v0 j3 i6 ns0 (i2 - (20 : Int32)).toNatClampNeg (0 : Int32) hm hn_ns0 hlt23 H locs ls hW0 hW1 hS hz (lv_sub hl [3, 4, 6, 7, 2, 1, 0] rfl)
  · have hm := ite_f c21 hm
    refine lv_null (pc := 55) hx hb dX3_tells_55 ?_
    refine lv_goto (pc := 56) (tgt := 68) hx hb dX3_tells_56 (by decide) ?_
    refine lv_astoreN (pc := 68) (lv' := [(8, .null), (7, .ref (b1 + (6 + 2 * ns0 + 0))), (0, .ref b0), (1, .ref (b0 + (7 + 3 * n1 + 0))), (2, .int i2), (3, .long j3), (6, .int i6)]) hx hb dX3_tells_68 hl (by decide) rfl (fun ls hl => ?_)
    refine lv_iconst (pc := 70) (v := (0 : Int32)) hx hb dX3_tells_70 (by decide) ?_
    refine lv_istore (pc := 71) (lv' := [(9, .int (0 : Int32)), (8, .null), (7, .ref (b1 + (6 + 2 * ns0 + 0))), (0, .ref b0), (1, .ref (b0 + (7 + 3 * n1 + 0))), (2, .int i2), (3, .long j3), (6, .int i6)]) hx hb dX3_tells_71 hl (by decide) rfl (fun ls hl => ?_)
    exact (w_fX3_tells_73b_l C hd01 hn1 FU) v0 j3 i6 ns0 (0 : Int32) hm hn_ns0 H locs ls hW0 hW1 hS hz (lv_sub hl [3, 4, 6, 7, 2, 1, 0] rfl)
set_option maxHeartbeats 4000000 in
theorem w_fX3_tells_27 (C : Cx G p s m args meth c RX3 cX3_tells 10 none) {b0 : Nat} {b1 : Nat} {V1 : Mem} {n1 : Nat} {rw0 : Mem} (hd01 : b0 + 43 ≤ b1 ∨ b1 + 22 ≤ b0) (hn1 : n1 < 12) : ∀ (v0 : Mem) (i2 : Int32) (j3 : Int64) (t0 : Int32), fX3_tells_27 V1 n1 v0 i2 j3 t0 = some rw0 → ∀ (H : Heap) (locs : List Loc) (ls : Array Slot), rg G b0 43 (shX3 G.2.1) v0 H → rg G b1 22 (shX1 G.2.1) V1 H → va_S (FA (iv b0 43) s.heap.size) s.heap H locs → H.size = s.heap.size → lv_has ls 10 [(0, .ref b0), (1, .ref (b0 + (7 + 3 * n1 + 0))), (2, .int i2), (3, .long j3), (5, .ref b1)] → W p l e (rmT 1 0 0 25) s m args below meth c H locs 0 0 (MQ below (QcT (FA (iv b0 43) s.heap.size) (fun ov H => ov = none ∧ rg G b0 43 (shX3 G.2.1) rw0 H ∧ H.size = s.heap.size)) args s 0 0 (FA (iv b0 43) s.heap.size)) (F0 m 27 ls [.int t0]) := by
  intro v0 i2 j3 t0 hm H locs ls hW0 hW1 hS hz hl
  obtain ⟨hx, hb, hr, hlk, hml, hown, hts, hK⟩ := id C
  unfold fX3_tells_27 at hm
  refine lv_istore (pc := 27) (lv' := [(6, .int t0), (0, .ref b0), (1, .ref (b0 + (7 + 3 * n1 + 0))), (2, .int i2), (3, .long j3), (5, .ref b1)]) hx hb dX3_tells_27 hl (by decide) rfl (fun ls hl => ?_)
  refine lv_iload (pc := 29) hx hb dX3_tells_29 (lv_at hl 0 rfl) ?_
  refine lv_if_eq (pc := 31) (tgt := 47) hx hb dX3_tells_31 (by decide) (fun c18 => ?_) (fun c18 => ?_)
  · have hm := ite_t c18 hm
    refine lv_null (pc := 47) hx hb dX3_tells_47 ?_
    exact (w_fX3_tells_48 C hd01 hn1) v0 i2 j3 t0 hm H locs ls hW0 hW1 hS hz (lv_sub hl [1, 2, 3, 4, 0] rfl)
  · have hm := ite_f c18 hm
    refine lv_aload (pc := 34) hx hb dX3_tells_34 (lv_at hl 5 rfl) ?_
    refine rk_getN (pc := 36) hx hb hts hown hK hW1 fnX3_64 0 (by decide) rfl rfl (x := .ref (b1 + 2)) (by first | rfl | exact congrArg (fun z => some (Value.ref z)) (by omega)) dX3_tells_36 ?_
    refine lv_iload_n (pc := 39) hx hb dX3_tells_39 rfl (lv_at hl 3 rfl) ?_
    refine lv_bipush (pc := 40) (v := (10 : Int32)) hx hb dX3_tells_40 (by decide) ?_
    refine lv_isub (pc := 42) hx hb dX3_tells_42 ?_
    obtain ⟨hg19, hm⟩ := gb_some hm
    have hlt20 := inR_lt hg19
    refine rk_aald (pc := 43) hx hb hK hW1 2 5 (by decide) rfl rfl rfl hg19 (x := (b1 + (6 + 2 * (i2 - (10 : Int32)).toNatClampNeg + 0))) (by first | rfl | exact congrArg some (by omega)) dX3_tells_43 ?_
    refine lv_goto (pc := 44) (tgt := 48) hx hb dX3_tells_44 (by decide) ?_
    exact (w_fX3_tells_48b C hd01 hn1) v0 i2 j3 t0 (i2 - (10 : Int32)).toNatClampNeg hm hlt20 H locs ls hW0 hW1 hS hz (lv_sub hl [1, 2, 3, 4, 0] rfl)
set_option maxHeartbeats 4000000 in
theorem w_fX3_tells (C : Cx G p s m args meth c RX3 cX3_tells 10 none) {b0 : Nat} {b1 : Nat} {V1 : Mem} {n1 : Nat} {rw0 : Mem} (hd01 : b0 + 43 ≤ b1 ∨ b1 + 22 ≤ b0) (hn1 : n1 < 12) : ∀ (v0 : Mem) (i2 : Int32) (j3 : Int64), fX3_tells V1 n1 v0 i2 j3 = some rw0 → ∀ (H : Heap) (locs : List Loc) (ls : Array Slot), rg G b0 43 (shX3 G.2.1) v0 H → rg G b1 22 (shX1 G.2.1) V1 H → va_S (FA (iv b0 43) s.heap.size) s.heap H locs → H.size = s.heap.size → lv_has ls 10 [(0, .ref b0), (1, .ref (b0 + (7 + 3 * n1 + 0))), (2, .int i2), (3, .long j3), (5, .ref b1)] → W p l e (rmT 1 0 0 25) s m args below meth c H locs 0 0 (MQ below (QcT (FA (iv b0 43) s.heap.size) (fun ov H => ov = none ∧ rg G b0 43 (shX3 G.2.1) rw0 H ∧ H.size = s.heap.size)) args s 0 0 (FA (iv b0 43) s.heap.size)) (F0 m 0 ls []) := by
  intro v0 i2 j3 hm H locs ls hW0 hW1 hS hz hl
  obtain ⟨hx, hb, hr, hlk, hml, hown, hts, hK⟩ := id C
  unfold fX3_tells at hm
  refine lv_aload_n (pc := 0) hx hb dX3_tells_0 rfl (lv_at hl 0 rfl) ?_
  refine lv_iload_n (pc := 1) hx hb dX3_tells_1 rfl (lv_at hl 2 rfl) ?_
  obtain ⟨r1, hq2, hm⟩ := ob_some hm
  refine rk_PV (pc := 2) (As := [.int i2]) (rest := []) hx hb hml hown hts hK lkX3_129 rfl yn_X3_isPack (ct_X3_isPack (G := G) (l := l) (b0 := b0) hq2) ⟨Nat.le_of_ble_eq_true rfl, Nat.le_of_ble_eq_true rfl⟩ (rk_recv hK hW0 0 (by decide) rfl rfl rfl) hW0 rfl rfl hl.1 (Nat.le_of_ble_eq_true rfl) dX3_tells_2 ⟨Nat.zero_le _, Nat.zero_le _⟩ ?_
  refine W.eq (g2 := F0 m 5 ls [.int r1]) rfl ?_
  refine lv_if_eq (pc := 5) (tgt := 16) hx hb dX3_tells_5 (by decide) (fun c3 => ?_) (fun c3 => ?_)
  · have hm := ite_t c3 hm
    refine lv_iload_n (pc := 16) hx hb dX3_tells_16 rfl (lv_at hl 2 rfl) ?_
    refine lv_bipush (pc := 17) (v := (20 : Int32)) hx hb dX3_tells_17 (by decide) ?_
    refine lv_icmp_ge (pc := 19) (tgt := 26) hx hb dX3_tells_19 (by decide) (fun c4 => ?_) (fun c4 => ?_)
    · have hm := ite_t c4 hm
      refine lv_iconst (pc := 26) (v := (0 : Int32)) hx hb dX3_tells_26 (by decide) ?_
      exact (w_fX3_tells_27 C hd01 hn1) v0 i2 j3 (0 : Int32) hm H locs ls hW0 hW1 hS hz (lv_sub hl [0, 1, 2, 3, 4] rfl)
    · have hm := ite_f c4 hm
      refine lv_iconst (pc := 22) (v := (1 : Int32)) hx hb dX3_tells_22 (by decide) ?_
      refine lv_goto (pc := 23) (tgt := 27) hx hb dX3_tells_23 (by decide) ?_
      exact (w_fX3_tells_27 C hd01 hn1) v0 i2 j3 (1 : Int32) hm H locs ls hW0 hW1 hS hz (lv_sub hl [0, 1, 2, 3, 4] rfl)
  · have hm := ite_f c3 hm
    refine lv_aload_n (pc := 8) hx hb dX3_tells_8 rfl (lv_at hl 1 rfl) ?_
    refine lv_lload_n (pc := 9) hx hb dX3_tells_9 rfl (lv_at hl 3 rfl) ?_
    refine lv_iload_n (pc := 10) hx hb dX3_tells_10 rfl (lv_at hl 2 rfl) ?_
    refine lv_lconst (pc := 11) (v := (1 : Int64)) hx hb dX3_tells_11 (by decide) ?_
    obtain ⟨w5, hq6, hm⟩ := ob_some hm
    refine rk_TV (pc := 12) (As := [.long j3, .int i2, .long (1 : Int64)]) (rest := []) (mc := 0) (ms := 0) hx hb hml hown hts hK hS (fun q hq => FA_sz rfl q hq) lkX3_133 rfl yn_X4_gets (ct_X4_gets (G := G) (l := l) (b0 := (b0 + (7 + 3 * n1 + 0))) (sz := H.size) hq6) ⟨Nat.le_of_ble_eq_true rfl, Nat.le_of_ble_eq_true rfl⟩ (fun z h => Or.inl (show iv _ _ _ from ⟨by have h8 := h.1; have h9 := h.2; omega, by have h8 := h.1; have h9 := h.2; omega⟩)) (rk_recv hK hW0 (7 + 3 * n1 + 0) (by omega) rfl rfl ((shX3_f7 G.2.1 hn1 _ rfl 0 (by decide) _ _ _).trans rfl)) (rg_sub (d := (7 + 3 * n1)) hW0 rfl (by omega) (fun o ho x y z => shX3_f7 G.2.1 hn1 _ rfl o ho x y z)) rfl rfl hl.1 (Nat.le_of_ble_eq_true rfl) dX3_tells_12 ⟨Nat.zero_le _, Nat.zero_le _⟩ (fun ov9 H7 locs8 hP9 hkp10 hS11 => ?_)
    obtain ⟨rfl, hW12, hz13⟩ := hP9
    have hW14 := rg_keepA hW1 hkp10 (by intro z h1 h2 h3; have h8 := h3.1; have h9 := h3.2; omega)
    have hW15 := rg_put (d := (7 + 3 * n1)) hW0 hW12 rfl (fun o ho x y z => shX3_f7 G.2.1 hn1 _ rfl o ho x y z) hkp10
    obtain ⟨v0_16, he9, hm⟩ := lm_some hm
    rw [he9] at hW15
    have hz17 := hz13.trans hz
    refine W.eq (g2 := F0 m 15 ls []) rfl ?_
    have e9 := rs1 hm
    subst e9
    exact rk_vret (pc := 15) hx hb hr hlk hS11 ⟨rfl, hW15, hz17⟩ dX3_tells_15
set_option maxHeartbeats 4000000 in
theorem ct_X3_tells {G : Gv} {l : Launch} {b0 : Nat} {b1 : Nat} {V1 : Mem} {n1 : Nat} {v0 : Mem} {i2 : Int32} {j3 : Int64} {rw0 : Mem} {sz : Nat} (hm : fX3_tells V1 n1 v0 i2 j3 = some rw0) (hd01 : b0 + 43 ≤ b1 ∨ b1 + 22 ≤ b0) (hn1 : n1 < 12) : CT G l yX3_tells (ws_ yX3_tells cX3_tells 10 none) 1 0 0 25 [.ref b0, .ref (b0 + (7 + 3 * n1 + 0)), .int i2, .long j3, .ref b1] (iv b0 43) sz (fun H => rg G b0 43 (shX3 G.2.1) v0 H ∧ rg G b1 22 (shX1 G.2.1) V1 H) (fun ov H => ov = none ∧ rg G b0 43 (shX3 G.2.1) rw0 H ∧ H.size = sz) := by
  refine Met.ofW (cc := cX3_tells) (maxL := 10) (ret := none) (by decide +kernel) rfl ?_
  intro p e s m args below meth c s₁ B hml hv
  obtain ⟨rfl, ⟨hz, hW0, hW1⟩, hK⟩ := hv
  subst hz
  have hts := atoms_spec (ws := ws_ yX3_tells cX3_tells 10 none) B.pre
  have hts : ∀ w ∈ lw_all, w.before _ s = true := fun w h => hts w (List.mem_cons_of_mem _ h)
  have C : Cx G p s m _ meth c RX3 cX3_tells 10 none := ⟨B.exec, B.bytes, B.returns, B.notSynchronized, hml, findClass_of_methodNamed B.named, hts, hK⟩
  have hl := lv_entry ([.ref b0, .ref (b0 + (7 + 3 * n1 + 0)), .int i2, .long j3, .ref b1]) (n := 10) (Nat.le_of_ble_eq_true rfl)
  rw [lg_entry_eq]
  generalize (lg_sl ([.ref b0, .ref (b0 + (7 + 3 * n1 + 0)), .int i2, .long j3, .ref b1]) ++ List.replicate (10 - (lg_sl ([.ref b0, .ref (b0 + (7 + 3 * n1 + 0)), .int i2, .long j3, .ref b1])).length) Slot.unset).toArray = ls at hl ⊢
  have hl : lv_has ls 10 [(0, .ref b0), (1, .ref (b0 + (7 + 3 * n1 + 0))), (2, .int i2), (3, .long j3), (5, .ref b1)] := hl
  exact w_fX3_tells C hd01 hn1 _ _ _ hm s.heap [] ls hW0 hW1 va_S.rf rfl hl
theorem yn_X4_begins : YN yX4_begins 0 := by
  unfold YN
  decide +kernel
theorem lkX3_141 : LV RX3 141 RX4 yX4_begins cX4_begins 2 none := ⟨q863, q864, q865, q118, q866⟩
theorem fnX3_144 : FN RX3 144 4 2 RX4 TX4 4 "WholePacks" := ⟨in_X4, rfl, by decide, q259⟩
theorem lkX3_145 : LSt RX3 145 yJ7_floorDiv cJ7_floorDiv 6 (some .long) := ⟨q871, q872, q136, q873⟩
theorem yn_X4_isSmall : YN yX4_isSmall 0 := by
  unfold YN
  decide +kernel
theorem lkX3_161 : LV RX3 161 RX4 yX4_isSmall cX4_isSmall 3 (some .boolean) := ⟨q881, q882, q883, q118, q884⟩
theorem lkX3_158 : LSt RX3 158 yJ7_floorMod cJ7_floorMod 6 (some .long) := ⟨q878, q879, q136, q880⟩
theorem yn_X3_tells : YN yX3_tells 4 := by
  unfold YN
  decide +kernel
theorem lkX3_151 : LV RX3 151 RX3 yX3_tells cX3_tells 10 none := ⟨q874, q876, qs21, q117, q877⟩
theorem fnX3_155 : FN RX3 155 4 3 RX4 TX4 4 "WholePacks" := ⟨in_X4, rfl, by decide, q262⟩
noncomputable def fX3_cuts_198 (V1 : Mem) (k198 : Mem → Nat → Int32 → Int32 → Int32 → Option (Bool × Int32 × Nat × Mem)) (v0 : Mem) (zc : Nat) (i1 : Int32) (i4 : Int32) (i5 : Int32) : Option (Bool × Int32 × Nat × Mem) :=
  if (gI v0 0 0) ≤ i5 then (
  lm (sI v0 0 3 ((gI v0 0 3) + (1 : Int32))) fun v0_136 =>
  some (true, (0 : Int32), zc, v0_136))
  else (
  ob (fX3_entry v0 i1 i5) fun r146 =>
  ob (fJ7_floorMod r146 (gL v0 0 4)) fun r148 =>
  ob (fX3_puts v0 i4 i5 (-r148)) fun w150 =>
  k198 w150 zc i1 i4 (i5 + (1 : Int32)))
noncomputable def fX3_cuts_130 (V1 : Mem) (k54 : Mem → Nat → Int32 → Nat → Int32 → Option (Bool × Int32 × Nat × Mem)) (v0 : Mem) (zc : Nat) (i1 : Int32) (n3 : Nat) (i4 : Int32) (ns0 : Nat) (t1 : Int32) : Option (Bool × Int32 × Nat × Mem) :=
  ob (fX3_entry v0 i1 i4) fun r120 =>
  ob (fJ7_floorMod r120 (gL v0 0 4)) fun r122 =>
  gb (inR t1 20) (
  lm (sL v0 (7 + 3 * ns0 + 2) t1.toNatClampNeg r122) fun v0_125 =>
  k54 v0_125 zc i1 n3 (i4 + (1 : Int32)))
noncomputable def fX3_cuts_54 (V1 : Mem) (k54 : Mem → Nat → Int32 → Nat → Int32 → Option (Bool × Int32 × Nat × Mem)) (v0 : Mem) (zc : Nat) (i1 : Int32) (n3 : Nat) (i4 : Int32) : Option (Bool × Int32 × Nat × Mem) :=
  if (gI v0 0 0) ≤ i4 then (
  ob (fX4_isSmall (shf v0 (7 + 3 * n3))) fun r56 =>
  if r56 = 0 then (
  some (false, (-6 : Int32), (zc + 1), v0))
  else (
  gb (inR i1 30) (
  ob (fJ7_floorMod (gL v0 2 i1.toNatClampNeg) (gL v0 0 4)) fun r60 =>
  ob2 (fX3_rowComes v0 ((20 : Int32) + (gI v0 0 3)) (-r60)) fun r62 w63 =>
  lq5 (fX3_cuts_198 V1) FU w63 zc i1 r62 (0 : Int32))))
  else (
  gb (inR i4 5) (
  ob (fX3_entry v0 i1 i4) fun r100 =>
  ob (fJ7_floorDiv r100 (gL v0 0 4)) fun r102 =>
  ob (fX3_tells V1 n3 v0 (gI v0 5 i4.toNatClampNeg) r102) fun w104 =>
  ob (fX3_isPack w104 (gI v0 5 i4.toNatClampNeg)) fun r116 =>
  if r116 = 0 then (
  if (20 : Int32) ≤ (gI v0 5 i4.toNatClampNeg) then (
  fX3_cuts_130 V1 k54 w104 zc i1 n3 i4 n3 (((8 : Int32) + (gI v0 5 i4.toNatClampNeg)) - (20 : Int32)))
  else (
  fX3_cuts_130 V1 k54 w104 zc i1 n3 i4 n3 ((gI v0 5 i4.toNatClampNeg) - (10 : Int32))))
  else (
  k54 w104 zc i1 n3 (i4 + (1 : Int32)))))
noncomputable def fX3_cuts (V1 : Mem) (v0 : Mem) (i1 : Int32) : Option (Bool × Int32 × Nat × Mem) :=
  gb (inR (gI v0 0 3) 12) (
  ob (fX4_begins (shf v0 (7 + 3 * (gI v0 0 3).toNatClampNeg))) fun w3 =>
  lm (ptm v0 (7 + 3 * (gI v0 0 3).toNatClampNeg) 3 w3) fun v0_14 =>
  lm (sL v0_14 (7 + 3 * (gI v0 0 3).toNatClampNeg + 0) 2 (gL v0_14 0 4)) fun v0_17 =>
  gb (inR i1 30) (
  ob (fX4_gets (shf v0_17 (7 + 3 * (gI v0 0 3).toNatClampNeg)) (1 : Int64) (gI v0_17 4 i1.toNatClampNeg) (1 : Int64)) fun w28 =>
  lm (ptm v0_17 (7 + 3 * (gI v0 0 3).toNatClampNeg) 3 w28) fun v0_39 =>
  gb (inR i1 30) (
  ob (fJ7_floorDiv (gL v0_39 2 i1.toNatClampNeg) (gL v0_39 0 4)) fun r43 =>
  lm (sL v0_39 (7 + 3 * (gI v0 0 3).toNatClampNeg + 0) 1 r43) fun v0_45 =>
  lq5 (fX3_cuts_54 V1) FU v0_45 0 i1 (gI v0 0 3).toNatClampNeg (0 : Int32))))
set_option maxHeartbeats 4000000 in
theorem w_fX3_cuts_198 (C : Cx G p s m args meth c RX3 cX3_cuts 6 none) {b0 : Nat} {b1 : Nat} {V1 : Mem} {rok : Bool} {re : Int32} {rc : Nat} {rw0 : Mem} (hd01 : b0 + 43 ≤ b1 ∨ b1 + 22 ≤ b0) (he0 : b0 + 43 ≤ s.heap.size) (he1 : b1 + 22 ≤ s.heap.size) (hZ : ZQ G) (hgb0 : gB G ≤ b0) (hgb1 : gB G ≤ b1) (ht : ∀ x ∈ c.exceptionTable.toList, False) {k198 : Mem → Nat → Int32 → Int32 → Int32 → Option (Bool × Int32 × Nat × Mem)} (hk198 : ∀ (v0 : Mem) (zc : Nat) (i1 : Int32) (i4 : Int32) (i5 : Int32), k198 v0 zc i1 i4 i5 = some (rok, re, rc, rw0) → ∀ (H : Heap) (locs : List Loc) (ls : Array Slot), rg G b0 43 (shX3 G.2.1) v0 H → rg G b1 22 (shX1 G.2.1) V1 H → va_S (FA (iv b0 43) s.heap.size) s.heap H locs → H.size = s.heap.size + zc → GO G H → lv_has ls 6 [(0, .ref b0), (1, .int i1), (4, .int i4), (5, .int i5)] → W p l e (rmT 4 (bif rok then 0 else 1) (bif rok then 0 else 7) 81) s m args below meth c H locs 0 0 (vx_MQ below (QcX rok (FA (iv b0 43) s.heap.size) (fun ov H => ov = none ∧ rg G b0 43 (shX3 G.2.1) rw0 H ∧ H.size = s.heap.size + rc)) (XcX rok (FA (iv b0 43) s.heap.size) (fun q E H => E = "WholePacks$Stuck" ∧ s.heap.size ≤ q ∧ (∃ wx, rg G q 1 (shX13 G.2.1) wx H ∧ gI wx 0 6 = re) ∧ rg G b0 43 (shX3 G.2.1) rw0 H ∧ H.size = s.heap.size + rc)) args s (bif rok then 0 else 1) (bif rok then 0 else 7) (FA (iv b0 43) s.heap.size)) (F0 m 198 ls [])) : ∀ (v0 : Mem) (zc : Nat) (i1 : Int32) (i4 : Int32) (i5 : Int32), fX3_cuts_198 V1 k198 v0 zc i1 i4 i5 = some (rok, re, rc, rw0) → ∀ (H : Heap) (locs : List Loc) (ls : Array Slot), rg G b0 43 (shX3 G.2.1) v0 H → rg G b1 22 (shX1 G.2.1) V1 H → va_S (FA (iv b0 43) s.heap.size) s.heap H locs → H.size = s.heap.size + zc → GO G H → lv_has ls 6 [(0, .ref b0), (1, .int i1), (4, .int i4), (5, .int i5)] → W p l e (rmT 4 (bif rok then 0 else 1) (bif rok then 0 else 7) 81) s m args below meth c H locs 0 0 (vx_MQ below (QcX rok (FA (iv b0 43) s.heap.size) (fun ov H => ov = none ∧ rg G b0 43 (shX3 G.2.1) rw0 H ∧ H.size = s.heap.size + rc)) (XcX rok (FA (iv b0 43) s.heap.size) (fun q E H => E = "WholePacks$Stuck" ∧ s.heap.size ≤ q ∧ (∃ wx, rg G q 1 (shX13 G.2.1) wx H ∧ gI wx 0 6 = re) ∧ rg G b0 43 (shX3 G.2.1) rw0 H ∧ H.size = s.heap.size + rc)) args s (bif rok then 0 else 1) (bif rok then 0 else 7) (FA (iv b0 43) s.heap.size)) (F0 m 198 ls []) := by
  intro v0 zc i1 i4 i5 hm H locs ls hW0 hW1 hS hz hG hl
  obtain ⟨hx, hb, hr, hlk, hml, hown, hts, hK⟩ := id C
  unfold fX3_cuts_198 at hm
  refine lv_iload (pc := 198) hx hb dX3_cuts_198 (lv_at hl 3 rfl) ?_
  refine lv_aload_n (pc := 200) hx hb dX3_cuts_200 rfl (lv_at hl 0 rfl) ?_
  refine rk_get (pc := 201) hx hb hts hown hK hW0 flX3_44 0 (by decide) rfl rfl (x := .int (gI v0 0 0)) rfl dX3_cuts_201 ?_
  refine lv_icmp_ge (pc := 204) (tgt := 236) hx hb dX3_cuts_204 (by decide) (fun c135 => ?_) (fun c135 => ?_)
  · have hm := ite_t c135 hm
    refine lv_aload_n (pc := 236) hx hb dX3_cuts_236 rfl (lv_at hl 0 rfl) ?_
    refine lv_dup (pc := 237) hx hb dX3_cuts_237 rfl ?_
    refine rk_get (pc := 238) hx hb hts hown hK hW0 flX3_48 0 (by decide) rfl rfl (x := .int (gI v0 0 3)) rfl dX3_cuts_238 ?_
    refine lv_iconst (pc := 241) (v := (1 : Int32)) hx hb dX3_cuts_241 (by decide) ?_
    refine lv_iadd (pc := 242) hx hb dX3_cuts_242 ?_
    refine rk_put (pc := 243) hx hb hts hown hK hW0 hS flX3_48 ft_X3 0 (by decide) rfl (Or.inl (show iv _ _ _ from ⟨by omega, by omega⟩)) rfl rfl (x := .int ((gI v0 0 3) + (1 : Int32))) rfl rfl (Nat.le_of_ble_eq_true rfl) (sI v0 0 3 ((gI v0 0 3) + (1 : Int32))) sI_ne (by rw [sI_eq]; exact rfl) dX3_cuts_243 (fun H137 locs138 hW139 hS140 hz141 hkp142 => ?_)
    obtain ⟨v0_136, he9, hm⟩ := lm_some hm
    rw [he9] at hW139
    have hW143 := rg_keepq hW1 hkp142 (by omega)
    have hz144 := hz141.trans hz
    have hG145 := GO_keepq hG hkp142 (by omega)
    obtain ⟨e6, e7, e8, e9⟩ := rs4 hm
    cases e6
    subst e7
    subst e8
    subst e9
    exact rk_vretX (pc := 246) hx hb hr hlk hS140 ⟨rfl, hW139, hz144⟩ dX3_cuts_246 (by exact Nat.le_of_ble_eq_true rfl) (by exact Nat.le_of_ble_eq_true rfl)
  · have hm := ite_f c135 hm
    refine lv_aload_n (pc := 207) hx hb dX3_cuts_207 rfl (lv_at hl 0 rfl) ?_
    refine lv_iload (pc := 208) hx hb dX3_cuts_208 (lv_at hl 2 rfl) ?_
    refine lv_iload (pc := 210) hx hb dX3_cuts_210 (lv_at hl 3 rfl) ?_
    refine lv_aload_n (pc := 212) hx hb dX3_cuts_212 rfl (lv_at hl 0 rfl) ?_
    refine lv_iload_n (pc := 213) hx hb dX3_cuts_213 rfl (lv_at hl 1 rfl) ?_
    refine lv_iload (pc := 214) hx hb dX3_cuts_214 (lv_at hl 3 rfl) ?_
    obtain ⟨r146, hq147, hm⟩ := ob_some hm
    refine rk_PV (pc := 216) (As := [.int i1, .int i5]) (rest := [.int i5, .int i4, .ref b0]) hx hb hml hown hts hK lkX3_88 rfl yn_X3_entry (ct_X3_entry (G := G) (l := l) (b0 := b0) hq147) ⟨Nat.le_of_ble_eq_true rfl, Nat.le_of_ble_eq_true rfl⟩ (rk_recv hK hW0 0 (by decide) rfl rfl rfl) hW0 rfl rfl hl.1 (Nat.le_of_ble_eq_true rfl) dX3_cuts_216 ⟨Nat.zero_le _, Nat.zero_le _⟩ ?_
    refine W.eq (g2 := F0 m 219 ls [.long r146, .int i5, .int i4, .ref b0]) rfl ?_
    refine lv_aload_n (pc := 219) hx hb dX3_cuts_219 rfl (lv_at hl 0 rfl) ?_
    refine rk_get (pc := 220) hx hb hts hown hK hW0 flX3_51 0 (by decide) rfl rfl (x := .long (gL v0 0 4)) rfl dX3_cuts_220 ?_
    obtain ⟨r148, hq149, hm⟩ := ob_some hm
    refine rk_PS (pc := 223) (As := [.long r146, .long (gL v0 0 4)]) (rest := [.int i5, .int i4, .ref b0]) hx hb hml hown hts hK lkX3_158 yn_J7_floorMod (ct_J7_floorMod (G := G) (l := l) hq149) ⟨Nat.le_of_ble_eq_true rfl, Nat.le_of_ble_eq_true rfl⟩ trivial rfl rfl hl.1 (Nat.le_of_ble_eq_true rfl) dX3_cuts_223 ⟨Nat.zero_le _, Nat.zero_le _⟩ ?_
    refine W.eq (g2 := F0 m 226 ls [.long r148, .int i5, .int i4, .ref b0]) rfl ?_
    refine lv_lneg (pc := 226) hx hb dX3_cuts_226 ?_
    obtain ⟨w150, hq151, hm⟩ := ob_some hm
    refine rk_TV (pc := 227) (As := [.int i4, .int i5, .long (-r148)]) (rest := []) (mc := 0) (ms := 0) hx hb hml hown hts hK hS (fun q hq => FA_sz rfl q hq) lkX3_82 rfl yn_X3_puts (ct_X3_puts (G := G) (l := l) (b0 := b0) (sz := H.size) hq151) ⟨Nat.le_of_ble_eq_true rfl, Nat.le_of_ble_eq_true rfl⟩ (fun z h => Or.inl (show iv _ _ _ from ⟨by have h8 := h.1; have h9 := h.2; omega, by have h8 := h.1; have h9 := h.2; omega⟩)) (rk_recv hK hW0 0 (by decide) rfl rfl rfl) hW0 rfl rfl hl.1 (Nat.le_of_ble_eq_true rfl) dX3_cuts_227 ⟨Nat.zero_le _, Nat.zero_le _⟩ (fun ov9 H152 locs153 hP154 hkp155 hS156 => ?_)
    obtain ⟨rfl, hW157, hz158⟩ := hP154
    have hW159 := rg_keepA hW1 hkp155 (by intro z h1 h2 h3; have h8 := h3.1; have h9 := h3.2; omega)
    have hG160 := GO_keepA hG hkp155 (Nat.le_trans (show gB G ≤ s.heap.size by omega) hS.1) (by intro z h3; have h8 := h3.1; have h9 := h3.2; omega)
    have hz161 := hz158.trans hz
    refine W.eq (g2 := F0 m 230 ls []) rfl ?_
    refine lv_iinc (pc := 230) (v := (i5 + (1 : Int32))) (lv' := [(5, .int (i5 + (1 : Int32))), (0, .ref b0), (1, .int i1), (4, .int i4)]) hx hb dX3_cuts_230 hl (k := 3) rfl rfl (by decide) rfl (fun ls hl => ?_)
    refine lv_goto (pc := 233) (tgt := 198) hx hb dX3_cuts_233 (by decide) ?_
    exact hk198 w150 zc i1 i4 (i5 + (1 : Int32)) hm H152 locs153 ls hW157 hW159 hS156 hz161 hG160 (lv_sub hl [1, 2, 3, 0] rfl)
theorem w_fX3_cuts_198_l (C : Cx G p s m args meth c RX3 cX3_cuts 6 none) {b0 : Nat} {b1 : Nat} {V1 : Mem} {rok : Bool} {re : Int32} {rc : Nat} {rw0 : Mem} (hd01 : b0 + 43 ≤ b1 ∨ b1 + 22 ≤ b0) (he0 : b0 + 43 ≤ s.heap.size) (he1 : b1 + 22 ≤ s.heap.size) (hZ : ZQ G) (hgb0 : gB G ≤ b0) (hgb1 : gB G ≤ b1) (ht : ∀ x ∈ c.exceptionTable.toList, False) : ∀ (n : Nat) (v0 : Mem) (zc : Nat) (i1 : Int32) (i4 : Int32) (i5 : Int32), lq5 (fX3_cuts_198 V1) n v0 zc i1 i4 i5 = some (rok, re, rc, rw0) → ∀ (H : Heap) (locs : List Loc) (ls : Array Slot), rg G b0 43 (shX3 G.2.1) v0 H → rg G b1 22 (shX1 G.2.1) V1 H → va_S (FA (iv b0 43) s.heap.size) s.heap H locs → H.size = s.heap.size + zc → GO G H → lv_has ls 6 [(0, .ref b0), (1, .int i1), (4, .int i4), (5, .int i5)] → W p l e (rmT 4 (bif rok then 0 else 1) (bif rok then 0 else 7) 81) s m args below meth c H locs 0 0 (vx_MQ below (QcX rok (FA (iv b0 43) s.heap.size) (fun ov H => ov = none ∧ rg G b0 43 (shX3 G.2.1) rw0 H ∧ H.size = s.heap.size + rc)) (XcX rok (FA (iv b0 43) s.heap.size) (fun q E H => E = "WholePacks$Stuck" ∧ s.heap.size ≤ q ∧ (∃ wx, rg G q 1 (shX13 G.2.1) wx H ∧ gI wx 0 6 = re) ∧ rg G b0 43 (shX3 G.2.1) rw0 H ∧ H.size = s.heap.size + rc)) args s (bif rok then 0 else 1) (bif rok then 0 else 7) (FA (iv b0 43) s.heap.size)) (F0 m 198 ls []) := by
  intro n
  induction n with
  | zero => intro v0 zc i1 i4 i5 hm; exact (lq5_0 hm).elim
  | succ n ih => intro v0 zc i1 i4 i5 hm; exact w_fX3_cuts_198 C hd01 he0 he1 hZ hgb0 hgb1 ht ih v0 zc i1 i4 i5 (lq5_s hm)
set_option maxHeartbeats 4000000 in
theorem w_fX3_cuts_130 (C : Cx G p s m args meth c RX3 cX3_cuts 6 none) {b0 : Nat} {b1 : Nat} {V1 : Mem} {rok : Bool} {re : Int32} {rc : Nat} {rw0 : Mem} (hd01 : b0 + 43 ≤ b1 ∨ b1 + 22 ≤ b0) (he0 : b0 + 43 ≤ s.heap.size) (he1 : b1 + 22 ≤ s.heap.size) (hZ : ZQ G) (hgb0 : gB G ≤ b0) (hgb1 : gB G ≤ b1) (ht : ∀ x ∈ c.exceptionTable.toList, False) {k54 : Mem → Nat → Int32 → Nat → Int32 → Option (Bool × Int32 × Nat × Mem)} (hk54 : ∀ (v0 : Mem) (zc : Nat) (i1 : Int32) (n3 : Nat) (i4 : Int32), k54 v0 zc i1 n3 i4 = some (rok, re, rc, rw0) → (hn_n3 : n3 < 12) → ∀ (H : Heap) (locs : List Loc) (ls : Array Slot), rg G b0 43 (shX3 G.2.1) v0 H → rg G b1 22 (shX1 G.2.1) V1 H → va_S (FA (iv b0 43) s.heap.size) s.heap H locs → H.size = s.heap.size + zc → GO G H → lv_has ls 6 [(0, .ref b0), (1, .int i1), (2, .ref b1), (3, .ref (b0 + (7 + 3 * n3 + 0))), (4, .int i4)] → W p l e (rmT 4 (bif rok then 0 else 1) (bif rok then 0 else 7) 81) s m args below meth c H locs 0 0 (vx_MQ below (QcX rok (FA (iv b0 43) s.heap.size) (fun ov H => ov = none ∧ rg G b0 43 (shX3 G.2.1) rw0 H ∧ H.size = s.heap.size + rc)) (XcX rok (FA (iv b0 43) s.heap.size) (fun q E H => E = "WholePacks$Stuck" ∧ s.heap.size ≤ q ∧ (∃ wx, rg G q 1 (shX13 G.2.1) wx H ∧ gI wx 0 6 = re) ∧ rg G b0 43 (shX3 G.2.1) rw0 H ∧ H.size = s.heap.size + rc)) args s (bif rok then 0 else 1) (bif rok then 0 else 7) (FA (iv b0 43) s.heap.size)) (F0 m 54 ls [])) : ∀ (v0 : Mem) (zc : Nat) (i1 : Int32) (n3 : Nat) (i4 : Int32) (ns0 : Nat) (t1 : Int32), fX3_cuts_130 V1 k54 v0 zc i1 n3 i4 ns0 t1 = some (rok, re, rc, rw0) → (hn_n3 : n3 < 12) → (hn_ns0 : ns0 < 12) → ∀ (H : Heap) (locs : List Loc) (ls : Array Slot), rg G b0 43 (shX3 G.2.1) v0 H → rg G b1 22 (shX1 G.2.1) V1 H → va_S (FA (iv b0 43) s.heap.size) s.heap H locs → H.size = s.heap.size + zc → GO G H → lv_has ls 6 [(0, .ref b0), (1, .int i1), (2, .ref b1), (3, .ref (b0 + (7 + 3 * n3 + 0))), (4, .int i4)] → W p l e (rmT 4 (bif rok then 0 else 1) (bif rok then 0 else 7) 81) s m args below meth c H locs 0 0 (vx_MQ below (QcX rok (FA (iv b0 43) s.heap.size) (fun ov H => ov = none ∧ rg G b0 43 (shX3 G.2.1) rw0 H ∧ H.size = s.heap.size + rc)) (XcX rok (FA (iv b0 43) s.heap.size) (fun q E H => E = "WholePacks$Stuck" ∧ s.heap.size ≤ q ∧ (∃ wx, rg G q 1 (shX13 G.2.1) wx H ∧ gI wx 0 6 = re) ∧ rg G b0 43 (shX3 G.2.1) rw0 H ∧ H.size = s.heap.size + rc)) args s (bif rok then 0 else 1) (bif rok then 0 else 7) (FA (iv b0 43) s.heap.size)) (F0 m 130 ls [.int t1, .ref (b0 + (7 + 3 * ns0 + 2))]) := by
  intro v0 zc i1 n3 i4 ns0 t1 hm hn_n3 hn_ns0 H locs ls hW0 hW1 hS hz hG hl
  obtain ⟨hx, hb, hr, hlk, hml, hown, hts, hK⟩ := id C
  unfold fX3_cuts_130 at hm
  refine lv_aload_n (pc := 130) hx hb dX3_cuts_130 rfl (lv_at hl 0 rfl) ?_
  refine lv_iload_n (pc := 131) hx hb dX3_cuts_131 rfl (lv_at hl 1 rfl) ?_
  refine lv_iload (pc := 132) hx hb dX3_cuts_132 (lv_at hl 4 rfl) ?_
  obtain ⟨r120, hq121, hm⟩ := ob_some hm
  refine rk_PV (pc := 134) (As := [.int i1, .int i4]) (rest := [.int t1, .ref (b0 + (7 + 3 * ns0 + 2))]) hx hb hml hown hts hK lkX3_88 rfl yn_X3_entry (ct_X3_entry (G := G) (l := l) (b0 := b0) hq121) ⟨Nat.le_of_ble_eq_true rfl, Nat.le_of_ble_eq_true rfl⟩ (rk_recv hK hW0 0 (by decide) rfl rfl rfl) hW0 rfl rfl hl.1 (Nat.le_of_ble_eq_true rfl) dX3_cuts_134 ⟨Nat.zero_le _, Nat.zero_le _⟩ ?_
  refine W.eq (g2 := F0 m 137 ls [.long r120, .int t1, .ref (b0 + (7 + 3 * ns0 + 2))]) rfl ?_
  refine lv_aload_n (pc := 137) hx hb dX3_cuts_137 rfl (lv_at hl 0 rfl) ?_
  refine rk_get (pc := 138) hx hb hts hown hK hW0 flX3_51 0 (by decide) rfl rfl (x := .long (gL v0 0 4)) rfl dX3_cuts_138 ?_
  obtain ⟨r122, hq123, hm⟩ := ob_some hm
  refine rk_PS (pc := 141) (As := [.long r120, .long (gL v0 0 4)]) (rest := [.int t1, .ref (b0 + (7 + 3 * ns0 + 2))]) hx hb hml hown hts hK lkX3_158 yn_J7_floorMod (ct_J7_floorMod (G := G) (l := l) hq123) ⟨Nat.le_of_ble_eq_true rfl, Nat.le_of_ble_eq_true rfl⟩ trivial rfl rfl hl.1 (Nat.le_of_ble_eq_true rfl) dX3_cuts_141 ⟨Nat.zero_le _, Nat.zero_le _⟩ ?_
  refine W.eq (g2 := F0 m 144 ls [.long r122, .int t1, .ref (b0 + (7 + 3 * ns0 + 2))]) rfl ?_
  obtain ⟨hg124, hm⟩ := gb_some hm
  refine rk_last (pc := 144) hx hb hK hW0 hS (7 + 3 * ns0 + 2) (by omega) rfl (Or.inl (show iv _ _ _ from ⟨by omega, by omega⟩)) (fun _ _ _ => ((shX3_f7 G.2.1 hn_ns0 _ rfl 2 (by decide) _ _ _).trans rfl)) hg124 dX3_cuts_144 (fun H126 locs127 hW128 hS129 hz130 hkp131 => ?_)
  obtain ⟨v0_125, he9, hm⟩ := lm_some hm
  rw [he9] at hW128
  have hW132 := rg_keepq hW1 hkp131 (by omega)
  have hz133 := hz130.trans hz
  have hG134 := GO_keepq hG hkp131 (by omega)
  refine lv_iinc (pc := 145) (v := (i4 + (1 : Int32))) (lv' := [(4, .int (i4 + (1 : Int32))), (0, .ref b0), (1, .int i1), (2, .ref b1), (3, .ref (b0 + (7 + 3 * n3 + 0)))]) hx hb dX3_cuts_145 hl (k := 4) rfl rfl (by decide) rfl (fun ls hl => ?_)
  refine lv_goto (pc := 148) (tgt := 54) hx hb dX3_cuts_148 (by decide) ?_
  exact hk54 v0_125 zc i1 n3 (i4 + (1 : Int32)) hm hn_n3 H126 locs127 ls hW128 hW132 hS129 hz133 hG134 (lv_sub hl [1, 2, 3, 4, 0] rfl)
set_option maxHeartbeats 4000000 in
theorem w_fX3_cuts_54 (C : Cx G p s m args meth c RX3 cX3_cuts 6 none) {b0 : Nat} {b1 : Nat} {V1 : Mem} {rok : Bool} {re : Int32} {rc : Nat} {rw0 : Mem} (hd01 : b0 + 43 ≤ b1 ∨ b1 + 22 ≤ b0) (he0 : b0 + 43 ≤ s.heap.size) (he1 : b1 + 22 ≤ s.heap.size) (hZ : ZQ G) (hgb0 : gB G ≤ b0) (hgb1 : gB G ≤ b1) (ht : ∀ x ∈ c.exceptionTable.toList, False) {k54 : Mem → Nat → Int32 → Nat → Int32 → Option (Bool × Int32 × Nat × Mem)} (hk54 : ∀ (v0 : Mem) (zc : Nat) (i1 : Int32) (n3 : Nat) (i4 : Int32), k54 v0 zc i1 n3 i4 = some (rok, re, rc, rw0) → (hn_n3 : n3 < 12) → ∀ (H : Heap) (locs : List Loc) (ls : Array Slot), rg G b0 43 (shX3 G.2.1) v0 H → rg G b1 22 (shX1 G.2.1) V1 H → va_S (FA (iv b0 43) s.heap.size) s.heap H locs → H.size = s.heap.size + zc → GO G H → lv_has ls 6 [(0, .ref b0), (1, .int i1), (2, .ref b1), (3, .ref (b0 + (7 + 3 * n3 + 0))), (4, .int i4)] → W p l e (rmT 4 (bif rok then 0 else 1) (bif rok then 0 else 7) 81) s m args below meth c H locs 0 0 (vx_MQ below (QcX rok (FA (iv b0 43) s.heap.size) (fun ov H => ov = none ∧ rg G b0 43 (shX3 G.2.1) rw0 H ∧ H.size = s.heap.size + rc)) (XcX rok (FA (iv b0 43) s.heap.size) (fun q E H => E = "WholePacks$Stuck" ∧ s.heap.size ≤ q ∧ (∃ wx, rg G q 1 (shX13 G.2.1) wx H ∧ gI wx 0 6 = re) ∧ rg G b0 43 (shX3 G.2.1) rw0 H ∧ H.size = s.heap.size + rc)) args s (bif rok then 0 else 1) (bif rok then 0 else 7) (FA (iv b0 43) s.heap.size)) (F0 m 54 ls [])) : ∀ (v0 : Mem) (zc : Nat) (i1 : Int32) (n3 : Nat) (i4 : Int32), fX3_cuts_54 V1 k54 v0 zc i1 n3 i4 = some (rok, re, rc, rw0) → (hn_n3 : n3 < 12) → ∀ (H : Heap) (locs : List Loc) (ls : Array Slot), rg G b0 43 (shX3 G.2.1) v0 H → rg G b1 22 (shX1 G.2.1) V1 H → va_S (FA (iv b0 43) s.heap.size) s.heap H locs → H.size = s.heap.size + zc → GO G H → lv_has ls 6 [(0, .ref b0), (1, .int i1), (2, .ref b1), (3, .ref (b0 + (7 + 3 * n3 + 0))), (4, .int i4)] → W p l e (rmT 4 (bif rok then 0 else 1) (bif rok then 0 else 7) 81) s m args below meth c H locs 0 0 (vx_MQ below (QcX rok (FA (iv b0 43) s.heap.size) (fun ov H => ov = none ∧ rg G b0 43 (shX3 G.2.1) rw0 H ∧ H.size = s.heap.size + rc)) (XcX rok (FA (iv b0 43) s.heap.size) (fun q E H => E = "WholePacks$Stuck" ∧ s.heap.size ≤ q ∧ (∃ wx, rg G q 1 (shX13 G.2.1) wx H ∧ gI wx 0 6 = re) ∧ rg G b0 43 (shX3 G.2.1) rw0 H ∧ H.size = s.heap.size + rc)) args s (bif rok then 0 else 1) (bif rok then 0 else 7) (FA (iv b0 43) s.heap.size)) (F0 m 54 ls []) := by
  intro v0 zc i1 n3 i4 hm hn_n3 H locs ls hW0 hW1 hS hz hG hl
  obtain ⟨hx, hb, hr, hlk, hml, hown, hts, hK⟩ := id C
  unfold fX3_cuts_54 at hm
  refine lv_iload (pc := 54) hx hb dX3_cuts_54 (lv_at hl 4 rfl) ?_
  refine lv_aload_n (pc := 56) hx hb dX3_cuts_56 rfl (lv_at hl 0 rfl) ?_
  refine rk_get (pc := 57) hx hb hts hown hK hW0 flX3_44 0 (by decide) rfl rfl (x := .int (gI v0 0 0)) rfl dX3_cuts_57 ?_
  refine lv_icmp_ge (pc := 60) (tgt := 151) hx hb dX3_cuts_60 (by decide) (fun c55 => ?_) (fun c55 => ?_)
  · have hm := ite_t c55 hm
    refine lv_aload_n (pc := 151) hx hb dX3_cuts_151 rfl (lv_at hl 3 rfl) ?_
    obtain ⟨r56, hq57, hm⟩ := ob_some hm
    refine rk_PV (pc := 152) (As := []) (rest := []) hx hb hml hown hts hK lkX3_161 rfl yn_X4_isSmall (ct_X4_isSmall (G := G) (l := l) (b0 := (b0 + (7 + 3 * n3 + 0))) hq57) ⟨Nat.le_of_ble_eq_true rfl, Nat.le_of_ble_eq_true rfl⟩ (rk_recv hK hW0 (7 + 3 * n3 + 0) (by omega) rfl rfl ((shX3_f7 G.2.1 hn_n3 _ rfl 0 (by decide) _ _ _).trans rfl)) (rg_sub (d := (7 + 3 * n3)) hW0 rfl (by omega) (fun o ho x y z => shX3_f7 G.2.1 hn_n3 _ rfl o ho x y z)) rfl rfl hl.1 (Nat.le_of_ble_eq_true rfl) dX3_cuts_152 ⟨Nat.zero_le _, Nat.zero_le _⟩ ?_
    refine W.eq (g2 := F0 m 155 ls [.int r56]) rfl ?_
    refine lv_if_ne (pc := 155) (tgt := 168) hx hb dX3_cuts_155 (by decide) (fun c58 => ?_) (fun c58 => ?_)
    · have hm := ite_f c58 hm
      refine lv_aload_n (pc := 168) hx hb dX3_cuts_168 rfl (lv_at hl 0 rfl) ?_
      refine lv_bipush (pc := 169) (v := (20 : Int32)) hx hb dX3_cuts_169 (by decide) ?_
      refine lv_aload_n (pc := 171) hx hb dX3_cuts_171 rfl (lv_at hl 0 rfl) ?_
      refine rk_get (pc := 172) hx hb hts hown hK hW0 flX3_48 0 (by decide) rfl rfl (x := .int (gI v0 0 3)) rfl dX3_cuts_172 ?_
      refine lv_iadd (pc := 175) hx hb dX3_cuts_175 ?_
      refine lv_aload_n (pc := 176) hx hb dX3_cuts_176 rfl (lv_at hl 0 rfl) ?_
      refine rk_get (pc := 177) hx hb hts hown hK hW0 flX3_15 0 (by decide) rfl rfl (x := .ref (b0 + 2)) (by first | rfl | exact congrArg (fun z => some (Value.ref z)) (by omega)) dX3_cuts_177 ?_
      refine lv_iload_n (pc := 180) hx hb dX3_cuts_180 rfl (lv_at hl 1 rfl) ?_
      obtain ⟨hg59, hm⟩ := gb_some hm
      refine rk_lald (pc := 181) hx hb hK hW0 2 (by decide) rfl rfl hg59 (x := (gL v0 2 i1.toNatClampNeg)) rfl dX3_cuts_181 ?_
      refine lv_aload_n (pc := 182) hx hb dX3_cuts_182 rfl (lv_at hl 0 rfl) ?_
      refine rk_get (pc := 183) hx hb hts hown hK hW0 flX3_51 0 (by decide) rfl rfl (x := .long (gL v0 0 4)) rfl dX3_cuts_183 ?_
      obtain ⟨r60, hq61, hm⟩ := ob_some hm
      refine rk_PS (pc := 186) (As := [.long (gL v0 2 i1.toNatClampNeg), .long (gL v0 0 4)]) (rest := [.int ((20 : Int32) + (gI v0 0 3)), .ref b0]) hx hb hml hown hts hK lkX3_158 yn_J7_floorMod (ct_J7_floorMod (G := G) (l := l) hq61) ⟨Nat.le_of_ble_eq_true rfl, Nat.le_of_ble_eq_true rfl⟩ trivial rfl rfl hl.1 (Nat.le_of_ble_eq_true rfl) dX3_cuts_186 ⟨Nat.zero_le _, Nat.zero_le _⟩ ?_
      refine W.eq (g2 := F0 m 189 ls [.long r60, .int ((20 : Int32) + (gI v0 0 3)), .ref b0]) rfl ?_
      refine lv_lneg (pc := 189) hx hb dX3_cuts_189 ?_
      obtain ⟨r62, w63, hq64, hm⟩ := ob2_some hm
      refine rk_TV (pc := 190) (As := [.int ((20 : Int32) + (gI v0 0 3)), .long (-r60)]) (rest := []) (mc := 0) (ms := 0) hx hb hml hown hts hK hS (fun q hq => FA_sz rfl q hq) lkX3_74 rfl yn_X3_rowComes (ct_X3_rowComes (G := G) (l := l) (b0 := b0) (sz := H.size) hq64) ⟨Nat.le_of_ble_eq_true rfl, Nat.le_of_ble_eq_true rfl⟩ (fun z h => Or.inl (show iv _ _ _ from ⟨by have h8 := h.1; have h9 := h.2; omega, by have h8 := h.1; have h9 := h.2; omega⟩)) (rk_recv hK hW0 0 (by decide) rfl rfl rfl) hW0 rfl rfl hl.1 (Nat.le_of_ble_eq_true rfl) dX3_cuts_190 ⟨Nat.zero_le _, Nat.zero_le _⟩ (fun ov9 H65 locs66 hP67 hkp68 hS69 => ?_)
      obtain ⟨rfl, hW70, hz71⟩ := hP67
      have hW72 := rg_keepA hW1 hkp68 (by intro z h1 h2 h3; have h8 := h3.1; have h9 := h3.2; omega)
      have hG73 := GO_keepA hG hkp68 (Nat.le_trans (show gB G ≤ s.heap.size by omega) hS.1) (by intro z h3; have h8 := h3.1; have h9 := h3.2; omega)
      have hz74 := hz71.trans hz
      refine W.eq (g2 := F0 m 193 ls [.int r62]) rfl ?_
      refine lv_istore (pc := 193) (lv' := [(4, .int r62), (0, .ref b0), (1, .int i1), (2, .ref b1), (3, .ref (b0 + (7 + 3 * n3 + 0)))]) hx hb dX3_cuts_193 hl (by decide) rfl (fun ls hl => ?_)
      refine lv_iconst (pc := 195) (v := (0 : Int32)) hx hb dX3_cuts_195 (by decide) ?_
      refine lv_istore (pc := 196) (lv' := [(5, .int (0 : Int32)), (4, .int r62), (0, .ref b0), (1, .int i1), (2, .ref b1), (3, .ref (b0 + (7 + 3 * n3 + 0)))]) hx hb dX3_cuts_196 hl (by decide) rfl (fun ls hl => ?_)
      exact (w_fX3_cuts_198_l C hd01 he0 he1 hZ hgb0 hgb1 ht FU) w63 zc i1 r62 (0 : Int32) hm H65 locs66 ls hW70 hW72 hS69 hz74 hG73 (lv_sub hl [2, 3, 1, 0] rfl)
    · have hm := ite_t c58 hm
      obtain ⟨h75, hh75⟩ : ∃ h, H.size = h := ⟨_, rfl⟩
      have hqh75 : s.heap.size ≤ h75 := Nat.le_trans hS.1 (Nat.le_of_eq hh75)
      have hok9 : false = rok := (by exact (rs4 hm).1)
      subst hok9
      refine rk_new (pc := 158) (h := h75) (sh := (shX13 G.2.1)) hx hb hts hown hK hS in_X13 ft_X13 rfl q776 q817 q135 hh75 rfl (df_X13 _ rfl) (Nat.le_of_ble_eq_true rfl) (Nat.le_of_ble_eq_true rfl) dX3_cuts_158 (fun H76 hW78 hS79 hz80 hkp81 => ?_)
      have hW82 := rg_keepN hW0 hh75 hkp81
      have hW83 := rg_keepN hW1 hh75 hkp81
      have hz84 : H76.size = s.heap.size + (zc + 1) := by omega
      have hG85 := GO_keepN hG (by omega) hkp81
      refine lv_dup (pc := 161) hx hb dX3_cuts_161 rfl ?_
      refine lv_bipush (pc := 162) (v := (-6 : Int32)) hx hb dX3_cuts_162 (by decide) ?_
      refine rk_TI (pc := 164) (As := [.int (-6 : Int32)]) (rest := [.ref h75]) (mc := 0) (ms := 0) hx hb hml hown hts hK hS79 (fun q hq => FA_sz rfl q hq) lkX3_110 yn_X13_init (ct_X13_init (G := G) (l := l) (b0 := h75) (v0 := mz) (i1 := (-6 : Int32)) (sz := H76.size) hZ (by omega)) ⟨Nat.le_of_ble_eq_true rfl, Nat.le_of_ble_eq_true rfl⟩ (fun z h9 => Or.inr (show s.heap.size ≤ z by have := h9.1; omega)) ⟨hW78, hG85⟩ rfl rfl hl.1 (Nat.le_of_ble_eq_true rfl) dX3_cuts_164 ⟨Nat.le_of_ble_eq_true rfl, Nat.le_of_ble_eq_true rfl⟩ (fun ov9 H86 locs87 hP88 hkp89 hS90 => ?_)
      obtain ⟨rfl, ⟨wx91, hW92, hre93⟩, hz94⟩ := hP88
      have hW95 := rg_keepA hW82 hkp89 (by intro z h1 h2 h3; have h8 := h3.1; have h9 := h3.2; omega)
      have hW96 := rg_keepA hW83 hkp89 (by intro z h1 h2 h3; have h8 := h3.1; have h9 := h3.2; omega)
      have hG97 := GO_keepA hG85 hkp89 (Nat.le_trans (show gB G ≤ s.heap.size by omega) hS79.1) (by intro z h3; have h8 := h3.1; have h9 := h3.2; omega)
      have hz98 := hz94.trans hz84
      refine W.eq (g2 := F0 m 167 ls [.ref h75]) rfl ?_
      refine vx_athrow (pc := 167) hx hb dX3_cuts_167 ?_
      obtain ⟨ce8, hce8, hcv8, hcl8⟩ := rk_exc hK hW92 rfl rfl
      obtain ⟨e6, e7, e8, e9⟩ := rs4 hm
      cases e6
      subst e7
      subst e8
      subst e9
      exact rk_xout (fun x h => (ht x h).elim) hlk hS90 hce8 hcv8 hcl8 ⟨rfl, hqh75, ⟨_, hW92, hre93⟩, hW95, hz98⟩ (by exact Nat.le_of_ble_eq_true rfl) (by exact Nat.le_of_ble_eq_true rfl)
  · have hm := ite_f c55 hm
    refine lv_aload_n (pc := 63) hx hb dX3_cuts_63 rfl (lv_at hl 0 rfl) ?_
    refine rk_get (pc := 64) hx hb hts hown hK hW0 flX3_25 0 (by decide) rfl rfl (x := .ref (b0 + 5)) (by first | rfl | exact congrArg (fun z => some (Value.ref z)) (by omega)) dX3_cuts_64 ?_
    refine lv_iload (pc := 67) hx hb dX3_cuts_67 (lv_at hl 4 rfl) ?_
    obtain ⟨hg99, hm⟩ := gb_some hm
    refine rk_iald (pc := 69) hx hb hK hW0 5 (by decide) rfl rfl hg99 (x := (gI v0 5 i4.toNatClampNeg)) rfl dX3_cuts_69 ?_
    refine lv_istore (pc := 70) (lv' := [(5, .int (gI v0 5 i4.toNatClampNeg)), (0, .ref b0), (1, .int i1), (2, .ref b1), (3, .ref (b0 + (7 + 3 * n3 + 0))), (4, .int i4)]) hx hb dX3_cuts_70 hl (by decide) rfl (fun ls hl => ?_)
    refine lv_aload_n (pc := 72) hx hb dX3_cuts_72 rfl (lv_at hl 1 rfl) ?_
    refine lv_aload_n (pc := 73) hx hb dX3_cuts_73 rfl (lv_at hl 4 rfl) ?_
    refine lv_iload (pc := 74) hx hb dX3_cuts_74 (lv_at hl 0 rfl) ?_
    refine lv_aload_n (pc := 76) hx hb dX3_cuts_76 rfl (lv_at hl 1 rfl) ?_
    refine lv_iload_n (pc := 77) hx hb dX3_cuts_77 rfl (lv_at hl 2 rfl) ?_
    refine lv_iload (pc := 78) hx hb dX3_cuts_78 (lv_at hl 5 rfl) ?_
    obtain ⟨r100, hq101, hm⟩ := ob_some hm
    refine rk_PV (pc := 80) (As := [.int i1, .int i4]) (rest := [.int (gI v0 5 i4.toNatClampNeg), .ref (b0 + (7 + 3 * n3 + 0)), .ref b0]) hx hb hml hown hts hK lkX3_88 rfl yn_X3_entry (ct_X3_entry (G := G) (l := l) (b0 := b0) hq101) ⟨Nat.le_of_ble_eq_true rfl, Nat.le_of_ble_eq_true rfl⟩ (rk_recv hK hW0 0 (by decide) rfl rfl rfl) hW0 rfl rfl hl.1 (Nat.le_of_ble_eq_true rfl) dX3_cuts_80 ⟨Nat.zero_le _, Nat.zero_le _⟩ ?_
    refine W.eq (g2 := F0 m 83 ls [.long r100, .int (gI v0 5 i4.toNatClampNeg), .ref (b0 + (7 + 3 * n3 + 0)), .ref b0]) rfl ?_
    refine lv_aload_n (pc := 83) hx hb dX3_cuts_83 rfl (lv_at hl 1 rfl) ?_
    refine rk_get (pc := 84) hx hb hts hown hK hW0 flX3_51 0 (by decide) rfl rfl (x := .long (gL v0 0 4)) rfl dX3_cuts_84 ?_
    obtain ⟨r102, hq103, hm⟩ := ob_some hm
    refine rk_PS (pc := 87) (As := [.long r100, .long (gL v0 0 4)]) (rest := [.int (gI v0 5 i4.toNatClampNeg), .ref (b0 + (7 + 3 * n3 + 0)), .ref b0]) hx hb hml hown hts hK lkX3_145 yn_J7_floorDiv (ct_J7_floorDiv (G := G) (l := l) hq103) ⟨Nat.le_of_ble_eq_true rfl, Nat.le_of_ble_eq_true rfl⟩ trivial rfl rfl hl.1 (Nat.le_of_ble_eq_true rfl) dX3_cuts_87 ⟨Nat.zero_le _, Nat.zero_le _⟩ ?_
    refine W.eq (g2 := F0 m 90 ls [.long r102, .int (gI v0 5 i4.toNatClampNeg), .ref (b0 + (7 + 3 * n3 + 0)), .ref b0]) rfl ?_
    refine lv_aload_n (pc := 90) hx hb dX3_cuts_90 rfl (lv_at hl 3 rfl) ?_
    obtain ⟨w104, hq105, hm⟩ := ob_some hm
    refine rk_TV (pc := 91) (As := [.ref (b0 + (7 + 3 * n3 + 0)), .int (gI v0 5 i4.toNatClampNeg), .long r102, .ref b1]) (rest := []) (mc := 0) (ms := 0) hx hb hml hown hts hK hS (fun q hq => FA_sz rfl q hq) lkX3_151 rfl yn_X3_tells (ct_X3_tells (G := G) (l := l) (b0 := b0) (b1 := b1) (sz := H.size) hq105 (by omega) hn_n3) ⟨Nat.le_of_ble_eq_true rfl, Nat.le_of_ble_eq_true rfl⟩ (fun z h => Or.inl (show iv _ _ _ from ⟨by have h8 := h.1; have h9 := h.2; omega, by have h8 := h.1; have h9 := h.2; omega⟩)) (rk_recv hK hW0 0 (by decide) rfl rfl rfl) ⟨hW0, hW1⟩ rfl rfl hl.1 (Nat.le_of_ble_eq_true rfl) dX3_cuts_91 ⟨Nat.zero_le _, Nat.zero_le _⟩ (fun ov9 H106 locs107 hP108 hkp109 hS110 => ?_)
    obtain ⟨rfl, hW111, hz112⟩ := hP108
    have hW113 := rg_keepA hW1 hkp109 (by intro z h1 h2 h3; have h8 := h3.1; have h9 := h3.2; omega)
    have hG114 := GO_keepA hG hkp109 (Nat.le_trans (show gB G ≤ s.heap.size by omega) hS.1) (by intro z h3; have h8 := h3.1; have h9 := h3.2; omega)
    have hz115 := hz112.trans hz
    refine W.eq (g2 := F0 m 94 ls []) rfl ?_
    refine lv_aload_n (pc := 94) hx hb dX3_cuts_94 rfl (lv_at hl 1 rfl) ?_
    refine lv_iload (pc := 95) hx hb dX3_cuts_95 (lv_at hl 0 rfl) ?_
    obtain ⟨r116, hq117, hm⟩ := ob_some hm
    refine rk_PV (pc := 97) (As := [.int (gI v0 5 i4.toNatClampNeg)]) (rest := []) hx hb hml hown hts hK lkX3_129 rfl yn_X3_isPack (ct_X3_isPack (G := G) (l := l) (b0 := b0) hq117) ⟨Nat.le_of_ble_eq_true rfl, Nat.le_of_ble_eq_true rfl⟩ (rk_recv hK hW111 0 (by decide) rfl rfl rfl) hW111 rfl rfl hl.1 (Nat.le_of_ble_eq_true rfl) dX3_cuts_97 ⟨Nat.zero_le _, Nat.zero_le _⟩ ?_
    refine W.eq (g2 := F0 m 100 ls [.int r116]) rfl ?_
    refine lv_if_ne (pc := 100) (tgt := 145) hx hb dX3_cuts_100 (by decide) (fun c118 => ?_) (fun c118 => ?_)
    · have hm := ite_f c118 hm
      refine lv_iinc (pc := 145) (v := (i4 + (1 : Int32))) (lv' := [(4, .int (i4 + (1 : Int32))), (5, .int (gI v0 5 i4.toNatClampNeg)), (0, .ref b0), (1, .int i1), (2, .ref b1), (3, .ref (b0 + (7 + 3 * n3 + 0)))]) hx hb dX3_cuts_145 hl (k := 5) rfl rfl (by decide) rfl (fun ls hl => ?_)
      refine lv_goto (pc := 148) (tgt := 54) hx hb dX3_cuts_148 (by decide) ?_
      exact hk54 w104 zc i1 n3 (i4 + (1 : Int32)) hm hn_n3 H106 locs107 ls hW111 hW113 hS110 hz115 hG114 (lv_sub hl [2, 3, 4, 5, 0] rfl)
    · have hm := ite_t c118 hm
      refine lv_aload_n (pc := 103) hx hb dX3_cuts_103 rfl (lv_at hl 4 rfl) ?_
      refine rk_getN (pc := 104) hx hb hts hown hK hW111 fnX3_155 (7 + 3 * n3 + 0) (by omega) rfl ((shX3_f7 G.2.1 hn_n3 _ rfl 0 (by decide) _ _ _).trans rfl) (x := .ref (b0 + (7 + 3 * n3 + 2))) (by first | rfl | exact congrArg (fun z => some (Value.ref z)) (by omega)) dX3_cuts_104 ?_
      refine lv_iload (pc := 107) hx hb dX3_cuts_107 (lv_at hl 0 rfl) ?_
      refine lv_bipush (pc := 109) (v := (20 : Int32)) hx hb dX3_cuts_109 (by decide) ?_
      refine lv_icmp_ge (pc := 111) (tgt := 122) hx hb dX3_cuts_111 (by decide) (fun c119 => ?_) (fun c119 => ?_)
      · have hm := ite_t c119 hm
        refine lv_bipush (pc := 122) (v := (8 : Int32)) hx hb dX3_cuts_122 (by decide) ?_
        refine lv_iload (pc := 124) hx hb dX3_cuts_124 (lv_at hl 0 rfl) ?_
        refine lv_iadd (pc := 126) hx hb dX3_cuts_126 ?_
        refine lv_bipush (pc := 127) (v := (20 : Int32)) hx hb dX3_cuts_127 (by decide) ?_
        refine lv_isub (pc := 129) hx hb dX3_cuts_129 ?_
        exact (w_fX3_cuts_130 C hd01 he0 he1 hZ hgb0 hgb1 ht hk54) w104 zc i1 n3 i4 n3 (((8 : Int32) + (gI v0 5 i4.toNatClampNeg)) - (20 : Int32)) hm hn_n3 hn_n3 H106 locs107 ls hW111 hW113 hS110 hz115 hG114 (lv_sub hl [1, 2, 3, 4, 5] rfl)
      · have hm := ite_f c119 hm
        refine lv_iload (pc := 114) hx hb dX3_cuts_114 (lv_at hl 0 rfl) ?_
        refine lv_bipush (pc := 116) (v := (10 : Int32)) hx hb dX3_cuts_116 (by decide) ?_
        refine lv_isub (pc := 118) hx hb dX3_cuts_118 ?_
        refine lv_goto (pc := 119) (tgt := 130) hx hb dX3_cuts_119 (by decide) ?_
        exact (w_fX3_cuts_130 C hd01 he0 he1 hZ hgb0 hgb1 ht hk54) w104 zc i1 n3 i4 n3 ((gI v0 5 i4.toNatClampNeg) - (10 : Int32)) hm hn_n3 hn_n3 H106 locs107 ls hW111 hW113 hS110 hz115 hG114 (lv_sub hl [1, 2, 3, 4, 5] rfl)
theorem w_fX3_cuts_54_l (C : Cx G p s m args meth c RX3 cX3_cuts 6 none) {b0 : Nat} {b1 : Nat} {V1 : Mem} {rok : Bool} {re : Int32} {rc : Nat} {rw0 : Mem} (hd01 : b0 + 43 ≤ b1 ∨ b1 + 22 ≤ b0) (he0 : b0 + 43 ≤ s.heap.size) (he1 : b1 + 22 ≤ s.heap.size) (hZ : ZQ G) (hgb0 : gB G ≤ b0) (hgb1 : gB G ≤ b1) (ht : ∀ x ∈ c.exceptionTable.toList, False) : ∀ (n : Nat) (v0 : Mem) (zc : Nat) (i1 : Int32) (n3 : Nat) (i4 : Int32), lq5 (fX3_cuts_54 V1) n v0 zc i1 n3 i4 = some (rok, re, rc, rw0) → (hn_n3 : n3 < 12) → ∀ (H : Heap) (locs : List Loc) (ls : Array Slot), rg G b0 43 (shX3 G.2.1) v0 H → rg G b1 22 (shX1 G.2.1) V1 H → va_S (FA (iv b0 43) s.heap.size) s.heap H locs → H.size = s.heap.size + zc → GO G H → lv_has ls 6 [(0, .ref b0), (1, .int i1), (2, .ref b1), (3, .ref (b0 + (7 + 3 * n3 + 0))), (4, .int i4)] → W p l e (rmT 4 (bif rok then 0 else 1) (bif rok then 0 else 7) 81) s m args below meth c H locs 0 0 (vx_MQ below (QcX rok (FA (iv b0 43) s.heap.size) (fun ov H => ov = none ∧ rg G b0 43 (shX3 G.2.1) rw0 H ∧ H.size = s.heap.size + rc)) (XcX rok (FA (iv b0 43) s.heap.size) (fun q E H => E = "WholePacks$Stuck" ∧ s.heap.size ≤ q ∧ (∃ wx, rg G q 1 (shX13 G.2.1) wx H ∧ gI wx 0 6 = re) ∧ rg G b0 43 (shX3 G.2.1) rw0 H ∧ H.size = s.heap.size + rc)) args s (bif rok then 0 else 1) (bif rok then 0 else 7) (FA (iv b0 43) s.heap.size)) (F0 m 54 ls []) := by
  intro n
  induction n with
  | zero => intro v0 zc i1 n3 i4 hm; exact (lq5_0 hm).elim
  | succ n ih => intro v0 zc i1 n3 i4 hm; exact w_fX3_cuts_54 C hd01 he0 he1 hZ hgb0 hgb1 ht ih v0 zc i1 n3 i4 (lq5_s hm)
set_option maxHeartbeats 4000000 in
theorem w_fX3_cuts (C : Cx G p s m args meth c RX3 cX3_cuts 6 none) {b0 : Nat} {b1 : Nat} {V1 : Mem} {rok : Bool} {re : Int32} {rc : Nat} {rw0 : Mem} (hd01 : b0 + 43 ≤ b1 ∨ b1 + 22 ≤ b0) (he0 : b0 + 43 ≤ s.heap.size) (he1 : b1 + 22 ≤ s.heap.size) (hZ : ZQ G) (hgb0 : gB G ≤ b0) (hgb1 : gB G ≤ b1) (ht : ∀ x ∈ c.exceptionTable.toList, False) : ∀ (v0 : Mem) (i1 : Int32), fX3_cuts V1 v0 i1 = some (rok, re, rc, rw0) → ∀ (H : Heap) (locs : List Loc) (ls : Array Slot), rg G b0 43 (shX3 G.2.1) v0 H → rg G b1 22 (shX1 G.2.1) V1 H → va_S (FA (iv b0 43) s.heap.size) s.heap H locs → H.size = s.heap.size + 0 → GO G H → lv_has ls 6 [(0, .ref b0), (1, .int i1), (2, .ref b1)] → W p l e (rmT 4 (bif rok then 0 else 1) (bif rok then 0 else 7) 81) s m args below meth c H locs 0 0 (vx_MQ below (QcX rok (FA (iv b0 43) s.heap.size) (fun ov H => ov = none ∧ rg G b0 43 (shX3 G.2.1) rw0 H ∧ H.size = s.heap.size + rc)) (XcX rok (FA (iv b0 43) s.heap.size) (fun q E H => E = "WholePacks$Stuck" ∧ s.heap.size ≤ q ∧ (∃ wx, rg G q 1 (shX13 G.2.1) wx H ∧ gI wx 0 6 = re) ∧ rg G b0 43 (shX3 G.2.1) rw0 H ∧ H.size = s.heap.size + rc)) args s (bif rok then 0 else 1) (bif rok then 0 else 7) (FA (iv b0 43) s.heap.size)) (F0 m 0 ls []) := by
  intro v0 i1 hm H locs ls hW0 hW1 hS hz hG hl
  obtain ⟨hx, hb, hr, hlk, hml, hown, hts, hK⟩ := id C
  unfold fX3_cuts at hm
  refine lv_aload_n (pc := 0) hx hb dX3_cuts_0 rfl (lv_at hl 0 rfl) ?_
  refine rk_get (pc := 1) hx hb hts hown hK hW0 flX3_30 0 (by decide) rfl rfl (x := .ref (b0 + 6)) (by first | rfl | exact congrArg (fun z => some (Value.ref z)) (by omega)) dX3_cuts_1 ?_
  refine lv_aload_n (pc := 4) hx hb dX3_cuts_4 rfl (lv_at hl 0 rfl) ?_
  refine rk_get (pc := 5) hx hb hts hown hK hW0 flX3_48 0 (by decide) rfl rfl (x := .int (gI v0 0 3)) rfl dX3_cuts_5 ?_
  obtain ⟨hg1, hm⟩ := gb_some hm
  have hlt2 := inR_lt hg1
  refine rk_aald (pc := 8) hx hb hK hW0 6 6 (by decide) rfl rfl rfl hg1 (x := (b0 + (7 + 3 * (gI v0 0 3).toNatClampNeg + 0))) (by first | rfl | exact congrArg some (by omega)) dX3_cuts_8 ?_
  refine lv_astore_n (pc := 9) (lv' := [(3, .ref (b0 + (7 + 3 * (gI v0 0 3).toNatClampNeg + 0))), (0, .ref b0), (1, .int i1), (2, .ref b1)]) hx hb dX3_cuts_9 rfl hl (by decide) rfl (fun ls hl => ?_)
  refine lv_aload_n (pc := 10) hx hb dX3_cuts_10 rfl (lv_at hl 0 rfl) ?_
  obtain ⟨w3, hq4, hm⟩ := ob_some hm
  refine rk_TV (pc := 11) (As := []) (rest := []) (mc := 0) (ms := 0) hx hb hml hown hts hK hS (fun q hq => FA_sz rfl q hq) lkX3_141 rfl yn_X4_begins (ct_X4_begins (G := G) (l := l) (b0 := (b0 + (7 + 3 * (gI v0 0 3).toNatClampNeg + 0))) (sz := H.size) hq4) ⟨Nat.le_of_ble_eq_true rfl, Nat.le_of_ble_eq_true rfl⟩ (fun z h => Or.inl (show iv _ _ _ from ⟨by have h8 := h.1; have h9 := h.2; omega, by have h8 := h.1; have h9 := h.2; omega⟩)) (rk_recv hK hW0 (7 + 3 * (gI v0 0 3).toNatClampNeg + 0) (by omega) rfl rfl ((shX3_f7 G.2.1 hlt2 _ rfl 0 (by decide) _ _ _).trans rfl)) (rg_sub (d := (7 + 3 * (gI v0 0 3).toNatClampNeg)) hW0 rfl (by omega) (fun o ho x y z => shX3_f7 G.2.1 hlt2 _ rfl o ho x y z)) rfl rfl hl.1 (Nat.le_of_ble_eq_true rfl) dX3_cuts_11 ⟨Nat.zero_le _, Nat.zero_le _⟩ (fun ov9 H5 locs6 hP7 hkp8 hS9 => ?_)
  obtain ⟨rfl, hW10, hz11⟩ := hP7
  have hW12 := rg_keepA hW1 hkp8 (by intro z h1 h2 h3; have h8 := h3.1; have h9 := h3.2; omega)
  have hW13 := rg_put (d := (7 + 3 * (gI v0 0 3).toNatClampNeg)) hW0 hW10 rfl (fun o ho x y z => shX3_f7 G.2.1 hlt2 _ rfl o ho x y z) hkp8
  obtain ⟨v0_14, he9, hm⟩ := lm_some hm
  rw [he9] at hW13
  have hG15 := GO_keepA hG hkp8 (Nat.le_trans (show gB G ≤ s.heap.size by omega) hS.1) (by intro z h3; have h8 := h3.1; have h9 := h3.2; omega)
  have hz16 := hz11.trans hz
  refine W.eq (g2 := F0 m 14 ls []) rfl ?_
  refine lv_aload_n (pc := 14) hx hb dX3_cuts_14 rfl (lv_at hl 0 rfl) ?_
  refine lv_aload_n (pc := 15) hx hb dX3_cuts_15 rfl (lv_at hl 1 rfl) ?_
  refine rk_get (pc := 16) hx hb hts hown hK hW13 flX3_51 0 (by decide) rfl rfl (x := .long (gL v0_14 0 4)) rfl dX3_cuts_16 ?_
  refine rk_putN (pc := 19) hx hb hts hown hK hW13 hS9 fnX3_144 ft_X4 (7 + 3 * (gI v0 0 3).toNatClampNeg + 0) (by omega) rfl (Or.inl (show iv _ _ _ from ⟨by omega, by omega⟩)) ((shX3_f7 G.2.1 hlt2 _ rfl 0 (by decide) _ _ _).trans rfl) rfl (x := .long (gL v0_14 0 4)) rfl rfl (Nat.le_of_ble_eq_true rfl) (sL v0_14 (7 + 3 * (gI v0 0 3).toNatClampNeg + 0) 2 (gL v0_14 0 4)) sL_ne (by rw [sL_eq]; exact ((shX3_f7 G.2.1 hlt2 _ rfl 0 (by decide) _ _ _).trans rfl)) dX3_cuts_19 (fun H18 locs19 hW20 hS21 hz22 hkp23 => ?_)
  obtain ⟨v0_17, he9, hm⟩ := lm_some hm
  rw [he9] at hW20
  have hW24 := rg_keepq hW12 hkp23 (by omega)
  have hz25 := hz22.trans hz16
  have hG26 := GO_keepq hG15 hkp23 (by omega)
  refine lv_aload_n (pc := 22) hx hb dX3_cuts_22 rfl (lv_at hl 0 rfl) ?_
  refine lv_lconst (pc := 23) (v := (1 : Int64)) hx hb dX3_cuts_23 (by decide) ?_
  refine lv_aload_n (pc := 24) hx hb dX3_cuts_24 rfl (lv_at hl 1 rfl) ?_
  refine rk_get (pc := 25) hx hb hts hown hK hW20 flX3_21 0 (by decide) rfl rfl (x := .ref (b0 + 4)) (by first | rfl | exact congrArg (fun z => some (Value.ref z)) (by omega)) dX3_cuts_25 ?_
  refine lv_iload_n (pc := 28) hx hb dX3_cuts_28 rfl (lv_at hl 2 rfl) ?_
  obtain ⟨hg27, hm⟩ := gb_some hm
  refine rk_iald (pc := 29) hx hb hK hW20 4 (by decide) rfl rfl hg27 (x := (gI v0_17 4 i1.toNatClampNeg)) rfl dX3_cuts_29 ?_
  refine lv_lconst (pc := 30) (v := (1 : Int64)) hx hb dX3_cuts_30 (by decide) ?_
  obtain ⟨w28, hq29, hm⟩ := ob_some hm
  refine rk_TV (pc := 31) (As := [.long (1 : Int64), .int (gI v0_17 4 i1.toNatClampNeg), .long (1 : Int64)]) (rest := []) (mc := 0) (ms := 0) hx hb hml hown hts hK hS21 (fun q hq => FA_sz rfl q hq) lkX3_133 rfl yn_X4_gets (ct_X4_gets (G := G) (l := l) (b0 := (b0 + (7 + 3 * (gI v0 0 3).toNatClampNeg + 0))) (sz := H18.size) hq29) ⟨Nat.le_of_ble_eq_true rfl, Nat.le_of_ble_eq_true rfl⟩ (fun z h => Or.inl (show iv _ _ _ from ⟨by have h8 := h.1; have h9 := h.2; omega, by have h8 := h.1; have h9 := h.2; omega⟩)) (rk_recv hK hW20 (7 + 3 * (gI v0 0 3).toNatClampNeg + 0) (by omega) rfl rfl ((shX3_f7 G.2.1 hlt2 _ rfl 0 (by decide) _ _ _).trans rfl)) (rg_sub (d := (7 + 3 * (gI v0 0 3).toNatClampNeg)) hW20 rfl (by omega) (fun o ho x y z => shX3_f7 G.2.1 hlt2 _ rfl o ho x y z)) rfl rfl hl.1 (Nat.le_of_ble_eq_true rfl) dX3_cuts_31 ⟨Nat.zero_le _, Nat.zero_le _⟩ (fun ov9 H30 locs31 hP32 hkp33 hS34 => ?_)
  obtain ⟨rfl, hW35, hz36⟩ := hP32
  have hW37 := rg_keepA hW24 hkp33 (by intro z h1 h2 h3; have h8 := h3.1; have h9 := h3.2; omega)
  have hW38 := rg_put (d := (7 + 3 * (gI v0 0 3).toNatClampNeg)) hW20 hW35 rfl (fun o ho x y z => shX3_f7 G.2.1 hlt2 _ rfl o ho x y z) hkp33
  obtain ⟨v0_39, he9, hm⟩ := lm_some hm
  rw [he9] at hW38
  have hG40 := GO_keepA hG26 hkp33 (Nat.le_trans (show gB G ≤ s.heap.size by omega) hS21.1) (by intro z h3; have h8 := h3.1; have h9 := h3.2; omega)
  have hz41 := hz36.trans hz25
  refine W.eq (g2 := F0 m 34 ls []) rfl ?_
  refine lv_aload_n (pc := 34) hx hb dX3_cuts_34 rfl (lv_at hl 0 rfl) ?_
  refine lv_aload_n (pc := 35) hx hb dX3_cuts_35 rfl (lv_at hl 1 rfl) ?_
  refine rk_get (pc := 36) hx hb hts hown hK hW38 flX3_15 0 (by decide) rfl rfl (x := .ref (b0 + 2)) (by first | rfl | exact congrArg (fun z => some (Value.ref z)) (by omega)) dX3_cuts_36 ?_
  refine lv_iload_n (pc := 39) hx hb dX3_cuts_39 rfl (lv_at hl 2 rfl) ?_
  obtain ⟨hg42, hm⟩ := gb_some hm
  refine rk_lald (pc := 40) hx hb hK hW38 2 (by decide) rfl rfl hg42 (x := (gL v0_39 2 i1.toNatClampNeg)) rfl dX3_cuts_40 ?_
  refine lv_aload_n (pc := 41) hx hb dX3_cuts_41 rfl (lv_at hl 1 rfl) ?_
  refine rk_get (pc := 42) hx hb hts hown hK hW38 flX3_51 0 (by decide) rfl rfl (x := .long (gL v0_39 0 4)) rfl dX3_cuts_42 ?_
  obtain ⟨r43, hq44, hm⟩ := ob_some hm
  refine rk_PS (pc := 45) (As := [.long (gL v0_39 2 i1.toNatClampNeg), .long (gL v0_39 0 4)]) (rest := [.ref (b0 + (7 + 3 * (gI v0 0 3).toNatClampNeg + 0))]) hx hb hml hown hts hK lkX3_145 yn_J7_floorDiv (ct_J7_floorDiv (G := G) (l := l) hq44) ⟨Nat.le_of_ble_eq_true rfl, Nat.le_of_ble_eq_true rfl⟩ trivial rfl rfl hl.1 (Nat.le_of_ble_eq_true rfl) dX3_cuts_45 ⟨Nat.zero_le _, Nat.zero_le _⟩ ?_
  refine W.eq (g2 := F0 m 48 ls [.long r43, .ref (b0 + (7 + 3 * (gI v0 0 3).toNatClampNeg + 0))]) rfl ?_
  refine rk_putN (pc := 48) hx hb hts hown hK hW38 hS34 fnX3_139 ft_X4 (7 + 3 * (gI v0 0 3).toNatClampNeg + 0) (by omega) rfl (Or.inl (show iv _ _ _ from ⟨by omega, by omega⟩)) ((shX3_f7 G.2.1 hlt2 _ rfl 0 (by decide) _ _ _).trans rfl) rfl (x := .long r43) rfl rfl (Nat.le_of_ble_eq_true rfl) (sL v0_39 (7 + 3 * (gI v0 0 3).toNatClampNeg + 0) 1 r43) sL_ne (by rw [sL_eq]; exact ((shX3_f7 G.2.1 hlt2 _ rfl 0 (by decide) _ _ _).trans rfl)) dX3_cuts_48 (fun H46 locs47 hW48 hS49 hz50 hkp51 => ?_)
  obtain ⟨v0_45, he9, hm⟩ := lm_some hm
  rw [he9] at hW48
  have hW52 := rg_keepq hW37 hkp51 (by omega)
  have hz53 := hz50.trans hz41
  have hG54 := GO_keepq hG40 hkp51 (by omega)
  refine lv_iconst (pc := 51) (v := (0 : Int32)) hx hb dX3_cuts_51 (by decide) ?_
  refine lv_istore (pc := 52) (lv' := [(4, .int (0 : Int32)), (3, .ref (b0 + (7 + 3 * (gI v0 0 3).toNatClampNeg + 0))), (0, .ref b0), (1, .int i1), (2, .ref b1)]) hx hb dX3_cuts_52 hl (by decide) rfl (fun ls hl => ?_)
  exact (w_fX3_cuts_54_l C hd01 he0 he1 hZ hgb0 hgb1 ht FU) v0_45 0 i1 (gI v0 0 3).toNatClampNeg (0 : Int32) hm hlt2 H46 locs47 ls hW48 hW52 hS49 hz53 hG54 (lv_sub hl [2, 3, 4, 1, 0] rfl)
set_option maxHeartbeats 4000000 in
theorem ct_X3_cuts {G : Gv} {l : Launch} {b0 : Nat} {b1 : Nat} {V1 : Mem} {v0 : Mem} {i1 : Int32} {rok : Bool} {re : Int32} {rc : Nat} {rw0 : Mem} {sz : Nat} (hm : fX3_cuts V1 v0 i1 = some (rok, re, rc, rw0)) (hd01 : b0 + 43 ≤ b1 ∨ b1 + 22 ≤ b0) (hZ : ZQ G) (hgb0 : gB G ≤ b0) (hgb1 : gB G ≤ b1) : CX G l yX3_cuts (ws_ yX3_cuts cX3_cuts 6 none) 4 (bif rok then 0 else 1) (bif rok then 0 else 7) 81 [.ref b0, .int i1, .ref b1] (iv b0 43) sz (fun H => rg G b0 43 (shX3 G.2.1) v0 H ∧ rg G b1 22 (shX1 G.2.1) V1 H ∧ GO G H) rok (fun ov H => ov = none ∧ rg G b0 43 (shX3 G.2.1) rw0 H ∧ H.size = sz + rc) (fun q E H => E = "WholePacks$Stuck" ∧ sz ≤ q ∧ (∃ wx, rg G q 1 (shX13 G.2.1) wx H ∧ gI wx 0 6 = re) ∧ rg G b0 43 (shX3 G.2.1) rw0 H ∧ H.size = sz + rc) := by
  refine vx_ofW (cc := cX3_cuts) (maxL := 6) (ret := none) (by decide +kernel) rfl ?_
  intro p e s m args below meth c s₁ B hml ht hv
  obtain ⟨rfl, ⟨hz, hW0, hW1, hG⟩, hK⟩ := hv
  subst hz
  have he0 := rg_end hW0 42 (by decide) rfl (fun _ _ _ => rfl)
  have he1 := rg_end hW1 21 (by decide) rfl (fun _ _ _ => rfl)
  have hts := atoms_spec (ws := ws_ yX3_cuts cX3_cuts 6 none) B.pre
  have hts : ∀ w ∈ lw_all, w.before _ s = true := fun w h => hts w (List.mem_cons_of_mem _ h)
  have C : Cx G p s m _ meth c RX3 cX3_cuts 6 none := ⟨B.exec, B.bytes, B.returns, B.notSynchronized, hml, findClass_of_methodNamed B.named, hts, hK⟩
  have hl := lv_entry ([.ref b0, .int i1, .ref b1]) (n := 6) (Nat.le_of_ble_eq_true rfl)
  rw [lg_entry_eq]
  generalize (lg_sl ([.ref b0, .int i1, .ref b1]) ++ List.replicate (6 - (lg_sl ([.ref b0, .int i1, .ref b1])).length) Slot.unset).toArray = ls at hl ⊢
  have hl : lv_has ls 6 [(0, .ref b0), (1, .int i1), (2, .ref b1)] := hl
  exact w_fX3_cuts C hd01 he0 he1 hZ hgb0 hgb1 ht _ _ hm s.heap [] ls hW0 hW1 va_S.rf rfl hG hl
theorem yn_X3_begins : YN yX3_begins 1 := by
  unfold YN
  decide +kernel
end
