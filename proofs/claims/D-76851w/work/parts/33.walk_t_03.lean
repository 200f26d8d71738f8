set_option maxRecDepth 100000
section
variable {p : Program} {l : Launch} {e : Env} {s : State} {m : MethodId} {args : Array Value} {below : List Frame} {meth : Method} {c : Code} {G : Gv}
noncomputable def fX3_lowRow_4 (V0 : Mem) (k4 : Int32 → Int32 → Option (Int32)) (i1 : Int32) (i2 : Int32) : Option (Int32) :=
  if (gI V0 0 1) ≤ i2 then (
  some i1)
  else (
  gb (inR i2 30) (
  if (0 : Int64) ≤ (gL V0 2 i2.toNatClampNeg) then (
  k4 i1 (i2 + (1 : Int32)))
  else (
  if i1 = (-1 : Int32) then (
  k4 i2 (i2 + (1 : Int32)))
  else (
  gb (inR i2 30) (
  gb (inR i1 30) (
  if (gL V0 2 i1.toNatClampNeg) ≤ (gL V0 2 i2.toNatClampNeg) then (
  k4 i1 (i2 + (1 : Int32)))
  else (
  k4 i2 (i2 + (1 : Int32)))))))))
noncomputable def fX3_lowRow (V0 : Mem) : Option (Int32) :=
  lq2 (fX3_lowRow_4 V0) FU (-1 : Int32) (0 : Int32)
set_option maxHeartbeats 4000000 in
theorem w_fX3_lowRow_4 (C : Cx G p s m args meth c RX3 cX3_lowRow 3 (some .int)) {b0 : Nat} {V0 : Mem} {rx : Int32} (hW0 : rg G b0 43 (shX3 G.2.1) V0 s.heap) {k4 : Int32 → Int32 → Option (Int32)} (hk4 : ∀ (i1 : Int32) (i2 : Int32), k4 i1 i2 = some rx → ∀ (ls : Array Slot), lv_has ls 3 [(0, .ref b0), (1, .int i1), (2, .int i2)] → W p l e (rmP 0 0) s m args below meth c s.heap [] 0 0 (MQ below (QcP (some (.int rx))) args s 0 0 (fun _ => False)) (F0 m 4 ls [])) : ∀ (i1 : Int32) (i2 : Int32), fX3_lowRow_4 V0 k4 i1 i2 = some rx → ∀ (ls : Array Slot), lv_has ls 3 [(0, .ref b0), (1, .int i1), (2, .int i2)] → W p l e (rmP 0 0) s m args below meth c s.heap [] 0 0 (MQ below (QcP (some (.int rx))) args s 0 0 (fun _ => False)) (F0 m 4 ls []) := by
  intro i1 i2 hm ls hl
  obtain ⟨hx, hb, hr, hlk, hml, hown, hts, hK⟩ := id C
  unfold fX3_lowRow_4 at hm
  refine lv_iload_n (pc := 4) hx hb dX3_lowRow_4 rfl (lv_at hl 2 rfl) ?_
  refine lv_aload_n (pc := 5) hx hb dX3_lowRow_5 rfl (lv_at hl 0 rfl) ?_
  refine rk_get (pc := 6) hx hb hts hown hK hW0 flX3_35 0 (by decide) rfl rfl (x := .int (gI V0 0 1)) rfl dX3_lowRow_6 ?_
  refine lv_icmp_ge (pc := 9) (tgt := 52) hx hb dX3_lowRow_9 (by decide) (fun c1 => ?_) (fun c1 => ?_)
  · have hm := ite_t c1 hm
    refine lv_iload_n (pc := 52) hx hb dX3_lowRow_52 rfl (lv_at hl 1 rfl) ?_
    have e9 := rs1 hm
    subst e9
    exact rk_iretP (pc := 53) hx hb hr hlk rfl dX3_lowRow_53
  · have hm := ite_f c1 hm
    refine lv_aload_n (pc := 12) hx hb dX3_lowRow_12 rfl (lv_at hl 0 rfl) ?_
    refine rk_get (pc := 13) hx hb hts hown hK hW0 flX3_15 0 (by decide) rfl rfl (x := .ref (b0 + 2)) (by first | rfl | exact congrArg (fun z => some (Value.ref z)) (by omega)) dX3_lowRow_13 ?_
    refine lv_iload_n (pc := 16) hx hb dX3_lowRow_16 rfl (lv_at hl 2 rfl) ?_
    obtain ⟨hg2, hm⟩ := gb_some hm
    refine rk_lald (pc := 17) hx hb hK hW0 2 (by decide) rfl rfl hg2 (x := (gL V0 2 i2.toNatClampNeg)) rfl dX3_lowRow_17 ?_
    refine lv_lconst (pc := 18) (v := (0 : Int64)) hx hb dX3_lowRow_18 (by decide) ?_
    refine rk_lcmp_ge (pc := 19) (tgt := 46) hx hb dX3_lowRow_19 rfl dX3_lowRow_20 (by decide) (fun c3 => ?_) (fun c3 => ?_)
    · have hm := ite_t c3 hm
      refine lv_iinc (pc := 46) (v := (i2 + (1 : Int32))) (lv' := [(2, .int (i2 + (1 : Int32))), (0, .ref b0), (1, .int i1)]) hx hb dX3_lowRow_46 hl (k := 2) rfl rfl (by decide) rfl (fun ls hl => ?_)
      refine lv_goto (pc := 49) (tgt := 4) hx hb dX3_lowRow_49 (by decide) ?_
      exact hk4 i1 (i2 + (1 : Int32)) hm ls (lv_sub hl [1, 2, 0] rfl)
    · have hm := ite_f c3 hm
      refine lv_iload_n (pc := 23) hx hb dX3_lowRow_23 rfl (lv_at hl 1 rfl) ?_
      refine lv_iconst (pc := 24) (v := (-1 : Int32)) hx hb dX3_lowRow_24 (by decide) ?_
      refine lv_icmp_eq (pc := 25) (tgt := 44) hx hb dX3_lowRow_25 (by decide) (fun c4 => ?_) (fun c4 => ?_)
      · have hm := ite_t c4 hm
        refine lv_iload_n (pc := 44) hx hb dX3_lowRow_44 rfl (lv_at hl 2 rfl) ?_
        refine lv_istore_n (pc := 45) (lv' := [(1, .int i2), (0, .ref b0), (2, .int i2)]) hx hb dX3_lowRow_45 rfl hl (by decide) rfl (fun ls hl => ?_)
        refine lv_iinc (pc := 46) (v := (i2 + (1 : Int32))) (lv' := [(2, .int (i2 + (1 : Int32))), (1, .int i2), (0, .ref b0)]) hx hb dX3_lowRow_46 hl (k := 2) rfl rfl (by decide) rfl (fun ls hl => ?_)
        refine lv_goto (pc := 49) (tgt := 4) hx hb dX3_lowRow_49 (by decide) ?_
        exact hk4 i2 (i2 + (1 : Int32)) hm ls (lv_sub hl [2, 1, 0] rfl)
      · have hm := ite_f c4 hm
        refine lv_aload_n (pc := 28) hx hb dX3_lowRow_28 rfl (lv_at hl 0 rfl) ?_
        refine rk_get (pc := 29) hx hb hts hown hK hW0 flX3_15 0 (by decide) rfl rfl (x := .ref (b0 + 2)) (by first | rfl | exact congrArg (fun z => some (Value.ref z)) (by omega)) dX3_lowRow_29 ?_
        refine lv_iload_n (pc := 32) hx hb dX3_lowRow_32 rfl (lv_at hl 2 rfl) ?_
        obtain ⟨hg5, hm⟩ := gb_some hm
        refine rk_lald (pc := 33) hx hb hK hW0 2 (by decide) rfl rfl hg5 (x := (gL V0 2 i2.toNatClampNeg)) rfl dX3_lowRow_33 ?_
        refine lv_aload_n (pc := 34) hx hb dX3_lowRow_34 rfl (lv_at hl 0 rfl) ?_
        refine rk_get (pc := 35) hx hb hts hown hK hW0 flX3_15 0 (by decide) rfl rfl (x := .ref (b0 + 2)) (by first | rfl | exact congrArg (fun z => some (Value.ref z)) (by omega)) dX3_lowRow_35 ?_
        refine lv_iload_n (pc := 38) hx hb dX3_lowRow_38 rfl (lv_at hl 1 rfl) ?_
        obtain ⟨hg6, hm⟩ := gb_some hm
        refine rk_lald (pc := 39) hx hb hK hW0 2 (by decide) rfl rfl hg6 (x := (gL V0 2 i1.toNatClampNeg)) rfl dX3_lowRow_39 ?_
        refine rk_lcmp_ge (pc := 40) (tgt := 46) hx hb dX3_lowRow_40 rfl dX3_lowRow_41 (by decide) (fun c7 => ?_) (fun c7 => ?_)
        · have hm := ite_t c7 hm
          refine lv_iinc (pc := 46) (v := (i2 + (1 : Int32))) (lv' := [(2, .int (i2 + (1 : Int32))), (0, .ref b0), (1, .int i1)]) hx hb dX3_lowRow_46 hl (k := 2) rfl rfl (by decide) rfl (fun ls hl => ?_)
          refine lv_goto (pc := 49) (tgt := 4) hx hb dX3_lowRow_49 (by decide) ?_
          exact hk4 i1 (i2 + (1 : Int32)) hm ls (lv_sub hl [1, 2, 0] rfl)
        · have hm := ite_f c7 hm
          refine lv_iload_n (pc := 44) hx hb dX3_lowRow_44 rfl (lv_at hl 2 rfl) ?_
          refine lv_istore_n (pc := 45) (lv' := [(1, .int i2), (0, .ref b0), (2, .int i2)]) hx hb dX3_lowRow_45 rfl hl (by decide) rfl (fun ls hl => ?_)
          refine lv_iinc (pc := 46) (v := (i2 + (1 : Int32))) (lv' := [(2, .int (i2 + (1 : Int32))), (1, .int i2), (0, .ref b0)]) hx hb dX3_lowRow_46 hl (k := 2) rfl rfl (by decide) rfl (fun ls hl => ?_)
          refine lv_goto (pc := 49) (tgt := 4) hx hb dX3_lowRow_49 (by decide) ?_
          exact hk4 i2 (i2 + (1 : Int32)) hm ls (lv_sub hl [2, 1, 0] rfl)
theorem w_fX3_lowRow_4_l (C : Cx G p s m args meth c RX3 cX3_lowRow 3 (some .int)) {b0 : Nat} {V0 : Mem} {rx : Int32} (hW0 : rg G b0 43 (shX3 G.2.1) V0 s.heap) : ∀ (n : Nat) (i1 : Int32) (i2 : Int32), lq2 (fX3_lowRow_4 V0) n i1 i2 = some rx → ∀ (ls : Array Slot), lv_has ls 3 [(0, .ref b0), (1, .int i1), (2, .int i2)] → W p l e (rmP 0 0) s m args below meth c s.heap [] 0 0 (MQ below (QcP (some (.int rx))) args s 0 0 (fun _ => False)) (F0 m 4 ls []) := by
  intro n
  induction n with
  | zero => intro i1 i2 hm; exact (lq2_0 hm).elim
  | succ n ih => intro i1 i2 hm; exact w_fX3_lowRow_4 C hW0 ih i1 i2 (lq2_s hm)
set_option maxHeartbeats 4000000 in
theorem w_fX3_lowRow (C : Cx G p s m args meth c RX3 cX3_lowRow 3 (some .int)) {b0 : Nat} {V0 : Mem} {rx : Int32} (hW0 : rg G b0 43 (shX3 G.2.1) V0 s.heap) : fX3_lowRow V0 = some rx → ∀ (ls : Array Slot), lv_has ls 3 [(0, .ref b0)] → W p l e (rmP 0 0) s m args below meth c s.heap [] 0 0 (MQ below (QcP (some (.int rx))) args s 0 0 (fun _ => False)) (F0 m 0 ls []) := by
  intro hm ls hl
  obtain ⟨hx, hb, hr, hlk, hml, hown, hts, hK⟩ := id C
  unfold fX3_lowRow at hm
  refine lv_iconst (pc := 0) (v := (-1 : Int32)) hx hb dX3_lowRow_0 (by decide) ?_
  refine lv_istore_n (pc := 1) (lv' := [(1, .int (-1 : Int32)), (0, .ref b0)]) hx hb dX3_lowRow_1 rfl hl (by decide) rfl (fun ls hl => ?_)
  refine lv_iconst (pc := 2) (v := (0 : Int32)) hx hb dX3_lowRow_2 (by decide) ?_
  refine lv_istore_n (pc := 3) (lv' := [(2, .int (0 : Int32)), (1, .int (-1 : Int32)), (0, .ref b0)]) hx hb dX3_lowRow_3 rfl hl (by decide) rfl (fun ls hl => ?_)
  exact (w_fX3_lowRow_4_l C hW0 FU) (-1 : Int32) (0 : Int32) hm ls (lv_sub hl [2, 1, 0] rfl)
set_option maxHeartbeats 4000000 in
theorem ct_X3_lowRow {G : Gv} {l : Launch} {b0 : Nat} {V0 : Mem} {rx : Int32} (hm : fX3_lowRow V0  = some rx) : CP G l yX3_lowRow (ws_ yX3_lowRow cX3_lowRow 3 (some .int)) 0 0 [.ref b0] (fun H => rg G b0 43 (shX3 G.2.1) V0 H) (some (.int rx)) := by
  refine Met.ofW (cc := cX3_lowRow) (maxL := 3) (ret := (some .int)) (by decide +kernel) rfl ?_
  intro p e s m args below meth c s₁ B hml hv
  obtain ⟨rfl, hW0, hK⟩ := hv
  have hts := atoms_spec (ws := ws_ yX3_lowRow cX3_lowRow 3 (some .int)) B.pre
  have hts : ∀ w ∈ lw_all, w.before _ s = true := fun w h => hts w (List.mem_cons_of_mem _ h)
  have C : Cx G p s m _ meth c RX3 cX3_lowRow 3 (some .int) := ⟨B.exec, B.bytes, B.returns, B.notSynchronized, hml, findClass_of_methodNamed B.named, hts, hK⟩
  have hl := lv_entry ([.ref b0]) (n := 3) (Nat.le_of_ble_eq_true rfl)
  rw [lg_entry_eq]
  generalize (lg_sl ([.ref b0]) ++ List.replicate (3 - (lg_sl ([.ref b0])).length) Slot.unset).toArray = ls at hl ⊢
  have hl : lv_has ls 3 [(0, .ref b0)] := hl
  exact w_fX3_lowRow C hW0  hm ls hl
noncomputable def fX3_isBetter (V0 : Mem) (i1 : Int32) (i2 : Int32) (i3 : Int32) : Option (Int32) :=
  gb (inR i2 5) (
  ob (fX3_entry V0 i1 i3) fun r2 =>
  gb (inR i3 5) (
  ob (fX3_entry V0 i1 i2) fun r5 =>
  if ((gL V0 3 i2.toNatClampNeg) * (-r2)) < ((gL V0 3 i3.toNatClampNeg) * (-r5)) then (
  some (1 : Int32))
  else (
  if ((gL V0 3 i2.toNatClampNeg) * (-r2)) = ((gL V0 3 i3.toNatClampNeg) * (-r5)) then (
  gb (inR i2 5) (
  gb (inR i3 5) (
  if (gI V0 5 i3.toNatClampNeg) ≤ (gI V0 5 i2.toNatClampNeg) then (
  some (0 : Int32))
  else (
  some (1 : Int32)))))
  else (
  some (0 : Int32)))))
set_option maxHeartbeats 4000000 in
theorem w_fX3_isBetter (C : Cx G p s m args meth c RX3 cX3_isBetter 8 (some .boolean)) {b0 : Nat} {V0 : Mem} {rx : Int32} (hW0 : rg G b0 43 (shX3 G.2.1) V0 s.heap) : ∀ (i1 : Int32) (i2 : Int32) (i3 : Int32), fX3_isBetter V0 i1 i2 i3 = some rx → ∀ (ls : Array Slot), lv_has ls 8 [(0, .ref b0), (1, .int i1), (2, .int i2), (3, .int i3)] → W p l e (rmP 1 22) s m args below meth c s.heap [] 0 0 (MQ below (QcP (some (.int rx))) args s 0 0 (fun _ => False)) (F0 m 0 ls []) := by
  intro i1 i2 i3 hm ls hl
  obtain ⟨hx, hb, hr, hlk, hml, hown, hts, hK⟩ := id C
  unfold fX3_isBetter at hm
  refine lv_aload_n (pc := 0) hx hb dX3_isBetter_0 rfl (lv_at hl 0 rfl) ?_
  refine rk_get (pc := 1) hx hb hts hown hK hW0 flX3_18 0 (by decide) rfl rfl (x := .ref (b0 + 3)) (by first | rfl | exact congrArg (fun z => some (Value.ref z)) (by omega)) dX3_isBetter_1 ?_
  refine lv_iload_n (pc := 4) hx hb dX3_isBetter_4 rfl (lv_at hl 2 rfl) ?_
  obtain ⟨hg1, hm⟩ := gb_some hm
  refine rk_lald (pc := 5) hx hb hK hW0 3 (by decide) rfl rfl hg1 (x := (gL V0 3 i2.toNatClampNeg)) rfl dX3_isBetter_5 ?_
  refine lv_aload_n (pc := 6) hx hb dX3_isBetter_6 rfl (lv_at hl 0 rfl) ?_
  refine lv_iload_n (pc := 7) hx hb dX3_isBetter_7 rfl (lv_at hl 1 rfl) ?_
  refine lv_iload_n (pc := 8) hx hb dX3_isBetter_8 rfl (lv_at hl 3 rfl) ?_
  obtain ⟨r2, hq3, hm⟩ := ob_some hm
  refine rk_PV (pc := 9) (As := [.int i1, .int i3]) (rest := [.long (gL V0 3 i2.toNatClampNeg)]) hx hb hml hown hts hK lkX3_88 rfl yn_X3_entry (ct_X3_entry (G := G) (l := l) (b0 := b0) hq3) ⟨Nat.le_of_ble_eq_true rfl, Nat.le_of_ble_eq_true rfl⟩ (rk_recv hK hW0 0 (by decide) rfl rfl rfl) hW0 rfl rfl hl.1 (Nat.le_of_ble_eq_true rfl) dX3_isBetter_9 ⟨Nat.zero_le _, Nat.zero_le _⟩ ?_
  refine W.eq (g2 := F0 m 12 ls [.long r2, .long (gL V0 3 i2.toNatClampNeg)]) rfl ?_
  refine lv_lneg (pc := 12) hx hb dX3_isBetter_12 ?_
  refine lv_lmul (pc := 13) hx hb dX3_isBetter_13 ?_
  refine lv_lstore (pc := 14) (lv' := [(4, .long ((gL V0 3 i2.toNatClampNeg) * (-r2))), (0, .ref b0), (1, .int i1), (2, .int i2), (3, .int i3)]) hx hb dX3_isBetter_14 hl (by decide) rfl (fun ls hl => ?_)
  refine lv_aload_n (pc := 16) hx hb dX3_isBetter_16 rfl (lv_at hl 1 rfl) ?_
  refine rk_get (pc := 17) hx hb hts hown hK hW0 flX3_18 0 (by decide) rfl rfl (x := .ref (b0 + 3)) (by first | rfl | exact congrArg (fun z => some (Value.ref z)) (by omega)) dX3_isBetter_17 ?_
  refine lv_iload_n (pc := 20) hx hb dX3_isBetter_20 rfl (lv_at hl 4 rfl) ?_
  obtain ⟨hg4, hm⟩ := gb_some hm
  refine rk_lald (pc := 21) hx hb hK hW0 3 (by decide) rfl rfl hg4 (x := (gL V0 3 i3.toNatClampNeg)) rfl dX3_isBetter_21 ?_
  refine lv_aload_n (pc := 22) hx hb dX3_isBetter_22 rfl (lv_at hl 1 rfl) ?_
  refine lv_iload_n (pc := 23) hx hb dX3_isBetter_23 rfl (lv_at hl 2 rfl) ?_
  refine lv_iload_n (pc := 24) hx hb dX3_isBetter_24 rfl (lv_at hl 3 rfl) ?_
  obtain ⟨r5, hq6, hm⟩ := ob_some hm
  refine rk_PV (pc := 25) (As := [.int i1, .int i2]) (rest := [.long (gL V0 3 i3.toNatClampNeg)]) hx hb hml hown hts hK lkX3_88 rfl yn_X3_entry (ct_X3_entry (G := G) (l := l) (b0 := b0) hq6) ⟨Nat.le_of_ble_eq_true rfl, Nat.le_of_ble_eq_true rfl⟩ (rk_recv hK hW0 0 (by decide) rfl rfl rfl) hW0 rfl rfl hl.1 (Nat.le_of_ble_eq_true rfl) dX3_isBetter_25 ⟨Nat.zero_le _, Nat.zero_le _⟩ ?_
  refine W.eq (g2 := F0 m 28 ls [.long r5, .long (gL V0 3 i3.toNatClampNeg)]) rfl ?_
  refine lv_lneg (pc := 28) hx hb dX3_isBetter_28 ?_
  refine lv_lmul (pc := 29) hx hb dX3_isBetter_29 ?_
  refine lv_lstore (pc := 30) (lv' := [(6, .long ((gL V0 3 i3.toNatClampNeg) * (-r5))), (4, .long ((gL V0 3 i2.toNatClampNeg) * (-r2))), (0, .ref b0), (1, .int i1), (2, .int i2), (3, .int i3)]) hx hb dX3_isBetter_30 hl (by decide) rfl (fun ls hl => ?_)
  refine lv_lload (pc := 32) hx hb dX3_isBetter_32 (lv_at hl 1 rfl) ?_
  refine lv_lload (pc := 34) hx hb dX3_isBetter_34 (lv_at hl 0 rfl) ?_
  refine rk_lcmp_lt (pc := 36) (tgt := 63) hx hb dX3_isBetter_36 rfl dX3_isBetter_37 (by decide) (fun c7 => ?_) (fun c7 => ?_)
  · have hm := ite_t c7 hm
    refine lv_iconst (pc := 63) (v := (1 : Int32)) hx hb dX3_isBetter_63 (by decide) ?_
    refine lv_goto (pc := 64) (tgt := 68) hx hb dX3_isBetter_64 (by decide) ?_
    have e9 := rs1 hm
    subst e9
    exact rk_zretP (pc := 68) hx hb hr hlk rfl rfl dX3_isBetter_68
  · have hm := ite_f c7 hm
    refine lv_lload (pc := 40) hx hb dX3_isBetter_40 (lv_at hl 1 rfl) ?_
    refine lv_lload (pc := 42) hx hb dX3_isBetter_42 (lv_at hl 0 rfl) ?_
    refine rk_lcmp_ne (pc := 44) (tgt := 67) hx hb dX3_isBetter_44 rfl dX3_isBetter_45 (by decide) (fun c8 => ?_) (fun c8 => ?_)
    · have hm := ite_f c8 hm
      refine lv_iconst (pc := 67) (v := (0 : Int32)) hx hb dX3_isBetter_67 (by decide) ?_
      have e9 := rs1 hm
      subst e9
      exact rk_zretP (pc := 68) hx hb hr hlk rfl rfl dX3_isBetter_68
    · have hm := ite_t c8 hm
      refine lv_aload_n (pc := 48) hx hb dX3_isBetter_48 rfl (lv_at hl 2 rfl) ?_
      refine rk_get (pc := 49) hx hb hts hown hK hW0 flX3_25 0 (by decide) rfl rfl (x := .ref (b0 + 5)) (by first | rfl | exact congrArg (fun z => some (Value.ref z)) (by omega)) dX3_isBetter_49 ?_
      refine lv_iload_n (pc := 52) hx hb dX3_isBetter_52 rfl (lv_at hl 4 rfl) ?_
      obtain ⟨hg9, hm⟩ := gb_some hm
      refine rk_iald (pc := 53) hx hb hK hW0 5 (by decide) rfl rfl hg9 (x := (gI V0 5 i2.toNatClampNeg)) rfl dX3_isBetter_53 ?_
      refine lv_aload_n (pc := 54) hx hb dX3_isBetter_54 rfl (lv_at hl 2 rfl) ?_
      refine rk_get (pc := 55) hx hb hts hown hK hW0 flX3_25 0 (by decide) rfl rfl (x := .ref (b0 + 5)) (by first | rfl | exact congrArg (fun z => some (Value.ref z)) (by omega)) dX3_isBetter_55 ?_
      refine lv_iload_n (pc := 58) hx hb dX3_isBetter_58 rfl (lv_at hl 5 rfl) ?_
      obtain ⟨hg10, hm⟩ := gb_some hm
      refine rk_iald (pc := 59) hx hb hK hW0 5 (by decide) rfl rfl hg10 (x := (gI V0 5 i3.toNatClampNeg)) rfl dX3_isBetter_59 ?_
      refine lv_icmp_ge (pc := 60) (tgt := 67) hx hb dX3_isBetter_60 (by decide) (fun c11 => ?_) (fun c11 => ?_)
      · have hm := ite_t c11 hm
        refine lv_iconst (pc := 67) (v := (0 : Int32)) hx hb dX3_isBetter_67 (by decide) ?_
        have e9 := rs1 hm
        subst e9
        exact rk_zretP (pc := 68) hx hb hr hlk rfl rfl dX3_isBetter_68
      · have hm := ite_f c11 hm
        refine lv_iconst (pc := 63) (v := (1 : Int32)) hx hb dX3_isBetter_63 (by decide) ?_
        refine lv_goto (pc := 64) (tgt := 68) hx hb dX3_isBetter_64 (by decide) ?_
        have e9 := rs1 hm
        subst e9
        exact rk_zretP (pc := 68) hx hb hr hlk rfl rfl dX3_isBetter_68
set_option maxHeartbeats 4000000 in
theorem ct_X3_isBetter {G : Gv} {l : Launch} {b0 : Nat} {V0 : Mem} {i1 : Int32} {i2 : Int32} {i3 : Int32} {rx : Int32} (hm : fX3_isBetter V0 i1 i2 i3 = some rx) : CP G l yX3_isBetter (ws_ yX3_isBetter cX3_isBetter 8 (some .boolean)) 1 22 [.ref b0, .int i1, .int i2, .int i3] (fun H => rg G b0 43 (shX3 G.2.1) V0 H) (some (.int rx)) := by
  refine Met.ofW (cc := cX3_isBetter) (maxL := 8) (ret := (some .boolean)) (by decide +kernel) rfl ?_
  intro p e s m args below meth c s₁ B hml hv
  obtain ⟨rfl, hW0, hK⟩ := hv
  have hts := atoms_spec (ws := ws_ yX3_isBetter cX3_isBetter 8 (some .boolean)) B.pre
  have hts : ∀ w ∈ lw_all, w.before _ s = true := fun w h => hts w (List.mem_cons_of_mem _ h)
  have C : Cx G p s m _ meth c RX3 cX3_isBetter 8 (some .boolean) := ⟨B.exec, B.bytes, B.returns, B.notSynchronized, hml, findClass_of_methodNamed B.named, hts, hK⟩
  have hl := lv_entry ([.ref b0, .int i1, .int i2, .int i3]) (n := 8) (Nat.le_of_ble_eq_true rfl)
  rw [lg_entry_eq]
  generalize (lg_sl ([.ref b0, .int i1, .int i2, .int i3]) ++ List.replicate (8 - (lg_sl ([.ref b0, .int i1, .int i2, .int i3])).length) Slot.unset).toArray = ls at hl ⊢
  have hl : lv_has ls 8 [(0, .ref b0), (1, .int i1), (2, .int i2), (3, .int i3)] := hl
  exact w_fX3_isBetter C hW0 _ _ _ hm ls hl
theorem yn_X3_isBetter : YN yX3_isBetter 3 := by
  unfold YN
  decide +kernel
theorem lkX3_113 : LV RX3 113 RX3 yX3_isBetter cX3_isBetter 8 (some .boolean) := ⟨q813, q815, qs14, q117, q816⟩
noncomputable def fX3_columnFor_4 (V0 : Mem) (k4 : Int32 → Int32 → Int32 → Option (Int32)) (i1 : Int32) (i2 : Int32) (i3 : Int32) : Option (Int32) :=
  if (gI V0 0 0) ≤ i3 then (
  some i2)
  else (
  ob (fX3_entry V0 i1 i3) fun r2 =>
  if (0 : Int64) ≤ r2 then (
  k4 i1 i2 (i3 + (1 : Int32)))
  else (
  if i2 = (-1 : Int32) then (
  k4 i1 i3 (i3 + (1 : Int32)))
  else (
  ob (fX3_isBetter V0 i1 i3 i2) fun r6 =>
  if r6 = 0 then (
  k4 i1 i2 (i3 + (1 : Int32)))
  else (
  k4 i1 i3 (i3 + (1 : Int32))))))
noncomputable def fX3_columnFor (V0 : Mem) (i1 : Int32) : Option (Int32) :=
  lq3 (fX3_columnFor_4 V0) FU i1 (-1 : Int32) (0 : Int32)
set_option maxHeartbeats 4000000 in
theorem w_fX3_columnFor_4 (C : Cx G p s m args meth c RX3 cX3_columnFor 4 (some .int)) {b0 : Nat} {V0 : Mem} {rx : Int32} (hW0 : rg G b0 43 (shX3 G.2.1) V0 s.heap) {k4 : Int32 → Int32 → Int32 → Option (Int32)} (hk4 : ∀ (i1 : Int32) (i2 : Int32) (i3 : Int32), k4 i1 i2 i3 = some rx → ∀ (ls : Array Slot), lv_has ls 4 [(0, .ref b0), (1, .int i1), (2, .int i2), (3, .int i3)] → W p l e (rmP 2 49) s m args below meth c s.heap [] 0 0 (MQ below (QcP (some (.int rx))) args s 0 0 (fun _ => False)) (F0 m 4 ls [])) : ∀ (i1 : Int32) (i2 : Int32) (i3 : Int32), fX3_columnFor_4 V0 k4 i1 i2 i3 = some rx → ∀ (ls : Array Slot), lv_has ls 4 [(0, .ref b0), (1, .int i1), (2, .int i2), (3, .int i3)] → W p l e (rmP 2 49) s m args below meth c s.heap [] 0 0 (MQ below (QcP (some (.int rx))) args s 0 0 (fun _ => False)) (F0 m 4 ls []) := by
  intro i1 i2 i3 hm ls hl
  obtain ⟨hx, hb, hr, hlk, hml, hown, hts, hK⟩ := id C
  unfold fX3_columnFor_4 at hm
  refine lv_iload_n (pc := 4) hx hb dX3_columnFor_4 rfl (lv_at hl 3 rfl) ?_
  refine lv_aload_n (pc := 5) hx hb dX3_columnFor_5 rfl (lv_at hl 0 rfl) ?_
  refine rk_get (pc := 6) hx hb hts hown hK hW0 flX3_44 0 (by decide) rfl rfl (x := .int (gI V0 0 0)) rfl dX3_columnFor_6 ?_
  refine lv_icmp_ge (pc := 9) (tgt := 46) hx hb dX3_columnFor_9 (by decide) (fun c1 => ?_) (fun c1 => ?_)
  · have hm := ite_t c1 hm
    refine lv_iload_n (pc := 46) hx hb dX3_columnFor_46 rfl (lv_at hl 2 rfl) ?_
    have e9 := rs1 hm
    subst e9
    exact rk_iretP (pc := 47) hx hb hr hlk rfl dX3_columnFor_47
  · have hm := ite_f c1 hm
    refine lv_aload_n (pc := 12) hx hb dX3_columnFor_12 rfl (lv_at hl 0 rfl) ?_
    refine lv_iload_n (pc := 13) hx hb dX3_columnFor_13 rfl (lv_at hl 1 rfl) ?_
    refine lv_iload_n (pc := 14) hx hb dX3_columnFor_14 rfl (lv_at hl 3 rfl) ?_
    obtain ⟨r2, hq3, hm⟩ := ob_some hm
    refine rk_PV (pc := 15) (As := [.int i1, .int i3]) (rest := []) hx hb hml hown hts hK lkX3_88 rfl yn_X3_entry (ct_X3_entry (G := G) (l := l) (b0 := b0) hq3) ⟨Nat.le_of_ble_eq_true rfl, Nat.le_of_ble_eq_true rfl⟩ (rk_recv hK hW0 0 (by decide) rfl rfl rfl) hW0 rfl rfl hl.1 (Nat.le_of_ble_eq_true rfl) dX3_columnFor_15 ⟨Nat.zero_le _, Nat.zero_le _⟩ ?_
    refine W.eq (g2 := F0 m 18 ls [.long r2]) rfl ?_
    refine lv_lconst (pc := 18) (v := (0 : Int64)) hx hb dX3_columnFor_18 (by decide) ?_
    refine rk_lcmp_ge (pc := 19) (tgt := 40) hx hb dX3_columnFor_19 rfl dX3_columnFor_20 (by decide) (fun c4 => ?_) (fun c4 => ?_)
    · have hm := ite_t c4 hm
      refine lv_iinc (pc := 40) (v := (i3 + (1 : Int32))) (lv' := [(3, .int (i3 + (1 : Int32))), (0, .ref b0), (1, .int i1), (2, .int i2)]) hx hb dX3_columnFor_40 hl (k := 3) rfl rfl (by decide) rfl (fun ls hl => ?_)
      refine lv_goto (pc := 43) (tgt := 4) hx hb dX3_columnFor_43 (by decide) ?_
      exact hk4 i1 i2 (i3 + (1 : Int32)) hm ls (lv_sub hl [1, 2, 3, 0] rfl)
    · have hm := ite_f c4 hm
      refine lv_iload_n (pc := 23) hx hb dX3_columnFor_23 rfl (lv_at hl 2 rfl) ?_
      refine lv_iconst (pc := 24) (v := (-1 : Int32)) hx hb dX3_columnFor_24 (by decide) ?_
      refine lv_icmp_eq (pc := 25) (tgt := 38) hx hb dX3_columnFor_25 (by decide) (fun c5 => ?_) (fun c5 => ?_)
      · have hm := ite_t c5 hm
        refine lv_iload_n (pc := 38) hx hb dX3_columnFor_38 rfl (lv_at hl 3 rfl) ?_
        refine lv_istore_n (pc := 39) (lv' := [(2, .int i3), (0, .ref b0), (1, .int i1), (3, .int i3)]) hx hb dX3_columnFor_39 rfl hl (by decide) rfl (fun ls hl => ?_)
        refine lv_iinc (pc := 40) (v := (i3 + (1 : Int32))) (lv' := [(3, .int (i3 + (1 : Int32))), (2, .int i3), (0, .ref b0), (1, .int i1)]) hx hb dX3_columnFor_40 hl (k := 3) rfl rfl (by decide) rfl (fun ls hl => ?_)
        refine lv_goto (pc := 43) (tgt := 4) hx hb dX3_columnFor_43 (by decide) ?_
        exact hk4 i1 i3 (i3 + (1 : Int32)) hm ls (lv_sub hl [2, 3, 1, 0] rfl)
      · have hm := ite_f c5 hm
        refine lv_aload_n (pc := 28) hx hb dX3_columnFor_28 rfl (lv_at hl 0 rfl) ?_
        refine lv_iload_n (pc := 29) hx hb dX3_columnFor_29 rfl (lv_at hl 1 rfl) ?_
        refine lv_iload_n (pc := 30) hx hb dX3_columnFor_30 rfl (lv_at hl 3 rfl) ?_
        refine lv_iload_n (pc := 31) hx hb dX3_columnFor_31 rfl (lv_at hl 2 rfl) ?_
        obtain ⟨r6, hq7, hm⟩ := ob_some hm
        refine rk_PV (pc := 32) (As := [.int i1, .int i3, .int i2]) (rest := []) hx hb hml hown hts hK lkX3_113 rfl yn_X3_isBetter (ct_X3_isBetter (G := G) (l := l) (b0 := b0) hq7) ⟨Nat.le_of_ble_eq_true rfl, Nat.le_of_ble_eq_true rfl⟩ (rk_recv hK hW0 0 (by decide) rfl rfl rfl) hW0 rfl rfl hl.1 (Nat.le_of_ble_eq_true rfl) dX3_columnFor_32 ⟨Nat.zero_le _, Nat.zero_le _⟩ ?_
        refine W.eq (g2 := F0 m 35 ls [.int r6]) rfl ?_
        refine lv_if_eq (pc := 35) (tgt := 40) hx hb dX3_columnFor_35 (by decide) (fun c8 => ?_) (fun c8 => ?_)
        · have hm := ite_t c8 hm
          refine lv_iinc (pc := 40) (v := (i3 + (1 : Int32))) (lv' := [(3, .int (i3 + (1 : Int32))), (0, .ref b0), (1, .int i1), (2, .int i2)]) hx hb dX3_columnFor_40 hl (k := 3) rfl rfl (by decide) rfl (fun ls hl => ?_)
          refine lv_goto (pc := 43) (tgt := 4) hx hb dX3_columnFor_43 (by decide) ?_
          exact hk4 i1 i2 (i3 + (1 : Int32)) hm ls (lv_sub hl [1, 2, 3, 0] rfl)
        · have hm := ite_f c8 hm
          refine lv_iload_n (pc := 38) hx hb dX3_columnFor_38 rfl (lv_at hl 3 rfl) ?_
          refine lv_istore_n (pc := 39) (lv' := [(2, .int i3), (0, .ref b0), (1, .int i1), (3, .int i3)]) hx hb dX3_columnFor_39 rfl hl (by decide) rfl (fun ls hl => ?_)
          refine lv_iinc (pc := 40) (v := (i3 + (1 : Int32))) (lv' := [(3, .int (i3 + (1 : Int32))), (2, .int i3), (0, .ref b0), (1, .int i1)]) hx hb dX3_columnFor_40 hl (k := 3) rfl rfl (by decide) rfl (fun ls hl => ?_)
          refine lv_goto (pc := 43) (tgt := 4) hx hb dX3_columnFor_43 (by decide) ?_
          exact hk4 i1 i3 (i3 + (1 : Int32)) hm ls (lv_sub hl [2, 3, 1, 0] rfl)
theorem w_fX3_columnFor_4_l (C : Cx G p s m args meth c RX3 cX3_columnFor 4 (some .int)) {b0 : Nat} {V0 : Mem} {rx : Int32} (hW0 : rg G b0 43 (shX3 G.2.1) V0 s.heap) : ∀ (n : Nat) (i1 : Int32) (i2 : Int32) (i3 : Int32), lq3 (fX3_columnFor_4 V0) n i1 i2 i3 = some rx → ∀ (ls : Array Slot), lv_has ls 4 [(0, .ref b0), (1, .int i1), (2, .int i2), (3, .int i3)] → W p l e (rmP 2 49) s m args below meth c s.heap [] 0 0 (MQ below (QcP (some (.int rx))) args s 0 0 (fun _ => False)) (F0 m 4 ls []) := by
  intro n
  induction n with
  | zero => intro i1 i2 i3 hm; exact (lq3_0 hm).elim
  | succ n ih => intro i1 i2 i3 hm; exact w_fX3_columnFor_4 C hW0 ih i1 i2 i3 (lq3_s hm)
set_option maxHeartbeats 4000000 in
theorem w_fX3_columnFor (C : Cx G p s m args meth c RX3 cX3_columnFor 4 (some .int)) {b0 : Nat} {V0 : Mem} {rx : Int32} (hW0 : rg G b0 43 (shX3 G.2.1) V0 s.heap) : ∀ (i1 : Int32), fX3_columnFor V0 i1 = some rx → ∀ (ls : Array Slot), lv_has ls 4 [(0, .ref b0), (1, .int i1)] → W p l e (rmP 2 49) s m args below meth c s.heap [] 0 0 (MQ below (QcP (some (.int rx))) args s 0 0 (fun _ => False)) (F0 m 0 ls []) := by
  intro i1 hm ls hl
  obtain ⟨hx, hb, hr, hlk, hml, hown, hts, hK⟩ := id C
  unfold fX3_columnFor at hm
  refine lv_iconst (pc := 0) (v := (-1 : Int32)) hx hb dX3_columnFor_0 (by decide) ?_
  refine lv_istore_n (pc := 1) (lv' := [(2, .int (-1 : Int32)), (0, .ref b0), (1, .int i1)]) hx hb dX3_columnFor_1 rfl hl (by decide) rfl (fun ls hl => ?_)
  refine lv_iconst (pc := 2) (v := (0 : Int32)) hx hb dX3_columnFor_2 (by decide) ?_
  refine lv_istore_n (pc := 3) (lv' := [(3, .int (0 : Int32)), (2, .int (-1 : Int32)), (0, .ref b0), (1, .int i1)]) hx hb dX3_columnFor_3 rfl hl (by decide) rfl (fun ls hl => ?_)
  exact (w_fX3_columnFor_4_l C hW0 FU) i1 (-1 : Int32) (0 : Int32) hm ls (lv_sub hl [2, 3, 1, 0] rfl)
set_option maxHeartbeats 4000000 in
theorem ct_X3_columnFor {G : Gv} {l : Launch} {b0 : Nat} {V0 : Mem} {i1 : Int32} {rx : Int32} (hm : fX3_columnFor V0 i1 = some rx) : CP G l yX3_columnFor (ws_ yX3_columnFor cX3_columnFor 4 (some .int)) 2 49 [.ref b0, .int i1] (fun H => rg G b0 43 (shX3 G.2.1) V0 H) (some (.int rx)) := by
  refine Met.ofW (cc := cX3_columnFor) (maxL := 4) (ret := (some .int)) (by decide +kernel) rfl ?_
  intro p e s m args below meth c s₁ B hml hv
  obtain ⟨rfl, hW0, hK⟩ := hv
  have hts := atoms_spec (ws := ws_ yX3_columnFor cX3_columnFor 4 (some .int)) B.pre
  have hts : ∀ w ∈ lw_all, w.before _ s = true := fun w h => hts w (List.mem_cons_of_mem _ h)
  have C : Cx G p s m _ meth c RX3 cX3_columnFor 4 (some .int) := ⟨B.exec, B.bytes, B.returns, B.notSynchronized, hml, findClass_of_methodNamed B.named, hts, hK⟩
  have hl := lv_entry ([.ref b0, .int i1]) (n := 4) (Nat.le_of_ble_eq_true rfl)
  rw [lg_entry_eq]
  generalize (lg_sl ([.ref b0, .int i1]) ++ List.replicate (4 - (lg_sl ([.ref b0, .int i1])).length) Slot.unset).toArray = ls at hl ⊢
  have hl : lv_has ls 4 [(0, .ref b0), (1, .int i1)] := hl
  exact w_fX3_columnFor C hW0 _ hm ls hl
theorem yn_X3_lowRow : YN yX3_lowRow 0 := by
  unfold YN
  decide +kernel
theorem lkX3_117 : LV RX3 117 RX3 yX3_lowRow cX3_lowRow 3 (some .int) := ⟨q801, q803, qs12, q117, q804⟩
theorem yn_X3_columnFor : YN yX3_columnFor 1 := by
  unfold YN
  decide +kernel
theorem lkX3_121 : LV RX3 121 RX3 yX3_columnFor cX3_columnFor 4 (some .int) := ⟨q805, q807, qs13, q117, q808⟩
theorem yn_X3_pivot : YN yX3_pivot 2 := by
  unfold YN
  decide +kernel
theorem lkX3_125 : LV RX3 125 RX3 yX3_pivot cX3_pivot 9 none := ⟨q836, q838, qs15, q117, q839⟩
noncomputable def fX3_repairs_5 (k5 : Mem → Int32 → Option (Bool × Int32 × Mem)) (v0 : Mem) (i1 : Int32) : Option (Bool × Int32 × Mem) :=
  if i1 = (-1 : Int32) then (
  some (true, (0 : Int32), v0))
  else (
  ob (fX3_columnFor v0 i1) fun r4 =>
  if r4 = (-1 : Int32) then (
  some (false, (0 : Int32), v0))
  else (
  if (gI v0 0 2) = (60 : Int32) then (
  some (false, (-6 : Int32), v0))
  else (
  ob3 (fX3_pivot v0 i1 r4) fun ok9 re10 w8 =>
  if ok9 = true then (
  ob (fX3_lowRow w8) fun r19 =>
  k5 w8 r19)
  else (
  some (false, re10, w8)))))
noncomputable def fX3_repairs (v0 : Mem) : Option (Bool × Int32 × Mem) :=
  ob (fX3_lowRow v0) fun r1 =>
  lq2 (fX3_repairs_5) FU v0 r1
set_option maxHeartbeats 4000000 in
theorem w_fX3_repairs_5 (C : Cx G p s m args meth c RX3 cX3_repairs 3 none) {b0 : Nat} {rok : Bool} {re : Int32} {rw0 : Mem} (he0 : b0 + 43 ≤ s.heap.size) (hZ : ZQ G) (hgb0 : gB G ≤ b0) (ht : ∀ x ∈ c.exceptionTable.toList, False) {k5 : Mem → Int32 → Option (Bool × Int32 × Mem)} (hk5 : ∀ (v0 : Mem) (i1 : Int32), k5 v0 i1 = some (rok, re, rw0) → ∀ (H : Heap) (locs : List Loc) (ls : Array Slot), rg G b0 43 (shX3 G.2.1) v0 H → va_S (FA (iv b0 43) s.heap.size) s.heap H locs → GO G H → lv_has ls 3 [(0, .ref b0), (1, .int i1)] → W p l e (rmT 5 (bif rok then 0 else 1) (bif rok then 0 else 7) 109) s m args below meth c H locs 0 0 (vx_MQ below (QcX rok (FA (iv b0 43) s.heap.size) (fun ov H => ov = none ∧ rg G b0 43 (shX3 G.2.1) rw0 H)) (XcX rok (FA (iv b0 43) s.heap.size) (fun q E H => E = "WholePacks$Stuck" ∧ s.heap.size ≤ q ∧ (∃ wx, rg G q 1 (shX13 G.2.1) wx H ∧ gI wx 0 6 = re) ∧ rg G b0 43 (shX3 G.2.1) rw0 H)) args s (bif rok then 0 else 1) (bif rok then 0 else 7) (FA (iv b0 43) s.heap.size)) (F0 m 5 ls [])) : ∀ (v0 : Mem) (i1 : Int32), fX3_repairs_5 k5 v0 i1 = some (rok, re, rw0) → ∀ (H : Heap) (locs : List Loc) (ls : Array Slot), rg G b0 43 (shX3 G.2.1) v0 H → va_S (FA (iv b0 43) s.heap.size) s.heap H locs → GO G H → lv_has ls 3 [(0, .ref b0), (1, .int i1)] → W p l e (rmT 5 (bif rok then 0 else 1) (bif rok then 0 else 7) 109) s m args below meth c H locs 0 0 (vx_MQ below (QcX rok (FA (iv b0 43) s.heap.size) (fun ov H => ov = none ∧ rg G b0 43 (shX3 G.2.1) rw0 H)) (XcX rok (FA (iv b0 43) s.heap.size) (fun q E H => E = "WholePacks$Stuck" ∧ s.heap.size ≤ q ∧ (∃ wx, rg G q 1 (shX13 G.2.1) wx H ∧ gI wx 0 6 = re) ∧ rg G b0 43 (shX3 G.2.1) rw0 H)) args s (bif rok then 0 else 1) (bif rok then 0 else 7) (FA (iv b0 43) s.heap.size)) (F0 m 5 ls []) := by
  intro v0 i1 hm H locs ls hW0 hS hG hl
  obtain ⟨hx, hb, hr, hlk, hml, hown, hts, hK⟩ := id C
  unfold fX3_repairs_5 at hm
  refine lv_iload_n (pc := 5) hx hb dX3_repairs_5 rfl (lv_at hl 1 rfl) ?_
  refine lv_iconst (pc := 6) (v := (-1 : Int32)) hx hb dX3_repairs_6 (by decide) ?_
  refine lv_icmp_eq (pc := 7) (tgt := 63) hx hb dX3_repairs_7 (by decide) (fun c3 => ?_) (fun c3 => ?_)
  · have hm := ite_t c3 hm
    obtain ⟨e7, e8, e9⟩ := rs3 hm
    cases e7
    subst e8
    subst e9
    exact rk_vretX (pc := 63) hx hb hr hlk hS ⟨rfl, hW0⟩ dX3_repairs_63 (by exact Nat.le_of_ble_eq_true rfl) (by exact Nat.le_of_ble_eq_true rfl)
  · have hm := ite_f c3 hm
    refine lv_aload_n (pc := 10) hx hb dX3_repairs_10 rfl (lv_at hl 0 rfl) ?_
    refine lv_iload_n (pc := 11) hx hb dX3_repairs_11 rfl (lv_at hl 1 rfl) ?_
    obtain ⟨r4, hq5, hm⟩ := ob_some hm
    refine rk_PV (pc := 12) (As := [.int i1]) (rest := []) hx hb hml hown hts hK lkX3_121 rfl yn_X3_columnFor (ct_X3_columnFor (G := G) (l := l) (b0 := b0) hq5) ⟨Nat.le_of_ble_eq_true rfl, Nat.le_of_ble_eq_true rfl⟩ (rk_recv hK hW0 0 (by decide) rfl rfl rfl) hW0 rfl rfl hl.1 (Nat.le_of_ble_eq_true rfl) dX3_repairs_12 ⟨Nat.zero_le _, Nat.zero_le _⟩ ?_
    refine W.eq (g2 := F0 m 15 ls [.int r4]) rfl ?_
    refine lv_istore_n (pc := 15) (lv' := [(2, .int r4), (0, .ref b0), (1, .int i1)]) hx hb dX3_repairs_15 rfl hl (by decide) rfl (fun ls hl => ?_)
    refine lv_iload_n (pc := 16) hx hb dX3_repairs_16 rfl (lv_at hl 0 rfl) ?_
    refine lv_iconst (pc := 17) (v := (-1 : Int32)) hx hb dX3_repairs_17 (by decide) ?_
    refine lv_icmp_ne (pc := 18) (tgt := 30) hx hb dX3_repairs_18 (by decide) (fun c6 => ?_) (fun c6 => ?_)
    · have hm := ite_f c6 hm
      refine lv_aload_n (pc := 30) hx hb dX3_repairs_30 rfl (lv_at hl 1 rfl) ?_
      refine rk_get (pc := 31) hx hb hts hown hK hW0 flX3_45 0 (by decide) rfl rfl (x := .int (gI v0 0 2)) rfl dX3_repairs_31 ?_
      refine lv_bipush (pc := 34) (v := (60 : Int32)) hx hb dX3_repairs_34 (by decide) ?_
      refine lv_icmp_ne (pc := 36) (tgt := 49) hx hb dX3_repairs_36 (by decide) (fun c7 => ?_) (fun c7 => ?_)
      · have hm := ite_f c7 hm
        refine lv_aload_n (pc := 49) hx hb dX3_repairs_49 rfl (lv_at hl 1 rfl) ?_
        refine lv_iload_n (pc := 50) hx hb dX3_repairs_50 rfl (lv_at hl 2 rfl) ?_
        refine lv_iload_n (pc := 51) hx hb dX3_repairs_51 rfl (lv_at hl 0 rfl) ?_
        obtain ⟨ok9, re10, w8, hq11, hm⟩ := ob3_some hm
        by_cases hok : ok9 = true
        · subst hok
          have hm := ite_t rfl hm
          refine rk_TV (pc := 52) (As := [.int i1, .int r4]) (rest := []) (mc := 0) (ms := 0) hx hb hml hown hts hK hS (fun q hq => FA_sz rfl q hq) lkX3_125 rfl yn_X3_pivot (CX.ret (ct_X3_pivot (G := G) (l := l) (rok := true) (b0 := b0) (sz := H.size) hq11 hZ (by omega))) ⟨Nat.le_of_ble_eq_true rfl, Nat.le_of_ble_eq_true rfl⟩ (fun z h => Or.inl (show iv _ _ _ from ⟨by have h8 := h.1; have h9 := h.2; omega, by have h8 := h.1; have h9 := h.2; omega⟩)) (rk_recv hK hW0 0 (by decide) rfl rfl rfl) ⟨hW0, hG⟩ rfl rfl hl.1 (Nat.le_of_ble_eq_true rfl) dX3_repairs_52 ⟨Nat.zero_le _, Nat.zero_le _⟩ (fun ov9 H12 locs13 hP14 hkp15 hS16 => ?_)
          obtain ⟨rfl, hW17⟩ := hP14
          have hG18 := GO_keepA hG hkp15 (Nat.le_trans (show gB G ≤ s.heap.size by omega) hS.1) (by intro z h3; have h8 := h3.1; have h9 := h3.2; omega)
          refine W.eq (g2 := F0 m 55 ls []) rfl ?_
          refine lv_aload_n (pc := 55) hx hb dX3_repairs_55 rfl (lv_at hl 1 rfl) ?_
          obtain ⟨r19, hq20, hm⟩ := ob_some hm
          refine rk_PV (pc := 56) (As := []) (rest := []) hx hb hml hown hts hK lkX3_117 rfl yn_X3_lowRow (ct_X3_lowRow (G := G) (l := l) (b0 := b0) hq20) ⟨Nat.le_of_ble_eq_true rfl, Nat.le_of_ble_eq_true rfl⟩ (rk_recv hK hW17 0 (by decide) rfl rfl rfl) hW17 rfl rfl hl.1 (Nat.le_of_ble_eq_true rfl) dX3_repairs_56 ⟨Nat.zero_le _, Nat.zero_le _⟩ ?_
          refine W.eq (g2 := F0 m 59 ls [.int r19]) rfl ?_
          refine lv_istore_n (pc := 59) (lv' := [(1, .int r19), (2, .int r4), (0, .ref b0)]) hx hb dX3_repairs_59 rfl hl (by decide) rfl (fun ls hl => ?_)
          refine lv_goto (pc := 60) (tgt := 5) hx hb dX3_repairs_60 (by decide) ?_
          exact hk5 w8 r19 hm H12 locs13 ls hW17 hS16 hG18 (lv_sub hl [2, 0] rfl)
        · have hok := eq_false_of_ne_true hok
          subst hok
          have hm := ite_f Bool.false_ne_true hm
          have hok9 : false = rok := (by exact (rs3 hm).1)
          subst hok9
          refine rk_XV (pc := 52) (As := [.int i1, .int r4]) (rest := []) (mc := 1) (ms := 7) hx hb hml hown hts hK hS (fun q hq => FA_sz rfl q hq) lkX3_125 rfl yn_X3_pivot (ct_X3_pivot (G := G) (l := l) (rok := false) (b0 := b0) (sz := H.size) hq11 hZ (by omega)) ⟨Nat.le_of_ble_eq_true rfl, Nat.le_of_ble_eq_true rfl⟩ (fun z h => Or.inl (show iv _ _ _ from ⟨by have h8 := h.1; have h9 := h.2; omega, by have h8 := h.1; have h9 := h.2; omega⟩)) (rk_recv hK hW0 0 (by decide) rfl rfl rfl) ⟨hW0, hG⟩ rfl rfl hl.1 (Nat.le_of_ble_eq_true rfl) dX3_repairs_52 ⟨Nat.le_of_ble_eq_true rfl, Nat.le_of_ble_eq_true rfl⟩ (fun q26 E9 ce9 H21 locs22 hP23 hkp24 hS25 hce9 hcv9 hcl9 => ?_)
          obtain ⟨rfl, hqq26, ⟨wx28, hW29, hre30⟩, hW27⟩ := hP23
          have hqq26 : s.heap.size ≤ q26 := Nat.le_trans hS.1 hqq26
          have hG31 := GO_keepA hG hkp24 (Nat.le_trans (show gB G ≤ s.heap.size by omega) hS.1) (by intro z h3; have h8 := h3.1; have h9 := h3.2; omega)
          obtain ⟨ce8, hce8, hcv8, hcl8⟩ := rk_exc hK hW29 rfl rfl
          obtain ⟨e7, e8, e9⟩ := rs3 hm
          cases e7
          subst e8
          subst e9
          exact rk_xout (fun x h => (ht x h).elim) hlk hS25 hce8 hcv8 hcl8 ⟨rfl, hqq26, ⟨_, hW29, hre30⟩, hW27⟩ (by exact Nat.le_of_ble_eq_true rfl) (by exact Nat.le_of_ble_eq_true rfl)
      · have hm := ite_t c7 hm
        obtain ⟨h32, hh32⟩ : ∃ h, H.size = h := ⟨_, rfl⟩
        have hqh32 : s.heap.size ≤ h32 := Nat.le_trans hS.1 (Nat.le_of_eq hh32)
        have hok9 : false = rok := (by exact (rs3 hm).1)
        subst hok9
        refine rk_new (pc := 39) (h := h32) (sh := (shX13 G.2.1)) hx hb hts hown hK hS in_X13 ft_X13 rfl q776 q817 q135 hh32 rfl (df_X13 _ rfl) (Nat.le_of_ble_eq_true rfl) (Nat.le_of_ble_eq_true rfl) dX3_repairs_39 (fun H33 hW35 hS36 hz37 hkp38 => ?_)
        have hW39 := rg_keepN hW0 hh32 hkp38
        have hG40 := GO_keepN hG (by omega) hkp38
        refine lv_dup (pc := 42) hx hb dX3_repairs_42 rfl ?_
        refine lv_bipush (pc := 43) (v := (-6 : Int32)) hx hb dX3_repairs_43 (by decide) ?_
        refine rk_TI (pc := 45) (As := [.int (-6 : Int32)]) (rest := [.ref h32]) (mc := 0) (ms := 0) hx hb hml hown hts hK hS36 (fun q hq => FA_sz rfl q hq) lkX3_110 yn_X13_init (ct_X13_init (G := G) (l := l) (b0 := h32) (v0 := mz) (i1 := (-6 : Int32)) (sz := H33.size) hZ (by omega)) ⟨Nat.le_of_ble_eq_true rfl, Nat.le_of_ble_eq_true rfl⟩ (fun z h9 => Or.inr (show s.heap.size ≤ z by have := h9.1; omega)) ⟨hW35, hG40⟩ rfl rfl hl.1 (Nat.le_of_ble_eq_true rfl) dX3_repairs_45 ⟨Nat.le_of_ble_eq_true rfl, Nat.le_of_ble_eq_true rfl⟩ (fun ov9 H41 locs42 hP43 hkp44 hS45 => ?_)
        obtain ⟨rfl, ⟨wx46, hW47, hre48⟩, hz49⟩ := hP43
        have hW50 := rg_keepA hW39 hkp44 (by intro z h1 h2 h3; have h8 := h3.1; have h9 := h3.2; omega)
        have hG51 := GO_keepA hG40 hkp44 (Nat.le_trans (show gB G ≤ s.heap.size by omega) hS36.1) (by intro z h3; have h8 := h3.1; have h9 := h3.2; omega)
        refine W.eq (g2 := F0 m 48 ls [.ref h32]) rfl ?_
        refine vx_athrow (pc := 48) hx hb dX3_repairs_48 ?_
        obtain ⟨ce8, hce8, hcv8, hcl8⟩ := rk_exc hK hW47 rfl rfl
        obtain ⟨e7, e8, e9⟩ := rs3 hm
        cases e7
        subst e8
        subst e9
        exact rk_xout (fun x h => (ht x h).elim) hlk hS45 hce8 hcv8 hcl8 ⟨rfl, hqh32, ⟨_, hW47, hre48⟩, hW50⟩ (by exact Nat.le_of_ble_eq_true rfl) (by exact Nat.le_of_ble_eq_true rfl)
    · have hm := ite_t c6 hm
      obtain ⟨h52, hh52⟩ : ∃ h, H.size = h := ⟨_, rfl⟩
      have hqh52 : s.heap.size ≤ h52 := Nat.le_trans hS.1 (Nat.le_of_eq hh52)
      have hok9 : false = rok := (by exact (rs3 hm).1)
      subst hok9
      refine rk_new (pc := 21) (h := h52) (sh := (shX13 G.2.1)) hx hb hts hown hK hS in_X13 ft_X13 rfl q776 q817 q135 hh52 rfl (df_X13 _ rfl) (Nat.le_of_ble_eq_true rfl) (Nat.le_of_ble_eq_true rfl) dX3_repairs_21 (fun H53 hW55 hS56 hz57 hkp58 => ?_)
      have hW59 := rg_keepN hW0 hh52 hkp58
      have hG60 := GO_keepN hG (by omega) hkp58
      refine lv_dup (pc := 24) hx hb dX3_repairs_24 rfl ?_
      refine lv_iconst (pc := 25) (v := (0 : Int32)) hx hb dX3_repairs_25 (by decide) ?_
      refine rk_TI (pc := 26) (As := [.int (0 : Int32)]) (rest := [.ref h52]) (mc := 0) (ms := 0) hx hb hml hown hts hK hS56 (fun q hq => FA_sz rfl q hq) lkX3_110 yn_X13_init (ct_X13_init (G := G) (l := l) (b0 := h52) (v0 := mz) (i1 := (0 : Int32)) (sz := H53.size) hZ (by omega)) ⟨Nat.le_of_ble_eq_true rfl, Nat.le_of_ble_eq_true rfl⟩ (fun z h9 => Or.inr (show s.heap.size ≤ z by have := h9.1; omega)) ⟨hW55, hG60⟩ rfl rfl hl.1 (Nat.le_of_ble_eq_true rfl) dX3_repairs_26 ⟨Nat.le_of_ble_eq_true rfl, Nat.le_of_ble_eq_true rfl⟩ (fun ov9 H61 locs62 hP63 hkp64 hS65 => ?_)
      obtain ⟨rfl, ⟨wx66, hW67, hre68⟩, hz69⟩ := hP63
      have hW70 := rg_keepA hW59 hkp64 (by intro z h1 h2 h3; have h8 := h3.1; have h9 := h3.2; omega)
      have hG71 := GO_keepA hG60 hkp64 (Nat.le_trans (show gB G ≤ s.heap.size by omega) hS56.1) (by intro z h3; have h8 := h3.1; have h9 := h3.2; omega)
      refine W.eq (g2 := F0 m 29 ls [.ref h52]) rfl ?_
      refine vx_athrow (pc := 29) hx hb dX3_repairs_29 ?_
      obtain ⟨ce8, hce8, hcv8, hcl8⟩ := rk_exc hK hW67 rfl rfl
      obtain ⟨e7, e8, e9⟩ := rs3 hm
      cases e7
      subst e8
      subst e9
      exact rk_xout (fun x h => (ht x h).elim) hlk hS65 hce8 hcv8 hcl8 ⟨rfl, hqh52, ⟨_, hW67, hre68⟩, hW70⟩ (by exact Nat.le_of_ble_eq_true rfl) (by exact Nat.le_of_ble_eq_true rfl)
theorem w_fX3_repairs_5_l (C : Cx G p s m args meth c RX3 cX3_repairs 3 none) {b0 : Nat} {rok : Bool} {re : Int32} {rw0 : Mem} (he0 : b0 + 43 ≤ s.heap.size) (hZ : ZQ G) (hgb0 : gB G ≤ b0) (ht : ∀ x ∈ c.exceptionTable.toList, False) : ∀ (n : Nat) (v0 : Mem) (i1 : Int32), lq2 (fX3_repairs_5) n v0 i1 = some (rok, re, rw0) → ∀ (H : Heap) (locs : List Loc) (ls : Array Slot), rg G b0 43 (shX3 G.2.1) v0 H → va_S (FA (iv b0 43) s.heap.size) s.heap H locs → GO G H → lv_has ls 3 [(0, .ref b0), (1, .int i1)] → W p l e (rmT 5 (bif rok then 0 else 1) (bif rok then 0 else 7) 109) s m args below meth c H locs 0 0 (vx_MQ below (QcX rok (FA (iv b0 43) s.heap.size) (fun ov H => ov = none ∧ rg G b0 43 (shX3 G.2.1) rw0 H)) (XcX rok (FA (iv b0 43) s.heap.size) (fun q E H => E = "WholePacks$Stuck" ∧ s.heap.size ≤ q ∧ (∃ wx, rg G q 1 (shX13 G.2.1) wx H ∧ gI wx 0 6 = re) ∧ rg G b0 43 (shX3 G.2.1) rw0 H)) args s (bif rok then 0 else 1) (bif rok then 0 else 7) (FA (iv b0 43) s.heap.size)) (F0 m 5 ls []) := by
  intro n
  induction n with
  | zero => intro v0 i1 hm; exact (lq2_0 hm).elim
  | succ n ih => intro v0 i1 hm; exact w_fX3_repairs_5 C he0 hZ hgb0 ht ih v0 i1 (lq2_s hm)
set_option maxHeartbeats 4000000 in
theorem w_fX3_repairs (C : Cx G p s m args meth c RX3 cX3_repairs 3 none) {b0 : Nat} {rok : Bool} {re : Int32} {rw0 : Mem} (he0 : b0 + 43 ≤ s.heap.size) (hZ : ZQ G) (hgb0 : gB G ≤ b0) (ht : ∀ x ∈ c.exceptionTable.toList, False) : ∀ (v0 : Mem), fX3_repairs v0 = some (rok, re, rw0) → ∀ (H : Heap) (locs : List Loc) (ls : Array Slot), rg G b0 43 (shX3 G.2.1) v0 H → va_S (FA (iv b0 43) s.heap.size) s.heap H locs → GO G H → lv_has ls 3 [(0, .ref b0)] → W p l e (rmT 5 (bif rok then 0 else 1) (bif rok then 0 else 7) 109) s m args below meth c H locs 0 0 (vx_MQ below (QcX rok (FA (iv b0 43) s.heap.size) (fun ov H => ov = none ∧ rg G b0 43 (shX3 G.2.1) rw0 H)) (XcX rok (FA (iv b0 43) s.heap.size) (fun q E H => E = "WholePacks$Stuck" ∧ s.heap.size ≤ q ∧ (∃ wx, rg G q 1 (shX13 G.2.1) wx H ∧ gI wx 0 6 = re) ∧ rg G b0 43 (shX3 G.2.1) rw0 H)) args s (bif rok then 0 else 1) (bif rok then 0 else 7) (FA (iv b0 43) s.heap.size)) (F0 m 0 ls []) := by
  intro v0 hm H locs ls hW0 hS hG hl
  obtain ⟨hx, hb, hr, hlk, hml, hown, hts, hK⟩ := id C
  unfold fX3_repairs at hm
  refine lv_aload_n (pc := 0) hx hb dX3_repairs_0 rfl (lv_at hl 0 rfl) ?_
  obtain ⟨r1, hq2, hm⟩ := ob_some hm
  refine rk_PV (pc := 1) (As := []) (rest := []) hx hb hml hown hts hK lkX3_117 rfl yn_X3_lowRow (ct_X3_lowRow (G := G) (l := l) (b0 := b0) hq2) ⟨Nat.le_of_ble_eq_true rfl, Nat.le_of_ble_eq_true rfl⟩ (rk_recv hK hW0 0 (by decide) rfl rfl rfl) hW0 rfl rfl hl.1 (Nat.le_of_ble_eq_true rfl) dX3_repairs_1 ⟨Nat.zero_le _, Nat.zero_le _⟩ ?_
  refine W.eq (g2 := F0 m 4 ls [.int r1]) rfl ?_
  refine lv_istore_n (pc := 4) (lv' := [(1, .int r1), (0, .ref b0)]) hx hb dX3_repairs_4 rfl hl (by decide) rfl (fun ls hl => ?_)
  exact (w_fX3_repairs_5_l C he0 hZ hgb0 ht FU) v0 r1 hm H locs ls hW0 hS hG (lv_sub hl [1, 0] rfl)
set_option maxHeartbeats 4000000 in
theorem ct_X3_repairs {G : Gv} {l : Launch} {b0 : Nat} {v0 : Mem} {rok : Bool} {re : Int32} {rw0 : Mem} {sz : Nat} (hm : fX3_repairs v0 = some (rok, re, rw0)) (hZ : ZQ G) (hgb0 : gB G ≤ b0) : CX G l yX3_repairs (ws_ yX3_repairs cX3_repairs 3 none) 5 (bif rok then 0 else 1) (bif rok then 0 else 7) 109 [.ref b0] (iv b0 43) sz (fun H => rg G b0 43 (shX3 G.2.1) v0 H ∧ GO G H) rok (fun ov H => ov = none ∧ rg G b0 43 (shX3 G.2.1) rw0 H) (fun q E H => E = "WholePacks$Stuck" ∧ sz ≤ q ∧ (∃ wx, rg G q 1 (shX13 G.2.1) wx H ∧ gI wx 0 6 = re) ∧ rg G b0 43 (shX3 G.2.1) rw0 H) := by
  refine vx_ofW (cc := cX3_repairs) (maxL := 3) (ret := none) (by decide +kernel) rfl ?_
  intro p e s m args below meth c s₁ B hml ht hv
  obtain ⟨rfl, ⟨hz, hW0, hG⟩, hK⟩ := hv
  subst hz
  have he0 := rg_end hW0 42 (by decide) rfl (fun _ _ _ => rfl)
  have hts := atoms_spec (ws := ws_ yX3_repairs cX3_repairs 3 none) B.pre
  have hts : ∀ w ∈ lw_all, w.before _ s = true := fun w h => hts w (List.mem_cons_of_mem _ h)
  have C : Cx G p s m _ meth c RX3 cX3_repairs 3 none := ⟨B.exec, B.bytes, B.returns, B.notSynchronized, hml, findClass_of_methodNamed B.named, hts, hK⟩
  have hl := lv_entry ([.ref b0]) (n := 3) (Nat.le_of_ble_eq_true rfl)
  rw [lg_entry_eq]
  generalize (lg_sl ([.ref b0]) ++ List.replicate (3 - (lg_sl ([.ref b0])).length) Slot.unset).toArray = ls at hl ⊢
  have hl : lv_has ls 3 [(0, .ref b0)] := hl
  exact w_fX3_repairs C he0 hZ hgb0 ht _ hm s.heap [] ls hW0 va_S.rf hG hl
noncomputable def fX3_isPack (V0 : Mem) (i1 : Int32) : Option (Int32) :=
  if (10 : Int32) ≤ i1 then (
  some (0 : Int32))
  else (
  some (1 : Int32))
set_option maxHeartbeats 4000000 in
theorem w_fX3_isPack (C : Cx G p s m args meth c RX3 cX3_isPack 2 (some .boolean)) {b0 : Nat} {V0 : Mem} {rx : Int32} (hW0 : rg G b0 43 (shX3 G.2.1) V0 s.heap) : ∀ (i1 : Int32), fX3_isPack V0 i1 = some rx → ∀ (ls : Array Slot), lv_has ls 2 [(0, .ref b0), (1, .int i1)] → W p l e (rmP 0 0) s m args below meth c s.heap [] 0 0 (MQ below (QcP (some (.int rx))) args s 0 0 (fun _ => False)) (F0 m 0 ls []) := by
  intro i1 hm ls hl
  obtain ⟨hx, hb, hr, hlk, hml, hown, hts, hK⟩ := id C
  unfold fX3_isPack at hm
  refine lv_iload_n (pc := 0) hx hb dX3_isPack_0 rfl (lv_at hl 1 rfl) ?_
  refine lv_bipush (pc := 1) (v := (10 : Int32)) hx hb dX3_isPack_1 (by decide) ?_
  refine lv_icmp_ge (pc := 3) (tgt := 10) hx hb dX3_isPack_3 (by decide) (fun c1 => ?_) (fun c1 => ?_)
  · have hm := ite_t c1 hm
    refine lv_iconst (pc := 10) (v := (0 : Int32)) hx hb dX3_isPack_10 (by decide) ?_
    have e9 := rs1 hm
    subst e9
    exact rk_zretP (pc := 11) hx hb hr hlk rfl rfl dX3_isPack_11
  · have hm := ite_f c1 hm
    refine lv_iconst (pc := 6) (v := (1 : Int32)) hx hb dX3_isPack_6 (by decide) ?_
    refine lv_goto (pc := 7) (tgt := 11) hx hb dX3_isPack_7 (by decide) ?_
    have e9 := rs1 hm
    subst e9
    exact rk_zretP (pc := 11) hx hb hr hlk rfl rfl dX3_isPack_11
set_option maxHeartbeats 4000000 in
theorem ct_X3_isPack {G : Gv} {l : Launch} {b0 : Nat} {V0 : Mem} {i1 : Int32} {rx : Int32} (hm : fX3_isPack V0 i1 = some rx) : CP G l yX3_isPack (ws_ yX3_isPack cX3_isPack 2 (some .boolean)) 0 0 [.ref b0, .int i1] (fun H => rg G b0 43 (shX3 G.2.1) V0 H) (some (.int rx)) := by
  refine Met.ofW (cc := cX3_isPack) (maxL := 2) (ret := (some .boolean)) (by decide +kernel) rfl ?_
  intro p e s m args below meth c s₁ B hml hv
  obtain ⟨rfl, hW0, hK⟩ := hv
  have hts := atoms_spec (ws := ws_ yX3_isPack cX3_isPack 2 (some .boolean)) B.pre
  have hts : ∀ w ∈ lw_all, w.before _ s = true := fun w h => hts w (List.mem_cons_of_mem _ h)
  have C : Cx G p s m _ meth c RX3 cX3_isPack 2 (some .boolean) := ⟨B.exec, B.bytes, B.returns, B.notSynchronized, hml, findClass_of_methodNamed B.named, hts, hK⟩
  have hl := lv_entry ([.ref b0, .int i1]) (n := 2) (Nat.le_of_ble_eq_true rfl)
  rw [lg_entry_eq]
  generalize (lg_sl ([.ref b0, .int i1]) ++ List.replicate (2 - (lg_sl ([.ref b0, .int i1])).length) Slot.unset).toArray = ls at hl ⊢
  have hl : lv_has ls 2 [(0, .ref b0), (1, .int i1)] := hl
  exact w_fX3_isPack C hW0 _ hm ls hl
theorem yn_X3_isPack : YN yX3_isPack 1 := by
  unfold YN
  decide +kernel
theorem lkX3_129 : LV RX3 129 RX3 yX3_isPack cX3_isPack 2 (some .boolean) := ⟨q855, q857, qs19, q117, q858⟩
noncomputable def fX3_brokenRow_2 (V0 : Mem) (k2 : Int32 → Option (Int32)) (i1 : Int32) : Option (Int32) :=
  if (gI V0 0 1) ≤ i1 then (
  some (-1 : Int32))
  else (
  gb (inR i1 30) (
  ob (fX3_isPack V0 (gI V0 4 i1.toNatClampNeg)) fun r3 =>
  if r3 = 0 then (
  k2 (i1 + (1 : Int32)))
  else (
  gb (inR i1 30) (
  gb (nz64 (gL V0 0 4)) (
  if ((gL V0 2 i1.toNatClampNeg) - (gL V0 2 i1.toNatClampNeg) / (gL V0 0 4) * (gL V0 0 4)) = (0 : Int64) then (
  k2 (i1 + (1 : Int32)))
  else (
  some i1))))))
noncomputable def fX3_brokenRow (V0 : Mem) : Option (Int32) :=
  lq1 (fX3_brokenRow_2 V0) FU (0 : Int32)
set_option maxHeartbeats 4000000 in
theorem w_fX3_brokenRow_2 (C : Cx G p s m args meth c RX3 cX3_brokenRow 2 (some .int)) {b0 : Nat} {V0 : Mem} {rx : Int32} (hW0 : rg G b0 43 (shX3 G.2.1) V0 s.heap) {k2 : Int32 → Option (Int32)} (hk2 : ∀ (i1 : Int32), k2 i1 = some rx → ∀ (ls : Array Slot), lv_has ls 2 [(0, .ref b0), (1, .int i1)] → W p l e (rmP 1 21) s m args below meth c s.heap [] 0 0 (MQ below (QcP (some (.int rx))) args s 0 0 (fun _ => False)) (F0 m 2 ls [])) : ∀ (i1 : Int32), fX3_brokenRow_2 V0 k2 i1 = some rx → ∀ (ls : Array Slot), lv_has ls 2 [(0, .ref b0), (1, .int i1)] → W p l e (rmP 1 21) s m args below meth c s.heap [] 0 0 (MQ below (QcP (some (.int rx))) args s 0 0 (fun _ => False)) (F0 m 2 ls []) := by
  intro i1 hm ls hl
  obtain ⟨hx, hb, hr, hlk, hml, hown, hts, hK⟩ := id C
  unfold fX3_brokenRow_2 at hm
  refine lv_iload_n (pc := 2) hx hb dX3_brokenRow_2 rfl (lv_at hl 1 rfl) ?_
  refine lv_aload_n (pc := 3) hx hb dX3_brokenRow_3 rfl (lv_at hl 0 rfl) ?_
  refine rk_get (pc := 4) hx hb hts hown hK hW0 flX3_35 0 (by decide) rfl rfl (x := .int (gI V0 0 1)) rfl dX3_brokenRow_4 ?_
  refine lv_icmp_ge (pc := 7) (tgt := 47) hx hb dX3_brokenRow_7 (by decide) (fun c1 => ?_) (fun c1 => ?_)
  · have hm := ite_t c1 hm
    refine lv_iconst (pc := 47) (v := (-1 : Int32)) hx hb dX3_brokenRow_47 (by decide) ?_
    have e9 := rs1 hm
    subst e9
    exact rk_iretP (pc := 48) hx hb hr hlk rfl dX3_brokenRow_48
  · have hm := ite_f c1 hm
    refine lv_aload_n (pc := 10) hx hb dX3_brokenRow_10 rfl (lv_at hl 0 rfl) ?_
    refine lv_aload_n (pc := 11) hx hb dX3_brokenRow_11 rfl (lv_at hl 0 rfl) ?_
    refine rk_get (pc := 12) hx hb hts hown hK hW0 flX3_21 0 (by decide) rfl rfl (x := .ref (b0 + 4)) (by first | rfl | exact congrArg (fun z => some (Value.ref z)) (by omega)) dX3_brokenRow_12 ?_
    refine lv_iload_n (pc := 15) hx hb dX3_brokenRow_15 rfl (lv_at hl 1 rfl) ?_
    obtain ⟨hg2, hm⟩ := gb_some hm
    refine rk_iald (pc := 16) hx hb hK hW0 4 (by decide) rfl rfl hg2 (x := (gI V0 4 i1.toNatClampNeg)) rfl dX3_brokenRow_16 ?_
    obtain ⟨r3, hq4, hm⟩ := ob_some hm
    refine rk_PV (pc := 17) (As := [.int (gI V0 4 i1.toNatClampNeg)]) (rest := []) hx hb hml hown hts hK lkX3_129 rfl yn_X3_isPack (ct_X3_isPack (G := G) (l := l) (b0 := b0) hq4) ⟨Nat.le_of_ble_eq_true rfl, Nat.le_of_ble_eq_true rfl⟩ (rk_recv hK hW0 0 (by decide) rfl rfl rfl) hW0 rfl rfl hl.1 (Nat.le_of_ble_eq_true rfl) dX3_brokenRow_17 ⟨Nat.zero_le _, Nat.zero_le _⟩ ?_
    refine W.eq (g2 := F0 m 20 ls [.int r3]) rfl ?_
    refine lv_if_eq (pc := 20) (tgt := 41) hx hb dX3_brokenRow_20 (by decide) (fun c5 => ?_) (fun c5 => ?_)
    · have hm := ite_t c5 hm
      refine lv_iinc (pc := 41) (v := (i1 + (1 : Int32))) (lv' := [(1, .int (i1 + (1 : Int32))), (0, .ref b0)]) hx hb dX3_brokenRow_41 hl (k := 1) rfl rfl (by decide) rfl (fun ls hl => ?_)
      refine lv_goto (pc := 44) (tgt := 2) hx hb dX3_brokenRow_44 (by decide) ?_
      exact hk2 (i1 + (1 : Int32)) hm ls (lv_sub hl [1, 0] rfl)
    · have hm := ite_f c5 hm
      refine lv_aload_n (pc := 23) hx hb dX3_brokenRow_23 rfl (lv_at hl 0 rfl) ?_
      refine rk_get (pc := 24) hx hb hts hown hK hW0 flX3_15 0 (by decide) rfl rfl (x := .ref (b0 + 2)) (by first | rfl | exact congrArg (fun z => some (Value.ref z)) (by omega)) dX3_brokenRow_24 ?_
      refine lv_iload_n (pc := 27) hx hb dX3_brokenRow_27 rfl (lv_at hl 1 rfl) ?_
      obtain ⟨hg6, hm⟩ := gb_some hm
      refine rk_lald (pc := 28) hx hb hK hW0 2 (by decide) rfl rfl hg6 (x := (gL V0 2 i1.toNatClampNeg)) rfl dX3_brokenRow_28 ?_
      refine lv_aload_n (pc := 29) hx hb dX3_brokenRow_29 rfl (lv_at hl 0 rfl) ?_
      refine rk_get (pc := 30) hx hb hts hown hK hW0 flX3_51 0 (by decide) rfl rfl (x := .long (gL V0 0 4)) rfl dX3_brokenRow_30 ?_
      obtain ⟨hg7, hm⟩ := gb_some hm
      refine lv_lrem (pc := 33) hx hb dX3_brokenRow_33 (nz64_ne hg7) ?_
      refine lv_lconst (pc := 34) (v := (0 : Int64)) hx hb dX3_brokenRow_34 (by decide) ?_
      refine rk_lcmp_eq (pc := 35) (tgt := 41) hx hb dX3_brokenRow_35 rfl dX3_brokenRow_36 (by decide) (fun c8 => ?_) (fun c8 => ?_)
      · have hm := ite_t c8 hm
        refine lv_iinc (pc := 41) (v := (i1 + (1 : Int32))) (lv' := [(1, .int (i1 + (1 : Int32))), (0, .ref b0)]) hx hb dX3_brokenRow_41 hl (k := 1) rfl rfl (by decide) rfl (fun ls hl => ?_)
        refine lv_goto (pc := 44) (tgt := 2) hx hb dX3_brokenRow_44 (by decide) ?_
        exact hk2 (i1 + (1 : Int32)) hm ls (lv_sub hl [1, 0] rfl)
      · have hm := ite_f c8 hm
        refine lv_iload_n (pc := 39) hx hb dX3_brokenRow_39 rfl (lv_at hl 1 rfl) ?_
        have e9 := rs1 hm
        subst e9
        exact rk_iretP (pc := 40) hx hb hr hlk rfl dX3_brokenRow_40
theorem w_fX3_brokenRow_2_l (C : Cx G p s m args meth c RX3 cX3_brokenRow 2 (some .int)) {b0 : Nat} {V0 : Mem} {rx : Int32} (hW0 : rg G b0 43 (shX3 G.2.1) V0 s.heap) : ∀ (n : Nat) (i1 : Int32), lq1 (fX3_brokenRow_2 V0) n i1 = some rx → ∀ (ls : Array Slot), lv_has ls 2 [(0, .ref b0), (1, .int i1)] → W p l e (rmP 1 21) s m args below meth c s.heap [] 0 0 (MQ below (QcP (some (.int rx))) args s 0 0 (fun _ => False)) (F0 m 2 ls []) := by
  intro n
  induction n with
  | zero => intro i1 hm; exact (lq1_0 hm).elim
  | succ n ih => intro i1 hm; exact w_fX3_brokenRow_2 C hW0 ih i1 (lq1_s hm)
set_option maxHeartbeats 4000000 in
theorem w_fX3_brokenRow (C : Cx G p s m args meth c RX3 cX3_brokenRow 2 (some .int)) {b0 : Nat} {V0 : Mem} {rx : Int32} (hW0 : rg G b0 43 (shX3 G.2.1) V0 s.heap) : fX3_brokenRow V0 = some rx → ∀ (ls : Array Slot), lv_has ls 2 [(0, .ref b0)] → W p l e (rmP 1 21) s m args below meth c s.heap [] 0 0 (MQ below (QcP (some (.int rx))) args s 0 0 (fun _ => False)) (F0 m 0 ls []) := by
  intro hm ls hl
  obtain ⟨hx, hb, hr, hlk, hml, hown, hts, hK⟩ := id C
  unfold fX3_brokenRow at hm
  refine lv_iconst (pc := 0) (v := (0 : Int32)) hx hb dX3_brokenRow_0 (by decide) ?_
  refine lv_istore_n (pc := 1) (lv' := [(1, .int (0 : Int32)), (0, .ref b0)]) hx hb dX3_brokenRow_1 rfl hl (by decide) rfl (fun ls hl => ?_)
  exact (w_fX3_brokenRow_2_l C hW0 FU) (0 : Int32) hm ls (lv_sub hl [1, 0] rfl)
set_option maxHeartbeats 4000000 in
theorem ct_X3_brokenRow {G : Gv} {l : Launch} {b0 : Nat} {V0 : Mem} {rx : Int32} (hm : fX3_brokenRow V0  = some rx) : CP G l yX3_brokenRow (ws_ yX3_brokenRow cX3_brokenRow 2 (some .int)) 1 21 [.ref b0] (fun H => rg G b0 43 (shX3 G.2.1) V0 H) (some (.int rx)) := by
  refine Met.ofW (cc := cX3_brokenRow) (maxL := 2) (ret := (some .int)) (by decide +kernel) rfl ?_
  intro p e s m args below meth c s₁ B hml hv
  obtain ⟨rfl, hW0, hK⟩ := hv
  have hts := atoms_spec (ws := ws_ yX3_brokenRow cX3_brokenRow 2 (some .int)) B.pre
  have hts : ∀ w ∈ lw_all, w.before _ s = true := fun w h => hts w (List.mem_cons_of_mem _ h)
  have C : Cx G p s m _ meth c RX3 cX3_brokenRow 2 (some .int) := ⟨B.exec, B.bytes, B.returns, B.notSynchronized, hml, findClass_of_methodNamed B.named, hts, hK⟩
  have hl := lv_entry ([.ref b0]) (n := 2) (Nat.le_of_ble_eq_true rfl)
  rw [lg_entry_eq]
  generalize (lg_sl ([.ref b0]) ++ List.replicate (2 - (lg_sl ([.ref b0])).length) Slot.unset).toArray = ls at hl ⊢
  have hl : lv_has ls 2 [(0, .ref b0)] := hl
  exact w_fX3_brokenRow C hW0  hm ls hl
theorem yn_X4_gets : YN yX4_gets 3 := by
  unfold YN
  decide +kernel
theorem lkX3_133 : LV RX3 133 RX4 yX4_gets cX4_gets 6 none := ⟨q867, q868, q869, q118, q870⟩
theorem flX3_30 : FL RX3 30 3 11 RX3 TX3 12 := ⟨in_X3, rfl, by decide, q297⟩
theorem fnX3_139 : FN RX3 139 4 1 RX4 TX4 4 "WholePacks" := ⟨in_X4, rfl, by decide, q257⟩
theorem fnX3_137 : FN RX3 137 4 0 RX4 TX4 4 "WholePacks" := ⟨in_X4, rfl, by decide, q254⟩
noncomputable def fX3_tells_73c (V1 : Mem) (n1 : Nat) (k73 : Mem → Int64 → Int32 → Nat → Int32 → Option (Mem)) (v0 : Mem) (j3 : Int64) (i6 : Int32) (n8 : Nat) (i9 : Int32) : Option (Mem) :=
  if (gI v0 0 0) ≤ i9 then (
  if i6 = 0 then (
  lm (sL v0 (7 + 3 * n1 + 0) 1 ((gL v0 (7 + 3 * n1 + 0) 1) - (j3 * (gL v0 (7 + 3 * n8 + 0) 1)))) fun v0_113 =>
  some v0_113)
  else (
  none))
  else (
  if i6 = 0 then (
  gb (inR i9 5) (
  ob (fX4_gets (shf v0 (7 + 3 * n1)) (-j3) i9 (gL v0 (7 + 3 * n8 + 1) i9.toNatClampNeg)) fun w124 =>
  lm (ptm v0 (7 + 3 * n1) 3 w124) fun v0_135 =>
  k73 v0_135 j3 i6 n8 (i9 + (1 : Int32))))
  else (
  none))
noncomputable def fX3_tells_73d (V1 : Mem) (n1 : Nat) (k73 : Mem → Int64 → Int32 → Int32 → Option (Mem)) (v0 : Mem) (j3 : Int64) (i6 : Int32) (i9 : Int32) : Option (Mem) :=
  if (gI v0 0 0) ≤ i9 then (
  if i6 = 0 then (
  none)
  else (
  none))
  else (
  if i6 = 0 then (
  none)
  else (
  none))
noncomputable def fX3_tells_48 (V1 : Mem) (n1 : Nat) (v0 : Mem) (i2 : Int32) (j3 : Int64) (i6 : Int32) : Option (Mem) :=
  if i6 = 0 then (
  gb (inR (i2 - (20 : Int32)) 12) (
  lq5 (fX3_tells_73c V1 n1) FU v0 j3 i6 (i2 - (20 : Int32)).toNatClampNeg (0 : Int32)))
  else (
  lq4 (fX3_tells_73d V1 n1) FU v0 j3 i6 (0 : Int32))
noncomputable def fX3_tells_73 (V1 : Mem) (n1 : Nat) (k73 : Mem → Int64 → Int32 → Nat → Nat → Int32 → Option (Mem)) (v0 : Mem) (j3 : Int64) (i6 : Int32) (n7 : Nat) (n8 : Nat) (i9 : Int32) : Option (Mem) :=
  if (gI v0 0 0) ≤ i9 then (
  if i6 = 0 then (
  lm (sL v0 (7 + 3 * n1 + 0) 1 ((gL v0 (7 + 3 * n1 + 0) 1) - (j3 * (gL v0 (7 + 3 * n8 + 0) 1)))) fun v0_55 =>
  some v0_55)
  else (
  ob (fX2_limit (shf V1 (6 + 2 * n7))) fun r64 =>
  lm (sL v0 (7 + 3 * n1 + 0) 1 ((gL v0 (7 + 3 * n1 + 0) 1) - (j3 * r64))) fun v0_66 =>
  some v0_66))
  else (
  if i6 = 0 then (
  gb (inR i9 5) (
  ob (fX4_gets (shf v0 (7 + 3 * n1)) (-j3) i9 (gL v0 (7 + 3 * n8 + 1) i9.toNatClampNeg)) fun w77 =>
  lm (ptm v0 (7 + 3 * n1) 3 w77) fun v0_88 =>
  k73 v0_88 j3 i6 n7 n8 (i9 + (1 : Int32))))
  else (
  ob (fX2_points (shf V1 (6 + 2 * n7)) i9) fun r90 =>
  ob (fX4_gets (shf v0 (7 + 3 * n1)) (-j3) i9 r90) fun w92 =>
  lm (ptm v0 (7 + 3 * n1) 3 w92) fun v0_103 =>
  k73 v0_103 j3 i6 n7 n8 (i9 + (1 : Int32))))
noncomputable def fX3_tells_73b (V1 : Mem) (n1 : Nat) (k73 : Mem → Int64 → Int32 → Nat → Int32 → Option (Mem)) (v0 : Mem) (j3 : Int64) (i6 : Int32) (n7 : Nat) (i9 : Int32) : Option (Mem) :=
  if (gI v0 0 0) ≤ i9 then (
  if i6 = 0 then (
  none)
  else (
  ob (fX2_limit (shf V1 (6 + 2 * n7))) fun r26 =>
  lm (sL v0 (7 + 3 * n1 + 0) 1 ((gL v0 (7 + 3 * n1 + 0) 1) - (j3 * r26))) fun v0_28 =>
  some v0_28))
  else (
  if i6 = 0 then (
  none)
  else (
  ob (fX2_points (shf V1 (6 + 2 * n7)) i9) fun r38 =>
  ob (fX4_gets (shf v0 (7 + 3 * n1)) (-j3) i9 r38) fun w40 =>
  lm (ptm v0 (7 + 3 * n1) 3 w40) fun v0_51 =>
  k73 v0_51 j3 i6 n7 (i9 + (1 : Int32))))
noncomputable def fX3_tells_48b (V1 : Mem) (n1 : Nat) (v0 : Mem) (i2 : Int32) (j3 : Int64) (i6 : Int32) (ns0 : Nat) : Option (Mem) :=
  if i6 = 0 then (
  gb (inR (i2 - (20 : Int32)) 12) (
  lq6 (fX3_tells_73 V1 n1) FU v0 j3 i6 ns0 (i2 - (20 : Int32)).toNatClampNeg (0 : Int32)))
  else (
  lq5 (fX3_tells_73b V1 n1) FU v0 j3 i6 ns0 (0 : Int32))
noncomputable def fX3_tells_27 (V1 : Mem) (n1 : Nat) (v0 : Mem) (i2 : Int32) (j3 : Int64) (t0 : Int32) : Option (Mem) :=
  if t0 = 0 then (
  fX3_tells_48 V1 n1 v0 i2 j3 t0)
  else (
  gb (inR (i2 - (10 : Int32)) 8) (
  fX3_tells_48b V1 n1 v0 i2 j3 t0 (i2 - (10 : Int32)).toNatClampNeg))
noncomputable def fX3_tells (V1 : Mem) (n1 : Nat) (v0 : Mem) (i2 : Int32) (j3 : Int64) : Option (Mem) :=
  ob (fX3_isPack v0 i2) fun r1 =>
  if r1 = 0 then (
  if (20 : Int32) ≤ i2 then (
  fX3_tells_27 V1 n1 v0 i2 j3 (0 : Int32))
  else (
  fX3_tells_27 V1 n1 v0 i2 j3 (1 : Int32)))
  else (
  ob (fX4_gets (shf v0 (7 + 3 * n1)) j3 i2 (1 : Int64)) fun w5 =>
  lm (ptm v0 (7 + 3 * n1) 3 w5) fun v0_16 =>
  some v0_16)
set_option maxHeartbeats 4000000 in
theorem w_fX3_tells_73c (C : Cx G p s m args meth c RX3 cX3_tells 10 none) {b0 : Nat} {b1 : Nat} {V1 : Mem} {n1 : Nat} {rw0 : Mem} (hd01 : b0 + 43 ≤ b1 ∨ b1 + 22 ≤ b0) (hn1 : n1 < 12) {k73 : Mem → Int64 → Int32 → Nat → Int32 → Option (Mem)} (hk73 : ∀ (v0 : Mem) (j3 : Int64) (i6 : Int32) (n8 : Nat) (i9 : Int32), k73 v0 j3 i6 n8 i9 = some rw0 → (hn_n8 : n8 < 12) → ∀ (H : Heap) (locs : List Loc) (ls : Array Slot), rg G b0 43 (shX3 G.2.1) v0 H → rg G b1 22 (shX1 G.2.1) V1 H → va_S (FA (iv b0 43) s.heap.size) s.heap H locs → H.size = s.heap.size → lv_has ls 10 [(0, .ref b0), (1, .ref (b0 + (7 + 3 * n1 + 0))), (3, .long j3), (6, .int i6), (7, .null), (8, .ref (b0 + (7 + 3 * n8 + 0))), (9, .int i9)] → W p l e (rmT 1 0 0 25) s m args below meth c H locs 0 0 (MQ below (QcT (FA (iv b0 43) s.heap.size) (fun ov H => ov = none ∧ rg G b0 43 (shX3 G.2.1) rw0 H ∧ H.size = s.heap.size)) args s 0 0 (FA (iv b0 43) s.heap.size)) (F0 m 73 ls [])) : ∀ (v0 : Mem) (j3 : Int64) (i6 : Int32) (n8 : Nat) (i9 : Int32), fX3_tells_73c V1 n1 k73 v0 j3 i6 n8 i9 = some rw0 → (hn_n8 : n8 < 12) → ∀ (H : Heap) (locs : List Loc) (ls : Array Slot), rg G b0 43 (shX3 G.2.1) v0 H → rg G b1 22 (shX1 G.2.1) V1 H → va_S (FA (iv b0 43) s.heap.size) s.heap H locs → H.size = s.heap.size → lv_has ls 10 [(0, .ref b0), (1, .ref (b0 + (7 + 3 * n1 + 0))), (3, .long j3), (6, .int i6), (7, .null), (8, .ref (b0 + (7 + 3 * n8 + 0))), (9, .int i9)] → W p l e (rmT 1 0 0 25) s m args below meth c H locs 0 0 (MQ below (QcT (FA (iv b0 43) s.heap.size) (fun ov H => ov = none ∧ rg G b0 43 (shX3 G.2.1) rw0 H ∧ H.size = s.heap.size)) args s 0 0 (FA (iv b0 43) s.heap.size)) (F0 m 73 ls []) := by
  intro v0 j3 i6 n8 i9 hm hn_n8 H locs ls hW0 hW1 hS hz hl
  obtain ⟨hx, hb, hr, hlk, hml, hown, hts, hK⟩ := id C
  unfold fX3_tells_73c at hm
  refine lv_iload (pc := 73) hx hb dX3_tells_73 (lv_at hl 6 rfl) ?_
  refine lv_aload_n (pc := 75) hx hb dX3_tells_75 rfl (lv_at hl 0 rfl) ?_
  refine rk_get (pc := 76) hx hb hts hown hK hW0 flX3_44 0 (by decide) rfl rfl (x := .int (gI v0 0 0)) rfl dX3_tells_76 ?_
  refine lv_icmp_ge (pc := 79) (tgt := 119) hx hb dX3_tells_79 (by decide) (fun c111 => ?_) (fun c111 => ?_)
  · have hm := ite_t c111 hm
    refine lv_aload_n (pc := 119) hx hb dX3_tells_119 rfl (lv_at hl 1 rfl) ?_
    refine lv_dup (pc := 120) hx hb dX3_tells_120 rfl ?_
    refine rk_getN (pc := 121) hx hb hts hown hK hW0 fnX3_139 (7 + 3 * n1 + 0) (by omega) rfl ((shX3_f7 G.2.1 hn1 _ rfl 0 (by decide) _ _ _).trans rfl) (x := .long (gL v0 (7 + 3 * n1 + 0) 1)) rfl dX3_tells_121 ?_
    refine lv_lload_n (pc := 124) hx hb dX3_tells_124 rfl (lv_at hl 2 rfl) ?_
    refine lv_iload (pc := 125) hx hb dX3_tells_125 (lv_at hl 3 rfl) ?_
    refine lv_if_eq (pc := 127) (tgt := 138) hx hb dX3_tells_127 (by decide) (fun c112 => ?_) (fun c112 => ?_)
    · have hm := ite_t c112 hm
      refine lv_aload (pc := 138) hx hb dX3_tells_138 (lv_at hl 5 rfl) ?_
      refine rk_getN (pc := 140) hx hb hts hown hK hW0 fnX3_139 (7 + 3 * n8 + 0) (by omega) rfl ((shX3_f7 G.2.1 hn_n8 _ rfl 0 (by decide) _ _ _).trans rfl) (x := .long (gL v0 (7 + 3 * n8 + 0) 1)) rfl dX3_tells_140 ?_
      refine lv_lmul (pc := 143) hx hb dX3_tells_143 ?_
      refine lv_lsub (pc := 144) hx hb dX3_tells_144 ?_
      refine rk_putN (pc := 145) hx hb hts hown hK hW0 hS fnX3_139 ft_X4 (7 + 3 * n1 + 0) (by omega) rfl (Or.inl (show iv _ _ _ from ⟨by omega, by omega⟩)) ((shX3_f7 G.2.1 hn1 _ rfl 0 (by decide) _ _ _).trans rfl) rfl (x := .long ((gL v0 (7 + 3 * n1 + 0) 1) - (j3 * (gL v0 (7 + 3 * n8 + 0) 1)))) rfl rfl (Nat.le_of_ble_eq_true rfl) (sL v0 (7 + 3 * n1 + 0) 1 ((gL v0 (7 + 3 * n1 + 0) 1) - (j3 * (gL v0 (7 + 3 * n8 + 0) 1)))) sL_ne (by rw [sL_eq]; exact ((shX3_f7 G.2.1 hn1 _ rfl 0 (by decide) _ _ _).trans rfl)) dX3_tells_145 (fun H114 locs115 hW116 hS117 hz118 hkp119 => ?_)
      obtain ⟨v0_113, he9, hm⟩ := lm_some hm
      rw [he9] at hW116
      have hW120 := rg_keepq hW1 hkp119 (by omega)
      have hz121 := hz118.trans hz
      have e9 := rs1 hm
      subst e9
      exact rk_vret (pc := 148) hx hb hr hlk hS117 ⟨rfl, hW116, hz121⟩ dX3_tells_148
    · have hm := ite_f c112 hm
      refine lv_aloadN (pc := 130) hx hb dX3_tells_130 (lv_at hl 4 rfl) ?_
      exact nomatch hm
  · have hm := ite_f c111 hm
    refine lv_aload_n (pc := 82) hx hb dX3_tells_82 rfl (lv_at hl 1 rfl) ?_
    refine lv_lload_n (pc := 83) hx hb dX3_tells_83 rfl (lv_at hl 2 rfl) ?_
    refine lv_lneg (pc := 84) hx hb dX3_tells_84 ?_
    refine lv_iload (pc := 85) hx hb dX3_tells_85 (lv_at hl 6 rfl) ?_
    refine lv_iload (pc := 87) hx hb dX3_tells_87 (lv_at hl 3 rfl) ?_
    refine lv_if_eq (pc := 89) (tgt := 102) hx hb dX3_tells_89 (by decide) (fun c122 => ?_) (fun c122 => ?_)
    · have hm := ite_t c122 hm
      refine lv_aload (pc := 102) hx hb dX3_tells_102 (lv_at hl 5 rfl) ?_
      refine rk_getN (pc := 104) hx hb hts hown hK hW0 fnX3_137 (7 + 3 * n8 + 0) (by omega) rfl ((shX3_f7 G.2.1 hn_n8 _ rfl 0 (by decide) _ _ _).trans rfl) (x := .ref (b0 + (7 + 3 * n8 + 1))) (by first | rfl | exact congrArg (fun z => some (Value.ref z)) (by omega)) dX3_tells_104 ?_
      refine lv_iload (pc := 107) hx hb dX3_tells_107 (lv_at hl 6 rfl) ?_
      obtain ⟨hg123, hm⟩ := gb_some hm
      refine rk_lald (pc := 109) hx hb hK hW0 (7 + 3 * n8 + 1) (by omega) rfl ((shX3_f7 G.2.1 hn_n8 _ rfl 1 (by decide) _ _ _).trans rfl) hg123 (x := (gL v0 (7 + 3 * n8 + 1) i9.toNatClampNeg)) rfl dX3_tells_109 ?_
      obtain ⟨w124, hq125, hm⟩ := ob_some hm
      refine rk_TV (pc := 110) (As := [.long (-j3), .int i9, .long (gL v0 (7 + 3 * n8 + 1) i9.toNatClampNeg)]) (rest := []) (mc := 0) (ms := 0) hx hb hml hown hts hK hS (fun q hq => FA_sz rfl q hq) lkX3_133 rfl yn_X4_gets (ct_X4_gets (G := G) (l := l) (b0 := (b0 + (7 + 3 * n1 + 0))) (sz := H.size) hq125) ⟨Nat.le_of_ble_eq_true rfl, Nat.le_of_ble_eq_true rfl⟩ (fun z h => Or.inl (show iv _ _ _ from ⟨by have h8 := h.1; have h9 := h.2; omega, by have h8 := h.1; have h9 := h.2; omega⟩)) (rk_recv hK hW0 (7 + 3 * n1 + 0) (by omega) rfl rfl ((shX3_f7 G.2.1 hn1 _ rfl 0 (by decide) _ _ _).trans rfl)) (rg_sub (d := (7 + 3 * n1)) hW0 rfl (by omega) (fun o ho x y z => shX3_f7 G.2.1 hn1 _ rfl o ho x y z)) rfl rfl hl.1 (Nat.le_of_ble_eq_true rfl) dX3_tells_110 ⟨Nat.zero_le _, Nat.zero_le _⟩ (fun ov9 H126 locs127 hP128 hkp129 hS130 => ?_)
      obtain ⟨rfl, hW131, hz132⟩ := hP128
      have hW133 := rg_keepA hW1 hkp129 (by intro z h1 h2 h3; have h8 := h3.1; have h9 := h3.2; omega)
      have hW134 := rg_put (d := (7 + 3 * n1)) hW0 hW131 rfl (fun o ho x y z => shX3_f7 G.2.1 hn1 _ rfl o ho x y z) hkp129
      obtain ⟨v0_135, he9, hm⟩ := lm_some hm
      rw [he9] at hW134
      have hz136 := hz132.trans hz
      refine W.eq (g2 := F0 m 113 ls []) rfl ?_
      refine lv_iinc (pc := 113) (v := (i9 + (1 : Int32))) (lv' := [(9, .int (i9 + (1 : Int32))), (0, .ref b0), (1, .ref (b0 + (7 + 3 * n1 + 0))), (3, .long j3), (6, .int i6), (7, .null), (8, .ref (b0 + (7 + 3 * n8 + 0)))]) hx hb dX3_tells_113 hl (k := 6) rfl rfl (by decide) rfl (fun ls hl => ?_)
      refine lv_goto (pc := 116) (tgt := 73) hx hb dX3_tells_116 (by decide) ?_
      exact hk73 v0_135 j3 i6 n8 (i9 + (1 : Int32)) hm hn_n8 H126 locs127 ls hW134 hW133 hS130 hz136 (lv_sub hl [1, 2, 3, 4, 5, 6, 0] rfl)
    · have hm := ite_f c122 hm
      refine lv_aloadN (pc := 92) hx hb dX3_tells_92 (lv_at hl 4 rfl) ?_
      refine lv_iload (pc := 94) hx hb dX3_tells_94 (lv_at hl 6 rfl) ?_
      exact nomatch hm
theorem w_fX3_tells_73c_l (C : Cx G p s m args meth c RX3 cX3_tells 10 none) {b0 : Nat} {b1 : Nat} {V1 : Mem} {n1 : Nat} {rw0 : Mem} (hd01 : b0 + 43 ≤ b1 ∨ b1 + 22 ≤ b0) (hn1 : n1 < 12) : ∀ (n : Nat) (v0 : Mem) (j3 : Int64) (i6 : Int32) (n8 : Nat) (i9 : Int32), lq5 (fX3_tells_73c V1 n1) n v0 j3 i6 n8 i9 = some rw0 → (hn_n8 : n8 < 12) → ∀ (H : Heap) (locs : List Loc) (ls : Array Slot), rg G b0 43 (shX3 G.2.1) v0 H → rg G b1 22 (shX1 G.2.1) V1 H → va_S (FA (iv b0 43) s.heap.size) s.heap H locs → H.size = s.heap.size → lv_has ls 10 [(0, .ref b0), (1, .ref (b0 + (7 + 3 * n1 + 0))), (3, .long j3), (6, .int i6), (7, .null), (8, .ref (b0 + (7 + 3 * n8 + 0))), (9, .int i9)] → W p l e (rmT 1 0 0 25) s m args below meth c H locs 0 0 (MQ below (QcT (FA (iv b0 43) s.heap.size) (fun ov H => ov = none ∧ rg G b0 43 (shX3 G.2.1) rw0 H ∧ H.size = s.heap.size)) args s 0 0 (FA (iv b0 43) s.heap.size)) (F0 m 73 ls []) := by
  intro n
  induction n with
  | zero => intro v0 j3 i6 n8 i9 hm; exact (lq5_0 hm).elim
  | succ n ih => intro v0 j3 i6 n8 i9 hm; exact w_fX3_tells_73c C hd01 hn1 ih v0 j3 i6 n8 i9 (lq5_s hm)
set_option maxHeartbeats 4000000 in
theorem w_fX3_tells_73d (C : Cx G p s m args meth c RX3 cX3_tells 10 none) {b0 : Nat} {b1 : Nat} {V1 : Mem} {n1 : Nat} {rw0 : Mem} (hd01 : b0 + 43 ≤ b1 ∨ b1 + 22 ≤ b0) (hn1 : n1 < 12) {k73 : Mem → Int64 → Int32 → Int32 → Option (Mem)} (hk73 : ∀ (v0 : Mem) (j3 : Int64) (i6 : Int32) (i9 : Int32), k73 v0 j3 i6 i9 = some rw0 → ∀ (H : Heap) (locs : List Loc) (ls : Array Slot), rg G b0 43 (shX3 G.2.1) v0 H → rg G b1 22 (shX1 G.2.1) V1 H → va_S (FA (iv b0 43) s.heap.size) s.heap H locs → H.size = s.heap.size → lv_has ls 10 [(0, .ref b0), (1, .ref (b0 + (7 + 3 * n1 + 0))), (3, .long j3), (6, .int i6), (7, .null), (8, .null), (9, .int i9)] → W p l e (rmT 1 0 0 25) s m args below meth c H locs 0 0 (MQ below (QcT (FA (iv b0 43) s.heap.size) (fun ov H => ov = none ∧ rg G b0 43 (shX3 G.2.1) rw0 H ∧ H.size = s.heap.size)) args s 0 0 (FA (iv b0 43) s.heap.size)) (F0 m 73 ls [])) : ∀ (v0 : Mem) (j3 : Int64) (i6 : Int32) (i9 : Int32), fX3_tells_73d V1 n1 k73 v0 j3 i6 i9 = some rw0 → ∀ (H : Heap) (locs : List Loc) (ls : Array Slot), rg G b0 43 (shX3 G.2.1) v0 H → rg G b1 22 (shX1 G.2.1) V1 H → va_S (FA (iv b0 43) s.heap.size) s.heap H locs → H.size = s.heap.size → lv_has ls 10 [(0, .ref b0), (1, .ref (b0 + (7 + 3 * n1 + 0))), (3, .long j3), (6, .int i6), (7, .null), (8, .null), (9, .int i9)] → W p l e (rmT 1 0 0 25) s m args below meth c H locs 0 0 (MQ below (QcT (FA (iv b0 43) s.heap.size) (fun ov H => ov = none ∧ rg G b0 43 (shX3 G.2.1) rw0 H ∧ H.size = s.heap.size)) args s 0 0 (FA (iv b0 43) s.heap.size)) (F0 m 73 ls []) := by
  intro v0 j3 i6 i9 hm H locs ls hW0 hW1 hS hz hl
  obtain ⟨hx, hb, hr, hlk, hml, hown, hts, hK⟩ := id C
  unfold fX3_tells_73d at hm
  refine lv_iload (pc := 73) hx hb dX3_tells_73 (lv_at hl 6 rfl) ?_
  refine lv_aload_n (pc := 75) hx hb dX3_tells_75 rfl (lv_at hl 0 rfl) ?_
  refine rk_get (pc := 76) hx hb hts hown hK hW0 flX3_44 0 (by decide) rfl rfl (x := .int (gI v0 0 0)) rfl dX3_tells_76 ?_
  refine lv_icmp_ge (pc := 79) (tgt := 119) hx hb dX3_tells_79 (by decide) (fun c108 => ?_) (fun c108 => ?_)
  · have hm := ite_t c108 hm
    refine lv_aload_n (pc := 119) hx hb dX3_tells_119 rfl (lv_at hl 1 rfl) ?_
    refine lv_dup (pc := 120) hx hb dX3_tells_120 rfl ?_
    refine rk_getN (pc := 121) hx hb hts hown hK hW0 fnX3_139 (7 + 3 * n1 + 0) (by omega) rfl ((shX3_f7 G.2.1 hn1 _ rfl 0 (by decide) _ _ _).trans rfl) (x := .long (gL v0 (7 + 3 * n1 + 0) 1)) rfl dX3_tells_121 ?_
    refine lv_lload_n (pc := 124) hx hb dX3_tells_124 rfl (lv_at hl 2 rfl) ?_
    refine lv_iload (pc := 125) hx hb dX3_tells_125 (lv_at hl 3 rfl) ?_
    refine lv_if_eq (pc := 127) (tgt := 138) hx hb dX3_tells_127 (by decide) (fun c109 => ?_) (fun c109 => ?_)
    · have hm := ite_t c109 hm
      refine lv_aloadN (pc := 138) hx hb dX3_tells_138 (lv_at hl 5 rfl) ?_
      exact nomatch hm
    · have hm := ite_f c109 hm
      refine lv_aloadN (pc := 130) hx hb dX3_tells_130 (lv_at hl 4 rfl) ?_
      exact nomatch hm
  · have hm := ite_f c108 hm
    refine lv_aload_n (pc := 82) hx hb dX3_tells_82 rfl (lv_at hl 1 rfl) ?_
    refine lv_lload_n (pc := 83) hx hb dX3_tells_83 rfl (lv_at hl 2 rfl) ?_
    refine lv_lneg (pc := 84) hx hb dX3_tells_84 ?_
    refine lv_iload (pc := 85) hx hb dX3_tells_85 (lv_at hl 6 rfl) ?_
    refine lv_iload (pc := 87) hx hb dX3_tells_87 (lv_at hl 3 rfl) ?_
    refine lv_if_eq (pc := 89) (tgt := 102) hx hb dX3_tells_89 (by decide) (fun c110 => ?_) (fun c110 => ?_)
    · have hm := ite_t c110 hm
      refine lv_aloadN (pc := 102) hx hb dX3_tells_102 (lv_at hl 5 rfl) ?_
      exact nomatch hm
    · have hm := ite_f c110 hm
      refine lv_aloadN (pc := 92) hx hb dX3_tells_92 (lv_at hl 4 rfl) ?_
      refine lv_iload (pc := 94) hx hb dX3_tells_94 (lv_at hl 6 rfl) ?_
      exact nomatch hm
theorem w_fX3_tells_73d_l (C : Cx G p s m args meth c RX3 cX3_tells 10 none) {b0 : Nat} {b1 : Nat} {V1 : Mem} {n1 : Nat} {rw0 : Mem} (hd01 : b0 + 43 ≤ b1 ∨ b1 + 22 ≤ b0) (hn1 : n1 < 12) : ∀ (n : Nat) (v0 : Mem) (j3 : Int64) (i6 : Int32) (i9 : Int32), lq4 (fX3_tells_73d V1 n1) n v0 j3 i6 i9 = some rw0 → ∀ (H : Heap) (locs : List Loc) (ls : Array Slot), rg G b0 43 (shX3 G.2.1) v0 H → rg G b1 22 (shX1 G.2.1) V1 H → va_S (FA (iv b0 43) s.heap.size) s.heap H locs → H.size = s.heap.size → lv_has ls 10 [(0, .ref b0), (1, .ref (b0 + (7 + 3 * n1 + 0))), (3, .long j3), (6, .int i6), (7, .null), (8, .null), (9, .int i9)] → W p l e (rmT 1 0 0 25) s m args below meth c H locs 0 0 (MQ below (QcT (FA (iv b0 43) s.heap.size) (fun ov H => ov = none ∧ rg G b0 43 (shX3 G.2.1) rw0 H ∧ H.size = s.heap.size)) args s 0 0 (FA (iv b0 43) s.heap.size)) (F0 m 73 ls []) := by
  intro n
  induction n with
  | zero => intro v0 j3 i6 i9 hm; exact (lq4_0 hm).elim
  | succ n ih => intro v0 j3 i6 i9 hm; exact w_fX3_tells_73d C hd01 hn1 ih v0 j3 i6 i9 (lq4_s hm)
set_option maxHeartbeats 4000000 in
theorem w_fX3_tells_48 (C : Cx G p s m args meth c RX3 cX3_tells 10 none) {b0 : Nat} {b1 : Nat} {V1 : Mem} {n1 : Nat} {rw0 : Mem} (hd01 : b0 + 43 ≤ b1 ∨ b1 + 22 ≤ b0) (hn1 : n1 < 12) : ∀ (v0 : Mem) (i2 : Int32) (j3 : Int64) (i6 : Int32), fX3_tells_48 V1 n1 v0 i2 j3 i6 = some rw0 → ∀ (H : Heap) (locs : List Loc) (ls : Array Slot), rg G b0 43 (shX3 G.2.1) v0 H → rg G b1 22 (shX1 G.2.1) V1 H → va_S (FA (iv b0 43) s.heap.size) s.heap H locs → H.size = s.heap.size → lv_has ls 10 [(0, .ref b0), (1, .ref (b0 + (7 + 3 * n1 + 0))), (2, .int i2), (3, .long j3), (6, .int i6)] → W p l e (rmT 1 0 0 25) s m args below meth c H locs 0 0 (MQ below (QcT (FA (iv b0 43) s.heap.size) (fun ov H => ov = none ∧ rg G b0 43 (shX3 G.2.1) rw0 H ∧ H.size = s.heap.size)) args s 0 0 (FA (iv b0 43) s.heap.size)) (F0 m 48 ls [.null]) := by
  intro v0 i2 j3 i6 hm H locs ls hW0 hW1 hS hz hl
  obtain ⟨hx, hb, hr, hlk, hml, hown, hts, hK⟩ := id C
  unfold fX3_tells_48 at hm
  refine lv_astoreN (pc := 48) (lv' := [(7, .null), (0, .ref b0), (1, .ref (b0 + (7 + 3 * n1 + 0))), (2, .int i2), (3, .long j3), (6, .int i6)]) hx hb dX3_tells_48 hl (by decide) rfl (fun ls hl => ?_)
  refine lv_iload (pc := 50) hx hb dX3_tells_50 (lv_at hl 5 rfl) ?_
  refine lv_if_eq (pc := 52) (tgt := 59) hx hb dX3_tells_52 (by decide) (fun c105 => ?_) (fun c105 => ?_)
  · have hm := ite_t c105 hm
    refine lv_aload_n (pc := 59) hx hb dX3_tells_59 rfl (lv_at hl 1 rfl) ?_
    refine rk_get (pc := 60) hx hb hts hown hK hW0 flX3_30 0 (by decide) rfl rfl (x := .ref (b0 + 6)) (by first | rfl | exact congrArg (fun z => some (Value.ref z)) (by omega)) dX3_tells_60 ?_
    refine lv_iload_n (pc := 63) hx hb dX3_tells_63 rfl (lv_at hl 3 rfl) ?_
    refine lv_bipush (pc := 64) (v := (20 : Int32)) hx hb dX3_tells_64 (by decide) ?_
    refine lv_isub (pc := 66) hx hb dX3_tells_66 ?_
    obtain ⟨hg106, hm⟩ := gb_some hm
    have hlt107 := inR_lt hg106
    refine rk_aald (pc := 67) hx hb hK hW0 6 6 (by decide) rfl rfl rfl hg106 (x := (b0 + (7 + 3 * (i2 - (20 : Int32)).toNatClampNeg + 0))) (by first | rfl | exact congrArg some (by omega)) dX3_tells_67 ?_
    refine lv_astore (pc := 68) (lv' := [(8, .ref (b0 + (7 + 3 * (i2 - (20 : Int32)).toNatClampNeg + 0))), (7, .null), (0, .ref b0), (1, .ref (b0 + (7 + 3 * n1 + 0))), (2, .int i2), (3, .long j3), (6, .int i6)]) hx hb dX3_tells_68 hl (by decide) rfl (fun ls hl => ?_)
    refine lv_iconst (pc := 70) (v := (0 : Int32)) hx hb dX3_tells_70 (by decide) ?_
    refine lv_istore (pc := 71) (lv' := [(9, .int (0 : Int32)), (8, .ref (b0 + (7 + 3 * (i2 - (20 : Int32)).toNatClampNeg + 0))), (7, .null), (0, .ref b0), (1, .ref (b0 + (7 + 3 * n1 + 0))), (2, .int i2), (3, .long j3), (6, .int i6)]) hx hb dX3_tells_71 hl (by decide) rfl (fun ls hl => ?_)
    exact (w_fX3_tells_73c_l C hd01 hn1 FU) v0 j3 i6 (i2 - (20 : Int32)).toNatClampNeg (0 : Int32) hm hlt107 H locs ls hW0 hW1 hS hz (lv_sub hl [3, 4, 6, 7, 2, 1, 0] rfl)
  · have hm := ite_f c105 hm
    refine lv_null (pc := 55) hx hb dX3_tells_55 ?_
    refine lv_goto (pc := 56) (tgt := 68) hx hb dX3_tells_56 (by decide) ?_
    refine lv_astoreN (pc := 68) (lv' := [(8, .null), (7, .null), (0, .ref b0), (1, .ref (b0 + (7 + 3 * n1 + 0))), (2, .int i2), (3, .long j3), (6, .int i6)]) hx hb dX3_tells_68 hl (by decide) rfl (fun ls hl => ?_)
    refine lv_iconst (pc := 70) (v := (0 : Int32)) hx hb dX3_tells_70 (by decide) ?_
    refine lv_istore (pc := 71) (lv' := [(9, .int (0 : Int32)), (8, .null), (7, .null), (0, .ref b0), (1, .ref (b0 + (7 + 3 * n1 + 0))), (2, .int i2), (3, .long j3), (6, .int i6)]) hx hb dX3_tells_71 hl (by decide) rfl (fun ls hl => ?_)
    exact (w_fX3_tells_73d_l C hd01 hn1 FU) v0 j3 i6 (0 : Int32) hm H locs ls hW0 hW1 hS hz (lv_sub hl [3, 4, 6, 7, 2, 1, 0] rfl)
set_option maxHeartbeats 4000000 in
theorem w_fX3_tells_73 (C : Cx G p s m args meth c RX3 cX3_tells 10 none) {b0 : Nat} {b1 : Nat} {V1 : Mem} {n1 : Nat} {rw0 : Mem} (hd01 : b0 + 43 ≤ b1 ∨ b1 + 22 ≤ b0) (hn1 : n1 < 12) {k73 : Mem → Int64 → Int32 → Nat → Nat → Int32 → Option (Mem)} (hk73 : ∀ (v0 : Mem) (j3 : Int64) (i6 : Int32) (n7 : Nat) (n8 : Nat) (i9 : Int32), k73 v0 j3 i6 n7 n8 i9 = some rw0 → (hn_n7 : n7 < 8) → (hn_n8 : n8 < 12) → ∀ (H : Heap) (locs : List Loc) (ls : Array Slot), rg G b0 43 (shX3 G.2.1) v0 H → rg G b1 22 (shX1 G.2.1) V1 H → va_S (FA (iv b0 43) s.heap.size) s.heap H locs → H.size = s.heap.size → lv_has ls 10 [(0, .ref b0), (1, .ref (b0 + (7 + 3 * n1 + 0))), (3, .long j3), (6, .int i6), (7, .ref (b1 + (6 + 2 * n7 + 0))), (8, .ref (b0 + (7 + 3 * n8 + 0))), (9, .int i9)] → W p l e (rmT 1 0 0 25) s m args below meth c H locs 0 0 (MQ below (QcT (FA (iv b0 43) s.heap.size) (fun ov H => ov = none ∧ rg G b0 43 (shX3 G.2.1) rw0 H ∧ H.size = s.heap.size)) args s 0 0 (FA (iv b0 43) s.heap.size)) (F0 m 73 ls [])) : ∀ (v0 : Mem) (j3 : Int64) (i6 : Int32) (n7 : Nat) (n8 : Nat) (i9 : Int32), fX3_tells_73 V1 n1 k73 v0 j3 i6 n7 n8 i9 = some rw0 → (hn_n7 : n7 < 8) → (hn_n8 : n8 < 12) → ∀ (H : Heap) (locs : List Loc) (ls : Array Slot), rg G b0 43 (shX3 G.2.1) v0 H → rg G b1 22 (shX1 G.2.1) V1 H → va_S (FA (iv b0 43) s.heap.size) s.heap H locs → H.size = s.heap.size → lv_has ls 10 [(0, .ref b0), (1, .ref (b0 + (7 + 3 * n1 + 0))), (3, .long j3), (6, .int i6), (7, .ref (b1 + (6 + 2 * n7 + 0))), (8, .ref (b0 + (7 + 3 * n8 + 0))), (9, .int i9)] → W p l e (rmT 1 0 0 25) s m args below meth c H locs 0 0 (MQ below (QcT (FA (iv b0 43) s.heap.size) (fun ov H => ov = none ∧ rg G b0 43 (shX3 G.2.1) rw0 H ∧ H.size = s.heap.size)) args s 0 0 (FA (iv b0 43) s.heap.size)) (F0 m 73 ls []) := by
  intro v0 j3 i6 n7 n8 i9 hm hn_n7 hn_n8 H locs ls hW0 hW1 hS hz hl
  obtain ⟨hx, hb, hr, hlk, hml, hown, hts, hK⟩ := id C
  unfold fX3_tells_73 at hm
  refine lv_iload (pc := 73) hx hb dX3_tells_73 (lv_at hl 6 rfl) ?_
  refine lv_aload_n (pc := 75) hx hb dX3_tells_75 rfl (lv_at hl 0 rfl) ?_
  refine rk_get (pc := 76) hx hb hts hown hK hW0 flX3_44 0 (by decide) rfl rfl (x := .int (gI v0 0 0)) rfl dX3_tells_76 ?_
  refine lv_icmp_ge (pc := 79) (tgt := 119) hx hb dX3_tells_79 (by decide) (fun c53 => ?_) (fun c53 => ?_)
  · have hm := ite_t c53 hm
    refine lv_aload_n (pc := 119) hx hb dX3_tells_119 rfl (lv_at hl 1 rfl) ?_
    refine lv_dup (pc := 120) hx hb dX3_tells_120 rfl ?_
    refine rk_getN (pc := 121) hx hb hts hown hK hW0 fnX3_139 (7 + 3 * n1 + 0) (by omega) rfl ((shX3_f7 G.2.1 hn1 _ rfl 0 (by decide) _ _ _).trans rfl) (x := .long (gL v0 (7 + 3 * n1 + 0) 1)) rfl dX3_tells_121 ?_
    refine lv_lload_n (pc := 124) hx hb dX3_tells_124 rfl (lv_at hl 2 rfl) ?_
    refine lv_iload (pc := 125) hx hb dX3_tells_125 (lv_at hl 3 rfl) ?_
    refine lv_if_eq (pc := 127) (tgt := 138) hx hb dX3_tells_127 (by decide) (fun c54 => ?_) (fun c54 => ?_)
    · have hm := ite_t c54 hm
      refine lv_aload (pc := 138) hx hb dX3_tells_138 (lv_at hl 5 rfl) ?_
      refine rk_getN (pc := 140) hx hb hts hown hK hW0 fnX3_139 (7 + 3 * n8 + 0) (by omega) rfl ((shX3_f7 G.2.1 hn_n8 _ rfl 0 (by decide) _ _ _).trans rfl) (x := .long (gL v0 (7 + 3 * n8 + 0) 1)) rfl dX3_tells_140 ?_
      refine lv_lmul (pc := 143) hx hb dX3_tells_143 ?_
      refine lv_lsub (pc := 144) hx hb dX3_tells_144 ?_
      refine rk_putN (pc := 145) hx hb hts hown hK hW0 hS fnX3_139 ft_X4 (7 + 3 * n1 + 0) (by omega) rfl (Or.inl (show iv _ _ _ from ⟨by omega, by omega⟩)) ((shX3_f7 G.2.1 hn1 _ rfl 0 (by decide) _ _ _).trans rfl) rfl (x := .long ((gL v0 (7 + 3 * n1 + 0) 1) - (j3 * (gL v0 (7 + 3 * n8 + 0) 1)))) rfl rfl (Nat.le_of_ble_eq_true rfl) (sL v0 (7 + 3 * n1 + 0) 1 ((gL v0 (7 + 3 * n1 + 0) 1) - (j3 * (gL v0 (7 + 3 * n8 + 0) 1)))) sL_ne (by rw [sL_eq]; exact ((shX3_f7 G.2.1 hn1 _ rfl 0 (by decide) _ _ _).trans rfl)) dX3_tells_145 (fun H56 locs57 hW58 hS59 hz60 hkp61 => ?_)
      obtain ⟨v0_55, he9, hm⟩ := lm_some hm
      rw [he9] at hW58
      have hW62 := rg_keepq hW1 hkp61 (by omega)
      have hz63 := hz60.trans hz
      have e9 := rs1 hm
      subst e9
      exact rk_vret (pc := 148) hx hb hr hlk hS59 ⟨rfl, hW58, hz63⟩ dX3_tells_148
    · have hm := ite_f c54 hm
      refine lv_aload (pc := 130) hx hb dX3_tells_130 (lv_at hl 4 rfl) ?_
      obtain ⟨r64, hq65, hm⟩ := ob_some hm
      refine rk_PV (pc := 132) (As := []) (rest := [.long j3, .long (gL v0 (7 + 3 * n1 + 0) 1), .ref (b0 + (7 + 3 * n1 + 0))]) hx hb hml hown hts hK lkX3_68 rfl yn_X2_limit (ct_X2_limit (G := G) (l := l) (b0 := (b1 + (6 + 2 * n7 + 0))) hq65) ⟨Nat.le_of_ble_eq_true rfl, Nat.le_of_ble_eq_true rfl⟩ (rk_recv hK hW1 (6 + 2 * n7 + 0) (by omega) rfl rfl ((shX1_f6 G.2.1 hn_n7 _ rfl 0 (by decide) _ _ _).trans rfl)) (rg_sub (d := (6 + 2 * n7)) hW1 rfl (by omega) (fun o ho x y z => shX1_f6 G.2.1 hn_n7 _ rfl o ho x y z)) rfl rfl hl.1 (Nat.le_of_ble_eq_true rfl) dX3_tells_132 ⟨Nat.zero_le _, Nat.zero_le _⟩ ?_
      refine W.eq (g2 := F0 m 135 ls [.long r64, .long j3, .long (gL v0 (7 + 3 * n1 + 0) 1), .ref (b0 + (7 + 3 * n1 + 0))]) rfl ?_
      refine lv_goto (pc := 135) (tgt := 143) hx hb dX3_tells_135 (by decide) ?_
      refine lv_lmul (pc := 143) hx hb dX3_tells_143 ?_
      refine lv_lsub (pc := 144) hx hb dX3_tells_144 ?_
      refine rk_putN (pc := 145) hx hb hts hown hK hW0 hS fnX3_139 ft_X4 (7 + 3 * n1 + 0) (by omega) rfl (Or.inl (show iv _ _ _ from ⟨by omega, by omega⟩)) ((shX3_f7 G.2.1 hn1 _ rfl 0 (by decide) _ _ _).trans rfl) rfl (x := .long ((gL v0 (7 + 3 * n1 + 0) 1) - (j3 * r64))) rfl rfl (Nat.le_of_ble_eq_true rfl) (sL v0 (7 + 3 * n1 + 0) 1 ((gL v0 (7 + 3 * n1 + 0) 1) - (j3 * r64))) sL_ne (by rw [sL_eq]; exact ((shX3_f7 G.2.1 hn1 _ rfl 0 (by decide) _ _ _).trans rfl)) dX3_tells_145 (fun H67 locs68 hW69 hS70 hz71 hkp72 => ?_)
      obtain ⟨v0_66, he9, hm⟩ := lm_some hm
      rw [he9] at hW69
      have hW73 := rg_keepq hW1 hkp72 (by omega)
      have hz74 := hz71.trans hz
      have e9 := rs1 hm
      subst e9
      exact rk_vret (pc := 148) hx hb hr hlk hS70 ⟨rfl, hW69, hz74⟩ dX3_tells_148
  · have hm := ite_f c53 hm
    refine lv_aload_n (pc := 82) hx hb dX3_tells_82 rfl (lv_at hl 1 rfl) ?_
    refine lv_lload_n (pc := 83) hx hb dX3_tells_83 rfl (lv_at hl 2 rfl) ?_
    refine lv_lneg (pc := 84) hx hb dX3_tells_84 ?_
    refine lv_iload (pc := 85) hx hb dX3_tells_85 (lv_at hl 6 rfl) ?_
    refine lv_iload (pc := 87) hx hb dX3_tells_87 (lv_at hl 3 rfl) ?_
    refine lv_if_eq (pc := 89) (tgt := 102) hx hb dX3_tells_89 (by decide) (fun c75 => ?_) (fun c75 => ?_)
    · have hm := ite_t c75 hm
      refine lv_aload (pc := 102) hx hb dX3_tells_102 (lv_at hl 5 rfl) ?_
      refine rk_getN (pc := 104) hx hb hts hown hK hW0 fnX3_137 (7 + 3 * n8 + 0) (by omega) rfl ((shX3_f7 G.2.1 hn_n8 _ rfl 0 (by decide) _ _ _).trans rfl) (x := .ref (b0 + (7 + 3 * n8 + 1))) (by first | rfl | exact congrArg (fun z => some (Value.ref z)) (by omega)) dX3_tells_104 ?_
      refine lv_iload (pc := 107) hx hb dX3_tells_107 (lv_at hl 6 rfl) ?_
      obtain ⟨hg76, hm⟩ := gb_some hm
      refine rk_lald (pc := 109) hx hb hK hW0 (7 + 3 * n8 + 1) (by omega) rfl ((shX3_f7 G.2.1 hn_n8 _ rfl 1 (by decide) _ _ _).trans rfl) hg76 (x := (gL v0 (7 + 3 * n8 + 1) i9.toNatClampNeg)) rfl dX3_tells_109 ?_
      obtain ⟨w77, hq78, hm⟩ := ob_some hm
      refine rk_TV (pc := 110) (As := [.long (-j3), .int i9, .long (gL v0 (7 + 3 * n8 + 1) i9.toNatClampNeg)]) (rest := []) (mc := 0) (ms := 0) hx hb hml hown hts hK hS (fun q hq => FA_sz rfl q hq) lkX3_133 rfl yn_X4_gets (ct_X4_gets (G := G) (l := l) (b0 := (b0 + (7 + 3 * n1 + 0))) (sz := H.size) hq78) ⟨Nat.le_of_ble_eq_true rfl, Nat.le_of_ble_eq_true rfl⟩ (fun z h => Or.inl (show iv _ _ _ from ⟨by have h8 := h.1; have h9 := h.2; omega, by have h8 := h.1; have h9 := h.2; omega⟩)) (rk_recv hK hW0 (7 + 3 * n1 + 0) (by omega) rfl rfl ((shX3_f7 G.2.1 hn1 _ rfl 0 (by decide) _ _ _).trans rfl)) (rg_sub (d := (7 + 3 * n1)) hW0 rfl (by omega) (fun o ho x y z => shX3_f7 G.2.1 hn1 _ rfl o ho x y z)) rfl rfl hl.1 (Nat.le_of_ble_eq_true rfl) dX3_tells_110 ⟨Nat.zero_le _, Nat.zero_le _⟩ (fun ov9 H79 locs80 hP81 hkp82 hS83 => ?_)
      obtain ⟨rfl, hW84, hz85⟩ := hP81
      have hW86 := rg_keepA hW1 hkp82 (by intro z h1 h2 h3; have h8 := h3.1; have h9 := h3.2; omega)
      have hW87 := rg_put (d := (7 + 3 * n1)) hW0 hW84 rfl (fun o ho x y z => shX3_f7 G.2.1 hn1 _ rfl o ho x y z) hkp82
      obtain ⟨v0_88, he9, hm⟩ := lm_some hm
      rw [he9] at hW87
      have hz89 := hz85.trans hz
      refine W.eq (g2 := F0 m 113 ls []) rfl ?_
      refine lv_iinc (pc := 113) (v := (i9 + (1 : Int32))) (lv' := [(9, .int (i9 + (1 : Int32))), (0, .ref b0), (1, .ref (b0 + (7 + 3 * n1 + 0))), (3, .long j3), (6, .int i6), (7, .ref (b1 + (6 + 2 * n7 + 0))), (8, .ref (b0 + (7 + 3 * n8 + 0)))]) hx hb dX3_tells_113 hl (k := 6) rfl rfl (by decide) rfl (fun ls hl => ?_)
      refine lv_goto (pc := 116) (tgt := 73) hx hb dX3_tells_116 (by decide) ?_
      exact hk73 v0_88 j3 i6 n7 n8 (i9 + (1 : Int32)) hm hn_n7 hn_n8 H79 locs80 ls hW87 hW86 hS83 hz89 (lv_sub hl [1, 2, 3, 4, 5, 6, 0] rfl)
    · have hm := ite_f c75 hm
      refine lv_aload (pc := 92) hx hb dX3_tells_92 (lv_at hl 4 rfl) ?_
      refine lv_iload (pc := 94) hx hb dX3_tells_94 (lv_at hl 6 rfl) ?_
      obtain ⟨r90, hq91, hm⟩ := ob_some hm
      refine rk_PV (pc := 96) (As := [.int i9]) (rest := [.int i9, .long (-j3), .ref (b0 + (7 + 3 * n1 + 0))]) hx hb hml hown hts hK lkX3_78 rfl yn_X2_points (ct_X2_points (G := G) (l := l) (b0 := (b1 + (6 + 2 * n7 + 0))) hq91) ⟨Nat.le_of_ble_eq_true rfl, Nat.le_of_ble_eq_true rfl⟩ (rk_recv hK hW1 (6 + 2 * n7 + 0) (by omega) rfl rfl ((shX1_f6 G.2.1 hn_n7 _ rfl 0 (by decide) _ _ _).trans rfl)) (rg_sub (d := (6 + 2 * n7)) hW1 rfl (by omega) (fun o ho x y z => shX1_f6 G.2.1 hn_n7 _ rfl o ho x y z)) rfl rfl hl.1 (Nat.le_of_ble_eq_true rfl) dX3_tells_96 ⟨Nat.zero_le _, Nat.zero_le _⟩ ?_
      refine W.eq (g2 := F0 m 99 ls [.long r90, .int i9, .long (-j3), .ref (b0 + (7 + 3 * n1 + 0))]) rfl ?_
      refine lv_goto (pc := 99) (tgt := 110) hx hb dX3_tells_99 (by decide) ?_
      obtain ⟨w92, hq93, hm⟩ := ob_some hm
      refine rk_TV (pc := 110) (As := [.long (-j3), .int i9, .long r90]) (rest := []) (mc := 0) (ms := 0) hx hb hml hown hts hK hS (fun q hq => FA_sz rfl q hq) lkX3_133 rfl yn_X4_gets (ct_X4_gets (G := G) (l := l) (b0 := (b0 + (7 + 3 * n1 + 0))) (sz := H.size) hq93) ⟨Nat.le_of_ble_eq_true rfl, Nat.le_of_ble_eq_true rfl⟩ (fun z h => Or.inl (show iv _ _ _ from ⟨by have h8 := h.1; have h9 := h.2; omega, by have h8 := h.1; have h9 := h.2; omega⟩)) (rk_recv hK hW0 (7 + 3 * n1 + 0) (by omega) rfl rfl ((shX3_f7 G.2.1 hn1 _ rfl 0 (by decide) _ _ _).trans rfl)) (rg_sub (d := (7 + 3 * n1)) hW0 rfl (by omega) (fun o ho x y z => shX3_f7 G.2.1 hn1 _ rfl o ho x y z)) rfl rfl hl.1 (Nat.le_of_ble_eq_true rfl) dX3_tells_110 ⟨Nat.zero_le _, Nat.zero_le _⟩ (fun ov9 H94 locs95 hP96 hkp97 hS98 => ?_)
      obtain ⟨rfl, hW99, hz100⟩ := hP96
      have hW101 := rg_keepA hW1 hkp97 (by intro z h1 h2 h3; have h8 := h3.1; have h9 := h3.2; omega)
      have hW102 := rg_put (d := (7 + 3 * n1)) hW0 hW99 rfl (fun o ho x y z => shX3_f7 G.2.1 hn1 _ rfl o ho x y z) hkp97
      obtain ⟨v0_103, he9, hm⟩ := lm_some hm
      rw [he9] at hW102
      have hz104 := hz100.trans hz
      refine W.eq (g2 := F0 m 113 ls []) rfl ?_
      refine lv_iinc (pc := 113) (v := (i9 + (1 : Int32))) (lv' := [(9, .int (i9 + (1 : Int32))), (0, .ref b0), (1, .ref (b0 + (7 + 3 * n1 + 0))), (3, .long j3), (6, .int i6), (7, .ref (b1 + (6 + 2 * n7 + 0))), (8, .ref (b0 + (7 + 3 * n8 + 0)))]) hx hb dX3_tells_113 hl (k := 6) rfl rfl (by decide) rfl (fun ls hl => ?_)
      refine lv_goto (pc := 116) (tgt := 73) hx hb dX3_tells_116 (by decide) ?_
      exact hk73 v0_103 j3 i6 n7 n8 (i9 + (1 : Int32)) hm hn_n7 hn_n8 H94 locs95 ls hW102 hW101 hS98 hz104 (lv_sub hl [1, 2, 3, 4, 5, 6, 0] rfl)
theorem w_fX3_tells_73_l (C : Cx G p s m args meth c RX3 cX3_tells 10 none) {b0 : Nat} {b1 : Nat} {V1 : Mem} {n1 : Nat} {rw0 : Mem} (hd01 : b0 + 43 ≤ b1 ∨ b1 + 22 ≤ b0) (hn1 : n1 < 12) : ∀ (n : Nat) (v0 : Mem) (j3 : Int64) (i6 : Int32) (n7 : Nat) (n8 : Nat) (i9 : Int32), lq6 (fX3_tells_73 V1 n1) n v0 j3 i6 n7 n8 i9 = some rw0 → (hn_n7 : n7 < 8) → (hn_n8 : n8 < 12) → ∀ (H : Heap) (locs : List Loc) (ls : Array Slot), rg G b0 43 (shX3 G.2.1) v0 H → rg G b1 22 (shX1 G.2.1) V1 H → va_S (FA (iv b0 43) s.heap.size) s.heap H locs → H.size = s.heap.size → lv_has ls 10 [(0, .ref b0), (1, .ref (b0 + (7 + 3 * n1 + 0))), (3, .long j3), (6, .int i6), (7, .ref (b1 + (6 + 2 * n7 + 0))), (8, .ref (b0 + (7 + 3 * n8 + 0))), (9, .int i9)] → W p l e (rmT 1 0 0 25) s m args below meth c H locs 0 0 (MQ below (QcT (FA (iv b0 43) s.heap.size) (fun ov H => ov = none ∧ rg G b0 43 (shX3 G.2.1) rw0 H ∧ H.size = s.heap.size)) args s 0 0 (FA (iv b0 43) s.heap.size)) (F0 m 73 ls []) := by
  intro n
  induction n with
  | zero => intro v0 j3 i6 n7 n8 i9 hm; exact (lq6_0 hm).elim
  | succ n ih => intro v0 j3 i6 n7 n8 i9 hm; exact w_fX3_tells_73 C hd01 hn1 ih v0 j3 i6 n7 n8 i9 (lq6_s hm)
set_option maxHeartbeats 4000000 in
theorem w_fX3_tells_73b (C : Cx G p s m args meth c RX3 cX3_tells 10 none) {b0 : Nat} {b1 : Nat} {V1 : Mem} {n1 : Nat} {rw0 : Mem} (hd01 : b0 + 43 ≤ b1 ∨ b1 + 22 ≤ b0) (hn1 : n1 < 12) {k73 : Mem → Int64 → Int32 → Nat → Int32 → Option (Mem)} (hk73 : ∀ (v0 : Mem) (j3 : Int64) (i6 : Int32) (n7 : Nat) (i9 : Int32), k73 v0 j3 i6 n7 i9 = some rw0 → (hn_n7 : n7 < 8) → ∀ (H : Heap) (locs : List Loc) (ls : Array Slot), rg G b0 43 (shX3 G.2.1) v0 H → rg G b1 22 (shX1 G.2.1) V1 H → va_S (FA (iv b0 43) s.heap.size) s.heap H locs → H.size = s.heap.size → lv_has ls 10 [(0, .ref b0), (1, .ref (b0 + (7 + 3 * n1 + 0))), (3, .long j3), (6, .int i6), (7, .ref (b1 + (6 + 2 * n7 + 0))), (8, .null), (9, .int i9)] → W p l e (rmT 1 0 0 25) s m args below meth c H locs 0 0 (MQ below (QcT (FA (iv b0 43) s.heap.size) (fun ov H => ov = none ∧ rg G b0 43 (shX3 G.2.1) rw0 H ∧ H.size = s.heap.size)) args s 0 0 (FA (iv b0 43) s.heap.size)) (F0 m 73 ls [])) : ∀ (v0 : Mem) (j3 : Int64) (i6 : Int32) (n7 : Nat) (i9 : Int32), fX3_tells_73b V1 n1 k73 v0 j3 i6 n7 i9 = some rw0 → (hn_n7 : n7 < 8) → ∀ (H : Heap) (locs : List Loc) (ls : Array Slot), rg G b0 43 (shX3 G.2.1) v0 H → rg G b1 22 (shX1 G.2.1) V1 H → va_S (FA (iv b0 43) s.heap.size) s.heap H locs → H.size = s.heap.size → lv_has ls 10 [(0, .ref b0), (1, .ref (b0 + (7 + 3 * n1 + 0))), (3, .long j3), (6, .int i6), (7, .ref (b1 + (6 + 2 * n7 + 0))), (8, .null), (9, .int i9)] → W p l e (rmT 1 0 0 25) s m args below meth c H locs 0 0 (MQ below (QcT (FA (iv b0 43) s.heap.size) (fun ov H => ov = none ∧ rg G b0 43 (shX3 G.2.1) rw0 H ∧ H.size = s.heap.size)) args s 0 0 (FA (iv b0 43) s.heap.size)) (F0 m 73 ls []) := by
  intro v0 j3 i6 n7 i9 hm hn_n7 H locs ls hW0 hW1 hS hz hl
  obtain ⟨hx, hb, hr, hlk, hml, hown, hts, hK⟩ := id C
  unfold fX3_tells_73b at hm
  refine lv_iload (pc := 73) hx hb dX3_tells_73 (lv_at hl 6 rfl) ?_
  refine lv_aload_n (pc := 75) hx hb dX3_tells_75 rfl (lv_at hl 0 rfl) ?_
  refine rk_get (pc := 76) hx hb hts hown hK hW0 flX3_44 0 (by decide) rfl rfl (x := .int (gI v0 0 0)) rfl dX3_tells_76 ?_
  refine lv_icmp_ge (pc := 79) (tgt := 119) hx hb dX3_tells_79 (by decide) (fun c24 => ?_) (fun c24 => ?_)
  · have hm := ite_t c24 hm
    refine lv_aload_n (pc := 119) hx hb dX3_tells_119 rfl (lv_at hl 1 rfl) ?_
    refine lv_dup (pc := 120) hx hb dX3_tells_120 rfl ?_
    refine rk_getN (pc := 121) hx hb hts hown hK hW0 fnX3_139 (7 + 3 * n1 + 0) (by omega) rfl ((shX3_f7 G.2.1 hn1 _ rfl 0 (by decide) _ _ _).trans rfl) (x := .long (gL v0 (7 + 3 * n1 + 0) 1)) rfl dX3_tells_121 ?_
    refine lv_lload_n (pc := 124) hx hb dX3_tells_124 rfl (lv_at hl 2 rfl) ?_
    refine lv_iload (pc := 125) hx hb dX3_tells_125 (lv_at hl 3 rfl) ?_
    refine lv_if_eq (pc := 127) (tgt := 138) hx hb dX3_tells_127 (by decide) (fun c25 => ?_) (fun c25 => ?_)
    · have hm := ite_t c25 hm
      refine lv_aloadN (pc := 138) hx hb dX3_tells_138 (lv_at hl 5 rfl) ?_
      exact nomatch hm
    · have hm := ite_f c25 hm
      refine lv_aload (pc := 130) hx hb dX3_tells_130 (lv_at hl 4 rfl) ?_
      obtain ⟨r26, hq27, hm⟩ := ob_some hm
      refine rk_PV (pc := 132) (As := []) (rest := [.long j3, .long (gL v0 (7 + 3 * n1 + 0) 1), .ref (b0 + (7 + 3 * n1 + 0))]) hx hb hml hown hts hK lkX3_68 rfl yn_X2_limit (ct_X2_limit (G := G) (l := l) (b0 := (b1 + (6 + 2 * n7 + 0))) hq27) ⟨Nat.le_of_ble_eq_true rfl, Nat.le_of_ble_eq_true rfl⟩ (rk_recv hK hW1 (6 + 2 * n7 + 0) (by omega) rfl rfl ((shX1_f6 G.2.1 hn_n7 _ rfl 0 (by decide) _ _ _).trans rfl)) (rg_sub (d := (6 + 2 * n7)) hW1 rfl (by omega) (fun o ho x y z => shX1_f6 G.2.1 hn_n7 _ rfl o ho x y z)) rfl rfl hl.1 (Nat.le_of_ble_eq_true rfl) dX3_tells_132 ⟨Nat.zero_le _, Nat.zero_le _⟩ ?_
      refine W.eq (g2 := F0 m 135 ls [.long r26, .long j3, .long (gL v0 (7 + 3 * n1 + 0) 1), .ref (b0 + (7 + 3 * n1 + 0))]) rfl ?_
      refine lv_goto (pc := 135) (tgt := 143) hx hb dX3_tells_135 (by decide) ?_
      refine lv_lmul (pc := 143) hx hb dX3_tells_143 ?_
      refine lv_lsub (pc := 144) hx hb dX3_tells_144 ?_
      refine rk_putN (pc := 145) hx hb hts hown hK hW0 hS fnX3_139 ft_X4 (7 + 3 * n1 + 0) (by omega) rfl (Or.inl (show iv _ _ _ from ⟨by omega, by omega⟩)) ((shX3_f7 G.2.1 hn1 _ rfl 0 (by decide) _ _ _).trans rfl) rfl (x := .long ((gL v0 (7 + 3 * n1 + 0) 1) - (j3 * r26))) rfl rfl (Nat.le_of_ble_eq_true rfl) (sL v0 (7 + 3 * n1 + 0) 1 ((gL v0 (7 + 3 * n1 + 0) 1) - (j3 * r26))) sL_ne (by rw [sL_eq]; exact ((shX3_f7 G.2.1 hn1 _ rfl 0 (by decide) _ _ _).trans rfl)) dX3_tells_145 (fun H29 locs30 hW31 hS32 hz33 hkp34 => ?_)
      obtain ⟨v0_28, he9, hm⟩ := lm_some hm
      rw [he9] at hW31
      have hW35 := rg_keepq hW1 hkp34 (by omega)
      have hz36 := hz33.trans hz
      have e9 := rs1 hm
      subst e9
      exact rk_vret (pc := 148) hx hb hr hlk hS32 ⟨rfl, hW31, hz36⟩ dX3_tells_148
  · have hm := ite_f c24 hm
    refine lv_aload_n (pc := 82) hx hb dX3_tells_82 rfl (lv_at hl 1 rfl) ?_
    refine lv_lload_n (pc := 83) hx hb dX3_tells_83 rfl (lv_at hl 2 rfl) ?_
    refine lv_lneg (pc := 84) hx hb dX3_tells_84 ?_
    refine lv_iload (pc := 85) hx hb dX3_tells_85 (lv_at hl 6 rfl) ?_
    refine lv_iload (pc := 87) hx hb dX3_tells_87 (lv_at hl 3 rfl) ?_
    refine lv_if_eq (pc := 89) (tgt := 102) hx hb dX3_tells_89 (by decide) (fun c37 => ?_) (fun c37 => ?_)
    · have hm := ite_t c37 hm
      refine lv_aloadN (pc := 102) hx hb dX3_tells_102 (lv_at hl 5 rfl) ?_
      exact nomatch hm
    · have hm := ite_f c37 hm
      refine lv_aload (pc := 92) hx hb dX3_tells_92 (lv_at hl 4 rfl) ?_
      refine lv_iload (pc := 94) hx hb dX3_tells_94 (lv_at hl 6 rfl) ?_
      obtain ⟨r38, hq39, hm⟩ := ob_some hm
      refine rk_PV (pc := 96) (As := [.int i9]) (rest := [.int i9, .long (-j3), .ref (b0 + (7 + 3 * n1 + 0))]) hx hb hml hown hts hK lkX3_78 rfl yn_X2_points (ct_X2_points (G := G) (l := l) (b0 := (b1 + (6 + 2 * n7 + 0))) hq39) ⟨Nat.le_of_ble_eq_true rfl, Nat.le_of_ble_eq_true rfl⟩ (rk_recv hK hW1 (6 + 2 * n7 + 0) (by omega) rfl rfl ((shX1_f6 G.2.1 hn_n7 _ rfl 0 (by decide) _ _ _).trans rfl)) (rg_sub (d := (6 + 2 * n7)) hW1 rfl (by omega) (fun o ho x y z => shX1_f6 G.2.1 hn_n7 _ rfl o ho x y z)) rfl rfl hl.1 (Nat.le_of_ble_eq_true rfl) dX3_tells_96 ⟨Nat.zero_le _, Nat.zero_le _⟩ ?_
      refine W.eq (g2 := F0 m 99 ls [.long r38, .int i9, .long (-j3), .ref (b0 + (7 + 3 * n1 + 0))]) rfl ?_
      refine lv_goto (pc := 99) (tgt := 110) hx hb dX3_tells_99 (by decide) ?_
      obtain ⟨w40, hq41, hm⟩ := ob_some hm
      refine rk_TV (pc := 110) (As := [.long (-j3), .int i9, .long r38]) (rest := []) (mc := 0) (ms := 0) hx hb hml hown hts hK hS (fun q hq => FA_sz rfl q hq) lkX3_133 rfl yn_X4_gets (ct_X4_gets (G := G) (l := l) (b0 := (b0 + (7 + 3 * n1 + 0))) (sz := H.size) hq41) ⟨Nat.le_of_ble_eq_true rfl, Nat.le_of_ble_eq_true rfl⟩ (fun z h => Or.inl (show iv _ _ _ from ⟨by have h8 := h.1; have h9 := h.2; omega, by have h8 := h.1; have h9 := h.2; omega⟩)) (rk_recv hK hW0 (7 + 3 * n1 + 0) (by omega) rfl rfl ((shX3_f7 G.2.1 hn1 _ rfl 0 (by decide) _ _ _).trans rfl)) (rg_sub (d := (7 + 3 * n1)) hW0 rfl (by omega) (fun o ho x y z => shX3_f7 G.2.1 hn1 _ rfl o ho x y z)) rfl rfl hl.1 (Nat.le_of_ble_eq_true rfl) dX3_tells_110 ⟨Nat.zero_le _, Nat.zero_le _⟩ (fun ov9 H42 locs43 hP44 hkp45 hS46 => ?_)
      obtain ⟨rfl, hW47, hz48⟩ := hP44
      have hW49 := rg_keepA hW1 hkp45 (by intro z h1 h2 h3; have h8 := h3.1; have h9 := h3.2; omega)
      have hW50 := rg_put (d := (7 + 3 * n1)) hW0 hW47 rfl (fun o ho x y z => shX3_f7 G.2.1 hn1 _ rfl o ho x y z) hkp45
      obtain ⟨v0_51, he9, hm⟩ := lm_some hm
      rw [he9] at hW50
      have hz52 := hz48.trans hz
      refine W.eq (g2 := F0 m 113 ls []) rfl ?_
      refine lv_iinc (pc := 113) (v := (i9 + (1 : Int32))) (lv' := [(9, .int (i9 + (1 : Int32))), (0, .ref b0), (1, .ref (b0 + (7 + 3 * n1 + 0))), (3, .long j3), (6, .int i6), (7, .ref (b1 + (6 + 2 * n7 + 0))), (8, .null)]) hx hb dX3_tells_113 hl (k := 6) rfl rfl (by decide) rfl (fun ls hl => ?_)
      refine lv_goto (pc := 116) (tgt := 73) hx hb dX3_tells_116 (by decide) ?_
      exact hk73 v0_51 j3 i6 n7 (i9 + (1 : Int32)) hm hn_n7 H42 locs43 ls hW50 hW49 hS46 hz52 (lv_sub hl [1, 2, 3, 4, 5, 6, 0] rfl)
theorem w_fX3_tells_73b_l (C : Cx G p s m args meth c RX3 cX3_tells 10 none) {b0 : Nat} {b1 : Nat} {V1 : Mem} {n1 : Nat} {rw0 : Mem} (hd01 : b0 + 43 ≤ b1 ∨ b1 + 22 ≤ b0) (hn1 : n1 < 12) : ∀ (n : Nat) (v0 : Mem) (j3 : Int64) (i6 : Int32) (n7 : Nat) (i9 : Int32), lq5 (fX3_tells_73b V1 n1) n v0 j3 i6 n7 i9 = some rw0 → (hn_n7 : n7 < 8) → ∀ (H : Heap) (locs : List Loc) (ls : Array Slot), rg G b0 43 (shX3 G.2.1) v0 H → rg G b1 22 (shX1 G.2.1) V1 H → va_S (FA (iv b0 43) s.heap.size) s.heap H locs → H.size = s.heap.size → lv_has ls 10 [(0, .ref b0), (1, .ref (b0 + (7 + 3 * n1 + 0))), (3, .long j3), (6, .int i6), (7, .ref (b1 + (6 + 2 * n7 + 0))), (8, .null), (9, .int i9)] → W p l e (rmT 1 0 0 25) s m args below meth c H locs 0 0 (MQ below (QcT (FA (iv b0 43) s.heap.size) (fun ov H => ov = none ∧ rg G b0 43 (shX3 G.2.1) rw0 H ∧ H.size = s.heap.size)) args s 0 0 (FA (iv b0 43) s.heap.size)) (F0 m 73 ls []) := by
  intro n
  induction n with
  | zero => intro v0 j3 i6 n7 i9 hm; exact (lq5_0 hm).elim
  | succ n ih => intro v0 j3 i6 n7 i9 hm; exact w_fX3_tells_73b C hd01 hn1 ih v0 j3 i6 n7 i9 (lq5_s hm)
set_option maxHeartbeats 4000000 in
theorem w_fX3_tells_48b (C : Cx G p s m args meth c RX3 cX3_tells 10 none) {b0 : Nat} {b1 : Nat} {V1 : Mem} {n1 : Nat} {rw0 : Mem} (hd01 : b0 + 43 ≤ b1 ∨ b1 + 22 ≤ b0) (hn1 : n1 < 12) : ∀ (v0 : Mem) (i2 : Int32) (j3 : Int64) (i6 : Int32) (ns0 : Nat), fX3_tells_48b V1 n1 v0 i2 j3 i6 ns0 = some rw0 → (hn_ns0 : ns0 < 8) → ∀ (H : Heap) (locs : List Loc) (ls : Array Slot), rg G b0 43 (shX3 G.2.1) v0 H → rg G b1 22 (shX1 G.2.1) V1 H → va_S (FA (iv b0 43) s.heap.size) s.heap H locs → H.size = s.heap.size → lv_has ls 10 [(0, .ref b0), (1, .ref (b0 + (7 + 3 * n1 + 0))), (2, .int i2), (3, .long j3), (6, .int i6)] → W p l e (rmT 1 0 0 25) s m args below meth c H locs 0 0 (MQ below (QcT (FA (iv b0 43) s.heap.size) (fun ov H => ov = none ∧ rg G b0 43 (shX3 G.2.1) rw0 H ∧ H.size = s.heap.size)) args s 0 0 (FA (iv b0 43) s.heap.size)) (F0 m 48 ls [.ref (b1 + (6 + 2 * ns0 + 0))]) := by
  intro v0 i2 j3 i6 ns0 hm hn_ns0 H locs ls hW0 hW1 hS hz hl
  obtain ⟨hx, hb, hr, hlk, hml, hown, hts, hK⟩ := id C
  unfold fX3_tells_48b at hm
  refine lv_astore (pc := 48) (lv' := [(7, .ref (b1 + (6 + 2 * ns0 + 0))), (0, .ref b0), (1, .ref (b0 + (7 + 3 * n1 + 0))), (2, .int i2), (3, .long j3), (6, .int i6)]) hx hb dX3_tells_48 hl (by decide) rfl (fun ls hl => ?_)
  refine lv_iload (pc := 50) hx hb dX3_tells_50 (lv_at hl 5 rfl) ?_
  refine lv_if_eq (pc := 52) (tgt := 59) hx hb dX3_tells_52 (by decide) (fun c21 => ?_) (fun c21 => ?_)
  · have hm := ite_t c21 hm
    refine lv_aload_n (pc := 59) hx hb dX3_tells_59 rfl (lv_at hl 1 rfl) ?_
    refine rk_get (pc := 60) hx hb hts hown hK hW0 flX3_30 0 (by decide) rfl rfl (x := .ref (b0 + 6)) (by first | rfl | exact congrArg (fun z => some (Value.ref z)) (by omega)) dX3_tells_60 ?_
    refine lv_iload_n (pc := 63) hx hb dX3_tells_63 rfl (lv_at hl 3 rfl) ?_
    refine lv_bipush (pc := 64) (v := (20 : Int32)) hx hb dX3_tells_64 (by decide) ?_
    refine lv_isub (pc := 66) hx hb dX3_tells_66 ?_
    obtain ⟨hg22, hm⟩ := gb_some hm
    have hlt23 := inR_lt hg22
    refine rk_aald (pc := 67) hx hb hK hW0 6 6 (by decide) rfl rfl rfl hg22 (x := (b0 + (7 + 3 * (i2 - (20 : Int32)).toNatClampNeg + 0))) (by first | rfl | exact congrArg some (by omega)) dX3_tells_67 ?_
    refine lv_astore (pc := 68) (lv' := [(8, .ref (b0 + (7 + 3 * (i2 - (20 : Int32)).toNatClampNeg + 0))), (7, .ref (b1 + (6 + 2 * ns0 + 0))), (0, .ref b0), (1, .ref (b0 + (7 + 3 * n1 + 0))), (2, .int i2), (3, .long j3), (6, .int i6)]) hx hb dX3_tells_68 hl (by decide) rfl (fun ls hl => ?_)
    refine lv_iconst (pc := 70) (v := (0 : Int32)) hx hb dX3_tells_70 (by decide) ?_
    refine lv_istore (pc := 71) (lv' := [(9, .int (0 : Int32)), (8, .ref (b0 + (7 + 3 * (i2 - (20 : Int32)).toNatClampNeg + 0))), (7, .ref (b1 + (6 + 2 * ns0 + 0))), (0, .ref b0), (1, .ref (b0 + (7 + 3 * n1 + 0))), (2, .int i2), (3, .long j3), (6, .int i6)]) hx hb dX3_tells_71 hl (by decide) rfl (fun ls hl => ?_)
    exact (w_fX3_tells_73_l C hd01 hn1 FU) v0 j3 i6 ns0 (i2 - (20 : Int32)).toNatClampNeg (0 : Int32) hm hn_ns0 hlt23 H locs ls hW0 hW1 hS hz (lv_sub hl [3, 4, 6, 7, 2, 1, 0] rfl)
  · have hm := ite_f c21 hm
    refine lv_null (pc := 55) hx hb dX3_tells_55 ?_
    refine lv_goto (pc := 56) (tgt := 68) hx hb dX3_tells_56 (by decide) ?_
    refine lv_astoreN (pc := 68) (lv' := [(8, .null), (7, .ref (b1 + (6 + 2 * ns0 + 0))), (0, .ref b0), (1, .ref (b0 + (7 + 3 * n1 + 0))), (2, .int i2), (3, .long j3), (6, .int i6)]) hx hb dX3_tells_68 hl (by decide) rfl (fun ls hl => ?_)
    refine lv_iconst (pc := 70) (v := (0 : Int32)) hx hb dX3_tells_70 (by decide) ?_
    refine lv_istore (pc := 71) (lv' := [(9, .int (0 : Int32)), (8, .null), (7, .ref (b1 + (6 + 2 * ns0 + 0))), (0, .ref b0), (1, .ref (b0 + (7 + 3 * n1 + 0))), (2, .int i2), (3, .long j3), (6, .int i6)]) hx hb dX3_tells_71 hl (by decide) rfl (fun ls hl => ?_)
    exact (w_fX3_tells_73b_l C hd01 hn1 FU) v0 j3 i6 ns0 (0 : Int32) hm hn_ns0 H locs ls hW0 hW1 hS hz (lv_sub hl [3, 4, 6, 7, 2, 1, 0] rfl)
set_option maxHeartbeats 4000000 in
theorem w_fX3_tells_27 (C : Cx G p s m args meth c RX3 cX3_tells 10 none) {b0 : Nat} {b1 : Nat} {V1 : Mem} {n1 : Nat} {rw0 : Mem} (hd01 : b0 + 43 ≤ b1 ∨ b1 + 22 ≤ b0) (hn1 : n1 < 12) : ∀ (v0 : Mem) (i2 : Int32) (j3 : Int64) (t0 : Int32), fX3_tells_27 V1 n1 v0 i2 j3 t0 = some rw0 → ∀ (H : Heap) (locs : List Loc) (ls : Array Slot), rg G b0 43 (shX3 G.2.1) v0 H → rg G b1 22 (shX1 G.2.1) V1 H → va_S (FA (iv b0 43) s.heap.size) s.heap H locs → H.size = s.heap.size → lv_has ls 10 [(0, .ref b0), (1, .ref (b0 + (7 + 3 * n1 + 0))), (2, .int i2), (3, .long j3), (5, .ref b1)] → W p l e (rmT 1 0 0 25) s m args below meth c H locs 0 0 (MQ below (QcT (FA (iv b0 43) s.heap.size) (fun ov H => ov = none ∧ rg G b0 43 (shX3 G.2.1) rw0 H ∧ H.size = s.heap.size)) args s 0 0 (FA (iv b0 43) s.heap.size)) (F0 m 27 ls [.int t0]) := by
  intro v0 i2 j3 t0 hm H locs ls hW0 hW1 hS hz hl
  obtain ⟨hx, hb, hr, hlk, hml, hown, hts, hK⟩ := id C
  unfold fX3_tells_27 at hm
  refine lv_istore (pc := 27) (lv' := [(6, .int t0), (0, .ref b0), (1, .ref (b0 + (7 + 3 * n1 + 0))), (2, .int i2), (3, .long j3), (5, .ref b1)]) hx hb dX3_tells_27 hl (by decide) rfl (fun ls hl => ?_)
  refine lv_iload (pc := 29) hx hb dX3_tells_29 (lv_at hl 0 rfl) ?_
  refine lv_if_eq (pc := 31) (tgt := 47) hx hb dX3_tells_31 (by decide) (fun c18 => ?_) (fun c18 => ?_)
  · have hm := ite_t c18 hm
    refine lv_null (pc := 47) hx hb dX3_tells_47 ?_
    exact (w_fX3_tells_48 C hd01 hn1) v0 i2 j3 t0 hm H locs ls hW0 hW1 hS hz (lv_sub hl [1, 2, 3, 4, 0] rfl)
  · have hm := ite_f c18 hm
    refine lv_aload (pc := 34) hx hb dX3_tells_34 (lv_at hl 5 rfl) ?_
    refine rk_getN (pc := 36) hx hb hts hown hK hW1 fnX3_64 0 (by decide) rfl rfl (x := .ref (b1 + 2)) (by first | rfl | exact congrArg (fun z => some (Value.ref z)) (by omega)) dX3_tells_36 ?_
    refine lv_iload_n (pc := 39) hx hb dX3_tells_39 rfl (lv_at hl 3 rfl) ?_
    refine lv_bipush (pc := 40) (v := (10 : Int32)) hx hb dX3_tells_40 (by decide) ?_
    refine lv_isub (pc := 42) hx hb dX3_tells_42 ?_
    obtain ⟨hg19, hm⟩ := gb_some hm
    have hlt20 := inR_lt hg19
    refine rk_aald (pc := 43) hx hb hK hW1 2 5 (by decide) rfl rfl rfl hg19 (x := (b1 + (6 + 2 * (i2 - (10 : Int32)).toNatClampNeg + 0))) (by first | rfl | exact congrArg some (by omega)) dX3_tells_43 ?_
    refine lv_goto (pc := 44) (tgt := 48) hx hb dX3_tells_44 (by decide) ?_
    exact (w_fX3_tells_48b C hd01 hn1) v0 i2 j3 t0 (i2 - (10 : Int32)).toNatClampNeg hm hlt20 H locs ls hW0 hW1 hS hz (lv_sub hl [1, 2, 3, 4, 0] rfl)
set_option maxHeartbeats 4000000 in
theorem w_fX3_tells (C : Cx G p s m args meth c RX3 cX3_tells 10 none) {b0 : Nat} {b1 : Nat} {V1 : Mem} {n1 : Nat} {rw0 : Mem} (hd01 : b0 + 43 ≤ b1 ∨ b1 + 22 ≤ b0) (hn1 : n1 < 12) : ∀ (v0 : Mem) (i2 : Int32) (j3 : Int64), fX3_tells V1 n1 v0 i2 j3 = some rw0 → ∀ (H : Heap) (locs : List Loc) (ls : Array Slot), rg G b0 43 (shX3 G.2.1) v0 H → rg G b1 22 (shX1 G.2.1) V1 H → va_S (FA (iv b0 43) s.heap.size) s.heap H locs → H.size = s.heap.size → lv_has ls 10 [(0, .ref b0), (1, .ref (b0 + (7 + 3 * n1 + 0))), (2, .int i2), (3, .long j3), (5, .ref b1)] → W p l e (rmT 1 0 0 25) s m args below meth c H locs 0 0 (MQ below (QcT (FA (iv b0 43) s.heap.size) (fun ov H => ov = none ∧ rg G b0 43 (shX3 G.2.1) rw0 H ∧ H.size = s.heap.size)) args s 0 0 (FA (iv b0 43) s.heap.size)) (F0 m 0 ls []) := by
  intro v0 i2 j3 hm H locs ls hW0 hW1 hS hz hl
  obtain ⟨hx, hb, hr, hlk, hml, hown, hts, hK⟩ := id C
  unfold fX3_tells at hm
  refine lv_aload_n (pc := 0) hx hb dX3_tells_0 rfl (lv_at hl 0 rfl) ?_
  refine lv_iload_n (pc := 1) hx hb dX3_tells_1 rfl (lv_at hl 2 rfl) ?_
  obtain ⟨r1, hq2, hm⟩ := ob_some hm
  refine rk_PV (pc := 2) (As := [.int i2]) (rest := []) hx hb hml hown hts hK lkX3_129 rfl yn_X3_isPack (ct_X3_isPack (G := G) (l := l) (b0 := b0) hq2) ⟨Nat.le_of_ble_eq_true rfl, Nat.le_of_ble_eq_true rfl⟩ (rk_recv hK hW0 0 (by decide) rfl rfl rfl) hW0 rfl rfl hl.1 (Nat.le_of_ble_eq_true rfl) dX3_tells_2 ⟨Nat.zero_le _, Nat.zero_le _⟩ ?_
  refine W.eq (g2 := F0 m 5 ls [.int r1]) rfl ?_
  refine lv_if_eq (pc := 5) (tgt := 16) hx hb dX3_tells_5 (by decide) (fun c3 => ?_) (fun c3 => ?_)
  · have hm := ite_t c3 hm
    refine lv_iload_n (pc := 16) hx hb dX3_tells_16 rfl (lv_at hl 2 rfl) ?_
    refine lv_bipush (pc := 17) (v := (20 : Int32)) hx hb dX3_tells_17 (by decide) ?_
    refine lv_icmp_ge (pc := 19) (tgt := 26) hx hb dX3_tells_19 (by decide) (fun c4 => ?_) (fun c4 => ?_)
    · have hm := ite_t c4 hm
      refine lv_iconst (pc := 26) (v := (0 : Int32)) hx hb dX3_tells_26 (by decide) ?_
      exact (w_fX3_tells_27 C hd01 hn1) v0 i2 j3 (0 : Int32) hm H locs ls hW0 hW1 hS hz (lv_sub hl [0, 1, 2, 3, 4] rfl)
    · have hm := ite_f c4 hm
      refine lv_iconst (pc := 22) (v := (1 : Int32)) hx hb dX3_tells_22 (by decide) ?_
      refine lv_goto (pc := 23) (tgt := 27) hx hb dX3_tells_23 (by decide) ?_
      exact (w_fX3_tells_27 C hd01 hn1) v0 i2 j3 (1 : Int32) hm H locs ls hW0 hW1 hS hz (lv_sub hl [0, 1, 2, 3, 4] rfl)
  · have hm := ite_f c3 hm
    refine lv_aload_n (pc := 8) hx hb dX3_tells_8 rfl (lv_at hl 1 rfl) ?_
    refine lv_lload_n (pc := 9) hx hb dX3_tells_9 rfl (lv_at hl 3 rfl) ?_
    refine lv_iload_n (pc := 10) hx hb dX3_tells_10 rfl (lv_at hl 2 rfl) ?_
    refine lv_lconst (pc := 11) (v := (1 : Int64)) hx hb dX3_tells_11 (by decide) ?_
    obtain ⟨w5, hq6, hm⟩ := ob_some hm
    refine rk_TV (pc := 12) (As := [.long j3, .int i2, .long (1 : Int64)]) (rest := []) (mc := 0) (ms := 0) hx hb hml hown hts hK hS (fun q hq => FA_sz rfl q hq) lkX3_133 rfl yn_X4_gets (ct_X4_gets (G := G) (l := l) (b0 := (b0 + (7 + 3 * n1 + 0))) (sz := H.size) hq6) ⟨Nat.le_of_ble_eq_true rfl, Nat.le_of_ble_eq_true rfl⟩ (fun z h => Or.inl (show iv _ _ _ from ⟨by have h8 := h.1; have h9 := h.2; omega, by have h8 := h.1; have h9 := h.2; omega⟩)) (rk_recv hK hW0 (7 + 3 * n1 + 0) (by omega) rfl rfl ((shX3_f7 G.2.1 hn1 _ rfl 0 (by decide) _ _ _).trans rfl)) (rg_sub (d := (7 + 3 * n1)) hW0 rfl (by omega) (fun o ho x y z => shX3_f7 G.2.1 hn1 _ rfl o ho x y z)) rfl rfl hl.1 (Nat.le_of_ble_eq_true rfl) dX3_tells_12 ⟨Nat.zero_le _, Nat.zero_le _⟩ (fun ov9 H7 locs8 hP9 hkp10 hS11 => ?_)
    obtain ⟨rfl, hW12, hz13⟩ := hP9
    have hW14 := rg_keepA hW1 hkp10 (by intro z h1 h2 h3; have h8 := h3.1; have h9 := h3.2; omega)
    have hW15 := rg_put (d := (7 + 3 * n1)) hW0 hW12 rfl (fun o ho x y z => shX3_f7 G.2.1 hn1 _ rfl o ho x y z) hkp10
    obtain ⟨v0_16, he9, hm⟩ := lm_some hm
    rw [he9] at hW15
    have hz17 := hz13.trans hz
    refine W.eq (g2 := F0 m 15 ls []) rfl ?_
    have e9 := rs1 hm
    subst e9
    exact rk_vret (pc := 15) hx hb hr hlk hS11 ⟨rfl, hW15, hz17⟩ dX3_tells_15
set_option maxHeartbeats 4000000 in
theorem ct_X3_tells {G : Gv} {l : Launch} {b0 : Nat} {b1 : Nat} {V1 : Mem} {n1 : Nat} {v0 : Mem} {i2 : Int32} {j3 : Int64} {rw0 : Mem} {sz : Nat} (hm : fX3_tells V1 n1 v0 i2 j3 = some rw0) (hd01 : b0 + 43 ≤ b1 ∨ b1 + 22 ≤ b0) (hn1 : n1 < 12) : CT G l yX3_tells (ws_ yX3_tells cX3_tells 10 none) 1 0 0 25 [.ref b0, .ref (b0 + (7 + 3 * n1 + 0)), .int i2, .long j3, .ref b1] (iv b0 43) sz (fun H => rg G b0 43 (shX3 G.2.1) v0 H ∧ rg G b1 22 (shX1 G.2.1) V1 H) (fun ov H => ov = none ∧ rg G b0 43 (shX3 G.2.1) rw0 H ∧ H.size = sz) := by
  refine Met.ofW (cc := cX3_tells) (maxL := 10) (ret := none) (by decide +kernel) rfl ?_
  intro p e s m args below meth c s₁ B hml hv
  obtain ⟨rfl, ⟨hz, hW0, hW1⟩, hK⟩ := hv
  subst hz
  have hts := atoms_spec (ws := ws_ yX3_tells cX3_tells 10 none) B.pre
  have hts : ∀ w ∈ lw_all, w.before _ s = true := fun w h => hts w (List.mem_cons_of_mem _ h)
  have C : Cx G p s m _ meth c RX3 cX3_tells 10 none := ⟨B.exec, B.bytes, B.returns, B.notSynchronized, hml, findClass_of_methodNamed B.named, hts, hK⟩
  have hl := lv_entry ([.ref b0, .ref (b0 + (7 + 3 * n1 + 0)), .int i2, .long j3, .ref b1]) (n := 10) (Nat.le_of_ble_eq_true rfl)
  rw [lg_entry_eq]
  generalize (lg_sl ([.ref b0, .ref (b0 + (7 + 3 * n1 + 0)), .int i2, .long j3, .ref b1]) ++ List.replicate (10 - (lg_sl ([.ref b0, .ref (b0 + (7 + 3 * n1 + 0)), .int i2, .long j3, .ref b1])).length) Slot.unset).toArray = ls at hl ⊢
  have hl : lv_has ls 10 [(0, .ref b0), (1, .ref (b0 + (7 + 3 * n1 + 0))), (2, .int i2), (3, .long j3), (5, .ref b1)] := hl
  exact w_fX3_tells C hd01 hn1 _ _ _ hm s.heap [] ls hW0 hW1 va_S.rf rfl hl
theorem yn_X4_begins : YN yX4_begins 0 := by
  unfold YN
  decide +kernel
theorem lkX3_141 : LV RX3 141 RX4 yX4_begins cX4_begins 2 none := ⟨q863, q864, q865, q118, q866⟩
theorem fnX3_144 : FN RX3 144 4 2 RX4 TX4 4 "WholePacks" := ⟨in_X4, rfl, by decide, q259⟩
theorem lkX3_145 : LSt RX3 145 yJ7_floorDiv cJ7_floorDiv 6 (some .long) := ⟨q871, q872, q136, q873⟩
theorem yn_X4_isSmall : YN yX4_isSmall 0 := by
  unfold YN
  decide +kernel
theorem lkX3_161 : LV RX3 161 RX4 yX4_isSmall cX4_isSmall 3 (some .boolean) := ⟨q881, q882, q883, q118, q884⟩
theorem lkX3_158 : LSt RX3 158 yJ7_floorMod cJ7_floorMod 6 (some .long) := ⟨q878, q879, q136, q880⟩
theorem yn_X3_tells : YN yX3_tells 4 := by
  unfold YN
  decide +kernel
theorem lkX3_151 : LV RX3 151 RX3 yX3_tells cX3_tells 10 none := ⟨q874, q876, qs21, q117, q877⟩
theorem fnX3_155 : FN RX3 155 4 3 RX4 TX4 4 "WholePacks" := ⟨in_X4, rfl, by decide, q262⟩
noncomputable def fX3_cuts_198 (V1 : Mem) (k198 : Mem → Int32 → Int32 → Int32 → Option (Bool × Int32 × Mem)) (v0 : Mem) (i1 : Int32) (i4 : Int32) (i5 : Int32) : Option (Bool × Int32 × Mem) :=
  if (gI v0 0 0) ≤ i5 then (
  lm (sI v0 0 3 ((gI v0 0 3) + (1 : Int32))) fun v0_127 =>
  some (true, (0 : Int32), v0_127))
  else (
  ob (fX3_entry v0 i1 i5) fun r136 =>
  ob (fJ7_floorMod r136 (gL v0 0 4)) fun r138 =>
  ob (fX3_puts v0 i4 i5 (-r138)) fun w140 =>
  k198 w140 i1 i4 (i5 + (1 : Int32)))
noncomputable def fX3_cuts_130 (V1 : Mem) (k54 : Mem → Int32 → Nat → Int32 → Option (Bool × Int32 × Mem)) (v0 : Mem) (i1 : Int32) (n3 : Nat) (i4 : Int32) (ns0 : Nat) (t1 : Int32) : Option (Bool × Int32 × Mem) :=
  ob (fX3_entry v0 i1 i4) fun r112 =>
  ob (fJ7_floorMod r112 (gL v0 0 4)) fun r114 =>
  gb (inR t1 20) (
  lm (sL v0 (7 + 3 * ns0 + 2) t1.toNatClampNeg r114) fun v0_117 =>
  k54 v0_117 i1 n3 (i4 + (1 : Int32)))
noncomputable def fX3_cuts_54 (V1 : Mem) (k54 : Mem → Int32 → Nat → Int32 → Option (Bool × Int32 × Mem)) (v0 : Mem) (i1 : Int32) (n3 : Nat) (i4 : Int32) : Option (Bool × Int32 × Mem) :=
  if (gI v0 0 0) ≤ i4 then (
  ob (fX4_isSmall (shf v0 (7 + 3 * n3))) fun r52 =>
  if r52 = 0 then (
  some (false, (-6 : Int32), v0))
  else (
  gb (inR i1 30) (
  ob (fJ7_floorMod (gL v0 2 i1.toNatClampNeg) (gL v0 0 4)) fun r56 =>
  ob2 (fX3_rowComes v0 ((20 : Int32) + (gI v0 0 3)) (-r56)) fun r58 w59 =>
  lq4 (fX3_cuts_198 V1) FU w59 i1 r58 (0 : Int32))))
  else (
  gb (inR i4 5) (
  ob (fX3_entry v0 i1 i4) fun r93 =>
  ob (fJ7_floorDiv r93 (gL v0 0 4)) fun r95 =>
  ob (fX3_tells V1 n3 v0 (gI v0 5 i4.toNatClampNeg) r95) fun w97 =>
  ob (fX3_isPack w97 (gI v0 5 i4.toNatClampNeg)) fun r108 =>
  if r108 = 0 then (
  if (20 : Int32) ≤ (gI v0 5 i4.toNatClampNeg) then (
  fX3_cuts_130 V1 k54 w97 i1 n3 i4 n3 (((8 : Int32) + (gI v0 5 i4.toNatClampNeg)) - (20 : Int32)))
  else (
  fX3_cuts_130 V1 k54 w97 i1 n3 i4 n3 ((gI v0 5 i4.toNatClampNeg) - (10 : Int32))))
  else (
  k54 w97 i1 n3 (i4 + (1 : Int32)))))
noncomputable def fX3_cuts (V1 : Mem) (v0 : Mem) (i1 : Int32) : Option (Bool × Int32 × Mem) :=
  gb (inR (gI v0 0 3) 12) (
  ob (fX4_begins (shf v0 (7 + 3 * (gI v0 0 3).toNatClampNeg))) fun w3 =>
  lm (ptm v0 (7 + 3 * (gI v0 0 3).toNatClampNeg) 3 w3) fun v0_14 =>
  lm (sL v0_14 (7 + 3 * (gI v0 0 3).toNatClampNeg + 0) 2 (gL v0_14 0 4)) fun v0_16 =>
  gb (inR i1 30) (
  ob (fX4_gets (shf v0_16 (7 + 3 * (gI v0 0 3).toNatClampNeg)) (1 : Int64) (gI v0_16 4 i1.toNatClampNeg) (1 : Int64)) fun w26 =>
  lm (ptm v0_16 (7 + 3 * (gI v0 0 3).toNatClampNeg) 3 w26) fun v0_37 =>
  gb (inR i1 30) (
  ob (fJ7_floorDiv (gL v0_37 2 i1.toNatClampNeg) (gL v0_37 0 4)) fun r40 =>
  lm (sL v0_37 (7 + 3 * (gI v0 0 3).toNatClampNeg + 0) 1 r40) fun v0_42 =>
  lq4 (fX3_cuts_54 V1) FU v0_42 i1 (gI v0 0 3).toNatClampNeg (0 : Int32))))
set_option maxHeartbeats 4000000 in
theorem w_fX3_cuts_198 (C : Cx G p s m args meth c RX3 cX3_cuts 6 none) {b0 : Nat} {b1 : Nat} {V1 : Mem} {rok : Bool} {re : Int32} {rw0 : Mem} (hd01 : b0 + 43 ≤ b1 ∨ b1 + 22 ≤ b0) (he0 : b0 + 43 ≤ s.heap.size) (he1 : b1 + 22 ≤ s.heap.size) (hZ : ZQ G) (hgb0 : gB G ≤ b0) (hgb1 : gB G ≤ b1) (ht : ∀ x ∈ c.exceptionTable.toList, False) {k198 : Mem → Int32 → Int32 → Int32 → Option (Bool × Int32 × Mem)} (hk198 : ∀ (v0 : Mem) (i1 : Int32) (i4 : Int32) (i5 : Int32), k198 v0 i1 i4 i5 = some (rok, re, rw0) → ∀ (H : Heap) (locs : List Loc) (ls : Array Slot), rg G b0 43 (shX3 G.2.1) v0 H → rg G b1 22 (shX1 G.2.1) V1 H → va_S (FA (iv b0 43) s.heap.size) s.heap H locs → GO G H → lv_has ls 6 [(0, .ref b0), (1, .int i1), (4, .int i4), (5, .int i5)] → W p l e (rmT 4 (bif rok then 0 else 1) (bif rok then 0 else 7) 81) s m args below meth c H locs 0 0 (vx_MQ below (QcX rok (FA (iv b0 43) s.heap.size) (fun ov H => ov = none ∧ rg G b0 43 (shX3 G.2.1) rw0 H)) (XcX rok (FA (iv b0 43) s.heap.size) (fun q E H => E = "WholePacks$Stuck" ∧ s.heap.size ≤ q ∧ (∃ wx, rg G q 1 (shX13 G.2.1) wx H ∧ gI wx 0 6 = re) ∧ rg G b0 43 (shX3 G.2.1) rw0 H)) args s (bif rok then 0 else 1) (bif rok then 0 else 7) (FA (iv b0 43) s.heap.size)) (F0 m 198 ls [])) : ∀ (v0 : Mem) (i1 : Int32) (i4 : Int32) (i5 : Int32), fX3_cuts_198 V1 k198 v0 i1 i4 i5 = some (rok, re, rw0) → ∀ (H : Heap) (locs : List Loc) (ls : Array Slot), rg G b0 43 (shX3 G.2.1) v0 H → rg G b1 22 (shX1 G.2.1) V1 H → va_S (FA (iv b0 43) s.heap.size) s.heap H locs → GO G H → lv_has ls 6 [(0, .ref b0), (1, .int i1), (4, .int i4), (5, .int i5)] → W p l e (rmT 4 (bif rok then 0 else 1) (bif rok then 0 else 7) 81) s m args below meth c H locs 0 0 (vx_MQ below (QcX rok (FA (iv b0 43) s.heap.size) (fun ov H => ov = none ∧ rg G b0 43 (shX3 G.2.1) rw0 H)) (XcX rok (FA (iv b0 43) s.heap.size) (fun q E H => E = "WholePacks$Stuck" ∧ s.heap.size ≤ q ∧ (∃ wx, rg G q 1 (shX13 G.2.1) wx H ∧ gI wx 0 6 = re) ∧ rg G b0 43 (shX3 G.2.1) rw0 H)) args s (bif rok then 0 else 1) (bif rok then 0 else 7) (FA (iv b0 43) s.heap.size)) (F0 m 198 ls []) := by
  intro v0 i1 i4 i5 hm H locs ls hW0 hW1 hS hG hl
  obtain ⟨hx, hb, hr, hlk, hml, hown, hts, hK⟩ := id C
  unfold fX3_cuts_198 at hm
  refine lv_iload (pc := 198) hx hb dX3_cuts_198 (lv_at hl 3 rfl) ?_
  refine lv_aload_n (pc := 200) hx hb dX3_cuts_200 rfl (lv_at hl 0 rfl) ?_
  refine rk_get (pc := 201) hx hb hts hown hK hW0 flX3_44 0 (by decide) rfl rfl (x := .int (gI v0 0 0)) rfl dX3_cuts_201 ?_
  refine lv_icmp_ge (pc := 204) (tgt := 236) hx hb dX3_cuts_204 (by decide) (fun c126 => ?_) (fun c126 => ?_)
  · have hm := ite_t c126 hm
    refine lv_aload_n (pc := 236) hx hb dX3_cuts_236 rfl (lv_at hl 0 rfl) ?_
    refine lv_dup (pc := 237) hx hb dX3_cuts_237 rfl ?_
    refine rk_get (pc := 238) hx hb hts hown hK hW0 flX3_48 0 (by decide) rfl rfl (x := .int (gI v0 0 3)) rfl dX3_cuts_238 ?_
    refine lv_iconst (pc := 241) (v := (1 : Int32)) hx hb dX3_cuts_241 (by decide) ?_
    refine lv_iadd (pc := 242) hx hb dX3_cuts_242 ?_
    refine rk_put (pc := 243) hx hb hts hown hK hW0 hS flX3_48 ft_X3 0 (by decide) rfl (Or.inl (show iv _ _ _ from ⟨by omega, by omega⟩)) rfl rfl (x := .int ((gI v0 0 3) + (1 : Int32))) rfl rfl (Nat.le_of_ble_eq_true rfl) (sI v0 0 3 ((gI v0 0 3) + (1 : Int32))) sI_ne (by rw [sI_eq]; exact rfl) dX3_cuts_243 (fun H128 locs129 hW130 hS131 hz132 hkp133 => ?_)
    obtain ⟨v0_127, he9, hm⟩ := lm_some hm
    rw [he9] at hW130
    have hW134 := rg_keepq hW1 hkp133 (by omega)
    have hG135 := GO_keepq hG hkp133 (by omega)
    obtain ⟨e7, e8, e9⟩ := rs3 hm
    cases e7
    subst e8
    subst e9
    exact rk_vretX (pc := 246) hx hb hr hlk hS131 ⟨rfl, hW130⟩ dX3_cuts_246 (by exact Nat.le_of_ble_eq_true rfl) (by exact Nat.le_of_ble_eq_true rfl)
  · have hm := ite_f c126 hm
    refine lv_aload_n (pc := 207) hx hb dX3_cuts_207 rfl (lv_at hl 0 rfl) ?_
    refine lv_iload (pc := 208) hx hb dX3_cuts_208 (lv_at hl 2 rfl) ?_
    refine lv_iload (pc := 210) hx hb dX3_cuts_210 (lv_at hl 3 rfl) ?_
    refine lv_aload_n (pc := 212) hx hb dX3_cuts_212 rfl (lv_at hl 0 rfl) ?_
    refine lv_iload_n (pc := 213) hx hb dX3_cuts_213 rfl (lv_at hl 1 rfl) ?_
    refine lv_iload (pc := 214) hx hb dX3_cuts_214 (lv_at hl 3 rfl) ?_
    obtain ⟨r136, hq137, hm⟩ := ob_some hm
    refine rk_PV (pc := 216) (As := [.int i1, .int i5]) (rest := [.int i5, .int i4, .ref b0]) hx hb hml hown hts hK lkX3_88 rfl yn_X3_entry (ct_X3_entry (G := G) (l := l) (b0 := b0) hq137) ⟨Nat.le_of_ble_eq_true rfl, Nat.le_of_ble_eq_true rfl⟩ (rk_recv hK hW0 0 (by decide) rfl rfl rfl) hW0 rfl rfl hl.1 (Nat.le_of_ble_eq_true rfl) dX3_cuts_216 ⟨Nat.zero_le _, Nat.zero_le _⟩ ?_
    refine W.eq (g2 := F0 m 219 ls [.long r136, .int i5, .int i4, .ref b0]) rfl ?_
    refine lv_aload_n (pc := 219) hx hb dX3_cuts_219 rfl (lv_at hl 0 rfl) ?_
    refine rk_get (pc := 220) hx hb hts hown hK hW0 flX3_51 0 (by decide) rfl rfl (x := .long (gL v0 0 4)) rfl dX3_cuts_220 ?_
    obtain ⟨r138, hq139, hm⟩ := ob_some hm
    refine rk_PS (pc := 223) (As := [.long r136, .long (gL v0 0 4)]) (rest := [.int i5, .int i4, .ref b0]) hx hb hml hown hts hK lkX3_158 yn_J7_floorMod (ct_J7_floorMod (G := G) (l := l) hq139) ⟨Nat.le_of_ble_eq_true rfl, Nat.le_of_ble_eq_true rfl⟩ trivial rfl rfl hl.1 (Nat.le_of_ble_eq_true rfl) dX3_cuts_223 ⟨Nat.zero_le _, Nat.zero_le _⟩ ?_
    refine W.eq (g2 := F0 m 226 ls [.long r138, .int i5, .int i4, .ref b0]) rfl ?_
    refine lv_lneg (pc := 226) hx hb dX3_cuts_226 ?_
    obtain ⟨w140, hq141, hm⟩ := ob_some hm
    refine rk_TV (pc := 227) (As := [.int i4, .int i5, .long (-r138)]) (rest := []) (mc := 0) (ms := 0) hx hb hml hown hts hK hS (fun q hq => FA_sz rfl q hq) lkX3_82 rfl yn_X3_puts (ct_X3_puts (G := G) (l := l) (b0 := b0) (sz := H.size) hq141) ⟨Nat.le_of_ble_eq_true rfl, Nat.le_of_ble_eq_true rfl⟩ (fun z h => Or.inl (show iv _ _ _ from ⟨by have h8 := h.1; have h9 := h.2; omega, by have h8 := h.1; have h9 := h.2; omega⟩)) (rk_recv hK hW0 0 (by decide) rfl rfl rfl) hW0 rfl rfl hl.1 (Nat.le_of_ble_eq_true rfl) dX3_cuts_227 ⟨Nat.zero_le _, Nat.zero_le _⟩ (fun ov9 H142 locs143 hP144 hkp145 hS146 => ?_)
    obtain ⟨rfl, hW147, hz148⟩ := hP144
    have hW149 := rg_keepA hW1 hkp145 (by intro z h1 h2 h3; have h8 := h3.1; have h9 := h3.2; omega)
    have hG150 := GO_keepA hG hkp145 (Nat.le_trans (show gB G ≤ s.heap.size by omega) hS.1) (by intro z h3; have h8 := h3.1; have h9 := h3.2; omega)
    refine W.eq (g2 := F0 m 230 ls []) rfl ?_
    refine lv_iinc (pc := 230) (v := (i5 + (1 : Int32))) (lv' := [(5, .int (i5 + (1 : Int32))), (0, .ref b0), (1, .int i1), (4, .int i4)]) hx hb dX3_cuts_230 hl (k := 3) rfl rfl (by decide) rfl (fun ls hl => ?_)
    refine lv_goto (pc := 233) (tgt := 198) hx hb dX3_cuts_233 (by decide) ?_
    exact hk198 w140 i1 i4 (i5 + (1 : Int32)) hm H142 locs143 ls hW147 hW149 hS146 hG150 (lv_sub hl [1, 2, 3, 0] rfl)
theorem w_fX3_cuts_198_l (C : Cx G p s m args meth c RX3 cX3_cuts 6 none) {b0 : Nat} {b1 : Nat} {V1 : Mem} {rok : Bool} {re : Int32} {rw0 : Mem} (hd01 : b0 + 43 ≤ b1 ∨ b1 + 22 ≤ b0) (he0 : b0 + 43 ≤ s.heap.size) (he1 : b1 + 22 ≤ s.heap.size) (hZ : ZQ G) (hgb0 : gB G ≤ b0) (hgb1 : gB G ≤ b1) (ht : ∀ x ∈ c.exceptionTable.toList, False) : ∀ (n : Nat) (v0 : Mem) (i1 : Int32) (i4 : Int32) (i5 : Int32), lq4 (fX3_cuts_198 V1) n v0 i1 i4 i5 = some (rok, re, rw0) → ∀ (H : Heap) (locs : List Loc) (ls : Array Slot), rg G b0 43 (shX3 G.2.1) v0 H → rg G b1 22 (shX1 G.2.1) V1 H → va_S (FA (iv b0 43) s.heap.size) s.heap H locs → GO G H → lv_has ls 6 [(0, .ref b0), (1, .int i1), (4, .int i4), (5, .int i5)] → W p l e (rmT 4 (bif rok then 0 else 1) (bif rok then 0 else 7) 81) s m args below meth c H locs 0 0 (vx_MQ below (QcX rok (FA (iv b0 43) s.heap.size) (fun ov H => ov = none ∧ rg G b0 43 (shX3 G.2.1) rw0 H)) (XcX rok (FA (iv b0 43) s.heap.size) (fun q E H => E = "WholePacks$Stuck" ∧ s.heap.size ≤ q ∧ (∃ wx, rg G q 1 (shX13 G.2.1) wx H ∧ gI wx 0 6 = re) ∧ rg G b0 43 (shX3 G.2.1) rw0 H)) args s (bif rok then 0 else 1) (bif rok then 0 else 7) (FA (iv b0 43) s.heap.size)) (F0 m 198 ls []) := by
  intro n
  induction n with
  | zero => intro v0 i1 i4 i5 hm; exact (lq4_0 hm).elim
  | succ n ih => intro v0 i1 i4 i5 hm; exact w_fX3_cuts_198 C hd01 he0 he1 hZ hgb0 hgb1 ht ih v0 i1 i4 i5 (lq4_s hm)
set_option maxHeartbeats 4000000 in
theorem w_fX3_cuts_130 (C : Cx G p s m args meth c RX3 cX3_cuts 6 none) {b0 : Nat} {b1 : Nat} {V1 : Mem} {rok : Bool} {re : Int32} {rw0 : Mem} (hd01 : b0 + 43 ≤ b1 ∨ b1 + 22 ≤ b0) (he0 : b0 + 43 ≤ s.heap.size) (he1 : b1 + 22 ≤ s.heap.size) (hZ : ZQ G) (hgb0 : gB G ≤ b0) (hgb1 : gB G ≤ b1) (ht : ∀ x ∈ c.exceptionTable.toList, False) {k54 : Mem → Int32 → Nat → Int32 → Option (Bool × Int32 × Mem)} (hk54 : ∀ (v0 : Mem) (i1 : Int32) (n3 : Nat) (i4 : Int32), k54 v0 i1 n3 i4 = some (rok, re, rw0) → (hn_n3 : n3 < 12) → ∀ (H : Heap) (locs : List Loc) (ls : Array Slot), rg G b0 43 (shX3 G.2.1) v0 H → rg G b1 22 (shX1 G.2.1) V1 H → va_S (FA (iv b0 43) s.heap.size) s.heap H locs → GO G H → lv_has ls 6 [(0, .ref b0), (1, .int i1), (2, .ref b1), (3, .ref (b0 + (7 + 3 * n3 + 0))), (4, .int i4)] → W p l e (rmT 4 (bif rok then 0 else 1) (bif rok then 0 else 7) 81) s m args below meth c H locs 0 0 (vx_MQ below (QcX rok (FA (iv b0 43) s.heap.size) (fun ov H => ov = none ∧ rg G b0 43 (shX3 G.2.1) rw0 H)) (XcX rok (FA (iv b0 43) s.heap.size) (fun q E H => E = "WholePacks$Stuck" ∧ s.heap.size ≤ q ∧ (∃ wx, rg G q 1 (shX13 G.2.1) wx H ∧ gI wx 0 6 = re) ∧ rg G b0 43 (shX3 G.2.1) rw0 H)) args s (bif rok then 0 else 1) (bif rok then 0 else 7) (FA (iv b0 43) s.heap.size)) (F0 m 54 ls [])) : ∀ (v0 : Mem) (i1 : Int32) (n3 : Nat) (i4 : Int32) (ns0 : Nat) (t1 : Int32), fX3_cuts_130 V1 k54 v0 i1 n3 i4 ns0 t1 = some (rok, re, rw0) → (hn_n3 : n3 < 12) → (hn_ns0 : ns0 < 12) → ∀ (H : Heap) (locs : List Loc) (ls : Array Slot), rg G b0 43 (shX3 G.2.1) v0 H → rg G b1 22 (shX1 G.2.1) V1 H → va_S (FA (iv b0 43) s.heap.size) s.heap H locs → GO G H → lv_has ls 6 [(0, .ref b0), (1, .int i1), (2, .ref b1), (3, .ref (b0 + (7 + 3 * n3 + 0))), (4, .int i4)] → W p l e (rmT 4 (bif rok then 0 else 1) (bif rok then 0 else 7) 81) s m args below meth c H locs 0 0 (vx_MQ below (QcX rok (FA (iv b0 43) s.heap.size) (fun ov H => ov = none ∧ rg G b0 43 (shX3 G.2.1) rw0 H)) (XcX rok (FA (iv b0 43) s.heap.size) (fun q E H => E = "WholePacks$Stuck" ∧ s.heap.size ≤ q ∧ (∃ wx, rg G q 1 (shX13 G.2.1) wx H ∧ gI wx 0 6 = re) ∧ rg G b0 43 (shX3 G.2.1) rw0 H)) args s (bif rok then 0 else 1) (bif rok then 0 else 7) (FA (iv b0 43) s.heap.size)) (F0 m 130 ls [.int t1, .ref (b0 + (7 + 3 * ns0 + 2))]) := by
  intro v0 i1 n3 i4 ns0 t1 hm hn_n3 hn_ns0 H locs ls hW0 hW1 hS hG hl
  obtain ⟨hx, hb, hr, hlk, hml, hown, hts, hK⟩ := id C
  unfold fX3_cuts_130 at hm
  refine lv_aload_n (pc := 130) hx hb dX3_cuts_130 rfl (lv_at hl 0 rfl) ?_
  refine lv_iload_n (pc := 131) hx hb dX3_cuts_131 rfl (lv_at hl 1 rfl) ?_
  refine lv_iload (pc := 132) hx hb dX3_cuts_132 (lv_at hl 4 rfl) ?_
  obtain ⟨r112, hq113, hm⟩ := ob_some hm
  refine rk_PV (pc := 134) (As := [.int i1, .int i4]) (rest := [.int t1, .ref (b0 + (7 + 3 * ns0 + 2))]) hx hb hml hown hts hK lkX3_88 rfl yn_X3_entry (ct_X3_entry (G := G) (l := l) (b0 := b0) hq113) ⟨Nat.le_of_ble_eq_true rfl, Nat.le_of_ble_eq_true rfl⟩ (rk_recv hK hW0 0 (by decide) rfl rfl rfl) hW0 rfl rfl hl.1 (Nat.le_of_ble_eq_true rfl) dX3_cuts_134 ⟨Nat.zero_le _, Nat.zero_le _⟩ ?_
  refine W.eq (g2 := F0 m 137 ls [.long r112, .int t1, .ref (b0 + (7 + 3 * ns0 + 2))]) rfl ?_
  refine lv_aload_n (pc := 137) hx hb dX3_cuts_137 rfl (lv_at hl 0 rfl) ?_
  refine rk_get (pc := 138) hx hb hts hown hK hW0 flX3_51 0 (by decide) rfl rfl (x := .long (gL v0 0 4)) rfl dX3_cuts_138 ?_
  obtain ⟨r114, hq115, hm⟩ := ob_some hm
  refine rk_PS (pc := 141) (As := [.long r112, .long (gL v0 0 4)]) (rest := [.int t1, .ref (b0 + (7 + 3 * ns0 + 2))]) hx hb hml hown hts hK lkX3_158 yn_J7_floorMod (ct_J7_floorMod (G := G) (l := l) hq115) ⟨Nat.le_of_ble_eq_true rfl, Nat.le_of_ble_eq_true rfl⟩ trivial rfl rfl hl.1 (Nat.le_of_ble_eq_true rfl) dX3_cuts_141 ⟨Nat.zero_le _, Nat.zero_le _⟩ ?_
  refine W.eq (g2 := F0 m 144 ls [.long r114, .int t1, .ref (b0 + (7 + 3 * ns0 + 2))]) rfl ?_
  obtain ⟨hg116, hm⟩ := gb_some hm
  refine rk_last (pc := 144) hx hb hK hW0 hS (7 + 3 * ns0 + 2) (by omega) rfl (Or.inl (show iv _ _ _ from ⟨by omega, by omega⟩)) (fun _ _ _ => ((shX3_f7 G.2.1 hn_ns0 _ rfl 2 (by decide) _ _ _).trans rfl)) hg116 dX3_cuts_144 (fun H118 locs119 hW120 hS121 hz122 hkp123 => ?_)
  obtain ⟨v0_117, he9, hm⟩ := lm_some hm
  rw [he9] at hW120
  have hW124 := rg_keepq hW1 hkp123 (by omega)
  have hG125 := GO_keepq hG hkp123 (by omega)
  refine lv_iinc (pc := 145) (v := (i4 + (1 : Int32))) (lv' := [(4, .int (i4 + (1 : Int32))), (0, .ref b0), (1, .int i1), (2, .ref b1), (3, .ref (b0 + (7 + 3 * n3 + 0)))]) hx hb dX3_cuts_145 hl (k := 4) rfl rfl (by decide) rfl (fun ls hl => ?_)
  refine lv_goto (pc := 148) (tgt := 54) hx hb dX3_cuts_148 (by decide) ?_
  exact hk54 v0_117 i1 n3 (i4 + (1 : Int32)) hm hn_n3 H118 locs119 ls hW120 hW124 hS121 hG125 (lv_sub hl [1, 2, 3, 4, 0] rfl)
set_option maxHeartbeats 4000000 in
theorem w_fX3_cuts_54 (C : Cx G p s m args meth c RX3 cX3_cuts 6 none) {b0 : Nat} {b1 : Nat} {V1 : Mem} {rok : Bool} {re : Int32} {rw0 : Mem} (hd01 : b0 + 43 ≤ b1 ∨ b1 + 22 ≤ b0) (he0 : b0 + 43 ≤ s.heap.size) (he1 : b1 + 22 ≤ s.heap.size) (hZ : ZQ G) (hgb0 : gB G ≤ b0) (hgb1 : gB G ≤ b1) (ht : ∀ x ∈ c.exceptionTable.toList, False) {k54 : Mem → Int32 → Nat → Int32 → Option (Bool × Int32 × Mem)} (hk54 : ∀ (v0 : Mem) (i1 : Int32) (n3 : Nat) (i4 : Int32), k54 v0 i1 n3 i4 = some (rok, re, rw0) → (hn_n3 : n3 < 12) → ∀ (H : Heap) (locs : List Loc) (ls : Array Slot), rg G b0 43 (shX3 G.2.1) v0 H → rg G b1 22 (shX1 G.2.1) V1 H → va_S (FA (iv b0 43) s.heap.size) s.heap H locs → GO G H → lv_has ls 6 [(0, .ref b0), (1, .int i1), (2, .ref b1), (3, .ref (b0 + (7 + 3 * n3 + 0))), (4, .int i4)] → W p l e (rmT 4 (bif rok then 0 else 1) (bif rok then 0 else 7) 81) s m args below meth c H locs 0 0 (vx_MQ below (QcX rok (FA (iv b0 43) s.heap.size) (fun ov H => ov = none ∧ rg G b0 43 (shX3 G.2.1) rw0 H)) (XcX rok (FA (iv b0 43) s.heap.size) (fun q E H => E = "WholePacks$Stuck" ∧ s.heap.size ≤ q ∧ (∃ wx, rg G q 1 (shX13 G.2.1) wx H ∧ gI wx 0 6 = re) ∧ rg G b0 43 (shX3 G.2.1) rw0 H)) args s (bif rok then 0 else 1) (bif rok then 0 else 7) (FA (iv b0 43) s.heap.size)) (F0 m 54 ls [])) : ∀ (v0 : Mem) (i1 : Int32) (n3 : Nat) (i4 : Int32), fX3_cuts_54 V1 k54 v0 i1 n3 i4 = some (rok, re, rw0) → (hn_n3 : n3 < 12) → ∀ (H : Heap) (locs : List Loc) (ls : Array Slot), rg G b0 43 (shX3 G.2.1) v0 H → rg G b1 22 (shX1 G.2.1) V1 H → va_S (FA (iv b0 43) s.heap.size) s.heap H locs → GO G H → lv_has ls 6 [(0, .ref b0), (1, .int i1), (2, .ref b1), (3, .ref (b0 + (7 + 3 * n3 + 0))), (4, .int i4)] → W p l e (rmT 4 (bif rok then 0 else 1) (bif rok then 0 else 7) 81) s m args below meth c H locs 0 0 (vx_MQ below (QcX rok (FA (iv b0 43) s.heap.size) (fun ov H => ov = none ∧ rg G b0 43 (shX3 G.2.1) rw0 H)) (XcX rok (FA (iv b0 43) s.heap.size) (fun q E H => E = "WholePacks$Stuck" ∧ s.heap.size ≤ q ∧ (∃ wx, rg G q 1 (shX13 G.2.1) wx H ∧ gI wx 0 6 = re) ∧ rg G b0 43 (shX3 G.2.1) rw0 H)) args s (bif rok then 0 else 1) (bif rok then 0 else 7) (FA (iv b0 43) s.heap.size)) (F0 m 54 ls []) := by
  intro v0 i1 n3 i4 hm hn_n3 H locs ls hW0 hW1 hS hG hl
  obtain ⟨hx, hb, hr, hlk, hml, hown, hts, hK⟩ := id C
  unfold fX3_cuts_54 at hm
  refine lv_iload (pc := 54) hx hb dX3_cuts_54 (lv_at hl 4 rfl) ?_
  refine lv_aload_n (pc := 56) hx hb dX3_cuts_56 rfl (lv_at hl 0 rfl) ?_
  refine rk_get (pc := 57) hx hb hts hown hK hW0 flX3_44 0 (by decide) rfl rfl (x := .int (gI v0 0 0)) rfl dX3_cuts_57 ?_
  refine lv_icmp_ge (pc := 60) (tgt := 151) hx hb dX3_cuts_60 (by decide) (fun c51 => ?_) (fun c51 => ?_)
  · have hm := ite_t c51 hm
    refine lv_aload_n (pc := 151) hx hb dX3_cuts_151 rfl (lv_at hl 3 rfl) ?_
    obtain ⟨r52, hq53, hm⟩ := ob_some hm
    refine rk_PV (pc := 152) (As := []) (rest := []) hx hb hml hown hts hK lkX3_161 rfl yn_X4_isSmall (ct_X4_isSmall (G := G) (l := l) (b0 := (b0 + (7 + 3 * n3 + 0))) hq53) ⟨Nat.le_of_ble_eq_true rfl, Nat.le_of_ble_eq_true rfl⟩ (rk_recv hK hW0 (7 + 3 * n3 + 0) (by omega) rfl rfl ((shX3_f7 G.2.1 hn_n3 _ rfl 0 (by decide) _ _ _).trans rfl)) (rg_sub (d := (7 + 3 * n3)) hW0 rfl (by omega) (fun o ho x y z => shX3_f7 G.2.1 hn_n3 _ rfl o ho x y z)) rfl rfl hl.1 (Nat.le_of_ble_eq_true rfl) dX3_cuts_152 ⟨Nat.zero_le _, Nat.zero_le _⟩ ?_
    refine W.eq (g2 := F0 m 155 ls [.int r52]) rfl ?_
    refine lv_if_ne (pc := 155) (tgt := 168) hx hb dX3_cuts_155 (by decide) (fun c54 => ?_) (fun c54 => ?_)
    · have hm := ite_f c54 hm
      refine lv_aload_n (pc := 168) hx hb dX3_cuts_168 rfl (lv_at hl 0 rfl) ?_
      refine lv_bipush (pc := 169) (v := (20 : Int32)) hx hb dX3_cuts_169 (by decide) ?_
      refine lv_aload_n (pc := 171) hx hb dX3_cuts_171 rfl (lv_at hl 0 rfl) ?_
      refine rk_get (pc := 172) hx hb hts hown hK hW0 flX3_48 0 (by decide) rfl rfl (x := .int (gI v0 0 3)) rfl dX3_cuts_172 ?_
      refine lv_iadd (pc := 175) hx hb dX3_cuts_175 ?_
      refine lv_aload_n (pc := 176) hx hb dX3_cuts_176 rfl (lv_at hl 0 rfl) ?_
      refine rk_get (pc := 177) hx hb hts hown hK hW0 flX3_15 0 (by decide) rfl rfl (x := .ref (b0 + 2)) (by first | rfl | exact congrArg (fun z => some (Value.ref z)) (by omega)) dX3_cuts_177 ?_
      refine lv_iload_n (pc := 180) hx hb dX3_cuts_180 rfl (lv_at hl 1 rfl) ?_
      obtain ⟨hg55, hm⟩ := gb_some hm
      refine rk_lald (pc := 181) hx hb hK hW0 2 (by decide) rfl rfl hg55 (x := (gL v0 2 i1.toNatClampNeg)) rfl dX3_cuts_181 ?_
      refine lv_aload_n (pc := 182) hx hb dX3_cuts_182 rfl (lv_at hl 0 rfl) ?_
      refine rk_get (pc := 183) hx hb hts hown hK hW0 flX3_51 0 (by decide) rfl rfl (x := .long (gL v0 0 4)) rfl dX3_cuts_183 ?_
      obtain ⟨r56, hq57, hm⟩ := ob_some hm
      refine rk_PS (pc := 186) (As := [.long (gL v0 2 i1.toNatClampNeg), .long (gL v0 0 4)]) (rest := [.int ((20 : Int32) + (gI v0 0 3)), .ref b0]) hx hb hml hown hts hK lkX3_158 yn_J7_floorMod (ct_J7_floorMod (G := G) (l := l) hq57) ⟨Nat.le_of_ble_eq_true rfl, Nat.le_of_ble_eq_true rfl⟩ trivial rfl rfl hl.1 (Nat.le_of_ble_eq_true rfl) dX3_cuts_186 ⟨Nat.zero_le _, Nat.zero_le _⟩ ?_
      refine W.eq (g2 := F0 m 189 ls [.long r56, .int ((20 : Int32) + (gI v0 0 3)), .ref b0]) rfl ?_
      refine lv_lneg (pc := 189) hx hb dX3_cuts_189 ?_
      obtain ⟨r58, w59, hq60, hm⟩ := ob2_some hm
      refine rk_TV (pc := 190) (As := [.int ((20 : Int32) + (gI v0 0 3)), .long (-r56)]) (rest := []) (mc := 0) (ms := 0) hx hb hml hown hts hK hS (fun q hq => FA_sz rfl q hq) lkX3_74 rfl yn_X3_rowComes (ct_X3_rowComes (G := G) (l := l) (b0 := b0) (sz := H.size) hq60) ⟨Nat.le_of_ble_eq_true rfl, Nat.le_of_ble_eq_true rfl⟩ (fun z h => Or.inl (show iv _ _ _ from ⟨by have h8 := h.1; have h9 := h.2; omega, by have h8 := h.1; have h9 := h.2; omega⟩)) (rk_recv hK hW0 0 (by decide) rfl rfl rfl) hW0 rfl rfl hl.1 (Nat.le_of_ble_eq_true rfl) dX3_cuts_190 ⟨Nat.zero_le _, Nat.zero_le _⟩ (fun ov9 H61 locs62 hP63 hkp64 hS65 => ?_)
      obtain ⟨rfl, hW66, hz67⟩ := hP63
      have hW68 := rg_keepA hW1 hkp64 (by intro z h1 h2 h3; have h8 := h3.1; have h9 := h3.2; omega)
      have hG69 := GO_keepA hG hkp64 (Nat.le_trans (show gB G ≤ s.heap.size by omega) hS.1) (by intro z h3; have h8 := h3.1; have h9 := h3.2; omega)
      refine W.eq (g2 := F0 m 193 ls [.int r58]) rfl ?_
      refine lv_istore (pc := 193) (lv' := [(4, .int r58), (0, .ref b0), (1, .int i1), (2, .ref b1), (3, .ref (b0 + (7 + 3 * n3 + 0)))]) hx hb dX3_cuts_193 hl (by decide) rfl (fun ls hl => ?_)
      refine lv_iconst (pc := 195) (v := (0 : Int32)) hx hb dX3_cuts_195 (by decide) ?_
      refine lv_istore (pc := 196) (lv' := [(5, .int (0 : Int32)), (4, .int r58), (0, .ref b0), (1, .int i1), (2, .ref b1), (3, .ref (b0 + (7 + 3 * n3 + 0)))]) hx hb dX3_cuts_196 hl (by decide) rfl (fun ls hl => ?_)
      exact (w_fX3_cuts_198_l C hd01 he0 he1 hZ hgb0 hgb1 ht FU) w59 i1 r58 (0 : Int32) hm H61 locs62 ls hW66 hW68 hS65 hG69 (lv_sub hl [2, 3, 1, 0] rfl)
    · have hm := ite_t c54 hm
      obtain ⟨h70, hh70⟩ : ∃ h, H.size = h := ⟨_, rfl⟩
      have hqh70 : s.heap.size ≤ h70 := Nat.le_trans hS.1 (Nat.le_of_eq hh70)
      have hok9 : false = rok := (by exact (rs3 hm).1)
      subst hok9
      refine rk_new (pc := 158) (h := h70) (sh := (shX13 G.2.1)) hx hb hts hown hK hS in_X13 ft_X13 rfl q776 q817 q135 hh70 rfl (df_X13 _ rfl) (Nat.le_of_ble_eq_true rfl) (Nat.le_of_ble_eq_true rfl) dX3_cuts_158 (fun H71 hW73 hS74 hz75 hkp76 => ?_)
      have hW77 := rg_keepN hW0 hh70 hkp76
      have hW78 := rg_keepN hW1 hh70 hkp76
      have hG79 := GO_keepN hG (by omega) hkp76
      refine lv_dup (pc := 161) hx hb dX3_cuts_161 rfl ?_
      refine lv_bipush (pc := 162) (v := (-6 : Int32)) hx hb dX3_cuts_162 (by decide) ?_
      refine rk_TI (pc := 164) (As := [.int (-6 : Int32)]) (rest := [.ref h70]) (mc := 0) (ms := 0) hx hb hml hown hts hK hS74 (fun q hq => FA_sz rfl q hq) lkX3_110 yn_X13_init (ct_X13_init (G := G) (l := l) (b0 := h70) (v0 := mz) (i1 := (-6 : Int32)) (sz := H71.size) hZ (by omega)) ⟨Nat.le_of_ble_eq_true rfl, Nat.le_of_ble_eq_true rfl⟩ (fun z h9 => Or.inr (show s.heap.size ≤ z by have := h9.1; omega)) ⟨hW73, hG79⟩ rfl rfl hl.1 (Nat.le_of_ble_eq_true rfl) dX3_cuts_164 ⟨Nat.le_of_ble_eq_true rfl, Nat.le_of_ble_eq_true rfl⟩ (fun ov9 H80 locs81 hP82 hkp83 hS84 => ?_)
      obtain ⟨rfl, ⟨wx85, hW86, hre87⟩, hz88⟩ := hP82
      have hW89 := rg_keepA hW77 hkp83 (by intro z h1 h2 h3; have h8 := h3.1; have h9 := h3.2; omega)
      have hW90 := rg_keepA hW78 hkp83 (by intro z h1 h2 h3; have h8 := h3.1; have h9 := h3.2; omega)
      have hG91 := GO_keepA hG79 hkp83 (Nat.le_trans (show gB G ≤ s.heap.size by omega) hS74.1) (by intro z h3; have h8 := h3.1; have h9 := h3.2; omega)
      refine W.eq (g2 := F0 m 167 ls [.ref h70]) rfl ?_
      refine vx_athrow (pc := 167) hx hb dX3_cuts_167 ?_
      obtain ⟨ce8, hce8, hcv8, hcl8⟩ := rk_exc hK hW86 rfl rfl
      obtain ⟨e7, e8, e9⟩ := rs3 hm
      cases e7
      subst e8
      subst e9
      exact rk_xout (fun x h => (ht x h).elim) hlk hS84 hce8 hcv8 hcl8 ⟨rfl, hqh70, ⟨_, hW86, hre87⟩, hW89⟩ (by exact Nat.le_of_ble_eq_true rfl) (by exact Nat.le_of_ble_eq_true rfl)
  · have hm := ite_f c51 hm
    refine lv_aload_n (pc := 63) hx hb dX3_cuts_63 rfl (lv_at hl 0 rfl) ?_
    refine rk_get (pc := 64) hx hb hts hown hK hW0 flX3_25 0 (by decide) rfl rfl (x := .ref (b0 + 5)) (by first | rfl | exact congrArg (fun z => some (Value.ref z)) (by omega)) dX3_cuts_64 ?_
    refine lv_iload (pc := 67) hx hb dX3_cuts_67 (lv_at hl 4 rfl) ?_
    obtain ⟨hg92, hm⟩ := gb_some hm
    refine rk_iald (pc := 69) hx hb hK hW0 5 (by decide) rfl rfl hg92 (x := (gI v0 5 i4.toNatClampNeg)) rfl dX3_cuts_69 ?_
    refine lv_istore (pc := 70) (lv' := [(5, .int (gI v0 5 i4.toNatClampNeg)), (0, .ref b0), (1, .int i1), (2, .ref b1), (3, .ref (b0 + (7 + 3 * n3 + 0))), (4, .int i4)]) hx hb dX3_cuts_70 hl (by decide) rfl (fun ls hl => ?_)
    refine lv_aload_n (pc := 72) hx hb dX3_cuts_72 rfl (lv_at hl 1 rfl) ?_
    refine lv_aload_n (pc := 73) hx hb dX3_cuts_73 rfl (lv_at hl 4 rfl) ?_
    refine lv_iload (pc := 74) hx hb dX3_cuts_74 (lv_at hl 0 rfl) ?_
    refine lv_aload_n (pc := 76) hx hb dX3_cuts_76 rfl (lv_at hl 1 rfl) ?_
    refine lv_iload_n (pc := 77) hx hb dX3_cuts_77 rfl (lv_at hl 2 rfl) ?_
    refine lv_iload (pc := 78) hx hb dX3_cuts_78 (lv_at hl 5 rfl) ?_
    obtain ⟨r93, hq94, hm⟩ := ob_some hm
    refine rk_PV (pc := 80) (As := [.int i1, .int i4]) (rest := [.int (gI v0 5 i4.toNatClampNeg), .ref (b0 + (7 + 3 * n3 + 0)), .ref b0]) hx hb hml hown hts hK lkX3_88 rfl yn_X3_entry (ct_X3_entry (G := G) (l := l) (b0 := b0) hq94) ⟨Nat.le_of_ble_eq_true rfl, Nat.le_of_ble_eq_true rfl⟩ (rk_recv hK hW0 0 (by decide) rfl rfl rfl) hW0 rfl rfl hl.1 (Nat.le_of_ble_eq_true rfl) dX3_cuts_80 ⟨Nat.zero_le _, Nat.zero_le _⟩ ?_
    refine W.eq (g2 := F0 m 83 ls [.long r93, .int (gI v0 5 i4.toNatClampNeg), .ref (b0 + (7 + 3 * n3 + 0)), .ref b0]) rfl ?_
    refine lv_aload_n (pc := 83) hx hb dX3_cuts_83 rfl (lv_at hl 1 rfl) ?_
    refine rk_get (pc := 84) hx hb hts hown hK hW0 flX3_51 0 (by decide) rfl rfl (x := .long (gL v0 0 4)) rfl dX3_cuts_84 ?_
    obtain ⟨r95, hq96, hm⟩ := ob_some hm
    refine rk_PS (pc := 87) (As := [.long r93, .long (gL v0 0 4)]) (rest := [.int (gI v0 5 i4.toNatClampNeg), .ref (b0 + (7 + 3 * n3 + 0)), .ref b0]) hx hb hml hown hts hK lkX3_145 yn_J7_floorDiv (ct_J7_floorDiv (G := G) (l := l) hq96) ⟨Nat.le_of_ble_eq_true rfl, Nat.le_of_ble_eq_true rfl⟩ trivial rfl rfl hl.1 (Nat.le_of_ble_eq_true rfl) dX3_cuts_87 ⟨Nat.zero_le _, Nat.zero_le _⟩ ?_
    refine W.eq (g2 := F0 m 90 ls [.long r95, .int (gI v0 5 i4.toNatClampNeg), .ref (b0 + (7 + 3 * n3 + 0)), .ref b0]) rfl ?_
    refine lv_aload_n (pc := 90) hx hb dX3_cuts_90 rfl (lv_at hl 3 rfl) ?_
    obtain ⟨w97, hq98, hm⟩ := ob_some hm
    refine rk_TV (pc := 91) (As := [.ref (b0 + (7 + 3 * n3 + 0)), .int (gI v0 5 i4.toNatClampNeg), .long r95, .ref b1]) (rest := []) (mc := 0) (ms := 0) hx hb hml hown hts hK hS (fun q hq => FA_sz rfl q hq) lkX3_151 rfl yn_X3_tells (ct_X3_tells (G := G) (l := l) (b0 := b0) (b1 := b1) (sz := H.size) hq98 (by omega) hn_n3) ⟨Nat.le_of_ble_eq_true rfl, Nat.le_of_ble_eq_true rfl⟩ (fun z h => Or.inl (show iv _ _ _ from ⟨by have h8 := h.1; have h9 := h.2; omega, by have h8 := h.1; have h9 := h.2; omega⟩)) (rk_recv hK hW0 0 (by decide) rfl rfl rfl) ⟨hW0, hW1⟩ rfl rfl hl.1 (Nat.le_of_ble_eq_true rfl) dX3_cuts_91 ⟨Nat.zero_le _, Nat.zero_le _⟩ (fun ov9 H99 locs100 hP101 hkp102 hS103 => ?_)
    obtain ⟨rfl, hW104, hz105⟩ := hP101
    have hW106 := rg_keepA hW1 hkp102 (by intro z h1 h2 h3; have h8 := h3.1; have h9 := h3.2; omega)
    have hG107 := GO_keepA hG hkp102 (Nat.le_trans (show gB G ≤ s.heap.size by omega) hS.1) (by intro z h3; have h8 := h3.1; have h9 := h3.2; omega)
    refine W.eq (g2 := F0 m 94 ls []) rfl ?_
    refine lv_aload_n (pc := 94) hx hb dX3_cuts_94 rfl (lv_at hl 1 rfl) ?_
    refine lv_iload (pc := 95) hx hb dX3_cuts_95 (lv_at hl 0 rfl) ?_
    obtain ⟨r108, hq109, hm⟩ := ob_some hm
    refine rk_PV (pc := 97) (As := [.int (gI v0 5 i4.toNatClampNeg)]) (rest := []) hx hb hml hown hts hK lkX3_129 rfl yn_X3_isPack (ct_X3_isPack (G := G) (l := l) (b0 := b0) hq109) ⟨Nat.le_of_ble_eq_true rfl, Nat.le_of_ble_eq_true rfl⟩ (rk_recv hK hW104 0 (by decide) rfl rfl rfl) hW104 rfl rfl hl.1 (Nat.le_of_ble_eq_true rfl) dX3_cuts_97 ⟨Nat.zero_le _, Nat.zero_le _⟩ ?_
    refine W.eq (g2 := F0 m 100 ls [.int r108]) rfl ?_
    refine lv_if_ne (pc := 100) (tgt := 145) hx hb dX3_cuts_100 (by decide) (fun c110 => ?_) (fun c110 => ?_)
    · have hm := ite_f c110 hm
      refine lv_iinc (pc := 145) (v := (i4 + (1 : Int32))) (lv' := [(4, .int (i4 + (1 : Int32))), (5, .int (gI v0 5 i4.toNatClampNeg)), (0, .ref b0), (1, .int i1), (2, .ref b1), (3, .ref (b0 + (7 + 3 * n3 + 0)))]) hx hb dX3_cuts_145 hl (k := 5) rfl rfl (by decide) rfl (fun ls hl => ?_)
      refine lv_goto (pc := 148) (tgt := 54) hx hb dX3_cuts_148 (by decide) ?_
      exact hk54 w97 i1 n3 (i4 + (1 : Int32)) hm hn_n3 H99 locs100 ls hW104 hW106 hS103 hG107 (lv_sub hl [2, 3, 4, 5, 0] rfl)
    · have hm := ite_t c110 hm
      refine lv_aload_n (pc := 103) hx hb dX3_cuts_103 rfl (lv_at hl 4 rfl) ?_
      refine rk_getN (pc := 104) hx hb hts hown hK hW104 fnX3_155 (7 + 3 * n3 + 0) (by omega) rfl ((shX3_f7 G.2.1 hn_n3 _ rfl 0 (by decide) _ _ _).trans rfl) (x := .ref (b0 + (7 + 3 * n3 + 2))) (by first | rfl | exact congrArg (fun z => some (Value.ref z)) (by omega)) dX3_cuts_104 ?_
      refine lv_iload (pc := 107) hx hb dX3_cuts_107 (lv_at hl 0 rfl) ?_
      refine lv_bipush (pc := 109) (v := (20 : Int32)) hx hb dX3_cuts_109 (by decide) ?_
      refine lv_icmp_ge (pc := 111) (tgt := 122) hx hb dX3_cuts_111 (by decide) (fun c111 => ?_) (fun c111 => ?_)
      · have hm := ite_t c111 hm
        refine lv_bipush (pc := 122) (v := (8 : Int32)) hx hb dX3_cuts_122 (by decide) ?_
        refine lv_iload (pc := 124) hx hb dX3_cuts_124 (lv_at hl 0 rfl) ?_
        refine lv_iadd (pc := 126) hx hb dX3_cuts_126 ?_
        refine lv_bipush (pc := 127) (v := (20 : Int32)) hx hb dX3_cuts_127 (by decide) ?_
        refine lv_isub (pc := 129) hx hb dX3_cuts_129 ?_
        exact (w_fX3_cuts_130 C hd01 he0 he1 hZ hgb0 hgb1 ht hk54) w97 i1 n3 i4 n3 (((8 : Int32) + (gI v0 5 i4.toNatClampNeg)) - (20 : Int32)) hm hn_n3 hn_n3 H99 locs100 ls hW104 hW106 hS103 hG107 (lv_sub hl [1, 2, 3, 4, 5] rfl)
      · have hm := ite_f c111 hm
        refine lv_iload (pc := 114) hx hb dX3_cuts_114 (lv_at hl 0 rfl) ?_
        refine lv_bipush (pc := 116) (v := (10 : Int32)) hx hb dX3_cuts_116 (by decide) ?_
        refine lv_isub (pc := 118) hx hb dX3_cuts_118 ?_
        refine lv_goto (pc := 119) (tgt := 130) hx hb dX3_cuts_119 (by decide) ?_
        exact (w_fX3_cuts_130 C hd01 he0 he1 hZ hgb0 hgb1 ht hk54) w97 i1 n3 i4 n3 ((gI v0 5 i4.toNatClampNeg) - (10 : Int32)) hm hn_n3 hn_n3 H99 locs100 ls hW104 hW106 hS103 hG107 (lv_sub hl [1, 2, 3, 4, 5] rfl)
theorem w_fX3_cuts_54_l (C : Cx G p s m args meth c RX3 cX3_cuts 6 none) {b0 : Nat} {b1 : Nat} {V1 : Mem} {rok : Bool} {re : Int32} {rw0 : Mem} (hd01 : b0 + 43 ≤ b1 ∨ b1 + 22 ≤ b0) (he0 : b0 + 43 ≤ s.heap.size) (he1 : b1 + 22 ≤ s.heap.size) (hZ : ZQ G) (hgb0 : gB G ≤ b0) (hgb1 : gB G ≤ b1) (ht : ∀ x ∈ c.exceptionTable.toList, False) : ∀ (n : Nat) (v0 : Mem) (i1 : Int32) (n3 : Nat) (i4 : Int32), lq4 (fX3_cuts_54 V1) n v0 i1 n3 i4 = some (rok, re, rw0) → (hn_n3 : n3 < 12) → ∀ (H : Heap) (locs : List Loc) (ls : Array Slot), rg G b0 43 (shX3 G.2.1) v0 H → rg G b1 22 (shX1 G.2.1) V1 H → va_S (FA (iv b0 43) s.heap.size) s.heap H locs → GO G H → lv_has ls 6 [(0, .ref b0), (1, .int i1), (2, .ref b1), (3, .ref (b0 + (7 + 3 * n3 + 0))), (4, .int i4)] → W p l e (rmT 4 (bif rok then 0 else 1) (bif rok then 0 else 7) 81) s m args below meth c H locs 0 0 (vx_MQ below (QcX rok (FA (iv b0 43) s.heap.size) (fun ov H => ov = none ∧ rg G b0 43 (shX3 G.2.1) rw0 H)) (XcX rok (FA (iv b0 43) s.heap.size) (fun q E H => E = "WholePacks$Stuck" ∧ s.heap.size ≤ q ∧ (∃ wx, rg G q 1 (shX13 G.2.1) wx H ∧ gI wx 0 6 = re) ∧ rg G b0 43 (shX3 G.2.1) rw0 H)) args s (bif rok then 0 else 1) (bif rok then 0 else 7) (FA (iv b0 43) s.heap.size)) (F0 m 54 ls []) := by
  intro n
  induction n with
  | zero => intro v0 i1 n3 i4 hm; exact (lq4_0 hm).elim
  | succ n ih => intro v0 i1 n3 i4 hm; exact w_fX3_cuts_54 C hd01 he0 he1 hZ hgb0 hgb1 ht ih v0 i1 n3 i4 (lq4_s hm)
set_option maxHeartbeats 4000000 in
theorem w_fX3_cuts (C : Cx G p s m args meth c RX3 cX3_cuts 6 none) {b0 : Nat} {b1 : Nat} {V1 : Mem} {rok : Bool} {re : Int32} {rw0 : Mem} (hd01 : b0 + 43 ≤ b1 ∨ b1 + 22 ≤ b0) (he0 : b0 + 43 ≤ s.heap.size) (he1 : b1 + 22 ≤ s.heap.size) (hZ : ZQ G) (hgb0 : gB G ≤ b0) (hgb1 : gB G ≤ b1) (ht : ∀ x ∈ c.exceptionTable.toList, False) : ∀ (v0 : Mem) (i1 : Int32), fX3_cuts V1 v0 i1 = some (rok, re, rw0) → ∀ (H : Heap) (locs : List Loc) (ls : Array Slot), rg G b0 43 (shX3 G.2.1) v0 H → rg G b1 22 (shX1 G.2.1) V1 H → va_S (FA (iv b0 43) s.heap.size) s.heap H locs → GO G H → lv_has ls 6 [(0, .ref b0), (1, .int i1), (2, .ref b1)] → W p l e (rmT 4 (bif rok then 0 else 1) (bif rok then 0 else 7) 81) s m args below meth c H locs 0 0 (vx_MQ below (QcX rok (FA (iv b0 43) s.heap.size) (fun ov H => ov = none ∧ rg G b0 43 (shX3 G.2.1) rw0 H)) (XcX rok (FA (iv b0 43) s.heap.size) (fun q E H => E = "WholePacks$Stuck" ∧ s.heap.size ≤ q ∧ (∃ wx, rg G q 1 (shX13 G.2.1) wx H ∧ gI wx 0 6 = re) ∧ rg G b0 43 (shX3 G.2.1) rw0 H)) args s (bif rok then 0 else 1) (bif rok then 0 else 7) (FA (iv b0 43) s.heap.size)) (F0 m 0 ls []) := by
  intro v0 i1 hm H locs ls hW0 hW1 hS hG hl
  obtain ⟨hx, hb, hr, hlk, hml, hown, hts, hK⟩ := id C
  unfold fX3_cuts at hm
  refine lv_aload_n (pc := 0) hx hb dX3_cuts_0 rfl (lv_at hl 0 rfl) ?_
  refine rk_get (pc := 1) hx hb hts hown hK hW0 flX3_30 0 (by decide) rfl rfl (x := .ref (b0 + 6)) (by first | rfl | exact congrArg (fun z => some (Value.ref z)) (by omega)) dX3_cuts_1 ?_
  refine lv_aload_n (pc := 4) hx hb dX3_cuts_4 rfl (lv_at hl 0 rfl) ?_
  refine rk_get (pc := 5) hx hb hts hown hK hW0 flX3_48 0 (by decide) rfl rfl (x := .int (gI v0 0 3)) rfl dX3_cuts_5 ?_
  obtain ⟨hg1, hm⟩ := gb_some hm
  have hlt2 := inR_lt hg1
  refine rk_aald (pc := 8) hx hb hK hW0 6 6 (by decide) rfl rfl rfl hg1 (x := (b0 + (7 + 3 * (gI v0 0 3).toNatClampNeg + 0))) (by first | rfl | exact congrArg some (by omega)) dX3_cuts_8 ?_
  refine lv_astore_n (pc := 9) (lv' := [(3, .ref (b0 + (7 + 3 * (gI v0 0 3).toNatClampNeg + 0))), (0, .ref b0), (1, .int i1), (2, .ref b1)]) hx hb dX3_cuts_9 rfl hl (by decide) rfl (fun ls hl => ?_)
  refine lv_aload_n (pc := 10) hx hb dX3_cuts_10 rfl (lv_at hl 0 rfl) ?_
  obtain ⟨w3, hq4, hm⟩ := ob_some hm
  refine rk_TV (pc := 11) (As := []) (rest := []) (mc := 0) (ms := 0) hx hb hml hown hts hK hS (fun q hq => FA_sz rfl q hq) lkX3_141 rfl yn_X4_begins (ct_X4_begins (G := G) (l := l) (b0 := (b0 + (7 + 3 * (gI v0 0 3).toNatClampNeg + 0))) (sz := H.size) hq4) ⟨Nat.le_of_ble_eq_true rfl, Nat.le_of_ble_eq_true rfl⟩ (fun z h => Or.inl (show iv _ _ _ from ⟨by have h8 := h.1; have h9 := h.2; omega, by have h8 := h.1; have h9 := h.2; omega⟩)) (rk_recv hK hW0 (7 + 3 * (gI v0 0 3).toNatClampNeg + 0) (by omega) rfl rfl ((shX3_f7 G.2.1 hlt2 _ rfl 0 (by decide) _ _ _).trans rfl)) (rg_sub (d := (7 + 3 * (gI v0 0 3).toNatClampNeg)) hW0 rfl (by omega) (fun o ho x y z => shX3_f7 G.2.1 hlt2 _ rfl o ho x y z)) rfl rfl hl.1 (Nat.le_of_ble_eq_true rfl) dX3_cuts_11 ⟨Nat.zero_le _, Nat.zero_le _⟩ (fun ov9 H5 locs6 hP7 hkp8 hS9 => ?_)
  obtain ⟨rfl, hW10, hz11⟩ := hP7
  have hW12 := rg_keepA hW1 hkp8 (by intro z h1 h2 h3; have h8 := h3.1; have h9 := h3.2; omega)
  have hW13 := rg_put (d := (7 + 3 * (gI v0 0 3).toNatClampNeg)) hW0 hW10 rfl (fun o ho x y z => shX3_f7 G.2.1 hlt2 _ rfl o ho x y z) hkp8
  obtain ⟨v0_14, he9, hm⟩ := lm_some hm
  rw [he9] at hW13
  have hG15 := GO_keepA hG hkp8 (Nat.le_trans (show gB G ≤ s.heap.size by omega) hS.1) (by intro z h3; have h8 := h3.1; have h9 := h3.2; omega)
  refine W.eq (g2 := F0 m 14 ls []) rfl ?_
  refine lv_aload_n (pc := 14) hx hb dX3_cuts_14 rfl (lv_at hl 0 rfl) ?_
  refine lv_aload_n (pc := 15) hx hb dX3_cuts_15 rfl (lv_at hl 1 rfl) ?_
  refine rk_get (pc := 16) hx hb hts hown hK hW13 flX3_51 0 (by decide) rfl rfl (x := .long (gL v0_14 0 4)) rfl dX3_cuts_16 ?_
  refine rk_putN (pc := 19) hx hb hts hown hK hW13 hS9 fnX3_144 ft_X4 (7 + 3 * (gI v0 0 3).toNatClampNeg + 0) (by omega) rfl (Or.inl (show iv _ _ _ from ⟨by omega, by omega⟩)) ((shX3_f7 G.2.1 hlt2 _ rfl 0 (by decide) _ _ _).trans rfl) rfl (x := .long (gL v0_14 0 4)) rfl rfl (Nat.le_of_ble_eq_true rfl) (sL v0_14 (7 + 3 * (gI v0 0 3).toNatClampNeg + 0) 2 (gL v0_14 0 4)) sL_ne (by rw [sL_eq]; exact ((shX3_f7 G.2.1 hlt2 _ rfl 0 (by decide) _ _ _).trans rfl)) dX3_cuts_19 (fun H17 locs18 hW19 hS20 hz21 hkp22 => ?_)
  obtain ⟨v0_16, he9, hm⟩ := lm_some hm
  rw [he9] at hW19
  have hW23 := rg_keepq hW12 hkp22 (by omega)
  have hG24 := GO_keepq hG15 hkp22 (by omega)
  refine lv_aload_n (pc := 22) hx hb dX3_cuts_22 rfl (lv_at hl 0 rfl) ?_
  refine lv_lconst (pc := 23) (v := (1 : Int64)) hx hb dX3_cuts_23 (by decide) ?_
  refine lv_aload_n (pc := 24) hx hb dX3_cuts_24 rfl (lv_at hl 1 rfl) ?_
  refine rk_get (pc := 25) hx hb hts hown hK hW19 flX3_21 0 (by decide) rfl rfl (x := .ref (b0 + 4)) (by first | rfl | exact congrArg (fun z => some (Value.ref z)) (by omega)) dX3_cuts_25 ?_
  refine lv_iload_n (pc := 28) hx hb dX3_cuts_28 rfl (lv_at hl 2 rfl) ?_
  obtain ⟨hg25, hm⟩ := gb_some hm
  refine rk_iald (pc := 29) hx hb hK hW19 4 (by decide) rfl rfl hg25 (x := (gI v0_16 4 i1.toNatClampNeg)) rfl dX3_cuts_29 ?_
  refine lv_lconst (pc := 30) (v := (1 : Int64)) hx hb dX3_cuts_30 (by decide) ?_
  obtain ⟨w26, hq27, hm⟩ := ob_some hm
  refine rk_TV (pc := 31) (As := [.long (1 : Int64), .int (gI v0_16 4 i1.toNatClampNeg), .long (1 : Int64)]) (rest := []) (mc := 0) (ms := 0) hx hb hml hown hts hK hS20 (fun q hq => FA_sz rfl q hq) lkX3_133 rfl yn_X4_gets (ct_X4_gets (G := G) (l := l) (b0 := (b0 + (7 + 3 * (gI v0 0 3).toNatClampNeg + 0))) (sz := H17.size) hq27) ⟨Nat.le_of_ble_eq_true rfl, Nat.le_of_ble_eq_true rfl⟩ (fun z h => Or.inl (show iv _ _ _ from ⟨by have h8 := h.1; have h9 := h.2; omega, by have h8 := h.1; have h9 := h.2; omega⟩)) (rk_recv hK hW19 (7 + 3 * (gI v0 0 3).toNatClampNeg + 0) (by omega) rfl rfl ((shX3_f7 G.2.1 hlt2 _ rfl 0 (by decide) _ _ _).trans rfl)) (rg_sub (d := (7 + 3 * (gI v0 0 3).toNatClampNeg)) hW19 rfl (by omega) (fun o ho x y z => shX3_f7 G.2.1 hlt2 _ rfl o ho x y z)) rfl rfl hl.1 (Nat.le_of_ble_eq_true rfl) dX3_cuts_31 ⟨Nat.zero_le _, Nat.zero_le _⟩ (fun ov9 H28 locs29 hP30 hkp31 hS32 => ?_)
  obtain ⟨rfl, hW33, hz34⟩ := hP30
  have hW35 := rg_keepA hW23 hkp31 (by intro z h1 h2 h3; have h8 := h3.1; have h9 := h3.2; omega)
  have hW36 := rg_put (d := (7 + 3 * (gI v0 0 3).toNatClampNeg)) hW19 hW33 rfl (fun o ho x y z => shX3_f7 G.2.1 hlt2 _ rfl o ho x y z) hkp31
  obtain ⟨v0_37, he9, hm⟩ := lm_some hm
  rw [he9] at hW36
  have hG38 := GO_keepA hG24 hkp31 (Nat.le_trans (show gB G ≤ s.heap.size by omega) hS20.1) (by intro z h3; have h8 := h3.1; have h9 := h3.2; omega)
  refine W.eq (g2 := F0 m 34 ls []) rfl ?_
  refine lv_aload_n (pc := 34) hx hb dX3_cuts_34 rfl (lv_at hl 0 rfl) ?_
  refine lv_aload_n (pc := 35) hx hb dX3_cuts_35 rfl (lv_at hl 1 rfl) ?_
  refine rk_get (pc := 36) hx hb hts hown hK hW36 flX3_15 0 (by decide) rfl rfl (x := .ref (b0 + 2)) (by first | rfl | exact congrArg (fun z => some (Value.ref z)) (by omega)) dX3_cuts_36 ?_
  refine lv_iload_n (pc := 39) hx hb dX3_cuts_39 rfl (lv_at hl 2 rfl) ?_
  obtain ⟨hg39, hm⟩ := gb_some hm
  refine rk_lald (pc := 40) hx hb hK hW36 2 (by decide) rfl rfl hg39 (x := (gL v0_37 2 i1.toNatClampNeg)) rfl dX3_cuts_40 ?_
  refine lv_aload_n (pc := 41) hx hb dX3_cuts_41 rfl (lv_at hl 1 rfl) ?_
  refine rk_get (pc := 42) hx hb hts hown hK hW36 flX3_51 0 (by decide) rfl rfl (x := .long (gL v0_37 0 4)) rfl dX3_cuts_42 ?_
  obtain ⟨r40, hq41, hm⟩ := ob_some hm
  refine rk_PS (pc := 45) (As := [.long (gL v0_37 2 i1.toNatClampNeg), .long (gL v0_37 0 4)]) (rest := [.ref (b0 + (7 + 3 * (gI v0 0 3).toNatClampNeg + 0))]) hx hb hml hown hts hK lkX3_145 yn_J7_floorDiv (ct_J7_floorDiv (G := G) (l := l) hq41) ⟨Nat.le_of_ble_eq_true rfl, Nat.le_of_ble_eq_true rfl⟩ trivial rfl rfl hl.1 (Nat.le_of_ble_eq_true rfl) dX3_cuts_45 ⟨Nat.zero_le _, Nat.zero_le _⟩ ?_
  refine W.eq (g2 := F0 m 48 ls [.long r40, .ref (b0 + (7 + 3 * (gI v0 0 3).toNatClampNeg + 0))]) rfl ?_
  refine rk_putN (pc := 48) hx hb hts hown hK hW36 hS32 fnX3_139 ft_X4 (7 + 3 * (gI v0 0 3).toNatClampNeg + 0) (by omega) rfl (Or.inl (show iv _ _ _ from ⟨by omega, by omega⟩)) ((shX3_f7 G.2.1 hlt2 _ rfl 0 (by decide) _ _ _).trans rfl) rfl (x := .long r40) rfl rfl (Nat.le_of_ble_eq_true rfl) (sL v0_37 (7 + 3 * (gI v0 0 3).toNatClampNeg + 0) 1 r40) sL_ne (by rw [sL_eq]; exact ((shX3_f7 G.2.1 hlt2 _ rfl 0 (by decide) _ _ _).trans rfl)) dX3_cuts_48 (fun H43 locs44 hW45 hS46 hz47 hkp48 => ?_)
  obtain ⟨v0_42, he9, hm⟩ := lm_some hm
  rw [he9] at hW45
  have hW49 := rg_keepq hW35 hkp48 (by omega)
  have hG50 := GO_keepq hG38 hkp48 (by omega)
  refine lv_iconst (pc := 51) (v := (0 : Int32)) hx hb dX3_cuts_51 (by decide) ?_
  refine lv_istore (pc := 52) (lv' := [(4, .int (0 : Int32)), (3, .ref (b0 + (7 + 3 * (gI v0 0 3).toNatClampNeg + 0))), (0, .ref b0), (1, .int i1), (2, .ref b1)]) hx hb dX3_cuts_52 hl (by decide) rfl (fun ls hl => ?_)
  exact (w_fX3_cuts_54_l C hd01 he0 he1 hZ hgb0 hgb1 ht FU) v0_42 i1 (gI v0 0 3).toNatClampNeg (0 : Int32) hm hlt2 H43 locs44 ls hW45 hW49 hS46 hG50 (lv_sub hl [2, 3, 4, 1, 0] rfl)
set_option maxHeartbeats 4000000 in
theorem ct_X3_cuts {G : Gv} {l : Launch} {b0 : Nat} {b1 : Nat} {V1 : Mem} {v0 : Mem} {i1 : Int32} {rok : Bool} {re : Int32} {rw0 : Mem} {sz : Nat} (hm : fX3_cuts V1 v0 i1 = some (rok, re, rw0)) (hd01 : b0 + 43 ≤ b1 ∨ b1 + 22 ≤ b0) (hZ : ZQ G) (hgb0 : gB G ≤ b0) (hgb1 : gB G ≤ b1) : CX G l yX3_cuts (ws_ yX3_cuts cX3_cuts 6 none) 4 (bif rok then 0 else 1) (bif rok then 0 else 7) 81 [.ref b0, .int i1, .ref b1] (iv b0 43) sz (fun H => rg G b0 43 (shX3 G.2.1) v0 H ∧ rg G b1 22 (shX1 G.2.1) V1 H ∧ GO G H) rok (fun ov H => ov = none ∧ rg G b0 43 (shX3 G.2.1) rw0 H) (fun q E H => E = "WholePacks$Stuck" ∧ sz ≤ q ∧ (∃ wx, rg G q 1 (shX13 G.2.1) wx H ∧ gI wx 0 6 = re) ∧ rg G b0 43 (shX3 G.2.1) rw0 H) := by
  refine vx_ofW (cc := cX3_cuts) (maxL := 6) (ret := none) (by decide +kernel) rfl ?_
  intro p e s m args below meth c s₁ B hml ht hv
  obtain ⟨rfl, ⟨hz, hW0, hW1, hG⟩, hK⟩ := hv
  subst hz
  have he0 := rg_end hW0 42 (by decide) rfl (fun _ _ _ => rfl)
  have he1 := rg_end hW1 21 (by decide) rfl (fun _ _ _ => rfl)
  have hts := atoms_spec (ws := ws_ yX3_cuts cX3_cuts 6 none) B.pre
  have hts : ∀ w ∈ lw_all, w.before _ s = true := fun w h => hts w (List.mem_cons_of_mem _ h)
  have C : Cx G p s m _ meth c RX3 cX3_cuts 6 none := ⟨B.exec, B.bytes, B.returns, B.notSynchronized, hml, findClass_of_methodNamed B.named, hts, hK⟩
  have hl := lv_entry ([.ref b0, .int i1, .ref b1]) (n := 6) (Nat.le_of_ble_eq_true rfl)
  rw [lg_entry_eq]
  generalize (lg_sl ([.ref b0, .int i1, .ref b1]) ++ List.replicate (6 - (lg_sl ([.ref b0, .int i1, .ref b1])).length) Slot.unset).toArray = ls at hl ⊢
  have hl : lv_has ls 6 [(0, .ref b0), (1, .int i1), (2, .ref b1)] := hl
  exact w_fX3_cuts C hd01 he0 he1 hZ hgb0 hgb1 ht _ _ hm s.heap [] ls hW0 hW1 va_S.rf hG hl
theorem yn_X3_begins : YN yX3_begins 1 := by
  unfold YN
  decide +kernel
theorem lkX3_165 : LV RX3 165 RX3 yX3_begins cX3_begins 5 none := ⟨q777, q778, q779, q117, q780⟩
theorem yn_X3_repairs : YN yX3_repairs 0 := by
  unfold YN
  decide +kernel
theorem lkX3_168 : LV RX3 168 RX3 yX3_repairs cX3_repairs 3 none := ⟨q797, q798, q799, q117, q800⟩
theorem yn_X3_brokenRow : YN yX3_brokenRow 0 := by
  unfold YN
  decide +kernel
theorem lkX3_171 : LV RX3 171 RX3 yX3_brokenRow cX3_brokenRow 2 (some .int) := ⟨q851, q853, qs18, q117, q854⟩
theorem fnX3_177 : FN RX3 177 13 6 RX13 TX13 7 "WholePacks" := ⟨in_X13, rfl, by decide, q830⟩
theorem yn_X3_cuts : YN yX3_cuts 2 := by
  unfold YN
  decide +kernel
theorem lkX3_174 : LV RX3 174 RX3 yX3_cuts cX3_cuts 6 none := ⟨q859, q861, qs20, q117, q862⟩
noncomputable def fX3_solves_14 (V1 : Mem) (k14 : Mem → Int32 → Int32 → Option (Int32 × Mem)) (v0 : Mem) (i2 : Int32) (i3 : Int32) : Option (Int32 × Mem) :=
  if i3 = (-1 : Int32) then (
  some ((1 : Int32), v0))
  else (
  if (gI v0 0 3) = i2 then (
  some ((2 : Int32), v0))
  else (
  ob3 (fX3_cuts V1 v0 i3) fun ok41 re42 w40 =>
  if ok41 = true then (
  ob3 (fX3_repairs w40) fun ok53 re54 w52 =>
  if ok53 = true then (
  ob (fX3_brokenRow w52) fun r64 =>
  k14 w52 i2 r64)
  else (
  some (re54, w52)))
  else (
  some (re42, w40))))
noncomputable def fX3_solves (V1 : Mem) (v0 : Mem) (i2 : Int32) : Option (Int32 × Mem) :=
  ob (fX3_begins V1 v0) fun w1 =>
  ob3 (fX3_repairs w1) fun ok13 re14 w12 =>
  if ok13 = true then (
  ob (fX3_brokenRow w12) fun r24 =>
  lq3 (fX3_solves_14 V1) FU w12 i2 r24)
  else (
  some (re14, w12))
set_option maxHeartbeats 4000000 in
theorem w_fX3_solves_14 (C : Cx G p s m args meth c RX3 cX3_solves 4 (some .int)) {b0 : Nat} {b1 : Nat} {V1 : Mem} {rx : Int32} {rw0 : Mem} (hd01 : b0 + 43 ≤ b1 ∨ b1 + 22 ≤ b0) (he0 : b0 + 43 ≤ s.heap.size) (he1 : b1 + 22 ≤ s.heap.size) (hZ : ZQ G) (hgb0 : gB G ≤ b0) (hgb1 : gB G ≤ b1) (ht : c.exceptionTable.toList = tableOf [(5, 28, 49, 108), (29, 48, 49, 108)]) {k14 : Mem → Int32 → Int32 → Option (Int32 × Mem)} (hk14 : ∀ (v0 : Mem) (i2 : Int32) (i3 : Int32), k14 v0 i2 i3 = some (rx, rw0) → ∀ (H : Heap) (locs : List Loc) (ls : Array Slot), rg G b0 43 (shX3 G.2.1) v0 H → rg G b1 22 (shX1 G.2.1) V1 H → va_S (FA (iv b0 43) s.heap.size) s.heap H locs → GO G H → lv_has ls 4 [(0, .ref b0), (1, .ref b1), (2, .int i2), (3, .int i3)] → W p l e (rmT 6 1 7 131) s m args below meth c H locs 0 0 (MQ below (QcT (FA (iv b0 43) s.heap.size) (fun ov H => ov = (some (.int rx)) ∧ rg G b0 43 (shX3 G.2.1) rw0 H)) args s 1 7 (FA (iv b0 43) s.heap.size)) (F0 m 14 ls [])) : ∀ (v0 : Mem) (i2 : Int32) (i3 : Int32), fX3_solves_14 V1 k14 v0 i2 i3 = some (rx, rw0) → ∀ (H : Heap) (locs : List Loc) (ls : Array Slot), rg G b0 43 (shX3 G.2.1) v0 H → rg G b1 22 (shX1 G.2.1) V1 H → va_S (FA (iv b0 43) s.heap.size) s.heap H locs → GO G H → lv_has ls 4 [(0, .ref b0), (1, .ref b1), (2, .int i2), (3, .int i3)] → W p l e (rmT 6 1 7 131) s m args below meth c H locs 0 0 (MQ below (QcT (FA (iv b0 43) s.heap.size) (fun ov H => ov = (some (.int rx)) ∧ rg G b0 43 (shX3 G.2.1) rw0 H)) args s 1 7 (FA (iv b0 43) s.heap.size)) (F0 m 14 ls []) := by
  intro v0 i2 i3 hm H locs ls hW0 hW1 hS hG hl
  obtain ⟨hx, hb, hr, hlk, hml, hown, hts, hK⟩ := id C
  unfold fX3_solves_14 at hm
  refine lv_iload_n (pc := 14) hx hb dX3_solves_14 rfl (lv_at hl 3 rfl) ?_
  refine lv_iconst (pc := 15) (v := (-1 : Int32)) hx hb dX3_solves_15 (by decide) ?_
  refine lv_icmp_eq (pc := 16) (tgt := 47) hx hb dX3_solves_16 (by decide) (fun c38 => ?_) (fun c38 => ?_)
  · have hm := ite_t c38 hm
    refine lv_iconst (pc := 47) (v := (1 : Int32)) hx hb dX3_solves_47 (by decide) ?_
    obtain ⟨e8, e9⟩ := rs2 hm
    subst e8
    subst e9
    exact rk_iretA (pc := 48) hx hb hr hlk hS ⟨rfl, hW0⟩ dX3_solves_48 (by exact Nat.le_of_ble_eq_true rfl) (by exact Nat.le_of_ble_eq_true rfl)
  · have hm := ite_f c38 hm
    refine lv_aload_n (pc := 19) hx hb dX3_solves_19 rfl (lv_at hl 0 rfl) ?_
    refine rk_get (pc := 20) hx hb hts hown hK hW0 flX3_48 0 (by decide) rfl rfl (x := .int (gI v0 0 3)) rfl dX3_solves_20 ?_
    refine lv_iload_n (pc := 23) hx hb dX3_solves_23 rfl (lv_at hl 2 rfl) ?_
    refine lv_icmp_ne (pc := 24) (tgt := 29) hx hb dX3_solves_24 (by decide) (fun c39 => ?_) (fun c39 => ?_)
    · have hm := ite_f c39 hm
      refine lv_aload_n (pc := 29) hx hb dX3_solves_29 rfl (lv_at hl 0 rfl) ?_
      refine lv_iload_n (pc := 30) hx hb dX3_solves_30 rfl (lv_at hl 3 rfl) ?_
      refine lv_aload_n (pc := 31) hx hb dX3_solves_31 rfl (lv_at hl 1 rfl) ?_
      obtain ⟨ok41, re42, w40, hq43, hm⟩ := ob3_some hm
      by_cases hok : ok41 = true
      · subst hok
        have hm := ite_t rfl hm
        refine rk_TV (pc := 32) (As := [.int i3, .ref b1]) (rest := []) (mc := 0) (ms := 0) hx hb hml hown hts hK hS (fun q hq => FA_sz rfl q hq) lkX3_174 rfl yn_X3_cuts (CX.ret (ct_X3_cuts (G := G) (l := l) (rok := true) (b0 := b0) (b1 := b1) (sz := H.size) hq43 (by omega) hZ (by omega) (by omega))) ⟨Nat.le_of_ble_eq_true rfl, Nat.le_of_ble_eq_true rfl⟩ (fun z h => Or.inl (show iv _ _ _ from ⟨by have h8 := h.1; have h9 := h.2; omega, by have h8 := h.1; have h9 := h.2; omega⟩)) (rk_recv hK hW0 0 (by decide) rfl rfl rfl) ⟨hW0, hW1, hG⟩ rfl rfl hl.1 (Nat.le_of_ble_eq_true rfl) dX3_solves_32 ⟨Nat.zero_le _, Nat.zero_le _⟩ (fun ov9 H44 locs45 hP46 hkp47 hS48 => ?_)
        obtain ⟨rfl, hW49⟩ := hP46
        have hW50 := rg_keepA hW1 hkp47 (by intro z h1 h2 h3; have h8 := h3.1; have h9 := h3.2; omega)
        have hG51 := GO_keepA hG hkp47 (Nat.le_trans (show gB G ≤ s.heap.size by omega) hS.1) (by intro z h3; have h8 := h3.1; have h9 := h3.2; omega)
        refine W.eq (g2 := F0 m 35 ls []) rfl ?_
        refine lv_aload_n (pc := 35) hx hb dX3_solves_35 rfl (lv_at hl 0 rfl) ?_
        obtain ⟨ok53, re54, w52, hq55, hm⟩ := ob3_some hm
        by_cases hok : ok53 = true
        · subst hok
          have hm := ite_t rfl hm
          refine rk_TV (pc := 36) (As := []) (rest := []) (mc := 0) (ms := 0) hx hb hml hown hts hK hS48 (fun q hq => FA_sz rfl q hq) lkX3_168 rfl yn_X3_repairs (CX.ret (ct_X3_repairs (G := G) (l := l) (rok := true) (b0 := b0) (sz := H44.size) hq55 hZ (by omega))) ⟨Nat.le_of_ble_eq_true rfl, Nat.le_of_ble_eq_true rfl⟩ (fun z h => Or.inl (show iv _ _ _ from ⟨by have h8 := h.1; have h9 := h.2; omega, by have h8 := h.1; have h9 := h.2; omega⟩)) (rk_recv hK hW49 0 (by decide) rfl rfl rfl) ⟨hW49, hG51⟩ rfl rfl hl.1 (Nat.le_of_ble_eq_true rfl) dX3_solves_36 ⟨Nat.zero_le _, Nat.zero_le _⟩ (fun ov9 H56 locs57 hP58 hkp59 hS60 => ?_)
          obtain ⟨rfl, hW61⟩ := hP58
          have hW62 := rg_keepA hW50 hkp59 (by intro z h1 h2 h3; have h8 := h3.1; have h9 := h3.2; omega)
          have hG63 := GO_keepA hG51 hkp59 (Nat.le_trans (show gB G ≤ s.heap.size by omega) hS48.1) (by intro z h3; have h8 := h3.1; have h9 := h3.2; omega)
          refine W.eq (g2 := F0 m 39 ls []) rfl ?_
          refine lv_aload_n (pc := 39) hx hb dX3_solves_39 rfl (lv_at hl 0 rfl) ?_
          obtain ⟨r64, hq65, hm⟩ := ob_some hm
          refine rk_PV (pc := 40) (As := []) (rest := []) hx hb hml hown hts hK lkX3_171 rfl yn_X3_brokenRow (ct_X3_brokenRow (G := G) (l := l) (b0 := b0) hq65) ⟨Nat.le_of_ble_eq_true rfl, Nat.le_of_ble_eq_true rfl⟩ (rk_recv hK hW61 0 (by decide) rfl rfl rfl) hW61 rfl rfl hl.1 (Nat.le_of_ble_eq_true rfl) dX3_solves_40 ⟨Nat.zero_le _, Nat.zero_le _⟩ ?_
          refine W.eq (g2 := F0 m 43 ls [.int r64]) rfl ?_
          refine lv_istore_n (pc := 43) (lv' := [(3, .int r64), (0, .ref b0), (1, .ref b1), (2, .int i2)]) hx hb dX3_solves_43 rfl hl (by decide) rfl (fun ls hl => ?_)
          refine lv_goto (pc := 44) (tgt := 14) hx hb dX3_solves_44 (by decide) ?_
          exact hk14 w52 i2 r64 hm H56 locs57 ls hW61 hW62 hS60 hG63 (lv_sub hl [1, 2, 3, 0] rfl)
        · have hok := eq_false_of_ne_true hok
          subst hok
          have hm := ite_f Bool.false_ne_true hm
          refine rk_XV (pc := 36) (As := []) (rest := []) (mc := 1) (ms := 7) hx hb hml hown hts hK hS48 (fun q hq => FA_sz rfl q hq) lkX3_168 rfl yn_X3_repairs (ct_X3_repairs (G := G) (l := l) (rok := false) (b0 := b0) (sz := H44.size) hq55 hZ (by omega)) ⟨Nat.le_of_ble_eq_true rfl, Nat.le_of_ble_eq_true rfl⟩ (fun z h => Or.inl (show iv _ _ _ from ⟨by have h8 := h.1; have h9 := h.2; omega, by have h8 := h.1; have h9 := h.2; omega⟩)) (rk_recv hK hW49 0 (by decide) rfl rfl rfl) ⟨hW49, hG51⟩ rfl rfl hl.1 (Nat.le_of_ble_eq_true rfl) dX3_solves_36 ⟨Nat.le_of_ble_eq_true rfl, Nat.le_of_ble_eq_true rfl⟩ (fun q71 E9 ce9 H66 locs67 hP68 hkp69 hS70 hce9 hcv9 hcl9 => ?_)
          obtain ⟨rfl, hqq71, ⟨wx73, hW74, hre75⟩, hW72⟩ := hP68
          have hqq71 : s.heap.size ≤ q71 := Nat.le_trans hS48.1 hqq71
          have hW76 := rg_keepA hW50 hkp69 (by intro z h1 h2 h3; have h8 := h3.1; have h9 := h3.2; omega)
          have hG77 := GO_keepA hG51 hkp69 (Nat.le_trans (show gB G ≤ s.heap.size by omega) hS48.1) (by intro z h3; have h8 := h3.1; have h9 := h3.2; omega)
          obtain ⟨ce8, hce8, hcv8, hcl8⟩ := rk_exc hK hW74 rfl rfl
          refine rk_catch hK hown hts ht [⟨5, 28, 49, 108⟩] ⟨29, 48, 49, 108⟩ [] rfl (by decide) (by decide) (by decide) q776 q818 hce8 hcv8 hcl8 49 rfl ?_
          refine lv_astore_n (pc := 49) (lv' := [(3, .ref q71), (0, .ref b0), (1, .ref b1), (2, .int i2)]) hx hb dX3_solves_49 rfl hl (by decide) rfl (fun ls hl => ?_)
          refine lv_aload_n (pc := 50) hx hb dX3_solves_50 rfl (lv_at hl 0 rfl) ?_
          refine rk_getN (pc := 51) hx hb hts hown hK hW74 fnX3_177 0 (by decide) rfl rfl (x := .int re54) (congrArg (fun z => some (Value.int z)) hre75) dX3_solves_51 ?_
          obtain ⟨e8, e9⟩ := rs2 hm
          subst e8
          subst e9
          exact rk_iretA (pc := 54) hx hb hr hlk hS70 ⟨rfl, hW72⟩ dX3_solves_54 (by exact Nat.le_of_ble_eq_true rfl) (by exact Nat.le_of_ble_eq_true rfl)
      · have hok := eq_false_of_ne_true hok
        subst hok
        have hm := ite_f Bool.false_ne_true hm
        refine rk_XV (pc := 32) (As := [.int i3, .ref b1]) (rest := []) (mc := 1) (ms := 7) hx hb hml hown hts hK hS (fun q hq => FA_sz rfl q hq) lkX3_174 rfl yn_X3_cuts (ct_X3_cuts (G := G) (l := l) (rok := false) (b0 := b0) (b1 := b1) (sz := H.size) hq43 (by omega) hZ (by omega) (by omega)) ⟨Nat.le_of_ble_eq_true rfl, Nat.le_of_ble_eq_true rfl⟩ (fun z h => Or.inl (show iv _ _ _ from ⟨by have h8 := h.1; have h9 := h.2; omega, by have h8 := h.1; have h9 := h.2; omega⟩)) (rk_recv hK hW0 0 (by decide) rfl rfl rfl) ⟨hW0, hW1, hG⟩ rfl rfl hl.1 (Nat.le_of_ble_eq_true rfl) dX3_solves_32 ⟨Nat.le_of_ble_eq_true rfl, Nat.le_of_ble_eq_true rfl⟩ (fun q83 E9 ce9 H78 locs79 hP80 hkp81 hS82 hce9 hcv9 hcl9 => ?_)
        obtain ⟨rfl, hqq83, ⟨wx85, hW86, hre87⟩, hW84⟩ := hP80
        have hqq83 : s.heap.size ≤ q83 := Nat.le_trans hS.1 hqq83
        have hW88 := rg_keepA hW1 hkp81 (by intro z h1 h2 h3; have h8 := h3.1; have h9 := h3.2; omega)
        have hG89 := GO_keepA hG hkp81 (Nat.le_trans (show gB G ≤ s.heap.size by omega) hS.1) (by intro z h3; have h8 := h3.1; have h9 := h3.2; omega)
        obtain ⟨ce8, hce8, hcv8, hcl8⟩ := rk_exc hK hW86 rfl rfl
        refine rk_catch hK hown hts ht [⟨5, 28, 49, 108⟩] ⟨29, 48, 49, 108⟩ [] rfl (by decide) (by decide) (by decide) q776 q818 hce8 hcv8 hcl8 49 rfl ?_
        refine lv_astore_n (pc := 49) (lv' := [(3, .ref q83), (0, .ref b0), (1, .ref b1), (2, .int i2)]) hx hb dX3_solves_49 rfl hl (by decide) rfl (fun ls hl => ?_)
        refine lv_aload_n (pc := 50) hx hb dX3_solves_50 rfl (lv_at hl 0 rfl) ?_
        refine rk_getN (pc := 51) hx hb hts hown hK hW86 fnX3_177 0 (by decide) rfl rfl (x := .int re42) (congrArg (fun z => some (Value.int z)) hre87) dX3_solves_51 ?_
        obtain ⟨e8, e9⟩ := rs2 hm
        subst e8
        subst e9
        exact rk_iretA (pc := 54) hx hb hr hlk hS82 ⟨rfl, hW84⟩ dX3_solves_54 (by exact Nat.le_of_ble_eq_true rfl) (by exact Nat.le_of_ble_eq_true rfl)
    · have hm := ite_t c39 hm
      refine lv_iconst (pc := 27) (v := (2 : Int32)) hx hb dX3_solves_27 (by decide) ?_
      obtain ⟨e8, e9⟩ := rs2 hm
      subst e8
      subst e9
      exact rk_iretA (pc := 28) hx hb hr hlk hS ⟨rfl, hW0⟩ dX3_solves_28 (by exact Nat.le_of_ble_eq_true rfl) (by exact Nat.le_of_ble_eq_true rfl)
theorem w_fX3_solves_14_l (C : Cx G p s m args meth c RX3 cX3_solves 4 (some .int)) {b0 : Nat} {b1 : Nat} {V1 : Mem} {rx : Int32} {rw0 : Mem} (hd01 : b0 + 43 ≤ b1 ∨ b1 + 22 ≤ b0) (he0 : b0 + 43 ≤ s.heap.size) (he1 : b1 + 22 ≤ s.heap.size) (hZ : ZQ G) (hgb0 : gB G ≤ b0) (hgb1 : gB G ≤ b1) (ht : c.exceptionTable.toList = tableOf [(5, 28, 49, 108), (29, 48, 49, 108)]) : ∀ (n : Nat) (v0 : Mem) (i2 : Int32) (i3 : Int32), lq3 (fX3_solves_14 V1) n v0 i2 i3 = some (rx, rw0) → ∀ (H : Heap) (locs : List Loc) (ls : Array Slot), rg G b0 43 (shX3 G.2.1) v0 H → rg G b1 22 (shX1 G.2.1) V1 H → va_S (FA (iv b0 43) s.heap.size) s.heap H locs → GO G H → lv_has ls 4 [(0, .ref b0), (1, .ref b1), (2, .int i2), (3, .int i3)] → W p l e (rmT 6 1 7 131) s m args below meth c H locs 0 0 (MQ below (QcT (FA (iv b0 43) s.heap.size) (fun ov H => ov = (some (.int rx)) ∧ rg G b0 43 (shX3 G.2.1) rw0 H)) args s 1 7 (FA (iv b0 43) s.heap.size)) (F0 m 14 ls []) := by
  intro n
  induction n with
  | zero => intro v0 i2 i3 hm; exact (lq3_0 hm).elim
  | succ n ih => intro v0 i2 i3 hm; exact w_fX3_solves_14 C hd01 he0 he1 hZ hgb0 hgb1 ht ih v0 i2 i3 (lq3_s hm)
set_option maxHeartbeats 4000000 in
theorem w_fX3_solves (C : Cx G p s m args meth c RX3 cX3_solves 4 (some .int)) {b0 : Nat} {b1 : Nat} {V1 : Mem} {rx : Int32} {rw0 : Mem} (hd01 : b0 + 43 ≤ b1 ∨ b1 + 22 ≤ b0) (he0 : b0 + 43 ≤ s.heap.size) (he1 : b1 + 22 ≤ s.heap.size) (hZ : ZQ G) (hgb0 : gB G ≤ b0) (hgb1 : gB G ≤ b1) (ht : c.exceptionTable.toList = tableOf [(5, 28, 49, 108), (29, 48, 49, 108)]) : ∀ (v0 : Mem) (i2 : Int32), fX3_solves V1 v0 i2 = some (rx, rw0) → ∀ (H : Heap) (locs : List Loc) (ls : Array Slot), rg G b0 43 (shX3 G.2.1) v0 H → rg G b1 22 (shX1 G.2.1) V1 H → va_S (FA (iv b0 43) s.heap.size) s.heap H locs → GO G H → lv_has ls 4 [(0, .ref b0), (1, .ref b1), (2, .int i2)] → W p l e (rmT 6 1 7 131) s m args below meth c H locs 0 0 (MQ below (QcT (FA (iv b0 43) s.heap.size) (fun ov H => ov = (some (.int rx)) ∧ rg G b0 43 (shX3 G.2.1) rw0 H)) args s 1 7 (FA (iv b0 43) s.heap.size)) (F0 m 0 ls []) := by
  intro v0 i2 hm H locs ls hW0 hW1 hS hG hl
  obtain ⟨hx, hb, hr, hlk, hml, hown, hts, hK⟩ := id C
  unfold fX3_solves at hm
  refine lv_aload_n (pc := 0) hx hb dX3_solves_0 rfl (lv_at hl 0 rfl) ?_
  refine lv_aload_n (pc := 1) hx hb dX3_solves_1 rfl (lv_at hl 1 rfl) ?_
  obtain ⟨w1, hq2, hm⟩ := ob_some hm
  refine rk_TV (pc := 2) (As := [.ref b1]) (rest := []) (mc := 0) (ms := 0) hx hb hml hown hts hK hS (fun q hq => FA_sz rfl q hq) lkX3_165 rfl yn_X3_begins (ct_X3_begins (G := G) (l := l) (b0 := b0) (b1 := b1) (sz := H.size) hq2 (by omega)) ⟨Nat.le_of_ble_eq_true rfl, Nat.le_of_ble_eq_true rfl⟩ (fun z h => Or.inl (show iv _ _ _ from ⟨by have h8 := h.1; have h9 := h.2; omega, by have h8 := h.1; have h9 := h.2; omega⟩)) (rk_recv hK hW0 0 (by decide) rfl rfl rfl) ⟨hW0, hW1⟩ rfl rfl hl.1 (Nat.le_of_ble_eq_true rfl) dX3_solves_2 ⟨Nat.zero_le _, Nat.zero_le _⟩ (fun ov9 H3 locs4 hP5 hkp6 hS7 => ?_)
  obtain ⟨rfl, hW8, hz9⟩ := hP5
  have hW10 := rg_keepA hW1 hkp6 (by intro z h1 h2 h3; have h8 := h3.1; have h9 := h3.2; omega)
  have hG11 := GO_keepA hG hkp6 (Nat.le_trans (show gB G ≤ s.heap.size by omega) hS.1) (by intro z h3; have h8 := h3.1; have h9 := h3.2; omega)
  refine W.eq (g2 := F0 m 5 ls []) rfl ?_
  refine lv_aload_n (pc := 5) hx hb dX3_solves_5 rfl (lv_at hl 0 rfl) ?_
  obtain ⟨ok13, re14, w12, hq15, hm⟩ := ob3_some hm
  by_cases hok : ok13 = true
  · subst hok
    have hm := ite_t rfl hm
    refine rk_TV (pc := 6) (As := []) (rest := []) (mc := 0) (ms := 0) hx hb hml hown hts hK hS7 (fun q hq => FA_sz rfl q hq) lkX3_168 rfl yn_X3_repairs (CX.ret (ct_X3_repairs (G := G) (l := l) (rok := true) (b0 := b0) (sz := H3.size) hq15 hZ (by omega))) ⟨Nat.le_of_ble_eq_true rfl, Nat.le_of_ble_eq_true rfl⟩ (fun z h => Or.inl (show iv _ _ _ from ⟨by have h8 := h.1; have h9 := h.2; omega, by have h8 := h.1; have h9 := h.2; omega⟩)) (rk_recv hK hW8 0 (by decide) rfl rfl rfl) ⟨hW8, hG11⟩ rfl rfl hl.1 (Nat.le_of_ble_eq_true rfl) dX3_solves_6 ⟨Nat.zero_le _, Nat.zero_le _⟩ (fun ov9 H16 locs17 hP18 hkp19 hS20 => ?_)
    obtain ⟨rfl, hW21⟩ := hP18
    have hW22 := rg_keepA hW10 hkp19 (by intro z h1 h2 h3; have h8 := h3.1; have h9 := h3.2; omega)
    have hG23 := GO_keepA hG11 hkp19 (Nat.le_trans (show gB G ≤ s.heap.size by omega) hS7.1) (by intro z h3; have h8 := h3.1; have h9 := h3.2; omega)
    refine W.eq (g2 := F0 m 9 ls []) rfl ?_
    refine lv_aload_n (pc := 9) hx hb dX3_solves_9 rfl (lv_at hl 0 rfl) ?_
    obtain ⟨r24, hq25, hm⟩ := ob_some hm
    refine rk_PV (pc := 10) (As := []) (rest := []) hx hb hml hown hts hK lkX3_171 rfl yn_X3_brokenRow (ct_X3_brokenRow (G := G) (l := l) (b0 := b0) hq25) ⟨Nat.le_of_ble_eq_true rfl, Nat.le_of_ble_eq_true rfl⟩ (rk_recv hK hW21 0 (by decide) rfl rfl rfl) hW21 rfl rfl hl.1 (Nat.le_of_ble_eq_true rfl) dX3_solves_10 ⟨Nat.zero_le _, Nat.zero_le _⟩ ?_
    refine W.eq (g2 := F0 m 13 ls [.int r24]) rfl ?_
    refine lv_istore_n (pc := 13) (lv' := [(3, .int r24), (0, .ref b0), (1, .ref b1), (2, .int i2)]) hx hb dX3_solves_13 rfl hl (by decide) rfl (fun ls hl => ?_)
    exact (w_fX3_solves_14_l C hd01 he0 he1 hZ hgb0 hgb1 ht FU) w12 i2 r24 hm H16 locs17 ls hW21 hW22 hS20 hG23 (lv_sub hl [1, 2, 3, 0] rfl)
  · have hok := eq_false_of_ne_true hok
    subst hok
    have hm := ite_f Bool.false_ne_true hm
    refine rk_XV (pc := 6) (As := []) (rest := []) (mc := 1) (ms := 7) hx hb hml hown hts hK hS7 (fun q hq => FA_sz rfl q hq) lkX3_168 rfl yn_X3_repairs (ct_X3_repairs (G := G) (l := l) (rok := false) (b0 := b0) (sz := H3.size) hq15 hZ (by omega)) ⟨Nat.le_of_ble_eq_true rfl, Nat.le_of_ble_eq_true rfl⟩ (fun z h => Or.inl (show iv _ _ _ from ⟨by have h8 := h.1; have h9 := h.2; omega, by have h8 := h.1; have h9 := h.2; omega⟩)) (rk_recv hK hW8 0 (by decide) rfl rfl rfl) ⟨hW8, hG11⟩ rfl rfl hl.1 (Nat.le_of_ble_eq_true rfl) dX3_solves_6 ⟨Nat.le_of_ble_eq_true rfl, Nat.le_of_ble_eq_true rfl⟩ (fun q31 E9 ce9 H26 locs27 hP28 hkp29 hS30 hce9 hcv9 hcl9 => ?_)
    obtain ⟨rfl, hqq31, ⟨wx33, hW34, hre35⟩, hW32⟩ := hP28
    have hqq31 : s.heap.size ≤ q31 := Nat.le_trans hS7.1 hqq31
    have hW36 := rg_keepA hW10 hkp29 (by intro z h1 h2 h3; have h8 := h3.1; have h9 := h3.2; omega)
    have hG37 := GO_keepA hG11 hkp29 (Nat.le_trans (show gB G ≤ s.heap.size by omega) hS7.1) (by intro z h3; have h8 := h3.1; have h9 := h3.2; omega)
    obtain ⟨ce8, hce8, hcv8, hcl8⟩ := rk_exc hK hW34 rfl rfl
    refine rk_catch hK hown hts ht [] ⟨5, 28, 49, 108⟩ [⟨29, 48, 49, 108⟩] rfl (by decide) (by decide) (by decide) q776 q818 hce8 hcv8 hcl8 49 rfl ?_
    refine lv_astore_n (pc := 49) (lv' := [(3, .ref q31), (0, .ref b0), (1, .ref b1), (2, .int i2)]) hx hb dX3_solves_49 rfl hl (by decide) rfl (fun ls hl => ?_)
    refine lv_aload_n (pc := 50) hx hb dX3_solves_50 rfl (lv_at hl 0 rfl) ?_
    refine rk_getN (pc := 51) hx hb hts hown hK hW34 fnX3_177 0 (by decide) rfl rfl (x := .int re14) (congrArg (fun z => some (Value.int z)) hre35) dX3_solves_51 ?_
    obtain ⟨e8, e9⟩ := rs2 hm
    subst e8
    subst e9
    exact rk_iretA (pc := 54) hx hb hr hlk hS30 ⟨rfl, hW32⟩ dX3_solves_54 (by exact Nat.le_of_ble_eq_true rfl) (by exact Nat.le_of_ble_eq_true rfl)
set_option maxHeartbeats 4000000 in
theorem ct_X3_solves {G : Gv} {l : Launch} {b0 : Nat} {b1 : Nat} {V1 : Mem} {v0 : Mem} {i2 : Int32} {rx : Int32} {rw0 : Mem} {sz : Nat} (hm : fX3_solves V1 v0 i2 = some (rx, rw0)) (hd01 : b0 + 43 ≤ b1 ∨ b1 + 22 ≤ b0) (hZ : ZQ G) (hgb0 : gB G ≤ b0) (hgb1 : gB G ≤ b1) : CT G l yX3_solves (wsW_ yX3_solves cX3_solves 4 (some .int) [(5, 28, 49, 108), (29, 48, 49, 108)]) 6 1 7 131 [.ref b0, .ref b1, .int i2] (iv b0 43) sz (fun H => rg G b0 43 (shX3 G.2.1) v0 H ∧ rg G b1 22 (shX1 G.2.1) V1 H ∧ GO G H) (fun ov H => ov = (some (.int rx)) ∧ rg G b0 43 (shX3 G.2.1) rw0 H) := by
  refine va_MetW (cc := cX3_solves) (maxL := 4) (ret := (some .int)) (by decide +kernel) rfl ?_
  intro p e s m args below meth c s₁ B hml hv
  obtain ⟨rfl, ⟨hz, hW0, hW1, hG⟩, hK⟩ := hv
  subst hz
  have he0 := rg_end hW0 42 (by decide) rfl (fun _ _ _ => rfl)
  have he1 := rg_end hW1 21 (by decide) rfl (fun _ _ _ => rfl)
  have ht := vx_table (x := yX3_solves) B (atoms_spec (ws := wsW_ yX3_solves cX3_solves 4 (some .int) [(5, 28, 49, 108), (29, 48, 49, 108)]) B.pre _ List.mem_cons_self)
  have hts := atoms_spec (ws := wsW_ yX3_solves cX3_solves 4 (some .int) [(5, 28, 49, 108), (29, 48, 49, 108)]) B.pre
  have hts : ∀ w ∈ lw_all, w.before _ s = true := fun w h => hts w (List.mem_cons_of_mem _ h)
  have C : Cx G p s m _ meth c RX3 cX3_solves 4 (some .int) := ⟨B.exec, B.bytes, B.returns, B.notSynchronized, hml, findClass_of_methodNamed B.named, hts, hK⟩
  have hl := lv_entry ([.ref b0, .ref b1, .int i2]) (n := 4) (Nat.le_of_ble_eq_true rfl)
  rw [lg_entry_eq]
  generalize (lg_sl ([.ref b0, .ref b1, .int i2]) ++ List.replicate (4 - (lg_sl ([.ref b0, .ref b1, .int i2])).length) Slot.unset).toArray = ls at hl ⊢
  have hl : lv_has ls 4 [(0, .ref b0), (1, .ref b1), (2, .int i2)] := hl
  exact w_fX3_solves C hd01 he0 he1 hZ hgb0 hgb1 ht _ _ hm s.heap [] ls hW0 hW1 va_S.rf hG hl
end
