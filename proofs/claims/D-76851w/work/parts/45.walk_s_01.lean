set_option maxRecDepth 100000
section
variable {p : Program} {l : Launch} {e : Env} {s : State} {m : MethodId} {args : Array Value} {below : List Frame} {meth : Method} {c : Code} {G : Gv}
theorem flX6_7 : FL RX6 7 6 0 RX6 TX6 1 := ⟨in_X6, rfl, by decide, q414⟩
noncomputable def fX6_sort (PL : Nat → Bool) (V0 : Mem) (p0 : Nat) : Option (Int32) :=
  gb (kd PL V0 p0 6) (
  lo (gR V0 p0 0) fun oa2 =>
  od oa2 (
  some (-1 : Int32)) (fun pa4 =>
  gb (kd PL V0 p0 6) (
  lo (gR V0 p0 0) fun oa6 =>
  ob oa6 fun pa8 =>
  gb (ks PL V0 pa8) (
  if (isk V0 pa8 34) = 0 then (
  gb (kd PL V0 p0 6) (
  lo (gR V0 p0 0) fun oa14 =>
  ob oa14 fun pa16 =>
  gb (ks PL V0 pa16) (
  if (isk V0 pa16 35) = 0 then (
  gb (kd PL V0 p0 6) (
  lo (gR V0 p0 0) fun oa22 =>
  ob oa22 fun pa24 =>
  gb (ks PL V0 pa24) (
  if (isk V0 pa24 32) = 0 then (
  gb (kd PL V0 p0 6) (
  lo (gR V0 p0 0) fun oa30 =>
  ob oa30 fun pa32 =>
  gb (ks PL V0 pa32) (
  if (isk V0 pa32 33) = 0 then (
  some (4 : Int32))
  else (
  some (3 : Int32)))))
  else (
  some (2 : Int32)))))
  else (
  some (1 : Int32)))))
  else (
  some (0 : Int32))))))
set_option maxHeartbeats 4000000 in
theorem w_fX6_sort (C : Cx G p s m args meth c RX6 cX6_sort 1 (some .int)) {PL : Nat → Bool} {V0 : Mem} {rx : Int32} (hW0 : pl G PL V0 s.heap) (hZN : ZN G) : ∀ (p0 : Nat), fX6_sort PL V0 p0 = some rx → ∀ (ls : Array Slot), lv_has ls 1 [(0, .ref p0)] → W p l e (rmP 0 0) s m args below meth c s.heap [] 0 0 (MQ below (QcP (some (.int rx))) args s 0 0 (fun _ => False)) (F0 m 0 ls []) := by
  intro p0 hm ls hl
  obtain ⟨hx, hb, hr, hlk, hml, hown, hts, hK⟩ := id C
  unfold fX6_sort at hm
  refine lv_aload_n (pc := 0) hx hb dX6_sort_0 rfl (lv_at hl 0 rfl) ?_
  obtain ⟨hg1, hm⟩ := gb_some hm
  obtain ⟨oa2, he3, hm⟩ := lo_some hm
  refine rk_get (pc := 1) hx hb hts hown hK (pl_rg hW0) flX6_7 p0 (Nat.lt_succ_self _) (Nat.zero_add _).symm (shP_6 (kd_PL hg1) (kd_k hg1)) (x := va_rf oa2) (congrArg (fun z => some (va_rf z)) he3) dX6_sort_1 ?_
  rcases oa2 with _ | pa4
  · have hm := od_n hm
    refine lv_ifnonnullN (pc := 4) hx hb dX6_sort_4 ?_
    refine lv_iconst (pc := 7) (v := (-1 : Int32)) hx hb dX6_sort_7 (by decide) ?_
    refine lv_goto (pc := 8) (tgt := 68) hx hb dX6_sort_8 (by decide) ?_
    have e9 := rs1 hm
    subst e9
    exact rk_iretP (pc := 68) hx hb hr hlk rfl dX6_sort_68
  · have hm := od_s hm
    refine lv_ifnonnull (pc := 4) (tgt := 11) hx hb dX6_sort_4 (by decide) ?_
    refine lv_aload_n (pc := 11) hx hb dX6_sort_11 rfl (lv_at hl 0 rfl) ?_
    obtain ⟨hg5, hm⟩ := gb_some hm
    obtain ⟨oa6, he7, hm⟩ := lo_some hm
    refine rk_get (pc := 12) hx hb hts hown hK (pl_rg hW0) flX6_7 p0 (Nat.lt_succ_self _) (Nat.zero_add _).symm (shP_6 (kd_PL hg5) (kd_k hg5)) (x := va_rf oa6) (congrArg (fun z => some (va_rf z)) he7) dX6_sort_12 ?_
    obtain ⟨pa8, he9, hm10⟩ := ob_some hm
    subst he9
    have hm := hm10
    obtain ⟨hg11, hm⟩ := gb_some hm
    refine rp_inst (pc := 15) (b := (34, "[B")) hx hb hown hts hK hZN (by decide) (by decide) q1634 hW0 hg11 dX6_sort_15 ?_
    refine lv_if_eq (pc := 18) (tgt := 25) hx hb dX6_sort_18 (by decide) (fun c12 => ?_) (fun c12 => ?_)
    · have hm := ite_t c12 hm
      refine lv_aload_n (pc := 25) hx hb dX6_sort_25 rfl (lv_at hl 0 rfl) ?_
      obtain ⟨hg13, hm⟩ := gb_some hm
      obtain ⟨oa14, he15, hm⟩ := lo_some hm
      refine rk_get (pc := 26) hx hb hts hown hK (pl_rg hW0) flX6_7 p0 (Nat.lt_succ_self _) (Nat.zero_add _).symm (shP_6 (kd_PL hg13) (kd_k hg13)) (x := va_rf oa14) (congrArg (fun z => some (va_rf z)) he15) dX6_sort_26 ?_
      obtain ⟨pa16, he17, hm18⟩ := ob_some hm
      subst he17
      have hm := hm18
      obtain ⟨hg19, hm⟩ := gb_some hm
      refine rp_inst (pc := 29) (b := (35, "[S")) hx hb hown hts hK hZN (by decide) (by decide) q1635 hW0 hg19 dX6_sort_29 ?_
      refine lv_if_eq (pc := 32) (tgt := 39) hx hb dX6_sort_32 (by decide) (fun c20 => ?_) (fun c20 => ?_)
      · have hm := ite_t c20 hm
        refine lv_aload_n (pc := 39) hx hb dX6_sort_39 rfl (lv_at hl 0 rfl) ?_
        obtain ⟨hg21, hm⟩ := gb_some hm
        obtain ⟨oa22, he23, hm⟩ := lo_some hm
        refine rk_get (pc := 40) hx hb hts hown hK (pl_rg hW0) flX6_7 p0 (Nat.lt_succ_self _) (Nat.zero_add _).symm (shP_6 (kd_PL hg21) (kd_k hg21)) (x := va_rf oa22) (congrArg (fun z => some (va_rf z)) he23) dX6_sort_40 ?_
        obtain ⟨pa24, he25, hm26⟩ := ob_some hm
        subst he25
        have hm := hm26
        obtain ⟨hg27, hm⟩ := gb_some hm
        refine rp_inst (pc := 43) (b := (32, "[I")) hx hb hown hts hK hZN (by decide) (by decide) q1636 hW0 hg27 dX6_sort_43 ?_
        refine lv_if_eq (pc := 46) (tgt := 53) hx hb dX6_sort_46 (by decide) (fun c28 => ?_) (fun c28 => ?_)
        · have hm := ite_t c28 hm
          refine lv_aload_n (pc := 53) hx hb dX6_sort_53 rfl (lv_at hl 0 rfl) ?_
          obtain ⟨hg29, hm⟩ := gb_some hm
          obtain ⟨oa30, he31, hm⟩ := lo_some hm
          refine rk_get (pc := 54) hx hb hts hown hK (pl_rg hW0) flX6_7 p0 (Nat.lt_succ_self _) (Nat.zero_add _).symm (shP_6 (kd_PL hg29) (kd_k hg29)) (x := va_rf oa30) (congrArg (fun z => some (va_rf z)) he31) dX6_sort_54 ?_
          obtain ⟨pa32, he33, hm34⟩ := ob_some hm
          subst he33
          have hm := hm34
          obtain ⟨hg35, hm⟩ := gb_some hm
          refine rp_inst (pc := 57) (b := (33, "[J")) hx hb hown hts hK hZN (by decide) (by decide) q1637 hW0 hg35 dX6_sort_57 ?_
          refine lv_if_eq (pc := 60) (tgt := 67) hx hb dX6_sort_60 (by decide) (fun c36 => ?_) (fun c36 => ?_)
          · have hm := ite_t c36 hm
            refine lv_iconst (pc := 67) (v := (4 : Int32)) hx hb dX6_sort_67 (by decide) ?_
            have e9 := rs1 hm
            subst e9
            exact rk_iretP (pc := 68) hx hb hr hlk rfl dX6_sort_68
          · have hm := ite_f c36 hm
            refine lv_iconst (pc := 63) (v := (3 : Int32)) hx hb dX6_sort_63 (by decide) ?_
            refine lv_goto (pc := 64) (tgt := 68) hx hb dX6_sort_64 (by decide) ?_
            have e9 := rs1 hm
            subst e9
            exact rk_iretP (pc := 68) hx hb hr hlk rfl dX6_sort_68
        · have hm := ite_f c28 hm
          refine lv_iconst (pc := 49) (v := (2 : Int32)) hx hb dX6_sort_49 (by decide) ?_
          refine lv_goto (pc := 50) (tgt := 68) hx hb dX6_sort_50 (by decide) ?_
          have e9 := rs1 hm
          subst e9
          exact rk_iretP (pc := 68) hx hb hr hlk rfl dX6_sort_68
      · have hm := ite_f c20 hm
        refine lv_iconst (pc := 35) (v := (1 : Int32)) hx hb dX6_sort_35 (by decide) ?_
        refine lv_goto (pc := 36) (tgt := 68) hx hb dX6_sort_36 (by decide) ?_
        have e9 := rs1 hm
        subst e9
        exact rk_iretP (pc := 68) hx hb hr hlk rfl dX6_sort_68
    · have hm := ite_f c12 hm
      refine lv_iconst (pc := 21) (v := (0 : Int32)) hx hb dX6_sort_21 (by decide) ?_
      refine lv_goto (pc := 22) (tgt := 68) hx hb dX6_sort_22 (by decide) ?_
      have e9 := rs1 hm
      subst e9
      exact rk_iretP (pc := 68) hx hb hr hlk rfl dX6_sort_68
set_option maxHeartbeats 4000000 in
theorem ct_X6_sort {G : Gv} {l : Launch} {PL : Nat → Bool} {V0 : Mem} {p0 : Nat} {rx : Int32} (hm : fX6_sort PL V0 p0 = some rx) (hZN : ZN G) : CP G l yX6_sort (ws_ yX6_sort cX6_sort 1 (some .int)) 0 0 [.ref p0] (fun H => pl G PL V0 H) (some (.int rx)) := by
  refine Met.ofW (cc := cX6_sort) (maxL := 1) (ret := (some .int)) (by decide +kernel) rfl ?_
  intro p e s m args below meth c s₁ B hml hv
  obtain ⟨rfl, hW0, hK⟩ := hv
  have hts := atoms_spec (ws := ws_ yX6_sort cX6_sort 1 (some .int)) B.pre
  have hts : ∀ w ∈ lw_all, w.before _ s = true := fun w h => hts w (List.mem_cons_of_mem _ h)
  have C : Cx G p s m _ meth c RX6 cX6_sort 1 (some .int) := ⟨B.exec, B.bytes, B.returns, B.notSynchronized, hml, findClass_of_methodNamed B.named, hts, hK⟩
  have hl := lv_entry ([.ref p0]) (n := 1) (Nat.le_of_ble_eq_true rfl)
  rw [lg_entry_eq]
  generalize (lg_sl ([.ref p0]) ++ List.replicate (1 - (lg_sl ([.ref p0])).length) Slot.unset).toArray = ls at hl ⊢
  have hl : lv_has ls 1 [(0, .ref p0)] := hl
  exact w_fX6_sort C hW0 hZN _ hm ls hl
theorem yn_X6_sort : YN yX6_sort 0 := by
  unfold YN
  decide +kernel
theorem lkX6_21 : LV RX6 21 RX6 yX6_sort cX6_sort 1 (some .int) := ⟨q1642, q1631, q1632, q125, q1633⟩
theorem tswm5 {x : Int32} (h0 : ¬ x = (-1 : Int32)) (h1 : ¬ x = (0 : Int32)) (h2 : ¬ x = (1 : Int32)) (h3 : ¬ x = (2 : Int32)) (h4 : ¬ x = (3 : Int32)) : x.toInt < -1 ∨ 3 < x.toInt := by
  have g0 : ¬ x.toInt = -1 := lv_neT h0 (by decide)
  have g1 : ¬ x.toInt = 0 := lv_neT h1 (by decide)
  have g2 : ¬ x.toInt = 1 := lv_neT h2 (by decide)
  have g3 : ¬ x.toInt = 2 := lv_neT h3 (by decide)
  have g4 : ¬ x.toInt = 3 := lv_neT h4 (by decide)
  omega
noncomputable def fX6_size (PL : Nat → Bool) (V0 : Mem) (p0 : Nat) : Option (Int32) :=
  gb (kd PL V0 p0 6) (
  ob (fX6_sort PL V0 p0) fun r2 =>
  if r2 = (-1 : Int32) then (
  some (0 : Int32))
  else if r2 = (0 : Int32) then (
  gb (kd PL V0 p0 6) (
  lo (gR V0 p0 0) fun oa7 =>
  od oa7 (
  none) (fun pa9 =>
  gb (ka PL V0 pa9 34) (
  some (Int32.ofNat (gI V0 pa9 98).toNatClampNeg)))))
  else if r2 = (1 : Int32) then (
  gb (kd PL V0 p0 6) (
  lo (gR V0 p0 0) fun oa13 =>
  od oa13 (
  none) (fun pa15 =>
  gb (ka PL V0 pa15 35) (
  some (Int32.ofNat (gI V0 pa15 98).toNatClampNeg)))))
  else if r2 = (2 : Int32) then (
  gb (kd PL V0 p0 6) (
  lo (gR V0 p0 0) fun oa19 =>
  od oa19 (
  none) (fun pa21 =>
  gb (ka PL V0 pa21 32) (
  some (Int32.ofNat (gI V0 pa21 98).toNatClampNeg)))))
  else if r2 = (3 : Int32) then (
  gb (kd PL V0 p0 6) (
  lo (gR V0 p0 0) fun oa25 =>
  od oa25 (
  none) (fun pa27 =>
  gb (ka PL V0 pa27 33) (
  some (Int32.ofNat (gI V0 pa27 98).toNatClampNeg)))))
  else (
  gb (kd PL V0 p0 6) (
  lo (gR V0 p0 0) fun oa30 =>
  od oa30 (
  none) (fun pa32 =>
  gb (ka PL V0 pa32 36) (
  some (Int32.ofNat (gI V0 pa32 98).toNatClampNeg))))))
set_option maxHeartbeats 4000000 in
theorem w_fX6_size (C : Cx G p s m args meth c RX6 cX6_size 1 (some .int)) {PL : Nat → Bool} {V0 : Mem} {rx : Int32} (hW0 : pl G PL V0 s.heap) (hZN : ZN G) : ∀ (p0 : Nat), fX6_size PL V0 p0 = some rx → ∀ (ls : Array Slot), lv_has ls 1 [(0, .ref p0)] → W p l e (rmP 1 20) s m args below meth c s.heap [] 0 0 (MQ below (QcP (some (.int rx))) args s 0 0 (fun _ => False)) (F0 m 0 ls []) := by
  intro p0 hm ls hl
  obtain ⟨hx, hb, hr, hlk, hml, hown, hts, hK⟩ := id C
  unfold fX6_size at hm
  refine lv_aload_n (pc := 0) hx hb dX6_size_0 rfl (lv_at hl 0 rfl) ?_
  obtain ⟨hg1, hm⟩ := gb_some hm
  obtain ⟨r2, hq3, hm⟩ := ob_some hm
  refine rk_PV (pc := 1) (As := []) (rest := []) hx hb hml hown hts hK lkX6_21 rfl yn_X6_sort (ct_X6_sort (G := G) (l := l) hq3 hZN) ⟨Nat.le_of_ble_eq_true rfl, Nat.le_of_ble_eq_true rfl⟩ (rp_recv hK hW0 (C := RX6) (T := TX6) (N := 1) rfl (shP_6 (kd_PL hg1) (kd_k hg1))) hW0 rfl rfl hl.1 (Nat.le_of_ble_eq_true rfl) dX6_size_1 ⟨Nat.zero_le _, Nat.zero_le _⟩ ?_
  refine W.eq (g2 := F0 m 4 ls [.int r2]) rfl ?_
  by_cases c4 : r2 = (-1 : Int32)
  · have hm := ite_t c4 hm
    refine lv_tableIn (pc := 4) (tgt := 40) hx hb dX6_size_4 (by rw [c4]; decide) (by rw [c4]; decide) (by rw [c4]; rfl) (by decide) ?_
    refine lv_iconst (pc := 40) (v := (0 : Int32)) hx hb dX6_size_40 (by decide) ?_
    have e9 := rs1 hm
    subst e9
    exact rk_iretP (pc := 41) hx hb hr hlk rfl dX6_size_41
  have hm := ite_f c4 hm
  by_cases c5 : r2 = (0 : Int32)
  · have hm := ite_t c5 hm
    refine lv_tableIn (pc := 4) (tgt := 42) hx hb dX6_size_4 (by rw [c5]; decide) (by rw [c5]; decide) (by rw [c5]; rfl) (by decide) ?_
    refine lv_aload_n (pc := 42) hx hb dX6_size_42 rfl (lv_at hl 0 rfl) ?_
    obtain ⟨hg6, hm⟩ := gb_some hm
    obtain ⟨oa7, he8, hm⟩ := lo_some hm
    refine rk_get (pc := 43) hx hb hts hown hK (pl_rg hW0) flX6_7 p0 (Nat.lt_succ_self _) (Nat.zero_add _).symm (shP_6 (kd_PL hg6) (kd_k hg6)) (x := va_rf oa7) (congrArg (fun z => some (va_rf z)) he8) dX6_size_43 ?_
    rcases oa7 with _ | pa9
    · have hm := od_n hm
      refine lv_castN (pc := 46) hx hb dX6_size_46 ?_
      exact nomatch hm
    · have hm := od_s hm
      obtain ⟨hg10, hm⟩ := gb_some hm
      refine rp_cast34 (pc := 46) hx hb hown hts hK q1634 hW0 hg10 dX6_size_46 ?_
      refine rp_len34 (pc := 49) hx hb hK hW0 hg10 dX6_size_49 ?_
      have e9 := rs1 hm
      subst e9
      exact rk_iretP (pc := 50) hx hb hr hlk rfl dX6_size_50
  have hm := ite_f c5 hm
  by_cases c11 : r2 = (1 : Int32)
  · have hm := ite_t c11 hm
    refine lv_tableIn (pc := 4) (tgt := 51) hx hb dX6_size_4 (by rw [c11]; decide) (by rw [c11]; decide) (by rw [c11]; rfl) (by decide) ?_
    refine lv_aload_n (pc := 51) hx hb dX6_size_51 rfl (lv_at hl 0 rfl) ?_
    obtain ⟨hg12, hm⟩ := gb_some hm
    obtain ⟨oa13, he14, hm⟩ := lo_some hm
    refine rk_get (pc := 52) hx hb hts hown hK (pl_rg hW0) flX6_7 p0 (Nat.lt_succ_self _) (Nat.zero_add _).symm (shP_6 (kd_PL hg12) (kd_k hg12)) (x := va_rf oa13) (congrArg (fun z => some (va_rf z)) he14) dX6_size_52 ?_
    rcases oa13 with _ | pa15
    · have hm := od_n hm
      refine lv_castN (pc := 55) hx hb dX6_size_55 ?_
      exact nomatch hm
    · have hm := od_s hm
      obtain ⟨hg16, hm⟩ := gb_some hm
      refine rp_cast35 (pc := 55) hx hb hown hts hK q1635 hW0 hg16 dX6_size_55 ?_
      refine rp_len35 (pc := 58) hx hb hK hW0 hg16 dX6_size_58 ?_
      have e9 := rs1 hm
      subst e9
      exact rk_iretP (pc := 59) hx hb hr hlk rfl dX6_size_59
  have hm := ite_f c11 hm
  by_cases c17 : r2 = (2 : Int32)
  · have hm := ite_t c17 hm
    refine lv_tableIn (pc := 4) (tgt := 60) hx hb dX6_size_4 (by rw [c17]; decide) (by rw [c17]; decide) (by rw [c17]; rfl) (by decide) ?_
    refine lv_aload_n (pc := 60) hx hb dX6_size_60 rfl (lv_at hl 0 rfl) ?_
    obtain ⟨hg18, hm⟩ := gb_some hm
    obtain ⟨oa19, he20, hm⟩ := lo_some hm
    refine rk_get (pc := 61) hx hb hts hown hK (pl_rg hW0) flX6_7 p0 (Nat.lt_succ_self _) (Nat.zero_add _).symm (shP_6 (kd_PL hg18) (kd_k hg18)) (x := va_rf oa19) (congrArg (fun z => some (va_rf z)) he20) dX6_size_61 ?_
    rcases oa19 with _ | pa21
    · have hm := od_n hm
      refine lv_castN (pc := 64) hx hb dX6_size_64 ?_
      exact nomatch hm
    · have hm := od_s hm
      obtain ⟨hg22, hm⟩ := gb_some hm
      refine rp_cast32 (pc := 64) hx hb hown hts hK q1636 hW0 hg22 dX6_size_64 ?_
      refine rp_len32 (pc := 67) hx hb hK hW0 hg22 dX6_size_67 ?_
      have e9 := rs1 hm
      subst e9
      exact rk_iretP (pc := 68) hx hb hr hlk rfl dX6_size_68
  have hm := ite_f c17 hm
  by_cases c23 : r2 = (3 : Int32)
  · have hm := ite_t c23 hm
    refine lv_tableIn (pc := 4) (tgt := 69) hx hb dX6_size_4 (by rw [c23]; decide) (by rw [c23]; decide) (by rw [c23]; rfl) (by decide) ?_
    refine lv_aload_n (pc := 69) hx hb dX6_size_69 rfl (lv_at hl 0 rfl) ?_
    obtain ⟨hg24, hm⟩ := gb_some hm
    obtain ⟨oa25, he26, hm⟩ := lo_some hm
    refine rk_get (pc := 70) hx hb hts hown hK (pl_rg hW0) flX6_7 p0 (Nat.lt_succ_self _) (Nat.zero_add _).symm (shP_6 (kd_PL hg24) (kd_k hg24)) (x := va_rf oa25) (congrArg (fun z => some (va_rf z)) he26) dX6_size_70 ?_
    rcases oa25 with _ | pa27
    · have hm := od_n hm
      refine lv_castN (pc := 73) hx hb dX6_size_73 ?_
      exact nomatch hm
    · have hm := od_s hm
      obtain ⟨hg28, hm⟩ := gb_some hm
      refine rp_cast33 (pc := 73) hx hb hown hts hK q1637 hW0 hg28 dX6_size_73 ?_
      refine rp_len33 (pc := 76) hx hb hK hW0 hg28 dX6_size_76 ?_
      have e9 := rs1 hm
      subst e9
      exact rk_iretP (pc := 77) hx hb hr hlk rfl dX6_size_77
  have hm := ite_f c23 hm
  refine lv_tableOut (pc := 4) (tgt := 78) hx hb dX6_size_4 (tswm5 c4 c5 c11 c17 c23) (by decide) ?_
  refine lv_aload_n (pc := 78) hx hb dX6_size_78 rfl (lv_at hl 0 rfl) ?_
  obtain ⟨hg29, hm⟩ := gb_some hm
  obtain ⟨oa30, he31, hm⟩ := lo_some hm
  refine rk_get (pc := 79) hx hb hts hown hK (pl_rg hW0) flX6_7 p0 (Nat.lt_succ_self _) (Nat.zero_add _).symm (shP_6 (kd_PL hg29) (kd_k hg29)) (x := va_rf oa30) (congrArg (fun z => some (va_rf z)) he31) dX6_size_79 ?_
  rcases oa30 with _ | pa32
  · have hm := od_n hm
    refine lv_castN (pc := 82) hx hb dX6_size_82 ?_
    exact nomatch hm
  · have hm := od_s hm
    obtain ⟨hg33, hm⟩ := gb_some hm
    refine rp_cast36 (pc := 82) hx hb hown hts hK q1643 hW0 hg33 dX6_size_82 ?_
    refine rp_len36 (pc := 85) hx hb hK hW0 hg33 dX6_size_85 ?_
    have e9 := rs1 hm
    subst e9
    exact rk_iretP (pc := 86) hx hb hr hlk rfl dX6_size_86
set_option maxHeartbeats 4000000 in
theorem ct_X6_size {G : Gv} {l : Launch} {PL : Nat → Bool} {V0 : Mem} {p0 : Nat} {rx : Int32} (hm : fX6_size PL V0 p0 = some rx) (hZN : ZN G) : CP G l yX6_size (ws_ yX6_size cX6_size 1 (some .int)) 1 20 [.ref p0] (fun H => pl G PL V0 H) (some (.int rx)) := by
  refine Met.ofW (cc := cX6_size) (maxL := 1) (ret := (some .int)) (by decide +kernel) rfl ?_
  intro p e s m args below meth c s₁ B hml hv
  obtain ⟨rfl, hW0, hK⟩ := hv
  have hts := atoms_spec (ws := ws_ yX6_size cX6_size 1 (some .int)) B.pre
  have hts : ∀ w ∈ lw_all, w.before _ s = true := fun w h => hts w (List.mem_cons_of_mem _ h)
  have C : Cx G p s m _ meth c RX6 cX6_size 1 (some .int) := ⟨B.exec, B.bytes, B.returns, B.notSynchronized, hml, findClass_of_methodNamed B.named, hts, hK⟩
  have hl := lv_entry ([.ref p0]) (n := 1) (Nat.le_of_ble_eq_true rfl)
  rw [lg_entry_eq]
  generalize (lg_sl ([.ref p0]) ++ List.replicate (1 - (lg_sl ([.ref p0])).length) Slot.unset).toArray = ls at hl ⊢
  have hl : lv_has ls 1 [(0, .ref p0)] := hl
  exact w_fX6_size C hW0 hZN _ hm ls hl
noncomputable def fX6_becomes (PL : Nat → Bool) (Z : Nat) (v0 : Mem) (p0 : Nat) (i1 : Int32) (i2 : Int32) : Option (Nat × Mem) :=
  if 0 ≤ i1 then (
  if i1 = 0 then (
  ln (Z + 0) fun h98 =>
  gb (PL h98) (
  gb (!decide (i2 < 0) && decide (i2.toNatClampNeg ≤ 90)) (
  lm (nwP v0 h98 34 i2) fun v0_103 =>
  gb (kd PL v0_103 p0 6) (
  lm (sR v0_103 p0 0 (some h98)) fun v0_112 =>
  some (1, v0_112)))))
  else (
  if i1 = (1 : Int32) then (
  ln (Z + 0) fun h75 =>
  gb (PL h75) (
  gb (!decide (i2 < 0) && decide (i2.toNatClampNeg ≤ 90)) (
  lm (nwP v0 h75 35 i2) fun v0_80 =>
  gb (kd PL v0_80 p0 6) (
  lm (sR v0_80 p0 0 (some h75)) fun v0_89 =>
  some (1, v0_89)))))
  else (
  if i1 = (2 : Int32) then (
  ln (Z + 0) fun h52 =>
  gb (PL h52) (
  gb (!decide (i2 < 0) && decide (i2.toNatClampNeg ≤ 90)) (
  lm (nwP v0 h52 32 i2) fun v0_57 =>
  gb (kd PL v0_57 p0 6) (
  lm (sR v0_57 p0 0 (some h52)) fun v0_66 =>
  some (1, v0_66)))))
  else (
  if i1 = (3 : Int32) then (
  ln (Z + 0) fun h29 =>
  gb (PL h29) (
  gb (!decide (i2 < 0) && decide (i2.toNatClampNeg ≤ 90)) (
  lm (nwP v0 h29 33 i2) fun v0_34 =>
  gb (kd PL v0_34 p0 6) (
  lm (sR v0_34 p0 0 (some h29)) fun v0_43 =>
  some (1, v0_43)))))
  else (
  ln (Z + 0) fun h6 =>
  gb (PL h6) (
  gb (!decide (i2 < 0) && decide (i2.toNatClampNeg ≤ 90)) (
  lm (nwP v0 h6 36 i2) fun v0_11 =>
  gb (kd PL v0_11 p0 6) (
  lm (sR v0_11 p0 0 (some h6)) fun v0_20 =>
  some (1, v0_20)))))))))
  else (
  gb (kd PL v0 p0 6) (
  lm (sR v0 p0 0 none) fun v0_122 =>
  some (0, v0_122)))
set_option maxHeartbeats 4000000 in
theorem w_fX6_becomes (C : Cx G p s m args meth c RX6 cX6_becomes 3 none) {PL : Nat → Bool} {Z : Nat} {vP0 : Mem} {rc : Nat} {rw0 : Mem} (hZz : s.heap.size = Z) : ∀ (v0 : Mem) (p0 : Nat) (i1 : Int32) (i2 : Int32), fX6_becomes PL Z v0 p0 i1 i2 = some (rc, rw0) → ∀ (H : Heap) (locs : List Loc) (ls : Array Slot), pl G PL v0 H → va_S (FA (fP PL vP0) s.heap.size) s.heap H locs → H.size = s.heap.size + 0 → KM vP0 v0 s.heap.size → lv_has ls 3 [(0, .ref p0), (1, .int i1), (2, .int i2)] → W p l e (rmT 0 1 90 0) s m args below meth c H locs 0 0 (MQ below (QcT (FA (fP PL vP0) s.heap.size) (fun ov H => ov = none ∧ pl G PL rw0 H ∧ H.size = s.heap.size + rc ∧ KM vP0 rw0 s.heap.size)) args s 1 90 (FA (fP PL vP0) s.heap.size)) (F0 m 0 ls []) := by
  intro v0 p0 i1 i2 hm H locs ls hW0 hS hz hKM hl
  obtain ⟨hx, hb, hr, hlk, hml, hown, hts, hK⟩ := id C
  unfold fX6_becomes at hm
  refine lv_aload_n (pc := 0) hx hb dX6_becomes_0 rfl (lv_at hl 0 rfl) ?_
  refine lv_iload_n (pc := 1) hx hb dX6_becomes_1 rfl (lv_at hl 1 rfl) ?_
  refine lv_if_ge (pc := 2) (tgt := 9) hx hb dX6_becomes_2 (by decide) (fun c1 => ?_) (fun c1 => ?_)
  · have hm := ite_t c1 hm
    refine lv_iload_n (pc := 9) hx hb dX6_becomes_9 rfl (lv_at hl 1 rfl) ?_
    refine lv_if_ne (pc := 10) (tgt := 19) hx hb dX6_becomes_10 (by decide) (fun c2 => ?_) (fun c2 => ?_)
    · have hm := ite_f c2 hm
      refine lv_iload_n (pc := 19) hx hb dX6_becomes_19 rfl (lv_at hl 1 rfl) ?_
      refine lv_iconst (pc := 20) (v := (1 : Int32)) hx hb dX6_becomes_20 (by decide) ?_
      refine lv_icmp_ne (pc := 21) (tgt := 30) hx hb dX6_becomes_21 (by decide) (fun c3 => ?_) (fun c3 => ?_)
      · have hm := ite_f c3 hm
        refine lv_iload_n (pc := 30) hx hb dX6_becomes_30 rfl (lv_at hl 1 rfl) ?_
        refine lv_iconst (pc := 31) (v := (2 : Int32)) hx hb dX6_becomes_31 (by decide) ?_
        refine lv_icmp_ne (pc := 32) (tgt := 41) hx hb dX6_becomes_32 (by decide) (fun c4 => ?_) (fun c4 => ?_)
        · have hm := ite_f c4 hm
          refine lv_iload_n (pc := 41) hx hb dX6_becomes_41 rfl (lv_at hl 1 rfl) ?_
          refine lv_iconst (pc := 42) (v := (3 : Int32)) hx hb dX6_becomes_42 (by decide) ?_
          refine lv_icmp_ne (pc := 43) (tgt := 52) hx hb dX6_becomes_43 (by decide) (fun c5 => ?_) (fun c5 => ?_)
          · have hm := ite_f c5 hm
            refine lv_iload_n (pc := 52) hx hb dX6_becomes_52 rfl (lv_at hl 2 rfl) ?_
            obtain ⟨h6, hh7, hm⟩ := ln_some hm
            obtain ⟨hg8, hm⟩ := gb_some hm
            obtain ⟨hg9, hm⟩ := gb_some hm
            rw [Bool.and_eq_true, Bool.not_eq_true', decide_eq_false_iff_not] at hg9
            have hs10 : H.size = h6 := by omega
            refine rp_newa36 (pc := 53) (h := h6) (n := i2) hx hb hts hK hW0 hS q1687 hs10 hg8 hg9.1 (of_decide_eq_true hg9.2) (Nat.le_of_ble_eq_true rfl) (Nat.le_of_ble_eq_true rfl) dX6_becomes_53 (fun H12 hW13 hS14 hz15 hkp16 => ?_)
            have hKM17 := KM.nw (h := h6) (k := 36) (n := i2) hKM (by omega)
            obtain ⟨v0_11, he9, hm⟩ := lm_some hm
            rw [he9] at hW13 hKM17
            have hz18 : H12.size = s.heap.size + 1 := by omega
            obtain ⟨hg19, hm⟩ := gb_some hm
            refine rp_put (pc := 55) (q := p0) hx hb hts hown hK hW13 hS14 flX6_7 ft_X6 (kd_A hKM17 hg19 (by decide)) (shP_6 (kd_PL hg19) (kd_k hg19)) rfl (x := va_rf (some h6)) (rf_nar _ rfl (some h6)) (rf_fit _ rfl (some h6)) (Nat.le_of_ble_eq_true rfl) (sR v0_11 p0 0 (some h6)) sR_ne (by rw [sR_eq]; exact shP_6 (kd_PL hg19) (kd_k hg19)) dX6_becomes_55 (fun H21 locs22 hW23 hS24 hz25 hkp26 => ?_)
            have hKM27 := KM.sR (o := p0) (j := 0) (x := (some h6)) hKM17
            obtain ⟨v0_20, he9, hm⟩ := lm_some hm
            rw [he9] at hW23 hKM27
            have hz28 := hz25.trans hz18
            obtain ⟨e8, e9⟩ := rs2 hm
            subst e8
            subst e9
            exact rk_vretA (pc := 58) hx hb hr hlk hS24 ⟨rfl, hW23, hz28, hKM27⟩ dX6_becomes_58 (by exact Nat.le_of_ble_eq_true rfl) (by exact Nat.le_of_ble_eq_true rfl)
          · have hm := ite_t c5 hm
            refine lv_iload_n (pc := 46) hx hb dX6_becomes_46 rfl (lv_at hl 2 rfl) ?_
            obtain ⟨h29, hh30, hm⟩ := ln_some hm
            obtain ⟨hg31, hm⟩ := gb_some hm
            obtain ⟨hg32, hm⟩ := gb_some hm
            rw [Bool.and_eq_true, Bool.not_eq_true', decide_eq_false_iff_not] at hg32
            have hs33 : H.size = h29 := by omega
            refine rp_newa33 (pc := 47) (h := h29) (n := i2) hx hb hts hK hW0 hS q273 hs33 hg31 hg32.1 (of_decide_eq_true hg32.2) (Nat.le_of_ble_eq_true rfl) (Nat.le_of_ble_eq_true rfl) dX6_becomes_47 (fun H35 hW36 hS37 hz38 hkp39 => ?_)
            have hKM40 := KM.nw (h := h29) (k := 33) (n := i2) hKM (by omega)
            obtain ⟨v0_34, he9, hm⟩ := lm_some hm
            rw [he9] at hW36 hKM40
            have hz41 : H35.size = s.heap.size + 1 := by omega
            refine lv_goto (pc := 49) (tgt := 55) hx hb dX6_becomes_49 (by decide) ?_
            obtain ⟨hg42, hm⟩ := gb_some hm
            refine rp_put (pc := 55) (q := p0) hx hb hts hown hK hW36 hS37 flX6_7 ft_X6 (kd_A hKM40 hg42 (by decide)) (shP_6 (kd_PL hg42) (kd_k hg42)) rfl (x := va_rf (some h29)) (rf_nar _ rfl (some h29)) (rf_fit _ rfl (some h29)) (Nat.le_of_ble_eq_true rfl) (sR v0_34 p0 0 (some h29)) sR_ne (by rw [sR_eq]; exact shP_6 (kd_PL hg42) (kd_k hg42)) dX6_becomes_55 (fun H44 locs45 hW46 hS47 hz48 hkp49 => ?_)
            have hKM50 := KM.sR (o := p0) (j := 0) (x := (some h29)) hKM40
            obtain ⟨v0_43, he9, hm⟩ := lm_some hm
            rw [he9] at hW46 hKM50
            have hz51 := hz48.trans hz41
            obtain ⟨e8, e9⟩ := rs2 hm
            subst e8
            subst e9
            exact rk_vretA (pc := 58) hx hb hr hlk hS47 ⟨rfl, hW46, hz51, hKM50⟩ dX6_becomes_58 (by exact Nat.le_of_ble_eq_true rfl) (by exact Nat.le_of_ble_eq_true rfl)
        · have hm := ite_t c4 hm
          refine lv_iload_n (pc := 35) hx hb dX6_becomes_35 rfl (lv_at hl 2 rfl) ?_
          obtain ⟨h52, hh53, hm⟩ := ln_some hm
          obtain ⟨hg54, hm⟩ := gb_some hm
          obtain ⟨hg55, hm⟩ := gb_some hm
          rw [Bool.and_eq_true, Bool.not_eq_true', decide_eq_false_iff_not] at hg55
          have hs56 : H.size = h52 := by omega
          refine rp_newa32 (pc := 36) (h := h52) (n := i2) hx hb hts hK hW0 hS q190 hs56 hg54 hg55.1 (of_decide_eq_true hg55.2) (Nat.le_of_ble_eq_true rfl) (Nat.le_of_ble_eq_true rfl) dX6_becomes_36 (fun H58 hW59 hS60 hz61 hkp62 => ?_)
          have hKM63 := KM.nw (h := h52) (k := 32) (n := i2) hKM (by omega)
          obtain ⟨v0_57, he9, hm⟩ := lm_some hm
          rw [he9] at hW59 hKM63
          have hz64 : H58.size = s.heap.size + 1 := by omega
          refine lv_goto (pc := 38) (tgt := 55) hx hb dX6_becomes_38 (by decide) ?_
          obtain ⟨hg65, hm⟩ := gb_some hm
          refine rp_put (pc := 55) (q := p0) hx hb hts hown hK hW59 hS60 flX6_7 ft_X6 (kd_A hKM63 hg65 (by decide)) (shP_6 (kd_PL hg65) (kd_k hg65)) rfl (x := va_rf (some h52)) (rf_nar _ rfl (some h52)) (rf_fit _ rfl (some h52)) (Nat.le_of_ble_eq_true rfl) (sR v0_57 p0 0 (some h52)) sR_ne (by rw [sR_eq]; exact shP_6 (kd_PL hg65) (kd_k hg65)) dX6_becomes_55 (fun H67 locs68 hW69 hS70 hz71 hkp72 => ?_)
          have hKM73 := KM.sR (o := p0) (j := 0) (x := (some h52)) hKM63
          obtain ⟨v0_66, he9, hm⟩ := lm_some hm
          rw [he9] at hW69 hKM73
          have hz74 := hz71.trans hz64
          obtain ⟨e8, e9⟩ := rs2 hm
          subst e8
          subst e9
          exact rk_vretA (pc := 58) hx hb hr hlk hS70 ⟨rfl, hW69, hz74, hKM73⟩ dX6_becomes_58 (by exact Nat.le_of_ble_eq_true rfl) (by exact Nat.le_of_ble_eq_true rfl)
      · have hm := ite_t c3 hm
        refine lv_iload_n (pc := 24) hx hb dX6_becomes_24 rfl (lv_at hl 2 rfl) ?_
        obtain ⟨h75, hh76, hm⟩ := ln_some hm
        obtain ⟨hg77, hm⟩ := gb_some hm
        obtain ⟨hg78, hm⟩ := gb_some hm
        rw [Bool.and_eq_true, Bool.not_eq_true', decide_eq_false_iff_not] at hg78
        have hs79 : H.size = h75 := by omega
        refine rp_newa35 (pc := 25) (h := h75) (n := i2) hx hb hts hK hW0 hS q1686 hs79 hg77 hg78.1 (of_decide_eq_true hg78.2) (Nat.le_of_ble_eq_true rfl) (Nat.le_of_ble_eq_true rfl) dX6_becomes_25 (fun H81 hW82 hS83 hz84 hkp85 => ?_)
        have hKM86 := KM.nw (h := h75) (k := 35) (n := i2) hKM (by omega)
        obtain ⟨v0_80, he9, hm⟩ := lm_some hm
        rw [he9] at hW82 hKM86
        have hz87 : H81.size = s.heap.size + 1 := by omega
        refine lv_goto (pc := 27) (tgt := 55) hx hb dX6_becomes_27 (by decide) ?_
        obtain ⟨hg88, hm⟩ := gb_some hm
        refine rp_put (pc := 55) (q := p0) hx hb hts hown hK hW82 hS83 flX6_7 ft_X6 (kd_A hKM86 hg88 (by decide)) (shP_6 (kd_PL hg88) (kd_k hg88)) rfl (x := va_rf (some h75)) (rf_nar _ rfl (some h75)) (rf_fit _ rfl (some h75)) (Nat.le_of_ble_eq_true rfl) (sR v0_80 p0 0 (some h75)) sR_ne (by rw [sR_eq]; exact shP_6 (kd_PL hg88) (kd_k hg88)) dX6_becomes_55 (fun H90 locs91 hW92 hS93 hz94 hkp95 => ?_)
        have hKM96 := KM.sR (o := p0) (j := 0) (x := (some h75)) hKM86
        obtain ⟨v0_89, he9, hm⟩ := lm_some hm
        rw [he9] at hW92 hKM96
        have hz97 := hz94.trans hz87
        obtain ⟨e8, e9⟩ := rs2 hm
        subst e8
        subst e9
        exact rk_vretA (pc := 58) hx hb hr hlk hS93 ⟨rfl, hW92, hz97, hKM96⟩ dX6_becomes_58 (by exact Nat.le_of_ble_eq_true rfl) (by exact Nat.le_of_ble_eq_true rfl)
    · have hm := ite_t c2 hm
      refine lv_iload_n (pc := 13) hx hb dX6_becomes_13 rfl (lv_at hl 2 rfl) ?_
      obtain ⟨h98, hh99, hm⟩ := ln_some hm
      obtain ⟨hg100, hm⟩ := gb_some hm
      obtain ⟨hg101, hm⟩ := gb_some hm
      rw [Bool.and_eq_true, Bool.not_eq_true', decide_eq_false_iff_not] at hg101
      have hs102 : H.size = h98 := by omega
      refine rp_newa34 (pc := 14) (h := h98) (n := i2) hx hb hts hK hW0 hS q373 hs102 hg100 hg101.1 (of_decide_eq_true hg101.2) (Nat.le_of_ble_eq_true rfl) (Nat.le_of_ble_eq_true rfl) dX6_becomes_14 (fun H104 hW105 hS106 hz107 hkp108 => ?_)
      have hKM109 := KM.nw (h := h98) (k := 34) (n := i2) hKM (by omega)
      obtain ⟨v0_103, he9, hm⟩ := lm_some hm
      rw [he9] at hW105 hKM109
      have hz110 : H104.size = s.heap.size + 1 := by omega
      refine lv_goto (pc := 16) (tgt := 55) hx hb dX6_becomes_16 (by decide) ?_
      obtain ⟨hg111, hm⟩ := gb_some hm
      refine rp_put (pc := 55) (q := p0) hx hb hts hown hK hW105 hS106 flX6_7 ft_X6 (kd_A hKM109 hg111 (by decide)) (shP_6 (kd_PL hg111) (kd_k hg111)) rfl (x := va_rf (some h98)) (rf_nar _ rfl (some h98)) (rf_fit _ rfl (some h98)) (Nat.le_of_ble_eq_true rfl) (sR v0_103 p0 0 (some h98)) sR_ne (by rw [sR_eq]; exact shP_6 (kd_PL hg111) (kd_k hg111)) dX6_becomes_55 (fun H113 locs114 hW115 hS116 hz117 hkp118 => ?_)
      have hKM119 := KM.sR (o := p0) (j := 0) (x := (some h98)) hKM109
      obtain ⟨v0_112, he9, hm⟩ := lm_some hm
      rw [he9] at hW115 hKM119
      have hz120 := hz117.trans hz110
      obtain ⟨e8, e9⟩ := rs2 hm
      subst e8
      subst e9
      exact rk_vretA (pc := 58) hx hb hr hlk hS116 ⟨rfl, hW115, hz120, hKM119⟩ dX6_becomes_58 (by exact Nat.le_of_ble_eq_true rfl) (by exact Nat.le_of_ble_eq_true rfl)
  · have hm := ite_f c1 hm
    refine lv_null (pc := 5) hx hb dX6_becomes_5 ?_
    refine lv_goto (pc := 6) (tgt := 55) hx hb dX6_becomes_6 (by decide) ?_
    obtain ⟨hg121, hm⟩ := gb_some hm
    refine rp_put (pc := 55) (q := p0) hx hb hts hown hK hW0 hS flX6_7 ft_X6 (kd_A hKM hg121 (by decide)) (shP_6 (kd_PL hg121) (kd_k hg121)) rfl (x := va_rf none) (rf_nar _ rfl none) (rf_fit _ rfl none) (Nat.le_of_ble_eq_true rfl) (sR v0 p0 0 none) sR_ne (by rw [sR_eq]; exact shP_6 (kd_PL hg121) (kd_k hg121)) dX6_becomes_55 (fun H123 locs124 hW125 hS126 hz127 hkp128 => ?_)
    have hKM129 := KM.sR (o := p0) (j := 0) (x := none) hKM
    obtain ⟨v0_122, he9, hm⟩ := lm_some hm
    rw [he9] at hW125 hKM129
    have hz130 := hz127.trans hz
    obtain ⟨e8, e9⟩ := rs2 hm
    subst e8
    subst e9
    exact rk_vretA (pc := 58) hx hb hr hlk hS126 ⟨rfl, hW125, hz130, hKM129⟩ dX6_becomes_58 (by exact Nat.le_of_ble_eq_true rfl) (by exact Nat.le_of_ble_eq_true rfl)
set_option maxHeartbeats 4000000 in
theorem ct_X6_becomes {G : Gv} {l : Launch} {PL : Nat → Bool} {Z : Nat} {v0 : Mem} {p0 : Nat} {i1 : Int32} {i2 : Int32} {rc : Nat} {rw0 : Mem} (hm : fX6_becomes PL Z v0 p0 i1 i2 = some (rc, rw0)) : CT G l yX6_becomes (ws_ yX6_becomes cX6_becomes 3 none) 0 1 90 0 [.ref p0, .int i1, .int i2] (fP PL v0) Z (fun H => pl G PL v0 H) (fun ov H => ov = none ∧ pl G PL rw0 H ∧ H.size = Z + rc ∧ KM v0 rw0 Z) := by
  refine Met.ofW (cc := cX6_becomes) (maxL := 3) (ret := none) (by decide +kernel) rfl ?_
  intro p e s m args below meth c s₁ B hml hv
  obtain ⟨rfl, ⟨hz, hW0⟩, hK⟩ := hv
  subst hz
  have hZz : s.heap.size = s.heap.size := rfl
  have hts := atoms_spec (ws := ws_ yX6_becomes cX6_becomes 3 none) B.pre
  have hts : ∀ w ∈ lw_all, w.before _ s = true := fun w h => hts w (List.mem_cons_of_mem _ h)
  have C : Cx G p s m _ meth c RX6 cX6_becomes 3 none := ⟨B.exec, B.bytes, B.returns, B.notSynchronized, hml, findClass_of_methodNamed B.named, hts, hK⟩
  have hl := lv_entry ([.ref p0, .int i1, .int i2]) (n := 3) (Nat.le_of_ble_eq_true rfl)
  rw [lg_entry_eq]
  generalize (lg_sl ([.ref p0, .int i1, .int i2]) ++ List.replicate (3 - (lg_sl ([.ref p0, .int i1, .int i2])).length) Slot.unset).toArray = ls at hl ⊢
  have hl : lv_has ls 3 [(0, .ref p0), (1, .int i1), (2, .int i2)] := hl
  exact w_fX6_becomes C hZz _ _ _ _ hm s.heap [] ls hW0 va_S.rf rfl KM.rf hl
noncomputable def fX6_puts (PL : Nat → Bool) (v0 : Mem) (p0 : Nat) (i1 : Int32) (j2 : Int64) : Option (Mem) :=
  gb (kd PL v0 p0 6) (
  ob (fX6_sort PL v0 p0) fun r2 =>
  if r2 = (0 : Int32) then (
  gb (kd PL v0 p0 6) (
  lo (gR v0 p0 0) fun oa6 =>
  od oa6 (
  none) (fun pa8 =>
  gb (ka PL v0 pa8 34) (
  gb (inR i1 (gI v0 pa8 98).toNatClampNeg) (
  lm (sI v0 pa8 i1.toNatClampNeg (j2.toInt32.toInt8.toInt32.toInt8.toInt32)) fun v0_11 =>
  some v0_11)))))
  else if r2 = (1 : Int32) then (
  gb (kd PL v0 p0 6) (
  lo (gR v0 p0 0) fun oa22 =>
  od oa22 (
  none) (fun pa24 =>
  gb (ka PL v0 pa24 35) (
  gb (inR i1 (gI v0 pa24 98).toNatClampNeg) (
  lm (sI v0 pa24 i1.toNatClampNeg (j2.toInt32.toInt16.toInt32.toInt16.toInt32)) fun v0_27 =>
  some v0_27)))))
  else if r2 = (2 : Int32) then (
  gb (kd PL v0 p0 6) (
  lo (gR v0 p0 0) fun oa38 =>
  od oa38 (
  none) (fun pa40 =>
  gb (ka PL v0 pa40 32) (
  gb (inR i1 (gI v0 pa40 98).toNatClampNeg) (
  lm (sI v0 pa40 i1.toNatClampNeg j2.toInt32) fun v0_43 =>
  some v0_43)))))
  else if r2 = (3 : Int32) then (
  gb (kd PL v0 p0 6) (
  lo (gR v0 p0 0) fun oa54 =>
  od oa54 (
  none) (fun pa56 =>
  gb (ka PL v0 pa56 33) (
  gb (inR i1 (gI v0 pa56 98).toNatClampNeg) (
  lm (sL v0 pa56 i1.toNatClampNeg j2) fun v0_59 =>
  some v0_59)))))
  else (
  gb (kd PL v0 p0 6) (
  lo (gR v0 p0 0) fun oa69 =>
  od oa69 (
  if j2 = (0 : Int64) then (
  none)
  else (
  none)) (fun pa71 =>
  gb (ka PL v0 pa71 36) (
  if j2 = (0 : Int64) then (
  gb (inR i1 (gI v0 pa71 98).toNatClampNeg) (
  lm (sI v0 pa71 i1.toNatClampNeg (0 : Int32)) fun v0_76 =>
  some v0_76))
  else (
  gb (inR i1 (gI v0 pa71 98).toNatClampNeg) (
  lm (sI v0 pa71 i1.toNatClampNeg (1 : Int32)) fun v0_86 =>
  some v0_86)))))))
set_option maxHeartbeats 4000000 in
theorem w_fX6_puts (C : Cx G p s m args meth c RX6 cX6_puts 4 none) {PL : Nat → Bool} {vP0 : Mem} {rw0 : Mem} (hZN : ZN G) : ∀ (v0 : Mem) (p0 : Nat) (i1 : Int32) (j2 : Int64), fX6_puts PL v0 p0 i1 j2 = some rw0 → ∀ (H : Heap) (locs : List Loc) (ls : Array Slot), pl G PL v0 H → va_S (FA (fP PL vP0) s.heap.size) s.heap H locs → H.size = s.heap.size → KM vP0 v0 s.heap.size → lv_has ls 4 [(0, .ref p0), (1, .int i1), (2, .long j2)] → W p l e (rmT 1 0 0 20) s m args below meth c H locs 0 0 (MQ below (QcT (FA (fP PL vP0) s.heap.size) (fun ov H => ov = none ∧ pl G PL rw0 H ∧ H.size = s.heap.size ∧ KM vP0 rw0 s.heap.size)) args s 0 0 (FA (fP PL vP0) s.heap.size)) (F0 m 0 ls []) := by
  intro v0 p0 i1 j2 hm H locs ls hW0 hS hz hKM hl
  obtain ⟨hx, hb, hr, hlk, hml, hown, hts, hK⟩ := id C
  unfold fX6_puts at hm
  refine lv_aload_n (pc := 0) hx hb dX6_puts_0 rfl (lv_at hl 0 rfl) ?_
  obtain ⟨hg1, hm⟩ := gb_some hm
  obtain ⟨r2, hq3, hm⟩ := ob_some hm
  refine rk_PV (pc := 1) (As := []) (rest := []) hx hb hml hown hts hK lkX6_21 rfl yn_X6_sort (ct_X6_sort (G := G) (l := l) hq3 hZN) ⟨Nat.le_of_ble_eq_true rfl, Nat.le_of_ble_eq_true rfl⟩ (rp_recv hK hW0 (C := RX6) (T := TX6) (N := 1) rfl (shP_6 (kd_PL hg1) (kd_k hg1))) hW0 rfl rfl hl.1 (Nat.le_of_ble_eq_true rfl) dX6_puts_1 ⟨Nat.zero_le _, Nat.zero_le _⟩ ?_
  refine W.eq (g2 := F0 m 4 ls [.int r2]) rfl ?_
  by_cases c4 : r2 = (0 : Int32)
  · have hm := ite_t c4 hm
    refine lv_tableIn (pc := 4) (tgt := 36) hx hb dX6_puts_4 (by rw [c4]; decide) (by rw [c4]; decide) (by rw [c4]; rfl) (by decide) ?_
    refine lv_aload_n (pc := 36) hx hb dX6_puts_36 rfl (lv_at hl 0 rfl) ?_
    obtain ⟨hg5, hm⟩ := gb_some hm
    obtain ⟨oa6, he7, hm⟩ := lo_some hm
    refine rk_get (pc := 37) hx hb hts hown hK (pl_rg hW0) flX6_7 p0 (Nat.lt_succ_self _) (Nat.zero_add _).symm (shP_6 (kd_PL hg5) (kd_k hg5)) (x := va_rf oa6) (congrArg (fun z => some (va_rf z)) he7) dX6_puts_37 ?_
    rcases oa6 with _ | pa8
    · have hm := od_n hm
      refine lv_castN (pc := 40) hx hb dX6_puts_40 ?_
      refine lv_iload_n (pc := 43) hx hb dX6_puts_43 rfl (lv_at hl 1 rfl) ?_
      refine lv_lload_n (pc := 44) hx hb dX6_puts_44 rfl (lv_at hl 2 rfl) ?_
      refine lv_l2i (pc := 45) hx hb dX6_puts_45 rfl ?_
      refine lv_i2b (pc := 46) hx hb dX6_puts_46 rfl ?_
      exact nomatch hm
    · have hm := od_s hm
      obtain ⟨hg9, hm⟩ := gb_some hm
      refine rp_cast34 (pc := 40) hx hb hown hts hK q1634 hW0 hg9 dX6_puts_40 ?_
      refine lv_iload_n (pc := 43) hx hb dX6_puts_43 rfl (lv_at hl 1 rfl) ?_
      refine lv_lload_n (pc := 44) hx hb dX6_puts_44 rfl (lv_at hl 2 rfl) ?_
      refine lv_l2i (pc := 45) hx hb dX6_puts_45 rfl ?_
      refine lv_i2b (pc := 46) hx hb dX6_puts_46 rfl ?_
      obtain ⟨hg10, hm⟩ := gb_some hm
      refine rp_st34 (pc := 47) hx hb hK hW0 hS (kd_A hKM (ka_kd hg9) (by decide)) hg9 hg10 dX6_puts_47 (fun H12 locs13 hW14 hS15 hz16 hkp17 => ?_)
      have hKM18 := KM.sI (o := pa8) (j := i1.toNatClampNeg) (x := (j2.toInt32.toInt8.toInt32.toInt8.toInt32)) hKM (Nat.ne_of_lt (Nat.lt_of_lt_of_le (inR_lt hg10) (Nat.le_trans (ka_le hg9) (by decide))))
      obtain ⟨v0_11, he9, hm⟩ := lm_some hm
      rw [he9] at hW14 hKM18
      have hz19 := hz16.trans hz
      refine lv_goto (pc := 48) (tgt := 113) hx hb dX6_puts_48 (by decide) ?_
      have e9 := rs1 hm
      subst e9
      exact rk_vret (pc := 113) hx hb hr hlk hS15 ⟨rfl, hW14, hz19, hKM18⟩ dX6_puts_113
  have hm := ite_f c4 hm
  by_cases c20 : r2 = (1 : Int32)
  · have hm := ite_t c20 hm
    refine lv_tableIn (pc := 4) (tgt := 51) hx hb dX6_puts_4 (by rw [c20]; decide) (by rw [c20]; decide) (by rw [c20]; rfl) (by decide) ?_
    refine lv_aload_n (pc := 51) hx hb dX6_puts_51 rfl (lv_at hl 0 rfl) ?_
    obtain ⟨hg21, hm⟩ := gb_some hm
    obtain ⟨oa22, he23, hm⟩ := lo_some hm
    refine rk_get (pc := 52) hx hb hts hown hK (pl_rg hW0) flX6_7 p0 (Nat.lt_succ_self _) (Nat.zero_add _).symm (shP_6 (kd_PL hg21) (kd_k hg21)) (x := va_rf oa22) (congrArg (fun z => some (va_rf z)) he23) dX6_puts_52 ?_
    rcases oa22 with _ | pa24
    · have hm := od_n hm
      refine lv_castN (pc := 55) hx hb dX6_puts_55 ?_
      refine lv_iload_n (pc := 58) hx hb dX6_puts_58 rfl (lv_at hl 1 rfl) ?_
      refine lv_lload_n (pc := 59) hx hb dX6_puts_59 rfl (lv_at hl 2 rfl) ?_
      refine lv_l2i (pc := 60) hx hb dX6_puts_60 rfl ?_
      refine lv_i2s (pc := 61) hx hb dX6_puts_61 rfl ?_
      exact nomatch hm
    · have hm := od_s hm
      obtain ⟨hg25, hm⟩ := gb_some hm
      refine rp_cast35 (pc := 55) hx hb hown hts hK q1635 hW0 hg25 dX6_puts_55 ?_
      refine lv_iload_n (pc := 58) hx hb dX6_puts_58 rfl (lv_at hl 1 rfl) ?_
      refine lv_lload_n (pc := 59) hx hb dX6_puts_59 rfl (lv_at hl 2 rfl) ?_
      refine lv_l2i (pc := 60) hx hb dX6_puts_60 rfl ?_
      refine lv_i2s (pc := 61) hx hb dX6_puts_61 rfl ?_
      obtain ⟨hg26, hm⟩ := gb_some hm
      refine rp_st35 (pc := 62) hx hb hK hW0 hS (kd_A hKM (ka_kd hg25) (by decide)) hg25 hg26 dX6_puts_62 (fun H28 locs29 hW30 hS31 hz32 hkp33 => ?_)
      have hKM34 := KM.sI (o := pa24) (j := i1.toNatClampNeg) (x := (j2.toInt32.toInt16.toInt32.toInt16.toInt32)) hKM (Nat.ne_of_lt (Nat.lt_of_lt_of_le (inR_lt hg26) (Nat.le_trans (ka_le hg25) (by decide))))
      obtain ⟨v0_27, he9, hm⟩ := lm_some hm
      rw [he9] at hW30 hKM34
      have hz35 := hz32.trans hz
      refine lv_goto (pc := 63) (tgt := 113) hx hb dX6_puts_63 (by decide) ?_
      have e9 := rs1 hm
      subst e9
      exact rk_vret (pc := 113) hx hb hr hlk hS31 ⟨rfl, hW30, hz35, hKM34⟩ dX6_puts_113
  have hm := ite_f c20 hm
  by_cases c36 : r2 = (2 : Int32)
  · have hm := ite_t c36 hm
    refine lv_tableIn (pc := 4) (tgt := 66) hx hb dX6_puts_4 (by rw [c36]; decide) (by rw [c36]; decide) (by rw [c36]; rfl) (by decide) ?_
    refine lv_aload_n (pc := 66) hx hb dX6_puts_66 rfl (lv_at hl 0 rfl) ?_
    obtain ⟨hg37, hm⟩ := gb_some hm
    obtain ⟨oa38, he39, hm⟩ := lo_some hm
    refine rk_get (pc := 67) hx hb hts hown hK (pl_rg hW0) flX6_7 p0 (Nat.lt_succ_self _) (Nat.zero_add _).symm (shP_6 (kd_PL hg37) (kd_k hg37)) (x := va_rf oa38) (congrArg (fun z => some (va_rf z)) he39) dX6_puts_67 ?_
    rcases oa38 with _ | pa40
    · have hm := od_n hm
      refine lv_castN (pc := 70) hx hb dX6_puts_70 ?_
      refine lv_iload_n (pc := 73) hx hb dX6_puts_73 rfl (lv_at hl 1 rfl) ?_
      refine lv_lload_n (pc := 74) hx hb dX6_puts_74 rfl (lv_at hl 2 rfl) ?_
      refine lv_l2i (pc := 75) hx hb dX6_puts_75 rfl ?_
      exact nomatch hm
    · have hm := od_s hm
      obtain ⟨hg41, hm⟩ := gb_some hm
      refine rp_cast32 (pc := 70) hx hb hown hts hK q1636 hW0 hg41 dX6_puts_70 ?_
      refine lv_iload_n (pc := 73) hx hb dX6_puts_73 rfl (lv_at hl 1 rfl) ?_
      refine lv_lload_n (pc := 74) hx hb dX6_puts_74 rfl (lv_at hl 2 rfl) ?_
      refine lv_l2i (pc := 75) hx hb dX6_puts_75 rfl ?_
      obtain ⟨hg42, hm⟩ := gb_some hm
      refine rp_st32 (pc := 76) hx hb hK hW0 hS (kd_A hKM (ka_kd hg41) (by decide)) hg41 hg42 dX6_puts_76 (fun H44 locs45 hW46 hS47 hz48 hkp49 => ?_)
      have hKM50 := KM.sI (o := pa40) (j := i1.toNatClampNeg) (x := j2.toInt32) hKM (Nat.ne_of_lt (Nat.lt_of_lt_of_le (inR_lt hg42) (Nat.le_trans (ka_le hg41) (by decide))))
      obtain ⟨v0_43, he9, hm⟩ := lm_some hm
      rw [he9] at hW46 hKM50
      have hz51 := hz48.trans hz
      refine lv_goto (pc := 77) (tgt := 113) hx hb dX6_puts_77 (by decide) ?_
      have e9 := rs1 hm
      subst e9
      exact rk_vret (pc := 113) hx hb hr hlk hS47 ⟨rfl, hW46, hz51, hKM50⟩ dX6_puts_113
  have hm := ite_f c36 hm
  by_cases c52 : r2 = (3 : Int32)
  · have hm := ite_t c52 hm
    refine lv_tableIn (pc := 4) (tgt := 80) hx hb dX6_puts_4 (by rw [c52]; decide) (by rw [c52]; decide) (by rw [c52]; rfl) (by decide) ?_
    refine lv_aload_n (pc := 80) hx hb dX6_puts_80 rfl (lv_at hl 0 rfl) ?_
    obtain ⟨hg53, hm⟩ := gb_some hm
    obtain ⟨oa54, he55, hm⟩ := lo_some hm
    refine rk_get (pc := 81) hx hb hts hown hK (pl_rg hW0) flX6_7 p0 (Nat.lt_succ_self _) (Nat.zero_add _).symm (shP_6 (kd_PL hg53) (kd_k hg53)) (x := va_rf oa54) (congrArg (fun z => some (va_rf z)) he55) dX6_puts_81 ?_
    rcases oa54 with _ | pa56
    · have hm := od_n hm
      refine lv_castN (pc := 84) hx hb dX6_puts_84 ?_
      refine lv_iload_n (pc := 87) hx hb dX6_puts_87 rfl (lv_at hl 1 rfl) ?_
      refine lv_lload_n (pc := 88) hx hb dX6_puts_88 rfl (lv_at hl 2 rfl) ?_
      exact nomatch hm
    · have hm := od_s hm
      obtain ⟨hg57, hm⟩ := gb_some hm
      refine rp_cast33 (pc := 84) hx hb hown hts hK q1637 hW0 hg57 dX6_puts_84 ?_
      refine lv_iload_n (pc := 87) hx hb dX6_puts_87 rfl (lv_at hl 1 rfl) ?_
      refine lv_lload_n (pc := 88) hx hb dX6_puts_88 rfl (lv_at hl 2 rfl) ?_
      obtain ⟨hg58, hm⟩ := gb_some hm
      refine rp_st33 (pc := 89) hx hb hK hW0 hS (kd_A hKM (ka_kd hg57) (by decide)) hg57 hg58 dX6_puts_89 (fun H60 locs61 hW62 hS63 hz64 hkp65 => ?_)
      have hKM66 := KM.sL (o := pa56) (j := i1.toNatClampNeg) (x := j2) hKM
      obtain ⟨v0_59, he9, hm⟩ := lm_some hm
      rw [he9] at hW62 hKM66
      have hz67 := hz64.trans hz
      refine lv_goto (pc := 90) (tgt := 113) hx hb dX6_puts_90 (by decide) ?_
      have e9 := rs1 hm
      subst e9
      exact rk_vret (pc := 113) hx hb hr hlk hS63 ⟨rfl, hW62, hz67, hKM66⟩ dX6_puts_113
  have hm := ite_f c52 hm
  refine lv_tableOut (pc := 4) (tgt := 93) hx hb dX6_puts_4 (tsw4 c4 c20 c36 c52) (by decide) ?_
  refine lv_aload_n (pc := 93) hx hb dX6_puts_93 rfl (lv_at hl 0 rfl) ?_
  obtain ⟨hg68, hm⟩ := gb_some hm
  obtain ⟨oa69, he70, hm⟩ := lo_some hm
  refine rk_get (pc := 94) hx hb hts hown hK (pl_rg hW0) flX6_7 p0 (Nat.lt_succ_self _) (Nat.zero_add _).symm (shP_6 (kd_PL hg68) (kd_k hg68)) (x := va_rf oa69) (congrArg (fun z => some (va_rf z)) he70) dX6_puts_94 ?_
  rcases oa69 with _ | pa71
  · have hm := od_n hm
    refine lv_castN (pc := 97) hx hb dX6_puts_97 ?_
    refine lv_iload_n (pc := 100) hx hb dX6_puts_100 rfl (lv_at hl 1 rfl) ?_
    refine lv_lload_n (pc := 101) hx hb dX6_puts_101 rfl (lv_at hl 2 rfl) ?_
    refine lv_lconst (pc := 102) (v := (0 : Int64)) hx hb dX6_puts_102 (by decide) ?_
    refine rk_lcmp_eq (pc := 103) (tgt := 111) hx hb dX6_puts_103 rfl dX6_puts_104 (by decide) (fun c72 => ?_) (fun c72 => ?_)
    · have hm := ite_t c72 hm
      refine lv_iconst (pc := 111) (v := (0 : Int32)) hx hb dX6_puts_111 (by decide) ?_
      exact nomatch hm
    · have hm := ite_f c72 hm
      refine lv_iconst (pc := 107) (v := (1 : Int32)) hx hb dX6_puts_107 (by decide) ?_
      refine lv_goto (pc := 108) (tgt := 112) hx hb dX6_puts_108 (by decide) ?_
      exact nomatch hm
  · have hm := od_s hm
    obtain ⟨hg73, hm⟩ := gb_some hm
    refine rp_cast36 (pc := 97) hx hb hown hts hK q1643 hW0 hg73 dX6_puts_97 ?_
    refine lv_iload_n (pc := 100) hx hb dX6_puts_100 rfl (lv_at hl 1 rfl) ?_
    refine lv_lload_n (pc := 101) hx hb dX6_puts_101 rfl (lv_at hl 2 rfl) ?_
    refine lv_lconst (pc := 102) (v := (0 : Int64)) hx hb dX6_puts_102 (by decide) ?_
    refine rk_lcmp_eq (pc := 103) (tgt := 111) hx hb dX6_puts_103 rfl dX6_puts_104 (by decide) (fun c74 => ?_) (fun c74 => ?_)
    · have hm := ite_t c74 hm
      refine lv_iconst (pc := 111) (v := (0 : Int32)) hx hb dX6_puts_111 (by decide) ?_
      obtain ⟨hg75, hm⟩ := gb_some hm
      refine rp_st36 (pc := 112) hx hb hK hW0 hS (kd_A hKM (ka_kd hg73) (by decide)) hg73 hg75 rfl dX6_puts_112 (fun H77 locs78 hW79 hS80 hz81 hkp82 => ?_)
      have hKM83 := KM.sI (o := pa71) (j := i1.toNatClampNeg) (x := (0 : Int32)) hKM (Nat.ne_of_lt (Nat.lt_of_lt_of_le (inR_lt hg75) (Nat.le_trans (ka_le hg73) (by decide))))
      obtain ⟨v0_76, he9, hm⟩ := lm_some hm
      rw [he9] at hW79 hKM83
      have hz84 := hz81.trans hz
      have e9 := rs1 hm
      subst e9
      exact rk_vret (pc := 113) hx hb hr hlk hS80 ⟨rfl, hW79, hz84, hKM83⟩ dX6_puts_113
    · have hm := ite_f c74 hm
      refine lv_iconst (pc := 107) (v := (1 : Int32)) hx hb dX6_puts_107 (by decide) ?_
      refine lv_goto (pc := 108) (tgt := 112) hx hb dX6_puts_108 (by decide) ?_
      obtain ⟨hg85, hm⟩ := gb_some hm
      refine rp_st36 (pc := 112) hx hb hK hW0 hS (kd_A hKM (ka_kd hg73) (by decide)) hg73 hg85 rfl dX6_puts_112 (fun H87 locs88 hW89 hS90 hz91 hkp92 => ?_)
      have hKM93 := KM.sI (o := pa71) (j := i1.toNatClampNeg) (x := (1 : Int32)) hKM (Nat.ne_of_lt (Nat.lt_of_lt_of_le (inR_lt hg85) (Nat.le_trans (ka_le hg73) (by decide))))
      obtain ⟨v0_86, he9, hm⟩ := lm_some hm
      rw [he9] at hW89 hKM93
      have hz94 := hz91.trans hz
      have e9 := rs1 hm
      subst e9
      exact rk_vret (pc := 113) hx hb hr hlk hS90 ⟨rfl, hW89, hz94, hKM93⟩ dX6_puts_113
set_option maxHeartbeats 4000000 in
theorem ct_X6_puts {G : Gv} {l : Launch} {PL : Nat → Bool} {v0 : Mem} {p0 : Nat} {i1 : Int32} {j2 : Int64} {rw0 : Mem} {sz : Nat} (hm : fX6_puts PL v0 p0 i1 j2 = some rw0) (hZN : ZN G) : CT G l yX6_puts (ws_ yX6_puts cX6_puts 4 none) 1 0 0 20 [.ref p0, .int i1, .long j2] (fP PL v0) sz (fun H => pl G PL v0 H) (fun ov H => ov = none ∧ pl G PL rw0 H ∧ H.size = sz ∧ KM v0 rw0 sz) := by
  refine Met.ofW (cc := cX6_puts) (maxL := 4) (ret := none) (by decide +kernel) rfl ?_
  intro p e s m args below meth c s₁ B hml hv
  obtain ⟨rfl, ⟨hz, hW0⟩, hK⟩ := hv
  subst hz
  have hts := atoms_spec (ws := ws_ yX6_puts cX6_puts 4 none) B.pre
  have hts : ∀ w ∈ lw_all, w.before _ s = true := fun w h => hts w (List.mem_cons_of_mem _ h)
  have C : Cx G p s m _ meth c RX6 cX6_puts 4 none := ⟨B.exec, B.bytes, B.returns, B.notSynchronized, hml, findClass_of_methodNamed B.named, hts, hK⟩
  have hl := lv_entry ([.ref p0, .int i1, .long j2]) (n := 4) (Nat.le_of_ble_eq_true rfl)
  rw [lg_entry_eq]
  generalize (lg_sl ([.ref p0, .int i1, .long j2]) ++ List.replicate (4 - (lg_sl ([.ref p0, .int i1, .long j2])).length) Slot.unset).toArray = ls at hl ⊢
  have hl : lv_has ls 4 [(0, .ref p0), (1, .int i1), (2, .long j2)] := hl
  exact w_fX6_puts C hZN _ _ _ _ hm s.heap [] ls hW0 va_S.rf rfl KM.rf hl
noncomputable def fX6_at (PL : Nat → Bool) (V0 : Mem) (p0 : Nat) (i1 : Int32) : Option (Int64) :=
  gb (kd PL V0 p0 6) (
  ob (fX6_sort PL V0 p0) fun r2 =>
  if r2 = (0 : Int32) then (
  gb (kd PL V0 p0 6) (
  lo (gR V0 p0 0) fun oa6 =>
  od oa6 (
  none) (fun pa8 =>
  gb (ka PL V0 pa8 34) (
  gb (inR i1 (gI V0 pa8 98).toNatClampNeg) (
  some (gI V0 pa8 i1.toNatClampNeg).toInt64)))))
  else if r2 = (1 : Int32) then (
  gb (kd PL V0 p0 6) (
  lo (gR V0 p0 0) fun oa13 =>
  od oa13 (
  none) (fun pa15 =>
  gb (ka PL V0 pa15 35) (
  gb (inR i1 (gI V0 pa15 98).toNatClampNeg) (
  some (gI V0 pa15 i1.toNatClampNeg).toInt64)))))
  else if r2 = (2 : Int32) then (
  gb (kd PL V0 p0 6) (
  lo (gR V0 p0 0) fun oa20 =>
  od oa20 (
  none) (fun pa22 =>
  gb (ka PL V0 pa22 32) (
  gb (inR i1 (gI V0 pa22 98).toNatClampNeg) (
  some (gI V0 pa22 i1.toNatClampNeg).toInt64)))))
  else if r2 = (3 : Int32) then (
  gb (kd PL V0 p0 6) (
  lo (gR V0 p0 0) fun oa27 =>
  od oa27 (
  none) (fun pa29 =>
  gb (ka PL V0 pa29 33) (
  gb (inR i1 (gI V0 pa29 98).toNatClampNeg) (
  some (gL V0 pa29 i1.toNatClampNeg))))))
  else (
  gb (kd PL V0 p0 6) (
  lo (gR V0 p0 0) fun oa33 =>
  od oa33 (
  none) (fun pa35 =>
  gb (ka PL V0 pa35 36) (
  gb (inR i1 (gI V0 pa35 98).toNatClampNeg) (
  if (gI V0 pa35 i1.toNatClampNeg) = 0 then (
  some (0 : Int64))
  else (
  some (1 : Int64))))))))
set_option maxHeartbeats 4000000 in
theorem w_fX6_at (C : Cx G p s m args meth c RX6 cX6_at 2 (some .long)) {PL : Nat → Bool} {V0 : Mem} {rx : Int64} (hW0 : pl G PL V0 s.heap) (hZN : ZN G) : ∀ (p0 : Nat) (i1 : Int32), fX6_at PL V0 p0 i1 = some rx → ∀ (ls : Array Slot), lv_has ls 2 [(0, .ref p0), (1, .int i1)] → W p l e (rmP 1 20) s m args below meth c s.heap [] 0 0 (MQ below (QcP (some (.long rx))) args s 0 0 (fun _ => False)) (F0 m 0 ls []) := by
  intro p0 i1 hm ls hl
  obtain ⟨hx, hb, hr, hlk, hml, hown, hts, hK⟩ := id C
  unfold fX6_at at hm
  refine lv_aload_n (pc := 0) hx hb dX6_at_0 rfl (lv_at hl 0 rfl) ?_
  obtain ⟨hg1, hm⟩ := gb_some hm
  obtain ⟨r2, hq3, hm⟩ := ob_some hm
  refine rk_PV (pc := 1) (As := []) (rest := []) hx hb hml hown hts hK lkX6_21 rfl yn_X6_sort (ct_X6_sort (G := G) (l := l) hq3 hZN) ⟨Nat.le_of_ble_eq_true rfl, Nat.le_of_ble_eq_true rfl⟩ (rp_recv hK hW0 (C := RX6) (T := TX6) (N := 1) rfl (shP_6 (kd_PL hg1) (kd_k hg1))) hW0 rfl rfl hl.1 (Nat.le_of_ble_eq_true rfl) dX6_at_1 ⟨Nat.zero_le _, Nat.zero_le _⟩ ?_
  refine W.eq (g2 := F0 m 4 ls [.int r2]) rfl ?_
  by_cases c4 : r2 = (0 : Int32)
  · have hm := ite_t c4 hm
    refine lv_tableIn (pc := 4) (tgt := 36) hx hb dX6_at_4 (by rw [c4]; decide) (by rw [c4]; decide) (by rw [c4]; rfl) (by decide) ?_
    refine lv_aload_n (pc := 36) hx hb dX6_at_36 rfl (lv_at hl 0 rfl) ?_
    obtain ⟨hg5, hm⟩ := gb_some hm
    obtain ⟨oa6, he7, hm⟩ := lo_some hm
    refine rk_get (pc := 37) hx hb hts hown hK (pl_rg hW0) flX6_7 p0 (Nat.lt_succ_self _) (Nat.zero_add _).symm (shP_6 (kd_PL hg5) (kd_k hg5)) (x := va_rf oa6) (congrArg (fun z => some (va_rf z)) he7) dX6_at_37 ?_
    rcases oa6 with _ | pa8
    · have hm := od_n hm
      refine lv_castN (pc := 40) hx hb dX6_at_40 ?_
      refine lv_iload_n (pc := 43) hx hb dX6_at_43 rfl (lv_at hl 1 rfl) ?_
      exact nomatch hm
    · have hm := od_s hm
      obtain ⟨hg9, hm⟩ := gb_some hm
      refine rp_cast34 (pc := 40) hx hb hown hts hK q1634 hW0 hg9 dX6_at_40 ?_
      refine lv_iload_n (pc := 43) hx hb dX6_at_43 rfl (lv_at hl 1 rfl) ?_
      obtain ⟨hg10, hm⟩ := gb_some hm
      refine rp_ld34 (pc := 44) hx hb hK hW0 hg9 hg10 dX6_at_44 ?_
      refine lv_i2l (pc := 45) hx hb dX6_at_45 rfl ?_
      have e9 := rs1 hm
      subst e9
      exact rk_lretP (pc := 46) hx hb hr hlk rfl dX6_at_46
  have hm := ite_f c4 hm
  by_cases c11 : r2 = (1 : Int32)
  · have hm := ite_t c11 hm
    refine lv_tableIn (pc := 4) (tgt := 47) hx hb dX6_at_4 (by rw [c11]; decide) (by rw [c11]; decide) (by rw [c11]; rfl) (by decide) ?_
    refine lv_aload_n (pc := 47) hx hb dX6_at_47 rfl (lv_at hl 0 rfl) ?_
    obtain ⟨hg12, hm⟩ := gb_some hm
    obtain ⟨oa13, he14, hm⟩ := lo_some hm
    refine rk_get (pc := 48) hx hb hts hown hK (pl_rg hW0) flX6_7 p0 (Nat.lt_succ_self _) (Nat.zero_add _).symm (shP_6 (kd_PL hg12) (kd_k hg12)) (x := va_rf oa13) (congrArg (fun z => some (va_rf z)) he14) dX6_at_48 ?_
    rcases oa13 with _ | pa15
    · have hm := od_n hm
      refine lv_castN (pc := 51) hx hb dX6_at_51 ?_
      refine lv_iload_n (pc := 54) hx hb dX6_at_54 rfl (lv_at hl 1 rfl) ?_
      exact nomatch hm
    · have hm := od_s hm
      obtain ⟨hg16, hm⟩ := gb_some hm
      refine rp_cast35 (pc := 51) hx hb hown hts hK q1635 hW0 hg16 dX6_at_51 ?_
      refine lv_iload_n (pc := 54) hx hb dX6_at_54 rfl (lv_at hl 1 rfl) ?_
      obtain ⟨hg17, hm⟩ := gb_some hm
      refine rp_ld35 (pc := 55) hx hb hK hW0 hg16 hg17 dX6_at_55 ?_
      refine lv_i2l (pc := 56) hx hb dX6_at_56 rfl ?_
      have e9 := rs1 hm
      subst e9
      exact rk_lretP (pc := 57) hx hb hr hlk rfl dX6_at_57
  have hm := ite_f c11 hm
  by_cases c18 : r2 = (2 : Int32)
  · have hm := ite_t c18 hm
    refine lv_tableIn (pc := 4) (tgt := 58) hx hb dX6_at_4 (by rw [c18]; decide) (by rw [c18]; decide) (by rw [c18]; rfl) (by decide) ?_
    refine lv_aload_n (pc := 58) hx hb dX6_at_58 rfl (lv_at hl 0 rfl) ?_
    obtain ⟨hg19, hm⟩ := gb_some hm
    obtain ⟨oa20, he21, hm⟩ := lo_some hm
    refine rk_get (pc := 59) hx hb hts hown hK (pl_rg hW0) flX6_7 p0 (Nat.lt_succ_self _) (Nat.zero_add _).symm (shP_6 (kd_PL hg19) (kd_k hg19)) (x := va_rf oa20) (congrArg (fun z => some (va_rf z)) he21) dX6_at_59 ?_
    rcases oa20 with _ | pa22
    · have hm := od_n hm
      refine lv_castN (pc := 62) hx hb dX6_at_62 ?_
      refine lv_iload_n (pc := 65) hx hb dX6_at_65 rfl (lv_at hl 1 rfl) ?_
      exact nomatch hm
    · have hm := od_s hm
      obtain ⟨hg23, hm⟩ := gb_some hm
      refine rp_cast32 (pc := 62) hx hb hown hts hK q1636 hW0 hg23 dX6_at_62 ?_
      refine lv_iload_n (pc := 65) hx hb dX6_at_65 rfl (lv_at hl 1 rfl) ?_
      obtain ⟨hg24, hm⟩ := gb_some hm
      refine rp_ld32 (pc := 66) hx hb hK hW0 hg23 hg24 dX6_at_66 ?_
      refine lv_i2l (pc := 67) hx hb dX6_at_67 rfl ?_
      have e9 := rs1 hm
      subst e9
      exact rk_lretP (pc := 68) hx hb hr hlk rfl dX6_at_68
  have hm := ite_f c18 hm
  by_cases c25 : r2 = (3 : Int32)
  · have hm := ite_t c25 hm
    refine lv_tableIn (pc := 4) (tgt := 69) hx hb dX6_at_4 (by rw [c25]; decide) (by rw [c25]; decide) (by rw [c25]; rfl) (by decide) ?_
    refine lv_aload_n (pc := 69) hx hb dX6_at_69 rfl (lv_at hl 0 rfl) ?_
    obtain ⟨hg26, hm⟩ := gb_some hm
    obtain ⟨oa27, he28, hm⟩ := lo_some hm
    refine rk_get (pc := 70) hx hb hts hown hK (pl_rg hW0) flX6_7 p0 (Nat.lt_succ_self _) (Nat.zero_add _).symm (shP_6 (kd_PL hg26) (kd_k hg26)) (x := va_rf oa27) (congrArg (fun z => some (va_rf z)) he28) dX6_at_70 ?_
    rcases oa27 with _ | pa29
    · have hm := od_n hm
      refine lv_castN (pc := 73) hx hb dX6_at_73 ?_
      refine lv_iload_n (pc := 76) hx hb dX6_at_76 rfl (lv_at hl 1 rfl) ?_
      exact nomatch hm
    · have hm := od_s hm
      obtain ⟨hg30, hm⟩ := gb_some hm
      refine rp_cast33 (pc := 73) hx hb hown hts hK q1637 hW0 hg30 dX6_at_73 ?_
      refine lv_iload_n (pc := 76) hx hb dX6_at_76 rfl (lv_at hl 1 rfl) ?_
      obtain ⟨hg31, hm⟩ := gb_some hm
      refine rp_ld33 (pc := 77) hx hb hK hW0 hg30 hg31 dX6_at_77 ?_
      have e9 := rs1 hm
      subst e9
      exact rk_lretP (pc := 78) hx hb hr hlk rfl dX6_at_78
  have hm := ite_f c25 hm
  refine lv_tableOut (pc := 4) (tgt := 79) hx hb dX6_at_4 (tsw4 c4 c11 c18 c25) (by decide) ?_
  refine lv_aload_n (pc := 79) hx hb dX6_at_79 rfl (lv_at hl 0 rfl) ?_
  obtain ⟨hg32, hm⟩ := gb_some hm
  obtain ⟨oa33, he34, hm⟩ := lo_some hm
  refine rk_get (pc := 80) hx hb hts hown hK (pl_rg hW0) flX6_7 p0 (Nat.lt_succ_self _) (Nat.zero_add _).symm (shP_6 (kd_PL hg32) (kd_k hg32)) (x := va_rf oa33) (congrArg (fun z => some (va_rf z)) he34) dX6_at_80 ?_
  rcases oa33 with _ | pa35
  · have hm := od_n hm
    refine lv_castN (pc := 83) hx hb dX6_at_83 ?_
    refine lv_iload_n (pc := 86) hx hb dX6_at_86 rfl (lv_at hl 1 rfl) ?_
    exact nomatch hm
  · have hm := od_s hm
    obtain ⟨hg36, hm⟩ := gb_some hm
    refine rp_cast36 (pc := 83) hx hb hown hts hK q1643 hW0 hg36 dX6_at_83 ?_
    refine lv_iload_n (pc := 86) hx hb dX6_at_86 rfl (lv_at hl 1 rfl) ?_
    obtain ⟨hg37, hm⟩ := gb_some hm
    refine rp_ld36 (pc := 87) hx hb hK hW0 hg36 hg37 dX6_at_87 ?_
    refine lv_if_eq (pc := 88) (tgt := 95) hx hb dX6_at_88 (by decide) (fun c38 => ?_) (fun c38 => ?_)
    · have hm := ite_t c38 hm
      refine lv_lconst (pc := 95) (v := (0 : Int64)) hx hb dX6_at_95 (by decide) ?_
      have e9 := rs1 hm
      subst e9
      exact rk_lretP (pc := 96) hx hb hr hlk rfl dX6_at_96
    · have hm := ite_f c38 hm
      refine lv_lconst (pc := 91) (v := (1 : Int64)) hx hb dX6_at_91 (by decide) ?_
      refine lv_goto (pc := 92) (tgt := 96) hx hb dX6_at_92 (by decide) ?_
      have e9 := rs1 hm
      subst e9
      exact rk_lretP (pc := 96) hx hb hr hlk rfl dX6_at_96
set_option maxHeartbeats 4000000 in
theorem ct_X6_at {G : Gv} {l : Launch} {PL : Nat → Bool} {V0 : Mem} {p0 : Nat} {i1 : Int32} {rx : Int64} (hm : fX6_at PL V0 p0 i1 = some rx) (hZN : ZN G) : CP G l yX6_at (ws_ yX6_at cX6_at 2 (some .long)) 1 20 [.ref p0, .int i1] (fun H => pl G PL V0 H) (some (.long rx)) := by
  refine Met.ofW (cc := cX6_at) (maxL := 2) (ret := (some .long)) (by decide +kernel) rfl ?_
  intro p e s m args below meth c s₁ B hml hv
  obtain ⟨rfl, hW0, hK⟩ := hv
  have hts := atoms_spec (ws := ws_ yX6_at cX6_at 2 (some .long)) B.pre
  have hts : ∀ w ∈ lw_all, w.before _ s = true := fun w h => hts w (List.mem_cons_of_mem _ h)
  have C : Cx G p s m _ meth c RX6 cX6_at 2 (some .long) := ⟨B.exec, B.bytes, B.returns, B.notSynchronized, hml, findClass_of_methodNamed B.named, hts, hK⟩
  have hl := lv_entry ([.ref p0, .int i1]) (n := 2) (Nat.le_of_ble_eq_true rfl)
  rw [lg_entry_eq]
  generalize (lg_sl ([.ref p0, .int i1]) ++ List.replicate (2 - (lg_sl ([.ref p0, .int i1])).length) Slot.unset).toArray = ls at hl ⊢
  have hl : lv_has ls 2 [(0, .ref p0), (1, .int i1)] := hl
  exact w_fX6_at C hW0 hZN _ _ hm ls hl
theorem yn_X0_isTape : YN yX0_isTape 1 := by
  unfold YN
  decide +kernel
theorem lkX0_569 : LSt RX0 569 yX0_isTape cX0_isTape 1 (some .boolean) := ⟨q1627, q1628, q114, q1629⟩
theorem lkX0_572 : LV RX0 572 RX6 yX6_sort cX6_sort 1 (some .int) := ⟨q1630, q1631, q1632, q125, q1633⟩
theorem yn_X6_size : YN yX6_size 0 := by
  unfold YN
  decide +kernel
theorem lkX0_574 : LV RX0 574 RX6 yX6_size cX6_size 1 (some .int) := ⟨q1638, q1639, q1640, q125, q1641⟩
theorem yn_X6_at : YN yX6_at 1 := by
  unfold YN
  decide +kernel
theorem lkX0_575 : LV RX0 575 RX6 yX6_at cX6_at 2 (some .long) := ⟨q1644, q1645, q1646, q125, q1647⟩
noncomputable def fX0_judge_56 (PL : Nat → Bool) (b0 : Nat) (V0 : Mem) (V1 : Mem) (k56 : Int32 → Nat → Int32 → Option (Int32)) (i2 : Int32) (p3 : Nat) (i4 : Int32) : Option (Int32) :=
  if (gI V0 1 0) ≤ i4 then (
  some (-5 : Int32))
  else (
  if i2 < 0 then (
  some ((100 : Int32) + i4))
  else (
  gb (kd PL V1 p3 6) (
  ob (fX6_size PL V1 p3) fun r20 =>
  if i4 < (r20 - i2) then (
  gb (kd PL V1 p3 6) (
  ob (fX6_at PL V1 p3 (i2 + i4)) fun r24 =>
  ob (fX3_right (shf V0 67) i4) fun r26 =>
  gb (nz64 (gL V0 67 4)) (
  if r24 = (r26 / (gL V0 67 4)) then (
  k56 i2 p3 (i4 + (1 : Int32)))
  else (
  some i4))))
  else (
  some ((100 : Int32) + i4)))))
noncomputable def fX0_judge_35 (PL : Nat → Bool) (b0 : Nat) (V0 : Mem) (V1 : Mem) (i2 : Int32) (p3 : Nat) : Option (Int32) :=
  if (gI V0 0 6) = 0 then (
  some (-3 : Int32))
  else (
  if (gI V0 0 5) = (1 : Int32) then (
  lq3 (fX0_judge_56 PL b0 V0 V1) FU i2 p3 (0 : Int32))
  else (
  some (-3 : Int32)))
noncomputable def fX0_judge (PL : Nat → Bool) (b0 : Nat) (V0 : Mem) (V1 : Mem) (i1 : Int32) (i2 : Int32) : Option (Int32) :=
  ob (fX0_isTape i1) fun r1 =>
  if r1 = 0 then (
  some (-1 : Int32))
  else (
  gb (inR i1 6) (
  ln (b0 + (168 + 1 * i1.toNatClampNeg)) fun pa5 =>
  gb (kd PL V1 pa5 6) (
  ob (fX6_sort PL V1 pa5) fun r8 =>
  if r8 = (-1 : Int32) then (
  fX0_judge_35 PL b0 V0 V1 i2 pa5)
  else (
  gb (kd PL V1 pa5 6) (
  ob (fX6_sort PL V1 pa5) fun r12 =>
  if r12 = (2 : Int32) then (
  fX0_judge_35 PL b0 V0 V1 i2 pa5)
  else (
  some (-12 : Int32)))))))
set_option maxHeartbeats 4000000 in
theorem w_fX0_judge_56 (C : Cx G p s m args meth c RX0 cX0_judge 5 (some .int)) {b0 : Nat} {PL : Nat → Bool} {V0 : Mem} {V1 : Mem} {rx : Int32} (hW0 : rg G b0 357 (shX0 G.2.1) V0 s.heap) (hW1 : pl G PL V1 s.heap) (hZN : ZN G) {k56 : Int32 → Nat → Int32 → Option (Int32)} (hk56 : ∀ (i2 : Int32) (p3 : Nat) (i4 : Int32), k56 i2 p3 i4 = some rx → ∀ (ls : Array Slot), lv_has ls 5 [(0, .ref b0), (2, .int i2), (3, .ref p3), (4, .int i4)] → W p l e (rmP 2 45) s m args below meth c s.heap [] 0 0 (MQ below (QcP (some (.int rx))) args s 0 0 (fun _ => False)) (F0 m 56 ls [])) : ∀ (i2 : Int32) (p3 : Nat) (i4 : Int32), fX0_judge_56 PL b0 V0 V1 k56 i2 p3 i4 = some rx → ∀ (ls : Array Slot), lv_has ls 5 [(0, .ref b0), (2, .int i2), (3, .ref p3), (4, .int i4)] → W p l e (rmP 2 45) s m args below meth c s.heap [] 0 0 (MQ below (QcP (some (.int rx))) args s 0 0 (fun _ => False)) (F0 m 56 ls []) := by
  intro i2 p3 i4 hm ls hl
  obtain ⟨hx, hb, hr, hlk, hml, hown, hts, hK⟩ := id C
  unfold fX0_judge_56 at hm
  refine lv_iload (pc := 56) hx hb dX0_judge_56 (lv_at hl 3 rfl) ?_
  refine lv_aload_n (pc := 58) hx hb dX0_judge_58 rfl (lv_at hl 0 rfl) ?_
  refine rk_get (pc := 59) hx hb hts hown hK hW0 flX0_12 0 (by decide) rfl rfl (x := .ref (b0 + 1)) (by first | rfl | exact congrArg (fun z => some (Value.ref z)) (by omega)) dX0_judge_59 ?_
  refine rk_getN (pc := 62) hx hb hts hown hK hW0 fnX0_131 1 (by decide) rfl rfl (x := .int (gI V0 1 0)) rfl dX0_judge_62 ?_
  refine lv_icmp_ge (pc := 65) (tgt := 127) hx hb dX0_judge_65 (by decide) (fun c17 => ?_) (fun c17 => ?_)
  · have hm := ite_t c17 hm
    refine lv_bipush (pc := 127) (v := (-5 : Int32)) hx hb dX0_judge_127 (by decide) ?_
    have e9 := rs1 hm
    subst e9
    exact rk_iretP (pc := 129) hx hb hr hlk rfl dX0_judge_129
  · have hm := ite_f c17 hm
    refine lv_iload_n (pc := 68) hx hb dX0_judge_68 rfl (lv_at hl 1 rfl) ?_
    refine lv_if_lt (pc := 69) (tgt := 83) hx hb dX0_judge_69 (by decide) (fun c18 => ?_) (fun c18 => ?_)
    · have hm := ite_t c18 hm
      refine lv_bipush (pc := 83) (v := (100 : Int32)) hx hb dX0_judge_83 (by decide) ?_
      refine lv_iload (pc := 85) hx hb dX0_judge_85 (lv_at hl 3 rfl) ?_
      refine lv_iadd (pc := 87) hx hb dX0_judge_87 ?_
      have e9 := rs1 hm
      subst e9
      exact rk_iretP (pc := 88) hx hb hr hlk rfl dX0_judge_88
    · have hm := ite_f c18 hm
      refine lv_iload (pc := 72) hx hb dX0_judge_72 (lv_at hl 3 rfl) ?_
      refine lv_aload_n (pc := 74) hx hb dX0_judge_74 rfl (lv_at hl 2 rfl) ?_
      obtain ⟨hg19, hm⟩ := gb_some hm
      obtain ⟨r20, hq21, hm⟩ := ob_some hm
      refine rk_PV (pc := 75) (As := []) (rest := [.int i4]) hx hb hml hown hts hK lkX0_574 rfl yn_X6_size (ct_X6_size (G := G) (l := l) hq21 hZN) ⟨Nat.le_of_ble_eq_true rfl, Nat.le_of_ble_eq_true rfl⟩ (rp_recv hK hW1 (C := RX6) (T := TX6) (N := 1) rfl (shP_6 (kd_PL hg19) (kd_k hg19))) hW1 rfl rfl hl.1 (Nat.le_of_ble_eq_true rfl) dX0_judge_75 ⟨Nat.zero_le _, Nat.zero_le _⟩ ?_
      refine W.eq (g2 := F0 m 78 ls [.int r20, .int i4]) rfl ?_
      refine lv_iload_n (pc := 78) hx hb dX0_judge_78 rfl (lv_at hl 1 rfl) ?_
      refine lv_isub (pc := 79) hx hb dX0_judge_79 ?_
      refine lv_icmp_lt (pc := 80) (tgt := 89) hx hb dX0_judge_80 (by decide) (fun c22 => ?_) (fun c22 => ?_)
      · have hm := ite_t c22 hm
        refine lv_aload_n (pc := 89) hx hb dX0_judge_89 rfl (lv_at hl 2 rfl) ?_
        refine lv_iload_n (pc := 90) hx hb dX0_judge_90 rfl (lv_at hl 1 rfl) ?_
        refine lv_iload (pc := 91) hx hb dX0_judge_91 (lv_at hl 3 rfl) ?_
        refine lv_iadd (pc := 93) hx hb dX0_judge_93 ?_
        obtain ⟨hg23, hm⟩ := gb_some hm
        obtain ⟨r24, hq25, hm⟩ := ob_some hm
        refine rk_PV (pc := 94) (As := [.int (i2 + i4)]) (rest := []) hx hb hml hown hts hK lkX0_575 rfl yn_X6_at (ct_X6_at (G := G) (l := l) hq25 hZN) ⟨Nat.le_of_ble_eq_true rfl, Nat.le_of_ble_eq_true rfl⟩ (rp_recv hK hW1 (C := RX6) (T := TX6) (N := 1) rfl (shP_6 (kd_PL hg23) (kd_k hg23))) hW1 rfl rfl hl.1 (Nat.le_of_ble_eq_true rfl) dX0_judge_94 ⟨Nat.zero_le _, Nat.zero_le _⟩ ?_
        refine W.eq (g2 := F0 m 97 ls [.long r24]) rfl ?_
        refine lv_aload_n (pc := 97) hx hb dX0_judge_97 rfl (lv_at hl 0 rfl) ?_
        refine rk_get (pc := 98) hx hb hts hown hK hW0 flX0_27 0 (by decide) rfl rfl (x := .ref (b0 + 67)) (by first | rfl | exact congrArg (fun z => some (Value.ref z)) (by omega)) dX0_judge_98 ?_
        refine lv_iload (pc := 101) hx hb dX0_judge_101 (lv_at hl 3 rfl) ?_
        obtain ⟨r26, hq27, hm⟩ := ob_some hm
        refine rk_PV (pc := 103) (As := [.int i4]) (rest := [.long r24]) hx hb hml hown hts hK lkX0_267 rfl yn_X3_right (ct_X3_right (G := G) (l := l) (b0 := (b0 + 67)) hq27) ⟨Nat.le_of_ble_eq_true rfl, Nat.le_of_ble_eq_true rfl⟩ (rk_recv hK hW0 67 (by decide) rfl rfl rfl) (rg_sub hW0 rfl (by decide) (fun o ho x y z => shX0_n67 G.2.1 _ rfl o ho x y z)) rfl rfl hl.1 (Nat.le_of_ble_eq_true rfl) dX0_judge_103 ⟨Nat.zero_le _, Nat.zero_le _⟩ ?_
        refine W.eq (g2 := F0 m 106 ls [.long r26, .long r24]) rfl ?_
        refine lv_aload_n (pc := 106) hx hb dX0_judge_106 rfl (lv_at hl 0 rfl) ?_
        refine rk_get (pc := 107) hx hb hts hown hK hW0 flX0_27 0 (by decide) rfl rfl (x := .ref (b0 + 67)) (by first | rfl | exact congrArg (fun z => some (Value.ref z)) (by omega)) dX0_judge_107 ?_
        refine rk_getN (pc := 110) hx hb hts hown hK hW0 fnX0_237 67 (by decide) rfl rfl (x := .long (gL V0 67 4)) rfl dX0_judge_110 ?_
        obtain ⟨hg28, hm⟩ := gb_some hm
        refine lv_ldiv (pc := 113) hx hb dX0_judge_113 (nz64_ne hg28) ?_
        refine rk_lcmp_eq (pc := 114) (tgt := 121) hx hb dX0_judge_114 rfl dX0_judge_115 (by decide) (fun c29 => ?_) (fun c29 => ?_)
        · have hm := ite_t c29 hm
          refine lv_iinc (pc := 121) (v := (i4 + (1 : Int32))) (lv' := [(4, .int (i4 + (1 : Int32))), (0, .ref b0), (2, .int i2), (3, .ref p3)]) hx hb dX0_judge_121 hl (k := 3) rfl rfl (by decide) rfl (fun ls hl => ?_)
          refine lv_goto (pc := 124) (tgt := 56) hx hb dX0_judge_124 (by decide) ?_
          exact hk56 i2 p3 (i4 + (1 : Int32)) hm ls (lv_sub hl [1, 2, 3, 0] rfl)
        · have hm := ite_f c29 hm
          refine lv_iload (pc := 118) hx hb dX0_judge_118 (lv_at hl 3 rfl) ?_
          have e9 := rs1 hm
          subst e9
          exact rk_iretP (pc := 120) hx hb hr hlk rfl dX0_judge_120
      · have hm := ite_f c22 hm
        refine lv_bipush (pc := 83) (v := (100 : Int32)) hx hb dX0_judge_83 (by decide) ?_
        refine lv_iload (pc := 85) hx hb dX0_judge_85 (lv_at hl 3 rfl) ?_
        refine lv_iadd (pc := 87) hx hb dX0_judge_87 ?_
        have e9 := rs1 hm
        subst e9
        exact rk_iretP (pc := 88) hx hb hr hlk rfl dX0_judge_88
theorem w_fX0_judge_56_l (C : Cx G p s m args meth c RX0 cX0_judge 5 (some .int)) {b0 : Nat} {PL : Nat → Bool} {V0 : Mem} {V1 : Mem} {rx : Int32} (hW0 : rg G b0 357 (shX0 G.2.1) V0 s.heap) (hW1 : pl G PL V1 s.heap) (hZN : ZN G) : ∀ (n : Nat) (i2 : Int32) (p3 : Nat) (i4 : Int32), lq3 (fX0_judge_56 PL b0 V0 V1) n i2 p3 i4 = some rx → ∀ (ls : Array Slot), lv_has ls 5 [(0, .ref b0), (2, .int i2), (3, .ref p3), (4, .int i4)] → W p l e (rmP 2 45) s m args below meth c s.heap [] 0 0 (MQ below (QcP (some (.int rx))) args s 0 0 (fun _ => False)) (F0 m 56 ls []) := by
  intro n
  induction n with
  | zero => intro i2 p3 i4 hm; exact (lq3_0 hm).elim
  | succ n ih => intro i2 p3 i4 hm; exact w_fX0_judge_56 C hW0 hW1 hZN ih i2 p3 i4 (lq3_s hm)
set_option maxHeartbeats 4000000 in
theorem w_fX0_judge_35 (C : Cx G p s m args meth c RX0 cX0_judge 5 (some .int)) {b0 : Nat} {PL : Nat → Bool} {V0 : Mem} {V1 : Mem} {rx : Int32} (hW0 : rg G b0 357 (shX0 G.2.1) V0 s.heap) (hW1 : pl G PL V1 s.heap) (hZN : ZN G) : ∀ (i2 : Int32) (p3 : Nat), fX0_judge_35 PL b0 V0 V1 i2 p3 = some rx → ∀ (ls : Array Slot), lv_has ls 5 [(0, .ref b0), (2, .int i2), (3, .ref p3)] → W p l e (rmP 2 45) s m args below meth c s.heap [] 0 0 (MQ below (QcP (some (.int rx))) args s 0 0 (fun _ => False)) (F0 m 35 ls []) := by
  intro i2 p3 hm ls hl
  obtain ⟨hx, hb, hr, hlk, hml, hown, hts, hK⟩ := id C
  unfold fX0_judge_35 at hm
  refine lv_aload_n (pc := 35) hx hb dX0_judge_35 rfl (lv_at hl 0 rfl) ?_
  refine rk_get (pc := 36) hx hb hts hown hK hW0 flX0_121 0 (by decide) rfl rfl (x := .int (gI V0 0 6)) rfl dX0_judge_36 ?_
  refine lv_if_eq (pc := 39) (tgt := 50) hx hb dX0_judge_39 (by decide) (fun c15 => ?_) (fun c15 => ?_)
  · have hm := ite_t c15 hm
    refine lv_bipush (pc := 50) (v := (-3 : Int32)) hx hb dX0_judge_50 (by decide) ?_
    have e9 := rs1 hm
    subst e9
    exact rk_iretP (pc := 52) hx hb hr hlk rfl dX0_judge_52
  · have hm := ite_f c15 hm
    refine lv_aload_n (pc := 42) hx hb dX0_judge_42 rfl (lv_at hl 0 rfl) ?_
    refine rk_get (pc := 43) hx hb hts hown hK hW0 flX0_224 0 (by decide) rfl rfl (x := .int (gI V0 0 5)) rfl dX0_judge_43 ?_
    refine lv_iconst (pc := 46) (v := (1 : Int32)) hx hb dX0_judge_46 (by decide) ?_
    refine lv_icmp_eq (pc := 47) (tgt := 53) hx hb dX0_judge_47 (by decide) (fun c16 => ?_) (fun c16 => ?_)
    · have hm := ite_t c16 hm
      refine lv_iconst (pc := 53) (v := (0 : Int32)) hx hb dX0_judge_53 (by decide) ?_
      refine lv_istore (pc := 54) (lv' := [(4, .int (0 : Int32)), (0, .ref b0), (2, .int i2), (3, .ref p3)]) hx hb dX0_judge_54 hl (by decide) rfl (fun ls hl => ?_)
      exact (w_fX0_judge_56_l C hW0 hW1 hZN FU) i2 p3 (0 : Int32) hm ls (lv_sub hl [1, 2, 3, 0] rfl)
    · have hm := ite_f c16 hm
      refine lv_bipush (pc := 50) (v := (-3 : Int32)) hx hb dX0_judge_50 (by decide) ?_
      have e9 := rs1 hm
      subst e9
      exact rk_iretP (pc := 52) hx hb hr hlk rfl dX0_judge_52
set_option maxHeartbeats 4000000 in
theorem w_fX0_judge (C : Cx G p s m args meth c RX0 cX0_judge 5 (some .int)) {b0 : Nat} {PL : Nat → Bool} {V0 : Mem} {V1 : Mem} {rx : Int32} (hW0 : rg G b0 357 (shX0 G.2.1) V0 s.heap) (hW1 : pl G PL V1 s.heap) (hZN : ZN G) : ∀ (i1 : Int32) (i2 : Int32), fX0_judge PL b0 V0 V1 i1 i2 = some rx → ∀ (ls : Array Slot), lv_has ls 5 [(0, .ref b0), (1, .int i1), (2, .int i2)] → W p l e (rmP 2 45) s m args below meth c s.heap [] 0 0 (MQ below (QcP (some (.int rx))) args s 0 0 (fun _ => False)) (F0 m 0 ls []) := by
  intro i1 i2 hm ls hl
  obtain ⟨hx, hb, hr, hlk, hml, hown, hts, hK⟩ := id C
  unfold fX0_judge at hm
  refine lv_iload_n (pc := 0) hx hb dX0_judge_0 rfl (lv_at hl 1 rfl) ?_
  obtain ⟨r1, hq2, hm⟩ := ob_some hm
  refine rk_PS (pc := 1) (As := [.int i1]) (rest := []) hx hb hml hown hts hK lkX0_569 yn_X0_isTape (ct_X0_isTape (G := G) (l := l) hq2) ⟨Nat.le_of_ble_eq_true rfl, Nat.le_of_ble_eq_true rfl⟩ trivial rfl rfl hl.1 (Nat.le_of_ble_eq_true rfl) dX0_judge_1 ⟨Nat.zero_le _, Nat.zero_le _⟩ ?_
  refine W.eq (g2 := F0 m 4 ls [.int r1]) rfl ?_
  refine lv_if_ne (pc := 4) (tgt := 9) hx hb dX0_judge_4 (by decide) (fun c3 => ?_) (fun c3 => ?_)
  · have hm := ite_f c3 hm
    refine lv_aload_n (pc := 9) hx hb dX0_judge_9 rfl (lv_at hl 0 rfl) ?_
    refine rk_get (pc := 10) hx hb hts hown hK hW0 flX0_98 0 (by decide) rfl rfl (x := .ref (b0 + 167)) (by first | rfl | exact congrArg (fun z => some (Value.ref z)) (by omega)) dX0_judge_10 ?_
    refine lv_iload_n (pc := 13) hx hb dX0_judge_13 rfl (lv_at hl 1 rfl) ?_
    obtain ⟨hg4, hm⟩ := gb_some hm
    obtain ⟨pa5, he6, hm⟩ := ln_some hm
    refine rk_aald (pc := 14) hx hb hK hW0 167 11 (by decide) rfl rfl rfl hg4 (x := pa5) (congrArg some (by rw [← he6])) dX0_judge_14 ?_
    refine lv_astore_n (pc := 15) (lv' := [(3, .ref pa5), (0, .ref b0), (1, .int i1), (2, .int i2)]) hx hb dX0_judge_15 rfl hl (by decide) rfl (fun ls hl => ?_)
    refine lv_aload_n (pc := 16) hx hb dX0_judge_16 rfl (lv_at hl 0 rfl) ?_
    obtain ⟨hg7, hm⟩ := gb_some hm
    obtain ⟨r8, hq9, hm⟩ := ob_some hm
    refine rk_PV (pc := 17) (As := []) (rest := []) hx hb hml hown hts hK lkX0_572 rfl yn_X6_sort (ct_X6_sort (G := G) (l := l) hq9 hZN) ⟨Nat.le_of_ble_eq_true rfl, Nat.le_of_ble_eq_true rfl⟩ (rp_recv hK hW1 (C := RX6) (T := TX6) (N := 1) rfl (shP_6 (kd_PL hg7) (kd_k hg7))) hW1 rfl rfl hl.1 (Nat.le_of_ble_eq_true rfl) dX0_judge_17 ⟨Nat.zero_le _, Nat.zero_le _⟩ ?_
    refine W.eq (g2 := F0 m 20 ls [.int r8]) rfl ?_
    refine lv_iconst (pc := 20) (v := (-1 : Int32)) hx hb dX0_judge_20 (by decide) ?_
    refine lv_icmp_eq (pc := 21) (tgt := 35) hx hb dX0_judge_21 (by decide) (fun c10 => ?_) (fun c10 => ?_)
    · have hm := ite_t c10 hm
      exact (w_fX0_judge_35 C hW0 hW1 hZN) i2 pa5 hm ls (lv_sub hl [1, 3, 0] rfl)
    · have hm := ite_f c10 hm
      refine lv_aload_n (pc := 24) hx hb dX0_judge_24 rfl (lv_at hl 0 rfl) ?_
      obtain ⟨hg11, hm⟩ := gb_some hm
      obtain ⟨r12, hq13, hm⟩ := ob_some hm
      refine rk_PV (pc := 25) (As := []) (rest := []) hx hb hml hown hts hK lkX0_572 rfl yn_X6_sort (ct_X6_sort (G := G) (l := l) hq13 hZN) ⟨Nat.le_of_ble_eq_true rfl, Nat.le_of_ble_eq_true rfl⟩ (rp_recv hK hW1 (C := RX6) (T := TX6) (N := 1) rfl (shP_6 (kd_PL hg11) (kd_k hg11))) hW1 rfl rfl hl.1 (Nat.le_of_ble_eq_true rfl) dX0_judge_25 ⟨Nat.zero_le _, Nat.zero_le _⟩ ?_
      refine W.eq (g2 := F0 m 28 ls [.int r12]) rfl ?_
      refine lv_iconst (pc := 28) (v := (2 : Int32)) hx hb dX0_judge_28 (by decide) ?_
      refine lv_icmp_eq (pc := 29) (tgt := 35) hx hb dX0_judge_29 (by decide) (fun c14 => ?_) (fun c14 => ?_)
      · have hm := ite_t c14 hm
        exact (w_fX0_judge_35 C hW0 hW1 hZN) i2 pa5 hm ls (lv_sub hl [1, 3, 0] rfl)
      · have hm := ite_f c14 hm
        refine lv_bipush (pc := 32) (v := (-12 : Int32)) hx hb dX0_judge_32 (by decide) ?_
        have e9 := rs1 hm
        subst e9
        exact rk_iretP (pc := 34) hx hb hr hlk rfl dX0_judge_34
  · have hm := ite_t c3 hm
    refine lv_iconst (pc := 7) (v := (-1 : Int32)) hx hb dX0_judge_7 (by decide) ?_
    have e9 := rs1 hm
    subst e9
    exact rk_iretP (pc := 8) hx hb hr hlk rfl dX0_judge_8
set_option maxHeartbeats 4000000 in
theorem ct_X0_judge {G : Gv} {l : Launch} {b0 : Nat} {PL : Nat → Bool} {V0 : Mem} {V1 : Mem} {i1 : Int32} {i2 : Int32} {rx : Int32} (hm : fX0_judge PL b0 V0 V1 i1 i2 = some rx) (hZN : ZN G) : CP G l yX0_judge (ws_ yX0_judge cX0_judge 5 (some .int)) 2 45 [.ref b0, .int i1, .int i2] (fun H => rg G b0 357 (shX0 G.2.1) V0 H ∧ pl G PL V1 H) (some (.int rx)) := by
  refine Met.ofW (cc := cX0_judge) (maxL := 5) (ret := (some .int)) (by decide +kernel) rfl ?_
  intro p e s m args below meth c s₁ B hml hv
  obtain ⟨rfl, ⟨hW0, hW1⟩, hK⟩ := hv
  have hts := atoms_spec (ws := ws_ yX0_judge cX0_judge 5 (some .int)) B.pre
  have hts : ∀ w ∈ lw_all, w.before _ s = true := fun w h => hts w (List.mem_cons_of_mem _ h)
  have C : Cx G p s m _ meth c RX0 cX0_judge 5 (some .int) := ⟨B.exec, B.bytes, B.returns, B.notSynchronized, hml, findClass_of_methodNamed B.named, hts, hK⟩
  have hl := lv_entry ([.ref b0, .int i1, .int i2]) (n := 5) (Nat.le_of_ble_eq_true rfl)
  rw [lg_entry_eq]
  generalize (lg_sl ([.ref b0, .int i1, .int i2]) ++ List.replicate (5 - (lg_sl ([.ref b0, .int i1, .int i2])).length) Slot.unset).toArray = ls at hl ⊢
  have hl : lv_has ls 5 [(0, .ref b0), (1, .int i1), (2, .int i2)] := hl
  exact w_fX0_judge C hW0 hW1 hZN _ _ hm ls hl
theorem yn_X6_becomes : YN yX6_becomes 2 := by
  unfold YN
  decide +kernel
theorem lkX0_580 : LV RX0 580 RX6 yX6_becomes cX6_becomes 3 none := ⟨q1682, q1683, q1684, q125, q1685⟩
noncomputable def fX0_tape_36 (PL : Nat → Bool) (Z : Nat) (b0 : Nat) (V0 : Mem) (v1 : Mem) (zc : Nat) (i1 : Int32) (i2 : Int32) (i3 : Int32) : Option (Int32 × Nat × Mem) :=
  gb (inR i1 6) (
  ln (b0 + (168 + 1 * i1.toNatClampNeg)) fun pa10 =>
  gb (kd PL v1 pa10 6) (
  ob2 (fX6_becomes PL (Z + zc) v1 pa10 i2 i3) fun rc13 w14 =>
  some ((1 : Int32), (zc + rc13), w14)))
noncomputable def fX0_tape (PL : Nat → Bool) (Z : Nat) (b0 : Nat) (V0 : Mem) (v1 : Mem) (i1 : Int32) (i2 : Int32) (i3 : Int32) : Option (Int32 × Nat × Mem) :=
  ob (fX0_isTape i1) fun r1 =>
  if r1 = 0 then (
  some ((-1 : Int32), 0, v1))
  else (
  ob (fX0_in i2.toInt64 (-1 : Int64) (4 : Int64)) fun r4 =>
  if r4 = 0 then (
  some ((-2 : Int32), 0, v1))
  else (
  if i2 < 0 then (
  fX0_tape_36 PL Z b0 V0 v1 0 i1 i2 i3)
  else (
  if i3 ≤ (60 : Int32) then (
  fX0_tape_36 PL Z b0 V0 v1 0 i1 i2 i3)
  else (
  some ((-2 : Int32), 0, v1)))))
set_option maxHeartbeats 4000000 in
theorem w_fX0_tape_36 (C : Cx G p s m args meth c RX0 cX0_tape 5 (some .int)) {b0 : Nat} {PL : Nat → Bool} {Z : Nat} {V0 : Mem} {vP0 : Mem} {rx : Int32} {rc : Nat} {rw1 : Mem} (hPX : ∀ z, PL z = true → ¬ fX b0 z) (he0 : b0 + 357 ≤ s.heap.size) (hZz : s.heap.size = Z) (ht : c.exceptionTable.toList = tableOf [(36, 47, 50, 583)]) : ∀ (v1 : Mem) (zc : Nat) (i1 : Int32) (i2 : Int32) (i3 : Int32), fX0_tape_36 PL Z b0 V0 v1 zc i1 i2 i3 = some (rx, rc, rw1) → ∀ (H : Heap) (locs : List Loc) (ls : Array Slot), rg G b0 357 (shX0 G.2.1) V0 H → pl G PL v1 H → va_S (FA (fP PL vP0) s.heap.size) s.heap H locs → H.size = s.heap.size + zc → KM vP0 v1 s.heap.size → lv_has ls 5 [(0, .ref b0), (1, .int i1), (2, .int i2), (3, .int i3)] → W p l e (rmT 2 1 90 45) s m args below meth c H locs 0 0 (MQ below (QcT (FA (fP PL vP0) s.heap.size) (fun ov H => ov = (some (.int rx)) ∧ pl G PL rw1 H ∧ H.size = s.heap.size + rc ∧ KM vP0 rw1 s.heap.size)) args s 1 90 (FA (fP PL vP0) s.heap.size)) (F0 m 36 ls []) := by
  intro v1 zc i1 i2 i3 hm H locs ls hW0 hW1 hS hz hKM hl
  obtain ⟨hx, hb, hr, hlk, hml, hown, hts, hK⟩ := id C
  unfold fX0_tape_36 at hm
  refine lv_aload_n (pc := 36) hx hb dX0_tape_36 rfl (lv_at hl 0 rfl) ?_
  refine rk_get (pc := 37) hx hb hts hown hK hW0 flX0_98 0 (by decide) rfl rfl (x := .ref (b0 + 167)) (by first | rfl | exact congrArg (fun z => some (Value.ref z)) (by omega)) dX0_tape_37 ?_
  refine lv_iload_n (pc := 40) hx hb dX0_tape_40 rfl (lv_at hl 1 rfl) ?_
  obtain ⟨hg9, hm⟩ := gb_some hm
  obtain ⟨pa10, he11, hm⟩ := ln_some hm
  refine rk_aald (pc := 41) hx hb hK hW0 167 11 (by decide) rfl rfl rfl hg9 (x := pa10) (congrArg some (by rw [← he11])) dX0_tape_41 ?_
  refine lv_iload_n (pc := 42) hx hb dX0_tape_42 rfl (lv_at hl 2 rfl) ?_
  refine lv_iload_n (pc := 43) hx hb dX0_tape_43 rfl (lv_at hl 3 rfl) ?_
  obtain ⟨hg12, hm⟩ := gb_some hm
  obtain ⟨rc13, w14, hq15, hm⟩ := ob2_some hm
  have hq16 := hq15
  rw [show (Z + zc) = H.size by omega] at hq16
  refine rk_TV (pc := 44) (As := [.int i2, .int i3]) (rest := []) (mc := 1) (ms := 90) hx hb hml hown hts hK hS (fun q hq => FA_sz rfl q hq) lkX0_580 rfl yn_X6_becomes (ct_X6_becomes (G := G) (l := l) hq16) ⟨Nat.le_of_ble_eq_true rfl, Nat.le_of_ble_eq_true rfl⟩ (fun z h => (KM_hf2 hKM z h)) (rp_recv hK hW1 (C := RX6) (T := TX6) (N := 1) rfl (shP_6 (kd_PL hg12) (kd_k hg12))) hW1 rfl rfl hl.1 (Nat.le_of_ble_eq_true rfl) dX0_tape_44 ⟨Nat.le_of_ble_eq_true rfl, Nat.le_of_ble_eq_true rfl⟩ (fun ov9 H17 locs18 hP19 hkp20 hS21 => ?_)
  obtain ⟨rfl, hW22, hz23, hKM24⟩ := hP19
  have hW25 := rg_keepX hW0 hkp20 (by intro z h0 h3; have h1 := h0.1.1; have h2 := h0.1.2; have h4 := h0.2; exact hPX _ h3.1 h0)
  have hz26 : H17.size = s.heap.size + (zc + rc13) := by omega
  have hKM27 := KM.trans hKM hKM24 (by omega)
  refine W.eq (g2 := F0 m 47 ls []) rfl ?_
  refine lv_goto (pc := 47) (tgt := 55) hx hb dX0_tape_47 (by decide) ?_
  refine lv_iconst (pc := 55) (v := (1 : Int32)) hx hb dX0_tape_55 (by decide) ?_
  obtain ⟨e7, e8, e9⟩ := rs3 hm
  subst e7
  subst e8
  subst e9
  exact rk_iretA (pc := 56) hx hb hr hlk hS21 ⟨rfl, hW22, hz26, hKM27⟩ dX0_tape_56 (by exact Nat.le_of_ble_eq_true rfl) (by exact Nat.le_of_ble_eq_true rfl)
set_option maxHeartbeats 4000000 in
theorem w_fX0_tape (C : Cx G p s m args meth c RX0 cX0_tape 5 (some .int)) {b0 : Nat} {PL : Nat → Bool} {Z : Nat} {V0 : Mem} {vP0 : Mem} {rx : Int32} {rc : Nat} {rw1 : Mem} (hPX : ∀ z, PL z = true → ¬ fX b0 z) (he0 : b0 + 357 ≤ s.heap.size) (hZz : s.heap.size = Z) (ht : c.exceptionTable.toList = tableOf [(36, 47, 50, 583)]) : ∀ (v1 : Mem) (i1 : Int32) (i2 : Int32) (i3 : Int32), fX0_tape PL Z b0 V0 v1 i1 i2 i3 = some (rx, rc, rw1) → ∀ (H : Heap) (locs : List Loc) (ls : Array Slot), rg G b0 357 (shX0 G.2.1) V0 H → pl G PL v1 H → va_S (FA (fP PL vP0) s.heap.size) s.heap H locs → H.size = s.heap.size + 0 → KM vP0 v1 s.heap.size → lv_has ls 5 [(0, .ref b0), (1, .int i1), (2, .int i2), (3, .int i3)] → W p l e (rmT 2 1 90 45) s m args below meth c H locs 0 0 (MQ below (QcT (FA (fP PL vP0) s.heap.size) (fun ov H => ov = (some (.int rx)) ∧ pl G PL rw1 H ∧ H.size = s.heap.size + rc ∧ KM vP0 rw1 s.heap.size)) args s 1 90 (FA (fP PL vP0) s.heap.size)) (F0 m 0 ls []) := by
  intro v1 i1 i2 i3 hm H locs ls hW0 hW1 hS hz hKM hl
  obtain ⟨hx, hb, hr, hlk, hml, hown, hts, hK⟩ := id C
  unfold fX0_tape at hm
  refine lv_iload_n (pc := 0) hx hb dX0_tape_0 rfl (lv_at hl 1 rfl) ?_
  obtain ⟨r1, hq2, hm⟩ := ob_some hm
  refine rk_PS (pc := 1) (As := [.int i1]) (rest := []) hx hb hml hown hts hK lkX0_569 yn_X0_isTape (ct_X0_isTape (G := G) (l := l) hq2) ⟨Nat.le_of_ble_eq_true rfl, Nat.le_of_ble_eq_true rfl⟩ trivial rfl rfl hl.1 (Nat.le_of_ble_eq_true rfl) dX0_tape_1 ⟨Nat.zero_le _, Nat.zero_le _⟩ ?_
  refine W.eq (g2 := F0 m 4 ls [.int r1]) rfl ?_
  refine lv_if_ne (pc := 4) (tgt := 9) hx hb dX0_tape_4 (by decide) (fun c3 => ?_) (fun c3 => ?_)
  · have hm := ite_f c3 hm
    refine lv_iload_n (pc := 9) hx hb dX0_tape_9 rfl (lv_at hl 2 rfl) ?_
    refine lv_i2l (pc := 10) hx hb dX0_tape_10 rfl ?_
    refine lv_ldc2 (pc := 11) (v := (-1 : Int64)) hx hb hown (hts _ q1681) dX0_tape_11 ?_
    refine lv_ldc2 (pc := 14) (v := (4 : Int64)) hx hb hown (hts _ q1324) dX0_tape_14 ?_
    obtain ⟨r4, hq5, hm⟩ := ob_some hm
    refine rk_PS (pc := 17) (As := [.long i2.toInt64, .long (-1 : Int64), .long (4 : Int64)]) (rest := []) hx hb hml hown hts hK lkX0_127 yn_X0_in (ct_X0_in (G := G) (l := l) hq5) ⟨Nat.le_of_ble_eq_true rfl, Nat.le_of_ble_eq_true rfl⟩ trivial rfl rfl hl.1 (Nat.le_of_ble_eq_true rfl) dX0_tape_17 ⟨Nat.zero_le _, Nat.zero_le _⟩ ?_
    refine W.eq (g2 := F0 m 20 ls [.int r4]) rfl ?_
    refine lv_if_eq (pc := 20) (tgt := 33) hx hb dX0_tape_20 (by decide) (fun c6 => ?_) (fun c6 => ?_)
    · have hm := ite_t c6 hm
      refine lv_bipush (pc := 33) (v := (-2 : Int32)) hx hb dX0_tape_33 (by decide) ?_
      obtain ⟨e7, e8, e9⟩ := rs3 hm
      subst e7
      subst e8
      subst e9
      exact rk_iretA (pc := 35) hx hb hr hlk hS ⟨rfl, hW1, hz, hKM⟩ dX0_tape_35 (by exact Nat.le_of_ble_eq_true rfl) (by exact Nat.le_of_ble_eq_true rfl)
    · have hm := ite_f c6 hm
      refine lv_iload_n (pc := 23) hx hb dX0_tape_23 rfl (lv_at hl 2 rfl) ?_
      refine lv_if_lt (pc := 24) (tgt := 36) hx hb dX0_tape_24 (by decide) (fun c7 => ?_) (fun c7 => ?_)
      · have hm := ite_t c7 hm
        exact (w_fX0_tape_36 C hPX he0 hZz ht) v1 0 i1 i2 i3 hm H locs ls hW0 hW1 hS hz hKM (lv_sub hl [0, 1, 2, 3] rfl)
      · have hm := ite_f c7 hm
        refine lv_iload_n (pc := 27) hx hb dX0_tape_27 rfl (lv_at hl 3 rfl) ?_
        refine lv_bipush (pc := 28) (v := (60 : Int32)) hx hb dX0_tape_28 (by decide) ?_
        refine lv_icmp_le (pc := 30) (tgt := 36) hx hb dX0_tape_30 (by decide) (fun c8 => ?_) (fun c8 => ?_)
        · have hm := ite_t c8 hm
          exact (w_fX0_tape_36 C hPX he0 hZz ht) v1 0 i1 i2 i3 hm H locs ls hW0 hW1 hS hz hKM (lv_sub hl [0, 1, 2, 3] rfl)
        · have hm := ite_f c8 hm
          refine lv_bipush (pc := 33) (v := (-2 : Int32)) hx hb dX0_tape_33 (by decide) ?_
          obtain ⟨e7, e8, e9⟩ := rs3 hm
          subst e7
          subst e8
          subst e9
          exact rk_iretA (pc := 35) hx hb hr hlk hS ⟨rfl, hW1, hz, hKM⟩ dX0_tape_35 (by exact Nat.le_of_ble_eq_true rfl) (by exact Nat.le_of_ble_eq_true rfl)
  · have hm := ite_t c3 hm
    refine lv_iconst (pc := 7) (v := (-1 : Int32)) hx hb dX0_tape_7 (by decide) ?_
    obtain ⟨e7, e8, e9⟩ := rs3 hm
    subst e7
    subst e8
    subst e9
    exact rk_iretA (pc := 8) hx hb hr hlk hS ⟨rfl, hW1, hz, hKM⟩ dX0_tape_8 (by exact Nat.le_of_ble_eq_true rfl) (by exact Nat.le_of_ble_eq_true rfl)
set_option maxHeartbeats 4000000 in
theorem ct_X0_tape {G : Gv} {l : Launch} {b0 : Nat} {PL : Nat → Bool} {Z : Nat} {V0 : Mem} {v1 : Mem} {i1 : Int32} {i2 : Int32} {i3 : Int32} {rx : Int32} {rc : Nat} {rw1 : Mem} (hm : fX0_tape PL Z b0 V0 v1 i1 i2 i3 = some (rx, rc, rw1)) (hPX : ∀ z, PL z = true → ¬ fX b0 z) : CT G l yX0_tape (wsW_ yX0_tape cX0_tape 5 (some .int) [(36, 47, 50, 583)]) 2 1 90 45 [.ref b0, .int i1, .int i2, .int i3] (fP PL v1) Z (fun H => rg G b0 357 (shX0 G.2.1) V0 H ∧ pl G PL v1 H) (fun ov H => ov = (some (.int rx)) ∧ pl G PL rw1 H ∧ H.size = Z + rc ∧ KM v1 rw1 Z) := by
  refine va_MetW (cc := cX0_tape) (maxL := 5) (ret := (some .int)) (by decide +kernel) rfl ?_
  intro p e s m args below meth c s₁ B hml hv
  obtain ⟨rfl, ⟨hz, hW0, hW1⟩, hK⟩ := hv
  subst hz
  have he0 := rg_end hW0 356 (by decide) rfl (fun _ _ _ => rfl)
  have hZz : s.heap.size = s.heap.size := rfl
  have ht := vx_table (x := yX0_tape) B (atoms_spec (ws := wsW_ yX0_tape cX0_tape 5 (some .int) [(36, 47, 50, 583)]) B.pre _ List.mem_cons_self)
  have hts := atoms_spec (ws := wsW_ yX0_tape cX0_tape 5 (some .int) [(36, 47, 50, 583)]) B.pre
  have hts : ∀ w ∈ lw_all, w.before _ s = true := fun w h => hts w (List.mem_cons_of_mem _ h)
  have C : Cx G p s m _ meth c RX0 cX0_tape 5 (some .int) := ⟨B.exec, B.bytes, B.returns, B.notSynchronized, hml, findClass_of_methodNamed B.named, hts, hK⟩
  have hl := lv_entry ([.ref b0, .int i1, .int i2, .int i3]) (n := 5) (Nat.le_of_ble_eq_true rfl)
  rw [lg_entry_eq]
  generalize (lg_sl ([.ref b0, .int i1, .int i2, .int i3]) ++ List.replicate (5 - (lg_sl ([.ref b0, .int i1, .int i2, .int i3])).length) Slot.unset).toArray = ls at hl ⊢
  have hl : lv_has ls 5 [(0, .ref b0), (1, .int i1), (2, .int i2), (3, .int i3)] := hl
  exact w_fX0_tape C hPX he0 hZz ht _ _ _ _ hm s.heap [] ls hW0 hW1 va_S.rf rfl KM.rf hl
theorem fnX0_585 : FN RX0 585 6 0 RX6 TX6 1 "WholePacks" := ⟨in_X6, rfl, by decide, q415⟩
theorem yn_X6_puts : YN yX6_puts 2 := by
  unfold YN
  decide +kernel
theorem lkX0_589 : LV RX0 589 RX6 yX6_puts cX6_puts 4 none := ⟨q1711, q1712, q1713, q125, q1714⟩
noncomputable def fX0_item (PL : Nat → Bool) (b0 : Nat) (V0 : Mem) (v1 : Mem) (i1 : Int32) (i2 : Int32) (j3 : Int64) : Option (Int32 × Mem) :=
  ob (fX0_isTape i1) fun r1 =>
  if r1 = 0 then (
  some ((-1 : Int32), v1))
  else (
  gb (inR i1 6) (
  ln (b0 + (168 + 1 * i1.toNatClampNeg)) fun pa5 =>
  gb (kd PL v1 pa5 6) (
  lo (gR v1 pa5 0) fun oa8 =>
  od oa8 (
  some ((-11 : Int32), v1)) (fun pa10 =>
  gb (inR i1 6) (
  ln (b0 + (168 + 1 * i1.toNatClampNeg)) fun pa12 =>
  gb (kd PL v1 pa12 6) (
  ob (fX6_puts PL v1 pa12 i2 j3) fun w15 =>
  some ((1 : Int32), w15)))))))
set_option maxHeartbeats 4000000 in
theorem w_fX0_item (C : Cx G p s m args meth c RX0 cX0_item 6 (some .int)) {b0 : Nat} {PL : Nat → Bool} {V0 : Mem} {vP0 : Mem} {rx : Int32} {rw1 : Mem} (hPX : ∀ z, PL z = true → ¬ fX b0 z) (hZN : ZN G) (ht : c.exceptionTable.toList = tableOf [(24, 35, 38, 593)]) : ∀ (v1 : Mem) (i1 : Int32) (i2 : Int32) (j3 : Int64), fX0_item PL b0 V0 v1 i1 i2 j3 = some (rx, rw1) → ∀ (H : Heap) (locs : List Loc) (ls : Array Slot), rg G b0 357 (shX0 G.2.1) V0 H → pl G PL v1 H → va_S (FA (fP PL vP0) s.heap.size) s.heap H locs → H.size = s.heap.size → KM vP0 v1 s.heap.size → lv_has ls 6 [(0, .ref b0), (1, .int i1), (2, .int i2), (3, .long j3)] → W p l e (rmT 2 0 0 45) s m args below meth c H locs 0 0 (MQ below (QcT (FA (fP PL vP0) s.heap.size) (fun ov H => ov = (some (.int rx)) ∧ pl G PL rw1 H ∧ H.size = s.heap.size ∧ KM vP0 rw1 s.heap.size)) args s 0 0 (FA (fP PL vP0) s.heap.size)) (F0 m 0 ls []) := by
  intro v1 i1 i2 j3 hm H locs ls hW0 hW1 hS hz hKM hl
  obtain ⟨hx, hb, hr, hlk, hml, hown, hts, hK⟩ := id C
  unfold fX0_item at hm
  refine lv_iload_n (pc := 0) hx hb dX0_item_0 rfl (lv_at hl 1 rfl) ?_
  obtain ⟨r1, hq2, hm⟩ := ob_some hm
  refine rk_PS (pc := 1) (As := [.int i1]) (rest := []) hx hb hml hown hts hK lkX0_569 yn_X0_isTape (ct_X0_isTape (G := G) (l := l) hq2) ⟨Nat.le_of_ble_eq_true rfl, Nat.le_of_ble_eq_true rfl⟩ trivial rfl rfl hl.1 (Nat.le_of_ble_eq_true rfl) dX0_item_1 ⟨Nat.zero_le _, Nat.zero_le _⟩ ?_
  refine W.eq (g2 := F0 m 4 ls [.int r1]) rfl ?_
  refine lv_if_ne (pc := 4) (tgt := 9) hx hb dX0_item_4 (by decide) (fun c3 => ?_) (fun c3 => ?_)
  · have hm := ite_f c3 hm
    refine lv_aload_n (pc := 9) hx hb dX0_item_9 rfl (lv_at hl 0 rfl) ?_
    refine rk_get (pc := 10) hx hb hts hown hK hW0 flX0_98 0 (by decide) rfl rfl (x := .ref (b0 + 167)) (by first | rfl | exact congrArg (fun z => some (Value.ref z)) (by omega)) dX0_item_10 ?_
    refine lv_iload_n (pc := 13) hx hb dX0_item_13 rfl (lv_at hl 1 rfl) ?_
    obtain ⟨hg4, hm⟩ := gb_some hm
    obtain ⟨pa5, he6, hm⟩ := ln_some hm
    refine rk_aald (pc := 14) hx hb hK hW0 167 11 (by decide) rfl rfl rfl hg4 (x := pa5) (congrArg some (by rw [← he6])) dX0_item_14 ?_
    obtain ⟨hg7, hm⟩ := gb_some hm
    obtain ⟨oa8, he9, hm⟩ := lo_some hm
    refine rk_getN (pc := 15) hx hb hts hown hK (pl_rg hW1) fnX0_585 pa5 (Nat.lt_succ_self _) (Nat.zero_add _).symm (shP_6 (kd_PL hg7) (kd_k hg7)) (x := va_rf oa8) (congrArg (fun z => some (va_rf z)) he9) dX0_item_15 ?_
    rcases oa8 with _ | pa10
    · have hm := od_n hm
      refine lv_ifnonnullN (pc := 18) hx hb dX0_item_18 ?_
      refine lv_bipush (pc := 21) (v := (-11 : Int32)) hx hb dX0_item_21 (by decide) ?_
      obtain ⟨e8, e9⟩ := rs2 hm
      subst e8
      subst e9
      exact rk_iret (pc := 23) hx hb hr hlk hS ⟨rfl, hW1, hz, hKM⟩ dX0_item_23
    · have hm := od_s hm
      refine lv_ifnonnull (pc := 18) (tgt := 24) hx hb dX0_item_18 (by decide) ?_
      refine lv_aload_n (pc := 24) hx hb dX0_item_24 rfl (lv_at hl 0 rfl) ?_
      refine rk_get (pc := 25) hx hb hts hown hK hW0 flX0_98 0 (by decide) rfl rfl (x := .ref (b0 + 167)) (by first | rfl | exact congrArg (fun z => some (Value.ref z)) (by omega)) dX0_item_25 ?_
      refine lv_iload_n (pc := 28) hx hb dX0_item_28 rfl (lv_at hl 1 rfl) ?_
      obtain ⟨hg11, hm⟩ := gb_some hm
      obtain ⟨pa12, he13, hm⟩ := ln_some hm
      refine rk_aald (pc := 29) hx hb hK hW0 167 11 (by decide) rfl rfl rfl hg11 (x := pa12) (congrArg some (by rw [← he13])) dX0_item_29 ?_
      refine lv_iload_n (pc := 30) hx hb dX0_item_30 rfl (lv_at hl 2 rfl) ?_
      refine lv_lload_n (pc := 31) hx hb dX0_item_31 rfl (lv_at hl 3 rfl) ?_
      obtain ⟨hg14, hm⟩ := gb_some hm
      obtain ⟨w15, hq16, hm⟩ := ob_some hm
      refine rk_TV (pc := 32) (As := [.int i2, .long j3]) (rest := []) (mc := 0) (ms := 0) hx hb hml hown hts hK hS (fun q hq => FA_sz rfl q hq) lkX0_589 rfl yn_X6_puts (ct_X6_puts (G := G) (l := l) (sz := H.size) hq16 hZN) ⟨Nat.le_of_ble_eq_true rfl, Nat.le_of_ble_eq_true rfl⟩ (fun z h => (KM_hf2 hKM z h)) (rp_recv hK hW1 (C := RX6) (T := TX6) (N := 1) rfl (shP_6 (kd_PL hg14) (kd_k hg14))) hW1 rfl rfl hl.1 (Nat.le_of_ble_eq_true rfl) dX0_item_32 ⟨Nat.zero_le _, Nat.zero_le _⟩ (fun ov9 H17 locs18 hP19 hkp20 hS21 => ?_)
      obtain ⟨rfl, hW22, hz23, hKM24⟩ := hP19
      have hW25 := rg_keepX hW0 hkp20 (by intro z h0 h3; have h1 := h0.1.1; have h2 := h0.1.2; have h4 := h0.2; exact hPX _ h3.1 h0)
      have hz26 := hz23.trans hz
      have hKM27 := KM.trans hKM hKM24 (by omega)
      refine W.eq (g2 := F0 m 35 ls []) rfl ?_
      refine lv_goto (pc := 35) (tgt := 43) hx hb dX0_item_35 (by decide) ?_
      refine lv_iconst (pc := 43) (v := (1 : Int32)) hx hb dX0_item_43 (by decide) ?_
      obtain ⟨e8, e9⟩ := rs2 hm
      subst e8
      subst e9
      exact rk_iret (pc := 44) hx hb hr hlk hS21 ⟨rfl, hW22, hz26, hKM27⟩ dX0_item_44
  · have hm := ite_t c3 hm
    refine lv_iconst (pc := 7) (v := (-1 : Int32)) hx hb dX0_item_7 (by decide) ?_
    obtain ⟨e8, e9⟩ := rs2 hm
    subst e8
    subst e9
    exact rk_iret (pc := 8) hx hb hr hlk hS ⟨rfl, hW1, hz, hKM⟩ dX0_item_8
set_option maxHeartbeats 4000000 in
theorem ct_X0_item {G : Gv} {l : Launch} {b0 : Nat} {PL : Nat → Bool} {V0 : Mem} {v1 : Mem} {i1 : Int32} {i2 : Int32} {j3 : Int64} {rx : Int32} {rw1 : Mem} {sz : Nat} (hm : fX0_item PL b0 V0 v1 i1 i2 j3 = some (rx, rw1)) (hPX : ∀ z, PL z = true → ¬ fX b0 z) (hZN : ZN G) : CT G l yX0_item (wsW_ yX0_item cX0_item 6 (some .int) [(24, 35, 38, 593)]) 2 0 0 45 [.ref b0, .int i1, .int i2, .long j3] (fP PL v1) sz (fun H => rg G b0 357 (shX0 G.2.1) V0 H ∧ pl G PL v1 H) (fun ov H => ov = (some (.int rx)) ∧ pl G PL rw1 H ∧ H.size = sz ∧ KM v1 rw1 sz) := by
  refine va_MetW (cc := cX0_item) (maxL := 6) (ret := (some .int)) (by decide +kernel) rfl ?_
  intro p e s m args below meth c s₁ B hml hv
  obtain ⟨rfl, ⟨hz, hW0, hW1⟩, hK⟩ := hv
  subst hz
  have ht := vx_table (x := yX0_item) B (atoms_spec (ws := wsW_ yX0_item cX0_item 6 (some .int) [(24, 35, 38, 593)]) B.pre _ List.mem_cons_self)
  have hts := atoms_spec (ws := wsW_ yX0_item cX0_item 6 (some .int) [(24, 35, 38, 593)]) B.pre
  have hts : ∀ w ∈ lw_all, w.before _ s = true := fun w h => hts w (List.mem_cons_of_mem _ h)
  have C : Cx G p s m _ meth c RX0 cX0_item 6 (some .int) := ⟨B.exec, B.bytes, B.returns, B.notSynchronized, hml, findClass_of_methodNamed B.named, hts, hK⟩
  have hl := lv_entry ([.ref b0, .int i1, .int i2, .long j3]) (n := 6) (Nat.le_of_ble_eq_true rfl)
  rw [lg_entry_eq]
  generalize (lg_sl ([.ref b0, .int i1, .int i2, .long j3]) ++ List.replicate (6 - (lg_sl ([.ref b0, .int i1, .int i2, .long j3])).length) Slot.unset).toArray = ls at hl ⊢
  have hl : lv_has ls 6 [(0, .ref b0), (1, .int i1), (2, .int i2), (3, .long j3)] := hl
  exact w_fX0_item C hPX hZN ht _ _ _ _ hm s.heap [] ls hW0 hW1 va_S.rf rfl KM.rf hl
noncomputable def fX0_peek (PL : Nat → Bool) (b0 : Nat) (V0 : Mem) (V1 : Mem) (i1 : Int32) (i2 : Int32) : Option (Int64) :=
  ob (fX0_isTape i1) fun r1 =>
  if r1 = 0 then (
  some (-9223372036854775808 : Int64))
  else (
  gb (inR i1 6) (
  ln (b0 + (168 + 1 * i1.toNatClampNeg)) fun pa5 =>
  gb (kd PL V1 pa5 6) (
  ob (fX6_size PL V1 pa5) fun r8 =>
  ob (fX0_in i2.toInt64 (0 : Int64) (r8 - (1 : Int32)).toInt64) fun r10 =>
  if r10 = 0 then (
  some (-9223372036854775808 : Int64))
  else (
  gb (inR i1 6) (
  ln (b0 + (168 + 1 * i1.toNatClampNeg)) fun pa14 =>
  gb (kd PL V1 pa14 6) (
  ob (fX6_at PL V1 pa14 i2) fun r17 =>
  some r17))))))
set_option maxHeartbeats 4000000 in
theorem w_fX0_peek (C : Cx G p s m args meth c RX0 cX0_peek 3 (some .long)) {b0 : Nat} {PL : Nat → Bool} {V0 : Mem} {V1 : Mem} {rx : Int64} (hW0 : rg G b0 357 (shX0 G.2.1) V0 s.heap) (hW1 : pl G PL V1 s.heap) (hZN : ZN G) : ∀ (i1 : Int32) (i2 : Int32), fX0_peek PL b0 V0 V1 i1 i2 = some rx → ∀ (ls : Array Slot), lv_has ls 3 [(0, .ref b0), (1, .int i1), (2, .int i2)] → W p l e (rmP 2 45) s m args below meth c s.heap [] 0 0 (MQ below (QcP (some (.long rx))) args s 0 0 (fun _ => False)) (F0 m 0 ls []) := by
  intro i1 i2 hm ls hl
  obtain ⟨hx, hb, hr, hlk, hml, hown, hts, hK⟩ := id C
  unfold fX0_peek at hm
  refine lv_iload_n (pc := 0) hx hb dX0_peek_0 rfl (lv_at hl 1 rfl) ?_
  obtain ⟨r1, hq2, hm⟩ := ob_some hm
  refine rk_PS (pc := 1) (As := [.int i1]) (rest := []) hx hb hml hown hts hK lkX0_569 yn_X0_isTape (ct_X0_isTape (G := G) (l := l) hq2) ⟨Nat.le_of_ble_eq_true rfl, Nat.le_of_ble_eq_true rfl⟩ trivial rfl rfl hl.1 (Nat.le_of_ble_eq_true rfl) dX0_peek_1 ⟨Nat.zero_le _, Nat.zero_le _⟩ ?_
  refine W.eq (g2 := F0 m 4 ls [.int r1]) rfl ?_
  refine lv_if_eq (pc := 4) (tgt := 41) hx hb dX0_peek_4 (by decide) (fun c3 => ?_) (fun c3 => ?_)
  · have hm := ite_t c3 hm
    refine lv_ldc2 (pc := 41) (v := (-9223372036854775808 : Int64)) hx hb hown (hts _ q893) dX0_peek_41 ?_
    have e9 := rs1 hm
    subst e9
    exact rk_lretP (pc := 44) hx hb hr hlk rfl dX0_peek_44
  · have hm := ite_f c3 hm
    refine lv_iload_n (pc := 7) hx hb dX0_peek_7 rfl (lv_at hl 2 rfl) ?_
    refine lv_i2l (pc := 8) hx hb dX0_peek_8 rfl ?_
    refine lv_lconst (pc := 9) (v := (0 : Int64)) hx hb dX0_peek_9 (by decide) ?_
    refine lv_aload_n (pc := 10) hx hb dX0_peek_10 rfl (lv_at hl 0 rfl) ?_
    refine rk_get (pc := 11) hx hb hts hown hK hW0 flX0_98 0 (by decide) rfl rfl (x := .ref (b0 + 167)) (by first | rfl | exact congrArg (fun z => some (Value.ref z)) (by omega)) dX0_peek_11 ?_
    refine lv_iload_n (pc := 14) hx hb dX0_peek_14 rfl (lv_at hl 1 rfl) ?_
    obtain ⟨hg4, hm⟩ := gb_some hm
    obtain ⟨pa5, he6, hm⟩ := ln_some hm
    refine rk_aald (pc := 15) hx hb hK hW0 167 11 (by decide) rfl rfl rfl hg4 (x := pa5) (congrArg some (by rw [← he6])) dX0_peek_15 ?_
    obtain ⟨hg7, hm⟩ := gb_some hm
    obtain ⟨r8, hq9, hm⟩ := ob_some hm
    refine rk_PV (pc := 16) (As := []) (rest := [.long (0 : Int64), .long i2.toInt64]) hx hb hml hown hts hK lkX0_574 rfl yn_X6_size (ct_X6_size (G := G) (l := l) hq9 hZN) ⟨Nat.le_of_ble_eq_true rfl, Nat.le_of_ble_eq_true rfl⟩ (rp_recv hK hW1 (C := RX6) (T := TX6) (N := 1) rfl (shP_6 (kd_PL hg7) (kd_k hg7))) hW1 rfl rfl hl.1 (Nat.le_of_ble_eq_true rfl) dX0_peek_16 ⟨Nat.zero_le _, Nat.zero_le _⟩ ?_
    refine W.eq (g2 := F0 m 19 ls [.int r8, .long (0 : Int64), .long i2.toInt64]) rfl ?_
    refine lv_iconst (pc := 19) (v := (1 : Int32)) hx hb dX0_peek_19 (by decide) ?_
    refine lv_isub (pc := 20) hx hb dX0_peek_20 ?_
    refine lv_i2l (pc := 21) hx hb dX0_peek_21 rfl ?_
    obtain ⟨r10, hq11, hm⟩ := ob_some hm
    refine rk_PS (pc := 22) (As := [.long i2.toInt64, .long (0 : Int64), .long (r8 - (1 : Int32)).toInt64]) (rest := []) hx hb hml hown hts hK lkX0_127 yn_X0_in (ct_X0_in (G := G) (l := l) hq11) ⟨Nat.le_of_ble_eq_true rfl, Nat.le_of_ble_eq_true rfl⟩ trivial rfl rfl hl.1 (Nat.le_of_ble_eq_true rfl) dX0_peek_22 ⟨Nat.zero_le _, Nat.zero_le _⟩ ?_
    refine W.eq (g2 := F0 m 25 ls [.int r10]) rfl ?_
    refine lv_if_eq (pc := 25) (tgt := 41) hx hb dX0_peek_25 (by decide) (fun c12 => ?_) (fun c12 => ?_)
    · have hm := ite_t c12 hm
      refine lv_ldc2 (pc := 41) (v := (-9223372036854775808 : Int64)) hx hb hown (hts _ q893) dX0_peek_41 ?_
      have e9 := rs1 hm
      subst e9
      exact rk_lretP (pc := 44) hx hb hr hlk rfl dX0_peek_44
    · have hm := ite_f c12 hm
      refine lv_aload_n (pc := 28) hx hb dX0_peek_28 rfl (lv_at hl 0 rfl) ?_
      refine rk_get (pc := 29) hx hb hts hown hK hW0 flX0_98 0 (by decide) rfl rfl (x := .ref (b0 + 167)) (by first | rfl | exact congrArg (fun z => some (Value.ref z)) (by omega)) dX0_peek_29 ?_
      refine lv_iload_n (pc := 32) hx hb dX0_peek_32 rfl (lv_at hl 1 rfl) ?_
      obtain ⟨hg13, hm⟩ := gb_some hm
      obtain ⟨pa14, he15, hm⟩ := ln_some hm
      refine rk_aald (pc := 33) hx hb hK hW0 167 11 (by decide) rfl rfl rfl hg13 (x := pa14) (congrArg some (by rw [← he15])) dX0_peek_33 ?_
      refine lv_iload_n (pc := 34) hx hb dX0_peek_34 rfl (lv_at hl 2 rfl) ?_
      obtain ⟨hg16, hm⟩ := gb_some hm
      obtain ⟨r17, hq18, hm⟩ := ob_some hm
      refine rk_PV (pc := 35) (As := [.int i2]) (rest := []) hx hb hml hown hts hK lkX0_575 rfl yn_X6_at (ct_X6_at (G := G) (l := l) hq18 hZN) ⟨Nat.le_of_ble_eq_true rfl, Nat.le_of_ble_eq_true rfl⟩ (rp_recv hK hW1 (C := RX6) (T := TX6) (N := 1) rfl (shP_6 (kd_PL hg16) (kd_k hg16))) hW1 rfl rfl hl.1 (Nat.le_of_ble_eq_true rfl) dX0_peek_35 ⟨Nat.zero_le _, Nat.zero_le _⟩ ?_
      refine W.eq (g2 := F0 m 38 ls [.long r17]) rfl ?_
      refine lv_goto (pc := 38) (tgt := 44) hx hb dX0_peek_38 (by decide) ?_
      have e9 := rs1 hm
      subst e9
      exact rk_lretP (pc := 44) hx hb hr hlk rfl dX0_peek_44
set_option maxHeartbeats 4000000 in
theorem ct_X0_peek {G : Gv} {l : Launch} {b0 : Nat} {PL : Nat → Bool} {V0 : Mem} {V1 : Mem} {i1 : Int32} {i2 : Int32} {rx : Int64} (hm : fX0_peek PL b0 V0 V1 i1 i2 = some rx) (hZN : ZN G) : CP G l yX0_peek (ws_ yX0_peek cX0_peek 3 (some .long)) 2 45 [.ref b0, .int i1, .int i2] (fun H => rg G b0 357 (shX0 G.2.1) V0 H ∧ pl G PL V1 H) (some (.long rx)) := by
  refine Met.ofW (cc := cX0_peek) (maxL := 3) (ret := (some .long)) (by decide +kernel) rfl ?_
  intro p e s m args below meth c s₁ B hml hv
  obtain ⟨rfl, ⟨hW0, hW1⟩, hK⟩ := hv
  have hts := atoms_spec (ws := ws_ yX0_peek cX0_peek 3 (some .long)) B.pre
  have hts : ∀ w ∈ lw_all, w.before _ s = true := fun w h => hts w (List.mem_cons_of_mem _ h)
  have C : Cx G p s m _ meth c RX0 cX0_peek 3 (some .long) := ⟨B.exec, B.bytes, B.returns, B.notSynchronized, hml, findClass_of_methodNamed B.named, hts, hK⟩
  have hl := lv_entry ([.ref b0, .int i1, .int i2]) (n := 3) (Nat.le_of_ble_eq_true rfl)
  rw [lg_entry_eq]
  generalize (lg_sl ([.ref b0, .int i1, .int i2]) ++ List.replicate (3 - (lg_sl ([.ref b0, .int i1, .int i2])).length) Slot.unset).toArray = ls at hl ⊢
  have hl : lv_has ls 3 [(0, .ref b0), (1, .int i1), (2, .int i2)] := hl
  exact w_fX0_peek C hW0 hW1 hZN _ _ hm ls hl
theorem lacX0_595 : LAC RX0 595 := ⟨q1738, q762, q761, q134⟩
noncomputable def fX0_shift (PL : Nat → Bool) (b0 : Nat) (V0 : Mem) (v1 : Mem) (i1 : Int32) (i2 : Int32) (i3 : Int32) (i4 : Int32) (i5 : Int32) : Option (Int32 × Mem) :=
  ob (fX0_isTape i1) fun r1 =>
  if r1 = 0 then (
  some ((-1 : Int32), v1))
  else (
  ob (fX0_isTape i3) fun r4 =>
  if r4 = 0 then (
  some ((-1 : Int32), v1))
  else (
  gb (inR i1 6) (
  ln (b0 + (168 + 1 * i1.toNatClampNeg)) fun pa8 =>
  gb (kd PL v1 pa8 6) (
  lo (gR v1 pa8 0) fun oa11 =>
  od oa11 (
  some ((-11 : Int32), v1)) (fun pa13 =>
  gb (inR i3 6) (
  ln (b0 + (168 + 1 * i3.toNatClampNeg)) fun pa15 =>
  gb (kd PL v1 pa15 6) (
  lo (gR v1 pa15 0) fun oa18 =>
  od oa18 (
  some ((-11 : Int32), v1)) (fun pa20 =>
  gb (inR i1 6) (
  ln (b0 + (168 + 1 * i1.toNatClampNeg)) fun pa22 =>
  gb (kd PL v1 pa22 6) (
  lo (gR v1 pa22 0) fun oa25 =>
  gb (inR i3 6) (
  ln (b0 + (168 + 1 * i3.toNatClampNeg)) fun pa28 =>
  gb (kd PL v1 pa28 6) (
  lo (gR v1 pa28 0) fun oa31 =>
  ob oa25 fun pa33 =>
  ob oa31 fun pa36 =>
  gb (ks PL v1 pa36) (
  gb (ks PL v1 pa33) (
  gb (okC v1 pa36 pa33 i2 i4 i5) (
  lm (cpQ v1 pa36 pa33 i2.toNatClampNeg i4.toNatClampNeg i5.toNatClampNeg) fun v1_42 =>
  some (i5, v1_42))))))))))))))))
set_option maxHeartbeats 4000000 in
theorem w_fX0_shift (C : Cx G p s m args meth c RX0 cX0_shift 7 (some .int)) {b0 : Nat} {PL : Nat → Bool} {V0 : Mem} {vP0 : Mem} {rx : Int32} {rw1 : Mem} (hPX : ∀ z, PL z = true → ¬ fX b0 z) (ht : c.exceptionTable.toList = tableOf [(43, 69, 72, 601), (43, 69, 77, 603)]) : ∀ (v1 : Mem) (i1 : Int32) (i2 : Int32) (i3 : Int32) (i4 : Int32) (i5 : Int32), fX0_shift PL b0 V0 v1 i1 i2 i3 i4 i5 = some (rx, rw1) → ∀ (H : Heap) (locs : List Loc) (ls : Array Slot), rg G b0 357 (shX0 G.2.1) V0 H → pl G PL v1 H → va_S (FA (fP PL vP0) s.heap.size) s.heap H locs → H.size = s.heap.size → KM vP0 v1 s.heap.size → lv_has ls 7 [(0, .ref b0), (1, .int i1), (2, .int i2), (3, .int i3), (4, .int i4), (5, .int i5)] → W p l e (rmT 2 0 0 64) s m args below meth c H locs 0 0 (MQ below (QcT (FA (fP PL vP0) s.heap.size) (fun ov H => ov = (some (.int rx)) ∧ pl G PL rw1 H ∧ H.size = s.heap.size ∧ KM vP0 rw1 s.heap.size)) args s 0 0 (FA (fP PL vP0) s.heap.size)) (F0 m 0 ls []) := by
  intro v1 i1 i2 i3 i4 i5 hm H locs ls hW0 hW1 hS hz hKM hl
  obtain ⟨hx, hb, hr, hlk, hml, hown, hts, hK⟩ := id C
  unfold fX0_shift at hm
  refine lv_iload_n (pc := 0) hx hb dX0_shift_0 rfl (lv_at hl 1 rfl) ?_
  obtain ⟨r1, hq2, hm⟩ := ob_some hm
  refine rk_PS (pc := 1) (As := [.int i1]) (rest := []) hx hb hml hown hts hK lkX0_569 yn_X0_isTape (ct_X0_isTape (G := G) (l := l) hq2) ⟨Nat.le_of_ble_eq_true rfl, Nat.le_of_ble_eq_true rfl⟩ trivial rfl rfl hl.1 (Nat.le_of_ble_eq_true rfl) dX0_shift_1 ⟨Nat.zero_le _, Nat.zero_le _⟩ ?_
  refine W.eq (g2 := F0 m 4 ls [.int r1]) rfl ?_
  refine lv_if_eq (pc := 4) (tgt := 14) hx hb dX0_shift_4 (by decide) (fun c3 => ?_) (fun c3 => ?_)
  · have hm := ite_t c3 hm
    refine lv_iconst (pc := 14) (v := (-1 : Int32)) hx hb dX0_shift_14 (by decide) ?_
    obtain ⟨e8, e9⟩ := rs2 hm
    subst e8
    subst e9
    exact rk_iret (pc := 15) hx hb hr hlk hS ⟨rfl, hW1, hz, hKM⟩ dX0_shift_15
  · have hm := ite_f c3 hm
    refine lv_iload_n (pc := 7) hx hb dX0_shift_7 rfl (lv_at hl 3 rfl) ?_
    obtain ⟨r4, hq5, hm⟩ := ob_some hm
    refine rk_PS (pc := 8) (As := [.int i3]) (rest := []) hx hb hml hown hts hK lkX0_569 yn_X0_isTape (ct_X0_isTape (G := G) (l := l) hq5) ⟨Nat.le_of_ble_eq_true rfl, Nat.le_of_ble_eq_true rfl⟩ trivial rfl rfl hl.1 (Nat.le_of_ble_eq_true rfl) dX0_shift_8 ⟨Nat.zero_le _, Nat.zero_le _⟩ ?_
    refine W.eq (g2 := F0 m 11 ls [.int r4]) rfl ?_
    refine lv_if_ne (pc := 11) (tgt := 16) hx hb dX0_shift_11 (by decide) (fun c6 => ?_) (fun c6 => ?_)
    · have hm := ite_f c6 hm
      refine lv_aload_n (pc := 16) hx hb dX0_shift_16 rfl (lv_at hl 0 rfl) ?_
      refine rk_get (pc := 17) hx hb hts hown hK hW0 flX0_98 0 (by decide) rfl rfl (x := .ref (b0 + 167)) (by first | rfl | exact congrArg (fun z => some (Value.ref z)) (by omega)) dX0_shift_17 ?_
      refine lv_iload_n (pc := 20) hx hb dX0_shift_20 rfl (lv_at hl 1 rfl) ?_
      obtain ⟨hg7, hm⟩ := gb_some hm
      obtain ⟨pa8, he9, hm⟩ := ln_some hm
      refine rk_aald (pc := 21) hx hb hK hW0 167 11 (by decide) rfl rfl rfl hg7 (x := pa8) (congrArg some (by rw [← he9])) dX0_shift_21 ?_
      obtain ⟨hg10, hm⟩ := gb_some hm
      obtain ⟨oa11, he12, hm⟩ := lo_some hm
      refine rk_getN (pc := 22) hx hb hts hown hK (pl_rg hW1) fnX0_585 pa8 (Nat.lt_succ_self _) (Nat.zero_add _).symm (shP_6 (kd_PL hg10) (kd_k hg10)) (x := va_rf oa11) (congrArg (fun z => some (va_rf z)) he12) dX0_shift_22 ?_
      rcases oa11 with _ | pa13
      · have hm := od_n hm
        refine lv_ifnullN (pc := 25) (tgt := 40) hx hb dX0_shift_25 (by decide) ?_
        refine lv_bipush (pc := 40) (v := (-11 : Int32)) hx hb dX0_shift_40 (by decide) ?_
        obtain ⟨e8, e9⟩ := rs2 hm
        subst e8
        subst e9
        exact rk_iret (pc := 42) hx hb hr hlk hS ⟨rfl, hW1, hz, hKM⟩ dX0_shift_42
      · have hm := od_s hm
        refine lv_ifnull (pc := 25) hx hb dX0_shift_25 ?_
        refine lv_aload_n (pc := 28) hx hb dX0_shift_28 rfl (lv_at hl 0 rfl) ?_
        refine rk_get (pc := 29) hx hb hts hown hK hW0 flX0_98 0 (by decide) rfl rfl (x := .ref (b0 + 167)) (by first | rfl | exact congrArg (fun z => some (Value.ref z)) (by omega)) dX0_shift_29 ?_
        refine lv_iload_n (pc := 32) hx hb dX0_shift_32 rfl (lv_at hl 3 rfl) ?_
        obtain ⟨hg14, hm⟩ := gb_some hm
        obtain ⟨pa15, he16, hm⟩ := ln_some hm
        refine rk_aald (pc := 33) hx hb hK hW0 167 11 (by decide) rfl rfl rfl hg14 (x := pa15) (congrArg some (by rw [← he16])) dX0_shift_33 ?_
        obtain ⟨hg17, hm⟩ := gb_some hm
        obtain ⟨oa18, he19, hm⟩ := lo_some hm
        refine rk_getN (pc := 34) hx hb hts hown hK (pl_rg hW1) fnX0_585 pa15 (Nat.lt_succ_self _) (Nat.zero_add _).symm (shP_6 (kd_PL hg17) (kd_k hg17)) (x := va_rf oa18) (congrArg (fun z => some (va_rf z)) he19) dX0_shift_34 ?_
        rcases oa18 with _ | pa20
        · have hm := od_n hm
          refine lv_ifnonnullN (pc := 37) hx hb dX0_shift_37 ?_
          refine lv_bipush (pc := 40) (v := (-11 : Int32)) hx hb dX0_shift_40 (by decide) ?_
          obtain ⟨e8, e9⟩ := rs2 hm
          subst e8
          subst e9
          exact rk_iret (pc := 42) hx hb hr hlk hS ⟨rfl, hW1, hz, hKM⟩ dX0_shift_42
        · have hm := od_s hm
          refine lv_ifnonnull (pc := 37) (tgt := 43) hx hb dX0_shift_37 (by decide) ?_
          refine lv_aload_n (pc := 43) hx hb dX0_shift_43 rfl (lv_at hl 0 rfl) ?_
          refine rk_get (pc := 44) hx hb hts hown hK hW0 flX0_98 0 (by decide) rfl rfl (x := .ref (b0 + 167)) (by first | rfl | exact congrArg (fun z => some (Value.ref z)) (by omega)) dX0_shift_44 ?_
          refine lv_iload_n (pc := 47) hx hb dX0_shift_47 rfl (lv_at hl 1 rfl) ?_
          obtain ⟨hg21, hm⟩ := gb_some hm
          obtain ⟨pa22, he23, hm⟩ := ln_some hm
          refine rk_aald (pc := 48) hx hb hK hW0 167 11 (by decide) rfl rfl rfl hg21 (x := pa22) (congrArg some (by rw [← he23])) dX0_shift_48 ?_
          obtain ⟨hg24, hm⟩ := gb_some hm
          obtain ⟨oa25, he26, hm⟩ := lo_some hm
          refine rk_getN (pc := 49) hx hb hts hown hK (pl_rg hW1) fnX0_585 pa22 (Nat.lt_succ_self _) (Nat.zero_add _).symm (shP_6 (kd_PL hg24) (kd_k hg24)) (x := va_rf oa25) (congrArg (fun z => some (va_rf z)) he26) dX0_shift_49 ?_
          refine lv_iload_n (pc := 52) hx hb dX0_shift_52 rfl (lv_at hl 2 rfl) ?_
          refine lv_aload_n (pc := 53) hx hb dX0_shift_53 rfl (lv_at hl 0 rfl) ?_
          refine rk_get (pc := 54) hx hb hts hown hK hW0 flX0_98 0 (by decide) rfl rfl (x := .ref (b0 + 167)) (by first | rfl | exact congrArg (fun z => some (Value.ref z)) (by omega)) dX0_shift_54 ?_
          refine lv_iload_n (pc := 57) hx hb dX0_shift_57 rfl (lv_at hl 3 rfl) ?_
          obtain ⟨hg27, hm⟩ := gb_some hm
          obtain ⟨pa28, he29, hm⟩ := ln_some hm
          refine rk_aald (pc := 58) hx hb hK hW0 167 11 (by decide) rfl rfl rfl hg27 (x := pa28) (congrArg some (by rw [← he29])) dX0_shift_58 ?_
          obtain ⟨hg30, hm⟩ := gb_some hm
          obtain ⟨oa31, he32, hm⟩ := lo_some hm
          refine rk_getN (pc := 59) hx hb hts hown hK (pl_rg hW1) fnX0_585 pa28 (Nat.lt_succ_self _) (Nat.zero_add _).symm (shP_6 (kd_PL hg30) (kd_k hg30)) (x := va_rf oa31) (congrArg (fun z => some (va_rf z)) he32) dX0_shift_59 ?_
          refine lv_iload (pc := 62) hx hb dX0_shift_62 (lv_at hl 4 rfl) ?_
          refine lv_iload (pc := 64) hx hb dX0_shift_64 (lv_at hl 5 rfl) ?_
          obtain ⟨pa33, he34, hm35⟩ := ob_some hm
          subst he34
          have hm := hm35
          obtain ⟨pa36, he37, hm38⟩ := ob_some hm
          subst he37
          have hm := hm38
          obtain ⟨hg39, hm⟩ := gb_some hm
          obtain ⟨hg40, hm⟩ := gb_some hm
          obtain ⟨hg41, hm⟩ := gb_some hm
          refine rp_copyA (pc := 66) hx hb hml hown hts hK lacX0_595 hW1 hS (ks_A hKM hg39) hg39 hg40 hg41 hl.1 (Nat.le_of_ble_eq_true rfl) (Nat.le_of_ble_eq_true rfl) dX0_shift_66 (fun H43 locs44 hW45 hS46 hz47 hkp48 => ?_)
          have hKM49 := KM.cpQ (q := pa36) (q2 := pa33) (sp := i2.toNatClampNeg) (dp := i4.toNatClampNeg) (n := i5.toNatClampNeg) hKM (Nat.le_trans (okC_1 hg41).2.2.2.2.2.1 (ks_le hg39))
          obtain ⟨v1_42, he9, hm⟩ := lm_some hm
          rw [he9] at hW45 hKM49
          have hW50 := rg_keepqX hW0 hkp48 (hPX _ (kd_PL (ks_kd hg39)))
          have hz51 := hz47.trans hz
          refine lv_goto (pc := 69) (tgt := 82) hx hb dX0_shift_69 (by decide) ?_
          refine lv_iload (pc := 82) hx hb dX0_shift_82 (lv_at hl 5 rfl) ?_
          obtain ⟨e8, e9⟩ := rs2 hm
          subst e8
          subst e9
          exact rk_iret (pc := 84) hx hb hr hlk hS46 ⟨rfl, hW45, hz51, hKM49⟩ dX0_shift_84
    · have hm := ite_t c6 hm
      refine lv_iconst (pc := 14) (v := (-1 : Int32)) hx hb dX0_shift_14 (by decide) ?_
      obtain ⟨e8, e9⟩ := rs2 hm
      subst e8
      subst e9
      exact rk_iret (pc := 15) hx hb hr hlk hS ⟨rfl, hW1, hz, hKM⟩ dX0_shift_15
set_option maxHeartbeats 4000000 in
theorem ct_X0_shift {G : Gv} {l : Launch} {b0 : Nat} {PL : Nat → Bool} {V0 : Mem} {v1 : Mem} {i1 : Int32} {i2 : Int32} {i3 : Int32} {i4 : Int32} {i5 : Int32} {rx : Int32} {rw1 : Mem} {sz : Nat} (hm : fX0_shift PL b0 V0 v1 i1 i2 i3 i4 i5 = some (rx, rw1)) (hPX : ∀ z, PL z = true → ¬ fX b0 z) : CT G l yX0_shift (wsW_ yX0_shift cX0_shift 7 (some .int) [(43, 69, 72, 601), (43, 69, 77, 603)]) 2 0 0 64 [.ref b0, .int i1, .int i2, .int i3, .int i4, .int i5] (fP PL v1) sz (fun H => rg G b0 357 (shX0 G.2.1) V0 H ∧ pl G PL v1 H) (fun ov H => ov = (some (.int rx)) ∧ pl G PL rw1 H ∧ H.size = sz ∧ KM v1 rw1 sz) := by
  refine va_MetW (cc := cX0_shift) (maxL := 7) (ret := (some .int)) (by decide +kernel) rfl ?_
  intro p e s m args below meth c s₁ B hml hv
  obtain ⟨rfl, ⟨hz, hW0, hW1⟩, hK⟩ := hv
  subst hz
  have ht := vx_table (x := yX0_shift) B (atoms_spec (ws := wsW_ yX0_shift cX0_shift 7 (some .int) [(43, 69, 72, 601), (43, 69, 77, 603)]) B.pre _ List.mem_cons_self)
  have hts := atoms_spec (ws := wsW_ yX0_shift cX0_shift 7 (some .int) [(43, 69, 72, 601), (43, 69, 77, 603)]) B.pre
  have hts : ∀ w ∈ lw_all, w.before _ s = true := fun w h => hts w (List.mem_cons_of_mem _ h)
  have C : Cx G p s m _ meth c RX0 cX0_shift 7 (some .int) := ⟨B.exec, B.bytes, B.returns, B.notSynchronized, hml, findClass_of_methodNamed B.named, hts, hK⟩
  have hl := lv_entry ([.ref b0, .int i1, .int i2, .int i3, .int i4, .int i5]) (n := 7) (Nat.le_of_ble_eq_true rfl)
  rw [lg_entry_eq]
  generalize (lg_sl ([.ref b0, .int i1, .int i2, .int i3, .int i4, .int i5]) ++ List.replicate (7 - (lg_sl ([.ref b0, .int i1, .int i2, .int i3, .int i4, .int i5])).length) Slot.unset).toArray = ls at hl ⊢
  have hl : lv_has ls 7 [(0, .ref b0), (1, .int i1), (2, .int i2), (3, .int i3), (4, .int i4), (5, .int i5)] := hl
  exact w_fX0_shift C hPX ht _ _ _ _ _ _ hm s.heap [] ls hW0 hW1 va_S.rf rfl KM.rf hl
end
