set_option maxRecDepth 100000
section
variable {p : Program} {l : Launch} {e : Env} {s : State} {m : MethodId} {args : Array Value} {below : List Frame} {meth : Method} {c : Code} {G : Gv}
noncomputable def fX0_image (PL : Nat → Bool) (Z : Nat) (b0 : Nat) (v0 : Mem) (v1 : Mem) : Option (Int32 × Nat × Mem × Mem) :=
  lm (sI v0 0 23 (1 : Int32)) fun v0_1 =>
  ob2 (fX0_like PL (Z + 0) v1 (b0 + 154) (b0 + 153)) fun rc10 w11 =>
  ob (fX1_like (shf v0_1 1) (shf v0_1 45)) fun w25 =>
  lm (ptm v0_1 45 22 w25) fun v0_36 =>
  some ((gI v0_36 45 1), rc10, v0_36, w11)
set_option maxHeartbeats 4000000 in
theorem w_fX0_image (C : Cx G p s m args meth c RX0 cX0_image 1 (some .int)) {b0 : Nat} {PL : Nat → Bool} {Z : Nat} {vP0 : Mem} {rx : Int32} {rc : Nat} {rw0 : Mem} {rw1 : Mem} (hPX : ∀ z, PL z = true → ¬ fX b0 z) (he0 : b0 + 357 ≤ s.heap.size) (hZz : s.heap.size = Z) (hZP : ZP G) : ∀ (v0 : Mem) (v1 : Mem), fX0_image PL Z b0 v0 v1 = some (rx, rc, rw0, rw1) → ∀ (H : Heap) (locs : List Loc) (ls : Array Slot), rg G b0 357 (shX0 G.2.1) v0 H → pl G PL v1 H → va_S (FA (fun z => (fX b0) z ∨ (fP PL vP0) z) s.heap.size) s.heap H locs → H.size = s.heap.size + 0 → KM vP0 v1 s.heap.size → lv_has ls 1 [(0, .ref b0)] → W p l e (rmT 7 24 200 162) s m args below meth c H locs 0 0 (MQ below (QcT (FA (fun z => (fX b0) z ∨ (fP PL vP0) z) s.heap.size) (fun ov H => ov = (some (.int rx)) ∧ rg G b0 357 (shX0 G.2.1) rw0 H ∧ pl G PL rw1 H ∧ H.size = s.heap.size + rc ∧ KM vP0 rw1 s.heap.size)) args s 24 200 (FA (fun z => (fX b0) z ∨ (fP PL vP0) z) s.heap.size)) (F0 m 0 ls []) := by
  intro v0 v1 hm H locs ls hW0 hW1 hS hz hKM hl
  obtain ⟨hx, hb, hr, hlk, hml, hown, hts, hK⟩ := id C
  unfold fX0_image at hm
  refine lv_aload_n (pc := 0) hx hb dX0_image_0 rfl (lv_at hl 0 rfl) ?_
  refine lv_iconst (pc := 1) (v := (1 : Int32)) hx hb dX0_image_1 (by decide) ?_
  refine rk_put (pc := 2) hx hb hts hown hK hW0 hS flX0_563 ft_X0 0 (by decide) rfl (Or.inl (Or.inl (show fX _ _ from ⟨⟨by omega, by omega⟩, by omega⟩))) rfl rfl (x := .int (1 : Int32)) rfl rfl (Nat.le_of_ble_eq_true rfl) (sI v0 0 23 (1 : Int32)) sI_ne (by rw [sI_eq]; exact rfl) dX0_image_2 (fun H2 locs3 hW4 hS5 hz6 hkp7 => ?_)
  obtain ⟨v0_1, he9, hm⟩ := lm_some hm
  rw [he9] at hW4
  have hW8 := pl_keepq hW1 hkp7 (fun h9 => hPX _ h9 (show fX _ _ from ⟨⟨by omega, by omega⟩, by omega⟩))
  have hz9 := hz6.trans hz
  refine lv_aload_n (pc := 5) hx hb dX0_image_5 rfl (lv_at hl 0 rfl) ?_
  refine rk_get (pc := 6) hx hb hts hown hK hW4 flX0_41 0 (by decide) rfl rfl (x := .ref (b0 + 154)) (by first | rfl | exact congrArg (fun z => some (Value.ref z)) (by omega)) dX0_image_6 ?_
  refine lv_aload_n (pc := 9) hx hb dX0_image_9 rfl (lv_at hl 0 rfl) ?_
  refine rk_get (pc := 10) hx hb hts hown hK hW4 flX0_37 0 (by decide) rfl rfl (x := .ref (b0 + 153)) (by first | rfl | exact congrArg (fun z => some (Value.ref z)) (by omega)) dX0_image_10 ?_
  obtain ⟨rc10, w11, hq12, hm⟩ := ob2_some hm
  have hq13 := hq12
  rw [show (Z + 0) = H2.size by omega] at hq13
  refine rk_TS (pc := 13) (As := [.ref (b0 + 154), .ref (b0 + 153)]) (rest := []) (mc := 24) (ms := 200) hx hb hml hown hts hK hS5 (fun q hq => FA_sz rfl q hq) lkX0_566 yn_X0_like (ct_X0_like (G := G) (l := l) hq13 hZP) ⟨Nat.le_of_ble_eq_true rfl, Nat.le_of_ble_eq_true rfl⟩ (fun z h => (FA_r (KM_hf2 hKM z h))) hW8 rfl rfl hl.1 (Nat.le_of_ble_eq_true rfl) dX0_image_13 ⟨Nat.le_of_ble_eq_true rfl, Nat.le_of_ble_eq_true rfl⟩ (fun ov9 H14 locs15 hP16 hkp17 hS18 => ?_)
  obtain ⟨rfl, hW19, hz20, hKM21⟩ := hP16
  have hW22 := rg_keepX hW4 hkp17 (by intro z h0 h3; have h1 := h0.1.1; have h2 := h0.1.2; have h4 := h0.2; exact hPX _ h3.1 h0)
  have hz23 : H14.size = s.heap.size + rc10 := by omega
  have hKM24 := KM.trans hKM hKM21 (by omega)
  refine W.eq (g2 := F0 m 16 ls []) rfl ?_
  refine lv_aload_n (pc := 16) hx hb dX0_image_16 rfl (lv_at hl 0 rfl) ?_
  refine rk_get (pc := 17) hx hb hts hown hK hW22 flX0_21 0 (by decide) rfl rfl (x := .ref (b0 + 45)) (by first | rfl | exact congrArg (fun z => some (Value.ref z)) (by omega)) dX0_image_17 ?_
  refine lv_aload_n (pc := 20) hx hb dX0_image_20 rfl (lv_at hl 0 rfl) ?_
  refine rk_get (pc := 21) hx hb hts hown hK hW22 flX0_12 0 (by decide) rfl rfl (x := .ref (b0 + 1)) (by first | rfl | exact congrArg (fun z => some (Value.ref z)) (by omega)) dX0_image_21 ?_
  obtain ⟨w25, hq26, hm⟩ := ob_some hm
  refine rk_TV (pc := 24) (As := [.ref (b0 + 1)]) (rest := []) (mc := 0) (ms := 0) hx hb hml hown hts hK hS18 (fun q hq => FA_sz rfl q hq) lkX0_469 rfl yn_X1_like (ct_X1_like (G := G) (l := l) (b0 := (b0 + 45)) (b1 := (b0 + 1)) (sz := H14.size) hq26 (by omega)) ⟨Nat.le_of_ble_eq_true rfl, Nat.le_of_ble_eq_true rfl⟩ (fun z h => Or.inl (Or.inl (show fX _ _ from ⟨⟨by have h8 := h.1; have h9 := h.2; omega, by have h8 := h.1; have h9 := h.2; omega⟩, by have h8 := h.1; have h9 := h.2; omega⟩))) (rk_recv hK hW22 45 (by decide) rfl rfl rfl) ⟨(rg_sub hW22 rfl (by decide) (fun o ho x y z => shX0_n45 G.2.1 _ rfl o ho x y z)), (rg_sub hW22 rfl (by decide) (fun o ho x y z => shX0_n1 G.2.1 _ rfl o ho x y z))⟩ rfl rfl hl.1 (Nat.le_of_ble_eq_true rfl) dX0_image_24 ⟨Nat.le_of_ble_eq_true rfl, Nat.le_of_ble_eq_true rfl⟩ (fun ov9 H27 locs28 hP29 hkp30 hS31 => ?_)
  obtain ⟨rfl, hW32, hz33⟩ := hP29
  have hW34 := pl_keepA hW19 hkp30 (by intro z h1 h3; have h8 := h3.1; have h9 := h3.2; exact hPX _ h1 (show fX _ _ from ⟨⟨by omega, by omega⟩, by omega⟩))
  have hW35 := rg_put (d := 45) hW22 hW32 rfl (fun o ho x y z => shX0_n45 G.2.1 _ rfl o ho x y z) hkp30
  obtain ⟨v0_36, he9, hm⟩ := lm_some hm
  rw [he9] at hW35
  have hz37 := hz33.trans hz23
  refine W.eq (g2 := F0 m 27 ls [.ref (b0 + 45)]) rfl ?_
  refine rk_getN (pc := 27) hx hb hts hown hK hW35 fnX0_158 45 (by decide) rfl rfl (x := .int (gI v0_36 45 1)) rfl dX0_image_27 ?_
  obtain ⟨e6, e7, e8, e9⟩ := rs4 hm
  subst e6
  subst e7
  subst e8
  subst e9
  exact rk_iretA (pc := 30) hx hb hr hlk hS31 ⟨rfl, hW35, hW34, hz37, hKM24⟩ dX0_image_30 (by exact Nat.le_of_ble_eq_true rfl) (by exact Nat.le_of_ble_eq_true rfl)
set_option maxHeartbeats 4000000 in
theorem ct_X0_image {G : Gv} {l : Launch} {b0 : Nat} {PL : Nat → Bool} {Z : Nat} {v0 : Mem} {v1 : Mem} {rx : Int32} {rc : Nat} {rw0 : Mem} {rw1 : Mem} (hm : fX0_image PL Z b0 v0 v1 = some (rx, rc, rw0, rw1)) (hPX : ∀ z, PL z = true → ¬ fX b0 z) (hZP : ZP G) : CT G l yX0_image (ws_ yX0_image cX0_image 1 (some .int)) 7 24 200 162 [.ref b0] (fun z => (fX b0) z ∨ (fP PL v1) z) Z (fun H => rg G b0 357 (shX0 G.2.1) v0 H ∧ pl G PL v1 H) (fun ov H => ov = (some (.int rx)) ∧ rg G b0 357 (shX0 G.2.1) rw0 H ∧ pl G PL rw1 H ∧ H.size = Z + rc ∧ KM v1 rw1 Z) := by
  refine Met.ofW (cc := cX0_image) (maxL := 1) (ret := (some .int)) (by decide +kernel) rfl ?_
  intro p e s m args below meth c s₁ B hml hv
  obtain ⟨rfl, ⟨hz, hW0, hW1⟩, hK⟩ := hv
  subst hz
  have he0 := rg_end hW0 356 (by decide) rfl (fun _ _ _ => rfl)
  have hZz : s.heap.size = s.heap.size := rfl
  have hts := atoms_spec (ws := ws_ yX0_image cX0_image 1 (some .int)) B.pre
  have hts : ∀ w ∈ lw_all, w.before _ s = true := fun w h => hts w (List.mem_cons_of_mem _ h)
  have C : Cx G p s m _ meth c RX0 cX0_image 1 (some .int) := ⟨B.exec, B.bytes, B.returns, B.notSynchronized, hml, findClass_of_methodNamed B.named, hts, hK⟩
  have hl := lv_entry ([.ref b0]) (n := 1) (Nat.le_of_ble_eq_true rfl)
  rw [lg_entry_eq]
  generalize (lg_sl ([.ref b0]) ++ List.replicate (1 - (lg_sl ([.ref b0])).length) Slot.unset).toArray = ls at hl ⊢
  have hl : lv_has ls 1 [(0, .ref b0)] := hl
  exact w_fX0_image C hPX he0 hZz hZP _ _ hm s.heap [] ls hW0 hW1 va_S.rf rfl KM.rf hl
noncomputable def fX0_count (PL : Nat → Bool) (b0 : Nat) (V0 : Mem) (V1 : Mem) (i1 : Int32) : Option (Int32) :=
  if i1 = (0 : Int32) then (
  some (gI V0 1 0))
  else if i1 = (1 : Int32) then (
  some (gI V0 1 1))
  else if i1 = (2 : Int32) then (
  if (gI V0 0 6) = 0 then (
  some (0 : Int32))
  else (
  some (gI V0 67 1)))
  else if i1 = (3 : Int32) then (
  if (gI V0 0 6) = 0 then (
  some (0 : Int32))
  else (
  some (gI V0 67 3)))
  else if i1 = (4 : Int32) then (
  if (gI V0 0 6) = 0 then (
  some (0 : Int32))
  else (
  some (gI V0 67 2)))
  else if i1 = (5 : Int32) then (
  some (gI V0 1 4))
  else if i1 = (6 : Int32) then (
  some (gI V0 1 5))
  else if i1 = (7 : Int32) then (
  gb (kd PL V1 (b0 + 153) 16) (
  ob (fJ1_size PL V1 (b0 + 153)) fun r13 =>
  some r13))
  else if i1 = (8 : Int32) then (
  some (gI V0 0 12))
  else if i1 = (9 : Int32) then (
  some (gI V0 1 3))
  else (
  some (-2 : Int32))
set_option maxHeartbeats 4000000 in
theorem w_fX0_count (C : Cx G p s m args meth c RX0 cX0_count 2 (some .int)) {b0 : Nat} {PL : Nat → Bool} {V0 : Mem} {V1 : Mem} {rx : Int32} (hW0 : rg G b0 357 (shX0 G.2.1) V0 s.heap) (hW1 : pl G PL V1 s.heap) : ∀ (i1 : Int32), fX0_count PL b0 V0 V1 i1 = some rx → ∀ (ls : Array Slot), lv_has ls 2 [(0, .ref b0), (1, .int i1)] → W p l e (rmP 1 20) s m args below meth c s.heap [] 0 0 (MQ below (QcP (some (.int rx))) args s 0 0 (fun _ => False)) (F0 m 0 ls []) := by
  intro i1 hm ls hl
  obtain ⟨hx, hb, hr, hlk, hml, hown, hts, hK⟩ := id C
  unfold fX0_count at hm
  refine lv_iload_n (pc := 0) hx hb dX0_count_0 rfl (lv_at hl 1 rfl) ?_
  by_cases c1 : i1 = (0 : Int32)
  · have hm := ite_t c1 hm
    refine lv_tableIn (pc := 1) (tgt := 56) hx hb dX0_count_1 (by rw [c1]; decide) (by rw [c1]; decide) (by rw [c1]; rfl) (by decide) ?_
    refine lv_aload_n (pc := 56) hx hb dX0_count_56 rfl (lv_at hl 0 rfl) ?_
    refine rk_get (pc := 57) hx hb hts hown hK hW0 flX0_12 0 (by decide) rfl rfl (x := .ref (b0 + 1)) (by first | rfl | exact congrArg (fun z => some (Value.ref z)) (by omega)) dX0_count_57 ?_
    refine rk_getN (pc := 60) hx hb hts hown hK hW0 fnX0_131 1 (by decide) rfl rfl (x := .int (gI V0 1 0)) rfl dX0_count_60 ?_
    have e9 := rs1 hm
    subst e9
    exact rk_iretP (pc := 63) hx hb hr hlk rfl dX0_count_63
  have hm := ite_f c1 hm
  by_cases c2 : i1 = (1 : Int32)
  · have hm := ite_t c2 hm
    refine lv_tableIn (pc := 1) (tgt := 64) hx hb dX0_count_1 (by rw [c2]; decide) (by rw [c2]; decide) (by rw [c2]; rfl) (by decide) ?_
    refine lv_aload_n (pc := 64) hx hb dX0_count_64 rfl (lv_at hl 0 rfl) ?_
    refine rk_get (pc := 65) hx hb hts hown hK hW0 flX0_12 0 (by decide) rfl rfl (x := .ref (b0 + 1)) (by first | rfl | exact congrArg (fun z => some (Value.ref z)) (by omega)) dX0_count_65 ?_
    refine rk_getN (pc := 68) hx hb hts hown hK hW0 fnX0_158 1 (by decide) rfl rfl (x := .int (gI V0 1 1)) rfl dX0_count_68 ?_
    have e9 := rs1 hm
    subst e9
    exact rk_iretP (pc := 71) hx hb hr hlk rfl dX0_count_71
  have hm := ite_f c2 hm
  by_cases c3 : i1 = (2 : Int32)
  · have hm := ite_t c3 hm
    refine lv_tableIn (pc := 1) (tgt := 72) hx hb dX0_count_1 (by rw [c3]; decide) (by rw [c3]; decide) (by rw [c3]; rfl) (by decide) ?_
    refine lv_aload_n (pc := 72) hx hb dX0_count_72 rfl (lv_at hl 0 rfl) ?_
    refine rk_get (pc := 73) hx hb hts hown hK hW0 flX0_121 0 (by decide) rfl rfl (x := .int (gI V0 0 6)) rfl dX0_count_73 ?_
    refine lv_if_eq (pc := 76) (tgt := 89) hx hb dX0_count_76 (by decide) (fun c4 => ?_) (fun c4 => ?_)
    · have hm := ite_t c4 hm
      refine lv_iconst (pc := 89) (v := (0 : Int32)) hx hb dX0_count_89 (by decide) ?_
      have e9 := rs1 hm
      subst e9
      exact rk_iretP (pc := 90) hx hb hr hlk rfl dX0_count_90
    · have hm := ite_f c4 hm
      refine lv_aload_n (pc := 79) hx hb dX0_count_79 rfl (lv_at hl 0 rfl) ?_
      refine rk_get (pc := 80) hx hb hts hown hK hW0 flX0_27 0 (by decide) rfl rfl (x := .ref (b0 + 67)) (by first | rfl | exact congrArg (fun z => some (Value.ref z)) (by omega)) dX0_count_80 ?_
      refine rk_getN (pc := 83) hx hb hts hown hK hW0 fnX0_229 67 (by decide) rfl rfl (x := .int (gI V0 67 1)) rfl dX0_count_83 ?_
      refine lv_goto (pc := 86) (tgt := 90) hx hb dX0_count_86 (by decide) ?_
      have e9 := rs1 hm
      subst e9
      exact rk_iretP (pc := 90) hx hb hr hlk rfl dX0_count_90
  have hm := ite_f c3 hm
  by_cases c5 : i1 = (3 : Int32)
  · have hm := ite_t c5 hm
    refine lv_tableIn (pc := 1) (tgt := 91) hx hb dX0_count_1 (by rw [c5]; decide) (by rw [c5]; decide) (by rw [c5]; rfl) (by decide) ?_
    refine lv_aload_n (pc := 91) hx hb dX0_count_91 rfl (lv_at hl 0 rfl) ?_
    refine rk_get (pc := 92) hx hb hts hown hK hW0 flX0_121 0 (by decide) rfl rfl (x := .int (gI V0 0 6)) rfl dX0_count_92 ?_
    refine lv_if_eq (pc := 95) (tgt := 108) hx hb dX0_count_95 (by decide) (fun c6 => ?_) (fun c6 => ?_)
    · have hm := ite_t c6 hm
      refine lv_iconst (pc := 108) (v := (0 : Int32)) hx hb dX0_count_108 (by decide) ?_
      have e9 := rs1 hm
      subst e9
      exact rk_iretP (pc := 109) hx hb hr hlk rfl dX0_count_109
    · have hm := ite_f c6 hm
      refine lv_aload_n (pc := 98) hx hb dX0_count_98 rfl (lv_at hl 0 rfl) ?_
      refine rk_get (pc := 99) hx hb hts hown hK hW0 flX0_27 0 (by decide) rfl rfl (x := .ref (b0 + 67)) (by first | rfl | exact congrArg (fun z => some (Value.ref z)) (by omega)) dX0_count_99 ?_
      refine rk_getN (pc := 102) hx hb hts hown hK hW0 fnX0_278 67 (by decide) rfl rfl (x := .int (gI V0 67 3)) rfl dX0_count_102 ?_
      refine lv_goto (pc := 105) (tgt := 109) hx hb dX0_count_105 (by decide) ?_
      have e9 := rs1 hm
      subst e9
      exact rk_iretP (pc := 109) hx hb hr hlk rfl dX0_count_109
  have hm := ite_f c5 hm
  by_cases c7 : i1 = (4 : Int32)
  · have hm := ite_t c7 hm
    refine lv_tableIn (pc := 1) (tgt := 110) hx hb dX0_count_1 (by rw [c7]; decide) (by rw [c7]; decide) (by rw [c7]; rfl) (by decide) ?_
    refine lv_aload_n (pc := 110) hx hb dX0_count_110 rfl (lv_at hl 0 rfl) ?_
    refine rk_get (pc := 111) hx hb hts hown hK hW0 flX0_121 0 (by decide) rfl rfl (x := .int (gI V0 0 6)) rfl dX0_count_111 ?_
    refine lv_if_eq (pc := 114) (tgt := 127) hx hb dX0_count_114 (by decide) (fun c8 => ?_) (fun c8 => ?_)
    · have hm := ite_t c8 hm
      refine lv_iconst (pc := 127) (v := (0 : Int32)) hx hb dX0_count_127 (by decide) ?_
      have e9 := rs1 hm
      subst e9
      exact rk_iretP (pc := 128) hx hb hr hlk rfl dX0_count_128
    · have hm := ite_f c8 hm
      refine lv_aload_n (pc := 117) hx hb dX0_count_117 rfl (lv_at hl 0 rfl) ?_
      refine rk_get (pc := 118) hx hb hts hown hK hW0 flX0_27 0 (by decide) rfl rfl (x := .ref (b0 + 67)) (by first | rfl | exact congrArg (fun z => some (Value.ref z)) (by omega)) dX0_count_118 ?_
      refine rk_getN (pc := 121) hx hb hts hown hK hW0 fnX0_421 67 (by decide) rfl rfl (x := .int (gI V0 67 2)) rfl dX0_count_121 ?_
      refine lv_goto (pc := 124) (tgt := 128) hx hb dX0_count_124 (by decide) ?_
      have e9 := rs1 hm
      subst e9
      exact rk_iretP (pc := 128) hx hb hr hlk rfl dX0_count_128
  have hm := ite_f c7 hm
  by_cases c9 : i1 = (5 : Int32)
  · have hm := ite_t c9 hm
    refine lv_tableIn (pc := 1) (tgt := 129) hx hb dX0_count_1 (by rw [c9]; decide) (by rw [c9]; decide) (by rw [c9]; rfl) (by decide) ?_
    refine lv_aload_n (pc := 129) hx hb dX0_count_129 rfl (lv_at hl 0 rfl) ?_
    refine rk_get (pc := 130) hx hb hts hown hK hW0 flX0_12 0 (by decide) rfl rfl (x := .ref (b0 + 1)) (by first | rfl | exact congrArg (fun z => some (Value.ref z)) (by omega)) dX0_count_130 ?_
    refine rk_getN (pc := 133) hx hb hts hown hK hW0 fnX0_476 1 (by decide) rfl rfl (x := .int (gI V0 1 4)) rfl dX0_count_133 ?_
    have e9 := rs1 hm
    subst e9
    exact rk_iretP (pc := 136) hx hb hr hlk rfl dX0_count_136
  have hm := ite_f c9 hm
  by_cases c10 : i1 = (6 : Int32)
  · have hm := ite_t c10 hm
    refine lv_tableIn (pc := 1) (tgt := 137) hx hb dX0_count_1 (by rw [c10]; decide) (by rw [c10]; decide) (by rw [c10]; rfl) (by decide) ?_
    refine lv_aload_n (pc := 137) hx hb dX0_count_137 rfl (lv_at hl 0 rfl) ?_
    refine rk_get (pc := 138) hx hb hts hown hK hW0 flX0_12 0 (by decide) rfl rfl (x := .ref (b0 + 1)) (by first | rfl | exact congrArg (fun z => some (Value.ref z)) (by omega)) dX0_count_138 ?_
    refine rk_getN (pc := 141) hx hb hts hown hK hW0 fnX0_555 1 (by decide) rfl rfl (x := .int (gI V0 1 5)) rfl dX0_count_141 ?_
    have e9 := rs1 hm
    subst e9
    exact rk_iretP (pc := 144) hx hb hr hlk rfl dX0_count_144
  have hm := ite_f c10 hm
  by_cases c11 : i1 = (7 : Int32)
  · have hm := ite_t c11 hm
    refine lv_tableIn (pc := 1) (tgt := 145) hx hb dX0_count_1 (by rw [c11]; decide) (by rw [c11]; decide) (by rw [c11]; rfl) (by decide) ?_
    refine lv_aload_n (pc := 145) hx hb dX0_count_145 rfl (lv_at hl 0 rfl) ?_
    refine rk_get (pc := 146) hx hb hts hown hK hW0 flX0_37 0 (by decide) rfl rfl (x := .ref (b0 + 153)) (by first | rfl | exact congrArg (fun z => some (Value.ref z)) (by omega)) dX0_count_146 ?_
    obtain ⟨hg12, hm⟩ := gb_some hm
    obtain ⟨r13, hq14, hm⟩ := ob_some hm
    refine rk_PV (pc := 149) (As := []) (rest := []) hx hb hml hown hts hK lkX0_503 rfl yn_J1_size (ct_J1_size (G := G) (l := l) hq14) ⟨Nat.le_of_ble_eq_true rfl, Nat.le_of_ble_eq_true rfl⟩ (rp_recv hK hW1 (C := RJ1) (T := TJ1) (N := 9) rfl (shP_16 (kd_PL hg12) (kd_k hg12))) hW1 rfl rfl hl.1 (Nat.le_of_ble_eq_true rfl) dX0_count_149 ⟨Nat.zero_le _, Nat.zero_le _⟩ ?_
    refine W.eq (g2 := F0 m 152 ls [.int r13]) rfl ?_
    have e9 := rs1 hm
    subst e9
    exact rk_iretP (pc := 152) hx hb hr hlk rfl dX0_count_152
  have hm := ite_f c11 hm
  by_cases c15 : i1 = (8 : Int32)
  · have hm := ite_t c15 hm
    refine lv_tableIn (pc := 1) (tgt := 153) hx hb dX0_count_1 (by rw [c15]; decide) (by rw [c15]; decide) (by rw [c15]; rfl) (by decide) ?_
    refine lv_aload_n (pc := 153) hx hb dX0_count_153 rfl (lv_at hl 0 rfl) ?_
    refine rk_get (pc := 154) hx hb hts hown hK hW0 flX0_189 0 (by decide) rfl rfl (x := .int (gI V0 0 12)) rfl dX0_count_154 ?_
    have e9 := rs1 hm
    subst e9
    exact rk_iretP (pc := 157) hx hb hr hlk rfl dX0_count_157
  have hm := ite_f c15 hm
  by_cases c16 : i1 = (9 : Int32)
  · have hm := ite_t c16 hm
    refine lv_tableIn (pc := 1) (tgt := 158) hx hb dX0_count_1 (by rw [c16]; decide) (by rw [c16]; decide) (by rw [c16]; rfl) (by decide) ?_
    refine lv_aload_n (pc := 158) hx hb dX0_count_158 rfl (lv_at hl 0 rfl) ?_
    refine rk_get (pc := 159) hx hb hts hown hK hW0 flX0_12 0 (by decide) rfl rfl (x := .ref (b0 + 1)) (by first | rfl | exact congrArg (fun z => some (Value.ref z)) (by omega)) dX0_count_159 ?_
    refine rk_getN (pc := 162) hx hb hts hown hK hW0 fnX0_324 1 (by decide) rfl rfl (x := .int (gI V0 1 3)) rfl dX0_count_162 ?_
    have e9 := rs1 hm
    subst e9
    exact rk_iretP (pc := 165) hx hb hr hlk rfl dX0_count_165
  have hm := ite_f c16 hm
  refine lv_tableOut (pc := 1) (tgt := 166) hx hb dX0_count_1 (tsw10 c1 c2 c3 c5 c7 c9 c10 c11 c15 c16) (by decide) ?_
  refine lv_bipush (pc := 166) (v := (-2 : Int32)) hx hb dX0_count_166 (by decide) ?_
  have e9 := rs1 hm
  subst e9
  exact rk_iretP (pc := 168) hx hb hr hlk rfl dX0_count_168
set_option maxHeartbeats 4000000 in
theorem ct_X0_count {G : Gv} {l : Launch} {b0 : Nat} {PL : Nat → Bool} {V0 : Mem} {V1 : Mem} {i1 : Int32} {rx : Int32} (hm : fX0_count PL b0 V0 V1 i1 = some rx) : CP G l yX0_count (ws_ yX0_count cX0_count 2 (some .int)) 1 20 [.ref b0, .int i1] (fun H => rg G b0 357 (shX0 G.2.1) V0 H ∧ pl G PL V1 H) (some (.int rx)) := by
  refine Met.ofW (cc := cX0_count) (maxL := 2) (ret := (some .int)) (by decide +kernel) rfl ?_
  intro p e s m args below meth c s₁ B hml hv
  obtain ⟨rfl, ⟨hW0, hW1⟩, hK⟩ := hv
  have hts := atoms_spec (ws := ws_ yX0_count cX0_count 2 (some .int)) B.pre
  have hts : ∀ w ∈ lw_all, w.before _ s = true := fun w h => hts w (List.mem_cons_of_mem _ h)
  have C : Cx G p s m _ meth c RX0 cX0_count 2 (some .int) := ⟨B.exec, B.bytes, B.returns, B.notSynchronized, hml, findClass_of_methodNamed B.named, hts, hK⟩
  have hl := lv_entry ([.ref b0, .int i1]) (n := 2) (Nat.le_of_ble_eq_true rfl)
  rw [lg_entry_eq]
  generalize (lg_sl ([.ref b0, .int i1]) ++ List.replicate (2 - (lg_sl ([.ref b0, .int i1])).length) Slot.unset).toArray = ls at hl ⊢
  have hl : lv_has ls 2 [(0, .ref b0), (1, .int i1)] := hl
  exact w_fX0_count C hW0 hW1 _ hm ls hl
theorem fnX0_386 : FN RX0 386 7 1 RX7 TX7 2 "WholePacks" := ⟨in_X7, rfl, by decide, q452⟩
noncomputable def fX0_nth (PL : Nat → Bool) (Z : Nat) (b0 : Nat) (v0 : Mem) (v1 : Mem) (i1 : Int32) : Option (Int32 × Nat × Mem × Mem) :=
  ob (fX0_in i1.toInt64 (0 : Int64) (19 : Int64)) fun r1 =>
  if r1 = 0 then (
  some ((-2 : Int32), 0, v0, v1))
  else (
  gb (kd PL v1 (b0 + 160) 17) (
  ob (fJ4_clear PL v1 (b0 + 160)) fun w5 =>
  gb (decide (0 ≤ 10 ∧ 0 ≤ 900)) (
  ln (Z + 0) fun h20 =>
  gb (decide (1 ≤ 10 ∧ 2 ≤ 900)) (
  ob3 (fX0_goesThrough_nth PL (Z + 1) b0 i1 h20 v0 w5) fun rc31 w32 w33 =>
  gb (decide (9 ≤ 10 ∧ 802 ≤ 900)) (
  gb (kd PL w33 (b0 + 160) 17) (
  ob (fJ4_size PL w33 (b0 + 160)) fun r50 =>
  if i1 < r50 then (
  gb (kd PL w33 (b0 + 160) 17) (
  ob (fJ4_peek PL w33 (b0 + 160)) fun oa54 =>
  od oa54 (
  none) (fun pa56 =>
  ob (fi b0 177 1 20 pa56) fun nf57 =>
  some ((gI w32 (177 + 1 * nf57 + 0) 1), (1 + rc31), w32, w33))))
  else (
  some ((-5 : Int32), (1 + rc31), w32, w33))))))))
set_option maxHeartbeats 4000000 in
theorem w_fX0_nth (C : Cx G p s m args meth c RX0 cX0_nth 2 (some .int)) {b0 : Nat} {PL : Nat → Bool} {Z : Nat} {vP0 : Mem} {rx : Int32} {rc : Nat} {rw0 : Mem} {rw1 : Mem} (hPX : ∀ z, PL z = true → ¬ fX b0 z) (he0 : b0 + 357 ≤ s.heap.size) (hZz : s.heap.size = Z) (hZ : ZQ G) (hgb0 : gB G ≤ b0) (hPg : ∀ z, PL z = true → gB G ≤ z) (hZP : ZP G) (hZL : ZL G) (hnm : s.methodNamed? yX0_nth = some m) : ∀ (v0 : Mem) (v1 : Mem) (i1 : Int32), fX0_nth PL Z b0 v0 v1 i1 = some (rx, rc, rw0, rw1) → ∀ (H : Heap) (locs : List Loc) (ls : Array Slot), rg G b0 357 (shX0 G.2.1) v0 H → pl G PL v1 H → va_S (FA (fun z => (fX b0) z ∨ (fP PL vP0) z) s.heap.size) s.heap H locs → H.size = s.heap.size + 0 → KM vP0 v1 s.heap.size → GO G H → 0 ≤ 10 ∧ 0 ≤ 900 → lv_has ls 2 [(0, .ref b0), (1, .int i1)] → W p l e (rmT 11 10 900 3088) s m args below meth c H locs 0 0 (MQ below (QcT (FA (fun z => (fX b0) z ∨ (fP PL vP0) z) s.heap.size) (fun ov H => ov = (some (.int rx)) ∧ rg G b0 357 (shX0 G.2.1) rw0 H ∧ pl G PL rw1 H ∧ H.size = s.heap.size + rc ∧ KM vP0 rw1 s.heap.size)) args s 10 900 (FA (fun z => (fX b0) z ∨ (fP PL vP0) z) s.heap.size)) (F0 m 0 ls []) := by
  intro v0 v1 i1 hm H locs ls hW0 hW1 hS hz hKM hG hcb hl
  obtain ⟨hx, hb, hr, hlk, hml, hown, hts, hK⟩ := id C
  unfold fX0_nth at hm
  refine lv_iload_n (pc := 0) hx hb dX0_nth_0 rfl (lv_at hl 1 rfl) ?_
  refine lv_i2l (pc := 1) hx hb dX0_nth_1 rfl ?_
  refine lv_lconst (pc := 2) (v := (0 : Int64)) hx hb dX0_nth_2 (by decide) ?_
  refine lv_ldc2 (pc := 3) (v := (19 : Int64)) hx hb hown (hts _ q988) dX0_nth_3 ?_
  obtain ⟨r1, hq2, hm⟩ := ob_some hm
  refine rk_PS (pc := 6) (As := [.long i1.toInt64, .long (0 : Int64), .long (19 : Int64)]) (rest := []) hx hb hml hown hts hK lkX0_127 yn_X0_in (ct_X0_in (G := G) (l := l) hq2) ⟨Nat.le_of_ble_eq_true rfl, Nat.le_of_ble_eq_true rfl⟩ trivial rfl rfl hl.1 (Nat.le_of_ble_eq_true rfl) dX0_nth_6 hcb ?_
  refine W.eq (g2 := F0 m 9 ls [.int r1]) rfl ?_
  refine lv_if_ne (pc := 9) (tgt := 15) hx hb dX0_nth_9 (by decide) (fun c3 => ?_) (fun c3 => ?_)
  · have hm := ite_f c3 hm
    refine lv_aload_n (pc := 15) hx hb dX0_nth_15 rfl (lv_at hl 0 rfl) ?_
    refine rk_get (pc := 16) hx hb hts hown hK hW0 flX0_78 0 (by decide) rfl rfl (x := .ref (b0 + 160)) (by first | rfl | exact congrArg (fun z => some (Value.ref z)) (by omega)) dX0_nth_16 ?_
    obtain ⟨hg4, hm⟩ := gb_some hm
    obtain ⟨w5, hq6, hm⟩ := ob_some hm
    obtain ⟨hg12, hm⟩ := gb_some hm
    have hg12 := of_decide_eq_true hg12
    refine rk_TV (pc := 19) (As := []) (rest := []) (mc := 0) (ms := 0) hx hb hml hown hts hK hS (fun q hq => FA_sz rfl q hq) lkX0_378 rfl yn_J4_clear (ct_J4_clear (G := G) (l := l) (sz := H.size) hq6) ⟨Nat.le_of_ble_eq_true rfl, Nat.le_of_ble_eq_true rfl⟩ (fun z h => (FA_r (KM_hf2 hKM z h))) (rp_recv hK hW1 (C := RJ4) (T := TJ4) (N := 4) rfl (shP_17 (kd_PL hg4) (kd_k hg4))) hW1 rfl rfl hl.1 (Nat.le_of_ble_eq_true rfl) dX0_nth_19 ⟨hg12.1, hg12.2⟩ (fun ov9 H7 locs8 hP9 hkp10 hS11 => ?_)
    obtain ⟨rfl, hW13, hz14, hKM15⟩ := hP9
    have hW16 := rg_keepX hW0 hkp10 (by intro z h0 h3; have h1 := h0.1.1; have h2 := h0.1.2; have h4 := h0.2; exact hPX _ h3.1 h0)
    have hG17 := GO_keepA hG hkp10 (Nat.le_trans (show gB G ≤ s.heap.size by omega) hS.1) (by intro z h3; exact hPg _ h3.1)
    have hz18 := hz14.trans hz
    have hKM19 := KM.trans hKM hKM15 (by omega)
    refine W.eq (g2 := F0 m 22 ls []) rfl ?_
    refine lv_aload_n (pc := 22) hx hb dX0_nth_22 rfl (lv_at hl 0 rfl) ?_
    refine lv_aload_n (pc := 23) hx hb dX0_nth_23 rfl (lv_at hl 0 rfl) ?_
    refine lv_iload_n (pc := 24) hx hb dX0_nth_24 rfl (lv_at hl 1 rfl) ?_
    obtain ⟨h20, hhh20, hm⟩ := ln_some hm
    have hh20 : H7.size = h20 := by omega
    have hqh20 : s.heap.size ≤ h20 := Nat.le_trans hS11.1 (Nat.le_of_eq hh20)
    obtain ⟨hg26, hm⟩ := gb_some hm
    have hg26 := of_decide_eq_true hg26
    refine rk_made (pc := 25) (h := h20) (vals := [.ref b0, .int i1]) (rest := [.ref b0]) hx hb hml hl.1 hnm hS11 (hZL.1 s hK).2.2.1 lfK0 rfl rfl (fun i v hv => by rcases i with _ | _ | i <;> simp at hv <;> subst hv <;> exact ⟨_, rfl, rfl⟩) rfl (Nat.le_of_ble_eq_true rfl) hh20 (Nat.le_of_ble_eq_true rfl) (Nat.le_of_ble_eq_true rfl) dX0_nth_25 (fun H21 hL22 hS23 hz24 hkp25 => ?_)
    have hW27 := rg_keepN hW16 hh20 hkp25
    have hW28 := pl_keepN hW13 hh20 hkp25
    have hz29 : H21.size = s.heap.size + 1 := by omega
    have hG30 := GO_keepN hG17 (by omega) hkp25
    obtain ⟨rc31, w32, w33, hq34, hm⟩ := ob3_some hm
    have hq35 := hq34
    rw [show (Z + 1) = H21.size by omega] at hq35
    obtain ⟨hg41, hm⟩ := gb_some hm
    have hg41 := of_decide_eq_true hg41
    refine rk_TV (pc := 30) (As := [.ref h20]) (rest := []) (mc := 8) (ms := 800) hx hb hml hown hts hK hS23 (fun q hq => FA_sz rfl q hq) lkX0_382 rfl yn_X0_goesThrough (ct_X0_goesThrough_nth (G := G) (l := l) (b0 := b0) hq35 hPX (by omega) hZ (by omega) hPg hZP hZL) ⟨Nat.le_of_ble_eq_true rfl, Nat.le_of_ble_eq_true rfl⟩ (fun z h => h.elim (fun h => Or.inl (Or.inl h)) (fun h => (FA_r (KM_hf2 hKM19 z h)))) (rk_recv hK hW27 0 (by decide) rfl rfl rfl) ⟨hW27, hW28, hG30, hL22⟩ rfl rfl hl.1 (Nat.le_of_ble_eq_true rfl) dX0_nth_30 ⟨hg41.1, hg41.2⟩ (fun ov9 H36 locs37 hP38 hkp39 hS40 => ?_)
    obtain ⟨rfl, hW42, hW43, hz44, hKM45⟩ := hP38
    have hG46 := GO_keepA hG30 hkp39 (Nat.le_trans (show gB G ≤ s.heap.size by omega) hS23.1) (by intro z h3; exact h3.elim (fun h3 => by have h8 := h3.1.1; have h9 := h3.1.2; omega) (fun h3 => by exact hPg _ h3.1))
    have hz47 : H36.size = s.heap.size + (1 + rc31) := by omega
    have hKM48 := KM.trans hKM19 hKM45 (by omega)
    refine W.eq (g2 := F0 m 33 ls []) rfl ?_
    refine lv_aload_n (pc := 33) hx hb dX0_nth_33 rfl (lv_at hl 0 rfl) ?_
    refine rk_get (pc := 34) hx hb hts hown hK hW42 flX0_78 0 (by decide) rfl rfl (x := .ref (b0 + 160)) (by first | rfl | exact congrArg (fun z => some (Value.ref z)) (by omega)) dX0_nth_34 ?_
    obtain ⟨hg49, hm⟩ := gb_some hm
    obtain ⟨r50, hq51, hm⟩ := ob_some hm
    refine rk_PV (pc := 37) (As := []) (rest := []) hx hb hml hown hts hK lkX0_353 rfl yn_J4_size (ct_J4_size (G := G) (l := l) hq51) ⟨Nat.le_of_ble_eq_true rfl, Nat.le_of_ble_eq_true rfl⟩ (rp_recv hK hW43 (C := RJ4) (T := TJ4) (N := 4) rfl (shP_17 (kd_PL hg49) (kd_k hg49))) hW43 rfl rfl hl.1 (Nat.le_of_ble_eq_true rfl) dX0_nth_37 hg41 ?_
    refine W.eq (g2 := F0 m 40 ls [.int r50]) rfl ?_
    refine lv_iload_n (pc := 40) hx hb dX0_nth_40 rfl (lv_at hl 1 rfl) ?_
    refine lv_icmp_gt (pc := 41) (tgt := 49) hx hb dX0_nth_41 (by decide) (fun c52 => ?_) (fun c52 => ?_)
    · have hm := ite_t c52 hm
      refine lv_aload_n (pc := 49) hx hb dX0_nth_49 rfl (lv_at hl 0 rfl) ?_
      refine rk_get (pc := 50) hx hb hts hown hK hW42 flX0_78 0 (by decide) rfl rfl (x := .ref (b0 + 160)) (by first | rfl | exact congrArg (fun z => some (Value.ref z)) (by omega)) dX0_nth_50 ?_
      obtain ⟨hg53, hm⟩ := gb_some hm
      obtain ⟨oa54, hq55, hm⟩ := ob_some hm
      refine rk_PV (pc := 53) (As := []) (rest := []) hx hb hml hown hts hK lkX0_365 rfl yn_J4_peek (ct_J4_peek (G := G) (l := l) hq55) ⟨Nat.le_of_ble_eq_true rfl, Nat.le_of_ble_eq_true rfl⟩ (rp_recv hK hW43 (C := RJ4) (T := TJ4) (N := 4) rfl (shP_17 (kd_PL hg53) (kd_k hg53))) hW43 rfl rfl hl.1 (Nat.le_of_ble_eq_true rfl) dX0_nth_53 hg41 ?_
      refine W.eq (g2 := F0 m 56 ls [va_rf oa54]) rfl ?_
      rcases oa54 with _ | pa56
      · have hm := od_n hm
        refine lv_castN (pc := 56) hx hb dX0_nth_56 ?_
        exact nomatch hm
      · have hm := od_s hm
        obtain ⟨nf57, hf58, hm61⟩ := ob_some hm
        obtain ⟨ha59, hlt60⟩ := fi_some hf58
        subst ha59
        have hm := hm61
        refine rk_castS (pc := 56) hx hb hown hts hK q362 hW42 (177 + 1 * nf57 + 0) (by omega) rfl rfl ((shX0_f177 G.2.1 hlt60 _ rfl 0 (by decide) _ _ _).trans rfl) dX0_nth_56 ?_
        refine rk_getN (pc := 59) hx hb hts hown hK hW42 fnX0_386 (177 + 1 * nf57 + 0) (by omega) rfl ((shX0_f177 G.2.1 hlt60 _ rfl 0 (by decide) _ _ _).trans rfl) (x := .int (gI w32 (177 + 1 * nf57 + 0) 1)) rfl dX0_nth_59 ?_
        obtain ⟨e6, e7, e8, e9⟩ := rs4 hm
        subst e6
        subst e7
        subst e8
        subst e9
        exact rk_iretA (pc := 62) hx hb hr hlk hS40 ⟨rfl, hW42, hW43, hz47, hKM48⟩ dX0_nth_62 hg41.1 hg41.2
    · have hm := ite_f c52 hm
      refine lv_bipush (pc := 44) (v := (-5 : Int32)) hx hb dX0_nth_44 (by decide) ?_
      refine lv_goto (pc := 46) (tgt := 62) hx hb dX0_nth_46 (by decide) ?_
      obtain ⟨e6, e7, e8, e9⟩ := rs4 hm
      subst e6
      subst e7
      subst e8
      subst e9
      exact rk_iretA (pc := 62) hx hb hr hlk hS40 ⟨rfl, hW42, hW43, hz47, hKM48⟩ dX0_nth_62 hg41.1 hg41.2
  · have hm := ite_t c3 hm
    refine lv_bipush (pc := 12) (v := (-2 : Int32)) hx hb dX0_nth_12 (by decide) ?_
    obtain ⟨e6, e7, e8, e9⟩ := rs4 hm
    subst e6
    subst e7
    subst e8
    subst e9
    exact rk_iretA (pc := 14) hx hb hr hlk hS ⟨rfl, hW0, hW1, hz, hKM⟩ dX0_nth_14 hcb.1 hcb.2
set_option maxHeartbeats 4000000 in
theorem ct_X0_nth {G : Gv} {l : Launch} {b0 : Nat} {PL : Nat → Bool} {Z : Nat} {v0 : Mem} {v1 : Mem} {i1 : Int32} {rx : Int32} {rc : Nat} {rw0 : Mem} {rw1 : Mem} (hm : fX0_nth PL Z b0 v0 v1 i1 = some (rx, rc, rw0, rw1)) (hPX : ∀ z, PL z = true → ¬ fX b0 z) (hZ : ZQ G) (hgb0 : gB G ≤ b0) (hPg : ∀ z, PL z = true → gB G ≤ z) (hZP : ZP G) (hZL : ZL G) : CT G l yX0_nth (ws_ yX0_nth cX0_nth 2 (some .int)) 11 10 900 3088 [.ref b0, .int i1] (fun z => (fX b0) z ∨ (fP PL v1) z) Z (fun H => rg G b0 357 (shX0 G.2.1) v0 H ∧ pl G PL v1 H ∧ GO G H) (fun ov H => ov = (some (.int rx)) ∧ rg G b0 357 (shX0 G.2.1) rw0 H ∧ pl G PL rw1 H ∧ H.size = Z + rc ∧ KM v1 rw1 Z) := by
  refine Met.ofW (cc := cX0_nth) (maxL := 2) (ret := (some .int)) (by decide +kernel) rfl ?_
  intro p e s m args below meth c s₁ B hml hv
  obtain ⟨rfl, ⟨hz, hW0, hW1, hG⟩, hK⟩ := hv
  subst hz
  have he0 := rg_end hW0 356 (by decide) rfl (fun _ _ _ => rfl)
  have hZz : s.heap.size = s.heap.size := rfl
  have hnm := B.named
  have hts := atoms_spec (ws := ws_ yX0_nth cX0_nth 2 (some .int)) B.pre
  have hts : ∀ w ∈ lw_all, w.before _ s = true := fun w h => hts w (List.mem_cons_of_mem _ h)
  have C : Cx G p s m _ meth c RX0 cX0_nth 2 (some .int) := ⟨B.exec, B.bytes, B.returns, B.notSynchronized, hml, findClass_of_methodNamed B.named, hts, hK⟩
  have hl := lv_entry ([.ref b0, .int i1]) (n := 2) (Nat.le_of_ble_eq_true rfl)
  rw [lg_entry_eq]
  generalize (lg_sl ([.ref b0, .int i1]) ++ List.replicate (2 - (lg_sl ([.ref b0, .int i1])).length) Slot.unset).toArray = ls at hl ⊢
  have hl : lv_has ls 2 [(0, .ref b0), (1, .int i1)] := hl
  exact w_fX0_nth C hPX he0 hZz hZ hgb0 hPg hZP hZL hnm _ _ _ hm s.heap [] ls hW0 hW1 va_S.rf rfl KM.rf hG ⟨Nat.zero_le _, Nat.zero_le _⟩ hl
end
