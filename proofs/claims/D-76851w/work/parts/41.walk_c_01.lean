set_option maxRecDepth 100000
section
variable {p : Program} {l : Launch} {e : Env} {s : State} {m : MethodId} {args : Array Value} {below : List Frame} {meth : Method} {c : Code} {G : Gv}
theorem flX0_78 : FL RX0 78 0 15 RX0 TX0 25 := ⟨in_X0, rfl, by decide, q513⟩
theorem lkX0_353 : LV RX0 353 RJ4 yJ4_size cJ4_size 1 (some .int) := ⟨q1000, q1001, q1002, q123, q1003⟩
theorem yn_J4_peek : YN yJ4_peek 0 := by
  unfold YN
  decide +kernel
theorem lkX0_365 : LV RX0 365 RJ4 yJ4_peek cJ4_peek 1 (some (.object "java/lang/Object")) := ⟨q1126, q1127, q1128, q123, q1129⟩
theorem lkX0_369 : LV RX0 369 RX7 yX7_isBehind cX7_isBehind 3 (some .boolean) := ⟨q1130, q1093, q1094, q126, q1095⟩
theorem yn_J4_poll : YN yJ4_poll 0 := by
  unfold YN
  decide +kernel
theorem lkX0_373 : LV RX0 373 RJ4 yJ4_poll cJ4_poll 6 (some (.object "java/lang/Object")) := ⟨q1131, q1132, q1133, q123, q1134⟩
theorem yn_X7_is : YN yX7_is 2 := by
  unfold YN
  decide +kernel
theorem lkX0_357 : LV RX0 357 RX7 yX7_is cX7_is 3 none := ⟨q1004, q1005, q1006, q126, q1007⟩
theorem yn_J4_add : YN yJ4_add 1 := by
  unfold YN
  decide +kernel
theorem lkX0_361 : LV RX0 361 RJ4 yJ4_add cJ4_add 2 (some .boolean) := ⟨q1008, q1009, q1010, q123, q1011⟩
theorem flX0_66 : FL RX0 66 0 14 RX0 TX0 25 := ⟨in_X0, rfl, by decide, q512⟩
noncomputable def fX0_keeps_fit (PL : Nat → Bool) (b0 : Nat) (v0 : Mem) (v1 : Mem) (i1 : Int32) (i2 : Int32) (i3 : Int32) : Option (Int32 × Mem × Mem) :=
  gb (kd PL v1 (b0 + 160) 17) (
  ob (fJ4_size PL v1 (b0 + 160)) fun r2 =>
  if i1 ≤ r2 then (
  gb (kd PL v1 (b0 + 160) 17) (
  ob (fJ4_peek PL v1 (b0 + 160)) fun oa6 =>
  od oa6 (
  none) (fun pa8 =>
  ob (fi b0 177 1 20 pa8) fun nf9 =>
  ob (fX7_isBehind (shf v0 (177 + 1 * nf9)) i3 i2) fun r14 =>
  if r14 = 0 then (
  some ((1 : Int32), v0, v1))
  else (
  gb (kd PL v1 (b0 + 160) 17) (
  ob2 (fJ4_poll_found PL b0 v0 v1 (b0 + 160)) fun oa18 w19 =>
  od oa18 (
  none) (fun pa32 =>
  ob (fi b0 177 1 20 pa32) fun nf33 =>
  ob (fX7_is (shf v0 (177 + 1 * nf33)) i3 i2) fun w38 =>
  lm (ptm v0 (177 + 1 * nf33) 1 w38) fun v0_49 =>
  gb (kd PL w19 (b0 + 160) 17) (
  ob2 (fJ4_add_foundfit PL b0 v0_49 w19 (b0 + 160) (b0 + (177 + 1 * nf33 + 0))) fun r52 w53 =>
  some ((1 : Int32), v0_49, w53))))))))
  else (
  gb (kd PL v1 (b0 + 160) 17) (
  ob (fJ4_size PL v1 (b0 + 160)) fun r67 =>
  gb (inR r67 20) (
  ob (fX7_is (shf v0 (177 + 1 * r67.toNatClampNeg)) i3 i2) fun w71 =>
  lm (ptm v0 (177 + 1 * r67.toNatClampNeg) 1 w71) fun v0_82 =>
  gb (kd PL v1 (b0 + 160) 17) (
  ob2 (fJ4_add_foundfit PL b0 v0_82 v1 (b0 + 160) (b0 + (177 + 1 * r67.toNatClampNeg + 0))) fun r85 w86 =>
  some ((1 : Int32), v0_82, w86))))))
set_option maxHeartbeats 4000000 in
theorem w_fX0_keeps_fit (C : Cx G p s m args meth c RX0 cX0_keeps 5 (some .boolean)) {b0 : Nat} {PL : Nat → Bool} {vP0 : Mem} {rx : Int32} {rw0 : Mem} {rw1 : Mem} (hPX : ∀ z, PL z = true → ¬ fX b0 z) (hZP : ZP G) : ∀ (v0 : Mem) (v1 : Mem) (i1 : Int32) (i2 : Int32) (i3 : Int32), fX0_keeps_fit PL b0 v0 v1 i1 i2 i3 = some (rx, rw0, rw1) → ∀ (H : Heap) (locs : List Loc) (ls : Array Slot), rg G b0 357 (shX0 G.2.1) v0 H → pl G PL v1 H → va_S (FA (fun z => (fX b0) z ∨ (fP PL vP0) z) s.heap.size) s.heap H locs → H.size = s.heap.size → KM vP0 v1 s.heap.size → lv_has ls 5 [(0, .ref b0), (1, .int i1), (2, .int i2), (3, .int i3)] → W p l e (rmT 7 0 0 156) s m args below meth c H locs 0 0 (MQ below (QcT (FA (fun z => (fX b0) z ∨ (fP PL vP0) z) s.heap.size) (fun ov H => ov = (some (.int rx)) ∧ rg G b0 357 (shX0 G.2.1) rw0 H ∧ pl G PL rw1 H ∧ H.size = s.heap.size ∧ KM vP0 rw1 s.heap.size)) args s 0 0 (FA (fun z => (fX b0) z ∨ (fP PL vP0) z) s.heap.size)) (F0 m 0 ls []) := by
  intro v0 v1 i1 i2 i3 hm H locs ls hW0 hW1 hS hz hKM hl
  obtain ⟨hx, hb, hr, hlk, hml, hown, hts, hK⟩ := id C
  unfold fX0_keeps_fit at hm
  refine lv_aload_n (pc := 0) hx hb dX0_keeps_0 rfl (lv_at hl 0 rfl) ?_
  refine rk_get (pc := 1) hx hb hts hown hK hW0 flX0_78 0 (by decide) rfl rfl (x := .ref (b0 + 160)) (by first | rfl | exact congrArg (fun z => some (Value.ref z)) (by omega)) dX0_keeps_1 ?_
  obtain ⟨hg1, hm⟩ := gb_some hm
  obtain ⟨r2, hq3, hm⟩ := ob_some hm
  refine rk_PV (pc := 4) (As := []) (rest := []) hx hb hml hown hts hK lkX0_353 rfl yn_J4_size (ct_J4_size (G := G) (l := l) hq3) ⟨Nat.le_of_ble_eq_true rfl, Nat.le_of_ble_eq_true rfl⟩ (rp_recv hK hW1 (C := RJ4) (T := TJ4) (N := 4) rfl (shP_17 (kd_PL hg1) (kd_k hg1))) hW1 rfl rfl hl.1 (Nat.le_of_ble_eq_true rfl) dX0_keeps_4 ⟨Nat.zero_le _, Nat.zero_le _⟩ ?_
  refine W.eq (g2 := F0 m 7 ls [.int r2]) rfl ?_
  refine lv_iload_n (pc := 7) hx hb dX0_keeps_7 rfl (lv_at hl 1 rfl) ?_
  refine lv_icmp_ge (pc := 8) (tgt := 44) hx hb dX0_keeps_8 (by decide) (fun c4 => ?_) (fun c4 => ?_)
  · have hm := ite_t c4 hm
    refine lv_aload_n (pc := 44) hx hb dX0_keeps_44 rfl (lv_at hl 0 rfl) ?_
    refine rk_get (pc := 45) hx hb hts hown hK hW0 flX0_78 0 (by decide) rfl rfl (x := .ref (b0 + 160)) (by first | rfl | exact congrArg (fun z => some (Value.ref z)) (by omega)) dX0_keeps_45 ?_
    obtain ⟨hg5, hm⟩ := gb_some hm
    obtain ⟨oa6, hq7, hm⟩ := ob_some hm
    refine rk_PV (pc := 48) (As := []) (rest := []) hx hb hml hown hts hK lkX0_365 rfl yn_J4_peek (ct_J4_peek (G := G) (l := l) hq7) ⟨Nat.le_of_ble_eq_true rfl, Nat.le_of_ble_eq_true rfl⟩ (rp_recv hK hW1 (C := RJ4) (T := TJ4) (N := 4) rfl (shP_17 (kd_PL hg5) (kd_k hg5))) hW1 rfl rfl hl.1 (Nat.le_of_ble_eq_true rfl) dX0_keeps_48 ⟨Nat.zero_le _, Nat.zero_le _⟩ ?_
    refine W.eq (g2 := F0 m 51 ls [va_rf oa6]) rfl ?_
    rcases oa6 with _ | pa8
    · have hm := od_n hm
      refine lv_castN (pc := 51) hx hb dX0_keeps_51 ?_
      refine lv_iload_n (pc := 54) hx hb dX0_keeps_54 rfl (lv_at hl 3 rfl) ?_
      refine lv_iload_n (pc := 55) hx hb dX0_keeps_55 rfl (lv_at hl 2 rfl) ?_
      exact nomatch hm
    · have hm := od_s hm
      obtain ⟨nf9, hf10, hm13⟩ := ob_some hm
      obtain ⟨ha11, hlt12⟩ := fi_some hf10
      subst ha11
      have hm := hm13
      refine rk_castS (pc := 51) hx hb hown hts hK q362 hW0 (177 + 1 * nf9 + 0) (by omega) rfl rfl ((shX0_f177 G.2.1 hlt12 _ rfl 0 (by decide) _ _ _).trans rfl) dX0_keeps_51 ?_
      refine lv_iload_n (pc := 54) hx hb dX0_keeps_54 rfl (lv_at hl 3 rfl) ?_
      refine lv_iload_n (pc := 55) hx hb dX0_keeps_55 rfl (lv_at hl 2 rfl) ?_
      obtain ⟨r14, hq15, hm⟩ := ob_some hm
      refine rk_PV (pc := 56) (As := [.int i3, .int i2]) (rest := []) hx hb hml hown hts hK lkX0_369 rfl yn_X7_isBehind (ct_X7_isBehind (G := G) (l := l) (b0 := (b0 + (177 + 1 * nf9 + 0))) hq15) ⟨Nat.le_of_ble_eq_true rfl, Nat.le_of_ble_eq_true rfl⟩ (rk_recv hK hW0 (177 + 1 * nf9 + 0) (by omega) rfl rfl ((shX0_f177 G.2.1 hlt12 _ rfl 0 (by decide) _ _ _).trans rfl)) (rg_sub (d := (177 + 1 * nf9)) hW0 rfl (by omega) (fun o ho x y z => shX0_f177 G.2.1 hlt12 _ rfl o ho x y z)) rfl rfl hl.1 (Nat.le_of_ble_eq_true rfl) dX0_keeps_56 ⟨Nat.zero_le _, Nat.zero_le _⟩ ?_
      refine W.eq (g2 := F0 m 59 ls [.int r14]) rfl ?_
      refine lv_if_eq (pc := 59) (tgt := 91) hx hb dX0_keeps_59 (by decide) (fun c16 => ?_) (fun c16 => ?_)
      · have hm := ite_t c16 hm
        refine lv_iconst (pc := 91) (v := (1 : Int32)) hx hb dX0_keeps_91 (by decide) ?_
        obtain ⟨e7, e8, e9⟩ := rs3 hm
        subst e7
        subst e8
        subst e9
        exact rk_zret (pc := 92) hx hb hr hlk rfl hS ⟨rfl, hW0, hW1, hz, hKM⟩ dX0_keeps_92
      · have hm := ite_f c16 hm
        refine lv_aload_n (pc := 62) hx hb dX0_keeps_62 rfl (lv_at hl 0 rfl) ?_
        refine rk_get (pc := 63) hx hb hts hown hK hW0 flX0_78 0 (by decide) rfl rfl (x := .ref (b0 + 160)) (by first | rfl | exact congrArg (fun z => some (Value.ref z)) (by omega)) dX0_keeps_63 ?_
        obtain ⟨hg17, hm⟩ := gb_some hm
        obtain ⟨oa18, w19, hq20, hm⟩ := ob2_some hm
        refine rk_TV (pc := 66) (As := []) (rest := []) (mc := 0) (ms := 0) hx hb hml hown hts hK hS (fun q hq => FA_sz rfl q hq) lkX0_373 rfl yn_J4_poll (ct_J4_poll_found (G := G) (l := l) (b0 := b0) (sz := H.size) hq20 hPX hZP) ⟨Nat.le_of_ble_eq_true rfl, Nat.le_of_ble_eq_true rfl⟩ (fun z h => (FA_r (KM_hf2 hKM z h))) (rp_recv hK hW1 (C := RJ4) (T := TJ4) (N := 4) rfl (shP_17 (kd_PL hg17) (kd_k hg17))) ⟨hW0, hW1⟩ rfl rfl hl.1 (Nat.le_of_ble_eq_true rfl) dX0_keeps_66 ⟨Nat.zero_le _, Nat.zero_le _⟩ (fun ov9 H21 locs22 hP23 hkp24 hS25 => ?_)
        obtain ⟨rfl, hW26, hz27, hKM28⟩ := hP23
        have hW29 := rg_keepX hW0 hkp24 (by intro z h0 h3; have h1 := h0.1.1; have h2 := h0.1.2; have h4 := h0.2; exact hPX _ h3.1 h0)
        have hz30 := hz27.trans hz
        have hKM31 := KM.trans hKM hKM28 (by omega)
        refine W.eq (g2 := F0 m 69 ls [va_rf oa18]) rfl ?_
        rcases oa18 with _ | pa32
        · have hm := od_n hm
          refine lv_castN (pc := 69) hx hb dX0_keeps_69 ?_
          refine lv_astoreN (pc := 72) (lv' := [(4, .null), (0, .ref b0), (1, .int i1), (2, .int i2), (3, .int i3)]) hx hb dX0_keeps_72 hl (by decide) rfl (fun ls hl => ?_)
          refine lv_aloadN (pc := 74) hx hb dX0_keeps_74 (lv_at hl 0 rfl) ?_
          refine lv_iload_n (pc := 76) hx hb dX0_keeps_76 rfl (lv_at hl 4 rfl) ?_
          refine lv_iload_n (pc := 77) hx hb dX0_keeps_77 rfl (lv_at hl 3 rfl) ?_
          exact nomatch hm
        · have hm := od_s hm
          obtain ⟨nf33, hf34, hm37⟩ := ob_some hm
          obtain ⟨ha35, hlt36⟩ := fi_some hf34
          subst ha35
          have hm := hm37
          refine rk_castS (pc := 69) hx hb hown hts hK q362 hW29 (177 + 1 * nf33 + 0) (by omega) rfl rfl ((shX0_f177 G.2.1 hlt36 _ rfl 0 (by decide) _ _ _).trans rfl) dX0_keeps_69 ?_
          refine lv_astore (pc := 72) (lv' := [(4, .ref (b0 + (177 + 1 * nf33 + 0))), (0, .ref b0), (1, .int i1), (2, .int i2), (3, .int i3)]) hx hb dX0_keeps_72 hl (by decide) rfl (fun ls hl => ?_)
          refine lv_aload (pc := 74) hx hb dX0_keeps_74 (lv_at hl 0 rfl) ?_
          refine lv_iload_n (pc := 76) hx hb dX0_keeps_76 rfl (lv_at hl 4 rfl) ?_
          refine lv_iload_n (pc := 77) hx hb dX0_keeps_77 rfl (lv_at hl 3 rfl) ?_
          obtain ⟨w38, hq39, hm⟩ := ob_some hm
          refine rk_TV (pc := 78) (As := [.int i3, .int i2]) (rest := []) (mc := 0) (ms := 0) hx hb hml hown hts hK hS25 (fun q hq => FA_sz rfl q hq) lkX0_357 rfl yn_X7_is (ct_X7_is (G := G) (l := l) (b0 := (b0 + (177 + 1 * nf33 + 0))) (sz := H21.size) hq39) ⟨Nat.le_of_ble_eq_true rfl, Nat.le_of_ble_eq_true rfl⟩ (fun z h => Or.inl (Or.inl (show fX _ _ from ⟨⟨by have h8 := h.1; have h9 := h.2; omega, by have h8 := h.1; have h9 := h.2; omega⟩, by have h8 := h.1; have h9 := h.2; omega⟩))) (rk_recv hK hW29 (177 + 1 * nf33 + 0) (by omega) rfl rfl ((shX0_f177 G.2.1 hlt36 _ rfl 0 (by decide) _ _ _).trans rfl)) (rg_sub (d := (177 + 1 * nf33)) hW29 rfl (by omega) (fun o ho x y z => shX0_f177 G.2.1 hlt36 _ rfl o ho x y z)) rfl rfl hl.1 (Nat.le_of_ble_eq_true rfl) dX0_keeps_78 ⟨Nat.zero_le _, Nat.zero_le _⟩ (fun ov9 H40 locs41 hP42 hkp43 hS44 => ?_)
          obtain ⟨rfl, hW45, hz46⟩ := hP42
          have hW47 := pl_keepA hW26 hkp43 (by intro z h1 h3; have h8 := h3.1; have h9 := h3.2; exact hPX _ h1 (show fX _ _ from ⟨⟨by omega, by omega⟩, by omega⟩))
          have hW48 := rg_put (d := (177 + 1 * nf33)) hW29 hW45 rfl (fun o ho x y z => shX0_f177 G.2.1 hlt36 _ rfl o ho x y z) hkp43
          obtain ⟨v0_49, he9, hm⟩ := lm_some hm
          rw [he9] at hW48
          have hz50 := hz46.trans hz30
          refine W.eq (g2 := F0 m 81 ls []) rfl ?_
          refine lv_aload_n (pc := 81) hx hb dX0_keeps_81 rfl (lv_at hl 1 rfl) ?_
          refine rk_get (pc := 82) hx hb hts hown hK hW48 flX0_78 0 (by decide) rfl rfl (x := .ref (b0 + 160)) (by first | rfl | exact congrArg (fun z => some (Value.ref z)) (by omega)) dX0_keeps_82 ?_
          refine lv_aload (pc := 85) hx hb dX0_keeps_85 (lv_at hl 0 rfl) ?_
          obtain ⟨hg51, hm⟩ := gb_some hm
          obtain ⟨r52, w53, hq54, hm⟩ := ob2_some hm
          refine rk_TV (pc := 87) (As := [.ref (b0 + (177 + 1 * nf33 + 0))]) (rest := []) (mc := 0) (ms := 0) hx hb hml hown hts hK hS44 (fun q hq => FA_sz rfl q hq) lkX0_361 rfl yn_J4_add (ct_J4_add_foundfit (G := G) (l := l) (b0 := b0) (sz := H40.size) hq54 hPX hZP) ⟨Nat.le_of_ble_eq_true rfl, Nat.le_of_ble_eq_true rfl⟩ (fun z h => (FA_r (KM_hf2 hKM31 z h))) (rp_recv hK hW47 (C := RJ4) (T := TJ4) (N := 4) rfl (shP_17 (kd_PL hg51) (kd_k hg51))) ⟨hW48, hW47⟩ rfl rfl hl.1 (Nat.le_of_ble_eq_true rfl) dX0_keeps_87 ⟨Nat.zero_le _, Nat.zero_le _⟩ (fun ov9 H55 locs56 hP57 hkp58 hS59 => ?_)
          obtain ⟨rfl, hW60, hz61, hKM62⟩ := hP57
          have hW63 := rg_keepX hW48 hkp58 (by intro z h0 h3; have h1 := h0.1.1; have h2 := h0.1.2; have h4 := h0.2; exact hPX _ h3.1 h0)
          have hz64 := hz61.trans hz50
          have hKM65 := KM.trans hKM31 hKM62 (by omega)
          refine W.eq (g2 := F0 m 90 ls [.int r52]) rfl ?_
          refine lv_pop (pc := 90) hx hb dX0_keeps_90 rfl ?_
          refine lv_iconst (pc := 91) (v := (1 : Int32)) hx hb dX0_keeps_91 (by decide) ?_
          obtain ⟨e7, e8, e9⟩ := rs3 hm
          subst e7
          subst e8
          subst e9
          exact rk_zret (pc := 92) hx hb hr hlk rfl hS59 ⟨rfl, hW63, hW60, hz64, hKM65⟩ dX0_keeps_92
  · have hm := ite_f c4 hm
    refine lv_aload_n (pc := 11) hx hb dX0_keeps_11 rfl (lv_at hl 0 rfl) ?_
    refine rk_get (pc := 12) hx hb hts hown hK hW0 flX0_66 0 (by decide) rfl rfl (x := .ref (b0 + 159)) (by first | rfl | exact congrArg (fun z => some (Value.ref z)) (by omega)) dX0_keeps_12 ?_
    refine lv_aload_n (pc := 15) hx hb dX0_keeps_15 rfl (lv_at hl 0 rfl) ?_
    refine rk_get (pc := 16) hx hb hts hown hK hW0 flX0_78 0 (by decide) rfl rfl (x := .ref (b0 + 160)) (by first | rfl | exact congrArg (fun z => some (Value.ref z)) (by omega)) dX0_keeps_16 ?_
    obtain ⟨hg66, hm⟩ := gb_some hm
    obtain ⟨r67, hq68, hm⟩ := ob_some hm
    refine rk_PV (pc := 19) (As := []) (rest := [.ref (b0 + 159)]) hx hb hml hown hts hK lkX0_353 rfl yn_J4_size (ct_J4_size (G := G) (l := l) hq68) ⟨Nat.le_of_ble_eq_true rfl, Nat.le_of_ble_eq_true rfl⟩ (rp_recv hK hW1 (C := RJ4) (T := TJ4) (N := 4) rfl (shP_17 (kd_PL hg66) (kd_k hg66))) hW1 rfl rfl hl.1 (Nat.le_of_ble_eq_true rfl) dX0_keeps_19 ⟨Nat.zero_le _, Nat.zero_le _⟩ ?_
    refine W.eq (g2 := F0 m 22 ls [.int r67, .ref (b0 + 159)]) rfl ?_
    obtain ⟨hg69, hm⟩ := gb_some hm
    have hlt70 := inR_lt hg69
    refine rk_aald (pc := 22) hx hb hK hW0 159 9 (by decide) rfl rfl rfl hg69 (x := (b0 + (177 + 1 * r67.toNatClampNeg + 0))) (by first | rfl | exact congrArg some (by omega)) dX0_keeps_22 ?_
    refine lv_astore (pc := 23) (lv' := [(4, .ref (b0 + (177 + 1 * r67.toNatClampNeg + 0))), (0, .ref b0), (1, .int i1), (2, .int i2), (3, .int i3)]) hx hb dX0_keeps_23 hl (by decide) rfl (fun ls hl => ?_)
    refine lv_aload (pc := 25) hx hb dX0_keeps_25 (lv_at hl 0 rfl) ?_
    refine lv_iload_n (pc := 27) hx hb dX0_keeps_27 rfl (lv_at hl 4 rfl) ?_
    refine lv_iload_n (pc := 28) hx hb dX0_keeps_28 rfl (lv_at hl 3 rfl) ?_
    obtain ⟨w71, hq72, hm⟩ := ob_some hm
    refine rk_TV (pc := 29) (As := [.int i3, .int i2]) (rest := []) (mc := 0) (ms := 0) hx hb hml hown hts hK hS (fun q hq => FA_sz rfl q hq) lkX0_357 rfl yn_X7_is (ct_X7_is (G := G) (l := l) (b0 := (b0 + (177 + 1 * r67.toNatClampNeg + 0))) (sz := H.size) hq72) ⟨Nat.le_of_ble_eq_true rfl, Nat.le_of_ble_eq_true rfl⟩ (fun z h => Or.inl (Or.inl (show fX _ _ from ⟨⟨by have h8 := h.1; have h9 := h.2; omega, by have h8 := h.1; have h9 := h.2; omega⟩, by have h8 := h.1; have h9 := h.2; omega⟩))) (rk_recv hK hW0 (177 + 1 * r67.toNatClampNeg + 0) (by omega) rfl rfl ((shX0_f177 G.2.1 hlt70 _ rfl 0 (by decide) _ _ _).trans rfl)) (rg_sub (d := (177 + 1 * r67.toNatClampNeg)) hW0 rfl (by omega) (fun o ho x y z => shX0_f177 G.2.1 hlt70 _ rfl o ho x y z)) rfl rfl hl.1 (Nat.le_of_ble_eq_true rfl) dX0_keeps_29 ⟨Nat.zero_le _, Nat.zero_le _⟩ (fun ov9 H73 locs74 hP75 hkp76 hS77 => ?_)
    obtain ⟨rfl, hW78, hz79⟩ := hP75
    have hW80 := pl_keepA hW1 hkp76 (by intro z h1 h3; have h8 := h3.1; have h9 := h3.2; exact hPX _ h1 (show fX _ _ from ⟨⟨by omega, by omega⟩, by omega⟩))
    have hW81 := rg_put (d := (177 + 1 * r67.toNatClampNeg)) hW0 hW78 rfl (fun o ho x y z => shX0_f177 G.2.1 hlt70 _ rfl o ho x y z) hkp76
    obtain ⟨v0_82, he9, hm⟩ := lm_some hm
    rw [he9] at hW81
    have hz83 := hz79.trans hz
    refine W.eq (g2 := F0 m 32 ls []) rfl ?_
    refine lv_aload_n (pc := 32) hx hb dX0_keeps_32 rfl (lv_at hl 1 rfl) ?_
    refine rk_get (pc := 33) hx hb hts hown hK hW81 flX0_78 0 (by decide) rfl rfl (x := .ref (b0 + 160)) (by first | rfl | exact congrArg (fun z => some (Value.ref z)) (by omega)) dX0_keeps_33 ?_
    refine lv_aload (pc := 36) hx hb dX0_keeps_36 (lv_at hl 0 rfl) ?_
    obtain ⟨hg84, hm⟩ := gb_some hm
    obtain ⟨r85, w86, hq87, hm⟩ := ob2_some hm
    refine rk_TV (pc := 38) (As := [.ref (b0 + (177 + 1 * r67.toNatClampNeg + 0))]) (rest := []) (mc := 0) (ms := 0) hx hb hml hown hts hK hS77 (fun q hq => FA_sz rfl q hq) lkX0_361 rfl yn_J4_add (ct_J4_add_foundfit (G := G) (l := l) (b0 := b0) (sz := H73.size) hq87 hPX hZP) ⟨Nat.le_of_ble_eq_true rfl, Nat.le_of_ble_eq_true rfl⟩ (fun z h => (FA_r (KM_hf2 hKM z h))) (rp_recv hK hW80 (C := RJ4) (T := TJ4) (N := 4) rfl (shP_17 (kd_PL hg84) (kd_k hg84))) ⟨hW81, hW80⟩ rfl rfl hl.1 (Nat.le_of_ble_eq_true rfl) dX0_keeps_38 ⟨Nat.zero_le _, Nat.zero_le _⟩ (fun ov9 H88 locs89 hP90 hkp91 hS92 => ?_)
    obtain ⟨rfl, hW93, hz94, hKM95⟩ := hP90
    have hW96 := rg_keepX hW81 hkp91 (by intro z h0 h3; have h1 := h0.1.1; have h2 := h0.1.2; have h4 := h0.2; exact hPX _ h3.1 h0)
    have hz97 := hz94.trans hz83
    have hKM98 := KM.trans hKM hKM95 (by omega)
    refine W.eq (g2 := F0 m 41 ls [.int r85]) rfl ?_
    refine lv_pop (pc := 41) hx hb dX0_keeps_41 rfl ?_
    refine lv_iconst (pc := 42) (v := (1 : Int32)) hx hb dX0_keeps_42 (by decide) ?_
    obtain ⟨e7, e8, e9⟩ := rs3 hm
    subst e7
    subst e8
    subst e9
    exact rk_zret (pc := 43) hx hb hr hlk rfl hS92 ⟨rfl, hW96, hW93, hz97, hKM98⟩ dX0_keeps_43
set_option maxHeartbeats 4000000 in
theorem ct_X0_keeps_fit {G : Gv} {l : Launch} {b0 : Nat} {PL : Nat → Bool} {v0 : Mem} {v1 : Mem} {i1 : Int32} {i2 : Int32} {i3 : Int32} {rx : Int32} {rw0 : Mem} {rw1 : Mem} {sz : Nat} (hm : fX0_keeps_fit PL b0 v0 v1 i1 i2 i3 = some (rx, rw0, rw1)) (hPX : ∀ z, PL z = true → ¬ fX b0 z) (hZP : ZP G) : CT G l yX0_keeps (ws_ yX0_keeps cX0_keeps 5 (some .boolean)) 7 0 0 156 [.ref b0, .int i1, .int i2, .int i3] (fun z => (fX b0) z ∨ (fP PL v1) z) sz (fun H => rg G b0 357 (shX0 G.2.1) v0 H ∧ pl G PL v1 H) (fun ov H => ov = (some (.int rx)) ∧ rg G b0 357 (shX0 G.2.1) rw0 H ∧ pl G PL rw1 H ∧ H.size = sz ∧ KM v1 rw1 sz) := by
  refine Met.ofW (cc := cX0_keeps) (maxL := 5) (ret := (some .boolean)) (by decide +kernel) rfl ?_
  intro p e s m args below meth c s₁ B hml hv
  obtain ⟨rfl, ⟨hz, hW0, hW1⟩, hK⟩ := hv
  subst hz
  have hts := atoms_spec (ws := ws_ yX0_keeps cX0_keeps 5 (some .boolean)) B.pre
  have hts : ∀ w ∈ lw_all, w.before _ s = true := fun w h => hts w (List.mem_cons_of_mem _ h)
  have C : Cx G p s m _ meth c RX0 cX0_keeps 5 (some .boolean) := ⟨B.exec, B.bytes, B.returns, B.notSynchronized, hml, findClass_of_methodNamed B.named, hts, hK⟩
  have hl := lv_entry ([.ref b0, .int i1, .int i2, .int i3]) (n := 5) (Nat.le_of_ble_eq_true rfl)
  rw [lg_entry_eq]
  generalize (lg_sl ([.ref b0, .int i1, .int i2, .int i3]) ++ List.replicate (5 - (lg_sl ([.ref b0, .int i1, .int i2, .int i3])).length) Slot.unset).toArray = ls at hl ⊢
  have hl : lv_has ls 5 [(0, .ref b0), (1, .int i1), (2, .int i2), (3, .int i3)] := hl
  exact w_fX0_keeps_fit C hPX hZP _ _ _ _ _ hm s.heap [] ls hW0 hW1 va_S.rf rfl KM.rf hl
theorem yn_X0_keeps : YN yX0_keeps 3 := by
  unfold YN
  decide +kernel
theorem lkX0_611 : LV RX0 611 RX0 yX0_keeps cX0_keeps 5 (some .boolean) := ⟨q996, q998, qs26, q114, q999⟩
noncomputable def fX0_lambda_nth_3_fit (PL : Nat → Bool) (b0 : Nat) (v0 : Mem) (v1 : Mem) (i1 : Int32) (i2 : Int32) (i3 : Int32) (i4 : Int32) : Option (Int32 × Mem × Mem) :=
  if 0 < i4 then (
  some ((1 : Int32), v0, v1))
  else (
  ob3 (fX0_keeps_fit PL b0 v0 v1 (i1 + (1 : Int32)) i2 i3) fun r2 w3 w4 =>
  if r2 = 0 then (
  some ((0 : Int32), w3, w4))
  else (
  some ((1 : Int32), w3, w4)))
set_option maxHeartbeats 4000000 in
theorem w_fX0_lambda_nth_3_fit (C : Cx G p s m args meth c RX0 cX0_lambda_nth_3 5 (some .boolean)) {b0 : Nat} {PL : Nat → Bool} {vP0 : Mem} {rx : Int32} {rw0 : Mem} {rw1 : Mem} (hPX : ∀ z, PL z = true → ¬ fX b0 z) (hZP : ZP G) : ∀ (v0 : Mem) (v1 : Mem) (i1 : Int32) (i2 : Int32) (i3 : Int32) (i4 : Int32), fX0_lambda_nth_3_fit PL b0 v0 v1 i1 i2 i3 i4 = some (rx, rw0, rw1) → ∀ (H : Heap) (locs : List Loc) (ls : Array Slot), rg G b0 357 (shX0 G.2.1) v0 H → pl G PL v1 H → va_S (FA (fun z => (fX b0) z ∨ (fP PL vP0) z) s.heap.size) s.heap H locs → H.size = s.heap.size → KM vP0 v1 s.heap.size → lv_has ls 5 [(0, .ref b0), (1, .int i1), (2, .int i2), (3, .int i3), (4, .int i4)] → W p l e (rmT 8 0 0 180) s m args below meth c H locs 0 0 (MQ below (QcT (FA (fun z => (fX b0) z ∨ (fP PL vP0) z) s.heap.size) (fun ov H => ov = (some (.int rx)) ∧ rg G b0 357 (shX0 G.2.1) rw0 H ∧ pl G PL rw1 H ∧ H.size = s.heap.size ∧ KM vP0 rw1 s.heap.size)) args s 0 0 (FA (fun z => (fX b0) z ∨ (fP PL vP0) z) s.heap.size)) (F0 m 0 ls []) := by
  intro v0 v1 i1 i2 i3 i4 hm H locs ls hW0 hW1 hS hz hKM hl
  obtain ⟨hx, hb, hr, hlk, hml, hown, hts, hK⟩ := id C
  unfold fX0_lambda_nth_3_fit at hm
  refine lv_iload (pc := 0) hx hb dX0_lambda_nth_3_0 (lv_at hl 4 rfl) ?_
  refine lv_if_gt (pc := 2) (tgt := 17) hx hb dX0_lambda_nth_3_2 (by decide) (fun c1 => ?_) (fun c1 => ?_)
  · have hm := ite_t c1 hm
    refine lv_iconst (pc := 17) (v := (1 : Int32)) hx hb dX0_lambda_nth_3_17 (by decide) ?_
    refine lv_goto (pc := 18) (tgt := 22) hx hb dX0_lambda_nth_3_18 (by decide) ?_
    obtain ⟨e7, e8, e9⟩ := rs3 hm
    subst e7
    subst e8
    subst e9
    exact rk_zret (pc := 22) hx hb hr hlk rfl hS ⟨rfl, hW0, hW1, hz, hKM⟩ dX0_lambda_nth_3_22
  · have hm := ite_f c1 hm
    refine lv_aload_n (pc := 5) hx hb dX0_lambda_nth_3_5 rfl (lv_at hl 0 rfl) ?_
    refine lv_iload_n (pc := 6) hx hb dX0_lambda_nth_3_6 rfl (lv_at hl 1 rfl) ?_
    refine lv_iconst (pc := 7) (v := (1 : Int32)) hx hb dX0_lambda_nth_3_7 (by decide) ?_
    refine lv_iadd (pc := 8) hx hb dX0_lambda_nth_3_8 ?_
    refine lv_iload_n (pc := 9) hx hb dX0_lambda_nth_3_9 rfl (lv_at hl 2 rfl) ?_
    refine lv_iload_n (pc := 10) hx hb dX0_lambda_nth_3_10 rfl (lv_at hl 3 rfl) ?_
    obtain ⟨r2, w3, w4, hq5, hm⟩ := ob3_some hm
    refine rk_TV (pc := 11) (As := [.int (i1 + (1 : Int32)), .int i2, .int i3]) (rest := []) (mc := 0) (ms := 0) hx hb hml hown hts hK hS (fun q hq => FA_sz rfl q hq) lkX0_611 rfl yn_X0_keeps (ct_X0_keeps_fit (G := G) (l := l) (b0 := b0) (sz := H.size) hq5 hPX hZP) ⟨Nat.le_of_ble_eq_true rfl, Nat.le_of_ble_eq_true rfl⟩ (fun z h => h.elim (fun h => Or.inl (Or.inl h)) (fun h => (FA_r (KM_hf2 hKM z h)))) (rk_recv hK hW0 0 (by decide) rfl rfl rfl) ⟨hW0, hW1⟩ rfl rfl hl.1 (Nat.le_of_ble_eq_true rfl) dX0_lambda_nth_3_11 ⟨Nat.zero_le _, Nat.zero_le _⟩ (fun ov9 H6 locs7 hP8 hkp9 hS10 => ?_)
    obtain ⟨rfl, hW11, hW12, hz13, hKM14⟩ := hP8
    have hz15 := hz13.trans hz
    have hKM16 := KM.trans hKM hKM14 (by omega)
    refine W.eq (g2 := F0 m 14 ls [.int r2]) rfl ?_
    refine lv_if_eq (pc := 14) (tgt := 21) hx hb dX0_lambda_nth_3_14 (by decide) (fun c17 => ?_) (fun c17 => ?_)
    · have hm := ite_t c17 hm
      refine lv_iconst (pc := 21) (v := (0 : Int32)) hx hb dX0_lambda_nth_3_21 (by decide) ?_
      obtain ⟨e7, e8, e9⟩ := rs3 hm
      subst e7
      subst e8
      subst e9
      exact rk_zret (pc := 22) hx hb hr hlk rfl hS10 ⟨rfl, hW11, hW12, hz15, hKM16⟩ dX0_lambda_nth_3_22
    · have hm := ite_f c17 hm
      refine lv_iconst (pc := 17) (v := (1 : Int32)) hx hb dX0_lambda_nth_3_17 (by decide) ?_
      refine lv_goto (pc := 18) (tgt := 22) hx hb dX0_lambda_nth_3_18 (by decide) ?_
      obtain ⟨e7, e8, e9⟩ := rs3 hm
      subst e7
      subst e8
      subst e9
      exact rk_zret (pc := 22) hx hb hr hlk rfl hS10 ⟨rfl, hW11, hW12, hz15, hKM16⟩ dX0_lambda_nth_3_22
set_option maxHeartbeats 4000000 in
theorem ct_X0_lambda_nth_3_fit {G : Gv} {l : Launch} {b0 : Nat} {PL : Nat → Bool} {v0 : Mem} {v1 : Mem} {i1 : Int32} {i2 : Int32} {i3 : Int32} {i4 : Int32} {rx : Int32} {rw0 : Mem} {rw1 : Mem} {sz : Nat} (hm : fX0_lambda_nth_3_fit PL b0 v0 v1 i1 i2 i3 i4 = some (rx, rw0, rw1)) (hPX : ∀ z, PL z = true → ¬ fX b0 z) (hZP : ZP G) : CT G l yX0_lambda_nth_3 (ws_ yX0_lambda_nth_3 cX0_lambda_nth_3 5 (some .boolean)) 8 0 0 180 [.ref b0, .int i1, .int i2, .int i3, .int i4] (fun z => (fX b0) z ∨ (fP PL v1) z) sz (fun H => rg G b0 357 (shX0 G.2.1) v0 H ∧ pl G PL v1 H) (fun ov H => ov = (some (.int rx)) ∧ rg G b0 357 (shX0 G.2.1) rw0 H ∧ pl G PL rw1 H ∧ H.size = sz ∧ KM v1 rw1 sz) := by
  refine Met.ofW (cc := cX0_lambda_nth_3) (maxL := 5) (ret := (some .boolean)) (by decide +kernel) rfl ?_
  intro p e s m args below meth c s₁ B hml hv
  obtain ⟨rfl, ⟨hz, hW0, hW1⟩, hK⟩ := hv
  subst hz
  have hts := atoms_spec (ws := ws_ yX0_lambda_nth_3 cX0_lambda_nth_3 5 (some .boolean)) B.pre
  have hts : ∀ w ∈ lw_all, w.before _ s = true := fun w h => hts w (List.mem_cons_of_mem _ h)
  have C : Cx G p s m _ meth c RX0 cX0_lambda_nth_3 5 (some .boolean) := ⟨B.exec, B.bytes, B.returns, B.notSynchronized, hml, findClass_of_methodNamed B.named, hts, hK⟩
  have hl := lv_entry ([.ref b0, .int i1, .int i2, .int i3, .int i4]) (n := 5) (Nat.le_of_ble_eq_true rfl)
  rw [lg_entry_eq]
  generalize (lg_sl ([.ref b0, .int i1, .int i2, .int i3, .int i4]) ++ List.replicate (5 - (lg_sl ([.ref b0, .int i1, .int i2, .int i3, .int i4])).length) Slot.unset).toArray = ls at hl ⊢
  have hl : lv_has ls 5 [(0, .ref b0), (1, .int i1), (2, .int i2), (3, .int i3), (4, .int i4)] := hl
  exact w_fX0_lambda_nth_3_fit C hPX hZP _ _ _ _ _ _ hm s.heap [] ls hW0 hW1 va_S.rf rfl KM.rf hl
theorem yn_X0_lambda_nth_3 : YN yX0_lambda_nth_3 4 := by
  unfold YN
  decide +kernel
noncomputable def fX0_keeps_grow (PL : Nat → Bool) (Z : Nat) (b0 : Nat) (v0 : Mem) (v1 : Mem) (i1 : Int32) (i2 : Int32) (i3 : Int32) : Option (Int32 × Nat × Mem × Mem) :=
  gb (kd PL v1 (b0 + 160) 17) (
  ob (fJ4_size PL v1 (b0 + 160)) fun r2 =>
  if i1 ≤ r2 then (
  gb (kd PL v1 (b0 + 160) 17) (
  ob (fJ4_peek PL v1 (b0 + 160)) fun oa6 =>
  od oa6 (
  none) (fun pa8 =>
  ob (fi b0 177 1 20 pa8) fun nf9 =>
  ob (fX7_isBehind (shf v0 (177 + 1 * nf9)) i3 i2) fun r14 =>
  if r14 = 0 then (
  some ((1 : Int32), 0, v0, v1))
  else (
  gb (kd PL v1 (b0 + 160) 17) (
  ob2 (fJ4_poll_found PL b0 v0 v1 (b0 + 160)) fun oa18 w19 =>
  od oa18 (
  none) (fun pa32 =>
  ob (fi b0 177 1 20 pa32) fun nf33 =>
  ob (fX7_is (shf v0 (177 + 1 * nf33)) i3 i2) fun w38 =>
  lm (ptm v0 (177 + 1 * nf33) 1 w38) fun v0_49 =>
  gb (kd PL w19 (b0 + 160) 17) (
  ob3 (fJ4_add_found PL (Z + 0) b0 v0_49 w19 (b0 + 160) (b0 + (177 + 1 * nf33 + 0))) fun r52 rc53 w54 =>
  some ((1 : Int32), rc53, v0_49, w54))))))))
  else (
  gb (kd PL v1 (b0 + 160) 17) (
  ob (fJ4_size PL v1 (b0 + 160)) fun r69 =>
  gb (inR r69 20) (
  ob (fX7_is (shf v0 (177 + 1 * r69.toNatClampNeg)) i3 i2) fun w73 =>
  lm (ptm v0 (177 + 1 * r69.toNatClampNeg) 1 w73) fun v0_84 =>
  gb (kd PL v1 (b0 + 160) 17) (
  ob3 (fJ4_add_found PL (Z + 0) b0 v0_84 v1 (b0 + 160) (b0 + (177 + 1 * r69.toNatClampNeg + 0))) fun r87 rc88 w89 =>
  some ((1 : Int32), rc88, v0_84, w89))))))
set_option maxHeartbeats 4000000 in
theorem w_fX0_keeps_grow (C : Cx G p s m args meth c RX0 cX0_keeps 5 (some .boolean)) {b0 : Nat} {PL : Nat → Bool} {Z : Nat} {vP0 : Mem} {rx : Int32} {rc : Nat} {rw0 : Mem} {rw1 : Mem} (hPX : ∀ z, PL z = true → ¬ fX b0 z) (he0 : b0 + 357 ≤ s.heap.size) (hZz : s.heap.size = Z) (hZP : ZP G) : ∀ (v0 : Mem) (v1 : Mem) (i1 : Int32) (i2 : Int32) (i3 : Int32), fX0_keeps_grow PL Z b0 v0 v1 i1 i2 i3 = some (rx, rc, rw0, rw1) → ∀ (H : Heap) (locs : List Loc) (ls : Array Slot), rg G b0 357 (shX0 G.2.1) v0 H → pl G PL v1 H → va_S (FA (fun z => (fX b0) z ∨ (fP PL vP0) z) s.heap.size) s.heap H locs → H.size = s.heap.size + 0 → KM vP0 v1 s.heap.size → lv_has ls 5 [(0, .ref b0), (1, .int i1), (2, .int i2), (3, .int i3)] → W p l e (rmT 7 1 90 207) s m args below meth c H locs 0 0 (MQ below (QcT (FA (fun z => (fX b0) z ∨ (fP PL vP0) z) s.heap.size) (fun ov H => ov = (some (.int rx)) ∧ rg G b0 357 (shX0 G.2.1) rw0 H ∧ pl G PL rw1 H ∧ H.size = s.heap.size + rc ∧ KM vP0 rw1 s.heap.size)) args s 1 90 (FA (fun z => (fX b0) z ∨ (fP PL vP0) z) s.heap.size)) (F0 m 0 ls []) := by
  intro v0 v1 i1 i2 i3 hm H locs ls hW0 hW1 hS hz hKM hl
  obtain ⟨hx, hb, hr, hlk, hml, hown, hts, hK⟩ := id C
  unfold fX0_keeps_grow at hm
  refine lv_aload_n (pc := 0) hx hb dX0_keeps_0 rfl (lv_at hl 0 rfl) ?_
  refine rk_get (pc := 1) hx hb hts hown hK hW0 flX0_78 0 (by decide) rfl rfl (x := .ref (b0 + 160)) (by first | rfl | exact congrArg (fun z => some (Value.ref z)) (by omega)) dX0_keeps_1 ?_
  obtain ⟨hg1, hm⟩ := gb_some hm
  obtain ⟨r2, hq3, hm⟩ := ob_some hm
  refine rk_PV (pc := 4) (As := []) (rest := []) hx hb hml hown hts hK lkX0_353 rfl yn_J4_size (ct_J4_size (G := G) (l := l) hq3) ⟨Nat.le_of_ble_eq_true rfl, Nat.le_of_ble_eq_true rfl⟩ (rp_recv hK hW1 (C := RJ4) (T := TJ4) (N := 4) rfl (shP_17 (kd_PL hg1) (kd_k hg1))) hW1 rfl rfl hl.1 (Nat.le_of_ble_eq_true rfl) dX0_keeps_4 ⟨Nat.zero_le _, Nat.zero_le _⟩ ?_
  refine W.eq (g2 := F0 m 7 ls [.int r2]) rfl ?_
  refine lv_iload_n (pc := 7) hx hb dX0_keeps_7 rfl (lv_at hl 1 rfl) ?_
  refine lv_icmp_ge (pc := 8) (tgt := 44) hx hb dX0_keeps_8 (by decide) (fun c4 => ?_) (fun c4 => ?_)
  · have hm := ite_t c4 hm
    refine lv_aload_n (pc := 44) hx hb dX0_keeps_44 rfl (lv_at hl 0 rfl) ?_
    refine rk_get (pc := 45) hx hb hts hown hK hW0 flX0_78 0 (by decide) rfl rfl (x := .ref (b0 + 160)) (by first | rfl | exact congrArg (fun z => some (Value.ref z)) (by omega)) dX0_keeps_45 ?_
    obtain ⟨hg5, hm⟩ := gb_some hm
    obtain ⟨oa6, hq7, hm⟩ := ob_some hm
    refine rk_PV (pc := 48) (As := []) (rest := []) hx hb hml hown hts hK lkX0_365 rfl yn_J4_peek (ct_J4_peek (G := G) (l := l) hq7) ⟨Nat.le_of_ble_eq_true rfl, Nat.le_of_ble_eq_true rfl⟩ (rp_recv hK hW1 (C := RJ4) (T := TJ4) (N := 4) rfl (shP_17 (kd_PL hg5) (kd_k hg5))) hW1 rfl rfl hl.1 (Nat.le_of_ble_eq_true rfl) dX0_keeps_48 ⟨Nat.zero_le _, Nat.zero_le _⟩ ?_
    refine W.eq (g2 := F0 m 51 ls [va_rf oa6]) rfl ?_
    rcases oa6 with _ | pa8
    · have hm := od_n hm
      refine lv_castN (pc := 51) hx hb dX0_keeps_51 ?_
      refine lv_iload_n (pc := 54) hx hb dX0_keeps_54 rfl (lv_at hl 3 rfl) ?_
      refine lv_iload_n (pc := 55) hx hb dX0_keeps_55 rfl (lv_at hl 2 rfl) ?_
      exact nomatch hm
    · have hm := od_s hm
      obtain ⟨nf9, hf10, hm13⟩ := ob_some hm
      obtain ⟨ha11, hlt12⟩ := fi_some hf10
      subst ha11
      have hm := hm13
      refine rk_castS (pc := 51) hx hb hown hts hK q362 hW0 (177 + 1 * nf9 + 0) (by omega) rfl rfl ((shX0_f177 G.2.1 hlt12 _ rfl 0 (by decide) _ _ _).trans rfl) dX0_keeps_51 ?_
      refine lv_iload_n (pc := 54) hx hb dX0_keeps_54 rfl (lv_at hl 3 rfl) ?_
      refine lv_iload_n (pc := 55) hx hb dX0_keeps_55 rfl (lv_at hl 2 rfl) ?_
      obtain ⟨r14, hq15, hm⟩ := ob_some hm
      refine rk_PV (pc := 56) (As := [.int i3, .int i2]) (rest := []) hx hb hml hown hts hK lkX0_369 rfl yn_X7_isBehind (ct_X7_isBehind (G := G) (l := l) (b0 := (b0 + (177 + 1 * nf9 + 0))) hq15) ⟨Nat.le_of_ble_eq_true rfl, Nat.le_of_ble_eq_true rfl⟩ (rk_recv hK hW0 (177 + 1 * nf9 + 0) (by omega) rfl rfl ((shX0_f177 G.2.1 hlt12 _ rfl 0 (by decide) _ _ _).trans rfl)) (rg_sub (d := (177 + 1 * nf9)) hW0 rfl (by omega) (fun o ho x y z => shX0_f177 G.2.1 hlt12 _ rfl o ho x y z)) rfl rfl hl.1 (Nat.le_of_ble_eq_true rfl) dX0_keeps_56 ⟨Nat.zero_le _, Nat.zero_le _⟩ ?_
      refine W.eq (g2 := F0 m 59 ls [.int r14]) rfl ?_
      refine lv_if_eq (pc := 59) (tgt := 91) hx hb dX0_keeps_59 (by decide) (fun c16 => ?_) (fun c16 => ?_)
      · have hm := ite_t c16 hm
        refine lv_iconst (pc := 91) (v := (1 : Int32)) hx hb dX0_keeps_91 (by decide) ?_
        obtain ⟨e6, e7, e8, e9⟩ := rs4 hm
        subst e6
        subst e7
        subst e8
        subst e9
        exact rk_zretA (pc := 92) hx hb hr hlk rfl hS ⟨rfl, hW0, hW1, hz, hKM⟩ dX0_keeps_92 (by exact Nat.le_of_ble_eq_true rfl) (by exact Nat.le_of_ble_eq_true rfl)
      · have hm := ite_f c16 hm
        refine lv_aload_n (pc := 62) hx hb dX0_keeps_62 rfl (lv_at hl 0 rfl) ?_
        refine rk_get (pc := 63) hx hb hts hown hK hW0 flX0_78 0 (by decide) rfl rfl (x := .ref (b0 + 160)) (by first | rfl | exact congrArg (fun z => some (Value.ref z)) (by omega)) dX0_keeps_63 ?_
        obtain ⟨hg17, hm⟩ := gb_some hm
        obtain ⟨oa18, w19, hq20, hm⟩ := ob2_some hm
        refine rk_TV (pc := 66) (As := []) (rest := []) (mc := 0) (ms := 0) hx hb hml hown hts hK hS (fun q hq => FA_sz rfl q hq) lkX0_373 rfl yn_J4_poll (ct_J4_poll_found (G := G) (l := l) (b0 := b0) (sz := H.size) hq20 hPX hZP) ⟨Nat.le_of_ble_eq_true rfl, Nat.le_of_ble_eq_true rfl⟩ (fun z h => (FA_r (KM_hf2 hKM z h))) (rp_recv hK hW1 (C := RJ4) (T := TJ4) (N := 4) rfl (shP_17 (kd_PL hg17) (kd_k hg17))) ⟨hW0, hW1⟩ rfl rfl hl.1 (Nat.le_of_ble_eq_true rfl) dX0_keeps_66 ⟨Nat.zero_le _, Nat.zero_le _⟩ (fun ov9 H21 locs22 hP23 hkp24 hS25 => ?_)
        obtain ⟨rfl, hW26, hz27, hKM28⟩ := hP23
        have hW29 := rg_keepX hW0 hkp24 (by intro z h0 h3; have h1 := h0.1.1; have h2 := h0.1.2; have h4 := h0.2; exact hPX _ h3.1 h0)
        have hz30 := hz27.trans hz
        have hKM31 := KM.trans hKM hKM28 (by omega)
        refine W.eq (g2 := F0 m 69 ls [va_rf oa18]) rfl ?_
        rcases oa18 with _ | pa32
        · have hm := od_n hm
          refine lv_castN (pc := 69) hx hb dX0_keeps_69 ?_
          refine lv_astoreN (pc := 72) (lv' := [(4, .null), (0, .ref b0), (1, .int i1), (2, .int i2), (3, .int i3)]) hx hb dX0_keeps_72 hl (by decide) rfl (fun ls hl => ?_)
          refine lv_aloadN (pc := 74) hx hb dX0_keeps_74 (lv_at hl 0 rfl) ?_
          refine lv_iload_n (pc := 76) hx hb dX0_keeps_76 rfl (lv_at hl 4 rfl) ?_
          refine lv_iload_n (pc := 77) hx hb dX0_keeps_77 rfl (lv_at hl 3 rfl) ?_
          exact nomatch hm
        · have hm := od_s hm
          obtain ⟨nf33, hf34, hm37⟩ := ob_some hm
          obtain ⟨ha35, hlt36⟩ := fi_some hf34
          subst ha35
          have hm := hm37
          refine rk_castS (pc := 69) hx hb hown hts hK q362 hW29 (177 + 1 * nf33 + 0) (by omega) rfl rfl ((shX0_f177 G.2.1 hlt36 _ rfl 0 (by decide) _ _ _).trans rfl) dX0_keeps_69 ?_
          refine lv_astore (pc := 72) (lv' := [(4, .ref (b0 + (177 + 1 * nf33 + 0))), (0, .ref b0), (1, .int i1), (2, .int i2), (3, .int i3)]) hx hb dX0_keeps_72 hl (by decide) rfl (fun ls hl => ?_)
          refine lv_aload (pc := 74) hx hb dX0_keeps_74 (lv_at hl 0 rfl) ?_
          refine lv_iload_n (pc := 76) hx hb dX0_keeps_76 rfl (lv_at hl 4 rfl) ?_
          refine lv_iload_n (pc := 77) hx hb dX0_keeps_77 rfl (lv_at hl 3 rfl) ?_
          obtain ⟨w38, hq39, hm⟩ := ob_some hm
          refine rk_TV (pc := 78) (As := [.int i3, .int i2]) (rest := []) (mc := 0) (ms := 0) hx hb hml hown hts hK hS25 (fun q hq => FA_sz rfl q hq) lkX0_357 rfl yn_X7_is (ct_X7_is (G := G) (l := l) (b0 := (b0 + (177 + 1 * nf33 + 0))) (sz := H21.size) hq39) ⟨Nat.le_of_ble_eq_true rfl, Nat.le_of_ble_eq_true rfl⟩ (fun z h => Or.inl (Or.inl (show fX _ _ from ⟨⟨by have h8 := h.1; have h9 := h.2; omega, by have h8 := h.1; have h9 := h.2; omega⟩, by have h8 := h.1; have h9 := h.2; omega⟩))) (rk_recv hK hW29 (177 + 1 * nf33 + 0) (by omega) rfl rfl ((shX0_f177 G.2.1 hlt36 _ rfl 0 (by decide) _ _ _).trans rfl)) (rg_sub (d := (177 + 1 * nf33)) hW29 rfl (by omega) (fun o ho x y z => shX0_f177 G.2.1 hlt36 _ rfl o ho x y z)) rfl rfl hl.1 (Nat.le_of_ble_eq_true rfl) dX0_keeps_78 ⟨Nat.zero_le _, Nat.zero_le _⟩ (fun ov9 H40 locs41 hP42 hkp43 hS44 => ?_)
          obtain ⟨rfl, hW45, hz46⟩ := hP42
          have hW47 := pl_keepA hW26 hkp43 (by intro z h1 h3; have h8 := h3.1; have h9 := h3.2; exact hPX _ h1 (show fX _ _ from ⟨⟨by omega, by omega⟩, by omega⟩))
          have hW48 := rg_put (d := (177 + 1 * nf33)) hW29 hW45 rfl (fun o ho x y z => shX0_f177 G.2.1 hlt36 _ rfl o ho x y z) hkp43
          obtain ⟨v0_49, he9, hm⟩ := lm_some hm
          rw [he9] at hW48
          have hz50 := hz46.trans hz30
          refine W.eq (g2 := F0 m 81 ls []) rfl ?_
          refine lv_aload_n (pc := 81) hx hb dX0_keeps_81 rfl (lv_at hl 1 rfl) ?_
          refine rk_get (pc := 82) hx hb hts hown hK hW48 flX0_78 0 (by decide) rfl rfl (x := .ref (b0 + 160)) (by first | rfl | exact congrArg (fun z => some (Value.ref z)) (by omega)) dX0_keeps_82 ?_
          refine lv_aload (pc := 85) hx hb dX0_keeps_85 (lv_at hl 0 rfl) ?_
          obtain ⟨hg51, hm⟩ := gb_some hm
          obtain ⟨r52, rc53, w54, hq55, hm⟩ := ob3_some hm
          have hq56 := hq55
          rw [show (Z + 0) = H40.size by omega] at hq56
          refine rk_TV (pc := 87) (As := [.ref (b0 + (177 + 1 * nf33 + 0))]) (rest := []) (mc := 1) (ms := 90) hx hb hml hown hts hK hS44 (fun q hq => FA_sz rfl q hq) lkX0_361 rfl yn_J4_add (ct_J4_add_found (G := G) (l := l) (b0 := b0) hq56 hPX hZP) ⟨Nat.le_of_ble_eq_true rfl, Nat.le_of_ble_eq_true rfl⟩ (fun z h => (FA_r (KM_hf2 hKM31 z h))) (rp_recv hK hW47 (C := RJ4) (T := TJ4) (N := 4) rfl (shP_17 (kd_PL hg51) (kd_k hg51))) ⟨hW48, hW47⟩ rfl rfl hl.1 (Nat.le_of_ble_eq_true rfl) dX0_keeps_87 ⟨Nat.le_of_ble_eq_true rfl, Nat.le_of_ble_eq_true rfl⟩ (fun ov9 H57 locs58 hP59 hkp60 hS61 => ?_)
          obtain ⟨rfl, hW62, hz63, hKM64⟩ := hP59
          have hW65 := rg_keepX hW48 hkp60 (by intro z h0 h3; have h1 := h0.1.1; have h2 := h0.1.2; have h4 := h0.2; exact hPX _ h3.1 h0)
          have hz66 : H57.size = s.heap.size + rc53 := by omega
          have hKM67 := KM.trans hKM31 hKM64 (by omega)
          refine W.eq (g2 := F0 m 90 ls [.int r52]) rfl ?_
          refine lv_pop (pc := 90) hx hb dX0_keeps_90 rfl ?_
          refine lv_iconst (pc := 91) (v := (1 : Int32)) hx hb dX0_keeps_91 (by decide) ?_
          obtain ⟨e6, e7, e8, e9⟩ := rs4 hm
          subst e6
          subst e7
          subst e8
          subst e9
          exact rk_zretA (pc := 92) hx hb hr hlk rfl hS61 ⟨rfl, hW65, hW62, hz66, hKM67⟩ dX0_keeps_92 (by exact Nat.le_of_ble_eq_true rfl) (by exact Nat.le_of_ble_eq_true rfl)
  · have hm := ite_f c4 hm
    refine lv_aload_n (pc := 11) hx hb dX0_keeps_11 rfl (lv_at hl 0 rfl) ?_
    refine rk_get (pc := 12) hx hb hts hown hK hW0 flX0_66 0 (by decide) rfl rfl (x := .ref (b0 + 159)) (by first | rfl | exact congrArg (fun z => some (Value.ref z)) (by omega)) dX0_keeps_12 ?_
    refine lv_aload_n (pc := 15) hx hb dX0_keeps_15 rfl (lv_at hl 0 rfl) ?_
    refine rk_get (pc := 16) hx hb hts hown hK hW0 flX0_78 0 (by decide) rfl rfl (x := .ref (b0 + 160)) (by first | rfl | exact congrArg (fun z => some (Value.ref z)) (by omega)) dX0_keeps_16 ?_
    obtain ⟨hg68, hm⟩ := gb_some hm
    obtain ⟨r69, hq70, hm⟩ := ob_some hm
    refine rk_PV (pc := 19) (As := []) (rest := [.ref (b0 + 159)]) hx hb hml hown hts hK lkX0_353 rfl yn_J4_size (ct_J4_size (G := G) (l := l) hq70) ⟨Nat.le_of_ble_eq_true rfl, Nat.le_of_ble_eq_true rfl⟩ (rp_recv hK hW1 (C := RJ4) (T := TJ4) (N := 4) rfl (shP_17 (kd_PL hg68) (kd_k hg68))) hW1 rfl rfl hl.1 (Nat.le_of_ble_eq_true rfl) dX0_keeps_19 ⟨Nat.zero_le _, Nat.zero_le _⟩ ?_
    refine W.eq (g2 := F0 m 22 ls [.int r69, .ref (b0 + 159)]) rfl ?_
    obtain ⟨hg71, hm⟩ := gb_some hm
    have hlt72 := inR_lt hg71
    refine rk_aald (pc := 22) hx hb hK hW0 159 9 (by decide) rfl rfl rfl hg71 (x := (b0 + (177 + 1 * r69.toNatClampNeg + 0))) (by first | rfl | exact congrArg some (by omega)) dX0_keeps_22 ?_
    refine lv_astore (pc := 23) (lv' := [(4, .ref (b0 + (177 + 1 * r69.toNatClampNeg + 0))), (0, .ref b0), (1, .int i1), (2, .int i2), (3, .int i3)]) hx hb dX0_keeps_23 hl (by decide) rfl (fun ls hl => ?_)
    refine lv_aload (pc := 25) hx hb dX0_keeps_25 (lv_at hl 0 rfl) ?_
    refine lv_iload_n (pc := 27) hx hb dX0_keeps_27 rfl (lv_at hl 4 rfl) ?_
    refine lv_iload_n (pc := 28) hx hb dX0_keeps_28 rfl (lv_at hl 3 rfl) ?_
    obtain ⟨w73, hq74, hm⟩ := ob_some hm
    refine rk_TV (pc := 29) (As := [.int i3, .int i2]) (rest := []) (mc := 0) (ms := 0) hx hb hml hown hts hK hS (fun q hq => FA_sz rfl q hq) lkX0_357 rfl yn_X7_is (ct_X7_is (G := G) (l := l) (b0 := (b0 + (177 + 1 * r69.toNatClampNeg + 0))) (sz := H.size) hq74) ⟨Nat.le_of_ble_eq_true rfl, Nat.le_of_ble_eq_true rfl⟩ (fun z h => Or.inl (Or.inl (show fX _ _ from ⟨⟨by have h8 := h.1; have h9 := h.2; omega, by have h8 := h.1; have h9 := h.2; omega⟩, by have h8 := h.1; have h9 := h.2; omega⟩))) (rk_recv hK hW0 (177 + 1 * r69.toNatClampNeg + 0) (by omega) rfl rfl ((shX0_f177 G.2.1 hlt72 _ rfl 0 (by decide) _ _ _).trans rfl)) (rg_sub (d := (177 + 1 * r69.toNatClampNeg)) hW0 rfl (by omega) (fun o ho x y z => shX0_f177 G.2.1 hlt72 _ rfl o ho x y z)) rfl rfl hl.1 (Nat.le_of_ble_eq_true rfl) dX0_keeps_29 ⟨Nat.zero_le _, Nat.zero_le _⟩ (fun ov9 H75 locs76 hP77 hkp78 hS79 => ?_)
    obtain ⟨rfl, hW80, hz81⟩ := hP77
    have hW82 := pl_keepA hW1 hkp78 (by intro z h1 h3; have h8 := h3.1; have h9 := h3.2; exact hPX _ h1 (show fX _ _ from ⟨⟨by omega, by omega⟩, by omega⟩))
    have hW83 := rg_put (d := (177 + 1 * r69.toNatClampNeg)) hW0 hW80 rfl (fun o ho x y z => shX0_f177 G.2.1 hlt72 _ rfl o ho x y z) hkp78
    obtain ⟨v0_84, he9, hm⟩ := lm_some hm
    rw [he9] at hW83
    have hz85 := hz81.trans hz
    refine W.eq (g2 := F0 m 32 ls []) rfl ?_
    refine lv_aload_n (pc := 32) hx hb dX0_keeps_32 rfl (lv_at hl 1 rfl) ?_
    refine rk_get (pc := 33) hx hb hts hown hK hW83 flX0_78 0 (by decide) rfl rfl (x := .ref (b0 + 160)) (by first | rfl | exact congrArg (fun z => some (Value.ref z)) (by omega)) dX0_keeps_33 ?_
    refine lv_aload (pc := 36) hx hb dX0_keeps_36 (lv_at hl 0 rfl) ?_
    obtain ⟨hg86, hm⟩ := gb_some hm
    obtain ⟨r87, rc88, w89, hq90, hm⟩ := ob3_some hm
    have hq91 := hq90
    rw [show (Z + 0) = H75.size by omega] at hq91
    refine rk_TV (pc := 38) (As := [.ref (b0 + (177 + 1 * r69.toNatClampNeg + 0))]) (rest := []) (mc := 1) (ms := 90) hx hb hml hown hts hK hS79 (fun q hq => FA_sz rfl q hq) lkX0_361 rfl yn_J4_add (ct_J4_add_found (G := G) (l := l) (b0 := b0) hq91 hPX hZP) ⟨Nat.le_of_ble_eq_true rfl, Nat.le_of_ble_eq_true rfl⟩ (fun z h => (FA_r (KM_hf2 hKM z h))) (rp_recv hK hW82 (C := RJ4) (T := TJ4) (N := 4) rfl (shP_17 (kd_PL hg86) (kd_k hg86))) ⟨hW83, hW82⟩ rfl rfl hl.1 (Nat.le_of_ble_eq_true rfl) dX0_keeps_38 ⟨Nat.le_of_ble_eq_true rfl, Nat.le_of_ble_eq_true rfl⟩ (fun ov9 H92 locs93 hP94 hkp95 hS96 => ?_)
    obtain ⟨rfl, hW97, hz98, hKM99⟩ := hP94
    have hW100 := rg_keepX hW83 hkp95 (by intro z h0 h3; have h1 := h0.1.1; have h2 := h0.1.2; have h4 := h0.2; exact hPX _ h3.1 h0)
    have hz101 : H92.size = s.heap.size + rc88 := by omega
    have hKM102 := KM.trans hKM hKM99 (by omega)
    refine W.eq (g2 := F0 m 41 ls [.int r87]) rfl ?_
    refine lv_pop (pc := 41) hx hb dX0_keeps_41 rfl ?_
    refine lv_iconst (pc := 42) (v := (1 : Int32)) hx hb dX0_keeps_42 (by decide) ?_
    obtain ⟨e6, e7, e8, e9⟩ := rs4 hm
    subst e6
    subst e7
    subst e8
    subst e9
    exact rk_zretA (pc := 43) hx hb hr hlk rfl hS96 ⟨rfl, hW100, hW97, hz101, hKM102⟩ dX0_keeps_43 (by exact Nat.le_of_ble_eq_true rfl) (by exact Nat.le_of_ble_eq_true rfl)
set_option maxHeartbeats 4000000 in
theorem ct_X0_keeps_grow {G : Gv} {l : Launch} {b0 : Nat} {PL : Nat → Bool} {Z : Nat} {v0 : Mem} {v1 : Mem} {i1 : Int32} {i2 : Int32} {i3 : Int32} {rx : Int32} {rc : Nat} {rw0 : Mem} {rw1 : Mem} (hm : fX0_keeps_grow PL Z b0 v0 v1 i1 i2 i3 = some (rx, rc, rw0, rw1)) (hPX : ∀ z, PL z = true → ¬ fX b0 z) (hZP : ZP G) : CT G l yX0_keeps (ws_ yX0_keeps cX0_keeps 5 (some .boolean)) 7 1 90 207 [.ref b0, .int i1, .int i2, .int i3] (fun z => (fX b0) z ∨ (fP PL v1) z) Z (fun H => rg G b0 357 (shX0 G.2.1) v0 H ∧ pl G PL v1 H) (fun ov H => ov = (some (.int rx)) ∧ rg G b0 357 (shX0 G.2.1) rw0 H ∧ pl G PL rw1 H ∧ H.size = Z + rc ∧ KM v1 rw1 Z) := by
  refine Met.ofW (cc := cX0_keeps) (maxL := 5) (ret := (some .boolean)) (by decide +kernel) rfl ?_
  intro p e s m args below meth c s₁ B hml hv
  obtain ⟨rfl, ⟨hz, hW0, hW1⟩, hK⟩ := hv
  subst hz
  have he0 := rg_end hW0 356 (by decide) rfl (fun _ _ _ => rfl)
  have hZz : s.heap.size = s.heap.size := rfl
  have hts := atoms_spec (ws := ws_ yX0_keeps cX0_keeps 5 (some .boolean)) B.pre
  have hts : ∀ w ∈ lw_all, w.before _ s = true := fun w h => hts w (List.mem_cons_of_mem _ h)
  have C : Cx G p s m _ meth c RX0 cX0_keeps 5 (some .boolean) := ⟨B.exec, B.bytes, B.returns, B.notSynchronized, hml, findClass_of_methodNamed B.named, hts, hK⟩
  have hl := lv_entry ([.ref b0, .int i1, .int i2, .int i3]) (n := 5) (Nat.le_of_ble_eq_true rfl)
  rw [lg_entry_eq]
  generalize (lg_sl ([.ref b0, .int i1, .int i2, .int i3]) ++ List.replicate (5 - (lg_sl ([.ref b0, .int i1, .int i2, .int i3])).length) Slot.unset).toArray = ls at hl ⊢
  have hl : lv_has ls 5 [(0, .ref b0), (1, .int i1), (2, .int i2), (3, .int i3)] := hl
  exact w_fX0_keeps_grow C hPX he0 hZz hZP _ _ _ _ _ hm s.heap [] ls hW0 hW1 va_S.rf rfl KM.rf hl
noncomputable def fX0_lambda_nth_3_grow (PL : Nat → Bool) (Z : Nat) (b0 : Nat) (v0 : Mem) (v1 : Mem) (i1 : Int32) (i2 : Int32) (i3 : Int32) (i4 : Int32) : Option (Int32 × Nat × Mem × Mem) :=
  if 0 < i4 then (
  some ((1 : Int32), 0, v0, v1))
  else (
  ob4 (fX0_keeps_grow PL (Z + 0) b0 v0 v1 (i1 + (1 : Int32)) i2 i3) fun r2 rc3 w4 w5 =>
  if r2 = 0 then (
  some ((0 : Int32), rc3, w4, w5))
  else (
  some ((1 : Int32), rc3, w4, w5)))
set_option maxHeartbeats 4000000 in
theorem w_fX0_lambda_nth_3_grow (C : Cx G p s m args meth c RX0 cX0_lambda_nth_3 5 (some .boolean)) {b0 : Nat} {PL : Nat → Bool} {Z : Nat} {vP0 : Mem} {rx : Int32} {rc : Nat} {rw0 : Mem} {rw1 : Mem} (hPX : ∀ z, PL z = true → ¬ fX b0 z) (he0 : b0 + 357 ≤ s.heap.size) (hZz : s.heap.size = Z) (hZP : ZP G) : ∀ (v0 : Mem) (v1 : Mem) (i1 : Int32) (i2 : Int32) (i3 : Int32) (i4 : Int32), fX0_lambda_nth_3_grow PL Z b0 v0 v1 i1 i2 i3 i4 = some (rx, rc, rw0, rw1) → ∀ (H : Heap) (locs : List Loc) (ls : Array Slot), rg G b0 357 (shX0 G.2.1) v0 H → pl G PL v1 H → va_S (FA (fun z => (fX b0) z ∨ (fP PL vP0) z) s.heap.size) s.heap H locs → H.size = s.heap.size + 0 → KM vP0 v1 s.heap.size → lv_has ls 5 [(0, .ref b0), (1, .int i1), (2, .int i2), (3, .int i3), (4, .int i4)] → W p l e (rmT 8 1 90 231) s m args below meth c H locs 0 0 (MQ below (QcT (FA (fun z => (fX b0) z ∨ (fP PL vP0) z) s.heap.size) (fun ov H => ov = (some (.int rx)) ∧ rg G b0 357 (shX0 G.2.1) rw0 H ∧ pl G PL rw1 H ∧ H.size = s.heap.size + rc ∧ KM vP0 rw1 s.heap.size)) args s 1 90 (FA (fun z => (fX b0) z ∨ (fP PL vP0) z) s.heap.size)) (F0 m 0 ls []) := by
  intro v0 v1 i1 i2 i3 i4 hm H locs ls hW0 hW1 hS hz hKM hl
  obtain ⟨hx, hb, hr, hlk, hml, hown, hts, hK⟩ := id C
  unfold fX0_lambda_nth_3_grow at hm
  refine lv_iload (pc := 0) hx hb dX0_lambda_nth_3_0 (lv_at hl 4 rfl) ?_
  refine lv_if_gt (pc := 2) (tgt := 17) hx hb dX0_lambda_nth_3_2 (by decide) (fun c1 => ?_) (fun c1 => ?_)
  · have hm := ite_t c1 hm
    refine lv_iconst (pc := 17) (v := (1 : Int32)) hx hb dX0_lambda_nth_3_17 (by decide) ?_
    refine lv_goto (pc := 18) (tgt := 22) hx hb dX0_lambda_nth_3_18 (by decide) ?_
    obtain ⟨e6, e7, e8, e9⟩ := rs4 hm
    subst e6
    subst e7
    subst e8
    subst e9
    exact rk_zretA (pc := 22) hx hb hr hlk rfl hS ⟨rfl, hW0, hW1, hz, hKM⟩ dX0_lambda_nth_3_22 (by exact Nat.le_of_ble_eq_true rfl) (by exact Nat.le_of_ble_eq_true rfl)
  · have hm := ite_f c1 hm
    refine lv_aload_n (pc := 5) hx hb dX0_lambda_nth_3_5 rfl (lv_at hl 0 rfl) ?_
    refine lv_iload_n (pc := 6) hx hb dX0_lambda_nth_3_6 rfl (lv_at hl 1 rfl) ?_
    refine lv_iconst (pc := 7) (v := (1 : Int32)) hx hb dX0_lambda_nth_3_7 (by decide) ?_
    refine lv_iadd (pc := 8) hx hb dX0_lambda_nth_3_8 ?_
    refine lv_iload_n (pc := 9) hx hb dX0_lambda_nth_3_9 rfl (lv_at hl 2 rfl) ?_
    refine lv_iload_n (pc := 10) hx hb dX0_lambda_nth_3_10 rfl (lv_at hl 3 rfl) ?_
    obtain ⟨r2, rc3, w4, w5, hq6, hm⟩ := ob4_some hm
    have hq7 := hq6
    rw [show (Z + 0) = H.size by omega] at hq7
    refine rk_TV (pc := 11) (As := [.int (i1 + (1 : Int32)), .int i2, .int i3]) (rest := []) (mc := 1) (ms := 90) hx hb hml hown hts hK hS (fun q hq => FA_sz rfl q hq) lkX0_611 rfl yn_X0_keeps (ct_X0_keeps_grow (G := G) (l := l) (b0 := b0) hq7 hPX hZP) ⟨Nat.le_of_ble_eq_true rfl, Nat.le_of_ble_eq_true rfl⟩ (fun z h => h.elim (fun h => Or.inl (Or.inl h)) (fun h => (FA_r (KM_hf2 hKM z h)))) (rk_recv hK hW0 0 (by decide) rfl rfl rfl) ⟨hW0, hW1⟩ rfl rfl hl.1 (Nat.le_of_ble_eq_true rfl) dX0_lambda_nth_3_11 ⟨Nat.le_of_ble_eq_true rfl, Nat.le_of_ble_eq_true rfl⟩ (fun ov9 H8 locs9 hP10 hkp11 hS12 => ?_)
    obtain ⟨rfl, hW13, hW14, hz15, hKM16⟩ := hP10
    have hz17 : H8.size = s.heap.size + rc3 := by omega
    have hKM18 := KM.trans hKM hKM16 (by omega)
    refine W.eq (g2 := F0 m 14 ls [.int r2]) rfl ?_
    refine lv_if_eq (pc := 14) (tgt := 21) hx hb dX0_lambda_nth_3_14 (by decide) (fun c19 => ?_) (fun c19 => ?_)
    · have hm := ite_t c19 hm
      refine lv_iconst (pc := 21) (v := (0 : Int32)) hx hb dX0_lambda_nth_3_21 (by decide) ?_
      obtain ⟨e6, e7, e8, e9⟩ := rs4 hm
      subst e6
      subst e7
      subst e8
      subst e9
      exact rk_zretA (pc := 22) hx hb hr hlk rfl hS12 ⟨rfl, hW13, hW14, hz17, hKM18⟩ dX0_lambda_nth_3_22 (by exact Nat.le_of_ble_eq_true rfl) (by exact Nat.le_of_ble_eq_true rfl)
    · have hm := ite_f c19 hm
      refine lv_iconst (pc := 17) (v := (1 : Int32)) hx hb dX0_lambda_nth_3_17 (by decide) ?_
      refine lv_goto (pc := 18) (tgt := 22) hx hb dX0_lambda_nth_3_18 (by decide) ?_
      obtain ⟨e6, e7, e8, e9⟩ := rs4 hm
      subst e6
      subst e7
      subst e8
      subst e9
      exact rk_zretA (pc := 22) hx hb hr hlk rfl hS12 ⟨rfl, hW13, hW14, hz17, hKM18⟩ dX0_lambda_nth_3_22 (by exact Nat.le_of_ble_eq_true rfl) (by exact Nat.le_of_ble_eq_true rfl)
set_option maxHeartbeats 4000000 in
theorem ct_X0_lambda_nth_3_grow {G : Gv} {l : Launch} {b0 : Nat} {PL : Nat → Bool} {Z : Nat} {v0 : Mem} {v1 : Mem} {i1 : Int32} {i2 : Int32} {i3 : Int32} {i4 : Int32} {rx : Int32} {rc : Nat} {rw0 : Mem} {rw1 : Mem} (hm : fX0_lambda_nth_3_grow PL Z b0 v0 v1 i1 i2 i3 i4 = some (rx, rc, rw0, rw1)) (hPX : ∀ z, PL z = true → ¬ fX b0 z) (hZP : ZP G) : CT G l yX0_lambda_nth_3 (ws_ yX0_lambda_nth_3 cX0_lambda_nth_3 5 (some .boolean)) 8 1 90 231 [.ref b0, .int i1, .int i2, .int i3, .int i4] (fun z => (fX b0) z ∨ (fP PL v1) z) Z (fun H => rg G b0 357 (shX0 G.2.1) v0 H ∧ pl G PL v1 H) (fun ov H => ov = (some (.int rx)) ∧ rg G b0 357 (shX0 G.2.1) rw0 H ∧ pl G PL rw1 H ∧ H.size = Z + rc ∧ KM v1 rw1 Z) := by
  refine Met.ofW (cc := cX0_lambda_nth_3) (maxL := 5) (ret := (some .boolean)) (by decide +kernel) rfl ?_
  intro p e s m args below meth c s₁ B hml hv
  obtain ⟨rfl, ⟨hz, hW0, hW1⟩, hK⟩ := hv
  subst hz
  have he0 := rg_end hW0 356 (by decide) rfl (fun _ _ _ => rfl)
  have hZz : s.heap.size = s.heap.size := rfl
  have hts := atoms_spec (ws := ws_ yX0_lambda_nth_3 cX0_lambda_nth_3 5 (some .boolean)) B.pre
  have hts : ∀ w ∈ lw_all, w.before _ s = true := fun w h => hts w (List.mem_cons_of_mem _ h)
  have C : Cx G p s m _ meth c RX0 cX0_lambda_nth_3 5 (some .boolean) := ⟨B.exec, B.bytes, B.returns, B.notSynchronized, hml, findClass_of_methodNamed B.named, hts, hK⟩
  have hl := lv_entry ([.ref b0, .int i1, .int i2, .int i3, .int i4]) (n := 5) (Nat.le_of_ble_eq_true rfl)
  rw [lg_entry_eq]
  generalize (lg_sl ([.ref b0, .int i1, .int i2, .int i3, .int i4]) ++ List.replicate (5 - (lg_sl ([.ref b0, .int i1, .int i2, .int i3, .int i4])).length) Slot.unset).toArray = ls at hl ⊢
  have hl : lv_has ls 5 [(0, .ref b0), (1, .int i1), (2, .int i2), (3, .int i3), (4, .int i4)] := hl
  exact w_fX0_lambda_nth_3_grow C hPX he0 hZz hZP _ _ _ _ _ _ hm s.heap [] ls hW0 hW1 va_S.rf rfl KM.rf hl
noncomputable def fX0_goesThrough_nth_37 (PL : Nat → Bool) (Z : Nat) (b0 : Nat) (z1 : Int32) (p1 : Nat) (k37 : Mem → Mem → Nat → Nat → Nat → Int32 → Option (Nat × Mem × Mem)) (v0 : Mem) (v1 : Mem) (cb : Nat) (sb : Nat) (zc : Nat) (i2 : Int32) : Option (Nat × Mem × Mem) :=
  if i2 = 0 then (
  some (zc, v0, v1))
  else (
  ob2 (fX0_nextMix v0) fun r59 w60 =>
  gb (decide (cb ≤ 8 ∧ sb ≤ 800)) (
  if r59 = 0 then (
  some (zc, w60, v1))
  else (
  ob (fX0_codeOf_mix w60) fun r75 =>
  ob (fX0_costOf_mix w60) fun r77 =>
  ob (fX0_brokenBy_mix w60) fun r79 =>
  gb (decide (gI v1 p1 99 = 0)) (
  if pqfit v1 b0 = true then (
  gb (decide (cb ≤ 8 ∧ sb ≤ 800)) (
  ob3 (fX0_lambda_nth_3_fit PL b0 w60 v1 z1 r75 r77 r79) fun r95 w83 w84 =>
  gb (z01 r95) (
  k37 w83 w84 cb sb zc r95)))
  else (
  gb (decide ((cb + 1) ≤ 8 ∧ (sb + 90) ≤ 800)) (
  ob4 (fX0_lambda_nth_3_grow PL (Z + zc) b0 w60 v1 z1 r75 r77 r79) fun r115 rc116 w103 w104 =>
  gb (z01 r115) (
  k37 w103 w104 (cb + 1) (sb + 90) (zc + rc116) r115)))))))
noncomputable def fX0_goesThrough_nth_2 (PL : Nat → Bool) (Z : Nat) (b0 : Nat) (z1 : Int32) (p1 : Nat) (k2 : Mem → Mem → Nat → Nat → Nat → Int32 → Option (Nat × Mem × Mem)) (v0 : Mem) (v1 : Mem) (cb : Nat) (sb : Nat) (zc : Nat) (i2 : Int32) : Option (Nat × Mem × Mem) :=
  if (5 : Int32) ≤ i2 then (
  ob (fX0_brokenBy_mix v0) fun r2 =>
  gb (decide (gI v1 p1 99 = 0)) (
  if pqfit v1 b0 = true then (
  gb (decide (cb ≤ 8 ∧ sb ≤ 800)) (
  ob3 (fX0_lambda_nth_3_fit PL b0 v0 v1 z1 (0 : Int32) (0 : Int32) r2) fun r18 w6 w7 =>
  gb (z01 r18) (
  lq6 (fX0_goesThrough_nth_37 PL Z b0 z1 p1) FU w6 w7 cb sb zc r18)))
  else (
  gb (decide ((cb + 1) ≤ 8 ∧ (sb + 90) ≤ 800)) (
  ob4 (fX0_lambda_nth_3_grow PL (Z + zc) b0 v0 v1 z1 (0 : Int32) (0 : Int32) r2) fun r38 rc39 w26 w27 =>
  gb (z01 r38) (
  lq6 (fX0_goesThrough_nth_37 PL Z b0 z1 p1) FU w26 w27 (cb + 1) (sb + 90) (zc + rc39) r38)))))
  else (
  gb (inR i2 5) (
  lm (sI v0 158 i2.toNatClampNeg (0 : Int32)) fun v0_47 =>
  k2 v0_47 v1 cb sb zc (i2 + (1 : Int32))))
noncomputable def fX0_goesThrough_nth (PL : Nat → Bool) (Z : Nat) (b0 : Nat) (z1 : Int32) (p1 : Nat) (v0 : Mem) (v1 : Mem) : Option (Nat × Mem × Mem) :=
  lq6 (fX0_goesThrough_nth_2 PL Z b0 z1 p1) FU v0 v1 0 0 0 (0 : Int32)
set_option maxHeartbeats 4000000 in
theorem w_fX0_goesThrough_nth_37 (C : Cx G p s m args meth c RX0 cX0_goesThrough 3 none) {b0 : Nat} {PL : Nat → Bool} {Z : Nat} {z1 : Int32} {p1 : Nat} {vP0 : Mem} {rc : Nat} {rw0 : Mem} {rw1 : Mem} (hPX : ∀ z, PL z = true → ¬ fX b0 z) (hap1 : b0 + 357 ≤ p1) (he0 : b0 + 357 ≤ s.heap.size) (hZz : s.heap.size = Z) (hZ : ZQ G) (hgb0 : gB G ≤ b0) (hPg : ∀ z, PL z = true → gB G ≤ z) (hZP : ZP G) (hZL : ZL G) {k37 : Mem → Mem → Nat → Nat → Nat → Int32 → Option (Nat × Mem × Mem)} (hk37 : ∀ (v0 : Mem) (v1 : Mem) (cb : Nat) (sb : Nat) (zc : Nat) (i2 : Int32), k37 v0 v1 cb sb zc i2 = some (rc, rw0, rw1) → ∀ (H : Heap) (locs : List Loc) (ls : Array Slot), rg G b0 357 (shX0 G.2.1) v0 H → pl G PL v1 H → va_S (FA (fun z => (fX b0) z ∨ (fP PL vP0) z) s.heap.size) s.heap H locs → H.size = s.heap.size + zc → KM vP0 v1 s.heap.size → GO G H → LC H p1 (G.2.1 25) [.ref b0, .int z1] → cb ≤ 8 ∧ sb ≤ 800 → lv_has ls 3 [(0, .ref b0), (1, .ref p1), (2, .int i2)] → W p l e (rmT 10 8 800 278) s m args below meth c H locs cb sb (MQ below (QcT (FA (fun z => (fX b0) z ∨ (fP PL vP0) z) s.heap.size) (fun ov H => ov = none ∧ rg G b0 357 (shX0 G.2.1) rw0 H ∧ pl G PL rw1 H ∧ H.size = s.heap.size + rc ∧ KM vP0 rw1 s.heap.size)) args s 8 800 (FA (fun z => (fX b0) z ∨ (fP PL vP0) z) s.heap.size)) (F0 m 37 ls [])) : ∀ (v0 : Mem) (v1 : Mem) (cb : Nat) (sb : Nat) (zc : Nat) (i2 : Int32), fX0_goesThrough_nth_37 PL Z b0 z1 p1 k37 v0 v1 cb sb zc i2 = some (rc, rw0, rw1) → ∀ (H : Heap) (locs : List Loc) (ls : Array Slot), rg G b0 357 (shX0 G.2.1) v0 H → pl G PL v1 H → va_S (FA (fun z => (fX b0) z ∨ (fP PL vP0) z) s.heap.size) s.heap H locs → H.size = s.heap.size + zc → KM vP0 v1 s.heap.size → GO G H → LC H p1 (G.2.1 25) [.ref b0, .int z1] → cb ≤ 8 ∧ sb ≤ 800 → lv_has ls 3 [(0, .ref b0), (1, .ref p1), (2, .int i2)] → W p l e (rmT 10 8 800 278) s m args below meth c H locs cb sb (MQ below (QcT (FA (fun z => (fX b0) z ∨ (fP PL vP0) z) s.heap.size) (fun ov H => ov = none ∧ rg G b0 357 (shX0 G.2.1) rw0 H ∧ pl G PL rw1 H ∧ H.size = s.heap.size + rc ∧ KM vP0 rw1 s.heap.size)) args s 8 800 (FA (fun z => (fX b0) z ∨ (fP PL vP0) z) s.heap.size)) (F0 m 37 ls []) := by
  intro v0 v1 cb sb zc i2 hm H locs ls hW0 hW1 hS hz hKM hG hL1 hcb hl
  obtain ⟨hx, hb, hr, hlk, hml, hown, hts, hK⟩ := id C
  unfold fX0_goesThrough_nth_37 at hm
  refine lv_iload_n (pc := 37) hx hb dX0_goesThrough_37 rfl (lv_at hl 2 rfl) ?_
  refine lv_if_eq (pc := 38) (tgt := 82) hx hb dX0_goesThrough_38 (by decide) (fun c58 => ?_) (fun c58 => ?_)
  · have hm := ite_t c58 hm
    obtain ⟨e7, e8, e9⟩ := rs3 hm
    subst e7
    subst e8
    subst e9
    exact rk_vretA (pc := 82) hx hb hr hlk hS ⟨rfl, hW0, hW1, hz, hKM⟩ dX0_goesThrough_82 hcb.1 hcb.2
  · have hm := ite_f c58 hm
    refine lv_aload_n (pc := 41) hx hb dX0_goesThrough_41 rfl (lv_at hl 0 rfl) ?_
    obtain ⟨r59, w60, hq61, hm⟩ := ob2_some hm
    obtain ⟨hg67, hm⟩ := gb_some hm
    have hg67 := of_decide_eq_true hg67
    refine rk_TV (pc := 42) (As := []) (rest := []) (mc := 0) (ms := 0) hx hb hml hown hts hK hS (fun q hq => FA_sz rfl q hq) lkX0_343 rfl yn_X0_nextMix (ct_X0_nextMix (G := G) (l := l) (b0 := b0) (sz := H.size) hq61) ⟨Nat.le_of_ble_eq_true rfl, Nat.le_of_ble_eq_true rfl⟩ (fun z h => Or.inl (Or.inl h)) (rk_recv hK hW0 0 (by decide) rfl rfl rfl) hW0 rfl rfl hl.1 (Nat.le_of_ble_eq_true rfl) dX0_goesThrough_42 ⟨hg67.1, hg67.2⟩ (fun ov9 H62 locs63 hP64 hkp65 hS66 => ?_)
    obtain ⟨rfl, hW68, hz69⟩ := hP64
    have hW70 := pl_keepA hW1 hkp65 (by intro z h1 h3; exact hPX _ h1 h3)
    have hG71 := GO_keepA hG hkp65 (Nat.le_trans (show gB G ≤ s.heap.size by omega) hS.1) (by intro z h3; have h8 := h3.1.1; have h9 := h3.1.2; omega)
    have hL72 := LC.keepA hL1 hkp65 (by intro h3; have h8 := h3.1.1; have h9 := h3.1.2; omega)
    have hz73 := hz69.trans hz
    refine W.eq (g2 := F0 m 45 ls [.int r59]) rfl ?_
    refine lv_if_eq (pc := 45) (tgt := 82) hx hb dX0_goesThrough_45 (by decide) (fun c74 => ?_) (fun c74 => ?_)
    · have hm := ite_t c74 hm
      obtain ⟨e7, e8, e9⟩ := rs3 hm
      subst e7
      subst e8
      subst e9
      exact rk_vretA (pc := 82) hx hb hr hlk hS66 ⟨rfl, hW68, hW70, hz73, hKM⟩ dX0_goesThrough_82 hg67.1 hg67.2
    · have hm := ite_f c74 hm
      refine lv_aload_n (pc := 48) hx hb dX0_goesThrough_48 rfl (lv_at hl 1 rfl) ?_
      refine lv_aload_n (pc := 49) hx hb dX0_goesThrough_49 rfl (lv_at hl 0 rfl) ?_
      refine lv_aload_n (pc := 50) hx hb dX0_goesThrough_50 rfl (lv_at hl 0 rfl) ?_
      refine rk_get (pc := 51) hx hb hts hown hK hW68 flX0_60 0 (by decide) rfl rfl (x := .ref (b0 + 158)) (by first | rfl | exact congrArg (fun z => some (Value.ref z)) (by omega)) dX0_goesThrough_51 ?_
      obtain ⟨r75, hq76, hm⟩ := ob_some hm
      refine rk_PV (pc := 54) (As := [.ref (b0 + 158)]) (rest := [.ref p1]) hx hb hml hown hts hK lkX0_347 rfl yn_X0_codeOf (ct_X0_codeOf_mix (G := G) (l := l) (b0 := b0) hq76) ⟨Nat.le_of_ble_eq_true rfl, Nat.le_of_ble_eq_true rfl⟩ (rk_recv hK hW68 0 (by decide) rfl rfl rfl) hW68 rfl rfl hl.1 (Nat.le_of_ble_eq_true rfl) dX0_goesThrough_54 hg67 ?_
      refine W.eq (g2 := F0 m 57 ls [.int r75, .ref p1]) rfl ?_
      refine lv_aload_n (pc := 57) hx hb dX0_goesThrough_57 rfl (lv_at hl 0 rfl) ?_
      refine lv_aload_n (pc := 58) hx hb dX0_goesThrough_58 rfl (lv_at hl 0 rfl) ?_
      refine rk_get (pc := 59) hx hb hts hown hK hW68 flX0_60 0 (by decide) rfl rfl (x := .ref (b0 + 158)) (by first | rfl | exact congrArg (fun z => some (Value.ref z)) (by omega)) dX0_goesThrough_59 ?_
      obtain ⟨r77, hq78, hm⟩ := ob_some hm
      refine rk_PV (pc := 62) (As := [.ref (b0 + 158)]) (rest := [.int r75, .ref p1]) hx hb hml hown hts hK lkX0_350 rfl yn_X0_costOf (ct_X0_costOf_mix (G := G) (l := l) (b0 := b0) hq78) ⟨Nat.le_of_ble_eq_true rfl, Nat.le_of_ble_eq_true rfl⟩ (rk_recv hK hW68 0 (by decide) rfl rfl rfl) hW68 rfl rfl hl.1 (Nat.le_of_ble_eq_true rfl) dX0_goesThrough_62 hg67 ?_
      refine W.eq (g2 := F0 m 65 ls [.int r77, .int r75, .ref p1]) rfl ?_
      refine lv_aload_n (pc := 65) hx hb dX0_goesThrough_65 rfl (lv_at hl 0 rfl) ?_
      refine lv_aload_n (pc := 66) hx hb dX0_goesThrough_66 rfl (lv_at hl 0 rfl) ?_
      refine rk_get (pc := 67) hx hb hts hown hK hW68 flX0_60 0 (by decide) rfl rfl (x := .ref (b0 + 158)) (by first | rfl | exact congrArg (fun z => some (Value.ref z)) (by omega)) dX0_goesThrough_67 ?_
      obtain ⟨r79, hq80, hm⟩ := ob_some hm
      refine rk_PV (pc := 70) (As := [.ref (b0 + 158)]) (rest := [.int r77, .int r75, .ref p1]) hx hb hml hown hts hK lkX0_333 rfl yn_X0_brokenBy (ct_X0_brokenBy_mix (G := G) (l := l) (b0 := b0) hq80 hZ (by omega) hZL) ⟨Nat.le_of_ble_eq_true rfl, Nat.le_of_ble_eq_true rfl⟩ (rk_recv hK hW68 0 (by decide) rfl rfl rfl) ⟨hW68, hG71⟩ rfl rfl hl.1 (Nat.le_of_ble_eq_true rfl) dX0_goesThrough_70 hg67 ?_
      refine W.eq (g2 := F0 m 73 ls [.int r79, .int r77, .int r75, .ref p1]) rfl ?_
      obtain ⟨hg82, hm⟩ := gb_some hm
      have hg82 := of_decide_eq_true hg82
      by_cases hf81 : pqfit v1 b0 = true
      · have hm := ite_t hf81 hm
        obtain ⟨hg98, hm⟩ := gb_some hm
        have hg98 := of_decide_eq_true hg98
        obtain ⟨r95, w83, w84, hq85, hm⟩ := ob3_some hm
        obtain ⟨hg97, hm⟩ := gb_some hm
        refine rk_lamK (pc := 73) (y := yX0_lambda_nth_3) (z0 := z1) (z1 := r75) (z2 := r77) (z3 := r79) (b := b0) (rest := []) (mc := 0) (ms := 0) hx hb hml hown hts hK hS66 (fun q hq => FA_sz rfl q hq) lfK0 (hZL.1 s hK).1.2.2.2.2.2.1 (hZL.1 s hK).2.1.2.2 q1158 q1160 hL72 rfl rfl rfl yn_X0_lambda_nth_3 ⟨q994, qs25, q114, q995⟩ (ct_X0_lambda_nth_3_fit (G := G) (l := l) (b0 := b0) (sz := H62.size) hq85 hPX hZP) (fun ov H h => ⟨_, h.1, hg97⟩) ⟨Nat.le_of_ble_eq_true rfl, Nat.le_of_ble_eq_true rfl⟩ (fun z h => h.elim (fun h => Or.inl (Or.inl h)) (fun h => (FA_r (KM_hf2 hKM z h)))) (rk_recv hK hW68 0 (by decide) rfl rfl rfl) ⟨hW68, hW70⟩ hl.1 (Nat.le_of_ble_eq_true rfl) dX0_goesThrough_73 ⟨hg98.1, hg98.2⟩ (fun r9 H86 locs87 hP88 hkp89 hS90 => ?_)
        obtain ⟨h19, hW91, hW92, hz93, hKM94⟩ := hP88
        cases h19
        have hL99 := LC.keepA hL72 hkp89 (by intro h3; exact h3.elim (fun h3 => by have h8 := h3.1.1; have h9 := h3.1.2; omega) (fun h3 => h3.2 hg82))
        have hG100 := GO_keepA hG71 hkp89 (Nat.le_trans (show gB G ≤ s.heap.size by omega) hS66.1) (by intro z h3; exact h3.elim (fun h3 => by have h8 := h3.1.1; have h9 := h3.1.2; omega) (fun h3 => hPg _ h3.1))
        have hz101 : H86.size = s.heap.size + zc := by omega
        have hKM102 := KM.trans hKM hKM94 (by omega)
        refine lv_istore_n (pc := 78) (lv' := [(2, .int r95), (0, .ref b0), (1, .ref p1)]) hx hb dX0_goesThrough_78 rfl hl (by decide) rfl (fun ls hl => ?_)
        refine lv_goto (pc := 79) (tgt := 37) hx hb dX0_goesThrough_79 (by decide) ?_
        exact hk37 w83 w84 cb sb zc r95 hm H86 locs87 ls hW91 hW92 hS90 hz101 hKM102 hG100 hL99 hg98 (lv_sub hl [1, 2, 0] rfl)
      · have hm := ite_f hf81 hm
        obtain ⟨hg118, hm⟩ := gb_some hm
        have hg118 := of_decide_eq_true hg118
        obtain ⟨r115, rc116, w103, w104, hq105, hm⟩ := ob4_some hm
        obtain ⟨hg117, hm⟩ := gb_some hm
        rw [show (Z + zc) = H62.size by omega] at hq105
        refine rk_lamK (pc := 73) (y := yX0_lambda_nth_3) (z0 := z1) (z1 := r75) (z2 := r77) (z3 := r79) (b := b0) (rest := []) (mc := 1) (ms := 90) hx hb hml hown hts hK hS66 (fun q hq => FA_sz rfl q hq) lfK0 (hZL.1 s hK).1.2.2.2.2.2.1 (hZL.1 s hK).2.1.2.2 q1158 q1160 hL72 rfl rfl rfl yn_X0_lambda_nth_3 ⟨q994, qs25, q114, q995⟩ (ct_X0_lambda_nth_3_grow (G := G) (l := l) (b0 := b0) hq105 hPX hZP) (fun ov H h => ⟨_, h.1, hg117⟩) ⟨Nat.le_of_ble_eq_true rfl, Nat.le_of_ble_eq_true rfl⟩ (fun z h => h.elim (fun h => Or.inl (Or.inl h)) (fun h => (FA_r (KM_hf2 hKM z h)))) (rk_recv hK hW68 0 (by decide) rfl rfl rfl) ⟨hW68, hW70⟩ hl.1 (Nat.le_of_ble_eq_true rfl) dX0_goesThrough_73 ⟨hg118.1, hg118.2⟩ (fun r9 H106 locs107 hP108 hkp109 hS110 => ?_)
        obtain ⟨h19, hW111, hW112, hz113, hKM114⟩ := hP108
        cases h19
        have hL119 := LC.keepA hL72 hkp109 (by intro h3; exact h3.elim (fun h3 => by have h8 := h3.1.1; have h9 := h3.1.2; omega) (fun h3 => h3.2 hg82))
        have hG120 := GO_keepA hG71 hkp109 (Nat.le_trans (show gB G ≤ s.heap.size by omega) hS66.1) (by intro z h3; exact h3.elim (fun h3 => by have h8 := h3.1.1; have h9 := h3.1.2; omega) (fun h3 => hPg _ h3.1))
        have hz121 : H106.size = s.heap.size + (zc + rc116) := by omega
        have hKM122 := KM.trans hKM hKM114 (by omega)
        refine lv_istore_n (pc := 78) (lv' := [(2, .int r115), (0, .ref b0), (1, .ref p1)]) hx hb dX0_goesThrough_78 rfl hl (by decide) rfl (fun ls hl => ?_)
        refine lv_goto (pc := 79) (tgt := 37) hx hb dX0_goesThrough_79 (by decide) ?_
        exact hk37 w103 w104 (cb + 1) (sb + 90) (zc + rc116) r115 hm H106 locs107 ls hW111 hW112 hS110 hz121 hKM122 hG120 hL119 hg118 (lv_sub hl [1, 2, 0] rfl)
theorem w_fX0_goesThrough_nth_37_l (C : Cx G p s m args meth c RX0 cX0_goesThrough 3 none) {b0 : Nat} {PL : Nat → Bool} {Z : Nat} {z1 : Int32} {p1 : Nat} {vP0 : Mem} {rc : Nat} {rw0 : Mem} {rw1 : Mem} (hPX : ∀ z, PL z = true → ¬ fX b0 z) (hap1 : b0 + 357 ≤ p1) (he0 : b0 + 357 ≤ s.heap.size) (hZz : s.heap.size = Z) (hZ : ZQ G) (hgb0 : gB G ≤ b0) (hPg : ∀ z, PL z = true → gB G ≤ z) (hZP : ZP G) (hZL : ZL G) : ∀ (n : Nat) (v0 : Mem) (v1 : Mem) (cb : Nat) (sb : Nat) (zc : Nat) (i2 : Int32), lq6 (fX0_goesThrough_nth_37 PL Z b0 z1 p1) n v0 v1 cb sb zc i2 = some (rc, rw0, rw1) → ∀ (H : Heap) (locs : List Loc) (ls : Array Slot), rg G b0 357 (shX0 G.2.1) v0 H → pl G PL v1 H → va_S (FA (fun z => (fX b0) z ∨ (fP PL vP0) z) s.heap.size) s.heap H locs → H.size = s.heap.size + zc → KM vP0 v1 s.heap.size → GO G H → LC H p1 (G.2.1 25) [.ref b0, .int z1] → cb ≤ 8 ∧ sb ≤ 800 → lv_has ls 3 [(0, .ref b0), (1, .ref p1), (2, .int i2)] → W p l e (rmT 10 8 800 278) s m args below meth c H locs cb sb (MQ below (QcT (FA (fun z => (fX b0) z ∨ (fP PL vP0) z) s.heap.size) (fun ov H => ov = none ∧ rg G b0 357 (shX0 G.2.1) rw0 H ∧ pl G PL rw1 H ∧ H.size = s.heap.size + rc ∧ KM vP0 rw1 s.heap.size)) args s 8 800 (FA (fun z => (fX b0) z ∨ (fP PL vP0) z) s.heap.size)) (F0 m 37 ls []) := by
  intro n
  induction n with
  | zero => intro v0 v1 cb sb zc i2 hm; exact (lq6_0 hm).elim
  | succ n ih => intro v0 v1 cb sb zc i2 hm; exact w_fX0_goesThrough_nth_37 C hPX hap1 he0 hZz hZ hgb0 hPg hZP hZL ih v0 v1 cb sb zc i2 (lq6_s hm)
set_option maxHeartbeats 4000000 in
theorem w_fX0_goesThrough_nth_2 (C : Cx G p s m args meth c RX0 cX0_goesThrough 3 none) {b0 : Nat} {PL : Nat → Bool} {Z : Nat} {z1 : Int32} {p1 : Nat} {vP0 : Mem} {rc : Nat} {rw0 : Mem} {rw1 : Mem} (hPX : ∀ z, PL z = true → ¬ fX b0 z) (hap1 : b0 + 357 ≤ p1) (he0 : b0 + 357 ≤ s.heap.size) (hZz : s.heap.size = Z) (hZ : ZQ G) (hgb0 : gB G ≤ b0) (hPg : ∀ z, PL z = true → gB G ≤ z) (hZP : ZP G) (hZL : ZL G) {k2 : Mem → Mem → Nat → Nat → Nat → Int32 → Option (Nat × Mem × Mem)} (hk2 : ∀ (v0 : Mem) (v1 : Mem) (cb : Nat) (sb : Nat) (zc : Nat) (i2 : Int32), k2 v0 v1 cb sb zc i2 = some (rc, rw0, rw1) → ∀ (H : Heap) (locs : List Loc) (ls : Array Slot), rg G b0 357 (shX0 G.2.1) v0 H → pl G PL v1 H → va_S (FA (fun z => (fX b0) z ∨ (fP PL vP0) z) s.heap.size) s.heap H locs → H.size = s.heap.size + zc → KM vP0 v1 s.heap.size → GO G H → LC H p1 (G.2.1 25) [.ref b0, .int z1] → cb ≤ 8 ∧ sb ≤ 800 → lv_has ls 3 [(0, .ref b0), (1, .ref p1), (2, .int i2)] → W p l e (rmT 10 8 800 278) s m args below meth c H locs cb sb (MQ below (QcT (FA (fun z => (fX b0) z ∨ (fP PL vP0) z) s.heap.size) (fun ov H => ov = none ∧ rg G b0 357 (shX0 G.2.1) rw0 H ∧ pl G PL rw1 H ∧ H.size = s.heap.size + rc ∧ KM vP0 rw1 s.heap.size)) args s 8 800 (FA (fun z => (fX b0) z ∨ (fP PL vP0) z) s.heap.size)) (F0 m 2 ls [])) : ∀ (v0 : Mem) (v1 : Mem) (cb : Nat) (sb : Nat) (zc : Nat) (i2 : Int32), fX0_goesThrough_nth_2 PL Z b0 z1 p1 k2 v0 v1 cb sb zc i2 = some (rc, rw0, rw1) → ∀ (H : Heap) (locs : List Loc) (ls : Array Slot), rg G b0 357 (shX0 G.2.1) v0 H → pl G PL v1 H → va_S (FA (fun z => (fX b0) z ∨ (fP PL vP0) z) s.heap.size) s.heap H locs → H.size = s.heap.size + zc → KM vP0 v1 s.heap.size → GO G H → LC H p1 (G.2.1 25) [.ref b0, .int z1] → cb ≤ 8 ∧ sb ≤ 800 → lv_has ls 3 [(0, .ref b0), (1, .ref p1), (2, .int i2)] → W p l e (rmT 10 8 800 278) s m args below meth c H locs cb sb (MQ below (QcT (FA (fun z => (fX b0) z ∨ (fP PL vP0) z) s.heap.size) (fun ov H => ov = none ∧ rg G b0 357 (shX0 G.2.1) rw0 H ∧ pl G PL rw1 H ∧ H.size = s.heap.size + rc ∧ KM vP0 rw1 s.heap.size)) args s 8 800 (FA (fun z => (fX b0) z ∨ (fP PL vP0) z) s.heap.size)) (F0 m 2 ls []) := by
  intro v0 v1 cb sb zc i2 hm H locs ls hW0 hW1 hS hz hKM hG hL1 hcb hl
  obtain ⟨hx, hb, hr, hlk, hml, hown, hts, hK⟩ := id C
  unfold fX0_goesThrough_nth_2 at hm
  refine lv_iload_n (pc := 2) hx hb dX0_goesThrough_2 rfl (lv_at hl 2 rfl) ?_
  refine lv_iconst (pc := 3) (v := (5 : Int32)) hx hb dX0_goesThrough_3 (by decide) ?_
  refine lv_icmp_ge (pc := 4) (tgt := 20) hx hb dX0_goesThrough_4 (by decide) (fun c1 => ?_) (fun c1 => ?_)
  · have hm := ite_t c1 hm
    refine lv_aload_n (pc := 20) hx hb dX0_goesThrough_20 rfl (lv_at hl 1 rfl) ?_
    refine lv_iconst (pc := 21) (v := (0 : Int32)) hx hb dX0_goesThrough_21 (by decide) ?_
    refine lv_iconst (pc := 22) (v := (0 : Int32)) hx hb dX0_goesThrough_22 (by decide) ?_
    refine lv_aload_n (pc := 23) hx hb dX0_goesThrough_23 rfl (lv_at hl 0 rfl) ?_
    refine lv_aload_n (pc := 24) hx hb dX0_goesThrough_24 rfl (lv_at hl 0 rfl) ?_
    refine rk_get (pc := 25) hx hb hts hown hK hW0 flX0_60 0 (by decide) rfl rfl (x := .ref (b0 + 158)) (by first | rfl | exact congrArg (fun z => some (Value.ref z)) (by omega)) dX0_goesThrough_25 ?_
    obtain ⟨r2, hq3, hm⟩ := ob_some hm
    refine rk_PV (pc := 28) (As := [.ref (b0 + 158)]) (rest := [.int (0 : Int32), .int (0 : Int32), .ref p1]) hx hb hml hown hts hK lkX0_333 rfl yn_X0_brokenBy (ct_X0_brokenBy_mix (G := G) (l := l) (b0 := b0) hq3 hZ (by omega) hZL) ⟨Nat.le_of_ble_eq_true rfl, Nat.le_of_ble_eq_true rfl⟩ (rk_recv hK hW0 0 (by decide) rfl rfl rfl) ⟨hW0, hG⟩ rfl rfl hl.1 (Nat.le_of_ble_eq_true rfl) dX0_goesThrough_28 hcb ?_
    refine W.eq (g2 := F0 m 31 ls [.int r2, .int (0 : Int32), .int (0 : Int32), .ref p1]) rfl ?_
    obtain ⟨hg5, hm⟩ := gb_some hm
    have hg5 := of_decide_eq_true hg5
    by_cases hf4 : pqfit v1 b0 = true
    · have hm := ite_t hf4 hm
      obtain ⟨hg21, hm⟩ := gb_some hm
      have hg21 := of_decide_eq_true hg21
      obtain ⟨r18, w6, w7, hq8, hm⟩ := ob3_some hm
      obtain ⟨hg20, hm⟩ := gb_some hm
      refine rk_lamK (pc := 31) (y := yX0_lambda_nth_3) (z0 := z1) (z1 := (0 : Int32)) (z2 := (0 : Int32)) (z3 := r2) (b := b0) (rest := []) (mc := 0) (ms := 0) hx hb hml hown hts hK hS (fun q hq => FA_sz rfl q hq) lfK0 (hZL.1 s hK).1.2.2.2.2.2.1 (hZL.1 s hK).2.1.2.2 q1158 q1160 hL1 rfl rfl rfl yn_X0_lambda_nth_3 ⟨q994, qs25, q114, q995⟩ (ct_X0_lambda_nth_3_fit (G := G) (l := l) (b0 := b0) (sz := H.size) hq8 hPX hZP) (fun ov H h => ⟨_, h.1, hg20⟩) ⟨Nat.le_of_ble_eq_true rfl, Nat.le_of_ble_eq_true rfl⟩ (fun z h => h.elim (fun h => Or.inl (Or.inl h)) (fun h => (FA_r (KM_hf2 hKM z h)))) (rk_recv hK hW0 0 (by decide) rfl rfl rfl) ⟨hW0, hW1⟩ hl.1 (Nat.le_of_ble_eq_true rfl) dX0_goesThrough_31 ⟨hg21.1, hg21.2⟩ (fun r9 H9 locs10 hP11 hkp12 hS13 => ?_)
      obtain ⟨h19, hW14, hW15, hz16, hKM17⟩ := hP11
      cases h19
      have hL22 := LC.keepA hL1 hkp12 (by intro h3; exact h3.elim (fun h3 => by have h8 := h3.1.1; have h9 := h3.1.2; omega) (fun h3 => h3.2 hg5))
      have hG23 := GO_keepA hG hkp12 (Nat.le_trans (show gB G ≤ s.heap.size by omega) hS.1) (by intro z h3; exact h3.elim (fun h3 => by have h8 := h3.1.1; have h9 := h3.1.2; omega) (fun h3 => hPg _ h3.1))
      have hz24 : H9.size = s.heap.size + zc := by omega
      have hKM25 := KM.trans hKM hKM17 (by omega)
      refine lv_istore_n (pc := 36) (lv' := [(2, .int r18), (0, .ref b0), (1, .ref p1)]) hx hb dX0_goesThrough_36 rfl hl (by decide) rfl (fun ls hl => ?_)
      exact (w_fX0_goesThrough_nth_37_l C hPX hap1 he0 hZz hZ hgb0 hPg hZP hZL FU) w6 w7 cb sb zc r18 hm H9 locs10 ls hW14 hW15 hS13 hz24 hKM25 hG23 hL22 hg21 (lv_sub hl [1, 2, 0] rfl)
    · have hm := ite_f hf4 hm
      obtain ⟨hg41, hm⟩ := gb_some hm
      have hg41 := of_decide_eq_true hg41
      obtain ⟨r38, rc39, w26, w27, hq28, hm⟩ := ob4_some hm
      obtain ⟨hg40, hm⟩ := gb_some hm
      rw [show (Z + zc) = H.size by omega] at hq28
      refine rk_lamK (pc := 31) (y := yX0_lambda_nth_3) (z0 := z1) (z1 := (0 : Int32)) (z2 := (0 : Int32)) (z3 := r2) (b := b0) (rest := []) (mc := 1) (ms := 90) hx hb hml hown hts hK hS (fun q hq => FA_sz rfl q hq) lfK0 (hZL.1 s hK).1.2.2.2.2.2.1 (hZL.1 s hK).2.1.2.2 q1158 q1160 hL1 rfl rfl rfl yn_X0_lambda_nth_3 ⟨q994, qs25, q114, q995⟩ (ct_X0_lambda_nth_3_grow (G := G) (l := l) (b0 := b0) hq28 hPX hZP) (fun ov H h => ⟨_, h.1, hg40⟩) ⟨Nat.le_of_ble_eq_true rfl, Nat.le_of_ble_eq_true rfl⟩ (fun z h => h.elim (fun h => Or.inl (Or.inl h)) (fun h => (FA_r (KM_hf2 hKM z h)))) (rk_recv hK hW0 0 (by decide) rfl rfl rfl) ⟨hW0, hW1⟩ hl.1 (Nat.le_of_ble_eq_true rfl) dX0_goesThrough_31 ⟨hg41.1, hg41.2⟩ (fun r9 H29 locs30 hP31 hkp32 hS33 => ?_)
      obtain ⟨h19, hW34, hW35, hz36, hKM37⟩ := hP31
      cases h19
      have hL42 := LC.keepA hL1 hkp32 (by intro h3; exact h3.elim (fun h3 => by have h8 := h3.1.1; have h9 := h3.1.2; omega) (fun h3 => h3.2 hg5))
      have hG43 := GO_keepA hG hkp32 (Nat.le_trans (show gB G ≤ s.heap.size by omega) hS.1) (by intro z h3; exact h3.elim (fun h3 => by have h8 := h3.1.1; have h9 := h3.1.2; omega) (fun h3 => hPg _ h3.1))
      have hz44 : H29.size = s.heap.size + (zc + rc39) := by omega
      have hKM45 := KM.trans hKM hKM37 (by omega)
      refine lv_istore_n (pc := 36) (lv' := [(2, .int r38), (0, .ref b0), (1, .ref p1)]) hx hb dX0_goesThrough_36 rfl hl (by decide) rfl (fun ls hl => ?_)
      exact (w_fX0_goesThrough_nth_37_l C hPX hap1 he0 hZz hZ hgb0 hPg hZP hZL FU) w26 w27 (cb + 1) (sb + 90) (zc + rc39) r38 hm H29 locs30 ls hW34 hW35 hS33 hz44 hKM45 hG43 hL42 hg41 (lv_sub hl [1, 2, 0] rfl)
  · have hm := ite_f c1 hm
    refine lv_aload_n (pc := 7) hx hb dX0_goesThrough_7 rfl (lv_at hl 0 rfl) ?_
    refine rk_get (pc := 8) hx hb hts hown hK hW0 flX0_60 0 (by decide) rfl rfl (x := .ref (b0 + 158)) (by first | rfl | exact congrArg (fun z => some (Value.ref z)) (by omega)) dX0_goesThrough_8 ?_
    refine lv_iload_n (pc := 11) hx hb dX0_goesThrough_11 rfl (lv_at hl 2 rfl) ?_
    refine lv_iconst (pc := 12) (v := (0 : Int32)) hx hb dX0_goesThrough_12 (by decide) ?_
    obtain ⟨hg46, hm⟩ := gb_some hm
    refine rk_iast (pc := 13) hx hb hK hW0 hS 158 (by decide) rfl (Or.inl (Or.inl (show fX _ _ from ⟨⟨by omega, by omega⟩, by omega⟩))) (fun _ _ _ => rfl) hg46 dX0_goesThrough_13 (fun H48 locs49 hW50 hS51 hz52 hkp53 => ?_)
    obtain ⟨v0_47, he9, hm⟩ := lm_some hm
    rw [he9] at hW50
    have hW54 := pl_keepq hW1 hkp53 (fun h9 => hPX _ h9 (show fX _ _ from ⟨⟨by omega, by omega⟩, by omega⟩))
    have hz55 := hz52.trans hz
    have hG56 := GO_keepq hG hkp53 (by omega)
    have hL57 := LC.keepq hL1 hkp53 (by omega)
    refine lv_iinc (pc := 14) (v := (i2 + (1 : Int32))) (lv' := [(2, .int (i2 + (1 : Int32))), (0, .ref b0), (1, .ref p1)]) hx hb dX0_goesThrough_14 hl (k := 2) rfl rfl (by decide) rfl (fun ls hl => ?_)
    refine lv_goto (pc := 17) (tgt := 2) hx hb dX0_goesThrough_17 (by decide) ?_
    exact hk2 v0_47 v1 cb sb zc (i2 + (1 : Int32)) hm H48 locs49 ls hW50 hW54 hS51 hz55 hKM hG56 hL57 hcb (lv_sub hl [1, 2, 0] rfl)
theorem w_fX0_goesThrough_nth_2_l (C : Cx G p s m args meth c RX0 cX0_goesThrough 3 none) {b0 : Nat} {PL : Nat → Bool} {Z : Nat} {z1 : Int32} {p1 : Nat} {vP0 : Mem} {rc : Nat} {rw0 : Mem} {rw1 : Mem} (hPX : ∀ z, PL z = true → ¬ fX b0 z) (hap1 : b0 + 357 ≤ p1) (he0 : b0 + 357 ≤ s.heap.size) (hZz : s.heap.size = Z) (hZ : ZQ G) (hgb0 : gB G ≤ b0) (hPg : ∀ z, PL z = true → gB G ≤ z) (hZP : ZP G) (hZL : ZL G) : ∀ (n : Nat) (v0 : Mem) (v1 : Mem) (cb : Nat) (sb : Nat) (zc : Nat) (i2 : Int32), lq6 (fX0_goesThrough_nth_2 PL Z b0 z1 p1) n v0 v1 cb sb zc i2 = some (rc, rw0, rw1) → ∀ (H : Heap) (locs : List Loc) (ls : Array Slot), rg G b0 357 (shX0 G.2.1) v0 H → pl G PL v1 H → va_S (FA (fun z => (fX b0) z ∨ (fP PL vP0) z) s.heap.size) s.heap H locs → H.size = s.heap.size + zc → KM vP0 v1 s.heap.size → GO G H → LC H p1 (G.2.1 25) [.ref b0, .int z1] → cb ≤ 8 ∧ sb ≤ 800 → lv_has ls 3 [(0, .ref b0), (1, .ref p1), (2, .int i2)] → W p l e (rmT 10 8 800 278) s m args below meth c H locs cb sb (MQ below (QcT (FA (fun z => (fX b0) z ∨ (fP PL vP0) z) s.heap.size) (fun ov H => ov = none ∧ rg G b0 357 (shX0 G.2.1) rw0 H ∧ pl G PL rw1 H ∧ H.size = s.heap.size + rc ∧ KM vP0 rw1 s.heap.size)) args s 8 800 (FA (fun z => (fX b0) z ∨ (fP PL vP0) z) s.heap.size)) (F0 m 2 ls []) := by
  intro n
  induction n with
  | zero => intro v0 v1 cb sb zc i2 hm; exact (lq6_0 hm).elim
  | succ n ih => intro v0 v1 cb sb zc i2 hm; exact w_fX0_goesThrough_nth_2 C hPX hap1 he0 hZz hZ hgb0 hPg hZP hZL ih v0 v1 cb sb zc i2 (lq6_s hm)
set_option maxHeartbeats 4000000 in
theorem w_fX0_goesThrough_nth (C : Cx G p s m args meth c RX0 cX0_goesThrough 3 none) {b0 : Nat} {PL : Nat → Bool} {Z : Nat} {z1 : Int32} {p1 : Nat} {vP0 : Mem} {rc : Nat} {rw0 : Mem} {rw1 : Mem} (hPX : ∀ z, PL z = true → ¬ fX b0 z) (hap1 : b0 + 357 ≤ p1) (he0 : b0 + 357 ≤ s.heap.size) (hZz : s.heap.size = Z) (hZ : ZQ G) (hgb0 : gB G ≤ b0) (hPg : ∀ z, PL z = true → gB G ≤ z) (hZP : ZP G) (hZL : ZL G) : ∀ (v0 : Mem) (v1 : Mem), fX0_goesThrough_nth PL Z b0 z1 p1 v0 v1 = some (rc, rw0, rw1) → ∀ (H : Heap) (locs : List Loc) (ls : Array Slot), rg G b0 357 (shX0 G.2.1) v0 H → pl G PL v1 H → va_S (FA (fun z => (fX b0) z ∨ (fP PL vP0) z) s.heap.size) s.heap H locs → H.size = s.heap.size + 0 → KM vP0 v1 s.heap.size → GO G H → LC H p1 (G.2.1 25) [.ref b0, .int z1] → 0 ≤ 8 ∧ 0 ≤ 800 → lv_has ls 3 [(0, .ref b0), (1, .ref p1)] → W p l e (rmT 10 8 800 278) s m args below meth c H locs 0 0 (MQ below (QcT (FA (fun z => (fX b0) z ∨ (fP PL vP0) z) s.heap.size) (fun ov H => ov = none ∧ rg G b0 357 (shX0 G.2.1) rw0 H ∧ pl G PL rw1 H ∧ H.size = s.heap.size + rc ∧ KM vP0 rw1 s.heap.size)) args s 8 800 (FA (fun z => (fX b0) z ∨ (fP PL vP0) z) s.heap.size)) (F0 m 0 ls []) := by
  intro v0 v1 hm H locs ls hW0 hW1 hS hz hKM hG hL1 hcb hl
  obtain ⟨hx, hb, hr, hlk, hml, hown, hts, hK⟩ := id C
  unfold fX0_goesThrough_nth at hm
  refine lv_iconst (pc := 0) (v := (0 : Int32)) hx hb dX0_goesThrough_0 (by decide) ?_
  refine lv_istore_n (pc := 1) (lv' := [(2, .int (0 : Int32)), (0, .ref b0), (1, .ref p1)]) hx hb dX0_goesThrough_1 rfl hl (by decide) rfl (fun ls hl => ?_)
  exact (w_fX0_goesThrough_nth_2_l C hPX hap1 he0 hZz hZ hgb0 hPg hZP hZL FU) v0 v1 0 0 0 (0 : Int32) hm H locs ls hW0 hW1 hS hz hKM hG hL1 hcb (lv_sub hl [1, 2, 0] rfl)
set_option maxHeartbeats 4000000 in
theorem ct_X0_goesThrough_nth {G : Gv} {l : Launch} {b0 : Nat} {PL : Nat → Bool} {Z : Nat} {z1 : Int32} {p1 : Nat} {v0 : Mem} {v1 : Mem} {rc : Nat} {rw0 : Mem} {rw1 : Mem} (hm : fX0_goesThrough_nth PL Z b0 z1 p1 v0 v1 = some (rc, rw0, rw1)) (hPX : ∀ z, PL z = true → ¬ fX b0 z) (hap1 : b0 + 357 ≤ p1) (hZ : ZQ G) (hgb0 : gB G ≤ b0) (hPg : ∀ z, PL z = true → gB G ≤ z) (hZP : ZP G) (hZL : ZL G) : CT G l yX0_goesThrough (ws_ yX0_goesThrough cX0_goesThrough 3 none) 10 8 800 278 [.ref b0, .ref p1] (fun z => (fX b0) z ∨ (fP PL v1) z) Z (fun H => rg G b0 357 (shX0 G.2.1) v0 H ∧ pl G PL v1 H ∧ GO G H ∧ LC H p1 (G.2.1 25) [.ref b0, .int z1]) (fun ov H => ov = none ∧ rg G b0 357 (shX0 G.2.1) rw0 H ∧ pl G PL rw1 H ∧ H.size = Z + rc ∧ KM v1 rw1 Z) := by
  refine Met.ofW (cc := cX0_goesThrough) (maxL := 3) (ret := none) (by decide +kernel) rfl ?_
  intro p e s m args below meth c s₁ B hml hv
  obtain ⟨rfl, ⟨hz, hW0, hW1, hG, hL1⟩, hK⟩ := hv
  subst hz
  have he0 := rg_end hW0 356 (by decide) rfl (fun _ _ _ => rfl)
  have hZz : s.heap.size = s.heap.size := rfl
  have hts := atoms_spec (ws := ws_ yX0_goesThrough cX0_goesThrough 3 none) B.pre
  have hts : ∀ w ∈ lw_all, w.before _ s = true := fun w h => hts w (List.mem_cons_of_mem _ h)
  have C : Cx G p s m _ meth c RX0 cX0_goesThrough 3 none := ⟨B.exec, B.bytes, B.returns, B.notSynchronized, hml, findClass_of_methodNamed B.named, hts, hK⟩
  have hl := lv_entry ([.ref b0, .ref p1]) (n := 3) (Nat.le_of_ble_eq_true rfl)
  rw [lg_entry_eq]
  generalize (lg_sl ([.ref b0, .ref p1]) ++ List.replicate (3 - (lg_sl ([.ref b0, .ref p1])).length) Slot.unset).toArray = ls at hl ⊢
  have hl : lv_has ls 3 [(0, .ref b0), (1, .ref p1)] := hl
  exact w_fX0_goesThrough_nth C hPX hap1 he0 hZz hZ hgb0 hPg hZP hZL _ _ hm s.heap [] ls hW0 hW1 va_S.rf rfl KM.rf hG hL1 ⟨Nat.zero_le _, Nat.zero_le _⟩ hl
theorem yn_X1_begins : YN yX1_begins 1 := by
  unfold YN
  decide +kernel
theorem lkX0_135 : LV RX0 135 RX1 yX1_begins cX1_begins 3 none := ⟨q580, q581, q582, q115, q583⟩
theorem flX0_37 : FL RX0 37 0 7 RX0 TX0 25 := ⟨in_X0, rfl, by decide, q503⟩
theorem yn_J1_clear : YN yJ1_clear 0 := by
  unfold YN
  decide +kernel
theorem lkX0_138 : LV RX0 138 RJ1 yJ1_clear cJ1_clear 1 none := ⟨q584, q585, q586, q120, q587⟩
noncomputable def fX0_size (PL : Nat → Bool) (b0 : Nat) (v0 : Mem) (v1 : Mem) (i1 : Int32) : Option (Int32 × Mem × Mem) :=
  ob (fX0_in i1.toInt64 (1 : Int64) (5 : Int64)) fun r1 =>
  if r1 = 0 then (
  some ((-2 : Int32), v0, v1))
  else (
  ob (fX1_begins (shf v0 1) i1) fun w4 =>
  lm (ptm v0 1 22 w4) fun v0_15 =>
  gb (kd PL v1 (b0 + 153) 16) (
  ob (fJ1_clear PL v1 (b0 + 153)) fun w18 =>
  ob2 (fX0_told v0_15 (gI v0 1 0)) fun r31 w32 =>
  some (r31, w32, w18)))
set_option maxHeartbeats 4000000 in
theorem w_fX0_size (C : Cx G p s m args meth c RX0 cX0_size 3 (some .int)) {b0 : Nat} {PL : Nat → Bool} {vP0 : Mem} {rx : Int32} {rw0 : Mem} {rw1 : Mem} (hPX : ∀ z, PL z = true → ¬ fX b0 z) : ∀ (v0 : Mem) (v1 : Mem) (i1 : Int32), fX0_size PL b0 v0 v1 i1 = some (rx, rw0, rw1) → ∀ (H : Heap) (locs : List Loc) (ls : Array Slot), rg G b0 357 (shX0 G.2.1) v0 H → pl G PL v1 H → va_S (FA (fun z => (fX b0) z ∨ (fP PL vP0) z) s.heap.size) s.heap H locs → H.size = s.heap.size → KM vP0 v1 s.heap.size → lv_has ls 3 [(0, .ref b0), (1, .int i1)] → W p l e (rmT 1 0 0 25) s m args below meth c H locs 0 0 (MQ below (QcT (FA (fun z => (fX b0) z ∨ (fP PL vP0) z) s.heap.size) (fun ov H => ov = (some (.int rx)) ∧ rg G b0 357 (shX0 G.2.1) rw0 H ∧ pl G PL rw1 H ∧ H.size = s.heap.size ∧ KM vP0 rw1 s.heap.size)) args s 0 0 (FA (fun z => (fX b0) z ∨ (fP PL vP0) z) s.heap.size)) (F0 m 0 ls []) := by
  intro v0 v1 i1 hm H locs ls hW0 hW1 hS hz hKM hl
  obtain ⟨hx, hb, hr, hlk, hml, hown, hts, hK⟩ := id C
  unfold fX0_size at hm
  refine lv_iload_n (pc := 0) hx hb dX0_size_0 rfl (lv_at hl 1 rfl) ?_
  refine lv_i2l (pc := 1) hx hb dX0_size_1 rfl ?_
  refine lv_lconst (pc := 2) (v := (1 : Int64)) hx hb dX0_size_2 (by decide) ?_
  refine lv_ldc2 (pc := 3) (v := (5 : Int64)) hx hb hown (hts _ q578) dX0_size_3 ?_
  obtain ⟨r1, hq2, hm⟩ := ob_some hm
  refine rk_PS (pc := 6) (As := [.long i1.toInt64, .long (1 : Int64), .long (5 : Int64)]) (rest := []) hx hb hml hown hts hK lkX0_127 yn_X0_in (ct_X0_in (G := G) (l := l) hq2) ⟨Nat.le_of_ble_eq_true rfl, Nat.le_of_ble_eq_true rfl⟩ trivial rfl rfl hl.1 (Nat.le_of_ble_eq_true rfl) dX0_size_6 ⟨Nat.zero_le _, Nat.zero_le _⟩ ?_
  refine W.eq (g2 := F0 m 9 ls [.int r1]) rfl ?_
  refine lv_if_ne (pc := 9) (tgt := 15) hx hb dX0_size_9 (by decide) (fun c3 => ?_) (fun c3 => ?_)
  · have hm := ite_f c3 hm
    refine lv_aload_n (pc := 15) hx hb dX0_size_15 rfl (lv_at hl 0 rfl) ?_
    refine rk_get (pc := 16) hx hb hts hown hK hW0 flX0_12 0 (by decide) rfl rfl (x := .ref (b0 + 1)) (by first | rfl | exact congrArg (fun z => some (Value.ref z)) (by omega)) dX0_size_16 ?_
    refine rk_getN (pc := 19) hx hb hts hown hK hW0 fnX0_131 1 (by decide) rfl rfl (x := .int (gI v0 1 0)) rfl dX0_size_19 ?_
    refine lv_istore_n (pc := 22) (lv' := [(2, .int (gI v0 1 0)), (0, .ref b0), (1, .int i1)]) hx hb dX0_size_22 rfl hl (by decide) rfl (fun ls hl => ?_)
    refine lv_aload_n (pc := 23) hx hb dX0_size_23 rfl (lv_at hl 1 rfl) ?_
    refine rk_get (pc := 24) hx hb hts hown hK hW0 flX0_12 0 (by decide) rfl rfl (x := .ref (b0 + 1)) (by first | rfl | exact congrArg (fun z => some (Value.ref z)) (by omega)) dX0_size_24 ?_
    refine lv_iload_n (pc := 27) hx hb dX0_size_27 rfl (lv_at hl 2 rfl) ?_
    obtain ⟨w4, hq5, hm⟩ := ob_some hm
    refine rk_TV (pc := 28) (As := [.int i1]) (rest := []) (mc := 0) (ms := 0) hx hb hml hown hts hK hS (fun q hq => FA_sz rfl q hq) lkX0_135 rfl yn_X1_begins (ct_X1_begins (G := G) (l := l) (b0 := (b0 + 1)) (sz := H.size) hq5) ⟨Nat.le_of_ble_eq_true rfl, Nat.le_of_ble_eq_true rfl⟩ (fun z h => Or.inl (Or.inl (show fX _ _ from ⟨⟨by have h8 := h.1; have h9 := h.2; omega, by have h8 := h.1; have h9 := h.2; omega⟩, by have h8 := h.1; have h9 := h.2; omega⟩))) (rk_recv hK hW0 1 (by decide) rfl rfl rfl) (rg_sub hW0 rfl (by decide) (fun o ho x y z => shX0_n1 G.2.1 _ rfl o ho x y z)) rfl rfl hl.1 (Nat.le_of_ble_eq_true rfl) dX0_size_28 ⟨Nat.zero_le _, Nat.zero_le _⟩ (fun ov9 H6 locs7 hP8 hkp9 hS10 => ?_)
    obtain ⟨rfl, hW11, hz12⟩ := hP8
    have hW13 := pl_keepA hW1 hkp9 (by intro z h1 h3; have h8 := h3.1; have h9 := h3.2; exact hPX _ h1 (show fX _ _ from ⟨⟨by omega, by omega⟩, by omega⟩))
    have hW14 := rg_put (d := 1) hW0 hW11 rfl (fun o ho x y z => shX0_n1 G.2.1 _ rfl o ho x y z) hkp9
    obtain ⟨v0_15, he9, hm⟩ := lm_some hm
    rw [he9] at hW14
    have hz16 := hz12.trans hz
    refine W.eq (g2 := F0 m 31 ls []) rfl ?_
    refine lv_aload_n (pc := 31) hx hb dX0_size_31 rfl (lv_at hl 1 rfl) ?_
    refine rk_get (pc := 32) hx hb hts hown hK hW14 flX0_37 0 (by decide) rfl rfl (x := .ref (b0 + 153)) (by first | rfl | exact congrArg (fun z => some (Value.ref z)) (by omega)) dX0_size_32 ?_
    obtain ⟨hg17, hm⟩ := gb_some hm
    obtain ⟨w18, hq19, hm⟩ := ob_some hm
    refine rk_TV (pc := 35) (As := []) (rest := []) (mc := 0) (ms := 0) hx hb hml hown hts hK hS10 (fun q hq => FA_sz rfl q hq) lkX0_138 rfl yn_J1_clear (ct_J1_clear (G := G) (l := l) (sz := H6.size) hq19) ⟨Nat.le_of_ble_eq_true rfl, Nat.le_of_ble_eq_true rfl⟩ (fun z h => (FA_r (KM_hf2 hKM z h))) (rp_recv hK hW13 (C := RJ1) (T := TJ1) (N := 9) rfl (shP_16 (kd_PL hg17) (kd_k hg17))) hW13 rfl rfl hl.1 (Nat.le_of_ble_eq_true rfl) dX0_size_35 ⟨Nat.zero_le _, Nat.zero_le _⟩ (fun ov9 H20 locs21 hP22 hkp23 hS24 => ?_)
    obtain ⟨rfl, hW25, hz26, hKM27⟩ := hP22
    have hW28 := rg_keepX hW14 hkp23 (by intro z h0 h3; have h1 := h0.1.1; have h2 := h0.1.2; have h4 := h0.2; exact hPX _ h3.1 h0)
    have hz29 := hz26.trans hz16
    have hKM30 := KM.trans hKM hKM27 (by omega)
    refine W.eq (g2 := F0 m 38 ls []) rfl ?_
    refine lv_aload_n (pc := 38) hx hb dX0_size_38 rfl (lv_at hl 1 rfl) ?_
    refine lv_iload_n (pc := 39) hx hb dX0_size_39 rfl (lv_at hl 0 rfl) ?_
    obtain ⟨r31, w32, hq33, hm⟩ := ob2_some hm
    refine rk_TV (pc := 40) (As := [.int (gI v0 1 0)]) (rest := []) (mc := 0) (ms := 0) hx hb hml hown hts hK hS24 (fun q hq => FA_sz rfl q hq) lkX0_141 rfl yn_X0_told (ct_X0_told (G := G) (l := l) (b0 := b0) (sz := H20.size) hq33) ⟨Nat.le_of_ble_eq_true rfl, Nat.le_of_ble_eq_true rfl⟩ (fun z h => Or.inl (Or.inl h)) (rk_recv hK hW28 0 (by decide) rfl rfl rfl) hW28 rfl rfl hl.1 (Nat.le_of_ble_eq_true rfl) dX0_size_40 ⟨Nat.zero_le _, Nat.zero_le _⟩ (fun ov9 H34 locs35 hP36 hkp37 hS38 => ?_)
    obtain ⟨rfl, hW39, hz40⟩ := hP36
    have hW41 := pl_keepA hW25 hkp37 (by intro z h1 h3; exact hPX _ h1 h3)
    have hz42 := hz40.trans hz29
    refine W.eq (g2 := F0 m 43 ls [.int r31]) rfl ?_
    obtain ⟨e7, e8, e9⟩ := rs3 hm
    subst e7
    subst e8
    subst e9
    exact rk_iret (pc := 43) hx hb hr hlk hS38 ⟨rfl, hW39, hW41, hz42, hKM30⟩ dX0_size_43
  · have hm := ite_t c3 hm
    refine lv_bipush (pc := 12) (v := (-2 : Int32)) hx hb dX0_size_12 (by decide) ?_
    obtain ⟨e7, e8, e9⟩ := rs3 hm
    subst e7
    subst e8
    subst e9
    exact rk_iret (pc := 14) hx hb hr hlk hS ⟨rfl, hW0, hW1, hz, hKM⟩ dX0_size_14
set_option maxHeartbeats 4000000 in
theorem ct_X0_size {G : Gv} {l : Launch} {b0 : Nat} {PL : Nat → Bool} {v0 : Mem} {v1 : Mem} {i1 : Int32} {rx : Int32} {rw0 : Mem} {rw1 : Mem} {sz : Nat} (hm : fX0_size PL b0 v0 v1 i1 = some (rx, rw0, rw1)) (hPX : ∀ z, PL z = true → ¬ fX b0 z) : CT G l yX0_size (ws_ yX0_size cX0_size 3 (some .int)) 1 0 0 25 [.ref b0, .int i1] (fun z => (fX b0) z ∨ (fP PL v1) z) sz (fun H => rg G b0 357 (shX0 G.2.1) v0 H ∧ pl G PL v1 H) (fun ov H => ov = (some (.int rx)) ∧ rg G b0 357 (shX0 G.2.1) rw0 H ∧ pl G PL rw1 H ∧ H.size = sz ∧ KM v1 rw1 sz) := by
  refine Met.ofW (cc := cX0_size) (maxL := 3) (ret := (some .int)) (by decide +kernel) rfl ?_
  intro p e s m args below meth c s₁ B hml hv
  obtain ⟨rfl, ⟨hz, hW0, hW1⟩, hK⟩ := hv
  subst hz
  have hts := atoms_spec (ws := ws_ yX0_size cX0_size 3 (some .int)) B.pre
  have hts : ∀ w ∈ lw_all, w.before _ s = true := fun w h => hts w (List.mem_cons_of_mem _ h)
  have C : Cx G p s m _ meth c RX0 cX0_size 3 (some .int) := ⟨B.exec, B.bytes, B.returns, B.notSynchronized, hml, findClass_of_methodNamed B.named, hts, hK⟩
  have hl := lv_entry ([.ref b0, .int i1]) (n := 3) (Nat.le_of_ble_eq_true rfl)
  rw [lg_entry_eq]
  generalize (lg_sl ([.ref b0, .int i1]) ++ List.replicate (3 - (lg_sl ([.ref b0, .int i1])).length) Slot.unset).toArray = ls at hl ⊢
  have hl : lv_has ls 3 [(0, .ref b0), (1, .int i1)] := hl
  exact w_fX0_size C hPX _ _ _ hm s.heap [] ls hW0 hW1 va_S.rf rfl KM.rf hl
noncomputable def fX0_cost (PL : Nat → Bool) (b0 : Nat) (v0 : Mem) (v1 : Mem) (i1 : Int32) (i2 : Int32) : Option (Int32 × Mem × Mem) :=
  ob (fX1_hasPack (shf v0 1) i1) fun r1 =>
  if r1 = 0 then (
  some ((-1 : Int32), v0, v1))
  else (
  ob (fX0_in i2.toInt64 (0 : Int64) (99 : Int64)) fun r4 =>
  if r4 = 0 then (
  some ((-2 : Int32), v0, v1))
  else (
  gb (inR i1 5) (
  gb (inR i1 5) (
  lm (sI v0 2 i1.toNatClampNeg i2) fun v0_9 =>
  gb (kd PL v1 (b0 + 153) 16) (
  ob (fJ1_clear PL v1 (b0 + 153)) fun w19 =>
  ob2 (fX0_told v0_9 (gI v0 2 i1.toNatClampNeg)) fun r32 w33 =>
  some (r32, w33, w19))))))
set_option maxHeartbeats 4000000 in
theorem w_fX0_cost (C : Cx G p s m args meth c RX0 cX0_cost 4 (some .int)) {b0 : Nat} {PL : Nat → Bool} {vP0 : Mem} {rx : Int32} {rw0 : Mem} {rw1 : Mem} (hPX : ∀ z, PL z = true → ¬ fX b0 z) : ∀ (v0 : Mem) (v1 : Mem) (i1 : Int32) (i2 : Int32), fX0_cost PL b0 v0 v1 i1 i2 = some (rx, rw0, rw1) → ∀ (H : Heap) (locs : List Loc) (ls : Array Slot), rg G b0 357 (shX0 G.2.1) v0 H → pl G PL v1 H → va_S (FA (fun z => (fX b0) z ∨ (fP PL vP0) z) s.heap.size) s.heap H locs → H.size = s.heap.size → KM vP0 v1 s.heap.size → lv_has ls 4 [(0, .ref b0), (1, .int i1), (2, .int i2)] → W p l e (rmT 2 0 0 46) s m args below meth c H locs 0 0 (MQ below (QcT (FA (fun z => (fX b0) z ∨ (fP PL vP0) z) s.heap.size) (fun ov H => ov = (some (.int rx)) ∧ rg G b0 357 (shX0 G.2.1) rw0 H ∧ pl G PL rw1 H ∧ H.size = s.heap.size ∧ KM vP0 rw1 s.heap.size)) args s 0 0 (FA (fun z => (fX b0) z ∨ (fP PL vP0) z) s.heap.size)) (F0 m 0 ls []) := by
  intro v0 v1 i1 i2 hm H locs ls hW0 hW1 hS hz hKM hl
  obtain ⟨hx, hb, hr, hlk, hml, hown, hts, hK⟩ := id C
  unfold fX0_cost at hm
  refine lv_aload_n (pc := 0) hx hb dX0_cost_0 rfl (lv_at hl 0 rfl) ?_
  refine rk_get (pc := 1) hx hb hts hown hK hW0 flX0_12 0 (by decide) rfl rfl (x := .ref (b0 + 1)) (by first | rfl | exact congrArg (fun z => some (Value.ref z)) (by omega)) dX0_cost_1 ?_
  refine lv_iload_n (pc := 4) hx hb dX0_cost_4 rfl (lv_at hl 1 rfl) ?_
  obtain ⟨r1, hq2, hm⟩ := ob_some hm
  refine rk_PV (pc := 5) (As := [.int i1]) (rest := []) hx hb hml hown hts hK lkX0_145 rfl yn_X1_hasPack (ct_X1_hasPack (G := G) (l := l) (b0 := (b0 + 1)) hq2) ⟨Nat.le_of_ble_eq_true rfl, Nat.le_of_ble_eq_true rfl⟩ (rk_recv hK hW0 1 (by decide) rfl rfl rfl) (rg_sub hW0 rfl (by decide) (fun o ho x y z => shX0_n1 G.2.1 _ rfl o ho x y z)) rfl rfl hl.1 (Nat.le_of_ble_eq_true rfl) dX0_cost_5 ⟨Nat.zero_le _, Nat.zero_le _⟩ ?_
  refine W.eq (g2 := F0 m 8 ls [.int r1]) rfl ?_
  refine lv_if_ne (pc := 8) (tgt := 13) hx hb dX0_cost_8 (by decide) (fun c3 => ?_) (fun c3 => ?_)
  · have hm := ite_f c3 hm
    refine lv_iload_n (pc := 13) hx hb dX0_cost_13 rfl (lv_at hl 2 rfl) ?_
    refine lv_i2l (pc := 14) hx hb dX0_cost_14 rfl ?_
    refine lv_lconst (pc := 15) (v := (0 : Int64)) hx hb dX0_cost_15 (by decide) ?_
    refine lv_ldc2 (pc := 16) (v := (99 : Int64)) hx hb hown (hts _ q596) dX0_cost_16 ?_
    obtain ⟨r4, hq5, hm⟩ := ob_some hm
    refine rk_PS (pc := 19) (As := [.long i2.toInt64, .long (0 : Int64), .long (99 : Int64)]) (rest := []) hx hb hml hown hts hK lkX0_127 yn_X0_in (ct_X0_in (G := G) (l := l) hq5) ⟨Nat.le_of_ble_eq_true rfl, Nat.le_of_ble_eq_true rfl⟩ trivial rfl rfl hl.1 (Nat.le_of_ble_eq_true rfl) dX0_cost_19 ⟨Nat.zero_le _, Nat.zero_le _⟩ ?_
    refine W.eq (g2 := F0 m 22 ls [.int r4]) rfl ?_
    refine lv_if_ne (pc := 22) (tgt := 28) hx hb dX0_cost_22 (by decide) (fun c6 => ?_) (fun c6 => ?_)
    · have hm := ite_f c6 hm
      refine lv_aload_n (pc := 28) hx hb dX0_cost_28 rfl (lv_at hl 0 rfl) ?_
      refine rk_get (pc := 29) hx hb hts hown hK hW0 flX0_12 0 (by decide) rfl rfl (x := .ref (b0 + 1)) (by first | rfl | exact congrArg (fun z => some (Value.ref z)) (by omega)) dX0_cost_29 ?_
      refine rk_getN (pc := 32) hx hb hts hown hK hW0 fnX0_151 1 (by decide) rfl rfl (x := .ref (b0 + 2)) (by first | rfl | exact congrArg (fun z => some (Value.ref z)) (by omega)) dX0_cost_32 ?_
      refine lv_iload_n (pc := 35) hx hb dX0_cost_35 rfl (lv_at hl 1 rfl) ?_
      obtain ⟨hg7, hm⟩ := gb_some hm
      refine rk_iald (pc := 36) hx hb hK hW0 2 (by decide) rfl rfl hg7 (x := (gI v0 2 i1.toNatClampNeg)) rfl dX0_cost_36 ?_
      refine lv_istore_n (pc := 37) (lv' := [(3, .int (gI v0 2 i1.toNatClampNeg)), (0, .ref b0), (1, .int i1), (2, .int i2)]) hx hb dX0_cost_37 rfl hl (by decide) rfl (fun ls hl => ?_)
      refine lv_aload_n (pc := 38) hx hb dX0_cost_38 rfl (lv_at hl 1 rfl) ?_
      refine rk_get (pc := 39) hx hb hts hown hK hW0 flX0_12 0 (by decide) rfl rfl (x := .ref (b0 + 1)) (by first | rfl | exact congrArg (fun z => some (Value.ref z)) (by omega)) dX0_cost_39 ?_
      refine rk_getN (pc := 42) hx hb hts hown hK hW0 fnX0_151 1 (by decide) rfl rfl (x := .ref (b0 + 2)) (by first | rfl | exact congrArg (fun z => some (Value.ref z)) (by omega)) dX0_cost_42 ?_
      refine lv_iload_n (pc := 45) hx hb dX0_cost_45 rfl (lv_at hl 2 rfl) ?_
      refine lv_iload_n (pc := 46) hx hb dX0_cost_46 rfl (lv_at hl 3 rfl) ?_
      obtain ⟨hg8, hm⟩ := gb_some hm
      refine rk_iast (pc := 47) hx hb hK hW0 hS 2 (by decide) rfl (Or.inl (Or.inl (show fX _ _ from ⟨⟨by omega, by omega⟩, by omega⟩))) (fun _ _ _ => rfl) hg8 dX0_cost_47 (fun H10 locs11 hW12 hS13 hz14 hkp15 => ?_)
      obtain ⟨v0_9, he9, hm⟩ := lm_some hm
      rw [he9] at hW12
      have hW16 := pl_keepq hW1 hkp15 (fun h9 => hPX _ h9 (show fX _ _ from ⟨⟨by omega, by omega⟩, by omega⟩))
      have hz17 := hz14.trans hz
      refine lv_aload_n (pc := 48) hx hb dX0_cost_48 rfl (lv_at hl 1 rfl) ?_
      refine rk_get (pc := 49) hx hb hts hown hK hW12 flX0_37 0 (by decide) rfl rfl (x := .ref (b0 + 153)) (by first | rfl | exact congrArg (fun z => some (Value.ref z)) (by omega)) dX0_cost_49 ?_
      obtain ⟨hg18, hm⟩ := gb_some hm
      obtain ⟨w19, hq20, hm⟩ := ob_some hm
      refine rk_TV (pc := 52) (As := []) (rest := []) (mc := 0) (ms := 0) hx hb hml hown hts hK hS13 (fun q hq => FA_sz rfl q hq) lkX0_138 rfl yn_J1_clear (ct_J1_clear (G := G) (l := l) (sz := H10.size) hq20) ⟨Nat.le_of_ble_eq_true rfl, Nat.le_of_ble_eq_true rfl⟩ (fun z h => (FA_r (KM_hf2 hKM z h))) (rp_recv hK hW16 (C := RJ1) (T := TJ1) (N := 9) rfl (shP_16 (kd_PL hg18) (kd_k hg18))) hW16 rfl rfl hl.1 (Nat.le_of_ble_eq_true rfl) dX0_cost_52 ⟨Nat.zero_le _, Nat.zero_le _⟩ (fun ov9 H21 locs22 hP23 hkp24 hS25 => ?_)
      obtain ⟨rfl, hW26, hz27, hKM28⟩ := hP23
      have hW29 := rg_keepX hW12 hkp24 (by intro z h0 h3; have h1 := h0.1.1; have h2 := h0.1.2; have h4 := h0.2; exact hPX _ h3.1 h0)
      have hz30 := hz27.trans hz17
      have hKM31 := KM.trans hKM hKM28 (by omega)
      refine W.eq (g2 := F0 m 55 ls []) rfl ?_
      refine lv_aload_n (pc := 55) hx hb dX0_cost_55 rfl (lv_at hl 1 rfl) ?_
      refine lv_iload_n (pc := 56) hx hb dX0_cost_56 rfl (lv_at hl 0 rfl) ?_
      obtain ⟨r32, w33, hq34, hm⟩ := ob2_some hm
      refine rk_TV (pc := 57) (As := [.int (gI v0 2 i1.toNatClampNeg)]) (rest := []) (mc := 0) (ms := 0) hx hb hml hown hts hK hS25 (fun q hq => FA_sz rfl q hq) lkX0_141 rfl yn_X0_told (ct_X0_told (G := G) (l := l) (b0 := b0) (sz := H21.size) hq34) ⟨Nat.le_of_ble_eq_true rfl, Nat.le_of_ble_eq_true rfl⟩ (fun z h => Or.inl (Or.inl h)) (rk_recv hK hW29 0 (by decide) rfl rfl rfl) hW29 rfl rfl hl.1 (Nat.le_of_ble_eq_true rfl) dX0_cost_57 ⟨Nat.zero_le _, Nat.zero_le _⟩ (fun ov9 H35 locs36 hP37 hkp38 hS39 => ?_)
      obtain ⟨rfl, hW40, hz41⟩ := hP37
      have hW42 := pl_keepA hW26 hkp38 (by intro z h1 h3; exact hPX _ h1 h3)
      have hz43 := hz41.trans hz30
      refine W.eq (g2 := F0 m 60 ls [.int r32]) rfl ?_
      obtain ⟨e7, e8, e9⟩ := rs3 hm
      subst e7
      subst e8
      subst e9
      exact rk_iret (pc := 60) hx hb hr hlk hS39 ⟨rfl, hW40, hW42, hz43, hKM31⟩ dX0_cost_60
    · have hm := ite_t c6 hm
      refine lv_bipush (pc := 25) (v := (-2 : Int32)) hx hb dX0_cost_25 (by decide) ?_
      obtain ⟨e7, e8, e9⟩ := rs3 hm
      subst e7
      subst e8
      subst e9
      exact rk_iret (pc := 27) hx hb hr hlk hS ⟨rfl, hW0, hW1, hz, hKM⟩ dX0_cost_27
  · have hm := ite_t c3 hm
    refine lv_iconst (pc := 11) (v := (-1 : Int32)) hx hb dX0_cost_11 (by decide) ?_
    obtain ⟨e7, e8, e9⟩ := rs3 hm
    subst e7
    subst e8
    subst e9
    exact rk_iret (pc := 12) hx hb hr hlk hS ⟨rfl, hW0, hW1, hz, hKM⟩ dX0_cost_12
set_option maxHeartbeats 4000000 in
theorem ct_X0_cost {G : Gv} {l : Launch} {b0 : Nat} {PL : Nat → Bool} {v0 : Mem} {v1 : Mem} {i1 : Int32} {i2 : Int32} {rx : Int32} {rw0 : Mem} {rw1 : Mem} {sz : Nat} (hm : fX0_cost PL b0 v0 v1 i1 i2 = some (rx, rw0, rw1)) (hPX : ∀ z, PL z = true → ¬ fX b0 z) : CT G l yX0_cost (ws_ yX0_cost cX0_cost 4 (some .int)) 2 0 0 46 [.ref b0, .int i1, .int i2] (fun z => (fX b0) z ∨ (fP PL v1) z) sz (fun H => rg G b0 357 (shX0 G.2.1) v0 H ∧ pl G PL v1 H) (fun ov H => ov = (some (.int rx)) ∧ rg G b0 357 (shX0 G.2.1) rw0 H ∧ pl G PL rw1 H ∧ H.size = sz ∧ KM v1 rw1 sz) := by
  refine Met.ofW (cc := cX0_cost) (maxL := 4) (ret := (some .int)) (by decide +kernel) rfl ?_
  intro p e s m args below meth c s₁ B hml hv
  obtain ⟨rfl, ⟨hz, hW0, hW1⟩, hK⟩ := hv
  subst hz
  have hts := atoms_spec (ws := ws_ yX0_cost cX0_cost 4 (some .int)) B.pre
  have hts : ∀ w ∈ lw_all, w.before _ s = true := fun w h => hts w (List.mem_cons_of_mem _ h)
  have C : Cx G p s m _ meth c RX0 cX0_cost 4 (some .int) := ⟨B.exec, B.bytes, B.returns, B.notSynchronized, hml, findClass_of_methodNamed B.named, hts, hK⟩
  have hl := lv_entry ([.ref b0, .int i1, .int i2]) (n := 4) (Nat.le_of_ble_eq_true rfl)
  rw [lg_entry_eq]
  generalize (lg_sl ([.ref b0, .int i1, .int i2]) ++ List.replicate (4 - (lg_sl ([.ref b0, .int i1, .int i2])).length) Slot.unset).toArray = ls at hl ⊢
  have hl : lv_has ls 4 [(0, .ref b0), (1, .int i1), (2, .int i2)] := hl
  exact w_fX0_cost C hPX _ _ _ _ hm s.heap [] ls hW0 hW1 va_S.rf rfl KM.rf hl
theorem lkX0_399 : LV RX0 399 RX3 yX3_begins cX3_begins 5 none := ⟨q1229, q778, q779, q117, q780⟩
theorem lkX0_412 : LV RX0 412 RX3 yX3_repairs cX3_repairs 3 none := ⟨q1235, q798, q799, q117, q800⟩
theorem yn_X8_reads : YN yX8_reads 1 := by
  unfold YN
  decide +kernel
theorem lkX0_415 : LV RX0 415 RX8 yX8_reads cX8_reads 3 none := ⟨q1236, q1237, q1238, q127, q1239⟩
theorem flX0_92 : FL RX0 92 0 19 RX0 TX0 25 := ⟨in_X0, rfl, by decide, q517⟩
theorem flX0_418 : FL RX0 418 0 21 RX0 TX0 25 := ⟨in_X0, rfl, by decide, q519⟩
theorem fnX0_421 : FN RX0 421 3 2 RX3 TX3 12 "WholePacks" := ⟨in_X3, rfl, by decide, q279⟩
theorem fnX0_426 : FN RX0 426 13 6 RX13 TX13 7 "WholePacks" := ⟨in_X13, rfl, by decide, q831⟩
theorem fnX0_402 : FN RX0 402 8 5 RX8 TX8 8 "WholePacks" := ⟨in_X8, rfl, by decide, q473⟩
theorem yn_X3_holds : YN yX3_holds 3 := by
  unfold YN
  decide +kernel
theorem lkX0_405 : LV RX0 405 RX3 yX3_holds cX3_holds 6 none := ⟨q1230, q1231, q1232, q117, q1233⟩
theorem fnX0_409 : FN RX0 409 8 6 RX8 TX8 8 "WholePacks" := ⟨in_X8, rfl, by decide, q475⟩
noncomputable def fX0_relaxes_48 (PL : Nat → Bool) (Z : Nat) (b0 : Nat) (n1 : Nat) (k13 : Mem → Mem → Nat → Int32 → Option (Bool × Int32 × Nat × Mem × Mem)) (v0 : Mem) (v1 : Mem) (zc : Nat) (i2 : Int32) : Option (Bool × Int32 × Nat × Mem × Mem) :=
  gb (inR i2 5) (
  if (gI v0 (197 + 4 * n1 + 2) i2.toNatClampNeg) = (-1 : Int32) then (
  k13 v0 v1 zc (i2 + (1 : Int32)))
  else (
  gb (inR i2 5) (
  ob (fX3_holds (shf v0 110) i2 (gI v0 (197 + 4 * n1 + 2) i2.toNatClampNeg) (0 : Int32)) fun w134 =>
  lm (ptm v0 110 43 w134) fun v0_145 =>
  k13 v0_145 v1 zc (i2 + (1 : Int32)))))
noncomputable def fX0_relaxes_13 (PL : Nat → Bool) (Z : Nat) (b0 : Nat) (n1 : Nat) (k13 : Mem → Mem → Nat → Int32 → Option (Bool × Int32 × Nat × Mem × Mem)) (v0 : Mem) (v1 : Mem) (zc : Nat) (i2 : Int32) : Option (Bool × Int32 × Nat × Mem × Mem) :=
  if (gI v0 1 0) ≤ i2 then (
  ob4 (fX3_repairs (shf v0 110)) fun ok18 re19 rc16 w17 =>
  if ok18 = true then (
  lm (ptm v0 110 43 w17) fun v0_30 =>
  ob (fX8_reads (shf v0_30 110) (shf v0_30 (197 + 4 * n1))) fun w33 =>
  lm (ptm v0_30 (197 + 4 * n1) 4 w33) fun v0_44 =>
  gb (kd PL v1 (b0 + 165) 17) (
  ob3 (fJ4_add_node PL (Z + (zc + rc16)) b0 v0_44 v1 (b0 + 165) (b0 + (197 + 4 * n1 + 0))) fun r48 rc49 w50 =>
  lm (sI v0_44 0 21 ((gI v0_44 0 21) + (gI v0_44 110 2))) fun v0_65 =>
  some (true, (0 : Int32), (zc + rc16 + rc49), v0_65, w50)))
  else (
  lm (ptm v0 110 43 w17) fun v0_88 =>
  if re19 = (-6 : Int32) then (
  lm (sI v0_88 0 21 ((gI v0_88 0 21) + (gI v0_88 110 2))) fun v0_103 =>
  some (false, re19, (zc + rc16), v0_103, v1))
  else (
  lm (sI v0_88 0 21 ((gI v0_88 0 21) + (gI v0_88 110 2))) fun v0_92 =>
  some (true, (0 : Int32), (zc + rc16), v0_92, v1))))
  else (
  gb (inR i2 5) (
  if (gI v0 (197 + 4 * n1 + 1) i2.toNatClampNeg) ≤ 0 then (
  fX0_relaxes_48 PL Z b0 n1 k13 v0 v1 zc i2)
  else (
  gb (inR i2 5) (
  ob (fX3_holds (shf v0 110) i2 (gI v0 (197 + 4 * n1 + 1) i2.toNatClampNeg) (1 : Int32)) fun w117 =>
  lm (ptm v0 110 43 w117) fun v0_128 =>
  fX0_relaxes_48 PL Z b0 n1 k13 v0_128 v1 zc i2))))
noncomputable def fX0_relaxes (PL : Nat → Bool) (Z : Nat) (b0 : Nat) (n1 : Nat) (v0 : Mem) (v1 : Mem) : Option (Bool × Int32 × Nat × Mem × Mem) :=
  ob (fX3_begins (shf v0 1) (shf v0 110)) fun w1 =>
  lm (ptm v0 110 43 w1) fun v0_12 =>
  lq4 (fX0_relaxes_13 PL Z b0 n1) FU v0_12 v1 0 (0 : Int32)
set_option maxHeartbeats 4000000 in
theorem w_fX0_relaxes_48 (C : Cx G p s m args meth c RX0 cX0_relaxes 4 none) {b0 : Nat} {PL : Nat → Bool} {Z : Nat} {n1 : Nat} {vP0 : Mem} {rok : Bool} {re : Int32} {rc : Nat} {rw0 : Mem} {rw1 : Mem} (hPX : ∀ z, PL z = true → ¬ fX b0 z) (hn1 : n1 < 40) (he0 : b0 + 357 ≤ s.heap.size) (hZz : s.heap.size = Z) (hZ : ZQ G) (hgb0 : gB G ≤ b0) (hPg : ∀ z, PL z = true → gB G ≤ z) (hZP : ZP G) (ht : c.exceptionTable.toList = tableOf [(79, 103, 122, 424), (79, 103, 153, 0), (122, 134, 153, 0)]) {k13 : Mem → Mem → Nat → Int32 → Option (Bool × Int32 × Nat × Mem × Mem)} (hk13 : ∀ (v0 : Mem) (v1 : Mem) (zc : Nat) (i2 : Int32), k13 v0 v1 zc i2 = some (rok, re, rc, rw0, rw1) → ∀ (H : Heap) (locs : List Loc) (ls : Array Slot), rg G b0 357 (shX0 G.2.1) v0 H → pl G PL v1 H → va_S (FA (fun z => (fX b0) z ∨ (fP PL vP0) z) s.heap.size) s.heap H locs → H.size = s.heap.size + zc → KM vP0 v1 s.heap.size → GO G H → lv_has ls 4 [(0, .ref b0), (1, .ref (b0 + (197 + 4 * n1 + 0))), (2, .int i2)] → W p l e (rmT 7 1 90 207) s m args below meth c H locs 0 0 (vx_MQ below (QcX rok (FA (fun z => (fX b0) z ∨ (fP PL vP0) z) s.heap.size) (fun ov H => ov = none ∧ rg G b0 357 (shX0 G.2.1) rw0 H ∧ pl G PL rw1 H ∧ H.size = s.heap.size + rc ∧ KM vP0 rw1 s.heap.size)) (XcX rok (FA (fun z => (fX b0) z ∨ (fP PL vP0) z) s.heap.size) (fun q E H => E = "WholePacks$Stuck" ∧ s.heap.size ≤ q ∧ (∃ wx, rg G q 1 (shX13 G.2.1) wx H ∧ gI wx 0 6 = re) ∧ rg G b0 357 (shX0 G.2.1) rw0 H ∧ pl G PL rw1 H ∧ H.size = s.heap.size + rc ∧ KM vP0 rw1 s.heap.size)) args s 1 90 (FA (fun z => (fX b0) z ∨ (fP PL vP0) z) s.heap.size)) (F0 m 13 ls [])) : ∀ (v0 : Mem) (v1 : Mem) (zc : Nat) (i2 : Int32), fX0_relaxes_48 PL Z b0 n1 k13 v0 v1 zc i2 = some (rok, re, rc, rw0, rw1) → ∀ (H : Heap) (locs : List Loc) (ls : Array Slot), rg G b0 357 (shX0 G.2.1) v0 H → pl G PL v1 H → va_S (FA (fun z => (fX b0) z ∨ (fP PL vP0) z) s.heap.size) s.heap H locs → H.size = s.heap.size + zc → KM vP0 v1 s.heap.size → GO G H → lv_has ls 4 [(0, .ref b0), (1, .ref (b0 + (197 + 4 * n1 + 0))), (2, .int i2)] → W p l e (rmT 7 1 90 207) s m args below meth c H locs 0 0 (vx_MQ below (QcX rok (FA (fun z => (fX b0) z ∨ (fP PL vP0) z) s.heap.size) (fun ov H => ov = none ∧ rg G b0 357 (shX0 G.2.1) rw0 H ∧ pl G PL rw1 H ∧ H.size = s.heap.size + rc ∧ KM vP0 rw1 s.heap.size)) (XcX rok (FA (fun z => (fX b0) z ∨ (fP PL vP0) z) s.heap.size) (fun q E H => E = "WholePacks$Stuck" ∧ s.heap.size ≤ q ∧ (∃ wx, rg G q 1 (shX13 G.2.1) wx H ∧ gI wx 0 6 = re) ∧ rg G b0 357 (shX0 G.2.1) rw0 H ∧ pl G PL rw1 H ∧ H.size = s.heap.size + rc ∧ KM vP0 rw1 s.heap.size)) args s 1 90 (FA (fun z => (fX b0) z ∨ (fP PL vP0) z) s.heap.size)) (F0 m 48 ls []) := by
  intro v0 v1 zc i2 hm H locs ls hW0 hW1 hS hz hKM hG hl
  obtain ⟨hx, hb, hr, hlk, hml, hown, hts, hK⟩ := id C
  unfold fX0_relaxes_48 at hm
  refine lv_aload_n (pc := 48) hx hb dX0_relaxes_48 rfl (lv_at hl 1 rfl) ?_
  refine rk_getN (pc := 49) hx hb hts hown hK hW0 fnX0_409 (197 + 4 * n1 + 0) (by omega) rfl ((shX0_f197 G.2.1 hn1 _ rfl 0 (by decide) _ _ _).trans rfl) (x := .ref (b0 + (197 + 4 * n1 + 2))) (by first | rfl | exact congrArg (fun z => some (Value.ref z)) (by omega)) dX0_relaxes_49 ?_
  refine lv_iload_n (pc := 52) hx hb dX0_relaxes_52 rfl (lv_at hl 2 rfl) ?_
  obtain ⟨hg131, hm⟩ := gb_some hm
  refine rk_iald (pc := 53) hx hb hK hW0 (197 + 4 * n1 + 2) (by omega) rfl ((shX0_f197 G.2.1 hn1 _ rfl 2 (by decide) _ _ _).trans rfl) hg131 (x := (gI v0 (197 + 4 * n1 + 2) i2.toNatClampNeg)) rfl dX0_relaxes_53 ?_
  refine lv_iconst (pc := 54) (v := (-1 : Int32)) hx hb dX0_relaxes_54 (by decide) ?_
  refine lv_icmp_eq (pc := 55) (tgt := 73) hx hb dX0_relaxes_55 (by decide) (fun c132 => ?_) (fun c132 => ?_)
  · have hm := ite_t c132 hm
    refine lv_iinc (pc := 73) (v := (i2 + (1 : Int32))) (lv' := [(2, .int (i2 + (1 : Int32))), (0, .ref b0), (1, .ref (b0 + (197 + 4 * n1 + 0)))]) hx hb dX0_relaxes_73 hl (k := 2) rfl rfl (by decide) rfl (fun ls hl => ?_)
    refine lv_goto (pc := 76) (tgt := 13) hx hb dX0_relaxes_76 (by decide) ?_
    exact hk13 v0 v1 zc (i2 + (1 : Int32)) hm H locs ls hW0 hW1 hS hz hKM hG (lv_sub hl [1, 2, 0] rfl)
  · have hm := ite_f c132 hm
    refine lv_aload_n (pc := 58) hx hb dX0_relaxes_58 rfl (lv_at hl 0 rfl) ?_
    refine rk_get (pc := 59) hx hb hts hown hK hW0 flX0_31 0 (by decide) rfl rfl (x := .ref (b0 + 110)) (by first | rfl | exact congrArg (fun z => some (Value.ref z)) (by omega)) dX0_relaxes_59 ?_
    refine lv_iload_n (pc := 62) hx hb dX0_relaxes_62 rfl (lv_at hl 2 rfl) ?_
    refine lv_aload_n (pc := 63) hx hb dX0_relaxes_63 rfl (lv_at hl 1 rfl) ?_
    refine rk_getN (pc := 64) hx hb hts hown hK hW0 fnX0_409 (197 + 4 * n1 + 0) (by omega) rfl ((shX0_f197 G.2.1 hn1 _ rfl 0 (by decide) _ _ _).trans rfl) (x := .ref (b0 + (197 + 4 * n1 + 2))) (by first | rfl | exact congrArg (fun z => some (Value.ref z)) (by omega)) dX0_relaxes_64 ?_
    refine lv_iload_n (pc := 67) hx hb dX0_relaxes_67 rfl (lv_at hl 2 rfl) ?_
    obtain ⟨hg133, hm⟩ := gb_some hm
    refine rk_iald (pc := 68) hx hb hK hW0 (197 + 4 * n1 + 2) (by omega) rfl ((shX0_f197 G.2.1 hn1 _ rfl 2 (by decide) _ _ _).trans rfl) hg133 (x := (gI v0 (197 + 4 * n1 + 2) i2.toNatClampNeg)) rfl dX0_relaxes_68 ?_
    refine lv_iconst (pc := 69) (v := (0 : Int32)) hx hb dX0_relaxes_69 (by decide) ?_
    obtain ⟨w134, hq135, hm⟩ := ob_some hm
    refine rk_TV (pc := 70) (As := [.int i2, .int (gI v0 (197 + 4 * n1 + 2) i2.toNatClampNeg), .int (0 : Int32)]) (rest := []) (mc := 0) (ms := 0) hx hb hml hown hts hK hS (fun q hq => FA_sz rfl q hq) lkX0_405 rfl yn_X3_holds (ct_X3_holds (G := G) (l := l) (b0 := (b0 + 110)) (sz := H.size) hq135) ⟨Nat.le_of_ble_eq_true rfl, Nat.le_of_ble_eq_true rfl⟩ (fun z h => Or.inl (Or.inl (show fX _ _ from ⟨⟨by have h8 := h.1; have h9 := h.2; omega, by have h8 := h.1; have h9 := h.2; omega⟩, by have h8 := h.1; have h9 := h.2; omega⟩))) (rk_recv hK hW0 110 (by decide) rfl rfl rfl) (rg_sub hW0 rfl (by decide) (fun o ho x y z => shX0_n110 G.2.1 _ rfl o ho x y z)) rfl rfl hl.1 (Nat.le_of_ble_eq_true rfl) dX0_relaxes_70 ⟨Nat.zero_le _, Nat.zero_le _⟩ (fun ov9 H136 locs137 hP138 hkp139 hS140 => ?_)
    obtain ⟨rfl, hW141, hz142⟩ := hP138
    have hW143 := pl_keepA hW1 hkp139 (by intro z h1 h3; have h8 := h3.1; have h9 := h3.2; exact hPX _ h1 (show fX _ _ from ⟨⟨by omega, by omega⟩, by omega⟩))
    have hW144 := rg_put (d := 110) hW0 hW141 rfl (fun o ho x y z => shX0_n110 G.2.1 _ rfl o ho x y z) hkp139
    obtain ⟨v0_145, he9, hm⟩ := lm_some hm
    rw [he9] at hW144
    have hG146 := GO_keepA hG hkp139 (Nat.le_trans (show gB G ≤ s.heap.size by omega) hS.1) (by intro z h3; have h8 := h3.1; have h9 := h3.2; omega)
    have hz147 := hz142.trans hz
    refine W.eq (g2 := F0 m 73 ls []) rfl ?_
    refine lv_iinc (pc := 73) (v := (i2 + (1 : Int32))) (lv' := [(2, .int (i2 + (1 : Int32))), (0, .ref b0), (1, .ref (b0 + (197 + 4 * n1 + 0)))]) hx hb dX0_relaxes_73 hl (k := 2) rfl rfl (by decide) rfl (fun ls hl => ?_)
    refine lv_goto (pc := 76) (tgt := 13) hx hb dX0_relaxes_76 (by decide) ?_
    exact hk13 v0_145 v1 zc (i2 + (1 : Int32)) hm H136 locs137 ls hW144 hW143 hS140 hz147 hKM hG146 (lv_sub hl [1, 2, 0] rfl)
set_option maxHeartbeats 4000000 in
theorem w_fX0_relaxes_13 (C : Cx G p s m args meth c RX0 cX0_relaxes 4 none) {b0 : Nat} {PL : Nat → Bool} {Z : Nat} {n1 : Nat} {vP0 : Mem} {rok : Bool} {re : Int32} {rc : Nat} {rw0 : Mem} {rw1 : Mem} (hPX : ∀ z, PL z = true → ¬ fX b0 z) (hn1 : n1 < 40) (he0 : b0 + 357 ≤ s.heap.size) (hZz : s.heap.size = Z) (hZ : ZQ G) (hgb0 : gB G ≤ b0) (hPg : ∀ z, PL z = true → gB G ≤ z) (hZP : ZP G) (ht : c.exceptionTable.toList = tableOf [(79, 103, 122, 424), (79, 103, 153, 0), (122, 134, 153, 0)]) {k13 : Mem → Mem → Nat → Int32 → Option (Bool × Int32 × Nat × Mem × Mem)} (hk13 : ∀ (v0 : Mem) (v1 : Mem) (zc : Nat) (i2 : Int32), k13 v0 v1 zc i2 = some (rok, re, rc, rw0, rw1) → ∀ (H : Heap) (locs : List Loc) (ls : Array Slot), rg G b0 357 (shX0 G.2.1) v0 H → pl G PL v1 H → va_S (FA (fun z => (fX b0) z ∨ (fP PL vP0) z) s.heap.size) s.heap H locs → H.size = s.heap.size + zc → KM vP0 v1 s.heap.size → GO G H → lv_has ls 4 [(0, .ref b0), (1, .ref (b0 + (197 + 4 * n1 + 0))), (2, .int i2)] → W p l e (rmT 7 1 90 207) s m args below meth c H locs 0 0 (vx_MQ below (QcX rok (FA (fun z => (fX b0) z ∨ (fP PL vP0) z) s.heap.size) (fun ov H => ov = none ∧ rg G b0 357 (shX0 G.2.1) rw0 H ∧ pl G PL rw1 H ∧ H.size = s.heap.size + rc ∧ KM vP0 rw1 s.heap.size)) (XcX rok (FA (fun z => (fX b0) z ∨ (fP PL vP0) z) s.heap.size) (fun q E H => E = "WholePacks$Stuck" ∧ s.heap.size ≤ q ∧ (∃ wx, rg G q 1 (shX13 G.2.1) wx H ∧ gI wx 0 6 = re) ∧ rg G b0 357 (shX0 G.2.1) rw0 H ∧ pl G PL rw1 H ∧ H.size = s.heap.size + rc ∧ KM vP0 rw1 s.heap.size)) args s 1 90 (FA (fun z => (fX b0) z ∨ (fP PL vP0) z) s.heap.size)) (F0 m 13 ls [])) : ∀ (v0 : Mem) (v1 : Mem) (zc : Nat) (i2 : Int32), fX0_relaxes_13 PL Z b0 n1 k13 v0 v1 zc i2 = some (rok, re, rc, rw0, rw1) → ∀ (H : Heap) (locs : List Loc) (ls : Array Slot), rg G b0 357 (shX0 G.2.1) v0 H → pl G PL v1 H → va_S (FA (fun z => (fX b0) z ∨ (fP PL vP0) z) s.heap.size) s.heap H locs → H.size = s.heap.size + zc → KM vP0 v1 s.heap.size → GO G H → lv_has ls 4 [(0, .ref b0), (1, .ref (b0 + (197 + 4 * n1 + 0))), (2, .int i2)] → W p l e (rmT 7 1 90 207) s m args below meth c H locs 0 0 (vx_MQ below (QcX rok (FA (fun z => (fX b0) z ∨ (fP PL vP0) z) s.heap.size) (fun ov H => ov = none ∧ rg G b0 357 (shX0 G.2.1) rw0 H ∧ pl G PL rw1 H ∧ H.size = s.heap.size + rc ∧ KM vP0 rw1 s.heap.size)) (XcX rok (FA (fun z => (fX b0) z ∨ (fP PL vP0) z) s.heap.size) (fun q E H => E = "WholePacks$Stuck" ∧ s.heap.size ≤ q ∧ (∃ wx, rg G q 1 (shX13 G.2.1) wx H ∧ gI wx 0 6 = re) ∧ rg G b0 357 (shX0 G.2.1) rw0 H ∧ pl G PL rw1 H ∧ H.size = s.heap.size + rc ∧ KM vP0 rw1 s.heap.size)) args s 1 90 (FA (fun z => (fX b0) z ∨ (fP PL vP0) z) s.heap.size)) (F0 m 13 ls []) := by
  intro v0 v1 zc i2 hm H locs ls hW0 hW1 hS hz hKM hG hl
  obtain ⟨hx, hb, hr, hlk, hml, hown, hts, hK⟩ := id C
  unfold fX0_relaxes_13 at hm
  refine lv_iload_n (pc := 13) hx hb dX0_relaxes_13 rfl (lv_at hl 2 rfl) ?_
  refine lv_aload_n (pc := 14) hx hb dX0_relaxes_14 rfl (lv_at hl 0 rfl) ?_
  refine rk_get (pc := 15) hx hb hts hown hK hW0 flX0_12 0 (by decide) rfl rfl (x := .ref (b0 + 1)) (by first | rfl | exact congrArg (fun z => some (Value.ref z)) (by omega)) dX0_relaxes_15 ?_
  refine rk_getN (pc := 18) hx hb hts hown hK hW0 fnX0_131 1 (by decide) rfl rfl (x := .int (gI v0 1 0)) rfl dX0_relaxes_18 ?_
  refine lv_icmp_ge (pc := 21) (tgt := 79) hx hb dX0_relaxes_21 (by decide) (fun c15 => ?_) (fun c15 => ?_)
  · have hm := ite_t c15 hm
    refine lv_aload_n (pc := 79) hx hb dX0_relaxes_79 rfl (lv_at hl 0 rfl) ?_
    refine rk_get (pc := 80) hx hb hts hown hK hW0 flX0_31 0 (by decide) rfl rfl (x := .ref (b0 + 110)) (by first | rfl | exact congrArg (fun z => some (Value.ref z)) (by omega)) dX0_relaxes_80 ?_
    obtain ⟨ok18, re19, rc16, w17, hq20, hm⟩ := ob4_some hm
    by_cases hok : ok18 = true
    · subst hok
      have hm := ite_t rfl hm
      refine rk_TV (pc := 83) (As := []) (rest := []) (mc := 0) (ms := 0) hx hb hml hown hts hK hS (fun q hq => FA_sz rfl q hq) lkX0_412 rfl yn_X3_repairs (CX.ret (ct_X3_repairs (G := G) (l := l) (rok := true) (b0 := (b0 + 110)) (sz := H.size) hq20 hZ (by omega))) ⟨Nat.le_of_ble_eq_true rfl, Nat.le_of_ble_eq_true rfl⟩ (fun z h => Or.inl (Or.inl (show fX _ _ from ⟨⟨by have h8 := h.1; have h9 := h.2; omega, by have h8 := h.1; have h9 := h.2; omega⟩, by have h8 := h.1; have h9 := h.2; omega⟩))) (rk_recv hK hW0 110 (by decide) rfl rfl rfl) ⟨(rg_sub hW0 rfl (by decide) (fun o ho x y z => shX0_n110 G.2.1 _ rfl o ho x y z)), hG⟩ rfl rfl hl.1 (Nat.le_of_ble_eq_true rfl) dX0_relaxes_83 ⟨Nat.zero_le _, Nat.zero_le _⟩ (fun ov9 H21 locs22 hP23 hkp24 hS25 => ?_)
      obtain ⟨rfl, hW26, hz27⟩ := hP23
      have hW28 := pl_keepA hW1 hkp24 (by intro z h1 h3; have h8 := h3.1; have h9 := h3.2; exact hPX _ h1 (show fX _ _ from ⟨⟨by omega, by omega⟩, by omega⟩))
      have hW29 := rg_put (d := 110) hW0 hW26 rfl (fun o ho x y z => shX0_n110 G.2.1 _ rfl o ho x y z) hkp24
      obtain ⟨v0_30, he9, hm⟩ := lm_some hm
      rw [he9] at hW29
      have hG31 := GO_keepA hG hkp24 (Nat.le_trans (show gB G ≤ s.heap.size by omega) hS.1) (by intro z h3; have h8 := h3.1; have h9 := h3.2; omega)
      have hz32 : H21.size = s.heap.size + (zc + rc16) := by omega
      refine W.eq (g2 := F0 m 86 ls []) rfl ?_
      refine lv_aload_n (pc := 86) hx hb dX0_relaxes_86 rfl (lv_at hl 1 rfl) ?_
      refine lv_aload_n (pc := 87) hx hb dX0_relaxes_87 rfl (lv_at hl 0 rfl) ?_
      refine rk_get (pc := 88) hx hb hts hown hK hW29 flX0_31 0 (by decide) rfl rfl (x := .ref (b0 + 110)) (by first | rfl | exact congrArg (fun z => some (Value.ref z)) (by omega)) dX0_relaxes_88 ?_
      obtain ⟨w33, hq34, hm⟩ := ob_some hm
      refine rk_TV (pc := 91) (As := [.ref (b0 + 110)]) (rest := []) (mc := 0) (ms := 0) hx hb hml hown hts hK hS25 (fun q hq => FA_sz rfl q hq) lkX0_415 rfl yn_X8_reads (ct_X8_reads (G := G) (l := l) (b0 := (b0 + (197 + 4 * n1 + 0))) (b1 := (b0 + 110)) (sz := H21.size) hq34 (by omega)) ⟨Nat.le_of_ble_eq_true rfl, Nat.le_of_ble_eq_true rfl⟩ (fun z h => Or.inl (Or.inl (show fX _ _ from ⟨⟨by have h8 := h.1; have h9 := h.2; omega, by have h8 := h.1; have h9 := h.2; omega⟩, by have h8 := h.1; have h9 := h.2; omega⟩))) (rk_recv hK hW29 (197 + 4 * n1 + 0) (by omega) rfl rfl ((shX0_f197 G.2.1 hn1 _ rfl 0 (by decide) _ _ _).trans rfl)) ⟨(rg_sub (d := (197 + 4 * n1)) hW29 rfl (by omega) (fun o ho x y z => shX0_f197 G.2.1 hn1 _ rfl o ho x y z)), (rg_sub hW29 rfl (by decide) (fun o ho x y z => shX0_n110 G.2.1 _ rfl o ho x y z))⟩ rfl rfl hl.1 (Nat.le_of_ble_eq_true rfl) dX0_relaxes_91 ⟨Nat.zero_le _, Nat.zero_le _⟩ (fun ov9 H35 locs36 hP37 hkp38 hS39 => ?_)
      obtain ⟨rfl, hW40, hz41⟩ := hP37
      have hW42 := pl_keepA hW28 hkp38 (by intro z h1 h3; have h8 := h3.1; have h9 := h3.2; exact hPX _ h1 (show fX _ _ from ⟨⟨by omega, by omega⟩, by omega⟩))
      have hW43 := rg_put (d := (197 + 4 * n1)) hW29 hW40 rfl (fun o ho x y z => shX0_f197 G.2.1 hn1 _ rfl o ho x y z) hkp38
      obtain ⟨v0_44, he9, hm⟩ := lm_some hm
      rw [he9] at hW43
      have hG45 := GO_keepA hG31 hkp38 (Nat.le_trans (show gB G ≤ s.heap.size by omega) hS25.1) (by intro z h3; have h8 := h3.1; have h9 := h3.2; omega)
      have hz46 := hz41.trans hz32
      refine W.eq (g2 := F0 m 94 ls []) rfl ?_
      refine lv_aload_n (pc := 94) hx hb dX0_relaxes_94 rfl (lv_at hl 0 rfl) ?_
      refine rk_get (pc := 95) hx hb hts hown hK hW43 flX0_92 0 (by decide) rfl rfl (x := .ref (b0 + 165)) (by first | rfl | exact congrArg (fun z => some (Value.ref z)) (by omega)) dX0_relaxes_95 ?_
      refine lv_aload_n (pc := 98) hx hb dX0_relaxes_98 rfl (lv_at hl 1 rfl) ?_
      obtain ⟨hg47, hm⟩ := gb_some hm
      obtain ⟨r48, rc49, w50, hq51, hm⟩ := ob3_some hm
      have hq52 := hq51
      rw [show (Z + (zc + rc16)) = H35.size by omega] at hq52
      refine rk_TV (pc := 99) (As := [.ref (b0 + (197 + 4 * n1 + 0))]) (rest := []) (mc := 1) (ms := 90) hx hb hml hown hts hK hS39 (fun q hq => FA_sz rfl q hq) lkX0_361 rfl yn_J4_add (ct_J4_add_node (G := G) (l := l) (b0 := b0) hq52 hPX hZP) ⟨Nat.le_of_ble_eq_true rfl, Nat.le_of_ble_eq_true rfl⟩ (fun z h => (FA_r (KM_hf2 hKM z h))) (rp_recv hK hW42 (C := RJ4) (T := TJ4) (N := 4) rfl (shP_17 (kd_PL hg47) (kd_k hg47))) ⟨hW43, hW42⟩ rfl rfl hl.1 (Nat.le_of_ble_eq_true rfl) dX0_relaxes_99 ⟨Nat.le_of_ble_eq_true rfl, Nat.le_of_ble_eq_true rfl⟩ (fun ov9 H53 locs54 hP55 hkp56 hS57 => ?_)
      obtain ⟨rfl, hW58, hz59, hKM60⟩ := hP55
      have hW61 := rg_keepX hW43 hkp56 (by intro z h0 h3; have h1 := h0.1.1; have h2 := h0.1.2; have h4 := h0.2; exact hPX _ h3.1 h0)
      have hG62 := GO_keepA hG45 hkp56 (Nat.le_trans (show gB G ≤ s.heap.size by omega) hS39.1) (by intro z h3; exact hPg _ h3.1)
      have hz63 : H53.size = s.heap.size + (zc + rc16 + rc49) := by omega
      have hKM64 := KM.trans hKM hKM60 (by omega)
      refine W.eq (g2 := F0 m 102 ls [.int r48]) rfl ?_
      refine lv_pop (pc := 102) hx hb dX0_relaxes_102 rfl ?_
      refine lv_aload_n (pc := 103) hx hb dX0_relaxes_103 rfl (lv_at hl 0 rfl) ?_
      refine lv_dup (pc := 104) hx hb dX0_relaxes_104 rfl ?_
      refine rk_get (pc := 105) hx hb hts hown hK hW61 flX0_418 0 (by decide) rfl rfl (x := .int (gI v0_44 0 21)) rfl dX0_relaxes_105 ?_
      refine lv_aload_n (pc := 108) hx hb dX0_relaxes_108 rfl (lv_at hl 0 rfl) ?_
      refine rk_get (pc := 109) hx hb hts hown hK hW61 flX0_31 0 (by decide) rfl rfl (x := .ref (b0 + 110)) (by first | rfl | exact congrArg (fun z => some (Value.ref z)) (by omega)) dX0_relaxes_109 ?_
      refine rk_getN (pc := 112) hx hb hts hown hK hW61 fnX0_421 110 (by decide) rfl rfl (x := .int (gI v0_44 110 2)) rfl dX0_relaxes_112 ?_
      refine lv_iadd (pc := 115) hx hb dX0_relaxes_115 ?_
      refine rk_put (pc := 116) hx hb hts hown hK hW61 hS57 flX0_418 ft_X0 0 (by decide) rfl (Or.inl (Or.inl (show fX _ _ from ⟨⟨by omega, by omega⟩, by omega⟩))) rfl rfl (x := .int ((gI v0_44 0 21) + (gI v0_44 110 2))) rfl rfl (Nat.le_of_ble_eq_true rfl) (sI v0_44 0 21 ((gI v0_44 0 21) + (gI v0_44 110 2))) sI_ne (by rw [sI_eq]; exact rfl) dX0_relaxes_116 (fun H66 locs67 hW68 hS69 hz70 hkp71 => ?_)
      obtain ⟨v0_65, he9, hm⟩ := lm_some hm
      rw [he9] at hW68
      have hW72 := pl_keepq hW58 hkp71 (fun h9 => hPX _ h9 (show fX _ _ from ⟨⟨by omega, by omega⟩, by omega⟩))
      have hz73 := hz70.trans hz63
      have hG74 := GO_keepq hG62 hkp71 (by omega)
      refine lv_goto (pc := 119) (tgt := 172) hx hb dX0_relaxes_119 (by decide) ?_
      obtain ⟨e5, e6, e7, e8, e9⟩ := rs5 hm
      cases e5
      subst e6
      subst e7
      subst e8
      subst e9
      exact rk_vretX (pc := 172) hx hb hr hlk hS69 ⟨rfl, hW68, hW72, hz73, hKM64⟩ dX0_relaxes_172 (by exact Nat.le_of_ble_eq_true rfl) (by exact Nat.le_of_ble_eq_true rfl)
    · have hok := eq_false_of_ne_true hok
      subst hok
      have hm := ite_f Bool.false_ne_true hm
      refine rk_XV (pc := 83) (As := []) (rest := []) (mc := 1) (ms := 7) hx hb hml hown hts hK hS (fun q hq => FA_sz rfl q hq) lkX0_412 rfl yn_X3_repairs (ct_X3_repairs (G := G) (l := l) (rok := false) (b0 := (b0 + 110)) (sz := H.size) hq20 hZ (by omega)) ⟨Nat.le_of_ble_eq_true rfl, Nat.le_of_ble_eq_true rfl⟩ (fun z h => Or.inl (Or.inl (show fX _ _ from ⟨⟨by have h8 := h.1; have h9 := h.2; omega, by have h8 := h.1; have h9 := h.2; omega⟩, by have h8 := h.1; have h9 := h.2; omega⟩))) (rk_recv hK hW0 110 (by decide) rfl rfl rfl) ⟨(rg_sub hW0 rfl (by decide) (fun o ho x y z => shX0_n110 G.2.1 _ rfl o ho x y z)), hG⟩ rfl rfl hl.1 (Nat.le_of_ble_eq_true rfl) dX0_relaxes_83 ⟨Nat.le_of_ble_eq_true rfl, Nat.le_of_ble_eq_true rfl⟩ (fun q80 E9 ce9 H75 locs76 hP77 hkp78 hS79 hce9 hcv9 hcl9 => ?_)
      obtain ⟨rfl, hqq80, ⟨wx82, hW83, hre84⟩, hW81, hz85⟩ := hP77
      have hqq80 : s.heap.size ≤ q80 := Nat.le_trans hS.1 hqq80
      have hW86 := pl_keepA hW1 hkp78 (by intro z h1 h3; have h8 := h3.1; have h9 := h3.2; exact hPX _ h1 (show fX _ _ from ⟨⟨by omega, by omega⟩, by omega⟩))
      have hW87 := rg_put (d := 110) hW0 hW81 rfl (fun o ho x y z => shX0_n110 G.2.1 _ rfl o ho x y z) hkp78
      obtain ⟨v0_88, he9, hm⟩ := lm_some hm
      rw [he9] at hW87
      have hG89 := GO_keepA hG hkp78 (Nat.le_trans (show gB G ≤ s.heap.size by omega) hS.1) (by intro z h3; have h8 := h3.1; have h9 := h3.2; omega)
      have hz90 : H75.size = s.heap.size + (zc + rc16) := by omega
      obtain ⟨ce8, hce8, hcv8, hcl8⟩ := rk_exc hK hW83 rfl rfl
      refine rk_catch hK hown hts ht [] ⟨79, 103, 122, 424⟩ [⟨79, 103, 153, 0⟩, ⟨122, 134, 153, 0⟩] rfl (by decide) (by decide) (by decide) q1211 q818 hce8 hcv8 hcl8 122 rfl ?_
      refine lv_astore_n (pc := 122) (lv' := [(2, .ref q80), (0, .ref b0), (1, .ref (b0 + (197 + 4 * n1 + 0)))]) hx hb dX0_relaxes_122 rfl hl (by decide) rfl (fun ls hl => ?_)
      refine lv_aload_n (pc := 123) hx hb dX0_relaxes_123 rfl (lv_at hl 0 rfl) ?_
      refine rk_getN (pc := 124) hx hb hts hown hK hW83 fnX0_426 0 (by decide) rfl rfl (x := .int re19) (congrArg (fun z => some (Value.int z)) hre84) dX0_relaxes_124 ?_
      refine lv_bipush (pc := 127) (v := (-6 : Int32)) hx hb dX0_relaxes_127 (by decide) ?_
      refine lv_icmp_ne (pc := 129) (tgt := 134) hx hb dX0_relaxes_129 (by decide) (fun c91 => ?_) (fun c91 => ?_)
      · have hm := ite_f c91 hm
        refine lv_aload_n (pc := 134) hx hb dX0_relaxes_134 rfl (lv_at hl 1 rfl) ?_
        refine lv_dup (pc := 135) hx hb dX0_relaxes_135 rfl ?_
        refine rk_get (pc := 136) hx hb hts hown hK hW87 flX0_418 0 (by decide) rfl rfl (x := .int (gI v0_88 0 21)) rfl dX0_relaxes_136 ?_
        refine lv_aload_n (pc := 139) hx hb dX0_relaxes_139 rfl (lv_at hl 1 rfl) ?_
        refine rk_get (pc := 140) hx hb hts hown hK hW87 flX0_31 0 (by decide) rfl rfl (x := .ref (b0 + 110)) (by first | rfl | exact congrArg (fun z => some (Value.ref z)) (by omega)) dX0_relaxes_140 ?_
        refine rk_getN (pc := 143) hx hb hts hown hK hW87 fnX0_421 110 (by decide) rfl rfl (x := .int (gI v0_88 110 2)) rfl dX0_relaxes_143 ?_
        refine lv_iadd (pc := 146) hx hb dX0_relaxes_146 ?_
        refine rk_put (pc := 147) hx hb hts hown hK hW87 hS79 flX0_418 ft_X0 0 (by decide) rfl (Or.inl (Or.inl (show fX _ _ from ⟨⟨by omega, by omega⟩, by omega⟩))) rfl rfl (x := .int ((gI v0_88 0 21) + (gI v0_88 110 2))) rfl rfl (Nat.le_of_ble_eq_true rfl) (sI v0_88 0 21 ((gI v0_88 0 21) + (gI v0_88 110 2))) sI_ne (by rw [sI_eq]; exact rfl) dX0_relaxes_147 (fun H93 locs94 hW95 hS96 hz97 hkp98 => ?_)
        obtain ⟨v0_92, he9, hm⟩ := lm_some hm
        rw [he9] at hW95
        have hW99 := pl_keepq hW86 hkp98 (fun h9 => hPX _ h9 (show fX _ _ from ⟨⟨by omega, by omega⟩, by omega⟩))
        have hW100 := rg_keepq hW83 hkp98 (by omega)
        have hz101 := hz97.trans hz90
        have hG102 := GO_keepq hG89 hkp98 (by omega)
        refine lv_goto (pc := 150) (tgt := 172) hx hb dX0_relaxes_150 (by decide) ?_
        obtain ⟨e5, e6, e7, e8, e9⟩ := rs5 hm
        cases e5
        subst e6
        subst e7
        subst e8
        subst e9
        exact rk_vretX (pc := 172) hx hb hr hlk hS96 ⟨rfl, hW95, hW99, hz101, hKM⟩ dX0_relaxes_172 (by exact Nat.le_of_ble_eq_true rfl) (by exact Nat.le_of_ble_eq_true rfl)
      · have hm := ite_t c91 hm
        refine lv_aload_n (pc := 132) hx hb dX0_relaxes_132 rfl (lv_at hl 0 rfl) ?_
        refine vx_athrow (pc := 133) hx hb dX0_relaxes_133 ?_
        obtain ⟨ce8, hce8, hcv8, hcl8⟩ := rk_exc hK hW83 rfl rfl
        refine rk_catchA hown ht [⟨79, 103, 122, 424⟩, ⟨79, 103, 153, 0⟩] ⟨122, 134, 153, 0⟩ [] rfl (by decide) (by decide) rfl hce8 hcv8 hcl8 153 rfl ?_
        refine lv_astore_n (pc := 153) (lv' := [(3, .ref q80), (2, .ref q80), (0, .ref b0), (1, .ref (b0 + (197 + 4 * n1 + 0)))]) hx hb dX0_relaxes_153 rfl hl (by decide) rfl (fun ls hl => ?_)
        refine lv_aload_n (pc := 154) hx hb dX0_relaxes_154 rfl (lv_at hl 2 rfl) ?_
        refine lv_dup (pc := 155) hx hb dX0_relaxes_155 rfl ?_
        refine rk_get (pc := 156) hx hb hts hown hK hW87 flX0_418 0 (by decide) rfl rfl (x := .int (gI v0_88 0 21)) rfl dX0_relaxes_156 ?_
        refine lv_aload_n (pc := 159) hx hb dX0_relaxes_159 rfl (lv_at hl 2 rfl) ?_
        refine rk_get (pc := 160) hx hb hts hown hK hW87 flX0_31 0 (by decide) rfl rfl (x := .ref (b0 + 110)) (by first | rfl | exact congrArg (fun z => some (Value.ref z)) (by omega)) dX0_relaxes_160 ?_
        refine rk_getN (pc := 163) hx hb hts hown hK hW87 fnX0_421 110 (by decide) rfl rfl (x := .int (gI v0_88 110 2)) rfl dX0_relaxes_163 ?_
        refine lv_iadd (pc := 166) hx hb dX0_relaxes_166 ?_
        refine rk_put (pc := 167) hx hb hts hown hK hW87 hS79 flX0_418 ft_X0 0 (by decide) rfl (Or.inl (Or.inl (show fX _ _ from ⟨⟨by omega, by omega⟩, by omega⟩))) rfl rfl (x := .int ((gI v0_88 0 21) + (gI v0_88 110 2))) rfl rfl (Nat.le_of_ble_eq_true rfl) (sI v0_88 0 21 ((gI v0_88 0 21) + (gI v0_88 110 2))) sI_ne (by rw [sI_eq]; exact rfl) dX0_relaxes_167 (fun H104 locs105 hW106 hS107 hz108 hkp109 => ?_)
        obtain ⟨v0_103, he9, hm⟩ := lm_some hm
        rw [he9] at hW106
        have hW110 := pl_keepq hW86 hkp109 (fun h9 => hPX _ h9 (show fX _ _ from ⟨⟨by omega, by omega⟩, by omega⟩))
        have hW111 := rg_keepq hW83 hkp109 (by omega)
        have hz112 := hz108.trans hz90
        have hG113 := GO_keepq hG89 hkp109 (by omega)
        refine lv_aload_n (pc := 170) hx hb dX0_relaxes_170 rfl (lv_at hl 0 rfl) ?_
        refine vx_athrow (pc := 171) hx hb dX0_relaxes_171 ?_
        obtain ⟨ce8, hce8, hcv8, hcl8⟩ := rk_exc hK hW111 rfl rfl
        obtain ⟨e5, e6, e7, e8, e9⟩ := rs5 hm
        cases e5
        subst e6
        subst e7
        subst e8
        subst e9
        exact rk_xout (by rw [ht]; decide) hlk hS107 hce8 hcv8 hcl8 ⟨rfl, hqq80, ⟨_, hW111, hre84⟩, hW106, hW110, hz112, hKM⟩ (by exact Nat.le_of_ble_eq_true rfl) (by exact Nat.le_of_ble_eq_true rfl)
  · have hm := ite_f c15 hm
    refine lv_aload_n (pc := 24) hx hb dX0_relaxes_24 rfl (lv_at hl 1 rfl) ?_
    refine rk_getN (pc := 25) hx hb hts hown hK hW0 fnX0_402 (197 + 4 * n1 + 0) (by omega) rfl ((shX0_f197 G.2.1 hn1 _ rfl 0 (by decide) _ _ _).trans rfl) (x := .ref (b0 + (197 + 4 * n1 + 1))) (by first | rfl | exact congrArg (fun z => some (Value.ref z)) (by omega)) dX0_relaxes_25 ?_
    refine lv_iload_n (pc := 28) hx hb dX0_relaxes_28 rfl (lv_at hl 2 rfl) ?_
    obtain ⟨hg114, hm⟩ := gb_some hm
    refine rk_iald (pc := 29) hx hb hK hW0 (197 + 4 * n1 + 1) (by omega) rfl ((shX0_f197 G.2.1 hn1 _ rfl 1 (by decide) _ _ _).trans rfl) hg114 (x := (gI v0 (197 + 4 * n1 + 1) i2.toNatClampNeg)) rfl dX0_relaxes_29 ?_
    refine lv_if_le (pc := 30) (tgt := 48) hx hb dX0_relaxes_30 (by decide) (fun c115 => ?_) (fun c115 => ?_)
    · have hm := ite_t c115 hm
      exact (w_fX0_relaxes_48 C hPX hn1 he0 hZz hZ hgb0 hPg hZP ht hk13) v0 v1 zc i2 hm H locs ls hW0 hW1 hS hz hKM hG (lv_sub hl [0, 1, 2] rfl)
    · have hm := ite_f c115 hm
      refine lv_aload_n (pc := 33) hx hb dX0_relaxes_33 rfl (lv_at hl 0 rfl) ?_
      refine rk_get (pc := 34) hx hb hts hown hK hW0 flX0_31 0 (by decide) rfl rfl (x := .ref (b0 + 110)) (by first | rfl | exact congrArg (fun z => some (Value.ref z)) (by omega)) dX0_relaxes_34 ?_
      refine lv_iload_n (pc := 37) hx hb dX0_relaxes_37 rfl (lv_at hl 2 rfl) ?_
      refine lv_aload_n (pc := 38) hx hb dX0_relaxes_38 rfl (lv_at hl 1 rfl) ?_
      refine rk_getN (pc := 39) hx hb hts hown hK hW0 fnX0_402 (197 + 4 * n1 + 0) (by omega) rfl ((shX0_f197 G.2.1 hn1 _ rfl 0 (by decide) _ _ _).trans rfl) (x := .ref (b0 + (197 + 4 * n1 + 1))) (by first | rfl | exact congrArg (fun z => some (Value.ref z)) (by omega)) dX0_relaxes_39 ?_
      refine lv_iload_n (pc := 42) hx hb dX0_relaxes_42 rfl (lv_at hl 2 rfl) ?_
      obtain ⟨hg116, hm⟩ := gb_some hm
      refine rk_iald (pc := 43) hx hb hK hW0 (197 + 4 * n1 + 1) (by omega) rfl ((shX0_f197 G.2.1 hn1 _ rfl 1 (by decide) _ _ _).trans rfl) hg116 (x := (gI v0 (197 + 4 * n1 + 1) i2.toNatClampNeg)) rfl dX0_relaxes_43 ?_
      refine lv_iconst (pc := 44) (v := (1 : Int32)) hx hb dX0_relaxes_44 (by decide) ?_
      obtain ⟨w117, hq118, hm⟩ := ob_some hm
      refine rk_TV (pc := 45) (As := [.int i2, .int (gI v0 (197 + 4 * n1 + 1) i2.toNatClampNeg), .int (1 : Int32)]) (rest := []) (mc := 0) (ms := 0) hx hb hml hown hts hK hS (fun q hq => FA_sz rfl q hq) lkX0_405 rfl yn_X3_holds (ct_X3_holds (G := G) (l := l) (b0 := (b0 + 110)) (sz := H.size) hq118) ⟨Nat.le_of_ble_eq_true rfl, Nat.le_of_ble_eq_true rfl⟩ (fun z h => Or.inl (Or.inl (show fX _ _ from ⟨⟨by have h8 := h.1; have h9 := h.2; omega, by have h8 := h.1; have h9 := h.2; omega⟩, by have h8 := h.1; have h9 := h.2; omega⟩))) (rk_recv hK hW0 110 (by decide) rfl rfl rfl) (rg_sub hW0 rfl (by decide) (fun o ho x y z => shX0_n110 G.2.1 _ rfl o ho x y z)) rfl rfl hl.1 (Nat.le_of_ble_eq_true rfl) dX0_relaxes_45 ⟨Nat.zero_le _, Nat.zero_le _⟩ (fun ov9 H119 locs120 hP121 hkp122 hS123 => ?_)
      obtain ⟨rfl, hW124, hz125⟩ := hP121
      have hW126 := pl_keepA hW1 hkp122 (by intro z h1 h3; have h8 := h3.1; have h9 := h3.2; exact hPX _ h1 (show fX _ _ from ⟨⟨by omega, by omega⟩, by omega⟩))
      have hW127 := rg_put (d := 110) hW0 hW124 rfl (fun o ho x y z => shX0_n110 G.2.1 _ rfl o ho x y z) hkp122
      obtain ⟨v0_128, he9, hm⟩ := lm_some hm
      rw [he9] at hW127
      have hG129 := GO_keepA hG hkp122 (Nat.le_trans (show gB G ≤ s.heap.size by omega) hS.1) (by intro z h3; have h8 := h3.1; have h9 := h3.2; omega)
      have hz130 := hz125.trans hz
      refine W.eq (g2 := F0 m 48 ls []) rfl ?_
      exact (w_fX0_relaxes_48 C hPX hn1 he0 hZz hZ hgb0 hPg hZP ht hk13) v0_128 v1 zc i2 hm H119 locs120 ls hW127 hW126 hS123 hz130 hKM hG129 (lv_sub hl [0, 1, 2] rfl)
theorem w_fX0_relaxes_13_l (C : Cx G p s m args meth c RX0 cX0_relaxes 4 none) {b0 : Nat} {PL : Nat → Bool} {Z : Nat} {n1 : Nat} {vP0 : Mem} {rok : Bool} {re : Int32} {rc : Nat} {rw0 : Mem} {rw1 : Mem} (hPX : ∀ z, PL z = true → ¬ fX b0 z) (hn1 : n1 < 40) (he0 : b0 + 357 ≤ s.heap.size) (hZz : s.heap.size = Z) (hZ : ZQ G) (hgb0 : gB G ≤ b0) (hPg : ∀ z, PL z = true → gB G ≤ z) (hZP : ZP G) (ht : c.exceptionTable.toList = tableOf [(79, 103, 122, 424), (79, 103, 153, 0), (122, 134, 153, 0)]) : ∀ (n : Nat) (v0 : Mem) (v1 : Mem) (zc : Nat) (i2 : Int32), lq4 (fX0_relaxes_13 PL Z b0 n1) n v0 v1 zc i2 = some (rok, re, rc, rw0, rw1) → ∀ (H : Heap) (locs : List Loc) (ls : Array Slot), rg G b0 357 (shX0 G.2.1) v0 H → pl G PL v1 H → va_S (FA (fun z => (fX b0) z ∨ (fP PL vP0) z) s.heap.size) s.heap H locs → H.size = s.heap.size + zc → KM vP0 v1 s.heap.size → GO G H → lv_has ls 4 [(0, .ref b0), (1, .ref (b0 + (197 + 4 * n1 + 0))), (2, .int i2)] → W p l e (rmT 7 1 90 207) s m args below meth c H locs 0 0 (vx_MQ below (QcX rok (FA (fun z => (fX b0) z ∨ (fP PL vP0) z) s.heap.size) (fun ov H => ov = none ∧ rg G b0 357 (shX0 G.2.1) rw0 H ∧ pl G PL rw1 H ∧ H.size = s.heap.size + rc ∧ KM vP0 rw1 s.heap.size)) (XcX rok (FA (fun z => (fX b0) z ∨ (fP PL vP0) z) s.heap.size) (fun q E H => E = "WholePacks$Stuck" ∧ s.heap.size ≤ q ∧ (∃ wx, rg G q 1 (shX13 G.2.1) wx H ∧ gI wx 0 6 = re) ∧ rg G b0 357 (shX0 G.2.1) rw0 H ∧ pl G PL rw1 H ∧ H.size = s.heap.size + rc ∧ KM vP0 rw1 s.heap.size)) args s 1 90 (FA (fun z => (fX b0) z ∨ (fP PL vP0) z) s.heap.size)) (F0 m 13 ls []) := by
  intro n
  induction n with
  | zero => intro v0 v1 zc i2 hm; exact (lq4_0 hm).elim
  | succ n ih => intro v0 v1 zc i2 hm; exact w_fX0_relaxes_13 C hPX hn1 he0 hZz hZ hgb0 hPg hZP ht ih v0 v1 zc i2 (lq4_s hm)
set_option maxHeartbeats 4000000 in
theorem w_fX0_relaxes (C : Cx G p s m args meth c RX0 cX0_relaxes 4 none) {b0 : Nat} {PL : Nat → Bool} {Z : Nat} {n1 : Nat} {vP0 : Mem} {rok : Bool} {re : Int32} {rc : Nat} {rw0 : Mem} {rw1 : Mem} (hPX : ∀ z, PL z = true → ¬ fX b0 z) (hn1 : n1 < 40) (he0 : b0 + 357 ≤ s.heap.size) (hZz : s.heap.size = Z) (hZ : ZQ G) (hgb0 : gB G ≤ b0) (hPg : ∀ z, PL z = true → gB G ≤ z) (hZP : ZP G) (ht : c.exceptionTable.toList = tableOf [(79, 103, 122, 424), (79, 103, 153, 0), (122, 134, 153, 0)]) : ∀ (v0 : Mem) (v1 : Mem), fX0_relaxes PL Z b0 n1 v0 v1 = some (rok, re, rc, rw0, rw1) → ∀ (H : Heap) (locs : List Loc) (ls : Array Slot), rg G b0 357 (shX0 G.2.1) v0 H → pl G PL v1 H → va_S (FA (fun z => (fX b0) z ∨ (fP PL vP0) z) s.heap.size) s.heap H locs → H.size = s.heap.size + 0 → KM vP0 v1 s.heap.size → GO G H → lv_has ls 4 [(0, .ref b0), (1, .ref (b0 + (197 + 4 * n1 + 0)))] → W p l e (rmT 7 1 90 207) s m args below meth c H locs 0 0 (vx_MQ below (QcX rok (FA (fun z => (fX b0) z ∨ (fP PL vP0) z) s.heap.size) (fun ov H => ov = none ∧ rg G b0 357 (shX0 G.2.1) rw0 H ∧ pl G PL rw1 H ∧ H.size = s.heap.size + rc ∧ KM vP0 rw1 s.heap.size)) (XcX rok (FA (fun z => (fX b0) z ∨ (fP PL vP0) z) s.heap.size) (fun q E H => E = "WholePacks$Stuck" ∧ s.heap.size ≤ q ∧ (∃ wx, rg G q 1 (shX13 G.2.1) wx H ∧ gI wx 0 6 = re) ∧ rg G b0 357 (shX0 G.2.1) rw0 H ∧ pl G PL rw1 H ∧ H.size = s.heap.size + rc ∧ KM vP0 rw1 s.heap.size)) args s 1 90 (FA (fun z => (fX b0) z ∨ (fP PL vP0) z) s.heap.size)) (F0 m 0 ls []) := by
  intro v0 v1 hm H locs ls hW0 hW1 hS hz hKM hG hl
  obtain ⟨hx, hb, hr, hlk, hml, hown, hts, hK⟩ := id C
  unfold fX0_relaxes at hm
  refine lv_aload_n (pc := 0) hx hb dX0_relaxes_0 rfl (lv_at hl 0 rfl) ?_
  refine rk_get (pc := 1) hx hb hts hown hK hW0 flX0_31 0 (by decide) rfl rfl (x := .ref (b0 + 110)) (by first | rfl | exact congrArg (fun z => some (Value.ref z)) (by omega)) dX0_relaxes_1 ?_
  refine lv_aload_n (pc := 4) hx hb dX0_relaxes_4 rfl (lv_at hl 0 rfl) ?_
  refine rk_get (pc := 5) hx hb hts hown hK hW0 flX0_12 0 (by decide) rfl rfl (x := .ref (b0 + 1)) (by first | rfl | exact congrArg (fun z => some (Value.ref z)) (by omega)) dX0_relaxes_5 ?_
  obtain ⟨w1, hq2, hm⟩ := ob_some hm
  refine rk_TV (pc := 8) (As := [.ref (b0 + 1)]) (rest := []) (mc := 0) (ms := 0) hx hb hml hown hts hK hS (fun q hq => FA_sz rfl q hq) lkX0_399 rfl yn_X3_begins (ct_X3_begins (G := G) (l := l) (b0 := (b0 + 110)) (b1 := (b0 + 1)) (sz := H.size) hq2 (by omega)) ⟨Nat.le_of_ble_eq_true rfl, Nat.le_of_ble_eq_true rfl⟩ (fun z h => Or.inl (Or.inl (show fX _ _ from ⟨⟨by have h8 := h.1; have h9 := h.2; omega, by have h8 := h.1; have h9 := h.2; omega⟩, by have h8 := h.1; have h9 := h.2; omega⟩))) (rk_recv hK hW0 110 (by decide) rfl rfl rfl) ⟨(rg_sub hW0 rfl (by decide) (fun o ho x y z => shX0_n110 G.2.1 _ rfl o ho x y z)), (rg_sub hW0 rfl (by decide) (fun o ho x y z => shX0_n1 G.2.1 _ rfl o ho x y z))⟩ rfl rfl hl.1 (Nat.le_of_ble_eq_true rfl) dX0_relaxes_8 ⟨Nat.zero_le _, Nat.zero_le _⟩ (fun ov9 H3 locs4 hP5 hkp6 hS7 => ?_)
  obtain ⟨rfl, hW8, hz9⟩ := hP5
  have hW10 := pl_keepA hW1 hkp6 (by intro z h1 h3; have h8 := h3.1; have h9 := h3.2; exact hPX _ h1 (show fX _ _ from ⟨⟨by omega, by omega⟩, by omega⟩))
  have hW11 := rg_put (d := 110) hW0 hW8 rfl (fun o ho x y z => shX0_n110 G.2.1 _ rfl o ho x y z) hkp6
  obtain ⟨v0_12, he9, hm⟩ := lm_some hm
  rw [he9] at hW11
  have hG13 := GO_keepA hG hkp6 (Nat.le_trans (show gB G ≤ s.heap.size by omega) hS.1) (by intro z h3; have h8 := h3.1; have h9 := h3.2; omega)
  have hz14 := hz9.trans hz
  refine W.eq (g2 := F0 m 11 ls []) rfl ?_
  refine lv_iconst (pc := 11) (v := (0 : Int32)) hx hb dX0_relaxes_11 (by decide) ?_
  refine lv_istore_n (pc := 12) (lv' := [(2, .int (0 : Int32)), (0, .ref b0), (1, .ref (b0 + (197 + 4 * n1 + 0)))]) hx hb dX0_relaxes_12 rfl hl (by decide) rfl (fun ls hl => ?_)
  exact (w_fX0_relaxes_13_l C hPX hn1 he0 hZz hZ hgb0 hPg hZP ht FU) v0_12 v1 0 (0 : Int32) hm H3 locs4 ls hW11 hW10 hS7 hz14 hKM hG13 (lv_sub hl [1, 2, 0] rfl)
set_option maxHeartbeats 4000000 in
theorem ct_X0_relaxes {G : Gv} {l : Launch} {b0 : Nat} {PL : Nat → Bool} {Z : Nat} {n1 : Nat} {v0 : Mem} {v1 : Mem} {rok : Bool} {re : Int32} {rc : Nat} {rw0 : Mem} {rw1 : Mem} (hm : fX0_relaxes PL Z b0 n1 v0 v1 = some (rok, re, rc, rw0, rw1)) (hPX : ∀ z, PL z = true → ¬ fX b0 z) (hn1 : n1 < 40) (hZ : ZQ G) (hgb0 : gB G ≤ b0) (hPg : ∀ z, PL z = true → gB G ≤ z) (hZP : ZP G) : CX G l yX0_relaxes (wsW_ yX0_relaxes cX0_relaxes 4 none [(79, 103, 122, 424), (79, 103, 153, 0), (122, 134, 153, 0)]) 7 1 90 207 [.ref b0, .ref (b0 + (197 + 4 * n1 + 0))] (fun z => (fX b0) z ∨ (fP PL v1) z) Z (fun H => rg G b0 357 (shX0 G.2.1) v0 H ∧ pl G PL v1 H ∧ GO G H) rok (fun ov H => ov = none ∧ rg G b0 357 (shX0 G.2.1) rw0 H ∧ pl G PL rw1 H ∧ H.size = Z + rc ∧ KM v1 rw1 Z) (fun q E H => E = "WholePacks$Stuck" ∧ Z ≤ q ∧ (∃ wx, rg G q 1 (shX13 G.2.1) wx H ∧ gI wx 0 6 = re) ∧ rg G b0 357 (shX0 G.2.1) rw0 H ∧ pl G PL rw1 H ∧ H.size = Z + rc ∧ KM v1 rw1 Z) := by
  refine vx_ofWH (cc := cX0_relaxes) (maxL := 4) (ret := none) (by decide +kernel) rfl ?_
  intro p e s m args below meth c s₁ B hml hv
  obtain ⟨rfl, ⟨hz, hW0, hW1, hG⟩, hK⟩ := hv
  subst hz
  have he0 := rg_end hW0 356 (by decide) rfl (fun _ _ _ => rfl)
  have hZz : s.heap.size = s.heap.size := rfl
  have ht := vx_table (x := yX0_relaxes) B (atoms_spec (ws := wsW_ yX0_relaxes cX0_relaxes 4 none [(79, 103, 122, 424), (79, 103, 153, 0), (122, 134, 153, 0)]) B.pre _ List.mem_cons_self)
  have hts := atoms_spec (ws := wsW_ yX0_relaxes cX0_relaxes 4 none [(79, 103, 122, 424), (79, 103, 153, 0), (122, 134, 153, 0)]) B.pre
  have hts : ∀ w ∈ lw_all, w.before _ s = true := fun w h => hts w (List.mem_cons_of_mem _ h)
  have C : Cx G p s m _ meth c RX0 cX0_relaxes 4 none := ⟨B.exec, B.bytes, B.returns, B.notSynchronized, hml, findClass_of_methodNamed B.named, hts, hK⟩
  have hl := lv_entry ([.ref b0, .ref (b0 + (197 + 4 * n1 + 0))]) (n := 4) (Nat.le_of_ble_eq_true rfl)
  rw [lg_entry_eq]
  generalize (lg_sl ([.ref b0, .ref (b0 + (197 + 4 * n1 + 0))]) ++ List.replicate (4 - (lg_sl ([.ref b0, .ref (b0 + (197 + 4 * n1 + 0))])).length) Slot.unset).toArray = ls at hl ⊢
  have hl : lv_has ls 4 [(0, .ref b0), (1, .ref (b0 + (197 + 4 * n1 + 0)))] := hl
  exact w_fX0_relaxes C hPX hn1 he0 hZz hZ hgb0 hPg hZP ht _ _ hm s.heap [] ls hW0 hW1 va_S.rf rfl KM.rf hG hl
theorem fnX0_433 : FN RX0 433 8 4 RX8 TX8 8 "WholePacks" := ⟨in_X8, rfl, by decide, q471⟩
theorem yn_X0_nextNode : YN yX0_nextNode 0 := by
  unfold YN
  decide +kernel
theorem lkX0_436 : LV RX0 436 RX0 yX0_nextNode cX0_nextNode 1 (some (.object "WholePacks$Node")) := ⟨q1216, q1218, qs42, q114, q1219⟩
theorem yn_X8_begins_2 : YN yX8_begins_2 1 := by
  unfold YN
  decide +kernel
theorem lkX0_440 : LV RX0 440 RX8 yX8_begins_2 cX8_begins_2 2 none := ⟨q1272, q1273, q1274, q127, q1275⟩
theorem fnX0_443 : FN RX0 443 8 7 RX8 TX8 8 "WholePacks" := ⟨in_X8, rfl, by decide, q477⟩
theorem yn_X0_relaxes : YN yX0_relaxes 1 := by
  unfold YN
  decide +kernel
theorem lkX0_446 : LVW RX0 446 RX0 yX0_relaxes cX0_relaxes 4 none [(79, 103, 122, 424), (79, 103, 153, 0), (122, 134, 153, 0)] := ⟨q1225, q1227, qs43, q114, q1228⟩
noncomputable def fX0_parts (PL : Nat → Bool) (Z : Nat) (b0 : Nat) (n1 : Nat) (v0 : Mem) (v1 : Mem) : Option (Bool × Int32 × Nat × Mem × Mem) :=
  ob5 (fX0_nextNode v0) fun ok4 re5 nf1 rc2 w3 =>
  if ok4 = true then (
  gb (decide (¬ nf1 = n1)) (
  ob (fX8_begins_2 (shf w3 (197 + 4 * n1)) (shf w3 (197 + 4 * nf1))) fun w18 =>
  lm (ptm w3 (197 + 4 * nf1) 4 w18) fun v0_30 =>
  gb (inR (gI v0 (197 + 4 * n1 + 0) 4) 5) (
  gb (inR (gI v0 (197 + 4 * n1 + 0) 4) 5) (
  lm (sI v0_30 (197 + 4 * nf1 + 2) (gI v0 (197 + 4 * n1 + 0) 4).toNatClampNeg (gI v0_30 (197 + 4 * n1 + 3) (gI v0 (197 + 4 * n1 + 0) 4).toNatClampNeg)) fun v0_35 =>
  ob5 (fX0_relaxes PL (Z + rc2) b0 nf1 v0_35 v1) fun ok48 re49 rc45 w46 w47 =>
  if ok48 = true then (
  ob5 (fX0_nextNode w46) fun ok67 re68 nf64 rc65 w66 =>
  if ok67 = true then (
  gb (decide (¬ nf64 = n1)) (
  ob (fX8_begins_2 (shf w66 (197 + 4 * n1)) (shf w66 (197 + 4 * nf64))) fun w81 =>
  lm (ptm w66 (197 + 4 * nf64) 4 w81) fun v0_93 =>
  gb (inR (gI v0 (197 + 4 * n1 + 0) 4) 5) (
  gb (inR (gI v0 (197 + 4 * n1 + 0) 4) 5) (
  lm (sI v0_93 (197 + 4 * nf64 + 1) (gI v0 (197 + 4 * n1 + 0) 4).toNatClampNeg ((gI v0_93 (197 + 4 * n1 + 3) (gI v0 (197 + 4 * n1 + 0) 4).toNatClampNeg) + (1 : Int32))) fun v0_98 =>
  ob5 (fX0_relaxes PL (Z + (rc2 + rc45 + rc65)) b0 nf64 v0_98 w47) fun ok111 re112 rc108 w109 w110 =>
  if ok111 = true then (
  some (true, (0 : Int32), (rc2 + rc45 + rc65 + rc108), w109, w110))
  else (
  some (false, re112, (rc2 + rc45 + rc65 + rc108), w109, w110))))))
  else (
  some (false, re68, (rc2 + rc45 + rc65), w66, w47)))
  else (
  some (false, re49, (rc2 + rc45), w46, w47))))))
  else (
  some (false, re5, rc2, w3, v1))
set_option maxHeartbeats 4000000 in
theorem w_fX0_parts (C : Cx G p s m args meth c RX0 cX0_parts 5 none) {b0 : Nat} {PL : Nat → Bool} {Z : Nat} {n1 : Nat} {vP0 : Mem} {rok : Bool} {re : Int32} {rc : Nat} {rw0 : Mem} {rw1 : Mem} (hPX : ∀ z, PL z = true → ¬ fX b0 z) (hn1 : n1 < 40) (he0 : b0 + 357 ≤ s.heap.size) (hZz : s.heap.size = Z) (hZ : ZQ G) (hgb0 : gB G ≤ b0) (hPg : ∀ z, PL z = true → gB G ≤ z) (hZP : ZP G) (ht : ∀ x ∈ c.exceptionTable.toList, False) : ∀ (v0 : Mem) (v1 : Mem), fX0_parts PL Z b0 n1 v0 v1 = some (rok, re, rc, rw0, rw1) → ∀ (H : Heap) (locs : List Loc) (ls : Array Slot), rg G b0 357 (shX0 G.2.1) v0 H → pl G PL v1 H → va_S (FA (fun z => (fX b0) z ∨ (fP PL vP0) z) s.heap.size) s.heap H locs → H.size = s.heap.size + 0 → KM vP0 v1 s.heap.size → GO G H → lv_has ls 5 [(0, .ref b0), (1, .ref (b0 + (197 + 4 * n1 + 0)))] → W p l e (rmT 8 2 180 230) s m args below meth c H locs 0 0 (vx_MQ below (QcX rok (FA (fun z => (fX b0) z ∨ (fP PL vP0) z) s.heap.size) (fun ov H => ov = none ∧ rg G b0 357 (shX0 G.2.1) rw0 H ∧ pl G PL rw1 H ∧ H.size = s.heap.size + rc ∧ KM vP0 rw1 s.heap.size)) (XcX rok (FA (fun z => (fX b0) z ∨ (fP PL vP0) z) s.heap.size) (fun q E H => E = "WholePacks$Stuck" ∧ s.heap.size ≤ q ∧ (∃ wx, rg G q 1 (shX13 G.2.1) wx H ∧ gI wx 0 6 = re) ∧ rg G b0 357 (shX0 G.2.1) rw0 H ∧ pl G PL rw1 H ∧ H.size = s.heap.size + rc ∧ KM vP0 rw1 s.heap.size)) args s 2 180 (FA (fun z => (fX b0) z ∨ (fP PL vP0) z) s.heap.size)) (F0 m 0 ls []) := by
  intro v0 v1 hm H locs ls hW0 hW1 hS hz hKM hG hl
  obtain ⟨hx, hb, hr, hlk, hml, hown, hts, hK⟩ := id C
  unfold fX0_parts at hm
  refine lv_aload_n (pc := 0) hx hb dX0_parts_0 rfl (lv_at hl 1 rfl) ?_
  refine rk_getN (pc := 1) hx hb hts hown hK hW0 fnX0_433 (197 + 4 * n1 + 0) (by omega) rfl ((shX0_f197 G.2.1 hn1 _ rfl 0 (by decide) _ _ _).trans rfl) (x := .int (gI v0 (197 + 4 * n1 + 0) 4)) rfl dX0_parts_1 ?_
  refine lv_istore_n (pc := 4) (lv' := [(2, .int (gI v0 (197 + 4 * n1 + 0) 4)), (0, .ref b0), (1, .ref (b0 + (197 + 4 * n1 + 0)))]) hx hb dX0_parts_4 rfl hl (by decide) rfl (fun ls hl => ?_)
  refine lv_aload_n (pc := 5) hx hb dX0_parts_5 rfl (lv_at hl 1 rfl) ?_
  obtain ⟨ok4, re5, nf1, rc2, w3, hq6, hm⟩ := ob5_some hm
  by_cases hok : ok4 = true
  · subst hok
    have hm := ite_t rfl hm
    refine rk_TV (pc := 6) (As := []) (rest := []) (mc := 0) (ms := 0) hx hb hml hown hts hK hS (fun q hq => FA_sz rfl q hq) lkX0_436 rfl yn_X0_nextNode (CX.ret (ct_X0_nextNode (G := G) (l := l) (rok := true) (b0 := b0) (sz := H.size) hq6 hZ (by omega))) ⟨Nat.le_of_ble_eq_true rfl, Nat.le_of_ble_eq_true rfl⟩ (fun z h => Or.inl (Or.inl h)) (rk_recv hK hW0 0 (by decide) rfl rfl rfl) ⟨hW0, hG⟩ rfl rfl hl.1 (Nat.le_of_ble_eq_true rfl) dX0_parts_6 ⟨Nat.zero_le _, Nat.zero_le _⟩ (fun ov9 H7 locs8 hP9 hkp10 hS11 => ?_)
    obtain ⟨rfl, hW12, hz13, hlt14⟩ := hP9
    have hW15 := pl_keepA hW1 hkp10 (by intro z h1 h3; exact hPX _ h1 h3)
    have hG16 := GO_keepA hG hkp10 (Nat.le_trans (show gB G ≤ s.heap.size by omega) hS.1) (by intro z h3; have h8 := h3.1.1; have h9 := h3.1.2; omega)
    have hz17 : H7.size = s.heap.size + rc2 := by omega
    refine W.eq (g2 := F0 m 9 ls [.ref (b0 + (197 + 4 * nf1 + 0))]) (by first | rfl | exact congrArg (fun z => F0 m 9 ls (Value.ref z :: [])) (show _ = (b0 + (197 + 4 * nf1 + 0)) by omega)) ?_
    refine lv_astore_n (pc := 9) (lv' := [(3, .ref (b0 + (197 + 4 * nf1 + 0))), (2, .int (gI v0 (197 + 4 * n1 + 0) 4)), (0, .ref b0), (1, .ref (b0 + (197 + 4 * n1 + 0)))]) hx hb dX0_parts_9 rfl hl (by decide) rfl (fun ls hl => ?_)
    refine lv_aload_n (pc := 10) hx hb dX0_parts_10 rfl (lv_at hl 0 rfl) ?_
    refine lv_aload_n (pc := 11) hx hb dX0_parts_11 rfl (lv_at hl 3 rfl) ?_
    obtain ⟨hg20, hm⟩ := gb_some hm
    have hg20 := of_decide_eq_true hg20
    obtain ⟨w18, hq19, hm⟩ := ob_some hm
    refine rk_TV (pc := 12) (As := [.ref (b0 + (197 + 4 * n1 + 0))]) (rest := []) (mc := 0) (ms := 0) hx hb hml hown hts hK hS11 (fun q hq => FA_sz rfl q hq) lkX0_440 rfl yn_X8_begins_2 (ct_X8_begins_2 (G := G) (l := l) (b0 := (b0 + (197 + 4 * nf1 + 0))) (b1 := (b0 + (197 + 4 * n1 + 0))) (sz := H7.size) hq19 (by omega)) ⟨Nat.le_of_ble_eq_true rfl, Nat.le_of_ble_eq_true rfl⟩ (fun z h => Or.inl (Or.inl (show fX _ _ from ⟨⟨by have h8 := h.1; have h9 := h.2; omega, by have h8 := h.1; have h9 := h.2; omega⟩, by have h8 := h.1; have h9 := h.2; omega⟩))) (rk_recv hK hW12 (197 + 4 * nf1 + 0) (by omega) rfl rfl ((shX0_f197 G.2.1 hlt14 _ rfl 0 (by decide) _ _ _).trans rfl)) ⟨(rg_sub (d := (197 + 4 * nf1)) hW12 rfl (by omega) (fun o ho x y z => shX0_f197 G.2.1 hlt14 _ rfl o ho x y z)), (rg_sub (d := (197 + 4 * n1)) hW12 rfl (by omega) (fun o ho x y z => shX0_f197 G.2.1 hn1 _ rfl o ho x y z))⟩ rfl rfl hl.1 (Nat.le_of_ble_eq_true rfl) dX0_parts_12 ⟨Nat.zero_le _, Nat.zero_le _⟩ (fun ov9 H21 locs22 hP23 hkp24 hS25 => ?_)
    obtain ⟨rfl, hW26, hz27⟩ := hP23
    have hW28 := pl_keepA hW15 hkp24 (by intro z h1 h3; have h8 := h3.1; have h9 := h3.2; exact hPX _ h1 (show fX _ _ from ⟨⟨by omega, by omega⟩, by omega⟩))
    have hW29 := rg_put (d := (197 + 4 * nf1)) hW12 hW26 rfl (fun o ho x y z => shX0_f197 G.2.1 hlt14 _ rfl o ho x y z) hkp24
    obtain ⟨v0_30, he9, hm⟩ := lm_some hm
    rw [he9] at hW29
    have hG31 := GO_keepA hG16 hkp24 (Nat.le_trans (show gB G ≤ s.heap.size by omega) hS11.1) (by intro z h3; have h8 := h3.1; have h9 := h3.2; omega)
    have hz32 := hz27.trans hz17
    refine W.eq (g2 := F0 m 15 ls []) rfl ?_
    refine lv_aload_n (pc := 15) hx hb dX0_parts_15 rfl (lv_at hl 0 rfl) ?_
    refine rk_getN (pc := 16) hx hb hts hown hK hW29 fnX0_409 (197 + 4 * nf1 + 0) (by omega) rfl ((shX0_f197 G.2.1 hlt14 _ rfl 0 (by decide) _ _ _).trans rfl) (x := .ref (b0 + (197 + 4 * nf1 + 2))) (by first | rfl | exact congrArg (fun z => some (Value.ref z)) (by omega)) dX0_parts_16 ?_
    refine lv_iload_n (pc := 19) hx hb dX0_parts_19 rfl (lv_at hl 1 rfl) ?_
    refine lv_aload_n (pc := 20) hx hb dX0_parts_20 rfl (lv_at hl 3 rfl) ?_
    refine rk_getN (pc := 21) hx hb hts hown hK hW29 fnX0_443 (197 + 4 * n1 + 0) (by omega) rfl ((shX0_f197 G.2.1 hn1 _ rfl 0 (by decide) _ _ _).trans rfl) (x := .ref (b0 + (197 + 4 * n1 + 3))) (by first | rfl | exact congrArg (fun z => some (Value.ref z)) (by omega)) dX0_parts_21 ?_
    refine lv_iload_n (pc := 24) hx hb dX0_parts_24 rfl (lv_at hl 1 rfl) ?_
    obtain ⟨hg33, hm⟩ := gb_some hm
    refine rk_iald (pc := 25) hx hb hK hW29 (197 + 4 * n1 + 3) (by omega) rfl ((shX0_f197 G.2.1 hn1 _ rfl 3 (by decide) _ _ _).trans rfl) hg33 (x := (gI v0_30 (197 + 4 * n1 + 3) (gI v0 (197 + 4 * n1 + 0) 4).toNatClampNeg)) rfl dX0_parts_25 ?_
    obtain ⟨hg34, hm⟩ := gb_some hm
    refine rk_iast (pc := 26) hx hb hK hW29 hS25 (197 + 4 * nf1 + 2) (by omega) rfl (Or.inl (Or.inl (show fX _ _ from ⟨⟨by omega, by omega⟩, by omega⟩))) (fun _ _ _ => ((shX0_f197 G.2.1 hlt14 _ rfl 2 (by decide) _ _ _).trans rfl)) hg34 dX0_parts_26 (fun H36 locs37 hW38 hS39 hz40 hkp41 => ?_)
    obtain ⟨v0_35, he9, hm⟩ := lm_some hm
    rw [he9] at hW38
    have hW42 := pl_keepq hW28 hkp41 (fun h9 => hPX _ h9 (show fX _ _ from ⟨⟨by omega, by omega⟩, by omega⟩))
    have hz43 := hz40.trans hz32
    have hG44 := GO_keepq hG31 hkp41 (by omega)
    refine lv_aload_n (pc := 27) hx hb dX0_parts_27 rfl (lv_at hl 2 rfl) ?_
    refine lv_aload_n (pc := 28) hx hb dX0_parts_28 rfl (lv_at hl 0 rfl) ?_
    obtain ⟨ok48, re49, rc45, w46, w47, hq50, hm⟩ := ob5_some hm
    have hq51 := hq50
    rw [show (Z + rc2) = H36.size by omega] at hq51
    by_cases hok : ok48 = true
    · subst hok
      have hm := ite_t rfl hm
      refine rk_TVW (pc := 29) (As := [.ref (b0 + (197 + 4 * nf1 + 0))]) (rest := []) (mc := 1) (ms := 90) hx hb hml hown hts hK hS39 (fun q hq => FA_sz rfl q hq) lkX0_446 rfl yn_X0_relaxes (CX.ret (ct_X0_relaxes (G := G) (l := l) (rok := true) (b0 := b0) hq51 hPX hlt14 hZ (by omega) hPg hZP)) ⟨Nat.le_of_ble_eq_true rfl, Nat.le_of_ble_eq_true rfl⟩ (fun z h => h.elim (fun h => Or.inl (Or.inl h)) (fun h => (FA_r (KM_hf2 hKM z h)))) (rk_recv hK hW38 0 (by decide) rfl rfl rfl) ⟨hW38, hW42, hG44⟩ rfl rfl hl.1 (Nat.le_of_ble_eq_true rfl) dX0_parts_29 ⟨Nat.le_of_ble_eq_true rfl, Nat.le_of_ble_eq_true rfl⟩ (fun ov9 H52 locs53 hP54 hkp55 hS56 => ?_)
      obtain ⟨rfl, hW57, hW58, hz59, hKM60⟩ := hP54
      have hG61 := GO_keepA hG44 hkp55 (Nat.le_trans (show gB G ≤ s.heap.size by omega) hS39.1) (by intro z h3; exact h3.elim (fun h3 => by have h8 := h3.1.1; have h9 := h3.1.2; omega) (fun h3 => by exact hPg _ h3.1))
      have hz62 : H52.size = s.heap.size + (rc2 + rc45) := by omega
      have hKM63 := KM.trans hKM hKM60 (by omega)
      refine W.eq (g2 := F0 m 32 ls []) rfl ?_
      refine lv_aload_n (pc := 32) hx hb dX0_parts_32 rfl (lv_at hl 2 rfl) ?_
      obtain ⟨ok67, re68, nf64, rc65, w66, hq69, hm⟩ := ob5_some hm
      by_cases hok : ok67 = true
      · subst hok
        have hm := ite_t rfl hm
        refine rk_TV (pc := 33) (As := []) (rest := []) (mc := 0) (ms := 0) hx hb hml hown hts hK hS56 (fun q hq => FA_sz rfl q hq) lkX0_436 rfl yn_X0_nextNode (CX.ret (ct_X0_nextNode (G := G) (l := l) (rok := true) (b0 := b0) (sz := H52.size) hq69 hZ (by omega))) ⟨Nat.le_of_ble_eq_true rfl, Nat.le_of_ble_eq_true rfl⟩ (fun z h => Or.inl (Or.inl h)) (rk_recv hK hW57 0 (by decide) rfl rfl rfl) ⟨hW57, hG61⟩ rfl rfl hl.1 (Nat.le_of_ble_eq_true rfl) dX0_parts_33 ⟨Nat.le_of_ble_eq_true rfl, Nat.le_of_ble_eq_true rfl⟩ (fun ov9 H70 locs71 hP72 hkp73 hS74 => ?_)
        obtain ⟨rfl, hW75, hz76, hlt77⟩ := hP72
        have hW78 := pl_keepA hW58 hkp73 (by intro z h1 h3; exact hPX _ h1 h3)
        have hG79 := GO_keepA hG61 hkp73 (Nat.le_trans (show gB G ≤ s.heap.size by omega) hS56.1) (by intro z h3; have h8 := h3.1.1; have h9 := h3.1.2; omega)
        have hz80 : H70.size = s.heap.size + (rc2 + rc45 + rc65) := by omega
        refine W.eq (g2 := F0 m 36 ls [.ref (b0 + (197 + 4 * nf64 + 0))]) (by first | rfl | exact congrArg (fun z => F0 m 36 ls (Value.ref z :: [])) (show _ = (b0 + (197 + 4 * nf64 + 0)) by omega)) ?_
        refine lv_astore (pc := 36) (lv' := [(4, .ref (b0 + (197 + 4 * nf64 + 0))), (3, .ref (b0 + (197 + 4 * nf1 + 0))), (2, .int (gI v0 (197 + 4 * n1 + 0) 4)), (0, .ref b0), (1, .ref (b0 + (197 + 4 * n1 + 0)))]) hx hb dX0_parts_36 hl (by decide) rfl (fun ls hl => ?_)
        refine lv_aload (pc := 38) hx hb dX0_parts_38 (lv_at hl 0 rfl) ?_
        refine lv_aload_n (pc := 40) hx hb dX0_parts_40 rfl (lv_at hl 4 rfl) ?_
        obtain ⟨hg83, hm⟩ := gb_some hm
        have hg83 := of_decide_eq_true hg83
        obtain ⟨w81, hq82, hm⟩ := ob_some hm
        refine rk_TV (pc := 41) (As := [.ref (b0 + (197 + 4 * n1 + 0))]) (rest := []) (mc := 0) (ms := 0) hx hb hml hown hts hK hS74 (fun q hq => FA_sz rfl q hq) lkX0_440 rfl yn_X8_begins_2 (ct_X8_begins_2 (G := G) (l := l) (b0 := (b0 + (197 + 4 * nf64 + 0))) (b1 := (b0 + (197 + 4 * n1 + 0))) (sz := H70.size) hq82 (by omega)) ⟨Nat.le_of_ble_eq_true rfl, Nat.le_of_ble_eq_true rfl⟩ (fun z h => Or.inl (Or.inl (show fX _ _ from ⟨⟨by have h8 := h.1; have h9 := h.2; omega, by have h8 := h.1; have h9 := h.2; omega⟩, by have h8 := h.1; have h9 := h.2; omega⟩))) (rk_recv hK hW75 (197 + 4 * nf64 + 0) (by omega) rfl rfl ((shX0_f197 G.2.1 hlt77 _ rfl 0 (by decide) _ _ _).trans rfl)) ⟨(rg_sub (d := (197 + 4 * nf64)) hW75 rfl (by omega) (fun o ho x y z => shX0_f197 G.2.1 hlt77 _ rfl o ho x y z)), (rg_sub (d := (197 + 4 * n1)) hW75 rfl (by omega) (fun o ho x y z => shX0_f197 G.2.1 hn1 _ rfl o ho x y z))⟩ rfl rfl hl.1 (Nat.le_of_ble_eq_true rfl) dX0_parts_41 ⟨Nat.le_of_ble_eq_true rfl, Nat.le_of_ble_eq_true rfl⟩ (fun ov9 H84 locs85 hP86 hkp87 hS88 => ?_)
        obtain ⟨rfl, hW89, hz90⟩ := hP86
        have hW91 := pl_keepA hW78 hkp87 (by intro z h1 h3; have h8 := h3.1; have h9 := h3.2; exact hPX _ h1 (show fX _ _ from ⟨⟨by omega, by omega⟩, by omega⟩))
        have hW92 := rg_put (d := (197 + 4 * nf64)) hW75 hW89 rfl (fun o ho x y z => shX0_f197 G.2.1 hlt77 _ rfl o ho x y z) hkp87
        obtain ⟨v0_93, he9, hm⟩ := lm_some hm
        rw [he9] at hW92
        have hG94 := GO_keepA hG79 hkp87 (Nat.le_trans (show gB G ≤ s.heap.size by omega) hS74.1) (by intro z h3; have h8 := h3.1; have h9 := h3.2; omega)
        have hz95 := hz90.trans hz80
        refine W.eq (g2 := F0 m 44 ls []) rfl ?_
        refine lv_aload (pc := 44) hx hb dX0_parts_44 (lv_at hl 0 rfl) ?_
        refine rk_getN (pc := 46) hx hb hts hown hK hW92 fnX0_402 (197 + 4 * nf64 + 0) (by omega) rfl ((shX0_f197 G.2.1 hlt77 _ rfl 0 (by decide) _ _ _).trans rfl) (x := .ref (b0 + (197 + 4 * nf64 + 1))) (by first | rfl | exact congrArg (fun z => some (Value.ref z)) (by omega)) dX0_parts_46 ?_
        refine lv_iload_n (pc := 49) hx hb dX0_parts_49 rfl (lv_at hl 2 rfl) ?_
        refine lv_aload_n (pc := 50) hx hb dX0_parts_50 rfl (lv_at hl 4 rfl) ?_
        refine rk_getN (pc := 51) hx hb hts hown hK hW92 fnX0_443 (197 + 4 * n1 + 0) (by omega) rfl ((shX0_f197 G.2.1 hn1 _ rfl 0 (by decide) _ _ _).trans rfl) (x := .ref (b0 + (197 + 4 * n1 + 3))) (by first | rfl | exact congrArg (fun z => some (Value.ref z)) (by omega)) dX0_parts_51 ?_
        refine lv_iload_n (pc := 54) hx hb dX0_parts_54 rfl (lv_at hl 2 rfl) ?_
        obtain ⟨hg96, hm⟩ := gb_some hm
        refine rk_iald (pc := 55) hx hb hK hW92 (197 + 4 * n1 + 3) (by omega) rfl ((shX0_f197 G.2.1 hn1 _ rfl 3 (by decide) _ _ _).trans rfl) hg96 (x := (gI v0_93 (197 + 4 * n1 + 3) (gI v0 (197 + 4 * n1 + 0) 4).toNatClampNeg)) rfl dX0_parts_55 ?_
        refine lv_iconst (pc := 56) (v := (1 : Int32)) hx hb dX0_parts_56 (by decide) ?_
        refine lv_iadd (pc := 57) hx hb dX0_parts_57 ?_
        obtain ⟨hg97, hm⟩ := gb_some hm
        refine rk_iast (pc := 58) hx hb hK hW92 hS88 (197 + 4 * nf64 + 1) (by omega) rfl (Or.inl (Or.inl (show fX _ _ from ⟨⟨by omega, by omega⟩, by omega⟩))) (fun _ _ _ => ((shX0_f197 G.2.1 hlt77 _ rfl 1 (by decide) _ _ _).trans rfl)) hg97 dX0_parts_58 (fun H99 locs100 hW101 hS102 hz103 hkp104 => ?_)
        obtain ⟨v0_98, he9, hm⟩ := lm_some hm
        rw [he9] at hW101
        have hW105 := pl_keepq hW91 hkp104 (fun h9 => hPX _ h9 (show fX _ _ from ⟨⟨by omega, by omega⟩, by omega⟩))
        have hz106 := hz103.trans hz95
        have hG107 := GO_keepq hG94 hkp104 (by omega)
        refine lv_aload_n (pc := 59) hx hb dX0_parts_59 rfl (lv_at hl 3 rfl) ?_
        refine lv_aload (pc := 60) hx hb dX0_parts_60 (lv_at hl 0 rfl) ?_
        obtain ⟨ok111, re112, rc108, w109, w110, hq113, hm⟩ := ob5_some hm
        have hq114 := hq113
        rw [show (Z + (rc2 + rc45 + rc65)) = H99.size by omega] at hq114
        by_cases hok : ok111 = true
        · subst hok
          have hm := ite_t rfl hm
          refine rk_TVW (pc := 62) (As := [.ref (b0 + (197 + 4 * nf64 + 0))]) (rest := []) (mc := 1) (ms := 90) hx hb hml hown hts hK hS102 (fun q hq => FA_sz rfl q hq) lkX0_446 rfl yn_X0_relaxes (CX.ret (ct_X0_relaxes (G := G) (l := l) (rok := true) (b0 := b0) hq114 hPX hlt77 hZ (by omega) hPg hZP)) ⟨Nat.le_of_ble_eq_true rfl, Nat.le_of_ble_eq_true rfl⟩ (fun z h => h.elim (fun h => Or.inl (Or.inl h)) (fun h => (FA_r (KM_hf2 hKM63 z h)))) (rk_recv hK hW101 0 (by decide) rfl rfl rfl) ⟨hW101, hW105, hG107⟩ rfl rfl hl.1 (Nat.le_of_ble_eq_true rfl) dX0_parts_62 ⟨Nat.le_of_ble_eq_true rfl, Nat.le_of_ble_eq_true rfl⟩ (fun ov9 H115 locs116 hP117 hkp118 hS119 => ?_)
          obtain ⟨rfl, hW120, hW121, hz122, hKM123⟩ := hP117
          have hG124 := GO_keepA hG107 hkp118 (Nat.le_trans (show gB G ≤ s.heap.size by omega) hS102.1) (by intro z h3; exact h3.elim (fun h3 => by have h8 := h3.1.1; have h9 := h3.1.2; omega) (fun h3 => by exact hPg _ h3.1))
          have hz125 : H115.size = s.heap.size + (rc2 + rc45 + rc65 + rc108) := by omega
          have hKM126 := KM.trans hKM63 hKM123 (by omega)
          refine W.eq (g2 := F0 m 65 ls []) rfl ?_
          obtain ⟨e5, e6, e7, e8, e9⟩ := rs5 hm
          cases e5
          subst e6
          subst e7
          subst e8
          subst e9
          exact rk_vretX (pc := 65) hx hb hr hlk hS119 ⟨rfl, hW120, hW121, hz125, hKM126⟩ dX0_parts_65 (by exact Nat.le_of_ble_eq_true rfl) (by exact Nat.le_of_ble_eq_true rfl)
        · have hok := eq_false_of_ne_true hok
          subst hok
          have hm := ite_f Bool.false_ne_true hm
          refine rk_XVW (pc := 62) (As := [.ref (b0 + (197 + 4 * nf64 + 0))]) (rest := []) (mc := 1) (ms := 90) hx hb hml hown hts hK hS102 (fun q hq => FA_sz rfl q hq) lkX0_446 rfl yn_X0_relaxes (ct_X0_relaxes (G := G) (l := l) (rok := false) (b0 := b0) hq114 hPX hlt77 hZ (by omega) hPg hZP) ⟨Nat.le_of_ble_eq_true rfl, Nat.le_of_ble_eq_true rfl⟩ (fun z h => h.elim (fun h => Or.inl (Or.inl h)) (fun h => (FA_r (KM_hf2 hKM63 z h)))) (rk_recv hK hW101 0 (by decide) rfl rfl rfl) ⟨hW101, hW105, hG107⟩ rfl rfl hl.1 (Nat.le_of_ble_eq_true rfl) dX0_parts_62 ⟨Nat.le_of_ble_eq_true rfl, Nat.le_of_ble_eq_true rfl⟩ (fun q132 E9 ce9 H127 locs128 hP129 hkp130 hS131 hce9 hcv9 hcl9 => ?_)
          obtain ⟨rfl, hqq132, ⟨wx135, hW136, hre137⟩, hW133, hW134, hz138, hKM139⟩ := hP129
          have hqq132 : s.heap.size ≤ q132 := Nat.le_trans hS102.1 hqq132
          have hG140 := GO_keepA hG107 hkp130 (Nat.le_trans (show gB G ≤ s.heap.size by omega) hS102.1) (by intro z h3; exact h3.elim (fun h3 => by have h8 := h3.1.1; have h9 := h3.1.2; omega) (fun h3 => by exact hPg _ h3.1))
          have hz141 : H127.size = s.heap.size + (rc2 + rc45 + rc65 + rc108) := by omega
          have hKM142 := KM.trans hKM63 hKM139 (by omega)
          obtain ⟨ce8, hce8, hcv8, hcl8⟩ := rk_exc hK hW136 rfl rfl
          obtain ⟨e5, e6, e7, e8, e9⟩ := rs5 hm
          cases e5
          subst e6
          subst e7
          subst e8
          subst e9
          exact rk_xout (fun x h => (ht x h).elim) hlk hS131 hce8 hcv8 hcl8 ⟨rfl, hqq132, ⟨_, hW136, hre137⟩, hW133, hW134, hz141, hKM142⟩ (by exact Nat.le_of_ble_eq_true rfl) (by exact Nat.le_of_ble_eq_true rfl)
      · have hok := eq_false_of_ne_true hok
        subst hok
        have hm := ite_f Bool.false_ne_true hm
        refine rk_XV (pc := 33) (As := []) (rest := []) (mc := 1) (ms := 7) hx hb hml hown hts hK hS56 (fun q hq => FA_sz rfl q hq) lkX0_436 rfl yn_X0_nextNode (ct_X0_nextNode (G := G) (l := l) (rok := false) (b0 := b0) (sz := H52.size) hq69 hZ (by omega)) ⟨Nat.le_of_ble_eq_true rfl, Nat.le_of_ble_eq_true rfl⟩ (fun z h => Or.inl (Or.inl h)) (rk_recv hK hW57 0 (by decide) rfl rfl rfl) ⟨hW57, hG61⟩ rfl rfl hl.1 (Nat.le_of_ble_eq_true rfl) dX0_parts_33 ⟨Nat.le_of_ble_eq_true rfl, Nat.le_of_ble_eq_true rfl⟩ (fun q148 E9 ce9 H143 locs144 hP145 hkp146 hS147 hce9 hcv9 hcl9 => ?_)
        obtain ⟨rfl, hqq148, ⟨wx150, hW151, hre152⟩, hW149, hz153⟩ := hP145
        have hqq148 : s.heap.size ≤ q148 := Nat.le_trans hS56.1 hqq148
        have hW154 := pl_keepA hW58 hkp146 (by intro z h1 h3; exact hPX _ h1 h3)
        have hG155 := GO_keepA hG61 hkp146 (Nat.le_trans (show gB G ≤ s.heap.size by omega) hS56.1) (by intro z h3; have h8 := h3.1.1; have h9 := h3.1.2; omega)
        have hz156 : H143.size = s.heap.size + (rc2 + rc45 + rc65) := by omega
        obtain ⟨ce8, hce8, hcv8, hcl8⟩ := rk_exc hK hW151 rfl rfl
        obtain ⟨e5, e6, e7, e8, e9⟩ := rs5 hm
        cases e5
        subst e6
        subst e7
        subst e8
        subst e9
        exact rk_xout (fun x h => (ht x h).elim) hlk hS147 hce8 hcv8 hcl8 ⟨rfl, hqq148, ⟨_, hW151, hre152⟩, hW149, hW154, hz156, hKM63⟩ (by exact Nat.le_of_ble_eq_true rfl) (by exact Nat.le_of_ble_eq_true rfl)
    · have hok := eq_false_of_ne_true hok
      subst hok
      have hm := ite_f Bool.false_ne_true hm
      refine rk_XVW (pc := 29) (As := [.ref (b0 + (197 + 4 * nf1 + 0))]) (rest := []) (mc := 1) (ms := 90) hx hb hml hown hts hK hS39 (fun q hq => FA_sz rfl q hq) lkX0_446 rfl yn_X0_relaxes (ct_X0_relaxes (G := G) (l := l) (rok := false) (b0 := b0) hq51 hPX hlt14 hZ (by omega) hPg hZP) ⟨Nat.le_of_ble_eq_true rfl, Nat.le_of_ble_eq_true rfl⟩ (fun z h => h.elim (fun h => Or.inl (Or.inl h)) (fun h => (FA_r (KM_hf2 hKM z h)))) (rk_recv hK hW38 0 (by decide) rfl rfl rfl) ⟨hW38, hW42, hG44⟩ rfl rfl hl.1 (Nat.le_of_ble_eq_true rfl) dX0_parts_29 ⟨Nat.le_of_ble_eq_true rfl, Nat.le_of_ble_eq_true rfl⟩ (fun q162 E9 ce9 H157 locs158 hP159 hkp160 hS161 hce9 hcv9 hcl9 => ?_)
      obtain ⟨rfl, hqq162, ⟨wx165, hW166, hre167⟩, hW163, hW164, hz168, hKM169⟩ := hP159
      have hqq162 : s.heap.size ≤ q162 := Nat.le_trans hS39.1 hqq162
      have hG170 := GO_keepA hG44 hkp160 (Nat.le_trans (show gB G ≤ s.heap.size by omega) hS39.1) (by intro z h3; exact h3.elim (fun h3 => by have h8 := h3.1.1; have h9 := h3.1.2; omega) (fun h3 => by exact hPg _ h3.1))
      have hz171 : H157.size = s.heap.size + (rc2 + rc45) := by omega
      have hKM172 := KM.trans hKM hKM169 (by omega)
      obtain ⟨ce8, hce8, hcv8, hcl8⟩ := rk_exc hK hW166 rfl rfl
      obtain ⟨e5, e6, e7, e8, e9⟩ := rs5 hm
      cases e5
      subst e6
      subst e7
      subst e8
      subst e9
      exact rk_xout (fun x h => (ht x h).elim) hlk hS161 hce8 hcv8 hcl8 ⟨rfl, hqq162, ⟨_, hW166, hre167⟩, hW163, hW164, hz171, hKM172⟩ (by exact Nat.le_of_ble_eq_true rfl) (by exact Nat.le_of_ble_eq_true rfl)
  · have hok := eq_false_of_ne_true hok
    subst hok
    have hm := ite_f Bool.false_ne_true hm
    refine rk_XV (pc := 6) (As := []) (rest := []) (mc := 1) (ms := 7) hx hb hml hown hts hK hS (fun q hq => FA_sz rfl q hq) lkX0_436 rfl yn_X0_nextNode (ct_X0_nextNode (G := G) (l := l) (rok := false) (b0 := b0) (sz := H.size) hq6 hZ (by omega)) ⟨Nat.le_of_ble_eq_true rfl, Nat.le_of_ble_eq_true rfl⟩ (fun z h => Or.inl (Or.inl h)) (rk_recv hK hW0 0 (by decide) rfl rfl rfl) ⟨hW0, hG⟩ rfl rfl hl.1 (Nat.le_of_ble_eq_true rfl) dX0_parts_6 ⟨Nat.le_of_ble_eq_true rfl, Nat.le_of_ble_eq_true rfl⟩ (fun q178 E9 ce9 H173 locs174 hP175 hkp176 hS177 hce9 hcv9 hcl9 => ?_)
    obtain ⟨rfl, hqq178, ⟨wx180, hW181, hre182⟩, hW179, hz183⟩ := hP175
    have hqq178 : s.heap.size ≤ q178 := Nat.le_trans hS.1 hqq178
    have hW184 := pl_keepA hW1 hkp176 (by intro z h1 h3; exact hPX _ h1 h3)
    have hG185 := GO_keepA hG hkp176 (Nat.le_trans (show gB G ≤ s.heap.size by omega) hS.1) (by intro z h3; have h8 := h3.1.1; have h9 := h3.1.2; omega)
    have hz186 : H173.size = s.heap.size + rc2 := by omega
    obtain ⟨ce8, hce8, hcv8, hcl8⟩ := rk_exc hK hW181 rfl rfl
    obtain ⟨e5, e6, e7, e8, e9⟩ := rs5 hm
    cases e5
    subst e6
    subst e7
    subst e8
    subst e9
    exact rk_xout (fun x h => (ht x h).elim) hlk hS177 hce8 hcv8 hcl8 ⟨rfl, hqq178, ⟨_, hW181, hre182⟩, hW179, hW184, hz186, hKM⟩ (by exact Nat.le_of_ble_eq_true rfl) (by exact Nat.le_of_ble_eq_true rfl)
set_option maxHeartbeats 4000000 in
theorem ct_X0_parts {G : Gv} {l : Launch} {b0 : Nat} {PL : Nat → Bool} {Z : Nat} {n1 : Nat} {v0 : Mem} {v1 : Mem} {rok : Bool} {re : Int32} {rc : Nat} {rw0 : Mem} {rw1 : Mem} (hm : fX0_parts PL Z b0 n1 v0 v1 = some (rok, re, rc, rw0, rw1)) (hPX : ∀ z, PL z = true → ¬ fX b0 z) (hn1 : n1 < 40) (hZ : ZQ G) (hgb0 : gB G ≤ b0) (hPg : ∀ z, PL z = true → gB G ≤ z) (hZP : ZP G) : CX G l yX0_parts (ws_ yX0_parts cX0_parts 5 none) 8 2 180 230 [.ref b0, .ref (b0 + (197 + 4 * n1 + 0))] (fun z => (fX b0) z ∨ (fP PL v1) z) Z (fun H => rg G b0 357 (shX0 G.2.1) v0 H ∧ pl G PL v1 H ∧ GO G H) rok (fun ov H => ov = none ∧ rg G b0 357 (shX0 G.2.1) rw0 H ∧ pl G PL rw1 H ∧ H.size = Z + rc ∧ KM v1 rw1 Z) (fun q E H => E = "WholePacks$Stuck" ∧ Z ≤ q ∧ (∃ wx, rg G q 1 (shX13 G.2.1) wx H ∧ gI wx 0 6 = re) ∧ rg G b0 357 (shX0 G.2.1) rw0 H ∧ pl G PL rw1 H ∧ H.size = Z + rc ∧ KM v1 rw1 Z) := by
  refine vx_ofW (cc := cX0_parts) (maxL := 5) (ret := none) (by decide +kernel) rfl ?_
  intro p e s m args below meth c s₁ B hml ht hv
  obtain ⟨rfl, ⟨hz, hW0, hW1, hG⟩, hK⟩ := hv
  subst hz
  have he0 := rg_end hW0 356 (by decide) rfl (fun _ _ _ => rfl)
  have hZz : s.heap.size = s.heap.size := rfl
  have hts := atoms_spec (ws := ws_ yX0_parts cX0_parts 5 none) B.pre
  have hts : ∀ w ∈ lw_all, w.before _ s = true := fun w h => hts w (List.mem_cons_of_mem _ h)
  have C : Cx G p s m _ meth c RX0 cX0_parts 5 none := ⟨B.exec, B.bytes, B.returns, B.notSynchronized, hml, findClass_of_methodNamed B.named, hts, hK⟩
  have hl := lv_entry ([.ref b0, .ref (b0 + (197 + 4 * n1 + 0))]) (n := 5) (Nat.le_of_ble_eq_true rfl)
  rw [lg_entry_eq]
  generalize (lg_sl ([.ref b0, .ref (b0 + (197 + 4 * n1 + 0))]) ++ List.replicate (5 - (lg_sl ([.ref b0, .ref (b0 + (197 + 4 * n1 + 0))])).length) Slot.unset).toArray = ls at hl ⊢
  have hl : lv_has ls 5 [(0, .ref b0), (1, .ref (b0 + (197 + 4 * n1 + 0)))] := hl
  exact w_fX0_parts C hPX hn1 he0 hZz hZ hgb0 hPg hZP ht _ _ hm s.heap [] ls hW0 hW1 va_S.rf rfl KM.rf hG hl
end
