set_option maxRecDepth 100000
section
variable {p : Program} {l : Launch} {e : Env} {s : State} {m : MethodId} {args : Array Value} {below : List Frame} {meth : Method} {c : Code} {G : Gv}
def shX12 (dA : Nat → ClassId) : Shp := fun o a x y z => if o < 1 then (match o with | 0 => some (.inr (12, [va_rf (z 0), va_rf (z 1), va_rf (z 2), va_rf (z 3), va_rf (z 4), .int (x 5), .int (x 6)])) | _ => none) else none
def shX13 (dA : Nat → ClassId) : Shp := fun o a x y z => if o < 1 then (match o with | 0 => some (.inr (13, [va_rf (z 0), va_rf (z 1), va_rf (z 2), va_rf (z 3), va_rf (z 4), .int (x 5), .int (x 6)])) | _ => none) else none
theorem ft_X12 : FT TX12 7 tyX12 := ⟨tyX12_ok, nmX12⟩
theorem flJ5_X12_7 : FL RJ5 7 12 0 RX12 TX12 7 := ⟨in_X12, rfl, by decide, q737⟩
theorem flJ5_X12_17 : FL RJ5 17 12 1 RX12 TX12 7 := ⟨in_X12, rfl, by decide, q738⟩
theorem flJ5_X12_24 : FL RJ5 24 12 2 RX12 TX12 7 := ⟨in_X12, rfl, by decide, q739⟩
theorem flJ5_X12_31 : FL RJ5 31 12 3 RX12 TX12 7 := ⟨in_X12, rfl, by decide, q736⟩
set_option maxHeartbeats 4000000 in
theorem ct_J5_init_2_X12 {G : Gv} {l : Launch} {b0 : Nat} {v0 : Mem} {sz : Nat} (hZ : ZQ G) (hgb : gB G ≤ b0) : CT G l yJ5_init_2 (ws_ yJ5_init_2 cJ5_init_2 5 none) 1 0 0 12 [.ref b0, .null, .null, .int (0 : Int32), .int (0 : Int32)] (iv b0 1) sz (fun H => rg G b0 1 (shX12 G.2.1) v0 H ∧ GO G H) (fun ov H => ov = none ∧ (∃ w, rg G b0 1 (shX12 G.2.1) w H) ∧ H.size = sz) := by
  refine va_MetF (cc := cJ5_init_2) (maxL := 5) (ret := none) (by decide +kernel) rfl ?_
  intro p e s m args below meth c s₁ B hml hv
  obtain ⟨rfl, ⟨hz0, hW, hG⟩, hK⟩ := hv
  subst hz0
  have hts := atoms_spec (ws := ws_ yJ5_init_2 cJ5_init_2 5 none) B.pre
  have hts : ∀ w ∈ lw_all, w.before _ s = true := fun w h => hts w (List.mem_cons_of_mem _ h)
  have hin : meth.name = "<init>" := (name_of_methodNamed B.named B.method).1
  have C : Cx G p s m _ meth c RJ5 cJ5_init_2 5 none := ⟨B.exec, B.bytes, B.returns, B.notSynchronized, hml, findClass_of_methodNamed B.named, hts, hK⟩
  have hl := lv_entry ([.ref b0, .null, .null, .int (0 : Int32), .int (0 : Int32)]) (n := 5) (Nat.le_of_ble_eq_true rfl)
  rw [lg_entry_eq]
  generalize (lg_sl ([.ref b0, .null, .null, .int (0 : Int32), .int (0 : Int32)]) ++ List.replicate (5 - (lg_sl ([.ref b0, .null, .null, .int (0 : Int32), .int (0 : Int32)])).length) Slot.unset).toArray = ls at hl ⊢
  have hl : lv_has ls 5 [(0, .ref b0), (1, .null), (2, .null), (3, .int (0 : Int32)), (4, .int (0 : Int32))] := hl
  obtain ⟨hx, hb, hr, hlk, hml, hown, hts, hK⟩ := id C
  refine lv_aload_n (pc := 0) hx hb dJ5_init_2_0 rfl (lv_at hl 0 rfl) ?_
  refine W.objInit hx hb hown (hts _ q706) (hts _ q159) (hts _ q160) rfl (by rw [hml]; exact hl.1) rfl dJ5_init_2_1 (Nat.le_of_ble_eq_true rfl) (Nat.le_of_ble_eq_true rfl) ?_
  refine W.eq (g2 := F0 m 4 ls []) rfl ?_
  refine lv_aload_n (pc := 4) hx hb dJ5_init_2_4 rfl (lv_at hl 0 rfl) ?_
  refine lv_aload_n (pc := 5) hx hb dJ5_init_2_5 rfl (lv_at hl 0 rfl) ?_
  refine rk_put (pc := 6) (q := b0) (A := FA (iv b0 1) s.heap.size) hx hb hts hown hK hW va_S.rf flJ5_X12_7 ft_X12 0 (by decide) rfl (Or.inl (show iv _ _ _ from ⟨by omega, by omega⟩)) rfl rfl  (x := va_rf (some b0)) (rf_nar _ rfl (some b0)) (rf_fit _ rfl (some b0)) (Nat.le_of_ble_eq_true rfl) (sR v0 0 0 (some b0)) sR_ne (by rw [sR_eq]; rfl) dJ5_init_2_6 (fun H1 locs1 hW1 hS1 hz1 hk1 => ?_)
  have hG1 := GO_keepq hG hk1 hgb
  have hzz1 := hz1.trans rfl
  refine lv_aload_n (pc := 9) hx hb dJ5_init_2_9 rfl (lv_at hl 0 rfl) ?_
  refine rk_getsq (pc := 10) hx hb hts (hZ s hK).1 hG1 hown q707 dJ5_init_2_10 (fun z2 => ?_)
  refine rk_put (pc := 13) (q := b0) (A := FA (iv b0 1) s.heap.size) hx hb hts hown hK hW1 hS1 flJ5_X12_17 ft_X12 0 (by decide) rfl (Or.inl (show iv _ _ _ from ⟨by omega, by omega⟩)) rfl rfl  (x := va_rf z2) (rf_nar _ rfl z2) (rf_fit _ rfl z2) (Nat.le_of_ble_eq_true rfl) (sR (sR v0 0 0 (some b0)) 0 1 z2) sR_ne (by rw [sR_eq]; rfl) dJ5_init_2_13 (fun H3 locs3 hW3 hS3 hz3 hk3 => ?_)
  have hG3 := GO_keepq hG1 hk3 hgb
  have hzz3 := hz3.trans hzz1
  refine lv_aload_n (pc := 16) hx hb dJ5_init_2_16 rfl (lv_at hl 0 rfl) ?_
  refine rk_getsq (pc := 17) hx hb hts (hZ s hK).2 hG3 hown q709 dJ5_init_2_17 (fun z4 => ?_)
  refine rk_put (pc := 20) (q := b0) (A := FA (iv b0 1) s.heap.size) hx hb hts hown hK hW3 hS3 flJ5_X12_24 ft_X12 0 (by decide) rfl (Or.inl (show iv _ _ _ from ⟨by omega, by omega⟩)) rfl rfl  (x := va_rf z4) (rf_nar _ rfl z4) (rf_fit _ rfl z4) (Nat.le_of_ble_eq_true rfl) (sR (sR (sR v0 0 0 (some b0)) 0 1 z2) 0 2 z4) sR_ne (by rw [sR_eq]; rfl) dJ5_init_2_20 (fun H5 locs5 hW5 hS5 hz5 hk5 => ?_)
  have hG5 := GO_keepq hG3 hk5 hgb
  have hzz5 := hz5.trans hzz3
  refine lv_iload (pc := 23) hx hb dJ5_init_2_23 (lv_at hl 4 rfl) ?_
  refine lv_if_eq (pc := 25) (tgt := 36) hx hb dJ5_init_2_25 (by decide) (fun _ => ?_) (fun h => absurd rfl h)
  refine lv_aload_n (pc := 36) hx hb dJ5_init_2_36 rfl (lv_at hl 0 rfl) ?_
  refine lv_null (pc := 37) hx hb dJ5_init_2_37 ?_
  refine rk_put (pc := 38) (q := b0) (A := FA (iv b0 1) s.heap.size) hx hb hts hown hK hW5 hS5 flJ5_X12_17 ft_X12 0 (by decide) rfl (Or.inl (show iv _ _ _ from ⟨by omega, by omega⟩)) rfl rfl  (x := va_rf none) (rf_nar _ rfl none) (rf_fit _ rfl none) (Nat.le_of_ble_eq_true rfl) (sR (sR (sR (sR v0 0 0 (some b0)) 0 1 z2) 0 2 z4) 0 1 none) sR_ne (by rw [sR_eq]; rfl) dJ5_init_2_38 (fun H6 locs6 hW6 hS6 hz6 hk6 => ?_)
  have hG6 := GO_keepq hG5 hk6 hgb
  have hzz6 := hz6.trans hzz5
  refine lv_aload_n (pc := 41) hx hb dJ5_init_2_41 rfl (lv_at hl 0 rfl) ?_
  refine lv_aload_nN (pc := 42) hx hb dJ5_init_2_42 rfl (lv_at hl 1 rfl) ?_
  refine rk_put (pc := 43) (q := b0) (A := FA (iv b0 1) s.heap.size) hx hb hts hown hK hW6 hS6 flJ5_X12_31 ft_X12 0 (by decide) rfl (Or.inl (show iv _ _ _ from ⟨by omega, by omega⟩)) rfl rfl  (x := va_rf none) (rf_nar _ rfl none) (rf_fit _ rfl none) (Nat.le_of_ble_eq_true rfl) (sR (sR (sR (sR (sR v0 0 0 (some b0)) 0 1 z2) 0 2 z4) 0 1 none) 0 3 none) sR_ne (by rw [sR_eq]; rfl) dJ5_init_2_43 (fun H7 locs7 hW7 hS7 hz7 hk7 => ?_)
  have hG7 := GO_keepq hG6 hk7 hgb
  have hzz7 := hz7.trans hzz6
  refine lv_aload_n (pc := 46) hx hb dJ5_init_2_46 rfl (lv_at hl 0 rfl) ?_
  refine lv_aload_nN (pc := 47) hx hb dJ5_init_2_47 rfl (lv_at hl 2 rfl) ?_
  refine rk_put (pc := 48) (q := b0) (A := FA (iv b0 1) s.heap.size) hx hb hts hown hK hW7 hS7 flJ5_X12_7 ft_X12 0 (by decide) rfl (Or.inl (show iv _ _ _ from ⟨by omega, by omega⟩)) rfl rfl  (x := va_rf none) (rf_nar _ rfl none) (rf_fit _ rfl none) (Nat.le_of_ble_eq_true rfl) (sR (sR (sR (sR (sR (sR v0 0 0 (some b0)) 0 1 z2) 0 2 z4) 0 1 none) 0 3 none) 0 0 none) sR_ne (by rw [sR_eq]; rfl) dJ5_init_2_48 (fun H8 locs8 hW8 hS8 hz8 hk8 => ?_)
  have hG8 := GO_keepq hG7 hk8 hgb
  have hzz8 := hz8.trans hzz7
  refine lv_iload_n (pc := 51) hx hb dJ5_init_2_51 rfl (lv_at hl 3 rfl) ?_
  refine lv_if_ne (pc := 52) (tgt := 60) hx hb dJ5_init_2_52 (by decide) (fun h => absurd rfl h) (fun _ => ?_)
  refine lv_aload_n (pc := 55) hx hb dJ5_init_2_55 rfl (lv_at hl 0 rfl) ?_
  refine lv_null (pc := 56) hx hb dJ5_init_2_56 ?_
  refine rk_put (pc := 57) (q := b0) (A := FA (iv b0 1) s.heap.size) hx hb hts hown hK hW8 hS8 flJ5_X12_24 ft_X12 0 (by decide) rfl (Or.inl (show iv _ _ _ from ⟨by omega, by omega⟩)) rfl rfl  (x := va_rf none) (rf_nar _ rfl none) (rf_fit _ rfl none) (Nat.le_of_ble_eq_true rfl) (sR (sR (sR (sR (sR (sR (sR v0 0 0 (some b0)) 0 1 z2) 0 2 z4) 0 1 none) 0 3 none) 0 0 none) 0 2 none) sR_ne (by rw [sR_eq]; rfl) dJ5_init_2_57 (fun H9 locs9 hW9 hS9 hz9 hk9 => ?_)
  have hG9 := GO_keepq hG8 hk9 hgb
  have hzz9 := hz9.trans hzz8
  exact rk_vret (pc := 60) hx hb hr hlk hS9 ⟨rfl, ⟨_, hW9⟩, hzz9⟩ dJ5_init_2_60
theorem liJ6_16 : LI RJ6 16 yJ5_init_2 cJ5_init_2 5 := ⟨q730, q731, q131, q732, rfl⟩
theorem yn_J5_init_2 : YN yJ5_init_2 4 := by
  unfold YN
  decide +kernel
set_option maxHeartbeats 4000000 in
theorem ct_J6_init_X12 {G : Gv} {l : Launch} {b0 : Nat} {v0 : Mem} {sz : Nat} (hZ : ZQ G) (hgb : gB G ≤ b0) : CT G l yJ6_init (ws_ yJ6_init cJ6_init 5 none) 2 0 0 36 [.ref b0, .null, .null, .int (0 : Int32), .int (0 : Int32)] (iv b0 1) sz (fun H => rg G b0 1 (shX12 G.2.1) v0 H ∧ GO G H) (fun ov H => ov = none ∧ (∃ w, rg G b0 1 (shX12 G.2.1) w H) ∧ H.size = sz) := by
  refine va_MetF (cc := cJ6_init) (maxL := 5) (ret := none) (by decide +kernel) rfl ?_
  intro p e s m args below meth c s₁ B hml hv
  obtain ⟨rfl, ⟨hz0, hW, hG⟩, hK⟩ := hv
  subst hz0
  have hts := atoms_spec (ws := ws_ yJ6_init cJ6_init 5 none) B.pre
  have hts : ∀ w ∈ lw_all, w.before _ s = true := fun w h => hts w (List.mem_cons_of_mem _ h)
  have hin : meth.name = "<init>" := (name_of_methodNamed B.named B.method).1
  have C : Cx G p s m _ meth c RJ6 cJ6_init 5 none := ⟨B.exec, B.bytes, B.returns, B.notSynchronized, hml, findClass_of_methodNamed B.named, hts, hK⟩
  have hl := lv_entry ([.ref b0, .null, .null, .int (0 : Int32), .int (0 : Int32)]) (n := 5) (Nat.le_of_ble_eq_true rfl)
  rw [lg_entry_eq]
  generalize (lg_sl ([.ref b0, .null, .null, .int (0 : Int32), .int (0 : Int32)]) ++ List.replicate (5 - (lg_sl ([.ref b0, .null, .null, .int (0 : Int32), .int (0 : Int32)])).length) Slot.unset).toArray = ls at hl ⊢
  have hl : lv_has ls 5 [(0, .ref b0), (1, .null), (2, .null), (3, .int (0 : Int32)), (4, .int (0 : Int32))] := hl
  obtain ⟨hx, hb, hr, hlk, hml, hown, hts, hK⟩ := id C
  refine lv_aload_n (pc := 0) hx hb dJ6_init_0 rfl (lv_at hl 0 rfl) ?_
  refine lv_aload_nN (pc := 1) hx hb dJ6_init_1 rfl (lv_at hl 1 rfl) ?_
  refine lv_aload_nN (pc := 2) hx hb dJ6_init_2 rfl (lv_at hl 2 rfl) ?_
  refine lv_iload_n (pc := 3) hx hb dJ6_init_3 rfl (lv_at hl 3 rfl) ?_
  refine lv_iload (pc := 4) hx hb dJ6_init_4 (lv_at hl 4 rfl) ?_
  refine rk_TI (pc := 6) (As := [.null, .null, .int (0 : Int32), .int (0 : Int32)]) (rest := []) hx hb hml hown hts hK va_S.rf (fun q hq => FA_sz rfl q hq) liJ6_16 yn_J5_init_2 (ct_J5_init_2_X12 (G := G) (l := l) (v0 := v0) (sz := s.heap.size) hZ hgb) ⟨Nat.le_of_ble_eq_true rfl, Nat.le_of_ble_eq_true rfl⟩ (fun z h => Or.inl h) ⟨hW, hG⟩ rfl rfl hl.1 (Nat.le_of_ble_eq_true rfl) dJ6_init_6 ⟨Nat.le_of_ble_eq_true rfl, Nat.le_of_ble_eq_true rfl⟩ (fun ov9 H1 locs1 hP1 hk1 hS1 => ?_)
  obtain ⟨rfl, ⟨w1, hW1⟩, hzz1⟩ := hP1
  have hzz1 := hzz1.trans rfl
  refine W.eq (g2 := F0 m 9 ls []) rfl ?_
  exact rk_vret (pc := 9) hx hb hr hlk hS1 ⟨rfl, ⟨_, hW1⟩, hzz1⟩ dJ6_init_9
theorem liX12_1 : LI RX12 1 yJ6_init cJ6_init 5 := ⟨q727, q728, q132, q729, rfl⟩
theorem yn_J6_init : YN yJ6_init 4 := by
  unfold YN
  decide +kernel
theorem flX12_X12_7 : FL RX12 7 12 6 RX12 TX12 7 := ⟨in_X12, rfl, by decide, q733⟩
set_option maxHeartbeats 4000000 in
theorem ct_X12_init {G : Gv} {l : Launch} {b0 : Nat} {v0 : Mem} {i1 : Int32} {sz : Nat} (hZ : ZQ G) (hgb : gB G ≤ b0) : CT G l yX12_init (ws_ yX12_init cX12_init 2 none) 3 0 0 60 [.ref b0, .int i1] (iv b0 1) sz (fun H => rg G b0 1 (shX12 G.2.1) v0 H ∧ GO G H) (fun ov H => ov = none ∧ (∃ w, rg G b0 1 (shX12 G.2.1) w H ∧ gI w 0 6 = i1) ∧ H.size = sz) := by
  refine Met.ofW (cc := cX12_init) (maxL := 2) (ret := none) (by decide +kernel) rfl ?_
  intro p e s m args below meth c s₁ B hml hv
  obtain ⟨rfl, ⟨hz0, hW, hG⟩, hK⟩ := hv
  subst hz0
  have hts := atoms_spec (ws := ws_ yX12_init cX12_init 2 none) B.pre
  have hts : ∀ w ∈ lw_all, w.before _ s = true := fun w h => hts w (List.mem_cons_of_mem _ h)
  have hin : meth.name = "<init>" := (name_of_methodNamed B.named B.method).1
  have C : Cx G p s m _ meth c RX12 cX12_init 2 none := ⟨B.exec, B.bytes, B.returns, B.notSynchronized, hml, findClass_of_methodNamed B.named, hts, hK⟩
  have hl := lv_entry ([.ref b0, .int i1]) (n := 2) (Nat.le_of_ble_eq_true rfl)
  rw [lg_entry_eq]
  generalize (lg_sl ([.ref b0, .int i1]) ++ List.replicate (2 - (lg_sl ([.ref b0, .int i1])).length) Slot.unset).toArray = ls at hl ⊢
  have hl : lv_has ls 2 [(0, .ref b0), (1, .int i1)] := hl
  obtain ⟨hx, hb, hr, hlk, hml, hown, hts, hK⟩ := id C
  refine lv_aload_n (pc := 0) hx hb dX12_init_0 rfl (lv_at hl 0 rfl) ?_
  refine lv_null (pc := 1) hx hb dX12_init_1 ?_
  refine lv_null (pc := 2) hx hb dX12_init_2 ?_
  refine lv_iconst (pc := 3) (v := (0 : Int32)) hx hb dX12_init_3 (by decide) ?_
  refine lv_iconst (pc := 4) (v := (0 : Int32)) hx hb dX12_init_4 (by decide) ?_
  refine rk_TI (pc := 5) (As := [.null, .null, .int (0 : Int32), .int (0 : Int32)]) (rest := []) hx hb hml hown hts hK va_S.rf (fun q hq => FA_sz rfl q hq) liX12_1 yn_J6_init (ct_J6_init_X12 (G := G) (l := l) (v0 := v0) (sz := s.heap.size) hZ hgb) ⟨Nat.le_of_ble_eq_true rfl, Nat.le_of_ble_eq_true rfl⟩ (fun z h => Or.inl h) ⟨hW, hG⟩ rfl rfl hl.1 (Nat.le_of_ble_eq_true rfl) dX12_init_5 ⟨Nat.le_of_ble_eq_true rfl, Nat.le_of_ble_eq_true rfl⟩ (fun ov9 H1 locs1 hP1 hk1 hS1 => ?_)
  obtain ⟨rfl, ⟨w1, hW1⟩, hzz1⟩ := hP1
  have hzz1 := hzz1.trans rfl
  refine W.eq (g2 := F0 m 8 ls []) rfl ?_
  refine lv_aload_n (pc := 8) hx hb dX12_init_8 rfl (lv_at hl 0 rfl) ?_
  refine lv_iload_n (pc := 9) hx hb dX12_init_9 rfl (lv_at hl 1 rfl) ?_
  refine rk_putF (pc := 10) (q := b0) (A := FA (iv b0 1) s.heap.size) hx hb hts hown hK hW1 hS1 flX12_X12_7 ft_X12 0 (by decide) rfl (Or.inl (show iv _ _ _ from ⟨by omega, by omega⟩)) rfl rfl hin rfl (x := .int i1) rfl rfl (Nat.le_of_ble_eq_true rfl) (sI w1 0 6 i1) sI_ne (by rw [sI_eq]; rfl) dX12_init_10 (fun H2 locs2 hW2 hS2 hz2 hk2 => ?_)
  have hzz2 := hz2.trans hzz1
  exact rk_vret (pc := 13) hx hb hr hlk hS2 ⟨rfl, ⟨_, hW2, by simp [gI, sI]⟩, hzz2⟩ dX12_init_13
theorem ft_X13 : FT TX13 7 tyX13 := ⟨tyX13_ok, nmX13⟩
theorem flJ5_X13_7 : FL RJ5 7 13 0 RX13 TX13 7 := ⟨in_X13, rfl, by decide, q737⟩
theorem flJ5_X13_17 : FL RJ5 17 13 1 RX13 TX13 7 := ⟨in_X13, rfl, by decide, q738⟩
theorem flJ5_X13_24 : FL RJ5 24 13 2 RX13 TX13 7 := ⟨in_X13, rfl, by decide, q739⟩
theorem flJ5_X13_31 : FL RJ5 31 13 3 RX13 TX13 7 := ⟨in_X13, rfl, by decide, q736⟩
set_option maxHeartbeats 4000000 in
theorem ct_J5_init_2_X13 {G : Gv} {l : Launch} {b0 : Nat} {v0 : Mem} {sz : Nat} (hZ : ZQ G) (hgb : gB G ≤ b0) : CT G l yJ5_init_2 (ws_ yJ5_init_2 cJ5_init_2 5 none) 1 0 0 12 [.ref b0, .null, .null, .int (0 : Int32), .int (0 : Int32)] (iv b0 1) sz (fun H => rg G b0 1 (shX13 G.2.1) v0 H ∧ GO G H) (fun ov H => ov = none ∧ (∃ w, rg G b0 1 (shX13 G.2.1) w H) ∧ H.size = sz) := by
  refine va_MetF (cc := cJ5_init_2) (maxL := 5) (ret := none) (by decide +kernel) rfl ?_
  intro p e s m args below meth c s₁ B hml hv
  obtain ⟨rfl, ⟨hz0, hW, hG⟩, hK⟩ := hv
  subst hz0
  have hts := atoms_spec (ws := ws_ yJ5_init_2 cJ5_init_2 5 none) B.pre
  have hts : ∀ w ∈ lw_all, w.before _ s = true := fun w h => hts w (List.mem_cons_of_mem _ h)
  have hin : meth.name = "<init>" := (name_of_methodNamed B.named B.method).1
  have C : Cx G p s m _ meth c RJ5 cJ5_init_2 5 none := ⟨B.exec, B.bytes, B.returns, B.notSynchronized, hml, findClass_of_methodNamed B.named, hts, hK⟩
  have hl := lv_entry ([.ref b0, .null, .null, .int (0 : Int32), .int (0 : Int32)]) (n := 5) (Nat.le_of_ble_eq_true rfl)
  rw [lg_entry_eq]
  generalize (lg_sl ([.ref b0, .null, .null, .int (0 : Int32), .int (0 : Int32)]) ++ List.replicate (5 - (lg_sl ([.ref b0, .null, .null, .int (0 : Int32), .int (0 : Int32)])).length) Slot.unset).toArray = ls at hl ⊢
  have hl : lv_has ls 5 [(0, .ref b0), (1, .null), (2, .null), (3, .int (0 : Int32)), (4, .int (0 : Int32))] := hl
  obtain ⟨hx, hb, hr, hlk, hml, hown, hts, hK⟩ := id C
  refine lv_aload_n (pc := 0) hx hb dJ5_init_2_0 rfl (lv_at hl 0 rfl) ?_
  refine W.objInit hx hb hown (hts _ q706) (hts _ q159) (hts _ q160) rfl (by rw [hml]; exact hl.1) rfl dJ5_init_2_1 (Nat.le_of_ble_eq_true rfl) (Nat.le_of_ble_eq_true rfl) ?_
  refine W.eq (g2 := F0 m 4 ls []) rfl ?_
  refine lv_aload_n (pc := 4) hx hb dJ5_init_2_4 rfl (lv_at hl 0 rfl) ?_
  refine lv_aload_n (pc := 5) hx hb dJ5_init_2_5 rfl (lv_at hl 0 rfl) ?_
  refine rk_put (pc := 6) (q := b0) (A := FA (iv b0 1) s.heap.size) hx hb hts hown hK hW va_S.rf flJ5_X13_7 ft_X13 0 (by decide) rfl (Or.inl (show iv _ _ _ from ⟨by omega, by omega⟩)) rfl rfl  (x := va_rf (some b0)) (rf_nar _ rfl (some b0)) (rf_fit _ rfl (some b0)) (Nat.le_of_ble_eq_true rfl) (sR v0 0 0 (some b0)) sR_ne (by rw [sR_eq]; rfl) dJ5_init_2_6 (fun H1 locs1 hW1 hS1 hz1 hk1 => ?_)
  have hG1 := GO_keepq hG hk1 hgb
  have hzz1 := hz1.trans rfl
  refine lv_aload_n (pc := 9) hx hb dJ5_init_2_9 rfl (lv_at hl 0 rfl) ?_
  refine rk_getsq (pc := 10) hx hb hts (hZ s hK).1 hG1 hown q707 dJ5_init_2_10 (fun z2 => ?_)
  refine rk_put (pc := 13) (q := b0) (A := FA (iv b0 1) s.heap.size) hx hb hts hown hK hW1 hS1 flJ5_X13_17 ft_X13 0 (by decide) rfl (Or.inl (show iv _ _ _ from ⟨by omega, by omega⟩)) rfl rfl  (x := va_rf z2) (rf_nar _ rfl z2) (rf_fit _ rfl z2) (Nat.le_of_ble_eq_true rfl) (sR (sR v0 0 0 (some b0)) 0 1 z2) sR_ne (by rw [sR_eq]; rfl) dJ5_init_2_13 (fun H3 locs3 hW3 hS3 hz3 hk3 => ?_)
  have hG3 := GO_keepq hG1 hk3 hgb
  have hzz3 := hz3.trans hzz1
  refine lv_aload_n (pc := 16) hx hb dJ5_init_2_16 rfl (lv_at hl 0 rfl) ?_
  refine rk_getsq (pc := 17) hx hb hts (hZ s hK).2 hG3 hown q709 dJ5_init_2_17 (fun z4 => ?_)
  refine rk_put (pc := 20) (q := b0) (A := FA (iv b0 1) s.heap.size) hx hb hts hown hK hW3 hS3 flJ5_X13_24 ft_X13 0 (by decide) rfl (Or.inl (show iv _ _ _ from ⟨by omega, by omega⟩)) rfl rfl  (x := va_rf z4) (rf_nar _ rfl z4) (rf_fit _ rfl z4) (Nat.le_of_ble_eq_true rfl) (sR (sR (sR v0 0 0 (some b0)) 0 1 z2) 0 2 z4) sR_ne (by rw [sR_eq]; rfl) dJ5_init_2_20 (fun H5 locs5 hW5 hS5 hz5 hk5 => ?_)
  have hG5 := GO_keepq hG3 hk5 hgb
  have hzz5 := hz5.trans hzz3
  refine lv_iload (pc := 23) hx hb dJ5_init_2_23 (lv_at hl 4 rfl) ?_
  refine lv_if_eq (pc := 25) (tgt := 36) hx hb dJ5_init_2_25 (by decide) (fun _ => ?_) (fun h => absurd rfl h)
  refine lv_aload_n (pc := 36) hx hb dJ5_init_2_36 rfl (lv_at hl 0 rfl) ?_
  refine lv_null (pc := 37) hx hb dJ5_init_2_37 ?_
  refine rk_put (pc := 38) (q := b0) (A := FA (iv b0 1) s.heap.size) hx hb hts hown hK hW5 hS5 flJ5_X13_17 ft_X13 0 (by decide) rfl (Or.inl (show iv _ _ _ from ⟨by omega, by omega⟩)) rfl rfl  (x := va_rf none) (rf_nar _ rfl none) (rf_fit _ rfl none) (Nat.le_of_ble_eq_true rfl) (sR (sR (sR (sR v0 0 0 (some b0)) 0 1 z2) 0 2 z4) 0 1 none) sR_ne (by rw [sR_eq]; rfl) dJ5_init_2_38 (fun H6 locs6 hW6 hS6 hz6 hk6 => ?_)
  have hG6 := GO_keepq hG5 hk6 hgb
  have hzz6 := hz6.trans hzz5
  refine lv_aload_n (pc := 41) hx hb dJ5_init_2_41 rfl (lv_at hl 0 rfl) ?_
  refine lv_aload_nN (pc := 42) hx hb dJ5_init_2_42 rfl (lv_at hl 1 rfl) ?_
  refine rk_put (pc := 43) (q := b0) (A := FA (iv b0 1) s.heap.size) hx hb hts hown hK hW6 hS6 flJ5_X13_31 ft_X13 0 (by decide) rfl (Or.inl (show iv _ _ _ from ⟨by omega, by omega⟩)) rfl rfl  (x := va_rf none) (rf_nar _ rfl none) (rf_fit _ rfl none) (Nat.le_of_ble_eq_true rfl) (sR (sR (sR (sR (sR v0 0 0 (some b0)) 0 1 z2) 0 2 z4) 0 1 none) 0 3 none) sR_ne (by rw [sR_eq]; rfl) dJ5_init_2_43 (fun H7 locs7 hW7 hS7 hz7 hk7 => ?_)
  have hG7 := GO_keepq hG6 hk7 hgb
  have hzz7 := hz7.trans hzz6
  refine lv_aload_n (pc := 46) hx hb dJ5_init_2_46 rfl (lv_at hl 0 rfl) ?_
  refine lv_aload_nN (pc := 47) hx hb dJ5_init_2_47 rfl (lv_at hl 2 rfl) ?_
  refine rk_put (pc := 48) (q := b0) (A := FA (iv b0 1) s.heap.size) hx hb hts hown hK hW7 hS7 flJ5_X13_7 ft_X13 0 (by decide) rfl (Or.inl (show iv _ _ _ from ⟨by omega, by omega⟩)) rfl rfl  (x := va_rf none) (rf_nar _ rfl none) (rf_fit _ rfl none) (Nat.le_of_ble_eq_true rfl) (sR (sR (sR (sR (sR (sR v0 0 0 (some b0)) 0 1 z2) 0 2 z4) 0 1 none) 0 3 none) 0 0 none) sR_ne (by rw [sR_eq]; rfl) dJ5_init_2_48 (fun H8 locs8 hW8 hS8 hz8 hk8 => ?_)
  have hG8 := GO_keepq hG7 hk8 hgb
  have hzz8 := hz8.trans hzz7
  refine lv_iload_n (pc := 51) hx hb dJ5_init_2_51 rfl (lv_at hl 3 rfl) ?_
  refine lv_if_ne (pc := 52) (tgt := 60) hx hb dJ5_init_2_52 (by decide) (fun h => absurd rfl h) (fun _ => ?_)
  refine lv_aload_n (pc := 55) hx hb dJ5_init_2_55 rfl (lv_at hl 0 rfl) ?_
  refine lv_null (pc := 56) hx hb dJ5_init_2_56 ?_
  refine rk_put (pc := 57) (q := b0) (A := FA (iv b0 1) s.heap.size) hx hb hts hown hK hW8 hS8 flJ5_X13_24 ft_X13 0 (by decide) rfl (Or.inl (show iv _ _ _ from ⟨by omega, by omega⟩)) rfl rfl  (x := va_rf none) (rf_nar _ rfl none) (rf_fit _ rfl none) (Nat.le_of_ble_eq_true rfl) (sR (sR (sR (sR (sR (sR (sR v0 0 0 (some b0)) 0 1 z2) 0 2 z4) 0 1 none) 0 3 none) 0 0 none) 0 2 none) sR_ne (by rw [sR_eq]; rfl) dJ5_init_2_57 (fun H9 locs9 hW9 hS9 hz9 hk9 => ?_)
  have hG9 := GO_keepq hG8 hk9 hgb
  have hzz9 := hz9.trans hzz8
  exact rk_vret (pc := 60) hx hb hr hlk hS9 ⟨rfl, ⟨_, hW9⟩, hzz9⟩ dJ5_init_2_60
set_option maxHeartbeats 4000000 in
theorem ct_J6_init_X13 {G : Gv} {l : Launch} {b0 : Nat} {v0 : Mem} {sz : Nat} (hZ : ZQ G) (hgb : gB G ≤ b0) : CT G l yJ6_init (ws_ yJ6_init cJ6_init 5 none) 2 0 0 36 [.ref b0, .null, .null, .int (0 : Int32), .int (0 : Int32)] (iv b0 1) sz (fun H => rg G b0 1 (shX13 G.2.1) v0 H ∧ GO G H) (fun ov H => ov = none ∧ (∃ w, rg G b0 1 (shX13 G.2.1) w H) ∧ H.size = sz) := by
  refine va_MetF (cc := cJ6_init) (maxL := 5) (ret := none) (by decide +kernel) rfl ?_
  intro p e s m args below meth c s₁ B hml hv
  obtain ⟨rfl, ⟨hz0, hW, hG⟩, hK⟩ := hv
  subst hz0
  have hts := atoms_spec (ws := ws_ yJ6_init cJ6_init 5 none) B.pre
  have hts : ∀ w ∈ lw_all, w.before _ s = true := fun w h => hts w (List.mem_cons_of_mem _ h)
  have hin : meth.name = "<init>" := (name_of_methodNamed B.named B.method).1
  have C : Cx G p s m _ meth c RJ6 cJ6_init 5 none := ⟨B.exec, B.bytes, B.returns, B.notSynchronized, hml, findClass_of_methodNamed B.named, hts, hK⟩
  have hl := lv_entry ([.ref b0, .null, .null, .int (0 : Int32), .int (0 : Int32)]) (n := 5) (Nat.le_of_ble_eq_true rfl)
  rw [lg_entry_eq]
  generalize (lg_sl ([.ref b0, .null, .null, .int (0 : Int32), .int (0 : Int32)]) ++ List.replicate (5 - (lg_sl ([.ref b0, .null, .null, .int (0 : Int32), .int (0 : Int32)])).length) Slot.unset).toArray = ls at hl ⊢
  have hl : lv_has ls 5 [(0, .ref b0), (1, .null), (2, .null), (3, .int (0 : Int32)), (4, .int (0 : Int32))] := hl
  obtain ⟨hx, hb, hr, hlk, hml, hown, hts, hK⟩ := id C
  refine lv_aload_n (pc := 0) hx hb dJ6_init_0 rfl (lv_at hl 0 rfl) ?_
  refine lv_aload_nN (pc := 1) hx hb dJ6_init_1 rfl (lv_at hl 1 rfl) ?_
  refine lv_aload_nN (pc := 2) hx hb dJ6_init_2 rfl (lv_at hl 2 rfl) ?_
  refine lv_iload_n (pc := 3) hx hb dJ6_init_3 rfl (lv_at hl 3 rfl) ?_
  refine lv_iload (pc := 4) hx hb dJ6_init_4 (lv_at hl 4 rfl) ?_
  refine rk_TI (pc := 6) (As := [.null, .null, .int (0 : Int32), .int (0 : Int32)]) (rest := []) hx hb hml hown hts hK va_S.rf (fun q hq => FA_sz rfl q hq) liJ6_16 yn_J5_init_2 (ct_J5_init_2_X13 (G := G) (l := l) (v0 := v0) (sz := s.heap.size) hZ hgb) ⟨Nat.le_of_ble_eq_true rfl, Nat.le_of_ble_eq_true rfl⟩ (fun z h => Or.inl h) ⟨hW, hG⟩ rfl rfl hl.1 (Nat.le_of_ble_eq_true rfl) dJ6_init_6 ⟨Nat.le_of_ble_eq_true rfl, Nat.le_of_ble_eq_true rfl⟩ (fun ov9 H1 locs1 hP1 hk1 hS1 => ?_)
  obtain ⟨rfl, ⟨w1, hW1⟩, hzz1⟩ := hP1
  have hzz1 := hzz1.trans rfl
  refine W.eq (g2 := F0 m 9 ls []) rfl ?_
  exact rk_vret (pc := 9) hx hb hr hlk hS1 ⟨rfl, ⟨_, hW1⟩, hzz1⟩ dJ6_init_9
theorem liX13_1 : LI RX13 1 yJ6_init cJ6_init 5 := ⟨q828, q728, q132, q729, rfl⟩
theorem flX13_X13_7 : FL RX13 7 13 6 RX13 TX13 7 := ⟨in_X13, rfl, by decide, q829⟩
set_option maxHeartbeats 4000000 in
theorem ct_X13_init {G : Gv} {l : Launch} {b0 : Nat} {v0 : Mem} {i1 : Int32} {sz : Nat} (hZ : ZQ G) (hgb : gB G ≤ b0) : CT G l yX13_init (ws_ yX13_init cX13_init 2 none) 3 0 0 60 [.ref b0, .int i1] (iv b0 1) sz (fun H => rg G b0 1 (shX13 G.2.1) v0 H ∧ GO G H) (fun ov H => ov = none ∧ (∃ w, rg G b0 1 (shX13 G.2.1) w H ∧ gI w 0 6 = i1) ∧ H.size = sz) := by
  refine Met.ofW (cc := cX13_init) (maxL := 2) (ret := none) (by decide +kernel) rfl ?_
  intro p e s m args below meth c s₁ B hml hv
  obtain ⟨rfl, ⟨hz0, hW, hG⟩, hK⟩ := hv
  subst hz0
  have hts := atoms_spec (ws := ws_ yX13_init cX13_init 2 none) B.pre
  have hts : ∀ w ∈ lw_all, w.before _ s = true := fun w h => hts w (List.mem_cons_of_mem _ h)
  have hin : meth.name = "<init>" := (name_of_methodNamed B.named B.method).1
  have C : Cx G p s m _ meth c RX13 cX13_init 2 none := ⟨B.exec, B.bytes, B.returns, B.notSynchronized, hml, findClass_of_methodNamed B.named, hts, hK⟩
  have hl := lv_entry ([.ref b0, .int i1]) (n := 2) (Nat.le_of_ble_eq_true rfl)
  rw [lg_entry_eq]
  generalize (lg_sl ([.ref b0, .int i1]) ++ List.replicate (2 - (lg_sl ([.ref b0, .int i1])).length) Slot.unset).toArray = ls at hl ⊢
  have hl : lv_has ls 2 [(0, .ref b0), (1, .int i1)] := hl
  obtain ⟨hx, hb, hr, hlk, hml, hown, hts, hK⟩ := id C
  refine lv_aload_n (pc := 0) hx hb dX13_init_0 rfl (lv_at hl 0 rfl) ?_
  refine lv_null (pc := 1) hx hb dX13_init_1 ?_
  refine lv_null (pc := 2) hx hb dX13_init_2 ?_
  refine lv_iconst (pc := 3) (v := (0 : Int32)) hx hb dX13_init_3 (by decide) ?_
  refine lv_iconst (pc := 4) (v := (0 : Int32)) hx hb dX13_init_4 (by decide) ?_
  refine rk_TI (pc := 5) (As := [.null, .null, .int (0 : Int32), .int (0 : Int32)]) (rest := []) hx hb hml hown hts hK va_S.rf (fun q hq => FA_sz rfl q hq) liX13_1 yn_J6_init (ct_J6_init_X13 (G := G) (l := l) (v0 := v0) (sz := s.heap.size) hZ hgb) ⟨Nat.le_of_ble_eq_true rfl, Nat.le_of_ble_eq_true rfl⟩ (fun z h => Or.inl h) ⟨hW, hG⟩ rfl rfl hl.1 (Nat.le_of_ble_eq_true rfl) dX13_init_5 ⟨Nat.le_of_ble_eq_true rfl, Nat.le_of_ble_eq_true rfl⟩ (fun ov9 H1 locs1 hP1 hk1 hS1 => ?_)
  obtain ⟨rfl, ⟨w1, hW1⟩, hzz1⟩ := hP1
  have hzz1 := hzz1.trans rfl
  refine W.eq (g2 := F0 m 8 ls []) rfl ?_
  refine lv_aload_n (pc := 8) hx hb dX13_init_8 rfl (lv_at hl 0 rfl) ?_
  refine lv_iload_n (pc := 9) hx hb dX13_init_9 rfl (lv_at hl 1 rfl) ?_
  refine rk_putF (pc := 10) (q := b0) (A := FA (iv b0 1) s.heap.size) hx hb hts hown hK hW1 hS1 flX13_X13_7 ft_X13 0 (by decide) rfl (Or.inl (show iv _ _ _ from ⟨by omega, by omega⟩)) rfl rfl hin rfl (x := .int i1) rfl rfl (Nat.le_of_ble_eq_true rfl) (sI w1 0 6 i1) sI_ne (by rw [sI_eq]; rfl) dX13_init_10 (fun H2 locs2 hW2 hS2 hz2 hk2 => ?_)
  have hzz2 := hz2.trans hzz1
  exact rk_vret (pc := 13) hx hb hr hlk hS2 ⟨rfl, ⟨_, hW2, by simp [gI, sI]⟩, hzz2⟩ dX13_init_13
end
