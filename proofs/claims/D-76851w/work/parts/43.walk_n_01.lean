set_option maxRecDepth 100000
section
variable {p : Program} {l : Launch} {e : Env} {s : State} {m : MethodId} {args : Array Value} {below : List Frame} {meth : Method} {c : Code} {G : Gv}
def shX6 (dA : Nat → ClassId) : Shp := fun o a x y z => if o < 1 then (match o with | 0 => some (.inr (6, [va_rf (z 0)])) | _ => none) else none
def shX5 (dA : Nat → ClassId) : Shp := fun o a x y z => if o < 1 then (match o with | 0 => some (.inr (5, [])) | _ => none) else none
def shJ1 (dA : Nat → ClassId) : Shp := fun o a x y z => if o < 1 then (match o with | 0 => some (.inr (16, [va_rf (z 0), va_rf (z 1), va_rf (z 2), va_rf (z 3), .int (x 4), .int (x 5), va_rf (z 6), va_rf (z 7), va_rf (z 8)])) | _ => none) else none
def shO_J1 : Shp := fun _ _ x y z => some (.inr (16, [va_rf (z 0), va_rf (z 1), va_rf (z 2), va_rf (z 3), .int (x 4), .int (x 5), va_rf (z 6), va_rf (z 7), va_rf (z 8)]))
theorem df_J1 (fs : List Value) (h : fs = [.null, .null, .null, .null, .int 0, .int 0, .null, .null, .null]) : ∀ j, j < 9 → defaultValue (tyJ1 j) = vp_V fs j := by
  subst h
  intro j hj
  match j, hj with
  | 0, _ => rfl
  | 1, _ => rfl
  | 2, _ => rfl
  | 3, _ => rfl
  | 4, _ => rfl
  | 5, _ => rfl
  | 6, _ => rfl
  | 7, _ => rfl
  | 8, _ => rfl
  | n + 9, h => exact absurd h (by omega)
theorem lkJ1_1 : LI RJ1 1 yJ0_init cJ0_init 1 := ⟨q329, q330, q119, q331, rfl⟩
theorem yn_J0_init : YN yJ0_init 0 := by
  unfold YN
  decide +kernel
def vi_J1_init_6 (b0 : Nat) : Mem := sI mz 0 4 (0 : Int32)
def vo_J1_init_6 (b0 : Nat) : Mem := sI mz 0 4 (0 : Int32)
def vi_J1_init_13 (b0 : Nat) : Mem := sI (vi_J1_init_6 b0) 0 5 (0 : Int32)
def vo_J1_init_13 (b0 : Nat) : Mem := sI (vo_J1_init_6 b0) 0 5 (0 : Int32)
def vo_J1_init_20 (b0 : Nat) : Mem := sR (vo_J1_init_13 b0) 0 2 none
def vc_J1 (b0 : Nat) : Mem := (vo_J1_init_20 b0)
set_option maxHeartbeats 4000000 in
theorem ct_J1_init {G : Gv} {l : Launch} {b0 : Nat} {sz : Nat} (hsz : sz = b0 + 1) : CT G l yJ1_init (ws_ yJ1_init cJ1_init 1 none) 2 0 0 52 [.ref b0] (iv b0 1) sz (fun H => rg G b0 1 shO_J1 mz H) (fun ov H => ov = none ∧ rg G b0 1 (shJ1 G.2.1) (vc_J1 b0) H ∧ H.size = b0 + 1) := by
  refine Met.ofW (cc := cJ1_init) (maxL := 1) (ret := none) (by decide +kernel) rfl ?_
  intro p e s m args below meth c s₁ B hml hv
  obtain ⟨rfl, ⟨hz, hW0⟩, hK⟩ := hv
  subst hz
  have hz : s.heap.size = b0 + 1 := hsz
  have hin : meth.name = "<init>" := (name_of_methodNamed B.named B.method).1
  have hts := atoms_spec (ws := ws_ yJ1_init cJ1_init 1 none) B.pre
  have hts : ∀ w ∈ lw_all, w.before _ s = true := fun w h => hts w (List.mem_cons_of_mem _ h)
  have C : Cx G p s m _ meth c RJ1 cJ1_init 1 none := ⟨B.exec, B.bytes, B.returns, B.notSynchronized, hml, findClass_of_methodNamed B.named, hts, hK⟩
  obtain ⟨hx, hb, hr, hlk, hml, hown, hts, hK⟩ := id C
  have hl := lv_entry ([.ref b0]) (n := 1) (Nat.le_of_ble_eq_true rfl)
  rw [lg_entry_eq]
  generalize (lg_sl ([.ref b0]) ++ List.replicate (1 - (lg_sl ([.ref b0])).length) Slot.unset).toArray = ls at hl ⊢
  have hl : lv_has ls 1 [(0, .ref b0)] := hl
  have hS0 : va_S (FA (iv b0 1) s.heap.size) s.heap s.heap [] := va_S.rf
  refine lv_aload_n (pc := 0) hx hb dJ1_init_0 rfl (lv_at hl 0 rfl) ?_
  refine rk_PI (pc := 1) (As := []) (rest := []) hx hb hml hown hts hK lkJ1_1 yn_J0_init (ct_J0_init (G := G) (l := l) (p0 := b0) rfl) ⟨Nat.le_of_ble_eq_true rfl, Nat.le_of_ble_eq_true rfl⟩ trivial rfl rfl hl.1 (Nat.le_of_ble_eq_true rfl) dJ1_init_1 ⟨Nat.zero_le _, Nat.zero_le _⟩ ?_
  refine W.eq (g2 := F0 m 4 ls []) rfl ?_
  refine lv_aload_n (pc := 4) hx hb dJ1_init_4 rfl (lv_at hl 0 rfl) ?_
  refine lv_iconst (pc := 5) (v := (0 : Int32)) hx hb dJ1_init_5 (by decide) ?_
  refine rk_put (pc := 6) (q := b0) hx hb hts hown hK hW0 hS0 flJ1_7 ft_J1 0 (by decide) rfl (Or.inl (show iv _ _ _ from ⟨by omega, by omega⟩)) rfl rfl (x := .int (0 : Int32)) rfl rfl (Nat.le_of_ble_eq_true rfl) (sI mz 0 4 (0 : Int32)) sI_ne (by rw [sI_eq]; rfl) dJ1_init_6 (fun H1 locs2 hW3 hS4 hz5 hkp6 => ?_)
  have hW3 : rg G b0 1 shO_J1 (vo_J1_init_6 b0) H1 := hW3
  have hz7 := hz5.trans hz
  clear hW0 hz hz5 hS0 hkp6
  refine lv_aload_n (pc := 9) hx hb dJ1_init_9 rfl (lv_at hl 0 rfl) ?_
  refine lv_iconst (pc := 10) (v := (0 : Int32)) hx hb dJ1_init_10 (by decide) ?_
  refine rk_put (pc := 11) (q := b0) hx hb hts hown hK hW3 hS4 flJ1_13 ft_J1 0 (by decide) rfl (Or.inl (show iv _ _ _ from ⟨by omega, by omega⟩)) rfl rfl (x := .int (0 : Int32)) rfl rfl (Nat.le_of_ble_eq_true rfl) (sI (vo_J1_init_6 b0) 0 5 (0 : Int32)) sI_ne (by rw [sI_eq]; rfl) dJ1_init_11 (fun H8 locs9 hW10 hS11 hz12 hkp13 => ?_)
  have hW10 : rg G b0 1 shO_J1 (vo_J1_init_13 b0) H8 := hW10
  have hz14 := hz12.trans hz7
  clear hW3 hz7 hz12 hS4 hkp13
  refine lv_aload_n (pc := 14) hx hb dJ1_init_14 rfl (lv_at hl 0 rfl) ?_
  refine lv_null (pc := 15) hx hb dJ1_init_15 ?_
  refine rk_putF (pc := 16) (q := b0) hx hb hts hown hK hW10 hS11 flJ1_16 ft_J1 0 (by decide) rfl (Or.inl (show iv _ _ _ from ⟨by omega, by omega⟩)) rfl rfl hin rfl (x := va_rf none) (rf_nar _ rfl none) (rf_fit _ rfl none) (Nat.le_of_ble_eq_true rfl) (sR (vo_J1_init_13 b0) 0 2 none) sR_ne (by rw [sR_eq]; rfl) dJ1_init_16 (fun H15 locs16 hW17 hS18 hz19 hkp20 => ?_)
  have hW17 : rg G b0 1 shO_J1 (vo_J1_init_20 b0) H15 := hW17
  have hz21 := hz19.trans hz14
  clear hW10 hz14 hz19 hS11 hkp20
  have hA0 : rg G b0 1 (shJ1 G.2.1) (vo_J1_init_20 b0) H15 := rg_cast hW17 rfl
  exact rk_vretA (pc := 19) hx hb hr hlk hS18 ⟨rfl, hA0, hz21⟩ dJ1_init_19 (Nat.le_of_ble_eq_true rfl) (Nat.le_of_ble_eq_true rfl)
def shO_X5 : Shp := fun _ _ x y z => some (.inr (5, []))
def vc_X5 (b0 : Nat) : Mem := (mz)
set_option maxHeartbeats 4000000 in
theorem ct_X5_init {G : Gv} {l : Launch} {b0 : Nat} {sz : Nat} (hsz : sz = b0 + 1) : CT G l yX5_init (ws_ yX5_init cX5_init 1 none) 1 0 0 32 [.ref b0] (iv b0 1) sz (fun H => rg G b0 1 shO_X5 mz H) (fun ov H => ov = none ∧ rg G b0 1 (shX5 G.2.1) (vc_X5 b0) H ∧ H.size = b0 + 1) := by
  refine Met.ofW (cc := cX5_init) (maxL := 1) (ret := none) (by decide +kernel) rfl ?_
  intro p e s m args below meth c s₁ B hml hv
  obtain ⟨rfl, ⟨hz, hW0⟩, hK⟩ := hv
  subst hz
  have hz : s.heap.size = b0 + 1 := hsz
  have hin : meth.name = "<init>" := (name_of_methodNamed B.named B.method).1
  have hts := atoms_spec (ws := ws_ yX5_init cX5_init 1 none) B.pre
  have hts : ∀ w ∈ lw_all, w.before _ s = true := fun w h => hts w (List.mem_cons_of_mem _ h)
  have C : Cx G p s m _ meth c RX5 cX5_init 1 none := ⟨B.exec, B.bytes, B.returns, B.notSynchronized, hml, findClass_of_methodNamed B.named, hts, hK⟩
  obtain ⟨hx, hb, hr, hlk, hml, hown, hts, hK⟩ := id C
  have hl := lv_entry ([.ref b0]) (n := 1) (Nat.le_of_ble_eq_true rfl)
  rw [lg_entry_eq]
  generalize (lg_sl ([.ref b0]) ++ List.replicate (1 - (lg_sl ([.ref b0])).length) Slot.unset).toArray = ls at hl ⊢
  have hl : lv_has ls 1 [(0, .ref b0)] := hl
  have hS0 : va_S (FA (iv b0 1) s.heap.size) s.heap s.heap [] := va_S.rf
  refine lv_aload_n (pc := 0) hx hb dX5_init_0 rfl (lv_at hl 0 rfl) ?_
  refine W.objInit hx hb hown (hts _ q371) (hts _ q159) (hts _ q160) rfl (by rw [hml]; exact hl.1) rfl dX5_init_1 (Nat.le_of_ble_eq_true rfl) (Nat.le_of_ble_eq_true rfl) ?_
  refine W.eq (g2 := F0 m 4 ls []) rfl ?_
  have hA0 : rg G b0 1 (shX5 G.2.1) (mz) s.heap := rg_cast hW0 rfl
  exact rk_vretA (pc := 4) hx hb hr hlk hS0 ⟨rfl, hA0, hz⟩ dX5_init_4 (Nat.le_of_ble_eq_true rfl) (Nat.le_of_ble_eq_true rfl)
def shO_X6 : Shp := fun _ _ x y z => some (.inr (6, [va_rf (z 0)]))
theorem df_X6 (fs : List Value) (h : fs = [.null]) : ∀ j, j < 1 → defaultValue (tyX6 j) = vp_V fs j := by
  subst h
  intro j hj
  match j, hj with
  | 0, _ => rfl
  | n + 1, h => exact absurd h (by omega)
theorem ft_X6 : FT TX6 1 tyX6 := ⟨tyX6_ok, nmX6⟩
def vc_X6 (b0 : Nat) : Mem := (mz)
set_option maxHeartbeats 4000000 in
theorem ct_X6_init {G : Gv} {l : Launch} {b0 : Nat} {sz : Nat} (hsz : sz = b0 + 1) : CT G l yX6_init (ws_ yX6_init cX6_init 1 none) 1 0 0 32 [.ref b0] (iv b0 1) sz (fun H => rg G b0 1 shO_X6 mz H) (fun ov H => ov = none ∧ rg G b0 1 (shX6 G.2.1) (vc_X6 b0) H ∧ H.size = b0 + 1) := by
  refine Met.ofW (cc := cX6_init) (maxL := 1) (ret := none) (by decide +kernel) rfl ?_
  intro p e s m args below meth c s₁ B hml hv
  obtain ⟨rfl, ⟨hz, hW0⟩, hK⟩ := hv
  subst hz
  have hz : s.heap.size = b0 + 1 := hsz
  have hin : meth.name = "<init>" := (name_of_methodNamed B.named B.method).1
  have hts := atoms_spec (ws := ws_ yX6_init cX6_init 1 none) B.pre
  have hts : ∀ w ∈ lw_all, w.before _ s = true := fun w h => hts w (List.mem_cons_of_mem _ h)
  have C : Cx G p s m _ meth c RX6 cX6_init 1 none := ⟨B.exec, B.bytes, B.returns, B.notSynchronized, hml, findClass_of_methodNamed B.named, hts, hK⟩
  obtain ⟨hx, hb, hr, hlk, hml, hown, hts, hK⟩ := id C
  have hl := lv_entry ([.ref b0]) (n := 1) (Nat.le_of_ble_eq_true rfl)
  rw [lg_entry_eq]
  generalize (lg_sl ([.ref b0]) ++ List.replicate (1 - (lg_sl ([.ref b0])).length) Slot.unset).toArray = ls at hl ⊢
  have hl : lv_has ls 1 [(0, .ref b0)] := hl
  have hS0 : va_S (FA (iv b0 1) s.heap.size) s.heap s.heap [] := va_S.rf
  refine lv_aload_n (pc := 0) hx hb dX6_init_0 rfl (lv_at hl 0 rfl) ?_
  refine W.objInit hx hb hown (hts _ q413) (hts _ q159) (hts _ q160) rfl (by rw [hml]; exact hl.1) rfl dX6_init_1 (Nat.le_of_ble_eq_true rfl) (Nat.le_of_ble_eq_true rfl) ?_
  refine W.eq (g2 := F0 m 4 ls []) rfl ?_
  have hA0 : rg G b0 1 (shX6 G.2.1) (mz) s.heap := rg_cast hW0 rfl
  exact rk_vretA (pc := 4) hx hb hr hlk hS0 ⟨rfl, hA0, hz⟩ dX6_init_4 (Nat.le_of_ble_eq_true rfl) (Nat.le_of_ble_eq_true rfl)
def shO_J4 : Shp := fun _ _ x y z => some (.inr (17, [va_rf (z 0), .int (x 1), va_rf (z 2), .int (x 3)]))
theorem df_J4 (fs : List Value) (h : fs = [.null, .int 0, .null, .int 0]) : ∀ j, j < 4 → defaultValue (tyJ4 j) = vp_V fs j := by
  subst h
  intro j hj
  match j, hj with
  | 0, _ => rfl
  | 1, _ => rfl
  | 2, _ => rfl
  | 3, _ => rfl
  | n + 4, h => exact absurd h (by omega)
theorem lkJ4_7 : LI RJ4 7 yJ3_init cJ3_init 1 := ⟨q380, q381, q122, q382, rfl⟩
theorem yn_J3_init : YN yJ3_init 0 := by
  unfold YN
  decide +kernel
def vo_J4_init_2_n_13 (b0 : Nat) (h0 : Nat) : Mem := sR mz 0 0 (some h0)
def vo_J4_init_2_n_21 (b0 : Nat) (h0 : Nat) : Mem := sR (vo_J4_init_2_n_13 b0 h0) 0 2 none
def vc_J4_init_2_n (b0 : Nat) (h0 : Nat) : Mem := vo_J4_init_2_n_21 b0 h0
set_option maxHeartbeats 4000000 in
theorem ct_J4_init_2_n {G : Gv} {l : Launch} {b0 : Nat} {h0 : Nat} {sz : Nat} (hsz : sz = h0) (hbh : b0 < h0) : CT G l yJ4_init_2 (ws_ yJ4_init_2 cJ4_init_2 3 none) 3 1 11 72 [.ref b0, .int (11 : Int32), .null] (iv b0 1) sz (fun H => rg G b0 1 shO_J4 mz H) (fun ov H => ov = none ∧ rg G b0 1 shO_J4 (vc_J4_init_2_n b0 h0) H ∧ rg G h0 1 (fun _ _ _ _ z => some (.inl (G.2.1 12, 11, .inr (.inr (.inr (.inr z)))))) mz H ∧ H.size = h0 + 1) := by
  refine Met.ofW (cc := cJ4_init_2) (maxL := 3) (ret := none) (by decide +kernel) rfl ?_
  intro p e s m args below meth c s₁ B hml hv
  obtain ⟨rfl, ⟨hz, hW0⟩, hK⟩ := hv
  subst hz
  have hz : s.heap.size = h0 := hsz
  have hin : meth.name = "<init>" := (name_of_methodNamed B.named B.method).1
  have hts := atoms_spec (ws := ws_ yJ4_init_2 cJ4_init_2 3 none) B.pre
  have hts : ∀ w ∈ lw_all, w.before _ s = true := fun w h => hts w (List.mem_cons_of_mem _ h)
  have C : Cx G p s m _ meth c RJ4 cJ4_init_2 3 none := ⟨B.exec, B.bytes, B.returns, B.notSynchronized, hml, findClass_of_methodNamed B.named, hts, hK⟩
  obtain ⟨hx, hb, hr, hlk, hml, hown, hts, hK⟩ := id C
  have hl := lv_entry ([.ref b0, .int (11 : Int32), .null]) (n := 3) (Nat.le_of_ble_eq_true rfl)
  rw [lg_entry_eq]
  generalize (lg_sl ([.ref b0, .int (11 : Int32), .null]) ++ List.replicate (3 - (lg_sl ([.ref b0, .int (11 : Int32), .null])).length) Slot.unset).toArray = ls at hl ⊢
  have hl : lv_has ls 3 [(0, .ref b0), (1, .int (11 : Int32)), (2, .null)] := hl
  have hS0 : va_S (FA (iv b0 1) s.heap.size) s.heap s.heap [] := va_S.rf
  refine lv_aload_n (pc := 0) hx hb dJ4_init_2_0 rfl (lv_at hl 0 rfl) ?_
  refine rk_PI (pc := 1) (As := []) (rest := []) hx hb hml hown hts hK lkJ4_7 yn_J3_init (ct_J3_init (G := G) (l := l) (p0 := b0) rfl) ⟨Nat.le_of_ble_eq_true rfl, Nat.le_of_ble_eq_true rfl⟩ trivial rfl rfl hl.1 (Nat.le_of_ble_eq_true rfl) dJ4_init_2_1 ⟨Nat.zero_le _, Nat.zero_le _⟩ ?_
  refine W.eq (g2 := F0 m 4 ls []) rfl ?_
  refine lv_iload_n (pc := 4) hx hb dJ4_init_2_4 rfl (lv_at hl 1 rfl) ?_
  refine lv_iconst (pc := 5) (v := (1 : Int32)) hx hb dJ4_init_2_5 (by decide) ?_
  refine lv_icmp_ge (pc := 6) (tgt := 17) hx hb dJ4_init_2_6 (by decide) (fun _ => ?_) (fun h => absurd (by decide) h)
  refine lv_aload_n (pc := 17) hx hb dJ4_init_2_17 rfl (lv_at hl 0 rfl) ?_
  refine lv_iload_n (pc := 18) hx hb dJ4_init_2_18 rfl (lv_at hl 1 rfl) ?_
  refine rk_anew (pc := 19) (h := h0 + 0) (C := "java/lang/Object") (sh := (fun _ _ _ _ z => some (.inl (G.2.1 12, 11, .inr (.inr (.inr (.inr z))))))) hx hb hts hown hK hS0 q387 q388 12 rfl hz rfl (by decide) rfl (Nat.le_of_ble_eq_true rfl) (Nat.le_of_ble_eq_true rfl) (Nat.le_of_ble_eq_true rfl) dJ4_init_2_19 (fun H1 hW2 hS3 hz4 hkp5 => ?_)
  have hW6 := rg_keepN hW0 hz hkp5
  have hz7 : H1.size = h0 + 1 := by omega
  clear hW0 hS0 hz hz4 hkp5
  refine rk_put (pc := 22) (q := b0) hx hb hts hown hK hW6 hS3 flJ4_17 ft_J4 0 (by decide) rfl (Or.inl (show iv _ _ _ from ⟨by omega, by omega⟩)) rfl rfl (x := va_rf (some h0)) (rf_nar _ rfl (some h0)) (rf_fit _ rfl (some h0)) (Nat.le_of_ble_eq_true rfl) (sR mz 0 0 (some h0)) sR_ne (by rw [sR_eq]; rfl) dJ4_init_2_22 (fun H8 locs9 hW10 hS11 hz12 hkp13 => ?_)
  have hW10 : rg G b0 1 shO_J4 (vo_J4_init_2_n_13 b0 h0) H8 := hW10
  have hW14 := rg_keepq hW2 hkp13 (by omega)
  have hz15 := hz12.trans hz7
  clear hW6 hW2 hz7 hz12 hS3 hkp13
  refine lv_aload_n (pc := 25) hx hb dJ4_init_2_25 rfl (lv_at hl 0 rfl) ?_
  refine lv_aload_nN (pc := 26) hx hb dJ4_init_2_26 rfl (lv_at hl 2 rfl) ?_
  refine rk_putF (pc := 27) (q := b0) hx hb hts hown hK hW10 hS11 flJ4_21 ft_J4 0 (by decide) rfl (Or.inl (show iv _ _ _ from ⟨by omega, by omega⟩)) rfl rfl hin rfl (x := va_rf none) (rf_nar _ rfl none) (rf_fit _ rfl none) (Nat.le_of_ble_eq_true rfl) (sR (vo_J4_init_2_n_13 b0 h0) 0 2 none) sR_ne (by rw [sR_eq]; rfl) dJ4_init_2_27 (fun H16 locs17 hW18 hS19 hz20 hkp21 => ?_)
  have hW18 : rg G b0 1 shO_J4 (vo_J4_init_2_n_21 b0 h0) H16 := hW18
  have hW22 := rg_keepq hW14 hkp21 (by omega)
  have hz23 := hz20.trans hz15
  clear hW10 hW14 hz15 hz20 hS11 hkp21
  exact rk_vretA (pc := 30) hx hb hr hlk hS19 ⟨rfl, hW18, hW22, hz23⟩ dJ4_init_2_30 (Nat.le_of_ble_eq_true rfl) (Nat.le_of_ble_eq_true rfl)
def vo_J4_init_2_c_13 (b0 : Nat) (h0 : Nat) (b2 : Nat) : Mem := sR mz 0 0 (some h0)
def vo_J4_init_2_c_21 (b0 : Nat) (h0 : Nat) (b2 : Nat) : Mem := sR (vo_J4_init_2_c_13 b0 h0 b2) 0 2 (some b2)
def vc_J4_init_2_c (b0 : Nat) (h0 : Nat) (b2 : Nat) : Mem := vo_J4_init_2_c_21 b0 h0 b2
set_option maxHeartbeats 4000000 in
theorem ct_J4_init_2_c {G : Gv} {l : Launch} {b0 : Nat} {h0 : Nat} {b2 : Nat} {sz : Nat} (hsz : sz = h0) (hbh : b0 < h0) : CT G l yJ4_init_2 (ws_ yJ4_init_2 cJ4_init_2 3 none) 3 1 11 72 [.ref b0, .int (11 : Int32), .ref b2] (iv b0 1) sz (fun H => rg G b0 1 shO_J4 mz H) (fun ov H => ov = none ∧ rg G b0 1 shO_J4 (vc_J4_init_2_c b0 h0 b2) H ∧ rg G h0 1 (fun _ _ _ _ z => some (.inl (G.2.1 12, 11, .inr (.inr (.inr (.inr z)))))) mz H ∧ H.size = h0 + 1) := by
  refine Met.ofW (cc := cJ4_init_2) (maxL := 3) (ret := none) (by decide +kernel) rfl ?_
  intro p e s m args below meth c s₁ B hml hv
  obtain ⟨rfl, ⟨hz, hW0⟩, hK⟩ := hv
  subst hz
  have hz : s.heap.size = h0 := hsz
  have hin : meth.name = "<init>" := (name_of_methodNamed B.named B.method).1
  have hts := atoms_spec (ws := ws_ yJ4_init_2 cJ4_init_2 3 none) B.pre
  have hts : ∀ w ∈ lw_all, w.before _ s = true := fun w h => hts w (List.mem_cons_of_mem _ h)
  have C : Cx G p s m _ meth c RJ4 cJ4_init_2 3 none := ⟨B.exec, B.bytes, B.returns, B.notSynchronized, hml, findClass_of_methodNamed B.named, hts, hK⟩
  obtain ⟨hx, hb, hr, hlk, hml, hown, hts, hK⟩ := id C
  have hl := lv_entry ([.ref b0, .int (11 : Int32), .ref b2]) (n := 3) (Nat.le_of_ble_eq_true rfl)
  rw [lg_entry_eq]
  generalize (lg_sl ([.ref b0, .int (11 : Int32), .ref b2]) ++ List.replicate (3 - (lg_sl ([.ref b0, .int (11 : Int32), .ref b2])).length) Slot.unset).toArray = ls at hl ⊢
  have hl : lv_has ls 3 [(0, .ref b0), (1, .int (11 : Int32)), (2, .ref b2)] := hl
  have hS0 : va_S (FA (iv b0 1) s.heap.size) s.heap s.heap [] := va_S.rf
  refine lv_aload_n (pc := 0) hx hb dJ4_init_2_0 rfl (lv_at hl 0 rfl) ?_
  refine rk_PI (pc := 1) (As := []) (rest := []) hx hb hml hown hts hK lkJ4_7 yn_J3_init (ct_J3_init (G := G) (l := l) (p0 := b0) rfl) ⟨Nat.le_of_ble_eq_true rfl, Nat.le_of_ble_eq_true rfl⟩ trivial rfl rfl hl.1 (Nat.le_of_ble_eq_true rfl) dJ4_init_2_1 ⟨Nat.zero_le _, Nat.zero_le _⟩ ?_
  refine W.eq (g2 := F0 m 4 ls []) rfl ?_
  refine lv_iload_n (pc := 4) hx hb dJ4_init_2_4 rfl (lv_at hl 1 rfl) ?_
  refine lv_iconst (pc := 5) (v := (1 : Int32)) hx hb dJ4_init_2_5 (by decide) ?_
  refine lv_icmp_ge (pc := 6) (tgt := 17) hx hb dJ4_init_2_6 (by decide) (fun _ => ?_) (fun h => absurd (by decide) h)
  refine lv_aload_n (pc := 17) hx hb dJ4_init_2_17 rfl (lv_at hl 0 rfl) ?_
  refine lv_iload_n (pc := 18) hx hb dJ4_init_2_18 rfl (lv_at hl 1 rfl) ?_
  refine rk_anew (pc := 19) (h := h0 + 0) (C := "java/lang/Object") (sh := (fun _ _ _ _ z => some (.inl (G.2.1 12, 11, .inr (.inr (.inr (.inr z))))))) hx hb hts hown hK hS0 q387 q388 12 rfl hz rfl (by decide) rfl (Nat.le_of_ble_eq_true rfl) (Nat.le_of_ble_eq_true rfl) (Nat.le_of_ble_eq_true rfl) dJ4_init_2_19 (fun H1 hW2 hS3 hz4 hkp5 => ?_)
  have hW6 := rg_keepN hW0 hz hkp5
  have hz7 : H1.size = h0 + 1 := by omega
  clear hW0 hS0 hz hz4 hkp5
  refine rk_put (pc := 22) (q := b0) hx hb hts hown hK hW6 hS3 flJ4_17 ft_J4 0 (by decide) rfl (Or.inl (show iv _ _ _ from ⟨by omega, by omega⟩)) rfl rfl (x := va_rf (some h0)) (rf_nar _ rfl (some h0)) (rf_fit _ rfl (some h0)) (Nat.le_of_ble_eq_true rfl) (sR mz 0 0 (some h0)) sR_ne (by rw [sR_eq]; rfl) dJ4_init_2_22 (fun H8 locs9 hW10 hS11 hz12 hkp13 => ?_)
  have hW10 : rg G b0 1 shO_J4 (vo_J4_init_2_c_13 b0 h0 b2) H8 := hW10
  have hW14 := rg_keepq hW2 hkp13 (by omega)
  have hz15 := hz12.trans hz7
  clear hW6 hW2 hz7 hz12 hS3 hkp13
  refine lv_aload_n (pc := 25) hx hb dJ4_init_2_25 rfl (lv_at hl 0 rfl) ?_
  refine lv_aload_n (pc := 26) hx hb dJ4_init_2_26 rfl (lv_at hl 2 rfl) ?_
  refine rk_putF (pc := 27) (q := b0) hx hb hts hown hK hW10 hS11 flJ4_21 ft_J4 0 (by decide) rfl (Or.inl (show iv _ _ _ from ⟨by omega, by omega⟩)) rfl rfl hin rfl (x := va_rf (some b2)) (rf_nar _ rfl (some b2)) (rf_fit _ rfl (some b2)) (Nat.le_of_ble_eq_true rfl) (sR (vo_J4_init_2_c_13 b0 h0 b2) 0 2 (some b2)) sR_ne (by rw [sR_eq]; rfl) dJ4_init_2_27 (fun H16 locs17 hW18 hS19 hz20 hkp21 => ?_)
  have hW18 : rg G b0 1 shO_J4 (vo_J4_init_2_c_21 b0 h0 b2) H16 := hW18
  have hW22 := rg_keepq hW14 hkp21 (by omega)
  have hz23 := hz20.trans hz15
  clear hW10 hW14 hz15 hz20 hS11 hkp21
  exact rk_vretA (pc := 30) hx hb hr hlk hS19 ⟨rfl, hW18, hW22, hz23⟩ dJ4_init_2_30 (Nat.le_of_ble_eq_true rfl) (Nat.le_of_ble_eq_true rfl)
theorem lkJ4_3 : LI RJ4 3 yJ4_init_2 cJ4_init_2 3 := ⟨q377, q378, q123, q379, rfl⟩
theorem yn_J4_init_2 : YN yJ4_init_2 2 := by
  unfold YN
  decide +kernel
def vc_J4_init_3 (b0 : Nat) (h0 : Nat) : Mem := (vc_J4_init_2_n b0 h0)
set_option maxHeartbeats 4000000 in
theorem ct_J4_init_3 {G : Gv} {l : Launch} {b0 : Nat} {h0 : Nat} {sz : Nat} (hsz : sz = h0) (hbh : b0 < h0) : CT G l yJ4_init_3 (ws_ yJ4_init_3 cJ4_init_3 1 none) 4 1 11 94 [.ref b0] (iv b0 1) sz (fun H => rg G b0 1 shO_J4 mz H) (fun ov H => ov = none ∧ rg G b0 1 shO_J4 (vc_J4_init_3 b0 h0) H ∧ rg G h0 1 (fun _ _ _ _ z => some (.inl (G.2.1 12, 11, .inr (.inr (.inr (.inr z)))))) mz H ∧ H.size = h0 + 1) := by
  refine Met.ofW (cc := cJ4_init_3) (maxL := 1) (ret := none) (by decide +kernel) rfl ?_
  intro p e s m args below meth c s₁ B hml hv
  obtain ⟨rfl, ⟨hz, hW0⟩, hK⟩ := hv
  subst hz
  have hz : s.heap.size = h0 := hsz
  have hin : meth.name = "<init>" := (name_of_methodNamed B.named B.method).1
  have hts := atoms_spec (ws := ws_ yJ4_init_3 cJ4_init_3 1 none) B.pre
  have hts : ∀ w ∈ lw_all, w.before _ s = true := fun w h => hts w (List.mem_cons_of_mem _ h)
  have C : Cx G p s m _ meth c RJ4 cJ4_init_3 1 none := ⟨B.exec, B.bytes, B.returns, B.notSynchronized, hml, findClass_of_methodNamed B.named, hts, hK⟩
  obtain ⟨hx, hb, hr, hlk, hml, hown, hts, hK⟩ := id C
  have hl := lv_entry ([.ref b0]) (n := 1) (Nat.le_of_ble_eq_true rfl)
  rw [lg_entry_eq]
  generalize (lg_sl ([.ref b0]) ++ List.replicate (1 - (lg_sl ([.ref b0])).length) Slot.unset).toArray = ls at hl ⊢
  have hl : lv_has ls 1 [(0, .ref b0)] := hl
  have hS0 : va_S (FA (iv b0 1) s.heap.size) s.heap s.heap [] := va_S.rf
  refine lv_aload_n (pc := 0) hx hb dJ4_init_3_0 rfl (lv_at hl 0 rfl) ?_
  refine lv_bipush (pc := 1) (v := (11 : Int32)) hx hb dJ4_init_3_1 (by decide) ?_
  refine lv_null (pc := 3) hx hb dJ4_init_3_3 ?_
  refine rk_TI (pc := 4) (As := [.int (11 : Int32), .null]) (rest := []) (mc := 1) (ms := 11) hx hb hml hown hts hK hS0 (fun q hq => FA_sz rfl q hq) lkJ4_3 yn_J4_init_2 (ct_J4_init_2_n (G := G) (l := l) (b0 := b0) (h0 := h0) (sz := s.heap.size) (by omega) (by omega)) ⟨Nat.le_of_ble_eq_true rfl, Nat.le_of_ble_eq_true rfl⟩ (fun z h => Or.inl h) hW0 rfl rfl hl.1 (Nat.le_of_ble_eq_true rfl) dJ4_init_3_4 ⟨Nat.le_of_ble_eq_true rfl, Nat.le_of_ble_eq_true rfl⟩ (fun ov9 H1 locs2 hP3 hkp4 hS5 => ?_)
  obtain ⟨rfl, hW6, hW7, hz8⟩ := hP3
  have hz9 : H1.size = h0 + 1 := by omega
  clear hW0 hz hz8 hkp4 hS0
  refine W.eq (g2 := F0 m 7 ls []) rfl ?_
  exact rk_vretA (pc := 7) hx hb hr hlk hS5 ⟨rfl, hW6, hW7, hz9⟩ dJ4_init_3_7 (Nat.le_of_ble_eq_true rfl) (Nat.le_of_ble_eq_true rfl)
def vc_J4_init (b0 : Nat) (h0 : Nat) (b2 : Nat) : Mem := (vc_J4_init_2_c b0 h0 b2)
set_option maxHeartbeats 4000000 in
theorem ct_J4_init {G : Gv} {l : Launch} {b0 : Nat} {h0 : Nat} {b2 : Nat} {sz : Nat} (hsz : sz = h0) (hbh : b0 < h0) : CT G l yJ4_init (ws_ yJ4_init cJ4_init 2 none) 4 1 11 94 [.ref b0, .ref b2] (iv b0 1) sz (fun H => rg G b0 1 shO_J4 mz H) (fun ov H => ov = none ∧ rg G b0 1 shO_J4 (vc_J4_init b0 h0 b2) H ∧ rg G h0 1 (fun _ _ _ _ z => some (.inl (G.2.1 12, 11, .inr (.inr (.inr (.inr z)))))) mz H ∧ H.size = h0 + 1) := by
  refine Met.ofW (cc := cJ4_init) (maxL := 2) (ret := none) (by decide +kernel) rfl ?_
  intro p e s m args below meth c s₁ B hml hv
  obtain ⟨rfl, ⟨hz, hW0⟩, hK⟩ := hv
  subst hz
  have hz : s.heap.size = h0 := hsz
  have hin : meth.name = "<init>" := (name_of_methodNamed B.named B.method).1
  have hts := atoms_spec (ws := ws_ yJ4_init cJ4_init 2 none) B.pre
  have hts : ∀ w ∈ lw_all, w.before _ s = true := fun w h => hts w (List.mem_cons_of_mem _ h)
  have C : Cx G p s m _ meth c RJ4 cJ4_init 2 none := ⟨B.exec, B.bytes, B.returns, B.notSynchronized, hml, findClass_of_methodNamed B.named, hts, hK⟩
  obtain ⟨hx, hb, hr, hlk, hml, hown, hts, hK⟩ := id C
  have hl := lv_entry ([.ref b0, .ref b2]) (n := 2) (Nat.le_of_ble_eq_true rfl)
  rw [lg_entry_eq]
  generalize (lg_sl ([.ref b0, .ref b2]) ++ List.replicate (2 - (lg_sl ([.ref b0, .ref b2])).length) Slot.unset).toArray = ls at hl ⊢
  have hl : lv_has ls 2 [(0, .ref b0), (1, .ref b2)] := hl
  have hS0 : va_S (FA (iv b0 1) s.heap.size) s.heap s.heap [] := va_S.rf
  refine lv_aload_n (pc := 0) hx hb dJ4_init_0 rfl (lv_at hl 0 rfl) ?_
  refine lv_bipush (pc := 1) (v := (11 : Int32)) hx hb dJ4_init_1 (by decide) ?_
  refine lv_aload_n (pc := 3) hx hb dJ4_init_3 rfl (lv_at hl 1 rfl) ?_
  refine rk_TI (pc := 4) (As := [.int (11 : Int32), .ref b2]) (rest := []) (mc := 1) (ms := 11) hx hb hml hown hts hK hS0 (fun q hq => FA_sz rfl q hq) lkJ4_3 yn_J4_init_2 (ct_J4_init_2_c (G := G) (l := l) (b0 := b0) (h0 := h0) (b2 := b2) (sz := s.heap.size) (by omega) (by omega)) ⟨Nat.le_of_ble_eq_true rfl, Nat.le_of_ble_eq_true rfl⟩ (fun z h => Or.inl h) hW0 rfl rfl hl.1 (Nat.le_of_ble_eq_true rfl) dJ4_init_4 ⟨Nat.le_of_ble_eq_true rfl, Nat.le_of_ble_eq_true rfl⟩ (fun ov9 H1 locs2 hP3 hkp4 hS5 => ?_)
  obtain ⟨rfl, hW6, hW7, hz8⟩ := hP3
  have hz9 : H1.size = h0 + 1 := by omega
  clear hW0 hz hz8 hkp4 hS0
  refine W.eq (g2 := F0 m 7 ls []) rfl ?_
  exact rk_vretA (pc := 7) hx hb hr hlk hS5 ⟨rfl, hW6, hW7, hz9⟩ dJ4_init_7 (Nat.le_of_ble_eq_true rfl) (Nat.le_of_ble_eq_true rfl)
def shO_X2 : Shp := fun _ _ x y z => some (.inr (2, [.int (x 0), .int (x 1), va_rf (z 2)]))
theorem df_X2 (fs : List Value) (h : fs = [.int 0, .int 0, .null]) : ∀ j, j < 3 → defaultValue (tyX2 j) = vp_V fs j := by
  subst h
  intro j hj
  match j, hj with
  | 0, _ => rfl
  | 1, _ => rfl
  | 2, _ => rfl
  | n + 3, h => exact absurd h (by omega)
def vo_X2_init_13 (b0 : Nat) : Mem := sR mz 0 2 (some (b0 + 1))
def vf_X2_init_1 (b0 : Nat) : Mem := ptm (mz) 1 1 mz
def vc_X2 (b0 : Nat) : Mem := (vf_X2_init_1 b0)
set_option maxHeartbeats 4000000 in
theorem ct_X2_init {G : Gv} {l : Launch} {b0 : Nat} {sz : Nat} (hsz : sz = b0 + 1) : CT G l yX2_init (ws_ yX2_init cX2_init 1 none) 1 1 5 32 [.ref b0] (iv b0 1) sz (fun H => rg G b0 1 shO_X2 mz H) (fun ov H => ov = none ∧ rg G b0 2 (shX2 G.2.1) (vc_X2 b0) H ∧ H.size = b0 + 2) := by
  refine Met.ofW (cc := cX2_init) (maxL := 1) (ret := none) (by decide +kernel) rfl ?_
  intro p e s m args below meth c s₁ B hml hv
  obtain ⟨rfl, ⟨hz, hW0⟩, hK⟩ := hv
  subst hz
  have hz : s.heap.size = b0 + 1 := hsz
  have hin : meth.name = "<init>" := (name_of_methodNamed B.named B.method).1
  have hts := atoms_spec (ws := ws_ yX2_init cX2_init 1 none) B.pre
  have hts : ∀ w ∈ lw_all, w.before _ s = true := fun w h => hts w (List.mem_cons_of_mem _ h)
  have C : Cx G p s m _ meth c RX2 cX2_init 1 none := ⟨B.exec, B.bytes, B.returns, B.notSynchronized, hml, findClass_of_methodNamed B.named, hts, hK⟩
  obtain ⟨hx, hb, hr, hlk, hml, hown, hts, hK⟩ := id C
  have hl := lv_entry ([.ref b0]) (n := 1) (Nat.le_of_ble_eq_true rfl)
  rw [lg_entry_eq]
  generalize (lg_sl ([.ref b0]) ++ List.replicate (1 - (lg_sl ([.ref b0])).length) Slot.unset).toArray = ls at hl ⊢
  have hl : lv_has ls 1 [(0, .ref b0)] := hl
  have hS0 : va_S (FA (iv b0 1) s.heap.size) s.heap s.heap [] := va_S.rf
  refine lv_aload_n (pc := 0) hx hb dX2_init_0 rfl (lv_at hl 0 rfl) ?_
  refine W.objInit hx hb hown (hts _ q173) (hts _ q159) (hts _ q160) rfl (by rw [hml]; exact hl.1) rfl dX2_init_1 (Nat.le_of_ble_eq_true rfl) (Nat.le_of_ble_eq_true rfl) ?_
  refine W.eq (g2 := F0 m 4 ls []) rfl ?_
  refine lv_aload_n (pc := 4) hx hb dX2_init_4 rfl (lv_at hl 0 rfl) ?_
  refine lv_iconst (pc := 5) (v := (5 : Int32)) hx hb dX2_init_5 (by decide) ?_
  refine rk_newarr (pc := 6) (atype := .int) (h := b0 + 1) (sh := (fun _ _ x y _ => some (.inl (G.2.1 0, 5, .inl x)))) hx hb hts hK hS0 q190 0 rfl (fun _ h => nomatch h) hz rfl rfl (by decide) rfl (Nat.le_of_ble_eq_true rfl) (Nat.le_of_ble_eq_true rfl) (Nat.le_of_ble_eq_true rfl) dX2_init_6 (fun H1 hW2 hS3 hz4 hkp5 => ?_)
  have hW6 := rg_keepN hW0 hz hkp5
  have hz7 : H1.size = b0 + 2 := by omega
  clear hW0 hS0 hz hz4 hkp5
  refine rk_putF (pc := 8) (q := b0) hx hb hts hown hK hW6 hS3 flX2_9 ft_X2 0 (by decide) rfl (Or.inl (show iv _ _ _ from ⟨by omega, by omega⟩)) rfl rfl hin rfl (x := va_rf (some (b0 + 1))) (rf_nar _ rfl (some (b0 + 1))) (rf_fit _ rfl (some (b0 + 1))) (Nat.le_of_ble_eq_true rfl) (sR mz 0 2 (some (b0 + 1))) sR_ne (by rw [sR_eq]; rfl) dX2_init_8 (fun H8 locs9 hW10 hS11 hz12 hkp13 => ?_)
  have hW10 : rg G b0 1 shO_X2 (vo_X2_init_13 b0) H8 := hW10
  have hW14 := rg_keepq hW2 hkp13 (by omega)
  have hz15 := hz12.trans hz7
  clear hW6 hW2 hz7 hz12 hS3 hkp13
  have ap16 := Ap.cons (x := ((b0 + 1), 1, (fun _ _ x y _ => some (.inl (G.2.1 0, 5, .inl x))), mz)) (Or.inl (show b0 < (b0 + 1) by omega)) (Ap.nil (q := b0))
  have hP17 := PP.cons (hi' := b0 + 2) hW14 (PP.nil (hi := b0)) (by omega) (by omega)
  clear hW14
  have hA0 : rg G b0 1 (shX2 G.2.1) (mz) H8 := rg_cast hW10 rfl
  have hA18 : rg G b0 2 (shX2 G.2.1) (vf_X2_init_1 b0) H8 := rg_app (k := 1) (n' := 1) hA0 (PP.at hP17 0 rfl) rfl (fun o ho x y z => by have h0 : o = 0 := (by omega); subst h0; rfl)
  exact rk_vretA (pc := 11) hx hb hr hlk hS11 ⟨rfl, hA18, hz15⟩ dX2_init_11 (Nat.le_of_ble_eq_true rfl) (Nat.le_of_ble_eq_true rfl)
def shO_X4 : Shp := fun _ _ x y z => some (.inr (4, [va_rf (z 0), .long (y 1), .long (y 2), va_rf (z 3)]))
theorem df_X4 (fs : List Value) (h : fs = [.null, .long 0, .long 0, .null]) : ∀ j, j < 4 → defaultValue (tyX4 j) = vp_V fs j := by
  subst h
  intro j hj
  match j, hj with
  | 0, _ => rfl
  | 1, _ => rfl
  | 2, _ => rfl
  | 3, _ => rfl
  | n + 4, h => exact absurd h (by omega)
def vo_X4_init_13 (b0 : Nat) : Mem := sR mz 0 0 (some (b0 + 1))
def vo_X4_init_32 (b0 : Nat) : Mem := sR (vo_X4_init_13 b0) 0 3 (some (b0 + 2))
def vf_X4_init_1 (b0 : Nat) : Mem := ptm (mz) 1 1 mz
def vf_X4_init_2 (b0 : Nat) : Mem := ptm (vf_X4_init_1 b0) 2 1 mz
def vc_X4 (b0 : Nat) : Mem := (vf_X4_init_2 b0)
set_option maxHeartbeats 4000000 in
theorem ct_X4_init {G : Gv} {l : Launch} {b0 : Nat} {sz : Nat} (hsz : sz = b0 + 1) : CT G l yX4_init (ws_ yX4_init cX4_init 1 none) 1 2 25 32 [.ref b0] (iv b0 1) sz (fun H => rg G b0 1 shO_X4 mz H) (fun ov H => ov = none ∧ rg G b0 3 (shX4 G.2.1) (vc_X4 b0) H ∧ H.size = b0 + 3) := by
  refine Met.ofW (cc := cX4_init) (maxL := 1) (ret := none) (by decide +kernel) rfl ?_
  intro p e s m args below meth c s₁ B hml hv
  obtain ⟨rfl, ⟨hz, hW0⟩, hK⟩ := hv
  subst hz
  have hz : s.heap.size = b0 + 1 := hsz
  have hin : meth.name = "<init>" := (name_of_methodNamed B.named B.method).1
  have hts := atoms_spec (ws := ws_ yX4_init cX4_init 1 none) B.pre
  have hts : ∀ w ∈ lw_all, w.before _ s = true := fun w h => hts w (List.mem_cons_of_mem _ h)
  have C : Cx G p s m _ meth c RX4 cX4_init 1 none := ⟨B.exec, B.bytes, B.returns, B.notSynchronized, hml, findClass_of_methodNamed B.named, hts, hK⟩
  obtain ⟨hx, hb, hr, hlk, hml, hown, hts, hK⟩ := id C
  have hl := lv_entry ([.ref b0]) (n := 1) (Nat.le_of_ble_eq_true rfl)
  rw [lg_entry_eq]
  generalize (lg_sl ([.ref b0]) ++ List.replicate (1 - (lg_sl ([.ref b0])).length) Slot.unset).toArray = ls at hl ⊢
  have hl : lv_has ls 1 [(0, .ref b0)] := hl
  have hS0 : va_S (FA (iv b0 1) s.heap.size) s.heap s.heap [] := va_S.rf
  refine lv_aload_n (pc := 0) hx hb dX4_init_0 rfl (lv_at hl 0 rfl) ?_
  refine W.objInit hx hb hown (hts _ q252) (hts _ q159) (hts _ q160) rfl (by rw [hml]; exact hl.1) rfl dX4_init_1 (Nat.le_of_ble_eq_true rfl) (Nat.le_of_ble_eq_true rfl) ?_
  refine W.eq (g2 := F0 m 4 ls []) rfl ?_
  refine lv_aload_n (pc := 4) hx hb dX4_init_4 rfl (lv_at hl 0 rfl) ?_
  refine lv_iconst (pc := 5) (v := (5 : Int32)) hx hb dX4_init_5 (by decide) ?_
  refine rk_newarr (pc := 6) (atype := .long) (h := b0 + 1) (sh := (fun _ _ x y _ => some (.inl (G.2.1 1, 5, .inr (.inl y))))) hx hb hts hK hS0 q273 1 rfl (fun _ h => nomatch h) hz rfl rfl (by decide) rfl (Nat.le_of_ble_eq_true rfl) (Nat.le_of_ble_eq_true rfl) (Nat.le_of_ble_eq_true rfl) dX4_init_6 (fun H1 hW2 hS3 hz4 hkp5 => ?_)
  have hW6 := rg_keepN hW0 hz hkp5
  have hz7 : H1.size = b0 + 2 := by omega
  clear hW0 hS0 hz hz4 hkp5
  refine rk_putF (pc := 8) (q := b0) hx hb hts hown hK hW6 hS3 flX4_9 ft_X4 0 (by decide) rfl (Or.inl (show iv _ _ _ from ⟨by omega, by omega⟩)) rfl rfl hin rfl (x := va_rf (some (b0 + 1))) (rf_nar _ rfl (some (b0 + 1))) (rf_fit _ rfl (some (b0 + 1))) (Nat.le_of_ble_eq_true rfl) (sR mz 0 0 (some (b0 + 1))) sR_ne (by rw [sR_eq]; rfl) dX4_init_8 (fun H8 locs9 hW10 hS11 hz12 hkp13 => ?_)
  have hW10 : rg G b0 1 shO_X4 (vo_X4_init_13 b0) H8 := hW10
  have hW14 := rg_keepq hW2 hkp13 (by omega)
  have hz15 := hz12.trans hz7
  clear hW6 hW2 hz7 hz12 hS3 hkp13
  have ap16 := Ap.cons (x := ((b0 + 1), 1, (fun _ _ x y _ => some (.inl (G.2.1 1, 5, .inr (.inl y)))), mz)) (Or.inl (show b0 < (b0 + 1) by omega)) (Ap.nil (q := b0))
  have hP17 := PP.cons (hi' := b0 + 2) hW14 (PP.nil (hi := b0)) (by omega) (by omega)
  clear hW14
  refine lv_aload_n (pc := 11) hx hb dX4_init_11 rfl (lv_at hl 0 rfl) ?_
  refine lv_bipush (pc := 12) (v := (20 : Int32)) hx hb dX4_init_12 (by decide) ?_
  refine rk_newarr (pc := 14) (atype := .long) (h := b0 + 2) (sh := (fun _ _ x y _ => some (.inl (G.2.1 1, 20, .inr (.inl y))))) hx hb hts hK hS11 q273 1 rfl (fun _ h => nomatch h) hz15 rfl rfl (by decide) rfl (Nat.le_of_ble_eq_true rfl) (Nat.le_of_ble_eq_true rfl) (Nat.le_of_ble_eq_true rfl) dX4_init_14 (fun H18 hW19 hS20 hz21 hkp22 => ?_)
  have hW23 := rg_keepN hW10 hz15 hkp22
  have hP24 := PP.keepN hP17 hz15 hkp22
  have ap25 := PP.ap (q := (b0 + 2)) hP24 (by omega)
  have hz26 : H18.size = b0 + 3 := by omega
  clear hW10 hP17 hS11 hz15 hz21 hkp22
  refine rk_putF (pc := 16) (q := b0) hx hb hts hown hK hW23 hS20 flX4_15 ft_X4 0 (by decide) rfl (Or.inl (show iv _ _ _ from ⟨by omega, by omega⟩)) rfl rfl hin rfl (x := va_rf (some (b0 + 2))) (rf_nar _ rfl (some (b0 + 2))) (rf_fit _ rfl (some (b0 + 2))) (Nat.le_of_ble_eq_true rfl) (sR (vo_X4_init_13 b0) 0 3 (some (b0 + 2))) sR_ne (by rw [sR_eq]; rfl) dX4_init_16 (fun H27 locs28 hW29 hS30 hz31 hkp32 => ?_)
  have hW29 : rg G b0 1 shO_X4 (vo_X4_init_32 b0) H27 := hW29
  have hW33 := rg_keepq hW19 hkp32 (by omega)
  have hP34 := PP.keepq hP24 hkp32 ap16
  have hz35 := hz31.trans hz26
  clear hW23 hW19 hP24 hz26 hz31 hS20 hkp32
  have ap36 := Ap.cons (x := ((b0 + 2), 1, (fun _ _ x y _ => some (.inl (G.2.1 1, 20, .inr (.inl y)))), mz)) (Or.inl (show b0 < (b0 + 2) by omega)) ap16
  have hP37 := PP.cons (hi' := b0 + 3) hW33 hP34 (by omega) (by omega)
  clear ap16 hP34 hW33
  have hA0 : rg G b0 1 (shX4 G.2.1) (mz) H27 := rg_cast hW29 rfl
  have hA38 : rg G b0 2 (shX4 G.2.1) (vf_X4_init_1 b0) H27 := rg_app (k := 1) (n' := 1) hA0 (PP.at hP37 1 rfl) rfl (fun o ho x y z => by have h0 : o = 0 := (by omega); subst h0; rfl)
  have hA39 : rg G b0 3 (shX4 G.2.1) (vf_X4_init_2 b0) H27 := rg_app (k := 2) (n' := 1) hA38 (PP.at hP37 0 rfl) rfl (fun o ho x y z => by have h0 : o = 0 := (by omega); subst h0; rfl)
  exact rk_vretA (pc := 19) hx hb hr hlk hS30 ⟨rfl, hA39, hz35⟩ dX4_init_19 (Nat.le_of_ble_eq_true rfl) (Nat.le_of_ble_eq_true rfl)
def shO_X7 : Shp := fun _ _ x y z => some (.inr (7, [.int (x 0), .int (x 1)]))
theorem df_X7 (fs : List Value) (h : fs = [.int 0, .int 0]) : ∀ j, j < 2 → defaultValue (tyX7 j) = vp_V fs j := by
  subst h
  intro j hj
  match j, hj with
  | 0, _ => rfl
  | 1, _ => rfl
  | n + 2, h => exact absurd h (by omega)
def vc_X7 (b0 : Nat) : Mem := (mz)
set_option maxHeartbeats 4000000 in
theorem ct_X7_init {G : Gv} {l : Launch} {b0 : Nat} {sz : Nat} (hsz : sz = b0 + 1) : CT G l yX7_init (ws_ yX7_init cX7_init 1 none) 1 0 0 32 [.ref b0] (iv b0 1) sz (fun H => rg G b0 1 shO_X7 mz H) (fun ov H => ov = none ∧ rg G b0 1 (shX7 G.2.1) (vc_X7 b0) H ∧ H.size = b0 + 1) := by
  refine Met.ofW (cc := cX7_init) (maxL := 1) (ret := none) (by decide +kernel) rfl ?_
  intro p e s m args below meth c s₁ B hml hv
  obtain ⟨rfl, ⟨hz, hW0⟩, hK⟩ := hv
  subst hz
  have hz : s.heap.size = b0 + 1 := hsz
  have hin : meth.name = "<init>" := (name_of_methodNamed B.named B.method).1
  have hts := atoms_spec (ws := ws_ yX7_init cX7_init 1 none) B.pre
  have hts : ∀ w ∈ lw_all, w.before _ s = true := fun w h => hts w (List.mem_cons_of_mem _ h)
  have C : Cx G p s m _ meth c RX7 cX7_init 1 none := ⟨B.exec, B.bytes, B.returns, B.notSynchronized, hml, findClass_of_methodNamed B.named, hts, hK⟩
  obtain ⟨hx, hb, hr, hlk, hml, hown, hts, hK⟩ := id C
  have hl := lv_entry ([.ref b0]) (n := 1) (Nat.le_of_ble_eq_true rfl)
  rw [lg_entry_eq]
  generalize (lg_sl ([.ref b0]) ++ List.replicate (1 - (lg_sl ([.ref b0])).length) Slot.unset).toArray = ls at hl ⊢
  have hl : lv_has ls 1 [(0, .ref b0)] := hl
  have hS0 : va_S (FA (iv b0 1) s.heap.size) s.heap s.heap [] := va_S.rf
  refine lv_aload_n (pc := 0) hx hb dX7_init_0 rfl (lv_at hl 0 rfl) ?_
  refine W.objInit hx hb hown (hts _ q447) (hts _ q159) (hts _ q160) rfl (by rw [hml]; exact hl.1) rfl dX7_init_1 (Nat.le_of_ble_eq_true rfl) (Nat.le_of_ble_eq_true rfl) ?_
  refine W.eq (g2 := F0 m 4 ls []) rfl ?_
  have hA0 : rg G b0 1 (shX7 G.2.1) (mz) s.heap := rg_cast hW0 rfl
  exact rk_vretA (pc := 4) hx hb hr hlk hS0 ⟨rfl, hA0, hz⟩ dX7_init_4 (Nat.le_of_ble_eq_true rfl) (Nat.le_of_ble_eq_true rfl)
def shO_X8 : Shp := fun _ _ x y z => some (.inr (8, [.int (x 0), .int (x 1), .long (y 2), .long (y 3), .int (x 4), va_rf (z 5), va_rf (z 6), va_rf (z 7)]))
theorem df_X8 (fs : List Value) (h : fs = [.int 0, .int 0, .long 0, .long 0, .int 0, .null, .null, .null]) : ∀ j, j < 8 → defaultValue (tyX8 j) = vp_V fs j := by
  subst h
  intro j hj
  match j, hj with
  | 0, _ => rfl
  | 1, _ => rfl
  | 2, _ => rfl
  | 3, _ => rfl
  | 4, _ => rfl
  | 5, _ => rfl
  | 6, _ => rfl
  | 7, _ => rfl
  | n + 8, h => exact absurd h (by omega)
def vo_X8_init_13 (b0 : Nat) (i1 : Int32) : Mem := sR mz 0 5 (some (b0 + 1))
def vo_X8_init_32 (b0 : Nat) (i1 : Int32) : Mem := sR (vo_X8_init_13 b0 i1) 0 6 (some (b0 + 2))
def vo_X8_init_52 (b0 : Nat) (i1 : Int32) : Mem := sR (vo_X8_init_32 b0 i1) 0 7 (some (b0 + 3))
def vi_X8_init_63 (b0 : Nat) (i1 : Int32) : Mem := sI mz 0 0 i1
def vo_X8_init_63 (b0 : Nat) (i1 : Int32) : Mem := sI (vo_X8_init_52 b0 i1) 0 0 i1
def vf_X8_init_1 (b0 : Nat) (i1 : Int32) : Mem := ptm (vi_X8_init_63 b0 i1) 1 1 mz
def vf_X8_init_2 (b0 : Nat) (i1 : Int32) : Mem := ptm (vf_X8_init_1 b0 i1) 2 1 mz
def vf_X8_init_3 (b0 : Nat) (i1 : Int32) : Mem := ptm (vf_X8_init_2 b0 i1) 3 1 mz
def vc_X8 (b0 : Nat) (i1 : Int32) : Mem := (vf_X8_init_3 b0 i1)
set_option maxHeartbeats 4000000 in
theorem ct_X8_init {G : Gv} {l : Launch} {b0 : Nat} {i1 : Int32} {sz : Nat} (hsz : sz = b0 + 1) : CT G l yX8_init (ws_ yX8_init cX8_init 2 none) 1 3 15 32 [.ref b0, .int i1] (iv b0 1) sz (fun H => rg G b0 1 shO_X8 mz H) (fun ov H => ov = none ∧ rg G b0 4 (shX8 G.2.1) (vc_X8 b0 i1) H ∧ H.size = b0 + 4) := by
  refine Met.ofW (cc := cX8_init) (maxL := 2) (ret := none) (by decide +kernel) rfl ?_
  intro p e s m args below meth c s₁ B hml hv
  obtain ⟨rfl, ⟨hz, hW0⟩, hK⟩ := hv
  subst hz
  have hz : s.heap.size = b0 + 1 := hsz
  have hin : meth.name = "<init>" := (name_of_methodNamed B.named B.method).1
  have hts := atoms_spec (ws := ws_ yX8_init cX8_init 2 none) B.pre
  have hts : ∀ w ∈ lw_all, w.before _ s = true := fun w h => hts w (List.mem_cons_of_mem _ h)
  have C : Cx G p s m _ meth c RX8 cX8_init 2 none := ⟨B.exec, B.bytes, B.returns, B.notSynchronized, hml, findClass_of_methodNamed B.named, hts, hK⟩
  obtain ⟨hx, hb, hr, hlk, hml, hown, hts, hK⟩ := id C
  have hl := lv_entry ([.ref b0, .int i1]) (n := 2) (Nat.le_of_ble_eq_true rfl)
  rw [lg_entry_eq]
  generalize (lg_sl ([.ref b0, .int i1]) ++ List.replicate (2 - (lg_sl ([.ref b0, .int i1])).length) Slot.unset).toArray = ls at hl ⊢
  have hl : lv_has ls 2 [(0, .ref b0), (1, .int i1)] := hl
  have hS0 : va_S (FA (iv b0 1) s.heap.size) s.heap s.heap [] := va_S.rf
  refine lv_aload_n (pc := 0) hx hb dX8_init_0 rfl (lv_at hl 0 rfl) ?_
  refine W.objInit hx hb hown (hts _ q462) (hts _ q159) (hts _ q160) rfl (by rw [hml]; exact hl.1) rfl dX8_init_1 (Nat.le_of_ble_eq_true rfl) (Nat.le_of_ble_eq_true rfl) ?_
  refine W.eq (g2 := F0 m 4 ls []) rfl ?_
  refine lv_aload_n (pc := 4) hx hb dX8_init_4 rfl (lv_at hl 0 rfl) ?_
  refine lv_iconst (pc := 5) (v := (5 : Int32)) hx hb dX8_init_5 (by decide) ?_
  refine rk_newarr (pc := 6) (atype := .int) (h := b0 + 1) (sh := (fun _ _ x y _ => some (.inl (G.2.1 0, 5, .inl x)))) hx hb hts hK hS0 q190 0 rfl (fun _ h => nomatch h) hz rfl rfl (by decide) rfl (Nat.le_of_ble_eq_true rfl) (Nat.le_of_ble_eq_true rfl) (Nat.le_of_ble_eq_true rfl) dX8_init_6 (fun H1 hW2 hS3 hz4 hkp5 => ?_)
  have hW6 := rg_keepN hW0 hz hkp5
  have hz7 : H1.size = b0 + 2 := by omega
  clear hW0 hS0 hz hz4 hkp5
  refine rk_putF (pc := 8) (q := b0) hx hb hts hown hK hW6 hS3 flX8_9 ft_X8 0 (by decide) rfl (Or.inl (show iv _ _ _ from ⟨by omega, by omega⟩)) rfl rfl hin rfl (x := va_rf (some (b0 + 1))) (rf_nar _ rfl (some (b0 + 1))) (rf_fit _ rfl (some (b0 + 1))) (Nat.le_of_ble_eq_true rfl) (sR mz 0 5 (some (b0 + 1))) sR_ne (by rw [sR_eq]; rfl) dX8_init_8 (fun H8 locs9 hW10 hS11 hz12 hkp13 => ?_)
  have hW10 : rg G b0 1 shO_X8 (vo_X8_init_13 b0 i1) H8 := hW10
  have hW14 := rg_keepq hW2 hkp13 (by omega)
  have hz15 := hz12.trans hz7
  clear hW6 hW2 hz7 hz12 hS3 hkp13
  have ap16 := Ap.cons (x := ((b0 + 1), 1, (fun _ _ x y _ => some (.inl (G.2.1 0, 5, .inl x))), mz)) (Or.inl (show b0 < (b0 + 1) by omega)) (Ap.nil (q := b0))
  have hP17 := PP.cons (hi' := b0 + 2) hW14 (PP.nil (hi := b0)) (by omega) (by omega)
  clear hW14
  refine lv_aload_n (pc := 11) hx hb dX8_init_11 rfl (lv_at hl 0 rfl) ?_
  refine lv_iconst (pc := 12) (v := (5 : Int32)) hx hb dX8_init_12 (by decide) ?_
  refine rk_newarr (pc := 13) (atype := .int) (h := b0 + 2) (sh := (fun _ _ x y _ => some (.inl (G.2.1 0, 5, .inl x)))) hx hb hts hK hS11 q190 0 rfl (fun _ h => nomatch h) hz15 rfl rfl (by decide) rfl (Nat.le_of_ble_eq_true rfl) (Nat.le_of_ble_eq_true rfl) (Nat.le_of_ble_eq_true rfl) dX8_init_13 (fun H18 hW19 hS20 hz21 hkp22 => ?_)
  have hW23 := rg_keepN hW10 hz15 hkp22
  have hP24 := PP.keepN hP17 hz15 hkp22
  have ap25 := PP.ap (q := (b0 + 2)) hP24 (by omega)
  have hz26 : H18.size = b0 + 3 := by omega
  clear hW10 hP17 hS11 hz15 hz21 hkp22
  refine rk_putF (pc := 15) (q := b0) hx hb hts hown hK hW23 hS20 flX8_15 ft_X8 0 (by decide) rfl (Or.inl (show iv _ _ _ from ⟨by omega, by omega⟩)) rfl rfl hin rfl (x := va_rf (some (b0 + 2))) (rf_nar _ rfl (some (b0 + 2))) (rf_fit _ rfl (some (b0 + 2))) (Nat.le_of_ble_eq_true rfl) (sR (vo_X8_init_13 b0 i1) 0 6 (some (b0 + 2))) sR_ne (by rw [sR_eq]; rfl) dX8_init_15 (fun H27 locs28 hW29 hS30 hz31 hkp32 => ?_)
  have hW29 : rg G b0 1 shO_X8 (vo_X8_init_32 b0 i1) H27 := hW29
  have hW33 := rg_keepq hW19 hkp32 (by omega)
  have hP34 := PP.keepq hP24 hkp32 ap16
  have hz35 := hz31.trans hz26
  clear hW23 hW19 hP24 hz26 hz31 hS20 hkp32
  have ap36 := Ap.cons (x := ((b0 + 2), 1, (fun _ _ x y _ => some (.inl (G.2.1 0, 5, .inl x))), mz)) (Or.inl (show b0 < (b0 + 2) by omega)) ap16
  have hP37 := PP.cons (hi' := b0 + 3) hW33 hP34 (by omega) (by omega)
  clear ap16 hP34 hW33
  refine lv_aload_n (pc := 18) hx hb dX8_init_18 rfl (lv_at hl 0 rfl) ?_
  refine lv_iconst (pc := 19) (v := (5 : Int32)) hx hb dX8_init_19 (by decide) ?_
  refine rk_newarr (pc := 20) (atype := .int) (h := b0 + 3) (sh := (fun _ _ x y _ => some (.inl (G.2.1 0, 5, .inl x)))) hx hb hts hK hS30 q190 0 rfl (fun _ h => nomatch h) hz35 rfl rfl (by decide) rfl (Nat.le_of_ble_eq_true rfl) (Nat.le_of_ble_eq_true rfl) (Nat.le_of_ble_eq_true rfl) dX8_init_20 (fun H38 hW39 hS40 hz41 hkp42 => ?_)
  have hW43 := rg_keepN hW29 hz35 hkp42
  have hP44 := PP.keepN hP37 hz35 hkp42
  have ap45 := PP.ap (q := (b0 + 3)) hP44 (by omega)
  have hz46 : H38.size = b0 + 4 := by omega
  clear hW29 hP37 hS30 hz35 hz41 hkp42
  refine rk_putF (pc := 22) (q := b0) hx hb hts hown hK hW43 hS40 flX8_18 ft_X8 0 (by decide) rfl (Or.inl (show iv _ _ _ from ⟨by omega, by omega⟩)) rfl rfl hin rfl (x := va_rf (some (b0 + 3))) (rf_nar _ rfl (some (b0 + 3))) (rf_fit _ rfl (some (b0 + 3))) (Nat.le_of_ble_eq_true rfl) (sR (vo_X8_init_32 b0 i1) 0 7 (some (b0 + 3))) sR_ne (by rw [sR_eq]; rfl) dX8_init_22 (fun H47 locs48 hW49 hS50 hz51 hkp52 => ?_)
  have hW49 : rg G b0 1 shO_X8 (vo_X8_init_52 b0 i1) H47 := hW49
  have hW53 := rg_keepq hW39 hkp52 (by omega)
  have hP54 := PP.keepq hP44 hkp52 ap36
  have hz55 := hz51.trans hz46
  clear hW43 hW39 hP44 hz46 hz51 hS40 hkp52
  have ap56 := Ap.cons (x := ((b0 + 3), 1, (fun _ _ x y _ => some (.inl (G.2.1 0, 5, .inl x))), mz)) (Or.inl (show b0 < (b0 + 3) by omega)) ap36
  have hP57 := PP.cons (hi' := b0 + 4) hW53 hP54 (by omega) (by omega)
  clear ap36 hP54 hW53
  refine lv_aload_n (pc := 25) hx hb dX8_init_25 rfl (lv_at hl 0 rfl) ?_
  refine lv_iload_n (pc := 26) hx hb dX8_init_26 rfl (lv_at hl 1 rfl) ?_
  refine rk_putF (pc := 27) (q := b0) hx hb hts hown hK hW49 hS50 flX8_21 ft_X8 0 (by decide) rfl (Or.inl (show iv _ _ _ from ⟨by omega, by omega⟩)) rfl rfl hin rfl (x := .int i1) rfl rfl (Nat.le_of_ble_eq_true rfl) (sI (vo_X8_init_52 b0 i1) 0 0 i1) sI_ne (by rw [sI_eq]; rfl) dX8_init_27 (fun H58 locs59 hW60 hS61 hz62 hkp63 => ?_)
  have hW60 : rg G b0 1 shO_X8 (vo_X8_init_63 b0 i1) H58 := hW60
  have hP64 := PP.keepq hP57 hkp63 ap56
  have hz65 := hz62.trans hz55
  clear hW49 hP57 hz55 hz62 hS50 hkp63
  have hA0 : rg G b0 1 (shX8 G.2.1) (vi_X8_init_63 b0 i1) H58 := rg_cast hW60 rfl
  have hA66 : rg G b0 2 (shX8 G.2.1) (vf_X8_init_1 b0 i1) H58 := rg_app (k := 1) (n' := 1) hA0 (PP.at hP64 2 rfl) rfl (fun o ho x y z => by have h0 : o = 0 := (by omega); subst h0; rfl)
  have hA67 : rg G b0 3 (shX8 G.2.1) (vf_X8_init_2 b0 i1) H58 := rg_app (k := 2) (n' := 1) hA66 (PP.at hP64 1 rfl) rfl (fun o ho x y z => by have h0 : o = 0 := (by omega); subst h0; rfl)
  have hA68 : rg G b0 4 (shX8 G.2.1) (vf_X8_init_3 b0 i1) H58 := rg_app (k := 3) (n' := 1) hA67 (PP.at hP64 0 rfl) rfl (fun o ho x y z => by have h0 : o = 0 := (by omega); subst h0; rfl)
  exact rk_vretA (pc := 30) hx hb hr hlk hS61 ⟨rfl, hA68, hz65⟩ dX8_init_30 (Nat.le_of_ble_eq_true rfl) (Nat.le_of_ble_eq_true rfl)
def shO_X1 : Shp := fun _ _ x y z => some (.inr (1, [.int (x 0), .int (x 1), .int (x 2), .int (x 3), .int (x 4), .int (x 5), va_rf (z 6), va_rf (z 7), va_rf (z 8), va_rf (z 9), va_rf (z 10)]))
theorem df_X1 (fs : List Value) (h : fs = [.int 0, .int 0, .int 0, .int 0, .int 0, .int 0, .null, .null, .null, .null, .null]) : ∀ j, j < 11 → defaultValue (tyX1 j) = vp_V fs j := by
  subst h
  intro j hj
  match j, hj with
  | 0, _ => rfl
  | 1, _ => rfl
  | 2, _ => rfl
  | 3, _ => rfl
  | 4, _ => rfl
  | 5, _ => rfl
  | 6, _ => rfl
  | 7, _ => rfl
  | 8, _ => rfl
  | 9, _ => rfl
  | 10, _ => rfl
  | n + 11, h => exact absurd h (by omega)
theorem lkX1_40 : LIN RX1 40 yX2_init "WholePacks" cX2_init 1 := ⟨q170, q171, q116, q172, rfl⟩
theorem yn_X2_init : YN yX2_init 0 := by
  unfold YN
  decide +kernel
def vi_X1_init_6 (b0 : Nat) : Mem := sI mz 0 0 (2 : Int32)
def vo_X1_init_6 (b0 : Nat) : Mem := sI mz 0 0 (2 : Int32)
def vi_X1_init_13 (b0 : Nat) : Mem := sI (vi_X1_init_6 b0) 0 2 (1 : Int32)
def vo_X1_init_13 (b0 : Nat) : Mem := sI (vo_X1_init_6 b0) 0 2 (1 : Int32)
def vi_X1_init_20 (b0 : Nat) : Mem := sI (vi_X1_init_13 b0) 0 3 (4 : Int32)
def vo_X1_init_20 (b0 : Nat) : Mem := sI (vo_X1_init_13 b0) 0 3 (4 : Int32)
def vq_X1_init_34 (b0 : Nat) : Mem := sI mz 0 (0 : Int32).toNatClampNeg (1 : Int32)
def vq_X1_init_42 (b0 : Nat) : Mem := sI (vq_X1_init_34 b0) 0 (1 : Int32).toNatClampNeg (1 : Int32)
def vq_X1_init_50 (b0 : Nat) : Mem := sI (vq_X1_init_42 b0) 0 (2 : Int32).toNatClampNeg (1 : Int32)
def vq_X1_init_58 (b0 : Nat) : Mem := sI (vq_X1_init_50 b0) 0 (3 : Int32).toNatClampNeg (1 : Int32)
def vq_X1_init_66 (b0 : Nat) : Mem := sI (vq_X1_init_58 b0) 0 (4 : Int32).toNatClampNeg (1 : Int32)
def vo_X1_init_74 (b0 : Nat) : Mem := sR (vo_X1_init_20 b0) 0 6 (some (b0 + 1))
def vo_X1_init_93 (b0 : Nat) : Mem := sR (vo_X1_init_74 b0) 0 7 (some (b0 + 2))
def vo_X1_init_112 (b0 : Nat) : Mem := sR (vo_X1_init_93 b0) 0 8 (some (b0 + 3))
def vo_X1_init_135 (b0 : Nat) : Mem := sR (vo_X1_init_112 b0) 0 9 (some (b0 + 4))
def vo_X1_init_158 (b0 : Nat) : Mem := sR (vo_X1_init_135 b0) 0 10 (some (b0 + 5))
def vq_X1_init_195 (b0 : Nat) : Mem := sR mz 0 (0 : Int32).toNatClampNeg (some (b0 + 6))
def vq_X1_init_228 (b0 : Nat) : Mem := sR (vq_X1_init_195 b0) 0 (1 : Int32).toNatClampNeg (some (b0 + 8))
def vq_X1_init_261 (b0 : Nat) : Mem := sR (vq_X1_init_228 b0) 0 (2 : Int32).toNatClampNeg (some (b0 + 10))
def vq_X1_init_294 (b0 : Nat) : Mem := sR (vq_X1_init_261 b0) 0 (3 : Int32).toNatClampNeg (some (b0 + 12))
def vq_X1_init_327 (b0 : Nat) : Mem := sR (vq_X1_init_294 b0) 0 (4 : Int32).toNatClampNeg (some (b0 + 14))
def vq_X1_init_360 (b0 : Nat) : Mem := sR (vq_X1_init_327 b0) 0 (5 : Int32).toNatClampNeg (some (b0 + 16))
def vq_X1_init_393 (b0 : Nat) : Mem := sR (vq_X1_init_360 b0) 0 (6 : Int32).toNatClampNeg (some (b0 + 18))
def vq_X1_init_426 (b0 : Nat) : Mem := sR (vq_X1_init_393 b0) 0 (7 : Int32).toNatClampNeg (some (b0 + 20))
def vf_X1_init_1 (b0 : Nat) : Mem := ptm (vi_X1_init_20 b0) 1 1 (vq_X1_init_66 b0)
def vf_X1_init_2 (b0 : Nat) : Mem := ptm (vf_X1_init_1 b0) 2 1 mz
def vf_X1_init_3 (b0 : Nat) : Mem := ptm (vf_X1_init_2 b0) 3 1 mz
def vf_X1_init_4 (b0 : Nat) : Mem := ptm (vf_X1_init_3 b0) 4 1 mz
def vf_X1_init_5 (b0 : Nat) : Mem := ptm (vf_X1_init_4 b0) 5 1 mz
def vf_X1_init_6 (b0 : Nat) : Mem := ptm (vf_X1_init_5 b0) 6 2 ((vc_X2 (b0 + 6)))
def vf_X1_init_8 (b0 : Nat) : Mem := ptm (vf_X1_init_6 b0) 8 2 ((vc_X2 (b0 + 8)))
def vf_X1_init_10 (b0 : Nat) : Mem := ptm (vf_X1_init_8 b0) 10 2 ((vc_X2 (b0 + 10)))
def vf_X1_init_12 (b0 : Nat) : Mem := ptm (vf_X1_init_10 b0) 12 2 ((vc_X2 (b0 + 12)))
def vf_X1_init_14 (b0 : Nat) : Mem := ptm (vf_X1_init_12 b0) 14 2 ((vc_X2 (b0 + 14)))
def vf_X1_init_16 (b0 : Nat) : Mem := ptm (vf_X1_init_14 b0) 16 2 ((vc_X2 (b0 + 16)))
def vf_X1_init_18 (b0 : Nat) : Mem := ptm (vf_X1_init_16 b0) 18 2 ((vc_X2 (b0 + 18)))
def vf_X1_init_20 (b0 : Nat) : Mem := ptm (vf_X1_init_18 b0) 20 2 ((vc_X2 (b0 + 20)))
def vc_X1 (b0 : Nat) : Mem := (vf_X1_init_20 b0)
set_option maxHeartbeats 4000000 in
theorem ct_X1_init {G : Gv} {l : Launch} {b0 : Nat} {sz : Nat} (hsz : sz = b0 + 1) : CT G l yX1_init (ws_ yX1_init cX1_init 2 none) 2 21 119 52 [.ref b0] (iv b0 1) sz (fun H => rg G b0 1 shO_X1 mz H) (fun ov H => ov = none ∧ rg G b0 22 (shX1 G.2.1) (vc_X1 b0) H ∧ H.size = b0 + 22) := by
  refine Met.ofW (cc := cX1_init) (maxL := 2) (ret := none) (by decide +kernel) rfl ?_
  intro p e s m args below meth c s₁ B hml hv
  obtain ⟨rfl, ⟨hz, hW0⟩, hK⟩ := hv
  subst hz
  have hz : s.heap.size = b0 + 1 := hsz
  have hin : meth.name = "<init>" := (name_of_methodNamed B.named B.method).1
  have hts := atoms_spec (ws := ws_ yX1_init cX1_init 2 none) B.pre
  have hts : ∀ w ∈ lw_all, w.before _ s = true := fun w h => hts w (List.mem_cons_of_mem _ h)
  have C : Cx G p s m _ meth c RX1 cX1_init 2 none := ⟨B.exec, B.bytes, B.returns, B.notSynchronized, hml, findClass_of_methodNamed B.named, hts, hK⟩
  obtain ⟨hx, hb, hr, hlk, hml, hown, hts, hK⟩ := id C
  have hl := lv_entry ([.ref b0]) (n := 2) (Nat.le_of_ble_eq_true rfl)
  rw [lg_entry_eq]
  generalize (lg_sl ([.ref b0]) ++ List.replicate (2 - (lg_sl ([.ref b0])).length) Slot.unset).toArray = ls at hl ⊢
  have hl : lv_has ls 2 [(0, .ref b0)] := hl
  have hS0 : va_S (FA (iv b0 1) s.heap.size) s.heap s.heap [] := va_S.rf
  refine lv_aload_n (pc := 0) hx hb dX1_init_0 rfl (lv_at hl 0 rfl) ?_
  refine W.objInit hx hb hown (hts _ q166) (hts _ q159) (hts _ q160) rfl (by rw [hml]; exact hl.1) rfl dX1_init_1 (Nat.le_of_ble_eq_true rfl) (Nat.le_of_ble_eq_true rfl) ?_
  refine W.eq (g2 := F0 m 4 ls []) rfl ?_
  refine lv_aload_n (pc := 4) hx hb dX1_init_4 rfl (lv_at hl 0 rfl) ?_
  refine lv_iconst (pc := 5) (v := (2 : Int32)) hx hb dX1_init_5 (by decide) ?_
  refine rk_put (pc := 6) (q := b0) hx hb hts hown hK hW0 hS0 flX1_9 ft_X1 0 (by decide) rfl (Or.inl (show iv _ _ _ from ⟨by omega, by omega⟩)) rfl rfl (x := .int (2 : Int32)) rfl rfl (Nat.le_of_ble_eq_true rfl) (sI mz 0 0 (2 : Int32)) sI_ne (by rw [sI_eq]; rfl) dX1_init_6 (fun H1 locs2 hW3 hS4 hz5 hkp6 => ?_)
  have hW3 : rg G b0 1 shO_X1 (vo_X1_init_6 b0) H1 := hW3
  have hz7 := hz5.trans hz
  clear hW0 hz hz5 hS0 hkp6
  refine lv_aload_n (pc := 9) hx hb dX1_init_9 rfl (lv_at hl 0 rfl) ?_
  refine lv_iconst (pc := 10) (v := (1 : Int32)) hx hb dX1_init_10 (by decide) ?_
  refine rk_put (pc := 11) (q := b0) hx hb hts hown hK hW3 hS4 flX1_15 ft_X1 0 (by decide) rfl (Or.inl (show iv _ _ _ from ⟨by omega, by omega⟩)) rfl rfl (x := .int (1 : Int32)) rfl rfl (Nat.le_of_ble_eq_true rfl) (sI (vo_X1_init_6 b0) 0 2 (1 : Int32)) sI_ne (by rw [sI_eq]; rfl) dX1_init_11 (fun H8 locs9 hW10 hS11 hz12 hkp13 => ?_)
  have hW10 : rg G b0 1 shO_X1 (vo_X1_init_13 b0) H8 := hW10
  have hz14 := hz12.trans hz7
  clear hW3 hz7 hz12 hS4 hkp13
  refine lv_aload_n (pc := 14) hx hb dX1_init_14 rfl (lv_at hl 0 rfl) ?_
  refine lv_iconst (pc := 15) (v := (4 : Int32)) hx hb dX1_init_15 (by decide) ?_
  refine rk_put (pc := 16) (q := b0) hx hb hts hown hK hW10 hS11 flX1_18 ft_X1 0 (by decide) rfl (Or.inl (show iv _ _ _ from ⟨by omega, by omega⟩)) rfl rfl (x := .int (4 : Int32)) rfl rfl (Nat.le_of_ble_eq_true rfl) (sI (vo_X1_init_13 b0) 0 3 (4 : Int32)) sI_ne (by rw [sI_eq]; rfl) dX1_init_16 (fun H15 locs16 hW17 hS18 hz19 hkp20 => ?_)
  have hW17 : rg G b0 1 shO_X1 (vo_X1_init_20 b0) H15 := hW17
  have hz21 := hz19.trans hz14
  clear hW10 hz14 hz19 hS11 hkp20
  refine lv_aload_n (pc := 19) hx hb dX1_init_19 rfl (lv_at hl 0 rfl) ?_
  refine lv_iconst (pc := 20) (v := (5 : Int32)) hx hb dX1_init_20 (by decide) ?_
  refine rk_newarr (pc := 21) (atype := .int) (h := b0 + 1) (sh := (fun _ _ x y _ => some (.inl (G.2.1 0, 5, .inl x)))) hx hb hts hK hS18 q190 0 rfl (fun _ h => nomatch h) hz21 rfl rfl (by decide) rfl (Nat.le_of_ble_eq_true rfl) (Nat.le_of_ble_eq_true rfl) (Nat.le_of_ble_eq_true rfl) dX1_init_21 (fun H22 hW23 hS24 hz25 hkp26 => ?_)
  have hW27 := rg_keepN hW17 hz21 hkp26
  have hz28 : H22.size = b0 + 2 := by omega
  clear hW17 hS18 hz21 hz25 hkp26
  refine lv_dup (pc := 23) hx hb dX1_init_23 rfl ?_
  refine lv_iconst (pc := 24) (v := (0 : Int32)) hx hb dX1_init_24 (by decide) ?_
  refine lv_iconst (pc := 25) (v := (1 : Int32)) hx hb dX1_init_25 (by decide) ?_
  refine rk_iast (pc := 26) hx hb hK hW23 hS24 0 (by decide) rfl (Or.inr (by omega)) (fun _ _ _ => rfl) rfl dX1_init_26 (fun H29 locs30 hW31 hS32 hz33 hkp34 => ?_)
  have hW31 : rg G (b0 + 1) 1 (fun _ _ x y _ => some (.inl (G.2.1 0, 5, .inl x))) (vq_X1_init_34 b0) H29 := hW31
  have hW35 := rg_keepq hW27 hkp34 (by omega)
  have hz36 := hz33.trans hz28
  clear hW23 hW27 hz28 hz33 hS24 hkp34
  refine lv_dup (pc := 27) hx hb dX1_init_27 rfl ?_
  refine lv_iconst (pc := 28) (v := (1 : Int32)) hx hb dX1_init_28 (by decide) ?_
  refine lv_iconst (pc := 29) (v := (1 : Int32)) hx hb dX1_init_29 (by decide) ?_
  refine rk_iast (pc := 30) hx hb hK hW31 hS32 0 (by decide) rfl (Or.inr (by omega)) (fun _ _ _ => rfl) rfl dX1_init_30 (fun H37 locs38 hW39 hS40 hz41 hkp42 => ?_)
  have hW39 : rg G (b0 + 1) 1 (fun _ _ x y _ => some (.inl (G.2.1 0, 5, .inl x))) (vq_X1_init_42 b0) H37 := hW39
  have hW43 := rg_keepq hW35 hkp42 (by omega)
  have hz44 := hz41.trans hz36
  clear hW31 hW35 hz36 hz41 hS32 hkp42
  refine lv_dup (pc := 31) hx hb dX1_init_31 rfl ?_
  refine lv_iconst (pc := 32) (v := (2 : Int32)) hx hb dX1_init_32 (by decide) ?_
  refine lv_iconst (pc := 33) (v := (1 : Int32)) hx hb dX1_init_33 (by decide) ?_
  refine rk_iast (pc := 34) hx hb hK hW39 hS40 0 (by decide) rfl (Or.inr (by omega)) (fun _ _ _ => rfl) rfl dX1_init_34 (fun H45 locs46 hW47 hS48 hz49 hkp50 => ?_)
  have hW47 : rg G (b0 + 1) 1 (fun _ _ x y _ => some (.inl (G.2.1 0, 5, .inl x))) (vq_X1_init_50 b0) H45 := hW47
  have hW51 := rg_keepq hW43 hkp50 (by omega)
  have hz52 := hz49.trans hz44
  clear hW39 hW43 hz44 hz49 hS40 hkp50
  refine lv_dup (pc := 35) hx hb dX1_init_35 rfl ?_
  refine lv_iconst (pc := 36) (v := (3 : Int32)) hx hb dX1_init_36 (by decide) ?_
  refine lv_iconst (pc := 37) (v := (1 : Int32)) hx hb dX1_init_37 (by decide) ?_
  refine rk_iast (pc := 38) hx hb hK hW47 hS48 0 (by decide) rfl (Or.inr (by omega)) (fun _ _ _ => rfl) rfl dX1_init_38 (fun H53 locs54 hW55 hS56 hz57 hkp58 => ?_)
  have hW55 : rg G (b0 + 1) 1 (fun _ _ x y _ => some (.inl (G.2.1 0, 5, .inl x))) (vq_X1_init_58 b0) H53 := hW55
  have hW59 := rg_keepq hW51 hkp58 (by omega)
  have hz60 := hz57.trans hz52
  clear hW47 hW51 hz52 hz57 hS48 hkp58
  refine lv_dup (pc := 39) hx hb dX1_init_39 rfl ?_
  refine lv_iconst (pc := 40) (v := (4 : Int32)) hx hb dX1_init_40 (by decide) ?_
  refine lv_iconst (pc := 41) (v := (1 : Int32)) hx hb dX1_init_41 (by decide) ?_
  refine rk_iast (pc := 42) hx hb hK hW55 hS56 0 (by decide) rfl (Or.inr (by omega)) (fun _ _ _ => rfl) rfl dX1_init_42 (fun H61 locs62 hW63 hS64 hz65 hkp66 => ?_)
  have hW63 : rg G (b0 + 1) 1 (fun _ _ x y _ => some (.inl (G.2.1 0, 5, .inl x))) (vq_X1_init_66 b0) H61 := hW63
  have hW67 := rg_keepq hW59 hkp66 (by omega)
  have hz68 := hz65.trans hz60
  clear hW55 hW59 hz60 hz65 hS56 hkp66
  refine rk_putF (pc := 43) (q := b0) hx hb hts hown hK hW67 hS64 flX1_21 ft_X1 0 (by decide) rfl (Or.inl (show iv _ _ _ from ⟨by omega, by omega⟩)) rfl rfl hin rfl (x := va_rf (some (b0 + 1))) (rf_nar _ rfl (some (b0 + 1))) (rf_fit _ rfl (some (b0 + 1))) (Nat.le_of_ble_eq_true rfl) (sR (vo_X1_init_20 b0) 0 6 (some (b0 + 1))) sR_ne (by rw [sR_eq]; rfl) dX1_init_43 (fun H69 locs70 hW71 hS72 hz73 hkp74 => ?_)
  have hW71 : rg G b0 1 shO_X1 (vo_X1_init_74 b0) H69 := hW71
  have hW75 := rg_keepq hW63 hkp74 (by omega)
  have hz76 := hz73.trans hz68
  clear hW67 hW63 hz68 hz73 hS64 hkp74
  have ap77 := Ap.cons (x := ((b0 + 1), 1, (fun _ _ x y _ => some (.inl (G.2.1 0, 5, .inl x))), vq_X1_init_66 b0)) (Or.inl (show b0 < (b0 + 1) by omega)) (Ap.nil (q := b0))
  have hP78 := PP.cons (hi' := b0 + 2) hW75 (PP.nil (hi := b0)) (by omega) (by omega)
  clear hW75
  refine lv_aload_n (pc := 46) hx hb dX1_init_46 rfl (lv_at hl 0 rfl) ?_
  refine lv_bipush (pc := 47) (v := (8 : Int32)) hx hb dX1_init_47 (by decide) ?_
  refine rk_anew (pc := 49) (h := b0 + 2) (C := "WholePacks$Rule") (sh := (fun _ _ _ _ z => some (.inl (G.2.1 5, 8, .inr (.inr (.inr (.inr z))))))) hx hb hts hown hK hS72 q167 q168 5 rfl hz76 rfl (by decide) rfl (Nat.le_of_ble_eq_true rfl) (Nat.le_of_ble_eq_true rfl) (Nat.le_of_ble_eq_true rfl) dX1_init_49 (fun H79 hW80 hS81 hz82 hkp83 => ?_)
  have hW84 := rg_keepN hW71 hz76 hkp83
  have hP85 := PP.keepN hP78 hz76 hkp83
  have ap86 := PP.ap (q := (b0 + 2)) hP85 (by omega)
  have hz87 : H79.size = b0 + 3 := by omega
  clear hW71 hP78 hS72 hz76 hz82 hkp83
  refine rk_putF (pc := 52) (q := b0) hx hb hts hown hK hW84 hS81 flX1_27 ft_X1 0 (by decide) rfl (Or.inl (show iv _ _ _ from ⟨by omega, by omega⟩)) rfl rfl hin rfl (x := va_rf (some (b0 + 2))) (rf_nar _ rfl (some (b0 + 2))) (rf_fit _ rfl (some (b0 + 2))) (Nat.le_of_ble_eq_true rfl) (sR (vo_X1_init_74 b0) 0 7 (some (b0 + 2))) sR_ne (by rw [sR_eq]; rfl) dX1_init_52 (fun H88 locs89 hW90 hS91 hz92 hkp93 => ?_)
  have hW90 : rg G b0 1 shO_X1 (vo_X1_init_93 b0) H88 := hW90
  have hW94 := rg_keepq hW80 hkp93 (by omega)
  have hP95 := PP.keepq hP85 hkp93 ap77
  have hz96 := hz92.trans hz87
  clear hW84 hW80 hP85 hz87 hz92 hS81 hkp93
  refine lv_aload_n (pc := 55) hx hb dX1_init_55 rfl (lv_at hl 0 rfl) ?_
  refine lv_bipush (pc := 56) (v := (8 : Int32)) hx hb dX1_init_56 (by decide) ?_
  refine rk_newarr (pc := 58) (atype := .int) (h := b0 + 3) (sh := (fun _ _ x y _ => some (.inl (G.2.1 0, 8, .inl x)))) hx hb hts hK hS91 q190 0 rfl (fun _ h => nomatch h) hz96 rfl rfl (by decide) rfl (Nat.le_of_ble_eq_true rfl) (Nat.le_of_ble_eq_true rfl) (Nat.le_of_ble_eq_true rfl) dX1_init_58 (fun H97 hW98 hS99 hz100 hkp101 => ?_)
  have hW102 := rg_keepN hW90 hz96 hkp101
  have hW103 := rg_keepN hW94 hz96 hkp101
  have hP104 := PP.keepN hP95 hz96 hkp101
  have ap105 := PP.ap (q := (b0 + 3)) hP104 (by omega)
  have hz106 : H97.size = b0 + 4 := by omega
  clear hW90 hW94 hP95 hS91 hz96 hz100 hkp101
  refine rk_putF (pc := 60) (q := b0) hx hb hts hown hK hW102 hS99 flX1_31 ft_X1 0 (by decide) rfl (Or.inl (show iv _ _ _ from ⟨by omega, by omega⟩)) rfl rfl hin rfl (x := va_rf (some (b0 + 3))) (rf_nar _ rfl (some (b0 + 3))) (rf_fit _ rfl (some (b0 + 3))) (Nat.le_of_ble_eq_true rfl) (sR (vo_X1_init_93 b0) 0 8 (some (b0 + 3))) sR_ne (by rw [sR_eq]; rfl) dX1_init_60 (fun H107 locs108 hW109 hS110 hz111 hkp112 => ?_)
  have hW109 : rg G b0 1 shO_X1 (vo_X1_init_112 b0) H107 := hW109
  have hW113 := rg_keepq hW103 hkp112 (by omega)
  have hW114 := rg_keepq hW98 hkp112 (by omega)
  have hP115 := PP.keepq hP104 hkp112 ap77
  have hz116 := hz111.trans hz106
  clear hW102 hW103 hW98 hP104 hz106 hz111 hS99 hkp112
  have ap117 := Ap.cons (x := ((b0 + 3), 1, (fun _ _ x y _ => some (.inl (G.2.1 0, 8, .inl x))), mz)) (Or.inl (show b0 < (b0 + 3) by omega)) ap77
  have ap118 := Ap.cons (x := ((b0 + 3), 1, (fun _ _ x y _ => some (.inl (G.2.1 0, 8, .inl x))), mz)) (Or.inl (show (b0 + 2) < (b0 + 3) by omega)) ap86
  have hP119 := PP.cons (hi' := b0 + 4) hW114 hP115 (by omega) (by omega)
  clear ap77 ap86 hP115 hW114
  refine lv_aload_n (pc := 63) hx hb dX1_init_63 rfl (lv_at hl 0 rfl) ?_
  refine lv_bipush (pc := 64) (v := (10 : Int32)) hx hb dX1_init_64 (by decide) ?_
  refine rk_newarr (pc := 66) (atype := .int) (h := b0 + 4) (sh := (fun _ _ x y _ => some (.inl (G.2.1 0, 10, .inl x)))) hx hb hts hK hS110 q190 0 rfl (fun _ h => nomatch h) hz116 rfl rfl (by decide) rfl (Nat.le_of_ble_eq_true rfl) (Nat.le_of_ble_eq_true rfl) (Nat.le_of_ble_eq_true rfl) dX1_init_66 (fun H120 hW121 hS122 hz123 hkp124 => ?_)
  have hW125 := rg_keepN hW109 hz116 hkp124
  have hW126 := rg_keepN hW113 hz116 hkp124
  have hP127 := PP.keepN hP119 hz116 hkp124
  have ap128 := PP.ap (q := (b0 + 4)) hP127 (by omega)
  have hz129 : H120.size = b0 + 5 := by omega
  clear hW109 hW113 hP119 hS110 hz116 hz123 hkp124
  refine rk_putF (pc := 68) (q := b0) hx hb hts hown hK hW125 hS122 flX1_34 ft_X1 0 (by decide) rfl (Or.inl (show iv _ _ _ from ⟨by omega, by omega⟩)) rfl rfl hin rfl (x := va_rf (some (b0 + 4))) (rf_nar _ rfl (some (b0 + 4))) (rf_fit _ rfl (some (b0 + 4))) (Nat.le_of_ble_eq_true rfl) (sR (vo_X1_init_112 b0) 0 9 (some (b0 + 4))) sR_ne (by rw [sR_eq]; rfl) dX1_init_68 (fun H130 locs131 hW132 hS133 hz134 hkp135 => ?_)
  have hW132 : rg G b0 1 shO_X1 (vo_X1_init_135 b0) H130 := hW132
  have hW136 := rg_keepq hW126 hkp135 (by omega)
  have hW137 := rg_keepq hW121 hkp135 (by omega)
  have hP138 := PP.keepq hP127 hkp135 ap117
  have hz139 := hz134.trans hz129
  clear hW125 hW126 hW121 hP127 hz129 hz134 hS122 hkp135
  have ap140 := Ap.cons (x := ((b0 + 4), 1, (fun _ _ x y _ => some (.inl (G.2.1 0, 10, .inl x))), mz)) (Or.inl (show b0 < (b0 + 4) by omega)) ap117
  have ap141 := Ap.cons (x := ((b0 + 4), 1, (fun _ _ x y _ => some (.inl (G.2.1 0, 10, .inl x))), mz)) (Or.inl (show (b0 + 2) < (b0 + 4) by omega)) ap118
  have hP142 := PP.cons (hi' := b0 + 5) hW137 hP138 (by omega) (by omega)
  clear ap117 ap118 hP138 hW137
  refine lv_aload_n (pc := 71) hx hb dX1_init_71 rfl (lv_at hl 0 rfl) ?_
  refine lv_bipush (pc := 72) (v := (24 : Int32)) hx hb dX1_init_72 (by decide) ?_
  refine rk_newarr (pc := 74) (atype := .int) (h := b0 + 5) (sh := (fun _ _ x y _ => some (.inl (G.2.1 0, 24, .inl x)))) hx hb hts hK hS133 q190 0 rfl (fun _ h => nomatch h) hz139 rfl rfl (by decide) rfl (Nat.le_of_ble_eq_true rfl) (Nat.le_of_ble_eq_true rfl) (Nat.le_of_ble_eq_true rfl) dX1_init_74 (fun H143 hW144 hS145 hz146 hkp147 => ?_)
  have hW148 := rg_keepN hW132 hz139 hkp147
  have hW149 := rg_keepN hW136 hz139 hkp147
  have hP150 := PP.keepN hP142 hz139 hkp147
  have ap151 := PP.ap (q := (b0 + 5)) hP150 (by omega)
  have hz152 : H143.size = b0 + 6 := by omega
  clear hW132 hW136 hP142 hS133 hz139 hz146 hkp147
  refine rk_putF (pc := 76) (q := b0) hx hb hts hown hK hW148 hS145 flX1_37 ft_X1 0 (by decide) rfl (Or.inl (show iv _ _ _ from ⟨by omega, by omega⟩)) rfl rfl hin rfl (x := va_rf (some (b0 + 5))) (rf_nar _ rfl (some (b0 + 5))) (rf_fit _ rfl (some (b0 + 5))) (Nat.le_of_ble_eq_true rfl) (sR (vo_X1_init_135 b0) 0 10 (some (b0 + 5))) sR_ne (by rw [sR_eq]; rfl) dX1_init_76 (fun H153 locs154 hW155 hS156 hz157 hkp158 => ?_)
  have hW155 : rg G b0 1 shO_X1 (vo_X1_init_158 b0) H153 := hW155
  have hW159 := rg_keepq hW149 hkp158 (by omega)
  have hW160 := rg_keepq hW144 hkp158 (by omega)
  have hP161 := PP.keepq hP150 hkp158 ap140
  have hz162 := hz157.trans hz152
  clear hW148 hW149 hW144 hP150 hz152 hz157 hS145 hkp158
  have ap163 := Ap.cons (x := ((b0 + 5), 1, (fun _ _ x y _ => some (.inl (G.2.1 0, 24, .inl x))), mz)) (Or.inl (show b0 < (b0 + 5) by omega)) ap140
  have ap164 := Ap.cons (x := ((b0 + 5), 1, (fun _ _ x y _ => some (.inl (G.2.1 0, 24, .inl x))), mz)) (Or.inl (show (b0 + 2) < (b0 + 5) by omega)) ap141
  have hP165 := PP.cons (hi' := b0 + 6) hW160 hP161 (by omega) (by omega)
  clear ap140 ap141 hP161 hW160
  refine lv_iconst (pc := 79) (v := (0 : Int32)) hx hb dX1_init_79 (by decide) ?_
  refine lv_istore_n (pc := 80) (lv' := [(1, .int (0 : Int32)), (0, .ref b0)]) hx hb dX1_init_80 rfl hl (by decide) rfl (fun ls hl => ?_)
  refine lv_iload_n (pc := 81) hx hb dX1_init_81 rfl (lv_at hl 0 rfl) ?_
  refine lv_bipush (pc := 82) (v := (8 : Int32)) hx hb dX1_init_82 (by decide) ?_
  refine lv_icmp_ge (pc := 84) (tgt := 106) hx hb dX1_init_84 (by decide) (fun h => absurd h (by decide)) (fun _ => ?_)
  refine lv_aload_n (pc := 87) hx hb dX1_init_87 rfl (lv_at hl 1 rfl) ?_
  refine rk_get (pc := 88) hx hb hts hown hK hW155 flX1_27 0 (by decide) rfl rfl (x := .ref (b0 + 2)) rfl dX1_init_88 ?_
  refine lv_iload_n (pc := 91) hx hb dX1_init_91 rfl (lv_at hl 0 rfl) ?_
  refine rk_new (pc := 92) (h := b0 + 6) (sh := (shO_X2)) hx hb hts hown hK hS156 in_X2 ft_X2 rfl q167 q169 q116 hz162 rfl (df_X2 _ rfl) (Nat.le_of_ble_eq_true rfl) (Nat.le_of_ble_eq_true rfl) dX1_init_92 (fun H166 hW167 hS168 hz169 hkp170 => ?_)
  have hW171 := rg_keepN hW155 hz162 hkp170
  have hW172 := rg_keepN hW159 hz162 hkp170
  have hP173 := PP.keepN hP165 hz162 hkp170
  have ap174 := PP.ap (q := (b0 + 6)) hP173 (by omega)
  have hz175 : H166.size = b0 + 7 := by omega
  clear hW155 hW159 hP165 hS156 hz162 hz169 hkp170
  refine lv_dup (pc := 95) hx hb dX1_init_95 rfl ?_
  refine rk_TIN (pc := 96) (As := []) (rest := [.ref (b0 + 6), .int (0 : Int32), .ref (b0 + 2)]) (mc := 1) (ms := 5) hx hb hml hown hts hK hS168 (fun q hq => FA_sz rfl q hq) lkX1_40 yn_X2_init (ct_X2_init (G := G) (l := l) (b0 := (b0 + 6)) (sz := H166.size) (by omega)) ⟨Nat.le_of_ble_eq_true rfl, Nat.le_of_ble_eq_true rfl⟩ (fun z h => Or.inr (by have h8 := h.1; omega)) hW167 rfl rfl hl.1 (Nat.le_of_ble_eq_true rfl) dX1_init_96 ⟨Nat.le_of_ble_eq_true rfl, Nat.le_of_ble_eq_true rfl⟩ (fun ov9 H176 locs177 hP178 hkp179 hS180 => ?_)
  obtain ⟨rfl, hW181, hz182⟩ := hP178
  have hW183 := rg_keepA hW171 hkp179 (by intro z h1 h2 h3; have h8 := h3.1; have h9 := h3.2; omega)
  have hW184 := rg_keepA hW172 hkp179 (by intro z h1 h2 h3; have h8 := h3.1; have h9 := h3.2; omega)
  have hP185 := PP.keepA hP173 hkp179 (by omega)
  have hz186 : H176.size = b0 + 8 := by omega
  have ap187 := Ap.cons (x := ((b0 + 6), 2, (shX2 G.2.1), (vc_X2 (b0 + 6)))) (Or.inl (show b0 < (b0 + 6) by omega)) ap163
  have ap188 := Ap.cons (x := ((b0 + 6), 2, (shX2 G.2.1), (vc_X2 (b0 + 6)))) (Or.inl (show (b0 + 2) < (b0 + 6) by omega)) ap164
  have hP189 := PP.cons (hi' := b0 + 8) hW181 hP185 (by omega) (by omega)
  clear hW171 hW172 hP173 hz175 hz182 hkp179 hS168 hW167 ap174 ap163 ap164 hP185 hW181
  refine W.eq (g2 := F0 m 99 ls [.ref (b0 + 6), .int (0 : Int32), .ref (b0 + 2)]) rfl ?_
  refine rk_aastC (pc := 99) hx hb hK hW184 hS180 0 5 (by decide) rfl (Or.inr (by omega)) (fun _ _ _ => rfl) rfl rfl (rk_recv (ci := 2) (C := RX2) (T := TX2) (N := 3) hK (PP.at hP189 0 rfl) 0 (by decide) rfl rfl rfl) dX1_init_99 (fun H190 locs191 hW192 hS193 hz194 hkp195 => ?_)
  have hW192 : rg G (b0 + 2) 1 (fun _ _ _ _ z => some (.inl (G.2.1 5, 8, .inr (.inr (.inr (.inr z)))))) (vq_X1_init_195 b0) H190 := hW192
  have hW196 := rg_keepq hW183 hkp195 (by omega)
  have hP197 := PP.keepq hP189 hkp195 ap188
  have hz198 := hz194.trans hz186
  clear hW184 hW183 hP189 hz186 hz194 hS180 hkp195
  refine lv_iinc (pc := 100) (v := (1 : Int32)) (lv' := [(1, .int (1 : Int32)), (0, .ref b0)]) hx hb dX1_init_100 hl (k := 0) rfl (by decide) (by decide) rfl (fun ls hl => ?_)
  refine lv_goto (pc := 103) (tgt := 81) hx hb dX1_init_103 (by decide) ?_
  refine lv_iload_n (pc := 81) hx hb dX1_init_81 rfl (lv_at hl 0 rfl) ?_
  refine lv_bipush (pc := 82) (v := (8 : Int32)) hx hb dX1_init_82 (by decide) ?_
  refine lv_icmp_ge (pc := 84) (tgt := 106) hx hb dX1_init_84 (by decide) (fun h => absurd h (by decide)) (fun _ => ?_)
  refine lv_aload_n (pc := 87) hx hb dX1_init_87 rfl (lv_at hl 1 rfl) ?_
  refine rk_get (pc := 88) hx hb hts hown hK hW196 flX1_27 0 (by decide) rfl rfl (x := .ref (b0 + 2)) rfl dX1_init_88 ?_
  refine lv_iload_n (pc := 91) hx hb dX1_init_91 rfl (lv_at hl 0 rfl) ?_
  refine rk_new (pc := 92) (h := b0 + 8) (sh := (shO_X2)) hx hb hts hown hK hS193 in_X2 ft_X2 rfl q167 q169 q116 hz198 rfl (df_X2 _ rfl) (Nat.le_of_ble_eq_true rfl) (Nat.le_of_ble_eq_true rfl) dX1_init_92 (fun H199 hW200 hS201 hz202 hkp203 => ?_)
  have hW204 := rg_keepN hW196 hz198 hkp203
  have hW205 := rg_keepN hW192 hz198 hkp203
  have hP206 := PP.keepN hP197 hz198 hkp203
  have ap207 := PP.ap (q := (b0 + 8)) hP206 (by omega)
  have hz208 : H199.size = b0 + 9 := by omega
  clear hW196 hW192 hP197 hS193 hz198 hz202 hkp203
  refine lv_dup (pc := 95) hx hb dX1_init_95 rfl ?_
  refine rk_TIN (pc := 96) (As := []) (rest := [.ref (b0 + 8), .int (1 : Int32), .ref (b0 + 2)]) (mc := 1) (ms := 5) hx hb hml hown hts hK hS201 (fun q hq => FA_sz rfl q hq) lkX1_40 yn_X2_init (ct_X2_init (G := G) (l := l) (b0 := (b0 + 8)) (sz := H199.size) (by omega)) ⟨Nat.le_of_ble_eq_true rfl, Nat.le_of_ble_eq_true rfl⟩ (fun z h => Or.inr (by have h8 := h.1; omega)) hW200 rfl rfl hl.1 (Nat.le_of_ble_eq_true rfl) dX1_init_96 ⟨Nat.le_of_ble_eq_true rfl, Nat.le_of_ble_eq_true rfl⟩ (fun ov9 H209 locs210 hP211 hkp212 hS213 => ?_)
  obtain ⟨rfl, hW214, hz215⟩ := hP211
  have hW216 := rg_keepA hW204 hkp212 (by intro z h1 h2 h3; have h8 := h3.1; have h9 := h3.2; omega)
  have hW217 := rg_keepA hW205 hkp212 (by intro z h1 h2 h3; have h8 := h3.1; have h9 := h3.2; omega)
  have hP218 := PP.keepA hP206 hkp212 (by omega)
  have hz219 : H209.size = b0 + 10 := by omega
  have ap220 := Ap.cons (x := ((b0 + 8), 2, (shX2 G.2.1), (vc_X2 (b0 + 8)))) (Or.inl (show b0 < (b0 + 8) by omega)) ap187
  have ap221 := Ap.cons (x := ((b0 + 8), 2, (shX2 G.2.1), (vc_X2 (b0 + 8)))) (Or.inl (show (b0 + 2) < (b0 + 8) by omega)) ap188
  have hP222 := PP.cons (hi' := b0 + 10) hW214 hP218 (by omega) (by omega)
  clear hW204 hW205 hP206 hz208 hz215 hkp212 hS201 hW200 ap207 ap187 ap188 hP218 hW214
  refine W.eq (g2 := F0 m 99 ls [.ref (b0 + 8), .int (1 : Int32), .ref (b0 + 2)]) rfl ?_
  refine rk_aastC (pc := 99) hx hb hK hW217 hS213 0 5 (by decide) rfl (Or.inr (by omega)) (fun _ _ _ => rfl) rfl rfl (rk_recv (ci := 2) (C := RX2) (T := TX2) (N := 3) hK (PP.at hP222 0 rfl) 0 (by decide) rfl rfl rfl) dX1_init_99 (fun H223 locs224 hW225 hS226 hz227 hkp228 => ?_)
  have hW225 : rg G (b0 + 2) 1 (fun _ _ _ _ z => some (.inl (G.2.1 5, 8, .inr (.inr (.inr (.inr z)))))) (vq_X1_init_228 b0) H223 := hW225
  have hW229 := rg_keepq hW216 hkp228 (by omega)
  have hP230 := PP.keepq hP222 hkp228 ap221
  have hz231 := hz227.trans hz219
  clear hW217 hW216 hP222 hz219 hz227 hS213 hkp228
  refine lv_iinc (pc := 100) (v := (2 : Int32)) (lv' := [(1, .int (2 : Int32)), (0, .ref b0)]) hx hb dX1_init_100 hl (k := 0) rfl (by decide) (by decide) rfl (fun ls hl => ?_)
  refine lv_goto (pc := 103) (tgt := 81) hx hb dX1_init_103 (by decide) ?_
  refine lv_iload_n (pc := 81) hx hb dX1_init_81 rfl (lv_at hl 0 rfl) ?_
  refine lv_bipush (pc := 82) (v := (8 : Int32)) hx hb dX1_init_82 (by decide) ?_
  refine lv_icmp_ge (pc := 84) (tgt := 106) hx hb dX1_init_84 (by decide) (fun h => absurd h (by decide)) (fun _ => ?_)
  refine lv_aload_n (pc := 87) hx hb dX1_init_87 rfl (lv_at hl 1 rfl) ?_
  refine rk_get (pc := 88) hx hb hts hown hK hW229 flX1_27 0 (by decide) rfl rfl (x := .ref (b0 + 2)) rfl dX1_init_88 ?_
  refine lv_iload_n (pc := 91) hx hb dX1_init_91 rfl (lv_at hl 0 rfl) ?_
  refine rk_new (pc := 92) (h := b0 + 10) (sh := (shO_X2)) hx hb hts hown hK hS226 in_X2 ft_X2 rfl q167 q169 q116 hz231 rfl (df_X2 _ rfl) (Nat.le_of_ble_eq_true rfl) (Nat.le_of_ble_eq_true rfl) dX1_init_92 (fun H232 hW233 hS234 hz235 hkp236 => ?_)
  have hW237 := rg_keepN hW229 hz231 hkp236
  have hW238 := rg_keepN hW225 hz231 hkp236
  have hP239 := PP.keepN hP230 hz231 hkp236
  have ap240 := PP.ap (q := (b0 + 10)) hP239 (by omega)
  have hz241 : H232.size = b0 + 11 := by omega
  clear hW229 hW225 hP230 hS226 hz231 hz235 hkp236
  refine lv_dup (pc := 95) hx hb dX1_init_95 rfl ?_
  refine rk_TIN (pc := 96) (As := []) (rest := [.ref (b0 + 10), .int (2 : Int32), .ref (b0 + 2)]) (mc := 1) (ms := 5) hx hb hml hown hts hK hS234 (fun q hq => FA_sz rfl q hq) lkX1_40 yn_X2_init (ct_X2_init (G := G) (l := l) (b0 := (b0 + 10)) (sz := H232.size) (by omega)) ⟨Nat.le_of_ble_eq_true rfl, Nat.le_of_ble_eq_true rfl⟩ (fun z h => Or.inr (by have h8 := h.1; omega)) hW233 rfl rfl hl.1 (Nat.le_of_ble_eq_true rfl) dX1_init_96 ⟨Nat.le_of_ble_eq_true rfl, Nat.le_of_ble_eq_true rfl⟩ (fun ov9 H242 locs243 hP244 hkp245 hS246 => ?_)
  obtain ⟨rfl, hW247, hz248⟩ := hP244
  have hW249 := rg_keepA hW237 hkp245 (by intro z h1 h2 h3; have h8 := h3.1; have h9 := h3.2; omega)
  have hW250 := rg_keepA hW238 hkp245 (by intro z h1 h2 h3; have h8 := h3.1; have h9 := h3.2; omega)
  have hP251 := PP.keepA hP239 hkp245 (by omega)
  have hz252 : H242.size = b0 + 12 := by omega
  have ap253 := Ap.cons (x := ((b0 + 10), 2, (shX2 G.2.1), (vc_X2 (b0 + 10)))) (Or.inl (show b0 < (b0 + 10) by omega)) ap220
  have ap254 := Ap.cons (x := ((b0 + 10), 2, (shX2 G.2.1), (vc_X2 (b0 + 10)))) (Or.inl (show (b0 + 2) < (b0 + 10) by omega)) ap221
  have hP255 := PP.cons (hi' := b0 + 12) hW247 hP251 (by omega) (by omega)
  clear hW237 hW238 hP239 hz241 hz248 hkp245 hS234 hW233 ap240 ap220 ap221 hP251 hW247
  refine W.eq (g2 := F0 m 99 ls [.ref (b0 + 10), .int (2 : Int32), .ref (b0 + 2)]) rfl ?_
  refine rk_aastC (pc := 99) hx hb hK hW250 hS246 0 5 (by decide) rfl (Or.inr (by omega)) (fun _ _ _ => rfl) rfl rfl (rk_recv (ci := 2) (C := RX2) (T := TX2) (N := 3) hK (PP.at hP255 0 rfl) 0 (by decide) rfl rfl rfl) dX1_init_99 (fun H256 locs257 hW258 hS259 hz260 hkp261 => ?_)
  have hW258 : rg G (b0 + 2) 1 (fun _ _ _ _ z => some (.inl (G.2.1 5, 8, .inr (.inr (.inr (.inr z)))))) (vq_X1_init_261 b0) H256 := hW258
  have hW262 := rg_keepq hW249 hkp261 (by omega)
  have hP263 := PP.keepq hP255 hkp261 ap254
  have hz264 := hz260.trans hz252
  clear hW250 hW249 hP255 hz252 hz260 hS246 hkp261
  refine lv_iinc (pc := 100) (v := (3 : Int32)) (lv' := [(1, .int (3 : Int32)), (0, .ref b0)]) hx hb dX1_init_100 hl (k := 0) rfl (by decide) (by decide) rfl (fun ls hl => ?_)
  refine lv_goto (pc := 103) (tgt := 81) hx hb dX1_init_103 (by decide) ?_
  refine lv_iload_n (pc := 81) hx hb dX1_init_81 rfl (lv_at hl 0 rfl) ?_
  refine lv_bipush (pc := 82) (v := (8 : Int32)) hx hb dX1_init_82 (by decide) ?_
  refine lv_icmp_ge (pc := 84) (tgt := 106) hx hb dX1_init_84 (by decide) (fun h => absurd h (by decide)) (fun _ => ?_)
  refine lv_aload_n (pc := 87) hx hb dX1_init_87 rfl (lv_at hl 1 rfl) ?_
  refine rk_get (pc := 88) hx hb hts hown hK hW262 flX1_27 0 (by decide) rfl rfl (x := .ref (b0 + 2)) rfl dX1_init_88 ?_
  refine lv_iload_n (pc := 91) hx hb dX1_init_91 rfl (lv_at hl 0 rfl) ?_
  refine rk_new (pc := 92) (h := b0 + 12) (sh := (shO_X2)) hx hb hts hown hK hS259 in_X2 ft_X2 rfl q167 q169 q116 hz264 rfl (df_X2 _ rfl) (Nat.le_of_ble_eq_true rfl) (Nat.le_of_ble_eq_true rfl) dX1_init_92 (fun H265 hW266 hS267 hz268 hkp269 => ?_)
  have hW270 := rg_keepN hW262 hz264 hkp269
  have hW271 := rg_keepN hW258 hz264 hkp269
  have hP272 := PP.keepN hP263 hz264 hkp269
  have ap273 := PP.ap (q := (b0 + 12)) hP272 (by omega)
  have hz274 : H265.size = b0 + 13 := by omega
  clear hW262 hW258 hP263 hS259 hz264 hz268 hkp269
  refine lv_dup (pc := 95) hx hb dX1_init_95 rfl ?_
  refine rk_TIN (pc := 96) (As := []) (rest := [.ref (b0 + 12), .int (3 : Int32), .ref (b0 + 2)]) (mc := 1) (ms := 5) hx hb hml hown hts hK hS267 (fun q hq => FA_sz rfl q hq) lkX1_40 yn_X2_init (ct_X2_init (G := G) (l := l) (b0 := (b0 + 12)) (sz := H265.size) (by omega)) ⟨Nat.le_of_ble_eq_true rfl, Nat.le_of_ble_eq_true rfl⟩ (fun z h => Or.inr (by have h8 := h.1; omega)) hW266 rfl rfl hl.1 (Nat.le_of_ble_eq_true rfl) dX1_init_96 ⟨Nat.le_of_ble_eq_true rfl, Nat.le_of_ble_eq_true rfl⟩ (fun ov9 H275 locs276 hP277 hkp278 hS279 => ?_)
  obtain ⟨rfl, hW280, hz281⟩ := hP277
  have hW282 := rg_keepA hW270 hkp278 (by intro z h1 h2 h3; have h8 := h3.1; have h9 := h3.2; omega)
  have hW283 := rg_keepA hW271 hkp278 (by intro z h1 h2 h3; have h8 := h3.1; have h9 := h3.2; omega)
  have hP284 := PP.keepA hP272 hkp278 (by omega)
  have hz285 : H275.size = b0 + 14 := by omega
  have ap286 := Ap.cons (x := ((b0 + 12), 2, (shX2 G.2.1), (vc_X2 (b0 + 12)))) (Or.inl (show b0 < (b0 + 12) by omega)) ap253
  have ap287 := Ap.cons (x := ((b0 + 12), 2, (shX2 G.2.1), (vc_X2 (b0 + 12)))) (Or.inl (show (b0 + 2) < (b0 + 12) by omega)) ap254
  have hP288 := PP.cons (hi' := b0 + 14) hW280 hP284 (by omega) (by omega)
  clear hW270 hW271 hP272 hz274 hz281 hkp278 hS267 hW266 ap273 ap253 ap254 hP284 hW280
  refine W.eq (g2 := F0 m 99 ls [.ref (b0 + 12), .int (3 : Int32), .ref (b0 + 2)]) rfl ?_
  refine rk_aastC (pc := 99) hx hb hK hW283 hS279 0 5 (by decide) rfl (Or.inr (by omega)) (fun _ _ _ => rfl) rfl rfl (rk_recv (ci := 2) (C := RX2) (T := TX2) (N := 3) hK (PP.at hP288 0 rfl) 0 (by decide) rfl rfl rfl) dX1_init_99 (fun H289 locs290 hW291 hS292 hz293 hkp294 => ?_)
  have hW291 : rg G (b0 + 2) 1 (fun _ _ _ _ z => some (.inl (G.2.1 5, 8, .inr (.inr (.inr (.inr z)))))) (vq_X1_init_294 b0) H289 := hW291
  have hW295 := rg_keepq hW282 hkp294 (by omega)
  have hP296 := PP.keepq hP288 hkp294 ap287
  have hz297 := hz293.trans hz285
  clear hW283 hW282 hP288 hz285 hz293 hS279 hkp294
  refine lv_iinc (pc := 100) (v := (4 : Int32)) (lv' := [(1, .int (4 : Int32)), (0, .ref b0)]) hx hb dX1_init_100 hl (k := 0) rfl (by decide) (by decide) rfl (fun ls hl => ?_)
  refine lv_goto (pc := 103) (tgt := 81) hx hb dX1_init_103 (by decide) ?_
  refine lv_iload_n (pc := 81) hx hb dX1_init_81 rfl (lv_at hl 0 rfl) ?_
  refine lv_bipush (pc := 82) (v := (8 : Int32)) hx hb dX1_init_82 (by decide) ?_
  refine lv_icmp_ge (pc := 84) (tgt := 106) hx hb dX1_init_84 (by decide) (fun h => absurd h (by decide)) (fun _ => ?_)
  refine lv_aload_n (pc := 87) hx hb dX1_init_87 rfl (lv_at hl 1 rfl) ?_
  refine rk_get (pc := 88) hx hb hts hown hK hW295 flX1_27 0 (by decide) rfl rfl (x := .ref (b0 + 2)) rfl dX1_init_88 ?_
  refine lv_iload_n (pc := 91) hx hb dX1_init_91 rfl (lv_at hl 0 rfl) ?_
  refine rk_new (pc := 92) (h := b0 + 14) (sh := (shO_X2)) hx hb hts hown hK hS292 in_X2 ft_X2 rfl q167 q169 q116 hz297 rfl (df_X2 _ rfl) (Nat.le_of_ble_eq_true rfl) (Nat.le_of_ble_eq_true rfl) dX1_init_92 (fun H298 hW299 hS300 hz301 hkp302 => ?_)
  have hW303 := rg_keepN hW295 hz297 hkp302
  have hW304 := rg_keepN hW291 hz297 hkp302
  have hP305 := PP.keepN hP296 hz297 hkp302
  have ap306 := PP.ap (q := (b0 + 14)) hP305 (by omega)
  have hz307 : H298.size = b0 + 15 := by omega
  clear hW295 hW291 hP296 hS292 hz297 hz301 hkp302
  refine lv_dup (pc := 95) hx hb dX1_init_95 rfl ?_
  refine rk_TIN (pc := 96) (As := []) (rest := [.ref (b0 + 14), .int (4 : Int32), .ref (b0 + 2)]) (mc := 1) (ms := 5) hx hb hml hown hts hK hS300 (fun q hq => FA_sz rfl q hq) lkX1_40 yn_X2_init (ct_X2_init (G := G) (l := l) (b0 := (b0 + 14)) (sz := H298.size) (by omega)) ⟨Nat.le_of_ble_eq_true rfl, Nat.le_of_ble_eq_true rfl⟩ (fun z h => Or.inr (by have h8 := h.1; omega)) hW299 rfl rfl hl.1 (Nat.le_of_ble_eq_true rfl) dX1_init_96 ⟨Nat.le_of_ble_eq_true rfl, Nat.le_of_ble_eq_true rfl⟩ (fun ov9 H308 locs309 hP310 hkp311 hS312 => ?_)
  obtain ⟨rfl, hW313, hz314⟩ := hP310
  have hW315 := rg_keepA hW303 hkp311 (by intro z h1 h2 h3; have h8 := h3.1; have h9 := h3.2; omega)
  have hW316 := rg_keepA hW304 hkp311 (by intro z h1 h2 h3; have h8 := h3.1; have h9 := h3.2; omega)
  have hP317 := PP.keepA hP305 hkp311 (by omega)
  have hz318 : H308.size = b0 + 16 := by omega
  have ap319 := Ap.cons (x := ((b0 + 14), 2, (shX2 G.2.1), (vc_X2 (b0 + 14)))) (Or.inl (show b0 < (b0 + 14) by omega)) ap286
  have ap320 := Ap.cons (x := ((b0 + 14), 2, (shX2 G.2.1), (vc_X2 (b0 + 14)))) (Or.inl (show (b0 + 2) < (b0 + 14) by omega)) ap287
  have hP321 := PP.cons (hi' := b0 + 16) hW313 hP317 (by omega) (by omega)
  clear hW303 hW304 hP305 hz307 hz314 hkp311 hS300 hW299 ap306 ap286 ap287 hP317 hW313
  refine W.eq (g2 := F0 m 99 ls [.ref (b0 + 14), .int (4 : Int32), .ref (b0 + 2)]) rfl ?_
  refine rk_aastC (pc := 99) hx hb hK hW316 hS312 0 5 (by decide) rfl (Or.inr (by omega)) (fun _ _ _ => rfl) rfl rfl (rk_recv (ci := 2) (C := RX2) (T := TX2) (N := 3) hK (PP.at hP321 0 rfl) 0 (by decide) rfl rfl rfl) dX1_init_99 (fun H322 locs323 hW324 hS325 hz326 hkp327 => ?_)
  have hW324 : rg G (b0 + 2) 1 (fun _ _ _ _ z => some (.inl (G.2.1 5, 8, .inr (.inr (.inr (.inr z)))))) (vq_X1_init_327 b0) H322 := hW324
  have hW328 := rg_keepq hW315 hkp327 (by omega)
  have hP329 := PP.keepq hP321 hkp327 ap320
  have hz330 := hz326.trans hz318
  clear hW316 hW315 hP321 hz318 hz326 hS312 hkp327
  refine lv_iinc (pc := 100) (v := (5 : Int32)) (lv' := [(1, .int (5 : Int32)), (0, .ref b0)]) hx hb dX1_init_100 hl (k := 0) rfl (by decide) (by decide) rfl (fun ls hl => ?_)
  refine lv_goto (pc := 103) (tgt := 81) hx hb dX1_init_103 (by decide) ?_
  refine lv_iload_n (pc := 81) hx hb dX1_init_81 rfl (lv_at hl 0 rfl) ?_
  refine lv_bipush (pc := 82) (v := (8 : Int32)) hx hb dX1_init_82 (by decide) ?_
  refine lv_icmp_ge (pc := 84) (tgt := 106) hx hb dX1_init_84 (by decide) (fun h => absurd h (by decide)) (fun _ => ?_)
  refine lv_aload_n (pc := 87) hx hb dX1_init_87 rfl (lv_at hl 1 rfl) ?_
  refine rk_get (pc := 88) hx hb hts hown hK hW328 flX1_27 0 (by decide) rfl rfl (x := .ref (b0 + 2)) rfl dX1_init_88 ?_
  refine lv_iload_n (pc := 91) hx hb dX1_init_91 rfl (lv_at hl 0 rfl) ?_
  refine rk_new (pc := 92) (h := b0 + 16) (sh := (shO_X2)) hx hb hts hown hK hS325 in_X2 ft_X2 rfl q167 q169 q116 hz330 rfl (df_X2 _ rfl) (Nat.le_of_ble_eq_true rfl) (Nat.le_of_ble_eq_true rfl) dX1_init_92 (fun H331 hW332 hS333 hz334 hkp335 => ?_)
  have hW336 := rg_keepN hW328 hz330 hkp335
  have hW337 := rg_keepN hW324 hz330 hkp335
  have hP338 := PP.keepN hP329 hz330 hkp335
  have ap339 := PP.ap (q := (b0 + 16)) hP338 (by omega)
  have hz340 : H331.size = b0 + 17 := by omega
  clear hW328 hW324 hP329 hS325 hz330 hz334 hkp335
  refine lv_dup (pc := 95) hx hb dX1_init_95 rfl ?_
  refine rk_TIN (pc := 96) (As := []) (rest := [.ref (b0 + 16), .int (5 : Int32), .ref (b0 + 2)]) (mc := 1) (ms := 5) hx hb hml hown hts hK hS333 (fun q hq => FA_sz rfl q hq) lkX1_40 yn_X2_init (ct_X2_init (G := G) (l := l) (b0 := (b0 + 16)) (sz := H331.size) (by omega)) ⟨Nat.le_of_ble_eq_true rfl, Nat.le_of_ble_eq_true rfl⟩ (fun z h => Or.inr (by have h8 := h.1; omega)) hW332 rfl rfl hl.1 (Nat.le_of_ble_eq_true rfl) dX1_init_96 ⟨Nat.le_of_ble_eq_true rfl, Nat.le_of_ble_eq_true rfl⟩ (fun ov9 H341 locs342 hP343 hkp344 hS345 => ?_)
  obtain ⟨rfl, hW346, hz347⟩ := hP343
  have hW348 := rg_keepA hW336 hkp344 (by intro z h1 h2 h3; have h8 := h3.1; have h9 := h3.2; omega)
  have hW349 := rg_keepA hW337 hkp344 (by intro z h1 h2 h3; have h8 := h3.1; have h9 := h3.2; omega)
  have hP350 := PP.keepA hP338 hkp344 (by omega)
  have hz351 : H341.size = b0 + 18 := by omega
  have ap352 := Ap.cons (x := ((b0 + 16), 2, (shX2 G.2.1), (vc_X2 (b0 + 16)))) (Or.inl (show b0 < (b0 + 16) by omega)) ap319
  have ap353 := Ap.cons (x := ((b0 + 16), 2, (shX2 G.2.1), (vc_X2 (b0 + 16)))) (Or.inl (show (b0 + 2) < (b0 + 16) by omega)) ap320
  have hP354 := PP.cons (hi' := b0 + 18) hW346 hP350 (by omega) (by omega)
  clear hW336 hW337 hP338 hz340 hz347 hkp344 hS333 hW332 ap339 ap319 ap320 hP350 hW346
  refine W.eq (g2 := F0 m 99 ls [.ref (b0 + 16), .int (5 : Int32), .ref (b0 + 2)]) rfl ?_
  refine rk_aastC (pc := 99) hx hb hK hW349 hS345 0 5 (by decide) rfl (Or.inr (by omega)) (fun _ _ _ => rfl) rfl rfl (rk_recv (ci := 2) (C := RX2) (T := TX2) (N := 3) hK (PP.at hP354 0 rfl) 0 (by decide) rfl rfl rfl) dX1_init_99 (fun H355 locs356 hW357 hS358 hz359 hkp360 => ?_)
  have hW357 : rg G (b0 + 2) 1 (fun _ _ _ _ z => some (.inl (G.2.1 5, 8, .inr (.inr (.inr (.inr z)))))) (vq_X1_init_360 b0) H355 := hW357
  have hW361 := rg_keepq hW348 hkp360 (by omega)
  have hP362 := PP.keepq hP354 hkp360 ap353
  have hz363 := hz359.trans hz351
  clear hW349 hW348 hP354 hz351 hz359 hS345 hkp360
  refine lv_iinc (pc := 100) (v := (6 : Int32)) (lv' := [(1, .int (6 : Int32)), (0, .ref b0)]) hx hb dX1_init_100 hl (k := 0) rfl (by decide) (by decide) rfl (fun ls hl => ?_)
  refine lv_goto (pc := 103) (tgt := 81) hx hb dX1_init_103 (by decide) ?_
  refine lv_iload_n (pc := 81) hx hb dX1_init_81 rfl (lv_at hl 0 rfl) ?_
  refine lv_bipush (pc := 82) (v := (8 : Int32)) hx hb dX1_init_82 (by decide) ?_
  refine lv_icmp_ge (pc := 84) (tgt := 106) hx hb dX1_init_84 (by decide) (fun h => absurd h (by decide)) (fun _ => ?_)
  refine lv_aload_n (pc := 87) hx hb dX1_init_87 rfl (lv_at hl 1 rfl) ?_
  refine rk_get (pc := 88) hx hb hts hown hK hW361 flX1_27 0 (by decide) rfl rfl (x := .ref (b0 + 2)) rfl dX1_init_88 ?_
  refine lv_iload_n (pc := 91) hx hb dX1_init_91 rfl (lv_at hl 0 rfl) ?_
  refine rk_new (pc := 92) (h := b0 + 18) (sh := (shO_X2)) hx hb hts hown hK hS358 in_X2 ft_X2 rfl q167 q169 q116 hz363 rfl (df_X2 _ rfl) (Nat.le_of_ble_eq_true rfl) (Nat.le_of_ble_eq_true rfl) dX1_init_92 (fun H364 hW365 hS366 hz367 hkp368 => ?_)
  have hW369 := rg_keepN hW361 hz363 hkp368
  have hW370 := rg_keepN hW357 hz363 hkp368
  have hP371 := PP.keepN hP362 hz363 hkp368
  have ap372 := PP.ap (q := (b0 + 18)) hP371 (by omega)
  have hz373 : H364.size = b0 + 19 := by omega
  clear hW361 hW357 hP362 hS358 hz363 hz367 hkp368
  refine lv_dup (pc := 95) hx hb dX1_init_95 rfl ?_
  refine rk_TIN (pc := 96) (As := []) (rest := [.ref (b0 + 18), .int (6 : Int32), .ref (b0 + 2)]) (mc := 1) (ms := 5) hx hb hml hown hts hK hS366 (fun q hq => FA_sz rfl q hq) lkX1_40 yn_X2_init (ct_X2_init (G := G) (l := l) (b0 := (b0 + 18)) (sz := H364.size) (by omega)) ⟨Nat.le_of_ble_eq_true rfl, Nat.le_of_ble_eq_true rfl⟩ (fun z h => Or.inr (by have h8 := h.1; omega)) hW365 rfl rfl hl.1 (Nat.le_of_ble_eq_true rfl) dX1_init_96 ⟨Nat.le_of_ble_eq_true rfl, Nat.le_of_ble_eq_true rfl⟩ (fun ov9 H374 locs375 hP376 hkp377 hS378 => ?_)
  obtain ⟨rfl, hW379, hz380⟩ := hP376
  have hW381 := rg_keepA hW369 hkp377 (by intro z h1 h2 h3; have h8 := h3.1; have h9 := h3.2; omega)
  have hW382 := rg_keepA hW370 hkp377 (by intro z h1 h2 h3; have h8 := h3.1; have h9 := h3.2; omega)
  have hP383 := PP.keepA hP371 hkp377 (by omega)
  have hz384 : H374.size = b0 + 20 := by omega
  have ap385 := Ap.cons (x := ((b0 + 18), 2, (shX2 G.2.1), (vc_X2 (b0 + 18)))) (Or.inl (show b0 < (b0 + 18) by omega)) ap352
  have ap386 := Ap.cons (x := ((b0 + 18), 2, (shX2 G.2.1), (vc_X2 (b0 + 18)))) (Or.inl (show (b0 + 2) < (b0 + 18) by omega)) ap353
  have hP387 := PP.cons (hi' := b0 + 20) hW379 hP383 (by omega) (by omega)
  clear hW369 hW370 hP371 hz373 hz380 hkp377 hS366 hW365 ap372 ap352 ap353 hP383 hW379
  refine W.eq (g2 := F0 m 99 ls [.ref (b0 + 18), .int (6 : Int32), .ref (b0 + 2)]) rfl ?_
  refine rk_aastC (pc := 99) hx hb hK hW382 hS378 0 5 (by decide) rfl (Or.inr (by omega)) (fun _ _ _ => rfl) rfl rfl (rk_recv (ci := 2) (C := RX2) (T := TX2) (N := 3) hK (PP.at hP387 0 rfl) 0 (by decide) rfl rfl rfl) dX1_init_99 (fun H388 locs389 hW390 hS391 hz392 hkp393 => ?_)
  have hW390 : rg G (b0 + 2) 1 (fun _ _ _ _ z => some (.inl (G.2.1 5, 8, .inr (.inr (.inr (.inr z)))))) (vq_X1_init_393 b0) H388 := hW390
  have hW394 := rg_keepq hW381 hkp393 (by omega)
  have hP395 := PP.keepq hP387 hkp393 ap386
  have hz396 := hz392.trans hz384
  clear hW382 hW381 hP387 hz384 hz392 hS378 hkp393
  refine lv_iinc (pc := 100) (v := (7 : Int32)) (lv' := [(1, .int (7 : Int32)), (0, .ref b0)]) hx hb dX1_init_100 hl (k := 0) rfl (by decide) (by decide) rfl (fun ls hl => ?_)
  refine lv_goto (pc := 103) (tgt := 81) hx hb dX1_init_103 (by decide) ?_
  refine lv_iload_n (pc := 81) hx hb dX1_init_81 rfl (lv_at hl 0 rfl) ?_
  refine lv_bipush (pc := 82) (v := (8 : Int32)) hx hb dX1_init_82 (by decide) ?_
  refine lv_icmp_ge (pc := 84) (tgt := 106) hx hb dX1_init_84 (by decide) (fun h => absurd h (by decide)) (fun _ => ?_)
  refine lv_aload_n (pc := 87) hx hb dX1_init_87 rfl (lv_at hl 1 rfl) ?_
  refine rk_get (pc := 88) hx hb hts hown hK hW394 flX1_27 0 (by decide) rfl rfl (x := .ref (b0 + 2)) rfl dX1_init_88 ?_
  refine lv_iload_n (pc := 91) hx hb dX1_init_91 rfl (lv_at hl 0 rfl) ?_
  refine rk_new (pc := 92) (h := b0 + 20) (sh := (shO_X2)) hx hb hts hown hK hS391 in_X2 ft_X2 rfl q167 q169 q116 hz396 rfl (df_X2 _ rfl) (Nat.le_of_ble_eq_true rfl) (Nat.le_of_ble_eq_true rfl) dX1_init_92 (fun H397 hW398 hS399 hz400 hkp401 => ?_)
  have hW402 := rg_keepN hW394 hz396 hkp401
  have hW403 := rg_keepN hW390 hz396 hkp401
  have hP404 := PP.keepN hP395 hz396 hkp401
  have ap405 := PP.ap (q := (b0 + 20)) hP404 (by omega)
  have hz406 : H397.size = b0 + 21 := by omega
  clear hW394 hW390 hP395 hS391 hz396 hz400 hkp401
  refine lv_dup (pc := 95) hx hb dX1_init_95 rfl ?_
  refine rk_TIN (pc := 96) (As := []) (rest := [.ref (b0 + 20), .int (7 : Int32), .ref (b0 + 2)]) (mc := 1) (ms := 5) hx hb hml hown hts hK hS399 (fun q hq => FA_sz rfl q hq) lkX1_40 yn_X2_init (ct_X2_init (G := G) (l := l) (b0 := (b0 + 20)) (sz := H397.size) (by omega)) ⟨Nat.le_of_ble_eq_true rfl, Nat.le_of_ble_eq_true rfl⟩ (fun z h => Or.inr (by have h8 := h.1; omega)) hW398 rfl rfl hl.1 (Nat.le_of_ble_eq_true rfl) dX1_init_96 ⟨Nat.le_of_ble_eq_true rfl, Nat.le_of_ble_eq_true rfl⟩ (fun ov9 H407 locs408 hP409 hkp410 hS411 => ?_)
  obtain ⟨rfl, hW412, hz413⟩ := hP409
  have hW414 := rg_keepA hW402 hkp410 (by intro z h1 h2 h3; have h8 := h3.1; have h9 := h3.2; omega)
  have hW415 := rg_keepA hW403 hkp410 (by intro z h1 h2 h3; have h8 := h3.1; have h9 := h3.2; omega)
  have hP416 := PP.keepA hP404 hkp410 (by omega)
  have hz417 : H407.size = b0 + 22 := by omega
  have ap418 := Ap.cons (x := ((b0 + 20), 2, (shX2 G.2.1), (vc_X2 (b0 + 20)))) (Or.inl (show b0 < (b0 + 20) by omega)) ap385
  have ap419 := Ap.cons (x := ((b0 + 20), 2, (shX2 G.2.1), (vc_X2 (b0 + 20)))) (Or.inl (show (b0 + 2) < (b0 + 20) by omega)) ap386
  have hP420 := PP.cons (hi' := b0 + 22) hW412 hP416 (by omega) (by omega)
  clear hW402 hW403 hP404 hz406 hz413 hkp410 hS399 hW398 ap405 ap385 ap386 hP416 hW412
  refine W.eq (g2 := F0 m 99 ls [.ref (b0 + 20), .int (7 : Int32), .ref (b0 + 2)]) rfl ?_
  refine rk_aastC (pc := 99) hx hb hK hW415 hS411 0 5 (by decide) rfl (Or.inr (by omega)) (fun _ _ _ => rfl) rfl rfl (rk_recv (ci := 2) (C := RX2) (T := TX2) (N := 3) hK (PP.at hP420 0 rfl) 0 (by decide) rfl rfl rfl) dX1_init_99 (fun H421 locs422 hW423 hS424 hz425 hkp426 => ?_)
  have hW423 : rg G (b0 + 2) 1 (fun _ _ _ _ z => some (.inl (G.2.1 5, 8, .inr (.inr (.inr (.inr z)))))) (vq_X1_init_426 b0) H421 := hW423
  have hW427 := rg_keepq hW414 hkp426 (by omega)
  have hP428 := PP.keepq hP420 hkp426 ap419
  have hz429 := hz425.trans hz417
  clear hW415 hW414 hP420 hz417 hz425 hS411 hkp426
  refine lv_iinc (pc := 100) (v := (8 : Int32)) (lv' := [(1, .int (8 : Int32)), (0, .ref b0)]) hx hb dX1_init_100 hl (k := 0) rfl (by decide) (by decide) rfl (fun ls hl => ?_)
  refine lv_goto (pc := 103) (tgt := 81) hx hb dX1_init_103 (by decide) ?_
  refine lv_iload_n (pc := 81) hx hb dX1_init_81 rfl (lv_at hl 0 rfl) ?_
  refine lv_bipush (pc := 82) (v := (8 : Int32)) hx hb dX1_init_82 (by decide) ?_
  refine lv_icmp_ge (pc := 84) (tgt := 106) hx hb dX1_init_84 (by decide) (fun _ => ?_) (fun h => absurd (by decide) h)
  have hA0 : rg G b0 1 (shX1 G.2.1) (vi_X1_init_20 b0) H421 := rg_cast hW427 rfl
  have hA430 : rg G b0 2 (shX1 G.2.1) (vf_X1_init_1 b0) H421 := rg_app (k := 1) (n' := 1) hA0 (PP.at hP428 11 rfl) rfl (fun o ho x y z => by have h0 : o = 0 := (by omega); subst h0; rfl)
  have hC432 : rg G (b0 + 2) 1 (fun _ _ _ _ _ => some (.inl (G.2.1 5, 8, .inr (.inr (.inr (.inr (fun j => some (b0 + (6 + 2 * j))))))))) mz H421 := rg_castr hW423 rfl rfl (fun j hj => match j, hj with | 0, _ => rfl | 1, _ => rfl | 2, _ => rfl | 3, _ => rfl | 4, _ => rfl | 5, _ => rfl | 6, _ => rfl | 7, _ => rfl | n + 8, h => absurd h (by omega))
  have hA431 : rg G b0 3 (shX1 G.2.1) (vf_X1_init_2 b0) H421 := rg_app (k := 2) (n' := 1) hA430 hC432 rfl (fun o ho x y z => by have h0 : o = 0 := (by omega); subst h0; rfl)
  have hA433 : rg G b0 4 (shX1 G.2.1) (vf_X1_init_3 b0) H421 := rg_app (k := 3) (n' := 1) hA431 (PP.at hP428 10 rfl) rfl (fun o ho x y z => by have h0 : o = 0 := (by omega); subst h0; rfl)
  have hA434 : rg G b0 5 (shX1 G.2.1) (vf_X1_init_4 b0) H421 := rg_app (k := 4) (n' := 1) hA433 (PP.at hP428 9 rfl) rfl (fun o ho x y z => by have h0 : o = 0 := (by omega); subst h0; rfl)
  have hA435 : rg G b0 6 (shX1 G.2.1) (vf_X1_init_5 b0) H421 := rg_app (k := 5) (n' := 1) hA434 (PP.at hP428 8 rfl) rfl (fun o ho x y z => by have h0 : o = 0 := (by omega); subst h0; rfl)
  have hA436 : rg G b0 8 (shX1 G.2.1) (vf_X1_init_6 b0) H421 := rg_app (k := 6) (n' := 2) hA435 (PP.at hP428 7 rfl) rfl (fun o ho x y z => shX1_f6 G.2.1 (k := 0) (by decide) _ rfl o ho x y z)
  have hA437 : rg G b0 10 (shX1 G.2.1) (vf_X1_init_8 b0) H421 := rg_app (k := 8) (n' := 2) hA436 (PP.at hP428 6 rfl) rfl (fun o ho x y z => shX1_f6 G.2.1 (k := 1) (by decide) _ rfl o ho x y z)
  have hA438 : rg G b0 12 (shX1 G.2.1) (vf_X1_init_10 b0) H421 := rg_app (k := 10) (n' := 2) hA437 (PP.at hP428 5 rfl) rfl (fun o ho x y z => shX1_f6 G.2.1 (k := 2) (by decide) _ rfl o ho x y z)
  have hA439 : rg G b0 14 (shX1 G.2.1) (vf_X1_init_12 b0) H421 := rg_app (k := 12) (n' := 2) hA438 (PP.at hP428 4 rfl) rfl (fun o ho x y z => shX1_f6 G.2.1 (k := 3) (by decide) _ rfl o ho x y z)
  have hA440 : rg G b0 16 (shX1 G.2.1) (vf_X1_init_14 b0) H421 := rg_app (k := 14) (n' := 2) hA439 (PP.at hP428 3 rfl) rfl (fun o ho x y z => shX1_f6 G.2.1 (k := 4) (by decide) _ rfl o ho x y z)
  have hA441 : rg G b0 18 (shX1 G.2.1) (vf_X1_init_16 b0) H421 := rg_app (k := 16) (n' := 2) hA440 (PP.at hP428 2 rfl) rfl (fun o ho x y z => shX1_f6 G.2.1 (k := 5) (by decide) _ rfl o ho x y z)
  have hA442 : rg G b0 20 (shX1 G.2.1) (vf_X1_init_18 b0) H421 := rg_app (k := 18) (n' := 2) hA441 (PP.at hP428 1 rfl) rfl (fun o ho x y z => shX1_f6 G.2.1 (k := 6) (by decide) _ rfl o ho x y z)
  have hA443 : rg G b0 22 (shX1 G.2.1) (vf_X1_init_20 b0) H421 := rg_app (k := 20) (n' := 2) hA442 (PP.at hP428 0 rfl) rfl (fun o ho x y z => shX1_f6 G.2.1 (k := 7) (by decide) _ rfl o ho x y z)
  exact rk_vretA (pc := 106) hx hb hr hlk hS424 ⟨rfl, hA443, hz429⟩ dX1_init_106 (Nat.le_of_ble_eq_true rfl) (Nat.le_of_ble_eq_true rfl)
def shO_X3 : Shp := fun _ _ x y z => some (.inr (3, [.int (x 0), .int (x 1), .int (x 2), .int (x 3), .long (y 4), .long (y 5), va_rf (z 6), va_rf (z 7), va_rf (z 8), va_rf (z 9), va_rf (z 10), va_rf (z 11)]))
theorem df_X3 (fs : List Value) (h : fs = [.int 0, .int 0, .int 0, .int 0, .long 0, .long 0, .null, .null, .null, .null, .null, .null]) : ∀ j, j < 12 → defaultValue (tyX3 j) = vp_V fs j := by
  subst h
  intro j hj
  match j, hj with
  | 0, _ => rfl
  | 1, _ => rfl
  | 2, _ => rfl
  | 3, _ => rfl
  | 4, _ => rfl
  | 5, _ => rfl
  | 6, _ => rfl
  | 7, _ => rfl
  | 8, _ => rfl
  | 9, _ => rfl
  | 10, _ => rfl
  | 11, _ => rfl
  | n + 12, h => exact absurd h (by omega)
theorem lkX3_34 : LIN RX3 34 yX4_init "WholePacks" cX4_init 1 := ⟨q249, q250, q118, q251, rfl⟩
theorem yn_X4_init : YN yX4_init 0 := by
  unfold YN
  decide +kernel
def vo_X3_init_13 (b0 : Nat) : Mem := sR mz 0 6 (some (b0 + 1))
def vo_X3_init_32 (b0 : Nat) : Mem := sR (vo_X3_init_13 b0) 0 7 (some (b0 + 2))
def vo_X3_init_52 (b0 : Nat) : Mem := sR (vo_X3_init_32 b0) 0 8 (some (b0 + 3))
def vo_X3_init_72 (b0 : Nat) : Mem := sR (vo_X3_init_52 b0) 0 9 (some (b0 + 4))
def vo_X3_init_92 (b0 : Nat) : Mem := sR (vo_X3_init_72 b0) 0 10 (some (b0 + 5))
def vo_X3_init_112 (b0 : Nat) : Mem := sR (vo_X3_init_92 b0) 0 11 (some (b0 + 6))
def vq_X3_init_145 (b0 : Nat) : Mem := sR mz 0 (0 : Int32).toNatClampNeg (some (b0 + 7))
def vq_X3_init_178 (b0 : Nat) : Mem := sR (vq_X3_init_145 b0) 0 (1 : Int32).toNatClampNeg (some (b0 + 10))
def vq_X3_init_211 (b0 : Nat) : Mem := sR (vq_X3_init_178 b0) 0 (2 : Int32).toNatClampNeg (some (b0 + 13))
def vq_X3_init_244 (b0 : Nat) : Mem := sR (vq_X3_init_211 b0) 0 (3 : Int32).toNatClampNeg (some (b0 + 16))
def vq_X3_init_277 (b0 : Nat) : Mem := sR (vq_X3_init_244 b0) 0 (4 : Int32).toNatClampNeg (some (b0 + 19))
def vq_X3_init_310 (b0 : Nat) : Mem := sR (vq_X3_init_277 b0) 0 (5 : Int32).toNatClampNeg (some (b0 + 22))
def vq_X3_init_343 (b0 : Nat) : Mem := sR (vq_X3_init_310 b0) 0 (6 : Int32).toNatClampNeg (some (b0 + 25))
def vq_X3_init_376 (b0 : Nat) : Mem := sR (vq_X3_init_343 b0) 0 (7 : Int32).toNatClampNeg (some (b0 + 28))
def vq_X3_init_409 (b0 : Nat) : Mem := sR (vq_X3_init_376 b0) 0 (8 : Int32).toNatClampNeg (some (b0 + 31))
def vq_X3_init_442 (b0 : Nat) : Mem := sR (vq_X3_init_409 b0) 0 (9 : Int32).toNatClampNeg (some (b0 + 34))
def vq_X3_init_475 (b0 : Nat) : Mem := sR (vq_X3_init_442 b0) 0 (10 : Int32).toNatClampNeg (some (b0 + 37))
def vq_X3_init_508 (b0 : Nat) : Mem := sR (vq_X3_init_475 b0) 0 (11 : Int32).toNatClampNeg (some (b0 + 40))
def vf_X3_init_1 (b0 : Nat) : Mem := ptm (mz) 1 1 mz
def vf_X3_init_2 (b0 : Nat) : Mem := ptm (vf_X3_init_1 b0) 2 1 mz
def vf_X3_init_3 (b0 : Nat) : Mem := ptm (vf_X3_init_2 b0) 3 1 mz
def vf_X3_init_4 (b0 : Nat) : Mem := ptm (vf_X3_init_3 b0) 4 1 mz
def vf_X3_init_5 (b0 : Nat) : Mem := ptm (vf_X3_init_4 b0) 5 1 mz
def vf_X3_init_6 (b0 : Nat) : Mem := ptm (vf_X3_init_5 b0) 6 1 mz
def vf_X3_init_7 (b0 : Nat) : Mem := ptm (vf_X3_init_6 b0) 7 3 ((vc_X4 (b0 + 7)))
def vf_X3_init_10 (b0 : Nat) : Mem := ptm (vf_X3_init_7 b0) 10 3 ((vc_X4 (b0 + 10)))
def vf_X3_init_13 (b0 : Nat) : Mem := ptm (vf_X3_init_10 b0) 13 3 ((vc_X4 (b0 + 13)))
def vf_X3_init_16 (b0 : Nat) : Mem := ptm (vf_X3_init_13 b0) 16 3 ((vc_X4 (b0 + 16)))
def vf_X3_init_19 (b0 : Nat) : Mem := ptm (vf_X3_init_16 b0) 19 3 ((vc_X4 (b0 + 19)))
def vf_X3_init_22 (b0 : Nat) : Mem := ptm (vf_X3_init_19 b0) 22 3 ((vc_X4 (b0 + 22)))
def vf_X3_init_25 (b0 : Nat) : Mem := ptm (vf_X3_init_22 b0) 25 3 ((vc_X4 (b0 + 25)))
def vf_X3_init_28 (b0 : Nat) : Mem := ptm (vf_X3_init_25 b0) 28 3 ((vc_X4 (b0 + 28)))
def vf_X3_init_31 (b0 : Nat) : Mem := ptm (vf_X3_init_28 b0) 31 3 ((vc_X4 (b0 + 31)))
def vf_X3_init_34 (b0 : Nat) : Mem := ptm (vf_X3_init_31 b0) 34 3 ((vc_X4 (b0 + 34)))
def vf_X3_init_37 (b0 : Nat) : Mem := ptm (vf_X3_init_34 b0) 37 3 ((vc_X4 (b0 + 37)))
def vf_X3_init_40 (b0 : Nat) : Mem := ptm (vf_X3_init_37 b0) 40 3 ((vc_X4 (b0 + 40)))
def vc_X3 (b0 : Nat) : Mem := (vf_X3_init_40 b0)
set_option maxHeartbeats 4000000 in
theorem ct_X3_init {G : Gv} {l : Launch} {b0 : Nat} {sz : Nat} (hsz : sz = b0 + 1) : CT G l yX3_init (ws_ yX3_init cX3_init 2 none) 2 42 580 52 [.ref b0] (iv b0 1) sz (fun H => rg G b0 1 shO_X3 mz H) (fun ov H => ov = none ∧ rg G b0 43 (shX3 G.2.1) (vc_X3 b0) H ∧ H.size = b0 + 43) := by
  refine Met.ofW (cc := cX3_init) (maxL := 2) (ret := none) (by decide +kernel) rfl ?_
  intro p e s m args below meth c s₁ B hml hv
  obtain ⟨rfl, ⟨hz, hW0⟩, hK⟩ := hv
  subst hz
  have hz : s.heap.size = b0 + 1 := hsz
  have hin : meth.name = "<init>" := (name_of_methodNamed B.named B.method).1
  have hts := atoms_spec (ws := ws_ yX3_init cX3_init 2 none) B.pre
  have hts : ∀ w ∈ lw_all, w.before _ s = true := fun w h => hts w (List.mem_cons_of_mem _ h)
  have C : Cx G p s m _ meth c RX3 cX3_init 2 none := ⟨B.exec, B.bytes, B.returns, B.notSynchronized, hml, findClass_of_methodNamed B.named, hts, hK⟩
  obtain ⟨hx, hb, hr, hlk, hml, hown, hts, hK⟩ := id C
  have hl := lv_entry ([.ref b0]) (n := 2) (Nat.le_of_ble_eq_true rfl)
  rw [lg_entry_eq]
  generalize (lg_sl ([.ref b0]) ++ List.replicate (2 - (lg_sl ([.ref b0])).length) Slot.unset).toArray = ls at hl ⊢
  have hl : lv_has ls 2 [(0, .ref b0)] := hl
  have hS0 : va_S (FA (iv b0 1) s.heap.size) s.heap s.heap [] := va_S.rf
  refine lv_aload_n (pc := 0) hx hb dX3_init_0 rfl (lv_at hl 0 rfl) ?_
  refine W.objInit hx hb hown (hts _ q245) (hts _ q159) (hts _ q160) rfl (by rw [hml]; exact hl.1) rfl dX3_init_1 (Nat.le_of_ble_eq_true rfl) (Nat.le_of_ble_eq_true rfl) ?_
  refine W.eq (g2 := F0 m 4 ls []) rfl ?_
  refine lv_aload_n (pc := 4) hx hb dX3_init_4 rfl (lv_at hl 0 rfl) ?_
  refine lv_sipush (pc := 5) (v := (150 : Int32)) hx hb dX3_init_5 (by decide) ?_
  refine rk_newarr (pc := 8) (atype := .long) (h := b0 + 1) (sh := (fun _ _ x y _ => some (.inl (G.2.1 1, 150, .inr (.inl y))))) hx hb hts hK hS0 q273 1 rfl (fun _ h => nomatch h) hz rfl rfl (by decide) rfl (Nat.le_of_ble_eq_true rfl) (Nat.le_of_ble_eq_true rfl) (Nat.le_of_ble_eq_true rfl) dX3_init_8 (fun H1 hW2 hS3 hz4 hkp5 => ?_)
  have hW6 := rg_keepN hW0 hz hkp5
  have hz7 : H1.size = b0 + 2 := by omega
  clear hW0 hS0 hz hz4 hkp5
  refine rk_putF (pc := 10) (q := b0) hx hb hts hown hK hW6 hS3 flX3_9 ft_X3 0 (by decide) rfl (Or.inl (show iv _ _ _ from ⟨by omega, by omega⟩)) rfl rfl hin rfl (x := va_rf (some (b0 + 1))) (rf_nar _ rfl (some (b0 + 1))) (rf_fit _ rfl (some (b0 + 1))) (Nat.le_of_ble_eq_true rfl) (sR mz 0 6 (some (b0 + 1))) sR_ne (by rw [sR_eq]; rfl) dX3_init_10 (fun H8 locs9 hW10 hS11 hz12 hkp13 => ?_)
  have hW10 : rg G b0 1 shO_X3 (vo_X3_init_13 b0) H8 := hW10
  have hW14 := rg_keepq hW2 hkp13 (by omega)
  have hz15 := hz12.trans hz7
  clear hW6 hW2 hz7 hz12 hS3 hkp13
  have ap16 := Ap.cons (x := ((b0 + 1), 1, (fun _ _ x y _ => some (.inl (G.2.1 1, 150, .inr (.inl y)))), mz)) (Or.inl (show b0 < (b0 + 1) by omega)) (Ap.nil (q := b0))
  have hP17 := PP.cons (hi' := b0 + 2) hW14 (PP.nil (hi := b0)) (by omega) (by omega)
  clear hW14
  refine lv_aload_n (pc := 13) hx hb dX3_init_13 rfl (lv_at hl 0 rfl) ?_
  refine lv_bipush (pc := 14) (v := (30 : Int32)) hx hb dX3_init_14 (by decide) ?_
  refine rk_newarr (pc := 16) (atype := .long) (h := b0 + 2) (sh := (fun _ _ x y _ => some (.inl (G.2.1 1, 30, .inr (.inl y))))) hx hb hts hK hS11 q273 1 rfl (fun _ h => nomatch h) hz15 rfl rfl (by decide) rfl (Nat.le_of_ble_eq_true rfl) (Nat.le_of_ble_eq_true rfl) (Nat.le_of_ble_eq_true rfl) dX3_init_16 (fun H18 hW19 hS20 hz21 hkp22 => ?_)
  have hW23 := rg_keepN hW10 hz15 hkp22
  have hP24 := PP.keepN hP17 hz15 hkp22
  have ap25 := PP.ap (q := (b0 + 2)) hP24 (by omega)
  have hz26 : H18.size = b0 + 3 := by omega
  clear hW10 hP17 hS11 hz15 hz21 hkp22
  refine rk_putF (pc := 18) (q := b0) hx hb hts hown hK hW23 hS20 flX3_15 ft_X3 0 (by decide) rfl (Or.inl (show iv _ _ _ from ⟨by omega, by omega⟩)) rfl rfl hin rfl (x := va_rf (some (b0 + 2))) (rf_nar _ rfl (some (b0 + 2))) (rf_fit _ rfl (some (b0 + 2))) (Nat.le_of_ble_eq_true rfl) (sR (vo_X3_init_13 b0) 0 7 (some (b0 + 2))) sR_ne (by rw [sR_eq]; rfl) dX3_init_18 (fun H27 locs28 hW29 hS30 hz31 hkp32 => ?_)
  have hW29 : rg G b0 1 shO_X3 (vo_X3_init_32 b0) H27 := hW29
  have hW33 := rg_keepq hW19 hkp32 (by omega)
  have hP34 := PP.keepq hP24 hkp32 ap16
  have hz35 := hz31.trans hz26
  clear hW23 hW19 hP24 hz26 hz31 hS20 hkp32
  have ap36 := Ap.cons (x := ((b0 + 2), 1, (fun _ _ x y _ => some (.inl (G.2.1 1, 30, .inr (.inl y)))), mz)) (Or.inl (show b0 < (b0 + 2) by omega)) ap16
  have hP37 := PP.cons (hi' := b0 + 3) hW33 hP34 (by omega) (by omega)
  clear ap16 hP34 hW33
  refine lv_aload_n (pc := 21) hx hb dX3_init_21 rfl (lv_at hl 0 rfl) ?_
  refine lv_iconst (pc := 22) (v := (5 : Int32)) hx hb dX3_init_22 (by decide) ?_
  refine rk_newarr (pc := 23) (atype := .long) (h := b0 + 3) (sh := (fun _ _ x y _ => some (.inl (G.2.1 1, 5, .inr (.inl y))))) hx hb hts hK hS30 q273 1 rfl (fun _ h => nomatch h) hz35 rfl rfl (by decide) rfl (Nat.le_of_ble_eq_true rfl) (Nat.le_of_ble_eq_true rfl) (Nat.le_of_ble_eq_true rfl) dX3_init_23 (fun H38 hW39 hS40 hz41 hkp42 => ?_)
  have hW43 := rg_keepN hW29 hz35 hkp42
  have hP44 := PP.keepN hP37 hz35 hkp42
  have ap45 := PP.ap (q := (b0 + 3)) hP44 (by omega)
  have hz46 : H38.size = b0 + 4 := by omega
  clear hW29 hP37 hS30 hz35 hz41 hkp42
  refine rk_putF (pc := 25) (q := b0) hx hb hts hown hK hW43 hS40 flX3_18 ft_X3 0 (by decide) rfl (Or.inl (show iv _ _ _ from ⟨by omega, by omega⟩)) rfl rfl hin rfl (x := va_rf (some (b0 + 3))) (rf_nar _ rfl (some (b0 + 3))) (rf_fit _ rfl (some (b0 + 3))) (Nat.le_of_ble_eq_true rfl) (sR (vo_X3_init_32 b0) 0 8 (some (b0 + 3))) sR_ne (by rw [sR_eq]; rfl) dX3_init_25 (fun H47 locs48 hW49 hS50 hz51 hkp52 => ?_)
  have hW49 : rg G b0 1 shO_X3 (vo_X3_init_52 b0) H47 := hW49
  have hW53 := rg_keepq hW39 hkp52 (by omega)
  have hP54 := PP.keepq hP44 hkp52 ap36
  have hz55 := hz51.trans hz46
  clear hW43 hW39 hP44 hz46 hz51 hS40 hkp52
  have ap56 := Ap.cons (x := ((b0 + 3), 1, (fun _ _ x y _ => some (.inl (G.2.1 1, 5, .inr (.inl y)))), mz)) (Or.inl (show b0 < (b0 + 3) by omega)) ap36
  have hP57 := PP.cons (hi' := b0 + 4) hW53 hP54 (by omega) (by omega)
  clear ap36 hP54 hW53
  refine lv_aload_n (pc := 28) hx hb dX3_init_28 rfl (lv_at hl 0 rfl) ?_
  refine lv_bipush (pc := 29) (v := (30 : Int32)) hx hb dX3_init_29 (by decide) ?_
  refine rk_newarr (pc := 31) (atype := .int) (h := b0 + 4) (sh := (fun _ _ x y _ => some (.inl (G.2.1 0, 30, .inl x)))) hx hb hts hK hS50 q190 0 rfl (fun _ h => nomatch h) hz55 rfl rfl (by decide) rfl (Nat.le_of_ble_eq_true rfl) (Nat.le_of_ble_eq_true rfl) (Nat.le_of_ble_eq_true rfl) dX3_init_31 (fun H58 hW59 hS60 hz61 hkp62 => ?_)
  have hW63 := rg_keepN hW49 hz55 hkp62
  have hP64 := PP.keepN hP57 hz55 hkp62
  have ap65 := PP.ap (q := (b0 + 4)) hP64 (by omega)
  have hz66 : H58.size = b0 + 5 := by omega
  clear hW49 hP57 hS50 hz55 hz61 hkp62
  refine rk_putF (pc := 33) (q := b0) hx hb hts hown hK hW63 hS60 flX3_21 ft_X3 0 (by decide) rfl (Or.inl (show iv _ _ _ from ⟨by omega, by omega⟩)) rfl rfl hin rfl (x := va_rf (some (b0 + 4))) (rf_nar _ rfl (some (b0 + 4))) (rf_fit _ rfl (some (b0 + 4))) (Nat.le_of_ble_eq_true rfl) (sR (vo_X3_init_52 b0) 0 9 (some (b0 + 4))) sR_ne (by rw [sR_eq]; rfl) dX3_init_33 (fun H67 locs68 hW69 hS70 hz71 hkp72 => ?_)
  have hW69 : rg G b0 1 shO_X3 (vo_X3_init_72 b0) H67 := hW69
  have hW73 := rg_keepq hW59 hkp72 (by omega)
  have hP74 := PP.keepq hP64 hkp72 ap56
  have hz75 := hz71.trans hz66
  clear hW63 hW59 hP64 hz66 hz71 hS60 hkp72
  have ap76 := Ap.cons (x := ((b0 + 4), 1, (fun _ _ x y _ => some (.inl (G.2.1 0, 30, .inl x))), mz)) (Or.inl (show b0 < (b0 + 4) by omega)) ap56
  have hP77 := PP.cons (hi' := b0 + 5) hW73 hP74 (by omega) (by omega)
  clear ap56 hP74 hW73
  refine lv_aload_n (pc := 36) hx hb dX3_init_36 rfl (lv_at hl 0 rfl) ?_
  refine lv_iconst (pc := 37) (v := (5 : Int32)) hx hb dX3_init_37 (by decide) ?_
  refine rk_newarr (pc := 38) (atype := .int) (h := b0 + 5) (sh := (fun _ _ x y _ => some (.inl (G.2.1 0, 5, .inl x)))) hx hb hts hK hS70 q190 0 rfl (fun _ h => nomatch h) hz75 rfl rfl (by decide) rfl (Nat.le_of_ble_eq_true rfl) (Nat.le_of_ble_eq_true rfl) (Nat.le_of_ble_eq_true rfl) dX3_init_38 (fun H78 hW79 hS80 hz81 hkp82 => ?_)
  have hW83 := rg_keepN hW69 hz75 hkp82
  have hP84 := PP.keepN hP77 hz75 hkp82
  have ap85 := PP.ap (q := (b0 + 5)) hP84 (by omega)
  have hz86 : H78.size = b0 + 6 := by omega
  clear hW69 hP77 hS70 hz75 hz81 hkp82
  refine rk_putF (pc := 40) (q := b0) hx hb hts hown hK hW83 hS80 flX3_25 ft_X3 0 (by decide) rfl (Or.inl (show iv _ _ _ from ⟨by omega, by omega⟩)) rfl rfl hin rfl (x := va_rf (some (b0 + 5))) (rf_nar _ rfl (some (b0 + 5))) (rf_fit _ rfl (some (b0 + 5))) (Nat.le_of_ble_eq_true rfl) (sR (vo_X3_init_72 b0) 0 10 (some (b0 + 5))) sR_ne (by rw [sR_eq]; rfl) dX3_init_40 (fun H87 locs88 hW89 hS90 hz91 hkp92 => ?_)
  have hW89 : rg G b0 1 shO_X3 (vo_X3_init_92 b0) H87 := hW89
  have hW93 := rg_keepq hW79 hkp92 (by omega)
  have hP94 := PP.keepq hP84 hkp92 ap76
  have hz95 := hz91.trans hz86
  clear hW83 hW79 hP84 hz86 hz91 hS80 hkp92
  have ap96 := Ap.cons (x := ((b0 + 5), 1, (fun _ _ x y _ => some (.inl (G.2.1 0, 5, .inl x))), mz)) (Or.inl (show b0 < (b0 + 5) by omega)) ap76
  have hP97 := PP.cons (hi' := b0 + 6) hW93 hP94 (by omega) (by omega)
  clear ap76 hP94 hW93
  refine lv_aload_n (pc := 43) hx hb dX3_init_43 rfl (lv_at hl 0 rfl) ?_
  refine lv_bipush (pc := 44) (v := (12 : Int32)) hx hb dX3_init_44 (by decide) ?_
  refine rk_anew (pc := 46) (h := b0 + 6) (C := "WholePacks$Cut") (sh := (fun _ _ _ _ z => some (.inl (G.2.1 6, 12, .inr (.inr (.inr (.inr z))))))) hx hb hts hown hK hS90 q246 q247 6 rfl hz95 rfl (by decide) rfl (Nat.le_of_ble_eq_true rfl) (Nat.le_of_ble_eq_true rfl) (Nat.le_of_ble_eq_true rfl) dX3_init_46 (fun H98 hW99 hS100 hz101 hkp102 => ?_)
  have hW103 := rg_keepN hW89 hz95 hkp102
  have hP104 := PP.keepN hP97 hz95 hkp102
  have ap105 := PP.ap (q := (b0 + 6)) hP104 (by omega)
  have hz106 : H98.size = b0 + 7 := by omega
  clear hW89 hP97 hS90 hz95 hz101 hkp102
  refine rk_putF (pc := 49) (q := b0) hx hb hts hown hK hW103 hS100 flX3_30 ft_X3 0 (by decide) rfl (Or.inl (show iv _ _ _ from ⟨by omega, by omega⟩)) rfl rfl hin rfl (x := va_rf (some (b0 + 6))) (rf_nar _ rfl (some (b0 + 6))) (rf_fit _ rfl (some (b0 + 6))) (Nat.le_of_ble_eq_true rfl) (sR (vo_X3_init_92 b0) 0 11 (some (b0 + 6))) sR_ne (by rw [sR_eq]; rfl) dX3_init_49 (fun H107 locs108 hW109 hS110 hz111 hkp112 => ?_)
  have hW109 : rg G b0 1 shO_X3 (vo_X3_init_112 b0) H107 := hW109
  have hW113 := rg_keepq hW99 hkp112 (by omega)
  have hP114 := PP.keepq hP104 hkp112 ap96
  have hz115 := hz111.trans hz106
  clear hW103 hW99 hP104 hz106 hz111 hS100 hkp112
  refine lv_iconst (pc := 52) (v := (0 : Int32)) hx hb dX3_init_52 (by decide) ?_
  refine lv_istore_n (pc := 53) (lv' := [(1, .int (0 : Int32)), (0, .ref b0)]) hx hb dX3_init_53 rfl hl (by decide) rfl (fun ls hl => ?_)
  refine lv_iload_n (pc := 54) hx hb dX3_init_54 rfl (lv_at hl 0 rfl) ?_
  refine lv_bipush (pc := 55) (v := (12 : Int32)) hx hb dX3_init_55 (by decide) ?_
  refine lv_icmp_ge (pc := 57) (tgt := 79) hx hb dX3_init_57 (by decide) (fun h => absurd h (by decide)) (fun _ => ?_)
  refine lv_aload_n (pc := 60) hx hb dX3_init_60 rfl (lv_at hl 1 rfl) ?_
  refine rk_get (pc := 61) hx hb hts hown hK hW109 flX3_30 0 (by decide) rfl rfl (x := .ref (b0 + 6)) rfl dX3_init_61 ?_
  refine lv_iload_n (pc := 64) hx hb dX3_init_64 rfl (lv_at hl 0 rfl) ?_
  refine rk_new (pc := 65) (h := b0 + 7) (sh := (shO_X4)) hx hb hts hown hK hS110 in_X4 ft_X4 rfl q246 q248 q118 hz115 rfl (df_X4 _ rfl) (Nat.le_of_ble_eq_true rfl) (Nat.le_of_ble_eq_true rfl) dX3_init_65 (fun H116 hW117 hS118 hz119 hkp120 => ?_)
  have hW121 := rg_keepN hW109 hz115 hkp120
  have hW122 := rg_keepN hW113 hz115 hkp120
  have hP123 := PP.keepN hP114 hz115 hkp120
  have ap124 := PP.ap (q := (b0 + 7)) hP123 (by omega)
  have hz125 : H116.size = b0 + 8 := by omega
  clear hW109 hW113 hP114 hS110 hz115 hz119 hkp120
  refine lv_dup (pc := 68) hx hb dX3_init_68 rfl ?_
  refine rk_TIN (pc := 69) (As := []) (rest := [.ref (b0 + 7), .int (0 : Int32), .ref (b0 + 6)]) (mc := 2) (ms := 25) hx hb hml hown hts hK hS118 (fun q hq => FA_sz rfl q hq) lkX3_34 yn_X4_init (ct_X4_init (G := G) (l := l) (b0 := (b0 + 7)) (sz := H116.size) (by omega)) ⟨Nat.le_of_ble_eq_true rfl, Nat.le_of_ble_eq_true rfl⟩ (fun z h => Or.inr (by have h8 := h.1; omega)) hW117 rfl rfl hl.1 (Nat.le_of_ble_eq_true rfl) dX3_init_69 ⟨Nat.le_of_ble_eq_true rfl, Nat.le_of_ble_eq_true rfl⟩ (fun ov9 H126 locs127 hP128 hkp129 hS130 => ?_)
  obtain ⟨rfl, hW131, hz132⟩ := hP128
  have hW133 := rg_keepA hW121 hkp129 (by intro z h1 h2 h3; have h8 := h3.1; have h9 := h3.2; omega)
  have hW134 := rg_keepA hW122 hkp129 (by intro z h1 h2 h3; have h8 := h3.1; have h9 := h3.2; omega)
  have hP135 := PP.keepA hP123 hkp129 (by omega)
  have hz136 : H126.size = b0 + 10 := by omega
  have ap137 := Ap.cons (x := ((b0 + 7), 3, (shX4 G.2.1), (vc_X4 (b0 + 7)))) (Or.inl (show b0 < (b0 + 7) by omega)) ap96
  have ap138 := Ap.cons (x := ((b0 + 7), 3, (shX4 G.2.1), (vc_X4 (b0 + 7)))) (Or.inl (show (b0 + 6) < (b0 + 7) by omega)) ap105
  have hP139 := PP.cons (hi' := b0 + 10) hW131 hP135 (by omega) (by omega)
  clear hW121 hW122 hP123 hz125 hz132 hkp129 hS118 hW117 ap124 ap96 ap105 hP135 hW131
  refine W.eq (g2 := F0 m 72 ls [.ref (b0 + 7), .int (0 : Int32), .ref (b0 + 6)]) rfl ?_
  refine rk_aastC (pc := 72) hx hb hK hW134 hS130 0 6 (by decide) rfl (Or.inr (by omega)) (fun _ _ _ => rfl) rfl rfl (rk_recv (ci := 4) (C := RX4) (T := TX4) (N := 4) hK (PP.at hP139 0 rfl) 0 (by decide) rfl rfl rfl) dX3_init_72 (fun H140 locs141 hW142 hS143 hz144 hkp145 => ?_)
  have hW142 : rg G (b0 + 6) 1 (fun _ _ _ _ z => some (.inl (G.2.1 6, 12, .inr (.inr (.inr (.inr z)))))) (vq_X3_init_145 b0) H140 := hW142
  have hW146 := rg_keepq hW133 hkp145 (by omega)
  have hP147 := PP.keepq hP139 hkp145 ap138
  have hz148 := hz144.trans hz136
  clear hW134 hW133 hP139 hz136 hz144 hS130 hkp145
  refine lv_iinc (pc := 73) (v := (1 : Int32)) (lv' := [(1, .int (1 : Int32)), (0, .ref b0)]) hx hb dX3_init_73 hl (k := 0) rfl (by decide) (by decide) rfl (fun ls hl => ?_)
  refine lv_goto (pc := 76) (tgt := 54) hx hb dX3_init_76 (by decide) ?_
  refine lv_iload_n (pc := 54) hx hb dX3_init_54 rfl (lv_at hl 0 rfl) ?_
  refine lv_bipush (pc := 55) (v := (12 : Int32)) hx hb dX3_init_55 (by decide) ?_
  refine lv_icmp_ge (pc := 57) (tgt := 79) hx hb dX3_init_57 (by decide) (fun h => absurd h (by decide)) (fun _ => ?_)
  refine lv_aload_n (pc := 60) hx hb dX3_init_60 rfl (lv_at hl 1 rfl) ?_
  refine rk_get (pc := 61) hx hb hts hown hK hW146 flX3_30 0 (by decide) rfl rfl (x := .ref (b0 + 6)) rfl dX3_init_61 ?_
  refine lv_iload_n (pc := 64) hx hb dX3_init_64 rfl (lv_at hl 0 rfl) ?_
  refine rk_new (pc := 65) (h := b0 + 10) (sh := (shO_X4)) hx hb hts hown hK hS143 in_X4 ft_X4 rfl q246 q248 q118 hz148 rfl (df_X4 _ rfl) (Nat.le_of_ble_eq_true rfl) (Nat.le_of_ble_eq_true rfl) dX3_init_65 (fun H149 hW150 hS151 hz152 hkp153 => ?_)
  have hW154 := rg_keepN hW146 hz148 hkp153
  have hW155 := rg_keepN hW142 hz148 hkp153
  have hP156 := PP.keepN hP147 hz148 hkp153
  have ap157 := PP.ap (q := (b0 + 10)) hP156 (by omega)
  have hz158 : H149.size = b0 + 11 := by omega
  clear hW146 hW142 hP147 hS143 hz148 hz152 hkp153
  refine lv_dup (pc := 68) hx hb dX3_init_68 rfl ?_
  refine rk_TIN (pc := 69) (As := []) (rest := [.ref (b0 + 10), .int (1 : Int32), .ref (b0 + 6)]) (mc := 2) (ms := 25) hx hb hml hown hts hK hS151 (fun q hq => FA_sz rfl q hq) lkX3_34 yn_X4_init (ct_X4_init (G := G) (l := l) (b0 := (b0 + 10)) (sz := H149.size) (by omega)) ⟨Nat.le_of_ble_eq_true rfl, Nat.le_of_ble_eq_true rfl⟩ (fun z h => Or.inr (by have h8 := h.1; omega)) hW150 rfl rfl hl.1 (Nat.le_of_ble_eq_true rfl) dX3_init_69 ⟨Nat.le_of_ble_eq_true rfl, Nat.le_of_ble_eq_true rfl⟩ (fun ov9 H159 locs160 hP161 hkp162 hS163 => ?_)
  obtain ⟨rfl, hW164, hz165⟩ := hP161
  have hW166 := rg_keepA hW154 hkp162 (by intro z h1 h2 h3; have h8 := h3.1; have h9 := h3.2; omega)
  have hW167 := rg_keepA hW155 hkp162 (by intro z h1 h2 h3; have h8 := h3.1; have h9 := h3.2; omega)
  have hP168 := PP.keepA hP156 hkp162 (by omega)
  have hz169 : H159.size = b0 + 13 := by omega
  have ap170 := Ap.cons (x := ((b0 + 10), 3, (shX4 G.2.1), (vc_X4 (b0 + 10)))) (Or.inl (show b0 < (b0 + 10) by omega)) ap137
  have ap171 := Ap.cons (x := ((b0 + 10), 3, (shX4 G.2.1), (vc_X4 (b0 + 10)))) (Or.inl (show (b0 + 6) < (b0 + 10) by omega)) ap138
  have hP172 := PP.cons (hi' := b0 + 13) hW164 hP168 (by omega) (by omega)
  clear hW154 hW155 hP156 hz158 hz165 hkp162 hS151 hW150 ap157 ap137 ap138 hP168 hW164
  refine W.eq (g2 := F0 m 72 ls [.ref (b0 + 10), .int (1 : Int32), .ref (b0 + 6)]) rfl ?_
  refine rk_aastC (pc := 72) hx hb hK hW167 hS163 0 6 (by decide) rfl (Or.inr (by omega)) (fun _ _ _ => rfl) rfl rfl (rk_recv (ci := 4) (C := RX4) (T := TX4) (N := 4) hK (PP.at hP172 0 rfl) 0 (by decide) rfl rfl rfl) dX3_init_72 (fun H173 locs174 hW175 hS176 hz177 hkp178 => ?_)
  have hW175 : rg G (b0 + 6) 1 (fun _ _ _ _ z => some (.inl (G.2.1 6, 12, .inr (.inr (.inr (.inr z)))))) (vq_X3_init_178 b0) H173 := hW175
  have hW179 := rg_keepq hW166 hkp178 (by omega)
  have hP180 := PP.keepq hP172 hkp178 ap171
  have hz181 := hz177.trans hz169
  clear hW167 hW166 hP172 hz169 hz177 hS163 hkp178
  refine lv_iinc (pc := 73) (v := (2 : Int32)) (lv' := [(1, .int (2 : Int32)), (0, .ref b0)]) hx hb dX3_init_73 hl (k := 0) rfl (by decide) (by decide) rfl (fun ls hl => ?_)
  refine lv_goto (pc := 76) (tgt := 54) hx hb dX3_init_76 (by decide) ?_
  refine lv_iload_n (pc := 54) hx hb dX3_init_54 rfl (lv_at hl 0 rfl) ?_
  refine lv_bipush (pc := 55) (v := (12 : Int32)) hx hb dX3_init_55 (by decide) ?_
  refine lv_icmp_ge (pc := 57) (tgt := 79) hx hb dX3_init_57 (by decide) (fun h => absurd h (by decide)) (fun _ => ?_)
  refine lv_aload_n (pc := 60) hx hb dX3_init_60 rfl (lv_at hl 1 rfl) ?_
  refine rk_get (pc := 61) hx hb hts hown hK hW179 flX3_30 0 (by decide) rfl rfl (x := .ref (b0 + 6)) rfl dX3_init_61 ?_
  refine lv_iload_n (pc := 64) hx hb dX3_init_64 rfl (lv_at hl 0 rfl) ?_
  refine rk_new (pc := 65) (h := b0 + 13) (sh := (shO_X4)) hx hb hts hown hK hS176 in_X4 ft_X4 rfl q246 q248 q118 hz181 rfl (df_X4 _ rfl) (Nat.le_of_ble_eq_true rfl) (Nat.le_of_ble_eq_true rfl) dX3_init_65 (fun H182 hW183 hS184 hz185 hkp186 => ?_)
  have hW187 := rg_keepN hW179 hz181 hkp186
  have hW188 := rg_keepN hW175 hz181 hkp186
  have hP189 := PP.keepN hP180 hz181 hkp186
  have ap190 := PP.ap (q := (b0 + 13)) hP189 (by omega)
  have hz191 : H182.size = b0 + 14 := by omega
  clear hW179 hW175 hP180 hS176 hz181 hz185 hkp186
  refine lv_dup (pc := 68) hx hb dX3_init_68 rfl ?_
  refine rk_TIN (pc := 69) (As := []) (rest := [.ref (b0 + 13), .int (2 : Int32), .ref (b0 + 6)]) (mc := 2) (ms := 25) hx hb hml hown hts hK hS184 (fun q hq => FA_sz rfl q hq) lkX3_34 yn_X4_init (ct_X4_init (G := G) (l := l) (b0 := (b0 + 13)) (sz := H182.size) (by omega)) ⟨Nat.le_of_ble_eq_true rfl, Nat.le_of_ble_eq_true rfl⟩ (fun z h => Or.inr (by have h8 := h.1; omega)) hW183 rfl rfl hl.1 (Nat.le_of_ble_eq_true rfl) dX3_init_69 ⟨Nat.le_of_ble_eq_true rfl, Nat.le_of_ble_eq_true rfl⟩ (fun ov9 H192 locs193 hP194 hkp195 hS196 => ?_)
  obtain ⟨rfl, hW197, hz198⟩ := hP194
  have hW199 := rg_keepA hW187 hkp195 (by intro z h1 h2 h3; have h8 := h3.1; have h9 := h3.2; omega)
  have hW200 := rg_keepA hW188 hkp195 (by intro z h1 h2 h3; have h8 := h3.1; have h9 := h3.2; omega)
  have hP201 := PP.keepA hP189 hkp195 (by omega)
  have hz202 : H192.size = b0 + 16 := by omega
  have ap203 := Ap.cons (x := ((b0 + 13), 3, (shX4 G.2.1), (vc_X4 (b0 + 13)))) (Or.inl (show b0 < (b0 + 13) by omega)) ap170
  have ap204 := Ap.cons (x := ((b0 + 13), 3, (shX4 G.2.1), (vc_X4 (b0 + 13)))) (Or.inl (show (b0 + 6) < (b0 + 13) by omega)) ap171
  have hP205 := PP.cons (hi' := b0 + 16) hW197 hP201 (by omega) (by omega)
  clear hW187 hW188 hP189 hz191 hz198 hkp195 hS184 hW183 ap190 ap170 ap171 hP201 hW197
  refine W.eq (g2 := F0 m 72 ls [.ref (b0 + 13), .int (2 : Int32), .ref (b0 + 6)]) rfl ?_
  refine rk_aastC (pc := 72) hx hb hK hW200 hS196 0 6 (by decide) rfl (Or.inr (by omega)) (fun _ _ _ => rfl) rfl rfl (rk_recv (ci := 4) (C := RX4) (T := TX4) (N := 4) hK (PP.at hP205 0 rfl) 0 (by decide) rfl rfl rfl) dX3_init_72 (fun H206 locs207 hW208 hS209 hz210 hkp211 => ?_)
  have hW208 : rg G (b0 + 6) 1 (fun _ _ _ _ z => some (.inl (G.2.1 6, 12, .inr (.inr (.inr (.inr z)))))) (vq_X3_init_211 b0) H206 := hW208
  have hW212 := rg_keepq hW199 hkp211 (by omega)
  have hP213 := PP.keepq hP205 hkp211 ap204
  have hz214 := hz210.trans hz202
  clear hW200 hW199 hP205 hz202 hz210 hS196 hkp211
  refine lv_iinc (pc := 73) (v := (3 : Int32)) (lv' := [(1, .int (3 : Int32)), (0, .ref b0)]) hx hb dX3_init_73 hl (k := 0) rfl (by decide) (by decide) rfl (fun ls hl => ?_)
  refine lv_goto (pc := 76) (tgt := 54) hx hb dX3_init_76 (by decide) ?_
  refine lv_iload_n (pc := 54) hx hb dX3_init_54 rfl (lv_at hl 0 rfl) ?_
  refine lv_bipush (pc := 55) (v := (12 : Int32)) hx hb dX3_init_55 (by decide) ?_
  refine lv_icmp_ge (pc := 57) (tgt := 79) hx hb dX3_init_57 (by decide) (fun h => absurd h (by decide)) (fun _ => ?_)
  refine lv_aload_n (pc := 60) hx hb dX3_init_60 rfl (lv_at hl 1 rfl) ?_
  refine rk_get (pc := 61) hx hb hts hown hK hW212 flX3_30 0 (by decide) rfl rfl (x := .ref (b0 + 6)) rfl dX3_init_61 ?_
  refine lv_iload_n (pc := 64) hx hb dX3_init_64 rfl (lv_at hl 0 rfl) ?_
  refine rk_new (pc := 65) (h := b0 + 16) (sh := (shO_X4)) hx hb hts hown hK hS209 in_X4 ft_X4 rfl q246 q248 q118 hz214 rfl (df_X4 _ rfl) (Nat.le_of_ble_eq_true rfl) (Nat.le_of_ble_eq_true rfl) dX3_init_65 (fun H215 hW216 hS217 hz218 hkp219 => ?_)
  have hW220 := rg_keepN hW212 hz214 hkp219
  have hW221 := rg_keepN hW208 hz214 hkp219
  have hP222 := PP.keepN hP213 hz214 hkp219
  have ap223 := PP.ap (q := (b0 + 16)) hP222 (by omega)
  have hz224 : H215.size = b0 + 17 := by omega
  clear hW212 hW208 hP213 hS209 hz214 hz218 hkp219
  refine lv_dup (pc := 68) hx hb dX3_init_68 rfl ?_
  refine rk_TIN (pc := 69) (As := []) (rest := [.ref (b0 + 16), .int (3 : Int32), .ref (b0 + 6)]) (mc := 2) (ms := 25) hx hb hml hown hts hK hS217 (fun q hq => FA_sz rfl q hq) lkX3_34 yn_X4_init (ct_X4_init (G := G) (l := l) (b0 := (b0 + 16)) (sz := H215.size) (by omega)) ⟨Nat.le_of_ble_eq_true rfl, Nat.le_of_ble_eq_true rfl⟩ (fun z h => Or.inr (by have h8 := h.1; omega)) hW216 rfl rfl hl.1 (Nat.le_of_ble_eq_true rfl) dX3_init_69 ⟨Nat.le_of_ble_eq_true rfl, Nat.le_of_ble_eq_true rfl⟩ (fun ov9 H225 locs226 hP227 hkp228 hS229 => ?_)
  obtain ⟨rfl, hW230, hz231⟩ := hP227
  have hW232 := rg_keepA hW220 hkp228 (by intro z h1 h2 h3; have h8 := h3.1; have h9 := h3.2; omega)
  have hW233 := rg_keepA hW221 hkp228 (by intro z h1 h2 h3; have h8 := h3.1; have h9 := h3.2; omega)
  have hP234 := PP.keepA hP222 hkp228 (by omega)
  have hz235 : H225.size = b0 + 19 := by omega
  have ap236 := Ap.cons (x := ((b0 + 16), 3, (shX4 G.2.1), (vc_X4 (b0 + 16)))) (Or.inl (show b0 < (b0 + 16) by omega)) ap203
  have ap237 := Ap.cons (x := ((b0 + 16), 3, (shX4 G.2.1), (vc_X4 (b0 + 16)))) (Or.inl (show (b0 + 6) < (b0 + 16) by omega)) ap204
  have hP238 := PP.cons (hi' := b0 + 19) hW230 hP234 (by omega) (by omega)
  clear hW220 hW221 hP222 hz224 hz231 hkp228 hS217 hW216 ap223 ap203 ap204 hP234 hW230
  refine W.eq (g2 := F0 m 72 ls [.ref (b0 + 16), .int (3 : Int32), .ref (b0 + 6)]) rfl ?_
  refine rk_aastC (pc := 72) hx hb hK hW233 hS229 0 6 (by decide) rfl (Or.inr (by omega)) (fun _ _ _ => rfl) rfl rfl (rk_recv (ci := 4) (C := RX4) (T := TX4) (N := 4) hK (PP.at hP238 0 rfl) 0 (by decide) rfl rfl rfl) dX3_init_72 (fun H239 locs240 hW241 hS242 hz243 hkp244 => ?_)
  have hW241 : rg G (b0 + 6) 1 (fun _ _ _ _ z => some (.inl (G.2.1 6, 12, .inr (.inr (.inr (.inr z)))))) (vq_X3_init_244 b0) H239 := hW241
  have hW245 := rg_keepq hW232 hkp244 (by omega)
  have hP246 := PP.keepq hP238 hkp244 ap237
  have hz247 := hz243.trans hz235
  clear hW233 hW232 hP238 hz235 hz243 hS229 hkp244
  refine lv_iinc (pc := 73) (v := (4 : Int32)) (lv' := [(1, .int (4 : Int32)), (0, .ref b0)]) hx hb dX3_init_73 hl (k := 0) rfl (by decide) (by decide) rfl (fun ls hl => ?_)
  refine lv_goto (pc := 76) (tgt := 54) hx hb dX3_init_76 (by decide) ?_
  refine lv_iload_n (pc := 54) hx hb dX3_init_54 rfl (lv_at hl 0 rfl) ?_
  refine lv_bipush (pc := 55) (v := (12 : Int32)) hx hb dX3_init_55 (by decide) ?_
  refine lv_icmp_ge (pc := 57) (tgt := 79) hx hb dX3_init_57 (by decide) (fun h => absurd h (by decide)) (fun _ => ?_)
  refine lv_aload_n (pc := 60) hx hb dX3_init_60 rfl (lv_at hl 1 rfl) ?_
  refine rk_get (pc := 61) hx hb hts hown hK hW245 flX3_30 0 (by decide) rfl rfl (x := .ref (b0 + 6)) rfl dX3_init_61 ?_
  refine lv_iload_n (pc := 64) hx hb dX3_init_64 rfl (lv_at hl 0 rfl) ?_
  refine rk_new (pc := 65) (h := b0 + 19) (sh := (shO_X4)) hx hb hts hown hK hS242 in_X4 ft_X4 rfl q246 q248 q118 hz247 rfl (df_X4 _ rfl) (Nat.le_of_ble_eq_true rfl) (Nat.le_of_ble_eq_true rfl) dX3_init_65 (fun H248 hW249 hS250 hz251 hkp252 => ?_)
  have hW253 := rg_keepN hW245 hz247 hkp252
  have hW254 := rg_keepN hW241 hz247 hkp252
  have hP255 := PP.keepN hP246 hz247 hkp252
  have ap256 := PP.ap (q := (b0 + 19)) hP255 (by omega)
  have hz257 : H248.size = b0 + 20 := by omega
  clear hW245 hW241 hP246 hS242 hz247 hz251 hkp252
  refine lv_dup (pc := 68) hx hb dX3_init_68 rfl ?_
  refine rk_TIN (pc := 69) (As := []) (rest := [.ref (b0 + 19), .int (4 : Int32), .ref (b0 + 6)]) (mc := 2) (ms := 25) hx hb hml hown hts hK hS250 (fun q hq => FA_sz rfl q hq) lkX3_34 yn_X4_init (ct_X4_init (G := G) (l := l) (b0 := (b0 + 19)) (sz := H248.size) (by omega)) ⟨Nat.le_of_ble_eq_true rfl, Nat.le_of_ble_eq_true rfl⟩ (fun z h => Or.inr (by have h8 := h.1; omega)) hW249 rfl rfl hl.1 (Nat.le_of_ble_eq_true rfl) dX3_init_69 ⟨Nat.le_of_ble_eq_true rfl, Nat.le_of_ble_eq_true rfl⟩ (fun ov9 H258 locs259 hP260 hkp261 hS262 => ?_)
  obtain ⟨rfl, hW263, hz264⟩ := hP260
  have hW265 := rg_keepA hW253 hkp261 (by intro z h1 h2 h3; have h8 := h3.1; have h9 := h3.2; omega)
  have hW266 := rg_keepA hW254 hkp261 (by intro z h1 h2 h3; have h8 := h3.1; have h9 := h3.2; omega)
  have hP267 := PP.keepA hP255 hkp261 (by omega)
  have hz268 : H258.size = b0 + 22 := by omega
  have ap269 := Ap.cons (x := ((b0 + 19), 3, (shX4 G.2.1), (vc_X4 (b0 + 19)))) (Or.inl (show b0 < (b0 + 19) by omega)) ap236
  have ap270 := Ap.cons (x := ((b0 + 19), 3, (shX4 G.2.1), (vc_X4 (b0 + 19)))) (Or.inl (show (b0 + 6) < (b0 + 19) by omega)) ap237
  have hP271 := PP.cons (hi' := b0 + 22) hW263 hP267 (by omega) (by omega)
  clear hW253 hW254 hP255 hz257 hz264 hkp261 hS250 hW249 ap256 ap236 ap237 hP267 hW263
  refine W.eq (g2 := F0 m 72 ls [.ref (b0 + 19), .int (4 : Int32), .ref (b0 + 6)]) rfl ?_
  refine rk_aastC (pc := 72) hx hb hK hW266 hS262 0 6 (by decide) rfl (Or.inr (by omega)) (fun _ _ _ => rfl) rfl rfl (rk_recv (ci := 4) (C := RX4) (T := TX4) (N := 4) hK (PP.at hP271 0 rfl) 0 (by decide) rfl rfl rfl) dX3_init_72 (fun H272 locs273 hW274 hS275 hz276 hkp277 => ?_)
  have hW274 : rg G (b0 + 6) 1 (fun _ _ _ _ z => some (.inl (G.2.1 6, 12, .inr (.inr (.inr (.inr z)))))) (vq_X3_init_277 b0) H272 := hW274
  have hW278 := rg_keepq hW265 hkp277 (by omega)
  have hP279 := PP.keepq hP271 hkp277 ap270
  have hz280 := hz276.trans hz268
  clear hW266 hW265 hP271 hz268 hz276 hS262 hkp277
  refine lv_iinc (pc := 73) (v := (5 : Int32)) (lv' := [(1, .int (5 : Int32)), (0, .ref b0)]) hx hb dX3_init_73 hl (k := 0) rfl (by decide) (by decide) rfl (fun ls hl => ?_)
  refine lv_goto (pc := 76) (tgt := 54) hx hb dX3_init_76 (by decide) ?_
  refine lv_iload_n (pc := 54) hx hb dX3_init_54 rfl (lv_at hl 0 rfl) ?_
  refine lv_bipush (pc := 55) (v := (12 : Int32)) hx hb dX3_init_55 (by decide) ?_
  refine lv_icmp_ge (pc := 57) (tgt := 79) hx hb dX3_init_57 (by decide) (fun h => absurd h (by decide)) (fun _ => ?_)
  refine lv_aload_n (pc := 60) hx hb dX3_init_60 rfl (lv_at hl 1 rfl) ?_
  refine rk_get (pc := 61) hx hb hts hown hK hW278 flX3_30 0 (by decide) rfl rfl (x := .ref (b0 + 6)) rfl dX3_init_61 ?_
  refine lv_iload_n (pc := 64) hx hb dX3_init_64 rfl (lv_at hl 0 rfl) ?_
  refine rk_new (pc := 65) (h := b0 + 22) (sh := (shO_X4)) hx hb hts hown hK hS275 in_X4 ft_X4 rfl q246 q248 q118 hz280 rfl (df_X4 _ rfl) (Nat.le_of_ble_eq_true rfl) (Nat.le_of_ble_eq_true rfl) dX3_init_65 (fun H281 hW282 hS283 hz284 hkp285 => ?_)
  have hW286 := rg_keepN hW278 hz280 hkp285
  have hW287 := rg_keepN hW274 hz280 hkp285
  have hP288 := PP.keepN hP279 hz280 hkp285
  have ap289 := PP.ap (q := (b0 + 22)) hP288 (by omega)
  have hz290 : H281.size = b0 + 23 := by omega
  clear hW278 hW274 hP279 hS275 hz280 hz284 hkp285
  refine lv_dup (pc := 68) hx hb dX3_init_68 rfl ?_
  refine rk_TIN (pc := 69) (As := []) (rest := [.ref (b0 + 22), .int (5 : Int32), .ref (b0 + 6)]) (mc := 2) (ms := 25) hx hb hml hown hts hK hS283 (fun q hq => FA_sz rfl q hq) lkX3_34 yn_X4_init (ct_X4_init (G := G) (l := l) (b0 := (b0 + 22)) (sz := H281.size) (by omega)) ⟨Nat.le_of_ble_eq_true rfl, Nat.le_of_ble_eq_true rfl⟩ (fun z h => Or.inr (by have h8 := h.1; omega)) hW282 rfl rfl hl.1 (Nat.le_of_ble_eq_true rfl) dX3_init_69 ⟨Nat.le_of_ble_eq_true rfl, Nat.le_of_ble_eq_true rfl⟩ (fun ov9 H291 locs292 hP293 hkp294 hS295 => ?_)
  obtain ⟨rfl, hW296, hz297⟩ := hP293
  have hW298 := rg_keepA hW286 hkp294 (by intro z h1 h2 h3; have h8 := h3.1; have h9 := h3.2; omega)
  have hW299 := rg_keepA hW287 hkp294 (by intro z h1 h2 h3; have h8 := h3.1; have h9 := h3.2; omega)
  have hP300 := PP.keepA hP288 hkp294 (by omega)
  have hz301 : H291.size = b0 + 25 := by omega
  have ap302 := Ap.cons (x := ((b0 + 22), 3, (shX4 G.2.1), (vc_X4 (b0 + 22)))) (Or.inl (show b0 < (b0 + 22) by omega)) ap269
  have ap303 := Ap.cons (x := ((b0 + 22), 3, (shX4 G.2.1), (vc_X4 (b0 + 22)))) (Or.inl (show (b0 + 6) < (b0 + 22) by omega)) ap270
  have hP304 := PP.cons (hi' := b0 + 25) hW296 hP300 (by omega) (by omega)
  clear hW286 hW287 hP288 hz290 hz297 hkp294 hS283 hW282 ap289 ap269 ap270 hP300 hW296
  refine W.eq (g2 := F0 m 72 ls [.ref (b0 + 22), .int (5 : Int32), .ref (b0 + 6)]) rfl ?_
  refine rk_aastC (pc := 72) hx hb hK hW299 hS295 0 6 (by decide) rfl (Or.inr (by omega)) (fun _ _ _ => rfl) rfl rfl (rk_recv (ci := 4) (C := RX4) (T := TX4) (N := 4) hK (PP.at hP304 0 rfl) 0 (by decide) rfl rfl rfl) dX3_init_72 (fun H305 locs306 hW307 hS308 hz309 hkp310 => ?_)
  have hW307 : rg G (b0 + 6) 1 (fun _ _ _ _ z => some (.inl (G.2.1 6, 12, .inr (.inr (.inr (.inr z)))))) (vq_X3_init_310 b0) H305 := hW307
  have hW311 := rg_keepq hW298 hkp310 (by omega)
  have hP312 := PP.keepq hP304 hkp310 ap303
  have hz313 := hz309.trans hz301
  clear hW299 hW298 hP304 hz301 hz309 hS295 hkp310
  refine lv_iinc (pc := 73) (v := (6 : Int32)) (lv' := [(1, .int (6 : Int32)), (0, .ref b0)]) hx hb dX3_init_73 hl (k := 0) rfl (by decide) (by decide) rfl (fun ls hl => ?_)
  refine lv_goto (pc := 76) (tgt := 54) hx hb dX3_init_76 (by decide) ?_
  refine lv_iload_n (pc := 54) hx hb dX3_init_54 rfl (lv_at hl 0 rfl) ?_
  refine lv_bipush (pc := 55) (v := (12 : Int32)) hx hb dX3_init_55 (by decide) ?_
  refine lv_icmp_ge (pc := 57) (tgt := 79) hx hb dX3_init_57 (by decide) (fun h => absurd h (by decide)) (fun _ => ?_)
  refine lv_aload_n (pc := 60) hx hb dX3_init_60 rfl (lv_at hl 1 rfl) ?_
  refine rk_get (pc := 61) hx hb hts hown hK hW311 flX3_30 0 (by decide) rfl rfl (x := .ref (b0 + 6)) rfl dX3_init_61 ?_
  refine lv_iload_n (pc := 64) hx hb dX3_init_64 rfl (lv_at hl 0 rfl) ?_
  refine rk_new (pc := 65) (h := b0 + 25) (sh := (shO_X4)) hx hb hts hown hK hS308 in_X4 ft_X4 rfl q246 q248 q118 hz313 rfl (df_X4 _ rfl) (Nat.le_of_ble_eq_true rfl) (Nat.le_of_ble_eq_true rfl) dX3_init_65 (fun H314 hW315 hS316 hz317 hkp318 => ?_)
  have hW319 := rg_keepN hW311 hz313 hkp318
  have hW320 := rg_keepN hW307 hz313 hkp318
  have hP321 := PP.keepN hP312 hz313 hkp318
  have ap322 := PP.ap (q := (b0 + 25)) hP321 (by omega)
  have hz323 : H314.size = b0 + 26 := by omega
  clear hW311 hW307 hP312 hS308 hz313 hz317 hkp318
  refine lv_dup (pc := 68) hx hb dX3_init_68 rfl ?_
  refine rk_TIN (pc := 69) (As := []) (rest := [.ref (b0 + 25), .int (6 : Int32), .ref (b0 + 6)]) (mc := 2) (ms := 25) hx hb hml hown hts hK hS316 (fun q hq => FA_sz rfl q hq) lkX3_34 yn_X4_init (ct_X4_init (G := G) (l := l) (b0 := (b0 + 25)) (sz := H314.size) (by omega)) ⟨Nat.le_of_ble_eq_true rfl, Nat.le_of_ble_eq_true rfl⟩ (fun z h => Or.inr (by have h8 := h.1; omega)) hW315 rfl rfl hl.1 (Nat.le_of_ble_eq_true rfl) dX3_init_69 ⟨Nat.le_of_ble_eq_true rfl, Nat.le_of_ble_eq_true rfl⟩ (fun ov9 H324 locs325 hP326 hkp327 hS328 => ?_)
  obtain ⟨rfl, hW329, hz330⟩ := hP326
  have hW331 := rg_keepA hW319 hkp327 (by intro z h1 h2 h3; have h8 := h3.1; have h9 := h3.2; omega)
  have hW332 := rg_keepA hW320 hkp327 (by intro z h1 h2 h3; have h8 := h3.1; have h9 := h3.2; omega)
  have hP333 := PP.keepA hP321 hkp327 (by omega)
  have hz334 : H324.size = b0 + 28 := by omega
  have ap335 := Ap.cons (x := ((b0 + 25), 3, (shX4 G.2.1), (vc_X4 (b0 + 25)))) (Or.inl (show b0 < (b0 + 25) by omega)) ap302
  have ap336 := Ap.cons (x := ((b0 + 25), 3, (shX4 G.2.1), (vc_X4 (b0 + 25)))) (Or.inl (show (b0 + 6) < (b0 + 25) by omega)) ap303
  have hP337 := PP.cons (hi' := b0 + 28) hW329 hP333 (by omega) (by omega)
  clear hW319 hW320 hP321 hz323 hz330 hkp327 hS316 hW315 ap322 ap302 ap303 hP333 hW329
  refine W.eq (g2 := F0 m 72 ls [.ref (b0 + 25), .int (6 : Int32), .ref (b0 + 6)]) rfl ?_
  refine rk_aastC (pc := 72) hx hb hK hW332 hS328 0 6 (by decide) rfl (Or.inr (by omega)) (fun _ _ _ => rfl) rfl rfl (rk_recv (ci := 4) (C := RX4) (T := TX4) (N := 4) hK (PP.at hP337 0 rfl) 0 (by decide) rfl rfl rfl) dX3_init_72 (fun H338 locs339 hW340 hS341 hz342 hkp343 => ?_)
  have hW340 : rg G (b0 + 6) 1 (fun _ _ _ _ z => some (.inl (G.2.1 6, 12, .inr (.inr (.inr (.inr z)))))) (vq_X3_init_343 b0) H338 := hW340
  have hW344 := rg_keepq hW331 hkp343 (by omega)
  have hP345 := PP.keepq hP337 hkp343 ap336
  have hz346 := hz342.trans hz334
  clear hW332 hW331 hP337 hz334 hz342 hS328 hkp343
  refine lv_iinc (pc := 73) (v := (7 : Int32)) (lv' := [(1, .int (7 : Int32)), (0, .ref b0)]) hx hb dX3_init_73 hl (k := 0) rfl (by decide) (by decide) rfl (fun ls hl => ?_)
  refine lv_goto (pc := 76) (tgt := 54) hx hb dX3_init_76 (by decide) ?_
  refine lv_iload_n (pc := 54) hx hb dX3_init_54 rfl (lv_at hl 0 rfl) ?_
  refine lv_bipush (pc := 55) (v := (12 : Int32)) hx hb dX3_init_55 (by decide) ?_
  refine lv_icmp_ge (pc := 57) (tgt := 79) hx hb dX3_init_57 (by decide) (fun h => absurd h (by decide)) (fun _ => ?_)
  refine lv_aload_n (pc := 60) hx hb dX3_init_60 rfl (lv_at hl 1 rfl) ?_
  refine rk_get (pc := 61) hx hb hts hown hK hW344 flX3_30 0 (by decide) rfl rfl (x := .ref (b0 + 6)) rfl dX3_init_61 ?_
  refine lv_iload_n (pc := 64) hx hb dX3_init_64 rfl (lv_at hl 0 rfl) ?_
  refine rk_new (pc := 65) (h := b0 + 28) (sh := (shO_X4)) hx hb hts hown hK hS341 in_X4 ft_X4 rfl q246 q248 q118 hz346 rfl (df_X4 _ rfl) (Nat.le_of_ble_eq_true rfl) (Nat.le_of_ble_eq_true rfl) dX3_init_65 (fun H347 hW348 hS349 hz350 hkp351 => ?_)
  have hW352 := rg_keepN hW344 hz346 hkp351
  have hW353 := rg_keepN hW340 hz346 hkp351
  have hP354 := PP.keepN hP345 hz346 hkp351
  have ap355 := PP.ap (q := (b0 + 28)) hP354 (by omega)
  have hz356 : H347.size = b0 + 29 := by omega
  clear hW344 hW340 hP345 hS341 hz346 hz350 hkp351
  refine lv_dup (pc := 68) hx hb dX3_init_68 rfl ?_
  refine rk_TIN (pc := 69) (As := []) (rest := [.ref (b0 + 28), .int (7 : Int32), .ref (b0 + 6)]) (mc := 2) (ms := 25) hx hb hml hown hts hK hS349 (fun q hq => FA_sz rfl q hq) lkX3_34 yn_X4_init (ct_X4_init (G := G) (l := l) (b0 := (b0 + 28)) (sz := H347.size) (by omega)) ⟨Nat.le_of_ble_eq_true rfl, Nat.le_of_ble_eq_true rfl⟩ (fun z h => Or.inr (by have h8 := h.1; omega)) hW348 rfl rfl hl.1 (Nat.le_of_ble_eq_true rfl) dX3_init_69 ⟨Nat.le_of_ble_eq_true rfl, Nat.le_of_ble_eq_true rfl⟩ (fun ov9 H357 locs358 hP359 hkp360 hS361 => ?_)
  obtain ⟨rfl, hW362, hz363⟩ := hP359
  have hW364 := rg_keepA hW352 hkp360 (by intro z h1 h2 h3; have h8 := h3.1; have h9 := h3.2; omega)
  have hW365 := rg_keepA hW353 hkp360 (by intro z h1 h2 h3; have h8 := h3.1; have h9 := h3.2; omega)
  have hP366 := PP.keepA hP354 hkp360 (by omega)
  have hz367 : H357.size = b0 + 31 := by omega
  have ap368 := Ap.cons (x := ((b0 + 28), 3, (shX4 G.2.1), (vc_X4 (b0 + 28)))) (Or.inl (show b0 < (b0 + 28) by omega)) ap335
  have ap369 := Ap.cons (x := ((b0 + 28), 3, (shX4 G.2.1), (vc_X4 (b0 + 28)))) (Or.inl (show (b0 + 6) < (b0 + 28) by omega)) ap336
  have hP370 := PP.cons (hi' := b0 + 31) hW362 hP366 (by omega) (by omega)
  clear hW352 hW353 hP354 hz356 hz363 hkp360 hS349 hW348 ap355 ap335 ap336 hP366 hW362
  refine W.eq (g2 := F0 m 72 ls [.ref (b0 + 28), .int (7 : Int32), .ref (b0 + 6)]) rfl ?_
  refine rk_aastC (pc := 72) hx hb hK hW365 hS361 0 6 (by decide) rfl (Or.inr (by omega)) (fun _ _ _ => rfl) rfl rfl (rk_recv (ci := 4) (C := RX4) (T := TX4) (N := 4) hK (PP.at hP370 0 rfl) 0 (by decide) rfl rfl rfl) dX3_init_72 (fun H371 locs372 hW373 hS374 hz375 hkp376 => ?_)
  have hW373 : rg G (b0 + 6) 1 (fun _ _ _ _ z => some (.inl (G.2.1 6, 12, .inr (.inr (.inr (.inr z)))))) (vq_X3_init_376 b0) H371 := hW373
  have hW377 := rg_keepq hW364 hkp376 (by omega)
  have hP378 := PP.keepq hP370 hkp376 ap369
  have hz379 := hz375.trans hz367
  clear hW365 hW364 hP370 hz367 hz375 hS361 hkp376
  refine lv_iinc (pc := 73) (v := (8 : Int32)) (lv' := [(1, .int (8 : Int32)), (0, .ref b0)]) hx hb dX3_init_73 hl (k := 0) rfl (by decide) (by decide) rfl (fun ls hl => ?_)
  refine lv_goto (pc := 76) (tgt := 54) hx hb dX3_init_76 (by decide) ?_
  refine lv_iload_n (pc := 54) hx hb dX3_init_54 rfl (lv_at hl 0 rfl) ?_
  refine lv_bipush (pc := 55) (v := (12 : Int32)) hx hb dX3_init_55 (by decide) ?_
  refine lv_icmp_ge (pc := 57) (tgt := 79) hx hb dX3_init_57 (by decide) (fun h => absurd h (by decide)) (fun _ => ?_)
  refine lv_aload_n (pc := 60) hx hb dX3_init_60 rfl (lv_at hl 1 rfl) ?_
  refine rk_get (pc := 61) hx hb hts hown hK hW377 flX3_30 0 (by decide) rfl rfl (x := .ref (b0 + 6)) rfl dX3_init_61 ?_
  refine lv_iload_n (pc := 64) hx hb dX3_init_64 rfl (lv_at hl 0 rfl) ?_
  refine rk_new (pc := 65) (h := b0 + 31) (sh := (shO_X4)) hx hb hts hown hK hS374 in_X4 ft_X4 rfl q246 q248 q118 hz379 rfl (df_X4 _ rfl) (Nat.le_of_ble_eq_true rfl) (Nat.le_of_ble_eq_true rfl) dX3_init_65 (fun H380 hW381 hS382 hz383 hkp384 => ?_)
  have hW385 := rg_keepN hW377 hz379 hkp384
  have hW386 := rg_keepN hW373 hz379 hkp384
  have hP387 := PP.keepN hP378 hz379 hkp384
  have ap388 := PP.ap (q := (b0 + 31)) hP387 (by omega)
  have hz389 : H380.size = b0 + 32 := by omega
  clear hW377 hW373 hP378 hS374 hz379 hz383 hkp384
  refine lv_dup (pc := 68) hx hb dX3_init_68 rfl ?_
  refine rk_TIN (pc := 69) (As := []) (rest := [.ref (b0 + 31), .int (8 : Int32), .ref (b0 + 6)]) (mc := 2) (ms := 25) hx hb hml hown hts hK hS382 (fun q hq => FA_sz rfl q hq) lkX3_34 yn_X4_init (ct_X4_init (G := G) (l := l) (b0 := (b0 + 31)) (sz := H380.size) (by omega)) ⟨Nat.le_of_ble_eq_true rfl, Nat.le_of_ble_eq_true rfl⟩ (fun z h => Or.inr (by have h8 := h.1; omega)) hW381 rfl rfl hl.1 (Nat.le_of_ble_eq_true rfl) dX3_init_69 ⟨Nat.le_of_ble_eq_true rfl, Nat.le_of_ble_eq_true rfl⟩ (fun ov9 H390 locs391 hP392 hkp393 hS394 => ?_)
  obtain ⟨rfl, hW395, hz396⟩ := hP392
  have hW397 := rg_keepA hW385 hkp393 (by intro z h1 h2 h3; have h8 := h3.1; have h9 := h3.2; omega)
  have hW398 := rg_keepA hW386 hkp393 (by intro z h1 h2 h3; have h8 := h3.1; have h9 := h3.2; omega)
  have hP399 := PP.keepA hP387 hkp393 (by omega)
  have hz400 : H390.size = b0 + 34 := by omega
  have ap401 := Ap.cons (x := ((b0 + 31), 3, (shX4 G.2.1), (vc_X4 (b0 + 31)))) (Or.inl (show b0 < (b0 + 31) by omega)) ap368
  have ap402 := Ap.cons (x := ((b0 + 31), 3, (shX4 G.2.1), (vc_X4 (b0 + 31)))) (Or.inl (show (b0 + 6) < (b0 + 31) by omega)) ap369
  have hP403 := PP.cons (hi' := b0 + 34) hW395 hP399 (by omega) (by omega)
  clear hW385 hW386 hP387 hz389 hz396 hkp393 hS382 hW381 ap388 ap368 ap369 hP399 hW395
  refine W.eq (g2 := F0 m 72 ls [.ref (b0 + 31), .int (8 : Int32), .ref (b0 + 6)]) rfl ?_
  refine rk_aastC (pc := 72) hx hb hK hW398 hS394 0 6 (by decide) rfl (Or.inr (by omega)) (fun _ _ _ => rfl) rfl rfl (rk_recv (ci := 4) (C := RX4) (T := TX4) (N := 4) hK (PP.at hP403 0 rfl) 0 (by decide) rfl rfl rfl) dX3_init_72 (fun H404 locs405 hW406 hS407 hz408 hkp409 => ?_)
  have hW406 : rg G (b0 + 6) 1 (fun _ _ _ _ z => some (.inl (G.2.1 6, 12, .inr (.inr (.inr (.inr z)))))) (vq_X3_init_409 b0) H404 := hW406
  have hW410 := rg_keepq hW397 hkp409 (by omega)
  have hP411 := PP.keepq hP403 hkp409 ap402
  have hz412 := hz408.trans hz400
  clear hW398 hW397 hP403 hz400 hz408 hS394 hkp409
  refine lv_iinc (pc := 73) (v := (9 : Int32)) (lv' := [(1, .int (9 : Int32)), (0, .ref b0)]) hx hb dX3_init_73 hl (k := 0) rfl (by decide) (by decide) rfl (fun ls hl => ?_)
  refine lv_goto (pc := 76) (tgt := 54) hx hb dX3_init_76 (by decide) ?_
  refine lv_iload_n (pc := 54) hx hb dX3_init_54 rfl (lv_at hl 0 rfl) ?_
  refine lv_bipush (pc := 55) (v := (12 : Int32)) hx hb dX3_init_55 (by decide) ?_
  refine lv_icmp_ge (pc := 57) (tgt := 79) hx hb dX3_init_57 (by decide) (fun h => absurd h (by decide)) (fun _ => ?_)
  refine lv_aload_n (pc := 60) hx hb dX3_init_60 rfl (lv_at hl 1 rfl) ?_
  refine rk_get (pc := 61) hx hb hts hown hK hW410 flX3_30 0 (by decide) rfl rfl (x := .ref (b0 + 6)) rfl dX3_init_61 ?_
  refine lv_iload_n (pc := 64) hx hb dX3_init_64 rfl (lv_at hl 0 rfl) ?_
  refine rk_new (pc := 65) (h := b0 + 34) (sh := (shO_X4)) hx hb hts hown hK hS407 in_X4 ft_X4 rfl q246 q248 q118 hz412 rfl (df_X4 _ rfl) (Nat.le_of_ble_eq_true rfl) (Nat.le_of_ble_eq_true rfl) dX3_init_65 (fun H413 hW414 hS415 hz416 hkp417 => ?_)
  have hW418 := rg_keepN hW410 hz412 hkp417
  have hW419 := rg_keepN hW406 hz412 hkp417
  have hP420 := PP.keepN hP411 hz412 hkp417
  have ap421 := PP.ap (q := (b0 + 34)) hP420 (by omega)
  have hz422 : H413.size = b0 + 35 := by omega
  clear hW410 hW406 hP411 hS407 hz412 hz416 hkp417
  refine lv_dup (pc := 68) hx hb dX3_init_68 rfl ?_
  refine rk_TIN (pc := 69) (As := []) (rest := [.ref (b0 + 34), .int (9 : Int32), .ref (b0 + 6)]) (mc := 2) (ms := 25) hx hb hml hown hts hK hS415 (fun q hq => FA_sz rfl q hq) lkX3_34 yn_X4_init (ct_X4_init (G := G) (l := l) (b0 := (b0 + 34)) (sz := H413.size) (by omega)) ⟨Nat.le_of_ble_eq_true rfl, Nat.le_of_ble_eq_true rfl⟩ (fun z h => Or.inr (by have h8 := h.1; omega)) hW414 rfl rfl hl.1 (Nat.le_of_ble_eq_true rfl) dX3_init_69 ⟨Nat.le_of_ble_eq_true rfl, Nat.le_of_ble_eq_true rfl⟩ (fun ov9 H423 locs424 hP425 hkp426 hS427 => ?_)
  obtain ⟨rfl, hW428, hz429⟩ := hP425
  have hW430 := rg_keepA hW418 hkp426 (by intro z h1 h2 h3; have h8 := h3.1; have h9 := h3.2; omega)
  have hW431 := rg_keepA hW419 hkp426 (by intro z h1 h2 h3; have h8 := h3.1; have h9 := h3.2; omega)
  have hP432 := PP.keepA hP420 hkp426 (by omega)
  have hz433 : H423.size = b0 + 37 := by omega
  have ap434 := Ap.cons (x := ((b0 + 34), 3, (shX4 G.2.1), (vc_X4 (b0 + 34)))) (Or.inl (show b0 < (b0 + 34) by omega)) ap401
  have ap435 := Ap.cons (x := ((b0 + 34), 3, (shX4 G.2.1), (vc_X4 (b0 + 34)))) (Or.inl (show (b0 + 6) < (b0 + 34) by omega)) ap402
  have hP436 := PP.cons (hi' := b0 + 37) hW428 hP432 (by omega) (by omega)
  clear hW418 hW419 hP420 hz422 hz429 hkp426 hS415 hW414 ap421 ap401 ap402 hP432 hW428
  refine W.eq (g2 := F0 m 72 ls [.ref (b0 + 34), .int (9 : Int32), .ref (b0 + 6)]) rfl ?_
  refine rk_aastC (pc := 72) hx hb hK hW431 hS427 0 6 (by decide) rfl (Or.inr (by omega)) (fun _ _ _ => rfl) rfl rfl (rk_recv (ci := 4) (C := RX4) (T := TX4) (N := 4) hK (PP.at hP436 0 rfl) 0 (by decide) rfl rfl rfl) dX3_init_72 (fun H437 locs438 hW439 hS440 hz441 hkp442 => ?_)
  have hW439 : rg G (b0 + 6) 1 (fun _ _ _ _ z => some (.inl (G.2.1 6, 12, .inr (.inr (.inr (.inr z)))))) (vq_X3_init_442 b0) H437 := hW439
  have hW443 := rg_keepq hW430 hkp442 (by omega)
  have hP444 := PP.keepq hP436 hkp442 ap435
  have hz445 := hz441.trans hz433
  clear hW431 hW430 hP436 hz433 hz441 hS427 hkp442
  refine lv_iinc (pc := 73) (v := (10 : Int32)) (lv' := [(1, .int (10 : Int32)), (0, .ref b0)]) hx hb dX3_init_73 hl (k := 0) rfl (by decide) (by decide) rfl (fun ls hl => ?_)
  refine lv_goto (pc := 76) (tgt := 54) hx hb dX3_init_76 (by decide) ?_
  refine lv_iload_n (pc := 54) hx hb dX3_init_54 rfl (lv_at hl 0 rfl) ?_
  refine lv_bipush (pc := 55) (v := (12 : Int32)) hx hb dX3_init_55 (by decide) ?_
  refine lv_icmp_ge (pc := 57) (tgt := 79) hx hb dX3_init_57 (by decide) (fun h => absurd h (by decide)) (fun _ => ?_)
  refine lv_aload_n (pc := 60) hx hb dX3_init_60 rfl (lv_at hl 1 rfl) ?_
  refine rk_get (pc := 61) hx hb hts hown hK hW443 flX3_30 0 (by decide) rfl rfl (x := .ref (b0 + 6)) rfl dX3_init_61 ?_
  refine lv_iload_n (pc := 64) hx hb dX3_init_64 rfl (lv_at hl 0 rfl) ?_
  refine rk_new (pc := 65) (h := b0 + 37) (sh := (shO_X4)) hx hb hts hown hK hS440 in_X4 ft_X4 rfl q246 q248 q118 hz445 rfl (df_X4 _ rfl) (Nat.le_of_ble_eq_true rfl) (Nat.le_of_ble_eq_true rfl) dX3_init_65 (fun H446 hW447 hS448 hz449 hkp450 => ?_)
  have hW451 := rg_keepN hW443 hz445 hkp450
  have hW452 := rg_keepN hW439 hz445 hkp450
  have hP453 := PP.keepN hP444 hz445 hkp450
  have ap454 := PP.ap (q := (b0 + 37)) hP453 (by omega)
  have hz455 : H446.size = b0 + 38 := by omega
  clear hW443 hW439 hP444 hS440 hz445 hz449 hkp450
  refine lv_dup (pc := 68) hx hb dX3_init_68 rfl ?_
  refine rk_TIN (pc := 69) (As := []) (rest := [.ref (b0 + 37), .int (10 : Int32), .ref (b0 + 6)]) (mc := 2) (ms := 25) hx hb hml hown hts hK hS448 (fun q hq => FA_sz rfl q hq) lkX3_34 yn_X4_init (ct_X4_init (G := G) (l := l) (b0 := (b0 + 37)) (sz := H446.size) (by omega)) ⟨Nat.le_of_ble_eq_true rfl, Nat.le_of_ble_eq_true rfl⟩ (fun z h => Or.inr (by have h8 := h.1; omega)) hW447 rfl rfl hl.1 (Nat.le_of_ble_eq_true rfl) dX3_init_69 ⟨Nat.le_of_ble_eq_true rfl, Nat.le_of_ble_eq_true rfl⟩ (fun ov9 H456 locs457 hP458 hkp459 hS460 => ?_)
  obtain ⟨rfl, hW461, hz462⟩ := hP458
  have hW463 := rg_keepA hW451 hkp459 (by intro z h1 h2 h3; have h8 := h3.1; have h9 := h3.2; omega)
  have hW464 := rg_keepA hW452 hkp459 (by intro z h1 h2 h3; have h8 := h3.1; have h9 := h3.2; omega)
  have hP465 := PP.keepA hP453 hkp459 (by omega)
  have hz466 : H456.size = b0 + 40 := by omega
  have ap467 := Ap.cons (x := ((b0 + 37), 3, (shX4 G.2.1), (vc_X4 (b0 + 37)))) (Or.inl (show b0 < (b0 + 37) by omega)) ap434
  have ap468 := Ap.cons (x := ((b0 + 37), 3, (shX4 G.2.1), (vc_X4 (b0 + 37)))) (Or.inl (show (b0 + 6) < (b0 + 37) by omega)) ap435
  have hP469 := PP.cons (hi' := b0 + 40) hW461 hP465 (by omega) (by omega)
  clear hW451 hW452 hP453 hz455 hz462 hkp459 hS448 hW447 ap454 ap434 ap435 hP465 hW461
  refine W.eq (g2 := F0 m 72 ls [.ref (b0 + 37), .int (10 : Int32), .ref (b0 + 6)]) rfl ?_
  refine rk_aastC (pc := 72) hx hb hK hW464 hS460 0 6 (by decide) rfl (Or.inr (by omega)) (fun _ _ _ => rfl) rfl rfl (rk_recv (ci := 4) (C := RX4) (T := TX4) (N := 4) hK (PP.at hP469 0 rfl) 0 (by decide) rfl rfl rfl) dX3_init_72 (fun H470 locs471 hW472 hS473 hz474 hkp475 => ?_)
  have hW472 : rg G (b0 + 6) 1 (fun _ _ _ _ z => some (.inl (G.2.1 6, 12, .inr (.inr (.inr (.inr z)))))) (vq_X3_init_475 b0) H470 := hW472
  have hW476 := rg_keepq hW463 hkp475 (by omega)
  have hP477 := PP.keepq hP469 hkp475 ap468
  have hz478 := hz474.trans hz466
  clear hW464 hW463 hP469 hz466 hz474 hS460 hkp475
  refine lv_iinc (pc := 73) (v := (11 : Int32)) (lv' := [(1, .int (11 : Int32)), (0, .ref b0)]) hx hb dX3_init_73 hl (k := 0) rfl (by decide) (by decide) rfl (fun ls hl => ?_)
  refine lv_goto (pc := 76) (tgt := 54) hx hb dX3_init_76 (by decide) ?_
  refine lv_iload_n (pc := 54) hx hb dX3_init_54 rfl (lv_at hl 0 rfl) ?_
  refine lv_bipush (pc := 55) (v := (12 : Int32)) hx hb dX3_init_55 (by decide) ?_
  refine lv_icmp_ge (pc := 57) (tgt := 79) hx hb dX3_init_57 (by decide) (fun h => absurd h (by decide)) (fun _ => ?_)
  refine lv_aload_n (pc := 60) hx hb dX3_init_60 rfl (lv_at hl 1 rfl) ?_
  refine rk_get (pc := 61) hx hb hts hown hK hW476 flX3_30 0 (by decide) rfl rfl (x := .ref (b0 + 6)) rfl dX3_init_61 ?_
  refine lv_iload_n (pc := 64) hx hb dX3_init_64 rfl (lv_at hl 0 rfl) ?_
  refine rk_new (pc := 65) (h := b0 + 40) (sh := (shO_X4)) hx hb hts hown hK hS473 in_X4 ft_X4 rfl q246 q248 q118 hz478 rfl (df_X4 _ rfl) (Nat.le_of_ble_eq_true rfl) (Nat.le_of_ble_eq_true rfl) dX3_init_65 (fun H479 hW480 hS481 hz482 hkp483 => ?_)
  have hW484 := rg_keepN hW476 hz478 hkp483
  have hW485 := rg_keepN hW472 hz478 hkp483
  have hP486 := PP.keepN hP477 hz478 hkp483
  have ap487 := PP.ap (q := (b0 + 40)) hP486 (by omega)
  have hz488 : H479.size = b0 + 41 := by omega
  clear hW476 hW472 hP477 hS473 hz478 hz482 hkp483
  refine lv_dup (pc := 68) hx hb dX3_init_68 rfl ?_
  refine rk_TIN (pc := 69) (As := []) (rest := [.ref (b0 + 40), .int (11 : Int32), .ref (b0 + 6)]) (mc := 2) (ms := 25) hx hb hml hown hts hK hS481 (fun q hq => FA_sz rfl q hq) lkX3_34 yn_X4_init (ct_X4_init (G := G) (l := l) (b0 := (b0 + 40)) (sz := H479.size) (by omega)) ⟨Nat.le_of_ble_eq_true rfl, Nat.le_of_ble_eq_true rfl⟩ (fun z h => Or.inr (by have h8 := h.1; omega)) hW480 rfl rfl hl.1 (Nat.le_of_ble_eq_true rfl) dX3_init_69 ⟨Nat.le_of_ble_eq_true rfl, Nat.le_of_ble_eq_true rfl⟩ (fun ov9 H489 locs490 hP491 hkp492 hS493 => ?_)
  obtain ⟨rfl, hW494, hz495⟩ := hP491
  have hW496 := rg_keepA hW484 hkp492 (by intro z h1 h2 h3; have h8 := h3.1; have h9 := h3.2; omega)
  have hW497 := rg_keepA hW485 hkp492 (by intro z h1 h2 h3; have h8 := h3.1; have h9 := h3.2; omega)
  have hP498 := PP.keepA hP486 hkp492 (by omega)
  have hz499 : H489.size = b0 + 43 := by omega
  have ap500 := Ap.cons (x := ((b0 + 40), 3, (shX4 G.2.1), (vc_X4 (b0 + 40)))) (Or.inl (show b0 < (b0 + 40) by omega)) ap467
  have ap501 := Ap.cons (x := ((b0 + 40), 3, (shX4 G.2.1), (vc_X4 (b0 + 40)))) (Or.inl (show (b0 + 6) < (b0 + 40) by omega)) ap468
  have hP502 := PP.cons (hi' := b0 + 43) hW494 hP498 (by omega) (by omega)
  clear hW484 hW485 hP486 hz488 hz495 hkp492 hS481 hW480 ap487 ap467 ap468 hP498 hW494
  refine W.eq (g2 := F0 m 72 ls [.ref (b0 + 40), .int (11 : Int32), .ref (b0 + 6)]) rfl ?_
  refine rk_aastC (pc := 72) hx hb hK hW497 hS493 0 6 (by decide) rfl (Or.inr (by omega)) (fun _ _ _ => rfl) rfl rfl (rk_recv (ci := 4) (C := RX4) (T := TX4) (N := 4) hK (PP.at hP502 0 rfl) 0 (by decide) rfl rfl rfl) dX3_init_72 (fun H503 locs504 hW505 hS506 hz507 hkp508 => ?_)
  have hW505 : rg G (b0 + 6) 1 (fun _ _ _ _ z => some (.inl (G.2.1 6, 12, .inr (.inr (.inr (.inr z)))))) (vq_X3_init_508 b0) H503 := hW505
  have hW509 := rg_keepq hW496 hkp508 (by omega)
  have hP510 := PP.keepq hP502 hkp508 ap501
  have hz511 := hz507.trans hz499
  clear hW497 hW496 hP502 hz499 hz507 hS493 hkp508
  refine lv_iinc (pc := 73) (v := (12 : Int32)) (lv' := [(1, .int (12 : Int32)), (0, .ref b0)]) hx hb dX3_init_73 hl (k := 0) rfl (by decide) (by decide) rfl (fun ls hl => ?_)
  refine lv_goto (pc := 76) (tgt := 54) hx hb dX3_init_76 (by decide) ?_
  refine lv_iload_n (pc := 54) hx hb dX3_init_54 rfl (lv_at hl 0 rfl) ?_
  refine lv_bipush (pc := 55) (v := (12 : Int32)) hx hb dX3_init_55 (by decide) ?_
  refine lv_icmp_ge (pc := 57) (tgt := 79) hx hb dX3_init_57 (by decide) (fun _ => ?_) (fun h => absurd (by decide) h)
  have hA0 : rg G b0 1 (shX3 G.2.1) (mz) H503 := rg_cast hW509 rfl
  have hA512 : rg G b0 2 (shX3 G.2.1) (vf_X3_init_1 b0) H503 := rg_app (k := 1) (n' := 1) hA0 (PP.at hP510 16 rfl) rfl (fun o ho x y z => by have h0 : o = 0 := (by omega); subst h0; rfl)
  have hA513 : rg G b0 3 (shX3 G.2.1) (vf_X3_init_2 b0) H503 := rg_app (k := 2) (n' := 1) hA512 (PP.at hP510 15 rfl) rfl (fun o ho x y z => by have h0 : o = 0 := (by omega); subst h0; rfl)
  have hA514 : rg G b0 4 (shX3 G.2.1) (vf_X3_init_3 b0) H503 := rg_app (k := 3) (n' := 1) hA513 (PP.at hP510 14 rfl) rfl (fun o ho x y z => by have h0 : o = 0 := (by omega); subst h0; rfl)
  have hA515 : rg G b0 5 (shX3 G.2.1) (vf_X3_init_4 b0) H503 := rg_app (k := 4) (n' := 1) hA514 (PP.at hP510 13 rfl) rfl (fun o ho x y z => by have h0 : o = 0 := (by omega); subst h0; rfl)
  have hA516 : rg G b0 6 (shX3 G.2.1) (vf_X3_init_5 b0) H503 := rg_app (k := 5) (n' := 1) hA515 (PP.at hP510 12 rfl) rfl (fun o ho x y z => by have h0 : o = 0 := (by omega); subst h0; rfl)
  have hC518 : rg G (b0 + 6) 1 (fun _ _ _ _ _ => some (.inl (G.2.1 6, 12, .inr (.inr (.inr (.inr (fun j => some (b0 + (7 + 3 * j))))))))) mz H503 := rg_castr hW505 rfl rfl (fun j hj => match j, hj with | 0, _ => rfl | 1, _ => rfl | 2, _ => rfl | 3, _ => rfl | 4, _ => rfl | 5, _ => rfl | 6, _ => rfl | 7, _ => rfl | 8, _ => rfl | 9, _ => rfl | 10, _ => rfl | 11, _ => rfl | n + 12, h => absurd h (by omega))
  have hA517 : rg G b0 7 (shX3 G.2.1) (vf_X3_init_6 b0) H503 := rg_app (k := 6) (n' := 1) hA516 hC518 rfl (fun o ho x y z => by have h0 : o = 0 := (by omega); subst h0; rfl)
  have hA519 : rg G b0 10 (shX3 G.2.1) (vf_X3_init_7 b0) H503 := rg_app (k := 7) (n' := 3) hA517 (PP.at hP510 11 rfl) rfl (fun o ho x y z => shX3_f7 G.2.1 (k := 0) (by decide) _ rfl o ho x y z)
  have hA520 : rg G b0 13 (shX3 G.2.1) (vf_X3_init_10 b0) H503 := rg_app (k := 10) (n' := 3) hA519 (PP.at hP510 10 rfl) rfl (fun o ho x y z => shX3_f7 G.2.1 (k := 1) (by decide) _ rfl o ho x y z)
  have hA521 : rg G b0 16 (shX3 G.2.1) (vf_X3_init_13 b0) H503 := rg_app (k := 13) (n' := 3) hA520 (PP.at hP510 9 rfl) rfl (fun o ho x y z => shX3_f7 G.2.1 (k := 2) (by decide) _ rfl o ho x y z)
  have hA522 : rg G b0 19 (shX3 G.2.1) (vf_X3_init_16 b0) H503 := rg_app (k := 16) (n' := 3) hA521 (PP.at hP510 8 rfl) rfl (fun o ho x y z => shX3_f7 G.2.1 (k := 3) (by decide) _ rfl o ho x y z)
  have hA523 : rg G b0 22 (shX3 G.2.1) (vf_X3_init_19 b0) H503 := rg_app (k := 19) (n' := 3) hA522 (PP.at hP510 7 rfl) rfl (fun o ho x y z => shX3_f7 G.2.1 (k := 4) (by decide) _ rfl o ho x y z)
  have hA524 : rg G b0 25 (shX3 G.2.1) (vf_X3_init_22 b0) H503 := rg_app (k := 22) (n' := 3) hA523 (PP.at hP510 6 rfl) rfl (fun o ho x y z => shX3_f7 G.2.1 (k := 5) (by decide) _ rfl o ho x y z)
  have hA525 : rg G b0 28 (shX3 G.2.1) (vf_X3_init_25 b0) H503 := rg_app (k := 25) (n' := 3) hA524 (PP.at hP510 5 rfl) rfl (fun o ho x y z => shX3_f7 G.2.1 (k := 6) (by decide) _ rfl o ho x y z)
  have hA526 : rg G b0 31 (shX3 G.2.1) (vf_X3_init_28 b0) H503 := rg_app (k := 28) (n' := 3) hA525 (PP.at hP510 4 rfl) rfl (fun o ho x y z => shX3_f7 G.2.1 (k := 7) (by decide) _ rfl o ho x y z)
  have hA527 : rg G b0 34 (shX3 G.2.1) (vf_X3_init_31 b0) H503 := rg_app (k := 31) (n' := 3) hA526 (PP.at hP510 3 rfl) rfl (fun o ho x y z => shX3_f7 G.2.1 (k := 8) (by decide) _ rfl o ho x y z)
  have hA528 : rg G b0 37 (shX3 G.2.1) (vf_X3_init_34 b0) H503 := rg_app (k := 34) (n' := 3) hA527 (PP.at hP510 2 rfl) rfl (fun o ho x y z => shX3_f7 G.2.1 (k := 9) (by decide) _ rfl o ho x y z)
  have hA529 : rg G b0 40 (shX3 G.2.1) (vf_X3_init_37 b0) H503 := rg_app (k := 37) (n' := 3) hA528 (PP.at hP510 1 rfl) rfl (fun o ho x y z => shX3_f7 G.2.1 (k := 10) (by decide) _ rfl o ho x y z)
  have hA530 : rg G b0 43 (shX3 G.2.1) (vf_X3_init_40 b0) H503 := rg_app (k := 40) (n' := 3) hA529 (PP.at hP510 0 rfl) rfl (fun o ho x y z => shX3_f7 G.2.1 (k := 11) (by decide) _ rfl o ho x y z)
  exact rk_vretA (pc := 79) hx hb hr hlk hS506 ⟨rfl, hA530, hz511⟩ dX3_init_79 (Nat.le_of_ble_eq_true rfl) (Nat.le_of_ble_eq_true rfl)
end
