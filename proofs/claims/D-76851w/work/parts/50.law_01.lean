set_option maxRecDepth 100000
section
variable {p : Program} {l : Launch} {e : Env} {s : State} {m : MethodId} {args : Array Value} {below : List Frame} {meth : Method} {c : Code} {G : Gv}
theorem lkL_13 : LV R_law 13 RX0 yX0_size cX0_size 3 (some .int) := ⟨q574, q575, q576, q114, q577⟩
theorem yn_X0_size : YN yX0_size 1 := by
  unfold YN
  decide +kernel
theorem lkL_17 : LV R_law 17 RX9 yX9_size cX9_size 3 (some .int) := ⟨q1915, q1916, q1917, q128, q1918⟩
theorem yn_X9_size : YN yX9_size 1 := by
  unfold YN
  decide +kernel
set_option maxHeartbeats 4000000 in
theorem lc_0 {p : Program} {l : Launch} {e : Env} {s : State} {m : MethodId} {below : List Frame} {meth : Method} {c : Code} {G : Gv} {b L b0 : Nat} {xs : Nat → Int32} {Rel : Mem → Mem → Nat → Mem → Prop} (W0 : LWd G p l s m c b L xs b0) (hOK : LawOK b0 Rel) {i3 : Int32} {H : Heap} {locs : List Loc} {ls : Array Slot} {cells slots : Nat} (hcl : cells + 100 ≤ 1200144) (hsl : slots + 2300 ≤ 5496634) (hin : LIn i3 L) (hI : LInv G Rel s b b0 i3 H locs ls)
    (kk : ∀ (H1 : Heap) (locs1 : List Loc) (ls1 : Array Slot), LInv G Rel s b b0 i3 H1 locs1 ls1 → lwW p l e s m b below meth c H1 locs1 (cells + 100) (slots + 2300) (F0 m 1637 ls1 [])) : lwW p l e s m b below meth c H locs cells slots (F0 m 236 ls []) := by
  obtain ⟨hx, hb, hml, hown, hts, hK, hX, hbl, hb0, hZ, hZX, hZL, hZP, hZN, hZC, hl0, hgB⟩ := id W0
  obtain ⟨vx, vp, vm, hWx, hWp, hWm, hR, hG, hS, hl⟩ := hI
  obtain ⟨h1, h2, h3, h4, h5⟩ := hin
  have hbA : ¬ (fun q : Nat => s.heap.size ≤ q) b := Nat.not_le.mpr hbl
  refine lv_aload_n (pc := 236) hx hb dL_law_236 rfl (lv_at hl 1 rfl) ?_
  refine lv_aload_n (pc := 237) hx hb dL_law_237 rfl (lv_at hl 0 rfl) ?_
  refine lv_iload_n (pc := 238) hx hb dL_law_238 rfl (lv_at hl 3 rfl) ?_
  refine lv_iconst (pc := 239) (v := (1 : Int32)) hx hb dL_law_239 (by decide) ?_
  refine lv_iadd (pc := 240) hx hb dL_law_240 ?_
  refine va_sld (pc := 241) hx hb hX hbl hbA hS h1 dL_law_241 ?_
  obtain ⟨rx, wx, wp, um, hq, hm, hR2⟩ := hOK.1 vx vp H.size vm (xs (i3 + (1 : Int32)).toNatClampNeg) hR
  refine rk_TV (pc := 242) (As := [.int (xs (i3 + (1 : Int32)).toNatClampNeg)]) (rest := []) (mc := 0) (ms := 0) hx hb hml hown hts hK hS (fun q hq => hq) lkL_13 rfl yn_X0_size (ct_X0_size (G := G) (l := l) (b0 := b0) (sz := H.size) hq PLs_X) ⟨Nat.le_of_ble_eq_true rfl, Nat.le_of_ble_eq_true rfl⟩ (fun z h => h.elim (fun h => by have h8 := h.1.1; omega) (fun h => by have h8 := PLs_g (k := s.heap.size) (by omega) z h.1; omega)) (rk_recv hK hWx 0 (by decide) rfl rfl rfl) ⟨hWx, hWp⟩ rfl rfl hl.1 (Nat.le_of_ble_eq_true rfl) dL_law_242 ⟨by show _ ≤ 1200144; omega, by show _ ≤ 5496634; omega⟩ (fun ov9 H1 locs1 hP1 hk1 hS1 => ?_)
  obtain ⟨rfl, hWx1, hWp1, hz1, -⟩ := hP1
  have hWm1 := rg_keepA hWm hk1 (by intro z h1 h2 h3; exact h3.elim (fun h3 => by have h8 := h3.1.1; have h9 := h3.1.2; omega) (fun h3 => by exact PLs_m z h3.1 ⟨h1, h2⟩))
  have hG1 := GO_keepA hG hk1 (by have h8 := hS.1; omega) (by intro z h3; exact h3.elim (fun h3 => by have h8 := h3.1.1; omega) (fun h3 => PLs_g (by omega) z h3.1))
  refine W.eq (g2 := F0 m 245 ls [.int rx]) rfl ?_
  refine lv_aload_n (pc := 245) hx hb dL_law_245 rfl (lv_at hl 2 rfl) ?_
  refine lv_aload_n (pc := 246) hx hb dL_law_246 rfl (lv_at hl 0 rfl) ?_
  refine lv_iload_n (pc := 247) hx hb dL_law_247 rfl (lv_at hl 3 rfl) ?_
  refine lv_iconst (pc := 248) (v := (1 : Int32)) hx hb dL_law_248 (by decide) ?_
  refine lv_iadd (pc := 249) hx hb dL_law_249 ?_
  refine va_sld (pc := 250) hx hb hX hbl hbA hS1 h1 dL_law_250 ?_
  refine rk_TV (pc := 251) (As := [.int (xs (i3 + (1 : Int32)).toNatClampNeg)]) (rest := [.int rx]) (mc := 0) (ms := 0) hx hb hml hown hts hK hS1 (fun q hq => hq) lkL_17 rfl yn_X9_size (ct_X9_size (G := G) (l := l) (b0 := b0 + 357) (sz := H1.size) hm) ⟨Nat.le_of_ble_eq_true rfl, Nat.le_of_ble_eq_true rfl⟩ (fun z h => by have h8 := h.1; omega) (rk_recv hK hWm1 0 (by decide) rfl rfl rfl) hWm1 rfl rfl hl.1 (Nat.le_of_ble_eq_true rfl) dL_law_251 ⟨by show _ ≤ 1200144; omega, by show _ ≤ 5496634; omega⟩ (fun ov8 H2 locs2 hP2 hk2 hS2 => ?_)
  obtain ⟨rfl, hWm2, hz2⟩ := hP2
  have hWx2 := rg_keepX hWx1 hk2 (fun z h0 h3 => by have h8 := h0.1.2; have h9 := h3.1; omega)
  have hWp2 := pl_keepA hWp1 hk2 (fun z h0 h3 => PLs_m z h0 h3)
  have hG2 := GO_keepA hG1 hk2 (by have h8 := hS1.1; omega) (by intro z h3; have h8 := h3.1; omega)
  refine W.eq (g2 := F0 m 254 ls [.int rx, .int rx]) rfl ?_
  refine lv_icmp_eq (pc := 254) (tgt := 1637) hx hb dL_law_254 (by decide) (fun _ => ?_) (fun h => absurd rfl h)
  have hR9 : Rel wx wp H2.size um := by rw [show H2.size = H.size by omega]; exact hR2
  exact rk_widen (by omega) (by omega) (kk H2 locs2 ls ⟨_, _, _, hWx2, hWp2, hWm2, hR9, hG2, hS2, hl⟩)
theorem lkL_18 : LV R_law 18 RX0 yX0_cost cX0_cost 4 (some .int) := ⟨q592, q593, q594, q114, q595⟩
theorem yn_X0_cost : YN yX0_cost 2 := by
  unfold YN
  decide +kernel
theorem lkL_22 : LV R_law 22 RX9 yX9_cost cX9_cost 4 (some .int) := ⟨q1927, q1928, q1929, q128, q1930⟩
theorem yn_X9_cost : YN yX9_cost 2 := by
  unfold YN
  decide +kernel
set_option maxHeartbeats 4000000 in
theorem lc_1 {p : Program} {l : Launch} {e : Env} {s : State} {m : MethodId} {below : List Frame} {meth : Method} {c : Code} {G : Gv} {b L b0 : Nat} {xs : Nat → Int32} {Rel : Mem → Mem → Nat → Mem → Prop} (W0 : LWd G p l s m c b L xs b0) (hOK : LawOK b0 Rel) {i3 : Int32} {H : Heap} {locs : List Loc} {ls : Array Slot} {cells slots : Nat} (hcl : cells + 100 ≤ 1200144) (hsl : slots + 2300 ≤ 5496634) (hin : LIn i3 L) (hI : LInv G Rel s b b0 i3 H locs ls)
    (kk : ∀ (H1 : Heap) (locs1 : List Loc) (ls1 : Array Slot), LInv G Rel s b b0 i3 H1 locs1 ls1 → lwW p l e s m b below meth c H1 locs1 (cells + 100) (slots + 2300) (F0 m 1637 ls1 [])) : lwW p l e s m b below meth c H locs cells slots (F0 m 259 ls []) := by
  obtain ⟨hx, hb, hml, hown, hts, hK, hX, hbl, hb0, hZ, hZX, hZL, hZP, hZN, hZC, hl0, hgB⟩ := id W0
  obtain ⟨vx, vp, vm, hWx, hWp, hWm, hR, hG, hS, hl⟩ := hI
  obtain ⟨h1, h2, h3, h4, h5⟩ := hin
  have hbA : ¬ (fun q : Nat => s.heap.size ≤ q) b := Nat.not_le.mpr hbl
  refine lv_aload_n (pc := 259) hx hb dL_law_259 rfl (lv_at hl 1 rfl) ?_
  refine lv_aload_n (pc := 260) hx hb dL_law_260 rfl (lv_at hl 0 rfl) ?_
  refine lv_iload_n (pc := 261) hx hb dL_law_261 rfl (lv_at hl 3 rfl) ?_
  refine lv_iconst (pc := 262) (v := (1 : Int32)) hx hb dL_law_262 (by decide) ?_
  refine lv_iadd (pc := 263) hx hb dL_law_263 ?_
  refine va_sld (pc := 264) hx hb hX hbl hbA hS h1 dL_law_264 ?_
  refine lv_aload_n (pc := 265) hx hb dL_law_265 rfl (lv_at hl 0 rfl) ?_
  refine lv_iload_n (pc := 266) hx hb dL_law_266 rfl (lv_at hl 3 rfl) ?_
  refine lv_iconst (pc := 267) (v := (2 : Int32)) hx hb dL_law_267 (by decide) ?_
  refine lv_iadd (pc := 268) hx hb dL_law_268 ?_
  refine va_sld (pc := 269) hx hb hX hbl hbA hS h2 dL_law_269 ?_
  obtain ⟨rx, wx, wp, um, hq, hm, hR2⟩ := hOK.2.1 vx vp H.size vm (xs (i3 + (1 : Int32)).toNatClampNeg) (xs (i3 + (2 : Int32)).toNatClampNeg) hR
  refine rk_TV (pc := 270) (As := [.int (xs (i3 + (1 : Int32)).toNatClampNeg), .int (xs (i3 + (2 : Int32)).toNatClampNeg)]) (rest := []) (mc := 0) (ms := 0) hx hb hml hown hts hK hS (fun q hq => hq) lkL_18 rfl yn_X0_cost (ct_X0_cost (G := G) (l := l) (b0 := b0) (sz := H.size) hq PLs_X) ⟨Nat.le_of_ble_eq_true rfl, Nat.le_of_ble_eq_true rfl⟩ (fun z h => h.elim (fun h => by have h8 := h.1.1; omega) (fun h => by have h8 := PLs_g (k := s.heap.size) (by omega) z h.1; omega)) (rk_recv hK hWx 0 (by decide) rfl rfl rfl) ⟨hWx, hWp⟩ rfl rfl hl.1 (Nat.le_of_ble_eq_true rfl) dL_law_270 ⟨by show _ ≤ 1200144; omega, by show _ ≤ 5496634; omega⟩ (fun ov9 H1 locs1 hP1 hk1 hS1 => ?_)
  obtain ⟨rfl, hWx1, hWp1, hz1, -⟩ := hP1
  have hWm1 := rg_keepA hWm hk1 (by intro z h1 h2 h3; exact h3.elim (fun h3 => by have h8 := h3.1.1; have h9 := h3.1.2; omega) (fun h3 => by exact PLs_m z h3.1 ⟨h1, h2⟩))
  have hG1 := GO_keepA hG hk1 (by have h8 := hS.1; omega) (by intro z h3; exact h3.elim (fun h3 => by have h8 := h3.1.1; omega) (fun h3 => PLs_g (by omega) z h3.1))
  refine W.eq (g2 := F0 m 273 ls [.int rx]) rfl ?_
  refine lv_aload_n (pc := 273) hx hb dL_law_273 rfl (lv_at hl 2 rfl) ?_
  refine lv_aload_n (pc := 274) hx hb dL_law_274 rfl (lv_at hl 0 rfl) ?_
  refine lv_iload_n (pc := 275) hx hb dL_law_275 rfl (lv_at hl 3 rfl) ?_
  refine lv_iconst (pc := 276) (v := (1 : Int32)) hx hb dL_law_276 (by decide) ?_
  refine lv_iadd (pc := 277) hx hb dL_law_277 ?_
  refine va_sld (pc := 278) hx hb hX hbl hbA hS1 h1 dL_law_278 ?_
  refine lv_aload_n (pc := 279) hx hb dL_law_279 rfl (lv_at hl 0 rfl) ?_
  refine lv_iload_n (pc := 280) hx hb dL_law_280 rfl (lv_at hl 3 rfl) ?_
  refine lv_iconst (pc := 281) (v := (2 : Int32)) hx hb dL_law_281 (by decide) ?_
  refine lv_iadd (pc := 282) hx hb dL_law_282 ?_
  refine va_sld (pc := 283) hx hb hX hbl hbA hS1 h2 dL_law_283 ?_
  refine rk_TV (pc := 284) (As := [.int (xs (i3 + (1 : Int32)).toNatClampNeg), .int (xs (i3 + (2 : Int32)).toNatClampNeg)]) (rest := [.int rx]) (mc := 0) (ms := 0) hx hb hml hown hts hK hS1 (fun q hq => hq) lkL_22 rfl yn_X9_cost (ct_X9_cost (G := G) (l := l) (b0 := b0 + 357) (sz := H1.size) hm) ⟨Nat.le_of_ble_eq_true rfl, Nat.le_of_ble_eq_true rfl⟩ (fun z h => by have h8 := h.1; omega) (rk_recv hK hWm1 0 (by decide) rfl rfl rfl) hWm1 rfl rfl hl.1 (Nat.le_of_ble_eq_true rfl) dL_law_284 ⟨by show _ ≤ 1200144; omega, by show _ ≤ 5496634; omega⟩ (fun ov8 H2 locs2 hP2 hk2 hS2 => ?_)
  obtain ⟨rfl, hWm2, hz2⟩ := hP2
  have hWx2 := rg_keepX hWx1 hk2 (fun z h0 h3 => by have h8 := h0.1.2; have h9 := h3.1; omega)
  have hWp2 := pl_keepA hWp1 hk2 (fun z h0 h3 => PLs_m z h0 h3)
  have hG2 := GO_keepA hG1 hk2 (by have h8 := hS1.1; omega) (by intro z h3; have h8 := h3.1; omega)
  refine W.eq (g2 := F0 m 287 ls [.int rx, .int rx]) rfl ?_
  refine lv_icmp_eq (pc := 287) (tgt := 1637) hx hb dL_law_287 (by decide) (fun _ => ?_) (fun h => absurd rfl h)
  have hR9 : Rel wx wp H2.size um := by rw [show H2.size = H.size by omega]; exact hR2
  exact rk_widen (by omega) (by omega) (kk H2 locs2 ls ⟨_, _, _, hWx2, hWp2, hWm2, hR9, hG2, hS2, hl⟩)
theorem lkL_23 : LV R_law 23 RX0 yX0_rule cX0_rule 4 (some .int) := ⟨q597, q598, q599, q114, q600⟩
theorem yn_X0_rule : YN yX0_rule 2 := by
  unfold YN
  decide +kernel
theorem lkL_26 : LV R_law 26 RX9 yX9_rule cX9_rule 3 (some .int) := ⟨q1936, q1937, q1938, q128, q1939⟩
theorem yn_X9_rule : YN yX9_rule 2 := by
  unfold YN
  decide +kernel
set_option maxHeartbeats 4000000 in
theorem lc_2 {p : Program} {l : Launch} {e : Env} {s : State} {m : MethodId} {below : List Frame} {meth : Method} {c : Code} {G : Gv} {b L b0 : Nat} {xs : Nat → Int32} {Rel : Mem → Mem → Nat → Mem → Prop} (W0 : LWd G p l s m c b L xs b0) (hOK : LawOK b0 Rel) {i3 : Int32} {H : Heap} {locs : List Loc} {ls : Array Slot} {cells slots : Nat} (hcl : cells + 100 ≤ 1200144) (hsl : slots + 2300 ≤ 5496634) (hin : LIn i3 L) (hI : LInv G Rel s b b0 i3 H locs ls)
    (kk : ∀ (H1 : Heap) (locs1 : List Loc) (ls1 : Array Slot), LInv G Rel s b b0 i3 H1 locs1 ls1 → lwW p l e s m b below meth c H1 locs1 (cells + 100) (slots + 2300) (F0 m 1637 ls1 [])) : lwW p l e s m b below meth c H locs cells slots (F0 m 292 ls []) := by
  obtain ⟨hx, hb, hml, hown, hts, hK, hX, hbl, hb0, hZ, hZX, hZL, hZP, hZN, hZC, hl0, hgB⟩ := id W0
  obtain ⟨vx, vp, vm, hWx, hWp, hWm, hR, hG, hS, hl⟩ := hI
  obtain ⟨h1, h2, h3, h4, h5⟩ := hin
  have hbA : ¬ (fun q : Nat => s.heap.size ≤ q) b := Nat.not_le.mpr hbl
  refine lv_aload_n (pc := 292) hx hb dL_law_292 rfl (lv_at hl 1 rfl) ?_
  refine lv_aload_n (pc := 293) hx hb dL_law_293 rfl (lv_at hl 0 rfl) ?_
  refine lv_iload_n (pc := 294) hx hb dL_law_294 rfl (lv_at hl 3 rfl) ?_
  refine lv_iconst (pc := 295) (v := (1 : Int32)) hx hb dL_law_295 (by decide) ?_
  refine lv_iadd (pc := 296) hx hb dL_law_296 ?_
  refine va_sld (pc := 297) hx hb hX hbl hbA hS h1 dL_law_297 ?_
  refine lv_aload_n (pc := 298) hx hb dL_law_298 rfl (lv_at hl 0 rfl) ?_
  refine lv_iload_n (pc := 299) hx hb dL_law_299 rfl (lv_at hl 3 rfl) ?_
  refine lv_iconst (pc := 300) (v := (2 : Int32)) hx hb dL_law_300 (by decide) ?_
  refine lv_iadd (pc := 301) hx hb dL_law_301 ?_
  refine va_sld (pc := 302) hx hb hX hbl hbA hS h2 dL_law_302 ?_
  obtain ⟨rx, wx, um, hq, hm, hR2⟩ := hOK.2.2.1 vx vp H.size vm (xs (i3 + (1 : Int32)).toNatClampNeg) (xs (i3 + (2 : Int32)).toNatClampNeg) hR
  refine rk_TV (pc := 303) (As := [.int (xs (i3 + (1 : Int32)).toNatClampNeg), .int (xs (i3 + (2 : Int32)).toNatClampNeg)]) (rest := []) (mc := 0) (ms := 0) hx hb hml hown hts hK hS (fun q hq => hq) lkL_23 rfl yn_X0_rule (ct_X0_rule (G := G) (l := l) (b0 := b0) (sz := H.size) hq) ⟨Nat.le_of_ble_eq_true rfl, Nat.le_of_ble_eq_true rfl⟩ (fun z h => by have h8 := h.1.1; omega) (rk_recv hK hWx 0 (by decide) rfl rfl rfl) hWx rfl rfl hl.1 (Nat.le_of_ble_eq_true rfl) dL_law_303 ⟨by show _ ≤ 1200144; omega, by show _ ≤ 5496634; omega⟩ (fun ov9 H1 locs1 hP1 hk1 hS1 => ?_)
  obtain ⟨rfl, hWx1, hz1⟩ := hP1
  have hWp1 := pl_keepA hWp hk1 (fun z h0 h3 => PLs_X z h0 h3)
  have hWm1 := rg_keepA hWm hk1 (by intro z h1 h2 h3; have h8 := h3.1.1; have h9 := h3.1.2; omega)
  have hG1 := GO_keepA hG hk1 (by have h8 := hS.1; omega) (by intro z h3; have h8 := h3.1.1; omega)
  refine W.eq (g2 := F0 m 306 ls [.int rx]) rfl ?_
  refine lv_aload_n (pc := 306) hx hb dL_law_306 rfl (lv_at hl 2 rfl) ?_
  refine lv_aload_n (pc := 307) hx hb dL_law_307 rfl (lv_at hl 0 rfl) ?_
  refine lv_iload_n (pc := 308) hx hb dL_law_308 rfl (lv_at hl 3 rfl) ?_
  refine lv_iconst (pc := 309) (v := (1 : Int32)) hx hb dL_law_309 (by decide) ?_
  refine lv_iadd (pc := 310) hx hb dL_law_310 ?_
  refine va_sld (pc := 311) hx hb hX hbl hbA hS1 h1 dL_law_311 ?_
  refine lv_aload_n (pc := 312) hx hb dL_law_312 rfl (lv_at hl 0 rfl) ?_
  refine lv_iload_n (pc := 313) hx hb dL_law_313 rfl (lv_at hl 3 rfl) ?_
  refine lv_iconst (pc := 314) (v := (2 : Int32)) hx hb dL_law_314 (by decide) ?_
  refine lv_iadd (pc := 315) hx hb dL_law_315 ?_
  refine va_sld (pc := 316) hx hb hX hbl hbA hS1 h2 dL_law_316 ?_
  refine rk_TV (pc := 317) (As := [.int (xs (i3 + (1 : Int32)).toNatClampNeg), .int (xs (i3 + (2 : Int32)).toNatClampNeg)]) (rest := [.int rx]) (mc := 0) (ms := 0) hx hb hml hown hts hK hS1 (fun q hq => hq) lkL_26 rfl yn_X9_rule (ct_X9_rule (G := G) (l := l) (b0 := b0 + 357) (sz := H1.size) hm) ⟨Nat.le_of_ble_eq_true rfl, Nat.le_of_ble_eq_true rfl⟩ (fun z h => by have h8 := h.1; omega) (rk_recv hK hWm1 0 (by decide) rfl rfl rfl) hWm1 rfl rfl hl.1 (Nat.le_of_ble_eq_true rfl) dL_law_317 ⟨by show _ ≤ 1200144; omega, by show _ ≤ 5496634; omega⟩ (fun ov8 H2 locs2 hP2 hk2 hS2 => ?_)
  obtain ⟨rfl, hWm2, hz2⟩ := hP2
  have hWx2 := rg_keepX hWx1 hk2 (fun z h0 h3 => by have h8 := h0.1.2; have h9 := h3.1; omega)
  have hWp2 := pl_keepA hWp1 hk2 (fun z h0 h3 => PLs_m z h0 h3)
  have hG2 := GO_keepA hG1 hk2 (by have h8 := hS1.1; omega) (by intro z h3; have h8 := h3.1; omega)
  refine W.eq (g2 := F0 m 320 ls [.int rx, .int rx]) rfl ?_
  refine lv_icmp_eq (pc := 320) (tgt := 1637) hx hb dL_law_320 (by decide) (fun _ => ?_) (fun h => absurd rfl h)
  have hR9 : Rel wx vp H2.size um := by rw [show H2.size = H.size by omega]; exact hR2
  exact rk_widen (by omega) (by omega) (kk H2 locs2 ls ⟨_, _, _, hWx2, hWp2, hWm2, hR9, hG2, hS2, hl⟩)
theorem lkL_27 : LV R_law 27 RX0 yX0_factor cX0_factor 5 (some .int) := ⟨q611, q612, q613, q114, q614⟩
theorem yn_X0_factor : YN yX0_factor 3 := by
  unfold YN
  decide +kernel
theorem lkL_31 : LV R_law 31 RX9 yX9_factor cX9_factor 5 (some .int) := ⟨q1946, q1947, q1948, q128, q1949⟩
theorem yn_X9_factor : YN yX9_factor 3 := by
  unfold YN
  decide +kernel
set_option maxHeartbeats 4000000 in
theorem lc_3 {p : Program} {l : Launch} {e : Env} {s : State} {m : MethodId} {below : List Frame} {meth : Method} {c : Code} {G : Gv} {b L b0 : Nat} {xs : Nat → Int32} {Rel : Mem → Mem → Nat → Mem → Prop} (W0 : LWd G p l s m c b L xs b0) (hOK : LawOK b0 Rel) {i3 : Int32} {H : Heap} {locs : List Loc} {ls : Array Slot} {cells slots : Nat} (hcl : cells + 100 ≤ 1200144) (hsl : slots + 2300 ≤ 5496634) (hin : LIn i3 L) (hI : LInv G Rel s b b0 i3 H locs ls)
    (kk : ∀ (H1 : Heap) (locs1 : List Loc) (ls1 : Array Slot), LInv G Rel s b b0 i3 H1 locs1 ls1 → lwW p l e s m b below meth c H1 locs1 (cells + 100) (slots + 2300) (F0 m 1637 ls1 [])) : lwW p l e s m b below meth c H locs cells slots (F0 m 325 ls []) := by
  obtain ⟨hx, hb, hml, hown, hts, hK, hX, hbl, hb0, hZ, hZX, hZL, hZP, hZN, hZC, hl0, hgB⟩ := id W0
  obtain ⟨vx, vp, vm, hWx, hWp, hWm, hR, hG, hS, hl⟩ := hI
  obtain ⟨h1, h2, h3, h4, h5⟩ := hin
  have hbA : ¬ (fun q : Nat => s.heap.size ≤ q) b := Nat.not_le.mpr hbl
  refine lv_aload_n (pc := 325) hx hb dL_law_325 rfl (lv_at hl 1 rfl) ?_
  refine lv_aload_n (pc := 326) hx hb dL_law_326 rfl (lv_at hl 0 rfl) ?_
  refine lv_iload_n (pc := 327) hx hb dL_law_327 rfl (lv_at hl 3 rfl) ?_
  refine lv_iconst (pc := 328) (v := (1 : Int32)) hx hb dL_law_328 (by decide) ?_
  refine lv_iadd (pc := 329) hx hb dL_law_329 ?_
  refine va_sld (pc := 330) hx hb hX hbl hbA hS h1 dL_law_330 ?_
  refine lv_aload_n (pc := 331) hx hb dL_law_331 rfl (lv_at hl 0 rfl) ?_
  refine lv_iload_n (pc := 332) hx hb dL_law_332 rfl (lv_at hl 3 rfl) ?_
  refine lv_iconst (pc := 333) (v := (2 : Int32)) hx hb dL_law_333 (by decide) ?_
  refine lv_iadd (pc := 334) hx hb dL_law_334 ?_
  refine va_sld (pc := 335) hx hb hX hbl hbA hS h2 dL_law_335 ?_
  refine lv_aload_n (pc := 336) hx hb dL_law_336 rfl (lv_at hl 0 rfl) ?_
  refine lv_iload_n (pc := 337) hx hb dL_law_337 rfl (lv_at hl 3 rfl) ?_
  refine lv_iconst (pc := 338) (v := (3 : Int32)) hx hb dL_law_338 (by decide) ?_
  refine lv_iadd (pc := 339) hx hb dL_law_339 ?_
  refine va_sld (pc := 340) hx hb hX hbl hbA hS h3 dL_law_340 ?_
  obtain ⟨rx, wx, um, hq, hm, hR2⟩ := hOK.2.2.2.1 vx vp H.size vm (xs (i3 + (1 : Int32)).toNatClampNeg) (xs (i3 + (2 : Int32)).toNatClampNeg) (xs (i3 + (3 : Int32)).toNatClampNeg) hR
  refine rk_TV (pc := 341) (As := [.int (xs (i3 + (1 : Int32)).toNatClampNeg), .int (xs (i3 + (2 : Int32)).toNatClampNeg), .int (xs (i3 + (3 : Int32)).toNatClampNeg)]) (rest := []) (mc := 0) (ms := 0) hx hb hml hown hts hK hS (fun q hq => hq) lkL_27 rfl yn_X0_factor (ct_X0_factor (G := G) (l := l) (b0 := b0) (sz := H.size) hq) ⟨Nat.le_of_ble_eq_true rfl, Nat.le_of_ble_eq_true rfl⟩ (fun z h => by have h8 := h.1.1; omega) (rk_recv hK hWx 0 (by decide) rfl rfl rfl) hWx rfl rfl hl.1 (Nat.le_of_ble_eq_true rfl) dL_law_341 ⟨by show _ ≤ 1200144; omega, by show _ ≤ 5496634; omega⟩ (fun ov9 H1 locs1 hP1 hk1 hS1 => ?_)
  obtain ⟨rfl, hWx1, hz1⟩ := hP1
  have hWp1 := pl_keepA hWp hk1 (fun z h0 h3 => PLs_X z h0 h3)
  have hWm1 := rg_keepA hWm hk1 (by intro z h1 h2 h3; have h8 := h3.1.1; have h9 := h3.1.2; omega)
  have hG1 := GO_keepA hG hk1 (by have h8 := hS.1; omega) (by intro z h3; have h8 := h3.1.1; omega)
  refine W.eq (g2 := F0 m 344 ls [.int rx]) rfl ?_
  refine lv_aload_n (pc := 344) hx hb dL_law_344 rfl (lv_at hl 2 rfl) ?_
  refine lv_aload_n (pc := 345) hx hb dL_law_345 rfl (lv_at hl 0 rfl) ?_
  refine lv_iload_n (pc := 346) hx hb dL_law_346 rfl (lv_at hl 3 rfl) ?_
  refine lv_iconst (pc := 347) (v := (1 : Int32)) hx hb dL_law_347 (by decide) ?_
  refine lv_iadd (pc := 348) hx hb dL_law_348 ?_
  refine va_sld (pc := 349) hx hb hX hbl hbA hS1 h1 dL_law_349 ?_
  refine lv_aload_n (pc := 350) hx hb dL_law_350 rfl (lv_at hl 0 rfl) ?_
  refine lv_iload_n (pc := 351) hx hb dL_law_351 rfl (lv_at hl 3 rfl) ?_
  refine lv_iconst (pc := 352) (v := (2 : Int32)) hx hb dL_law_352 (by decide) ?_
  refine lv_iadd (pc := 353) hx hb dL_law_353 ?_
  refine va_sld (pc := 354) hx hb hX hbl hbA hS1 h2 dL_law_354 ?_
  refine lv_aload_n (pc := 355) hx hb dL_law_355 rfl (lv_at hl 0 rfl) ?_
  refine lv_iload_n (pc := 356) hx hb dL_law_356 rfl (lv_at hl 3 rfl) ?_
  refine lv_iconst (pc := 357) (v := (3 : Int32)) hx hb dL_law_357 (by decide) ?_
  refine lv_iadd (pc := 358) hx hb dL_law_358 ?_
  refine va_sld (pc := 359) hx hb hX hbl hbA hS1 h3 dL_law_359 ?_
  refine rk_TV (pc := 360) (As := [.int (xs (i3 + (1 : Int32)).toNatClampNeg), .int (xs (i3 + (2 : Int32)).toNatClampNeg), .int (xs (i3 + (3 : Int32)).toNatClampNeg)]) (rest := [.int rx]) (mc := 0) (ms := 0) hx hb hml hown hts hK hS1 (fun q hq => hq) lkL_31 rfl yn_X9_factor (ct_X9_factor (G := G) (l := l) (b0 := b0 + 357) (sz := H1.size) hm) ⟨Nat.le_of_ble_eq_true rfl, Nat.le_of_ble_eq_true rfl⟩ (fun z h => by have h8 := h.1; omega) (rk_recv hK hWm1 0 (by decide) rfl rfl rfl) hWm1 rfl rfl hl.1 (Nat.le_of_ble_eq_true rfl) dL_law_360 ⟨by show _ ≤ 1200144; omega, by show _ ≤ 5496634; omega⟩ (fun ov8 H2 locs2 hP2 hk2 hS2 => ?_)
  obtain ⟨rfl, hWm2, hz2⟩ := hP2
  have hWx2 := rg_keepX hWx1 hk2 (fun z h0 h3 => by have h8 := h0.1.2; have h9 := h3.1; omega)
  have hWp2 := pl_keepA hWp1 hk2 (fun z h0 h3 => PLs_m z h0 h3)
  have hG2 := GO_keepA hG1 hk2 (by have h8 := hS1.1; omega) (by intro z h3; have h8 := h3.1; omega)
  refine W.eq (g2 := F0 m 363 ls [.int rx, .int rx]) rfl ?_
  refine lv_icmp_eq (pc := 363) (tgt := 1637) hx hb dL_law_363 (by decide) (fun _ => ?_) (fun h => absurd rfl h)
  have hR9 : Rel wx vp H2.size um := by rw [show H2.size = H.size by omega]; exact hR2
  exact rk_widen (by omega) (by omega) (kk H2 locs2 ls ⟨_, _, _, hWx2, hWp2, hWm2, hR9, hG2, hS2, hl⟩)
theorem lkL_32 : LV R_law 32 RX0 yX0_bound cX0_bound 4 (some .int) := ⟨q617, q618, q619, q114, q620⟩
theorem yn_X0_bound : YN yX0_bound 2 := by
  unfold YN
  decide +kernel
theorem lkL_35 : LV R_law 35 RX9 yX9_bound cX9_bound 4 (some .int) := ⟨q1960, q1961, q1962, q128, q1963⟩
theorem yn_X9_bound : YN yX9_bound 2 := by
  unfold YN
  decide +kernel
set_option maxHeartbeats 4000000 in
theorem lc_4 {p : Program} {l : Launch} {e : Env} {s : State} {m : MethodId} {below : List Frame} {meth : Method} {c : Code} {G : Gv} {b L b0 : Nat} {xs : Nat → Int32} {Rel : Mem → Mem → Nat → Mem → Prop} (W0 : LWd G p l s m c b L xs b0) (hOK : LawOK b0 Rel) {i3 : Int32} {H : Heap} {locs : List Loc} {ls : Array Slot} {cells slots : Nat} (hcl : cells + 100 ≤ 1200144) (hsl : slots + 2300 ≤ 5496634) (hin : LIn i3 L) (hI : LInv G Rel s b b0 i3 H locs ls)
    (kk : ∀ (H1 : Heap) (locs1 : List Loc) (ls1 : Array Slot), LInv G Rel s b b0 i3 H1 locs1 ls1 → lwW p l e s m b below meth c H1 locs1 (cells + 100) (slots + 2300) (F0 m 1637 ls1 [])) : lwW p l e s m b below meth c H locs cells slots (F0 m 368 ls []) := by
  obtain ⟨hx, hb, hml, hown, hts, hK, hX, hbl, hb0, hZ, hZX, hZL, hZP, hZN, hZC, hl0, hgB⟩ := id W0
  obtain ⟨vx, vp, vm, hWx, hWp, hWm, hR, hG, hS, hl⟩ := hI
  obtain ⟨h1, h2, h3, h4, h5⟩ := hin
  have hbA : ¬ (fun q : Nat => s.heap.size ≤ q) b := Nat.not_le.mpr hbl
  refine lv_aload_n (pc := 368) hx hb dL_law_368 rfl (lv_at hl 1 rfl) ?_
  refine lv_aload_n (pc := 369) hx hb dL_law_369 rfl (lv_at hl 0 rfl) ?_
  refine lv_iload_n (pc := 370) hx hb dL_law_370 rfl (lv_at hl 3 rfl) ?_
  refine lv_iconst (pc := 371) (v := (1 : Int32)) hx hb dL_law_371 (by decide) ?_
  refine lv_iadd (pc := 372) hx hb dL_law_372 ?_
  refine va_sld (pc := 373) hx hb hX hbl hbA hS h1 dL_law_373 ?_
  refine lv_aload_n (pc := 374) hx hb dL_law_374 rfl (lv_at hl 0 rfl) ?_
  refine lv_iload_n (pc := 375) hx hb dL_law_375 rfl (lv_at hl 3 rfl) ?_
  refine lv_iconst (pc := 376) (v := (2 : Int32)) hx hb dL_law_376 (by decide) ?_
  refine lv_iadd (pc := 377) hx hb dL_law_377 ?_
  refine va_sld (pc := 378) hx hb hX hbl hbA hS h2 dL_law_378 ?_
  obtain ⟨rx, wx, um, hq, hm, hR2⟩ := hOK.2.2.2.2.1 vx vp H.size vm (xs (i3 + (1 : Int32)).toNatClampNeg) (xs (i3 + (2 : Int32)).toNatClampNeg) hR
  refine rk_TV (pc := 379) (As := [.int (xs (i3 + (1 : Int32)).toNatClampNeg), .int (xs (i3 + (2 : Int32)).toNatClampNeg)]) (rest := []) (mc := 0) (ms := 0) hx hb hml hown hts hK hS (fun q hq => hq) lkL_32 rfl yn_X0_bound (ct_X0_bound (G := G) (l := l) (b0 := b0) (sz := H.size) hq) ⟨Nat.le_of_ble_eq_true rfl, Nat.le_of_ble_eq_true rfl⟩ (fun z h => by have h8 := h.1.1; omega) (rk_recv hK hWx 0 (by decide) rfl rfl rfl) hWx rfl rfl hl.1 (Nat.le_of_ble_eq_true rfl) dL_law_379 ⟨by show _ ≤ 1200144; omega, by show _ ≤ 5496634; omega⟩ (fun ov9 H1 locs1 hP1 hk1 hS1 => ?_)
  obtain ⟨rfl, hWx1, hz1⟩ := hP1
  have hWp1 := pl_keepA hWp hk1 (fun z h0 h3 => PLs_X z h0 h3)
  have hWm1 := rg_keepA hWm hk1 (by intro z h1 h2 h3; have h8 := h3.1.1; have h9 := h3.1.2; omega)
  have hG1 := GO_keepA hG hk1 (by have h8 := hS.1; omega) (by intro z h3; have h8 := h3.1.1; omega)
  refine W.eq (g2 := F0 m 382 ls [.int rx]) rfl ?_
  refine lv_aload_n (pc := 382) hx hb dL_law_382 rfl (lv_at hl 2 rfl) ?_
  refine lv_aload_n (pc := 383) hx hb dL_law_383 rfl (lv_at hl 0 rfl) ?_
  refine lv_iload_n (pc := 384) hx hb dL_law_384 rfl (lv_at hl 3 rfl) ?_
  refine lv_iconst (pc := 385) (v := (1 : Int32)) hx hb dL_law_385 (by decide) ?_
  refine lv_iadd (pc := 386) hx hb dL_law_386 ?_
  refine va_sld (pc := 387) hx hb hX hbl hbA hS1 h1 dL_law_387 ?_
  refine lv_aload_n (pc := 388) hx hb dL_law_388 rfl (lv_at hl 0 rfl) ?_
  refine lv_iload_n (pc := 389) hx hb dL_law_389 rfl (lv_at hl 3 rfl) ?_
  refine lv_iconst (pc := 390) (v := (2 : Int32)) hx hb dL_law_390 (by decide) ?_
  refine lv_iadd (pc := 391) hx hb dL_law_391 ?_
  refine va_sld (pc := 392) hx hb hX hbl hbA hS1 h2 dL_law_392 ?_
  refine rk_TV (pc := 393) (As := [.int (xs (i3 + (1 : Int32)).toNatClampNeg), .int (xs (i3 + (2 : Int32)).toNatClampNeg)]) (rest := [.int rx]) (mc := 0) (ms := 0) hx hb hml hown hts hK hS1 (fun q hq => hq) lkL_35 rfl yn_X9_bound (ct_X9_bound (G := G) (l := l) (b0 := b0 + 357) (sz := H1.size) hm) ⟨Nat.le_of_ble_eq_true rfl, Nat.le_of_ble_eq_true rfl⟩ (fun z h => by have h8 := h.1; omega) (rk_recv hK hWm1 0 (by decide) rfl rfl rfl) hWm1 rfl rfl hl.1 (Nat.le_of_ble_eq_true rfl) dL_law_393 ⟨by show _ ≤ 1200144; omega, by show _ ≤ 5496634; omega⟩ (fun ov8 H2 locs2 hP2 hk2 hS2 => ?_)
  obtain ⟨rfl, hWm2, hz2⟩ := hP2
  have hWx2 := rg_keepX hWx1 hk2 (fun z h0 h3 => by have h8 := h0.1.2; have h9 := h3.1; omega)
  have hWp2 := pl_keepA hWp1 hk2 (fun z h0 h3 => PLs_m z h0 h3)
  have hG2 := GO_keepA hG1 hk2 (by have h8 := hS1.1; omega) (by intro z h3; have h8 := h3.1; omega)
  refine W.eq (g2 := F0 m 396 ls [.int rx, .int rx]) rfl ?_
  refine lv_icmp_eq (pc := 396) (tgt := 1637) hx hb dL_law_396 (by decide) (fun _ => ?_) (fun h => absurd rfl h)
  have hR9 : Rel wx vp H2.size um := by rw [show H2.size = H.size by omega]; exact hR2
  exact rk_widen (by omega) (by omega) (kk H2 locs2 ls ⟨_, _, _, hWx2, hWp2, hWm2, hR9, hG2, hS2, hl⟩)
theorem lkL_36 : LV R_law 36 RX0 yX0_less cX0_less 1 (some .int) := ⟨q621, q622, q623, q114, q624⟩
theorem yn_X0_less : YN yX0_less 0 := by
  unfold YN
  decide +kernel
theorem lkL_40 : LV R_law 40 RX9 yX9_less cX9_less 1 (some .int) := ⟨q1968, q1969, q1970, q128, q1971⟩
theorem yn_X9_less : YN yX9_less 0 := by
  unfold YN
  decide +kernel
set_option maxHeartbeats 4000000 in
theorem lc_5 {p : Program} {l : Launch} {e : Env} {s : State} {m : MethodId} {below : List Frame} {meth : Method} {c : Code} {G : Gv} {b L b0 : Nat} {xs : Nat → Int32} {Rel : Mem → Mem → Nat → Mem → Prop} (W0 : LWd G p l s m c b L xs b0) (hOK : LawOK b0 Rel) {i3 : Int32} {H : Heap} {locs : List Loc} {ls : Array Slot} {cells slots : Nat} (hcl : cells + 100 ≤ 1200144) (hsl : slots + 2300 ≤ 5496634) (hin : LIn i3 L) (hI : LInv G Rel s b b0 i3 H locs ls)
    (kk : ∀ (H1 : Heap) (locs1 : List Loc) (ls1 : Array Slot), LInv G Rel s b b0 i3 H1 locs1 ls1 → lwW p l e s m b below meth c H1 locs1 (cells + 100) (slots + 2300) (F0 m 1637 ls1 [])) : lwW p l e s m b below meth c H locs cells slots (F0 m 401 ls []) := by
  obtain ⟨hx, hb, hml, hown, hts, hK, hX, hbl, hb0, hZ, hZX, hZL, hZP, hZN, hZC, hl0, hgB⟩ := id W0
  obtain ⟨vx, vp, vm, hWx, hWp, hWm, hR, hG, hS, hl⟩ := hI
  obtain ⟨h1, h2, h3, h4, h5⟩ := hin
  have hbA : ¬ (fun q : Nat => s.heap.size ≤ q) b := Nat.not_le.mpr hbl
  refine lv_aload_n (pc := 401) hx hb dL_law_401 rfl (lv_at hl 1 rfl) ?_
  obtain ⟨rx, wx, um, hq, hm, hR2⟩ := hOK.2.2.2.2.2.1 vx vp H.size vm  hR
  refine rk_TV (pc := 402) (As := []) (rest := []) (mc := 0) (ms := 0) hx hb hml hown hts hK hS (fun q hq => hq) lkL_36 rfl yn_X0_less (ct_X0_less (G := G) (l := l) (b0 := b0) (sz := H.size) hq) ⟨Nat.le_of_ble_eq_true rfl, Nat.le_of_ble_eq_true rfl⟩ (fun z h => by have h8 := h.1.1; omega) (rk_recv hK hWx 0 (by decide) rfl rfl rfl) hWx rfl rfl hl.1 (Nat.le_of_ble_eq_true rfl) dL_law_402 ⟨by show _ ≤ 1200144; omega, by show _ ≤ 5496634; omega⟩ (fun ov9 H1 locs1 hP1 hk1 hS1 => ?_)
  obtain ⟨rfl, hWx1, hz1⟩ := hP1
  have hWp1 := pl_keepA hWp hk1 (fun z h0 h3 => PLs_X z h0 h3)
  have hWm1 := rg_keepA hWm hk1 (by intro z h1 h2 h3; have h8 := h3.1.1; have h9 := h3.1.2; omega)
  have hG1 := GO_keepA hG hk1 (by have h8 := hS.1; omega) (by intro z h3; have h8 := h3.1.1; omega)
  refine W.eq (g2 := F0 m 405 ls [.int rx]) rfl ?_
  refine lv_aload_n (pc := 405) hx hb dL_law_405 rfl (lv_at hl 2 rfl) ?_
  refine rk_TV (pc := 406) (As := []) (rest := [.int rx]) (mc := 0) (ms := 0) hx hb hml hown hts hK hS1 (fun q hq => hq) lkL_40 rfl yn_X9_less (ct_X9_less (G := G) (l := l) (b0 := b0 + 357) (sz := H1.size) hm) ⟨Nat.le_of_ble_eq_true rfl, Nat.le_of_ble_eq_true rfl⟩ (fun z h => by have h8 := h.1; omega) (rk_recv hK hWm1 0 (by decide) rfl rfl rfl) hWm1 rfl rfl hl.1 (Nat.le_of_ble_eq_true rfl) dL_law_406 ⟨by show _ ≤ 1200144; omega, by show _ ≤ 5496634; omega⟩ (fun ov8 H2 locs2 hP2 hk2 hS2 => ?_)
  obtain ⟨rfl, hWm2, hz2⟩ := hP2
  have hWx2 := rg_keepX hWx1 hk2 (fun z h0 h3 => by have h8 := h0.1.2; have h9 := h3.1; omega)
  have hWp2 := pl_keepA hWp1 hk2 (fun z h0 h3 => PLs_m z h0 h3)
  have hG2 := GO_keepA hG1 hk2 (by have h8 := hS1.1; omega) (by intro z h3; have h8 := h3.1; omega)
  refine W.eq (g2 := F0 m 409 ls [.int rx, .int rx]) rfl ?_
  refine lv_icmp_eq (pc := 409) (tgt := 1637) hx hb dL_law_409 (by decide) (fun _ => ?_) (fun h => absurd rfl h)
  have hR9 : Rel wx vp H2.size um := by rw [show H2.size = H.size by omega]; exact hR2
  exact rk_widen (by omega) (by omega) (kk H2 locs2 ls ⟨_, _, _, hWx2, hWp2, hWm2, hR9, hG2, hS2, hl⟩)
theorem lkL_41 : LV R_law 41 RX0 yX0_feed cX0_feed 2 (some .int) := ⟨q625, q626, q627, q114, q628⟩
theorem yn_X0_feed : YN yX0_feed 1 := by
  unfold YN
  decide +kernel
theorem lkL_44 : LV R_law 44 RX9 yX9_feed cX9_feed 2 (some .int) := ⟨q1976, q1977, q1978, q128, q1979⟩
theorem yn_X9_feed : YN yX9_feed 1 := by
  unfold YN
  decide +kernel
set_option maxHeartbeats 4000000 in
theorem lc_6 {p : Program} {l : Launch} {e : Env} {s : State} {m : MethodId} {below : List Frame} {meth : Method} {c : Code} {G : Gv} {b L b0 : Nat} {xs : Nat → Int32} {Rel : Mem → Mem → Nat → Mem → Prop} (W0 : LWd G p l s m c b L xs b0) (hOK : LawOK b0 Rel) {i3 : Int32} {H : Heap} {locs : List Loc} {ls : Array Slot} {cells slots : Nat} (hcl : cells + 100 ≤ 1200144) (hsl : slots + 2300 ≤ 5496634) (hin : LIn i3 L) (hI : LInv G Rel s b b0 i3 H locs ls)
    (kk : ∀ (H1 : Heap) (locs1 : List Loc) (ls1 : Array Slot), LInv G Rel s b b0 i3 H1 locs1 ls1 → lwW p l e s m b below meth c H1 locs1 (cells + 100) (slots + 2300) (F0 m 1637 ls1 [])) : lwW p l e s m b below meth c H locs cells slots (F0 m 414 ls []) := by
  obtain ⟨hx, hb, hml, hown, hts, hK, hX, hbl, hb0, hZ, hZX, hZL, hZP, hZN, hZC, hl0, hgB⟩ := id W0
  obtain ⟨vx, vp, vm, hWx, hWp, hWm, hR, hG, hS, hl⟩ := hI
  obtain ⟨h1, h2, h3, h4, h5⟩ := hin
  have hbA : ¬ (fun q : Nat => s.heap.size ≤ q) b := Nat.not_le.mpr hbl
  refine lv_aload_n (pc := 414) hx hb dL_law_414 rfl (lv_at hl 1 rfl) ?_
  refine lv_aload_n (pc := 415) hx hb dL_law_415 rfl (lv_at hl 0 rfl) ?_
  refine lv_iload_n (pc := 416) hx hb dL_law_416 rfl (lv_at hl 3 rfl) ?_
  refine lv_iconst (pc := 417) (v := (1 : Int32)) hx hb dL_law_417 (by decide) ?_
  refine lv_iadd (pc := 418) hx hb dL_law_418 ?_
  refine va_sld (pc := 419) hx hb hX hbl hbA hS h1 dL_law_419 ?_
  obtain ⟨rx, wx, um, hq, hm, hR2⟩ := hOK.2.2.2.2.2.2.1 vx vp H.size vm (xs (i3 + (1 : Int32)).toNatClampNeg) hR
  refine rk_TV (pc := 420) (As := [.int (xs (i3 + (1 : Int32)).toNatClampNeg)]) (rest := []) (mc := 0) (ms := 0) hx hb hml hown hts hK hS (fun q hq => hq) lkL_41 rfl yn_X0_feed (ct_X0_feed (G := G) (l := l) (b0 := b0) (sz := H.size) hq) ⟨Nat.le_of_ble_eq_true rfl, Nat.le_of_ble_eq_true rfl⟩ (fun z h => by have h8 := h.1.1; omega) (rk_recv hK hWx 0 (by decide) rfl rfl rfl) hWx rfl rfl hl.1 (Nat.le_of_ble_eq_true rfl) dL_law_420 ⟨by show _ ≤ 1200144; omega, by show _ ≤ 5496634; omega⟩ (fun ov9 H1 locs1 hP1 hk1 hS1 => ?_)
  obtain ⟨rfl, hWx1, hz1⟩ := hP1
  have hWp1 := pl_keepA hWp hk1 (fun z h0 h3 => PLs_X z h0 h3)
  have hWm1 := rg_keepA hWm hk1 (by intro z h1 h2 h3; have h8 := h3.1.1; have h9 := h3.1.2; omega)
  have hG1 := GO_keepA hG hk1 (by have h8 := hS.1; omega) (by intro z h3; have h8 := h3.1.1; omega)
  refine W.eq (g2 := F0 m 423 ls [.int rx]) rfl ?_
  refine lv_aload_n (pc := 423) hx hb dL_law_423 rfl (lv_at hl 2 rfl) ?_
  refine lv_aload_n (pc := 424) hx hb dL_law_424 rfl (lv_at hl 0 rfl) ?_
  refine lv_iload_n (pc := 425) hx hb dL_law_425 rfl (lv_at hl 3 rfl) ?_
  refine lv_iconst (pc := 426) (v := (1 : Int32)) hx hb dL_law_426 (by decide) ?_
  refine lv_iadd (pc := 427) hx hb dL_law_427 ?_
  refine va_sld (pc := 428) hx hb hX hbl hbA hS1 h1 dL_law_428 ?_
  refine rk_TV (pc := 429) (As := [.int (xs (i3 + (1 : Int32)).toNatClampNeg)]) (rest := [.int rx]) (mc := 0) (ms := 0) hx hb hml hown hts hK hS1 (fun q hq => hq) lkL_44 rfl yn_X9_feed (ct_X9_feed (G := G) (l := l) (b0 := b0 + 357) (sz := H1.size) hm) ⟨Nat.le_of_ble_eq_true rfl, Nat.le_of_ble_eq_true rfl⟩ (fun z h => by have h8 := h.1; omega) (rk_recv hK hWm1 0 (by decide) rfl rfl rfl) hWm1 rfl rfl hl.1 (Nat.le_of_ble_eq_true rfl) dL_law_429 ⟨by show _ ≤ 1200144; omega, by show _ ≤ 5496634; omega⟩ (fun ov8 H2 locs2 hP2 hk2 hS2 => ?_)
  obtain ⟨rfl, hWm2, hz2⟩ := hP2
  have hWx2 := rg_keepX hWx1 hk2 (fun z h0 h3 => by have h8 := h0.1.2; have h9 := h3.1; omega)
  have hWp2 := pl_keepA hWp1 hk2 (fun z h0 h3 => PLs_m z h0 h3)
  have hG2 := GO_keepA hG1 hk2 (by have h8 := hS1.1; omega) (by intro z h3; have h8 := h3.1; omega)
  refine W.eq (g2 := F0 m 432 ls [.int rx, .int rx]) rfl ?_
  refine lv_icmp_eq (pc := 432) (tgt := 1637) hx hb dL_law_432 (by decide) (fun _ => ?_) (fun h => absurd rfl h)
  have hR9 : Rel wx vp H2.size um := by rw [show H2.size = H.size by omega]; exact hR2
  exact rk_widen (by omega) (by omega) (kk H2 locs2 ls ⟨_, _, _, hWx2, hWp2, hWm2, hR9, hG2, hS2, hl⟩)
theorem lkL_45 : LVW R_law 45 RX0 yX0_read cX0_read 5 (some .int) [(9, 33, 109, 210), (40, 102, 109, 210), (9, 33, 125, 0), (40, 102, 125, 0), (109, 118, 125, 0), (125, 127, 125, 0)] := ⟨q630, q631, q632, q114, q633⟩
theorem yn_X0_read : YN yX0_read 0 := by
  unfold YN
  decide +kernel
theorem lkL_48 : LV R_law 48 RX9 yX9_read cX9_read 4 (some .int) := ⟨q1981, q1982, q1983, q128, q1984⟩
theorem yn_X9_read : YN yX9_read 0 := by
  unfold YN
  decide +kernel
set_option maxHeartbeats 4000000 in
theorem lc_7 {p : Program} {l : Launch} {e : Env} {s : State} {m : MethodId} {below : List Frame} {meth : Method} {c : Code} {G : Gv} {b L b0 : Nat} {xs : Nat → Int32} {Rel : Mem → Mem → Nat → Mem → Prop} (W0 : LWd G p l s m c b L xs b0) (hOK : LawOK b0 Rel) {i3 : Int32} {H : Heap} {locs : List Loc} {ls : Array Slot} {cells slots : Nat} (hcl : cells + 100 ≤ 1200144) (hsl : slots + 2300 ≤ 5496634) (hin : LIn i3 L) (hI : LInv G Rel s b b0 i3 H locs ls)
    (kk : ∀ (H1 : Heap) (locs1 : List Loc) (ls1 : Array Slot), LInv G Rel s b b0 i3 H1 locs1 ls1 → lwW p l e s m b below meth c H1 locs1 (cells + 100) (slots + 2300) (F0 m 1637 ls1 [])) : lwW p l e s m b below meth c H locs cells slots (F0 m 437 ls []) := by
  obtain ⟨hx, hb, hml, hown, hts, hK, hX, hbl, hb0, hZ, hZX, hZL, hZP, hZN, hZC, hl0, hgB⟩ := id W0
  obtain ⟨vx, vp, vm, hWx, hWp, hWm, hR, hG, hS, hl⟩ := hI
  obtain ⟨h1, h2, h3, h4, h5⟩ := hin
  have hbA : ¬ (fun q : Nat => s.heap.size ≤ q) b := Nat.not_le.mpr hbl
  refine lv_aload_n (pc := 437) hx hb dL_law_437 rfl (lv_at hl 1 rfl) ?_
  obtain ⟨rx, rc, wx, wr, um, hq, hm, hR2⟩ := hOK.2.2.2.2.2.2.2.1 vx vp H.size vm  hR
  refine rk_TVW (pc := 438) (As := []) (rest := []) (mc := 11) (ms := 47) hx hb hml hown hts hK hS (fun q hq => hq) lkL_45 rfl yn_X0_read (ct_X0_read (G := G) (l := l) (b0 := b0) (sz := H.size) hq hZ (by omega)) ⟨Nat.le_of_ble_eq_true rfl, Nat.le_of_ble_eq_true rfl⟩ (fun z h => by have h8 := h.1.1; omega) (rk_recv hK hWx 0 (by decide) rfl rfl rfl) ⟨hWx, hG⟩ rfl rfl hl.1 (Nat.le_of_ble_eq_true rfl) dL_law_438 ⟨by show _ ≤ 1200144; omega, by show _ ≤ 5496634; omega⟩ (fun ov9 H1 locs1 hP1 hk1 hS1 => ?_)
  obtain ⟨rfl, hWx1, hz1⟩ := hP1
  have hWp1 := pl_keepA hWp hk1 (fun z h0 h3 => PLs_X z h0 h3)
  have hWm1 := rg_keepA hWm hk1 (by intro z h1 h2 h3; have h8 := h3.1.1; have h9 := h3.1.2; omega)
  have hG1 := GO_keepA hG hk1 (by have h8 := hS.1; omega) (by intro z h3; have h8 := h3.1.1; omega)
  refine W.eq (g2 := F0 m 441 ls [.int rx]) rfl ?_
  refine lv_aload_n (pc := 441) hx hb dL_law_441 rfl (lv_at hl 2 rfl) ?_
  refine rk_TV (pc := 442) (As := []) (rest := [.int rx]) (mc := 0) (ms := 0) hx hb hml hown hts hK hS1 (fun q hq => hq) lkL_48 rfl yn_X9_read (ct_X9_read (G := G) (l := l) (b0 := b0 + 357) (sz := H1.size) hm) ⟨Nat.le_of_ble_eq_true rfl, Nat.le_of_ble_eq_true rfl⟩ (fun z h => by have h8 := h.1; omega) (rk_recv hK hWm1 0 (by decide) rfl rfl rfl) hWm1 rfl rfl hl.1 (Nat.le_of_ble_eq_true rfl) dL_law_442 ⟨by show _ ≤ 1200144; omega, by show _ ≤ 5496634; omega⟩ (fun ov8 H2 locs2 hP2 hk2 hS2 => ?_)
  obtain ⟨rfl, hWm2, hz2⟩ := hP2
  have hWx2 := rg_keepX hWx1 hk2 (fun z h0 h3 => by have h8 := h0.1.2; have h9 := h3.1; omega)
  have hWp2 := pl_keepA hWp1 hk2 (fun z h0 h3 => PLs_m z h0 h3)
  have hG2 := GO_keepA hG1 hk2 (by have h8 := hS1.1; omega) (by intro z h3; have h8 := h3.1; omega)
  refine W.eq (g2 := F0 m 445 ls [.int rx, .int rx]) rfl ?_
  refine lv_icmp_eq (pc := 445) (tgt := 1637) hx hb dL_law_445 (by decide) (fun _ => ?_) (fun h => absurd rfl h)
  have hR9 : Rel wx vp H2.size um := by rw [show H2.size = H.size + rc by omega]; exact hR2
  exact rk_widen (by omega) (by omega) (kk H2 locs2 ls ⟨_, _, _, hWx2, hWp2, hWm2, hR9, hG2, hS2, hl⟩)
theorem lkL_49 : LV R_law 49 RX0 yX0_ruleOf cX0_ruleOf 4 (some .int) := ⟨q763, q764, q765, q114, q766⟩
theorem yn_X0_ruleOf : YN yX0_ruleOf 2 := by
  unfold YN
  decide +kernel
theorem lkL_52 : LV R_law 52 RX9 yX9_ruleOf cX9_ruleOf 3 (some .int) := ⟨q1972, q1973, q1974, q128, q1975⟩
theorem yn_X9_ruleOf : YN yX9_ruleOf 2 := by
  unfold YN
  decide +kernel
set_option maxHeartbeats 4000000 in
theorem lc_8 {p : Program} {l : Launch} {e : Env} {s : State} {m : MethodId} {below : List Frame} {meth : Method} {c : Code} {G : Gv} {b L b0 : Nat} {xs : Nat → Int32} {Rel : Mem → Mem → Nat → Mem → Prop} (W0 : LWd G p l s m c b L xs b0) (hOK : LawOK b0 Rel) {i3 : Int32} {H : Heap} {locs : List Loc} {ls : Array Slot} {cells slots : Nat} (hcl : cells + 100 ≤ 1200144) (hsl : slots + 2300 ≤ 5496634) (hin : LIn i3 L) (hI : LInv G Rel s b b0 i3 H locs ls)
    (kk : ∀ (H1 : Heap) (locs1 : List Loc) (ls1 : Array Slot), LInv G Rel s b b0 i3 H1 locs1 ls1 → lwW p l e s m b below meth c H1 locs1 (cells + 100) (slots + 2300) (F0 m 1637 ls1 [])) : lwW p l e s m b below meth c H locs cells slots (F0 m 450 ls []) := by
  obtain ⟨hx, hb, hml, hown, hts, hK, hX, hbl, hb0, hZ, hZX, hZL, hZP, hZN, hZC, hl0, hgB⟩ := id W0
  obtain ⟨vx, vp, vm, hWx, hWp, hWm, hR, hG, hS, hl⟩ := hI
  obtain ⟨h1, h2, h3, h4, h5⟩ := hin
  have hbA : ¬ (fun q : Nat => s.heap.size ≤ q) b := Nat.not_le.mpr hbl
  refine lv_aload_n (pc := 450) hx hb dL_law_450 rfl (lv_at hl 1 rfl) ?_
  refine lv_aload_n (pc := 451) hx hb dL_law_451 rfl (lv_at hl 0 rfl) ?_
  refine lv_iload_n (pc := 452) hx hb dL_law_452 rfl (lv_at hl 3 rfl) ?_
  refine lv_iconst (pc := 453) (v := (1 : Int32)) hx hb dL_law_453 (by decide) ?_
  refine lv_iadd (pc := 454) hx hb dL_law_454 ?_
  refine va_sld (pc := 455) hx hb hX hbl hbA hS h1 dL_law_455 ?_
  refine lv_aload_n (pc := 456) hx hb dL_law_456 rfl (lv_at hl 0 rfl) ?_
  refine lv_iload_n (pc := 457) hx hb dL_law_457 rfl (lv_at hl 3 rfl) ?_
  refine lv_iconst (pc := 458) (v := (2 : Int32)) hx hb dL_law_458 (by decide) ?_
  refine lv_iadd (pc := 459) hx hb dL_law_459 ?_
  refine va_sld (pc := 460) hx hb hX hbl hbA hS h2 dL_law_460 ?_
  obtain ⟨rx, hq, hm⟩ := hOK.2.2.2.2.2.2.2.2.1 vx vp H.size vm (xs (i3 + (1 : Int32)).toNatClampNeg) (xs (i3 + (2 : Int32)).toNatClampNeg) hR
  refine rk_PV (pc := 461) (As := [.int (xs (i3 + (1 : Int32)).toNatClampNeg), .int (xs (i3 + (2 : Int32)).toNatClampNeg)]) (rest := []) hx hb hml hown hts hK lkL_49 rfl yn_X0_ruleOf (ct_X0_ruleOf (G := G) (l := l) (b0 := b0) hq) ⟨Nat.le_of_ble_eq_true rfl, Nat.le_of_ble_eq_true rfl⟩ (rk_recv hK hWx 0 (by decide) rfl rfl rfl) hWx rfl rfl hl.1 (Nat.le_of_ble_eq_true rfl) dL_law_461 ⟨by show _ ≤ 1200144; omega, by show _ ≤ 5496634; omega⟩ ?_
  refine W.eq (g2 := F0 m 464 ls [.int rx]) rfl ?_
  refine lv_aload_n (pc := 464) hx hb dL_law_464 rfl (lv_at hl 2 rfl) ?_
  refine lv_aload_n (pc := 465) hx hb dL_law_465 rfl (lv_at hl 0 rfl) ?_
  refine lv_iload_n (pc := 466) hx hb dL_law_466 rfl (lv_at hl 3 rfl) ?_
  refine lv_iconst (pc := 467) (v := (1 : Int32)) hx hb dL_law_467 (by decide) ?_
  refine lv_iadd (pc := 468) hx hb dL_law_468 ?_
  refine va_sld (pc := 469) hx hb hX hbl hbA hS h1 dL_law_469 ?_
  refine lv_aload_n (pc := 470) hx hb dL_law_470 rfl (lv_at hl 0 rfl) ?_
  refine lv_iload_n (pc := 471) hx hb dL_law_471 rfl (lv_at hl 3 rfl) ?_
  refine lv_iconst (pc := 472) (v := (2 : Int32)) hx hb dL_law_472 (by decide) ?_
  refine lv_iadd (pc := 473) hx hb dL_law_473 ?_
  refine va_sld (pc := 474) hx hb hX hbl hbA hS h2 dL_law_474 ?_
  refine rk_PV (pc := 475) (As := [.int (xs (i3 + (1 : Int32)).toNatClampNeg), .int (xs (i3 + (2 : Int32)).toNatClampNeg)]) (rest := [.int rx]) hx hb hml hown hts hK lkL_52 rfl yn_X9_ruleOf (ct_X9_ruleOf (G := G) (l := l) (b0 := b0 + 357) hm) ⟨Nat.le_of_ble_eq_true rfl, Nat.le_of_ble_eq_true rfl⟩ (rk_recv hK hWm 0 (by decide) rfl rfl rfl) hWm rfl rfl hl.1 (Nat.le_of_ble_eq_true rfl) dL_law_475 ⟨by show _ ≤ 1200144; omega, by show _ ≤ 5496634; omega⟩ ?_
  refine W.eq (g2 := F0 m 478 ls [.int rx, .int rx]) rfl ?_
  refine lv_icmp_eq (pc := 478) (tgt := 1637) hx hb dL_law_478 (by decide) (fun _ => ?_) (fun h => absurd rfl h)
  have hR9 : Rel vx vp H.size vm := hR
  exact rk_widen (by omega) (by omega) (kk H locs ls ⟨_, _, _, hWx, hWp, hWm, hR9, hG, hS, hl⟩)
theorem lkL_53 : LV R_law 53 RX0 yX0_solve cX0_solve 2 (some .int) := ⟨q767, q768, q769, q114, q770⟩
theorem yn_X0_solve : YN yX0_solve 1 := by
  unfold YN
  decide +kernel
theorem lkL_56 : LV R_law 56 RX9 yX9_solve cX9_solve 2 (some .int) := ⟨q2020, q2021, q2022, q128, q2023⟩
theorem yn_X9_solve : YN yX9_solve 1 := by
  unfold YN
  decide +kernel
set_option maxHeartbeats 4000000 in
theorem lc_9 {p : Program} {l : Launch} {e : Env} {s : State} {m : MethodId} {below : List Frame} {meth : Method} {c : Code} {G : Gv} {b L b0 : Nat} {xs : Nat → Int32} {Rel : Mem → Mem → Nat → Mem → Prop} (W0 : LWd G p l s m c b L xs b0) (hOK : LawOK b0 Rel) {i3 : Int32} {H : Heap} {locs : List Loc} {ls : Array Slot} {cells slots : Nat} (hcl : cells + 100 ≤ 1200144) (hsl : slots + 2300 ≤ 5496634) (hin : LIn i3 L) (hI : LInv G Rel s b b0 i3 H locs ls)
    (kk : ∀ (H1 : Heap) (locs1 : List Loc) (ls1 : Array Slot), LInv G Rel s b b0 i3 H1 locs1 ls1 → lwW p l e s m b below meth c H1 locs1 (cells + 100) (slots + 2300) (F0 m 1637 ls1 [])) : lwW p l e s m b below meth c H locs cells slots (F0 m 483 ls []) := by
  obtain ⟨hx, hb, hml, hown, hts, hK, hX, hbl, hb0, hZ, hZX, hZL, hZP, hZN, hZC, hl0, hgB⟩ := id W0
  obtain ⟨vx, vp, vm, hWx, hWp, hWm, hR, hG, hS, hl⟩ := hI
  obtain ⟨h1, h2, h3, h4, h5⟩ := hin
  have hbA : ¬ (fun q : Nat => s.heap.size ≤ q) b := Nat.not_le.mpr hbl
  refine lv_aload_n (pc := 483) hx hb dL_law_483 rfl (lv_at hl 1 rfl) ?_
  refine lv_aload_n (pc := 484) hx hb dL_law_484 rfl (lv_at hl 0 rfl) ?_
  refine lv_iload_n (pc := 485) hx hb dL_law_485 rfl (lv_at hl 3 rfl) ?_
  refine lv_iconst (pc := 486) (v := (1 : Int32)) hx hb dL_law_486 (by decide) ?_
  refine lv_iadd (pc := 487) hx hb dL_law_487 ?_
  refine va_sld (pc := 488) hx hb hX hbl hbA hS h1 dL_law_488 ?_
  obtain ⟨rx, rc, wx, um, hq, hm, hR2⟩ := hOK.2.2.2.2.2.2.2.2.2.1 vx vp H.size vm (xs (i3 + (1 : Int32)).toNatClampNeg) hR
  refine rk_TV (pc := 489) (As := [.int (xs (i3 + (1 : Int32)).toNatClampNeg)]) (rest := []) (mc := 1) (ms := 7) hx hb hml hown hts hK hS (fun q hq => hq) lkL_53 rfl yn_X0_solve (ct_X0_solve (G := G) (l := l) (b0 := b0) (sz := H.size) hq hZ (by omega)) ⟨Nat.le_of_ble_eq_true rfl, Nat.le_of_ble_eq_true rfl⟩ (fun z h => by have h8 := h.1.1; omega) (rk_recv hK hWx 0 (by decide) rfl rfl rfl) ⟨hWx, hG⟩ rfl rfl hl.1 (Nat.le_of_ble_eq_true rfl) dL_law_489 ⟨by show _ ≤ 1200144; omega, by show _ ≤ 5496634; omega⟩ (fun ov9 H1 locs1 hP1 hk1 hS1 => ?_)
  obtain ⟨rfl, hWx1, hz1⟩ := hP1
  have hWp1 := pl_keepA hWp hk1 (fun z h0 h3 => PLs_X z h0 h3)
  have hWm1 := rg_keepA hWm hk1 (by intro z h1 h2 h3; have h8 := h3.1.1; have h9 := h3.1.2; omega)
  have hG1 := GO_keepA hG hk1 (by have h8 := hS.1; omega) (by intro z h3; have h8 := h3.1.1; omega)
  refine W.eq (g2 := F0 m 492 ls [.int rx]) rfl ?_
  refine lv_aload_n (pc := 492) hx hb dL_law_492 rfl (lv_at hl 2 rfl) ?_
  refine lv_aload_n (pc := 493) hx hb dL_law_493 rfl (lv_at hl 0 rfl) ?_
  refine lv_iload_n (pc := 494) hx hb dL_law_494 rfl (lv_at hl 3 rfl) ?_
  refine lv_iconst (pc := 495) (v := (1 : Int32)) hx hb dL_law_495 (by decide) ?_
  refine lv_iadd (pc := 496) hx hb dL_law_496 ?_
  refine va_sld (pc := 497) hx hb hX hbl hbA hS1 h1 dL_law_497 ?_
  refine rk_TV (pc := 498) (As := [.int (xs (i3 + (1 : Int32)).toNatClampNeg)]) (rest := [.int rx]) (mc := 0) (ms := 0) hx hb hml hown hts hK hS1 (fun q hq => hq) lkL_56 rfl yn_X9_solve (ct_X9_solve (G := G) (l := l) (b0 := b0 + 357) (sz := H1.size) hm) ⟨Nat.le_of_ble_eq_true rfl, Nat.le_of_ble_eq_true rfl⟩ (fun z h => by have h8 := h.1; omega) (rk_recv hK hWm1 0 (by decide) rfl rfl rfl) hWm1 rfl rfl hl.1 (Nat.le_of_ble_eq_true rfl) dL_law_498 ⟨by show _ ≤ 1200144; omega, by show _ ≤ 5496634; omega⟩ (fun ov8 H2 locs2 hP2 hk2 hS2 => ?_)
  obtain ⟨rfl, hWm2, hz2⟩ := hP2
  have hWx2 := rg_keepX hWx1 hk2 (fun z h0 h3 => by have h8 := h0.1.2; have h9 := h3.1; omega)
  have hWp2 := pl_keepA hWp1 hk2 (fun z h0 h3 => PLs_m z h0 h3)
  have hG2 := GO_keepA hG1 hk2 (by have h8 := hS1.1; omega) (by intro z h3; have h8 := h3.1; omega)
  refine W.eq (g2 := F0 m 501 ls [.int rx, .int rx]) rfl ?_
  refine lv_icmp_eq (pc := 501) (tgt := 1637) hx hb dL_law_501 (by decide) (fun _ => ?_) (fun h => absurd rfl h)
  have hR9 : Rel wx vp H2.size um := by rw [show H2.size = H.size + rc by omega]; exact hR2
  exact rk_widen (by omega) (by omega) (kk H2 locs2 ls ⟨_, _, _, hWx2, hWp2, hWm2, hR9, hG2, hS2, hl⟩)
theorem lkL_57 : LV R_law 57 RX0 yX0_entry cX0_entry 4 (some .long) := ⟨q888, q889, q890, q114, q891⟩
theorem yn_X0_entry : YN yX0_entry 2 := by
  unfold YN
  decide +kernel
theorem lkL_61 : LV R_law 61 RX9 yX9_entry cX9_entry 3 (some .long) := ⟨q2096, q2097, q2098, q128, q2099⟩
theorem yn_X9_entry : YN yX9_entry 2 := by
  unfold YN
  decide +kernel
set_option maxHeartbeats 4000000 in
theorem lc_10 {p : Program} {l : Launch} {e : Env} {s : State} {m : MethodId} {below : List Frame} {meth : Method} {c : Code} {G : Gv} {b L b0 : Nat} {xs : Nat → Int32} {Rel : Mem → Mem → Nat → Mem → Prop} (W0 : LWd G p l s m c b L xs b0) (hOK : LawOK b0 Rel) {i3 : Int32} {H : Heap} {locs : List Loc} {ls : Array Slot} {cells slots : Nat} (hcl : cells + 100 ≤ 1200144) (hsl : slots + 2300 ≤ 5496634) (hin : LIn i3 L) (hI : LInv G Rel s b b0 i3 H locs ls)
    (kk : ∀ (H1 : Heap) (locs1 : List Loc) (ls1 : Array Slot), LInv G Rel s b b0 i3 H1 locs1 ls1 → lwW p l e s m b below meth c H1 locs1 (cells + 100) (slots + 2300) (F0 m 1637 ls1 [])) : lwW p l e s m b below meth c H locs cells slots (F0 m 506 ls []) := by
  obtain ⟨hx, hb, hml, hown, hts, hK, hX, hbl, hb0, hZ, hZX, hZL, hZP, hZN, hZC, hl0, hgB⟩ := id W0
  obtain ⟨vx, vp, vm, hWx, hWp, hWm, hR, hG, hS, hl⟩ := hI
  obtain ⟨h1, h2, h3, h4, h5⟩ := hin
  have hbA : ¬ (fun q : Nat => s.heap.size ≤ q) b := Nat.not_le.mpr hbl
  refine lv_aload_n (pc := 506) hx hb dL_law_506 rfl (lv_at hl 1 rfl) ?_
  refine lv_aload_n (pc := 507) hx hb dL_law_507 rfl (lv_at hl 0 rfl) ?_
  refine lv_iload_n (pc := 508) hx hb dL_law_508 rfl (lv_at hl 3 rfl) ?_
  refine lv_iconst (pc := 509) (v := (1 : Int32)) hx hb dL_law_509 (by decide) ?_
  refine lv_iadd (pc := 510) hx hb dL_law_510 ?_
  refine va_sld (pc := 511) hx hb hX hbl hbA hS h1 dL_law_511 ?_
  refine lv_aload_n (pc := 512) hx hb dL_law_512 rfl (lv_at hl 0 rfl) ?_
  refine lv_iload_n (pc := 513) hx hb dL_law_513 rfl (lv_at hl 3 rfl) ?_
  refine lv_iconst (pc := 514) (v := (2 : Int32)) hx hb dL_law_514 (by decide) ?_
  refine lv_iadd (pc := 515) hx hb dL_law_515 ?_
  refine va_sld (pc := 516) hx hb hX hbl hbA hS h2 dL_law_516 ?_
  obtain ⟨rx, hq, hm⟩ := hOK.2.2.2.2.2.2.2.2.2.2.1 vx vp H.size vm (xs (i3 + (1 : Int32)).toNatClampNeg) (xs (i3 + (2 : Int32)).toNatClampNeg) hR
  refine rk_PV (pc := 517) (As := [.int (xs (i3 + (1 : Int32)).toNatClampNeg), .int (xs (i3 + (2 : Int32)).toNatClampNeg)]) (rest := []) hx hb hml hown hts hK lkL_57 rfl yn_X0_entry (ct_X0_entry (G := G) (l := l) (b0 := b0) hq) ⟨Nat.le_of_ble_eq_true rfl, Nat.le_of_ble_eq_true rfl⟩ (rk_recv hK hWx 0 (by decide) rfl rfl rfl) hWx rfl rfl hl.1 (Nat.le_of_ble_eq_true rfl) dL_law_517 ⟨by show _ ≤ 1200144; omega, by show _ ≤ 5496634; omega⟩ ?_
  refine W.eq (g2 := F0 m 520 ls [.long rx]) rfl ?_
  refine lv_aload_n (pc := 520) hx hb dL_law_520 rfl (lv_at hl 2 rfl) ?_
  refine lv_aload_n (pc := 521) hx hb dL_law_521 rfl (lv_at hl 0 rfl) ?_
  refine lv_iload_n (pc := 522) hx hb dL_law_522 rfl (lv_at hl 3 rfl) ?_
  refine lv_iconst (pc := 523) (v := (1 : Int32)) hx hb dL_law_523 (by decide) ?_
  refine lv_iadd (pc := 524) hx hb dL_law_524 ?_
  refine va_sld (pc := 525) hx hb hX hbl hbA hS h1 dL_law_525 ?_
  refine lv_aload_n (pc := 526) hx hb dL_law_526 rfl (lv_at hl 0 rfl) ?_
  refine lv_iload_n (pc := 527) hx hb dL_law_527 rfl (lv_at hl 3 rfl) ?_
  refine lv_iconst (pc := 528) (v := (2 : Int32)) hx hb dL_law_528 (by decide) ?_
  refine lv_iadd (pc := 529) hx hb dL_law_529 ?_
  refine va_sld (pc := 530) hx hb hX hbl hbA hS h2 dL_law_530 ?_
  refine rk_PV (pc := 531) (As := [.int (xs (i3 + (1 : Int32)).toNatClampNeg), .int (xs (i3 + (2 : Int32)).toNatClampNeg)]) (rest := [.long rx]) hx hb hml hown hts hK lkL_61 rfl yn_X9_entry (ct_X9_entry (G := G) (l := l) (b0 := b0 + 357) hm) ⟨Nat.le_of_ble_eq_true rfl, Nat.le_of_ble_eq_true rfl⟩ (rk_recv hK hWm 0 (by decide) rfl rfl rfl) hWm rfl rfl hl.1 (Nat.le_of_ble_eq_true rfl) dL_law_531 ⟨by show _ ≤ 1200144; omega, by show _ ≤ 5496634; omega⟩ ?_
  refine W.eq (g2 := F0 m 534 ls [.long rx, .long rx]) rfl ?_
  refine rk_lcmp_eq (pc := 534) (tgt := 1637) hx hb dL_law_534 rfl dL_law_535 (by decide) (fun _ => ?_) (fun h => absurd rfl h)
  have hR9 : Rel vx vp H.size vm := hR
  exact rk_widen (by omega) (by omega) (kk H locs ls ⟨_, _, _, hWx, hWp, hWm, hR9, hG, hS, hl⟩)
theorem lkL_62 : LV R_law 62 RX0 yX0_amount cX0_amount 3 (some .long) := ⟨q895, q896, q897, q114, q898⟩
theorem yn_X0_amount : YN yX0_amount 2 := by
  unfold YN
  decide +kernel
theorem lkL_65 : LV R_law 65 RX9 yX9_amount cX9_amount 3 (some .long) := ⟨q2102, q2103, q2104, q128, q2105⟩
theorem yn_X9_amount : YN yX9_amount 2 := by
  unfold YN
  decide +kernel
set_option maxHeartbeats 4000000 in
theorem lc_11 {p : Program} {l : Launch} {e : Env} {s : State} {m : MethodId} {below : List Frame} {meth : Method} {c : Code} {G : Gv} {b L b0 : Nat} {xs : Nat → Int32} {Rel : Mem → Mem → Nat → Mem → Prop} (W0 : LWd G p l s m c b L xs b0) (hOK : LawOK b0 Rel) {i3 : Int32} {H : Heap} {locs : List Loc} {ls : Array Slot} {cells slots : Nat} (hcl : cells + 100 ≤ 1200144) (hsl : slots + 2300 ≤ 5496634) (hin : LIn i3 L) (hI : LInv G Rel s b b0 i3 H locs ls)
    (kk : ∀ (H1 : Heap) (locs1 : List Loc) (ls1 : Array Slot), LInv G Rel s b b0 i3 H1 locs1 ls1 → lwW p l e s m b below meth c H1 locs1 (cells + 100) (slots + 2300) (F0 m 1637 ls1 [])) : lwW p l e s m b below meth c H locs cells slots (F0 m 540 ls []) := by
  obtain ⟨hx, hb, hml, hown, hts, hK, hX, hbl, hb0, hZ, hZX, hZL, hZP, hZN, hZC, hl0, hgB⟩ := id W0
  obtain ⟨vx, vp, vm, hWx, hWp, hWm, hR, hG, hS, hl⟩ := hI
  obtain ⟨h1, h2, h3, h4, h5⟩ := hin
  have hbA : ¬ (fun q : Nat => s.heap.size ≤ q) b := Nat.not_le.mpr hbl
  refine lv_aload_n (pc := 540) hx hb dL_law_540 rfl (lv_at hl 1 rfl) ?_
  refine lv_aload_n (pc := 541) hx hb dL_law_541 rfl (lv_at hl 0 rfl) ?_
  refine lv_iload_n (pc := 542) hx hb dL_law_542 rfl (lv_at hl 3 rfl) ?_
  refine lv_iconst (pc := 543) (v := (1 : Int32)) hx hb dL_law_543 (by decide) ?_
  refine lv_iadd (pc := 544) hx hb dL_law_544 ?_
  refine va_sld (pc := 545) hx hb hX hbl hbA hS h1 dL_law_545 ?_
  refine lv_aload_n (pc := 546) hx hb dL_law_546 rfl (lv_at hl 0 rfl) ?_
  refine lv_iload_n (pc := 547) hx hb dL_law_547 rfl (lv_at hl 3 rfl) ?_
  refine lv_iconst (pc := 548) (v := (2 : Int32)) hx hb dL_law_548 (by decide) ?_
  refine lv_iadd (pc := 549) hx hb dL_law_549 ?_
  refine va_sld (pc := 550) hx hb hX hbl hbA hS h2 dL_law_550 ?_
  obtain ⟨rx, hq, hm⟩ := hOK.2.2.2.2.2.2.2.2.2.2.2.1 vx vp H.size vm (xs (i3 + (1 : Int32)).toNatClampNeg) (xs (i3 + (2 : Int32)).toNatClampNeg) hR
  refine rk_PV (pc := 551) (As := [.int (xs (i3 + (1 : Int32)).toNatClampNeg), .int (xs (i3 + (2 : Int32)).toNatClampNeg)]) (rest := []) hx hb hml hown hts hK lkL_62 rfl yn_X0_amount (ct_X0_amount (G := G) (l := l) (b0 := b0) hq) ⟨Nat.le_of_ble_eq_true rfl, Nat.le_of_ble_eq_true rfl⟩ (rk_recv hK hWx 0 (by decide) rfl rfl rfl) hWx rfl rfl hl.1 (Nat.le_of_ble_eq_true rfl) dL_law_551 ⟨by show _ ≤ 1200144; omega, by show _ ≤ 5496634; omega⟩ ?_
  refine W.eq (g2 := F0 m 554 ls [.long rx]) rfl ?_
  refine lv_aload_n (pc := 554) hx hb dL_law_554 rfl (lv_at hl 2 rfl) ?_
  refine lv_aload_n (pc := 555) hx hb dL_law_555 rfl (lv_at hl 0 rfl) ?_
  refine lv_iload_n (pc := 556) hx hb dL_law_556 rfl (lv_at hl 3 rfl) ?_
  refine lv_iconst (pc := 557) (v := (1 : Int32)) hx hb dL_law_557 (by decide) ?_
  refine lv_iadd (pc := 558) hx hb dL_law_558 ?_
  refine va_sld (pc := 559) hx hb hX hbl hbA hS h1 dL_law_559 ?_
  refine lv_aload_n (pc := 560) hx hb dL_law_560 rfl (lv_at hl 0 rfl) ?_
  refine lv_iload_n (pc := 561) hx hb dL_law_561 rfl (lv_at hl 3 rfl) ?_
  refine lv_iconst (pc := 562) (v := (2 : Int32)) hx hb dL_law_562 (by decide) ?_
  refine lv_iadd (pc := 563) hx hb dL_law_563 ?_
  refine va_sld (pc := 564) hx hb hX hbl hbA hS h2 dL_law_564 ?_
  refine rk_PV (pc := 565) (As := [.int (xs (i3 + (1 : Int32)).toNatClampNeg), .int (xs (i3 + (2 : Int32)).toNatClampNeg)]) (rest := [.long rx]) hx hb hml hown hts hK lkL_65 rfl yn_X9_amount (ct_X9_amount (G := G) (l := l) (b0 := b0 + 357) hm) ⟨Nat.le_of_ble_eq_true rfl, Nat.le_of_ble_eq_true rfl⟩ (rk_recv hK hWm 0 (by decide) rfl rfl rfl) hWm rfl rfl hl.1 (Nat.le_of_ble_eq_true rfl) dL_law_565 ⟨by show _ ≤ 1200144; omega, by show _ ≤ 5496634; omega⟩ ?_
  refine W.eq (g2 := F0 m 568 ls [.long rx, .long rx]) rfl ?_
  refine rk_lcmp_eq (pc := 568) (tgt := 1637) hx hb dL_law_568 rfl dL_law_569 (by decide) (fun _ => ?_) (fun h => absurd rfl h)
  have hR9 : Rel vx vp H.size vm := hR
  exact rk_widen (by omega) (by omega) (kk H locs ls ⟨_, _, _, hWx, hWp, hWm, hR9, hG, hS, hl⟩)
theorem lkL_66 : LV R_law 66 RX0 yX0_value cX0_value 2 (some .long) := ⟨q919, q920, q921, q114, q922⟩
theorem yn_X0_value : YN yX0_value 1 := by
  unfold YN
  decide +kernel
theorem lkL_70 : LV R_law 70 RX9 yX9_value cX9_value 2 (some .long) := ⟨q2120, q2121, q2122, q128, q2123⟩
theorem yn_X9_value : YN yX9_value 1 := by
  unfold YN
  decide +kernel
set_option maxHeartbeats 4000000 in
theorem lc_12 {p : Program} {l : Launch} {e : Env} {s : State} {m : MethodId} {below : List Frame} {meth : Method} {c : Code} {G : Gv} {b L b0 : Nat} {xs : Nat → Int32} {Rel : Mem → Mem → Nat → Mem → Prop} (W0 : LWd G p l s m c b L xs b0) (hOK : LawOK b0 Rel) {i3 : Int32} {H : Heap} {locs : List Loc} {ls : Array Slot} {cells slots : Nat} (hcl : cells + 100 ≤ 1200144) (hsl : slots + 2300 ≤ 5496634) (hin : LIn i3 L) (hI : LInv G Rel s b b0 i3 H locs ls)
    (kk : ∀ (H1 : Heap) (locs1 : List Loc) (ls1 : Array Slot), LInv G Rel s b b0 i3 H1 locs1 ls1 → lwW p l e s m b below meth c H1 locs1 (cells + 100) (slots + 2300) (F0 m 1637 ls1 [])) : lwW p l e s m b below meth c H locs cells slots (F0 m 574 ls []) := by
  obtain ⟨hx, hb, hml, hown, hts, hK, hX, hbl, hb0, hZ, hZX, hZL, hZP, hZN, hZC, hl0, hgB⟩ := id W0
  obtain ⟨vx, vp, vm, hWx, hWp, hWm, hR, hG, hS, hl⟩ := hI
  obtain ⟨h1, h2, h3, h4, h5⟩ := hin
  have hbA : ¬ (fun q : Nat => s.heap.size ≤ q) b := Nat.not_le.mpr hbl
  refine lv_aload_n (pc := 574) hx hb dL_law_574 rfl (lv_at hl 1 rfl) ?_
  refine lv_aload_n (pc := 575) hx hb dL_law_575 rfl (lv_at hl 0 rfl) ?_
  refine lv_iload_n (pc := 576) hx hb dL_law_576 rfl (lv_at hl 3 rfl) ?_
  refine lv_iconst (pc := 577) (v := (1 : Int32)) hx hb dL_law_577 (by decide) ?_
  refine lv_iadd (pc := 578) hx hb dL_law_578 ?_
  refine va_sld (pc := 579) hx hb hX hbl hbA hS h1 dL_law_579 ?_
  obtain ⟨rx, hq, hm⟩ := hOK.2.2.2.2.2.2.2.2.2.2.2.2.1 vx vp H.size vm (xs (i3 + (1 : Int32)).toNatClampNeg) hR
  refine rk_PV (pc := 580) (As := [.int (xs (i3 + (1 : Int32)).toNatClampNeg)]) (rest := []) hx hb hml hown hts hK lkL_66 rfl yn_X0_value (ct_X0_value (G := G) (l := l) (b0 := b0) hq) ⟨Nat.le_of_ble_eq_true rfl, Nat.le_of_ble_eq_true rfl⟩ (rk_recv hK hWx 0 (by decide) rfl rfl rfl) hWx rfl rfl hl.1 (Nat.le_of_ble_eq_true rfl) dL_law_580 ⟨by show _ ≤ 1200144; omega, by show _ ≤ 5496634; omega⟩ ?_
  refine W.eq (g2 := F0 m 583 ls [.long rx]) rfl ?_
  refine lv_aload_n (pc := 583) hx hb dL_law_583 rfl (lv_at hl 2 rfl) ?_
  refine lv_aload_n (pc := 584) hx hb dL_law_584 rfl (lv_at hl 0 rfl) ?_
  refine lv_iload_n (pc := 585) hx hb dL_law_585 rfl (lv_at hl 3 rfl) ?_
  refine lv_iconst (pc := 586) (v := (1 : Int32)) hx hb dL_law_586 (by decide) ?_
  refine lv_iadd (pc := 587) hx hb dL_law_587 ?_
  refine va_sld (pc := 588) hx hb hX hbl hbA hS h1 dL_law_588 ?_
  refine rk_PV (pc := 589) (As := [.int (xs (i3 + (1 : Int32)).toNatClampNeg)]) (rest := [.long rx]) hx hb hml hown hts hK lkL_70 rfl yn_X9_value (ct_X9_value (G := G) (l := l) (b0 := b0 + 357) hm) ⟨Nat.le_of_ble_eq_true rfl, Nat.le_of_ble_eq_true rfl⟩ (rk_recv hK hWm 0 (by decide) rfl rfl rfl) hWm rfl rfl hl.1 (Nat.le_of_ble_eq_true rfl) dL_law_589 ⟨by show _ ≤ 1200144; omega, by show _ ≤ 5496634; omega⟩ ?_
  refine W.eq (g2 := F0 m 592 ls [.long rx, .long rx]) rfl ?_
  refine rk_lcmp_eq (pc := 592) (tgt := 1637) hx hb dL_law_592 rfl dL_law_593 (by decide) (fun _ => ?_) (fun h => absurd rfl h)
  have hR9 : Rel vx vp H.size vm := hR
  exact rk_widen (by omega) (by omega) (kk H locs ls ⟨_, _, _, hWx, hWp, hWm, hR9, hG, hS, hl⟩)
theorem lkL_71 : LV R_law 71 RX0 yX0_price cX0_price 3 (some .long) := ⟨q923, q924, q925, q114, q926⟩
theorem yn_X0_price : YN yX0_price 2 := by
  unfold YN
  decide +kernel
theorem lkL_74 : LV R_law 74 RX9 yX9_price cX9_price 4 (some .long) := ⟨q2124, q2125, q2126, q128, q2127⟩
theorem yn_X9_price : YN yX9_price 2 := by
  unfold YN
  decide +kernel
set_option maxHeartbeats 4000000 in
theorem lc_13 {p : Program} {l : Launch} {e : Env} {s : State} {m : MethodId} {below : List Frame} {meth : Method} {c : Code} {G : Gv} {b L b0 : Nat} {xs : Nat → Int32} {Rel : Mem → Mem → Nat → Mem → Prop} (W0 : LWd G p l s m c b L xs b0) (hOK : LawOK b0 Rel) {i3 : Int32} {H : Heap} {locs : List Loc} {ls : Array Slot} {cells slots : Nat} (hcl : cells + 100 ≤ 1200144) (hsl : slots + 2300 ≤ 5496634) (hin : LIn i3 L) (hI : LInv G Rel s b b0 i3 H locs ls)
    (kk : ∀ (H1 : Heap) (locs1 : List Loc) (ls1 : Array Slot), LInv G Rel s b b0 i3 H1 locs1 ls1 → lwW p l e s m b below meth c H1 locs1 (cells + 100) (slots + 2300) (F0 m 1637 ls1 [])) : lwW p l e s m b below meth c H locs cells slots (F0 m 598 ls []) := by
  obtain ⟨hx, hb, hml, hown, hts, hK, hX, hbl, hb0, hZ, hZX, hZL, hZP, hZN, hZC, hl0, hgB⟩ := id W0
  obtain ⟨vx, vp, vm, hWx, hWp, hWm, hR, hG, hS, hl⟩ := hI
  obtain ⟨h1, h2, h3, h4, h5⟩ := hin
  have hbA : ¬ (fun q : Nat => s.heap.size ≤ q) b := Nat.not_le.mpr hbl
  refine lv_aload_n (pc := 598) hx hb dL_law_598 rfl (lv_at hl 1 rfl) ?_
  refine lv_aload_n (pc := 599) hx hb dL_law_599 rfl (lv_at hl 0 rfl) ?_
  refine lv_iload_n (pc := 600) hx hb dL_law_600 rfl (lv_at hl 3 rfl) ?_
  refine lv_iconst (pc := 601) (v := (1 : Int32)) hx hb dL_law_601 (by decide) ?_
  refine lv_iadd (pc := 602) hx hb dL_law_602 ?_
  refine va_sld (pc := 603) hx hb hX hbl hbA hS h1 dL_law_603 ?_
  refine lv_aload_n (pc := 604) hx hb dL_law_604 rfl (lv_at hl 0 rfl) ?_
  refine lv_iload_n (pc := 605) hx hb dL_law_605 rfl (lv_at hl 3 rfl) ?_
  refine lv_iconst (pc := 606) (v := (2 : Int32)) hx hb dL_law_606 (by decide) ?_
  refine lv_iadd (pc := 607) hx hb dL_law_607 ?_
  refine va_sld (pc := 608) hx hb hX hbl hbA hS h2 dL_law_608 ?_
  obtain ⟨rx, hq, hm⟩ := hOK.2.2.2.2.2.2.2.2.2.2.2.2.2.1 vx vp H.size vm (xs (i3 + (1 : Int32)).toNatClampNeg) (xs (i3 + (2 : Int32)).toNatClampNeg) hR
  refine rk_PV (pc := 609) (As := [.int (xs (i3 + (1 : Int32)).toNatClampNeg), .int (xs (i3 + (2 : Int32)).toNatClampNeg)]) (rest := []) hx hb hml hown hts hK lkL_71 rfl yn_X0_price (ct_X0_price (G := G) (l := l) (b0 := b0) hq) ⟨Nat.le_of_ble_eq_true rfl, Nat.le_of_ble_eq_true rfl⟩ (rk_recv hK hWx 0 (by decide) rfl rfl rfl) hWx rfl rfl hl.1 (Nat.le_of_ble_eq_true rfl) dL_law_609 ⟨by show _ ≤ 1200144; omega, by show _ ≤ 5496634; omega⟩ ?_
  refine W.eq (g2 := F0 m 612 ls [.long rx]) rfl ?_
  refine lv_aload_n (pc := 612) hx hb dL_law_612 rfl (lv_at hl 2 rfl) ?_
  refine lv_aload_n (pc := 613) hx hb dL_law_613 rfl (lv_at hl 0 rfl) ?_
  refine lv_iload_n (pc := 614) hx hb dL_law_614 rfl (lv_at hl 3 rfl) ?_
  refine lv_iconst (pc := 615) (v := (1 : Int32)) hx hb dL_law_615 (by decide) ?_
  refine lv_iadd (pc := 616) hx hb dL_law_616 ?_
  refine va_sld (pc := 617) hx hb hX hbl hbA hS h1 dL_law_617 ?_
  refine lv_aload_n (pc := 618) hx hb dL_law_618 rfl (lv_at hl 0 rfl) ?_
  refine lv_iload_n (pc := 619) hx hb dL_law_619 rfl (lv_at hl 3 rfl) ?_
  refine lv_iconst (pc := 620) (v := (2 : Int32)) hx hb dL_law_620 (by decide) ?_
  refine lv_iadd (pc := 621) hx hb dL_law_621 ?_
  refine va_sld (pc := 622) hx hb hX hbl hbA hS h2 dL_law_622 ?_
  refine rk_PV (pc := 623) (As := [.int (xs (i3 + (1 : Int32)).toNatClampNeg), .int (xs (i3 + (2 : Int32)).toNatClampNeg)]) (rest := [.long rx]) hx hb hml hown hts hK lkL_74 rfl yn_X9_price (ct_X9_price (G := G) (l := l) (b0 := b0 + 357) hm) ⟨Nat.le_of_ble_eq_true rfl, Nat.le_of_ble_eq_true rfl⟩ (rk_recv hK hWm 0 (by decide) rfl rfl rfl) hWm rfl rfl hl.1 (Nat.le_of_ble_eq_true rfl) dL_law_623 ⟨by show _ ≤ 1200144; omega, by show _ ≤ 5496634; omega⟩ ?_
  refine W.eq (g2 := F0 m 626 ls [.long rx, .long rx]) rfl ?_
  refine rk_lcmp_eq (pc := 626) (tgt := 1637) hx hb dL_law_626 rfl dL_law_627 (by decide) (fun _ => ?_) (fun h => absurd rfl h)
  have hR9 : Rel vx vp H.size vm := hR
  exact rk_widen (by omega) (by omega) (kk H locs ls ⟨_, _, _, hWx, hWp, hWm, hR9, hG, hS, hl⟩)
theorem lkL_75 : LV R_law 75 RX0 yX0_cut cX0_cut 3 (some .long) := ⟨q931, q932, q933, q114, q934⟩
theorem yn_X0_cut : YN yX0_cut 2 := by
  unfold YN
  decide +kernel
theorem lkL_78 : LV R_law 78 RX9 yX9_cut cX9_cut 3 (some .long) := ⟨q2128, q2129, q2130, q128, q2131⟩
set_option maxHeartbeats 4000000 in
theorem lc_14 {p : Program} {l : Launch} {e : Env} {s : State} {m : MethodId} {below : List Frame} {meth : Method} {c : Code} {G : Gv} {b L b0 : Nat} {xs : Nat → Int32} {Rel : Mem → Mem → Nat → Mem → Prop} (W0 : LWd G p l s m c b L xs b0) (hOK : LawOK b0 Rel) {i3 : Int32} {H : Heap} {locs : List Loc} {ls : Array Slot} {cells slots : Nat} (hcl : cells + 100 ≤ 1200144) (hsl : slots + 2300 ≤ 5496634) (hin : LIn i3 L) (hI : LInv G Rel s b b0 i3 H locs ls)
    (kk : ∀ (H1 : Heap) (locs1 : List Loc) (ls1 : Array Slot), LInv G Rel s b b0 i3 H1 locs1 ls1 → lwW p l e s m b below meth c H1 locs1 (cells + 100) (slots + 2300) (F0 m 1637 ls1 [])) : lwW p l e s m b below meth c H locs cells slots (F0 m 632 ls []) := by
  obtain ⟨hx, hb, hml, hown, hts, hK, hX, hbl, hb0, hZ, hZX, hZL, hZP, hZN, hZC, hl0, hgB⟩ := id W0
  obtain ⟨vx, vp, vm, hWx, hWp, hWm, hR, hG, hS, hl⟩ := hI
  obtain ⟨h1, h2, h3, h4, h5⟩ := hin
  have hbA : ¬ (fun q : Nat => s.heap.size ≤ q) b := Nat.not_le.mpr hbl
  refine lv_aload_n (pc := 632) hx hb dL_law_632 rfl (lv_at hl 1 rfl) ?_
  refine lv_aload_n (pc := 633) hx hb dL_law_633 rfl (lv_at hl 0 rfl) ?_
  refine lv_iload_n (pc := 634) hx hb dL_law_634 rfl (lv_at hl 3 rfl) ?_
  refine lv_iconst (pc := 635) (v := (1 : Int32)) hx hb dL_law_635 (by decide) ?_
  refine lv_iadd (pc := 636) hx hb dL_law_636 ?_
  refine va_sld (pc := 637) hx hb hX hbl hbA hS h1 dL_law_637 ?_
  refine lv_aload_n (pc := 638) hx hb dL_law_638 rfl (lv_at hl 0 rfl) ?_
  refine lv_iload_n (pc := 639) hx hb dL_law_639 rfl (lv_at hl 3 rfl) ?_
  refine lv_iconst (pc := 640) (v := (2 : Int32)) hx hb dL_law_640 (by decide) ?_
  refine lv_iadd (pc := 641) hx hb dL_law_641 ?_
  refine va_sld (pc := 642) hx hb hX hbl hbA hS h2 dL_law_642 ?_
  obtain ⟨rx, hq, hm⟩ := hOK.2.2.2.2.2.2.2.2.2.2.2.2.2.2.1 vx vp H.size vm (xs (i3 + (1 : Int32)).toNatClampNeg) (xs (i3 + (2 : Int32)).toNatClampNeg) hR
  refine rk_PV (pc := 643) (As := [.int (xs (i3 + (1 : Int32)).toNatClampNeg), .int (xs (i3 + (2 : Int32)).toNatClampNeg)]) (rest := []) hx hb hml hown hts hK lkL_75 rfl yn_X0_cut (ct_X0_cut (G := G) (l := l) (b0 := b0) hq) ⟨Nat.le_of_ble_eq_true rfl, Nat.le_of_ble_eq_true rfl⟩ (rk_recv hK hWx 0 (by decide) rfl rfl rfl) hWx rfl rfl hl.1 (Nat.le_of_ble_eq_true rfl) dL_law_643 ⟨by show _ ≤ 1200144; omega, by show _ ≤ 5496634; omega⟩ ?_
  refine W.eq (g2 := F0 m 646 ls [.long rx]) rfl ?_
  refine lv_aload_n (pc := 646) hx hb dL_law_646 rfl (lv_at hl 2 rfl) ?_
  refine lv_aload_n (pc := 647) hx hb dL_law_647 rfl (lv_at hl 0 rfl) ?_
  refine lv_iload_n (pc := 648) hx hb dL_law_648 rfl (lv_at hl 3 rfl) ?_
  refine lv_iconst (pc := 649) (v := (1 : Int32)) hx hb dL_law_649 (by decide) ?_
  refine lv_iadd (pc := 650) hx hb dL_law_650 ?_
  refine va_sld (pc := 651) hx hb hX hbl hbA hS h1 dL_law_651 ?_
  refine lv_aload_n (pc := 652) hx hb dL_law_652 rfl (lv_at hl 0 rfl) ?_
  refine lv_iload_n (pc := 653) hx hb dL_law_653 rfl (lv_at hl 3 rfl) ?_
  refine lv_iconst (pc := 654) (v := (2 : Int32)) hx hb dL_law_654 (by decide) ?_
  refine lv_iadd (pc := 655) hx hb dL_law_655 ?_
  refine va_sld (pc := 656) hx hb hX hbl hbA hS h2 dL_law_656 ?_
  refine rk_PV (pc := 657) (As := [.int (xs (i3 + (1 : Int32)).toNatClampNeg), .int (xs (i3 + (2 : Int32)).toNatClampNeg)]) (rest := [.long rx]) hx hb hml hown hts hK lkL_78 rfl yn_X9_cut (ct_X9_cut (G := G) (l := l) (b0 := b0 + 357) hm) ⟨Nat.le_of_ble_eq_true rfl, Nat.le_of_ble_eq_true rfl⟩ (rk_recv hK hWm 0 (by decide) rfl rfl rfl) hWm rfl rfl hl.1 (Nat.le_of_ble_eq_true rfl) dL_law_657 ⟨by show _ ≤ 1200144; omega, by show _ ≤ 5496634; omega⟩ ?_
  refine W.eq (g2 := F0 m 660 ls [.long rx, .long rx]) rfl ?_
  refine rk_lcmp_eq (pc := 660) (tgt := 1637) hx hb dL_law_660 rfl dL_law_661 (by decide) (fun _ => ?_) (fun h => absurd rfl h)
  have hR9 : Rel vx vp H.size vm := hR
  exact rk_widen (by omega) (by omega) (kk H locs ls ⟨_, _, _, hWx, hWp, hWm, hR9, hG, hS, hl⟩)
theorem lkL_79 : LV R_law 79 RX0 yX0_weight cX0_weight 6 (some .long) := ⟨q939, q940, q941, q114, q942⟩
theorem yn_X0_weight : YN yX0_weight 3 := by
  unfold YN
  decide +kernel
theorem lkL_83 : LV R_law 83 RX9 yX9_weight cX9_weight 4 (some .long) := ⟨q2136, q2137, q2138, q128, q2139⟩
theorem yn_X9_weight : YN yX9_weight 3 := by
  unfold YN
  decide +kernel
set_option maxHeartbeats 4000000 in
theorem lc_15 {p : Program} {l : Launch} {e : Env} {s : State} {m : MethodId} {below : List Frame} {meth : Method} {c : Code} {G : Gv} {b L b0 : Nat} {xs : Nat → Int32} {Rel : Mem → Mem → Nat → Mem → Prop} (W0 : LWd G p l s m c b L xs b0) (hOK : LawOK b0 Rel) {i3 : Int32} {H : Heap} {locs : List Loc} {ls : Array Slot} {cells slots : Nat} (hcl : cells + 100 ≤ 1200144) (hsl : slots + 2300 ≤ 5496634) (hin : LIn i3 L) (hI : LInv G Rel s b b0 i3 H locs ls)
    (kk : ∀ (H1 : Heap) (locs1 : List Loc) (ls1 : Array Slot), LInv G Rel s b b0 i3 H1 locs1 ls1 → lwW p l e s m b below meth c H1 locs1 (cells + 100) (slots + 2300) (F0 m 1637 ls1 [])) : lwW p l e s m b below meth c H locs cells slots (F0 m 666 ls []) := by
  obtain ⟨hx, hb, hml, hown, hts, hK, hX, hbl, hb0, hZ, hZX, hZL, hZP, hZN, hZC, hl0, hgB⟩ := id W0
  obtain ⟨vx, vp, vm, hWx, hWp, hWm, hR, hG, hS, hl⟩ := hI
  obtain ⟨h1, h2, h3, h4, h5⟩ := hin
  have hbA : ¬ (fun q : Nat => s.heap.size ≤ q) b := Nat.not_le.mpr hbl
  refine lv_aload_n (pc := 666) hx hb dL_law_666 rfl (lv_at hl 1 rfl) ?_
  refine lv_aload_n (pc := 667) hx hb dL_law_667 rfl (lv_at hl 0 rfl) ?_
  refine lv_iload_n (pc := 668) hx hb dL_law_668 rfl (lv_at hl 3 rfl) ?_
  refine lv_iconst (pc := 669) (v := (1 : Int32)) hx hb dL_law_669 (by decide) ?_
  refine lv_iadd (pc := 670) hx hb dL_law_670 ?_
  refine va_sld (pc := 671) hx hb hX hbl hbA hS h1 dL_law_671 ?_
  refine lv_aload_n (pc := 672) hx hb dL_law_672 rfl (lv_at hl 0 rfl) ?_
  refine lv_iload_n (pc := 673) hx hb dL_law_673 rfl (lv_at hl 3 rfl) ?_
  refine lv_iconst (pc := 674) (v := (2 : Int32)) hx hb dL_law_674 (by decide) ?_
  refine lv_iadd (pc := 675) hx hb dL_law_675 ?_
  refine va_sld (pc := 676) hx hb hX hbl hbA hS h2 dL_law_676 ?_
  refine lv_aload_n (pc := 677) hx hb dL_law_677 rfl (lv_at hl 0 rfl) ?_
  refine lv_iload_n (pc := 678) hx hb dL_law_678 rfl (lv_at hl 3 rfl) ?_
  refine lv_iconst (pc := 679) (v := (3 : Int32)) hx hb dL_law_679 (by decide) ?_
  refine lv_iadd (pc := 680) hx hb dL_law_680 ?_
  refine va_sld (pc := 681) hx hb hX hbl hbA hS h3 dL_law_681 ?_
  obtain ⟨rx, hq, hm⟩ := hOK.2.2.2.2.2.2.2.2.2.2.2.2.2.2.2.1 vx vp H.size vm (xs (i3 + (1 : Int32)).toNatClampNeg) (xs (i3 + (2 : Int32)).toNatClampNeg) (xs (i3 + (3 : Int32)).toNatClampNeg) hR
  refine rk_PV (pc := 682) (As := [.int (xs (i3 + (1 : Int32)).toNatClampNeg), .int (xs (i3 + (2 : Int32)).toNatClampNeg), .int (xs (i3 + (3 : Int32)).toNatClampNeg)]) (rest := []) hx hb hml hown hts hK lkL_79 rfl yn_X0_weight (ct_X0_weight (G := G) (l := l) (b0 := b0) hq) ⟨Nat.le_of_ble_eq_true rfl, Nat.le_of_ble_eq_true rfl⟩ (rk_recv hK hWx 0 (by decide) rfl rfl rfl) hWx rfl rfl hl.1 (Nat.le_of_ble_eq_true rfl) dL_law_682 ⟨by show _ ≤ 1200144; omega, by show _ ≤ 5496634; omega⟩ ?_
  refine W.eq (g2 := F0 m 685 ls [.long rx]) rfl ?_
  refine lv_aload_n (pc := 685) hx hb dL_law_685 rfl (lv_at hl 2 rfl) ?_
  refine lv_aload_n (pc := 686) hx hb dL_law_686 rfl (lv_at hl 0 rfl) ?_
  refine lv_iload_n (pc := 687) hx hb dL_law_687 rfl (lv_at hl 3 rfl) ?_
  refine lv_iconst (pc := 688) (v := (1 : Int32)) hx hb dL_law_688 (by decide) ?_
  refine lv_iadd (pc := 689) hx hb dL_law_689 ?_
  refine va_sld (pc := 690) hx hb hX hbl hbA hS h1 dL_law_690 ?_
  refine lv_aload_n (pc := 691) hx hb dL_law_691 rfl (lv_at hl 0 rfl) ?_
  refine lv_iload_n (pc := 692) hx hb dL_law_692 rfl (lv_at hl 3 rfl) ?_
  refine lv_iconst (pc := 693) (v := (2 : Int32)) hx hb dL_law_693 (by decide) ?_
  refine lv_iadd (pc := 694) hx hb dL_law_694 ?_
  refine va_sld (pc := 695) hx hb hX hbl hbA hS h2 dL_law_695 ?_
  refine lv_aload_n (pc := 696) hx hb dL_law_696 rfl (lv_at hl 0 rfl) ?_
  refine lv_iload_n (pc := 697) hx hb dL_law_697 rfl (lv_at hl 3 rfl) ?_
  refine lv_iconst (pc := 698) (v := (3 : Int32)) hx hb dL_law_698 (by decide) ?_
  refine lv_iadd (pc := 699) hx hb dL_law_699 ?_
  refine va_sld (pc := 700) hx hb hX hbl hbA hS h3 dL_law_700 ?_
  refine rk_PV (pc := 701) (As := [.int (xs (i3 + (1 : Int32)).toNatClampNeg), .int (xs (i3 + (2 : Int32)).toNatClampNeg), .int (xs (i3 + (3 : Int32)).toNatClampNeg)]) (rest := [.long rx]) hx hb hml hown hts hK lkL_83 rfl yn_X9_weight (ct_X9_weight (G := G) (l := l) (b0 := b0 + 357) hm) ⟨Nat.le_of_ble_eq_true rfl, Nat.le_of_ble_eq_true rfl⟩ (rk_recv hK hWm 0 (by decide) rfl rfl rfl) hWm rfl rfl hl.1 (Nat.le_of_ble_eq_true rfl) dL_law_701 ⟨by show _ ≤ 1200144; omega, by show _ ≤ 5496634; omega⟩ ?_
  refine W.eq (g2 := F0 m 704 ls [.long rx, .long rx]) rfl ?_
  refine rk_lcmp_eq (pc := 704) (tgt := 1637) hx hb dL_law_704 rfl dL_law_705 (by decide) (fun _ => ?_) (fun h => absurd rfl h)
  have hR9 : Rel vx vp H.size vm := hR
  exact rk_widen (by omega) (by omega) (kk H locs ls ⟨_, _, _, hWx, hWp, hWm, hR9, hG, hS, hl⟩)
theorem lkL_84 : LV R_law 84 RX0 yX0_proved cX0_proved 4 (some .int) := ⟨q944, q945, q946, q114, q947⟩
theorem yn_X0_proved : YN yX0_proved 1 := by
  unfold YN
  decide +kernel
theorem lkL_87 : LV R_law 87 RX9 yX9_proved cX9_proved 4 (some .int) := ⟨q2141, q2142, q2143, q128, q2144⟩
theorem yn_X9_proved : YN yX9_proved 1 := by
  unfold YN
  decide +kernel
set_option maxHeartbeats 4000000 in
theorem lc_16 {p : Program} {l : Launch} {e : Env} {s : State} {m : MethodId} {below : List Frame} {meth : Method} {c : Code} {G : Gv} {b L b0 : Nat} {xs : Nat → Int32} {Rel : Mem → Mem → Nat → Mem → Prop} (W0 : LWd G p l s m c b L xs b0) (hOK : LawOK b0 Rel) {i3 : Int32} {H : Heap} {locs : List Loc} {ls : Array Slot} {cells slots : Nat} (hcl : cells + 100 ≤ 1200144) (hsl : slots + 2300 ≤ 5496634) (hin : LIn i3 L) (hI : LInv G Rel s b b0 i3 H locs ls)
    (kk : ∀ (H1 : Heap) (locs1 : List Loc) (ls1 : Array Slot), LInv G Rel s b b0 i3 H1 locs1 ls1 → lwW p l e s m b below meth c H1 locs1 (cells + 100) (slots + 2300) (F0 m 1637 ls1 [])) : lwW p l e s m b below meth c H locs cells slots (F0 m 710 ls []) := by
  obtain ⟨hx, hb, hml, hown, hts, hK, hX, hbl, hb0, hZ, hZX, hZL, hZP, hZN, hZC, hl0, hgB⟩ := id W0
  obtain ⟨vx, vp, vm, hWx, hWp, hWm, hR, hG, hS, hl⟩ := hI
  obtain ⟨h1, h2, h3, h4, h5⟩ := hin
  have hbA : ¬ (fun q : Nat => s.heap.size ≤ q) b := Nat.not_le.mpr hbl
  refine lv_aload_n (pc := 710) hx hb dL_law_710 rfl (lv_at hl 1 rfl) ?_
  refine lv_aload_n (pc := 711) hx hb dL_law_711 rfl (lv_at hl 0 rfl) ?_
  refine lv_iload_n (pc := 712) hx hb dL_law_712 rfl (lv_at hl 3 rfl) ?_
  refine lv_iconst (pc := 713) (v := (1 : Int32)) hx hb dL_law_713 (by decide) ?_
  refine lv_iadd (pc := 714) hx hb dL_law_714 ?_
  refine va_sld (pc := 715) hx hb hX hbl hbA hS h1 dL_law_715 ?_
  obtain ⟨rx, hq, hm⟩ := hOK.2.2.2.2.2.2.2.2.2.2.2.2.2.2.2.2.1 vx vp H.size vm (xs (i3 + (1 : Int32)).toNatClampNeg) hR
  refine rk_PV (pc := 716) (As := [.int (xs (i3 + (1 : Int32)).toNatClampNeg)]) (rest := []) hx hb hml hown hts hK lkL_84 rfl yn_X0_proved (ct_X0_proved (G := G) (l := l) (b0 := b0) hq) ⟨Nat.le_of_ble_eq_true rfl, Nat.le_of_ble_eq_true rfl⟩ (rk_recv hK hWx 0 (by decide) rfl rfl rfl) hWx rfl rfl hl.1 (Nat.le_of_ble_eq_true rfl) dL_law_716 ⟨by show _ ≤ 1200144; omega, by show _ ≤ 5496634; omega⟩ ?_
  refine W.eq (g2 := F0 m 719 ls [.int rx]) rfl ?_
  refine lv_aload_n (pc := 719) hx hb dL_law_719 rfl (lv_at hl 2 rfl) ?_
  refine lv_aload_n (pc := 720) hx hb dL_law_720 rfl (lv_at hl 0 rfl) ?_
  refine lv_iload_n (pc := 721) hx hb dL_law_721 rfl (lv_at hl 3 rfl) ?_
  refine lv_iconst (pc := 722) (v := (1 : Int32)) hx hb dL_law_722 (by decide) ?_
  refine lv_iadd (pc := 723) hx hb dL_law_723 ?_
  refine va_sld (pc := 724) hx hb hX hbl hbA hS h1 dL_law_724 ?_
  refine rk_PV (pc := 725) (As := [.int (xs (i3 + (1 : Int32)).toNatClampNeg)]) (rest := [.int rx]) hx hb hml hown hts hK lkL_87 rfl yn_X9_proved (ct_X9_proved (G := G) (l := l) (b0 := b0 + 357) hm) ⟨Nat.le_of_ble_eq_true rfl, Nat.le_of_ble_eq_true rfl⟩ (rk_recv hK hWm 0 (by decide) rfl rfl rfl) hWm rfl rfl hl.1 (Nat.le_of_ble_eq_true rfl) dL_law_725 ⟨by show _ ≤ 1200144; omega, by show _ ≤ 5496634; omega⟩ ?_
  refine W.eq (g2 := F0 m 728 ls [.int rx, .int rx]) rfl ?_
  refine lv_icmp_eq (pc := 728) (tgt := 1637) hx hb dL_law_728 (by decide) (fun _ => ?_) (fun h => absurd rfl h)
  have hR9 : Rel vx vp H.size vm := hR
  exact rk_widen (by omega) (by omega) (kk H locs ls ⟨_, _, _, hWx, hWp, hWm, hR9, hG, hS, hl⟩)
theorem lkL_88 : LV R_law 88 RX0 yX0_hand cX0_hand 4 (some .int) := ⟨q955, q956, q957, q114, q958⟩
theorem yn_X0_hand : YN yX0_hand 2 := by
  unfold YN
  decide +kernel
theorem lkL_91 : LV R_law 91 RX9 yX9_hand cX9_hand 4 (some .int) := ⟨q2150, q2151, q2152, q128, q2153⟩
theorem yn_X9_hand : YN yX9_hand 2 := by
  unfold YN
  decide +kernel
set_option maxHeartbeats 4000000 in
theorem lc_17 {p : Program} {l : Launch} {e : Env} {s : State} {m : MethodId} {below : List Frame} {meth : Method} {c : Code} {G : Gv} {b L b0 : Nat} {xs : Nat → Int32} {Rel : Mem → Mem → Nat → Mem → Prop} (W0 : LWd G p l s m c b L xs b0) (hOK : LawOK b0 Rel) {i3 : Int32} {H : Heap} {locs : List Loc} {ls : Array Slot} {cells slots : Nat} (hcl : cells + 100 ≤ 1200144) (hsl : slots + 2300 ≤ 5496634) (hin : LIn i3 L) (hI : LInv G Rel s b b0 i3 H locs ls)
    (kk : ∀ (H1 : Heap) (locs1 : List Loc) (ls1 : Array Slot), LInv G Rel s b b0 i3 H1 locs1 ls1 → lwW p l e s m b below meth c H1 locs1 (cells + 100) (slots + 2300) (F0 m 1637 ls1 [])) : lwW p l e s m b below meth c H locs cells slots (F0 m 733 ls []) := by
  obtain ⟨hx, hb, hml, hown, hts, hK, hX, hbl, hb0, hZ, hZX, hZL, hZP, hZN, hZC, hl0, hgB⟩ := id W0
  obtain ⟨vx, vp, vm, hWx, hWp, hWm, hR, hG, hS, hl⟩ := hI
  obtain ⟨h1, h2, h3, h4, h5⟩ := hin
  have hbA : ¬ (fun q : Nat => s.heap.size ≤ q) b := Nat.not_le.mpr hbl
  refine lv_aload_n (pc := 733) hx hb dL_law_733 rfl (lv_at hl 1 rfl) ?_
  refine lv_aload_n (pc := 734) hx hb dL_law_734 rfl (lv_at hl 0 rfl) ?_
  refine lv_iload_n (pc := 735) hx hb dL_law_735 rfl (lv_at hl 3 rfl) ?_
  refine lv_iconst (pc := 736) (v := (1 : Int32)) hx hb dL_law_736 (by decide) ?_
  refine lv_iadd (pc := 737) hx hb dL_law_737 ?_
  refine va_sld (pc := 738) hx hb hX hbl hbA hS h1 dL_law_738 ?_
  refine lv_aload_n (pc := 739) hx hb dL_law_739 rfl (lv_at hl 0 rfl) ?_
  refine lv_iload_n (pc := 740) hx hb dL_law_740 rfl (lv_at hl 3 rfl) ?_
  refine lv_iconst (pc := 741) (v := (2 : Int32)) hx hb dL_law_741 (by decide) ?_
  refine lv_iadd (pc := 742) hx hb dL_law_742 ?_
  refine va_sld (pc := 743) hx hb hX hbl hbA hS h2 dL_law_743 ?_
  obtain ⟨rx, wx, um, hq, hm, hR2⟩ := hOK.2.2.2.2.2.2.2.2.2.2.2.2.2.2.2.2.2.1 vx vp H.size vm (xs (i3 + (1 : Int32)).toNatClampNeg) (xs (i3 + (2 : Int32)).toNatClampNeg) hR
  refine rk_TV (pc := 744) (As := [.int (xs (i3 + (1 : Int32)).toNatClampNeg), .int (xs (i3 + (2 : Int32)).toNatClampNeg)]) (rest := []) (mc := 0) (ms := 0) hx hb hml hown hts hK hS (fun q hq => hq) lkL_88 rfl yn_X0_hand (ct_X0_hand (G := G) (l := l) (b0 := b0) (sz := H.size) hq) ⟨Nat.le_of_ble_eq_true rfl, Nat.le_of_ble_eq_true rfl⟩ (fun z h => by have h8 := h.1.1; omega) (rk_recv hK hWx 0 (by decide) rfl rfl rfl) hWx rfl rfl hl.1 (Nat.le_of_ble_eq_true rfl) dL_law_744 ⟨by show _ ≤ 1200144; omega, by show _ ≤ 5496634; omega⟩ (fun ov9 H1 locs1 hP1 hk1 hS1 => ?_)
  obtain ⟨rfl, hWx1, hz1⟩ := hP1
  have hWp1 := pl_keepA hWp hk1 (fun z h0 h3 => PLs_X z h0 h3)
  have hWm1 := rg_keepA hWm hk1 (by intro z h1 h2 h3; have h8 := h3.1.1; have h9 := h3.1.2; omega)
  have hG1 := GO_keepA hG hk1 (by have h8 := hS.1; omega) (by intro z h3; have h8 := h3.1.1; omega)
  refine W.eq (g2 := F0 m 747 ls [.int rx]) rfl ?_
  refine lv_aload_n (pc := 747) hx hb dL_law_747 rfl (lv_at hl 2 rfl) ?_
  refine lv_aload_n (pc := 748) hx hb dL_law_748 rfl (lv_at hl 0 rfl) ?_
  refine lv_iload_n (pc := 749) hx hb dL_law_749 rfl (lv_at hl 3 rfl) ?_
  refine lv_iconst (pc := 750) (v := (1 : Int32)) hx hb dL_law_750 (by decide) ?_
  refine lv_iadd (pc := 751) hx hb dL_law_751 ?_
  refine va_sld (pc := 752) hx hb hX hbl hbA hS1 h1 dL_law_752 ?_
  refine lv_aload_n (pc := 753) hx hb dL_law_753 rfl (lv_at hl 0 rfl) ?_
  refine lv_iload_n (pc := 754) hx hb dL_law_754 rfl (lv_at hl 3 rfl) ?_
  refine lv_iconst (pc := 755) (v := (2 : Int32)) hx hb dL_law_755 (by decide) ?_
  refine lv_iadd (pc := 756) hx hb dL_law_756 ?_
  refine va_sld (pc := 757) hx hb hX hbl hbA hS1 h2 dL_law_757 ?_
  refine rk_TV (pc := 758) (As := [.int (xs (i3 + (1 : Int32)).toNatClampNeg), .int (xs (i3 + (2 : Int32)).toNatClampNeg)]) (rest := [.int rx]) (mc := 0) (ms := 0) hx hb hml hown hts hK hS1 (fun q hq => hq) lkL_91 rfl yn_X9_hand (ct_X9_hand (G := G) (l := l) (b0 := b0 + 357) (sz := H1.size) hm) ⟨Nat.le_of_ble_eq_true rfl, Nat.le_of_ble_eq_true rfl⟩ (fun z h => by have h8 := h.1; omega) (rk_recv hK hWm1 0 (by decide) rfl rfl rfl) hWm1 rfl rfl hl.1 (Nat.le_of_ble_eq_true rfl) dL_law_758 ⟨by show _ ≤ 1200144; omega, by show _ ≤ 5496634; omega⟩ (fun ov8 H2 locs2 hP2 hk2 hS2 => ?_)
  obtain ⟨rfl, hWm2, hz2⟩ := hP2
  have hWx2 := rg_keepX hWx1 hk2 (fun z h0 h3 => by have h8 := h0.1.2; have h9 := h3.1; omega)
  have hWp2 := pl_keepA hWp1 hk2 (fun z h0 h3 => PLs_m z h0 h3)
  have hG2 := GO_keepA hG1 hk2 (by have h8 := hS1.1; omega) (by intro z h3; have h8 := h3.1; omega)
  refine W.eq (g2 := F0 m 761 ls [.int rx, .int rx]) rfl ?_
  refine lv_icmp_eq (pc := 761) (tgt := 1637) hx hb dL_law_761 (by decide) (fun _ => ?_) (fun h => absurd rfl h)
  have hR9 : Rel wx vp H2.size um := by rw [show H2.size = H.size by omega]; exact hR2
  exact rk_widen (by omega) (by omega) (kk H2 locs2 ls ⟨_, _, _, hWx2, hWp2, hWm2, hR9, hG2, hS2, hl⟩)
theorem lkL_92 : LV R_law 92 RX0 yX0_by cX0_by 3 (some .int) := ⟨q959, q960, q961, q114, q962⟩
theorem yn_X0_by : YN yX0_by 1 := by
  unfold YN
  decide +kernel
theorem lkL_95 : LV R_law 95 RX9 yX9_by cX9_by 3 (some .int) := ⟨q2154, q2155, q2156, q128, q2157⟩
theorem yn_X9_by : YN yX9_by 1 := by
  unfold YN
  decide +kernel
set_option maxHeartbeats 4000000 in
theorem lc_18 {p : Program} {l : Launch} {e : Env} {s : State} {m : MethodId} {below : List Frame} {meth : Method} {c : Code} {G : Gv} {b L b0 : Nat} {xs : Nat → Int32} {Rel : Mem → Mem → Nat → Mem → Prop} (W0 : LWd G p l s m c b L xs b0) (hOK : LawOK b0 Rel) {i3 : Int32} {H : Heap} {locs : List Loc} {ls : Array Slot} {cells slots : Nat} (hcl : cells + 100 ≤ 1200144) (hsl : slots + 2300 ≤ 5496634) (hin : LIn i3 L) (hI : LInv G Rel s b b0 i3 H locs ls)
    (kk : ∀ (H1 : Heap) (locs1 : List Loc) (ls1 : Array Slot), LInv G Rel s b b0 i3 H1 locs1 ls1 → lwW p l e s m b below meth c H1 locs1 (cells + 100) (slots + 2300) (F0 m 1637 ls1 [])) : lwW p l e s m b below meth c H locs cells slots (F0 m 766 ls []) := by
  obtain ⟨hx, hb, hml, hown, hts, hK, hX, hbl, hb0, hZ, hZX, hZL, hZP, hZN, hZC, hl0, hgB⟩ := id W0
  obtain ⟨vx, vp, vm, hWx, hWp, hWm, hR, hG, hS, hl⟩ := hI
  obtain ⟨h1, h2, h3, h4, h5⟩ := hin
  have hbA : ¬ (fun q : Nat => s.heap.size ≤ q) b := Nat.not_le.mpr hbl
  refine lv_aload_n (pc := 766) hx hb dL_law_766 rfl (lv_at hl 1 rfl) ?_
  refine lv_aload_n (pc := 767) hx hb dL_law_767 rfl (lv_at hl 0 rfl) ?_
  refine lv_iload_n (pc := 768) hx hb dL_law_768 rfl (lv_at hl 3 rfl) ?_
  refine lv_iconst (pc := 769) (v := (1 : Int32)) hx hb dL_law_769 (by decide) ?_
  refine lv_iadd (pc := 770) hx hb dL_law_770 ?_
  refine va_sld (pc := 771) hx hb hX hbl hbA hS h1 dL_law_771 ?_
  obtain ⟨rx, wx, um, hq, hm, hR2⟩ := hOK.2.2.2.2.2.2.2.2.2.2.2.2.2.2.2.2.2.2.1 vx vp H.size vm (xs (i3 + (1 : Int32)).toNatClampNeg) hR
  refine rk_TV (pc := 772) (As := [.int (xs (i3 + (1 : Int32)).toNatClampNeg)]) (rest := []) (mc := 0) (ms := 0) hx hb hml hown hts hK hS (fun q hq => hq) lkL_92 rfl yn_X0_by (ct_X0_by (G := G) (l := l) (b0 := b0) (sz := H.size) hq) ⟨Nat.le_of_ble_eq_true rfl, Nat.le_of_ble_eq_true rfl⟩ (fun z h => by have h8 := h.1.1; omega) (rk_recv hK hWx 0 (by decide) rfl rfl rfl) hWx rfl rfl hl.1 (Nat.le_of_ble_eq_true rfl) dL_law_772 ⟨by show _ ≤ 1200144; omega, by show _ ≤ 5496634; omega⟩ (fun ov9 H1 locs1 hP1 hk1 hS1 => ?_)
  obtain ⟨rfl, hWx1, hz1⟩ := hP1
  have hWp1 := pl_keepA hWp hk1 (fun z h0 h3 => PLs_X z h0 h3)
  have hWm1 := rg_keepA hWm hk1 (by intro z h1 h2 h3; have h8 := h3.1.1; have h9 := h3.1.2; omega)
  have hG1 := GO_keepA hG hk1 (by have h8 := hS.1; omega) (by intro z h3; have h8 := h3.1.1; omega)
  refine W.eq (g2 := F0 m 775 ls [.int rx]) rfl ?_
  refine lv_aload_n (pc := 775) hx hb dL_law_775 rfl (lv_at hl 2 rfl) ?_
  refine lv_aload_n (pc := 776) hx hb dL_law_776 rfl (lv_at hl 0 rfl) ?_
  refine lv_iload_n (pc := 777) hx hb dL_law_777 rfl (lv_at hl 3 rfl) ?_
  refine lv_iconst (pc := 778) (v := (1 : Int32)) hx hb dL_law_778 (by decide) ?_
  refine lv_iadd (pc := 779) hx hb dL_law_779 ?_
  refine va_sld (pc := 780) hx hb hX hbl hbA hS1 h1 dL_law_780 ?_
  refine rk_TV (pc := 781) (As := [.int (xs (i3 + (1 : Int32)).toNatClampNeg)]) (rest := [.int rx]) (mc := 0) (ms := 0) hx hb hml hown hts hK hS1 (fun q hq => hq) lkL_95 rfl yn_X9_by (ct_X9_by (G := G) (l := l) (b0 := b0 + 357) (sz := H1.size) hm) ⟨Nat.le_of_ble_eq_true rfl, Nat.le_of_ble_eq_true rfl⟩ (fun z h => by have h8 := h.1; omega) (rk_recv hK hWm1 0 (by decide) rfl rfl rfl) hWm1 rfl rfl hl.1 (Nat.le_of_ble_eq_true rfl) dL_law_781 ⟨by show _ ≤ 1200144; omega, by show _ ≤ 5496634; omega⟩ (fun ov8 H2 locs2 hP2 hk2 hS2 => ?_)
  obtain ⟨rfl, hWm2, hz2⟩ := hP2
  have hWx2 := rg_keepX hWx1 hk2 (fun z h0 h3 => by have h8 := h0.1.2; have h9 := h3.1; omega)
  have hWp2 := pl_keepA hWp1 hk2 (fun z h0 h3 => PLs_m z h0 h3)
  have hG2 := GO_keepA hG1 hk2 (by have h8 := hS1.1; omega) (by intro z h3; have h8 := h3.1; omega)
  refine W.eq (g2 := F0 m 784 ls [.int rx, .int rx]) rfl ?_
  refine lv_icmp_eq (pc := 784) (tgt := 1637) hx hb dL_law_784 (by decide) (fun _ => ?_) (fun h => absurd rfl h)
  have hR9 : Rel wx vp H2.size um := by rw [show H2.size = H.size by omega]; exact hR2
  exact rk_widen (by omega) (by omega) (kk H2 locs2 ls ⟨_, _, _, hWx2, hWp2, hWm2, hR9, hG2, hS2, hl⟩)
theorem lkL_96 : LV R_law 96 RX0 yX0_points cX0_points 2 (some .long) := ⟨q964, q965, q966, q114, q967⟩
theorem yn_X0_points : YN yX0_points 1 := by
  unfold YN
  decide +kernel
theorem lkL_99 : LV R_law 99 RX9 yX9_points cX9_points 5 (some .long) := ⟨q2159, q2160, q2161, q128, q2162⟩
set_option maxHeartbeats 4000000 in
theorem lc_19 {p : Program} {l : Launch} {e : Env} {s : State} {m : MethodId} {below : List Frame} {meth : Method} {c : Code} {G : Gv} {b L b0 : Nat} {xs : Nat → Int32} {Rel : Mem → Mem → Nat → Mem → Prop} (W0 : LWd G p l s m c b L xs b0) (hOK : LawOK b0 Rel) {i3 : Int32} {H : Heap} {locs : List Loc} {ls : Array Slot} {cells slots : Nat} (hcl : cells + 100 ≤ 1200144) (hsl : slots + 2300 ≤ 5496634) (hin : LIn i3 L) (hI : LInv G Rel s b b0 i3 H locs ls)
    (kk : ∀ (H1 : Heap) (locs1 : List Loc) (ls1 : Array Slot), LInv G Rel s b b0 i3 H1 locs1 ls1 → lwW p l e s m b below meth c H1 locs1 (cells + 100) (slots + 2300) (F0 m 1637 ls1 [])) : lwW p l e s m b below meth c H locs cells slots (F0 m 789 ls []) := by
  obtain ⟨hx, hb, hml, hown, hts, hK, hX, hbl, hb0, hZ, hZX, hZL, hZP, hZN, hZC, hl0, hgB⟩ := id W0
  obtain ⟨vx, vp, vm, hWx, hWp, hWm, hR, hG, hS, hl⟩ := hI
  obtain ⟨h1, h2, h3, h4, h5⟩ := hin
  have hbA : ¬ (fun q : Nat => s.heap.size ≤ q) b := Nat.not_le.mpr hbl
  refine lv_aload_n (pc := 789) hx hb dL_law_789 rfl (lv_at hl 1 rfl) ?_
  refine lv_aload_n (pc := 790) hx hb dL_law_790 rfl (lv_at hl 0 rfl) ?_
  refine lv_iload_n (pc := 791) hx hb dL_law_791 rfl (lv_at hl 3 rfl) ?_
  refine lv_iconst (pc := 792) (v := (1 : Int32)) hx hb dL_law_792 (by decide) ?_
  refine lv_iadd (pc := 793) hx hb dL_law_793 ?_
  refine va_sld (pc := 794) hx hb hX hbl hbA hS h1 dL_law_794 ?_
  obtain ⟨rx, hq, hm⟩ := hOK.2.2.2.2.2.2.2.2.2.2.2.2.2.2.2.2.2.2.2.1 vx vp H.size vm (xs (i3 + (1 : Int32)).toNatClampNeg) hR
  refine rk_PV (pc := 795) (As := [.int (xs (i3 + (1 : Int32)).toNatClampNeg)]) (rest := []) hx hb hml hown hts hK lkL_96 rfl yn_X0_points (ct_X0_points (G := G) (l := l) (b0 := b0) hq) ⟨Nat.le_of_ble_eq_true rfl, Nat.le_of_ble_eq_true rfl⟩ (rk_recv hK hWx 0 (by decide) rfl rfl rfl) hWx rfl rfl hl.1 (Nat.le_of_ble_eq_true rfl) dL_law_795 ⟨by show _ ≤ 1200144; omega, by show _ ≤ 5496634; omega⟩ ?_
  refine W.eq (g2 := F0 m 798 ls [.long rx]) rfl ?_
  refine lv_aload_n (pc := 798) hx hb dL_law_798 rfl (lv_at hl 2 rfl) ?_
  refine lv_aload_n (pc := 799) hx hb dL_law_799 rfl (lv_at hl 0 rfl) ?_
  refine lv_iload_n (pc := 800) hx hb dL_law_800 rfl (lv_at hl 3 rfl) ?_
  refine lv_iconst (pc := 801) (v := (1 : Int32)) hx hb dL_law_801 (by decide) ?_
  refine lv_iadd (pc := 802) hx hb dL_law_802 ?_
  refine va_sld (pc := 803) hx hb hX hbl hbA hS h1 dL_law_803 ?_
  refine rk_PV (pc := 804) (As := [.int (xs (i3 + (1 : Int32)).toNatClampNeg)]) (rest := [.long rx]) hx hb hml hown hts hK lkL_99 rfl yn_X9_points (ct_X9_points (G := G) (l := l) (b0 := b0 + 357) hm) ⟨Nat.le_of_ble_eq_true rfl, Nat.le_of_ble_eq_true rfl⟩ (rk_recv hK hWm 0 (by decide) rfl rfl rfl) hWm rfl rfl hl.1 (Nat.le_of_ble_eq_true rfl) dL_law_804 ⟨by show _ ≤ 1200144; omega, by show _ ≤ 5496634; omega⟩ ?_
  refine W.eq (g2 := F0 m 807 ls [.long rx, .long rx]) rfl ?_
  refine rk_lcmp_eq (pc := 807) (tgt := 1637) hx hb dL_law_807 rfl dL_law_808 (by decide) (fun _ => ?_) (fun h => absurd rfl h)
  have hR9 : Rel vx vp H.size vm := hR
  exact rk_widen (by omega) (by omega) (kk H locs ls ⟨_, _, _, hWx, hWp, hWm, hR9, hG, hS, hl⟩)
theorem lkL_100 : LV R_law 100 RX0 yX0_bites cX0_bites 4 (some .int) := ⟨q975, q976, q977, q114, q978⟩
theorem yn_X0_bites : YN yX0_bites 0 := by
  unfold YN
  decide +kernel
theorem lkL_103 : LV R_law 103 RX9 yX9_bites cX9_bites 4 (some .int) := ⟨q2167, q2168, q2169, q128, q2170⟩
theorem yn_X9_bites : YN yX9_bites 0 := by
  unfold YN
  decide +kernel
set_option maxHeartbeats 4000000 in
theorem lc_20 {p : Program} {l : Launch} {e : Env} {s : State} {m : MethodId} {below : List Frame} {meth : Method} {c : Code} {G : Gv} {b L b0 : Nat} {xs : Nat → Int32} {Rel : Mem → Mem → Nat → Mem → Prop} (W0 : LWd G p l s m c b L xs b0) (hOK : LawOK b0 Rel) {i3 : Int32} {H : Heap} {locs : List Loc} {ls : Array Slot} {cells slots : Nat} (hcl : cells + 100 ≤ 1200144) (hsl : slots + 2300 ≤ 5496634) (hin : LIn i3 L) (hI : LInv G Rel s b b0 i3 H locs ls)
    (kk : ∀ (H1 : Heap) (locs1 : List Loc) (ls1 : Array Slot), LInv G Rel s b b0 i3 H1 locs1 ls1 → lwW p l e s m b below meth c H1 locs1 (cells + 100) (slots + 2300) (F0 m 1637 ls1 [])) : lwW p l e s m b below meth c H locs cells slots (F0 m 813 ls []) := by
  obtain ⟨hx, hb, hml, hown, hts, hK, hX, hbl, hb0, hZ, hZX, hZL, hZP, hZN, hZC, hl0, hgB⟩ := id W0
  obtain ⟨vx, vp, vm, hWx, hWp, hWm, hR, hG, hS, hl⟩ := hI
  obtain ⟨h1, h2, h3, h4, h5⟩ := hin
  have hbA : ¬ (fun q : Nat => s.heap.size ≤ q) b := Nat.not_le.mpr hbl
  refine lv_aload_n (pc := 813) hx hb dL_law_813 rfl (lv_at hl 1 rfl) ?_
  obtain ⟨rx, hq, hm⟩ := hOK.2.2.2.2.2.2.2.2.2.2.2.2.2.2.2.2.2.2.2.2.1 vx vp H.size vm  hR
  refine rk_PV (pc := 814) (As := []) (rest := []) hx hb hml hown hts hK lkL_100 rfl yn_X0_bites (ct_X0_bites (G := G) (l := l) (b0 := b0) hq) ⟨Nat.le_of_ble_eq_true rfl, Nat.le_of_ble_eq_true rfl⟩ (rk_recv hK hWx 0 (by decide) rfl rfl rfl) hWx rfl rfl hl.1 (Nat.le_of_ble_eq_true rfl) dL_law_814 ⟨by show _ ≤ 1200144; omega, by show _ ≤ 5496634; omega⟩ ?_
  refine W.eq (g2 := F0 m 817 ls [.int rx]) rfl ?_
  refine lv_aload_n (pc := 817) hx hb dL_law_817 rfl (lv_at hl 2 rfl) ?_
  refine rk_PV (pc := 818) (As := []) (rest := [.int rx]) hx hb hml hown hts hK lkL_103 rfl yn_X9_bites (ct_X9_bites (G := G) (l := l) (b0 := b0 + 357) hm) ⟨Nat.le_of_ble_eq_true rfl, Nat.le_of_ble_eq_true rfl⟩ (rk_recv hK hWm 0 (by decide) rfl rfl rfl) hWm rfl rfl hl.1 (Nat.le_of_ble_eq_true rfl) dL_law_818 ⟨by show _ ≤ 1200144; omega, by show _ ≤ 5496634; omega⟩ ?_
  refine W.eq (g2 := F0 m 821 ls [.int rx, .int rx]) rfl ?_
  refine lv_icmp_eq (pc := 821) (tgt := 1637) hx hb dL_law_821 (by decide) (fun _ => ?_) (fun h => absurd rfl h)
  have hR9 : Rel vx vp H.size vm := hR
  exact rk_widen (by omega) (by omega) (kk H locs ls ⟨_, _, _, hWx, hWp, hWm, hR9, hG, hS, hl⟩)
theorem lkL_104 : LV R_law 104 RX0 yX0_box cX0_box 3 (some .int) := ⟨q979, q980, q981, q114, q982⟩
theorem yn_X0_box : YN yX0_box 1 := by
  unfold YN
  decide +kernel
theorem lkL_107 : LV R_law 107 RX9 yX9_box cX9_box 3 (some .int) := ⟨q2172, q2173, q2174, q128, q2175⟩
theorem yn_X9_box : YN yX9_box 1 := by
  unfold YN
  decide +kernel
set_option maxHeartbeats 4000000 in
theorem lc_21 {p : Program} {l : Launch} {e : Env} {s : State} {m : MethodId} {below : List Frame} {meth : Method} {c : Code} {G : Gv} {b L b0 : Nat} {xs : Nat → Int32} {Rel : Mem → Mem → Nat → Mem → Prop} (W0 : LWd G p l s m c b L xs b0) (hOK : LawOK b0 Rel) {i3 : Int32} {H : Heap} {locs : List Loc} {ls : Array Slot} {cells slots : Nat} (hcl : cells + 100 ≤ 1200144) (hsl : slots + 2300 ≤ 5496634) (hin : LIn i3 L) (hI : LInv G Rel s b b0 i3 H locs ls)
    (kk : ∀ (H1 : Heap) (locs1 : List Loc) (ls1 : Array Slot), LInv G Rel s b b0 i3 H1 locs1 ls1 → lwW p l e s m b below meth c H1 locs1 (cells + 100) (slots + 2300) (F0 m 1637 ls1 [])) : lwW p l e s m b below meth c H locs cells slots (F0 m 826 ls []) := by
  obtain ⟨hx, hb, hml, hown, hts, hK, hX, hbl, hb0, hZ, hZX, hZL, hZP, hZN, hZC, hl0, hgB⟩ := id W0
  obtain ⟨vx, vp, vm, hWx, hWp, hWm, hR, hG, hS, hl⟩ := hI
  obtain ⟨h1, h2, h3, h4, h5⟩ := hin
  have hbA : ¬ (fun q : Nat => s.heap.size ≤ q) b := Nat.not_le.mpr hbl
  refine lv_aload_n (pc := 826) hx hb dL_law_826 rfl (lv_at hl 1 rfl) ?_
  refine lv_aload_n (pc := 827) hx hb dL_law_827 rfl (lv_at hl 0 rfl) ?_
  refine lv_iload_n (pc := 828) hx hb dL_law_828 rfl (lv_at hl 3 rfl) ?_
  refine lv_iconst (pc := 829) (v := (1 : Int32)) hx hb dL_law_829 (by decide) ?_
  refine lv_iadd (pc := 830) hx hb dL_law_830 ?_
  refine va_sld (pc := 831) hx hb hX hbl hbA hS h1 dL_law_831 ?_
  obtain ⟨rx, wx, um, hq, hm, hR2⟩ := hOK.2.2.2.2.2.2.2.2.2.2.2.2.2.2.2.2.2.2.2.2.2.1 vx vp H.size vm (xs (i3 + (1 : Int32)).toNatClampNeg) hR
  refine rk_TV (pc := 832) (As := [.int (xs (i3 + (1 : Int32)).toNatClampNeg)]) (rest := []) (mc := 0) (ms := 0) hx hb hml hown hts hK hS (fun q hq => hq) lkL_104 rfl yn_X0_box (ct_X0_box (G := G) (l := l) (b0 := b0) (sz := H.size) hq) ⟨Nat.le_of_ble_eq_true rfl, Nat.le_of_ble_eq_true rfl⟩ (fun z h => by have h8 := h.1.1; omega) (rk_recv hK hWx 0 (by decide) rfl rfl rfl) hWx rfl rfl hl.1 (Nat.le_of_ble_eq_true rfl) dL_law_832 ⟨by show _ ≤ 1200144; omega, by show _ ≤ 5496634; omega⟩ (fun ov9 H1 locs1 hP1 hk1 hS1 => ?_)
  obtain ⟨rfl, hWx1, hz1⟩ := hP1
  have hWp1 := pl_keepA hWp hk1 (fun z h0 h3 => PLs_X z h0 h3)
  have hWm1 := rg_keepA hWm hk1 (by intro z h1 h2 h3; have h8 := h3.1.1; have h9 := h3.1.2; omega)
  have hG1 := GO_keepA hG hk1 (by have h8 := hS.1; omega) (by intro z h3; have h8 := h3.1.1; omega)
  refine W.eq (g2 := F0 m 835 ls [.int rx]) rfl ?_
  refine lv_aload_n (pc := 835) hx hb dL_law_835 rfl (lv_at hl 2 rfl) ?_
  refine lv_aload_n (pc := 836) hx hb dL_law_836 rfl (lv_at hl 0 rfl) ?_
  refine lv_iload_n (pc := 837) hx hb dL_law_837 rfl (lv_at hl 3 rfl) ?_
  refine lv_iconst (pc := 838) (v := (1 : Int32)) hx hb dL_law_838 (by decide) ?_
  refine lv_iadd (pc := 839) hx hb dL_law_839 ?_
  refine va_sld (pc := 840) hx hb hX hbl hbA hS1 h1 dL_law_840 ?_
  refine rk_TV (pc := 841) (As := [.int (xs (i3 + (1 : Int32)).toNatClampNeg)]) (rest := [.int rx]) (mc := 0) (ms := 0) hx hb hml hown hts hK hS1 (fun q hq => hq) lkL_107 rfl yn_X9_box (ct_X9_box (G := G) (l := l) (b0 := b0 + 357) (sz := H1.size) hm) ⟨Nat.le_of_ble_eq_true rfl, Nat.le_of_ble_eq_true rfl⟩ (fun z h => by have h8 := h.1; omega) (rk_recv hK hWm1 0 (by decide) rfl rfl rfl) hWm1 rfl rfl hl.1 (Nat.le_of_ble_eq_true rfl) dL_law_841 ⟨by show _ ≤ 1200144; omega, by show _ ≤ 5496634; omega⟩ (fun ov8 H2 locs2 hP2 hk2 hS2 => ?_)
  obtain ⟨rfl, hWm2, hz2⟩ := hP2
  have hWx2 := rg_keepX hWx1 hk2 (fun z h0 h3 => by have h8 := h0.1.2; have h9 := h3.1; omega)
  have hWp2 := pl_keepA hWp1 hk2 (fun z h0 h3 => PLs_m z h0 h3)
  have hG2 := GO_keepA hG1 hk2 (by have h8 := hS1.1; omega) (by intro z h3; have h8 := h3.1; omega)
  refine W.eq (g2 := F0 m 844 ls [.int rx, .int rx]) rfl ?_
  refine lv_icmp_eq (pc := 844) (tgt := 1637) hx hb dL_law_844 (by decide) (fun _ => ?_) (fun h => absurd rfl h)
  have hR9 : Rel wx vp H2.size um := by rw [show H2.size = H.size by omega]; exact hR2
  exact rk_widen (by omega) (by omega) (kk H2 locs2 ls ⟨_, _, _, hWx2, hWp2, hWm2, hR9, hG2, hS2, hl⟩)
theorem lkL_108 : LV R_law 108 RX0 yX0_nth cX0_nth 2 (some .int) := ⟨q984, q985, q986, q114, q987⟩
theorem yn_X0_nth : YN yX0_nth 1 := by
  unfold YN
  decide +kernel
theorem lkL_111 : LV R_law 111 RX9 yX9_nth cX9_nth 6 (some .int) := ⟨q2177, q2178, q2179, q128, q2180⟩
theorem yn_X9_nth : YN yX9_nth 1 := by
  unfold YN
  decide +kernel
set_option maxHeartbeats 4000000 in
theorem lc_22 {p : Program} {l : Launch} {e : Env} {s : State} {m : MethodId} {below : List Frame} {meth : Method} {c : Code} {G : Gv} {b L b0 : Nat} {xs : Nat → Int32} {Rel : Mem → Mem → Nat → Mem → Prop} (W0 : LWd G p l s m c b L xs b0) (hOK : LawOK b0 Rel) {i3 : Int32} {H : Heap} {locs : List Loc} {ls : Array Slot} {cells slots : Nat} (hcl : cells + 100 ≤ 1200144) (hsl : slots + 2300 ≤ 5496634) (hin : LIn i3 L) (hI : LInv G Rel s b b0 i3 H locs ls)
    (kk : ∀ (H1 : Heap) (locs1 : List Loc) (ls1 : Array Slot), LInv G Rel s b b0 i3 H1 locs1 ls1 → lwW p l e s m b below meth c H1 locs1 (cells + 100) (slots + 2300) (F0 m 1637 ls1 [])) : lwW p l e s m b below meth c H locs cells slots (F0 m 849 ls []) := by
  obtain ⟨hx, hb, hml, hown, hts, hK, hX, hbl, hb0, hZ, hZX, hZL, hZP, hZN, hZC, hl0, hgB⟩ := id W0
  obtain ⟨vx, vp, vm, hWx, hWp, hWm, hR, hG, hS, hl⟩ := hI
  obtain ⟨h1, h2, h3, h4, h5⟩ := hin
  have hbA : ¬ (fun q : Nat => s.heap.size ≤ q) b := Nat.not_le.mpr hbl
  refine lv_aload_n (pc := 849) hx hb dL_law_849 rfl (lv_at hl 1 rfl) ?_
  refine lv_aload_n (pc := 850) hx hb dL_law_850 rfl (lv_at hl 0 rfl) ?_
  refine lv_iload_n (pc := 851) hx hb dL_law_851 rfl (lv_at hl 3 rfl) ?_
  refine lv_iconst (pc := 852) (v := (1 : Int32)) hx hb dL_law_852 (by decide) ?_
  refine lv_iadd (pc := 853) hx hb dL_law_853 ?_
  refine va_sld (pc := 854) hx hb hX hbl hbA hS h1 dL_law_854 ?_
  obtain ⟨rx, rc, wx, wp, um, hq, hm, hR2⟩ := hOK.2.2.2.2.2.2.2.2.2.2.2.2.2.2.2.2.2.2.2.2.2.2.1 vx vp H.size vm (xs (i3 + (1 : Int32)).toNatClampNeg) hR
  refine rk_TV (pc := 855) (As := [.int (xs (i3 + (1 : Int32)).toNatClampNeg)]) (rest := []) (mc := 10) (ms := 900) hx hb hml hown hts hK hS (fun q hq => hq) lkL_108 rfl yn_X0_nth (ct_X0_nth (G := G) (l := l) (b0 := b0) hq PLs_X hZ (by omega) (PLs_g (by omega)) hZP hZL) ⟨Nat.le_of_ble_eq_true rfl, Nat.le_of_ble_eq_true rfl⟩ (fun z h => h.elim (fun h => by have h8 := h.1.1; omega) (fun h => by have h8 := PLs_g (k := s.heap.size) (by omega) z h.1; omega)) (rk_recv hK hWx 0 (by decide) rfl rfl rfl) ⟨hWx, hWp, hG⟩ rfl rfl hl.1 (Nat.le_of_ble_eq_true rfl) dL_law_855 ⟨by show _ ≤ 1200144; omega, by show _ ≤ 5496634; omega⟩ (fun ov9 H1 locs1 hP1 hk1 hS1 => ?_)
  obtain ⟨rfl, hWx1, hWp1, hz1, -⟩ := hP1
  have hWm1 := rg_keepA hWm hk1 (by intro z h1 h2 h3; exact h3.elim (fun h3 => by have h8 := h3.1.1; have h9 := h3.1.2; omega) (fun h3 => by exact PLs_m z h3.1 ⟨h1, h2⟩))
  have hG1 := GO_keepA hG hk1 (by have h8 := hS.1; omega) (by intro z h3; exact h3.elim (fun h3 => by have h8 := h3.1.1; omega) (fun h3 => PLs_g (by omega) z h3.1))
  refine W.eq (g2 := F0 m 858 ls [.int rx]) rfl ?_
  refine lv_aload_n (pc := 858) hx hb dL_law_858 rfl (lv_at hl 2 rfl) ?_
  refine lv_aload_n (pc := 859) hx hb dL_law_859 rfl (lv_at hl 0 rfl) ?_
  refine lv_iload_n (pc := 860) hx hb dL_law_860 rfl (lv_at hl 3 rfl) ?_
  refine lv_iconst (pc := 861) (v := (1 : Int32)) hx hb dL_law_861 (by decide) ?_
  refine lv_iadd (pc := 862) hx hb dL_law_862 ?_
  refine va_sld (pc := 863) hx hb hX hbl hbA hS1 h1 dL_law_863 ?_
  refine rk_TV (pc := 864) (As := [.int (xs (i3 + (1 : Int32)).toNatClampNeg)]) (rest := [.int rx]) (mc := 0) (ms := 0) hx hb hml hown hts hK hS1 (fun q hq => hq) lkL_111 rfl yn_X9_nth (ct_X9_nth (G := G) (l := l) (b0 := b0 + 357) (sz := H1.size) hm) ⟨Nat.le_of_ble_eq_true rfl, Nat.le_of_ble_eq_true rfl⟩ (fun z h => by have h8 := h.1; omega) (rk_recv hK hWm1 0 (by decide) rfl rfl rfl) hWm1 rfl rfl hl.1 (Nat.le_of_ble_eq_true rfl) dL_law_864 ⟨by show _ ≤ 1200144; omega, by show _ ≤ 5496634; omega⟩ (fun ov8 H2 locs2 hP2 hk2 hS2 => ?_)
  obtain ⟨rfl, hWm2, hz2⟩ := hP2
  have hWx2 := rg_keepX hWx1 hk2 (fun z h0 h3 => by have h8 := h0.1.2; have h9 := h3.1; omega)
  have hWp2 := pl_keepA hWp1 hk2 (fun z h0 h3 => PLs_m z h0 h3)
  have hG2 := GO_keepA hG1 hk2 (by have h8 := hS1.1; omega) (by intro z h3; have h8 := h3.1; omega)
  refine W.eq (g2 := F0 m 867 ls [.int rx, .int rx]) rfl ?_
  refine lv_icmp_eq (pc := 867) (tgt := 1637) hx hb dL_law_867 (by decide) (fun _ => ?_) (fun h => absurd rfl h)
  have hR9 : Rel wx wp H2.size um := by rw [show H2.size = H.size + rc by omega]; exact hR2
  exact rk_widen (by omega) (by omega) (kk H2 locs2 ls ⟨_, _, _, hWx2, hWp2, hWm2, hR9, hG2, hS2, hl⟩)
theorem lkL_112 : LV R_law 112 RX0 yX0_many cX0_many 2 (some .int) := ⟨q1173, q1174, q1175, q114, q1176⟩
theorem yn_X0_many : YN yX0_many 1 := by
  unfold YN
  decide +kernel
theorem lkL_115 : LV R_law 115 RX9 yX9_many cX9_many 4 (some .int) := ⟨q2203, q2204, q2205, q128, q2206⟩
theorem yn_X9_many : YN yX9_many 1 := by
  unfold YN
  decide +kernel
set_option maxHeartbeats 4000000 in
theorem lc_23 {p : Program} {l : Launch} {e : Env} {s : State} {m : MethodId} {below : List Frame} {meth : Method} {c : Code} {G : Gv} {b L b0 : Nat} {xs : Nat → Int32} {Rel : Mem → Mem → Nat → Mem → Prop} (W0 : LWd G p l s m c b L xs b0) (hOK : LawOK b0 Rel) {i3 : Int32} {H : Heap} {locs : List Loc} {ls : Array Slot} {cells slots : Nat} (hcl : cells + 100 ≤ 1200144) (hsl : slots + 2300 ≤ 5496634) (hin : LIn i3 L) (hI : LInv G Rel s b b0 i3 H locs ls)
    (kk : ∀ (H1 : Heap) (locs1 : List Loc) (ls1 : Array Slot), LInv G Rel s b b0 i3 H1 locs1 ls1 → lwW p l e s m b below meth c H1 locs1 (cells + 100) (slots + 2300) (F0 m 1637 ls1 [])) : lwW p l e s m b below meth c H locs cells slots (F0 m 872 ls []) := by
  obtain ⟨hx, hb, hml, hown, hts, hK, hX, hbl, hb0, hZ, hZX, hZL, hZP, hZN, hZC, hl0, hgB⟩ := id W0
  obtain ⟨vx, vp, vm, hWx, hWp, hWm, hR, hG, hS, hl⟩ := hI
  obtain ⟨h1, h2, h3, h4, h5⟩ := hin
  have hbA : ¬ (fun q : Nat => s.heap.size ≤ q) b := Nat.not_le.mpr hbl
  refine lv_aload_n (pc := 872) hx hb dL_law_872 rfl (lv_at hl 1 rfl) ?_
  refine lv_aload_n (pc := 873) hx hb dL_law_873 rfl (lv_at hl 0 rfl) ?_
  refine lv_iload_n (pc := 874) hx hb dL_law_874 rfl (lv_at hl 3 rfl) ?_
  refine lv_iconst (pc := 875) (v := (1 : Int32)) hx hb dL_law_875 (by decide) ?_
  refine lv_iadd (pc := 876) hx hb dL_law_876 ?_
  refine va_sld (pc := 877) hx hb hX hbl hbA hS h1 dL_law_877 ?_
  obtain ⟨rx, rc, wx, um, hq, hm, hR2⟩ := hOK.2.2.2.2.2.2.2.2.2.2.2.2.2.2.2.2.2.2.2.2.2.2.2.1 vx vp H.size vm (xs (i3 + (1 : Int32)).toNatClampNeg) hR
  refine rk_TV (pc := 878) (As := [.int (xs (i3 + (1 : Int32)).toNatClampNeg)]) (rest := []) (mc := 1) (ms := 2) hx hb hml hown hts hK hS (fun q hq => hq) lkL_112 rfl yn_X0_many (ct_X0_many (G := G) (l := l) (b0 := b0) (sz := H.size) hq hZ (by omega) hZL) ⟨Nat.le_of_ble_eq_true rfl, Nat.le_of_ble_eq_true rfl⟩ (fun z h => by have h8 := h.1.1; omega) (rk_recv hK hWx 0 (by decide) rfl rfl rfl) ⟨hWx, hG⟩ rfl rfl hl.1 (Nat.le_of_ble_eq_true rfl) dL_law_878 ⟨by show _ ≤ 1200144; omega, by show _ ≤ 5496634; omega⟩ (fun ov9 H1 locs1 hP1 hk1 hS1 => ?_)
  obtain ⟨rfl, hWx1, hz1⟩ := hP1
  have hWp1 := pl_keepA hWp hk1 (fun z h0 h3 => PLs_X z h0 h3)
  have hWm1 := rg_keepA hWm hk1 (by intro z h1 h2 h3; have h8 := h3.1.1; have h9 := h3.1.2; omega)
  have hG1 := GO_keepA hG hk1 (by have h8 := hS.1; omega) (by intro z h3; have h8 := h3.1.1; omega)
  refine W.eq (g2 := F0 m 881 ls [.int rx]) rfl ?_
  refine lv_aload_n (pc := 881) hx hb dL_law_881 rfl (lv_at hl 2 rfl) ?_
  refine lv_aload_n (pc := 882) hx hb dL_law_882 rfl (lv_at hl 0 rfl) ?_
  refine lv_iload_n (pc := 883) hx hb dL_law_883 rfl (lv_at hl 3 rfl) ?_
  refine lv_iconst (pc := 884) (v := (1 : Int32)) hx hb dL_law_884 (by decide) ?_
  refine lv_iadd (pc := 885) hx hb dL_law_885 ?_
  refine va_sld (pc := 886) hx hb hX hbl hbA hS1 h1 dL_law_886 ?_
  refine rk_TV (pc := 887) (As := [.int (xs (i3 + (1 : Int32)).toNatClampNeg)]) (rest := [.int rx]) (mc := 0) (ms := 0) hx hb hml hown hts hK hS1 (fun q hq => hq) lkL_115 rfl yn_X9_many (ct_X9_many (G := G) (l := l) (b0 := b0 + 357) (sz := H1.size) hm) ⟨Nat.le_of_ble_eq_true rfl, Nat.le_of_ble_eq_true rfl⟩ (fun z h => by have h8 := h.1; omega) (rk_recv hK hWm1 0 (by decide) rfl rfl rfl) hWm1 rfl rfl hl.1 (Nat.le_of_ble_eq_true rfl) dL_law_887 ⟨by show _ ≤ 1200144; omega, by show _ ≤ 5496634; omega⟩ (fun ov8 H2 locs2 hP2 hk2 hS2 => ?_)
  obtain ⟨rfl, hWm2, hz2⟩ := hP2
  have hWx2 := rg_keepX hWx1 hk2 (fun z h0 h3 => by have h8 := h0.1.2; have h9 := h3.1; omega)
  have hWp2 := pl_keepA hWp1 hk2 (fun z h0 h3 => PLs_m z h0 h3)
  have hG2 := GO_keepA hG1 hk2 (by have h8 := hS1.1; omega) (by intro z h3; have h8 := h3.1; omega)
  refine W.eq (g2 := F0 m 890 ls [.int rx, .int rx]) rfl ?_
  refine lv_icmp_eq (pc := 890) (tgt := 1637) hx hb dL_law_890 (by decide) (fun _ => ?_) (fun h => absurd rfl h)
  have hR9 : Rel wx vp H2.size um := by rw [show H2.size = H.size + rc by omega]; exact hR2
  exact rk_widen (by omega) (by omega) (kk H2 locs2 ls ⟨_, _, _, hWx2, hWp2, hWm2, hR9, hG2, hS2, hl⟩)
theorem lkL_116 : LV R_law 116 RX0 yX0_breaks cX0_breaks 3 (some .int) := ⟨q1184, q1185, q1186, q114, q1187⟩
theorem yn_X0_breaks : YN yX0_breaks 1 := by
  unfold YN
  decide +kernel
theorem lkL_119 : LV R_law 119 RX9 yX9_breaks cX9_breaks 3 (some .int) := ⟨q2207, q2208, q2209, q128, q2210⟩
theorem yn_X9_breaks : YN yX9_breaks 1 := by
  unfold YN
  decide +kernel
set_option maxHeartbeats 4000000 in
theorem lc_24 {p : Program} {l : Launch} {e : Env} {s : State} {m : MethodId} {below : List Frame} {meth : Method} {c : Code} {G : Gv} {b L b0 : Nat} {xs : Nat → Int32} {Rel : Mem → Mem → Nat → Mem → Prop} (W0 : LWd G p l s m c b L xs b0) (hOK : LawOK b0 Rel) {i3 : Int32} {H : Heap} {locs : List Loc} {ls : Array Slot} {cells slots : Nat} (hcl : cells + 100 ≤ 1200144) (hsl : slots + 2300 ≤ 5496634) (hin : LIn i3 L) (hI : LInv G Rel s b b0 i3 H locs ls)
    (kk : ∀ (H1 : Heap) (locs1 : List Loc) (ls1 : Array Slot), LInv G Rel s b b0 i3 H1 locs1 ls1 → lwW p l e s m b below meth c H1 locs1 (cells + 100) (slots + 2300) (F0 m 1637 ls1 [])) : lwW p l e s m b below meth c H locs cells slots (F0 m 895 ls []) := by
  obtain ⟨hx, hb, hml, hown, hts, hK, hX, hbl, hb0, hZ, hZX, hZL, hZP, hZN, hZC, hl0, hgB⟩ := id W0
  obtain ⟨vx, vp, vm, hWx, hWp, hWm, hR, hG, hS, hl⟩ := hI
  obtain ⟨h1, h2, h3, h4, h5⟩ := hin
  have hbA : ¬ (fun q : Nat => s.heap.size ≤ q) b := Nat.not_le.mpr hbl
  refine lv_aload_n (pc := 895) hx hb dL_law_895 rfl (lv_at hl 1 rfl) ?_
  refine lv_aload_n (pc := 896) hx hb dL_law_896 rfl (lv_at hl 0 rfl) ?_
  refine lv_iload_n (pc := 897) hx hb dL_law_897 rfl (lv_at hl 3 rfl) ?_
  refine lv_iconst (pc := 898) (v := (1 : Int32)) hx hb dL_law_898 (by decide) ?_
  refine lv_iadd (pc := 899) hx hb dL_law_899 ?_
  refine va_sld (pc := 900) hx hb hX hbl hbA hS h1 dL_law_900 ?_
  obtain ⟨rx, wx, um, hq, hm, hR2⟩ := hOK.2.2.2.2.2.2.2.2.2.2.2.2.2.2.2.2.2.2.2.2.2.2.2.2.1 vx vp H.size vm (xs (i3 + (1 : Int32)).toNatClampNeg) hR
  refine rk_TV (pc := 901) (As := [.int (xs (i3 + (1 : Int32)).toNatClampNeg)]) (rest := []) (mc := 0) (ms := 0) hx hb hml hown hts hK hS (fun q hq => hq) lkL_116 rfl yn_X0_breaks (ct_X0_breaks (G := G) (l := l) (b0 := b0) (sz := H.size) hq hZ (by omega) hZL) ⟨Nat.le_of_ble_eq_true rfl, Nat.le_of_ble_eq_true rfl⟩ (fun z h => by have h8 := h.1.1; omega) (rk_recv hK hWx 0 (by decide) rfl rfl rfl) ⟨hWx, hG⟩ rfl rfl hl.1 (Nat.le_of_ble_eq_true rfl) dL_law_901 ⟨by show _ ≤ 1200144; omega, by show _ ≤ 5496634; omega⟩ (fun ov9 H1 locs1 hP1 hk1 hS1 => ?_)
  obtain ⟨rfl, hWx1, hz1⟩ := hP1
  have hWp1 := pl_keepA hWp hk1 (fun z h0 h3 => PLs_X z h0 h3)
  have hWm1 := rg_keepA hWm hk1 (by intro z h1 h2 h3; have h8 := h3.1.1; have h9 := h3.1.2; omega)
  have hG1 := GO_keepA hG hk1 (by have h8 := hS.1; omega) (by intro z h3; have h8 := h3.1.1; omega)
  refine W.eq (g2 := F0 m 904 ls [.int rx]) rfl ?_
  refine lv_aload_n (pc := 904) hx hb dL_law_904 rfl (lv_at hl 2 rfl) ?_
  refine lv_aload_n (pc := 905) hx hb dL_law_905 rfl (lv_at hl 0 rfl) ?_
  refine lv_iload_n (pc := 906) hx hb dL_law_906 rfl (lv_at hl 3 rfl) ?_
  refine lv_iconst (pc := 907) (v := (1 : Int32)) hx hb dL_law_907 (by decide) ?_
  refine lv_iadd (pc := 908) hx hb dL_law_908 ?_
  refine va_sld (pc := 909) hx hb hX hbl hbA hS1 h1 dL_law_909 ?_
  refine rk_TV (pc := 910) (As := [.int (xs (i3 + (1 : Int32)).toNatClampNeg)]) (rest := [.int rx]) (mc := 0) (ms := 0) hx hb hml hown hts hK hS1 (fun q hq => hq) lkL_119 rfl yn_X9_breaks (ct_X9_breaks (G := G) (l := l) (b0 := b0 + 357) (sz := H1.size) hm) ⟨Nat.le_of_ble_eq_true rfl, Nat.le_of_ble_eq_true rfl⟩ (fun z h => by have h8 := h.1; omega) (rk_recv hK hWm1 0 (by decide) rfl rfl rfl) hWm1 rfl rfl hl.1 (Nat.le_of_ble_eq_true rfl) dL_law_910 ⟨by show _ ≤ 1200144; omega, by show _ ≤ 5496634; omega⟩ (fun ov8 H2 locs2 hP2 hk2 hS2 => ?_)
  obtain ⟨rfl, hWm2, hz2⟩ := hP2
  have hWx2 := rg_keepX hWx1 hk2 (fun z h0 h3 => by have h8 := h0.1.2; have h9 := h3.1; omega)
  have hWp2 := pl_keepA hWp1 hk2 (fun z h0 h3 => PLs_m z h0 h3)
  have hG2 := GO_keepA hG1 hk2 (by have h8 := hS1.1; omega) (by intro z h3; have h8 := h3.1; omega)
  refine W.eq (g2 := F0 m 913 ls [.int rx, .int rx]) rfl ?_
  refine lv_icmp_eq (pc := 913) (tgt := 1637) hx hb dL_law_913 (by decide) (fun _ => ?_) (fun h => absurd rfl h)
  have hR9 : Rel wx vp H2.size um := by rw [show H2.size = H.size by omega]; exact hR2
  exact rk_widen (by omega) (by omega) (kk H2 locs2 ls ⟨_, _, _, hWx2, hWp2, hWm2, hR9, hG2, hS2, hl⟩)
theorem lkL_120 : LV R_law 120 RX0 yX0_lost cX0_lost 2 (some .int) := ⟨q1192, q1193, q1194, q114, q1195⟩
theorem yn_X0_lost : YN yX0_lost 1 := by
  unfold YN
  decide +kernel
theorem lkL_123 : LV R_law 123 RX9 yX9_lost cX9_lost 3 (some .int) := ⟨q2219, q2220, q2221, q128, q2222⟩
theorem yn_X9_lost : YN yX9_lost 1 := by
  unfold YN
  decide +kernel
set_option maxHeartbeats 4000000 in
theorem lc_25 {p : Program} {l : Launch} {e : Env} {s : State} {m : MethodId} {below : List Frame} {meth : Method} {c : Code} {G : Gv} {b L b0 : Nat} {xs : Nat → Int32} {Rel : Mem → Mem → Nat → Mem → Prop} (W0 : LWd G p l s m c b L xs b0) (hOK : LawOK b0 Rel) {i3 : Int32} {H : Heap} {locs : List Loc} {ls : Array Slot} {cells slots : Nat} (hcl : cells + 100 ≤ 1200144) (hsl : slots + 2300 ≤ 5496634) (hin : LIn i3 L) (hI : LInv G Rel s b b0 i3 H locs ls)
    (kk : ∀ (H1 : Heap) (locs1 : List Loc) (ls1 : Array Slot), LInv G Rel s b b0 i3 H1 locs1 ls1 → lwW p l e s m b below meth c H1 locs1 (cells + 100) (slots + 2300) (F0 m 1637 ls1 [])) : lwW p l e s m b below meth c H locs cells slots (F0 m 918 ls []) := by
  obtain ⟨hx, hb, hml, hown, hts, hK, hX, hbl, hb0, hZ, hZX, hZL, hZP, hZN, hZC, hl0, hgB⟩ := id W0
  obtain ⟨vx, vp, vm, hWx, hWp, hWm, hR, hG, hS, hl⟩ := hI
  obtain ⟨h1, h2, h3, h4, h5⟩ := hin
  have hbA : ¬ (fun q : Nat => s.heap.size ≤ q) b := Nat.not_le.mpr hbl
  refine lv_aload_n (pc := 918) hx hb dL_law_918 rfl (lv_at hl 1 rfl) ?_
  refine lv_aload_n (pc := 919) hx hb dL_law_919 rfl (lv_at hl 0 rfl) ?_
  refine lv_iload_n (pc := 920) hx hb dL_law_920 rfl (lv_at hl 3 rfl) ?_
  refine lv_iconst (pc := 921) (v := (1 : Int32)) hx hb dL_law_921 (by decide) ?_
  refine lv_iadd (pc := 922) hx hb dL_law_922 ?_
  refine va_sld (pc := 923) hx hb hX hbl hbA hS h1 dL_law_923 ?_
  obtain ⟨rx, rc, wx, um, hq, hm, hR2⟩ := hOK.2.2.2.2.2.2.2.2.2.2.2.2.2.2.2.2.2.2.2.2.2.2.2.2.2.1 vx vp H.size vm (xs (i3 + (1 : Int32)).toNatClampNeg) hR
  refine rk_TV (pc := 924) (As := [.int (xs (i3 + (1 : Int32)).toNatClampNeg)]) (rest := []) (mc := 1) (ms := 2) hx hb hml hown hts hK hS (fun q hq => hq) lkL_120 rfl yn_X0_lost (ct_X0_lost (G := G) (l := l) (b0 := b0) (sz := H.size) hq hZ (by omega) hZL) ⟨Nat.le_of_ble_eq_true rfl, Nat.le_of_ble_eq_true rfl⟩ (fun z h => by have h8 := h.1.1; omega) (rk_recv hK hWx 0 (by decide) rfl rfl rfl) ⟨hWx, hG⟩ rfl rfl hl.1 (Nat.le_of_ble_eq_true rfl) dL_law_924 ⟨by show _ ≤ 1200144; omega, by show _ ≤ 5496634; omega⟩ (fun ov9 H1 locs1 hP1 hk1 hS1 => ?_)
  obtain ⟨rfl, hWx1, hz1⟩ := hP1
  have hWp1 := pl_keepA hWp hk1 (fun z h0 h3 => PLs_X z h0 h3)
  have hWm1 := rg_keepA hWm hk1 (by intro z h1 h2 h3; have h8 := h3.1.1; have h9 := h3.1.2; omega)
  have hG1 := GO_keepA hG hk1 (by have h8 := hS.1; omega) (by intro z h3; have h8 := h3.1.1; omega)
  refine W.eq (g2 := F0 m 927 ls [.int rx]) rfl ?_
  refine lv_aload_n (pc := 927) hx hb dL_law_927 rfl (lv_at hl 2 rfl) ?_
  refine lv_aload_n (pc := 928) hx hb dL_law_928 rfl (lv_at hl 0 rfl) ?_
  refine lv_iload_n (pc := 929) hx hb dL_law_929 rfl (lv_at hl 3 rfl) ?_
  refine lv_iconst (pc := 930) (v := (1 : Int32)) hx hb dL_law_930 (by decide) ?_
  refine lv_iadd (pc := 931) hx hb dL_law_931 ?_
  refine va_sld (pc := 932) hx hb hX hbl hbA hS1 h1 dL_law_932 ?_
  refine rk_TV (pc := 933) (As := [.int (xs (i3 + (1 : Int32)).toNatClampNeg)]) (rest := [.int rx]) (mc := 0) (ms := 0) hx hb hml hown hts hK hS1 (fun q hq => hq) lkL_123 rfl yn_X9_lost (ct_X9_lost (G := G) (l := l) (b0 := b0 + 357) (sz := H1.size) hm) ⟨Nat.le_of_ble_eq_true rfl, Nat.le_of_ble_eq_true rfl⟩ (fun z h => by have h8 := h.1; omega) (rk_recv hK hWm1 0 (by decide) rfl rfl rfl) hWm1 rfl rfl hl.1 (Nat.le_of_ble_eq_true rfl) dL_law_933 ⟨by show _ ≤ 1200144; omega, by show _ ≤ 5496634; omega⟩ (fun ov8 H2 locs2 hP2 hk2 hS2 => ?_)
  obtain ⟨rfl, hWm2, hz2⟩ := hP2
  have hWx2 := rg_keepX hWx1 hk2 (fun z h0 h3 => by have h8 := h0.1.2; have h9 := h3.1; omega)
  have hWp2 := pl_keepA hWp1 hk2 (fun z h0 h3 => PLs_m z h0 h3)
  have hG2 := GO_keepA hG1 hk2 (by have h8 := hS1.1; omega) (by intro z h3; have h8 := h3.1; omega)
  refine W.eq (g2 := F0 m 936 ls [.int rx, .int rx]) rfl ?_
  refine lv_icmp_eq (pc := 936) (tgt := 1637) hx hb dL_law_936 (by decide) (fun _ => ?_) (fun h => absurd rfl h)
  have hR9 : Rel wx vp H2.size um := by rw [show H2.size = H.size + rc by omega]; exact hR2
  exact rk_widen (by omega) (by omega) (kk H2 locs2 ls ⟨_, _, _, hWx2, hWp2, hWm2, hR9, hG2, hS2, hl⟩)
theorem lkL_124 : LVW R_law 124 RX0 yX0_branch cX0_branch 3 (some .int) [(21, 66, 91, 424), (67, 71, 91, 424), (72, 76, 91, 424), (77, 81, 91, 424), (82, 90, 91, 424)] := ⟨q1207, q1208, q1209, q114, q1210⟩
theorem yn_X0_branch : YN yX0_branch 1 := by
  unfold YN
  decide +kernel
theorem lkL_127 : LV R_law 127 RX9 yX9_branch cX9_branch 3 (some .int) := ⟨q2227, q2228, q2229, q128, q2230⟩
theorem yn_X9_branch : YN yX9_branch 1 := by
  unfold YN
  decide +kernel
set_option maxHeartbeats 4000000 in
theorem lc_26 {p : Program} {l : Launch} {e : Env} {s : State} {m : MethodId} {below : List Frame} {meth : Method} {c : Code} {G : Gv} {b L b0 : Nat} {xs : Nat → Int32} {Rel : Mem → Mem → Nat → Mem → Prop} (W0 : LWd G p l s m c b L xs b0) (hOK : LawOK b0 Rel) {i3 : Int32} {H : Heap} {locs : List Loc} {ls : Array Slot} {cells slots : Nat} (hcl : cells + 100 ≤ 1200144) (hsl : slots + 2300 ≤ 5496634) (hin : LIn i3 L) (hI : LInv G Rel s b b0 i3 H locs ls)
    (kk : ∀ (H1 : Heap) (locs1 : List Loc) (ls1 : Array Slot), LInv G Rel s b b0 i3 H1 locs1 ls1 → lwW p l e s m b below meth c H1 locs1 (cells + 100) (slots + 2300) (F0 m 1637 ls1 [])) : lwW p l e s m b below meth c H locs cells slots (F0 m 941 ls []) := by
  obtain ⟨hx, hb, hml, hown, hts, hK, hX, hbl, hb0, hZ, hZX, hZL, hZP, hZN, hZC, hl0, hgB⟩ := id W0
  obtain ⟨vx, vp, vm, hWx, hWp, hWm, hR, hG, hS, hl⟩ := hI
  obtain ⟨h1, h2, h3, h4, h5⟩ := hin
  have hbA : ¬ (fun q : Nat => s.heap.size ≤ q) b := Nat.not_le.mpr hbl
  refine lv_aload_n (pc := 941) hx hb dL_law_941 rfl (lv_at hl 1 rfl) ?_
  refine lv_aload_n (pc := 942) hx hb dL_law_942 rfl (lv_at hl 0 rfl) ?_
  refine lv_iload_n (pc := 943) hx hb dL_law_943 rfl (lv_at hl 3 rfl) ?_
  refine lv_iconst (pc := 944) (v := (1 : Int32)) hx hb dL_law_944 (by decide) ?_
  refine lv_iadd (pc := 945) hx hb dL_law_945 ?_
  refine va_sld (pc := 946) hx hb hX hbl hbA hS h1 dL_law_946 ?_
  obtain ⟨rx, rc, wx, wp, um, hq, hm, hR2⟩ := hOK.2.2.2.2.2.2.2.2.2.2.2.2.2.2.2.2.2.2.2.2.2.2.2.2.2.2.1 vx vp H.size vm (xs (i3 + (1 : Int32)).toNatClampNeg) hR
  refine rk_TVW (pc := 947) (As := [.int (xs (i3 + (1 : Int32)).toNatClampNeg)]) (rest := []) (mc := 90) (ms := 2200) hx hb hml hown hts hK hS (fun q hq => hq) lkL_124 rfl yn_X0_branch (ct_X0_branch (G := G) (l := l) (b0 := b0) hq PLs_X hZ (by omega) (PLs_g (by omega)) hZP) ⟨Nat.le_of_ble_eq_true rfl, Nat.le_of_ble_eq_true rfl⟩ (fun z h => h.elim (fun h => by have h8 := h.1.1; omega) (fun h => by have h8 := PLs_g (k := s.heap.size) (by omega) z h.1; omega)) (rk_recv hK hWx 0 (by decide) rfl rfl rfl) ⟨hWx, hWp, hG⟩ rfl rfl hl.1 (Nat.le_of_ble_eq_true rfl) dL_law_947 ⟨by show _ ≤ 1200144; omega, by show _ ≤ 5496634; omega⟩ (fun ov9 H1 locs1 hP1 hk1 hS1 => ?_)
  obtain ⟨rfl, hWx1, hWp1, hz1, -⟩ := hP1
  have hWm1 := rg_keepA hWm hk1 (by intro z h1 h2 h3; exact h3.elim (fun h3 => by have h8 := h3.1.1; have h9 := h3.1.2; omega) (fun h3 => by exact PLs_m z h3.1 ⟨h1, h2⟩))
  have hG1 := GO_keepA hG hk1 (by have h8 := hS.1; omega) (by intro z h3; exact h3.elim (fun h3 => by have h8 := h3.1.1; omega) (fun h3 => PLs_g (by omega) z h3.1))
  refine W.eq (g2 := F0 m 950 ls [.int rx]) rfl ?_
  refine lv_aload_n (pc := 950) hx hb dL_law_950 rfl (lv_at hl 2 rfl) ?_
  refine lv_aload_n (pc := 951) hx hb dL_law_951 rfl (lv_at hl 0 rfl) ?_
  refine lv_iload_n (pc := 952) hx hb dL_law_952 rfl (lv_at hl 3 rfl) ?_
  refine lv_iconst (pc := 953) (v := (1 : Int32)) hx hb dL_law_953 (by decide) ?_
  refine lv_iadd (pc := 954) hx hb dL_law_954 ?_
  refine va_sld (pc := 955) hx hb hX hbl hbA hS1 h1 dL_law_955 ?_
  refine rk_TV (pc := 956) (As := [.int (xs (i3 + (1 : Int32)).toNatClampNeg)]) (rest := [.int rx]) (mc := 0) (ms := 0) hx hb hml hown hts hK hS1 (fun q hq => hq) lkL_127 rfl yn_X9_branch (ct_X9_branch (G := G) (l := l) (b0 := b0 + 357) (sz := H1.size) hm) ⟨Nat.le_of_ble_eq_true rfl, Nat.le_of_ble_eq_true rfl⟩ (fun z h => by have h8 := h.1; omega) (rk_recv hK hWm1 0 (by decide) rfl rfl rfl) hWm1 rfl rfl hl.1 (Nat.le_of_ble_eq_true rfl) dL_law_956 ⟨by show _ ≤ 1200144; omega, by show _ ≤ 5496634; omega⟩ (fun ov8 H2 locs2 hP2 hk2 hS2 => ?_)
  obtain ⟨rfl, hWm2, hz2⟩ := hP2
  have hWx2 := rg_keepX hWx1 hk2 (fun z h0 h3 => by have h8 := h0.1.2; have h9 := h3.1; omega)
  have hWp2 := pl_keepA hWp1 hk2 (fun z h0 h3 => PLs_m z h0 h3)
  have hG2 := GO_keepA hG1 hk2 (by have h8 := hS1.1; omega) (by intro z h3; have h8 := h3.1; omega)
  refine W.eq (g2 := F0 m 959 ls [.int rx, .int rx]) rfl ?_
  refine lv_icmp_eq (pc := 959) (tgt := 1637) hx hb dL_law_959 (by decide) (fun _ => ?_) (fun h => absurd rfl h)
  have hR9 : Rel wx wp H2.size um := by rw [show H2.size = H.size + rc by omega]; exact hR2
  exact rk_widen (by omega) (by omega) (kk H2 locs2 ls ⟨_, _, _, hWx2, hWp2, hWm2, hR9, hG2, hS2, hl⟩)
theorem lkL_128 : LV R_law 128 RX0 yX0_would cX0_would 3 (some .int) := ⟨q1277, q1278, q1279, q114, q1280⟩
theorem yn_X0_would : YN yX0_would 2 := by
  unfold YN
  decide +kernel
theorem lkL_131 : LV R_law 131 RX9 yX9_would cX9_would 3 (some .int) := ⟨q2255, q2256, q2257, q128, q2258⟩
theorem yn_X9_would : YN yX9_would 2 := by
  unfold YN
  decide +kernel
set_option maxHeartbeats 4000000 in
theorem lc_27 {p : Program} {l : Launch} {e : Env} {s : State} {m : MethodId} {below : List Frame} {meth : Method} {c : Code} {G : Gv} {b L b0 : Nat} {xs : Nat → Int32} {Rel : Mem → Mem → Nat → Mem → Prop} (W0 : LWd G p l s m c b L xs b0) (hOK : LawOK b0 Rel) {i3 : Int32} {H : Heap} {locs : List Loc} {ls : Array Slot} {cells slots : Nat} (hcl : cells + 100 ≤ 1200144) (hsl : slots + 2300 ≤ 5496634) (hin : LIn i3 L) (hI : LInv G Rel s b b0 i3 H locs ls)
    (kk : ∀ (H1 : Heap) (locs1 : List Loc) (ls1 : Array Slot), LInv G Rel s b b0 i3 H1 locs1 ls1 → lwW p l e s m b below meth c H1 locs1 (cells + 100) (slots + 2300) (F0 m 1637 ls1 [])) : lwW p l e s m b below meth c H locs cells slots (F0 m 964 ls []) := by
  obtain ⟨hx, hb, hml, hown, hts, hK, hX, hbl, hb0, hZ, hZX, hZL, hZP, hZN, hZC, hl0, hgB⟩ := id W0
  obtain ⟨vx, vp, vm, hWx, hWp, hWm, hR, hG, hS, hl⟩ := hI
  obtain ⟨h1, h2, h3, h4, h5⟩ := hin
  have hbA : ¬ (fun q : Nat => s.heap.size ≤ q) b := Nat.not_le.mpr hbl
  refine lv_aload_n (pc := 964) hx hb dL_law_964 rfl (lv_at hl 1 rfl) ?_
  refine lv_aload_n (pc := 965) hx hb dL_law_965 rfl (lv_at hl 0 rfl) ?_
  refine lv_iload_n (pc := 966) hx hb dL_law_966 rfl (lv_at hl 3 rfl) ?_
  refine lv_iconst (pc := 967) (v := (1 : Int32)) hx hb dL_law_967 (by decide) ?_
  refine lv_iadd (pc := 968) hx hb dL_law_968 ?_
  refine va_sld (pc := 969) hx hb hX hbl hbA hS h1 dL_law_969 ?_
  refine lv_aload_n (pc := 970) hx hb dL_law_970 rfl (lv_at hl 0 rfl) ?_
  refine lv_iload_n (pc := 971) hx hb dL_law_971 rfl (lv_at hl 3 rfl) ?_
  refine lv_iconst (pc := 972) (v := (2 : Int32)) hx hb dL_law_972 (by decide) ?_
  refine lv_iadd (pc := 973) hx hb dL_law_973 ?_
  refine va_sld (pc := 974) hx hb hX hbl hbA hS h2 dL_law_974 ?_
  obtain ⟨rx, rc, wx, um, hq, hm, hR2⟩ := hOK.2.2.2.2.2.2.2.2.2.2.2.2.2.2.2.2.2.2.2.2.2.2.2.2.2.2.2.1 vx vp H.size vm (xs (i3 + (1 : Int32)).toNatClampNeg) (xs (i3 + (2 : Int32)).toNatClampNeg) hR
  refine rk_TV (pc := 975) (As := [.int (xs (i3 + (1 : Int32)).toNatClampNeg), .int (xs (i3 + (2 : Int32)).toNatClampNeg)]) (rest := []) (mc := 1) (ms := 7) hx hb hml hown hts hK hS (fun q hq => hq) lkL_128 rfl yn_X0_would (ct_X0_would (G := G) (l := l) (b0 := b0) (sz := H.size) hq hZ (by omega)) ⟨Nat.le_of_ble_eq_true rfl, Nat.le_of_ble_eq_true rfl⟩ (fun z h => by have h8 := h.1.1; omega) (rk_recv hK hWx 0 (by decide) rfl rfl rfl) ⟨hWx, hG⟩ rfl rfl hl.1 (Nat.le_of_ble_eq_true rfl) dL_law_975 ⟨by show _ ≤ 1200144; omega, by show _ ≤ 5496634; omega⟩ (fun ov9 H1 locs1 hP1 hk1 hS1 => ?_)
  obtain ⟨rfl, hWx1, hz1⟩ := hP1
  have hWp1 := pl_keepA hWp hk1 (fun z h0 h3 => PLs_X z h0 h3)
  have hWm1 := rg_keepA hWm hk1 (by intro z h1 h2 h3; have h8 := h3.1.1; have h9 := h3.1.2; omega)
  have hG1 := GO_keepA hG hk1 (by have h8 := hS.1; omega) (by intro z h3; have h8 := h3.1.1; omega)
  refine W.eq (g2 := F0 m 978 ls [.int rx]) rfl ?_
  refine lv_aload_n (pc := 978) hx hb dL_law_978 rfl (lv_at hl 2 rfl) ?_
  refine lv_aload_n (pc := 979) hx hb dL_law_979 rfl (lv_at hl 0 rfl) ?_
  refine lv_iload_n (pc := 980) hx hb dL_law_980 rfl (lv_at hl 3 rfl) ?_
  refine lv_iconst (pc := 981) (v := (1 : Int32)) hx hb dL_law_981 (by decide) ?_
  refine lv_iadd (pc := 982) hx hb dL_law_982 ?_
  refine va_sld (pc := 983) hx hb hX hbl hbA hS1 h1 dL_law_983 ?_
  refine lv_aload_n (pc := 984) hx hb dL_law_984 rfl (lv_at hl 0 rfl) ?_
  refine lv_iload_n (pc := 985) hx hb dL_law_985 rfl (lv_at hl 3 rfl) ?_
  refine lv_iconst (pc := 986) (v := (2 : Int32)) hx hb dL_law_986 (by decide) ?_
  refine lv_iadd (pc := 987) hx hb dL_law_987 ?_
  refine va_sld (pc := 988) hx hb hX hbl hbA hS1 h2 dL_law_988 ?_
  refine rk_TV (pc := 989) (As := [.int (xs (i3 + (1 : Int32)).toNatClampNeg), .int (xs (i3 + (2 : Int32)).toNatClampNeg)]) (rest := [.int rx]) (mc := 0) (ms := 0) hx hb hml hown hts hK hS1 (fun q hq => hq) lkL_131 rfl yn_X9_would (ct_X9_would (G := G) (l := l) (b0 := b0 + 357) (sz := H1.size) hm) ⟨Nat.le_of_ble_eq_true rfl, Nat.le_of_ble_eq_true rfl⟩ (fun z h => by have h8 := h.1; omega) (rk_recv hK hWm1 0 (by decide) rfl rfl rfl) hWm1 rfl rfl hl.1 (Nat.le_of_ble_eq_true rfl) dL_law_989 ⟨by show _ ≤ 1200144; omega, by show _ ≤ 5496634; omega⟩ (fun ov8 H2 locs2 hP2 hk2 hS2 => ?_)
  obtain ⟨rfl, hWm2, hz2⟩ := hP2
  have hWx2 := rg_keepX hWx1 hk2 (fun z h0 h3 => by have h8 := h0.1.2; have h9 := h3.1; omega)
  have hWp2 := pl_keepA hWp1 hk2 (fun z h0 h3 => PLs_m z h0 h3)
  have hG2 := GO_keepA hG1 hk2 (by have h8 := hS1.1; omega) (by intro z h3; have h8 := h3.1; omega)
  refine W.eq (g2 := F0 m 992 ls [.int rx, .int rx]) rfl ?_
  refine lv_icmp_eq (pc := 992) (tgt := 1637) hx hb dL_law_992 (by decide) (fun _ => ?_) (fun h => absurd rfl h)
  have hR9 : Rel wx vp H2.size um := by rw [show H2.size = H.size + rc by omega]; exact hR2
  exact rk_widen (by omega) (by omega) (kk H2 locs2 ls ⟨_, _, _, hWx2, hWp2, hWm2, hR9, hG2, hS2, hl⟩)
theorem lkL_132 : LV R_law 132 RX0 yX0_see cX0_see 3 (some .int) := ⟨q1296, q1297, q1298, q114, q1299⟩
theorem yn_X0_see : YN yX0_see 2 := by
  unfold YN
  decide +kernel
theorem lkL_135 : LV R_law 135 RX9 yX9_see cX9_see 3 (some .int) := ⟨q2267, q2268, q2269, q128, q2270⟩
theorem yn_X9_see : YN yX9_see 2 := by
  unfold YN
  decide +kernel
set_option maxHeartbeats 4000000 in
theorem lc_28 {p : Program} {l : Launch} {e : Env} {s : State} {m : MethodId} {below : List Frame} {meth : Method} {c : Code} {G : Gv} {b L b0 : Nat} {xs : Nat → Int32} {Rel : Mem → Mem → Nat → Mem → Prop} (W0 : LWd G p l s m c b L xs b0) (hOK : LawOK b0 Rel) {i3 : Int32} {H : Heap} {locs : List Loc} {ls : Array Slot} {cells slots : Nat} (hcl : cells + 100 ≤ 1200144) (hsl : slots + 2300 ≤ 5496634) (hin : LIn i3 L) (hI : LInv G Rel s b b0 i3 H locs ls)
    (kk : ∀ (H1 : Heap) (locs1 : List Loc) (ls1 : Array Slot), LInv G Rel s b b0 i3 H1 locs1 ls1 → lwW p l e s m b below meth c H1 locs1 (cells + 100) (slots + 2300) (F0 m 1637 ls1 [])) : lwW p l e s m b below meth c H locs cells slots (F0 m 997 ls []) := by
  obtain ⟨hx, hb, hml, hown, hts, hK, hX, hbl, hb0, hZ, hZX, hZL, hZP, hZN, hZC, hl0, hgB⟩ := id W0
  obtain ⟨vx, vp, vm, hWx, hWp, hWm, hR, hG, hS, hl⟩ := hI
  obtain ⟨h1, h2, h3, h4, h5⟩ := hin
  have hbA : ¬ (fun q : Nat => s.heap.size ≤ q) b := Nat.not_le.mpr hbl
  refine lv_aload_n (pc := 997) hx hb dL_law_997 rfl (lv_at hl 1 rfl) ?_
  refine lv_aload_n (pc := 998) hx hb dL_law_998 rfl (lv_at hl 0 rfl) ?_
  refine lv_iload_n (pc := 999) hx hb dL_law_999 rfl (lv_at hl 3 rfl) ?_
  refine lv_iconst (pc := 1000) (v := (1 : Int32)) hx hb dL_law_1000 (by decide) ?_
  refine lv_iadd (pc := 1001) hx hb dL_law_1001 ?_
  refine va_sld (pc := 1002) hx hb hX hbl hbA hS h1 dL_law_1002 ?_
  refine lv_aload_n (pc := 1003) hx hb dL_law_1003 rfl (lv_at hl 0 rfl) ?_
  refine lv_iload_n (pc := 1004) hx hb dL_law_1004 rfl (lv_at hl 3 rfl) ?_
  refine lv_iconst (pc := 1005) (v := (2 : Int32)) hx hb dL_law_1005 (by decide) ?_
  refine lv_iadd (pc := 1006) hx hb dL_law_1006 ?_
  refine va_sld (pc := 1007) hx hb hX hbl hbA hS h2 dL_law_1007 ?_
  obtain ⟨rx, wx, um, hq, hm, hR2⟩ := hOK.2.2.2.2.2.2.2.2.2.2.2.2.2.2.2.2.2.2.2.2.2.2.2.2.2.2.2.2.1 vx vp H.size vm (xs (i3 + (1 : Int32)).toNatClampNeg) (xs (i3 + (2 : Int32)).toNatClampNeg) hR
  refine rk_TV (pc := 1008) (As := [.int (xs (i3 + (1 : Int32)).toNatClampNeg), .int (xs (i3 + (2 : Int32)).toNatClampNeg)]) (rest := []) (mc := 0) (ms := 0) hx hb hml hown hts hK hS (fun q hq => hq) lkL_132 rfl yn_X0_see (ct_X0_see (G := G) (l := l) (b0 := b0) (sz := H.size) hq) ⟨Nat.le_of_ble_eq_true rfl, Nat.le_of_ble_eq_true rfl⟩ (fun z h => by have h8 := h.1.1; omega) (rk_recv hK hWx 0 (by decide) rfl rfl rfl) hWx rfl rfl hl.1 (Nat.le_of_ble_eq_true rfl) dL_law_1008 ⟨by show _ ≤ 1200144; omega, by show _ ≤ 5496634; omega⟩ (fun ov9 H1 locs1 hP1 hk1 hS1 => ?_)
  obtain ⟨rfl, hWx1, hz1⟩ := hP1
  have hWp1 := pl_keepA hWp hk1 (fun z h0 h3 => PLs_X z h0 h3)
  have hWm1 := rg_keepA hWm hk1 (by intro z h1 h2 h3; have h8 := h3.1.1; have h9 := h3.1.2; omega)
  have hG1 := GO_keepA hG hk1 (by have h8 := hS.1; omega) (by intro z h3; have h8 := h3.1.1; omega)
  refine W.eq (g2 := F0 m 1011 ls [.int rx]) rfl ?_
  refine lv_aload_n (pc := 1011) hx hb dL_law_1011 rfl (lv_at hl 2 rfl) ?_
  refine lv_aload_n (pc := 1012) hx hb dL_law_1012 rfl (lv_at hl 0 rfl) ?_
  refine lv_iload_n (pc := 1013) hx hb dL_law_1013 rfl (lv_at hl 3 rfl) ?_
  refine lv_iconst (pc := 1014) (v := (1 : Int32)) hx hb dL_law_1014 (by decide) ?_
  refine lv_iadd (pc := 1015) hx hb dL_law_1015 ?_
  refine va_sld (pc := 1016) hx hb hX hbl hbA hS1 h1 dL_law_1016 ?_
  refine lv_aload_n (pc := 1017) hx hb dL_law_1017 rfl (lv_at hl 0 rfl) ?_
  refine lv_iload_n (pc := 1018) hx hb dL_law_1018 rfl (lv_at hl 3 rfl) ?_
  refine lv_iconst (pc := 1019) (v := (2 : Int32)) hx hb dL_law_1019 (by decide) ?_
  refine lv_iadd (pc := 1020) hx hb dL_law_1020 ?_
  refine va_sld (pc := 1021) hx hb hX hbl hbA hS1 h2 dL_law_1021 ?_
  refine rk_TV (pc := 1022) (As := [.int (xs (i3 + (1 : Int32)).toNatClampNeg), .int (xs (i3 + (2 : Int32)).toNatClampNeg)]) (rest := [.int rx]) (mc := 0) (ms := 0) hx hb hml hown hts hK hS1 (fun q hq => hq) lkL_135 rfl yn_X9_see (ct_X9_see (G := G) (l := l) (b0 := b0 + 357) (sz := H1.size) hm) ⟨Nat.le_of_ble_eq_true rfl, Nat.le_of_ble_eq_true rfl⟩ (fun z h => by have h8 := h.1; omega) (rk_recv hK hWm1 0 (by decide) rfl rfl rfl) hWm1 rfl rfl hl.1 (Nat.le_of_ble_eq_true rfl) dL_law_1022 ⟨by show _ ≤ 1200144; omega, by show _ ≤ 5496634; omega⟩ (fun ov8 H2 locs2 hP2 hk2 hS2 => ?_)
  obtain ⟨rfl, hWm2, hz2⟩ := hP2
  have hWx2 := rg_keepX hWx1 hk2 (fun z h0 h3 => by have h8 := h0.1.2; have h9 := h3.1; omega)
  have hWp2 := pl_keepA hWp1 hk2 (fun z h0 h3 => PLs_m z h0 h3)
  have hG2 := GO_keepA hG1 hk2 (by have h8 := hS1.1; omega) (by intro z h3; have h8 := h3.1; omega)
  refine W.eq (g2 := F0 m 1025 ls [.int rx, .int rx]) rfl ?_
  refine lv_icmp_eq (pc := 1025) (tgt := 1637) hx hb dL_law_1025 (by decide) (fun _ => ?_) (fun h => absurd rfl h)
  have hR9 : Rel wx vp H2.size um := by rw [show H2.size = H.size by omega]; exact hR2
  exact rk_widen (by omega) (by omega) (kk H2 locs2 ls ⟨_, _, _, hWx2, hWp2, hWm2, hR9, hG2, hS2, hl⟩)
theorem lkL_136 : LV R_law 136 RX0 yX0_fits cX0_fits 6 (some .int) := ⟨q1300, q1301, q1302, q114, q1303⟩
theorem yn_X0_fits : YN yX0_fits 2 := by
  unfold YN
  decide +kernel
theorem lkL_139 : LV R_law 139 RX9 yX9_fits cX9_fits 6 (some .int) := ⟨q2271, q2272, q2273, q128, q2274⟩
theorem yn_X9_fits : YN yX9_fits 2 := by
  unfold YN
  decide +kernel
set_option maxHeartbeats 4000000 in
theorem lc_29 {p : Program} {l : Launch} {e : Env} {s : State} {m : MethodId} {below : List Frame} {meth : Method} {c : Code} {G : Gv} {b L b0 : Nat} {xs : Nat → Int32} {Rel : Mem → Mem → Nat → Mem → Prop} (W0 : LWd G p l s m c b L xs b0) (hOK : LawOK b0 Rel) {i3 : Int32} {H : Heap} {locs : List Loc} {ls : Array Slot} {cells slots : Nat} (hcl : cells + 100 ≤ 1200144) (hsl : slots + 2300 ≤ 5496634) (hin : LIn i3 L) (hI : LInv G Rel s b b0 i3 H locs ls)
    (kk : ∀ (H1 : Heap) (locs1 : List Loc) (ls1 : Array Slot), LInv G Rel s b b0 i3 H1 locs1 ls1 → lwW p l e s m b below meth c H1 locs1 (cells + 100) (slots + 2300) (F0 m 1637 ls1 [])) : lwW p l e s m b below meth c H locs cells slots (F0 m 1030 ls []) := by
  obtain ⟨hx, hb, hml, hown, hts, hK, hX, hbl, hb0, hZ, hZX, hZL, hZP, hZN, hZC, hl0, hgB⟩ := id W0
  obtain ⟨vx, vp, vm, hWx, hWp, hWm, hR, hG, hS, hl⟩ := hI
  obtain ⟨h1, h2, h3, h4, h5⟩ := hin
  have hbA : ¬ (fun q : Nat => s.heap.size ≤ q) b := Nat.not_le.mpr hbl
  refine lv_aload_n (pc := 1030) hx hb dL_law_1030 rfl (lv_at hl 1 rfl) ?_
  refine lv_aload_n (pc := 1031) hx hb dL_law_1031 rfl (lv_at hl 0 rfl) ?_
  refine lv_iload_n (pc := 1032) hx hb dL_law_1032 rfl (lv_at hl 3 rfl) ?_
  refine lv_iconst (pc := 1033) (v := (1 : Int32)) hx hb dL_law_1033 (by decide) ?_
  refine lv_iadd (pc := 1034) hx hb dL_law_1034 ?_
  refine va_sld (pc := 1035) hx hb hX hbl hbA hS h1 dL_law_1035 ?_
  refine lv_aload_n (pc := 1036) hx hb dL_law_1036 rfl (lv_at hl 0 rfl) ?_
  refine lv_iload_n (pc := 1037) hx hb dL_law_1037 rfl (lv_at hl 3 rfl) ?_
  refine lv_iconst (pc := 1038) (v := (2 : Int32)) hx hb dL_law_1038 (by decide) ?_
  refine lv_iadd (pc := 1039) hx hb dL_law_1039 ?_
  refine va_sld (pc := 1040) hx hb hX hbl hbA hS h2 dL_law_1040 ?_
  obtain ⟨rx, rc, wx, um, hq, hm, hR2⟩ := hOK.2.2.2.2.2.2.2.2.2.2.2.2.2.2.2.2.2.2.2.2.2.2.2.2.2.2.2.2.2.1 vx vp H.size vm (xs (i3 + (1 : Int32)).toNatClampNeg) (xs (i3 + (2 : Int32)).toNatClampNeg) hR
  refine rk_TV (pc := 1041) (As := [.int (xs (i3 + (1 : Int32)).toNatClampNeg), .int (xs (i3 + (2 : Int32)).toNatClampNeg)]) (rest := []) (mc := 10) (ms := 70) hx hb hml hown hts hK hS (fun q hq => hq) lkL_136 rfl yn_X0_fits (ct_X0_fits (G := G) (l := l) (b0 := b0) (sz := H.size) hq hZ (by omega)) ⟨Nat.le_of_ble_eq_true rfl, Nat.le_of_ble_eq_true rfl⟩ (fun z h => by have h8 := h.1.1; omega) (rk_recv hK hWx 0 (by decide) rfl rfl rfl) ⟨hWx, hG⟩ rfl rfl hl.1 (Nat.le_of_ble_eq_true rfl) dL_law_1041 ⟨by show _ ≤ 1200144; omega, by show _ ≤ 5496634; omega⟩ (fun ov9 H1 locs1 hP1 hk1 hS1 => ?_)
  obtain ⟨rfl, hWx1, hz1⟩ := hP1
  have hWp1 := pl_keepA hWp hk1 (fun z h0 h3 => PLs_X z h0 h3)
  have hWm1 := rg_keepA hWm hk1 (by intro z h1 h2 h3; have h8 := h3.1.1; have h9 := h3.1.2; omega)
  have hG1 := GO_keepA hG hk1 (by have h8 := hS.1; omega) (by intro z h3; have h8 := h3.1.1; omega)
  refine W.eq (g2 := F0 m 1044 ls [.int rx]) rfl ?_
  refine lv_aload_n (pc := 1044) hx hb dL_law_1044 rfl (lv_at hl 2 rfl) ?_
  refine lv_aload_n (pc := 1045) hx hb dL_law_1045 rfl (lv_at hl 0 rfl) ?_
  refine lv_iload_n (pc := 1046) hx hb dL_law_1046 rfl (lv_at hl 3 rfl) ?_
  refine lv_iconst (pc := 1047) (v := (1 : Int32)) hx hb dL_law_1047 (by decide) ?_
  refine lv_iadd (pc := 1048) hx hb dL_law_1048 ?_
  refine va_sld (pc := 1049) hx hb hX hbl hbA hS1 h1 dL_law_1049 ?_
  refine lv_aload_n (pc := 1050) hx hb dL_law_1050 rfl (lv_at hl 0 rfl) ?_
  refine lv_iload_n (pc := 1051) hx hb dL_law_1051 rfl (lv_at hl 3 rfl) ?_
  refine lv_iconst (pc := 1052) (v := (2 : Int32)) hx hb dL_law_1052 (by decide) ?_
  refine lv_iadd (pc := 1053) hx hb dL_law_1053 ?_
  refine va_sld (pc := 1054) hx hb hX hbl hbA hS1 h2 dL_law_1054 ?_
  refine rk_TV (pc := 1055) (As := [.int (xs (i3 + (1 : Int32)).toNatClampNeg), .int (xs (i3 + (2 : Int32)).toNatClampNeg)]) (rest := [.int rx]) (mc := 0) (ms := 0) hx hb hml hown hts hK hS1 (fun q hq => hq) lkL_139 rfl yn_X9_fits (ct_X9_fits (G := G) (l := l) (b0 := b0 + 357) (sz := H1.size) hm) ⟨Nat.le_of_ble_eq_true rfl, Nat.le_of_ble_eq_true rfl⟩ (fun z h => by have h8 := h.1; omega) (rk_recv hK hWm1 0 (by decide) rfl rfl rfl) hWm1 rfl rfl hl.1 (Nat.le_of_ble_eq_true rfl) dL_law_1055 ⟨by show _ ≤ 1200144; omega, by show _ ≤ 5496634; omega⟩ (fun ov8 H2 locs2 hP2 hk2 hS2 => ?_)
  obtain ⟨rfl, hWm2, hz2⟩ := hP2
  have hWx2 := rg_keepX hWx1 hk2 (fun z h0 h3 => by have h8 := h0.1.2; have h9 := h3.1; omega)
  have hWp2 := pl_keepA hWp1 hk2 (fun z h0 h3 => PLs_m z h0 h3)
  have hG2 := GO_keepA hG1 hk2 (by have h8 := hS1.1; omega) (by intro z h3; have h8 := h3.1; omega)
  refine W.eq (g2 := F0 m 1058 ls [.int rx, .int rx]) rfl ?_
  refine lv_icmp_eq (pc := 1058) (tgt := 1637) hx hb dL_law_1058 (by decide) (fun _ => ?_) (fun h => absurd rfl h)
  have hR9 : Rel wx vp H2.size um := by rw [show H2.size = H.size + rc by omega]; exact hR2
  exact rk_widen (by omega) (by omega) (kk H2 locs2 ls ⟨_, _, _, hWx2, hWp2, hWm2, hR9, hG2, hS2, hl⟩)
theorem lkL_140 : LV R_law 140 RX0 yX0_odds cX0_odds 8 (some .long) := ⟨q1308, q1309, q1310, q114, q1311⟩
theorem yn_X0_odds : YN yX0_odds 5 := by
  unfold YN
  decide +kernel
theorem lkL_144 : LV R_law 144 RX9 yX9_odds cX9_odds 8 (some .long) := ⟨q2279, q2280, q2281, q128, q2282⟩
theorem yn_X9_odds : YN yX9_odds 5 := by
  unfold YN
  decide +kernel
set_option maxHeartbeats 4000000 in
theorem lc_30 {p : Program} {l : Launch} {e : Env} {s : State} {m : MethodId} {below : List Frame} {meth : Method} {c : Code} {G : Gv} {b L b0 : Nat} {xs : Nat → Int32} {Rel : Mem → Mem → Nat → Mem → Prop} (W0 : LWd G p l s m c b L xs b0) (hOK : LawOK b0 Rel) {i3 : Int32} {H : Heap} {locs : List Loc} {ls : Array Slot} {cells slots : Nat} (hcl : cells + 100 ≤ 1200144) (hsl : slots + 2300 ≤ 5496634) (hin : LIn i3 L) (hI : LInv G Rel s b b0 i3 H locs ls)
    (kk : ∀ (H1 : Heap) (locs1 : List Loc) (ls1 : Array Slot), LInv G Rel s b b0 i3 H1 locs1 ls1 → lwW p l e s m b below meth c H1 locs1 (cells + 100) (slots + 2300) (F0 m 1637 ls1 [])) : lwW p l e s m b below meth c H locs cells slots (F0 m 1063 ls []) := by
  obtain ⟨hx, hb, hml, hown, hts, hK, hX, hbl, hb0, hZ, hZX, hZL, hZP, hZN, hZC, hl0, hgB⟩ := id W0
  obtain ⟨vx, vp, vm, hWx, hWp, hWm, hR, hG, hS, hl⟩ := hI
  obtain ⟨h1, h2, h3, h4, h5⟩ := hin
  have hbA : ¬ (fun q : Nat => s.heap.size ≤ q) b := Nat.not_le.mpr hbl
  refine lv_aload_n (pc := 1063) hx hb dL_law_1063 rfl (lv_at hl 1 rfl) ?_
  refine lv_aload_n (pc := 1064) hx hb dL_law_1064 rfl (lv_at hl 0 rfl) ?_
  refine lv_iload_n (pc := 1065) hx hb dL_law_1065 rfl (lv_at hl 3 rfl) ?_
  refine lv_iconst (pc := 1066) (v := (1 : Int32)) hx hb dL_law_1066 (by decide) ?_
  refine lv_iadd (pc := 1067) hx hb dL_law_1067 ?_
  refine va_sld (pc := 1068) hx hb hX hbl hbA hS h1 dL_law_1068 ?_
  refine lv_aload_n (pc := 1069) hx hb dL_law_1069 rfl (lv_at hl 0 rfl) ?_
  refine lv_iload_n (pc := 1070) hx hb dL_law_1070 rfl (lv_at hl 3 rfl) ?_
  refine lv_iconst (pc := 1071) (v := (2 : Int32)) hx hb dL_law_1071 (by decide) ?_
  refine lv_iadd (pc := 1072) hx hb dL_law_1072 ?_
  refine va_sld (pc := 1073) hx hb hX hbl hbA hS h2 dL_law_1073 ?_
  refine lv_aload_n (pc := 1074) hx hb dL_law_1074 rfl (lv_at hl 0 rfl) ?_
  refine lv_iload_n (pc := 1075) hx hb dL_law_1075 rfl (lv_at hl 3 rfl) ?_
  refine lv_iconst (pc := 1076) (v := (3 : Int32)) hx hb dL_law_1076 (by decide) ?_
  refine lv_iadd (pc := 1077) hx hb dL_law_1077 ?_
  refine va_sld (pc := 1078) hx hb hX hbl hbA hS h3 dL_law_1078 ?_
  refine lv_aload_n (pc := 1079) hx hb dL_law_1079 rfl (lv_at hl 0 rfl) ?_
  refine lv_iload_n (pc := 1080) hx hb dL_law_1080 rfl (lv_at hl 3 rfl) ?_
  refine lv_iconst (pc := 1081) (v := (4 : Int32)) hx hb dL_law_1081 (by decide) ?_
  refine lv_iadd (pc := 1082) hx hb dL_law_1082 ?_
  refine va_sld (pc := 1083) hx hb hX hbl hbA hS h4 dL_law_1083 ?_
  refine lv_aload_n (pc := 1084) hx hb dL_law_1084 rfl (lv_at hl 0 rfl) ?_
  refine lv_iload_n (pc := 1085) hx hb dL_law_1085 rfl (lv_at hl 3 rfl) ?_
  refine lv_iconst (pc := 1086) (v := (5 : Int32)) hx hb dL_law_1086 (by decide) ?_
  refine lv_iadd (pc := 1087) hx hb dL_law_1087 ?_
  refine va_sld (pc := 1088) hx hb hX hbl hbA hS h5 dL_law_1088 ?_
  obtain ⟨rx, rc, wx, um, hq, hm, hR2⟩ := hOK.2.2.2.2.2.2.2.2.2.2.2.2.2.2.2.2.2.2.2.2.2.2.2.2.2.2.2.2.2.2.1 vx vp H.size vm (xs (i3 + (1 : Int32)).toNatClampNeg) (xs (i3 + (2 : Int32)).toNatClampNeg) (xs (i3 + (3 : Int32)).toNatClampNeg) (xs (i3 + (4 : Int32)).toNatClampNeg) (xs (i3 + (5 : Int32)).toNatClampNeg) hR
  refine rk_TV (pc := 1089) (As := [.int (xs (i3 + (1 : Int32)).toNatClampNeg), .int (xs (i3 + (2 : Int32)).toNatClampNeg), .int (xs (i3 + (3 : Int32)).toNatClampNeg), .int (xs (i3 + (4 : Int32)).toNatClampNeg), .int (xs (i3 + (5 : Int32)).toNatClampNeg)]) (rest := []) (mc := 8) (ms := 56) hx hb hml hown hts hK hS (fun q hq => hq) lkL_140 rfl yn_X0_odds (ct_X0_odds (G := G) (l := l) (b0 := b0) (sz := H.size) hq hZ (by omega)) ⟨Nat.le_of_ble_eq_true rfl, Nat.le_of_ble_eq_true rfl⟩ (fun z h => by have h8 := h.1.1; omega) (rk_recv hK hWx 0 (by decide) rfl rfl rfl) ⟨hWx, hG⟩ rfl rfl hl.1 (Nat.le_of_ble_eq_true rfl) dL_law_1089 ⟨by show _ ≤ 1200144; omega, by show _ ≤ 5496634; omega⟩ (fun ov9 H1 locs1 hP1 hk1 hS1 => ?_)
  obtain ⟨rfl, hWx1, hz1⟩ := hP1
  have hWp1 := pl_keepA hWp hk1 (fun z h0 h3 => PLs_X z h0 h3)
  have hWm1 := rg_keepA hWm hk1 (by intro z h1 h2 h3; have h8 := h3.1.1; have h9 := h3.1.2; omega)
  have hG1 := GO_keepA hG hk1 (by have h8 := hS.1; omega) (by intro z h3; have h8 := h3.1.1; omega)
  refine W.eq (g2 := F0 m 1092 ls [.long rx]) rfl ?_
  refine lv_aload_n (pc := 1092) hx hb dL_law_1092 rfl (lv_at hl 2 rfl) ?_
  refine lv_aload_n (pc := 1093) hx hb dL_law_1093 rfl (lv_at hl 0 rfl) ?_
  refine lv_iload_n (pc := 1094) hx hb dL_law_1094 rfl (lv_at hl 3 rfl) ?_
  refine lv_iconst (pc := 1095) (v := (1 : Int32)) hx hb dL_law_1095 (by decide) ?_
  refine lv_iadd (pc := 1096) hx hb dL_law_1096 ?_
  refine va_sld (pc := 1097) hx hb hX hbl hbA hS1 h1 dL_law_1097 ?_
  refine lv_aload_n (pc := 1098) hx hb dL_law_1098 rfl (lv_at hl 0 rfl) ?_
  refine lv_iload_n (pc := 1099) hx hb dL_law_1099 rfl (lv_at hl 3 rfl) ?_
  refine lv_iconst (pc := 1100) (v := (2 : Int32)) hx hb dL_law_1100 (by decide) ?_
  refine lv_iadd (pc := 1101) hx hb dL_law_1101 ?_
  refine va_sld (pc := 1102) hx hb hX hbl hbA hS1 h2 dL_law_1102 ?_
  refine lv_aload_n (pc := 1103) hx hb dL_law_1103 rfl (lv_at hl 0 rfl) ?_
  refine lv_iload_n (pc := 1104) hx hb dL_law_1104 rfl (lv_at hl 3 rfl) ?_
  refine lv_iconst (pc := 1105) (v := (3 : Int32)) hx hb dL_law_1105 (by decide) ?_
  refine lv_iadd (pc := 1106) hx hb dL_law_1106 ?_
  refine va_sld (pc := 1107) hx hb hX hbl hbA hS1 h3 dL_law_1107 ?_
  refine lv_aload_n (pc := 1108) hx hb dL_law_1108 rfl (lv_at hl 0 rfl) ?_
  refine lv_iload_n (pc := 1109) hx hb dL_law_1109 rfl (lv_at hl 3 rfl) ?_
  refine lv_iconst (pc := 1110) (v := (4 : Int32)) hx hb dL_law_1110 (by decide) ?_
  refine lv_iadd (pc := 1111) hx hb dL_law_1111 ?_
  refine va_sld (pc := 1112) hx hb hX hbl hbA hS1 h4 dL_law_1112 ?_
  refine lv_aload_n (pc := 1113) hx hb dL_law_1113 rfl (lv_at hl 0 rfl) ?_
  refine lv_iload_n (pc := 1114) hx hb dL_law_1114 rfl (lv_at hl 3 rfl) ?_
  refine lv_iconst (pc := 1115) (v := (5 : Int32)) hx hb dL_law_1115 (by decide) ?_
  refine lv_iadd (pc := 1116) hx hb dL_law_1116 ?_
  refine va_sld (pc := 1117) hx hb hX hbl hbA hS1 h5 dL_law_1117 ?_
  refine rk_TV (pc := 1118) (As := [.int (xs (i3 + (1 : Int32)).toNatClampNeg), .int (xs (i3 + (2 : Int32)).toNatClampNeg), .int (xs (i3 + (3 : Int32)).toNatClampNeg), .int (xs (i3 + (4 : Int32)).toNatClampNeg), .int (xs (i3 + (5 : Int32)).toNatClampNeg)]) (rest := [.long rx]) (mc := 0) (ms := 0) hx hb hml hown hts hK hS1 (fun q hq => hq) lkL_144 rfl yn_X9_odds (ct_X9_odds (G := G) (l := l) (b0 := b0 + 357) (sz := H1.size) hm) ⟨Nat.le_of_ble_eq_true rfl, Nat.le_of_ble_eq_true rfl⟩ (fun z h => by have h8 := h.1; omega) (rk_recv hK hWm1 0 (by decide) rfl rfl rfl) hWm1 rfl rfl hl.1 (Nat.le_of_ble_eq_true rfl) dL_law_1118 ⟨by show _ ≤ 1200144; omega, by show _ ≤ 5496634; omega⟩ (fun ov8 H2 locs2 hP2 hk2 hS2 => ?_)
  obtain ⟨rfl, hWm2, hz2⟩ := hP2
  have hWx2 := rg_keepX hWx1 hk2 (fun z h0 h3 => by have h8 := h0.1.2; have h9 := h3.1; omega)
  have hWp2 := pl_keepA hWp1 hk2 (fun z h0 h3 => PLs_m z h0 h3)
  have hG2 := GO_keepA hG1 hk2 (by have h8 := hS1.1; omega) (by intro z h3; have h8 := h3.1; omega)
  refine W.eq (g2 := F0 m 1121 ls [.long rx, .long rx]) rfl ?_
  refine rk_lcmp_eq (pc := 1121) (tgt := 1637) hx hb dL_law_1121 rfl dL_law_1122 (by decide) (fun _ => ?_) (fun h => absurd rfl h)
  have hR9 : Rel wx vp H2.size um := by rw [show H2.size = H.size + rc by omega]; exact hR2
  exact rk_widen (by omega) (by omega) (kk H2 locs2 ls ⟨_, _, _, hWx2, hWp2, hWm2, hR9, hG2, hS2, hl⟩)
theorem lkL_145 : LV R_law 145 RX0 yX0_mean cX0_mean 4 (some .long) := ⟨q1316, q1317, q1318, q114, q1319⟩
theorem yn_X0_mean : YN yX0_mean 1 := by
  unfold YN
  decide +kernel
theorem lkL_148 : LV R_law 148 RX9 yX9_mean cX9_mean 4 (some .long) := ⟨q2284, q2285, q2286, q128, q2287⟩
theorem yn_X9_mean : YN yX9_mean 1 := by
  unfold YN
  decide +kernel
set_option maxHeartbeats 4000000 in
theorem lc_31 {p : Program} {l : Launch} {e : Env} {s : State} {m : MethodId} {below : List Frame} {meth : Method} {c : Code} {G : Gv} {b L b0 : Nat} {xs : Nat → Int32} {Rel : Mem → Mem → Nat → Mem → Prop} (W0 : LWd G p l s m c b L xs b0) (hOK : LawOK b0 Rel) {i3 : Int32} {H : Heap} {locs : List Loc} {ls : Array Slot} {cells slots : Nat} (hcl : cells + 100 ≤ 1200144) (hsl : slots + 2300 ≤ 5496634) (hin : LIn i3 L) (hI : LInv G Rel s b b0 i3 H locs ls)
    (kk : ∀ (H1 : Heap) (locs1 : List Loc) (ls1 : Array Slot), LInv G Rel s b b0 i3 H1 locs1 ls1 → lwW p l e s m b below meth c H1 locs1 (cells + 100) (slots + 2300) (F0 m 1637 ls1 [])) : lwW p l e s m b below meth c H locs cells slots (F0 m 1127 ls []) := by
  obtain ⟨hx, hb, hml, hown, hts, hK, hX, hbl, hb0, hZ, hZX, hZL, hZP, hZN, hZC, hl0, hgB⟩ := id W0
  obtain ⟨vx, vp, vm, hWx, hWp, hWm, hR, hG, hS, hl⟩ := hI
  obtain ⟨h1, h2, h3, h4, h5⟩ := hin
  have hbA : ¬ (fun q : Nat => s.heap.size ≤ q) b := Nat.not_le.mpr hbl
  refine lv_aload_n (pc := 1127) hx hb dL_law_1127 rfl (lv_at hl 1 rfl) ?_
  refine lv_aload_n (pc := 1128) hx hb dL_law_1128 rfl (lv_at hl 0 rfl) ?_
  refine lv_iload_n (pc := 1129) hx hb dL_law_1129 rfl (lv_at hl 3 rfl) ?_
  refine lv_iconst (pc := 1130) (v := (1 : Int32)) hx hb dL_law_1130 (by decide) ?_
  refine lv_iadd (pc := 1131) hx hb dL_law_1131 ?_
  refine va_sld (pc := 1132) hx hb hX hbl hbA hS h1 dL_law_1132 ?_
  obtain ⟨rx, hq, hm⟩ := hOK.2.2.2.2.2.2.2.2.2.2.2.2.2.2.2.2.2.2.2.2.2.2.2.2.2.2.2.2.2.2.2.1 vx vp H.size vm (xs (i3 + (1 : Int32)).toNatClampNeg) hR
  refine rk_PV (pc := 1133) (As := [.int (xs (i3 + (1 : Int32)).toNatClampNeg)]) (rest := []) hx hb hml hown hts hK lkL_145 rfl yn_X0_mean (ct_X0_mean (G := G) (l := l) (b0 := b0) hq) ⟨Nat.le_of_ble_eq_true rfl, Nat.le_of_ble_eq_true rfl⟩ (rk_recv hK hWx 0 (by decide) rfl rfl rfl) hWx rfl rfl hl.1 (Nat.le_of_ble_eq_true rfl) dL_law_1133 ⟨by show _ ≤ 1200144; omega, by show _ ≤ 5496634; omega⟩ ?_
  refine W.eq (g2 := F0 m 1136 ls [.long rx]) rfl ?_
  refine lv_aload_n (pc := 1136) hx hb dL_law_1136 rfl (lv_at hl 2 rfl) ?_
  refine lv_aload_n (pc := 1137) hx hb dL_law_1137 rfl (lv_at hl 0 rfl) ?_
  refine lv_iload_n (pc := 1138) hx hb dL_law_1138 rfl (lv_at hl 3 rfl) ?_
  refine lv_iconst (pc := 1139) (v := (1 : Int32)) hx hb dL_law_1139 (by decide) ?_
  refine lv_iadd (pc := 1140) hx hb dL_law_1140 ?_
  refine va_sld (pc := 1141) hx hb hX hbl hbA hS h1 dL_law_1141 ?_
  refine rk_PV (pc := 1142) (As := [.int (xs (i3 + (1 : Int32)).toNatClampNeg)]) (rest := [.long rx]) hx hb hml hown hts hK lkL_148 rfl yn_X9_mean (ct_X9_mean (G := G) (l := l) (b0 := b0 + 357) hm) ⟨Nat.le_of_ble_eq_true rfl, Nat.le_of_ble_eq_true rfl⟩ (rk_recv hK hWm 0 (by decide) rfl rfl rfl) hWm rfl rfl hl.1 (Nat.le_of_ble_eq_true rfl) dL_law_1142 ⟨by show _ ≤ 1200144; omega, by show _ ≤ 5496634; omega⟩ ?_
  refine W.eq (g2 := F0 m 1145 ls [.long rx, .long rx]) rfl ?_
  refine rk_lcmp_eq (pc := 1145) (tgt := 1637) hx hb dL_law_1145 rfl dL_law_1146 (by decide) (fun _ => ?_) (fun h => absurd rfl h)
  have hR9 : Rel vx vp H.size vm := hR
  exact rk_widen (by omega) (by omega) (kk H locs ls ⟨_, _, _, hWx, hWp, hWm, hR9, hG, hS, hl⟩)
theorem lkL_149 : LV R_law 149 RX0 yX0_drawn cX0_drawn 7 (some .int) := ⟨q1320, q1321, q1322, q114, q1323⟩
theorem yn_X0_drawn : YN yX0_drawn 2 := by
  unfold YN
  decide +kernel
theorem lkL_152 : LV R_law 152 RX9 yX9_drawn cX9_drawn 5 (some .int) := ⟨q2288, q2289, q2290, q128, q2291⟩
theorem yn_X9_drawn : YN yX9_drawn 2 := by
  unfold YN
  decide +kernel
set_option maxHeartbeats 4000000 in
theorem lc_32 {p : Program} {l : Launch} {e : Env} {s : State} {m : MethodId} {below : List Frame} {meth : Method} {c : Code} {G : Gv} {b L b0 : Nat} {xs : Nat → Int32} {Rel : Mem → Mem → Nat → Mem → Prop} (W0 : LWd G p l s m c b L xs b0) (hOK : LawOK b0 Rel) {i3 : Int32} {H : Heap} {locs : List Loc} {ls : Array Slot} {cells slots : Nat} (hcl : cells + 100 ≤ 1200144) (hsl : slots + 2300 ≤ 5496634) (hin : LIn i3 L) (hI : LInv G Rel s b b0 i3 H locs ls)
    (kk : ∀ (H1 : Heap) (locs1 : List Loc) (ls1 : Array Slot), LInv G Rel s b b0 i3 H1 locs1 ls1 → lwW p l e s m b below meth c H1 locs1 (cells + 100) (slots + 2300) (F0 m 1637 ls1 [])) : lwW p l e s m b below meth c H locs cells slots (F0 m 1151 ls []) := by
  obtain ⟨hx, hb, hml, hown, hts, hK, hX, hbl, hb0, hZ, hZX, hZL, hZP, hZN, hZC, hl0, hgB⟩ := id W0
  obtain ⟨vx, vp, vm, hWx, hWp, hWm, hR, hG, hS, hl⟩ := hI
  obtain ⟨h1, h2, h3, h4, h5⟩ := hin
  have hbA : ¬ (fun q : Nat => s.heap.size ≤ q) b := Nat.not_le.mpr hbl
  refine lv_aload_n (pc := 1151) hx hb dL_law_1151 rfl (lv_at hl 1 rfl) ?_
  refine lv_aload_n (pc := 1152) hx hb dL_law_1152 rfl (lv_at hl 0 rfl) ?_
  refine lv_iload_n (pc := 1153) hx hb dL_law_1153 rfl (lv_at hl 3 rfl) ?_
  refine lv_iconst (pc := 1154) (v := (1 : Int32)) hx hb dL_law_1154 (by decide) ?_
  refine lv_iadd (pc := 1155) hx hb dL_law_1155 ?_
  refine va_sld (pc := 1156) hx hb hX hbl hbA hS h1 dL_law_1156 ?_
  refine lv_aload_n (pc := 1157) hx hb dL_law_1157 rfl (lv_at hl 0 rfl) ?_
  refine lv_iload_n (pc := 1158) hx hb dL_law_1158 rfl (lv_at hl 3 rfl) ?_
  refine lv_iconst (pc := 1159) (v := (2 : Int32)) hx hb dL_law_1159 (by decide) ?_
  refine lv_iadd (pc := 1160) hx hb dL_law_1160 ?_
  refine va_sld (pc := 1161) hx hb hX hbl hbA hS h2 dL_law_1161 ?_
  obtain ⟨rx, rc, wx, um, hq, hm, hR2⟩ := hOK.2.2.2.2.2.2.2.2.2.2.2.2.2.2.2.2.2.2.2.2.2.2.2.2.2.2.2.2.2.2.2.2.1 vx vp H.size vm (xs (i3 + (1 : Int32)).toNatClampNeg) (xs (i3 + (2 : Int32)).toNatClampNeg) hR
  refine rk_TV (pc := 1162) (As := [.int (xs (i3 + (1 : Int32)).toNatClampNeg), .int (xs (i3 + (2 : Int32)).toNatClampNeg)]) (rest := []) (mc := 1) (ms := 7) hx hb hml hown hts hK hS (fun q hq => hq) lkL_149 rfl yn_X0_drawn (ct_X0_drawn (G := G) (l := l) (b0 := b0) (sz := H.size) hq hZ (by omega)) ⟨Nat.le_of_ble_eq_true rfl, Nat.le_of_ble_eq_true rfl⟩ (fun z h => by have h8 := h.1.1; omega) (rk_recv hK hWx 0 (by decide) rfl rfl rfl) ⟨hWx, hG⟩ rfl rfl hl.1 (Nat.le_of_ble_eq_true rfl) dL_law_1162 ⟨by show _ ≤ 1200144; omega, by show _ ≤ 5496634; omega⟩ (fun ov9 H1 locs1 hP1 hk1 hS1 => ?_)
  obtain ⟨rfl, hWx1, hz1⟩ := hP1
  have hWp1 := pl_keepA hWp hk1 (fun z h0 h3 => PLs_X z h0 h3)
  have hWm1 := rg_keepA hWm hk1 (by intro z h1 h2 h3; have h8 := h3.1.1; have h9 := h3.1.2; omega)
  have hG1 := GO_keepA hG hk1 (by have h8 := hS.1; omega) (by intro z h3; have h8 := h3.1.1; omega)
  refine W.eq (g2 := F0 m 1165 ls [.int rx]) rfl ?_
  refine lv_aload_n (pc := 1165) hx hb dL_law_1165 rfl (lv_at hl 2 rfl) ?_
  refine lv_aload_n (pc := 1166) hx hb dL_law_1166 rfl (lv_at hl 0 rfl) ?_
  refine lv_iload_n (pc := 1167) hx hb dL_law_1167 rfl (lv_at hl 3 rfl) ?_
  refine lv_iconst (pc := 1168) (v := (1 : Int32)) hx hb dL_law_1168 (by decide) ?_
  refine lv_iadd (pc := 1169) hx hb dL_law_1169 ?_
  refine va_sld (pc := 1170) hx hb hX hbl hbA hS1 h1 dL_law_1170 ?_
  refine lv_aload_n (pc := 1171) hx hb dL_law_1171 rfl (lv_at hl 0 rfl) ?_
  refine lv_iload_n (pc := 1172) hx hb dL_law_1172 rfl (lv_at hl 3 rfl) ?_
  refine lv_iconst (pc := 1173) (v := (2 : Int32)) hx hb dL_law_1173 (by decide) ?_
  refine lv_iadd (pc := 1174) hx hb dL_law_1174 ?_
  refine va_sld (pc := 1175) hx hb hX hbl hbA hS1 h2 dL_law_1175 ?_
  refine rk_TV (pc := 1176) (As := [.int (xs (i3 + (1 : Int32)).toNatClampNeg), .int (xs (i3 + (2 : Int32)).toNatClampNeg)]) (rest := [.int rx]) (mc := 0) (ms := 0) hx hb hml hown hts hK hS1 (fun q hq => hq) lkL_152 rfl yn_X9_drawn (ct_X9_drawn (G := G) (l := l) (b0 := b0 + 357) (sz := H1.size) hm) ⟨Nat.le_of_ble_eq_true rfl, Nat.le_of_ble_eq_true rfl⟩ (fun z h => by have h8 := h.1; omega) (rk_recv hK hWm1 0 (by decide) rfl rfl rfl) hWm1 rfl rfl hl.1 (Nat.le_of_ble_eq_true rfl) dL_law_1176 ⟨by show _ ≤ 1200144; omega, by show _ ≤ 5496634; omega⟩ (fun ov8 H2 locs2 hP2 hk2 hS2 => ?_)
  obtain ⟨rfl, hWm2, hz2⟩ := hP2
  have hWx2 := rg_keepX hWx1 hk2 (fun z h0 h3 => by have h8 := h0.1.2; have h9 := h3.1; omega)
  have hWp2 := pl_keepA hWp1 hk2 (fun z h0 h3 => PLs_m z h0 h3)
  have hG2 := GO_keepA hG1 hk2 (by have h8 := hS1.1; omega) (by intro z h3; have h8 := h3.1; omega)
  refine W.eq (g2 := F0 m 1179 ls [.int rx, .int rx]) rfl ?_
  refine lv_icmp_eq (pc := 1179) (tgt := 1637) hx hb dL_law_1179 (by decide) (fun _ => ?_) (fun h => absurd rfl h)
  have hR9 : Rel wx vp H2.size um := by rw [show H2.size = H.size + rc by omega]; exact hR2
  exact rk_widen (by omega) (by omega) (kk H2 locs2 ls ⟨_, _, _, hWx2, hWp2, hWm2, hR9, hG2, hS2, hl⟩)
end
