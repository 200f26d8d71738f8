set_option maxRecDepth 100000
section
variable {p : Program} {l : Launch} {e : Env} {s : State} {m : MethodId} {args : Array Value} {below : List Frame} {meth : Method} {c : Code} {G : Gv}
theorem lkL_153 : LV R_law 153 RX0 yX0_offer cX0_offer 5 (some .int) := ⟨q1330, q1331, q1332, q114, q1333⟩
theorem yn_X0_offer : YN yX0_offer 2 := by
  unfold YN
  decide +kernel
theorem lkL_156 : LV R_law 156 RX9 yX9_offer cX9_offer 5 (some .int) := ⟨q2306, q2307, q2308, q128, q2309⟩
theorem yn_X9_offer : YN yX9_offer 2 := by
  unfold YN
  decide +kernel
set_option maxHeartbeats 4000000 in
theorem lc_33 {p : Program} {l : Launch} {e : Env} {s : State} {m : MethodId} {below : List Frame} {meth : Method} {c : Code} {G : Gv} {b L b0 : Nat} {xs : Nat → Int32} {Rel : Mem → Mem → Nat → Mem → Prop} (W0 : LWd G p l s m c b L xs b0) (hOK : LawOK b0 Rel) {i3 : Int32} {H : Heap} {locs : List Loc} {ls : Array Slot} {cells slots : Nat} (hcl : cells + 100 ≤ 1200144) (hsl : slots + 2300 ≤ 5496634) (hin : LIn i3 L) (hI : LInv G Rel s b b0 i3 H locs ls)
    (kk : ∀ (H1 : Heap) (locs1 : List Loc) (ls1 : Array Slot), LInv G Rel s b b0 i3 H1 locs1 ls1 → lwW p l e s m b below meth c H1 locs1 (cells + 100) (slots + 2300) (F0 m 1637 ls1 [])) : lwW p l e s m b below meth c H locs cells slots (F0 m 1184 ls []) := by
  obtain ⟨hx, hb, hml, hown, hts, hK, hX, hbl, hb0, hZ, hZX, hZL, hZP, hZN, hZC, hl0, hgB⟩ := id W0
  obtain ⟨vx, vp, vm, hWx, hWp, hWm, hR, hG, hS, hl⟩ := hI
  obtain ⟨h1, h2, h3, h4, h5⟩ := hin
  have hbA : ¬ (fun q : Nat => s.heap.size ≤ q) b := Nat.not_le.mpr hbl
  refine lv_aload_n (pc := 1184) hx hb dL_law_1184 rfl (lv_at hl 1 rfl) ?_
  refine lv_aload_n (pc := 1185) hx hb dL_law_1185 rfl (lv_at hl 0 rfl) ?_
  refine lv_iload_n (pc := 1186) hx hb dL_law_1186 rfl (lv_at hl 3 rfl) ?_
  refine lv_iconst (pc := 1187) (v := (1 : Int32)) hx hb dL_law_1187 (by decide) ?_
  refine lv_iadd (pc := 1188) hx hb dL_law_1188 ?_
  refine va_sld (pc := 1189) hx hb hX hbl hbA hS h1 dL_law_1189 ?_
  refine lv_aload_n (pc := 1190) hx hb dL_law_1190 rfl (lv_at hl 0 rfl) ?_
  refine lv_iload_n (pc := 1191) hx hb dL_law_1191 rfl (lv_at hl 3 rfl) ?_
  refine lv_iconst (pc := 1192) (v := (2 : Int32)) hx hb dL_law_1192 (by decide) ?_
  refine lv_iadd (pc := 1193) hx hb dL_law_1193 ?_
  refine va_sld (pc := 1194) hx hb hX hbl hbA hS h2 dL_law_1194 ?_
  obtain ⟨rx, rc, wx, wp, um, hq, hm, hR2⟩ := hOK.2.2.2.2.2.2.2.2.2.2.2.2.2.2.2.2.2.2.2.2.2.2.2.2.2.2.2.2.2.2.2.2.2.1 vx vp H.size vm (xs (i3 + (1 : Int32)).toNatClampNeg) (xs (i3 + (2 : Int32)).toNatClampNeg) hR
  refine rk_TV (pc := 1195) (As := [.int (xs (i3 + (1 : Int32)).toNatClampNeg), .int (xs (i3 + (2 : Int32)).toNatClampNeg)]) (rest := []) (mc := 3) (ms := 9) hx hb hml hown hts hK hS (fun q hq => hq) lkL_153 rfl yn_X0_offer (ct_X0_offer (G := G) (l := l) (b0 := b0) hq PLs_X hZP) ⟨Nat.le_of_ble_eq_true rfl, Nat.le_of_ble_eq_true rfl⟩ (fun z h => h.elim (fun h => by have h8 := h.1.1; omega) (fun h => by have h8 := PLs_g (k := s.heap.size) (by omega) z h.1; omega)) (rk_recv hK hWx 0 (by decide) rfl rfl rfl) ⟨hWx, hWp⟩ rfl rfl hl.1 (Nat.le_of_ble_eq_true rfl) dL_law_1195 ⟨by show _ ≤ 1200144; omega, by show _ ≤ 5496634; omega⟩ (fun ov9 H1 locs1 hP1 hk1 hS1 => ?_)
  obtain ⟨rfl, hWx1, hWp1, hz1, -⟩ := hP1
  have hWm1 := rg_keepA hWm hk1 (by intro z h1 h2 h3; exact h3.elim (fun h3 => by have h8 := h3.1.1; have h9 := h3.1.2; omega) (fun h3 => by exact PLs_m z h3.1 ⟨h1, h2⟩))
  have hG1 := GO_keepA hG hk1 (by have h8 := hS.1; omega) (by intro z h3; exact h3.elim (fun h3 => by have h8 := h3.1.1; omega) (fun h3 => PLs_g (by omega) z h3.1))
  refine W.eq (g2 := F0 m 1198 ls [.int rx]) rfl ?_
  refine lv_aload_n (pc := 1198) hx hb dL_law_1198 rfl (lv_at hl 2 rfl) ?_
  refine lv_aload_n (pc := 1199) hx hb dL_law_1199 rfl (lv_at hl 0 rfl) ?_
  refine lv_iload_n (pc := 1200) hx hb dL_law_1200 rfl (lv_at hl 3 rfl) ?_
  refine lv_iconst (pc := 1201) (v := (1 : Int32)) hx hb dL_law_1201 (by decide) ?_
  refine lv_iadd (pc := 1202) hx hb dL_law_1202 ?_
  refine va_sld (pc := 1203) hx hb hX hbl hbA hS1 h1 dL_law_1203 ?_
  refine lv_aload_n (pc := 1204) hx hb dL_law_1204 rfl (lv_at hl 0 rfl) ?_
  refine lv_iload_n (pc := 1205) hx hb dL_law_1205 rfl (lv_at hl 3 rfl) ?_
  refine lv_iconst (pc := 1206) (v := (2 : Int32)) hx hb dL_law_1206 (by decide) ?_
  refine lv_iadd (pc := 1207) hx hb dL_law_1207 ?_
  refine va_sld (pc := 1208) hx hb hX hbl hbA hS1 h2 dL_law_1208 ?_
  refine rk_TV (pc := 1209) (As := [.int (xs (i3 + (1 : Int32)).toNatClampNeg), .int (xs (i3 + (2 : Int32)).toNatClampNeg)]) (rest := [.int rx]) (mc := 0) (ms := 0) hx hb hml hown hts hK hS1 (fun q hq => hq) lkL_156 rfl yn_X9_offer (ct_X9_offer (G := G) (l := l) (b0 := b0 + 357) (sz := H1.size) hm) ⟨Nat.le_of_ble_eq_true rfl, Nat.le_of_ble_eq_true rfl⟩ (fun z h => by have h8 := h.1; omega) (rk_recv hK hWm1 0 (by decide) rfl rfl rfl) hWm1 rfl rfl hl.1 (Nat.le_of_ble_eq_true rfl) dL_law_1209 ⟨by show _ ≤ 1200144; omega, by show _ ≤ 5496634; omega⟩ (fun ov8 H2 locs2 hP2 hk2 hS2 => ?_)
  obtain ⟨rfl, hWm2, hz2⟩ := hP2
  have hWx2 := rg_keepX hWx1 hk2 (fun z h0 h3 => by have h8 := h0.1.2; have h9 := h3.1; omega)
  have hWp2 := pl_keepA hWp1 hk2 (fun z h0 h3 => PLs_m z h0 h3)
  have hG2 := GO_keepA hG1 hk2 (by have h8 := hS1.1; omega) (by intro z h3; have h8 := h3.1; omega)
  refine W.eq (g2 := F0 m 1212 ls [.int rx, .int rx]) rfl ?_
  refine lv_icmp_eq (pc := 1212) (tgt := 1637) hx hb dL_law_1212 (by decide) (fun _ => ?_) (fun h => absurd rfl h)
  have hR9 : Rel wx wp H2.size um := by rw [show H2.size = H.size + rc by omega]; exact hR2
  exact rk_widen (by omega) (by omega) (kk H2 locs2 ls ⟨_, _, _, hWx2, hWp2, hWm2, hR9, hG2, hS2, hl⟩)
theorem lkL_157 : LV R_law 157 RX0 yX0_offered cX0_offered 5 (some .int) := ⟨q1458, q1459, q1460, q114, q1461⟩
theorem yn_X0_offered : YN yX0_offered 2 := by
  unfold YN
  decide +kernel
theorem lkL_160 : LV R_law 160 RX9 yX9_offered cX9_offered 4 (some .int) := ⟨q2314, q2315, q2316, q128, q2317⟩
theorem yn_X9_offered : YN yX9_offered 2 := by
  unfold YN
  decide +kernel
set_option maxHeartbeats 4000000 in
theorem lc_34 {p : Program} {l : Launch} {e : Env} {s : State} {m : MethodId} {below : List Frame} {meth : Method} {c : Code} {G : Gv} {b L b0 : Nat} {xs : Nat → Int32} {Rel : Mem → Mem → Nat → Mem → Prop} (W0 : LWd G p l s m c b L xs b0) (hOK : LawOK b0 Rel) {i3 : Int32} {H : Heap} {locs : List Loc} {ls : Array Slot} {cells slots : Nat} (hcl : cells + 100 ≤ 1200144) (hsl : slots + 2300 ≤ 5496634) (hin : LIn i3 L) (hI : LInv G Rel s b b0 i3 H locs ls)
    (kk : ∀ (H1 : Heap) (locs1 : List Loc) (ls1 : Array Slot), LInv G Rel s b b0 i3 H1 locs1 ls1 → lwW p l e s m b below meth c H1 locs1 (cells + 100) (slots + 2300) (F0 m 1637 ls1 [])) : lwW p l e s m b below meth c H locs cells slots (F0 m 1217 ls []) := by
  obtain ⟨hx, hb, hml, hown, hts, hK, hX, hbl, hb0, hZ, hZX, hZL, hZP, hZN, hZC, hl0, hgB⟩ := id W0
  obtain ⟨vx, vp, vm, hWx, hWp, hWm, hR, hG, hS, hl⟩ := hI
  obtain ⟨h1, h2, h3, h4, h5⟩ := hin
  have hbA : ¬ (fun q : Nat => s.heap.size ≤ q) b := Nat.not_le.mpr hbl
  refine lv_aload_n (pc := 1217) hx hb dL_law_1217 rfl (lv_at hl 1 rfl) ?_
  refine lv_aload_n (pc := 1218) hx hb dL_law_1218 rfl (lv_at hl 0 rfl) ?_
  refine lv_iload_n (pc := 1219) hx hb dL_law_1219 rfl (lv_at hl 3 rfl) ?_
  refine lv_iconst (pc := 1220) (v := (1 : Int32)) hx hb dL_law_1220 (by decide) ?_
  refine lv_iadd (pc := 1221) hx hb dL_law_1221 ?_
  refine va_sld (pc := 1222) hx hb hX hbl hbA hS h1 dL_law_1222 ?_
  refine lv_aload_n (pc := 1223) hx hb dL_law_1223 rfl (lv_at hl 0 rfl) ?_
  refine lv_iload_n (pc := 1224) hx hb dL_law_1224 rfl (lv_at hl 3 rfl) ?_
  refine lv_iconst (pc := 1225) (v := (2 : Int32)) hx hb dL_law_1225 (by decide) ?_
  refine lv_iadd (pc := 1226) hx hb dL_law_1226 ?_
  refine va_sld (pc := 1227) hx hb hX hbl hbA hS h2 dL_law_1227 ?_
  obtain ⟨rx, um, hq, hm, hR2⟩ := hOK.2.2.2.2.2.2.2.2.2.2.2.2.2.2.2.2.2.2.2.2.2.2.2.2.2.2.2.2.2.2.2.2.2.2.1 vx vp H.size vm (xs (i3 + (1 : Int32)).toNatClampNeg) (xs (i3 + (2 : Int32)).toNatClampNeg) hR
  refine rk_PV (pc := 1228) (As := [.int (xs (i3 + (1 : Int32)).toNatClampNeg), .int (xs (i3 + (2 : Int32)).toNatClampNeg)]) (rest := []) hx hb hml hown hts hK lkL_157 rfl yn_X0_offered (ct_X0_offered (G := G) (l := l) (b0 := b0) hq hZP) ⟨Nat.le_of_ble_eq_true rfl, Nat.le_of_ble_eq_true rfl⟩ (rk_recv hK hWx 0 (by decide) rfl rfl rfl) ⟨hWx, hWp⟩ rfl rfl hl.1 (Nat.le_of_ble_eq_true rfl) dL_law_1228 ⟨by show _ ≤ 1200144; omega, by show _ ≤ 5496634; omega⟩ ?_
  refine W.eq (g2 := F0 m 1231 ls [.int rx]) rfl ?_
  refine lv_aload_n (pc := 1231) hx hb dL_law_1231 rfl (lv_at hl 2 rfl) ?_
  refine lv_aload_n (pc := 1232) hx hb dL_law_1232 rfl (lv_at hl 0 rfl) ?_
  refine lv_iload_n (pc := 1233) hx hb dL_law_1233 rfl (lv_at hl 3 rfl) ?_
  refine lv_iconst (pc := 1234) (v := (1 : Int32)) hx hb dL_law_1234 (by decide) ?_
  refine lv_iadd (pc := 1235) hx hb dL_law_1235 ?_
  refine va_sld (pc := 1236) hx hb hX hbl hbA hS h1 dL_law_1236 ?_
  refine lv_aload_n (pc := 1237) hx hb dL_law_1237 rfl (lv_at hl 0 rfl) ?_
  refine lv_iload_n (pc := 1238) hx hb dL_law_1238 rfl (lv_at hl 3 rfl) ?_
  refine lv_iconst (pc := 1239) (v := (2 : Int32)) hx hb dL_law_1239 (by decide) ?_
  refine lv_iadd (pc := 1240) hx hb dL_law_1240 ?_
  refine va_sld (pc := 1241) hx hb hX hbl hbA hS h2 dL_law_1241 ?_
  refine rk_TV (pc := 1242) (As := [.int (xs (i3 + (1 : Int32)).toNatClampNeg), .int (xs (i3 + (2 : Int32)).toNatClampNeg)]) (rest := [.int rx]) (mc := 0) (ms := 0) hx hb hml hown hts hK hS (fun q hq => hq) lkL_160 rfl yn_X9_offered (ct_X9_offered (G := G) (l := l) (b0 := b0 + 357) (sz := H.size) hm) ⟨Nat.le_of_ble_eq_true rfl, Nat.le_of_ble_eq_true rfl⟩ (fun z h => by have h8 := h.1; omega) (rk_recv hK hWm 0 (by decide) rfl rfl rfl) hWm rfl rfl hl.1 (Nat.le_of_ble_eq_true rfl) dL_law_1242 ⟨by show _ ≤ 1200144; omega, by show _ ≤ 5496634; omega⟩ (fun ov8 H2 locs2 hP2 hk2 hS2 => ?_)
  obtain ⟨rfl, hWm2, hz2⟩ := hP2
  have hWx2 := rg_keepX hWx hk2 (fun z h0 h3 => by have h8 := h0.1.2; have h9 := h3.1; omega)
  have hWp2 := pl_keepA hWp hk2 (fun z h0 h3 => PLs_m z h0 h3)
  have hG2 := GO_keepA hG hk2 (by have h8 := hS.1; omega) (by intro z h3; have h8 := h3.1; omega)
  refine W.eq (g2 := F0 m 1245 ls [.int rx, .int rx]) rfl ?_
  refine lv_icmp_eq (pc := 1245) (tgt := 1637) hx hb dL_law_1245 (by decide) (fun _ => ?_) (fun h => absurd rfl h)
  have hR9 : Rel vx vp H2.size um := by rw [show H2.size = H.size by omega]; exact hR2
  exact rk_widen (by omega) (by omega) (kk H2 locs2 ls ⟨_, _, _, hWx2, hWp2, hWm2, hR9, hG2, hS2, hl⟩)
theorem lkL_161 : LV R_law 161 RX0 yX0_upTo cX0_upTo 3 (some .int) := ⟨q1489, q1490, q1491, q114, q1492⟩
theorem yn_X0_upTo : YN yX0_upTo 1 := by
  unfold YN
  decide +kernel
theorem lkL_164 : LV R_law 164 RX9 yX9_upTo cX9_upTo 4 (some .int) := ⟨q2327, q2328, q2329, q128, q2330⟩
theorem yn_X9_upTo : YN yX9_upTo 1 := by
  unfold YN
  decide +kernel
set_option maxHeartbeats 4000000 in
theorem lc_35 {p : Program} {l : Launch} {e : Env} {s : State} {m : MethodId} {below : List Frame} {meth : Method} {c : Code} {G : Gv} {b L b0 : Nat} {xs : Nat → Int32} {Rel : Mem → Mem → Nat → Mem → Prop} (W0 : LWd G p l s m c b L xs b0) (hOK : LawOK b0 Rel) {i3 : Int32} {H : Heap} {locs : List Loc} {ls : Array Slot} {cells slots : Nat} (hcl : cells + 100 ≤ 1200144) (hsl : slots + 2300 ≤ 5496634) (hin : LIn i3 L) (hI : LInv G Rel s b b0 i3 H locs ls)
    (kk : ∀ (H1 : Heap) (locs1 : List Loc) (ls1 : Array Slot), LInv G Rel s b b0 i3 H1 locs1 ls1 → lwW p l e s m b below meth c H1 locs1 (cells + 100) (slots + 2300) (F0 m 1637 ls1 [])) : lwW p l e s m b below meth c H locs cells slots (F0 m 1250 ls []) := by
  obtain ⟨hx, hb, hml, hown, hts, hK, hX, hbl, hb0, hZ, hZX, hZL, hZP, hZN, hZC, hl0, hgB⟩ := id W0
  obtain ⟨vx, vp, vm, hWx, hWp, hWm, hR, hG, hS, hl⟩ := hI
  obtain ⟨h1, h2, h3, h4, h5⟩ := hin
  have hbA : ¬ (fun q : Nat => s.heap.size ≤ q) b := Nat.not_le.mpr hbl
  refine lv_aload_n (pc := 1250) hx hb dL_law_1250 rfl (lv_at hl 1 rfl) ?_
  refine lv_aload_n (pc := 1251) hx hb dL_law_1251 rfl (lv_at hl 0 rfl) ?_
  refine lv_iload_n (pc := 1252) hx hb dL_law_1252 rfl (lv_at hl 3 rfl) ?_
  refine lv_iconst (pc := 1253) (v := (1 : Int32)) hx hb dL_law_1253 (by decide) ?_
  refine lv_iadd (pc := 1254) hx hb dL_law_1254 ?_
  refine va_sld (pc := 1255) hx hb hX hbl hbA hS h1 dL_law_1255 ?_
  obtain ⟨rx, rc, wp, um, hq, hm, hR2⟩ := hOK.2.2.2.2.2.2.2.2.2.2.2.2.2.2.2.2.2.2.2.2.2.2.2.2.2.2.2.2.2.2.2.2.2.2.2.1 vx vp H.size vm (xs (i3 + (1 : Int32)).toNatClampNeg) hR
  refine rk_TV (pc := 1256) (As := [.int (xs (i3 + (1 : Int32)).toNatClampNeg)]) (rest := []) (mc := 1) (ms := 2) hx hb hml hown hts hK hS (fun q hq => hq) lkL_161 rfl yn_X0_upTo (ct_X0_upTo (G := G) (l := l) (b0 := b0) hq PLs_X hZP) ⟨Nat.le_of_ble_eq_true rfl, Nat.le_of_ble_eq_true rfl⟩ (fun z h => by have h8 := PLs_g (k := s.heap.size) (by omega) z h.1; omega) (rk_recv hK hWx 0 (by decide) rfl rfl rfl) ⟨hWx, hWp⟩ rfl rfl hl.1 (Nat.le_of_ble_eq_true rfl) dL_law_1256 ⟨by show _ ≤ 1200144; omega, by show _ ≤ 5496634; omega⟩ (fun ov9 H1 locs1 hP1 hk1 hS1 => ?_)
  obtain ⟨rfl, hWp1, hz1, -⟩ := hP1
  have hWx1 := rg_keepX hWx hk1 (fun z h0 h3 => PLs_X z h3.1 h0)
  have hWm1 := rg_keepA hWm hk1 (by intro z h1 h2 h3; exact PLs_m z h3.1 ⟨h1, h2⟩)
  have hG1 := GO_keepA hG hk1 (by have h8 := hS.1; omega) (by intro z h3; exact PLs_g (by omega) z h3.1)
  refine W.eq (g2 := F0 m 1259 ls [.int rx]) rfl ?_
  refine lv_aload_n (pc := 1259) hx hb dL_law_1259 rfl (lv_at hl 2 rfl) ?_
  refine lv_aload_n (pc := 1260) hx hb dL_law_1260 rfl (lv_at hl 0 rfl) ?_
  refine lv_iload_n (pc := 1261) hx hb dL_law_1261 rfl (lv_at hl 3 rfl) ?_
  refine lv_iconst (pc := 1262) (v := (1 : Int32)) hx hb dL_law_1262 (by decide) ?_
  refine lv_iadd (pc := 1263) hx hb dL_law_1263 ?_
  refine va_sld (pc := 1264) hx hb hX hbl hbA hS1 h1 dL_law_1264 ?_
  refine rk_TV (pc := 1265) (As := [.int (xs (i3 + (1 : Int32)).toNatClampNeg)]) (rest := [.int rx]) (mc := 0) (ms := 0) hx hb hml hown hts hK hS1 (fun q hq => hq) lkL_164 rfl yn_X9_upTo (ct_X9_upTo (G := G) (l := l) (b0 := b0 + 357) (sz := H1.size) hm) ⟨Nat.le_of_ble_eq_true rfl, Nat.le_of_ble_eq_true rfl⟩ (fun z h => by have h8 := h.1; omega) (rk_recv hK hWm1 0 (by decide) rfl rfl rfl) hWm1 rfl rfl hl.1 (Nat.le_of_ble_eq_true rfl) dL_law_1265 ⟨by show _ ≤ 1200144; omega, by show _ ≤ 5496634; omega⟩ (fun ov8 H2 locs2 hP2 hk2 hS2 => ?_)
  obtain ⟨rfl, hWm2, hz2⟩ := hP2
  have hWx2 := rg_keepX hWx1 hk2 (fun z h0 h3 => by have h8 := h0.1.2; have h9 := h3.1; omega)
  have hWp2 := pl_keepA hWp1 hk2 (fun z h0 h3 => PLs_m z h0 h3)
  have hG2 := GO_keepA hG1 hk2 (by have h8 := hS1.1; omega) (by intro z h3; have h8 := h3.1; omega)
  refine W.eq (g2 := F0 m 1268 ls [.int rx, .int rx]) rfl ?_
  refine lv_icmp_eq (pc := 1268) (tgt := 1637) hx hb dL_law_1268 (by decide) (fun _ => ?_) (fun h => absurd rfl h)
  have hR9 : Rel vx wp H2.size um := by rw [show H2.size = H.size + rc by omega]; exact hR2
  exact rk_widen (by omega) (by omega) (kk H2 locs2 ls ⟨_, _, _, hWx2, hWp2, hWm2, hR9, hG2, hS2, hl⟩)
theorem lkL_165 : LV R_law 165 RX0 yX0_dearest cX0_dearest 6 (some .int) := ⟨q1502, q1503, q1504, q114, q1505⟩
theorem yn_X0_dearest : YN yX0_dearest 0 := by
  unfold YN
  decide +kernel
theorem lkL_168 : LV R_law 168 RX9 yX9_dearest cX9_dearest 3 (some .int) := ⟨q2331, q2332, q2333, q128, q2334⟩
theorem yn_X9_dearest : YN yX9_dearest 0 := by
  unfold YN
  decide +kernel
set_option maxHeartbeats 4000000 in
theorem lc_36 {p : Program} {l : Launch} {e : Env} {s : State} {m : MethodId} {below : List Frame} {meth : Method} {c : Code} {G : Gv} {b L b0 : Nat} {xs : Nat → Int32} {Rel : Mem → Mem → Nat → Mem → Prop} (W0 : LWd G p l s m c b L xs b0) (hOK : LawOK b0 Rel) {i3 : Int32} {H : Heap} {locs : List Loc} {ls : Array Slot} {cells slots : Nat} (hcl : cells + 100 ≤ 1200144) (hsl : slots + 2300 ≤ 5496634) (hin : LIn i3 L) (hI : LInv G Rel s b b0 i3 H locs ls)
    (kk : ∀ (H1 : Heap) (locs1 : List Loc) (ls1 : Array Slot), LInv G Rel s b b0 i3 H1 locs1 ls1 → lwW p l e s m b below meth c H1 locs1 (cells + 100) (slots + 2300) (F0 m 1637 ls1 [])) : lwW p l e s m b below meth c H locs cells slots (F0 m 1273 ls []) := by
  obtain ⟨hx, hb, hml, hown, hts, hK, hX, hbl, hb0, hZ, hZX, hZL, hZP, hZN, hZC, hl0, hgB⟩ := id W0
  obtain ⟨vx, vp, vm, hWx, hWp, hWm, hR, hG, hS, hl⟩ := hI
  obtain ⟨h1, h2, h3, h4, h5⟩ := hin
  have hbA : ¬ (fun q : Nat => s.heap.size ≤ q) b := Nat.not_le.mpr hbl
  refine lv_aload_n (pc := 1273) hx hb dL_law_1273 rfl (lv_at hl 1 rfl) ?_
  obtain ⟨rx, rc, wp, um, hq, hm, hR2⟩ := hOK.2.2.2.2.2.2.2.2.2.2.2.2.2.2.2.2.2.2.2.2.2.2.2.2.2.2.2.2.2.2.2.2.2.2.2.2.1 vx vp H.size vm  hR
  refine rk_TV (pc := 1274) (As := []) (rest := []) (mc := 2) (ms := 5) hx hb hml hown hts hK hS (fun q hq => hq) lkL_165 rfl yn_X0_dearest (ct_X0_dearest (G := G) (l := l) (b0 := b0) hq PLs_X hZP) ⟨Nat.le_of_ble_eq_true rfl, Nat.le_of_ble_eq_true rfl⟩ (fun z h => by have h8 := PLs_g (k := s.heap.size) (by omega) z h.1; omega) (rk_recv hK hWx 0 (by decide) rfl rfl rfl) ⟨hWx, hWp⟩ rfl rfl hl.1 (Nat.le_of_ble_eq_true rfl) dL_law_1274 ⟨by show _ ≤ 1200144; omega, by show _ ≤ 5496634; omega⟩ (fun ov9 H1 locs1 hP1 hk1 hS1 => ?_)
  obtain ⟨rfl, hWp1, hz1, -⟩ := hP1
  have hWx1 := rg_keepX hWx hk1 (fun z h0 h3 => PLs_X z h3.1 h0)
  have hWm1 := rg_keepA hWm hk1 (by intro z h1 h2 h3; exact PLs_m z h3.1 ⟨h1, h2⟩)
  have hG1 := GO_keepA hG hk1 (by have h8 := hS.1; omega) (by intro z h3; exact PLs_g (by omega) z h3.1)
  refine W.eq (g2 := F0 m 1277 ls [.int rx]) rfl ?_
  refine lv_aload_n (pc := 1277) hx hb dL_law_1277 rfl (lv_at hl 2 rfl) ?_
  refine rk_TV (pc := 1278) (As := []) (rest := [.int rx]) (mc := 0) (ms := 0) hx hb hml hown hts hK hS1 (fun q hq => hq) lkL_168 rfl yn_X9_dearest (ct_X9_dearest (G := G) (l := l) (b0 := b0 + 357) (sz := H1.size) hm) ⟨Nat.le_of_ble_eq_true rfl, Nat.le_of_ble_eq_true rfl⟩ (fun z h => by have h8 := h.1; omega) (rk_recv hK hWm1 0 (by decide) rfl rfl rfl) hWm1 rfl rfl hl.1 (Nat.le_of_ble_eq_true rfl) dL_law_1278 ⟨by show _ ≤ 1200144; omega, by show _ ≤ 5496634; omega⟩ (fun ov8 H2 locs2 hP2 hk2 hS2 => ?_)
  obtain ⟨rfl, hWm2, hz2⟩ := hP2
  have hWx2 := rg_keepX hWx1 hk2 (fun z h0 h3 => by have h8 := h0.1.2; have h9 := h3.1; omega)
  have hWp2 := pl_keepA hWp1 hk2 (fun z h0 h3 => PLs_m z h0 h3)
  have hG2 := GO_keepA hG1 hk2 (by have h8 := hS1.1; omega) (by intro z h3; have h8 := h3.1; omega)
  refine W.eq (g2 := F0 m 1281 ls [.int rx, .int rx]) rfl ?_
  refine lv_icmp_eq (pc := 1281) (tgt := 1637) hx hb dL_law_1281 (by decide) (fun _ => ?_) (fun h => absurd rfl h)
  have hR9 : Rel vx wp H2.size um := by rw [show H2.size = H.size + rc by omega]; exact hR2
  exact rk_widen (by omega) (by omega) (kk H2 locs2 ls ⟨_, _, _, hWx2, hWp2, hWm2, hR9, hG2, hS2, hl⟩)
theorem lkL_169 : LV R_law 169 RX0 yX0_plan cX0_plan 4 (some .int) := ⟨q1596, q1597, q1598, q114, q1599⟩
theorem yn_X0_plan : YN yX0_plan 3 := by
  unfold YN
  decide +kernel
theorem lkL_172 : LV R_law 172 RX9 yX9_plan cX9_plan 5 (some .int) := ⟨q2339, q2340, q2341, q128, q2342⟩
theorem yn_X9_plan : YN yX9_plan 3 := by
  unfold YN
  decide +kernel
set_option maxHeartbeats 4000000 in
theorem lc_37 {p : Program} {l : Launch} {e : Env} {s : State} {m : MethodId} {below : List Frame} {meth : Method} {c : Code} {G : Gv} {b L b0 : Nat} {xs : Nat → Int32} {Rel : Mem → Mem → Nat → Mem → Prop} (W0 : LWd G p l s m c b L xs b0) (hOK : LawOK b0 Rel) {i3 : Int32} {H : Heap} {locs : List Loc} {ls : Array Slot} {cells slots : Nat} (hcl : cells + 100 ≤ 1200144) (hsl : slots + 2300 ≤ 5496634) (hin : LIn i3 L) (hI : LInv G Rel s b b0 i3 H locs ls)
    (kk : ∀ (H1 : Heap) (locs1 : List Loc) (ls1 : Array Slot), LInv G Rel s b b0 i3 H1 locs1 ls1 → lwW p l e s m b below meth c H1 locs1 (cells + 100) (slots + 2300) (F0 m 1637 ls1 [])) : lwW p l e s m b below meth c H locs cells slots (F0 m 1286 ls []) := by
  obtain ⟨hx, hb, hml, hown, hts, hK, hX, hbl, hb0, hZ, hZX, hZL, hZP, hZN, hZC, hl0, hgB⟩ := id W0
  obtain ⟨vx, vp, vm, hWx, hWp, hWm, hR, hG, hS, hl⟩ := hI
  obtain ⟨h1, h2, h3, h4, h5⟩ := hin
  have hbA : ¬ (fun q : Nat => s.heap.size ≤ q) b := Nat.not_le.mpr hbl
  refine lv_aload_n (pc := 1286) hx hb dL_law_1286 rfl (lv_at hl 1 rfl) ?_
  refine lv_aload_n (pc := 1287) hx hb dL_law_1287 rfl (lv_at hl 0 rfl) ?_
  refine lv_iload_n (pc := 1288) hx hb dL_law_1288 rfl (lv_at hl 3 rfl) ?_
  refine lv_iconst (pc := 1289) (v := (1 : Int32)) hx hb dL_law_1289 (by decide) ?_
  refine lv_iadd (pc := 1290) hx hb dL_law_1290 ?_
  refine va_sld (pc := 1291) hx hb hX hbl hbA hS h1 dL_law_1291 ?_
  refine lv_aload_n (pc := 1292) hx hb dL_law_1292 rfl (lv_at hl 0 rfl) ?_
  refine lv_iload_n (pc := 1293) hx hb dL_law_1293 rfl (lv_at hl 3 rfl) ?_
  refine lv_iconst (pc := 1294) (v := (2 : Int32)) hx hb dL_law_1294 (by decide) ?_
  refine lv_iadd (pc := 1295) hx hb dL_law_1295 ?_
  refine va_sld (pc := 1296) hx hb hX hbl hbA hS h2 dL_law_1296 ?_
  refine lv_aload_n (pc := 1297) hx hb dL_law_1297 rfl (lv_at hl 0 rfl) ?_
  refine lv_iload_n (pc := 1298) hx hb dL_law_1298 rfl (lv_at hl 3 rfl) ?_
  refine lv_iconst (pc := 1299) (v := (3 : Int32)) hx hb dL_law_1299 (by decide) ?_
  refine lv_iadd (pc := 1300) hx hb dL_law_1300 ?_
  refine va_sld (pc := 1301) hx hb hX hbl hbA hS h3 dL_law_1301 ?_
  obtain ⟨rx, wx, um, hq, hm, hR2⟩ := hOK.2.2.2.2.2.2.2.2.2.2.2.2.2.2.2.2.2.2.2.2.2.2.2.2.2.2.2.2.2.2.2.2.2.2.2.2.2.1 vx vp H.size vm (xs (i3 + (1 : Int32)).toNatClampNeg) (xs (i3 + (2 : Int32)).toNatClampNeg) (xs (i3 + (3 : Int32)).toNatClampNeg) hR
  refine rk_TV (pc := 1302) (As := [.int (xs (i3 + (1 : Int32)).toNatClampNeg), .int (xs (i3 + (2 : Int32)).toNatClampNeg), .int (xs (i3 + (3 : Int32)).toNatClampNeg)]) (rest := []) (mc := 0) (ms := 0) hx hb hml hown hts hK hS (fun q hq => hq) lkL_169 rfl yn_X0_plan (ct_X0_plan (G := G) (l := l) (b0 := b0) (sz := H.size) hq) ⟨Nat.le_of_ble_eq_true rfl, Nat.le_of_ble_eq_true rfl⟩ (fun z h => by have h8 := h.1.1; omega) (rk_recv hK hWx 0 (by decide) rfl rfl rfl) hWx rfl rfl hl.1 (Nat.le_of_ble_eq_true rfl) dL_law_1302 ⟨by show _ ≤ 1200144; omega, by show _ ≤ 5496634; omega⟩ (fun ov9 H1 locs1 hP1 hk1 hS1 => ?_)
  obtain ⟨rfl, hWx1, hz1⟩ := hP1
  have hWp1 := pl_keepA hWp hk1 (fun z h0 h3 => PLs_X z h0 h3)
  have hWm1 := rg_keepA hWm hk1 (by intro z h1 h2 h3; have h8 := h3.1.1; have h9 := h3.1.2; omega)
  have hG1 := GO_keepA hG hk1 (by have h8 := hS.1; omega) (by intro z h3; have h8 := h3.1.1; omega)
  refine W.eq (g2 := F0 m 1305 ls [.int rx]) rfl ?_
  refine lv_aload_n (pc := 1305) hx hb dL_law_1305 rfl (lv_at hl 2 rfl) ?_
  refine lv_aload_n (pc := 1306) hx hb dL_law_1306 rfl (lv_at hl 0 rfl) ?_
  refine lv_iload_n (pc := 1307) hx hb dL_law_1307 rfl (lv_at hl 3 rfl) ?_
  refine lv_iconst (pc := 1308) (v := (1 : Int32)) hx hb dL_law_1308 (by decide) ?_
  refine lv_iadd (pc := 1309) hx hb dL_law_1309 ?_
  refine va_sld (pc := 1310) hx hb hX hbl hbA hS1 h1 dL_law_1310 ?_
  refine lv_aload_n (pc := 1311) hx hb dL_law_1311 rfl (lv_at hl 0 rfl) ?_
  refine lv_iload_n (pc := 1312) hx hb dL_law_1312 rfl (lv_at hl 3 rfl) ?_
  refine lv_iconst (pc := 1313) (v := (2 : Int32)) hx hb dL_law_1313 (by decide) ?_
  refine lv_iadd (pc := 1314) hx hb dL_law_1314 ?_
  refine va_sld (pc := 1315) hx hb hX hbl hbA hS1 h2 dL_law_1315 ?_
  refine lv_aload_n (pc := 1316) hx hb dL_law_1316 rfl (lv_at hl 0 rfl) ?_
  refine lv_iload_n (pc := 1317) hx hb dL_law_1317 rfl (lv_at hl 3 rfl) ?_
  refine lv_iconst (pc := 1318) (v := (3 : Int32)) hx hb dL_law_1318 (by decide) ?_
  refine lv_iadd (pc := 1319) hx hb dL_law_1319 ?_
  refine va_sld (pc := 1320) hx hb hX hbl hbA hS1 h3 dL_law_1320 ?_
  refine rk_TV (pc := 1321) (As := [.int (xs (i3 + (1 : Int32)).toNatClampNeg), .int (xs (i3 + (2 : Int32)).toNatClampNeg), .int (xs (i3 + (3 : Int32)).toNatClampNeg)]) (rest := [.int rx]) (mc := 0) (ms := 0) hx hb hml hown hts hK hS1 (fun q hq => hq) lkL_172 rfl yn_X9_plan (ct_X9_plan (G := G) (l := l) (b0 := b0 + 357) (sz := H1.size) hm) ⟨Nat.le_of_ble_eq_true rfl, Nat.le_of_ble_eq_true rfl⟩ (fun z h => by have h8 := h.1; omega) (rk_recv hK hWm1 0 (by decide) rfl rfl rfl) hWm1 rfl rfl hl.1 (Nat.le_of_ble_eq_true rfl) dL_law_1321 ⟨by show _ ≤ 1200144; omega, by show _ ≤ 5496634; omega⟩ (fun ov8 H2 locs2 hP2 hk2 hS2 => ?_)
  obtain ⟨rfl, hWm2, hz2⟩ := hP2
  have hWx2 := rg_keepX hWx1 hk2 (fun z h0 h3 => by have h8 := h0.1.2; have h9 := h3.1; omega)
  have hWp2 := pl_keepA hWp1 hk2 (fun z h0 h3 => PLs_m z h0 h3)
  have hG2 := GO_keepA hG1 hk2 (by have h8 := hS1.1; omega) (by intro z h3; have h8 := h3.1; omega)
  refine W.eq (g2 := F0 m 1324 ls [.int rx, .int rx]) rfl ?_
  refine lv_icmp_eq (pc := 1324) (tgt := 1637) hx hb dL_law_1324 (by decide) (fun _ => ?_) (fun h => absurd rfl h)
  have hR9 : Rel wx vp H2.size um := by rw [show H2.size = H.size by omega]; exact hR2
  exact rk_widen (by omega) (by omega) (kk H2 locs2 ls ⟨_, _, _, hWx2, hWp2, hWm2, hR9, hG2, hS2, hl⟩)
theorem lkL_173 : LV R_law 173 RX0 yX0_ends cX0_ends 3 (some .int) := ⟨q1600, q1601, q1602, q114, q1603⟩
theorem yn_X0_ends : YN yX0_ends 0 := by
  unfold YN
  decide +kernel
theorem lkL_176 : LV R_law 176 RX9 yX9_ends cX9_ends 2 (some .int) := ⟨q2346, q2347, q2348, q128, q2349⟩
theorem yn_X9_ends : YN yX9_ends 0 := by
  unfold YN
  decide +kernel
set_option maxHeartbeats 4000000 in
theorem lc_38 {p : Program} {l : Launch} {e : Env} {s : State} {m : MethodId} {below : List Frame} {meth : Method} {c : Code} {G : Gv} {b L b0 : Nat} {xs : Nat → Int32} {Rel : Mem → Mem → Nat → Mem → Prop} (W0 : LWd G p l s m c b L xs b0) (hOK : LawOK b0 Rel) {i3 : Int32} {H : Heap} {locs : List Loc} {ls : Array Slot} {cells slots : Nat} (hcl : cells + 100 ≤ 1200144) (hsl : slots + 2300 ≤ 5496634) (hin : LIn i3 L) (hI : LInv G Rel s b b0 i3 H locs ls)
    (kk : ∀ (H1 : Heap) (locs1 : List Loc) (ls1 : Array Slot), LInv G Rel s b b0 i3 H1 locs1 ls1 → lwW p l e s m b below meth c H1 locs1 (cells + 100) (slots + 2300) (F0 m 1637 ls1 [])) : lwW p l e s m b below meth c H locs cells slots (F0 m 1329 ls []) := by
  obtain ⟨hx, hb, hml, hown, hts, hK, hX, hbl, hb0, hZ, hZX, hZL, hZP, hZN, hZC, hl0, hgB⟩ := id W0
  obtain ⟨vx, vp, vm, hWx, hWp, hWm, hR, hG, hS, hl⟩ := hI
  obtain ⟨h1, h2, h3, h4, h5⟩ := hin
  have hbA : ¬ (fun q : Nat => s.heap.size ≤ q) b := Nat.not_le.mpr hbl
  refine lv_aload_n (pc := 1329) hx hb dL_law_1329 rfl (lv_at hl 1 rfl) ?_
  obtain ⟨rx, rc, wx, um, hq, hm, hR2⟩ := hOK.2.2.2.2.2.2.2.2.2.2.2.2.2.2.2.2.2.2.2.2.2.2.2.2.2.2.2.2.2.2.2.2.2.2.2.2.2.2.1 vx vp H.size vm  hR
  refine rk_TV (pc := 1330) (As := []) (rest := []) (mc := 1) (ms := 7) hx hb hml hown hts hK hS (fun q hq => hq) lkL_173 rfl yn_X0_ends (ct_X0_ends (G := G) (l := l) (b0 := b0) (sz := H.size) hq hZ (by omega) hZL) ⟨Nat.le_of_ble_eq_true rfl, Nat.le_of_ble_eq_true rfl⟩ (fun z h => by have h8 := h.1.1; omega) (rk_recv hK hWx 0 (by decide) rfl rfl rfl) ⟨hWx, hG⟩ rfl rfl hl.1 (Nat.le_of_ble_eq_true rfl) dL_law_1330 ⟨by show _ ≤ 1200144; omega, by show _ ≤ 5496634; omega⟩ (fun ov9 H1 locs1 hP1 hk1 hS1 => ?_)
  obtain ⟨rfl, hWx1, hz1⟩ := hP1
  have hWp1 := pl_keepA hWp hk1 (fun z h0 h3 => PLs_X z h0 h3)
  have hWm1 := rg_keepA hWm hk1 (by intro z h1 h2 h3; have h8 := h3.1.1; have h9 := h3.1.2; omega)
  have hG1 := GO_keepA hG hk1 (by have h8 := hS.1; omega) (by intro z h3; have h8 := h3.1.1; omega)
  refine W.eq (g2 := F0 m 1333 ls [.int rx]) rfl ?_
  refine lv_aload_n (pc := 1333) hx hb dL_law_1333 rfl (lv_at hl 2 rfl) ?_
  refine rk_TV (pc := 1334) (As := []) (rest := [.int rx]) (mc := 0) (ms := 0) hx hb hml hown hts hK hS1 (fun q hq => hq) lkL_176 rfl yn_X9_ends (ct_X9_ends (G := G) (l := l) (b0 := b0 + 357) (sz := H1.size) hm) ⟨Nat.le_of_ble_eq_true rfl, Nat.le_of_ble_eq_true rfl⟩ (fun z h => by have h8 := h.1; omega) (rk_recv hK hWm1 0 (by decide) rfl rfl rfl) hWm1 rfl rfl hl.1 (Nat.le_of_ble_eq_true rfl) dL_law_1334 ⟨by show _ ≤ 1200144; omega, by show _ ≤ 5496634; omega⟩ (fun ov8 H2 locs2 hP2 hk2 hS2 => ?_)
  obtain ⟨rfl, hWm2, hz2⟩ := hP2
  have hWx2 := rg_keepX hWx1 hk2 (fun z h0 h3 => by have h8 := h0.1.2; have h9 := h3.1; omega)
  have hWp2 := pl_keepA hWp1 hk2 (fun z h0 h3 => PLs_m z h0 h3)
  have hG2 := GO_keepA hG1 hk2 (by have h8 := hS1.1; omega) (by intro z h3; have h8 := h3.1; omega)
  refine W.eq (g2 := F0 m 1337 ls [.int rx, .int rx]) rfl ?_
  refine lv_icmp_eq (pc := 1337) (tgt := 1637) hx hb dL_law_1337 (by decide) (fun _ => ?_) (fun h => absurd rfl h)
  have hR9 : Rel wx vp H2.size um := by rw [show H2.size = H.size + rc by omega]; exact hR2
  exact rk_widen (by omega) (by omega) (kk H2 locs2 ls ⟨_, _, _, hWx2, hWp2, hWm2, hR9, hG2, hS2, hl⟩)
theorem lkL_177 : LV R_law 177 RX0 yX0_judge cX0_judge 5 (some .int) := ⟨q1623, q1624, q1625, q114, q1626⟩
theorem yn_X0_judge : YN yX0_judge 2 := by
  unfold YN
  decide +kernel
theorem lkL_180 : LV R_law 180 RX9 yX9_judge cX9_judge 4 (some .int) := ⟨q2354, q2355, q2356, q128, q2357⟩
theorem yn_X9_judge : YN yX9_judge 2 := by
  unfold YN
  decide +kernel
set_option maxHeartbeats 4000000 in
theorem lc_39 {p : Program} {l : Launch} {e : Env} {s : State} {m : MethodId} {below : List Frame} {meth : Method} {c : Code} {G : Gv} {b L b0 : Nat} {xs : Nat → Int32} {Rel : Mem → Mem → Nat → Mem → Prop} (W0 : LWd G p l s m c b L xs b0) (hOK : LawOK b0 Rel) {i3 : Int32} {H : Heap} {locs : List Loc} {ls : Array Slot} {cells slots : Nat} (hcl : cells + 100 ≤ 1200144) (hsl : slots + 2300 ≤ 5496634) (hin : LIn i3 L) (hI : LInv G Rel s b b0 i3 H locs ls)
    (kk : ∀ (H1 : Heap) (locs1 : List Loc) (ls1 : Array Slot), LInv G Rel s b b0 i3 H1 locs1 ls1 → lwW p l e s m b below meth c H1 locs1 (cells + 100) (slots + 2300) (F0 m 1637 ls1 [])) : lwW p l e s m b below meth c H locs cells slots (F0 m 1342 ls []) := by
  obtain ⟨hx, hb, hml, hown, hts, hK, hX, hbl, hb0, hZ, hZX, hZL, hZP, hZN, hZC, hl0, hgB⟩ := id W0
  obtain ⟨vx, vp, vm, hWx, hWp, hWm, hR, hG, hS, hl⟩ := hI
  obtain ⟨h1, h2, h3, h4, h5⟩ := hin
  have hbA : ¬ (fun q : Nat => s.heap.size ≤ q) b := Nat.not_le.mpr hbl
  refine lv_aload_n (pc := 1342) hx hb dL_law_1342 rfl (lv_at hl 1 rfl) ?_
  refine lv_aload_n (pc := 1343) hx hb dL_law_1343 rfl (lv_at hl 0 rfl) ?_
  refine lv_iload_n (pc := 1344) hx hb dL_law_1344 rfl (lv_at hl 3 rfl) ?_
  refine lv_iconst (pc := 1345) (v := (1 : Int32)) hx hb dL_law_1345 (by decide) ?_
  refine lv_iadd (pc := 1346) hx hb dL_law_1346 ?_
  refine va_sld (pc := 1347) hx hb hX hbl hbA hS h1 dL_law_1347 ?_
  refine lv_aload_n (pc := 1348) hx hb dL_law_1348 rfl (lv_at hl 0 rfl) ?_
  refine lv_iload_n (pc := 1349) hx hb dL_law_1349 rfl (lv_at hl 3 rfl) ?_
  refine lv_iconst (pc := 1350) (v := (2 : Int32)) hx hb dL_law_1350 (by decide) ?_
  refine lv_iadd (pc := 1351) hx hb dL_law_1351 ?_
  refine va_sld (pc := 1352) hx hb hX hbl hbA hS h2 dL_law_1352 ?_
  obtain ⟨rx, hq, hm⟩ := hOK.2.2.2.2.2.2.2.2.2.2.2.2.2.2.2.2.2.2.2.2.2.2.2.2.2.2.2.2.2.2.2.2.2.2.2.2.2.2.2.1 vx vp H.size vm (xs (i3 + (1 : Int32)).toNatClampNeg) (xs (i3 + (2 : Int32)).toNatClampNeg) hR
  refine rk_PV (pc := 1353) (As := [.int (xs (i3 + (1 : Int32)).toNatClampNeg), .int (xs (i3 + (2 : Int32)).toNatClampNeg)]) (rest := []) hx hb hml hown hts hK lkL_177 rfl yn_X0_judge (ct_X0_judge (G := G) (l := l) (b0 := b0) hq hZN) ⟨Nat.le_of_ble_eq_true rfl, Nat.le_of_ble_eq_true rfl⟩ (rk_recv hK hWx 0 (by decide) rfl rfl rfl) ⟨hWx, hWp⟩ rfl rfl hl.1 (Nat.le_of_ble_eq_true rfl) dL_law_1353 ⟨by show _ ≤ 1200144; omega, by show _ ≤ 5496634; omega⟩ ?_
  refine W.eq (g2 := F0 m 1356 ls [.int rx]) rfl ?_
  refine lv_aload_n (pc := 1356) hx hb dL_law_1356 rfl (lv_at hl 2 rfl) ?_
  refine lv_aload_n (pc := 1357) hx hb dL_law_1357 rfl (lv_at hl 0 rfl) ?_
  refine lv_iload_n (pc := 1358) hx hb dL_law_1358 rfl (lv_at hl 3 rfl) ?_
  refine lv_iconst (pc := 1359) (v := (1 : Int32)) hx hb dL_law_1359 (by decide) ?_
  refine lv_iadd (pc := 1360) hx hb dL_law_1360 ?_
  refine va_sld (pc := 1361) hx hb hX hbl hbA hS h1 dL_law_1361 ?_
  refine lv_aload_n (pc := 1362) hx hb dL_law_1362 rfl (lv_at hl 0 rfl) ?_
  refine lv_iload_n (pc := 1363) hx hb dL_law_1363 rfl (lv_at hl 3 rfl) ?_
  refine lv_iconst (pc := 1364) (v := (2 : Int32)) hx hb dL_law_1364 (by decide) ?_
  refine lv_iadd (pc := 1365) hx hb dL_law_1365 ?_
  refine va_sld (pc := 1366) hx hb hX hbl hbA hS h2 dL_law_1366 ?_
  refine rk_PV (pc := 1367) (As := [.int (xs (i3 + (1 : Int32)).toNatClampNeg), .int (xs (i3 + (2 : Int32)).toNatClampNeg)]) (rest := [.int rx]) hx hb hml hown hts hK lkL_180 rfl yn_X9_judge (ct_X9_judge (G := G) (l := l) (b0 := b0 + 357) hm) ⟨Nat.le_of_ble_eq_true rfl, Nat.le_of_ble_eq_true rfl⟩ (rk_recv hK hWm 0 (by decide) rfl rfl rfl) hWm rfl rfl hl.1 (Nat.le_of_ble_eq_true rfl) dL_law_1367 ⟨by show _ ≤ 1200144; omega, by show _ ≤ 5496634; omega⟩ ?_
  refine W.eq (g2 := F0 m 1370 ls [.int rx, .int rx]) rfl ?_
  refine lv_icmp_eq (pc := 1370) (tgt := 1637) hx hb dL_law_1370 (by decide) (fun _ => ?_) (fun h => absurd rfl h)
  have hR9 : Rel vx vp H.size vm := hR
  exact rk_widen (by omega) (by omega) (kk H locs ls ⟨_, _, _, hWx, hWp, hWm, hR9, hG, hS, hl⟩)
theorem lkL_181 : LV R_law 181 RX0 yX0_image cX0_image 1 (some .int) := ⟨q1608, q1609, q1610, q114, q1611⟩
theorem yn_X0_image : YN yX0_image 0 := by
  unfold YN
  decide +kernel
theorem lkL_184 : LV R_law 184 RX9 yX9_image cX9_image 2 (some .int) := ⟨q2361, q2362, q2363, q128, q2364⟩
theorem yn_X9_image : YN yX9_image 0 := by
  unfold YN
  decide +kernel
set_option maxHeartbeats 4000000 in
theorem lc_40 {p : Program} {l : Launch} {e : Env} {s : State} {m : MethodId} {below : List Frame} {meth : Method} {c : Code} {G : Gv} {b L b0 : Nat} {xs : Nat → Int32} {Rel : Mem → Mem → Nat → Mem → Prop} (W0 : LWd G p l s m c b L xs b0) (hOK : LawOK b0 Rel) {i3 : Int32} {H : Heap} {locs : List Loc} {ls : Array Slot} {cells slots : Nat} (hcl : cells + 100 ≤ 1200144) (hsl : slots + 2300 ≤ 5496634) (hin : LIn i3 L) (hI : LInv G Rel s b b0 i3 H locs ls)
    (kk : ∀ (H1 : Heap) (locs1 : List Loc) (ls1 : Array Slot), LInv G Rel s b b0 i3 H1 locs1 ls1 → lwW p l e s m b below meth c H1 locs1 (cells + 100) (slots + 2300) (F0 m 1637 ls1 [])) : lwW p l e s m b below meth c H locs cells slots (F0 m 1375 ls []) := by
  obtain ⟨hx, hb, hml, hown, hts, hK, hX, hbl, hb0, hZ, hZX, hZL, hZP, hZN, hZC, hl0, hgB⟩ := id W0
  obtain ⟨vx, vp, vm, hWx, hWp, hWm, hR, hG, hS, hl⟩ := hI
  obtain ⟨h1, h2, h3, h4, h5⟩ := hin
  have hbA : ¬ (fun q : Nat => s.heap.size ≤ q) b := Nat.not_le.mpr hbl
  refine lv_aload_n (pc := 1375) hx hb dL_law_1375 rfl (lv_at hl 1 rfl) ?_
  obtain ⟨rx, rc, wx, wp, um, hq, hm, hR2⟩ := hOK.2.2.2.2.2.2.2.2.2.2.2.2.2.2.2.2.2.2.2.2.2.2.2.2.2.2.2.2.2.2.2.2.2.2.2.2.2.2.2.2.1 vx vp H.size vm  hR
  refine rk_TV (pc := 1376) (As := []) (rest := []) (mc := 24) (ms := 200) hx hb hml hown hts hK hS (fun q hq => hq) lkL_181 rfl yn_X0_image (ct_X0_image (G := G) (l := l) (b0 := b0) hq PLs_X hZP) ⟨Nat.le_of_ble_eq_true rfl, Nat.le_of_ble_eq_true rfl⟩ (fun z h => h.elim (fun h => by have h8 := h.1.1; omega) (fun h => by have h8 := PLs_g (k := s.heap.size) (by omega) z h.1; omega)) (rk_recv hK hWx 0 (by decide) rfl rfl rfl) ⟨hWx, hWp⟩ rfl rfl hl.1 (Nat.le_of_ble_eq_true rfl) dL_law_1376 ⟨by show _ ≤ 1200144; omega, by show _ ≤ 5496634; omega⟩ (fun ov9 H1 locs1 hP1 hk1 hS1 => ?_)
  obtain ⟨rfl, hWx1, hWp1, hz1, -⟩ := hP1
  have hWm1 := rg_keepA hWm hk1 (by intro z h1 h2 h3; exact h3.elim (fun h3 => by have h8 := h3.1.1; have h9 := h3.1.2; omega) (fun h3 => by exact PLs_m z h3.1 ⟨h1, h2⟩))
  have hG1 := GO_keepA hG hk1 (by have h8 := hS.1; omega) (by intro z h3; exact h3.elim (fun h3 => by have h8 := h3.1.1; omega) (fun h3 => PLs_g (by omega) z h3.1))
  refine W.eq (g2 := F0 m 1379 ls [.int rx]) rfl ?_
  refine lv_aload_n (pc := 1379) hx hb dL_law_1379 rfl (lv_at hl 2 rfl) ?_
  refine rk_TV (pc := 1380) (As := []) (rest := [.int rx]) (mc := 0) (ms := 0) hx hb hml hown hts hK hS1 (fun q hq => hq) lkL_184 rfl yn_X9_image (ct_X9_image (G := G) (l := l) (b0 := b0 + 357) (sz := H1.size) hm) ⟨Nat.le_of_ble_eq_true rfl, Nat.le_of_ble_eq_true rfl⟩ (fun z h => by have h8 := h.1; omega) (rk_recv hK hWm1 0 (by decide) rfl rfl rfl) hWm1 rfl rfl hl.1 (Nat.le_of_ble_eq_true rfl) dL_law_1380 ⟨by show _ ≤ 1200144; omega, by show _ ≤ 5496634; omega⟩ (fun ov8 H2 locs2 hP2 hk2 hS2 => ?_)
  obtain ⟨rfl, hWm2, hz2⟩ := hP2
  have hWx2 := rg_keepX hWx1 hk2 (fun z h0 h3 => by have h8 := h0.1.2; have h9 := h3.1; omega)
  have hWp2 := pl_keepA hWp1 hk2 (fun z h0 h3 => PLs_m z h0 h3)
  have hG2 := GO_keepA hG1 hk2 (by have h8 := hS1.1; omega) (by intro z h3; have h8 := h3.1; omega)
  refine W.eq (g2 := F0 m 1383 ls [.int rx, .int rx]) rfl ?_
  refine lv_icmp_eq (pc := 1383) (tgt := 1637) hx hb dL_law_1383 (by decide) (fun _ => ?_) (fun h => absurd rfl h)
  have hR9 : Rel wx wp H2.size um := by rw [show H2.size = H.size + rc by omega]; exact hR2
  exact rk_widen (by omega) (by omega) (kk H2 locs2 ls ⟨_, _, _, hWx2, hWp2, hWm2, hR9, hG2, hS2, hl⟩)
theorem lkL_185 : LV R_law 185 RX0 yX0_undo cX0_undo 1 (some .int) := ⟨q1615, q1616, q1617, q114, q1618⟩
theorem yn_X0_undo : YN yX0_undo 0 := by
  unfold YN
  decide +kernel
theorem lkL_188 : LV R_law 188 RX9 yX9_undo cX9_undo 2 (some .int) := ⟨q2365, q2366, q2367, q128, q2368⟩
theorem yn_X9_undo : YN yX9_undo 0 := by
  unfold YN
  decide +kernel
set_option maxHeartbeats 4000000 in
theorem lc_41 {p : Program} {l : Launch} {e : Env} {s : State} {m : MethodId} {below : List Frame} {meth : Method} {c : Code} {G : Gv} {b L b0 : Nat} {xs : Nat → Int32} {Rel : Mem → Mem → Nat → Mem → Prop} (W0 : LWd G p l s m c b L xs b0) (hOK : LawOK b0 Rel) {i3 : Int32} {H : Heap} {locs : List Loc} {ls : Array Slot} {cells slots : Nat} (hcl : cells + 100 ≤ 1200144) (hsl : slots + 2300 ≤ 5496634) (hin : LIn i3 L) (hI : LInv G Rel s b b0 i3 H locs ls)
    (kk : ∀ (H1 : Heap) (locs1 : List Loc) (ls1 : Array Slot), LInv G Rel s b b0 i3 H1 locs1 ls1 → lwW p l e s m b below meth c H1 locs1 (cells + 100) (slots + 2300) (F0 m 1637 ls1 [])) : lwW p l e s m b below meth c H locs cells slots (F0 m 1388 ls []) := by
  obtain ⟨hx, hb, hml, hown, hts, hK, hX, hbl, hb0, hZ, hZX, hZL, hZP, hZN, hZC, hl0, hgB⟩ := id W0
  obtain ⟨vx, vp, vm, hWx, hWp, hWm, hR, hG, hS, hl⟩ := hI
  obtain ⟨h1, h2, h3, h4, h5⟩ := hin
  have hbA : ¬ (fun q : Nat => s.heap.size ≤ q) b := Nat.not_le.mpr hbl
  refine lv_aload_n (pc := 1388) hx hb dL_law_1388 rfl (lv_at hl 1 rfl) ?_
  obtain ⟨rx, rc, wx, wp, um, hq, hm, hR2⟩ := hOK.2.2.2.2.2.2.2.2.2.2.2.2.2.2.2.2.2.2.2.2.2.2.2.2.2.2.2.2.2.2.2.2.2.2.2.2.2.2.2.2.2.1 vx vp H.size vm  hR
  refine rk_TV (pc := 1389) (As := []) (rest := []) (mc := 24) (ms := 200) hx hb hml hown hts hK hS (fun q hq => hq) lkL_185 rfl yn_X0_undo (ct_X0_undo (G := G) (l := l) (b0 := b0) hq PLs_X hZP) ⟨Nat.le_of_ble_eq_true rfl, Nat.le_of_ble_eq_true rfl⟩ (fun z h => h.elim (fun h => by have h8 := h.1.1; omega) (fun h => by have h8 := PLs_g (k := s.heap.size) (by omega) z h.1; omega)) (rk_recv hK hWx 0 (by decide) rfl rfl rfl) ⟨hWx, hWp⟩ rfl rfl hl.1 (Nat.le_of_ble_eq_true rfl) dL_law_1389 ⟨by show _ ≤ 1200144; omega, by show _ ≤ 5496634; omega⟩ (fun ov9 H1 locs1 hP1 hk1 hS1 => ?_)
  obtain ⟨rfl, hWx1, hWp1, hz1, -⟩ := hP1
  have hWm1 := rg_keepA hWm hk1 (by intro z h1 h2 h3; exact h3.elim (fun h3 => by have h8 := h3.1.1; have h9 := h3.1.2; omega) (fun h3 => by exact PLs_m z h3.1 ⟨h1, h2⟩))
  have hG1 := GO_keepA hG hk1 (by have h8 := hS.1; omega) (by intro z h3; exact h3.elim (fun h3 => by have h8 := h3.1.1; omega) (fun h3 => PLs_g (by omega) z h3.1))
  refine W.eq (g2 := F0 m 1392 ls [.int rx]) rfl ?_
  refine lv_aload_n (pc := 1392) hx hb dL_law_1392 rfl (lv_at hl 2 rfl) ?_
  refine rk_TV (pc := 1393) (As := []) (rest := [.int rx]) (mc := 0) (ms := 0) hx hb hml hown hts hK hS1 (fun q hq => hq) lkL_188 rfl yn_X9_undo (ct_X9_undo (G := G) (l := l) (b0 := b0 + 357) (sz := H1.size) hm) ⟨Nat.le_of_ble_eq_true rfl, Nat.le_of_ble_eq_true rfl⟩ (fun z h => by have h8 := h.1; omega) (rk_recv hK hWm1 0 (by decide) rfl rfl rfl) hWm1 rfl rfl hl.1 (Nat.le_of_ble_eq_true rfl) dL_law_1393 ⟨by show _ ≤ 1200144; omega, by show _ ≤ 5496634; omega⟩ (fun ov8 H2 locs2 hP2 hk2 hS2 => ?_)
  obtain ⟨rfl, hWm2, hz2⟩ := hP2
  have hWx2 := rg_keepX hWx1 hk2 (fun z h0 h3 => by have h8 := h0.1.2; have h9 := h3.1; omega)
  have hWp2 := pl_keepA hWp1 hk2 (fun z h0 h3 => PLs_m z h0 h3)
  have hG2 := GO_keepA hG1 hk2 (by have h8 := hS1.1; omega) (by intro z h3; have h8 := h3.1; omega)
  refine W.eq (g2 := F0 m 1396 ls [.int rx, .int rx]) rfl ?_
  refine lv_icmp_eq (pc := 1396) (tgt := 1637) hx hb dL_law_1396 (by decide) (fun _ => ?_) (fun h => absurd rfl h)
  have hR9 : Rel wx wp H2.size um := by rw [show H2.size = H.size + rc by omega]; exact hR2
  exact rk_widen (by omega) (by omega) (kk H2 locs2 ls ⟨_, _, _, hWx2, hWp2, hWm2, hR9, hG2, hS2, hl⟩)
theorem lkL_189 : LV R_law 189 RX0 yX0_count cX0_count 2 (some .int) := ⟨q1619, q1620, q1621, q114, q1622⟩
theorem yn_X0_count : YN yX0_count 1 := by
  unfold YN
  decide +kernel
theorem lkL_192 : LV R_law 192 RX9 yX9_count cX9_count 3 (some .int) := ⟨q2369, q2370, q2371, q128, q2372⟩
theorem yn_X9_count : YN yX9_count 1 := by
  unfold YN
  decide +kernel
set_option maxHeartbeats 4000000 in
theorem lc_42 {p : Program} {l : Launch} {e : Env} {s : State} {m : MethodId} {below : List Frame} {meth : Method} {c : Code} {G : Gv} {b L b0 : Nat} {xs : Nat → Int32} {Rel : Mem → Mem → Nat → Mem → Prop} (W0 : LWd G p l s m c b L xs b0) (hOK : LawOK b0 Rel) {i3 : Int32} {H : Heap} {locs : List Loc} {ls : Array Slot} {cells slots : Nat} (hcl : cells + 100 ≤ 1200144) (hsl : slots + 2300 ≤ 5496634) (hin : LIn i3 L) (hI : LInv G Rel s b b0 i3 H locs ls)
    (kk : ∀ (H1 : Heap) (locs1 : List Loc) (ls1 : Array Slot), LInv G Rel s b b0 i3 H1 locs1 ls1 → lwW p l e s m b below meth c H1 locs1 (cells + 100) (slots + 2300) (F0 m 1637 ls1 [])) : lwW p l e s m b below meth c H locs cells slots (F0 m 1401 ls []) := by
  obtain ⟨hx, hb, hml, hown, hts, hK, hX, hbl, hb0, hZ, hZX, hZL, hZP, hZN, hZC, hl0, hgB⟩ := id W0
  obtain ⟨vx, vp, vm, hWx, hWp, hWm, hR, hG, hS, hl⟩ := hI
  obtain ⟨h1, h2, h3, h4, h5⟩ := hin
  have hbA : ¬ (fun q : Nat => s.heap.size ≤ q) b := Nat.not_le.mpr hbl
  refine lv_aload_n (pc := 1401) hx hb dL_law_1401 rfl (lv_at hl 1 rfl) ?_
  refine lv_aload_n (pc := 1402) hx hb dL_law_1402 rfl (lv_at hl 0 rfl) ?_
  refine lv_iload_n (pc := 1403) hx hb dL_law_1403 rfl (lv_at hl 3 rfl) ?_
  refine lv_iconst (pc := 1404) (v := (1 : Int32)) hx hb dL_law_1404 (by decide) ?_
  refine lv_iadd (pc := 1405) hx hb dL_law_1405 ?_
  refine va_sld (pc := 1406) hx hb hX hbl hbA hS h1 dL_law_1406 ?_
  obtain ⟨rx, hq, hm⟩ := hOK.2.2.2.2.2.2.2.2.2.2.2.2.2.2.2.2.2.2.2.2.2.2.2.2.2.2.2.2.2.2.2.2.2.2.2.2.2.2.2.2.2.2.1 vx vp H.size vm (xs (i3 + (1 : Int32)).toNatClampNeg) hR
  refine rk_PV (pc := 1407) (As := [.int (xs (i3 + (1 : Int32)).toNatClampNeg)]) (rest := []) hx hb hml hown hts hK lkL_189 rfl yn_X0_count (ct_X0_count (G := G) (l := l) (b0 := b0) hq) ⟨Nat.le_of_ble_eq_true rfl, Nat.le_of_ble_eq_true rfl⟩ (rk_recv hK hWx 0 (by decide) rfl rfl rfl) ⟨hWx, hWp⟩ rfl rfl hl.1 (Nat.le_of_ble_eq_true rfl) dL_law_1407 ⟨by show _ ≤ 1200144; omega, by show _ ≤ 5496634; omega⟩ ?_
  refine W.eq (g2 := F0 m 1410 ls [.int rx]) rfl ?_
  refine lv_aload_n (pc := 1410) hx hb dL_law_1410 rfl (lv_at hl 2 rfl) ?_
  refine lv_aload_n (pc := 1411) hx hb dL_law_1411 rfl (lv_at hl 0 rfl) ?_
  refine lv_iload_n (pc := 1412) hx hb dL_law_1412 rfl (lv_at hl 3 rfl) ?_
  refine lv_iconst (pc := 1413) (v := (1 : Int32)) hx hb dL_law_1413 (by decide) ?_
  refine lv_iadd (pc := 1414) hx hb dL_law_1414 ?_
  refine va_sld (pc := 1415) hx hb hX hbl hbA hS h1 dL_law_1415 ?_
  refine rk_PV (pc := 1416) (As := [.int (xs (i3 + (1 : Int32)).toNatClampNeg)]) (rest := [.int rx]) hx hb hml hown hts hK lkL_192 rfl yn_X9_count (ct_X9_count (G := G) (l := l) (b0 := b0 + 357) hm) ⟨Nat.le_of_ble_eq_true rfl, Nat.le_of_ble_eq_true rfl⟩ (rk_recv hK hWm 0 (by decide) rfl rfl rfl) hWm rfl rfl hl.1 (Nat.le_of_ble_eq_true rfl) dL_law_1416 ⟨by show _ ≤ 1200144; omega, by show _ ≤ 5496634; omega⟩ ?_
  refine W.eq (g2 := F0 m 1419 ls [.int rx, .int rx]) rfl ?_
  refine lv_icmp_eq (pc := 1419) (tgt := 1637) hx hb dL_law_1419 (by decide) (fun _ => ?_) (fun h => absurd rfl h)
  have hR9 : Rel vx vp H.size vm := hR
  exact rk_widen (by omega) (by omega) (kk H locs ls ⟨_, _, _, hWx, hWp, hWm, hR9, hG, hS, hl⟩)
theorem lkL_193 : LVW R_law 193 RX0 yX0_tape cX0_tape 5 (some .int) [(36, 47, 50, 583)] := ⟨q1648, q1649, q1650, q114, q1651⟩
theorem yn_X0_tape : YN yX0_tape 3 := by
  unfold YN
  decide +kernel
theorem lkL_196 : LV R_law 196 RX9 yX9_tape cX9_tape 5 (some .int) := ⟨q2373, q2374, q2375, q128, q2376⟩
theorem yn_X9_tape : YN yX9_tape 3 := by
  unfold YN
  decide +kernel
set_option maxHeartbeats 4000000 in
theorem lc_43 {p : Program} {l : Launch} {e : Env} {s : State} {m : MethodId} {below : List Frame} {meth : Method} {c : Code} {G : Gv} {b L b0 : Nat} {xs : Nat → Int32} {Rel : Mem → Mem → Nat → Mem → Prop} (W0 : LWd G p l s m c b L xs b0) (hOK : LawOK b0 Rel) {i3 : Int32} {H : Heap} {locs : List Loc} {ls : Array Slot} {cells slots : Nat} (hcl : cells + 100 ≤ 1200144) (hsl : slots + 2300 ≤ 5496634) (hin : LIn i3 L) (hI : LInv G Rel s b b0 i3 H locs ls)
    (kk : ∀ (H1 : Heap) (locs1 : List Loc) (ls1 : Array Slot), LInv G Rel s b b0 i3 H1 locs1 ls1 → lwW p l e s m b below meth c H1 locs1 (cells + 100) (slots + 2300) (F0 m 1637 ls1 [])) : lwW p l e s m b below meth c H locs cells slots (F0 m 1424 ls []) := by
  obtain ⟨hx, hb, hml, hown, hts, hK, hX, hbl, hb0, hZ, hZX, hZL, hZP, hZN, hZC, hl0, hgB⟩ := id W0
  obtain ⟨vx, vp, vm, hWx, hWp, hWm, hR, hG, hS, hl⟩ := hI
  obtain ⟨h1, h2, h3, h4, h5⟩ := hin
  have hbA : ¬ (fun q : Nat => s.heap.size ≤ q) b := Nat.not_le.mpr hbl
  refine lv_aload_n (pc := 1424) hx hb dL_law_1424 rfl (lv_at hl 1 rfl) ?_
  refine lv_aload_n (pc := 1425) hx hb dL_law_1425 rfl (lv_at hl 0 rfl) ?_
  refine lv_iload_n (pc := 1426) hx hb dL_law_1426 rfl (lv_at hl 3 rfl) ?_
  refine lv_iconst (pc := 1427) (v := (1 : Int32)) hx hb dL_law_1427 (by decide) ?_
  refine lv_iadd (pc := 1428) hx hb dL_law_1428 ?_
  refine va_sld (pc := 1429) hx hb hX hbl hbA hS h1 dL_law_1429 ?_
  refine lv_aload_n (pc := 1430) hx hb dL_law_1430 rfl (lv_at hl 0 rfl) ?_
  refine lv_iload_n (pc := 1431) hx hb dL_law_1431 rfl (lv_at hl 3 rfl) ?_
  refine lv_iconst (pc := 1432) (v := (2 : Int32)) hx hb dL_law_1432 (by decide) ?_
  refine lv_iadd (pc := 1433) hx hb dL_law_1433 ?_
  refine va_sld (pc := 1434) hx hb hX hbl hbA hS h2 dL_law_1434 ?_
  refine lv_aload_n (pc := 1435) hx hb dL_law_1435 rfl (lv_at hl 0 rfl) ?_
  refine lv_iload_n (pc := 1436) hx hb dL_law_1436 rfl (lv_at hl 3 rfl) ?_
  refine lv_iconst (pc := 1437) (v := (3 : Int32)) hx hb dL_law_1437 (by decide) ?_
  refine lv_iadd (pc := 1438) hx hb dL_law_1438 ?_
  refine va_sld (pc := 1439) hx hb hX hbl hbA hS h3 dL_law_1439 ?_
  obtain ⟨rx, um, hm, hor⟩ := hOK.2.2.2.2.2.2.2.2.2.2.2.2.2.2.2.2.2.2.2.2.2.2.2.2.2.2.2.2.2.2.2.2.2.2.2.2.2.2.2.2.2.2.2.1 vx vp H.size vm (xs (i3 + (1 : Int32)).toNatClampNeg) (xs (i3 + (2 : Int32)).toNatClampNeg) (xs (i3 + (3 : Int32)).toNatClampNeg) hR
  rcases hor with ⟨rc, wp, hq, hR2⟩ | ⟨hq, hR2⟩
  · refine rk_TVW (pc := 1440) (As := [.int (xs (i3 + (1 : Int32)).toNatClampNeg), .int (xs (i3 + (2 : Int32)).toNatClampNeg), .int (xs (i3 + (3 : Int32)).toNatClampNeg)]) (rest := []) (mc := 1) (ms := 90) hx hb hml hown hts hK hS (fun q hq => hq) lkL_193 rfl yn_X0_tape (ct_X0_tape (G := G) (l := l) (b0 := b0) hq PLs_X) ⟨Nat.le_of_ble_eq_true rfl, Nat.le_of_ble_eq_true rfl⟩ (fun z h => by have h8 := PLs_g (k := s.heap.size) (by omega) z h.1; omega) (rk_recv hK hWx 0 (by decide) rfl rfl rfl) ⟨hWx, hWp⟩ rfl rfl hl.1 (Nat.le_of_ble_eq_true rfl) dL_law_1440 ⟨by show _ ≤ 1200144; omega, by show _ ≤ 5496634; omega⟩ (fun ov9 H1 locs1 hP1 hk1 hS1 => ?_)
    obtain ⟨rfl, hWp1, hz1, -⟩ := hP1
    have hWx1 := rg_keepX hWx hk1 (fun z h0 h3 => PLs_X z h3.1 h0)
    have hWm1 := rg_keepA hWm hk1 (by intro z h1 h2 h3; exact PLs_m z h3.1 ⟨h1, h2⟩)
    have hG1 := GO_keepA hG hk1 (by have h8 := hS.1; omega) (by intro z h3; exact PLs_g (by omega) z h3.1)
    refine W.eq (g2 := F0 m 1443 ls [.int rx]) rfl ?_
    refine lv_aload_n (pc := 1443) hx hb dL_law_1443 rfl (lv_at hl 2 rfl) ?_
    refine lv_aload_n (pc := 1444) hx hb dL_law_1444 rfl (lv_at hl 0 rfl) ?_
    refine lv_iload_n (pc := 1445) hx hb dL_law_1445 rfl (lv_at hl 3 rfl) ?_
    refine lv_iconst (pc := 1446) (v := (1 : Int32)) hx hb dL_law_1446 (by decide) ?_
    refine lv_iadd (pc := 1447) hx hb dL_law_1447 ?_
    refine va_sld (pc := 1448) hx hb hX hbl hbA hS1 h1 dL_law_1448 ?_
    refine lv_aload_n (pc := 1449) hx hb dL_law_1449 rfl (lv_at hl 0 rfl) ?_
    refine lv_iload_n (pc := 1450) hx hb dL_law_1450 rfl (lv_at hl 3 rfl) ?_
    refine lv_iconst (pc := 1451) (v := (2 : Int32)) hx hb dL_law_1451 (by decide) ?_
    refine lv_iadd (pc := 1452) hx hb dL_law_1452 ?_
    refine va_sld (pc := 1453) hx hb hX hbl hbA hS1 h2 dL_law_1453 ?_
    refine lv_aload_n (pc := 1454) hx hb dL_law_1454 rfl (lv_at hl 0 rfl) ?_
    refine lv_iload_n (pc := 1455) hx hb dL_law_1455 rfl (lv_at hl 3 rfl) ?_
    refine lv_iconst (pc := 1456) (v := (3 : Int32)) hx hb dL_law_1456 (by decide) ?_
    refine lv_iadd (pc := 1457) hx hb dL_law_1457 ?_
    refine va_sld (pc := 1458) hx hb hX hbl hbA hS1 h3 dL_law_1458 ?_
    refine rk_TV (pc := 1459) (As := [.int (xs (i3 + (1 : Int32)).toNatClampNeg), .int (xs (i3 + (2 : Int32)).toNatClampNeg), .int (xs (i3 + (3 : Int32)).toNatClampNeg)]) (rest := [.int rx]) (mc := 0) (ms := 0) hx hb hml hown hts hK hS1 (fun q hq => hq) lkL_196 rfl yn_X9_tape (ct_X9_tape (G := G) (l := l) (b0 := b0 + 357) (sz := H1.size) hm) ⟨Nat.le_of_ble_eq_true rfl, Nat.le_of_ble_eq_true rfl⟩ (fun z h => by have h8 := h.1; omega) (rk_recv hK hWm1 0 (by decide) rfl rfl rfl) hWm1 rfl rfl hl.1 (Nat.le_of_ble_eq_true rfl) dL_law_1459 ⟨by show _ ≤ 1200144; omega, by show _ ≤ 5496634; omega⟩ (fun ov8 H2 locs2 hP2 hk2 hS2 => ?_)
    obtain ⟨rfl, hWm2, hz2⟩ := hP2
    have hWx2 := rg_keepX hWx1 hk2 (fun z h0 h3 => by have h8 := h0.1.2; have h9 := h3.1; omega)
    have hWp2 := pl_keepA hWp1 hk2 (fun z h0 h3 => PLs_m z h0 h3)
    have hG2 := GO_keepA hG1 hk2 (by have h8 := hS1.1; omega) (by intro z h3; have h8 := h3.1; omega)
    refine W.eq (g2 := F0 m 1462 ls [.int rx, .int rx]) rfl ?_
    refine lv_icmp_eq (pc := 1462) (tgt := 1637) hx hb dL_law_1462 (by decide) (fun _ => ?_) (fun h => absurd rfl h)
    have hR9 : Rel vx wp H2.size um := by rw [show H2.size = H.size + rc by omega]; exact hR2
    exact rk_widen (by omega) (by omega) (kk H2 locs2 ls ⟨_, _, _, hWx2, hWp2, hWm2, hR9, hG2, hS2, hl⟩)
  · refine rk_TVWz (pc := 1440) (As := [.int (xs (i3 + (1 : Int32)).toNatClampNeg), .int (xs (i3 + (2 : Int32)).toNatClampNeg), .int (xs (i3 + (3 : Int32)).toNatClampNeg)]) (rest := []) (mc := 3) (ms := 54) hx hb hml hown hts hK hS (fun q hq => hq) lkL_193 rfl yn_X0_tape (ct_X0_tape_neg (G := G) (l := l) (b0 := b0) (PL := PLs b0) (sz := H.size) hq hl0 hZX (by have h8 := hS.1; omega) hZN) ⟨Nat.le_of_ble_eq_true rfl, Nat.le_of_ble_eq_true rfl⟩ (fun z h => h.elim) (rk_recv hK hWx 0 (by decide) rfl rfl rfl) ⟨hWx, hWp, hG⟩ rfl rfl hl.1 (Nat.le_of_ble_eq_true rfl) dL_law_1440 ⟨by show _ ≤ 1200144; omega, by show _ ≤ 5496634; omega⟩ (fun ov9 H1 locs1 hP1 hz1 hk1 hS1 => ?_)
    obtain rfl := hP1
    have hWx1 := rg_keepX hWx hk1 (fun z h0 h3 => h3.elim)
    have hWp1 := pl_keepA hWp hk1 (fun z h0 h3 => h3.elim)
    have hWm1 := rg_keepA hWm hk1 (by intro z h1 h2 h3; exact h3.elim)
    have hG1 := GO_keepA hG hk1 (by have h8 := hS.1; omega) (by intro z h3; exact h3.elim)
    refine W.eq (g2 := F0 m 1443 ls [.int rx]) rfl ?_
    refine lv_aload_n (pc := 1443) hx hb dL_law_1443 rfl (lv_at hl 2 rfl) ?_
    refine lv_aload_n (pc := 1444) hx hb dL_law_1444 rfl (lv_at hl 0 rfl) ?_
    refine lv_iload_n (pc := 1445) hx hb dL_law_1445 rfl (lv_at hl 3 rfl) ?_
    refine lv_iconst (pc := 1446) (v := (1 : Int32)) hx hb dL_law_1446 (by decide) ?_
    refine lv_iadd (pc := 1447) hx hb dL_law_1447 ?_
    refine va_sld (pc := 1448) hx hb hX hbl hbA hS1 h1 dL_law_1448 ?_
    refine lv_aload_n (pc := 1449) hx hb dL_law_1449 rfl (lv_at hl 0 rfl) ?_
    refine lv_iload_n (pc := 1450) hx hb dL_law_1450 rfl (lv_at hl 3 rfl) ?_
    refine lv_iconst (pc := 1451) (v := (2 : Int32)) hx hb dL_law_1451 (by decide) ?_
    refine lv_iadd (pc := 1452) hx hb dL_law_1452 ?_
    refine va_sld (pc := 1453) hx hb hX hbl hbA hS1 h2 dL_law_1453 ?_
    refine lv_aload_n (pc := 1454) hx hb dL_law_1454 rfl (lv_at hl 0 rfl) ?_
    refine lv_iload_n (pc := 1455) hx hb dL_law_1455 rfl (lv_at hl 3 rfl) ?_
    refine lv_iconst (pc := 1456) (v := (3 : Int32)) hx hb dL_law_1456 (by decide) ?_
    refine lv_iadd (pc := 1457) hx hb dL_law_1457 ?_
    refine va_sld (pc := 1458) hx hb hX hbl hbA hS1 h3 dL_law_1458 ?_
    refine rk_TV (pc := 1459) (As := [.int (xs (i3 + (1 : Int32)).toNatClampNeg), .int (xs (i3 + (2 : Int32)).toNatClampNeg), .int (xs (i3 + (3 : Int32)).toNatClampNeg)]) (rest := [.int rx]) (mc := 0) (ms := 0) hx hb hml hown hts hK hS1 (fun q hq => hq) lkL_196 rfl yn_X9_tape (ct_X9_tape (G := G) (l := l) (b0 := b0 + 357) (sz := H1.size) hm) ⟨Nat.le_of_ble_eq_true rfl, Nat.le_of_ble_eq_true rfl⟩ (fun z h => by have h8 := h.1; omega) (rk_recv hK hWm1 0 (by decide) rfl rfl rfl) hWm1 rfl rfl hl.1 (Nat.le_of_ble_eq_true rfl) dL_law_1459 ⟨by show _ ≤ 1200144; omega, by show _ ≤ 5496634; omega⟩ (fun ov8 H2 locs2 hP2 hk2 hS2 => ?_)
    obtain ⟨rfl, hWm2, hz2⟩ := hP2
    have hWx2 := rg_keepX hWx1 hk2 (fun z h0 h3 => by have h8 := h0.1.2; have h9 := h3.1; omega)
    have hWp2 := pl_keepA hWp1 hk2 (fun z h0 h3 => PLs_m z h0 h3)
    have hG2 := GO_keepA hG1 hk2 (by have h8 := hS1.1; omega) (by intro z h3; have h8 := h3.1; omega)
    refine W.eq (g2 := F0 m 1462 ls [.int rx, .int rx]) rfl ?_
    refine lv_icmp_eq (pc := 1462) (tgt := 1637) hx hb dL_law_1462 (by decide) (fun _ => ?_) (fun h => absurd rfl h)
    have hR9 : Rel vx vp H2.size um := hR2 _ (by omega)
    exact rk_widen (by omega) (by omega) (kk H2 locs2 ls ⟨_, _, _, hWx2, hWp2, hWm2, hR9, hG2, hS2, hl⟩)
theorem lkL_199 : LVW R_law 199 RX0 yX0_item cX0_item 6 (some .int) [(24, 35, 38, 593)] := ⟨q1688, q1689, q1690, q114, q1691⟩
theorem yn_X0_item : YN yX0_item 3 := by
  unfold YN
  decide +kernel
theorem lkL_203 : LV R_law 203 RX9 yX9_item cX9_item 5 (some .int) := ⟨q2377, q2378, q2379, q128, q2380⟩
theorem yn_X9_item : YN yX9_item 3 := by
  unfold YN
  decide +kernel
set_option maxHeartbeats 4000000 in
theorem lc_44 {p : Program} {l : Launch} {e : Env} {s : State} {m : MethodId} {below : List Frame} {meth : Method} {c : Code} {G : Gv} {b L b0 : Nat} {xs : Nat → Int32} {Rel : Mem → Mem → Nat → Mem → Prop} (W0 : LWd G p l s m c b L xs b0) (hOK : LawOK b0 Rel) {i3 : Int32} {H : Heap} {locs : List Loc} {ls : Array Slot} {cells slots : Nat} (hcl : cells + 100 ≤ 1200144) (hsl : slots + 2300 ≤ 5496634) (hin : LIn i3 L) (hI : LInv G Rel s b b0 i3 H locs ls)
    (kk : ∀ (H1 : Heap) (locs1 : List Loc) (ls1 : Array Slot), LInv G Rel s b b0 i3 H1 locs1 ls1 → lwW p l e s m b below meth c H1 locs1 (cells + 100) (slots + 2300) (F0 m 1637 ls1 [])) : lwW p l e s m b below meth c H locs cells slots (F0 m 1467 ls []) := by
  obtain ⟨hx, hb, hml, hown, hts, hK, hX, hbl, hb0, hZ, hZX, hZL, hZP, hZN, hZC, hl0, hgB⟩ := id W0
  obtain ⟨vx, vp, vm, hWx, hWp, hWm, hR, hG, hS, hl⟩ := hI
  obtain ⟨h1, h2, h3, h4, h5⟩ := hin
  have hbA : ¬ (fun q : Nat => s.heap.size ≤ q) b := Nat.not_le.mpr hbl
  refine lv_aload_n (pc := 1467) hx hb dL_law_1467 rfl (lv_at hl 1 rfl) ?_
  refine lv_aload_n (pc := 1468) hx hb dL_law_1468 rfl (lv_at hl 0 rfl) ?_
  refine lv_iload_n (pc := 1469) hx hb dL_law_1469 rfl (lv_at hl 3 rfl) ?_
  refine lv_iconst (pc := 1470) (v := (1 : Int32)) hx hb dL_law_1470 (by decide) ?_
  refine lv_iadd (pc := 1471) hx hb dL_law_1471 ?_
  refine va_sld (pc := 1472) hx hb hX hbl hbA hS h1 dL_law_1472 ?_
  refine lv_aload_n (pc := 1473) hx hb dL_law_1473 rfl (lv_at hl 0 rfl) ?_
  refine lv_iload_n (pc := 1474) hx hb dL_law_1474 rfl (lv_at hl 3 rfl) ?_
  refine lv_iconst (pc := 1475) (v := (2 : Int32)) hx hb dL_law_1475 (by decide) ?_
  refine lv_iadd (pc := 1476) hx hb dL_law_1476 ?_
  refine va_sld (pc := 1477) hx hb hX hbl hbA hS h2 dL_law_1477 ?_
  refine lv_aload_n (pc := 1478) hx hb dL_law_1478 rfl (lv_at hl 0 rfl) ?_
  refine lv_iload_n (pc := 1479) hx hb dL_law_1479 rfl (lv_at hl 3 rfl) ?_
  refine lv_iconst (pc := 1480) (v := (3 : Int32)) hx hb dL_law_1480 (by decide) ?_
  refine lv_iadd (pc := 1481) hx hb dL_law_1481 ?_
  refine va_sld (pc := 1482) hx hb hX hbl hbA hS h3 dL_law_1482 ?_
  refine lv_i2l (pc := 1483) hx hb dL_law_1483 rfl ?_
  refine lv_bipush (pc := 1484) (v := (32 : Int32)) hx hb dL_law_1484 (by decide) ?_
  refine lv_lshl (pc := 1486) hx hb dL_law_1486 rfl ?_
  refine lv_aload_n (pc := 1487) hx hb dL_law_1487 rfl (lv_at hl 0 rfl) ?_
  refine lv_iload_n (pc := 1488) hx hb dL_law_1488 rfl (lv_at hl 3 rfl) ?_
  refine lv_iconst (pc := 1489) (v := (4 : Int32)) hx hb dL_law_1489 (by decide) ?_
  refine lv_iadd (pc := 1490) hx hb dL_law_1490 ?_
  refine va_sld (pc := 1491) hx hb hX hbl hbA hS h4 dL_law_1491 ?_
  refine lv_i2l (pc := 1492) hx hb dL_law_1492 rfl ?_
  refine lv_ldc2 (pc := 1493) (v := (4294967295 : Int64)) hx hb hown (hts _ q2392) dL_law_1493 ?_
  refine lv_land (pc := 1496) hx hb dL_law_1496 ?_
  refine lv_lor (pc := 1497) hx hb dL_law_1497 ?_
  obtain ⟨rx, um, hm, hor⟩ := hOK.2.2.2.2.2.2.2.2.2.2.2.2.2.2.2.2.2.2.2.2.2.2.2.2.2.2.2.2.2.2.2.2.2.2.2.2.2.2.2.2.2.2.2.2.1 vx vp H.size vm (xs (i3 + (1 : Int32)).toNatClampNeg) (xs (i3 + (2 : Int32)).toNatClampNeg) (((xs (i3 + (3 : Int32)).toNatClampNeg).toInt64 <<< ((32 : Int32).toInt64 &&& 63)) ||| ((xs (i3 + (4 : Int32)).toNatClampNeg).toInt64 &&& (4294967295 : Int64))) hR
  rcases hor with ⟨wp, hq, hR2⟩ | ⟨hq, hR2⟩
  · refine rk_TVW (pc := 1498) (As := [.int (xs (i3 + (1 : Int32)).toNatClampNeg), .int (xs (i3 + (2 : Int32)).toNatClampNeg), .long (((xs (i3 + (3 : Int32)).toNatClampNeg).toInt64 <<< ((32 : Int32).toInt64 &&& 63)) ||| ((xs (i3 + (4 : Int32)).toNatClampNeg).toInt64 &&& (4294967295 : Int64)))]) (rest := []) (mc := 0) (ms := 0) hx hb hml hown hts hK hS (fun q hq => hq) lkL_199 rfl yn_X0_item (ct_X0_item (G := G) (l := l) (b0 := b0) (sz := H.size) hq PLs_X hZN) ⟨Nat.le_of_ble_eq_true rfl, Nat.le_of_ble_eq_true rfl⟩ (fun z h => by have h8 := PLs_g (k := s.heap.size) (by omega) z h.1; omega) (rk_recv hK hWx 0 (by decide) rfl rfl rfl) ⟨hWx, hWp⟩ rfl rfl hl.1 (Nat.le_of_ble_eq_true rfl) dL_law_1498 ⟨by show _ ≤ 1200144; omega, by show _ ≤ 5496634; omega⟩ (fun ov9 H1 locs1 hP1 hk1 hS1 => ?_)
    obtain ⟨rfl, hWp1, hz1, -⟩ := hP1
    have hWx1 := rg_keepX hWx hk1 (fun z h0 h3 => PLs_X z h3.1 h0)
    have hWm1 := rg_keepA hWm hk1 (by intro z h1 h2 h3; exact PLs_m z h3.1 ⟨h1, h2⟩)
    have hG1 := GO_keepA hG hk1 (by have h8 := hS.1; omega) (by intro z h3; exact PLs_g (by omega) z h3.1)
    refine W.eq (g2 := F0 m 1501 ls [.int rx]) rfl ?_
    refine lv_aload_n (pc := 1501) hx hb dL_law_1501 rfl (lv_at hl 2 rfl) ?_
    refine lv_aload_n (pc := 1502) hx hb dL_law_1502 rfl (lv_at hl 0 rfl) ?_
    refine lv_iload_n (pc := 1503) hx hb dL_law_1503 rfl (lv_at hl 3 rfl) ?_
    refine lv_iconst (pc := 1504) (v := (1 : Int32)) hx hb dL_law_1504 (by decide) ?_
    refine lv_iadd (pc := 1505) hx hb dL_law_1505 ?_
    refine va_sld (pc := 1506) hx hb hX hbl hbA hS1 h1 dL_law_1506 ?_
    refine lv_aload_n (pc := 1507) hx hb dL_law_1507 rfl (lv_at hl 0 rfl) ?_
    refine lv_iload_n (pc := 1508) hx hb dL_law_1508 rfl (lv_at hl 3 rfl) ?_
    refine lv_iconst (pc := 1509) (v := (2 : Int32)) hx hb dL_law_1509 (by decide) ?_
    refine lv_iadd (pc := 1510) hx hb dL_law_1510 ?_
    refine va_sld (pc := 1511) hx hb hX hbl hbA hS1 h2 dL_law_1511 ?_
    refine lv_aload_n (pc := 1512) hx hb dL_law_1512 rfl (lv_at hl 0 rfl) ?_
    refine lv_iload_n (pc := 1513) hx hb dL_law_1513 rfl (lv_at hl 3 rfl) ?_
    refine lv_iconst (pc := 1514) (v := (3 : Int32)) hx hb dL_law_1514 (by decide) ?_
    refine lv_iadd (pc := 1515) hx hb dL_law_1515 ?_
    refine va_sld (pc := 1516) hx hb hX hbl hbA hS1 h3 dL_law_1516 ?_
    refine lv_i2l (pc := 1517) hx hb dL_law_1517 rfl ?_
    refine lv_bipush (pc := 1518) (v := (32 : Int32)) hx hb dL_law_1518 (by decide) ?_
    refine lv_lshl (pc := 1520) hx hb dL_law_1520 rfl ?_
    refine lv_aload_n (pc := 1521) hx hb dL_law_1521 rfl (lv_at hl 0 rfl) ?_
    refine lv_iload_n (pc := 1522) hx hb dL_law_1522 rfl (lv_at hl 3 rfl) ?_
    refine lv_iconst (pc := 1523) (v := (4 : Int32)) hx hb dL_law_1523 (by decide) ?_
    refine lv_iadd (pc := 1524) hx hb dL_law_1524 ?_
    refine va_sld (pc := 1525) hx hb hX hbl hbA hS1 h4 dL_law_1525 ?_
    refine lv_i2l (pc := 1526) hx hb dL_law_1526 rfl ?_
    refine lv_ldc2 (pc := 1527) (v := (4294967295 : Int64)) hx hb hown (hts _ q2392) dL_law_1527 ?_
    refine lv_land (pc := 1530) hx hb dL_law_1530 ?_
    refine lv_lor (pc := 1531) hx hb dL_law_1531 ?_
    refine rk_TV (pc := 1532) (As := [.int (xs (i3 + (1 : Int32)).toNatClampNeg), .int (xs (i3 + (2 : Int32)).toNatClampNeg), .long (((xs (i3 + (3 : Int32)).toNatClampNeg).toInt64 <<< ((32 : Int32).toInt64 &&& 63)) ||| ((xs (i3 + (4 : Int32)).toNatClampNeg).toInt64 &&& (4294967295 : Int64)))]) (rest := [.int rx]) (mc := 0) (ms := 0) hx hb hml hown hts hK hS1 (fun q hq => hq) lkL_203 rfl yn_X9_item (ct_X9_item (G := G) (l := l) (b0 := b0 + 357) (sz := H1.size) hm) ⟨Nat.le_of_ble_eq_true rfl, Nat.le_of_ble_eq_true rfl⟩ (fun z h => by have h8 := h.1; omega) (rk_recv hK hWm1 0 (by decide) rfl rfl rfl) hWm1 rfl rfl hl.1 (Nat.le_of_ble_eq_true rfl) dL_law_1532 ⟨by show _ ≤ 1200144; omega, by show _ ≤ 5496634; omega⟩ (fun ov8 H2 locs2 hP2 hk2 hS2 => ?_)
    obtain ⟨rfl, hWm2, hz2⟩ := hP2
    have hWx2 := rg_keepX hWx1 hk2 (fun z h0 h3 => by have h8 := h0.1.2; have h9 := h3.1; omega)
    have hWp2 := pl_keepA hWp1 hk2 (fun z h0 h3 => PLs_m z h0 h3)
    have hG2 := GO_keepA hG1 hk2 (by have h8 := hS1.1; omega) (by intro z h3; have h8 := h3.1; omega)
    refine W.eq (g2 := F0 m 1535 ls [.int rx, .int rx]) rfl ?_
    refine lv_icmp_eq (pc := 1535) (tgt := 1637) hx hb dL_law_1535 (by decide) (fun _ => ?_) (fun h => absurd rfl h)
    have hR9 : Rel vx wp H2.size um := by rw [show H2.size = H.size by omega]; exact hR2
    exact rk_widen (by omega) (by omega) (kk H2 locs2 ls ⟨_, _, _, hWx2, hWp2, hWm2, hR9, hG2, hS2, hl⟩)
  · refine rk_TVWz (pc := 1498) (As := [.int (xs (i3 + (1 : Int32)).toNatClampNeg), .int (xs (i3 + (2 : Int32)).toNatClampNeg), .long (((xs (i3 + (3 : Int32)).toNatClampNeg).toInt64 <<< ((32 : Int32).toInt64 &&& 63)) ||| ((xs (i3 + (4 : Int32)).toNatClampNeg).toInt64 &&& (4294967295 : Int64)))]) (rest := []) (mc := 3) (ms := 222) hx hb hml hown hts hK hS (fun q hq => hq) lkL_199 rfl yn_X0_item (ct_X0_item_out (G := G) (l := l) (b0 := b0) (PL := PLs b0) (sz := H.size) hq hl0 hZX (by have h8 := hS.1; omega) hZN) ⟨Nat.le_of_ble_eq_true rfl, Nat.le_of_ble_eq_true rfl⟩ (fun z h => h.elim) (rk_recv hK hWx 0 (by decide) rfl rfl rfl) ⟨hWx, hWp, hG⟩ rfl rfl hl.1 (Nat.le_of_ble_eq_true rfl) dL_law_1498 ⟨by show _ ≤ 1200144; omega, by show _ ≤ 5496634; omega⟩ (fun ov9 H1 locs1 hP1 hz1 hk1 hS1 => ?_)
    obtain rfl := hP1
    have hWx1 := rg_keepX hWx hk1 (fun z h0 h3 => h3.elim)
    have hWp1 := pl_keepA hWp hk1 (fun z h0 h3 => h3.elim)
    have hWm1 := rg_keepA hWm hk1 (by intro z h1 h2 h3; exact h3.elim)
    have hG1 := GO_keepA hG hk1 (by have h8 := hS.1; omega) (by intro z h3; exact h3.elim)
    refine W.eq (g2 := F0 m 1501 ls [.int rx]) rfl ?_
    refine lv_aload_n (pc := 1501) hx hb dL_law_1501 rfl (lv_at hl 2 rfl) ?_
    refine lv_aload_n (pc := 1502) hx hb dL_law_1502 rfl (lv_at hl 0 rfl) ?_
    refine lv_iload_n (pc := 1503) hx hb dL_law_1503 rfl (lv_at hl 3 rfl) ?_
    refine lv_iconst (pc := 1504) (v := (1 : Int32)) hx hb dL_law_1504 (by decide) ?_
    refine lv_iadd (pc := 1505) hx hb dL_law_1505 ?_
    refine va_sld (pc := 1506) hx hb hX hbl hbA hS1 h1 dL_law_1506 ?_
    refine lv_aload_n (pc := 1507) hx hb dL_law_1507 rfl (lv_at hl 0 rfl) ?_
    refine lv_iload_n (pc := 1508) hx hb dL_law_1508 rfl (lv_at hl 3 rfl) ?_
    refine lv_iconst (pc := 1509) (v := (2 : Int32)) hx hb dL_law_1509 (by decide) ?_
    refine lv_iadd (pc := 1510) hx hb dL_law_1510 ?_
    refine va_sld (pc := 1511) hx hb hX hbl hbA hS1 h2 dL_law_1511 ?_
    refine lv_aload_n (pc := 1512) hx hb dL_law_1512 rfl (lv_at hl 0 rfl) ?_
    refine lv_iload_n (pc := 1513) hx hb dL_law_1513 rfl (lv_at hl 3 rfl) ?_
    refine lv_iconst (pc := 1514) (v := (3 : Int32)) hx hb dL_law_1514 (by decide) ?_
    refine lv_iadd (pc := 1515) hx hb dL_law_1515 ?_
    refine va_sld (pc := 1516) hx hb hX hbl hbA hS1 h3 dL_law_1516 ?_
    refine lv_i2l (pc := 1517) hx hb dL_law_1517 rfl ?_
    refine lv_bipush (pc := 1518) (v := (32 : Int32)) hx hb dL_law_1518 (by decide) ?_
    refine lv_lshl (pc := 1520) hx hb dL_law_1520 rfl ?_
    refine lv_aload_n (pc := 1521) hx hb dL_law_1521 rfl (lv_at hl 0 rfl) ?_
    refine lv_iload_n (pc := 1522) hx hb dL_law_1522 rfl (lv_at hl 3 rfl) ?_
    refine lv_iconst (pc := 1523) (v := (4 : Int32)) hx hb dL_law_1523 (by decide) ?_
    refine lv_iadd (pc := 1524) hx hb dL_law_1524 ?_
    refine va_sld (pc := 1525) hx hb hX hbl hbA hS1 h4 dL_law_1525 ?_
    refine lv_i2l (pc := 1526) hx hb dL_law_1526 rfl ?_
    refine lv_ldc2 (pc := 1527) (v := (4294967295 : Int64)) hx hb hown (hts _ q2392) dL_law_1527 ?_
    refine lv_land (pc := 1530) hx hb dL_law_1530 ?_
    refine lv_lor (pc := 1531) hx hb dL_law_1531 ?_
    refine rk_TV (pc := 1532) (As := [.int (xs (i3 + (1 : Int32)).toNatClampNeg), .int (xs (i3 + (2 : Int32)).toNatClampNeg), .long (((xs (i3 + (3 : Int32)).toNatClampNeg).toInt64 <<< ((32 : Int32).toInt64 &&& 63)) ||| ((xs (i3 + (4 : Int32)).toNatClampNeg).toInt64 &&& (4294967295 : Int64)))]) (rest := [.int rx]) (mc := 0) (ms := 0) hx hb hml hown hts hK hS1 (fun q hq => hq) lkL_203 rfl yn_X9_item (ct_X9_item (G := G) (l := l) (b0 := b0 + 357) (sz := H1.size) hm) ⟨Nat.le_of_ble_eq_true rfl, Nat.le_of_ble_eq_true rfl⟩ (fun z h => by have h8 := h.1; omega) (rk_recv hK hWm1 0 (by decide) rfl rfl rfl) hWm1 rfl rfl hl.1 (Nat.le_of_ble_eq_true rfl) dL_law_1532 ⟨by show _ ≤ 1200144; omega, by show _ ≤ 5496634; omega⟩ (fun ov8 H2 locs2 hP2 hk2 hS2 => ?_)
    obtain ⟨rfl, hWm2, hz2⟩ := hP2
    have hWx2 := rg_keepX hWx1 hk2 (fun z h0 h3 => by have h8 := h0.1.2; have h9 := h3.1; omega)
    have hWp2 := pl_keepA hWp1 hk2 (fun z h0 h3 => PLs_m z h0 h3)
    have hG2 := GO_keepA hG1 hk2 (by have h8 := hS1.1; omega) (by intro z h3; have h8 := h3.1; omega)
    refine W.eq (g2 := F0 m 1535 ls [.int rx, .int rx]) rfl ?_
    refine lv_icmp_eq (pc := 1535) (tgt := 1637) hx hb dL_law_1535 (by decide) (fun _ => ?_) (fun h => absurd rfl h)
    have hR9 : Rel vx vp H2.size um := hR2 _ (by omega)
    exact rk_widen (by omega) (by omega) (kk H2 locs2 ls ⟨_, _, _, hWx2, hWp2, hWm2, hR9, hG2, hS2, hl⟩)
theorem lkL_204 : LV R_law 204 RX0 yX0_peek cX0_peek 3 (some .long) := ⟨q1715, q1716, q1717, q114, q1718⟩
theorem yn_X0_peek : YN yX0_peek 2 := by
  unfold YN
  decide +kernel
theorem lkL_207 : LV R_law 207 RX9 yX9_peek cX9_peek 3 (some .long) := ⟨q2384, q2385, q2386, q128, q2387⟩
theorem yn_X9_peek : YN yX9_peek 2 := by
  unfold YN
  decide +kernel
set_option maxHeartbeats 4000000 in
theorem lc_45 {p : Program} {l : Launch} {e : Env} {s : State} {m : MethodId} {below : List Frame} {meth : Method} {c : Code} {G : Gv} {b L b0 : Nat} {xs : Nat → Int32} {Rel : Mem → Mem → Nat → Mem → Prop} (W0 : LWd G p l s m c b L xs b0) (hOK : LawOK b0 Rel) {i3 : Int32} {H : Heap} {locs : List Loc} {ls : Array Slot} {cells slots : Nat} (hcl : cells + 100 ≤ 1200144) (hsl : slots + 2300 ≤ 5496634) (hin : LIn i3 L) (hI : LInv G Rel s b b0 i3 H locs ls)
    (kk : ∀ (H1 : Heap) (locs1 : List Loc) (ls1 : Array Slot), LInv G Rel s b b0 i3 H1 locs1 ls1 → lwW p l e s m b below meth c H1 locs1 (cells + 100) (slots + 2300) (F0 m 1637 ls1 [])) : lwW p l e s m b below meth c H locs cells slots (F0 m 1540 ls []) := by
  obtain ⟨hx, hb, hml, hown, hts, hK, hX, hbl, hb0, hZ, hZX, hZL, hZP, hZN, hZC, hl0, hgB⟩ := id W0
  obtain ⟨vx, vp, vm, hWx, hWp, hWm, hR, hG, hS, hl⟩ := hI
  obtain ⟨h1, h2, h3, h4, h5⟩ := hin
  have hbA : ¬ (fun q : Nat => s.heap.size ≤ q) b := Nat.not_le.mpr hbl
  refine lv_aload_n (pc := 1540) hx hb dL_law_1540 rfl (lv_at hl 1 rfl) ?_
  refine lv_aload_n (pc := 1541) hx hb dL_law_1541 rfl (lv_at hl 0 rfl) ?_
  refine lv_iload_n (pc := 1542) hx hb dL_law_1542 rfl (lv_at hl 3 rfl) ?_
  refine lv_iconst (pc := 1543) (v := (1 : Int32)) hx hb dL_law_1543 (by decide) ?_
  refine lv_iadd (pc := 1544) hx hb dL_law_1544 ?_
  refine va_sld (pc := 1545) hx hb hX hbl hbA hS h1 dL_law_1545 ?_
  refine lv_aload_n (pc := 1546) hx hb dL_law_1546 rfl (lv_at hl 0 rfl) ?_
  refine lv_iload_n (pc := 1547) hx hb dL_law_1547 rfl (lv_at hl 3 rfl) ?_
  refine lv_iconst (pc := 1548) (v := (2 : Int32)) hx hb dL_law_1548 (by decide) ?_
  refine lv_iadd (pc := 1549) hx hb dL_law_1549 ?_
  refine va_sld (pc := 1550) hx hb hX hbl hbA hS h2 dL_law_1550 ?_
  obtain ⟨rx, hq, hm⟩ := hOK.2.2.2.2.2.2.2.2.2.2.2.2.2.2.2.2.2.2.2.2.2.2.2.2.2.2.2.2.2.2.2.2.2.2.2.2.2.2.2.2.2.2.2.2.2.1 vx vp H.size vm (xs (i3 + (1 : Int32)).toNatClampNeg) (xs (i3 + (2 : Int32)).toNatClampNeg) hR
  refine rk_PV (pc := 1551) (As := [.int (xs (i3 + (1 : Int32)).toNatClampNeg), .int (xs (i3 + (2 : Int32)).toNatClampNeg)]) (rest := []) hx hb hml hown hts hK lkL_204 rfl yn_X0_peek (ct_X0_peek (G := G) (l := l) (b0 := b0) hq hZN) ⟨Nat.le_of_ble_eq_true rfl, Nat.le_of_ble_eq_true rfl⟩ (rk_recv hK hWx 0 (by decide) rfl rfl rfl) ⟨hWx, hWp⟩ rfl rfl hl.1 (Nat.le_of_ble_eq_true rfl) dL_law_1551 ⟨by show _ ≤ 1200144; omega, by show _ ≤ 5496634; omega⟩ ?_
  refine W.eq (g2 := F0 m 1554 ls [.long rx]) rfl ?_
  refine lv_aload_n (pc := 1554) hx hb dL_law_1554 rfl (lv_at hl 2 rfl) ?_
  refine lv_aload_n (pc := 1555) hx hb dL_law_1555 rfl (lv_at hl 0 rfl) ?_
  refine lv_iload_n (pc := 1556) hx hb dL_law_1556 rfl (lv_at hl 3 rfl) ?_
  refine lv_iconst (pc := 1557) (v := (1 : Int32)) hx hb dL_law_1557 (by decide) ?_
  refine lv_iadd (pc := 1558) hx hb dL_law_1558 ?_
  refine va_sld (pc := 1559) hx hb hX hbl hbA hS h1 dL_law_1559 ?_
  refine lv_aload_n (pc := 1560) hx hb dL_law_1560 rfl (lv_at hl 0 rfl) ?_
  refine lv_iload_n (pc := 1561) hx hb dL_law_1561 rfl (lv_at hl 3 rfl) ?_
  refine lv_iconst (pc := 1562) (v := (2 : Int32)) hx hb dL_law_1562 (by decide) ?_
  refine lv_iadd (pc := 1563) hx hb dL_law_1563 ?_
  refine va_sld (pc := 1564) hx hb hX hbl hbA hS h2 dL_law_1564 ?_
  refine rk_PV (pc := 1565) (As := [.int (xs (i3 + (1 : Int32)).toNatClampNeg), .int (xs (i3 + (2 : Int32)).toNatClampNeg)]) (rest := [.long rx]) hx hb hml hown hts hK lkL_207 rfl yn_X9_peek (ct_X9_peek (G := G) (l := l) (b0 := b0 + 357) hm) ⟨Nat.le_of_ble_eq_true rfl, Nat.le_of_ble_eq_true rfl⟩ (rk_recv hK hWm 0 (by decide) rfl rfl rfl) hWm rfl rfl hl.1 (Nat.le_of_ble_eq_true rfl) dL_law_1565 ⟨by show _ ≤ 1200144; omega, by show _ ≤ 5496634; omega⟩ ?_
  refine W.eq (g2 := F0 m 1568 ls [.long rx, .long rx]) rfl ?_
  refine rk_lcmp_eq (pc := 1568) (tgt := 1637) hx hb dL_law_1568 rfl dL_law_1569 (by decide) (fun _ => ?_) (fun h => absurd rfl h)
  have hR9 : Rel vx vp H.size vm := hR
  exact rk_widen (by omega) (by omega) (kk H locs ls ⟨_, _, _, hWx, hWp, hWm, hR9, hG, hS, hl⟩)
theorem lkL_208 : LVW R_law 208 RX0 yX0_shift cX0_shift 7 (some .int) [(43, 69, 72, 601), (43, 69, 77, 603)] := ⟨q1719, q1720, q1721, q114, q1722⟩
theorem yn_X0_shift : YN yX0_shift 5 := by
  unfold YN
  decide +kernel
theorem lkL_212 : LV R_law 212 RX9 yX9_shift cX9_shift 7 (some .int) := ⟨q2388, q2389, q2390, q128, q2391⟩
theorem yn_X9_shift : YN yX9_shift 5 := by
  unfold YN
  decide +kernel
set_option maxHeartbeats 4000000 in
theorem lc_46 {p : Program} {l : Launch} {e : Env} {s : State} {m : MethodId} {below : List Frame} {meth : Method} {c : Code} {G : Gv} {b L b0 : Nat} {xs : Nat → Int32} {Rel : Mem → Mem → Nat → Mem → Prop} (W0 : LWd G p l s m c b L xs b0) (hOK : LawOK b0 Rel) {i3 : Int32} {H : Heap} {locs : List Loc} {ls : Array Slot} {cells slots : Nat} (hcl : cells + 100 ≤ 1200144) (hsl : slots + 2300 ≤ 5496634) (hin : LIn i3 L) (hI : LInv G Rel s b b0 i3 H locs ls)
    (kk : ∀ (H1 : Heap) (locs1 : List Loc) (ls1 : Array Slot), LInv G Rel s b b0 i3 H1 locs1 ls1 → lwW p l e s m b below meth c H1 locs1 (cells + 100) (slots + 2300) (F0 m 1637 ls1 [])) : lwW p l e s m b below meth c H locs cells slots (F0 m 1574 ls []) := by
  obtain ⟨hx, hb, hml, hown, hts, hK, hX, hbl, hb0, hZ, hZX, hZL, hZP, hZN, hZC, hl0, hgB⟩ := id W0
  obtain ⟨vx, vp, vm, hWx, hWp, hWm, hR, hG, hS, hl⟩ := hI
  obtain ⟨h1, h2, h3, h4, h5⟩ := hin
  have hbA : ¬ (fun q : Nat => s.heap.size ≤ q) b := Nat.not_le.mpr hbl
  refine lv_aload_n (pc := 1574) hx hb dL_law_1574 rfl (lv_at hl 1 rfl) ?_
  refine lv_aload_n (pc := 1575) hx hb dL_law_1575 rfl (lv_at hl 0 rfl) ?_
  refine lv_iload_n (pc := 1576) hx hb dL_law_1576 rfl (lv_at hl 3 rfl) ?_
  refine lv_iconst (pc := 1577) (v := (1 : Int32)) hx hb dL_law_1577 (by decide) ?_
  refine lv_iadd (pc := 1578) hx hb dL_law_1578 ?_
  refine va_sld (pc := 1579) hx hb hX hbl hbA hS h1 dL_law_1579 ?_
  refine lv_aload_n (pc := 1580) hx hb dL_law_1580 rfl (lv_at hl 0 rfl) ?_
  refine lv_iload_n (pc := 1581) hx hb dL_law_1581 rfl (lv_at hl 3 rfl) ?_
  refine lv_iconst (pc := 1582) (v := (2 : Int32)) hx hb dL_law_1582 (by decide) ?_
  refine lv_iadd (pc := 1583) hx hb dL_law_1583 ?_
  refine va_sld (pc := 1584) hx hb hX hbl hbA hS h2 dL_law_1584 ?_
  refine lv_aload_n (pc := 1585) hx hb dL_law_1585 rfl (lv_at hl 0 rfl) ?_
  refine lv_iload_n (pc := 1586) hx hb dL_law_1586 rfl (lv_at hl 3 rfl) ?_
  refine lv_iconst (pc := 1587) (v := (3 : Int32)) hx hb dL_law_1587 (by decide) ?_
  refine lv_iadd (pc := 1588) hx hb dL_law_1588 ?_
  refine va_sld (pc := 1589) hx hb hX hbl hbA hS h3 dL_law_1589 ?_
  refine lv_aload_n (pc := 1590) hx hb dL_law_1590 rfl (lv_at hl 0 rfl) ?_
  refine lv_iload_n (pc := 1591) hx hb dL_law_1591 rfl (lv_at hl 3 rfl) ?_
  refine lv_iconst (pc := 1592) (v := (4 : Int32)) hx hb dL_law_1592 (by decide) ?_
  refine lv_iadd (pc := 1593) hx hb dL_law_1593 ?_
  refine va_sld (pc := 1594) hx hb hX hbl hbA hS h4 dL_law_1594 ?_
  refine lv_aload_n (pc := 1595) hx hb dL_law_1595 rfl (lv_at hl 0 rfl) ?_
  refine lv_iload_n (pc := 1596) hx hb dL_law_1596 rfl (lv_at hl 3 rfl) ?_
  refine lv_iconst (pc := 1597) (v := (5 : Int32)) hx hb dL_law_1597 (by decide) ?_
  refine lv_iadd (pc := 1598) hx hb dL_law_1598 ?_
  refine va_sld (pc := 1599) hx hb hX hbl hbA hS h5 dL_law_1599 ?_
  obtain ⟨rx, um, hm, hor⟩ := hOK.2.2.2.2.2.2.2.2.2.2.2.2.2.2.2.2.2.2.2.2.2.2.2.2.2.2.2.2.2.2.2.2.2.2.2.2.2.2.2.2.2.2.2.2.2.2 vx vp H.size vm (xs (i3 + (1 : Int32)).toNatClampNeg) (xs (i3 + (2 : Int32)).toNatClampNeg) (xs (i3 + (3 : Int32)).toNatClampNeg) (xs (i3 + (4 : Int32)).toNatClampNeg) (xs (i3 + (5 : Int32)).toNatClampNeg) hR
  rcases hor with ⟨wp, hq, hR2⟩ | ⟨hq, hR2⟩ | ⟨hq, hR2⟩
  · refine rk_TVW (pc := 1600) (As := [.int (xs (i3 + (1 : Int32)).toNatClampNeg), .int (xs (i3 + (2 : Int32)).toNatClampNeg), .int (xs (i3 + (3 : Int32)).toNatClampNeg), .int (xs (i3 + (4 : Int32)).toNatClampNeg), .int (xs (i3 + (5 : Int32)).toNatClampNeg)]) (rest := []) (mc := 0) (ms := 0) hx hb hml hown hts hK hS (fun q hq => hq) lkL_208 rfl yn_X0_shift (ct_X0_shift (G := G) (l := l) (b0 := b0) (sz := H.size) hq PLs_X) ⟨Nat.le_of_ble_eq_true rfl, Nat.le_of_ble_eq_true rfl⟩ (fun z h => by have h8 := PLs_g (k := s.heap.size) (by omega) z h.1; omega) (rk_recv hK hWx 0 (by decide) rfl rfl rfl) ⟨hWx, hWp⟩ rfl rfl hl.1 (Nat.le_of_ble_eq_true rfl) dL_law_1600 ⟨by show _ ≤ 1200144; omega, by show _ ≤ 5496634; omega⟩ (fun ov9 H1 locs1 hP1 hk1 hS1 => ?_)
    obtain ⟨rfl, hWp1, hz1, -⟩ := hP1
    have hWx1 := rg_keepX hWx hk1 (fun z h0 h3 => PLs_X z h3.1 h0)
    have hWm1 := rg_keepA hWm hk1 (by intro z h1 h2 h3; exact PLs_m z h3.1 ⟨h1, h2⟩)
    have hG1 := GO_keepA hG hk1 (by have h8 := hS.1; omega) (by intro z h3; exact PLs_g (by omega) z h3.1)
    refine W.eq (g2 := F0 m 1603 ls [.int rx]) rfl ?_
    refine lv_aload_n (pc := 1603) hx hb dL_law_1603 rfl (lv_at hl 2 rfl) ?_
    refine lv_aload_n (pc := 1604) hx hb dL_law_1604 rfl (lv_at hl 0 rfl) ?_
    refine lv_iload_n (pc := 1605) hx hb dL_law_1605 rfl (lv_at hl 3 rfl) ?_
    refine lv_iconst (pc := 1606) (v := (1 : Int32)) hx hb dL_law_1606 (by decide) ?_
    refine lv_iadd (pc := 1607) hx hb dL_law_1607 ?_
    refine va_sld (pc := 1608) hx hb hX hbl hbA hS1 h1 dL_law_1608 ?_
    refine lv_aload_n (pc := 1609) hx hb dL_law_1609 rfl (lv_at hl 0 rfl) ?_
    refine lv_iload_n (pc := 1610) hx hb dL_law_1610 rfl (lv_at hl 3 rfl) ?_
    refine lv_iconst (pc := 1611) (v := (2 : Int32)) hx hb dL_law_1611 (by decide) ?_
    refine lv_iadd (pc := 1612) hx hb dL_law_1612 ?_
    refine va_sld (pc := 1613) hx hb hX hbl hbA hS1 h2 dL_law_1613 ?_
    refine lv_aload_n (pc := 1614) hx hb dL_law_1614 rfl (lv_at hl 0 rfl) ?_
    refine lv_iload_n (pc := 1615) hx hb dL_law_1615 rfl (lv_at hl 3 rfl) ?_
    refine lv_iconst (pc := 1616) (v := (3 : Int32)) hx hb dL_law_1616 (by decide) ?_
    refine lv_iadd (pc := 1617) hx hb dL_law_1617 ?_
    refine va_sld (pc := 1618) hx hb hX hbl hbA hS1 h3 dL_law_1618 ?_
    refine lv_aload_n (pc := 1619) hx hb dL_law_1619 rfl (lv_at hl 0 rfl) ?_
    refine lv_iload_n (pc := 1620) hx hb dL_law_1620 rfl (lv_at hl 3 rfl) ?_
    refine lv_iconst (pc := 1621) (v := (4 : Int32)) hx hb dL_law_1621 (by decide) ?_
    refine lv_iadd (pc := 1622) hx hb dL_law_1622 ?_
    refine va_sld (pc := 1623) hx hb hX hbl hbA hS1 h4 dL_law_1623 ?_
    refine lv_aload_n (pc := 1624) hx hb dL_law_1624 rfl (lv_at hl 0 rfl) ?_
    refine lv_iload_n (pc := 1625) hx hb dL_law_1625 rfl (lv_at hl 3 rfl) ?_
    refine lv_iconst (pc := 1626) (v := (5 : Int32)) hx hb dL_law_1626 (by decide) ?_
    refine lv_iadd (pc := 1627) hx hb dL_law_1627 ?_
    refine va_sld (pc := 1628) hx hb hX hbl hbA hS1 h5 dL_law_1628 ?_
    refine rk_TV (pc := 1629) (As := [.int (xs (i3 + (1 : Int32)).toNatClampNeg), .int (xs (i3 + (2 : Int32)).toNatClampNeg), .int (xs (i3 + (3 : Int32)).toNatClampNeg), .int (xs (i3 + (4 : Int32)).toNatClampNeg), .int (xs (i3 + (5 : Int32)).toNatClampNeg)]) (rest := [.int rx]) (mc := 0) (ms := 0) hx hb hml hown hts hK hS1 (fun q hq => hq) lkL_212 rfl yn_X9_shift (ct_X9_shift (G := G) (l := l) (b0 := b0 + 357) (sz := H1.size) hm) ⟨Nat.le_of_ble_eq_true rfl, Nat.le_of_ble_eq_true rfl⟩ (fun z h => by have h8 := h.1; omega) (rk_recv hK hWm1 0 (by decide) rfl rfl rfl) hWm1 rfl rfl hl.1 (Nat.le_of_ble_eq_true rfl) dL_law_1629 ⟨by show _ ≤ 1200144; omega, by show _ ≤ 5496634; omega⟩ (fun ov8 H2 locs2 hP2 hk2 hS2 => ?_)
    obtain ⟨rfl, hWm2, hz2⟩ := hP2
    have hWx2 := rg_keepX hWx1 hk2 (fun z h0 h3 => by have h8 := h0.1.2; have h9 := h3.1; omega)
    have hWp2 := pl_keepA hWp1 hk2 (fun z h0 h3 => PLs_m z h0 h3)
    have hG2 := GO_keepA hG1 hk2 (by have h8 := hS1.1; omega) (by intro z h3; have h8 := h3.1; omega)
    refine W.eq (g2 := F0 m 1632 ls [.int rx, .int rx]) rfl ?_
    refine lv_icmp_eq (pc := 1632) (tgt := 1637) hx hb dL_law_1632 (by decide) (fun _ => ?_) (fun h => absurd rfl h)
    have hR9 : Rel vx wp H2.size um := by rw [show H2.size = H.size by omega]; exact hR2
    exact rk_widen (by omega) (by omega) (kk H2 locs2 ls ⟨_, _, _, hWx2, hWp2, hWm2, hR9, hG2, hS2, hl⟩)
  · refine rk_TVWz (pc := 1600) (As := [.int (xs (i3 + (1 : Int32)).toNatClampNeg), .int (xs (i3 + (2 : Int32)).toNatClampNeg), .int (xs (i3 + (3 : Int32)).toNatClampNeg), .int (xs (i3 + (4 : Int32)).toNatClampNeg), .int (xs (i3 + (5 : Int32)).toNatClampNeg)]) (rest := []) (mc := 3) (ms := 500) hx hb hml hown hts hK hS (fun q hq => hq) lkL_208 rfl yn_X0_shift (ct_X0_shift_cast (G := G) (l := l) (b0 := b0) (PL := PLs b0) (sz := H.size) hq hl0 hZX (by have h8 := hS.1; omega) hZN) ⟨Nat.le_of_ble_eq_true rfl, Nat.le_of_ble_eq_true rfl⟩ (fun z h => h.elim) (rk_recv hK hWx 0 (by decide) rfl rfl rfl) ⟨hWx, hWp, hG⟩ rfl rfl hl.1 (Nat.le_of_ble_eq_true rfl) dL_law_1600 ⟨by show _ ≤ 1200144; omega, by show _ ≤ 5496634; omega⟩ (fun ov9 H1 locs1 hP1 hz1 hk1 hS1 => ?_)
    obtain rfl := hP1
    have hWx1 := rg_keepX hWx hk1 (fun z h0 h3 => h3.elim)
    have hWp1 := pl_keepA hWp hk1 (fun z h0 h3 => h3.elim)
    have hWm1 := rg_keepA hWm hk1 (by intro z h1 h2 h3; exact h3.elim)
    have hG1 := GO_keepA hG hk1 (by have h8 := hS.1; omega) (by intro z h3; exact h3.elim)
    refine W.eq (g2 := F0 m 1603 ls [.int rx]) rfl ?_
    refine lv_aload_n (pc := 1603) hx hb dL_law_1603 rfl (lv_at hl 2 rfl) ?_
    refine lv_aload_n (pc := 1604) hx hb dL_law_1604 rfl (lv_at hl 0 rfl) ?_
    refine lv_iload_n (pc := 1605) hx hb dL_law_1605 rfl (lv_at hl 3 rfl) ?_
    refine lv_iconst (pc := 1606) (v := (1 : Int32)) hx hb dL_law_1606 (by decide) ?_
    refine lv_iadd (pc := 1607) hx hb dL_law_1607 ?_
    refine va_sld (pc := 1608) hx hb hX hbl hbA hS1 h1 dL_law_1608 ?_
    refine lv_aload_n (pc := 1609) hx hb dL_law_1609 rfl (lv_at hl 0 rfl) ?_
    refine lv_iload_n (pc := 1610) hx hb dL_law_1610 rfl (lv_at hl 3 rfl) ?_
    refine lv_iconst (pc := 1611) (v := (2 : Int32)) hx hb dL_law_1611 (by decide) ?_
    refine lv_iadd (pc := 1612) hx hb dL_law_1612 ?_
    refine va_sld (pc := 1613) hx hb hX hbl hbA hS1 h2 dL_law_1613 ?_
    refine lv_aload_n (pc := 1614) hx hb dL_law_1614 rfl (lv_at hl 0 rfl) ?_
    refine lv_iload_n (pc := 1615) hx hb dL_law_1615 rfl (lv_at hl 3 rfl) ?_
    refine lv_iconst (pc := 1616) (v := (3 : Int32)) hx hb dL_law_1616 (by decide) ?_
    refine lv_iadd (pc := 1617) hx hb dL_law_1617 ?_
    refine va_sld (pc := 1618) hx hb hX hbl hbA hS1 h3 dL_law_1618 ?_
    refine lv_aload_n (pc := 1619) hx hb dL_law_1619 rfl (lv_at hl 0 rfl) ?_
    refine lv_iload_n (pc := 1620) hx hb dL_law_1620 rfl (lv_at hl 3 rfl) ?_
    refine lv_iconst (pc := 1621) (v := (4 : Int32)) hx hb dL_law_1621 (by decide) ?_
    refine lv_iadd (pc := 1622) hx hb dL_law_1622 ?_
    refine va_sld (pc := 1623) hx hb hX hbl hbA hS1 h4 dL_law_1623 ?_
    refine lv_aload_n (pc := 1624) hx hb dL_law_1624 rfl (lv_at hl 0 rfl) ?_
    refine lv_iload_n (pc := 1625) hx hb dL_law_1625 rfl (lv_at hl 3 rfl) ?_
    refine lv_iconst (pc := 1626) (v := (5 : Int32)) hx hb dL_law_1626 (by decide) ?_
    refine lv_iadd (pc := 1627) hx hb dL_law_1627 ?_
    refine va_sld (pc := 1628) hx hb hX hbl hbA hS1 h5 dL_law_1628 ?_
    refine rk_TV (pc := 1629) (As := [.int (xs (i3 + (1 : Int32)).toNatClampNeg), .int (xs (i3 + (2 : Int32)).toNatClampNeg), .int (xs (i3 + (3 : Int32)).toNatClampNeg), .int (xs (i3 + (4 : Int32)).toNatClampNeg), .int (xs (i3 + (5 : Int32)).toNatClampNeg)]) (rest := [.int rx]) (mc := 0) (ms := 0) hx hb hml hown hts hK hS1 (fun q hq => hq) lkL_212 rfl yn_X9_shift (ct_X9_shift (G := G) (l := l) (b0 := b0 + 357) (sz := H1.size) hm) ⟨Nat.le_of_ble_eq_true rfl, Nat.le_of_ble_eq_true rfl⟩ (fun z h => by have h8 := h.1; omega) (rk_recv hK hWm1 0 (by decide) rfl rfl rfl) hWm1 rfl rfl hl.1 (Nat.le_of_ble_eq_true rfl) dL_law_1629 ⟨by show _ ≤ 1200144; omega, by show _ ≤ 5496634; omega⟩ (fun ov8 H2 locs2 hP2 hk2 hS2 => ?_)
    obtain ⟨rfl, hWm2, hz2⟩ := hP2
    have hWx2 := rg_keepX hWx1 hk2 (fun z h0 h3 => by have h8 := h0.1.2; have h9 := h3.1; omega)
    have hWp2 := pl_keepA hWp1 hk2 (fun z h0 h3 => PLs_m z h0 h3)
    have hG2 := GO_keepA hG1 hk2 (by have h8 := hS1.1; omega) (by intro z h3; have h8 := h3.1; omega)
    refine W.eq (g2 := F0 m 1632 ls [.int rx, .int rx]) rfl ?_
    refine lv_icmp_eq (pc := 1632) (tgt := 1637) hx hb dL_law_1632 (by decide) (fun _ => ?_) (fun h => absurd rfl h)
    have hR9 : Rel vx vp H2.size um := hR2 _ (by omega)
    exact rk_widen (by omega) (by omega) (kk H2 locs2 ls ⟨_, _, _, hWx2, hWp2, hWm2, hR9, hG2, hS2, hl⟩)
  · refine rk_TVWz (pc := 1600) (As := [.int (xs (i3 + (1 : Int32)).toNatClampNeg), .int (xs (i3 + (2 : Int32)).toNatClampNeg), .int (xs (i3 + (3 : Int32)).toNatClampNeg), .int (xs (i3 + (4 : Int32)).toNatClampNeg), .int (xs (i3 + (5 : Int32)).toNatClampNeg)]) (rest := []) (mc := 3) (ms := 500) hx hb hml hown hts hK hS (fun q hq => hq) lkL_208 rfl yn_X0_shift (ct_X0_shift_place (G := G) (l := l) (b0 := b0) (PL := PLs b0) (sz := H.size) hq hl0 hZX (by have h8 := hS.1; omega) hZN hZC) ⟨Nat.le_of_ble_eq_true rfl, Nat.le_of_ble_eq_true rfl⟩ (fun z h => h.elim) (rk_recv hK hWx 0 (by decide) rfl rfl rfl) ⟨hWx, hWp, hG⟩ rfl rfl hl.1 (Nat.le_of_ble_eq_true rfl) dL_law_1600 ⟨by show _ ≤ 1200144; omega, by show _ ≤ 5496634; omega⟩ (fun ov9 H1 locs1 hP1 hz1 hk1 hS1 => ?_)
    obtain rfl := hP1
    have hWx1 := rg_keepX hWx hk1 (fun z h0 h3 => h3.elim)
    have hWp1 := pl_keepA hWp hk1 (fun z h0 h3 => h3.elim)
    have hWm1 := rg_keepA hWm hk1 (by intro z h1 h2 h3; exact h3.elim)
    have hG1 := GO_keepA hG hk1 (by have h8 := hS.1; omega) (by intro z h3; exact h3.elim)
    refine W.eq (g2 := F0 m 1603 ls [.int rx]) rfl ?_
    refine lv_aload_n (pc := 1603) hx hb dL_law_1603 rfl (lv_at hl 2 rfl) ?_
    refine lv_aload_n (pc := 1604) hx hb dL_law_1604 rfl (lv_at hl 0 rfl) ?_
    refine lv_iload_n (pc := 1605) hx hb dL_law_1605 rfl (lv_at hl 3 rfl) ?_
    refine lv_iconst (pc := 1606) (v := (1 : Int32)) hx hb dL_law_1606 (by decide) ?_
    refine lv_iadd (pc := 1607) hx hb dL_law_1607 ?_
    refine va_sld (pc := 1608) hx hb hX hbl hbA hS1 h1 dL_law_1608 ?_
    refine lv_aload_n (pc := 1609) hx hb dL_law_1609 rfl (lv_at hl 0 rfl) ?_
    refine lv_iload_n (pc := 1610) hx hb dL_law_1610 rfl (lv_at hl 3 rfl) ?_
    refine lv_iconst (pc := 1611) (v := (2 : Int32)) hx hb dL_law_1611 (by decide) ?_
    refine lv_iadd (pc := 1612) hx hb dL_law_1612 ?_
    refine va_sld (pc := 1613) hx hb hX hbl hbA hS1 h2 dL_law_1613 ?_
    refine lv_aload_n (pc := 1614) hx hb dL_law_1614 rfl (lv_at hl 0 rfl) ?_
    refine lv_iload_n (pc := 1615) hx hb dL_law_1615 rfl (lv_at hl 3 rfl) ?_
    refine lv_iconst (pc := 1616) (v := (3 : Int32)) hx hb dL_law_1616 (by decide) ?_
    refine lv_iadd (pc := 1617) hx hb dL_law_1617 ?_
    refine va_sld (pc := 1618) hx hb hX hbl hbA hS1 h3 dL_law_1618 ?_
    refine lv_aload_n (pc := 1619) hx hb dL_law_1619 rfl (lv_at hl 0 rfl) ?_
    refine lv_iload_n (pc := 1620) hx hb dL_law_1620 rfl (lv_at hl 3 rfl) ?_
    refine lv_iconst (pc := 1621) (v := (4 : Int32)) hx hb dL_law_1621 (by decide) ?_
    refine lv_iadd (pc := 1622) hx hb dL_law_1622 ?_
    refine va_sld (pc := 1623) hx hb hX hbl hbA hS1 h4 dL_law_1623 ?_
    refine lv_aload_n (pc := 1624) hx hb dL_law_1624 rfl (lv_at hl 0 rfl) ?_
    refine lv_iload_n (pc := 1625) hx hb dL_law_1625 rfl (lv_at hl 3 rfl) ?_
    refine lv_iconst (pc := 1626) (v := (5 : Int32)) hx hb dL_law_1626 (by decide) ?_
    refine lv_iadd (pc := 1627) hx hb dL_law_1627 ?_
    refine va_sld (pc := 1628) hx hb hX hbl hbA hS1 h5 dL_law_1628 ?_
    refine rk_TV (pc := 1629) (As := [.int (xs (i3 + (1 : Int32)).toNatClampNeg), .int (xs (i3 + (2 : Int32)).toNatClampNeg), .int (xs (i3 + (3 : Int32)).toNatClampNeg), .int (xs (i3 + (4 : Int32)).toNatClampNeg), .int (xs (i3 + (5 : Int32)).toNatClampNeg)]) (rest := [.int rx]) (mc := 0) (ms := 0) hx hb hml hown hts hK hS1 (fun q hq => hq) lkL_212 rfl yn_X9_shift (ct_X9_shift (G := G) (l := l) (b0 := b0 + 357) (sz := H1.size) hm) ⟨Nat.le_of_ble_eq_true rfl, Nat.le_of_ble_eq_true rfl⟩ (fun z h => by have h8 := h.1; omega) (rk_recv hK hWm1 0 (by decide) rfl rfl rfl) hWm1 rfl rfl hl.1 (Nat.le_of_ble_eq_true rfl) dL_law_1629 ⟨by show _ ≤ 1200144; omega, by show _ ≤ 5496634; omega⟩ (fun ov8 H2 locs2 hP2 hk2 hS2 => ?_)
    obtain ⟨rfl, hWm2, hz2⟩ := hP2
    have hWx2 := rg_keepX hWx1 hk2 (fun z h0 h3 => by have h8 := h0.1.2; have h9 := h3.1; omega)
    have hWp2 := pl_keepA hWp1 hk2 (fun z h0 h3 => PLs_m z h0 h3)
    have hG2 := GO_keepA hG1 hk2 (by have h8 := hS1.1; omega) (by intro z h3; have h8 := h3.1; omega)
    refine W.eq (g2 := F0 m 1632 ls [.int rx, .int rx]) rfl ?_
    refine lv_icmp_eq (pc := 1632) (tgt := 1637) hx hb dL_law_1632 (by decide) (fun _ => ?_) (fun h => absurd rfl h)
    have hR9 : Rel vx vp H2.size um := hR2 _ (by omega)
    exact rk_widen (by omega) (by omega) (kk H2 locs2 ls ⟨_, _, _, hWx2, hWp2, hWm2, hR9, hG2, hS2, hl⟩)
theorem tsw47 {x : Int32} (h0 : ¬ x = (0 : Int32)) (h1 : ¬ x = (1 : Int32)) (h2 : ¬ x = (2 : Int32)) (h3 : ¬ x = (3 : Int32)) (h4 : ¬ x = (4 : Int32)) (h5 : ¬ x = (5 : Int32)) (h6 : ¬ x = (6 : Int32)) (h7 : ¬ x = (7 : Int32)) (h8 : ¬ x = (8 : Int32)) (h9 : ¬ x = (9 : Int32)) (h10 : ¬ x = (10 : Int32)) (h11 : ¬ x = (11 : Int32)) (h12 : ¬ x = (12 : Int32)) (h13 : ¬ x = (13 : Int32)) (h14 : ¬ x = (14 : Int32)) (h15 : ¬ x = (15 : Int32)) (h16 : ¬ x = (16 : Int32)) (h17 : ¬ x = (17 : Int32)) (h18 : ¬ x = (18 : Int32)) (h19 : ¬ x = (19 : Int32)) (h20 : ¬ x = (20 : Int32)) (h21 : ¬ x = (21 : Int32)) (h22 : ¬ x = (22 : Int32)) (h23 : ¬ x = (23 : Int32)) (h24 : ¬ x = (24 : Int32)) (h25 : ¬ x = (25 : Int32)) (h26 : ¬ x = (26 : Int32)) (h27 : ¬ x = (27 : Int32)) (h28 : ¬ x = (28 : Int32)) (h29 : ¬ x = (29 : Int32)) (h30 : ¬ x = (30 : Int32)) (h31 : ¬ x = (31 : Int32)) (h32 : ¬ x = (32 : Int32)) (h33 : ¬ x = (33 : Int32)) (h34 : ¬ x = (34 : Int32)) (h35 : ¬ x = (35 : Int32)) (h36 : ¬ x = (36 : Int32)) (h37 : ¬ x = (37 : Int32)) (h38 : ¬ x = (38 : Int32)) (h39 : ¬ x = (39 : Int32)) (h40 : ¬ x = (40 : Int32)) (h41 : ¬ x = (41 : Int32)) (h42 : ¬ x = (42 : Int32)) (h43 : ¬ x = (43 : Int32)) (h44 : ¬ x = (44 : Int32)) (h45 : ¬ x = (45 : Int32)) (h46 : ¬ x = (46 : Int32)) : x.toInt < 0 ∨ 46 < x.toInt := by
  have g0 : ¬ x.toInt = 0 := lv_neT h0 (by decide)
  have g1 : ¬ x.toInt = 1 := lv_neT h1 (by decide)
  have g2 : ¬ x.toInt = 2 := lv_neT h2 (by decide)
  have g3 : ¬ x.toInt = 3 := lv_neT h3 (by decide)
  have g4 : ¬ x.toInt = 4 := lv_neT h4 (by decide)
  have g5 : ¬ x.toInt = 5 := lv_neT h5 (by decide)
  have g6 : ¬ x.toInt = 6 := lv_neT h6 (by decide)
  have g7 : ¬ x.toInt = 7 := lv_neT h7 (by decide)
  have g8 : ¬ x.toInt = 8 := lv_neT h8 (by decide)
  have g9 : ¬ x.toInt = 9 := lv_neT h9 (by decide)
  have g10 : ¬ x.toInt = 10 := lv_neT h10 (by decide)
  have g11 : ¬ x.toInt = 11 := lv_neT h11 (by decide)
  have g12 : ¬ x.toInt = 12 := lv_neT h12 (by decide)
  have g13 : ¬ x.toInt = 13 := lv_neT h13 (by decide)
  have g14 : ¬ x.toInt = 14 := lv_neT h14 (by decide)
  have g15 : ¬ x.toInt = 15 := lv_neT h15 (by decide)
  have g16 : ¬ x.toInt = 16 := lv_neT h16 (by decide)
  have g17 : ¬ x.toInt = 17 := lv_neT h17 (by decide)
  have g18 : ¬ x.toInt = 18 := lv_neT h18 (by decide)
  have g19 : ¬ x.toInt = 19 := lv_neT h19 (by decide)
  have g20 : ¬ x.toInt = 20 := lv_neT h20 (by decide)
  have g21 : ¬ x.toInt = 21 := lv_neT h21 (by decide)
  have g22 : ¬ x.toInt = 22 := lv_neT h22 (by decide)
  have g23 : ¬ x.toInt = 23 := lv_neT h23 (by decide)
  have g24 : ¬ x.toInt = 24 := lv_neT h24 (by decide)
  have g25 : ¬ x.toInt = 25 := lv_neT h25 (by decide)
  have g26 : ¬ x.toInt = 26 := lv_neT h26 (by decide)
  have g27 : ¬ x.toInt = 27 := lv_neT h27 (by decide)
  have g28 : ¬ x.toInt = 28 := lv_neT h28 (by decide)
  have g29 : ¬ x.toInt = 29 := lv_neT h29 (by decide)
  have g30 : ¬ x.toInt = 30 := lv_neT h30 (by decide)
  have g31 : ¬ x.toInt = 31 := lv_neT h31 (by decide)
  have g32 : ¬ x.toInt = 32 := lv_neT h32 (by decide)
  have g33 : ¬ x.toInt = 33 := lv_neT h33 (by decide)
  have g34 : ¬ x.toInt = 34 := lv_neT h34 (by decide)
  have g35 : ¬ x.toInt = 35 := lv_neT h35 (by decide)
  have g36 : ¬ x.toInt = 36 := lv_neT h36 (by decide)
  have g37 : ¬ x.toInt = 37 := lv_neT h37 (by decide)
  have g38 : ¬ x.toInt = 38 := lv_neT h38 (by decide)
  have g39 : ¬ x.toInt = 39 := lv_neT h39 (by decide)
  have g40 : ¬ x.toInt = 40 := lv_neT h40 (by decide)
  have g41 : ¬ x.toInt = 41 := lv_neT h41 (by decide)
  have g42 : ¬ x.toInt = 42 := lv_neT h42 (by decide)
  have g43 : ¬ x.toInt = 43 := lv_neT h43 (by decide)
  have g44 : ¬ x.toInt = 44 := lv_neT h44 (by decide)
  have g45 : ¬ x.toInt = 45 := lv_neT h45 (by decide)
  have g46 : ¬ x.toInt = 46 := lv_neT h46 (by decide)
  omega
set_option maxHeartbeats 8000000 in
theorem lc_all {p : Program} {l : Launch} {e : Env} {s : State} {m : MethodId} {below : List Frame} {meth : Method} {c : Code} {G : Gv} {b L b0 : Nat} {xs : Nat → Int32} {Rel : Mem → Mem → Nat → Mem → Prop} (W0 : LWd G p l s m c b L xs b0) (hOK : LawOK b0 Rel) {i3 x : Int32} {H : Heap} {locs : List Loc} {ls : Array Slot} {cells slots : Nat} (hcl : cells + 100 ≤ 1200144) (hsl : slots + 2300 ≤ 5496634) (hin : LIn i3 L) (hI : LInv G Rel s b b0 i3 H locs ls)
    (kk : ∀ (H1 : Heap) (locs1 : List Loc) (ls1 : Array Slot), LInv G Rel s b b0 i3 H1 locs1 ls1 → lwW p l e s m b below meth c H1 locs1 (cells + 100) (slots + 2300) (F0 m 1637 ls1 [])) : lwW p l e s m b below meth c H locs cells slots (F0 m 33 ls [.int x]) := by
  obtain ⟨hx, hb, -⟩ := id W0
  by_cases c0 : x = (0 : Int32)
  · exact lv_tableIn (pc := 33) (tgt := 236) hx hb dL_law_33 (by rw [c0]; decide) (by rw [c0]; decide) (by rw [c0]; rfl) (by decide) (lc_0 W0 hOK hcl hsl hin hI kk)
  by_cases c1 : x = (1 : Int32)
  · exact lv_tableIn (pc := 33) (tgt := 259) hx hb dL_law_33 (by rw [c1]; decide) (by rw [c1]; decide) (by rw [c1]; rfl) (by decide) (lc_1 W0 hOK hcl hsl hin hI kk)
  by_cases c2 : x = (2 : Int32)
  · exact lv_tableIn (pc := 33) (tgt := 292) hx hb dL_law_33 (by rw [c2]; decide) (by rw [c2]; decide) (by rw [c2]; rfl) (by decide) (lc_2 W0 hOK hcl hsl hin hI kk)
  by_cases c3 : x = (3 : Int32)
  · exact lv_tableIn (pc := 33) (tgt := 325) hx hb dL_law_33 (by rw [c3]; decide) (by rw [c3]; decide) (by rw [c3]; rfl) (by decide) (lc_3 W0 hOK hcl hsl hin hI kk)
  by_cases c4 : x = (4 : Int32)
  · exact lv_tableIn (pc := 33) (tgt := 368) hx hb dL_law_33 (by rw [c4]; decide) (by rw [c4]; decide) (by rw [c4]; rfl) (by decide) (lc_4 W0 hOK hcl hsl hin hI kk)
  by_cases c5 : x = (5 : Int32)
  · exact lv_tableIn (pc := 33) (tgt := 401) hx hb dL_law_33 (by rw [c5]; decide) (by rw [c5]; decide) (by rw [c5]; rfl) (by decide) (lc_5 W0 hOK hcl hsl hin hI kk)
  by_cases c6 : x = (6 : Int32)
  · exact lv_tableIn (pc := 33) (tgt := 414) hx hb dL_law_33 (by rw [c6]; decide) (by rw [c6]; decide) (by rw [c6]; rfl) (by decide) (lc_6 W0 hOK hcl hsl hin hI kk)
  by_cases c7 : x = (7 : Int32)
  · exact lv_tableIn (pc := 33) (tgt := 437) hx hb dL_law_33 (by rw [c7]; decide) (by rw [c7]; decide) (by rw [c7]; rfl) (by decide) (lc_7 W0 hOK hcl hsl hin hI kk)
  by_cases c8 : x = (8 : Int32)
  · exact lv_tableIn (pc := 33) (tgt := 450) hx hb dL_law_33 (by rw [c8]; decide) (by rw [c8]; decide) (by rw [c8]; rfl) (by decide) (lc_8 W0 hOK hcl hsl hin hI kk)
  by_cases c9 : x = (9 : Int32)
  · exact lv_tableIn (pc := 33) (tgt := 483) hx hb dL_law_33 (by rw [c9]; decide) (by rw [c9]; decide) (by rw [c9]; rfl) (by decide) (lc_9 W0 hOK hcl hsl hin hI kk)
  by_cases c10 : x = (10 : Int32)
  · exact lv_tableIn (pc := 33) (tgt := 506) hx hb dL_law_33 (by rw [c10]; decide) (by rw [c10]; decide) (by rw [c10]; rfl) (by decide) (lc_10 W0 hOK hcl hsl hin hI kk)
  by_cases c11 : x = (11 : Int32)
  · exact lv_tableIn (pc := 33) (tgt := 540) hx hb dL_law_33 (by rw [c11]; decide) (by rw [c11]; decide) (by rw [c11]; rfl) (by decide) (lc_11 W0 hOK hcl hsl hin hI kk)
  by_cases c12 : x = (12 : Int32)
  · exact lv_tableIn (pc := 33) (tgt := 574) hx hb dL_law_33 (by rw [c12]; decide) (by rw [c12]; decide) (by rw [c12]; rfl) (by decide) (lc_12 W0 hOK hcl hsl hin hI kk)
  by_cases c13 : x = (13 : Int32)
  · exact lv_tableIn (pc := 33) (tgt := 598) hx hb dL_law_33 (by rw [c13]; decide) (by rw [c13]; decide) (by rw [c13]; rfl) (by decide) (lc_13 W0 hOK hcl hsl hin hI kk)
  by_cases c14 : x = (14 : Int32)
  · exact lv_tableIn (pc := 33) (tgt := 632) hx hb dL_law_33 (by rw [c14]; decide) (by rw [c14]; decide) (by rw [c14]; rfl) (by decide) (lc_14 W0 hOK hcl hsl hin hI kk)
  by_cases c15 : x = (15 : Int32)
  · exact lv_tableIn (pc := 33) (tgt := 666) hx hb dL_law_33 (by rw [c15]; decide) (by rw [c15]; decide) (by rw [c15]; rfl) (by decide) (lc_15 W0 hOK hcl hsl hin hI kk)
  by_cases c16 : x = (16 : Int32)
  · exact lv_tableIn (pc := 33) (tgt := 710) hx hb dL_law_33 (by rw [c16]; decide) (by rw [c16]; decide) (by rw [c16]; rfl) (by decide) (lc_16 W0 hOK hcl hsl hin hI kk)
  by_cases c17 : x = (17 : Int32)
  · exact lv_tableIn (pc := 33) (tgt := 733) hx hb dL_law_33 (by rw [c17]; decide) (by rw [c17]; decide) (by rw [c17]; rfl) (by decide) (lc_17 W0 hOK hcl hsl hin hI kk)
  by_cases c18 : x = (18 : Int32)
  · exact lv_tableIn (pc := 33) (tgt := 766) hx hb dL_law_33 (by rw [c18]; decide) (by rw [c18]; decide) (by rw [c18]; rfl) (by decide) (lc_18 W0 hOK hcl hsl hin hI kk)
  by_cases c19 : x = (19 : Int32)
  · exact lv_tableIn (pc := 33) (tgt := 789) hx hb dL_law_33 (by rw [c19]; decide) (by rw [c19]; decide) (by rw [c19]; rfl) (by decide) (lc_19 W0 hOK hcl hsl hin hI kk)
  by_cases c20 : x = (20 : Int32)
  · exact lv_tableIn (pc := 33) (tgt := 813) hx hb dL_law_33 (by rw [c20]; decide) (by rw [c20]; decide) (by rw [c20]; rfl) (by decide) (lc_20 W0 hOK hcl hsl hin hI kk)
  by_cases c21 : x = (21 : Int32)
  · exact lv_tableIn (pc := 33) (tgt := 826) hx hb dL_law_33 (by rw [c21]; decide) (by rw [c21]; decide) (by rw [c21]; rfl) (by decide) (lc_21 W0 hOK hcl hsl hin hI kk)
  by_cases c22 : x = (22 : Int32)
  · exact lv_tableIn (pc := 33) (tgt := 849) hx hb dL_law_33 (by rw [c22]; decide) (by rw [c22]; decide) (by rw [c22]; rfl) (by decide) (lc_22 W0 hOK hcl hsl hin hI kk)
  by_cases c23 : x = (23 : Int32)
  · exact lv_tableIn (pc := 33) (tgt := 872) hx hb dL_law_33 (by rw [c23]; decide) (by rw [c23]; decide) (by rw [c23]; rfl) (by decide) (lc_23 W0 hOK hcl hsl hin hI kk)
  by_cases c24 : x = (24 : Int32)
  · exact lv_tableIn (pc := 33) (tgt := 895) hx hb dL_law_33 (by rw [c24]; decide) (by rw [c24]; decide) (by rw [c24]; rfl) (by decide) (lc_24 W0 hOK hcl hsl hin hI kk)
  by_cases c25 : x = (25 : Int32)
  · exact lv_tableIn (pc := 33) (tgt := 918) hx hb dL_law_33 (by rw [c25]; decide) (by rw [c25]; decide) (by rw [c25]; rfl) (by decide) (lc_25 W0 hOK hcl hsl hin hI kk)
  by_cases c26 : x = (26 : Int32)
  · exact lv_tableIn (pc := 33) (tgt := 941) hx hb dL_law_33 (by rw [c26]; decide) (by rw [c26]; decide) (by rw [c26]; rfl) (by decide) (lc_26 W0 hOK hcl hsl hin hI kk)
  by_cases c27 : x = (27 : Int32)
  · exact lv_tableIn (pc := 33) (tgt := 964) hx hb dL_law_33 (by rw [c27]; decide) (by rw [c27]; decide) (by rw [c27]; rfl) (by decide) (lc_27 W0 hOK hcl hsl hin hI kk)
  by_cases c28 : x = (28 : Int32)
  · exact lv_tableIn (pc := 33) (tgt := 997) hx hb dL_law_33 (by rw [c28]; decide) (by rw [c28]; decide) (by rw [c28]; rfl) (by decide) (lc_28 W0 hOK hcl hsl hin hI kk)
  by_cases c29 : x = (29 : Int32)
  · exact lv_tableIn (pc := 33) (tgt := 1030) hx hb dL_law_33 (by rw [c29]; decide) (by rw [c29]; decide) (by rw [c29]; rfl) (by decide) (lc_29 W0 hOK hcl hsl hin hI kk)
  by_cases c30 : x = (30 : Int32)
  · exact lv_tableIn (pc := 33) (tgt := 1063) hx hb dL_law_33 (by rw [c30]; decide) (by rw [c30]; decide) (by rw [c30]; rfl) (by decide) (lc_30 W0 hOK hcl hsl hin hI kk)
  by_cases c31 : x = (31 : Int32)
  · exact lv_tableIn (pc := 33) (tgt := 1127) hx hb dL_law_33 (by rw [c31]; decide) (by rw [c31]; decide) (by rw [c31]; rfl) (by decide) (lc_31 W0 hOK hcl hsl hin hI kk)
  by_cases c32 : x = (32 : Int32)
  · exact lv_tableIn (pc := 33) (tgt := 1151) hx hb dL_law_33 (by rw [c32]; decide) (by rw [c32]; decide) (by rw [c32]; rfl) (by decide) (lc_32 W0 hOK hcl hsl hin hI kk)
  by_cases c33 : x = (33 : Int32)
  · exact lv_tableIn (pc := 33) (tgt := 1184) hx hb dL_law_33 (by rw [c33]; decide) (by rw [c33]; decide) (by rw [c33]; rfl) (by decide) (lc_33 W0 hOK hcl hsl hin hI kk)
  by_cases c34 : x = (34 : Int32)
  · exact lv_tableIn (pc := 33) (tgt := 1217) hx hb dL_law_33 (by rw [c34]; decide) (by rw [c34]; decide) (by rw [c34]; rfl) (by decide) (lc_34 W0 hOK hcl hsl hin hI kk)
  by_cases c35 : x = (35 : Int32)
  · exact lv_tableIn (pc := 33) (tgt := 1250) hx hb dL_law_33 (by rw [c35]; decide) (by rw [c35]; decide) (by rw [c35]; rfl) (by decide) (lc_35 W0 hOK hcl hsl hin hI kk)
  by_cases c36 : x = (36 : Int32)
  · exact lv_tableIn (pc := 33) (tgt := 1273) hx hb dL_law_33 (by rw [c36]; decide) (by rw [c36]; decide) (by rw [c36]; rfl) (by decide) (lc_36 W0 hOK hcl hsl hin hI kk)
  by_cases c37 : x = (37 : Int32)
  · exact lv_tableIn (pc := 33) (tgt := 1286) hx hb dL_law_33 (by rw [c37]; decide) (by rw [c37]; decide) (by rw [c37]; rfl) (by decide) (lc_37 W0 hOK hcl hsl hin hI kk)
  by_cases c38 : x = (38 : Int32)
  · exact lv_tableIn (pc := 33) (tgt := 1329) hx hb dL_law_33 (by rw [c38]; decide) (by rw [c38]; decide) (by rw [c38]; rfl) (by decide) (lc_38 W0 hOK hcl hsl hin hI kk)
  by_cases c39 : x = (39 : Int32)
  · exact lv_tableIn (pc := 33) (tgt := 1342) hx hb dL_law_33 (by rw [c39]; decide) (by rw [c39]; decide) (by rw [c39]; rfl) (by decide) (lc_39 W0 hOK hcl hsl hin hI kk)
  by_cases c40 : x = (40 : Int32)
  · exact lv_tableIn (pc := 33) (tgt := 1375) hx hb dL_law_33 (by rw [c40]; decide) (by rw [c40]; decide) (by rw [c40]; rfl) (by decide) (lc_40 W0 hOK hcl hsl hin hI kk)
  by_cases c41 : x = (41 : Int32)
  · exact lv_tableIn (pc := 33) (tgt := 1388) hx hb dL_law_33 (by rw [c41]; decide) (by rw [c41]; decide) (by rw [c41]; rfl) (by decide) (lc_41 W0 hOK hcl hsl hin hI kk)
  by_cases c42 : x = (42 : Int32)
  · exact lv_tableIn (pc := 33) (tgt := 1401) hx hb dL_law_33 (by rw [c42]; decide) (by rw [c42]; decide) (by rw [c42]; rfl) (by decide) (lc_42 W0 hOK hcl hsl hin hI kk)
  by_cases c43 : x = (43 : Int32)
  · exact lv_tableIn (pc := 33) (tgt := 1424) hx hb dL_law_33 (by rw [c43]; decide) (by rw [c43]; decide) (by rw [c43]; rfl) (by decide) (lc_43 W0 hOK hcl hsl hin hI kk)
  by_cases c44 : x = (44 : Int32)
  · exact lv_tableIn (pc := 33) (tgt := 1467) hx hb dL_law_33 (by rw [c44]; decide) (by rw [c44]; decide) (by rw [c44]; rfl) (by decide) (lc_44 W0 hOK hcl hsl hin hI kk)
  by_cases c45 : x = (45 : Int32)
  · exact lv_tableIn (pc := 33) (tgt := 1540) hx hb dL_law_33 (by rw [c45]; decide) (by rw [c45]; decide) (by rw [c45]; rfl) (by decide) (lc_45 W0 hOK hcl hsl hin hI kk)
  by_cases c46 : x = (46 : Int32)
  · exact lv_tableIn (pc := 33) (tgt := 1574) hx hb dL_law_33 (by rw [c46]; decide) (by rw [c46]; decide) (by rw [c46]; rfl) (by decide) (lc_46 W0 hOK hcl hsl hin hI kk)
  exact lv_tableOut (pc := 33) (tgt := 1637) hx hb dL_law_33 (tsw47 c0 c1 c2 c3 c4 c5 c6 c7 c8 c9 c10 c11 c12 c13 c14 c15 c16 c17 c18 c19 c20 c21 c22 c23 c24 c25 c26 c27 c28 c29 c30 c31 c32 c33 c34 c35 c36 c37 c38 c39 c40 c41 c42 c43 c44 c45 c46) (by decide) (rk_widen (by omega) (by omega) (kk H locs ls hI))
theorem lkL_9 : LI R_law 9 yX0_init cX0_init 2 := ⟨q155, q156, q114, q157, rfl⟩
theorem lkL_12 : LI R_law 12 yX9_init cX9_init 2 := ⟨q1741, q1742, q128, q1743, rfl⟩
theorem yn_X0_init : YN yX0_init 0 := by
  unfold YN
  decide +kernel
theorem yn_X9_init : YN yX9_init 0 := by
  unfold YN
  decide +kernel
theorem law_c1 {L k : Nat} (hL : L ≤ 144) (hk : k ≤ 24) (h : ¬ (Int32.ofNat L - (6 : Int32) < Int32.ofNat (6 * k))) : 6 * k + 6 ≤ L := by
  have h1 : ∀ (a : Fin 145) (b : Fin 25), ¬ (Int32.ofNat a.1 - (6 : Int32) < Int32.ofNat (6 * b.1)) → 6 * b.1 + 6 ≤ a.1 := by decide +kernel
  exact h1 ⟨L, by omega⟩ ⟨k, by omega⟩ h
theorem law_c2 {k : Nat} (hk : k ≤ 24) (j : Int32) (J : Nat) (hj : (j = 0 ∧ J = 0) ∨ (j = 1 ∧ J = 1) ∨ (j = 2 ∧ J = 2) ∨ (j = 3 ∧ J = 3) ∨ (j = 4 ∧ J = 4) ∨ (j = 5 ∧ J = 5)) {L : Nat} (h : 6 * k + 6 ≤ L) : vp_in (Int32.ofNat (6 * k) + j) L := by
  have h1 : ∀ (b : Fin 25), ∀ q ∈ [((0 : Int32), 0), (1, 1), (2, 2), (3, 3), (4, 4), (5, 5)], ¬ (Int32.ofNat (6 * b.1) + q.1 < 0) ∧ (Int32.ofNat (6 * b.1) + q.1).toNatClampNeg = 6 * b.1 + q.2 := by decide +kernel
  have h2 := h1 ⟨k, by omega⟩ (j, J) (by rcases hj with ⟨rfl, rfl⟩ | ⟨rfl, rfl⟩ | ⟨rfl, rfl⟩ | ⟨rfl, rfl⟩ | ⟨rfl, rfl⟩ | ⟨rfl, rfl⟩ <;> simp)
  have h3 : J ≤ 5 := by rcases hj with ⟨-, rfl⟩ | ⟨-, rfl⟩ | ⟨-, rfl⟩ | ⟨-, rfl⟩ | ⟨-, rfl⟩ | ⟨-, rfl⟩ <;> omega
  rintro (h4 | h4)
  · exact h2.1 h4
  · rw [h2.2] at h4
    dsimp only at h4
    omega
theorem law_c3 {k : Nat} (hk : k ≤ 24) : Int32.ofNat (6 * k) + (6 : Int32) = Int32.ofNat (6 * (k + 1)) := by
  have h1 : ∀ (b : Fin 25), Int32.ofNat (6 * b.1) + (6 : Int32) = Int32.ofNat (6 * (b.1 + 1)) := by decide +kernel
  exact h1 ⟨k, by omega⟩
set_option maxHeartbeats 4000000 in
theorem law_loop {p : Program} {l : Launch} {e : Env} {s : State} {m : MethodId} {below : List Frame} {meth : Method} {c : Code} {G : Gv} {b L b0 : Nat} {xs : Nat → Int32} {Rel : Mem → Mem → Nat → Mem → Prop} (W0 : LWd G p l s m c b L xs b0) (hOK : LawOK b0 Rel) (hr : meth.sig.returnType = ret) (hlocks : meth.locks = false) (hL : L ≤ 144) : ∀ (n k : Nat), L < 6 * (k + n) + 6 → k + n ≤ 24 → ∀ (H : Heap) (locs : List Loc) (ls : Array Slot), LInv G Rel s b b0 (Int32.ofNat (6 * k)) H locs ls → lwW p l e s m b below meth c H locs (403 + 100 * k) (6000 + 2300 * k) (F0 m 18 ls []) := by
  intro n
  induction n with
  | zero =>
    intro k hn hk H locs ls hI
    obtain ⟨hx, hb, hml, hown, hts, hK, hX, hbl, hb0, -⟩ := id W0
    obtain ⟨vx, vp, vm, hWx, hWp, hWm, hR, hG, hS, hl⟩ := id hI
    have hbA : ¬ (fun q : Nat => s.heap.size ≤ q) b := Nat.not_le.mpr hbl
    refine lv_iload_n (pc := 18) hx hb dL_law_18 rfl (lv_at hl 3 rfl) ?_
    refine lv_aload_n (pc := 19) hx hb dL_law_19 rfl (lv_at hl 0 rfl) ?_
    refine va_slen (pc := 20) hx hb hX hbl hbA hS dL_law_20 ?_
    refine lv_bipush (pc := 21) (v := (6 : Int32)) hx hb dL_law_21 (by decide) ?_
    refine lv_isub (pc := 23) hx hb dL_law_23 ?_
    refine lv_icmp_gt (pc := 24) (tgt := 1643) hx hb dL_law_24 (by decide) (fun c1 => ?_) (fun c1 => ?_)
    · refine lv_iconst (pc := 1643) (v := (1 : Int32)) hx hb dL_law_1643 (by decide) ?_
      refine va_forget (fun q hq => hS.2.2 q hq) ?_
      exact rk_widen (by omega) (by omega) (lw_ret hx hb hr hlocks dL_law_1644)
    · have h6 := law_c1 hL (by omega) c1
      omega
  | succ n ih =>
    intro k hn hk H locs ls hI
    obtain ⟨hx, hb, hml, hown, hts, hK, hX, hbl, hb0, -⟩ := id W0
    obtain ⟨vx, vp, vm, hWx, hWp, hWm, hR, hG, hS, hl⟩ := id hI
    have hbA : ¬ (fun q : Nat => s.heap.size ≤ q) b := Nat.not_le.mpr hbl
    refine lv_iload_n (pc := 18) hx hb dL_law_18 rfl (lv_at hl 3 rfl) ?_
    refine lv_aload_n (pc := 19) hx hb dL_law_19 rfl (lv_at hl 0 rfl) ?_
    refine va_slen (pc := 20) hx hb hX hbl hbA hS dL_law_20 ?_
    refine lv_bipush (pc := 21) (v := (6 : Int32)) hx hb dL_law_21 (by decide) ?_
    refine lv_isub (pc := 23) hx hb dL_law_23 ?_
    refine lv_icmp_gt (pc := 24) (tgt := 1643) hx hb dL_law_24 (by decide) (fun c1 => ?_) (fun c1 => ?_)
    · refine lv_iconst (pc := 1643) (v := (1 : Int32)) hx hb dL_law_1643 (by decide) ?_
      refine va_forget (fun q hq => hS.2.2 q hq) ?_
      exact rk_widen (by omega) (by omega) (lw_ret hx hb hr hlocks dL_law_1644)
    · have h6 := law_c1 hL (by omega) c1
      have hk9 : k ≤ 24 := by omega
      have h0 : vp_in (Int32.ofNat (6 * k)) L := by
        have h := law_c2 hk9 0 0 (Or.inl ⟨rfl, rfl⟩) h6
        rw [Int32.add_zero] at h
        exact h
      have hin : LIn (Int32.ofNat (6 * k)) L := ⟨law_c2 hk9 1 1 (by simp) h6, law_c2 hk9 2 2 (by simp) h6, law_c2 hk9 3 3 (by simp) h6, law_c2 hk9 4 4 (by simp) h6, law_c2 hk9 5 5 (by simp) h6⟩
      refine lv_aload_n (pc := 27) hx hb dL_law_27 rfl (lv_at hl 0 rfl) ?_
      refine lv_iload_n (pc := 28) hx hb dL_law_28 rfl (lv_at hl 3 rfl) ?_
      refine va_sld (pc := 29) hx hb hX hbl hbA hS h0 dL_law_29 ?_
      refine lv_bipush (pc := 30) (v := (63 : Int32)) hx hb dL_law_30 (by decide) ?_
      refine lv_iand (pc := 32) hx hb dL_law_32 ?_
      refine lc_all W0 hOK (by omega) (by omega) hin hI (fun H1 locs1 ls1 hI1 => ?_)
      obtain ⟨vx1, vp1, vm1, hWx1, hWp1, hWm1, hR1, hG1, hS1, hl1⟩ := hI1
      refine lv_iinc (pc := 1637) (v := (Int32.ofNat (6 * k) + (6 : Int32))) (lv' := [(3, .int (Int32.ofNat (6 * k) + (6 : Int32))), (0, .ref b), (1, .ref b0), (2, .ref (b0 + 357))]) hx hb dL_law_1637 hl1 (k := 3) rfl rfl (by decide) rfl (fun ls2 hl2 => ?_)
      refine lv_goto (pc := 1640) (tgt := 18) hx hb dL_law_1640 (by decide) ?_
      rw [law_c3 hk9] at hl2
      exact rk_widen (by omega) (by omega) (ih (k + 1) (by omega) (by omega) H1 locs1 ls2 ⟨vx1, vp1, vm1, hWx1, hWp1, hWm1, hR1, hG1, hS1, lv_sub hl2 [1, 2, 3, 0] rfl⟩)
set_option maxHeartbeats 4000000 in
theorem law_start {p : Program} {l : Launch} {e : Env} {s : State} {m : MethodId} {below : List Frame} {meth : Method} {c : Code} {G : Gv} {b L b0 : Nat} {xs : Nat → Int32} {Rel : Mem → Mem → Nat → Mem → Prop} (W0 : LWd G p l s m c b L xs b0) (hbe : b0 = s.heap.size) (hG0 : GO G s.heap) (hZI : ZI G) (hOK : LawOK b0 Rel) (hst : ∃ rc vm, fX9_init_b (vc_X9 (b0 + 357)) = some (rc, vm) ∧ Rel (vc_X0 b0) (vp0 b0) (b0 + 357 + 1 + rc) vm) (hr : meth.sig.returnType = ret) (hlocks : meth.locks = false) (hL : L ≤ 144) {ls : Array Slot} (hl : lv_has ls 4 [(0, .ref b)]) : lwW p l e s m b below meth c s.heap [] 0 0 (F0 m 0 ls []) := by
  obtain ⟨hx, hb, hml, hown, hts, hK, hX, hbl, hb0, hZ, hZX, hZL, hZP, hZN, hZC, hl0, hgB⟩ := id W0
  obtain ⟨rc, vm, hq, hR⟩ := hst
  have hS0 : va_S (fun q => s.heap.size ≤ q) s.heap s.heap [] := va_S.rf
  refine rk_new (pc := 0) (h := b0) (sh := shO_X0) hx hb hts hown hK hS0 in_X0 ft_X0 rfl q153 q154 q114 hbe.symm rfl (df_X0 _ rfl) (Nat.le_of_ble_eq_true rfl) (Nat.le_of_ble_eq_true rfl) dL_law_0 (fun H1 hWn hS1 hz1 hk1 => ?_)
  have hG1 := GO_keepN hG0 (h := b0) (by omega) (by rw [hbe]; rw [hbe] at hk1; exact hk1)
  refine lv_dup (pc := 3) hx hb dL_law_3 rfl ?_
  refine rk_TI (pc := 4) (As := []) (rest := [.ref b0]) (mc := 356) (ms := 2752) hx hb hml hown hts hK hS1 (fun q hq => hq) lkL_9 yn_X0_init (ct_X0_init (G := G) (l := l) (b0 := b0) (sz := H1.size) hz1 (by omega) hZL hZI) ⟨Nat.le_of_ble_eq_true rfl, Nat.le_of_ble_eq_true rfl⟩ (fun z h => by have h8 := h.1; omega) ⟨hWn, hG1⟩ rfl rfl hl.1 (Nat.le_of_ble_eq_true rfl) dL_law_4 ⟨by show _ ≤ 1200144; omega, by show _ ≤ 5496634; omega⟩ (fun ov9 H2 locs2 hP2 hk2 hS2 => ?_)
  obtain ⟨rfl, hWx2, hWp2, hz2⟩ := hP2
  have hWp2 := hWp2 (PLs b0)
  have hG2 := GO_keepA hG1 hk2 (by omega) (by intro z h3; have h8 := h3.1; omega)
  refine W.eq (g2 := F0 m 7 ls [.ref b0]) rfl ?_
  refine lv_astore_n (pc := 7) (lv' := [(1, .ref b0), (0, .ref b)]) hx hb dL_law_7 rfl hl (by decide) rfl (fun ls hl => ?_)
  refine rk_new (pc := 8) (h := b0 + 357) (sh := shO_X9) hx hb hts hown hK hS2 in_X9 ft_X9 rfl q1739 q1740 q128 hz2 rfl (df_X9 _ rfl) (by show _ ≤ 1200144; omega) (by show _ ≤ 5496634; omega) dL_law_8 (fun H3 hWn3 hS3 hz3 hk3 => ?_)
  have hG3 := GO_keepN hG2 (h := b0 + 357) (by omega) hk3
  have hWx3 := rg_keepN hWx2 hz2 hk3
  have hWp3 := pl_keepN hWp2 hz2 hk3
  refine lv_dup (pc := 11) hx hb dL_law_11 rfl ?_
  refine rk_TI (pc := 12) (As := []) (rest := [.ref (b0 + 357)]) (mc := 45) (ms := 3035) hx hb hml hown hts hK hS3 (fun q hq => hq) lkL_12 yn_X9_init (ct_X9_init (G := G) (l := l) (b0 := b0 + 357) (sz := H3.size) hq hz3) ⟨Nat.le_of_ble_eq_true rfl, Nat.le_of_ble_eq_true rfl⟩ (fun z h => by have h8 := h.1; omega) hWn3 rfl rfl hl.1 (Nat.le_of_ble_eq_true rfl) dL_law_12 ⟨by show _ ≤ 1200144; omega, by show _ ≤ 5496634; omega⟩ (fun ov8 H4 locs4 hP4 hk4 hS4 => ?_)
  obtain ⟨rfl, hWm4, hz4⟩ := hP4
  have hG4 := GO_keepA hG3 hk4 (by omega) (by intro z h3; have h8 := h3.1; omega)
  have hWx4 := rg_keepX hWx3 hk4 (fun z h0 h3 => by have h8 := h0.1.2; have h9 := h3.1; omega)
  have hWp4 := pl_keepA hWp3 hk4 (fun z h0 h3 => PLs_m z h0 h3)
  refine W.eq (g2 := F0 m 15 ls [.ref (b0 + 357)]) rfl ?_
  refine lv_astore_n (pc := 15) (lv' := [(2, .ref (b0 + 357)), (1, .ref b0), (0, .ref b)]) hx hb dL_law_15 rfl hl (by decide) rfl (fun ls hl => ?_)
  refine lv_iconst (pc := 16) (v := (0 : Int32)) hx hb dL_law_16 (by decide) ?_
  refine lv_istore_n (pc := 17) (lv' := [(3, .int (0 : Int32)), (2, .ref (b0 + 357)), (1, .ref b0), (0, .ref b)]) hx hb dL_law_17 rfl hl (by decide) rfl (fun ls hl => ?_)
  have hR4 : Rel (vc_X0 b0) (vp0 b0) H4.size vm := by rw [show H4.size = b0 + 357 + 1 + rc by omega]; exact hR
  exact rk_widen (by omega) (by omega) (law_loop W0 hOK hr hlocks hL 24 0 (by omega) (by omega) H4 locs4 ls ⟨_, _, _, hWx4, hWp4, hWm4, hR4, hG4, hS4, lv_sub hl [3, 2, 1, 0] rfl⟩)
end
