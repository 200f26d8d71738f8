set_option maxRecDepth 100000
section
variable {p : Program} {l : Launch} {e : Env} {s : State} {m : MethodId} {args : Array Value} {below : List Frame} {meth : Method} {c : Code} {G : Gv}
theorem yn_J1_rotateLeft : YN yJ1_rotateLeft 1 := by
  unfold YN
  decide +kernel
theorem lkJ1_311 : LV RJ1 311 RJ1 yJ1_rotateLeft cJ1_rotateLeft 3 none := ⟨q1450, q1452, qs52, q120, q1453⟩
noncomputable def fJ1_fixAfterInsertion_225 (PL : Nat → Bool) (k5 : Mem → Nat → Option Nat → Option (Mem)) (v0 : Mem) (p0 : Nat) (p1 : Nat) : Option (Mem) :=
  ob (fJ1_parentOf PL v0 (some p1)) fun oa372 =>
  ob (fJ1_setColor PL v0 oa372 (1 : Int32)) fun w374 =>
  ob (fJ1_parentOf PL w374 (some p1)) fun oa386 =>
  ob (fJ1_parentOf PL w374 oa386) fun oa388 =>
  ob (fJ1_setColor PL w374 oa388 (0 : Int32)) fun w390 =>
  ob (fJ1_parentOf PL w390 (some p1)) fun oa402 =>
  ob (fJ1_parentOf PL w390 oa402) fun oa404 =>
  gb (kd PL w390 p0 16) (
  ob (fJ1_rotateLeft PL w390 p0 oa404) fun w407 =>
  k5 w407 p0 (some p1))
noncomputable def fJ1_fixAfterInsertion_225b (PL : Nat → Bool) (k5 : Mem → Nat → Option Nat → Option (Mem)) (v0 : Mem) (p0 : Nat) (o1 : Option Nat) : Option (Mem) :=
  ob (fJ1_parentOf PL v0 o1) fun oa325 =>
  ob (fJ1_setColor PL v0 oa325 (1 : Int32)) fun w327 =>
  ob (fJ1_parentOf PL w327 o1) fun oa339 =>
  ob (fJ1_parentOf PL w327 oa339) fun oa341 =>
  ob (fJ1_setColor PL w327 oa341 (0 : Int32)) fun w343 =>
  ob (fJ1_parentOf PL w343 o1) fun oa355 =>
  ob (fJ1_parentOf PL w343 oa355) fun oa357 =>
  gb (kd PL w343 p0 16) (
  ob (fJ1_rotateLeft PL w343 p0 oa357) fun w360 =>
  k5 w360 p0 o1)
noncomputable def fJ1_fixAfterInsertion_118 (PL : Nat → Bool) (k5 : Mem → Nat → Option Nat → Option (Mem)) (v0 : Mem) (p0 : Nat) (p1 : Nat) : Option (Mem) :=
  ob (fJ1_parentOf PL v0 (some p1)) fun oa278 =>
  ob (fJ1_setColor PL v0 oa278 (1 : Int32)) fun w280 =>
  ob (fJ1_parentOf PL w280 (some p1)) fun oa292 =>
  ob (fJ1_parentOf PL w280 oa292) fun oa294 =>
  ob (fJ1_setColor PL w280 oa294 (0 : Int32)) fun w296 =>
  ob (fJ1_parentOf PL w296 (some p1)) fun oa308 =>
  ob (fJ1_parentOf PL w296 oa308) fun oa310 =>
  gb (kd PL w296 p0 16) (
  ob (fJ1_rotateRight PL w296 p0 oa310) fun w313 =>
  k5 w313 p0 (some p1))
noncomputable def fJ1_fixAfterInsertion_118b (PL : Nat → Bool) (k5 : Mem → Nat → Option Nat → Option (Mem)) (v0 : Mem) (p0 : Nat) (o1 : Option Nat) : Option (Mem) :=
  ob (fJ1_parentOf PL v0 o1) fun oa231 =>
  ob (fJ1_setColor PL v0 oa231 (1 : Int32)) fun w233 =>
  ob (fJ1_parentOf PL w233 o1) fun oa245 =>
  ob (fJ1_parentOf PL w233 oa245) fun oa247 =>
  ob (fJ1_setColor PL w233 oa247 (0 : Int32)) fun w249 =>
  ob (fJ1_parentOf PL w249 o1) fun oa261 =>
  ob (fJ1_parentOf PL w249 oa261) fun oa263 =>
  gb (kd PL w249 p0 16) (
  ob (fJ1_rotateRight PL w249 p0 oa263) fun w266 =>
  k5 w266 p0 o1)
noncomputable def fJ1_fixAfterInsertion_5 (PL : Nat → Bool) (k5 : Mem → Nat → Option Nat → Option (Mem)) (v0 : Mem) (p0 : Nat) (o1 : Option Nat) : Option (Mem) :=
  od o1 (
  gb (kd PL v0 p0 16) (
  lo (gR v0 p0 3) fun oa13 =>
  ob oa13 fun pa15 =>
  gb (kd PL v0 pa15 18) (
  lm (sI v0 pa15 5 (1 : Int32)) fun v0_19 =>
  some v0_19))) (fun pa11 =>
  gb (kd PL v0 p0 16) (
  lo (gR v0 p0 3) fun oa29 =>
  if (some pa11) = oa29 then (
  gb (kd PL v0 p0 16) (
  lo (gR v0 p0 3) fun oa33 =>
  ob oa33 fun pa35 =>
  gb (kd PL v0 pa35 18) (
  lm (sI v0 pa35 5 (1 : Int32)) fun v0_39 =>
  some v0_39)))
  else (
  gb (kd PL v0 pa11 18) (
  lo (gR v0 pa11 4) fun oa49 =>
  ob oa49 fun pa51 =>
  gb (kd PL v0 pa51 18) (
  if (gI v0 pa51 5) = 0 then (
  ob (fJ1_parentOf PL v0 (some pa11)) fun oa72 =>
  ob (fJ1_parentOf PL v0 (some pa11)) fun oa74 =>
  ob (fJ1_parentOf PL v0 oa74) fun oa76 =>
  ob (fJ1_leftOf PL v0 oa76) fun oa78 =>
  if oa72 = oa78 then (
  ob (fJ1_parentOf PL v0 (some pa11)) fun oa156 =>
  ob (fJ1_parentOf PL v0 oa156) fun oa158 =>
  ob (fJ1_rightOf PL v0 oa158) fun oa160 =>
  ob (fJ1_colorOf PL v0 oa160) fun r162 =>
  if r162 = 0 then (
  ob (fJ1_parentOf PL v0 (some pa11)) fun oa185 =>
  ob (fJ1_setColor PL v0 oa185 (1 : Int32)) fun w187 =>
  ob (fJ1_setColor PL w187 oa160 (1 : Int32)) fun w199 =>
  ob (fJ1_parentOf PL w199 (some pa11)) fun oa211 =>
  ob (fJ1_parentOf PL w199 oa211) fun oa213 =>
  ob (fJ1_setColor PL w199 oa213 (0 : Int32)) fun w215 =>
  ob (fJ1_parentOf PL w215 (some pa11)) fun oa227 =>
  ob (fJ1_parentOf PL w215 oa227) fun oa229 =>
  k5 w215 p0 oa229)
  else (
  ob (fJ1_parentOf PL v0 (some pa11)) fun oa165 =>
  ob (fJ1_rightOf PL v0 oa165) fun oa167 =>
  if (some pa11) = oa167 then (
  ob (fJ1_parentOf PL v0 (some pa11)) fun oa170 =>
  gb (kd PL v0 p0 16) (
  ob (fJ1_rotateLeft PL v0 p0 oa170) fun w173 =>
  fJ1_fixAfterInsertion_118b PL k5 w173 p0 oa170))
  else (
  fJ1_fixAfterInsertion_118 PL k5 v0 p0 pa11)))
  else (
  ob (fJ1_parentOf PL v0 (some pa11)) fun oa81 =>
  ob (fJ1_parentOf PL v0 oa81) fun oa83 =>
  ob (fJ1_leftOf PL v0 oa83) fun oa85 =>
  ob (fJ1_colorOf PL v0 oa85) fun r87 =>
  if r87 = 0 then (
  ob (fJ1_parentOf PL v0 (some pa11)) fun oa110 =>
  ob (fJ1_setColor PL v0 oa110 (1 : Int32)) fun w112 =>
  ob (fJ1_setColor PL w112 oa85 (1 : Int32)) fun w124 =>
  ob (fJ1_parentOf PL w124 (some pa11)) fun oa136 =>
  ob (fJ1_parentOf PL w124 oa136) fun oa138 =>
  ob (fJ1_setColor PL w124 oa138 (0 : Int32)) fun w140 =>
  ob (fJ1_parentOf PL w140 (some pa11)) fun oa152 =>
  ob (fJ1_parentOf PL w140 oa152) fun oa154 =>
  k5 w140 p0 oa154)
  else (
  ob (fJ1_parentOf PL v0 (some pa11)) fun oa90 =>
  ob (fJ1_leftOf PL v0 oa90) fun oa92 =>
  if (some pa11) = oa92 then (
  ob (fJ1_parentOf PL v0 (some pa11)) fun oa95 =>
  gb (kd PL v0 p0 16) (
  ob (fJ1_rotateRight PL v0 p0 oa95) fun w98 =>
  fJ1_fixAfterInsertion_225b PL k5 w98 p0 oa95))
  else (
  fJ1_fixAfterInsertion_225 PL k5 v0 p0 pa11))))
  else (
  gb (kd PL v0 p0 16) (
  lo (gR v0 p0 3) fun oa57 =>
  ob oa57 fun pa59 =>
  gb (kd PL v0 pa59 18) (
  lm (sI v0 pa59 5 (1 : Int32)) fun v0_63 =>
  some v0_63))))))))
noncomputable def fJ1_fixAfterInsertion (PL : Nat → Bool) (v0 : Mem) (p0 : Nat) (p1 : Nat) : Option (Mem) :=
  gb (kd PL v0 p1 18) (
  lm (sI v0 p1 5 (0 : Int32)) fun v0_2 =>
  lq3 (fJ1_fixAfterInsertion_5 PL) FU v0_2 p0 (some p1))
set_option maxHeartbeats 4000000 in
theorem w_fJ1_fixAfterInsertion_225 (C : Cx G p s m args meth c RJ1 cJ1_fixAfterInsertion 3 none) {PL : Nat → Bool} {vP0 : Mem} {rw0 : Mem} {k5 : Mem → Nat → Option Nat → Option (Mem)} (hk5 : ∀ (v0 : Mem) (p0 : Nat) (o1 : Option Nat), k5 v0 p0 o1 = some rw0 → ∀ (H : Heap) (locs : List Loc) (ls : Array Slot), pl G PL v0 H → va_S (FA (fP PL vP0) s.heap.size) s.heap H locs → H.size = s.heap.size → KM vP0 v0 s.heap.size → lv_has ls 3 [(0, .ref p0), (1, va_rf o1)] → W p l e (rmT 1 0 0 22) s m args below meth c H locs 0 0 (MQ below (QcT (FA (fP PL vP0) s.heap.size) (fun ov H => ov = none ∧ pl G PL rw0 H ∧ H.size = s.heap.size ∧ KM vP0 rw0 s.heap.size)) args s 0 0 (FA (fP PL vP0) s.heap.size)) (F0 m 5 ls [])) : ∀ (v0 : Mem) (p0 : Nat) (p1 : Nat), fJ1_fixAfterInsertion_225 PL k5 v0 p0 p1 = some rw0 → ∀ (H : Heap) (locs : List Loc) (ls : Array Slot), pl G PL v0 H → va_S (FA (fP PL vP0) s.heap.size) s.heap H locs → H.size = s.heap.size → KM vP0 v0 s.heap.size → lv_has ls 3 [(0, .ref p0), (1, .ref p1)] → W p l e (rmT 1 0 0 22) s m args below meth c H locs 0 0 (MQ below (QcT (FA (fP PL vP0) s.heap.size) (fun ov H => ov = none ∧ pl G PL rw0 H ∧ H.size = s.heap.size ∧ KM vP0 rw0 s.heap.size)) args s 0 0 (FA (fP PL vP0) s.heap.size)) (F0 m 225 ls []) := by
  intro v0 p0 p1 hm H locs ls hW0 hS hz hKM hl
  obtain ⟨hx, hb, hr, hlk, hml, hown, hts, hK⟩ := id C
  unfold fJ1_fixAfterInsertion_225 at hm
  refine lv_aload_n (pc := 225) hx hb dJ1_fixAfterInsertion_225 rfl (lv_at hl 1 rfl) ?_
  obtain ⟨oa372, hq373, hm⟩ := ob_some hm
  refine rk_PS (pc := 226) (As := [.ref p1]) (rest := []) hx hb hml hown hts hK lkJ1_294 yn_J1_parentOf (ct_J1_parentOf (G := G) (l := l) hq373) ⟨Nat.le_of_ble_eq_true rfl, Nat.le_of_ble_eq_true rfl⟩ hW0 rfl rfl hl.1 (Nat.le_of_ble_eq_true rfl) dJ1_fixAfterInsertion_226 ⟨Nat.zero_le _, Nat.zero_le _⟩ ?_
  refine W.eq (g2 := F0 m 229 ls [va_rf oa372]) rfl ?_
  refine lv_iconst (pc := 229) (v := (1 : Int32)) hx hb dJ1_fixAfterInsertion_229 (by decide) ?_
  obtain ⟨w374, hq375, hm⟩ := ob_some hm
  refine rk_TS (pc := 230) (As := [va_rf oa372, .int (1 : Int32)]) (rest := []) (mc := 0) (ms := 0) hx hb hml hown hts hK hS (fun q hq => FA_sz rfl q hq) lkJ1_307 yn_J1_setColor (ct_J1_setColor (G := G) (l := l) (sz := H.size) hq375) ⟨Nat.le_of_ble_eq_true rfl, Nat.le_of_ble_eq_true rfl⟩ (fun z h => (KM_hf2 hKM z h)) hW0 rfl rfl hl.1 (Nat.le_of_ble_eq_true rfl) dJ1_fixAfterInsertion_230 ⟨Nat.zero_le _, Nat.zero_le _⟩ (fun ov9 H376 locs377 hP378 hkp379 hS380 => ?_)
  obtain ⟨rfl, hW381, hz382, hKM383⟩ := hP378
  have hz384 := hz382.trans hz
  have hKM385 := KM.trans hKM hKM383 (by omega)
  refine W.eq (g2 := F0 m 233 ls []) rfl ?_
  refine lv_aload_n (pc := 233) hx hb dJ1_fixAfterInsertion_233 rfl (lv_at hl 1 rfl) ?_
  obtain ⟨oa386, hq387, hm⟩ := ob_some hm
  refine rk_PS (pc := 234) (As := [.ref p1]) (rest := []) hx hb hml hown hts hK lkJ1_294 yn_J1_parentOf (ct_J1_parentOf (G := G) (l := l) hq387) ⟨Nat.le_of_ble_eq_true rfl, Nat.le_of_ble_eq_true rfl⟩ hW381 rfl rfl hl.1 (Nat.le_of_ble_eq_true rfl) dJ1_fixAfterInsertion_234 ⟨Nat.zero_le _, Nat.zero_le _⟩ ?_
  refine W.eq (g2 := F0 m 237 ls [va_rf oa386]) rfl ?_
  obtain ⟨oa388, hq389, hm⟩ := ob_some hm
  refine rk_PS (pc := 237) (As := [va_rf oa386]) (rest := []) hx hb hml hown hts hK lkJ1_294 yn_J1_parentOf (ct_J1_parentOf (G := G) (l := l) hq389) ⟨Nat.le_of_ble_eq_true rfl, Nat.le_of_ble_eq_true rfl⟩ hW381 rfl rfl hl.1 (Nat.le_of_ble_eq_true rfl) dJ1_fixAfterInsertion_237 ⟨Nat.zero_le _, Nat.zero_le _⟩ ?_
  refine W.eq (g2 := F0 m 240 ls [va_rf oa388]) rfl ?_
  refine lv_iconst (pc := 240) (v := (0 : Int32)) hx hb dJ1_fixAfterInsertion_240 (by decide) ?_
  obtain ⟨w390, hq391, hm⟩ := ob_some hm
  refine rk_TS (pc := 241) (As := [va_rf oa388, .int (0 : Int32)]) (rest := []) (mc := 0) (ms := 0) hx hb hml hown hts hK hS380 (fun q hq => FA_sz rfl q hq) lkJ1_307 yn_J1_setColor (ct_J1_setColor (G := G) (l := l) (sz := H376.size) hq391) ⟨Nat.le_of_ble_eq_true rfl, Nat.le_of_ble_eq_true rfl⟩ (fun z h => (KM_hf2 hKM385 z h)) hW381 rfl rfl hl.1 (Nat.le_of_ble_eq_true rfl) dJ1_fixAfterInsertion_241 ⟨Nat.zero_le _, Nat.zero_le _⟩ (fun ov9 H392 locs393 hP394 hkp395 hS396 => ?_)
  obtain ⟨rfl, hW397, hz398, hKM399⟩ := hP394
  have hz400 := hz398.trans hz384
  have hKM401 := KM.trans hKM385 hKM399 (by omega)
  refine W.eq (g2 := F0 m 244 ls []) rfl ?_
  refine lv_aload_n (pc := 244) hx hb dJ1_fixAfterInsertion_244 rfl (lv_at hl 0 rfl) ?_
  refine lv_aload_n (pc := 245) hx hb dJ1_fixAfterInsertion_245 rfl (lv_at hl 1 rfl) ?_
  obtain ⟨oa402, hq403, hm⟩ := ob_some hm
  refine rk_PS (pc := 246) (As := [.ref p1]) (rest := [.ref p0]) hx hb hml hown hts hK lkJ1_294 yn_J1_parentOf (ct_J1_parentOf (G := G) (l := l) hq403) ⟨Nat.le_of_ble_eq_true rfl, Nat.le_of_ble_eq_true rfl⟩ hW397 rfl rfl hl.1 (Nat.le_of_ble_eq_true rfl) dJ1_fixAfterInsertion_246 ⟨Nat.zero_le _, Nat.zero_le _⟩ ?_
  refine W.eq (g2 := F0 m 249 ls [va_rf oa402, .ref p0]) rfl ?_
  obtain ⟨oa404, hq405, hm⟩ := ob_some hm
  refine rk_PS (pc := 249) (As := [va_rf oa402]) (rest := [.ref p0]) hx hb hml hown hts hK lkJ1_294 yn_J1_parentOf (ct_J1_parentOf (G := G) (l := l) hq405) ⟨Nat.le_of_ble_eq_true rfl, Nat.le_of_ble_eq_true rfl⟩ hW397 rfl rfl hl.1 (Nat.le_of_ble_eq_true rfl) dJ1_fixAfterInsertion_249 ⟨Nat.zero_le _, Nat.zero_le _⟩ ?_
  refine W.eq (g2 := F0 m 252 ls [va_rf oa404, .ref p0]) rfl ?_
  obtain ⟨hg406, hm⟩ := gb_some hm
  obtain ⟨w407, hq408, hm⟩ := ob_some hm
  refine rk_TV (pc := 252) (As := [va_rf oa404]) (rest := []) (mc := 0) (ms := 0) hx hb hml hown hts hK hS396 (fun q hq => FA_sz rfl q hq) lkJ1_311 rfl yn_J1_rotateLeft (ct_J1_rotateLeft (G := G) (l := l) (sz := H392.size) hq408) ⟨Nat.le_of_ble_eq_true rfl, Nat.le_of_ble_eq_true rfl⟩ (fun z h => (KM_hf2 hKM401 z h)) (rp_recv hK hW397 (C := RJ1) (T := TJ1) (N := 9) rfl (shP_16 (kd_PL hg406) (kd_k hg406))) hW397 rfl rfl hl.1 (Nat.le_of_ble_eq_true rfl) dJ1_fixAfterInsertion_252 ⟨Nat.zero_le _, Nat.zero_le _⟩ (fun ov9 H409 locs410 hP411 hkp412 hS413 => ?_)
  obtain ⟨rfl, hW414, hz415, hKM416⟩ := hP411
  have hz417 := hz415.trans hz400
  have hKM418 := KM.trans hKM401 hKM416 (by omega)
  refine W.eq (g2 := F0 m 255 ls []) rfl ?_
  refine lv_goto (pc := 255) (tgt := 5) hx hb dJ1_fixAfterInsertion_255 (by decide) ?_
  exact hk5 w407 p0 (some p1) hm H409 locs410 ls hW414 hS413 hz417 hKM418 (lv_sub hl [0, 1] rfl)
set_option maxHeartbeats 4000000 in
theorem w_fJ1_fixAfterInsertion_225b (C : Cx G p s m args meth c RJ1 cJ1_fixAfterInsertion 3 none) {PL : Nat → Bool} {vP0 : Mem} {rw0 : Mem} {k5 : Mem → Nat → Option Nat → Option (Mem)} (hk5 : ∀ (v0 : Mem) (p0 : Nat) (o1 : Option Nat), k5 v0 p0 o1 = some rw0 → ∀ (H : Heap) (locs : List Loc) (ls : Array Slot), pl G PL v0 H → va_S (FA (fP PL vP0) s.heap.size) s.heap H locs → H.size = s.heap.size → KM vP0 v0 s.heap.size → lv_has ls 3 [(0, .ref p0), (1, va_rf o1)] → W p l e (rmT 1 0 0 22) s m args below meth c H locs 0 0 (MQ below (QcT (FA (fP PL vP0) s.heap.size) (fun ov H => ov = none ∧ pl G PL rw0 H ∧ H.size = s.heap.size ∧ KM vP0 rw0 s.heap.size)) args s 0 0 (FA (fP PL vP0) s.heap.size)) (F0 m 5 ls [])) : ∀ (v0 : Mem) (p0 : Nat) (o1 : Option Nat), fJ1_fixAfterInsertion_225b PL k5 v0 p0 o1 = some rw0 → ∀ (H : Heap) (locs : List Loc) (ls : Array Slot), pl G PL v0 H → va_S (FA (fP PL vP0) s.heap.size) s.heap H locs → H.size = s.heap.size → KM vP0 v0 s.heap.size → lv_has ls 3 [(0, .ref p0), (1, va_rf o1)] → W p l e (rmT 1 0 0 22) s m args below meth c H locs 0 0 (MQ below (QcT (FA (fP PL vP0) s.heap.size) (fun ov H => ov = none ∧ pl G PL rw0 H ∧ H.size = s.heap.size ∧ KM vP0 rw0 s.heap.size)) args s 0 0 (FA (fP PL vP0) s.heap.size)) (F0 m 225 ls []) := by
  intro v0 p0 o1 hm H locs ls hW0 hS hz hKM hl
  obtain ⟨hx, hb, hr, hlk, hml, hown, hts, hK⟩ := id C
  unfold fJ1_fixAfterInsertion_225b at hm
  refine lv_aload_nO (pc := 225) hx hb dJ1_fixAfterInsertion_225 rfl (lv_at hl 1 rfl) ?_
  obtain ⟨oa325, hq326, hm⟩ := ob_some hm
  refine rk_PS (pc := 226) (As := [va_rf o1]) (rest := []) hx hb hml hown hts hK lkJ1_294 yn_J1_parentOf (ct_J1_parentOf (G := G) (l := l) hq326) ⟨Nat.le_of_ble_eq_true rfl, Nat.le_of_ble_eq_true rfl⟩ hW0 rfl rfl hl.1 (Nat.le_of_ble_eq_true rfl) dJ1_fixAfterInsertion_226 ⟨Nat.zero_le _, Nat.zero_le _⟩ ?_
  refine W.eq (g2 := F0 m 229 ls [va_rf oa325]) rfl ?_
  refine lv_iconst (pc := 229) (v := (1 : Int32)) hx hb dJ1_fixAfterInsertion_229 (by decide) ?_
  obtain ⟨w327, hq328, hm⟩ := ob_some hm
  refine rk_TS (pc := 230) (As := [va_rf oa325, .int (1 : Int32)]) (rest := []) (mc := 0) (ms := 0) hx hb hml hown hts hK hS (fun q hq => FA_sz rfl q hq) lkJ1_307 yn_J1_setColor (ct_J1_setColor (G := G) (l := l) (sz := H.size) hq328) ⟨Nat.le_of_ble_eq_true rfl, Nat.le_of_ble_eq_true rfl⟩ (fun z h => (KM_hf2 hKM z h)) hW0 rfl rfl hl.1 (Nat.le_of_ble_eq_true rfl) dJ1_fixAfterInsertion_230 ⟨Nat.zero_le _, Nat.zero_le _⟩ (fun ov9 H329 locs330 hP331 hkp332 hS333 => ?_)
  obtain ⟨rfl, hW334, hz335, hKM336⟩ := hP331
  have hz337 := hz335.trans hz
  have hKM338 := KM.trans hKM hKM336 (by omega)
  refine W.eq (g2 := F0 m 233 ls []) rfl ?_
  refine lv_aload_nO (pc := 233) hx hb dJ1_fixAfterInsertion_233 rfl (lv_at hl 1 rfl) ?_
  obtain ⟨oa339, hq340, hm⟩ := ob_some hm
  refine rk_PS (pc := 234) (As := [va_rf o1]) (rest := []) hx hb hml hown hts hK lkJ1_294 yn_J1_parentOf (ct_J1_parentOf (G := G) (l := l) hq340) ⟨Nat.le_of_ble_eq_true rfl, Nat.le_of_ble_eq_true rfl⟩ hW334 rfl rfl hl.1 (Nat.le_of_ble_eq_true rfl) dJ1_fixAfterInsertion_234 ⟨Nat.zero_le _, Nat.zero_le _⟩ ?_
  refine W.eq (g2 := F0 m 237 ls [va_rf oa339]) rfl ?_
  obtain ⟨oa341, hq342, hm⟩ := ob_some hm
  refine rk_PS (pc := 237) (As := [va_rf oa339]) (rest := []) hx hb hml hown hts hK lkJ1_294 yn_J1_parentOf (ct_J1_parentOf (G := G) (l := l) hq342) ⟨Nat.le_of_ble_eq_true rfl, Nat.le_of_ble_eq_true rfl⟩ hW334 rfl rfl hl.1 (Nat.le_of_ble_eq_true rfl) dJ1_fixAfterInsertion_237 ⟨Nat.zero_le _, Nat.zero_le _⟩ ?_
  refine W.eq (g2 := F0 m 240 ls [va_rf oa341]) rfl ?_
  refine lv_iconst (pc := 240) (v := (0 : Int32)) hx hb dJ1_fixAfterInsertion_240 (by decide) ?_
  obtain ⟨w343, hq344, hm⟩ := ob_some hm
  refine rk_TS (pc := 241) (As := [va_rf oa341, .int (0 : Int32)]) (rest := []) (mc := 0) (ms := 0) hx hb hml hown hts hK hS333 (fun q hq => FA_sz rfl q hq) lkJ1_307 yn_J1_setColor (ct_J1_setColor (G := G) (l := l) (sz := H329.size) hq344) ⟨Nat.le_of_ble_eq_true rfl, Nat.le_of_ble_eq_true rfl⟩ (fun z h => (KM_hf2 hKM338 z h)) hW334 rfl rfl hl.1 (Nat.le_of_ble_eq_true rfl) dJ1_fixAfterInsertion_241 ⟨Nat.zero_le _, Nat.zero_le _⟩ (fun ov9 H345 locs346 hP347 hkp348 hS349 => ?_)
  obtain ⟨rfl, hW350, hz351, hKM352⟩ := hP347
  have hz353 := hz351.trans hz337
  have hKM354 := KM.trans hKM338 hKM352 (by omega)
  refine W.eq (g2 := F0 m 244 ls []) rfl ?_
  refine lv_aload_n (pc := 244) hx hb dJ1_fixAfterInsertion_244 rfl (lv_at hl 0 rfl) ?_
  refine lv_aload_nO (pc := 245) hx hb dJ1_fixAfterInsertion_245 rfl (lv_at hl 1 rfl) ?_
  obtain ⟨oa355, hq356, hm⟩ := ob_some hm
  refine rk_PS (pc := 246) (As := [va_rf o1]) (rest := [.ref p0]) hx hb hml hown hts hK lkJ1_294 yn_J1_parentOf (ct_J1_parentOf (G := G) (l := l) hq356) ⟨Nat.le_of_ble_eq_true rfl, Nat.le_of_ble_eq_true rfl⟩ hW350 rfl rfl hl.1 (Nat.le_of_ble_eq_true rfl) dJ1_fixAfterInsertion_246 ⟨Nat.zero_le _, Nat.zero_le _⟩ ?_
  refine W.eq (g2 := F0 m 249 ls [va_rf oa355, .ref p0]) rfl ?_
  obtain ⟨oa357, hq358, hm⟩ := ob_some hm
  refine rk_PS (pc := 249) (As := [va_rf oa355]) (rest := [.ref p0]) hx hb hml hown hts hK lkJ1_294 yn_J1_parentOf (ct_J1_parentOf (G := G) (l := l) hq358) ⟨Nat.le_of_ble_eq_true rfl, Nat.le_of_ble_eq_true rfl⟩ hW350 rfl rfl hl.1 (Nat.le_of_ble_eq_true rfl) dJ1_fixAfterInsertion_249 ⟨Nat.zero_le _, Nat.zero_le _⟩ ?_
  refine W.eq (g2 := F0 m 252 ls [va_rf oa357, .ref p0]) rfl ?_
  obtain ⟨hg359, hm⟩ := gb_some hm
  obtain ⟨w360, hq361, hm⟩ := ob_some hm
  refine rk_TV (pc := 252) (As := [va_rf oa357]) (rest := []) (mc := 0) (ms := 0) hx hb hml hown hts hK hS349 (fun q hq => FA_sz rfl q hq) lkJ1_311 rfl yn_J1_rotateLeft (ct_J1_rotateLeft (G := G) (l := l) (sz := H345.size) hq361) ⟨Nat.le_of_ble_eq_true rfl, Nat.le_of_ble_eq_true rfl⟩ (fun z h => (KM_hf2 hKM354 z h)) (rp_recv hK hW350 (C := RJ1) (T := TJ1) (N := 9) rfl (shP_16 (kd_PL hg359) (kd_k hg359))) hW350 rfl rfl hl.1 (Nat.le_of_ble_eq_true rfl) dJ1_fixAfterInsertion_252 ⟨Nat.zero_le _, Nat.zero_le _⟩ (fun ov9 H362 locs363 hP364 hkp365 hS366 => ?_)
  obtain ⟨rfl, hW367, hz368, hKM369⟩ := hP364
  have hz370 := hz368.trans hz353
  have hKM371 := KM.trans hKM354 hKM369 (by omega)
  refine W.eq (g2 := F0 m 255 ls []) rfl ?_
  refine lv_goto (pc := 255) (tgt := 5) hx hb dJ1_fixAfterInsertion_255 (by decide) ?_
  exact hk5 w360 p0 o1 hm H362 locs363 ls hW367 hS366 hz370 hKM371 (lv_sub hl [0, 1] rfl)
set_option maxHeartbeats 4000000 in
theorem w_fJ1_fixAfterInsertion_118 (C : Cx G p s m args meth c RJ1 cJ1_fixAfterInsertion 3 none) {PL : Nat → Bool} {vP0 : Mem} {rw0 : Mem} {k5 : Mem → Nat → Option Nat → Option (Mem)} (hk5 : ∀ (v0 : Mem) (p0 : Nat) (o1 : Option Nat), k5 v0 p0 o1 = some rw0 → ∀ (H : Heap) (locs : List Loc) (ls : Array Slot), pl G PL v0 H → va_S (FA (fP PL vP0) s.heap.size) s.heap H locs → H.size = s.heap.size → KM vP0 v0 s.heap.size → lv_has ls 3 [(0, .ref p0), (1, va_rf o1)] → W p l e (rmT 1 0 0 22) s m args below meth c H locs 0 0 (MQ below (QcT (FA (fP PL vP0) s.heap.size) (fun ov H => ov = none ∧ pl G PL rw0 H ∧ H.size = s.heap.size ∧ KM vP0 rw0 s.heap.size)) args s 0 0 (FA (fP PL vP0) s.heap.size)) (F0 m 5 ls [])) : ∀ (v0 : Mem) (p0 : Nat) (p1 : Nat), fJ1_fixAfterInsertion_118 PL k5 v0 p0 p1 = some rw0 → ∀ (H : Heap) (locs : List Loc) (ls : Array Slot), pl G PL v0 H → va_S (FA (fP PL vP0) s.heap.size) s.heap H locs → H.size = s.heap.size → KM vP0 v0 s.heap.size → lv_has ls 3 [(0, .ref p0), (1, .ref p1)] → W p l e (rmT 1 0 0 22) s m args below meth c H locs 0 0 (MQ below (QcT (FA (fP PL vP0) s.heap.size) (fun ov H => ov = none ∧ pl G PL rw0 H ∧ H.size = s.heap.size ∧ KM vP0 rw0 s.heap.size)) args s 0 0 (FA (fP PL vP0) s.heap.size)) (F0 m 118 ls []) := by
  intro v0 p0 p1 hm H locs ls hW0 hS hz hKM hl
  obtain ⟨hx, hb, hr, hlk, hml, hown, hts, hK⟩ := id C
  unfold fJ1_fixAfterInsertion_118 at hm
  refine lv_aload_n (pc := 118) hx hb dJ1_fixAfterInsertion_118 rfl (lv_at hl 1 rfl) ?_
  obtain ⟨oa278, hq279, hm⟩ := ob_some hm
  refine rk_PS (pc := 119) (As := [.ref p1]) (rest := []) hx hb hml hown hts hK lkJ1_294 yn_J1_parentOf (ct_J1_parentOf (G := G) (l := l) hq279) ⟨Nat.le_of_ble_eq_true rfl, Nat.le_of_ble_eq_true rfl⟩ hW0 rfl rfl hl.1 (Nat.le_of_ble_eq_true rfl) dJ1_fixAfterInsertion_119 ⟨Nat.zero_le _, Nat.zero_le _⟩ ?_
  refine W.eq (g2 := F0 m 122 ls [va_rf oa278]) rfl ?_
  refine lv_iconst (pc := 122) (v := (1 : Int32)) hx hb dJ1_fixAfterInsertion_122 (by decide) ?_
  obtain ⟨w280, hq281, hm⟩ := ob_some hm
  refine rk_TS (pc := 123) (As := [va_rf oa278, .int (1 : Int32)]) (rest := []) (mc := 0) (ms := 0) hx hb hml hown hts hK hS (fun q hq => FA_sz rfl q hq) lkJ1_307 yn_J1_setColor (ct_J1_setColor (G := G) (l := l) (sz := H.size) hq281) ⟨Nat.le_of_ble_eq_true rfl, Nat.le_of_ble_eq_true rfl⟩ (fun z h => (KM_hf2 hKM z h)) hW0 rfl rfl hl.1 (Nat.le_of_ble_eq_true rfl) dJ1_fixAfterInsertion_123 ⟨Nat.zero_le _, Nat.zero_le _⟩ (fun ov9 H282 locs283 hP284 hkp285 hS286 => ?_)
  obtain ⟨rfl, hW287, hz288, hKM289⟩ := hP284
  have hz290 := hz288.trans hz
  have hKM291 := KM.trans hKM hKM289 (by omega)
  refine W.eq (g2 := F0 m 126 ls []) rfl ?_
  refine lv_aload_n (pc := 126) hx hb dJ1_fixAfterInsertion_126 rfl (lv_at hl 1 rfl) ?_
  obtain ⟨oa292, hq293, hm⟩ := ob_some hm
  refine rk_PS (pc := 127) (As := [.ref p1]) (rest := []) hx hb hml hown hts hK lkJ1_294 yn_J1_parentOf (ct_J1_parentOf (G := G) (l := l) hq293) ⟨Nat.le_of_ble_eq_true rfl, Nat.le_of_ble_eq_true rfl⟩ hW287 rfl rfl hl.1 (Nat.le_of_ble_eq_true rfl) dJ1_fixAfterInsertion_127 ⟨Nat.zero_le _, Nat.zero_le _⟩ ?_
  refine W.eq (g2 := F0 m 130 ls [va_rf oa292]) rfl ?_
  obtain ⟨oa294, hq295, hm⟩ := ob_some hm
  refine rk_PS (pc := 130) (As := [va_rf oa292]) (rest := []) hx hb hml hown hts hK lkJ1_294 yn_J1_parentOf (ct_J1_parentOf (G := G) (l := l) hq295) ⟨Nat.le_of_ble_eq_true rfl, Nat.le_of_ble_eq_true rfl⟩ hW287 rfl rfl hl.1 (Nat.le_of_ble_eq_true rfl) dJ1_fixAfterInsertion_130 ⟨Nat.zero_le _, Nat.zero_le _⟩ ?_
  refine W.eq (g2 := F0 m 133 ls [va_rf oa294]) rfl ?_
  refine lv_iconst (pc := 133) (v := (0 : Int32)) hx hb dJ1_fixAfterInsertion_133 (by decide) ?_
  obtain ⟨w296, hq297, hm⟩ := ob_some hm
  refine rk_TS (pc := 134) (As := [va_rf oa294, .int (0 : Int32)]) (rest := []) (mc := 0) (ms := 0) hx hb hml hown hts hK hS286 (fun q hq => FA_sz rfl q hq) lkJ1_307 yn_J1_setColor (ct_J1_setColor (G := G) (l := l) (sz := H282.size) hq297) ⟨Nat.le_of_ble_eq_true rfl, Nat.le_of_ble_eq_true rfl⟩ (fun z h => (KM_hf2 hKM291 z h)) hW287 rfl rfl hl.1 (Nat.le_of_ble_eq_true rfl) dJ1_fixAfterInsertion_134 ⟨Nat.zero_le _, Nat.zero_le _⟩ (fun ov9 H298 locs299 hP300 hkp301 hS302 => ?_)
  obtain ⟨rfl, hW303, hz304, hKM305⟩ := hP300
  have hz306 := hz304.trans hz290
  have hKM307 := KM.trans hKM291 hKM305 (by omega)
  refine W.eq (g2 := F0 m 137 ls []) rfl ?_
  refine lv_aload_n (pc := 137) hx hb dJ1_fixAfterInsertion_137 rfl (lv_at hl 0 rfl) ?_
  refine lv_aload_n (pc := 138) hx hb dJ1_fixAfterInsertion_138 rfl (lv_at hl 1 rfl) ?_
  obtain ⟨oa308, hq309, hm⟩ := ob_some hm
  refine rk_PS (pc := 139) (As := [.ref p1]) (rest := [.ref p0]) hx hb hml hown hts hK lkJ1_294 yn_J1_parentOf (ct_J1_parentOf (G := G) (l := l) hq309) ⟨Nat.le_of_ble_eq_true rfl, Nat.le_of_ble_eq_true rfl⟩ hW303 rfl rfl hl.1 (Nat.le_of_ble_eq_true rfl) dJ1_fixAfterInsertion_139 ⟨Nat.zero_le _, Nat.zero_le _⟩ ?_
  refine W.eq (g2 := F0 m 142 ls [va_rf oa308, .ref p0]) rfl ?_
  obtain ⟨oa310, hq311, hm⟩ := ob_some hm
  refine rk_PS (pc := 142) (As := [va_rf oa308]) (rest := [.ref p0]) hx hb hml hown hts hK lkJ1_294 yn_J1_parentOf (ct_J1_parentOf (G := G) (l := l) hq311) ⟨Nat.le_of_ble_eq_true rfl, Nat.le_of_ble_eq_true rfl⟩ hW303 rfl rfl hl.1 (Nat.le_of_ble_eq_true rfl) dJ1_fixAfterInsertion_142 ⟨Nat.zero_le _, Nat.zero_le _⟩ ?_
  refine W.eq (g2 := F0 m 145 ls [va_rf oa310, .ref p0]) rfl ?_
  obtain ⟨hg312, hm⟩ := gb_some hm
  obtain ⟨w313, hq314, hm⟩ := ob_some hm
  refine rk_TV (pc := 145) (As := [va_rf oa310]) (rest := []) (mc := 0) (ms := 0) hx hb hml hown hts hK hS302 (fun q hq => FA_sz rfl q hq) lkJ1_314 rfl yn_J1_rotateRight (ct_J1_rotateRight (G := G) (l := l) (sz := H298.size) hq314) ⟨Nat.le_of_ble_eq_true rfl, Nat.le_of_ble_eq_true rfl⟩ (fun z h => (KM_hf2 hKM307 z h)) (rp_recv hK hW303 (C := RJ1) (T := TJ1) (N := 9) rfl (shP_16 (kd_PL hg312) (kd_k hg312))) hW303 rfl rfl hl.1 (Nat.le_of_ble_eq_true rfl) dJ1_fixAfterInsertion_145 ⟨Nat.zero_le _, Nat.zero_le _⟩ (fun ov9 H315 locs316 hP317 hkp318 hS319 => ?_)
  obtain ⟨rfl, hW320, hz321, hKM322⟩ := hP317
  have hz323 := hz321.trans hz306
  have hKM324 := KM.trans hKM307 hKM322 (by omega)
  refine W.eq (g2 := F0 m 148 ls []) rfl ?_
  refine lv_goto (pc := 148) (tgt := 5) hx hb dJ1_fixAfterInsertion_148 (by decide) ?_
  exact hk5 w313 p0 (some p1) hm H315 locs316 ls hW320 hS319 hz323 hKM324 (lv_sub hl [0, 1] rfl)
set_option maxHeartbeats 4000000 in
theorem w_fJ1_fixAfterInsertion_118b (C : Cx G p s m args meth c RJ1 cJ1_fixAfterInsertion 3 none) {PL : Nat → Bool} {vP0 : Mem} {rw0 : Mem} {k5 : Mem → Nat → Option Nat → Option (Mem)} (hk5 : ∀ (v0 : Mem) (p0 : Nat) (o1 : Option Nat), k5 v0 p0 o1 = some rw0 → ∀ (H : Heap) (locs : List Loc) (ls : Array Slot), pl G PL v0 H → va_S (FA (fP PL vP0) s.heap.size) s.heap H locs → H.size = s.heap.size → KM vP0 v0 s.heap.size → lv_has ls 3 [(0, .ref p0), (1, va_rf o1)] → W p l e (rmT 1 0 0 22) s m args below meth c H locs 0 0 (MQ below (QcT (FA (fP PL vP0) s.heap.size) (fun ov H => ov = none ∧ pl G PL rw0 H ∧ H.size = s.heap.size ∧ KM vP0 rw0 s.heap.size)) args s 0 0 (FA (fP PL vP0) s.heap.size)) (F0 m 5 ls [])) : ∀ (v0 : Mem) (p0 : Nat) (o1 : Option Nat), fJ1_fixAfterInsertion_118b PL k5 v0 p0 o1 = some rw0 → ∀ (H : Heap) (locs : List Loc) (ls : Array Slot), pl G PL v0 H → va_S (FA (fP PL vP0) s.heap.size) s.heap H locs → H.size = s.heap.size → KM vP0 v0 s.heap.size → lv_has ls 3 [(0, .ref p0), (1, va_rf o1)] → W p l e (rmT 1 0 0 22) s m args below meth c H locs 0 0 (MQ below (QcT (FA (fP PL vP0) s.heap.size) (fun ov H => ov = none ∧ pl G PL rw0 H ∧ H.size = s.heap.size ∧ KM vP0 rw0 s.heap.size)) args s 0 0 (FA (fP PL vP0) s.heap.size)) (F0 m 118 ls []) := by
  intro v0 p0 o1 hm H locs ls hW0 hS hz hKM hl
  obtain ⟨hx, hb, hr, hlk, hml, hown, hts, hK⟩ := id C
  unfold fJ1_fixAfterInsertion_118b at hm
  refine lv_aload_nO (pc := 118) hx hb dJ1_fixAfterInsertion_118 rfl (lv_at hl 1 rfl) ?_
  obtain ⟨oa231, hq232, hm⟩ := ob_some hm
  refine rk_PS (pc := 119) (As := [va_rf o1]) (rest := []) hx hb hml hown hts hK lkJ1_294 yn_J1_parentOf (ct_J1_parentOf (G := G) (l := l) hq232) ⟨Nat.le_of_ble_eq_true rfl, Nat.le_of_ble_eq_true rfl⟩ hW0 rfl rfl hl.1 (Nat.le_of_ble_eq_true rfl) dJ1_fixAfterInsertion_119 ⟨Nat.zero_le _, Nat.zero_le _⟩ ?_
  refine W.eq (g2 := F0 m 122 ls [va_rf oa231]) rfl ?_
  refine lv_iconst (pc := 122) (v := (1 : Int32)) hx hb dJ1_fixAfterInsertion_122 (by decide) ?_
  obtain ⟨w233, hq234, hm⟩ := ob_some hm
  refine rk_TS (pc := 123) (As := [va_rf oa231, .int (1 : Int32)]) (rest := []) (mc := 0) (ms := 0) hx hb hml hown hts hK hS (fun q hq => FA_sz rfl q hq) lkJ1_307 yn_J1_setColor (ct_J1_setColor (G := G) (l := l) (sz := H.size) hq234) ⟨Nat.le_of_ble_eq_true rfl, Nat.le_of_ble_eq_true rfl⟩ (fun z h => (KM_hf2 hKM z h)) hW0 rfl rfl hl.1 (Nat.le_of_ble_eq_true rfl) dJ1_fixAfterInsertion_123 ⟨Nat.zero_le _, Nat.zero_le _⟩ (fun ov9 H235 locs236 hP237 hkp238 hS239 => ?_)
  obtain ⟨rfl, hW240, hz241, hKM242⟩ := hP237
  have hz243 := hz241.trans hz
  have hKM244 := KM.trans hKM hKM242 (by omega)
  refine W.eq (g2 := F0 m 126 ls []) rfl ?_
  refine lv_aload_nO (pc := 126) hx hb dJ1_fixAfterInsertion_126 rfl (lv_at hl 1 rfl) ?_
  obtain ⟨oa245, hq246, hm⟩ := ob_some hm
  refine rk_PS (pc := 127) (As := [va_rf o1]) (rest := []) hx hb hml hown hts hK lkJ1_294 yn_J1_parentOf (ct_J1_parentOf (G := G) (l := l) hq246) ⟨Nat.le_of_ble_eq_true rfl, Nat.le_of_ble_eq_true rfl⟩ hW240 rfl rfl hl.1 (Nat.le_of_ble_eq_true rfl) dJ1_fixAfterInsertion_127 ⟨Nat.zero_le _, Nat.zero_le _⟩ ?_
  refine W.eq (g2 := F0 m 130 ls [va_rf oa245]) rfl ?_
  obtain ⟨oa247, hq248, hm⟩ := ob_some hm
  refine rk_PS (pc := 130) (As := [va_rf oa245]) (rest := []) hx hb hml hown hts hK lkJ1_294 yn_J1_parentOf (ct_J1_parentOf (G := G) (l := l) hq248) ⟨Nat.le_of_ble_eq_true rfl, Nat.le_of_ble_eq_true rfl⟩ hW240 rfl rfl hl.1 (Nat.le_of_ble_eq_true rfl) dJ1_fixAfterInsertion_130 ⟨Nat.zero_le _, Nat.zero_le _⟩ ?_
  refine W.eq (g2 := F0 m 133 ls [va_rf oa247]) rfl ?_
  refine lv_iconst (pc := 133) (v := (0 : Int32)) hx hb dJ1_fixAfterInsertion_133 (by decide) ?_
  obtain ⟨w249, hq250, hm⟩ := ob_some hm
  refine rk_TS (pc := 134) (As := [va_rf oa247, .int (0 : Int32)]) (rest := []) (mc := 0) (ms := 0) hx hb hml hown hts hK hS239 (fun q hq => FA_sz rfl q hq) lkJ1_307 yn_J1_setColor (ct_J1_setColor (G := G) (l := l) (sz := H235.size) hq250) ⟨Nat.le_of_ble_eq_true rfl, Nat.le_of_ble_eq_true rfl⟩ (fun z h => (KM_hf2 hKM244 z h)) hW240 rfl rfl hl.1 (Nat.le_of_ble_eq_true rfl) dJ1_fixAfterInsertion_134 ⟨Nat.zero_le _, Nat.zero_le _⟩ (fun ov9 H251 locs252 hP253 hkp254 hS255 => ?_)
  obtain ⟨rfl, hW256, hz257, hKM258⟩ := hP253
  have hz259 := hz257.trans hz243
  have hKM260 := KM.trans hKM244 hKM258 (by omega)
  refine W.eq (g2 := F0 m 137 ls []) rfl ?_
  refine lv_aload_n (pc := 137) hx hb dJ1_fixAfterInsertion_137 rfl (lv_at hl 0 rfl) ?_
  refine lv_aload_nO (pc := 138) hx hb dJ1_fixAfterInsertion_138 rfl (lv_at hl 1 rfl) ?_
  obtain ⟨oa261, hq262, hm⟩ := ob_some hm
  refine rk_PS (pc := 139) (As := [va_rf o1]) (rest := [.ref p0]) hx hb hml hown hts hK lkJ1_294 yn_J1_parentOf (ct_J1_parentOf (G := G) (l := l) hq262) ⟨Nat.le_of_ble_eq_true rfl, Nat.le_of_ble_eq_true rfl⟩ hW256 rfl rfl hl.1 (Nat.le_of_ble_eq_true rfl) dJ1_fixAfterInsertion_139 ⟨Nat.zero_le _, Nat.zero_le _⟩ ?_
  refine W.eq (g2 := F0 m 142 ls [va_rf oa261, .ref p0]) rfl ?_
  obtain ⟨oa263, hq264, hm⟩ := ob_some hm
  refine rk_PS (pc := 142) (As := [va_rf oa261]) (rest := [.ref p0]) hx hb hml hown hts hK lkJ1_294 yn_J1_parentOf (ct_J1_parentOf (G := G) (l := l) hq264) ⟨Nat.le_of_ble_eq_true rfl, Nat.le_of_ble_eq_true rfl⟩ hW256 rfl rfl hl.1 (Nat.le_of_ble_eq_true rfl) dJ1_fixAfterInsertion_142 ⟨Nat.zero_le _, Nat.zero_le _⟩ ?_
  refine W.eq (g2 := F0 m 145 ls [va_rf oa263, .ref p0]) rfl ?_
  obtain ⟨hg265, hm⟩ := gb_some hm
  obtain ⟨w266, hq267, hm⟩ := ob_some hm
  refine rk_TV (pc := 145) (As := [va_rf oa263]) (rest := []) (mc := 0) (ms := 0) hx hb hml hown hts hK hS255 (fun q hq => FA_sz rfl q hq) lkJ1_314 rfl yn_J1_rotateRight (ct_J1_rotateRight (G := G) (l := l) (sz := H251.size) hq267) ⟨Nat.le_of_ble_eq_true rfl, Nat.le_of_ble_eq_true rfl⟩ (fun z h => (KM_hf2 hKM260 z h)) (rp_recv hK hW256 (C := RJ1) (T := TJ1) (N := 9) rfl (shP_16 (kd_PL hg265) (kd_k hg265))) hW256 rfl rfl hl.1 (Nat.le_of_ble_eq_true rfl) dJ1_fixAfterInsertion_145 ⟨Nat.zero_le _, Nat.zero_le _⟩ (fun ov9 H268 locs269 hP270 hkp271 hS272 => ?_)
  obtain ⟨rfl, hW273, hz274, hKM275⟩ := hP270
  have hz276 := hz274.trans hz259
  have hKM277 := KM.trans hKM260 hKM275 (by omega)
  refine W.eq (g2 := F0 m 148 ls []) rfl ?_
  refine lv_goto (pc := 148) (tgt := 5) hx hb dJ1_fixAfterInsertion_148 (by decide) ?_
  exact hk5 w266 p0 o1 hm H268 locs269 ls hW273 hS272 hz276 hKM277 (lv_sub hl [0, 1] rfl)
set_option maxHeartbeats 4000000 in
theorem w_fJ1_fixAfterInsertion_5 (C : Cx G p s m args meth c RJ1 cJ1_fixAfterInsertion 3 none) {PL : Nat → Bool} {vP0 : Mem} {rw0 : Mem} {k5 : Mem → Nat → Option Nat → Option (Mem)} (hk5 : ∀ (v0 : Mem) (p0 : Nat) (o1 : Option Nat), k5 v0 p0 o1 = some rw0 → ∀ (H : Heap) (locs : List Loc) (ls : Array Slot), pl G PL v0 H → va_S (FA (fP PL vP0) s.heap.size) s.heap H locs → H.size = s.heap.size → KM vP0 v0 s.heap.size → lv_has ls 3 [(0, .ref p0), (1, va_rf o1)] → W p l e (rmT 1 0 0 22) s m args below meth c H locs 0 0 (MQ below (QcT (FA (fP PL vP0) s.heap.size) (fun ov H => ov = none ∧ pl G PL rw0 H ∧ H.size = s.heap.size ∧ KM vP0 rw0 s.heap.size)) args s 0 0 (FA (fP PL vP0) s.heap.size)) (F0 m 5 ls [])) : ∀ (v0 : Mem) (p0 : Nat) (o1 : Option Nat), fJ1_fixAfterInsertion_5 PL k5 v0 p0 o1 = some rw0 → ∀ (H : Heap) (locs : List Loc) (ls : Array Slot), pl G PL v0 H → va_S (FA (fP PL vP0) s.heap.size) s.heap H locs → H.size = s.heap.size → KM vP0 v0 s.heap.size → lv_has ls 3 [(0, .ref p0), (1, va_rf o1)] → W p l e (rmT 1 0 0 22) s m args below meth c H locs 0 0 (MQ below (QcT (FA (fP PL vP0) s.heap.size) (fun ov H => ov = none ∧ pl G PL rw0 H ∧ H.size = s.heap.size ∧ KM vP0 rw0 s.heap.size)) args s 0 0 (FA (fP PL vP0) s.heap.size)) (F0 m 5 ls []) := by
  intro v0 p0 o1 hm H locs ls hW0 hS hz hKM hl
  obtain ⟨hx, hb, hr, hlk, hml, hown, hts, hK⟩ := id C
  unfold fJ1_fixAfterInsertion_5 at hm
  refine lv_aload_nO (pc := 5) hx hb dJ1_fixAfterInsertion_5 rfl (lv_at hl 1 rfl) ?_
  rcases o1 with _ | pa11
  · have hm := od_n hm
    refine lv_ifnullN (pc := 6) (tgt := 258) hx hb dJ1_fixAfterInsertion_6 (by decide) ?_
    refine lv_aload_n (pc := 258) hx hb dJ1_fixAfterInsertion_258 rfl (lv_at hl 0 rfl) ?_
    obtain ⟨hg12, hm⟩ := gb_some hm
    obtain ⟨oa13, he14, hm⟩ := lo_some hm
    refine rk_get (pc := 259) hx hb hts hown hK (pl_rg hW0) flJ1_101 p0 (Nat.lt_succ_self _) (Nat.zero_add _).symm (shP_16 (kd_PL hg12) (kd_k hg12)) (x := va_rf oa13) (congrArg (fun z => some (va_rf z)) he14) dJ1_fixAfterInsertion_259 ?_
    refine lv_iconst (pc := 262) (v := (1 : Int32)) hx hb dJ1_fixAfterInsertion_262 (by decide) ?_
    obtain ⟨pa15, he16, hm17⟩ := ob_some hm
    subst he16
    have hm := hm17
    obtain ⟨hg18, hm⟩ := gb_some hm
    refine rp_put (pc := 263) (q := pa15) hx hb hts hown hK hW0 hS flJ1_290 ft_J11 (kd_A hKM hg18 (by decide)) (shP_18 (kd_PL hg18) (kd_k hg18)) rfl (x := .int (1 : Int32)) rfl rfl (Nat.le_of_ble_eq_true rfl) (sI v0 pa15 5 (1 : Int32)) sI_ne (by rw [sI_eq]; exact shP_18 (kd_PL hg18) (kd_k hg18)) dJ1_fixAfterInsertion_263 (fun H20 locs21 hW22 hS23 hz24 hkp25 => ?_)
    have hKM26 := KM.sI (o := pa15) (j := 5) (x := (1 : Int32)) hKM (by decide)
    obtain ⟨v0_19, he9, hm⟩ := lm_some hm
    rw [he9] at hW22 hKM26
    have hz27 := hz24.trans hz
    have e9 := rs1 hm
    subst e9
    exact rk_vret (pc := 266) hx hb hr hlk hS23 ⟨rfl, hW22, hz27, hKM26⟩ dJ1_fixAfterInsertion_266
  · have hm := od_s hm
    refine lv_ifnull (pc := 6) hx hb dJ1_fixAfterInsertion_6 ?_
    refine lv_aload_n (pc := 9) hx hb dJ1_fixAfterInsertion_9 rfl (lv_at hl 1 rfl) ?_
    refine lv_aload_n (pc := 10) hx hb dJ1_fixAfterInsertion_10 rfl (lv_at hl 0 rfl) ?_
    obtain ⟨hg28, hm⟩ := gb_some hm
    obtain ⟨oa29, he30, hm⟩ := lo_some hm
    refine rk_get (pc := 11) hx hb hts hown hK (pl_rg hW0) flJ1_101 p0 (Nat.lt_succ_self _) (Nat.zero_add _).symm (shP_16 (kd_PL hg28) (kd_k hg28)) (x := va_rf oa29) (congrArg (fun z => some (va_rf z)) he30) dJ1_fixAfterInsertion_11 ?_
    refine lv_acmp_eq (pc := 14) (rx := (some pa11)) (ry := oa29) (tgt := 258) hx hb dJ1_fixAfterInsertion_14 (by decide) (fun c31 => ?_) (fun c31 => ?_)
    · have hm := ite_t c31 hm
      refine lv_aload_n (pc := 258) hx hb dJ1_fixAfterInsertion_258 rfl (lv_at hl 0 rfl) ?_
      obtain ⟨hg32, hm⟩ := gb_some hm
      obtain ⟨oa33, he34, hm⟩ := lo_some hm
      refine rk_get (pc := 259) hx hb hts hown hK (pl_rg hW0) flJ1_101 p0 (Nat.lt_succ_self _) (Nat.zero_add _).symm (shP_16 (kd_PL hg32) (kd_k hg32)) (x := va_rf oa33) (congrArg (fun z => some (va_rf z)) he34) dJ1_fixAfterInsertion_259 ?_
      refine lv_iconst (pc := 262) (v := (1 : Int32)) hx hb dJ1_fixAfterInsertion_262 (by decide) ?_
      obtain ⟨pa35, he36, hm37⟩ := ob_some hm
      subst he36
      have hm := hm37
      obtain ⟨hg38, hm⟩ := gb_some hm
      refine rp_put (pc := 263) (q := pa35) hx hb hts hown hK hW0 hS flJ1_290 ft_J11 (kd_A hKM hg38 (by decide)) (shP_18 (kd_PL hg38) (kd_k hg38)) rfl (x := .int (1 : Int32)) rfl rfl (Nat.le_of_ble_eq_true rfl) (sI v0 pa35 5 (1 : Int32)) sI_ne (by rw [sI_eq]; exact shP_18 (kd_PL hg38) (kd_k hg38)) dJ1_fixAfterInsertion_263 (fun H40 locs41 hW42 hS43 hz44 hkp45 => ?_)
      have hKM46 := KM.sI (o := pa35) (j := 5) (x := (1 : Int32)) hKM (by decide)
      obtain ⟨v0_39, he9, hm⟩ := lm_some hm
      rw [he9] at hW42 hKM46
      have hz47 := hz44.trans hz
      have e9 := rs1 hm
      subst e9
      exact rk_vret (pc := 266) hx hb hr hlk hS43 ⟨rfl, hW42, hz47, hKM46⟩ dJ1_fixAfterInsertion_266
    · have hm := ite_f c31 hm
      refine lv_aload_n (pc := 17) hx hb dJ1_fixAfterInsertion_17 rfl (lv_at hl 1 rfl) ?_
      obtain ⟨hg48, hm⟩ := gb_some hm
      obtain ⟨oa49, he50, hm⟩ := lo_some hm
      refine rk_get (pc := 18) hx hb hts hown hK (pl_rg hW0) flJ1_124 pa11 (Nat.lt_succ_self _) (Nat.zero_add _).symm (shP_18 (kd_PL hg48) (kd_k hg48)) (x := va_rf oa49) (congrArg (fun z => some (va_rf z)) he50) dJ1_fixAfterInsertion_18 ?_
      obtain ⟨pa51, he52, hm53⟩ := ob_some hm
      subst he52
      have hm := hm53
      obtain ⟨hg54, hm⟩ := gb_some hm
      refine rk_get (pc := 21) hx hb hts hown hK (pl_rg hW0) flJ1_290 pa51 (Nat.lt_succ_self _) (Nat.zero_add _).symm (shP_18 (kd_PL hg54) (kd_k hg54)) (x := .int (gI v0 pa51 5)) rfl dJ1_fixAfterInsertion_21 ?_
      refine lv_if_ne (pc := 24) (tgt := 258) hx hb dJ1_fixAfterInsertion_24 (by decide) (fun c55 => ?_) (fun c55 => ?_)
      · have hm := ite_f c55 hm
        refine lv_aload_n (pc := 258) hx hb dJ1_fixAfterInsertion_258 rfl (lv_at hl 0 rfl) ?_
        obtain ⟨hg56, hm⟩ := gb_some hm
        obtain ⟨oa57, he58, hm⟩ := lo_some hm
        refine rk_get (pc := 259) hx hb hts hown hK (pl_rg hW0) flJ1_101 p0 (Nat.lt_succ_self _) (Nat.zero_add _).symm (shP_16 (kd_PL hg56) (kd_k hg56)) (x := va_rf oa57) (congrArg (fun z => some (va_rf z)) he58) dJ1_fixAfterInsertion_259 ?_
        refine lv_iconst (pc := 262) (v := (1 : Int32)) hx hb dJ1_fixAfterInsertion_262 (by decide) ?_
        obtain ⟨pa59, he60, hm61⟩ := ob_some hm
        subst he60
        have hm := hm61
        obtain ⟨hg62, hm⟩ := gb_some hm
        refine rp_put (pc := 263) (q := pa59) hx hb hts hown hK hW0 hS flJ1_290 ft_J11 (kd_A hKM hg62 (by decide)) (shP_18 (kd_PL hg62) (kd_k hg62)) rfl (x := .int (1 : Int32)) rfl rfl (Nat.le_of_ble_eq_true rfl) (sI v0 pa59 5 (1 : Int32)) sI_ne (by rw [sI_eq]; exact shP_18 (kd_PL hg62) (kd_k hg62)) dJ1_fixAfterInsertion_263 (fun H64 locs65 hW66 hS67 hz68 hkp69 => ?_)
        have hKM70 := KM.sI (o := pa59) (j := 5) (x := (1 : Int32)) hKM (by decide)
        obtain ⟨v0_63, he9, hm⟩ := lm_some hm
        rw [he9] at hW66 hKM70
        have hz71 := hz68.trans hz
        have e9 := rs1 hm
        subst e9
        exact rk_vret (pc := 266) hx hb hr hlk hS67 ⟨rfl, hW66, hz71, hKM70⟩ dJ1_fixAfterInsertion_266
      · have hm := ite_t c55 hm
        refine lv_aload_n (pc := 27) hx hb dJ1_fixAfterInsertion_27 rfl (lv_at hl 1 rfl) ?_
        obtain ⟨oa72, hq73, hm⟩ := ob_some hm
        refine rk_PS (pc := 28) (As := [.ref pa11]) (rest := []) hx hb hml hown hts hK lkJ1_294 yn_J1_parentOf (ct_J1_parentOf (G := G) (l := l) hq73) ⟨Nat.le_of_ble_eq_true rfl, Nat.le_of_ble_eq_true rfl⟩ hW0 rfl rfl hl.1 (Nat.le_of_ble_eq_true rfl) dJ1_fixAfterInsertion_28 ⟨Nat.zero_le _, Nat.zero_le _⟩ ?_
        refine W.eq (g2 := F0 m 31 ls [va_rf oa72]) rfl ?_
        refine lv_aload_n (pc := 31) hx hb dJ1_fixAfterInsertion_31 rfl (lv_at hl 1 rfl) ?_
        obtain ⟨oa74, hq75, hm⟩ := ob_some hm
        refine rk_PS (pc := 32) (As := [.ref pa11]) (rest := [va_rf oa72]) hx hb hml hown hts hK lkJ1_294 yn_J1_parentOf (ct_J1_parentOf (G := G) (l := l) hq75) ⟨Nat.le_of_ble_eq_true rfl, Nat.le_of_ble_eq_true rfl⟩ hW0 rfl rfl hl.1 (by simp only [List.map_cons, List.map_nil, cat_rf]; exact Nat.le_of_ble_eq_true rfl) dJ1_fixAfterInsertion_32 ⟨Nat.zero_le _, Nat.zero_le _⟩ ?_
        refine W.eq (g2 := F0 m 35 ls [va_rf oa74, va_rf oa72]) rfl ?_
        obtain ⟨oa76, hq77, hm⟩ := ob_some hm
        refine rk_PS (pc := 35) (As := [va_rf oa74]) (rest := [va_rf oa72]) hx hb hml hown hts hK lkJ1_294 yn_J1_parentOf (ct_J1_parentOf (G := G) (l := l) hq77) ⟨Nat.le_of_ble_eq_true rfl, Nat.le_of_ble_eq_true rfl⟩ hW0 rfl rfl hl.1 (by simp only [List.map_cons, List.map_nil, cat_rf]; exact Nat.le_of_ble_eq_true rfl) dJ1_fixAfterInsertion_35 ⟨Nat.zero_le _, Nat.zero_le _⟩ ?_
        refine W.eq (g2 := F0 m 38 ls [va_rf oa76, va_rf oa72]) rfl ?_
        obtain ⟨oa78, hq79, hm⟩ := ob_some hm
        refine rk_PS (pc := 38) (As := [va_rf oa76]) (rest := [va_rf oa72]) hx hb hml hown hts hK lkJ1_297 yn_J1_leftOf (ct_J1_leftOf (G := G) (l := l) hq79) ⟨Nat.le_of_ble_eq_true rfl, Nat.le_of_ble_eq_true rfl⟩ hW0 rfl rfl hl.1 (by simp only [List.map_cons, List.map_nil, cat_rf]; exact Nat.le_of_ble_eq_true rfl) dJ1_fixAfterInsertion_38 ⟨Nat.zero_le _, Nat.zero_le _⟩ ?_
        refine W.eq (g2 := F0 m 41 ls [va_rf oa78, va_rf oa72]) rfl ?_
        refine lv_acmp_ne (pc := 41) (rx := oa72) (ry := oa78) (tgt := 151) hx hb dJ1_fixAfterInsertion_41 (by decide) (fun c80 => ?_) (fun c80 => ?_)
        · have hm := ite_f c80 hm
          refine lv_aload_n (pc := 151) hx hb dJ1_fixAfterInsertion_151 rfl (lv_at hl 1 rfl) ?_
          obtain ⟨oa81, hq82, hm⟩ := ob_some hm
          refine rk_PS (pc := 152) (As := [.ref pa11]) (rest := []) hx hb hml hown hts hK lkJ1_294 yn_J1_parentOf (ct_J1_parentOf (G := G) (l := l) hq82) ⟨Nat.le_of_ble_eq_true rfl, Nat.le_of_ble_eq_true rfl⟩ hW0 rfl rfl hl.1 (Nat.le_of_ble_eq_true rfl) dJ1_fixAfterInsertion_152 ⟨Nat.zero_le _, Nat.zero_le _⟩ ?_
          refine W.eq (g2 := F0 m 155 ls [va_rf oa81]) rfl ?_
          obtain ⟨oa83, hq84, hm⟩ := ob_some hm
          refine rk_PS (pc := 155) (As := [va_rf oa81]) (rest := []) hx hb hml hown hts hK lkJ1_294 yn_J1_parentOf (ct_J1_parentOf (G := G) (l := l) hq84) ⟨Nat.le_of_ble_eq_true rfl, Nat.le_of_ble_eq_true rfl⟩ hW0 rfl rfl hl.1 (Nat.le_of_ble_eq_true rfl) dJ1_fixAfterInsertion_155 ⟨Nat.zero_le _, Nat.zero_le _⟩ ?_
          refine W.eq (g2 := F0 m 158 ls [va_rf oa83]) rfl ?_
          obtain ⟨oa85, hq86, hm⟩ := ob_some hm
          refine rk_PS (pc := 158) (As := [va_rf oa83]) (rest := []) hx hb hml hown hts hK lkJ1_297 yn_J1_leftOf (ct_J1_leftOf (G := G) (l := l) hq86) ⟨Nat.le_of_ble_eq_true rfl, Nat.le_of_ble_eq_true rfl⟩ hW0 rfl rfl hl.1 (Nat.le_of_ble_eq_true rfl) dJ1_fixAfterInsertion_158 ⟨Nat.zero_le _, Nat.zero_le _⟩ ?_
          refine W.eq (g2 := F0 m 161 ls [va_rf oa85]) rfl ?_
          refine lv_astore_nO (pc := 161) (lv' := [(2, va_rf oa85), (0, .ref p0), (1, .ref pa11)]) hx hb dJ1_fixAfterInsertion_161 rfl hl (by decide) rfl (fun ls hl => ?_)
          refine lv_aload_nO (pc := 162) hx hb dJ1_fixAfterInsertion_162 rfl (lv_at hl 0 rfl) ?_
          obtain ⟨r87, hq88, hm⟩ := ob_some hm
          refine rk_PS (pc := 163) (As := [va_rf oa85]) (rest := []) hx hb hml hown hts hK lkJ1_303 yn_J1_colorOf (ct_J1_colorOf (G := G) (l := l) hq88) ⟨Nat.le_of_ble_eq_true rfl, Nat.le_of_ble_eq_true rfl⟩ hW0 rfl rfl hl.1 (Nat.le_of_ble_eq_true rfl) dJ1_fixAfterInsertion_163 ⟨Nat.zero_le _, Nat.zero_le _⟩ ?_
          refine W.eq (g2 := F0 m 166 ls [.int r87]) rfl ?_
          refine lv_if_ne (pc := 166) (tgt := 204) hx hb dJ1_fixAfterInsertion_166 (by decide) (fun c89 => ?_) (fun c89 => ?_)
          · have hm := ite_f c89 hm
            refine lv_aload_n (pc := 204) hx hb dJ1_fixAfterInsertion_204 rfl (lv_at hl 2 rfl) ?_
            refine lv_aload_n (pc := 205) hx hb dJ1_fixAfterInsertion_205 rfl (lv_at hl 2 rfl) ?_
            obtain ⟨oa90, hq91, hm⟩ := ob_some hm
            refine rk_PS (pc := 206) (As := [.ref pa11]) (rest := [.ref pa11]) hx hb hml hown hts hK lkJ1_294 yn_J1_parentOf (ct_J1_parentOf (G := G) (l := l) hq91) ⟨Nat.le_of_ble_eq_true rfl, Nat.le_of_ble_eq_true rfl⟩ hW0 rfl rfl hl.1 (Nat.le_of_ble_eq_true rfl) dJ1_fixAfterInsertion_206 ⟨Nat.zero_le _, Nat.zero_le _⟩ ?_
            refine W.eq (g2 := F0 m 209 ls [va_rf oa90, .ref pa11]) rfl ?_
            obtain ⟨oa92, hq93, hm⟩ := ob_some hm
            refine rk_PS (pc := 209) (As := [va_rf oa90]) (rest := [.ref pa11]) hx hb hml hown hts hK lkJ1_297 yn_J1_leftOf (ct_J1_leftOf (G := G) (l := l) hq93) ⟨Nat.le_of_ble_eq_true rfl, Nat.le_of_ble_eq_true rfl⟩ hW0 rfl rfl hl.1 (Nat.le_of_ble_eq_true rfl) dJ1_fixAfterInsertion_209 ⟨Nat.zero_le _, Nat.zero_le _⟩ ?_
            refine W.eq (g2 := F0 m 212 ls [va_rf oa92, .ref pa11]) rfl ?_
            refine lv_acmp_ne (pc := 212) (rx := (some pa11)) (ry := oa92) (tgt := 225) hx hb dJ1_fixAfterInsertion_212 (by decide) (fun c94 => ?_) (fun c94 => ?_)
            · have hm := ite_f c94 hm
              exact (w_fJ1_fixAfterInsertion_225 C hk5) v0 p0 pa11 hm H locs ls hW0 hS hz hKM (lv_sub hl [1, 2] rfl)
            · have hm := ite_t c94 hm
              refine lv_aload_n (pc := 215) hx hb dJ1_fixAfterInsertion_215 rfl (lv_at hl 2 rfl) ?_
              obtain ⟨oa95, hq96, hm⟩ := ob_some hm
              refine rk_PS (pc := 216) (As := [.ref pa11]) (rest := []) hx hb hml hown hts hK lkJ1_294 yn_J1_parentOf (ct_J1_parentOf (G := G) (l := l) hq96) ⟨Nat.le_of_ble_eq_true rfl, Nat.le_of_ble_eq_true rfl⟩ hW0 rfl rfl hl.1 (Nat.le_of_ble_eq_true rfl) dJ1_fixAfterInsertion_216 ⟨Nat.zero_le _, Nat.zero_le _⟩ ?_
              refine W.eq (g2 := F0 m 219 ls [va_rf oa95]) rfl ?_
              refine lv_astore_nO (pc := 219) (lv' := [(1, va_rf oa95), (2, va_rf oa85), (0, .ref p0)]) hx hb dJ1_fixAfterInsertion_219 rfl hl (by decide) rfl (fun ls hl => ?_)
              refine lv_aload_n (pc := 220) hx hb dJ1_fixAfterInsertion_220 rfl (lv_at hl 2 rfl) ?_
              refine lv_aload_nO (pc := 221) hx hb dJ1_fixAfterInsertion_221 rfl (lv_at hl 0 rfl) ?_
              obtain ⟨hg97, hm⟩ := gb_some hm
              obtain ⟨w98, hq99, hm⟩ := ob_some hm
              refine rk_TV (pc := 222) (As := [va_rf oa95]) (rest := []) (mc := 0) (ms := 0) hx hb hml hown hts hK hS (fun q hq => FA_sz rfl q hq) lkJ1_314 rfl yn_J1_rotateRight (ct_J1_rotateRight (G := G) (l := l) (sz := H.size) hq99) ⟨Nat.le_of_ble_eq_true rfl, Nat.le_of_ble_eq_true rfl⟩ (fun z h => (KM_hf2 hKM z h)) (rp_recv hK hW0 (C := RJ1) (T := TJ1) (N := 9) rfl (shP_16 (kd_PL hg97) (kd_k hg97))) hW0 rfl rfl hl.1 (Nat.le_of_ble_eq_true rfl) dJ1_fixAfterInsertion_222 ⟨Nat.zero_le _, Nat.zero_le _⟩ (fun ov9 H100 locs101 hP102 hkp103 hS104 => ?_)
              obtain ⟨rfl, hW105, hz106, hKM107⟩ := hP102
              have hz108 := hz106.trans hz
              have hKM109 := KM.trans hKM hKM107 (by omega)
              refine W.eq (g2 := F0 m 225 ls []) rfl ?_
              exact (w_fJ1_fixAfterInsertion_225b C hk5) w98 p0 oa95 hm H100 locs101 ls hW105 hS104 hz108 hKM109 (lv_sub hl [2, 0] rfl)
          · have hm := ite_t c89 hm
            refine lv_aload_n (pc := 169) hx hb dJ1_fixAfterInsertion_169 rfl (lv_at hl 2 rfl) ?_
            obtain ⟨oa110, hq111, hm⟩ := ob_some hm
            refine rk_PS (pc := 170) (As := [.ref pa11]) (rest := []) hx hb hml hown hts hK lkJ1_294 yn_J1_parentOf (ct_J1_parentOf (G := G) (l := l) hq111) ⟨Nat.le_of_ble_eq_true rfl, Nat.le_of_ble_eq_true rfl⟩ hW0 rfl rfl hl.1 (Nat.le_of_ble_eq_true rfl) dJ1_fixAfterInsertion_170 ⟨Nat.zero_le _, Nat.zero_le _⟩ ?_
            refine W.eq (g2 := F0 m 173 ls [va_rf oa110]) rfl ?_
            refine lv_iconst (pc := 173) (v := (1 : Int32)) hx hb dJ1_fixAfterInsertion_173 (by decide) ?_
            obtain ⟨w112, hq113, hm⟩ := ob_some hm
            refine rk_TS (pc := 174) (As := [va_rf oa110, .int (1 : Int32)]) (rest := []) (mc := 0) (ms := 0) hx hb hml hown hts hK hS (fun q hq => FA_sz rfl q hq) lkJ1_307 yn_J1_setColor (ct_J1_setColor (G := G) (l := l) (sz := H.size) hq113) ⟨Nat.le_of_ble_eq_true rfl, Nat.le_of_ble_eq_true rfl⟩ (fun z h => (KM_hf2 hKM z h)) hW0 rfl rfl hl.1 (Nat.le_of_ble_eq_true rfl) dJ1_fixAfterInsertion_174 ⟨Nat.zero_le _, Nat.zero_le _⟩ (fun ov9 H114 locs115 hP116 hkp117 hS118 => ?_)
            obtain ⟨rfl, hW119, hz120, hKM121⟩ := hP116
            have hz122 := hz120.trans hz
            have hKM123 := KM.trans hKM hKM121 (by omega)
            refine W.eq (g2 := F0 m 177 ls []) rfl ?_
            refine lv_aload_nO (pc := 177) hx hb dJ1_fixAfterInsertion_177 rfl (lv_at hl 0 rfl) ?_
            refine lv_iconst (pc := 178) (v := (1 : Int32)) hx hb dJ1_fixAfterInsertion_178 (by decide) ?_
            obtain ⟨w124, hq125, hm⟩ := ob_some hm
            refine rk_TS (pc := 179) (As := [va_rf oa85, .int (1 : Int32)]) (rest := []) (mc := 0) (ms := 0) hx hb hml hown hts hK hS118 (fun q hq => FA_sz rfl q hq) lkJ1_307 yn_J1_setColor (ct_J1_setColor (G := G) (l := l) (sz := H114.size) hq125) ⟨Nat.le_of_ble_eq_true rfl, Nat.le_of_ble_eq_true rfl⟩ (fun z h => (KM_hf2 hKM123 z h)) hW119 rfl rfl hl.1 (Nat.le_of_ble_eq_true rfl) dJ1_fixAfterInsertion_179 ⟨Nat.zero_le _, Nat.zero_le _⟩ (fun ov9 H126 locs127 hP128 hkp129 hS130 => ?_)
            obtain ⟨rfl, hW131, hz132, hKM133⟩ := hP128
            have hz134 := hz132.trans hz122
            have hKM135 := KM.trans hKM123 hKM133 (by omega)
            refine W.eq (g2 := F0 m 182 ls []) rfl ?_
            refine lv_aload_n (pc := 182) hx hb dJ1_fixAfterInsertion_182 rfl (lv_at hl 2 rfl) ?_
            obtain ⟨oa136, hq137, hm⟩ := ob_some hm
            refine rk_PS (pc := 183) (As := [.ref pa11]) (rest := []) hx hb hml hown hts hK lkJ1_294 yn_J1_parentOf (ct_J1_parentOf (G := G) (l := l) hq137) ⟨Nat.le_of_ble_eq_true rfl, Nat.le_of_ble_eq_true rfl⟩ hW131 rfl rfl hl.1 (Nat.le_of_ble_eq_true rfl) dJ1_fixAfterInsertion_183 ⟨Nat.zero_le _, Nat.zero_le _⟩ ?_
            refine W.eq (g2 := F0 m 186 ls [va_rf oa136]) rfl ?_
            obtain ⟨oa138, hq139, hm⟩ := ob_some hm
            refine rk_PS (pc := 186) (As := [va_rf oa136]) (rest := []) hx hb hml hown hts hK lkJ1_294 yn_J1_parentOf (ct_J1_parentOf (G := G) (l := l) hq139) ⟨Nat.le_of_ble_eq_true rfl, Nat.le_of_ble_eq_true rfl⟩ hW131 rfl rfl hl.1 (Nat.le_of_ble_eq_true rfl) dJ1_fixAfterInsertion_186 ⟨Nat.zero_le _, Nat.zero_le _⟩ ?_
            refine W.eq (g2 := F0 m 189 ls [va_rf oa138]) rfl ?_
            refine lv_iconst (pc := 189) (v := (0 : Int32)) hx hb dJ1_fixAfterInsertion_189 (by decide) ?_
            obtain ⟨w140, hq141, hm⟩ := ob_some hm
            refine rk_TS (pc := 190) (As := [va_rf oa138, .int (0 : Int32)]) (rest := []) (mc := 0) (ms := 0) hx hb hml hown hts hK hS130 (fun q hq => FA_sz rfl q hq) lkJ1_307 yn_J1_setColor (ct_J1_setColor (G := G) (l := l) (sz := H126.size) hq141) ⟨Nat.le_of_ble_eq_true rfl, Nat.le_of_ble_eq_true rfl⟩ (fun z h => (KM_hf2 hKM135 z h)) hW131 rfl rfl hl.1 (Nat.le_of_ble_eq_true rfl) dJ1_fixAfterInsertion_190 ⟨Nat.zero_le _, Nat.zero_le _⟩ (fun ov9 H142 locs143 hP144 hkp145 hS146 => ?_)
            obtain ⟨rfl, hW147, hz148, hKM149⟩ := hP144
            have hz150 := hz148.trans hz134
            have hKM151 := KM.trans hKM135 hKM149 (by omega)
            refine W.eq (g2 := F0 m 193 ls []) rfl ?_
            refine lv_aload_n (pc := 193) hx hb dJ1_fixAfterInsertion_193 rfl (lv_at hl 2 rfl) ?_
            obtain ⟨oa152, hq153, hm⟩ := ob_some hm
            refine rk_PS (pc := 194) (As := [.ref pa11]) (rest := []) hx hb hml hown hts hK lkJ1_294 yn_J1_parentOf (ct_J1_parentOf (G := G) (l := l) hq153) ⟨Nat.le_of_ble_eq_true rfl, Nat.le_of_ble_eq_true rfl⟩ hW147 rfl rfl hl.1 (Nat.le_of_ble_eq_true rfl) dJ1_fixAfterInsertion_194 ⟨Nat.zero_le _, Nat.zero_le _⟩ ?_
            refine W.eq (g2 := F0 m 197 ls [va_rf oa152]) rfl ?_
            obtain ⟨oa154, hq155, hm⟩ := ob_some hm
            refine rk_PS (pc := 197) (As := [va_rf oa152]) (rest := []) hx hb hml hown hts hK lkJ1_294 yn_J1_parentOf (ct_J1_parentOf (G := G) (l := l) hq155) ⟨Nat.le_of_ble_eq_true rfl, Nat.le_of_ble_eq_true rfl⟩ hW147 rfl rfl hl.1 (Nat.le_of_ble_eq_true rfl) dJ1_fixAfterInsertion_197 ⟨Nat.zero_le _, Nat.zero_le _⟩ ?_
            refine W.eq (g2 := F0 m 200 ls [va_rf oa154]) rfl ?_
            refine lv_astore_nO (pc := 200) (lv' := [(1, va_rf oa154), (2, va_rf oa85), (0, .ref p0)]) hx hb dJ1_fixAfterInsertion_200 rfl hl (by decide) rfl (fun ls hl => ?_)
            refine lv_goto (pc := 201) (tgt := 255) hx hb dJ1_fixAfterInsertion_201 (by decide) ?_
            refine lv_goto (pc := 255) (tgt := 5) hx hb dJ1_fixAfterInsertion_255 (by decide) ?_
            exact hk5 w140 p0 oa154 hm H142 locs143 ls hW147 hS146 hz150 hKM151 (lv_sub hl [2, 0] rfl)
        · have hm := ite_t c80 hm
          refine lv_aload_n (pc := 44) hx hb dJ1_fixAfterInsertion_44 rfl (lv_at hl 1 rfl) ?_
          obtain ⟨oa156, hq157, hm⟩ := ob_some hm
          refine rk_PS (pc := 45) (As := [.ref pa11]) (rest := []) hx hb hml hown hts hK lkJ1_294 yn_J1_parentOf (ct_J1_parentOf (G := G) (l := l) hq157) ⟨Nat.le_of_ble_eq_true rfl, Nat.le_of_ble_eq_true rfl⟩ hW0 rfl rfl hl.1 (Nat.le_of_ble_eq_true rfl) dJ1_fixAfterInsertion_45 ⟨Nat.zero_le _, Nat.zero_le _⟩ ?_
          refine W.eq (g2 := F0 m 48 ls [va_rf oa156]) rfl ?_
          obtain ⟨oa158, hq159, hm⟩ := ob_some hm
          refine rk_PS (pc := 48) (As := [va_rf oa156]) (rest := []) hx hb hml hown hts hK lkJ1_294 yn_J1_parentOf (ct_J1_parentOf (G := G) (l := l) hq159) ⟨Nat.le_of_ble_eq_true rfl, Nat.le_of_ble_eq_true rfl⟩ hW0 rfl rfl hl.1 (Nat.le_of_ble_eq_true rfl) dJ1_fixAfterInsertion_48 ⟨Nat.zero_le _, Nat.zero_le _⟩ ?_
          refine W.eq (g2 := F0 m 51 ls [va_rf oa158]) rfl ?_
          obtain ⟨oa160, hq161, hm⟩ := ob_some hm
          refine rk_PS (pc := 51) (As := [va_rf oa158]) (rest := []) hx hb hml hown hts hK lkJ1_300 yn_J1_rightOf (ct_J1_rightOf (G := G) (l := l) hq161) ⟨Nat.le_of_ble_eq_true rfl, Nat.le_of_ble_eq_true rfl⟩ hW0 rfl rfl hl.1 (Nat.le_of_ble_eq_true rfl) dJ1_fixAfterInsertion_51 ⟨Nat.zero_le _, Nat.zero_le _⟩ ?_
          refine W.eq (g2 := F0 m 54 ls [va_rf oa160]) rfl ?_
          refine lv_astore_nO (pc := 54) (lv' := [(2, va_rf oa160), (0, .ref p0), (1, .ref pa11)]) hx hb dJ1_fixAfterInsertion_54 rfl hl (by decide) rfl (fun ls hl => ?_)
          refine lv_aload_nO (pc := 55) hx hb dJ1_fixAfterInsertion_55 rfl (lv_at hl 0 rfl) ?_
          obtain ⟨r162, hq163, hm⟩ := ob_some hm
          refine rk_PS (pc := 56) (As := [va_rf oa160]) (rest := []) hx hb hml hown hts hK lkJ1_303 yn_J1_colorOf (ct_J1_colorOf (G := G) (l := l) hq163) ⟨Nat.le_of_ble_eq_true rfl, Nat.le_of_ble_eq_true rfl⟩ hW0 rfl rfl hl.1 (Nat.le_of_ble_eq_true rfl) dJ1_fixAfterInsertion_56 ⟨Nat.zero_le _, Nat.zero_le _⟩ ?_
          refine W.eq (g2 := F0 m 59 ls [.int r162]) rfl ?_
          refine lv_if_ne (pc := 59) (tgt := 97) hx hb dJ1_fixAfterInsertion_59 (by decide) (fun c164 => ?_) (fun c164 => ?_)
          · have hm := ite_f c164 hm
            refine lv_aload_n (pc := 97) hx hb dJ1_fixAfterInsertion_97 rfl (lv_at hl 2 rfl) ?_
            refine lv_aload_n (pc := 98) hx hb dJ1_fixAfterInsertion_98 rfl (lv_at hl 2 rfl) ?_
            obtain ⟨oa165, hq166, hm⟩ := ob_some hm
            refine rk_PS (pc := 99) (As := [.ref pa11]) (rest := [.ref pa11]) hx hb hml hown hts hK lkJ1_294 yn_J1_parentOf (ct_J1_parentOf (G := G) (l := l) hq166) ⟨Nat.le_of_ble_eq_true rfl, Nat.le_of_ble_eq_true rfl⟩ hW0 rfl rfl hl.1 (Nat.le_of_ble_eq_true rfl) dJ1_fixAfterInsertion_99 ⟨Nat.zero_le _, Nat.zero_le _⟩ ?_
            refine W.eq (g2 := F0 m 102 ls [va_rf oa165, .ref pa11]) rfl ?_
            obtain ⟨oa167, hq168, hm⟩ := ob_some hm
            refine rk_PS (pc := 102) (As := [va_rf oa165]) (rest := [.ref pa11]) hx hb hml hown hts hK lkJ1_300 yn_J1_rightOf (ct_J1_rightOf (G := G) (l := l) hq168) ⟨Nat.le_of_ble_eq_true rfl, Nat.le_of_ble_eq_true rfl⟩ hW0 rfl rfl hl.1 (Nat.le_of_ble_eq_true rfl) dJ1_fixAfterInsertion_102 ⟨Nat.zero_le _, Nat.zero_le _⟩ ?_
            refine W.eq (g2 := F0 m 105 ls [va_rf oa167, .ref pa11]) rfl ?_
            refine lv_acmp_ne (pc := 105) (rx := (some pa11)) (ry := oa167) (tgt := 118) hx hb dJ1_fixAfterInsertion_105 (by decide) (fun c169 => ?_) (fun c169 => ?_)
            · have hm := ite_f c169 hm
              exact (w_fJ1_fixAfterInsertion_118 C hk5) v0 p0 pa11 hm H locs ls hW0 hS hz hKM (lv_sub hl [1, 2] rfl)
            · have hm := ite_t c169 hm
              refine lv_aload_n (pc := 108) hx hb dJ1_fixAfterInsertion_108 rfl (lv_at hl 2 rfl) ?_
              obtain ⟨oa170, hq171, hm⟩ := ob_some hm
              refine rk_PS (pc := 109) (As := [.ref pa11]) (rest := []) hx hb hml hown hts hK lkJ1_294 yn_J1_parentOf (ct_J1_parentOf (G := G) (l := l) hq171) ⟨Nat.le_of_ble_eq_true rfl, Nat.le_of_ble_eq_true rfl⟩ hW0 rfl rfl hl.1 (Nat.le_of_ble_eq_true rfl) dJ1_fixAfterInsertion_109 ⟨Nat.zero_le _, Nat.zero_le _⟩ ?_
              refine W.eq (g2 := F0 m 112 ls [va_rf oa170]) rfl ?_
              refine lv_astore_nO (pc := 112) (lv' := [(1, va_rf oa170), (2, va_rf oa160), (0, .ref p0)]) hx hb dJ1_fixAfterInsertion_112 rfl hl (by decide) rfl (fun ls hl => ?_)
              refine lv_aload_n (pc := 113) hx hb dJ1_fixAfterInsertion_113 rfl (lv_at hl 2 rfl) ?_
              refine lv_aload_nO (pc := 114) hx hb dJ1_fixAfterInsertion_114 rfl (lv_at hl 0 rfl) ?_
              obtain ⟨hg172, hm⟩ := gb_some hm
              obtain ⟨w173, hq174, hm⟩ := ob_some hm
              refine rk_TV (pc := 115) (As := [va_rf oa170]) (rest := []) (mc := 0) (ms := 0) hx hb hml hown hts hK hS (fun q hq => FA_sz rfl q hq) lkJ1_311 rfl yn_J1_rotateLeft (ct_J1_rotateLeft (G := G) (l := l) (sz := H.size) hq174) ⟨Nat.le_of_ble_eq_true rfl, Nat.le_of_ble_eq_true rfl⟩ (fun z h => (KM_hf2 hKM z h)) (rp_recv hK hW0 (C := RJ1) (T := TJ1) (N := 9) rfl (shP_16 (kd_PL hg172) (kd_k hg172))) hW0 rfl rfl hl.1 (Nat.le_of_ble_eq_true rfl) dJ1_fixAfterInsertion_115 ⟨Nat.zero_le _, Nat.zero_le _⟩ (fun ov9 H175 locs176 hP177 hkp178 hS179 => ?_)
              obtain ⟨rfl, hW180, hz181, hKM182⟩ := hP177
              have hz183 := hz181.trans hz
              have hKM184 := KM.trans hKM hKM182 (by omega)
              refine W.eq (g2 := F0 m 118 ls []) rfl ?_
              exact (w_fJ1_fixAfterInsertion_118b C hk5) w173 p0 oa170 hm H175 locs176 ls hW180 hS179 hz183 hKM184 (lv_sub hl [2, 0] rfl)
          · have hm := ite_t c164 hm
            refine lv_aload_n (pc := 62) hx hb dJ1_fixAfterInsertion_62 rfl (lv_at hl 2 rfl) ?_
            obtain ⟨oa185, hq186, hm⟩ := ob_some hm
            refine rk_PS (pc := 63) (As := [.ref pa11]) (rest := []) hx hb hml hown hts hK lkJ1_294 yn_J1_parentOf (ct_J1_parentOf (G := G) (l := l) hq186) ⟨Nat.le_of_ble_eq_true rfl, Nat.le_of_ble_eq_true rfl⟩ hW0 rfl rfl hl.1 (Nat.le_of_ble_eq_true rfl) dJ1_fixAfterInsertion_63 ⟨Nat.zero_le _, Nat.zero_le _⟩ ?_
            refine W.eq (g2 := F0 m 66 ls [va_rf oa185]) rfl ?_
            refine lv_iconst (pc := 66) (v := (1 : Int32)) hx hb dJ1_fixAfterInsertion_66 (by decide) ?_
            obtain ⟨w187, hq188, hm⟩ := ob_some hm
            refine rk_TS (pc := 67) (As := [va_rf oa185, .int (1 : Int32)]) (rest := []) (mc := 0) (ms := 0) hx hb hml hown hts hK hS (fun q hq => FA_sz rfl q hq) lkJ1_307 yn_J1_setColor (ct_J1_setColor (G := G) (l := l) (sz := H.size) hq188) ⟨Nat.le_of_ble_eq_true rfl, Nat.le_of_ble_eq_true rfl⟩ (fun z h => (KM_hf2 hKM z h)) hW0 rfl rfl hl.1 (Nat.le_of_ble_eq_true rfl) dJ1_fixAfterInsertion_67 ⟨Nat.zero_le _, Nat.zero_le _⟩ (fun ov9 H189 locs190 hP191 hkp192 hS193 => ?_)
            obtain ⟨rfl, hW194, hz195, hKM196⟩ := hP191
            have hz197 := hz195.trans hz
            have hKM198 := KM.trans hKM hKM196 (by omega)
            refine W.eq (g2 := F0 m 70 ls []) rfl ?_
            refine lv_aload_nO (pc := 70) hx hb dJ1_fixAfterInsertion_70 rfl (lv_at hl 0 rfl) ?_
            refine lv_iconst (pc := 71) (v := (1 : Int32)) hx hb dJ1_fixAfterInsertion_71 (by decide) ?_
            obtain ⟨w199, hq200, hm⟩ := ob_some hm
            refine rk_TS (pc := 72) (As := [va_rf oa160, .int (1 : Int32)]) (rest := []) (mc := 0) (ms := 0) hx hb hml hown hts hK hS193 (fun q hq => FA_sz rfl q hq) lkJ1_307 yn_J1_setColor (ct_J1_setColor (G := G) (l := l) (sz := H189.size) hq200) ⟨Nat.le_of_ble_eq_true rfl, Nat.le_of_ble_eq_true rfl⟩ (fun z h => (KM_hf2 hKM198 z h)) hW194 rfl rfl hl.1 (Nat.le_of_ble_eq_true rfl) dJ1_fixAfterInsertion_72 ⟨Nat.zero_le _, Nat.zero_le _⟩ (fun ov9 H201 locs202 hP203 hkp204 hS205 => ?_)
            obtain ⟨rfl, hW206, hz207, hKM208⟩ := hP203
            have hz209 := hz207.trans hz197
            have hKM210 := KM.trans hKM198 hKM208 (by omega)
            refine W.eq (g2 := F0 m 75 ls []) rfl ?_
            refine lv_aload_n (pc := 75) hx hb dJ1_fixAfterInsertion_75 rfl (lv_at hl 2 rfl) ?_
            obtain ⟨oa211, hq212, hm⟩ := ob_some hm
            refine rk_PS (pc := 76) (As := [.ref pa11]) (rest := []) hx hb hml hown hts hK lkJ1_294 yn_J1_parentOf (ct_J1_parentOf (G := G) (l := l) hq212) ⟨Nat.le_of_ble_eq_true rfl, Nat.le_of_ble_eq_true rfl⟩ hW206 rfl rfl hl.1 (Nat.le_of_ble_eq_true rfl) dJ1_fixAfterInsertion_76 ⟨Nat.zero_le _, Nat.zero_le _⟩ ?_
            refine W.eq (g2 := F0 m 79 ls [va_rf oa211]) rfl ?_
            obtain ⟨oa213, hq214, hm⟩ := ob_some hm
            refine rk_PS (pc := 79) (As := [va_rf oa211]) (rest := []) hx hb hml hown hts hK lkJ1_294 yn_J1_parentOf (ct_J1_parentOf (G := G) (l := l) hq214) ⟨Nat.le_of_ble_eq_true rfl, Nat.le_of_ble_eq_true rfl⟩ hW206 rfl rfl hl.1 (Nat.le_of_ble_eq_true rfl) dJ1_fixAfterInsertion_79 ⟨Nat.zero_le _, Nat.zero_le _⟩ ?_
            refine W.eq (g2 := F0 m 82 ls [va_rf oa213]) rfl ?_
            refine lv_iconst (pc := 82) (v := (0 : Int32)) hx hb dJ1_fixAfterInsertion_82 (by decide) ?_
            obtain ⟨w215, hq216, hm⟩ := ob_some hm
            refine rk_TS (pc := 83) (As := [va_rf oa213, .int (0 : Int32)]) (rest := []) (mc := 0) (ms := 0) hx hb hml hown hts hK hS205 (fun q hq => FA_sz rfl q hq) lkJ1_307 yn_J1_setColor (ct_J1_setColor (G := G) (l := l) (sz := H201.size) hq216) ⟨Nat.le_of_ble_eq_true rfl, Nat.le_of_ble_eq_true rfl⟩ (fun z h => (KM_hf2 hKM210 z h)) hW206 rfl rfl hl.1 (Nat.le_of_ble_eq_true rfl) dJ1_fixAfterInsertion_83 ⟨Nat.zero_le _, Nat.zero_le _⟩ (fun ov9 H217 locs218 hP219 hkp220 hS221 => ?_)
            obtain ⟨rfl, hW222, hz223, hKM224⟩ := hP219
            have hz225 := hz223.trans hz209
            have hKM226 := KM.trans hKM210 hKM224 (by omega)
            refine W.eq (g2 := F0 m 86 ls []) rfl ?_
            refine lv_aload_n (pc := 86) hx hb dJ1_fixAfterInsertion_86 rfl (lv_at hl 2 rfl) ?_
            obtain ⟨oa227, hq228, hm⟩ := ob_some hm
            refine rk_PS (pc := 87) (As := [.ref pa11]) (rest := []) hx hb hml hown hts hK lkJ1_294 yn_J1_parentOf (ct_J1_parentOf (G := G) (l := l) hq228) ⟨Nat.le_of_ble_eq_true rfl, Nat.le_of_ble_eq_true rfl⟩ hW222 rfl rfl hl.1 (Nat.le_of_ble_eq_true rfl) dJ1_fixAfterInsertion_87 ⟨Nat.zero_le _, Nat.zero_le _⟩ ?_
            refine W.eq (g2 := F0 m 90 ls [va_rf oa227]) rfl ?_
            obtain ⟨oa229, hq230, hm⟩ := ob_some hm
            refine rk_PS (pc := 90) (As := [va_rf oa227]) (rest := []) hx hb hml hown hts hK lkJ1_294 yn_J1_parentOf (ct_J1_parentOf (G := G) (l := l) hq230) ⟨Nat.le_of_ble_eq_true rfl, Nat.le_of_ble_eq_true rfl⟩ hW222 rfl rfl hl.1 (Nat.le_of_ble_eq_true rfl) dJ1_fixAfterInsertion_90 ⟨Nat.zero_le _, Nat.zero_le _⟩ ?_
            refine W.eq (g2 := F0 m 93 ls [va_rf oa229]) rfl ?_
            refine lv_astore_nO (pc := 93) (lv' := [(1, va_rf oa229), (2, va_rf oa160), (0, .ref p0)]) hx hb dJ1_fixAfterInsertion_93 rfl hl (by decide) rfl (fun ls hl => ?_)
            refine lv_goto (pc := 94) (tgt := 148) hx hb dJ1_fixAfterInsertion_94 (by decide) ?_
            refine lv_goto (pc := 148) (tgt := 5) hx hb dJ1_fixAfterInsertion_148 (by decide) ?_
            exact hk5 w215 p0 oa229 hm H217 locs218 ls hW222 hS221 hz225 hKM226 (lv_sub hl [2, 0] rfl)
theorem w_fJ1_fixAfterInsertion_5_l (C : Cx G p s m args meth c RJ1 cJ1_fixAfterInsertion 3 none) {PL : Nat → Bool} {vP0 : Mem} {rw0 : Mem} : ∀ (n : Nat) (v0 : Mem) (p0 : Nat) (o1 : Option Nat), lq3 (fJ1_fixAfterInsertion_5 PL) n v0 p0 o1 = some rw0 → ∀ (H : Heap) (locs : List Loc) (ls : Array Slot), pl G PL v0 H → va_S (FA (fP PL vP0) s.heap.size) s.heap H locs → H.size = s.heap.size → KM vP0 v0 s.heap.size → lv_has ls 3 [(0, .ref p0), (1, va_rf o1)] → W p l e (rmT 1 0 0 22) s m args below meth c H locs 0 0 (MQ below (QcT (FA (fP PL vP0) s.heap.size) (fun ov H => ov = none ∧ pl G PL rw0 H ∧ H.size = s.heap.size ∧ KM vP0 rw0 s.heap.size)) args s 0 0 (FA (fP PL vP0) s.heap.size)) (F0 m 5 ls []) := by
  intro n
  induction n with
  | zero => intro v0 p0 o1 hm; exact (lq3_0 hm).elim
  | succ n ih => intro v0 p0 o1 hm; exact w_fJ1_fixAfterInsertion_5 C ih v0 p0 o1 (lq3_s hm)
set_option maxHeartbeats 4000000 in
theorem w_fJ1_fixAfterInsertion (C : Cx G p s m args meth c RJ1 cJ1_fixAfterInsertion 3 none) {PL : Nat → Bool} {vP0 : Mem} {rw0 : Mem} : ∀ (v0 : Mem) (p0 : Nat) (p1 : Nat), fJ1_fixAfterInsertion PL v0 p0 p1 = some rw0 → ∀ (H : Heap) (locs : List Loc) (ls : Array Slot), pl G PL v0 H → va_S (FA (fP PL vP0) s.heap.size) s.heap H locs → H.size = s.heap.size → KM vP0 v0 s.heap.size → lv_has ls 3 [(0, .ref p0), (1, .ref p1)] → W p l e (rmT 1 0 0 22) s m args below meth c H locs 0 0 (MQ below (QcT (FA (fP PL vP0) s.heap.size) (fun ov H => ov = none ∧ pl G PL rw0 H ∧ H.size = s.heap.size ∧ KM vP0 rw0 s.heap.size)) args s 0 0 (FA (fP PL vP0) s.heap.size)) (F0 m 0 ls []) := by
  intro v0 p0 p1 hm H locs ls hW0 hS hz hKM hl
  obtain ⟨hx, hb, hr, hlk, hml, hown, hts, hK⟩ := id C
  unfold fJ1_fixAfterInsertion at hm
  refine lv_aload_n (pc := 0) hx hb dJ1_fixAfterInsertion_0 rfl (lv_at hl 1 rfl) ?_
  refine lv_iconst (pc := 1) (v := (0 : Int32)) hx hb dJ1_fixAfterInsertion_1 (by decide) ?_
  obtain ⟨hg1, hm⟩ := gb_some hm
  refine rp_put (pc := 2) (q := p1) hx hb hts hown hK hW0 hS flJ1_290 ft_J11 (kd_A hKM hg1 (by decide)) (shP_18 (kd_PL hg1) (kd_k hg1)) rfl (x := .int (0 : Int32)) rfl rfl (Nat.le_of_ble_eq_true rfl) (sI v0 p1 5 (0 : Int32)) sI_ne (by rw [sI_eq]; exact shP_18 (kd_PL hg1) (kd_k hg1)) dJ1_fixAfterInsertion_2 (fun H3 locs4 hW5 hS6 hz7 hkp8 => ?_)
  have hKM9 := KM.sI (o := p1) (j := 5) (x := (0 : Int32)) hKM (by decide)
  obtain ⟨v0_2, he9, hm⟩ := lm_some hm
  rw [he9] at hW5 hKM9
  have hz10 := hz7.trans hz
  exact (w_fJ1_fixAfterInsertion_5_l C FU) v0_2 p0 (some p1) hm H3 locs4 ls hW5 hS6 hz10 hKM9 (lv_sub hl [0, 1] rfl)
set_option maxHeartbeats 4000000 in
theorem ct_J1_fixAfterInsertion {G : Gv} {l : Launch} {PL : Nat → Bool} {v0 : Mem} {p0 : Nat} {p1 : Nat} {rw0 : Mem} {sz : Nat} (hm : fJ1_fixAfterInsertion PL v0 p0 p1 = some rw0) : CT G l yJ1_fixAfterInsertion (ws_ yJ1_fixAfterInsertion cJ1_fixAfterInsertion 3 none) 1 0 0 22 [.ref p0, .ref p1] (fP PL v0) sz (fun H => pl G PL v0 H) (fun ov H => ov = none ∧ pl G PL rw0 H ∧ H.size = sz ∧ KM v0 rw0 sz) := by
  refine Met.ofW (cc := cJ1_fixAfterInsertion) (maxL := 3) (ret := none) (by decide +kernel) rfl ?_
  intro p e s m args below meth c s₁ B hml hv
  obtain ⟨rfl, ⟨hz, hW0⟩, hK⟩ := hv
  subst hz
  have hts := atoms_spec (ws := ws_ yJ1_fixAfterInsertion cJ1_fixAfterInsertion 3 none) B.pre
  have hts : ∀ w ∈ lw_all, w.before _ s = true := fun w h => hts w (List.mem_cons_of_mem _ h)
  have C : Cx G p s m _ meth c RJ1 cJ1_fixAfterInsertion 3 none := ⟨B.exec, B.bytes, B.returns, B.notSynchronized, hml, findClass_of_methodNamed B.named, hts, hK⟩
  have hl := lv_entry ([.ref p0, .ref p1]) (n := 3) (Nat.le_of_ble_eq_true rfl)
  rw [lg_entry_eq]
  generalize (lg_sl ([.ref p0, .ref p1]) ++ List.replicate (3 - (lg_sl ([.ref p0, .ref p1])).length) Slot.unset).toArray = ls at hl ⊢
  have hl : lv_has ls 3 [(0, .ref p0), (1, .ref p1)] := hl
  exact w_fJ1_fixAfterInsertion C _ _ _ hm s.heap [] ls hW0 va_S.rf rfl KM.rf hl
theorem yn_J1_fixAfterInsertion : YN yJ1_fixAfterInsertion 1 := by
  unfold YN
  decide +kernel
theorem lkJ1_170 : LV RJ1 170 RJ1 yJ1_fixAfterInsertion cJ1_fixAfterInsertion 3 none := ⟨q1431, q1433, qs51, q120, q1434⟩
theorem flJ1_7 : FL RJ1 7 16 4 RJ1 TJ1 9 := ⟨in_J1, rfl, by decide, q335⟩
theorem flJ1_13 : FL RJ1 13 16 5 RJ1 TJ1 9 := ⟨in_J1, rfl, by decide, q336⟩
noncomputable def fJ1_addEntry_32 (PL : Nat → Bool) (Z : Nat) (v0 : Mem) (zc : Nat) (p0 : Nat) (p5 : Nat) : Option (Nat × Mem) :=
  gb (kd PL v0 p0 16) (
  ob (fJ1_fixAfterInsertion PL v0 p0 p5) fun w47 =>
  gb (kd PL w47 p0 16) (
  gb (kd PL w47 p0 16) (
  lm (sI w47 p0 4 ((gI w47 p0 4) + (1 : Int32))) fun v0_61 =>
  gb (kd PL v0_61 p0 16) (
  gb (kd PL v0_61 p0 16) (
  lm (sI v0_61 p0 5 ((gI v0_61 p0 5) + (1 : Int32))) fun v0_72 =>
  some (zc, v0_72))))))
noncomputable def fJ1_addEntry (PL : Nat → Bool) (Z : Nat) (v0 : Mem) (p0 : Nat) (p1 : Nat) (p2 : Nat) (p3 : Nat) (i4 : Int32) : Option (Nat × Mem) :=
  ln (Z + 0) fun h1 =>
  gb (PL h1) (
  lm (nwP v0 h1 18 0) fun v0_5 =>
  ob (fJ11_init PL v0_5 h1 p1 p2 (some p3)) fun w13 =>
  if i4 = 0 then (
  gb (kd PL w13 p3 18) (
  lm (sR w13 p3 3 (some h1)) fun v0_27 =>
  fJ1_addEntry_32 PL Z v0_27 1 p0 h1))
  else (
  gb (kd PL w13 p3 18) (
  lm (sR w13 p3 2 (some h1)) fun v0_37 =>
  fJ1_addEntry_32 PL Z v0_37 1 p0 h1)))
set_option maxHeartbeats 4000000 in
theorem w_fJ1_addEntry_32 (C : Cx G p s m args meth c RJ1 cJ1_addEntry 6 none) {PL : Nat → Bool} {Z : Nat} {vP0 : Mem} {rc : Nat} {rw0 : Mem} (hZz : s.heap.size = Z) : ∀ (v0 : Mem) (zc : Nat) (p0 : Nat) (p5 : Nat), fJ1_addEntry_32 PL Z v0 zc p0 p5 = some (rc, rw0) → ∀ (H : Heap) (locs : List Loc) (ls : Array Slot), pl G PL v0 H → va_S (FA (fP PL vP0) s.heap.size) s.heap H locs → H.size = s.heap.size + zc → KM vP0 v0 s.heap.size → lv_has ls 6 [(0, .ref p0), (5, .ref p5)] → W p l e (rmT 2 1 6 55) s m args below meth c H locs 1 6 (MQ below (QcT (FA (fP PL vP0) s.heap.size) (fun ov H => ov = none ∧ pl G PL rw0 H ∧ H.size = s.heap.size + rc ∧ KM vP0 rw0 s.heap.size)) args s 1 6 (FA (fP PL vP0) s.heap.size)) (F0 m 32 ls []) := by
  intro v0 zc p0 p5 hm H locs ls hW0 hS hz hKM hl
  obtain ⟨hx, hb, hr, hlk, hml, hown, hts, hK⟩ := id C
  unfold fJ1_addEntry_32 at hm
  refine lv_aload_n (pc := 32) hx hb dJ1_addEntry_32 rfl (lv_at hl 0 rfl) ?_
  refine lv_aload (pc := 33) hx hb dJ1_addEntry_33 (lv_at hl 1 rfl) ?_
  obtain ⟨hg46, hm⟩ := gb_some hm
  obtain ⟨w47, hq48, hm⟩ := ob_some hm
  refine rk_TV (pc := 35) (As := [.ref p5]) (rest := []) (mc := 0) (ms := 0) hx hb hml hown hts hK hS (fun q hq => FA_sz rfl q hq) lkJ1_170 rfl yn_J1_fixAfterInsertion (ct_J1_fixAfterInsertion (G := G) (l := l) (sz := H.size) hq48) ⟨Nat.le_of_ble_eq_true rfl, Nat.le_of_ble_eq_true rfl⟩ (fun z h => (KM_hf2 hKM z h)) (rp_recv hK hW0 (C := RJ1) (T := TJ1) (N := 9) rfl (shP_16 (kd_PL hg46) (kd_k hg46))) hW0 rfl rfl hl.1 (Nat.le_of_ble_eq_true rfl) dJ1_addEntry_35 ⟨Nat.le_of_ble_eq_true rfl, Nat.le_of_ble_eq_true rfl⟩ (fun ov9 H49 locs50 hP51 hkp52 hS53 => ?_)
  obtain ⟨rfl, hW54, hz55, hKM56⟩ := hP51
  have hz57 := hz55.trans hz
  have hKM58 := KM.trans hKM hKM56 (by omega)
  refine W.eq (g2 := F0 m 38 ls []) rfl ?_
  refine lv_aload_n (pc := 38) hx hb dJ1_addEntry_38 rfl (lv_at hl 0 rfl) ?_
  refine lv_dup (pc := 39) hx hb dJ1_addEntry_39 rfl ?_
  obtain ⟨hg59, hm⟩ := gb_some hm
  refine rk_get (pc := 40) hx hb hts hown hK (pl_rg hW54) flJ1_7 p0 (Nat.lt_succ_self _) (Nat.zero_add _).symm (shP_16 (kd_PL hg59) (kd_k hg59)) (x := .int (gI w47 p0 4)) rfl dJ1_addEntry_40 ?_
  refine lv_iconst (pc := 43) (v := (1 : Int32)) hx hb dJ1_addEntry_43 (by decide) ?_
  refine lv_iadd (pc := 44) hx hb dJ1_addEntry_44 ?_
  obtain ⟨hg60, hm⟩ := gb_some hm
  refine rp_put (pc := 45) (q := p0) hx hb hts hown hK hW54 hS53 flJ1_7 ft_J1 (kd_A hKM58 hg60 (by decide)) (shP_16 (kd_PL hg60) (kd_k hg60)) rfl (x := .int ((gI w47 p0 4) + (1 : Int32))) rfl rfl (Nat.le_of_ble_eq_true rfl) (sI w47 p0 4 ((gI w47 p0 4) + (1 : Int32))) sI_ne (by rw [sI_eq]; exact shP_16 (kd_PL hg60) (kd_k hg60)) dJ1_addEntry_45 (fun H62 locs63 hW64 hS65 hz66 hkp67 => ?_)
  have hKM68 := KM.sI (o := p0) (j := 4) (x := ((gI w47 p0 4) + (1 : Int32))) hKM58 (by decide)
  obtain ⟨v0_61, he9, hm⟩ := lm_some hm
  rw [he9] at hW64 hKM68
  have hz69 := hz66.trans hz57
  refine lv_aload_n (pc := 48) hx hb dJ1_addEntry_48 rfl (lv_at hl 0 rfl) ?_
  refine lv_dup (pc := 49) hx hb dJ1_addEntry_49 rfl ?_
  obtain ⟨hg70, hm⟩ := gb_some hm
  refine rk_get (pc := 50) hx hb hts hown hK (pl_rg hW64) flJ1_13 p0 (Nat.lt_succ_self _) (Nat.zero_add _).symm (shP_16 (kd_PL hg70) (kd_k hg70)) (x := .int (gI v0_61 p0 5)) rfl dJ1_addEntry_50 ?_
  refine lv_iconst (pc := 53) (v := (1 : Int32)) hx hb dJ1_addEntry_53 (by decide) ?_
  refine lv_iadd (pc := 54) hx hb dJ1_addEntry_54 ?_
  obtain ⟨hg71, hm⟩ := gb_some hm
  refine rp_put (pc := 55) (q := p0) hx hb hts hown hK hW64 hS65 flJ1_13 ft_J1 (kd_A hKM68 hg71 (by decide)) (shP_16 (kd_PL hg71) (kd_k hg71)) rfl (x := .int ((gI v0_61 p0 5) + (1 : Int32))) rfl rfl (Nat.le_of_ble_eq_true rfl) (sI v0_61 p0 5 ((gI v0_61 p0 5) + (1 : Int32))) sI_ne (by rw [sI_eq]; exact shP_16 (kd_PL hg71) (kd_k hg71)) dJ1_addEntry_55 (fun H73 locs74 hW75 hS76 hz77 hkp78 => ?_)
  have hKM79 := KM.sI (o := p0) (j := 5) (x := ((gI v0_61 p0 5) + (1 : Int32))) hKM68 (by decide)
  obtain ⟨v0_72, he9, hm⟩ := lm_some hm
  rw [he9] at hW75 hKM79
  have hz80 := hz77.trans hz69
  obtain ⟨e8, e9⟩ := rs2 hm
  subst e8
  subst e9
  exact rk_vretA (pc := 58) hx hb hr hlk hS76 ⟨rfl, hW75, hz80, hKM79⟩ dJ1_addEntry_58 (by exact Nat.le_of_ble_eq_true rfl) (by exact Nat.le_of_ble_eq_true rfl)
set_option maxHeartbeats 4000000 in
theorem w_fJ1_addEntry (C : Cx G p s m args meth c RJ1 cJ1_addEntry 6 none) {PL : Nat → Bool} {Z : Nat} {vP0 : Mem} {rc : Nat} {rw0 : Mem} (hZz : s.heap.size = Z) : ∀ (v0 : Mem) (p0 : Nat) (p1 : Nat) (p2 : Nat) (p3 : Nat) (i4 : Int32), fJ1_addEntry PL Z v0 p0 p1 p2 p3 i4 = some (rc, rw0) → ∀ (H : Heap) (locs : List Loc) (ls : Array Slot), pl G PL v0 H → va_S (FA (fP PL vP0) s.heap.size) s.heap H locs → H.size = s.heap.size + 0 → KM vP0 v0 s.heap.size → lv_has ls 6 [(0, .ref p0), (1, .ref p1), (2, .ref p2), (3, .ref p3), (4, .int i4)] → W p l e (rmT 2 1 6 55) s m args below meth c H locs 0 0 (MQ below (QcT (FA (fP PL vP0) s.heap.size) (fun ov H => ov = none ∧ pl G PL rw0 H ∧ H.size = s.heap.size + rc ∧ KM vP0 rw0 s.heap.size)) args s 1 6 (FA (fP PL vP0) s.heap.size)) (F0 m 0 ls []) := by
  intro v0 p0 p1 p2 p3 i4 hm H locs ls hW0 hS hz hKM hl
  obtain ⟨hx, hb, hr, hlk, hml, hown, hts, hK⟩ := id C
  unfold fJ1_addEntry at hm
  obtain ⟨h1, hh2, hm⟩ := ln_some hm
  obtain ⟨hg3, hm⟩ := gb_some hm
  have hs4 : H.size = h1 := by omega
  refine rp_new (pc := 0) (h := h1) (kn := 18) (n := 0) hx hb hts hown hK hW0 hS in_J11 ft_J11 rfl q1397 q1398 q142 hs4 (shP_18 hg3 rfl) (df_J11 _ rfl) (Nat.le_of_ble_eq_true rfl) (Nat.le_of_ble_eq_true rfl) dJ1_addEntry_0 (fun H6 hW7 hS8 hz9 hkp10 => ?_)
  have hKM11 := KM.nw (h := h1) (k := 18) (n := 0) hKM (by omega)
  obtain ⟨v0_5, he9, hm⟩ := lm_some hm
  rw [he9] at hW7 hKM11
  have hz12 : H6.size = s.heap.size + 1 := by omega
  refine lv_dup (pc := 3) hx hb dJ1_addEntry_3 rfl ?_
  refine lv_aload_n (pc := 4) hx hb dJ1_addEntry_4 rfl (lv_at hl 1 rfl) ?_
  refine lv_aload_n (pc := 5) hx hb dJ1_addEntry_5 rfl (lv_at hl 2 rfl) ?_
  refine lv_aload_n (pc := 6) hx hb dJ1_addEntry_6 rfl (lv_at hl 3 rfl) ?_
  obtain ⟨w13, hq14, hm⟩ := ob_some hm
  refine rk_TI (pc := 7) (As := [.ref p1, .ref p2, .ref p3]) (rest := [.ref h1]) (mc := 0) (ms := 0) hx hb hml hown hts hK hS8 (fun q hq => FA_sz rfl q hq) lkJ1_167 yn_J11_init (ct_J11_init (G := G) (l := l) (sz := H6.size) hq14) ⟨Nat.le_of_ble_eq_true rfl, Nat.le_of_ble_eq_true rfl⟩ (fun z h => (KM_hf2 hKM11 z h)) hW7 rfl rfl hl.1 (Nat.le_of_ble_eq_true rfl) dJ1_addEntry_7 ⟨Nat.le_of_ble_eq_true rfl, Nat.le_of_ble_eq_true rfl⟩ (fun ov9 H15 locs16 hP17 hkp18 hS19 => ?_)
  obtain ⟨rfl, hW20, hz21, hKM22⟩ := hP17
  have hz23 := hz21.trans hz12
  have hKM24 := KM.trans hKM11 hKM22 (by omega)
  refine W.eq (g2 := F0 m 10 ls [.ref h1]) rfl ?_
  refine lv_astore (pc := 10) (lv' := [(5, .ref h1), (0, .ref p0), (1, .ref p1), (2, .ref p2), (3, .ref p3), (4, .int i4)]) hx hb dJ1_addEntry_10 hl (by decide) rfl (fun ls hl => ?_)
  refine lv_iload (pc := 12) hx hb dJ1_addEntry_12 (lv_at hl 5 rfl) ?_
  refine lv_if_eq (pc := 14) (tgt := 26) hx hb dJ1_addEntry_14 (by decide) (fun c25 => ?_) (fun c25 => ?_)
  · have hm := ite_t c25 hm
    refine lv_aload_n (pc := 26) hx hb dJ1_addEntry_26 rfl (lv_at hl 4 rfl) ?_
    refine lv_aload (pc := 27) hx hb dJ1_addEntry_27 (lv_at hl 0 rfl) ?_
    obtain ⟨hg26, hm⟩ := gb_some hm
    refine rp_put (pc := 29) (q := p3) hx hb hts hown hK hW20 hS19 flJ1_114 ft_J11 (kd_A hKM24 hg26 (by decide)) (shP_18 (kd_PL hg26) (kd_k hg26)) rfl (x := va_rf (some h1)) (rf_nar _ rfl (some h1)) (rf_fit _ rfl (some h1)) (Nat.le_of_ble_eq_true rfl) (sR w13 p3 3 (some h1)) sR_ne (by rw [sR_eq]; exact shP_18 (kd_PL hg26) (kd_k hg26)) dJ1_addEntry_29 (fun H28 locs29 hW30 hS31 hz32 hkp33 => ?_)
    have hKM34 := KM.sR (o := p3) (j := 3) (x := (some h1)) hKM24
    obtain ⟨v0_27, he9, hm⟩ := lm_some hm
    rw [he9] at hW30 hKM34
    have hz35 := hz32.trans hz23
    exact (w_fJ1_addEntry_32 C hZz) v0_27 1 p0 h1 hm H28 locs29 ls hW30 hS31 hz35 hKM34 (lv_sub hl [1, 0] rfl)
  · have hm := ite_f c25 hm
    refine lv_aload_n (pc := 17) hx hb dJ1_addEntry_17 rfl (lv_at hl 4 rfl) ?_
    refine lv_aload (pc := 18) hx hb dJ1_addEntry_18 (lv_at hl 0 rfl) ?_
    obtain ⟨hg36, hm⟩ := gb_some hm
    refine rp_put (pc := 20) (q := p3) hx hb hts hown hK hW20 hS19 flJ1_111 ft_J11 (kd_A hKM24 hg36 (by decide)) (shP_18 (kd_PL hg36) (kd_k hg36)) rfl (x := va_rf (some h1)) (rf_nar _ rfl (some h1)) (rf_fit _ rfl (some h1)) (Nat.le_of_ble_eq_true rfl) (sR w13 p3 2 (some h1)) sR_ne (by rw [sR_eq]; exact shP_18 (kd_PL hg36) (kd_k hg36)) dJ1_addEntry_20 (fun H38 locs39 hW40 hS41 hz42 hkp43 => ?_)
    have hKM44 := KM.sR (o := p3) (j := 2) (x := (some h1)) hKM24
    obtain ⟨v0_37, he9, hm⟩ := lm_some hm
    rw [he9] at hW40 hKM44
    have hz45 := hz42.trans hz23
    refine lv_goto (pc := 23) (tgt := 32) hx hb dJ1_addEntry_23 (by decide) ?_
    exact (w_fJ1_addEntry_32 C hZz) v0_37 1 p0 h1 hm H38 locs39 ls hW40 hS41 hz45 hKM44 (lv_sub hl [1, 0] rfl)
set_option maxHeartbeats 4000000 in
theorem ct_J1_addEntry {G : Gv} {l : Launch} {PL : Nat → Bool} {Z : Nat} {v0 : Mem} {p0 : Nat} {p1 : Nat} {p2 : Nat} {p3 : Nat} {i4 : Int32} {rc : Nat} {rw0 : Mem} (hm : fJ1_addEntry PL Z v0 p0 p1 p2 p3 i4 = some (rc, rw0)) : CT G l yJ1_addEntry (ws_ yJ1_addEntry cJ1_addEntry 6 none) 2 1 6 55 [.ref p0, .ref p1, .ref p2, .ref p3, .int i4] (fP PL v0) Z (fun H => pl G PL v0 H) (fun ov H => ov = none ∧ pl G PL rw0 H ∧ H.size = Z + rc ∧ KM v0 rw0 Z) := by
  refine Met.ofW (cc := cJ1_addEntry) (maxL := 6) (ret := none) (by decide +kernel) rfl ?_
  intro p e s m args below meth c s₁ B hml hv
  obtain ⟨rfl, ⟨hz, hW0⟩, hK⟩ := hv
  subst hz
  have hZz : s.heap.size = s.heap.size := rfl
  have hts := atoms_spec (ws := ws_ yJ1_addEntry cJ1_addEntry 6 none) B.pre
  have hts : ∀ w ∈ lw_all, w.before _ s = true := fun w h => hts w (List.mem_cons_of_mem _ h)
  have C : Cx G p s m _ meth c RJ1 cJ1_addEntry 6 none := ⟨B.exec, B.bytes, B.returns, B.notSynchronized, hml, findClass_of_methodNamed B.named, hts, hK⟩
  have hl := lv_entry ([.ref p0, .ref p1, .ref p2, .ref p3, .int i4]) (n := 6) (Nat.le_of_ble_eq_true rfl)
  rw [lg_entry_eq]
  generalize (lg_sl ([.ref p0, .ref p1, .ref p2, .ref p3, .int i4]) ++ List.replicate (6 - (lg_sl ([.ref p0, .ref p1, .ref p2, .ref p3, .int i4])).length) Slot.unset).toArray = ls at hl ⊢
  have hl : lv_has ls 6 [(0, .ref p0), (1, .ref p1), (2, .ref p2), (3, .ref p3), (4, .int i4)] := hl
  exact w_fJ1_addEntry C hZz _ _ _ _ _ _ hm s.heap [] ls hW0 va_S.rf rfl KM.rf hl
theorem flJ1_16 : FL RJ1 16 16 2 RJ1 TJ1 9 := ⟨in_J1, rfl, by decide, q333⟩
theorem yn_X14_compareTo : YN yX14_compareTo 1 := by
  unfold YN
  decide +kernel
theorem lfJ1_107_X14 : LF RJ1 107 RX14 ⟨"java/lang/Comparable", "compareTo", "(Ljava/lang/Object;)I"⟩ yX14_compareTo cX14_compareTo 2 (some .int) := ⟨q1369, q1105, q1107, q139, q1109⟩
theorem ynx_J1_107 : YN ⟨"java/lang/Comparable", "compareTo", "(Ljava/lang/Object;)I"⟩ 1 := by
  unfold YN
  decide +kernel
noncomputable def fJ1_compare (PL : Nat → Bool) (V0 : Mem) (p0 : Nat) (p1 : Nat) (p2 : Nat) : Option (Int32) :=
  gb (kd PL V0 p0 16) (
  lo (gR V0 p0 2) fun oa2 =>
  od oa2 (
  gb (kd PL V0 p1 14) (
  gb (kd PL V0 p1 14) (
  ob (fX14_compareTo PL V0 p1 p2) fun r7 =>
  some r7))) (fun pa4 =>
  gb (kd PL V0 p0 16) (
  lo (gR V0 p0 2) fun oa10 =>
  none)))
set_option maxHeartbeats 4000000 in
theorem w_fJ1_compare (C : Cx G p s m args meth c RJ1 cJ1_compare 3 (some .int)) {PL : Nat → Bool} {V0 : Mem} {rx : Int32} (hW0 : pl G PL V0 s.heap) (hZP : ZP G) : ∀ (p0 : Nat) (p1 : Nat) (p2 : Nat), fJ1_compare PL V0 p0 p1 p2 = some rx → ∀ (ls : Array Slot), lv_has ls 3 [(0, .ref p0), (1, .ref p1), (2, .ref p2)] → W p l e (rmP 2 44) s m args below meth c s.heap [] 0 0 (MQ below (QcP (some (.int rx))) args s 0 0 (fun _ => False)) (F0 m 0 ls []) := by
  intro p0 p1 p2 hm ls hl
  obtain ⟨hx, hb, hr, hlk, hml, hown, hts, hK⟩ := id C
  unfold fJ1_compare at hm
  refine lv_aload_n (pc := 0) hx hb dJ1_compare_0 rfl (lv_at hl 0 rfl) ?_
  obtain ⟨hg1, hm⟩ := gb_some hm
  obtain ⟨oa2, he3, hm⟩ := lo_some hm
  refine rk_get (pc := 1) hx hb hts hown hK (pl_rg hW0) flJ1_16 p0 (Nat.lt_succ_self _) (Nat.zero_add _).symm (shP_16 (kd_PL hg1) (kd_k hg1)) (x := va_rf oa2) (congrArg (fun z => some (va_rf z)) he3) dJ1_compare_1 ?_
  rcases oa2 with _ | pa4
  · have hm := od_n hm
    refine lv_ifnonnullN (pc := 4) hx hb dJ1_compare_4 ?_
    refine lv_aload_n (pc := 7) hx hb dJ1_compare_7 rfl (lv_at hl 1 rfl) ?_
    obtain ⟨hg5, hm⟩ := gb_some hm
    refine rp_castY (pc := 8) (nm := "java/lang/Comparable") hx hb hown hts hK q1367 q1104 (rp_recv hK hW0 (C := RX14) (T := TX14) (N := 2) rfl (shP_14 (kd_PL hg5) (kd_k hg5))) dJ1_compare_8 ?_
    refine lv_aload_n (pc := 11) hx hb dJ1_compare_11 rfl (lv_at hl 2 rfl) ?_
    obtain ⟨hg6, hm⟩ := gb_some hm
    obtain ⟨r7, hq8, hm⟩ := ob_some hm
    refine rp_PF (pc := 12) (As := [.ref p2]) (rest := []) hx hb hml hown hts hK lfJ1_107_X14 ((hZP s hK).1.1) (T := TX14) (N := 2) (ci := 14) rfl ynx_J1_107 (ct_X14_compareTo (G := G) (l := l) hq8) ⟨Nat.le_of_ble_eq_true rfl, Nat.le_of_ble_eq_true rfl⟩ (rp_recv hK hW0 (C := RX14) (T := TX14) (N := 2) rfl (shP_14 (kd_PL hg6) (kd_k hg6))) hW0 rfl rfl hl.1 (Nat.le_of_ble_eq_true rfl) dJ1_compare_12 ⟨Nat.zero_le _, Nat.zero_le _⟩ ?_
    refine W.eq (g2 := F0 m 17 ls [.int r7]) rfl ?_
    refine lv_goto (pc := 17) (tgt := 31) hx hb dJ1_compare_17 (by decide) ?_
    have e9 := rs1 hm
    subst e9
    exact rk_iretP (pc := 31) hx hb hr hlk rfl dJ1_compare_31
  · have hm := od_s hm
    refine lv_ifnonnull (pc := 4) (tgt := 20) hx hb dJ1_compare_4 (by decide) ?_
    refine lv_aload_n (pc := 20) hx hb dJ1_compare_20 rfl (lv_at hl 0 rfl) ?_
    obtain ⟨hg9, hm⟩ := gb_some hm
    obtain ⟨oa10, he11, hm⟩ := lo_some hm
    refine rk_get (pc := 21) hx hb hts hown hK (pl_rg hW0) flJ1_16 p0 (Nat.lt_succ_self _) (Nat.zero_add _).symm (shP_16 (kd_PL hg9) (kd_k hg9)) (x := va_rf oa10) (congrArg (fun z => some (va_rf z)) he11) dJ1_compare_21 ?_
    refine lv_aload_n (pc := 24) hx hb dJ1_compare_24 rfl (lv_at hl 1 rfl) ?_
    refine lv_aload_n (pc := 25) hx hb dJ1_compare_25 rfl (lv_at hl 2 rfl) ?_
    exact nomatch hm
set_option maxHeartbeats 4000000 in
theorem ct_J1_compare {G : Gv} {l : Launch} {PL : Nat → Bool} {V0 : Mem} {p0 : Nat} {p1 : Nat} {p2 : Nat} {rx : Int32} (hm : fJ1_compare PL V0 p0 p1 p2 = some rx) (hZP : ZP G) : CP G l yJ1_compare (ws_ yJ1_compare cJ1_compare 3 (some .int)) 2 44 [.ref p0, .ref p1, .ref p2] (fun H => pl G PL V0 H) (some (.int rx)) := by
  refine Met.ofW (cc := cJ1_compare) (maxL := 3) (ret := (some .int)) (by decide +kernel) rfl ?_
  intro p e s m args below meth c s₁ B hml hv
  obtain ⟨rfl, hW0, hK⟩ := hv
  have hts := atoms_spec (ws := ws_ yJ1_compare cJ1_compare 3 (some .int)) B.pre
  have hts : ∀ w ∈ lw_all, w.before _ s = true := fun w h => hts w (List.mem_cons_of_mem _ h)
  have C : Cx G p s m _ meth c RJ1 cJ1_compare 3 (some .int) := ⟨B.exec, B.bytes, B.returns, B.notSynchronized, hml, findClass_of_methodNamed B.named, hts, hK⟩
  have hl := lv_entry ([.ref p0, .ref p1, .ref p2]) (n := 3) (Nat.le_of_ble_eq_true rfl)
  rw [lg_entry_eq]
  generalize (lg_sl ([.ref p0, .ref p1, .ref p2]) ++ List.replicate (3 - (lg_sl ([.ref p0, .ref p1, .ref p2])).length) Slot.unset).toArray = ls at hl ⊢
  have hl : lv_has ls 3 [(0, .ref p0), (1, .ref p1), (2, .ref p2)] := hl
  exact w_fJ1_compare C hW0 hZP _ _ _ hm ls hl
theorem yn_J1_compare : YN yJ1_compare 2 := by
  unfold YN
  decide +kernel
theorem lkJ1_123 : LV RJ1 123 RJ1 yJ1_compare cJ1_compare 3 (some .int) := ⟨q1393, q1394, q1395, q120, q1396⟩
noncomputable def fJ1_addEntryToEmptyMap (PL : Nat → Bool) (Z : Nat) (v0 : Mem) (p0 : Nat) (p1 : Nat) (p2 : Nat) : Option (Nat × Mem) :=
  gb (kd PL v0 p0 16) (
  ob (fJ1_compare PL v0 p0 p1 p1) fun r2 =>
  ln (Z + 0) fun h4 =>
  gb (PL h4) (
  lm (nwP v0 h4 18 0) fun v0_8 =>
  ob (fJ11_init PL v0_8 h4 p1 p2 none) fun w16 =>
  gb (kd PL w16 p0 16) (
  lm (sR w16 p0 3 (some h4)) fun v0_29 =>
  gb (kd PL v0_29 p0 16) (
  lm (sI v0_29 p0 4 (1 : Int32)) fun v0_39 =>
  gb (kd PL v0_39 p0 16) (
  gb (kd PL v0_39 p0 16) (
  lm (sI v0_39 p0 5 ((gI v0_39 p0 5) + (1 : Int32))) fun v0_50 =>
  some (1, v0_50)))))))
set_option maxHeartbeats 4000000 in
theorem w_fJ1_addEntryToEmptyMap (C : Cx G p s m args meth c RJ1 cJ1_addEntryToEmptyMap 3 none) {PL : Nat → Bool} {Z : Nat} {vP0 : Mem} {rc : Nat} {rw0 : Mem} (hZz : s.heap.size = Z) (hZP : ZP G) : ∀ (v0 : Mem) (p0 : Nat) (p1 : Nat) (p2 : Nat), fJ1_addEntryToEmptyMap PL Z v0 p0 p1 p2 = some (rc, rw0) → ∀ (H : Heap) (locs : List Loc) (ls : Array Slot), pl G PL v0 H → va_S (FA (fP PL vP0) s.heap.size) s.heap H locs → H.size = s.heap.size + 0 → KM vP0 v0 s.heap.size → lv_has ls 3 [(0, .ref p0), (1, .ref p1), (2, .ref p2)] → W p l e (rmT 3 1 6 66) s m args below meth c H locs 0 0 (MQ below (QcT (FA (fP PL vP0) s.heap.size) (fun ov H => ov = none ∧ pl G PL rw0 H ∧ H.size = s.heap.size + rc ∧ KM vP0 rw0 s.heap.size)) args s 1 6 (FA (fP PL vP0) s.heap.size)) (F0 m 0 ls []) := by
  intro v0 p0 p1 p2 hm H locs ls hW0 hS hz hKM hl
  obtain ⟨hx, hb, hr, hlk, hml, hown, hts, hK⟩ := id C
  unfold fJ1_addEntryToEmptyMap at hm
  refine lv_aload_n (pc := 0) hx hb dJ1_addEntryToEmptyMap_0 rfl (lv_at hl 0 rfl) ?_
  refine lv_aload_n (pc := 1) hx hb dJ1_addEntryToEmptyMap_1 rfl (lv_at hl 1 rfl) ?_
  refine lv_aload_n (pc := 2) hx hb dJ1_addEntryToEmptyMap_2 rfl (lv_at hl 1 rfl) ?_
  obtain ⟨hg1, hm⟩ := gb_some hm
  obtain ⟨r2, hq3, hm⟩ := ob_some hm
  refine rk_PV (pc := 3) (As := [.ref p1, .ref p1]) (rest := []) hx hb hml hown hts hK lkJ1_123 rfl yn_J1_compare (ct_J1_compare (G := G) (l := l) hq3 hZP) ⟨Nat.le_of_ble_eq_true rfl, Nat.le_of_ble_eq_true rfl⟩ (rp_recv hK hW0 (C := RJ1) (T := TJ1) (N := 9) rfl (shP_16 (kd_PL hg1) (kd_k hg1))) hW0 rfl rfl hl.1 (Nat.le_of_ble_eq_true rfl) dJ1_addEntryToEmptyMap_3 ⟨Nat.zero_le _, Nat.zero_le _⟩ ?_
  refine W.eq (g2 := F0 m 6 ls [.int r2]) rfl ?_
  refine lv_pop (pc := 6) hx hb dJ1_addEntryToEmptyMap_6 rfl ?_
  refine lv_aload_n (pc := 7) hx hb dJ1_addEntryToEmptyMap_7 rfl (lv_at hl 0 rfl) ?_
  obtain ⟨h4, hh5, hm⟩ := ln_some hm
  obtain ⟨hg6, hm⟩ := gb_some hm
  have hs7 : H.size = h4 := by omega
  refine rp_new (pc := 8) (h := h4) (kn := 18) (n := 0) hx hb hts hown hK hW0 hS in_J11 ft_J11 rfl q1397 q1398 q142 hs7 (shP_18 hg6 rfl) (df_J11 _ rfl) (Nat.le_of_ble_eq_true rfl) (Nat.le_of_ble_eq_true rfl) dJ1_addEntryToEmptyMap_8 (fun H9 hW10 hS11 hz12 hkp13 => ?_)
  have hKM14 := KM.nw (h := h4) (k := 18) (n := 0) hKM (by omega)
  obtain ⟨v0_8, he9, hm⟩ := lm_some hm
  rw [he9] at hW10 hKM14
  have hz15 : H9.size = s.heap.size + 1 := by omega
  refine lv_dup (pc := 11) hx hb dJ1_addEntryToEmptyMap_11 rfl ?_
  refine lv_aload_n (pc := 12) hx hb dJ1_addEntryToEmptyMap_12 rfl (lv_at hl 1 rfl) ?_
  refine lv_aload_n (pc := 13) hx hb dJ1_addEntryToEmptyMap_13 rfl (lv_at hl 2 rfl) ?_
  refine lv_null (pc := 14) hx hb dJ1_addEntryToEmptyMap_14 ?_
  obtain ⟨w16, hq17, hm⟩ := ob_some hm
  refine rk_TI (pc := 15) (As := [.ref p1, .ref p2, .null]) (rest := [.ref h4, .ref p0]) (mc := 0) (ms := 0) hx hb hml hown hts hK hS11 (fun q hq => FA_sz rfl q hq) lkJ1_167 yn_J11_init (ct_J11_init (G := G) (l := l) (sz := H9.size) hq17) ⟨Nat.le_of_ble_eq_true rfl, Nat.le_of_ble_eq_true rfl⟩ (fun z h => (KM_hf2 hKM14 z h)) hW10 rfl rfl hl.1 (Nat.le_of_ble_eq_true rfl) dJ1_addEntryToEmptyMap_15 ⟨Nat.le_of_ble_eq_true rfl, Nat.le_of_ble_eq_true rfl⟩ (fun ov9 H18 locs19 hP20 hkp21 hS22 => ?_)
  obtain ⟨rfl, hW23, hz24, hKM25⟩ := hP20
  have hz26 := hz24.trans hz15
  have hKM27 := KM.trans hKM14 hKM25 (by omega)
  refine W.eq (g2 := F0 m 18 ls [.ref h4, .ref p0]) rfl ?_
  obtain ⟨hg28, hm⟩ := gb_some hm
  refine rp_put (pc := 18) (q := p0) hx hb hts hown hK hW23 hS22 flJ1_101 ft_J1 (kd_A hKM27 hg28 (by decide)) (shP_16 (kd_PL hg28) (kd_k hg28)) rfl (x := va_rf (some h4)) (rf_nar _ rfl (some h4)) (rf_fit _ rfl (some h4)) (Nat.le_of_ble_eq_true rfl) (sR w16 p0 3 (some h4)) sR_ne (by rw [sR_eq]; exact shP_16 (kd_PL hg28) (kd_k hg28)) dJ1_addEntryToEmptyMap_18 (fun H30 locs31 hW32 hS33 hz34 hkp35 => ?_)
  have hKM36 := KM.sR (o := p0) (j := 3) (x := (some h4)) hKM27
  obtain ⟨v0_29, he9, hm⟩ := lm_some hm
  rw [he9] at hW32 hKM36
  have hz37 := hz34.trans hz26
  refine lv_aload_n (pc := 21) hx hb dJ1_addEntryToEmptyMap_21 rfl (lv_at hl 0 rfl) ?_
  refine lv_iconst (pc := 22) (v := (1 : Int32)) hx hb dJ1_addEntryToEmptyMap_22 (by decide) ?_
  obtain ⟨hg38, hm⟩ := gb_some hm
  refine rp_put (pc := 23) (q := p0) hx hb hts hown hK hW32 hS33 flJ1_7 ft_J1 (kd_A hKM36 hg38 (by decide)) (shP_16 (kd_PL hg38) (kd_k hg38)) rfl (x := .int (1 : Int32)) rfl rfl (Nat.le_of_ble_eq_true rfl) (sI v0_29 p0 4 (1 : Int32)) sI_ne (by rw [sI_eq]; exact shP_16 (kd_PL hg38) (kd_k hg38)) dJ1_addEntryToEmptyMap_23 (fun H40 locs41 hW42 hS43 hz44 hkp45 => ?_)
  have hKM46 := KM.sI (o := p0) (j := 4) (x := (1 : Int32)) hKM36 (by decide)
  obtain ⟨v0_39, he9, hm⟩ := lm_some hm
  rw [he9] at hW42 hKM46
  have hz47 := hz44.trans hz37
  refine lv_aload_n (pc := 26) hx hb dJ1_addEntryToEmptyMap_26 rfl (lv_at hl 0 rfl) ?_
  refine lv_dup (pc := 27) hx hb dJ1_addEntryToEmptyMap_27 rfl ?_
  obtain ⟨hg48, hm⟩ := gb_some hm
  refine rk_get (pc := 28) hx hb hts hown hK (pl_rg hW42) flJ1_13 p0 (Nat.lt_succ_self _) (Nat.zero_add _).symm (shP_16 (kd_PL hg48) (kd_k hg48)) (x := .int (gI v0_39 p0 5)) rfl dJ1_addEntryToEmptyMap_28 ?_
  refine lv_iconst (pc := 31) (v := (1 : Int32)) hx hb dJ1_addEntryToEmptyMap_31 (by decide) ?_
  refine lv_iadd (pc := 32) hx hb dJ1_addEntryToEmptyMap_32 ?_
  obtain ⟨hg49, hm⟩ := gb_some hm
  refine rp_put (pc := 33) (q := p0) hx hb hts hown hK hW42 hS43 flJ1_13 ft_J1 (kd_A hKM46 hg49 (by decide)) (shP_16 (kd_PL hg49) (kd_k hg49)) rfl (x := .int ((gI v0_39 p0 5) + (1 : Int32))) rfl rfl (Nat.le_of_ble_eq_true rfl) (sI v0_39 p0 5 ((gI v0_39 p0 5) + (1 : Int32))) sI_ne (by rw [sI_eq]; exact shP_16 (kd_PL hg49) (kd_k hg49)) dJ1_addEntryToEmptyMap_33 (fun H51 locs52 hW53 hS54 hz55 hkp56 => ?_)
  have hKM57 := KM.sI (o := p0) (j := 5) (x := ((gI v0_39 p0 5) + (1 : Int32))) hKM46 (by decide)
  obtain ⟨v0_50, he9, hm⟩ := lm_some hm
  rw [he9] at hW53 hKM57
  have hz58 := hz55.trans hz47
  obtain ⟨e8, e9⟩ := rs2 hm
  subst e8
  subst e9
  exact rk_vretA (pc := 36) hx hb hr hlk hS54 ⟨rfl, hW53, hz58, hKM57⟩ dJ1_addEntryToEmptyMap_36 (by exact Nat.le_of_ble_eq_true rfl) (by exact Nat.le_of_ble_eq_true rfl)
set_option maxHeartbeats 4000000 in
theorem ct_J1_addEntryToEmptyMap {G : Gv} {l : Launch} {PL : Nat → Bool} {Z : Nat} {v0 : Mem} {p0 : Nat} {p1 : Nat} {p2 : Nat} {rc : Nat} {rw0 : Mem} (hm : fJ1_addEntryToEmptyMap PL Z v0 p0 p1 p2 = some (rc, rw0)) (hZP : ZP G) : CT G l yJ1_addEntryToEmptyMap (ws_ yJ1_addEntryToEmptyMap cJ1_addEntryToEmptyMap 3 none) 3 1 6 66 [.ref p0, .ref p1, .ref p2] (fP PL v0) Z (fun H => pl G PL v0 H) (fun ov H => ov = none ∧ pl G PL rw0 H ∧ H.size = Z + rc ∧ KM v0 rw0 Z) := by
  refine Met.ofW (cc := cJ1_addEntryToEmptyMap) (maxL := 3) (ret := none) (by decide +kernel) rfl ?_
  intro p e s m args below meth c s₁ B hml hv
  obtain ⟨rfl, ⟨hz, hW0⟩, hK⟩ := hv
  subst hz
  have hZz : s.heap.size = s.heap.size := rfl
  have hts := atoms_spec (ws := ws_ yJ1_addEntryToEmptyMap cJ1_addEntryToEmptyMap 3 none) B.pre
  have hts : ∀ w ∈ lw_all, w.before _ s = true := fun w h => hts w (List.mem_cons_of_mem _ h)
  have C : Cx G p s m _ meth c RJ1 cJ1_addEntryToEmptyMap 3 none := ⟨B.exec, B.bytes, B.returns, B.notSynchronized, hml, findClass_of_methodNamed B.named, hts, hK⟩
  have hl := lv_entry ([.ref p0, .ref p1, .ref p2]) (n := 3) (Nat.le_of_ble_eq_true rfl)
  rw [lg_entry_eq]
  generalize (lg_sl ([.ref p0, .ref p1, .ref p2]) ++ List.replicate (3 - (lg_sl ([.ref p0, .ref p1, .ref p2])).length) Slot.unset).toArray = ls at hl ⊢
  have hl : lv_has ls 3 [(0, .ref p0), (1, .ref p1), (2, .ref p2)] := hl
  exact w_fJ1_addEntryToEmptyMap C hZz hZP _ _ _ _ hm s.heap [] ls hW0 va_S.rf rfl KM.rf hl
noncomputable def fJ1_clear (PL : Nat → Bool) (v0 : Mem) (p0 : Nat) : Option (Mem) :=
  gb (kd PL v0 p0 16) (
  gb (kd PL v0 p0 16) (
  lm (sI v0 p0 5 ((gI v0 p0 5) + (1 : Int32))) fun v0_3 =>
  gb (kd PL v0_3 p0 16) (
  lm (sI v0_3 p0 4 (0 : Int32)) fun v0_13 =>
  gb (kd PL v0_13 p0 16) (
  lm (sR v0_13 p0 3 none) fun v0_23 =>
  some v0_23))))
set_option maxHeartbeats 4000000 in
theorem w_fJ1_clear (C : Cx G p s m args meth c RJ1 cJ1_clear 1 none) {PL : Nat → Bool} {vP0 : Mem} {rw0 : Mem} : ∀ (v0 : Mem) (p0 : Nat), fJ1_clear PL v0 p0 = some rw0 → ∀ (H : Heap) (locs : List Loc) (ls : Array Slot), pl G PL v0 H → va_S (FA (fP PL vP0) s.heap.size) s.heap H locs → H.size = s.heap.size → KM vP0 v0 s.heap.size → lv_has ls 1 [(0, .ref p0)] → W p l e (rmT 0 0 0 0) s m args below meth c H locs 0 0 (MQ below (QcT (FA (fP PL vP0) s.heap.size) (fun ov H => ov = none ∧ pl G PL rw0 H ∧ H.size = s.heap.size ∧ KM vP0 rw0 s.heap.size)) args s 0 0 (FA (fP PL vP0) s.heap.size)) (F0 m 0 ls []) := by
  intro v0 p0 hm H locs ls hW0 hS hz hKM hl
  obtain ⟨hx, hb, hr, hlk, hml, hown, hts, hK⟩ := id C
  unfold fJ1_clear at hm
  refine lv_aload_n (pc := 0) hx hb dJ1_clear_0 rfl (lv_at hl 0 rfl) ?_
  refine lv_dup (pc := 1) hx hb dJ1_clear_1 rfl ?_
  obtain ⟨hg1, hm⟩ := gb_some hm
  refine rk_get (pc := 2) hx hb hts hown hK (pl_rg hW0) flJ1_13 p0 (Nat.lt_succ_self _) (Nat.zero_add _).symm (shP_16 (kd_PL hg1) (kd_k hg1)) (x := .int (gI v0 p0 5)) rfl dJ1_clear_2 ?_
  refine lv_iconst (pc := 5) (v := (1 : Int32)) hx hb dJ1_clear_5 (by decide) ?_
  refine lv_iadd (pc := 6) hx hb dJ1_clear_6 ?_
  obtain ⟨hg2, hm⟩ := gb_some hm
  refine rp_put (pc := 7) (q := p0) hx hb hts hown hK hW0 hS flJ1_13 ft_J1 (kd_A hKM hg2 (by decide)) (shP_16 (kd_PL hg2) (kd_k hg2)) rfl (x := .int ((gI v0 p0 5) + (1 : Int32))) rfl rfl (Nat.le_of_ble_eq_true rfl) (sI v0 p0 5 ((gI v0 p0 5) + (1 : Int32))) sI_ne (by rw [sI_eq]; exact shP_16 (kd_PL hg2) (kd_k hg2)) dJ1_clear_7 (fun H4 locs5 hW6 hS7 hz8 hkp9 => ?_)
  have hKM10 := KM.sI (o := p0) (j := 5) (x := ((gI v0 p0 5) + (1 : Int32))) hKM (by decide)
  obtain ⟨v0_3, he9, hm⟩ := lm_some hm
  rw [he9] at hW6 hKM10
  have hz11 := hz8.trans hz
  refine lv_aload_n (pc := 10) hx hb dJ1_clear_10 rfl (lv_at hl 0 rfl) ?_
  refine lv_iconst (pc := 11) (v := (0 : Int32)) hx hb dJ1_clear_11 (by decide) ?_
  obtain ⟨hg12, hm⟩ := gb_some hm
  refine rp_put (pc := 12) (q := p0) hx hb hts hown hK hW6 hS7 flJ1_7 ft_J1 (kd_A hKM10 hg12 (by decide)) (shP_16 (kd_PL hg12) (kd_k hg12)) rfl (x := .int (0 : Int32)) rfl rfl (Nat.le_of_ble_eq_true rfl) (sI v0_3 p0 4 (0 : Int32)) sI_ne (by rw [sI_eq]; exact shP_16 (kd_PL hg12) (kd_k hg12)) dJ1_clear_12 (fun H14 locs15 hW16 hS17 hz18 hkp19 => ?_)
  have hKM20 := KM.sI (o := p0) (j := 4) (x := (0 : Int32)) hKM10 (by decide)
  obtain ⟨v0_13, he9, hm⟩ := lm_some hm
  rw [he9] at hW16 hKM20
  have hz21 := hz18.trans hz11
  refine lv_aload_n (pc := 15) hx hb dJ1_clear_15 rfl (lv_at hl 0 rfl) ?_
  refine lv_null (pc := 16) hx hb dJ1_clear_16 ?_
  obtain ⟨hg22, hm⟩ := gb_some hm
  refine rp_put (pc := 17) (q := p0) hx hb hts hown hK hW16 hS17 flJ1_101 ft_J1 (kd_A hKM20 hg22 (by decide)) (shP_16 (kd_PL hg22) (kd_k hg22)) rfl (x := va_rf none) (rf_nar _ rfl none) (rf_fit _ rfl none) (Nat.le_of_ble_eq_true rfl) (sR v0_13 p0 3 none) sR_ne (by rw [sR_eq]; exact shP_16 (kd_PL hg22) (kd_k hg22)) dJ1_clear_17 (fun H24 locs25 hW26 hS27 hz28 hkp29 => ?_)
  have hKM30 := KM.sR (o := p0) (j := 3) (x := none) hKM20
  obtain ⟨v0_23, he9, hm⟩ := lm_some hm
  rw [he9] at hW26 hKM30
  have hz31 := hz28.trans hz21
  have e9 := rs1 hm
  subst e9
  exact rk_vret (pc := 20) hx hb hr hlk hS27 ⟨rfl, hW26, hz31, hKM30⟩ dJ1_clear_20
set_option maxHeartbeats 4000000 in
theorem ct_J1_clear {G : Gv} {l : Launch} {PL : Nat → Bool} {v0 : Mem} {p0 : Nat} {rw0 : Mem} {sz : Nat} (hm : fJ1_clear PL v0 p0 = some rw0) : CT G l yJ1_clear (ws_ yJ1_clear cJ1_clear 1 none) 0 0 0 0 [.ref p0] (fP PL v0) sz (fun H => pl G PL v0 H) (fun ov H => ov = none ∧ pl G PL rw0 H ∧ H.size = sz ∧ KM v0 rw0 sz) := by
  refine Met.ofW (cc := cJ1_clear) (maxL := 1) (ret := none) (by decide +kernel) rfl ?_
  intro p e s m args below meth c s₁ B hml hv
  obtain ⟨rfl, ⟨hz, hW0⟩, hK⟩ := hv
  subst hz
  have hts := atoms_spec (ws := ws_ yJ1_clear cJ1_clear 1 none) B.pre
  have hts : ∀ w ∈ lw_all, w.before _ s = true := fun w h => hts w (List.mem_cons_of_mem _ h)
  have C : Cx G p s m _ meth c RJ1 cJ1_clear 1 none := ⟨B.exec, B.bytes, B.returns, B.notSynchronized, hml, findClass_of_methodNamed B.named, hts, hK⟩
  have hl := lv_entry ([.ref p0]) (n := 1) (Nat.le_of_ble_eq_true rfl)
  rw [lg_entry_eq]
  generalize (lg_sl ([.ref p0]) ++ List.replicate (1 - (lg_sl ([.ref p0])).length) Slot.unset).toArray = ls at hl ⊢
  have hl : lv_has ls 1 [(0, .ref p0)] := hl
  exact w_fJ1_clear C _ _ hm s.heap [] ls hW0 va_S.rf rfl KM.rf hl
theorem yn_J10_requireNonNull : YN yJ10_requireNonNull 1 := by
  unfold YN
  decide +kernel
theorem lkJ1_95 : LSt RJ1 95 yJ10_requireNonNull cJ10_requireNonNull 1 (some (.object "java/lang/Object")) := ⟨q1364, q1365, q140, q1366⟩
theorem flJ1_105 : FL RJ1 105 18 0 RJ11 TJ11 6 := ⟨in_J11, rfl, by decide, q1405⟩
noncomputable def fJ1_getEntry_28 (PL : Nat → Bool) (V0 : Mem) (k28 : Nat → Option Nat → Option (Option Nat)) (p2 : Nat) (o3 : Option Nat) : Option (Option Nat) :=
  od o3 (
  some none) (fun pa11 =>
  gb (kd PL V0 pa11 18) (
  lo (gR V0 pa11 0) fun oa13 =>
  ob oa13 fun pa15 =>
  gb (kd PL V0 p2 14) (
  ob (fX14_compareTo PL V0 p2 pa15) fun r19 =>
  if 0 ≤ r19 then (
  if r19 ≤ 0 then (
  some (some pa11))
  else (
  gb (kd PL V0 pa11 18) (
  lo (gR V0 pa11 3) fun oa24 =>
  k28 p2 oa24)))
  else (
  gb (kd PL V0 pa11 18) (
  lo (gR V0 pa11 2) fun oa27 =>
  k28 p2 oa27)))))
noncomputable def fJ1_getEntry (PL : Nat → Bool) (V0 : Mem) (p0 : Nat) (p1 : Nat) : Option (Option Nat) :=
  gb (kd PL V0 p0 16) (
  lo (gR V0 p0 2) fun oa2 =>
  od oa2 (
  ob (fJ10_requireNonNull p1) fun oa5 =>
  gb (kd PL V0 p1 14) (
  gb (kd PL V0 p0 16) (
  lo (gR V0 p0 3) fun oa9 =>
  lq2 (fJ1_getEntry_28 PL V0) FU p1 oa9))) (fun pa4 =>
  none))
set_option maxHeartbeats 4000000 in
theorem w_fJ1_getEntry_28 (C : Cx G p s m args meth c RJ1 cJ1_getEntry 5 (some (.object "java/util/TreeMap$Entry"))) {PL : Nat → Bool} {V0 : Mem} {rx : Option Nat} (hW0 : pl G PL V0 s.heap) (hZP : ZP G) {k28 : Nat → Option Nat → Option (Option Nat)} (hk28 : ∀ (p2 : Nat) (o3 : Option Nat), k28 p2 o3 = some rx → ∀ (ls : Array Slot), lv_has ls 5 [(2, .ref p2), (3, va_rf o3)] → W p l e (rmP 2 44) s m args below meth c s.heap [] 0 0 (MQ below (QcP (some (va_rf rx))) args s 0 0 (fun _ => False)) (F0 m 28 ls [])) : ∀ (p2 : Nat) (o3 : Option Nat), fJ1_getEntry_28 PL V0 k28 p2 o3 = some rx → ∀ (ls : Array Slot), lv_has ls 5 [(2, .ref p2), (3, va_rf o3)] → W p l e (rmP 2 44) s m args below meth c s.heap [] 0 0 (MQ below (QcP (some (va_rf rx))) args s 0 0 (fun _ => False)) (F0 m 28 ls []) := by
  intro p2 o3 hm ls hl
  obtain ⟨hx, hb, hr, hlk, hml, hown, hts, hK⟩ := id C
  unfold fJ1_getEntry_28 at hm
  refine lv_aload_nO (pc := 28) hx hb dJ1_getEntry_28 rfl (lv_at hl 1 rfl) ?_
  rcases o3 with _ | pa11
  · have hm := od_n hm
    refine lv_ifnullN (pc := 29) (tgt := 75) hx hb dJ1_getEntry_29 (by decide) ?_
    refine lv_null (pc := 75) hx hb dJ1_getEntry_75 ?_
    have e9 := rs1 hm
    subst e9
    exact rp_aretP (x := none) (pc := 76) hx hb hr (Or.inl ⟨_, rfl⟩) hlk rfl dJ1_getEntry_76
  · have hm := od_s hm
    refine lv_ifnull (pc := 29) hx hb dJ1_getEntry_29 ?_
    refine lv_aload_n (pc := 32) hx hb dJ1_getEntry_32 rfl (lv_at hl 0 rfl) ?_
    refine lv_aload_n (pc := 33) hx hb dJ1_getEntry_33 rfl (lv_at hl 1 rfl) ?_
    obtain ⟨hg12, hm⟩ := gb_some hm
    obtain ⟨oa13, he14, hm⟩ := lo_some hm
    refine rk_get (pc := 34) hx hb hts hown hK (pl_rg hW0) flJ1_105 pa11 (Nat.lt_succ_self _) (Nat.zero_add _).symm (shP_18 (kd_PL hg12) (kd_k hg12)) (x := va_rf oa13) (congrArg (fun z => some (va_rf z)) he14) dJ1_getEntry_34 ?_
    obtain ⟨pa15, he16, hm17⟩ := ob_some hm
    subst he16
    have hm := hm17
    obtain ⟨hg18, hm⟩ := gb_some hm
    obtain ⟨r19, hq20, hm⟩ := ob_some hm
    refine rp_PF (pc := 37) (As := [.ref pa15]) (rest := []) hx hb hml hown hts hK lfJ1_107_X14 ((hZP s hK).1.1) (T := TX14) (N := 2) (ci := 14) rfl ynx_J1_107 (ct_X14_compareTo (G := G) (l := l) hq20) ⟨Nat.le_of_ble_eq_true rfl, Nat.le_of_ble_eq_true rfl⟩ (rp_recv hK hW0 (C := RX14) (T := TX14) (N := 2) rfl (shP_14 (kd_PL hg18) (kd_k hg18))) hW0 rfl rfl hl.1 (Nat.le_of_ble_eq_true rfl) dJ1_getEntry_37 ⟨Nat.zero_le _, Nat.zero_le _⟩ ?_
    refine W.eq (g2 := F0 m 42 ls [.int r19]) rfl ?_
    refine lv_istore (pc := 42) (lv' := [(4, .int r19), (2, .ref p2), (3, .ref pa11)]) hx hb dJ1_getEntry_42 hl (by decide) rfl (fun ls hl => ?_)
    refine lv_iload (pc := 44) hx hb dJ1_getEntry_44 (lv_at hl 0 rfl) ?_
    refine lv_if_ge (pc := 46) (tgt := 57) hx hb dJ1_getEntry_46 (by decide) (fun c21 => ?_) (fun c21 => ?_)
    · have hm := ite_t c21 hm
      refine lv_iload (pc := 57) hx hb dJ1_getEntry_57 (lv_at hl 0 rfl) ?_
      refine lv_if_le (pc := 59) (tgt := 70) hx hb dJ1_getEntry_59 (by decide) (fun c22 => ?_) (fun c22 => ?_)
      · have hm := ite_t c22 hm
        refine lv_aload_n (pc := 70) hx hb dJ1_getEntry_70 rfl (lv_at hl 2 rfl) ?_
        have e9 := rs1 hm
        subst e9
        exact rp_aretP (x := (some pa11)) (pc := 71) hx hb hr (Or.inl ⟨_, rfl⟩) hlk rfl dJ1_getEntry_71
      · have hm := ite_f c22 hm
        refine lv_aload_n (pc := 62) hx hb dJ1_getEntry_62 rfl (lv_at hl 2 rfl) ?_
        obtain ⟨hg23, hm⟩ := gb_some hm
        obtain ⟨oa24, he25, hm⟩ := lo_some hm
        refine rk_get (pc := 63) hx hb hts hown hK (pl_rg hW0) flJ1_114 pa11 (Nat.lt_succ_self _) (Nat.zero_add _).symm (shP_18 (kd_PL hg23) (kd_k hg23)) (x := va_rf oa24) (congrArg (fun z => some (va_rf z)) he25) dJ1_getEntry_63 ?_
        refine lv_astore_nO (pc := 66) (lv' := [(3, va_rf oa24), (4, .int r19), (2, .ref p2)]) hx hb dJ1_getEntry_66 rfl hl (by decide) rfl (fun ls hl => ?_)
        refine lv_goto (pc := 67) (tgt := 72) hx hb dJ1_getEntry_67 (by decide) ?_
        refine lv_goto (pc := 72) (tgt := 28) hx hb dJ1_getEntry_72 (by decide) ?_
        exact hk28 p2 oa24 hm ls (lv_sub hl [2, 0] rfl)
    · have hm := ite_f c21 hm
      refine lv_aload_n (pc := 49) hx hb dJ1_getEntry_49 rfl (lv_at hl 2 rfl) ?_
      obtain ⟨hg26, hm⟩ := gb_some hm
      obtain ⟨oa27, he28, hm⟩ := lo_some hm
      refine rk_get (pc := 50) hx hb hts hown hK (pl_rg hW0) flJ1_111 pa11 (Nat.lt_succ_self _) (Nat.zero_add _).symm (shP_18 (kd_PL hg26) (kd_k hg26)) (x := va_rf oa27) (congrArg (fun z => some (va_rf z)) he28) dJ1_getEntry_50 ?_
      refine lv_astore_nO (pc := 53) (lv' := [(3, va_rf oa27), (4, .int r19), (2, .ref p2)]) hx hb dJ1_getEntry_53 rfl hl (by decide) rfl (fun ls hl => ?_)
      refine lv_goto (pc := 54) (tgt := 72) hx hb dJ1_getEntry_54 (by decide) ?_
      refine lv_goto (pc := 72) (tgt := 28) hx hb dJ1_getEntry_72 (by decide) ?_
      exact hk28 p2 oa27 hm ls (lv_sub hl [2, 0] rfl)
theorem w_fJ1_getEntry_28_l (C : Cx G p s m args meth c RJ1 cJ1_getEntry 5 (some (.object "java/util/TreeMap$Entry"))) {PL : Nat → Bool} {V0 : Mem} {rx : Option Nat} (hW0 : pl G PL V0 s.heap) (hZP : ZP G) : ∀ (n : Nat) (p2 : Nat) (o3 : Option Nat), lq2 (fJ1_getEntry_28 PL V0) n p2 o3 = some rx → ∀ (ls : Array Slot), lv_has ls 5 [(2, .ref p2), (3, va_rf o3)] → W p l e (rmP 2 44) s m args below meth c s.heap [] 0 0 (MQ below (QcP (some (va_rf rx))) args s 0 0 (fun _ => False)) (F0 m 28 ls []) := by
  intro n
  induction n with
  | zero => intro p2 o3 hm; exact (lq2_0 hm).elim
  | succ n ih => intro p2 o3 hm; exact w_fJ1_getEntry_28 C hW0 hZP ih p2 o3 (lq2_s hm)
set_option maxHeartbeats 4000000 in
theorem w_fJ1_getEntry (C : Cx G p s m args meth c RJ1 cJ1_getEntry 5 (some (.object "java/util/TreeMap$Entry"))) {PL : Nat → Bool} {V0 : Mem} {rx : Option Nat} (hW0 : pl G PL V0 s.heap) (hZP : ZP G) : ∀ (p0 : Nat) (p1 : Nat), fJ1_getEntry PL V0 p0 p1 = some rx → ∀ (ls : Array Slot), lv_has ls 5 [(0, .ref p0), (1, .ref p1)] → W p l e (rmP 2 44) s m args below meth c s.heap [] 0 0 (MQ below (QcP (some (va_rf rx))) args s 0 0 (fun _ => False)) (F0 m 0 ls []) := by
  intro p0 p1 hm ls hl
  obtain ⟨hx, hb, hr, hlk, hml, hown, hts, hK⟩ := id C
  unfold fJ1_getEntry at hm
  refine lv_aload_n (pc := 0) hx hb dJ1_getEntry_0 rfl (lv_at hl 0 rfl) ?_
  obtain ⟨hg1, hm⟩ := gb_some hm
  obtain ⟨oa2, he3, hm⟩ := lo_some hm
  refine rk_get (pc := 1) hx hb hts hown hK (pl_rg hW0) flJ1_16 p0 (Nat.lt_succ_self _) (Nat.zero_add _).symm (shP_16 (kd_PL hg1) (kd_k hg1)) (x := va_rf oa2) (congrArg (fun z => some (va_rf z)) he3) dJ1_getEntry_1 ?_
  rcases oa2 with _ | pa4
  · have hm := od_n hm
    refine lv_ifnullN (pc := 4) (tgt := 13) hx hb dJ1_getEntry_4 (by decide) ?_
    refine lv_aload_n (pc := 13) hx hb dJ1_getEntry_13 rfl (lv_at hl 1 rfl) ?_
    obtain ⟨oa5, hq6, hm⟩ := ob_some hm
    refine rk_PS (pc := 14) (As := [.ref p1]) (rest := []) hx hb hml hown hts hK lkJ1_95 yn_J10_requireNonNull (ct_J10_requireNonNull (G := G) (l := l) hq6) ⟨Nat.le_of_ble_eq_true rfl, Nat.le_of_ble_eq_true rfl⟩ trivial rfl rfl hl.1 (Nat.le_of_ble_eq_true rfl) dJ1_getEntry_14 ⟨Nat.zero_le _, Nat.zero_le _⟩ ?_
    refine W.eq (g2 := F0 m 17 ls [va_rf oa5]) rfl ?_
    refine lv_pop (pc := 17) hx hb dJ1_getEntry_17 (cat_rf _) ?_
    refine lv_aload_n (pc := 18) hx hb dJ1_getEntry_18 rfl (lv_at hl 1 rfl) ?_
    obtain ⟨hg7, hm⟩ := gb_some hm
    refine rp_castY (pc := 19) (nm := "java/lang/Comparable") hx hb hown hts hK q1367 q1104 (rp_recv hK hW0 (C := RX14) (T := TX14) (N := 2) rfl (shP_14 (kd_PL hg7) (kd_k hg7))) dJ1_getEntry_19 ?_
    refine lv_astore_n (pc := 22) (lv' := [(2, .ref p1), (0, .ref p0), (1, .ref p1)]) hx hb dJ1_getEntry_22 rfl hl (by decide) rfl (fun ls hl => ?_)
    refine lv_aload_n (pc := 23) hx hb dJ1_getEntry_23 rfl (lv_at hl 1 rfl) ?_
    obtain ⟨hg8, hm⟩ := gb_some hm
    obtain ⟨oa9, he10, hm⟩ := lo_some hm
    refine rk_get (pc := 24) hx hb hts hown hK (pl_rg hW0) flJ1_101 p0 (Nat.lt_succ_self _) (Nat.zero_add _).symm (shP_16 (kd_PL hg8) (kd_k hg8)) (x := va_rf oa9) (congrArg (fun z => some (va_rf z)) he10) dJ1_getEntry_24 ?_
    refine lv_astore_nO (pc := 27) (lv' := [(3, va_rf oa9), (2, .ref p1), (0, .ref p0), (1, .ref p1)]) hx hb dJ1_getEntry_27 rfl hl (by decide) rfl (fun ls hl => ?_)
    exact (w_fJ1_getEntry_28_l C hW0 hZP FU) p1 oa9 hm ls (lv_sub hl [1, 0] rfl)
  · have hm := od_s hm
    refine lv_ifnull (pc := 4) hx hb dJ1_getEntry_4 ?_
    refine lv_aload_n (pc := 7) hx hb dJ1_getEntry_7 rfl (lv_at hl 0 rfl) ?_
    refine lv_aload_n (pc := 8) hx hb dJ1_getEntry_8 rfl (lv_at hl 1 rfl) ?_
    exact nomatch hm
set_option maxHeartbeats 4000000 in
theorem ct_J1_getEntry {G : Gv} {l : Launch} {PL : Nat → Bool} {V0 : Mem} {p0 : Nat} {p1 : Nat} {rx : Option Nat} (hm : fJ1_getEntry PL V0 p0 p1 = some rx) (hZP : ZP G) : CP G l yJ1_getEntry (ws_ yJ1_getEntry cJ1_getEntry 5 (some (.object "java/util/TreeMap$Entry"))) 2 44 [.ref p0, .ref p1] (fun H => pl G PL V0 H) (some (va_rf rx)) := by
  refine Met.ofW (cc := cJ1_getEntry) (maxL := 5) (ret := (some (.object "java/util/TreeMap$Entry"))) (by decide +kernel) rfl ?_
  intro p e s m args below meth c s₁ B hml hv
  obtain ⟨rfl, hW0, hK⟩ := hv
  have hts := atoms_spec (ws := ws_ yJ1_getEntry cJ1_getEntry 5 (some (.object "java/util/TreeMap$Entry"))) B.pre
  have hts : ∀ w ∈ lw_all, w.before _ s = true := fun w h => hts w (List.mem_cons_of_mem _ h)
  have C : Cx G p s m _ meth c RJ1 cJ1_getEntry 5 (some (.object "java/util/TreeMap$Entry")) := ⟨B.exec, B.bytes, B.returns, B.notSynchronized, hml, findClass_of_methodNamed B.named, hts, hK⟩
  have hl := lv_entry ([.ref p0, .ref p1]) (n := 5) (Nat.le_of_ble_eq_true rfl)
  rw [lg_entry_eq]
  generalize (lg_sl ([.ref p0, .ref p1]) ++ List.replicate (5 - (lg_sl ([.ref p0, .ref p1])).length) Slot.unset).toArray = ls at hl ⊢
  have hl : lv_has ls 5 [(0, .ref p0), (1, .ref p1)] := hl
  exact w_fJ1_getEntry C hW0 hZP _ _ hm ls hl
theorem yn_J1_getEntry : YN yJ1_getEntry 1 := by
  unfold YN
  decide +kernel
theorem lkJ1_50 : LV RJ1 50 RJ1 yJ1_getEntry cJ1_getEntry 5 (some (.object "java/util/TreeMap$Entry")) := ⟨q1354, q1355, q1356, q120, q1357⟩
noncomputable def fJ1_containsKey (PL : Nat → Bool) (V0 : Mem) (p0 : Nat) (p1 : Nat) : Option (Int32) :=
  gb (kd PL V0 p0 16) (
  ob (fJ1_getEntry PL V0 p0 p1) fun oa2 =>
  od oa2 (
  some (0 : Int32)) (fun pa4 =>
  some (1 : Int32)))
set_option maxHeartbeats 4000000 in
theorem w_fJ1_containsKey (C : Cx G p s m args meth c RJ1 cJ1_containsKey 2 (some .boolean)) {PL : Nat → Bool} {V0 : Mem} {rx : Int32} (hW0 : pl G PL V0 s.heap) (hZP : ZP G) : ∀ (p0 : Nat) (p1 : Nat), fJ1_containsKey PL V0 p0 p1 = some rx → ∀ (ls : Array Slot), lv_has ls 2 [(0, .ref p0), (1, .ref p1)] → W p l e (rmP 3 68) s m args below meth c s.heap [] 0 0 (MQ below (QcP (some (.int rx))) args s 0 0 (fun _ => False)) (F0 m 0 ls []) := by
  intro p0 p1 hm ls hl
  obtain ⟨hx, hb, hr, hlk, hml, hown, hts, hK⟩ := id C
  unfold fJ1_containsKey at hm
  refine lv_aload_n (pc := 0) hx hb dJ1_containsKey_0 rfl (lv_at hl 0 rfl) ?_
  refine lv_aload_n (pc := 1) hx hb dJ1_containsKey_1 rfl (lv_at hl 1 rfl) ?_
  obtain ⟨hg1, hm⟩ := gb_some hm
  obtain ⟨oa2, hq3, hm⟩ := ob_some hm
  refine rk_PV (pc := 2) (As := [.ref p1]) (rest := []) hx hb hml hown hts hK lkJ1_50 rfl yn_J1_getEntry (ct_J1_getEntry (G := G) (l := l) hq3 hZP) ⟨Nat.le_of_ble_eq_true rfl, Nat.le_of_ble_eq_true rfl⟩ (rp_recv hK hW0 (C := RJ1) (T := TJ1) (N := 9) rfl (shP_16 (kd_PL hg1) (kd_k hg1))) hW0 rfl rfl hl.1 (Nat.le_of_ble_eq_true rfl) dJ1_containsKey_2 ⟨Nat.zero_le _, Nat.zero_le _⟩ ?_
  refine W.eq (g2 := F0 m 5 ls [va_rf oa2]) rfl ?_
  rcases oa2 with _ | pa4
  · have hm := od_n hm
    refine lv_ifnullN (pc := 5) (tgt := 12) hx hb dJ1_containsKey_5 (by decide) ?_
    refine lv_iconst (pc := 12) (v := (0 : Int32)) hx hb dJ1_containsKey_12 (by decide) ?_
    have e9 := rs1 hm
    subst e9
    exact rk_zretP (pc := 13) hx hb hr hlk rfl rfl dJ1_containsKey_13
  · have hm := od_s hm
    refine lv_ifnull (pc := 5) hx hb dJ1_containsKey_5 ?_
    refine lv_iconst (pc := 8) (v := (1 : Int32)) hx hb dJ1_containsKey_8 (by decide) ?_
    refine lv_goto (pc := 9) (tgt := 13) hx hb dJ1_containsKey_9 (by decide) ?_
    have e9 := rs1 hm
    subst e9
    exact rk_zretP (pc := 13) hx hb hr hlk rfl rfl dJ1_containsKey_13
set_option maxHeartbeats 4000000 in
theorem ct_J1_containsKey {G : Gv} {l : Launch} {PL : Nat → Bool} {V0 : Mem} {p0 : Nat} {p1 : Nat} {rx : Int32} (hm : fJ1_containsKey PL V0 p0 p1 = some rx) (hZP : ZP G) : CP G l yJ1_containsKey (ws_ yJ1_containsKey cJ1_containsKey 2 (some .boolean)) 3 68 [.ref p0, .ref p1] (fun H => pl G PL V0 H) (some (.int rx)) := by
  refine Met.ofW (cc := cJ1_containsKey) (maxL := 2) (ret := (some .boolean)) (by decide +kernel) rfl ?_
  intro p e s m args below meth c s₁ B hml hv
  obtain ⟨rfl, hW0, hK⟩ := hv
  have hts := atoms_spec (ws := ws_ yJ1_containsKey cJ1_containsKey 2 (some .boolean)) B.pre
  have hts : ∀ w ∈ lw_all, w.before _ s = true := fun w h => hts w (List.mem_cons_of_mem _ h)
  have C : Cx G p s m _ meth c RJ1 cJ1_containsKey 2 (some .boolean) := ⟨B.exec, B.bytes, B.returns, B.notSynchronized, hml, findClass_of_methodNamed B.named, hts, hK⟩
  have hl := lv_entry ([.ref p0, .ref p1]) (n := 2) (Nat.le_of_ble_eq_true rfl)
  rw [lg_entry_eq]
  generalize (lg_sl ([.ref p0, .ref p1]) ++ List.replicate (2 - (lg_sl ([.ref p0, .ref p1])).length) Slot.unset).toArray = ls at hl ⊢
  have hl : lv_has ls 2 [(0, .ref p0), (1, .ref p1)] := hl
  exact w_fJ1_containsKey C hW0 hZP _ _ hm ls hl
noncomputable def fJ1_getFirstEntry_9 (PL : Nat → Bool) (V0 : Mem) (k9 : Option Nat → Option (Option Nat)) (o1 : Option Nat) : Option (Option Nat) :=
  ob o1 fun pa5 =>
  gb (kd PL V0 pa5 18) (
  lo (gR V0 pa5 2) fun oa9 =>
  od oa9 (
  some (some pa5)) (fun pa11 =>
  gb (kd PL V0 pa5 18) (
  lo (gR V0 pa5 2) fun oa13 =>
  k9 oa13)))
noncomputable def fJ1_getFirstEntry (PL : Nat → Bool) (V0 : Mem) (p0 : Nat) : Option (Option Nat) :=
  gb (kd PL V0 p0 16) (
  lo (gR V0 p0 3) fun oa2 =>
  od oa2 (
  some none) (fun pa4 =>
  lq1 (fJ1_getFirstEntry_9 PL V0) FU (some pa4)))
set_option maxHeartbeats 4000000 in
theorem w_fJ1_getFirstEntry_9 (C : Cx G p s m args meth c RJ1 cJ1_getFirstEntry 2 (some (.object "java/util/TreeMap$Entry"))) {PL : Nat → Bool} {V0 : Mem} {rx : Option Nat} (hW0 : pl G PL V0 s.heap) {k9 : Option Nat → Option (Option Nat)} (hk9 : ∀ (o1 : Option Nat), k9 o1 = some rx → ∀ (ls : Array Slot), lv_has ls 2 [(1, va_rf o1)] → W p l e (rmP 0 0) s m args below meth c s.heap [] 0 0 (MQ below (QcP (some (va_rf rx))) args s 0 0 (fun _ => False)) (F0 m 9 ls [])) : ∀ (o1 : Option Nat), fJ1_getFirstEntry_9 PL V0 k9 o1 = some rx → ∀ (ls : Array Slot), lv_has ls 2 [(1, va_rf o1)] → W p l e (rmP 0 0) s m args below meth c s.heap [] 0 0 (MQ below (QcP (some (va_rf rx))) args s 0 0 (fun _ => False)) (F0 m 9 ls []) := by
  intro o1 hm ls hl
  obtain ⟨hx, hb, hr, hlk, hml, hown, hts, hK⟩ := id C
  unfold fJ1_getFirstEntry_9 at hm
  refine lv_aload_nO (pc := 9) hx hb dJ1_getFirstEntry_9 rfl (lv_at hl 0 rfl) ?_
  obtain ⟨pa5, he6, hm7⟩ := ob_some hm
  subst he6
  have hm := hm7
  obtain ⟨hg8, hm⟩ := gb_some hm
  obtain ⟨oa9, he10, hm⟩ := lo_some hm
  refine rk_get (pc := 10) hx hb hts hown hK (pl_rg hW0) flJ1_111 pa5 (Nat.lt_succ_self _) (Nat.zero_add _).symm (shP_18 (kd_PL hg8) (kd_k hg8)) (x := va_rf oa9) (congrArg (fun z => some (va_rf z)) he10) dJ1_getFirstEntry_10 ?_
  rcases oa9 with _ | pa11
  · have hm := od_n hm
    refine lv_ifnullN (pc := 13) (tgt := 24) hx hb dJ1_getFirstEntry_13 (by decide) ?_
    refine lv_aload_n (pc := 24) hx hb dJ1_getFirstEntry_24 rfl (lv_at hl 0 rfl) ?_
    have e9 := rs1 hm
    subst e9
    exact rp_aretP (x := (some pa5)) (pc := 25) hx hb hr (Or.inl ⟨_, rfl⟩) hlk rfl dJ1_getFirstEntry_25
  · have hm := od_s hm
    refine lv_ifnull (pc := 13) hx hb dJ1_getFirstEntry_13 ?_
    refine lv_aload_n (pc := 16) hx hb dJ1_getFirstEntry_16 rfl (lv_at hl 0 rfl) ?_
    obtain ⟨hg12, hm⟩ := gb_some hm
    obtain ⟨oa13, he14, hm⟩ := lo_some hm
    refine rk_get (pc := 17) hx hb hts hown hK (pl_rg hW0) flJ1_111 pa5 (Nat.lt_succ_self _) (Nat.zero_add _).symm (shP_18 (kd_PL hg12) (kd_k hg12)) (x := va_rf oa13) (congrArg (fun z => some (va_rf z)) he14) dJ1_getFirstEntry_17 ?_
    refine lv_astore_nO (pc := 20) (lv' := [(1, va_rf oa13)]) hx hb dJ1_getFirstEntry_20 rfl hl (by decide) rfl (fun ls hl => ?_)
    refine lv_goto (pc := 21) (tgt := 9) hx hb dJ1_getFirstEntry_21 (by decide) ?_
    exact hk9 oa13 hm ls (lv_sub hl [0] rfl)
theorem w_fJ1_getFirstEntry_9_l (C : Cx G p s m args meth c RJ1 cJ1_getFirstEntry 2 (some (.object "java/util/TreeMap$Entry"))) {PL : Nat → Bool} {V0 : Mem} {rx : Option Nat} (hW0 : pl G PL V0 s.heap) : ∀ (n : Nat) (o1 : Option Nat), lq1 (fJ1_getFirstEntry_9 PL V0) n o1 = some rx → ∀ (ls : Array Slot), lv_has ls 2 [(1, va_rf o1)] → W p l e (rmP 0 0) s m args below meth c s.heap [] 0 0 (MQ below (QcP (some (va_rf rx))) args s 0 0 (fun _ => False)) (F0 m 9 ls []) := by
  intro n
  induction n with
  | zero => intro o1 hm; exact (lq1_0 hm).elim
  | succ n ih => intro o1 hm; exact w_fJ1_getFirstEntry_9 C hW0 ih o1 (lq1_s hm)
set_option maxHeartbeats 4000000 in
theorem w_fJ1_getFirstEntry (C : Cx G p s m args meth c RJ1 cJ1_getFirstEntry 2 (some (.object "java/util/TreeMap$Entry"))) {PL : Nat → Bool} {V0 : Mem} {rx : Option Nat} (hW0 : pl G PL V0 s.heap) : ∀ (p0 : Nat), fJ1_getFirstEntry PL V0 p0 = some rx → ∀ (ls : Array Slot), lv_has ls 2 [(0, .ref p0)] → W p l e (rmP 0 0) s m args below meth c s.heap [] 0 0 (MQ below (QcP (some (va_rf rx))) args s 0 0 (fun _ => False)) (F0 m 0 ls []) := by
  intro p0 hm ls hl
  obtain ⟨hx, hb, hr, hlk, hml, hown, hts, hK⟩ := id C
  unfold fJ1_getFirstEntry at hm
  refine lv_aload_n (pc := 0) hx hb dJ1_getFirstEntry_0 rfl (lv_at hl 0 rfl) ?_
  obtain ⟨hg1, hm⟩ := gb_some hm
  obtain ⟨oa2, he3, hm⟩ := lo_some hm
  refine rk_get (pc := 1) hx hb hts hown hK (pl_rg hW0) flJ1_101 p0 (Nat.lt_succ_self _) (Nat.zero_add _).symm (shP_16 (kd_PL hg1) (kd_k hg1)) (x := va_rf oa2) (congrArg (fun z => some (va_rf z)) he3) dJ1_getFirstEntry_1 ?_
  refine lv_astore_nO (pc := 4) (lv' := [(1, va_rf oa2), (0, .ref p0)]) hx hb dJ1_getFirstEntry_4 rfl hl (by decide) rfl (fun ls hl => ?_)
  refine lv_aload_nO (pc := 5) hx hb dJ1_getFirstEntry_5 rfl (lv_at hl 0 rfl) ?_
  rcases oa2 with _ | pa4
  · have hm := od_n hm
    refine lv_ifnullN (pc := 6) (tgt := 24) hx hb dJ1_getFirstEntry_6 (by decide) ?_
    refine lv_aload_nN (pc := 24) hx hb dJ1_getFirstEntry_24 rfl (lv_at hl 0 rfl) ?_
    have e9 := rs1 hm
    subst e9
    exact rp_aretP (x := none) (pc := 25) hx hb hr (Or.inl ⟨_, rfl⟩) hlk rfl dJ1_getFirstEntry_25
  · have hm := od_s hm
    refine lv_ifnull (pc := 6) hx hb dJ1_getFirstEntry_6 ?_
    exact (w_fJ1_getFirstEntry_9_l C hW0 FU) (some pa4) hm ls (lv_sub hl [0] rfl)
set_option maxHeartbeats 4000000 in
theorem ct_J1_getFirstEntry {G : Gv} {l : Launch} {PL : Nat → Bool} {V0 : Mem} {p0 : Nat} {rx : Option Nat} (hm : fJ1_getFirstEntry PL V0 p0 = some rx) : CP G l yJ1_getFirstEntry (ws_ yJ1_getFirstEntry cJ1_getFirstEntry 2 (some (.object "java/util/TreeMap$Entry"))) 0 0 [.ref p0] (fun H => pl G PL V0 H) (some (va_rf rx)) := by
  refine Met.ofW (cc := cJ1_getFirstEntry) (maxL := 2) (ret := (some (.object "java/util/TreeMap$Entry"))) (by decide +kernel) rfl ?_
  intro p e s m args below meth c s₁ B hml hv
  obtain ⟨rfl, hW0, hK⟩ := hv
  have hts := atoms_spec (ws := ws_ yJ1_getFirstEntry cJ1_getFirstEntry 2 (some (.object "java/util/TreeMap$Entry"))) B.pre
  have hts : ∀ w ∈ lw_all, w.before _ s = true := fun w h => hts w (List.mem_cons_of_mem _ h)
  have C : Cx G p s m _ meth c RJ1 cJ1_getFirstEntry 2 (some (.object "java/util/TreeMap$Entry")) := ⟨B.exec, B.bytes, B.returns, B.notSynchronized, hml, findClass_of_methodNamed B.named, hts, hK⟩
  have hl := lv_entry ([.ref p0]) (n := 2) (Nat.le_of_ble_eq_true rfl)
  rw [lg_entry_eq]
  generalize (lg_sl ([.ref p0]) ++ List.replicate (2 - (lg_sl ([.ref p0])).length) Slot.unset).toArray = ls at hl ⊢
  have hl : lv_has ls 2 [(0, .ref p0)] := hl
  exact w_fJ1_getFirstEntry C hW0 _ hm ls hl
theorem yn_J1_getFirstEntry : YN yJ1_getFirstEntry 0 := by
  unfold YN
  decide +kernel
theorem lkJ1_54 : LV RJ1 54 RJ1 yJ1_getFirstEntry cJ1_getFirstEntry 2 (some (.object "java/util/TreeMap$Entry")) := ⟨q1467, q1468, q1469, q120, q1470⟩
noncomputable def fJ1_key (PL : Nat → Bool) (V0 : Mem) (o0 : Option Nat) : Option (Option Nat) :=
  od o0 (
  none) (fun pa1 =>
  gb (kd PL V0 pa1 18) (
  lo (gR V0 pa1 0) fun oa3 =>
  some oa3))
set_option maxHeartbeats 4000000 in
theorem w_fJ1_key (C : Cx G p s m args meth c RJ1 cJ1_key 1 (some (.object "java/lang/Object"))) {PL : Nat → Bool} {V0 : Mem} {rx : Option Nat} (hW0 : pl G PL V0 s.heap) : ∀ (o0 : Option Nat), fJ1_key PL V0 o0 = some rx → ∀ (ls : Array Slot), lv_has ls 1 [(0, va_rf o0)] → W p l e (rmP 0 0) s m args below meth c s.heap [] 0 0 (MQ below (QcP (some (va_rf rx))) args s 0 0 (fun _ => False)) (F0 m 0 ls []) := by
  intro o0 hm ls hl
  obtain ⟨hx, hb, hr, hlk, hml, hown, hts, hK⟩ := id C
  unfold fJ1_key at hm
  refine lv_aload_nO (pc := 0) hx hb dJ1_key_0 rfl (lv_at hl 0 rfl) ?_
  rcases o0 with _ | pa1
  · have hm := od_n hm
    refine lv_ifnonnullN (pc := 1) hx hb dJ1_key_1 ?_
    exact nomatch hm
  · have hm := od_s hm
    refine lv_ifnonnull (pc := 1) (tgt := 12) hx hb dJ1_key_1 (by decide) ?_
    refine lv_aload_n (pc := 12) hx hb dJ1_key_12 rfl (lv_at hl 0 rfl) ?_
    obtain ⟨hg2, hm⟩ := gb_some hm
    obtain ⟨oa3, he4, hm⟩ := lo_some hm
    refine rk_get (pc := 13) hx hb hts hown hK (pl_rg hW0) flJ1_105 pa1 (Nat.lt_succ_self _) (Nat.zero_add _).symm (shP_18 (kd_PL hg2) (kd_k hg2)) (x := va_rf oa3) (congrArg (fun z => some (va_rf z)) he4) dJ1_key_13 ?_
    have e9 := rs1 hm
    subst e9
    exact rp_aretP (x := oa3) (pc := 16) hx hb hr (Or.inl ⟨_, rfl⟩) hlk rfl dJ1_key_16
set_option maxHeartbeats 4000000 in
theorem ct_J1_key {G : Gv} {l : Launch} {PL : Nat → Bool} {V0 : Mem} {o0 : Option Nat} {rx : Option Nat} (hm : fJ1_key PL V0 o0 = some rx) : CP G l yJ1_key (ws_ yJ1_key cJ1_key 1 (some (.object "java/lang/Object"))) 0 0 [va_rf o0] (fun H => pl G PL V0 H) (some (va_rf rx)) := by
  cases o0 with
  | none =>
    refine Met.ofW (cc := cJ1_key) (maxL := 1) (ret := (some (.object "java/lang/Object"))) (by decide +kernel) rfl ?_
    intro p e s m args below meth c s₁ B hml hv
    obtain ⟨rfl, hW0, hK⟩ := hv
    have hts := atoms_spec (ws := ws_ yJ1_key cJ1_key 1 (some (.object "java/lang/Object"))) B.pre
    have hts : ∀ w ∈ lw_all, w.before _ s = true := fun w h => hts w (List.mem_cons_of_mem _ h)
    have C : Cx G p s m _ meth c RJ1 cJ1_key 1 (some (.object "java/lang/Object")) := ⟨B.exec, B.bytes, B.returns, B.notSynchronized, hml, findClass_of_methodNamed B.named, hts, hK⟩
    have hl := lv_entry ([va_rf none]) (n := 1) (Nat.le_of_ble_eq_true rfl)
    rw [lg_entry_eq]
    generalize (lg_sl ([va_rf none]) ++ List.replicate (1 - (lg_sl ([va_rf none])).length) Slot.unset).toArray = ls at hl ⊢
    have hl : lv_has ls 1 [(0, va_rf none)] := hl
    exact w_fJ1_key C hW0 _ hm ls hl
  | some ao0 =>
    refine Met.ofW (cc := cJ1_key) (maxL := 1) (ret := (some (.object "java/lang/Object"))) (by decide +kernel) rfl ?_
    intro p e s m args below meth c s₁ B hml hv
    obtain ⟨rfl, hW0, hK⟩ := hv
    have hts := atoms_spec (ws := ws_ yJ1_key cJ1_key 1 (some (.object "java/lang/Object"))) B.pre
    have hts : ∀ w ∈ lw_all, w.before _ s = true := fun w h => hts w (List.mem_cons_of_mem _ h)
    have C : Cx G p s m _ meth c RJ1 cJ1_key 1 (some (.object "java/lang/Object")) := ⟨B.exec, B.bytes, B.returns, B.notSynchronized, hml, findClass_of_methodNamed B.named, hts, hK⟩
    have hl := lv_entry ([va_rf (some ao0)]) (n := 1) (Nat.le_of_ble_eq_true rfl)
    rw [lg_entry_eq]
    generalize (lg_sl ([va_rf (some ao0)]) ++ List.replicate (1 - (lg_sl ([va_rf (some ao0)])).length) Slot.unset).toArray = ls at hl ⊢
    have hl : lv_has ls 1 [(0, va_rf (some ao0))] := hl
    exact w_fJ1_key C hW0 _ hm ls hl
theorem yn_J1_key : YN yJ1_key 1 := by
  unfold YN
  decide +kernel
theorem lkJ1_72 : LSt RJ1 72 yJ1_key cJ1_key 1 (some (.object "java/lang/Object")) := ⟨q1471, q1472, q120, q1473⟩
noncomputable def fJ1_firstKey (PL : Nat → Bool) (V0 : Mem) (p0 : Nat) : Option (Option Nat) :=
  gb (kd PL V0 p0 16) (
  ob (fJ1_getFirstEntry PL V0 p0) fun oa2 =>
  ob (fJ1_key PL V0 oa2) fun oa4 =>
  some oa4)
set_option maxHeartbeats 4000000 in
theorem w_fJ1_firstKey (C : Cx G p s m args meth c RJ1 cJ1_firstKey 1 (some (.object "java/lang/Object"))) {PL : Nat → Bool} {V0 : Mem} {rx : Option Nat} (hW0 : pl G PL V0 s.heap) : ∀ (p0 : Nat), fJ1_firstKey PL V0 p0 = some rx → ∀ (ls : Array Slot), lv_has ls 1 [(0, .ref p0)] → W p l e (rmP 1 21) s m args below meth c s.heap [] 0 0 (MQ below (QcP (some (va_rf rx))) args s 0 0 (fun _ => False)) (F0 m 0 ls []) := by
  intro p0 hm ls hl
  obtain ⟨hx, hb, hr, hlk, hml, hown, hts, hK⟩ := id C
  unfold fJ1_firstKey at hm
  refine lv_aload_n (pc := 0) hx hb dJ1_firstKey_0 rfl (lv_at hl 0 rfl) ?_
  obtain ⟨hg1, hm⟩ := gb_some hm
  obtain ⟨oa2, hq3, hm⟩ := ob_some hm
  refine rk_PV (pc := 1) (As := []) (rest := []) hx hb hml hown hts hK lkJ1_54 rfl yn_J1_getFirstEntry (ct_J1_getFirstEntry (G := G) (l := l) hq3) ⟨Nat.le_of_ble_eq_true rfl, Nat.le_of_ble_eq_true rfl⟩ (rp_recv hK hW0 (C := RJ1) (T := TJ1) (N := 9) rfl (shP_16 (kd_PL hg1) (kd_k hg1))) hW0 rfl rfl hl.1 (Nat.le_of_ble_eq_true rfl) dJ1_firstKey_1 ⟨Nat.zero_le _, Nat.zero_le _⟩ ?_
  refine W.eq (g2 := F0 m 4 ls [va_rf oa2]) rfl ?_
  obtain ⟨oa4, hq5, hm⟩ := ob_some hm
  refine rk_PS (pc := 4) (As := [va_rf oa2]) (rest := []) hx hb hml hown hts hK lkJ1_72 yn_J1_key (ct_J1_key (G := G) (l := l) hq5) ⟨Nat.le_of_ble_eq_true rfl, Nat.le_of_ble_eq_true rfl⟩ hW0 rfl rfl hl.1 (Nat.le_of_ble_eq_true rfl) dJ1_firstKey_4 ⟨Nat.zero_le _, Nat.zero_le _⟩ ?_
  refine W.eq (g2 := F0 m 7 ls [va_rf oa4]) rfl ?_
  have e9 := rs1 hm
  subst e9
  exact rp_aretP (x := oa4) (pc := 7) hx hb hr (Or.inl ⟨_, rfl⟩) hlk rfl dJ1_firstKey_7
set_option maxHeartbeats 4000000 in
theorem ct_J1_firstKey {G : Gv} {l : Launch} {PL : Nat → Bool} {V0 : Mem} {p0 : Nat} {rx : Option Nat} (hm : fJ1_firstKey PL V0 p0 = some rx) : CP G l yJ1_firstKey (ws_ yJ1_firstKey cJ1_firstKey 1 (some (.object "java/lang/Object"))) 1 21 [.ref p0] (fun H => pl G PL V0 H) (some (va_rf rx)) := by
  refine Met.ofW (cc := cJ1_firstKey) (maxL := 1) (ret := (some (.object "java/lang/Object"))) (by decide +kernel) rfl ?_
  intro p e s m args below meth c s₁ B hml hv
  obtain ⟨rfl, hW0, hK⟩ := hv
  have hts := atoms_spec (ws := ws_ yJ1_firstKey cJ1_firstKey 1 (some (.object "java/lang/Object"))) B.pre
  have hts : ∀ w ∈ lw_all, w.before _ s = true := fun w h => hts w (List.mem_cons_of_mem _ h)
  have C : Cx G p s m _ meth c RJ1 cJ1_firstKey 1 (some (.object "java/lang/Object")) := ⟨B.exec, B.bytes, B.returns, B.notSynchronized, hml, findClass_of_methodNamed B.named, hts, hK⟩
  have hl := lv_entry ([.ref p0]) (n := 1) (Nat.le_of_ble_eq_true rfl)
  rw [lg_entry_eq]
  generalize (lg_sl ([.ref p0]) ++ List.replicate (1 - (lg_sl ([.ref p0])).length) Slot.unset).toArray = ls at hl ⊢
  have hl : lv_has ls 1 [(0, .ref p0)] := hl
  exact w_fJ1_firstKey C hW0 _ hm ls hl
noncomputable def fJ1_getFloorEntry_68 (PL : Nat → Bool) (V0 : Mem) (k68 : Option Nat → Option Nat → Option (Option Nat)) (o4 : Option Nat) (o5 : Option Nat) : Option (Option Nat) :=
  od o4 (
  some none) (fun pa33 =>
  gb (kd PL V0 pa33 18) (
  lo (gR V0 pa33 2) fun oa35 =>
  if o5 = oa35 then (
  gb (kd PL V0 pa33 18) (
  lo (gR V0 pa33 4) fun oa39 =>
  k68 oa39 (some pa33)))
  else (
  some (some pa33))))
noncomputable def fJ1_getFloorEntry_5 (PL : Nat → Bool) (V0 : Mem) (k5 : Nat → Nat → Option Nat → Option (Option Nat)) (p0 : Nat) (p1 : Nat) (o2 : Option Nat) : Option (Option Nat) :=
  od o2 (
  some none) (fun pa4 =>
  gb (kd PL V0 pa4 18) (
  lo (gR V0 pa4 0) fun oa6 =>
  ob oa6 fun pa8 =>
  gb (kd PL V0 p0 16) (
  ob (fJ1_compare PL V0 p0 p1 pa8) fun r12 =>
  if r12 ≤ 0 then (
  if 0 ≤ r12 then (
  some (some pa4))
  else (
  gb (kd PL V0 pa4 18) (
  lo (gR V0 pa4 2) fun oa17 =>
  od oa17 (
  gb (kd PL V0 pa4 18) (
  lo (gR V0 pa4 4) fun oa21 =>
  lq2 (fJ1_getFloorEntry_68 PL V0) FU oa21 (some pa4))) (fun pa19 =>
  gb (kd PL V0 pa4 18) (
  lo (gR V0 pa4 2) fun oa24 =>
  k5 p0 p1 oa24)))))
  else (
  gb (kd PL V0 pa4 18) (
  lo (gR V0 pa4 3) fun oa27 =>
  od oa27 (
  some (some pa4)) (fun pa29 =>
  gb (kd PL V0 pa4 18) (
  lo (gR V0 pa4 3) fun oa31 =>
  k5 p0 p1 oa31)))))))
noncomputable def fJ1_getFloorEntry (PL : Nat → Bool) (V0 : Mem) (p0 : Nat) (p1 : Nat) : Option (Option Nat) :=
  gb (kd PL V0 p0 16) (
  lo (gR V0 p0 3) fun oa2 =>
  lq3 (fJ1_getFloorEntry_5 PL V0) FU p0 p1 oa2)
set_option maxHeartbeats 4000000 in
theorem w_fJ1_getFloorEntry_68 (C : Cx G p s m args meth c RJ1 cJ1_getFloorEntry 6 (some (.object "java/util/TreeMap$Entry"))) {PL : Nat → Bool} {V0 : Mem} {rx : Option Nat} (hW0 : pl G PL V0 s.heap) (hZP : ZP G) {k68 : Option Nat → Option Nat → Option (Option Nat)} (hk68 : ∀ (o4 : Option Nat) (o5 : Option Nat), k68 o4 o5 = some rx → ∀ (ls : Array Slot), lv_has ls 6 [(4, va_rf o4), (5, va_rf o5)] → W p l e (rmP 3 66) s m args below meth c s.heap [] 0 0 (MQ below (QcP (some (va_rf rx))) args s 0 0 (fun _ => False)) (F0 m 68 ls [])) : ∀ (o4 : Option Nat) (o5 : Option Nat), fJ1_getFloorEntry_68 PL V0 k68 o4 o5 = some rx → ∀ (ls : Array Slot), lv_has ls 6 [(4, va_rf o4), (5, va_rf o5)] → W p l e (rmP 3 66) s m args below meth c s.heap [] 0 0 (MQ below (QcP (some (va_rf rx))) args s 0 0 (fun _ => False)) (F0 m 68 ls []) := by
  intro o4 o5 hm ls hl
  obtain ⟨hx, hb, hr, hlk, hml, hown, hts, hK⟩ := id C
  unfold fJ1_getFloorEntry_68 at hm
  refine lv_aloadO (pc := 68) hx hb dJ1_getFloorEntry_68 (lv_at hl 0 rfl) ?_
  rcases o4 with _ | pa33
  · have hm := od_n hm
    refine lv_ifnullN (pc := 70) (tgt := 97) hx hb dJ1_getFloorEntry_70 (by decide) ?_
    refine lv_aloadN (pc := 97) hx hb dJ1_getFloorEntry_97 (lv_at hl 0 rfl) ?_
    have e9 := rs1 hm
    subst e9
    exact rp_aretP (x := none) (pc := 99) hx hb hr (Or.inl ⟨_, rfl⟩) hlk rfl dJ1_getFloorEntry_99
  · have hm := od_s hm
    refine lv_ifnull (pc := 70) hx hb dJ1_getFloorEntry_70 ?_
    refine lv_aloadO (pc := 73) hx hb dJ1_getFloorEntry_73 (lv_at hl 1 rfl) ?_
    refine lv_aload (pc := 75) hx hb dJ1_getFloorEntry_75 (lv_at hl 0 rfl) ?_
    obtain ⟨hg34, hm⟩ := gb_some hm
    obtain ⟨oa35, he36, hm⟩ := lo_some hm
    refine rk_get (pc := 77) hx hb hts hown hK (pl_rg hW0) flJ1_111 pa33 (Nat.lt_succ_self _) (Nat.zero_add _).symm (shP_18 (kd_PL hg34) (kd_k hg34)) (x := va_rf oa35) (congrArg (fun z => some (va_rf z)) he36) dJ1_getFloorEntry_77 ?_
    refine lv_acmp_ne (pc := 80) (rx := o5) (ry := oa35) (tgt := 97) hx hb dJ1_getFloorEntry_80 (by decide) (fun c37 => ?_) (fun c37 => ?_)
    · have hm := ite_f c37 hm
      refine lv_aload (pc := 97) hx hb dJ1_getFloorEntry_97 (lv_at hl 0 rfl) ?_
      have e9 := rs1 hm
      subst e9
      exact rp_aretP (x := (some pa33)) (pc := 99) hx hb hr (Or.inl ⟨_, rfl⟩) hlk rfl dJ1_getFloorEntry_99
    · have hm := ite_t c37 hm
      refine lv_aload (pc := 83) hx hb dJ1_getFloorEntry_83 (lv_at hl 0 rfl) ?_
      refine lv_astore (pc := 85) (lv' := [(5, .ref pa33), (4, .ref pa33)]) hx hb dJ1_getFloorEntry_85 hl (by decide) rfl (fun ls hl => ?_)
      refine lv_aload (pc := 87) hx hb dJ1_getFloorEntry_87 (lv_at hl 1 rfl) ?_
      obtain ⟨hg38, hm⟩ := gb_some hm
      obtain ⟨oa39, he40, hm⟩ := lo_some hm
      refine rk_get (pc := 89) hx hb hts hown hK (pl_rg hW0) flJ1_124 pa33 (Nat.lt_succ_self _) (Nat.zero_add _).symm (shP_18 (kd_PL hg38) (kd_k hg38)) (x := va_rf oa39) (congrArg (fun z => some (va_rf z)) he40) dJ1_getFloorEntry_89 ?_
      refine lv_astoreO (pc := 92) (lv' := [(4, va_rf oa39), (5, .ref pa33)]) hx hb dJ1_getFloorEntry_92 hl (by decide) rfl (fun ls hl => ?_)
      refine lv_goto (pc := 94) (tgt := 68) hx hb dJ1_getFloorEntry_94 (by decide) ?_
      exact hk68 oa39 (some pa33) hm ls (lv_sub hl [0, 1] rfl)
theorem w_fJ1_getFloorEntry_68_l (C : Cx G p s m args meth c RJ1 cJ1_getFloorEntry 6 (some (.object "java/util/TreeMap$Entry"))) {PL : Nat → Bool} {V0 : Mem} {rx : Option Nat} (hW0 : pl G PL V0 s.heap) (hZP : ZP G) : ∀ (n : Nat) (o4 : Option Nat) (o5 : Option Nat), lq2 (fJ1_getFloorEntry_68 PL V0) n o4 o5 = some rx → ∀ (ls : Array Slot), lv_has ls 6 [(4, va_rf o4), (5, va_rf o5)] → W p l e (rmP 3 66) s m args below meth c s.heap [] 0 0 (MQ below (QcP (some (va_rf rx))) args s 0 0 (fun _ => False)) (F0 m 68 ls []) := by
  intro n
  induction n with
  | zero => intro o4 o5 hm; exact (lq2_0 hm).elim
  | succ n ih => intro o4 o5 hm; exact w_fJ1_getFloorEntry_68 C hW0 hZP ih o4 o5 (lq2_s hm)
set_option maxHeartbeats 4000000 in
theorem w_fJ1_getFloorEntry_5 (C : Cx G p s m args meth c RJ1 cJ1_getFloorEntry 6 (some (.object "java/util/TreeMap$Entry"))) {PL : Nat → Bool} {V0 : Mem} {rx : Option Nat} (hW0 : pl G PL V0 s.heap) (hZP : ZP G) {k5 : Nat → Nat → Option Nat → Option (Option Nat)} (hk5 : ∀ (p0 : Nat) (p1 : Nat) (o2 : Option Nat), k5 p0 p1 o2 = some rx → ∀ (ls : Array Slot), lv_has ls 6 [(0, .ref p0), (1, .ref p1), (2, va_rf o2)] → W p l e (rmP 3 66) s m args below meth c s.heap [] 0 0 (MQ below (QcP (some (va_rf rx))) args s 0 0 (fun _ => False)) (F0 m 5 ls [])) : ∀ (p0 : Nat) (p1 : Nat) (o2 : Option Nat), fJ1_getFloorEntry_5 PL V0 k5 p0 p1 o2 = some rx → ∀ (ls : Array Slot), lv_has ls 6 [(0, .ref p0), (1, .ref p1), (2, va_rf o2)] → W p l e (rmP 3 66) s m args below meth c s.heap [] 0 0 (MQ below (QcP (some (va_rf rx))) args s 0 0 (fun _ => False)) (F0 m 5 ls []) := by
  intro p0 p1 o2 hm ls hl
  obtain ⟨hx, hb, hr, hlk, hml, hown, hts, hK⟩ := id C
  unfold fJ1_getFloorEntry_5 at hm
  refine lv_aload_nO (pc := 5) hx hb dJ1_getFloorEntry_5 rfl (lv_at hl 2 rfl) ?_
  rcases o2 with _ | pa4
  · have hm := od_n hm
    refine lv_ifnullN (pc := 6) (tgt := 105) hx hb dJ1_getFloorEntry_6 (by decide) ?_
    refine lv_null (pc := 105) hx hb dJ1_getFloorEntry_105 ?_
    have e9 := rs1 hm
    subst e9
    exact rp_aretP (x := none) (pc := 106) hx hb hr (Or.inl ⟨_, rfl⟩) hlk rfl dJ1_getFloorEntry_106
  · have hm := od_s hm
    refine lv_ifnull (pc := 6) hx hb dJ1_getFloorEntry_6 ?_
    refine lv_aload_n (pc := 9) hx hb dJ1_getFloorEntry_9 rfl (lv_at hl 0 rfl) ?_
    refine lv_aload_n (pc := 10) hx hb dJ1_getFloorEntry_10 rfl (lv_at hl 1 rfl) ?_
    refine lv_aload_n (pc := 11) hx hb dJ1_getFloorEntry_11 rfl (lv_at hl 2 rfl) ?_
    obtain ⟨hg5, hm⟩ := gb_some hm
    obtain ⟨oa6, he7, hm⟩ := lo_some hm
    refine rk_get (pc := 12) hx hb hts hown hK (pl_rg hW0) flJ1_105 pa4 (Nat.lt_succ_self _) (Nat.zero_add _).symm (shP_18 (kd_PL hg5) (kd_k hg5)) (x := va_rf oa6) (congrArg (fun z => some (va_rf z)) he7) dJ1_getFloorEntry_12 ?_
    obtain ⟨pa8, he9, hm10⟩ := ob_some hm
    subst he9
    have hm := hm10
    obtain ⟨hg11, hm⟩ := gb_some hm
    obtain ⟨r12, hq13, hm⟩ := ob_some hm
    refine rk_PV (pc := 15) (As := [.ref p1, .ref pa8]) (rest := []) hx hb hml hown hts hK lkJ1_123 rfl yn_J1_compare (ct_J1_compare (G := G) (l := l) hq13 hZP) ⟨Nat.le_of_ble_eq_true rfl, Nat.le_of_ble_eq_true rfl⟩ (rp_recv hK hW0 (C := RJ1) (T := TJ1) (N := 9) rfl (shP_16 (kd_PL hg11) (kd_k hg11))) hW0 rfl rfl hl.1 (Nat.le_of_ble_eq_true rfl) dJ1_getFloorEntry_15 ⟨Nat.zero_le _, Nat.zero_le _⟩ ?_
    refine W.eq (g2 := F0 m 18 ls [.int r12]) rfl ?_
    refine lv_istore_n (pc := 18) (lv' := [(3, .int r12), (0, .ref p0), (1, .ref p1), (2, .ref pa4)]) hx hb dJ1_getFloorEntry_18 rfl hl (by decide) rfl (fun ls hl => ?_)
    refine lv_iload_n (pc := 19) hx hb dJ1_getFloorEntry_19 rfl (lv_at hl 0 rfl) ?_
    refine lv_if_le (pc := 20) (tgt := 40) hx hb dJ1_getFloorEntry_20 (by decide) (fun c14 => ?_) (fun c14 => ?_)
    · have hm := ite_t c14 hm
      refine lv_iload_n (pc := 40) hx hb dJ1_getFloorEntry_40 rfl (lv_at hl 0 rfl) ?_
      refine lv_if_ge (pc := 41) (tgt := 100) hx hb dJ1_getFloorEntry_41 (by decide) (fun c15 => ?_) (fun c15 => ?_)
      · have hm := ite_t c15 hm
        refine lv_aload_n (pc := 100) hx hb dJ1_getFloorEntry_100 rfl (lv_at hl 3 rfl) ?_
        have e9 := rs1 hm
        subst e9
        exact rp_aretP (x := (some pa4)) (pc := 101) hx hb hr (Or.inl ⟨_, rfl⟩) hlk rfl dJ1_getFloorEntry_101
      · have hm := ite_f c15 hm
        refine lv_aload_n (pc := 44) hx hb dJ1_getFloorEntry_44 rfl (lv_at hl 3 rfl) ?_
        obtain ⟨hg16, hm⟩ := gb_some hm
        obtain ⟨oa17, he18, hm⟩ := lo_some hm
        refine rk_get (pc := 45) hx hb hts hown hK (pl_rg hW0) flJ1_111 pa4 (Nat.lt_succ_self _) (Nat.zero_add _).symm (shP_18 (kd_PL hg16) (kd_k hg16)) (x := va_rf oa17) (congrArg (fun z => some (va_rf z)) he18) dJ1_getFloorEntry_45 ?_
        rcases oa17 with _ | pa19
        · have hm := od_n hm
          refine lv_ifnullN (pc := 48) (tgt := 59) hx hb dJ1_getFloorEntry_48 (by decide) ?_
          refine lv_aload_n (pc := 59) hx hb dJ1_getFloorEntry_59 rfl (lv_at hl 3 rfl) ?_
          obtain ⟨hg20, hm⟩ := gb_some hm
          obtain ⟨oa21, he22, hm⟩ := lo_some hm
          refine rk_get (pc := 60) hx hb hts hown hK (pl_rg hW0) flJ1_124 pa4 (Nat.lt_succ_self _) (Nat.zero_add _).symm (shP_18 (kd_PL hg20) (kd_k hg20)) (x := va_rf oa21) (congrArg (fun z => some (va_rf z)) he22) dJ1_getFloorEntry_60 ?_
          refine lv_astoreO (pc := 63) (lv' := [(4, va_rf oa21), (3, .int r12), (0, .ref p0), (1, .ref p1), (2, .ref pa4)]) hx hb dJ1_getFloorEntry_63 hl (by decide) rfl (fun ls hl => ?_)
          refine lv_aload_n (pc := 65) hx hb dJ1_getFloorEntry_65 rfl (lv_at hl 4 rfl) ?_
          refine lv_astore (pc := 66) (lv' := [(5, .ref pa4), (4, va_rf oa21), (3, .int r12), (0, .ref p0), (1, .ref p1), (2, .ref pa4)]) hx hb dJ1_getFloorEntry_66 hl (by decide) (by simp [List.filter, cat_rf]) (fun ls hl => ?_)
          exact (w_fJ1_getFloorEntry_68_l C hW0 hZP FU) oa21 (some pa4) hm ls (lv_sub hl [1, 0] rfl)
        · have hm := od_s hm
          refine lv_ifnull (pc := 48) hx hb dJ1_getFloorEntry_48 ?_
          refine lv_aload_n (pc := 51) hx hb dJ1_getFloorEntry_51 rfl (lv_at hl 3 rfl) ?_
          obtain ⟨hg23, hm⟩ := gb_some hm
          obtain ⟨oa24, he25, hm⟩ := lo_some hm
          refine rk_get (pc := 52) hx hb hts hown hK (pl_rg hW0) flJ1_111 pa4 (Nat.lt_succ_self _) (Nat.zero_add _).symm (shP_18 (kd_PL hg23) (kd_k hg23)) (x := va_rf oa24) (congrArg (fun z => some (va_rf z)) he25) dJ1_getFloorEntry_52 ?_
          refine lv_astore_nO (pc := 55) (lv' := [(2, va_rf oa24), (3, .int r12), (0, .ref p0), (1, .ref p1)]) hx hb dJ1_getFloorEntry_55 rfl hl (by decide) rfl (fun ls hl => ?_)
          refine lv_goto (pc := 56) (tgt := 102) hx hb dJ1_getFloorEntry_56 (by decide) ?_
          refine lv_goto (pc := 102) (tgt := 5) hx hb dJ1_getFloorEntry_102 (by decide) ?_
          exact hk5 p0 p1 oa24 hm ls (lv_sub hl [2, 3, 0] rfl)
    · have hm := ite_f c14 hm
      refine lv_aload_n (pc := 23) hx hb dJ1_getFloorEntry_23 rfl (lv_at hl 3 rfl) ?_
      obtain ⟨hg26, hm⟩ := gb_some hm
      obtain ⟨oa27, he28, hm⟩ := lo_some hm
      refine rk_get (pc := 24) hx hb hts hown hK (pl_rg hW0) flJ1_114 pa4 (Nat.lt_succ_self _) (Nat.zero_add _).symm (shP_18 (kd_PL hg26) (kd_k hg26)) (x := va_rf oa27) (congrArg (fun z => some (va_rf z)) he28) dJ1_getFloorEntry_24 ?_
      rcases oa27 with _ | pa29
      · have hm := od_n hm
        refine lv_ifnullN (pc := 27) (tgt := 38) hx hb dJ1_getFloorEntry_27 (by decide) ?_
        refine lv_aload_n (pc := 38) hx hb dJ1_getFloorEntry_38 rfl (lv_at hl 3 rfl) ?_
        have e9 := rs1 hm
        subst e9
        exact rp_aretP (x := (some pa4)) (pc := 39) hx hb hr (Or.inl ⟨_, rfl⟩) hlk rfl dJ1_getFloorEntry_39
      · have hm := od_s hm
        refine lv_ifnull (pc := 27) hx hb dJ1_getFloorEntry_27 ?_
        refine lv_aload_n (pc := 30) hx hb dJ1_getFloorEntry_30 rfl (lv_at hl 3 rfl) ?_
        obtain ⟨hg30, hm⟩ := gb_some hm
        obtain ⟨oa31, he32, hm⟩ := lo_some hm
        refine rk_get (pc := 31) hx hb hts hown hK (pl_rg hW0) flJ1_114 pa4 (Nat.lt_succ_self _) (Nat.zero_add _).symm (shP_18 (kd_PL hg30) (kd_k hg30)) (x := va_rf oa31) (congrArg (fun z => some (va_rf z)) he32) dJ1_getFloorEntry_31 ?_
        refine lv_astore_nO (pc := 34) (lv' := [(2, va_rf oa31), (3, .int r12), (0, .ref p0), (1, .ref p1)]) hx hb dJ1_getFloorEntry_34 rfl hl (by decide) rfl (fun ls hl => ?_)
        refine lv_goto (pc := 35) (tgt := 102) hx hb dJ1_getFloorEntry_35 (by decide) ?_
        refine lv_goto (pc := 102) (tgt := 5) hx hb dJ1_getFloorEntry_102 (by decide) ?_
        exact hk5 p0 p1 oa31 hm ls (lv_sub hl [2, 3, 0] rfl)
theorem w_fJ1_getFloorEntry_5_l (C : Cx G p s m args meth c RJ1 cJ1_getFloorEntry 6 (some (.object "java/util/TreeMap$Entry"))) {PL : Nat → Bool} {V0 : Mem} {rx : Option Nat} (hW0 : pl G PL V0 s.heap) (hZP : ZP G) : ∀ (n : Nat) (p0 : Nat) (p1 : Nat) (o2 : Option Nat), lq3 (fJ1_getFloorEntry_5 PL V0) n p0 p1 o2 = some rx → ∀ (ls : Array Slot), lv_has ls 6 [(0, .ref p0), (1, .ref p1), (2, va_rf o2)] → W p l e (rmP 3 66) s m args below meth c s.heap [] 0 0 (MQ below (QcP (some (va_rf rx))) args s 0 0 (fun _ => False)) (F0 m 5 ls []) := by
  intro n
  induction n with
  | zero => intro p0 p1 o2 hm; exact (lq3_0 hm).elim
  | succ n ih => intro p0 p1 o2 hm; exact w_fJ1_getFloorEntry_5 C hW0 hZP ih p0 p1 o2 (lq3_s hm)
set_option maxHeartbeats 4000000 in
theorem w_fJ1_getFloorEntry (C : Cx G p s m args meth c RJ1 cJ1_getFloorEntry 6 (some (.object "java/util/TreeMap$Entry"))) {PL : Nat → Bool} {V0 : Mem} {rx : Option Nat} (hW0 : pl G PL V0 s.heap) (hZP : ZP G) : ∀ (p0 : Nat) (p1 : Nat), fJ1_getFloorEntry PL V0 p0 p1 = some rx → ∀ (ls : Array Slot), lv_has ls 6 [(0, .ref p0), (1, .ref p1)] → W p l e (rmP 3 66) s m args below meth c s.heap [] 0 0 (MQ below (QcP (some (va_rf rx))) args s 0 0 (fun _ => False)) (F0 m 0 ls []) := by
  intro p0 p1 hm ls hl
  obtain ⟨hx, hb, hr, hlk, hml, hown, hts, hK⟩ := id C
  unfold fJ1_getFloorEntry at hm
  refine lv_aload_n (pc := 0) hx hb dJ1_getFloorEntry_0 rfl (lv_at hl 0 rfl) ?_
  obtain ⟨hg1, hm⟩ := gb_some hm
  obtain ⟨oa2, he3, hm⟩ := lo_some hm
  refine rk_get (pc := 1) hx hb hts hown hK (pl_rg hW0) flJ1_101 p0 (Nat.lt_succ_self _) (Nat.zero_add _).symm (shP_16 (kd_PL hg1) (kd_k hg1)) (x := va_rf oa2) (congrArg (fun z => some (va_rf z)) he3) dJ1_getFloorEntry_1 ?_
  refine lv_astore_nO (pc := 4) (lv' := [(2, va_rf oa2), (0, .ref p0), (1, .ref p1)]) hx hb dJ1_getFloorEntry_4 rfl hl (by decide) rfl (fun ls hl => ?_)
  exact (w_fJ1_getFloorEntry_5_l C hW0 hZP FU) p0 p1 oa2 hm ls (lv_sub hl [1, 2, 0] rfl)
set_option maxHeartbeats 4000000 in
theorem ct_J1_getFloorEntry {G : Gv} {l : Launch} {PL : Nat → Bool} {V0 : Mem} {p0 : Nat} {p1 : Nat} {rx : Option Nat} (hm : fJ1_getFloorEntry PL V0 p0 p1 = some rx) (hZP : ZP G) : CP G l yJ1_getFloorEntry (ws_ yJ1_getFloorEntry cJ1_getFloorEntry 6 (some (.object "java/util/TreeMap$Entry"))) 3 66 [.ref p0, .ref p1] (fun H => pl G PL V0 H) (some (va_rf rx)) := by
  refine Met.ofW (cc := cJ1_getFloorEntry) (maxL := 6) (ret := (some (.object "java/util/TreeMap$Entry"))) (by decide +kernel) rfl ?_
  intro p e s m args below meth c s₁ B hml hv
  obtain ⟨rfl, hW0, hK⟩ := hv
  have hts := atoms_spec (ws := ws_ yJ1_getFloorEntry cJ1_getFloorEntry 6 (some (.object "java/util/TreeMap$Entry"))) B.pre
  have hts : ∀ w ∈ lw_all, w.before _ s = true := fun w h => hts w (List.mem_cons_of_mem _ h)
  have C : Cx G p s m _ meth c RJ1 cJ1_getFloorEntry 6 (some (.object "java/util/TreeMap$Entry")) := ⟨B.exec, B.bytes, B.returns, B.notSynchronized, hml, findClass_of_methodNamed B.named, hts, hK⟩
  have hl := lv_entry ([.ref p0, .ref p1]) (n := 6) (Nat.le_of_ble_eq_true rfl)
  rw [lg_entry_eq]
  generalize (lg_sl ([.ref p0, .ref p1]) ++ List.replicate (6 - (lg_sl ([.ref p0, .ref p1])).length) Slot.unset).toArray = ls at hl ⊢
  have hl : lv_has ls 6 [(0, .ref p0), (1, .ref p1)] := hl
  exact w_fJ1_getFloorEntry C hW0 hZP _ _ hm ls hl
end
