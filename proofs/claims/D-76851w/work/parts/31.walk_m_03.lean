set_option maxRecDepth 100000
section
variable {p : Program} {l : Launch} {e : Env} {s : State} {m : MethodId} {args : Array Value} {below : List Frame} {meth : Method} {c : Code} {G : Gv}
theorem yn_X9_isNear : YN yX9_isNear 1 := by
  unfold YN
  decide +kernel
theorem lkX9_225 : LSt RX9 225 yX9_isNear cX9_isNear 2 (some .boolean) := ⟨q2066, q2067, q128, q2068⟩
theorem fnX9_232 : FN RX9 232 10 4 RX10 TX10 20 "WholePacksModel" := ⟨in_X10, rfl, by decide, q1760⟩
theorem fnX9_229 : FN RX9 229 10 3 RX10 TX10 20 "WholePacksModel" := ⟨in_X10, rfl, by decide, q1758⟩
theorem fnX9_235 : FN RX9 235 10 5 RX10 TX10 20 "WholePacksModel" := ⟨in_X10, rfl, by decide, q1762⟩
noncomputable def fX9_tries_309 (V0 : Mem) (k244 : Mem → Int32 → Int32 → Int64 → Int32 → Int32 → Option (Int32 × Mem)) (v1 : Mem) (i2 : Int32) (i3 : Int32) (j4 : Int64) (i6 : Int32) (i7 : Int32) (t1 : Int32) (u2 : Int64) : Option (Int32 × Mem) :=
  gb (inR t1 5) (
  lm (sL v1 6 t1.toNatClampNeg u2) fun v1_59 =>
  gb (inR i7 5) (
  ob (fX9_isNear (gL v1_59 6 i7.toNatClampNeg)) fun r69 =>
  k244 v1_59 i2 i3 j4 (i6 &&& r69) (i7 + (1 : Int32))))
noncomputable def fX9_tries_244 (V0 : Mem) (k244 : Mem → Int32 → Int32 → Int64 → Int32 → Int32 → Option (Int32 × Mem)) (v1 : Mem) (i2 : Int32) (i3 : Int32) (j4 : Int64) (i6 : Int32) (i7 : Int32) : Option (Int32 × Mem) :=
  if (gI v1 0 14) ≤ i7 then (
  if i6 = 0 then (
  some ((0 : Int32), v1))
  else (
  gb (inR i3 5) (
  gb (inR i2 20) (
  gb (nz64 (gL v1 0 13)) (
  ob (fX9_isNear (((j4 * (gL v1 0 12)) - ((gL v1 3 i3.toNatClampNeg) * (gL v1 2 i2.toNatClampNeg))) / (gL v1 0 13))) fun r49 =>
  if r49 = 0 then (
  some ((0 : Int32), v1))
  else (
  some ((1 : Int32), v1)))))))
  else (
  if i7 = i3 then (
  gb (inR i7 5) (
  fX9_tries_309 V0 k244 v1 i2 i3 j4 i6 i7 i7 (gL v1 3 i7.toNatClampNeg)))
  else (
  gb (inR i7 5) (
  gb (inR i3 5) (
  gb (inR (((5 : Int32) * i2) + i7) 100) (
  gb (nz64 (gL v1 0 13)) (
  fX9_tries_309 V0 k244 v1 i2 i3 j4 i6 i7 i7 (((j4 * (gL v1 3 i7.toNatClampNeg)) + ((gL v1 3 i3.toNatClampNeg) * (gL v1 1 (((5 : Int32) * i2) + i7).toNatClampNeg))) / (gL v1 0 13))))))))
noncomputable def fX9_tries_219 (V0 : Mem) (k23 : Mem → Int32 → Int32 → Int64 → Int32 → Int32 → Option (Int32 × Mem)) (v1 : Mem) (i2 : Int32) (i3 : Int32) (j4 : Int64) (i6 : Int32) (i7 : Int32) (t1 : Int32) (u2 : Int64) : Option (Int32 × Mem) :=
  gb (inR t1 20) (
  lm (sL v1 5 t1.toNatClampNeg u2) fun v1_32 =>
  gb (inR i7 20) (
  ob (fX9_isNear (gL v1_32 5 i7.toNatClampNeg)) fun r42 =>
  k23 v1_32 i2 i3 j4 (i6 &&& r42) (i7 + (1 : Int32))))
noncomputable def fX9_tries_139 (V0 : Mem) (k23 : Mem → Int32 → Int32 → Int64 → Int32 → Int32 → Option (Int32 × Mem)) (k48 : Mem → Int32 → Int32 → Int64 → Int32 → Int32 → Int64 → Int32 → Option (Int32 × Mem)) (v1 : Mem) (i2 : Int32) (i3 : Int32) (j4 : Int64) (i6 : Int32) (i7 : Int32) (j8 : Int64) (i10 : Int32) (u0 : Int64) : Option (Int32 × Mem) :=
  gb (inR (((5 : Int32) * i7) + i10) 100) (
  lm (sL v1 4 (((5 : Int32) * i7) + i10).toNatClampNeg u0) fun v1_20 =>
  ob (fX9_isNear u0) fun r29 =>
  k48 v1_20 i2 i3 j4 (i6 &&& r29) i7 j8 (i10 + (1 : Int32)))
noncomputable def fX9_tries_48 (V0 : Mem) (k23 : Mem → Int32 → Int32 → Int64 → Int32 → Int32 → Option (Int32 × Mem)) (k48 : Mem → Int32 → Int32 → Int64 → Int32 → Int32 → Int64 → Int32 → Option (Int32 × Mem)) (v1 : Mem) (i2 : Int32) (i3 : Int32) (j4 : Int64) (i6 : Int32) (i7 : Int32) (j8 : Int64) (i10 : Int32) : Option (Int32 × Mem) :=
  if (gI v1 0 14) ≤ i10 then (
  if i7 = i2 then (
  gb (inR i7 20) (
  fX9_tries_219 V0 k23 v1 i2 i3 j4 i6 i7 i7 (-(gL v1 2 i7.toNatClampNeg))))
  else (
  gb (inR i7 20) (
  gb (inR i2 20) (
  gb (nz64 (gL v1 0 13)) (
  fX9_tries_219 V0 k23 v1 i2 i3 j4 i6 i7 i7 (((j4 * (gL v1 2 i7.toNatClampNeg)) + (j8 * (gL v1 2 i2.toNatClampNeg))) / (gL v1 0 13)))))))
  else (
  if i7 = i2 then (
  if i10 = i3 then (
  fX9_tries_139 V0 k23 k48 v1 i2 i3 j4 i6 i7 j8 i10 (-(gL v1 0 13)))
  else (
  gb (inR (((5 : Int32) * i7) + i10) 100) (
  fX9_tries_139 V0 k23 k48 v1 i2 i3 j4 i6 i7 j8 i10 (-(gL v1 1 (((5 : Int32) * i7) + i10).toNatClampNeg)))))
  else (
  if i10 = i3 then (
  fX9_tries_139 V0 k23 k48 v1 i2 i3 j4 i6 i7 j8 i10 j8)
  else (
  gb (inR (((5 : Int32) * i7) + i10) 100) (
  gb (inR (((5 : Int32) * i2) + i10) 100) (
  gb (nz64 (gL v1 0 13)) (
  fX9_tries_139 V0 k23 k48 v1 i2 i3 j4 i6 i7 j8 i10 (((j4 * (gL v1 1 (((5 : Int32) * i7) + i10).toNatClampNeg)) + (j8 * (gL v1 1 (((5 : Int32) * i2) + i10).toNatClampNeg))) / (gL v1 0 13))))))))
noncomputable def fX9_tries_23 (V0 : Mem) (k23 : Mem → Int32 → Int32 → Int64 → Int32 → Int32 → Option (Int32 × Mem)) (v1 : Mem) (i2 : Int32) (i3 : Int32) (j4 : Int64) (i6 : Int32) (i7 : Int32) : Option (Int32 × Mem) :=
  if (gI v1 0 15) ≤ i7 then (
  lq6 (fX9_tries_244 V0) FU v1 i2 i3 j4 i6 (0 : Int32))
  else (
  gb (inR (((5 : Int32) * i7) + i3) 100) (
  lq8 (fX9_tries_48 V0 k23) FU v1 i2 i3 j4 i6 i7 (gL v1 1 (((5 : Int32) * i7) + i3).toNatClampNeg) (0 : Int32)))
noncomputable def fX9_tries (V0 : Mem) (v1 : Mem) (i2 : Int32) (i3 : Int32) : Option (Int32 × Mem) :=
  gb (inR (((5 : Int32) * i2) + i3) 100) (
  ob (fX9_isNear (-(gL v1 1 (((5 : Int32) * i2) + i3).toNatClampNeg))) fun r2 =>
  lq6 (fX9_tries_23 V0) FU v1 i2 i3 (-(gL v1 1 (((5 : Int32) * i2) + i3).toNatClampNeg)) r2 (0 : Int32))
set_option maxHeartbeats 4000000 in
theorem w_fX9_tries_309 (C : Cx G p s m args meth c RX9 cX9_tries 13 (some .boolean)) {b0 : Nat} {b1 : Nat} {V0 : Mem} {rx : Int32} {rw1 : Mem} (hd01 : b0 + 6 ≤ b1 ∨ b1 + 13 ≤ b0) {k244 : Mem → Int32 → Int32 → Int64 → Int32 → Int32 → Option (Int32 × Mem)} (hk244 : ∀ (v1 : Mem) (i2 : Int32) (i3 : Int32) (j4 : Int64) (i6 : Int32) (i7 : Int32), k244 v1 i2 i3 j4 i6 i7 = some (rx, rw1) → ∀ (H : Heap) (locs : List Loc) (ls : Array Slot), rg G b0 6 (shX9 G.2.1) V0 H → rg G b1 13 (shX10 G.2.1) v1 H → va_S (FA (iv b1 13) s.heap.size) s.heap H locs → H.size = s.heap.size → lv_has ls 13 [(1, .ref b1), (2, .int i2), (3, .int i3), (4, .long j4), (6, .int i6), (7, .int i7)] → W p l e (rmT 1 0 0 21) s m args below meth c H locs 0 0 (MQ below (QcT (FA (iv b1 13) s.heap.size) (fun ov H => ov = (some (.int rx)) ∧ rg G b1 13 (shX10 G.2.1) rw1 H ∧ H.size = s.heap.size)) args s 0 0 (FA (iv b1 13) s.heap.size)) (F0 m 244 ls [])) : ∀ (v1 : Mem) (i2 : Int32) (i3 : Int32) (j4 : Int64) (i6 : Int32) (i7 : Int32) (t1 : Int32) (u2 : Int64), fX9_tries_309 V0 k244 v1 i2 i3 j4 i6 i7 t1 u2 = some (rx, rw1) → ∀ (H : Heap) (locs : List Loc) (ls : Array Slot), rg G b0 6 (shX9 G.2.1) V0 H → rg G b1 13 (shX10 G.2.1) v1 H → va_S (FA (iv b1 13) s.heap.size) s.heap H locs → H.size = s.heap.size → lv_has ls 13 [(1, .ref b1), (2, .int i2), (3, .int i3), (4, .long j4), (6, .int i6), (7, .int i7)] → W p l e (rmT 1 0 0 21) s m args below meth c H locs 0 0 (MQ below (QcT (FA (iv b1 13) s.heap.size) (fun ov H => ov = (some (.int rx)) ∧ rg G b1 13 (shX10 G.2.1) rw1 H ∧ H.size = s.heap.size)) args s 0 0 (FA (iv b1 13) s.heap.size)) (F0 m 309 ls [.long u2, .int t1, .ref (b1 + 6)]) := by
  intro v1 i2 i3 j4 i6 i7 t1 u2 hm H locs ls hW0 hW1 hS hz hl
  obtain ⟨hx, hb, hr, hlk, hml, hown, hts, hK⟩ := id C
  unfold fX9_tries_309 at hm
  obtain ⟨hg58, hm⟩ := gb_some hm
  refine rk_last (pc := 309) hx hb hK hW1 hS 6 (by decide) rfl (Or.inl (show iv _ _ _ from ⟨by omega, by omega⟩)) (fun _ _ _ => rfl) hg58 dX9_tries_309 (fun H60 locs61 hW62 hS63 hz64 hkp65 => ?_)
  obtain ⟨v1_59, he9, hm⟩ := lm_some hm
  rw [he9] at hW62
  have hW66 := rg_keepq hW0 hkp65 (by omega)
  have hz67 := hz64.trans hz
  refine lv_iload (pc := 310) hx hb dX9_tries_310 (lv_at hl 4 rfl) ?_
  refine lv_aload_n (pc := 312) hx hb dX9_tries_312 rfl (lv_at hl 0 rfl) ?_
  refine rk_getN (pc := 313) hx hb hts hown hK hW62 fnX9_235 0 (by decide) rfl rfl (x := .ref (b1 + 6)) (by first | rfl | exact congrArg (fun z => some (Value.ref z)) (by omega)) dX9_tries_313 ?_
  refine lv_iload (pc := 316) hx hb dX9_tries_316 (lv_at hl 5 rfl) ?_
  obtain ⟨hg68, hm⟩ := gb_some hm
  refine rk_lald (pc := 318) hx hb hK hW62 6 (by decide) rfl rfl hg68 (x := (gL v1_59 6 i7.toNatClampNeg)) rfl dX9_tries_318 ?_
  obtain ⟨r69, hq70, hm⟩ := ob_some hm
  refine rk_PS (pc := 319) (As := [.long (gL v1_59 6 i7.toNatClampNeg)]) (rest := [.int i6]) hx hb hml hown hts hK lkX9_225 yn_X9_isNear (ct_X9_isNear (G := G) (l := l) hq70) ⟨Nat.le_of_ble_eq_true rfl, Nat.le_of_ble_eq_true rfl⟩ trivial rfl rfl hl.1 (Nat.le_of_ble_eq_true rfl) dX9_tries_319 ⟨Nat.zero_le _, Nat.zero_le _⟩ ?_
  refine W.eq (g2 := F0 m 322 ls [.int r69, .int i6]) rfl ?_
  refine lv_iand (pc := 322) hx hb dX9_tries_322 ?_
  refine lv_istore (pc := 323) (lv' := [(6, .int (i6 &&& r69)), (1, .ref b1), (2, .int i2), (3, .int i3), (4, .long j4), (7, .int i7)]) hx hb dX9_tries_323 hl (by decide) rfl (fun ls hl => ?_)
  refine lv_iinc (pc := 325) (v := (i7 + (1 : Int32))) (lv' := [(7, .int (i7 + (1 : Int32))), (6, .int (i6 &&& r69)), (1, .ref b1), (2, .int i2), (3, .int i3), (4, .long j4)]) hx hb dX9_tries_325 hl (k := 5) rfl rfl (by decide) rfl (fun ls hl => ?_)
  refine lv_goto (pc := 328) (tgt := 244) hx hb dX9_tries_328 (by decide) ?_
  exact hk244 v1_59 i2 i3 j4 (i6 &&& r69) (i7 + (1 : Int32)) hm H60 locs61 ls hW66 hW62 hS63 hz67 (lv_sub hl [2, 3, 4, 5, 1, 0] rfl)
set_option maxHeartbeats 4000000 in
theorem w_fX9_tries_244 (C : Cx G p s m args meth c RX9 cX9_tries 13 (some .boolean)) {b0 : Nat} {b1 : Nat} {V0 : Mem} {rx : Int32} {rw1 : Mem} (hd01 : b0 + 6 ≤ b1 ∨ b1 + 13 ≤ b0) {k244 : Mem → Int32 → Int32 → Int64 → Int32 → Int32 → Option (Int32 × Mem)} (hk244 : ∀ (v1 : Mem) (i2 : Int32) (i3 : Int32) (j4 : Int64) (i6 : Int32) (i7 : Int32), k244 v1 i2 i3 j4 i6 i7 = some (rx, rw1) → ∀ (H : Heap) (locs : List Loc) (ls : Array Slot), rg G b0 6 (shX9 G.2.1) V0 H → rg G b1 13 (shX10 G.2.1) v1 H → va_S (FA (iv b1 13) s.heap.size) s.heap H locs → H.size = s.heap.size → lv_has ls 13 [(1, .ref b1), (2, .int i2), (3, .int i3), (4, .long j4), (6, .int i6), (7, .int i7)] → W p l e (rmT 1 0 0 21) s m args below meth c H locs 0 0 (MQ below (QcT (FA (iv b1 13) s.heap.size) (fun ov H => ov = (some (.int rx)) ∧ rg G b1 13 (shX10 G.2.1) rw1 H ∧ H.size = s.heap.size)) args s 0 0 (FA (iv b1 13) s.heap.size)) (F0 m 244 ls [])) : ∀ (v1 : Mem) (i2 : Int32) (i3 : Int32) (j4 : Int64) (i6 : Int32) (i7 : Int32), fX9_tries_244 V0 k244 v1 i2 i3 j4 i6 i7 = some (rx, rw1) → ∀ (H : Heap) (locs : List Loc) (ls : Array Slot), rg G b0 6 (shX9 G.2.1) V0 H → rg G b1 13 (shX10 G.2.1) v1 H → va_S (FA (iv b1 13) s.heap.size) s.heap H locs → H.size = s.heap.size → lv_has ls 13 [(1, .ref b1), (2, .int i2), (3, .int i3), (4, .long j4), (6, .int i6), (7, .int i7)] → W p l e (rmT 1 0 0 21) s m args below meth c H locs 0 0 (MQ below (QcT (FA (iv b1 13) s.heap.size) (fun ov H => ov = (some (.int rx)) ∧ rg G b1 13 (shX10 G.2.1) rw1 H ∧ H.size = s.heap.size)) args s 0 0 (FA (iv b1 13) s.heap.size)) (F0 m 244 ls []) := by
  intro v1 i2 i3 j4 i6 i7 hm H locs ls hW0 hW1 hS hz hl
  obtain ⟨hx, hb, hr, hlk, hml, hown, hts, hK⟩ := id C
  unfold fX9_tries_244 at hm
  refine lv_iload (pc := 244) hx hb dX9_tries_244 (lv_at hl 5 rfl) ?_
  refine lv_aload_n (pc := 246) hx hb dX9_tries_246 rfl (lv_at hl 0 rfl) ?_
  refine rk_getN (pc := 247) hx hb hts hown hK hW1 fnX9_172 0 (by decide) rfl rfl (x := .int (gI v1 0 14)) rfl dX9_tries_247 ?_
  refine lv_icmp_ge (pc := 250) (tgt := 331) hx hb dX9_tries_250 (by decide) (fun c44 => ?_) (fun c44 => ?_)
  · have hm := ite_t c44 hm
    refine lv_iload (pc := 331) hx hb dX9_tries_331 (lv_at hl 4 rfl) ?_
    refine lv_if_eq (pc := 333) (tgt := 372) hx hb dX9_tries_333 (by decide) (fun c45 => ?_) (fun c45 => ?_)
    · have hm := ite_t c45 hm
      refine lv_iconst (pc := 372) (v := (0 : Int32)) hx hb dX9_tries_372 (by decide) ?_
      obtain ⟨e8, e9⟩ := rs2 hm
      subst e8
      subst e9
      exact rk_zret (pc := 373) hx hb hr hlk rfl hS ⟨rfl, hW1, hz⟩ dX9_tries_373
    · have hm := ite_f c45 hm
      refine lv_lload (pc := 336) hx hb dX9_tries_336 (lv_at hl 3 rfl) ?_
      refine lv_aload_n (pc := 338) hx hb dX9_tries_338 rfl (lv_at hl 0 rfl) ?_
      refine rk_getN (pc := 339) hx hb hts hown hK hW1 fnX9_193 0 (by decide) rfl rfl (x := .long (gL v1 0 12)) rfl dX9_tries_339 ?_
      refine lv_lmul (pc := 342) hx hb dX9_tries_342 ?_
      refine lv_aload_n (pc := 343) hx hb dX9_tries_343 rfl (lv_at hl 0 rfl) ?_
      refine rk_getN (pc := 344) hx hb hts hown hK hW1 fnX9_203 0 (by decide) rfl rfl (x := .ref (b1 + 3)) (by first | rfl | exact congrArg (fun z => some (Value.ref z)) (by omega)) dX9_tries_344 ?_
      refine lv_iload_n (pc := 347) hx hb dX9_tries_347 rfl (lv_at hl 2 rfl) ?_
      obtain ⟨hg46, hm⟩ := gb_some hm
      refine rk_lald (pc := 348) hx hb hK hW1 3 (by decide) rfl rfl hg46 (x := (gL v1 3 i3.toNatClampNeg)) rfl dX9_tries_348 ?_
      refine lv_aload_n (pc := 349) hx hb dX9_tries_349 rfl (lv_at hl 0 rfl) ?_
      refine rk_getN (pc := 350) hx hb hts hown hK hW1 fnX9_184 0 (by decide) rfl rfl (x := .ref (b1 + 2)) (by first | rfl | exact congrArg (fun z => some (Value.ref z)) (by omega)) dX9_tries_350 ?_
      refine lv_iload_n (pc := 353) hx hb dX9_tries_353 rfl (lv_at hl 1 rfl) ?_
      obtain ⟨hg47, hm⟩ := gb_some hm
      refine rk_lald (pc := 354) hx hb hK hW1 2 (by decide) rfl rfl hg47 (x := (gL v1 2 i2.toNatClampNeg)) rfl dX9_tries_354 ?_
      refine lv_lmul (pc := 355) hx hb dX9_tries_355 ?_
      refine lv_lsub (pc := 356) hx hb dX9_tries_356 ?_
      refine lv_aload_n (pc := 357) hx hb dX9_tries_357 rfl (lv_at hl 0 rfl) ?_
      refine rk_getN (pc := 358) hx hb hts hown hK hW1 fnX9_197 0 (by decide) rfl rfl (x := .long (gL v1 0 13)) rfl dX9_tries_358 ?_
      obtain ⟨hg48, hm⟩ := gb_some hm
      refine lv_ldiv (pc := 361) hx hb dX9_tries_361 (nz64_ne hg48) ?_
      obtain ⟨r49, hq50, hm⟩ := ob_some hm
      refine rk_PS (pc := 362) (As := [.long (((j4 * (gL v1 0 12)) - ((gL v1 3 i3.toNatClampNeg) * (gL v1 2 i2.toNatClampNeg))) / (gL v1 0 13))]) (rest := []) hx hb hml hown hts hK lkX9_225 yn_X9_isNear (ct_X9_isNear (G := G) (l := l) hq50) ⟨Nat.le_of_ble_eq_true rfl, Nat.le_of_ble_eq_true rfl⟩ trivial rfl rfl hl.1 (Nat.le_of_ble_eq_true rfl) dX9_tries_362 ⟨Nat.zero_le _, Nat.zero_le _⟩ ?_
      refine W.eq (g2 := F0 m 365 ls [.int r49]) rfl ?_
      refine lv_if_eq (pc := 365) (tgt := 372) hx hb dX9_tries_365 (by decide) (fun c51 => ?_) (fun c51 => ?_)
      · have hm := ite_t c51 hm
        refine lv_iconst (pc := 372) (v := (0 : Int32)) hx hb dX9_tries_372 (by decide) ?_
        obtain ⟨e8, e9⟩ := rs2 hm
        subst e8
        subst e9
        exact rk_zret (pc := 373) hx hb hr hlk rfl hS ⟨rfl, hW1, hz⟩ dX9_tries_373
      · have hm := ite_f c51 hm
        refine lv_iconst (pc := 368) (v := (1 : Int32)) hx hb dX9_tries_368 (by decide) ?_
        refine lv_goto (pc := 369) (tgt := 373) hx hb dX9_tries_369 (by decide) ?_
        obtain ⟨e8, e9⟩ := rs2 hm
        subst e8
        subst e9
        exact rk_zret (pc := 373) hx hb hr hlk rfl hS ⟨rfl, hW1, hz⟩ dX9_tries_373
  · have hm := ite_f c44 hm
    refine lv_aload_n (pc := 253) hx hb dX9_tries_253 rfl (lv_at hl 0 rfl) ?_
    refine rk_getN (pc := 254) hx hb hts hown hK hW1 fnX9_235 0 (by decide) rfl rfl (x := .ref (b1 + 6)) (by first | rfl | exact congrArg (fun z => some (Value.ref z)) (by omega)) dX9_tries_254 ?_
    refine lv_iload (pc := 257) hx hb dX9_tries_257 (lv_at hl 5 rfl) ?_
    refine lv_iload (pc := 259) hx hb dX9_tries_259 (lv_at hl 5 rfl) ?_
    refine lv_iload_n (pc := 261) hx hb dX9_tries_261 rfl (lv_at hl 2 rfl) ?_
    refine lv_icmp_ne (pc := 262) (tgt := 275) hx hb dX9_tries_262 (by decide) (fun c52 => ?_) (fun c52 => ?_)
    · have hm := ite_f c52 hm
      refine lv_lload (pc := 275) hx hb dX9_tries_275 (lv_at hl 3 rfl) ?_
      refine lv_aload_n (pc := 277) hx hb dX9_tries_277 rfl (lv_at hl 0 rfl) ?_
      refine rk_getN (pc := 278) hx hb hts hown hK hW1 fnX9_203 0 (by decide) rfl rfl (x := .ref (b1 + 3)) (by first | rfl | exact congrArg (fun z => some (Value.ref z)) (by omega)) dX9_tries_278 ?_
      refine lv_iload (pc := 281) hx hb dX9_tries_281 (lv_at hl 5 rfl) ?_
      obtain ⟨hg53, hm⟩ := gb_some hm
      refine rk_lald (pc := 283) hx hb hK hW1 3 (by decide) rfl rfl hg53 (x := (gL v1 3 i7.toNatClampNeg)) rfl dX9_tries_283 ?_
      refine lv_lmul (pc := 284) hx hb dX9_tries_284 ?_
      refine lv_aload_n (pc := 285) hx hb dX9_tries_285 rfl (lv_at hl 0 rfl) ?_
      refine rk_getN (pc := 286) hx hb hts hown hK hW1 fnX9_203 0 (by decide) rfl rfl (x := .ref (b1 + 3)) (by first | rfl | exact congrArg (fun z => some (Value.ref z)) (by omega)) dX9_tries_286 ?_
      refine lv_iload_n (pc := 289) hx hb dX9_tries_289 rfl (lv_at hl 2 rfl) ?_
      obtain ⟨hg54, hm⟩ := gb_some hm
      refine rk_lald (pc := 290) hx hb hK hW1 3 (by decide) rfl rfl hg54 (x := (gL v1 3 i3.toNatClampNeg)) rfl dX9_tries_290 ?_
      refine lv_aload_n (pc := 291) hx hb dX9_tries_291 rfl (lv_at hl 0 rfl) ?_
      refine rk_getN (pc := 292) hx hb hts hown hK hW1 fnX9_175 0 (by decide) rfl rfl (x := .ref (b1 + 1)) (by first | rfl | exact congrArg (fun z => some (Value.ref z)) (by omega)) dX9_tries_292 ?_
      refine lv_iconst (pc := 295) (v := (5 : Int32)) hx hb dX9_tries_295 (by decide) ?_
      refine lv_iload_n (pc := 296) hx hb dX9_tries_296 rfl (lv_at hl 1 rfl) ?_
      refine lv_imul (pc := 297) hx hb dX9_tries_297 ?_
      refine lv_iload (pc := 298) hx hb dX9_tries_298 (lv_at hl 5 rfl) ?_
      refine lv_iadd (pc := 300) hx hb dX9_tries_300 ?_
      obtain ⟨hg55, hm⟩ := gb_some hm
      refine rk_lald (pc := 301) hx hb hK hW1 1 (by decide) rfl rfl hg55 (x := (gL v1 1 (((5 : Int32) * i2) + i7).toNatClampNeg)) rfl dX9_tries_301 ?_
      refine lv_lmul (pc := 302) hx hb dX9_tries_302 ?_
      refine lv_ladd (pc := 303) hx hb dX9_tries_303 ?_
      refine lv_aload_n (pc := 304) hx hb dX9_tries_304 rfl (lv_at hl 0 rfl) ?_
      refine rk_getN (pc := 305) hx hb hts hown hK hW1 fnX9_197 0 (by decide) rfl rfl (x := .long (gL v1 0 13)) rfl dX9_tries_305 ?_
      obtain ⟨hg56, hm⟩ := gb_some hm
      refine lv_ldiv (pc := 308) hx hb dX9_tries_308 (nz64_ne hg56) ?_
      exact (w_fX9_tries_309 C hd01 hk244) v1 i2 i3 j4 i6 i7 i7 (((j4 * (gL v1 3 i7.toNatClampNeg)) + ((gL v1 3 i3.toNatClampNeg) * (gL v1 1 (((5 : Int32) * i2) + i7).toNatClampNeg))) / (gL v1 0 13)) hm H locs ls hW0 hW1 hS hz (lv_sub hl [0, 1, 2, 3, 4, 5] rfl)
    · have hm := ite_t c52 hm
      refine lv_aload_n (pc := 265) hx hb dX9_tries_265 rfl (lv_at hl 0 rfl) ?_
      refine rk_getN (pc := 266) hx hb hts hown hK hW1 fnX9_203 0 (by decide) rfl rfl (x := .ref (b1 + 3)) (by first | rfl | exact congrArg (fun z => some (Value.ref z)) (by omega)) dX9_tries_266 ?_
      refine lv_iload (pc := 269) hx hb dX9_tries_269 (lv_at hl 5 rfl) ?_
      obtain ⟨hg57, hm⟩ := gb_some hm
      refine rk_lald (pc := 271) hx hb hK hW1 3 (by decide) rfl rfl hg57 (x := (gL v1 3 i7.toNatClampNeg)) rfl dX9_tries_271 ?_
      refine lv_goto (pc := 272) (tgt := 309) hx hb dX9_tries_272 (by decide) ?_
      exact (w_fX9_tries_309 C hd01 hk244) v1 i2 i3 j4 i6 i7 i7 (gL v1 3 i7.toNatClampNeg) hm H locs ls hW0 hW1 hS hz (lv_sub hl [0, 1, 2, 3, 4, 5] rfl)
theorem w_fX9_tries_244_l (C : Cx G p s m args meth c RX9 cX9_tries 13 (some .boolean)) {b0 : Nat} {b1 : Nat} {V0 : Mem} {rx : Int32} {rw1 : Mem} (hd01 : b0 + 6 ≤ b1 ∨ b1 + 13 ≤ b0) : ∀ (n : Nat) (v1 : Mem) (i2 : Int32) (i3 : Int32) (j4 : Int64) (i6 : Int32) (i7 : Int32), lq6 (fX9_tries_244 V0) n v1 i2 i3 j4 i6 i7 = some (rx, rw1) → ∀ (H : Heap) (locs : List Loc) (ls : Array Slot), rg G b0 6 (shX9 G.2.1) V0 H → rg G b1 13 (shX10 G.2.1) v1 H → va_S (FA (iv b1 13) s.heap.size) s.heap H locs → H.size = s.heap.size → lv_has ls 13 [(1, .ref b1), (2, .int i2), (3, .int i3), (4, .long j4), (6, .int i6), (7, .int i7)] → W p l e (rmT 1 0 0 21) s m args below meth c H locs 0 0 (MQ below (QcT (FA (iv b1 13) s.heap.size) (fun ov H => ov = (some (.int rx)) ∧ rg G b1 13 (shX10 G.2.1) rw1 H ∧ H.size = s.heap.size)) args s 0 0 (FA (iv b1 13) s.heap.size)) (F0 m 244 ls []) := by
  intro n
  induction n with
  | zero => intro v1 i2 i3 j4 i6 i7 hm; exact (lq6_0 hm).elim
  | succ n ih => intro v1 i2 i3 j4 i6 i7 hm; exact w_fX9_tries_244 C hd01 ih v1 i2 i3 j4 i6 i7 (lq6_s hm)
set_option maxHeartbeats 4000000 in
theorem w_fX9_tries_219 (C : Cx G p s m args meth c RX9 cX9_tries 13 (some .boolean)) {b0 : Nat} {b1 : Nat} {V0 : Mem} {rx : Int32} {rw1 : Mem} (hd01 : b0 + 6 ≤ b1 ∨ b1 + 13 ≤ b0) {k23 : Mem → Int32 → Int32 → Int64 → Int32 → Int32 → Option (Int32 × Mem)} (hk23 : ∀ (v1 : Mem) (i2 : Int32) (i3 : Int32) (j4 : Int64) (i6 : Int32) (i7 : Int32), k23 v1 i2 i3 j4 i6 i7 = some (rx, rw1) → ∀ (H : Heap) (locs : List Loc) (ls : Array Slot), rg G b0 6 (shX9 G.2.1) V0 H → rg G b1 13 (shX10 G.2.1) v1 H → va_S (FA (iv b1 13) s.heap.size) s.heap H locs → H.size = s.heap.size → lv_has ls 13 [(1, .ref b1), (2, .int i2), (3, .int i3), (4, .long j4), (6, .int i6), (7, .int i7)] → W p l e (rmT 1 0 0 21) s m args below meth c H locs 0 0 (MQ below (QcT (FA (iv b1 13) s.heap.size) (fun ov H => ov = (some (.int rx)) ∧ rg G b1 13 (shX10 G.2.1) rw1 H ∧ H.size = s.heap.size)) args s 0 0 (FA (iv b1 13) s.heap.size)) (F0 m 23 ls [])) : ∀ (v1 : Mem) (i2 : Int32) (i3 : Int32) (j4 : Int64) (i6 : Int32) (i7 : Int32) (t1 : Int32) (u2 : Int64), fX9_tries_219 V0 k23 v1 i2 i3 j4 i6 i7 t1 u2 = some (rx, rw1) → ∀ (H : Heap) (locs : List Loc) (ls : Array Slot), rg G b0 6 (shX9 G.2.1) V0 H → rg G b1 13 (shX10 G.2.1) v1 H → va_S (FA (iv b1 13) s.heap.size) s.heap H locs → H.size = s.heap.size → lv_has ls 13 [(1, .ref b1), (2, .int i2), (3, .int i3), (4, .long j4), (6, .int i6), (7, .int i7)] → W p l e (rmT 1 0 0 21) s m args below meth c H locs 0 0 (MQ below (QcT (FA (iv b1 13) s.heap.size) (fun ov H => ov = (some (.int rx)) ∧ rg G b1 13 (shX10 G.2.1) rw1 H ∧ H.size = s.heap.size)) args s 0 0 (FA (iv b1 13) s.heap.size)) (F0 m 219 ls [.long u2, .int t1, .ref (b1 + 5)]) := by
  intro v1 i2 i3 j4 i6 i7 t1 u2 hm H locs ls hW0 hW1 hS hz hl
  obtain ⟨hx, hb, hr, hlk, hml, hown, hts, hK⟩ := id C
  unfold fX9_tries_219 at hm
  obtain ⟨hg31, hm⟩ := gb_some hm
  refine rk_last (pc := 219) hx hb hK hW1 hS 5 (by decide) rfl (Or.inl (show iv _ _ _ from ⟨by omega, by omega⟩)) (fun _ _ _ => rfl) hg31 dX9_tries_219 (fun H33 locs34 hW35 hS36 hz37 hkp38 => ?_)
  obtain ⟨v1_32, he9, hm⟩ := lm_some hm
  rw [he9] at hW35
  have hW39 := rg_keepq hW0 hkp38 (by omega)
  have hz40 := hz37.trans hz
  refine lv_iload (pc := 220) hx hb dX9_tries_220 (lv_at hl 4 rfl) ?_
  refine lv_aload_n (pc := 222) hx hb dX9_tries_222 rfl (lv_at hl 0 rfl) ?_
  refine rk_getN (pc := 223) hx hb hts hown hK hW35 fnX9_232 0 (by decide) rfl rfl (x := .ref (b1 + 5)) (by first | rfl | exact congrArg (fun z => some (Value.ref z)) (by omega)) dX9_tries_223 ?_
  refine lv_iload (pc := 226) hx hb dX9_tries_226 (lv_at hl 5 rfl) ?_
  obtain ⟨hg41, hm⟩ := gb_some hm
  refine rk_lald (pc := 228) hx hb hK hW35 5 (by decide) rfl rfl hg41 (x := (gL v1_32 5 i7.toNatClampNeg)) rfl dX9_tries_228 ?_
  obtain ⟨r42, hq43, hm⟩ := ob_some hm
  refine rk_PS (pc := 229) (As := [.long (gL v1_32 5 i7.toNatClampNeg)]) (rest := [.int i6]) hx hb hml hown hts hK lkX9_225 yn_X9_isNear (ct_X9_isNear (G := G) (l := l) hq43) ⟨Nat.le_of_ble_eq_true rfl, Nat.le_of_ble_eq_true rfl⟩ trivial rfl rfl hl.1 (Nat.le_of_ble_eq_true rfl) dX9_tries_229 ⟨Nat.zero_le _, Nat.zero_le _⟩ ?_
  refine W.eq (g2 := F0 m 232 ls [.int r42, .int i6]) rfl ?_
  refine lv_iand (pc := 232) hx hb dX9_tries_232 ?_
  refine lv_istore (pc := 233) (lv' := [(6, .int (i6 &&& r42)), (1, .ref b1), (2, .int i2), (3, .int i3), (4, .long j4), (7, .int i7)]) hx hb dX9_tries_233 hl (by decide) rfl (fun ls hl => ?_)
  refine lv_iinc (pc := 235) (v := (i7 + (1 : Int32))) (lv' := [(7, .int (i7 + (1 : Int32))), (6, .int (i6 &&& r42)), (1, .ref b1), (2, .int i2), (3, .int i3), (4, .long j4)]) hx hb dX9_tries_235 hl (k := 5) rfl rfl (by decide) rfl (fun ls hl => ?_)
  refine lv_goto (pc := 238) (tgt := 23) hx hb dX9_tries_238 (by decide) ?_
  exact hk23 v1_32 i2 i3 j4 (i6 &&& r42) (i7 + (1 : Int32)) hm H33 locs34 ls hW39 hW35 hS36 hz40 (lv_sub hl [2, 3, 4, 5, 1, 0] rfl)
set_option maxHeartbeats 4000000 in
theorem w_fX9_tries_139 (C : Cx G p s m args meth c RX9 cX9_tries 13 (some .boolean)) {b0 : Nat} {b1 : Nat} {V0 : Mem} {rx : Int32} {rw1 : Mem} (hd01 : b0 + 6 ≤ b1 ∨ b1 + 13 ≤ b0) {k23 : Mem → Int32 → Int32 → Int64 → Int32 → Int32 → Option (Int32 × Mem)} {k48 : Mem → Int32 → Int32 → Int64 → Int32 → Int32 → Int64 → Int32 → Option (Int32 × Mem)} (hk23 : ∀ (v1 : Mem) (i2 : Int32) (i3 : Int32) (j4 : Int64) (i6 : Int32) (i7 : Int32), k23 v1 i2 i3 j4 i6 i7 = some (rx, rw1) → ∀ (H : Heap) (locs : List Loc) (ls : Array Slot), rg G b0 6 (shX9 G.2.1) V0 H → rg G b1 13 (shX10 G.2.1) v1 H → va_S (FA (iv b1 13) s.heap.size) s.heap H locs → H.size = s.heap.size → lv_has ls 13 [(1, .ref b1), (2, .int i2), (3, .int i3), (4, .long j4), (6, .int i6), (7, .int i7)] → W p l e (rmT 1 0 0 21) s m args below meth c H locs 0 0 (MQ below (QcT (FA (iv b1 13) s.heap.size) (fun ov H => ov = (some (.int rx)) ∧ rg G b1 13 (shX10 G.2.1) rw1 H ∧ H.size = s.heap.size)) args s 0 0 (FA (iv b1 13) s.heap.size)) (F0 m 23 ls [])) (hk48 : ∀ (v1 : Mem) (i2 : Int32) (i3 : Int32) (j4 : Int64) (i6 : Int32) (i7 : Int32) (j8 : Int64) (i10 : Int32), k48 v1 i2 i3 j4 i6 i7 j8 i10 = some (rx, rw1) → ∀ (H : Heap) (locs : List Loc) (ls : Array Slot), rg G b0 6 (shX9 G.2.1) V0 H → rg G b1 13 (shX10 G.2.1) v1 H → va_S (FA (iv b1 13) s.heap.size) s.heap H locs → H.size = s.heap.size → lv_has ls 13 [(1, .ref b1), (2, .int i2), (3, .int i3), (4, .long j4), (6, .int i6), (7, .int i7), (8, .long j8), (10, .int i10)] → W p l e (rmT 1 0 0 21) s m args below meth c H locs 0 0 (MQ below (QcT (FA (iv b1 13) s.heap.size) (fun ov H => ov = (some (.int rx)) ∧ rg G b1 13 (shX10 G.2.1) rw1 H ∧ H.size = s.heap.size)) args s 0 0 (FA (iv b1 13) s.heap.size)) (F0 m 48 ls [])) : ∀ (v1 : Mem) (i2 : Int32) (i3 : Int32) (j4 : Int64) (i6 : Int32) (i7 : Int32) (j8 : Int64) (i10 : Int32) (u0 : Int64), fX9_tries_139 V0 k23 k48 v1 i2 i3 j4 i6 i7 j8 i10 u0 = some (rx, rw1) → ∀ (H : Heap) (locs : List Loc) (ls : Array Slot), rg G b0 6 (shX9 G.2.1) V0 H → rg G b1 13 (shX10 G.2.1) v1 H → va_S (FA (iv b1 13) s.heap.size) s.heap H locs → H.size = s.heap.size → lv_has ls 13 [(1, .ref b1), (2, .int i2), (3, .int i3), (4, .long j4), (6, .int i6), (7, .int i7), (8, .long j8), (10, .int i10)] → W p l e (rmT 1 0 0 21) s m args below meth c H locs 0 0 (MQ below (QcT (FA (iv b1 13) s.heap.size) (fun ov H => ov = (some (.int rx)) ∧ rg G b1 13 (shX10 G.2.1) rw1 H ∧ H.size = s.heap.size)) args s 0 0 (FA (iv b1 13) s.heap.size)) (F0 m 139 ls [.long u0]) := by
  intro v1 i2 i3 j4 i6 i7 j8 i10 u0 hm H locs ls hW0 hW1 hS hz hl
  obtain ⟨hx, hb, hr, hlk, hml, hown, hts, hK⟩ := id C
  unfold fX9_tries_139 at hm
  refine lv_lstore (pc := 139) (lv' := [(11, .long u0), (1, .ref b1), (2, .int i2), (3, .int i3), (4, .long j4), (6, .int i6), (7, .int i7), (8, .long j8), (10, .int i10)]) hx hb dX9_tries_139 hl (by decide) rfl (fun ls hl => ?_)
  refine lv_aload_n (pc := 141) hx hb dX9_tries_141 rfl (lv_at hl 1 rfl) ?_
  refine rk_getN (pc := 142) hx hb hts hown hK hW1 fnX9_229 0 (by decide) rfl rfl (x := .ref (b1 + 4)) (by first | rfl | exact congrArg (fun z => some (Value.ref z)) (by omega)) dX9_tries_142 ?_
  refine lv_iconst (pc := 145) (v := (5 : Int32)) hx hb dX9_tries_145 (by decide) ?_
  refine lv_iload (pc := 146) hx hb dX9_tries_146 (lv_at hl 6 rfl) ?_
  refine lv_imul (pc := 148) hx hb dX9_tries_148 ?_
  refine lv_iload (pc := 149) hx hb dX9_tries_149 (lv_at hl 8 rfl) ?_
  refine lv_iadd (pc := 151) hx hb dX9_tries_151 ?_
  refine lv_lload (pc := 152) hx hb dX9_tries_152 (lv_at hl 0 rfl) ?_
  obtain ⟨hg19, hm⟩ := gb_some hm
  refine rk_last (pc := 154) hx hb hK hW1 hS 4 (by decide) rfl (Or.inl (show iv _ _ _ from ⟨by omega, by omega⟩)) (fun _ _ _ => rfl) hg19 dX9_tries_154 (fun H21 locs22 hW23 hS24 hz25 hkp26 => ?_)
  obtain ⟨v1_20, he9, hm⟩ := lm_some hm
  rw [he9] at hW23
  have hW27 := rg_keepq hW0 hkp26 (by omega)
  have hz28 := hz25.trans hz
  refine lv_iload (pc := 155) hx hb dX9_tries_155 (lv_at hl 5 rfl) ?_
  refine lv_lload (pc := 157) hx hb dX9_tries_157 (lv_at hl 0 rfl) ?_
  obtain ⟨r29, hq30, hm⟩ := ob_some hm
  refine rk_PS (pc := 159) (As := [.long u0]) (rest := [.int i6]) hx hb hml hown hts hK lkX9_225 yn_X9_isNear (ct_X9_isNear (G := G) (l := l) hq30) ⟨Nat.le_of_ble_eq_true rfl, Nat.le_of_ble_eq_true rfl⟩ trivial rfl rfl hl.1 (Nat.le_of_ble_eq_true rfl) dX9_tries_159 ⟨Nat.zero_le _, Nat.zero_le _⟩ ?_
  refine W.eq (g2 := F0 m 162 ls [.int r29, .int i6]) rfl ?_
  refine lv_iand (pc := 162) hx hb dX9_tries_162 ?_
  refine lv_istore (pc := 163) (lv' := [(6, .int (i6 &&& r29)), (11, .long u0), (1, .ref b1), (2, .int i2), (3, .int i3), (4, .long j4), (7, .int i7), (8, .long j8), (10, .int i10)]) hx hb dX9_tries_163 hl (by decide) rfl (fun ls hl => ?_)
  refine lv_iinc (pc := 165) (v := (i10 + (1 : Int32))) (lv' := [(10, .int (i10 + (1 : Int32))), (6, .int (i6 &&& r29)), (11, .long u0), (1, .ref b1), (2, .int i2), (3, .int i3), (4, .long j4), (7, .int i7), (8, .long j8)]) hx hb dX9_tries_165 hl (k := 8) rfl rfl (by decide) rfl (fun ls hl => ?_)
  refine lv_goto (pc := 168) (tgt := 48) hx hb dX9_tries_168 (by decide) ?_
  exact hk48 v1_20 i2 i3 j4 (i6 &&& r29) i7 j8 (i10 + (1 : Int32)) hm H21 locs22 ls hW27 hW23 hS24 hz28 (lv_sub hl [3, 4, 5, 6, 1, 7, 8, 0] rfl)
set_option maxHeartbeats 4000000 in
theorem w_fX9_tries_48 (C : Cx G p s m args meth c RX9 cX9_tries 13 (some .boolean)) {b0 : Nat} {b1 : Nat} {V0 : Mem} {rx : Int32} {rw1 : Mem} (hd01 : b0 + 6 ≤ b1 ∨ b1 + 13 ≤ b0) {k23 : Mem → Int32 → Int32 → Int64 → Int32 → Int32 → Option (Int32 × Mem)} {k48 : Mem → Int32 → Int32 → Int64 → Int32 → Int32 → Int64 → Int32 → Option (Int32 × Mem)} (hk23 : ∀ (v1 : Mem) (i2 : Int32) (i3 : Int32) (j4 : Int64) (i6 : Int32) (i7 : Int32), k23 v1 i2 i3 j4 i6 i7 = some (rx, rw1) → ∀ (H : Heap) (locs : List Loc) (ls : Array Slot), rg G b0 6 (shX9 G.2.1) V0 H → rg G b1 13 (shX10 G.2.1) v1 H → va_S (FA (iv b1 13) s.heap.size) s.heap H locs → H.size = s.heap.size → lv_has ls 13 [(1, .ref b1), (2, .int i2), (3, .int i3), (4, .long j4), (6, .int i6), (7, .int i7)] → W p l e (rmT 1 0 0 21) s m args below meth c H locs 0 0 (MQ below (QcT (FA (iv b1 13) s.heap.size) (fun ov H => ov = (some (.int rx)) ∧ rg G b1 13 (shX10 G.2.1) rw1 H ∧ H.size = s.heap.size)) args s 0 0 (FA (iv b1 13) s.heap.size)) (F0 m 23 ls [])) (hk48 : ∀ (v1 : Mem) (i2 : Int32) (i3 : Int32) (j4 : Int64) (i6 : Int32) (i7 : Int32) (j8 : Int64) (i10 : Int32), k48 v1 i2 i3 j4 i6 i7 j8 i10 = some (rx, rw1) → ∀ (H : Heap) (locs : List Loc) (ls : Array Slot), rg G b0 6 (shX9 G.2.1) V0 H → rg G b1 13 (shX10 G.2.1) v1 H → va_S (FA (iv b1 13) s.heap.size) s.heap H locs → H.size = s.heap.size → lv_has ls 13 [(1, .ref b1), (2, .int i2), (3, .int i3), (4, .long j4), (6, .int i6), (7, .int i7), (8, .long j8), (10, .int i10)] → W p l e (rmT 1 0 0 21) s m args below meth c H locs 0 0 (MQ below (QcT (FA (iv b1 13) s.heap.size) (fun ov H => ov = (some (.int rx)) ∧ rg G b1 13 (shX10 G.2.1) rw1 H ∧ H.size = s.heap.size)) args s 0 0 (FA (iv b1 13) s.heap.size)) (F0 m 48 ls [])) : ∀ (v1 : Mem) (i2 : Int32) (i3 : Int32) (j4 : Int64) (i6 : Int32) (i7 : Int32) (j8 : Int64) (i10 : Int32), fX9_tries_48 V0 k23 k48 v1 i2 i3 j4 i6 i7 j8 i10 = some (rx, rw1) → ∀ (H : Heap) (locs : List Loc) (ls : Array Slot), rg G b0 6 (shX9 G.2.1) V0 H → rg G b1 13 (shX10 G.2.1) v1 H → va_S (FA (iv b1 13) s.heap.size) s.heap H locs → H.size = s.heap.size → lv_has ls 13 [(1, .ref b1), (2, .int i2), (3, .int i3), (4, .long j4), (6, .int i6), (7, .int i7), (8, .long j8), (10, .int i10)] → W p l e (rmT 1 0 0 21) s m args below meth c H locs 0 0 (MQ below (QcT (FA (iv b1 13) s.heap.size) (fun ov H => ov = (some (.int rx)) ∧ rg G b1 13 (shX10 G.2.1) rw1 H ∧ H.size = s.heap.size)) args s 0 0 (FA (iv b1 13) s.heap.size)) (F0 m 48 ls []) := by
  intro v1 i2 i3 j4 i6 i7 j8 i10 hm H locs ls hW0 hW1 hS hz hl
  obtain ⟨hx, hb, hr, hlk, hml, hown, hts, hK⟩ := id C
  unfold fX9_tries_48 at hm
  refine lv_iload (pc := 48) hx hb dX9_tries_48 (lv_at hl 7 rfl) ?_
  refine lv_aload_n (pc := 50) hx hb dX9_tries_50 rfl (lv_at hl 0 rfl) ?_
  refine rk_getN (pc := 51) hx hb hts hown hK hW1 fnX9_172 0 (by decide) rfl rfl (x := .int (gI v1 0 14)) rfl dX9_tries_51 ?_
  refine lv_icmp_ge (pc := 54) (tgt := 171) hx hb dX9_tries_54 (by decide) (fun c6 => ?_) (fun c6 => ?_)
  · have hm := ite_t c6 hm
    refine lv_aload_n (pc := 171) hx hb dX9_tries_171 rfl (lv_at hl 0 rfl) ?_
    refine rk_getN (pc := 172) hx hb hts hown hK hW1 fnX9_232 0 (by decide) rfl rfl (x := .ref (b1 + 5)) (by first | rfl | exact congrArg (fun z => some (Value.ref z)) (by omega)) dX9_tries_172 ?_
    refine lv_iload (pc := 175) hx hb dX9_tries_175 (lv_at hl 5 rfl) ?_
    refine lv_iload (pc := 177) hx hb dX9_tries_177 (lv_at hl 5 rfl) ?_
    refine lv_iload_n (pc := 179) hx hb dX9_tries_179 rfl (lv_at hl 1 rfl) ?_
    refine lv_icmp_ne (pc := 180) (tgt := 194) hx hb dX9_tries_180 (by decide) (fun c7 => ?_) (fun c7 => ?_)
    · have hm := ite_f c7 hm
      refine lv_lload (pc := 194) hx hb dX9_tries_194 (lv_at hl 3 rfl) ?_
      refine lv_aload_n (pc := 196) hx hb dX9_tries_196 rfl (lv_at hl 0 rfl) ?_
      refine rk_getN (pc := 197) hx hb hts hown hK hW1 fnX9_184 0 (by decide) rfl rfl (x := .ref (b1 + 2)) (by first | rfl | exact congrArg (fun z => some (Value.ref z)) (by omega)) dX9_tries_197 ?_
      refine lv_iload (pc := 200) hx hb dX9_tries_200 (lv_at hl 5 rfl) ?_
      obtain ⟨hg8, hm⟩ := gb_some hm
      refine rk_lald (pc := 202) hx hb hK hW1 2 (by decide) rfl rfl hg8 (x := (gL v1 2 i7.toNatClampNeg)) rfl dX9_tries_202 ?_
      refine lv_lmul (pc := 203) hx hb dX9_tries_203 ?_
      refine lv_lload (pc := 204) hx hb dX9_tries_204 (lv_at hl 6 rfl) ?_
      refine lv_aload_n (pc := 206) hx hb dX9_tries_206 rfl (lv_at hl 0 rfl) ?_
      refine rk_getN (pc := 207) hx hb hts hown hK hW1 fnX9_184 0 (by decide) rfl rfl (x := .ref (b1 + 2)) (by first | rfl | exact congrArg (fun z => some (Value.ref z)) (by omega)) dX9_tries_207 ?_
      refine lv_iload_n (pc := 210) hx hb dX9_tries_210 rfl (lv_at hl 1 rfl) ?_
      obtain ⟨hg9, hm⟩ := gb_some hm
      refine rk_lald (pc := 211) hx hb hK hW1 2 (by decide) rfl rfl hg9 (x := (gL v1 2 i2.toNatClampNeg)) rfl dX9_tries_211 ?_
      refine lv_lmul (pc := 212) hx hb dX9_tries_212 ?_
      refine lv_ladd (pc := 213) hx hb dX9_tries_213 ?_
      refine lv_aload_n (pc := 214) hx hb dX9_tries_214 rfl (lv_at hl 0 rfl) ?_
      refine rk_getN (pc := 215) hx hb hts hown hK hW1 fnX9_197 0 (by decide) rfl rfl (x := .long (gL v1 0 13)) rfl dX9_tries_215 ?_
      obtain ⟨hg10, hm⟩ := gb_some hm
      refine lv_ldiv (pc := 218) hx hb dX9_tries_218 (nz64_ne hg10) ?_
      exact (w_fX9_tries_219 C hd01 hk23) v1 i2 i3 j4 i6 i7 i7 (((j4 * (gL v1 2 i7.toNatClampNeg)) + (j8 * (gL v1 2 i2.toNatClampNeg))) / (gL v1 0 13)) hm H locs ls hW0 hW1 hS hz (lv_sub hl [0, 1, 2, 3, 4, 5] rfl)
    · have hm := ite_t c7 hm
      refine lv_aload_n (pc := 183) hx hb dX9_tries_183 rfl (lv_at hl 0 rfl) ?_
      refine rk_getN (pc := 184) hx hb hts hown hK hW1 fnX9_184 0 (by decide) rfl rfl (x := .ref (b1 + 2)) (by first | rfl | exact congrArg (fun z => some (Value.ref z)) (by omega)) dX9_tries_184 ?_
      refine lv_iload (pc := 187) hx hb dX9_tries_187 (lv_at hl 5 rfl) ?_
      obtain ⟨hg11, hm⟩ := gb_some hm
      refine rk_lald (pc := 189) hx hb hK hW1 2 (by decide) rfl rfl hg11 (x := (gL v1 2 i7.toNatClampNeg)) rfl dX9_tries_189 ?_
      refine lv_lneg (pc := 190) hx hb dX9_tries_190 ?_
      refine lv_goto (pc := 191) (tgt := 219) hx hb dX9_tries_191 (by decide) ?_
      exact (w_fX9_tries_219 C hd01 hk23) v1 i2 i3 j4 i6 i7 i7 (-(gL v1 2 i7.toNatClampNeg)) hm H locs ls hW0 hW1 hS hz (lv_sub hl [0, 1, 2, 3, 4, 5] rfl)
  · have hm := ite_f c6 hm
    refine lv_iload (pc := 57) hx hb dX9_tries_57 (lv_at hl 5 rfl) ?_
    refine lv_iload_n (pc := 59) hx hb dX9_tries_59 rfl (lv_at hl 1 rfl) ?_
    refine lv_icmp_ne (pc := 60) (tgt := 93) hx hb dX9_tries_60 (by decide) (fun c12 => ?_) (fun c12 => ?_)
    · have hm := ite_f c12 hm
      refine lv_iload (pc := 93) hx hb dX9_tries_93 (lv_at hl 7 rfl) ?_
      refine lv_iload_n (pc := 95) hx hb dX9_tries_95 rfl (lv_at hl 2 rfl) ?_
      refine lv_icmp_ne (pc := 96) (tgt := 104) hx hb dX9_tries_96 (by decide) (fun c13 => ?_) (fun c13 => ?_)
      · have hm := ite_f c13 hm
        refine lv_lload (pc := 104) hx hb dX9_tries_104 (lv_at hl 3 rfl) ?_
        refine lv_aload_n (pc := 106) hx hb dX9_tries_106 rfl (lv_at hl 0 rfl) ?_
        refine rk_getN (pc := 107) hx hb hts hown hK hW1 fnX9_175 0 (by decide) rfl rfl (x := .ref (b1 + 1)) (by first | rfl | exact congrArg (fun z => some (Value.ref z)) (by omega)) dX9_tries_107 ?_
        refine lv_iconst (pc := 110) (v := (5 : Int32)) hx hb dX9_tries_110 (by decide) ?_
        refine lv_iload (pc := 111) hx hb dX9_tries_111 (lv_at hl 5 rfl) ?_
        refine lv_imul (pc := 113) hx hb dX9_tries_113 ?_
        refine lv_iload (pc := 114) hx hb dX9_tries_114 (lv_at hl 7 rfl) ?_
        refine lv_iadd (pc := 116) hx hb dX9_tries_116 ?_
        obtain ⟨hg14, hm⟩ := gb_some hm
        refine rk_lald (pc := 117) hx hb hK hW1 1 (by decide) rfl rfl hg14 (x := (gL v1 1 (((5 : Int32) * i7) + i10).toNatClampNeg)) rfl dX9_tries_117 ?_
        refine lv_lmul (pc := 118) hx hb dX9_tries_118 ?_
        refine lv_lload (pc := 119) hx hb dX9_tries_119 (lv_at hl 6 rfl) ?_
        refine lv_aload_n (pc := 121) hx hb dX9_tries_121 rfl (lv_at hl 0 rfl) ?_
        refine rk_getN (pc := 122) hx hb hts hown hK hW1 fnX9_175 0 (by decide) rfl rfl (x := .ref (b1 + 1)) (by first | rfl | exact congrArg (fun z => some (Value.ref z)) (by omega)) dX9_tries_122 ?_
        refine lv_iconst (pc := 125) (v := (5 : Int32)) hx hb dX9_tries_125 (by decide) ?_
        refine lv_iload_n (pc := 126) hx hb dX9_tries_126 rfl (lv_at hl 1 rfl) ?_
        refine lv_imul (pc := 127) hx hb dX9_tries_127 ?_
        refine lv_iload (pc := 128) hx hb dX9_tries_128 (lv_at hl 7 rfl) ?_
        refine lv_iadd (pc := 130) hx hb dX9_tries_130 ?_
        obtain ⟨hg15, hm⟩ := gb_some hm
        refine rk_lald (pc := 131) hx hb hK hW1 1 (by decide) rfl rfl hg15 (x := (gL v1 1 (((5 : Int32) * i2) + i10).toNatClampNeg)) rfl dX9_tries_131 ?_
        refine lv_lmul (pc := 132) hx hb dX9_tries_132 ?_
        refine lv_ladd (pc := 133) hx hb dX9_tries_133 ?_
        refine lv_aload_n (pc := 134) hx hb dX9_tries_134 rfl (lv_at hl 0 rfl) ?_
        refine rk_getN (pc := 135) hx hb hts hown hK hW1 fnX9_197 0 (by decide) rfl rfl (x := .long (gL v1 0 13)) rfl dX9_tries_135 ?_
        obtain ⟨hg16, hm⟩ := gb_some hm
        refine lv_ldiv (pc := 138) hx hb dX9_tries_138 (nz64_ne hg16) ?_
        exact (w_fX9_tries_139 C hd01 hk23 hk48) v1 i2 i3 j4 i6 i7 j8 i10 (((j4 * (gL v1 1 (((5 : Int32) * i7) + i10).toNatClampNeg)) + (j8 * (gL v1 1 (((5 : Int32) * i2) + i10).toNatClampNeg))) / (gL v1 0 13)) hm H locs ls hW0 hW1 hS hz (lv_sub hl [0, 1, 2, 3, 4, 5, 6, 7] rfl)
      · have hm := ite_t c13 hm
        refine lv_lload (pc := 99) hx hb dX9_tries_99 (lv_at hl 6 rfl) ?_
        refine lv_goto (pc := 101) (tgt := 139) hx hb dX9_tries_101 (by decide) ?_
        exact (w_fX9_tries_139 C hd01 hk23 hk48) v1 i2 i3 j4 i6 i7 j8 i10 j8 hm H locs ls hW0 hW1 hS hz (lv_sub hl [0, 1, 2, 3, 4, 5, 6, 7] rfl)
    · have hm := ite_t c12 hm
      refine lv_iload (pc := 63) hx hb dX9_tries_63 (lv_at hl 7 rfl) ?_
      refine lv_iload_n (pc := 65) hx hb dX9_tries_65 rfl (lv_at hl 2 rfl) ?_
      refine lv_icmp_ne (pc := 66) (tgt := 77) hx hb dX9_tries_66 (by decide) (fun c17 => ?_) (fun c17 => ?_)
      · have hm := ite_f c17 hm
        refine lv_aload_n (pc := 77) hx hb dX9_tries_77 rfl (lv_at hl 0 rfl) ?_
        refine rk_getN (pc := 78) hx hb hts hown hK hW1 fnX9_175 0 (by decide) rfl rfl (x := .ref (b1 + 1)) (by first | rfl | exact congrArg (fun z => some (Value.ref z)) (by omega)) dX9_tries_78 ?_
        refine lv_iconst (pc := 81) (v := (5 : Int32)) hx hb dX9_tries_81 (by decide) ?_
        refine lv_iload (pc := 82) hx hb dX9_tries_82 (lv_at hl 5 rfl) ?_
        refine lv_imul (pc := 84) hx hb dX9_tries_84 ?_
        refine lv_iload (pc := 85) hx hb dX9_tries_85 (lv_at hl 7 rfl) ?_
        refine lv_iadd (pc := 87) hx hb dX9_tries_87 ?_
        obtain ⟨hg18, hm⟩ := gb_some hm
        refine rk_lald (pc := 88) hx hb hK hW1 1 (by decide) rfl rfl hg18 (x := (gL v1 1 (((5 : Int32) * i7) + i10).toNatClampNeg)) rfl dX9_tries_88 ?_
        refine lv_lneg (pc := 89) hx hb dX9_tries_89 ?_
        refine lv_goto (pc := 90) (tgt := 139) hx hb dX9_tries_90 (by decide) ?_
        exact (w_fX9_tries_139 C hd01 hk23 hk48) v1 i2 i3 j4 i6 i7 j8 i10 (-(gL v1 1 (((5 : Int32) * i7) + i10).toNatClampNeg)) hm H locs ls hW0 hW1 hS hz (lv_sub hl [0, 1, 2, 3, 4, 5, 6, 7] rfl)
      · have hm := ite_t c17 hm
        refine lv_aload_n (pc := 69) hx hb dX9_tries_69 rfl (lv_at hl 0 rfl) ?_
        refine rk_getN (pc := 70) hx hb hts hown hK hW1 fnX9_197 0 (by decide) rfl rfl (x := .long (gL v1 0 13)) rfl dX9_tries_70 ?_
        refine lv_lneg (pc := 73) hx hb dX9_tries_73 ?_
        refine lv_goto (pc := 74) (tgt := 139) hx hb dX9_tries_74 (by decide) ?_
        exact (w_fX9_tries_139 C hd01 hk23 hk48) v1 i2 i3 j4 i6 i7 j8 i10 (-(gL v1 0 13)) hm H locs ls hW0 hW1 hS hz (lv_sub hl [0, 1, 2, 3, 4, 5, 6, 7] rfl)
theorem w_fX9_tries_48_l (C : Cx G p s m args meth c RX9 cX9_tries 13 (some .boolean)) {b0 : Nat} {b1 : Nat} {V0 : Mem} {rx : Int32} {rw1 : Mem} (hd01 : b0 + 6 ≤ b1 ∨ b1 + 13 ≤ b0) {k23 : Mem → Int32 → Int32 → Int64 → Int32 → Int32 → Option (Int32 × Mem)} (hk23 : ∀ (v1 : Mem) (i2 : Int32) (i3 : Int32) (j4 : Int64) (i6 : Int32) (i7 : Int32), k23 v1 i2 i3 j4 i6 i7 = some (rx, rw1) → ∀ (H : Heap) (locs : List Loc) (ls : Array Slot), rg G b0 6 (shX9 G.2.1) V0 H → rg G b1 13 (shX10 G.2.1) v1 H → va_S (FA (iv b1 13) s.heap.size) s.heap H locs → H.size = s.heap.size → lv_has ls 13 [(1, .ref b1), (2, .int i2), (3, .int i3), (4, .long j4), (6, .int i6), (7, .int i7)] → W p l e (rmT 1 0 0 21) s m args below meth c H locs 0 0 (MQ below (QcT (FA (iv b1 13) s.heap.size) (fun ov H => ov = (some (.int rx)) ∧ rg G b1 13 (shX10 G.2.1) rw1 H ∧ H.size = s.heap.size)) args s 0 0 (FA (iv b1 13) s.heap.size)) (F0 m 23 ls [])) : ∀ (n : Nat) (v1 : Mem) (i2 : Int32) (i3 : Int32) (j4 : Int64) (i6 : Int32) (i7 : Int32) (j8 : Int64) (i10 : Int32), lq8 (fX9_tries_48 V0 k23) n v1 i2 i3 j4 i6 i7 j8 i10 = some (rx, rw1) → ∀ (H : Heap) (locs : List Loc) (ls : Array Slot), rg G b0 6 (shX9 G.2.1) V0 H → rg G b1 13 (shX10 G.2.1) v1 H → va_S (FA (iv b1 13) s.heap.size) s.heap H locs → H.size = s.heap.size → lv_has ls 13 [(1, .ref b1), (2, .int i2), (3, .int i3), (4, .long j4), (6, .int i6), (7, .int i7), (8, .long j8), (10, .int i10)] → W p l e (rmT 1 0 0 21) s m args below meth c H locs 0 0 (MQ below (QcT (FA (iv b1 13) s.heap.size) (fun ov H => ov = (some (.int rx)) ∧ rg G b1 13 (shX10 G.2.1) rw1 H ∧ H.size = s.heap.size)) args s 0 0 (FA (iv b1 13) s.heap.size)) (F0 m 48 ls []) := by
  intro n
  induction n with
  | zero => intro v1 i2 i3 j4 i6 i7 j8 i10 hm; exact (lq8_0 hm).elim
  | succ n ih => intro v1 i2 i3 j4 i6 i7 j8 i10 hm; exact w_fX9_tries_48 C hd01 hk23 ih v1 i2 i3 j4 i6 i7 j8 i10 (lq8_s hm)
set_option maxHeartbeats 4000000 in
theorem w_fX9_tries_23 (C : Cx G p s m args meth c RX9 cX9_tries 13 (some .boolean)) {b0 : Nat} {b1 : Nat} {V0 : Mem} {rx : Int32} {rw1 : Mem} (hd01 : b0 + 6 ≤ b1 ∨ b1 + 13 ≤ b0) {k23 : Mem → Int32 → Int32 → Int64 → Int32 → Int32 → Option (Int32 × Mem)} (hk23 : ∀ (v1 : Mem) (i2 : Int32) (i3 : Int32) (j4 : Int64) (i6 : Int32) (i7 : Int32), k23 v1 i2 i3 j4 i6 i7 = some (rx, rw1) → ∀ (H : Heap) (locs : List Loc) (ls : Array Slot), rg G b0 6 (shX9 G.2.1) V0 H → rg G b1 13 (shX10 G.2.1) v1 H → va_S (FA (iv b1 13) s.heap.size) s.heap H locs → H.size = s.heap.size → lv_has ls 13 [(1, .ref b1), (2, .int i2), (3, .int i3), (4, .long j4), (6, .int i6), (7, .int i7)] → W p l e (rmT 1 0 0 21) s m args below meth c H locs 0 0 (MQ below (QcT (FA (iv b1 13) s.heap.size) (fun ov H => ov = (some (.int rx)) ∧ rg G b1 13 (shX10 G.2.1) rw1 H ∧ H.size = s.heap.size)) args s 0 0 (FA (iv b1 13) s.heap.size)) (F0 m 23 ls [])) : ∀ (v1 : Mem) (i2 : Int32) (i3 : Int32) (j4 : Int64) (i6 : Int32) (i7 : Int32), fX9_tries_23 V0 k23 v1 i2 i3 j4 i6 i7 = some (rx, rw1) → ∀ (H : Heap) (locs : List Loc) (ls : Array Slot), rg G b0 6 (shX9 G.2.1) V0 H → rg G b1 13 (shX10 G.2.1) v1 H → va_S (FA (iv b1 13) s.heap.size) s.heap H locs → H.size = s.heap.size → lv_has ls 13 [(1, .ref b1), (2, .int i2), (3, .int i3), (4, .long j4), (6, .int i6), (7, .int i7)] → W p l e (rmT 1 0 0 21) s m args below meth c H locs 0 0 (MQ below (QcT (FA (iv b1 13) s.heap.size) (fun ov H => ov = (some (.int rx)) ∧ rg G b1 13 (shX10 G.2.1) rw1 H ∧ H.size = s.heap.size)) args s 0 0 (FA (iv b1 13) s.heap.size)) (F0 m 23 ls []) := by
  intro v1 i2 i3 j4 i6 i7 hm H locs ls hW0 hW1 hS hz hl
  obtain ⟨hx, hb, hr, hlk, hml, hown, hts, hK⟩ := id C
  unfold fX9_tries_23 at hm
  refine lv_iload (pc := 23) hx hb dX9_tries_23 (lv_at hl 5 rfl) ?_
  refine lv_aload_n (pc := 25) hx hb dX9_tries_25 rfl (lv_at hl 0 rfl) ?_
  refine rk_getN (pc := 26) hx hb hts hown hK hW1 fnX9_178 0 (by decide) rfl rfl (x := .int (gI v1 0 15)) rfl dX9_tries_26 ?_
  refine lv_icmp_ge (pc := 29) (tgt := 241) hx hb dX9_tries_29 (by decide) (fun c4 => ?_) (fun c4 => ?_)
  · have hm := ite_t c4 hm
    refine lv_iconst (pc := 241) (v := (0 : Int32)) hx hb dX9_tries_241 (by decide) ?_
    refine lv_istore (pc := 242) (lv' := [(7, .int (0 : Int32)), (1, .ref b1), (2, .int i2), (3, .int i3), (4, .long j4), (6, .int i6)]) hx hb dX9_tries_242 hl (by decide) rfl (fun ls hl => ?_)
    exact (w_fX9_tries_244_l C hd01 FU) v1 i2 i3 j4 i6 (0 : Int32) hm H locs ls hW0 hW1 hS hz (lv_sub hl [1, 2, 3, 4, 5, 0] rfl)
  · have hm := ite_f c4 hm
    refine lv_aload_n (pc := 32) hx hb dX9_tries_32 rfl (lv_at hl 0 rfl) ?_
    refine rk_getN (pc := 33) hx hb hts hown hK hW1 fnX9_175 0 (by decide) rfl rfl (x := .ref (b1 + 1)) (by first | rfl | exact congrArg (fun z => some (Value.ref z)) (by omega)) dX9_tries_33 ?_
    refine lv_iconst (pc := 36) (v := (5 : Int32)) hx hb dX9_tries_36 (by decide) ?_
    refine lv_iload (pc := 37) hx hb dX9_tries_37 (lv_at hl 5 rfl) ?_
    refine lv_imul (pc := 39) hx hb dX9_tries_39 ?_
    refine lv_iload_n (pc := 40) hx hb dX9_tries_40 rfl (lv_at hl 2 rfl) ?_
    refine lv_iadd (pc := 41) hx hb dX9_tries_41 ?_
    obtain ⟨hg5, hm⟩ := gb_some hm
    refine rk_lald (pc := 42) hx hb hK hW1 1 (by decide) rfl rfl hg5 (x := (gL v1 1 (((5 : Int32) * i7) + i3).toNatClampNeg)) rfl dX9_tries_42 ?_
    refine lv_lstore (pc := 43) (lv' := [(8, .long (gL v1 1 (((5 : Int32) * i7) + i3).toNatClampNeg)), (1, .ref b1), (2, .int i2), (3, .int i3), (4, .long j4), (6, .int i6), (7, .int i7)]) hx hb dX9_tries_43 hl (by decide) rfl (fun ls hl => ?_)
    refine lv_iconst (pc := 45) (v := (0 : Int32)) hx hb dX9_tries_45 (by decide) ?_
    refine lv_istore (pc := 46) (lv' := [(10, .int (0 : Int32)), (8, .long (gL v1 1 (((5 : Int32) * i7) + i3).toNatClampNeg)), (1, .ref b1), (2, .int i2), (3, .int i3), (4, .long j4), (6, .int i6), (7, .int i7)]) hx hb dX9_tries_46 hl (by decide) rfl (fun ls hl => ?_)
    exact (w_fX9_tries_48_l C hd01 hk23 FU) v1 i2 i3 j4 i6 i7 (gL v1 1 (((5 : Int32) * i7) + i3).toNatClampNeg) (0 : Int32) hm H locs ls hW0 hW1 hS hz (lv_sub hl [2, 3, 4, 5, 6, 7, 1, 0] rfl)
theorem w_fX9_tries_23_l (C : Cx G p s m args meth c RX9 cX9_tries 13 (some .boolean)) {b0 : Nat} {b1 : Nat} {V0 : Mem} {rx : Int32} {rw1 : Mem} (hd01 : b0 + 6 ≤ b1 ∨ b1 + 13 ≤ b0) : ∀ (n : Nat) (v1 : Mem) (i2 : Int32) (i3 : Int32) (j4 : Int64) (i6 : Int32) (i7 : Int32), lq6 (fX9_tries_23 V0) n v1 i2 i3 j4 i6 i7 = some (rx, rw1) → ∀ (H : Heap) (locs : List Loc) (ls : Array Slot), rg G b0 6 (shX9 G.2.1) V0 H → rg G b1 13 (shX10 G.2.1) v1 H → va_S (FA (iv b1 13) s.heap.size) s.heap H locs → H.size = s.heap.size → lv_has ls 13 [(1, .ref b1), (2, .int i2), (3, .int i3), (4, .long j4), (6, .int i6), (7, .int i7)] → W p l e (rmT 1 0 0 21) s m args below meth c H locs 0 0 (MQ below (QcT (FA (iv b1 13) s.heap.size) (fun ov H => ov = (some (.int rx)) ∧ rg G b1 13 (shX10 G.2.1) rw1 H ∧ H.size = s.heap.size)) args s 0 0 (FA (iv b1 13) s.heap.size)) (F0 m 23 ls []) := by
  intro n
  induction n with
  | zero => intro v1 i2 i3 j4 i6 i7 hm; exact (lq6_0 hm).elim
  | succ n ih => intro v1 i2 i3 j4 i6 i7 hm; exact w_fX9_tries_23 C hd01 ih v1 i2 i3 j4 i6 i7 (lq6_s hm)
set_option maxHeartbeats 4000000 in
theorem w_fX9_tries (C : Cx G p s m args meth c RX9 cX9_tries 13 (some .boolean)) {b0 : Nat} {b1 : Nat} {V0 : Mem} {rx : Int32} {rw1 : Mem} (hd01 : b0 + 6 ≤ b1 ∨ b1 + 13 ≤ b0) : ∀ (v1 : Mem) (i2 : Int32) (i3 : Int32), fX9_tries V0 v1 i2 i3 = some (rx, rw1) → ∀ (H : Heap) (locs : List Loc) (ls : Array Slot), rg G b0 6 (shX9 G.2.1) V0 H → rg G b1 13 (shX10 G.2.1) v1 H → va_S (FA (iv b1 13) s.heap.size) s.heap H locs → H.size = s.heap.size → lv_has ls 13 [(0, .ref b0), (1, .ref b1), (2, .int i2), (3, .int i3)] → W p l e (rmT 1 0 0 21) s m args below meth c H locs 0 0 (MQ below (QcT (FA (iv b1 13) s.heap.size) (fun ov H => ov = (some (.int rx)) ∧ rg G b1 13 (shX10 G.2.1) rw1 H ∧ H.size = s.heap.size)) args s 0 0 (FA (iv b1 13) s.heap.size)) (F0 m 0 ls []) := by
  intro v1 i2 i3 hm H locs ls hW0 hW1 hS hz hl
  obtain ⟨hx, hb, hr, hlk, hml, hown, hts, hK⟩ := id C
  unfold fX9_tries at hm
  refine lv_aload_n (pc := 0) hx hb dX9_tries_0 rfl (lv_at hl 1 rfl) ?_
  refine rk_getN (pc := 1) hx hb hts hown hK hW1 fnX9_175 0 (by decide) rfl rfl (x := .ref (b1 + 1)) (by first | rfl | exact congrArg (fun z => some (Value.ref z)) (by omega)) dX9_tries_1 ?_
  refine lv_iconst (pc := 4) (v := (5 : Int32)) hx hb dX9_tries_4 (by decide) ?_
  refine lv_iload_n (pc := 5) hx hb dX9_tries_5 rfl (lv_at hl 2 rfl) ?_
  refine lv_imul (pc := 6) hx hb dX9_tries_6 ?_
  refine lv_iload_n (pc := 7) hx hb dX9_tries_7 rfl (lv_at hl 3 rfl) ?_
  refine lv_iadd (pc := 8) hx hb dX9_tries_8 ?_
  obtain ⟨hg1, hm⟩ := gb_some hm
  refine rk_lald (pc := 9) hx hb hK hW1 1 (by decide) rfl rfl hg1 (x := (gL v1 1 (((5 : Int32) * i2) + i3).toNatClampNeg)) rfl dX9_tries_9 ?_
  refine lv_lneg (pc := 10) hx hb dX9_tries_10 ?_
  refine lv_lstore (pc := 11) (lv' := [(4, .long (-(gL v1 1 (((5 : Int32) * i2) + i3).toNatClampNeg))), (0, .ref b0), (1, .ref b1), (2, .int i2), (3, .int i3)]) hx hb dX9_tries_11 hl (by decide) rfl (fun ls hl => ?_)
  refine lv_lload (pc := 13) hx hb dX9_tries_13 (lv_at hl 0 rfl) ?_
  obtain ⟨r2, hq3, hm⟩ := ob_some hm
  refine rk_PS (pc := 15) (As := [.long (-(gL v1 1 (((5 : Int32) * i2) + i3).toNatClampNeg))]) (rest := []) hx hb hml hown hts hK lkX9_225 yn_X9_isNear (ct_X9_isNear (G := G) (l := l) hq3) ⟨Nat.le_of_ble_eq_true rfl, Nat.le_of_ble_eq_true rfl⟩ trivial rfl rfl hl.1 (Nat.le_of_ble_eq_true rfl) dX9_tries_15 ⟨Nat.zero_le _, Nat.zero_le _⟩ ?_
  refine W.eq (g2 := F0 m 18 ls [.int r2]) rfl ?_
  refine lv_istore (pc := 18) (lv' := [(6, .int r2), (4, .long (-(gL v1 1 (((5 : Int32) * i2) + i3).toNatClampNeg))), (0, .ref b0), (1, .ref b1), (2, .int i2), (3, .int i3)]) hx hb dX9_tries_18 hl (by decide) rfl (fun ls hl => ?_)
  refine lv_iconst (pc := 20) (v := (0 : Int32)) hx hb dX9_tries_20 (by decide) ?_
  refine lv_istore (pc := 21) (lv' := [(7, .int (0 : Int32)), (6, .int r2), (4, .long (-(gL v1 1 (((5 : Int32) * i2) + i3).toNatClampNeg))), (0, .ref b0), (1, .ref b1), (2, .int i2), (3, .int i3)]) hx hb dX9_tries_21 hl (by decide) rfl (fun ls hl => ?_)
  exact (w_fX9_tries_23_l C hd01 FU) v1 i2 i3 (-(gL v1 1 (((5 : Int32) * i2) + i3).toNatClampNeg)) r2 (0 : Int32) hm H locs ls hW0 hW1 hS hz (lv_sub hl [4, 5, 6, 2, 1, 0] rfl)
set_option maxHeartbeats 4000000 in
theorem ct_X9_tries {G : Gv} {l : Launch} {b0 : Nat} {b1 : Nat} {V0 : Mem} {v1 : Mem} {i2 : Int32} {i3 : Int32} {rx : Int32} {rw1 : Mem} {sz : Nat} (hm : fX9_tries V0 v1 i2 i3 = some (rx, rw1)) (hd01 : b0 + 6 ≤ b1 ∨ b1 + 13 ≤ b0) : CT G l yX9_tries (ws_ yX9_tries cX9_tries 13 (some .boolean)) 1 0 0 21 [.ref b0, .ref b1, .int i2, .int i3] (iv b1 13) sz (fun H => rg G b0 6 (shX9 G.2.1) V0 H ∧ rg G b1 13 (shX10 G.2.1) v1 H) (fun ov H => ov = (some (.int rx)) ∧ rg G b1 13 (shX10 G.2.1) rw1 H ∧ H.size = sz) := by
  refine Met.ofW (cc := cX9_tries) (maxL := 13) (ret := (some .boolean)) (by decide +kernel) rfl ?_
  intro p e s m args below meth c s₁ B hml hv
  obtain ⟨rfl, ⟨hz, hW0, hW1⟩, hK⟩ := hv
  subst hz
  have hts := atoms_spec (ws := ws_ yX9_tries cX9_tries 13 (some .boolean)) B.pre
  have hts : ∀ w ∈ lw_all, w.before _ s = true := fun w h => hts w (List.mem_cons_of_mem _ h)
  have C : Cx G p s m _ meth c RX9 cX9_tries 13 (some .boolean) := ⟨B.exec, B.bytes, B.returns, B.notSynchronized, hml, findClass_of_methodNamed B.named, hts, hK⟩
  have hl := lv_entry ([.ref b0, .ref b1, .int i2, .int i3]) (n := 13) (Nat.le_of_ble_eq_true rfl)
  rw [lg_entry_eq]
  generalize (lg_sl ([.ref b0, .ref b1, .int i2, .int i3]) ++ List.replicate (13 - (lg_sl ([.ref b0, .ref b1, .int i2, .int i3])).length) Slot.unset).toArray = ls at hl ⊢
  have hl : lv_has ls 13 [(0, .ref b0), (1, .ref b1), (2, .int i2), (3, .int i3)] := hl
  exact w_fX9_tries C hd01 _ _ _ hm s.heap [] ls hW0 hW1 va_S.rf rfl hl
theorem yn_X9_tries : YN yX9_tries 3 := by
  unfold YN
  decide +kernel
theorem lkX9_238 : LV RX9 238 RX9 yX9_tries cX9_tries 13 (some .boolean) := ⟨q2062, q2064, qs78, q128, q2065⟩
noncomputable def fX9_pivots_124 (V0 : Mem) (k124 : Mem → Int32 → Int32 → Int64 → Int32 → Option (Int32 × Mem)) (v1 : Mem) (i2 : Int32) (i3 : Int32) (j4 : Int64) (i6 : Int32) : Option (Int32 × Mem) :=
  if (gI v1 0 14) ≤ i6 then (
  lm (sL v1 0 13 j4) fun v1_52 =>
  gb (inR i2 20) (
  gb (inR i3 5) (
  gb (inR i2 20) (
  lm (sI v1_52 7 i2.toNatClampNeg (gI v1_52 8 i3.toNatClampNeg)) fun v1_64 =>
  gb (inR i3 5) (
  lm (sI v1_64 8 i3.toNatClampNeg (gI v1_52 7 i2.toNatClampNeg)) fun v1_74 =>
  lm (sI v1_74 0 17 ((gI v1_74 0 17) + (1 : Int32))) fun v1_83 =>
  some ((1 : Int32), v1_83))))))
  else (
  gb (inR i6 5) (
  gb (inR i6 5) (
  lm (sL v1 3 i6.toNatClampNeg (gL v1 6 i6.toNatClampNeg)) fun v1_94 =>
  k124 v1_94 i2 i3 j4 (i6 + (1 : Int32)))))
noncomputable def fX9_pivots_92 (V0 : Mem) (k92 : Mem → Int32 → Int32 → Int64 → Int32 → Option (Int32 × Mem)) (v1 : Mem) (i2 : Int32) (i3 : Int32) (j4 : Int64) (i6 : Int32) : Option (Int32 × Mem) :=
  if (gI v1 0 15) ≤ i6 then (
  lq5 (fX9_pivots_124 V0) FU v1 i2 i3 j4 (0 : Int32))
  else (
  gb (inR i6 20) (
  gb (inR i6 20) (
  lm (sL v1 2 i6.toNatClampNeg (gL v1 5 i6.toNatClampNeg)) fun v1_42 =>
  k92 v1_42 i2 i3 j4 (i6 + (1 : Int32)))))
noncomputable def fX9_pivots_58 (V0 : Mem) (k58 : Mem → Int32 → Int32 → Int64 → Int32 → Option (Int32 × Mem)) (v1 : Mem) (i2 : Int32) (i3 : Int32) (j4 : Int64) (i6 : Int32) : Option (Int32 × Mem) :=
  if ((5 : Int32) * (gI v1 0 15)) ≤ i6 then (
  lq5 (fX9_pivots_92 V0) FU v1 i2 i3 j4 (0 : Int32))
  else (
  gb (inR i6 100) (
  gb (inR i6 100) (
  lm (sL v1 1 i6.toNatClampNeg (gL v1 4 i6.toNatClampNeg)) fun v1_30 =>
  k58 v1_30 i2 i3 j4 (i6 + (1 : Int32)))))
noncomputable def fX9_pivots (V0 : Mem) (v1 : Mem) (i2 : Int32) (i3 : Int32) : Option (Int32 × Mem) :=
  ob2 (fX9_tries V0 v1 i2 i3) fun r1 w2 =>
  if r1 = 0 then (
  some ((0 : Int32), w2))
  else (
  gb (inR (((5 : Int32) * i2) + i3) 100) (
  gb (inR i3 5) (
  gb (inR i2 20) (
  gb (nz64 (gL w2 0 13)) (
  lm (sL w2 0 12 ((((-(gL w2 1 (((5 : Int32) * i2) + i3).toNatClampNeg)) * (gL w2 0 12)) - ((gL w2 3 i3.toNatClampNeg) * (gL w2 2 i2.toNatClampNeg))) / (gL w2 0 13))) fun v1_18 =>
  lq5 (fX9_pivots_58 V0) FU v1_18 i2 i3 (-(gL w2 1 (((5 : Int32) * i2) + i3).toNatClampNeg)) (0 : Int32))))))
set_option maxHeartbeats 4000000 in
theorem w_fX9_pivots_124 (C : Cx G p s m args meth c RX9 cX9_pivots 7 (some .boolean)) {b0 : Nat} {b1 : Nat} {V0 : Mem} {rx : Int32} {rw1 : Mem} (hd01 : b0 + 6 ≤ b1 ∨ b1 + 13 ≤ b0) {k124 : Mem → Int32 → Int32 → Int64 → Int32 → Option (Int32 × Mem)} (hk124 : ∀ (v1 : Mem) (i2 : Int32) (i3 : Int32) (j4 : Int64) (i6 : Int32), k124 v1 i2 i3 j4 i6 = some (rx, rw1) → ∀ (H : Heap) (locs : List Loc) (ls : Array Slot), rg G b0 6 (shX9 G.2.1) V0 H → rg G b1 13 (shX10 G.2.1) v1 H → va_S (FA (iv b1 13) s.heap.size) s.heap H locs → H.size = s.heap.size → lv_has ls 7 [(1, .ref b1), (2, .int i2), (3, .int i3), (4, .long j4), (6, .int i6)] → W p l e (rmT 2 0 0 53) s m args below meth c H locs 0 0 (MQ below (QcT (FA (iv b1 13) s.heap.size) (fun ov H => ov = (some (.int rx)) ∧ rg G b1 13 (shX10 G.2.1) rw1 H ∧ H.size = s.heap.size)) args s 0 0 (FA (iv b1 13) s.heap.size)) (F0 m 124 ls [])) : ∀ (v1 : Mem) (i2 : Int32) (i3 : Int32) (j4 : Int64) (i6 : Int32), fX9_pivots_124 V0 k124 v1 i2 i3 j4 i6 = some (rx, rw1) → ∀ (H : Heap) (locs : List Loc) (ls : Array Slot), rg G b0 6 (shX9 G.2.1) V0 H → rg G b1 13 (shX10 G.2.1) v1 H → va_S (FA (iv b1 13) s.heap.size) s.heap H locs → H.size = s.heap.size → lv_has ls 7 [(1, .ref b1), (2, .int i2), (3, .int i3), (4, .long j4), (6, .int i6)] → W p l e (rmT 2 0 0 53) s m args below meth c H locs 0 0 (MQ below (QcT (FA (iv b1 13) s.heap.size) (fun ov H => ov = (some (.int rx)) ∧ rg G b1 13 (shX10 G.2.1) rw1 H ∧ H.size = s.heap.size)) args s 0 0 (FA (iv b1 13) s.heap.size)) (F0 m 124 ls []) := by
  intro v1 i2 i3 j4 i6 hm H locs ls hW0 hW1 hS hz hl
  obtain ⟨hx, hb, hr, hlk, hml, hown, hts, hK⟩ := id C
  unfold fX9_pivots_124 at hm
  refine lv_iload (pc := 124) hx hb dX9_pivots_124 (lv_at hl 4 rfl) ?_
  refine lv_aload_n (pc := 126) hx hb dX9_pivots_126 rfl (lv_at hl 0 rfl) ?_
  refine rk_getN (pc := 127) hx hb hts hown hK hW1 fnX9_172 0 (by decide) rfl rfl (x := .int (gI v1 0 14)) rfl dX9_pivots_127 ?_
  refine lv_icmp_ge (pc := 130) (tgt := 153) hx hb dX9_pivots_130 (by decide) (fun c51 => ?_) (fun c51 => ?_)
  · have hm := ite_t c51 hm
    refine lv_aload_n (pc := 153) hx hb dX9_pivots_153 rfl (lv_at hl 0 rfl) ?_
    refine lv_lload (pc := 154) hx hb dX9_pivots_154 (lv_at hl 3 rfl) ?_
    refine rk_putN (pc := 156) hx hb hts hown hK hW1 hS fnX9_197 ft_X10 0 (by decide) rfl (Or.inl (show iv _ _ _ from ⟨by omega, by omega⟩)) rfl rfl (x := .long j4) rfl rfl (Nat.le_of_ble_eq_true rfl) (sL v1 0 13 j4) sL_ne (by rw [sL_eq]; exact rfl) dX9_pivots_156 (fun H53 locs54 hW55 hS56 hz57 hkp58 => ?_)
    obtain ⟨v1_52, he9, hm⟩ := lm_some hm
    rw [he9] at hW55
    have hW59 := rg_keepq hW0 hkp58 (by omega)
    have hz60 := hz57.trans hz
    refine lv_aload_n (pc := 159) hx hb dX9_pivots_159 rfl (lv_at hl 0 rfl) ?_
    refine rk_getN (pc := 160) hx hb hts hown hK hW55 fnX9_181 0 (by decide) rfl rfl (x := .ref (b1 + 7)) (by first | rfl | exact congrArg (fun z => some (Value.ref z)) (by omega)) dX9_pivots_160 ?_
    refine lv_iload_n (pc := 163) hx hb dX9_pivots_163 rfl (lv_at hl 1 rfl) ?_
    obtain ⟨hg61, hm⟩ := gb_some hm
    refine rk_iald (pc := 164) hx hb hK hW55 7 (by decide) rfl rfl hg61 (x := (gI v1_52 7 i2.toNatClampNeg)) rfl dX9_pivots_164 ?_
    refine lv_istore (pc := 165) (lv' := [(6, .int (gI v1_52 7 i2.toNatClampNeg)), (1, .ref b1), (2, .int i2), (3, .int i3), (4, .long j4)]) hx hb dX9_pivots_165 hl (by decide) rfl (fun ls hl => ?_)
    refine lv_aload_n (pc := 167) hx hb dX9_pivots_167 rfl (lv_at hl 1 rfl) ?_
    refine rk_getN (pc := 168) hx hb hts hown hK hW55 fnX9_181 0 (by decide) rfl rfl (x := .ref (b1 + 7)) (by first | rfl | exact congrArg (fun z => some (Value.ref z)) (by omega)) dX9_pivots_168 ?_
    refine lv_iload_n (pc := 171) hx hb dX9_pivots_171 rfl (lv_at hl 2 rfl) ?_
    refine lv_aload_n (pc := 172) hx hb dX9_pivots_172 rfl (lv_at hl 1 rfl) ?_
    refine rk_getN (pc := 173) hx hb hts hown hK hW55 fnX9_206 0 (by decide) rfl rfl (x := .ref (b1 + 8)) (by first | rfl | exact congrArg (fun z => some (Value.ref z)) (by omega)) dX9_pivots_173 ?_
    refine lv_iload_n (pc := 176) hx hb dX9_pivots_176 rfl (lv_at hl 3 rfl) ?_
    obtain ⟨hg62, hm⟩ := gb_some hm
    refine rk_iald (pc := 177) hx hb hK hW55 8 (by decide) rfl rfl hg62 (x := (gI v1_52 8 i3.toNatClampNeg)) rfl dX9_pivots_177 ?_
    obtain ⟨hg63, hm⟩ := gb_some hm
    refine rk_iast (pc := 178) hx hb hK hW55 hS56 7 (by decide) rfl (Or.inl (show iv _ _ _ from ⟨by omega, by omega⟩)) (fun _ _ _ => rfl) hg63 dX9_pivots_178 (fun H65 locs66 hW67 hS68 hz69 hkp70 => ?_)
    obtain ⟨v1_64, he9, hm⟩ := lm_some hm
    rw [he9] at hW67
    have hW71 := rg_keepq hW59 hkp70 (by omega)
    have hz72 := hz69.trans hz60
    refine lv_aload_n (pc := 179) hx hb dX9_pivots_179 rfl (lv_at hl 1 rfl) ?_
    refine rk_getN (pc := 180) hx hb hts hown hK hW67 fnX9_206 0 (by decide) rfl rfl (x := .ref (b1 + 8)) (by first | rfl | exact congrArg (fun z => some (Value.ref z)) (by omega)) dX9_pivots_180 ?_
    refine lv_iload_n (pc := 183) hx hb dX9_pivots_183 rfl (lv_at hl 3 rfl) ?_
    refine lv_iload (pc := 184) hx hb dX9_pivots_184 (lv_at hl 0 rfl) ?_
    obtain ⟨hg73, hm⟩ := gb_some hm
    refine rk_iast (pc := 186) hx hb hK hW67 hS68 8 (by decide) rfl (Or.inl (show iv _ _ _ from ⟨by omega, by omega⟩)) (fun _ _ _ => rfl) hg73 dX9_pivots_186 (fun H75 locs76 hW77 hS78 hz79 hkp80 => ?_)
    obtain ⟨v1_74, he9, hm⟩ := lm_some hm
    rw [he9] at hW77
    have hW81 := rg_keepq hW71 hkp80 (by omega)
    have hz82 := hz79.trans hz72
    refine lv_aload_n (pc := 187) hx hb dX9_pivots_187 rfl (lv_at hl 1 rfl) ?_
    refine lv_dup (pc := 188) hx hb dX9_pivots_188 rfl ?_
    refine rk_getN (pc := 189) hx hb hts hown hK hW77 fnX9_190 0 (by decide) rfl rfl (x := .int (gI v1_74 0 17)) rfl dX9_pivots_189 ?_
    refine lv_iconst (pc := 192) (v := (1 : Int32)) hx hb dX9_pivots_192 (by decide) ?_
    refine lv_iadd (pc := 193) hx hb dX9_pivots_193 ?_
    refine rk_putN (pc := 194) hx hb hts hown hK hW77 hS78 fnX9_190 ft_X10 0 (by decide) rfl (Or.inl (show iv _ _ _ from ⟨by omega, by omega⟩)) rfl rfl (x := .int ((gI v1_74 0 17) + (1 : Int32))) rfl rfl (Nat.le_of_ble_eq_true rfl) (sI v1_74 0 17 ((gI v1_74 0 17) + (1 : Int32))) sI_ne (by rw [sI_eq]; exact rfl) dX9_pivots_194 (fun H84 locs85 hW86 hS87 hz88 hkp89 => ?_)
    obtain ⟨v1_83, he9, hm⟩ := lm_some hm
    rw [he9] at hW86
    have hW90 := rg_keepq hW81 hkp89 (by omega)
    have hz91 := hz88.trans hz82
    refine lv_iconst (pc := 197) (v := (1 : Int32)) hx hb dX9_pivots_197 (by decide) ?_
    obtain ⟨e8, e9⟩ := rs2 hm
    subst e8
    subst e9
    exact rk_zret (pc := 198) hx hb hr hlk rfl hS87 ⟨rfl, hW86, hz91⟩ dX9_pivots_198
  · have hm := ite_f c51 hm
    refine lv_aload_n (pc := 133) hx hb dX9_pivots_133 rfl (lv_at hl 0 rfl) ?_
    refine rk_getN (pc := 134) hx hb hts hown hK hW1 fnX9_203 0 (by decide) rfl rfl (x := .ref (b1 + 3)) (by first | rfl | exact congrArg (fun z => some (Value.ref z)) (by omega)) dX9_pivots_134 ?_
    refine lv_iload (pc := 137) hx hb dX9_pivots_137 (lv_at hl 4 rfl) ?_
    refine lv_aload_n (pc := 139) hx hb dX9_pivots_139 rfl (lv_at hl 0 rfl) ?_
    refine rk_getN (pc := 140) hx hb hts hown hK hW1 fnX9_235 0 (by decide) rfl rfl (x := .ref (b1 + 6)) (by first | rfl | exact congrArg (fun z => some (Value.ref z)) (by omega)) dX9_pivots_140 ?_
    refine lv_iload (pc := 143) hx hb dX9_pivots_143 (lv_at hl 4 rfl) ?_
    obtain ⟨hg92, hm⟩ := gb_some hm
    refine rk_lald (pc := 145) hx hb hK hW1 6 (by decide) rfl rfl hg92 (x := (gL v1 6 i6.toNatClampNeg)) rfl dX9_pivots_145 ?_
    obtain ⟨hg93, hm⟩ := gb_some hm
    refine rk_last (pc := 146) hx hb hK hW1 hS 3 (by decide) rfl (Or.inl (show iv _ _ _ from ⟨by omega, by omega⟩)) (fun _ _ _ => rfl) hg93 dX9_pivots_146 (fun H95 locs96 hW97 hS98 hz99 hkp100 => ?_)
    obtain ⟨v1_94, he9, hm⟩ := lm_some hm
    rw [he9] at hW97
    have hW101 := rg_keepq hW0 hkp100 (by omega)
    have hz102 := hz99.trans hz
    refine lv_iinc (pc := 147) (v := (i6 + (1 : Int32))) (lv' := [(6, .int (i6 + (1 : Int32))), (1, .ref b1), (2, .int i2), (3, .int i3), (4, .long j4)]) hx hb dX9_pivots_147 hl (k := 4) rfl rfl (by decide) rfl (fun ls hl => ?_)
    refine lv_goto (pc := 150) (tgt := 124) hx hb dX9_pivots_150 (by decide) ?_
    exact hk124 v1_94 i2 i3 j4 (i6 + (1 : Int32)) hm H95 locs96 ls hW101 hW97 hS98 hz102 (lv_sub hl [1, 2, 3, 4, 0] rfl)
theorem w_fX9_pivots_124_l (C : Cx G p s m args meth c RX9 cX9_pivots 7 (some .boolean)) {b0 : Nat} {b1 : Nat} {V0 : Mem} {rx : Int32} {rw1 : Mem} (hd01 : b0 + 6 ≤ b1 ∨ b1 + 13 ≤ b0) : ∀ (n : Nat) (v1 : Mem) (i2 : Int32) (i3 : Int32) (j4 : Int64) (i6 : Int32), lq5 (fX9_pivots_124 V0) n v1 i2 i3 j4 i6 = some (rx, rw1) → ∀ (H : Heap) (locs : List Loc) (ls : Array Slot), rg G b0 6 (shX9 G.2.1) V0 H → rg G b1 13 (shX10 G.2.1) v1 H → va_S (FA (iv b1 13) s.heap.size) s.heap H locs → H.size = s.heap.size → lv_has ls 7 [(1, .ref b1), (2, .int i2), (3, .int i3), (4, .long j4), (6, .int i6)] → W p l e (rmT 2 0 0 53) s m args below meth c H locs 0 0 (MQ below (QcT (FA (iv b1 13) s.heap.size) (fun ov H => ov = (some (.int rx)) ∧ rg G b1 13 (shX10 G.2.1) rw1 H ∧ H.size = s.heap.size)) args s 0 0 (FA (iv b1 13) s.heap.size)) (F0 m 124 ls []) := by
  intro n
  induction n with
  | zero => intro v1 i2 i3 j4 i6 hm; exact (lq5_0 hm).elim
  | succ n ih => intro v1 i2 i3 j4 i6 hm; exact w_fX9_pivots_124 C hd01 ih v1 i2 i3 j4 i6 (lq5_s hm)
set_option maxHeartbeats 4000000 in
theorem w_fX9_pivots_92 (C : Cx G p s m args meth c RX9 cX9_pivots 7 (some .boolean)) {b0 : Nat} {b1 : Nat} {V0 : Mem} {rx : Int32} {rw1 : Mem} (hd01 : b0 + 6 ≤ b1 ∨ b1 + 13 ≤ b0) {k92 : Mem → Int32 → Int32 → Int64 → Int32 → Option (Int32 × Mem)} (hk92 : ∀ (v1 : Mem) (i2 : Int32) (i3 : Int32) (j4 : Int64) (i6 : Int32), k92 v1 i2 i3 j4 i6 = some (rx, rw1) → ∀ (H : Heap) (locs : List Loc) (ls : Array Slot), rg G b0 6 (shX9 G.2.1) V0 H → rg G b1 13 (shX10 G.2.1) v1 H → va_S (FA (iv b1 13) s.heap.size) s.heap H locs → H.size = s.heap.size → lv_has ls 7 [(1, .ref b1), (2, .int i2), (3, .int i3), (4, .long j4), (6, .int i6)] → W p l e (rmT 2 0 0 53) s m args below meth c H locs 0 0 (MQ below (QcT (FA (iv b1 13) s.heap.size) (fun ov H => ov = (some (.int rx)) ∧ rg G b1 13 (shX10 G.2.1) rw1 H ∧ H.size = s.heap.size)) args s 0 0 (FA (iv b1 13) s.heap.size)) (F0 m 92 ls [])) : ∀ (v1 : Mem) (i2 : Int32) (i3 : Int32) (j4 : Int64) (i6 : Int32), fX9_pivots_92 V0 k92 v1 i2 i3 j4 i6 = some (rx, rw1) → ∀ (H : Heap) (locs : List Loc) (ls : Array Slot), rg G b0 6 (shX9 G.2.1) V0 H → rg G b1 13 (shX10 G.2.1) v1 H → va_S (FA (iv b1 13) s.heap.size) s.heap H locs → H.size = s.heap.size → lv_has ls 7 [(1, .ref b1), (2, .int i2), (3, .int i3), (4, .long j4), (6, .int i6)] → W p l e (rmT 2 0 0 53) s m args below meth c H locs 0 0 (MQ below (QcT (FA (iv b1 13) s.heap.size) (fun ov H => ov = (some (.int rx)) ∧ rg G b1 13 (shX10 G.2.1) rw1 H ∧ H.size = s.heap.size)) args s 0 0 (FA (iv b1 13) s.heap.size)) (F0 m 92 ls []) := by
  intro v1 i2 i3 j4 i6 hm H locs ls hW0 hW1 hS hz hl
  obtain ⟨hx, hb, hr, hlk, hml, hown, hts, hK⟩ := id C
  unfold fX9_pivots_92 at hm
  refine lv_iload (pc := 92) hx hb dX9_pivots_92 (lv_at hl 4 rfl) ?_
  refine lv_aload_n (pc := 94) hx hb dX9_pivots_94 rfl (lv_at hl 0 rfl) ?_
  refine rk_getN (pc := 95) hx hb hts hown hK hW1 fnX9_178 0 (by decide) rfl rfl (x := .int (gI v1 0 15)) rfl dX9_pivots_95 ?_
  refine lv_icmp_ge (pc := 98) (tgt := 121) hx hb dX9_pivots_98 (by decide) (fun c39 => ?_) (fun c39 => ?_)
  · have hm := ite_t c39 hm
    refine lv_iconst (pc := 121) (v := (0 : Int32)) hx hb dX9_pivots_121 (by decide) ?_
    refine lv_istore (pc := 122) (lv' := [(6, .int (0 : Int32)), (1, .ref b1), (2, .int i2), (3, .int i3), (4, .long j4)]) hx hb dX9_pivots_122 hl (by decide) rfl (fun ls hl => ?_)
    exact (w_fX9_pivots_124_l C hd01 FU) v1 i2 i3 j4 (0 : Int32) hm H locs ls hW0 hW1 hS hz (lv_sub hl [1, 2, 3, 4, 0] rfl)
  · have hm := ite_f c39 hm
    refine lv_aload_n (pc := 101) hx hb dX9_pivots_101 rfl (lv_at hl 0 rfl) ?_
    refine rk_getN (pc := 102) hx hb hts hown hK hW1 fnX9_184 0 (by decide) rfl rfl (x := .ref (b1 + 2)) (by first | rfl | exact congrArg (fun z => some (Value.ref z)) (by omega)) dX9_pivots_102 ?_
    refine lv_iload (pc := 105) hx hb dX9_pivots_105 (lv_at hl 4 rfl) ?_
    refine lv_aload_n (pc := 107) hx hb dX9_pivots_107 rfl (lv_at hl 0 rfl) ?_
    refine rk_getN (pc := 108) hx hb hts hown hK hW1 fnX9_232 0 (by decide) rfl rfl (x := .ref (b1 + 5)) (by first | rfl | exact congrArg (fun z => some (Value.ref z)) (by omega)) dX9_pivots_108 ?_
    refine lv_iload (pc := 111) hx hb dX9_pivots_111 (lv_at hl 4 rfl) ?_
    obtain ⟨hg40, hm⟩ := gb_some hm
    refine rk_lald (pc := 113) hx hb hK hW1 5 (by decide) rfl rfl hg40 (x := (gL v1 5 i6.toNatClampNeg)) rfl dX9_pivots_113 ?_
    obtain ⟨hg41, hm⟩ := gb_some hm
    refine rk_last (pc := 114) hx hb hK hW1 hS 2 (by decide) rfl (Or.inl (show iv _ _ _ from ⟨by omega, by omega⟩)) (fun _ _ _ => rfl) hg41 dX9_pivots_114 (fun H43 locs44 hW45 hS46 hz47 hkp48 => ?_)
    obtain ⟨v1_42, he9, hm⟩ := lm_some hm
    rw [he9] at hW45
    have hW49 := rg_keepq hW0 hkp48 (by omega)
    have hz50 := hz47.trans hz
    refine lv_iinc (pc := 115) (v := (i6 + (1 : Int32))) (lv' := [(6, .int (i6 + (1 : Int32))), (1, .ref b1), (2, .int i2), (3, .int i3), (4, .long j4)]) hx hb dX9_pivots_115 hl (k := 4) rfl rfl (by decide) rfl (fun ls hl => ?_)
    refine lv_goto (pc := 118) (tgt := 92) hx hb dX9_pivots_118 (by decide) ?_
    exact hk92 v1_42 i2 i3 j4 (i6 + (1 : Int32)) hm H43 locs44 ls hW49 hW45 hS46 hz50 (lv_sub hl [1, 2, 3, 4, 0] rfl)
theorem w_fX9_pivots_92_l (C : Cx G p s m args meth c RX9 cX9_pivots 7 (some .boolean)) {b0 : Nat} {b1 : Nat} {V0 : Mem} {rx : Int32} {rw1 : Mem} (hd01 : b0 + 6 ≤ b1 ∨ b1 + 13 ≤ b0) : ∀ (n : Nat) (v1 : Mem) (i2 : Int32) (i3 : Int32) (j4 : Int64) (i6 : Int32), lq5 (fX9_pivots_92 V0) n v1 i2 i3 j4 i6 = some (rx, rw1) → ∀ (H : Heap) (locs : List Loc) (ls : Array Slot), rg G b0 6 (shX9 G.2.1) V0 H → rg G b1 13 (shX10 G.2.1) v1 H → va_S (FA (iv b1 13) s.heap.size) s.heap H locs → H.size = s.heap.size → lv_has ls 7 [(1, .ref b1), (2, .int i2), (3, .int i3), (4, .long j4), (6, .int i6)] → W p l e (rmT 2 0 0 53) s m args below meth c H locs 0 0 (MQ below (QcT (FA (iv b1 13) s.heap.size) (fun ov H => ov = (some (.int rx)) ∧ rg G b1 13 (shX10 G.2.1) rw1 H ∧ H.size = s.heap.size)) args s 0 0 (FA (iv b1 13) s.heap.size)) (F0 m 92 ls []) := by
  intro n
  induction n with
  | zero => intro v1 i2 i3 j4 i6 hm; exact (lq5_0 hm).elim
  | succ n ih => intro v1 i2 i3 j4 i6 hm; exact w_fX9_pivots_92 C hd01 ih v1 i2 i3 j4 i6 (lq5_s hm)
set_option maxHeartbeats 4000000 in
theorem w_fX9_pivots_58 (C : Cx G p s m args meth c RX9 cX9_pivots 7 (some .boolean)) {b0 : Nat} {b1 : Nat} {V0 : Mem} {rx : Int32} {rw1 : Mem} (hd01 : b0 + 6 ≤ b1 ∨ b1 + 13 ≤ b0) {k58 : Mem → Int32 → Int32 → Int64 → Int32 → Option (Int32 × Mem)} (hk58 : ∀ (v1 : Mem) (i2 : Int32) (i3 : Int32) (j4 : Int64) (i6 : Int32), k58 v1 i2 i3 j4 i6 = some (rx, rw1) → ∀ (H : Heap) (locs : List Loc) (ls : Array Slot), rg G b0 6 (shX9 G.2.1) V0 H → rg G b1 13 (shX10 G.2.1) v1 H → va_S (FA (iv b1 13) s.heap.size) s.heap H locs → H.size = s.heap.size → lv_has ls 7 [(1, .ref b1), (2, .int i2), (3, .int i3), (4, .long j4), (6, .int i6)] → W p l e (rmT 2 0 0 53) s m args below meth c H locs 0 0 (MQ below (QcT (FA (iv b1 13) s.heap.size) (fun ov H => ov = (some (.int rx)) ∧ rg G b1 13 (shX10 G.2.1) rw1 H ∧ H.size = s.heap.size)) args s 0 0 (FA (iv b1 13) s.heap.size)) (F0 m 58 ls [])) : ∀ (v1 : Mem) (i2 : Int32) (i3 : Int32) (j4 : Int64) (i6 : Int32), fX9_pivots_58 V0 k58 v1 i2 i3 j4 i6 = some (rx, rw1) → ∀ (H : Heap) (locs : List Loc) (ls : Array Slot), rg G b0 6 (shX9 G.2.1) V0 H → rg G b1 13 (shX10 G.2.1) v1 H → va_S (FA (iv b1 13) s.heap.size) s.heap H locs → H.size = s.heap.size → lv_has ls 7 [(1, .ref b1), (2, .int i2), (3, .int i3), (4, .long j4), (6, .int i6)] → W p l e (rmT 2 0 0 53) s m args below meth c H locs 0 0 (MQ below (QcT (FA (iv b1 13) s.heap.size) (fun ov H => ov = (some (.int rx)) ∧ rg G b1 13 (shX10 G.2.1) rw1 H ∧ H.size = s.heap.size)) args s 0 0 (FA (iv b1 13) s.heap.size)) (F0 m 58 ls []) := by
  intro v1 i2 i3 j4 i6 hm H locs ls hW0 hW1 hS hz hl
  obtain ⟨hx, hb, hr, hlk, hml, hown, hts, hK⟩ := id C
  unfold fX9_pivots_58 at hm
  refine lv_iload (pc := 58) hx hb dX9_pivots_58 (lv_at hl 4 rfl) ?_
  refine lv_iconst (pc := 60) (v := (5 : Int32)) hx hb dX9_pivots_60 (by decide) ?_
  refine lv_aload_n (pc := 61) hx hb dX9_pivots_61 rfl (lv_at hl 0 rfl) ?_
  refine rk_getN (pc := 62) hx hb hts hown hK hW1 fnX9_178 0 (by decide) rfl rfl (x := .int (gI v1 0 15)) rfl dX9_pivots_62 ?_
  refine lv_imul (pc := 65) hx hb dX9_pivots_65 ?_
  refine lv_icmp_ge (pc := 66) (tgt := 89) hx hb dX9_pivots_66 (by decide) (fun c27 => ?_) (fun c27 => ?_)
  · have hm := ite_t c27 hm
    refine lv_iconst (pc := 89) (v := (0 : Int32)) hx hb dX9_pivots_89 (by decide) ?_
    refine lv_istore (pc := 90) (lv' := [(6, .int (0 : Int32)), (1, .ref b1), (2, .int i2), (3, .int i3), (4, .long j4)]) hx hb dX9_pivots_90 hl (by decide) rfl (fun ls hl => ?_)
    exact (w_fX9_pivots_92_l C hd01 FU) v1 i2 i3 j4 (0 : Int32) hm H locs ls hW0 hW1 hS hz (lv_sub hl [1, 2, 3, 4, 0] rfl)
  · have hm := ite_f c27 hm
    refine lv_aload_n (pc := 69) hx hb dX9_pivots_69 rfl (lv_at hl 0 rfl) ?_
    refine rk_getN (pc := 70) hx hb hts hown hK hW1 fnX9_175 0 (by decide) rfl rfl (x := .ref (b1 + 1)) (by first | rfl | exact congrArg (fun z => some (Value.ref z)) (by omega)) dX9_pivots_70 ?_
    refine lv_iload (pc := 73) hx hb dX9_pivots_73 (lv_at hl 4 rfl) ?_
    refine lv_aload_n (pc := 75) hx hb dX9_pivots_75 rfl (lv_at hl 0 rfl) ?_
    refine rk_getN (pc := 76) hx hb hts hown hK hW1 fnX9_229 0 (by decide) rfl rfl (x := .ref (b1 + 4)) (by first | rfl | exact congrArg (fun z => some (Value.ref z)) (by omega)) dX9_pivots_76 ?_
    refine lv_iload (pc := 79) hx hb dX9_pivots_79 (lv_at hl 4 rfl) ?_
    obtain ⟨hg28, hm⟩ := gb_some hm
    refine rk_lald (pc := 81) hx hb hK hW1 4 (by decide) rfl rfl hg28 (x := (gL v1 4 i6.toNatClampNeg)) rfl dX9_pivots_81 ?_
    obtain ⟨hg29, hm⟩ := gb_some hm
    refine rk_last (pc := 82) hx hb hK hW1 hS 1 (by decide) rfl (Or.inl (show iv _ _ _ from ⟨by omega, by omega⟩)) (fun _ _ _ => rfl) hg29 dX9_pivots_82 (fun H31 locs32 hW33 hS34 hz35 hkp36 => ?_)
    obtain ⟨v1_30, he9, hm⟩ := lm_some hm
    rw [he9] at hW33
    have hW37 := rg_keepq hW0 hkp36 (by omega)
    have hz38 := hz35.trans hz
    refine lv_iinc (pc := 83) (v := (i6 + (1 : Int32))) (lv' := [(6, .int (i6 + (1 : Int32))), (1, .ref b1), (2, .int i2), (3, .int i3), (4, .long j4)]) hx hb dX9_pivots_83 hl (k := 4) rfl rfl (by decide) rfl (fun ls hl => ?_)
    refine lv_goto (pc := 86) (tgt := 58) hx hb dX9_pivots_86 (by decide) ?_
    exact hk58 v1_30 i2 i3 j4 (i6 + (1 : Int32)) hm H31 locs32 ls hW37 hW33 hS34 hz38 (lv_sub hl [1, 2, 3, 4, 0] rfl)
theorem w_fX9_pivots_58_l (C : Cx G p s m args meth c RX9 cX9_pivots 7 (some .boolean)) {b0 : Nat} {b1 : Nat} {V0 : Mem} {rx : Int32} {rw1 : Mem} (hd01 : b0 + 6 ≤ b1 ∨ b1 + 13 ≤ b0) : ∀ (n : Nat) (v1 : Mem) (i2 : Int32) (i3 : Int32) (j4 : Int64) (i6 : Int32), lq5 (fX9_pivots_58 V0) n v1 i2 i3 j4 i6 = some (rx, rw1) → ∀ (H : Heap) (locs : List Loc) (ls : Array Slot), rg G b0 6 (shX9 G.2.1) V0 H → rg G b1 13 (shX10 G.2.1) v1 H → va_S (FA (iv b1 13) s.heap.size) s.heap H locs → H.size = s.heap.size → lv_has ls 7 [(1, .ref b1), (2, .int i2), (3, .int i3), (4, .long j4), (6, .int i6)] → W p l e (rmT 2 0 0 53) s m args below meth c H locs 0 0 (MQ below (QcT (FA (iv b1 13) s.heap.size) (fun ov H => ov = (some (.int rx)) ∧ rg G b1 13 (shX10 G.2.1) rw1 H ∧ H.size = s.heap.size)) args s 0 0 (FA (iv b1 13) s.heap.size)) (F0 m 58 ls []) := by
  intro n
  induction n with
  | zero => intro v1 i2 i3 j4 i6 hm; exact (lq5_0 hm).elim
  | succ n ih => intro v1 i2 i3 j4 i6 hm; exact w_fX9_pivots_58 C hd01 ih v1 i2 i3 j4 i6 (lq5_s hm)
set_option maxHeartbeats 4000000 in
theorem w_fX9_pivots (C : Cx G p s m args meth c RX9 cX9_pivots 7 (some .boolean)) {b0 : Nat} {b1 : Nat} {V0 : Mem} {rx : Int32} {rw1 : Mem} (hd01 : b0 + 6 ≤ b1 ∨ b1 + 13 ≤ b0) : ∀ (v1 : Mem) (i2 : Int32) (i3 : Int32), fX9_pivots V0 v1 i2 i3 = some (rx, rw1) → ∀ (H : Heap) (locs : List Loc) (ls : Array Slot), rg G b0 6 (shX9 G.2.1) V0 H → rg G b1 13 (shX10 G.2.1) v1 H → va_S (FA (iv b1 13) s.heap.size) s.heap H locs → H.size = s.heap.size → lv_has ls 7 [(0, .ref b0), (1, .ref b1), (2, .int i2), (3, .int i3)] → W p l e (rmT 2 0 0 53) s m args below meth c H locs 0 0 (MQ below (QcT (FA (iv b1 13) s.heap.size) (fun ov H => ov = (some (.int rx)) ∧ rg G b1 13 (shX10 G.2.1) rw1 H ∧ H.size = s.heap.size)) args s 0 0 (FA (iv b1 13) s.heap.size)) (F0 m 0 ls []) := by
  intro v1 i2 i3 hm H locs ls hW0 hW1 hS hz hl
  obtain ⟨hx, hb, hr, hlk, hml, hown, hts, hK⟩ := id C
  unfold fX9_pivots at hm
  refine lv_aload_n (pc := 0) hx hb dX9_pivots_0 rfl (lv_at hl 0 rfl) ?_
  refine lv_aload_n (pc := 1) hx hb dX9_pivots_1 rfl (lv_at hl 1 rfl) ?_
  refine lv_iload_n (pc := 2) hx hb dX9_pivots_2 rfl (lv_at hl 2 rfl) ?_
  refine lv_iload_n (pc := 3) hx hb dX9_pivots_3 rfl (lv_at hl 3 rfl) ?_
  obtain ⟨r1, w2, hq3, hm⟩ := ob2_some hm
  refine rk_TV (pc := 4) (As := [.ref b1, .int i2, .int i3]) (rest := []) (mc := 0) (ms := 0) hx hb hml hown hts hK hS (fun q hq => FA_sz rfl q hq) lkX9_238 rfl yn_X9_tries (ct_X9_tries (G := G) (l := l) (b0 := b0) (b1 := b1) (sz := H.size) hq3 (by omega)) ⟨Nat.le_of_ble_eq_true rfl, Nat.le_of_ble_eq_true rfl⟩ (fun z h => Or.inl (show iv _ _ _ from ⟨by have h8 := h.1; have h9 := h.2; omega, by have h8 := h.1; have h9 := h.2; omega⟩)) (rk_recv hK hW0 0 (by decide) rfl rfl rfl) ⟨hW0, hW1⟩ rfl rfl hl.1 (Nat.le_of_ble_eq_true rfl) dX9_pivots_4 ⟨Nat.zero_le _, Nat.zero_le _⟩ (fun ov9 H4 locs5 hP6 hkp7 hS8 => ?_)
  obtain ⟨rfl, hW9, hz10⟩ := hP6
  have hW11 := rg_keepA hW0 hkp7 (by intro z h1 h2 h3; have h8 := h3.1; have h9 := h3.2; omega)
  have hz12 := hz10.trans hz
  refine W.eq (g2 := F0 m 7 ls [.int r1]) rfl ?_
  refine lv_if_ne (pc := 7) (tgt := 12) hx hb dX9_pivots_7 (by decide) (fun c13 => ?_) (fun c13 => ?_)
  · have hm := ite_f c13 hm
    refine lv_aload_n (pc := 12) hx hb dX9_pivots_12 rfl (lv_at hl 1 rfl) ?_
    refine rk_getN (pc := 13) hx hb hts hown hK hW9 fnX9_175 0 (by decide) rfl rfl (x := .ref (b1 + 1)) (by first | rfl | exact congrArg (fun z => some (Value.ref z)) (by omega)) dX9_pivots_13 ?_
    refine lv_iconst (pc := 16) (v := (5 : Int32)) hx hb dX9_pivots_16 (by decide) ?_
    refine lv_iload_n (pc := 17) hx hb dX9_pivots_17 rfl (lv_at hl 2 rfl) ?_
    refine lv_imul (pc := 18) hx hb dX9_pivots_18 ?_
    refine lv_iload_n (pc := 19) hx hb dX9_pivots_19 rfl (lv_at hl 3 rfl) ?_
    refine lv_iadd (pc := 20) hx hb dX9_pivots_20 ?_
    obtain ⟨hg14, hm⟩ := gb_some hm
    refine rk_lald (pc := 21) hx hb hK hW9 1 (by decide) rfl rfl hg14 (x := (gL w2 1 (((5 : Int32) * i2) + i3).toNatClampNeg)) rfl dX9_pivots_21 ?_
    refine lv_lneg (pc := 22) hx hb dX9_pivots_22 ?_
    refine lv_lstore (pc := 23) (lv' := [(4, .long (-(gL w2 1 (((5 : Int32) * i2) + i3).toNatClampNeg))), (0, .ref b0), (1, .ref b1), (2, .int i2), (3, .int i3)]) hx hb dX9_pivots_23 hl (by decide) rfl (fun ls hl => ?_)
    refine lv_aload_n (pc := 25) hx hb dX9_pivots_25 rfl (lv_at hl 2 rfl) ?_
    refine lv_lload (pc := 26) hx hb dX9_pivots_26 (lv_at hl 0 rfl) ?_
    refine lv_aload_n (pc := 28) hx hb dX9_pivots_28 rfl (lv_at hl 2 rfl) ?_
    refine rk_getN (pc := 29) hx hb hts hown hK hW9 fnX9_193 0 (by decide) rfl rfl (x := .long (gL w2 0 12)) rfl dX9_pivots_29 ?_
    refine lv_lmul (pc := 32) hx hb dX9_pivots_32 ?_
    refine lv_aload_n (pc := 33) hx hb dX9_pivots_33 rfl (lv_at hl 2 rfl) ?_
    refine rk_getN (pc := 34) hx hb hts hown hK hW9 fnX9_203 0 (by decide) rfl rfl (x := .ref (b1 + 3)) (by first | rfl | exact congrArg (fun z => some (Value.ref z)) (by omega)) dX9_pivots_34 ?_
    refine lv_iload_n (pc := 37) hx hb dX9_pivots_37 rfl (lv_at hl 4 rfl) ?_
    obtain ⟨hg15, hm⟩ := gb_some hm
    refine rk_lald (pc := 38) hx hb hK hW9 3 (by decide) rfl rfl hg15 (x := (gL w2 3 i3.toNatClampNeg)) rfl dX9_pivots_38 ?_
    refine lv_aload_n (pc := 39) hx hb dX9_pivots_39 rfl (lv_at hl 2 rfl) ?_
    refine rk_getN (pc := 40) hx hb hts hown hK hW9 fnX9_184 0 (by decide) rfl rfl (x := .ref (b1 + 2)) (by first | rfl | exact congrArg (fun z => some (Value.ref z)) (by omega)) dX9_pivots_40 ?_
    refine lv_iload_n (pc := 43) hx hb dX9_pivots_43 rfl (lv_at hl 3 rfl) ?_
    obtain ⟨hg16, hm⟩ := gb_some hm
    refine rk_lald (pc := 44) hx hb hK hW9 2 (by decide) rfl rfl hg16 (x := (gL w2 2 i2.toNatClampNeg)) rfl dX9_pivots_44 ?_
    refine lv_lmul (pc := 45) hx hb dX9_pivots_45 ?_
    refine lv_lsub (pc := 46) hx hb dX9_pivots_46 ?_
    refine lv_aload_n (pc := 47) hx hb dX9_pivots_47 rfl (lv_at hl 2 rfl) ?_
    refine rk_getN (pc := 48) hx hb hts hown hK hW9 fnX9_197 0 (by decide) rfl rfl (x := .long (gL w2 0 13)) rfl dX9_pivots_48 ?_
    obtain ⟨hg17, hm⟩ := gb_some hm
    refine lv_ldiv (pc := 51) hx hb dX9_pivots_51 (nz64_ne hg17) ?_
    refine rk_putN (pc := 52) hx hb hts hown hK hW9 hS8 fnX9_193 ft_X10 0 (by decide) rfl (Or.inl (show iv _ _ _ from ⟨by omega, by omega⟩)) rfl rfl (x := .long ((((-(gL w2 1 (((5 : Int32) * i2) + i3).toNatClampNeg)) * (gL w2 0 12)) - ((gL w2 3 i3.toNatClampNeg) * (gL w2 2 i2.toNatClampNeg))) / (gL w2 0 13))) rfl rfl (Nat.le_of_ble_eq_true rfl) (sL w2 0 12 ((((-(gL w2 1 (((5 : Int32) * i2) + i3).toNatClampNeg)) * (gL w2 0 12)) - ((gL w2 3 i3.toNatClampNeg) * (gL w2 2 i2.toNatClampNeg))) / (gL w2 0 13))) sL_ne (by rw [sL_eq]; exact rfl) dX9_pivots_52 (fun H19 locs20 hW21 hS22 hz23 hkp24 => ?_)
    obtain ⟨v1_18, he9, hm⟩ := lm_some hm
    rw [he9] at hW21
    have hW25 := rg_keepq hW11 hkp24 (by omega)
    have hz26 := hz23.trans hz12
    refine lv_iconst (pc := 55) (v := (0 : Int32)) hx hb dX9_pivots_55 (by decide) ?_
    refine lv_istore (pc := 56) (lv' := [(6, .int (0 : Int32)), (4, .long (-(gL w2 1 (((5 : Int32) * i2) + i3).toNatClampNeg))), (0, .ref b0), (1, .ref b1), (2, .int i2), (3, .int i3)]) hx hb dX9_pivots_56 hl (by decide) rfl (fun ls hl => ?_)
    exact (w_fX9_pivots_58_l C hd01 FU) v1_18 i2 i3 (-(gL w2 1 (((5 : Int32) * i2) + i3).toNatClampNeg)) (0 : Int32) hm H19 locs20 ls hW25 hW21 hS22 hz26 (lv_sub hl [3, 4, 5, 1, 0] rfl)
  · have hm := ite_t c13 hm
    refine lv_iconst (pc := 10) (v := (0 : Int32)) hx hb dX9_pivots_10 (by decide) ?_
    obtain ⟨e8, e9⟩ := rs2 hm
    subst e8
    subst e9
    exact rk_zret (pc := 11) hx hb hr hlk rfl hS8 ⟨rfl, hW9, hz12⟩ dX9_pivots_11
set_option maxHeartbeats 4000000 in
theorem ct_X9_pivots {G : Gv} {l : Launch} {b0 : Nat} {b1 : Nat} {V0 : Mem} {v1 : Mem} {i2 : Int32} {i3 : Int32} {rx : Int32} {rw1 : Mem} {sz : Nat} (hm : fX9_pivots V0 v1 i2 i3 = some (rx, rw1)) (hd01 : b0 + 6 ≤ b1 ∨ b1 + 13 ≤ b0) : CT G l yX9_pivots (ws_ yX9_pivots cX9_pivots 7 (some .boolean)) 2 0 0 53 [.ref b0, .ref b1, .int i2, .int i3] (iv b1 13) sz (fun H => rg G b0 6 (shX9 G.2.1) V0 H ∧ rg G b1 13 (shX10 G.2.1) v1 H) (fun ov H => ov = (some (.int rx)) ∧ rg G b1 13 (shX10 G.2.1) rw1 H ∧ H.size = sz) := by
  refine Met.ofW (cc := cX9_pivots) (maxL := 7) (ret := (some .boolean)) (by decide +kernel) rfl ?_
  intro p e s m args below meth c s₁ B hml hv
  obtain ⟨rfl, ⟨hz, hW0, hW1⟩, hK⟩ := hv
  subst hz
  have hts := atoms_spec (ws := ws_ yX9_pivots cX9_pivots 7 (some .boolean)) B.pre
  have hts : ∀ w ∈ lw_all, w.before _ s = true := fun w h => hts w (List.mem_cons_of_mem _ h)
  have C : Cx G p s m _ meth c RX9 cX9_pivots 7 (some .boolean) := ⟨B.exec, B.bytes, B.returns, B.notSynchronized, hml, findClass_of_methodNamed B.named, hts, hK⟩
  have hl := lv_entry ([.ref b0, .ref b1, .int i2, .int i3]) (n := 7) (Nat.le_of_ble_eq_true rfl)
  rw [lg_entry_eq]
  generalize (lg_sl ([.ref b0, .ref b1, .int i2, .int i3]) ++ List.replicate (7 - (lg_sl ([.ref b0, .ref b1, .int i2, .int i3])).length) Slot.unset).toArray = ls at hl ⊢
  have hl : lv_has ls 7 [(0, .ref b0), (1, .ref b1), (2, .int i2), (3, .int i3)] := hl
  exact w_fX9_pivots C hd01 _ _ _ hm s.heap [] ls hW0 hW1 va_S.rf rfl hl
noncomputable def fX9_columnFor_77 (V0 : Mem) (V1 : Mem) (k5 : Int32 → Int32 → Int32 → Option (Int32)) (i2 : Int32) (i3 : Int32) (i4 : Int32) (u0 : Int64) : Option (Int32) :=
  if u0 < (0 : Int64) then (
  k5 i2 i4 (i4 + (1 : Int32)))
  else (
  if u0 = (0 : Int64) then (
  gb (inR i4 5) (
  gb (inR i3 5) (
  if (gI V1 8 i3.toNatClampNeg) ≤ (gI V1 8 i4.toNatClampNeg) then (
  k5 i2 i3 (i4 + (1 : Int32)))
  else (
  k5 i2 i4 (i4 + (1 : Int32))))))
  else (
  k5 i2 i3 (i4 + (1 : Int32))))
noncomputable def fX9_columnFor_5 (V0 : Mem) (V1 : Mem) (k5 : Int32 → Int32 → Int32 → Option (Int32)) (i2 : Int32) (i3 : Int32) (i4 : Int32) : Option (Int32) :=
  if (gI V1 0 14) ≤ i4 then (
  some i3)
  else (
  gb (inR (((5 : Int32) * i2) + i4) 100) (
  if (0 : Int64) < (-(gL V1 1 (((5 : Int32) * i2) + i4).toNatClampNeg)) then (
  if 0 ≤ i3 then (
  gb (inR i4 5) (
  gb (inR (((5 : Int32) * i2) + i3) 100) (
  gb (inR i3 5) (
  fX9_columnFor_77 V0 V1 k5 i2 i3 i4 (((gL V1 3 i4.toNatClampNeg) * (-(gL V1 1 (((5 : Int32) * i2) + i3).toNatClampNeg))) - ((gL V1 3 i3.toNatClampNeg) * (-(gL V1 1 (((5 : Int32) * i2) + i4).toNatClampNeg))))))))
  else (
  fX9_columnFor_77 V0 V1 k5 i2 i3 i4 (-1 : Int64)))
  else (
  k5 i2 i3 (i4 + (1 : Int32)))))
noncomputable def fX9_columnFor (V0 : Mem) (V1 : Mem) (i2 : Int32) : Option (Int32) :=
  lq3 (fX9_columnFor_5 V0 V1) FU i2 (-1 : Int32) (0 : Int32)
set_option maxHeartbeats 4000000 in
theorem w_fX9_columnFor_77 (C : Cx G p s m args meth c RX9 cX9_columnFor 9 (some .int)) {b0 : Nat} {b1 : Nat} {V0 : Mem} {V1 : Mem} {rx : Int32} (hW0 : rg G b0 6 (shX9 G.2.1) V0 s.heap) (hW1 : rg G b1 13 (shX10 G.2.1) V1 s.heap) {k5 : Int32 → Int32 → Int32 → Option (Int32)} (hk5 : ∀ (i2 : Int32) (i3 : Int32) (i4 : Int32), k5 i2 i3 i4 = some rx → ∀ (ls : Array Slot), lv_has ls 9 [(1, .ref b1), (2, .int i2), (3, .int i3), (4, .int i4)] → W p l e (rmP 0 0) s m args below meth c s.heap [] 0 0 (MQ below (QcP (some (.int rx))) args s 0 0 (fun _ => False)) (F0 m 5 ls [])) : ∀ (i2 : Int32) (i3 : Int32) (i4 : Int32) (u0 : Int64), fX9_columnFor_77 V0 V1 k5 i2 i3 i4 u0 = some rx → ∀ (ls : Array Slot), lv_has ls 9 [(1, .ref b1), (2, .int i2), (3, .int i3), (4, .int i4)] → W p l e (rmP 0 0) s m args below meth c s.heap [] 0 0 (MQ below (QcP (some (.int rx))) args s 0 0 (fun _ => False)) (F0 m 77 ls [.long u0]) := by
  intro i2 i3 i4 u0 hm ls hl
  obtain ⟨hx, hb, hr, hlk, hml, hown, hts, hK⟩ := id C
  unfold fX9_columnFor_77 at hm
  refine lv_lstore (pc := 77) (lv' := [(7, .long u0), (1, .ref b1), (2, .int i2), (3, .int i3), (4, .int i4)]) hx hb dX9_columnFor_77 hl (by decide) rfl (fun ls hl => ?_)
  refine lv_lload (pc := 79) hx hb dX9_columnFor_79 (lv_at hl 0 rfl) ?_
  refine lv_lconst (pc := 81) (v := (0 : Int64)) hx hb dX9_columnFor_81 (by decide) ?_
  refine rk_lcmp_lt (pc := 82) (tgt := 109) hx hb dX9_columnFor_82 rfl dX9_columnFor_83 (by decide) (fun c8 => ?_) (fun c8 => ?_)
  · have hm := ite_t c8 hm
    refine lv_iload (pc := 109) hx hb dX9_columnFor_109 (lv_at hl 4 rfl) ?_
    refine lv_istore_n (pc := 111) (lv' := [(3, .int i4), (7, .long u0), (1, .ref b1), (2, .int i2), (4, .int i4)]) hx hb dX9_columnFor_111 rfl hl (by decide) rfl (fun ls hl => ?_)
    refine lv_iinc (pc := 112) (v := (i4 + (1 : Int32))) (lv' := [(4, .int (i4 + (1 : Int32))), (3, .int i4), (7, .long u0), (1, .ref b1), (2, .int i2)]) hx hb dX9_columnFor_112 hl (k := 4) rfl rfl (by decide) rfl (fun ls hl => ?_)
    refine lv_goto (pc := 115) (tgt := 5) hx hb dX9_columnFor_115 (by decide) ?_
    exact hk5 i2 i4 (i4 + (1 : Int32)) hm ls (lv_sub hl [3, 4, 1, 0] rfl)
  · have hm := ite_f c8 hm
    refine lv_lload (pc := 86) hx hb dX9_columnFor_86 (lv_at hl 0 rfl) ?_
    refine lv_lconst (pc := 88) (v := (0 : Int64)) hx hb dX9_columnFor_88 (by decide) ?_
    refine rk_lcmp_ne (pc := 89) (tgt := 112) hx hb dX9_columnFor_89 rfl dX9_columnFor_90 (by decide) (fun c9 => ?_) (fun c9 => ?_)
    · have hm := ite_f c9 hm
      refine lv_iinc (pc := 112) (v := (i4 + (1 : Int32))) (lv' := [(4, .int (i4 + (1 : Int32))), (7, .long u0), (1, .ref b1), (2, .int i2), (3, .int i3)]) hx hb dX9_columnFor_112 hl (k := 4) rfl rfl (by decide) rfl (fun ls hl => ?_)
      refine lv_goto (pc := 115) (tgt := 5) hx hb dX9_columnFor_115 (by decide) ?_
      exact hk5 i2 i3 (i4 + (1 : Int32)) hm ls (lv_sub hl [2, 3, 4, 0] rfl)
    · have hm := ite_t c9 hm
      refine lv_aload_n (pc := 93) hx hb dX9_columnFor_93 rfl (lv_at hl 1 rfl) ?_
      refine rk_getN (pc := 94) hx hb hts hown hK hW1 fnX9_206 0 (by decide) rfl rfl (x := .ref (b1 + 8)) (by first | rfl | exact congrArg (fun z => some (Value.ref z)) (by omega)) dX9_columnFor_94 ?_
      refine lv_iload (pc := 97) hx hb dX9_columnFor_97 (lv_at hl 4 rfl) ?_
      obtain ⟨hg10, hm⟩ := gb_some hm
      refine rk_iald (pc := 99) hx hb hK hW1 8 (by decide) rfl rfl hg10 (x := (gI V1 8 i4.toNatClampNeg)) rfl dX9_columnFor_99 ?_
      refine lv_aload_n (pc := 100) hx hb dX9_columnFor_100 rfl (lv_at hl 1 rfl) ?_
      refine rk_getN (pc := 101) hx hb hts hown hK hW1 fnX9_206 0 (by decide) rfl rfl (x := .ref (b1 + 8)) (by first | rfl | exact congrArg (fun z => some (Value.ref z)) (by omega)) dX9_columnFor_101 ?_
      refine lv_iload_n (pc := 104) hx hb dX9_columnFor_104 rfl (lv_at hl 3 rfl) ?_
      obtain ⟨hg11, hm⟩ := gb_some hm
      refine rk_iald (pc := 105) hx hb hK hW1 8 (by decide) rfl rfl hg11 (x := (gI V1 8 i3.toNatClampNeg)) rfl dX9_columnFor_105 ?_
      refine lv_icmp_ge (pc := 106) (tgt := 112) hx hb dX9_columnFor_106 (by decide) (fun c12 => ?_) (fun c12 => ?_)
      · have hm := ite_t c12 hm
        refine lv_iinc (pc := 112) (v := (i4 + (1 : Int32))) (lv' := [(4, .int (i4 + (1 : Int32))), (7, .long u0), (1, .ref b1), (2, .int i2), (3, .int i3)]) hx hb dX9_columnFor_112 hl (k := 4) rfl rfl (by decide) rfl (fun ls hl => ?_)
        refine lv_goto (pc := 115) (tgt := 5) hx hb dX9_columnFor_115 (by decide) ?_
        exact hk5 i2 i3 (i4 + (1 : Int32)) hm ls (lv_sub hl [2, 3, 4, 0] rfl)
      · have hm := ite_f c12 hm
        refine lv_iload (pc := 109) hx hb dX9_columnFor_109 (lv_at hl 4 rfl) ?_
        refine lv_istore_n (pc := 111) (lv' := [(3, .int i4), (7, .long u0), (1, .ref b1), (2, .int i2), (4, .int i4)]) hx hb dX9_columnFor_111 rfl hl (by decide) rfl (fun ls hl => ?_)
        refine lv_iinc (pc := 112) (v := (i4 + (1 : Int32))) (lv' := [(4, .int (i4 + (1 : Int32))), (3, .int i4), (7, .long u0), (1, .ref b1), (2, .int i2)]) hx hb dX9_columnFor_112 hl (k := 4) rfl rfl (by decide) rfl (fun ls hl => ?_)
        refine lv_goto (pc := 115) (tgt := 5) hx hb dX9_columnFor_115 (by decide) ?_
        exact hk5 i2 i4 (i4 + (1 : Int32)) hm ls (lv_sub hl [3, 4, 1, 0] rfl)
set_option maxHeartbeats 4000000 in
theorem w_fX9_columnFor_5 (C : Cx G p s m args meth c RX9 cX9_columnFor 9 (some .int)) {b0 : Nat} {b1 : Nat} {V0 : Mem} {V1 : Mem} {rx : Int32} (hW0 : rg G b0 6 (shX9 G.2.1) V0 s.heap) (hW1 : rg G b1 13 (shX10 G.2.1) V1 s.heap) {k5 : Int32 → Int32 → Int32 → Option (Int32)} (hk5 : ∀ (i2 : Int32) (i3 : Int32) (i4 : Int32), k5 i2 i3 i4 = some rx → ∀ (ls : Array Slot), lv_has ls 9 [(1, .ref b1), (2, .int i2), (3, .int i3), (4, .int i4)] → W p l e (rmP 0 0) s m args below meth c s.heap [] 0 0 (MQ below (QcP (some (.int rx))) args s 0 0 (fun _ => False)) (F0 m 5 ls [])) : ∀ (i2 : Int32) (i3 : Int32) (i4 : Int32), fX9_columnFor_5 V0 V1 k5 i2 i3 i4 = some rx → ∀ (ls : Array Slot), lv_has ls 9 [(1, .ref b1), (2, .int i2), (3, .int i3), (4, .int i4)] → W p l e (rmP 0 0) s m args below meth c s.heap [] 0 0 (MQ below (QcP (some (.int rx))) args s 0 0 (fun _ => False)) (F0 m 5 ls []) := by
  intro i2 i3 i4 hm ls hl
  obtain ⟨hx, hb, hr, hlk, hml, hown, hts, hK⟩ := id C
  unfold fX9_columnFor_5 at hm
  refine lv_iload (pc := 5) hx hb dX9_columnFor_5 (lv_at hl 3 rfl) ?_
  refine lv_aload_n (pc := 7) hx hb dX9_columnFor_7 rfl (lv_at hl 0 rfl) ?_
  refine rk_getN (pc := 8) hx hb hts hown hK hW1 fnX9_172 0 (by decide) rfl rfl (x := .int (gI V1 0 14)) rfl dX9_columnFor_8 ?_
  refine lv_icmp_ge (pc := 11) (tgt := 118) hx hb dX9_columnFor_11 (by decide) (fun c1 => ?_) (fun c1 => ?_)
  · have hm := ite_t c1 hm
    refine lv_iload_n (pc := 118) hx hb dX9_columnFor_118 rfl (lv_at hl 2 rfl) ?_
    have e9 := rs1 hm
    subst e9
    exact rk_iretP (pc := 119) hx hb hr hlk rfl dX9_columnFor_119
  · have hm := ite_f c1 hm
    refine lv_aload_n (pc := 14) hx hb dX9_columnFor_14 rfl (lv_at hl 0 rfl) ?_
    refine rk_getN (pc := 15) hx hb hts hown hK hW1 fnX9_175 0 (by decide) rfl rfl (x := .ref (b1 + 1)) (by first | rfl | exact congrArg (fun z => some (Value.ref z)) (by omega)) dX9_columnFor_15 ?_
    refine lv_iconst (pc := 18) (v := (5 : Int32)) hx hb dX9_columnFor_18 (by decide) ?_
    refine lv_iload_n (pc := 19) hx hb dX9_columnFor_19 rfl (lv_at hl 1 rfl) ?_
    refine lv_imul (pc := 20) hx hb dX9_columnFor_20 ?_
    refine lv_iload (pc := 21) hx hb dX9_columnFor_21 (lv_at hl 3 rfl) ?_
    refine lv_iadd (pc := 23) hx hb dX9_columnFor_23 ?_
    obtain ⟨hg2, hm⟩ := gb_some hm
    refine rk_lald (pc := 24) hx hb hK hW1 1 (by decide) rfl rfl hg2 (x := (gL V1 1 (((5 : Int32) * i2) + i4).toNatClampNeg)) rfl dX9_columnFor_24 ?_
    refine lv_lneg (pc := 25) hx hb dX9_columnFor_25 ?_
    refine lv_lstore (pc := 26) (lv' := [(5, .long (-(gL V1 1 (((5 : Int32) * i2) + i4).toNatClampNeg))), (1, .ref b1), (2, .int i2), (3, .int i3), (4, .int i4)]) hx hb dX9_columnFor_26 hl (by decide) rfl (fun ls hl => ?_)
    refine lv_lload (pc := 28) hx hb dX9_columnFor_28 (lv_at hl 0 rfl) ?_
    refine lv_lconst (pc := 30) (v := (0 : Int64)) hx hb dX9_columnFor_30 (by decide) ?_
    refine rk_lcmp_gt (pc := 31) (tgt := 38) hx hb dX9_columnFor_31 rfl dX9_columnFor_32 (by decide) (fun c3 => ?_) (fun c3 => ?_)
    · have hm := ite_t c3 hm
      refine lv_iload_n (pc := 38) hx hb dX9_columnFor_38 rfl (lv_at hl 3 rfl) ?_
      refine lv_if_ge (pc := 39) (tgt := 48) hx hb dX9_columnFor_39 (by decide) (fun c4 => ?_) (fun c4 => ?_)
      · have hm := ite_t c4 hm
        refine lv_aload_n (pc := 48) hx hb dX9_columnFor_48 rfl (lv_at hl 1 rfl) ?_
        refine rk_getN (pc := 49) hx hb hts hown hK hW1 fnX9_203 0 (by decide) rfl rfl (x := .ref (b1 + 3)) (by first | rfl | exact congrArg (fun z => some (Value.ref z)) (by omega)) dX9_columnFor_49 ?_
        refine lv_iload (pc := 52) hx hb dX9_columnFor_52 (lv_at hl 4 rfl) ?_
        obtain ⟨hg5, hm⟩ := gb_some hm
        refine rk_lald (pc := 54) hx hb hK hW1 3 (by decide) rfl rfl hg5 (x := (gL V1 3 i4.toNatClampNeg)) rfl dX9_columnFor_54 ?_
        refine lv_aload_n (pc := 55) hx hb dX9_columnFor_55 rfl (lv_at hl 1 rfl) ?_
        refine rk_getN (pc := 56) hx hb hts hown hK hW1 fnX9_175 0 (by decide) rfl rfl (x := .ref (b1 + 1)) (by first | rfl | exact congrArg (fun z => some (Value.ref z)) (by omega)) dX9_columnFor_56 ?_
        refine lv_iconst (pc := 59) (v := (5 : Int32)) hx hb dX9_columnFor_59 (by decide) ?_
        refine lv_iload_n (pc := 60) hx hb dX9_columnFor_60 rfl (lv_at hl 2 rfl) ?_
        refine lv_imul (pc := 61) hx hb dX9_columnFor_61 ?_
        refine lv_iload_n (pc := 62) hx hb dX9_columnFor_62 rfl (lv_at hl 3 rfl) ?_
        refine lv_iadd (pc := 63) hx hb dX9_columnFor_63 ?_
        obtain ⟨hg6, hm⟩ := gb_some hm
        refine rk_lald (pc := 64) hx hb hK hW1 1 (by decide) rfl rfl hg6 (x := (gL V1 1 (((5 : Int32) * i2) + i3).toNatClampNeg)) rfl dX9_columnFor_64 ?_
        refine lv_lneg (pc := 65) hx hb dX9_columnFor_65 ?_
        refine lv_lmul (pc := 66) hx hb dX9_columnFor_66 ?_
        refine lv_aload_n (pc := 67) hx hb dX9_columnFor_67 rfl (lv_at hl 1 rfl) ?_
        refine rk_getN (pc := 68) hx hb hts hown hK hW1 fnX9_203 0 (by decide) rfl rfl (x := .ref (b1 + 3)) (by first | rfl | exact congrArg (fun z => some (Value.ref z)) (by omega)) dX9_columnFor_68 ?_
        refine lv_iload_n (pc := 71) hx hb dX9_columnFor_71 rfl (lv_at hl 3 rfl) ?_
        obtain ⟨hg7, hm⟩ := gb_some hm
        refine rk_lald (pc := 72) hx hb hK hW1 3 (by decide) rfl rfl hg7 (x := (gL V1 3 i3.toNatClampNeg)) rfl dX9_columnFor_72 ?_
        refine lv_lload (pc := 73) hx hb dX9_columnFor_73 (lv_at hl 0 rfl) ?_
        refine lv_lmul (pc := 75) hx hb dX9_columnFor_75 ?_
        refine lv_lsub (pc := 76) hx hb dX9_columnFor_76 ?_
        exact (w_fX9_columnFor_77 C hW0 hW1 hk5) i2 i3 i4 (((gL V1 3 i4.toNatClampNeg) * (-(gL V1 1 (((5 : Int32) * i2) + i3).toNatClampNeg))) - ((gL V1 3 i3.toNatClampNeg) * (-(gL V1 1 (((5 : Int32) * i2) + i4).toNatClampNeg)))) hm ls (lv_sub hl [1, 2, 3, 4] rfl)
      · have hm := ite_f c4 hm
        refine lv_ldc2 (pc := 42) (v := (-1 : Int64)) hx hb hown (hts _ q2057) dX9_columnFor_42 ?_
        refine lv_goto (pc := 45) (tgt := 77) hx hb dX9_columnFor_45 (by decide) ?_
        exact (w_fX9_columnFor_77 C hW0 hW1 hk5) i2 i3 i4 (-1 : Int64) hm ls (lv_sub hl [1, 2, 3, 4] rfl)
    · have hm := ite_f c3 hm
      refine lv_goto (pc := 35) (tgt := 112) hx hb dX9_columnFor_35 (by decide) ?_
      refine lv_iinc (pc := 112) (v := (i4 + (1 : Int32))) (lv' := [(4, .int (i4 + (1 : Int32))), (5, .long (-(gL V1 1 (((5 : Int32) * i2) + i4).toNatClampNeg))), (1, .ref b1), (2, .int i2), (3, .int i3)]) hx hb dX9_columnFor_112 hl (k := 4) rfl rfl (by decide) rfl (fun ls hl => ?_)
      refine lv_goto (pc := 115) (tgt := 5) hx hb dX9_columnFor_115 (by decide) ?_
      exact hk5 i2 i3 (i4 + (1 : Int32)) hm ls (lv_sub hl [2, 3, 4, 0] rfl)
theorem w_fX9_columnFor_5_l (C : Cx G p s m args meth c RX9 cX9_columnFor 9 (some .int)) {b0 : Nat} {b1 : Nat} {V0 : Mem} {V1 : Mem} {rx : Int32} (hW0 : rg G b0 6 (shX9 G.2.1) V0 s.heap) (hW1 : rg G b1 13 (shX10 G.2.1) V1 s.heap) : ∀ (n : Nat) (i2 : Int32) (i3 : Int32) (i4 : Int32), lq3 (fX9_columnFor_5 V0 V1) n i2 i3 i4 = some rx → ∀ (ls : Array Slot), lv_has ls 9 [(1, .ref b1), (2, .int i2), (3, .int i3), (4, .int i4)] → W p l e (rmP 0 0) s m args below meth c s.heap [] 0 0 (MQ below (QcP (some (.int rx))) args s 0 0 (fun _ => False)) (F0 m 5 ls []) := by
  intro n
  induction n with
  | zero => intro i2 i3 i4 hm; exact (lq3_0 hm).elim
  | succ n ih => intro i2 i3 i4 hm; exact w_fX9_columnFor_5 C hW0 hW1 ih i2 i3 i4 (lq3_s hm)
set_option maxHeartbeats 4000000 in
theorem w_fX9_columnFor (C : Cx G p s m args meth c RX9 cX9_columnFor 9 (some .int)) {b0 : Nat} {b1 : Nat} {V0 : Mem} {V1 : Mem} {rx : Int32} (hW0 : rg G b0 6 (shX9 G.2.1) V0 s.heap) (hW1 : rg G b1 13 (shX10 G.2.1) V1 s.heap) : ∀ (i2 : Int32), fX9_columnFor V0 V1 i2 = some rx → ∀ (ls : Array Slot), lv_has ls 9 [(0, .ref b0), (1, .ref b1), (2, .int i2)] → W p l e (rmP 0 0) s m args below meth c s.heap [] 0 0 (MQ below (QcP (some (.int rx))) args s 0 0 (fun _ => False)) (F0 m 0 ls []) := by
  intro i2 hm ls hl
  obtain ⟨hx, hb, hr, hlk, hml, hown, hts, hK⟩ := id C
  unfold fX9_columnFor at hm
  refine lv_iconst (pc := 0) (v := (-1 : Int32)) hx hb dX9_columnFor_0 (by decide) ?_
  refine lv_istore_n (pc := 1) (lv' := [(3, .int (-1 : Int32)), (0, .ref b0), (1, .ref b1), (2, .int i2)]) hx hb dX9_columnFor_1 rfl hl (by decide) rfl (fun ls hl => ?_)
  refine lv_iconst (pc := 2) (v := (0 : Int32)) hx hb dX9_columnFor_2 (by decide) ?_
  refine lv_istore (pc := 3) (lv' := [(4, .int (0 : Int32)), (3, .int (-1 : Int32)), (0, .ref b0), (1, .ref b1), (2, .int i2)]) hx hb dX9_columnFor_3 hl (by decide) rfl (fun ls hl => ?_)
  exact (w_fX9_columnFor_5_l C hW0 hW1 FU) i2 (-1 : Int32) (0 : Int32) hm ls (lv_sub hl [3, 4, 1, 0] rfl)
set_option maxHeartbeats 4000000 in
theorem ct_X9_columnFor {G : Gv} {l : Launch} {b0 : Nat} {b1 : Nat} {V0 : Mem} {V1 : Mem} {i2 : Int32} {rx : Int32} (hm : fX9_columnFor V0 V1 i2 = some rx) : CP G l yX9_columnFor (ws_ yX9_columnFor cX9_columnFor 9 (some .int)) 0 0 [.ref b0, .ref b1, .int i2] (fun H => rg G b0 6 (shX9 G.2.1) V0 H ∧ rg G b1 13 (shX10 G.2.1) V1 H) (some (.int rx)) := by
  refine Met.ofW (cc := cX9_columnFor) (maxL := 9) (ret := (some .int)) (by decide +kernel) rfl ?_
  intro p e s m args below meth c s₁ B hml hv
  obtain ⟨rfl, ⟨hW0, hW1⟩, hK⟩ := hv
  have hts := atoms_spec (ws := ws_ yX9_columnFor cX9_columnFor 9 (some .int)) B.pre
  have hts : ∀ w ∈ lw_all, w.before _ s = true := fun w h => hts w (List.mem_cons_of_mem _ h)
  have C : Cx G p s m _ meth c RX9 cX9_columnFor 9 (some .int) := ⟨B.exec, B.bytes, B.returns, B.notSynchronized, hml, findClass_of_methodNamed B.named, hts, hK⟩
  have hl := lv_entry ([.ref b0, .ref b1, .int i2]) (n := 9) (Nat.le_of_ble_eq_true rfl)
  rw [lg_entry_eq]
  generalize (lg_sl ([.ref b0, .ref b1, .int i2]) ++ List.replicate (9 - (lg_sl ([.ref b0, .ref b1, .int i2])).length) Slot.unset).toArray = ls at hl ⊢
  have hl : lv_has ls 9 [(0, .ref b0), (1, .ref b1), (2, .int i2)] := hl
  exact w_fX9_columnFor C hW0 hW1 _ hm ls hl
theorem yn_X9_columnFor : YN yX9_columnFor 2 := by
  unfold YN
  decide +kernel
theorem lkX9_244 : LV RX9 244 RX9 yX9_columnFor cX9_columnFor 9 (some .int) := ⟨q2053, q2055, qs76, q128, q2056⟩
theorem yn_X9_pivots : YN yX9_pivots 3 := by
  unfold YN
  decide +kernel
theorem lkX9_248 : LV RX9 248 RX9 yX9_pivots cX9_pivots 7 (some .boolean) := ⟨q2058, q2060, qs77, q128, q2061⟩
noncomputable def fX9_repairs_4 (V0 : Mem) (k0 : Mem → Option (Int32 × Mem)) (k4 : Mem → Int32 → Int32 → Option (Int32 × Mem)) (v1 : Mem) (i2 : Int32) (i3 : Int32) : Option (Int32 × Mem) :=
  if (gI v1 0 15) ≤ i3 then (
  if 0 ≤ i2 then (
  ob (fX9_columnFor V0 v1 i2) fun r3 =>
  if 0 ≤ r3 then (
  if (gI v1 0 17) = (60 : Int32) then (
  some ((-6 : Int32), v1))
  else (
  ob2 (fX9_pivots V0 v1 i2 r3) fun r7 w8 =>
  if r7 = 0 then (
  some ((-6 : Int32), w8))
  else (
  k0 w8)))
  else (
  some ((0 : Int32), v1)))
  else (
  some ((1 : Int32), v1)))
  else (
  gb (inR i3 20) (
  if (0 : Int64) ≤ (gL v1 2 i3.toNatClampNeg) then (
  k4 v1 i2 (i3 + (1 : Int32)))
  else (
  if i2 < 0 then (
  k4 v1 i3 (i3 + (1 : Int32)))
  else (
  gb (inR i3 20) (
  gb (inR i2 20) (
  if (gL v1 2 i2.toNatClampNeg) ≤ (gL v1 2 i3.toNatClampNeg) then (
  k4 v1 i2 (i3 + (1 : Int32)))
  else (
  k4 v1 i3 (i3 + (1 : Int32)))))))))
noncomputable def fX9_repairs_0 (V0 : Mem) (k0 : Mem → Option (Int32 × Mem)) (v1 : Mem) : Option (Int32 × Mem) :=
  lq3 (fX9_repairs_4 V0 k0) FU v1 (-1 : Int32) (0 : Int32)
noncomputable def fX9_repairs (V0 : Mem) (v1 : Mem) : Option (Int32 × Mem) :=
  lq1 (fX9_repairs_0 V0) FU v1
set_option maxHeartbeats 4000000 in
theorem w_fX9_repairs_4 (C : Cx G p s m args meth c RX9 cX9_repairs 4 (some .int)) {b0 : Nat} {b1 : Nat} {V0 : Mem} {rx : Int32} {rw1 : Mem} (hd01 : b0 + 6 ≤ b1 ∨ b1 + 13 ≤ b0) {k0 : Mem → Option (Int32 × Mem)} {k4 : Mem → Int32 → Int32 → Option (Int32 × Mem)} (hk0 : ∀ (v1 : Mem), k0 v1 = some (rx, rw1) → ∀ (H : Heap) (locs : List Loc) (ls : Array Slot), rg G b0 6 (shX9 G.2.1) V0 H → rg G b1 13 (shX10 G.2.1) v1 H → va_S (FA (iv b1 13) s.heap.size) s.heap H locs → H.size = s.heap.size → lv_has ls 4 [(0, .ref b0), (1, .ref b1)] → W p l e (rmT 3 0 0 79) s m args below meth c H locs 0 0 (MQ below (QcT (FA (iv b1 13) s.heap.size) (fun ov H => ov = (some (.int rx)) ∧ rg G b1 13 (shX10 G.2.1) rw1 H ∧ H.size = s.heap.size)) args s 0 0 (FA (iv b1 13) s.heap.size)) (F0 m 0 ls [])) (hk4 : ∀ (v1 : Mem) (i2 : Int32) (i3 : Int32), k4 v1 i2 i3 = some (rx, rw1) → ∀ (H : Heap) (locs : List Loc) (ls : Array Slot), rg G b0 6 (shX9 G.2.1) V0 H → rg G b1 13 (shX10 G.2.1) v1 H → va_S (FA (iv b1 13) s.heap.size) s.heap H locs → H.size = s.heap.size → lv_has ls 4 [(0, .ref b0), (1, .ref b1), (2, .int i2), (3, .int i3)] → W p l e (rmT 3 0 0 79) s m args below meth c H locs 0 0 (MQ below (QcT (FA (iv b1 13) s.heap.size) (fun ov H => ov = (some (.int rx)) ∧ rg G b1 13 (shX10 G.2.1) rw1 H ∧ H.size = s.heap.size)) args s 0 0 (FA (iv b1 13) s.heap.size)) (F0 m 4 ls [])) : ∀ (v1 : Mem) (i2 : Int32) (i3 : Int32), fX9_repairs_4 V0 k0 k4 v1 i2 i3 = some (rx, rw1) → ∀ (H : Heap) (locs : List Loc) (ls : Array Slot), rg G b0 6 (shX9 G.2.1) V0 H → rg G b1 13 (shX10 G.2.1) v1 H → va_S (FA (iv b1 13) s.heap.size) s.heap H locs → H.size = s.heap.size → lv_has ls 4 [(0, .ref b0), (1, .ref b1), (2, .int i2), (3, .int i3)] → W p l e (rmT 3 0 0 79) s m args below meth c H locs 0 0 (MQ below (QcT (FA (iv b1 13) s.heap.size) (fun ov H => ov = (some (.int rx)) ∧ rg G b1 13 (shX10 G.2.1) rw1 H ∧ H.size = s.heap.size)) args s 0 0 (FA (iv b1 13) s.heap.size)) (F0 m 4 ls []) := by
  intro v1 i2 i3 hm H locs ls hW0 hW1 hS hz hl
  obtain ⟨hx, hb, hr, hlk, hml, hown, hts, hK⟩ := id C
  unfold fX9_repairs_4 at hm
  refine lv_iload_n (pc := 4) hx hb dX9_repairs_4 rfl (lv_at hl 3 rfl) ?_
  refine lv_aload_n (pc := 5) hx hb dX9_repairs_5 rfl (lv_at hl 1 rfl) ?_
  refine rk_getN (pc := 6) hx hb hts hown hK hW1 fnX9_178 0 (by decide) rfl rfl (x := .int (gI v1 0 15)) rfl dX9_repairs_6 ?_
  refine lv_icmp_ge (pc := 9) (tgt := 51) hx hb dX9_repairs_9 (by decide) (fun c1 => ?_) (fun c1 => ?_)
  · have hm := ite_t c1 hm
    refine lv_iload_n (pc := 51) hx hb dX9_repairs_51 rfl (lv_at hl 2 rfl) ?_
    refine lv_if_ge (pc := 52) (tgt := 57) hx hb dX9_repairs_52 (by decide) (fun c2 => ?_) (fun c2 => ?_)
    · have hm := ite_t c2 hm
      refine lv_aload_n (pc := 57) hx hb dX9_repairs_57 rfl (lv_at hl 0 rfl) ?_
      refine lv_aload_n (pc := 58) hx hb dX9_repairs_58 rfl (lv_at hl 1 rfl) ?_
      refine lv_iload_n (pc := 59) hx hb dX9_repairs_59 rfl (lv_at hl 2 rfl) ?_
      obtain ⟨r3, hq4, hm⟩ := ob_some hm
      refine rk_PV (pc := 60) (As := [.ref b1, .int i2]) (rest := []) hx hb hml hown hts hK lkX9_244 rfl yn_X9_columnFor (ct_X9_columnFor (G := G) (l := l) (b0 := b0) (b1 := b1) hq4) ⟨Nat.le_of_ble_eq_true rfl, Nat.le_of_ble_eq_true rfl⟩ (rk_recv hK hW0 0 (by decide) rfl rfl rfl) ⟨hW0, hW1⟩ rfl rfl hl.1 (Nat.le_of_ble_eq_true rfl) dX9_repairs_60 ⟨Nat.zero_le _, Nat.zero_le _⟩ ?_
      refine W.eq (g2 := F0 m 63 ls [.int r3]) rfl ?_
      refine lv_istore_n (pc := 63) (lv' := [(3, .int r3), (0, .ref b0), (1, .ref b1), (2, .int i2)]) hx hb dX9_repairs_63 rfl hl (by decide) rfl (fun ls hl => ?_)
      refine lv_iload_n (pc := 64) hx hb dX9_repairs_64 rfl (lv_at hl 0 rfl) ?_
      refine lv_if_ge (pc := 65) (tgt := 70) hx hb dX9_repairs_65 (by decide) (fun c5 => ?_) (fun c5 => ?_)
      · have hm := ite_t c5 hm
        refine lv_aload_n (pc := 70) hx hb dX9_repairs_70 rfl (lv_at hl 2 rfl) ?_
        refine rk_getN (pc := 71) hx hb hts hown hK hW1 fnX9_190 0 (by decide) rfl rfl (x := .int (gI v1 0 17)) rfl dX9_repairs_71 ?_
        refine lv_bipush (pc := 74) (v := (60 : Int32)) hx hb dX9_repairs_74 (by decide) ?_
        refine lv_icmp_eq (pc := 76) (tgt := 89) hx hb dX9_repairs_76 (by decide) (fun c6 => ?_) (fun c6 => ?_)
        · have hm := ite_t c6 hm
          refine lv_bipush (pc := 89) (v := (-6 : Int32)) hx hb dX9_repairs_89 (by decide) ?_
          obtain ⟨e8, e9⟩ := rs2 hm
          subst e8
          subst e9
          exact rk_iret (pc := 91) hx hb hr hlk hS ⟨rfl, hW1, hz⟩ dX9_repairs_91
        · have hm := ite_f c6 hm
          refine lv_aload_n (pc := 79) hx hb dX9_repairs_79 rfl (lv_at hl 1 rfl) ?_
          refine lv_aload_n (pc := 80) hx hb dX9_repairs_80 rfl (lv_at hl 2 rfl) ?_
          refine lv_iload_n (pc := 81) hx hb dX9_repairs_81 rfl (lv_at hl 3 rfl) ?_
          refine lv_iload_n (pc := 82) hx hb dX9_repairs_82 rfl (lv_at hl 0 rfl) ?_
          obtain ⟨r7, w8, hq9, hm⟩ := ob2_some hm
          refine rk_TV (pc := 83) (As := [.ref b1, .int i2, .int r3]) (rest := []) (mc := 0) (ms := 0) hx hb hml hown hts hK hS (fun q hq => FA_sz rfl q hq) lkX9_248 rfl yn_X9_pivots (ct_X9_pivots (G := G) (l := l) (b0 := b0) (b1 := b1) (sz := H.size) hq9 (by omega)) ⟨Nat.le_of_ble_eq_true rfl, Nat.le_of_ble_eq_true rfl⟩ (fun z h => Or.inl (show iv _ _ _ from ⟨by have h8 := h.1; have h9 := h.2; omega, by have h8 := h.1; have h9 := h.2; omega⟩)) (rk_recv hK hW0 0 (by decide) rfl rfl rfl) ⟨hW0, hW1⟩ rfl rfl hl.1 (Nat.le_of_ble_eq_true rfl) dX9_repairs_83 ⟨Nat.zero_le _, Nat.zero_le _⟩ (fun ov9 H10 locs11 hP12 hkp13 hS14 => ?_)
          obtain ⟨rfl, hW15, hz16⟩ := hP12
          have hW17 := rg_keepA hW0 hkp13 (by intro z h1 h2 h3; have h8 := h3.1; have h9 := h3.2; omega)
          have hz18 := hz16.trans hz
          refine W.eq (g2 := F0 m 86 ls [.int r7]) rfl ?_
          refine lv_if_ne (pc := 86) (tgt := 92) hx hb dX9_repairs_86 (by decide) (fun c19 => ?_) (fun c19 => ?_)
          · have hm := ite_f c19 hm
            refine lv_goto (pc := 92) (tgt := 0) hx hb dX9_repairs_92 (by decide) ?_
            exact hk0 w8 hm H10 locs11 ls hW17 hW15 hS14 hz18 (lv_sub hl [1, 2] rfl)
          · have hm := ite_t c19 hm
            refine lv_bipush (pc := 89) (v := (-6 : Int32)) hx hb dX9_repairs_89 (by decide) ?_
            obtain ⟨e8, e9⟩ := rs2 hm
            subst e8
            subst e9
            exact rk_iret (pc := 91) hx hb hr hlk hS14 ⟨rfl, hW15, hz18⟩ dX9_repairs_91
      · have hm := ite_f c5 hm
        refine lv_iconst (pc := 68) (v := (0 : Int32)) hx hb dX9_repairs_68 (by decide) ?_
        obtain ⟨e8, e9⟩ := rs2 hm
        subst e8
        subst e9
        exact rk_iret (pc := 69) hx hb hr hlk hS ⟨rfl, hW1, hz⟩ dX9_repairs_69
    · have hm := ite_f c2 hm
      refine lv_iconst (pc := 55) (v := (1 : Int32)) hx hb dX9_repairs_55 (by decide) ?_
      obtain ⟨e8, e9⟩ := rs2 hm
      subst e8
      subst e9
      exact rk_iret (pc := 56) hx hb hr hlk hS ⟨rfl, hW1, hz⟩ dX9_repairs_56
  · have hm := ite_f c1 hm
    refine lv_aload_n (pc := 12) hx hb dX9_repairs_12 rfl (lv_at hl 1 rfl) ?_
    refine rk_getN (pc := 13) hx hb hts hown hK hW1 fnX9_184 0 (by decide) rfl rfl (x := .ref (b1 + 2)) (by first | rfl | exact congrArg (fun z => some (Value.ref z)) (by omega)) dX9_repairs_13 ?_
    refine lv_iload_n (pc := 16) hx hb dX9_repairs_16 rfl (lv_at hl 3 rfl) ?_
    obtain ⟨hg20, hm⟩ := gb_some hm
    refine rk_lald (pc := 17) hx hb hK hW1 2 (by decide) rfl rfl hg20 (x := (gL v1 2 i3.toNatClampNeg)) rfl dX9_repairs_17 ?_
    refine lv_lconst (pc := 18) (v := (0 : Int64)) hx hb dX9_repairs_18 (by decide) ?_
    refine rk_lcmp_ge (pc := 19) (tgt := 45) hx hb dX9_repairs_19 rfl dX9_repairs_20 (by decide) (fun c21 => ?_) (fun c21 => ?_)
    · have hm := ite_t c21 hm
      refine lv_iinc (pc := 45) (v := (i3 + (1 : Int32))) (lv' := [(3, .int (i3 + (1 : Int32))), (0, .ref b0), (1, .ref b1), (2, .int i2)]) hx hb dX9_repairs_45 hl (k := 3) rfl rfl (by decide) rfl (fun ls hl => ?_)
      refine lv_goto (pc := 48) (tgt := 4) hx hb dX9_repairs_48 (by decide) ?_
      exact hk4 v1 i2 (i3 + (1 : Int32)) hm H locs ls hW0 hW1 hS hz (lv_sub hl [1, 2, 3, 0] rfl)
    · have hm := ite_f c21 hm
      refine lv_iload_n (pc := 23) hx hb dX9_repairs_23 rfl (lv_at hl 2 rfl) ?_
      refine lv_if_lt (pc := 24) (tgt := 43) hx hb dX9_repairs_24 (by decide) (fun c22 => ?_) (fun c22 => ?_)
      · have hm := ite_t c22 hm
        refine lv_iload_n (pc := 43) hx hb dX9_repairs_43 rfl (lv_at hl 3 rfl) ?_
        refine lv_istore_n (pc := 44) (lv' := [(2, .int i3), (0, .ref b0), (1, .ref b1), (3, .int i3)]) hx hb dX9_repairs_44 rfl hl (by decide) rfl (fun ls hl => ?_)
        refine lv_iinc (pc := 45) (v := (i3 + (1 : Int32))) (lv' := [(3, .int (i3 + (1 : Int32))), (2, .int i3), (0, .ref b0), (1, .ref b1)]) hx hb dX9_repairs_45 hl (k := 3) rfl rfl (by decide) rfl (fun ls hl => ?_)
        refine lv_goto (pc := 48) (tgt := 4) hx hb dX9_repairs_48 (by decide) ?_
        exact hk4 v1 i3 (i3 + (1 : Int32)) hm H locs ls hW0 hW1 hS hz (lv_sub hl [2, 3, 1, 0] rfl)
      · have hm := ite_f c22 hm
        refine lv_aload_n (pc := 27) hx hb dX9_repairs_27 rfl (lv_at hl 1 rfl) ?_
        refine rk_getN (pc := 28) hx hb hts hown hK hW1 fnX9_184 0 (by decide) rfl rfl (x := .ref (b1 + 2)) (by first | rfl | exact congrArg (fun z => some (Value.ref z)) (by omega)) dX9_repairs_28 ?_
        refine lv_iload_n (pc := 31) hx hb dX9_repairs_31 rfl (lv_at hl 3 rfl) ?_
        obtain ⟨hg23, hm⟩ := gb_some hm
        refine rk_lald (pc := 32) hx hb hK hW1 2 (by decide) rfl rfl hg23 (x := (gL v1 2 i3.toNatClampNeg)) rfl dX9_repairs_32 ?_
        refine lv_aload_n (pc := 33) hx hb dX9_repairs_33 rfl (lv_at hl 1 rfl) ?_
        refine rk_getN (pc := 34) hx hb hts hown hK hW1 fnX9_184 0 (by decide) rfl rfl (x := .ref (b1 + 2)) (by first | rfl | exact congrArg (fun z => some (Value.ref z)) (by omega)) dX9_repairs_34 ?_
        refine lv_iload_n (pc := 37) hx hb dX9_repairs_37 rfl (lv_at hl 2 rfl) ?_
        obtain ⟨hg24, hm⟩ := gb_some hm
        refine rk_lald (pc := 38) hx hb hK hW1 2 (by decide) rfl rfl hg24 (x := (gL v1 2 i2.toNatClampNeg)) rfl dX9_repairs_38 ?_
        refine rk_lcmp_ge (pc := 39) (tgt := 45) hx hb dX9_repairs_39 rfl dX9_repairs_40 (by decide) (fun c25 => ?_) (fun c25 => ?_)
        · have hm := ite_t c25 hm
          refine lv_iinc (pc := 45) (v := (i3 + (1 : Int32))) (lv' := [(3, .int (i3 + (1 : Int32))), (0, .ref b0), (1, .ref b1), (2, .int i2)]) hx hb dX9_repairs_45 hl (k := 3) rfl rfl (by decide) rfl (fun ls hl => ?_)
          refine lv_goto (pc := 48) (tgt := 4) hx hb dX9_repairs_48 (by decide) ?_
          exact hk4 v1 i2 (i3 + (1 : Int32)) hm H locs ls hW0 hW1 hS hz (lv_sub hl [1, 2, 3, 0] rfl)
        · have hm := ite_f c25 hm
          refine lv_iload_n (pc := 43) hx hb dX9_repairs_43 rfl (lv_at hl 3 rfl) ?_
          refine lv_istore_n (pc := 44) (lv' := [(2, .int i3), (0, .ref b0), (1, .ref b1), (3, .int i3)]) hx hb dX9_repairs_44 rfl hl (by decide) rfl (fun ls hl => ?_)
          refine lv_iinc (pc := 45) (v := (i3 + (1 : Int32))) (lv' := [(3, .int (i3 + (1 : Int32))), (2, .int i3), (0, .ref b0), (1, .ref b1)]) hx hb dX9_repairs_45 hl (k := 3) rfl rfl (by decide) rfl (fun ls hl => ?_)
          refine lv_goto (pc := 48) (tgt := 4) hx hb dX9_repairs_48 (by decide) ?_
          exact hk4 v1 i3 (i3 + (1 : Int32)) hm H locs ls hW0 hW1 hS hz (lv_sub hl [2, 3, 1, 0] rfl)
theorem w_fX9_repairs_4_l (C : Cx G p s m args meth c RX9 cX9_repairs 4 (some .int)) {b0 : Nat} {b1 : Nat} {V0 : Mem} {rx : Int32} {rw1 : Mem} (hd01 : b0 + 6 ≤ b1 ∨ b1 + 13 ≤ b0) {k0 : Mem → Option (Int32 × Mem)} (hk0 : ∀ (v1 : Mem), k0 v1 = some (rx, rw1) → ∀ (H : Heap) (locs : List Loc) (ls : Array Slot), rg G b0 6 (shX9 G.2.1) V0 H → rg G b1 13 (shX10 G.2.1) v1 H → va_S (FA (iv b1 13) s.heap.size) s.heap H locs → H.size = s.heap.size → lv_has ls 4 [(0, .ref b0), (1, .ref b1)] → W p l e (rmT 3 0 0 79) s m args below meth c H locs 0 0 (MQ below (QcT (FA (iv b1 13) s.heap.size) (fun ov H => ov = (some (.int rx)) ∧ rg G b1 13 (shX10 G.2.1) rw1 H ∧ H.size = s.heap.size)) args s 0 0 (FA (iv b1 13) s.heap.size)) (F0 m 0 ls [])) : ∀ (n : Nat) (v1 : Mem) (i2 : Int32) (i3 : Int32), lq3 (fX9_repairs_4 V0 k0) n v1 i2 i3 = some (rx, rw1) → ∀ (H : Heap) (locs : List Loc) (ls : Array Slot), rg G b0 6 (shX9 G.2.1) V0 H → rg G b1 13 (shX10 G.2.1) v1 H → va_S (FA (iv b1 13) s.heap.size) s.heap H locs → H.size = s.heap.size → lv_has ls 4 [(0, .ref b0), (1, .ref b1), (2, .int i2), (3, .int i3)] → W p l e (rmT 3 0 0 79) s m args below meth c H locs 0 0 (MQ below (QcT (FA (iv b1 13) s.heap.size) (fun ov H => ov = (some (.int rx)) ∧ rg G b1 13 (shX10 G.2.1) rw1 H ∧ H.size = s.heap.size)) args s 0 0 (FA (iv b1 13) s.heap.size)) (F0 m 4 ls []) := by
  intro n
  induction n with
  | zero => intro v1 i2 i3 hm; exact (lq3_0 hm).elim
  | succ n ih => intro v1 i2 i3 hm; exact w_fX9_repairs_4 C hd01 hk0 ih v1 i2 i3 (lq3_s hm)
set_option maxHeartbeats 4000000 in
theorem w_fX9_repairs_0 (C : Cx G p s m args meth c RX9 cX9_repairs 4 (some .int)) {b0 : Nat} {b1 : Nat} {V0 : Mem} {rx : Int32} {rw1 : Mem} (hd01 : b0 + 6 ≤ b1 ∨ b1 + 13 ≤ b0) {k0 : Mem → Option (Int32 × Mem)} (hk0 : ∀ (v1 : Mem), k0 v1 = some (rx, rw1) → ∀ (H : Heap) (locs : List Loc) (ls : Array Slot), rg G b0 6 (shX9 G.2.1) V0 H → rg G b1 13 (shX10 G.2.1) v1 H → va_S (FA (iv b1 13) s.heap.size) s.heap H locs → H.size = s.heap.size → lv_has ls 4 [(0, .ref b0), (1, .ref b1)] → W p l e (rmT 3 0 0 79) s m args below meth c H locs 0 0 (MQ below (QcT (FA (iv b1 13) s.heap.size) (fun ov H => ov = (some (.int rx)) ∧ rg G b1 13 (shX10 G.2.1) rw1 H ∧ H.size = s.heap.size)) args s 0 0 (FA (iv b1 13) s.heap.size)) (F0 m 0 ls [])) : ∀ (v1 : Mem), fX9_repairs_0 V0 k0 v1 = some (rx, rw1) → ∀ (H : Heap) (locs : List Loc) (ls : Array Slot), rg G b0 6 (shX9 G.2.1) V0 H → rg G b1 13 (shX10 G.2.1) v1 H → va_S (FA (iv b1 13) s.heap.size) s.heap H locs → H.size = s.heap.size → lv_has ls 4 [(0, .ref b0), (1, .ref b1)] → W p l e (rmT 3 0 0 79) s m args below meth c H locs 0 0 (MQ below (QcT (FA (iv b1 13) s.heap.size) (fun ov H => ov = (some (.int rx)) ∧ rg G b1 13 (shX10 G.2.1) rw1 H ∧ H.size = s.heap.size)) args s 0 0 (FA (iv b1 13) s.heap.size)) (F0 m 0 ls []) := by
  intro v1 hm H locs ls hW0 hW1 hS hz hl
  obtain ⟨hx, hb, hr, hlk, hml, hown, hts, hK⟩ := id C
  unfold fX9_repairs_0 at hm
  refine lv_iconst (pc := 0) (v := (-1 : Int32)) hx hb dX9_repairs_0 (by decide) ?_
  refine lv_istore_n (pc := 1) (lv' := [(2, .int (-1 : Int32)), (0, .ref b0), (1, .ref b1)]) hx hb dX9_repairs_1 rfl hl (by decide) rfl (fun ls hl => ?_)
  refine lv_iconst (pc := 2) (v := (0 : Int32)) hx hb dX9_repairs_2 (by decide) ?_
  refine lv_istore_n (pc := 3) (lv' := [(3, .int (0 : Int32)), (2, .int (-1 : Int32)), (0, .ref b0), (1, .ref b1)]) hx hb dX9_repairs_3 rfl hl (by decide) rfl (fun ls hl => ?_)
  exact (w_fX9_repairs_4_l C hd01 hk0 FU) v1 (-1 : Int32) (0 : Int32) hm H locs ls hW0 hW1 hS hz (lv_sub hl [2, 3, 1, 0] rfl)
theorem w_fX9_repairs_0_l (C : Cx G p s m args meth c RX9 cX9_repairs 4 (some .int)) {b0 : Nat} {b1 : Nat} {V0 : Mem} {rx : Int32} {rw1 : Mem} (hd01 : b0 + 6 ≤ b1 ∨ b1 + 13 ≤ b0) : ∀ (n : Nat) (v1 : Mem), lq1 (fX9_repairs_0 V0) n v1 = some (rx, rw1) → ∀ (H : Heap) (locs : List Loc) (ls : Array Slot), rg G b0 6 (shX9 G.2.1) V0 H → rg G b1 13 (shX10 G.2.1) v1 H → va_S (FA (iv b1 13) s.heap.size) s.heap H locs → H.size = s.heap.size → lv_has ls 4 [(0, .ref b0), (1, .ref b1)] → W p l e (rmT 3 0 0 79) s m args below meth c H locs 0 0 (MQ below (QcT (FA (iv b1 13) s.heap.size) (fun ov H => ov = (some (.int rx)) ∧ rg G b1 13 (shX10 G.2.1) rw1 H ∧ H.size = s.heap.size)) args s 0 0 (FA (iv b1 13) s.heap.size)) (F0 m 0 ls []) := by
  intro n
  induction n with
  | zero => intro v1 hm; exact (lq1_0 hm).elim
  | succ n ih => intro v1 hm; exact w_fX9_repairs_0 C hd01 ih v1 (lq1_s hm)
set_option maxHeartbeats 4000000 in
theorem w_fX9_repairs (C : Cx G p s m args meth c RX9 cX9_repairs 4 (some .int)) {b0 : Nat} {b1 : Nat} {V0 : Mem} {rx : Int32} {rw1 : Mem} (hd01 : b0 + 6 ≤ b1 ∨ b1 + 13 ≤ b0) : ∀ (v1 : Mem), fX9_repairs V0 v1 = some (rx, rw1) → ∀ (H : Heap) (locs : List Loc) (ls : Array Slot), rg G b0 6 (shX9 G.2.1) V0 H → rg G b1 13 (shX10 G.2.1) v1 H → va_S (FA (iv b1 13) s.heap.size) s.heap H locs → H.size = s.heap.size → lv_has ls 4 [(0, .ref b0), (1, .ref b1)] → W p l e (rmT 3 0 0 79) s m args below meth c H locs 0 0 (MQ below (QcT (FA (iv b1 13) s.heap.size) (fun ov H => ov = (some (.int rx)) ∧ rg G b1 13 (shX10 G.2.1) rw1 H ∧ H.size = s.heap.size)) args s 0 0 (FA (iv b1 13) s.heap.size)) (F0 m 0 ls []) := by
  intro v1 hm H locs ls hW0 hW1 hS hz hl
  obtain ⟨hx, hb, hr, hlk, hml, hown, hts, hK⟩ := id C
  unfold fX9_repairs at hm
  exact (w_fX9_repairs_0_l C hd01 FU) v1 hm H locs ls hW0 hW1 hS hz (lv_sub hl [0, 1] rfl)
set_option maxHeartbeats 4000000 in
theorem ct_X9_repairs {G : Gv} {l : Launch} {b0 : Nat} {b1 : Nat} {V0 : Mem} {v1 : Mem} {rx : Int32} {rw1 : Mem} {sz : Nat} (hm : fX9_repairs V0 v1 = some (rx, rw1)) (hd01 : b0 + 6 ≤ b1 ∨ b1 + 13 ≤ b0) : CT G l yX9_repairs (ws_ yX9_repairs cX9_repairs 4 (some .int)) 3 0 0 79 [.ref b0, .ref b1] (iv b1 13) sz (fun H => rg G b0 6 (shX9 G.2.1) V0 H ∧ rg G b1 13 (shX10 G.2.1) v1 H) (fun ov H => ov = (some (.int rx)) ∧ rg G b1 13 (shX10 G.2.1) rw1 H ∧ H.size = sz) := by
  refine Met.ofW (cc := cX9_repairs) (maxL := 4) (ret := (some .int)) (by decide +kernel) rfl ?_
  intro p e s m args below meth c s₁ B hml hv
  obtain ⟨rfl, ⟨hz, hW0, hW1⟩, hK⟩ := hv
  subst hz
  have hts := atoms_spec (ws := ws_ yX9_repairs cX9_repairs 4 (some .int)) B.pre
  have hts : ∀ w ∈ lw_all, w.before _ s = true := fun w h => hts w (List.mem_cons_of_mem _ h)
  have C : Cx G p s m _ meth c RX9 cX9_repairs 4 (some .int) := ⟨B.exec, B.bytes, B.returns, B.notSynchronized, hml, findClass_of_methodNamed B.named, hts, hK⟩
  have hl := lv_entry ([.ref b0, .ref b1]) (n := 4) (Nat.le_of_ble_eq_true rfl)
  rw [lg_entry_eq]
  generalize (lg_sl ([.ref b0, .ref b1]) ++ List.replicate (4 - (lg_sl ([.ref b0, .ref b1])).length) Slot.unset).toArray = ls at hl ⊢
  have hl : lv_has ls 4 [(0, .ref b0), (1, .ref b1)] := hl
  exact w_fX9_repairs C hd01 _ hm s.heap [] ls hW0 hW1 va_S.rf rfl hl
noncomputable def fX9_rowOf_2 (V0 : Mem) (V1 : Mem) (k2 : Int32 → Int32 → Option (Int32)) (i2 : Int32) (i3 : Int32) : Option (Int32) :=
  if (gI V1 0 15) ≤ i3 then (
  some (-1 : Int32))
  else (
  gb (inR i3 20) (
  if (gI V1 7 i3.toNatClampNeg) = i2 then (
  some i3)
  else (
  k2 i2 (i3 + (1 : Int32)))))
noncomputable def fX9_rowOf (V0 : Mem) (V1 : Mem) (i2 : Int32) : Option (Int32) :=
  lq2 (fX9_rowOf_2 V0 V1) FU i2 (0 : Int32)
set_option maxHeartbeats 4000000 in
theorem w_fX9_rowOf_2 (C : Cx G p s m args meth c RX9 cX9_rowOf 4 (some .int)) {b0 : Nat} {b1 : Nat} {V0 : Mem} {V1 : Mem} {rx : Int32} (hW0 : rg G b0 6 (shX9 G.2.1) V0 s.heap) (hW1 : rg G b1 13 (shX10 G.2.1) V1 s.heap) {k2 : Int32 → Int32 → Option (Int32)} (hk2 : ∀ (i2 : Int32) (i3 : Int32), k2 i2 i3 = some rx → ∀ (ls : Array Slot), lv_has ls 4 [(1, .ref b1), (2, .int i2), (3, .int i3)] → W p l e (rmP 0 0) s m args below meth c s.heap [] 0 0 (MQ below (QcP (some (.int rx))) args s 0 0 (fun _ => False)) (F0 m 2 ls [])) : ∀ (i2 : Int32) (i3 : Int32), fX9_rowOf_2 V0 V1 k2 i2 i3 = some rx → ∀ (ls : Array Slot), lv_has ls 4 [(1, .ref b1), (2, .int i2), (3, .int i3)] → W p l e (rmP 0 0) s m args below meth c s.heap [] 0 0 (MQ below (QcP (some (.int rx))) args s 0 0 (fun _ => False)) (F0 m 2 ls []) := by
  intro i2 i3 hm ls hl
  obtain ⟨hx, hb, hr, hlk, hml, hown, hts, hK⟩ := id C
  unfold fX9_rowOf_2 at hm
  refine lv_iload_n (pc := 2) hx hb dX9_rowOf_2 rfl (lv_at hl 2 rfl) ?_
  refine lv_aload_n (pc := 3) hx hb dX9_rowOf_3 rfl (lv_at hl 0 rfl) ?_
  refine rk_getN (pc := 4) hx hb hts hown hK hW1 fnX9_178 0 (by decide) rfl rfl (x := .int (gI V1 0 15)) rfl dX9_rowOf_4 ?_
  refine lv_icmp_ge (pc := 7) (tgt := 28) hx hb dX9_rowOf_7 (by decide) (fun c1 => ?_) (fun c1 => ?_)
  · have hm := ite_t c1 hm
    refine lv_iconst (pc := 28) (v := (-1 : Int32)) hx hb dX9_rowOf_28 (by decide) ?_
    have e9 := rs1 hm
    subst e9
    exact rk_iretP (pc := 29) hx hb hr hlk rfl dX9_rowOf_29
  · have hm := ite_f c1 hm
    refine lv_aload_n (pc := 10) hx hb dX9_rowOf_10 rfl (lv_at hl 0 rfl) ?_
    refine rk_getN (pc := 11) hx hb hts hown hK hW1 fnX9_181 0 (by decide) rfl rfl (x := .ref (b1 + 7)) (by first | rfl | exact congrArg (fun z => some (Value.ref z)) (by omega)) dX9_rowOf_11 ?_
    refine lv_iload_n (pc := 14) hx hb dX9_rowOf_14 rfl (lv_at hl 2 rfl) ?_
    obtain ⟨hg2, hm⟩ := gb_some hm
    refine rk_iald (pc := 15) hx hb hK hW1 7 (by decide) rfl rfl hg2 (x := (gI V1 7 i3.toNatClampNeg)) rfl dX9_rowOf_15 ?_
    refine lv_iload_n (pc := 16) hx hb dX9_rowOf_16 rfl (lv_at hl 1 rfl) ?_
    refine lv_icmp_ne (pc := 17) (tgt := 22) hx hb dX9_rowOf_17 (by decide) (fun c3 => ?_) (fun c3 => ?_)
    · have hm := ite_f c3 hm
      refine lv_iinc (pc := 22) (v := (i3 + (1 : Int32))) (lv' := [(3, .int (i3 + (1 : Int32))), (1, .ref b1), (2, .int i2)]) hx hb dX9_rowOf_22 hl (k := 2) rfl rfl (by decide) rfl (fun ls hl => ?_)
      refine lv_goto (pc := 25) (tgt := 2) hx hb dX9_rowOf_25 (by decide) ?_
      exact hk2 i2 (i3 + (1 : Int32)) hm ls (lv_sub hl [1, 2, 0] rfl)
    · have hm := ite_t c3 hm
      refine lv_iload_n (pc := 20) hx hb dX9_rowOf_20 rfl (lv_at hl 2 rfl) ?_
      have e9 := rs1 hm
      subst e9
      exact rk_iretP (pc := 21) hx hb hr hlk rfl dX9_rowOf_21
theorem w_fX9_rowOf_2_l (C : Cx G p s m args meth c RX9 cX9_rowOf 4 (some .int)) {b0 : Nat} {b1 : Nat} {V0 : Mem} {V1 : Mem} {rx : Int32} (hW0 : rg G b0 6 (shX9 G.2.1) V0 s.heap) (hW1 : rg G b1 13 (shX10 G.2.1) V1 s.heap) : ∀ (n : Nat) (i2 : Int32) (i3 : Int32), lq2 (fX9_rowOf_2 V0 V1) n i2 i3 = some rx → ∀ (ls : Array Slot), lv_has ls 4 [(1, .ref b1), (2, .int i2), (3, .int i3)] → W p l e (rmP 0 0) s m args below meth c s.heap [] 0 0 (MQ below (QcP (some (.int rx))) args s 0 0 (fun _ => False)) (F0 m 2 ls []) := by
  intro n
  induction n with
  | zero => intro i2 i3 hm; exact (lq2_0 hm).elim
  | succ n ih => intro i2 i3 hm; exact w_fX9_rowOf_2 C hW0 hW1 ih i2 i3 (lq2_s hm)
set_option maxHeartbeats 4000000 in
theorem w_fX9_rowOf (C : Cx G p s m args meth c RX9 cX9_rowOf 4 (some .int)) {b0 : Nat} {b1 : Nat} {V0 : Mem} {V1 : Mem} {rx : Int32} (hW0 : rg G b0 6 (shX9 G.2.1) V0 s.heap) (hW1 : rg G b1 13 (shX10 G.2.1) V1 s.heap) : ∀ (i2 : Int32), fX9_rowOf V0 V1 i2 = some rx → ∀ (ls : Array Slot), lv_has ls 4 [(0, .ref b0), (1, .ref b1), (2, .int i2)] → W p l e (rmP 0 0) s m args below meth c s.heap [] 0 0 (MQ below (QcP (some (.int rx))) args s 0 0 (fun _ => False)) (F0 m 0 ls []) := by
  intro i2 hm ls hl
  obtain ⟨hx, hb, hr, hlk, hml, hown, hts, hK⟩ := id C
  unfold fX9_rowOf at hm
  refine lv_iconst (pc := 0) (v := (0 : Int32)) hx hb dX9_rowOf_0 (by decide) ?_
  refine lv_istore_n (pc := 1) (lv' := [(3, .int (0 : Int32)), (0, .ref b0), (1, .ref b1), (2, .int i2)]) hx hb dX9_rowOf_1 rfl hl (by decide) rfl (fun ls hl => ?_)
  exact (w_fX9_rowOf_2_l C hW0 hW1 FU) i2 (0 : Int32) hm ls (lv_sub hl [2, 3, 0] rfl)
set_option maxHeartbeats 4000000 in
theorem ct_X9_rowOf {G : Gv} {l : Launch} {b0 : Nat} {b1 : Nat} {V0 : Mem} {V1 : Mem} {i2 : Int32} {rx : Int32} (hm : fX9_rowOf V0 V1 i2 = some rx) : CP G l yX9_rowOf (ws_ yX9_rowOf cX9_rowOf 4 (some .int)) 0 0 [.ref b0, .ref b1, .int i2] (fun H => rg G b0 6 (shX9 G.2.1) V0 H ∧ rg G b1 13 (shX10 G.2.1) V1 H) (some (.int rx)) := by
  refine Met.ofW (cc := cX9_rowOf) (maxL := 4) (ret := (some .int)) (by decide +kernel) rfl ?_
  intro p e s m args below meth c s₁ B hml hv
  obtain ⟨rfl, ⟨hW0, hW1⟩, hK⟩ := hv
  have hts := atoms_spec (ws := ws_ yX9_rowOf cX9_rowOf 4 (some .int)) B.pre
  have hts : ∀ w ∈ lw_all, w.before _ s = true := fun w h => hts w (List.mem_cons_of_mem _ h)
  have C : Cx G p s m _ meth c RX9 cX9_rowOf 4 (some .int) := ⟨B.exec, B.bytes, B.returns, B.notSynchronized, hml, findClass_of_methodNamed B.named, hts, hK⟩
  have hl := lv_entry ([.ref b0, .ref b1, .int i2]) (n := 4) (Nat.le_of_ble_eq_true rfl)
  rw [lg_entry_eq]
  generalize (lg_sl ([.ref b0, .ref b1, .int i2]) ++ List.replicate (4 - (lg_sl ([.ref b0, .ref b1, .int i2])).length) Slot.unset).toArray = ls at hl ⊢
  have hl : lv_has ls 4 [(0, .ref b0), (1, .ref b1), (2, .int i2)] := hl
  exact w_fX9_rowOf C hW0 hW1 _ hm ls hl
noncomputable def fX9_partly_2 (V0 : Mem) (V1 : Mem) (k2 : Int32 → Option (Int32)) (i2 : Int32) : Option (Int32) :=
  if (gI V1 0 15) ≤ i2 then (
  some (-1 : Int32))
  else (
  gb (inR i2 20) (
  if (10 : Int32) ≤ (gI V1 7 i2.toNatClampNeg) then (
  k2 (i2 + (1 : Int32)))
  else (
  gb (inR i2 20) (
  gb (nz64 (gL V1 0 13)) (
  if ((gL V1 2 i2.toNatClampNeg) - (gL V1 2 i2.toNatClampNeg) / (gL V1 0 13) * (gL V1 0 13)) = (0 : Int64) then (
  k2 (i2 + (1 : Int32)))
  else (
  some i2))))))
noncomputable def fX9_partly (V0 : Mem) (V1 : Mem) : Option (Int32) :=
  lq1 (fX9_partly_2 V0 V1) FU (0 : Int32)
set_option maxHeartbeats 4000000 in
theorem w_fX9_partly_2 (C : Cx G p s m args meth c RX9 cX9_partly 3 (some .int)) {b0 : Nat} {b1 : Nat} {V0 : Mem} {V1 : Mem} {rx : Int32} (hW0 : rg G b0 6 (shX9 G.2.1) V0 s.heap) (hW1 : rg G b1 13 (shX10 G.2.1) V1 s.heap) {k2 : Int32 → Option (Int32)} (hk2 : ∀ (i2 : Int32), k2 i2 = some rx → ∀ (ls : Array Slot), lv_has ls 3 [(1, .ref b1), (2, .int i2)] → W p l e (rmP 0 0) s m args below meth c s.heap [] 0 0 (MQ below (QcP (some (.int rx))) args s 0 0 (fun _ => False)) (F0 m 2 ls [])) : ∀ (i2 : Int32), fX9_partly_2 V0 V1 k2 i2 = some rx → ∀ (ls : Array Slot), lv_has ls 3 [(1, .ref b1), (2, .int i2)] → W p l e (rmP 0 0) s m args below meth c s.heap [] 0 0 (MQ below (QcP (some (.int rx))) args s 0 0 (fun _ => False)) (F0 m 2 ls []) := by
  intro i2 hm ls hl
  obtain ⟨hx, hb, hr, hlk, hml, hown, hts, hK⟩ := id C
  unfold fX9_partly_2 at hm
  refine lv_iload_n (pc := 2) hx hb dX9_partly_2 rfl (lv_at hl 1 rfl) ?_
  refine lv_aload_n (pc := 3) hx hb dX9_partly_3 rfl (lv_at hl 0 rfl) ?_
  refine rk_getN (pc := 4) hx hb hts hown hK hW1 fnX9_178 0 (by decide) rfl rfl (x := .int (gI V1 0 15)) rfl dX9_partly_4 ?_
  refine lv_icmp_ge (pc := 7) (tgt := 45) hx hb dX9_partly_7 (by decide) (fun c1 => ?_) (fun c1 => ?_)
  · have hm := ite_t c1 hm
    refine lv_iconst (pc := 45) (v := (-1 : Int32)) hx hb dX9_partly_45 (by decide) ?_
    have e9 := rs1 hm
    subst e9
    exact rk_iretP (pc := 46) hx hb hr hlk rfl dX9_partly_46
  · have hm := ite_f c1 hm
    refine lv_aload_n (pc := 10) hx hb dX9_partly_10 rfl (lv_at hl 0 rfl) ?_
    refine rk_getN (pc := 11) hx hb hts hown hK hW1 fnX9_181 0 (by decide) rfl rfl (x := .ref (b1 + 7)) (by first | rfl | exact congrArg (fun z => some (Value.ref z)) (by omega)) dX9_partly_11 ?_
    refine lv_iload_n (pc := 14) hx hb dX9_partly_14 rfl (lv_at hl 1 rfl) ?_
    obtain ⟨hg2, hm⟩ := gb_some hm
    refine rk_iald (pc := 15) hx hb hK hW1 7 (by decide) rfl rfl hg2 (x := (gI V1 7 i2.toNatClampNeg)) rfl dX9_partly_15 ?_
    refine lv_bipush (pc := 16) (v := (10 : Int32)) hx hb dX9_partly_16 (by decide) ?_
    refine lv_icmp_ge (pc := 18) (tgt := 39) hx hb dX9_partly_18 (by decide) (fun c3 => ?_) (fun c3 => ?_)
    · have hm := ite_t c3 hm
      refine lv_iinc (pc := 39) (v := (i2 + (1 : Int32))) (lv' := [(2, .int (i2 + (1 : Int32))), (1, .ref b1)]) hx hb dX9_partly_39 hl (k := 1) rfl rfl (by decide) rfl (fun ls hl => ?_)
      refine lv_goto (pc := 42) (tgt := 2) hx hb dX9_partly_42 (by decide) ?_
      exact hk2 (i2 + (1 : Int32)) hm ls (lv_sub hl [1, 0] rfl)
    · have hm := ite_f c3 hm
      refine lv_aload_n (pc := 21) hx hb dX9_partly_21 rfl (lv_at hl 0 rfl) ?_
      refine rk_getN (pc := 22) hx hb hts hown hK hW1 fnX9_184 0 (by decide) rfl rfl (x := .ref (b1 + 2)) (by first | rfl | exact congrArg (fun z => some (Value.ref z)) (by omega)) dX9_partly_22 ?_
      refine lv_iload_n (pc := 25) hx hb dX9_partly_25 rfl (lv_at hl 1 rfl) ?_
      obtain ⟨hg4, hm⟩ := gb_some hm
      refine rk_lald (pc := 26) hx hb hK hW1 2 (by decide) rfl rfl hg4 (x := (gL V1 2 i2.toNatClampNeg)) rfl dX9_partly_26 ?_
      refine lv_aload_n (pc := 27) hx hb dX9_partly_27 rfl (lv_at hl 0 rfl) ?_
      refine rk_getN (pc := 28) hx hb hts hown hK hW1 fnX9_197 0 (by decide) rfl rfl (x := .long (gL V1 0 13)) rfl dX9_partly_28 ?_
      obtain ⟨hg5, hm⟩ := gb_some hm
      refine lv_lrem (pc := 31) hx hb dX9_partly_31 (nz64_ne hg5) ?_
      refine lv_lconst (pc := 32) (v := (0 : Int64)) hx hb dX9_partly_32 (by decide) ?_
      refine rk_lcmp_eq (pc := 33) (tgt := 39) hx hb dX9_partly_33 rfl dX9_partly_34 (by decide) (fun c6 => ?_) (fun c6 => ?_)
      · have hm := ite_t c6 hm
        refine lv_iinc (pc := 39) (v := (i2 + (1 : Int32))) (lv' := [(2, .int (i2 + (1 : Int32))), (1, .ref b1)]) hx hb dX9_partly_39 hl (k := 1) rfl rfl (by decide) rfl (fun ls hl => ?_)
        refine lv_goto (pc := 42) (tgt := 2) hx hb dX9_partly_42 (by decide) ?_
        exact hk2 (i2 + (1 : Int32)) hm ls (lv_sub hl [1, 0] rfl)
      · have hm := ite_f c6 hm
        refine lv_iload_n (pc := 37) hx hb dX9_partly_37 rfl (lv_at hl 1 rfl) ?_
        have e9 := rs1 hm
        subst e9
        exact rk_iretP (pc := 38) hx hb hr hlk rfl dX9_partly_38
theorem w_fX9_partly_2_l (C : Cx G p s m args meth c RX9 cX9_partly 3 (some .int)) {b0 : Nat} {b1 : Nat} {V0 : Mem} {V1 : Mem} {rx : Int32} (hW0 : rg G b0 6 (shX9 G.2.1) V0 s.heap) (hW1 : rg G b1 13 (shX10 G.2.1) V1 s.heap) : ∀ (n : Nat) (i2 : Int32), lq1 (fX9_partly_2 V0 V1) n i2 = some rx → ∀ (ls : Array Slot), lv_has ls 3 [(1, .ref b1), (2, .int i2)] → W p l e (rmP 0 0) s m args below meth c s.heap [] 0 0 (MQ below (QcP (some (.int rx))) args s 0 0 (fun _ => False)) (F0 m 2 ls []) := by
  intro n
  induction n with
  | zero => intro i2 hm; exact (lq1_0 hm).elim
  | succ n ih => intro i2 hm; exact w_fX9_partly_2 C hW0 hW1 ih i2 (lq1_s hm)
set_option maxHeartbeats 4000000 in
theorem w_fX9_partly (C : Cx G p s m args meth c RX9 cX9_partly 3 (some .int)) {b0 : Nat} {b1 : Nat} {V0 : Mem} {V1 : Mem} {rx : Int32} (hW0 : rg G b0 6 (shX9 G.2.1) V0 s.heap) (hW1 : rg G b1 13 (shX10 G.2.1) V1 s.heap) : fX9_partly V0 V1 = some rx → ∀ (ls : Array Slot), lv_has ls 3 [(0, .ref b0), (1, .ref b1)] → W p l e (rmP 0 0) s m args below meth c s.heap [] 0 0 (MQ below (QcP (some (.int rx))) args s 0 0 (fun _ => False)) (F0 m 0 ls []) := by
  intro hm ls hl
  obtain ⟨hx, hb, hr, hlk, hml, hown, hts, hK⟩ := id C
  unfold fX9_partly at hm
  refine lv_iconst (pc := 0) (v := (0 : Int32)) hx hb dX9_partly_0 (by decide) ?_
  refine lv_istore_n (pc := 1) (lv' := [(2, .int (0 : Int32)), (0, .ref b0), (1, .ref b1)]) hx hb dX9_partly_1 rfl hl (by decide) rfl (fun ls hl => ?_)
  exact (w_fX9_partly_2_l C hW0 hW1 FU) (0 : Int32) hm ls (lv_sub hl [2, 0] rfl)
set_option maxHeartbeats 4000000 in
theorem ct_X9_partly {G : Gv} {l : Launch} {b0 : Nat} {b1 : Nat} {V0 : Mem} {V1 : Mem} {rx : Int32} (hm : fX9_partly V0 V1  = some rx) : CP G l yX9_partly (ws_ yX9_partly cX9_partly 3 (some .int)) 0 0 [.ref b0, .ref b1] (fun H => rg G b0 6 (shX9 G.2.1) V0 H ∧ rg G b1 13 (shX10 G.2.1) V1 H) (some (.int rx)) := by
  refine Met.ofW (cc := cX9_partly) (maxL := 3) (ret := (some .int)) (by decide +kernel) rfl ?_
  intro p e s m args below meth c s₁ B hml hv
  obtain ⟨rfl, ⟨hW0, hW1⟩, hK⟩ := hv
  have hts := atoms_spec (ws := ws_ yX9_partly cX9_partly 3 (some .int)) B.pre
  have hts : ∀ w ∈ lw_all, w.before _ s = true := fun w h => hts w (List.mem_cons_of_mem _ h)
  have C : Cx G p s m _ meth c RX9 cX9_partly 3 (some .int) := ⟨B.exec, B.bytes, B.returns, B.notSynchronized, hml, findClass_of_methodNamed B.named, hts, hK⟩
  have hl := lv_entry ([.ref b0, .ref b1]) (n := 3) (Nat.le_of_ble_eq_true rfl)
  rw [lg_entry_eq]
  generalize (lg_sl ([.ref b0, .ref b1]) ++ List.replicate (3 - (lg_sl ([.ref b0, .ref b1])).length) Slot.unset).toArray = ls at hl ⊢
  have hl : lv_has ls 3 [(0, .ref b0), (1, .ref b1)] := hl
  exact w_fX9_partly C hW0 hW1  hm ls hl
theorem fnX9_250 : FN RX9 250 10 8 RX10 TX10 20 "WholePacksModel" := ⟨in_X10, rfl, by decide, q1768⟩
noncomputable def fX9_leftPoint (V0 : Mem) (V1 : Mem) (i2 : Int32) (i3 : Int32) : Option (Int64) :=
  if (20 : Int32) ≤ i2 then (
  gb (inR (((5 : Int32) * (i2 - (20 : Int32))) + i3) 60) (
  some (gL V1 9 (((5 : Int32) * (i2 - (20 : Int32))) + i3).toNatClampNeg)))
  else (
  ob (fX9_pointOf V0 (i2 - (10 : Int32)) i3) fun r3 =>
  some r3)
set_option maxHeartbeats 4000000 in
theorem w_fX9_leftPoint (C : Cx G p s m args meth c RX9 cX9_leftPoint 4 (some .long)) {b0 : Nat} {b1 : Nat} {V0 : Mem} {V1 : Mem} {rx : Int64} (hW0 : rg G b0 6 (shX9 G.2.1) V0 s.heap) (hW1 : rg G b1 13 (shX10 G.2.1) V1 s.heap) : ∀ (i2 : Int32) (i3 : Int32), fX9_leftPoint V0 V1 i2 i3 = some rx → ∀ (ls : Array Slot), lv_has ls 4 [(0, .ref b0), (1, .ref b1), (2, .int i2), (3, .int i3)] → W p l e (rmP 2 44) s m args below meth c s.heap [] 0 0 (MQ below (QcP (some (.long rx))) args s 0 0 (fun _ => False)) (F0 m 0 ls []) := by
  intro i2 i3 hm ls hl
  obtain ⟨hx, hb, hr, hlk, hml, hown, hts, hK⟩ := id C
  unfold fX9_leftPoint at hm
  refine lv_iload_n (pc := 0) hx hb dX9_leftPoint_0 rfl (lv_at hl 2 rfl) ?_
  refine lv_bipush (pc := 1) (v := (20 : Int32)) hx hb dX9_leftPoint_1 (by decide) ?_
  refine lv_icmp_ge (pc := 3) (tgt := 18) hx hb dX9_leftPoint_3 (by decide) (fun c1 => ?_) (fun c1 => ?_)
  · have hm := ite_t c1 hm
    refine lv_aload_n (pc := 18) hx hb dX9_leftPoint_18 rfl (lv_at hl 1 rfl) ?_
    refine rk_getN (pc := 19) hx hb hts hown hK hW1 fnX9_250 0 (by decide) rfl rfl (x := .ref (b1 + 9)) (by first | rfl | exact congrArg (fun z => some (Value.ref z)) (by omega)) dX9_leftPoint_19 ?_
    refine lv_iconst (pc := 22) (v := (5 : Int32)) hx hb dX9_leftPoint_22 (by decide) ?_
    refine lv_iload_n (pc := 23) hx hb dX9_leftPoint_23 rfl (lv_at hl 2 rfl) ?_
    refine lv_bipush (pc := 24) (v := (20 : Int32)) hx hb dX9_leftPoint_24 (by decide) ?_
    refine lv_isub (pc := 26) hx hb dX9_leftPoint_26 ?_
    refine lv_imul (pc := 27) hx hb dX9_leftPoint_27 ?_
    refine lv_iload_n (pc := 28) hx hb dX9_leftPoint_28 rfl (lv_at hl 3 rfl) ?_
    refine lv_iadd (pc := 29) hx hb dX9_leftPoint_29 ?_
    obtain ⟨hg2, hm⟩ := gb_some hm
    refine rk_lald (pc := 30) hx hb hK hW1 9 (by decide) rfl rfl hg2 (x := (gL V1 9 (((5 : Int32) * (i2 - (20 : Int32))) + i3).toNatClampNeg)) rfl dX9_leftPoint_30 ?_
    have e9 := rs1 hm
    subst e9
    exact rk_lretP (pc := 31) hx hb hr hlk rfl dX9_leftPoint_31
  · have hm := ite_f c1 hm
    refine lv_aload_n (pc := 6) hx hb dX9_leftPoint_6 rfl (lv_at hl 0 rfl) ?_
    refine lv_iload_n (pc := 7) hx hb dX9_leftPoint_7 rfl (lv_at hl 2 rfl) ?_
    refine lv_bipush (pc := 8) (v := (10 : Int32)) hx hb dX9_leftPoint_8 (by decide) ?_
    refine lv_isub (pc := 10) hx hb dX9_leftPoint_10 ?_
    refine lv_iload_n (pc := 11) hx hb dX9_leftPoint_11 rfl (lv_at hl 3 rfl) ?_
    obtain ⟨r3, hq4, hm⟩ := ob_some hm
    refine rk_PV (pc := 12) (As := [.int (i2 - (10 : Int32)), .int i3]) (rest := []) hx hb hml hown hts hK lkX9_217 rfl yn_X9_pointOf (ct_X9_pointOf (G := G) (l := l) (b0 := b0) hq4) ⟨Nat.le_of_ble_eq_true rfl, Nat.le_of_ble_eq_true rfl⟩ (rk_recv hK hW0 0 (by decide) rfl rfl rfl) hW0 rfl rfl hl.1 (Nat.le_of_ble_eq_true rfl) dX9_leftPoint_12 ⟨Nat.zero_le _, Nat.zero_le _⟩ ?_
    refine W.eq (g2 := F0 m 15 ls [.long r3]) rfl ?_
    refine lv_goto (pc := 15) (tgt := 31) hx hb dX9_leftPoint_15 (by decide) ?_
    have e9 := rs1 hm
    subst e9
    exact rk_lretP (pc := 31) hx hb hr hlk rfl dX9_leftPoint_31
set_option maxHeartbeats 4000000 in
theorem ct_X9_leftPoint {G : Gv} {l : Launch} {b0 : Nat} {b1 : Nat} {V0 : Mem} {V1 : Mem} {i2 : Int32} {i3 : Int32} {rx : Int64} (hm : fX9_leftPoint V0 V1 i2 i3 = some rx) : CP G l yX9_leftPoint (ws_ yX9_leftPoint cX9_leftPoint 4 (some .long)) 2 44 [.ref b0, .ref b1, .int i2, .int i3] (fun H => rg G b0 6 (shX9 G.2.1) V0 H ∧ rg G b1 13 (shX10 G.2.1) V1 H) (some (.long rx)) := by
  refine Met.ofW (cc := cX9_leftPoint) (maxL := 4) (ret := (some .long)) (by decide +kernel) rfl ?_
  intro p e s m args below meth c s₁ B hml hv
  obtain ⟨rfl, ⟨hW0, hW1⟩, hK⟩ := hv
  have hts := atoms_spec (ws := ws_ yX9_leftPoint cX9_leftPoint 4 (some .long)) B.pre
  have hts : ∀ w ∈ lw_all, w.before _ s = true := fun w h => hts w (List.mem_cons_of_mem _ h)
  have C : Cx G p s m _ meth c RX9 cX9_leftPoint 4 (some .long) := ⟨B.exec, B.bytes, B.returns, B.notSynchronized, hml, findClass_of_methodNamed B.named, hts, hK⟩
  have hl := lv_entry ([.ref b0, .ref b1, .int i2, .int i3]) (n := 4) (Nat.le_of_ble_eq_true rfl)
  rw [lg_entry_eq]
  generalize (lg_sl ([.ref b0, .ref b1, .int i2, .int i3]) ++ List.replicate (4 - (lg_sl ([.ref b0, .ref b1, .int i2, .int i3])).length) Slot.unset).toArray = ls at hl ⊢
  have hl : lv_has ls 4 [(0, .ref b0), (1, .ref b1), (2, .int i2), (3, .int i3)] := hl
  exact w_fX9_leftPoint C hW0 hW1 _ _ hm ls hl
theorem fnX9_253 : FN RX9 253 10 9 RX10 TX10 20 "WholePacksModel" := ⟨in_X10, rfl, by decide, q1770⟩
noncomputable def fX9_leftLimit (V0 : Mem) (V1 : Mem) (i2 : Int32) : Option (Int64) :=
  if (20 : Int32) ≤ i2 then (
  gb (inR (i2 - (20 : Int32)) 12) (
  some (gL V1 10 (i2 - (20 : Int32)).toNatClampNeg)))
  else (
  ob (fX9_limitOf V0 (i2 - (10 : Int32))) fun r3 =>
  some r3)
set_option maxHeartbeats 4000000 in
theorem w_fX9_leftLimit (C : Cx G p s m args meth c RX9 cX9_leftLimit 3 (some .long)) {b0 : Nat} {b1 : Nat} {V0 : Mem} {V1 : Mem} {rx : Int64} (hW0 : rg G b0 6 (shX9 G.2.1) V0 s.heap) (hW1 : rg G b1 13 (shX10 G.2.1) V1 s.heap) : ∀ (i2 : Int32), fX9_leftLimit V0 V1 i2 = some rx → ∀ (ls : Array Slot), lv_has ls 3 [(0, .ref b0), (1, .ref b1), (2, .int i2)] → W p l e (rmP 2 42) s m args below meth c s.heap [] 0 0 (MQ below (QcP (some (.long rx))) args s 0 0 (fun _ => False)) (F0 m 0 ls []) := by
  intro i2 hm ls hl
  obtain ⟨hx, hb, hr, hlk, hml, hown, hts, hK⟩ := id C
  unfold fX9_leftLimit at hm
  refine lv_iload_n (pc := 0) hx hb dX9_leftLimit_0 rfl (lv_at hl 2 rfl) ?_
  refine lv_bipush (pc := 1) (v := (20 : Int32)) hx hb dX9_leftLimit_1 (by decide) ?_
  refine lv_icmp_ge (pc := 3) (tgt := 17) hx hb dX9_leftLimit_3 (by decide) (fun c1 => ?_) (fun c1 => ?_)
  · have hm := ite_t c1 hm
    refine lv_aload_n (pc := 17) hx hb dX9_leftLimit_17 rfl (lv_at hl 1 rfl) ?_
    refine rk_getN (pc := 18) hx hb hts hown hK hW1 fnX9_253 0 (by decide) rfl rfl (x := .ref (b1 + 10)) (by first | rfl | exact congrArg (fun z => some (Value.ref z)) (by omega)) dX9_leftLimit_18 ?_
    refine lv_iload_n (pc := 21) hx hb dX9_leftLimit_21 rfl (lv_at hl 2 rfl) ?_
    refine lv_bipush (pc := 22) (v := (20 : Int32)) hx hb dX9_leftLimit_22 (by decide) ?_
    refine lv_isub (pc := 24) hx hb dX9_leftLimit_24 ?_
    obtain ⟨hg2, hm⟩ := gb_some hm
    refine rk_lald (pc := 25) hx hb hK hW1 10 (by decide) rfl rfl hg2 (x := (gL V1 10 (i2 - (20 : Int32)).toNatClampNeg)) rfl dX9_leftLimit_25 ?_
    have e9 := rs1 hm
    subst e9
    exact rk_lretP (pc := 26) hx hb hr hlk rfl dX9_leftLimit_26
  · have hm := ite_f c1 hm
    refine lv_aload_n (pc := 6) hx hb dX9_leftLimit_6 rfl (lv_at hl 0 rfl) ?_
    refine lv_iload_n (pc := 7) hx hb dX9_leftLimit_7 rfl (lv_at hl 2 rfl) ?_
    refine lv_bipush (pc := 8) (v := (10 : Int32)) hx hb dX9_leftLimit_8 (by decide) ?_
    refine lv_isub (pc := 10) hx hb dX9_leftLimit_10 ?_
    obtain ⟨r3, hq4, hm⟩ := ob_some hm
    refine rk_PV (pc := 11) (As := [.int (i2 - (10 : Int32))]) (rest := []) hx hb hml hown hts hK lkX9_209 rfl yn_X9_limitOf (ct_X9_limitOf (G := G) (l := l) (b0 := b0) hq4) ⟨Nat.le_of_ble_eq_true rfl, Nat.le_of_ble_eq_true rfl⟩ (rk_recv hK hW0 0 (by decide) rfl rfl rfl) hW0 rfl rfl hl.1 (Nat.le_of_ble_eq_true rfl) dX9_leftLimit_11 ⟨Nat.zero_le _, Nat.zero_le _⟩ ?_
    refine W.eq (g2 := F0 m 14 ls [.long r3]) rfl ?_
    refine lv_goto (pc := 14) (tgt := 26) hx hb dX9_leftLimit_14 (by decide) ?_
    have e9 := rs1 hm
    subst e9
    exact rk_lretP (pc := 26) hx hb hr hlk rfl dX9_leftLimit_26
set_option maxHeartbeats 4000000 in
theorem ct_X9_leftLimit {G : Gv} {l : Launch} {b0 : Nat} {b1 : Nat} {V0 : Mem} {V1 : Mem} {i2 : Int32} {rx : Int64} (hm : fX9_leftLimit V0 V1 i2 = some rx) : CP G l yX9_leftLimit (ws_ yX9_leftLimit cX9_leftLimit 3 (some .long)) 2 42 [.ref b0, .ref b1, .int i2] (fun H => rg G b0 6 (shX9 G.2.1) V0 H ∧ rg G b1 13 (shX10 G.2.1) V1 H) (some (.long rx)) := by
  refine Met.ofW (cc := cX9_leftLimit) (maxL := 3) (ret := (some .long)) (by decide +kernel) rfl ?_
  intro p e s m args below meth c s₁ B hml hv
  obtain ⟨rfl, ⟨hW0, hW1⟩, hK⟩ := hv
  have hts := atoms_spec (ws := ws_ yX9_leftLimit cX9_leftLimit 3 (some .long)) B.pre
  have hts : ∀ w ∈ lw_all, w.before _ s = true := fun w h => hts w (List.mem_cons_of_mem _ h)
  have C : Cx G p s m _ meth c RX9 cX9_leftLimit 3 (some .long) := ⟨B.exec, B.bytes, B.returns, B.notSynchronized, hml, findClass_of_methodNamed B.named, hts, hK⟩
  have hl := lv_entry ([.ref b0, .ref b1, .int i2]) (n := 3) (Nat.le_of_ble_eq_true rfl)
  rw [lg_entry_eq]
  generalize (lg_sl ([.ref b0, .ref b1, .int i2]) ++ List.replicate (3 - (lg_sl ([.ref b0, .ref b1, .int i2])).length) Slot.unset).toArray = ls at hl ⊢
  have hl : lv_has ls 3 [(0, .ref b0), (1, .ref b1), (2, .int i2)] := hl
  exact w_fX9_leftLimit C hW0 hW1 _ hm ls hl
theorem lkX9_256 : LSt RX9 256 yJ7_floorDiv cJ7_floorDiv 6 (some .long) := ⟨q2083, q872, q136, q873⟩
theorem yn_X9_leftPoint : YN yX9_leftPoint 3 := by
  unfold YN
  decide +kernel
theorem lkX9_262 : LV RX9 262 RX9 yX9_leftPoint cX9_leftPoint 4 (some .long) := ⟨q2084, q2086, qs82, q128, q2087⟩
theorem yn_X9_leftLimit : YN yX9_leftLimit 2 := by
  unfold YN
  decide +kernel
theorem lkX9_266 : LV RX9 266 RX9 yX9_leftLimit cX9_leftLimit 3 (some .long) := ⟨q2088, q2090, qs83, q128, q2091⟩
noncomputable def fX9_tells_179 (V0 : Mem) (k179 : Mem → Int32 → Int32 → Int32 → Int64 → Int32 → Option (Int32 × Mem)) (v1 : Mem) (i2 : Int32) (i3 : Int32) (i4 : Int32) (j5 : Int64) (i7 : Int32) : Option (Int32 × Mem) :=
  if (gI v1 0 14) ≤ i7 then (
  gb (inR i3 12) (
  lm (sL v1 10 i3.toNatClampNeg j5) fun v1_32 =>
  if i4 = 0 then (
  some ((0 : Int32), v1_32))
  else (
  ob (fX9_isNear j5) fun r42 =>
  if r42 = 0 then (
  some ((0 : Int32), v1_32))
  else (
  some ((1 : Int32), v1_32)))))
  else (
  gb (inR i7 5) (
  if (gI v1 8 i7.toNatClampNeg) < (10 : Int32) then (
  k179 v1 i2 i3 i4 j5 (i7 + (1 : Int32)))
  else (
  gb (inR (((5 : Int32) * i2) + i7) 100) (
  ob (fJ7_floorDiv (gL v1 1 (((5 : Int32) * i2) + i7).toNatClampNeg) (gL v1 0 13)) fun r48 =>
  gb (inR i7 5) (
  ob (fX9_leftLimit V0 v1 (gI v1 8 i7.toNatClampNeg)) fun r51 =>
  k179 v1 i2 i3 i4 (j5 - (r48 * r51)) (i7 + (1 : Int32)))))))
noncomputable def fX9_tells_41 (V0 : Mem) (k11 : Mem → Int32 → Int32 → Int32 → Int32 → Option (Int32 × Mem)) (k41 : Mem → Int32 → Int32 → Int32 → Int32 → Int64 → Int32 → Option (Int32 × Mem)) (v1 : Mem) (i2 : Int32) (i3 : Int32) (i4 : Int32) (i5 : Int32) (j6 : Int64) (i8 : Int32) : Option (Int32 × Mem) :=
  if (gI v1 0 14) ≤ i8 then (
  gb (inR (((5 : Int32) * i3) + i5) 60) (
  lm (sL v1 9 (((5 : Int32) * i3) + i5).toNatClampNeg j6) fun v1_9 =>
  ob (fX9_isNear j6) fun r18 =>
  k11 v1_9 i2 i3 (i4 &&& r18) (i5 + (1 : Int32))))
  else (
  gb (inR (((5 : Int32) * i2) + i8) 100) (
  ob (fJ7_floorDiv (gL v1 1 (((5 : Int32) * i2) + i8).toNatClampNeg) (gL v1 0 13)) fun r21 =>
  gb (inR i8 5) (
  if (10 : Int32) ≤ (gI v1 8 i8.toNatClampNeg) then (
  gb (inR i8 5) (
  ob (fX9_leftPoint V0 v1 (gI v1 8 i8.toNatClampNeg) i5) fun r26 =>
  k41 v1 i2 i3 i4 i5 (j6 + ((-r21) * r26)) (i8 + (1 : Int32))))
  else (
  gb (inR i8 5) (
  if (gI v1 8 i8.toNatClampNeg) = i5 then (
  k41 v1 i2 i3 i4 i5 (j6 + r21) (i8 + (1 : Int32)))
  else (
  k41 v1 i2 i3 i4 i5 (j6 + (0 : Int64)) (i8 + (1 : Int32))))))))
noncomputable def fX9_tells_11 (V0 : Mem) (k11 : Mem → Int32 → Int32 → Int32 → Int32 → Option (Int32 × Mem)) (v1 : Mem) (i2 : Int32) (i3 : Int32) (i4 : Int32) (i5 : Int32) : Option (Int32 × Mem) :=
  if (gI v1 0 14) ≤ i5 then (
  gb (inR i2 20) (
  ob (fJ7_floorDiv (gL v1 2 i2.toNatClampNeg) (gL v1 0 13)) fun r3 =>
  lq6 (fX9_tells_179 V0) FU v1 i2 i3 i4 r3 (0 : Int32)))
  else (
  gb (inR i2 20) (
  if (gI v1 7 i2.toNatClampNeg) = i5 then (
  lq7 (fX9_tells_41 V0 k11) FU v1 i2 i3 i4 i5 (1 : Int64) (0 : Int32))
  else (
  lq7 (fX9_tells_41 V0 k11) FU v1 i2 i3 i4 i5 (0 : Int64) (0 : Int32))))
noncomputable def fX9_tells (V0 : Mem) (v1 : Mem) (i2 : Int32) : Option (Int32 × Mem) :=
  lq5 (fX9_tells_11 V0) FU v1 i2 (gI v1 0 16) (1 : Int32) (0 : Int32)
set_option maxHeartbeats 4000000 in
theorem w_fX9_tells_179 (C : Cx G p s m args meth c RX9 cX9_tells 11 (some .boolean)) {b0 : Nat} {b1 : Nat} {V0 : Mem} {rx : Int32} {rw1 : Mem} (hd01 : b0 + 6 ≤ b1 ∨ b1 + 13 ≤ b0) {k179 : Mem → Int32 → Int32 → Int32 → Int64 → Int32 → Option (Int32 × Mem)} (hk179 : ∀ (v1 : Mem) (i2 : Int32) (i3 : Int32) (i4 : Int32) (j5 : Int64) (i7 : Int32), k179 v1 i2 i3 i4 j5 i7 = some (rx, rw1) → ∀ (H : Heap) (locs : List Loc) (ls : Array Slot), rg G b0 6 (shX9 G.2.1) V0 H → rg G b1 13 (shX10 G.2.1) v1 H → va_S (FA (iv b1 13) s.heap.size) s.heap H locs → H.size = s.heap.size → lv_has ls 11 [(0, .ref b0), (1, .ref b1), (2, .int i2), (3, .int i3), (4, .int i4), (5, .long j5), (7, .int i7)] → W p l e (rmT 3 0 0 67) s m args below meth c H locs 0 0 (MQ below (QcT (FA (iv b1 13) s.heap.size) (fun ov H => ov = (some (.int rx)) ∧ rg G b1 13 (shX10 G.2.1) rw1 H ∧ H.size = s.heap.size)) args s 0 0 (FA (iv b1 13) s.heap.size)) (F0 m 179 ls [])) : ∀ (v1 : Mem) (i2 : Int32) (i3 : Int32) (i4 : Int32) (j5 : Int64) (i7 : Int32), fX9_tells_179 V0 k179 v1 i2 i3 i4 j5 i7 = some (rx, rw1) → ∀ (H : Heap) (locs : List Loc) (ls : Array Slot), rg G b0 6 (shX9 G.2.1) V0 H → rg G b1 13 (shX10 G.2.1) v1 H → va_S (FA (iv b1 13) s.heap.size) s.heap H locs → H.size = s.heap.size → lv_has ls 11 [(0, .ref b0), (1, .ref b1), (2, .int i2), (3, .int i3), (4, .int i4), (5, .long j5), (7, .int i7)] → W p l e (rmT 3 0 0 67) s m args below meth c H locs 0 0 (MQ below (QcT (FA (iv b1 13) s.heap.size) (fun ov H => ov = (some (.int rx)) ∧ rg G b1 13 (shX10 G.2.1) rw1 H ∧ H.size = s.heap.size)) args s 0 0 (FA (iv b1 13) s.heap.size)) (F0 m 179 ls []) := by
  intro v1 i2 i3 i4 j5 i7 hm H locs ls hW0 hW1 hS hz hl
  obtain ⟨hx, hb, hr, hlk, hml, hown, hts, hK⟩ := id C
  unfold fX9_tells_179 at hm
  refine lv_iload (pc := 179) hx hb dX9_tells_179 (lv_at hl 6 rfl) ?_
  refine lv_aload_n (pc := 181) hx hb dX9_tells_181 rfl (lv_at hl 1 rfl) ?_
  refine rk_getN (pc := 182) hx hb hts hown hK hW1 fnX9_172 0 (by decide) rfl rfl (x := .int (gI v1 0 14)) rfl dX9_tells_182 ?_
  refine lv_icmp_ge (pc := 185) (tgt := 242) hx hb dX9_tells_185 (by decide) (fun c30 => ?_) (fun c30 => ?_)
  · have hm := ite_t c30 hm
    refine lv_aload_n (pc := 242) hx hb dX9_tells_242 rfl (lv_at hl 1 rfl) ?_
    refine rk_getN (pc := 243) hx hb hts hown hK hW1 fnX9_253 0 (by decide) rfl rfl (x := .ref (b1 + 10)) (by first | rfl | exact congrArg (fun z => some (Value.ref z)) (by omega)) dX9_tells_243 ?_
    refine lv_iload_n (pc := 246) hx hb dX9_tells_246 rfl (lv_at hl 3 rfl) ?_
    refine lv_lload (pc := 247) hx hb dX9_tells_247 (lv_at hl 5 rfl) ?_
    obtain ⟨hg31, hm⟩ := gb_some hm
    refine rk_last (pc := 249) hx hb hK hW1 hS 10 (by decide) rfl (Or.inl (show iv _ _ _ from ⟨by omega, by omega⟩)) (fun _ _ _ => rfl) hg31 dX9_tells_249 (fun H33 locs34 hW35 hS36 hz37 hkp38 => ?_)
    obtain ⟨v1_32, he9, hm⟩ := lm_some hm
    rw [he9] at hW35
    have hW39 := rg_keepq hW0 hkp38 (by omega)
    have hz40 := hz37.trans hz
    refine lv_iload (pc := 250) hx hb dX9_tells_250 (lv_at hl 4 rfl) ?_
    refine lv_if_eq (pc := 252) (tgt := 267) hx hb dX9_tells_252 (by decide) (fun c41 => ?_) (fun c41 => ?_)
    · have hm := ite_t c41 hm
      refine lv_iconst (pc := 267) (v := (0 : Int32)) hx hb dX9_tells_267 (by decide) ?_
      obtain ⟨e8, e9⟩ := rs2 hm
      subst e8
      subst e9
      exact rk_zret (pc := 268) hx hb hr hlk rfl hS36 ⟨rfl, hW35, hz40⟩ dX9_tells_268
    · have hm := ite_f c41 hm
      refine lv_lload (pc := 255) hx hb dX9_tells_255 (lv_at hl 5 rfl) ?_
      obtain ⟨r42, hq43, hm⟩ := ob_some hm
      refine rk_PS (pc := 257) (As := [.long j5]) (rest := []) hx hb hml hown hts hK lkX9_225 yn_X9_isNear (ct_X9_isNear (G := G) (l := l) hq43) ⟨Nat.le_of_ble_eq_true rfl, Nat.le_of_ble_eq_true rfl⟩ trivial rfl rfl hl.1 (Nat.le_of_ble_eq_true rfl) dX9_tells_257 ⟨Nat.zero_le _, Nat.zero_le _⟩ ?_
      refine W.eq (g2 := F0 m 260 ls [.int r42]) rfl ?_
      refine lv_if_eq (pc := 260) (tgt := 267) hx hb dX9_tells_260 (by decide) (fun c44 => ?_) (fun c44 => ?_)
      · have hm := ite_t c44 hm
        refine lv_iconst (pc := 267) (v := (0 : Int32)) hx hb dX9_tells_267 (by decide) ?_
        obtain ⟨e8, e9⟩ := rs2 hm
        subst e8
        subst e9
        exact rk_zret (pc := 268) hx hb hr hlk rfl hS36 ⟨rfl, hW35, hz40⟩ dX9_tells_268
      · have hm := ite_f c44 hm
        refine lv_iconst (pc := 263) (v := (1 : Int32)) hx hb dX9_tells_263 (by decide) ?_
        refine lv_goto (pc := 264) (tgt := 268) hx hb dX9_tells_264 (by decide) ?_
        obtain ⟨e8, e9⟩ := rs2 hm
        subst e8
        subst e9
        exact rk_zret (pc := 268) hx hb hr hlk rfl hS36 ⟨rfl, hW35, hz40⟩ dX9_tells_268
  · have hm := ite_f c30 hm
    refine lv_aload_n (pc := 188) hx hb dX9_tells_188 rfl (lv_at hl 1 rfl) ?_
    refine rk_getN (pc := 189) hx hb hts hown hK hW1 fnX9_206 0 (by decide) rfl rfl (x := .ref (b1 + 8)) (by first | rfl | exact congrArg (fun z => some (Value.ref z)) (by omega)) dX9_tells_189 ?_
    refine lv_iload (pc := 192) hx hb dX9_tells_192 (lv_at hl 6 rfl) ?_
    obtain ⟨hg45, hm⟩ := gb_some hm
    refine rk_iald (pc := 194) hx hb hK hW1 8 (by decide) rfl rfl hg45 (x := (gI v1 8 i7.toNatClampNeg)) rfl dX9_tells_194 ?_
    refine lv_bipush (pc := 195) (v := (10 : Int32)) hx hb dX9_tells_195 (by decide) ?_
    refine lv_icmp_lt (pc := 197) (tgt := 236) hx hb dX9_tells_197 (by decide) (fun c46 => ?_) (fun c46 => ?_)
    · have hm := ite_t c46 hm
      refine lv_iinc (pc := 236) (v := (i7 + (1 : Int32))) (lv' := [(7, .int (i7 + (1 : Int32))), (0, .ref b0), (1, .ref b1), (2, .int i2), (3, .int i3), (4, .int i4), (5, .long j5)]) hx hb dX9_tells_236 hl (k := 6) rfl rfl (by decide) rfl (fun ls hl => ?_)
      refine lv_goto (pc := 239) (tgt := 179) hx hb dX9_tells_239 (by decide) ?_
      exact hk179 v1 i2 i3 i4 j5 (i7 + (1 : Int32)) hm H locs ls hW0 hW1 hS hz (lv_sub hl [1, 2, 3, 4, 5, 6, 0] rfl)
    · have hm := ite_f c46 hm
      refine lv_lload (pc := 200) hx hb dX9_tells_200 (lv_at hl 5 rfl) ?_
      refine lv_aload_n (pc := 202) hx hb dX9_tells_202 rfl (lv_at hl 1 rfl) ?_
      refine rk_getN (pc := 203) hx hb hts hown hK hW1 fnX9_175 0 (by decide) rfl rfl (x := .ref (b1 + 1)) (by first | rfl | exact congrArg (fun z => some (Value.ref z)) (by omega)) dX9_tells_203 ?_
      refine lv_iconst (pc := 206) (v := (5 : Int32)) hx hb dX9_tells_206 (by decide) ?_
      refine lv_iload_n (pc := 207) hx hb dX9_tells_207 rfl (lv_at hl 2 rfl) ?_
      refine lv_imul (pc := 208) hx hb dX9_tells_208 ?_
      refine lv_iload (pc := 209) hx hb dX9_tells_209 (lv_at hl 6 rfl) ?_
      refine lv_iadd (pc := 211) hx hb dX9_tells_211 ?_
      obtain ⟨hg47, hm⟩ := gb_some hm
      refine rk_lald (pc := 212) hx hb hK hW1 1 (by decide) rfl rfl hg47 (x := (gL v1 1 (((5 : Int32) * i2) + i7).toNatClampNeg)) rfl dX9_tells_212 ?_
      refine lv_aload_n (pc := 213) hx hb dX9_tells_213 rfl (lv_at hl 1 rfl) ?_
      refine rk_getN (pc := 214) hx hb hts hown hK hW1 fnX9_197 0 (by decide) rfl rfl (x := .long (gL v1 0 13)) rfl dX9_tells_214 ?_
      obtain ⟨r48, hq49, hm⟩ := ob_some hm
      refine rk_PS (pc := 217) (As := [.long (gL v1 1 (((5 : Int32) * i2) + i7).toNatClampNeg), .long (gL v1 0 13)]) (rest := [.long j5]) hx hb hml hown hts hK lkX9_256 yn_J7_floorDiv (ct_J7_floorDiv (G := G) (l := l) hq49) ⟨Nat.le_of_ble_eq_true rfl, Nat.le_of_ble_eq_true rfl⟩ trivial rfl rfl hl.1 (Nat.le_of_ble_eq_true rfl) dX9_tells_217 ⟨Nat.zero_le _, Nat.zero_le _⟩ ?_
      refine W.eq (g2 := F0 m 220 ls [.long r48, .long j5]) rfl ?_
      refine lv_aload_n (pc := 220) hx hb dX9_tells_220 rfl (lv_at hl 0 rfl) ?_
      refine lv_aload_n (pc := 221) hx hb dX9_tells_221 rfl (lv_at hl 1 rfl) ?_
      refine lv_aload_n (pc := 222) hx hb dX9_tells_222 rfl (lv_at hl 1 rfl) ?_
      refine rk_getN (pc := 223) hx hb hts hown hK hW1 fnX9_206 0 (by decide) rfl rfl (x := .ref (b1 + 8)) (by first | rfl | exact congrArg (fun z => some (Value.ref z)) (by omega)) dX9_tells_223 ?_
      refine lv_iload (pc := 226) hx hb dX9_tells_226 (lv_at hl 6 rfl) ?_
      obtain ⟨hg50, hm⟩ := gb_some hm
      refine rk_iald (pc := 228) hx hb hK hW1 8 (by decide) rfl rfl hg50 (x := (gI v1 8 i7.toNatClampNeg)) rfl dX9_tells_228 ?_
      obtain ⟨r51, hq52, hm⟩ := ob_some hm
      refine rk_PV (pc := 229) (As := [.ref b1, .int (gI v1 8 i7.toNatClampNeg)]) (rest := [.long r48, .long j5]) hx hb hml hown hts hK lkX9_266 rfl yn_X9_leftLimit (ct_X9_leftLimit (G := G) (l := l) (b0 := b0) (b1 := b1) hq52) ⟨Nat.le_of_ble_eq_true rfl, Nat.le_of_ble_eq_true rfl⟩ (rk_recv hK hW0 0 (by decide) rfl rfl rfl) ⟨hW0, hW1⟩ rfl rfl hl.1 (Nat.le_of_ble_eq_true rfl) dX9_tells_229 ⟨Nat.zero_le _, Nat.zero_le _⟩ ?_
      refine W.eq (g2 := F0 m 232 ls [.long r51, .long r48, .long j5]) rfl ?_
      refine lv_lmul (pc := 232) hx hb dX9_tells_232 ?_
      refine lv_lsub (pc := 233) hx hb dX9_tells_233 ?_
      refine lv_lstore (pc := 234) (lv' := [(5, .long (j5 - (r48 * r51))), (0, .ref b0), (1, .ref b1), (2, .int i2), (3, .int i3), (4, .int i4), (7, .int i7)]) hx hb dX9_tells_234 hl (by decide) rfl (fun ls hl => ?_)
      refine lv_iinc (pc := 236) (v := (i7 + (1 : Int32))) (lv' := [(7, .int (i7 + (1 : Int32))), (5, .long (j5 - (r48 * r51))), (0, .ref b0), (1, .ref b1), (2, .int i2), (3, .int i3), (4, .int i4)]) hx hb dX9_tells_236 hl (k := 6) rfl rfl (by decide) rfl (fun ls hl => ?_)
      refine lv_goto (pc := 239) (tgt := 179) hx hb dX9_tells_239 (by decide) ?_
      exact hk179 v1 i2 i3 i4 (j5 - (r48 * r51)) (i7 + (1 : Int32)) hm H locs ls hW0 hW1 hS hz (lv_sub hl [2, 3, 4, 5, 6, 1, 0] rfl)
theorem w_fX9_tells_179_l (C : Cx G p s m args meth c RX9 cX9_tells 11 (some .boolean)) {b0 : Nat} {b1 : Nat} {V0 : Mem} {rx : Int32} {rw1 : Mem} (hd01 : b0 + 6 ≤ b1 ∨ b1 + 13 ≤ b0) : ∀ (n : Nat) (v1 : Mem) (i2 : Int32) (i3 : Int32) (i4 : Int32) (j5 : Int64) (i7 : Int32), lq6 (fX9_tells_179 V0) n v1 i2 i3 i4 j5 i7 = some (rx, rw1) → ∀ (H : Heap) (locs : List Loc) (ls : Array Slot), rg G b0 6 (shX9 G.2.1) V0 H → rg G b1 13 (shX10 G.2.1) v1 H → va_S (FA (iv b1 13) s.heap.size) s.heap H locs → H.size = s.heap.size → lv_has ls 11 [(0, .ref b0), (1, .ref b1), (2, .int i2), (3, .int i3), (4, .int i4), (5, .long j5), (7, .int i7)] → W p l e (rmT 3 0 0 67) s m args below meth c H locs 0 0 (MQ below (QcT (FA (iv b1 13) s.heap.size) (fun ov H => ov = (some (.int rx)) ∧ rg G b1 13 (shX10 G.2.1) rw1 H ∧ H.size = s.heap.size)) args s 0 0 (FA (iv b1 13) s.heap.size)) (F0 m 179 ls []) := by
  intro n
  induction n with
  | zero => intro v1 i2 i3 i4 j5 i7 hm; exact (lq6_0 hm).elim
  | succ n ih => intro v1 i2 i3 i4 j5 i7 hm; exact w_fX9_tells_179 C hd01 ih v1 i2 i3 i4 j5 i7 (lq6_s hm)
set_option maxHeartbeats 4000000 in
theorem w_fX9_tells_41 (C : Cx G p s m args meth c RX9 cX9_tells 11 (some .boolean)) {b0 : Nat} {b1 : Nat} {V0 : Mem} {rx : Int32} {rw1 : Mem} (hd01 : b0 + 6 ≤ b1 ∨ b1 + 13 ≤ b0) {k11 : Mem → Int32 → Int32 → Int32 → Int32 → Option (Int32 × Mem)} {k41 : Mem → Int32 → Int32 → Int32 → Int32 → Int64 → Int32 → Option (Int32 × Mem)} (hk11 : ∀ (v1 : Mem) (i2 : Int32) (i3 : Int32) (i4 : Int32) (i5 : Int32), k11 v1 i2 i3 i4 i5 = some (rx, rw1) → ∀ (H : Heap) (locs : List Loc) (ls : Array Slot), rg G b0 6 (shX9 G.2.1) V0 H → rg G b1 13 (shX10 G.2.1) v1 H → va_S (FA (iv b1 13) s.heap.size) s.heap H locs → H.size = s.heap.size → lv_has ls 11 [(0, .ref b0), (1, .ref b1), (2, .int i2), (3, .int i3), (4, .int i4), (5, .int i5)] → W p l e (rmT 3 0 0 67) s m args below meth c H locs 0 0 (MQ below (QcT (FA (iv b1 13) s.heap.size) (fun ov H => ov = (some (.int rx)) ∧ rg G b1 13 (shX10 G.2.1) rw1 H ∧ H.size = s.heap.size)) args s 0 0 (FA (iv b1 13) s.heap.size)) (F0 m 11 ls [])) (hk41 : ∀ (v1 : Mem) (i2 : Int32) (i3 : Int32) (i4 : Int32) (i5 : Int32) (j6 : Int64) (i8 : Int32), k41 v1 i2 i3 i4 i5 j6 i8 = some (rx, rw1) → ∀ (H : Heap) (locs : List Loc) (ls : Array Slot), rg G b0 6 (shX9 G.2.1) V0 H → rg G b1 13 (shX10 G.2.1) v1 H → va_S (FA (iv b1 13) s.heap.size) s.heap H locs → H.size = s.heap.size → lv_has ls 11 [(0, .ref b0), (1, .ref b1), (2, .int i2), (3, .int i3), (4, .int i4), (5, .int i5), (6, .long j6), (8, .int i8)] → W p l e (rmT 3 0 0 67) s m args below meth c H locs 0 0 (MQ below (QcT (FA (iv b1 13) s.heap.size) (fun ov H => ov = (some (.int rx)) ∧ rg G b1 13 (shX10 G.2.1) rw1 H ∧ H.size = s.heap.size)) args s 0 0 (FA (iv b1 13) s.heap.size)) (F0 m 41 ls [])) : ∀ (v1 : Mem) (i2 : Int32) (i3 : Int32) (i4 : Int32) (i5 : Int32) (j6 : Int64) (i8 : Int32), fX9_tells_41 V0 k11 k41 v1 i2 i3 i4 i5 j6 i8 = some (rx, rw1) → ∀ (H : Heap) (locs : List Loc) (ls : Array Slot), rg G b0 6 (shX9 G.2.1) V0 H → rg G b1 13 (shX10 G.2.1) v1 H → va_S (FA (iv b1 13) s.heap.size) s.heap H locs → H.size = s.heap.size → lv_has ls 11 [(0, .ref b0), (1, .ref b1), (2, .int i2), (3, .int i3), (4, .int i4), (5, .int i5), (6, .long j6), (8, .int i8)] → W p l e (rmT 3 0 0 67) s m args below meth c H locs 0 0 (MQ below (QcT (FA (iv b1 13) s.heap.size) (fun ov H => ov = (some (.int rx)) ∧ rg G b1 13 (shX10 G.2.1) rw1 H ∧ H.size = s.heap.size)) args s 0 0 (FA (iv b1 13) s.heap.size)) (F0 m 41 ls []) := by
  intro v1 i2 i3 i4 i5 j6 i8 hm H locs ls hW0 hW1 hS hz hl
  obtain ⟨hx, hb, hr, hlk, hml, hown, hts, hK⟩ := id C
  unfold fX9_tells_41 at hm
  refine lv_iload (pc := 41) hx hb dX9_tells_41 (lv_at hl 7 rfl) ?_
  refine lv_aload_n (pc := 43) hx hb dX9_tells_43 rfl (lv_at hl 1 rfl) ?_
  refine rk_getN (pc := 44) hx hb hts hown hK hW1 fnX9_172 0 (by decide) rfl rfl (x := .int (gI v1 0 14)) rfl dX9_tells_44 ?_
  refine lv_icmp_ge (pc := 47) (tgt := 132) hx hb dX9_tells_47 (by decide) (fun c7 => ?_) (fun c7 => ?_)
  · have hm := ite_t c7 hm
    refine lv_aload_n (pc := 132) hx hb dX9_tells_132 rfl (lv_at hl 1 rfl) ?_
    refine rk_getN (pc := 133) hx hb hts hown hK hW1 fnX9_250 0 (by decide) rfl rfl (x := .ref (b1 + 9)) (by first | rfl | exact congrArg (fun z => some (Value.ref z)) (by omega)) dX9_tells_133 ?_
    refine lv_iconst (pc := 136) (v := (5 : Int32)) hx hb dX9_tells_136 (by decide) ?_
    refine lv_iload_n (pc := 137) hx hb dX9_tells_137 rfl (lv_at hl 3 rfl) ?_
    refine lv_imul (pc := 138) hx hb dX9_tells_138 ?_
    refine lv_iload (pc := 139) hx hb dX9_tells_139 (lv_at hl 5 rfl) ?_
    refine lv_iadd (pc := 141) hx hb dX9_tells_141 ?_
    refine lv_lload (pc := 142) hx hb dX9_tells_142 (lv_at hl 6 rfl) ?_
    obtain ⟨hg8, hm⟩ := gb_some hm
    refine rk_last (pc := 144) hx hb hK hW1 hS 9 (by decide) rfl (Or.inl (show iv _ _ _ from ⟨by omega, by omega⟩)) (fun _ _ _ => rfl) hg8 dX9_tells_144 (fun H10 locs11 hW12 hS13 hz14 hkp15 => ?_)
    obtain ⟨v1_9, he9, hm⟩ := lm_some hm
    rw [he9] at hW12
    have hW16 := rg_keepq hW0 hkp15 (by omega)
    have hz17 := hz14.trans hz
    refine lv_iload (pc := 145) hx hb dX9_tells_145 (lv_at hl 4 rfl) ?_
    refine lv_lload (pc := 147) hx hb dX9_tells_147 (lv_at hl 6 rfl) ?_
    obtain ⟨r18, hq19, hm⟩ := ob_some hm
    refine rk_PS (pc := 149) (As := [.long j6]) (rest := [.int i4]) hx hb hml hown hts hK lkX9_225 yn_X9_isNear (ct_X9_isNear (G := G) (l := l) hq19) ⟨Nat.le_of_ble_eq_true rfl, Nat.le_of_ble_eq_true rfl⟩ trivial rfl rfl hl.1 (Nat.le_of_ble_eq_true rfl) dX9_tells_149 ⟨Nat.zero_le _, Nat.zero_le _⟩ ?_
    refine W.eq (g2 := F0 m 152 ls [.int r18, .int i4]) rfl ?_
    refine lv_iand (pc := 152) hx hb dX9_tells_152 ?_
    refine lv_istore (pc := 153) (lv' := [(4, .int (i4 &&& r18)), (0, .ref b0), (1, .ref b1), (2, .int i2), (3, .int i3), (5, .int i5), (6, .long j6), (8, .int i8)]) hx hb dX9_tells_153 hl (by decide) rfl (fun ls hl => ?_)
    refine lv_iinc (pc := 155) (v := (i5 + (1 : Int32))) (lv' := [(5, .int (i5 + (1 : Int32))), (4, .int (i4 &&& r18)), (0, .ref b0), (1, .ref b1), (2, .int i2), (3, .int i3), (6, .long j6), (8, .int i8)]) hx hb dX9_tells_155 hl (k := 5) rfl rfl (by decide) rfl (fun ls hl => ?_)
    refine lv_goto (pc := 158) (tgt := 11) hx hb dX9_tells_158 (by decide) ?_
    exact hk11 v1_9 i2 i3 (i4 &&& r18) (i5 + (1 : Int32)) hm H10 locs11 ls hW16 hW12 hS13 hz17 (lv_sub hl [2, 3, 4, 5, 1, 0] rfl)
  · have hm := ite_f c7 hm
    refine lv_aload_n (pc := 50) hx hb dX9_tells_50 rfl (lv_at hl 1 rfl) ?_
    refine rk_getN (pc := 51) hx hb hts hown hK hW1 fnX9_175 0 (by decide) rfl rfl (x := .ref (b1 + 1)) (by first | rfl | exact congrArg (fun z => some (Value.ref z)) (by omega)) dX9_tells_51 ?_
    refine lv_iconst (pc := 54) (v := (5 : Int32)) hx hb dX9_tells_54 (by decide) ?_
    refine lv_iload_n (pc := 55) hx hb dX9_tells_55 rfl (lv_at hl 2 rfl) ?_
    refine lv_imul (pc := 56) hx hb dX9_tells_56 ?_
    refine lv_iload (pc := 57) hx hb dX9_tells_57 (lv_at hl 7 rfl) ?_
    refine lv_iadd (pc := 59) hx hb dX9_tells_59 ?_
    obtain ⟨hg20, hm⟩ := gb_some hm
    refine rk_lald (pc := 60) hx hb hK hW1 1 (by decide) rfl rfl hg20 (x := (gL v1 1 (((5 : Int32) * i2) + i8).toNatClampNeg)) rfl dX9_tells_60 ?_
    refine lv_aload_n (pc := 61) hx hb dX9_tells_61 rfl (lv_at hl 1 rfl) ?_
    refine rk_getN (pc := 62) hx hb hts hown hK hW1 fnX9_197 0 (by decide) rfl rfl (x := .long (gL v1 0 13)) rfl dX9_tells_62 ?_
    obtain ⟨r21, hq22, hm⟩ := ob_some hm
    refine rk_PS (pc := 65) (As := [.long (gL v1 1 (((5 : Int32) * i2) + i8).toNatClampNeg), .long (gL v1 0 13)]) (rest := []) hx hb hml hown hts hK lkX9_256 yn_J7_floorDiv (ct_J7_floorDiv (G := G) (l := l) hq22) ⟨Nat.le_of_ble_eq_true rfl, Nat.le_of_ble_eq_true rfl⟩ trivial rfl rfl hl.1 (Nat.le_of_ble_eq_true rfl) dX9_tells_65 ⟨Nat.zero_le _, Nat.zero_le _⟩ ?_
    refine W.eq (g2 := F0 m 68 ls [.long r21]) rfl ?_
    refine lv_lstore (pc := 68) (lv' := [(9, .long r21), (0, .ref b0), (1, .ref b1), (2, .int i2), (3, .int i3), (4, .int i4), (5, .int i5), (6, .long j6), (8, .int i8)]) hx hb dX9_tells_68 hl (by decide) rfl (fun ls hl => ?_)
    refine lv_lload (pc := 70) hx hb dX9_tells_70 (lv_at hl 7 rfl) ?_
    refine lv_aload_n (pc := 72) hx hb dX9_tells_72 rfl (lv_at hl 2 rfl) ?_
    refine rk_getN (pc := 73) hx hb hts hown hK hW1 fnX9_206 0 (by decide) rfl rfl (x := .ref (b1 + 8)) (by first | rfl | exact congrArg (fun z => some (Value.ref z)) (by omega)) dX9_tells_73 ?_
    refine lv_iload (pc := 76) hx hb dX9_tells_76 (lv_at hl 8 rfl) ?_
    obtain ⟨hg23, hm⟩ := gb_some hm
    refine rk_iald (pc := 78) hx hb hK hW1 8 (by decide) rfl rfl hg23 (x := (gI v1 8 i8.toNatClampNeg)) rfl dX9_tells_78 ?_
    refine lv_bipush (pc := 79) (v := (10 : Int32)) hx hb dX9_tells_79 (by decide) ?_
    refine lv_icmp_ge (pc := 81) (tgt := 105) hx hb dX9_tells_81 (by decide) (fun c24 => ?_) (fun c24 => ?_)
    · have hm := ite_t c24 hm
      refine lv_lload (pc := 105) hx hb dX9_tells_105 (lv_at hl 0 rfl) ?_
      refine lv_lneg (pc := 107) hx hb dX9_tells_107 ?_
      refine lv_aload_n (pc := 108) hx hb dX9_tells_108 rfl (lv_at hl 1 rfl) ?_
      refine lv_aload_n (pc := 109) hx hb dX9_tells_109 rfl (lv_at hl 2 rfl) ?_
      refine lv_aload_n (pc := 110) hx hb dX9_tells_110 rfl (lv_at hl 2 rfl) ?_
      refine rk_getN (pc := 111) hx hb hts hown hK hW1 fnX9_206 0 (by decide) rfl rfl (x := .ref (b1 + 8)) (by first | rfl | exact congrArg (fun z => some (Value.ref z)) (by omega)) dX9_tells_111 ?_
      refine lv_iload (pc := 114) hx hb dX9_tells_114 (lv_at hl 8 rfl) ?_
      obtain ⟨hg25, hm⟩ := gb_some hm
      refine rk_iald (pc := 116) hx hb hK hW1 8 (by decide) rfl rfl hg25 (x := (gI v1 8 i8.toNatClampNeg)) rfl dX9_tells_116 ?_
      refine lv_iload (pc := 117) hx hb dX9_tells_117 (lv_at hl 6 rfl) ?_
      obtain ⟨r26, hq27, hm⟩ := ob_some hm
      refine rk_PV (pc := 119) (As := [.ref b1, .int (gI v1 8 i8.toNatClampNeg), .int i5]) (rest := [.long (-r21), .long j6]) hx hb hml hown hts hK lkX9_262 rfl yn_X9_leftPoint (ct_X9_leftPoint (G := G) (l := l) (b0 := b0) (b1 := b1) hq27) ⟨Nat.le_of_ble_eq_true rfl, Nat.le_of_ble_eq_true rfl⟩ (rk_recv hK hW0 0 (by decide) rfl rfl rfl) ⟨hW0, hW1⟩ rfl rfl hl.1 (Nat.le_of_ble_eq_true rfl) dX9_tells_119 ⟨Nat.zero_le _, Nat.zero_le _⟩ ?_
      refine W.eq (g2 := F0 m 122 ls [.long r26, .long (-r21), .long j6]) rfl ?_
      refine lv_lmul (pc := 122) hx hb dX9_tells_122 ?_
      refine lv_ladd (pc := 123) hx hb dX9_tells_123 ?_
      refine lv_lstore (pc := 124) (lv' := [(6, .long (j6 + ((-r21) * r26))), (9, .long r21), (0, .ref b0), (1, .ref b1), (2, .int i2), (3, .int i3), (4, .int i4), (5, .int i5), (8, .int i8)]) hx hb dX9_tells_124 hl (by decide) rfl (fun ls hl => ?_)
      refine lv_iinc (pc := 126) (v := (i8 + (1 : Int32))) (lv' := [(8, .int (i8 + (1 : Int32))), (6, .long (j6 + ((-r21) * r26))), (9, .long r21), (0, .ref b0), (1, .ref b1), (2, .int i2), (3, .int i3), (4, .int i4), (5, .int i5)]) hx hb dX9_tells_126 hl (k := 8) rfl rfl (by decide) rfl (fun ls hl => ?_)
      refine lv_goto (pc := 129) (tgt := 41) hx hb dX9_tells_129 (by decide) ?_
      exact hk41 v1 i2 i3 i4 i5 (j6 + ((-r21) * r26)) (i8 + (1 : Int32)) hm H locs ls hW0 hW1 hS hz (lv_sub hl [3, 4, 5, 6, 7, 8, 1, 0] rfl)
    · have hm := ite_f c24 hm
      refine lv_aload_n (pc := 84) hx hb dX9_tells_84 rfl (lv_at hl 2 rfl) ?_
      refine rk_getN (pc := 85) hx hb hts hown hK hW1 fnX9_206 0 (by decide) rfl rfl (x := .ref (b1 + 8)) (by first | rfl | exact congrArg (fun z => some (Value.ref z)) (by omega)) dX9_tells_85 ?_
      refine lv_iload (pc := 88) hx hb dX9_tells_88 (lv_at hl 8 rfl) ?_
      obtain ⟨hg28, hm⟩ := gb_some hm
      refine rk_iald (pc := 90) hx hb hK hW1 8 (by decide) rfl rfl hg28 (x := (gI v1 8 i8.toNatClampNeg)) rfl dX9_tells_90 ?_
      refine lv_iload (pc := 91) hx hb dX9_tells_91 (lv_at hl 6 rfl) ?_
      refine lv_icmp_ne (pc := 93) (tgt := 101) hx hb dX9_tells_93 (by decide) (fun c29 => ?_) (fun c29 => ?_)
      · have hm := ite_f c29 hm
        refine lv_lconst (pc := 101) (v := (0 : Int64)) hx hb dX9_tells_101 (by decide) ?_
        refine lv_goto (pc := 102) (tgt := 123) hx hb dX9_tells_102 (by decide) ?_
        refine lv_ladd (pc := 123) hx hb dX9_tells_123 ?_
        refine lv_lstore (pc := 124) (lv' := [(6, .long (j6 + (0 : Int64))), (9, .long r21), (0, .ref b0), (1, .ref b1), (2, .int i2), (3, .int i3), (4, .int i4), (5, .int i5), (8, .int i8)]) hx hb dX9_tells_124 hl (by decide) rfl (fun ls hl => ?_)
        refine lv_iinc (pc := 126) (v := (i8 + (1 : Int32))) (lv' := [(8, .int (i8 + (1 : Int32))), (6, .long (j6 + (0 : Int64))), (9, .long r21), (0, .ref b0), (1, .ref b1), (2, .int i2), (3, .int i3), (4, .int i4), (5, .int i5)]) hx hb dX9_tells_126 hl (k := 8) rfl rfl (by decide) rfl (fun ls hl => ?_)
        refine lv_goto (pc := 129) (tgt := 41) hx hb dX9_tells_129 (by decide) ?_
        exact hk41 v1 i2 i3 i4 i5 (j6 + (0 : Int64)) (i8 + (1 : Int32)) hm H locs ls hW0 hW1 hS hz (lv_sub hl [3, 4, 5, 6, 7, 8, 1, 0] rfl)
      · have hm := ite_t c29 hm
        refine lv_lload (pc := 96) hx hb dX9_tells_96 (lv_at hl 0 rfl) ?_
        refine lv_goto (pc := 98) (tgt := 123) hx hb dX9_tells_98 (by decide) ?_
        refine lv_ladd (pc := 123) hx hb dX9_tells_123 ?_
        refine lv_lstore (pc := 124) (lv' := [(6, .long (j6 + r21)), (9, .long r21), (0, .ref b0), (1, .ref b1), (2, .int i2), (3, .int i3), (4, .int i4), (5, .int i5), (8, .int i8)]) hx hb dX9_tells_124 hl (by decide) rfl (fun ls hl => ?_)
        refine lv_iinc (pc := 126) (v := (i8 + (1 : Int32))) (lv' := [(8, .int (i8 + (1 : Int32))), (6, .long (j6 + r21)), (9, .long r21), (0, .ref b0), (1, .ref b1), (2, .int i2), (3, .int i3), (4, .int i4), (5, .int i5)]) hx hb dX9_tells_126 hl (k := 8) rfl rfl (by decide) rfl (fun ls hl => ?_)
        refine lv_goto (pc := 129) (tgt := 41) hx hb dX9_tells_129 (by decide) ?_
        exact hk41 v1 i2 i3 i4 i5 (j6 + r21) (i8 + (1 : Int32)) hm H locs ls hW0 hW1 hS hz (lv_sub hl [3, 4, 5, 6, 7, 8, 1, 0] rfl)
theorem w_fX9_tells_41_l (C : Cx G p s m args meth c RX9 cX9_tells 11 (some .boolean)) {b0 : Nat} {b1 : Nat} {V0 : Mem} {rx : Int32} {rw1 : Mem} (hd01 : b0 + 6 ≤ b1 ∨ b1 + 13 ≤ b0) {k11 : Mem → Int32 → Int32 → Int32 → Int32 → Option (Int32 × Mem)} (hk11 : ∀ (v1 : Mem) (i2 : Int32) (i3 : Int32) (i4 : Int32) (i5 : Int32), k11 v1 i2 i3 i4 i5 = some (rx, rw1) → ∀ (H : Heap) (locs : List Loc) (ls : Array Slot), rg G b0 6 (shX9 G.2.1) V0 H → rg G b1 13 (shX10 G.2.1) v1 H → va_S (FA (iv b1 13) s.heap.size) s.heap H locs → H.size = s.heap.size → lv_has ls 11 [(0, .ref b0), (1, .ref b1), (2, .int i2), (3, .int i3), (4, .int i4), (5, .int i5)] → W p l e (rmT 3 0 0 67) s m args below meth c H locs 0 0 (MQ below (QcT (FA (iv b1 13) s.heap.size) (fun ov H => ov = (some (.int rx)) ∧ rg G b1 13 (shX10 G.2.1) rw1 H ∧ H.size = s.heap.size)) args s 0 0 (FA (iv b1 13) s.heap.size)) (F0 m 11 ls [])) : ∀ (n : Nat) (v1 : Mem) (i2 : Int32) (i3 : Int32) (i4 : Int32) (i5 : Int32) (j6 : Int64) (i8 : Int32), lq7 (fX9_tells_41 V0 k11) n v1 i2 i3 i4 i5 j6 i8 = some (rx, rw1) → ∀ (H : Heap) (locs : List Loc) (ls : Array Slot), rg G b0 6 (shX9 G.2.1) V0 H → rg G b1 13 (shX10 G.2.1) v1 H → va_S (FA (iv b1 13) s.heap.size) s.heap H locs → H.size = s.heap.size → lv_has ls 11 [(0, .ref b0), (1, .ref b1), (2, .int i2), (3, .int i3), (4, .int i4), (5, .int i5), (6, .long j6), (8, .int i8)] → W p l e (rmT 3 0 0 67) s m args below meth c H locs 0 0 (MQ below (QcT (FA (iv b1 13) s.heap.size) (fun ov H => ov = (some (.int rx)) ∧ rg G b1 13 (shX10 G.2.1) rw1 H ∧ H.size = s.heap.size)) args s 0 0 (FA (iv b1 13) s.heap.size)) (F0 m 41 ls []) := by
  intro n
  induction n with
  | zero => intro v1 i2 i3 i4 i5 j6 i8 hm; exact (lq7_0 hm).elim
  | succ n ih => intro v1 i2 i3 i4 i5 j6 i8 hm; exact w_fX9_tells_41 C hd01 hk11 ih v1 i2 i3 i4 i5 j6 i8 (lq7_s hm)
set_option maxHeartbeats 4000000 in
theorem w_fX9_tells_11 (C : Cx G p s m args meth c RX9 cX9_tells 11 (some .boolean)) {b0 : Nat} {b1 : Nat} {V0 : Mem} {rx : Int32} {rw1 : Mem} (hd01 : b0 + 6 ≤ b1 ∨ b1 + 13 ≤ b0) {k11 : Mem → Int32 → Int32 → Int32 → Int32 → Option (Int32 × Mem)} (hk11 : ∀ (v1 : Mem) (i2 : Int32) (i3 : Int32) (i4 : Int32) (i5 : Int32), k11 v1 i2 i3 i4 i5 = some (rx, rw1) → ∀ (H : Heap) (locs : List Loc) (ls : Array Slot), rg G b0 6 (shX9 G.2.1) V0 H → rg G b1 13 (shX10 G.2.1) v1 H → va_S (FA (iv b1 13) s.heap.size) s.heap H locs → H.size = s.heap.size → lv_has ls 11 [(0, .ref b0), (1, .ref b1), (2, .int i2), (3, .int i3), (4, .int i4), (5, .int i5)] → W p l e (rmT 3 0 0 67) s m args below meth c H locs 0 0 (MQ below (QcT (FA (iv b1 13) s.heap.size) (fun ov H => ov = (some (.int rx)) ∧ rg G b1 13 (shX10 G.2.1) rw1 H ∧ H.size = s.heap.size)) args s 0 0 (FA (iv b1 13) s.heap.size)) (F0 m 11 ls [])) : ∀ (v1 : Mem) (i2 : Int32) (i3 : Int32) (i4 : Int32) (i5 : Int32), fX9_tells_11 V0 k11 v1 i2 i3 i4 i5 = some (rx, rw1) → ∀ (H : Heap) (locs : List Loc) (ls : Array Slot), rg G b0 6 (shX9 G.2.1) V0 H → rg G b1 13 (shX10 G.2.1) v1 H → va_S (FA (iv b1 13) s.heap.size) s.heap H locs → H.size = s.heap.size → lv_has ls 11 [(0, .ref b0), (1, .ref b1), (2, .int i2), (3, .int i3), (4, .int i4), (5, .int i5)] → W p l e (rmT 3 0 0 67) s m args below meth c H locs 0 0 (MQ below (QcT (FA (iv b1 13) s.heap.size) (fun ov H => ov = (some (.int rx)) ∧ rg G b1 13 (shX10 G.2.1) rw1 H ∧ H.size = s.heap.size)) args s 0 0 (FA (iv b1 13) s.heap.size)) (F0 m 11 ls []) := by
  intro v1 i2 i3 i4 i5 hm H locs ls hW0 hW1 hS hz hl
  obtain ⟨hx, hb, hr, hlk, hml, hown, hts, hK⟩ := id C
  unfold fX9_tells_11 at hm
  refine lv_iload (pc := 11) hx hb dX9_tells_11 (lv_at hl 5 rfl) ?_
  refine lv_aload_n (pc := 13) hx hb dX9_tells_13 rfl (lv_at hl 1 rfl) ?_
  refine rk_getN (pc := 14) hx hb hts hown hK hW1 fnX9_172 0 (by decide) rfl rfl (x := .int (gI v1 0 14)) rfl dX9_tells_14 ?_
  refine lv_icmp_ge (pc := 17) (tgt := 161) hx hb dX9_tells_17 (by decide) (fun c1 => ?_) (fun c1 => ?_)
  · have hm := ite_t c1 hm
    refine lv_aload_n (pc := 161) hx hb dX9_tells_161 rfl (lv_at hl 1 rfl) ?_
    refine rk_getN (pc := 162) hx hb hts hown hK hW1 fnX9_184 0 (by decide) rfl rfl (x := .ref (b1 + 2)) (by first | rfl | exact congrArg (fun z => some (Value.ref z)) (by omega)) dX9_tells_162 ?_
    refine lv_iload_n (pc := 165) hx hb dX9_tells_165 rfl (lv_at hl 2 rfl) ?_
    obtain ⟨hg2, hm⟩ := gb_some hm
    refine rk_lald (pc := 166) hx hb hK hW1 2 (by decide) rfl rfl hg2 (x := (gL v1 2 i2.toNatClampNeg)) rfl dX9_tells_166 ?_
    refine lv_aload_n (pc := 167) hx hb dX9_tells_167 rfl (lv_at hl 1 rfl) ?_
    refine rk_getN (pc := 168) hx hb hts hown hK hW1 fnX9_197 0 (by decide) rfl rfl (x := .long (gL v1 0 13)) rfl dX9_tells_168 ?_
    obtain ⟨r3, hq4, hm⟩ := ob_some hm
    refine rk_PS (pc := 171) (As := [.long (gL v1 2 i2.toNatClampNeg), .long (gL v1 0 13)]) (rest := []) hx hb hml hown hts hK lkX9_256 yn_J7_floorDiv (ct_J7_floorDiv (G := G) (l := l) hq4) ⟨Nat.le_of_ble_eq_true rfl, Nat.le_of_ble_eq_true rfl⟩ trivial rfl rfl hl.1 (Nat.le_of_ble_eq_true rfl) dX9_tells_171 ⟨Nat.zero_le _, Nat.zero_le _⟩ ?_
    refine W.eq (g2 := F0 m 174 ls [.long r3]) rfl ?_
    refine lv_lstore (pc := 174) (lv' := [(5, .long r3), (0, .ref b0), (1, .ref b1), (2, .int i2), (3, .int i3), (4, .int i4)]) hx hb dX9_tells_174 hl (by decide) rfl (fun ls hl => ?_)
    refine lv_iconst (pc := 176) (v := (0 : Int32)) hx hb dX9_tells_176 (by decide) ?_
    refine lv_istore (pc := 177) (lv' := [(7, .int (0 : Int32)), (5, .long r3), (0, .ref b0), (1, .ref b1), (2, .int i2), (3, .int i3), (4, .int i4)]) hx hb dX9_tells_177 hl (by decide) rfl (fun ls hl => ?_)
    exact (w_fX9_tells_179_l C hd01 FU) v1 i2 i3 i4 r3 (0 : Int32) hm H locs ls hW0 hW1 hS hz (lv_sub hl [2, 3, 4, 5, 6, 1, 0] rfl)
  · have hm := ite_f c1 hm
    refine lv_aload_n (pc := 20) hx hb dX9_tells_20 rfl (lv_at hl 1 rfl) ?_
    refine rk_getN (pc := 21) hx hb hts hown hK hW1 fnX9_181 0 (by decide) rfl rfl (x := .ref (b1 + 7)) (by first | rfl | exact congrArg (fun z => some (Value.ref z)) (by omega)) dX9_tells_21 ?_
    refine lv_iload_n (pc := 24) hx hb dX9_tells_24 rfl (lv_at hl 2 rfl) ?_
    obtain ⟨hg5, hm⟩ := gb_some hm
    refine rk_iald (pc := 25) hx hb hK hW1 7 (by decide) rfl rfl hg5 (x := (gI v1 7 i2.toNatClampNeg)) rfl dX9_tells_25 ?_
    refine lv_iload (pc := 26) hx hb dX9_tells_26 (lv_at hl 5 rfl) ?_
    refine lv_icmp_ne (pc := 28) (tgt := 35) hx hb dX9_tells_28 (by decide) (fun c6 => ?_) (fun c6 => ?_)
    · have hm := ite_f c6 hm
      refine lv_lconst (pc := 35) (v := (0 : Int64)) hx hb dX9_tells_35 (by decide) ?_
      refine lv_lstore (pc := 36) (lv' := [(6, .long (0 : Int64)), (0, .ref b0), (1, .ref b1), (2, .int i2), (3, .int i3), (4, .int i4), (5, .int i5)]) hx hb dX9_tells_36 hl (by decide) rfl (fun ls hl => ?_)
      refine lv_iconst (pc := 38) (v := (0 : Int32)) hx hb dX9_tells_38 (by decide) ?_
      refine lv_istore (pc := 39) (lv' := [(8, .int (0 : Int32)), (6, .long (0 : Int64)), (0, .ref b0), (1, .ref b1), (2, .int i2), (3, .int i3), (4, .int i4), (5, .int i5)]) hx hb dX9_tells_39 hl (by decide) rfl (fun ls hl => ?_)
      exact (w_fX9_tells_41_l C hd01 hk11 FU) v1 i2 i3 i4 i5 (0 : Int64) (0 : Int32) hm H locs ls hW0 hW1 hS hz (lv_sub hl [2, 3, 4, 5, 6, 7, 1, 0] rfl)
    · have hm := ite_t c6 hm
      refine lv_lconst (pc := 31) (v := (1 : Int64)) hx hb dX9_tells_31 (by decide) ?_
      refine lv_goto (pc := 32) (tgt := 36) hx hb dX9_tells_32 (by decide) ?_
      refine lv_lstore (pc := 36) (lv' := [(6, .long (1 : Int64)), (0, .ref b0), (1, .ref b1), (2, .int i2), (3, .int i3), (4, .int i4), (5, .int i5)]) hx hb dX9_tells_36 hl (by decide) rfl (fun ls hl => ?_)
      refine lv_iconst (pc := 38) (v := (0 : Int32)) hx hb dX9_tells_38 (by decide) ?_
      refine lv_istore (pc := 39) (lv' := [(8, .int (0 : Int32)), (6, .long (1 : Int64)), (0, .ref b0), (1, .ref b1), (2, .int i2), (3, .int i3), (4, .int i4), (5, .int i5)]) hx hb dX9_tells_39 hl (by decide) rfl (fun ls hl => ?_)
      exact (w_fX9_tells_41_l C hd01 hk11 FU) v1 i2 i3 i4 i5 (1 : Int64) (0 : Int32) hm H locs ls hW0 hW1 hS hz (lv_sub hl [2, 3, 4, 5, 6, 7, 1, 0] rfl)
theorem w_fX9_tells_11_l (C : Cx G p s m args meth c RX9 cX9_tells 11 (some .boolean)) {b0 : Nat} {b1 : Nat} {V0 : Mem} {rx : Int32} {rw1 : Mem} (hd01 : b0 + 6 ≤ b1 ∨ b1 + 13 ≤ b0) : ∀ (n : Nat) (v1 : Mem) (i2 : Int32) (i3 : Int32) (i4 : Int32) (i5 : Int32), lq5 (fX9_tells_11 V0) n v1 i2 i3 i4 i5 = some (rx, rw1) → ∀ (H : Heap) (locs : List Loc) (ls : Array Slot), rg G b0 6 (shX9 G.2.1) V0 H → rg G b1 13 (shX10 G.2.1) v1 H → va_S (FA (iv b1 13) s.heap.size) s.heap H locs → H.size = s.heap.size → lv_has ls 11 [(0, .ref b0), (1, .ref b1), (2, .int i2), (3, .int i3), (4, .int i4), (5, .int i5)] → W p l e (rmT 3 0 0 67) s m args below meth c H locs 0 0 (MQ below (QcT (FA (iv b1 13) s.heap.size) (fun ov H => ov = (some (.int rx)) ∧ rg G b1 13 (shX10 G.2.1) rw1 H ∧ H.size = s.heap.size)) args s 0 0 (FA (iv b1 13) s.heap.size)) (F0 m 11 ls []) := by
  intro n
  induction n with
  | zero => intro v1 i2 i3 i4 i5 hm; exact (lq5_0 hm).elim
  | succ n ih => intro v1 i2 i3 i4 i5 hm; exact w_fX9_tells_11 C hd01 ih v1 i2 i3 i4 i5 (lq5_s hm)
set_option maxHeartbeats 4000000 in
theorem w_fX9_tells (C : Cx G p s m args meth c RX9 cX9_tells 11 (some .boolean)) {b0 : Nat} {b1 : Nat} {V0 : Mem} {rx : Int32} {rw1 : Mem} (hd01 : b0 + 6 ≤ b1 ∨ b1 + 13 ≤ b0) : ∀ (v1 : Mem) (i2 : Int32), fX9_tells V0 v1 i2 = some (rx, rw1) → ∀ (H : Heap) (locs : List Loc) (ls : Array Slot), rg G b0 6 (shX9 G.2.1) V0 H → rg G b1 13 (shX10 G.2.1) v1 H → va_S (FA (iv b1 13) s.heap.size) s.heap H locs → H.size = s.heap.size → lv_has ls 11 [(0, .ref b0), (1, .ref b1), (2, .int i2)] → W p l e (rmT 3 0 0 67) s m args below meth c H locs 0 0 (MQ below (QcT (FA (iv b1 13) s.heap.size) (fun ov H => ov = (some (.int rx)) ∧ rg G b1 13 (shX10 G.2.1) rw1 H ∧ H.size = s.heap.size)) args s 0 0 (FA (iv b1 13) s.heap.size)) (F0 m 0 ls []) := by
  intro v1 i2 hm H locs ls hW0 hW1 hS hz hl
  obtain ⟨hx, hb, hr, hlk, hml, hown, hts, hK⟩ := id C
  unfold fX9_tells at hm
  refine lv_aload_n (pc := 0) hx hb dX9_tells_0 rfl (lv_at hl 1 rfl) ?_
  refine rk_getN (pc := 1) hx hb hts hown hK hW1 fnX9_187 0 (by decide) rfl rfl (x := .int (gI v1 0 16)) rfl dX9_tells_1 ?_
  refine lv_istore_n (pc := 4) (lv' := [(3, .int (gI v1 0 16)), (0, .ref b0), (1, .ref b1), (2, .int i2)]) hx hb dX9_tells_4 rfl hl (by decide) rfl (fun ls hl => ?_)
  refine lv_iconst (pc := 5) (v := (1 : Int32)) hx hb dX9_tells_5 (by decide) ?_
  refine lv_istore (pc := 6) (lv' := [(4, .int (1 : Int32)), (3, .int (gI v1 0 16)), (0, .ref b0), (1, .ref b1), (2, .int i2)]) hx hb dX9_tells_6 hl (by decide) rfl (fun ls hl => ?_)
  refine lv_iconst (pc := 8) (v := (0 : Int32)) hx hb dX9_tells_8 (by decide) ?_
  refine lv_istore (pc := 9) (lv' := [(5, .int (0 : Int32)), (4, .int (1 : Int32)), (3, .int (gI v1 0 16)), (0, .ref b0), (1, .ref b1), (2, .int i2)]) hx hb dX9_tells_9 hl (by decide) rfl (fun ls hl => ?_)
  exact (w_fX9_tells_11_l C hd01 FU) v1 i2 (gI v1 0 16) (1 : Int32) (0 : Int32) hm H locs ls hW0 hW1 hS hz (lv_sub hl [3, 4, 5, 2, 1, 0] rfl)
set_option maxHeartbeats 4000000 in
theorem ct_X9_tells {G : Gv} {l : Launch} {b0 : Nat} {b1 : Nat} {V0 : Mem} {v1 : Mem} {i2 : Int32} {rx : Int32} {rw1 : Mem} {sz : Nat} (hm : fX9_tells V0 v1 i2 = some (rx, rw1)) (hd01 : b0 + 6 ≤ b1 ∨ b1 + 13 ≤ b0) : CT G l yX9_tells (ws_ yX9_tells cX9_tells 11 (some .boolean)) 3 0 0 67 [.ref b0, .ref b1, .int i2] (iv b1 13) sz (fun H => rg G b0 6 (shX9 G.2.1) V0 H ∧ rg G b1 13 (shX10 G.2.1) v1 H) (fun ov H => ov = (some (.int rx)) ∧ rg G b1 13 (shX10 G.2.1) rw1 H ∧ H.size = sz) := by
  refine Met.ofW (cc := cX9_tells) (maxL := 11) (ret := (some .boolean)) (by decide +kernel) rfl ?_
  intro p e s m args below meth c s₁ B hml hv
  obtain ⟨rfl, ⟨hz, hW0, hW1⟩, hK⟩ := hv
  subst hz
  have hts := atoms_spec (ws := ws_ yX9_tells cX9_tells 11 (some .boolean)) B.pre
  have hts : ∀ w ∈ lw_all, w.before _ s = true := fun w h => hts w (List.mem_cons_of_mem _ h)
  have C : Cx G p s m _ meth c RX9 cX9_tells 11 (some .boolean) := ⟨B.exec, B.bytes, B.returns, B.notSynchronized, hml, findClass_of_methodNamed B.named, hts, hK⟩
  have hl := lv_entry ([.ref b0, .ref b1, .int i2]) (n := 11) (Nat.le_of_ble_eq_true rfl)
  rw [lg_entry_eq]
  generalize (lg_sl ([.ref b0, .ref b1, .int i2]) ++ List.replicate (11 - (lg_sl ([.ref b0, .ref b1, .int i2])).length) Slot.unset).toArray = ls at hl ⊢
  have hl : lv_has ls 11 [(0, .ref b0), (1, .ref b1), (2, .int i2)] := hl
  exact w_fX9_tells C hd01 _ _ hm s.heap [] ls hW0 hW1 va_S.rf rfl hl
end
