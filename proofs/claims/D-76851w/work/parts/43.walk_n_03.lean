set_option maxRecDepth 100000
section
variable {p : Program} {l : Launch} {e : Env} {s : State} {m : MethodId} {args : Array Value} {below : List Frame} {meth : Method} {c : Code} {G : Gv}
theorem rdr0 {G : Gv} {h b : Nat} {H : Heap} (hW : rg G h 10 (shX11 b G.2.1) (vc_X11 h b) H) : rg G h 10 (shX11 b G.2.1) mz H := by
  intro o ho e he
  refine hW o ho e ?_
  have h1 : (vc_X11 h b).1 o = mz.1 o ∧ (vc_X11 h b).2.1 o = mz.2.1 o := by
    match o, ho with
    | 0, _ => exact ⟨rfl, rfl⟩
    | 1, _ => exact ⟨rfl, rfl⟩
    | 2, _ => exact ⟨rfl, rfl⟩
    | 3, _ => exact ⟨rfl, rfl⟩
    | 4, _ => exact ⟨rfl, rfl⟩
    | 5, _ => exact ⟨rfl, rfl⟩
    | 6, _ => exact ⟨rfl, rfl⟩
    | 7, _ => exact ⟨rfl, rfl⟩
    | 8, _ => exact ⟨rfl, rfl⟩
    | 9, _ => exact ⟨rfl, rfl⟩
    | n + 10, h => exact absurd h (by omega)
  rw [h1.1, h1.2]
  exact he
theorem lkX0_194 : LI RX0 194 yX11_init cX11_init 3 := ⟨q637, q638, q130, q639, rfl⟩
theorem yn_X11_init : YN yX11_init 1 := by
  unfold YN
  decide +kernel
theorem yn_X11_reads : YN yX11_reads 0 := by
  unfold YN
  decide +kernel
theorem lkX0_197 : LV RX0 197 RX11 yX11_reads cX11_reads 1 none := ⟨q658, q659, q660, q130, q661⟩
theorem fnX0_200 : FN RX0 200 11 1 RX11 TX11 4 "WholePacks" := ⟨in_X11, rfl, by decide, q646⟩
theorem fnX0_212 : FN RX0 212 12 6 RX12 TX12 7 "WholePacks" := ⟨in_X12, rfl, by decide, q734⟩
theorem fnX0_203 : FN RX0 203 11 0 RX11 TX11 4 "WholePacks" := ⟨in_X11, rfl, by decide, q644⟩
theorem lkX0_206 : LV RX0 206 RX2 yX2_like cX2_like 2 none := ⟨q756, q757, q758, q116, q759⟩
noncomputable def fX0_read_42 (k42 : Mem → Mem → Nat → Int32 → Option (Int32 × Nat × Mem × Mem)) (v0 : Mem) (v1 : Mem) (zc : Nat) (i2 : Int32) : Option (Int32 × Nat × Mem × Mem) :=
  if (gI v1 0 1) ≤ i2 then (
  ob2 (fX0_told v0 (gI v1 0 1)) fun r53 w54 =>
  lm (sI w54 0 12 (0 : Int32)) fun v0_66 =>
  some (r53, zc, v0_66, v1))
  else (
  gb (inR (gI v0 1 1) 8) (
  gb (inR i2 4) (
  ob (fX2_like (shf v1 (2 + 2 * i2.toNatClampNeg)) (shf v0 (7 + 2 * (gI v0 1 1).toNatClampNeg))) fun w80 =>
  lm (ptm v0 (7 + 2 * (gI v0 1 1).toNatClampNeg) 2 w80) fun v0_91 =>
  lm (sI v0_91 1 1 ((gI v0_91 1 1) + (1 : Int32))) fun v0_94 =>
  k42 v0_94 v1 zc (i2 + (1 : Int32)))))
noncomputable def fX0_read (v0 : Mem) : Option (Int32 × Nat × Mem × Mem) :=
  ob4 (fX11_reads v0 mz) fun ok3 re4 rc1 w2 =>
  if ok3 = true then (
  if ((gI v0 1 1) + (gI w2 0 1)) ≤ (8 : Int32) then (
  lq4 (fX0_read_42) FU v0 w2 (10 + rc1) (0 : Int32))
  else (
  lm (sI v0 0 12 (0 : Int32)) fun v0_17 =>
  some ((-4 : Int32), (10 + rc1), v0_17, w2)))
  else (
  lm (sI v0 0 12 (0 : Int32)) fun v0_41 =>
  some (((-10 : Int32) - re4), (10 + rc1), v0_41, w2))
set_option maxHeartbeats 4000000 in
theorem w_fX0_read_42 (C : Cx G p s m args meth c RX0 cX0_read 5 (some .int)) {b0 : Nat} {b1 : Nat} {rx : Int32} {rc : Nat} {rw0 : Mem} {rw1 : Mem} (hd01 : b0 + 357 ≤ b1 ∨ b1 + 10 ≤ b0) (he0 : b0 + 357 ≤ s.heap.size) (hfr1 : s.heap.size ≤ b1) (hZ : ZQ G) (hgb0 : gB G ≤ b0) (ht : c.exceptionTable.toList = tableOf [(9, 33, 109, 210), (40, 102, 109, 210), (9, 33, 125, 0), (40, 102, 125, 0), (109, 118, 125, 0), (125, 127, 125, 0)]) {k42 : Mem → Mem → Nat → Int32 → Option (Int32 × Nat × Mem × Mem)} (hk42 : ∀ (v0 : Mem) (v1 : Mem) (zc : Nat) (i2 : Int32), k42 v0 v1 zc i2 = some (rx, rc, rw0, rw1) → ∀ (H : Heap) (locs : List Loc) (ls : Array Slot), rg G b0 357 (shX0 G.2.1) v0 H → rg G b1 10 (shX11 b0 G.2.1) v1 H → va_S (FA (fX b0) s.heap.size) s.heap H locs → H.size = s.heap.size + zc → GO G H → lv_has ls 5 [(0, .ref b0), (1, .ref b1), (2, .int i2)] → W p l e (rmT 7 11 47 146) s m args below meth c H locs 10 40 (MQ below (QcT (FA (fX b0) s.heap.size) (fun ov H => ov = (some (.int rx)) ∧ rg G b0 357 (shX0 G.2.1) rw0 H ∧ H.size = s.heap.size + rc)) args s 11 47 (FA (fX b0) s.heap.size)) (F0 m 42 ls [])) : ∀ (v0 : Mem) (v1 : Mem) (zc : Nat) (i2 : Int32), fX0_read_42 k42 v0 v1 zc i2 = some (rx, rc, rw0, rw1) → ∀ (H : Heap) (locs : List Loc) (ls : Array Slot), rg G b0 357 (shX0 G.2.1) v0 H → rg G b1 10 (shX11 b0 G.2.1) v1 H → va_S (FA (fX b0) s.heap.size) s.heap H locs → H.size = s.heap.size + zc → GO G H → lv_has ls 5 [(0, .ref b0), (1, .ref b1), (2, .int i2)] → W p l e (rmT 7 11 47 146) s m args below meth c H locs 10 40 (MQ below (QcT (FA (fX b0) s.heap.size) (fun ov H => ov = (some (.int rx)) ∧ rg G b0 357 (shX0 G.2.1) rw0 H ∧ H.size = s.heap.size + rc)) args s 11 47 (FA (fX b0) s.heap.size)) (F0 m 42 ls []) := by
  intro v0 v1 zc i2 hm H locs ls hW0 hW1 hS hz hG hl
  obtain ⟨hx, hb, hr, hlk, hml, hown, hts, hK⟩ := id C
  unfold fX0_read_42 at hm
  refine lv_iload_n (pc := 42) hx hb dX0_read_42 rfl (lv_at hl 2 rfl) ?_
  refine lv_aload_n (pc := 43) hx hb dX0_read_43 rfl (lv_at hl 1 rfl) ?_
  refine rk_getN (pc := 44) hx hb hts hown hK hW1 fnX0_200 0 (by decide) rfl rfl (x := .int (gI v1 0 1)) rfl dX0_read_44 ?_
  refine lv_icmp_ge (pc := 47) (tgt := 93) hx hb dX0_read_47 (by decide) (fun c52 => ?_) (fun c52 => ?_)
  · have hm := ite_t c52 hm
    refine lv_aload_n (pc := 93) hx hb dX0_read_93 rfl (lv_at hl 0 rfl) ?_
    refine lv_aload_n (pc := 94) hx hb dX0_read_94 rfl (lv_at hl 1 rfl) ?_
    refine rk_getN (pc := 95) hx hb hts hown hK hW1 fnX0_200 0 (by decide) rfl rfl (x := .int (gI v1 0 1)) rfl dX0_read_95 ?_
    obtain ⟨r53, w54, hq55, hm⟩ := ob2_some hm
    refine rk_TV (pc := 98) (As := [.int (gI v1 0 1)]) (rest := []) (mc := 0) (ms := 0) hx hb hml hown hts hK hS (fun q hq => FA_sz rfl q hq) lkX0_141 rfl yn_X0_told (ct_X0_told (G := G) (l := l) (b0 := b0) (sz := H.size) hq55) ⟨Nat.le_of_ble_eq_true rfl, Nat.le_of_ble_eq_true rfl⟩ (fun z h => Or.inl h) (rk_recv hK hW0 0 (by decide) rfl rfl rfl) hW0 rfl rfl hl.1 (Nat.le_of_ble_eq_true rfl) dX0_read_98 ⟨Nat.le_of_ble_eq_true rfl, Nat.le_of_ble_eq_true rfl⟩ (fun ov9 H56 locs57 hP58 hkp59 hS60 => ?_)
    obtain ⟨rfl, hW61, hz62⟩ := hP58
    have hW63 := rg_keepA hW1 hkp59 (by intro z h1 h2 h3; have h8 := h3.1.1; have h9 := h3.1.2; omega)
    have hG64 := GO_keepA hG hkp59 (Nat.le_trans (show gB G ≤ s.heap.size by omega) hS.1) (by intro z h3; have h8 := h3.1.1; have h9 := h3.1.2; omega)
    have hz65 := hz62.trans hz
    refine W.eq (g2 := F0 m 101 ls [.int r53]) rfl ?_
    refine lv_istore_n (pc := 101) (lv' := [(2, .int r53), (0, .ref b0), (1, .ref b1)]) hx hb dX0_read_101 rfl hl (by decide) rfl (fun ls hl => ?_)
    refine lv_aload_n (pc := 102) hx hb dX0_read_102 rfl (lv_at hl 1 rfl) ?_
    refine lv_iconst (pc := 103) (v := (0 : Int32)) hx hb dX0_read_103 (by decide) ?_
    refine rk_put (pc := 104) hx hb hts hown hK hW61 hS60 flX0_189 ft_X0 0 (by decide) rfl (Or.inl (show fX _ _ from ⟨⟨by omega, by omega⟩, by omega⟩)) rfl rfl (x := .int (0 : Int32)) rfl rfl (Nat.le_of_ble_eq_true rfl) (sI w54 0 12 (0 : Int32)) sI_ne (by rw [sI_eq]; exact rfl) dX0_read_104 (fun H67 locs68 hW69 hS70 hz71 hkp72 => ?_)
    obtain ⟨v0_66, he9, hm⟩ := lm_some hm
    rw [he9] at hW69
    have hW73 := rg_keepq hW63 hkp72 (by omega)
    have hz74 := hz71.trans hz65
    have hG75 := GO_keepq hG64 hkp72 (by omega)
    refine lv_iload_n (pc := 107) hx hb dX0_read_107 rfl (lv_at hl 0 rfl) ?_
    obtain ⟨e6, e7, e8, e9⟩ := rs4 hm
    subst e6
    subst e7
    subst e8
    subst e9
    exact rk_iretA (pc := 108) hx hb hr hlk hS70 ⟨rfl, hW69, hz74⟩ dX0_read_108 (by exact Nat.le_of_ble_eq_true rfl) (by exact Nat.le_of_ble_eq_true rfl)
  · have hm := ite_f c52 hm
    refine lv_aload_n (pc := 50) hx hb dX0_read_50 rfl (lv_at hl 0 rfl) ?_
    refine rk_get (pc := 51) hx hb hts hown hK hW0 flX0_12 0 (by decide) rfl rfl (x := .ref (b0 + 1)) (by first | rfl | exact congrArg (fun z => some (Value.ref z)) (by omega)) dX0_read_51 ?_
    refine rk_getN (pc := 54) hx hb hts hown hK hW0 fnX0_172 1 (by decide) rfl rfl (x := .ref (b0 + 3)) (by first | rfl | exact congrArg (fun z => some (Value.ref z)) (by omega)) dX0_read_54 ?_
    refine lv_aload_n (pc := 57) hx hb dX0_read_57 rfl (lv_at hl 0 rfl) ?_
    refine rk_get (pc := 58) hx hb hts hown hK hW0 flX0_12 0 (by decide) rfl rfl (x := .ref (b0 + 1)) (by first | rfl | exact congrArg (fun z => some (Value.ref z)) (by omega)) dX0_read_58 ?_
    refine rk_getN (pc := 61) hx hb hts hown hK hW0 fnX0_158 1 (by decide) rfl rfl (x := .int (gI v0 1 1)) rfl dX0_read_61 ?_
    obtain ⟨hg76, hm⟩ := gb_some hm
    have hlt77 := inR_lt hg76
    refine rk_aald (pc := 64) hx hb hK hW0 3 5 (by decide) rfl rfl rfl hg76 (x := (b0 + (7 + 2 * (gI v0 1 1).toNatClampNeg + 0))) (by first | rfl | exact congrArg some (by omega)) dX0_read_64 ?_
    refine lv_aload_n (pc := 65) hx hb dX0_read_65 rfl (lv_at hl 1 rfl) ?_
    refine rk_getN (pc := 66) hx hb hts hown hK hW1 fnX0_203 0 (by decide) rfl rfl (x := .ref (b1 + 1)) (by first | rfl | exact congrArg (fun z => some (Value.ref z)) (by omega)) dX0_read_66 ?_
    refine lv_iload_n (pc := 69) hx hb dX0_read_69 rfl (lv_at hl 2 rfl) ?_
    obtain ⟨hg78, hm⟩ := gb_some hm
    have hlt79 := inR_lt hg78
    refine rk_aald (pc := 70) hx hb hK hW1 1 5 (by decide) rfl rfl rfl hg78 (x := (b1 + (2 + 2 * i2.toNatClampNeg + 0))) (by first | rfl | exact congrArg some (by omega)) dX0_read_70 ?_
    obtain ⟨w80, hq81, hm⟩ := ob_some hm
    refine rk_TV (pc := 71) (As := [.ref (b1 + (2 + 2 * i2.toNatClampNeg + 0))]) (rest := []) (mc := 0) (ms := 0) hx hb hml hown hts hK hS (fun q hq => FA_sz rfl q hq) lkX0_206 rfl yn_X2_like (ct_X2_like (G := G) (l := l) (b0 := (b0 + (7 + 2 * (gI v0 1 1).toNatClampNeg + 0))) (b1 := (b1 + (2 + 2 * i2.toNatClampNeg + 0))) (sz := H.size) hq81 (by omega)) ⟨Nat.le_of_ble_eq_true rfl, Nat.le_of_ble_eq_true rfl⟩ (fun z h => Or.inl (show fX _ _ from ⟨⟨by have h8 := h.1; have h9 := h.2; omega, by have h8 := h.1; have h9 := h.2; omega⟩, by have h8 := h.1; have h9 := h.2; omega⟩)) (rk_recv hK hW0 (7 + 2 * (gI v0 1 1).toNatClampNeg + 0) (by omega) rfl rfl ((shX0_f7 G.2.1 hlt77 _ rfl 0 (by decide) _ _ _).trans rfl)) ⟨(rg_sub (d := (7 + 2 * (gI v0 1 1).toNatClampNeg)) hW0 rfl (by omega) (fun o ho x y z => shX0_f7 G.2.1 hlt77 _ rfl o ho x y z)), (rg_sub (d := (2 + 2 * i2.toNatClampNeg)) hW1 rfl (by omega) (fun o ho x y z => shX11_f2 G.2.1 hlt79 _ rfl o ho x y z))⟩ rfl rfl hl.1 (Nat.le_of_ble_eq_true rfl) dX0_read_71 ⟨Nat.le_of_ble_eq_true rfl, Nat.le_of_ble_eq_true rfl⟩ (fun ov9 H82 locs83 hP84 hkp85 hS86 => ?_)
    obtain ⟨rfl, hW87, hz88⟩ := hP84
    have hW89 := rg_keepA hW1 hkp85 (by intro z h1 h2 h3; have h8 := h3.1; have h9 := h3.2; omega)
    have hW90 := rg_put (d := (7 + 2 * (gI v0 1 1).toNatClampNeg)) hW0 hW87 rfl (fun o ho x y z => shX0_f7 G.2.1 hlt77 _ rfl o ho x y z) hkp85
    obtain ⟨v0_91, he9, hm⟩ := lm_some hm
    rw [he9] at hW90
    have hG92 := GO_keepA hG hkp85 (Nat.le_trans (show gB G ≤ s.heap.size by omega) hS.1) (by intro z h3; have h8 := h3.1; have h9 := h3.2; omega)
    have hz93 := hz88.trans hz
    refine W.eq (g2 := F0 m 74 ls []) rfl ?_
    refine lv_aload_n (pc := 74) hx hb dX0_read_74 rfl (lv_at hl 0 rfl) ?_
    refine rk_get (pc := 75) hx hb hts hown hK hW90 flX0_12 0 (by decide) rfl rfl (x := .ref (b0 + 1)) (by first | rfl | exact congrArg (fun z => some (Value.ref z)) (by omega)) dX0_read_75 ?_
    refine lv_dup (pc := 78) hx hb dX0_read_78 rfl ?_
    refine rk_getN (pc := 79) hx hb hts hown hK hW90 fnX0_158 1 (by decide) rfl rfl (x := .int (gI v0_91 1 1)) rfl dX0_read_79 ?_
    refine lv_iconst (pc := 82) (v := (1 : Int32)) hx hb dX0_read_82 (by decide) ?_
    refine lv_iadd (pc := 83) hx hb dX0_read_83 ?_
    refine rk_putN (pc := 84) hx hb hts hown hK hW90 hS86 fnX0_158 ft_X1 1 (by decide) rfl (Or.inl (show fX _ _ from ⟨⟨by omega, by omega⟩, by omega⟩)) rfl rfl (x := .int ((gI v0_91 1 1) + (1 : Int32))) rfl rfl (Nat.le_of_ble_eq_true rfl) (sI v0_91 1 1 ((gI v0_91 1 1) + (1 : Int32))) sI_ne (by rw [sI_eq]; exact rfl) dX0_read_84 (fun H95 locs96 hW97 hS98 hz99 hkp100 => ?_)
    obtain ⟨v0_94, he9, hm⟩ := lm_some hm
    rw [he9] at hW97
    have hW101 := rg_keepq hW89 hkp100 (by omega)
    have hz102 := hz99.trans hz93
    have hG103 := GO_keepq hG92 hkp100 (by omega)
    refine lv_iinc (pc := 87) (v := (i2 + (1 : Int32))) (lv' := [(2, .int (i2 + (1 : Int32))), (0, .ref b0), (1, .ref b1)]) hx hb dX0_read_87 hl (k := 2) rfl rfl (by decide) rfl (fun ls hl => ?_)
    refine lv_goto (pc := 90) (tgt := 42) hx hb dX0_read_90 (by decide) ?_
    exact hk42 v0_94 v1 zc (i2 + (1 : Int32)) hm H95 locs96 ls hW97 hW101 hS98 hz102 hG103 (lv_sub hl [1, 2, 0] rfl)
theorem w_fX0_read_42_l (C : Cx G p s m args meth c RX0 cX0_read 5 (some .int)) {b0 : Nat} {b1 : Nat} {rx : Int32} {rc : Nat} {rw0 : Mem} {rw1 : Mem} (hd01 : b0 + 357 ≤ b1 ∨ b1 + 10 ≤ b0) (he0 : b0 + 357 ≤ s.heap.size) (hfr1 : s.heap.size ≤ b1) (hZ : ZQ G) (hgb0 : gB G ≤ b0) (ht : c.exceptionTable.toList = tableOf [(9, 33, 109, 210), (40, 102, 109, 210), (9, 33, 125, 0), (40, 102, 125, 0), (109, 118, 125, 0), (125, 127, 125, 0)]) : ∀ (n : Nat) (v0 : Mem) (v1 : Mem) (zc : Nat) (i2 : Int32), lq4 (fX0_read_42) n v0 v1 zc i2 = some (rx, rc, rw0, rw1) → ∀ (H : Heap) (locs : List Loc) (ls : Array Slot), rg G b0 357 (shX0 G.2.1) v0 H → rg G b1 10 (shX11 b0 G.2.1) v1 H → va_S (FA (fX b0) s.heap.size) s.heap H locs → H.size = s.heap.size + zc → GO G H → lv_has ls 5 [(0, .ref b0), (1, .ref b1), (2, .int i2)] → W p l e (rmT 7 11 47 146) s m args below meth c H locs 10 40 (MQ below (QcT (FA (fX b0) s.heap.size) (fun ov H => ov = (some (.int rx)) ∧ rg G b0 357 (shX0 G.2.1) rw0 H ∧ H.size = s.heap.size + rc)) args s 11 47 (FA (fX b0) s.heap.size)) (F0 m 42 ls []) := by
  intro n
  induction n with
  | zero => intro v0 v1 zc i2 hm; exact (lq4_0 hm).elim
  | succ n ih => intro v0 v1 zc i2 hm; exact w_fX0_read_42 C hd01 he0 hfr1 hZ hgb0 ht ih v0 v1 zc i2 (lq4_s hm)
set_option maxHeartbeats 4000000 in
theorem w_fX0_read (C : Cx G p s m args meth c RX0 cX0_read 5 (some .int)) {b0 : Nat} {rx : Int32} {rc : Nat} {rw0 : Mem} {rw1 : Mem} (he0 : b0 + 357 ≤ s.heap.size) (hZ : ZQ G) (hgb0 : gB G ≤ b0) (ht : c.exceptionTable.toList = tableOf [(9, 33, 109, 210), (40, 102, 109, 210), (9, 33, 125, 0), (40, 102, 125, 0), (109, 118, 125, 0), (125, 127, 125, 0)]) : ∀ (v0 : Mem), fX0_read v0 = some (rx, rc, rw0, rw1) → ∀ (H : Heap) (locs : List Loc) (ls : Array Slot), rg G b0 357 (shX0 G.2.1) v0 H → va_S (FA (fX b0) s.heap.size) s.heap H locs → H.size = s.heap.size + 0 → GO G H → lv_has ls 5 [(0, .ref b0)] → W p l e (rmT 7 11 47 146) s m args below meth c H locs 0 0 (MQ below (QcT (FA (fX b0) s.heap.size) (fun ov H => ov = (some (.int rx)) ∧ rg G b0 357 (shX0 G.2.1) rw0 H ∧ H.size = s.heap.size + rc)) args s 11 47 (FA (fX b0) s.heap.size)) (F0 m 0 ls []) := by
  intro v0 hm H locs ls hW0 hS hz hG hl
  obtain ⟨hx, hb, hr, hlk, hml, hown, hts, hK⟩ := id C
  unfold fX0_read at hm
  obtain ⟨b1, hb1⟩ : ∃ b1, s.heap.size = b1 := ⟨_, rfl⟩
  have hzb : H.size = b1 := by omega
  refine rk_new (pc := 0) (h := b1) (sh := shO_X11) hx hb hts hown hK hS in_X11 ft_X11 rfl q635 q636 q130 hzb rfl (df_X11 _ rfl) (Nat.le_of_ble_eq_true rfl) (Nat.le_of_ble_eq_true rfl) dX0_read_0 (fun H1 hWn hS1 hz1 hk1 => ?_)
  have hW01 := rg_keepN hW0 hzb hk1
  have hG1 := GO_keepN hG (by omega) hk1
  refine lv_dup (pc := 3) hx hb dX0_read_3 rfl ?_
  refine lv_aload_n (pc := 4) hx hb dX0_read_4 rfl (lv_at hl 0 rfl) ?_
  refine rk_TI (pc := 5) (As := [.ref b0]) (rest := [.ref b1]) (mc := 9) (ms := 36) hx hb hml hown hts hK hS1 (fun q hq => FA_sz rfl q hq) lkX0_194 yn_X11_init (ct_X11_init (G := G) (l := l) (b0 := b1) (b1 := b0) (sz := H1.size) (by omega)) ⟨Nat.le_of_ble_eq_true rfl, Nat.le_of_ble_eq_true rfl⟩ (fun z h => Or.inr (show s.heap.size ≤ z by have h8 := h.1; omega)) hWn rfl rfl hl.1 (Nat.le_of_ble_eq_true rfl) dX0_read_5 ⟨Nat.le_of_ble_eq_true rfl, Nat.le_of_ble_eq_true rfl⟩ (fun ov9 H2 locs2 hP2 hk2 hS2 => ?_)
  obtain ⟨rfl, hW12, hz2⟩ := hP2
  have hW12 := rdr0 hW12
  have hW02 := rg_keepX hW01 hk2 (by intro z h0 h3; have h8 := h3.1; have h9 := h3.2; have h1 := h0.1.1; have h2 := h0.1.2; omega)
  have hG2 := GO_keepA hG1 hk2 (show gB G ≤ H1.size by omega) (by intro z h3; have h8 := h3.1; omega)
  have hz3 : H2.size = s.heap.size + 10 := by omega
  have hd01 : b0 + 357 ≤ b1 ∨ b1 + 10 ≤ b0 := by omega
  have hfr1 : s.heap.size ≤ b1 := by omega
  refine W.eq (g2 := F0 m 8 ls [.ref b1]) rfl ?_
  refine lv_astore_n (pc := 8) (lv' := [(1, .ref b1), (0, .ref b0)]) hx hb dX0_read_8 rfl hl (by decide) rfl (fun ls hl => ?_)
  refine lv_aload_n (pc := 9) hx hb dX0_read_9 rfl (lv_at hl 0 rfl) ?_
  obtain ⟨ok3, re4, rc1, w2, hq5, hm⟩ := ob4_some hm
  by_cases hok : ok3 = true
  · subst hok
    have hm := ite_t rfl hm
    refine rk_TV (pc := 10) (As := []) (rest := []) (mc := 0) (ms := 0) hx hb hml hown hts hK hS2 (fun q hq => FA_sz rfl q hq) lkX0_197 rfl yn_X11_reads (CX.ret (ct_X11_reads (G := G) (l := l) (rok := true) (b0 := b1) (b1 := b0) (sz := H2.size) hq5 (by omega) hZ (by omega) (by omega))) ⟨Nat.le_of_ble_eq_true rfl, Nat.le_of_ble_eq_true rfl⟩ (fun z h => Or.inr (show s.heap.size ≤ z by have h8 := h.1; omega)) (rk_recv hK hW12 0 (by decide) rfl rfl rfl) ⟨hW12, hW02, hG2⟩ rfl rfl hl.1 (Nat.le_of_ble_eq_true rfl) dX0_read_10 ⟨Nat.le_of_ble_eq_true rfl, Nat.le_of_ble_eq_true rfl⟩ (fun ov9 H6 locs7 hP8 hkp9 hS10 => ?_)
    obtain ⟨rfl, hW11, hz12⟩ := hP8
    have hW13 := rg_keepX hW02 hkp9 (by intro z h0 h3; have h1 := h0.1.1; have h2 := h0.1.2; have h4 := h0.2; have h8 := h3.1; have h9 := h3.2; omega)
    have hG14 := GO_keepA hG2 hkp9 (Nat.le_trans (show gB G ≤ s.heap.size by omega) hS2.1) (by intro z h3; have h8 := h3.1; have h9 := h3.2; omega)
    have hz15 : H6.size = s.heap.size + (10 + rc1) := by omega
    refine W.eq (g2 := F0 m 13 ls []) rfl ?_
    refine lv_aload_n (pc := 13) hx hb dX0_read_13 rfl (lv_at hl 1 rfl) ?_
    refine rk_get (pc := 14) hx hb hts hown hK hW13 flX0_12 0 (by decide) rfl rfl (x := .ref (b0 + 1)) (by first | rfl | exact congrArg (fun z => some (Value.ref z)) (by omega)) dX0_read_14 ?_
    refine rk_getN (pc := 17) hx hb hts hown hK hW13 fnX0_158 1 (by decide) rfl rfl (x := .int (gI v0 1 1)) rfl dX0_read_17 ?_
    refine lv_aload_n (pc := 20) hx hb dX0_read_20 rfl (lv_at hl 0 rfl) ?_
    refine rk_getN (pc := 21) hx hb hts hown hK hW11 fnX0_200 0 (by decide) rfl rfl (x := .int (gI w2 0 1)) rfl dX0_read_21 ?_
    refine lv_iadd (pc := 24) hx hb dX0_read_24 ?_
    refine lv_bipush (pc := 25) (v := (8 : Int32)) hx hb dX0_read_25 (by decide) ?_
    refine lv_icmp_le (pc := 27) (tgt := 40) hx hb dX0_read_27 (by decide) (fun c16 => ?_) (fun c16 => ?_)
    · have hm := ite_t c16 hm
      refine lv_iconst (pc := 40) (v := (0 : Int32)) hx hb dX0_read_40 (by decide) ?_
      refine lv_istore_n (pc := 41) (lv' := [(2, .int (0 : Int32)), (1, .ref b1), (0, .ref b0)]) hx hb dX0_read_41 rfl hl (by decide) rfl (fun ls hl => ?_)
      exact (w_fX0_read_42_l C hd01 he0 hfr1 hZ hgb0 ht FU) v0 w2 (10 + rc1) (0 : Int32) hm H6 locs7 ls hW13 hW11 hS10 hz15 hG14 (lv_sub hl [2, 1, 0] rfl)
    · have hm := ite_f c16 hm
      refine lv_bipush (pc := 30) (v := (-4 : Int32)) hx hb dX0_read_30 (by decide) ?_
      refine lv_istore_n (pc := 32) (lv' := [(2, .int (-4 : Int32)), (1, .ref b1), (0, .ref b0)]) hx hb dX0_read_32 rfl hl (by decide) rfl (fun ls hl => ?_)
      refine lv_aload_n (pc := 33) hx hb dX0_read_33 rfl (lv_at hl 2 rfl) ?_
      refine lv_iconst (pc := 34) (v := (0 : Int32)) hx hb dX0_read_34 (by decide) ?_
      refine rk_put (pc := 35) hx hb hts hown hK hW13 hS10 flX0_189 ft_X0 0 (by decide) rfl (Or.inl (show fX _ _ from ⟨⟨by omega, by omega⟩, by omega⟩)) rfl rfl (x := .int (0 : Int32)) rfl rfl (Nat.le_of_ble_eq_true rfl) (sI v0 0 12 (0 : Int32)) sI_ne (by rw [sI_eq]; exact rfl) dX0_read_35 (fun H18 locs19 hW20 hS21 hz22 hkp23 => ?_)
      obtain ⟨v0_17, he9, hm⟩ := lm_some hm
      rw [he9] at hW20
      have hW24 := rg_keepq hW11 hkp23 (by omega)
      have hz25 := hz22.trans hz15
      have hG26 := GO_keepq hG14 hkp23 (by omega)
      refine lv_iload_n (pc := 38) hx hb dX0_read_38 rfl (lv_at hl 0 rfl) ?_
      obtain ⟨e6, e7, e8, e9⟩ := rs4 hm
      subst e6
      subst e7
      subst e8
      subst e9
      exact rk_iretA (pc := 39) hx hb hr hlk hS21 ⟨rfl, hW20, hz25⟩ dX0_read_39 (by exact Nat.le_of_ble_eq_true rfl) (by exact Nat.le_of_ble_eq_true rfl)
  · have hok := eq_false_of_ne_true hok
    subst hok
    have hm := ite_f Bool.false_ne_true hm
    refine rk_XV (pc := 10) (As := []) (rest := []) (mc := 1) (ms := 7) hx hb hml hown hts hK hS2 (fun q hq => FA_sz rfl q hq) lkX0_197 rfl yn_X11_reads (ct_X11_reads (G := G) (l := l) (rok := false) (b0 := b1) (b1 := b0) (sz := H2.size) hq5 (by omega) hZ (by omega) (by omega)) ⟨Nat.le_of_ble_eq_true rfl, Nat.le_of_ble_eq_true rfl⟩ (fun z h => Or.inr (show s.heap.size ≤ z by have h8 := h.1; omega)) (rk_recv hK hW12 0 (by decide) rfl rfl rfl) ⟨hW12, hW02, hG2⟩ rfl rfl hl.1 (Nat.le_of_ble_eq_true rfl) dX0_read_10 ⟨Nat.le_of_ble_eq_true rfl, Nat.le_of_ble_eq_true rfl⟩ (fun q32 E9 ce9 H27 locs28 hP29 hkp30 hS31 hce9 hcv9 hcl9 => ?_)
    obtain ⟨rfl, hqq32, ⟨wx34, hW35, hre36⟩, hW33, hz37⟩ := hP29
    have hqq32 : s.heap.size ≤ q32 := Nat.le_trans hS2.1 hqq32
    have hW38 := rg_keepX hW02 hkp30 (by intro z h0 h3; have h1 := h0.1.1; have h2 := h0.1.2; have h4 := h0.2; have h8 := h3.1; have h9 := h3.2; omega)
    have hG39 := GO_keepA hG2 hkp30 (Nat.le_trans (show gB G ≤ s.heap.size by omega) hS2.1) (by intro z h3; have h8 := h3.1; have h9 := h3.2; omega)
    have hz40 : H27.size = s.heap.size + (10 + rc1) := by omega
    obtain ⟨ce8, hce8, hcv8, hcl8⟩ := rk_exc hK hW35 rfl rfl
    refine rk_catch hK hown hts ht [] ⟨9, 33, 109, 210⟩ [⟨40, 102, 109, 210⟩, ⟨9, 33, 125, 0⟩, ⟨40, 102, 125, 0⟩, ⟨109, 118, 125, 0⟩, ⟨125, 127, 125, 0⟩] rfl (by decide) (by decide) (by decide) q634 q685 hce8 hcv8 hcl8 109 rfl ?_
    refine lv_astore_n (pc := 109) (lv' := [(2, .ref q32), (1, .ref b1), (0, .ref b0)]) hx hb dX0_read_109 rfl hl (by decide) rfl (fun ls hl => ?_)
    refine lv_bipush (pc := 110) (v := (-10 : Int32)) hx hb dX0_read_110 (by decide) ?_
    refine lv_aload_n (pc := 112) hx hb dX0_read_112 rfl (lv_at hl 0 rfl) ?_
    refine rk_getN (pc := 113) hx hb hts hown hK hW35 fnX0_212 0 (by decide) rfl rfl (x := .int re4) (congrArg (fun z => some (Value.int z)) hre36) dX0_read_113 ?_
    refine lv_isub (pc := 116) hx hb dX0_read_116 ?_
    refine lv_istore_n (pc := 117) (lv' := [(3, .int ((-10 : Int32) - re4)), (2, .ref q32), (1, .ref b1), (0, .ref b0)]) hx hb dX0_read_117 rfl hl (by decide) rfl (fun ls hl => ?_)
    refine lv_aload_n (pc := 118) hx hb dX0_read_118 rfl (lv_at hl 3 rfl) ?_
    refine lv_iconst (pc := 119) (v := (0 : Int32)) hx hb dX0_read_119 (by decide) ?_
    refine rk_put (pc := 120) hx hb hts hown hK hW38 hS31 flX0_189 ft_X0 0 (by decide) rfl (Or.inl (show fX _ _ from ⟨⟨by omega, by omega⟩, by omega⟩)) rfl rfl (x := .int (0 : Int32)) rfl rfl (Nat.le_of_ble_eq_true rfl) (sI v0 0 12 (0 : Int32)) sI_ne (by rw [sI_eq]; exact rfl) dX0_read_120 (fun H42 locs43 hW44 hS45 hz46 hkp47 => ?_)
    obtain ⟨v0_41, he9, hm⟩ := lm_some hm
    rw [he9] at hW44
    have hW48 := rg_keepq hW33 hkp47 (by omega)
    have hW49 := rg_keepq hW35 hkp47 (by omega)
    have hz50 := hz46.trans hz40
    have hG51 := GO_keepq hG39 hkp47 (by omega)
    refine lv_iload_n (pc := 123) hx hb dX0_read_123 rfl (lv_at hl 0 rfl) ?_
    obtain ⟨e6, e7, e8, e9⟩ := rs4 hm
    subst e6
    subst e7
    subst e8
    subst e9
    exact rk_iretA (pc := 124) hx hb hr hlk hS45 ⟨rfl, hW44, hz50⟩ dX0_read_124 (by exact Nat.le_of_ble_eq_true rfl) (by exact Nat.le_of_ble_eq_true rfl)
set_option maxHeartbeats 4000000 in
theorem ct_X0_read {G : Gv} {l : Launch} {b0 : Nat} {v0 : Mem} {rx : Int32} {rc : Nat} {rw0 : Mem} {rw1 : Mem} {sz : Nat} (hm : fX0_read v0 = some (rx, rc, rw0, rw1)) (hZ : ZQ G) (hgb0 : gB G ≤ b0) : CT G l yX0_read (wsW_ yX0_read cX0_read 5 (some .int) [(9, 33, 109, 210), (40, 102, 109, 210), (9, 33, 125, 0), (40, 102, 125, 0), (109, 118, 125, 0), (125, 127, 125, 0)]) 7 11 47 146 [.ref b0] (fX b0) sz (fun H => rg G b0 357 (shX0 G.2.1) v0 H ∧ GO G H) (fun ov H => ov = (some (.int rx)) ∧ rg G b0 357 (shX0 G.2.1) rw0 H ∧ H.size = sz + rc) := by
  refine va_MetW (cc := cX0_read) (maxL := 5) (ret := (some .int)) (by decide +kernel) rfl ?_
  intro p e s m args below meth c s₁ B hml hv
  obtain ⟨rfl, ⟨hz, hW0, hG⟩, hK⟩ := hv
  subst hz
  have he0 := rg_end hW0 356 (by decide) rfl (fun _ _ _ => rfl)
  have ht := vx_table (x := yX0_read) B (atoms_spec (ws := wsW_ yX0_read cX0_read 5 (some .int) [(9, 33, 109, 210), (40, 102, 109, 210), (9, 33, 125, 0), (40, 102, 125, 0), (109, 118, 125, 0), (125, 127, 125, 0)]) B.pre _ List.mem_cons_self)
  have hts := atoms_spec (ws := wsW_ yX0_read cX0_read 5 (some .int) [(9, 33, 109, 210), (40, 102, 109, 210), (9, 33, 125, 0), (40, 102, 125, 0), (109, 118, 125, 0), (125, 127, 125, 0)]) B.pre
  have hts : ∀ w ∈ lw_all, w.before _ s = true := fun w h => hts w (List.mem_cons_of_mem _ h)
  have C : Cx G p s m _ meth c RX0 cX0_read 5 (some .int) := ⟨B.exec, B.bytes, B.returns, B.notSynchronized, hml, findClass_of_methodNamed B.named, hts, hK⟩
  have hl := lv_entry ([.ref b0]) (n := 5) (Nat.le_of_ble_eq_true rfl)
  rw [lg_entry_eq]
  generalize (lg_sl ([.ref b0]) ++ List.replicate (5 - (lg_sl ([.ref b0])).length) Slot.unset).toArray = ls at hl ⊢
  have hl : lv_has ls 5 [(0, .ref b0)] := hl
  exact w_fX0_read C he0 hZ hgb0 ht _ hm s.heap [] ls hW0 va_S.rf rfl hG hl
end
