set_option maxRecDepth 100000
section
variable {p : Program} {l : Launch} {e : Env} {s : State} {m : MethodId} {args : Array Value} {below : List Frame} {meth : Method} {c : Code} {G : Gv}
theorem lkX3_165 : LV RX3 165 RX3 yX3_begins cX3_begins 5 none := ⟨q777, q778, q779, q117, q780⟩
theorem yn_X3_repairs : YN yX3_repairs 0 := by
  unfold YN
  decide +kernel
theorem lkX3_168 : LV RX3 168 RX3 yX3_repairs cX3_repairs 3 none := ⟨q797, q798, q799, q117, q800⟩
theorem yn_X3_brokenRow : YN yX3_brokenRow 0 := by
  unfold YN
  decide +kernel
theorem lkX3_171 : LV RX3 171 RX3 yX3_brokenRow cX3_brokenRow 2 (some .int) := ⟨q851, q853, qs18, q117, q854⟩
theorem fnX3_177 : FN RX3 177 13 6 RX13 TX13 7 "WholePacks" := ⟨in_X13, rfl, by decide, q830⟩
theorem yn_X3_cuts : YN yX3_cuts 2 := by
  unfold YN
  decide +kernel
theorem lkX3_174 : LV RX3 174 RX3 yX3_cuts cX3_cuts 6 none := ⟨q859, q861, qs20, q117, q862⟩
noncomputable def fX3_solves_14 (V1 : Mem) (k14 : Mem → Nat → Int32 → Int32 → Option (Int32 × Nat × Mem)) (v0 : Mem) (zc : Nat) (i2 : Int32) (i3 : Int32) : Option (Int32 × Nat × Mem) :=
  if i3 = (-1 : Int32) then (
  some ((1 : Int32), zc, v0))
  else (
  if (gI v0 0 3) = i2 then (
  some ((2 : Int32), zc, v0))
  else (
  ob4 (fX3_cuts V1 v0 i3) fun ok48 re49 rc46 w47 =>
  if ok48 = true then (
  ob4 (fX3_repairs w47) fun ok63 re64 rc61 w62 =>
  if ok63 = true then (
  ob (fX3_brokenRow w62) fun r76 =>
  k14 w62 (zc + rc46 + rc61) i2 r76)
  else (
  some (re64, (zc + rc46 + rc61), w62)))
  else (
  some (re49, (zc + rc46), w47))))
noncomputable def fX3_solves (V1 : Mem) (v0 : Mem) (i2 : Int32) : Option (Int32 × Nat × Mem) :=
  ob (fX3_begins V1 v0) fun w1 =>
  ob4 (fX3_repairs w1) fun ok15 re16 rc13 w14 =>
  if ok15 = true then (
  ob (fX3_brokenRow w14) fun r28 =>
  lq4 (fX3_solves_14 V1) FU w14 rc13 i2 r28)
  else (
  some (re16, rc13, w14))
set_option maxHeartbeats 4000000 in
theorem w_fX3_solves_14 (C : Cx G p s m args meth c RX3 cX3_solves 4 (some .int)) {b0 : Nat} {b1 : Nat} {V1 : Mem} {rx : Int32} {rc : Nat} {rw0 : Mem} (hd01 : b0 + 43 ≤ b1 ∨ b1 + 22 ≤ b0) (he0 : b0 + 43 ≤ s.heap.size) (he1 : b1 + 22 ≤ s.heap.size) (hZ : ZQ G) (hgb0 : gB G ≤ b0) (hgb1 : gB G ≤ b1) (ht : c.exceptionTable.toList = tableOf [(5, 28, 49, 108), (29, 48, 49, 108)]) {k14 : Mem → Nat → Int32 → Int32 → Option (Int32 × Nat × Mem)} (hk14 : ∀ (v0 : Mem) (zc : Nat) (i2 : Int32) (i3 : Int32), k14 v0 zc i2 i3 = some (rx, rc, rw0) → ∀ (H : Heap) (locs : List Loc) (ls : Array Slot), rg G b0 43 (shX3 G.2.1) v0 H → rg G b1 22 (shX1 G.2.1) V1 H → va_S (FA (iv b0 43) s.heap.size) s.heap H locs → H.size = s.heap.size + zc → GO G H → lv_has ls 4 [(0, .ref b0), (1, .ref b1), (2, .int i2), (3, .int i3)] → W p l e (rmT 6 1 7 131) s m args below meth c H locs 0 0 (MQ below (QcT (FA (iv b0 43) s.heap.size) (fun ov H => ov = (some (.int rx)) ∧ rg G b0 43 (shX3 G.2.1) rw0 H ∧ H.size = s.heap.size + rc)) args s 1 7 (FA (iv b0 43) s.heap.size)) (F0 m 14 ls [])) : ∀ (v0 : Mem) (zc : Nat) (i2 : Int32) (i3 : Int32), fX3_solves_14 V1 k14 v0 zc i2 i3 = some (rx, rc, rw0) → ∀ (H : Heap) (locs : List Loc) (ls : Array Slot), rg G b0 43 (shX3 G.2.1) v0 H → rg G b1 22 (shX1 G.2.1) V1 H → va_S (FA (iv b0 43) s.heap.size) s.heap H locs → H.size = s.heap.size + zc → GO G H → lv_has ls 4 [(0, .ref b0), (1, .ref b1), (2, .int i2), (3, .int i3)] → W p l e (rmT 6 1 7 131) s m args below meth c H locs 0 0 (MQ below (QcT (FA (iv b0 43) s.heap.size) (fun ov H => ov = (some (.int rx)) ∧ rg G b0 43 (shX3 G.2.1) rw0 H ∧ H.size = s.heap.size + rc)) args s 1 7 (FA (iv b0 43) s.heap.size)) (F0 m 14 ls []) := by
  intro v0 zc i2 i3 hm H locs ls hW0 hW1 hS hz hG hl
  obtain ⟨hx, hb, hr, hlk, hml, hown, hts, hK⟩ := id C
  unfold fX3_solves_14 at hm
  refine lv_iload_n (pc := 14) hx hb dX3_solves_14 rfl (lv_at hl 3 rfl) ?_
  refine lv_iconst (pc := 15) (v := (-1 : Int32)) hx hb dX3_solves_15 (by decide) ?_
  refine lv_icmp_eq (pc := 16) (tgt := 47) hx hb dX3_solves_16 (by decide) (fun c44 => ?_) (fun c44 => ?_)
  · have hm := ite_t c44 hm
    refine lv_iconst (pc := 47) (v := (1 : Int32)) hx hb dX3_solves_47 (by decide) ?_
    obtain ⟨e7, e8, e9⟩ := rs3 hm
    subst e7
    subst e8
    subst e9
    exact rk_iretA (pc := 48) hx hb hr hlk hS ⟨rfl, hW0, hz⟩ dX3_solves_48 (by exact Nat.le_of_ble_eq_true rfl) (by exact Nat.le_of_ble_eq_true rfl)
  · have hm := ite_f c44 hm
    refine lv_aload_n (pc := 19) hx hb dX3_solves_19 rfl (lv_at hl 0 rfl) ?_
    refine rk_get (pc := 20) hx hb hts hown hK hW0 flX3_48 0 (by decide) rfl rfl (x := .int (gI v0 0 3)) rfl dX3_solves_20 ?_
    refine lv_iload_n (pc := 23) hx hb dX3_solves_23 rfl (lv_at hl 2 rfl) ?_
    refine lv_icmp_ne (pc := 24) (tgt := 29) hx hb dX3_solves_24 (by decide) (fun c45 => ?_) (fun c45 => ?_)
    · have hm := ite_f c45 hm
      refine lv_aload_n (pc := 29) hx hb dX3_solves_29 rfl (lv_at hl 0 rfl) ?_
      refine lv_iload_n (pc := 30) hx hb dX3_solves_30 rfl (lv_at hl 3 rfl) ?_
      refine lv_aload_n (pc := 31) hx hb dX3_solves_31 rfl (lv_at hl 1 rfl) ?_
      obtain ⟨ok48, re49, rc46, w47, hq50, hm⟩ := ob4_some hm
      by_cases hok : ok48 = true
      · subst hok
        have hm := ite_t rfl hm
        refine rk_TV (pc := 32) (As := [.int i3, .ref b1]) (rest := []) (mc := 0) (ms := 0) hx hb hml hown hts hK hS (fun q hq => FA_sz rfl q hq) lkX3_174 rfl yn_X3_cuts (CX.ret (ct_X3_cuts (G := G) (l := l) (rok := true) (b0 := b0) (b1 := b1) (sz := H.size) hq50 (by omega) hZ (by omega) (by omega))) ⟨Nat.le_of_ble_eq_true rfl, Nat.le_of_ble_eq_true rfl⟩ (fun z h => Or.inl (show iv _ _ _ from ⟨by have h8 := h.1; have h9 := h.2; omega, by have h8 := h.1; have h9 := h.2; omega⟩)) (rk_recv hK hW0 0 (by decide) rfl rfl rfl) ⟨hW0, hW1, hG⟩ rfl rfl hl.1 (Nat.le_of_ble_eq_true rfl) dX3_solves_32 ⟨Nat.zero_le _, Nat.zero_le _⟩ (fun ov9 H51 locs52 hP53 hkp54 hS55 => ?_)
        obtain ⟨rfl, hW56, hz57⟩ := hP53
        have hW58 := rg_keepA hW1 hkp54 (by intro z h1 h2 h3; have h8 := h3.1; have h9 := h3.2; omega)
        have hG59 := GO_keepA hG hkp54 (Nat.le_trans (show gB G ≤ s.heap.size by omega) hS.1) (by intro z h3; have h8 := h3.1; have h9 := h3.2; omega)
        have hz60 : H51.size = s.heap.size + (zc + rc46) := by omega
        refine W.eq (g2 := F0 m 35 ls []) rfl ?_
        refine lv_aload_n (pc := 35) hx hb dX3_solves_35 rfl (lv_at hl 0 rfl) ?_
        obtain ⟨ok63, re64, rc61, w62, hq65, hm⟩ := ob4_some hm
        by_cases hok : ok63 = true
        · subst hok
          have hm := ite_t rfl hm
          refine rk_TV (pc := 36) (As := []) (rest := []) (mc := 0) (ms := 0) hx hb hml hown hts hK hS55 (fun q hq => FA_sz rfl q hq) lkX3_168 rfl yn_X3_repairs (CX.ret (ct_X3_repairs (G := G) (l := l) (rok := true) (b0 := b0) (sz := H51.size) hq65 hZ (by omega))) ⟨Nat.le_of_ble_eq_true rfl, Nat.le_of_ble_eq_true rfl⟩ (fun z h => Or.inl (show iv _ _ _ from ⟨by have h8 := h.1; have h9 := h.2; omega, by have h8 := h.1; have h9 := h.2; omega⟩)) (rk_recv hK hW56 0 (by decide) rfl rfl rfl) ⟨hW56, hG59⟩ rfl rfl hl.1 (Nat.le_of_ble_eq_true rfl) dX3_solves_36 ⟨Nat.zero_le _, Nat.zero_le _⟩ (fun ov9 H66 locs67 hP68 hkp69 hS70 => ?_)
          obtain ⟨rfl, hW71, hz72⟩ := hP68
          have hW73 := rg_keepA hW58 hkp69 (by intro z h1 h2 h3; have h8 := h3.1; have h9 := h3.2; omega)
          have hG74 := GO_keepA hG59 hkp69 (Nat.le_trans (show gB G ≤ s.heap.size by omega) hS55.1) (by intro z h3; have h8 := h3.1; have h9 := h3.2; omega)
          have hz75 : H66.size = s.heap.size + (zc + rc46 + rc61) := by omega
          refine W.eq (g2 := F0 m 39 ls []) rfl ?_
          refine lv_aload_n (pc := 39) hx hb dX3_solves_39 rfl (lv_at hl 0 rfl) ?_
          obtain ⟨r76, hq77, hm⟩ := ob_some hm
          refine rk_PV (pc := 40) (As := []) (rest := []) hx hb hml hown hts hK lkX3_171 rfl yn_X3_brokenRow (ct_X3_brokenRow (G := G) (l := l) (b0 := b0) hq77) ⟨Nat.le_of_ble_eq_true rfl, Nat.le_of_ble_eq_true rfl⟩ (rk_recv hK hW71 0 (by decide) rfl rfl rfl) hW71 rfl rfl hl.1 (Nat.le_of_ble_eq_true rfl) dX3_solves_40 ⟨Nat.zero_le _, Nat.zero_le _⟩ ?_
          refine W.eq (g2 := F0 m 43 ls [.int r76]) rfl ?_
          refine lv_istore_n (pc := 43) (lv' := [(3, .int r76), (0, .ref b0), (1, .ref b1), (2, .int i2)]) hx hb dX3_solves_43 rfl hl (by decide) rfl (fun ls hl => ?_)
          refine lv_goto (pc := 44) (tgt := 14) hx hb dX3_solves_44 (by decide) ?_
          exact hk14 w62 (zc + rc46 + rc61) i2 r76 hm H66 locs67 ls hW71 hW73 hS70 hz75 hG74 (lv_sub hl [1, 2, 3, 0] rfl)
        · have hok := eq_false_of_ne_true hok
          subst hok
          have hm := ite_f Bool.false_ne_true hm
          refine rk_XV (pc := 36) (As := []) (rest := []) (mc := 1) (ms := 7) hx hb hml hown hts hK hS55 (fun q hq => FA_sz rfl q hq) lkX3_168 rfl yn_X3_repairs (ct_X3_repairs (G := G) (l := l) (rok := false) (b0 := b0) (sz := H51.size) hq65 hZ (by omega)) ⟨Nat.le_of_ble_eq_true rfl, Nat.le_of_ble_eq_true rfl⟩ (fun z h => Or.inl (show iv _ _ _ from ⟨by have h8 := h.1; have h9 := h.2; omega, by have h8 := h.1; have h9 := h.2; omega⟩)) (rk_recv hK hW56 0 (by decide) rfl rfl rfl) ⟨hW56, hG59⟩ rfl rfl hl.1 (Nat.le_of_ble_eq_true rfl) dX3_solves_36 ⟨Nat.le_of_ble_eq_true rfl, Nat.le_of_ble_eq_true rfl⟩ (fun q83 E9 ce9 H78 locs79 hP80 hkp81 hS82 hce9 hcv9 hcl9 => ?_)
          obtain ⟨rfl, hqq83, ⟨wx85, hW86, hre87⟩, hW84, hz88⟩ := hP80
          have hqq83 : s.heap.size ≤ q83 := Nat.le_trans hS55.1 hqq83
          have hW89 := rg_keepA hW58 hkp81 (by intro z h1 h2 h3; have h8 := h3.1; have h9 := h3.2; omega)
          have hG90 := GO_keepA hG59 hkp81 (Nat.le_trans (show gB G ≤ s.heap.size by omega) hS55.1) (by intro z h3; have h8 := h3.1; have h9 := h3.2; omega)
          have hz91 : H78.size = s.heap.size + (zc + rc46 + rc61) := by omega
          obtain ⟨ce8, hce8, hcv8, hcl8⟩ := rk_exc hK hW86 rfl rfl
          refine rk_catch hK hown hts ht [⟨5, 28, 49, 108⟩] ⟨29, 48, 49, 108⟩ [] rfl (by decide) (by decide) (by decide) q776 q818 hce8 hcv8 hcl8 49 rfl ?_
          refine lv_astore_n (pc := 49) (lv' := [(3, .ref q83), (0, .ref b0), (1, .ref b1), (2, .int i2)]) hx hb dX3_solves_49 rfl hl (by decide) rfl (fun ls hl => ?_)
          refine lv_aload_n (pc := 50) hx hb dX3_solves_50 rfl (lv_at hl 0 rfl) ?_
          refine rk_getN (pc := 51) hx hb hts hown hK hW86 fnX3_177 0 (by decide) rfl rfl (x := .int re64) (congrArg (fun z => some (Value.int z)) hre87) dX3_solves_51 ?_
          obtain ⟨e7, e8, e9⟩ := rs3 hm
          subst e7
          subst e8
          subst e9
          exact rk_iretA (pc := 54) hx hb hr hlk hS82 ⟨rfl, hW84, hz91⟩ dX3_solves_54 (by exact Nat.le_of_ble_eq_true rfl) (by exact Nat.le_of_ble_eq_true rfl)
      · have hok := eq_false_of_ne_true hok
        subst hok
        have hm := ite_f Bool.false_ne_true hm
        refine rk_XV (pc := 32) (As := [.int i3, .ref b1]) (rest := []) (mc := 1) (ms := 7) hx hb hml hown hts hK hS (fun q hq => FA_sz rfl q hq) lkX3_174 rfl yn_X3_cuts (ct_X3_cuts (G := G) (l := l) (rok := false) (b0 := b0) (b1 := b1) (sz := H.size) hq50 (by omega) hZ (by omega) (by omega)) ⟨Nat.le_of_ble_eq_true rfl, Nat.le_of_ble_eq_true rfl⟩ (fun z h => Or.inl (show iv _ _ _ from ⟨by have h8 := h.1; have h9 := h.2; omega, by have h8 := h.1; have h9 := h.2; omega⟩)) (rk_recv hK hW0 0 (by decide) rfl rfl rfl) ⟨hW0, hW1, hG⟩ rfl rfl hl.1 (Nat.le_of_ble_eq_true rfl) dX3_solves_32 ⟨Nat.le_of_ble_eq_true rfl, Nat.le_of_ble_eq_true rfl⟩ (fun q97 E9 ce9 H92 locs93 hP94 hkp95 hS96 hce9 hcv9 hcl9 => ?_)
        obtain ⟨rfl, hqq97, ⟨wx99, hW100, hre101⟩, hW98, hz102⟩ := hP94
        have hqq97 : s.heap.size ≤ q97 := Nat.le_trans hS.1 hqq97
        have hW103 := rg_keepA hW1 hkp95 (by intro z h1 h2 h3; have h8 := h3.1; have h9 := h3.2; omega)
        have hG104 := GO_keepA hG hkp95 (Nat.le_trans (show gB G ≤ s.heap.size by omega) hS.1) (by intro z h3; have h8 := h3.1; have h9 := h3.2; omega)
        have hz105 : H92.size = s.heap.size + (zc + rc46) := by omega
        obtain ⟨ce8, hce8, hcv8, hcl8⟩ := rk_exc hK hW100 rfl rfl
        refine rk_catch hK hown hts ht [⟨5, 28, 49, 108⟩] ⟨29, 48, 49, 108⟩ [] rfl (by decide) (by decide) (by decide) q776 q818 hce8 hcv8 hcl8 49 rfl ?_
        refine lv_astore_n (pc := 49) (lv' := [(3, .ref q97), (0, .ref b0), (1, .ref b1), (2, .int i2)]) hx hb dX3_solves_49 rfl hl (by decide) rfl (fun ls hl => ?_)
        refine lv_aload_n (pc := 50) hx hb dX3_solves_50 rfl (lv_at hl 0 rfl) ?_
        refine rk_getN (pc := 51) hx hb hts hown hK hW100 fnX3_177 0 (by decide) rfl rfl (x := .int re49) (congrArg (fun z => some (Value.int z)) hre101) dX3_solves_51 ?_
        obtain ⟨e7, e8, e9⟩ := rs3 hm
        subst e7
        subst e8
        subst e9
        exact rk_iretA (pc := 54) hx hb hr hlk hS96 ⟨rfl, hW98, hz105⟩ dX3_solves_54 (by exact Nat.le_of_ble_eq_true rfl) (by exact Nat.le_of_ble_eq_true rfl)
    · have hm := ite_t c45 hm
      refine lv_iconst (pc := 27) (v := (2 : Int32)) hx hb dX3_solves_27 (by decide) ?_
      obtain ⟨e7, e8, e9⟩ := rs3 hm
      subst e7
      subst e8
      subst e9
      exact rk_iretA (pc := 28) hx hb hr hlk hS ⟨rfl, hW0, hz⟩ dX3_solves_28 (by exact Nat.le_of_ble_eq_true rfl) (by exact Nat.le_of_ble_eq_true rfl)
theorem w_fX3_solves_14_l (C : Cx G p s m args meth c RX3 cX3_solves 4 (some .int)) {b0 : Nat} {b1 : Nat} {V1 : Mem} {rx : Int32} {rc : Nat} {rw0 : Mem} (hd01 : b0 + 43 ≤ b1 ∨ b1 + 22 ≤ b0) (he0 : b0 + 43 ≤ s.heap.size) (he1 : b1 + 22 ≤ s.heap.size) (hZ : ZQ G) (hgb0 : gB G ≤ b0) (hgb1 : gB G ≤ b1) (ht : c.exceptionTable.toList = tableOf [(5, 28, 49, 108), (29, 48, 49, 108)]) : ∀ (n : Nat) (v0 : Mem) (zc : Nat) (i2 : Int32) (i3 : Int32), lq4 (fX3_solves_14 V1) n v0 zc i2 i3 = some (rx, rc, rw0) → ∀ (H : Heap) (locs : List Loc) (ls : Array Slot), rg G b0 43 (shX3 G.2.1) v0 H → rg G b1 22 (shX1 G.2.1) V1 H → va_S (FA (iv b0 43) s.heap.size) s.heap H locs → H.size = s.heap.size + zc → GO G H → lv_has ls 4 [(0, .ref b0), (1, .ref b1), (2, .int i2), (3, .int i3)] → W p l e (rmT 6 1 7 131) s m args below meth c H locs 0 0 (MQ below (QcT (FA (iv b0 43) s.heap.size) (fun ov H => ov = (some (.int rx)) ∧ rg G b0 43 (shX3 G.2.1) rw0 H ∧ H.size = s.heap.size + rc)) args s 1 7 (FA (iv b0 43) s.heap.size)) (F0 m 14 ls []) := by
  intro n
  induction n with
  | zero => intro v0 zc i2 i3 hm; exact (lq4_0 hm).elim
  | succ n ih => intro v0 zc i2 i3 hm; exact w_fX3_solves_14 C hd01 he0 he1 hZ hgb0 hgb1 ht ih v0 zc i2 i3 (lq4_s hm)
set_option maxHeartbeats 4000000 in
theorem w_fX3_solves (C : Cx G p s m args meth c RX3 cX3_solves 4 (some .int)) {b0 : Nat} {b1 : Nat} {V1 : Mem} {rx : Int32} {rc : Nat} {rw0 : Mem} (hd01 : b0 + 43 ≤ b1 ∨ b1 + 22 ≤ b0) (he0 : b0 + 43 ≤ s.heap.size) (he1 : b1 + 22 ≤ s.heap.size) (hZ : ZQ G) (hgb0 : gB G ≤ b0) (hgb1 : gB G ≤ b1) (ht : c.exceptionTable.toList = tableOf [(5, 28, 49, 108), (29, 48, 49, 108)]) : ∀ (v0 : Mem) (i2 : Int32), fX3_solves V1 v0 i2 = some (rx, rc, rw0) → ∀ (H : Heap) (locs : List Loc) (ls : Array Slot), rg G b0 43 (shX3 G.2.1) v0 H → rg G b1 22 (shX1 G.2.1) V1 H → va_S (FA (iv b0 43) s.heap.size) s.heap H locs → H.size = s.heap.size + 0 → GO G H → lv_has ls 4 [(0, .ref b0), (1, .ref b1), (2, .int i2)] → W p l e (rmT 6 1 7 131) s m args below meth c H locs 0 0 (MQ below (QcT (FA (iv b0 43) s.heap.size) (fun ov H => ov = (some (.int rx)) ∧ rg G b0 43 (shX3 G.2.1) rw0 H ∧ H.size = s.heap.size + rc)) args s 1 7 (FA (iv b0 43) s.heap.size)) (F0 m 0 ls []) := by
  intro v0 i2 hm H locs ls hW0 hW1 hS hz hG hl
  obtain ⟨hx, hb, hr, hlk, hml, hown, hts, hK⟩ := id C
  unfold fX3_solves at hm
  refine lv_aload_n (pc := 0) hx hb dX3_solves_0 rfl (lv_at hl 0 rfl) ?_
  refine lv_aload_n (pc := 1) hx hb dX3_solves_1 rfl (lv_at hl 1 rfl) ?_
  obtain ⟨w1, hq2, hm⟩ := ob_some hm
  refine rk_TV (pc := 2) (As := [.ref b1]) (rest := []) (mc := 0) (ms := 0) hx hb hml hown hts hK hS (fun q hq => FA_sz rfl q hq) lkX3_165 rfl yn_X3_begins (ct_X3_begins (G := G) (l := l) (b0 := b0) (b1 := b1) (sz := H.size) hq2 (by omega)) ⟨Nat.le_of_ble_eq_true rfl, Nat.le_of_ble_eq_true rfl⟩ (fun z h => Or.inl (show iv _ _ _ from ⟨by have h8 := h.1; have h9 := h.2; omega, by have h8 := h.1; have h9 := h.2; omega⟩)) (rk_recv hK hW0 0 (by decide) rfl rfl rfl) ⟨hW0, hW1⟩ rfl rfl hl.1 (Nat.le_of_ble_eq_true rfl) dX3_solves_2 ⟨Nat.zero_le _, Nat.zero_le _⟩ (fun ov9 H3 locs4 hP5 hkp6 hS7 => ?_)
  obtain ⟨rfl, hW8, hz9⟩ := hP5
  have hW10 := rg_keepA hW1 hkp6 (by intro z h1 h2 h3; have h8 := h3.1; have h9 := h3.2; omega)
  have hG11 := GO_keepA hG hkp6 (Nat.le_trans (show gB G ≤ s.heap.size by omega) hS.1) (by intro z h3; have h8 := h3.1; have h9 := h3.2; omega)
  have hz12 := hz9.trans hz
  refine W.eq (g2 := F0 m 5 ls []) rfl ?_
  refine lv_aload_n (pc := 5) hx hb dX3_solves_5 rfl (lv_at hl 0 rfl) ?_
  obtain ⟨ok15, re16, rc13, w14, hq17, hm⟩ := ob4_some hm
  by_cases hok : ok15 = true
  · subst hok
    have hm := ite_t rfl hm
    refine rk_TV (pc := 6) (As := []) (rest := []) (mc := 0) (ms := 0) hx hb hml hown hts hK hS7 (fun q hq => FA_sz rfl q hq) lkX3_168 rfl yn_X3_repairs (CX.ret (ct_X3_repairs (G := G) (l := l) (rok := true) (b0 := b0) (sz := H3.size) hq17 hZ (by omega))) ⟨Nat.le_of_ble_eq_true rfl, Nat.le_of_ble_eq_true rfl⟩ (fun z h => Or.inl (show iv _ _ _ from ⟨by have h8 := h.1; have h9 := h.2; omega, by have h8 := h.1; have h9 := h.2; omega⟩)) (rk_recv hK hW8 0 (by decide) rfl rfl rfl) ⟨hW8, hG11⟩ rfl rfl hl.1 (Nat.le_of_ble_eq_true rfl) dX3_solves_6 ⟨Nat.zero_le _, Nat.zero_le _⟩ (fun ov9 H18 locs19 hP20 hkp21 hS22 => ?_)
    obtain ⟨rfl, hW23, hz24⟩ := hP20
    have hW25 := rg_keepA hW10 hkp21 (by intro z h1 h2 h3; have h8 := h3.1; have h9 := h3.2; omega)
    have hG26 := GO_keepA hG11 hkp21 (Nat.le_trans (show gB G ≤ s.heap.size by omega) hS7.1) (by intro z h3; have h8 := h3.1; have h9 := h3.2; omega)
    have hz27 : H18.size = s.heap.size + rc13 := by omega
    refine W.eq (g2 := F0 m 9 ls []) rfl ?_
    refine lv_aload_n (pc := 9) hx hb dX3_solves_9 rfl (lv_at hl 0 rfl) ?_
    obtain ⟨r28, hq29, hm⟩ := ob_some hm
    refine rk_PV (pc := 10) (As := []) (rest := []) hx hb hml hown hts hK lkX3_171 rfl yn_X3_brokenRow (ct_X3_brokenRow (G := G) (l := l) (b0 := b0) hq29) ⟨Nat.le_of_ble_eq_true rfl, Nat.le_of_ble_eq_true rfl⟩ (rk_recv hK hW23 0 (by decide) rfl rfl rfl) hW23 rfl rfl hl.1 (Nat.le_of_ble_eq_true rfl) dX3_solves_10 ⟨Nat.zero_le _, Nat.zero_le _⟩ ?_
    refine W.eq (g2 := F0 m 13 ls [.int r28]) rfl ?_
    refine lv_istore_n (pc := 13) (lv' := [(3, .int r28), (0, .ref b0), (1, .ref b1), (2, .int i2)]) hx hb dX3_solves_13 rfl hl (by decide) rfl (fun ls hl => ?_)
    exact (w_fX3_solves_14_l C hd01 he0 he1 hZ hgb0 hgb1 ht FU) w14 rc13 i2 r28 hm H18 locs19 ls hW23 hW25 hS22 hz27 hG26 (lv_sub hl [1, 2, 3, 0] rfl)
  · have hok := eq_false_of_ne_true hok
    subst hok
    have hm := ite_f Bool.false_ne_true hm
    refine rk_XV (pc := 6) (As := []) (rest := []) (mc := 1) (ms := 7) hx hb hml hown hts hK hS7 (fun q hq => FA_sz rfl q hq) lkX3_168 rfl yn_X3_repairs (ct_X3_repairs (G := G) (l := l) (rok := false) (b0 := b0) (sz := H3.size) hq17 hZ (by omega)) ⟨Nat.le_of_ble_eq_true rfl, Nat.le_of_ble_eq_true rfl⟩ (fun z h => Or.inl (show iv _ _ _ from ⟨by have h8 := h.1; have h9 := h.2; omega, by have h8 := h.1; have h9 := h.2; omega⟩)) (rk_recv hK hW8 0 (by decide) rfl rfl rfl) ⟨hW8, hG11⟩ rfl rfl hl.1 (Nat.le_of_ble_eq_true rfl) dX3_solves_6 ⟨Nat.le_of_ble_eq_true rfl, Nat.le_of_ble_eq_true rfl⟩ (fun q35 E9 ce9 H30 locs31 hP32 hkp33 hS34 hce9 hcv9 hcl9 => ?_)
    obtain ⟨rfl, hqq35, ⟨wx37, hW38, hre39⟩, hW36, hz40⟩ := hP32
    have hqq35 : s.heap.size ≤ q35 := Nat.le_trans hS7.1 hqq35
    have hW41 := rg_keepA hW10 hkp33 (by intro z h1 h2 h3; have h8 := h3.1; have h9 := h3.2; omega)
    have hG42 := GO_keepA hG11 hkp33 (Nat.le_trans (show gB G ≤ s.heap.size by omega) hS7.1) (by intro z h3; have h8 := h3.1; have h9 := h3.2; omega)
    have hz43 : H30.size = s.heap.size + rc13 := by omega
    obtain ⟨ce8, hce8, hcv8, hcl8⟩ := rk_exc hK hW38 rfl rfl
    refine rk_catch hK hown hts ht [] ⟨5, 28, 49, 108⟩ [⟨29, 48, 49, 108⟩] rfl (by decide) (by decide) (by decide) q776 q818 hce8 hcv8 hcl8 49 rfl ?_
    refine lv_astore_n (pc := 49) (lv' := [(3, .ref q35), (0, .ref b0), (1, .ref b1), (2, .int i2)]) hx hb dX3_solves_49 rfl hl (by decide) rfl (fun ls hl => ?_)
    refine lv_aload_n (pc := 50) hx hb dX3_solves_50 rfl (lv_at hl 0 rfl) ?_
    refine rk_getN (pc := 51) hx hb hts hown hK hW38 fnX3_177 0 (by decide) rfl rfl (x := .int re16) (congrArg (fun z => some (Value.int z)) hre39) dX3_solves_51 ?_
    obtain ⟨e7, e8, e9⟩ := rs3 hm
    subst e7
    subst e8
    subst e9
    exact rk_iretA (pc := 54) hx hb hr hlk hS34 ⟨rfl, hW36, hz43⟩ dX3_solves_54 (by exact Nat.le_of_ble_eq_true rfl) (by exact Nat.le_of_ble_eq_true rfl)
set_option maxHeartbeats 4000000 in
theorem ct_X3_solves {G : Gv} {l : Launch} {b0 : Nat} {b1 : Nat} {V1 : Mem} {v0 : Mem} {i2 : Int32} {rx : Int32} {rc : Nat} {rw0 : Mem} {sz : Nat} (hm : fX3_solves V1 v0 i2 = some (rx, rc, rw0)) (hd01 : b0 + 43 ≤ b1 ∨ b1 + 22 ≤ b0) (hZ : ZQ G) (hgb0 : gB G ≤ b0) (hgb1 : gB G ≤ b1) : CT G l yX3_solves (wsW_ yX3_solves cX3_solves 4 (some .int) [(5, 28, 49, 108), (29, 48, 49, 108)]) 6 1 7 131 [.ref b0, .ref b1, .int i2] (iv b0 43) sz (fun H => rg G b0 43 (shX3 G.2.1) v0 H ∧ rg G b1 22 (shX1 G.2.1) V1 H ∧ GO G H) (fun ov H => ov = (some (.int rx)) ∧ rg G b0 43 (shX3 G.2.1) rw0 H ∧ H.size = sz + rc) := by
  refine va_MetW (cc := cX3_solves) (maxL := 4) (ret := (some .int)) (by decide +kernel) rfl ?_
  intro p e s m args below meth c s₁ B hml hv
  obtain ⟨rfl, ⟨hz, hW0, hW1, hG⟩, hK⟩ := hv
  subst hz
  have he0 := rg_end hW0 42 (by decide) rfl (fun _ _ _ => rfl)
  have he1 := rg_end hW1 21 (by decide) rfl (fun _ _ _ => rfl)
  have ht := vx_table (x := yX3_solves) B (atoms_spec (ws := wsW_ yX3_solves cX3_solves 4 (some .int) [(5, 28, 49, 108), (29, 48, 49, 108)]) B.pre _ List.mem_cons_self)
  have hts := atoms_spec (ws := wsW_ yX3_solves cX3_solves 4 (some .int) [(5, 28, 49, 108), (29, 48, 49, 108)]) B.pre
  have hts : ∀ w ∈ lw_all, w.before _ s = true := fun w h => hts w (List.mem_cons_of_mem _ h)
  have C : Cx G p s m _ meth c RX3 cX3_solves 4 (some .int) := ⟨B.exec, B.bytes, B.returns, B.notSynchronized, hml, findClass_of_methodNamed B.named, hts, hK⟩
  have hl := lv_entry ([.ref b0, .ref b1, .int i2]) (n := 4) (Nat.le_of_ble_eq_true rfl)
  rw [lg_entry_eq]
  generalize (lg_sl ([.ref b0, .ref b1, .int i2]) ++ List.replicate (4 - (lg_sl ([.ref b0, .ref b1, .int i2])).length) Slot.unset).toArray = ls at hl ⊢
  have hl : lv_has ls 4 [(0, .ref b0), (1, .ref b1), (2, .int i2)] := hl
  exact w_fX3_solves C hd01 he0 he1 hZ hgb0 hgb1 ht _ _ hm s.heap [] ls hW0 hW1 va_S.rf rfl hG hl
noncomputable def fX3_rise_2 (V0 : Mem) (k2 : Int32 → Int32 → Option (Int64)) (i1 : Int32) (i2 : Int32) : Option (Int64) :=
  if (gI V0 0 0) ≤ i2 then (
  some (0 : Int64))
  else (
  gb (inR i2 5) (
  if (gI V0 5 i2.toNatClampNeg) = i1 then (
  gb (inR i2 5) (
  some (gL V0 3 i2.toNatClampNeg)))
  else (
  k2 i1 (i2 + (1 : Int32)))))
noncomputable def fX3_rise (V0 : Mem) (i1 : Int32) : Option (Int64) :=
  lq2 (fX3_rise_2 V0) FU i1 (0 : Int32)
set_option maxHeartbeats 4000000 in
theorem w_fX3_rise_2 (C : Cx G p s m args meth c RX3 cX3_rise 3 (some .long)) {b0 : Nat} {V0 : Mem} {rx : Int64} (hW0 : rg G b0 43 (shX3 G.2.1) V0 s.heap) {k2 : Int32 → Int32 → Option (Int64)} (hk2 : ∀ (i1 : Int32) (i2 : Int32), k2 i1 i2 = some rx → ∀ (ls : Array Slot), lv_has ls 3 [(0, .ref b0), (1, .int i1), (2, .int i2)] → W p l e (rmP 0 0) s m args below meth c s.heap [] 0 0 (MQ below (QcP (some (.long rx))) args s 0 0 (fun _ => False)) (F0 m 2 ls [])) : ∀ (i1 : Int32) (i2 : Int32), fX3_rise_2 V0 k2 i1 i2 = some rx → ∀ (ls : Array Slot), lv_has ls 3 [(0, .ref b0), (1, .int i1), (2, .int i2)] → W p l e (rmP 0 0) s m args below meth c s.heap [] 0 0 (MQ below (QcP (some (.long rx))) args s 0 0 (fun _ => False)) (F0 m 2 ls []) := by
  intro i1 i2 hm ls hl
  obtain ⟨hx, hb, hr, hlk, hml, hown, hts, hK⟩ := id C
  unfold fX3_rise_2 at hm
  refine lv_iload_n (pc := 2) hx hb dX3_rise_2 rfl (lv_at hl 2 rfl) ?_
  refine lv_aload_n (pc := 3) hx hb dX3_rise_3 rfl (lv_at hl 0 rfl) ?_
  refine rk_get (pc := 4) hx hb hts hown hK hW0 flX3_44 0 (by decide) rfl rfl (x := .int (gI V0 0 0)) rfl dX3_rise_4 ?_
  refine lv_icmp_ge (pc := 7) (tgt := 33) hx hb dX3_rise_7 (by decide) (fun c1 => ?_) (fun c1 => ?_)
  · have hm := ite_t c1 hm
    refine lv_lconst (pc := 33) (v := (0 : Int64)) hx hb dX3_rise_33 (by decide) ?_
    have e9 := rs1 hm
    subst e9
    exact rk_lretP (pc := 34) hx hb hr hlk rfl dX3_rise_34
  · have hm := ite_f c1 hm
    refine lv_aload_n (pc := 10) hx hb dX3_rise_10 rfl (lv_at hl 0 rfl) ?_
    refine rk_get (pc := 11) hx hb hts hown hK hW0 flX3_25 0 (by decide) rfl rfl (x := .ref (b0 + 5)) (by first | rfl | exact congrArg (fun z => some (Value.ref z)) (by omega)) dX3_rise_11 ?_
    refine lv_iload_n (pc := 14) hx hb dX3_rise_14 rfl (lv_at hl 2 rfl) ?_
    obtain ⟨hg2, hm⟩ := gb_some hm
    refine rk_iald (pc := 15) hx hb hK hW0 5 (by decide) rfl rfl hg2 (x := (gI V0 5 i2.toNatClampNeg)) rfl dX3_rise_15 ?_
    refine lv_iload_n (pc := 16) hx hb dX3_rise_16 rfl (lv_at hl 1 rfl) ?_
    refine lv_icmp_ne (pc := 17) (tgt := 27) hx hb dX3_rise_17 (by decide) (fun c3 => ?_) (fun c3 => ?_)
    · have hm := ite_f c3 hm
      refine lv_iinc (pc := 27) (v := (i2 + (1 : Int32))) (lv' := [(2, .int (i2 + (1 : Int32))), (0, .ref b0), (1, .int i1)]) hx hb dX3_rise_27 hl (k := 2) rfl rfl (by decide) rfl (fun ls hl => ?_)
      refine lv_goto (pc := 30) (tgt := 2) hx hb dX3_rise_30 (by decide) ?_
      exact hk2 i1 (i2 + (1 : Int32)) hm ls (lv_sub hl [1, 2, 0] rfl)
    · have hm := ite_t c3 hm
      refine lv_aload_n (pc := 20) hx hb dX3_rise_20 rfl (lv_at hl 0 rfl) ?_
      refine rk_get (pc := 21) hx hb hts hown hK hW0 flX3_18 0 (by decide) rfl rfl (x := .ref (b0 + 3)) (by first | rfl | exact congrArg (fun z => some (Value.ref z)) (by omega)) dX3_rise_21 ?_
      refine lv_iload_n (pc := 24) hx hb dX3_rise_24 rfl (lv_at hl 2 rfl) ?_
      obtain ⟨hg4, hm⟩ := gb_some hm
      refine rk_lald (pc := 25) hx hb hK hW0 3 (by decide) rfl rfl hg4 (x := (gL V0 3 i2.toNatClampNeg)) rfl dX3_rise_25 ?_
      have e9 := rs1 hm
      subst e9
      exact rk_lretP (pc := 26) hx hb hr hlk rfl dX3_rise_26
theorem w_fX3_rise_2_l (C : Cx G p s m args meth c RX3 cX3_rise 3 (some .long)) {b0 : Nat} {V0 : Mem} {rx : Int64} (hW0 : rg G b0 43 (shX3 G.2.1) V0 s.heap) : ∀ (n : Nat) (i1 : Int32) (i2 : Int32), lq2 (fX3_rise_2 V0) n i1 i2 = some rx → ∀ (ls : Array Slot), lv_has ls 3 [(0, .ref b0), (1, .int i1), (2, .int i2)] → W p l e (rmP 0 0) s m args below meth c s.heap [] 0 0 (MQ below (QcP (some (.long rx))) args s 0 0 (fun _ => False)) (F0 m 2 ls []) := by
  intro n
  induction n with
  | zero => intro i1 i2 hm; exact (lq2_0 hm).elim
  | succ n ih => intro i1 i2 hm; exact w_fX3_rise_2 C hW0 ih i1 i2 (lq2_s hm)
set_option maxHeartbeats 4000000 in
theorem w_fX3_rise (C : Cx G p s m args meth c RX3 cX3_rise 3 (some .long)) {b0 : Nat} {V0 : Mem} {rx : Int64} (hW0 : rg G b0 43 (shX3 G.2.1) V0 s.heap) : ∀ (i1 : Int32), fX3_rise V0 i1 = some rx → ∀ (ls : Array Slot), lv_has ls 3 [(0, .ref b0), (1, .int i1)] → W p l e (rmP 0 0) s m args below meth c s.heap [] 0 0 (MQ below (QcP (some (.long rx))) args s 0 0 (fun _ => False)) (F0 m 0 ls []) := by
  intro i1 hm ls hl
  obtain ⟨hx, hb, hr, hlk, hml, hown, hts, hK⟩ := id C
  unfold fX3_rise at hm
  refine lv_iconst (pc := 0) (v := (0 : Int32)) hx hb dX3_rise_0 (by decide) ?_
  refine lv_istore_n (pc := 1) (lv' := [(2, .int (0 : Int32)), (0, .ref b0), (1, .int i1)]) hx hb dX3_rise_1 rfl hl (by decide) rfl (fun ls hl => ?_)
  exact (w_fX3_rise_2_l C hW0 FU) i1 (0 : Int32) hm ls (lv_sub hl [1, 2, 0] rfl)
set_option maxHeartbeats 4000000 in
theorem ct_X3_rise {G : Gv} {l : Launch} {b0 : Nat} {V0 : Mem} {i1 : Int32} {rx : Int64} (hm : fX3_rise V0 i1 = some rx) : CP G l yX3_rise (ws_ yX3_rise cX3_rise 3 (some .long)) 0 0 [.ref b0, .int i1] (fun H => rg G b0 43 (shX3 G.2.1) V0 H) (some (.long rx)) := by
  refine Met.ofW (cc := cX3_rise) (maxL := 3) (ret := (some .long)) (by decide +kernel) rfl ?_
  intro p e s m args below meth c s₁ B hml hv
  obtain ⟨rfl, hW0, hK⟩ := hv
  have hts := atoms_spec (ws := ws_ yX3_rise cX3_rise 3 (some .long)) B.pre
  have hts : ∀ w ∈ lw_all, w.before _ s = true := fun w h => hts w (List.mem_cons_of_mem _ h)
  have C : Cx G p s m _ meth c RX3 cX3_rise 3 (some .long) := ⟨B.exec, B.bytes, B.returns, B.notSynchronized, hml, findClass_of_methodNamed B.named, hts, hK⟩
  have hl := lv_entry ([.ref b0, .int i1]) (n := 3) (Nat.le_of_ble_eq_true rfl)
  rw [lg_entry_eq]
  generalize (lg_sl ([.ref b0, .int i1]) ++ List.replicate (3 - (lg_sl ([.ref b0, .int i1])).length) Slot.unset).toArray = ls at hl ⊢
  have hl : lv_has ls 3 [(0, .ref b0), (1, .int i1)] := hl
  exact w_fX3_rise C hW0 _ hm ls hl
theorem yn_X3_solves : YN yX3_solves 2 := by
  unfold YN
  decide +kernel
theorem lkX3_186 : LVW RX3 186 RX3 yX3_solves cX3_solves 4 (some .int) [(5, 28, 49, 108), (29, 48, 49, 108)] := ⟨q1295, q773, q774, q117, q775⟩
noncomputable def fX3_worth (V1 : Mem) (v0 : Mem) : Option (Int32 × Nat × Mem) :=
  ob3 (fX3_solves V1 v0 (12 : Int32)) fun r1 rc2 w3 =>
  if r1 = (1 : Int32) then (
  gb (nz64 (gL w3 0 4)) (
  some (((gL w3 0 5) / (gL w3 0 4)).toInt32, rc2, w3)))
  else (
  if r1 = 0 then (
  some ((-5 : Int32), rc2, w3))
  else (
  some ((-6 : Int32), rc2, w3)))
set_option maxHeartbeats 4000000 in
theorem w_fX3_worth (C : Cx G p s m args meth c RX3 cX3_worth 3 (some .int)) {b0 : Nat} {b1 : Nat} {V1 : Mem} {rx : Int32} {rc : Nat} {rw0 : Mem} (hd01 : b0 + 43 ≤ b1 ∨ b1 + 22 ≤ b0) (he0 : b0 + 43 ≤ s.heap.size) (he1 : b1 + 22 ≤ s.heap.size) (hZ : ZQ G) (hgb0 : gB G ≤ b0) (hgb1 : gB G ≤ b1) : ∀ (v0 : Mem), fX3_worth V1 v0 = some (rx, rc, rw0) → ∀ (H : Heap) (locs : List Loc) (ls : Array Slot), rg G b0 43 (shX3 G.2.1) v0 H → rg G b1 22 (shX1 G.2.1) V1 H → va_S (FA (iv b0 43) s.heap.size) s.heap H locs → H.size = s.heap.size + 0 → GO G H → lv_has ls 3 [(0, .ref b0), (1, .ref b1)] → W p l e (rmT 7 1 7 154) s m args below meth c H locs 0 0 (MQ below (QcT (FA (iv b0 43) s.heap.size) (fun ov H => ov = (some (.int rx)) ∧ rg G b0 43 (shX3 G.2.1) rw0 H ∧ H.size = s.heap.size + rc)) args s 1 7 (FA (iv b0 43) s.heap.size)) (F0 m 0 ls []) := by
  intro v0 hm H locs ls hW0 hW1 hS hz hG hl
  obtain ⟨hx, hb, hr, hlk, hml, hown, hts, hK⟩ := id C
  unfold fX3_worth at hm
  refine lv_aload_n (pc := 0) hx hb dX3_worth_0 rfl (lv_at hl 0 rfl) ?_
  refine lv_aload_n (pc := 1) hx hb dX3_worth_1 rfl (lv_at hl 1 rfl) ?_
  refine lv_bipush (pc := 2) (v := (12 : Int32)) hx hb dX3_worth_2 (by decide) ?_
  obtain ⟨r1, rc2, w3, hq4, hm⟩ := ob3_some hm
  refine rk_TVW (pc := 4) (As := [.ref b1, .int (12 : Int32)]) (rest := []) (mc := 1) (ms := 7) hx hb hml hown hts hK hS (fun q hq => FA_sz rfl q hq) lkX3_186 rfl yn_X3_solves (ct_X3_solves (G := G) (l := l) (b0 := b0) (b1 := b1) (sz := H.size) hq4 (by omega) hZ (by omega) (by omega)) ⟨Nat.le_of_ble_eq_true rfl, Nat.le_of_ble_eq_true rfl⟩ (fun z h => Or.inl (show iv _ _ _ from ⟨by have h8 := h.1; have h9 := h.2; omega, by have h8 := h.1; have h9 := h.2; omega⟩)) (rk_recv hK hW0 0 (by decide) rfl rfl rfl) ⟨hW0, hW1, hG⟩ rfl rfl hl.1 (Nat.le_of_ble_eq_true rfl) dX3_worth_4 ⟨Nat.le_of_ble_eq_true rfl, Nat.le_of_ble_eq_true rfl⟩ (fun ov9 H5 locs6 hP7 hkp8 hS9 => ?_)
  obtain ⟨rfl, hW10, hz11⟩ := hP7
  have hW12 := rg_keepA hW1 hkp8 (by intro z h1 h2 h3; have h8 := h3.1; have h9 := h3.2; omega)
  have hG13 := GO_keepA hG hkp8 (Nat.le_trans (show gB G ≤ s.heap.size by omega) hS.1) (by intro z h3; have h8 := h3.1; have h9 := h3.2; omega)
  have hz14 : H5.size = s.heap.size + rc2 := by omega
  refine W.eq (g2 := F0 m 7 ls [.int r1]) rfl ?_
  refine lv_istore_n (pc := 7) (lv' := [(2, .int r1), (0, .ref b0), (1, .ref b1)]) hx hb dX3_worth_7 rfl hl (by decide) rfl (fun ls hl => ?_)
  refine lv_iload_n (pc := 8) hx hb dX3_worth_8 rfl (lv_at hl 0 rfl) ?_
  refine lv_iconst (pc := 9) (v := (1 : Int32)) hx hb dX3_worth_9 (by decide) ?_
  refine lv_icmp_ne (pc := 10) (tgt := 26) hx hb dX3_worth_10 (by decide) (fun c15 => ?_) (fun c15 => ?_)
  · have hm := ite_f c15 hm
    refine lv_iload_n (pc := 26) hx hb dX3_worth_26 rfl (lv_at hl 0 rfl) ?_
    refine lv_if_ne (pc := 27) (tgt := 35) hx hb dX3_worth_27 (by decide) (fun c16 => ?_) (fun c16 => ?_)
    · have hm := ite_f c16 hm
      refine lv_bipush (pc := 35) (v := (-6 : Int32)) hx hb dX3_worth_35 (by decide) ?_
      obtain ⟨e7, e8, e9⟩ := rs3 hm
      subst e7
      subst e8
      subst e9
      exact rk_iretA (pc := 37) hx hb hr hlk hS9 ⟨rfl, hW10, hz14⟩ dX3_worth_37 (by exact Nat.le_of_ble_eq_true rfl) (by exact Nat.le_of_ble_eq_true rfl)
    · have hm := ite_t c16 hm
      refine lv_bipush (pc := 30) (v := (-5 : Int32)) hx hb dX3_worth_30 (by decide) ?_
      refine lv_goto (pc := 32) (tgt := 37) hx hb dX3_worth_32 (by decide) ?_
      obtain ⟨e7, e8, e9⟩ := rs3 hm
      subst e7
      subst e8
      subst e9
      exact rk_iretA (pc := 37) hx hb hr hlk hS9 ⟨rfl, hW10, hz14⟩ dX3_worth_37 (by exact Nat.le_of_ble_eq_true rfl) (by exact Nat.le_of_ble_eq_true rfl)
  · have hm := ite_t c15 hm
    refine lv_aload_n (pc := 13) hx hb dX3_worth_13 rfl (lv_at hl 1 rfl) ?_
    refine rk_get (pc := 14) hx hb hts hown hK hW10 flX3_55 0 (by decide) rfl rfl (x := .long (gL w3 0 5)) rfl dX3_worth_14 ?_
    refine lv_aload_n (pc := 17) hx hb dX3_worth_17 rfl (lv_at hl 1 rfl) ?_
    refine rk_get (pc := 18) hx hb hts hown hK hW10 flX3_51 0 (by decide) rfl rfl (x := .long (gL w3 0 4)) rfl dX3_worth_18 ?_
    obtain ⟨hg17, hm⟩ := gb_some hm
    refine lv_ldiv (pc := 21) hx hb dX3_worth_21 (nz64_ne hg17) ?_
    refine lv_l2i (pc := 22) hx hb dX3_worth_22 rfl ?_
    refine lv_goto (pc := 23) (tgt := 37) hx hb dX3_worth_23 (by decide) ?_
    obtain ⟨e7, e8, e9⟩ := rs3 hm
    subst e7
    subst e8
    subst e9
    exact rk_iretA (pc := 37) hx hb hr hlk hS9 ⟨rfl, hW10, hz14⟩ dX3_worth_37 (by exact Nat.le_of_ble_eq_true rfl) (by exact Nat.le_of_ble_eq_true rfl)
set_option maxHeartbeats 4000000 in
theorem ct_X3_worth {G : Gv} {l : Launch} {b0 : Nat} {b1 : Nat} {V1 : Mem} {v0 : Mem} {rx : Int32} {rc : Nat} {rw0 : Mem} {sz : Nat} (hm : fX3_worth V1 v0 = some (rx, rc, rw0)) (hd01 : b0 + 43 ≤ b1 ∨ b1 + 22 ≤ b0) (hZ : ZQ G) (hgb0 : gB G ≤ b0) (hgb1 : gB G ≤ b1) : CT G l yX3_worth (ws_ yX3_worth cX3_worth 3 (some .int)) 7 1 7 154 [.ref b0, .ref b1] (iv b0 43) sz (fun H => rg G b0 43 (shX3 G.2.1) v0 H ∧ rg G b1 22 (shX1 G.2.1) V1 H ∧ GO G H) (fun ov H => ov = (some (.int rx)) ∧ rg G b0 43 (shX3 G.2.1) rw0 H ∧ H.size = sz + rc) := by
  refine Met.ofW (cc := cX3_worth) (maxL := 3) (ret := (some .int)) (by decide +kernel) rfl ?_
  intro p e s m args below meth c s₁ B hml hv
  obtain ⟨rfl, ⟨hz, hW0, hW1, hG⟩, hK⟩ := hv
  subst hz
  have he0 := rg_end hW0 42 (by decide) rfl (fun _ _ _ => rfl)
  have he1 := rg_end hW1 21 (by decide) rfl (fun _ _ _ => rfl)
  have hts := atoms_spec (ws := ws_ yX3_worth cX3_worth 3 (some .int)) B.pre
  have hts : ∀ w ∈ lw_all, w.before _ s = true := fun w h => hts w (List.mem_cons_of_mem _ h)
  have C : Cx G p s m _ meth c RX3 cX3_worth 3 (some .int) := ⟨B.exec, B.bytes, B.returns, B.notSynchronized, hml, findClass_of_methodNamed B.named, hts, hK⟩
  have hl := lv_entry ([.ref b0, .ref b1]) (n := 3) (Nat.le_of_ble_eq_true rfl)
  rw [lg_entry_eq]
  generalize (lg_sl ([.ref b0, .ref b1]) ++ List.replicate (3 - (lg_sl ([.ref b0, .ref b1])).length) Slot.unset).toArray = ls at hl ⊢
  have hl : lv_has ls 3 [(0, .ref b0), (1, .ref b1)] := hl
  exact w_fX3_worth C hd01 he0 he1 hZ hgb0 hgb1 _ hm s.heap [] ls hW0 hW1 va_S.rf rfl hG hl
end
