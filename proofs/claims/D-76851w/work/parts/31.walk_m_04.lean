set_option maxRecDepth 100000
section
variable {p : Program} {l : Launch} {e : Env} {s : State} {m : MethodId} {args : Array Value} {below : List Frame} {meth : Method} {c : Code} {G : Gv}
theorem yn_X9_tells : YN yX9_tells 2 := by
  unfold YN
  decide +kernel
theorem lkX9_270 : LV RX9 270 RX9 yX9_tells cX9_tells 11 (some .boolean) := ⟨q2079, q2081, qs81, q128, q2082⟩
theorem fnX9_277 : FN RX9 277 10 11 RX10 TX10 20 "WholePacksModel" := ⟨in_X10, rfl, by decide, q1774⟩
theorem yn_J7_floorMod : YN yJ7_floorMod 2 := by
  unfold YN
  decide +kernel
theorem lkX9_280 : LSt RX9 280 yJ7_floorMod cJ7_floorMod 6 (some .long) := ⟨q2092, q879, q136, q880⟩
theorem fnX9_274 : FN RX9 274 10 10 RX10 TX10 20 "WholePacksModel" := ⟨in_X10, rfl, by decide, q1772⟩
noncomputable def fX9_slot (i0 : Int32) : Option (Int32) :=
  if (20 : Int32) ≤ i0 then (
  some (((8 : Int32) + i0) - (20 : Int32)))
  else (
  some (i0 - (10 : Int32)))
set_option maxHeartbeats 4000000 in
theorem w_fX9_slot (C : Cx G p s m args meth c RX9 cX9_slot 1 (some .int)) {rx : Int32} : ∀ (i0 : Int32), fX9_slot i0 = some rx → ∀ (ls : Array Slot), lv_has ls 1 [(0, .int i0)] → W p l e (rmP 0 0) s m args below meth c s.heap [] 0 0 (MQ below (QcP (some (.int rx))) args s 0 0 (fun _ => False)) (F0 m 0 ls []) := by
  intro i0 hm ls hl
  obtain ⟨hx, hb, hr, hlk, hml, hown, hts, hK⟩ := id C
  unfold fX9_slot at hm
  refine lv_iload_n (pc := 0) hx hb dX9_slot_0 rfl (lv_at hl 0 rfl) ?_
  refine lv_bipush (pc := 1) (v := (20 : Int32)) hx hb dX9_slot_1 (by decide) ?_
  refine lv_icmp_ge (pc := 3) (tgt := 13) hx hb dX9_slot_3 (by decide) (fun c1 => ?_) (fun c1 => ?_)
  · have hm := ite_t c1 hm
    refine lv_bipush (pc := 13) (v := (8 : Int32)) hx hb dX9_slot_13 (by decide) ?_
    refine lv_iload_n (pc := 15) hx hb dX9_slot_15 rfl (lv_at hl 0 rfl) ?_
    refine lv_iadd (pc := 16) hx hb dX9_slot_16 ?_
    refine lv_bipush (pc := 17) (v := (20 : Int32)) hx hb dX9_slot_17 (by decide) ?_
    refine lv_isub (pc := 19) hx hb dX9_slot_19 ?_
    have e9 := rs1 hm
    subst e9
    exact rk_iretP (pc := 20) hx hb hr hlk rfl dX9_slot_20
  · have hm := ite_f c1 hm
    refine lv_iload_n (pc := 6) hx hb dX9_slot_6 rfl (lv_at hl 0 rfl) ?_
    refine lv_bipush (pc := 7) (v := (10 : Int32)) hx hb dX9_slot_7 (by decide) ?_
    refine lv_isub (pc := 9) hx hb dX9_slot_9 ?_
    refine lv_goto (pc := 10) (tgt := 20) hx hb dX9_slot_10 (by decide) ?_
    have e9 := rs1 hm
    subst e9
    exact rk_iretP (pc := 20) hx hb hr hlk rfl dX9_slot_20
set_option maxHeartbeats 4000000 in
theorem ct_X9_slot {G : Gv} {l : Launch} {i0 : Int32} {rx : Int32} (hm : fX9_slot i0 = some rx) : CP G l yX9_slot (ws_ yX9_slot cX9_slot 1 (some .int)) 0 0 [.int i0] (fun H => True) (some (.int rx)) := by
  refine Met.ofW (cc := cX9_slot) (maxL := 1) (ret := (some .int)) (by decide +kernel) rfl ?_
  intro p e s m args below meth c s₁ B hml hv
  obtain ⟨rfl, -, hK⟩ := hv
  have hts := atoms_spec (ws := ws_ yX9_slot cX9_slot 1 (some .int)) B.pre
  have hts : ∀ w ∈ lw_all, w.before _ s = true := fun w h => hts w (List.mem_cons_of_mem _ h)
  have C : Cx G p s m _ meth c RX9 cX9_slot 1 (some .int) := ⟨B.exec, B.bytes, B.returns, B.notSynchronized, hml, findClass_of_methodNamed B.named, hts, hK⟩
  have hl := lv_entry ([.int i0]) (n := 1) (Nat.le_of_ble_eq_true rfl)
  rw [lg_entry_eq]
  generalize (lg_sl ([.int i0]) ++ List.replicate (1 - (lg_sl ([.int i0])).length) Slot.unset).toArray = ls at hl ⊢
  have hl : lv_has ls 1 [(0, .int i0)] := hl
  exact w_fX9_slot C _ hm ls hl
theorem yn_X9_slot : YN yX9_slot 1 := by
  unfold YN
  decide +kernel
theorem lkX9_283 : LSt RX9 283 yX9_slot cX9_slot 1 (some .int) := ⟨q2093, q2094, q128, q2095⟩
noncomputable def fX9_cuts_81 (V0 : Mem) (k81 : Mem → Int32 → Int32 → Int32 → Option (Int32 × Mem)) (v1 : Mem) (i2 : Int32) (i3 : Int32) (i4 : Int32) : Option (Int32 × Mem) :=
  if (gI v1 0 14) ≤ i4 then (
  lm (sI v1 0 16 ((gI v1 0 16) + (1 : Int32))) fun v1_50 =>
  some ((1 : Int32), v1_50))
  else (
  gb (inR (((5 : Int32) * i2) + i4) 100) (
  ob (fJ7_floorMod (gL v1 1 (((5 : Int32) * i2) + i4).toNatClampNeg) (gL v1 0 13)) fun r60 =>
  gb (inR (((5 : Int32) * ((gI v1 0 15) - (1 : Int32))) + i4) 100) (
  lm (sL v1 1 (((5 : Int32) * ((gI v1 0 15) - (1 : Int32))) + i4).toNatClampNeg (-r60)) fun v1_63 =>
  gb (inR i4 5) (
  if (gI v1_63 8 i4.toNatClampNeg) < (10 : Int32) then (
  k81 v1_63 i2 i3 (i4 + (1 : Int32)))
  else (
  gb (inR i4 5) (
  ob (fX9_slot (gI v1_63 8 i4.toNatClampNeg)) fun r75 =>
  gb (inR (((20 : Int32) * i3) + r75) 240) (
  lm (sL v1_63 11 (((20 : Int32) * i3) + r75).toNatClampNeg r60) fun v1_78 =>
  k81 v1_78 i2 i3 (i4 + (1 : Int32)))))))))
noncomputable def fX9_cuts_19 (V0 : Mem) (k19 : Mem → Int32 → Int32 → Int32 → Option (Int32 × Mem)) (v1 : Mem) (i2 : Int32) (i3 : Int32) (i4 : Int32) : Option (Int32 × Mem) :=
  if (20 : Int32) ≤ i4 then (
  gb (inR i3 12) (
  lm (sL v1 12 i3.toNatClampNeg (gL v1 0 13)) fun v1_16 =>
  gb (inR i2 20) (
  ob (fJ7_floorMod (gL v1_16 2 i2.toNatClampNeg) (gL v1_16 0 13)) fun r26 =>
  ob (fX9_addsRow V0 v1_16 ((20 : Int32) + i3) (-r26)) fun w28 =>
  lq4 (fX9_cuts_81 V0) FU w28 i2 i3 (0 : Int32))))
  else (
  gb (inR (((20 : Int32) * i3) + i4) 240) (
  lm (sL v1 11 (((20 : Int32) * i3) + i4).toNatClampNeg (0 : Int64)) fun v1_40 =>
  k19 v1_40 i2 i3 (i4 + (1 : Int32))))
noncomputable def fX9_cuts (V0 : Mem) (v1 : Mem) (i2 : Int32) : Option (Int32 × Mem) :=
  ob2 (fX9_tells V0 v1 i2) fun r1 w2 =>
  if r1 = 0 then (
  some ((0 : Int32), w2))
  else (
  lq4 (fX9_cuts_19 V0) FU w2 i2 (gI w2 0 16) (0 : Int32))
set_option maxHeartbeats 4000000 in
theorem w_fX9_cuts_81 (C : Cx G p s m args meth c RX9 cX9_cuts 7 (some .boolean)) {b0 : Nat} {b1 : Nat} {V0 : Mem} {rx : Int32} {rw1 : Mem} (hd01 : b0 + 6 ≤ b1 ∨ b1 + 13 ≤ b0) {k81 : Mem → Int32 → Int32 → Int32 → Option (Int32 × Mem)} (hk81 : ∀ (v1 : Mem) (i2 : Int32) (i3 : Int32) (i4 : Int32), k81 v1 i2 i3 i4 = some (rx, rw1) → ∀ (H : Heap) (locs : List Loc) (ls : Array Slot), rg G b0 6 (shX9 G.2.1) V0 H → rg G b1 13 (shX10 G.2.1) v1 H → va_S (FA (iv b1 13) s.heap.size) s.heap H locs → H.size = s.heap.size → lv_has ls 7 [(1, .ref b1), (2, .int i2), (3, .int i3), (4, .int i4)] → W p l e (rmT 4 0 0 97) s m args below meth c H locs 0 0 (MQ below (QcT (FA (iv b1 13) s.heap.size) (fun ov H => ov = (some (.int rx)) ∧ rg G b1 13 (shX10 G.2.1) rw1 H ∧ H.size = s.heap.size)) args s 0 0 (FA (iv b1 13) s.heap.size)) (F0 m 81 ls [])) : ∀ (v1 : Mem) (i2 : Int32) (i3 : Int32) (i4 : Int32), fX9_cuts_81 V0 k81 v1 i2 i3 i4 = some (rx, rw1) → ∀ (H : Heap) (locs : List Loc) (ls : Array Slot), rg G b0 6 (shX9 G.2.1) V0 H → rg G b1 13 (shX10 G.2.1) v1 H → va_S (FA (iv b1 13) s.heap.size) s.heap H locs → H.size = s.heap.size → lv_has ls 7 [(1, .ref b1), (2, .int i2), (3, .int i3), (4, .int i4)] → W p l e (rmT 4 0 0 97) s m args below meth c H locs 0 0 (MQ below (QcT (FA (iv b1 13) s.heap.size) (fun ov H => ov = (some (.int rx)) ∧ rg G b1 13 (shX10 G.2.1) rw1 H ∧ H.size = s.heap.size)) args s 0 0 (FA (iv b1 13) s.heap.size)) (F0 m 81 ls []) := by
  intro v1 i2 i3 i4 hm H locs ls hW0 hW1 hS hz hl
  obtain ⟨hx, hb, hr, hlk, hml, hown, hts, hK⟩ := id C
  unfold fX9_cuts_81 at hm
  refine lv_iload (pc := 81) hx hb dX9_cuts_81 (lv_at hl 3 rfl) ?_
  refine lv_aload_n (pc := 83) hx hb dX9_cuts_83 rfl (lv_at hl 0 rfl) ?_
  refine rk_getN (pc := 84) hx hb hts hown hK hW1 fnX9_172 0 (by decide) rfl rfl (x := .int (gI v1 0 14)) rfl dX9_cuts_84 ?_
  refine lv_icmp_ge (pc := 87) (tgt := 169) hx hb dX9_cuts_87 (by decide) (fun c49 => ?_) (fun c49 => ?_)
  · have hm := ite_t c49 hm
    refine lv_aload_n (pc := 169) hx hb dX9_cuts_169 rfl (lv_at hl 0 rfl) ?_
    refine lv_dup (pc := 170) hx hb dX9_cuts_170 rfl ?_
    refine rk_getN (pc := 171) hx hb hts hown hK hW1 fnX9_187 0 (by decide) rfl rfl (x := .int (gI v1 0 16)) rfl dX9_cuts_171 ?_
    refine lv_iconst (pc := 174) (v := (1 : Int32)) hx hb dX9_cuts_174 (by decide) ?_
    refine lv_iadd (pc := 175) hx hb dX9_cuts_175 ?_
    refine rk_putN (pc := 176) hx hb hts hown hK hW1 hS fnX9_187 ft_X10 0 (by decide) rfl (Or.inl (show iv _ _ _ from ⟨by omega, by omega⟩)) rfl rfl (x := .int ((gI v1 0 16) + (1 : Int32))) rfl rfl (Nat.le_of_ble_eq_true rfl) (sI v1 0 16 ((gI v1 0 16) + (1 : Int32))) sI_ne (by rw [sI_eq]; exact rfl) dX9_cuts_176 (fun H51 locs52 hW53 hS54 hz55 hkp56 => ?_)
    obtain ⟨v1_50, he9, hm⟩ := lm_some hm
    rw [he9] at hW53
    have hW57 := rg_keepq hW0 hkp56 (by omega)
    have hz58 := hz55.trans hz
    refine lv_iconst (pc := 179) (v := (1 : Int32)) hx hb dX9_cuts_179 (by decide) ?_
    obtain ⟨e8, e9⟩ := rs2 hm
    subst e8
    subst e9
    exact rk_zret (pc := 180) hx hb hr hlk rfl hS54 ⟨rfl, hW53, hz58⟩ dX9_cuts_180
  · have hm := ite_f c49 hm
    refine lv_aload_n (pc := 90) hx hb dX9_cuts_90 rfl (lv_at hl 0 rfl) ?_
    refine rk_getN (pc := 91) hx hb hts hown hK hW1 fnX9_175 0 (by decide) rfl rfl (x := .ref (b1 + 1)) (by first | rfl | exact congrArg (fun z => some (Value.ref z)) (by omega)) dX9_cuts_91 ?_
    refine lv_iconst (pc := 94) (v := (5 : Int32)) hx hb dX9_cuts_94 (by decide) ?_
    refine lv_iload_n (pc := 95) hx hb dX9_cuts_95 rfl (lv_at hl 1 rfl) ?_
    refine lv_imul (pc := 96) hx hb dX9_cuts_96 ?_
    refine lv_iload (pc := 97) hx hb dX9_cuts_97 (lv_at hl 3 rfl) ?_
    refine lv_iadd (pc := 99) hx hb dX9_cuts_99 ?_
    obtain ⟨hg59, hm⟩ := gb_some hm
    refine rk_lald (pc := 100) hx hb hK hW1 1 (by decide) rfl rfl hg59 (x := (gL v1 1 (((5 : Int32) * i2) + i4).toNatClampNeg)) rfl dX9_cuts_100 ?_
    refine lv_aload_n (pc := 101) hx hb dX9_cuts_101 rfl (lv_at hl 0 rfl) ?_
    refine rk_getN (pc := 102) hx hb hts hown hK hW1 fnX9_197 0 (by decide) rfl rfl (x := .long (gL v1 0 13)) rfl dX9_cuts_102 ?_
    obtain ⟨r60, hq61, hm⟩ := ob_some hm
    refine rk_PS (pc := 105) (As := [.long (gL v1 1 (((5 : Int32) * i2) + i4).toNatClampNeg), .long (gL v1 0 13)]) (rest := []) hx hb hml hown hts hK lkX9_280 yn_J7_floorMod (ct_J7_floorMod (G := G) (l := l) hq61) ⟨Nat.le_of_ble_eq_true rfl, Nat.le_of_ble_eq_true rfl⟩ trivial rfl rfl hl.1 (Nat.le_of_ble_eq_true rfl) dX9_cuts_105 ⟨Nat.zero_le _, Nat.zero_le _⟩ ?_
    refine W.eq (g2 := F0 m 108 ls [.long r60]) rfl ?_
    refine lv_lstore (pc := 108) (lv' := [(5, .long r60), (1, .ref b1), (2, .int i2), (3, .int i3), (4, .int i4)]) hx hb dX9_cuts_108 hl (by decide) rfl (fun ls hl => ?_)
    refine lv_aload_n (pc := 110) hx hb dX9_cuts_110 rfl (lv_at hl 1 rfl) ?_
    refine rk_getN (pc := 111) hx hb hts hown hK hW1 fnX9_175 0 (by decide) rfl rfl (x := .ref (b1 + 1)) (by first | rfl | exact congrArg (fun z => some (Value.ref z)) (by omega)) dX9_cuts_111 ?_
    refine lv_iconst (pc := 114) (v := (5 : Int32)) hx hb dX9_cuts_114 (by decide) ?_
    refine lv_aload_n (pc := 115) hx hb dX9_cuts_115 rfl (lv_at hl 1 rfl) ?_
    refine rk_getN (pc := 116) hx hb hts hown hK hW1 fnX9_178 0 (by decide) rfl rfl (x := .int (gI v1 0 15)) rfl dX9_cuts_116 ?_
    refine lv_iconst (pc := 119) (v := (1 : Int32)) hx hb dX9_cuts_119 (by decide) ?_
    refine lv_isub (pc := 120) hx hb dX9_cuts_120 ?_
    refine lv_imul (pc := 121) hx hb dX9_cuts_121 ?_
    refine lv_iload (pc := 122) hx hb dX9_cuts_122 (lv_at hl 4 rfl) ?_
    refine lv_iadd (pc := 124) hx hb dX9_cuts_124 ?_
    refine lv_lload (pc := 125) hx hb dX9_cuts_125 (lv_at hl 0 rfl) ?_
    refine lv_lneg (pc := 127) hx hb dX9_cuts_127 ?_
    obtain ⟨hg62, hm⟩ := gb_some hm
    refine rk_last (pc := 128) hx hb hK hW1 hS 1 (by decide) rfl (Or.inl (show iv _ _ _ from ⟨by omega, by omega⟩)) (fun _ _ _ => rfl) hg62 dX9_cuts_128 (fun H64 locs65 hW66 hS67 hz68 hkp69 => ?_)
    obtain ⟨v1_63, he9, hm⟩ := lm_some hm
    rw [he9] at hW66
    have hW70 := rg_keepq hW0 hkp69 (by omega)
    have hz71 := hz68.trans hz
    refine lv_aload_n (pc := 129) hx hb dX9_cuts_129 rfl (lv_at hl 1 rfl) ?_
    refine rk_getN (pc := 130) hx hb hts hown hK hW66 fnX9_206 0 (by decide) rfl rfl (x := .ref (b1 + 8)) (by first | rfl | exact congrArg (fun z => some (Value.ref z)) (by omega)) dX9_cuts_130 ?_
    refine lv_iload (pc := 133) hx hb dX9_cuts_133 (lv_at hl 4 rfl) ?_
    obtain ⟨hg72, hm⟩ := gb_some hm
    refine rk_iald (pc := 135) hx hb hK hW66 8 (by decide) rfl rfl hg72 (x := (gI v1_63 8 i4.toNatClampNeg)) rfl dX9_cuts_135 ?_
    refine lv_bipush (pc := 136) (v := (10 : Int32)) hx hb dX9_cuts_136 (by decide) ?_
    refine lv_icmp_lt (pc := 138) (tgt := 163) hx hb dX9_cuts_138 (by decide) (fun c73 => ?_) (fun c73 => ?_)
    · have hm := ite_t c73 hm
      refine lv_iinc (pc := 163) (v := (i4 + (1 : Int32))) (lv' := [(4, .int (i4 + (1 : Int32))), (5, .long r60), (1, .ref b1), (2, .int i2), (3, .int i3)]) hx hb dX9_cuts_163 hl (k := 4) rfl rfl (by decide) rfl (fun ls hl => ?_)
      refine lv_goto (pc := 166) (tgt := 81) hx hb dX9_cuts_166 (by decide) ?_
      exact hk81 v1_63 i2 i3 (i4 + (1 : Int32)) hm H64 locs65 ls hW70 hW66 hS67 hz71 (lv_sub hl [2, 3, 4, 0] rfl)
    · have hm := ite_f c73 hm
      refine lv_aload_n (pc := 141) hx hb dX9_cuts_141 rfl (lv_at hl 1 rfl) ?_
      refine rk_getN (pc := 142) hx hb hts hown hK hW66 fnX9_274 0 (by decide) rfl rfl (x := .ref (b1 + 11)) (by first | rfl | exact congrArg (fun z => some (Value.ref z)) (by omega)) dX9_cuts_142 ?_
      refine lv_bipush (pc := 145) (v := (20 : Int32)) hx hb dX9_cuts_145 (by decide) ?_
      refine lv_iload_n (pc := 147) hx hb dX9_cuts_147 rfl (lv_at hl 3 rfl) ?_
      refine lv_imul (pc := 148) hx hb dX9_cuts_148 ?_
      refine lv_aload_n (pc := 149) hx hb dX9_cuts_149 rfl (lv_at hl 1 rfl) ?_
      refine rk_getN (pc := 150) hx hb hts hown hK hW66 fnX9_206 0 (by decide) rfl rfl (x := .ref (b1 + 8)) (by first | rfl | exact congrArg (fun z => some (Value.ref z)) (by omega)) dX9_cuts_150 ?_
      refine lv_iload (pc := 153) hx hb dX9_cuts_153 (lv_at hl 4 rfl) ?_
      obtain ⟨hg74, hm⟩ := gb_some hm
      refine rk_iald (pc := 155) hx hb hK hW66 8 (by decide) rfl rfl hg74 (x := (gI v1_63 8 i4.toNatClampNeg)) rfl dX9_cuts_155 ?_
      obtain ⟨r75, hq76, hm⟩ := ob_some hm
      refine rk_PS (pc := 156) (As := [.int (gI v1_63 8 i4.toNatClampNeg)]) (rest := [.int ((20 : Int32) * i3), .ref (b1 + 11)]) hx hb hml hown hts hK lkX9_283 yn_X9_slot (ct_X9_slot (G := G) (l := l) hq76) ⟨Nat.le_of_ble_eq_true rfl, Nat.le_of_ble_eq_true rfl⟩ trivial rfl rfl hl.1 (Nat.le_of_ble_eq_true rfl) dX9_cuts_156 ⟨Nat.zero_le _, Nat.zero_le _⟩ ?_
      refine W.eq (g2 := F0 m 159 ls [.int r75, .int ((20 : Int32) * i3), .ref (b1 + 11)]) rfl ?_
      refine lv_iadd (pc := 159) hx hb dX9_cuts_159 ?_
      refine lv_lload (pc := 160) hx hb dX9_cuts_160 (lv_at hl 0 rfl) ?_
      obtain ⟨hg77, hm⟩ := gb_some hm
      refine rk_last (pc := 162) hx hb hK hW66 hS67 11 (by decide) rfl (Or.inl (show iv _ _ _ from ⟨by omega, by omega⟩)) (fun _ _ _ => rfl) hg77 dX9_cuts_162 (fun H79 locs80 hW81 hS82 hz83 hkp84 => ?_)
      obtain ⟨v1_78, he9, hm⟩ := lm_some hm
      rw [he9] at hW81
      have hW85 := rg_keepq hW70 hkp84 (by omega)
      have hz86 := hz83.trans hz71
      refine lv_iinc (pc := 163) (v := (i4 + (1 : Int32))) (lv' := [(4, .int (i4 + (1 : Int32))), (5, .long r60), (1, .ref b1), (2, .int i2), (3, .int i3)]) hx hb dX9_cuts_163 hl (k := 4) rfl rfl (by decide) rfl (fun ls hl => ?_)
      refine lv_goto (pc := 166) (tgt := 81) hx hb dX9_cuts_166 (by decide) ?_
      exact hk81 v1_78 i2 i3 (i4 + (1 : Int32)) hm H79 locs80 ls hW85 hW81 hS82 hz86 (lv_sub hl [2, 3, 4, 0] rfl)
theorem w_fX9_cuts_81_l (C : Cx G p s m args meth c RX9 cX9_cuts 7 (some .boolean)) {b0 : Nat} {b1 : Nat} {V0 : Mem} {rx : Int32} {rw1 : Mem} (hd01 : b0 + 6 ≤ b1 ∨ b1 + 13 ≤ b0) : ∀ (n : Nat) (v1 : Mem) (i2 : Int32) (i3 : Int32) (i4 : Int32), lq4 (fX9_cuts_81 V0) n v1 i2 i3 i4 = some (rx, rw1) → ∀ (H : Heap) (locs : List Loc) (ls : Array Slot), rg G b0 6 (shX9 G.2.1) V0 H → rg G b1 13 (shX10 G.2.1) v1 H → va_S (FA (iv b1 13) s.heap.size) s.heap H locs → H.size = s.heap.size → lv_has ls 7 [(1, .ref b1), (2, .int i2), (3, .int i3), (4, .int i4)] → W p l e (rmT 4 0 0 97) s m args below meth c H locs 0 0 (MQ below (QcT (FA (iv b1 13) s.heap.size) (fun ov H => ov = (some (.int rx)) ∧ rg G b1 13 (shX10 G.2.1) rw1 H ∧ H.size = s.heap.size)) args s 0 0 (FA (iv b1 13) s.heap.size)) (F0 m 81 ls []) := by
  intro n
  induction n with
  | zero => intro v1 i2 i3 i4 hm; exact (lq4_0 hm).elim
  | succ n ih => intro v1 i2 i3 i4 hm; exact w_fX9_cuts_81 C hd01 ih v1 i2 i3 i4 (lq4_s hm)
set_option maxHeartbeats 4000000 in
theorem w_fX9_cuts_19 (C : Cx G p s m args meth c RX9 cX9_cuts 7 (some .boolean)) {b0 : Nat} {b1 : Nat} {V0 : Mem} {rx : Int32} {rw1 : Mem} (hd01 : b0 + 6 ≤ b1 ∨ b1 + 13 ≤ b0) {k19 : Mem → Int32 → Int32 → Int32 → Option (Int32 × Mem)} (hk19 : ∀ (v1 : Mem) (i2 : Int32) (i3 : Int32) (i4 : Int32), k19 v1 i2 i3 i4 = some (rx, rw1) → ∀ (H : Heap) (locs : List Loc) (ls : Array Slot), rg G b0 6 (shX9 G.2.1) V0 H → rg G b1 13 (shX10 G.2.1) v1 H → va_S (FA (iv b1 13) s.heap.size) s.heap H locs → H.size = s.heap.size → lv_has ls 7 [(0, .ref b0), (1, .ref b1), (2, .int i2), (3, .int i3), (4, .int i4)] → W p l e (rmT 4 0 0 97) s m args below meth c H locs 0 0 (MQ below (QcT (FA (iv b1 13) s.heap.size) (fun ov H => ov = (some (.int rx)) ∧ rg G b1 13 (shX10 G.2.1) rw1 H ∧ H.size = s.heap.size)) args s 0 0 (FA (iv b1 13) s.heap.size)) (F0 m 19 ls [])) : ∀ (v1 : Mem) (i2 : Int32) (i3 : Int32) (i4 : Int32), fX9_cuts_19 V0 k19 v1 i2 i3 i4 = some (rx, rw1) → ∀ (H : Heap) (locs : List Loc) (ls : Array Slot), rg G b0 6 (shX9 G.2.1) V0 H → rg G b1 13 (shX10 G.2.1) v1 H → va_S (FA (iv b1 13) s.heap.size) s.heap H locs → H.size = s.heap.size → lv_has ls 7 [(0, .ref b0), (1, .ref b1), (2, .int i2), (3, .int i3), (4, .int i4)] → W p l e (rmT 4 0 0 97) s m args below meth c H locs 0 0 (MQ below (QcT (FA (iv b1 13) s.heap.size) (fun ov H => ov = (some (.int rx)) ∧ rg G b1 13 (shX10 G.2.1) rw1 H ∧ H.size = s.heap.size)) args s 0 0 (FA (iv b1 13) s.heap.size)) (F0 m 19 ls []) := by
  intro v1 i2 i3 i4 hm H locs ls hW0 hW1 hS hz hl
  obtain ⟨hx, hb, hr, hlk, hml, hown, hts, hK⟩ := id C
  unfold fX9_cuts_19 at hm
  refine lv_iload (pc := 19) hx hb dX9_cuts_19 (lv_at hl 4 rfl) ?_
  refine lv_bipush (pc := 21) (v := (20 : Int32)) hx hb dX9_cuts_21 (by decide) ?_
  refine lv_icmp_ge (pc := 23) (tgt := 45) hx hb dX9_cuts_23 (by decide) (fun c14 => ?_) (fun c14 => ?_)
  · have hm := ite_t c14 hm
    refine lv_aload_n (pc := 45) hx hb dX9_cuts_45 rfl (lv_at hl 1 rfl) ?_
    refine rk_getN (pc := 46) hx hb hts hown hK hW1 fnX9_277 0 (by decide) rfl rfl (x := .ref (b1 + 12)) (by first | rfl | exact congrArg (fun z => some (Value.ref z)) (by omega)) dX9_cuts_46 ?_
    refine lv_iload_n (pc := 49) hx hb dX9_cuts_49 rfl (lv_at hl 3 rfl) ?_
    refine lv_aload_n (pc := 50) hx hb dX9_cuts_50 rfl (lv_at hl 1 rfl) ?_
    refine rk_getN (pc := 51) hx hb hts hown hK hW1 fnX9_197 0 (by decide) rfl rfl (x := .long (gL v1 0 13)) rfl dX9_cuts_51 ?_
    obtain ⟨hg15, hm⟩ := gb_some hm
    refine rk_last (pc := 54) hx hb hK hW1 hS 12 (by decide) rfl (Or.inl (show iv _ _ _ from ⟨by omega, by omega⟩)) (fun _ _ _ => rfl) hg15 dX9_cuts_54 (fun H17 locs18 hW19 hS20 hz21 hkp22 => ?_)
    obtain ⟨v1_16, he9, hm⟩ := lm_some hm
    rw [he9] at hW19
    have hW23 := rg_keepq hW0 hkp22 (by omega)
    have hz24 := hz21.trans hz
    refine lv_aload_n (pc := 55) hx hb dX9_cuts_55 rfl (lv_at hl 0 rfl) ?_
    refine lv_aload_n (pc := 56) hx hb dX9_cuts_56 rfl (lv_at hl 1 rfl) ?_
    refine lv_bipush (pc := 57) (v := (20 : Int32)) hx hb dX9_cuts_57 (by decide) ?_
    refine lv_iload_n (pc := 59) hx hb dX9_cuts_59 rfl (lv_at hl 3 rfl) ?_
    refine lv_iadd (pc := 60) hx hb dX9_cuts_60 ?_
    refine lv_aload_n (pc := 61) hx hb dX9_cuts_61 rfl (lv_at hl 1 rfl) ?_
    refine rk_getN (pc := 62) hx hb hts hown hK hW19 fnX9_184 0 (by decide) rfl rfl (x := .ref (b1 + 2)) (by first | rfl | exact congrArg (fun z => some (Value.ref z)) (by omega)) dX9_cuts_62 ?_
    refine lv_iload_n (pc := 65) hx hb dX9_cuts_65 rfl (lv_at hl 2 rfl) ?_
    obtain ⟨hg25, hm⟩ := gb_some hm
    refine rk_lald (pc := 66) hx hb hK hW19 2 (by decide) rfl rfl hg25 (x := (gL v1_16 2 i2.toNatClampNeg)) rfl dX9_cuts_66 ?_
    refine lv_aload_n (pc := 67) hx hb dX9_cuts_67 rfl (lv_at hl 1 rfl) ?_
    refine rk_getN (pc := 68) hx hb hts hown hK hW19 fnX9_197 0 (by decide) rfl rfl (x := .long (gL v1_16 0 13)) rfl dX9_cuts_68 ?_
    obtain ⟨r26, hq27, hm⟩ := ob_some hm
    refine rk_PS (pc := 71) (As := [.long (gL v1_16 2 i2.toNatClampNeg), .long (gL v1_16 0 13)]) (rest := [.int ((20 : Int32) + i3), .ref b1, .ref b0]) hx hb hml hown hts hK lkX9_280 yn_J7_floorMod (ct_J7_floorMod (G := G) (l := l) hq27) ⟨Nat.le_of_ble_eq_true rfl, Nat.le_of_ble_eq_true rfl⟩ trivial rfl rfl hl.1 (Nat.le_of_ble_eq_true rfl) dX9_cuts_71 ⟨Nat.zero_le _, Nat.zero_le _⟩ ?_
    refine W.eq (g2 := F0 m 74 ls [.long r26, .int ((20 : Int32) + i3), .ref b1, .ref b0]) rfl ?_
    refine lv_lneg (pc := 74) hx hb dX9_cuts_74 ?_
    obtain ⟨w28, hq29, hm⟩ := ob_some hm
    refine rk_TV (pc := 75) (As := [.ref b1, .int ((20 : Int32) + i3), .long (-r26)]) (rest := []) (mc := 0) (ms := 0) hx hb hml hown hts hK hS20 (fun q hq => FA_sz rfl q hq) lkX9_213 rfl yn_X9_addsRow (ct_X9_addsRow (G := G) (l := l) (b0 := b0) (b1 := b1) (sz := H17.size) hq29 (by omega)) ⟨Nat.le_of_ble_eq_true rfl, Nat.le_of_ble_eq_true rfl⟩ (fun z h => Or.inl (show iv _ _ _ from ⟨by have h8 := h.1; have h9 := h.2; omega, by have h8 := h.1; have h9 := h.2; omega⟩)) (rk_recv hK hW23 0 (by decide) rfl rfl rfl) ⟨hW23, hW19⟩ rfl rfl hl.1 (Nat.le_of_ble_eq_true rfl) dX9_cuts_75 ⟨Nat.zero_le _, Nat.zero_le _⟩ (fun ov9 H30 locs31 hP32 hkp33 hS34 => ?_)
    obtain ⟨rfl, hW35, hz36⟩ := hP32
    have hW37 := rg_keepA hW23 hkp33 (by intro z h1 h2 h3; have h8 := h3.1; have h9 := h3.2; omega)
    have hz38 := hz36.trans hz24
    refine W.eq (g2 := F0 m 78 ls []) rfl ?_
    refine lv_iconst (pc := 78) (v := (0 : Int32)) hx hb dX9_cuts_78 (by decide) ?_
    refine lv_istore (pc := 79) (lv' := [(4, .int (0 : Int32)), (0, .ref b0), (1, .ref b1), (2, .int i2), (3, .int i3)]) hx hb dX9_cuts_79 hl (by decide) rfl (fun ls hl => ?_)
    exact (w_fX9_cuts_81_l C hd01 FU) w28 i2 i3 (0 : Int32) hm H30 locs31 ls hW37 hW35 hS34 hz38 (lv_sub hl [2, 3, 4, 0] rfl)
  · have hm := ite_f c14 hm
    refine lv_aload_n (pc := 26) hx hb dX9_cuts_26 rfl (lv_at hl 1 rfl) ?_
    refine rk_getN (pc := 27) hx hb hts hown hK hW1 fnX9_274 0 (by decide) rfl rfl (x := .ref (b1 + 11)) (by first | rfl | exact congrArg (fun z => some (Value.ref z)) (by omega)) dX9_cuts_27 ?_
    refine lv_bipush (pc := 30) (v := (20 : Int32)) hx hb dX9_cuts_30 (by decide) ?_
    refine lv_iload_n (pc := 32) hx hb dX9_cuts_32 rfl (lv_at hl 3 rfl) ?_
    refine lv_imul (pc := 33) hx hb dX9_cuts_33 ?_
    refine lv_iload (pc := 34) hx hb dX9_cuts_34 (lv_at hl 4 rfl) ?_
    refine lv_iadd (pc := 36) hx hb dX9_cuts_36 ?_
    refine lv_lconst (pc := 37) (v := (0 : Int64)) hx hb dX9_cuts_37 (by decide) ?_
    obtain ⟨hg39, hm⟩ := gb_some hm
    refine rk_last (pc := 38) hx hb hK hW1 hS 11 (by decide) rfl (Or.inl (show iv _ _ _ from ⟨by omega, by omega⟩)) (fun _ _ _ => rfl) hg39 dX9_cuts_38 (fun H41 locs42 hW43 hS44 hz45 hkp46 => ?_)
    obtain ⟨v1_40, he9, hm⟩ := lm_some hm
    rw [he9] at hW43
    have hW47 := rg_keepq hW0 hkp46 (by omega)
    have hz48 := hz45.trans hz
    refine lv_iinc (pc := 39) (v := (i4 + (1 : Int32))) (lv' := [(4, .int (i4 + (1 : Int32))), (0, .ref b0), (1, .ref b1), (2, .int i2), (3, .int i3)]) hx hb dX9_cuts_39 hl (k := 4) rfl rfl (by decide) rfl (fun ls hl => ?_)
    refine lv_goto (pc := 42) (tgt := 19) hx hb dX9_cuts_42 (by decide) ?_
    exact hk19 v1_40 i2 i3 (i4 + (1 : Int32)) hm H41 locs42 ls hW47 hW43 hS44 hz48 (lv_sub hl [1, 2, 3, 4, 0] rfl)
theorem w_fX9_cuts_19_l (C : Cx G p s m args meth c RX9 cX9_cuts 7 (some .boolean)) {b0 : Nat} {b1 : Nat} {V0 : Mem} {rx : Int32} {rw1 : Mem} (hd01 : b0 + 6 ≤ b1 ∨ b1 + 13 ≤ b0) : ∀ (n : Nat) (v1 : Mem) (i2 : Int32) (i3 : Int32) (i4 : Int32), lq4 (fX9_cuts_19 V0) n v1 i2 i3 i4 = some (rx, rw1) → ∀ (H : Heap) (locs : List Loc) (ls : Array Slot), rg G b0 6 (shX9 G.2.1) V0 H → rg G b1 13 (shX10 G.2.1) v1 H → va_S (FA (iv b1 13) s.heap.size) s.heap H locs → H.size = s.heap.size → lv_has ls 7 [(0, .ref b0), (1, .ref b1), (2, .int i2), (3, .int i3), (4, .int i4)] → W p l e (rmT 4 0 0 97) s m args below meth c H locs 0 0 (MQ below (QcT (FA (iv b1 13) s.heap.size) (fun ov H => ov = (some (.int rx)) ∧ rg G b1 13 (shX10 G.2.1) rw1 H ∧ H.size = s.heap.size)) args s 0 0 (FA (iv b1 13) s.heap.size)) (F0 m 19 ls []) := by
  intro n
  induction n with
  | zero => intro v1 i2 i3 i4 hm; exact (lq4_0 hm).elim
  | succ n ih => intro v1 i2 i3 i4 hm; exact w_fX9_cuts_19 C hd01 ih v1 i2 i3 i4 (lq4_s hm)
set_option maxHeartbeats 4000000 in
theorem w_fX9_cuts (C : Cx G p s m args meth c RX9 cX9_cuts 7 (some .boolean)) {b0 : Nat} {b1 : Nat} {V0 : Mem} {rx : Int32} {rw1 : Mem} (hd01 : b0 + 6 ≤ b1 ∨ b1 + 13 ≤ b0) : ∀ (v1 : Mem) (i2 : Int32), fX9_cuts V0 v1 i2 = some (rx, rw1) → ∀ (H : Heap) (locs : List Loc) (ls : Array Slot), rg G b0 6 (shX9 G.2.1) V0 H → rg G b1 13 (shX10 G.2.1) v1 H → va_S (FA (iv b1 13) s.heap.size) s.heap H locs → H.size = s.heap.size → lv_has ls 7 [(0, .ref b0), (1, .ref b1), (2, .int i2)] → W p l e (rmT 4 0 0 97) s m args below meth c H locs 0 0 (MQ below (QcT (FA (iv b1 13) s.heap.size) (fun ov H => ov = (some (.int rx)) ∧ rg G b1 13 (shX10 G.2.1) rw1 H ∧ H.size = s.heap.size)) args s 0 0 (FA (iv b1 13) s.heap.size)) (F0 m 0 ls []) := by
  intro v1 i2 hm H locs ls hW0 hW1 hS hz hl
  obtain ⟨hx, hb, hr, hlk, hml, hown, hts, hK⟩ := id C
  unfold fX9_cuts at hm
  refine lv_aload_n (pc := 0) hx hb dX9_cuts_0 rfl (lv_at hl 0 rfl) ?_
  refine lv_aload_n (pc := 1) hx hb dX9_cuts_1 rfl (lv_at hl 1 rfl) ?_
  refine lv_iload_n (pc := 2) hx hb dX9_cuts_2 rfl (lv_at hl 2 rfl) ?_
  obtain ⟨r1, w2, hq3, hm⟩ := ob2_some hm
  refine rk_TV (pc := 3) (As := [.ref b1, .int i2]) (rest := []) (mc := 0) (ms := 0) hx hb hml hown hts hK hS (fun q hq => FA_sz rfl q hq) lkX9_270 rfl yn_X9_tells (ct_X9_tells (G := G) (l := l) (b0 := b0) (b1 := b1) (sz := H.size) hq3 (by omega)) ⟨Nat.le_of_ble_eq_true rfl, Nat.le_of_ble_eq_true rfl⟩ (fun z h => Or.inl (show iv _ _ _ from ⟨by have h8 := h.1; have h9 := h.2; omega, by have h8 := h.1; have h9 := h.2; omega⟩)) (rk_recv hK hW0 0 (by decide) rfl rfl rfl) ⟨hW0, hW1⟩ rfl rfl hl.1 (Nat.le_of_ble_eq_true rfl) dX9_cuts_3 ⟨Nat.zero_le _, Nat.zero_le _⟩ (fun ov9 H4 locs5 hP6 hkp7 hS8 => ?_)
  obtain ⟨rfl, hW9, hz10⟩ := hP6
  have hW11 := rg_keepA hW0 hkp7 (by intro z h1 h2 h3; have h8 := h3.1; have h9 := h3.2; omega)
  have hz12 := hz10.trans hz
  refine W.eq (g2 := F0 m 6 ls [.int r1]) rfl ?_
  refine lv_if_ne (pc := 6) (tgt := 11) hx hb dX9_cuts_6 (by decide) (fun c13 => ?_) (fun c13 => ?_)
  · have hm := ite_f c13 hm
    refine lv_aload_n (pc := 11) hx hb dX9_cuts_11 rfl (lv_at hl 1 rfl) ?_
    refine rk_getN (pc := 12) hx hb hts hown hK hW9 fnX9_187 0 (by decide) rfl rfl (x := .int (gI w2 0 16)) rfl dX9_cuts_12 ?_
    refine lv_istore_n (pc := 15) (lv' := [(3, .int (gI w2 0 16)), (0, .ref b0), (1, .ref b1), (2, .int i2)]) hx hb dX9_cuts_15 rfl hl (by decide) rfl (fun ls hl => ?_)
    refine lv_iconst (pc := 16) (v := (0 : Int32)) hx hb dX9_cuts_16 (by decide) ?_
    refine lv_istore (pc := 17) (lv' := [(4, .int (0 : Int32)), (3, .int (gI w2 0 16)), (0, .ref b0), (1, .ref b1), (2, .int i2)]) hx hb dX9_cuts_17 hl (by decide) rfl (fun ls hl => ?_)
    exact (w_fX9_cuts_19_l C hd01 FU) w2 i2 (gI w2 0 16) (0 : Int32) hm H4 locs5 ls hW11 hW9 hS8 hz12 (lv_sub hl [2, 3, 4, 1, 0] rfl)
  · have hm := ite_t c13 hm
    refine lv_iconst (pc := 9) (v := (0 : Int32)) hx hb dX9_cuts_9 (by decide) ?_
    obtain ⟨e8, e9⟩ := rs2 hm
    subst e8
    subst e9
    exact rk_zret (pc := 10) hx hb hr hlk rfl hS8 ⟨rfl, hW9, hz12⟩ dX9_cuts_10
set_option maxHeartbeats 4000000 in
theorem ct_X9_cuts {G : Gv} {l : Launch} {b0 : Nat} {b1 : Nat} {V0 : Mem} {v1 : Mem} {i2 : Int32} {rx : Int32} {rw1 : Mem} {sz : Nat} (hm : fX9_cuts V0 v1 i2 = some (rx, rw1)) (hd01 : b0 + 6 ≤ b1 ∨ b1 + 13 ≤ b0) : CT G l yX9_cuts (ws_ yX9_cuts cX9_cuts 7 (some .boolean)) 4 0 0 97 [.ref b0, .ref b1, .int i2] (iv b1 13) sz (fun H => rg G b0 6 (shX9 G.2.1) V0 H ∧ rg G b1 13 (shX10 G.2.1) v1 H) (fun ov H => ov = (some (.int rx)) ∧ rg G b1 13 (shX10 G.2.1) rw1 H ∧ H.size = sz) := by
  refine Met.ofW (cc := cX9_cuts) (maxL := 7) (ret := (some .boolean)) (by decide +kernel) rfl ?_
  intro p e s m args below meth c s₁ B hml hv
  obtain ⟨rfl, ⟨hz, hW0, hW1⟩, hK⟩ := hv
  subst hz
  have hts := atoms_spec (ws := ws_ yX9_cuts cX9_cuts 7 (some .boolean)) B.pre
  have hts : ∀ w ∈ lw_all, w.before _ s = true := fun w h => hts w (List.mem_cons_of_mem _ h)
  have C : Cx G p s m _ meth c RX9 cX9_cuts 7 (some .boolean) := ⟨B.exec, B.bytes, B.returns, B.notSynchronized, hml, findClass_of_methodNamed B.named, hts, hK⟩
  have hl := lv_entry ([.ref b0, .ref b1, .int i2]) (n := 7) (Nat.le_of_ble_eq_true rfl)
  rw [lg_entry_eq]
  generalize (lg_sl ([.ref b0, .ref b1, .int i2]) ++ List.replicate (7 - (lg_sl ([.ref b0, .ref b1, .int i2])).length) Slot.unset).toArray = ls at hl ⊢
  have hl : lv_has ls 7 [(0, .ref b0), (1, .ref b1), (2, .int i2)] := hl
  exact w_fX9_cuts C hd01 _ _ hm s.heap [] ls hW0 hW1 va_S.rf rfl hl
theorem yn_X9_first : YN yX9_first 1 := by
  unfold YN
  decide +kernel
theorem lkX9_286 : LV RX9 286 RX9 yX9_first cX9_first 4 none := ⟨q2029, q2031, qs70, q128, q2032⟩
theorem yn_X9_repairs : YN yX9_repairs 1 := by
  unfold YN
  decide +kernel
theorem lkX9_290 : LV RX9 290 RX9 yX9_repairs cX9_repairs 4 (some .int) := ⟨q2049, q2051, qs75, q128, q2052⟩
theorem yn_X9_partly : YN yX9_partly 1 := by
  unfold YN
  decide +kernel
theorem lkX9_294 : LV RX9 294 RX9 yX9_partly cX9_partly 3 (some .int) := ⟨q2071, q2073, qs79, q128, q2074⟩
theorem yn_X9_cuts : YN yX9_cuts 2 := by
  unfold YN
  decide +kernel
theorem lkX9_297 : LV RX9 297 RX9 yX9_cuts cX9_cuts 7 (some .boolean) := ⟨q2075, q2077, qs80, q128, q2078⟩
noncomputable def fX9_solves_34 (V0 : Mem) (k11 : Mem → Int32 → Int32 → Option (Int32 × Mem)) (v1 : Mem) (i2 : Int32) (i4 : Int32) (t1 : Int32) : Option (Int32 × Mem) :=
  gb (z01 t1) (
  lm (sI v1 0 19 t1) fun v1_29 =>
  if (gI v1_29 0 19) = 0 then (
  if (gI v1_29 0 16) = i2 then (
  some ((2 : Int32), v1_29))
  else (
  ob2 (fX9_cuts V0 v1_29 i4) fun r40 w41 =>
  if r40 = 0 then (
  k11 w41 i2 (-6 : Int32))
  else (
  ob2 (fX9_repairs V0 w41) fun r53 w54 =>
  k11 w54 i2 r53)))
  else (
  some ((1 : Int32), v1_29)))
noncomputable def fX9_solves_11 (V0 : Mem) (k11 : Mem → Int32 → Int32 → Option (Int32 × Mem)) (v1 : Mem) (i2 : Int32) (i3 : Int32) : Option (Int32 × Mem) :=
  if i3 = (1 : Int32) then (
  ob (fX9_partly V0 v1) fun r25 =>
  if 0 ≤ r25 then (
  fX9_solves_34 V0 k11 v1 i2 r25 (0 : Int32))
  else (
  fX9_solves_34 V0 k11 v1 i2 r25 (1 : Int32)))
  else (
  some (i3, v1))
noncomputable def fX9_solves (V0 : Mem) (v1 : Mem) (i2 : Int32) : Option (Int32 × Mem) :=
  ob (fX9_first V0 v1) fun w1 =>
  ob2 (fX9_repairs V0 w1) fun r12 w13 =>
  lq3 (fX9_solves_11 V0) FU w13 i2 r12
set_option maxHeartbeats 4000000 in
theorem w_fX9_solves_34 (C : Cx G p s m args meth c RX9 cX9_solves 5 (some .int)) {b0 : Nat} {b1 : Nat} {V0 : Mem} {rx : Int32} {rw1 : Mem} (hd01 : b0 + 6 ≤ b1 ∨ b1 + 13 ≤ b0) {k11 : Mem → Int32 → Int32 → Option (Int32 × Mem)} (hk11 : ∀ (v1 : Mem) (i2 : Int32) (i3 : Int32), k11 v1 i2 i3 = some (rx, rw1) → ∀ (H : Heap) (locs : List Loc) (ls : Array Slot), rg G b0 6 (shX9 G.2.1) V0 H → rg G b1 13 (shX10 G.2.1) v1 H → va_S (FA (iv b1 13) s.heap.size) s.heap H locs → H.size = s.heap.size → lv_has ls 5 [(0, .ref b0), (1, .ref b1), (2, .int i2), (3, .int i3)] → W p l e (rmT 5 0 0 123) s m args below meth c H locs 0 0 (MQ below (QcT (FA (iv b1 13) s.heap.size) (fun ov H => ov = (some (.int rx)) ∧ rg G b1 13 (shX10 G.2.1) rw1 H ∧ H.size = s.heap.size)) args s 0 0 (FA (iv b1 13) s.heap.size)) (F0 m 11 ls [])) : ∀ (v1 : Mem) (i2 : Int32) (i4 : Int32) (t1 : Int32), fX9_solves_34 V0 k11 v1 i2 i4 t1 = some (rx, rw1) → ∀ (H : Heap) (locs : List Loc) (ls : Array Slot), rg G b0 6 (shX9 G.2.1) V0 H → rg G b1 13 (shX10 G.2.1) v1 H → va_S (FA (iv b1 13) s.heap.size) s.heap H locs → H.size = s.heap.size → lv_has ls 5 [(0, .ref b0), (1, .ref b1), (2, .int i2), (4, .int i4)] → W p l e (rmT 5 0 0 123) s m args below meth c H locs 0 0 (MQ below (QcT (FA (iv b1 13) s.heap.size) (fun ov H => ov = (some (.int rx)) ∧ rg G b1 13 (shX10 G.2.1) rw1 H ∧ H.size = s.heap.size)) args s 0 0 (FA (iv b1 13) s.heap.size)) (F0 m 34 ls [.int t1, .ref b1]) := by
  intro v1 i2 i4 t1 hm H locs ls hW0 hW1 hS hz hl
  obtain ⟨hx, hb, hr, hlk, hml, hown, hts, hK⟩ := id C
  unfold fX9_solves_34 at hm
  obtain ⟨hg28, hm⟩ := gb_some hm
  refine rk_putN (pc := 34) hx hb hts hown hK hW1 hS fnX9_200 ft_X10 0 (by decide) rfl (Or.inl (show iv _ _ _ from ⟨by omega, by omega⟩)) rfl rfl (x := .int t1) (z01_nar hg28) (z01_fit hg28) (Nat.le_of_ble_eq_true rfl) (sI v1 0 19 t1) sI_ne (by rw [sI_eq]; exact rfl) dX9_solves_34 (fun H30 locs31 hW32 hS33 hz34 hkp35 => ?_)
  obtain ⟨v1_29, he9, hm⟩ := lm_some hm
  rw [he9] at hW32
  have hW36 := rg_keepq hW0 hkp35 (by omega)
  have hz37 := hz34.trans hz
  refine lv_aload_n (pc := 37) hx hb dX9_solves_37 rfl (lv_at hl 1 rfl) ?_
  refine rk_getN (pc := 38) hx hb hts hown hK hW32 fnX9_200 0 (by decide) rfl rfl (x := .int (gI v1_29 0 19)) rfl dX9_solves_38 ?_
  refine lv_if_eq (pc := 41) (tgt := 46) hx hb dX9_solves_41 (by decide) (fun c38 => ?_) (fun c38 => ?_)
  · have hm := ite_t c38 hm
    refine lv_aload_n (pc := 46) hx hb dX9_solves_46 rfl (lv_at hl 1 rfl) ?_
    refine rk_getN (pc := 47) hx hb hts hown hK hW32 fnX9_187 0 (by decide) rfl rfl (x := .int (gI v1_29 0 16)) rfl dX9_solves_47 ?_
    refine lv_iload_n (pc := 50) hx hb dX9_solves_50 rfl (lv_at hl 2 rfl) ?_
    refine lv_icmp_ne (pc := 51) (tgt := 56) hx hb dX9_solves_51 (by decide) (fun c39 => ?_) (fun c39 => ?_)
    · have hm := ite_f c39 hm
      refine lv_aload_n (pc := 56) hx hb dX9_solves_56 rfl (lv_at hl 0 rfl) ?_
      refine lv_aload_n (pc := 57) hx hb dX9_solves_57 rfl (lv_at hl 1 rfl) ?_
      refine lv_iload (pc := 58) hx hb dX9_solves_58 (lv_at hl 3 rfl) ?_
      obtain ⟨r40, w41, hq42, hm⟩ := ob2_some hm
      refine rk_TV (pc := 60) (As := [.ref b1, .int i4]) (rest := []) (mc := 0) (ms := 0) hx hb hml hown hts hK hS33 (fun q hq => FA_sz rfl q hq) lkX9_297 rfl yn_X9_cuts (ct_X9_cuts (G := G) (l := l) (b0 := b0) (b1 := b1) (sz := H30.size) hq42 (by omega)) ⟨Nat.le_of_ble_eq_true rfl, Nat.le_of_ble_eq_true rfl⟩ (fun z h => Or.inl (show iv _ _ _ from ⟨by have h8 := h.1; have h9 := h.2; omega, by have h8 := h.1; have h9 := h.2; omega⟩)) (rk_recv hK hW36 0 (by decide) rfl rfl rfl) ⟨hW36, hW32⟩ rfl rfl hl.1 (Nat.le_of_ble_eq_true rfl) dX9_solves_60 ⟨Nat.zero_le _, Nat.zero_le _⟩ (fun ov9 H43 locs44 hP45 hkp46 hS47 => ?_)
      obtain ⟨rfl, hW48, hz49⟩ := hP45
      have hW50 := rg_keepA hW36 hkp46 (by intro z h1 h2 h3; have h8 := h3.1; have h9 := h3.2; omega)
      have hz51 := hz49.trans hz37
      refine W.eq (g2 := F0 m 63 ls [.int r40]) rfl ?_
      refine lv_if_eq (pc := 63) (tgt := 74) hx hb dX9_solves_63 (by decide) (fun c52 => ?_) (fun c52 => ?_)
      · have hm := ite_t c52 hm
        refine lv_bipush (pc := 74) (v := (-6 : Int32)) hx hb dX9_solves_74 (by decide) ?_
        refine lv_istore_n (pc := 76) (lv' := [(3, .int (-6 : Int32)), (0, .ref b0), (1, .ref b1), (2, .int i2), (4, .int i4)]) hx hb dX9_solves_76 rfl hl (by decide) rfl (fun ls hl => ?_)
        refine lv_goto (pc := 77) (tgt := 11) hx hb dX9_solves_77 (by decide) ?_
        exact hk11 w41 i2 (-6 : Int32) hm H43 locs44 ls hW50 hW48 hS47 hz51 (lv_sub hl [1, 2, 3, 0] rfl)
      · have hm := ite_f c52 hm
        refine lv_aload_n (pc := 66) hx hb dX9_solves_66 rfl (lv_at hl 0 rfl) ?_
        refine lv_aload_n (pc := 67) hx hb dX9_solves_67 rfl (lv_at hl 1 rfl) ?_
        obtain ⟨r53, w54, hq55, hm⟩ := ob2_some hm
        refine rk_TV (pc := 68) (As := [.ref b1]) (rest := []) (mc := 0) (ms := 0) hx hb hml hown hts hK hS47 (fun q hq => FA_sz rfl q hq) lkX9_290 rfl yn_X9_repairs (ct_X9_repairs (G := G) (l := l) (b0 := b0) (b1 := b1) (sz := H43.size) hq55 (by omega)) ⟨Nat.le_of_ble_eq_true rfl, Nat.le_of_ble_eq_true rfl⟩ (fun z h => Or.inl (show iv _ _ _ from ⟨by have h8 := h.1; have h9 := h.2; omega, by have h8 := h.1; have h9 := h.2; omega⟩)) (rk_recv hK hW50 0 (by decide) rfl rfl rfl) ⟨hW50, hW48⟩ rfl rfl hl.1 (Nat.le_of_ble_eq_true rfl) dX9_solves_68 ⟨Nat.zero_le _, Nat.zero_le _⟩ (fun ov9 H56 locs57 hP58 hkp59 hS60 => ?_)
        obtain ⟨rfl, hW61, hz62⟩ := hP58
        have hW63 := rg_keepA hW50 hkp59 (by intro z h1 h2 h3; have h8 := h3.1; have h9 := h3.2; omega)
        have hz64 := hz62.trans hz51
        refine W.eq (g2 := F0 m 71 ls [.int r53]) rfl ?_
        refine lv_goto (pc := 71) (tgt := 76) hx hb dX9_solves_71 (by decide) ?_
        refine lv_istore_n (pc := 76) (lv' := [(3, .int r53), (0, .ref b0), (1, .ref b1), (2, .int i2), (4, .int i4)]) hx hb dX9_solves_76 rfl hl (by decide) rfl (fun ls hl => ?_)
        refine lv_goto (pc := 77) (tgt := 11) hx hb dX9_solves_77 (by decide) ?_
        exact hk11 w54 i2 r53 hm H56 locs57 ls hW63 hW61 hS60 hz64 (lv_sub hl [1, 2, 3, 0] rfl)
    · have hm := ite_t c39 hm
      refine lv_iconst (pc := 54) (v := (2 : Int32)) hx hb dX9_solves_54 (by decide) ?_
      obtain ⟨e8, e9⟩ := rs2 hm
      subst e8
      subst e9
      exact rk_iret (pc := 55) hx hb hr hlk hS33 ⟨rfl, hW32, hz37⟩ dX9_solves_55
  · have hm := ite_f c38 hm
    refine lv_iconst (pc := 44) (v := (1 : Int32)) hx hb dX9_solves_44 (by decide) ?_
    obtain ⟨e8, e9⟩ := rs2 hm
    subst e8
    subst e9
    exact rk_iret (pc := 45) hx hb hr hlk hS33 ⟨rfl, hW32, hz37⟩ dX9_solves_45
set_option maxHeartbeats 4000000 in
theorem w_fX9_solves_11 (C : Cx G p s m args meth c RX9 cX9_solves 5 (some .int)) {b0 : Nat} {b1 : Nat} {V0 : Mem} {rx : Int32} {rw1 : Mem} (hd01 : b0 + 6 ≤ b1 ∨ b1 + 13 ≤ b0) {k11 : Mem → Int32 → Int32 → Option (Int32 × Mem)} (hk11 : ∀ (v1 : Mem) (i2 : Int32) (i3 : Int32), k11 v1 i2 i3 = some (rx, rw1) → ∀ (H : Heap) (locs : List Loc) (ls : Array Slot), rg G b0 6 (shX9 G.2.1) V0 H → rg G b1 13 (shX10 G.2.1) v1 H → va_S (FA (iv b1 13) s.heap.size) s.heap H locs → H.size = s.heap.size → lv_has ls 5 [(0, .ref b0), (1, .ref b1), (2, .int i2), (3, .int i3)] → W p l e (rmT 5 0 0 123) s m args below meth c H locs 0 0 (MQ below (QcT (FA (iv b1 13) s.heap.size) (fun ov H => ov = (some (.int rx)) ∧ rg G b1 13 (shX10 G.2.1) rw1 H ∧ H.size = s.heap.size)) args s 0 0 (FA (iv b1 13) s.heap.size)) (F0 m 11 ls [])) : ∀ (v1 : Mem) (i2 : Int32) (i3 : Int32), fX9_solves_11 V0 k11 v1 i2 i3 = some (rx, rw1) → ∀ (H : Heap) (locs : List Loc) (ls : Array Slot), rg G b0 6 (shX9 G.2.1) V0 H → rg G b1 13 (shX10 G.2.1) v1 H → va_S (FA (iv b1 13) s.heap.size) s.heap H locs → H.size = s.heap.size → lv_has ls 5 [(0, .ref b0), (1, .ref b1), (2, .int i2), (3, .int i3)] → W p l e (rmT 5 0 0 123) s m args below meth c H locs 0 0 (MQ below (QcT (FA (iv b1 13) s.heap.size) (fun ov H => ov = (some (.int rx)) ∧ rg G b1 13 (shX10 G.2.1) rw1 H ∧ H.size = s.heap.size)) args s 0 0 (FA (iv b1 13) s.heap.size)) (F0 m 11 ls []) := by
  intro v1 i2 i3 hm H locs ls hW0 hW1 hS hz hl
  obtain ⟨hx, hb, hr, hlk, hml, hown, hts, hK⟩ := id C
  unfold fX9_solves_11 at hm
  refine lv_iload_n (pc := 11) hx hb dX9_solves_11 rfl (lv_at hl 3 rfl) ?_
  refine lv_iconst (pc := 12) (v := (1 : Int32)) hx hb dX9_solves_12 (by decide) ?_
  refine lv_icmp_ne (pc := 13) (tgt := 80) hx hb dX9_solves_13 (by decide) (fun c24 => ?_) (fun c24 => ?_)
  · have hm := ite_f c24 hm
    refine lv_iload_n (pc := 80) hx hb dX9_solves_80 rfl (lv_at hl 3 rfl) ?_
    obtain ⟨e8, e9⟩ := rs2 hm
    subst e8
    subst e9
    exact rk_iret (pc := 81) hx hb hr hlk hS ⟨rfl, hW1, hz⟩ dX9_solves_81
  · have hm := ite_t c24 hm
    refine lv_aload_n (pc := 16) hx hb dX9_solves_16 rfl (lv_at hl 0 rfl) ?_
    refine lv_aload_n (pc := 17) hx hb dX9_solves_17 rfl (lv_at hl 1 rfl) ?_
    obtain ⟨r25, hq26, hm⟩ := ob_some hm
    refine rk_PV (pc := 18) (As := [.ref b1]) (rest := []) hx hb hml hown hts hK lkX9_294 rfl yn_X9_partly (ct_X9_partly (G := G) (l := l) (b0 := b0) (b1 := b1) hq26) ⟨Nat.le_of_ble_eq_true rfl, Nat.le_of_ble_eq_true rfl⟩ (rk_recv hK hW0 0 (by decide) rfl rfl rfl) ⟨hW0, hW1⟩ rfl rfl hl.1 (Nat.le_of_ble_eq_true rfl) dX9_solves_18 ⟨Nat.zero_le _, Nat.zero_le _⟩ ?_
    refine W.eq (g2 := F0 m 21 ls [.int r25]) rfl ?_
    refine lv_istore (pc := 21) (lv' := [(4, .int r25), (0, .ref b0), (1, .ref b1), (2, .int i2), (3, .int i3)]) hx hb dX9_solves_21 hl (by decide) rfl (fun ls hl => ?_)
    refine lv_aload_n (pc := 23) hx hb dX9_solves_23 rfl (lv_at hl 2 rfl) ?_
    refine lv_iload (pc := 24) hx hb dX9_solves_24 (lv_at hl 0 rfl) ?_
    refine lv_if_ge (pc := 26) (tgt := 33) hx hb dX9_solves_26 (by decide) (fun c27 => ?_) (fun c27 => ?_)
    · have hm := ite_t c27 hm
      refine lv_iconst (pc := 33) (v := (0 : Int32)) hx hb dX9_solves_33 (by decide) ?_
      exact (w_fX9_solves_34 C hd01 hk11) v1 i2 r25 (0 : Int32) hm H locs ls hW0 hW1 hS hz (lv_sub hl [1, 2, 3, 0] rfl)
    · have hm := ite_f c27 hm
      refine lv_iconst (pc := 29) (v := (1 : Int32)) hx hb dX9_solves_29 (by decide) ?_
      refine lv_goto (pc := 30) (tgt := 34) hx hb dX9_solves_30 (by decide) ?_
      exact (w_fX9_solves_34 C hd01 hk11) v1 i2 r25 (1 : Int32) hm H locs ls hW0 hW1 hS hz (lv_sub hl [1, 2, 3, 0] rfl)
theorem w_fX9_solves_11_l (C : Cx G p s m args meth c RX9 cX9_solves 5 (some .int)) {b0 : Nat} {b1 : Nat} {V0 : Mem} {rx : Int32} {rw1 : Mem} (hd01 : b0 + 6 ≤ b1 ∨ b1 + 13 ≤ b0) : ∀ (n : Nat) (v1 : Mem) (i2 : Int32) (i3 : Int32), lq3 (fX9_solves_11 V0) n v1 i2 i3 = some (rx, rw1) → ∀ (H : Heap) (locs : List Loc) (ls : Array Slot), rg G b0 6 (shX9 G.2.1) V0 H → rg G b1 13 (shX10 G.2.1) v1 H → va_S (FA (iv b1 13) s.heap.size) s.heap H locs → H.size = s.heap.size → lv_has ls 5 [(0, .ref b0), (1, .ref b1), (2, .int i2), (3, .int i3)] → W p l e (rmT 5 0 0 123) s m args below meth c H locs 0 0 (MQ below (QcT (FA (iv b1 13) s.heap.size) (fun ov H => ov = (some (.int rx)) ∧ rg G b1 13 (shX10 G.2.1) rw1 H ∧ H.size = s.heap.size)) args s 0 0 (FA (iv b1 13) s.heap.size)) (F0 m 11 ls []) := by
  intro n
  induction n with
  | zero => intro v1 i2 i3 hm; exact (lq3_0 hm).elim
  | succ n ih => intro v1 i2 i3 hm; exact w_fX9_solves_11 C hd01 ih v1 i2 i3 (lq3_s hm)
set_option maxHeartbeats 4000000 in
theorem w_fX9_solves (C : Cx G p s m args meth c RX9 cX9_solves 5 (some .int)) {b0 : Nat} {b1 : Nat} {V0 : Mem} {rx : Int32} {rw1 : Mem} (hd01 : b0 + 6 ≤ b1 ∨ b1 + 13 ≤ b0) : ∀ (v1 : Mem) (i2 : Int32), fX9_solves V0 v1 i2 = some (rx, rw1) → ∀ (H : Heap) (locs : List Loc) (ls : Array Slot), rg G b0 6 (shX9 G.2.1) V0 H → rg G b1 13 (shX10 G.2.1) v1 H → va_S (FA (iv b1 13) s.heap.size) s.heap H locs → H.size = s.heap.size → lv_has ls 5 [(0, .ref b0), (1, .ref b1), (2, .int i2)] → W p l e (rmT 5 0 0 123) s m args below meth c H locs 0 0 (MQ below (QcT (FA (iv b1 13) s.heap.size) (fun ov H => ov = (some (.int rx)) ∧ rg G b1 13 (shX10 G.2.1) rw1 H ∧ H.size = s.heap.size)) args s 0 0 (FA (iv b1 13) s.heap.size)) (F0 m 0 ls []) := by
  intro v1 i2 hm H locs ls hW0 hW1 hS hz hl
  obtain ⟨hx, hb, hr, hlk, hml, hown, hts, hK⟩ := id C
  unfold fX9_solves at hm
  refine lv_aload_n (pc := 0) hx hb dX9_solves_0 rfl (lv_at hl 0 rfl) ?_
  refine lv_aload_n (pc := 1) hx hb dX9_solves_1 rfl (lv_at hl 1 rfl) ?_
  obtain ⟨w1, hq2, hm⟩ := ob_some hm
  refine rk_TV (pc := 2) (As := [.ref b1]) (rest := []) (mc := 0) (ms := 0) hx hb hml hown hts hK hS (fun q hq => FA_sz rfl q hq) lkX9_286 rfl yn_X9_first (ct_X9_first (G := G) (l := l) (b0 := b0) (b1 := b1) (sz := H.size) hq2 (by omega)) ⟨Nat.le_of_ble_eq_true rfl, Nat.le_of_ble_eq_true rfl⟩ (fun z h => Or.inl (show iv _ _ _ from ⟨by have h8 := h.1; have h9 := h.2; omega, by have h8 := h.1; have h9 := h.2; omega⟩)) (rk_recv hK hW0 0 (by decide) rfl rfl rfl) ⟨hW0, hW1⟩ rfl rfl hl.1 (Nat.le_of_ble_eq_true rfl) dX9_solves_2 ⟨Nat.zero_le _, Nat.zero_le _⟩ (fun ov9 H3 locs4 hP5 hkp6 hS7 => ?_)
  obtain ⟨rfl, hW8, hz9⟩ := hP5
  have hW10 := rg_keepA hW0 hkp6 (by intro z h1 h2 h3; have h8 := h3.1; have h9 := h3.2; omega)
  have hz11 := hz9.trans hz
  refine W.eq (g2 := F0 m 5 ls []) rfl ?_
  refine lv_aload_n (pc := 5) hx hb dX9_solves_5 rfl (lv_at hl 0 rfl) ?_
  refine lv_aload_n (pc := 6) hx hb dX9_solves_6 rfl (lv_at hl 1 rfl) ?_
  obtain ⟨r12, w13, hq14, hm⟩ := ob2_some hm
  refine rk_TV (pc := 7) (As := [.ref b1]) (rest := []) (mc := 0) (ms := 0) hx hb hml hown hts hK hS7 (fun q hq => FA_sz rfl q hq) lkX9_290 rfl yn_X9_repairs (ct_X9_repairs (G := G) (l := l) (b0 := b0) (b1 := b1) (sz := H3.size) hq14 (by omega)) ⟨Nat.le_of_ble_eq_true rfl, Nat.le_of_ble_eq_true rfl⟩ (fun z h => Or.inl (show iv _ _ _ from ⟨by have h8 := h.1; have h9 := h.2; omega, by have h8 := h.1; have h9 := h.2; omega⟩)) (rk_recv hK hW10 0 (by decide) rfl rfl rfl) ⟨hW10, hW8⟩ rfl rfl hl.1 (Nat.le_of_ble_eq_true rfl) dX9_solves_7 ⟨Nat.zero_le _, Nat.zero_le _⟩ (fun ov9 H15 locs16 hP17 hkp18 hS19 => ?_)
  obtain ⟨rfl, hW20, hz21⟩ := hP17
  have hW22 := rg_keepA hW10 hkp18 (by intro z h1 h2 h3; have h8 := h3.1; have h9 := h3.2; omega)
  have hz23 := hz21.trans hz11
  refine W.eq (g2 := F0 m 10 ls [.int r12]) rfl ?_
  refine lv_istore_n (pc := 10) (lv' := [(3, .int r12), (0, .ref b0), (1, .ref b1), (2, .int i2)]) hx hb dX9_solves_10 rfl hl (by decide) rfl (fun ls hl => ?_)
  exact (w_fX9_solves_11_l C hd01 FU) w13 i2 r12 hm H15 locs16 ls hW22 hW20 hS19 hz23 (lv_sub hl [1, 2, 3, 0] rfl)
set_option maxHeartbeats 4000000 in
theorem ct_X9_solves {G : Gv} {l : Launch} {b0 : Nat} {b1 : Nat} {V0 : Mem} {v1 : Mem} {i2 : Int32} {rx : Int32} {rw1 : Mem} {sz : Nat} (hm : fX9_solves V0 v1 i2 = some (rx, rw1)) (hd01 : b0 + 6 ≤ b1 ∨ b1 + 13 ≤ b0) : CT G l yX9_solves (ws_ yX9_solves cX9_solves 5 (some .int)) 5 0 0 123 [.ref b0, .ref b1, .int i2] (iv b1 13) sz (fun H => rg G b0 6 (shX9 G.2.1) V0 H ∧ rg G b1 13 (shX10 G.2.1) v1 H) (fun ov H => ov = (some (.int rx)) ∧ rg G b1 13 (shX10 G.2.1) rw1 H ∧ H.size = sz) := by
  refine Met.ofW (cc := cX9_solves) (maxL := 5) (ret := (some .int)) (by decide +kernel) rfl ?_
  intro p e s m args below meth c s₁ B hml hv
  obtain ⟨rfl, ⟨hz, hW0, hW1⟩, hK⟩ := hv
  subst hz
  have hts := atoms_spec (ws := ws_ yX9_solves cX9_solves 5 (some .int)) B.pre
  have hts : ∀ w ∈ lw_all, w.before _ s = true := fun w h => hts w (List.mem_cons_of_mem _ h)
  have C : Cx G p s m _ meth c RX9 cX9_solves 5 (some .int) := ⟨B.exec, B.bytes, B.returns, B.notSynchronized, hml, findClass_of_methodNamed B.named, hts, hK⟩
  have hl := lv_entry ([.ref b0, .ref b1, .int i2]) (n := 5) (Nat.le_of_ble_eq_true rfl)
  rw [lg_entry_eq]
  generalize (lg_sl ([.ref b0, .ref b1, .int i2]) ++ List.replicate (5 - (lg_sl ([.ref b0, .ref b1, .int i2])).length) Slot.unset).toArray = ls at hl ⊢
  have hl : lv_has ls 5 [(0, .ref b0), (1, .ref b1), (2, .int i2)] := hl
  exact w_fX9_solves C hd01 _ _ hm s.heap [] ls hW0 hW1 va_S.rf rfl hl
theorem flX9_34 : FL RX9 34 9 10 RX9 TX9 29 := ⟨in_X9, rfl, by decide, q1837⟩
theorem yn_X9_solves : YN yX9_solves 2 := by
  unfold YN
  decide +kernel
theorem lkX9_299 : LV RX9 299 RX9 yX9_solves cX9_solves 5 (some .int) := ⟨q2025, q2027, qs69, q128, q2028⟩
noncomputable def fX9_worth (v0 : Mem) : Option (Int32 × Mem) :=
  ob2 (fX9_solves v0 (shf v0 19) (12 : Int32)) fun r1 w2 =>
  lm (ptm v0 19 13 w2) fun v0_12 =>
  if r1 = (1 : Int32) then (
  gb (nz64 (gL v0_12 19 13)) (
  some (((gL v0_12 19 12) / (gL v0_12 19 13)).toInt32, v0_12)))
  else (
  if r1 = 0 then (
  some ((-5 : Int32), v0_12))
  else (
  some ((-6 : Int32), v0_12)))
set_option maxHeartbeats 4000000 in
theorem w_fX9_worth (C : Cx G p s m args meth c RX9 cX9_worth 2 (some .int)) {b0 : Nat} {rx : Int32} {rw0 : Mem} : ∀ (v0 : Mem), fX9_worth v0 = some (rx, rw0) → ∀ (H : Heap) (locs : List Loc) (ls : Array Slot), rg G b0 46 (shX9 G.2.1) v0 H → va_S (FA (iv b0 46) s.heap.size) s.heap H locs → H.size = s.heap.size → lv_has ls 2 [(0, .ref b0)] → W p l e (rmT 6 0 0 147) s m args below meth c H locs 0 0 (MQ below (QcT (FA (iv b0 46) s.heap.size) (fun ov H => ov = (some (.int rx)) ∧ rg G b0 46 (shX9 G.2.1) rw0 H ∧ H.size = s.heap.size)) args s 0 0 (FA (iv b0 46) s.heap.size)) (F0 m 0 ls []) := by
  intro v0 hm H locs ls hW0 hS hz hl
  obtain ⟨hx, hb, hr, hlk, hml, hown, hts, hK⟩ := id C
  unfold fX9_worth at hm
  refine lv_aload_n (pc := 0) hx hb dX9_worth_0 rfl (lv_at hl 0 rfl) ?_
  refine lv_aload_n (pc := 1) hx hb dX9_worth_1 rfl (lv_at hl 0 rfl) ?_
  refine rk_get (pc := 2) hx hb hts hown hK hW0 flX9_34 0 (by decide) rfl rfl (x := .ref (b0 + 19)) (by first | rfl | exact congrArg (fun z => some (Value.ref z)) (by omega)) dX9_worth_2 ?_
  refine lv_bipush (pc := 5) (v := (12 : Int32)) hx hb dX9_worth_5 (by decide) ?_
  obtain ⟨r1, w2, hq3, hm⟩ := ob2_some hm
  refine rk_TV (pc := 7) (As := [.ref (b0 + 19), .int (12 : Int32)]) (rest := []) (mc := 0) (ms := 0) hx hb hml hown hts hK hS (fun q hq => FA_sz rfl q hq) lkX9_299 rfl yn_X9_solves (ct_X9_solves (G := G) (l := l) (b0 := b0) (b1 := (b0 + 19)) (sz := H.size) hq3 (by omega)) ⟨Nat.le_of_ble_eq_true rfl, Nat.le_of_ble_eq_true rfl⟩ (fun z h => Or.inl (show iv _ _ _ from ⟨by have h8 := h.1; have h9 := h.2; omega, by have h8 := h.1; have h9 := h.2; omega⟩)) (rk_recv hK hW0 0 (by decide) rfl rfl rfl) ⟨(rg_take hW0 (by decide)), (rg_sub hW0 rfl (by decide) (fun o ho x y z => shX9_n19 G.2.1 _ rfl o ho x y z))⟩ rfl rfl hl.1 (Nat.le_of_ble_eq_true rfl) dX9_worth_7 ⟨Nat.zero_le _, Nat.zero_le _⟩ (fun ov9 H4 locs5 hP6 hkp7 hS8 => ?_)
  obtain ⟨rfl, hW9, hz10⟩ := hP6
  have hW11 := rg_put (d := 19) hW0 hW9 rfl (fun o ho x y z => shX9_n19 G.2.1 _ rfl o ho x y z) hkp7
  obtain ⟨v0_12, he9, hm⟩ := lm_some hm
  rw [he9] at hW11
  have hz13 := hz10.trans hz
  refine W.eq (g2 := F0 m 10 ls [.int r1]) rfl ?_
  refine lv_istore_n (pc := 10) (lv' := [(1, .int r1), (0, .ref b0)]) hx hb dX9_worth_10 rfl hl (by decide) rfl (fun ls hl => ?_)
  refine lv_iload_n (pc := 11) hx hb dX9_worth_11 rfl (lv_at hl 0 rfl) ?_
  refine lv_iconst (pc := 12) (v := (1 : Int32)) hx hb dX9_worth_12 (by decide) ?_
  refine lv_icmp_ne (pc := 13) (tgt := 35) hx hb dX9_worth_13 (by decide) (fun c14 => ?_) (fun c14 => ?_)
  · have hm := ite_f c14 hm
    refine lv_iload_n (pc := 35) hx hb dX9_worth_35 rfl (lv_at hl 0 rfl) ?_
    refine lv_if_ne (pc := 36) (tgt := 44) hx hb dX9_worth_36 (by decide) (fun c15 => ?_) (fun c15 => ?_)
    · have hm := ite_f c15 hm
      refine lv_bipush (pc := 44) (v := (-6 : Int32)) hx hb dX9_worth_44 (by decide) ?_
      obtain ⟨e8, e9⟩ := rs2 hm
      subst e8
      subst e9
      exact rk_iret (pc := 46) hx hb hr hlk hS8 ⟨rfl, hW11, hz13⟩ dX9_worth_46
    · have hm := ite_t c15 hm
      refine lv_bipush (pc := 39) (v := (-5 : Int32)) hx hb dX9_worth_39 (by decide) ?_
      refine lv_goto (pc := 41) (tgt := 46) hx hb dX9_worth_41 (by decide) ?_
      obtain ⟨e8, e9⟩ := rs2 hm
      subst e8
      subst e9
      exact rk_iret (pc := 46) hx hb hr hlk hS8 ⟨rfl, hW11, hz13⟩ dX9_worth_46
  · have hm := ite_t c14 hm
    refine lv_aload_n (pc := 16) hx hb dX9_worth_16 rfl (lv_at hl 1 rfl) ?_
    refine rk_get (pc := 17) hx hb hts hown hK hW11 flX9_34 0 (by decide) rfl rfl (x := .ref (b0 + 19)) (by first | rfl | exact congrArg (fun z => some (Value.ref z)) (by omega)) dX9_worth_17 ?_
    refine rk_getN (pc := 20) hx hb hts hown hK hW11 fnX9_193 19 (by decide) rfl rfl (x := .long (gL v0_12 19 12)) rfl dX9_worth_20 ?_
    refine lv_aload_n (pc := 23) hx hb dX9_worth_23 rfl (lv_at hl 1 rfl) ?_
    refine rk_get (pc := 24) hx hb hts hown hK hW11 flX9_34 0 (by decide) rfl rfl (x := .ref (b0 + 19)) (by first | rfl | exact congrArg (fun z => some (Value.ref z)) (by omega)) dX9_worth_24 ?_
    refine rk_getN (pc := 27) hx hb hts hown hK hW11 fnX9_197 19 (by decide) rfl rfl (x := .long (gL v0_12 19 13)) rfl dX9_worth_27 ?_
    obtain ⟨hg16, hm⟩ := gb_some hm
    refine lv_ldiv (pc := 30) hx hb dX9_worth_30 (nz64_ne hg16) ?_
    refine lv_l2i (pc := 31) hx hb dX9_worth_31 rfl ?_
    refine lv_goto (pc := 32) (tgt := 46) hx hb dX9_worth_32 (by decide) ?_
    obtain ⟨e8, e9⟩ := rs2 hm
    subst e8
    subst e9
    exact rk_iret (pc := 46) hx hb hr hlk hS8 ⟨rfl, hW11, hz13⟩ dX9_worth_46
set_option maxHeartbeats 4000000 in
theorem ct_X9_worth {G : Gv} {l : Launch} {b0 : Nat} {v0 : Mem} {rx : Int32} {rw0 : Mem} {sz : Nat} (hm : fX9_worth v0 = some (rx, rw0)) : CT G l yX9_worth (ws_ yX9_worth cX9_worth 2 (some .int)) 6 0 0 147 [.ref b0] (iv b0 46) sz (fun H => rg G b0 46 (shX9 G.2.1) v0 H) (fun ov H => ov = (some (.int rx)) ∧ rg G b0 46 (shX9 G.2.1) rw0 H ∧ H.size = sz) := by
  refine Met.ofW (cc := cX9_worth) (maxL := 2) (ret := (some .int)) (by decide +kernel) rfl ?_
  intro p e s m args below meth c s₁ B hml hv
  obtain ⟨rfl, ⟨hz, hW0⟩, hK⟩ := hv
  subst hz
  have hts := atoms_spec (ws := ws_ yX9_worth cX9_worth 2 (some .int)) B.pre
  have hts : ∀ w ∈ lw_all, w.before _ s = true := fun w h => hts w (List.mem_cons_of_mem _ h)
  have C : Cx G p s m _ meth c RX9 cX9_worth 2 (some .int) := ⟨B.exec, B.bytes, B.returns, B.notSynchronized, hml, findClass_of_methodNamed B.named, hts, hK⟩
  have hl := lv_entry ([.ref b0]) (n := 2) (Nat.le_of_ble_eq_true rfl)
  rw [lg_entry_eq]
  generalize (lg_sl ([.ref b0]) ++ List.replicate (2 - (lg_sl ([.ref b0])).length) Slot.unset).toArray = ls at hl ⊢
  have hl : lv_has ls 2 [(0, .ref b0)] := hl
  exact w_fX9_worth C _ hm s.heap [] ls hW0 va_S.rf rfl hl
noncomputable def fX9_solve (v0 : Mem) (i1 : Int32) : Option (Int32 × Mem) :=
  ob (fX9_isIn i1.toInt64 (0 : Int64) (12 : Int64)) fun r1 =>
  if r1 = 0 then (
  some ((-2 : Int32), v0))
  else (
  ob2 (fX9_solves v0 (shf v0 6) i1) fun r4 w5 =>
  lm (ptm v0 6 13 w5) fun v0_15 =>
  some (r4, v0_15))
set_option maxHeartbeats 4000000 in
theorem w_fX9_solve (C : Cx G p s m args meth c RX9 cX9_solve 2 (some .int)) {b0 : Nat} {rx : Int32} {rw0 : Mem} : ∀ (v0 : Mem) (i1 : Int32), fX9_solve v0 i1 = some (rx, rw0) → ∀ (H : Heap) (locs : List Loc) (ls : Array Slot), rg G b0 46 (shX9 G.2.1) v0 H → va_S (FA (iv b0 46) s.heap.size) s.heap H locs → H.size = s.heap.size → lv_has ls 2 [(0, .ref b0), (1, .int i1)] → W p l e (rmT 6 0 0 147) s m args below meth c H locs 0 0 (MQ below (QcT (FA (iv b0 46) s.heap.size) (fun ov H => ov = (some (.int rx)) ∧ rg G b0 46 (shX9 G.2.1) rw0 H ∧ H.size = s.heap.size)) args s 0 0 (FA (iv b0 46) s.heap.size)) (F0 m 0 ls []) := by
  intro v0 i1 hm H locs ls hW0 hS hz hl
  obtain ⟨hx, hb, hr, hlk, hml, hown, hts, hK⟩ := id C
  unfold fX9_solve at hm
  refine lv_iload_n (pc := 0) hx hb dX9_solve_0 rfl (lv_at hl 1 rfl) ?_
  refine lv_i2l (pc := 1) hx hb dX9_solve_1 rfl ?_
  refine lv_lconst (pc := 2) (v := (0 : Int64)) hx hb dX9_solve_2 (by decide) ?_
  refine lv_ldc2 (pc := 3) (v := (12 : Int64)) hx hb hown (hts _ q2024) dX9_solve_3 ?_
  obtain ⟨r1, hq2, hm⟩ := ob_some hm
  refine rk_PS (pc := 6) (As := [.long i1.toInt64, .long (0 : Int64), .long (12 : Int64)]) (rest := []) hx hb hml hown hts hK lkX9_93 yn_X9_isIn (ct_X9_isIn (G := G) (l := l) hq2) ⟨Nat.le_of_ble_eq_true rfl, Nat.le_of_ble_eq_true rfl⟩ trivial rfl rfl hl.1 (Nat.le_of_ble_eq_true rfl) dX9_solve_6 ⟨Nat.zero_le _, Nat.zero_le _⟩ ?_
  refine W.eq (g2 := F0 m 9 ls [.int r1]) rfl ?_
  refine lv_if_eq (pc := 9) (tgt := 24) hx hb dX9_solve_9 (by decide) (fun c3 => ?_) (fun c3 => ?_)
  · have hm := ite_t c3 hm
    refine lv_bipush (pc := 24) (v := (-2 : Int32)) hx hb dX9_solve_24 (by decide) ?_
    obtain ⟨e8, e9⟩ := rs2 hm
    subst e8
    subst e9
    exact rk_iret (pc := 26) hx hb hr hlk hS ⟨rfl, hW0, hz⟩ dX9_solve_26
  · have hm := ite_f c3 hm
    refine lv_aload_n (pc := 12) hx hb dX9_solve_12 rfl (lv_at hl 0 rfl) ?_
    refine lv_aload_n (pc := 13) hx hb dX9_solve_13 rfl (lv_at hl 0 rfl) ?_
    refine rk_get (pc := 14) hx hb hts hown hK hW0 flX9_30 0 (by decide) rfl rfl (x := .ref (b0 + 6)) (by first | rfl | exact congrArg (fun z => some (Value.ref z)) (by omega)) dX9_solve_14 ?_
    refine lv_iload_n (pc := 17) hx hb dX9_solve_17 rfl (lv_at hl 1 rfl) ?_
    obtain ⟨r4, w5, hq6, hm⟩ := ob2_some hm
    refine rk_TV (pc := 18) (As := [.ref (b0 + 6), .int i1]) (rest := []) (mc := 0) (ms := 0) hx hb hml hown hts hK hS (fun q hq => FA_sz rfl q hq) lkX9_299 rfl yn_X9_solves (ct_X9_solves (G := G) (l := l) (b0 := b0) (b1 := (b0 + 6)) (sz := H.size) hq6 (by omega)) ⟨Nat.le_of_ble_eq_true rfl, Nat.le_of_ble_eq_true rfl⟩ (fun z h => Or.inl (show iv _ _ _ from ⟨by have h8 := h.1; have h9 := h.2; omega, by have h8 := h.1; have h9 := h.2; omega⟩)) (rk_recv hK hW0 0 (by decide) rfl rfl rfl) ⟨(rg_take hW0 (by decide)), (rg_sub hW0 rfl (by decide) (fun o ho x y z => shX9_n6 G.2.1 _ rfl o ho x y z))⟩ rfl rfl hl.1 (Nat.le_of_ble_eq_true rfl) dX9_solve_18 ⟨Nat.zero_le _, Nat.zero_le _⟩ (fun ov9 H7 locs8 hP9 hkp10 hS11 => ?_)
    obtain ⟨rfl, hW12, hz13⟩ := hP9
    have hW14 := rg_put (d := 6) hW0 hW12 rfl (fun o ho x y z => shX9_n6 G.2.1 _ rfl o ho x y z) hkp10
    obtain ⟨v0_15, he9, hm⟩ := lm_some hm
    rw [he9] at hW14
    have hz16 := hz13.trans hz
    refine W.eq (g2 := F0 m 21 ls [.int r4]) rfl ?_
    refine lv_goto (pc := 21) (tgt := 26) hx hb dX9_solve_21 (by decide) ?_
    obtain ⟨e8, e9⟩ := rs2 hm
    subst e8
    subst e9
    exact rk_iret (pc := 26) hx hb hr hlk hS11 ⟨rfl, hW14, hz16⟩ dX9_solve_26
set_option maxHeartbeats 4000000 in
theorem ct_X9_solve {G : Gv} {l : Launch} {b0 : Nat} {v0 : Mem} {i1 : Int32} {rx : Int32} {rw0 : Mem} {sz : Nat} (hm : fX9_solve v0 i1 = some (rx, rw0)) : CT G l yX9_solve (ws_ yX9_solve cX9_solve 2 (some .int)) 6 0 0 147 [.ref b0, .int i1] (iv b0 46) sz (fun H => rg G b0 46 (shX9 G.2.1) v0 H) (fun ov H => ov = (some (.int rx)) ∧ rg G b0 46 (shX9 G.2.1) rw0 H ∧ H.size = sz) := by
  refine Met.ofW (cc := cX9_solve) (maxL := 2) (ret := (some .int)) (by decide +kernel) rfl ?_
  intro p e s m args below meth c s₁ B hml hv
  obtain ⟨rfl, ⟨hz, hW0⟩, hK⟩ := hv
  subst hz
  have hts := atoms_spec (ws := ws_ yX9_solve cX9_solve 2 (some .int)) B.pre
  have hts : ∀ w ∈ lw_all, w.before _ s = true := fun w h => hts w (List.mem_cons_of_mem _ h)
  have C : Cx G p s m _ meth c RX9 cX9_solve 2 (some .int) := ⟨B.exec, B.bytes, B.returns, B.notSynchronized, hml, findClass_of_methodNamed B.named, hts, hK⟩
  have hl := lv_entry ([.ref b0, .int i1]) (n := 2) (Nat.le_of_ble_eq_true rfl)
  rw [lg_entry_eq]
  generalize (lg_sl ([.ref b0, .int i1]) ++ List.replicate (2 - (lg_sl ([.ref b0, .int i1])).length) Slot.unset).toArray = ls at hl ⊢
  have hl : lv_has ls 2 [(0, .ref b0), (1, .int i1)] := hl
  exact w_fX9_solve C _ _ hm s.heap [] ls hW0 va_S.rf rfl hl
noncomputable def fX9_entry_57 (V0 : Mem) (i1 : Int32) (i2 : Int32) (u0 : Int64) (u1 : Int64) (u2 : Int64) : Option (Int64) :=
  ob (fX9_isIn u0 u1 u2) fun r10 =>
  if r10 = 0 then (
  some (-9223372036854775808 : Int64))
  else (
  ob (fX9_n V0) fun r13 =>
  if i2 = r13 then (
  if 0 ≤ i1 then (
  gb (inR i1 20) (
  some (gL V0 8 i1.toNatClampNeg)))
  else (
  some (gL V0 6 12)))
  else (
  ob (fX9_n V0) fun r16 =>
  if i2 ≤ r16 then (
  if i1 = (-2 : Int32) then (
  gb (inR i2 5) (
  some (gI V0 14 i2.toNatClampNeg).toInt64))
  else (
  if i1 = (-1 : Int32) then (
  gb (inR i2 5) (
  some (gL V0 9 i2.toNatClampNeg)))
  else (
  gb (inR (((5 : Int32) * i1) + i2) 100) (
  some (gL V0 7 (((5 : Int32) * i1) + i2).toNatClampNeg)))))
  else (
  if 0 ≤ i1 then (
  gb (inR i1 20) (
  some (gI V0 13 i1.toNatClampNeg).toInt64))
  else (
  some (gL V0 6 13)))))
noncomputable def fX9_entry (V0 : Mem) (i1 : Int32) (i2 : Int32) : Option (Int64) :=
  if (gI V0 6 18) = 0 then (
  some (-9223372036854775808 : Int64))
  else (
  ob (fX9_isIn i1.toInt64 (-2 : Int64) ((gI V0 6 15) - (1 : Int32)).toInt64) fun r2 =>
  if r2 = 0 then (
  some (-9223372036854775808 : Int64))
  else (
  if i1 = (-2 : Int32) then (
  ob (fX9_n V0) fun r8 =>
  fX9_entry_57 V0 i1 i2 i2.toInt64 (0 : Int64) (r8 - (1 : Int32)).toInt64)
  else (
  ob (fX9_n V0) fun r6 =>
  fX9_entry_57 V0 i1 i2 i2.toInt64 (0 : Int64) (r6 + (1 : Int32)).toInt64)))
set_option maxHeartbeats 4000000 in
theorem w_fX9_entry_57 (C : Cx G p s m args meth c RX9 cX9_entry 3 (some .long)) {b0 : Nat} {V0 : Mem} {rx : Int64} (hW0 : rg G b0 46 (shX9 G.2.1) V0 s.heap) : ∀ (i1 : Int32) (i2 : Int32) (u0 : Int64) (u1 : Int64) (u2 : Int64), fX9_entry_57 V0 i1 i2 u0 u1 u2 = some rx → ∀ (ls : Array Slot), lv_has ls 3 [(0, .ref b0), (1, .int i1), (2, .int i2)] → W p l e (rmP 1 25) s m args below meth c s.heap [] 0 0 (MQ below (QcP (some (.long rx))) args s 0 0 (fun _ => False)) (F0 m 57 ls [.long u2, .long u1, .long u0]) := by
  intro i1 i2 u0 u1 u2 hm ls hl
  obtain ⟨hx, hb, hr, hlk, hml, hown, hts, hK⟩ := id C
  unfold fX9_entry_57 at hm
  obtain ⟨r10, hq11, hm⟩ := ob_some hm
  refine rk_PS (pc := 57) (As := [.long u0, .long u1, .long u2]) (rest := []) hx hb hml hown hts hK lkX9_93 yn_X9_isIn (ct_X9_isIn (G := G) (l := l) hq11) ⟨Nat.le_of_ble_eq_true rfl, Nat.le_of_ble_eq_true rfl⟩ trivial rfl rfl hl.1 (Nat.le_of_ble_eq_true rfl) dX9_entry_57 ⟨Nat.zero_le _, Nat.zero_le _⟩ ?_
  refine W.eq (g2 := F0 m 60 ls [.int r10]) rfl ?_
  refine lv_if_ne (pc := 60) (tgt := 67) hx hb dX9_entry_60 (by decide) (fun c12 => ?_) (fun c12 => ?_)
  · have hm := ite_f c12 hm
    refine lv_iload_n (pc := 67) hx hb dX9_entry_67 rfl (lv_at hl 2 rfl) ?_
    refine lv_aload_n (pc := 68) hx hb dX9_entry_68 rfl (lv_at hl 0 rfl) ?_
    obtain ⟨r13, hq14, hm⟩ := ob_some hm
    refine rk_PV (pc := 69) (As := []) (rest := [.int i2]) hx hb hml hown hts hK lkX9_89 rfl yn_X9_n (ct_X9_n (G := G) (l := l) (b0 := b0) hq14) ⟨Nat.le_of_ble_eq_true rfl, Nat.le_of_ble_eq_true rfl⟩ (rk_recv hK hW0 0 (by decide) rfl rfl rfl) (rg_take hW0 (by decide)) rfl rfl hl.1 (Nat.le_of_ble_eq_true rfl) dX9_entry_69 ⟨Nat.zero_le _, Nat.zero_le _⟩ ?_
    refine W.eq (g2 := F0 m 72 ls [.int r13, .int i2]) rfl ?_
    refine lv_icmp_ne (pc := 72) (tgt := 99) hx hb dX9_entry_72 (by decide) (fun c15 => ?_) (fun c15 => ?_)
    · have hm := ite_f c15 hm
      refine lv_iload_n (pc := 99) hx hb dX9_entry_99 rfl (lv_at hl 2 rfl) ?_
      refine lv_aload_n (pc := 100) hx hb dX9_entry_100 rfl (lv_at hl 0 rfl) ?_
      obtain ⟨r16, hq17, hm⟩ := ob_some hm
      refine rk_PV (pc := 101) (As := []) (rest := [.int i2]) hx hb hml hown hts hK lkX9_89 rfl yn_X9_n (ct_X9_n (G := G) (l := l) (b0 := b0) hq17) ⟨Nat.le_of_ble_eq_true rfl, Nat.le_of_ble_eq_true rfl⟩ (rk_recv hK hW0 0 (by decide) rfl rfl rfl) (rg_take hW0 (by decide)) rfl rfl hl.1 (Nat.le_of_ble_eq_true rfl) dX9_entry_101 ⟨Nat.zero_le _, Nat.zero_le _⟩ ?_
      refine W.eq (g2 := F0 m 104 ls [.int r16, .int i2]) rfl ?_
      refine lv_icmp_le (pc := 104) (tgt := 132) hx hb dX9_entry_104 (by decide) (fun c18 => ?_) (fun c18 => ?_)
      · have hm := ite_t c18 hm
        refine lv_iload_n (pc := 132) hx hb dX9_entry_132 rfl (lv_at hl 1 rfl) ?_
        refine lv_bipush (pc := 133) (v := (-2 : Int32)) hx hb dX9_entry_133 (by decide) ?_
        refine lv_icmp_ne (pc := 135) (tgt := 151) hx hb dX9_entry_135 (by decide) (fun c19 => ?_) (fun c19 => ?_)
        · have hm := ite_f c19 hm
          refine lv_iload_n (pc := 151) hx hb dX9_entry_151 rfl (lv_at hl 1 rfl) ?_
          refine lv_iconst (pc := 152) (v := (-1 : Int32)) hx hb dX9_entry_152 (by decide) ?_
          refine lv_icmp_ne (pc := 153) (tgt := 168) hx hb dX9_entry_153 (by decide) (fun c20 => ?_) (fun c20 => ?_)
          · have hm := ite_f c20 hm
            refine lv_aload_n (pc := 168) hx hb dX9_entry_168 rfl (lv_at hl 0 rfl) ?_
            refine rk_get (pc := 169) hx hb hts hown hK hW0 flX9_30 0 (by decide) rfl rfl (x := .ref (b0 + 6)) (by first | rfl | exact congrArg (fun z => some (Value.ref z)) (by omega)) dX9_entry_169 ?_
            refine rk_getN (pc := 172) hx hb hts hown hK hW0 fnX9_175 6 (by decide) rfl rfl (x := .ref (b0 + 7)) (by first | rfl | exact congrArg (fun z => some (Value.ref z)) (by omega)) dX9_entry_172 ?_
            refine lv_iconst (pc := 175) (v := (5 : Int32)) hx hb dX9_entry_175 (by decide) ?_
            refine lv_iload_n (pc := 176) hx hb dX9_entry_176 rfl (lv_at hl 1 rfl) ?_
            refine lv_imul (pc := 177) hx hb dX9_entry_177 ?_
            refine lv_iload_n (pc := 178) hx hb dX9_entry_178 rfl (lv_at hl 2 rfl) ?_
            refine lv_iadd (pc := 179) hx hb dX9_entry_179 ?_
            obtain ⟨hg21, hm⟩ := gb_some hm
            refine rk_lald (pc := 180) hx hb hK hW0 7 (by decide) rfl rfl hg21 (x := (gL V0 7 (((5 : Int32) * i1) + i2).toNatClampNeg)) rfl dX9_entry_180 ?_
            have e9 := rs1 hm
            subst e9
            exact rk_lretP (pc := 181) hx hb hr hlk rfl dX9_entry_181
          · have hm := ite_t c20 hm
            refine lv_aload_n (pc := 156) hx hb dX9_entry_156 rfl (lv_at hl 0 rfl) ?_
            refine rk_get (pc := 157) hx hb hts hown hK hW0 flX9_30 0 (by decide) rfl rfl (x := .ref (b0 + 6)) (by first | rfl | exact congrArg (fun z => some (Value.ref z)) (by omega)) dX9_entry_157 ?_
            refine rk_getN (pc := 160) hx hb hts hown hK hW0 fnX9_203 6 (by decide) rfl rfl (x := .ref (b0 + 9)) (by first | rfl | exact congrArg (fun z => some (Value.ref z)) (by omega)) dX9_entry_160 ?_
            refine lv_iload_n (pc := 163) hx hb dX9_entry_163 rfl (lv_at hl 2 rfl) ?_
            obtain ⟨hg22, hm⟩ := gb_some hm
            refine rk_lald (pc := 164) hx hb hK hW0 9 (by decide) rfl rfl hg22 (x := (gL V0 9 i2.toNatClampNeg)) rfl dX9_entry_164 ?_
            refine lv_goto (pc := 165) (tgt := 181) hx hb dX9_entry_165 (by decide) ?_
            have e9 := rs1 hm
            subst e9
            exact rk_lretP (pc := 181) hx hb hr hlk rfl dX9_entry_181
        · have hm := ite_t c19 hm
          refine lv_aload_n (pc := 138) hx hb dX9_entry_138 rfl (lv_at hl 0 rfl) ?_
          refine rk_get (pc := 139) hx hb hts hown hK hW0 flX9_30 0 (by decide) rfl rfl (x := .ref (b0 + 6)) (by first | rfl | exact congrArg (fun z => some (Value.ref z)) (by omega)) dX9_entry_139 ?_
          refine rk_getN (pc := 142) hx hb hts hown hK hW0 fnX9_206 6 (by decide) rfl rfl (x := .ref (b0 + 14)) (by first | rfl | exact congrArg (fun z => some (Value.ref z)) (by omega)) dX9_entry_142 ?_
          refine lv_iload_n (pc := 145) hx hb dX9_entry_145 rfl (lv_at hl 2 rfl) ?_
          obtain ⟨hg23, hm⟩ := gb_some hm
          refine rk_iald (pc := 146) hx hb hK hW0 14 (by decide) rfl rfl hg23 (x := (gI V0 14 i2.toNatClampNeg)) rfl dX9_entry_146 ?_
          refine lv_i2l (pc := 147) hx hb dX9_entry_147 rfl ?_
          refine lv_goto (pc := 148) (tgt := 181) hx hb dX9_entry_148 (by decide) ?_
          have e9 := rs1 hm
          subst e9
          exact rk_lretP (pc := 181) hx hb hr hlk rfl dX9_entry_181
      · have hm := ite_f c18 hm
        refine lv_iload_n (pc := 107) hx hb dX9_entry_107 rfl (lv_at hl 1 rfl) ?_
        refine lv_if_ge (pc := 108) (tgt := 121) hx hb dX9_entry_108 (by decide) (fun c24 => ?_) (fun c24 => ?_)
        · have hm := ite_t c24 hm
          refine lv_aload_n (pc := 121) hx hb dX9_entry_121 rfl (lv_at hl 0 rfl) ?_
          refine rk_get (pc := 122) hx hb hts hown hK hW0 flX9_30 0 (by decide) rfl rfl (x := .ref (b0 + 6)) (by first | rfl | exact congrArg (fun z => some (Value.ref z)) (by omega)) dX9_entry_122 ?_
          refine rk_getN (pc := 125) hx hb hts hown hK hW0 fnX9_181 6 (by decide) rfl rfl (x := .ref (b0 + 13)) (by first | rfl | exact congrArg (fun z => some (Value.ref z)) (by omega)) dX9_entry_125 ?_
          refine lv_iload_n (pc := 128) hx hb dX9_entry_128 rfl (lv_at hl 1 rfl) ?_
          obtain ⟨hg25, hm⟩ := gb_some hm
          refine rk_iald (pc := 129) hx hb hK hW0 13 (by decide) rfl rfl hg25 (x := (gI V0 13 i1.toNatClampNeg)) rfl dX9_entry_129 ?_
          refine lv_i2l (pc := 130) hx hb dX9_entry_130 rfl ?_
          have e9 := rs1 hm
          subst e9
          exact rk_lretP (pc := 131) hx hb hr hlk rfl dX9_entry_131
        · have hm := ite_f c24 hm
          refine lv_aload_n (pc := 111) hx hb dX9_entry_111 rfl (lv_at hl 0 rfl) ?_
          refine rk_get (pc := 112) hx hb hts hown hK hW0 flX9_30 0 (by decide) rfl rfl (x := .ref (b0 + 6)) (by first | rfl | exact congrArg (fun z => some (Value.ref z)) (by omega)) dX9_entry_112 ?_
          refine rk_getN (pc := 115) hx hb hts hown hK hW0 fnX9_197 6 (by decide) rfl rfl (x := .long (gL V0 6 13)) rfl dX9_entry_115 ?_
          refine lv_goto (pc := 118) (tgt := 131) hx hb dX9_entry_118 (by decide) ?_
          have e9 := rs1 hm
          subst e9
          exact rk_lretP (pc := 131) hx hb hr hlk rfl dX9_entry_131
    · have hm := ite_t c15 hm
      refine lv_iload_n (pc := 75) hx hb dX9_entry_75 rfl (lv_at hl 1 rfl) ?_
      refine lv_if_ge (pc := 76) (tgt := 89) hx hb dX9_entry_76 (by decide) (fun c26 => ?_) (fun c26 => ?_)
      · have hm := ite_t c26 hm
        refine lv_aload_n (pc := 89) hx hb dX9_entry_89 rfl (lv_at hl 0 rfl) ?_
        refine rk_get (pc := 90) hx hb hts hown hK hW0 flX9_30 0 (by decide) rfl rfl (x := .ref (b0 + 6)) (by first | rfl | exact congrArg (fun z => some (Value.ref z)) (by omega)) dX9_entry_90 ?_
        refine rk_getN (pc := 93) hx hb hts hown hK hW0 fnX9_184 6 (by decide) rfl rfl (x := .ref (b0 + 8)) (by first | rfl | exact congrArg (fun z => some (Value.ref z)) (by omega)) dX9_entry_93 ?_
        refine lv_iload_n (pc := 96) hx hb dX9_entry_96 rfl (lv_at hl 1 rfl) ?_
        obtain ⟨hg27, hm⟩ := gb_some hm
        refine rk_lald (pc := 97) hx hb hK hW0 8 (by decide) rfl rfl hg27 (x := (gL V0 8 i1.toNatClampNeg)) rfl dX9_entry_97 ?_
        have e9 := rs1 hm
        subst e9
        exact rk_lretP (pc := 98) hx hb hr hlk rfl dX9_entry_98
      · have hm := ite_f c26 hm
        refine lv_aload_n (pc := 79) hx hb dX9_entry_79 rfl (lv_at hl 0 rfl) ?_
        refine rk_get (pc := 80) hx hb hts hown hK hW0 flX9_30 0 (by decide) rfl rfl (x := .ref (b0 + 6)) (by first | rfl | exact congrArg (fun z => some (Value.ref z)) (by omega)) dX9_entry_80 ?_
        refine rk_getN (pc := 83) hx hb hts hown hK hW0 fnX9_193 6 (by decide) rfl rfl (x := .long (gL V0 6 12)) rfl dX9_entry_83 ?_
        refine lv_goto (pc := 86) (tgt := 98) hx hb dX9_entry_86 (by decide) ?_
        have e9 := rs1 hm
        subst e9
        exact rk_lretP (pc := 98) hx hb hr hlk rfl dX9_entry_98
  · have hm := ite_t c12 hm
    refine lv_ldc2 (pc := 63) (v := (-9223372036854775808 : Int64)) hx hb hown (hts _ q2101) dX9_entry_63 ?_
    have e9 := rs1 hm
    subst e9
    exact rk_lretP (pc := 66) hx hb hr hlk rfl dX9_entry_66
set_option maxHeartbeats 4000000 in
theorem w_fX9_entry (C : Cx G p s m args meth c RX9 cX9_entry 3 (some .long)) {b0 : Nat} {V0 : Mem} {rx : Int64} (hW0 : rg G b0 46 (shX9 G.2.1) V0 s.heap) : ∀ (i1 : Int32) (i2 : Int32), fX9_entry V0 i1 i2 = some rx → ∀ (ls : Array Slot), lv_has ls 3 [(0, .ref b0), (1, .int i1), (2, .int i2)] → W p l e (rmP 1 25) s m args below meth c s.heap [] 0 0 (MQ below (QcP (some (.long rx))) args s 0 0 (fun _ => False)) (F0 m 0 ls []) := by
  intro i1 i2 hm ls hl
  obtain ⟨hx, hb, hr, hlk, hml, hown, hts, hK⟩ := id C
  unfold fX9_entry at hm
  refine lv_aload_n (pc := 0) hx hb dX9_entry_0 rfl (lv_at hl 0 rfl) ?_
  refine rk_get (pc := 1) hx hb hts hown hK hW0 flX9_30 0 (by decide) rfl rfl (x := .ref (b0 + 6)) (by first | rfl | exact congrArg (fun z => some (Value.ref z)) (by omega)) dX9_entry_1 ?_
  refine rk_getN (pc := 4) hx hb hts hown hK hW0 fnX9_85 6 (by decide) rfl rfl (x := .int (gI V0 6 18)) rfl dX9_entry_4 ?_
  refine lv_if_eq (pc := 7) (tgt := 63) hx hb dX9_entry_7 (by decide) (fun c1 => ?_) (fun c1 => ?_)
  · have hm := ite_t c1 hm
    refine lv_ldc2 (pc := 63) (v := (-9223372036854775808 : Int64)) hx hb hown (hts _ q2101) dX9_entry_63 ?_
    have e9 := rs1 hm
    subst e9
    exact rk_lretP (pc := 66) hx hb hr hlk rfl dX9_entry_66
  · have hm := ite_f c1 hm
    refine lv_iload_n (pc := 10) hx hb dX9_entry_10 rfl (lv_at hl 1 rfl) ?_
    refine lv_i2l (pc := 11) hx hb dX9_entry_11 rfl ?_
    refine lv_ldc2 (pc := 12) (v := (-2 : Int64)) hx hb hown (hts _ q2100) dX9_entry_12 ?_
    refine lv_aload_n (pc := 15) hx hb dX9_entry_15 rfl (lv_at hl 0 rfl) ?_
    refine rk_get (pc := 16) hx hb hts hown hK hW0 flX9_30 0 (by decide) rfl rfl (x := .ref (b0 + 6)) (by first | rfl | exact congrArg (fun z => some (Value.ref z)) (by omega)) dX9_entry_16 ?_
    refine rk_getN (pc := 19) hx hb hts hown hK hW0 fnX9_178 6 (by decide) rfl rfl (x := .int (gI V0 6 15)) rfl dX9_entry_19 ?_
    refine lv_iconst (pc := 22) (v := (1 : Int32)) hx hb dX9_entry_22 (by decide) ?_
    refine lv_isub (pc := 23) hx hb dX9_entry_23 ?_
    refine lv_i2l (pc := 24) hx hb dX9_entry_24 rfl ?_
    obtain ⟨r2, hq3, hm⟩ := ob_some hm
    refine rk_PS (pc := 25) (As := [.long i1.toInt64, .long (-2 : Int64), .long ((gI V0 6 15) - (1 : Int32)).toInt64]) (rest := []) hx hb hml hown hts hK lkX9_93 yn_X9_isIn (ct_X9_isIn (G := G) (l := l) hq3) ⟨Nat.le_of_ble_eq_true rfl, Nat.le_of_ble_eq_true rfl⟩ trivial rfl rfl hl.1 (Nat.le_of_ble_eq_true rfl) dX9_entry_25 ⟨Nat.zero_le _, Nat.zero_le _⟩ ?_
    refine W.eq (g2 := F0 m 28 ls [.int r2]) rfl ?_
    refine lv_if_eq (pc := 28) (tgt := 63) hx hb dX9_entry_28 (by decide) (fun c4 => ?_) (fun c4 => ?_)
    · have hm := ite_t c4 hm
      refine lv_ldc2 (pc := 63) (v := (-9223372036854775808 : Int64)) hx hb hown (hts _ q2101) dX9_entry_63 ?_
      have e9 := rs1 hm
      subst e9
      exact rk_lretP (pc := 66) hx hb hr hlk rfl dX9_entry_66
    · have hm := ite_f c4 hm
      refine lv_iload_n (pc := 31) hx hb dX9_entry_31 rfl (lv_at hl 2 rfl) ?_
      refine lv_i2l (pc := 32) hx hb dX9_entry_32 rfl ?_
      refine lv_lconst (pc := 33) (v := (0 : Int64)) hx hb dX9_entry_33 (by decide) ?_
      refine lv_iload_n (pc := 34) hx hb dX9_entry_34 rfl (lv_at hl 1 rfl) ?_
      refine lv_bipush (pc := 35) (v := (-2 : Int32)) hx hb dX9_entry_35 (by decide) ?_
      refine lv_icmp_ne (pc := 37) (tgt := 50) hx hb dX9_entry_37 (by decide) (fun c5 => ?_) (fun c5 => ?_)
      · have hm := ite_f c5 hm
        refine lv_aload_n (pc := 50) hx hb dX9_entry_50 rfl (lv_at hl 0 rfl) ?_
        obtain ⟨r6, hq7, hm⟩ := ob_some hm
        refine rk_PV (pc := 51) (As := []) (rest := [.long (0 : Int64), .long i2.toInt64]) hx hb hml hown hts hK lkX9_89 rfl yn_X9_n (ct_X9_n (G := G) (l := l) (b0 := b0) hq7) ⟨Nat.le_of_ble_eq_true rfl, Nat.le_of_ble_eq_true rfl⟩ (rk_recv hK hW0 0 (by decide) rfl rfl rfl) (rg_take hW0 (by decide)) rfl rfl hl.1 (Nat.le_of_ble_eq_true rfl) dX9_entry_51 ⟨Nat.zero_le _, Nat.zero_le _⟩ ?_
        refine W.eq (g2 := F0 m 54 ls [.int r6, .long (0 : Int64), .long i2.toInt64]) rfl ?_
        refine lv_iconst (pc := 54) (v := (1 : Int32)) hx hb dX9_entry_54 (by decide) ?_
        refine lv_iadd (pc := 55) hx hb dX9_entry_55 ?_
        refine lv_i2l (pc := 56) hx hb dX9_entry_56 rfl ?_
        exact (w_fX9_entry_57 C hW0) i1 i2 i2.toInt64 (0 : Int64) (r6 + (1 : Int32)).toInt64 hm ls (lv_sub hl [0, 1, 2] rfl)
      · have hm := ite_t c5 hm
        refine lv_aload_n (pc := 40) hx hb dX9_entry_40 rfl (lv_at hl 0 rfl) ?_
        obtain ⟨r8, hq9, hm⟩ := ob_some hm
        refine rk_PV (pc := 41) (As := []) (rest := [.long (0 : Int64), .long i2.toInt64]) hx hb hml hown hts hK lkX9_89 rfl yn_X9_n (ct_X9_n (G := G) (l := l) (b0 := b0) hq9) ⟨Nat.le_of_ble_eq_true rfl, Nat.le_of_ble_eq_true rfl⟩ (rk_recv hK hW0 0 (by decide) rfl rfl rfl) (rg_take hW0 (by decide)) rfl rfl hl.1 (Nat.le_of_ble_eq_true rfl) dX9_entry_41 ⟨Nat.zero_le _, Nat.zero_le _⟩ ?_
        refine W.eq (g2 := F0 m 44 ls [.int r8, .long (0 : Int64), .long i2.toInt64]) rfl ?_
        refine lv_iconst (pc := 44) (v := (1 : Int32)) hx hb dX9_entry_44 (by decide) ?_
        refine lv_isub (pc := 45) hx hb dX9_entry_45 ?_
        refine lv_i2l (pc := 46) hx hb dX9_entry_46 rfl ?_
        refine lv_goto (pc := 47) (tgt := 57) hx hb dX9_entry_47 (by decide) ?_
        exact (w_fX9_entry_57 C hW0) i1 i2 i2.toInt64 (0 : Int64) (r8 - (1 : Int32)).toInt64 hm ls (lv_sub hl [0, 1, 2] rfl)
set_option maxHeartbeats 4000000 in
theorem ct_X9_entry {G : Gv} {l : Launch} {b0 : Nat} {V0 : Mem} {i1 : Int32} {i2 : Int32} {rx : Int64} (hm : fX9_entry V0 i1 i2 = some rx) : CP G l yX9_entry (ws_ yX9_entry cX9_entry 3 (some .long)) 1 25 [.ref b0, .int i1, .int i2] (fun H => rg G b0 46 (shX9 G.2.1) V0 H) (some (.long rx)) := by
  refine Met.ofW (cc := cX9_entry) (maxL := 3) (ret := (some .long)) (by decide +kernel) rfl ?_
  intro p e s m args below meth c s₁ B hml hv
  obtain ⟨rfl, hW0, hK⟩ := hv
  have hts := atoms_spec (ws := ws_ yX9_entry cX9_entry 3 (some .long)) B.pre
  have hts : ∀ w ∈ lw_all, w.before _ s = true := fun w h => hts w (List.mem_cons_of_mem _ h)
  have C : Cx G p s m _ meth c RX9 cX9_entry 3 (some .long) := ⟨B.exec, B.bytes, B.returns, B.notSynchronized, hml, findClass_of_methodNamed B.named, hts, hK⟩
  have hl := lv_entry ([.ref b0, .int i1, .int i2]) (n := 3) (Nat.le_of_ble_eq_true rfl)
  rw [lg_entry_eq]
  generalize (lg_sl ([.ref b0, .int i1, .int i2]) ++ List.replicate (3 - (lg_sl ([.ref b0, .int i1, .int i2])).length) Slot.unset).toArray = ls at hl ⊢
  have hl : lv_has ls 3 [(0, .ref b0), (1, .int i1), (2, .int i2)] := hl
  exact w_fX9_entry C hW0 _ _ hm ls hl
noncomputable def fX9_lowest_17 (k17 : Int64 → Int64 → Int32 → Int64 → Int64 → Option (Int64)) (j0 : Int64) (j2 : Int64) (i4 : Int32) (j5 : Int64) (j7 : Int64) : Option (Int64) :=
  if j7 = (0 : Int64) then (
  if i4 = 0 then (
  gb (nz64 j5) (
  some (j0 / j5)))
  else (
  gb (nz64 j5) (
  some (j2 / j5))))
  else (
  gb (nz64 j7) (
  k17 j0 j2 i4 j7 (j5 - j5 / j7 * j7)))
noncomputable def fX9_lowest (j0 : Int64) (j2 : Int64) (i4 : Int32) : Option (Int64) :=
  if (0 : Int64) ≤ j0 then (
  lq5 (fX9_lowest_17) FU j0 j2 i4 j0 j2)
  else (
  lq5 (fX9_lowest_17) FU j0 j2 i4 (-j0) j2)
set_option maxHeartbeats 4000000 in
theorem w_fX9_lowest_17 (C : Cx G p s m args meth c RX9 cX9_lowest 11 (some .long)) {rx : Int64} {k17 : Int64 → Int64 → Int32 → Int64 → Int64 → Option (Int64)} (hk17 : ∀ (j0 : Int64) (j2 : Int64) (i4 : Int32) (j5 : Int64) (j7 : Int64), k17 j0 j2 i4 j5 j7 = some rx → ∀ (ls : Array Slot), lv_has ls 11 [(0, .long j0), (2, .long j2), (4, .int i4), (5, .long j5), (7, .long j7)] → W p l e (rmP 0 0) s m args below meth c s.heap [] 0 0 (MQ below (QcP (some (.long rx))) args s 0 0 (fun _ => False)) (F0 m 17 ls [])) : ∀ (j0 : Int64) (j2 : Int64) (i4 : Int32) (j5 : Int64) (j7 : Int64), fX9_lowest_17 k17 j0 j2 i4 j5 j7 = some rx → ∀ (ls : Array Slot), lv_has ls 11 [(0, .long j0), (2, .long j2), (4, .int i4), (5, .long j5), (7, .long j7)] → W p l e (rmP 0 0) s m args below meth c s.heap [] 0 0 (MQ below (QcP (some (.long rx))) args s 0 0 (fun _ => False)) (F0 m 17 ls []) := by
  intro j0 j2 i4 j5 j7 hm ls hl
  obtain ⟨hx, hb, hr, hlk, hml, hown, hts, hK⟩ := id C
  unfold fX9_lowest_17 at hm
  refine lv_lload (pc := 17) hx hb dX9_lowest_17 (lv_at hl 4 rfl) ?_
  refine lv_lconst (pc := 19) (v := (0 : Int64)) hx hb dX9_lowest_19 (by decide) ?_
  refine rk_lcmp_eq (pc := 20) (tgt := 42) hx hb dX9_lowest_20 rfl dX9_lowest_21 (by decide) (fun c2 => ?_) (fun c2 => ?_)
  · have hm := ite_t c2 hm
    refine lv_iload (pc := 42) hx hb dX9_lowest_42 (lv_at hl 2 rfl) ?_
    refine lv_if_ne (pc := 44) (tgt := 54) hx hb dX9_lowest_44 (by decide) (fun c3 => ?_) (fun c3 => ?_)
    · have hm := ite_f c3 hm
      refine lv_lload_n (pc := 54) hx hb dX9_lowest_54 rfl (lv_at hl 1 rfl) ?_
      refine lv_lload (pc := 55) hx hb dX9_lowest_55 (lv_at hl 3 rfl) ?_
      obtain ⟨hg4, hm⟩ := gb_some hm
      refine lv_ldiv (pc := 57) hx hb dX9_lowest_57 (nz64_ne hg4) ?_
      have e9 := rs1 hm
      subst e9
      exact rk_lretP (pc := 58) hx hb hr hlk rfl dX9_lowest_58
    · have hm := ite_t c3 hm
      refine lv_lload_n (pc := 47) hx hb dX9_lowest_47 rfl (lv_at hl 0 rfl) ?_
      refine lv_lload (pc := 48) hx hb dX9_lowest_48 (lv_at hl 3 rfl) ?_
      obtain ⟨hg5, hm⟩ := gb_some hm
      refine lv_ldiv (pc := 50) hx hb dX9_lowest_50 (nz64_ne hg5) ?_
      refine lv_goto (pc := 51) (tgt := 58) hx hb dX9_lowest_51 (by decide) ?_
      have e9 := rs1 hm
      subst e9
      exact rk_lretP (pc := 58) hx hb hr hlk rfl dX9_lowest_58
  · have hm := ite_f c2 hm
    refine lv_lload (pc := 24) hx hb dX9_lowest_24 (lv_at hl 3 rfl) ?_
    refine lv_lload (pc := 26) hx hb dX9_lowest_26 (lv_at hl 4 rfl) ?_
    obtain ⟨hg6, hm⟩ := gb_some hm
    refine lv_lrem (pc := 28) hx hb dX9_lowest_28 (nz64_ne hg6) ?_
    refine lv_lstore (pc := 29) (lv' := [(9, .long (j5 - j5 / j7 * j7)), (0, .long j0), (2, .long j2), (4, .int i4), (5, .long j5), (7, .long j7)]) hx hb dX9_lowest_29 hl (by decide) rfl (fun ls hl => ?_)
    refine lv_lload (pc := 31) hx hb dX9_lowest_31 (lv_at hl 5 rfl) ?_
    refine lv_lstore (pc := 33) (lv' := [(5, .long j7), (9, .long (j5 - j5 / j7 * j7)), (0, .long j0), (2, .long j2), (4, .int i4), (7, .long j7)]) hx hb dX9_lowest_33 hl (by decide) rfl (fun ls hl => ?_)
    refine lv_lload (pc := 35) hx hb dX9_lowest_35 (lv_at hl 1 rfl) ?_
    refine lv_lstore (pc := 37) (lv' := [(7, .long (j5 - j5 / j7 * j7)), (5, .long j7), (9, .long (j5 - j5 / j7 * j7)), (0, .long j0), (2, .long j2), (4, .int i4)]) hx hb dX9_lowest_37 hl (by decide) rfl (fun ls hl => ?_)
    refine lv_goto (pc := 39) (tgt := 17) hx hb dX9_lowest_39 (by decide) ?_
    exact hk17 j0 j2 i4 j7 (j5 - j5 / j7 * j7) hm ls (lv_sub hl [3, 4, 5, 1, 0] rfl)
theorem w_fX9_lowest_17_l (C : Cx G p s m args meth c RX9 cX9_lowest 11 (some .long)) {rx : Int64} : ∀ (n : Nat) (j0 : Int64) (j2 : Int64) (i4 : Int32) (j5 : Int64) (j7 : Int64), lq5 (fX9_lowest_17) n j0 j2 i4 j5 j7 = some rx → ∀ (ls : Array Slot), lv_has ls 11 [(0, .long j0), (2, .long j2), (4, .int i4), (5, .long j5), (7, .long j7)] → W p l e (rmP 0 0) s m args below meth c s.heap [] 0 0 (MQ below (QcP (some (.long rx))) args s 0 0 (fun _ => False)) (F0 m 17 ls []) := by
  intro n
  induction n with
  | zero => intro j0 j2 i4 j5 j7 hm; exact (lq5_0 hm).elim
  | succ n ih => intro j0 j2 i4 j5 j7 hm; exact w_fX9_lowest_17 C ih j0 j2 i4 j5 j7 (lq5_s hm)
set_option maxHeartbeats 4000000 in
theorem w_fX9_lowest (C : Cx G p s m args meth c RX9 cX9_lowest 11 (some .long)) {rx : Int64} : ∀ (j0 : Int64) (j2 : Int64) (i4 : Int32), fX9_lowest j0 j2 i4 = some rx → ∀ (ls : Array Slot), lv_has ls 11 [(0, .long j0), (2, .long j2), (4, .int i4)] → W p l e (rmP 0 0) s m args below meth c s.heap [] 0 0 (MQ below (QcP (some (.long rx))) args s 0 0 (fun _ => False)) (F0 m 0 ls []) := by
  intro j0 j2 i4 hm ls hl
  obtain ⟨hx, hb, hr, hlk, hml, hown, hts, hK⟩ := id C
  unfold fX9_lowest at hm
  refine lv_lload_n (pc := 0) hx hb dX9_lowest_0 rfl (lv_at hl 0 rfl) ?_
  refine lv_lconst (pc := 1) (v := (0 : Int64)) hx hb dX9_lowest_1 (by decide) ?_
  refine rk_lcmp_ge (pc := 2) (tgt := 11) hx hb dX9_lowest_2 rfl dX9_lowest_3 (by decide) (fun c1 => ?_) (fun c1 => ?_)
  · have hm := ite_t c1 hm
    refine lv_lload_n (pc := 11) hx hb dX9_lowest_11 rfl (lv_at hl 0 rfl) ?_
    refine lv_lstore (pc := 12) (lv' := [(5, .long j0), (0, .long j0), (2, .long j2), (4, .int i4)]) hx hb dX9_lowest_12 hl (by decide) rfl (fun ls hl => ?_)
    refine lv_lload_n (pc := 14) hx hb dX9_lowest_14 rfl (lv_at hl 2 rfl) ?_
    refine lv_lstore (pc := 15) (lv' := [(7, .long j2), (5, .long j0), (0, .long j0), (2, .long j2), (4, .int i4)]) hx hb dX9_lowest_15 hl (by decide) rfl (fun ls hl => ?_)
    exact (w_fX9_lowest_17_l C FU) j0 j2 i4 j0 j2 hm ls (lv_sub hl [2, 3, 4, 1, 0] rfl)
  · have hm := ite_f c1 hm
    refine lv_lload_n (pc := 6) hx hb dX9_lowest_6 rfl (lv_at hl 0 rfl) ?_
    refine lv_lneg (pc := 7) hx hb dX9_lowest_7 ?_
    refine lv_goto (pc := 8) (tgt := 12) hx hb dX9_lowest_8 (by decide) ?_
    refine lv_lstore (pc := 12) (lv' := [(5, .long (-j0)), (0, .long j0), (2, .long j2), (4, .int i4)]) hx hb dX9_lowest_12 hl (by decide) rfl (fun ls hl => ?_)
    refine lv_lload_n (pc := 14) hx hb dX9_lowest_14 rfl (lv_at hl 2 rfl) ?_
    refine lv_lstore (pc := 15) (lv' := [(7, .long j2), (5, .long (-j0)), (0, .long j0), (2, .long j2), (4, .int i4)]) hx hb dX9_lowest_15 hl (by decide) rfl (fun ls hl => ?_)
    exact (w_fX9_lowest_17_l C FU) j0 j2 i4 (-j0) j2 hm ls (lv_sub hl [2, 3, 4, 1, 0] rfl)
set_option maxHeartbeats 4000000 in
theorem ct_X9_lowest {G : Gv} {l : Launch} {j0 : Int64} {j2 : Int64} {i4 : Int32} {rx : Int64} (hm : fX9_lowest j0 j2 i4 = some rx) : CP G l yX9_lowest (ws_ yX9_lowest cX9_lowest 11 (some .long)) 0 0 [.long j0, .long j2, .int i4] (fun H => True) (some (.long rx)) := by
  refine Met.ofW (cc := cX9_lowest) (maxL := 11) (ret := (some .long)) (by decide +kernel) rfl ?_
  intro p e s m args below meth c s₁ B hml hv
  obtain ⟨rfl, -, hK⟩ := hv
  have hts := atoms_spec (ws := ws_ yX9_lowest cX9_lowest 11 (some .long)) B.pre
  have hts : ∀ w ∈ lw_all, w.before _ s = true := fun w h => hts w (List.mem_cons_of_mem _ h)
  have C : Cx G p s m _ meth c RX9 cX9_lowest 11 (some .long) := ⟨B.exec, B.bytes, B.returns, B.notSynchronized, hml, findClass_of_methodNamed B.named, hts, hK⟩
  have hl := lv_entry ([.long j0, .long j2, .int i4]) (n := 11) (Nat.le_of_ble_eq_true rfl)
  rw [lg_entry_eq]
  generalize (lg_sl ([.long j0, .long j2, .int i4]) ++ List.replicate (11 - (lg_sl ([.long j0, .long j2, .int i4])).length) Slot.unset).toArray = ls at hl ⊢
  have hl : lv_has ls 11 [(0, .long j0), (2, .long j2), (4, .int i4)] := hl
  exact w_fX9_lowest C _ _ _ hm ls hl
noncomputable def fX9_isPart (i0 : Int32) : Option (Int32) :=
  ob (fX9_isIn i0.toInt64 (0 : Int64) (1 : Int64)) fun r1 =>
  gb (z01 r1) (some r1)
set_option maxHeartbeats 4000000 in
theorem w_fX9_isPart (C : Cx G p s m args meth c RX9 cX9_isPart 1 (some .boolean)) {rx : Int32} : ∀ (i0 : Int32), fX9_isPart i0 = some rx → ∀ (ls : Array Slot), lv_has ls 1 [(0, .int i0)] → W p l e (rmP 1 25) s m args below meth c s.heap [] 0 0 (MQ below (QcP (some (.int rx))) args s 0 0 (fun _ => False)) (F0 m 0 ls []) := by
  intro i0 hm ls hl
  obtain ⟨hx, hb, hr, hlk, hml, hown, hts, hK⟩ := id C
  unfold fX9_isPart at hm
  refine lv_iload_n (pc := 0) hx hb dX9_isPart_0 rfl (lv_at hl 0 rfl) ?_
  refine lv_i2l (pc := 1) hx hb dX9_isPart_1 rfl ?_
  refine lv_lconst (pc := 2) (v := (0 : Int64)) hx hb dX9_isPart_2 (by decide) ?_
  refine lv_lconst (pc := 3) (v := (1 : Int64)) hx hb dX9_isPart_3 (by decide) ?_
  obtain ⟨r1, hq2, hm⟩ := ob_some hm
  refine rk_PS (pc := 4) (As := [.long i0.toInt64, .long (0 : Int64), .long (1 : Int64)]) (rest := []) hx hb hml hown hts hK lkX9_93 yn_X9_isIn (ct_X9_isIn (G := G) (l := l) hq2) ⟨Nat.le_of_ble_eq_true rfl, Nat.le_of_ble_eq_true rfl⟩ trivial rfl rfl hl.1 (Nat.le_of_ble_eq_true rfl) dX9_isPart_4 ⟨Nat.zero_le _, Nat.zero_le _⟩ ?_
  refine W.eq (g2 := F0 m 7 ls [.int r1]) rfl ?_
  obtain ⟨hg3, hm⟩ := gb_some hm
  have e9 := rs1 hm
  subst e9
  exact rk_zretP (pc := 7) hx hb hr hlk hg3 rfl dX9_isPart_7
set_option maxHeartbeats 4000000 in
theorem ct_X9_isPart {G : Gv} {l : Launch} {i0 : Int32} {rx : Int32} (hm : fX9_isPart i0 = some rx) : CP G l yX9_isPart (ws_ yX9_isPart cX9_isPart 1 (some .boolean)) 1 25 [.int i0] (fun H => True) (some (.int rx)) := by
  refine Met.ofW (cc := cX9_isPart) (maxL := 1) (ret := (some .boolean)) (by decide +kernel) rfl ?_
  intro p e s m args below meth c s₁ B hml hv
  obtain ⟨rfl, -, hK⟩ := hv
  have hts := atoms_spec (ws := ws_ yX9_isPart cX9_isPart 1 (some .boolean)) B.pre
  have hts : ∀ w ∈ lw_all, w.before _ s = true := fun w h => hts w (List.mem_cons_of_mem _ h)
  have C : Cx G p s m _ meth c RX9 cX9_isPart 1 (some .boolean) := ⟨B.exec, B.bytes, B.returns, B.notSynchronized, hml, findClass_of_methodNamed B.named, hts, hK⟩
  have hl := lv_entry ([.int i0]) (n := 1) (Nat.le_of_ble_eq_true rfl)
  rw [lg_entry_eq]
  generalize (lg_sl ([.int i0]) ++ List.replicate (1 - (lg_sl ([.int i0])).length) Slot.unset).toArray = ls at hl ⊢
  have hl : lv_has ls 1 [(0, .int i0)] := hl
  exact w_fX9_isPart C _ hm ls hl
theorem yn_X9_rowOf : YN yX9_rowOf 2 := by
  unfold YN
  decide +kernel
theorem lkX9_308 : LV RX9 308 RX9 yX9_rowOf cX9_rowOf 4 (some .int) := ⟨q2113, q2115, qs85, q128, q2116⟩
noncomputable def fX9_amountIn (V0 : Mem) (V1 : Mem) (i2 : Int32) : Option (Int64) :=
  ob (fX9_rowOf V0 V1 i2) fun r1 =>
  if 0 ≤ r1 then (
  gb (inR r1 20) (
  some (gL V1 2 r1.toNatClampNeg)))
  else (
  some (0 : Int64))
set_option maxHeartbeats 4000000 in
theorem w_fX9_amountIn (C : Cx G p s m args meth c RX9 cX9_amountIn 4 (some .long)) {b0 : Nat} {b1 : Nat} {V0 : Mem} {V1 : Mem} {rx : Int64} (hW0 : rg G b0 6 (shX9 G.2.1) V0 s.heap) (hW1 : rg G b1 13 (shX10 G.2.1) V1 s.heap) : ∀ (i2 : Int32), fX9_amountIn V0 V1 i2 = some rx → ∀ (ls : Array Slot), lv_has ls 4 [(0, .ref b0), (1, .ref b1), (2, .int i2)] → W p l e (rmP 1 23) s m args below meth c s.heap [] 0 0 (MQ below (QcP (some (.long rx))) args s 0 0 (fun _ => False)) (F0 m 0 ls []) := by
  intro i2 hm ls hl
  obtain ⟨hx, hb, hr, hlk, hml, hown, hts, hK⟩ := id C
  unfold fX9_amountIn at hm
  refine lv_aload_n (pc := 0) hx hb dX9_amountIn_0 rfl (lv_at hl 0 rfl) ?_
  refine lv_aload_n (pc := 1) hx hb dX9_amountIn_1 rfl (lv_at hl 1 rfl) ?_
  refine lv_iload_n (pc := 2) hx hb dX9_amountIn_2 rfl (lv_at hl 2 rfl) ?_
  obtain ⟨r1, hq2, hm⟩ := ob_some hm
  refine rk_PV (pc := 3) (As := [.ref b1, .int i2]) (rest := []) hx hb hml hown hts hK lkX9_308 rfl yn_X9_rowOf (ct_X9_rowOf (G := G) (l := l) (b0 := b0) (b1 := b1) hq2) ⟨Nat.le_of_ble_eq_true rfl, Nat.le_of_ble_eq_true rfl⟩ (rk_recv hK hW0 0 (by decide) rfl rfl rfl) ⟨hW0, hW1⟩ rfl rfl hl.1 (Nat.le_of_ble_eq_true rfl) dX9_amountIn_3 ⟨Nat.zero_le _, Nat.zero_le _⟩ ?_
  refine W.eq (g2 := F0 m 6 ls [.int r1]) rfl ?_
  refine lv_istore_n (pc := 6) (lv' := [(3, .int r1), (0, .ref b0), (1, .ref b1), (2, .int i2)]) hx hb dX9_amountIn_6 rfl hl (by decide) rfl (fun ls hl => ?_)
  refine lv_iload_n (pc := 7) hx hb dX9_amountIn_7 rfl (lv_at hl 0 rfl) ?_
  refine lv_if_ge (pc := 8) (tgt := 15) hx hb dX9_amountIn_8 (by decide) (fun c3 => ?_) (fun c3 => ?_)
  · have hm := ite_t c3 hm
    refine lv_aload_n (pc := 15) hx hb dX9_amountIn_15 rfl (lv_at hl 2 rfl) ?_
    refine rk_getN (pc := 16) hx hb hts hown hK hW1 fnX9_184 0 (by decide) rfl rfl (x := .ref (b1 + 2)) (by first | rfl | exact congrArg (fun z => some (Value.ref z)) (by omega)) dX9_amountIn_16 ?_
    refine lv_iload_n (pc := 19) hx hb dX9_amountIn_19 rfl (lv_at hl 0 rfl) ?_
    obtain ⟨hg4, hm⟩ := gb_some hm
    refine rk_lald (pc := 20) hx hb hK hW1 2 (by decide) rfl rfl hg4 (x := (gL V1 2 r1.toNatClampNeg)) rfl dX9_amountIn_20 ?_
    have e9 := rs1 hm
    subst e9
    exact rk_lretP (pc := 21) hx hb hr hlk rfl dX9_amountIn_21
  · have hm := ite_f c3 hm
    refine lv_lconst (pc := 11) (v := (0 : Int64)) hx hb dX9_amountIn_11 (by decide) ?_
    refine lv_goto (pc := 12) (tgt := 21) hx hb dX9_amountIn_12 (by decide) ?_
    have e9 := rs1 hm
    subst e9
    exact rk_lretP (pc := 21) hx hb hr hlk rfl dX9_amountIn_21
set_option maxHeartbeats 4000000 in
theorem ct_X9_amountIn {G : Gv} {l : Launch} {b0 : Nat} {b1 : Nat} {V0 : Mem} {V1 : Mem} {i2 : Int32} {rx : Int64} (hm : fX9_amountIn V0 V1 i2 = some rx) : CP G l yX9_amountIn (ws_ yX9_amountIn cX9_amountIn 4 (some .long)) 1 23 [.ref b0, .ref b1, .int i2] (fun H => rg G b0 6 (shX9 G.2.1) V0 H ∧ rg G b1 13 (shX10 G.2.1) V1 H) (some (.long rx)) := by
  refine Met.ofW (cc := cX9_amountIn) (maxL := 4) (ret := (some .long)) (by decide +kernel) rfl ?_
  intro p e s m args below meth c s₁ B hml hv
  obtain ⟨rfl, ⟨hW0, hW1⟩, hK⟩ := hv
  have hts := atoms_spec (ws := ws_ yX9_amountIn cX9_amountIn 4 (some .long)) B.pre
  have hts : ∀ w ∈ lw_all, w.before _ s = true := fun w h => hts w (List.mem_cons_of_mem _ h)
  have C : Cx G p s m _ meth c RX9 cX9_amountIn 4 (some .long) := ⟨B.exec, B.bytes, B.returns, B.notSynchronized, hml, findClass_of_methodNamed B.named, hts, hK⟩
  have hl := lv_entry ([.ref b0, .ref b1, .int i2]) (n := 4) (Nat.le_of_ble_eq_true rfl)
  rw [lg_entry_eq]
  generalize (lg_sl ([.ref b0, .ref b1, .int i2]) ++ List.replicate (4 - (lg_sl ([.ref b0, .ref b1, .int i2])).length) Slot.unset).toArray = ls at hl ⊢
  have hl : lv_has ls 4 [(0, .ref b0), (1, .ref b1), (2, .int i2)] := hl
  exact w_fX9_amountIn C hW0 hW1 _ hm ls hl
theorem yn_X9_isPart : YN yX9_isPart 1 := by
  unfold YN
  decide +kernel
theorem lkX9_311 : LSt RX9 311 yX9_isPart cX9_isPart 1 (some .boolean) := ⟨q2106, q2107, q128, q2108⟩
theorem yn_X9_amountIn : YN yX9_amountIn 2 := by
  unfold YN
  decide +kernel
theorem lkX9_314 : LV RX9 314 RX9 yX9_amountIn cX9_amountIn 4 (some .long) := ⟨q2109, q2111, qs84, q128, q2112⟩
theorem yn_X9_lowest : YN yX9_lowest 3 := by
  unfold YN
  decide +kernel
theorem lkX9_317 : LSt RX9 317 yX9_lowest cX9_lowest 11 (some .long) := ⟨q2117, q2118, q128, q2119⟩
noncomputable def fX9_amount (V0 : Mem) (i1 : Int32) (i2 : Int32) : Option (Int64) :=
  if (gI V0 6 18) = 0 then (
  some (-9223372036854775808 : Int64))
  else (
  ob (fX9_isPack V0 i1) fun r2 =>
  if r2 = 0 then (
  some (-9223372036854775808 : Int64))
  else (
  ob (fX9_isPart i2) fun r5 =>
  if r5 = 0 then (
  some (-9223372036854775808 : Int64))
  else (
  ob (fX9_amountIn V0 (shf V0 6) i1) fun r8 =>
  ob (fX9_lowest r8 (gL V0 6 13) i2) fun r10 =>
  some r10)))
set_option maxHeartbeats 4000000 in
theorem w_fX9_amount (C : Cx G p s m args meth c RX9 cX9_amount 3 (some .long)) {b0 : Nat} {V0 : Mem} {rx : Int64} (hW0 : rg G b0 46 (shX9 G.2.1) V0 s.heap) : ∀ (i1 : Int32) (i2 : Int32), fX9_amount V0 i1 i2 = some rx → ∀ (ls : Array Slot), lv_has ls 3 [(0, .ref b0), (1, .int i1), (2, .int i2)] → W p l e (rmP 2 46) s m args below meth c s.heap [] 0 0 (MQ below (QcP (some (.long rx))) args s 0 0 (fun _ => False)) (F0 m 0 ls []) := by
  intro i1 i2 hm ls hl
  obtain ⟨hx, hb, hr, hlk, hml, hown, hts, hK⟩ := id C
  unfold fX9_amount at hm
  refine lv_aload_n (pc := 0) hx hb dX9_amount_0 rfl (lv_at hl 0 rfl) ?_
  refine rk_get (pc := 1) hx hb hts hown hK hW0 flX9_30 0 (by decide) rfl rfl (x := .ref (b0 + 6)) (by first | rfl | exact congrArg (fun z => some (Value.ref z)) (by omega)) dX9_amount_1 ?_
  refine rk_getN (pc := 4) hx hb hts hown hK hW0 fnX9_85 6 (by decide) rfl rfl (x := .int (gI V0 6 18)) rfl dX9_amount_4 ?_
  refine lv_if_eq (pc := 7) (tgt := 48) hx hb dX9_amount_7 (by decide) (fun c1 => ?_) (fun c1 => ?_)
  · have hm := ite_t c1 hm
    refine lv_ldc2 (pc := 48) (v := (-9223372036854775808 : Int64)) hx hb hown (hts _ q2101) dX9_amount_48 ?_
    have e9 := rs1 hm
    subst e9
    exact rk_lretP (pc := 51) hx hb hr hlk rfl dX9_amount_51
  · have hm := ite_f c1 hm
    refine lv_aload_n (pc := 10) hx hb dX9_amount_10 rfl (lv_at hl 0 rfl) ?_
    refine lv_iload_n (pc := 11) hx hb dX9_amount_11 rfl (lv_at hl 1 rfl) ?_
    obtain ⟨r2, hq3, hm⟩ := ob_some hm
    refine rk_PV (pc := 12) (As := [.int i1]) (rest := []) hx hb hml hown hts hK lkX9_110 rfl yn_X9_isPack (ct_X9_isPack (G := G) (l := l) (b0 := b0) hq3) ⟨Nat.le_of_ble_eq_true rfl, Nat.le_of_ble_eq_true rfl⟩ (rk_recv hK hW0 0 (by decide) rfl rfl rfl) (rg_take hW0 (by decide)) rfl rfl hl.1 (Nat.le_of_ble_eq_true rfl) dX9_amount_12 ⟨Nat.zero_le _, Nat.zero_le _⟩ ?_
    refine W.eq (g2 := F0 m 15 ls [.int r2]) rfl ?_
    refine lv_if_eq (pc := 15) (tgt := 48) hx hb dX9_amount_15 (by decide) (fun c4 => ?_) (fun c4 => ?_)
    · have hm := ite_t c4 hm
      refine lv_ldc2 (pc := 48) (v := (-9223372036854775808 : Int64)) hx hb hown (hts _ q2101) dX9_amount_48 ?_
      have e9 := rs1 hm
      subst e9
      exact rk_lretP (pc := 51) hx hb hr hlk rfl dX9_amount_51
    · have hm := ite_f c4 hm
      refine lv_iload_n (pc := 18) hx hb dX9_amount_18 rfl (lv_at hl 2 rfl) ?_
      obtain ⟨r5, hq6, hm⟩ := ob_some hm
      refine rk_PS (pc := 19) (As := [.int i2]) (rest := []) hx hb hml hown hts hK lkX9_311 yn_X9_isPart (ct_X9_isPart (G := G) (l := l) hq6) ⟨Nat.le_of_ble_eq_true rfl, Nat.le_of_ble_eq_true rfl⟩ trivial rfl rfl hl.1 (Nat.le_of_ble_eq_true rfl) dX9_amount_19 ⟨Nat.zero_le _, Nat.zero_le _⟩ ?_
      refine W.eq (g2 := F0 m 22 ls [.int r5]) rfl ?_
      refine lv_if_eq (pc := 22) (tgt := 48) hx hb dX9_amount_22 (by decide) (fun c7 => ?_) (fun c7 => ?_)
      · have hm := ite_t c7 hm
        refine lv_ldc2 (pc := 48) (v := (-9223372036854775808 : Int64)) hx hb hown (hts _ q2101) dX9_amount_48 ?_
        have e9 := rs1 hm
        subst e9
        exact rk_lretP (pc := 51) hx hb hr hlk rfl dX9_amount_51
      · have hm := ite_f c7 hm
        refine lv_aload_n (pc := 25) hx hb dX9_amount_25 rfl (lv_at hl 0 rfl) ?_
        refine lv_aload_n (pc := 26) hx hb dX9_amount_26 rfl (lv_at hl 0 rfl) ?_
        refine rk_get (pc := 27) hx hb hts hown hK hW0 flX9_30 0 (by decide) rfl rfl (x := .ref (b0 + 6)) (by first | rfl | exact congrArg (fun z => some (Value.ref z)) (by omega)) dX9_amount_27 ?_
        refine lv_iload_n (pc := 30) hx hb dX9_amount_30 rfl (lv_at hl 1 rfl) ?_
        obtain ⟨r8, hq9, hm⟩ := ob_some hm
        refine rk_PV (pc := 31) (As := [.ref (b0 + 6), .int i1]) (rest := []) hx hb hml hown hts hK lkX9_314 rfl yn_X9_amountIn (ct_X9_amountIn (G := G) (l := l) (b0 := b0) (b1 := (b0 + 6)) hq9) ⟨Nat.le_of_ble_eq_true rfl, Nat.le_of_ble_eq_true rfl⟩ (rk_recv hK hW0 0 (by decide) rfl rfl rfl) ⟨(rg_take hW0 (by decide)), (rg_sub hW0 rfl (by decide) (fun o ho x y z => shX9_n6 G.2.1 _ rfl o ho x y z))⟩ rfl rfl hl.1 (Nat.le_of_ble_eq_true rfl) dX9_amount_31 ⟨Nat.zero_le _, Nat.zero_le _⟩ ?_
        refine W.eq (g2 := F0 m 34 ls [.long r8]) rfl ?_
        refine lv_aload_n (pc := 34) hx hb dX9_amount_34 rfl (lv_at hl 0 rfl) ?_
        refine rk_get (pc := 35) hx hb hts hown hK hW0 flX9_30 0 (by decide) rfl rfl (x := .ref (b0 + 6)) (by first | rfl | exact congrArg (fun z => some (Value.ref z)) (by omega)) dX9_amount_35 ?_
        refine rk_getN (pc := 38) hx hb hts hown hK hW0 fnX9_197 6 (by decide) rfl rfl (x := .long (gL V0 6 13)) rfl dX9_amount_38 ?_
        refine lv_iload_n (pc := 41) hx hb dX9_amount_41 rfl (lv_at hl 2 rfl) ?_
        obtain ⟨r10, hq11, hm⟩ := ob_some hm
        refine rk_PS (pc := 42) (As := [.long r8, .long (gL V0 6 13), .int i2]) (rest := []) hx hb hml hown hts hK lkX9_317 yn_X9_lowest (ct_X9_lowest (G := G) (l := l) hq11) ⟨Nat.le_of_ble_eq_true rfl, Nat.le_of_ble_eq_true rfl⟩ trivial rfl rfl hl.1 (Nat.le_of_ble_eq_true rfl) dX9_amount_42 ⟨Nat.zero_le _, Nat.zero_le _⟩ ?_
        refine W.eq (g2 := F0 m 45 ls [.long r10]) rfl ?_
        refine lv_goto (pc := 45) (tgt := 51) hx hb dX9_amount_45 (by decide) ?_
        have e9 := rs1 hm
        subst e9
        exact rk_lretP (pc := 51) hx hb hr hlk rfl dX9_amount_51
set_option maxHeartbeats 4000000 in
theorem ct_X9_amount {G : Gv} {l : Launch} {b0 : Nat} {V0 : Mem} {i1 : Int32} {i2 : Int32} {rx : Int64} (hm : fX9_amount V0 i1 i2 = some rx) : CP G l yX9_amount (ws_ yX9_amount cX9_amount 3 (some .long)) 2 46 [.ref b0, .int i1, .int i2] (fun H => rg G b0 46 (shX9 G.2.1) V0 H) (some (.long rx)) := by
  refine Met.ofW (cc := cX9_amount) (maxL := 3) (ret := (some .long)) (by decide +kernel) rfl ?_
  intro p e s m args below meth c s₁ B hml hv
  obtain ⟨rfl, hW0, hK⟩ := hv
  have hts := atoms_spec (ws := ws_ yX9_amount cX9_amount 3 (some .long)) B.pre
  have hts : ∀ w ∈ lw_all, w.before _ s = true := fun w h => hts w (List.mem_cons_of_mem _ h)
  have C : Cx G p s m _ meth c RX9 cX9_amount 3 (some .long) := ⟨B.exec, B.bytes, B.returns, B.notSynchronized, hml, findClass_of_methodNamed B.named, hts, hK⟩
  have hl := lv_entry ([.ref b0, .int i1, .int i2]) (n := 3) (Nat.le_of_ble_eq_true rfl)
  rw [lg_entry_eq]
  generalize (lg_sl ([.ref b0, .int i1, .int i2]) ++ List.replicate (3 - (lg_sl ([.ref b0, .int i1, .int i2])).length) Slot.unset).toArray = ls at hl ⊢
  have hl : lv_has ls 3 [(0, .ref b0), (1, .int i1), (2, .int i2)] := hl
  exact w_fX9_amount C hW0 _ _ hm ls hl
noncomputable def fX9_value (V0 : Mem) (i1 : Int32) : Option (Int64) :=
  if (gI V0 6 18) = 0 then (
  some (-9223372036854775808 : Int64))
  else (
  ob (fX9_isPart i1) fun r2 =>
  if r2 = 0 then (
  some (-9223372036854775808 : Int64))
  else (
  ob (fX9_lowest (gL V0 6 12) (gL V0 6 13) i1) fun r5 =>
  some r5))
set_option maxHeartbeats 4000000 in
theorem w_fX9_value (C : Cx G p s m args meth c RX9 cX9_value 2 (some .long)) {b0 : Nat} {V0 : Mem} {rx : Int64} (hW0 : rg G b0 46 (shX9 G.2.1) V0 s.heap) : ∀ (i1 : Int32), fX9_value V0 i1 = some rx → ∀ (ls : Array Slot), lv_has ls 2 [(0, .ref b0), (1, .int i1)] → W p l e (rmP 2 45) s m args below meth c s.heap [] 0 0 (MQ below (QcP (some (.long rx))) args s 0 0 (fun _ => False)) (F0 m 0 ls []) := by
  intro i1 hm ls hl
  obtain ⟨hx, hb, hr, hlk, hml, hown, hts, hK⟩ := id C
  unfold fX9_value at hm
  refine lv_aload_n (pc := 0) hx hb dX9_value_0 rfl (lv_at hl 0 rfl) ?_
  refine rk_get (pc := 1) hx hb hts hown hK hW0 flX9_30 0 (by decide) rfl rfl (x := .ref (b0 + 6)) (by first | rfl | exact congrArg (fun z => some (Value.ref z)) (by omega)) dX9_value_1 ?_
  refine rk_getN (pc := 4) hx hb hts hown hK hW0 fnX9_85 6 (by decide) rfl rfl (x := .int (gI V0 6 18)) rfl dX9_value_4 ?_
  refine lv_if_eq (pc := 7) (tgt := 38) hx hb dX9_value_7 (by decide) (fun c1 => ?_) (fun c1 => ?_)
  · have hm := ite_t c1 hm
    refine lv_ldc2 (pc := 38) (v := (-9223372036854775808 : Int64)) hx hb hown (hts _ q2101) dX9_value_38 ?_
    have e9 := rs1 hm
    subst e9
    exact rk_lretP (pc := 41) hx hb hr hlk rfl dX9_value_41
  · have hm := ite_f c1 hm
    refine lv_iload_n (pc := 10) hx hb dX9_value_10 rfl (lv_at hl 1 rfl) ?_
    obtain ⟨r2, hq3, hm⟩ := ob_some hm
    refine rk_PS (pc := 11) (As := [.int i1]) (rest := []) hx hb hml hown hts hK lkX9_311 yn_X9_isPart (ct_X9_isPart (G := G) (l := l) hq3) ⟨Nat.le_of_ble_eq_true rfl, Nat.le_of_ble_eq_true rfl⟩ trivial rfl rfl hl.1 (Nat.le_of_ble_eq_true rfl) dX9_value_11 ⟨Nat.zero_le _, Nat.zero_le _⟩ ?_
    refine W.eq (g2 := F0 m 14 ls [.int r2]) rfl ?_
    refine lv_if_eq (pc := 14) (tgt := 38) hx hb dX9_value_14 (by decide) (fun c4 => ?_) (fun c4 => ?_)
    · have hm := ite_t c4 hm
      refine lv_ldc2 (pc := 38) (v := (-9223372036854775808 : Int64)) hx hb hown (hts _ q2101) dX9_value_38 ?_
      have e9 := rs1 hm
      subst e9
      exact rk_lretP (pc := 41) hx hb hr hlk rfl dX9_value_41
    · have hm := ite_f c4 hm
      refine lv_aload_n (pc := 17) hx hb dX9_value_17 rfl (lv_at hl 0 rfl) ?_
      refine rk_get (pc := 18) hx hb hts hown hK hW0 flX9_30 0 (by decide) rfl rfl (x := .ref (b0 + 6)) (by first | rfl | exact congrArg (fun z => some (Value.ref z)) (by omega)) dX9_value_18 ?_
      refine rk_getN (pc := 21) hx hb hts hown hK hW0 fnX9_193 6 (by decide) rfl rfl (x := .long (gL V0 6 12)) rfl dX9_value_21 ?_
      refine lv_aload_n (pc := 24) hx hb dX9_value_24 rfl (lv_at hl 0 rfl) ?_
      refine rk_get (pc := 25) hx hb hts hown hK hW0 flX9_30 0 (by decide) rfl rfl (x := .ref (b0 + 6)) (by first | rfl | exact congrArg (fun z => some (Value.ref z)) (by omega)) dX9_value_25 ?_
      refine rk_getN (pc := 28) hx hb hts hown hK hW0 fnX9_197 6 (by decide) rfl rfl (x := .long (gL V0 6 13)) rfl dX9_value_28 ?_
      refine lv_iload_n (pc := 31) hx hb dX9_value_31 rfl (lv_at hl 1 rfl) ?_
      obtain ⟨r5, hq6, hm⟩ := ob_some hm
      refine rk_PS (pc := 32) (As := [.long (gL V0 6 12), .long (gL V0 6 13), .int i1]) (rest := []) hx hb hml hown hts hK lkX9_317 yn_X9_lowest (ct_X9_lowest (G := G) (l := l) hq6) ⟨Nat.le_of_ble_eq_true rfl, Nat.le_of_ble_eq_true rfl⟩ trivial rfl rfl hl.1 (Nat.le_of_ble_eq_true rfl) dX9_value_32 ⟨Nat.zero_le _, Nat.zero_le _⟩ ?_
      refine W.eq (g2 := F0 m 35 ls [.long r5]) rfl ?_
      refine lv_goto (pc := 35) (tgt := 41) hx hb dX9_value_35 (by decide) ?_
      have e9 := rs1 hm
      subst e9
      exact rk_lretP (pc := 41) hx hb hr hlk rfl dX9_value_41
set_option maxHeartbeats 4000000 in
theorem ct_X9_value {G : Gv} {l : Launch} {b0 : Nat} {V0 : Mem} {i1 : Int32} {rx : Int64} (hm : fX9_value V0 i1 = some rx) : CP G l yX9_value (ws_ yX9_value cX9_value 2 (some .long)) 2 45 [.ref b0, .int i1] (fun H => rg G b0 46 (shX9 G.2.1) V0 H) (some (.long rx)) := by
  refine Met.ofW (cc := cX9_value) (maxL := 2) (ret := (some .long)) (by decide +kernel) rfl ?_
  intro p e s m args below meth c s₁ B hml hv
  obtain ⟨rfl, hW0, hK⟩ := hv
  have hts := atoms_spec (ws := ws_ yX9_value cX9_value 2 (some .long)) B.pre
  have hts : ∀ w ∈ lw_all, w.before _ s = true := fun w h => hts w (List.mem_cons_of_mem _ h)
  have C : Cx G p s m _ meth c RX9 cX9_value 2 (some .long) := ⟨B.exec, B.bytes, B.returns, B.notSynchronized, hml, findClass_of_methodNamed B.named, hts, hK⟩
  have hl := lv_entry ([.ref b0, .int i1]) (n := 2) (Nat.le_of_ble_eq_true rfl)
  rw [lg_entry_eq]
  generalize (lg_sl ([.ref b0, .int i1]) ++ List.replicate (2 - (lg_sl ([.ref b0, .int i1])).length) Slot.unset).toArray = ls at hl ⊢
  have hl : lv_has ls 2 [(0, .ref b0), (1, .int i1)] := hl
  exact w_fX9_value C hW0 _ hm ls hl
noncomputable def fX9_price_31 (V0 : Mem) (k31 : Int32 → Int32 → Int32 → Option (Int64)) (i1 : Int32) (i2 : Int32) (i3 : Int32) : Option (Int64) :=
  ob (fX9_n V0) fun r8 =>
  if r8 ≤ i3 then (
  some i2.toInt64)
  else (
  gb (inR i3 5) (
  if (gI V0 14 i3.toNatClampNeg) = ((10 : Int32) + i1) then (
  gb (inR i3 5) (
  ob (fX9_lowest (gL V0 9 i3.toNatClampNeg) (gL V0 6 13) i2) fun r14 =>
  some r14))
  else (
  k31 i1 i2 (i3 + (1 : Int32)))))
noncomputable def fX9_price (V0 : Mem) (i1 : Int32) (i2 : Int32) : Option (Int64) :=
  if (gI V0 6 18) = 0 then (
  some (-9223372036854775808 : Int64))
  else (
  ob (fX9_isRule V0 i1) fun r2 =>
  if r2 = 0 then (
  some (-9223372036854775808 : Int64))
  else (
  ob (fX9_isPart i2) fun r5 =>
  if r5 = 0 then (
  some (-9223372036854775808 : Int64))
  else (
  lq3 (fX9_price_31 V0) FU i1 i2 (0 : Int32))))
set_option maxHeartbeats 4000000 in
theorem w_fX9_price_31 (C : Cx G p s m args meth c RX9 cX9_price 4 (some .long)) {b0 : Nat} {V0 : Mem} {rx : Int64} (hW0 : rg G b0 46 (shX9 G.2.1) V0 s.heap) {k31 : Int32 → Int32 → Int32 → Option (Int64)} (hk31 : ∀ (i1 : Int32) (i2 : Int32) (i3 : Int32), k31 i1 i2 i3 = some rx → ∀ (ls : Array Slot), lv_has ls 4 [(0, .ref b0), (1, .int i1), (2, .int i2), (3, .int i3)] → W p l e (rmP 2 46) s m args below meth c s.heap [] 0 0 (MQ below (QcP (some (.long rx))) args s 0 0 (fun _ => False)) (F0 m 31 ls [])) : ∀ (i1 : Int32) (i2 : Int32) (i3 : Int32), fX9_price_31 V0 k31 i1 i2 i3 = some rx → ∀ (ls : Array Slot), lv_has ls 4 [(0, .ref b0), (1, .int i1), (2, .int i2), (3, .int i3)] → W p l e (rmP 2 46) s m args below meth c s.heap [] 0 0 (MQ below (QcP (some (.long rx))) args s 0 0 (fun _ => False)) (F0 m 31 ls []) := by
  intro i1 i2 i3 hm ls hl
  obtain ⟨hx, hb, hr, hlk, hml, hown, hts, hK⟩ := id C
  unfold fX9_price_31 at hm
  refine lv_iload_n (pc := 31) hx hb dX9_price_31 rfl (lv_at hl 3 rfl) ?_
  refine lv_aload_n (pc := 32) hx hb dX9_price_32 rfl (lv_at hl 0 rfl) ?_
  obtain ⟨r8, hq9, hm⟩ := ob_some hm
  refine rk_PV (pc := 33) (As := []) (rest := [.int i3]) hx hb hml hown hts hK lkX9_89 rfl yn_X9_n (ct_X9_n (G := G) (l := l) (b0 := b0) hq9) ⟨Nat.le_of_ble_eq_true rfl, Nat.le_of_ble_eq_true rfl⟩ (rk_recv hK hW0 0 (by decide) rfl rfl rfl) (rg_take hW0 (by decide)) rfl rfl hl.1 (Nat.le_of_ble_eq_true rfl) dX9_price_33 ⟨Nat.zero_le _, Nat.zero_le _⟩ ?_
  refine W.eq (g2 := F0 m 36 ls [.int r8, .int i3]) rfl ?_
  refine lv_icmp_ge (pc := 36) (tgt := 82) hx hb dX9_price_36 (by decide) (fun c10 => ?_) (fun c10 => ?_)
  · have hm := ite_t c10 hm
    refine lv_iload_n (pc := 82) hx hb dX9_price_82 rfl (lv_at hl 2 rfl) ?_
    refine lv_i2l (pc := 83) hx hb dX9_price_83 rfl ?_
    have e9 := rs1 hm
    subst e9
    exact rk_lretP (pc := 84) hx hb hr hlk rfl dX9_price_84
  · have hm := ite_f c10 hm
    refine lv_aload_n (pc := 39) hx hb dX9_price_39 rfl (lv_at hl 0 rfl) ?_
    refine rk_get (pc := 40) hx hb hts hown hK hW0 flX9_30 0 (by decide) rfl rfl (x := .ref (b0 + 6)) (by first | rfl | exact congrArg (fun z => some (Value.ref z)) (by omega)) dX9_price_40 ?_
    refine rk_getN (pc := 43) hx hb hts hown hK hW0 fnX9_206 6 (by decide) rfl rfl (x := .ref (b0 + 14)) (by first | rfl | exact congrArg (fun z => some (Value.ref z)) (by omega)) dX9_price_43 ?_
    refine lv_iload_n (pc := 46) hx hb dX9_price_46 rfl (lv_at hl 3 rfl) ?_
    obtain ⟨hg11, hm⟩ := gb_some hm
    refine rk_iald (pc := 47) hx hb hK hW0 14 (by decide) rfl rfl hg11 (x := (gI V0 14 i3.toNatClampNeg)) rfl dX9_price_47 ?_
    refine lv_bipush (pc := 48) (v := (10 : Int32)) hx hb dX9_price_48 (by decide) ?_
    refine lv_iload_n (pc := 50) hx hb dX9_price_50 rfl (lv_at hl 1 rfl) ?_
    refine lv_iadd (pc := 51) hx hb dX9_price_51 ?_
    refine lv_icmp_ne (pc := 52) (tgt := 76) hx hb dX9_price_52 (by decide) (fun c12 => ?_) (fun c12 => ?_)
    · have hm := ite_f c12 hm
      refine lv_iinc (pc := 76) (v := (i3 + (1 : Int32))) (lv' := [(3, .int (i3 + (1 : Int32))), (0, .ref b0), (1, .int i1), (2, .int i2)]) hx hb dX9_price_76 hl (k := 3) rfl rfl (by decide) rfl (fun ls hl => ?_)
      refine lv_goto (pc := 79) (tgt := 31) hx hb dX9_price_79 (by decide) ?_
      exact hk31 i1 i2 (i3 + (1 : Int32)) hm ls (lv_sub hl [1, 2, 3, 0] rfl)
    · have hm := ite_t c12 hm
      refine lv_aload_n (pc := 55) hx hb dX9_price_55 rfl (lv_at hl 0 rfl) ?_
      refine rk_get (pc := 56) hx hb hts hown hK hW0 flX9_30 0 (by decide) rfl rfl (x := .ref (b0 + 6)) (by first | rfl | exact congrArg (fun z => some (Value.ref z)) (by omega)) dX9_price_56 ?_
      refine rk_getN (pc := 59) hx hb hts hown hK hW0 fnX9_203 6 (by decide) rfl rfl (x := .ref (b0 + 9)) (by first | rfl | exact congrArg (fun z => some (Value.ref z)) (by omega)) dX9_price_59 ?_
      refine lv_iload_n (pc := 62) hx hb dX9_price_62 rfl (lv_at hl 3 rfl) ?_
      obtain ⟨hg13, hm⟩ := gb_some hm
      refine rk_lald (pc := 63) hx hb hK hW0 9 (by decide) rfl rfl hg13 (x := (gL V0 9 i3.toNatClampNeg)) rfl dX9_price_63 ?_
      refine lv_aload_n (pc := 64) hx hb dX9_price_64 rfl (lv_at hl 0 rfl) ?_
      refine rk_get (pc := 65) hx hb hts hown hK hW0 flX9_30 0 (by decide) rfl rfl (x := .ref (b0 + 6)) (by first | rfl | exact congrArg (fun z => some (Value.ref z)) (by omega)) dX9_price_65 ?_
      refine rk_getN (pc := 68) hx hb hts hown hK hW0 fnX9_197 6 (by decide) rfl rfl (x := .long (gL V0 6 13)) rfl dX9_price_68 ?_
      refine lv_iload_n (pc := 71) hx hb dX9_price_71 rfl (lv_at hl 2 rfl) ?_
      obtain ⟨r14, hq15, hm⟩ := ob_some hm
      refine rk_PS (pc := 72) (As := [.long (gL V0 9 i3.toNatClampNeg), .long (gL V0 6 13), .int i2]) (rest := []) hx hb hml hown hts hK lkX9_317 yn_X9_lowest (ct_X9_lowest (G := G) (l := l) hq15) ⟨Nat.le_of_ble_eq_true rfl, Nat.le_of_ble_eq_true rfl⟩ trivial rfl rfl hl.1 (Nat.le_of_ble_eq_true rfl) dX9_price_72 ⟨Nat.zero_le _, Nat.zero_le _⟩ ?_
      refine W.eq (g2 := F0 m 75 ls [.long r14]) rfl ?_
      have e9 := rs1 hm
      subst e9
      exact rk_lretP (pc := 75) hx hb hr hlk rfl dX9_price_75
theorem w_fX9_price_31_l (C : Cx G p s m args meth c RX9 cX9_price 4 (some .long)) {b0 : Nat} {V0 : Mem} {rx : Int64} (hW0 : rg G b0 46 (shX9 G.2.1) V0 s.heap) : ∀ (n : Nat) (i1 : Int32) (i2 : Int32) (i3 : Int32), lq3 (fX9_price_31 V0) n i1 i2 i3 = some rx → ∀ (ls : Array Slot), lv_has ls 4 [(0, .ref b0), (1, .int i1), (2, .int i2), (3, .int i3)] → W p l e (rmP 2 46) s m args below meth c s.heap [] 0 0 (MQ below (QcP (some (.long rx))) args s 0 0 (fun _ => False)) (F0 m 31 ls []) := by
  intro n
  induction n with
  | zero => intro i1 i2 i3 hm; exact (lq3_0 hm).elim
  | succ n ih => intro i1 i2 i3 hm; exact w_fX9_price_31 C hW0 ih i1 i2 i3 (lq3_s hm)
set_option maxHeartbeats 4000000 in
theorem w_fX9_price (C : Cx G p s m args meth c RX9 cX9_price 4 (some .long)) {b0 : Nat} {V0 : Mem} {rx : Int64} (hW0 : rg G b0 46 (shX9 G.2.1) V0 s.heap) : ∀ (i1 : Int32) (i2 : Int32), fX9_price V0 i1 i2 = some rx → ∀ (ls : Array Slot), lv_has ls 4 [(0, .ref b0), (1, .int i1), (2, .int i2)] → W p l e (rmP 2 46) s m args below meth c s.heap [] 0 0 (MQ below (QcP (some (.long rx))) args s 0 0 (fun _ => False)) (F0 m 0 ls []) := by
  intro i1 i2 hm ls hl
  obtain ⟨hx, hb, hr, hlk, hml, hown, hts, hK⟩ := id C
  unfold fX9_price at hm
  refine lv_aload_n (pc := 0) hx hb dX9_price_0 rfl (lv_at hl 0 rfl) ?_
  refine rk_get (pc := 1) hx hb hts hown hK hW0 flX9_30 0 (by decide) rfl rfl (x := .ref (b0 + 6)) (by first | rfl | exact congrArg (fun z => some (Value.ref z)) (by omega)) dX9_price_1 ?_
  refine rk_getN (pc := 4) hx hb hts hown hK hW0 fnX9_85 6 (by decide) rfl rfl (x := .int (gI V0 6 18)) rfl dX9_price_4 ?_
  refine lv_if_eq (pc := 7) (tgt := 25) hx hb dX9_price_7 (by decide) (fun c1 => ?_) (fun c1 => ?_)
  · have hm := ite_t c1 hm
    refine lv_ldc2 (pc := 25) (v := (-9223372036854775808 : Int64)) hx hb hown (hts _ q2101) dX9_price_25 ?_
    have e9 := rs1 hm
    subst e9
    exact rk_lretP (pc := 28) hx hb hr hlk rfl dX9_price_28
  · have hm := ite_f c1 hm
    refine lv_aload_n (pc := 10) hx hb dX9_price_10 rfl (lv_at hl 0 rfl) ?_
    refine lv_iload_n (pc := 11) hx hb dX9_price_11 rfl (lv_at hl 1 rfl) ?_
    obtain ⟨r2, hq3, hm⟩ := ob_some hm
    refine rk_PV (pc := 12) (As := [.int i1]) (rest := []) hx hb hml hown hts hK lkX9_124 rfl yn_X9_isRule (ct_X9_isRule (G := G) (l := l) (b0 := b0) hq3) ⟨Nat.le_of_ble_eq_true rfl, Nat.le_of_ble_eq_true rfl⟩ (rk_recv hK hW0 0 (by decide) rfl rfl rfl) (rg_take hW0 (by decide)) rfl rfl hl.1 (Nat.le_of_ble_eq_true rfl) dX9_price_12 ⟨Nat.zero_le _, Nat.zero_le _⟩ ?_
    refine W.eq (g2 := F0 m 15 ls [.int r2]) rfl ?_
    refine lv_if_eq (pc := 15) (tgt := 25) hx hb dX9_price_15 (by decide) (fun c4 => ?_) (fun c4 => ?_)
    · have hm := ite_t c4 hm
      refine lv_ldc2 (pc := 25) (v := (-9223372036854775808 : Int64)) hx hb hown (hts _ q2101) dX9_price_25 ?_
      have e9 := rs1 hm
      subst e9
      exact rk_lretP (pc := 28) hx hb hr hlk rfl dX9_price_28
    · have hm := ite_f c4 hm
      refine lv_iload_n (pc := 18) hx hb dX9_price_18 rfl (lv_at hl 2 rfl) ?_
      obtain ⟨r5, hq6, hm⟩ := ob_some hm
      refine rk_PS (pc := 19) (As := [.int i2]) (rest := []) hx hb hml hown hts hK lkX9_311 yn_X9_isPart (ct_X9_isPart (G := G) (l := l) hq6) ⟨Nat.le_of_ble_eq_true rfl, Nat.le_of_ble_eq_true rfl⟩ trivial rfl rfl hl.1 (Nat.le_of_ble_eq_true rfl) dX9_price_19 ⟨Nat.zero_le _, Nat.zero_le _⟩ ?_
      refine W.eq (g2 := F0 m 22 ls [.int r5]) rfl ?_
      refine lv_if_ne (pc := 22) (tgt := 29) hx hb dX9_price_22 (by decide) (fun c7 => ?_) (fun c7 => ?_)
      · have hm := ite_f c7 hm
        refine lv_iconst (pc := 29) (v := (0 : Int32)) hx hb dX9_price_29 (by decide) ?_
        refine lv_istore_n (pc := 30) (lv' := [(3, .int (0 : Int32)), (0, .ref b0), (1, .int i1), (2, .int i2)]) hx hb dX9_price_30 rfl hl (by decide) rfl (fun ls hl => ?_)
        exact (w_fX9_price_31_l C hW0 FU) i1 i2 (0 : Int32) hm ls (lv_sub hl [1, 2, 3, 0] rfl)
      · have hm := ite_t c7 hm
        refine lv_ldc2 (pc := 25) (v := (-9223372036854775808 : Int64)) hx hb hown (hts _ q2101) dX9_price_25 ?_
        have e9 := rs1 hm
        subst e9
        exact rk_lretP (pc := 28) hx hb hr hlk rfl dX9_price_28
set_option maxHeartbeats 4000000 in
theorem ct_X9_price {G : Gv} {l : Launch} {b0 : Nat} {V0 : Mem} {i1 : Int32} {i2 : Int32} {rx : Int64} (hm : fX9_price V0 i1 i2 = some rx) : CP G l yX9_price (ws_ yX9_price cX9_price 4 (some .long)) 2 46 [.ref b0, .int i1, .int i2] (fun H => rg G b0 46 (shX9 G.2.1) V0 H) (some (.long rx)) := by
  refine Met.ofW (cc := cX9_price) (maxL := 4) (ret := (some .long)) (by decide +kernel) rfl ?_
  intro p e s m args below meth c s₁ B hml hv
  obtain ⟨rfl, hW0, hK⟩ := hv
  have hts := atoms_spec (ws := ws_ yX9_price cX9_price 4 (some .long)) B.pre
  have hts : ∀ w ∈ lw_all, w.before _ s = true := fun w h => hts w (List.mem_cons_of_mem _ h)
  have C : Cx G p s m _ meth c RX9 cX9_price 4 (some .long) := ⟨B.exec, B.bytes, B.returns, B.notSynchronized, hml, findClass_of_methodNamed B.named, hts, hK⟩
  have hl := lv_entry ([.ref b0, .int i1, .int i2]) (n := 4) (Nat.le_of_ble_eq_true rfl)
  rw [lg_entry_eq]
  generalize (lg_sl ([.ref b0, .int i1, .int i2]) ++ List.replicate (4 - (lg_sl ([.ref b0, .int i1, .int i2])).length) Slot.unset).toArray = ls at hl ⊢
  have hl : lv_has ls 4 [(0, .ref b0), (1, .int i1), (2, .int i2)] := hl
  exact w_fX9_price C hW0 _ _ hm ls hl
noncomputable def fX9_isCut (V0 : Mem) (i1 : Int32) : Option (Int32) :=
  if (gI V0 6 18) = 0 then (
  some (0 : Int32))
  else (
  ob (fX9_isIn i1.toInt64 (0 : Int64) ((gI V0 6 16) - (1 : Int32)).toInt64) fun r2 =>
  if r2 = 0 then (
  some (0 : Int32))
  else (
  some (1 : Int32)))
set_option maxHeartbeats 4000000 in
theorem w_fX9_isCut (C : Cx G p s m args meth c RX9 cX9_isCut 2 (some .boolean)) {b0 : Nat} {V0 : Mem} {rx : Int32} (hW0 : rg G b0 46 (shX9 G.2.1) V0 s.heap) : ∀ (i1 : Int32), fX9_isCut V0 i1 = some rx → ∀ (ls : Array Slot), lv_has ls 2 [(0, .ref b0), (1, .int i1)] → W p l e (rmP 1 25) s m args below meth c s.heap [] 0 0 (MQ below (QcP (some (.int rx))) args s 0 0 (fun _ => False)) (F0 m 0 ls []) := by
  intro i1 hm ls hl
  obtain ⟨hx, hb, hr, hlk, hml, hown, hts, hK⟩ := id C
  unfold fX9_isCut at hm
  refine lv_aload_n (pc := 0) hx hb dX9_isCut_0 rfl (lv_at hl 0 rfl) ?_
  refine rk_get (pc := 1) hx hb hts hown hK hW0 flX9_30 0 (by decide) rfl rfl (x := .ref (b0 + 6)) (by first | rfl | exact congrArg (fun z => some (Value.ref z)) (by omega)) dX9_isCut_1 ?_
  refine rk_getN (pc := 4) hx hb hts hown hK hW0 fnX9_85 6 (by decide) rfl rfl (x := .int (gI V0 6 18)) rfl dX9_isCut_4 ?_
  refine lv_if_eq (pc := 7) (tgt := 33) hx hb dX9_isCut_7 (by decide) (fun c1 => ?_) (fun c1 => ?_)
  · have hm := ite_t c1 hm
    refine lv_iconst (pc := 33) (v := (0 : Int32)) hx hb dX9_isCut_33 (by decide) ?_
    have e9 := rs1 hm
    subst e9
    exact rk_zretP (pc := 34) hx hb hr hlk rfl rfl dX9_isCut_34
  · have hm := ite_f c1 hm
    refine lv_iload_n (pc := 10) hx hb dX9_isCut_10 rfl (lv_at hl 1 rfl) ?_
    refine lv_i2l (pc := 11) hx hb dX9_isCut_11 rfl ?_
    refine lv_lconst (pc := 12) (v := (0 : Int64)) hx hb dX9_isCut_12 (by decide) ?_
    refine lv_aload_n (pc := 13) hx hb dX9_isCut_13 rfl (lv_at hl 0 rfl) ?_
    refine rk_get (pc := 14) hx hb hts hown hK hW0 flX9_30 0 (by decide) rfl rfl (x := .ref (b0 + 6)) (by first | rfl | exact congrArg (fun z => some (Value.ref z)) (by omega)) dX9_isCut_14 ?_
    refine rk_getN (pc := 17) hx hb hts hown hK hW0 fnX9_187 6 (by decide) rfl rfl (x := .int (gI V0 6 16)) rfl dX9_isCut_17 ?_
    refine lv_iconst (pc := 20) (v := (1 : Int32)) hx hb dX9_isCut_20 (by decide) ?_
    refine lv_isub (pc := 21) hx hb dX9_isCut_21 ?_
    refine lv_i2l (pc := 22) hx hb dX9_isCut_22 rfl ?_
    obtain ⟨r2, hq3, hm⟩ := ob_some hm
    refine rk_PS (pc := 23) (As := [.long i1.toInt64, .long (0 : Int64), .long ((gI V0 6 16) - (1 : Int32)).toInt64]) (rest := []) hx hb hml hown hts hK lkX9_93 yn_X9_isIn (ct_X9_isIn (G := G) (l := l) hq3) ⟨Nat.le_of_ble_eq_true rfl, Nat.le_of_ble_eq_true rfl⟩ trivial rfl rfl hl.1 (Nat.le_of_ble_eq_true rfl) dX9_isCut_23 ⟨Nat.zero_le _, Nat.zero_le _⟩ ?_
    refine W.eq (g2 := F0 m 26 ls [.int r2]) rfl ?_
    refine lv_if_eq (pc := 26) (tgt := 33) hx hb dX9_isCut_26 (by decide) (fun c4 => ?_) (fun c4 => ?_)
    · have hm := ite_t c4 hm
      refine lv_iconst (pc := 33) (v := (0 : Int32)) hx hb dX9_isCut_33 (by decide) ?_
      have e9 := rs1 hm
      subst e9
      exact rk_zretP (pc := 34) hx hb hr hlk rfl rfl dX9_isCut_34
    · have hm := ite_f c4 hm
      refine lv_iconst (pc := 29) (v := (1 : Int32)) hx hb dX9_isCut_29 (by decide) ?_
      refine lv_goto (pc := 30) (tgt := 34) hx hb dX9_isCut_30 (by decide) ?_
      have e9 := rs1 hm
      subst e9
      exact rk_zretP (pc := 34) hx hb hr hlk rfl rfl dX9_isCut_34
set_option maxHeartbeats 4000000 in
theorem ct_X9_isCut {G : Gv} {l : Launch} {b0 : Nat} {V0 : Mem} {i1 : Int32} {rx : Int32} (hm : fX9_isCut V0 i1 = some rx) : CP G l yX9_isCut (ws_ yX9_isCut cX9_isCut 2 (some .boolean)) 1 25 [.ref b0, .int i1] (fun H => rg G b0 46 (shX9 G.2.1) V0 H) (some (.int rx)) := by
  refine Met.ofW (cc := cX9_isCut) (maxL := 2) (ret := (some .boolean)) (by decide +kernel) rfl ?_
  intro p e s m args below meth c s₁ B hml hv
  obtain ⟨rfl, hW0, hK⟩ := hv
  have hts := atoms_spec (ws := ws_ yX9_isCut cX9_isCut 2 (some .boolean)) B.pre
  have hts : ∀ w ∈ lw_all, w.before _ s = true := fun w h => hts w (List.mem_cons_of_mem _ h)
  have C : Cx G p s m _ meth c RX9 cX9_isCut 2 (some .boolean) := ⟨B.exec, B.bytes, B.returns, B.notSynchronized, hml, findClass_of_methodNamed B.named, hts, hK⟩
  have hl := lv_entry ([.ref b0, .int i1]) (n := 2) (Nat.le_of_ble_eq_true rfl)
  rw [lg_entry_eq]
  generalize (lg_sl ([.ref b0, .int i1]) ++ List.replicate (2 - (lg_sl ([.ref b0, .int i1])).length) Slot.unset).toArray = ls at hl ⊢
  have hl : lv_has ls 2 [(0, .ref b0), (1, .int i1)] := hl
  exact w_fX9_isCut C hW0 _ hm ls hl
theorem yn_X9_isCut : YN yX9_isCut 1 := by
  unfold YN
  decide +kernel
theorem lkX9_321 : LV RX9 321 RX9 yX9_isCut cX9_isCut 2 (some .boolean) := ⟨q2132, q2134, qs86, q128, q2135⟩
noncomputable def fX9_cut (V0 : Mem) (i1 : Int32) (i2 : Int32) : Option (Int64) :=
  ob (fX9_isCut V0 i1) fun r1 =>
  if r1 = 0 then (
  some (-9223372036854775808 : Int64))
  else (
  ob (fX9_n V0) fun r4 =>
  ob (fX9_isIn i2.toInt64 (0 : Int64) r4.toInt64) fun r6 =>
  if r6 = 0 then (
  some (-9223372036854775808 : Int64))
  else (
  ob (fX9_n V0) fun r9 =>
  if i2 = r9 then (
  gb (inR i1 12) (
  some (gL V0 16 i1.toNatClampNeg)))
  else (
  gb (inR (((5 : Int32) * i1) + i2) 60) (
  some (gL V0 15 (((5 : Int32) * i1) + i2).toNatClampNeg)))))
set_option maxHeartbeats 4000000 in
theorem w_fX9_cut (C : Cx G p s m args meth c RX9 cX9_cut 3 (some .long)) {b0 : Nat} {V0 : Mem} {rx : Int64} (hW0 : rg G b0 46 (shX9 G.2.1) V0 s.heap) : ∀ (i1 : Int32) (i2 : Int32), fX9_cut V0 i1 i2 = some rx → ∀ (ls : Array Slot), lv_has ls 3 [(0, .ref b0), (1, .int i1), (2, .int i2)] → W p l e (rmP 2 46) s m args below meth c s.heap [] 0 0 (MQ below (QcP (some (.long rx))) args s 0 0 (fun _ => False)) (F0 m 0 ls []) := by
  intro i1 i2 hm ls hl
  obtain ⟨hx, hb, hr, hlk, hml, hown, hts, hK⟩ := id C
  unfold fX9_cut at hm
  refine lv_aload_n (pc := 0) hx hb dX9_cut_0 rfl (lv_at hl 0 rfl) ?_
  refine lv_iload_n (pc := 1) hx hb dX9_cut_1 rfl (lv_at hl 1 rfl) ?_
  obtain ⟨r1, hq2, hm⟩ := ob_some hm
  refine rk_PV (pc := 2) (As := [.int i1]) (rest := []) hx hb hml hown hts hK lkX9_321 rfl yn_X9_isCut (ct_X9_isCut (G := G) (l := l) (b0 := b0) hq2) ⟨Nat.le_of_ble_eq_true rfl, Nat.le_of_ble_eq_true rfl⟩ (rk_recv hK hW0 0 (by decide) rfl rfl rfl) hW0 rfl rfl hl.1 (Nat.le_of_ble_eq_true rfl) dX9_cut_2 ⟨Nat.zero_le _, Nat.zero_le _⟩ ?_
  refine W.eq (g2 := F0 m 5 ls [.int r1]) rfl ?_
  refine lv_if_eq (pc := 5) (tgt := 22) hx hb dX9_cut_5 (by decide) (fun c3 => ?_) (fun c3 => ?_)
  · have hm := ite_t c3 hm
    refine lv_ldc2 (pc := 22) (v := (-9223372036854775808 : Int64)) hx hb hown (hts _ q2101) dX9_cut_22 ?_
    refine lv_goto (pc := 25) (tgt := 61) hx hb dX9_cut_25 (by decide) ?_
    have e9 := rs1 hm
    subst e9
    exact rk_lretP (pc := 61) hx hb hr hlk rfl dX9_cut_61
  · have hm := ite_f c3 hm
    refine lv_iload_n (pc := 8) hx hb dX9_cut_8 rfl (lv_at hl 2 rfl) ?_
    refine lv_i2l (pc := 9) hx hb dX9_cut_9 rfl ?_
    refine lv_lconst (pc := 10) (v := (0 : Int64)) hx hb dX9_cut_10 (by decide) ?_
    refine lv_aload_n (pc := 11) hx hb dX9_cut_11 rfl (lv_at hl 0 rfl) ?_
    obtain ⟨r4, hq5, hm⟩ := ob_some hm
    refine rk_PV (pc := 12) (As := []) (rest := [.long (0 : Int64), .long i2.toInt64]) hx hb hml hown hts hK lkX9_89 rfl yn_X9_n (ct_X9_n (G := G) (l := l) (b0 := b0) hq5) ⟨Nat.le_of_ble_eq_true rfl, Nat.le_of_ble_eq_true rfl⟩ (rk_recv hK hW0 0 (by decide) rfl rfl rfl) (rg_take hW0 (by decide)) rfl rfl hl.1 (Nat.le_of_ble_eq_true rfl) dX9_cut_12 ⟨Nat.zero_le _, Nat.zero_le _⟩ ?_
    refine W.eq (g2 := F0 m 15 ls [.int r4, .long (0 : Int64), .long i2.toInt64]) rfl ?_
    refine lv_i2l (pc := 15) hx hb dX9_cut_15 rfl ?_
    obtain ⟨r6, hq7, hm⟩ := ob_some hm
    refine rk_PS (pc := 16) (As := [.long i2.toInt64, .long (0 : Int64), .long r4.toInt64]) (rest := []) hx hb hml hown hts hK lkX9_93 yn_X9_isIn (ct_X9_isIn (G := G) (l := l) hq7) ⟨Nat.le_of_ble_eq_true rfl, Nat.le_of_ble_eq_true rfl⟩ trivial rfl rfl hl.1 (Nat.le_of_ble_eq_true rfl) dX9_cut_16 ⟨Nat.zero_le _, Nat.zero_le _⟩ ?_
    refine W.eq (g2 := F0 m 19 ls [.int r6]) rfl ?_
    refine lv_if_ne (pc := 19) (tgt := 28) hx hb dX9_cut_19 (by decide) (fun c8 => ?_) (fun c8 => ?_)
    · have hm := ite_f c8 hm
      refine lv_iload_n (pc := 28) hx hb dX9_cut_28 rfl (lv_at hl 2 rfl) ?_
      refine lv_aload_n (pc := 29) hx hb dX9_cut_29 rfl (lv_at hl 0 rfl) ?_
      obtain ⟨r9, hq10, hm⟩ := ob_some hm
      refine rk_PV (pc := 30) (As := []) (rest := [.int i2]) hx hb hml hown hts hK lkX9_89 rfl yn_X9_n (ct_X9_n (G := G) (l := l) (b0 := b0) hq10) ⟨Nat.le_of_ble_eq_true rfl, Nat.le_of_ble_eq_true rfl⟩ (rk_recv hK hW0 0 (by decide) rfl rfl rfl) (rg_take hW0 (by decide)) rfl rfl hl.1 (Nat.le_of_ble_eq_true rfl) dX9_cut_30 ⟨Nat.zero_le _, Nat.zero_le _⟩ ?_
      refine W.eq (g2 := F0 m 33 ls [.int r9, .int i2]) rfl ?_
      refine lv_icmp_ne (pc := 33) (tgt := 48) hx hb dX9_cut_33 (by decide) (fun c11 => ?_) (fun c11 => ?_)
      · have hm := ite_f c11 hm
        refine lv_aload_n (pc := 48) hx hb dX9_cut_48 rfl (lv_at hl 0 rfl) ?_
        refine rk_get (pc := 49) hx hb hts hown hK hW0 flX9_30 0 (by decide) rfl rfl (x := .ref (b0 + 6)) (by first | rfl | exact congrArg (fun z => some (Value.ref z)) (by omega)) dX9_cut_49 ?_
        refine rk_getN (pc := 52) hx hb hts hown hK hW0 fnX9_250 6 (by decide) rfl rfl (x := .ref (b0 + 15)) (by first | rfl | exact congrArg (fun z => some (Value.ref z)) (by omega)) dX9_cut_52 ?_
        refine lv_iconst (pc := 55) (v := (5 : Int32)) hx hb dX9_cut_55 (by decide) ?_
        refine lv_iload_n (pc := 56) hx hb dX9_cut_56 rfl (lv_at hl 1 rfl) ?_
        refine lv_imul (pc := 57) hx hb dX9_cut_57 ?_
        refine lv_iload_n (pc := 58) hx hb dX9_cut_58 rfl (lv_at hl 2 rfl) ?_
        refine lv_iadd (pc := 59) hx hb dX9_cut_59 ?_
        obtain ⟨hg12, hm⟩ := gb_some hm
        refine rk_lald (pc := 60) hx hb hK hW0 15 (by decide) rfl rfl hg12 (x := (gL V0 15 (((5 : Int32) * i1) + i2).toNatClampNeg)) rfl dX9_cut_60 ?_
        have e9 := rs1 hm
        subst e9
        exact rk_lretP (pc := 61) hx hb hr hlk rfl dX9_cut_61
      · have hm := ite_t c11 hm
        refine lv_aload_n (pc := 36) hx hb dX9_cut_36 rfl (lv_at hl 0 rfl) ?_
        refine rk_get (pc := 37) hx hb hts hown hK hW0 flX9_30 0 (by decide) rfl rfl (x := .ref (b0 + 6)) (by first | rfl | exact congrArg (fun z => some (Value.ref z)) (by omega)) dX9_cut_37 ?_
        refine rk_getN (pc := 40) hx hb hts hown hK hW0 fnX9_253 6 (by decide) rfl rfl (x := .ref (b0 + 16)) (by first | rfl | exact congrArg (fun z => some (Value.ref z)) (by omega)) dX9_cut_40 ?_
        refine lv_iload_n (pc := 43) hx hb dX9_cut_43 rfl (lv_at hl 1 rfl) ?_
        obtain ⟨hg13, hm⟩ := gb_some hm
        refine rk_lald (pc := 44) hx hb hK hW0 16 (by decide) rfl rfl hg13 (x := (gL V0 16 i1.toNatClampNeg)) rfl dX9_cut_44 ?_
        refine lv_goto (pc := 45) (tgt := 61) hx hb dX9_cut_45 (by decide) ?_
        have e9 := rs1 hm
        subst e9
        exact rk_lretP (pc := 61) hx hb hr hlk rfl dX9_cut_61
    · have hm := ite_t c8 hm
      refine lv_ldc2 (pc := 22) (v := (-9223372036854775808 : Int64)) hx hb hown (hts _ q2101) dX9_cut_22 ?_
      refine lv_goto (pc := 25) (tgt := 61) hx hb dX9_cut_25 (by decide) ?_
      have e9 := rs1 hm
      subst e9
      exact rk_lretP (pc := 61) hx hb hr hlk rfl dX9_cut_61
set_option maxHeartbeats 4000000 in
theorem ct_X9_cut {G : Gv} {l : Launch} {b0 : Nat} {V0 : Mem} {i1 : Int32} {i2 : Int32} {rx : Int64} (hm : fX9_cut V0 i1 i2 = some rx) : CP G l yX9_cut (ws_ yX9_cut cX9_cut 3 (some .long)) 2 46 [.ref b0, .int i1, .int i2] (fun H => rg G b0 46 (shX9 G.2.1) V0 H) (some (.long rx)) := by
  refine Met.ofW (cc := cX9_cut) (maxL := 3) (ret := (some .long)) (by decide +kernel) rfl ?_
  intro p e s m args below meth c s₁ B hml hv
  obtain ⟨rfl, hW0, hK⟩ := hv
  have hts := atoms_spec (ws := ws_ yX9_cut cX9_cut 3 (some .long)) B.pre
  have hts : ∀ w ∈ lw_all, w.before _ s = true := fun w h => hts w (List.mem_cons_of_mem _ h)
  have C : Cx G p s m _ meth c RX9 cX9_cut 3 (some .long) := ⟨B.exec, B.bytes, B.returns, B.notSynchronized, hml, findClass_of_methodNamed B.named, hts, hK⟩
  have hl := lv_entry ([.ref b0, .int i1, .int i2]) (n := 3) (Nat.le_of_ble_eq_true rfl)
  rw [lg_entry_eq]
  generalize (lg_sl ([.ref b0, .int i1, .int i2]) ++ List.replicate (3 - (lg_sl ([.ref b0, .int i1, .int i2])).length) Slot.unset).toArray = ls at hl ⊢
  have hl : lv_has ls 3 [(0, .ref b0), (1, .int i1), (2, .int i2)] := hl
  exact w_fX9_cut C hW0 _ _ hm ls hl
noncomputable def fX9_weight_46 (V0 : Mem) (i1 : Int32) (i2 : Int32) (i3 : Int32) : Option (Int64) :=
  ob (fX9_slot i2) fun r13 =>
  gb (inR (((20 : Int32) * i1) + r13) 240) (
  gb (inR i1 12) (
  ob (fX9_lowest (gL V0 17 (((20 : Int32) * i1) + r13).toNatClampNeg) (gL V0 18 i1.toNatClampNeg) i3) fun r17 =>
  some r17))
noncomputable def fX9_weight (V0 : Mem) (i1 : Int32) (i2 : Int32) (i3 : Int32) : Option (Int64) :=
  ob (fX9_isCut V0 i1) fun r1 =>
  if r1 = 0 then (
  some (-9223372036854775808 : Int64))
  else (
  ob (fX9_isPart i3) fun r4 =>
  if r4 = 0 then (
  some (-9223372036854775808 : Int64))
  else (
  ob (fX9_isRule V0 (i2 - (10 : Int32))) fun r7 =>
  if r7 = 0 then (
  ob (fX9_isIn i2.toInt64 (20 : Int64) ((19 : Int32) + i1).toInt64) fun r10 =>
  if r10 = 0 then (
  some (-9223372036854775808 : Int64))
  else (
  fX9_weight_46 V0 i1 i2 i3))
  else (
  fX9_weight_46 V0 i1 i2 i3)))
set_option maxHeartbeats 4000000 in
theorem w_fX9_weight_46 (C : Cx G p s m args meth c RX9 cX9_weight 4 (some .long)) {b0 : Nat} {V0 : Mem} {rx : Int64} (hW0 : rg G b0 46 (shX9 G.2.1) V0 s.heap) : ∀ (i1 : Int32) (i2 : Int32) (i3 : Int32), fX9_weight_46 V0 i1 i2 i3 = some rx → ∀ (ls : Array Slot), lv_has ls 4 [(0, .ref b0), (1, .int i1), (2, .int i2), (3, .int i3)] → W p l e (rmP 2 46) s m args below meth c s.heap [] 0 0 (MQ below (QcP (some (.long rx))) args s 0 0 (fun _ => False)) (F0 m 46 ls []) := by
  intro i1 i2 i3 hm ls hl
  obtain ⟨hx, hb, hr, hlk, hml, hown, hts, hK⟩ := id C
  unfold fX9_weight_46 at hm
  refine lv_aload_n (pc := 46) hx hb dX9_weight_46 rfl (lv_at hl 0 rfl) ?_
  refine rk_get (pc := 47) hx hb hts hown hK hW0 flX9_30 0 (by decide) rfl rfl (x := .ref (b0 + 6)) (by first | rfl | exact congrArg (fun z => some (Value.ref z)) (by omega)) dX9_weight_47 ?_
  refine rk_getN (pc := 50) hx hb hts hown hK hW0 fnX9_274 6 (by decide) rfl rfl (x := .ref (b0 + 17)) (by first | rfl | exact congrArg (fun z => some (Value.ref z)) (by omega)) dX9_weight_50 ?_
  refine lv_bipush (pc := 53) (v := (20 : Int32)) hx hb dX9_weight_53 (by decide) ?_
  refine lv_iload_n (pc := 55) hx hb dX9_weight_55 rfl (lv_at hl 1 rfl) ?_
  refine lv_imul (pc := 56) hx hb dX9_weight_56 ?_
  refine lv_iload_n (pc := 57) hx hb dX9_weight_57 rfl (lv_at hl 2 rfl) ?_
  obtain ⟨r13, hq14, hm⟩ := ob_some hm
  refine rk_PS (pc := 58) (As := [.int i2]) (rest := [.int ((20 : Int32) * i1), .ref (b0 + 17)]) hx hb hml hown hts hK lkX9_283 yn_X9_slot (ct_X9_slot (G := G) (l := l) hq14) ⟨Nat.le_of_ble_eq_true rfl, Nat.le_of_ble_eq_true rfl⟩ trivial rfl rfl hl.1 (Nat.le_of_ble_eq_true rfl) dX9_weight_58 ⟨Nat.zero_le _, Nat.zero_le _⟩ ?_
  refine W.eq (g2 := F0 m 61 ls [.int r13, .int ((20 : Int32) * i1), .ref (b0 + 17)]) rfl ?_
  refine lv_iadd (pc := 61) hx hb dX9_weight_61 ?_
  obtain ⟨hg15, hm⟩ := gb_some hm
  refine rk_lald (pc := 62) hx hb hK hW0 17 (by decide) rfl rfl hg15 (x := (gL V0 17 (((20 : Int32) * i1) + r13).toNatClampNeg)) rfl dX9_weight_62 ?_
  refine lv_aload_n (pc := 63) hx hb dX9_weight_63 rfl (lv_at hl 0 rfl) ?_
  refine rk_get (pc := 64) hx hb hts hown hK hW0 flX9_30 0 (by decide) rfl rfl (x := .ref (b0 + 6)) (by first | rfl | exact congrArg (fun z => some (Value.ref z)) (by omega)) dX9_weight_64 ?_
  refine rk_getN (pc := 67) hx hb hts hown hK hW0 fnX9_277 6 (by decide) rfl rfl (x := .ref (b0 + 18)) (by first | rfl | exact congrArg (fun z => some (Value.ref z)) (by omega)) dX9_weight_67 ?_
  refine lv_iload_n (pc := 70) hx hb dX9_weight_70 rfl (lv_at hl 1 rfl) ?_
  obtain ⟨hg16, hm⟩ := gb_some hm
  refine rk_lald (pc := 71) hx hb hK hW0 18 (by decide) rfl rfl hg16 (x := (gL V0 18 i1.toNatClampNeg)) rfl dX9_weight_71 ?_
  refine lv_iload_n (pc := 72) hx hb dX9_weight_72 rfl (lv_at hl 3 rfl) ?_
  obtain ⟨r17, hq18, hm⟩ := ob_some hm
  refine rk_PS (pc := 73) (As := [.long (gL V0 17 (((20 : Int32) * i1) + r13).toNatClampNeg), .long (gL V0 18 i1.toNatClampNeg), .int i3]) (rest := []) hx hb hml hown hts hK lkX9_317 yn_X9_lowest (ct_X9_lowest (G := G) (l := l) hq18) ⟨Nat.le_of_ble_eq_true rfl, Nat.le_of_ble_eq_true rfl⟩ trivial rfl rfl hl.1 (Nat.le_of_ble_eq_true rfl) dX9_weight_73 ⟨Nat.zero_le _, Nat.zero_le _⟩ ?_
  refine W.eq (g2 := F0 m 76 ls [.long r17]) rfl ?_
  have e9 := rs1 hm
  subst e9
  exact rk_lretP (pc := 76) hx hb hr hlk rfl dX9_weight_76
set_option maxHeartbeats 4000000 in
theorem w_fX9_weight (C : Cx G p s m args meth c RX9 cX9_weight 4 (some .long)) {b0 : Nat} {V0 : Mem} {rx : Int64} (hW0 : rg G b0 46 (shX9 G.2.1) V0 s.heap) : ∀ (i1 : Int32) (i2 : Int32) (i3 : Int32), fX9_weight V0 i1 i2 i3 = some rx → ∀ (ls : Array Slot), lv_has ls 4 [(0, .ref b0), (1, .int i1), (2, .int i2), (3, .int i3)] → W p l e (rmP 2 46) s m args below meth c s.heap [] 0 0 (MQ below (QcP (some (.long rx))) args s 0 0 (fun _ => False)) (F0 m 0 ls []) := by
  intro i1 i2 i3 hm ls hl
  obtain ⟨hx, hb, hr, hlk, hml, hown, hts, hK⟩ := id C
  unfold fX9_weight at hm
  refine lv_aload_n (pc := 0) hx hb dX9_weight_0 rfl (lv_at hl 0 rfl) ?_
  refine lv_iload_n (pc := 1) hx hb dX9_weight_1 rfl (lv_at hl 1 rfl) ?_
  obtain ⟨r1, hq2, hm⟩ := ob_some hm
  refine rk_PV (pc := 2) (As := [.int i1]) (rest := []) hx hb hml hown hts hK lkX9_321 rfl yn_X9_isCut (ct_X9_isCut (G := G) (l := l) (b0 := b0) hq2) ⟨Nat.le_of_ble_eq_true rfl, Nat.le_of_ble_eq_true rfl⟩ (rk_recv hK hW0 0 (by decide) rfl rfl rfl) hW0 rfl rfl hl.1 (Nat.le_of_ble_eq_true rfl) dX9_weight_2 ⟨Nat.zero_le _, Nat.zero_le _⟩ ?_
  refine W.eq (g2 := F0 m 5 ls [.int r1]) rfl ?_
  refine lv_if_eq (pc := 5) (tgt := 42) hx hb dX9_weight_5 (by decide) (fun c3 => ?_) (fun c3 => ?_)
  · have hm := ite_t c3 hm
    refine lv_ldc2 (pc := 42) (v := (-9223372036854775808 : Int64)) hx hb hown (hts _ q2101) dX9_weight_42 ?_
    have e9 := rs1 hm
    subst e9
    exact rk_lretP (pc := 45) hx hb hr hlk rfl dX9_weight_45
  · have hm := ite_f c3 hm
    refine lv_iload_n (pc := 8) hx hb dX9_weight_8 rfl (lv_at hl 3 rfl) ?_
    obtain ⟨r4, hq5, hm⟩ := ob_some hm
    refine rk_PS (pc := 9) (As := [.int i3]) (rest := []) hx hb hml hown hts hK lkX9_311 yn_X9_isPart (ct_X9_isPart (G := G) (l := l) hq5) ⟨Nat.le_of_ble_eq_true rfl, Nat.le_of_ble_eq_true rfl⟩ trivial rfl rfl hl.1 (Nat.le_of_ble_eq_true rfl) dX9_weight_9 ⟨Nat.zero_le _, Nat.zero_le _⟩ ?_
    refine W.eq (g2 := F0 m 12 ls [.int r4]) rfl ?_
    refine lv_if_eq (pc := 12) (tgt := 42) hx hb dX9_weight_12 (by decide) (fun c6 => ?_) (fun c6 => ?_)
    · have hm := ite_t c6 hm
      refine lv_ldc2 (pc := 42) (v := (-9223372036854775808 : Int64)) hx hb hown (hts _ q2101) dX9_weight_42 ?_
      have e9 := rs1 hm
      subst e9
      exact rk_lretP (pc := 45) hx hb hr hlk rfl dX9_weight_45
    · have hm := ite_f c6 hm
      refine lv_aload_n (pc := 15) hx hb dX9_weight_15 rfl (lv_at hl 0 rfl) ?_
      refine lv_iload_n (pc := 16) hx hb dX9_weight_16 rfl (lv_at hl 2 rfl) ?_
      refine lv_bipush (pc := 17) (v := (10 : Int32)) hx hb dX9_weight_17 (by decide) ?_
      refine lv_isub (pc := 19) hx hb dX9_weight_19 ?_
      obtain ⟨r7, hq8, hm⟩ := ob_some hm
      refine rk_PV (pc := 20) (As := [.int (i2 - (10 : Int32))]) (rest := []) hx hb hml hown hts hK lkX9_124 rfl yn_X9_isRule (ct_X9_isRule (G := G) (l := l) (b0 := b0) hq8) ⟨Nat.le_of_ble_eq_true rfl, Nat.le_of_ble_eq_true rfl⟩ (rk_recv hK hW0 0 (by decide) rfl rfl rfl) (rg_take hW0 (by decide)) rfl rfl hl.1 (Nat.le_of_ble_eq_true rfl) dX9_weight_20 ⟨Nat.zero_le _, Nat.zero_le _⟩ ?_
      refine W.eq (g2 := F0 m 23 ls [.int r7]) rfl ?_
      refine lv_if_ne (pc := 23) (tgt := 46) hx hb dX9_weight_23 (by decide) (fun c9 => ?_) (fun c9 => ?_)
      · have hm := ite_f c9 hm
        exact (w_fX9_weight_46 C hW0) i1 i2 i3 hm ls (lv_sub hl [0, 1, 2, 3] rfl)
      · have hm := ite_t c9 hm
        refine lv_iload_n (pc := 26) hx hb dX9_weight_26 rfl (lv_at hl 2 rfl) ?_
        refine lv_i2l (pc := 27) hx hb dX9_weight_27 rfl ?_
        refine lv_ldc2 (pc := 28) (v := (20 : Int64)) hx hb hown (hts _ q2140) dX9_weight_28 ?_
        refine lv_bipush (pc := 31) (v := (19 : Int32)) hx hb dX9_weight_31 (by decide) ?_
        refine lv_iload_n (pc := 33) hx hb dX9_weight_33 rfl (lv_at hl 1 rfl) ?_
        refine lv_iadd (pc := 34) hx hb dX9_weight_34 ?_
        refine lv_i2l (pc := 35) hx hb dX9_weight_35 rfl ?_
        obtain ⟨r10, hq11, hm⟩ := ob_some hm
        refine rk_PS (pc := 36) (As := [.long i2.toInt64, .long (20 : Int64), .long ((19 : Int32) + i1).toInt64]) (rest := []) hx hb hml hown hts hK lkX9_93 yn_X9_isIn (ct_X9_isIn (G := G) (l := l) hq11) ⟨Nat.le_of_ble_eq_true rfl, Nat.le_of_ble_eq_true rfl⟩ trivial rfl rfl hl.1 (Nat.le_of_ble_eq_true rfl) dX9_weight_36 ⟨Nat.zero_le _, Nat.zero_le _⟩ ?_
        refine W.eq (g2 := F0 m 39 ls [.int r10]) rfl ?_
        refine lv_if_ne (pc := 39) (tgt := 46) hx hb dX9_weight_39 (by decide) (fun c12 => ?_) (fun c12 => ?_)
        · have hm := ite_f c12 hm
          exact (w_fX9_weight_46 C hW0) i1 i2 i3 hm ls (lv_sub hl [0, 1, 2, 3] rfl)
        · have hm := ite_t c12 hm
          refine lv_ldc2 (pc := 42) (v := (-9223372036854775808 : Int64)) hx hb hown (hts _ q2101) dX9_weight_42 ?_
          have e9 := rs1 hm
          subst e9
          exact rk_lretP (pc := 45) hx hb hr hlk rfl dX9_weight_45
set_option maxHeartbeats 4000000 in
theorem ct_X9_weight {G : Gv} {l : Launch} {b0 : Nat} {V0 : Mem} {i1 : Int32} {i2 : Int32} {i3 : Int32} {rx : Int64} (hm : fX9_weight V0 i1 i2 i3 = some rx) : CP G l yX9_weight (ws_ yX9_weight cX9_weight 4 (some .long)) 2 46 [.ref b0, .int i1, .int i2, .int i3] (fun H => rg G b0 46 (shX9 G.2.1) V0 H) (some (.long rx)) := by
  refine Met.ofW (cc := cX9_weight) (maxL := 4) (ret := (some .long)) (by decide +kernel) rfl ?_
  intro p e s m args below meth c s₁ B hml hv
  obtain ⟨rfl, hW0, hK⟩ := hv
  have hts := atoms_spec (ws := ws_ yX9_weight cX9_weight 4 (some .long)) B.pre
  have hts : ∀ w ∈ lw_all, w.before _ s = true := fun w h => hts w (List.mem_cons_of_mem _ h)
  have C : Cx G p s m _ meth c RX9 cX9_weight 4 (some .long) := ⟨B.exec, B.bytes, B.returns, B.notSynchronized, hml, findClass_of_methodNamed B.named, hts, hK⟩
  have hl := lv_entry ([.ref b0, .int i1, .int i2, .int i3]) (n := 4) (Nat.le_of_ble_eq_true rfl)
  rw [lg_entry_eq]
  generalize (lg_sl ([.ref b0, .int i1, .int i2, .int i3]) ++ List.replicate (4 - (lg_sl ([.ref b0, .int i1, .int i2, .int i3])).length) Slot.unset).toArray = ls at hl ⊢
  have hl : lv_has ls 4 [(0, .ref b0), (1, .int i1), (2, .int i2), (3, .int i3)] := hl
  exact w_fX9_weight C hW0 _ _ _ hm ls hl
end
