set_option maxRecDepth 100000
section
variable {p : Program} {l : Launch} {e : Env} {s : State} {m : MethodId} {args : Array Value} {below : List Frame} {meth : Method} {c : Code} {G : Gv}
noncomputable def fX9_isDigit (V0 : Mem) : Option (Int32) :=
  ob (fX9_here V0) fun r1 =>
  ob (fX9_isIn r1.toInt64 (48 : Int64) (57 : Int64)) fun r3 =>
  gb (z01 r3) (some r3)
set_option maxHeartbeats 4000000 in
theorem w_fX9_isDigit (C : Cx G p s m args meth c RX9 cX9_isDigit 1 (some .boolean)) {b0 : Nat} {V0 : Mem} {rx : Int32} (hW0 : rg G b0 46 (shX9 G.2.1) V0 s.heap) : fX9_isDigit V0 = some rx → ∀ (ls : Array Slot), lv_has ls 1 [(0, .ref b0)] → W p l e (rmP 1 25) s m args below meth c s.heap [] 0 0 (MQ below (QcP (some (.int rx))) args s 0 0 (fun _ => False)) (F0 m 0 ls []) := by
  intro hm ls hl
  obtain ⟨hx, hb, hr, hlk, hml, hown, hts, hK⟩ := id C
  unfold fX9_isDigit at hm
  refine lv_aload_n (pc := 0) hx hb dX9_isDigit_0 rfl (lv_at hl 0 rfl) ?_
  obtain ⟨r1, hq2, hm⟩ := ob_some hm
  refine rk_PV (pc := 1) (As := []) (rest := []) hx hb hml hown hts hK lkX9_140 rfl yn_X9_here (ct_X9_here (G := G) (l := l) (b0 := b0) hq2) ⟨Nat.le_of_ble_eq_true rfl, Nat.le_of_ble_eq_true rfl⟩ (rk_recv hK hW0 0 (by decide) rfl rfl rfl) hW0 rfl rfl hl.1 (Nat.le_of_ble_eq_true rfl) dX9_isDigit_1 ⟨Nat.zero_le _, Nat.zero_le _⟩ ?_
  refine W.eq (g2 := F0 m 4 ls [.int r1]) rfl ?_
  refine lv_i2l (pc := 4) hx hb dX9_isDigit_4 rfl ?_
  refine lv_ldc2 (pc := 5) (v := (48 : Int64)) hx hb hown (hts _ q2013) dX9_isDigit_5 ?_
  refine lv_ldc2 (pc := 8) (v := (57 : Int64)) hx hb hown (hts _ q2014) dX9_isDigit_8 ?_
  obtain ⟨r3, hq4, hm⟩ := ob_some hm
  refine rk_PS (pc := 11) (As := [.long r1.toInt64, .long (48 : Int64), .long (57 : Int64)]) (rest := []) hx hb hml hown hts hK lkX9_93 yn_X9_isIn (ct_X9_isIn (G := G) (l := l) hq4) ⟨Nat.le_of_ble_eq_true rfl, Nat.le_of_ble_eq_true rfl⟩ trivial rfl rfl hl.1 (Nat.le_of_ble_eq_true rfl) dX9_isDigit_11 ⟨Nat.zero_le _, Nat.zero_le _⟩ ?_
  refine W.eq (g2 := F0 m 14 ls [.int r3]) rfl ?_
  obtain ⟨hg5, hm⟩ := gb_some hm
  have e9 := rs1 hm
  subst e9
  exact rk_zretP (pc := 14) hx hb hr hlk hg5 rfl dX9_isDigit_14
set_option maxHeartbeats 4000000 in
theorem ct_X9_isDigit {G : Gv} {l : Launch} {b0 : Nat} {V0 : Mem} {rx : Int32} (hm : fX9_isDigit V0  = some rx) : CP G l yX9_isDigit (ws_ yX9_isDigit cX9_isDigit 1 (some .boolean)) 1 25 [.ref b0] (fun H => rg G b0 46 (shX9 G.2.1) V0 H) (some (.int rx)) := by
  refine Met.ofW (cc := cX9_isDigit) (maxL := 1) (ret := (some .boolean)) (by decide +kernel) rfl ?_
  intro p e s m args below meth c s₁ B hml hv
  obtain ⟨rfl, hW0, hK⟩ := hv
  have hts := atoms_spec (ws := ws_ yX9_isDigit cX9_isDigit 1 (some .boolean)) B.pre
  have hts : ∀ w ∈ lw_all, w.before _ s = true := fun w h => hts w (List.mem_cons_of_mem _ h)
  have C : Cx G p s m _ meth c RX9 cX9_isDigit 1 (some .boolean) := ⟨B.exec, B.bytes, B.returns, B.notSynchronized, hml, findClass_of_methodNamed B.named, hts, hK⟩
  have hl := lv_entry ([.ref b0]) (n := 1) (Nat.le_of_ble_eq_true rfl)
  rw [lg_entry_eq]
  generalize (lg_sl ([.ref b0]) ++ List.replicate (1 - (lg_sl ([.ref b0])).length) Slot.unset).toArray = ls at hl ⊢
  have hl : lv_has ls 1 [(0, .ref b0)] := hl
  exact w_fX9_isDigit C hW0  hm ls hl
theorem yn_X9_isDigit : YN yX9_isDigit 0 := by
  unfold YN
  decide +kernel
theorem lkX9_147 : LV RX9 147 RX9 yX9_isDigit cX9_isDigit 1 (some .boolean) := ⟨q2009, q2011, qs67, q128, q2012⟩
theorem flX9_24 : FL RX9 24 9 5 RX9 TX9 29 := ⟨in_X9, rfl, by decide, q1833⟩
noncomputable def fX9_readsTerm_27 (v0 : Mem) (i1 : Int32) (i2 : Int32) (i3 : Int32) : Option (Int32 × Mem) :=
  ob (fX9_here v0) fun r14 =>
  ob (fX9_n v0) fun r16 =>
  ob (fX9_isIn r14.toInt64 (97 : Int64) (((97 : Int32) + r16) - (1 : Int32)).toInt64) fun r18 =>
  if r18 = 0 then (
  some ((0 : Int32), v0))
  else (
  ob (fX9_here v0) fun r21 =>
  gb (inR (((i1 + (2 : Int32)) + r21) - (97 : Int32)) 28) (
  gb (inR (((i1 + (2 : Int32)) + r21) - (97 : Int32)) 28) (
  lm (sI v0 5 (((i1 + (2 : Int32)) + r21) - (97 : Int32)).toNatClampNeg ((gI v0 5 (((i1 + (2 : Int32)) + r21) - (97 : Int32)).toNatClampNeg) + (i2 * i3))) fun v0_25 =>
  gb (inR (((i1 + (2 : Int32)) + r21) - (97 : Int32)) 28) (
  ob (fX9_isIn (gI v0_25 5 (((i1 + (2 : Int32)) + r21) - (97 : Int32)).toNatClampNeg).toInt64 (-9 : Int64) (9 : Int64)) fun r34 =>
  if r34 = 0 then (
  some ((0 : Int32), v0_25))
  else (
  lm (sI v0_25 0 7 ((gI v0_25 0 7) + (1 : Int32))) fun v0_37 =>
  some ((1 : Int32), v0_37))))))
noncomputable def fX9_readsTerm (v0 : Mem) (i1 : Int32) (i2 : Int32) : Option (Int32 × Mem) :=
  ob (fX9_isDigit v0) fun r1 =>
  if r1 = 0 then (
  fX9_readsTerm_27 v0 i1 i2 (1 : Int32))
  else (
  ob (fX9_here v0) fun r4 =>
  lm (sI v0 0 7 ((gI v0 0 7) + (1 : Int32))) fun v0_6 =>
  fX9_readsTerm_27 v0_6 i1 i2 (r4 - (48 : Int32)))
set_option maxHeartbeats 4000000 in
theorem w_fX9_readsTerm_27 (C : Cx G p s m args meth c RX9 cX9_readsTerm 5 (some .boolean)) {b0 : Nat} {rx : Int32} {rw0 : Mem} : ∀ (v0 : Mem) (i1 : Int32) (i2 : Int32) (i3 : Int32), fX9_readsTerm_27 v0 i1 i2 i3 = some (rx, rw0) → ∀ (H : Heap) (locs : List Loc) (ls : Array Slot), rg G b0 46 (shX9 G.2.1) v0 H → va_S (FA (iv b0 46) s.heap.size) s.heap H locs → H.size = s.heap.size → lv_has ls 5 [(0, .ref b0), (1, .int i1), (2, .int i2), (3, .int i3)] → W p l e (rmT 2 0 0 45) s m args below meth c H locs 0 0 (MQ below (QcT (FA (iv b0 46) s.heap.size) (fun ov H => ov = (some (.int rx)) ∧ rg G b0 46 (shX9 G.2.1) rw0 H ∧ H.size = s.heap.size)) args s 0 0 (FA (iv b0 46) s.heap.size)) (F0 m 27 ls []) := by
  intro v0 i1 i2 i3 hm H locs ls hW0 hS hz hl
  obtain ⟨hx, hb, hr, hlk, hml, hown, hts, hK⟩ := id C
  unfold fX9_readsTerm_27 at hm
  refine lv_aload_n (pc := 27) hx hb dX9_readsTerm_27 rfl (lv_at hl 0 rfl) ?_
  obtain ⟨r14, hq15, hm⟩ := ob_some hm
  refine rk_PV (pc := 28) (As := []) (rest := []) hx hb hml hown hts hK lkX9_140 rfl yn_X9_here (ct_X9_here (G := G) (l := l) (b0 := b0) hq15) ⟨Nat.le_of_ble_eq_true rfl, Nat.le_of_ble_eq_true rfl⟩ (rk_recv hK hW0 0 (by decide) rfl rfl rfl) hW0 rfl rfl hl.1 (Nat.le_of_ble_eq_true rfl) dX9_readsTerm_28 ⟨Nat.zero_le _, Nat.zero_le _⟩ ?_
  refine W.eq (g2 := F0 m 31 ls [.int r14]) rfl ?_
  refine lv_i2l (pc := 31) hx hb dX9_readsTerm_31 rfl ?_
  refine lv_ldc2 (pc := 32) (v := (97 : Int64)) hx hb hown (hts _ q2015) dX9_readsTerm_32 ?_
  refine lv_bipush (pc := 35) (v := (97 : Int32)) hx hb dX9_readsTerm_35 (by decide) ?_
  refine lv_aload_n (pc := 37) hx hb dX9_readsTerm_37 rfl (lv_at hl 0 rfl) ?_
  obtain ⟨r16, hq17, hm⟩ := ob_some hm
  refine rk_PV (pc := 38) (As := []) (rest := [.int (97 : Int32), .long (97 : Int64), .long r14.toInt64]) hx hb hml hown hts hK lkX9_89 rfl yn_X9_n (ct_X9_n (G := G) (l := l) (b0 := b0) hq17) ⟨Nat.le_of_ble_eq_true rfl, Nat.le_of_ble_eq_true rfl⟩ (rk_recv hK hW0 0 (by decide) rfl rfl rfl) (rg_take hW0 (by decide)) rfl rfl hl.1 (Nat.le_of_ble_eq_true rfl) dX9_readsTerm_38 ⟨Nat.zero_le _, Nat.zero_le _⟩ ?_
  refine W.eq (g2 := F0 m 41 ls [.int r16, .int (97 : Int32), .long (97 : Int64), .long r14.toInt64]) rfl ?_
  refine lv_iadd (pc := 41) hx hb dX9_readsTerm_41 ?_
  refine lv_iconst (pc := 42) (v := (1 : Int32)) hx hb dX9_readsTerm_42 (by decide) ?_
  refine lv_isub (pc := 43) hx hb dX9_readsTerm_43 ?_
  refine lv_i2l (pc := 44) hx hb dX9_readsTerm_44 rfl ?_
  obtain ⟨r18, hq19, hm⟩ := ob_some hm
  refine rk_PS (pc := 45) (As := [.long r14.toInt64, .long (97 : Int64), .long (((97 : Int32) + r16) - (1 : Int32)).toInt64]) (rest := []) hx hb hml hown hts hK lkX9_93 yn_X9_isIn (ct_X9_isIn (G := G) (l := l) hq19) ⟨Nat.le_of_ble_eq_true rfl, Nat.le_of_ble_eq_true rfl⟩ trivial rfl rfl hl.1 (Nat.le_of_ble_eq_true rfl) dX9_readsTerm_45 ⟨Nat.zero_le _, Nat.zero_le _⟩ ?_
  refine W.eq (g2 := F0 m 48 ls [.int r18]) rfl ?_
  refine lv_if_ne (pc := 48) (tgt := 53) hx hb dX9_readsTerm_48 (by decide) (fun c20 => ?_) (fun c20 => ?_)
  · have hm := ite_f c20 hm
    refine lv_iload_n (pc := 53) hx hb dX9_readsTerm_53 rfl (lv_at hl 1 rfl) ?_
    refine lv_iconst (pc := 54) (v := (2 : Int32)) hx hb dX9_readsTerm_54 (by decide) ?_
    refine lv_iadd (pc := 55) hx hb dX9_readsTerm_55 ?_
    refine lv_aload_n (pc := 56) hx hb dX9_readsTerm_56 rfl (lv_at hl 0 rfl) ?_
    obtain ⟨r21, hq22, hm⟩ := ob_some hm
    refine rk_PV (pc := 57) (As := []) (rest := [.int (i1 + (2 : Int32))]) hx hb hml hown hts hK lkX9_140 rfl yn_X9_here (ct_X9_here (G := G) (l := l) (b0 := b0) hq22) ⟨Nat.le_of_ble_eq_true rfl, Nat.le_of_ble_eq_true rfl⟩ (rk_recv hK hW0 0 (by decide) rfl rfl rfl) hW0 rfl rfl hl.1 (Nat.le_of_ble_eq_true rfl) dX9_readsTerm_57 ⟨Nat.zero_le _, Nat.zero_le _⟩ ?_
    refine W.eq (g2 := F0 m 60 ls [.int r21, .int (i1 + (2 : Int32))]) rfl ?_
    refine lv_iadd (pc := 60) hx hb dX9_readsTerm_60 ?_
    refine lv_bipush (pc := 61) (v := (97 : Int32)) hx hb dX9_readsTerm_61 (by decide) ?_
    refine lv_isub (pc := 63) hx hb dX9_readsTerm_63 ?_
    refine lv_istore (pc := 64) (lv' := [(4, .int (((i1 + (2 : Int32)) + r21) - (97 : Int32))), (0, .ref b0), (1, .int i1), (2, .int i2), (3, .int i3)]) hx hb dX9_readsTerm_64 hl (by decide) rfl (fun ls hl => ?_)
    refine lv_aload_n (pc := 66) hx hb dX9_readsTerm_66 rfl (lv_at hl 1 rfl) ?_
    refine rk_get (pc := 67) hx hb hts hown hK hW0 flX9_24 0 (by decide) rfl rfl (x := .ref (b0 + 5)) (by first | rfl | exact congrArg (fun z => some (Value.ref z)) (by omega)) dX9_readsTerm_67 ?_
    refine lv_iload (pc := 70) hx hb dX9_readsTerm_70 (lv_at hl 0 rfl) ?_
    refine lv_dup2_11 (pc := 72) hx hb dX9_readsTerm_72 rfl rfl ?_
    obtain ⟨hg23, hm⟩ := gb_some hm
    refine rk_iald (pc := 73) hx hb hK hW0 5 (by decide) rfl rfl hg23 (x := (gI v0 5 (((i1 + (2 : Int32)) + r21) - (97 : Int32)).toNatClampNeg)) rfl dX9_readsTerm_73 ?_
    refine lv_iload_n (pc := 74) hx hb dX9_readsTerm_74 rfl (lv_at hl 3 rfl) ?_
    refine lv_iload_n (pc := 75) hx hb dX9_readsTerm_75 rfl (lv_at hl 4 rfl) ?_
    refine lv_imul (pc := 76) hx hb dX9_readsTerm_76 ?_
    refine lv_iadd (pc := 77) hx hb dX9_readsTerm_77 ?_
    obtain ⟨hg24, hm⟩ := gb_some hm
    refine rk_iast (pc := 78) hx hb hK hW0 hS 5 (by decide) rfl (Or.inl (show iv _ _ _ from ⟨by omega, by omega⟩)) (fun _ _ _ => rfl) hg24 dX9_readsTerm_78 (fun H26 locs27 hW28 hS29 hz30 hkp31 => ?_)
    obtain ⟨v0_25, he9, hm⟩ := lm_some hm
    rw [he9] at hW28
    have hz32 := hz30.trans hz
    refine lv_aload_n (pc := 79) hx hb dX9_readsTerm_79 rfl (lv_at hl 1 rfl) ?_
    refine rk_get (pc := 80) hx hb hts hown hK hW28 flX9_24 0 (by decide) rfl rfl (x := .ref (b0 + 5)) (by first | rfl | exact congrArg (fun z => some (Value.ref z)) (by omega)) dX9_readsTerm_80 ?_
    refine lv_iload (pc := 83) hx hb dX9_readsTerm_83 (lv_at hl 0 rfl) ?_
    obtain ⟨hg33, hm⟩ := gb_some hm
    refine rk_iald (pc := 85) hx hb hK hW28 5 (by decide) rfl rfl hg33 (x := (gI v0_25 5 (((i1 + (2 : Int32)) + r21) - (97 : Int32)).toNatClampNeg)) rfl dX9_readsTerm_85 ?_
    refine lv_i2l (pc := 86) hx hb dX9_readsTerm_86 rfl ?_
    refine lv_ldc2 (pc := 87) (v := (-9 : Int64)) hx hb hown (hts _ q1954) dX9_readsTerm_87 ?_
    refine lv_ldc2 (pc := 90) (v := (9 : Int64)) hx hb hown (hts _ q1955) dX9_readsTerm_90 ?_
    obtain ⟨r34, hq35, hm⟩ := ob_some hm
    refine rk_PS (pc := 93) (As := [.long (gI v0_25 5 (((i1 + (2 : Int32)) + r21) - (97 : Int32)).toNatClampNeg).toInt64, .long (-9 : Int64), .long (9 : Int64)]) (rest := []) hx hb hml hown hts hK lkX9_93 yn_X9_isIn (ct_X9_isIn (G := G) (l := l) hq35) ⟨Nat.le_of_ble_eq_true rfl, Nat.le_of_ble_eq_true rfl⟩ trivial rfl rfl hl.1 (Nat.le_of_ble_eq_true rfl) dX9_readsTerm_93 ⟨Nat.zero_le _, Nat.zero_le _⟩ ?_
    refine W.eq (g2 := F0 m 96 ls [.int r34]) rfl ?_
    refine lv_if_ne (pc := 96) (tgt := 101) hx hb dX9_readsTerm_96 (by decide) (fun c36 => ?_) (fun c36 => ?_)
    · have hm := ite_f c36 hm
      refine lv_aload_n (pc := 101) hx hb dX9_readsTerm_101 rfl (lv_at hl 1 rfl) ?_
      refine lv_dup (pc := 102) hx hb dX9_readsTerm_102 rfl ?_
      refine rk_get (pc := 103) hx hb hts hown hK hW28 flX9_137 0 (by decide) rfl rfl (x := .int (gI v0_25 0 7)) rfl dX9_readsTerm_103 ?_
      refine lv_iconst (pc := 106) (v := (1 : Int32)) hx hb dX9_readsTerm_106 (by decide) ?_
      refine lv_iadd (pc := 107) hx hb dX9_readsTerm_107 ?_
      refine rk_put (pc := 108) hx hb hts hown hK hW28 hS29 flX9_137 ft_X9 0 (by decide) rfl (Or.inl (show iv _ _ _ from ⟨by omega, by omega⟩)) rfl rfl (x := .int ((gI v0_25 0 7) + (1 : Int32))) rfl rfl (Nat.le_of_ble_eq_true rfl) (sI v0_25 0 7 ((gI v0_25 0 7) + (1 : Int32))) sI_ne (by rw [sI_eq]; exact rfl) dX9_readsTerm_108 (fun H38 locs39 hW40 hS41 hz42 hkp43 => ?_)
      obtain ⟨v0_37, he9, hm⟩ := lm_some hm
      rw [he9] at hW40
      have hz44 := hz42.trans hz32
      refine lv_iconst (pc := 111) (v := (1 : Int32)) hx hb dX9_readsTerm_111 (by decide) ?_
      obtain ⟨e8, e9⟩ := rs2 hm
      subst e8
      subst e9
      exact rk_zret (pc := 112) hx hb hr hlk rfl hS41 ⟨rfl, hW40, hz44⟩ dX9_readsTerm_112
    · have hm := ite_t c36 hm
      refine lv_iconst (pc := 99) (v := (0 : Int32)) hx hb dX9_readsTerm_99 (by decide) ?_
      obtain ⟨e8, e9⟩ := rs2 hm
      subst e8
      subst e9
      exact rk_zret (pc := 100) hx hb hr hlk rfl hS29 ⟨rfl, hW28, hz32⟩ dX9_readsTerm_100
  · have hm := ite_t c20 hm
    refine lv_iconst (pc := 51) (v := (0 : Int32)) hx hb dX9_readsTerm_51 (by decide) ?_
    obtain ⟨e8, e9⟩ := rs2 hm
    subst e8
    subst e9
    exact rk_zret (pc := 52) hx hb hr hlk rfl hS ⟨rfl, hW0, hz⟩ dX9_readsTerm_52
set_option maxHeartbeats 4000000 in
theorem w_fX9_readsTerm (C : Cx G p s m args meth c RX9 cX9_readsTerm 5 (some .boolean)) {b0 : Nat} {rx : Int32} {rw0 : Mem} : ∀ (v0 : Mem) (i1 : Int32) (i2 : Int32), fX9_readsTerm v0 i1 i2 = some (rx, rw0) → ∀ (H : Heap) (locs : List Loc) (ls : Array Slot), rg G b0 46 (shX9 G.2.1) v0 H → va_S (FA (iv b0 46) s.heap.size) s.heap H locs → H.size = s.heap.size → lv_has ls 5 [(0, .ref b0), (1, .int i1), (2, .int i2)] → W p l e (rmT 2 0 0 45) s m args below meth c H locs 0 0 (MQ below (QcT (FA (iv b0 46) s.heap.size) (fun ov H => ov = (some (.int rx)) ∧ rg G b0 46 (shX9 G.2.1) rw0 H ∧ H.size = s.heap.size)) args s 0 0 (FA (iv b0 46) s.heap.size)) (F0 m 0 ls []) := by
  intro v0 i1 i2 hm H locs ls hW0 hS hz hl
  obtain ⟨hx, hb, hr, hlk, hml, hown, hts, hK⟩ := id C
  unfold fX9_readsTerm at hm
  refine lv_iconst (pc := 0) (v := (1 : Int32)) hx hb dX9_readsTerm_0 (by decide) ?_
  refine lv_istore_n (pc := 1) (lv' := [(3, .int (1 : Int32)), (0, .ref b0), (1, .int i1), (2, .int i2)]) hx hb dX9_readsTerm_1 rfl hl (by decide) rfl (fun ls hl => ?_)
  refine lv_aload_n (pc := 2) hx hb dX9_readsTerm_2 rfl (lv_at hl 1 rfl) ?_
  obtain ⟨r1, hq2, hm⟩ := ob_some hm
  refine rk_PV (pc := 3) (As := []) (rest := []) hx hb hml hown hts hK lkX9_147 rfl yn_X9_isDigit (ct_X9_isDigit (G := G) (l := l) (b0 := b0) hq2) ⟨Nat.le_of_ble_eq_true rfl, Nat.le_of_ble_eq_true rfl⟩ (rk_recv hK hW0 0 (by decide) rfl rfl rfl) hW0 rfl rfl hl.1 (Nat.le_of_ble_eq_true rfl) dX9_readsTerm_3 ⟨Nat.zero_le _, Nat.zero_le _⟩ ?_
  refine W.eq (g2 := F0 m 6 ls [.int r1]) rfl ?_
  refine lv_if_eq (pc := 6) (tgt := 27) hx hb dX9_readsTerm_6 (by decide) (fun c3 => ?_) (fun c3 => ?_)
  · have hm := ite_t c3 hm
    exact (w_fX9_readsTerm_27 C) v0 i1 i2 (1 : Int32) hm H locs ls hW0 hS hz (lv_sub hl [1, 2, 3, 0] rfl)
  · have hm := ite_f c3 hm
    refine lv_aload_n (pc := 9) hx hb dX9_readsTerm_9 rfl (lv_at hl 1 rfl) ?_
    obtain ⟨r4, hq5, hm⟩ := ob_some hm
    refine rk_PV (pc := 10) (As := []) (rest := []) hx hb hml hown hts hK lkX9_140 rfl yn_X9_here (ct_X9_here (G := G) (l := l) (b0 := b0) hq5) ⟨Nat.le_of_ble_eq_true rfl, Nat.le_of_ble_eq_true rfl⟩ (rk_recv hK hW0 0 (by decide) rfl rfl rfl) hW0 rfl rfl hl.1 (Nat.le_of_ble_eq_true rfl) dX9_readsTerm_10 ⟨Nat.zero_le _, Nat.zero_le _⟩ ?_
    refine W.eq (g2 := F0 m 13 ls [.int r4]) rfl ?_
    refine lv_bipush (pc := 13) (v := (48 : Int32)) hx hb dX9_readsTerm_13 (by decide) ?_
    refine lv_isub (pc := 15) hx hb dX9_readsTerm_15 ?_
    refine lv_istore_n (pc := 16) (lv' := [(3, .int (r4 - (48 : Int32))), (0, .ref b0), (1, .int i1), (2, .int i2)]) hx hb dX9_readsTerm_16 rfl hl (by decide) rfl (fun ls hl => ?_)
    refine lv_aload_n (pc := 17) hx hb dX9_readsTerm_17 rfl (lv_at hl 1 rfl) ?_
    refine lv_dup (pc := 18) hx hb dX9_readsTerm_18 rfl ?_
    refine rk_get (pc := 19) hx hb hts hown hK hW0 flX9_137 0 (by decide) rfl rfl (x := .int (gI v0 0 7)) rfl dX9_readsTerm_19 ?_
    refine lv_iconst (pc := 22) (v := (1 : Int32)) hx hb dX9_readsTerm_22 (by decide) ?_
    refine lv_iadd (pc := 23) hx hb dX9_readsTerm_23 ?_
    refine rk_put (pc := 24) hx hb hts hown hK hW0 hS flX9_137 ft_X9 0 (by decide) rfl (Or.inl (show iv _ _ _ from ⟨by omega, by omega⟩)) rfl rfl (x := .int ((gI v0 0 7) + (1 : Int32))) rfl rfl (Nat.le_of_ble_eq_true rfl) (sI v0 0 7 ((gI v0 0 7) + (1 : Int32))) sI_ne (by rw [sI_eq]; exact rfl) dX9_readsTerm_24 (fun H7 locs8 hW9 hS10 hz11 hkp12 => ?_)
    obtain ⟨v0_6, he9, hm⟩ := lm_some hm
    rw [he9] at hW9
    have hz13 := hz11.trans hz
    exact (w_fX9_readsTerm_27 C) v0_6 i1 i2 (r4 - (48 : Int32)) hm H7 locs8 ls hW9 hS10 hz13 (lv_sub hl [1, 2, 3, 0] rfl)
set_option maxHeartbeats 4000000 in
theorem ct_X9_readsTerm {G : Gv} {l : Launch} {b0 : Nat} {v0 : Mem} {i1 : Int32} {i2 : Int32} {rx : Int32} {rw0 : Mem} {sz : Nat} (hm : fX9_readsTerm v0 i1 i2 = some (rx, rw0)) : CT G l yX9_readsTerm (ws_ yX9_readsTerm cX9_readsTerm 5 (some .boolean)) 2 0 0 45 [.ref b0, .int i1, .int i2] (iv b0 46) sz (fun H => rg G b0 46 (shX9 G.2.1) v0 H) (fun ov H => ov = (some (.int rx)) ∧ rg G b0 46 (shX9 G.2.1) rw0 H ∧ H.size = sz) := by
  refine Met.ofW (cc := cX9_readsTerm) (maxL := 5) (ret := (some .boolean)) (by decide +kernel) rfl ?_
  intro p e s m args below meth c s₁ B hml hv
  obtain ⟨rfl, ⟨hz, hW0⟩, hK⟩ := hv
  subst hz
  have hts := atoms_spec (ws := ws_ yX9_readsTerm cX9_readsTerm 5 (some .boolean)) B.pre
  have hts : ∀ w ∈ lw_all, w.before _ s = true := fun w h => hts w (List.mem_cons_of_mem _ h)
  have C : Cx G p s m _ meth c RX9 cX9_readsTerm 5 (some .boolean) := ⟨B.exec, B.bytes, B.returns, B.notSynchronized, hml, findClass_of_methodNamed B.named, hts, hK⟩
  have hl := lv_entry ([.ref b0, .int i1, .int i2]) (n := 5) (Nat.le_of_ble_eq_true rfl)
  rw [lg_entry_eq]
  generalize (lg_sl ([.ref b0, .int i1, .int i2]) ++ List.replicate (5 - (lg_sl ([.ref b0, .int i1, .int i2])).length) Slot.unset).toArray = ls at hl ⊢
  have hl : lv_has ls 5 [(0, .ref b0), (1, .int i1), (2, .int i2)] := hl
  exact w_fX9_readsTerm C _ _ _ hm s.heap [] ls hW0 va_S.rf rfl hl
theorem yn_X9_takes : YN yX9_takes 1 := by
  unfold YN
  decide +kernel
theorem lkX9_153 : LV RX9 153 RX9 yX9_takes cX9_takes 2 (some .boolean) := ⟨q1997, q1999, qs64, q128, q2000⟩
theorem yn_X9_readsTerm : YN yX9_readsTerm 2 := by
  unfold YN
  decide +kernel
theorem lkX9_156 : LV RX9 156 RX9 yX9_readsTerm cX9_readsTerm 5 (some .boolean) := ⟨q2005, q2007, qs66, q128, q2008⟩
noncomputable def fX9_readsSum_56 (k24 : Mem → Int32 → Option (Int32 × Mem)) (v0 : Mem) (i1 : Int32) (t0 : Int32) : Option (Int32 × Mem) :=
  lm (sI v0 0 7 ((gI v0 0 7) + (1 : Int32))) fun v0_34 =>
  ob2 (fX9_readsTerm v0_34 i1 t0) fun r42 w43 =>
  if r42 = 0 then (
  some ((0 : Int32), w43))
  else (
  k24 w43 i1)
noncomputable def fX9_readsSum_42 (k24 : Mem → Int32 → Option (Int32 × Mem)) (v0 : Mem) (i1 : Int32) : Option (Int32 × Mem) :=
  ob (fX9_here v0) fun r31 =>
  if r31 = (43 : Int32) then (
  fX9_readsSum_56 k24 v0 i1 (1 : Int32))
  else (
  fX9_readsSum_56 k24 v0 i1 (-1 : Int32))
noncomputable def fX9_readsSum_24 (k24 : Mem → Int32 → Option (Int32 × Mem)) (v0 : Mem) (i1 : Int32) : Option (Int32 × Mem) :=
  ob (fX9_here v0) fun r25 =>
  if r25 = (43 : Int32) then (
  fX9_readsSum_42 k24 v0 i1)
  else (
  ob (fX9_here v0) fun r28 =>
  if r28 = (45 : Int32) then (
  fX9_readsSum_42 k24 v0 i1)
  else (
  some ((1 : Int32), v0)))
noncomputable def fX9_readsSum_16 (v0 : Mem) (i1 : Int32) (t1 : Int32) (t2 : Int32) : Option (Int32 × Mem) :=
  ob2 (fX9_readsTerm v0 t1 t2) fun r13 w14 =>
  if r13 = 0 then (
  some ((0 : Int32), w14))
  else (
  lq2 (fX9_readsSum_24) FU w14 i1)
noncomputable def fX9_readsSum (v0 : Mem) (i1 : Int32) : Option (Int32 × Mem) :=
  ob2 (fX9_takes v0 (45 : Int32)) fun r1 w2 =>
  if r1 = 0 then (
  fX9_readsSum_16 w2 i1 i1 (1 : Int32))
  else (
  fX9_readsSum_16 w2 i1 i1 (-1 : Int32))
set_option maxHeartbeats 4000000 in
theorem w_fX9_readsSum_56 (C : Cx G p s m args meth c RX9 cX9_readsSum 3 (some .boolean)) {b0 : Nat} {rx : Int32} {rw0 : Mem} {k24 : Mem → Int32 → Option (Int32 × Mem)} (hk24 : ∀ (v0 : Mem) (i1 : Int32), k24 v0 i1 = some (rx, rw0) → ∀ (H : Heap) (locs : List Loc) (ls : Array Slot), rg G b0 46 (shX9 G.2.1) v0 H → va_S (FA (iv b0 46) s.heap.size) s.heap H locs → H.size = s.heap.size → lv_has ls 3 [(0, .ref b0), (1, .int i1)] → W p l e (rmT 3 0 0 69) s m args below meth c H locs 0 0 (MQ below (QcT (FA (iv b0 46) s.heap.size) (fun ov H => ov = (some (.int rx)) ∧ rg G b0 46 (shX9 G.2.1) rw0 H ∧ H.size = s.heap.size)) args s 0 0 (FA (iv b0 46) s.heap.size)) (F0 m 24 ls [])) : ∀ (v0 : Mem) (i1 : Int32) (t0 : Int32), fX9_readsSum_56 k24 v0 i1 t0 = some (rx, rw0) → ∀ (H : Heap) (locs : List Loc) (ls : Array Slot), rg G b0 46 (shX9 G.2.1) v0 H → va_S (FA (iv b0 46) s.heap.size) s.heap H locs → H.size = s.heap.size → lv_has ls 3 [(0, .ref b0), (1, .int i1)] → W p l e (rmT 3 0 0 69) s m args below meth c H locs 0 0 (MQ below (QcT (FA (iv b0 46) s.heap.size) (fun ov H => ov = (some (.int rx)) ∧ rg G b0 46 (shX9 G.2.1) rw0 H ∧ H.size = s.heap.size)) args s 0 0 (FA (iv b0 46) s.heap.size)) (F0 m 56 ls [.int t0]) := by
  intro v0 i1 t0 hm H locs ls hW0 hS hz hl
  obtain ⟨hx, hb, hr, hlk, hml, hown, hts, hK⟩ := id C
  unfold fX9_readsSum_56 at hm
  refine lv_istore_n (pc := 56) (lv' := [(2, .int t0), (0, .ref b0), (1, .int i1)]) hx hb dX9_readsSum_56 rfl hl (by decide) rfl (fun ls hl => ?_)
  refine lv_aload_n (pc := 57) hx hb dX9_readsSum_57 rfl (lv_at hl 1 rfl) ?_
  refine lv_dup (pc := 58) hx hb dX9_readsSum_58 rfl ?_
  refine rk_get (pc := 59) hx hb hts hown hK hW0 flX9_137 0 (by decide) rfl rfl (x := .int (gI v0 0 7)) rfl dX9_readsSum_59 ?_
  refine lv_iconst (pc := 62) (v := (1 : Int32)) hx hb dX9_readsSum_62 (by decide) ?_
  refine lv_iadd (pc := 63) hx hb dX9_readsSum_63 ?_
  refine rk_put (pc := 64) hx hb hts hown hK hW0 hS flX9_137 ft_X9 0 (by decide) rfl (Or.inl (show iv _ _ _ from ⟨by omega, by omega⟩)) rfl rfl (x := .int ((gI v0 0 7) + (1 : Int32))) rfl rfl (Nat.le_of_ble_eq_true rfl) (sI v0 0 7 ((gI v0 0 7) + (1 : Int32))) sI_ne (by rw [sI_eq]; exact rfl) dX9_readsSum_64 (fun H35 locs36 hW37 hS38 hz39 hkp40 => ?_)
  obtain ⟨v0_34, he9, hm⟩ := lm_some hm
  rw [he9] at hW37
  have hz41 := hz39.trans hz
  refine lv_aload_n (pc := 67) hx hb dX9_readsSum_67 rfl (lv_at hl 1 rfl) ?_
  refine lv_iload_n (pc := 68) hx hb dX9_readsSum_68 rfl (lv_at hl 2 rfl) ?_
  refine lv_iload_n (pc := 69) hx hb dX9_readsSum_69 rfl (lv_at hl 0 rfl) ?_
  obtain ⟨r42, w43, hq44, hm⟩ := ob2_some hm
  refine rk_TV (pc := 70) (As := [.int i1, .int t0]) (rest := []) (mc := 0) (ms := 0) hx hb hml hown hts hK hS38 (fun q hq => FA_sz rfl q hq) lkX9_156 rfl yn_X9_readsTerm (ct_X9_readsTerm (G := G) (l := l) (b0 := b0) (sz := H35.size) hq44) ⟨Nat.le_of_ble_eq_true rfl, Nat.le_of_ble_eq_true rfl⟩ (fun z h => Or.inl (show iv _ _ _ from ⟨by have h8 := h.1; have h9 := h.2; omega, by have h8 := h.1; have h9 := h.2; omega⟩)) (rk_recv hK hW37 0 (by decide) rfl rfl rfl) hW37 rfl rfl hl.1 (Nat.le_of_ble_eq_true rfl) dX9_readsSum_70 ⟨Nat.zero_le _, Nat.zero_le _⟩ (fun ov9 H45 locs46 hP47 hkp48 hS49 => ?_)
  obtain ⟨rfl, hW50, hz51⟩ := hP47
  have hz52 := hz51.trans hz41
  refine W.eq (g2 := F0 m 73 ls [.int r42]) rfl ?_
  refine lv_if_ne (pc := 73) (tgt := 78) hx hb dX9_readsSum_73 (by decide) (fun c53 => ?_) (fun c53 => ?_)
  · have hm := ite_f c53 hm
    refine lv_goto (pc := 78) (tgt := 24) hx hb dX9_readsSum_78 (by decide) ?_
    exact hk24 w43 i1 hm H45 locs46 ls hW50 hS49 hz52 (lv_sub hl [1, 2] rfl)
  · have hm := ite_t c53 hm
    refine lv_iconst (pc := 76) (v := (0 : Int32)) hx hb dX9_readsSum_76 (by decide) ?_
    obtain ⟨e8, e9⟩ := rs2 hm
    subst e8
    subst e9
    exact rk_zret (pc := 77) hx hb hr hlk rfl hS49 ⟨rfl, hW50, hz52⟩ dX9_readsSum_77
set_option maxHeartbeats 4000000 in
theorem w_fX9_readsSum_42 (C : Cx G p s m args meth c RX9 cX9_readsSum 3 (some .boolean)) {b0 : Nat} {rx : Int32} {rw0 : Mem} {k24 : Mem → Int32 → Option (Int32 × Mem)} (hk24 : ∀ (v0 : Mem) (i1 : Int32), k24 v0 i1 = some (rx, rw0) → ∀ (H : Heap) (locs : List Loc) (ls : Array Slot), rg G b0 46 (shX9 G.2.1) v0 H → va_S (FA (iv b0 46) s.heap.size) s.heap H locs → H.size = s.heap.size → lv_has ls 3 [(0, .ref b0), (1, .int i1)] → W p l e (rmT 3 0 0 69) s m args below meth c H locs 0 0 (MQ below (QcT (FA (iv b0 46) s.heap.size) (fun ov H => ov = (some (.int rx)) ∧ rg G b0 46 (shX9 G.2.1) rw0 H ∧ H.size = s.heap.size)) args s 0 0 (FA (iv b0 46) s.heap.size)) (F0 m 24 ls [])) : ∀ (v0 : Mem) (i1 : Int32), fX9_readsSum_42 k24 v0 i1 = some (rx, rw0) → ∀ (H : Heap) (locs : List Loc) (ls : Array Slot), rg G b0 46 (shX9 G.2.1) v0 H → va_S (FA (iv b0 46) s.heap.size) s.heap H locs → H.size = s.heap.size → lv_has ls 3 [(0, .ref b0), (1, .int i1)] → W p l e (rmT 3 0 0 69) s m args below meth c H locs 0 0 (MQ below (QcT (FA (iv b0 46) s.heap.size) (fun ov H => ov = (some (.int rx)) ∧ rg G b0 46 (shX9 G.2.1) rw0 H ∧ H.size = s.heap.size)) args s 0 0 (FA (iv b0 46) s.heap.size)) (F0 m 42 ls []) := by
  intro v0 i1 hm H locs ls hW0 hS hz hl
  obtain ⟨hx, hb, hr, hlk, hml, hown, hts, hK⟩ := id C
  unfold fX9_readsSum_42 at hm
  refine lv_aload_n (pc := 42) hx hb dX9_readsSum_42 rfl (lv_at hl 0 rfl) ?_
  obtain ⟨r31, hq32, hm⟩ := ob_some hm
  refine rk_PV (pc := 43) (As := []) (rest := []) hx hb hml hown hts hK lkX9_140 rfl yn_X9_here (ct_X9_here (G := G) (l := l) (b0 := b0) hq32) ⟨Nat.le_of_ble_eq_true rfl, Nat.le_of_ble_eq_true rfl⟩ (rk_recv hK hW0 0 (by decide) rfl rfl rfl) hW0 rfl rfl hl.1 (Nat.le_of_ble_eq_true rfl) dX9_readsSum_43 ⟨Nat.zero_le _, Nat.zero_le _⟩ ?_
  refine W.eq (g2 := F0 m 46 ls [.int r31]) rfl ?_
  refine lv_bipush (pc := 46) (v := (43 : Int32)) hx hb dX9_readsSum_46 (by decide) ?_
  refine lv_icmp_ne (pc := 48) (tgt := 55) hx hb dX9_readsSum_48 (by decide) (fun c33 => ?_) (fun c33 => ?_)
  · have hm := ite_f c33 hm
    refine lv_iconst (pc := 55) (v := (-1 : Int32)) hx hb dX9_readsSum_55 (by decide) ?_
    exact (w_fX9_readsSum_56 C hk24) v0 i1 (-1 : Int32) hm H locs ls hW0 hS hz (lv_sub hl [0, 1] rfl)
  · have hm := ite_t c33 hm
    refine lv_iconst (pc := 51) (v := (1 : Int32)) hx hb dX9_readsSum_51 (by decide) ?_
    refine lv_goto (pc := 52) (tgt := 56) hx hb dX9_readsSum_52 (by decide) ?_
    exact (w_fX9_readsSum_56 C hk24) v0 i1 (1 : Int32) hm H locs ls hW0 hS hz (lv_sub hl [0, 1] rfl)
set_option maxHeartbeats 4000000 in
theorem w_fX9_readsSum_24 (C : Cx G p s m args meth c RX9 cX9_readsSum 3 (some .boolean)) {b0 : Nat} {rx : Int32} {rw0 : Mem} {k24 : Mem → Int32 → Option (Int32 × Mem)} (hk24 : ∀ (v0 : Mem) (i1 : Int32), k24 v0 i1 = some (rx, rw0) → ∀ (H : Heap) (locs : List Loc) (ls : Array Slot), rg G b0 46 (shX9 G.2.1) v0 H → va_S (FA (iv b0 46) s.heap.size) s.heap H locs → H.size = s.heap.size → lv_has ls 3 [(0, .ref b0), (1, .int i1)] → W p l e (rmT 3 0 0 69) s m args below meth c H locs 0 0 (MQ below (QcT (FA (iv b0 46) s.heap.size) (fun ov H => ov = (some (.int rx)) ∧ rg G b0 46 (shX9 G.2.1) rw0 H ∧ H.size = s.heap.size)) args s 0 0 (FA (iv b0 46) s.heap.size)) (F0 m 24 ls [])) : ∀ (v0 : Mem) (i1 : Int32), fX9_readsSum_24 k24 v0 i1 = some (rx, rw0) → ∀ (H : Heap) (locs : List Loc) (ls : Array Slot), rg G b0 46 (shX9 G.2.1) v0 H → va_S (FA (iv b0 46) s.heap.size) s.heap H locs → H.size = s.heap.size → lv_has ls 3 [(0, .ref b0), (1, .int i1)] → W p l e (rmT 3 0 0 69) s m args below meth c H locs 0 0 (MQ below (QcT (FA (iv b0 46) s.heap.size) (fun ov H => ov = (some (.int rx)) ∧ rg G b0 46 (shX9 G.2.1) rw0 H ∧ H.size = s.heap.size)) args s 0 0 (FA (iv b0 46) s.heap.size)) (F0 m 24 ls []) := by
  intro v0 i1 hm H locs ls hW0 hS hz hl
  obtain ⟨hx, hb, hr, hlk, hml, hown, hts, hK⟩ := id C
  unfold fX9_readsSum_24 at hm
  refine lv_aload_n (pc := 24) hx hb dX9_readsSum_24 rfl (lv_at hl 0 rfl) ?_
  obtain ⟨r25, hq26, hm⟩ := ob_some hm
  refine rk_PV (pc := 25) (As := []) (rest := []) hx hb hml hown hts hK lkX9_140 rfl yn_X9_here (ct_X9_here (G := G) (l := l) (b0 := b0) hq26) ⟨Nat.le_of_ble_eq_true rfl, Nat.le_of_ble_eq_true rfl⟩ (rk_recv hK hW0 0 (by decide) rfl rfl rfl) hW0 rfl rfl hl.1 (Nat.le_of_ble_eq_true rfl) dX9_readsSum_25 ⟨Nat.zero_le _, Nat.zero_le _⟩ ?_
  refine W.eq (g2 := F0 m 28 ls [.int r25]) rfl ?_
  refine lv_bipush (pc := 28) (v := (43 : Int32)) hx hb dX9_readsSum_28 (by decide) ?_
  refine lv_icmp_eq (pc := 30) (tgt := 42) hx hb dX9_readsSum_30 (by decide) (fun c27 => ?_) (fun c27 => ?_)
  · have hm := ite_t c27 hm
    exact (w_fX9_readsSum_42 C hk24) v0 i1 hm H locs ls hW0 hS hz (lv_sub hl [0, 1] rfl)
  · have hm := ite_f c27 hm
    refine lv_aload_n (pc := 33) hx hb dX9_readsSum_33 rfl (lv_at hl 0 rfl) ?_
    obtain ⟨r28, hq29, hm⟩ := ob_some hm
    refine rk_PV (pc := 34) (As := []) (rest := []) hx hb hml hown hts hK lkX9_140 rfl yn_X9_here (ct_X9_here (G := G) (l := l) (b0 := b0) hq29) ⟨Nat.le_of_ble_eq_true rfl, Nat.le_of_ble_eq_true rfl⟩ (rk_recv hK hW0 0 (by decide) rfl rfl rfl) hW0 rfl rfl hl.1 (Nat.le_of_ble_eq_true rfl) dX9_readsSum_34 ⟨Nat.zero_le _, Nat.zero_le _⟩ ?_
    refine W.eq (g2 := F0 m 37 ls [.int r28]) rfl ?_
    refine lv_bipush (pc := 37) (v := (45 : Int32)) hx hb dX9_readsSum_37 (by decide) ?_
    refine lv_icmp_ne (pc := 39) (tgt := 81) hx hb dX9_readsSum_39 (by decide) (fun c30 => ?_) (fun c30 => ?_)
    · have hm := ite_f c30 hm
      refine lv_iconst (pc := 81) (v := (1 : Int32)) hx hb dX9_readsSum_81 (by decide) ?_
      obtain ⟨e8, e9⟩ := rs2 hm
      subst e8
      subst e9
      exact rk_zret (pc := 82) hx hb hr hlk rfl hS ⟨rfl, hW0, hz⟩ dX9_readsSum_82
    · have hm := ite_t c30 hm
      exact (w_fX9_readsSum_42 C hk24) v0 i1 hm H locs ls hW0 hS hz (lv_sub hl [0, 1] rfl)
theorem w_fX9_readsSum_24_l (C : Cx G p s m args meth c RX9 cX9_readsSum 3 (some .boolean)) {b0 : Nat} {rx : Int32} {rw0 : Mem} : ∀ (n : Nat) (v0 : Mem) (i1 : Int32), lq2 (fX9_readsSum_24) n v0 i1 = some (rx, rw0) → ∀ (H : Heap) (locs : List Loc) (ls : Array Slot), rg G b0 46 (shX9 G.2.1) v0 H → va_S (FA (iv b0 46) s.heap.size) s.heap H locs → H.size = s.heap.size → lv_has ls 3 [(0, .ref b0), (1, .int i1)] → W p l e (rmT 3 0 0 69) s m args below meth c H locs 0 0 (MQ below (QcT (FA (iv b0 46) s.heap.size) (fun ov H => ov = (some (.int rx)) ∧ rg G b0 46 (shX9 G.2.1) rw0 H ∧ H.size = s.heap.size)) args s 0 0 (FA (iv b0 46) s.heap.size)) (F0 m 24 ls []) := by
  intro n
  induction n with
  | zero => intro v0 i1 hm; exact (lq2_0 hm).elim
  | succ n ih => intro v0 i1 hm; exact w_fX9_readsSum_24 C ih v0 i1 (lq2_s hm)
set_option maxHeartbeats 4000000 in
theorem w_fX9_readsSum_16 (C : Cx G p s m args meth c RX9 cX9_readsSum 3 (some .boolean)) {b0 : Nat} {rx : Int32} {rw0 : Mem} : ∀ (v0 : Mem) (i1 : Int32) (t1 : Int32) (t2 : Int32), fX9_readsSum_16 v0 i1 t1 t2 = some (rx, rw0) → ∀ (H : Heap) (locs : List Loc) (ls : Array Slot), rg G b0 46 (shX9 G.2.1) v0 H → va_S (FA (iv b0 46) s.heap.size) s.heap H locs → H.size = s.heap.size → lv_has ls 3 [(0, .ref b0), (1, .int i1)] → W p l e (rmT 3 0 0 69) s m args below meth c H locs 0 0 (MQ below (QcT (FA (iv b0 46) s.heap.size) (fun ov H => ov = (some (.int rx)) ∧ rg G b0 46 (shX9 G.2.1) rw0 H ∧ H.size = s.heap.size)) args s 0 0 (FA (iv b0 46) s.heap.size)) (F0 m 16 ls [.int t2, .int t1, .ref b0]) := by
  intro v0 i1 t1 t2 hm H locs ls hW0 hS hz hl
  obtain ⟨hx, hb, hr, hlk, hml, hown, hts, hK⟩ := id C
  unfold fX9_readsSum_16 at hm
  obtain ⟨r13, w14, hq15, hm⟩ := ob2_some hm
  refine rk_TV (pc := 16) (As := [.int t1, .int t2]) (rest := []) (mc := 0) (ms := 0) hx hb hml hown hts hK hS (fun q hq => FA_sz rfl q hq) lkX9_156 rfl yn_X9_readsTerm (ct_X9_readsTerm (G := G) (l := l) (b0 := b0) (sz := H.size) hq15) ⟨Nat.le_of_ble_eq_true rfl, Nat.le_of_ble_eq_true rfl⟩ (fun z h => Or.inl (show iv _ _ _ from ⟨by have h8 := h.1; have h9 := h.2; omega, by have h8 := h.1; have h9 := h.2; omega⟩)) (rk_recv hK hW0 0 (by decide) rfl rfl rfl) hW0 rfl rfl hl.1 (Nat.le_of_ble_eq_true rfl) dX9_readsSum_16 ⟨Nat.zero_le _, Nat.zero_le _⟩ (fun ov9 H16 locs17 hP18 hkp19 hS20 => ?_)
  obtain ⟨rfl, hW21, hz22⟩ := hP18
  have hz23 := hz22.trans hz
  refine W.eq (g2 := F0 m 19 ls [.int r13]) rfl ?_
  refine lv_if_ne (pc := 19) (tgt := 24) hx hb dX9_readsSum_19 (by decide) (fun c24 => ?_) (fun c24 => ?_)
  · have hm := ite_f c24 hm
    exact (w_fX9_readsSum_24_l C FU) w14 i1 hm H16 locs17 ls hW21 hS20 hz23 (lv_sub hl [0, 1] rfl)
  · have hm := ite_t c24 hm
    refine lv_iconst (pc := 22) (v := (0 : Int32)) hx hb dX9_readsSum_22 (by decide) ?_
    obtain ⟨e8, e9⟩ := rs2 hm
    subst e8
    subst e9
    exact rk_zret (pc := 23) hx hb hr hlk rfl hS20 ⟨rfl, hW21, hz23⟩ dX9_readsSum_23
set_option maxHeartbeats 4000000 in
theorem w_fX9_readsSum (C : Cx G p s m args meth c RX9 cX9_readsSum 3 (some .boolean)) {b0 : Nat} {rx : Int32} {rw0 : Mem} : ∀ (v0 : Mem) (i1 : Int32), fX9_readsSum v0 i1 = some (rx, rw0) → ∀ (H : Heap) (locs : List Loc) (ls : Array Slot), rg G b0 46 (shX9 G.2.1) v0 H → va_S (FA (iv b0 46) s.heap.size) s.heap H locs → H.size = s.heap.size → lv_has ls 3 [(0, .ref b0), (1, .int i1)] → W p l e (rmT 3 0 0 69) s m args below meth c H locs 0 0 (MQ below (QcT (FA (iv b0 46) s.heap.size) (fun ov H => ov = (some (.int rx)) ∧ rg G b0 46 (shX9 G.2.1) rw0 H ∧ H.size = s.heap.size)) args s 0 0 (FA (iv b0 46) s.heap.size)) (F0 m 0 ls []) := by
  intro v0 i1 hm H locs ls hW0 hS hz hl
  obtain ⟨hx, hb, hr, hlk, hml, hown, hts, hK⟩ := id C
  unfold fX9_readsSum at hm
  refine lv_aload_n (pc := 0) hx hb dX9_readsSum_0 rfl (lv_at hl 0 rfl) ?_
  refine lv_iload_n (pc := 1) hx hb dX9_readsSum_1 rfl (lv_at hl 1 rfl) ?_
  refine lv_aload_n (pc := 2) hx hb dX9_readsSum_2 rfl (lv_at hl 0 rfl) ?_
  refine lv_bipush (pc := 3) (v := (45 : Int32)) hx hb dX9_readsSum_3 (by decide) ?_
  obtain ⟨r1, w2, hq3, hm⟩ := ob2_some hm
  refine rk_TV (pc := 5) (As := [.int (45 : Int32)]) (rest := [.int i1, .ref b0]) (mc := 0) (ms := 0) hx hb hml hown hts hK hS (fun q hq => FA_sz rfl q hq) lkX9_153 rfl yn_X9_takes (ct_X9_takes (G := G) (l := l) (b0 := b0) (sz := H.size) hq3) ⟨Nat.le_of_ble_eq_true rfl, Nat.le_of_ble_eq_true rfl⟩ (fun z h => Or.inl (show iv _ _ _ from ⟨by have h8 := h.1; have h9 := h.2; omega, by have h8 := h.1; have h9 := h.2; omega⟩)) (rk_recv hK hW0 0 (by decide) rfl rfl rfl) hW0 rfl rfl hl.1 (Nat.le_of_ble_eq_true rfl) dX9_readsSum_5 ⟨Nat.zero_le _, Nat.zero_le _⟩ (fun ov9 H4 locs5 hP6 hkp7 hS8 => ?_)
  obtain ⟨rfl, hW9, hz10⟩ := hP6
  have hz11 := hz10.trans hz
  refine W.eq (g2 := F0 m 8 ls [.int r1, .int i1, .ref b0]) rfl ?_
  refine lv_if_eq (pc := 8) (tgt := 15) hx hb dX9_readsSum_8 (by decide) (fun c12 => ?_) (fun c12 => ?_)
  · have hm := ite_t c12 hm
    refine lv_iconst (pc := 15) (v := (1 : Int32)) hx hb dX9_readsSum_15 (by decide) ?_
    exact (w_fX9_readsSum_16 C) w2 i1 i1 (1 : Int32) hm H4 locs5 ls hW9 hS8 hz11 (lv_sub hl [0, 1] rfl)
  · have hm := ite_f c12 hm
    refine lv_iconst (pc := 11) (v := (-1 : Int32)) hx hb dX9_readsSum_11 (by decide) ?_
    refine lv_goto (pc := 12) (tgt := 16) hx hb dX9_readsSum_12 (by decide) ?_
    exact (w_fX9_readsSum_16 C) w2 i1 i1 (-1 : Int32) hm H4 locs5 ls hW9 hS8 hz11 (lv_sub hl [0, 1] rfl)
set_option maxHeartbeats 4000000 in
theorem ct_X9_readsSum {G : Gv} {l : Launch} {b0 : Nat} {v0 : Mem} {i1 : Int32} {rx : Int32} {rw0 : Mem} {sz : Nat} (hm : fX9_readsSum v0 i1 = some (rx, rw0)) : CT G l yX9_readsSum (ws_ yX9_readsSum cX9_readsSum 3 (some .boolean)) 3 0 0 69 [.ref b0, .int i1] (iv b0 46) sz (fun H => rg G b0 46 (shX9 G.2.1) v0 H) (fun ov H => ov = (some (.int rx)) ∧ rg G b0 46 (shX9 G.2.1) rw0 H ∧ H.size = sz) := by
  refine Met.ofW (cc := cX9_readsSum) (maxL := 3) (ret := (some .boolean)) (by decide +kernel) rfl ?_
  intro p e s m args below meth c s₁ B hml hv
  obtain ⟨rfl, ⟨hz, hW0⟩, hK⟩ := hv
  subst hz
  have hts := atoms_spec (ws := ws_ yX9_readsSum cX9_readsSum 3 (some .boolean)) B.pre
  have hts : ∀ w ∈ lw_all, w.before _ s = true := fun w h => hts w (List.mem_cons_of_mem _ h)
  have C : Cx G p s m _ meth c RX9 cX9_readsSum 3 (some .boolean) := ⟨B.exec, B.bytes, B.returns, B.notSynchronized, hml, findClass_of_methodNamed B.named, hts, hK⟩
  have hl := lv_entry ([.ref b0, .int i1]) (n := 3) (Nat.le_of_ble_eq_true rfl)
  rw [lg_entry_eq]
  generalize (lg_sl ([.ref b0, .int i1]) ++ List.replicate (3 - (lg_sl ([.ref b0, .int i1])).length) Slot.unset).toArray = ls at hl ⊢
  have hl : lv_has ls 3 [(0, .ref b0), (1, .int i1)] := hl
  exact w_fX9_readsSum C _ _ hm s.heap [] ls hW0 va_S.rf rfl hl
noncomputable def fX9_readsBound_83 (v0 : Mem) (i1 : Int32) (i2 : Int32) (i3 : Int32) : Option (Int32 × Mem) :=
  gb (inR (i1 + (1 : Int32)) 28) (
  lm (sI v0 5 (i1 + (1 : Int32)).toNatClampNeg (i2 * i3)) fun v0_33 =>
  some ((1 : Int32), v0_33))
noncomputable def fX9_readsBound_67 (k29 : Mem → Int32 → Int32 → Int32 → Int32 → Option (Int32 × Mem)) (v0 : Mem) (i1 : Int32) (i2 : Int32) (i3 : Int32) (i4 : Int32) : Option (Int32 × Mem) :=
  lm (sI v0 0 7 ((gI v0 0 7) + (1 : Int32))) fun v0_24 =>
  k29 v0_24 i1 i2 i3 (i4 + (1 : Int32))
noncomputable def fX9_readsBound_29 (k29 : Mem → Int32 → Int32 → Int32 → Int32 → Option (Int32 × Mem)) (v0 : Mem) (i1 : Int32) (i2 : Int32) (i3 : Int32) (i4 : Int32) : Option (Int32 × Mem) :=
  if (3 : Int32) ≤ i4 then (
  fX9_readsBound_83 v0 i1 i2 i3)
  else (
  ob (fX9_isDigit v0) fun r17 =>
  if r17 = 0 then (
  fX9_readsBound_83 v0 i1 i2 i3)
  else (
  ob (fX9_here v0) fun r20 =>
  if 0 ≤ i2 then (
  fX9_readsBound_67 k29 v0 i1 i2 ((((10 : Int32) * i3) + r20) - (48 : Int32)) i4)
  else (
  if ((((10 : Int32) * i3) + r20) - (48 : Int32)) ≤ (99 : Int32) then (
  fX9_readsBound_67 k29 v0 i1 i2 ((((10 : Int32) * i3) + r20) - (48 : Int32)) i4)
  else (
  some ((0 : Int32), v0)))))
noncomputable def fX9_readsBound_14 (v0 : Mem) (i1 : Int32) (t0 : Int32) : Option (Int32 × Mem) :=
  ob (fX9_isDigit v0) fun r13 =>
  if r13 = 0 then (
  some ((0 : Int32), v0))
  else (
  lq5 (fX9_readsBound_29) FU v0 i1 t0 (0 : Int32) (0 : Int32))
noncomputable def fX9_readsBound (v0 : Mem) (i1 : Int32) : Option (Int32 × Mem) :=
  ob2 (fX9_takes v0 (45 : Int32)) fun r1 w2 =>
  if r1 = 0 then (
  fX9_readsBound_14 w2 i1 (1 : Int32))
  else (
  fX9_readsBound_14 w2 i1 (-1 : Int32))
set_option maxHeartbeats 4000000 in
theorem w_fX9_readsBound_83 (C : Cx G p s m args meth c RX9 cX9_readsBound 5 (some .boolean)) {b0 : Nat} {rx : Int32} {rw0 : Mem} : ∀ (v0 : Mem) (i1 : Int32) (i2 : Int32) (i3 : Int32), fX9_readsBound_83 v0 i1 i2 i3 = some (rx, rw0) → ∀ (H : Heap) (locs : List Loc) (ls : Array Slot), rg G b0 46 (shX9 G.2.1) v0 H → va_S (FA (iv b0 46) s.heap.size) s.heap H locs → H.size = s.heap.size → lv_has ls 5 [(0, .ref b0), (1, .int i1), (2, .int i2), (3, .int i3)] → W p l e (rmT 2 0 0 45) s m args below meth c H locs 0 0 (MQ below (QcT (FA (iv b0 46) s.heap.size) (fun ov H => ov = (some (.int rx)) ∧ rg G b0 46 (shX9 G.2.1) rw0 H ∧ H.size = s.heap.size)) args s 0 0 (FA (iv b0 46) s.heap.size)) (F0 m 83 ls []) := by
  intro v0 i1 i2 i3 hm H locs ls hW0 hS hz hl
  obtain ⟨hx, hb, hr, hlk, hml, hown, hts, hK⟩ := id C
  unfold fX9_readsBound_83 at hm
  refine lv_aload_n (pc := 83) hx hb dX9_readsBound_83 rfl (lv_at hl 0 rfl) ?_
  refine rk_get (pc := 84) hx hb hts hown hK hW0 flX9_24 0 (by decide) rfl rfl (x := .ref (b0 + 5)) (by first | rfl | exact congrArg (fun z => some (Value.ref z)) (by omega)) dX9_readsBound_84 ?_
  refine lv_iload_n (pc := 87) hx hb dX9_readsBound_87 rfl (lv_at hl 1 rfl) ?_
  refine lv_iconst (pc := 88) (v := (1 : Int32)) hx hb dX9_readsBound_88 (by decide) ?_
  refine lv_iadd (pc := 89) hx hb dX9_readsBound_89 ?_
  refine lv_iload_n (pc := 90) hx hb dX9_readsBound_90 rfl (lv_at hl 2 rfl) ?_
  refine lv_iload_n (pc := 91) hx hb dX9_readsBound_91 rfl (lv_at hl 3 rfl) ?_
  refine lv_imul (pc := 92) hx hb dX9_readsBound_92 ?_
  obtain ⟨hg32, hm⟩ := gb_some hm
  refine rk_iast (pc := 93) hx hb hK hW0 hS 5 (by decide) rfl (Or.inl (show iv _ _ _ from ⟨by omega, by omega⟩)) (fun _ _ _ => rfl) hg32 dX9_readsBound_93 (fun H34 locs35 hW36 hS37 hz38 hkp39 => ?_)
  obtain ⟨v0_33, he9, hm⟩ := lm_some hm
  rw [he9] at hW36
  have hz40 := hz38.trans hz
  refine lv_iconst (pc := 94) (v := (1 : Int32)) hx hb dX9_readsBound_94 (by decide) ?_
  obtain ⟨e8, e9⟩ := rs2 hm
  subst e8
  subst e9
  exact rk_zret (pc := 95) hx hb hr hlk rfl hS37 ⟨rfl, hW36, hz40⟩ dX9_readsBound_95
set_option maxHeartbeats 4000000 in
theorem w_fX9_readsBound_67 (C : Cx G p s m args meth c RX9 cX9_readsBound 5 (some .boolean)) {b0 : Nat} {rx : Int32} {rw0 : Mem} {k29 : Mem → Int32 → Int32 → Int32 → Int32 → Option (Int32 × Mem)} (hk29 : ∀ (v0 : Mem) (i1 : Int32) (i2 : Int32) (i3 : Int32) (i4 : Int32), k29 v0 i1 i2 i3 i4 = some (rx, rw0) → ∀ (H : Heap) (locs : List Loc) (ls : Array Slot), rg G b0 46 (shX9 G.2.1) v0 H → va_S (FA (iv b0 46) s.heap.size) s.heap H locs → H.size = s.heap.size → lv_has ls 5 [(0, .ref b0), (1, .int i1), (2, .int i2), (3, .int i3), (4, .int i4)] → W p l e (rmT 2 0 0 45) s m args below meth c H locs 0 0 (MQ below (QcT (FA (iv b0 46) s.heap.size) (fun ov H => ov = (some (.int rx)) ∧ rg G b0 46 (shX9 G.2.1) rw0 H ∧ H.size = s.heap.size)) args s 0 0 (FA (iv b0 46) s.heap.size)) (F0 m 29 ls [])) : ∀ (v0 : Mem) (i1 : Int32) (i2 : Int32) (i3 : Int32) (i4 : Int32), fX9_readsBound_67 k29 v0 i1 i2 i3 i4 = some (rx, rw0) → ∀ (H : Heap) (locs : List Loc) (ls : Array Slot), rg G b0 46 (shX9 G.2.1) v0 H → va_S (FA (iv b0 46) s.heap.size) s.heap H locs → H.size = s.heap.size → lv_has ls 5 [(0, .ref b0), (1, .int i1), (2, .int i2), (3, .int i3), (4, .int i4)] → W p l e (rmT 2 0 0 45) s m args below meth c H locs 0 0 (MQ below (QcT (FA (iv b0 46) s.heap.size) (fun ov H => ov = (some (.int rx)) ∧ rg G b0 46 (shX9 G.2.1) rw0 H ∧ H.size = s.heap.size)) args s 0 0 (FA (iv b0 46) s.heap.size)) (F0 m 67 ls []) := by
  intro v0 i1 i2 i3 i4 hm H locs ls hW0 hS hz hl
  obtain ⟨hx, hb, hr, hlk, hml, hown, hts, hK⟩ := id C
  unfold fX9_readsBound_67 at hm
  refine lv_aload_n (pc := 67) hx hb dX9_readsBound_67 rfl (lv_at hl 0 rfl) ?_
  refine lv_dup (pc := 68) hx hb dX9_readsBound_68 rfl ?_
  refine rk_get (pc := 69) hx hb hts hown hK hW0 flX9_137 0 (by decide) rfl rfl (x := .int (gI v0 0 7)) rfl dX9_readsBound_69 ?_
  refine lv_iconst (pc := 72) (v := (1 : Int32)) hx hb dX9_readsBound_72 (by decide) ?_
  refine lv_iadd (pc := 73) hx hb dX9_readsBound_73 ?_
  refine rk_put (pc := 74) hx hb hts hown hK hW0 hS flX9_137 ft_X9 0 (by decide) rfl (Or.inl (show iv _ _ _ from ⟨by omega, by omega⟩)) rfl rfl (x := .int ((gI v0 0 7) + (1 : Int32))) rfl rfl (Nat.le_of_ble_eq_true rfl) (sI v0 0 7 ((gI v0 0 7) + (1 : Int32))) sI_ne (by rw [sI_eq]; exact rfl) dX9_readsBound_74 (fun H25 locs26 hW27 hS28 hz29 hkp30 => ?_)
  obtain ⟨v0_24, he9, hm⟩ := lm_some hm
  rw [he9] at hW27
  have hz31 := hz29.trans hz
  refine lv_iinc (pc := 77) (v := (i4 + (1 : Int32))) (lv' := [(4, .int (i4 + (1 : Int32))), (0, .ref b0), (1, .int i1), (2, .int i2), (3, .int i3)]) hx hb dX9_readsBound_77 hl (k := 4) rfl rfl (by decide) rfl (fun ls hl => ?_)
  refine lv_goto (pc := 80) (tgt := 29) hx hb dX9_readsBound_80 (by decide) ?_
  exact hk29 v0_24 i1 i2 i3 (i4 + (1 : Int32)) hm H25 locs26 ls hW27 hS28 hz31 (lv_sub hl [1, 2, 3, 4, 0] rfl)
set_option maxHeartbeats 4000000 in
theorem w_fX9_readsBound_29 (C : Cx G p s m args meth c RX9 cX9_readsBound 5 (some .boolean)) {b0 : Nat} {rx : Int32} {rw0 : Mem} {k29 : Mem → Int32 → Int32 → Int32 → Int32 → Option (Int32 × Mem)} (hk29 : ∀ (v0 : Mem) (i1 : Int32) (i2 : Int32) (i3 : Int32) (i4 : Int32), k29 v0 i1 i2 i3 i4 = some (rx, rw0) → ∀ (H : Heap) (locs : List Loc) (ls : Array Slot), rg G b0 46 (shX9 G.2.1) v0 H → va_S (FA (iv b0 46) s.heap.size) s.heap H locs → H.size = s.heap.size → lv_has ls 5 [(0, .ref b0), (1, .int i1), (2, .int i2), (3, .int i3), (4, .int i4)] → W p l e (rmT 2 0 0 45) s m args below meth c H locs 0 0 (MQ below (QcT (FA (iv b0 46) s.heap.size) (fun ov H => ov = (some (.int rx)) ∧ rg G b0 46 (shX9 G.2.1) rw0 H ∧ H.size = s.heap.size)) args s 0 0 (FA (iv b0 46) s.heap.size)) (F0 m 29 ls [])) : ∀ (v0 : Mem) (i1 : Int32) (i2 : Int32) (i3 : Int32) (i4 : Int32), fX9_readsBound_29 k29 v0 i1 i2 i3 i4 = some (rx, rw0) → ∀ (H : Heap) (locs : List Loc) (ls : Array Slot), rg G b0 46 (shX9 G.2.1) v0 H → va_S (FA (iv b0 46) s.heap.size) s.heap H locs → H.size = s.heap.size → lv_has ls 5 [(0, .ref b0), (1, .int i1), (2, .int i2), (3, .int i3), (4, .int i4)] → W p l e (rmT 2 0 0 45) s m args below meth c H locs 0 0 (MQ below (QcT (FA (iv b0 46) s.heap.size) (fun ov H => ov = (some (.int rx)) ∧ rg G b0 46 (shX9 G.2.1) rw0 H ∧ H.size = s.heap.size)) args s 0 0 (FA (iv b0 46) s.heap.size)) (F0 m 29 ls []) := by
  intro v0 i1 i2 i3 i4 hm H locs ls hW0 hS hz hl
  obtain ⟨hx, hb, hr, hlk, hml, hown, hts, hK⟩ := id C
  unfold fX9_readsBound_29 at hm
  refine lv_iload (pc := 29) hx hb dX9_readsBound_29 (lv_at hl 4 rfl) ?_
  refine lv_iconst (pc := 31) (v := (3 : Int32)) hx hb dX9_readsBound_31 (by decide) ?_
  refine lv_icmp_ge (pc := 32) (tgt := 83) hx hb dX9_readsBound_32 (by decide) (fun c16 => ?_) (fun c16 => ?_)
  · have hm := ite_t c16 hm
    exact (w_fX9_readsBound_83 C) v0 i1 i2 i3 hm H locs ls hW0 hS hz (lv_sub hl [0, 1, 2, 3] rfl)
  · have hm := ite_f c16 hm
    refine lv_aload_n (pc := 35) hx hb dX9_readsBound_35 rfl (lv_at hl 0 rfl) ?_
    obtain ⟨r17, hq18, hm⟩ := ob_some hm
    refine rk_PV (pc := 36) (As := []) (rest := []) hx hb hml hown hts hK lkX9_147 rfl yn_X9_isDigit (ct_X9_isDigit (G := G) (l := l) (b0 := b0) hq18) ⟨Nat.le_of_ble_eq_true rfl, Nat.le_of_ble_eq_true rfl⟩ (rk_recv hK hW0 0 (by decide) rfl rfl rfl) hW0 rfl rfl hl.1 (Nat.le_of_ble_eq_true rfl) dX9_readsBound_36 ⟨Nat.zero_le _, Nat.zero_le _⟩ ?_
    refine W.eq (g2 := F0 m 39 ls [.int r17]) rfl ?_
    refine lv_if_eq (pc := 39) (tgt := 83) hx hb dX9_readsBound_39 (by decide) (fun c19 => ?_) (fun c19 => ?_)
    · have hm := ite_t c19 hm
      exact (w_fX9_readsBound_83 C) v0 i1 i2 i3 hm H locs ls hW0 hS hz (lv_sub hl [0, 1, 2, 3] rfl)
    · have hm := ite_f c19 hm
      refine lv_bipush (pc := 42) (v := (10 : Int32)) hx hb dX9_readsBound_42 (by decide) ?_
      refine lv_iload_n (pc := 44) hx hb dX9_readsBound_44 rfl (lv_at hl 3 rfl) ?_
      refine lv_imul (pc := 45) hx hb dX9_readsBound_45 ?_
      refine lv_aload_n (pc := 46) hx hb dX9_readsBound_46 rfl (lv_at hl 0 rfl) ?_
      obtain ⟨r20, hq21, hm⟩ := ob_some hm
      refine rk_PV (pc := 47) (As := []) (rest := [.int ((10 : Int32) * i3)]) hx hb hml hown hts hK lkX9_140 rfl yn_X9_here (ct_X9_here (G := G) (l := l) (b0 := b0) hq21) ⟨Nat.le_of_ble_eq_true rfl, Nat.le_of_ble_eq_true rfl⟩ (rk_recv hK hW0 0 (by decide) rfl rfl rfl) hW0 rfl rfl hl.1 (Nat.le_of_ble_eq_true rfl) dX9_readsBound_47 ⟨Nat.zero_le _, Nat.zero_le _⟩ ?_
      refine W.eq (g2 := F0 m 50 ls [.int r20, .int ((10 : Int32) * i3)]) rfl ?_
      refine lv_iadd (pc := 50) hx hb dX9_readsBound_50 ?_
      refine lv_bipush (pc := 51) (v := (48 : Int32)) hx hb dX9_readsBound_51 (by decide) ?_
      refine lv_isub (pc := 53) hx hb dX9_readsBound_53 ?_
      refine lv_istore_n (pc := 54) (lv' := [(3, .int ((((10 : Int32) * i3) + r20) - (48 : Int32))), (0, .ref b0), (1, .int i1), (2, .int i2), (4, .int i4)]) hx hb dX9_readsBound_54 rfl hl (by decide) rfl (fun ls hl => ?_)
      refine lv_iload_n (pc := 55) hx hb dX9_readsBound_55 rfl (lv_at hl 3 rfl) ?_
      refine lv_if_ge (pc := 56) (tgt := 67) hx hb dX9_readsBound_56 (by decide) (fun c22 => ?_) (fun c22 => ?_)
      · have hm := ite_t c22 hm
        exact (w_fX9_readsBound_67 C hk29) v0 i1 i2 ((((10 : Int32) * i3) + r20) - (48 : Int32)) i4 hm H locs ls hW0 hS hz (lv_sub hl [1, 2, 3, 0, 4] rfl)
      · have hm := ite_f c22 hm
        refine lv_iload_n (pc := 59) hx hb dX9_readsBound_59 rfl (lv_at hl 0 rfl) ?_
        refine lv_bipush (pc := 60) (v := (99 : Int32)) hx hb dX9_readsBound_60 (by decide) ?_
        refine lv_icmp_le (pc := 62) (tgt := 67) hx hb dX9_readsBound_62 (by decide) (fun c23 => ?_) (fun c23 => ?_)
        · have hm := ite_t c23 hm
          exact (w_fX9_readsBound_67 C hk29) v0 i1 i2 ((((10 : Int32) * i3) + r20) - (48 : Int32)) i4 hm H locs ls hW0 hS hz (lv_sub hl [1, 2, 3, 0, 4] rfl)
        · have hm := ite_f c23 hm
          refine lv_iconst (pc := 65) (v := (0 : Int32)) hx hb dX9_readsBound_65 (by decide) ?_
          obtain ⟨e8, e9⟩ := rs2 hm
          subst e8
          subst e9
          exact rk_zret (pc := 66) hx hb hr hlk rfl hS ⟨rfl, hW0, hz⟩ dX9_readsBound_66
theorem w_fX9_readsBound_29_l (C : Cx G p s m args meth c RX9 cX9_readsBound 5 (some .boolean)) {b0 : Nat} {rx : Int32} {rw0 : Mem} : ∀ (n : Nat) (v0 : Mem) (i1 : Int32) (i2 : Int32) (i3 : Int32) (i4 : Int32), lq5 (fX9_readsBound_29) n v0 i1 i2 i3 i4 = some (rx, rw0) → ∀ (H : Heap) (locs : List Loc) (ls : Array Slot), rg G b0 46 (shX9 G.2.1) v0 H → va_S (FA (iv b0 46) s.heap.size) s.heap H locs → H.size = s.heap.size → lv_has ls 5 [(0, .ref b0), (1, .int i1), (2, .int i2), (3, .int i3), (4, .int i4)] → W p l e (rmT 2 0 0 45) s m args below meth c H locs 0 0 (MQ below (QcT (FA (iv b0 46) s.heap.size) (fun ov H => ov = (some (.int rx)) ∧ rg G b0 46 (shX9 G.2.1) rw0 H ∧ H.size = s.heap.size)) args s 0 0 (FA (iv b0 46) s.heap.size)) (F0 m 29 ls []) := by
  intro n
  induction n with
  | zero => intro v0 i1 i2 i3 i4 hm; exact (lq5_0 hm).elim
  | succ n ih => intro v0 i1 i2 i3 i4 hm; exact w_fX9_readsBound_29 C ih v0 i1 i2 i3 i4 (lq5_s hm)
set_option maxHeartbeats 4000000 in
theorem w_fX9_readsBound_14 (C : Cx G p s m args meth c RX9 cX9_readsBound 5 (some .boolean)) {b0 : Nat} {rx : Int32} {rw0 : Mem} : ∀ (v0 : Mem) (i1 : Int32) (t0 : Int32), fX9_readsBound_14 v0 i1 t0 = some (rx, rw0) → ∀ (H : Heap) (locs : List Loc) (ls : Array Slot), rg G b0 46 (shX9 G.2.1) v0 H → va_S (FA (iv b0 46) s.heap.size) s.heap H locs → H.size = s.heap.size → lv_has ls 5 [(0, .ref b0), (1, .int i1)] → W p l e (rmT 2 0 0 45) s m args below meth c H locs 0 0 (MQ below (QcT (FA (iv b0 46) s.heap.size) (fun ov H => ov = (some (.int rx)) ∧ rg G b0 46 (shX9 G.2.1) rw0 H ∧ H.size = s.heap.size)) args s 0 0 (FA (iv b0 46) s.heap.size)) (F0 m 14 ls [.int t0]) := by
  intro v0 i1 t0 hm H locs ls hW0 hS hz hl
  obtain ⟨hx, hb, hr, hlk, hml, hown, hts, hK⟩ := id C
  unfold fX9_readsBound_14 at hm
  refine lv_istore_n (pc := 14) (lv' := [(2, .int t0), (0, .ref b0), (1, .int i1)]) hx hb dX9_readsBound_14 rfl hl (by decide) rfl (fun ls hl => ?_)
  refine lv_aload_n (pc := 15) hx hb dX9_readsBound_15 rfl (lv_at hl 1 rfl) ?_
  obtain ⟨r13, hq14, hm⟩ := ob_some hm
  refine rk_PV (pc := 16) (As := []) (rest := []) hx hb hml hown hts hK lkX9_147 rfl yn_X9_isDigit (ct_X9_isDigit (G := G) (l := l) (b0 := b0) hq14) ⟨Nat.le_of_ble_eq_true rfl, Nat.le_of_ble_eq_true rfl⟩ (rk_recv hK hW0 0 (by decide) rfl rfl rfl) hW0 rfl rfl hl.1 (Nat.le_of_ble_eq_true rfl) dX9_readsBound_16 ⟨Nat.zero_le _, Nat.zero_le _⟩ ?_
  refine W.eq (g2 := F0 m 19 ls [.int r13]) rfl ?_
  refine lv_if_ne (pc := 19) (tgt := 24) hx hb dX9_readsBound_19 (by decide) (fun c15 => ?_) (fun c15 => ?_)
  · have hm := ite_f c15 hm
    refine lv_iconst (pc := 24) (v := (0 : Int32)) hx hb dX9_readsBound_24 (by decide) ?_
    refine lv_istore_n (pc := 25) (lv' := [(3, .int (0 : Int32)), (2, .int t0), (0, .ref b0), (1, .int i1)]) hx hb dX9_readsBound_25 rfl hl (by decide) rfl (fun ls hl => ?_)
    refine lv_iconst (pc := 26) (v := (0 : Int32)) hx hb dX9_readsBound_26 (by decide) ?_
    refine lv_istore (pc := 27) (lv' := [(4, .int (0 : Int32)), (3, .int (0 : Int32)), (2, .int t0), (0, .ref b0), (1, .int i1)]) hx hb dX9_readsBound_27 hl (by decide) rfl (fun ls hl => ?_)
    exact (w_fX9_readsBound_29_l C FU) v0 i1 t0 (0 : Int32) (0 : Int32) hm H locs ls hW0 hS hz (lv_sub hl [3, 4, 2, 1, 0] rfl)
  · have hm := ite_t c15 hm
    refine lv_iconst (pc := 22) (v := (0 : Int32)) hx hb dX9_readsBound_22 (by decide) ?_
    obtain ⟨e8, e9⟩ := rs2 hm
    subst e8
    subst e9
    exact rk_zret (pc := 23) hx hb hr hlk rfl hS ⟨rfl, hW0, hz⟩ dX9_readsBound_23
set_option maxHeartbeats 4000000 in
theorem w_fX9_readsBound (C : Cx G p s m args meth c RX9 cX9_readsBound 5 (some .boolean)) {b0 : Nat} {rx : Int32} {rw0 : Mem} : ∀ (v0 : Mem) (i1 : Int32), fX9_readsBound v0 i1 = some (rx, rw0) → ∀ (H : Heap) (locs : List Loc) (ls : Array Slot), rg G b0 46 (shX9 G.2.1) v0 H → va_S (FA (iv b0 46) s.heap.size) s.heap H locs → H.size = s.heap.size → lv_has ls 5 [(0, .ref b0), (1, .int i1)] → W p l e (rmT 2 0 0 45) s m args below meth c H locs 0 0 (MQ below (QcT (FA (iv b0 46) s.heap.size) (fun ov H => ov = (some (.int rx)) ∧ rg G b0 46 (shX9 G.2.1) rw0 H ∧ H.size = s.heap.size)) args s 0 0 (FA (iv b0 46) s.heap.size)) (F0 m 0 ls []) := by
  intro v0 i1 hm H locs ls hW0 hS hz hl
  obtain ⟨hx, hb, hr, hlk, hml, hown, hts, hK⟩ := id C
  unfold fX9_readsBound at hm
  refine lv_aload_n (pc := 0) hx hb dX9_readsBound_0 rfl (lv_at hl 0 rfl) ?_
  refine lv_bipush (pc := 1) (v := (45 : Int32)) hx hb dX9_readsBound_1 (by decide) ?_
  obtain ⟨r1, w2, hq3, hm⟩ := ob2_some hm
  refine rk_TV (pc := 3) (As := [.int (45 : Int32)]) (rest := []) (mc := 0) (ms := 0) hx hb hml hown hts hK hS (fun q hq => FA_sz rfl q hq) lkX9_153 rfl yn_X9_takes (ct_X9_takes (G := G) (l := l) (b0 := b0) (sz := H.size) hq3) ⟨Nat.le_of_ble_eq_true rfl, Nat.le_of_ble_eq_true rfl⟩ (fun z h => Or.inl (show iv _ _ _ from ⟨by have h8 := h.1; have h9 := h.2; omega, by have h8 := h.1; have h9 := h.2; omega⟩)) (rk_recv hK hW0 0 (by decide) rfl rfl rfl) hW0 rfl rfl hl.1 (Nat.le_of_ble_eq_true rfl) dX9_readsBound_3 ⟨Nat.zero_le _, Nat.zero_le _⟩ (fun ov9 H4 locs5 hP6 hkp7 hS8 => ?_)
  obtain ⟨rfl, hW9, hz10⟩ := hP6
  have hz11 := hz10.trans hz
  refine W.eq (g2 := F0 m 6 ls [.int r1]) rfl ?_
  refine lv_if_eq (pc := 6) (tgt := 13) hx hb dX9_readsBound_6 (by decide) (fun c12 => ?_) (fun c12 => ?_)
  · have hm := ite_t c12 hm
    refine lv_iconst (pc := 13) (v := (1 : Int32)) hx hb dX9_readsBound_13 (by decide) ?_
    exact (w_fX9_readsBound_14 C) w2 i1 (1 : Int32) hm H4 locs5 ls hW9 hS8 hz11 (lv_sub hl [0, 1] rfl)
  · have hm := ite_f c12 hm
    refine lv_iconst (pc := 9) (v := (-1 : Int32)) hx hb dX9_readsBound_9 (by decide) ?_
    refine lv_goto (pc := 10) (tgt := 14) hx hb dX9_readsBound_10 (by decide) ?_
    exact (w_fX9_readsBound_14 C) w2 i1 (-1 : Int32) hm H4 locs5 ls hW9 hS8 hz11 (lv_sub hl [0, 1] rfl)
set_option maxHeartbeats 4000000 in
theorem ct_X9_readsBound {G : Gv} {l : Launch} {b0 : Nat} {v0 : Mem} {i1 : Int32} {rx : Int32} {rw0 : Mem} {sz : Nat} (hm : fX9_readsBound v0 i1 = some (rx, rw0)) : CT G l yX9_readsBound (ws_ yX9_readsBound cX9_readsBound 5 (some .boolean)) 2 0 0 45 [.ref b0, .int i1] (iv b0 46) sz (fun H => rg G b0 46 (shX9 G.2.1) v0 H) (fun ov H => ov = (some (.int rx)) ∧ rg G b0 46 (shX9 G.2.1) rw0 H ∧ H.size = sz) := by
  refine Met.ofW (cc := cX9_readsBound) (maxL := 5) (ret := (some .boolean)) (by decide +kernel) rfl ?_
  intro p e s m args below meth c s₁ B hml hv
  obtain ⟨rfl, ⟨hz, hW0⟩, hK⟩ := hv
  subst hz
  have hts := atoms_spec (ws := ws_ yX9_readsBound cX9_readsBound 5 (some .boolean)) B.pre
  have hts : ∀ w ∈ lw_all, w.before _ s = true := fun w h => hts w (List.mem_cons_of_mem _ h)
  have C : Cx G p s m _ meth c RX9 cX9_readsBound 5 (some .boolean) := ⟨B.exec, B.bytes, B.returns, B.notSynchronized, hml, findClass_of_methodNamed B.named, hts, hK⟩
  have hl := lv_entry ([.ref b0, .int i1]) (n := 5) (Nat.le_of_ble_eq_true rfl)
  rw [lg_entry_eq]
  generalize (lg_sl ([.ref b0, .int i1]) ++ List.replicate (5 - (lg_sl ([.ref b0, .int i1])).length) Slot.unset).toArray = ls at hl ⊢
  have hl : lv_has ls 5 [(0, .ref b0), (1, .int i1)] := hl
  exact w_fX9_readsBound C _ _ hm s.heap [] ls hW0 va_S.rf rfl hl
theorem yn_X9_readsSum : YN yX9_readsSum 1 := by
  unfold YN
  decide +kernel
theorem lkX9_160 : LV RX9 160 RX9 yX9_readsSum cX9_readsSum 3 (some .boolean) := ⟨q1993, q1995, qs63, q128, q1996⟩
theorem yn_X9_readsBound : YN yX9_readsBound 1 := by
  unfold YN
  decide +kernel
theorem lkX9_163 : LV RX9 163 RX9 yX9_readsBound cX9_readsBound 5 (some .boolean) := ⟨q2016, q2018, qs68, q128, q2019⟩
noncomputable def fX9_readsClause_72 (v0 : Mem) (i1 : Int32) (t1 : Int32) (t2 : Int32) : Option (Int32 × Mem) :=
  gb (inR t1 28) (
  lm (sI v0 5 t1.toNatClampNeg t2) fun v0_33 =>
  lm (sI v0_33 0 7 ((gI v0_33 0 7) + (1 : Int32))) fun v0_41 =>
  ob2 (fX9_readsBound v0_41 i1) fun r49 w50 =>
  gb (z01 r49) (some (r49, w50)))
noncomputable def fX9_readsClause_53 (v0 : Mem) (i1 : Int32) : Option (Int32 × Mem) :=
  ob (fX9_here v0) fun r29 =>
  if r29 = (62 : Int32) then (
  fX9_readsClause_72 v0 i1 i1 (0 : Int32))
  else (
  fX9_readsClause_72 v0 i1 i1 (1 : Int32))
noncomputable def fX9_readsClause_2 (k2 : Mem → Int32 → Int32 → Option (Int32 × Mem)) (v0 : Mem) (i1 : Int32) (i2 : Int32) : Option (Int32 × Mem) :=
  if (7 : Int32) ≤ i2 then (
  ob2 (fX9_readsSum v0 i1) fun r2 w3 =>
  if r2 = 0 then (
  some ((0 : Int32), w3))
  else (
  ob (fX9_here w3) fun r14 =>
  if r14 = (62 : Int32) then (
  fX9_readsClause_53 w3 i1)
  else (
  ob (fX9_here w3) fun r17 =>
  if r17 = (60 : Int32) then (
  fX9_readsClause_53 w3 i1)
  else (
  some ((0 : Int32), w3)))))
  else (
  gb (inR (i1 + i2) 28) (
  lm (sI v0 5 (i1 + i2).toNatClampNeg (0 : Int32)) fun v0_21 =>
  k2 v0_21 i1 (i2 + (1 : Int32))))
noncomputable def fX9_readsClause (v0 : Mem) (i1 : Int32) : Option (Int32 × Mem) :=
  lq3 (fX9_readsClause_2) FU v0 i1 (0 : Int32)
set_option maxHeartbeats 4000000 in
theorem w_fX9_readsClause_72 (C : Cx G p s m args meth c RX9 cX9_readsClause 3 (some .boolean)) {b0 : Nat} {rx : Int32} {rw0 : Mem} : ∀ (v0 : Mem) (i1 : Int32) (t1 : Int32) (t2 : Int32), fX9_readsClause_72 v0 i1 t1 t2 = some (rx, rw0) → ∀ (H : Heap) (locs : List Loc) (ls : Array Slot), rg G b0 46 (shX9 G.2.1) v0 H → va_S (FA (iv b0 46) s.heap.size) s.heap H locs → H.size = s.heap.size → lv_has ls 3 [(0, .ref b0), (1, .int i1)] → W p l e (rmT 4 0 0 91) s m args below meth c H locs 0 0 (MQ below (QcT (FA (iv b0 46) s.heap.size) (fun ov H => ov = (some (.int rx)) ∧ rg G b0 46 (shX9 G.2.1) rw0 H ∧ H.size = s.heap.size)) args s 0 0 (FA (iv b0 46) s.heap.size)) (F0 m 72 ls [.int t2, .int t1, .ref (b0 + 5)]) := by
  intro v0 i1 t1 t2 hm H locs ls hW0 hS hz hl
  obtain ⟨hx, hb, hr, hlk, hml, hown, hts, hK⟩ := id C
  unfold fX9_readsClause_72 at hm
  obtain ⟨hg32, hm⟩ := gb_some hm
  refine rk_iast (pc := 72) hx hb hK hW0 hS 5 (by decide) rfl (Or.inl (show iv _ _ _ from ⟨by omega, by omega⟩)) (fun _ _ _ => rfl) hg32 dX9_readsClause_72 (fun H34 locs35 hW36 hS37 hz38 hkp39 => ?_)
  obtain ⟨v0_33, he9, hm⟩ := lm_some hm
  rw [he9] at hW36
  have hz40 := hz38.trans hz
  refine lv_aload_n (pc := 73) hx hb dX9_readsClause_73 rfl (lv_at hl 0 rfl) ?_
  refine lv_dup (pc := 74) hx hb dX9_readsClause_74 rfl ?_
  refine rk_get (pc := 75) hx hb hts hown hK hW36 flX9_137 0 (by decide) rfl rfl (x := .int (gI v0_33 0 7)) rfl dX9_readsClause_75 ?_
  refine lv_iconst (pc := 78) (v := (1 : Int32)) hx hb dX9_readsClause_78 (by decide) ?_
  refine lv_iadd (pc := 79) hx hb dX9_readsClause_79 ?_
  refine rk_put (pc := 80) hx hb hts hown hK hW36 hS37 flX9_137 ft_X9 0 (by decide) rfl (Or.inl (show iv _ _ _ from ⟨by omega, by omega⟩)) rfl rfl (x := .int ((gI v0_33 0 7) + (1 : Int32))) rfl rfl (Nat.le_of_ble_eq_true rfl) (sI v0_33 0 7 ((gI v0_33 0 7) + (1 : Int32))) sI_ne (by rw [sI_eq]; exact rfl) dX9_readsClause_80 (fun H42 locs43 hW44 hS45 hz46 hkp47 => ?_)
  obtain ⟨v0_41, he9, hm⟩ := lm_some hm
  rw [he9] at hW44
  have hz48 := hz46.trans hz40
  refine lv_aload_n (pc := 83) hx hb dX9_readsClause_83 rfl (lv_at hl 0 rfl) ?_
  refine lv_iload_n (pc := 84) hx hb dX9_readsClause_84 rfl (lv_at hl 1 rfl) ?_
  obtain ⟨r49, w50, hq51, hm⟩ := ob2_some hm
  refine rk_TV (pc := 85) (As := [.int i1]) (rest := []) (mc := 0) (ms := 0) hx hb hml hown hts hK hS45 (fun q hq => FA_sz rfl q hq) lkX9_163 rfl yn_X9_readsBound (ct_X9_readsBound (G := G) (l := l) (b0 := b0) (sz := H42.size) hq51) ⟨Nat.le_of_ble_eq_true rfl, Nat.le_of_ble_eq_true rfl⟩ (fun z h => Or.inl (show iv _ _ _ from ⟨by have h8 := h.1; have h9 := h.2; omega, by have h8 := h.1; have h9 := h.2; omega⟩)) (rk_recv hK hW44 0 (by decide) rfl rfl rfl) hW44 rfl rfl hl.1 (Nat.le_of_ble_eq_true rfl) dX9_readsClause_85 ⟨Nat.zero_le _, Nat.zero_le _⟩ (fun ov9 H52 locs53 hP54 hkp55 hS56 => ?_)
  obtain ⟨rfl, hW57, hz58⟩ := hP54
  have hz59 := hz58.trans hz48
  refine W.eq (g2 := F0 m 88 ls [.int r49]) rfl ?_
  obtain ⟨hg60, hm⟩ := gb_some hm
  obtain ⟨e8, e9⟩ := rs2 hm
  subst e8
  subst e9
  exact rk_zret (pc := 88) hx hb hr hlk hg60 hS56 ⟨rfl, hW57, hz59⟩ dX9_readsClause_88
set_option maxHeartbeats 4000000 in
theorem w_fX9_readsClause_53 (C : Cx G p s m args meth c RX9 cX9_readsClause 3 (some .boolean)) {b0 : Nat} {rx : Int32} {rw0 : Mem} : ∀ (v0 : Mem) (i1 : Int32), fX9_readsClause_53 v0 i1 = some (rx, rw0) → ∀ (H : Heap) (locs : List Loc) (ls : Array Slot), rg G b0 46 (shX9 G.2.1) v0 H → va_S (FA (iv b0 46) s.heap.size) s.heap H locs → H.size = s.heap.size → lv_has ls 3 [(0, .ref b0), (1, .int i1)] → W p l e (rmT 4 0 0 91) s m args below meth c H locs 0 0 (MQ below (QcT (FA (iv b0 46) s.heap.size) (fun ov H => ov = (some (.int rx)) ∧ rg G b0 46 (shX9 G.2.1) rw0 H ∧ H.size = s.heap.size)) args s 0 0 (FA (iv b0 46) s.heap.size)) (F0 m 53 ls []) := by
  intro v0 i1 hm H locs ls hW0 hS hz hl
  obtain ⟨hx, hb, hr, hlk, hml, hown, hts, hK⟩ := id C
  unfold fX9_readsClause_53 at hm
  refine lv_aload_n (pc := 53) hx hb dX9_readsClause_53 rfl (lv_at hl 0 rfl) ?_
  refine rk_get (pc := 54) hx hb hts hown hK hW0 flX9_24 0 (by decide) rfl rfl (x := .ref (b0 + 5)) (by first | rfl | exact congrArg (fun z => some (Value.ref z)) (by omega)) dX9_readsClause_54 ?_
  refine lv_iload_n (pc := 57) hx hb dX9_readsClause_57 rfl (lv_at hl 1 rfl) ?_
  refine lv_aload_n (pc := 58) hx hb dX9_readsClause_58 rfl (lv_at hl 0 rfl) ?_
  obtain ⟨r29, hq30, hm⟩ := ob_some hm
  refine rk_PV (pc := 59) (As := []) (rest := [.int i1, .ref (b0 + 5)]) hx hb hml hown hts hK lkX9_140 rfl yn_X9_here (ct_X9_here (G := G) (l := l) (b0 := b0) hq30) ⟨Nat.le_of_ble_eq_true rfl, Nat.le_of_ble_eq_true rfl⟩ (rk_recv hK hW0 0 (by decide) rfl rfl rfl) hW0 rfl rfl hl.1 (Nat.le_of_ble_eq_true rfl) dX9_readsClause_59 ⟨Nat.zero_le _, Nat.zero_le _⟩ ?_
  refine W.eq (g2 := F0 m 62 ls [.int r29, .int i1, .ref (b0 + 5)]) rfl ?_
  refine lv_bipush (pc := 62) (v := (62 : Int32)) hx hb dX9_readsClause_62 (by decide) ?_
  refine lv_icmp_ne (pc := 64) (tgt := 71) hx hb dX9_readsClause_64 (by decide) (fun c31 => ?_) (fun c31 => ?_)
  · have hm := ite_f c31 hm
    refine lv_iconst (pc := 71) (v := (1 : Int32)) hx hb dX9_readsClause_71 (by decide) ?_
    exact (w_fX9_readsClause_72 C) v0 i1 i1 (1 : Int32) hm H locs ls hW0 hS hz (lv_sub hl [0, 1] rfl)
  · have hm := ite_t c31 hm
    refine lv_iconst (pc := 67) (v := (0 : Int32)) hx hb dX9_readsClause_67 (by decide) ?_
    refine lv_goto (pc := 68) (tgt := 72) hx hb dX9_readsClause_68 (by decide) ?_
    exact (w_fX9_readsClause_72 C) v0 i1 i1 (0 : Int32) hm H locs ls hW0 hS hz (lv_sub hl [0, 1] rfl)
set_option maxHeartbeats 4000000 in
theorem w_fX9_readsClause_2 (C : Cx G p s m args meth c RX9 cX9_readsClause 3 (some .boolean)) {b0 : Nat} {rx : Int32} {rw0 : Mem} {k2 : Mem → Int32 → Int32 → Option (Int32 × Mem)} (hk2 : ∀ (v0 : Mem) (i1 : Int32) (i2 : Int32), k2 v0 i1 i2 = some (rx, rw0) → ∀ (H : Heap) (locs : List Loc) (ls : Array Slot), rg G b0 46 (shX9 G.2.1) v0 H → va_S (FA (iv b0 46) s.heap.size) s.heap H locs → H.size = s.heap.size → lv_has ls 3 [(0, .ref b0), (1, .int i1), (2, .int i2)] → W p l e (rmT 4 0 0 91) s m args below meth c H locs 0 0 (MQ below (QcT (FA (iv b0 46) s.heap.size) (fun ov H => ov = (some (.int rx)) ∧ rg G b0 46 (shX9 G.2.1) rw0 H ∧ H.size = s.heap.size)) args s 0 0 (FA (iv b0 46) s.heap.size)) (F0 m 2 ls [])) : ∀ (v0 : Mem) (i1 : Int32) (i2 : Int32), fX9_readsClause_2 k2 v0 i1 i2 = some (rx, rw0) → ∀ (H : Heap) (locs : List Loc) (ls : Array Slot), rg G b0 46 (shX9 G.2.1) v0 H → va_S (FA (iv b0 46) s.heap.size) s.heap H locs → H.size = s.heap.size → lv_has ls 3 [(0, .ref b0), (1, .int i1), (2, .int i2)] → W p l e (rmT 4 0 0 91) s m args below meth c H locs 0 0 (MQ below (QcT (FA (iv b0 46) s.heap.size) (fun ov H => ov = (some (.int rx)) ∧ rg G b0 46 (shX9 G.2.1) rw0 H ∧ H.size = s.heap.size)) args s 0 0 (FA (iv b0 46) s.heap.size)) (F0 m 2 ls []) := by
  intro v0 i1 i2 hm H locs ls hW0 hS hz hl
  obtain ⟨hx, hb, hr, hlk, hml, hown, hts, hK⟩ := id C
  unfold fX9_readsClause_2 at hm
  refine lv_iload_n (pc := 2) hx hb dX9_readsClause_2 rfl (lv_at hl 2 rfl) ?_
  refine lv_bipush (pc := 3) (v := (7 : Int32)) hx hb dX9_readsClause_3 (by decide) ?_
  refine lv_icmp_ge (pc := 5) (tgt := 23) hx hb dX9_readsClause_5 (by decide) (fun c1 => ?_) (fun c1 => ?_)
  · have hm := ite_t c1 hm
    refine lv_aload_n (pc := 23) hx hb dX9_readsClause_23 rfl (lv_at hl 0 rfl) ?_
    refine lv_iload_n (pc := 24) hx hb dX9_readsClause_24 rfl (lv_at hl 1 rfl) ?_
    obtain ⟨r2, w3, hq4, hm⟩ := ob2_some hm
    refine rk_TV (pc := 25) (As := [.int i1]) (rest := []) (mc := 0) (ms := 0) hx hb hml hown hts hK hS (fun q hq => FA_sz rfl q hq) lkX9_160 rfl yn_X9_readsSum (ct_X9_readsSum (G := G) (l := l) (b0 := b0) (sz := H.size) hq4) ⟨Nat.le_of_ble_eq_true rfl, Nat.le_of_ble_eq_true rfl⟩ (fun z h => Or.inl (show iv _ _ _ from ⟨by have h8 := h.1; have h9 := h.2; omega, by have h8 := h.1; have h9 := h.2; omega⟩)) (rk_recv hK hW0 0 (by decide) rfl rfl rfl) hW0 rfl rfl hl.1 (Nat.le_of_ble_eq_true rfl) dX9_readsClause_25 ⟨Nat.zero_le _, Nat.zero_le _⟩ (fun ov9 H5 locs6 hP7 hkp8 hS9 => ?_)
    obtain ⟨rfl, hW10, hz11⟩ := hP7
    have hz12 := hz11.trans hz
    refine W.eq (g2 := F0 m 28 ls [.int r2]) rfl ?_
    refine lv_if_ne (pc := 28) (tgt := 33) hx hb dX9_readsClause_28 (by decide) (fun c13 => ?_) (fun c13 => ?_)
    · have hm := ite_f c13 hm
      refine lv_aload_n (pc := 33) hx hb dX9_readsClause_33 rfl (lv_at hl 0 rfl) ?_
      obtain ⟨r14, hq15, hm⟩ := ob_some hm
      refine rk_PV (pc := 34) (As := []) (rest := []) hx hb hml hown hts hK lkX9_140 rfl yn_X9_here (ct_X9_here (G := G) (l := l) (b0 := b0) hq15) ⟨Nat.le_of_ble_eq_true rfl, Nat.le_of_ble_eq_true rfl⟩ (rk_recv hK hW10 0 (by decide) rfl rfl rfl) hW10 rfl rfl hl.1 (Nat.le_of_ble_eq_true rfl) dX9_readsClause_34 ⟨Nat.zero_le _, Nat.zero_le _⟩ ?_
      refine W.eq (g2 := F0 m 37 ls [.int r14]) rfl ?_
      refine lv_bipush (pc := 37) (v := (62 : Int32)) hx hb dX9_readsClause_37 (by decide) ?_
      refine lv_icmp_eq (pc := 39) (tgt := 53) hx hb dX9_readsClause_39 (by decide) (fun c16 => ?_) (fun c16 => ?_)
      · have hm := ite_t c16 hm
        exact (w_fX9_readsClause_53 C) w3 i1 hm H5 locs6 ls hW10 hS9 hz12 (lv_sub hl [0, 1] rfl)
      · have hm := ite_f c16 hm
        refine lv_aload_n (pc := 42) hx hb dX9_readsClause_42 rfl (lv_at hl 0 rfl) ?_
        obtain ⟨r17, hq18, hm⟩ := ob_some hm
        refine rk_PV (pc := 43) (As := []) (rest := []) hx hb hml hown hts hK lkX9_140 rfl yn_X9_here (ct_X9_here (G := G) (l := l) (b0 := b0) hq18) ⟨Nat.le_of_ble_eq_true rfl, Nat.le_of_ble_eq_true rfl⟩ (rk_recv hK hW10 0 (by decide) rfl rfl rfl) hW10 rfl rfl hl.1 (Nat.le_of_ble_eq_true rfl) dX9_readsClause_43 ⟨Nat.zero_le _, Nat.zero_le _⟩ ?_
        refine W.eq (g2 := F0 m 46 ls [.int r17]) rfl ?_
        refine lv_bipush (pc := 46) (v := (60 : Int32)) hx hb dX9_readsClause_46 (by decide) ?_
        refine lv_icmp_eq (pc := 48) (tgt := 53) hx hb dX9_readsClause_48 (by decide) (fun c19 => ?_) (fun c19 => ?_)
        · have hm := ite_t c19 hm
          exact (w_fX9_readsClause_53 C) w3 i1 hm H5 locs6 ls hW10 hS9 hz12 (lv_sub hl [0, 1] rfl)
        · have hm := ite_f c19 hm
          refine lv_iconst (pc := 51) (v := (0 : Int32)) hx hb dX9_readsClause_51 (by decide) ?_
          obtain ⟨e8, e9⟩ := rs2 hm
          subst e8
          subst e9
          exact rk_zret (pc := 52) hx hb hr hlk rfl hS9 ⟨rfl, hW10, hz12⟩ dX9_readsClause_52
    · have hm := ite_t c13 hm
      refine lv_iconst (pc := 31) (v := (0 : Int32)) hx hb dX9_readsClause_31 (by decide) ?_
      obtain ⟨e8, e9⟩ := rs2 hm
      subst e8
      subst e9
      exact rk_zret (pc := 32) hx hb hr hlk rfl hS9 ⟨rfl, hW10, hz12⟩ dX9_readsClause_32
  · have hm := ite_f c1 hm
    refine lv_aload_n (pc := 8) hx hb dX9_readsClause_8 rfl (lv_at hl 0 rfl) ?_
    refine rk_get (pc := 9) hx hb hts hown hK hW0 flX9_24 0 (by decide) rfl rfl (x := .ref (b0 + 5)) (by first | rfl | exact congrArg (fun z => some (Value.ref z)) (by omega)) dX9_readsClause_9 ?_
    refine lv_iload_n (pc := 12) hx hb dX9_readsClause_12 rfl (lv_at hl 1 rfl) ?_
    refine lv_iload_n (pc := 13) hx hb dX9_readsClause_13 rfl (lv_at hl 2 rfl) ?_
    refine lv_iadd (pc := 14) hx hb dX9_readsClause_14 ?_
    refine lv_iconst (pc := 15) (v := (0 : Int32)) hx hb dX9_readsClause_15 (by decide) ?_
    obtain ⟨hg20, hm⟩ := gb_some hm
    refine rk_iast (pc := 16) hx hb hK hW0 hS 5 (by decide) rfl (Or.inl (show iv _ _ _ from ⟨by omega, by omega⟩)) (fun _ _ _ => rfl) hg20 dX9_readsClause_16 (fun H22 locs23 hW24 hS25 hz26 hkp27 => ?_)
    obtain ⟨v0_21, he9, hm⟩ := lm_some hm
    rw [he9] at hW24
    have hz28 := hz26.trans hz
    refine lv_iinc (pc := 17) (v := (i2 + (1 : Int32))) (lv' := [(2, .int (i2 + (1 : Int32))), (0, .ref b0), (1, .int i1)]) hx hb dX9_readsClause_17 hl (k := 2) rfl rfl (by decide) rfl (fun ls hl => ?_)
    refine lv_goto (pc := 20) (tgt := 2) hx hb dX9_readsClause_20 (by decide) ?_
    exact hk2 v0_21 i1 (i2 + (1 : Int32)) hm H22 locs23 ls hW24 hS25 hz28 (lv_sub hl [1, 2, 0] rfl)
theorem w_fX9_readsClause_2_l (C : Cx G p s m args meth c RX9 cX9_readsClause 3 (some .boolean)) {b0 : Nat} {rx : Int32} {rw0 : Mem} : ∀ (n : Nat) (v0 : Mem) (i1 : Int32) (i2 : Int32), lq3 (fX9_readsClause_2) n v0 i1 i2 = some (rx, rw0) → ∀ (H : Heap) (locs : List Loc) (ls : Array Slot), rg G b0 46 (shX9 G.2.1) v0 H → va_S (FA (iv b0 46) s.heap.size) s.heap H locs → H.size = s.heap.size → lv_has ls 3 [(0, .ref b0), (1, .int i1), (2, .int i2)] → W p l e (rmT 4 0 0 91) s m args below meth c H locs 0 0 (MQ below (QcT (FA (iv b0 46) s.heap.size) (fun ov H => ov = (some (.int rx)) ∧ rg G b0 46 (shX9 G.2.1) rw0 H ∧ H.size = s.heap.size)) args s 0 0 (FA (iv b0 46) s.heap.size)) (F0 m 2 ls []) := by
  intro n
  induction n with
  | zero => intro v0 i1 i2 hm; exact (lq3_0 hm).elim
  | succ n ih => intro v0 i1 i2 hm; exact w_fX9_readsClause_2 C ih v0 i1 i2 (lq3_s hm)
set_option maxHeartbeats 4000000 in
theorem w_fX9_readsClause (C : Cx G p s m args meth c RX9 cX9_readsClause 3 (some .boolean)) {b0 : Nat} {rx : Int32} {rw0 : Mem} : ∀ (v0 : Mem) (i1 : Int32), fX9_readsClause v0 i1 = some (rx, rw0) → ∀ (H : Heap) (locs : List Loc) (ls : Array Slot), rg G b0 46 (shX9 G.2.1) v0 H → va_S (FA (iv b0 46) s.heap.size) s.heap H locs → H.size = s.heap.size → lv_has ls 3 [(0, .ref b0), (1, .int i1)] → W p l e (rmT 4 0 0 91) s m args below meth c H locs 0 0 (MQ below (QcT (FA (iv b0 46) s.heap.size) (fun ov H => ov = (some (.int rx)) ∧ rg G b0 46 (shX9 G.2.1) rw0 H ∧ H.size = s.heap.size)) args s 0 0 (FA (iv b0 46) s.heap.size)) (F0 m 0 ls []) := by
  intro v0 i1 hm H locs ls hW0 hS hz hl
  obtain ⟨hx, hb, hr, hlk, hml, hown, hts, hK⟩ := id C
  unfold fX9_readsClause at hm
  refine lv_iconst (pc := 0) (v := (0 : Int32)) hx hb dX9_readsClause_0 (by decide) ?_
  refine lv_istore_n (pc := 1) (lv' := [(2, .int (0 : Int32)), (0, .ref b0), (1, .int i1)]) hx hb dX9_readsClause_1 rfl hl (by decide) rfl (fun ls hl => ?_)
  exact (w_fX9_readsClause_2_l C FU) v0 i1 (0 : Int32) hm H locs ls hW0 hS hz (lv_sub hl [1, 2, 0] rfl)
set_option maxHeartbeats 4000000 in
theorem ct_X9_readsClause {G : Gv} {l : Launch} {b0 : Nat} {v0 : Mem} {i1 : Int32} {rx : Int32} {rw0 : Mem} {sz : Nat} (hm : fX9_readsClause v0 i1 = some (rx, rw0)) : CT G l yX9_readsClause (ws_ yX9_readsClause cX9_readsClause 3 (some .boolean)) 4 0 0 91 [.ref b0, .int i1] (iv b0 46) sz (fun H => rg G b0 46 (shX9 G.2.1) v0 H) (fun ov H => ov = (some (.int rx)) ∧ rg G b0 46 (shX9 G.2.1) rw0 H ∧ H.size = sz) := by
  refine Met.ofW (cc := cX9_readsClause) (maxL := 3) (ret := (some .boolean)) (by decide +kernel) rfl ?_
  intro p e s m args below meth c s₁ B hml hv
  obtain ⟨rfl, ⟨hz, hW0⟩, hK⟩ := hv
  subst hz
  have hts := atoms_spec (ws := ws_ yX9_readsClause cX9_readsClause 3 (some .boolean)) B.pre
  have hts : ∀ w ∈ lw_all, w.before _ s = true := fun w h => hts w (List.mem_cons_of_mem _ h)
  have C : Cx G p s m _ meth c RX9 cX9_readsClause 3 (some .boolean) := ⟨B.exec, B.bytes, B.returns, B.notSynchronized, hml, findClass_of_methodNamed B.named, hts, hK⟩
  have hl := lv_entry ([.ref b0, .int i1]) (n := 3) (Nat.le_of_ble_eq_true rfl)
  rw [lg_entry_eq]
  generalize (lg_sl ([.ref b0, .int i1]) ++ List.replicate (3 - (lg_sl ([.ref b0, .int i1])).length) Slot.unset).toArray = ls at hl ⊢
  have hl : lv_has ls 3 [(0, .ref b0), (1, .int i1)] := hl
  exact w_fX9_readsClause C _ _ hm s.heap [] ls hW0 va_S.rf rfl hl
theorem yn_X9_readsClause : YN yX9_readsClause 1 := by
  unfold YN
  decide +kernel
theorem lkX9_166 : LV RX9 166 RX9 yX9_readsClause cX9_readsClause 3 (some .boolean) := ⟨q1989, q1991, qs62, q128, q1992⟩
noncomputable def fX9_readsAll_57 (v0 : Mem) (i1 : Int32) : Option (Int32 × Mem) :=
  if (gI v0 0 7) = (gI v0 0 6) then (
  some (i1, v0))
  else (
  some ((-1 : Int32), v0))
noncomputable def fX9_readsAll_9 (k9 : Mem → Int32 → Int32 → Option (Int32 × Mem)) (v0 : Mem) (i1 : Int32) (i2 : Int32) : Option (Int32 × Mem) :=
  if i2 = 0 then (
  fX9_readsAll_57 v0 i1)
  else (
  if (4 : Int32) ≤ i1 then (
  fX9_readsAll_57 v0 i1)
  else (
  ob2 (fX9_readsClause v0 ((7 : Int32) * i1)) fun r11 w12 =>
  if r11 = 0 then (
  some ((-1 : Int32), w12))
  else (
  if (4 : Int32) ≤ (i1 + (1 : Int32)) then (
  k9 w12 (i1 + (1 : Int32)) (0 : Int32))
  else (
  ob2 (fX9_takes w12 (59 : Int32)) fun r24 w25 =>
  if r24 = 0 then (
  k9 w25 (i1 + (1 : Int32)) (0 : Int32))
  else (
  k9 w25 (i1 + (1 : Int32)) (1 : Int32))))))
noncomputable def fX9_readsAll (v0 : Mem) : Option (Int32 × Mem) :=
  lm (sI v0 0 7 (0 : Int32)) fun v0_1 =>
  lq3 (fX9_readsAll_9) FU v0_1 (0 : Int32) (1 : Int32)
set_option maxHeartbeats 4000000 in
theorem w_fX9_readsAll_57 (C : Cx G p s m args meth c RX9 cX9_readsAll 3 (some .int)) {b0 : Nat} {rx : Int32} {rw0 : Mem} : ∀ (v0 : Mem) (i1 : Int32), fX9_readsAll_57 v0 i1 = some (rx, rw0) → ∀ (H : Heap) (locs : List Loc) (ls : Array Slot), rg G b0 46 (shX9 G.2.1) v0 H → va_S (FA (iv b0 46) s.heap.size) s.heap H locs → H.size = s.heap.size → lv_has ls 3 [(0, .ref b0), (1, .int i1)] → W p l e (rmT 5 0 0 113) s m args below meth c H locs 0 0 (MQ below (QcT (FA (iv b0 46) s.heap.size) (fun ov H => ov = (some (.int rx)) ∧ rg G b0 46 (shX9 G.2.1) rw0 H ∧ H.size = s.heap.size)) args s 0 0 (FA (iv b0 46) s.heap.size)) (F0 m 57 ls []) := by
  intro v0 i1 hm H locs ls hW0 hS hz hl
  obtain ⟨hx, hb, hr, hlk, hml, hown, hts, hK⟩ := id C
  unfold fX9_readsAll_57 at hm
  refine lv_aload_n (pc := 57) hx hb dX9_readsAll_57 rfl (lv_at hl 0 rfl) ?_
  refine rk_get (pc := 58) hx hb hts hown hK hW0 flX9_137 0 (by decide) rfl rfl (x := .int (gI v0 0 7)) rfl dX9_readsAll_58 ?_
  refine lv_aload_n (pc := 61) hx hb dX9_readsAll_61 rfl (lv_at hl 0 rfl) ?_
  refine rk_get (pc := 62) hx hb hts hown hK hW0 flX9_133 0 (by decide) rfl rfl (x := .int (gI v0 0 6)) rfl dX9_readsAll_62 ?_
  refine lv_icmp_ne (pc := 65) (tgt := 72) hx hb dX9_readsAll_65 (by decide) (fun c36 => ?_) (fun c36 => ?_)
  · have hm := ite_f c36 hm
    refine lv_iconst (pc := 72) (v := (-1 : Int32)) hx hb dX9_readsAll_72 (by decide) ?_
    obtain ⟨e8, e9⟩ := rs2 hm
    subst e8
    subst e9
    exact rk_iret (pc := 73) hx hb hr hlk hS ⟨rfl, hW0, hz⟩ dX9_readsAll_73
  · have hm := ite_t c36 hm
    refine lv_iload_n (pc := 68) hx hb dX9_readsAll_68 rfl (lv_at hl 1 rfl) ?_
    refine lv_goto (pc := 69) (tgt := 73) hx hb dX9_readsAll_69 (by decide) ?_
    obtain ⟨e8, e9⟩ := rs2 hm
    subst e8
    subst e9
    exact rk_iret (pc := 73) hx hb hr hlk hS ⟨rfl, hW0, hz⟩ dX9_readsAll_73
set_option maxHeartbeats 4000000 in
theorem w_fX9_readsAll_9 (C : Cx G p s m args meth c RX9 cX9_readsAll 3 (some .int)) {b0 : Nat} {rx : Int32} {rw0 : Mem} {k9 : Mem → Int32 → Int32 → Option (Int32 × Mem)} (hk9 : ∀ (v0 : Mem) (i1 : Int32) (i2 : Int32), k9 v0 i1 i2 = some (rx, rw0) → ∀ (H : Heap) (locs : List Loc) (ls : Array Slot), rg G b0 46 (shX9 G.2.1) v0 H → va_S (FA (iv b0 46) s.heap.size) s.heap H locs → H.size = s.heap.size → lv_has ls 3 [(0, .ref b0), (1, .int i1), (2, .int i2)] → W p l e (rmT 5 0 0 113) s m args below meth c H locs 0 0 (MQ below (QcT (FA (iv b0 46) s.heap.size) (fun ov H => ov = (some (.int rx)) ∧ rg G b0 46 (shX9 G.2.1) rw0 H ∧ H.size = s.heap.size)) args s 0 0 (FA (iv b0 46) s.heap.size)) (F0 m 9 ls [])) : ∀ (v0 : Mem) (i1 : Int32) (i2 : Int32), fX9_readsAll_9 k9 v0 i1 i2 = some (rx, rw0) → ∀ (H : Heap) (locs : List Loc) (ls : Array Slot), rg G b0 46 (shX9 G.2.1) v0 H → va_S (FA (iv b0 46) s.heap.size) s.heap H locs → H.size = s.heap.size → lv_has ls 3 [(0, .ref b0), (1, .int i1), (2, .int i2)] → W p l e (rmT 5 0 0 113) s m args below meth c H locs 0 0 (MQ below (QcT (FA (iv b0 46) s.heap.size) (fun ov H => ov = (some (.int rx)) ∧ rg G b0 46 (shX9 G.2.1) rw0 H ∧ H.size = s.heap.size)) args s 0 0 (FA (iv b0 46) s.heap.size)) (F0 m 9 ls []) := by
  intro v0 i1 i2 hm H locs ls hW0 hS hz hl
  obtain ⟨hx, hb, hr, hlk, hml, hown, hts, hK⟩ := id C
  unfold fX9_readsAll_9 at hm
  refine lv_iload_n (pc := 9) hx hb dX9_readsAll_9 rfl (lv_at hl 2 rfl) ?_
  refine lv_if_eq (pc := 10) (tgt := 57) hx hb dX9_readsAll_10 (by decide) (fun c9 => ?_) (fun c9 => ?_)
  · have hm := ite_t c9 hm
    exact (w_fX9_readsAll_57 C) v0 i1 hm H locs ls hW0 hS hz (lv_sub hl [0, 1] rfl)
  · have hm := ite_f c9 hm
    refine lv_iload_n (pc := 13) hx hb dX9_readsAll_13 rfl (lv_at hl 1 rfl) ?_
    refine lv_iconst (pc := 14) (v := (4 : Int32)) hx hb dX9_readsAll_14 (by decide) ?_
    refine lv_icmp_ge (pc := 15) (tgt := 57) hx hb dX9_readsAll_15 (by decide) (fun c10 => ?_) (fun c10 => ?_)
    · have hm := ite_t c10 hm
      exact (w_fX9_readsAll_57 C) v0 i1 hm H locs ls hW0 hS hz (lv_sub hl [0, 1] rfl)
    · have hm := ite_f c10 hm
      refine lv_aload_n (pc := 18) hx hb dX9_readsAll_18 rfl (lv_at hl 0 rfl) ?_
      refine lv_bipush (pc := 19) (v := (7 : Int32)) hx hb dX9_readsAll_19 (by decide) ?_
      refine lv_iload_n (pc := 21) hx hb dX9_readsAll_21 rfl (lv_at hl 1 rfl) ?_
      refine lv_imul (pc := 22) hx hb dX9_readsAll_22 ?_
      obtain ⟨r11, w12, hq13, hm⟩ := ob2_some hm
      refine rk_TV (pc := 23) (As := [.int ((7 : Int32) * i1)]) (rest := []) (mc := 0) (ms := 0) hx hb hml hown hts hK hS (fun q hq => FA_sz rfl q hq) lkX9_166 rfl yn_X9_readsClause (ct_X9_readsClause (G := G) (l := l) (b0 := b0) (sz := H.size) hq13) ⟨Nat.le_of_ble_eq_true rfl, Nat.le_of_ble_eq_true rfl⟩ (fun z h => Or.inl (show iv _ _ _ from ⟨by have h8 := h.1; have h9 := h.2; omega, by have h8 := h.1; have h9 := h.2; omega⟩)) (rk_recv hK hW0 0 (by decide) rfl rfl rfl) hW0 rfl rfl hl.1 (Nat.le_of_ble_eq_true rfl) dX9_readsAll_23 ⟨Nat.zero_le _, Nat.zero_le _⟩ (fun ov9 H14 locs15 hP16 hkp17 hS18 => ?_)
      obtain ⟨rfl, hW19, hz20⟩ := hP16
      have hz21 := hz20.trans hz
      refine W.eq (g2 := F0 m 26 ls [.int r11]) rfl ?_
      refine lv_if_ne (pc := 26) (tgt := 31) hx hb dX9_readsAll_26 (by decide) (fun c22 => ?_) (fun c22 => ?_)
      · have hm := ite_f c22 hm
        refine lv_iinc (pc := 31) (v := (i1 + (1 : Int32))) (lv' := [(1, .int (i1 + (1 : Int32))), (0, .ref b0), (2, .int i2)]) hx hb dX9_readsAll_31 hl (k := 1) rfl rfl (by decide) rfl (fun ls hl => ?_)
        refine lv_iload_n (pc := 34) hx hb dX9_readsAll_34 rfl (lv_at hl 0 rfl) ?_
        refine lv_iconst (pc := 35) (v := (4 : Int32)) hx hb dX9_readsAll_35 (by decide) ?_
        refine lv_icmp_ge (pc := 36) (tgt := 52) hx hb dX9_readsAll_36 (by decide) (fun c23 => ?_) (fun c23 => ?_)
        · have hm := ite_t c23 hm
          refine lv_iconst (pc := 52) (v := (0 : Int32)) hx hb dX9_readsAll_52 (by decide) ?_
          refine lv_istore_n (pc := 53) (lv' := [(2, .int (0 : Int32)), (1, .int (i1 + (1 : Int32))), (0, .ref b0)]) hx hb dX9_readsAll_53 rfl hl (by decide) rfl (fun ls hl => ?_)
          refine lv_goto (pc := 54) (tgt := 9) hx hb dX9_readsAll_54 (by decide) ?_
          exact hk9 w12 (i1 + (1 : Int32)) (0 : Int32) hm H14 locs15 ls hW19 hS18 hz21 (lv_sub hl [2, 1, 0] rfl)
        · have hm := ite_f c23 hm
          refine lv_aload_n (pc := 39) hx hb dX9_readsAll_39 rfl (lv_at hl 1 rfl) ?_
          refine lv_bipush (pc := 40) (v := (59 : Int32)) hx hb dX9_readsAll_40 (by decide) ?_
          obtain ⟨r24, w25, hq26, hm⟩ := ob2_some hm
          refine rk_TV (pc := 42) (As := [.int (59 : Int32)]) (rest := []) (mc := 0) (ms := 0) hx hb hml hown hts hK hS18 (fun q hq => FA_sz rfl q hq) lkX9_153 rfl yn_X9_takes (ct_X9_takes (G := G) (l := l) (b0 := b0) (sz := H14.size) hq26) ⟨Nat.le_of_ble_eq_true rfl, Nat.le_of_ble_eq_true rfl⟩ (fun z h => Or.inl (show iv _ _ _ from ⟨by have h8 := h.1; have h9 := h.2; omega, by have h8 := h.1; have h9 := h.2; omega⟩)) (rk_recv hK hW19 0 (by decide) rfl rfl rfl) hW19 rfl rfl hl.1 (Nat.le_of_ble_eq_true rfl) dX9_readsAll_42 ⟨Nat.zero_le _, Nat.zero_le _⟩ (fun ov9 H27 locs28 hP29 hkp30 hS31 => ?_)
          obtain ⟨rfl, hW32, hz33⟩ := hP29
          have hz34 := hz33.trans hz21
          refine W.eq (g2 := F0 m 45 ls [.int r24]) rfl ?_
          refine lv_if_eq (pc := 45) (tgt := 52) hx hb dX9_readsAll_45 (by decide) (fun c35 => ?_) (fun c35 => ?_)
          · have hm := ite_t c35 hm
            refine lv_iconst (pc := 52) (v := (0 : Int32)) hx hb dX9_readsAll_52 (by decide) ?_
            refine lv_istore_n (pc := 53) (lv' := [(2, .int (0 : Int32)), (1, .int (i1 + (1 : Int32))), (0, .ref b0)]) hx hb dX9_readsAll_53 rfl hl (by decide) rfl (fun ls hl => ?_)
            refine lv_goto (pc := 54) (tgt := 9) hx hb dX9_readsAll_54 (by decide) ?_
            exact hk9 w25 (i1 + (1 : Int32)) (0 : Int32) hm H27 locs28 ls hW32 hS31 hz34 (lv_sub hl [2, 1, 0] rfl)
          · have hm := ite_f c35 hm
            refine lv_iconst (pc := 48) (v := (1 : Int32)) hx hb dX9_readsAll_48 (by decide) ?_
            refine lv_goto (pc := 49) (tgt := 53) hx hb dX9_readsAll_49 (by decide) ?_
            refine lv_istore_n (pc := 53) (lv' := [(2, .int (1 : Int32)), (1, .int (i1 + (1 : Int32))), (0, .ref b0)]) hx hb dX9_readsAll_53 rfl hl (by decide) rfl (fun ls hl => ?_)
            refine lv_goto (pc := 54) (tgt := 9) hx hb dX9_readsAll_54 (by decide) ?_
            exact hk9 w25 (i1 + (1 : Int32)) (1 : Int32) hm H27 locs28 ls hW32 hS31 hz34 (lv_sub hl [2, 1, 0] rfl)
      · have hm := ite_t c22 hm
        refine lv_iconst (pc := 29) (v := (-1 : Int32)) hx hb dX9_readsAll_29 (by decide) ?_
        obtain ⟨e8, e9⟩ := rs2 hm
        subst e8
        subst e9
        exact rk_iret (pc := 30) hx hb hr hlk hS18 ⟨rfl, hW19, hz21⟩ dX9_readsAll_30
theorem w_fX9_readsAll_9_l (C : Cx G p s m args meth c RX9 cX9_readsAll 3 (some .int)) {b0 : Nat} {rx : Int32} {rw0 : Mem} : ∀ (n : Nat) (v0 : Mem) (i1 : Int32) (i2 : Int32), lq3 (fX9_readsAll_9) n v0 i1 i2 = some (rx, rw0) → ∀ (H : Heap) (locs : List Loc) (ls : Array Slot), rg G b0 46 (shX9 G.2.1) v0 H → va_S (FA (iv b0 46) s.heap.size) s.heap H locs → H.size = s.heap.size → lv_has ls 3 [(0, .ref b0), (1, .int i1), (2, .int i2)] → W p l e (rmT 5 0 0 113) s m args below meth c H locs 0 0 (MQ below (QcT (FA (iv b0 46) s.heap.size) (fun ov H => ov = (some (.int rx)) ∧ rg G b0 46 (shX9 G.2.1) rw0 H ∧ H.size = s.heap.size)) args s 0 0 (FA (iv b0 46) s.heap.size)) (F0 m 9 ls []) := by
  intro n
  induction n with
  | zero => intro v0 i1 i2 hm; exact (lq3_0 hm).elim
  | succ n ih => intro v0 i1 i2 hm; exact w_fX9_readsAll_9 C ih v0 i1 i2 (lq3_s hm)
set_option maxHeartbeats 4000000 in
theorem w_fX9_readsAll (C : Cx G p s m args meth c RX9 cX9_readsAll 3 (some .int)) {b0 : Nat} {rx : Int32} {rw0 : Mem} : ∀ (v0 : Mem), fX9_readsAll v0 = some (rx, rw0) → ∀ (H : Heap) (locs : List Loc) (ls : Array Slot), rg G b0 46 (shX9 G.2.1) v0 H → va_S (FA (iv b0 46) s.heap.size) s.heap H locs → H.size = s.heap.size → lv_has ls 3 [(0, .ref b0)] → W p l e (rmT 5 0 0 113) s m args below meth c H locs 0 0 (MQ below (QcT (FA (iv b0 46) s.heap.size) (fun ov H => ov = (some (.int rx)) ∧ rg G b0 46 (shX9 G.2.1) rw0 H ∧ H.size = s.heap.size)) args s 0 0 (FA (iv b0 46) s.heap.size)) (F0 m 0 ls []) := by
  intro v0 hm H locs ls hW0 hS hz hl
  obtain ⟨hx, hb, hr, hlk, hml, hown, hts, hK⟩ := id C
  unfold fX9_readsAll at hm
  refine lv_aload_n (pc := 0) hx hb dX9_readsAll_0 rfl (lv_at hl 0 rfl) ?_
  refine lv_iconst (pc := 1) (v := (0 : Int32)) hx hb dX9_readsAll_1 (by decide) ?_
  refine rk_put (pc := 2) hx hb hts hown hK hW0 hS flX9_137 ft_X9 0 (by decide) rfl (Or.inl (show iv _ _ _ from ⟨by omega, by omega⟩)) rfl rfl (x := .int (0 : Int32)) rfl rfl (Nat.le_of_ble_eq_true rfl) (sI v0 0 7 (0 : Int32)) sI_ne (by rw [sI_eq]; exact rfl) dX9_readsAll_2 (fun H2 locs3 hW4 hS5 hz6 hkp7 => ?_)
  obtain ⟨v0_1, he9, hm⟩ := lm_some hm
  rw [he9] at hW4
  have hz8 := hz6.trans hz
  refine lv_iconst (pc := 5) (v := (0 : Int32)) hx hb dX9_readsAll_5 (by decide) ?_
  refine lv_istore_n (pc := 6) (lv' := [(1, .int (0 : Int32)), (0, .ref b0)]) hx hb dX9_readsAll_6 rfl hl (by decide) rfl (fun ls hl => ?_)
  refine lv_iconst (pc := 7) (v := (1 : Int32)) hx hb dX9_readsAll_7 (by decide) ?_
  refine lv_istore_n (pc := 8) (lv' := [(2, .int (1 : Int32)), (1, .int (0 : Int32)), (0, .ref b0)]) hx hb dX9_readsAll_8 rfl hl (by decide) rfl (fun ls hl => ?_)
  exact (w_fX9_readsAll_9_l C FU) v0_1 (0 : Int32) (1 : Int32) hm H2 locs3 ls hW4 hS5 hz8 (lv_sub hl [2, 1, 0] rfl)
set_option maxHeartbeats 4000000 in
theorem ct_X9_readsAll {G : Gv} {l : Launch} {b0 : Nat} {v0 : Mem} {rx : Int32} {rw0 : Mem} {sz : Nat} (hm : fX9_readsAll v0 = some (rx, rw0)) : CT G l yX9_readsAll (ws_ yX9_readsAll cX9_readsAll 3 (some .int)) 5 0 0 113 [.ref b0] (iv b0 46) sz (fun H => rg G b0 46 (shX9 G.2.1) v0 H) (fun ov H => ov = (some (.int rx)) ∧ rg G b0 46 (shX9 G.2.1) rw0 H ∧ H.size = sz) := by
  refine Met.ofW (cc := cX9_readsAll) (maxL := 3) (ret := (some .int)) (by decide +kernel) rfl ?_
  intro p e s m args below meth c s₁ B hml hv
  obtain ⟨rfl, ⟨hz, hW0⟩, hK⟩ := hv
  subst hz
  have hts := atoms_spec (ws := ws_ yX9_readsAll cX9_readsAll 3 (some .int)) B.pre
  have hts : ∀ w ∈ lw_all, w.before _ s = true := fun w h => hts w (List.mem_cons_of_mem _ h)
  have C : Cx G p s m _ meth c RX9 cX9_readsAll 3 (some .int) := ⟨B.exec, B.bytes, B.returns, B.notSynchronized, hml, findClass_of_methodNamed B.named, hts, hK⟩
  have hl := lv_entry ([.ref b0]) (n := 3) (Nat.le_of_ble_eq_true rfl)
  rw [lg_entry_eq]
  generalize (lg_sl ([.ref b0]) ++ List.replicate (3 - (lg_sl ([.ref b0])).length) Slot.unset).toArray = ls at hl ⊢
  have hl : lv_has ls 3 [(0, .ref b0)] := hl
  exact w_fX9_readsAll C _ hm s.heap [] ls hW0 va_S.rf rfl hl
theorem yn_X9_readsAll : YN yX9_readsAll 0 := by
  unfold YN
  decide +kernel
theorem lkX9_169 : LV RX9 169 RX9 yX9_readsAll cX9_readsAll 3 (some .int) := ⟨q1985, q1987, qs61, q128, q1988⟩
noncomputable def fX9_read_71 (k40 : Mem → Int32 → Int32 → Option (Int32 × Mem)) (k71 : Mem → Int32 → Int32 → Int32 → Option (Int32 × Mem)) (v0 : Mem) (i1 : Int32) (i2 : Int32) (i3 : Int32) : Option (Int32 × Mem) :=
  if (5 : Int32) ≤ i3 then (
  k40 v0 i1 (i2 + (1 : Int32)))
  else (
  gb (inR (1 : Int32) 150) (
  gb (inR ((((7 : Int32) * i2) + (2 : Int32)) + i3) 28) (
  gb (inR ((((12 : Int32) + ((7 : Int32) * ((gI v0 1 (1 : Int32).toNatClampNeg) - (1 : Int32)))) + (2 : Int32)) + i3) 150) (
  lm (sI v0 1 ((((12 : Int32) + ((7 : Int32) * ((gI v0 1 (1 : Int32).toNatClampNeg) - (1 : Int32)))) + (2 : Int32)) + i3).toNatClampNeg (gI v0 5 ((((7 : Int32) * i2) + (2 : Int32)) + i3).toNatClampNeg)) fun v0_40 =>
  k71 v0_40 i1 i2 (i3 + (1 : Int32))))))
noncomputable def fX9_read_40 (k40 : Mem → Int32 → Int32 → Option (Int32 × Mem)) (v0 : Mem) (i1 : Int32) (i2 : Int32) : Option (Int32 × Mem) :=
  if i1 ≤ i2 then (
  some (i1, v0))
  else (
  gb (inR ((7 : Int32) * i2) 28) (
  gb (inR (((7 : Int32) * i2) + (1 : Int32)) 28) (
  ob (fX9_addsRule v0 (gI v0 5 ((7 : Int32) * i2).toNatClampNeg) (gI v0 5 (((7 : Int32) * i2) + (1 : Int32)).toNatClampNeg)) fun w26 =>
  lq4 (fX9_read_71 k40) FU w26 i1 i2 (0 : Int32))))
noncomputable def fX9_read (v0 : Mem) : Option (Int32 × Mem) :=
  ob2 (fX9_readsAll v0) fun r1 w2 =>
  lm (sI w2 0 6 (0 : Int32)) fun v0_12 =>
  if 0 ≤ r1 then (
  gb (inR (1 : Int32) 150) (
  if ((gI v0_12 1 (1 : Int32).toNatClampNeg) + r1) ≤ (8 : Int32) then (
  lq3 (fX9_read_40) FU v0_12 r1 (0 : Int32))
  else (
  some ((-4 : Int32), v0_12))))
  else (
  some (((-10 : Int32) - (gI v0_12 0 7)), v0_12))
set_option maxHeartbeats 4000000 in
theorem w_fX9_read_71 (C : Cx G p s m args meth c RX9 cX9_read 4 (some .int)) {b0 : Nat} {rx : Int32} {rw0 : Mem} {k40 : Mem → Int32 → Int32 → Option (Int32 × Mem)} {k71 : Mem → Int32 → Int32 → Int32 → Option (Int32 × Mem)} (hk40 : ∀ (v0 : Mem) (i1 : Int32) (i2 : Int32), k40 v0 i1 i2 = some (rx, rw0) → ∀ (H : Heap) (locs : List Loc) (ls : Array Slot), rg G b0 46 (shX9 G.2.1) v0 H → va_S (FA (iv b0 46) s.heap.size) s.heap H locs → H.size = s.heap.size → lv_has ls 4 [(0, .ref b0), (1, .int i1), (2, .int i2)] → W p l e (rmT 6 0 0 135) s m args below meth c H locs 0 0 (MQ below (QcT (FA (iv b0 46) s.heap.size) (fun ov H => ov = (some (.int rx)) ∧ rg G b0 46 (shX9 G.2.1) rw0 H ∧ H.size = s.heap.size)) args s 0 0 (FA (iv b0 46) s.heap.size)) (F0 m 40 ls [])) (hk71 : ∀ (v0 : Mem) (i1 : Int32) (i2 : Int32) (i3 : Int32), k71 v0 i1 i2 i3 = some (rx, rw0) → ∀ (H : Heap) (locs : List Loc) (ls : Array Slot), rg G b0 46 (shX9 G.2.1) v0 H → va_S (FA (iv b0 46) s.heap.size) s.heap H locs → H.size = s.heap.size → lv_has ls 4 [(0, .ref b0), (1, .int i1), (2, .int i2), (3, .int i3)] → W p l e (rmT 6 0 0 135) s m args below meth c H locs 0 0 (MQ below (QcT (FA (iv b0 46) s.heap.size) (fun ov H => ov = (some (.int rx)) ∧ rg G b0 46 (shX9 G.2.1) rw0 H ∧ H.size = s.heap.size)) args s 0 0 (FA (iv b0 46) s.heap.size)) (F0 m 71 ls [])) : ∀ (v0 : Mem) (i1 : Int32) (i2 : Int32) (i3 : Int32), fX9_read_71 k40 k71 v0 i1 i2 i3 = some (rx, rw0) → ∀ (H : Heap) (locs : List Loc) (ls : Array Slot), rg G b0 46 (shX9 G.2.1) v0 H → va_S (FA (iv b0 46) s.heap.size) s.heap H locs → H.size = s.heap.size → lv_has ls 4 [(0, .ref b0), (1, .int i1), (2, .int i2), (3, .int i3)] → W p l e (rmT 6 0 0 135) s m args below meth c H locs 0 0 (MQ below (QcT (FA (iv b0 46) s.heap.size) (fun ov H => ov = (some (.int rx)) ∧ rg G b0 46 (shX9 G.2.1) rw0 H ∧ H.size = s.heap.size)) args s 0 0 (FA (iv b0 46) s.heap.size)) (F0 m 71 ls []) := by
  intro v0 i1 i2 i3 hm H locs ls hW0 hS hz hl
  obtain ⟨hx, hb, hr, hlk, hml, hown, hts, hK⟩ := id C
  unfold fX9_read_71 at hm
  refine lv_iload_n (pc := 71) hx hb dX9_read_71 rfl (lv_at hl 3 rfl) ?_
  refine lv_iconst (pc := 72) (v := (5 : Int32)) hx hb dX9_read_72 (by decide) ?_
  refine lv_icmp_ge (pc := 73) (tgt := 118) hx hb dX9_read_73 (by decide) (fun c36 => ?_) (fun c36 => ?_)
  · have hm := ite_t c36 hm
    refine lv_iinc (pc := 118) (v := (i2 + (1 : Int32))) (lv' := [(2, .int (i2 + (1 : Int32))), (0, .ref b0), (1, .int i1), (3, .int i3)]) hx hb dX9_read_118 hl (k := 2) rfl rfl (by decide) rfl (fun ls hl => ?_)
    refine lv_goto (pc := 121) (tgt := 40) hx hb dX9_read_121 (by decide) ?_
    exact hk40 v0 i1 (i2 + (1 : Int32)) hm H locs ls hW0 hS hz (lv_sub hl [1, 2, 0] rfl)
  · have hm := ite_f c36 hm
    refine lv_aload_n (pc := 76) hx hb dX9_read_76 rfl (lv_at hl 0 rfl) ?_
    refine rk_get (pc := 77) hx hb hts hown hK hW0 flX9_11 0 (by decide) rfl rfl (x := .ref (b0 + 1)) (by first | rfl | exact congrArg (fun z => some (Value.ref z)) (by omega)) dX9_read_77 ?_
    refine lv_bipush (pc := 80) (v := (12 : Int32)) hx hb dX9_read_80 (by decide) ?_
    refine lv_bipush (pc := 82) (v := (7 : Int32)) hx hb dX9_read_82 (by decide) ?_
    refine lv_aload_n (pc := 84) hx hb dX9_read_84 rfl (lv_at hl 0 rfl) ?_
    refine rk_get (pc := 85) hx hb hts hown hK hW0 flX9_11 0 (by decide) rfl rfl (x := .ref (b0 + 1)) (by first | rfl | exact congrArg (fun z => some (Value.ref z)) (by omega)) dX9_read_85 ?_
    refine lv_iconst (pc := 88) (v := (1 : Int32)) hx hb dX9_read_88 (by decide) ?_
    obtain ⟨hg37, hm⟩ := gb_some hm
    refine rk_iald (pc := 89) hx hb hK hW0 1 (by decide) rfl rfl hg37 (x := (gI v0 1 (1 : Int32).toNatClampNeg)) rfl dX9_read_89 ?_
    refine lv_iconst (pc := 90) (v := (1 : Int32)) hx hb dX9_read_90 (by decide) ?_
    refine lv_isub (pc := 91) hx hb dX9_read_91 ?_
    refine lv_imul (pc := 92) hx hb dX9_read_92 ?_
    refine lv_iadd (pc := 93) hx hb dX9_read_93 ?_
    refine lv_iconst (pc := 94) (v := (2 : Int32)) hx hb dX9_read_94 (by decide) ?_
    refine lv_iadd (pc := 95) hx hb dX9_read_95 ?_
    refine lv_iload_n (pc := 96) hx hb dX9_read_96 rfl (lv_at hl 3 rfl) ?_
    refine lv_iadd (pc := 97) hx hb dX9_read_97 ?_
    refine lv_aload_n (pc := 98) hx hb dX9_read_98 rfl (lv_at hl 0 rfl) ?_
    refine rk_get (pc := 99) hx hb hts hown hK hW0 flX9_24 0 (by decide) rfl rfl (x := .ref (b0 + 5)) (by first | rfl | exact congrArg (fun z => some (Value.ref z)) (by omega)) dX9_read_99 ?_
    refine lv_bipush (pc := 102) (v := (7 : Int32)) hx hb dX9_read_102 (by decide) ?_
    refine lv_iload_n (pc := 104) hx hb dX9_read_104 rfl (lv_at hl 2 rfl) ?_
    refine lv_imul (pc := 105) hx hb dX9_read_105 ?_
    refine lv_iconst (pc := 106) (v := (2 : Int32)) hx hb dX9_read_106 (by decide) ?_
    refine lv_iadd (pc := 107) hx hb dX9_read_107 ?_
    refine lv_iload_n (pc := 108) hx hb dX9_read_108 rfl (lv_at hl 3 rfl) ?_
    refine lv_iadd (pc := 109) hx hb dX9_read_109 ?_
    obtain ⟨hg38, hm⟩ := gb_some hm
    refine rk_iald (pc := 110) hx hb hK hW0 5 (by decide) rfl rfl hg38 (x := (gI v0 5 ((((7 : Int32) * i2) + (2 : Int32)) + i3).toNatClampNeg)) rfl dX9_read_110 ?_
    obtain ⟨hg39, hm⟩ := gb_some hm
    refine rk_iast (pc := 111) hx hb hK hW0 hS 1 (by decide) rfl (Or.inl (show iv _ _ _ from ⟨by omega, by omega⟩)) (fun _ _ _ => rfl) hg39 dX9_read_111 (fun H41 locs42 hW43 hS44 hz45 hkp46 => ?_)
    obtain ⟨v0_40, he9, hm⟩ := lm_some hm
    rw [he9] at hW43
    have hz47 := hz45.trans hz
    refine lv_iinc (pc := 112) (v := (i3 + (1 : Int32))) (lv' := [(3, .int (i3 + (1 : Int32))), (0, .ref b0), (1, .int i1), (2, .int i2)]) hx hb dX9_read_112 hl (k := 3) rfl rfl (by decide) rfl (fun ls hl => ?_)
    refine lv_goto (pc := 115) (tgt := 71) hx hb dX9_read_115 (by decide) ?_
    exact hk71 v0_40 i1 i2 (i3 + (1 : Int32)) hm H41 locs42 ls hW43 hS44 hz47 (lv_sub hl [1, 2, 3, 0] rfl)
theorem w_fX9_read_71_l (C : Cx G p s m args meth c RX9 cX9_read 4 (some .int)) {b0 : Nat} {rx : Int32} {rw0 : Mem} {k40 : Mem → Int32 → Int32 → Option (Int32 × Mem)} (hk40 : ∀ (v0 : Mem) (i1 : Int32) (i2 : Int32), k40 v0 i1 i2 = some (rx, rw0) → ∀ (H : Heap) (locs : List Loc) (ls : Array Slot), rg G b0 46 (shX9 G.2.1) v0 H → va_S (FA (iv b0 46) s.heap.size) s.heap H locs → H.size = s.heap.size → lv_has ls 4 [(0, .ref b0), (1, .int i1), (2, .int i2)] → W p l e (rmT 6 0 0 135) s m args below meth c H locs 0 0 (MQ below (QcT (FA (iv b0 46) s.heap.size) (fun ov H => ov = (some (.int rx)) ∧ rg G b0 46 (shX9 G.2.1) rw0 H ∧ H.size = s.heap.size)) args s 0 0 (FA (iv b0 46) s.heap.size)) (F0 m 40 ls [])) : ∀ (n : Nat) (v0 : Mem) (i1 : Int32) (i2 : Int32) (i3 : Int32), lq4 (fX9_read_71 k40) n v0 i1 i2 i3 = some (rx, rw0) → ∀ (H : Heap) (locs : List Loc) (ls : Array Slot), rg G b0 46 (shX9 G.2.1) v0 H → va_S (FA (iv b0 46) s.heap.size) s.heap H locs → H.size = s.heap.size → lv_has ls 4 [(0, .ref b0), (1, .int i1), (2, .int i2), (3, .int i3)] → W p l e (rmT 6 0 0 135) s m args below meth c H locs 0 0 (MQ below (QcT (FA (iv b0 46) s.heap.size) (fun ov H => ov = (some (.int rx)) ∧ rg G b0 46 (shX9 G.2.1) rw0 H ∧ H.size = s.heap.size)) args s 0 0 (FA (iv b0 46) s.heap.size)) (F0 m 71 ls []) := by
  intro n
  induction n with
  | zero => intro v0 i1 i2 i3 hm; exact (lq4_0 hm).elim
  | succ n ih => intro v0 i1 i2 i3 hm; exact w_fX9_read_71 C hk40 ih v0 i1 i2 i3 (lq4_s hm)
set_option maxHeartbeats 4000000 in
theorem w_fX9_read_40 (C : Cx G p s m args meth c RX9 cX9_read 4 (some .int)) {b0 : Nat} {rx : Int32} {rw0 : Mem} {k40 : Mem → Int32 → Int32 → Option (Int32 × Mem)} (hk40 : ∀ (v0 : Mem) (i1 : Int32) (i2 : Int32), k40 v0 i1 i2 = some (rx, rw0) → ∀ (H : Heap) (locs : List Loc) (ls : Array Slot), rg G b0 46 (shX9 G.2.1) v0 H → va_S (FA (iv b0 46) s.heap.size) s.heap H locs → H.size = s.heap.size → lv_has ls 4 [(0, .ref b0), (1, .int i1), (2, .int i2)] → W p l e (rmT 6 0 0 135) s m args below meth c H locs 0 0 (MQ below (QcT (FA (iv b0 46) s.heap.size) (fun ov H => ov = (some (.int rx)) ∧ rg G b0 46 (shX9 G.2.1) rw0 H ∧ H.size = s.heap.size)) args s 0 0 (FA (iv b0 46) s.heap.size)) (F0 m 40 ls [])) : ∀ (v0 : Mem) (i1 : Int32) (i2 : Int32), fX9_read_40 k40 v0 i1 i2 = some (rx, rw0) → ∀ (H : Heap) (locs : List Loc) (ls : Array Slot), rg G b0 46 (shX9 G.2.1) v0 H → va_S (FA (iv b0 46) s.heap.size) s.heap H locs → H.size = s.heap.size → lv_has ls 4 [(0, .ref b0), (1, .int i1), (2, .int i2)] → W p l e (rmT 6 0 0 135) s m args below meth c H locs 0 0 (MQ below (QcT (FA (iv b0 46) s.heap.size) (fun ov H => ov = (some (.int rx)) ∧ rg G b0 46 (shX9 G.2.1) rw0 H ∧ H.size = s.heap.size)) args s 0 0 (FA (iv b0 46) s.heap.size)) (F0 m 40 ls []) := by
  intro v0 i1 i2 hm H locs ls hW0 hS hz hl
  obtain ⟨hx, hb, hr, hlk, hml, hown, hts, hK⟩ := id C
  unfold fX9_read_40 at hm
  refine lv_iload_n (pc := 40) hx hb dX9_read_40 rfl (lv_at hl 2 rfl) ?_
  refine lv_iload_n (pc := 41) hx hb dX9_read_41 rfl (lv_at hl 1 rfl) ?_
  refine lv_icmp_ge (pc := 42) (tgt := 124) hx hb dX9_read_42 (by decide) (fun c23 => ?_) (fun c23 => ?_)
  · have hm := ite_t c23 hm
    refine lv_iload_n (pc := 124) hx hb dX9_read_124 rfl (lv_at hl 1 rfl) ?_
    obtain ⟨e8, e9⟩ := rs2 hm
    subst e8
    subst e9
    exact rk_iret (pc := 125) hx hb hr hlk hS ⟨rfl, hW0, hz⟩ dX9_read_125
  · have hm := ite_f c23 hm
    refine lv_aload_n (pc := 45) hx hb dX9_read_45 rfl (lv_at hl 0 rfl) ?_
    refine lv_aload_n (pc := 46) hx hb dX9_read_46 rfl (lv_at hl 0 rfl) ?_
    refine rk_get (pc := 47) hx hb hts hown hK hW0 flX9_24 0 (by decide) rfl rfl (x := .ref (b0 + 5)) (by first | rfl | exact congrArg (fun z => some (Value.ref z)) (by omega)) dX9_read_47 ?_
    refine lv_bipush (pc := 50) (v := (7 : Int32)) hx hb dX9_read_50 (by decide) ?_
    refine lv_iload_n (pc := 52) hx hb dX9_read_52 rfl (lv_at hl 2 rfl) ?_
    refine lv_imul (pc := 53) hx hb dX9_read_53 ?_
    obtain ⟨hg24, hm⟩ := gb_some hm
    refine rk_iald (pc := 54) hx hb hK hW0 5 (by decide) rfl rfl hg24 (x := (gI v0 5 ((7 : Int32) * i2).toNatClampNeg)) rfl dX9_read_54 ?_
    refine lv_aload_n (pc := 55) hx hb dX9_read_55 rfl (lv_at hl 0 rfl) ?_
    refine rk_get (pc := 56) hx hb hts hown hK hW0 flX9_24 0 (by decide) rfl rfl (x := .ref (b0 + 5)) (by first | rfl | exact congrArg (fun z => some (Value.ref z)) (by omega)) dX9_read_56 ?_
    refine lv_bipush (pc := 59) (v := (7 : Int32)) hx hb dX9_read_59 (by decide) ?_
    refine lv_iload_n (pc := 61) hx hb dX9_read_61 rfl (lv_at hl 2 rfl) ?_
    refine lv_imul (pc := 62) hx hb dX9_read_62 ?_
    refine lv_iconst (pc := 63) (v := (1 : Int32)) hx hb dX9_read_63 (by decide) ?_
    refine lv_iadd (pc := 64) hx hb dX9_read_64 ?_
    obtain ⟨hg25, hm⟩ := gb_some hm
    refine rk_iald (pc := 65) hx hb hK hW0 5 (by decide) rfl rfl hg25 (x := (gI v0 5 (((7 : Int32) * i2) + (1 : Int32)).toNatClampNeg)) rfl dX9_read_65 ?_
    obtain ⟨w26, hq27, hm⟩ := ob_some hm
    refine rk_TV (pc := 66) (As := [.int (gI v0 5 ((7 : Int32) * i2).toNatClampNeg), .int (gI v0 5 (((7 : Int32) * i2) + (1 : Int32)).toNatClampNeg)]) (rest := []) (mc := 0) (ms := 0) hx hb hml hown hts hK hS (fun q hq => FA_sz rfl q hq) lkX9_120 rfl yn_X9_addsRule (ct_X9_addsRule (G := G) (l := l) (b0 := b0) (sz := H.size) hq27) ⟨Nat.le_of_ble_eq_true rfl, Nat.le_of_ble_eq_true rfl⟩ (fun z h => Or.inl (show iv _ _ _ from ⟨by have h8 := h.1; have h9 := h.2; omega, by have h8 := h.1; have h9 := h.2; omega⟩)) (rk_recv hK hW0 0 (by decide) rfl rfl rfl) hW0 rfl rfl hl.1 (Nat.le_of_ble_eq_true rfl) dX9_read_66 ⟨Nat.zero_le _, Nat.zero_le _⟩ (fun ov9 H28 locs29 hP30 hkp31 hS32 => ?_)
    obtain ⟨rfl, hW33, hz34⟩ := hP30
    have hz35 := hz34.trans hz
    refine W.eq (g2 := F0 m 69 ls []) rfl ?_
    refine lv_iconst (pc := 69) (v := (0 : Int32)) hx hb dX9_read_69 (by decide) ?_
    refine lv_istore_n (pc := 70) (lv' := [(3, .int (0 : Int32)), (0, .ref b0), (1, .int i1), (2, .int i2)]) hx hb dX9_read_70 rfl hl (by decide) rfl (fun ls hl => ?_)
    exact (w_fX9_read_71_l C hk40 FU) w26 i1 i2 (0 : Int32) hm H28 locs29 ls hW33 hS32 hz35 (lv_sub hl [1, 2, 3, 0] rfl)
theorem w_fX9_read_40_l (C : Cx G p s m args meth c RX9 cX9_read 4 (some .int)) {b0 : Nat} {rx : Int32} {rw0 : Mem} : ∀ (n : Nat) (v0 : Mem) (i1 : Int32) (i2 : Int32), lq3 (fX9_read_40) n v0 i1 i2 = some (rx, rw0) → ∀ (H : Heap) (locs : List Loc) (ls : Array Slot), rg G b0 46 (shX9 G.2.1) v0 H → va_S (FA (iv b0 46) s.heap.size) s.heap H locs → H.size = s.heap.size → lv_has ls 4 [(0, .ref b0), (1, .int i1), (2, .int i2)] → W p l e (rmT 6 0 0 135) s m args below meth c H locs 0 0 (MQ below (QcT (FA (iv b0 46) s.heap.size) (fun ov H => ov = (some (.int rx)) ∧ rg G b0 46 (shX9 G.2.1) rw0 H ∧ H.size = s.heap.size)) args s 0 0 (FA (iv b0 46) s.heap.size)) (F0 m 40 ls []) := by
  intro n
  induction n with
  | zero => intro v0 i1 i2 hm; exact (lq3_0 hm).elim
  | succ n ih => intro v0 i1 i2 hm; exact w_fX9_read_40 C ih v0 i1 i2 (lq3_s hm)
set_option maxHeartbeats 4000000 in
theorem w_fX9_read (C : Cx G p s m args meth c RX9 cX9_read 4 (some .int)) {b0 : Nat} {rx : Int32} {rw0 : Mem} : ∀ (v0 : Mem), fX9_read v0 = some (rx, rw0) → ∀ (H : Heap) (locs : List Loc) (ls : Array Slot), rg G b0 46 (shX9 G.2.1) v0 H → va_S (FA (iv b0 46) s.heap.size) s.heap H locs → H.size = s.heap.size → lv_has ls 4 [(0, .ref b0)] → W p l e (rmT 6 0 0 135) s m args below meth c H locs 0 0 (MQ below (QcT (FA (iv b0 46) s.heap.size) (fun ov H => ov = (some (.int rx)) ∧ rg G b0 46 (shX9 G.2.1) rw0 H ∧ H.size = s.heap.size)) args s 0 0 (FA (iv b0 46) s.heap.size)) (F0 m 0 ls []) := by
  intro v0 hm H locs ls hW0 hS hz hl
  obtain ⟨hx, hb, hr, hlk, hml, hown, hts, hK⟩ := id C
  unfold fX9_read at hm
  refine lv_aload_n (pc := 0) hx hb dX9_read_0 rfl (lv_at hl 0 rfl) ?_
  obtain ⟨r1, w2, hq3, hm⟩ := ob2_some hm
  refine rk_TV (pc := 1) (As := []) (rest := []) (mc := 0) (ms := 0) hx hb hml hown hts hK hS (fun q hq => FA_sz rfl q hq) lkX9_169 rfl yn_X9_readsAll (ct_X9_readsAll (G := G) (l := l) (b0 := b0) (sz := H.size) hq3) ⟨Nat.le_of_ble_eq_true rfl, Nat.le_of_ble_eq_true rfl⟩ (fun z h => Or.inl (show iv _ _ _ from ⟨by have h8 := h.1; have h9 := h.2; omega, by have h8 := h.1; have h9 := h.2; omega⟩)) (rk_recv hK hW0 0 (by decide) rfl rfl rfl) hW0 rfl rfl hl.1 (Nat.le_of_ble_eq_true rfl) dX9_read_1 ⟨Nat.zero_le _, Nat.zero_le _⟩ (fun ov9 H4 locs5 hP6 hkp7 hS8 => ?_)
  obtain ⟨rfl, hW9, hz10⟩ := hP6
  have hz11 := hz10.trans hz
  refine W.eq (g2 := F0 m 4 ls [.int r1]) rfl ?_
  refine lv_istore_n (pc := 4) (lv' := [(1, .int r1), (0, .ref b0)]) hx hb dX9_read_4 rfl hl (by decide) rfl (fun ls hl => ?_)
  refine lv_aload_n (pc := 5) hx hb dX9_read_5 rfl (lv_at hl 1 rfl) ?_
  refine lv_iconst (pc := 6) (v := (0 : Int32)) hx hb dX9_read_6 (by decide) ?_
  refine rk_put (pc := 7) hx hb hts hown hK hW9 hS8 flX9_133 ft_X9 0 (by decide) rfl (Or.inl (show iv _ _ _ from ⟨by omega, by omega⟩)) rfl rfl (x := .int (0 : Int32)) rfl rfl (Nat.le_of_ble_eq_true rfl) (sI w2 0 6 (0 : Int32)) sI_ne (by rw [sI_eq]; exact rfl) dX9_read_7 (fun H13 locs14 hW15 hS16 hz17 hkp18 => ?_)
  obtain ⟨v0_12, he9, hm⟩ := lm_some hm
  rw [he9] at hW15
  have hz19 := hz17.trans hz11
  refine lv_iload_n (pc := 10) hx hb dX9_read_10 rfl (lv_at hl 0 rfl) ?_
  refine lv_if_ge (pc := 11) (tgt := 22) hx hb dX9_read_11 (by decide) (fun c20 => ?_) (fun c20 => ?_)
  · have hm := ite_t c20 hm
    refine lv_aload_n (pc := 22) hx hb dX9_read_22 rfl (lv_at hl 1 rfl) ?_
    refine rk_get (pc := 23) hx hb hts hown hK hW15 flX9_11 0 (by decide) rfl rfl (x := .ref (b0 + 1)) (by first | rfl | exact congrArg (fun z => some (Value.ref z)) (by omega)) dX9_read_23 ?_
    refine lv_iconst (pc := 26) (v := (1 : Int32)) hx hb dX9_read_26 (by decide) ?_
    obtain ⟨hg21, hm⟩ := gb_some hm
    refine rk_iald (pc := 27) hx hb hK hW15 1 (by decide) rfl rfl hg21 (x := (gI v0_12 1 (1 : Int32).toNatClampNeg)) rfl dX9_read_27 ?_
    refine lv_iload_n (pc := 28) hx hb dX9_read_28 rfl (lv_at hl 0 rfl) ?_
    refine lv_iadd (pc := 29) hx hb dX9_read_29 ?_
    refine lv_bipush (pc := 30) (v := (8 : Int32)) hx hb dX9_read_30 (by decide) ?_
    refine lv_icmp_le (pc := 32) (tgt := 38) hx hb dX9_read_32 (by decide) (fun c22 => ?_) (fun c22 => ?_)
    · have hm := ite_t c22 hm
      refine lv_iconst (pc := 38) (v := (0 : Int32)) hx hb dX9_read_38 (by decide) ?_
      refine lv_istore_n (pc := 39) (lv' := [(2, .int (0 : Int32)), (1, .int r1), (0, .ref b0)]) hx hb dX9_read_39 rfl hl (by decide) rfl (fun ls hl => ?_)
      exact (w_fX9_read_40_l C FU) v0_12 r1 (0 : Int32) hm H13 locs14 ls hW15 hS16 hz19 (lv_sub hl [2, 1, 0] rfl)
    · have hm := ite_f c22 hm
      refine lv_bipush (pc := 35) (v := (-4 : Int32)) hx hb dX9_read_35 (by decide) ?_
      obtain ⟨e8, e9⟩ := rs2 hm
      subst e8
      subst e9
      exact rk_iret (pc := 37) hx hb hr hlk hS16 ⟨rfl, hW15, hz19⟩ dX9_read_37
  · have hm := ite_f c20 hm
    refine lv_bipush (pc := 14) (v := (-10 : Int32)) hx hb dX9_read_14 (by decide) ?_
    refine lv_aload_n (pc := 16) hx hb dX9_read_16 rfl (lv_at hl 1 rfl) ?_
    refine rk_get (pc := 17) hx hb hts hown hK hW15 flX9_137 0 (by decide) rfl rfl (x := .int (gI v0_12 0 7)) rfl dX9_read_17 ?_
    refine lv_isub (pc := 20) hx hb dX9_read_20 ?_
    obtain ⟨e8, e9⟩ := rs2 hm
    subst e8
    subst e9
    exact rk_iret (pc := 21) hx hb hr hlk hS16 ⟨rfl, hW15, hz19⟩ dX9_read_21
set_option maxHeartbeats 4000000 in
theorem ct_X9_read {G : Gv} {l : Launch} {b0 : Nat} {v0 : Mem} {rx : Int32} {rw0 : Mem} {sz : Nat} (hm : fX9_read v0 = some (rx, rw0)) : CT G l yX9_read (ws_ yX9_read cX9_read 4 (some .int)) 6 0 0 135 [.ref b0] (iv b0 46) sz (fun H => rg G b0 46 (shX9 G.2.1) v0 H) (fun ov H => ov = (some (.int rx)) ∧ rg G b0 46 (shX9 G.2.1) rw0 H ∧ H.size = sz) := by
  refine Met.ofW (cc := cX9_read) (maxL := 4) (ret := (some .int)) (by decide +kernel) rfl ?_
  intro p e s m args below meth c s₁ B hml hv
  obtain ⟨rfl, ⟨hz, hW0⟩, hK⟩ := hv
  subst hz
  have hts := atoms_spec (ws := ws_ yX9_read cX9_read 4 (some .int)) B.pre
  have hts : ∀ w ∈ lw_all, w.before _ s = true := fun w h => hts w (List.mem_cons_of_mem _ h)
  have C : Cx G p s m _ meth c RX9 cX9_read 4 (some .int) := ⟨B.exec, B.bytes, B.returns, B.notSynchronized, hml, findClass_of_methodNamed B.named, hts, hK⟩
  have hl := lv_entry ([.ref b0]) (n := 4) (Nat.le_of_ble_eq_true rfl)
  rw [lg_entry_eq]
  generalize (lg_sl ([.ref b0]) ++ List.replicate (4 - (lg_sl ([.ref b0])).length) Slot.unset).toArray = ls at hl ⊢
  have hl : lv_has ls 4 [(0, .ref b0)] := hl
  exact w_fX9_read C _ hm s.heap [] ls hW0 va_S.rf rfl hl
theorem fnX9_172 : FN RX9 172 10 14 RX10 TX10 20 "WholePacksModel" := ⟨in_X10, rfl, by decide, q1777⟩
theorem fnX9_181 : FN RX9 181 10 6 RX10 TX10 20 "WholePacksModel" := ⟨in_X10, rfl, by decide, q1764⟩
theorem fnX9_178 : FN RX9 178 10 15 RX10 TX10 20 "WholePacksModel" := ⟨in_X10, rfl, by decide, q1778⟩
theorem fnX9_184 : FN RX9 184 10 1 RX10 TX10 20 "WholePacksModel" := ⟨in_X10, rfl, by decide, q1754⟩
theorem fnX9_175 : FN RX9 175 10 0 RX10 TX10 20 "WholePacksModel" := ⟨in_X10, rfl, by decide, q1752⟩
noncomputable def fX9_addsRow_3 (V0 : Mem) (k3 : Mem → Int32 → Int64 → Int32 → Option (Mem)) (v1 : Mem) (i2 : Int32) (j3 : Int64) (i5 : Int32) : Option (Mem) :=
  if (gI v1 0 14) ≤ i5 then (
  gb (inR (gI v1 0 15) 20) (
  lm (sI v1 7 (gI v1 0 15).toNatClampNeg i2) fun v1_3 =>
  gb (inR (gI v1_3 0 15) 20) (
  lm (sL v1_3 2 (gI v1_3 0 15).toNatClampNeg j3) fun v1_13 =>
  lm (sI v1_13 0 15 ((gI v1_13 0 15) + (1 : Int32))) fun v1_22 =>
  some v1_22)))
  else (
  gb (inR (((5 : Int32) * (gI v1 0 15)) + i5) 100) (
  lm (sL v1 1 (((5 : Int32) * (gI v1 0 15)) + i5).toNatClampNeg (0 : Int64)) fun v1_32 =>
  k3 v1_32 i2 j3 (i5 + (1 : Int32))))
noncomputable def fX9_addsRow (V0 : Mem) (v1 : Mem) (i2 : Int32) (j3 : Int64) : Option (Mem) :=
  lq4 (fX9_addsRow_3 V0) FU v1 i2 j3 (0 : Int32)
set_option maxHeartbeats 4000000 in
theorem w_fX9_addsRow_3 (C : Cx G p s m args meth c RX9 cX9_addsRow 6 none) {b0 : Nat} {b1 : Nat} {V0 : Mem} {rw1 : Mem} (hd01 : b0 + 6 ≤ b1 ∨ b1 + 13 ≤ b0) {k3 : Mem → Int32 → Int64 → Int32 → Option (Mem)} (hk3 : ∀ (v1 : Mem) (i2 : Int32) (j3 : Int64) (i5 : Int32), k3 v1 i2 j3 i5 = some rw1 → ∀ (H : Heap) (locs : List Loc) (ls : Array Slot), rg G b0 6 (shX9 G.2.1) V0 H → rg G b1 13 (shX10 G.2.1) v1 H → va_S (FA (iv b1 13) s.heap.size) s.heap H locs → H.size = s.heap.size → lv_has ls 6 [(1, .ref b1), (2, .int i2), (3, .long j3), (5, .int i5)] → W p l e (rmT 0 0 0 0) s m args below meth c H locs 0 0 (MQ below (QcT (FA (iv b1 13) s.heap.size) (fun ov H => ov = none ∧ rg G b1 13 (shX10 G.2.1) rw1 H ∧ H.size = s.heap.size)) args s 0 0 (FA (iv b1 13) s.heap.size)) (F0 m 3 ls [])) : ∀ (v1 : Mem) (i2 : Int32) (j3 : Int64) (i5 : Int32), fX9_addsRow_3 V0 k3 v1 i2 j3 i5 = some rw1 → ∀ (H : Heap) (locs : List Loc) (ls : Array Slot), rg G b0 6 (shX9 G.2.1) V0 H → rg G b1 13 (shX10 G.2.1) v1 H → va_S (FA (iv b1 13) s.heap.size) s.heap H locs → H.size = s.heap.size → lv_has ls 6 [(1, .ref b1), (2, .int i2), (3, .long j3), (5, .int i5)] → W p l e (rmT 0 0 0 0) s m args below meth c H locs 0 0 (MQ below (QcT (FA (iv b1 13) s.heap.size) (fun ov H => ov = none ∧ rg G b1 13 (shX10 G.2.1) rw1 H ∧ H.size = s.heap.size)) args s 0 0 (FA (iv b1 13) s.heap.size)) (F0 m 3 ls []) := by
  intro v1 i2 j3 i5 hm H locs ls hW0 hW1 hS hz hl
  obtain ⟨hx, hb, hr, hlk, hml, hown, hts, hK⟩ := id C
  unfold fX9_addsRow_3 at hm
  refine lv_iload (pc := 3) hx hb dX9_addsRow_3 (lv_at hl 3 rfl) ?_
  refine lv_aload_n (pc := 5) hx hb dX9_addsRow_5 rfl (lv_at hl 0 rfl) ?_
  refine rk_getN (pc := 6) hx hb hts hown hK hW1 fnX9_172 0 (by decide) rfl rfl (x := .int (gI v1 0 14)) rfl dX9_addsRow_6 ?_
  refine lv_icmp_ge (pc := 9) (tgt := 33) hx hb dX9_addsRow_9 (by decide) (fun c1 => ?_) (fun c1 => ?_)
  · have hm := ite_t c1 hm
    refine lv_aload_n (pc := 33) hx hb dX9_addsRow_33 rfl (lv_at hl 0 rfl) ?_
    refine rk_getN (pc := 34) hx hb hts hown hK hW1 fnX9_181 0 (by decide) rfl rfl (x := .ref (b1 + 7)) (by first | rfl | exact congrArg (fun z => some (Value.ref z)) (by omega)) dX9_addsRow_34 ?_
    refine lv_aload_n (pc := 37) hx hb dX9_addsRow_37 rfl (lv_at hl 0 rfl) ?_
    refine rk_getN (pc := 38) hx hb hts hown hK hW1 fnX9_178 0 (by decide) rfl rfl (x := .int (gI v1 0 15)) rfl dX9_addsRow_38 ?_
    refine lv_iload_n (pc := 41) hx hb dX9_addsRow_41 rfl (lv_at hl 1 rfl) ?_
    obtain ⟨hg2, hm⟩ := gb_some hm
    refine rk_iast (pc := 42) hx hb hK hW1 hS 7 (by decide) rfl (Or.inl (show iv _ _ _ from ⟨by omega, by omega⟩)) (fun _ _ _ => rfl) hg2 dX9_addsRow_42 (fun H4 locs5 hW6 hS7 hz8 hkp9 => ?_)
    obtain ⟨v1_3, he9, hm⟩ := lm_some hm
    rw [he9] at hW6
    have hW10 := rg_keepq hW0 hkp9 (by omega)
    have hz11 := hz8.trans hz
    refine lv_aload_n (pc := 43) hx hb dX9_addsRow_43 rfl (lv_at hl 0 rfl) ?_
    refine rk_getN (pc := 44) hx hb hts hown hK hW6 fnX9_184 0 (by decide) rfl rfl (x := .ref (b1 + 2)) (by first | rfl | exact congrArg (fun z => some (Value.ref z)) (by omega)) dX9_addsRow_44 ?_
    refine lv_aload_n (pc := 47) hx hb dX9_addsRow_47 rfl (lv_at hl 0 rfl) ?_
    refine rk_getN (pc := 48) hx hb hts hown hK hW6 fnX9_178 0 (by decide) rfl rfl (x := .int (gI v1_3 0 15)) rfl dX9_addsRow_48 ?_
    refine lv_lload_n (pc := 51) hx hb dX9_addsRow_51 rfl (lv_at hl 2 rfl) ?_
    obtain ⟨hg12, hm⟩ := gb_some hm
    refine rk_last (pc := 52) hx hb hK hW6 hS7 2 (by decide) rfl (Or.inl (show iv _ _ _ from ⟨by omega, by omega⟩)) (fun _ _ _ => rfl) hg12 dX9_addsRow_52 (fun H14 locs15 hW16 hS17 hz18 hkp19 => ?_)
    obtain ⟨v1_13, he9, hm⟩ := lm_some hm
    rw [he9] at hW16
    have hW20 := rg_keepq hW10 hkp19 (by omega)
    have hz21 := hz18.trans hz11
    refine lv_aload_n (pc := 53) hx hb dX9_addsRow_53 rfl (lv_at hl 0 rfl) ?_
    refine lv_dup (pc := 54) hx hb dX9_addsRow_54 rfl ?_
    refine rk_getN (pc := 55) hx hb hts hown hK hW16 fnX9_178 0 (by decide) rfl rfl (x := .int (gI v1_13 0 15)) rfl dX9_addsRow_55 ?_
    refine lv_iconst (pc := 58) (v := (1 : Int32)) hx hb dX9_addsRow_58 (by decide) ?_
    refine lv_iadd (pc := 59) hx hb dX9_addsRow_59 ?_
    refine rk_putN (pc := 60) hx hb hts hown hK hW16 hS17 fnX9_178 ft_X10 0 (by decide) rfl (Or.inl (show iv _ _ _ from ⟨by omega, by omega⟩)) rfl rfl (x := .int ((gI v1_13 0 15) + (1 : Int32))) rfl rfl (Nat.le_of_ble_eq_true rfl) (sI v1_13 0 15 ((gI v1_13 0 15) + (1 : Int32))) sI_ne (by rw [sI_eq]; exact rfl) dX9_addsRow_60 (fun H23 locs24 hW25 hS26 hz27 hkp28 => ?_)
    obtain ⟨v1_22, he9, hm⟩ := lm_some hm
    rw [he9] at hW25
    have hW29 := rg_keepq hW20 hkp28 (by omega)
    have hz30 := hz27.trans hz21
    have e9 := rs1 hm
    subst e9
    exact rk_vret (pc := 63) hx hb hr hlk hS26 ⟨rfl, hW25, hz30⟩ dX9_addsRow_63
  · have hm := ite_f c1 hm
    refine lv_aload_n (pc := 12) hx hb dX9_addsRow_12 rfl (lv_at hl 0 rfl) ?_
    refine rk_getN (pc := 13) hx hb hts hown hK hW1 fnX9_175 0 (by decide) rfl rfl (x := .ref (b1 + 1)) (by first | rfl | exact congrArg (fun z => some (Value.ref z)) (by omega)) dX9_addsRow_13 ?_
    refine lv_iconst (pc := 16) (v := (5 : Int32)) hx hb dX9_addsRow_16 (by decide) ?_
    refine lv_aload_n (pc := 17) hx hb dX9_addsRow_17 rfl (lv_at hl 0 rfl) ?_
    refine rk_getN (pc := 18) hx hb hts hown hK hW1 fnX9_178 0 (by decide) rfl rfl (x := .int (gI v1 0 15)) rfl dX9_addsRow_18 ?_
    refine lv_imul (pc := 21) hx hb dX9_addsRow_21 ?_
    refine lv_iload (pc := 22) hx hb dX9_addsRow_22 (lv_at hl 3 rfl) ?_
    refine lv_iadd (pc := 24) hx hb dX9_addsRow_24 ?_
    refine lv_lconst (pc := 25) (v := (0 : Int64)) hx hb dX9_addsRow_25 (by decide) ?_
    obtain ⟨hg31, hm⟩ := gb_some hm
    refine rk_last (pc := 26) hx hb hK hW1 hS 1 (by decide) rfl (Or.inl (show iv _ _ _ from ⟨by omega, by omega⟩)) (fun _ _ _ => rfl) hg31 dX9_addsRow_26 (fun H33 locs34 hW35 hS36 hz37 hkp38 => ?_)
    obtain ⟨v1_32, he9, hm⟩ := lm_some hm
    rw [he9] at hW35
    have hW39 := rg_keepq hW0 hkp38 (by omega)
    have hz40 := hz37.trans hz
    refine lv_iinc (pc := 27) (v := (i5 + (1 : Int32))) (lv' := [(5, .int (i5 + (1 : Int32))), (1, .ref b1), (2, .int i2), (3, .long j3)]) hx hb dX9_addsRow_27 hl (k := 3) rfl rfl (by decide) rfl (fun ls hl => ?_)
    refine lv_goto (pc := 30) (tgt := 3) hx hb dX9_addsRow_30 (by decide) ?_
    exact hk3 v1_32 i2 j3 (i5 + (1 : Int32)) hm H33 locs34 ls hW39 hW35 hS36 hz40 (lv_sub hl [1, 2, 3, 0] rfl)
theorem w_fX9_addsRow_3_l (C : Cx G p s m args meth c RX9 cX9_addsRow 6 none) {b0 : Nat} {b1 : Nat} {V0 : Mem} {rw1 : Mem} (hd01 : b0 + 6 ≤ b1 ∨ b1 + 13 ≤ b0) : ∀ (n : Nat) (v1 : Mem) (i2 : Int32) (j3 : Int64) (i5 : Int32), lq4 (fX9_addsRow_3 V0) n v1 i2 j3 i5 = some rw1 → ∀ (H : Heap) (locs : List Loc) (ls : Array Slot), rg G b0 6 (shX9 G.2.1) V0 H → rg G b1 13 (shX10 G.2.1) v1 H → va_S (FA (iv b1 13) s.heap.size) s.heap H locs → H.size = s.heap.size → lv_has ls 6 [(1, .ref b1), (2, .int i2), (3, .long j3), (5, .int i5)] → W p l e (rmT 0 0 0 0) s m args below meth c H locs 0 0 (MQ below (QcT (FA (iv b1 13) s.heap.size) (fun ov H => ov = none ∧ rg G b1 13 (shX10 G.2.1) rw1 H ∧ H.size = s.heap.size)) args s 0 0 (FA (iv b1 13) s.heap.size)) (F0 m 3 ls []) := by
  intro n
  induction n with
  | zero => intro v1 i2 j3 i5 hm; exact (lq4_0 hm).elim
  | succ n ih => intro v1 i2 j3 i5 hm; exact w_fX9_addsRow_3 C hd01 ih v1 i2 j3 i5 (lq4_s hm)
set_option maxHeartbeats 4000000 in
theorem w_fX9_addsRow (C : Cx G p s m args meth c RX9 cX9_addsRow 6 none) {b0 : Nat} {b1 : Nat} {V0 : Mem} {rw1 : Mem} (hd01 : b0 + 6 ≤ b1 ∨ b1 + 13 ≤ b0) : ∀ (v1 : Mem) (i2 : Int32) (j3 : Int64), fX9_addsRow V0 v1 i2 j3 = some rw1 → ∀ (H : Heap) (locs : List Loc) (ls : Array Slot), rg G b0 6 (shX9 G.2.1) V0 H → rg G b1 13 (shX10 G.2.1) v1 H → va_S (FA (iv b1 13) s.heap.size) s.heap H locs → H.size = s.heap.size → lv_has ls 6 [(0, .ref b0), (1, .ref b1), (2, .int i2), (3, .long j3)] → W p l e (rmT 0 0 0 0) s m args below meth c H locs 0 0 (MQ below (QcT (FA (iv b1 13) s.heap.size) (fun ov H => ov = none ∧ rg G b1 13 (shX10 G.2.1) rw1 H ∧ H.size = s.heap.size)) args s 0 0 (FA (iv b1 13) s.heap.size)) (F0 m 0 ls []) := by
  intro v1 i2 j3 hm H locs ls hW0 hW1 hS hz hl
  obtain ⟨hx, hb, hr, hlk, hml, hown, hts, hK⟩ := id C
  unfold fX9_addsRow at hm
  refine lv_iconst (pc := 0) (v := (0 : Int32)) hx hb dX9_addsRow_0 (by decide) ?_
  refine lv_istore (pc := 1) (lv' := [(5, .int (0 : Int32)), (0, .ref b0), (1, .ref b1), (2, .int i2), (3, .long j3)]) hx hb dX9_addsRow_1 hl (by decide) rfl (fun ls hl => ?_)
  exact (w_fX9_addsRow_3_l C hd01 FU) v1 i2 j3 (0 : Int32) hm H locs ls hW0 hW1 hS hz (lv_sub hl [2, 3, 4, 0] rfl)
set_option maxHeartbeats 4000000 in
theorem ct_X9_addsRow {G : Gv} {l : Launch} {b0 : Nat} {b1 : Nat} {V0 : Mem} {v1 : Mem} {i2 : Int32} {j3 : Int64} {rw1 : Mem} {sz : Nat} (hm : fX9_addsRow V0 v1 i2 j3 = some rw1) (hd01 : b0 + 6 ≤ b1 ∨ b1 + 13 ≤ b0) : CT G l yX9_addsRow (ws_ yX9_addsRow cX9_addsRow 6 none) 0 0 0 0 [.ref b0, .ref b1, .int i2, .long j3] (iv b1 13) sz (fun H => rg G b0 6 (shX9 G.2.1) V0 H ∧ rg G b1 13 (shX10 G.2.1) v1 H) (fun ov H => ov = none ∧ rg G b1 13 (shX10 G.2.1) rw1 H ∧ H.size = sz) := by
  refine Met.ofW (cc := cX9_addsRow) (maxL := 6) (ret := none) (by decide +kernel) rfl ?_
  intro p e s m args below meth c s₁ B hml hv
  obtain ⟨rfl, ⟨hz, hW0, hW1⟩, hK⟩ := hv
  subst hz
  have hts := atoms_spec (ws := ws_ yX9_addsRow cX9_addsRow 6 none) B.pre
  have hts : ∀ w ∈ lw_all, w.before _ s = true := fun w h => hts w (List.mem_cons_of_mem _ h)
  have C : Cx G p s m _ meth c RX9 cX9_addsRow 6 none := ⟨B.exec, B.bytes, B.returns, B.notSynchronized, hml, findClass_of_methodNamed B.named, hts, hK⟩
  have hl := lv_entry ([.ref b0, .ref b1, .int i2, .long j3]) (n := 6) (Nat.le_of_ble_eq_true rfl)
  rw [lg_entry_eq]
  generalize (lg_sl ([.ref b0, .ref b1, .int i2, .long j3]) ++ List.replicate (6 - (lg_sl ([.ref b0, .ref b1, .int i2, .long j3])).length) Slot.unset).toArray = ls at hl ⊢
  have hl : lv_has ls 6 [(0, .ref b0), (1, .ref b1), (2, .int i2), (3, .long j3)] := hl
  exact w_fX9_addsRow C hd01 _ _ _ hm s.heap [] ls hW0 hW1 va_S.rf rfl hl
theorem fnX9_187 : FN RX9 187 10 16 RX10 TX10 20 "WholePacksModel" := ⟨in_X10, rfl, by decide, q1779⟩
theorem fnX9_190 : FN RX9 190 10 17 RX10 TX10 20 "WholePacksModel" := ⟨in_X10, rfl, by decide, q1780⟩
theorem fnX9_193 : FN RX9 193 10 12 RX10 TX10 20 "WholePacksModel" := ⟨in_X10, rfl, by decide, q1775⟩
theorem fnX9_197 : FN RX9 197 10 13 RX10 TX10 20 "WholePacksModel" := ⟨in_X10, rfl, by decide, q1776⟩
theorem fnX9_200 : FN RX9 200 10 19 RX10 TX10 20 "WholePacksModel" := ⟨in_X10, rfl, by decide, q1782⟩
theorem fnX9_203 : FN RX9 203 10 2 RX10 TX10 20 "WholePacksModel" := ⟨in_X10, rfl, by decide, q1756⟩
theorem fnX9_206 : FN RX9 206 10 7 RX10 TX10 20 "WholePacksModel" := ⟨in_X10, rfl, by decide, q1766⟩
theorem yn_X9_limitOf : YN yX9_limitOf 1 := by
  unfold YN
  decide +kernel
theorem lkX9_209 : LV RX9 209 RX9 yX9_limitOf cX9_limitOf 2 (some .long) := ⟨q2033, q2035, qs71, q128, q2036⟩
theorem yn_X9_addsRow : YN yX9_addsRow 3 := by
  unfold YN
  decide +kernel
theorem lkX9_213 : LV RX9 213 RX9 yX9_addsRow cX9_addsRow 6 none := ⟨q2041, q2043, qs73, q128, q2044⟩
theorem yn_X9_pointOf : YN yX9_pointOf 2 := by
  unfold YN
  decide +kernel
theorem lkX9_217 : LV RX9 217 RX9 yX9_pointOf cX9_pointOf 3 (some .long) := ⟨q2045, q2047, qs74, q128, q2048⟩
noncomputable def fX9_first_110 (V0 : Mem) (k84 : Mem → Int32 → Option (Mem)) (k110 : Mem → Int32 → Int32 → Option (Mem)) (v1 : Mem) (i2 : Int32) (i3 : Int32) : Option (Mem) :=
  ob (fX9_n V0) fun r114 =>
  if r114 ≤ i3 then (
  k84 v1 (i2 + (1 : Int32)))
  else (
  ob (fX9_pointOf V0 i2 i3) fun r117 =>
  gb (inR (((5 : Int32) * i2) + i3) 100) (
  lm (sL v1 1 (((5 : Int32) * i2) + i3).toNatClampNeg r117) fun v1_120 =>
  k110 v1_120 i2 (i3 + (1 : Int32))))
noncomputable def fX9_first_84 (V0 : Mem) (k84 : Mem → Int32 → Option (Mem)) (v1 : Mem) (i2 : Int32) : Option (Mem) :=
  gb (inR (1 : Int32) 150) (
  if (gI V0 1 (1 : Int32).toNatClampNeg) ≤ i2 then (
  some v1)
  else (
  ob (fX9_limitOf V0 i2) fun r101 =>
  ob (fX9_addsRow V0 v1 ((10 : Int32) + i2) r101) fun w103 =>
  lq3 (fX9_first_110 V0 k84) FU w103 i2 (0 : Int32)))
noncomputable def fX9_first_45 (V0 : Mem) (k45 : Mem → Int32 → Option (Mem)) (v1 : Mem) (i2 : Int32) : Option (Mem) :=
  ob (fX9_n V0) fun r75 =>
  if r75 ≤ i2 then (
  lq2 (fX9_first_84 V0) FU v1 (0 : Int32))
  else (
  gb (inR ((7 : Int32) + i2) 150) (
  gb (inR i2 5) (
  lm (sL v1 3 i2.toNatClampNeg (gI V0 1 ((7 : Int32) + i2).toNatClampNeg).toInt64) fun v1_80 =>
  gb (inR i2 5) (
  lm (sI v1_80 8 i2.toNatClampNeg i2) fun v1_90 =>
  k45 v1_90 (i2 + (1 : Int32))))))
noncomputable def fX9_first (V0 : Mem) (v1 : Mem) : Option (Mem) :=
  ob (fX9_n V0) fun r1 =>
  lm (sI v1 0 14 r1) fun v1_3 =>
  lm (sI v1_3 0 15 (0 : Int32)) fun v1_12 =>
  lm (sI v1_12 0 16 (0 : Int32)) fun v1_21 =>
  lm (sI v1_21 0 17 (0 : Int32)) fun v1_30 =>
  lm (sL v1_30 0 12 (0 : Int64)) fun v1_39 =>
  lm (sL v1_39 0 13 (1 : Int64)) fun v1_48 =>
  lm (sI v1_48 0 18 (1 : Int32)) fun v1_57 =>
  lm (sI v1_57 0 19 (0 : Int32)) fun v1_66 =>
  lq2 (fX9_first_45 V0) FU v1_66 (0 : Int32)
set_option maxHeartbeats 4000000 in
theorem w_fX9_first_110 (C : Cx G p s m args meth c RX9 cX9_first 4 none) {b0 : Nat} {b1 : Nat} {V0 : Mem} {rw1 : Mem} (hd01 : b0 + 6 ≤ b1 ∨ b1 + 13 ≤ b0) {k84 : Mem → Int32 → Option (Mem)} {k110 : Mem → Int32 → Int32 → Option (Mem)} (hk84 : ∀ (v1 : Mem) (i2 : Int32), k84 v1 i2 = some rw1 → ∀ (H : Heap) (locs : List Loc) (ls : Array Slot), rg G b0 6 (shX9 G.2.1) V0 H → rg G b1 13 (shX10 G.2.1) v1 H → va_S (FA (iv b1 13) s.heap.size) s.heap H locs → H.size = s.heap.size → lv_has ls 4 [(0, .ref b0), (1, .ref b1), (2, .int i2)] → W p l e (rmT 2 0 0 44) s m args below meth c H locs 0 0 (MQ below (QcT (FA (iv b1 13) s.heap.size) (fun ov H => ov = none ∧ rg G b1 13 (shX10 G.2.1) rw1 H ∧ H.size = s.heap.size)) args s 0 0 (FA (iv b1 13) s.heap.size)) (F0 m 84 ls [])) (hk110 : ∀ (v1 : Mem) (i2 : Int32) (i3 : Int32), k110 v1 i2 i3 = some rw1 → ∀ (H : Heap) (locs : List Loc) (ls : Array Slot), rg G b0 6 (shX9 G.2.1) V0 H → rg G b1 13 (shX10 G.2.1) v1 H → va_S (FA (iv b1 13) s.heap.size) s.heap H locs → H.size = s.heap.size → lv_has ls 4 [(0, .ref b0), (1, .ref b1), (2, .int i2), (3, .int i3)] → W p l e (rmT 2 0 0 44) s m args below meth c H locs 0 0 (MQ below (QcT (FA (iv b1 13) s.heap.size) (fun ov H => ov = none ∧ rg G b1 13 (shX10 G.2.1) rw1 H ∧ H.size = s.heap.size)) args s 0 0 (FA (iv b1 13) s.heap.size)) (F0 m 110 ls [])) : ∀ (v1 : Mem) (i2 : Int32) (i3 : Int32), fX9_first_110 V0 k84 k110 v1 i2 i3 = some rw1 → ∀ (H : Heap) (locs : List Loc) (ls : Array Slot), rg G b0 6 (shX9 G.2.1) V0 H → rg G b1 13 (shX10 G.2.1) v1 H → va_S (FA (iv b1 13) s.heap.size) s.heap H locs → H.size = s.heap.size → lv_has ls 4 [(0, .ref b0), (1, .ref b1), (2, .int i2), (3, .int i3)] → W p l e (rmT 2 0 0 44) s m args below meth c H locs 0 0 (MQ below (QcT (FA (iv b1 13) s.heap.size) (fun ov H => ov = none ∧ rg G b1 13 (shX10 G.2.1) rw1 H ∧ H.size = s.heap.size)) args s 0 0 (FA (iv b1 13) s.heap.size)) (F0 m 110 ls []) := by
  intro v1 i2 i3 hm H locs ls hW0 hW1 hS hz hl
  obtain ⟨hx, hb, hr, hlk, hml, hown, hts, hK⟩ := id C
  unfold fX9_first_110 at hm
  refine lv_iload_n (pc := 110) hx hb dX9_first_110 rfl (lv_at hl 3 rfl) ?_
  refine lv_aload_n (pc := 111) hx hb dX9_first_111 rfl (lv_at hl 0 rfl) ?_
  obtain ⟨r114, hq115, hm⟩ := ob_some hm
  refine rk_PV (pc := 112) (As := []) (rest := [.int i3]) hx hb hml hown hts hK lkX9_89 rfl yn_X9_n (ct_X9_n (G := G) (l := l) (b0 := b0) hq115) ⟨Nat.le_of_ble_eq_true rfl, Nat.le_of_ble_eq_true rfl⟩ (rk_recv hK hW0 0 (by decide) rfl rfl rfl) hW0 rfl rfl hl.1 (Nat.le_of_ble_eq_true rfl) dX9_first_112 ⟨Nat.zero_le _, Nat.zero_le _⟩ ?_
  refine W.eq (g2 := F0 m 115 ls [.int r114, .int i3]) rfl ?_
  refine lv_icmp_ge (pc := 115) (tgt := 140) hx hb dX9_first_115 (by decide) (fun c116 => ?_) (fun c116 => ?_)
  · have hm := ite_t c116 hm
    refine lv_iinc (pc := 140) (v := (i2 + (1 : Int32))) (lv' := [(2, .int (i2 + (1 : Int32))), (0, .ref b0), (1, .ref b1), (3, .int i3)]) hx hb dX9_first_140 hl (k := 2) rfl rfl (by decide) rfl (fun ls hl => ?_)
    refine lv_goto (pc := 143) (tgt := 84) hx hb dX9_first_143 (by decide) ?_
    exact hk84 v1 (i2 + (1 : Int32)) hm H locs ls hW0 hW1 hS hz (lv_sub hl [1, 2, 0] rfl)
  · have hm := ite_f c116 hm
    refine lv_aload_n (pc := 118) hx hb dX9_first_118 rfl (lv_at hl 1 rfl) ?_
    refine rk_getN (pc := 119) hx hb hts hown hK hW1 fnX9_175 0 (by decide) rfl rfl (x := .ref (b1 + 1)) (by first | rfl | exact congrArg (fun z => some (Value.ref z)) (by omega)) dX9_first_119 ?_
    refine lv_iconst (pc := 122) (v := (5 : Int32)) hx hb dX9_first_122 (by decide) ?_
    refine lv_iload_n (pc := 123) hx hb dX9_first_123 rfl (lv_at hl 2 rfl) ?_
    refine lv_imul (pc := 124) hx hb dX9_first_124 ?_
    refine lv_iload_n (pc := 125) hx hb dX9_first_125 rfl (lv_at hl 3 rfl) ?_
    refine lv_iadd (pc := 126) hx hb dX9_first_126 ?_
    refine lv_aload_n (pc := 127) hx hb dX9_first_127 rfl (lv_at hl 0 rfl) ?_
    refine lv_iload_n (pc := 128) hx hb dX9_first_128 rfl (lv_at hl 2 rfl) ?_
    refine lv_iload_n (pc := 129) hx hb dX9_first_129 rfl (lv_at hl 3 rfl) ?_
    obtain ⟨r117, hq118, hm⟩ := ob_some hm
    refine rk_PV (pc := 130) (As := [.int i2, .int i3]) (rest := [.int (((5 : Int32) * i2) + i3), .ref (b1 + 1)]) hx hb hml hown hts hK lkX9_217 rfl yn_X9_pointOf (ct_X9_pointOf (G := G) (l := l) (b0 := b0) hq118) ⟨Nat.le_of_ble_eq_true rfl, Nat.le_of_ble_eq_true rfl⟩ (rk_recv hK hW0 0 (by decide) rfl rfl rfl) hW0 rfl rfl hl.1 (Nat.le_of_ble_eq_true rfl) dX9_first_130 ⟨Nat.zero_le _, Nat.zero_le _⟩ ?_
    refine W.eq (g2 := F0 m 133 ls [.long r117, .int (((5 : Int32) * i2) + i3), .ref (b1 + 1)]) rfl ?_
    obtain ⟨hg119, hm⟩ := gb_some hm
    refine rk_last (pc := 133) hx hb hK hW1 hS 1 (by decide) rfl (Or.inl (show iv _ _ _ from ⟨by omega, by omega⟩)) (fun _ _ _ => rfl) hg119 dX9_first_133 (fun H121 locs122 hW123 hS124 hz125 hkp126 => ?_)
    obtain ⟨v1_120, he9, hm⟩ := lm_some hm
    rw [he9] at hW123
    have hW127 := rg_keepq hW0 hkp126 (by omega)
    have hz128 := hz125.trans hz
    refine lv_iinc (pc := 134) (v := (i3 + (1 : Int32))) (lv' := [(3, .int (i3 + (1 : Int32))), (0, .ref b0), (1, .ref b1), (2, .int i2)]) hx hb dX9_first_134 hl (k := 3) rfl rfl (by decide) rfl (fun ls hl => ?_)
    refine lv_goto (pc := 137) (tgt := 110) hx hb dX9_first_137 (by decide) ?_
    exact hk110 v1_120 i2 (i3 + (1 : Int32)) hm H121 locs122 ls hW127 hW123 hS124 hz128 (lv_sub hl [1, 2, 3, 0] rfl)
theorem w_fX9_first_110_l (C : Cx G p s m args meth c RX9 cX9_first 4 none) {b0 : Nat} {b1 : Nat} {V0 : Mem} {rw1 : Mem} (hd01 : b0 + 6 ≤ b1 ∨ b1 + 13 ≤ b0) {k84 : Mem → Int32 → Option (Mem)} (hk84 : ∀ (v1 : Mem) (i2 : Int32), k84 v1 i2 = some rw1 → ∀ (H : Heap) (locs : List Loc) (ls : Array Slot), rg G b0 6 (shX9 G.2.1) V0 H → rg G b1 13 (shX10 G.2.1) v1 H → va_S (FA (iv b1 13) s.heap.size) s.heap H locs → H.size = s.heap.size → lv_has ls 4 [(0, .ref b0), (1, .ref b1), (2, .int i2)] → W p l e (rmT 2 0 0 44) s m args below meth c H locs 0 0 (MQ below (QcT (FA (iv b1 13) s.heap.size) (fun ov H => ov = none ∧ rg G b1 13 (shX10 G.2.1) rw1 H ∧ H.size = s.heap.size)) args s 0 0 (FA (iv b1 13) s.heap.size)) (F0 m 84 ls [])) : ∀ (n : Nat) (v1 : Mem) (i2 : Int32) (i3 : Int32), lq3 (fX9_first_110 V0 k84) n v1 i2 i3 = some rw1 → ∀ (H : Heap) (locs : List Loc) (ls : Array Slot), rg G b0 6 (shX9 G.2.1) V0 H → rg G b1 13 (shX10 G.2.1) v1 H → va_S (FA (iv b1 13) s.heap.size) s.heap H locs → H.size = s.heap.size → lv_has ls 4 [(0, .ref b0), (1, .ref b1), (2, .int i2), (3, .int i3)] → W p l e (rmT 2 0 0 44) s m args below meth c H locs 0 0 (MQ below (QcT (FA (iv b1 13) s.heap.size) (fun ov H => ov = none ∧ rg G b1 13 (shX10 G.2.1) rw1 H ∧ H.size = s.heap.size)) args s 0 0 (FA (iv b1 13) s.heap.size)) (F0 m 110 ls []) := by
  intro n
  induction n with
  | zero => intro v1 i2 i3 hm; exact (lq3_0 hm).elim
  | succ n ih => intro v1 i2 i3 hm; exact w_fX9_first_110 C hd01 hk84 ih v1 i2 i3 (lq3_s hm)
set_option maxHeartbeats 4000000 in
theorem w_fX9_first_84 (C : Cx G p s m args meth c RX9 cX9_first 4 none) {b0 : Nat} {b1 : Nat} {V0 : Mem} {rw1 : Mem} (hd01 : b0 + 6 ≤ b1 ∨ b1 + 13 ≤ b0) {k84 : Mem → Int32 → Option (Mem)} (hk84 : ∀ (v1 : Mem) (i2 : Int32), k84 v1 i2 = some rw1 → ∀ (H : Heap) (locs : List Loc) (ls : Array Slot), rg G b0 6 (shX9 G.2.1) V0 H → rg G b1 13 (shX10 G.2.1) v1 H → va_S (FA (iv b1 13) s.heap.size) s.heap H locs → H.size = s.heap.size → lv_has ls 4 [(0, .ref b0), (1, .ref b1), (2, .int i2)] → W p l e (rmT 2 0 0 44) s m args below meth c H locs 0 0 (MQ below (QcT (FA (iv b1 13) s.heap.size) (fun ov H => ov = none ∧ rg G b1 13 (shX10 G.2.1) rw1 H ∧ H.size = s.heap.size)) args s 0 0 (FA (iv b1 13) s.heap.size)) (F0 m 84 ls [])) : ∀ (v1 : Mem) (i2 : Int32), fX9_first_84 V0 k84 v1 i2 = some rw1 → ∀ (H : Heap) (locs : List Loc) (ls : Array Slot), rg G b0 6 (shX9 G.2.1) V0 H → rg G b1 13 (shX10 G.2.1) v1 H → va_S (FA (iv b1 13) s.heap.size) s.heap H locs → H.size = s.heap.size → lv_has ls 4 [(0, .ref b0), (1, .ref b1), (2, .int i2)] → W p l e (rmT 2 0 0 44) s m args below meth c H locs 0 0 (MQ below (QcT (FA (iv b1 13) s.heap.size) (fun ov H => ov = none ∧ rg G b1 13 (shX10 G.2.1) rw1 H ∧ H.size = s.heap.size)) args s 0 0 (FA (iv b1 13) s.heap.size)) (F0 m 84 ls []) := by
  intro v1 i2 hm H locs ls hW0 hW1 hS hz hl
  obtain ⟨hx, hb, hr, hlk, hml, hown, hts, hK⟩ := id C
  unfold fX9_first_84 at hm
  refine lv_iload_n (pc := 84) hx hb dX9_first_84 rfl (lv_at hl 2 rfl) ?_
  refine lv_aload_n (pc := 85) hx hb dX9_first_85 rfl (lv_at hl 0 rfl) ?_
  refine rk_get (pc := 86) hx hb hts hown hK hW0 flX9_11 0 (by decide) rfl rfl (x := .ref (b0 + 1)) (by first | rfl | exact congrArg (fun z => some (Value.ref z)) (by omega)) dX9_first_86 ?_
  refine lv_iconst (pc := 89) (v := (1 : Int32)) hx hb dX9_first_89 (by decide) ?_
  obtain ⟨hg99, hm⟩ := gb_some hm
  refine rk_iald (pc := 90) hx hb hK hW0 1 (by decide) rfl rfl hg99 (x := (gI V0 1 (1 : Int32).toNatClampNeg)) rfl dX9_first_90 ?_
  refine lv_icmp_ge (pc := 91) (tgt := 146) hx hb dX9_first_91 (by decide) (fun c100 => ?_) (fun c100 => ?_)
  · have hm := ite_t c100 hm
    have e9 := rs1 hm
    subst e9
    exact rk_vret (pc := 146) hx hb hr hlk hS ⟨rfl, hW1, hz⟩ dX9_first_146
  · have hm := ite_f c100 hm
    refine lv_aload_n (pc := 94) hx hb dX9_first_94 rfl (lv_at hl 0 rfl) ?_
    refine lv_aload_n (pc := 95) hx hb dX9_first_95 rfl (lv_at hl 1 rfl) ?_
    refine lv_bipush (pc := 96) (v := (10 : Int32)) hx hb dX9_first_96 (by decide) ?_
    refine lv_iload_n (pc := 98) hx hb dX9_first_98 rfl (lv_at hl 2 rfl) ?_
    refine lv_iadd (pc := 99) hx hb dX9_first_99 ?_
    refine lv_aload_n (pc := 100) hx hb dX9_first_100 rfl (lv_at hl 0 rfl) ?_
    refine lv_iload_n (pc := 101) hx hb dX9_first_101 rfl (lv_at hl 2 rfl) ?_
    obtain ⟨r101, hq102, hm⟩ := ob_some hm
    refine rk_PV (pc := 102) (As := [.int i2]) (rest := [.int ((10 : Int32) + i2), .ref b1, .ref b0]) hx hb hml hown hts hK lkX9_209 rfl yn_X9_limitOf (ct_X9_limitOf (G := G) (l := l) (b0 := b0) hq102) ⟨Nat.le_of_ble_eq_true rfl, Nat.le_of_ble_eq_true rfl⟩ (rk_recv hK hW0 0 (by decide) rfl rfl rfl) hW0 rfl rfl hl.1 (Nat.le_of_ble_eq_true rfl) dX9_first_102 ⟨Nat.zero_le _, Nat.zero_le _⟩ ?_
    refine W.eq (g2 := F0 m 105 ls [.long r101, .int ((10 : Int32) + i2), .ref b1, .ref b0]) rfl ?_
    obtain ⟨w103, hq104, hm⟩ := ob_some hm
    refine rk_TV (pc := 105) (As := [.ref b1, .int ((10 : Int32) + i2), .long r101]) (rest := []) (mc := 0) (ms := 0) hx hb hml hown hts hK hS (fun q hq => FA_sz rfl q hq) lkX9_213 rfl yn_X9_addsRow (ct_X9_addsRow (G := G) (l := l) (b0 := b0) (b1 := b1) (sz := H.size) hq104 (by omega)) ⟨Nat.le_of_ble_eq_true rfl, Nat.le_of_ble_eq_true rfl⟩ (fun z h => Or.inl (show iv _ _ _ from ⟨by have h8 := h.1; have h9 := h.2; omega, by have h8 := h.1; have h9 := h.2; omega⟩)) (rk_recv hK hW0 0 (by decide) rfl rfl rfl) ⟨hW0, hW1⟩ rfl rfl hl.1 (Nat.le_of_ble_eq_true rfl) dX9_first_105 ⟨Nat.zero_le _, Nat.zero_le _⟩ (fun ov9 H105 locs106 hP107 hkp108 hS109 => ?_)
    obtain ⟨rfl, hW110, hz111⟩ := hP107
    have hW112 := rg_keepA hW0 hkp108 (by intro z h1 h2 h3; have h8 := h3.1; have h9 := h3.2; omega)
    have hz113 := hz111.trans hz
    refine W.eq (g2 := F0 m 108 ls []) rfl ?_
    refine lv_iconst (pc := 108) (v := (0 : Int32)) hx hb dX9_first_108 (by decide) ?_
    refine lv_istore_n (pc := 109) (lv' := [(3, .int (0 : Int32)), (0, .ref b0), (1, .ref b1), (2, .int i2)]) hx hb dX9_first_109 rfl hl (by decide) rfl (fun ls hl => ?_)
    exact (w_fX9_first_110_l C hd01 hk84 FU) w103 i2 (0 : Int32) hm H105 locs106 ls hW112 hW110 hS109 hz113 (lv_sub hl [1, 2, 3, 0] rfl)
theorem w_fX9_first_84_l (C : Cx G p s m args meth c RX9 cX9_first 4 none) {b0 : Nat} {b1 : Nat} {V0 : Mem} {rw1 : Mem} (hd01 : b0 + 6 ≤ b1 ∨ b1 + 13 ≤ b0) : ∀ (n : Nat) (v1 : Mem) (i2 : Int32), lq2 (fX9_first_84 V0) n v1 i2 = some rw1 → ∀ (H : Heap) (locs : List Loc) (ls : Array Slot), rg G b0 6 (shX9 G.2.1) V0 H → rg G b1 13 (shX10 G.2.1) v1 H → va_S (FA (iv b1 13) s.heap.size) s.heap H locs → H.size = s.heap.size → lv_has ls 4 [(0, .ref b0), (1, .ref b1), (2, .int i2)] → W p l e (rmT 2 0 0 44) s m args below meth c H locs 0 0 (MQ below (QcT (FA (iv b1 13) s.heap.size) (fun ov H => ov = none ∧ rg G b1 13 (shX10 G.2.1) rw1 H ∧ H.size = s.heap.size)) args s 0 0 (FA (iv b1 13) s.heap.size)) (F0 m 84 ls []) := by
  intro n
  induction n with
  | zero => intro v1 i2 hm; exact (lq2_0 hm).elim
  | succ n ih => intro v1 i2 hm; exact w_fX9_first_84 C hd01 ih v1 i2 (lq2_s hm)
set_option maxHeartbeats 4000000 in
theorem w_fX9_first_45 (C : Cx G p s m args meth c RX9 cX9_first 4 none) {b0 : Nat} {b1 : Nat} {V0 : Mem} {rw1 : Mem} (hd01 : b0 + 6 ≤ b1 ∨ b1 + 13 ≤ b0) {k45 : Mem → Int32 → Option (Mem)} (hk45 : ∀ (v1 : Mem) (i2 : Int32), k45 v1 i2 = some rw1 → ∀ (H : Heap) (locs : List Loc) (ls : Array Slot), rg G b0 6 (shX9 G.2.1) V0 H → rg G b1 13 (shX10 G.2.1) v1 H → va_S (FA (iv b1 13) s.heap.size) s.heap H locs → H.size = s.heap.size → lv_has ls 4 [(0, .ref b0), (1, .ref b1), (2, .int i2)] → W p l e (rmT 2 0 0 44) s m args below meth c H locs 0 0 (MQ below (QcT (FA (iv b1 13) s.heap.size) (fun ov H => ov = none ∧ rg G b1 13 (shX10 G.2.1) rw1 H ∧ H.size = s.heap.size)) args s 0 0 (FA (iv b1 13) s.heap.size)) (F0 m 45 ls [])) : ∀ (v1 : Mem) (i2 : Int32), fX9_first_45 V0 k45 v1 i2 = some rw1 → ∀ (H : Heap) (locs : List Loc) (ls : Array Slot), rg G b0 6 (shX9 G.2.1) V0 H → rg G b1 13 (shX10 G.2.1) v1 H → va_S (FA (iv b1 13) s.heap.size) s.heap H locs → H.size = s.heap.size → lv_has ls 4 [(0, .ref b0), (1, .ref b1), (2, .int i2)] → W p l e (rmT 2 0 0 44) s m args below meth c H locs 0 0 (MQ below (QcT (FA (iv b1 13) s.heap.size) (fun ov H => ov = none ∧ rg G b1 13 (shX10 G.2.1) rw1 H ∧ H.size = s.heap.size)) args s 0 0 (FA (iv b1 13) s.heap.size)) (F0 m 45 ls []) := by
  intro v1 i2 hm H locs ls hW0 hW1 hS hz hl
  obtain ⟨hx, hb, hr, hlk, hml, hown, hts, hK⟩ := id C
  unfold fX9_first_45 at hm
  refine lv_iload_n (pc := 45) hx hb dX9_first_45 rfl (lv_at hl 2 rfl) ?_
  refine lv_aload_n (pc := 46) hx hb dX9_first_46 rfl (lv_at hl 0 rfl) ?_
  obtain ⟨r75, hq76, hm⟩ := ob_some hm
  refine rk_PV (pc := 47) (As := []) (rest := [.int i2]) hx hb hml hown hts hK lkX9_89 rfl yn_X9_n (ct_X9_n (G := G) (l := l) (b0 := b0) hq76) ⟨Nat.le_of_ble_eq_true rfl, Nat.le_of_ble_eq_true rfl⟩ (rk_recv hK hW0 0 (by decide) rfl rfl rfl) hW0 rfl rfl hl.1 (Nat.le_of_ble_eq_true rfl) dX9_first_47 ⟨Nat.zero_le _, Nat.zero_le _⟩ ?_
  refine W.eq (g2 := F0 m 50 ls [.int r75, .int i2]) rfl ?_
  refine lv_icmp_ge (pc := 50) (tgt := 82) hx hb dX9_first_50 (by decide) (fun c77 => ?_) (fun c77 => ?_)
  · have hm := ite_t c77 hm
    refine lv_iconst (pc := 82) (v := (0 : Int32)) hx hb dX9_first_82 (by decide) ?_
    refine lv_istore_n (pc := 83) (lv' := [(2, .int (0 : Int32)), (0, .ref b0), (1, .ref b1)]) hx hb dX9_first_83 rfl hl (by decide) rfl (fun ls hl => ?_)
    exact (w_fX9_first_84_l C hd01 FU) v1 (0 : Int32) hm H locs ls hW0 hW1 hS hz (lv_sub hl [1, 2, 0] rfl)
  · have hm := ite_f c77 hm
    refine lv_aload_n (pc := 53) hx hb dX9_first_53 rfl (lv_at hl 1 rfl) ?_
    refine rk_getN (pc := 54) hx hb hts hown hK hW1 fnX9_203 0 (by decide) rfl rfl (x := .ref (b1 + 3)) (by first | rfl | exact congrArg (fun z => some (Value.ref z)) (by omega)) dX9_first_54 ?_
    refine lv_iload_n (pc := 57) hx hb dX9_first_57 rfl (lv_at hl 2 rfl) ?_
    refine lv_aload_n (pc := 58) hx hb dX9_first_58 rfl (lv_at hl 0 rfl) ?_
    refine rk_get (pc := 59) hx hb hts hown hK hW0 flX9_11 0 (by decide) rfl rfl (x := .ref (b0 + 1)) (by first | rfl | exact congrArg (fun z => some (Value.ref z)) (by omega)) dX9_first_59 ?_
    refine lv_bipush (pc := 62) (v := (7 : Int32)) hx hb dX9_first_62 (by decide) ?_
    refine lv_iload_n (pc := 64) hx hb dX9_first_64 rfl (lv_at hl 2 rfl) ?_
    refine lv_iadd (pc := 65) hx hb dX9_first_65 ?_
    obtain ⟨hg78, hm⟩ := gb_some hm
    refine rk_iald (pc := 66) hx hb hK hW0 1 (by decide) rfl rfl hg78 (x := (gI V0 1 ((7 : Int32) + i2).toNatClampNeg)) rfl dX9_first_66 ?_
    refine lv_i2l (pc := 67) hx hb dX9_first_67 rfl ?_
    obtain ⟨hg79, hm⟩ := gb_some hm
    refine rk_last (pc := 68) hx hb hK hW1 hS 3 (by decide) rfl (Or.inl (show iv _ _ _ from ⟨by omega, by omega⟩)) (fun _ _ _ => rfl) hg79 dX9_first_68 (fun H81 locs82 hW83 hS84 hz85 hkp86 => ?_)
    obtain ⟨v1_80, he9, hm⟩ := lm_some hm
    rw [he9] at hW83
    have hW87 := rg_keepq hW0 hkp86 (by omega)
    have hz88 := hz85.trans hz
    refine lv_aload_n (pc := 69) hx hb dX9_first_69 rfl (lv_at hl 1 rfl) ?_
    refine rk_getN (pc := 70) hx hb hts hown hK hW83 fnX9_206 0 (by decide) rfl rfl (x := .ref (b1 + 8)) (by first | rfl | exact congrArg (fun z => some (Value.ref z)) (by omega)) dX9_first_70 ?_
    refine lv_iload_n (pc := 73) hx hb dX9_first_73 rfl (lv_at hl 2 rfl) ?_
    refine lv_iload_n (pc := 74) hx hb dX9_first_74 rfl (lv_at hl 2 rfl) ?_
    obtain ⟨hg89, hm⟩ := gb_some hm
    refine rk_iast (pc := 75) hx hb hK hW83 hS84 8 (by decide) rfl (Or.inl (show iv _ _ _ from ⟨by omega, by omega⟩)) (fun _ _ _ => rfl) hg89 dX9_first_75 (fun H91 locs92 hW93 hS94 hz95 hkp96 => ?_)
    obtain ⟨v1_90, he9, hm⟩ := lm_some hm
    rw [he9] at hW93
    have hW97 := rg_keepq hW87 hkp96 (by omega)
    have hz98 := hz95.trans hz88
    refine lv_iinc (pc := 76) (v := (i2 + (1 : Int32))) (lv' := [(2, .int (i2 + (1 : Int32))), (0, .ref b0), (1, .ref b1)]) hx hb dX9_first_76 hl (k := 2) rfl rfl (by decide) rfl (fun ls hl => ?_)
    refine lv_goto (pc := 79) (tgt := 45) hx hb dX9_first_79 (by decide) ?_
    exact hk45 v1_90 (i2 + (1 : Int32)) hm H91 locs92 ls hW97 hW93 hS94 hz98 (lv_sub hl [1, 2, 0] rfl)
theorem w_fX9_first_45_l (C : Cx G p s m args meth c RX9 cX9_first 4 none) {b0 : Nat} {b1 : Nat} {V0 : Mem} {rw1 : Mem} (hd01 : b0 + 6 ≤ b1 ∨ b1 + 13 ≤ b0) : ∀ (n : Nat) (v1 : Mem) (i2 : Int32), lq2 (fX9_first_45 V0) n v1 i2 = some rw1 → ∀ (H : Heap) (locs : List Loc) (ls : Array Slot), rg G b0 6 (shX9 G.2.1) V0 H → rg G b1 13 (shX10 G.2.1) v1 H → va_S (FA (iv b1 13) s.heap.size) s.heap H locs → H.size = s.heap.size → lv_has ls 4 [(0, .ref b0), (1, .ref b1), (2, .int i2)] → W p l e (rmT 2 0 0 44) s m args below meth c H locs 0 0 (MQ below (QcT (FA (iv b1 13) s.heap.size) (fun ov H => ov = none ∧ rg G b1 13 (shX10 G.2.1) rw1 H ∧ H.size = s.heap.size)) args s 0 0 (FA (iv b1 13) s.heap.size)) (F0 m 45 ls []) := by
  intro n
  induction n with
  | zero => intro v1 i2 hm; exact (lq2_0 hm).elim
  | succ n ih => intro v1 i2 hm; exact w_fX9_first_45 C hd01 ih v1 i2 (lq2_s hm)
set_option maxHeartbeats 4000000 in
theorem w_fX9_first (C : Cx G p s m args meth c RX9 cX9_first 4 none) {b0 : Nat} {b1 : Nat} {V0 : Mem} {rw1 : Mem} (hd01 : b0 + 6 ≤ b1 ∨ b1 + 13 ≤ b0) : ∀ (v1 : Mem), fX9_first V0 v1 = some rw1 → ∀ (H : Heap) (locs : List Loc) (ls : Array Slot), rg G b0 6 (shX9 G.2.1) V0 H → rg G b1 13 (shX10 G.2.1) v1 H → va_S (FA (iv b1 13) s.heap.size) s.heap H locs → H.size = s.heap.size → lv_has ls 4 [(0, .ref b0), (1, .ref b1)] → W p l e (rmT 2 0 0 44) s m args below meth c H locs 0 0 (MQ below (QcT (FA (iv b1 13) s.heap.size) (fun ov H => ov = none ∧ rg G b1 13 (shX10 G.2.1) rw1 H ∧ H.size = s.heap.size)) args s 0 0 (FA (iv b1 13) s.heap.size)) (F0 m 0 ls []) := by
  intro v1 hm H locs ls hW0 hW1 hS hz hl
  obtain ⟨hx, hb, hr, hlk, hml, hown, hts, hK⟩ := id C
  unfold fX9_first at hm
  refine lv_aload_n (pc := 0) hx hb dX9_first_0 rfl (lv_at hl 1 rfl) ?_
  refine lv_aload_n (pc := 1) hx hb dX9_first_1 rfl (lv_at hl 0 rfl) ?_
  obtain ⟨r1, hq2, hm⟩ := ob_some hm
  refine rk_PV (pc := 2) (As := []) (rest := [.ref b1]) hx hb hml hown hts hK lkX9_89 rfl yn_X9_n (ct_X9_n (G := G) (l := l) (b0 := b0) hq2) ⟨Nat.le_of_ble_eq_true rfl, Nat.le_of_ble_eq_true rfl⟩ (rk_recv hK hW0 0 (by decide) rfl rfl rfl) hW0 rfl rfl hl.1 (Nat.le_of_ble_eq_true rfl) dX9_first_2 ⟨Nat.zero_le _, Nat.zero_le _⟩ ?_
  refine W.eq (g2 := F0 m 5 ls [.int r1, .ref b1]) rfl ?_
  refine rk_putN (pc := 5) hx hb hts hown hK hW1 hS fnX9_172 ft_X10 0 (by decide) rfl (Or.inl (show iv _ _ _ from ⟨by omega, by omega⟩)) rfl rfl (x := .int r1) rfl rfl (Nat.le_of_ble_eq_true rfl) (sI v1 0 14 r1) sI_ne (by rw [sI_eq]; exact rfl) dX9_first_5 (fun H4 locs5 hW6 hS7 hz8 hkp9 => ?_)
  obtain ⟨v1_3, he9, hm⟩ := lm_some hm
  rw [he9] at hW6
  have hW10 := rg_keepq hW0 hkp9 (by omega)
  have hz11 := hz8.trans hz
  refine lv_aload_n (pc := 8) hx hb dX9_first_8 rfl (lv_at hl 1 rfl) ?_
  refine lv_iconst (pc := 9) (v := (0 : Int32)) hx hb dX9_first_9 (by decide) ?_
  refine rk_putN (pc := 10) hx hb hts hown hK hW6 hS7 fnX9_178 ft_X10 0 (by decide) rfl (Or.inl (show iv _ _ _ from ⟨by omega, by omega⟩)) rfl rfl (x := .int (0 : Int32)) rfl rfl (Nat.le_of_ble_eq_true rfl) (sI v1_3 0 15 (0 : Int32)) sI_ne (by rw [sI_eq]; exact rfl) dX9_first_10 (fun H13 locs14 hW15 hS16 hz17 hkp18 => ?_)
  obtain ⟨v1_12, he9, hm⟩ := lm_some hm
  rw [he9] at hW15
  have hW19 := rg_keepq hW10 hkp18 (by omega)
  have hz20 := hz17.trans hz11
  refine lv_aload_n (pc := 13) hx hb dX9_first_13 rfl (lv_at hl 1 rfl) ?_
  refine lv_iconst (pc := 14) (v := (0 : Int32)) hx hb dX9_first_14 (by decide) ?_
  refine rk_putN (pc := 15) hx hb hts hown hK hW15 hS16 fnX9_187 ft_X10 0 (by decide) rfl (Or.inl (show iv _ _ _ from ⟨by omega, by omega⟩)) rfl rfl (x := .int (0 : Int32)) rfl rfl (Nat.le_of_ble_eq_true rfl) (sI v1_12 0 16 (0 : Int32)) sI_ne (by rw [sI_eq]; exact rfl) dX9_first_15 (fun H22 locs23 hW24 hS25 hz26 hkp27 => ?_)
  obtain ⟨v1_21, he9, hm⟩ := lm_some hm
  rw [he9] at hW24
  have hW28 := rg_keepq hW19 hkp27 (by omega)
  have hz29 := hz26.trans hz20
  refine lv_aload_n (pc := 18) hx hb dX9_first_18 rfl (lv_at hl 1 rfl) ?_
  refine lv_iconst (pc := 19) (v := (0 : Int32)) hx hb dX9_first_19 (by decide) ?_
  refine rk_putN (pc := 20) hx hb hts hown hK hW24 hS25 fnX9_190 ft_X10 0 (by decide) rfl (Or.inl (show iv _ _ _ from ⟨by omega, by omega⟩)) rfl rfl (x := .int (0 : Int32)) rfl rfl (Nat.le_of_ble_eq_true rfl) (sI v1_21 0 17 (0 : Int32)) sI_ne (by rw [sI_eq]; exact rfl) dX9_first_20 (fun H31 locs32 hW33 hS34 hz35 hkp36 => ?_)
  obtain ⟨v1_30, he9, hm⟩ := lm_some hm
  rw [he9] at hW33
  have hW37 := rg_keepq hW28 hkp36 (by omega)
  have hz38 := hz35.trans hz29
  refine lv_aload_n (pc := 23) hx hb dX9_first_23 rfl (lv_at hl 1 rfl) ?_
  refine lv_lconst (pc := 24) (v := (0 : Int64)) hx hb dX9_first_24 (by decide) ?_
  refine rk_putN (pc := 25) hx hb hts hown hK hW33 hS34 fnX9_193 ft_X10 0 (by decide) rfl (Or.inl (show iv _ _ _ from ⟨by omega, by omega⟩)) rfl rfl (x := .long (0 : Int64)) rfl rfl (Nat.le_of_ble_eq_true rfl) (sL v1_30 0 12 (0 : Int64)) sL_ne (by rw [sL_eq]; exact rfl) dX9_first_25 (fun H40 locs41 hW42 hS43 hz44 hkp45 => ?_)
  obtain ⟨v1_39, he9, hm⟩ := lm_some hm
  rw [he9] at hW42
  have hW46 := rg_keepq hW37 hkp45 (by omega)
  have hz47 := hz44.trans hz38
  refine lv_aload_n (pc := 28) hx hb dX9_first_28 rfl (lv_at hl 1 rfl) ?_
  refine lv_lconst (pc := 29) (v := (1 : Int64)) hx hb dX9_first_29 (by decide) ?_
  refine rk_putN (pc := 30) hx hb hts hown hK hW42 hS43 fnX9_197 ft_X10 0 (by decide) rfl (Or.inl (show iv _ _ _ from ⟨by omega, by omega⟩)) rfl rfl (x := .long (1 : Int64)) rfl rfl (Nat.le_of_ble_eq_true rfl) (sL v1_39 0 13 (1 : Int64)) sL_ne (by rw [sL_eq]; exact rfl) dX9_first_30 (fun H49 locs50 hW51 hS52 hz53 hkp54 => ?_)
  obtain ⟨v1_48, he9, hm⟩ := lm_some hm
  rw [he9] at hW51
  have hW55 := rg_keepq hW46 hkp54 (by omega)
  have hz56 := hz53.trans hz47
  refine lv_aload_n (pc := 33) hx hb dX9_first_33 rfl (lv_at hl 1 rfl) ?_
  refine lv_iconst (pc := 34) (v := (1 : Int32)) hx hb dX9_first_34 (by decide) ?_
  refine rk_putN (pc := 35) hx hb hts hown hK hW51 hS52 fnX9_85 ft_X10 0 (by decide) rfl (Or.inl (show iv _ _ _ from ⟨by omega, by omega⟩)) rfl rfl (x := .int (1 : Int32)) rfl rfl (Nat.le_of_ble_eq_true rfl) (sI v1_48 0 18 (1 : Int32)) sI_ne (by rw [sI_eq]; exact rfl) dX9_first_35 (fun H58 locs59 hW60 hS61 hz62 hkp63 => ?_)
  obtain ⟨v1_57, he9, hm⟩ := lm_some hm
  rw [he9] at hW60
  have hW64 := rg_keepq hW55 hkp63 (by omega)
  have hz65 := hz62.trans hz56
  refine lv_aload_n (pc := 38) hx hb dX9_first_38 rfl (lv_at hl 1 rfl) ?_
  refine lv_iconst (pc := 39) (v := (0 : Int32)) hx hb dX9_first_39 (by decide) ?_
  refine rk_putN (pc := 40) hx hb hts hown hK hW60 hS61 fnX9_200 ft_X10 0 (by decide) rfl (Or.inl (show iv _ _ _ from ⟨by omega, by omega⟩)) rfl rfl (x := .int (0 : Int32)) rfl rfl (Nat.le_of_ble_eq_true rfl) (sI v1_57 0 19 (0 : Int32)) sI_ne (by rw [sI_eq]; exact rfl) dX9_first_40 (fun H67 locs68 hW69 hS70 hz71 hkp72 => ?_)
  obtain ⟨v1_66, he9, hm⟩ := lm_some hm
  rw [he9] at hW69
  have hW73 := rg_keepq hW64 hkp72 (by omega)
  have hz74 := hz71.trans hz65
  refine lv_iconst (pc := 43) (v := (0 : Int32)) hx hb dX9_first_43 (by decide) ?_
  refine lv_istore_n (pc := 44) (lv' := [(2, .int (0 : Int32)), (0, .ref b0), (1, .ref b1)]) hx hb dX9_first_44 rfl hl (by decide) rfl (fun ls hl => ?_)
  exact (w_fX9_first_45_l C hd01 FU) v1_66 (0 : Int32) hm H67 locs68 ls hW73 hW69 hS70 hz74 (lv_sub hl [1, 2, 0] rfl)
set_option maxHeartbeats 4000000 in
theorem ct_X9_first {G : Gv} {l : Launch} {b0 : Nat} {b1 : Nat} {V0 : Mem} {v1 : Mem} {rw1 : Mem} {sz : Nat} (hm : fX9_first V0 v1 = some rw1) (hd01 : b0 + 6 ≤ b1 ∨ b1 + 13 ≤ b0) : CT G l yX9_first (ws_ yX9_first cX9_first 4 none) 2 0 0 44 [.ref b0, .ref b1] (iv b1 13) sz (fun H => rg G b0 6 (shX9 G.2.1) V0 H ∧ rg G b1 13 (shX10 G.2.1) v1 H) (fun ov H => ov = none ∧ rg G b1 13 (shX10 G.2.1) rw1 H ∧ H.size = sz) := by
  refine Met.ofW (cc := cX9_first) (maxL := 4) (ret := none) (by decide +kernel) rfl ?_
  intro p e s m args below meth c s₁ B hml hv
  obtain ⟨rfl, ⟨hz, hW0, hW1⟩, hK⟩ := hv
  subst hz
  have hts := atoms_spec (ws := ws_ yX9_first cX9_first 4 none) B.pre
  have hts : ∀ w ∈ lw_all, w.before _ s = true := fun w h => hts w (List.mem_cons_of_mem _ h)
  have C : Cx G p s m _ meth c RX9 cX9_first 4 none := ⟨B.exec, B.bytes, B.returns, B.notSynchronized, hml, findClass_of_methodNamed B.named, hts, hK⟩
  have hl := lv_entry ([.ref b0, .ref b1]) (n := 4) (Nat.le_of_ble_eq_true rfl)
  rw [lg_entry_eq]
  generalize (lg_sl ([.ref b0, .ref b1]) ++ List.replicate (4 - (lg_sl ([.ref b0, .ref b1])).length) Slot.unset).toArray = ls at hl ⊢
  have hl : lv_has ls 4 [(0, .ref b0), (1, .ref b1)] := hl
  exact w_fX9_first C hd01 _ hm s.heap [] ls hW0 hW1 va_S.rf rfl hl
noncomputable def fX9_isNear (j0 : Int64) : Option (Int32) :=
  if j0 < (-1000000000 : Int64) then (
  some (0 : Int32))
  else (
  if (1000000000 : Int64) < j0 then (
  some (0 : Int32))
  else (
  some (1 : Int32)))
set_option maxHeartbeats 4000000 in
theorem w_fX9_isNear (C : Cx G p s m args meth c RX9 cX9_isNear 2 (some .boolean)) {rx : Int32} : ∀ (j0 : Int64), fX9_isNear j0 = some rx → ∀ (ls : Array Slot), lv_has ls 2 [(0, .long j0)] → W p l e (rmP 0 0) s m args below meth c s.heap [] 0 0 (MQ below (QcP (some (.int rx))) args s 0 0 (fun _ => False)) (F0 m 0 ls []) := by
  intro j0 hm ls hl
  obtain ⟨hx, hb, hr, hlk, hml, hown, hts, hK⟩ := id C
  unfold fX9_isNear at hm
  refine lv_lload_n (pc := 0) hx hb dX9_isNear_0 rfl (lv_at hl 0 rfl) ?_
  refine lv_ldc2 (pc := 1) (v := (-1000000000 : Int64)) hx hb hown (hts _ q2069) dX9_isNear_1 ?_
  refine rk_lcmp_lt (pc := 4) (tgt := 20) hx hb dX9_isNear_4 rfl dX9_isNear_5 (by decide) (fun c1 => ?_) (fun c1 => ?_)
  · have hm := ite_t c1 hm
    refine lv_iconst (pc := 20) (v := (0 : Int32)) hx hb dX9_isNear_20 (by decide) ?_
    have e9 := rs1 hm
    subst e9
    exact rk_zretP (pc := 21) hx hb hr hlk rfl rfl dX9_isNear_21
  · have hm := ite_f c1 hm
    refine lv_lload_n (pc := 8) hx hb dX9_isNear_8 rfl (lv_at hl 0 rfl) ?_
    refine lv_ldc2 (pc := 9) (v := (1000000000 : Int64)) hx hb hown (hts _ q2070) dX9_isNear_9 ?_
    refine rk_lcmp_gt (pc := 12) (tgt := 20) hx hb dX9_isNear_12 rfl dX9_isNear_13 (by decide) (fun c2 => ?_) (fun c2 => ?_)
    · have hm := ite_t c2 hm
      refine lv_iconst (pc := 20) (v := (0 : Int32)) hx hb dX9_isNear_20 (by decide) ?_
      have e9 := rs1 hm
      subst e9
      exact rk_zretP (pc := 21) hx hb hr hlk rfl rfl dX9_isNear_21
    · have hm := ite_f c2 hm
      refine lv_iconst (pc := 16) (v := (1 : Int32)) hx hb dX9_isNear_16 (by decide) ?_
      refine lv_goto (pc := 17) (tgt := 21) hx hb dX9_isNear_17 (by decide) ?_
      have e9 := rs1 hm
      subst e9
      exact rk_zretP (pc := 21) hx hb hr hlk rfl rfl dX9_isNear_21
set_option maxHeartbeats 4000000 in
theorem ct_X9_isNear {G : Gv} {l : Launch} {j0 : Int64} {rx : Int32} (hm : fX9_isNear j0 = some rx) : CP G l yX9_isNear (ws_ yX9_isNear cX9_isNear 2 (some .boolean)) 0 0 [.long j0] (fun H => True) (some (.int rx)) := by
  refine Met.ofW (cc := cX9_isNear) (maxL := 2) (ret := (some .boolean)) (by decide +kernel) rfl ?_
  intro p e s m args below meth c s₁ B hml hv
  obtain ⟨rfl, -, hK⟩ := hv
  have hts := atoms_spec (ws := ws_ yX9_isNear cX9_isNear 2 (some .boolean)) B.pre
  have hts : ∀ w ∈ lw_all, w.before _ s = true := fun w h => hts w (List.mem_cons_of_mem _ h)
  have C : Cx G p s m _ meth c RX9 cX9_isNear 2 (some .boolean) := ⟨B.exec, B.bytes, B.returns, B.notSynchronized, hml, findClass_of_methodNamed B.named, hts, hK⟩
  have hl := lv_entry ([.long j0]) (n := 2) (Nat.le_of_ble_eq_true rfl)
  rw [lg_entry_eq]
  generalize (lg_sl ([.long j0]) ++ List.replicate (2 - (lg_sl ([.long j0])).length) Slot.unset).toArray = ls at hl ⊢
  have hl : lv_has ls 2 [(0, .long j0)] := hl
  exact w_fX9_isNear C _ hm ls hl
end
