set_option maxRecDepth 100000
section
variable {p : Program} {l : Launch} {e : Env} {s : State} {m : MethodId} {args : Array Value} {below : List Frame} {meth : Method} {c : Code} {G : Gv}
def shO_X10 : Shp := fun _ _ x y z => some (.inr (10, [va_rf (z 0), va_rf (z 1), va_rf (z 2), va_rf (z 3), va_rf (z 4), va_rf (z 5), va_rf (z 6), va_rf (z 7), va_rf (z 8), va_rf (z 9), va_rf (z 10), va_rf (z 11), .long (y 12), .long (y 13), .int (x 14), .int (x 15), .int (x 16), .int (x 17), .int (x 18), .int (x 19)]))
theorem df_X10 (fs : List Value) (h : fs = [.null, .null, .null, .null, .null, .null, .null, .null, .null, .null, .null, .null, .long 0, .long 0, .int 0, .int 0, .int 0, .int 0, .int 0, .int 0]) : ∀ j, j < 20 → defaultValue (tyX10 j) = vp_V fs j := by
  subst h
  intro j hj
  match j, hj with
  | 0, _ => rfl
  | 1, _ => rfl
  | 2, _ => rfl
  | 3, _ => rfl
  | 4, _ => rfl
  | 5, _ => rfl
  | 6, _ => rfl
  | 7, _ => rfl
  | 8, _ => rfl
  | 9, _ => rfl
  | 10, _ => rfl
  | 11, _ => rfl
  | 12, _ => rfl
  | 13, _ => rfl
  | 14, _ => rfl
  | 15, _ => rfl
  | 16, _ => rfl
  | 17, _ => rfl
  | 18, _ => rfl
  | 19, _ => rfl
  | n + 20, h => exact absurd h (by omega)
theorem flX10_9 : FL RX10 9 10 0 RX10 TX10 20 := ⟨in_X10, rfl, by decide, q1751⟩
theorem flX10_15 : FL RX10 15 10 1 RX10 TX10 20 := ⟨in_X10, rfl, by decide, q1753⟩
theorem flX10_18 : FL RX10 18 10 2 RX10 TX10 20 := ⟨in_X10, rfl, by decide, q1755⟩
theorem flX10_21 : FL RX10 21 10 3 RX10 TX10 20 := ⟨in_X10, rfl, by decide, q1757⟩
theorem flX10_24 : FL RX10 24 10 4 RX10 TX10 20 := ⟨in_X10, rfl, by decide, q1759⟩
theorem flX10_27 : FL RX10 27 10 5 RX10 TX10 20 := ⟨in_X10, rfl, by decide, q1761⟩
theorem flX10_30 : FL RX10 30 10 6 RX10 TX10 20 := ⟨in_X10, rfl, by decide, q1763⟩
theorem flX10_34 : FL RX10 34 10 7 RX10 TX10 20 := ⟨in_X10, rfl, by decide, q1765⟩
theorem flX10_37 : FL RX10 37 10 8 RX10 TX10 20 := ⟨in_X10, rfl, by decide, q1767⟩
theorem flX10_40 : FL RX10 40 10 9 RX10 TX10 20 := ⟨in_X10, rfl, by decide, q1769⟩
theorem flX10_43 : FL RX10 43 10 10 RX10 TX10 20 := ⟨in_X10, rfl, by decide, q1771⟩
theorem flX10_46 : FL RX10 46 10 11 RX10 TX10 20 := ⟨in_X10, rfl, by decide, q1773⟩
def vo_X10_init_13 (b0 : Nat) : Mem := sR mz 0 0 (some (b0 + 1))
def vo_X10_init_32 (b0 : Nat) : Mem := sR (vo_X10_init_13 b0) 0 1 (some (b0 + 2))
def vo_X10_init_52 (b0 : Nat) : Mem := sR (vo_X10_init_32 b0) 0 2 (some (b0 + 3))
def vo_X10_init_72 (b0 : Nat) : Mem := sR (vo_X10_init_52 b0) 0 3 (some (b0 + 4))
def vo_X10_init_92 (b0 : Nat) : Mem := sR (vo_X10_init_72 b0) 0 4 (some (b0 + 5))
def vo_X10_init_112 (b0 : Nat) : Mem := sR (vo_X10_init_92 b0) 0 5 (some (b0 + 6))
def vo_X10_init_132 (b0 : Nat) : Mem := sR (vo_X10_init_112 b0) 0 6 (some (b0 + 7))
def vo_X10_init_152 (b0 : Nat) : Mem := sR (vo_X10_init_132 b0) 0 7 (some (b0 + 8))
def vo_X10_init_172 (b0 : Nat) : Mem := sR (vo_X10_init_152 b0) 0 8 (some (b0 + 9))
def vo_X10_init_192 (b0 : Nat) : Mem := sR (vo_X10_init_172 b0) 0 9 (some (b0 + 10))
def vo_X10_init_212 (b0 : Nat) : Mem := sR (vo_X10_init_192 b0) 0 10 (some (b0 + 11))
def vo_X10_init_232 (b0 : Nat) : Mem := sR (vo_X10_init_212 b0) 0 11 (some (b0 + 12))
def vf_X10_init_1 (b0 : Nat) : Mem := ptm (mz) 1 1 mz
def vf_X10_init_2 (b0 : Nat) : Mem := ptm (vf_X10_init_1 b0) 2 1 mz
def vf_X10_init_3 (b0 : Nat) : Mem := ptm (vf_X10_init_2 b0) 3 1 mz
def vf_X10_init_4 (b0 : Nat) : Mem := ptm (vf_X10_init_3 b0) 4 1 mz
def vf_X10_init_5 (b0 : Nat) : Mem := ptm (vf_X10_init_4 b0) 5 1 mz
def vf_X10_init_6 (b0 : Nat) : Mem := ptm (vf_X10_init_5 b0) 6 1 mz
def vf_X10_init_7 (b0 : Nat) : Mem := ptm (vf_X10_init_6 b0) 7 1 mz
def vf_X10_init_8 (b0 : Nat) : Mem := ptm (vf_X10_init_7 b0) 8 1 mz
def vf_X10_init_9 (b0 : Nat) : Mem := ptm (vf_X10_init_8 b0) 9 1 mz
def vf_X10_init_10 (b0 : Nat) : Mem := ptm (vf_X10_init_9 b0) 10 1 mz
def vf_X10_init_11 (b0 : Nat) : Mem := ptm (vf_X10_init_10 b0) 11 1 mz
def vf_X10_init_12 (b0 : Nat) : Mem := ptm (vf_X10_init_11 b0) 12 1 mz
def vc_X10 (b0 : Nat) : Mem := (vf_X10_init_12 b0)
set_option maxHeartbeats 4000000 in
theorem ct_X10_init {G : Gv} {l : Launch} {b0 : Nat} {sz : Nat} (hsz : sz = b0 + 1) : CT G l yX10_init (ws_ yX10_init cX10_init 1 none) 1 12 599 32 [.ref b0] (iv b0 1) sz (fun H => rg G b0 1 shO_X10 mz H) (fun ov H => ov = none ∧ rg G b0 13 (shX10 G.2.1) (vc_X10 b0) H ∧ H.size = b0 + 13) := by
  refine Met.ofW (cc := cX10_init) (maxL := 1) (ret := none) (by decide +kernel) rfl ?_
  intro p e s m args below meth c s₁ B hml hv
  obtain ⟨rfl, ⟨hz, hW0⟩, hK⟩ := hv
  subst hz
  have hz : s.heap.size = b0 + 1 := hsz
  have hin : meth.name = "<init>" := (name_of_methodNamed B.named B.method).1
  have hts := atoms_spec (ws := ws_ yX10_init cX10_init 1 none) B.pre
  have hts : ∀ w ∈ lw_all, w.before _ s = true := fun w h => hts w (List.mem_cons_of_mem _ h)
  have C : Cx G p s m _ meth c RX10 cX10_init 1 none := ⟨B.exec, B.bytes, B.returns, B.notSynchronized, hml, findClass_of_methodNamed B.named, hts, hK⟩
  obtain ⟨hx, hb, hr, hlk, hml, hown, hts, hK⟩ := id C
  have hl := lv_entry ([.ref b0]) (n := 1) (Nat.le_of_ble_eq_true rfl)
  rw [lg_entry_eq]
  generalize (lg_sl ([.ref b0]) ++ List.replicate (1 - (lg_sl ([.ref b0])).length) Slot.unset).toArray = ls at hl ⊢
  have hl : lv_has ls 1 [(0, .ref b0)] := hl
  have hS0 : va_S (FA (iv b0 1) s.heap.size) s.heap s.heap [] := va_S.rf
  refine lv_aload_n (pc := 0) hx hb dX10_init_0 rfl (lv_at hl 0 rfl) ?_
  refine W.objInit hx hb hown (hts _ q1750) (hts _ q159) (hts _ q160) rfl (by rw [hml]; exact hl.1) rfl dX10_init_1 (Nat.le_of_ble_eq_true rfl) (Nat.le_of_ble_eq_true rfl) ?_
  refine W.eq (g2 := F0 m 4 ls []) rfl ?_
  refine lv_aload_n (pc := 4) hx hb dX10_init_4 rfl (lv_at hl 0 rfl) ?_
  refine lv_bipush (pc := 5) (v := (100 : Int32)) hx hb dX10_init_5 (by decide) ?_
  refine rk_newarr (pc := 7) (atype := .long) (h := b0 + 1) (sh := (fun _ _ x y _ => some (.inl (G.2.1 1, 100, .inr (.inl y))))) hx hb hts hK hS0 q273 1 rfl (fun _ h => nomatch h) hz rfl rfl (by decide) rfl (Nat.le_of_ble_eq_true rfl) (Nat.le_of_ble_eq_true rfl) (Nat.le_of_ble_eq_true rfl) dX10_init_7 (fun H1 hW2 hS3 hz4 hkp5 => ?_)
  have hW6 := rg_keepN hW0 hz hkp5
  have hz7 : H1.size = b0 + 2 := by omega
  clear hW0 hS0 hz hz4 hkp5
  refine rk_putF (pc := 9) (q := b0) hx hb hts hown hK hW6 hS3 flX10_9 ft_X10 0 (by decide) rfl (Or.inl (show iv _ _ _ from ⟨by omega, by omega⟩)) rfl rfl hin rfl (x := va_rf (some (b0 + 1))) (rf_nar _ rfl (some (b0 + 1))) (rf_fit _ rfl (some (b0 + 1))) (Nat.le_of_ble_eq_true rfl) (sR mz 0 0 (some (b0 + 1))) sR_ne (by rw [sR_eq]; rfl) dX10_init_9 (fun H8 locs9 hW10 hS11 hz12 hkp13 => ?_)
  have hW10 : rg G b0 1 shO_X10 (vo_X10_init_13 b0) H8 := hW10
  have hW14 := rg_keepq hW2 hkp13 (by omega)
  have hz15 := hz12.trans hz7
  clear hW6 hW2 hz7 hz12 hS3 hkp13
  have ap16 := Ap.cons (x := ((b0 + 1), 1, (fun _ _ x y _ => some (.inl (G.2.1 1, 100, .inr (.inl y)))), mz)) (Or.inl (show b0 < (b0 + 1) by omega)) (Ap.nil (q := b0))
  have hP17 := PP.cons (hi' := b0 + 2) hW14 (PP.nil (hi := b0)) (by omega) (by omega)
  clear hW14
  refine lv_aload_n (pc := 12) hx hb dX10_init_12 rfl (lv_at hl 0 rfl) ?_
  refine lv_bipush (pc := 13) (v := (20 : Int32)) hx hb dX10_init_13 (by decide) ?_
  refine rk_newarr (pc := 15) (atype := .long) (h := b0 + 2) (sh := (fun _ _ x y _ => some (.inl (G.2.1 1, 20, .inr (.inl y))))) hx hb hts hK hS11 q273 1 rfl (fun _ h => nomatch h) hz15 rfl rfl (by decide) rfl (Nat.le_of_ble_eq_true rfl) (Nat.le_of_ble_eq_true rfl) (Nat.le_of_ble_eq_true rfl) dX10_init_15 (fun H18 hW19 hS20 hz21 hkp22 => ?_)
  have hW23 := rg_keepN hW10 hz15 hkp22
  have hP24 := PP.keepN hP17 hz15 hkp22
  have ap25 := PP.ap (q := (b0 + 2)) hP24 (by omega)
  have hz26 : H18.size = b0 + 3 := by omega
  clear hW10 hP17 hS11 hz15 hz21 hkp22
  refine rk_putF (pc := 17) (q := b0) hx hb hts hown hK hW23 hS20 flX10_15 ft_X10 0 (by decide) rfl (Or.inl (show iv _ _ _ from ⟨by omega, by omega⟩)) rfl rfl hin rfl (x := va_rf (some (b0 + 2))) (rf_nar _ rfl (some (b0 + 2))) (rf_fit _ rfl (some (b0 + 2))) (Nat.le_of_ble_eq_true rfl) (sR (vo_X10_init_13 b0) 0 1 (some (b0 + 2))) sR_ne (by rw [sR_eq]; rfl) dX10_init_17 (fun H27 locs28 hW29 hS30 hz31 hkp32 => ?_)
  have hW29 : rg G b0 1 shO_X10 (vo_X10_init_32 b0) H27 := hW29
  have hW33 := rg_keepq hW19 hkp32 (by omega)
  have hP34 := PP.keepq hP24 hkp32 ap16
  have hz35 := hz31.trans hz26
  clear hW23 hW19 hP24 hz26 hz31 hS20 hkp32
  have ap36 := Ap.cons (x := ((b0 + 2), 1, (fun _ _ x y _ => some (.inl (G.2.1 1, 20, .inr (.inl y)))), mz)) (Or.inl (show b0 < (b0 + 2) by omega)) ap16
  have hP37 := PP.cons (hi' := b0 + 3) hW33 hP34 (by omega) (by omega)
  clear ap16 hP34 hW33
  refine lv_aload_n (pc := 20) hx hb dX10_init_20 rfl (lv_at hl 0 rfl) ?_
  refine lv_iconst (pc := 21) (v := (5 : Int32)) hx hb dX10_init_21 (by decide) ?_
  refine rk_newarr (pc := 22) (atype := .long) (h := b0 + 3) (sh := (fun _ _ x y _ => some (.inl (G.2.1 1, 5, .inr (.inl y))))) hx hb hts hK hS30 q273 1 rfl (fun _ h => nomatch h) hz35 rfl rfl (by decide) rfl (Nat.le_of_ble_eq_true rfl) (Nat.le_of_ble_eq_true rfl) (Nat.le_of_ble_eq_true rfl) dX10_init_22 (fun H38 hW39 hS40 hz41 hkp42 => ?_)
  have hW43 := rg_keepN hW29 hz35 hkp42
  have hP44 := PP.keepN hP37 hz35 hkp42
  have ap45 := PP.ap (q := (b0 + 3)) hP44 (by omega)
  have hz46 : H38.size = b0 + 4 := by omega
  clear hW29 hP37 hS30 hz35 hz41 hkp42
  refine rk_putF (pc := 24) (q := b0) hx hb hts hown hK hW43 hS40 flX10_18 ft_X10 0 (by decide) rfl (Or.inl (show iv _ _ _ from ⟨by omega, by omega⟩)) rfl rfl hin rfl (x := va_rf (some (b0 + 3))) (rf_nar _ rfl (some (b0 + 3))) (rf_fit _ rfl (some (b0 + 3))) (Nat.le_of_ble_eq_true rfl) (sR (vo_X10_init_32 b0) 0 2 (some (b0 + 3))) sR_ne (by rw [sR_eq]; rfl) dX10_init_24 (fun H47 locs48 hW49 hS50 hz51 hkp52 => ?_)
  have hW49 : rg G b0 1 shO_X10 (vo_X10_init_52 b0) H47 := hW49
  have hW53 := rg_keepq hW39 hkp52 (by omega)
  have hP54 := PP.keepq hP44 hkp52 ap36
  have hz55 := hz51.trans hz46
  clear hW43 hW39 hP44 hz46 hz51 hS40 hkp52
  have ap56 := Ap.cons (x := ((b0 + 3), 1, (fun _ _ x y _ => some (.inl (G.2.1 1, 5, .inr (.inl y)))), mz)) (Or.inl (show b0 < (b0 + 3) by omega)) ap36
  have hP57 := PP.cons (hi' := b0 + 4) hW53 hP54 (by omega) (by omega)
  clear ap36 hP54 hW53
  refine lv_aload_n (pc := 27) hx hb dX10_init_27 rfl (lv_at hl 0 rfl) ?_
  refine lv_bipush (pc := 28) (v := (100 : Int32)) hx hb dX10_init_28 (by decide) ?_
  refine rk_newarr (pc := 30) (atype := .long) (h := b0 + 4) (sh := (fun _ _ x y _ => some (.inl (G.2.1 1, 100, .inr (.inl y))))) hx hb hts hK hS50 q273 1 rfl (fun _ h => nomatch h) hz55 rfl rfl (by decide) rfl (Nat.le_of_ble_eq_true rfl) (Nat.le_of_ble_eq_true rfl) (Nat.le_of_ble_eq_true rfl) dX10_init_30 (fun H58 hW59 hS60 hz61 hkp62 => ?_)
  have hW63 := rg_keepN hW49 hz55 hkp62
  have hP64 := PP.keepN hP57 hz55 hkp62
  have ap65 := PP.ap (q := (b0 + 4)) hP64 (by omega)
  have hz66 : H58.size = b0 + 5 := by omega
  clear hW49 hP57 hS50 hz55 hz61 hkp62
  refine rk_putF (pc := 32) (q := b0) hx hb hts hown hK hW63 hS60 flX10_21 ft_X10 0 (by decide) rfl (Or.inl (show iv _ _ _ from ⟨by omega, by omega⟩)) rfl rfl hin rfl (x := va_rf (some (b0 + 4))) (rf_nar _ rfl (some (b0 + 4))) (rf_fit _ rfl (some (b0 + 4))) (Nat.le_of_ble_eq_true rfl) (sR (vo_X10_init_52 b0) 0 3 (some (b0 + 4))) sR_ne (by rw [sR_eq]; rfl) dX10_init_32 (fun H67 locs68 hW69 hS70 hz71 hkp72 => ?_)
  have hW69 : rg G b0 1 shO_X10 (vo_X10_init_72 b0) H67 := hW69
  have hW73 := rg_keepq hW59 hkp72 (by omega)
  have hP74 := PP.keepq hP64 hkp72 ap56
  have hz75 := hz71.trans hz66
  clear hW63 hW59 hP64 hz66 hz71 hS60 hkp72
  have ap76 := Ap.cons (x := ((b0 + 4), 1, (fun _ _ x y _ => some (.inl (G.2.1 1, 100, .inr (.inl y)))), mz)) (Or.inl (show b0 < (b0 + 4) by omega)) ap56
  have hP77 := PP.cons (hi' := b0 + 5) hW73 hP74 (by omega) (by omega)
  clear ap56 hP74 hW73
  refine lv_aload_n (pc := 35) hx hb dX10_init_35 rfl (lv_at hl 0 rfl) ?_
  refine lv_bipush (pc := 36) (v := (20 : Int32)) hx hb dX10_init_36 (by decide) ?_
  refine rk_newarr (pc := 38) (atype := .long) (h := b0 + 5) (sh := (fun _ _ x y _ => some (.inl (G.2.1 1, 20, .inr (.inl y))))) hx hb hts hK hS70 q273 1 rfl (fun _ h => nomatch h) hz75 rfl rfl (by decide) rfl (Nat.le_of_ble_eq_true rfl) (Nat.le_of_ble_eq_true rfl) (Nat.le_of_ble_eq_true rfl) dX10_init_38 (fun H78 hW79 hS80 hz81 hkp82 => ?_)
  have hW83 := rg_keepN hW69 hz75 hkp82
  have hP84 := PP.keepN hP77 hz75 hkp82
  have ap85 := PP.ap (q := (b0 + 5)) hP84 (by omega)
  have hz86 : H78.size = b0 + 6 := by omega
  clear hW69 hP77 hS70 hz75 hz81 hkp82
  refine rk_putF (pc := 40) (q := b0) hx hb hts hown hK hW83 hS80 flX10_24 ft_X10 0 (by decide) rfl (Or.inl (show iv _ _ _ from ⟨by omega, by omega⟩)) rfl rfl hin rfl (x := va_rf (some (b0 + 5))) (rf_nar _ rfl (some (b0 + 5))) (rf_fit _ rfl (some (b0 + 5))) (Nat.le_of_ble_eq_true rfl) (sR (vo_X10_init_72 b0) 0 4 (some (b0 + 5))) sR_ne (by rw [sR_eq]; rfl) dX10_init_40 (fun H87 locs88 hW89 hS90 hz91 hkp92 => ?_)
  have hW89 : rg G b0 1 shO_X10 (vo_X10_init_92 b0) H87 := hW89
  have hW93 := rg_keepq hW79 hkp92 (by omega)
  have hP94 := PP.keepq hP84 hkp92 ap76
  have hz95 := hz91.trans hz86
  clear hW83 hW79 hP84 hz86 hz91 hS80 hkp92
  have ap96 := Ap.cons (x := ((b0 + 5), 1, (fun _ _ x y _ => some (.inl (G.2.1 1, 20, .inr (.inl y)))), mz)) (Or.inl (show b0 < (b0 + 5) by omega)) ap76
  have hP97 := PP.cons (hi' := b0 + 6) hW93 hP94 (by omega) (by omega)
  clear ap76 hP94 hW93
  refine lv_aload_n (pc := 43) hx hb dX10_init_43 rfl (lv_at hl 0 rfl) ?_
  refine lv_iconst (pc := 44) (v := (5 : Int32)) hx hb dX10_init_44 (by decide) ?_
  refine rk_newarr (pc := 45) (atype := .long) (h := b0 + 6) (sh := (fun _ _ x y _ => some (.inl (G.2.1 1, 5, .inr (.inl y))))) hx hb hts hK hS90 q273 1 rfl (fun _ h => nomatch h) hz95 rfl rfl (by decide) rfl (Nat.le_of_ble_eq_true rfl) (Nat.le_of_ble_eq_true rfl) (Nat.le_of_ble_eq_true rfl) dX10_init_45 (fun H98 hW99 hS100 hz101 hkp102 => ?_)
  have hW103 := rg_keepN hW89 hz95 hkp102
  have hP104 := PP.keepN hP97 hz95 hkp102
  have ap105 := PP.ap (q := (b0 + 6)) hP104 (by omega)
  have hz106 : H98.size = b0 + 7 := by omega
  clear hW89 hP97 hS90 hz95 hz101 hkp102
  refine rk_putF (pc := 47) (q := b0) hx hb hts hown hK hW103 hS100 flX10_27 ft_X10 0 (by decide) rfl (Or.inl (show iv _ _ _ from ⟨by omega, by omega⟩)) rfl rfl hin rfl (x := va_rf (some (b0 + 6))) (rf_nar _ rfl (some (b0 + 6))) (rf_fit _ rfl (some (b0 + 6))) (Nat.le_of_ble_eq_true rfl) (sR (vo_X10_init_92 b0) 0 5 (some (b0 + 6))) sR_ne (by rw [sR_eq]; rfl) dX10_init_47 (fun H107 locs108 hW109 hS110 hz111 hkp112 => ?_)
  have hW109 : rg G b0 1 shO_X10 (vo_X10_init_112 b0) H107 := hW109
  have hW113 := rg_keepq hW99 hkp112 (by omega)
  have hP114 := PP.keepq hP104 hkp112 ap96
  have hz115 := hz111.trans hz106
  clear hW103 hW99 hP104 hz106 hz111 hS100 hkp112
  have ap116 := Ap.cons (x := ((b0 + 6), 1, (fun _ _ x y _ => some (.inl (G.2.1 1, 5, .inr (.inl y)))), mz)) (Or.inl (show b0 < (b0 + 6) by omega)) ap96
  have hP117 := PP.cons (hi' := b0 + 7) hW113 hP114 (by omega) (by omega)
  clear ap96 hP114 hW113
  refine lv_aload_n (pc := 50) hx hb dX10_init_50 rfl (lv_at hl 0 rfl) ?_
  refine lv_bipush (pc := 51) (v := (20 : Int32)) hx hb dX10_init_51 (by decide) ?_
  refine rk_newarr (pc := 53) (atype := .int) (h := b0 + 7) (sh := (fun _ _ x y _ => some (.inl (G.2.1 0, 20, .inl x)))) hx hb hts hK hS110 q190 0 rfl (fun _ h => nomatch h) hz115 rfl rfl (by decide) rfl (Nat.le_of_ble_eq_true rfl) (Nat.le_of_ble_eq_true rfl) (Nat.le_of_ble_eq_true rfl) dX10_init_53 (fun H118 hW119 hS120 hz121 hkp122 => ?_)
  have hW123 := rg_keepN hW109 hz115 hkp122
  have hP124 := PP.keepN hP117 hz115 hkp122
  have ap125 := PP.ap (q := (b0 + 7)) hP124 (by omega)
  have hz126 : H118.size = b0 + 8 := by omega
  clear hW109 hP117 hS110 hz115 hz121 hkp122
  refine rk_putF (pc := 55) (q := b0) hx hb hts hown hK hW123 hS120 flX10_30 ft_X10 0 (by decide) rfl (Or.inl (show iv _ _ _ from ⟨by omega, by omega⟩)) rfl rfl hin rfl (x := va_rf (some (b0 + 7))) (rf_nar _ rfl (some (b0 + 7))) (rf_fit _ rfl (some (b0 + 7))) (Nat.le_of_ble_eq_true rfl) (sR (vo_X10_init_112 b0) 0 6 (some (b0 + 7))) sR_ne (by rw [sR_eq]; rfl) dX10_init_55 (fun H127 locs128 hW129 hS130 hz131 hkp132 => ?_)
  have hW129 : rg G b0 1 shO_X10 (vo_X10_init_132 b0) H127 := hW129
  have hW133 := rg_keepq hW119 hkp132 (by omega)
  have hP134 := PP.keepq hP124 hkp132 ap116
  have hz135 := hz131.trans hz126
  clear hW123 hW119 hP124 hz126 hz131 hS120 hkp132
  have ap136 := Ap.cons (x := ((b0 + 7), 1, (fun _ _ x y _ => some (.inl (G.2.1 0, 20, .inl x))), mz)) (Or.inl (show b0 < (b0 + 7) by omega)) ap116
  have hP137 := PP.cons (hi' := b0 + 8) hW133 hP134 (by omega) (by omega)
  clear ap116 hP134 hW133
  refine lv_aload_n (pc := 58) hx hb dX10_init_58 rfl (lv_at hl 0 rfl) ?_
  refine lv_iconst (pc := 59) (v := (5 : Int32)) hx hb dX10_init_59 (by decide) ?_
  refine rk_newarr (pc := 60) (atype := .int) (h := b0 + 8) (sh := (fun _ _ x y _ => some (.inl (G.2.1 0, 5, .inl x)))) hx hb hts hK hS130 q190 0 rfl (fun _ h => nomatch h) hz135 rfl rfl (by decide) rfl (Nat.le_of_ble_eq_true rfl) (Nat.le_of_ble_eq_true rfl) (Nat.le_of_ble_eq_true rfl) dX10_init_60 (fun H138 hW139 hS140 hz141 hkp142 => ?_)
  have hW143 := rg_keepN hW129 hz135 hkp142
  have hP144 := PP.keepN hP137 hz135 hkp142
  have ap145 := PP.ap (q := (b0 + 8)) hP144 (by omega)
  have hz146 : H138.size = b0 + 9 := by omega
  clear hW129 hP137 hS130 hz135 hz141 hkp142
  refine rk_putF (pc := 62) (q := b0) hx hb hts hown hK hW143 hS140 flX10_34 ft_X10 0 (by decide) rfl (Or.inl (show iv _ _ _ from ⟨by omega, by omega⟩)) rfl rfl hin rfl (x := va_rf (some (b0 + 8))) (rf_nar _ rfl (some (b0 + 8))) (rf_fit _ rfl (some (b0 + 8))) (Nat.le_of_ble_eq_true rfl) (sR (vo_X10_init_132 b0) 0 7 (some (b0 + 8))) sR_ne (by rw [sR_eq]; rfl) dX10_init_62 (fun H147 locs148 hW149 hS150 hz151 hkp152 => ?_)
  have hW149 : rg G b0 1 shO_X10 (vo_X10_init_152 b0) H147 := hW149
  have hW153 := rg_keepq hW139 hkp152 (by omega)
  have hP154 := PP.keepq hP144 hkp152 ap136
  have hz155 := hz151.trans hz146
  clear hW143 hW139 hP144 hz146 hz151 hS140 hkp152
  have ap156 := Ap.cons (x := ((b0 + 8), 1, (fun _ _ x y _ => some (.inl (G.2.1 0, 5, .inl x))), mz)) (Or.inl (show b0 < (b0 + 8) by omega)) ap136
  have hP157 := PP.cons (hi' := b0 + 9) hW153 hP154 (by omega) (by omega)
  clear ap136 hP154 hW153
  refine lv_aload_n (pc := 65) hx hb dX10_init_65 rfl (lv_at hl 0 rfl) ?_
  refine lv_bipush (pc := 66) (v := (60 : Int32)) hx hb dX10_init_66 (by decide) ?_
  refine rk_newarr (pc := 68) (atype := .long) (h := b0 + 9) (sh := (fun _ _ x y _ => some (.inl (G.2.1 1, 60, .inr (.inl y))))) hx hb hts hK hS150 q273 1 rfl (fun _ h => nomatch h) hz155 rfl rfl (by decide) rfl (Nat.le_of_ble_eq_true rfl) (Nat.le_of_ble_eq_true rfl) (Nat.le_of_ble_eq_true rfl) dX10_init_68 (fun H158 hW159 hS160 hz161 hkp162 => ?_)
  have hW163 := rg_keepN hW149 hz155 hkp162
  have hP164 := PP.keepN hP157 hz155 hkp162
  have ap165 := PP.ap (q := (b0 + 9)) hP164 (by omega)
  have hz166 : H158.size = b0 + 10 := by omega
  clear hW149 hP157 hS150 hz155 hz161 hkp162
  refine rk_putF (pc := 70) (q := b0) hx hb hts hown hK hW163 hS160 flX10_37 ft_X10 0 (by decide) rfl (Or.inl (show iv _ _ _ from ⟨by omega, by omega⟩)) rfl rfl hin rfl (x := va_rf (some (b0 + 9))) (rf_nar _ rfl (some (b0 + 9))) (rf_fit _ rfl (some (b0 + 9))) (Nat.le_of_ble_eq_true rfl) (sR (vo_X10_init_152 b0) 0 8 (some (b0 + 9))) sR_ne (by rw [sR_eq]; rfl) dX10_init_70 (fun H167 locs168 hW169 hS170 hz171 hkp172 => ?_)
  have hW169 : rg G b0 1 shO_X10 (vo_X10_init_172 b0) H167 := hW169
  have hW173 := rg_keepq hW159 hkp172 (by omega)
  have hP174 := PP.keepq hP164 hkp172 ap156
  have hz175 := hz171.trans hz166
  clear hW163 hW159 hP164 hz166 hz171 hS160 hkp172
  have ap176 := Ap.cons (x := ((b0 + 9), 1, (fun _ _ x y _ => some (.inl (G.2.1 1, 60, .inr (.inl y)))), mz)) (Or.inl (show b0 < (b0 + 9) by omega)) ap156
  have hP177 := PP.cons (hi' := b0 + 10) hW173 hP174 (by omega) (by omega)
  clear ap156 hP174 hW173
  refine lv_aload_n (pc := 73) hx hb dX10_init_73 rfl (lv_at hl 0 rfl) ?_
  refine lv_bipush (pc := 74) (v := (12 : Int32)) hx hb dX10_init_74 (by decide) ?_
  refine rk_newarr (pc := 76) (atype := .long) (h := b0 + 10) (sh := (fun _ _ x y _ => some (.inl (G.2.1 1, 12, .inr (.inl y))))) hx hb hts hK hS170 q273 1 rfl (fun _ h => nomatch h) hz175 rfl rfl (by decide) rfl (Nat.le_of_ble_eq_true rfl) (Nat.le_of_ble_eq_true rfl) (Nat.le_of_ble_eq_true rfl) dX10_init_76 (fun H178 hW179 hS180 hz181 hkp182 => ?_)
  have hW183 := rg_keepN hW169 hz175 hkp182
  have hP184 := PP.keepN hP177 hz175 hkp182
  have ap185 := PP.ap (q := (b0 + 10)) hP184 (by omega)
  have hz186 : H178.size = b0 + 11 := by omega
  clear hW169 hP177 hS170 hz175 hz181 hkp182
  refine rk_putF (pc := 78) (q := b0) hx hb hts hown hK hW183 hS180 flX10_40 ft_X10 0 (by decide) rfl (Or.inl (show iv _ _ _ from ⟨by omega, by omega⟩)) rfl rfl hin rfl (x := va_rf (some (b0 + 10))) (rf_nar _ rfl (some (b0 + 10))) (rf_fit _ rfl (some (b0 + 10))) (Nat.le_of_ble_eq_true rfl) (sR (vo_X10_init_172 b0) 0 9 (some (b0 + 10))) sR_ne (by rw [sR_eq]; rfl) dX10_init_78 (fun H187 locs188 hW189 hS190 hz191 hkp192 => ?_)
  have hW189 : rg G b0 1 shO_X10 (vo_X10_init_192 b0) H187 := hW189
  have hW193 := rg_keepq hW179 hkp192 (by omega)
  have hP194 := PP.keepq hP184 hkp192 ap176
  have hz195 := hz191.trans hz186
  clear hW183 hW179 hP184 hz186 hz191 hS180 hkp192
  have ap196 := Ap.cons (x := ((b0 + 10), 1, (fun _ _ x y _ => some (.inl (G.2.1 1, 12, .inr (.inl y)))), mz)) (Or.inl (show b0 < (b0 + 10) by omega)) ap176
  have hP197 := PP.cons (hi' := b0 + 11) hW193 hP194 (by omega) (by omega)
  clear ap176 hP194 hW193
  refine lv_aload_n (pc := 81) hx hb dX10_init_81 rfl (lv_at hl 0 rfl) ?_
  refine lv_sipush (pc := 82) (v := (240 : Int32)) hx hb dX10_init_82 (by decide) ?_
  refine rk_newarr (pc := 85) (atype := .long) (h := b0 + 11) (sh := (fun _ _ x y _ => some (.inl (G.2.1 1, 240, .inr (.inl y))))) hx hb hts hK hS190 q273 1 rfl (fun _ h => nomatch h) hz195 rfl rfl (by decide) rfl (Nat.le_of_ble_eq_true rfl) (Nat.le_of_ble_eq_true rfl) (Nat.le_of_ble_eq_true rfl) dX10_init_85 (fun H198 hW199 hS200 hz201 hkp202 => ?_)
  have hW203 := rg_keepN hW189 hz195 hkp202
  have hP204 := PP.keepN hP197 hz195 hkp202
  have ap205 := PP.ap (q := (b0 + 11)) hP204 (by omega)
  have hz206 : H198.size = b0 + 12 := by omega
  clear hW189 hP197 hS190 hz195 hz201 hkp202
  refine rk_putF (pc := 87) (q := b0) hx hb hts hown hK hW203 hS200 flX10_43 ft_X10 0 (by decide) rfl (Or.inl (show iv _ _ _ from ⟨by omega, by omega⟩)) rfl rfl hin rfl (x := va_rf (some (b0 + 11))) (rf_nar _ rfl (some (b0 + 11))) (rf_fit _ rfl (some (b0 + 11))) (Nat.le_of_ble_eq_true rfl) (sR (vo_X10_init_192 b0) 0 10 (some (b0 + 11))) sR_ne (by rw [sR_eq]; rfl) dX10_init_87 (fun H207 locs208 hW209 hS210 hz211 hkp212 => ?_)
  have hW209 : rg G b0 1 shO_X10 (vo_X10_init_212 b0) H207 := hW209
  have hW213 := rg_keepq hW199 hkp212 (by omega)
  have hP214 := PP.keepq hP204 hkp212 ap196
  have hz215 := hz211.trans hz206
  clear hW203 hW199 hP204 hz206 hz211 hS200 hkp212
  have ap216 := Ap.cons (x := ((b0 + 11), 1, (fun _ _ x y _ => some (.inl (G.2.1 1, 240, .inr (.inl y)))), mz)) (Or.inl (show b0 < (b0 + 11) by omega)) ap196
  have hP217 := PP.cons (hi' := b0 + 12) hW213 hP214 (by omega) (by omega)
  clear ap196 hP214 hW213
  refine lv_aload_n (pc := 90) hx hb dX10_init_90 rfl (lv_at hl 0 rfl) ?_
  refine lv_bipush (pc := 91) (v := (12 : Int32)) hx hb dX10_init_91 (by decide) ?_
  refine rk_newarr (pc := 93) (atype := .long) (h := b0 + 12) (sh := (fun _ _ x y _ => some (.inl (G.2.1 1, 12, .inr (.inl y))))) hx hb hts hK hS210 q273 1 rfl (fun _ h => nomatch h) hz215 rfl rfl (by decide) rfl (Nat.le_of_ble_eq_true rfl) (Nat.le_of_ble_eq_true rfl) (Nat.le_of_ble_eq_true rfl) dX10_init_93 (fun H218 hW219 hS220 hz221 hkp222 => ?_)
  have hW223 := rg_keepN hW209 hz215 hkp222
  have hP224 := PP.keepN hP217 hz215 hkp222
  have ap225 := PP.ap (q := (b0 + 12)) hP224 (by omega)
  have hz226 : H218.size = b0 + 13 := by omega
  clear hW209 hP217 hS210 hz215 hz221 hkp222
  refine rk_putF (pc := 95) (q := b0) hx hb hts hown hK hW223 hS220 flX10_46 ft_X10 0 (by decide) rfl (Or.inl (show iv _ _ _ from ⟨by omega, by omega⟩)) rfl rfl hin rfl (x := va_rf (some (b0 + 12))) (rf_nar _ rfl (some (b0 + 12))) (rf_fit _ rfl (some (b0 + 12))) (Nat.le_of_ble_eq_true rfl) (sR (vo_X10_init_212 b0) 0 11 (some (b0 + 12))) sR_ne (by rw [sR_eq]; rfl) dX10_init_95 (fun H227 locs228 hW229 hS230 hz231 hkp232 => ?_)
  have hW229 : rg G b0 1 shO_X10 (vo_X10_init_232 b0) H227 := hW229
  have hW233 := rg_keepq hW219 hkp232 (by omega)
  have hP234 := PP.keepq hP224 hkp232 ap216
  have hz235 := hz231.trans hz226
  clear hW223 hW219 hP224 hz226 hz231 hS220 hkp232
  have ap236 := Ap.cons (x := ((b0 + 12), 1, (fun _ _ x y _ => some (.inl (G.2.1 1, 12, .inr (.inl y)))), mz)) (Or.inl (show b0 < (b0 + 12) by omega)) ap216
  have hP237 := PP.cons (hi' := b0 + 13) hW233 hP234 (by omega) (by omega)
  clear ap216 hP234 hW233
  have hA0 : rg G b0 1 (shX10 G.2.1) (mz) H227 := rg_cast hW229 rfl
  have hA238 : rg G b0 2 (shX10 G.2.1) (vf_X10_init_1 b0) H227 := rg_app (k := 1) (n' := 1) hA0 (PP.at hP237 11 rfl) rfl (fun o ho x y z => by have h0 : o = 0 := (by omega); subst h0; rfl)
  have hA239 : rg G b0 3 (shX10 G.2.1) (vf_X10_init_2 b0) H227 := rg_app (k := 2) (n' := 1) hA238 (PP.at hP237 10 rfl) rfl (fun o ho x y z => by have h0 : o = 0 := (by omega); subst h0; rfl)
  have hA240 : rg G b0 4 (shX10 G.2.1) (vf_X10_init_3 b0) H227 := rg_app (k := 3) (n' := 1) hA239 (PP.at hP237 9 rfl) rfl (fun o ho x y z => by have h0 : o = 0 := (by omega); subst h0; rfl)
  have hA241 : rg G b0 5 (shX10 G.2.1) (vf_X10_init_4 b0) H227 := rg_app (k := 4) (n' := 1) hA240 (PP.at hP237 8 rfl) rfl (fun o ho x y z => by have h0 : o = 0 := (by omega); subst h0; rfl)
  have hA242 : rg G b0 6 (shX10 G.2.1) (vf_X10_init_5 b0) H227 := rg_app (k := 5) (n' := 1) hA241 (PP.at hP237 7 rfl) rfl (fun o ho x y z => by have h0 : o = 0 := (by omega); subst h0; rfl)
  have hA243 : rg G b0 7 (shX10 G.2.1) (vf_X10_init_6 b0) H227 := rg_app (k := 6) (n' := 1) hA242 (PP.at hP237 6 rfl) rfl (fun o ho x y z => by have h0 : o = 0 := (by omega); subst h0; rfl)
  have hA244 : rg G b0 8 (shX10 G.2.1) (vf_X10_init_7 b0) H227 := rg_app (k := 7) (n' := 1) hA243 (PP.at hP237 5 rfl) rfl (fun o ho x y z => by have h0 : o = 0 := (by omega); subst h0; rfl)
  have hA245 : rg G b0 9 (shX10 G.2.1) (vf_X10_init_8 b0) H227 := rg_app (k := 8) (n' := 1) hA244 (PP.at hP237 4 rfl) rfl (fun o ho x y z => by have h0 : o = 0 := (by omega); subst h0; rfl)
  have hA246 : rg G b0 10 (shX10 G.2.1) (vf_X10_init_9 b0) H227 := rg_app (k := 9) (n' := 1) hA245 (PP.at hP237 3 rfl) rfl (fun o ho x y z => by have h0 : o = 0 := (by omega); subst h0; rfl)
  have hA247 : rg G b0 11 (shX10 G.2.1) (vf_X10_init_10 b0) H227 := rg_app (k := 10) (n' := 1) hA246 (PP.at hP237 2 rfl) rfl (fun o ho x y z => by have h0 : o = 0 := (by omega); subst h0; rfl)
  have hA248 : rg G b0 12 (shX10 G.2.1) (vf_X10_init_11 b0) H227 := rg_app (k := 11) (n' := 1) hA247 (PP.at hP237 1 rfl) rfl (fun o ho x y z => by have h0 : o = 0 := (by omega); subst h0; rfl)
  have hA249 : rg G b0 13 (shX10 G.2.1) (vf_X10_init_12 b0) H227 := rg_app (k := 12) (n' := 1) hA248 (PP.at hP237 0 rfl) rfl (fun o ho x y z => by have h0 : o = 0 := (by omega); subst h0; rfl)
  exact rk_vretA (pc := 98) hx hb hr hlk hS230 ⟨rfl, hA249, hz235⟩ dX10_init_98 (Nat.le_of_ble_eq_true rfl) (Nat.le_of_ble_eq_true rfl)
def shO_X11 : Shp := fun _ _ x y z => some (.inr (11, [va_rf (z 0), .int (x 1), .int (x 2), va_rf (z 3)]))
theorem df_X11 (fs : List Value) (h : fs = [.null, .int 0, .int 0, .null]) : ∀ j, j < 4 → defaultValue (tyX11 j) = vp_V fs j := by
  subst h
  intro j hj
  match j, hj with
  | 0, _ => rfl
  | 1, _ => rfl
  | 2, _ => rfl
  | 3, _ => rfl
  | n + 4, h => exact absurd h (by omega)
theorem lkX11_21 : LIN RX11 21 yX2_init "WholePacks" cX2_init 1 := ⟨q642, q171, q116, q172, rfl⟩
def vo_X11_init_6 (b0 : Nat) (b1 : Nat) : Mem := sR mz 0 3 (some b1)
def vo_X11_init_20 (b0 : Nat) (b1 : Nat) : Mem := sR (vo_X11_init_6 b0 b1) 0 0 (some (b0 + 1))
def vq_X11_init_49 (b0 : Nat) (b1 : Nat) : Mem := sR mz 0 (0 : Int32).toNatClampNeg (some (b0 + 2))
def vq_X11_init_82 (b0 : Nat) (b1 : Nat) : Mem := sR (vq_X11_init_49 b0 b1) 0 (1 : Int32).toNatClampNeg (some (b0 + 4))
def vq_X11_init_115 (b0 : Nat) (b1 : Nat) : Mem := sR (vq_X11_init_82 b0 b1) 0 (2 : Int32).toNatClampNeg (some (b0 + 6))
def vq_X11_init_148 (b0 : Nat) (b1 : Nat) : Mem := sR (vq_X11_init_115 b0 b1) 0 (3 : Int32).toNatClampNeg (some (b0 + 8))
def vf_X11_init_1 (b0 : Nat) (b1 : Nat) : Mem := ptm (mz) 1 1 mz
def vf_X11_init_2 (b0 : Nat) (b1 : Nat) : Mem := ptm (vf_X11_init_1 b0 b1) 2 2 ((vc_X2 (b0 + 2)))
def vf_X11_init_4 (b0 : Nat) (b1 : Nat) : Mem := ptm (vf_X11_init_2 b0 b1) 4 2 ((vc_X2 (b0 + 4)))
def vf_X11_init_6 (b0 : Nat) (b1 : Nat) : Mem := ptm (vf_X11_init_4 b0 b1) 6 2 ((vc_X2 (b0 + 6)))
def vf_X11_init_8 (b0 : Nat) (b1 : Nat) : Mem := ptm (vf_X11_init_6 b0 b1) 8 2 ((vc_X2 (b0 + 8)))
def vc_X11 (b0 : Nat) (b1 : Nat) : Mem := (vf_X11_init_8 b0 b1)
set_option maxHeartbeats 4000000 in
theorem ct_X11_init {G : Gv} {l : Launch} {b0 : Nat} {b1 : Nat} {sz : Nat} (hsz : sz = b0 + 1) : CT G l yX11_init (ws_ yX11_init cX11_init 3 none) 2 9 36 52 [.ref b0, .ref b1] (iv b0 1) sz (fun H => rg G b0 1 shO_X11 mz H) (fun ov H => ov = none ∧ rg G b0 10 (shX11 b1 G.2.1) (vc_X11 b0 b1) H ∧ H.size = b0 + 10) := by
  refine Met.ofW (cc := cX11_init) (maxL := 3) (ret := none) (by decide +kernel) rfl ?_
  intro p e s m args below meth c s₁ B hml hv
  obtain ⟨rfl, ⟨hz, hW0⟩, hK⟩ := hv
  subst hz
  have hz : s.heap.size = b0 + 1 := hsz
  have hin : meth.name = "<init>" := (name_of_methodNamed B.named B.method).1
  have hts := atoms_spec (ws := ws_ yX11_init cX11_init 3 none) B.pre
  have hts : ∀ w ∈ lw_all, w.before _ s = true := fun w h => hts w (List.mem_cons_of_mem _ h)
  have C : Cx G p s m _ meth c RX11 cX11_init 3 none := ⟨B.exec, B.bytes, B.returns, B.notSynchronized, hml, findClass_of_methodNamed B.named, hts, hK⟩
  obtain ⟨hx, hb, hr, hlk, hml, hown, hts, hK⟩ := id C
  have hl := lv_entry ([.ref b0, .ref b1]) (n := 3) (Nat.le_of_ble_eq_true rfl)
  rw [lg_entry_eq]
  generalize (lg_sl ([.ref b0, .ref b1]) ++ List.replicate (3 - (lg_sl ([.ref b0, .ref b1])).length) Slot.unset).toArray = ls at hl ⊢
  have hl : lv_has ls 3 [(0, .ref b0), (1, .ref b1)] := hl
  have hS0 : va_S (FA (iv b0 1) s.heap.size) s.heap s.heap [] := va_S.rf
  refine lv_aload_n (pc := 0) hx hb dX11_init_0 rfl (lv_at hl 0 rfl) ?_
  refine lv_aload_n (pc := 1) hx hb dX11_init_1 rfl (lv_at hl 1 rfl) ?_
  refine rk_putF (pc := 2) (q := b0) hx hb hts hown hK hW0 hS0 flX11_3 ft_X11 0 (by decide) rfl (Or.inl (show iv _ _ _ from ⟨by omega, by omega⟩)) rfl rfl hin rfl (x := va_rf (some b1)) (rf_nar _ rfl (some b1)) (rf_fit _ rfl (some b1)) (Nat.le_of_ble_eq_true rfl) (sR mz 0 3 (some b1)) sR_ne (by rw [sR_eq]; rfl) dX11_init_2 (fun H1 locs2 hW3 hS4 hz5 hkp6 => ?_)
  have hW3 : rg G b0 1 shO_X11 (vo_X11_init_6 b0 b1) H1 := hW3
  have hz7 := hz5.trans hz
  clear hW0 hz hz5 hS0 hkp6
  refine lv_aload_n (pc := 5) hx hb dX11_init_5 rfl (lv_at hl 0 rfl) ?_
  refine W.objInit hx hb hown (hts _ q640) (hts _ q159) (hts _ q160) rfl (by rw [hml]; exact hl.1) rfl dX11_init_6 (Nat.le_of_ble_eq_true rfl) (Nat.le_of_ble_eq_true rfl) ?_
  refine W.eq (g2 := F0 m 9 ls []) rfl ?_
  refine lv_aload_n (pc := 9) hx hb dX11_init_9 rfl (lv_at hl 0 rfl) ?_
  refine lv_iconst (pc := 10) (v := (4 : Int32)) hx hb dX11_init_10 (by decide) ?_
  refine rk_anew (pc := 11) (h := b0 + 1) (C := "WholePacks$Rule") (sh := (fun _ _ _ _ z => some (.inl (G.2.1 5, 4, .inr (.inr (.inr (.inr z))))))) hx hb hts hown hK hS4 q641 q168 5 rfl hz7 rfl (by decide) rfl (Nat.le_of_ble_eq_true rfl) (Nat.le_of_ble_eq_true rfl) (Nat.le_of_ble_eq_true rfl) dX11_init_11 (fun H8 hW9 hS10 hz11 hkp12 => ?_)
  have hW13 := rg_keepN hW3 hz7 hkp12
  have hz14 : H8.size = b0 + 2 := by omega
  clear hW3 hS4 hz7 hz11 hkp12
  refine rk_putF (pc := 14) (q := b0) hx hb hts hown hK hW13 hS10 flX11_17 ft_X11 0 (by decide) rfl (Or.inl (show iv _ _ _ from ⟨by omega, by omega⟩)) rfl rfl hin rfl (x := va_rf (some (b0 + 1))) (rf_nar _ rfl (some (b0 + 1))) (rf_fit _ rfl (some (b0 + 1))) (Nat.le_of_ble_eq_true rfl) (sR (vo_X11_init_6 b0 b1) 0 0 (some (b0 + 1))) sR_ne (by rw [sR_eq]; rfl) dX11_init_14 (fun H15 locs16 hW17 hS18 hz19 hkp20 => ?_)
  have hW17 : rg G b0 1 shO_X11 (vo_X11_init_20 b0 b1) H15 := hW17
  have hW21 := rg_keepq hW9 hkp20 (by omega)
  have hz22 := hz19.trans hz14
  clear hW13 hW9 hz14 hz19 hS10 hkp20
  refine lv_iconst (pc := 17) (v := (0 : Int32)) hx hb dX11_init_17 (by decide) ?_
  refine lv_istore_n (pc := 18) (lv' := [(2, .int (0 : Int32)), (0, .ref b0), (1, .ref b1)]) hx hb dX11_init_18 rfl hl (by decide) rfl (fun ls hl => ?_)
  refine lv_iload_n (pc := 19) hx hb dX11_init_19 rfl (lv_at hl 0 rfl) ?_
  refine lv_iconst (pc := 20) (v := (4 : Int32)) hx hb dX11_init_20 (by decide) ?_
  refine lv_icmp_ge (pc := 21) (tgt := 43) hx hb dX11_init_21 (by decide) (fun h => absurd h (by decide)) (fun _ => ?_)
  refine lv_aload_n (pc := 24) hx hb dX11_init_24 rfl (lv_at hl 1 rfl) ?_
  refine rk_get (pc := 25) hx hb hts hown hK hW17 flX11_17 0 (by decide) rfl rfl (x := .ref (b0 + 1)) rfl dX11_init_25 ?_
  refine lv_iload_n (pc := 28) hx hb dX11_init_28 rfl (lv_at hl 0 rfl) ?_
  refine rk_new (pc := 29) (h := b0 + 2) (sh := (shO_X2)) hx hb hts hown hK hS18 in_X2 ft_X2 rfl q641 q169 q116 hz22 rfl (df_X2 _ rfl) (Nat.le_of_ble_eq_true rfl) (Nat.le_of_ble_eq_true rfl) dX11_init_29 (fun H23 hW24 hS25 hz26 hkp27 => ?_)
  have hW28 := rg_keepN hW17 hz22 hkp27
  have hW29 := rg_keepN hW21 hz22 hkp27
  have hz30 : H23.size = b0 + 3 := by omega
  clear hW17 hW21 hS18 hz22 hz26 hkp27
  refine lv_dup (pc := 32) hx hb dX11_init_32 rfl ?_
  refine rk_TIN (pc := 33) (As := []) (rest := [.ref (b0 + 2), .int (0 : Int32), .ref (b0 + 1)]) (mc := 1) (ms := 5) hx hb hml hown hts hK hS25 (fun q hq => FA_sz rfl q hq) lkX11_21 yn_X2_init (ct_X2_init (G := G) (l := l) (b0 := (b0 + 2)) (sz := H23.size) (by omega)) ⟨Nat.le_of_ble_eq_true rfl, Nat.le_of_ble_eq_true rfl⟩ (fun z h => Or.inr (by have h8 := h.1; omega)) hW24 rfl rfl hl.1 (Nat.le_of_ble_eq_true rfl) dX11_init_33 ⟨Nat.le_of_ble_eq_true rfl, Nat.le_of_ble_eq_true rfl⟩ (fun ov9 H31 locs32 hP33 hkp34 hS35 => ?_)
  obtain ⟨rfl, hW36, hz37⟩ := hP33
  have hW38 := rg_keepA hW28 hkp34 (by intro z h1 h2 h3; have h8 := h3.1; have h9 := h3.2; omega)
  have hW39 := rg_keepA hW29 hkp34 (by intro z h1 h2 h3; have h8 := h3.1; have h9 := h3.2; omega)
  have hz40 : H31.size = b0 + 4 := by omega
  have ap41 := Ap.cons (x := ((b0 + 2), 2, (shX2 G.2.1), (vc_X2 (b0 + 2)))) (Or.inl (show b0 < (b0 + 2) by omega)) (Ap.nil (q := b0))
  have ap42 := Ap.cons (x := ((b0 + 2), 2, (shX2 G.2.1), (vc_X2 (b0 + 2)))) (Or.inl (show (b0 + 1) < (b0 + 2) by omega)) (Ap.nil (q := (b0 + 1)))
  have hP43 := PP.cons (hi' := b0 + 4) hW36 (PP.nil (hi := b0)) (by omega) (by omega)
  clear hW28 hW29 hz30 hz37 hkp34 hS25 hW24 hW36
  refine W.eq (g2 := F0 m 36 ls [.ref (b0 + 2), .int (0 : Int32), .ref (b0 + 1)]) rfl ?_
  refine rk_aastC (pc := 36) hx hb hK hW39 hS35 0 5 (by decide) rfl (Or.inr (by omega)) (fun _ _ _ => rfl) rfl rfl (rk_recv (ci := 2) (C := RX2) (T := TX2) (N := 3) hK (PP.at hP43 0 rfl) 0 (by decide) rfl rfl rfl) dX11_init_36 (fun H44 locs45 hW46 hS47 hz48 hkp49 => ?_)
  have hW46 : rg G (b0 + 1) 1 (fun _ _ _ _ z => some (.inl (G.2.1 5, 4, .inr (.inr (.inr (.inr z)))))) (vq_X11_init_49 b0 b1) H44 := hW46
  have hW50 := rg_keepq hW38 hkp49 (by omega)
  have hP51 := PP.keepq hP43 hkp49 ap42
  have hz52 := hz48.trans hz40
  clear hW39 hW38 hP43 hz40 hz48 hS35 hkp49
  refine lv_iinc (pc := 37) (v := (1 : Int32)) (lv' := [(2, .int (1 : Int32)), (0, .ref b0), (1, .ref b1)]) hx hb dX11_init_37 hl (k := 0) rfl (by decide) (by decide) rfl (fun ls hl => ?_)
  refine lv_goto (pc := 40) (tgt := 19) hx hb dX11_init_40 (by decide) ?_
  refine lv_iload_n (pc := 19) hx hb dX11_init_19 rfl (lv_at hl 0 rfl) ?_
  refine lv_iconst (pc := 20) (v := (4 : Int32)) hx hb dX11_init_20 (by decide) ?_
  refine lv_icmp_ge (pc := 21) (tgt := 43) hx hb dX11_init_21 (by decide) (fun h => absurd h (by decide)) (fun _ => ?_)
  refine lv_aload_n (pc := 24) hx hb dX11_init_24 rfl (lv_at hl 1 rfl) ?_
  refine rk_get (pc := 25) hx hb hts hown hK hW50 flX11_17 0 (by decide) rfl rfl (x := .ref (b0 + 1)) rfl dX11_init_25 ?_
  refine lv_iload_n (pc := 28) hx hb dX11_init_28 rfl (lv_at hl 0 rfl) ?_
  refine rk_new (pc := 29) (h := b0 + 4) (sh := (shO_X2)) hx hb hts hown hK hS47 in_X2 ft_X2 rfl q641 q169 q116 hz52 rfl (df_X2 _ rfl) (Nat.le_of_ble_eq_true rfl) (Nat.le_of_ble_eq_true rfl) dX11_init_29 (fun H53 hW54 hS55 hz56 hkp57 => ?_)
  have hW58 := rg_keepN hW50 hz52 hkp57
  have hW59 := rg_keepN hW46 hz52 hkp57
  have hP60 := PP.keepN hP51 hz52 hkp57
  have ap61 := PP.ap (q := (b0 + 4)) hP60 (by omega)
  have hz62 : H53.size = b0 + 5 := by omega
  clear hW50 hW46 hP51 hS47 hz52 hz56 hkp57
  refine lv_dup (pc := 32) hx hb dX11_init_32 rfl ?_
  refine rk_TIN (pc := 33) (As := []) (rest := [.ref (b0 + 4), .int (1 : Int32), .ref (b0 + 1)]) (mc := 1) (ms := 5) hx hb hml hown hts hK hS55 (fun q hq => FA_sz rfl q hq) lkX11_21 yn_X2_init (ct_X2_init (G := G) (l := l) (b0 := (b0 + 4)) (sz := H53.size) (by omega)) ⟨Nat.le_of_ble_eq_true rfl, Nat.le_of_ble_eq_true rfl⟩ (fun z h => Or.inr (by have h8 := h.1; omega)) hW54 rfl rfl hl.1 (Nat.le_of_ble_eq_true rfl) dX11_init_33 ⟨Nat.le_of_ble_eq_true rfl, Nat.le_of_ble_eq_true rfl⟩ (fun ov9 H63 locs64 hP65 hkp66 hS67 => ?_)
  obtain ⟨rfl, hW68, hz69⟩ := hP65
  have hW70 := rg_keepA hW58 hkp66 (by intro z h1 h2 h3; have h8 := h3.1; have h9 := h3.2; omega)
  have hW71 := rg_keepA hW59 hkp66 (by intro z h1 h2 h3; have h8 := h3.1; have h9 := h3.2; omega)
  have hP72 := PP.keepA hP60 hkp66 (by omega)
  have hz73 : H63.size = b0 + 6 := by omega
  have ap74 := Ap.cons (x := ((b0 + 4), 2, (shX2 G.2.1), (vc_X2 (b0 + 4)))) (Or.inl (show b0 < (b0 + 4) by omega)) ap41
  have ap75 := Ap.cons (x := ((b0 + 4), 2, (shX2 G.2.1), (vc_X2 (b0 + 4)))) (Or.inl (show (b0 + 1) < (b0 + 4) by omega)) ap42
  have hP76 := PP.cons (hi' := b0 + 6) hW68 hP72 (by omega) (by omega)
  clear hW58 hW59 hP60 hz62 hz69 hkp66 hS55 hW54 ap61 ap41 ap42 hP72 hW68
  refine W.eq (g2 := F0 m 36 ls [.ref (b0 + 4), .int (1 : Int32), .ref (b0 + 1)]) rfl ?_
  refine rk_aastC (pc := 36) hx hb hK hW71 hS67 0 5 (by decide) rfl (Or.inr (by omega)) (fun _ _ _ => rfl) rfl rfl (rk_recv (ci := 2) (C := RX2) (T := TX2) (N := 3) hK (PP.at hP76 0 rfl) 0 (by decide) rfl rfl rfl) dX11_init_36 (fun H77 locs78 hW79 hS80 hz81 hkp82 => ?_)
  have hW79 : rg G (b0 + 1) 1 (fun _ _ _ _ z => some (.inl (G.2.1 5, 4, .inr (.inr (.inr (.inr z)))))) (vq_X11_init_82 b0 b1) H77 := hW79
  have hW83 := rg_keepq hW70 hkp82 (by omega)
  have hP84 := PP.keepq hP76 hkp82 ap75
  have hz85 := hz81.trans hz73
  clear hW71 hW70 hP76 hz73 hz81 hS67 hkp82
  refine lv_iinc (pc := 37) (v := (2 : Int32)) (lv' := [(2, .int (2 : Int32)), (0, .ref b0), (1, .ref b1)]) hx hb dX11_init_37 hl (k := 0) rfl (by decide) (by decide) rfl (fun ls hl => ?_)
  refine lv_goto (pc := 40) (tgt := 19) hx hb dX11_init_40 (by decide) ?_
  refine lv_iload_n (pc := 19) hx hb dX11_init_19 rfl (lv_at hl 0 rfl) ?_
  refine lv_iconst (pc := 20) (v := (4 : Int32)) hx hb dX11_init_20 (by decide) ?_
  refine lv_icmp_ge (pc := 21) (tgt := 43) hx hb dX11_init_21 (by decide) (fun h => absurd h (by decide)) (fun _ => ?_)
  refine lv_aload_n (pc := 24) hx hb dX11_init_24 rfl (lv_at hl 1 rfl) ?_
  refine rk_get (pc := 25) hx hb hts hown hK hW83 flX11_17 0 (by decide) rfl rfl (x := .ref (b0 + 1)) rfl dX11_init_25 ?_
  refine lv_iload_n (pc := 28) hx hb dX11_init_28 rfl (lv_at hl 0 rfl) ?_
  refine rk_new (pc := 29) (h := b0 + 6) (sh := (shO_X2)) hx hb hts hown hK hS80 in_X2 ft_X2 rfl q641 q169 q116 hz85 rfl (df_X2 _ rfl) (Nat.le_of_ble_eq_true rfl) (Nat.le_of_ble_eq_true rfl) dX11_init_29 (fun H86 hW87 hS88 hz89 hkp90 => ?_)
  have hW91 := rg_keepN hW83 hz85 hkp90
  have hW92 := rg_keepN hW79 hz85 hkp90
  have hP93 := PP.keepN hP84 hz85 hkp90
  have ap94 := PP.ap (q := (b0 + 6)) hP93 (by omega)
  have hz95 : H86.size = b0 + 7 := by omega
  clear hW83 hW79 hP84 hS80 hz85 hz89 hkp90
  refine lv_dup (pc := 32) hx hb dX11_init_32 rfl ?_
  refine rk_TIN (pc := 33) (As := []) (rest := [.ref (b0 + 6), .int (2 : Int32), .ref (b0 + 1)]) (mc := 1) (ms := 5) hx hb hml hown hts hK hS88 (fun q hq => FA_sz rfl q hq) lkX11_21 yn_X2_init (ct_X2_init (G := G) (l := l) (b0 := (b0 + 6)) (sz := H86.size) (by omega)) ⟨Nat.le_of_ble_eq_true rfl, Nat.le_of_ble_eq_true rfl⟩ (fun z h => Or.inr (by have h8 := h.1; omega)) hW87 rfl rfl hl.1 (Nat.le_of_ble_eq_true rfl) dX11_init_33 ⟨Nat.le_of_ble_eq_true rfl, Nat.le_of_ble_eq_true rfl⟩ (fun ov9 H96 locs97 hP98 hkp99 hS100 => ?_)
  obtain ⟨rfl, hW101, hz102⟩ := hP98
  have hW103 := rg_keepA hW91 hkp99 (by intro z h1 h2 h3; have h8 := h3.1; have h9 := h3.2; omega)
  have hW104 := rg_keepA hW92 hkp99 (by intro z h1 h2 h3; have h8 := h3.1; have h9 := h3.2; omega)
  have hP105 := PP.keepA hP93 hkp99 (by omega)
  have hz106 : H96.size = b0 + 8 := by omega
  have ap107 := Ap.cons (x := ((b0 + 6), 2, (shX2 G.2.1), (vc_X2 (b0 + 6)))) (Or.inl (show b0 < (b0 + 6) by omega)) ap74
  have ap108 := Ap.cons (x := ((b0 + 6), 2, (shX2 G.2.1), (vc_X2 (b0 + 6)))) (Or.inl (show (b0 + 1) < (b0 + 6) by omega)) ap75
  have hP109 := PP.cons (hi' := b0 + 8) hW101 hP105 (by omega) (by omega)
  clear hW91 hW92 hP93 hz95 hz102 hkp99 hS88 hW87 ap94 ap74 ap75 hP105 hW101
  refine W.eq (g2 := F0 m 36 ls [.ref (b0 + 6), .int (2 : Int32), .ref (b0 + 1)]) rfl ?_
  refine rk_aastC (pc := 36) hx hb hK hW104 hS100 0 5 (by decide) rfl (Or.inr (by omega)) (fun _ _ _ => rfl) rfl rfl (rk_recv (ci := 2) (C := RX2) (T := TX2) (N := 3) hK (PP.at hP109 0 rfl) 0 (by decide) rfl rfl rfl) dX11_init_36 (fun H110 locs111 hW112 hS113 hz114 hkp115 => ?_)
  have hW112 : rg G (b0 + 1) 1 (fun _ _ _ _ z => some (.inl (G.2.1 5, 4, .inr (.inr (.inr (.inr z)))))) (vq_X11_init_115 b0 b1) H110 := hW112
  have hW116 := rg_keepq hW103 hkp115 (by omega)
  have hP117 := PP.keepq hP109 hkp115 ap108
  have hz118 := hz114.trans hz106
  clear hW104 hW103 hP109 hz106 hz114 hS100 hkp115
  refine lv_iinc (pc := 37) (v := (3 : Int32)) (lv' := [(2, .int (3 : Int32)), (0, .ref b0), (1, .ref b1)]) hx hb dX11_init_37 hl (k := 0) rfl (by decide) (by decide) rfl (fun ls hl => ?_)
  refine lv_goto (pc := 40) (tgt := 19) hx hb dX11_init_40 (by decide) ?_
  refine lv_iload_n (pc := 19) hx hb dX11_init_19 rfl (lv_at hl 0 rfl) ?_
  refine lv_iconst (pc := 20) (v := (4 : Int32)) hx hb dX11_init_20 (by decide) ?_
  refine lv_icmp_ge (pc := 21) (tgt := 43) hx hb dX11_init_21 (by decide) (fun h => absurd h (by decide)) (fun _ => ?_)
  refine lv_aload_n (pc := 24) hx hb dX11_init_24 rfl (lv_at hl 1 rfl) ?_
  refine rk_get (pc := 25) hx hb hts hown hK hW116 flX11_17 0 (by decide) rfl rfl (x := .ref (b0 + 1)) rfl dX11_init_25 ?_
  refine lv_iload_n (pc := 28) hx hb dX11_init_28 rfl (lv_at hl 0 rfl) ?_
  refine rk_new (pc := 29) (h := b0 + 8) (sh := (shO_X2)) hx hb hts hown hK hS113 in_X2 ft_X2 rfl q641 q169 q116 hz118 rfl (df_X2 _ rfl) (Nat.le_of_ble_eq_true rfl) (Nat.le_of_ble_eq_true rfl) dX11_init_29 (fun H119 hW120 hS121 hz122 hkp123 => ?_)
  have hW124 := rg_keepN hW116 hz118 hkp123
  have hW125 := rg_keepN hW112 hz118 hkp123
  have hP126 := PP.keepN hP117 hz118 hkp123
  have ap127 := PP.ap (q := (b0 + 8)) hP126 (by omega)
  have hz128 : H119.size = b0 + 9 := by omega
  clear hW116 hW112 hP117 hS113 hz118 hz122 hkp123
  refine lv_dup (pc := 32) hx hb dX11_init_32 rfl ?_
  refine rk_TIN (pc := 33) (As := []) (rest := [.ref (b0 + 8), .int (3 : Int32), .ref (b0 + 1)]) (mc := 1) (ms := 5) hx hb hml hown hts hK hS121 (fun q hq => FA_sz rfl q hq) lkX11_21 yn_X2_init (ct_X2_init (G := G) (l := l) (b0 := (b0 + 8)) (sz := H119.size) (by omega)) ⟨Nat.le_of_ble_eq_true rfl, Nat.le_of_ble_eq_true rfl⟩ (fun z h => Or.inr (by have h8 := h.1; omega)) hW120 rfl rfl hl.1 (Nat.le_of_ble_eq_true rfl) dX11_init_33 ⟨Nat.le_of_ble_eq_true rfl, Nat.le_of_ble_eq_true rfl⟩ (fun ov9 H129 locs130 hP131 hkp132 hS133 => ?_)
  obtain ⟨rfl, hW134, hz135⟩ := hP131
  have hW136 := rg_keepA hW124 hkp132 (by intro z h1 h2 h3; have h8 := h3.1; have h9 := h3.2; omega)
  have hW137 := rg_keepA hW125 hkp132 (by intro z h1 h2 h3; have h8 := h3.1; have h9 := h3.2; omega)
  have hP138 := PP.keepA hP126 hkp132 (by omega)
  have hz139 : H129.size = b0 + 10 := by omega
  have ap140 := Ap.cons (x := ((b0 + 8), 2, (shX2 G.2.1), (vc_X2 (b0 + 8)))) (Or.inl (show b0 < (b0 + 8) by omega)) ap107
  have ap141 := Ap.cons (x := ((b0 + 8), 2, (shX2 G.2.1), (vc_X2 (b0 + 8)))) (Or.inl (show (b0 + 1) < (b0 + 8) by omega)) ap108
  have hP142 := PP.cons (hi' := b0 + 10) hW134 hP138 (by omega) (by omega)
  clear hW124 hW125 hP126 hz128 hz135 hkp132 hS121 hW120 ap127 ap107 ap108 hP138 hW134
  refine W.eq (g2 := F0 m 36 ls [.ref (b0 + 8), .int (3 : Int32), .ref (b0 + 1)]) rfl ?_
  refine rk_aastC (pc := 36) hx hb hK hW137 hS133 0 5 (by decide) rfl (Or.inr (by omega)) (fun _ _ _ => rfl) rfl rfl (rk_recv (ci := 2) (C := RX2) (T := TX2) (N := 3) hK (PP.at hP142 0 rfl) 0 (by decide) rfl rfl rfl) dX11_init_36 (fun H143 locs144 hW145 hS146 hz147 hkp148 => ?_)
  have hW145 : rg G (b0 + 1) 1 (fun _ _ _ _ z => some (.inl (G.2.1 5, 4, .inr (.inr (.inr (.inr z)))))) (vq_X11_init_148 b0 b1) H143 := hW145
  have hW149 := rg_keepq hW136 hkp148 (by omega)
  have hP150 := PP.keepq hP142 hkp148 ap141
  have hz151 := hz147.trans hz139
  clear hW137 hW136 hP142 hz139 hz147 hS133 hkp148
  refine lv_iinc (pc := 37) (v := (4 : Int32)) (lv' := [(2, .int (4 : Int32)), (0, .ref b0), (1, .ref b1)]) hx hb dX11_init_37 hl (k := 0) rfl (by decide) (by decide) rfl (fun ls hl => ?_)
  refine lv_goto (pc := 40) (tgt := 19) hx hb dX11_init_40 (by decide) ?_
  refine lv_iload_n (pc := 19) hx hb dX11_init_19 rfl (lv_at hl 0 rfl) ?_
  refine lv_iconst (pc := 20) (v := (4 : Int32)) hx hb dX11_init_20 (by decide) ?_
  refine lv_icmp_ge (pc := 21) (tgt := 43) hx hb dX11_init_21 (by decide) (fun _ => ?_) (fun h => absurd (by decide) h)
  have hA0 : rg G b0 1 (shX11 b1 G.2.1) (mz) H143 := rg_cast hW149 rfl
  have hC153 : rg G (b0 + 1) 1 (fun _ _ _ _ _ => some (.inl (G.2.1 5, 4, .inr (.inr (.inr (.inr (fun j => some (b0 + (2 + 2 * j))))))))) mz H143 := rg_castr hW145 rfl rfl (fun j hj => match j, hj with | 0, _ => rfl | 1, _ => rfl | 2, _ => rfl | 3, _ => rfl | n + 4, h => absurd h (by omega))
  have hA152 : rg G b0 2 (shX11 b1 G.2.1) (vf_X11_init_1 b0 b1) H143 := rg_app (k := 1) (n' := 1) hA0 hC153 rfl (fun o ho x y z => by have h0 : o = 0 := (by omega); subst h0; rfl)
  have hA154 : rg G b0 4 (shX11 b1 G.2.1) (vf_X11_init_2 b0 b1) H143 := rg_app (k := 2) (n' := 2) hA152 (PP.at hP150 3 rfl) rfl (fun o ho x y z => shX11_f2 G.2.1 (k := 0) (by decide) _ rfl o ho x y z)
  have hA155 : rg G b0 6 (shX11 b1 G.2.1) (vf_X11_init_4 b0 b1) H143 := rg_app (k := 4) (n' := 2) hA154 (PP.at hP150 2 rfl) rfl (fun o ho x y z => shX11_f2 G.2.1 (k := 1) (by decide) _ rfl o ho x y z)
  have hA156 : rg G b0 8 (shX11 b1 G.2.1) (vf_X11_init_6 b0 b1) H143 := rg_app (k := 6) (n' := 2) hA155 (PP.at hP150 1 rfl) rfl (fun o ho x y z => shX11_f2 G.2.1 (k := 2) (by decide) _ rfl o ho x y z)
  have hA157 : rg G b0 10 (shX11 b1 G.2.1) (vf_X11_init_8 b0 b1) H143 := rg_app (k := 8) (n' := 2) hA156 (PP.at hP150 0 rfl) rfl (fun o ho x y z => shX11_f2 G.2.1 (k := 3) (by decide) _ rfl o ho x y z)
  exact rk_vretA (pc := 43) hx hb hr hlk hS146 ⟨rfl, hA157, hz151⟩ dX11_init_43 (Nat.le_of_ble_eq_true rfl) (Nat.le_of_ble_eq_true rfl)
def shO_X9 : Shp := fun _ _ x y z => some (.inr (9, [va_rf (z 0), va_rf (z 1), va_rf (z 2), .int (x 3), va_rf (z 4), va_rf (z 5), .int (x 6), .int (x 7), .int (x 8), va_rf (z 9), va_rf (z 10), va_rf (z 11), va_rf (z 12), va_rf (z 13), va_rf (z 14), va_rf (z 15), va_rf (z 16), va_rf (z 17), va_rf (z 18), va_rf (z 19), va_rf (z 20), .int (x 21), .int (x 22), .int (x 23), .int (x 24), va_rf (z 25), va_rf (z 26), va_rf (z 27), va_rf (z 28)]))
theorem df_X9 (fs : List Value) (h : fs = [.null, .null, .null, .int 0, .null, .null, .int 0, .int 0, .int 0, .null, .null, .null, .null, .null, .null, .null, .null, .null, .null, .null, .null, .int 0, .int 0, .int 0, .int 0, .null, .null, .null, .null]) : ∀ j, j < 29 → defaultValue (tyX9 j) = vp_V fs j := by
  subst h
  intro j hj
  match j, hj with
  | 0, _ => rfl
  | 1, _ => rfl
  | 2, _ => rfl
  | 3, _ => rfl
  | 4, _ => rfl
  | 5, _ => rfl
  | 6, _ => rfl
  | 7, _ => rfl
  | 8, _ => rfl
  | 9, _ => rfl
  | 10, _ => rfl
  | 11, _ => rfl
  | 12, _ => rfl
  | 13, _ => rfl
  | 14, _ => rfl
  | 15, _ => rfl
  | 16, _ => rfl
  | 17, _ => rfl
  | 18, _ => rfl
  | 19, _ => rfl
  | 20, _ => rfl
  | 21, _ => rfl
  | 22, _ => rfl
  | 23, _ => rfl
  | 24, _ => rfl
  | 25, _ => rfl
  | 26, _ => rfl
  | 27, _ => rfl
  | 28, _ => rfl
  | n + 29, h => exact absurd h (by omega)
theorem lkX9_29 : LIN RX9 29 yX10_init "WholePacksModel" cX10_init 1 := ⟨q1747, q1748, q129, q1749, rfl⟩
theorem yn_X10_init : YN yX10_init 0 := by
  unfold YN
  decide +kernel
noncomputable def fX9_init_b_198 (k198 : Mem → Nat → Int32 → Option (Nat × Mem)) (v0 : Mem) (zc : Nat) (i1 : Int32) : Option (Nat × Mem) :=
  if (6 : Int32) ≤ i1 then (
  some (zc, v0))
  else (
  gb (inR i1 6) (
  lm (sI v0 42 i1.toNatClampNeg (-1 : Int32)) fun v0_22 =>
  k198 v0_22 zc (i1 + (1 : Int32))))
noncomputable def fX9_init_b (v0 : Mem) : Option (Nat × Mem) :=
  gb (inR (3 : Int32) 150) (
  lm (sI v0 1 (3 : Int32).toNatClampNeg (4 : Int32)) fun v0_2 =>
  ob (fX9_begins v0_2 (2 : Int32)) fun w10 =>
  lq3 (fX9_init_b_198) FU w10 45 (0 : Int32))
set_option maxHeartbeats 4000000 in
theorem w_fX9_init_b_198 (C : Cx G p s m args meth c RX9 cX9_init 2 none) {b0 : Nat} {rc : Nat} {rw0 : Mem} (hin : meth.name = "<init>") {k198 : Mem → Nat → Int32 → Option (Nat × Mem)} (hk198 : ∀ (v0 : Mem) (zc : Nat) (i1 : Int32), k198 v0 zc i1 = some (rc, rw0) → ∀ (H : Heap) (locs : List Loc) (ls : Array Slot), rg G b0 46 (shX9 G.2.1) v0 H → va_S (FA (iv b0 46) s.heap.size) s.heap H locs → H.size = s.heap.size + zc → lv_has ls 2 [(0, .ref b0), (1, .int i1)] → W p l e (rmT 2 45 3035 52) s m args below meth c H locs 45 3035 (MQ below (QcT (FA (iv b0 46) s.heap.size) (fun ov H => ov = none ∧ rg G b0 46 (shX9 G.2.1) rw0 H ∧ H.size = s.heap.size + rc)) args s 45 3035 (FA (iv b0 46) s.heap.size)) (F0 m 198 ls [])) : ∀ (v0 : Mem) (zc : Nat) (i1 : Int32), fX9_init_b_198 k198 v0 zc i1 = some (rc, rw0) → ∀ (H : Heap) (locs : List Loc) (ls : Array Slot), rg G b0 46 (shX9 G.2.1) v0 H → va_S (FA (iv b0 46) s.heap.size) s.heap H locs → H.size = s.heap.size + zc → lv_has ls 2 [(0, .ref b0), (1, .int i1)] → W p l e (rmT 2 45 3035 52) s m args below meth c H locs 45 3035 (MQ below (QcT (FA (iv b0 46) s.heap.size) (fun ov H => ov = none ∧ rg G b0 46 (shX9 G.2.1) rw0 H ∧ H.size = s.heap.size + rc)) args s 45 3035 (FA (iv b0 46) s.heap.size)) (F0 m 198 ls []) := by
  intro v0 zc i1 hm H locs ls hW0 hS hz hl
  obtain ⟨hx, hb, hr, hlk, hml, hown, hts, hK⟩ := id C
  unfold fX9_init_b_198 at hm
  refine lv_iload_n (pc := 198) hx hb dX9_init_198 rfl (lv_at hl 1 rfl) ?_
  refine lv_bipush (pc := 199) (v := (6 : Int32)) hx hb dX9_init_199 (by decide) ?_
  refine lv_icmp_ge (pc := 201) (tgt := 217) hx hb dX9_init_201 (by decide) (fun c20 => ?_) (fun c20 => ?_)
  · have hm := ite_t c20 hm
    obtain ⟨e8, e9⟩ := rs2 hm
    subst e8
    subst e9
    exact rk_vretA (pc := 217) hx hb hr hlk hS ⟨rfl, hW0, hz⟩ dX9_init_217 (by exact Nat.le_of_ble_eq_true rfl) (by exact Nat.le_of_ble_eq_true rfl)
  · have hm := ite_f c20 hm
    refine lv_aload_n (pc := 204) hx hb dX9_init_204 rfl (lv_at hl 0 rfl) ?_
    refine rk_get (pc := 205) hx hb hts hown hK hW0 flX9_69 0 (by decide) rfl rfl (x := .ref (b0 + 42)) (by first | rfl | exact congrArg (fun z => some (Value.ref z)) (by omega)) dX9_init_205 ?_
    refine lv_iload_n (pc := 208) hx hb dX9_init_208 rfl (lv_at hl 1 rfl) ?_
    refine lv_iconst (pc := 209) (v := (-1 : Int32)) hx hb dX9_init_209 (by decide) ?_
    obtain ⟨hg21, hm⟩ := gb_some hm
    refine rk_iast (pc := 210) hx hb hK hW0 hS 42 (by decide) rfl (Or.inl (show iv _ _ _ from ⟨by omega, by omega⟩)) (fun _ _ _ => rfl) hg21 dX9_init_210 (fun H23 locs24 hW25 hS26 hz27 hkp28 => ?_)
    obtain ⟨v0_22, he9, hm⟩ := lm_some hm
    rw [he9] at hW25
    have hz29 := hz27.trans hz
    refine lv_iinc (pc := 211) (v := (i1 + (1 : Int32))) (lv' := [(1, .int (i1 + (1 : Int32))), (0, .ref b0)]) hx hb dX9_init_211 hl (k := 1) rfl rfl (by decide) rfl (fun ls hl => ?_)
    refine lv_goto (pc := 214) (tgt := 198) hx hb dX9_init_214 (by decide) ?_
    exact hk198 v0_22 zc (i1 + (1 : Int32)) hm H23 locs24 ls hW25 hS26 hz29 (lv_sub hl [1, 0] rfl)
theorem w_fX9_init_b_198_l (C : Cx G p s m args meth c RX9 cX9_init 2 none) {b0 : Nat} {rc : Nat} {rw0 : Mem} (hin : meth.name = "<init>") : ∀ (n : Nat) (v0 : Mem) (zc : Nat) (i1 : Int32), lq3 (fX9_init_b_198) n v0 zc i1 = some (rc, rw0) → ∀ (H : Heap) (locs : List Loc) (ls : Array Slot), rg G b0 46 (shX9 G.2.1) v0 H → va_S (FA (iv b0 46) s.heap.size) s.heap H locs → H.size = s.heap.size + zc → lv_has ls 2 [(0, .ref b0), (1, .int i1)] → W p l e (rmT 2 45 3035 52) s m args below meth c H locs 45 3035 (MQ below (QcT (FA (iv b0 46) s.heap.size) (fun ov H => ov = none ∧ rg G b0 46 (shX9 G.2.1) rw0 H ∧ H.size = s.heap.size + rc)) args s 45 3035 (FA (iv b0 46) s.heap.size)) (F0 m 198 ls []) := by
  intro n
  induction n with
  | zero => intro v0 zc i1 hm; exact (lq3_0 hm).elim
  | succ n ih => intro v0 zc i1 hm; exact w_fX9_init_b_198 C hin ih v0 zc i1 (lq3_s hm)
set_option maxHeartbeats 4000000 in
theorem w_fX9_init_b (C : Cx G p s m args meth c RX9 cX9_init 2 none) {b0 : Nat} {rc : Nat} {rw0 : Mem} (hin : meth.name = "<init>") : ∀ (v0 : Mem), fX9_init_b v0 = some (rc, rw0) → ∀ (H : Heap) (locs : List Loc) (ls : Array Slot), rg G b0 46 (shX9 G.2.1) v0 H → va_S (FA (iv b0 46) s.heap.size) s.heap H locs → H.size = s.heap.size + 45 → lv_has ls 2 [(0, .ref b0)] → W p l e (rmT 2 45 3035 52) s m args below meth c H locs 45 3035 (MQ below (QcT (FA (iv b0 46) s.heap.size) (fun ov H => ov = none ∧ rg G b0 46 (shX9 G.2.1) rw0 H ∧ H.size = s.heap.size + rc)) args s 45 3035 (FA (iv b0 46) s.heap.size)) (F0 m 184 ls []) := by
  intro v0 hm H locs ls hW0 hS hz hl
  obtain ⟨hx, hb, hr, hlk, hml, hown, hts, hK⟩ := id C
  unfold fX9_init_b at hm
  refine lv_aload_n (pc := 184) hx hb dX9_init_184 rfl (lv_at hl 0 rfl) ?_
  refine rk_get (pc := 185) hx hb hts hown hK hW0 flX9_11 0 (by decide) rfl rfl (x := .ref (b0 + 1)) (by first | rfl | exact congrArg (fun z => some (Value.ref z)) (by omega)) dX9_init_185 ?_
  refine lv_iconst (pc := 188) (v := (3 : Int32)) hx hb dX9_init_188 (by decide) ?_
  refine lv_iconst (pc := 189) (v := (4 : Int32)) hx hb dX9_init_189 (by decide) ?_
  obtain ⟨hg1, hm⟩ := gb_some hm
  refine rk_iast (pc := 190) hx hb hK hW0 hS 1 (by decide) rfl (Or.inl (show iv _ _ _ from ⟨by omega, by omega⟩)) (fun _ _ _ => rfl) hg1 dX9_init_190 (fun H3 locs4 hW5 hS6 hz7 hkp8 => ?_)
  obtain ⟨v0_2, he9, hm⟩ := lm_some hm
  rw [he9] at hW5
  have hz9 := hz7.trans hz
  refine lv_aload_n (pc := 191) hx hb dX9_init_191 rfl (lv_at hl 0 rfl) ?_
  refine lv_iconst (pc := 192) (v := (2 : Int32)) hx hb dX9_init_192 (by decide) ?_
  obtain ⟨w10, hq11, hm⟩ := ob_some hm
  refine rk_TV (pc := 193) (As := [.int (2 : Int32)]) (rest := []) (mc := 0) (ms := 0) hx hb hml hown hts hK hS6 (fun q hq => FA_sz rfl q hq) lkX9_81 rfl yn_X9_begins (ct_X9_begins (G := G) (l := l) (b0 := b0) (sz := H3.size) hq11) ⟨Nat.le_of_ble_eq_true rfl, Nat.le_of_ble_eq_true rfl⟩ (fun z h => Or.inl (show iv _ _ _ from ⟨by have h8 := h.1; have h9 := h.2; omega, by have h8 := h.1; have h9 := h.2; omega⟩)) (rk_recv hK hW5 0 (by decide) rfl rfl rfl) hW5 rfl rfl hl.1 (Nat.le_of_ble_eq_true rfl) dX9_init_193 ⟨Nat.le_of_ble_eq_true rfl, Nat.le_of_ble_eq_true rfl⟩ (fun ov9 H12 locs13 hP14 hkp15 hS16 => ?_)
  obtain ⟨rfl, hW17, hz18⟩ := hP14
  have hz19 := hz18.trans hz9
  refine W.eq (g2 := F0 m 196 ls []) rfl ?_
  refine lv_iconst (pc := 196) (v := (0 : Int32)) hx hb dX9_init_196 (by decide) ?_
  refine lv_istore_n (pc := 197) (lv' := [(1, .int (0 : Int32)), (0, .ref b0)]) hx hb dX9_init_197 rfl hl (by decide) rfl (fun ls hl => ?_)
  exact (w_fX9_init_b_198_l C hin FU) w10 45 (0 : Int32) hm H12 locs13 ls hW17 hS16 hz19 (lv_sub hl [1, 0] rfl)
def vo_X9_init_13 (b0 : Nat) : Mem := sR mz 0 0 (some (b0 + 1))
def vo_X9_init_32 (b0 : Nat) : Mem := sR (vo_X9_init_13 b0) 0 1 (some (b0 + 2))
def vo_X9_init_52 (b0 : Nat) : Mem := sR (vo_X9_init_32 b0) 0 2 (some (b0 + 3))
def vo_X9_init_72 (b0 : Nat) : Mem := sR (vo_X9_init_52 b0) 0 4 (some (b0 + 4))
def vo_X9_init_92 (b0 : Nat) : Mem := sR (vo_X9_init_72 b0) 0 5 (some (b0 + 5))
def vo_X9_init_124 (b0 : Nat) : Mem := sR (vo_X9_init_92 b0) 0 9 (some (b0 + 6))
def vo_X9_init_153 (b0 : Nat) : Mem := sR (vo_X9_init_124 b0) 0 10 (some (b0 + 19))
def vo_X9_init_170 (b0 : Nat) : Mem := sR (vo_X9_init_153 b0) 0 11 (some (b0 + 32))
def vo_X9_init_190 (b0 : Nat) : Mem := sR (vo_X9_init_170 b0) 0 12 (some (b0 + 33))
def vo_X9_init_210 (b0 : Nat) : Mem := sR (vo_X9_init_190 b0) 0 13 (some (b0 + 34))
def vo_X9_init_230 (b0 : Nat) : Mem := sR (vo_X9_init_210 b0) 0 14 (some (b0 + 35))
def vo_X9_init_250 (b0 : Nat) : Mem := sR (vo_X9_init_230 b0) 0 15 (some (b0 + 36))
def vo_X9_init_270 (b0 : Nat) : Mem := sR (vo_X9_init_250 b0) 0 16 (some (b0 + 37))
def vo_X9_init_290 (b0 : Nat) : Mem := sR (vo_X9_init_270 b0) 0 17 (some (b0 + 38))
def vo_X9_init_310 (b0 : Nat) : Mem := sR (vo_X9_init_290 b0) 0 18 (some (b0 + 39))
def vo_X9_init_330 (b0 : Nat) : Mem := sR (vo_X9_init_310 b0) 0 19 (some (b0 + 40))
def vo_X9_init_350 (b0 : Nat) : Mem := sR (vo_X9_init_330 b0) 0 20 (some (b0 + 41))
def vo_X9_init_370 (b0 : Nat) : Mem := sR (vo_X9_init_350 b0) 0 25 (some (b0 + 42))
def vo_X9_init_390 (b0 : Nat) : Mem := sR (vo_X9_init_370 b0) 0 26 (some (b0 + 43))
def vo_X9_init_410 (b0 : Nat) : Mem := sR (vo_X9_init_390 b0) 0 27 (some (b0 + 44))
def vo_X9_init_430 (b0 : Nat) : Mem := sR (vo_X9_init_410 b0) 0 28 (some (b0 + 45))
def vf_X9_init_1 (b0 : Nat) : Mem := ptm (mz) 1 1 mz
def vf_X9_init_2 (b0 : Nat) : Mem := ptm (vf_X9_init_1 b0) 2 1 mz
def vf_X9_init_3 (b0 : Nat) : Mem := ptm (vf_X9_init_2 b0) 3 1 mz
def vf_X9_init_4 (b0 : Nat) : Mem := ptm (vf_X9_init_3 b0) 4 1 mz
def vf_X9_init_5 (b0 : Nat) : Mem := ptm (vf_X9_init_4 b0) 5 1 mz
def vf_X9_init_6 (b0 : Nat) : Mem := ptm (vf_X9_init_5 b0) 6 13 ((vc_X10 (b0 + 6)))
def vf_X9_init_19 (b0 : Nat) : Mem := ptm (vf_X9_init_6 b0) 19 13 ((vc_X10 (b0 + 19)))
def vf_X9_init_32 (b0 : Nat) : Mem := ptm (vf_X9_init_19 b0) 32 1 mz
def vf_X9_init_33 (b0 : Nat) : Mem := ptm (vf_X9_init_32 b0) 33 1 mz
def vf_X9_init_34 (b0 : Nat) : Mem := ptm (vf_X9_init_33 b0) 34 1 mz
def vf_X9_init_35 (b0 : Nat) : Mem := ptm (vf_X9_init_34 b0) 35 1 mz
def vf_X9_init_36 (b0 : Nat) : Mem := ptm (vf_X9_init_35 b0) 36 1 mz
def vf_X9_init_37 (b0 : Nat) : Mem := ptm (vf_X9_init_36 b0) 37 1 mz
def vf_X9_init_38 (b0 : Nat) : Mem := ptm (vf_X9_init_37 b0) 38 1 mz
def vf_X9_init_39 (b0 : Nat) : Mem := ptm (vf_X9_init_38 b0) 39 1 mz
def vf_X9_init_40 (b0 : Nat) : Mem := ptm (vf_X9_init_39 b0) 40 1 mz
def vf_X9_init_41 (b0 : Nat) : Mem := ptm (vf_X9_init_40 b0) 41 1 mz
def vf_X9_init_42 (b0 : Nat) : Mem := ptm (vf_X9_init_41 b0) 42 1 mz
def vf_X9_init_43 (b0 : Nat) : Mem := ptm (vf_X9_init_42 b0) 43 1 mz
def vf_X9_init_44 (b0 : Nat) : Mem := ptm (vf_X9_init_43 b0) 44 1 mz
def vf_X9_init_45 (b0 : Nat) : Mem := ptm (vf_X9_init_44 b0) 45 1 mz
def vc_X9 (b0 : Nat) : Mem := (vf_X9_init_45 b0)
set_option maxHeartbeats 4000000 in
theorem ct_X9_init {G : Gv} {l : Launch} {b0 : Nat} {rc : Nat} {rw0 : Mem} (hm : fX9_init_b (vc_X9 b0) = some (rc, rw0)) {sz : Nat} (hsz : sz = b0 + 1) : CT G l yX9_init (ws_ yX9_init cX9_init 2 none) 2 45 3035 52 [.ref b0] (iv b0 46) sz (fun H => rg G b0 1 shO_X9 mz H) (fun ov H => ov = none ∧ rg G b0 46 (shX9 G.2.1) rw0 H ∧ H.size = sz + rc) := by
  refine Met.ofW (cc := cX9_init) (maxL := 2) (ret := none) (by decide +kernel) rfl ?_
  intro p e s m args below meth c s₁ B hml hv
  obtain ⟨rfl, ⟨hz, hW0⟩, hK⟩ := hv
  subst hz
  have hz : s.heap.size = b0 + 1 := hsz
  have hin : meth.name = "<init>" := (name_of_methodNamed B.named B.method).1
  have hts := atoms_spec (ws := ws_ yX9_init cX9_init 2 none) B.pre
  have hts : ∀ w ∈ lw_all, w.before _ s = true := fun w h => hts w (List.mem_cons_of_mem _ h)
  have C : Cx G p s m _ meth c RX9 cX9_init 2 none := ⟨B.exec, B.bytes, B.returns, B.notSynchronized, hml, findClass_of_methodNamed B.named, hts, hK⟩
  obtain ⟨hx, hb, hr, hlk, hml, hown, hts, hK⟩ := id C
  have hl := lv_entry ([.ref b0]) (n := 2) (Nat.le_of_ble_eq_true rfl)
  rw [lg_entry_eq]
  generalize (lg_sl ([.ref b0]) ++ List.replicate (2 - (lg_sl ([.ref b0])).length) Slot.unset).toArray = ls at hl ⊢
  have hl : lv_has ls 2 [(0, .ref b0)] := hl
  have hS0 : va_S (FA (iv b0 46) s.heap.size) s.heap s.heap [] := va_S.rf
  refine lv_aload_n (pc := 0) hx hb dX9_init_0 rfl (lv_at hl 0 rfl) ?_
  refine W.objInit hx hb hown (hts _ q1744) (hts _ q159) (hts _ q160) rfl (by rw [hml]; exact hl.1) rfl dX9_init_1 (Nat.le_of_ble_eq_true rfl) (Nat.le_of_ble_eq_true rfl) ?_
  refine W.eq (g2 := F0 m 4 ls []) rfl ?_
  refine lv_aload_n (pc := 4) hx hb dX9_init_4 rfl (lv_at hl 0 rfl) ?_
  refine lv_sipush (pc := 5) (v := (150 : Int32)) hx hb dX9_init_5 (by decide) ?_
  refine rk_newarr (pc := 8) (atype := .int) (h := b0 + 1) (sh := (fun _ _ x y _ => some (.inl (G.2.1 0, 150, .inl x)))) hx hb hts hK hS0 q190 0 rfl (fun _ h => nomatch h) hz rfl rfl (by decide) rfl (Nat.le_of_ble_eq_true rfl) (Nat.le_of_ble_eq_true rfl) (Nat.le_of_ble_eq_true rfl) dX9_init_8 (fun H1 hW2 hS3 hz4 hkp5 => ?_)
  have hW6 := rg_keepN hW0 hz hkp5
  have hz7 : H1.size = b0 + 2 := by omega
  clear hW0 hS0 hz hz4 hkp5
  refine rk_putF (pc := 10) (q := b0) hx hb hts hown hK hW6 hS3 flX9_11 ft_X9 0 (by decide) rfl (Or.inl (show iv _ _ _ from ⟨by omega, by omega⟩)) rfl rfl hin rfl (x := va_rf (some (b0 + 1))) (rf_nar _ rfl (some (b0 + 1))) (rf_fit _ rfl (some (b0 + 1))) (Nat.le_of_ble_eq_true rfl) (sR mz 0 0 (some (b0 + 1))) sR_ne (by rw [sR_eq]; rfl) dX9_init_10 (fun H8 locs9 hW10 hS11 hz12 hkp13 => ?_)
  have hW10 : rg G b0 1 shO_X9 (vo_X9_init_13 b0) H8 := hW10
  have hW14 := rg_keepq hW2 hkp13 (by omega)
  have hz15 := hz12.trans hz7
  clear hW6 hW2 hz7 hz12 hS3 hkp13
  have ap16 := Ap.cons (x := ((b0 + 1), 1, (fun _ _ x y _ => some (.inl (G.2.1 0, 150, .inl x))), mz)) (Or.inl (show b0 < (b0 + 1) by omega)) (Ap.nil (q := b0))
  have hP17 := PP.cons (hi' := b0 + 2) hW14 (PP.nil (hi := b0)) (by omega) (by omega)
  clear hW14
  refine lv_aload_n (pc := 13) hx hb dX9_init_13 rfl (lv_at hl 0 rfl) ?_
  refine lv_sipush (pc := 14) (v := (150 : Int32)) hx hb dX9_init_14 (by decide) ?_
  refine rk_newarr (pc := 17) (atype := .int) (h := b0 + 2) (sh := (fun _ _ x y _ => some (.inl (G.2.1 0, 150, .inl x)))) hx hb hts hK hS11 q190 0 rfl (fun _ h => nomatch h) hz15 rfl rfl (by decide) rfl (Nat.le_of_ble_eq_true rfl) (Nat.le_of_ble_eq_true rfl) (Nat.le_of_ble_eq_true rfl) dX9_init_17 (fun H18 hW19 hS20 hz21 hkp22 => ?_)
  have hW23 := rg_keepN hW10 hz15 hkp22
  have hP24 := PP.keepN hP17 hz15 hkp22
  have ap25 := PP.ap (q := (b0 + 2)) hP24 (by omega)
  have hz26 : H18.size = b0 + 3 := by omega
  clear hW10 hP17 hS11 hz15 hz21 hkp22
  refine rk_putF (pc := 19) (q := b0) hx hb hts hown hK hW23 hS20 flX9_15 ft_X9 0 (by decide) rfl (Or.inl (show iv _ _ _ from ⟨by omega, by omega⟩)) rfl rfl hin rfl (x := va_rf (some (b0 + 2))) (rf_nar _ rfl (some (b0 + 2))) (rf_fit _ rfl (some (b0 + 2))) (Nat.le_of_ble_eq_true rfl) (sR (vo_X9_init_13 b0) 0 1 (some (b0 + 2))) sR_ne (by rw [sR_eq]; rfl) dX9_init_19 (fun H27 locs28 hW29 hS30 hz31 hkp32 => ?_)
  have hW29 : rg G b0 1 shO_X9 (vo_X9_init_32 b0) H27 := hW29
  have hW33 := rg_keepq hW19 hkp32 (by omega)
  have hP34 := PP.keepq hP24 hkp32 ap16
  have hz35 := hz31.trans hz26
  clear hW23 hW19 hP24 hz26 hz31 hS20 hkp32
  have ap36 := Ap.cons (x := ((b0 + 2), 1, (fun _ _ x y _ => some (.inl (G.2.1 0, 150, .inl x))), mz)) (Or.inl (show b0 < (b0 + 2) by omega)) ap16
  have hP37 := PP.cons (hi' := b0 + 3) hW33 hP34 (by omega) (by omega)
  clear ap16 hP34 hW33
  refine lv_aload_n (pc := 22) hx hb dX9_init_22 rfl (lv_at hl 0 rfl) ?_
  refine lv_sipush (pc := 23) (v := (150 : Int32)) hx hb dX9_init_23 (by decide) ?_
  refine rk_newarr (pc := 26) (atype := .int) (h := b0 + 3) (sh := (fun _ _ x y _ => some (.inl (G.2.1 0, 150, .inl x)))) hx hb hts hK hS30 q190 0 rfl (fun _ h => nomatch h) hz35 rfl rfl (by decide) rfl (Nat.le_of_ble_eq_true rfl) (Nat.le_of_ble_eq_true rfl) (Nat.le_of_ble_eq_true rfl) dX9_init_26 (fun H38 hW39 hS40 hz41 hkp42 => ?_)
  have hW43 := rg_keepN hW29 hz35 hkp42
  have hP44 := PP.keepN hP37 hz35 hkp42
  have ap45 := PP.ap (q := (b0 + 3)) hP44 (by omega)
  have hz46 : H38.size = b0 + 4 := by omega
  clear hW29 hP37 hS30 hz35 hz41 hkp42
  refine rk_putF (pc := 28) (q := b0) hx hb hts hown hK hW43 hS40 flX9_18 ft_X9 0 (by decide) rfl (Or.inl (show iv _ _ _ from ⟨by omega, by omega⟩)) rfl rfl hin rfl (x := va_rf (some (b0 + 3))) (rf_nar _ rfl (some (b0 + 3))) (rf_fit _ rfl (some (b0 + 3))) (Nat.le_of_ble_eq_true rfl) (sR (vo_X9_init_32 b0) 0 2 (some (b0 + 3))) sR_ne (by rw [sR_eq]; rfl) dX9_init_28 (fun H47 locs48 hW49 hS50 hz51 hkp52 => ?_)
  have hW49 : rg G b0 1 shO_X9 (vo_X9_init_52 b0) H47 := hW49
  have hW53 := rg_keepq hW39 hkp52 (by omega)
  have hP54 := PP.keepq hP44 hkp52 ap36
  have hz55 := hz51.trans hz46
  clear hW43 hW39 hP44 hz46 hz51 hS40 hkp52
  have ap56 := Ap.cons (x := ((b0 + 3), 1, (fun _ _ x y _ => some (.inl (G.2.1 0, 150, .inl x))), mz)) (Or.inl (show b0 < (b0 + 3) by omega)) ap36
  have hP57 := PP.cons (hi' := b0 + 4) hW53 hP54 (by omega) (by omega)
  clear ap36 hP54 hW53
  refine lv_aload_n (pc := 31) hx hb dX9_init_31 rfl (lv_at hl 0 rfl) ?_
  refine lv_bipush (pc := 32) (v := (80 : Int32)) hx hb dX9_init_32 (by decide) ?_
  refine rk_newarr (pc := 34) (atype := .int) (h := b0 + 4) (sh := (fun _ _ x y _ => some (.inl (G.2.1 0, 80, .inl x)))) hx hb hts hK hS50 q190 0 rfl (fun _ h => nomatch h) hz55 rfl rfl (by decide) rfl (Nat.le_of_ble_eq_true rfl) (Nat.le_of_ble_eq_true rfl) (Nat.le_of_ble_eq_true rfl) dX9_init_34 (fun H58 hW59 hS60 hz61 hkp62 => ?_)
  have hW63 := rg_keepN hW49 hz55 hkp62
  have hP64 := PP.keepN hP57 hz55 hkp62
  have ap65 := PP.ap (q := (b0 + 4)) hP64 (by omega)
  have hz66 : H58.size = b0 + 5 := by omega
  clear hW49 hP57 hS50 hz55 hz61 hkp62
  refine rk_putF (pc := 36) (q := b0) hx hb hts hown hK hW63 hS60 flX9_21 ft_X9 0 (by decide) rfl (Or.inl (show iv _ _ _ from ⟨by omega, by omega⟩)) rfl rfl hin rfl (x := va_rf (some (b0 + 4))) (rf_nar _ rfl (some (b0 + 4))) (rf_fit _ rfl (some (b0 + 4))) (Nat.le_of_ble_eq_true rfl) (sR (vo_X9_init_52 b0) 0 4 (some (b0 + 4))) sR_ne (by rw [sR_eq]; rfl) dX9_init_36 (fun H67 locs68 hW69 hS70 hz71 hkp72 => ?_)
  have hW69 : rg G b0 1 shO_X9 (vo_X9_init_72 b0) H67 := hW69
  have hW73 := rg_keepq hW59 hkp72 (by omega)
  have hP74 := PP.keepq hP64 hkp72 ap56
  have hz75 := hz71.trans hz66
  clear hW63 hW59 hP64 hz66 hz71 hS60 hkp72
  have ap76 := Ap.cons (x := ((b0 + 4), 1, (fun _ _ x y _ => some (.inl (G.2.1 0, 80, .inl x))), mz)) (Or.inl (show b0 < (b0 + 4) by omega)) ap56
  have hP77 := PP.cons (hi' := b0 + 5) hW73 hP74 (by omega) (by omega)
  clear ap56 hP74 hW73
  refine lv_aload_n (pc := 39) hx hb dX9_init_39 rfl (lv_at hl 0 rfl) ?_
  refine lv_bipush (pc := 40) (v := (28 : Int32)) hx hb dX9_init_40 (by decide) ?_
  refine rk_newarr (pc := 42) (atype := .int) (h := b0 + 5) (sh := (fun _ _ x y _ => some (.inl (G.2.1 0, 28, .inl x)))) hx hb hts hK hS70 q190 0 rfl (fun _ h => nomatch h) hz75 rfl rfl (by decide) rfl (Nat.le_of_ble_eq_true rfl) (Nat.le_of_ble_eq_true rfl) (Nat.le_of_ble_eq_true rfl) dX9_init_42 (fun H78 hW79 hS80 hz81 hkp82 => ?_)
  have hW83 := rg_keepN hW69 hz75 hkp82
  have hP84 := PP.keepN hP77 hz75 hkp82
  have ap85 := PP.ap (q := (b0 + 5)) hP84 (by omega)
  have hz86 : H78.size = b0 + 6 := by omega
  clear hW69 hP77 hS70 hz75 hz81 hkp82
  refine rk_putF (pc := 44) (q := b0) hx hb hts hown hK hW83 hS80 flX9_24 ft_X9 0 (by decide) rfl (Or.inl (show iv _ _ _ from ⟨by omega, by omega⟩)) rfl rfl hin rfl (x := va_rf (some (b0 + 5))) (rf_nar _ rfl (some (b0 + 5))) (rf_fit _ rfl (some (b0 + 5))) (Nat.le_of_ble_eq_true rfl) (sR (vo_X9_init_72 b0) 0 5 (some (b0 + 5))) sR_ne (by rw [sR_eq]; rfl) dX9_init_44 (fun H87 locs88 hW89 hS90 hz91 hkp92 => ?_)
  have hW89 : rg G b0 1 shO_X9 (vo_X9_init_92 b0) H87 := hW89
  have hW93 := rg_keepq hW79 hkp92 (by omega)
  have hP94 := PP.keepq hP84 hkp92 ap76
  have hz95 := hz91.trans hz86
  clear hW83 hW79 hP84 hz86 hz91 hS80 hkp92
  have ap96 := Ap.cons (x := ((b0 + 5), 1, (fun _ _ x y _ => some (.inl (G.2.1 0, 28, .inl x))), mz)) (Or.inl (show b0 < (b0 + 5) by omega)) ap76
  have hP97 := PP.cons (hi' := b0 + 6) hW93 hP94 (by omega) (by omega)
  clear ap76 hP94 hW93
  refine lv_aload_n (pc := 47) hx hb dX9_init_47 rfl (lv_at hl 0 rfl) ?_
  refine rk_new (pc := 48) (h := b0 + 6) (sh := (shO_X10)) hx hb hts hown hK hS90 in_X10 ft_X10 rfl q1745 q1746 q129 hz95 rfl (df_X10 _ rfl) (Nat.le_of_ble_eq_true rfl) (Nat.le_of_ble_eq_true rfl) dX9_init_48 (fun H98 hW99 hS100 hz101 hkp102 => ?_)
  have hW103 := rg_keepN hW89 hz95 hkp102
  have hP104 := PP.keepN hP97 hz95 hkp102
  have ap105 := PP.ap (q := (b0 + 6)) hP104 (by omega)
  have hz106 : H98.size = b0 + 7 := by omega
  clear hW89 hP97 hS90 hz95 hz101 hkp102
  refine lv_dup (pc := 51) hx hb dX9_init_51 rfl ?_
  refine rk_TIN (pc := 52) (As := []) (rest := [.ref (b0 + 6), .ref b0]) (mc := 12) (ms := 599) hx hb hml hown hts hK hS100 (fun q hq => FA_sz rfl q hq) lkX9_29 yn_X10_init (ct_X10_init (G := G) (l := l) (b0 := (b0 + 6)) (sz := H98.size) (by omega)) ⟨Nat.le_of_ble_eq_true rfl, Nat.le_of_ble_eq_true rfl⟩ (fun z h => Or.inr (by have h8 := h.1; omega)) hW99 rfl rfl hl.1 (Nat.le_of_ble_eq_true rfl) dX9_init_52 ⟨Nat.le_of_ble_eq_true rfl, Nat.le_of_ble_eq_true rfl⟩ (fun ov9 H107 locs108 hP109 hkp110 hS111 => ?_)
  obtain ⟨rfl, hW112, hz113⟩ := hP109
  have hW114 := rg_keepA hW103 hkp110 (by intro z h1 h2 h3; have h8 := h3.1; have h9 := h3.2; omega)
  have hP115 := PP.keepA hP104 hkp110 (by omega)
  have hz116 : H107.size = b0 + 19 := by omega
  have ap117 := Ap.cons (x := ((b0 + 6), 13, (shX10 G.2.1), (vc_X10 (b0 + 6)))) (Or.inl (show b0 < (b0 + 6) by omega)) ap96
  have hP118 := PP.cons (hi' := b0 + 19) hW112 hP115 (by omega) (by omega)
  clear hW103 hP104 hz106 hz113 hkp110 hS100 hW99 ap105 ap96 hP115 hW112
  refine W.eq (g2 := F0 m 55 ls [.ref (b0 + 6), .ref b0]) rfl ?_
  refine rk_putF (pc := 55) (q := b0) hx hb hts hown hK hW114 hS111 flX9_30 ft_X9 0 (by decide) rfl (Or.inl (show iv _ _ _ from ⟨by omega, by omega⟩)) rfl rfl hin rfl (x := va_rf (some (b0 + 6))) (rf_nar _ rfl (some (b0 + 6))) (rf_fit _ rfl (some (b0 + 6))) (Nat.le_of_ble_eq_true rfl) (sR (vo_X9_init_92 b0) 0 9 (some (b0 + 6))) sR_ne (by rw [sR_eq]; rfl) dX9_init_55 (fun H119 locs120 hW121 hS122 hz123 hkp124 => ?_)
  have hW121 : rg G b0 1 shO_X9 (vo_X9_init_124 b0) H119 := hW121
  have hP125 := PP.keepq hP118 hkp124 ap117
  have hz126 := hz123.trans hz116
  clear hW114 hP118 hz116 hz123 hS111 hkp124
  refine lv_aload_n (pc := 58) hx hb dX9_init_58 rfl (lv_at hl 0 rfl) ?_
  refine rk_new (pc := 59) (h := b0 + 19) (sh := (shO_X10)) hx hb hts hown hK hS122 in_X10 ft_X10 rfl q1745 q1746 q129 hz126 rfl (df_X10 _ rfl) (Nat.le_of_ble_eq_true rfl) (Nat.le_of_ble_eq_true rfl) dX9_init_59 (fun H127 hW128 hS129 hz130 hkp131 => ?_)
  have hW132 := rg_keepN hW121 hz126 hkp131
  have hP133 := PP.keepN hP125 hz126 hkp131
  have ap134 := PP.ap (q := (b0 + 19)) hP133 (by omega)
  have hz135 : H127.size = b0 + 20 := by omega
  clear hW121 hP125 hS122 hz126 hz130 hkp131
  refine lv_dup (pc := 62) hx hb dX9_init_62 rfl ?_
  refine rk_TIN (pc := 63) (As := []) (rest := [.ref (b0 + 19), .ref b0]) (mc := 12) (ms := 599) hx hb hml hown hts hK hS129 (fun q hq => FA_sz rfl q hq) lkX9_29 yn_X10_init (ct_X10_init (G := G) (l := l) (b0 := (b0 + 19)) (sz := H127.size) (by omega)) ⟨Nat.le_of_ble_eq_true rfl, Nat.le_of_ble_eq_true rfl⟩ (fun z h => Or.inr (by have h8 := h.1; omega)) hW128 rfl rfl hl.1 (Nat.le_of_ble_eq_true rfl) dX9_init_63 ⟨Nat.le_of_ble_eq_true rfl, Nat.le_of_ble_eq_true rfl⟩ (fun ov9 H136 locs137 hP138 hkp139 hS140 => ?_)
  obtain ⟨rfl, hW141, hz142⟩ := hP138
  have hW143 := rg_keepA hW132 hkp139 (by intro z h1 h2 h3; have h8 := h3.1; have h9 := h3.2; omega)
  have hP144 := PP.keepA hP133 hkp139 (by omega)
  have hz145 : H136.size = b0 + 32 := by omega
  have ap146 := Ap.cons (x := ((b0 + 19), 13, (shX10 G.2.1), (vc_X10 (b0 + 19)))) (Or.inl (show b0 < (b0 + 19) by omega)) ap117
  have hP147 := PP.cons (hi' := b0 + 32) hW141 hP144 (by omega) (by omega)
  clear hW132 hP133 hz135 hz142 hkp139 hS129 hW128 ap134 ap117 hP144 hW141
  refine W.eq (g2 := F0 m 66 ls [.ref (b0 + 19), .ref b0]) rfl ?_
  refine rk_putF (pc := 66) (q := b0) hx hb hts hown hK hW143 hS140 flX9_34 ft_X9 0 (by decide) rfl (Or.inl (show iv _ _ _ from ⟨by omega, by omega⟩)) rfl rfl hin rfl (x := va_rf (some (b0 + 19))) (rf_nar _ rfl (some (b0 + 19))) (rf_fit _ rfl (some (b0 + 19))) (Nat.le_of_ble_eq_true rfl) (sR (vo_X9_init_124 b0) 0 10 (some (b0 + 19))) sR_ne (by rw [sR_eq]; rfl) dX9_init_66 (fun H148 locs149 hW150 hS151 hz152 hkp153 => ?_)
  have hW150 : rg G b0 1 shO_X9 (vo_X9_init_153 b0) H148 := hW150
  have hP154 := PP.keepq hP147 hkp153 ap146
  have hz155 := hz152.trans hz145
  clear hW143 hP147 hz145 hz152 hS140 hkp153
  refine lv_aload_n (pc := 69) hx hb dX9_init_69 rfl (lv_at hl 0 rfl) ?_
  refine lv_iconst (pc := 70) (v := (5 : Int32)) hx hb dX9_init_70 (by decide) ?_
  refine rk_newarr (pc := 71) (atype := .int) (h := b0 + 32) (sh := (fun _ _ x y _ => some (.inl (G.2.1 0, 5, .inl x)))) hx hb hts hK hS151 q190 0 rfl (fun _ h => nomatch h) hz155 rfl rfl (by decide) rfl (Nat.le_of_ble_eq_true rfl) (Nat.le_of_ble_eq_true rfl) (Nat.le_of_ble_eq_true rfl) dX9_init_71 (fun H156 hW157 hS158 hz159 hkp160 => ?_)
  have hW161 := rg_keepN hW150 hz155 hkp160
  have hP162 := PP.keepN hP154 hz155 hkp160
  have ap163 := PP.ap (q := (b0 + 32)) hP162 (by omega)
  have hz164 : H156.size = b0 + 33 := by omega
  clear hW150 hP154 hS151 hz155 hz159 hkp160
  refine rk_putF (pc := 73) (q := b0) hx hb hts hown hK hW161 hS158 flX9_37 ft_X9 0 (by decide) rfl (Or.inl (show iv _ _ _ from ⟨by omega, by omega⟩)) rfl rfl hin rfl (x := va_rf (some (b0 + 32))) (rf_nar _ rfl (some (b0 + 32))) (rf_fit _ rfl (some (b0 + 32))) (Nat.le_of_ble_eq_true rfl) (sR (vo_X9_init_153 b0) 0 11 (some (b0 + 32))) sR_ne (by rw [sR_eq]; rfl) dX9_init_73 (fun H165 locs166 hW167 hS168 hz169 hkp170 => ?_)
  have hW167 : rg G b0 1 shO_X9 (vo_X9_init_170 b0) H165 := hW167
  have hW171 := rg_keepq hW157 hkp170 (by omega)
  have hP172 := PP.keepq hP162 hkp170 ap146
  have hz173 := hz169.trans hz164
  clear hW161 hW157 hP162 hz164 hz169 hS158 hkp170
  have ap174 := Ap.cons (x := ((b0 + 32), 1, (fun _ _ x y _ => some (.inl (G.2.1 0, 5, .inl x))), mz)) (Or.inl (show b0 < (b0 + 32) by omega)) ap146
  have hP175 := PP.cons (hi' := b0 + 33) hW171 hP172 (by omega) (by omega)
  clear ap146 hP172 hW171
  refine lv_aload_n (pc := 76) hx hb dX9_init_76 rfl (lv_at hl 0 rfl) ?_
  refine lv_bipush (pc := 77) (v := (21 : Int32)) hx hb dX9_init_77 (by decide) ?_
  refine rk_newarr (pc := 79) (atype := .int) (h := b0 + 33) (sh := (fun _ _ x y _ => some (.inl (G.2.1 0, 21, .inl x)))) hx hb hts hK hS168 q190 0 rfl (fun _ h => nomatch h) hz173 rfl rfl (by decide) rfl (Nat.le_of_ble_eq_true rfl) (Nat.le_of_ble_eq_true rfl) (Nat.le_of_ble_eq_true rfl) dX9_init_79 (fun H176 hW177 hS178 hz179 hkp180 => ?_)
  have hW181 := rg_keepN hW167 hz173 hkp180
  have hP182 := PP.keepN hP175 hz173 hkp180
  have ap183 := PP.ap (q := (b0 + 33)) hP182 (by omega)
  have hz184 : H176.size = b0 + 34 := by omega
  clear hW167 hP175 hS168 hz173 hz179 hkp180
  refine rk_putF (pc := 81) (q := b0) hx hb hts hown hK hW181 hS178 flX9_40 ft_X9 0 (by decide) rfl (Or.inl (show iv _ _ _ from ⟨by omega, by omega⟩)) rfl rfl hin rfl (x := va_rf (some (b0 + 33))) (rf_nar _ rfl (some (b0 + 33))) (rf_fit _ rfl (some (b0 + 33))) (Nat.le_of_ble_eq_true rfl) (sR (vo_X9_init_170 b0) 0 12 (some (b0 + 33))) sR_ne (by rw [sR_eq]; rfl) dX9_init_81 (fun H185 locs186 hW187 hS188 hz189 hkp190 => ?_)
  have hW187 : rg G b0 1 shO_X9 (vo_X9_init_190 b0) H185 := hW187
  have hW191 := rg_keepq hW177 hkp190 (by omega)
  have hP192 := PP.keepq hP182 hkp190 ap174
  have hz193 := hz189.trans hz184
  clear hW181 hW177 hP182 hz184 hz189 hS178 hkp190
  have ap194 := Ap.cons (x := ((b0 + 33), 1, (fun _ _ x y _ => some (.inl (G.2.1 0, 21, .inl x))), mz)) (Or.inl (show b0 < (b0 + 33) by omega)) ap174
  have hP195 := PP.cons (hi' := b0 + 34) hW191 hP192 (by omega) (by omega)
  clear ap174 hP192 hW191
  refine lv_aload_n (pc := 84) hx hb dX9_init_84 rfl (lv_at hl 0 rfl) ?_
  refine lv_bipush (pc := 85) (v := (21 : Int32)) hx hb dX9_init_85 (by decide) ?_
  refine rk_newarr (pc := 87) (atype := .int) (h := b0 + 34) (sh := (fun _ _ x y _ => some (.inl (G.2.1 0, 21, .inl x)))) hx hb hts hK hS188 q190 0 rfl (fun _ h => nomatch h) hz193 rfl rfl (by decide) rfl (Nat.le_of_ble_eq_true rfl) (Nat.le_of_ble_eq_true rfl) (Nat.le_of_ble_eq_true rfl) dX9_init_87 (fun H196 hW197 hS198 hz199 hkp200 => ?_)
  have hW201 := rg_keepN hW187 hz193 hkp200
  have hP202 := PP.keepN hP195 hz193 hkp200
  have ap203 := PP.ap (q := (b0 + 34)) hP202 (by omega)
  have hz204 : H196.size = b0 + 35 := by omega
  clear hW187 hP195 hS188 hz193 hz199 hkp200
  refine rk_putF (pc := 89) (q := b0) hx hb hts hown hK hW201 hS198 flX9_43 ft_X9 0 (by decide) rfl (Or.inl (show iv _ _ _ from ⟨by omega, by omega⟩)) rfl rfl hin rfl (x := va_rf (some (b0 + 34))) (rf_nar _ rfl (some (b0 + 34))) (rf_fit _ rfl (some (b0 + 34))) (Nat.le_of_ble_eq_true rfl) (sR (vo_X9_init_190 b0) 0 13 (some (b0 + 34))) sR_ne (by rw [sR_eq]; rfl) dX9_init_89 (fun H205 locs206 hW207 hS208 hz209 hkp210 => ?_)
  have hW207 : rg G b0 1 shO_X9 (vo_X9_init_210 b0) H205 := hW207
  have hW211 := rg_keepq hW197 hkp210 (by omega)
  have hP212 := PP.keepq hP202 hkp210 ap194
  have hz213 := hz209.trans hz204
  clear hW201 hW197 hP202 hz204 hz209 hS198 hkp210
  have ap214 := Ap.cons (x := ((b0 + 34), 1, (fun _ _ x y _ => some (.inl (G.2.1 0, 21, .inl x))), mz)) (Or.inl (show b0 < (b0 + 34) by omega)) ap194
  have hP215 := PP.cons (hi' := b0 + 35) hW211 hP212 (by omega) (by omega)
  clear ap194 hP212 hW211
  refine lv_aload_n (pc := 92) hx hb dX9_init_92 rfl (lv_at hl 0 rfl) ?_
  refine lv_sipush (pc := 93) (v := (200 : Int32)) hx hb dX9_init_93 (by decide) ?_
  refine rk_newarr (pc := 96) (atype := .int) (h := b0 + 35) (sh := (fun _ _ x y _ => some (.inl (G.2.1 0, 200, .inl x)))) hx hb hts hK hS208 q190 0 rfl (fun _ h => nomatch h) hz213 rfl rfl (by decide) rfl (Nat.le_of_ble_eq_true rfl) (Nat.le_of_ble_eq_true rfl) (Nat.le_of_ble_eq_true rfl) dX9_init_96 (fun H216 hW217 hS218 hz219 hkp220 => ?_)
  have hW221 := rg_keepN hW207 hz213 hkp220
  have hP222 := PP.keepN hP215 hz213 hkp220
  have ap223 := PP.ap (q := (b0 + 35)) hP222 (by omega)
  have hz224 : H216.size = b0 + 36 := by omega
  clear hW207 hP215 hS208 hz213 hz219 hkp220
  refine rk_putF (pc := 98) (q := b0) hx hb hts hown hK hW221 hS218 flX9_46 ft_X9 0 (by decide) rfl (Or.inl (show iv _ _ _ from ⟨by omega, by omega⟩)) rfl rfl hin rfl (x := va_rf (some (b0 + 35))) (rf_nar _ rfl (some (b0 + 35))) (rf_fit _ rfl (some (b0 + 35))) (Nat.le_of_ble_eq_true rfl) (sR (vo_X9_init_210 b0) 0 14 (some (b0 + 35))) sR_ne (by rw [sR_eq]; rfl) dX9_init_98 (fun H225 locs226 hW227 hS228 hz229 hkp230 => ?_)
  have hW227 : rg G b0 1 shO_X9 (vo_X9_init_230 b0) H225 := hW227
  have hW231 := rg_keepq hW217 hkp230 (by omega)
  have hP232 := PP.keepq hP222 hkp230 ap214
  have hz233 := hz229.trans hz224
  clear hW221 hW217 hP222 hz224 hz229 hS218 hkp230
  have ap234 := Ap.cons (x := ((b0 + 35), 1, (fun _ _ x y _ => some (.inl (G.2.1 0, 200, .inl x))), mz)) (Or.inl (show b0 < (b0 + 35) by omega)) ap214
  have hP235 := PP.cons (hi' := b0 + 36) hW231 hP232 (by omega) (by omega)
  clear ap214 hP232 hW231
  refine lv_aload_n (pc := 101) hx hb dX9_init_101 rfl (lv_at hl 0 rfl) ?_
  refine lv_sipush (pc := 102) (v := (200 : Int32)) hx hb dX9_init_102 (by decide) ?_
  refine rk_newarr (pc := 105) (atype := .int) (h := b0 + 36) (sh := (fun _ _ x y _ => some (.inl (G.2.1 0, 200, .inl x)))) hx hb hts hK hS228 q190 0 rfl (fun _ h => nomatch h) hz233 rfl rfl (by decide) rfl (Nat.le_of_ble_eq_true rfl) (Nat.le_of_ble_eq_true rfl) (Nat.le_of_ble_eq_true rfl) dX9_init_105 (fun H236 hW237 hS238 hz239 hkp240 => ?_)
  have hW241 := rg_keepN hW227 hz233 hkp240
  have hP242 := PP.keepN hP235 hz233 hkp240
  have ap243 := PP.ap (q := (b0 + 36)) hP242 (by omega)
  have hz244 : H236.size = b0 + 37 := by omega
  clear hW227 hP235 hS228 hz233 hz239 hkp240
  refine rk_putF (pc := 107) (q := b0) hx hb hts hown hK hW241 hS238 flX9_49 ft_X9 0 (by decide) rfl (Or.inl (show iv _ _ _ from ⟨by omega, by omega⟩)) rfl rfl hin rfl (x := va_rf (some (b0 + 36))) (rf_nar _ rfl (some (b0 + 36))) (rf_fit _ rfl (some (b0 + 36))) (Nat.le_of_ble_eq_true rfl) (sR (vo_X9_init_230 b0) 0 15 (some (b0 + 36))) sR_ne (by rw [sR_eq]; rfl) dX9_init_107 (fun H245 locs246 hW247 hS248 hz249 hkp250 => ?_)
  have hW247 : rg G b0 1 shO_X9 (vo_X9_init_250 b0) H245 := hW247
  have hW251 := rg_keepq hW237 hkp250 (by omega)
  have hP252 := PP.keepq hP242 hkp250 ap234
  have hz253 := hz249.trans hz244
  clear hW241 hW237 hP242 hz244 hz249 hS238 hkp250
  have ap254 := Ap.cons (x := ((b0 + 36), 1, (fun _ _ x y _ => some (.inl (G.2.1 0, 200, .inl x))), mz)) (Or.inl (show b0 < (b0 + 36) by omega)) ap234
  have hP255 := PP.cons (hi' := b0 + 37) hW251 hP252 (by omega) (by omega)
  clear ap234 hP252 hW251
  refine lv_aload_n (pc := 110) hx hb dX9_init_110 rfl (lv_at hl 0 rfl) ?_
  refine lv_bipush (pc := 111) (v := (40 : Int32)) hx hb dX9_init_111 (by decide) ?_
  refine rk_newarr (pc := 113) (atype := .int) (h := b0 + 37) (sh := (fun _ _ x y _ => some (.inl (G.2.1 0, 40, .inl x)))) hx hb hts hK hS248 q190 0 rfl (fun _ h => nomatch h) hz253 rfl rfl (by decide) rfl (Nat.le_of_ble_eq_true rfl) (Nat.le_of_ble_eq_true rfl) (Nat.le_of_ble_eq_true rfl) dX9_init_113 (fun H256 hW257 hS258 hz259 hkp260 => ?_)
  have hW261 := rg_keepN hW247 hz253 hkp260
  have hP262 := PP.keepN hP255 hz253 hkp260
  have ap263 := PP.ap (q := (b0 + 37)) hP262 (by omega)
  have hz264 : H256.size = b0 + 38 := by omega
  clear hW247 hP255 hS248 hz253 hz259 hkp260
  refine rk_putF (pc := 115) (q := b0) hx hb hts hown hK hW261 hS258 flX9_52 ft_X9 0 (by decide) rfl (Or.inl (show iv _ _ _ from ⟨by omega, by omega⟩)) rfl rfl hin rfl (x := va_rf (some (b0 + 37))) (rf_nar _ rfl (some (b0 + 37))) (rf_fit _ rfl (some (b0 + 37))) (Nat.le_of_ble_eq_true rfl) (sR (vo_X9_init_250 b0) 0 16 (some (b0 + 37))) sR_ne (by rw [sR_eq]; rfl) dX9_init_115 (fun H265 locs266 hW267 hS268 hz269 hkp270 => ?_)
  have hW267 : rg G b0 1 shO_X9 (vo_X9_init_270 b0) H265 := hW267
  have hW271 := rg_keepq hW257 hkp270 (by omega)
  have hP272 := PP.keepq hP262 hkp270 ap254
  have hz273 := hz269.trans hz264
  clear hW261 hW257 hP262 hz264 hz269 hS258 hkp270
  have ap274 := Ap.cons (x := ((b0 + 37), 1, (fun _ _ x y _ => some (.inl (G.2.1 0, 40, .inl x))), mz)) (Or.inl (show b0 < (b0 + 37) by omega)) ap254
  have hP275 := PP.cons (hi' := b0 + 38) hW271 hP272 (by omega) (by omega)
  clear ap254 hP272 hW271
  refine lv_aload_n (pc := 118) hx hb dX9_init_118 rfl (lv_at hl 0 rfl) ?_
  refine lv_sipush (pc := 119) (v := (200 : Int32)) hx hb dX9_init_119 (by decide) ?_
  refine rk_newarr (pc := 122) (atype := .long) (h := b0 + 38) (sh := (fun _ _ x y _ => some (.inl (G.2.1 1, 200, .inr (.inl y))))) hx hb hts hK hS268 q273 1 rfl (fun _ h => nomatch h) hz273 rfl rfl (by decide) rfl (Nat.le_of_ble_eq_true rfl) (Nat.le_of_ble_eq_true rfl) (Nat.le_of_ble_eq_true rfl) dX9_init_122 (fun H276 hW277 hS278 hz279 hkp280 => ?_)
  have hW281 := rg_keepN hW267 hz273 hkp280
  have hP282 := PP.keepN hP275 hz273 hkp280
  have ap283 := PP.ap (q := (b0 + 38)) hP282 (by omega)
  have hz284 : H276.size = b0 + 39 := by omega
  clear hW267 hP275 hS268 hz273 hz279 hkp280
  refine rk_putF (pc := 124) (q := b0) hx hb hts hown hK hW281 hS278 flX9_55 ft_X9 0 (by decide) rfl (Or.inl (show iv _ _ _ from ⟨by omega, by omega⟩)) rfl rfl hin rfl (x := va_rf (some (b0 + 38))) (rf_nar _ rfl (some (b0 + 38))) (rf_fit _ rfl (some (b0 + 38))) (Nat.le_of_ble_eq_true rfl) (sR (vo_X9_init_270 b0) 0 17 (some (b0 + 38))) sR_ne (by rw [sR_eq]; rfl) dX9_init_124 (fun H285 locs286 hW287 hS288 hz289 hkp290 => ?_)
  have hW287 : rg G b0 1 shO_X9 (vo_X9_init_290 b0) H285 := hW287
  have hW291 := rg_keepq hW277 hkp290 (by omega)
  have hP292 := PP.keepq hP282 hkp290 ap274
  have hz293 := hz289.trans hz284
  clear hW281 hW277 hP282 hz284 hz289 hS278 hkp290
  have ap294 := Ap.cons (x := ((b0 + 38), 1, (fun _ _ x y _ => some (.inl (G.2.1 1, 200, .inr (.inl y)))), mz)) (Or.inl (show b0 < (b0 + 38) by omega)) ap274
  have hP295 := PP.cons (hi' := b0 + 39) hW291 hP292 (by omega) (by omega)
  clear ap274 hP292 hW291
  refine lv_aload_n (pc := 127) hx hb dX9_init_127 rfl (lv_at hl 0 rfl) ?_
  refine lv_bipush (pc := 128) (v := (40 : Int32)) hx hb dX9_init_128 (by decide) ?_
  refine rk_newarr (pc := 130) (atype := .long) (h := b0 + 39) (sh := (fun _ _ x y _ => some (.inl (G.2.1 1, 40, .inr (.inl y))))) hx hb hts hK hS288 q273 1 rfl (fun _ h => nomatch h) hz293 rfl rfl (by decide) rfl (Nat.le_of_ble_eq_true rfl) (Nat.le_of_ble_eq_true rfl) (Nat.le_of_ble_eq_true rfl) dX9_init_130 (fun H296 hW297 hS298 hz299 hkp300 => ?_)
  have hW301 := rg_keepN hW287 hz293 hkp300
  have hP302 := PP.keepN hP295 hz293 hkp300
  have ap303 := PP.ap (q := (b0 + 39)) hP302 (by omega)
  have hz304 : H296.size = b0 + 40 := by omega
  clear hW287 hP295 hS288 hz293 hz299 hkp300
  refine rk_putF (pc := 132) (q := b0) hx hb hts hown hK hW301 hS298 flX9_59 ft_X9 0 (by decide) rfl (Or.inl (show iv _ _ _ from ⟨by omega, by omega⟩)) rfl rfl hin rfl (x := va_rf (some (b0 + 39))) (rf_nar _ rfl (some (b0 + 39))) (rf_fit _ rfl (some (b0 + 39))) (Nat.le_of_ble_eq_true rfl) (sR (vo_X9_init_290 b0) 0 18 (some (b0 + 39))) sR_ne (by rw [sR_eq]; rfl) dX9_init_132 (fun H305 locs306 hW307 hS308 hz309 hkp310 => ?_)
  have hW307 : rg G b0 1 shO_X9 (vo_X9_init_310 b0) H305 := hW307
  have hW311 := rg_keepq hW297 hkp310 (by omega)
  have hP312 := PP.keepq hP302 hkp310 ap294
  have hz313 := hz309.trans hz304
  clear hW301 hW297 hP302 hz304 hz309 hS298 hkp310
  have ap314 := Ap.cons (x := ((b0 + 39), 1, (fun _ _ x y _ => some (.inl (G.2.1 1, 40, .inr (.inl y)))), mz)) (Or.inl (show b0 < (b0 + 39) by omega)) ap294
  have hP315 := PP.cons (hi' := b0 + 40) hW311 hP312 (by omega) (by omega)
  clear ap294 hP312 hW311
  refine lv_aload_n (pc := 135) hx hb dX9_init_135 rfl (lv_at hl 0 rfl) ?_
  refine lv_bipush (pc := 136) (v := (40 : Int32)) hx hb dX9_init_136 (by decide) ?_
  refine rk_newarr (pc := 138) (atype := .long) (h := b0 + 40) (sh := (fun _ _ x y _ => some (.inl (G.2.1 1, 40, .inr (.inl y))))) hx hb hts hK hS308 q273 1 rfl (fun _ h => nomatch h) hz313 rfl rfl (by decide) rfl (Nat.le_of_ble_eq_true rfl) (Nat.le_of_ble_eq_true rfl) (Nat.le_of_ble_eq_true rfl) dX9_init_138 (fun H316 hW317 hS318 hz319 hkp320 => ?_)
  have hW321 := rg_keepN hW307 hz313 hkp320
  have hP322 := PP.keepN hP315 hz313 hkp320
  have ap323 := PP.ap (q := (b0 + 40)) hP322 (by omega)
  have hz324 : H316.size = b0 + 41 := by omega
  clear hW307 hP315 hS308 hz313 hz319 hkp320
  refine rk_putF (pc := 140) (q := b0) hx hb hts hown hK hW321 hS318 flX9_62 ft_X9 0 (by decide) rfl (Or.inl (show iv _ _ _ from ⟨by omega, by omega⟩)) rfl rfl hin rfl (x := va_rf (some (b0 + 40))) (rf_nar _ rfl (some (b0 + 40))) (rf_fit _ rfl (some (b0 + 40))) (Nat.le_of_ble_eq_true rfl) (sR (vo_X9_init_310 b0) 0 19 (some (b0 + 40))) sR_ne (by rw [sR_eq]; rfl) dX9_init_140 (fun H325 locs326 hW327 hS328 hz329 hkp330 => ?_)
  have hW327 : rg G b0 1 shO_X9 (vo_X9_init_330 b0) H325 := hW327
  have hW331 := rg_keepq hW317 hkp330 (by omega)
  have hP332 := PP.keepq hP322 hkp330 ap314
  have hz333 := hz329.trans hz324
  clear hW321 hW317 hP322 hz324 hz329 hS318 hkp330
  have ap334 := Ap.cons (x := ((b0 + 40), 1, (fun _ _ x y _ => some (.inl (G.2.1 1, 40, .inr (.inl y)))), mz)) (Or.inl (show b0 < (b0 + 40) by omega)) ap314
  have hP335 := PP.cons (hi' := b0 + 41) hW331 hP332 (by omega) (by omega)
  clear ap314 hP332 hW331
  refine lv_aload_n (pc := 143) hx hb dX9_init_143 rfl (lv_at hl 0 rfl) ?_
  refine lv_bipush (pc := 144) (v := (40 : Int32)) hx hb dX9_init_144 (by decide) ?_
  refine rk_newarr (pc := 146) (atype := .boolean) (h := b0 + 41) (sh := (fun _ _ x y _ => some (.inl (G.2.1 4, 40, .inl x)))) hx hb hts hK hS328 q1687 4 rfl (fun _ h => nomatch h) hz333 rfl rfl (by decide) rfl (Nat.le_of_ble_eq_true rfl) (Nat.le_of_ble_eq_true rfl) (Nat.le_of_ble_eq_true rfl) dX9_init_146 (fun H336 hW337 hS338 hz339 hkp340 => ?_)
  have hW341 := rg_keepN hW327 hz333 hkp340
  have hP342 := PP.keepN hP335 hz333 hkp340
  have ap343 := PP.ap (q := (b0 + 41)) hP342 (by omega)
  have hz344 : H336.size = b0 + 42 := by omega
  clear hW327 hP335 hS328 hz333 hz339 hkp340
  refine rk_putF (pc := 148) (q := b0) hx hb hts hown hK hW341 hS338 flX9_65 ft_X9 0 (by decide) rfl (Or.inl (show iv _ _ _ from ⟨by omega, by omega⟩)) rfl rfl hin rfl (x := va_rf (some (b0 + 41))) (rf_nar _ rfl (some (b0 + 41))) (rf_fit _ rfl (some (b0 + 41))) (Nat.le_of_ble_eq_true rfl) (sR (vo_X9_init_330 b0) 0 20 (some (b0 + 41))) sR_ne (by rw [sR_eq]; rfl) dX9_init_148 (fun H345 locs346 hW347 hS348 hz349 hkp350 => ?_)
  have hW347 : rg G b0 1 shO_X9 (vo_X9_init_350 b0) H345 := hW347
  have hW351 := rg_keepq hW337 hkp350 (by omega)
  have hP352 := PP.keepq hP342 hkp350 ap334
  have hz353 := hz349.trans hz344
  clear hW341 hW337 hP342 hz344 hz349 hS338 hkp350
  have ap354 := Ap.cons (x := ((b0 + 41), 1, (fun _ _ x y _ => some (.inl (G.2.1 4, 40, .inl x))), mz)) (Or.inl (show b0 < (b0 + 41) by omega)) ap334
  have hP355 := PP.cons (hi' := b0 + 42) hW351 hP352 (by omega) (by omega)
  clear ap334 hP352 hW351
  refine lv_aload_n (pc := 151) hx hb dX9_init_151 rfl (lv_at hl 0 rfl) ?_
  refine lv_bipush (pc := 152) (v := (6 : Int32)) hx hb dX9_init_152 (by decide) ?_
  refine rk_newarr (pc := 154) (atype := .int) (h := b0 + 42) (sh := (fun _ _ x y _ => some (.inl (G.2.1 0, 6, .inl x)))) hx hb hts hK hS348 q190 0 rfl (fun _ h => nomatch h) hz353 rfl rfl (by decide) rfl (Nat.le_of_ble_eq_true rfl) (Nat.le_of_ble_eq_true rfl) (Nat.le_of_ble_eq_true rfl) dX9_init_154 (fun H356 hW357 hS358 hz359 hkp360 => ?_)
  have hW361 := rg_keepN hW347 hz353 hkp360
  have hP362 := PP.keepN hP355 hz353 hkp360
  have ap363 := PP.ap (q := (b0 + 42)) hP362 (by omega)
  have hz364 : H356.size = b0 + 43 := by omega
  clear hW347 hP355 hS348 hz353 hz359 hkp360
  refine rk_putF (pc := 156) (q := b0) hx hb hts hown hK hW361 hS358 flX9_69 ft_X9 0 (by decide) rfl (Or.inl (show iv _ _ _ from ⟨by omega, by omega⟩)) rfl rfl hin rfl (x := va_rf (some (b0 + 42))) (rf_nar _ rfl (some (b0 + 42))) (rf_fit _ rfl (some (b0 + 42))) (Nat.le_of_ble_eq_true rfl) (sR (vo_X9_init_350 b0) 0 25 (some (b0 + 42))) sR_ne (by rw [sR_eq]; rfl) dX9_init_156 (fun H365 locs366 hW367 hS368 hz369 hkp370 => ?_)
  have hW367 : rg G b0 1 shO_X9 (vo_X9_init_370 b0) H365 := hW367
  have hW371 := rg_keepq hW357 hkp370 (by omega)
  have hP372 := PP.keepq hP362 hkp370 ap354
  have hz373 := hz369.trans hz364
  clear hW361 hW357 hP362 hz364 hz369 hS358 hkp370
  have ap374 := Ap.cons (x := ((b0 + 42), 1, (fun _ _ x y _ => some (.inl (G.2.1 0, 6, .inl x))), mz)) (Or.inl (show b0 < (b0 + 42) by omega)) ap354
  have hP375 := PP.cons (hi' := b0 + 43) hW371 hP372 (by omega) (by omega)
  clear ap354 hP372 hW371
  refine lv_aload_n (pc := 159) hx hb dX9_init_159 rfl (lv_at hl 0 rfl) ?_
  refine lv_bipush (pc := 160) (v := (6 : Int32)) hx hb dX9_init_160 (by decide) ?_
  refine rk_newarr (pc := 162) (atype := .int) (h := b0 + 43) (sh := (fun _ _ x y _ => some (.inl (G.2.1 0, 6, .inl x)))) hx hb hts hK hS368 q190 0 rfl (fun _ h => nomatch h) hz373 rfl rfl (by decide) rfl (Nat.le_of_ble_eq_true rfl) (Nat.le_of_ble_eq_true rfl) (Nat.le_of_ble_eq_true rfl) dX9_init_162 (fun H376 hW377 hS378 hz379 hkp380 => ?_)
  have hW381 := rg_keepN hW367 hz373 hkp380
  have hP382 := PP.keepN hP375 hz373 hkp380
  have ap383 := PP.ap (q := (b0 + 43)) hP382 (by omega)
  have hz384 : H376.size = b0 + 44 := by omega
  clear hW367 hP375 hS368 hz373 hz379 hkp380
  refine rk_putF (pc := 164) (q := b0) hx hb hts hown hK hW381 hS378 flX9_72 ft_X9 0 (by decide) rfl (Or.inl (show iv _ _ _ from ⟨by omega, by omega⟩)) rfl rfl hin rfl (x := va_rf (some (b0 + 43))) (rf_nar _ rfl (some (b0 + 43))) (rf_fit _ rfl (some (b0 + 43))) (Nat.le_of_ble_eq_true rfl) (sR (vo_X9_init_370 b0) 0 26 (some (b0 + 43))) sR_ne (by rw [sR_eq]; rfl) dX9_init_164 (fun H385 locs386 hW387 hS388 hz389 hkp390 => ?_)
  have hW387 : rg G b0 1 shO_X9 (vo_X9_init_390 b0) H385 := hW387
  have hW391 := rg_keepq hW377 hkp390 (by omega)
  have hP392 := PP.keepq hP382 hkp390 ap374
  have hz393 := hz389.trans hz384
  clear hW381 hW377 hP382 hz384 hz389 hS378 hkp390
  have ap394 := Ap.cons (x := ((b0 + 43), 1, (fun _ _ x y _ => some (.inl (G.2.1 0, 6, .inl x))), mz)) (Or.inl (show b0 < (b0 + 43) by omega)) ap374
  have hP395 := PP.cons (hi' := b0 + 44) hW391 hP392 (by omega) (by omega)
  clear ap374 hP392 hW391
  refine lv_aload_n (pc := 167) hx hb dX9_init_167 rfl (lv_at hl 0 rfl) ?_
  refine lv_sipush (pc := 168) (v := (360 : Int32)) hx hb dX9_init_168 (by decide) ?_
  refine rk_newarr (pc := 171) (atype := .long) (h := b0 + 44) (sh := (fun _ _ x y _ => some (.inl (G.2.1 1, 360, .inr (.inl y))))) hx hb hts hK hS388 q273 1 rfl (fun _ h => nomatch h) hz393 rfl rfl (by decide) rfl (Nat.le_of_ble_eq_true rfl) (Nat.le_of_ble_eq_true rfl) (Nat.le_of_ble_eq_true rfl) dX9_init_171 (fun H396 hW397 hS398 hz399 hkp400 => ?_)
  have hW401 := rg_keepN hW387 hz393 hkp400
  have hP402 := PP.keepN hP395 hz393 hkp400
  have ap403 := PP.ap (q := (b0 + 44)) hP402 (by omega)
  have hz404 : H396.size = b0 + 45 := by omega
  clear hW387 hP395 hS388 hz393 hz399 hkp400
  refine rk_putF (pc := 173) (q := b0) hx hb hts hown hK hW401 hS398 flX9_75 ft_X9 0 (by decide) rfl (Or.inl (show iv _ _ _ from ⟨by omega, by omega⟩)) rfl rfl hin rfl (x := va_rf (some (b0 + 44))) (rf_nar _ rfl (some (b0 + 44))) (rf_fit _ rfl (some (b0 + 44))) (Nat.le_of_ble_eq_true rfl) (sR (vo_X9_init_390 b0) 0 27 (some (b0 + 44))) sR_ne (by rw [sR_eq]; rfl) dX9_init_173 (fun H405 locs406 hW407 hS408 hz409 hkp410 => ?_)
  have hW407 : rg G b0 1 shO_X9 (vo_X9_init_410 b0) H405 := hW407
  have hW411 := rg_keepq hW397 hkp410 (by omega)
  have hP412 := PP.keepq hP402 hkp410 ap394
  have hz413 := hz409.trans hz404
  clear hW401 hW397 hP402 hz404 hz409 hS398 hkp410
  have ap414 := Ap.cons (x := ((b0 + 44), 1, (fun _ _ x y _ => some (.inl (G.2.1 1, 360, .inr (.inl y)))), mz)) (Or.inl (show b0 < (b0 + 44) by omega)) ap394
  have hP415 := PP.cons (hi' := b0 + 45) hW411 hP412 (by omega) (by omega)
  clear ap394 hP412 hW411
  refine lv_aload_n (pc := 176) hx hb dX9_init_176 rfl (lv_at hl 0 rfl) ?_
  refine lv_bipush (pc := 177) (v := (60 : Int32)) hx hb dX9_init_177 (by decide) ?_
  refine rk_newarr (pc := 179) (atype := .long) (h := b0 + 45) (sh := (fun _ _ x y _ => some (.inl (G.2.1 1, 60, .inr (.inl y))))) hx hb hts hK hS408 q273 1 rfl (fun _ h => nomatch h) hz413 rfl rfl (by decide) rfl (Nat.le_of_ble_eq_true rfl) (Nat.le_of_ble_eq_true rfl) (Nat.le_of_ble_eq_true rfl) dX9_init_179 (fun H416 hW417 hS418 hz419 hkp420 => ?_)
  have hW421 := rg_keepN hW407 hz413 hkp420
  have hP422 := PP.keepN hP415 hz413 hkp420
  have ap423 := PP.ap (q := (b0 + 45)) hP422 (by omega)
  have hz424 : H416.size = b0 + 46 := by omega
  clear hW407 hP415 hS408 hz413 hz419 hkp420
  refine rk_putF (pc := 181) (q := b0) hx hb hts hown hK hW421 hS418 flX9_78 ft_X9 0 (by decide) rfl (Or.inl (show iv _ _ _ from ⟨by omega, by omega⟩)) rfl rfl hin rfl (x := va_rf (some (b0 + 45))) (rf_nar _ rfl (some (b0 + 45))) (rf_fit _ rfl (some (b0 + 45))) (Nat.le_of_ble_eq_true rfl) (sR (vo_X9_init_410 b0) 0 28 (some (b0 + 45))) sR_ne (by rw [sR_eq]; rfl) dX9_init_181 (fun H425 locs426 hW427 hS428 hz429 hkp430 => ?_)
  have hW427 : rg G b0 1 shO_X9 (vo_X9_init_430 b0) H425 := hW427
  have hW431 := rg_keepq hW417 hkp430 (by omega)
  have hP432 := PP.keepq hP422 hkp430 ap414
  have hz433 := hz429.trans hz424
  clear hW421 hW417 hP422 hz424 hz429 hS418 hkp430
  have ap434 := Ap.cons (x := ((b0 + 45), 1, (fun _ _ x y _ => some (.inl (G.2.1 1, 60, .inr (.inl y)))), mz)) (Or.inl (show b0 < (b0 + 45) by omega)) ap414
  have hP435 := PP.cons (hi' := b0 + 46) hW431 hP432 (by omega) (by omega)
  clear ap414 hP432 hW431
  have hA0 : rg G b0 1 (shX9 G.2.1) (mz) H425 := rg_cast hW427 rfl
  have hA436 : rg G b0 2 (shX9 G.2.1) (vf_X9_init_1 b0) H425 := rg_app (k := 1) (n' := 1) hA0 (PP.at hP435 20 rfl) rfl (fun o ho x y z => by have h0 : o = 0 := (by omega); subst h0; rfl)
  have hA437 : rg G b0 3 (shX9 G.2.1) (vf_X9_init_2 b0) H425 := rg_app (k := 2) (n' := 1) hA436 (PP.at hP435 19 rfl) rfl (fun o ho x y z => by have h0 : o = 0 := (by omega); subst h0; rfl)
  have hA438 : rg G b0 4 (shX9 G.2.1) (vf_X9_init_3 b0) H425 := rg_app (k := 3) (n' := 1) hA437 (PP.at hP435 18 rfl) rfl (fun o ho x y z => by have h0 : o = 0 := (by omega); subst h0; rfl)
  have hA439 : rg G b0 5 (shX9 G.2.1) (vf_X9_init_4 b0) H425 := rg_app (k := 4) (n' := 1) hA438 (PP.at hP435 17 rfl) rfl (fun o ho x y z => by have h0 : o = 0 := (by omega); subst h0; rfl)
  have hA440 : rg G b0 6 (shX9 G.2.1) (vf_X9_init_5 b0) H425 := rg_app (k := 5) (n' := 1) hA439 (PP.at hP435 16 rfl) rfl (fun o ho x y z => by have h0 : o = 0 := (by omega); subst h0; rfl)
  have hA441 : rg G b0 19 (shX9 G.2.1) (vf_X9_init_6 b0) H425 := rg_app (k := 6) (n' := 13) hA440 (PP.at hP435 15 rfl) rfl (fun o ho x y z => shX9_n6 G.2.1 _ rfl o ho x y z)
  have hA442 : rg G b0 32 (shX9 G.2.1) (vf_X9_init_19 b0) H425 := rg_app (k := 19) (n' := 13) hA441 (PP.at hP435 14 rfl) rfl (fun o ho x y z => shX9_n19 G.2.1 _ rfl o ho x y z)
  have hA443 : rg G b0 33 (shX9 G.2.1) (vf_X9_init_32 b0) H425 := rg_app (k := 32) (n' := 1) hA442 (PP.at hP435 13 rfl) rfl (fun o ho x y z => by have h0 : o = 0 := (by omega); subst h0; rfl)
  have hA444 : rg G b0 34 (shX9 G.2.1) (vf_X9_init_33 b0) H425 := rg_app (k := 33) (n' := 1) hA443 (PP.at hP435 12 rfl) rfl (fun o ho x y z => by have h0 : o = 0 := (by omega); subst h0; rfl)
  have hA445 : rg G b0 35 (shX9 G.2.1) (vf_X9_init_34 b0) H425 := rg_app (k := 34) (n' := 1) hA444 (PP.at hP435 11 rfl) rfl (fun o ho x y z => by have h0 : o = 0 := (by omega); subst h0; rfl)
  have hA446 : rg G b0 36 (shX9 G.2.1) (vf_X9_init_35 b0) H425 := rg_app (k := 35) (n' := 1) hA445 (PP.at hP435 10 rfl) rfl (fun o ho x y z => by have h0 : o = 0 := (by omega); subst h0; rfl)
  have hA447 : rg G b0 37 (shX9 G.2.1) (vf_X9_init_36 b0) H425 := rg_app (k := 36) (n' := 1) hA446 (PP.at hP435 9 rfl) rfl (fun o ho x y z => by have h0 : o = 0 := (by omega); subst h0; rfl)
  have hA448 : rg G b0 38 (shX9 G.2.1) (vf_X9_init_37 b0) H425 := rg_app (k := 37) (n' := 1) hA447 (PP.at hP435 8 rfl) rfl (fun o ho x y z => by have h0 : o = 0 := (by omega); subst h0; rfl)
  have hA449 : rg G b0 39 (shX9 G.2.1) (vf_X9_init_38 b0) H425 := rg_app (k := 38) (n' := 1) hA448 (PP.at hP435 7 rfl) rfl (fun o ho x y z => by have h0 : o = 0 := (by omega); subst h0; rfl)
  have hA450 : rg G b0 40 (shX9 G.2.1) (vf_X9_init_39 b0) H425 := rg_app (k := 39) (n' := 1) hA449 (PP.at hP435 6 rfl) rfl (fun o ho x y z => by have h0 : o = 0 := (by omega); subst h0; rfl)
  have hA451 : rg G b0 41 (shX9 G.2.1) (vf_X9_init_40 b0) H425 := rg_app (k := 40) (n' := 1) hA450 (PP.at hP435 5 rfl) rfl (fun o ho x y z => by have h0 : o = 0 := (by omega); subst h0; rfl)
  have hA452 : rg G b0 42 (shX9 G.2.1) (vf_X9_init_41 b0) H425 := rg_app (k := 41) (n' := 1) hA451 (PP.at hP435 4 rfl) rfl (fun o ho x y z => by have h0 : o = 0 := (by omega); subst h0; rfl)
  have hA453 : rg G b0 43 (shX9 G.2.1) (vf_X9_init_42 b0) H425 := rg_app (k := 42) (n' := 1) hA452 (PP.at hP435 3 rfl) rfl (fun o ho x y z => by have h0 : o = 0 := (by omega); subst h0; rfl)
  have hA454 : rg G b0 44 (shX9 G.2.1) (vf_X9_init_43 b0) H425 := rg_app (k := 43) (n' := 1) hA453 (PP.at hP435 2 rfl) rfl (fun o ho x y z => by have h0 : o = 0 := (by omega); subst h0; rfl)
  have hA455 : rg G b0 45 (shX9 G.2.1) (vf_X9_init_44 b0) H425 := rg_app (k := 44) (n' := 1) hA454 (PP.at hP435 1 rfl) rfl (fun o ho x y z => by have h0 : o = 0 := (by omega); subst h0; rfl)
  have hA456 : rg G b0 46 (shX9 G.2.1) (vf_X9_init_45 b0) H425 := rg_app (k := 45) (n' := 1) hA455 (PP.at hP435 0 rfl) rfl (fun o ho x y z => by have h0 : o = 0 := (by omega); subst h0; rfl)
  have hzE : H425.size = s.heap.size + 45 := by omega
  exact w_fX9_init_b C hin (vc_X9 b0) hm H425 locs426 ls hA456 hS428 hzE (lv_sub hl [0] rfl)
theorem rdr0 {G : Gv} {h b : Nat} {H : Heap} (hW : rg G h 10 (shX11 b G.2.1) (vc_X11 h b) H) : rg G h 10 (shX11 b G.2.1) mz H := by
  intro o ho e he
  refine hW o ho e ?_
  have h1 : (vc_X11 h b).1 o = mz.1 o ∧ (vc_X11 h b).2.1 o = mz.2.1 o := by
    match o, ho with
    | 0, _ => exact ⟨rfl, rfl⟩
    | 1, _ => exact ⟨rfl, rfl⟩
    | 2, _ => exact ⟨rfl, rfl⟩
    | 3, _ => exact ⟨rfl, rfl⟩
    | 4, _ => exact ⟨rfl, rfl⟩
    | 5, _ => exact ⟨rfl, rfl⟩
    | 6, _ => exact ⟨rfl, rfl⟩
    | 7, _ => exact ⟨rfl, rfl⟩
    | 8, _ => exact ⟨rfl, rfl⟩
    | 9, _ => exact ⟨rfl, rfl⟩
    | n + 10, h => exact absurd h (by omega)
  rw [h1.1, h1.2]
  exact he
theorem lkX0_194 : LI RX0 194 yX11_init cX11_init 3 := ⟨q637, q638, q130, q639, rfl⟩
theorem yn_X11_init : YN yX11_init 1 := by
  unfold YN
  decide +kernel
theorem yn_X11_reads : YN yX11_reads 0 := by
  unfold YN
  decide +kernel
theorem lkX0_197 : LV RX0 197 RX11 yX11_reads cX11_reads 1 none := ⟨q658, q659, q660, q130, q661⟩
theorem fnX0_200 : FN RX0 200 11 1 RX11 TX11 4 "WholePacks" := ⟨in_X11, rfl, by decide, q646⟩
theorem fnX0_212 : FN RX0 212 12 6 RX12 TX12 7 "WholePacks" := ⟨in_X12, rfl, by decide, q734⟩
theorem fnX0_203 : FN RX0 203 11 0 RX11 TX11 4 "WholePacks" := ⟨in_X11, rfl, by decide, q644⟩
theorem lkX0_206 : LV RX0 206 RX2 yX2_like cX2_like 2 none := ⟨q756, q757, q758, q116, q759⟩
noncomputable def fX0_read_42 (k42 : Mem → Mem → Nat → Int32 → Option (Int32 × Nat × Mem × Mem)) (v0 : Mem) (v1 : Mem) (zc : Nat) (i2 : Int32) : Option (Int32 × Nat × Mem × Mem) :=
  if (gI v1 0 1) ≤ i2 then (
  ob2 (fX0_told v0 (gI v1 0 1)) fun r53 w54 =>
  lm (sI w54 0 12 (0 : Int32)) fun v0_66 =>
  some (r53, zc, v0_66, v1))
  else (
  gb (inR (gI v0 1 1) 8) (
  gb (inR i2 4) (
  ob (fX2_like (shf v1 (2 + 2 * i2.toNatClampNeg)) (shf v0 (7 + 2 * (gI v0 1 1).toNatClampNeg))) fun w80 =>
  lm (ptm v0 (7 + 2 * (gI v0 1 1).toNatClampNeg) 2 w80) fun v0_91 =>
  lm (sI v0_91 1 1 ((gI v0_91 1 1) + (1 : Int32))) fun v0_94 =>
  k42 v0_94 v1 zc (i2 + (1 : Int32)))))
noncomputable def fX0_read (v0 : Mem) : Option (Int32 × Nat × Mem × Mem) :=
  ob4 (fX11_reads v0 mz) fun ok3 re4 rc1 w2 =>
  if ok3 = true then (
  if ((gI v0 1 1) + (gI w2 0 1)) ≤ (8 : Int32) then (
  lq4 (fX0_read_42) FU v0 w2 (10 + rc1) (0 : Int32))
  else (
  lm (sI v0 0 12 (0 : Int32)) fun v0_17 =>
  some ((-4 : Int32), (10 + rc1), v0_17, w2)))
  else (
  lm (sI v0 0 12 (0 : Int32)) fun v0_41 =>
  some (((-10 : Int32) - re4), (10 + rc1), v0_41, w2))
set_option maxHeartbeats 4000000 in
theorem w_fX0_read_42 (C : Cx G p s m args meth c RX0 cX0_read 5 (some .int)) {b0 : Nat} {b1 : Nat} {rx : Int32} {rc : Nat} {rw0 : Mem} {rw1 : Mem} (hd01 : b0 + 357 ≤ b1 ∨ b1 + 10 ≤ b0) (he0 : b0 + 357 ≤ s.heap.size) (hfr1 : s.heap.size ≤ b1) (hZ : ZQ G) (hgb0 : gB G ≤ b0) (ht : c.exceptionTable.toList = tableOf [(9, 33, 109, 210), (40, 102, 109, 210), (9, 33, 125, 0), (40, 102, 125, 0), (109, 118, 125, 0), (125, 127, 125, 0)]) {k42 : Mem → Mem → Nat → Int32 → Option (Int32 × Nat × Mem × Mem)} (hk42 : ∀ (v0 : Mem) (v1 : Mem) (zc : Nat) (i2 : Int32), k42 v0 v1 zc i2 = some (rx, rc, rw0, rw1) → ∀ (H : Heap) (locs : List Loc) (ls : Array Slot), rg G b0 357 (shX0 G.2.1) v0 H → rg G b1 10 (shX11 b0 G.2.1) v1 H → va_S (FA (fX b0) s.heap.size) s.heap H locs → H.size = s.heap.size + zc → GO G H → lv_has ls 5 [(0, .ref b0), (1, .ref b1), (2, .int i2)] → W p l e (rmT 7 11 47 146) s m args below meth c H locs 10 40 (MQ below (QcT (FA (fX b0) s.heap.size) (fun ov H => ov = (some (.int rx)) ∧ rg G b0 357 (shX0 G.2.1) rw0 H ∧ H.size = s.heap.size + rc)) args s 11 47 (FA (fX b0) s.heap.size)) (F0 m 42 ls [])) : ∀ (v0 : Mem) (v1 : Mem) (zc : Nat) (i2 : Int32), fX0_read_42 k42 v0 v1 zc i2 = some (rx, rc, rw0, rw1) → ∀ (H : Heap) (locs : List Loc) (ls : Array Slot), rg G b0 357 (shX0 G.2.1) v0 H → rg G b1 10 (shX11 b0 G.2.1) v1 H → va_S (FA (fX b0) s.heap.size) s.heap H locs → H.size = s.heap.size + zc → GO G H → lv_has ls 5 [(0, .ref b0), (1, .ref b1), (2, .int i2)] → W p l e (rmT 7 11 47 146) s m args below meth c H locs 10 40 (MQ below (QcT (FA (fX b0) s.heap.size) (fun ov H => ov = (some (.int rx)) ∧ rg G b0 357 (shX0 G.2.1) rw0 H ∧ H.size = s.heap.size + rc)) args s 11 47 (FA (fX b0) s.heap.size)) (F0 m 42 ls []) := by
  intro v0 v1 zc i2 hm H locs ls hW0 hW1 hS hz hG hl
  obtain ⟨hx, hb, hr, hlk, hml, hown, hts, hK⟩ := id C
  unfold fX0_read_42 at hm
  refine lv_iload_n (pc := 42) hx hb dX0_read_42 rfl (lv_at hl 2 rfl) ?_
  refine lv_aload_n (pc := 43) hx hb dX0_read_43 rfl (lv_at hl 1 rfl) ?_
  refine rk_getN (pc := 44) hx hb hts hown hK hW1 fnX0_200 0 (by decide) rfl rfl (x := .int (gI v1 0 1)) rfl dX0_read_44 ?_
  refine lv_icmp_ge (pc := 47) (tgt := 93) hx hb dX0_read_47 (by decide) (fun c52 => ?_) (fun c52 => ?_)
  · have hm := ite_t c52 hm
    refine lv_aload_n (pc := 93) hx hb dX0_read_93 rfl (lv_at hl 0 rfl) ?_
    refine lv_aload_n (pc := 94) hx hb dX0_read_94 rfl (lv_at hl 1 rfl) ?_
    refine rk_getN (pc := 95) hx hb hts hown hK hW1 fnX0_200 0 (by decide) rfl rfl (x := .int (gI v1 0 1)) rfl dX0_read_95 ?_
    obtain ⟨r53, w54, hq55, hm⟩ := ob2_some hm
    refine rk_TV (pc := 98) (As := [.int (gI v1 0 1)]) (rest := []) (mc := 0) (ms := 0) hx hb hml hown hts hK hS (fun q hq => FA_sz rfl q hq) lkX0_141 rfl yn_X0_told (ct_X0_told (G := G) (l := l) (b0 := b0) (sz := H.size) hq55) ⟨Nat.le_of_ble_eq_true rfl, Nat.le_of_ble_eq_true rfl⟩ (fun z h => Or.inl h) (rk_recv hK hW0 0 (by decide) rfl rfl rfl) hW0 rfl rfl hl.1 (Nat.le_of_ble_eq_true rfl) dX0_read_98 ⟨Nat.le_of_ble_eq_true rfl, Nat.le_of_ble_eq_true rfl⟩ (fun ov9 H56 locs57 hP58 hkp59 hS60 => ?_)
    obtain ⟨rfl, hW61, hz62⟩ := hP58
    have hW63 := rg_keepA hW1 hkp59 (by intro z h1 h2 h3; have h8 := h3.1.1; have h9 := h3.1.2; omega)
    have hG64 := GO_keepA hG hkp59 (Nat.le_trans (show gB G ≤ s.heap.size by omega) hS.1) (by intro z h3; have h8 := h3.1.1; have h9 := h3.1.2; omega)
    have hz65 := hz62.trans hz
    refine W.eq (g2 := F0 m 101 ls [.int r53]) rfl ?_
    refine lv_istore_n (pc := 101) (lv' := [(2, .int r53), (0, .ref b0), (1, .ref b1)]) hx hb dX0_read_101 rfl hl (by decide) rfl (fun ls hl => ?_)
    refine lv_aload_n (pc := 102) hx hb dX0_read_102 rfl (lv_at hl 1 rfl) ?_
    refine lv_iconst (pc := 103) (v := (0 : Int32)) hx hb dX0_read_103 (by decide) ?_
    refine rk_put (pc := 104) hx hb hts hown hK hW61 hS60 flX0_189 ft_X0 0 (by decide) rfl (Or.inl (show fX _ _ from ⟨⟨by omega, by omega⟩, by omega⟩)) rfl rfl (x := .int (0 : Int32)) rfl rfl (Nat.le_of_ble_eq_true rfl) (sI w54 0 12 (0 : Int32)) sI_ne (by rw [sI_eq]; exact rfl) dX0_read_104 (fun H67 locs68 hW69 hS70 hz71 hkp72 => ?_)
    obtain ⟨v0_66, he9, hm⟩ := lm_some hm
    rw [he9] at hW69
    have hW73 := rg_keepq hW63 hkp72 (by omega)
    have hz74 := hz71.trans hz65
    have hG75 := GO_keepq hG64 hkp72 (by omega)
    refine lv_iload_n (pc := 107) hx hb dX0_read_107 rfl (lv_at hl 0 rfl) ?_
    obtain ⟨e6, e7, e8, e9⟩ := rs4 hm
    subst e6
    subst e7
    subst e8
    subst e9
    exact rk_iretA (pc := 108) hx hb hr hlk hS70 ⟨rfl, hW69, hz74⟩ dX0_read_108 (by exact Nat.le_of_ble_eq_true rfl) (by exact Nat.le_of_ble_eq_true rfl)
  · have hm := ite_f c52 hm
    refine lv_aload_n (pc := 50) hx hb dX0_read_50 rfl (lv_at hl 0 rfl) ?_
    refine rk_get (pc := 51) hx hb hts hown hK hW0 flX0_12 0 (by decide) rfl rfl (x := .ref (b0 + 1)) (by first | rfl | exact congrArg (fun z => some (Value.ref z)) (by omega)) dX0_read_51 ?_
    refine rk_getN (pc := 54) hx hb hts hown hK hW0 fnX0_172 1 (by decide) rfl rfl (x := .ref (b0 + 3)) (by first | rfl | exact congrArg (fun z => some (Value.ref z)) (by omega)) dX0_read_54 ?_
    refine lv_aload_n (pc := 57) hx hb dX0_read_57 rfl (lv_at hl 0 rfl) ?_
    refine rk_get (pc := 58) hx hb hts hown hK hW0 flX0_12 0 (by decide) rfl rfl (x := .ref (b0 + 1)) (by first | rfl | exact congrArg (fun z => some (Value.ref z)) (by omega)) dX0_read_58 ?_
    refine rk_getN (pc := 61) hx hb hts hown hK hW0 fnX0_158 1 (by decide) rfl rfl (x := .int (gI v0 1 1)) rfl dX0_read_61 ?_
    obtain ⟨hg76, hm⟩ := gb_some hm
    have hlt77 := inR_lt hg76
    refine rk_aald (pc := 64) hx hb hK hW0 3 5 (by decide) rfl rfl rfl hg76 (x := (b0 + (7 + 2 * (gI v0 1 1).toNatClampNeg + 0))) (by first | rfl | exact congrArg some (by omega)) dX0_read_64 ?_
    refine lv_aload_n (pc := 65) hx hb dX0_read_65 rfl (lv_at hl 1 rfl) ?_
    refine rk_getN (pc := 66) hx hb hts hown hK hW1 fnX0_203 0 (by decide) rfl rfl (x := .ref (b1 + 1)) (by first | rfl | exact congrArg (fun z => some (Value.ref z)) (by omega)) dX0_read_66 ?_
    refine lv_iload_n (pc := 69) hx hb dX0_read_69 rfl (lv_at hl 2 rfl) ?_
    obtain ⟨hg78, hm⟩ := gb_some hm
    have hlt79 := inR_lt hg78
    refine rk_aald (pc := 70) hx hb hK hW1 1 5 (by decide) rfl rfl rfl hg78 (x := (b1 + (2 + 2 * i2.toNatClampNeg + 0))) (by first | rfl | exact congrArg some (by omega)) dX0_read_70 ?_
    obtain ⟨w80, hq81, hm⟩ := ob_some hm
    refine rk_TV (pc := 71) (As := [.ref (b1 + (2 + 2 * i2.toNatClampNeg + 0))]) (rest := []) (mc := 0) (ms := 0) hx hb hml hown hts hK hS (fun q hq => FA_sz rfl q hq) lkX0_206 rfl yn_X2_like (ct_X2_like (G := G) (l := l) (b0 := (b0 + (7 + 2 * (gI v0 1 1).toNatClampNeg + 0))) (b1 := (b1 + (2 + 2 * i2.toNatClampNeg + 0))) (sz := H.size) hq81 (by omega)) ⟨Nat.le_of_ble_eq_true rfl, Nat.le_of_ble_eq_true rfl⟩ (fun z h => Or.inl (show fX _ _ from ⟨⟨by have h8 := h.1; have h9 := h.2; omega, by have h8 := h.1; have h9 := h.2; omega⟩, by have h8 := h.1; have h9 := h.2; omega⟩)) (rk_recv hK hW0 (7 + 2 * (gI v0 1 1).toNatClampNeg + 0) (by omega) rfl rfl ((shX0_f7 G.2.1 hlt77 _ rfl 0 (by decide) _ _ _).trans rfl)) ⟨(rg_sub (d := (7 + 2 * (gI v0 1 1).toNatClampNeg)) hW0 rfl (by omega) (fun o ho x y z => shX0_f7 G.2.1 hlt77 _ rfl o ho x y z)), (rg_sub (d := (2 + 2 * i2.toNatClampNeg)) hW1 rfl (by omega) (fun o ho x y z => shX11_f2 G.2.1 hlt79 _ rfl o ho x y z))⟩ rfl rfl hl.1 (Nat.le_of_ble_eq_true rfl) dX0_read_71 ⟨Nat.le_of_ble_eq_true rfl, Nat.le_of_ble_eq_true rfl⟩ (fun ov9 H82 locs83 hP84 hkp85 hS86 => ?_)
    obtain ⟨rfl, hW87, hz88⟩ := hP84
    have hW89 := rg_keepA hW1 hkp85 (by intro z h1 h2 h3; have h8 := h3.1; have h9 := h3.2; omega)
    have hW90 := rg_put (d := (7 + 2 * (gI v0 1 1).toNatClampNeg)) hW0 hW87 rfl (fun o ho x y z => shX0_f7 G.2.1 hlt77 _ rfl o ho x y z) hkp85
    obtain ⟨v0_91, he9, hm⟩ := lm_some hm
    rw [he9] at hW90
    have hG92 := GO_keepA hG hkp85 (Nat.le_trans (show gB G ≤ s.heap.size by omega) hS.1) (by intro z h3; have h8 := h3.1; have h9 := h3.2; omega)
    have hz93 := hz88.trans hz
    refine W.eq (g2 := F0 m 74 ls []) rfl ?_
    refine lv_aload_n (pc := 74) hx hb dX0_read_74 rfl (lv_at hl 0 rfl) ?_
    refine rk_get (pc := 75) hx hb hts hown hK hW90 flX0_12 0 (by decide) rfl rfl (x := .ref (b0 + 1)) (by first | rfl | exact congrArg (fun z => some (Value.ref z)) (by omega)) dX0_read_75 ?_
    refine lv_dup (pc := 78) hx hb dX0_read_78 rfl ?_
    refine rk_getN (pc := 79) hx hb hts hown hK hW90 fnX0_158 1 (by decide) rfl rfl (x := .int (gI v0_91 1 1)) rfl dX0_read_79 ?_
    refine lv_iconst (pc := 82) (v := (1 : Int32)) hx hb dX0_read_82 (by decide) ?_
    refine lv_iadd (pc := 83) hx hb dX0_read_83 ?_
    refine rk_putN (pc := 84) hx hb hts hown hK hW90 hS86 fnX0_158 ft_X1 1 (by decide) rfl (Or.inl (show fX _ _ from ⟨⟨by omega, by omega⟩, by omega⟩)) rfl rfl (x := .int ((gI v0_91 1 1) + (1 : Int32))) rfl rfl (Nat.le_of_ble_eq_true rfl) (sI v0_91 1 1 ((gI v0_91 1 1) + (1 : Int32))) sI_ne (by rw [sI_eq]; exact rfl) dX0_read_84 (fun H95 locs96 hW97 hS98 hz99 hkp100 => ?_)
    obtain ⟨v0_94, he9, hm⟩ := lm_some hm
    rw [he9] at hW97
    have hW101 := rg_keepq hW89 hkp100 (by omega)
    have hz102 := hz99.trans hz93
    have hG103 := GO_keepq hG92 hkp100 (by omega)
    refine lv_iinc (pc := 87) (v := (i2 + (1 : Int32))) (lv' := [(2, .int (i2 + (1 : Int32))), (0, .ref b0), (1, .ref b1)]) hx hb dX0_read_87 hl (k := 2) rfl rfl (by decide) rfl (fun ls hl => ?_)
    refine lv_goto (pc := 90) (tgt := 42) hx hb dX0_read_90 (by decide) ?_
    exact hk42 v0_94 v1 zc (i2 + (1 : Int32)) hm H95 locs96 ls hW97 hW101 hS98 hz102 hG103 (lv_sub hl [1, 2, 0] rfl)
theorem w_fX0_read_42_l (C : Cx G p s m args meth c RX0 cX0_read 5 (some .int)) {b0 : Nat} {b1 : Nat} {rx : Int32} {rc : Nat} {rw0 : Mem} {rw1 : Mem} (hd01 : b0 + 357 ≤ b1 ∨ b1 + 10 ≤ b0) (he0 : b0 + 357 ≤ s.heap.size) (hfr1 : s.heap.size ≤ b1) (hZ : ZQ G) (hgb0 : gB G ≤ b0) (ht : c.exceptionTable.toList = tableOf [(9, 33, 109, 210), (40, 102, 109, 210), (9, 33, 125, 0), (40, 102, 125, 0), (109, 118, 125, 0), (125, 127, 125, 0)]) : ∀ (n : Nat) (v0 : Mem) (v1 : Mem) (zc : Nat) (i2 : Int32), lq4 (fX0_read_42) n v0 v1 zc i2 = some (rx, rc, rw0, rw1) → ∀ (H : Heap) (locs : List Loc) (ls : Array Slot), rg G b0 357 (shX0 G.2.1) v0 H → rg G b1 10 (shX11 b0 G.2.1) v1 H → va_S (FA (fX b0) s.heap.size) s.heap H locs → H.size = s.heap.size + zc → GO G H → lv_has ls 5 [(0, .ref b0), (1, .ref b1), (2, .int i2)] → W p l e (rmT 7 11 47 146) s m args below meth c H locs 10 40 (MQ below (QcT (FA (fX b0) s.heap.size) (fun ov H => ov = (some (.int rx)) ∧ rg G b0 357 (shX0 G.2.1) rw0 H ∧ H.size = s.heap.size + rc)) args s 11 47 (FA (fX b0) s.heap.size)) (F0 m 42 ls []) := by
  intro n
  induction n with
  | zero => intro v0 v1 zc i2 hm; exact (lq4_0 hm).elim
  | succ n ih => intro v0 v1 zc i2 hm; exact w_fX0_read_42 C hd01 he0 hfr1 hZ hgb0 ht ih v0 v1 zc i2 (lq4_s hm)
set_option maxHeartbeats 4000000 in
theorem w_fX0_read (C : Cx G p s m args meth c RX0 cX0_read 5 (some .int)) {b0 : Nat} {rx : Int32} {rc : Nat} {rw0 : Mem} {rw1 : Mem} (he0 : b0 + 357 ≤ s.heap.size) (hZ : ZQ G) (hgb0 : gB G ≤ b0) (ht : c.exceptionTable.toList = tableOf [(9, 33, 109, 210), (40, 102, 109, 210), (9, 33, 125, 0), (40, 102, 125, 0), (109, 118, 125, 0), (125, 127, 125, 0)]) : ∀ (v0 : Mem), fX0_read v0 = some (rx, rc, rw0, rw1) → ∀ (H : Heap) (locs : List Loc) (ls : Array Slot), rg G b0 357 (shX0 G.2.1) v0 H → va_S (FA (fX b0) s.heap.size) s.heap H locs → H.size = s.heap.size + 0 → GO G H → lv_has ls 5 [(0, .ref b0)] → W p l e (rmT 7 11 47 146) s m args below meth c H locs 0 0 (MQ below (QcT (FA (fX b0) s.heap.size) (fun ov H => ov = (some (.int rx)) ∧ rg G b0 357 (shX0 G.2.1) rw0 H ∧ H.size = s.heap.size + rc)) args s 11 47 (FA (fX b0) s.heap.size)) (F0 m 0 ls []) := by
  intro v0 hm H locs ls hW0 hS hz hG hl
  obtain ⟨hx, hb, hr, hlk, hml, hown, hts, hK⟩ := id C
  unfold fX0_read at hm
  obtain ⟨b1, hb1⟩ : ∃ b1, s.heap.size = b1 := ⟨_, rfl⟩
  have hzb : H.size = b1 := by omega
  refine rk_new (pc := 0) (h := b1) (sh := shO_X11) hx hb hts hown hK hS in_X11 ft_X11 rfl q635 q636 q130 hzb rfl (df_X11 _ rfl) (Nat.le_of_ble_eq_true rfl) (Nat.le_of_ble_eq_true rfl) dX0_read_0 (fun H1 hWn hS1 hz1 hk1 => ?_)
  have hW01 := rg_keepN hW0 hzb hk1
  have hG1 := GO_keepN hG (by omega) hk1
  refine lv_dup (pc := 3) hx hb dX0_read_3 rfl ?_
  refine lv_aload_n (pc := 4) hx hb dX0_read_4 rfl (lv_at hl 0 rfl) ?_
  refine rk_TI (pc := 5) (As := [.ref b0]) (rest := [.ref b1]) (mc := 9) (ms := 36) hx hb hml hown hts hK hS1 (fun q hq => FA_sz rfl q hq) lkX0_194 yn_X11_init (ct_X11_init (G := G) (l := l) (b0 := b1) (b1 := b0) (sz := H1.size) (by omega)) ⟨Nat.le_of_ble_eq_true rfl, Nat.le_of_ble_eq_true rfl⟩ (fun z h => Or.inr (show s.heap.size ≤ z by have h8 := h.1; omega)) hWn rfl rfl hl.1 (Nat.le_of_ble_eq_true rfl) dX0_read_5 ⟨Nat.le_of_ble_eq_true rfl, Nat.le_of_ble_eq_true rfl⟩ (fun ov9 H2 locs2 hP2 hk2 hS2 => ?_)
  obtain ⟨rfl, hW12, hz2⟩ := hP2
  have hW12 := rdr0 hW12
  have hW02 := rg_keepX hW01 hk2 (by intro z h0 h3; have h8 := h3.1; have h9 := h3.2; have h1 := h0.1.1; have h2 := h0.1.2; omega)
  have hG2 := GO_keepA hG1 hk2 (show gB G ≤ H1.size by omega) (by intro z h3; have h8 := h3.1; omega)
  have hz3 : H2.size = s.heap.size + 10 := by omega
  have hd01 : b0 + 357 ≤ b1 ∨ b1 + 10 ≤ b0 := by omega
  have hfr1 : s.heap.size ≤ b1 := by omega
  refine W.eq (g2 := F0 m 8 ls [.ref b1]) rfl ?_
  refine lv_astore_n (pc := 8) (lv' := [(1, .ref b1), (0, .ref b0)]) hx hb dX0_read_8 rfl hl (by decide) rfl (fun ls hl => ?_)
  refine lv_aload_n (pc := 9) hx hb dX0_read_9 rfl (lv_at hl 0 rfl) ?_
  obtain ⟨ok3, re4, rc1, w2, hq5, hm⟩ := ob4_some hm
  by_cases hok : ok3 = true
  · subst hok
    have hm := ite_t rfl hm
    refine rk_TV (pc := 10) (As := []) (rest := []) (mc := 0) (ms := 0) hx hb hml hown hts hK hS2 (fun q hq => FA_sz rfl q hq) lkX0_197 rfl yn_X11_reads (CX.ret (ct_X11_reads (G := G) (l := l) (rok := true) (b0 := b1) (b1 := b0) (sz := H2.size) hq5 (by omega) hZ (by omega) (by omega))) ⟨Nat.le_of_ble_eq_true rfl, Nat.le_of_ble_eq_true rfl⟩ (fun z h => Or.inr (show s.heap.size ≤ z by have h8 := h.1; omega)) (rk_recv hK hW12 0 (by decide) rfl rfl rfl) ⟨hW12, hW02, hG2⟩ rfl rfl hl.1 (Nat.le_of_ble_eq_true rfl) dX0_read_10 ⟨Nat.le_of_ble_eq_true rfl, Nat.le_of_ble_eq_true rfl⟩ (fun ov9 H6 locs7 hP8 hkp9 hS10 => ?_)
    obtain ⟨rfl, hW11, hz12⟩ := hP8
    have hW13 := rg_keepX hW02 hkp9 (by intro z h0 h3; have h1 := h0.1.1; have h2 := h0.1.2; have h4 := h0.2; have h8 := h3.1; have h9 := h3.2; omega)
    have hG14 := GO_keepA hG2 hkp9 (Nat.le_trans (show gB G ≤ s.heap.size by omega) hS2.1) (by intro z h3; have h8 := h3.1; have h9 := h3.2; omega)
    have hz15 : H6.size = s.heap.size + (10 + rc1) := by omega
    refine W.eq (g2 := F0 m 13 ls []) rfl ?_
    refine lv_aload_n (pc := 13) hx hb dX0_read_13 rfl (lv_at hl 1 rfl) ?_
    refine rk_get (pc := 14) hx hb hts hown hK hW13 flX0_12 0 (by decide) rfl rfl (x := .ref (b0 + 1)) (by first | rfl | exact congrArg (fun z => some (Value.ref z)) (by omega)) dX0_read_14 ?_
    refine rk_getN (pc := 17) hx hb hts hown hK hW13 fnX0_158 1 (by decide) rfl rfl (x := .int (gI v0 1 1)) rfl dX0_read_17 ?_
    refine lv_aload_n (pc := 20) hx hb dX0_read_20 rfl (lv_at hl 0 rfl) ?_
    refine rk_getN (pc := 21) hx hb hts hown hK hW11 fnX0_200 0 (by decide) rfl rfl (x := .int (gI w2 0 1)) rfl dX0_read_21 ?_
    refine lv_iadd (pc := 24) hx hb dX0_read_24 ?_
    refine lv_bipush (pc := 25) (v := (8 : Int32)) hx hb dX0_read_25 (by decide) ?_
    refine lv_icmp_le (pc := 27) (tgt := 40) hx hb dX0_read_27 (by decide) (fun c16 => ?_) (fun c16 => ?_)
    · have hm := ite_t c16 hm
      refine lv_iconst (pc := 40) (v := (0 : Int32)) hx hb dX0_read_40 (by decide) ?_
      refine lv_istore_n (pc := 41) (lv' := [(2, .int (0 : Int32)), (1, .ref b1), (0, .ref b0)]) hx hb dX0_read_41 rfl hl (by decide) rfl (fun ls hl => ?_)
      exact (w_fX0_read_42_l C hd01 he0 hfr1 hZ hgb0 ht FU) v0 w2 (10 + rc1) (0 : Int32) hm H6 locs7 ls hW13 hW11 hS10 hz15 hG14 (lv_sub hl [2, 1, 0] rfl)
    · have hm := ite_f c16 hm
      refine lv_bipush (pc := 30) (v := (-4 : Int32)) hx hb dX0_read_30 (by decide) ?_
      refine lv_istore_n (pc := 32) (lv' := [(2, .int (-4 : Int32)), (1, .ref b1), (0, .ref b0)]) hx hb dX0_read_32 rfl hl (by decide) rfl (fun ls hl => ?_)
      refine lv_aload_n (pc := 33) hx hb dX0_read_33 rfl (lv_at hl 2 rfl) ?_
      refine lv_iconst (pc := 34) (v := (0 : Int32)) hx hb dX0_read_34 (by decide) ?_
      refine rk_put (pc := 35) hx hb hts hown hK hW13 hS10 flX0_189 ft_X0 0 (by decide) rfl (Or.inl (show fX _ _ from ⟨⟨by omega, by omega⟩, by omega⟩)) rfl rfl (x := .int (0 : Int32)) rfl rfl (Nat.le_of_ble_eq_true rfl) (sI v0 0 12 (0 : Int32)) sI_ne (by rw [sI_eq]; exact rfl) dX0_read_35 (fun H18 locs19 hW20 hS21 hz22 hkp23 => ?_)
      obtain ⟨v0_17, he9, hm⟩ := lm_some hm
      rw [he9] at hW20
      have hW24 := rg_keepq hW11 hkp23 (by omega)
      have hz25 := hz22.trans hz15
      have hG26 := GO_keepq hG14 hkp23 (by omega)
      refine lv_iload_n (pc := 38) hx hb dX0_read_38 rfl (lv_at hl 0 rfl) ?_
      obtain ⟨e6, e7, e8, e9⟩ := rs4 hm
      subst e6
      subst e7
      subst e8
      subst e9
      exact rk_iretA (pc := 39) hx hb hr hlk hS21 ⟨rfl, hW20, hz25⟩ dX0_read_39 (by exact Nat.le_of_ble_eq_true rfl) (by exact Nat.le_of_ble_eq_true rfl)
  · have hok := eq_false_of_ne_true hok
    subst hok
    have hm := ite_f Bool.false_ne_true hm
    refine rk_XV (pc := 10) (As := []) (rest := []) (mc := 1) (ms := 7) hx hb hml hown hts hK hS2 (fun q hq => FA_sz rfl q hq) lkX0_197 rfl yn_X11_reads (ct_X11_reads (G := G) (l := l) (rok := false) (b0 := b1) (b1 := b0) (sz := H2.size) hq5 (by omega) hZ (by omega) (by omega)) ⟨Nat.le_of_ble_eq_true rfl, Nat.le_of_ble_eq_true rfl⟩ (fun z h => Or.inr (show s.heap.size ≤ z by have h8 := h.1; omega)) (rk_recv hK hW12 0 (by decide) rfl rfl rfl) ⟨hW12, hW02, hG2⟩ rfl rfl hl.1 (Nat.le_of_ble_eq_true rfl) dX0_read_10 ⟨Nat.le_of_ble_eq_true rfl, Nat.le_of_ble_eq_true rfl⟩ (fun q32 E9 ce9 H27 locs28 hP29 hkp30 hS31 hce9 hcv9 hcl9 => ?_)
    obtain ⟨rfl, hqq32, ⟨wx34, hW35, hre36⟩, hW33, hz37⟩ := hP29
    have hqq32 : s.heap.size ≤ q32 := Nat.le_trans hS2.1 hqq32
    have hW38 := rg_keepX hW02 hkp30 (by intro z h0 h3; have h1 := h0.1.1; have h2 := h0.1.2; have h4 := h0.2; have h8 := h3.1; have h9 := h3.2; omega)
    have hG39 := GO_keepA hG2 hkp30 (Nat.le_trans (show gB G ≤ s.heap.size by omega) hS2.1) (by intro z h3; have h8 := h3.1; have h9 := h3.2; omega)
    have hz40 : H27.size = s.heap.size + (10 + rc1) := by omega
    obtain ⟨ce8, hce8, hcv8, hcl8⟩ := rk_exc hK hW35 rfl rfl
    refine rk_catch hK hown hts ht [] ⟨9, 33, 109, 210⟩ [⟨40, 102, 109, 210⟩, ⟨9, 33, 125, 0⟩, ⟨40, 102, 125, 0⟩, ⟨109, 118, 125, 0⟩, ⟨125, 127, 125, 0⟩] rfl (by decide) (by decide) (by decide) q634 q685 hce8 hcv8 hcl8 109 rfl ?_
    refine lv_astore_n (pc := 109) (lv' := [(2, .ref q32), (1, .ref b1), (0, .ref b0)]) hx hb dX0_read_109 rfl hl (by decide) rfl (fun ls hl => ?_)
    refine lv_bipush (pc := 110) (v := (-10 : Int32)) hx hb dX0_read_110 (by decide) ?_
    refine lv_aload_n (pc := 112) hx hb dX0_read_112 rfl (lv_at hl 0 rfl) ?_
    refine rk_getN (pc := 113) hx hb hts hown hK hW35 fnX0_212 0 (by decide) rfl rfl (x := .int re4) (congrArg (fun z => some (Value.int z)) hre36) dX0_read_113 ?_
    refine lv_isub (pc := 116) hx hb dX0_read_116 ?_
    refine lv_istore_n (pc := 117) (lv' := [(3, .int ((-10 : Int32) - re4)), (2, .ref q32), (1, .ref b1), (0, .ref b0)]) hx hb dX0_read_117 rfl hl (by decide) rfl (fun ls hl => ?_)
    refine lv_aload_n (pc := 118) hx hb dX0_read_118 rfl (lv_at hl 3 rfl) ?_
    refine lv_iconst (pc := 119) (v := (0 : Int32)) hx hb dX0_read_119 (by decide) ?_
    refine rk_put (pc := 120) hx hb hts hown hK hW38 hS31 flX0_189 ft_X0 0 (by decide) rfl (Or.inl (show fX _ _ from ⟨⟨by omega, by omega⟩, by omega⟩)) rfl rfl (x := .int (0 : Int32)) rfl rfl (Nat.le_of_ble_eq_true rfl) (sI v0 0 12 (0 : Int32)) sI_ne (by rw [sI_eq]; exact rfl) dX0_read_120 (fun H42 locs43 hW44 hS45 hz46 hkp47 => ?_)
    obtain ⟨v0_41, he9, hm⟩ := lm_some hm
    rw [he9] at hW44
    have hW48 := rg_keepq hW33 hkp47 (by omega)
    have hW49 := rg_keepq hW35 hkp47 (by omega)
    have hz50 := hz46.trans hz40
    have hG51 := GO_keepq hG39 hkp47 (by omega)
    refine lv_iload_n (pc := 123) hx hb dX0_read_123 rfl (lv_at hl 0 rfl) ?_
    obtain ⟨e6, e7, e8, e9⟩ := rs4 hm
    subst e6
    subst e7
    subst e8
    subst e9
    exact rk_iretA (pc := 124) hx hb hr hlk hS45 ⟨rfl, hW44, hz50⟩ dX0_read_124 (by exact Nat.le_of_ble_eq_true rfl) (by exact Nat.le_of_ble_eq_true rfl)
set_option maxHeartbeats 4000000 in
theorem ct_X0_read {G : Gv} {l : Launch} {b0 : Nat} {v0 : Mem} {rx : Int32} {rc : Nat} {rw0 : Mem} {rw1 : Mem} {sz : Nat} (hm : fX0_read v0 = some (rx, rc, rw0, rw1)) (hZ : ZQ G) (hgb0 : gB G ≤ b0) : CT G l yX0_read (wsW_ yX0_read cX0_read 5 (some .int) [(9, 33, 109, 210), (40, 102, 109, 210), (9, 33, 125, 0), (40, 102, 125, 0), (109, 118, 125, 0), (125, 127, 125, 0)]) 7 11 47 146 [.ref b0] (fX b0) sz (fun H => rg G b0 357 (shX0 G.2.1) v0 H ∧ GO G H) (fun ov H => ov = (some (.int rx)) ∧ rg G b0 357 (shX0 G.2.1) rw0 H ∧ H.size = sz + rc) := by
  refine va_MetW (cc := cX0_read) (maxL := 5) (ret := (some .int)) (by decide +kernel) rfl ?_
  intro p e s m args below meth c s₁ B hml hv
  obtain ⟨rfl, ⟨hz, hW0, hG⟩, hK⟩ := hv
  subst hz
  have he0 := rg_end hW0 356 (by decide) rfl (fun _ _ _ => rfl)
  have ht := vx_table (x := yX0_read) B (atoms_spec (ws := wsW_ yX0_read cX0_read 5 (some .int) [(9, 33, 109, 210), (40, 102, 109, 210), (9, 33, 125, 0), (40, 102, 125, 0), (109, 118, 125, 0), (125, 127, 125, 0)]) B.pre _ List.mem_cons_self)
  have hts := atoms_spec (ws := wsW_ yX0_read cX0_read 5 (some .int) [(9, 33, 109, 210), (40, 102, 109, 210), (9, 33, 125, 0), (40, 102, 125, 0), (109, 118, 125, 0), (125, 127, 125, 0)]) B.pre
  have hts : ∀ w ∈ lw_all, w.before _ s = true := fun w h => hts w (List.mem_cons_of_mem _ h)
  have C : Cx G p s m _ meth c RX0 cX0_read 5 (some .int) := ⟨B.exec, B.bytes, B.returns, B.notSynchronized, hml, findClass_of_methodNamed B.named, hts, hK⟩
  have hl := lv_entry ([.ref b0]) (n := 5) (Nat.le_of_ble_eq_true rfl)
  rw [lg_entry_eq]
  generalize (lg_sl ([.ref b0]) ++ List.replicate (5 - (lg_sl ([.ref b0])).length) Slot.unset).toArray = ls at hl ⊢
  have hl : lv_has ls 5 [(0, .ref b0)] := hl
  exact w_fX0_read C he0 hZ hgb0 ht _ hm s.heap [] ls hW0 va_S.rf rfl hG hl
end
