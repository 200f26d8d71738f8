set_option maxRecDepth 100000
section
variable {p : Program} {l : Launch} {e : Env} {s : State} {m : MethodId} {args : Array Value} {below : List Frame} {meth : Method} {c : Code} {G : Gv}
def shO_X10 : Shp := fun _ _ x y z => some (.inr (10, [va_rf (z 0), va_rf (z 1), va_rf (z 2), va_rf (z 3), va_rf (z 4), va_rf (z 5), va_rf (z 6), va_rf (z 7), va_rf (z 8), va_rf (z 9), va_rf (z 10), va_rf (z 11), .long (y 12), .long (y 13), .int (x 14), .int (x 15), .int (x 16), .int (x 17), .int (x 18), .int (x 19)]))
theorem df_X10 (fs : List Value) (h : fs = [.null, .null, .null, .null, .null, .null, .null, .null, .null, .null, .null, .null, .long 0, .long 0, .int 0, .int 0, .int 0, .int 0, .int 0, .int 0]) : ∀ j, j < 20 → defaultValue (tyX10 j) = vp_V fs j := by
  subst h
  intro j hj
  match j, hj with
  | 0, _ => rfl
  | 1, _ => rfl
  | 2, _ => rfl
  | 3, _ => rfl
  | 4, _ => rfl
  | 5, _ => rfl
  | 6, _ => rfl
  | 7, _ => rfl
  | 8, _ => rfl
  | 9, _ => rfl
  | 10, _ => rfl
  | 11, _ => rfl
  | 12, _ => rfl
  | 13, _ => rfl
  | 14, _ => rfl
  | 15, _ => rfl
  | 16, _ => rfl
  | 17, _ => rfl
  | 18, _ => rfl
  | 19, _ => rfl
  | n + 20, h => exact absurd h (by omega)
theorem flX10_9 : FL RX10 9 10 0 RX10 TX10 20 := ⟨in_X10, rfl, by decide, q1751⟩
theorem flX10_15 : FL RX10 15 10 1 RX10 TX10 20 := ⟨in_X10, rfl, by decide, q1753⟩
theorem flX10_18 : FL RX10 18 10 2 RX10 TX10 20 := ⟨in_X10, rfl, by decide, q1755⟩
theorem flX10_21 : FL RX10 21 10 3 RX10 TX10 20 := ⟨in_X10, rfl, by decide, q1757⟩
theorem flX10_24 : FL RX10 24 10 4 RX10 TX10 20 := ⟨in_X10, rfl, by decide, q1759⟩
theorem flX10_27 : FL RX10 27 10 5 RX10 TX10 20 := ⟨in_X10, rfl, by decide, q1761⟩
theorem flX10_30 : FL RX10 30 10 6 RX10 TX10 20 := ⟨in_X10, rfl, by decide, q1763⟩
theorem flX10_34 : FL RX10 34 10 7 RX10 TX10 20 := ⟨in_X10, rfl, by decide, q1765⟩
theorem flX10_37 : FL RX10 37 10 8 RX10 TX10 20 := ⟨in_X10, rfl, by decide, q1767⟩
theorem flX10_40 : FL RX10 40 10 9 RX10 TX10 20 := ⟨in_X10, rfl, by decide, q1769⟩
theorem flX10_43 : FL RX10 43 10 10 RX10 TX10 20 := ⟨in_X10, rfl, by decide, q1771⟩
theorem flX10_46 : FL RX10 46 10 11 RX10 TX10 20 := ⟨in_X10, rfl, by decide, q1773⟩
def vo_X10_init_13 (b0 : Nat) : Mem := sR mz 0 0 (some (b0 + 1))
def vo_X10_init_32 (b0 : Nat) : Mem := sR (vo_X10_init_13 b0) 0 1 (some (b0 + 2))
def vo_X10_init_52 (b0 : Nat) : Mem := sR (vo_X10_init_32 b0) 0 2 (some (b0 + 3))
def vo_X10_init_72 (b0 : Nat) : Mem := sR (vo_X10_init_52 b0) 0 3 (some (b0 + 4))
def vo_X10_init_92 (b0 : Nat) : Mem := sR (vo_X10_init_72 b0) 0 4 (some (b0 + 5))
def vo_X10_init_112 (b0 : Nat) : Mem := sR (vo_X10_init_92 b0) 0 5 (some (b0 + 6))
def vo_X10_init_132 (b0 : Nat) : Mem := sR (vo_X10_init_112 b0) 0 6 (some (b0 + 7))
def vo_X10_init_152 (b0 : Nat) : Mem := sR (vo_X10_init_132 b0) 0 7 (some (b0 + 8))
def vo_X10_init_172 (b0 : Nat) : Mem := sR (vo_X10_init_152 b0) 0 8 (some (b0 + 9))
def vo_X10_init_192 (b0 : Nat) : Mem := sR (vo_X10_init_172 b0) 0 9 (some (b0 + 10))
def vo_X10_init_212 (b0 : Nat) : Mem := sR (vo_X10_init_192 b0) 0 10 (some (b0 + 11))
def vo_X10_init_232 (b0 : Nat) : Mem := sR (vo_X10_init_212 b0) 0 11 (some (b0 + 12))
def vf_X10_init_1 (b0 : Nat) : Mem := ptm (mz) 1 1 mz
def vf_X10_init_2 (b0 : Nat) : Mem := ptm (vf_X10_init_1 b0) 2 1 mz
def vf_X10_init_3 (b0 : Nat) : Mem := ptm (vf_X10_init_2 b0) 3 1 mz
def vf_X10_init_4 (b0 : Nat) : Mem := ptm (vf_X10_init_3 b0) 4 1 mz
def vf_X10_init_5 (b0 : Nat) : Mem := ptm (vf_X10_init_4 b0) 5 1 mz
def vf_X10_init_6 (b0 : Nat) : Mem := ptm (vf_X10_init_5 b0) 6 1 mz
def vf_X10_init_7 (b0 : Nat) : Mem := ptm (vf_X10_init_6 b0) 7 1 mz
def vf_X10_init_8 (b0 : Nat) : Mem := ptm (vf_X10_init_7 b0) 8 1 mz
def vf_X10_init_9 (b0 : Nat) : Mem := ptm (vf_X10_init_8 b0) 9 1 mz
def vf_X10_init_10 (b0 : Nat) : Mem := ptm (vf_X10_init_9 b0) 10 1 mz
def vf_X10_init_11 (b0 : Nat) : Mem := ptm (vf_X10_init_10 b0) 11 1 mz
def vf_X10_init_12 (b0 : Nat) : Mem := ptm (vf_X10_init_11 b0) 12 1 mz
def vc_X10 (b0 : Nat) : Mem := (vf_X10_init_12 b0)
set_option maxHeartbeats 4000000 in
theorem ct_X10_init {G : Gv} {l : Launch} {b0 : Nat} {sz : Nat} (hsz : sz = b0 + 1) : CT G l yX10_init (ws_ yX10_init cX10_init 1 none) 1 12 599 32 [.ref b0] (iv b0 1) sz (fun H => rg G b0 1 shO_X10 mz H) (fun ov H => ov = none ∧ rg G b0 13 (shX10 G.2.1) (vc_X10 b0) H ∧ H.size = b0 + 13) := by
  refine Met.ofW (cc := cX10_init) (maxL := 1) (ret := none) (by decide +kernel) rfl ?_
  intro p e s m args below meth c s₁ B hml hv
  obtain ⟨rfl, ⟨hz, hW0⟩, hK⟩ := hv
  subst hz
  have hz : s.heap.size = b0 + 1 := hsz
  have hin : meth.name = "<init>" := (name_of_methodNamed B.named B.method).1
  have hts := atoms_spec (ws := ws_ yX10_init cX10_init 1 none) B.pre
  have hts : ∀ w ∈ lw_all, w.before _ s = true := fun w h => hts w (List.mem_cons_of_mem _ h)
  have C : Cx G p s m _ meth c RX10 cX10_init 1 none := ⟨B.exec, B.bytes, B.returns, B.notSynchronized, hml, findClass_of_methodNamed B.named, hts, hK⟩
  obtain ⟨hx, hb, hr, hlk, hml, hown, hts, hK⟩ := id C
  have hl := lv_entry ([.ref b0]) (n := 1) (Nat.le_of_ble_eq_true rfl)
  rw [lg_entry_eq]
  generalize (lg_sl ([.ref b0]) ++ List.replicate (1 - (lg_sl ([.ref b0])).length) Slot.unset).toArray = ls at hl ⊢
  have hl : lv_has ls 1 [(0, .ref b0)] := hl
  have hS0 : va_S (FA (iv b0 1) s.heap.size) s.heap s.heap [] := va_S.rf
  refine lv_aload_n (pc := 0) hx hb dX10_init_0 rfl (lv_at hl 0 rfl) ?_
  refine W.objInit hx hb hown (hts _ q1750) (hts _ q159) (hts _ q160) rfl (by rw [hml]; exact hl.1) rfl dX10_init_1 (Nat.le_of_ble_eq_true rfl) (Nat.le_of_ble_eq_true rfl) ?_
  refine W.eq (g2 := F0 m 4 ls []) rfl ?_
  refine lv_aload_n (pc := 4) hx hb dX10_init_4 rfl (lv_at hl 0 rfl) ?_
  refine lv_bipush (pc := 5) (v := (100 : Int32)) hx hb dX10_init_5 (by decide) ?_
  refine rk_newarr (pc := 7) (atype := .long) (h := b0 + 1) (sh := (fun _ _ x y _ => some (.inl (G.2.1 1, 100, .inr (.inl y))))) hx hb hts hK hS0 q273 1 rfl (fun _ h => nomatch h) hz rfl rfl (by decide) rfl (Nat.le_of_ble_eq_true rfl) (Nat.le_of_ble_eq_true rfl) (Nat.le_of_ble_eq_true rfl) dX10_init_7 (fun H1 hW2 hS3 hz4 hkp5 => ?_)
  have hW6 := rg_keepN hW0 hz hkp5
  have hz7 : H1.size = b0 + 2 := by omega
  clear hW0 hS0 hz hz4 hkp5
  refine rk_putF (pc := 9) (q := b0) hx hb hts hown hK hW6 hS3 flX10_9 ft_X10 0 (by decide) rfl (Or.inl (show iv _ _ _ from ⟨by omega, by omega⟩)) rfl rfl hin rfl (x := va_rf (some (b0 + 1))) (rf_nar _ rfl (some (b0 + 1))) (rf_fit _ rfl (some (b0 + 1))) (Nat.le_of_ble_eq_true rfl) (sR mz 0 0 (some (b0 + 1))) sR_ne (by rw [sR_eq]; rfl) dX10_init_9 (fun H8 locs9 hW10 hS11 hz12 hkp13 => ?_)
  have hW10 : rg G b0 1 shO_X10 (vo_X10_init_13 b0) H8 := hW10
  have hW14 := rg_keepq hW2 hkp13 (by omega)
  have hz15 := hz12.trans hz7
  clear hW6 hW2 hz7 hz12 hS3 hkp13
  have ap16 := Ap.cons (x := ((b0 + 1), 1, (fun _ _ x y _ => some (.inl (G.2.1 1, 100, .inr (.inl y)))), mz)) (Or.inl (show b0 < (b0 + 1) by omega)) (Ap.nil (q := b0))
  have hP17 := PP.cons (hi' := b0 + 2) hW14 (PP.nil (hi := b0)) (by omega) (by omega)
  clear hW14
  refine lv_aload_n (pc := 12) hx hb dX10_init_12 rfl (lv_at hl 0 rfl) ?_
  refine lv_bipush (pc := 13) (v := (20 : Int32)) hx hb dX10_init_13 (by decide) ?_
  refine rk_newarr (pc := 15) (atype := .long) (h := b0 + 2) (sh := (fun _ _ x y _ => some (.inl (G.2.1 1, 20, .inr (.inl y))))) hx hb hts hK hS11 q273 1 rfl (fun _ h => nomatch h) hz15 rfl rfl (by decide) rfl (Nat.le_of_ble_eq_true rfl) (Nat.le_of_ble_eq_true rfl) (Nat.le_of_ble_eq_true rfl) dX10_init_15 (fun H18 hW19 hS20 hz21 hkp22 => ?_)
  have hW23 := rg_keepN hW10 hz15 hkp22
  have hP24 := PP.keepN hP17 hz15 hkp22
  have ap25 := PP.ap (q := (b0 + 2)) hP24 (by omega)
  have hz26 : H18.size = b0 + 3 := by omega
  clear hW10 hP17 hS11 hz15 hz21 hkp22
  refine rk_putF (pc := 17) (q := b0) hx hb hts hown hK hW23 hS20 flX10_15 ft_X10 0 (by decide) rfl (Or.inl (show iv _ _ _ from ⟨by omega, by omega⟩)) rfl rfl hin rfl (x := va_rf (some (b0 + 2))) (rf_nar _ rfl (some (b0 + 2))) (rf_fit _ rfl (some (b0 + 2))) (Nat.le_of_ble_eq_true rfl) (sR (vo_X10_init_13 b0) 0 1 (some (b0 + 2))) sR_ne (by rw [sR_eq]; rfl) dX10_init_17 (fun H27 locs28 hW29 hS30 hz31 hkp32 => ?_)
  have hW29 : rg G b0 1 shO_X10 (vo_X10_init_32 b0) H27 := hW29
  have hW33 := rg_keepq hW19 hkp32 (by omega)
  have hP34 := PP.keepq hP24 hkp32 ap16
  have hz35 := hz31.trans hz26
  clear hW23 hW19 hP24 hz26 hz31 hS20 hkp32
  have ap36 := Ap.cons (x := ((b0 + 2), 1, (fun _ _ x y _ => some (.inl (G.2.1 1, 20, .inr (.inl y)))), mz)) (Or.inl (show b0 < (b0 + 2) by omega)) ap16
  have hP37 := PP.cons (hi' := b0 + 3) hW33 hP34 (by omega) (by omega)
  clear ap16 hP34 hW33
  refine lv_aload_n (pc := 20) hx hb dX10_init_20 rfl (lv_at hl 0 rfl) ?_
  refine lv_iconst (pc := 21) (v := (5 : Int32)) hx hb dX10_init_21 (by decide) ?_
  refine rk_newarr (pc := 22) (atype := .long) (h := b0 + 3) (sh := (fun _ _ x y _ => some (.inl (G.2.1 1, 5, .inr (.inl y))))) hx hb hts hK hS30 q273 1 rfl (fun _ h => nomatch h) hz35 rfl rfl (by decide) rfl (Nat.le_of_ble_eq_true rfl) (Nat.le_of_ble_eq_true rfl) (Nat.le_of_ble_eq_true rfl) dX10_init_22 (fun H38 hW39 hS40 hz41 hkp42 => ?_)
  have hW43 := rg_keepN hW29 hz35 hkp42
  have hP44 := PP.keepN hP37 hz35 hkp42
  have ap45 := PP.ap (q := (b0 + 3)) hP44 (by omega)
  have hz46 : H38.size = b0 + 4 := by omega
  clear hW29 hP37 hS30 hz35 hz41 hkp42
  refine rk_putF (pc := 24) (q := b0) hx hb hts hown hK hW43 hS40 flX10_18 ft_X10 0 (by decide) rfl (Or.inl (show iv _ _ _ from ⟨by omega, by omega⟩)) rfl rfl hin rfl (x := va_rf (some (b0 + 3))) (rf_nar _ rfl (some (b0 + 3))) (rf_fit _ rfl (some (b0 + 3))) (Nat.le_of_ble_eq_true rfl) (sR (vo_X10_init_32 b0) 0 2 (some (b0 + 3))) sR_ne (by rw [sR_eq]; rfl) dX10_init_24 (fun H47 locs48 hW49 hS50 hz51 hkp52 => ?_)
  have hW49 : rg G b0 1 shO_X10 (vo_X10_init_52 b0) H47 := hW49
  have hW53 := rg_keepq hW39 hkp52 (by omega)
  have hP54 := PP.keepq hP44 hkp52 ap36
  have hz55 := hz51.trans hz46
  clear hW43 hW39 hP44 hz46 hz51 hS40 hkp52
  have ap56 := Ap.cons (x := ((b0 + 3), 1, (fun _ _ x y _ => some (.inl (G.2.1 1, 5, .inr (.inl y)))), mz)) (Or.inl (show b0 < (b0 + 3) by omega)) ap36
  have hP57 := PP.cons (hi' := b0 + 4) hW53 hP54 (by omega) (by omega)
  clear ap36 hP54 hW53
  refine lv_aload_n (pc := 27) hx hb dX10_init_27 rfl (lv_at hl 0 rfl) ?_
  refine lv_bipush (pc := 28) (v := (100 : Int32)) hx hb dX10_init_28 (by decide) ?_
  refine rk_newarr (pc := 30) (atype := .long) (h := b0 + 4) (sh := (fun _ _ x y _ => some (.inl (G.2.1 1, 100, .inr (.inl y))))) hx hb hts hK hS50 q273 1 rfl (fun _ h => nomatch h) hz55 rfl rfl (by decide) rfl (Nat.le_of_ble_eq_true rfl) (Nat.le_of_ble_eq_true rfl) (Nat.le_of_ble_eq_true rfl) dX10_init_30 (fun H58 hW59 hS60 hz61 hkp62 => ?_)
  have hW63 := rg_keepN hW49 hz55 hkp62
  have hP64 := PP.keepN hP57 hz55 hkp62
  have ap65 := PP.ap (q := (b0 + 4)) hP64 (by omega)
  have hz66 : H58.size = b0 + 5 := by omega
  clear hW49 hP57 hS50 hz55 hz61 hkp62
  refine rk_putF (pc := 32) (q := b0) hx hb hts hown hK hW63 hS60 flX10_21 ft_X10 0 (by decide) rfl (Or.inl (show iv _ _ _ from ⟨by omega, by omega⟩)) rfl rfl hin rfl (x := va_rf (some (b0 + 4))) (rf_nar _ rfl (some (b0 + 4))) (rf_fit _ rfl (some (b0 + 4))) (Nat.le_of_ble_eq_true rfl) (sR (vo_X10_init_52 b0) 0 3 (some (b0 + 4))) sR_ne (by rw [sR_eq]; rfl) dX10_init_32 (fun H67 locs68 hW69 hS70 hz71 hkp72 => ?_)
  have hW69 : rg G b0 1 shO_X10 (vo_X10_init_72 b0) H67 := hW69
  have hW73 := rg_keepq hW59 hkp72 (by omega)
  have hP74 := PP.keepq hP64 hkp72 ap56
  have hz75 := hz71.trans hz66
  clear hW63 hW59 hP64 hz66 hz71 hS60 hkp72
  have ap76 := Ap.cons (x := ((b0 + 4), 1, (fun _ _ x y _ => some (.inl (G.2.1 1, 100, .inr (.inl y)))), mz)) (Or.inl (show b0 < (b0 + 4) by omega)) ap56
  have hP77 := PP.cons (hi' := b0 + 5) hW73 hP74 (by omega) (by omega)
  clear ap56 hP74 hW73
  refine lv_aload_n (pc := 35) hx hb dX10_init_35 rfl (lv_at hl 0 rfl) ?_
  refine lv_bipush (pc := 36) (v := (20 : Int32)) hx hb dX10_init_36 (by decide) ?_
  refine rk_newarr (pc := 38) (atype := .long) (h := b0 + 5) (sh := (fun _ _ x y _ => some (.inl (G.2.1 1, 20, .inr (.inl y))))) hx hb hts hK hS70 q273 1 rfl (fun _ h => nomatch h) hz75 rfl rfl (by decide) rfl (Nat.le_of_ble_eq_true rfl) (Nat.le_of_ble_eq_true rfl) (Nat.le_of_ble_eq_true rfl) dX10_init_38 (fun H78 hW79 hS80 hz81 hkp82 => ?_)
  have hW83 := rg_keepN hW69 hz75 hkp82
  have hP84 := PP.keepN hP77 hz75 hkp82
  have ap85 := PP.ap (q := (b0 + 5)) hP84 (by omega)
  have hz86 : H78.size = b0 + 6 := by omega
  clear hW69 hP77 hS70 hz75 hz81 hkp82
  refine rk_putF (pc := 40) (q := b0) hx hb hts hown hK hW83 hS80 flX10_24 ft_X10 0 (by decide) rfl (Or.inl (show iv _ _ _ from ⟨by omega, by omega⟩)) rfl rfl hin rfl (x := va_rf (some (b0 + 5))) (rf_nar _ rfl (some (b0 + 5))) (rf_fit _ rfl (some (b0 + 5))) (Nat.le_of_ble_eq_true rfl) (sR (vo_X10_init_72 b0) 0 4 (some (b0 + 5))) sR_ne (by rw [sR_eq]; rfl) dX10_init_40 (fun H87 locs88 hW89 hS90 hz91 hkp92 => ?_)
  have hW89 : rg G b0 1 shO_X10 (vo_X10_init_92 b0) H87 := hW89
  have hW93 := rg_keepq hW79 hkp92 (by omega)
  have hP94 := PP.keepq hP84 hkp92 ap76
  have hz95 := hz91.trans hz86
  clear hW83 hW79 hP84 hz86 hz91 hS80 hkp92
  have ap96 := Ap.cons (x := ((b0 + 5), 1, (fun _ _ x y _ => some (.inl (G.2.1 1, 20, .inr (.inl y)))), mz)) (Or.inl (show b0 < (b0 + 5) by omega)) ap76
  have hP97 := PP.cons (hi' := b0 + 6) hW93 hP94 (by omega) (by omega)
  clear ap76 hP94 hW93
  refine lv_aload_n (pc := 43) hx hb dX10_init_43 rfl (lv_at hl 0 rfl) ?_
  refine lv_iconst (pc := 44) (v := (5 : Int32)) hx hb dX10_init_44 (by decide) ?_
  refine rk_newarr (pc := 45) (atype := .long) (h := b0 + 6) (sh := (fun _ _ x y _ => some (.inl (G.2.1 1, 5, .inr (.inl y))))) hx hb hts hK hS90 q273 1 rfl (fun _ h => nomatch h) hz95 rfl rfl (by decide) rfl (Nat.le_of_ble_eq_true rfl) (Nat.le_of_ble_eq_true rfl) (Nat.le_of_ble_eq_true rfl) dX10_init_45 (fun H98 hW99 hS100 hz101 hkp102 => ?_)
  have hW103 := rg_keepN hW89 hz95 hkp102
  have hP104 := PP.keepN hP97 hz95 hkp102
  have ap105 := PP.ap (q := (b0 + 6)) hP104 (by omega)
  have hz106 : H98.size = b0 + 7 := by omega
  clear hW89 hP97 hS90 hz95 hz101 hkp102
  refine rk_putF (pc := 47) (q := b0) hx hb hts hown hK hW103 hS100 flX10_27 ft_X10 0 (by decide) rfl (Or.inl (show iv _ _ _ from ⟨by omega, by omega⟩)) rfl rfl hin rfl (x := va_rf (some (b0 + 6))) (rf_nar _ rfl (some (b0 + 6))) (rf_fit _ rfl (some (b0 + 6))) (Nat.le_of_ble_eq_true rfl) (sR (vo_X10_init_92 b0) 0 5 (some (b0 + 6))) sR_ne (by rw [sR_eq]; rfl) dX10_init_47 (fun H107 locs108 hW109 hS110 hz111 hkp112 => ?_)
  have hW109 : rg G b0 1 shO_X10 (vo_X10_init_112 b0) H107 := hW109
  have hW113 := rg_keepq hW99 hkp112 (by omega)
  have hP114 := PP.keepq hP104 hkp112 ap96
  have hz115 := hz111.trans hz106
  clear hW103 hW99 hP104 hz106 hz111 hS100 hkp112
  have ap116 := Ap.cons (x := ((b0 + 6), 1, (fun _ _ x y _ => some (.inl (G.2.1 1, 5, .inr (.inl y)))), mz)) (Or.inl (show b0 < (b0 + 6) by omega)) ap96
  have hP117 := PP.cons (hi' := b0 + 7) hW113 hP114 (by omega) (by omega)
  clear ap96 hP114 hW113
  refine lv_aload_n (pc := 50) hx hb dX10_init_50 rfl (lv_at hl 0 rfl) ?_
  refine lv_bipush (pc := 51) (v := (20 : Int32)) hx hb dX10_init_51 (by decide) ?_
  refine rk_newarr (pc := 53) (atype := .int) (h := b0 + 7) (sh := (fun _ _ x y _ => some (.inl (G.2.1 0, 20, .inl x)))) hx hb hts hK hS110 q190 0 rfl (fun _ h => nomatch h) hz115 rfl rfl (by decide) rfl (Nat.le_of_ble_eq_true rfl) (Nat.le_of_ble_eq_true rfl) (Nat.le_of_ble_eq_true rfl) dX10_init_53 (fun H118 hW119 hS120 hz121 hkp122 => ?_)
  have hW123 := rg_keepN hW109 hz115 hkp122
  have hP124 := PP.keepN hP117 hz115 hkp122
  have ap125 := PP.ap (q := (b0 + 7)) hP124 (by omega)
  have hz126 : H118.size = b0 + 8 := by omega
  clear hW109 hP117 hS110 hz115 hz121 hkp122
  refine rk_putF (pc := 55) (q := b0) hx hb hts hown hK hW123 hS120 flX10_30 ft_X10 0 (by decide) rfl (Or.inl (show iv _ _ _ from ⟨by omega, by omega⟩)) rfl rfl hin rfl (x := va_rf (some (b0 + 7))) (rf_nar _ rfl (some (b0 + 7))) (rf_fit _ rfl (some (b0 + 7))) (Nat.le_of_ble_eq_true rfl) (sR (vo_X10_init_112 b0) 0 6 (some (b0 + 7))) sR_ne (by rw [sR_eq]; rfl) dX10_init_55 (fun H127 locs128 hW129 hS130 hz131 hkp132 => ?_)
  have hW129 : rg G b0 1 shO_X10 (vo_X10_init_132 b0) H127 := hW129
  have hW133 := rg_keepq hW119 hkp132 (by omega)
  have hP134 := PP.keepq hP124 hkp132 ap116
  have hz135 := hz131.trans hz126
  clear hW123 hW119 hP124 hz126 hz131 hS120 hkp132
  have ap136 := Ap.cons (x := ((b0 + 7), 1, (fun _ _ x y _ => some (.inl (G.2.1 0, 20, .inl x))), mz)) (Or.inl (show b0 < (b0 + 7) by omega)) ap116
  have hP137 := PP.cons (hi' := b0 + 8) hW133 hP134 (by omega) (by omega)
  clear ap116 hP134 hW133
  refine lv_aload_n (pc := 58) hx hb dX10_init_58 rfl (lv_at hl 0 rfl) ?_
  refine lv_iconst (pc := 59) (v := (5 : Int32)) hx hb dX10_init_59 (by decide) ?_
  refine rk_newarr (pc := 60) (atype := .int) (h := b0 + 8) (sh := (fun _ _ x y _ => some (.inl (G.2.1 0, 5, .inl x)))) hx hb hts hK hS130 q190 0 rfl (fun _ h => nomatch h) hz135 rfl rfl (by decide) rfl (Nat.le_of_ble_eq_true rfl) (Nat.le_of_ble_eq_true rfl) (Nat.le_of_ble_eq_true rfl) dX10_init_60 (fun H138 hW139 hS140 hz141 hkp142 => ?_)
  have hW143 := rg_keepN hW129 hz135 hkp142
  have hP144 := PP.keepN hP137 hz135 hkp142
  have ap145 := PP.ap (q := (b0 + 8)) hP144 (by omega)
  have hz146 : H138.size = b0 + 9 := by omega
  clear hW129 hP137 hS130 hz135 hz141 hkp142
  refine rk_putF (pc := 62) (q := b0) hx hb hts hown hK hW143 hS140 flX10_34 ft_X10 0 (by decide) rfl (Or.inl (show iv _ _ _ from ⟨by omega, by omega⟩)) rfl rfl hin rfl (x := va_rf (some (b0 + 8))) (rf_nar _ rfl (some (b0 + 8))) (rf_fit _ rfl (some (b0 + 8))) (Nat.le_of_ble_eq_true rfl) (sR (vo_X10_init_132 b0) 0 7 (some (b0 + 8))) sR_ne (by rw [sR_eq]; rfl) dX10_init_62 (fun H147 locs148 hW149 hS150 hz151 hkp152 => ?_)
  have hW149 : rg G b0 1 shO_X10 (vo_X10_init_152 b0) H147 := hW149
  have hW153 := rg_keepq hW139 hkp152 (by omega)
  have hP154 := PP.keepq hP144 hkp152 ap136
  have hz155 := hz151.trans hz146
  clear hW143 hW139 hP144 hz146 hz151 hS140 hkp152
  have ap156 := Ap.cons (x := ((b0 + 8), 1, (fun _ _ x y _ => some (.inl (G.2.1 0, 5, .inl x))), mz)) (Or.inl (show b0 < (b0 + 8) by omega)) ap136
  have hP157 := PP.cons (hi' := b0 + 9) hW153 hP154 (by omega) (by omega)
  clear ap136 hP154 hW153
  refine lv_aload_n (pc := 65) hx hb dX10_init_65 rfl (lv_at hl 0 rfl) ?_
  refine lv_bipush (pc := 66) (v := (60 : Int32)) hx hb dX10_init_66 (by decide) ?_
  refine rk_newarr (pc := 68) (atype := .long) (h := b0 + 9) (sh := (fun _ _ x y _ => some (.inl (G.2.1 1, 60, .inr (.inl y))))) hx hb hts hK hS150 q273 1 rfl (fun _ h => nomatch h) hz155 rfl rfl (by decide) rfl (Nat.le_of_ble_eq_true rfl) (Nat.le_of_ble_eq_true rfl) (Nat.le_of_ble_eq_true rfl) dX10_init_68 (fun H158 hW159 hS160 hz161 hkp162 => ?_)
  have hW163 := rg_keepN hW149 hz155 hkp162
  have hP164 := PP.keepN hP157 hz155 hkp162
  have ap165 := PP.ap (q := (b0 + 9)) hP164 (by omega)
  have hz166 : H158.size = b0 + 10 := by omega
  clear hW149 hP157 hS150 hz155 hz161 hkp162
  refine rk_putF (pc := 70) (q := b0) hx hb hts hown hK hW163 hS160 flX10_37 ft_X10 0 (by decide) rfl (Or.inl (show iv _ _ _ from ⟨by omega, by omega⟩)) rfl rfl hin rfl (x := va_rf (some (b0 + 9))) (rf_nar _ rfl (some (b0 + 9))) (rf_fit _ rfl (some (b0 + 9))) (Nat.le_of_ble_eq_true rfl) (sR (vo_X10_init_152 b0) 0 8 (some (b0 + 9))) sR_ne (by rw [sR_eq]; rfl) dX10_init_70 (fun H167 locs168 hW169 hS170 hz171 hkp172 => ?_)
  have hW169 : rg G b0 1 shO_X10 (vo_X10_init_172 b0) H167 := hW169
  have hW173 := rg_keepq hW159 hkp172 (by omega)
  have hP174 := PP.keepq hP164 hkp172 ap156
  have hz175 := hz171.trans hz166
  clear hW163 hW159 hP164 hz166 hz171 hS160 hkp172
  have ap176 := Ap.cons (x := ((b0 + 9), 1, (fun _ _ x y _ => some (.inl (G.2.1 1, 60, .inr (.inl y)))), mz)) (Or.inl (show b0 < (b0 + 9) by omega)) ap156
  have hP177 := PP.cons (hi' := b0 + 10) hW173 hP174 (by omega) (by omega)
  clear ap156 hP174 hW173
  refine lv_aload_n (pc := 73) hx hb dX10_init_73 rfl (lv_at hl 0 rfl) ?_
  refine lv_bipush (pc := 74) (v := (12 : Int32)) hx hb dX10_init_74 (by decide) ?_
  refine rk_newarr (pc := 76) (atype := .long) (h := b0 + 10) (sh := (fun _ _ x y _ => some (.inl (G.2.1 1, 12, .inr (.inl y))))) hx hb hts hK hS170 q273 1 rfl (fun _ h => nomatch h) hz175 rfl rfl (by decide) rfl (Nat.le_of_ble_eq_true rfl) (Nat.le_of_ble_eq_true rfl) (Nat.le_of_ble_eq_true rfl) dX10_init_76 (fun H178 hW179 hS180 hz181 hkp182 => ?_)
  have hW183 := rg_keepN hW169 hz175 hkp182
  have hP184 := PP.keepN hP177 hz175 hkp182
  have ap185 := PP.ap (q := (b0 + 10)) hP184 (by omega)
  have hz186 : H178.size = b0 + 11 := by omega
  clear hW169 hP177 hS170 hz175 hz181 hkp182
  refine rk_putF (pc := 78) (q := b0) hx hb hts hown hK hW183 hS180 flX10_40 ft_X10 0 (by decide) rfl (Or.inl (show iv _ _ _ from ⟨by omega, by omega⟩)) rfl rfl hin rfl (x := va_rf (some (b0 + 10))) (rf_nar _ rfl (some (b0 + 10))) (rf_fit _ rfl (some (b0 + 10))) (Nat.le_of_ble_eq_true rfl) (sR (vo_X10_init_172 b0) 0 9 (some (b0 + 10))) sR_ne (by rw [sR_eq]; rfl) dX10_init_78 (fun H187 locs188 hW189 hS190 hz191 hkp192 => ?_)
  have hW189 : rg G b0 1 shO_X10 (vo_X10_init_192 b0) H187 := hW189
  have hW193 := rg_keepq hW179 hkp192 (by omega)
  have hP194 := PP.keepq hP184 hkp192 ap176
  have hz195 := hz191.trans hz186
  clear hW183 hW179 hP184 hz186 hz191 hS180 hkp192
  have ap196 := Ap.cons (x := ((b0 + 10), 1, (fun _ _ x y _ => some (.inl (G.2.1 1, 12, .inr (.inl y)))), mz)) (Or.inl (show b0 < (b0 + 10) by omega)) ap176
  have hP197 := PP.cons (hi' := b0 + 11) hW193 hP194 (by omega) (by omega)
  clear ap176 hP194 hW193
  refine lv_aload_n (pc := 81) hx hb dX10_init_81 rfl (lv_at hl 0 rfl) ?_
  refine lv_sipush (pc := 82) (v := (240 : Int32)) hx hb dX10_init_82 (by decide) ?_
  refine rk_newarr (pc := 85) (atype := .long) (h := b0 + 11) (sh := (fun _ _ x y _ => some (.inl (G.2.1 1, 240, .inr (.inl y))))) hx hb hts hK hS190 q273 1 rfl (fun _ h => nomatch h) hz195 rfl rfl (by decide) rfl (Nat.le_of_ble_eq_true rfl) (Nat.le_of_ble_eq_true rfl) (Nat.le_of_ble_eq_true rfl) dX10_init_85 (fun H198 hW199 hS200 hz201 hkp202 => ?_)
  have hW203 := rg_keepN hW189 hz195 hkp202
  have hP204 := PP.keepN hP197 hz195 hkp202
  have ap205 := PP.ap (q := (b0 + 11)) hP204 (by omega)
  have hz206 : H198.size = b0 + 12 := by omega
  clear hW189 hP197 hS190 hz195 hz201 hkp202
  refine rk_putF (pc := 87) (q := b0) hx hb hts hown hK hW203 hS200 flX10_43 ft_X10 0 (by decide) rfl (Or.inl (show iv _ _ _ from ⟨by omega, by omega⟩)) rfl rfl hin rfl (x := va_rf (some (b0 + 11))) (rf_nar _ rfl (some (b0 + 11))) (rf_fit _ rfl (some (b0 + 11))) (Nat.le_of_ble_eq_true rfl) (sR (vo_X10_init_192 b0) 0 10 (some (b0 + 11))) sR_ne (by rw [sR_eq]; rfl) dX10_init_87 (fun H207 locs208 hW209 hS210 hz211 hkp212 => ?_)
  have hW209 : rg G b0 1 shO_X10 (vo_X10_init_212 b0) H207 := hW209
  have hW213 := rg_keepq hW199 hkp212 (by omega)
  have hP214 := PP.keepq hP204 hkp212 ap196
  have hz215 := hz211.trans hz206
  clear hW203 hW199 hP204 hz206 hz211 hS200 hkp212
  have ap216 := Ap.cons (x := ((b0 + 11), 1, (fun _ _ x y _ => some (.inl (G.2.1 1, 240, .inr (.inl y)))), mz)) (Or.inl (show b0 < (b0 + 11) by omega)) ap196
  have hP217 := PP.cons (hi' := b0 + 12) hW213 hP214 (by omega) (by omega)
  clear ap196 hP214 hW213
  refine lv_aload_n (pc := 90) hx hb dX10_init_90 rfl (lv_at hl 0 rfl) ?_
  refine lv_bipush (pc := 91) (v := (12 : Int32)) hx hb dX10_init_91 (by decide) ?_
  refine rk_newarr (pc := 93) (atype := .long) (h := b0 + 12) (sh := (fun _ _ x y _ => some (.inl (G.2.1 1, 12, .inr (.inl y))))) hx hb hts hK hS210 q273 1 rfl (fun _ h => nomatch h) hz215 rfl rfl (by decide) rfl (Nat.le_of_ble_eq_true rfl) (Nat.le_of_ble_eq_true rfl) (Nat.le_of_ble_eq_true rfl) dX10_init_93 (fun H218 hW219 hS220 hz221 hkp222 => ?_)
  have hW223 := rg_keepN hW209 hz215 hkp222
  have hP224 := PP.keepN hP217 hz215 hkp222
  have ap225 := PP.ap (q := (b0 + 12)) hP224 (by omega)
  have hz226 : H218.size = b0 + 13 := by omega
  clear hW209 hP217 hS210 hz215 hz221 hkp222
  refine rk_putF (pc := 95) (q := b0) hx hb hts hown hK hW223 hS220 flX10_46 ft_X10 0 (by decide) rfl (Or.inl (show iv _ _ _ from ⟨by omega, by omega⟩)) rfl rfl hin rfl (x := va_rf (some (b0 + 12))) (rf_nar _ rfl (some (b0 + 12))) (rf_fit _ rfl (some (b0 + 12))) (Nat.le_of_ble_eq_true rfl) (sR (vo_X10_init_212 b0) 0 11 (some (b0 + 12))) sR_ne (by rw [sR_eq]; rfl) dX10_init_95 (fun H227 locs228 hW229 hS230 hz231 hkp232 => ?_)
  have hW229 : rg G b0 1 shO_X10 (vo_X10_init_232 b0) H227 := hW229
  have hW233 := rg_keepq hW219 hkp232 (by omega)
  have hP234 := PP.keepq hP224 hkp232 ap216
  have hz235 := hz231.trans hz226
  clear hW223 hW219 hP224 hz226 hz231 hS220 hkp232
  have ap236 := Ap.cons (x := ((b0 + 12), 1, (fun _ _ x y _ => some (.inl (G.2.1 1, 12, .inr (.inl y)))), mz)) (Or.inl (show b0 < (b0 + 12) by omega)) ap216
  have hP237 := PP.cons (hi' := b0 + 13) hW233 hP234 (by omega) (by omega)
  clear ap216 hP234 hW233
  have hA0 : rg G b0 1 (shX10 G.2.1) (mz) H227 := rg_cast hW229 rfl
  have hA238 : rg G b0 2 (shX10 G.2.1) (vf_X10_init_1 b0) H227 := rg_app (k := 1) (n' := 1) hA0 (PP.at hP237 11 rfl) rfl (fun o ho x y z => by have h0 : o = 0 := (by omega); subst h0; rfl)
  have hA239 : rg G b0 3 (shX10 G.2.1) (vf_X10_init_2 b0) H227 := rg_app (k := 2) (n' := 1) hA238 (PP.at hP237 10 rfl) rfl (fun o ho x y z => by have h0 : o = 0 := (by omega); subst h0; rfl)
  have hA240 : rg G b0 4 (shX10 G.2.1) (vf_X10_init_3 b0) H227 := rg_app (k := 3) (n' := 1) hA239 (PP.at hP237 9 rfl) rfl (fun o ho x y z => by have h0 : o = 0 := (by omega); subst h0; rfl)
  have hA241 : rg G b0 5 (shX10 G.2.1) (vf_X10_init_4 b0) H227 := rg_app (k := 4) (n' := 1) hA240 (PP.at hP237 8 rfl) rfl (fun o ho x y z => by have h0 : o = 0 := (by omega); subst h0; rfl)
  have hA242 : rg G b0 6 (shX10 G.2.1) (vf_X10_init_5 b0) H227 := rg_app (k := 5) (n' := 1) hA241 (PP.at hP237 7 rfl) rfl (fun o ho x y z => by have h0 : o = 0 := (by omega); subst h0; rfl)
  have hA243 : rg G b0 7 (shX10 G.2.1) (vf_X10_init_6 b0) H227 := rg_app (k := 6) (n' := 1) hA242 (PP.at hP237 6 rfl) rfl (fun o ho x y z => by have h0 : o = 0 := (by omega); subst h0; rfl)
  have hA244 : rg G b0 8 (shX10 G.2.1) (vf_X10_init_7 b0) H227 := rg_app (k := 7) (n' := 1) hA243 (PP.at hP237 5 rfl) rfl (fun o ho x y z => by have h0 : o = 0 := (by omega); subst h0; rfl)
  have hA245 : rg G b0 9 (shX10 G.2.1) (vf_X10_init_8 b0) H227 := rg_app (k := 8) (n' := 1) hA244 (PP.at hP237 4 rfl) rfl (fun o ho x y z => by have h0 : o = 0 := (by omega); subst h0; rfl)
  have hA246 : rg G b0 10 (shX10 G.2.1) (vf_X10_init_9 b0) H227 := rg_app (k := 9) (n' := 1) hA245 (PP.at hP237 3 rfl) rfl (fun o ho x y z => by have h0 : o = 0 := (by omega); subst h0; rfl)
  have hA247 : rg G b0 11 (shX10 G.2.1) (vf_X10_init_10 b0) H227 := rg_app (k := 10) (n' := 1) hA246 (PP.at hP237 2 rfl) rfl (fun o ho x y z => by have h0 : o = 0 := (by omega); subst h0; rfl)
  have hA248 : rg G b0 12 (shX10 G.2.1) (vf_X10_init_11 b0) H227 := rg_app (k := 11) (n' := 1) hA247 (PP.at hP237 1 rfl) rfl (fun o ho x y z => by have h0 : o = 0 := (by omega); subst h0; rfl)
  have hA249 : rg G b0 13 (shX10 G.2.1) (vf_X10_init_12 b0) H227 := rg_app (k := 12) (n' := 1) hA248 (PP.at hP237 0 rfl) rfl (fun o ho x y z => by have h0 : o = 0 := (by omega); subst h0; rfl)
  exact rk_vretA (pc := 98) hx hb hr hlk hS230 ⟨rfl, hA249, hz235⟩ dX10_init_98 (Nat.le_of_ble_eq_true rfl) (Nat.le_of_ble_eq_true rfl)
def shO_X11 : Shp := fun _ _ x y z => some (.inr (11, [va_rf (z 0), .int (x 1), .int (x 2), va_rf (z 3)]))
theorem df_X11 (fs : List Value) (h : fs = [.null, .int 0, .int 0, .null]) : ∀ j, j < 4 → defaultValue (tyX11 j) = vp_V fs j := by
  subst h
  intro j hj
  match j, hj with
  | 0, _ => rfl
  | 1, _ => rfl
  | 2, _ => rfl
  | 3, _ => rfl
  | n + 4, h => exact absurd h (by omega)
theorem lkX11_21 : LIN RX11 21 yX2_init "WholePacks" cX2_init 1 := ⟨q642, q171, q116, q172, rfl⟩
def vo_X11_init_6 (b0 : Nat) (b1 : Nat) : Mem := sR mz 0 3 (some b1)
def vo_X11_init_20 (b0 : Nat) (b1 : Nat) : Mem := sR (vo_X11_init_6 b0 b1) 0 0 (some (b0 + 1))
def vq_X11_init_49 (b0 : Nat) (b1 : Nat) : Mem := sR mz 0 (0 : Int32).toNatClampNeg (some (b0 + 2))
def vq_X11_init_82 (b0 : Nat) (b1 : Nat) : Mem := sR (vq_X11_init_49 b0 b1) 0 (1 : Int32).toNatClampNeg (some (b0 + 4))
def vq_X11_init_115 (b0 : Nat) (b1 : Nat) : Mem := sR (vq_X11_init_82 b0 b1) 0 (2 : Int32).toNatClampNeg (some (b0 + 6))
def vq_X11_init_148 (b0 : Nat) (b1 : Nat) : Mem := sR (vq_X11_init_115 b0 b1) 0 (3 : Int32).toNatClampNeg (some (b0 + 8))
def vf_X11_init_1 (b0 : Nat) (b1 : Nat) : Mem := ptm (mz) 1 1 mz
def vf_X11_init_2 (b0 : Nat) (b1 : Nat) : Mem := ptm (vf_X11_init_1 b0 b1) 2 2 ((vc_X2 (b0 + 2)))
def vf_X11_init_4 (b0 : Nat) (b1 : Nat) : Mem := ptm (vf_X11_init_2 b0 b1) 4 2 ((vc_X2 (b0 + 4)))
def vf_X11_init_6 (b0 : Nat) (b1 : Nat) : Mem := ptm (vf_X11_init_4 b0 b1) 6 2 ((vc_X2 (b0 + 6)))
def vf_X11_init_8 (b0 : Nat) (b1 : Nat) : Mem := ptm (vf_X11_init_6 b0 b1) 8 2 ((vc_X2 (b0 + 8)))
def vc_X11 (b0 : Nat) (b1 : Nat) : Mem := (vf_X11_init_8 b0 b1)
set_option maxHeartbeats 4000000 in
theorem ct_X11_init {G : Gv} {l : Launch} {b0 : Nat} {b1 : Nat} {sz : Nat} (hsz : sz = b0 + 1) : CT G l yX11_init (ws_ yX11_init cX11_init 3 none) 2 9 36 52 [.ref b0, .ref b1] (iv b0 1) sz (fun H => rg G b0 1 shO_X11 mz H) (fun ov H => ov = none ∧ rg G b0 10 (shX11 b1 G.2.1) (vc_X11 b0 b1) H ∧ H.size = b0 + 10) := by
  refine Met.ofW (cc := cX11_init) (maxL := 3) (ret := none) (by decide +kernel) rfl ?_
  intro p e s m args below meth c s₁ B hml hv
  obtain ⟨rfl, ⟨hz, hW0⟩, hK⟩ := hv
  subst hz
  have hz : s.heap.size = b0 + 1 := hsz
  have hin : meth.name = "<init>" := (name_of_methodNamed B.named B.method).1
  have hts := atoms_spec (ws := ws_ yX11_init cX11_init 3 none) B.pre
  have hts : ∀ w ∈ lw_all, w.before _ s = true := fun w h => hts w (List.mem_cons_of_mem _ h)
  have C : Cx G p s m _ meth c RX11 cX11_init 3 none := ⟨B.exec, B.bytes, B.returns, B.notSynchronized, hml, findClass_of_methodNamed B.named, hts, hK⟩
  obtain ⟨hx, hb, hr, hlk, hml, hown, hts, hK⟩ := id C
  have hl := lv_entry ([.ref b0, .ref b1]) (n := 3) (Nat.le_of_ble_eq_true rfl)
  rw [lg_entry_eq]
  generalize (lg_sl ([.ref b0, .ref b1]) ++ List.replicate (3 - (lg_sl ([.ref b0, .ref b1])).length) Slot.unset).toArray = ls at hl ⊢
  have hl : lv_has ls 3 [(0, .ref b0), (1, .ref b1)] := hl
  have hS0 : va_S (FA (iv b0 1) s.heap.size) s.heap s.heap [] := va_S.rf
  refine lv_aload_n (pc := 0) hx hb dX11_init_0 rfl (lv_at hl 0 rfl) ?_
  refine lv_aload_n (pc := 1) hx hb dX11_init_1 rfl (lv_at hl 1 rfl) ?_
  refine rk_putF (pc := 2) (q := b0) hx hb hts hown hK hW0 hS0 flX11_3 ft_X11 0 (by decide) rfl (Or.inl (show iv _ _ _ from ⟨by omega, by omega⟩)) rfl rfl hin rfl (x := va_rf (some b1)) (rf_nar _ rfl (some b1)) (rf_fit _ rfl (some b1)) (Nat.le_of_ble_eq_true rfl) (sR mz 0 3 (some b1)) sR_ne (by rw [sR_eq]; rfl) dX11_init_2 (fun H1 locs2 hW3 hS4 hz5 hkp6 => ?_)
  have hW3 : rg G b0 1 shO_X11 (vo_X11_init_6 b0 b1) H1 := hW3
  have hz7 := hz5.trans hz
  clear hW0 hz hz5 hS0 hkp6
  refine lv_aload_n (pc := 5) hx hb dX11_init_5 rfl (lv_at hl 0 rfl) ?_
  refine W.objInit hx hb hown (hts _ q640) (hts _ q159) (hts _ q160) rfl (by rw [hml]; exact hl.1) rfl dX11_init_6 (Nat.le_of_ble_eq_true rfl) (Nat.le_of_ble_eq_true rfl) ?_
  refine W.eq (g2 := F0 m 9 ls []) rfl ?_
  refine lv_aload_n (pc := 9) hx hb dX11_init_9 rfl (lv_at hl 0 rfl) ?_
  refine lv_iconst (pc := 10) (v := (4 : Int32)) hx hb dX11_init_10 (by decide) ?_
  refine rk_anew (pc := 11) (h := b0 + 1) (C := "WholePacks$Rule") (sh := (fun _ _ _ _ z => some (.inl (G.2.1 5, 4, .inr (.inr (.inr (.inr z))))))) hx hb hts hown hK hS4 q641 q168 5 rfl hz7 rfl (by decide) rfl (Nat.le_of_ble_eq_true rfl) (Nat.le_of_ble_eq_true rfl) (Nat.le_of_ble_eq_true rfl) dX11_init_11 (fun H8 hW9 hS10 hz11 hkp12 => ?_)
  have hW13 := rg_keepN hW3 hz7 hkp12
  have hz14 : H8.size = b0 + 2 := by omega
  clear hW3 hS4 hz7 hz11 hkp12
  refine rk_putF (pc := 14) (q := b0) hx hb hts hown hK hW13 hS10 flX11_17 ft_X11 0 (by decide) rfl (Or.inl (show iv _ _ _ from ⟨by omega, by omega⟩)) rfl rfl hin rfl (x := va_rf (some (b0 + 1))) (rf_nar _ rfl (some (b0 + 1))) (rf_fit _ rfl (some (b0 + 1))) (Nat.le_of_ble_eq_true rfl) (sR (vo_X11_init_6 b0 b1) 0 0 (some (b0 + 1))) sR_ne (by rw [sR_eq]; rfl) dX11_init_14 (fun H15 locs16 hW17 hS18 hz19 hkp20 => ?_)
  have hW17 : rg G b0 1 shO_X11 (vo_X11_init_20 b0 b1) H15 := hW17
  have hW21 := rg_keepq hW9 hkp20 (by omega)
  have hz22 := hz19.trans hz14
  clear hW13 hW9 hz14 hz19 hS10 hkp20
  refine lv_iconst (pc := 17) (v := (0 : Int32)) hx hb dX11_init_17 (by decide) ?_
  refine lv_istore_n (pc := 18) (lv' := [(2, .int (0 : Int32)), (0, .ref b0), (1, .ref b1)]) hx hb dX11_init_18 rfl hl (by decide) rfl (fun ls hl => ?_)
  refine lv_iload_n (pc := 19) hx hb dX11_init_19 rfl (lv_at hl 0 rfl) ?_
  refine lv_iconst (pc := 20) (v := (4 : Int32)) hx hb dX11_init_20 (by decide) ?_
  refine lv_icmp_ge (pc := 21) (tgt := 43) hx hb dX11_init_21 (by decide) (fun h => absurd h (by decide)) (fun _ => ?_)
  refine lv_aload_n (pc := 24) hx hb dX11_init_24 rfl (lv_at hl 1 rfl) ?_
  refine rk_get (pc := 25) hx hb hts hown hK hW17 flX11_17 0 (by decide) rfl rfl (x := .ref (b0 + 1)) rfl dX11_init_25 ?_
  refine lv_iload_n (pc := 28) hx hb dX11_init_28 rfl (lv_at hl 0 rfl) ?_
  refine rk_new (pc := 29) (h := b0 + 2) (sh := (shO_X2)) hx hb hts hown hK hS18 in_X2 ft_X2 rfl q641 q169 q116 hz22 rfl (df_X2 _ rfl) (Nat.le_of_ble_eq_true rfl) (Nat.le_of_ble_eq_true rfl) dX11_init_29 (fun H23 hW24 hS25 hz26 hkp27 => ?_)
  have hW28 := rg_keepN hW17 hz22 hkp27
  have hW29 := rg_keepN hW21 hz22 hkp27
  have hz30 : H23.size = b0 + 3 := by omega
  clear hW17 hW21 hS18 hz22 hz26 hkp27
  refine lv_dup (pc := 32) hx hb dX11_init_32 rfl ?_
  refine rk_TIN (pc := 33) (As := []) (rest := [.ref (b0 + 2), .int (0 : Int32), .ref (b0 + 1)]) (mc := 1) (ms := 5) hx hb hml hown hts hK hS25 (fun q hq => FA_sz rfl q hq) lkX11_21 yn_X2_init (ct_X2_init (G := G) (l := l) (b0 := (b0 + 2)) (sz := H23.size) (by omega)) ⟨Nat.le_of_ble_eq_true rfl, Nat.le_of_ble_eq_true rfl⟩ (fun z h => Or.inr (by have h8 := h.1; omega)) hW24 rfl rfl hl.1 (Nat.le_of_ble_eq_true rfl) dX11_init_33 ⟨Nat.le_of_ble_eq_true rfl, Nat.le_of_ble_eq_true rfl⟩ (fun ov9 H31 locs32 hP33 hkp34 hS35 => ?_)
  obtain ⟨rfl, hW36, hz37⟩ := hP33
  have hW38 := rg_keepA hW28 hkp34 (by intro z h1 h2 h3; have h8 := h3.1; have h9 := h3.2; omega)
  have hW39 := rg_keepA hW29 hkp34 (by intro z h1 h2 h3; have h8 := h3.1; have h9 := h3.2; omega)
  have hz40 : H31.size = b0 + 4 := by omega
  have ap41 := Ap.cons (x := ((b0 + 2), 2, (shX2 G.2.1), (vc_X2 (b0 + 2)))) (Or.inl (show b0 < (b0 + 2) by omega)) (Ap.nil (q := b0))
  have ap42 := Ap.cons (x := ((b0 + 2), 2, (shX2 G.2.1), (vc_X2 (b0 + 2)))) (Or.inl (show (b0 + 1) < (b0 + 2) by omega)) (Ap.nil (q := (b0 + 1)))
  have hP43 := PP.cons (hi' := b0 + 4) hW36 (PP.nil (hi := b0)) (by omega) (by omega)
  clear hW28 hW29 hz30 hz37 hkp34 hS25 hW24 hW36
  refine W.eq (g2 := F0 m 36 ls [.ref (b0 + 2), .int (0 : Int32), .ref (b0 + 1)]) rfl ?_
  refine rk_aastC (pc := 36) hx hb hK hW39 hS35 0 5 (by decide) rfl (Or.inr (by omega)) (fun _ _ _ => rfl) rfl rfl (rk_recv (ci := 2) (C := RX2) (T := TX2) (N := 3) hK (PP.at hP43 0 rfl) 0 (by decide) rfl rfl rfl) dX11_init_36 (fun H44 locs45 hW46 hS47 hz48 hkp49 => ?_)
  have hW46 : rg G (b0 + 1) 1 (fun _ _ _ _ z => some (.inl (G.2.1 5, 4, .inr (.inr (.inr (.inr z)))))) (vq_X11_init_49 b0 b1) H44 := hW46
  have hW50 := rg_keepq hW38 hkp49 (by omega)
  have hP51 := PP.keepq hP43 hkp49 ap42
  have hz52 := hz48.trans hz40
  clear hW39 hW38 hP43 hz40 hz48 hS35 hkp49
  refine lv_iinc (pc := 37) (v := (1 : Int32)) (lv' := [(2, .int (1 : Int32)), (0, .ref b0), (1, .ref b1)]) hx hb dX11_init_37 hl (k := 0) rfl (by decide) (by decide) rfl (fun ls hl => ?_)
  refine lv_goto (pc := 40) (tgt := 19) hx hb dX11_init_40 (by decide) ?_
  refine lv_iload_n (pc := 19) hx hb dX11_init_19 rfl (lv_at hl 0 rfl) ?_
  refine lv_iconst (pc := 20) (v := (4 : Int32)) hx hb dX11_init_20 (by decide) ?_
  refine lv_icmp_ge (pc := 21) (tgt := 43) hx hb dX11_init_21 (by decide) (fun h => absurd h (by decide)) (fun _ => ?_)
  refine lv_aload_n (pc := 24) hx hb dX11_init_24 rfl (lv_at hl 1 rfl) ?_
  refine rk_get (pc := 25) hx hb hts hown hK hW50 flX11_17 0 (by decide) rfl rfl (x := .ref (b0 + 1)) rfl dX11_init_25 ?_
  refine lv_iload_n (pc := 28) hx hb dX11_init_28 rfl (lv_at hl 0 rfl) ?_
  refine rk_new (pc := 29) (h := b0 + 4) (sh := (shO_X2)) hx hb hts hown hK hS47 in_X2 ft_X2 rfl q641 q169 q116 hz52 rfl (df_X2 _ rfl) (Nat.le_of_ble_eq_true rfl) (Nat.le_of_ble_eq_true rfl) dX11_init_29 (fun H53 hW54 hS55 hz56 hkp57 => ?_)
  have hW58 := rg_keepN hW50 hz52 hkp57
  have hW59 := rg_keepN hW46 hz52 hkp57
  have hP60 := PP.keepN hP51 hz52 hkp57
  have ap61 := PP.ap (q := (b0 + 4)) hP60 (by omega)
  have hz62 : H53.size = b0 + 5 := by omega
  clear hW50 hW46 hP51 hS47 hz52 hz56 hkp57
  refine lv_dup (pc := 32) hx hb dX11_init_32 rfl ?_
  refine rk_TIN (pc := 33) (As := []) (rest := [.ref (b0 + 4), .int (1 : Int32), .ref (b0 + 1)]) (mc := 1) (ms := 5) hx hb hml hown hts hK hS55 (fun q hq => FA_sz rfl q hq) lkX11_21 yn_X2_init (ct_X2_init (G := G) (l := l) (b0 := (b0 + 4)) (sz := H53.size) (by omega)) ⟨Nat.le_of_ble_eq_true rfl, Nat.le_of_ble_eq_true rfl⟩ (fun z h => Or.inr (by have h8 := h.1; omega)) hW54 rfl rfl hl.1 (Nat.le_of_ble_eq_true rfl) dX11_init_33 ⟨Nat.le_of_ble_eq_true rfl, Nat.le_of_ble_eq_true rfl⟩ (fun ov9 H63 locs64 hP65 hkp66 hS67 => ?_)
  obtain ⟨rfl, hW68, hz69⟩ := hP65
  have hW70 := rg_keepA hW58 hkp66 (by intro z h1 h2 h3; have h8 := h3.1; have h9 := h3.2; omega)
  have hW71 := rg_keepA hW59 hkp66 (by intro z h1 h2 h3; have h8 := h3.1; have h9 := h3.2; omega)
  have hP72 := PP.keepA hP60 hkp66 (by omega)
  have hz73 : H63.size = b0 + 6 := by omega
  have ap74 := Ap.cons (x := ((b0 + 4), 2, (shX2 G.2.1), (vc_X2 (b0 + 4)))) (Or.inl (show b0 < (b0 + 4) by omega)) ap41
  have ap75 := Ap.cons (x := ((b0 + 4), 2, (shX2 G.2.1), (vc_X2 (b0 + 4)))) (Or.inl (show (b0 + 1) < (b0 + 4) by omega)) ap42
  have hP76 := PP.cons (hi' := b0 + 6) hW68 hP72 (by omega) (by omega)
  clear hW58 hW59 hP60 hz62 hz69 hkp66 hS55 hW54 ap61 ap41 ap42 hP72 hW68
  refine W.eq (g2 := F0 m 36 ls [.ref (b0 + 4), .int (1 : Int32), .ref (b0 + 1)]) rfl ?_
  refine rk_aastC (pc := 36) hx hb hK hW71 hS67 0 5 (by decide) rfl (Or.inr (by omega)) (fun _ _ _ => rfl) rfl rfl (rk_recv (ci := 2) (C := RX2) (T := TX2) (N := 3) hK (PP.at hP76 0 rfl) 0 (by decide) rfl rfl rfl) dX11_init_36 (fun H77 locs78 hW79 hS80 hz81 hkp82 => ?_)
  have hW79 : rg G (b0 + 1) 1 (fun _ _ _ _ z => some (.inl (G.2.1 5, 4, .inr (.inr (.inr (.inr z)))))) (vq_X11_init_82 b0 b1) H77 := hW79
  have hW83 := rg_keepq hW70 hkp82 (by omega)
  have hP84 := PP.keepq hP76 hkp82 ap75
  have hz85 := hz81.trans hz73
  clear hW71 hW70 hP76 hz73 hz81 hS67 hkp82
  refine lv_iinc (pc := 37) (v := (2 : Int32)) (lv' := [(2, .int (2 : Int32)), (0, .ref b0), (1, .ref b1)]) hx hb dX11_init_37 hl (k := 0) rfl (by decide) (by decide) rfl (fun ls hl => ?_)
  refine lv_goto (pc := 40) (tgt := 19) hx hb dX11_init_40 (by decide) ?_
  refine lv_iload_n (pc := 19) hx hb dX11_init_19 rfl (lv_at hl 0 rfl) ?_
  refine lv_iconst (pc := 20) (v := (4 : Int32)) hx hb dX11_init_20 (by decide) ?_
  refine lv_icmp_ge (pc := 21) (tgt := 43) hx hb dX11_init_21 (by decide) (fun h => absurd h (by decide)) (fun _ => ?_)
  refine lv_aload_n (pc := 24) hx hb dX11_init_24 rfl (lv_at hl 1 rfl) ?_
  refine rk_get (pc := 25) hx hb hts hown hK hW83 flX11_17 0 (by decide) rfl rfl (x := .ref (b0 + 1)) rfl dX11_init_25 ?_
  refine lv_iload_n (pc := 28) hx hb dX11_init_28 rfl (lv_at hl 0 rfl) ?_
  refine rk_new (pc := 29) (h := b0 + 6) (sh := (shO_X2)) hx hb hts hown hK hS80 in_X2 ft_X2 rfl q641 q169 q116 hz85 rfl (df_X2 _ rfl) (Nat.le_of_ble_eq_true rfl) (Nat.le_of_ble_eq_true rfl) dX11_init_29 (fun H86 hW87 hS88 hz89 hkp90 => ?_)
  have hW91 := rg_keepN hW83 hz85 hkp90
  have hW92 := rg_keepN hW79 hz85 hkp90
  have hP93 := PP.keepN hP84 hz85 hkp90
  have ap94 := PP.ap (q := (b0 + 6)) hP93 (by omega)
  have hz95 : H86.size = b0 + 7 := by omega
  clear hW83 hW79 hP84 hS80 hz85 hz89 hkp90
  refine lv_dup (pc := 32) hx hb dX11_init_32 rfl ?_
  refine rk_TIN (pc := 33) (As := []) (rest := [.ref (b0 + 6), .int (2 : Int32), .ref (b0 + 1)]) (mc := 1) (ms := 5) hx hb hml hown hts hK hS88 (fun q hq => FA_sz rfl q hq) lkX11_21 yn_X2_init (ct_X2_init (G := G) (l := l) (b0 := (b0 + 6)) (sz := H86.size) (by omega)) ⟨Nat.le_of_ble_eq_true rfl, Nat.le_of_ble_eq_true rfl⟩ (fun z h => Or.inr (by have h8 := h.1; omega)) hW87 rfl rfl hl.1 (Nat.le_of_ble_eq_true rfl) dX11_init_33 ⟨Nat.le_of_ble_eq_true rfl, Nat.le_of_ble_eq_true rfl⟩ (fun ov9 H96 locs97 hP98 hkp99 hS100 => ?_)
  obtain ⟨rfl, hW101, hz102⟩ := hP98
  have hW103 := rg_keepA hW91 hkp99 (by intro z h1 h2 h3; have h8 := h3.1; have h9 := h3.2; omega)
  have hW104 := rg_keepA hW92 hkp99 (by intro z h1 h2 h3; have h8 := h3.1; have h9 := h3.2; omega)
  have hP105 := PP.keepA hP93 hkp99 (by omega)
  have hz106 : H96.size = b0 + 8 := by omega
  have ap107 := Ap.cons (x := ((b0 + 6), 2, (shX2 G.2.1), (vc_X2 (b0 + 6)))) (Or.inl (show b0 < (b0 + 6) by omega)) ap74
  have ap108 := Ap.cons (x := ((b0 + 6), 2, (shX2 G.2.1), (vc_X2 (b0 + 6)))) (Or.inl (show (b0 + 1) < (b0 + 6) by omega)) ap75
  have hP109 := PP.cons (hi' := b0 + 8) hW101 hP105 (by omega) (by omega)
  clear hW91 hW92 hP93 hz95 hz102 hkp99 hS88 hW87 ap94 ap74 ap75 hP105 hW101
  refine W.eq (g2 := F0 m 36 ls [.ref (b0 + 6), .int (2 : Int32), .ref (b0 + 1)]) rfl ?_
  refine rk_aastC (pc := 36) hx hb hK hW104 hS100 0 5 (by decide) rfl (Or.inr (by omega)) (fun _ _ _ => rfl) rfl rfl (rk_recv (ci := 2) (C := RX2) (T := TX2) (N := 3) hK (PP.at hP109 0 rfl) 0 (by decide) rfl rfl rfl) dX11_init_36 (fun H110 locs111 hW112 hS113 hz114 hkp115 => ?_)
  have hW112 : rg G (b0 + 1) 1 (fun _ _ _ _ z => some (.inl (G.2.1 5, 4, .inr (.inr (.inr (.inr z)))))) (vq_X11_init_115 b0 b1) H110 := hW112
  have hW116 := rg_keepq hW103 hkp115 (by omega)
  have hP117 := PP.keepq hP109 hkp115 ap108
  have hz118 := hz114.trans hz106
  clear hW104 hW103 hP109 hz106 hz114 hS100 hkp115
  refine lv_iinc (pc := 37) (v := (3 : Int32)) (lv' := [(2, .int (3 : Int32)), (0, .ref b0), (1, .ref b1)]) hx hb dX11_init_37 hl (k := 0) rfl (by decide) (by decide) rfl (fun ls hl => ?_)
  refine lv_goto (pc := 40) (tgt := 19) hx hb dX11_init_40 (by decide) ?_
  refine lv_iload_n (pc := 19) hx hb dX11_init_19 rfl (lv_at hl 0 rfl) ?_
  refine lv_iconst (pc := 20) (v := (4 : Int32)) hx hb dX11_init_20 (by decide) ?_
  refine lv_icmp_ge (pc := 21) (tgt := 43) hx hb dX11_init_21 (by decide) (fun h => absurd h (by decide)) (fun _ => ?_)
  refine lv_aload_n (pc := 24) hx hb dX11_init_24 rfl (lv_at hl 1 rfl) ?_
  refine rk_get (pc := 25) hx hb hts hown hK hW116 flX11_17 0 (by decide) rfl rfl (x := .ref (b0 + 1)) rfl dX11_init_25 ?_
  refine lv_iload_n (pc := 28) hx hb dX11_init_28 rfl (lv_at hl 0 rfl) ?_
  refine rk_new (pc := 29) (h := b0 + 8) (sh := (shO_X2)) hx hb hts hown hK hS113 in_X2 ft_X2 rfl q641 q169 q116 hz118 rfl (df_X2 _ rfl) (Nat.le_of_ble_eq_true rfl) (Nat.le_of_ble_eq_true rfl) dX11_init_29 (fun H119 hW120 hS121 hz122 hkp123 => ?_)
  have hW124 := rg_keepN hW116 hz118 hkp123
  have hW125 := rg_keepN hW112 hz118 hkp123
  have hP126 := PP.keepN hP117 hz118 hkp123
  have ap127 := PP.ap (q := (b0 + 8)) hP126 (by omega)
  have hz128 : H119.size = b0 + 9 := by omega
  clear hW116 hW112 hP117 hS113 hz118 hz122 hkp123
  refine lv_dup (pc := 32) hx hb dX11_init_32 rfl ?_
  refine rk_TIN (pc := 33) (As := []) (rest := [.ref (b0 + 8), .int (3 : Int32), .ref (b0 + 1)]) (mc := 1) (ms := 5) hx hb hml hown hts hK hS121 (fun q hq => FA_sz rfl q hq) lkX11_21 yn_X2_init (ct_X2_init (G := G) (l := l) (b0 := (b0 + 8)) (sz := H119.size) (by omega)) ⟨Nat.le_of_ble_eq_true rfl, Nat.le_of_ble_eq_true rfl⟩ (fun z h => Or.inr (by have h8 := h.1; omega)) hW120 rfl rfl hl.1 (Nat.le_of_ble_eq_true rfl) dX11_init_33 ⟨Nat.le_of_ble_eq_true rfl, Nat.le_of_ble_eq_true rfl⟩ (fun ov9 H129 locs130 hP131 hkp132 hS133 => ?_)
  obtain ⟨rfl, hW134, hz135⟩ := hP131
  have hW136 := rg_keepA hW124 hkp132 (by intro z h1 h2 h3; have h8 := h3.1; have h9 := h3.2; omega)
  have hW137 := rg_keepA hW125 hkp132 (by intro z h1 h2 h3; have h8 := h3.1; have h9 := h3.2; omega)
  have hP138 := PP.keepA hP126 hkp132 (by omega)
  have hz139 : H129.size = b0 + 10 := by omega
  have ap140 := Ap.cons (x := ((b0 + 8), 2, (shX2 G.2.1), (vc_X2 (b0 + 8)))) (Or.inl (show b0 < (b0 + 8) by omega)) ap107
  have ap141 := Ap.cons (x := ((b0 + 8), 2, (shX2 G.2.1), (vc_X2 (b0 + 8)))) (Or.inl (show (b0 + 1) < (b0 + 8) by omega)) ap108
  have hP142 := PP.cons (hi' := b0 + 10) hW134 hP138 (by omega) (by omega)
  clear hW124 hW125 hP126 hz128 hz135 hkp132 hS121 hW120 ap127 ap107 ap108 hP138 hW134
  refine W.eq (g2 := F0 m 36 ls [.ref (b0 + 8), .int (3 : Int32), .ref (b0 + 1)]) rfl ?_
  refine rk_aastC (pc := 36) hx hb hK hW137 hS133 0 5 (by decide) rfl (Or.inr (by omega)) (fun _ _ _ => rfl) rfl rfl (rk_recv (ci := 2) (C := RX2) (T := TX2) (N := 3) hK (PP.at hP142 0 rfl) 0 (by decide) rfl rfl rfl) dX11_init_36 (fun H143 locs144 hW145 hS146 hz147 hkp148 => ?_)
  have hW145 : rg G (b0 + 1) 1 (fun _ _ _ _ z => some (.inl (G.2.1 5, 4, .inr (.inr (.inr (.inr z)))))) (vq_X11_init_148 b0 b1) H143 := hW145
  have hW149 := rg_keepq hW136 hkp148 (by omega)
  have hP150 := PP.keepq hP142 hkp148 ap141
  have hz151 := hz147.trans hz139
  clear hW137 hW136 hP142 hz139 hz147 hS133 hkp148
  refine lv_iinc (pc := 37) (v := (4 : Int32)) (lv' := [(2, .int (4 : Int32)), (0, .ref b0), (1, .ref b1)]) hx hb dX11_init_37 hl (k := 0) rfl (by decide) (by decide) rfl (fun ls hl => ?_)
  refine lv_goto (pc := 40) (tgt := 19) hx hb dX11_init_40 (by decide) ?_
  refine lv_iload_n (pc := 19) hx hb dX11_init_19 rfl (lv_at hl 0 rfl) ?_
  refine lv_iconst (pc := 20) (v := (4 : Int32)) hx hb dX11_init_20 (by decide) ?_
  refine lv_icmp_ge (pc := 21) (tgt := 43) hx hb dX11_init_21 (by decide) (fun _ => ?_) (fun h => absurd (by decide) h)
  have hA0 : rg G b0 1 (shX11 b1 G.2.1) (mz) H143 := rg_cast hW149 rfl
  have hC153 : rg G (b0 + 1) 1 (fun _ _ _ _ _ => some (.inl (G.2.1 5, 4, .inr (.inr (.inr (.inr (fun j => some (b0 + (2 + 2 * j))))))))) mz H143 := rg_castr hW145 rfl rfl (fun j hj => match j, hj with | 0, _ => rfl | 1, _ => rfl | 2, _ => rfl | 3, _ => rfl | n + 4, h => absurd h (by omega))
  have hA152 : rg G b0 2 (shX11 b1 G.2.1) (vf_X11_init_1 b0 b1) H143 := rg_app (k := 1) (n' := 1) hA0 hC153 rfl (fun o ho x y z => by have h0 : o = 0 := (by omega); subst h0; rfl)
  have hA154 : rg G b0 4 (shX11 b1 G.2.1) (vf_X11_init_2 b0 b1) H143 := rg_app (k := 2) (n' := 2) hA152 (PP.at hP150 3 rfl) rfl (fun o ho x y z => shX11_f2 G.2.1 (k := 0) (by decide) _ rfl o ho x y z)
  have hA155 : rg G b0 6 (shX11 b1 G.2.1) (vf_X11_init_4 b0 b1) H143 := rg_app (k := 4) (n' := 2) hA154 (PP.at hP150 2 rfl) rfl (fun o ho x y z => shX11_f2 G.2.1 (k := 1) (by decide) _ rfl o ho x y z)
  have hA156 : rg G b0 8 (shX11 b1 G.2.1) (vf_X11_init_6 b0 b1) H143 := rg_app (k := 6) (n' := 2) hA155 (PP.at hP150 1 rfl) rfl (fun o ho x y z => shX11_f2 G.2.1 (k := 2) (by decide) _ rfl o ho x y z)
  have hA157 : rg G b0 10 (shX11 b1 G.2.1) (vf_X11_init_8 b0 b1) H143 := rg_app (k := 8) (n' := 2) hA156 (PP.at hP150 0 rfl) rfl (fun o ho x y z => shX11_f2 G.2.1 (k := 3) (by decide) _ rfl o ho x y z)
  exact rk_vretA (pc := 43) hx hb hr hlk hS146 ⟨rfl, hA157, hz151⟩ dX11_init_43 (Nat.le_of_ble_eq_true rfl) (Nat.le_of_ble_eq_true rfl)
def shO_X9 : Shp := fun _ _ x y z => some (.inr (9, [va_rf (z 0), va_rf (z 1), va_rf (z 2), .int (x 3), va_rf (z 4), va_rf (z 5), .int (x 6), .int (x 7), .int (x 8), va_rf (z 9), va_rf (z 10), va_rf (z 11), va_rf (z 12), va_rf (z 13), va_rf (z 14), va_rf (z 15), va_rf (z 16), va_rf (z 17), va_rf (z 18), va_rf (z 19), va_rf (z 20), .int (x 21), .int (x 22), .int (x 23), .int (x 24), va_rf (z 25), va_rf (z 26), va_rf (z 27), va_rf (z 28)]))
theorem df_X9 (fs : List Value) (h : fs = [.null, .null, .null, .int 0, .null, .null, .int 0, .int 0, .int 0, .null, .null, .null, .null, .null, .null, .null, .null, .null, .null, .null, .null, .int 0, .int 0, .int 0, .int 0, .null, .null, .null, .null]) : ∀ j, j < 29 → defaultValue (tyX9 j) = vp_V fs j := by
  subst h
  intro j hj
  match j, hj with
  | 0, _ => rfl
  | 1, _ => rfl
  | 2, _ => rfl
  | 3, _ => rfl
  | 4, _ => rfl
  | 5, _ => rfl
  | 6, _ => rfl
  | 7, _ => rfl
  | 8, _ => rfl
  | 9, _ => rfl
  | 10, _ => rfl
  | 11, _ => rfl
  | 12, _ => rfl
  | 13, _ => rfl
  | 14, _ => rfl
  | 15, _ => rfl
  | 16, _ => rfl
  | 17, _ => rfl
  | 18, _ => rfl
  | 19, _ => rfl
  | 20, _ => rfl
  | 21, _ => rfl
  | 22, _ => rfl
  | 23, _ => rfl
  | 24, _ => rfl
  | 25, _ => rfl
  | 26, _ => rfl
  | 27, _ => rfl
  | 28, _ => rfl
  | n + 29, h => exact absurd h (by omega)
theorem lkX9_29 : LIN RX9 29 yX10_init "WholePacksModel" cX10_init 1 := ⟨q1747, q1748, q129, q1749, rfl⟩
theorem yn_X10_init : YN yX10_init 0 := by
  unfold YN
  decide +kernel
noncomputable def fX9_init_b_198 (k198 : Mem → Nat → Int32 → Option (Nat × Mem)) (v0 : Mem) (zc : Nat) (i1 : Int32) : Option (Nat × Mem) :=
  if (6 : Int32) ≤ i1 then (
  some (zc, v0))
  else (
  gb (inR i1 6) (
  lm (sI v0 42 i1.toNatClampNeg (-1 : Int32)) fun v0_22 =>
  k198 v0_22 zc (i1 + (1 : Int32))))
noncomputable def fX9_init_b (v0 : Mem) : Option (Nat × Mem) :=
  gb (inR (3 : Int32) 150) (
  lm (sI v0 1 (3 : Int32).toNatClampNeg (4 : Int32)) fun v0_2 =>
  ob (fX9_begins v0_2 (2 : Int32)) fun w10 =>
  lq3 (fX9_init_b_198) FU w10 45 (0 : Int32))
set_option maxHeartbeats 4000000 in
theorem w_fX9_init_b_198 (C : Cx G p s m args meth c RX9 cX9_init 2 none) {b0 : Nat} {rc : Nat} {rw0 : Mem} (hin : meth.name = "<init>") {k198 : Mem → Nat → Int32 → Option (Nat × Mem)} (hk198 : ∀ (v0 : Mem) (zc : Nat) (i1 : Int32), k198 v0 zc i1 = some (rc, rw0) → ∀ (H : Heap) (locs : List Loc) (ls : Array Slot), rg G b0 46 (shX9 G.2.1) v0 H → va_S (FA (iv b0 46) s.heap.size) s.heap H locs → H.size = s.heap.size + zc → lv_has ls 2 [(0, .ref b0), (1, .int i1)] → W p l e (rmT 2 45 3035 52) s m args below meth c H locs 45 3035 (MQ below (QcT (FA (iv b0 46) s.heap.size) (fun ov H => ov = none ∧ rg G b0 46 (shX9 G.2.1) rw0 H ∧ H.size = s.heap.size + rc)) args s 45 3035 (FA (iv b0 46) s.heap.size)) (F0 m 198 ls [])) : ∀ (v0 : Mem) (zc : Nat) (i1 : Int32), fX9_init_b_198 k198 v0 zc i1 = some (rc, rw0) → ∀ (H : Heap) (locs : List Loc) (ls : Array Slot), rg G b0 46 (shX9 G.2.1) v0 H → va_S (FA (iv b0 46) s.heap.size) s.heap H locs → H.size = s.heap.size + zc → lv_has ls 2 [(0, .ref b0), (1, .int i1)] → W p l e (rmT 2 45 3035 52) s m args below meth c H locs 45 3035 (MQ below (QcT (FA (iv b0 46) s.heap.size) (fun ov H => ov = none ∧ rg G b0 46 (shX9 G.2.1) rw0 H ∧ H.size = s.heap.size + rc)) args s 45 3035 (FA (iv b0 46) s.heap.size)) (F0 m 198 ls []) := by
  intro v0 zc i1 hm H locs ls hW0 hS hz hl
  obtain ⟨hx, hb, hr, hlk, hml, hown, hts, hK⟩ := id C
  unfold fX9_init_b_198 at hm
  refine lv_iload_n (pc := 198) hx hb dX9_init_198 rfl (lv_at hl 1 rfl) ?_
  refine lv_bipush (pc := 199) (v := (6 : Int32)) hx hb dX9_init_199 (by decide) ?_
  refine lv_icmp_ge (pc := 201) (tgt := 217) hx hb dX9_init_201 (by decide) (fun c20 => ?_) (fun c20 => ?_)
  · have hm := ite_t c20 hm
    obtain ⟨e8, e9⟩ := rs2 hm
    subst e8
    subst e9
    exact rk_vretA (pc := 217) hx hb hr hlk hS ⟨rfl, hW0, hz⟩ dX9_init_217 (by exact Nat.le_of_ble_eq_true rfl) (by exact Nat.le_of_ble_eq_true rfl)
  · have hm := ite_f c20 hm
    refine lv_aload_n (pc := 204) hx hb dX9_init_204 rfl (lv_at hl 0 rfl) ?_
    refine rk_get (pc := 205) hx hb hts hown hK hW0 flX9_69 0 (by decide) rfl rfl (x := .ref (b0 + 42)) (by first | rfl | exact congrArg (fun z => some (Value.ref z)) (by omega)) dX9_init_205 ?_
    refine lv_iload_n (pc := 208) hx hb dX9_init_208 rfl (lv_at hl 1 rfl) ?_
    refine lv_iconst (pc := 209) (v := (-1 : Int32)) hx hb dX9_init_209 (by decide) ?_
    obtain ⟨hg21, hm⟩ := gb_some hm
    refine rk_iast (pc := 210) hx hb hK hW0 hS 42 (by decide) rfl (Or.inl (show iv _ _ _ from ⟨by omega, by omega⟩)) (fun _ _ _ => rfl) hg21 dX9_init_210 (fun H23 locs24 hW25 hS26 hz27 hkp28 => ?_)
    obtain ⟨v0_22, he9, hm⟩ := lm_some hm
    rw [he9] at hW25
    have hz29 := hz27.trans hz
    refine lv_iinc (pc := 211) (v := (i1 + (1 : Int32))) (lv' := [(1, .int (i1 + (1 : Int32))), (0, .ref b0)]) hx hb dX9_init_211 hl (k := 1) rfl rfl (by decide) rfl (fun ls hl => ?_)
    refine lv_goto (pc := 214) (tgt := 198) hx hb dX9_init_214 (by decide) ?_
    exact hk198 v0_22 zc (i1 + (1 : Int32)) hm H23 locs24 ls hW25 hS26 hz29 (lv_sub hl [1, 0] rfl)
theorem w_fX9_init_b_198_l (C : Cx G p s m args meth c RX9 cX9_init 2 none) {b0 : Nat} {rc : Nat} {rw0 : Mem} (hin : meth.name = "<init>") : ∀ (n : Nat) (v0 : Mem) (zc : Nat) (i1 : Int32), lq3 (fX9_init_b_198) n v0 zc i1 = some (rc, rw0) → ∀ (H : Heap) (locs : List Loc) (ls : Array Slot), rg G b0 46 (shX9 G.2.1) v0 H → va_S (FA (iv b0 46) s.heap.size) s.heap H locs → H.size = s.heap.size + zc → lv_has ls 2 [(0, .ref b0), (1, .int i1)] → W p l e (rmT 2 45 3035 52) s m args below meth c H locs 45 3035 (MQ below (QcT (FA (iv b0 46) s.heap.size) (fun ov H => ov = none ∧ rg G b0 46 (shX9 G.2.1) rw0 H ∧ H.size = s.heap.size + rc)) args s 45 3035 (FA (iv b0 46) s.heap.size)) (F0 m 198 ls []) := by
  intro n
  induction n with
  | zero => intro v0 zc i1 hm; exact (lq3_0 hm).elim
  | succ n ih => intro v0 zc i1 hm; exact w_fX9_init_b_198 C hin ih v0 zc i1 (lq3_s hm)
set_option maxHeartbeats 4000000 in
theorem w_fX9_init_b (C : Cx G p s m args meth c RX9 cX9_init 2 none) {b0 : Nat} {rc : Nat} {rw0 : Mem} (hin : meth.name = "<init>") : ∀ (v0 : Mem), fX9_init_b v0 = some (rc, rw0) → ∀ (H : Heap) (locs : List Loc) (ls : Array Slot), rg G b0 46 (shX9 G.2.1) v0 H → va_S (FA (iv b0 46) s.heap.size) s.heap H locs → H.size = s.heap.size + 45 → lv_has ls 2 [(0, .ref b0)] → W p l e (rmT 2 45 3035 52) s m args below meth c H locs 45 3035 (MQ below (QcT (FA (iv b0 46) s.heap.size) (fun ov H => ov = none ∧ rg G b0 46 (shX9 G.2.1) rw0 H ∧ H.size = s.heap.size + rc)) args s 45 3035 (FA (iv b0 46) s.heap.size)) (F0 m 184 ls []) := by
  intro v0 hm H locs ls hW0 hS hz hl
  obtain ⟨hx, hb, hr, hlk, hml, hown, hts, hK⟩ := id C
  unfold fX9_init_b at hm
  refine lv_aload_n (pc := 184) hx hb dX9_init_184 rfl (lv_at hl 0 rfl) ?_
  refine rk_get (pc := 185) hx hb hts hown hK hW0 flX9_11 0 (by decide) rfl rfl (x := .ref (b0 + 1)) (by first | rfl | exact congrArg (fun z => some (Value.ref z)) (by omega)) dX9_init_185 ?_
  refine lv_iconst (pc := 188) (v := (3 : Int32)) hx hb dX9_init_188 (by decide) ?_
  refine lv_iconst (pc := 189) (v := (4 : Int32)) hx hb dX9_init_189 (by decide) ?_
  obtain ⟨hg1, hm⟩ := gb_some hm
  refine rk_iast (pc := 190) hx hb hK hW0 hS 1 (by decide) rfl (Or.inl (show iv _ _ _ from ⟨by omega, by omega⟩)) (fun _ _ _ => rfl) hg1 dX9_init_190 (fun H3 locs4 hW5 hS6 hz7 hkp8 => ?_)
  obtain ⟨v0_2, he9, hm⟩ := lm_some hm
  rw [he9] at hW5
  have hz9 := hz7.trans hz
  refine lv_aload_n (pc := 191) hx hb dX9_init_191 rfl (lv_at hl 0 rfl) ?_
  refine lv_iconst (pc := 192) (v := (2 : Int32)) hx hb dX9_init_192 (by decide) ?_
  obtain ⟨w10, hq11, hm⟩ := ob_some hm
  refine rk_TV (pc := 193) (As := [.int (2 : Int32)]) (rest := []) (mc := 0) (ms := 0) hx hb hml hown hts hK hS6 (fun q hq => FA_sz rfl q hq) lkX9_81 rfl yn_X9_begins (ct_X9_begins (G := G) (l := l) (b0 := b0) (sz := H3.size) hq11) ⟨Nat.le_of_ble_eq_true rfl, Nat.le_of_ble_eq_true rfl⟩ (fun z h => Or.inl (show iv _ _ _ from ⟨by have h8 := h.1; have h9 := h.2; omega, by have h8 := h.1; have h9 := h.2; omega⟩)) (rk_recv hK hW5 0 (by decide) rfl rfl rfl) hW5 rfl rfl hl.1 (Nat.le_of_ble_eq_true rfl) dX9_init_193 ⟨Nat.le_of_ble_eq_true rfl, Nat.le_of_ble_eq_true rfl⟩ (fun ov9 H12 locs13 hP14 hkp15 hS16 => ?_)
  obtain ⟨rfl, hW17, hz18⟩ := hP14
  have hz19 := hz18.trans hz9
  refine W.eq (g2 := F0 m 196 ls []) rfl ?_
  refine lv_iconst (pc := 196) (v := (0 : Int32)) hx hb dX9_init_196 (by decide) ?_
  refine lv_istore_n (pc := 197) (lv' := [(1, .int (0 : Int32)), (0, .ref b0)]) hx hb dX9_init_197 rfl hl (by decide) rfl (fun ls hl => ?_)
  exact (w_fX9_init_b_198_l C hin FU) w10 45 (0 : Int32) hm H12 locs13 ls hW17 hS16 hz19 (lv_sub hl [1, 0] rfl)
def vo_X9_init_13 (b0 : Nat) : Mem := sR mz 0 0 (some (b0 + 1))
def vo_X9_init_32 (b0 : Nat) : Mem := sR (vo_X9_init_13 b0) 0 1 (some (b0 + 2))
def vo_X9_init_52 (b0 : Nat) : Mem := sR (vo_X9_init_32 b0) 0 2 (some (b0 + 3))
def vo_X9_init_72 (b0 : Nat) : Mem := sR (vo_X9_init_52 b0) 0 4 (some (b0 + 4))
def vo_X9_init_92 (b0 : Nat) : Mem := sR (vo_X9_init_72 b0) 0 5 (some (b0 + 5))
def vo_X9_init_124 (b0 : Nat) : Mem := sR (vo_X9_init_92 b0) 0 9 (some (b0 + 6))
def vo_X9_init_153 (b0 : Nat) : Mem := sR (vo_X9_init_124 b0) 0 10 (some (b0 + 19))
def vo_X9_init_170 (b0 : Nat) : Mem := sR (vo_X9_init_153 b0) 0 11 (some (b0 + 32))
def vo_X9_init_190 (b0 : Nat) : Mem := sR (vo_X9_init_170 b0) 0 12 (some (b0 + 33))
def vo_X9_init_210 (b0 : Nat) : Mem := sR (vo_X9_init_190 b0) 0 13 (some (b0 + 34))
def vo_X9_init_230 (b0 : Nat) : Mem := sR (vo_X9_init_210 b0) 0 14 (some (b0 + 35))
def vo_X9_init_250 (b0 : Nat) : Mem := sR (vo_X9_init_230 b0) 0 15 (some (b0 + 36))
def vo_X9_init_270 (b0 : Nat) : Mem := sR (vo_X9_init_250 b0) 0 16 (some (b0 + 37))
def vo_X9_init_290 (b0 : Nat) : Mem := sR (vo_X9_init_270 b0) 0 17 (some (b0 + 38))
def vo_X9_init_310 (b0 : Nat) : Mem := sR (vo_X9_init_290 b0) 0 18 (some (b0 + 39))
def vo_X9_init_330 (b0 : Nat) : Mem := sR (vo_X9_init_310 b0) 0 19 (some (b0 + 40))
def vo_X9_init_350 (b0 : Nat) : Mem := sR (vo_X9_init_330 b0) 0 20 (some (b0 + 41))
def vo_X9_init_370 (b0 : Nat) : Mem := sR (vo_X9_init_350 b0) 0 25 (some (b0 + 42))
def vo_X9_init_390 (b0 : Nat) : Mem := sR (vo_X9_init_370 b0) 0 26 (some (b0 + 43))
def vo_X9_init_410 (b0 : Nat) : Mem := sR (vo_X9_init_390 b0) 0 27 (some (b0 + 44))
def vo_X9_init_430 (b0 : Nat) : Mem := sR (vo_X9_init_410 b0) 0 28 (some (b0 + 45))
def vf_X9_init_1 (b0 : Nat) : Mem := ptm (mz) 1 1 mz
def vf_X9_init_2 (b0 : Nat) : Mem := ptm (vf_X9_init_1 b0) 2 1 mz
def vf_X9_init_3 (b0 : Nat) : Mem := ptm (vf_X9_init_2 b0) 3 1 mz
def vf_X9_init_4 (b0 : Nat) : Mem := ptm (vf_X9_init_3 b0) 4 1 mz
def vf_X9_init_5 (b0 : Nat) : Mem := ptm (vf_X9_init_4 b0) 5 1 mz
def vf_X9_init_6 (b0 : Nat) : Mem := ptm (vf_X9_init_5 b0) 6 13 ((vc_X10 (b0 + 6)))
def vf_X9_init_19 (b0 : Nat) : Mem := ptm (vf_X9_init_6 b0) 19 13 ((vc_X10 (b0 + 19)))
def vf_X9_init_32 (b0 : Nat) : Mem := ptm (vf_X9_init_19 b0) 32 1 mz
def vf_X9_init_33 (b0 : Nat) : Mem := ptm (vf_X9_init_32 b0) 33 1 mz
def vf_X9_init_34 (b0 : Nat) : Mem := ptm (vf_X9_init_33 b0) 34 1 mz
def vf_X9_init_35 (b0 : Nat) : Mem := ptm (vf_X9_init_34 b0) 35 1 mz
def vf_X9_init_36 (b0 : Nat) : Mem := ptm (vf_X9_init_35 b0) 36 1 mz
def vf_X9_init_37 (b0 : Nat) : Mem := ptm (vf_X9_init_36 b0) 37 1 mz
def vf_X9_init_38 (b0 : Nat) : Mem := ptm (vf_X9_init_37 b0) 38 1 mz
def vf_X9_init_39 (b0 : Nat) : Mem := ptm (vf_X9_init_38 b0) 39 1 mz
def vf_X9_init_40 (b0 : Nat) : Mem := ptm (vf_X9_init_39 b0) 40 1 mz
def vf_X9_init_41 (b0 : Nat) : Mem := ptm (vf_X9_init_40 b0) 41 1 mz
def vf_X9_init_42 (b0 : Nat) : Mem := ptm (vf_X9_init_41 b0) 42 1 mz
def vf_X9_init_43 (b0 : Nat) : Mem := ptm (vf_X9_init_42 b0) 43 1 mz
def vf_X9_init_44 (b0 : Nat) : Mem := ptm (vf_X9_init_43 b0) 44 1 mz
def vf_X9_init_45 (b0 : Nat) : Mem := ptm (vf_X9_init_44 b0) 45 1 mz
def vc_X9 (b0 : Nat) : Mem := (vf_X9_init_45 b0)
set_option maxHeartbeats 4000000 in
theorem ct_X9_init {G : Gv} {l : Launch} {b0 : Nat} {rc : Nat} {rw0 : Mem} (hm : fX9_init_b (vc_X9 b0) = some (rc, rw0)) {sz : Nat} (hsz : sz = b0 + 1) : CT G l yX9_init (ws_ yX9_init cX9_init 2 none) 2 45 3035 52 [.ref b0] (iv b0 46) sz (fun H => rg G b0 1 shO_X9 mz H) (fun ov H => ov = none ∧ rg G b0 46 (shX9 G.2.1) rw0 H ∧ H.size = sz + rc) := by
  refine Met.ofW (cc := cX9_init) (maxL := 2) (ret := none) (by decide +kernel) rfl ?_
  intro p e s m args below meth c s₁ B hml hv
  obtain ⟨rfl, ⟨hz, hW0⟩, hK⟩ := hv
  subst hz
  have hz : s.heap.size = b0 + 1 := hsz
  have hin : meth.name = "<init>" := (name_of_methodNamed B.named B.method).1
  have hts := atoms_spec (ws := ws_ yX9_init cX9_init 2 none) B.pre
  have hts : ∀ w ∈ lw_all, w.before _ s = true := fun w h => hts w (List.mem_cons_of_mem _ h)
  have C : Cx G p s m _ meth c RX9 cX9_init 2 none := ⟨B.exec, B.bytes, B.returns, B.notSynchronized, hml, findClass_of_methodNamed B.named, hts, hK⟩
  obtain ⟨hx, hb, hr, hlk, hml, hown, hts, hK⟩ := id C
  have hl := lv_entry ([.ref b0]) (n := 2) (Nat.le_of_ble_eq_true rfl)
  rw [lg_entry_eq]
  generalize (lg_sl ([.ref b0]) ++ List.replicate (2 - (lg_sl ([.ref b0])).length) Slot.unset).toArray = ls at hl ⊢
  have hl : lv_has ls 2 [(0, .ref b0)] := hl
  have hS0 : va_S (FA (iv b0 46) s.heap.size) s.heap s.heap [] := va_S.rf
  refine lv_aload_n (pc := 0) hx hb dX9_init_0 rfl (lv_at hl 0 rfl) ?_
  refine W.objInit hx hb hown (hts _ q1744) (hts _ q159) (hts _ q160) rfl (by rw [hml]; exact hl.1) rfl dX9_init_1 (Nat.le_of_ble_eq_true rfl) (Nat.le_of_ble_eq_true rfl) ?_
  refine W.eq (g2 := F0 m 4 ls []) rfl ?_
  refine lv_aload_n (pc := 4) hx hb dX9_init_4 rfl (lv_at hl 0 rfl) ?_
  refine lv_sipush (pc := 5) (v := (150 : Int32)) hx hb dX9_init_5 (by decide) ?_
  refine rk_newarr (pc := 8) (atype := .int) (h := b0 + 1) (sh := (fun _ _ x y _ => some (.inl (G.2.1 0, 150, .inl x)))) hx hb hts hK hS0 q190 0 rfl (fun _ h => nomatch h) hz rfl rfl (by decide) rfl (Nat.le_of_ble_eq_true rfl) (Nat.le_of_ble_eq_true rfl) (Nat.le_of_ble_eq_true rfl) dX9_init_8 (fun H1 hW2 hS3 hz4 hkp5 => ?_)
  have hW6 := rg_keepN hW0 hz hkp5
  have hz7 : H1.size = b0 + 2 := by omega
  clear hW0 hS0 hz hz4 hkp5
  refine rk_putF (pc := 10) (q := b0) hx hb hts hown hK hW6 hS3 flX9_11 ft_X9 0 (by decide) rfl (Or.inl (show iv _ _ _ from ⟨by omega, by omega⟩)) rfl rfl hin rfl (x := va_rf (some (b0 + 1))) (rf_nar _ rfl (some (b0 + 1))) (rf_fit _ rfl (some (b0 + 1))) (Nat.le_of_ble_eq_true rfl) (sR mz 0 0 (some (b0 + 1))) sR_ne (by rw [sR_eq]; rfl) dX9_init_10 (fun H8 locs9 hW10 hS11 hz12 hkp13 => ?_)
  have hW10 : rg G b0 1 shO_X9 (vo_X9_init_13 b0) H8 := hW10
  have hW14 := rg_keepq hW2 hkp13 (by omega)
  have hz15 := hz12.trans hz7
  clear hW6 hW2 hz7 hz12 hS3 hkp13
  have ap16 := Ap.cons (x := ((b0 + 1), 1, (fun _ _ x y _ => some (.inl (G.2.1 0, 150, .inl x))), mz)) (Or.inl (show b0 < (b0 + 1) by omega)) (Ap.nil (q := b0))
  have hP17 := PP.cons (hi' := b0 + 2) hW14 (PP.nil (hi := b0)) (by omega) (by omega)
  clear hW14
  refine lv_aload_n (pc := 13) hx hb dX9_init_13 rfl (lv_at hl 0 rfl) ?_
  refine lv_sipush (pc := 14) (v := (150 : Int32)) hx hb dX9_init_14 (by decide) ?_
  refine rk_newarr (pc := 17) (atype := .int) (h := b0 + 2) (sh := (fun _ _ x y _ => some (.inl (G.2.1 0, 150, .inl x)))) hx hb hts hK hS11 q190 0 rfl (fun _ h => nomatch h) hz15 rfl rfl (by decide) rfl (Nat.le_of_ble_eq_true rfl) (Nat.le_of_ble_eq_true rfl) (Nat.le_of_ble_eq_true rfl) dX9_init_17 (fun H18 hW19 hS20 hz21 hkp22 => ?_)
  have hW23 := rg_keepN hW10 hz15 hkp22
  have hP24 := PP.keepN hP17 hz15 hkp22
  have ap25 := PP.ap (q := (b0 + 2)) hP24 (by omega)
  have hz26 : H18.size = b0 + 3 := by omega
  clear hW10 hP17 hS11 hz15 hz21 hkp22
  refine rk_putF (pc := 19) (q := b0) hx hb hts hown hK hW23 hS20 flX9_15 ft_X9 0 (by decide) rfl (Or.inl (show iv _ _ _ from ⟨by omega, by omega⟩)) rfl rfl hin rfl (x := va_rf (some (b0 + 2))) (rf_nar _ rfl (some (b0 + 2))) (rf_fit _ rfl (some (b0 + 2))) (Nat.le_of_ble_eq_true rfl) (sR (vo_X9_init_13 b0) 0 1 (some (b0 + 2))) sR_ne (by rw [sR_eq]; rfl) dX9_init_19 (fun H27 locs28 hW29 hS30 hz31 hkp32 => ?_)
  have hW29 : rg G b0 1 shO_X9 (vo_X9_init_32 b0) H27 := hW29
  have hW33 := rg_keepq hW19 hkp32 (by omega)
  have hP34 := PP.keepq hP24 hkp32 ap16
  have hz35 := hz31.trans hz26
  clear hW23 hW19 hP24 hz26 hz31 hS20 hkp32
  have ap36 := Ap.cons (x := ((b0 + 2), 1, (fun _ _ x y _ => some (.inl (G.2.1 0, 150, .inl x))), mz)) (Or.inl (show b0 < (b0 + 2) by omega)) ap16
  have hP37 := PP.cons (hi' := b0 + 3) hW33 hP34 (by omega) (by omega)
  clear ap16 hP34 hW33
  refine lv_aload_n (pc := 22) hx hb dX9_init_22 rfl (lv_at hl 0 rfl) ?_
  refine lv_sipush (pc := 23) (v := (150 : Int32)) hx hb dX9_init_23 (by decide) ?_
  refine rk_newarr (pc := 26) (atype := .int) (h := b0 + 3) (sh := (fun _ _ x y _ => some (.inl (G.2.1 0, 150, .inl x)))) hx hb hts hK hS30 q190 0 rfl (fun _ h => nomatch h) hz35 rfl rfl (by decide) rfl (Nat.le_of_ble_eq_true rfl) (Nat.le_of_ble_eq_true rfl) (Nat.le_of_ble_eq_true rfl) dX9_init_26 (fun H38 hW39 hS40 hz41 hkp42 => ?_)
  have hW43 := rg_keepN hW29 hz35 hkp42
  have hP44 := PP.keepN hP37 hz35 hkp42
  have ap45 := PP.ap (q := (b0 + 3)) hP44 (by omega)
  have hz46 : H38.size = b0 + 4 := by omega
  clear hW29 hP37 hS30 hz35 hz41 hkp42
  refine rk_putF (pc := 28) (q := b0) hx hb hts hown hK hW43 hS40 flX9_18 ft_X9 0 (by decide) rfl (Or.inl (show iv _ _ _ from ⟨by omega, by omega⟩)) rfl rfl hin rfl (x := va_rf (some (b0 + 3))) (rf_nar _ rfl (some (b0 + 3))) (rf_fit _ rfl (some (b0 + 3))) (Nat.le_of_ble_eq_true rfl) (sR (vo_X9_init_32 b0) 0 2 (some (b0 + 3))) sR_ne (by rw [sR_eq]; rfl) dX9_init_28 (fun H47 locs48 hW49 hS50 hz51 hkp52 => ?_)
  have hW49 : rg G b0 1 shO_X9 (vo_X9_init_52 b0) H47 := hW49
  have hW53 := rg_keepq hW39 hkp52 (by omega)
  have hP54 := PP.keepq hP44 hkp52 ap36
  have hz55 := hz51.trans hz46
  clear hW43 hW39 hP44 hz46 hz51 hS40 hkp52
  have ap56 := Ap.cons (x := ((b0 + 3), 1, (fun _ _ x y _ => some (.inl (G.2.1 0, 150, .inl x))), mz)) (Or.inl (show b0 < (b0 + 3) by omega)) ap36
  have hP57 := PP.cons (hi' := b0 + 4) hW53 hP54 (by omega) (by omega)
  clear ap36 hP54 hW53
  refine lv_aload_n (pc := 31) hx hb dX9_init_31 rfl (lv_at hl 0 rfl) ?_
  refine lv_bipush (pc := 32) (v := (80 : Int32)) hx hb dX9_init_32 (by decide) ?_
  refine rk_newarr (pc := 34) (atype := .int) (h := b0 + 4) (sh := (fun _ _ x y _ => some (.inl (G.2.1 0, 80, .inl x)))) hx hb hts hK hS50 q190 0 rfl (fun _ h => nomatch h) hz55 rfl rfl (by decide) rfl (Nat.le_of_ble_eq_true rfl) (Nat.le_of_ble_eq_true rfl) (Nat.le_of_ble_eq_true rfl) dX9_init_34 (fun H58 hW59 hS60 hz61 hkp62 => ?_)
  have hW63 := rg_keepN hW49 hz55 hkp62
  have hP64 := PP.keepN hP57 hz55 hkp62
  have ap65 := PP.ap (q := (b0 + 4)) hP64 (by omega)
  have hz66 : H58.size = b0 + 5 := by omega
  clear hW49 hP57 hS50 hz55 hz61 hkp62
  refine rk_putF (pc := 36) (q := b0) hx hb hts hown hK hW63 hS60 flX9_21 ft_X9 0 (by decide) rfl (Or.inl (show iv _ _ _ from ⟨by omega, by omega⟩)) rfl rfl hin rfl (x := va_rf (some (b0 + 4))) (rf_nar _ rfl (some (b0 + 4))) (rf_fit _ rfl (some (b0 + 4))) (Nat.le_of_ble_eq_true rfl) (sR (vo_X9_init_52 b0) 0 4 (some (b0 + 4))) sR_ne (by rw [sR_eq]; rfl) dX9_init_36 (fun H67 locs68 hW69 hS70 hz71 hkp72 => ?_)
  have hW69 : rg G b0 1 shO_X9 (vo_X9_init_72 b0) H67 := hW69
  have hW73 := rg_keepq hW59 hkp72 (by omega)
  have hP74 := PP.keepq hP64 hkp72 ap56
  have hz75 := hz71.trans hz66
  clear hW63 hW59 hP64 hz66 hz71 hS60 hkp72
  have ap76 := Ap.cons (x := ((b0 + 4), 1, (fun _ _ x y _ => some (.inl (G.2.1 0, 80, .inl x))), mz)) (Or.inl (show b0 < (b0 + 4) by omega)) ap56
  have hP77 := PP.cons (hi' := b0 + 5) hW73 hP74 (by omega) (by omega)
  clear ap56 hP74 hW73
  refine lv_aload_n (pc := 39) hx hb dX9_init_39 rfl (lv_at hl 0 rfl) ?_
  refine lv_bipush (pc := 40) (v := (28 : Int32)) hx hb dX9_init_40 (by decide) ?_
  refine rk_newarr (pc := 42) (atype := .int) (h := b0 + 5) (sh := (fun _ _ x y _ => some (.inl (G.2.1 0, 28, .inl x)))) hx hb hts hK hS70 q190 0 rfl (fun _ h => nomatch h) hz75 rfl rfl (by decide) rfl (Nat.le_of_ble_eq_true rfl) (Nat.le_of_ble_eq_true rfl) (Nat.le_of_ble_eq_true rfl) dX9_init_42 (fun H78 hW79 hS80 hz81 hkp82 => ?_)
  have hW83 := rg_keepN hW69 hz75 hkp82
  have hP84 := PP.keepN hP77 hz75 hkp82
  have ap85 := PP.ap (q := (b0 + 5)) hP84 (by omega)
  have hz86 : H78.size = b0 + 6 := by omega
  clear hW69 hP77 hS70 hz75 hz81 hkp82
  refine rk_putF (pc := 44) (q := b0) hx hb hts hown hK hW83 hS80 flX9_24 ft_X9 0 (by decide) rfl (Or.inl (show iv _ _ _ from ⟨by omega, by omega⟩)) rfl rfl hin rfl (x := va_rf (some (b0 + 5))) (rf_nar _ rfl (some (b0 + 5))) (rf_fit _ rfl (some (b0 + 5))) (Nat.le_of_ble_eq_true rfl) (sR (vo_X9_init_72 b0) 0 5 (some (b0 + 5))) sR_ne (by rw [sR_eq]; rfl) dX9_init_44 (fun H87 locs88 hW89 hS90 hz91 hkp92 => ?_)
  have hW89 : rg G b0 1 shO_X9 (vo_X9_init_92 b0) H87 := hW89
  have hW93 := rg_keepq hW79 hkp92 (by omega)
  have hP94 := PP.keepq hP84 hkp92 ap76
  have hz95 := hz91.trans hz86
  clear hW83 hW79 hP84 hz86 hz91 hS80 hkp92
  have ap96 := Ap.cons (x := ((b0 + 5), 1, (fun _ _ x y _ => some (.inl (G.2.1 0, 28, .inl x))), mz)) (Or.inl (show b0 < (b0 + 5) by omega)) ap76
  have hP97 := PP.cons (hi' := b0 + 6) hW93 hP94 (by omega) (by omega)
  clear ap76 hP94 hW93
  refine lv_aload_n (pc := 47) hx hb dX9_init_47 rfl (lv_at hl 0 rfl) ?_
  refine rk_new (pc := 48) (h := b0 + 6) (sh := (shO_X10)) hx hb hts hown hK hS90 in_X10 ft_X10 rfl q1745 q1746 q129 hz95 rfl (df_X10 _ rfl) (Nat.le_of_ble_eq_true rfl) (Nat.le_of_ble_eq_true rfl) dX9_init_48 (fun H98 hW99 hS100 hz101 hkp102 => ?_)
  have hW103 := rg_keepN hW89 hz95 hkp102
  have hP104 := PP.keepN hP97 hz95 hkp102
  have ap105 := PP.ap (q := (b0 + 6)) hP104 (by omega)
  have hz106 : H98.size = b0 + 7 := by omega
  clear hW89 hP97 hS90 hz95 hz101 hkp102
  refine lv_dup (pc := 51) hx hb dX9_init_51 rfl ?_
  refine rk_TIN (pc := 52) (As := []) (rest := [.ref (b0 + 6), .ref b0]) (mc := 12) (ms := 599) hx hb hml hown hts hK hS100 (fun q hq => FA_sz rfl q hq) lkX9_29 yn_X10_init (ct_X10_init (G := G) (l := l) (b0 := (b0 + 6)) (sz := H98.size) (by omega)) ⟨Nat.le_of_ble_eq_true rfl, Nat.le_of_ble_eq_true rfl⟩ (fun z h => Or.inr (by have h8 := h.1; omega)) hW99 rfl rfl hl.1 (Nat.le_of_ble_eq_true rfl) dX9_init_52 ⟨Nat.le_of_ble_eq_true rfl, Nat.le_of_ble_eq_true rfl⟩ (fun ov9 H107 locs108 hP109 hkp110 hS111 => ?_)
  obtain ⟨rfl, hW112, hz113⟩ := hP109
  have hW114 := rg_keepA hW103 hkp110 (by intro z h1 h2 h3; have h8 := h3.1; have h9 := h3.2; omega)
  have hP115 := PP.keepA hP104 hkp110 (by omega)
  have hz116 : H107.size = b0 + 19 := by omega
  have ap117 := Ap.cons (x := ((b0 + 6), 13, (shX10 G.2.1), (vc_X10 (b0 + 6)))) (Or.inl (show b0 < (b0 + 6) by omega)) ap96
  have hP118 := PP.cons (hi' := b0 + 19) hW112 hP115 (by omega) (by omega)
  clear hW103 hP104 hz106 hz113 hkp110 hS100 hW99 ap105 ap96 hP115 hW112
  refine W.eq (g2 := F0 m 55 ls [.ref (b0 + 6), .ref b0]) rfl ?_
  refine rk_putF (pc := 55) (q := b0) hx hb hts hown hK hW114 hS111 flX9_30 ft_X9 0 (by decide) rfl (Or.inl (show iv _ _ _ from ⟨by omega, by omega⟩)) rfl rfl hin rfl (x := va_rf (some (b0 + 6))) (rf_nar _ rfl (some (b0 + 6))) (rf_fit _ rfl (some (b0 + 6))) (Nat.le_of_ble_eq_true rfl) (sR (vo_X9_init_92 b0) 0 9 (some (b0 + 6))) sR_ne (by rw [sR_eq]; rfl) dX9_init_55 (fun H119 locs120 hW121 hS122 hz123 hkp124 => ?_)
  have hW121 : rg G b0 1 shO_X9 (vo_X9_init_124 b0) H119 := hW121
  have hP125 := PP.keepq hP118 hkp124 ap117
  have hz126 := hz123.trans hz116
  clear hW114 hP118 hz116 hz123 hS111 hkp124
  refine lv_aload_n (pc := 58) hx hb dX9_init_58 rfl (lv_at hl 0 rfl) ?_
  refine rk_new (pc := 59) (h := b0 + 19) (sh := (shO_X10)) hx hb hts hown hK hS122 in_X10 ft_X10 rfl q1745 q1746 q129 hz126 rfl (df_X10 _ rfl) (Nat.le_of_ble_eq_true rfl) (Nat.le_of_ble_eq_true rfl) dX9_init_59 (fun H127 hW128 hS129 hz130 hkp131 => ?_)
  have hW132 := rg_keepN hW121 hz126 hkp131
  have hP133 := PP.keepN hP125 hz126 hkp131
  have ap134 := PP.ap (q := (b0 + 19)) hP133 (by omega)
  have hz135 : H127.size = b0 + 20 := by omega
  clear hW121 hP125 hS122 hz126 hz130 hkp131
  refine lv_dup (pc := 62) hx hb dX9_init_62 rfl ?_
  refine rk_TIN (pc := 63) (As := []) (rest := [.ref (b0 + 19), .ref b0]) (mc := 12) (ms := 599) hx hb hml hown hts hK hS129 (fun q hq => FA_sz rfl q hq) lkX9_29 yn_X10_init (ct_X10_init (G := G) (l := l) (b0 := (b0 + 19)) (sz := H127.size) (by omega)) ⟨Nat.le_of_ble_eq_true rfl, Nat.le_of_ble_eq_true rfl⟩ (fun z h => Or.inr (by have h8 := h.1; omega)) hW128 rfl rfl hl.1 (Nat.le_of_ble_eq_true rfl) dX9_init_63 ⟨Nat.le_of_ble_eq_true rfl, Nat.le_of_ble_eq_true rfl⟩ (fun ov9 H136 locs137 hP138 hkp139 hS140 => ?_)
  obtain ⟨rfl, hW141, hz142⟩ := hP138
  have hW143 := rg_keepA hW132 hkp139 (by intro z h1 h2 h3; have h8 := h3.1; have h9 := h3.2; omega)
  have hP144 := PP.keepA hP133 hkp139 (by omega)
  have hz145 : H136.size = b0 + 32 := by omega
  have ap146 := Ap.cons (x := ((b0 + 19), 13, (shX10 G.2.1), (vc_X10 (b0 + 19)))) (Or.inl (show b0 < (b0 + 19) by omega)) ap117
  have hP147 := PP.cons (hi' := b0 + 32) hW141 hP144 (by omega) (by omega)
  clear hW132 hP133 hz135 hz142 hkp139 hS129 hW128 ap134 ap117 hP144 hW141
  refine W.eq (g2 := F0 m 66 ls [.ref (b0 + 19), .ref b0]) rfl ?_
  refine rk_putF (pc := 66) (q := b0) hx hb hts hown hK hW143 hS140 flX9_34 ft_X9 0 (by decide) rfl (Or.inl (show iv _ _ _ from ⟨by omega, by omega⟩)) rfl rfl hin rfl (x := va_rf (some (b0 + 19))) (rf_nar _ rfl (some (b0 + 19))) (rf_fit _ rfl (some (b0 + 19))) (Nat.le_of_ble_eq_true rfl) (sR (vo_X9_init_124 b0) 0 10 (some (b0 + 19))) sR_ne (by rw [sR_eq]; rfl) dX9_init_66 (fun H148 locs149 hW150 hS151 hz152 hkp153 => ?_)
  have hW150 : rg G b0 1 shO_X9 (vo_X9_init_153 b0) H148 := hW150
  have hP154 := PP.keepq hP147 hkp153 ap146
  have hz155 := hz152.trans hz145
  clear hW143 hP147 hz145 hz152 hS140 hkp153
  refine lv_aload_n (pc := 69) hx hb dX9_init_69 rfl (lv_at hl 0 rfl) ?_
  refine lv_iconst (pc := 70) (v := (5 : Int32)) hx hb dX9_init_70 (by decide) ?_
  refine rk_newarr (pc := 71) (atype := .int) (h := b0 + 32) (sh := (fun _ _ x y _ => some (.inl (G.2.1 0, 5, .inl x)))) hx hb hts hK hS151 q190 0 rfl (fun _ h => nomatch h) hz155 rfl rfl (by decide) rfl (Nat.le_of_ble_eq_true rfl) (Nat.le_of_ble_eq_true rfl) (Nat.le_of_ble_eq_true rfl) dX9_init_71 (fun H156 hW157 hS158 hz159 hkp160 => ?_)
  have hW161 := rg_keepN hW150 hz155 hkp160
  have hP162 := PP.keepN hP154 hz155 hkp160
  have ap163 := PP.ap (q := (b0 + 32)) hP162 (by omega)
  have hz164 : H156.size = b0 + 33 := by omega
  clear hW150 hP154 hS151 hz155 hz159 hkp160
  refine rk_putF (pc := 73) (q := b0) hx hb hts hown hK hW161 hS158 flX9_37 ft_X9 0 (by decide) rfl (Or.inl (show iv _ _ _ from ⟨by omega, by omega⟩)) rfl rfl hin rfl (x := va_rf (some (b0 + 32))) (rf_nar _ rfl (some (b0 + 32))) (rf_fit _ rfl (some (b0 + 32))) (Nat.le_of_ble_eq_true rfl) (sR (vo_X9_init_153 b0) 0 11 (some (b0 + 32))) sR_ne (by rw [sR_eq]; rfl) dX9_init_73 (fun H165 locs166 hW167 hS168 hz169 hkp170 => ?_)
  have hW167 : rg G b0 1 shO_X9 (vo_X9_init_170 b0) H165 := hW167
  have hW171 := rg_keepq hW157 hkp170 (by omega)
  have hP172 := PP.keepq hP162 hkp170 ap146
  have hz173 := hz169.trans hz164
  clear hW161 hW157 hP162 hz164 hz169 hS158 hkp170
  have ap174 := Ap.cons (x := ((b0 + 32), 1, (fun _ _ x y _ => some (.inl (G.2.1 0, 5, .inl x))), mz)) (Or.inl (show b0 < (b0 + 32) by omega)) ap146
  have hP175 := PP.cons (hi' := b0 + 33) hW171 hP172 (by omega) (by omega)
  clear ap146 hP172 hW171
  refine lv_aload_n (pc := 76) hx hb dX9_init_76 rfl (lv_at hl 0 rfl) ?_
  refine lv_bipush (pc := 77) (v := (21 : Int32)) hx hb dX9_init_77 (by decide) ?_
  refine rk_newarr (pc := 79) (atype := .int) (h := b0 + 33) (sh := (fun _ _ x y _ => some (.inl (G.2.1 0, 21, .inl x)))) hx hb hts hK hS168 q190 0 rfl (fun _ h => nomatch h) hz173 rfl rfl (by decide) rfl (Nat.le_of_ble_eq_true rfl) (Nat.le_of_ble_eq_true rfl) (Nat.le_of_ble_eq_true rfl) dX9_init_79 (fun H176 hW177 hS178 hz179 hkp180 => ?_)
  have hW181 := rg_keepN hW167 hz173 hkp180
  have hP182 := PP.keepN hP175 hz173 hkp180
  have ap183 := PP.ap (q := (b0 + 33)) hP182 (by omega)
  have hz184 : H176.size = b0 + 34 := by omega
  clear hW167 hP175 hS168 hz173 hz179 hkp180
  refine rk_putF (pc := 81) (q := b0) hx hb hts hown hK hW181 hS178 flX9_40 ft_X9 0 (by decide) rfl (Or.inl (show iv _ _ _ from ⟨by omega, by omega⟩)) rfl rfl hin rfl (x := va_rf (some (b0 + 33))) (rf_nar _ rfl (some (b0 + 33))) (rf_fit _ rfl (some (b0 + 33))) (Nat.le_of_ble_eq_true rfl) (sR (vo_X9_init_170 b0) 0 12 (some (b0 + 33))) sR_ne (by rw [sR_eq]; rfl) dX9_init_81 (fun H185 locs186 hW187 hS188 hz189 hkp190 => ?_)
  have hW187 : rg G b0 1 shO_X9 (vo_X9_init_190 b0) H185 := hW187
  have hW191 := rg_keepq hW177 hkp190 (by omega)
  have hP192 := PP.keepq hP182 hkp190 ap174
  have hz193 := hz189.trans hz184
  clear hW181 hW177 hP182 hz184 hz189 hS178 hkp190
  have ap194 := Ap.cons (x := ((b0 + 33), 1, (fun _ _ x y _ => some (.inl (G.2.1 0, 21, .inl x))), mz)) (Or.inl (show b0 < (b0 + 33) by omega)) ap174
  have hP195 := PP.cons (hi' := b0 + 34) hW191 hP192 (by omega) (by omega)
  clear ap174 hP192 hW191
  refine lv_aload_n (pc := 84) hx hb dX9_init_84 rfl (lv_at hl 0 rfl) ?_
  refine lv_bipush (pc := 85) (v := (21 : Int32)) hx hb dX9_init_85 (by decide) ?_
  refine rk_newarr (pc := 87) (atype := .int) (h := b0 + 34) (sh := (fun _ _ x y _ => some (.inl (G.2.1 0, 21, .inl x)))) hx hb hts hK hS188 q190 0 rfl (fun _ h => nomatch h) hz193 rfl rfl (by decide) rfl (Nat.le_of_ble_eq_true rfl) (Nat.le_of_ble_eq_true rfl) (Nat.le_of_ble_eq_true rfl) dX9_init_87 (fun H196 hW197 hS198 hz199 hkp200 => ?_)
  have hW201 := rg_keepN hW187 hz193 hkp200
  have hP202 := PP.keepN hP195 hz193 hkp200
  have ap203 := PP.ap (q := (b0 + 34)) hP202 (by omega)
  have hz204 : H196.size = b0 + 35 := by omega
  clear hW187 hP195 hS188 hz193 hz199 hkp200
  refine rk_putF (pc := 89) (q := b0) hx hb hts hown hK hW201 hS198 flX9_43 ft_X9 0 (by decide) rfl (Or.inl (show iv _ _ _ from ⟨by omega, by omega⟩)) rfl rfl hin rfl (x := va_rf (some (b0 + 34))) (rf_nar _ rfl (some (b0 + 34))) (rf_fit _ rfl (some (b0 + 34))) (Nat.le_of_ble_eq_true rfl) (sR (vo_X9_init_190 b0) 0 13 (some (b0 + 34))) sR_ne (by rw [sR_eq]; rfl) dX9_init_89 (fun H205 locs206 hW207 hS208 hz209 hkp210 => ?_)
  have hW207 : rg G b0 1 shO_X9 (vo_X9_init_210 b0) H205 := hW207
  have hW211 := rg_keepq hW197 hkp210 (by omega)
  have hP212 := PP.keepq hP202 hkp210 ap194
  have hz213 := hz209.trans hz204
  clear hW201 hW197 hP202 hz204 hz209 hS198 hkp210
  have ap214 := Ap.cons (x := ((b0 + 34), 1, (fun _ _ x y _ => some (.inl (G.2.1 0, 21, .inl x))), mz)) (Or.inl (show b0 < (b0 + 34) by omega)) ap194
  have hP215 := PP.cons (hi' := b0 + 35) hW211 hP212 (by omega) (by omega)
  clear ap194 hP212 hW211
  refine lv_aload_n (pc := 92) hx hb dX9_init_92 rfl (lv_at hl 0 rfl) ?_
  refine lv_sipush (pc := 93) (v := (200 : Int32)) hx hb dX9_init_93 (by decide) ?_
  refine rk_newarr (pc := 96) (atype := .int) (h := b0 + 35) (sh := (fun _ _ x y _ => some (.inl (G.2.1 0, 200, .inl x)))) hx hb hts hK hS208 q190 0 rfl (fun _ h => nomatch h) hz213 rfl rfl (by decide) rfl (Nat.le_of_ble_eq_true rfl) (Nat.le_of_ble_eq_true rfl) (Nat.le_of_ble_eq_true rfl) dX9_init_96 (fun H216 hW217 hS218 hz219 hkp220 => ?_)
  have hW221 := rg_keepN hW207 hz213 hkp220
  have hP222 := PP.keepN hP215 hz213 hkp220
  have ap223 := PP.ap (q := (b0 + 35)) hP222 (by omega)
  have hz224 : H216.size = b0 + 36 := by omega
  clear hW207 hP215 hS208 hz213 hz219 hkp220
  refine rk_putF (pc := 98) (q := b0) hx hb hts hown hK hW221 hS218 flX9_46 ft_X9 0 (by decide) rfl (Or.inl (show iv _ _ _ from ⟨by omega, by omega⟩)) rfl rfl hin rfl (x := va_rf (some (b0 + 35))) (rf_nar _ rfl (some (b0 + 35))) (rf_fit _ rfl (some (b0 + 35))) (Nat.le_of_ble_eq_true rfl) (sR (vo_X9_init_210 b0) 0 14 (some (b0 + 35))) sR_ne (by rw [sR_eq]; rfl) dX9_init_98 (fun H225 locs226 hW227 hS228 hz229 hkp230 => ?_)
  have hW227 : rg G b0 1 shO_X9 (vo_X9_init_230 b0) H225 := hW227
  have hW231 := rg_keepq hW217 hkp230 (by omega)
  have hP232 := PP.keepq hP222 hkp230 ap214
  have hz233 := hz229.trans hz224
  clear hW221 hW217 hP222 hz224 hz229 hS218 hkp230
  have ap234 := Ap.cons (x := ((b0 + 35), 1, (fun _ _ x y _ => some (.inl (G.2.1 0, 200, .inl x))), mz)) (Or.inl (show b0 < (b0 + 35) by omega)) ap214
  have hP235 := PP.cons (hi' := b0 + 36) hW231 hP232 (by omega) (by omega)
  clear ap214 hP232 hW231
  refine lv_aload_n (pc := 101) hx hb dX9_init_101 rfl (lv_at hl 0 rfl) ?_
  refine lv_sipush (pc := 102) (v := (200 : Int32)) hx hb dX9_init_102 (by decide) ?_
  refine rk_newarr (pc := 105) (atype := .int) (h := b0 + 36) (sh := (fun _ _ x y _ => some (.inl (G.2.1 0, 200, .inl x)))) hx hb hts hK hS228 q190 0 rfl (fun _ h => nomatch h) hz233 rfl rfl (by decide) rfl (Nat.le_of_ble_eq_true rfl) (Nat.le_of_ble_eq_true rfl) (Nat.le_of_ble_eq_true rfl) dX9_init_105 (fun H236 hW237 hS238 hz239 hkp240 => ?_)
  have hW241 := rg_keepN hW227 hz233 hkp240
  have hP242 := PP.keepN hP235 hz233 hkp240
  have ap243 := PP.ap (q := (b0 + 36)) hP242 (by omega)
  have hz244 : H236.size = b0 + 37 := by omega
  clear hW227 hP235 hS228 hz233 hz239 hkp240
  refine rk_putF (pc := 107) (q := b0) hx hb hts hown hK hW241 hS238 flX9_49 ft_X9 0 (by decide) rfl (Or.inl (show iv _ _ _ from ⟨by omega, by omega⟩)) rfl rfl hin rfl (x := va_rf (some (b0 + 36))) (rf_nar _ rfl (some (b0 + 36))) (rf_fit _ rfl (some (b0 + 36))) (Nat.le_of_ble_eq_true rfl) (sR (vo_X9_init_230 b0) 0 15 (some (b0 + 36))) sR_ne (by rw [sR_eq]; rfl) dX9_init_107 (fun H245 locs246 hW247 hS248 hz249 hkp250 => ?_)
  have hW247 : rg G b0 1 shO_X9 (vo_X9_init_250 b0) H245 := hW247
  have hW251 := rg_keepq hW237 hkp250 (by omega)
  have hP252 := PP.keepq hP242 hkp250 ap234
  have hz253 := hz249.trans hz244
  clear hW241 hW237 hP242 hz244 hz249 hS238 hkp250
  have ap254 := Ap.cons (x := ((b0 + 36), 1, (fun _ _ x y _ => some (.inl (G.2.1 0, 200, .inl x))), mz)) (Or.inl (show b0 < (b0 + 36) by omega)) ap234
  have hP255 := PP.cons (hi' := b0 + 37) hW251 hP252 (by omega) (by omega)
  clear ap234 hP252 hW251
  refine lv_aload_n (pc := 110) hx hb dX9_init_110 rfl (lv_at hl 0 rfl) ?_
  refine lv_bipush (pc := 111) (v := (40 : Int32)) hx hb dX9_init_111 (by decide) ?_
  refine rk_newarr (pc := 113) (atype := .int) (h := b0 + 37) (sh := (fun _ _ x y _ => some (.inl (G.2.1 0, 40, .inl x)))) hx hb hts hK hS248 q190 0 rfl (fun _ h => nomatch h) hz253 rfl rfl (by decide) rfl (Nat.le_of_ble_eq_true rfl) (Nat.le_of_ble_eq_true rfl) (Nat.le_of_ble_eq_true rfl) dX9_init_113 (fun H256 hW257 hS258 hz259 hkp260 => ?_)
  have hW261 := rg_keepN hW247 hz253 hkp260
  have hP262 := PP.keepN hP255 hz253 hkp260
  have ap263 := PP.ap (q := (b0 + 37)) hP262 (by omega)
  have hz264 : H256.size = b0 + 38 := by omega
  clear hW247 hP255 hS248 hz253 hz259 hkp260
  refine rk_putF (pc := 115) (q := b0) hx hb hts hown hK hW261 hS258 flX9_52 ft_X9 0 (by decide) rfl (Or.inl (show iv _ _ _ from ⟨by omega, by omega⟩)) rfl rfl hin rfl (x := va_rf (some (b0 + 37))) (rf_nar _ rfl (some (b0 + 37))) (rf_fit _ rfl (some (b0 + 37))) (Nat.le_of_ble_eq_true rfl) (sR (vo_X9_init_250 b0) 0 16 (some (b0 + 37))) sR_ne (by rw [sR_eq]; rfl) dX9_init_115 (fun H265 locs266 hW267 hS268 hz269 hkp270 => ?_)
  have hW267 : rg G b0 1 shO_X9 (vo_X9_init_270 b0) H265 := hW267
  have hW271 := rg_keepq hW257 hkp270 (by omega)
  have hP272 := PP.keepq hP262 hkp270 ap254
  have hz273 := hz269.trans hz264
  clear hW261 hW257 hP262 hz264 hz269 hS258 hkp270
  have ap274 := Ap.cons (x := ((b0 + 37), 1, (fun _ _ x y _ => some (.inl (G.2.1 0, 40, .inl x))), mz)) (Or.inl (show b0 < (b0 + 37) by omega)) ap254
  have hP275 := PP.cons (hi' := b0 + 38) hW271 hP272 (by omega) (by omega)
  clear ap254 hP272 hW271
  refine lv_aload_n (pc := 118) hx hb dX9_init_118 rfl (lv_at hl 0 rfl) ?_
  refine lv_sipush (pc := 119) (v := (200 : Int32)) hx hb dX9_init_119 (by decide) ?_
  refine rk_newarr (pc := 122) (atype := .long) (h := b0 + 38) (sh := (fun _ _ x y _ => some (.inl (G.2.1 1, 200, .inr (.inl y))))) hx hb hts hK hS268 q273 1 rfl (fun _ h => nomatch h) hz273 rfl rfl (by decide) rfl (Nat.le_of_ble_eq_true rfl) (Nat.le_of_ble_eq_true rfl) (Nat.le_of_ble_eq_true rfl) dX9_init_122 (fun H276 hW277 hS278 hz279 hkp280 => ?_)
  have hW281 := rg_keepN hW267 hz273 hkp280
  have hP282 := PP.keepN hP275 hz273 hkp280
  have ap283 := PP.ap (q := (b0 + 38)) hP282 (by omega)
  have hz284 : H276.size = b0 + 39 := by omega
  clear hW267 hP275 hS268 hz273 hz279 hkp280
  refine rk_putF (pc := 124) (q := b0) hx hb hts hown hK hW281 hS278 flX9_55 ft_X9 0 (by decide) rfl (Or.inl (show iv _ _ _ from ⟨by omega, by omega⟩)) rfl rfl hin rfl (x := va_rf (some (b0 + 38))) (rf_nar _ rfl (some (b0 + 38))) (rf_fit _ rfl (some (b0 + 38))) (Nat.le_of_ble_eq_true rfl) (sR (vo_X9_init_270 b0) 0 17 (some (b0 + 38))) sR_ne (by rw [sR_eq]; rfl) dX9_init_124 (fun H285 locs286 hW287 hS288 hz289 hkp290 => ?_)
  have hW287 : rg G b0 1 shO_X9 (vo_X9_init_290 b0) H285 := hW287
  have hW291 := rg_keepq hW277 hkp290 (by omega)
  have hP292 := PP.keepq hP282 hkp290 ap274
  have hz293 := hz289.trans hz284
  clear hW281 hW277 hP282 hz284 hz289 hS278 hkp290
  have ap294 := Ap.cons (x := ((b0 + 38), 1, (fun _ _ x y _ => some (.inl (G.2.1 1, 200, .inr (.inl y)))), mz)) (Or.inl (show b0 < (b0 + 38) by omega)) ap274
  have hP295 := PP.cons (hi' := b0 + 39) hW291 hP292 (by omega) (by omega)
  clear ap274 hP292 hW291
  refine lv_aload_n (pc := 127) hx hb dX9_init_127 rfl (lv_at hl 0 rfl) ?_
  refine lv_bipush (pc := 128) (v := (40 : Int32)) hx hb dX9_init_128 (by decide) ?_
  refine rk_newarr (pc := 130) (atype := .long) (h := b0 + 39) (sh := (fun _ _ x y _ => some (.inl (G.2.1 1, 40, .inr (.inl y))))) hx hb hts hK hS288 q273 1 rfl (fun _ h => nomatch h) hz293 rfl rfl (by decide) rfl (Nat.le_of_ble_eq_true rfl) (Nat.le_of_ble_eq_true rfl) (Nat.le_of_ble_eq_true rfl) dX9_init_130 (fun H296 hW297 hS298 hz299 hkp300 => ?_)
  have hW301 := rg_keepN hW287 hz293 hkp300
  have hP302 := PP.keepN hP295 hz293 hkp300
  have ap303 := PP.ap (q := (b0 + 39)) hP302 (by omega)
  have hz304 : H296.size = b0 + 40 := by omega
  clear hW287 hP295 hS288 hz293 hz299 hkp300
  refine rk_putF (pc := 132) (q := b0) hx hb hts hown hK hW301 hS298 flX9_59 ft_X9 0 (by decide) rfl (Or.inl (show iv _ _ _ from ⟨by omega, by omega⟩)) rfl rfl hin rfl (x := va_rf (some (b0 + 39))) (rf_nar _ rfl (some (b0 + 39))) (rf_fit _ rfl (some (b0 + 39))) (Nat.le_of_ble_eq_true rfl) (sR (vo_X9_init_290 b0) 0 18 (some (b0 + 39))) sR_ne (by rw [sR_eq]; rfl) dX9_init_132 (fun H305 locs306 hW307 hS308 hz309 hkp310 => ?_)
  have hW307 : rg G b0 1 shO_X9 (vo_X9_init_310 b0) H305 := hW307
  have hW311 := rg_keepq hW297 hkp310 (by omega)
  have hP312 := PP.keepq hP302 hkp310 ap294
  have hz313 := hz309.trans hz304
  clear hW301 hW297 hP302 hz304 hz309 hS298 hkp310
  have ap314 := Ap.cons (x := ((b0 + 39), 1, (fun _ _ x y _ => some (.inl (G.2.1 1, 40, .inr (.inl y)))), mz)) (Or.inl (show b0 < (b0 + 39) by omega)) ap294
  have hP315 := PP.cons (hi' := b0 + 40) hW311 hP312 (by omega) (by omega)
  clear ap294 hP312 hW311
  refine lv_aload_n (pc := 135) hx hb dX9_init_135 rfl (lv_at hl 0 rfl) ?_
  refine lv_bipush (pc := 136) (v := (40 : Int32)) hx hb dX9_init_136 (by decide) ?_
  refine rk_newarr (pc := 138) (atype := .long) (h := b0 + 40) (sh := (fun _ _ x y _ => some (.inl (G.2.1 1, 40, .inr (.inl y))))) hx hb hts hK hS308 q273 1 rfl (fun _ h => nomatch h) hz313 rfl rfl (by decide) rfl (Nat.le_of_ble_eq_true rfl) (Nat.le_of_ble_eq_true rfl) (Nat.le_of_ble_eq_true rfl) dX9_init_138 (fun H316 hW317 hS318 hz319 hkp320 => ?_)
  have hW321 := rg_keepN hW307 hz313 hkp320
  have hP322 := PP.keepN hP315 hz313 hkp320
  have ap323 := PP.ap (q := (b0 + 40)) hP322 (by omega)
  have hz324 : H316.size = b0 + 41 := by omega
  clear hW307 hP315 hS308 hz313 hz319 hkp320
  refine rk_putF (pc := 140) (q := b0) hx hb hts hown hK hW321 hS318 flX9_62 ft_X9 0 (by decide) rfl (Or.inl (show iv _ _ _ from ⟨by omega, by omega⟩)) rfl rfl hin rfl (x := va_rf (some (b0 + 40))) (rf_nar _ rfl (some (b0 + 40))) (rf_fit _ rfl (some (b0 + 40))) (Nat.le_of_ble_eq_true rfl) (sR (vo_X9_init_310 b0) 0 19 (some (b0 + 40))) sR_ne (by rw [sR_eq]; rfl) dX9_init_140 (fun H325 locs326 hW327 hS328 hz329 hkp330 => ?_)
  have hW327 : rg G b0 1 shO_X9 (vo_X9_init_330 b0) H325 := hW327
  have hW331 := rg_keepq hW317 hkp330 (by omega)
  have hP332 := PP.keepq hP322 hkp330 ap314
  have hz333 := hz329.trans hz324
  clear hW321 hW317 hP322 hz324 hz329 hS318 hkp330
  have ap334 := Ap.cons (x := ((b0 + 40), 1, (fun _ _ x y _ => some (.inl (G.2.1 1, 40, .inr (.inl y)))), mz)) (Or.inl (show b0 < (b0 + 40) by omega)) ap314
  have hP335 := PP.cons (hi' := b0 + 41) hW331 hP332 (by omega) (by omega)
  clear ap314 hP332 hW331
  refine lv_aload_n (pc := 143) hx hb dX9_init_143 rfl (lv_at hl 0 rfl) ?_
  refine lv_bipush (pc := 144) (v := (40 : Int32)) hx hb dX9_init_144 (by decide) ?_
  refine rk_newarr (pc := 146) (atype := .boolean) (h := b0 + 41) (sh := (fun _ _ x y _ => some (.inl (G.2.1 4, 40, .inl x)))) hx hb hts hK hS328 q1687 4 rfl (fun _ h => nomatch h) hz333 rfl rfl (by decide) rfl (Nat.le_of_ble_eq_true rfl) (Nat.le_of_ble_eq_true rfl) (Nat.le_of_ble_eq_true rfl) dX9_init_146 (fun H336 hW337 hS338 hz339 hkp340 => ?_)
  have hW341 := rg_keepN hW327 hz333 hkp340
  have hP342 := PP.keepN hP335 hz333 hkp340
  have ap343 := PP.ap (q := (b0 + 41)) hP342 (by omega)
  have hz344 : H336.size = b0 + 42 := by omega
  clear hW327 hP335 hS328 hz333 hz339 hkp340
  refine rk_putF (pc := 148) (q := b0) hx hb hts hown hK hW341 hS338 flX9_65 ft_X9 0 (by decide) rfl (Or.inl (show iv _ _ _ from ⟨by omega, by omega⟩)) rfl rfl hin rfl (x := va_rf (some (b0 + 41))) (rf_nar _ rfl (some (b0 + 41))) (rf_fit _ rfl (some (b0 + 41))) (Nat.le_of_ble_eq_true rfl) (sR (vo_X9_init_330 b0) 0 20 (some (b0 + 41))) sR_ne (by rw [sR_eq]; rfl) dX9_init_148 (fun H345 locs346 hW347 hS348 hz349 hkp350 => ?_)
  have hW347 : rg G b0 1 shO_X9 (vo_X9_init_350 b0) H345 := hW347
  have hW351 := rg_keepq hW337 hkp350 (by omega)
  have hP352 := PP.keepq hP342 hkp350 ap334
  have hz353 := hz349.trans hz344
  clear hW341 hW337 hP342 hz344 hz349 hS338 hkp350
  have ap354 := Ap.cons (x := ((b0 + 41), 1, (fun _ _ x y _ => some (.inl (G.2.1 4, 40, .inl x))), mz)) (Or.inl (show b0 < (b0 + 41) by omega)) ap334
  have hP355 := PP.cons (hi' := b0 + 42) hW351 hP352 (by omega) (by omega)
  clear ap334 hP352 hW351
  refine lv_aload_n (pc := 151) hx hb dX9_init_151 rfl (lv_at hl 0 rfl) ?_
  refine lv_bipush (pc := 152) (v := (6 : Int32)) hx hb dX9_init_152 (by decide) ?_
  refine rk_newarr (pc := 154) (atype := .int) (h := b0 + 42) (sh := (fun _ _ x y _ => some (.inl (G.2.1 0, 6, .inl x)))) hx hb hts hK hS348 q190 0 rfl (fun _ h => nomatch h) hz353 rfl rfl (by decide) rfl (Nat.le_of_ble_eq_true rfl) (Nat.le_of_ble_eq_true rfl) (Nat.le_of_ble_eq_true rfl) dX9_init_154 (fun H356 hW357 hS358 hz359 hkp360 => ?_)
  have hW361 := rg_keepN hW347 hz353 hkp360
  have hP362 := PP.keepN hP355 hz353 hkp360
  have ap363 := PP.ap (q := (b0 + 42)) hP362 (by omega)
  have hz364 : H356.size = b0 + 43 := by omega
  clear hW347 hP355 hS348 hz353 hz359 hkp360
  refine rk_putF (pc := 156) (q := b0) hx hb hts hown hK hW361 hS358 flX9_69 ft_X9 0 (by decide) rfl (Or.inl (show iv _ _ _ from ⟨by omega, by omega⟩)) rfl rfl hin rfl (x := va_rf (some (b0 + 42))) (rf_nar _ rfl (some (b0 + 42))) (rf_fit _ rfl (some (b0 + 42))) (Nat.le_of_ble_eq_true rfl) (sR (vo_X9_init_350 b0) 0 25 (some (b0 + 42))) sR_ne (by rw [sR_eq]; rfl) dX9_init_156 (fun H365 locs366 hW367 hS368 hz369 hkp370 => ?_)
  have hW367 : rg G b0 1 shO_X9 (vo_X9_init_370 b0) H365 := hW367
  have hW371 := rg_keepq hW357 hkp370 (by omega)
  have hP372 := PP.keepq hP362 hkp370 ap354
  have hz373 := hz369.trans hz364
  clear hW361 hW357 hP362 hz364 hz369 hS358 hkp370
  have ap374 := Ap.cons (x := ((b0 + 42), 1, (fun _ _ x y _ => some (.inl (G.2.1 0, 6, .inl x))), mz)) (Or.inl (show b0 < (b0 + 42) by omega)) ap354
  have hP375 := PP.cons (hi' := b0 + 43) hW371 hP372 (by omega) (by omega)
  clear ap354 hP372 hW371
  refine lv_aload_n (pc := 159) hx hb dX9_init_159 rfl (lv_at hl 0 rfl) ?_
  refine lv_bipush (pc := 160) (v := (6 : Int32)) hx hb dX9_init_160 (by decide) ?_
  refine rk_newarr (pc := 162) (atype := .int) (h := b0 + 43) (sh := (fun _ _ x y _ => some (.inl (G.2.1 0, 6, .inl x)))) hx hb hts hK hS368 q190 0 rfl (fun _ h => nomatch h) hz373 rfl rfl (by decide) rfl (Nat.le_of_ble_eq_true rfl) (Nat.le_of_ble_eq_true rfl) (Nat.le_of_ble_eq_true rfl) dX9_init_162 (fun H376 hW377 hS378 hz379 hkp380 => ?_)
  have hW381 := rg_keepN hW367 hz373 hkp380
  have hP382 := PP.keepN hP375 hz373 hkp380
  have ap383 := PP.ap (q := (b0 + 43)) hP382 (by omega)
  have hz384 : H376.size = b0 + 44 := by omega
  clear hW367 hP375 hS368 hz373 hz379 hkp380
  refine rk_putF (pc := 164) (q := b0) hx hb hts hown hK hW381 hS378 flX9_72 ft_X9 0 (by decide) rfl (Or.inl (show iv _ _ _ from ⟨by omega, by omega⟩)) rfl rfl hin rfl (x := va_rf (some (b0 + 43))) (rf_nar _ rfl (some (b0 + 43))) (rf_fit _ rfl (some (b0 + 43))) (Nat.le_of_ble_eq_true rfl) (sR (vo_X9_init_370 b0) 0 26 (some (b0 + 43))) sR_ne (by rw [sR_eq]; rfl) dX9_init_164 (fun H385 locs386 hW387 hS388 hz389 hkp390 => ?_)
  have hW387 : rg G b0 1 shO_X9 (vo_X9_init_390 b0) H385 := hW387
  have hW391 := rg_keepq hW377 hkp390 (by omega)
  have hP392 := PP.keepq hP382 hkp390 ap374
  have hz393 := hz389.trans hz384
  clear hW381 hW377 hP382 hz384 hz389 hS378 hkp390
  have ap394 := Ap.cons (x := ((b0 + 43), 1, (fun _ _ x y _ => some (.inl (G.2.1 0, 6, .inl x))), mz)) (Or.inl (show b0 < (b0 + 43) by omega)) ap374
  have hP395 := PP.cons (hi' := b0 + 44) hW391 hP392 (by omega) (by omega)
  clear ap374 hP392 hW391
  refine lv_aload_n (pc := 167) hx hb dX9_init_167 rfl (lv_at hl 0 rfl) ?_
  refine lv_sipush (pc := 168) (v := (360 : Int32)) hx hb dX9_init_168 (by decide) ?_
  refine rk_newarr (pc := 171) (atype := .long) (h := b0 + 44) (sh := (fun _ _ x y _ => some (.inl (G.2.1 1, 360, .inr (.inl y))))) hx hb hts hK hS388 q273 1 rfl (fun _ h => nomatch h) hz393 rfl rfl (by decide) rfl (Nat.le_of_ble_eq_true rfl) (Nat.le_of_ble_eq_true rfl) (Nat.le_of_ble_eq_true rfl) dX9_init_171 (fun H396 hW397 hS398 hz399 hkp400 => ?_)
  have hW401 := rg_keepN hW387 hz393 hkp400
  have hP402 := PP.keepN hP395 hz393 hkp400
  have ap403 := PP.ap (q := (b0 + 44)) hP402 (by omega)
  have hz404 : H396.size = b0 + 45 := by omega
  clear hW387 hP395 hS388 hz393 hz399 hkp400
  refine rk_putF (pc := 173) (q := b0) hx hb hts hown hK hW401 hS398 flX9_75 ft_X9 0 (by decide) rfl (Or.inl (show iv _ _ _ from ⟨by omega, by omega⟩)) rfl rfl hin rfl (x := va_rf (some (b0 + 44))) (rf_nar _ rfl (some (b0 + 44))) (rf_fit _ rfl (some (b0 + 44))) (Nat.le_of_ble_eq_true rfl) (sR (vo_X9_init_390 b0) 0 27 (some (b0 + 44))) sR_ne (by rw [sR_eq]; rfl) dX9_init_173 (fun H405 locs406 hW407 hS408 hz409 hkp410 => ?_)
  have hW407 : rg G b0 1 shO_X9 (vo_X9_init_410 b0) H405 := hW407
  have hW411 := rg_keepq hW397 hkp410 (by omega)
  have hP412 := PP.keepq hP402 hkp410 ap394
  have hz413 := hz409.trans hz404
  clear hW401 hW397 hP402 hz404 hz409 hS398 hkp410
  have ap414 := Ap.cons (x := ((b0 + 44), 1, (fun _ _ x y _ => some (.inl (G.2.1 1, 360, .inr (.inl y)))), mz)) (Or.inl (show b0 < (b0 + 44) by omega)) ap394
  have hP415 := PP.cons (hi' := b0 + 45) hW411 hP412 (by omega) (by omega)
  clear ap394 hP412 hW411
  refine lv_aload_n (pc := 176) hx hb dX9_init_176 rfl (lv_at hl 0 rfl) ?_
  refine lv_bipush (pc := 177) (v := (60 : Int32)) hx hb dX9_init_177 (by decide) ?_
  refine rk_newarr (pc := 179) (atype := .long) (h := b0 + 45) (sh := (fun _ _ x y _ => some (.inl (G.2.1 1, 60, .inr (.inl y))))) hx hb hts hK hS408 q273 1 rfl (fun _ h => nomatch h) hz413 rfl rfl (by decide) rfl (Nat.le_of_ble_eq_true rfl) (Nat.le_of_ble_eq_true rfl) (Nat.le_of_ble_eq_true rfl) dX9_init_179 (fun H416 hW417 hS418 hz419 hkp420 => ?_)
  have hW421 := rg_keepN hW407 hz413 hkp420
  have hP422 := PP.keepN hP415 hz413 hkp420
  have ap423 := PP.ap (q := (b0 + 45)) hP422 (by omega)
  have hz424 : H416.size = b0 + 46 := by omega
  clear hW407 hP415 hS408 hz413 hz419 hkp420
  refine rk_putF (pc := 181) (q := b0) hx hb hts hown hK hW421 hS418 flX9_78 ft_X9 0 (by decide) rfl (Or.inl (show iv _ _ _ from ⟨by omega, by omega⟩)) rfl rfl hin rfl (x := va_rf (some (b0 + 45))) (rf_nar _ rfl (some (b0 + 45))) (rf_fit _ rfl (some (b0 + 45))) (Nat.le_of_ble_eq_true rfl) (sR (vo_X9_init_410 b0) 0 28 (some (b0 + 45))) sR_ne (by rw [sR_eq]; rfl) dX9_init_181 (fun H425 locs426 hW427 hS428 hz429 hkp430 => ?_)
  have hW427 : rg G b0 1 shO_X9 (vo_X9_init_430 b0) H425 := hW427
  have hW431 := rg_keepq hW417 hkp430 (by omega)
  have hP432 := PP.keepq hP422 hkp430 ap414
  have hz433 := hz429.trans hz424
  clear hW421 hW417 hP422 hz424 hz429 hS418 hkp430
  have ap434 := Ap.cons (x := ((b0 + 45), 1, (fun _ _ x y _ => some (.inl (G.2.1 1, 60, .inr (.inl y)))), mz)) (Or.inl (show b0 < (b0 + 45) by omega)) ap414
  have hP435 := PP.cons (hi' := b0 + 46) hW431 hP432 (by omega) (by omega)
  clear ap414 hP432 hW431
  have hA0 : rg G b0 1 (shX9 G.2.1) (mz) H425 := rg_cast hW427 rfl
  have hA436 : rg G b0 2 (shX9 G.2.1) (vf_X9_init_1 b0) H425 := rg_app (k := 1) (n' := 1) hA0 (PP.at hP435 20 rfl) rfl (fun o ho x y z => by have h0 : o = 0 := (by omega); subst h0; rfl)
  have hA437 : rg G b0 3 (shX9 G.2.1) (vf_X9_init_2 b0) H425 := rg_app (k := 2) (n' := 1) hA436 (PP.at hP435 19 rfl) rfl (fun o ho x y z => by have h0 : o = 0 := (by omega); subst h0; rfl)
  have hA438 : rg G b0 4 (shX9 G.2.1) (vf_X9_init_3 b0) H425 := rg_app (k := 3) (n' := 1) hA437 (PP.at hP435 18 rfl) rfl (fun o ho x y z => by have h0 : o = 0 := (by omega); subst h0; rfl)
  have hA439 : rg G b0 5 (shX9 G.2.1) (vf_X9_init_4 b0) H425 := rg_app (k := 4) (n' := 1) hA438 (PP.at hP435 17 rfl) rfl (fun o ho x y z => by have h0 : o = 0 := (by omega); subst h0; rfl)
  have hA440 : rg G b0 6 (shX9 G.2.1) (vf_X9_init_5 b0) H425 := rg_app (k := 5) (n' := 1) hA439 (PP.at hP435 16 rfl) rfl (fun o ho x y z => by have h0 : o = 0 := (by omega); subst h0; rfl)
  have hA441 : rg G b0 19 (shX9 G.2.1) (vf_X9_init_6 b0) H425 := rg_app (k := 6) (n' := 13) hA440 (PP.at hP435 15 rfl) rfl (fun o ho x y z => shX9_n6 G.2.1 _ rfl o ho x y z)
  have hA442 : rg G b0 32 (shX9 G.2.1) (vf_X9_init_19 b0) H425 := rg_app (k := 19) (n' := 13) hA441 (PP.at hP435 14 rfl) rfl (fun o ho x y z => shX9_n19 G.2.1 _ rfl o ho x y z)
  have hA443 : rg G b0 33 (shX9 G.2.1) (vf_X9_init_32 b0) H425 := rg_app (k := 32) (n' := 1) hA442 (PP.at hP435 13 rfl) rfl (fun o ho x y z => by have h0 : o = 0 := (by omega); subst h0; rfl)
  have hA444 : rg G b0 34 (shX9 G.2.1) (vf_X9_init_33 b0) H425 := rg_app (k := 33) (n' := 1) hA443 (PP.at hP435 12 rfl) rfl (fun o ho x y z => by have h0 : o = 0 := (by omega); subst h0; rfl)
  have hA445 : rg G b0 35 (shX9 G.2.1) (vf_X9_init_34 b0) H425 := rg_app (k := 34) (n' := 1) hA444 (PP.at hP435 11 rfl) rfl (fun o ho x y z => by have h0 : o = 0 := (by omega); subst h0; rfl)
  have hA446 : rg G b0 36 (shX9 G.2.1) (vf_X9_init_35 b0) H425 := rg_app (k := 35) (n' := 1) hA445 (PP.at hP435 10 rfl) rfl (fun o ho x y z => by have h0 : o = 0 := (by omega); subst h0; rfl)
  have hA447 : rg G b0 37 (shX9 G.2.1) (vf_X9_init_36 b0) H425 := rg_app (k := 36) (n' := 1) hA446 (PP.at hP435 9 rfl) rfl (fun o ho x y z => by have h0 : o = 0 := (by omega); subst h0; rfl)
  have hA448 : rg G b0 38 (shX9 G.2.1) (vf_X9_init_37 b0) H425 := rg_app (k := 37) (n' := 1) hA447 (PP.at hP435 8 rfl) rfl (fun o ho x y z => by have h0 : o = 0 := (by omega); subst h0; rfl)
  have hA449 : rg G b0 39 (shX9 G.2.1) (vf_X9_init_38 b0) H425 := rg_app (k := 38) (n' := 1) hA448 (PP.at hP435 7 rfl) rfl (fun o ho x y z => by have h0 : o = 0 := (by omega); subst h0; rfl)
  have hA450 : rg G b0 40 (shX9 G.2.1) (vf_X9_init_39 b0) H425 := rg_app (k := 39) (n' := 1) hA449 (PP.at hP435 6 rfl) rfl (fun o ho x y z => by have h0 : o = 0 := (by omega); subst h0; rfl)
  have hA451 : rg G b0 41 (shX9 G.2.1) (vf_X9_init_40 b0) H425 := rg_app (k := 40) (n' := 1) hA450 (PP.at hP435 5 rfl) rfl (fun o ho x y z => by have h0 : o = 0 := (by omega); subst h0; rfl)
  have hA452 : rg G b0 42 (shX9 G.2.1) (vf_X9_init_41 b0) H425 := rg_app (k := 41) (n' := 1) hA451 (PP.at hP435 4 rfl) rfl (fun o ho x y z => by have h0 : o = 0 := (by omega); subst h0; rfl)
  have hA453 : rg G b0 43 (shX9 G.2.1) (vf_X9_init_42 b0) H425 := rg_app (k := 42) (n' := 1) hA452 (PP.at hP435 3 rfl) rfl (fun o ho x y z => by have h0 : o = 0 := (by omega); subst h0; rfl)
  have hA454 : rg G b0 44 (shX9 G.2.1) (vf_X9_init_43 b0) H425 := rg_app (k := 43) (n' := 1) hA453 (PP.at hP435 2 rfl) rfl (fun o ho x y z => by have h0 : o = 0 := (by omega); subst h0; rfl)
  have hA455 : rg G b0 45 (shX9 G.2.1) (vf_X9_init_44 b0) H425 := rg_app (k := 44) (n' := 1) hA454 (PP.at hP435 1 rfl) rfl (fun o ho x y z => by have h0 : o = 0 := (by omega); subst h0; rfl)
  have hA456 : rg G b0 46 (shX9 G.2.1) (vf_X9_init_45 b0) H425 := rg_app (k := 45) (n' := 1) hA455 (PP.at hP435 0 rfl) rfl (fun o ho x y z => by have h0 : o = 0 := (by omega); subst h0; rfl)
  have hzE : H425.size = s.heap.size + 45 := by omega
  exact w_fX9_init_b C hin (vc_X9 b0) hm H425 locs426 ls hA456 hS428 hzE (lv_sub hl [0] rfl)
def shO_X0 : Shp := fun _ _ x y z => some (.inr (0, [va_rf (z 0), va_rf (z 1), va_rf (z 2), va_rf (z 3), va_rf (z 4), .int (x 5), .int (x 6), va_rf (z 7), va_rf (z 8), va_rf (z 9), va_rf (z 10), va_rf (z 11), .int (x 12), va_rf (z 13), va_rf (z 14), va_rf (z 15), .int (x 16), va_rf (z 17), va_rf (z 18), va_rf (z 19), .int (x 20), .int (x 21), .int (x 22), .int (x 23), va_rf (z 24)]))
theorem df_X0 (fs : List Value) (h : fs = [.null, .null, .null, .null, .null, .int 0, .int 0, .null, .null, .null, .null, .null, .int 0, .null, .null, .null, .int 0, .null, .null, .null, .int 0, .int 0, .int 0, .int 0, .null]) : ∀ j, j < 25 → defaultValue (tyX0 j) = vp_V fs j := by
  subst h
  intro j hj
  match j, hj with
  | 0, _ => rfl
  | 1, _ => rfl
  | 2, _ => rfl
  | 3, _ => rfl
  | 4, _ => rfl
  | 5, _ => rfl
  | 6, _ => rfl
  | 7, _ => rfl
  | 8, _ => rfl
  | 9, _ => rfl
  | 10, _ => rfl
  | 11, _ => rfl
  | 12, _ => rfl
  | 13, _ => rfl
  | 14, _ => rfl
  | 15, _ => rfl
  | 16, _ => rfl
  | 17, _ => rfl
  | 18, _ => rfl
  | 19, _ => rfl
  | 20, _ => rfl
  | 21, _ => rfl
  | 22, _ => rfl
  | 23, _ => rfl
  | 24, _ => rfl
  | n + 25, h => exact absurd h (by omega)
theorem lkX0_11 : LI RX0 11 yX1_init cX1_init 2 := ⟨q163, q164, q115, q165, rfl⟩
theorem yn_X1_init : YN yX1_init 0 := by
  unfold YN
  decide +kernel
theorem lkX0_26 : LI RX0 26 yX3_init cX3_init 2 := ⟨q242, q243, q117, q244, rfl⟩
theorem yn_X3_init : YN yX3_init 0 := by
  unfold YN
  decide +kernel
theorem lkX0_36 : LI RX0 36 yJ1_init cJ1_init 1 := ⟨q326, q327, q120, q328, rfl⟩
theorem yn_J1_init : YN yJ1_init 0 := by
  unfold YN
  decide +kernel
theorem lkX0_74 : LIN RX0 74 yX5_init "WholePacks" cX5_init 1 := ⟨q368, q369, q124, q370, rfl⟩
theorem yn_X5_init : YN yX5_init 0 := by
  unfold YN
  decide +kernel
theorem lkX0_75 : LI RX0 75 yJ4_init cJ4_init 2 := ⟨q374, q375, q123, q376, rfl⟩
theorem yn_J4_init : YN yJ4_init 1 := by
  unfold YN
  decide +kernel
theorem lkX0_91 : LI RX0 91 yJ4_init_3 cJ4_init_3 1 := ⟨q404, q405, q123, q406, rfl⟩
theorem yn_J4_init_3 : YN yJ4_init_3 0 := by
  unfold YN
  decide +kernel
theorem lkX0_97 : LIN RX0 97 yX6_init "WholePacks" cX6_init 1 := ⟨q410, q411, q125, q412, rfl⟩
theorem yn_X6_init : YN yX6_init 0 := by
  unfold YN
  decide +kernel
theorem flX0_98 : FL RX0 98 0 24 RX0 TX0 25 := ⟨in_X0, rfl, by decide, q522⟩
theorem lkX0_113 : LIN RX0 113 yX7_init "WholePacks" cX7_init 1 := ⟨q444, q445, q126, q446, rfl⟩
theorem lkX0_114 : LI RX0 114 yX8_init cX8_init 2 := ⟨q459, q460, q127, q461, rfl⟩
/-! the constructor of WholePacks: its lambda objects, its two loops -/
def ZI (G : Gv) : Prop := ∀ U : State, KK G U →
  SF ⟨"WholePacks", "<init>", "()V"⟩ 240 102 (sgL "lambda$new$0") (G.2.1 20) (.constant (G.2.1 28)) U ∧ SF ⟨"WholePacks", "<init>", "()V"⟩ 251 106 (sgL "lambda$new$1") (G.2.1 21) (.constant (G.2.1 29)) U ∧
  SF ⟨"WholePacks", "<init>", "()V"⟩ 263 107 (sgC "bounds") (G.2.1 22) (.makes (G.2.1 22)) U ∧ SF ⟨"WholePacks", "<init>", "()V"⟩ 275 111 (sgC "lambda$new$2") (G.2.1 23) (.makes (G.2.1 23)) U ∧ SF ⟨"WholePacks", "<init>", "()V"⟩ 287 112 (sgC "factors") (G.2.1 24) (.makes (G.2.1 24)) U
theorem LC_old {G : Gv} {b0 n q cK : Nat} {vs : List Value} {H H0 : Heap} {locs : List Loc} (hS : va_S (FA (iv b0 n) H0.size) H0 H locs) (hG : GO G H0) (hgb : gB G ≤ b0) (hb : b0 ≤ H0.size) (h : LQ G.2.2.2 q cK vs) : LQ H q cK vs := by
  obtain ⟨mo, ha, h⟩ := h
  have h1 : q < G.2.2.2.size := (Array.getElem?_eq_some_iff.mp h).1
  unfold gB at hgb
  refine ⟨mo, ha, (hS.2.1 q (by omega) (fun k => ?_)).trans ((hG q h1).trans h)⟩
  rcases k with k | k
  · have := k.1
    omega
  · omega
theorem rg_ofLC {G : Gv} {H : Heap} {q cK b : Nat} (h : LC H q cK [.ref b]) : rg G q 1 (fun _ _ _ _ _ => some (.inl (cK, 1, .inr (.inr (.inr (.inr (fun _ => some b))))))) mz H := fun o ho e he => by
  have h0 : o = 0 := by omega
  subst h0
  cases he
  show H[q + 0]? = some (vp_cell _ _)
  rw [lamc_eq]
  exact h
theorem rg_hole {G : Gv} {a k n' : Nat} {sh : Shp} {v : Mem} {H : Heap} (h : rg G a k sh v H) (hn : ∀ o, o < n' → ∀ x y z, sh (k + o) a x y z = none) : rg G a (k + n') sh v H := fun o ho e he => by
  by_cases hc : o < k
  · exact h o hc e he
  · have h1 := hn (o - k) (by omega) (v.1 o) (v.2.1 o) (v.2.2 o)
    rw [show k + (o - k) = o by omega] at h1
    rw [h1] at he
    cases he
theorem shX0_z {dA : Nat → ClassId} {o a : Nat} {x : Nat → Int32} {y : Nat → Int64} {z z' : Nat → Option Nat} : shX0 dA o a x y z = shX0 dA o a x y z' := rfl
theorem i_of (k : Nat) (h : k < 40) : (Int32.ofNat k).toNatClampNeg = k ∧ inR (Int32.ofNat k) 40 = true ∧ (Int32.ofNat k + 1 = Int32.ofNat (k + 1)) ∧ ¬ (40 : Int32) ≤ Int32.ofNat k := by
  have h1 : ∀ k, k < 40 → (Int32.ofNat k).toNatClampNeg = k ∧ inR (Int32.ofNat k) 40 = true ∧ (Int32.ofNat k + 1 = Int32.ofNat (k + 1)) ∧ ¬ (40 : Int32) ≤ Int32.ofNat k := by decide +kernel
  exact h1 k h
theorem i_of2 (k : Nat) (h : k < 20) : (Int32.ofNat k).toNatClampNeg = k ∧ inR (Int32.ofNat k) 20 = true ∧ (Int32.ofNat k + 1 = Int32.ofNat (k + 1)) ∧ ¬ (20 : Int32) ≤ Int32.ofNat k := by
  have h1 : ∀ k, k < 20 → (Int32.ofNat k).toNatClampNeg = k ∧ inR (Int32.ofNat k) 20 = true ∧ (Int32.ofNat k + 1 = Int32.ofNat (k + 1)) ∧ ¬ (20 : Int32) ≤ Int32.ofNat k := by decide +kernel
  exact h1 k h
/-- what the two arrays hold when k objects have come -/
def mAr (b c st k : Nat) : Mem := (fun _ _ => 0, fun _ _ => 0, fun o j => if o = 0 ∧ j < k then some (b + (c + st * j)) else none)
theorem mAr_s (b c st k : Nat) : sR (mAr b c st k) 0 k (some (b + (c + st * k))) = mAr b c st (k + 1) := by
  unfold sR mAr
  refine Prod.ext rfl (Prod.ext rfl ?_)
  funext o j
  by_cases h0 : o = 0
  · by_cases hj : j = k
    · subst hj
      simp [h0]
    · have h1 : (j < k + 1) = (j < k) := by simp; omega
      simp [h0, hj, h1]
  · simp [h0]
/-- the nodes' numbers -/
def mNd (k : Nat) : Mem := (fun o j => if j = 0 ∧ o % 4 = 0 ∧ o < 4 * k then Int32.ofNat (o / 4) else 0, fun _ _ => 0, fun _ _ => none)
theorem rg_eqm {G : Gv} {a n : Nat} {sh : Shp} {v w : Mem} {H : Heap} (h : rg G a n sh v H) (hz : ∀ o x y z z', sh o a x y z = sh o a x y z') (hv : ∀ o, o < n → v.1 o = w.1 o ∧ v.2.1 o = w.2.1 o) : rg G a n sh w H := fun o ho e he => h o ho e (by rw [(hv o ho).1, (hv o ho).2, hz o _ _ _ (w.2.2 o)]; exact he)
section CTX
variable {p : Program} {l : Launch} {e : Env} {R : Room} {s : State} {m : MethodId} {args : Array Value} {below : List Frame} {meth : Method} {c : Code} {H : Heap} {locs : List Loc} {cells slots : Nat} {Q : State → Prop}
variable {cc : ByteArray} {pc : Nat} {ls : Array Slot} {rest : List Value} {G : Gv} {A : Nat → Prop} {H0 : Heap} {a n q : Nat} {sh : Shp} {v : Mem}
variable {σ : Lambda.Shape} {D : ClassFile} {fw : Method} {lay0 : Array Field × Array FieldType × Array FieldType} {fbytes : ByteArray} {fmaxL : Nat} {fret : Option FieldType} {iM iC iN sC : Nat} {tys : Array FieldType} {fl : List (Nat × Nat)} {cK : ClassId}
theorem rk_aastL (hx : p.tables.exec = Jvm.exec) (hb : c.code = cc) (hK : KK G s) (hW : rg G a n sh v H) (hS : va_S A H0 H locs) (o t0 : Nat) (ho : o < n) (hq : q = a + o) (hA : A q) {C9 : String} {N9 : Nat} (he : ∀ x y z, sh o a x y z = some (.inl (G.2.1 t0, N9, .inr (.inr (.inr (.inr z)))))) (ht : (tyL G.2.1)[t0]? = some (G.2.1 t0, .object C9)) {i : Int32} (hin : inR i N9 = true) {x : Nat} {vs : List Value} (hLC : LQ H x cK vs) (hL : Lam σ cK s) (hF : LamF σ D fw lay0 fbytes fmaxL fret iM iC iN sC tys fl) (hif : σ.iface = C9) (hdg : decode cc pc = .ok (.aastore, 1))
    (kk : ∀ (H1 : Heap) (locs1 : List Loc), rg G a n sh (sR v o i.toNatClampNeg (some x)) H1 → va_S A H0 H1 locs1 → H1.size = H.size → (∀ z, z ≠ q → H1[z]? = H[z]?) → W p l e R s m args below meth c H1 locs1 cells slots Q (F0 m (pc + 1) ls rest)) : W p l e R s m args below meth c H locs cells slots Q (F0 m pc ls (.ref x :: .int i :: .ref q :: rest)) := by
  obtain ⟨mo, ha, hLC⟩ := hLC
  have hc : H[q]? = some (vp_cell (G.2.1 t0) (N9, .inr (.inr (.inr (.inr (v.2.2 o)))))) := by
    have h := hW o ho _ (he _ _ _)
    rw [← hq] at h
    exact h
  obtain ⟨kK, tk, file, methk, ck, toy, iface, tB, found, ⟨hk, -, -, -⟩, -, -, -, -, ⟨hfi, -, -, hasg, -⟩⟩ := Lam.facts hF hL
  obtain ⟨kA, comp, k1, k2, k3, -⟩ := (hK.1.2 t0 _ ht).2
  obtain ⟨kE, hkE, -⟩ := Vm.findClass_spec k3
  rw [hif] at hfi
  cases k3.symm.trans hfi
  refine W.aast hx hb hc (fun q h => by cases h) (fun h => by cases h) k1 k2 rfl hkE ⟨(fun h => (inR_in hin) (Or.inl h)), by show _ < (arrV _ _ _).slots.size; rw [arrV_size]; exact inR_lt hin⟩ hLC (fun q h => by cases h) hk hasg rfl rfl hdg fun H1 e1 z oq => ?_
  refine kk H1 _ (rg_upd hW hq oq sR_ne fun y hy => ?_) (hS.put z oq hA) z oq
  rw [he] at hy
  cases hy
  show H1[q]? = some (vp_cell _ _)
  rw [e1]
  rw [vp_cell_q, vp_cell_q, arrV_store, sR_eq]
  congr 2
  funext j
  by_cases hj : j = i.toNatClampNeg
  · subst hj
    simp [updV, va_rf]
  · simp [updV, hj]
end CTX
theorem yn_X7_init_9 : YN yX7_init 0 := by
  unfold YN
  decide +kernel
theorem yn_X8_init_9 : YN yX8_init 1 := by
  unfold YN
  decide +kernel
section CTL
variable {p : Program} {l : Launch} {e : Env} {R : Room} {s : State} {m : MethodId} {args : Array Value} {below : List Frame} {meth : Method} {c : Code} {Q : State → Prop} {G : Gv} {A : Nat → Prop}
def shFA (G : Gv) : Shp := fun _ _ _ _ z => some (.inl (G.2.1 9, 20, .inr (.inr (.inr (.inr z)))))
def shNA (G : Gv) : Shp := fun _ _ _ _ z => some (.inl (G.2.1 10, 40, .inr (.inr (.inr (.inr z)))))
def shFs (G : Gv) (b0 : Nat) : Shp := fun o _ x y z => shX0 G.2.1 (177 + o) b0 x y z
def shNs (G : Gv) (b0 : Nat) : Shp := fun o _ x y z => shX0 G.2.1 (197 + o) b0 x y z
set_option maxHeartbeats 4000000 in
theorem lp_found (C : Cx G p s m args meth c RX0 cX0_init 2 none) {b0 cells0 slots0 : Nat} {L : List Pc} {vO : Mem} (hO5 : vO.2.2 0 14 = some (b0 + 159)) (hsz : s.heap.size = b0 + 1) (hA : ∀ q, s.heap.size ≤ q → A q) (hap : Ap (b0 + 159) L) (hRc : cells0 + 20 ≤ R.cells) (hRs : slots0 + 40 ≤ R.slots) (hRf : 4 ≤ R.frames) (hRl : 100 ≤ R.locals)
    (kk : ∀ (H : Heap) (locs : List Loc) (ls : Array Slot), PP G (b0 + 177) L H → rg G b0 1 shO_X0 vO H → rg G (b0 + 164) 1 (shNA G) mz H → rg G (b0 + 159) 1 (shFA G) (mAr b0 177 1 20) H → rg G (b0 + 177) 20 (shFs G b0) mz H → va_S A s.heap H locs → H.size = b0 + 197 → lv_has ls 2 [(1, .int (20 : Int32)), (0, .ref b0)] → W p l e R s m args below meth c H locs (cells0 + 20) (slots0 + 40) Q (F0 m 320 ls [])) :
    ∀ (j k : Nat), j + k = 20 → ∀ (H : Heap) (locs : List Loc) (ls : Array Slot), PP G (b0 + 177) L H → rg G b0 1 shO_X0 vO H → rg G (b0 + 164) 1 (shNA G) mz H → rg G (b0 + 159) 1 (shFA G) (mAr b0 177 1 k) H → rg G (b0 + 177) k (shFs G b0) mz H → va_S A s.heap H locs → H.size = b0 + 177 + k → lv_has ls 2 [(1, .int (Int32.ofNat k)), (0, .ref b0)] → W p l e R s m args below meth c H locs (cells0 + k) (slots0 + 2 * k) Q (F0 m 295 ls []) := by
  obtain ⟨hx, hb, hr, hlk, hml, hown, hts, hK⟩ := id C
  intro j
  induction j with
  | zero =>
    intro k hk H locs ls hP hO hN hF hFs hS hz hl
    have hk2 : k = 20 := by omega
    subst hk2
    refine lv_iload_n (pc := 295) hx hb dX0_init_295 rfl (lv_at hl 0 rfl) ?_
    refine lv_bipush (pc := 296) (v := (20 : Int32)) hx hb dX0_init_296 (by decide) ?_
    refine lv_icmp_ge (pc := 298) (tgt := 320) hx hb dX0_init_298 (by decide) (fun _ => ?_) (fun h => absurd (by decide) h)
    exact kk H locs ls hP hO hN hF hFs hS hz hl
  | succ j ih =>
    intro k hk H locs ls hP hO hN hF hFs hS hz hl
    obtain ⟨e1, e2, e3, e4⟩ := i_of2 k (by omega)
    refine lv_iload_n (pc := 295) hx hb dX0_init_295 rfl (lv_at hl 0 rfl) ?_
    refine lv_bipush (pc := 296) (v := (20 : Int32)) hx hb dX0_init_296 (by decide) ?_
    refine lv_icmp_ge (pc := 298) (tgt := 320) hx hb dX0_init_298 (by decide) (fun h => absurd h e4) (fun _ => ?_)
    refine lv_aload_n (pc := 301) hx hb dX0_init_301 rfl (lv_at hl 1 rfl) ?_
    refine rk_get (pc := 302) hx hb hts hown hK hO flX0_66 0 (by decide) rfl rfl (x := va_rf (some (b0 + 159))) (congrArg (fun z => some (va_rf z)) hO5) dX0_init_302 ?_
    refine lv_iload_n (pc := 305) hx hb dX0_init_305 rfl (lv_at hl 0 rfl) ?_
    refine rk_new (pc := 306) (h := b0 + 177 + k) (sh := shO_X7) hx hb hts hown hK hS in_X7 ft_X7 rfl q362 q443 q126 hz rfl (df_X7 _ rfl) (by omega) (by omega) dX0_init_306 (fun H1 hW1 hS1 hz1 hk1 => ?_)
    have hP1 := hP.keepN hz hk1
    have hO1 := rg_keepN hO hz hk1
    have hN1 := rg_keepN hN hz hk1
    have hF1 := rg_keepN hF hz hk1
    have hFs1 := rg_keepN hFs hz hk1
    refine lv_dup (pc := 309) hx hb dX0_init_309 rfl ?_
    refine rk_TIN (pc := 310) (As := []) (rest := [.ref (b0 + 177 + k), .int (Int32.ofNat k), .ref (b0 + 159)]) (mc := 0) (ms := 0) hx hb hml hown hts hK hS1 (fun q hq => hA q (by omega)) lkX0_113 yn_X7_init_9 (ct_X7_init (G := G) (l := l) (b0 := b0 + 177 + k) (sz := H1.size) (by omega)) ⟨Nat.le_trans (Nat.le_of_ble_eq_true rfl) hRf, Nat.le_trans (Nat.le_of_ble_eq_true rfl) hRl⟩ (fun z h => hA z (by have h8 := h.1; omega)) hW1 rfl rfl hl.1 (Nat.le_of_ble_eq_true rfl) dX0_init_310 ⟨by omega, by show slots0 + 2 * k + 2 + 0 ≤ _; omega⟩ (fun ov9 H2 locs2 hP9 hk2 hS2 => ?_)
    obtain ⟨rfl, hW2, hz2⟩ := hP9
    have hP2 := hP1.keepA hk2 (by omega)
    have hO2 := rg_keepA hO1 hk2 (by intro z h1 h2 h3; have h8 := h3.1; omega)
    have hN2 := rg_keepA hN1 hk2 (by intro z h1 h2 h3; have h8 := h3.1; omega)
    have hF2 := rg_keepA hF1 hk2 (by intro z h1 h2 h3; have h8 := h3.1; omega)
    have hFs2 := rg_keepA hFs1 hk2 (by intro z h1 h2 h3; have h8 := h3.1; omega)
    refine W.eq (g2 := F0 m 313 ls [.ref (b0 + 177 + k), .int (Int32.ofNat k), .ref (b0 + 159)]) rfl ?_
    refine rk_aastC (pc := 313) hx hb hK hF2 hS2 0 9 (by decide) rfl (hA _ (by omega)) (fun _ _ _ => rfl) rfl e2 (rk_recv (ci := 7) (C := RX7) (T := TX7) (N := 2) hK hW2 0 (by decide) rfl rfl rfl) dX0_init_313 (fun H3 locs3 hF3 hS3 hz3 hk3 => ?_)
    rw [e1, show b0 + 177 + k = b0 + (177 + 1 * k) by omega, mAr_s] at hF3
    have hP3 := hP2.keepq hk3 hap
    have hO3 := rg_keepq hO2 hk3 (by omega)
    have hN3 := rg_keepq hN2 hk3 (by omega)
    have hFs3 := rg_keepq hFs2 hk3 (by omega)
    have hW3 := rg_keepq hW2 hk3 (by omega)
    have hFs4 : rg G (b0 + 177) (k + 1) (shFs G b0) mz H3 := rg_eqm (rg_app (n' := 1) hFs3 hW3 (by omega) (fun o ho x y z => by
      show shX0 G.2.1 (177 + (k + o)) b0 x y z = _
      rw [show 177 + (k + o) = 177 + 1 * k + o by omega]
      exact shX0_f177 G.2.1 (by omega) _ (by omega) o ho x y z)) (fun o x y z z' => shX0_z) (fun o ho => by
      refine ⟨?_, ?_⟩
      · funext j9; simp [ptm, mz, vc_X7]
      · funext j9; simp [ptm, mz, vc_X7])
    refine lv_iinc (pc := 314) (v := Int32.ofNat (k + 1)) (lv' := [(1, .int (Int32.ofNat (k + 1))), (0, .ref b0)]) hx hb dX0_init_314 hl (k := 0) rfl (by rw [← e3]; rfl) (by decide) rfl (fun ls hl => ?_)
    refine lv_goto (pc := 317) (tgt := 295) hx hb dX0_init_317 (by decide) ?_
    have h9 := ih (k + 1) (by omega) H3 locs3 ls hP3 hO3 hN3 hF3 hFs4 hS3 (by omega) hl
    exact h9
set_option maxHeartbeats 4000000 in
theorem lp_node (C : Cx G p s m args meth c RX0 cX0_init 2 none) {b0 cells0 slots0 : Nat} {L : List Pc} {vO : Mem} (hO5 : vO.2.2 0 18 = some (b0 + 164)) (hsz : s.heap.size = b0 + 1) (hA : ∀ q, s.heap.size ≤ q → A q) (hap : Ap (b0 + 164) L) (hRc : cells0 + 160 ≤ R.cells) (hRs : slots0 + 920 ≤ R.slots) (hRf : 4 ≤ R.frames) (hRl : 100 ≤ R.locals)
    (kk : ∀ (H : Heap) (locs : List Loc) (ls : Array Slot), PP G (b0 + 197) L H → rg G b0 1 shO_X0 vO H → rg G (b0 + 164) 1 (shNA G) (mAr b0 197 4 40) H → rg G (b0 + 197) 160 (shNs G b0) (mNd 40) H → va_S A s.heap H locs → H.size = b0 + 357 → lv_has ls 2 [(1, .int (40 : Int32)), (0, .ref b0)] → W p l e R s m args below meth c H locs (cells0 + 160) (slots0 + 920) Q (F0 m 348 ls [])) :
    ∀ (j k : Nat), j + k = 40 → ∀ (H : Heap) (locs : List Loc) (ls : Array Slot), PP G (b0 + 197) L H → rg G b0 1 shO_X0 vO H → rg G (b0 + 164) 1 (shNA G) (mAr b0 197 4 k) H → rg G (b0 + 197) (4 * k) (shNs G b0) (mNd k) H → va_S A s.heap H locs → H.size = b0 + 197 + 4 * k → lv_has ls 2 [(1, .int (Int32.ofNat k)), (0, .ref b0)] → W p l e R s m args below meth c H locs (cells0 + 4 * k) (slots0 + 23 * k) Q (F0 m 322 ls []) := by
  obtain ⟨hx, hb, hr, hlk, hml, hown, hts, hK⟩ := id C
  intro j
  induction j with
  | zero =>
    intro k hk H locs ls hP hO hN hNs hS hz hl
    have hk2 : k = 40 := by omega
    subst hk2
    refine lv_iload_n (pc := 322) hx hb dX0_init_322 rfl (lv_at hl 0 rfl) ?_
    refine lv_bipush (pc := 323) (v := (40 : Int32)) hx hb dX0_init_323 (by decide) ?_
    refine lv_icmp_ge (pc := 325) (tgt := 348) hx hb dX0_init_325 (by decide) (fun _ => ?_) (fun h => absurd (by decide) h)
    exact kk H locs ls hP hO hN hNs hS hz hl
  | succ j ih =>
    intro k hk H locs ls hP hO hN hNs hS hz hl
    obtain ⟨e1, e2, e3, e4⟩ := i_of k (by omega)
    refine lv_iload_n (pc := 322) hx hb dX0_init_322 rfl (lv_at hl 0 rfl) ?_
    refine lv_bipush (pc := 323) (v := (40 : Int32)) hx hb dX0_init_323 (by decide) ?_
    refine lv_icmp_ge (pc := 325) (tgt := 348) hx hb dX0_init_325 (by decide) (fun h => absurd h e4) (fun _ => ?_)
    refine lv_aload_n (pc := 328) hx hb dX0_init_328 rfl (lv_at hl 1 rfl) ?_
    refine rk_get (pc := 329) hx hb hts hown hK hO flX0_87 0 (by decide) rfl rfl (x := va_rf (some (b0 + 164))) (congrArg (fun z => some (va_rf z)) hO5) dX0_init_329 ?_
    refine lv_iload_n (pc := 332) hx hb dX0_init_332 rfl (lv_at hl 0 rfl) ?_
    refine rk_new (pc := 333) (h := b0 + 197 + 4 * k) (sh := shO_X8) hx hb hts hown hK hS in_X8 ft_X8 rfl q402 q458 q127 hz rfl (df_X8 _ rfl) (by omega) (by omega) dX0_init_333 (fun H1 hW1 hS1 hz1 hk1 => ?_)
    have hP1 := hP.keepN hz hk1
    have hO1 := rg_keepN hO hz hk1
    have hN1 := rg_keepN hN hz hk1
    have hNs1 := rg_keepN hNs hz hk1
    refine lv_dup (pc := 336) hx hb dX0_init_336 rfl ?_
    refine lv_iload_n (pc := 337) hx hb dX0_init_337 rfl (lv_at hl 0 rfl) ?_
    refine rk_TI (pc := 338) (As := [.int (Int32.ofNat k)]) (rest := [.ref (b0 + 197 + 4 * k), .int (Int32.ofNat k), .ref (b0 + 164)]) (mc := 3) (ms := 15) hx hb hml hown hts hK hS1 (fun q hq => hA q (by omega)) lkX0_114 yn_X8_init_9 (ct_X8_init (G := G) (l := l) (b0 := b0 + 197 + 4 * k) (i1 := Int32.ofNat k) (sz := H1.size) (by omega)) ⟨Nat.le_trans (Nat.le_of_ble_eq_true rfl) hRf, Nat.le_trans (Nat.le_of_ble_eq_true rfl) hRl⟩ (fun z h => hA z (by have h8 := h.1; omega)) hW1 rfl rfl hl.1 (Nat.le_of_ble_eq_true rfl) dX0_init_338 ⟨by omega, by show slots0 + 23 * k + 8 + 15 ≤ _; omega⟩ (fun ov9 H2 locs2 hP9 hk2 hS2 => ?_)
    obtain ⟨rfl, hW2, hz2⟩ := hP9
    have hP2 := hP1.keepA hk2 (by omega)
    have hO2 := rg_keepA hO1 hk2 (by intro z h1 h2 h3; have h8 := h3.1; omega)
    have hN2 := rg_keepA hN1 hk2 (by intro z h1 h2 h3; have h8 := h3.1; omega)
    have hNs2 := rg_keepA hNs1 hk2 (by intro z h1 h2 h3; have h8 := h3.1; omega)
    refine W.eq (g2 := F0 m 341 ls [.ref (b0 + 197 + 4 * k), .int (Int32.ofNat k), .ref (b0 + 164)]) rfl ?_
    refine rk_aastC (pc := 341) hx hb hK hN2 hS2 0 10 (by decide) rfl (hA _ (by omega)) (fun _ _ _ => rfl) rfl e2 (rk_recv (ci := 8) (C := RX8) (T := TX8) (N := 8) hK hW2 0 (by decide) rfl rfl rfl) dX0_init_341 (fun H3 locs3 hN3 hS3 hz3 hk3 => ?_)
    rw [e1, show b0 + 197 + 4 * k = b0 + (197 + 4 * k) by omega, mAr_s] at hN3
    have hP3 := hP2.keepq hk3 hap
    have hO3 := rg_keepq hO2 hk3 (by omega)
    have hNs3 := rg_keepq hNs2 hk3 (by omega)
    have hW3 := rg_keepq hW2 hk3 (by omega)
    have hNs4 : rg G (b0 + 197) (4 * (k + 1)) (shNs G b0) (mNd (k + 1)) H3 := by
      rw [show 4 * (k + 1) = 4 * k + 4 by omega]
      refine rg_eqm (rg_app (n' := 4) hNs3 hW3 (by omega) (fun o ho x y z => by
        show shX0 G.2.1 (197 + (4 * k + o)) b0 x y z = _
        rw [show 197 + (4 * k + o) = 197 + 4 * k + o by omega]
        exact shX0_f197 G.2.1 (by omega) _ (by omega) o ho x y z)) (fun o x y z z' => shX0_z) (fun o ho => ?_)
      by_cases hc : o < 4 * k
      · have h1 : ¬ (4 * k ≤ o ∧ o < 4 * k + 4) := by omega
        have h2 : o < 4 * (k + 1) := by omega
        refine ⟨?_, ?_⟩
        · funext j9; simp [ptm, h1, mNd, hc, h2]
        · funext j9; simp [ptm, h1, mNd]
      · obtain ⟨d, rfl⟩ : ∃ d, o = 4 * k + d := ⟨o - 4 * k, by omega⟩
        have hd : d < 4 := by omega
        have h1 : (4 * k ≤ 4 * k + d ∧ 4 * k + d < 4 * k + 4) := by omega
        have h3 : (4 * k + d) / 4 = k := by omega
        have h4 : 4 * k + d < 4 * (k + 1) := by omega
        have h5 : (4 * k + d) % 4 = d := by omega
        have h6 : (vc_X8 (b0 + 197 + 4 * k) (Int32.ofNat k)).1 d = (fun j9 => if j9 = 0 ∧ d = 0 then Int32.ofNat k else 0) ∧ (vc_X8 (b0 + 197 + 4 * k) (Int32.ofNat k)).2.1 d = fun _ => 0 := by
          match d, hd with
          | 0, _ => exact ⟨by funext j9; by_cases hj : j9 = 0 <;> simp [vc_X8, vf_X8_init_3, vf_X8_init_2, vf_X8_init_1, vi_X8_init_63, ptm, sI, mz, hj], rfl⟩
          | 1, _ => exact ⟨by funext j9; simp [vc_X8, vf_X8_init_3, vf_X8_init_2, vf_X8_init_1, vi_X8_init_63, ptm, sI, mz], rfl⟩
          | 2, _ => exact ⟨by funext j9; simp [vc_X8, vf_X8_init_3, vf_X8_init_2, vf_X8_init_1, vi_X8_init_63, ptm, sI, mz], rfl⟩
          | 3, _ => exact ⟨by funext j9; simp [vc_X8, vf_X8_init_3, vf_X8_init_2, vf_X8_init_1, vi_X8_init_63, ptm, sI, mz], rfl⟩
        refine ⟨?_, ?_⟩
        · funext j9
          show (if 4 * k ≤ 4 * k + d ∧ 4 * k + d < 4 * k + 4 then (vc_X8 (b0 + 197 + 4 * k) (Int32.ofNat k)).1 (4 * k + d - 4 * k) else _) j9 = _
          rw [if_pos h1, show 4 * k + d - 4 * k = d by omega, h6.1]
          simp only [mNd, h3, h4, h5, and_true]
        · funext j9
          show (if 4 * k ≤ 4 * k + d ∧ 4 * k + d < 4 * k + 4 then (vc_X8 (b0 + 197 + 4 * k) (Int32.ofNat k)).2.1 (4 * k + d - 4 * k) else _) j9 = _
          rw [if_pos h1, show 4 * k + d - 4 * k = d by omega, h6.2]
          rfl
    refine lv_iinc (pc := 342) (v := Int32.ofNat (k + 1)) (lv' := [(1, .int (Int32.ofNat (k + 1))), (0, .ref b0)]) hx hb dX0_init_342 hl (k := 0) rfl (by rw [← e3]; rfl) (by decide) rfl (fun ls hl => ?_)
    refine lv_goto (pc := 345) (tgt := 322) hx hb dX0_init_345 (by decide) ?_
    have h9 := ih (k + 1) (by omega) H3 locs3 ls hP3 hO3 hN3 hNs4 hS3 (by omega) hl
    rw [show cells0 + 4 * (k + 1) = cells0 + 4 * k + 1 + 3 by omega, show slots0 + 23 * (k + 1) = slots0 + 23 * k + 8 + 15 by omega] at h9
    exact h9
end CTL
/-- the pool as the constructor leaves it -/
def vp0 (b : Nat) : Mem := (fun o j => if j = 99 then (if o = b + 153 ∨ o = b + 154 then 16 else if o = b + 160 ∨ o = b + 165 then 17 else if o = b + 161 then 5 else if o = b + 162 ∨ o = b + 166 then 44 else if b + 168 ≤ o ∧ o ≤ b + 173 then 6 else 0) else if j = 98 then (if o = b + 162 ∨ o = b + 166 then 11 else 0) else 0, fun _ _ => 0, fun o j => if o = b + 160 ∧ j = 0 then some (b + 162) else if o = b + 160 ∧ j = 2 then some (b + 161) else if o = b + 165 ∧ j = 0 then some (b + 166) else none)
theorem vp0_at {b o : Nat} (h : (vp0 b).1 o 99 ≠ 0) : o = b + 153 ∨ o = b + 154 ∨ o = b + 160 ∨ o = b + 161 ∨ o = b + 162 ∨ o = b + 165 ∨ o = b + 166 ∨ o = b + 168 ∨ o = b + 169 ∨ o = b + 170 ∨ o = b + 171 ∨ o = b + 172 ∨ o = b + 173 := by
  apply Classical.byContradiction
  intro hn
  apply h
  show (if o = b + 153 ∨ o = b + 154 then (16 : Int32) else if o = b + 160 ∨ o = b + 165 then 17 else if o = b + 161 then 5 else if o = b + 162 ∨ o = b + 166 then 44 else if b + 168 ≤ o ∧ o ≤ b + 173 then 6 else 0) = 0
  rw [if_neg (by omega), if_neg (by omega), if_neg (by omega), if_neg (by omega), if_neg (by omega)]
theorem va_same {D : va_G} {cl : List vw_C} {q : Nat} {e e' : va_E} {q' : Nat} {H : Heap} (h : va_at D cl (q, e) H) (hq : q = q') (he : e = e') : va_at D cl (q', e') H := by
  subst hq
  subst he
  exact h
theorem i11 : (11 : Int32).toNatClampNeg = 11 := rfl
def vo_X0_init_24 (b0 : Nat) : Mem := sR mz 0 0 (some (b0 + 1))
def vo_X0_init_53 (b0 : Nat) : Mem := sR (vo_X0_init_24 b0) 0 1 (some (b0 + 23))
def vo_X0_init_82 (b0 : Nat) : Mem := sR (vo_X0_init_53 b0) 0 2 (some (b0 + 45))
def vo_X0_init_111 (b0 : Nat) : Mem := sR (vo_X0_init_82 b0) 0 3 (some (b0 + 67))
def vo_X0_init_140 (b0 : Nat) : Mem := sR (vo_X0_init_111 b0) 0 4 (some (b0 + 110))
def vo_X0_init_169 (b0 : Nat) : Mem := sR (vo_X0_init_140 b0) 0 7 (some (b0 + 153))
def vo_X0_init_198 (b0 : Nat) : Mem := sR (vo_X0_init_169 b0) 0 8 (some (b0 + 154))
def vo_X0_init_215 (b0 : Nat) : Mem := sR (vo_X0_init_198 b0) 0 9 (some (b0 + 155))
def vo_X0_init_234 (b0 : Nat) : Mem := sR (vo_X0_init_215 b0) 0 10 (some (b0 + 156))
def vo_X0_init_255 (b0 : Nat) : Mem := sR (vo_X0_init_234 b0) 0 11 (some (b0 + 157))
def vo_X0_init_281 (b0 : Nat) : Mem := sR (vo_X0_init_255 b0) 0 13 (some (b0 + 158))
def vo_X0_init_307 (b0 : Nat) : Mem := sR (vo_X0_init_281 b0) 0 14 (some (b0 + 159))
def vo_X0_init_387 (b0 : Nat) : Mem := sR (vo_X0_init_307 b0) 0 15 (some (b0 + 160))
def vo_X0_init_410 (b0 : Nat) : Mem := sR (vo_X0_init_387 b0) 0 17 (some (b0 + 163))
def vo_X0_init_439 (b0 : Nat) : Mem := sR (vo_X0_init_410 b0) 0 18 (some (b0 + 164))
def vo_X0_init_491 (b0 : Nat) : Mem := sR (vo_X0_init_439 b0) 0 19 (some (b0 + 165))
def vq_X0_init_552 (b0 : Nat) : Mem := sR mz 0 (0 : Int32).toNatClampNeg (some (b0 + 168))
def vq_X0_init_601 (b0 : Nat) : Mem := sR (vq_X0_init_552 b0) 0 (1 : Int32).toNatClampNeg (some (b0 + 169))
def vq_X0_init_650 (b0 : Nat) : Mem := sR (vq_X0_init_601 b0) 0 (2 : Int32).toNatClampNeg (some (b0 + 170))
def vq_X0_init_699 (b0 : Nat) : Mem := sR (vq_X0_init_650 b0) 0 (3 : Int32).toNatClampNeg (some (b0 + 171))
def vq_X0_init_748 (b0 : Nat) : Mem := sR (vq_X0_init_699 b0) 0 (4 : Int32).toNatClampNeg (some (b0 + 172))
def vq_X0_init_797 (b0 : Nat) : Mem := sR (vq_X0_init_748 b0) 0 (5 : Int32).toNatClampNeg (some (b0 + 173))
def vo_X0_init_810 (b0 : Nat) : Mem := sR (vo_X0_init_491 b0) 0 24 (some (b0 + 167))
def vq_X0_init_824 (dA : Nat → ClassId) (b0 : Nat) : Mem := sR mz 0 (0 : Int32).toNatClampNeg (some (dA 28))
def vq_X0_init_838 (dA : Nat → ClassId) (b0 : Nat) : Mem := sR (vq_X0_init_824 dA b0) 0 (1 : Int32).toNatClampNeg (some (dA 29))
def vq_X0_init_873 (dA : Nat → ClassId) (b0 : Nat) : Mem := sR mz 0 (0 : Int32).toNatClampNeg (some (b0 + 174))
def vq_X0_init_908 (dA : Nat → ClassId) (b0 : Nat) : Mem := sR (vq_X0_init_873 dA b0) 0 (1 : Int32).toNatClampNeg (some (b0 + 175))
def vq_X0_init_943 (dA : Nat → ClassId) (b0 : Nat) : Mem := sR (vq_X0_init_908 dA b0) 0 (2 : Int32).toNatClampNeg (some (b0 + 176))
def vf_X0_init_1 (b0 : Nat) : Mem := ptm (mz) 1 22 ((vc_X1 (b0 + 1)))
def vf_X0_init_23 (b0 : Nat) : Mem := ptm (vf_X0_init_1 b0) 23 22 ((vc_X1 (b0 + 23)))
def vf_X0_init_45 (b0 : Nat) : Mem := ptm (vf_X0_init_23 b0) 45 22 ((vc_X1 (b0 + 45)))
def vf_X0_init_67 (b0 : Nat) : Mem := ptm (vf_X0_init_45 b0) 67 43 ((vc_X3 (b0 + 67)))
def vf_X0_init_110 (b0 : Nat) : Mem := ptm (vf_X0_init_67 b0) 110 43 ((vc_X3 (b0 + 110)))
def vf_X0_init_155 (b0 : Nat) : Mem := ptm (vf_X0_init_110 b0) 155 1 mz
def vf_X0_init_156 (b0 : Nat) : Mem := ptm (vf_X0_init_155 b0) 156 1 mz
def vf_X0_init_157 (b0 : Nat) : Mem := ptm (vf_X0_init_156 b0) 157 1 mz
def vf_X0_init_158 (b0 : Nat) : Mem := ptm (vf_X0_init_157 b0) 158 1 mz
def vf_X0_init_159 (b0 : Nat) : Mem := ptm (vf_X0_init_158 b0) 159 1 mz
def vf_X0_init_163 (b0 : Nat) : Mem := ptm (vf_X0_init_159 b0) 163 1 mz
def vf_X0_init_164 (b0 : Nat) : Mem := ptm (vf_X0_init_163 b0) 164 1 mz
def vf_X0_init_167 (b0 : Nat) : Mem := ptm (vf_X0_init_164 b0) 167 1 mz
def vf_X0_init_174 (b0 : Nat) : Mem := ptm (vf_X0_init_167 b0) 174 1 mz
def vf_X0_init_175 (b0 : Nat) : Mem := ptm (vf_X0_init_174 b0) 175 1 mz
def vf_X0_init_176 (b0 : Nat) : Mem := ptm (vf_X0_init_175 b0) 176 1 mz
def vf_X0_init_177 (b0 : Nat) : Mem := ptm (vf_X0_init_176 b0) 177 20 mz
def vf_X0_init_197 (b0 : Nat) : Mem := ptm (vf_X0_init_177 b0) 197 160 (mNd 40)
def vc_X0 (b0 : Nat) : Mem := (vf_X0_init_197 b0)
set_option maxHeartbeats 8000000 in
theorem ct_X0_init {G : Gv} {l : Launch} {b0 : Nat} {sz : Nat} (hsz : sz = b0 + 1) (hgb : gB G ≤ b0) (hZL : ZL G) (hZI : ZI G) : CT G l yX0_init (ws_ yX0_init cX0_init 2 none) 5 356 2752 3088 [.ref b0] (iv b0 357) sz (fun H => rg G b0 1 shO_X0 mz H ∧ GO G H) (fun ov H => ov = none ∧ rg G b0 357 (shX0 G.2.1) (vc_X0 b0) H ∧ (∀ PL : Nat → Bool, pl G PL (vp0 b0) H) ∧ H.size = b0 + 357) := by
  refine Met.ofW (cc := cX0_init) (maxL := 2) (ret := none) (by decide +kernel) rfl ?_
  intro p e s m args below meth c s₁ B hml hv
  obtain ⟨rfl, ⟨hz, hW0, hG⟩, hK⟩ := hv
  subst hz
  have hz0 : s.heap.size = b0 + 1 := hsz
  have hz : s.heap.size = b0 + 1 := hsz
  have hnm := B.named
  have hin : meth.name = "<init>" := (name_of_methodNamed B.named B.method).1
  have hts := atoms_spec (ws := ws_ yX0_init cX0_init 2 none) B.pre
  have hts : ∀ w ∈ lw_all, w.before _ s = true := fun w h => hts w (List.mem_cons_of_mem _ h)
  have C : Cx G p s m _ meth c RX0 cX0_init 2 none := ⟨B.exec, B.bytes, B.returns, B.notSynchronized, hml, findClass_of_methodNamed B.named, hts, hK⟩
  obtain ⟨hx, hb, hr, hlk, hml, hown, hts, hK⟩ := id C
  have hl := lv_entry ([.ref b0]) (n := 2) (Nat.le_of_ble_eq_true rfl)
  rw [lg_entry_eq]
  generalize (lg_sl ([.ref b0]) ++ List.replicate (2 - (lg_sl ([.ref b0])).length) Slot.unset).toArray = ls at hl ⊢
  have hl : lv_has ls 2 [(0, .ref b0)] := hl
  have hS0 : va_S (FA (iv b0 357) s.heap.size) s.heap s.heap [] := va_S.rf
  refine lv_aload_n (pc := 0) hx hb dX0_init_0 rfl (lv_at hl 0 rfl) ?_
  refine W.objInit hx hb hown (hts _ q158) (hts _ q159) (hts _ q160) rfl (by rw [hml]; exact hl.1) rfl dX0_init_1 (Nat.le_of_ble_eq_true rfl) (Nat.le_of_ble_eq_true rfl) ?_
  refine W.eq (g2 := F0 m 4 ls []) rfl ?_
  refine lv_aload_n (pc := 4) hx hb dX0_init_4 rfl (lv_at hl 0 rfl) ?_
  refine rk_new (pc := 5) (h := b0 + 1) (sh := (shO_X1)) hx hb hts hown hK hS0 in_X1 ft_X1 rfl q161 q162 q115 hz rfl (df_X1 _ rfl) (Nat.le_of_ble_eq_true rfl) (Nat.le_of_ble_eq_true rfl) dX0_init_5 (fun H1 hW2 hS3 hz4 hkp5 => ?_)
  have hW6 := rg_keepN hW0 hz hkp5
  have hz7 : H1.size = b0 + 2 := by omega
  clear hW0 hS0 hz hz4 hkp5
  refine lv_dup (pc := 8) hx hb dX0_init_8 rfl ?_
  refine rk_TI (pc := 9) (As := []) (rest := [.ref (b0 + 1), .ref b0]) (mc := 21) (ms := 119) hx hb hml hown hts hK hS3 (fun q hq => FA_sz rfl q hq) lkX0_11 yn_X1_init (ct_X1_init (G := G) (l := l) (b0 := (b0 + 1)) (sz := H1.size) (by omega)) ⟨Nat.le_of_ble_eq_true rfl, Nat.le_of_ble_eq_true rfl⟩ (fun z h => Or.inr (by have h8 := h.1; omega)) hW2 rfl rfl hl.1 (Nat.le_of_ble_eq_true rfl) dX0_init_9 ⟨Nat.le_of_ble_eq_true rfl, Nat.le_of_ble_eq_true rfl⟩ (fun ov9 H8 locs9 hP10 hkp11 hS12 => ?_)
  obtain ⟨rfl, hW13, hz14⟩ := hP10
  have hW15 := rg_keepA hW6 hkp11 (by intro z h1 h2 h3; have h8 := h3.1; have h9 := h3.2; omega)
  have hz16 : H8.size = b0 + 23 := by omega
  have ap17 := Ap.cons (x := ((b0 + 1), 22, (shX1 G.2.1), (vc_X1 (b0 + 1)))) (Or.inl (show b0 < (b0 + 1) by omega)) (Ap.nil (q := b0))
  have hP18 := PP.cons (hi' := b0 + 23) hW13 (PP.nil (hi := b0)) (by omega) (by omega)
  clear hW6 hz7 hz14 hkp11 hS3 hW2 hW13
  refine W.eq (g2 := F0 m 12 ls [.ref (b0 + 1), .ref b0]) rfl ?_
  refine rk_putF (pc := 12) (q := b0) hx hb hts hown hK hW15 hS12 flX0_12 ft_X0 0 (by decide) rfl (Or.inl (show iv _ _ _ from ⟨by omega, by omega⟩)) rfl rfl hin rfl (x := va_rf (some (b0 + 1))) (rf_nar _ rfl (some (b0 + 1))) (rf_fit _ rfl (some (b0 + 1))) (Nat.le_of_ble_eq_true rfl) (sR mz 0 0 (some (b0 + 1))) sR_ne (by rw [sR_eq]; rfl) dX0_init_12 (fun H19 locs20 hW21 hS22 hz23 hkp24 => ?_)
  have hW21 : rg G b0 1 shO_X0 (vo_X0_init_24 b0) H19 := hW21
  have hP25 := PP.keepq hP18 hkp24 ap17
  have hz26 := hz23.trans hz16
  clear hW15 hP18 hz16 hz23 hS12 hkp24
  refine lv_aload_n (pc := 15) hx hb dX0_init_15 rfl (lv_at hl 0 rfl) ?_
  refine rk_new (pc := 16) (h := b0 + 23) (sh := (shO_X1)) hx hb hts hown hK hS22 in_X1 ft_X1 rfl q161 q162 q115 hz26 rfl (df_X1 _ rfl) (Nat.le_of_ble_eq_true rfl) (Nat.le_of_ble_eq_true rfl) dX0_init_16 (fun H27 hW28 hS29 hz30 hkp31 => ?_)
  have hW32 := rg_keepN hW21 hz26 hkp31
  have hP33 := PP.keepN hP25 hz26 hkp31
  have ap34 := PP.ap (q := (b0 + 23)) hP33 (by omega)
  have hz35 : H27.size = b0 + 24 := by omega
  clear hW21 hP25 hS22 hz26 hz30 hkp31
  refine lv_dup (pc := 19) hx hb dX0_init_19 rfl ?_
  refine rk_TI (pc := 20) (As := []) (rest := [.ref (b0 + 23), .ref b0]) (mc := 21) (ms := 119) hx hb hml hown hts hK hS29 (fun q hq => FA_sz rfl q hq) lkX0_11 yn_X1_init (ct_X1_init (G := G) (l := l) (b0 := (b0 + 23)) (sz := H27.size) (by omega)) ⟨Nat.le_of_ble_eq_true rfl, Nat.le_of_ble_eq_true rfl⟩ (fun z h => Or.inr (by have h8 := h.1; omega)) hW28 rfl rfl hl.1 (Nat.le_of_ble_eq_true rfl) dX0_init_20 ⟨Nat.le_of_ble_eq_true rfl, Nat.le_of_ble_eq_true rfl⟩ (fun ov9 H36 locs37 hP38 hkp39 hS40 => ?_)
  obtain ⟨rfl, hW41, hz42⟩ := hP38
  have hW43 := rg_keepA hW32 hkp39 (by intro z h1 h2 h3; have h8 := h3.1; have h9 := h3.2; omega)
  have hP44 := PP.keepA hP33 hkp39 (by omega)
  have hz45 : H36.size = b0 + 45 := by omega
  have ap46 := Ap.cons (x := ((b0 + 23), 22, (shX1 G.2.1), (vc_X1 (b0 + 23)))) (Or.inl (show b0 < (b0 + 23) by omega)) ap17
  have hP47 := PP.cons (hi' := b0 + 45) hW41 hP44 (by omega) (by omega)
  clear hW32 hP33 hz35 hz42 hkp39 hS29 hW28 ap34 ap17 hP44 hW41
  refine W.eq (g2 := F0 m 23 ls [.ref (b0 + 23), .ref b0]) rfl ?_
  refine rk_putF (pc := 23) (q := b0) hx hb hts hown hK hW43 hS40 flX0_18 ft_X0 0 (by decide) rfl (Or.inl (show iv _ _ _ from ⟨by omega, by omega⟩)) rfl rfl hin rfl (x := va_rf (some (b0 + 23))) (rf_nar _ rfl (some (b0 + 23))) (rf_fit _ rfl (some (b0 + 23))) (Nat.le_of_ble_eq_true rfl) (sR (vo_X0_init_24 b0) 0 1 (some (b0 + 23))) sR_ne (by rw [sR_eq]; rfl) dX0_init_23 (fun H48 locs49 hW50 hS51 hz52 hkp53 => ?_)
  have hW50 : rg G b0 1 shO_X0 (vo_X0_init_53 b0) H48 := hW50
  have hP54 := PP.keepq hP47 hkp53 ap46
  have hz55 := hz52.trans hz45
  clear hW43 hP47 hz45 hz52 hS40 hkp53
  refine lv_aload_n (pc := 26) hx hb dX0_init_26 rfl (lv_at hl 0 rfl) ?_
  refine rk_new (pc := 27) (h := b0 + 45) (sh := (shO_X1)) hx hb hts hown hK hS51 in_X1 ft_X1 rfl q161 q162 q115 hz55 rfl (df_X1 _ rfl) (Nat.le_of_ble_eq_true rfl) (Nat.le_of_ble_eq_true rfl) dX0_init_27 (fun H56 hW57 hS58 hz59 hkp60 => ?_)
  have hW61 := rg_keepN hW50 hz55 hkp60
  have hP62 := PP.keepN hP54 hz55 hkp60
  have ap63 := PP.ap (q := (b0 + 45)) hP62 (by omega)
  have hz64 : H56.size = b0 + 46 := by omega
  clear hW50 hP54 hS51 hz55 hz59 hkp60
  refine lv_dup (pc := 30) hx hb dX0_init_30 rfl ?_
  refine rk_TI (pc := 31) (As := []) (rest := [.ref (b0 + 45), .ref b0]) (mc := 21) (ms := 119) hx hb hml hown hts hK hS58 (fun q hq => FA_sz rfl q hq) lkX0_11 yn_X1_init (ct_X1_init (G := G) (l := l) (b0 := (b0 + 45)) (sz := H56.size) (by omega)) ⟨Nat.le_of_ble_eq_true rfl, Nat.le_of_ble_eq_true rfl⟩ (fun z h => Or.inr (by have h8 := h.1; omega)) hW57 rfl rfl hl.1 (Nat.le_of_ble_eq_true rfl) dX0_init_31 ⟨Nat.le_of_ble_eq_true rfl, Nat.le_of_ble_eq_true rfl⟩ (fun ov9 H65 locs66 hP67 hkp68 hS69 => ?_)
  obtain ⟨rfl, hW70, hz71⟩ := hP67
  have hW72 := rg_keepA hW61 hkp68 (by intro z h1 h2 h3; have h8 := h3.1; have h9 := h3.2; omega)
  have hP73 := PP.keepA hP62 hkp68 (by omega)
  have hz74 : H65.size = b0 + 67 := by omega
  have ap75 := Ap.cons (x := ((b0 + 45), 22, (shX1 G.2.1), (vc_X1 (b0 + 45)))) (Or.inl (show b0 < (b0 + 45) by omega)) ap46
  have hP76 := PP.cons (hi' := b0 + 67) hW70 hP73 (by omega) (by omega)
  clear hW61 hP62 hz64 hz71 hkp68 hS58 hW57 ap63 ap46 hP73 hW70
  refine W.eq (g2 := F0 m 34 ls [.ref (b0 + 45), .ref b0]) rfl ?_
  refine rk_putF (pc := 34) (q := b0) hx hb hts hown hK hW72 hS69 flX0_21 ft_X0 0 (by decide) rfl (Or.inl (show iv _ _ _ from ⟨by omega, by omega⟩)) rfl rfl hin rfl (x := va_rf (some (b0 + 45))) (rf_nar _ rfl (some (b0 + 45))) (rf_fit _ rfl (some (b0 + 45))) (Nat.le_of_ble_eq_true rfl) (sR (vo_X0_init_53 b0) 0 2 (some (b0 + 45))) sR_ne (by rw [sR_eq]; rfl) dX0_init_34 (fun H77 locs78 hW79 hS80 hz81 hkp82 => ?_)
  have hW79 : rg G b0 1 shO_X0 (vo_X0_init_82 b0) H77 := hW79
  have hP83 := PP.keepq hP76 hkp82 ap75
  have hz84 := hz81.trans hz74
  clear hW72 hP76 hz74 hz81 hS69 hkp82
  refine lv_aload_n (pc := 37) hx hb dX0_init_37 rfl (lv_at hl 0 rfl) ?_
  refine rk_new (pc := 38) (h := b0 + 67) (sh := (shO_X3)) hx hb hts hown hK hS80 in_X3 ft_X3 rfl q240 q241 q117 hz84 rfl (df_X3 _ rfl) (Nat.le_of_ble_eq_true rfl) (Nat.le_of_ble_eq_true rfl) dX0_init_38 (fun H85 hW86 hS87 hz88 hkp89 => ?_)
  have hW90 := rg_keepN hW79 hz84 hkp89
  have hP91 := PP.keepN hP83 hz84 hkp89
  have ap92 := PP.ap (q := (b0 + 67)) hP91 (by omega)
  have hz93 : H85.size = b0 + 68 := by omega
  clear hW79 hP83 hS80 hz84 hz88 hkp89
  refine lv_dup (pc := 41) hx hb dX0_init_41 rfl ?_
  refine rk_TI (pc := 42) (As := []) (rest := [.ref (b0 + 67), .ref b0]) (mc := 42) (ms := 580) hx hb hml hown hts hK hS87 (fun q hq => FA_sz rfl q hq) lkX0_26 yn_X3_init (ct_X3_init (G := G) (l := l) (b0 := (b0 + 67)) (sz := H85.size) (by omega)) ⟨Nat.le_of_ble_eq_true rfl, Nat.le_of_ble_eq_true rfl⟩ (fun z h => Or.inr (by have h8 := h.1; omega)) hW86 rfl rfl hl.1 (Nat.le_of_ble_eq_true rfl) dX0_init_42 ⟨Nat.le_of_ble_eq_true rfl, Nat.le_of_ble_eq_true rfl⟩ (fun ov9 H94 locs95 hP96 hkp97 hS98 => ?_)
  obtain ⟨rfl, hW99, hz100⟩ := hP96
  have hW101 := rg_keepA hW90 hkp97 (by intro z h1 h2 h3; have h8 := h3.1; have h9 := h3.2; omega)
  have hP102 := PP.keepA hP91 hkp97 (by omega)
  have hz103 : H94.size = b0 + 110 := by omega
  have ap104 := Ap.cons (x := ((b0 + 67), 43, (shX3 G.2.1), (vc_X3 (b0 + 67)))) (Or.inl (show b0 < (b0 + 67) by omega)) ap75
  have hP105 := PP.cons (hi' := b0 + 110) hW99 hP102 (by omega) (by omega)
  clear hW90 hP91 hz93 hz100 hkp97 hS87 hW86 ap92 ap75 hP102 hW99
  refine W.eq (g2 := F0 m 45 ls [.ref (b0 + 67), .ref b0]) rfl ?_
  refine rk_putF (pc := 45) (q := b0) hx hb hts hown hK hW101 hS98 flX0_27 ft_X0 0 (by decide) rfl (Or.inl (show iv _ _ _ from ⟨by omega, by omega⟩)) rfl rfl hin rfl (x := va_rf (some (b0 + 67))) (rf_nar _ rfl (some (b0 + 67))) (rf_fit _ rfl (some (b0 + 67))) (Nat.le_of_ble_eq_true rfl) (sR (vo_X0_init_82 b0) 0 3 (some (b0 + 67))) sR_ne (by rw [sR_eq]; rfl) dX0_init_45 (fun H106 locs107 hW108 hS109 hz110 hkp111 => ?_)
  have hW108 : rg G b0 1 shO_X0 (vo_X0_init_111 b0) H106 := hW108
  have hP112 := PP.keepq hP105 hkp111 ap104
  have hz113 := hz110.trans hz103
  clear hW101 hP105 hz103 hz110 hS98 hkp111
  refine lv_aload_n (pc := 48) hx hb dX0_init_48 rfl (lv_at hl 0 rfl) ?_
  refine rk_new (pc := 49) (h := b0 + 110) (sh := (shO_X3)) hx hb hts hown hK hS109 in_X3 ft_X3 rfl q240 q241 q117 hz113 rfl (df_X3 _ rfl) (Nat.le_of_ble_eq_true rfl) (Nat.le_of_ble_eq_true rfl) dX0_init_49 (fun H114 hW115 hS116 hz117 hkp118 => ?_)
  have hW119 := rg_keepN hW108 hz113 hkp118
  have hP120 := PP.keepN hP112 hz113 hkp118
  have ap121 := PP.ap (q := (b0 + 110)) hP120 (by omega)
  have hz122 : H114.size = b0 + 111 := by omega
  clear hW108 hP112 hS109 hz113 hz117 hkp118
  refine lv_dup (pc := 52) hx hb dX0_init_52 rfl ?_
  refine rk_TI (pc := 53) (As := []) (rest := [.ref (b0 + 110), .ref b0]) (mc := 42) (ms := 580) hx hb hml hown hts hK hS116 (fun q hq => FA_sz rfl q hq) lkX0_26 yn_X3_init (ct_X3_init (G := G) (l := l) (b0 := (b0 + 110)) (sz := H114.size) (by omega)) ⟨Nat.le_of_ble_eq_true rfl, Nat.le_of_ble_eq_true rfl⟩ (fun z h => Or.inr (by have h8 := h.1; omega)) hW115 rfl rfl hl.1 (Nat.le_of_ble_eq_true rfl) dX0_init_53 ⟨Nat.le_of_ble_eq_true rfl, Nat.le_of_ble_eq_true rfl⟩ (fun ov9 H123 locs124 hP125 hkp126 hS127 => ?_)
  obtain ⟨rfl, hW128, hz129⟩ := hP125
  have hW130 := rg_keepA hW119 hkp126 (by intro z h1 h2 h3; have h8 := h3.1; have h9 := h3.2; omega)
  have hP131 := PP.keepA hP120 hkp126 (by omega)
  have hz132 : H123.size = b0 + 153 := by omega
  have ap133 := Ap.cons (x := ((b0 + 110), 43, (shX3 G.2.1), (vc_X3 (b0 + 110)))) (Or.inl (show b0 < (b0 + 110) by omega)) ap104
  have hP134 := PP.cons (hi' := b0 + 153) hW128 hP131 (by omega) (by omega)
  clear hW119 hP120 hz122 hz129 hkp126 hS116 hW115 ap121 ap104 hP131 hW128
  refine W.eq (g2 := F0 m 56 ls [.ref (b0 + 110), .ref b0]) rfl ?_
  refine rk_putF (pc := 56) (q := b0) hx hb hts hown hK hW130 hS127 flX0_31 ft_X0 0 (by decide) rfl (Or.inl (show iv _ _ _ from ⟨by omega, by omega⟩)) rfl rfl hin rfl (x := va_rf (some (b0 + 110))) (rf_nar _ rfl (some (b0 + 110))) (rf_fit _ rfl (some (b0 + 110))) (Nat.le_of_ble_eq_true rfl) (sR (vo_X0_init_111 b0) 0 4 (some (b0 + 110))) sR_ne (by rw [sR_eq]; rfl) dX0_init_56 (fun H135 locs136 hW137 hS138 hz139 hkp140 => ?_)
  have hW137 : rg G b0 1 shO_X0 (vo_X0_init_140 b0) H135 := hW137
  have hP141 := PP.keepq hP134 hkp140 ap133
  have hz142 := hz139.trans hz132
  clear hW130 hP134 hz132 hz139 hS127 hkp140
  refine lv_aload_n (pc := 59) hx hb dX0_init_59 rfl (lv_at hl 0 rfl) ?_
  refine rk_new (pc := 60) (h := b0 + 153) (sh := (shO_J1)) hx hb hts hown hK hS138 in_J1 ft_J1 rfl q324 q325 q120 hz142 rfl (df_J1 _ rfl) (Nat.le_of_ble_eq_true rfl) (Nat.le_of_ble_eq_true rfl) dX0_init_60 (fun H143 hW144 hS145 hz146 hkp147 => ?_)
  have hW148 := rg_keepN hW137 hz142 hkp147
  have hP149 := PP.keepN hP141 hz142 hkp147
  have ap150 := PP.ap (q := (b0 + 153)) hP149 (by omega)
  have hz151 : H143.size = b0 + 154 := by omega
  clear hW137 hP141 hS138 hz142 hz146 hkp147
  refine lv_dup (pc := 63) hx hb dX0_init_63 rfl ?_
  refine rk_TI (pc := 64) (As := []) (rest := [.ref (b0 + 153), .ref b0]) (mc := 0) (ms := 0) hx hb hml hown hts hK hS145 (fun q hq => FA_sz rfl q hq) lkX0_36 yn_J1_init (ct_J1_init (G := G) (l := l) (b0 := (b0 + 153)) (sz := H143.size) (by omega)) ⟨Nat.le_of_ble_eq_true rfl, Nat.le_of_ble_eq_true rfl⟩ (fun z h => Or.inr (by have h8 := h.1; omega)) hW144 rfl rfl hl.1 (Nat.le_of_ble_eq_true rfl) dX0_init_64 ⟨Nat.le_of_ble_eq_true rfl, Nat.le_of_ble_eq_true rfl⟩ (fun ov9 H152 locs153 hP154 hkp155 hS156 => ?_)
  obtain ⟨rfl, hW157, hz158⟩ := hP154
  have hW159 := rg_keepA hW148 hkp155 (by intro z h1 h2 h3; have h8 := h3.1; have h9 := h3.2; omega)
  have hP160 := PP.keepA hP149 hkp155 (by omega)
  have hz161 : H152.size = b0 + 154 := by omega
  have ap162 := Ap.cons (x := ((b0 + 153), 1, (shJ1 G.2.1), (vc_J1 (b0 + 153)))) (Or.inl (show b0 < (b0 + 153) by omega)) ap133
  have hP163 := PP.cons (hi' := b0 + 154) hW157 hP160 (by omega) (by omega)
  clear hW148 hP149 hz151 hz158 hkp155 hS145 hW144 ap150 ap133 hP160 hW157
  refine W.eq (g2 := F0 m 67 ls [.ref (b0 + 153), .ref b0]) rfl ?_
  refine rk_putF (pc := 67) (q := b0) hx hb hts hown hK hW159 hS156 flX0_37 ft_X0 0 (by decide) rfl (Or.inl (show iv _ _ _ from ⟨by omega, by omega⟩)) rfl rfl hin rfl (x := va_rf (some (b0 + 153))) (rf_nar _ rfl (some (b0 + 153))) (rf_fit _ rfl (some (b0 + 153))) (Nat.le_of_ble_eq_true rfl) (sR (vo_X0_init_140 b0) 0 7 (some (b0 + 153))) sR_ne (by rw [sR_eq]; rfl) dX0_init_67 (fun H164 locs165 hW166 hS167 hz168 hkp169 => ?_)
  have hW166 : rg G b0 1 shO_X0 (vo_X0_init_169 b0) H164 := hW166
  have hP170 := PP.keepq hP163 hkp169 ap162
  have hz171 := hz168.trans hz161
  clear hW159 hP163 hz161 hz168 hS156 hkp169
  refine lv_aload_n (pc := 70) hx hb dX0_init_70 rfl (lv_at hl 0 rfl) ?_
  refine rk_new (pc := 71) (h := b0 + 154) (sh := (shO_J1)) hx hb hts hown hK hS167 in_J1 ft_J1 rfl q324 q325 q120 hz171 rfl (df_J1 _ rfl) (Nat.le_of_ble_eq_true rfl) (Nat.le_of_ble_eq_true rfl) dX0_init_71 (fun H172 hW173 hS174 hz175 hkp176 => ?_)
  have hW177 := rg_keepN hW166 hz171 hkp176
  have hP178 := PP.keepN hP170 hz171 hkp176
  have ap179 := PP.ap (q := (b0 + 154)) hP178 (by omega)
  have hz180 : H172.size = b0 + 155 := by omega
  clear hW166 hP170 hS167 hz171 hz175 hkp176
  refine lv_dup (pc := 74) hx hb dX0_init_74 rfl ?_
  refine rk_TI (pc := 75) (As := []) (rest := [.ref (b0 + 154), .ref b0]) (mc := 0) (ms := 0) hx hb hml hown hts hK hS174 (fun q hq => FA_sz rfl q hq) lkX0_36 yn_J1_init (ct_J1_init (G := G) (l := l) (b0 := (b0 + 154)) (sz := H172.size) (by omega)) ⟨Nat.le_of_ble_eq_true rfl, Nat.le_of_ble_eq_true rfl⟩ (fun z h => Or.inr (by have h8 := h.1; omega)) hW173 rfl rfl hl.1 (Nat.le_of_ble_eq_true rfl) dX0_init_75 ⟨Nat.le_of_ble_eq_true rfl, Nat.le_of_ble_eq_true rfl⟩ (fun ov9 H181 locs182 hP183 hkp184 hS185 => ?_)
  obtain ⟨rfl, hW186, hz187⟩ := hP183
  have hW188 := rg_keepA hW177 hkp184 (by intro z h1 h2 h3; have h8 := h3.1; have h9 := h3.2; omega)
  have hP189 := PP.keepA hP178 hkp184 (by omega)
  have hz190 : H181.size = b0 + 155 := by omega
  have ap191 := Ap.cons (x := ((b0 + 154), 1, (shJ1 G.2.1), (vc_J1 (b0 + 154)))) (Or.inl (show b0 < (b0 + 154) by omega)) ap162
  have hP192 := PP.cons (hi' := b0 + 155) hW186 hP189 (by omega) (by omega)
  clear hW177 hP178 hz180 hz187 hkp184 hS174 hW173 ap179 ap162 hP189 hW186
  refine W.eq (g2 := F0 m 78 ls [.ref (b0 + 154), .ref b0]) rfl ?_
  refine rk_putF (pc := 78) (q := b0) hx hb hts hown hK hW188 hS185 flX0_41 ft_X0 0 (by decide) rfl (Or.inl (show iv _ _ _ from ⟨by omega, by omega⟩)) rfl rfl hin rfl (x := va_rf (some (b0 + 154))) (rf_nar _ rfl (some (b0 + 154))) (rf_fit _ rfl (some (b0 + 154))) (Nat.le_of_ble_eq_true rfl) (sR (vo_X0_init_169 b0) 0 8 (some (b0 + 154))) sR_ne (by rw [sR_eq]; rfl) dX0_init_78 (fun H193 locs194 hW195 hS196 hz197 hkp198 => ?_)
  have hW195 : rg G b0 1 shO_X0 (vo_X0_init_198 b0) H193 := hW195
  have hP199 := PP.keepq hP192 hkp198 ap191
  have hz200 := hz197.trans hz190
  clear hW188 hP192 hz190 hz197 hS185 hkp198
  refine lv_aload_n (pc := 81) hx hb dX0_init_81 rfl (lv_at hl 0 rfl) ?_
  refine lv_iconst (pc := 82) (v := (2 : Int32)) hx hb dX0_init_82 (by decide) ?_
  refine rk_anew (pc := 83) (h := b0 + 155) (C := "WholePacks$Left") (sh := (fun _ _ _ _ z => some (.inl (G.2.1 7, 2, .inr (.inr (.inr (.inr z))))))) hx hb hts hown hK hS196 q358 q359 7 rfl hz200 rfl (by decide) rfl (Nat.le_of_ble_eq_true rfl) (Nat.le_of_ble_eq_true rfl) (Nat.le_of_ble_eq_true rfl) dX0_init_83 (fun H201 hW202 hS203 hz204 hkp205 => ?_)
  have hW206 := rg_keepN hW195 hz200 hkp205
  have hP207 := PP.keepN hP199 hz200 hkp205
  have ap208 := PP.ap (q := (b0 + 155)) hP207 (by omega)
  have hz209 : H201.size = b0 + 156 := by omega
  clear hW195 hP199 hS196 hz200 hz204 hkp205
  refine rk_putF (pc := 86) (q := b0) hx hb hts hown hK hW206 hS203 flX0_46 ft_X0 0 (by decide) rfl (Or.inl (show iv _ _ _ from ⟨by omega, by omega⟩)) rfl rfl hin rfl (x := va_rf (some (b0 + 155))) (rf_nar _ rfl (some (b0 + 155))) (rf_fit _ rfl (some (b0 + 155))) (Nat.le_of_ble_eq_true rfl) (sR (vo_X0_init_198 b0) 0 9 (some (b0 + 155))) sR_ne (by rw [sR_eq]; rfl) dX0_init_86 (fun H210 locs211 hW212 hS213 hz214 hkp215 => ?_)
  have hW212 : rg G b0 1 shO_X0 (vo_X0_init_215 b0) H210 := hW212
  have hW216 := rg_keepq hW202 hkp215 (by omega)
  have hP217 := PP.keepq hP207 hkp215 ap191
  have hz218 := hz214.trans hz209
  clear hW206 hW202 hP207 hz209 hz214 hS203 hkp215
  refine lv_aload_n (pc := 89) hx hb dX0_init_89 rfl (lv_at hl 0 rfl) ?_
  refine lv_iconst (pc := 90) (v := (3 : Int32)) hx hb dX0_init_90 (by decide) ?_
  refine rk_anew (pc := 91) (h := b0 + 156) (C := "WholePacks$Change") (sh := (fun _ _ _ _ z => some (.inl (G.2.1 8, 3, .inr (.inr (.inr (.inr z))))))) hx hb hts hown hK hS213 q360 q361 8 rfl hz218 rfl (by decide) rfl (Nat.le_of_ble_eq_true rfl) (Nat.le_of_ble_eq_true rfl) (Nat.le_of_ble_eq_true rfl) dX0_init_91 (fun H219 hW220 hS221 hz222 hkp223 => ?_)
  have hW224 := rg_keepN hW212 hz218 hkp223
  have hW225 := rg_keepN hW216 hz218 hkp223
  have hP226 := PP.keepN hP217 hz218 hkp223
  have ap227 := PP.ap (q := (b0 + 156)) hP226 (by omega)
  have hz228 : H219.size = b0 + 157 := by omega
  clear hW212 hW216 hP217 hS213 hz218 hz222 hkp223
  refine rk_putF (pc := 94) (q := b0) hx hb hts hown hK hW224 hS221 flX0_52 ft_X0 0 (by decide) rfl (Or.inl (show iv _ _ _ from ⟨by omega, by omega⟩)) rfl rfl hin rfl (x := va_rf (some (b0 + 156))) (rf_nar _ rfl (some (b0 + 156))) (rf_fit _ rfl (some (b0 + 156))) (Nat.le_of_ble_eq_true rfl) (sR (vo_X0_init_215 b0) 0 10 (some (b0 + 156))) sR_ne (by rw [sR_eq]; rfl) dX0_init_94 (fun H229 locs230 hW231 hS232 hz233 hkp234 => ?_)
  have hW231 : rg G b0 1 shO_X0 (vo_X0_init_234 b0) H229 := hW231
  have hW235 := rg_keepq hW225 hkp234 (by omega)
  have hW236 := rg_keepq hW220 hkp234 (by omega)
  have hP237 := PP.keepq hP226 hkp234 ap191
  have hz238 := hz233.trans hz228
  clear hW224 hW225 hW220 hP226 hz228 hz233 hS221 hkp234
  refine lv_aload_n (pc := 97) hx hb dX0_init_97 rfl (lv_at hl 0 rfl) ?_
  refine lv_bipush (pc := 98) (v := (80 : Int32)) hx hb dX0_init_98 (by decide) ?_
  refine rk_newarr (pc := 100) (atype := .byte) (h := b0 + 157) (sh := (fun _ _ x y _ => some (.inl (G.2.1 2, 80, .inl x)))) hx hb hts hK hS232 q373 2 rfl (fun _ h => nomatch h) hz238 rfl rfl (by decide) rfl (Nat.le_of_ble_eq_true rfl) (Nat.le_of_ble_eq_true rfl) (Nat.le_of_ble_eq_true rfl) dX0_init_100 (fun H239 hW240 hS241 hz242 hkp243 => ?_)
  have hW244 := rg_keepN hW231 hz238 hkp243
  have hW245 := rg_keepN hW235 hz238 hkp243
  have hW246 := rg_keepN hW236 hz238 hkp243
  have hP247 := PP.keepN hP237 hz238 hkp243
  have ap248 := PP.ap (q := (b0 + 157)) hP247 (by omega)
  have hz249 : H239.size = b0 + 158 := by omega
  clear hW231 hW235 hW236 hP237 hS232 hz238 hz242 hkp243
  refine rk_putF (pc := 102) (q := b0) hx hb hts hown hK hW244 hS241 flX0_56 ft_X0 0 (by decide) rfl (Or.inl (show iv _ _ _ from ⟨by omega, by omega⟩)) rfl rfl hin rfl (x := va_rf (some (b0 + 157))) (rf_nar _ rfl (some (b0 + 157))) (rf_fit _ rfl (some (b0 + 157))) (Nat.le_of_ble_eq_true rfl) (sR (vo_X0_init_234 b0) 0 11 (some (b0 + 157))) sR_ne (by rw [sR_eq]; rfl) dX0_init_102 (fun H250 locs251 hW252 hS253 hz254 hkp255 => ?_)
  have hW252 : rg G b0 1 shO_X0 (vo_X0_init_255 b0) H250 := hW252
  have hW256 := rg_keepq hW245 hkp255 (by omega)
  have hW257 := rg_keepq hW246 hkp255 (by omega)
  have hW258 := rg_keepq hW240 hkp255 (by omega)
  have hP259 := PP.keepq hP247 hkp255 ap191
  have hz260 := hz254.trans hz249
  clear hW244 hW245 hW246 hW240 hP247 hz249 hz254 hS241 hkp255
  have ap261 := Ap.cons (x := ((b0 + 157), 1, (fun _ _ x y _ => some (.inl (G.2.1 2, 80, .inl x))), mz)) (Or.inl (show b0 < (b0 + 157) by omega)) ap191
  have ap262 := Ap.cons (x := ((b0 + 157), 1, (fun _ _ x y _ => some (.inl (G.2.1 2, 80, .inl x))), mz)) (Or.inl (show (b0 + 155) < (b0 + 157) by omega)) ap208
  have ap263 := Ap.cons (x := ((b0 + 157), 1, (fun _ _ x y _ => some (.inl (G.2.1 2, 80, .inl x))), mz)) (Or.inl (show (b0 + 156) < (b0 + 157) by omega)) ap227
  have hP264 := PP.cons (hi' := b0 + 158) hW258 hP259 (by omega) (by omega)
  clear ap191 ap208 ap227 hP259 hW258
  refine lv_aload_n (pc := 105) hx hb dX0_init_105 rfl (lv_at hl 0 rfl) ?_
  refine lv_iconst (pc := 106) (v := (5 : Int32)) hx hb dX0_init_106 (by decide) ?_
  refine rk_newarr (pc := 107) (atype := .int) (h := b0 + 158) (sh := (fun _ _ x y _ => some (.inl (G.2.1 0, 5, .inl x)))) hx hb hts hK hS253 q190 0 rfl (fun _ h => nomatch h) hz260 rfl rfl (by decide) rfl (Nat.le_of_ble_eq_true rfl) (Nat.le_of_ble_eq_true rfl) (Nat.le_of_ble_eq_true rfl) dX0_init_107 (fun H265 hW266 hS267 hz268 hkp269 => ?_)
  have hW270 := rg_keepN hW252 hz260 hkp269
  have hW271 := rg_keepN hW256 hz260 hkp269
  have hW272 := rg_keepN hW257 hz260 hkp269
  have hP273 := PP.keepN hP264 hz260 hkp269
  have ap274 := PP.ap (q := (b0 + 158)) hP273 (by omega)
  have hz275 : H265.size = b0 + 159 := by omega
  clear hW252 hW256 hW257 hP264 hS253 hz260 hz268 hkp269
  refine rk_putF (pc := 109) (q := b0) hx hb hts hown hK hW270 hS267 flX0_60 ft_X0 0 (by decide) rfl (Or.inl (show iv _ _ _ from ⟨by omega, by omega⟩)) rfl rfl hin rfl (x := va_rf (some (b0 + 158))) (rf_nar _ rfl (some (b0 + 158))) (rf_fit _ rfl (some (b0 + 158))) (Nat.le_of_ble_eq_true rfl) (sR (vo_X0_init_255 b0) 0 13 (some (b0 + 158))) sR_ne (by rw [sR_eq]; rfl) dX0_init_109 (fun H276 locs277 hW278 hS279 hz280 hkp281 => ?_)
  have hW278 : rg G b0 1 shO_X0 (vo_X0_init_281 b0) H276 := hW278
  have hW282 := rg_keepq hW271 hkp281 (by omega)
  have hW283 := rg_keepq hW272 hkp281 (by omega)
  have hW284 := rg_keepq hW266 hkp281 (by omega)
  have hP285 := PP.keepq hP273 hkp281 ap261
  have hz286 := hz280.trans hz275
  clear hW270 hW271 hW272 hW266 hP273 hz275 hz280 hS267 hkp281
  have ap287 := Ap.cons (x := ((b0 + 158), 1, (fun _ _ x y _ => some (.inl (G.2.1 0, 5, .inl x))), mz)) (Or.inl (show b0 < (b0 + 158) by omega)) ap261
  have ap288 := Ap.cons (x := ((b0 + 158), 1, (fun _ _ x y _ => some (.inl (G.2.1 0, 5, .inl x))), mz)) (Or.inl (show (b0 + 155) < (b0 + 158) by omega)) ap262
  have ap289 := Ap.cons (x := ((b0 + 158), 1, (fun _ _ x y _ => some (.inl (G.2.1 0, 5, .inl x))), mz)) (Or.inl (show (b0 + 156) < (b0 + 158) by omega)) ap263
  have hP290 := PP.cons (hi' := b0 + 159) hW284 hP285 (by omega) (by omega)
  clear ap261 ap262 ap263 hP285 hW284
  refine lv_aload_n (pc := 112) hx hb dX0_init_112 rfl (lv_at hl 0 rfl) ?_
  refine lv_bipush (pc := 113) (v := (20 : Int32)) hx hb dX0_init_113 (by decide) ?_
  refine rk_anew (pc := 115) (h := b0 + 159) (C := "WholePacks$Found") (sh := (fun _ _ _ _ z => some (.inl (G.2.1 9, 20, .inr (.inr (.inr (.inr z))))))) hx hb hts hown hK hS279 q362 q363 9 rfl hz286 rfl (by decide) rfl (Nat.le_of_ble_eq_true rfl) (Nat.le_of_ble_eq_true rfl) (Nat.le_of_ble_eq_true rfl) dX0_init_115 (fun H291 hW292 hS293 hz294 hkp295 => ?_)
  have hW296 := rg_keepN hW278 hz286 hkp295
  have hW297 := rg_keepN hW282 hz286 hkp295
  have hW298 := rg_keepN hW283 hz286 hkp295
  have hP299 := PP.keepN hP290 hz286 hkp295
  have ap300 := PP.ap (q := (b0 + 159)) hP299 (by omega)
  have hz301 : H291.size = b0 + 160 := by omega
  clear hW278 hW282 hW283 hP290 hS279 hz286 hz294 hkp295
  refine rk_putF (pc := 118) (q := b0) hx hb hts hown hK hW296 hS293 flX0_66 ft_X0 0 (by decide) rfl (Or.inl (show iv _ _ _ from ⟨by omega, by omega⟩)) rfl rfl hin rfl (x := va_rf (some (b0 + 159))) (rf_nar _ rfl (some (b0 + 159))) (rf_fit _ rfl (some (b0 + 159))) (Nat.le_of_ble_eq_true rfl) (sR (vo_X0_init_281 b0) 0 14 (some (b0 + 159))) sR_ne (by rw [sR_eq]; rfl) dX0_init_118 (fun H302 locs303 hW304 hS305 hz306 hkp307 => ?_)
  have hW304 : rg G b0 1 shO_X0 (vo_X0_init_307 b0) H302 := hW304
  have hW308 := rg_keepq hW297 hkp307 (by omega)
  have hW309 := rg_keepq hW298 hkp307 (by omega)
  have hW310 := rg_keepq hW292 hkp307 (by omega)
  have hP311 := PP.keepq hP299 hkp307 ap287
  have hz312 := hz306.trans hz301
  clear hW296 hW297 hW298 hW292 hP299 hz301 hz306 hS293 hkp307
  refine lv_aload_n (pc := 121) hx hb dX0_init_121 rfl (lv_at hl 0 rfl) ?_
  refine rk_new (pc := 122) (h := b0 + 160) (sh := (shO_J4)) hx hb hts hown hK hS305 in_J4 ft_J4 rfl q364 q365 q123 hz312 rfl (df_J4 _ rfl) (Nat.le_of_ble_eq_true rfl) (Nat.le_of_ble_eq_true rfl) dX0_init_122 (fun H313 hW314 hS315 hz316 hkp317 => ?_)
  have hW318 := rg_keepN hW304 hz312 hkp317
  have hW319 := rg_keepN hW308 hz312 hkp317
  have hW320 := rg_keepN hW309 hz312 hkp317
  have hW321 := rg_keepN hW310 hz312 hkp317
  have hP322 := PP.keepN hP311 hz312 hkp317
  have ap323 := PP.ap (q := (b0 + 160)) hP322 (by omega)
  have hz324 : H313.size = b0 + 161 := by omega
  clear hW304 hW308 hW309 hW310 hP311 hS305 hz312 hz316 hkp317
  refine lv_dup (pc := 125) hx hb dX0_init_125 rfl ?_
  refine rk_new (pc := 126) (h := b0 + 161) (sh := (shO_X5)) hx hb hts hown hK hS315 in_X5 ft_X5 rfl q366 q367 q124 hz324 rfl (df_X5 _ rfl) (Nat.le_of_ble_eq_true rfl) (Nat.le_of_ble_eq_true rfl) dX0_init_126 (fun H325 hW326 hS327 hz328 hkp329 => ?_)
  have hW330 := rg_keepN hW318 hz324 hkp329
  have hW331 := rg_keepN hW319 hz324 hkp329
  have hW332 := rg_keepN hW320 hz324 hkp329
  have hW333 := rg_keepN hW321 hz324 hkp329
  have hW334 := rg_keepN hW314 hz324 hkp329
  have hP335 := PP.keepN hP322 hz324 hkp329
  have ap336 := PP.ap (q := (b0 + 161)) hP335 (by omega)
  have hz337 : H325.size = b0 + 162 := by omega
  clear hW318 hW319 hW320 hW321 hW314 hP322 hS315 hz324 hz328 hkp329
  refine lv_dup (pc := 129) hx hb dX0_init_129 rfl ?_
  refine rk_TIN (pc := 130) (As := []) (rest := [.ref (b0 + 161), .ref (b0 + 160), .ref (b0 + 160), .ref b0]) (mc := 0) (ms := 0) hx hb hml hown hts hK hS327 (fun q hq => FA_sz rfl q hq) lkX0_74 yn_X5_init (ct_X5_init (G := G) (l := l) (b0 := (b0 + 161)) (sz := H325.size) (by omega)) ⟨Nat.le_of_ble_eq_true rfl, Nat.le_of_ble_eq_true rfl⟩ (fun z h => Or.inr (by have h8 := h.1; omega)) hW326 rfl rfl hl.1 (Nat.le_of_ble_eq_true rfl) dX0_init_130 ⟨Nat.le_of_ble_eq_true rfl, Nat.le_of_ble_eq_true rfl⟩ (fun ov9 H338 locs339 hP340 hkp341 hS342 => ?_)
  obtain ⟨rfl, hW343, hz344⟩ := hP340
  have hW345 := rg_keepA hW330 hkp341 (by intro z h1 h2 h3; have h8 := h3.1; have h9 := h3.2; omega)
  have hW346 := rg_keepA hW331 hkp341 (by intro z h1 h2 h3; have h8 := h3.1; have h9 := h3.2; omega)
  have hW347 := rg_keepA hW332 hkp341 (by intro z h1 h2 h3; have h8 := h3.1; have h9 := h3.2; omega)
  have hW348 := rg_keepA hW333 hkp341 (by intro z h1 h2 h3; have h8 := h3.1; have h9 := h3.2; omega)
  have hW349 := rg_keepA hW334 hkp341 (by intro z h1 h2 h3; have h8 := h3.1; have h9 := h3.2; omega)
  have hP350 := PP.keepA hP335 hkp341 (by omega)
  have hz351 : H338.size = b0 + 162 := by omega
  have ap352 := Ap.cons (x := ((b0 + 161), 1, (shX5 G.2.1), (vc_X5 (b0 + 161)))) (Or.inl (show b0 < (b0 + 161) by omega)) ap287
  have ap353 := Ap.cons (x := ((b0 + 161), 1, (shX5 G.2.1), (vc_X5 (b0 + 161)))) (Or.inl (show (b0 + 155) < (b0 + 161) by omega)) ap288
  have ap354 := Ap.cons (x := ((b0 + 161), 1, (shX5 G.2.1), (vc_X5 (b0 + 161)))) (Or.inl (show (b0 + 156) < (b0 + 161) by omega)) ap289
  have ap355 := Ap.cons (x := ((b0 + 161), 1, (shX5 G.2.1), (vc_X5 (b0 + 161)))) (Or.inl (show (b0 + 159) < (b0 + 161) by omega)) ap300
  have ap356 := Ap.cons (x := ((b0 + 161), 1, (shX5 G.2.1), (vc_X5 (b0 + 161)))) (Or.inl (show (b0 + 160) < (b0 + 161) by omega)) ap323
  have hP357 := PP.cons (hi' := b0 + 162) hW343 hP350 (by omega) (by omega)
  clear hW330 hW331 hW332 hW333 hW334 hP335 hz337 hz344 hkp341 hS327 hW326 ap336 ap287 ap288 ap289 ap300 ap323 hP350 hW343
  refine W.eq (g2 := F0 m 133 ls [.ref (b0 + 161), .ref (b0 + 160), .ref (b0 + 160), .ref b0]) rfl ?_
  refine rk_TI (pc := 133) (As := [.ref (b0 + 161)]) (rest := [.ref (b0 + 160), .ref b0]) (mc := 1) (ms := 11) hx hb hml hown hts hK hS342 (fun q hq => FA_sz rfl q hq) lkX0_75 yn_J4_init (ct_J4_init (G := G) (l := l) (b0 := (b0 + 160)) (h0 := (b0 + 162)) (b2 := (b0 + 161)) (sz := H338.size) (by omega) (by omega)) ⟨Nat.le_of_ble_eq_true rfl, Nat.le_of_ble_eq_true rfl⟩ (fun z h => Or.inr (by have h8 := h.1; omega)) hW349 rfl rfl hl.1 (Nat.le_of_ble_eq_true rfl) dX0_init_133 ⟨Nat.le_of_ble_eq_true rfl, Nat.le_of_ble_eq_true rfl⟩ (fun ov9 H358 locs359 hP360 hkp361 hS362 => ?_)
  obtain ⟨rfl, hW363, hW364, hz365⟩ := hP360
  have hW366 := rg_keepA hW345 hkp361 (by intro z h1 h2 h3; have h8 := h3.1; have h9 := h3.2; omega)
  have hW367 := rg_keepA hW346 hkp361 (by intro z h1 h2 h3; have h8 := h3.1; have h9 := h3.2; omega)
  have hW368 := rg_keepA hW347 hkp361 (by intro z h1 h2 h3; have h8 := h3.1; have h9 := h3.2; omega)
  have hW369 := rg_keepA hW348 hkp361 (by intro z h1 h2 h3; have h8 := h3.1; have h9 := h3.2; omega)
  have hP370 := PP.keepAp hP357 hkp361 ap356
  have hz371 : H358.size = b0 + 163 := by omega
  clear hW349 hW345 hW346 hW347 hW348 hP357 hz351 hz365 hkp361 hS342 ap356
  have ap372 := Ap.cons (x := ((b0 + 160), 1, shO_J4, (vc_J4_init (b0 + 160) (b0 + 162) (b0 + 161)))) (Or.inl (show b0 < (b0 + 160) by omega)) ap352
  have ap373 := Ap.cons (x := ((b0 + 160), 1, shO_J4, (vc_J4_init (b0 + 160) (b0 + 162) (b0 + 161)))) (Or.inl (show (b0 + 155) < (b0 + 160) by omega)) ap353
  have ap374 := Ap.cons (x := ((b0 + 160), 1, shO_J4, (vc_J4_init (b0 + 160) (b0 + 162) (b0 + 161)))) (Or.inl (show (b0 + 156) < (b0 + 160) by omega)) ap354
  have ap375 := Ap.cons (x := ((b0 + 160), 1, shO_J4, (vc_J4_init (b0 + 160) (b0 + 162) (b0 + 161)))) (Or.inl (show (b0 + 159) < (b0 + 160) by omega)) ap355
  have hP376 := PP.cons (hi' := b0 + 163) hW363 hP370 (by omega) (by omega)
  clear ap352 ap353 ap354 ap355 hP370 hW363
  have ap377 := Ap.cons (x := ((b0 + 162), 1, (fun _ _ _ _ z => some (.inl (G.2.1 12, 11, .inr (.inr (.inr (.inr z)))))), mz)) (Or.inl (show b0 < (b0 + 162) by omega)) ap372
  have ap378 := Ap.cons (x := ((b0 + 162), 1, (fun _ _ _ _ z => some (.inl (G.2.1 12, 11, .inr (.inr (.inr (.inr z)))))), mz)) (Or.inl (show (b0 + 155) < (b0 + 162) by omega)) ap373
  have ap379 := Ap.cons (x := ((b0 + 162), 1, (fun _ _ _ _ z => some (.inl (G.2.1 12, 11, .inr (.inr (.inr (.inr z)))))), mz)) (Or.inl (show (b0 + 156) < (b0 + 162) by omega)) ap374
  have ap380 := Ap.cons (x := ((b0 + 162), 1, (fun _ _ _ _ z => some (.inl (G.2.1 12, 11, .inr (.inr (.inr (.inr z)))))), mz)) (Or.inl (show (b0 + 159) < (b0 + 162) by omega)) ap375
  have hP381 := PP.cons (hi' := b0 + 163) hW364 hP376 (by omega) (by omega)
  clear ap372 ap373 ap374 ap375 hP376 hW364
  refine W.eq (g2 := F0 m 136 ls [.ref (b0 + 160), .ref b0]) rfl ?_
  refine rk_putF (pc := 136) (q := b0) hx hb hts hown hK hW366 hS362 flX0_78 ft_X0 0 (by decide) rfl (Or.inl (show iv _ _ _ from ⟨by omega, by omega⟩)) rfl rfl hin rfl (x := va_rf (some (b0 + 160))) (rf_nar _ rfl (some (b0 + 160))) (rf_fit _ rfl (some (b0 + 160))) (Nat.le_of_ble_eq_true rfl) (sR (vo_X0_init_307 b0) 0 15 (some (b0 + 160))) sR_ne (by rw [sR_eq]; rfl) dX0_init_136 (fun H382 locs383 hW384 hS385 hz386 hkp387 => ?_)
  have hW384 : rg G b0 1 shO_X0 (vo_X0_init_387 b0) H382 := hW384
  have hW388 := rg_keepq hW367 hkp387 (by omega)
  have hW389 := rg_keepq hW368 hkp387 (by omega)
  have hW390 := rg_keepq hW369 hkp387 (by omega)
  have hP391 := PP.keepq hP381 hkp387 ap377
  have hz392 := hz386.trans hz371
  clear hW366 hW367 hW368 hW369 hP381 hz371 hz386 hS362 hkp387
  refine lv_aload_n (pc := 139) hx hb dX0_init_139 rfl (lv_at hl 0 rfl) ?_
  refine lv_iconst (pc := 140) (v := (5 : Int32)) hx hb dX0_init_140 (by decide) ?_
  refine rk_newarr (pc := 141) (atype := .int) (h := b0 + 163) (sh := (fun _ _ x y _ => some (.inl (G.2.1 0, 5, .inl x)))) hx hb hts hK hS385 q190 0 rfl (fun _ h => nomatch h) hz392 rfl rfl (by decide) rfl (Nat.le_of_ble_eq_true rfl) (Nat.le_of_ble_eq_true rfl) (Nat.le_of_ble_eq_true rfl) dX0_init_141 (fun H393 hW394 hS395 hz396 hkp397 => ?_)
  have hW398 := rg_keepN hW384 hz392 hkp397
  have hW399 := rg_keepN hW388 hz392 hkp397
  have hW400 := rg_keepN hW389 hz392 hkp397
  have hW401 := rg_keepN hW390 hz392 hkp397
  have hP402 := PP.keepN hP391 hz392 hkp397
  have ap403 := PP.ap (q := (b0 + 163)) hP402 (by omega)
  have hz404 : H393.size = b0 + 164 := by omega
  clear hW384 hW388 hW389 hW390 hP391 hS385 hz392 hz396 hkp397
  refine rk_putF (pc := 143) (q := b0) hx hb hts hown hK hW398 hS395 flX0_82 ft_X0 0 (by decide) rfl (Or.inl (show iv _ _ _ from ⟨by omega, by omega⟩)) rfl rfl hin rfl (x := va_rf (some (b0 + 163))) (rf_nar _ rfl (some (b0 + 163))) (rf_fit _ rfl (some (b0 + 163))) (Nat.le_of_ble_eq_true rfl) (sR (vo_X0_init_387 b0) 0 17 (some (b0 + 163))) sR_ne (by rw [sR_eq]; rfl) dX0_init_143 (fun H405 locs406 hW407 hS408 hz409 hkp410 => ?_)
  have hW407 : rg G b0 1 shO_X0 (vo_X0_init_410 b0) H405 := hW407
  have hW411 := rg_keepq hW399 hkp410 (by omega)
  have hW412 := rg_keepq hW400 hkp410 (by omega)
  have hW413 := rg_keepq hW401 hkp410 (by omega)
  have hW414 := rg_keepq hW394 hkp410 (by omega)
  have hP415 := PP.keepq hP402 hkp410 ap377
  have hz416 := hz409.trans hz404
  clear hW398 hW399 hW400 hW401 hW394 hP402 hz404 hz409 hS395 hkp410
  have ap417 := Ap.cons (x := ((b0 + 163), 1, (fun _ _ x y _ => some (.inl (G.2.1 0, 5, .inl x))), mz)) (Or.inl (show b0 < (b0 + 163) by omega)) ap377
  have ap418 := Ap.cons (x := ((b0 + 163), 1, (fun _ _ x y _ => some (.inl (G.2.1 0, 5, .inl x))), mz)) (Or.inl (show (b0 + 155) < (b0 + 163) by omega)) ap378
  have ap419 := Ap.cons (x := ((b0 + 163), 1, (fun _ _ x y _ => some (.inl (G.2.1 0, 5, .inl x))), mz)) (Or.inl (show (b0 + 156) < (b0 + 163) by omega)) ap379
  have ap420 := Ap.cons (x := ((b0 + 163), 1, (fun _ _ x y _ => some (.inl (G.2.1 0, 5, .inl x))), mz)) (Or.inl (show (b0 + 159) < (b0 + 163) by omega)) ap380
  have hP421 := PP.cons (hi' := b0 + 164) hW414 hP415 (by omega) (by omega)
  clear ap377 ap378 ap379 ap380 hP415 hW414
  refine lv_aload_n (pc := 146) hx hb dX0_init_146 rfl (lv_at hl 0 rfl) ?_
  refine lv_bipush (pc := 147) (v := (40 : Int32)) hx hb dX0_init_147 (by decide) ?_
  refine rk_anew (pc := 149) (h := b0 + 164) (C := "WholePacks$Node") (sh := (fun _ _ _ _ z => some (.inl (G.2.1 10, 40, .inr (.inr (.inr (.inr z))))))) hx hb hts hown hK hS408 q402 q403 10 rfl hz416 rfl (by decide) rfl (Nat.le_of_ble_eq_true rfl) (Nat.le_of_ble_eq_true rfl) (Nat.le_of_ble_eq_true rfl) dX0_init_149 (fun H422 hW423 hS424 hz425 hkp426 => ?_)
  have hW427 := rg_keepN hW407 hz416 hkp426
  have hW428 := rg_keepN hW411 hz416 hkp426
  have hW429 := rg_keepN hW412 hz416 hkp426
  have hW430 := rg_keepN hW413 hz416 hkp426
  have hP431 := PP.keepN hP421 hz416 hkp426
  have ap432 := PP.ap (q := (b0 + 164)) hP431 (by omega)
  have hz433 : H422.size = b0 + 165 := by omega
  clear hW407 hW411 hW412 hW413 hP421 hS408 hz416 hz425 hkp426
  refine rk_putF (pc := 152) (q := b0) hx hb hts hown hK hW427 hS424 flX0_87 ft_X0 0 (by decide) rfl (Or.inl (show iv _ _ _ from ⟨by omega, by omega⟩)) rfl rfl hin rfl (x := va_rf (some (b0 + 164))) (rf_nar _ rfl (some (b0 + 164))) (rf_fit _ rfl (some (b0 + 164))) (Nat.le_of_ble_eq_true rfl) (sR (vo_X0_init_410 b0) 0 18 (some (b0 + 164))) sR_ne (by rw [sR_eq]; rfl) dX0_init_152 (fun H434 locs435 hW436 hS437 hz438 hkp439 => ?_)
  have hW436 : rg G b0 1 shO_X0 (vo_X0_init_439 b0) H434 := hW436
  have hW440 := rg_keepq hW428 hkp439 (by omega)
  have hW441 := rg_keepq hW429 hkp439 (by omega)
  have hW442 := rg_keepq hW430 hkp439 (by omega)
  have hW443 := rg_keepq hW423 hkp439 (by omega)
  have hP444 := PP.keepq hP431 hkp439 ap417
  have hz445 := hz438.trans hz433
  clear hW427 hW428 hW429 hW430 hW423 hP431 hz433 hz438 hS424 hkp439
  refine lv_aload_n (pc := 155) hx hb dX0_init_155 rfl (lv_at hl 0 rfl) ?_
  refine rk_new (pc := 156) (h := b0 + 165) (sh := (shO_J4)) hx hb hts hown hK hS437 in_J4 ft_J4 rfl q364 q365 q123 hz445 rfl (df_J4 _ rfl) (Nat.le_of_ble_eq_true rfl) (Nat.le_of_ble_eq_true rfl) dX0_init_156 (fun H446 hW447 hS448 hz449 hkp450 => ?_)
  have hW451 := rg_keepN hW436 hz445 hkp450
  have hW452 := rg_keepN hW440 hz445 hkp450
  have hW453 := rg_keepN hW441 hz445 hkp450
  have hW454 := rg_keepN hW442 hz445 hkp450
  have hW455 := rg_keepN hW443 hz445 hkp450
  have hP456 := PP.keepN hP444 hz445 hkp450
  have ap457 := PP.ap (q := (b0 + 165)) hP456 (by omega)
  have hz458 : H446.size = b0 + 166 := by omega
  clear hW436 hW440 hW441 hW442 hW443 hP444 hS437 hz445 hz449 hkp450
  refine lv_dup (pc := 159) hx hb dX0_init_159 rfl ?_
  refine rk_TI (pc := 160) (As := []) (rest := [.ref (b0 + 165), .ref b0]) (mc := 1) (ms := 11) hx hb hml hown hts hK hS448 (fun q hq => FA_sz rfl q hq) lkX0_91 yn_J4_init_3 (ct_J4_init_3 (G := G) (l := l) (b0 := (b0 + 165)) (h0 := (b0 + 166)) (sz := H446.size) (by omega) (by omega)) ⟨Nat.le_of_ble_eq_true rfl, Nat.le_of_ble_eq_true rfl⟩ (fun z h => Or.inr (by have h8 := h.1; omega)) hW447 rfl rfl hl.1 (Nat.le_of_ble_eq_true rfl) dX0_init_160 ⟨Nat.le_of_ble_eq_true rfl, Nat.le_of_ble_eq_true rfl⟩ (fun ov9 H459 locs460 hP461 hkp462 hS463 => ?_)
  obtain ⟨rfl, hW464, hW465, hz466⟩ := hP461
  have hW467 := rg_keepA hW451 hkp462 (by intro z h1 h2 h3; have h8 := h3.1; have h9 := h3.2; omega)
  have hW468 := rg_keepA hW452 hkp462 (by intro z h1 h2 h3; have h8 := h3.1; have h9 := h3.2; omega)
  have hW469 := rg_keepA hW453 hkp462 (by intro z h1 h2 h3; have h8 := h3.1; have h9 := h3.2; omega)
  have hW470 := rg_keepA hW454 hkp462 (by intro z h1 h2 h3; have h8 := h3.1; have h9 := h3.2; omega)
  have hW471 := rg_keepA hW455 hkp462 (by intro z h1 h2 h3; have h8 := h3.1; have h9 := h3.2; omega)
  have hP472 := PP.keepAp hP456 hkp462 ap457
  have hz473 : H459.size = b0 + 167 := by omega
  clear hW447 hW451 hW452 hW453 hW454 hW455 hP456 hz458 hz466 hkp462 hS448 ap457
  have ap474 := Ap.cons (x := ((b0 + 165), 1, shO_J4, (vc_J4_init_3 (b0 + 165) (b0 + 166)))) (Or.inl (show b0 < (b0 + 165) by omega)) ap417
  have ap475 := Ap.cons (x := ((b0 + 165), 1, shO_J4, (vc_J4_init_3 (b0 + 165) (b0 + 166)))) (Or.inl (show (b0 + 155) < (b0 + 165) by omega)) ap418
  have ap476 := Ap.cons (x := ((b0 + 165), 1, shO_J4, (vc_J4_init_3 (b0 + 165) (b0 + 166)))) (Or.inl (show (b0 + 156) < (b0 + 165) by omega)) ap419
  have ap477 := Ap.cons (x := ((b0 + 165), 1, shO_J4, (vc_J4_init_3 (b0 + 165) (b0 + 166)))) (Or.inl (show (b0 + 159) < (b0 + 165) by omega)) ap420
  have ap478 := Ap.cons (x := ((b0 + 165), 1, shO_J4, (vc_J4_init_3 (b0 + 165) (b0 + 166)))) (Or.inl (show (b0 + 164) < (b0 + 165) by omega)) ap432
  have hP479 := PP.cons (hi' := b0 + 167) hW464 hP472 (by omega) (by omega)
  clear ap417 ap418 ap419 ap420 ap432 hP472 hW464
  have ap480 := Ap.cons (x := ((b0 + 166), 1, (fun _ _ _ _ z => some (.inl (G.2.1 12, 11, .inr (.inr (.inr (.inr z)))))), mz)) (Or.inl (show b0 < (b0 + 166) by omega)) ap474
  have ap481 := Ap.cons (x := ((b0 + 166), 1, (fun _ _ _ _ z => some (.inl (G.2.1 12, 11, .inr (.inr (.inr (.inr z)))))), mz)) (Or.inl (show (b0 + 155) < (b0 + 166) by omega)) ap475
  have ap482 := Ap.cons (x := ((b0 + 166), 1, (fun _ _ _ _ z => some (.inl (G.2.1 12, 11, .inr (.inr (.inr (.inr z)))))), mz)) (Or.inl (show (b0 + 156) < (b0 + 166) by omega)) ap476
  have ap483 := Ap.cons (x := ((b0 + 166), 1, (fun _ _ _ _ z => some (.inl (G.2.1 12, 11, .inr (.inr (.inr (.inr z)))))), mz)) (Or.inl (show (b0 + 159) < (b0 + 166) by omega)) ap477
  have ap484 := Ap.cons (x := ((b0 + 166), 1, (fun _ _ _ _ z => some (.inl (G.2.1 12, 11, .inr (.inr (.inr (.inr z)))))), mz)) (Or.inl (show (b0 + 164) < (b0 + 166) by omega)) ap478
  have hP485 := PP.cons (hi' := b0 + 167) hW465 hP479 (by omega) (by omega)
  clear ap474 ap475 ap476 ap477 ap478 hP479 hW465
  refine W.eq (g2 := F0 m 163 ls [.ref (b0 + 165), .ref b0]) rfl ?_
  refine rk_putF (pc := 163) (q := b0) hx hb hts hown hK hW467 hS463 flX0_92 ft_X0 0 (by decide) rfl (Or.inl (show iv _ _ _ from ⟨by omega, by omega⟩)) rfl rfl hin rfl (x := va_rf (some (b0 + 165))) (rf_nar _ rfl (some (b0 + 165))) (rf_fit _ rfl (some (b0 + 165))) (Nat.le_of_ble_eq_true rfl) (sR (vo_X0_init_439 b0) 0 19 (some (b0 + 165))) sR_ne (by rw [sR_eq]; rfl) dX0_init_163 (fun H486 locs487 hW488 hS489 hz490 hkp491 => ?_)
  have hW488 : rg G b0 1 shO_X0 (vo_X0_init_491 b0) H486 := hW488
  have hW492 := rg_keepq hW468 hkp491 (by omega)
  have hW493 := rg_keepq hW469 hkp491 (by omega)
  have hW494 := rg_keepq hW470 hkp491 (by omega)
  have hW495 := rg_keepq hW471 hkp491 (by omega)
  have hP496 := PP.keepq hP485 hkp491 ap480
  have hz497 := hz490.trans hz473
  clear hW467 hW468 hW469 hW470 hW471 hP485 hz473 hz490 hS463 hkp491
  refine lv_aload_n (pc := 166) hx hb dX0_init_166 rfl (lv_at hl 0 rfl) ?_
  refine lv_bipush (pc := 167) (v := (6 : Int32)) hx hb dX0_init_167 (by decide) ?_
  refine rk_anew (pc := 169) (h := b0 + 167) (C := "WholePacks$Tape") (sh := (fun _ _ _ _ z => some (.inl (G.2.1 11, 6, .inr (.inr (.inr (.inr z))))))) hx hb hts hown hK hS489 q407 q408 11 rfl hz497 rfl (by decide) rfl (Nat.le_of_ble_eq_true rfl) (Nat.le_of_ble_eq_true rfl) (Nat.le_of_ble_eq_true rfl) dX0_init_169 (fun H498 hW499 hS500 hz501 hkp502 => ?_)
  have hW503 := rg_keepN hW488 hz497 hkp502
  have hW504 := rg_keepN hW492 hz497 hkp502
  have hW505 := rg_keepN hW493 hz497 hkp502
  have hW506 := rg_keepN hW494 hz497 hkp502
  have hW507 := rg_keepN hW495 hz497 hkp502
  have hP508 := PP.keepN hP496 hz497 hkp502
  have ap509 := PP.ap (q := (b0 + 167)) hP508 (by omega)
  have hz510 : H498.size = b0 + 168 := by omega
  clear hW488 hW492 hW493 hW494 hW495 hP496 hS489 hz497 hz501 hkp502
  refine lv_dup (pc := 172) hx hb dX0_init_172 rfl ?_
  refine lv_iconst (pc := 173) (v := (0 : Int32)) hx hb dX0_init_173 (by decide) ?_
  refine rk_new (pc := 174) (h := b0 + 168) (sh := (shO_X6)) hx hb hts hown hK hS500 in_X6 ft_X6 rfl q407 q409 q125 hz510 rfl (df_X6 _ rfl) (Nat.le_of_ble_eq_true rfl) (Nat.le_of_ble_eq_true rfl) dX0_init_174 (fun H511 hW512 hS513 hz514 hkp515 => ?_)
  have hW516 := rg_keepN hW503 hz510 hkp515
  have hW517 := rg_keepN hW504 hz510 hkp515
  have hW518 := rg_keepN hW505 hz510 hkp515
  have hW519 := rg_keepN hW506 hz510 hkp515
  have hW520 := rg_keepN hW507 hz510 hkp515
  have hW521 := rg_keepN hW499 hz510 hkp515
  have hP522 := PP.keepN hP508 hz510 hkp515
  have ap523 := PP.ap (q := (b0 + 168)) hP522 (by omega)
  have hz524 : H511.size = b0 + 169 := by omega
  clear hW503 hW504 hW505 hW506 hW507 hW499 hP508 hS500 hz510 hz514 hkp515
  refine lv_dup (pc := 177) hx hb dX0_init_177 rfl ?_
  refine rk_TIN (pc := 178) (As := []) (rest := [.ref (b0 + 168), .int (0 : Int32), .ref (b0 + 167), .ref (b0 + 167), .ref b0]) (mc := 0) (ms := 0) hx hb hml hown hts hK hS513 (fun q hq => FA_sz rfl q hq) lkX0_97 yn_X6_init (ct_X6_init (G := G) (l := l) (b0 := (b0 + 168)) (sz := H511.size) (by omega)) ⟨Nat.le_of_ble_eq_true rfl, Nat.le_of_ble_eq_true rfl⟩ (fun z h => Or.inr (by have h8 := h.1; omega)) hW512 rfl rfl hl.1 (Nat.le_of_ble_eq_true rfl) dX0_init_178 ⟨Nat.le_of_ble_eq_true rfl, Nat.le_of_ble_eq_true rfl⟩ (fun ov9 H525 locs526 hP527 hkp528 hS529 => ?_)
  obtain ⟨rfl, hW530, hz531⟩ := hP527
  have hW532 := rg_keepA hW516 hkp528 (by intro z h1 h2 h3; have h8 := h3.1; have h9 := h3.2; omega)
  have hW533 := rg_keepA hW517 hkp528 (by intro z h1 h2 h3; have h8 := h3.1; have h9 := h3.2; omega)
  have hW534 := rg_keepA hW518 hkp528 (by intro z h1 h2 h3; have h8 := h3.1; have h9 := h3.2; omega)
  have hW535 := rg_keepA hW519 hkp528 (by intro z h1 h2 h3; have h8 := h3.1; have h9 := h3.2; omega)
  have hW536 := rg_keepA hW520 hkp528 (by intro z h1 h2 h3; have h8 := h3.1; have h9 := h3.2; omega)
  have hW537 := rg_keepA hW521 hkp528 (by intro z h1 h2 h3; have h8 := h3.1; have h9 := h3.2; omega)
  have hP538 := PP.keepA hP522 hkp528 (by omega)
  have hz539 : H525.size = b0 + 169 := by omega
  have ap540 := Ap.cons (x := ((b0 + 168), 1, (shX6 G.2.1), (vc_X6 (b0 + 168)))) (Or.inl (show b0 < (b0 + 168) by omega)) ap480
  have ap541 := Ap.cons (x := ((b0 + 168), 1, (shX6 G.2.1), (vc_X6 (b0 + 168)))) (Or.inl (show (b0 + 155) < (b0 + 168) by omega)) ap481
  have ap542 := Ap.cons (x := ((b0 + 168), 1, (shX6 G.2.1), (vc_X6 (b0 + 168)))) (Or.inl (show (b0 + 156) < (b0 + 168) by omega)) ap482
  have ap543 := Ap.cons (x := ((b0 + 168), 1, (shX6 G.2.1), (vc_X6 (b0 + 168)))) (Or.inl (show (b0 + 159) < (b0 + 168) by omega)) ap483
  have ap544 := Ap.cons (x := ((b0 + 168), 1, (shX6 G.2.1), (vc_X6 (b0 + 168)))) (Or.inl (show (b0 + 164) < (b0 + 168) by omega)) ap484
  have ap545 := Ap.cons (x := ((b0 + 168), 1, (shX6 G.2.1), (vc_X6 (b0 + 168)))) (Or.inl (show (b0 + 167) < (b0 + 168) by omega)) ap509
  have hP546 := PP.cons (hi' := b0 + 169) hW530 hP538 (by omega) (by omega)
  clear hW516 hW517 hW518 hW519 hW520 hW521 hP522 hz524 hz531 hkp528 hS513 hW512 ap523 ap480 ap481 ap482 ap483 ap484 ap509 hP538 hW530
  refine W.eq (g2 := F0 m 181 ls [.ref (b0 + 168), .int (0 : Int32), .ref (b0 + 167), .ref (b0 + 167), .ref b0]) rfl ?_
  refine rk_aastC (pc := 181) hx hb hK hW537 hS529 0 11 (by decide) rfl (Or.inr (by omega)) (fun _ _ _ => rfl) rfl rfl (rk_recv (ci := 6) (C := RX6) (T := TX6) (N := 1) hK (PP.at hP546 0 rfl) 0 (by decide) rfl rfl rfl) dX0_init_181 (fun H547 locs548 hW549 hS550 hz551 hkp552 => ?_)
  have hW549 : rg G (b0 + 167) 1 (fun _ _ _ _ z => some (.inl (G.2.1 11, 6, .inr (.inr (.inr (.inr z)))))) (vq_X0_init_552 b0) H547 := hW549
  have hW553 := rg_keepq hW532 hkp552 (by omega)
  have hW554 := rg_keepq hW533 hkp552 (by omega)
  have hW555 := rg_keepq hW534 hkp552 (by omega)
  have hW556 := rg_keepq hW535 hkp552 (by omega)
  have hW557 := rg_keepq hW536 hkp552 (by omega)
  have hP558 := PP.keepq hP546 hkp552 ap545
  have hz559 := hz551.trans hz539
  clear hW537 hW532 hW533 hW534 hW535 hW536 hP546 hz539 hz551 hS529 hkp552
  refine lv_dup (pc := 182) hx hb dX0_init_182 rfl ?_
  refine lv_iconst (pc := 183) (v := (1 : Int32)) hx hb dX0_init_183 (by decide) ?_
  refine rk_new (pc := 184) (h := b0 + 169) (sh := (shO_X6)) hx hb hts hown hK hS550 in_X6 ft_X6 rfl q407 q409 q125 hz559 rfl (df_X6 _ rfl) (Nat.le_of_ble_eq_true rfl) (Nat.le_of_ble_eq_true rfl) dX0_init_184 (fun H560 hW561 hS562 hz563 hkp564 => ?_)
  have hW565 := rg_keepN hW553 hz559 hkp564
  have hW566 := rg_keepN hW554 hz559 hkp564
  have hW567 := rg_keepN hW555 hz559 hkp564
  have hW568 := rg_keepN hW556 hz559 hkp564
  have hW569 := rg_keepN hW557 hz559 hkp564
  have hW570 := rg_keepN hW549 hz559 hkp564
  have hP571 := PP.keepN hP558 hz559 hkp564
  have ap572 := PP.ap (q := (b0 + 169)) hP571 (by omega)
  have hz573 : H560.size = b0 + 170 := by omega
  clear hW553 hW554 hW555 hW556 hW557 hW549 hP558 hS550 hz559 hz563 hkp564
  refine lv_dup (pc := 187) hx hb dX0_init_187 rfl ?_
  refine rk_TIN (pc := 188) (As := []) (rest := [.ref (b0 + 169), .int (1 : Int32), .ref (b0 + 167), .ref (b0 + 167), .ref b0]) (mc := 0) (ms := 0) hx hb hml hown hts hK hS562 (fun q hq => FA_sz rfl q hq) lkX0_97 yn_X6_init (ct_X6_init (G := G) (l := l) (b0 := (b0 + 169)) (sz := H560.size) (by omega)) ⟨Nat.le_of_ble_eq_true rfl, Nat.le_of_ble_eq_true rfl⟩ (fun z h => Or.inr (by have h8 := h.1; omega)) hW561 rfl rfl hl.1 (Nat.le_of_ble_eq_true rfl) dX0_init_188 ⟨Nat.le_of_ble_eq_true rfl, Nat.le_of_ble_eq_true rfl⟩ (fun ov9 H574 locs575 hP576 hkp577 hS578 => ?_)
  obtain ⟨rfl, hW579, hz580⟩ := hP576
  have hW581 := rg_keepA hW565 hkp577 (by intro z h1 h2 h3; have h8 := h3.1; have h9 := h3.2; omega)
  have hW582 := rg_keepA hW566 hkp577 (by intro z h1 h2 h3; have h8 := h3.1; have h9 := h3.2; omega)
  have hW583 := rg_keepA hW567 hkp577 (by intro z h1 h2 h3; have h8 := h3.1; have h9 := h3.2; omega)
  have hW584 := rg_keepA hW568 hkp577 (by intro z h1 h2 h3; have h8 := h3.1; have h9 := h3.2; omega)
  have hW585 := rg_keepA hW569 hkp577 (by intro z h1 h2 h3; have h8 := h3.1; have h9 := h3.2; omega)
  have hW586 := rg_keepA hW570 hkp577 (by intro z h1 h2 h3; have h8 := h3.1; have h9 := h3.2; omega)
  have hP587 := PP.keepA hP571 hkp577 (by omega)
  have hz588 : H574.size = b0 + 170 := by omega
  have ap589 := Ap.cons (x := ((b0 + 169), 1, (shX6 G.2.1), (vc_X6 (b0 + 169)))) (Or.inl (show b0 < (b0 + 169) by omega)) ap540
  have ap590 := Ap.cons (x := ((b0 + 169), 1, (shX6 G.2.1), (vc_X6 (b0 + 169)))) (Or.inl (show (b0 + 155) < (b0 + 169) by omega)) ap541
  have ap591 := Ap.cons (x := ((b0 + 169), 1, (shX6 G.2.1), (vc_X6 (b0 + 169)))) (Or.inl (show (b0 + 156) < (b0 + 169) by omega)) ap542
  have ap592 := Ap.cons (x := ((b0 + 169), 1, (shX6 G.2.1), (vc_X6 (b0 + 169)))) (Or.inl (show (b0 + 159) < (b0 + 169) by omega)) ap543
  have ap593 := Ap.cons (x := ((b0 + 169), 1, (shX6 G.2.1), (vc_X6 (b0 + 169)))) (Or.inl (show (b0 + 164) < (b0 + 169) by omega)) ap544
  have ap594 := Ap.cons (x := ((b0 + 169), 1, (shX6 G.2.1), (vc_X6 (b0 + 169)))) (Or.inl (show (b0 + 167) < (b0 + 169) by omega)) ap545
  have hP595 := PP.cons (hi' := b0 + 170) hW579 hP587 (by omega) (by omega)
  clear hW565 hW566 hW567 hW568 hW569 hW570 hP571 hz573 hz580 hkp577 hS562 hW561 ap572 ap540 ap541 ap542 ap543 ap544 ap545 hP587 hW579
  refine W.eq (g2 := F0 m 191 ls [.ref (b0 + 169), .int (1 : Int32), .ref (b0 + 167), .ref (b0 + 167), .ref b0]) rfl ?_
  refine rk_aastC (pc := 191) hx hb hK hW586 hS578 0 11 (by decide) rfl (Or.inr (by omega)) (fun _ _ _ => rfl) rfl rfl (rk_recv (ci := 6) (C := RX6) (T := TX6) (N := 1) hK (PP.at hP595 0 rfl) 0 (by decide) rfl rfl rfl) dX0_init_191 (fun H596 locs597 hW598 hS599 hz600 hkp601 => ?_)
  have hW598 : rg G (b0 + 167) 1 (fun _ _ _ _ z => some (.inl (G.2.1 11, 6, .inr (.inr (.inr (.inr z)))))) (vq_X0_init_601 b0) H596 := hW598
  have hW602 := rg_keepq hW581 hkp601 (by omega)
  have hW603 := rg_keepq hW582 hkp601 (by omega)
  have hW604 := rg_keepq hW583 hkp601 (by omega)
  have hW605 := rg_keepq hW584 hkp601 (by omega)
  have hW606 := rg_keepq hW585 hkp601 (by omega)
  have hP607 := PP.keepq hP595 hkp601 ap594
  have hz608 := hz600.trans hz588
  clear hW586 hW581 hW582 hW583 hW584 hW585 hP595 hz588 hz600 hS578 hkp601
  refine lv_dup (pc := 192) hx hb dX0_init_192 rfl ?_
  refine lv_iconst (pc := 193) (v := (2 : Int32)) hx hb dX0_init_193 (by decide) ?_
  refine rk_new (pc := 194) (h := b0 + 170) (sh := (shO_X6)) hx hb hts hown hK hS599 in_X6 ft_X6 rfl q407 q409 q125 hz608 rfl (df_X6 _ rfl) (Nat.le_of_ble_eq_true rfl) (Nat.le_of_ble_eq_true rfl) dX0_init_194 (fun H609 hW610 hS611 hz612 hkp613 => ?_)
  have hW614 := rg_keepN hW602 hz608 hkp613
  have hW615 := rg_keepN hW603 hz608 hkp613
  have hW616 := rg_keepN hW604 hz608 hkp613
  have hW617 := rg_keepN hW605 hz608 hkp613
  have hW618 := rg_keepN hW606 hz608 hkp613
  have hW619 := rg_keepN hW598 hz608 hkp613
  have hP620 := PP.keepN hP607 hz608 hkp613
  have ap621 := PP.ap (q := (b0 + 170)) hP620 (by omega)
  have hz622 : H609.size = b0 + 171 := by omega
  clear hW602 hW603 hW604 hW605 hW606 hW598 hP607 hS599 hz608 hz612 hkp613
  refine lv_dup (pc := 197) hx hb dX0_init_197 rfl ?_
  refine rk_TIN (pc := 198) (As := []) (rest := [.ref (b0 + 170), .int (2 : Int32), .ref (b0 + 167), .ref (b0 + 167), .ref b0]) (mc := 0) (ms := 0) hx hb hml hown hts hK hS611 (fun q hq => FA_sz rfl q hq) lkX0_97 yn_X6_init (ct_X6_init (G := G) (l := l) (b0 := (b0 + 170)) (sz := H609.size) (by omega)) ⟨Nat.le_of_ble_eq_true rfl, Nat.le_of_ble_eq_true rfl⟩ (fun z h => Or.inr (by have h8 := h.1; omega)) hW610 rfl rfl hl.1 (Nat.le_of_ble_eq_true rfl) dX0_init_198 ⟨Nat.le_of_ble_eq_true rfl, Nat.le_of_ble_eq_true rfl⟩ (fun ov9 H623 locs624 hP625 hkp626 hS627 => ?_)
  obtain ⟨rfl, hW628, hz629⟩ := hP625
  have hW630 := rg_keepA hW614 hkp626 (by intro z h1 h2 h3; have h8 := h3.1; have h9 := h3.2; omega)
  have hW631 := rg_keepA hW615 hkp626 (by intro z h1 h2 h3; have h8 := h3.1; have h9 := h3.2; omega)
  have hW632 := rg_keepA hW616 hkp626 (by intro z h1 h2 h3; have h8 := h3.1; have h9 := h3.2; omega)
  have hW633 := rg_keepA hW617 hkp626 (by intro z h1 h2 h3; have h8 := h3.1; have h9 := h3.2; omega)
  have hW634 := rg_keepA hW618 hkp626 (by intro z h1 h2 h3; have h8 := h3.1; have h9 := h3.2; omega)
  have hW635 := rg_keepA hW619 hkp626 (by intro z h1 h2 h3; have h8 := h3.1; have h9 := h3.2; omega)
  have hP636 := PP.keepA hP620 hkp626 (by omega)
  have hz637 : H623.size = b0 + 171 := by omega
  have ap638 := Ap.cons (x := ((b0 + 170), 1, (shX6 G.2.1), (vc_X6 (b0 + 170)))) (Or.inl (show b0 < (b0 + 170) by omega)) ap589
  have ap639 := Ap.cons (x := ((b0 + 170), 1, (shX6 G.2.1), (vc_X6 (b0 + 170)))) (Or.inl (show (b0 + 155) < (b0 + 170) by omega)) ap590
  have ap640 := Ap.cons (x := ((b0 + 170), 1, (shX6 G.2.1), (vc_X6 (b0 + 170)))) (Or.inl (show (b0 + 156) < (b0 + 170) by omega)) ap591
  have ap641 := Ap.cons (x := ((b0 + 170), 1, (shX6 G.2.1), (vc_X6 (b0 + 170)))) (Or.inl (show (b0 + 159) < (b0 + 170) by omega)) ap592
  have ap642 := Ap.cons (x := ((b0 + 170), 1, (shX6 G.2.1), (vc_X6 (b0 + 170)))) (Or.inl (show (b0 + 164) < (b0 + 170) by omega)) ap593
  have ap643 := Ap.cons (x := ((b0 + 170), 1, (shX6 G.2.1), (vc_X6 (b0 + 170)))) (Or.inl (show (b0 + 167) < (b0 + 170) by omega)) ap594
  have hP644 := PP.cons (hi' := b0 + 171) hW628 hP636 (by omega) (by omega)
  clear hW614 hW615 hW616 hW617 hW618 hW619 hP620 hz622 hz629 hkp626 hS611 hW610 ap621 ap589 ap590 ap591 ap592 ap593 ap594 hP636 hW628
  refine W.eq (g2 := F0 m 201 ls [.ref (b0 + 170), .int (2 : Int32), .ref (b0 + 167), .ref (b0 + 167), .ref b0]) rfl ?_
  refine rk_aastC (pc := 201) hx hb hK hW635 hS627 0 11 (by decide) rfl (Or.inr (by omega)) (fun _ _ _ => rfl) rfl rfl (rk_recv (ci := 6) (C := RX6) (T := TX6) (N := 1) hK (PP.at hP644 0 rfl) 0 (by decide) rfl rfl rfl) dX0_init_201 (fun H645 locs646 hW647 hS648 hz649 hkp650 => ?_)
  have hW647 : rg G (b0 + 167) 1 (fun _ _ _ _ z => some (.inl (G.2.1 11, 6, .inr (.inr (.inr (.inr z)))))) (vq_X0_init_650 b0) H645 := hW647
  have hW651 := rg_keepq hW630 hkp650 (by omega)
  have hW652 := rg_keepq hW631 hkp650 (by omega)
  have hW653 := rg_keepq hW632 hkp650 (by omega)
  have hW654 := rg_keepq hW633 hkp650 (by omega)
  have hW655 := rg_keepq hW634 hkp650 (by omega)
  have hP656 := PP.keepq hP644 hkp650 ap643
  have hz657 := hz649.trans hz637
  clear hW635 hW630 hW631 hW632 hW633 hW634 hP644 hz637 hz649 hS627 hkp650
  refine lv_dup (pc := 202) hx hb dX0_init_202 rfl ?_
  refine lv_iconst (pc := 203) (v := (3 : Int32)) hx hb dX0_init_203 (by decide) ?_
  refine rk_new (pc := 204) (h := b0 + 171) (sh := (shO_X6)) hx hb hts hown hK hS648 in_X6 ft_X6 rfl q407 q409 q125 hz657 rfl (df_X6 _ rfl) (Nat.le_of_ble_eq_true rfl) (Nat.le_of_ble_eq_true rfl) dX0_init_204 (fun H658 hW659 hS660 hz661 hkp662 => ?_)
  have hW663 := rg_keepN hW651 hz657 hkp662
  have hW664 := rg_keepN hW652 hz657 hkp662
  have hW665 := rg_keepN hW653 hz657 hkp662
  have hW666 := rg_keepN hW654 hz657 hkp662
  have hW667 := rg_keepN hW655 hz657 hkp662
  have hW668 := rg_keepN hW647 hz657 hkp662
  have hP669 := PP.keepN hP656 hz657 hkp662
  have ap670 := PP.ap (q := (b0 + 171)) hP669 (by omega)
  have hz671 : H658.size = b0 + 172 := by omega
  clear hW651 hW652 hW653 hW654 hW655 hW647 hP656 hS648 hz657 hz661 hkp662
  refine lv_dup (pc := 207) hx hb dX0_init_207 rfl ?_
  refine rk_TIN (pc := 208) (As := []) (rest := [.ref (b0 + 171), .int (3 : Int32), .ref (b0 + 167), .ref (b0 + 167), .ref b0]) (mc := 0) (ms := 0) hx hb hml hown hts hK hS660 (fun q hq => FA_sz rfl q hq) lkX0_97 yn_X6_init (ct_X6_init (G := G) (l := l) (b0 := (b0 + 171)) (sz := H658.size) (by omega)) ⟨Nat.le_of_ble_eq_true rfl, Nat.le_of_ble_eq_true rfl⟩ (fun z h => Or.inr (by have h8 := h.1; omega)) hW659 rfl rfl hl.1 (Nat.le_of_ble_eq_true rfl) dX0_init_208 ⟨Nat.le_of_ble_eq_true rfl, Nat.le_of_ble_eq_true rfl⟩ (fun ov9 H672 locs673 hP674 hkp675 hS676 => ?_)
  obtain ⟨rfl, hW677, hz678⟩ := hP674
  have hW679 := rg_keepA hW663 hkp675 (by intro z h1 h2 h3; have h8 := h3.1; have h9 := h3.2; omega)
  have hW680 := rg_keepA hW664 hkp675 (by intro z h1 h2 h3; have h8 := h3.1; have h9 := h3.2; omega)
  have hW681 := rg_keepA hW665 hkp675 (by intro z h1 h2 h3; have h8 := h3.1; have h9 := h3.2; omega)
  have hW682 := rg_keepA hW666 hkp675 (by intro z h1 h2 h3; have h8 := h3.1; have h9 := h3.2; omega)
  have hW683 := rg_keepA hW667 hkp675 (by intro z h1 h2 h3; have h8 := h3.1; have h9 := h3.2; omega)
  have hW684 := rg_keepA hW668 hkp675 (by intro z h1 h2 h3; have h8 := h3.1; have h9 := h3.2; omega)
  have hP685 := PP.keepA hP669 hkp675 (by omega)
  have hz686 : H672.size = b0 + 172 := by omega
  have ap687 := Ap.cons (x := ((b0 + 171), 1, (shX6 G.2.1), (vc_X6 (b0 + 171)))) (Or.inl (show b0 < (b0 + 171) by omega)) ap638
  have ap688 := Ap.cons (x := ((b0 + 171), 1, (shX6 G.2.1), (vc_X6 (b0 + 171)))) (Or.inl (show (b0 + 155) < (b0 + 171) by omega)) ap639
  have ap689 := Ap.cons (x := ((b0 + 171), 1, (shX6 G.2.1), (vc_X6 (b0 + 171)))) (Or.inl (show (b0 + 156) < (b0 + 171) by omega)) ap640
  have ap690 := Ap.cons (x := ((b0 + 171), 1, (shX6 G.2.1), (vc_X6 (b0 + 171)))) (Or.inl (show (b0 + 159) < (b0 + 171) by omega)) ap641
  have ap691 := Ap.cons (x := ((b0 + 171), 1, (shX6 G.2.1), (vc_X6 (b0 + 171)))) (Or.inl (show (b0 + 164) < (b0 + 171) by omega)) ap642
  have ap692 := Ap.cons (x := ((b0 + 171), 1, (shX6 G.2.1), (vc_X6 (b0 + 171)))) (Or.inl (show (b0 + 167) < (b0 + 171) by omega)) ap643
  have hP693 := PP.cons (hi' := b0 + 172) hW677 hP685 (by omega) (by omega)
  clear hW663 hW664 hW665 hW666 hW667 hW668 hP669 hz671 hz678 hkp675 hS660 hW659 ap670 ap638 ap639 ap640 ap641 ap642 ap643 hP685 hW677
  refine W.eq (g2 := F0 m 211 ls [.ref (b0 + 171), .int (3 : Int32), .ref (b0 + 167), .ref (b0 + 167), .ref b0]) rfl ?_
  refine rk_aastC (pc := 211) hx hb hK hW684 hS676 0 11 (by decide) rfl (Or.inr (by omega)) (fun _ _ _ => rfl) rfl rfl (rk_recv (ci := 6) (C := RX6) (T := TX6) (N := 1) hK (PP.at hP693 0 rfl) 0 (by decide) rfl rfl rfl) dX0_init_211 (fun H694 locs695 hW696 hS697 hz698 hkp699 => ?_)
  have hW696 : rg G (b0 + 167) 1 (fun _ _ _ _ z => some (.inl (G.2.1 11, 6, .inr (.inr (.inr (.inr z)))))) (vq_X0_init_699 b0) H694 := hW696
  have hW700 := rg_keepq hW679 hkp699 (by omega)
  have hW701 := rg_keepq hW680 hkp699 (by omega)
  have hW702 := rg_keepq hW681 hkp699 (by omega)
  have hW703 := rg_keepq hW682 hkp699 (by omega)
  have hW704 := rg_keepq hW683 hkp699 (by omega)
  have hP705 := PP.keepq hP693 hkp699 ap692
  have hz706 := hz698.trans hz686
  clear hW684 hW679 hW680 hW681 hW682 hW683 hP693 hz686 hz698 hS676 hkp699
  refine lv_dup (pc := 212) hx hb dX0_init_212 rfl ?_
  refine lv_iconst (pc := 213) (v := (4 : Int32)) hx hb dX0_init_213 (by decide) ?_
  refine rk_new (pc := 214) (h := b0 + 172) (sh := (shO_X6)) hx hb hts hown hK hS697 in_X6 ft_X6 rfl q407 q409 q125 hz706 rfl (df_X6 _ rfl) (Nat.le_of_ble_eq_true rfl) (Nat.le_of_ble_eq_true rfl) dX0_init_214 (fun H707 hW708 hS709 hz710 hkp711 => ?_)
  have hW712 := rg_keepN hW700 hz706 hkp711
  have hW713 := rg_keepN hW701 hz706 hkp711
  have hW714 := rg_keepN hW702 hz706 hkp711
  have hW715 := rg_keepN hW703 hz706 hkp711
  have hW716 := rg_keepN hW704 hz706 hkp711
  have hW717 := rg_keepN hW696 hz706 hkp711
  have hP718 := PP.keepN hP705 hz706 hkp711
  have ap719 := PP.ap (q := (b0 + 172)) hP718 (by omega)
  have hz720 : H707.size = b0 + 173 := by omega
  clear hW700 hW701 hW702 hW703 hW704 hW696 hP705 hS697 hz706 hz710 hkp711
  refine lv_dup (pc := 217) hx hb dX0_init_217 rfl ?_
  refine rk_TIN (pc := 218) (As := []) (rest := [.ref (b0 + 172), .int (4 : Int32), .ref (b0 + 167), .ref (b0 + 167), .ref b0]) (mc := 0) (ms := 0) hx hb hml hown hts hK hS709 (fun q hq => FA_sz rfl q hq) lkX0_97 yn_X6_init (ct_X6_init (G := G) (l := l) (b0 := (b0 + 172)) (sz := H707.size) (by omega)) ⟨Nat.le_of_ble_eq_true rfl, Nat.le_of_ble_eq_true rfl⟩ (fun z h => Or.inr (by have h8 := h.1; omega)) hW708 rfl rfl hl.1 (Nat.le_of_ble_eq_true rfl) dX0_init_218 ⟨Nat.le_of_ble_eq_true rfl, Nat.le_of_ble_eq_true rfl⟩ (fun ov9 H721 locs722 hP723 hkp724 hS725 => ?_)
  obtain ⟨rfl, hW726, hz727⟩ := hP723
  have hW728 := rg_keepA hW712 hkp724 (by intro z h1 h2 h3; have h8 := h3.1; have h9 := h3.2; omega)
  have hW729 := rg_keepA hW713 hkp724 (by intro z h1 h2 h3; have h8 := h3.1; have h9 := h3.2; omega)
  have hW730 := rg_keepA hW714 hkp724 (by intro z h1 h2 h3; have h8 := h3.1; have h9 := h3.2; omega)
  have hW731 := rg_keepA hW715 hkp724 (by intro z h1 h2 h3; have h8 := h3.1; have h9 := h3.2; omega)
  have hW732 := rg_keepA hW716 hkp724 (by intro z h1 h2 h3; have h8 := h3.1; have h9 := h3.2; omega)
  have hW733 := rg_keepA hW717 hkp724 (by intro z h1 h2 h3; have h8 := h3.1; have h9 := h3.2; omega)
  have hP734 := PP.keepA hP718 hkp724 (by omega)
  have hz735 : H721.size = b0 + 173 := by omega
  have ap736 := Ap.cons (x := ((b0 + 172), 1, (shX6 G.2.1), (vc_X6 (b0 + 172)))) (Or.inl (show b0 < (b0 + 172) by omega)) ap687
  have ap737 := Ap.cons (x := ((b0 + 172), 1, (shX6 G.2.1), (vc_X6 (b0 + 172)))) (Or.inl (show (b0 + 155) < (b0 + 172) by omega)) ap688
  have ap738 := Ap.cons (x := ((b0 + 172), 1, (shX6 G.2.1), (vc_X6 (b0 + 172)))) (Or.inl (show (b0 + 156) < (b0 + 172) by omega)) ap689
  have ap739 := Ap.cons (x := ((b0 + 172), 1, (shX6 G.2.1), (vc_X6 (b0 + 172)))) (Or.inl (show (b0 + 159) < (b0 + 172) by omega)) ap690
  have ap740 := Ap.cons (x := ((b0 + 172), 1, (shX6 G.2.1), (vc_X6 (b0 + 172)))) (Or.inl (show (b0 + 164) < (b0 + 172) by omega)) ap691
  have ap741 := Ap.cons (x := ((b0 + 172), 1, (shX6 G.2.1), (vc_X6 (b0 + 172)))) (Or.inl (show (b0 + 167) < (b0 + 172) by omega)) ap692
  have hP742 := PP.cons (hi' := b0 + 173) hW726 hP734 (by omega) (by omega)
  clear hW712 hW713 hW714 hW715 hW716 hW717 hP718 hz720 hz727 hkp724 hS709 hW708 ap719 ap687 ap688 ap689 ap690 ap691 ap692 hP734 hW726
  refine W.eq (g2 := F0 m 221 ls [.ref (b0 + 172), .int (4 : Int32), .ref (b0 + 167), .ref (b0 + 167), .ref b0]) rfl ?_
  refine rk_aastC (pc := 221) hx hb hK hW733 hS725 0 11 (by decide) rfl (Or.inr (by omega)) (fun _ _ _ => rfl) rfl rfl (rk_recv (ci := 6) (C := RX6) (T := TX6) (N := 1) hK (PP.at hP742 0 rfl) 0 (by decide) rfl rfl rfl) dX0_init_221 (fun H743 locs744 hW745 hS746 hz747 hkp748 => ?_)
  have hW745 : rg G (b0 + 167) 1 (fun _ _ _ _ z => some (.inl (G.2.1 11, 6, .inr (.inr (.inr (.inr z)))))) (vq_X0_init_748 b0) H743 := hW745
  have hW749 := rg_keepq hW728 hkp748 (by omega)
  have hW750 := rg_keepq hW729 hkp748 (by omega)
  have hW751 := rg_keepq hW730 hkp748 (by omega)
  have hW752 := rg_keepq hW731 hkp748 (by omega)
  have hW753 := rg_keepq hW732 hkp748 (by omega)
  have hP754 := PP.keepq hP742 hkp748 ap741
  have hz755 := hz747.trans hz735
  clear hW733 hW728 hW729 hW730 hW731 hW732 hP742 hz735 hz747 hS725 hkp748
  refine lv_dup (pc := 222) hx hb dX0_init_222 rfl ?_
  refine lv_iconst (pc := 223) (v := (5 : Int32)) hx hb dX0_init_223 (by decide) ?_
  refine rk_new (pc := 224) (h := b0 + 173) (sh := (shO_X6)) hx hb hts hown hK hS746 in_X6 ft_X6 rfl q407 q409 q125 hz755 rfl (df_X6 _ rfl) (Nat.le_of_ble_eq_true rfl) (Nat.le_of_ble_eq_true rfl) dX0_init_224 (fun H756 hW757 hS758 hz759 hkp760 => ?_)
  have hW761 := rg_keepN hW749 hz755 hkp760
  have hW762 := rg_keepN hW750 hz755 hkp760
  have hW763 := rg_keepN hW751 hz755 hkp760
  have hW764 := rg_keepN hW752 hz755 hkp760
  have hW765 := rg_keepN hW753 hz755 hkp760
  have hW766 := rg_keepN hW745 hz755 hkp760
  have hP767 := PP.keepN hP754 hz755 hkp760
  have ap768 := PP.ap (q := (b0 + 173)) hP767 (by omega)
  have hz769 : H756.size = b0 + 174 := by omega
  clear hW749 hW750 hW751 hW752 hW753 hW745 hP754 hS746 hz755 hz759 hkp760
  refine lv_dup (pc := 227) hx hb dX0_init_227 rfl ?_
  refine rk_TIN (pc := 228) (As := []) (rest := [.ref (b0 + 173), .int (5 : Int32), .ref (b0 + 167), .ref (b0 + 167), .ref b0]) (mc := 0) (ms := 0) hx hb hml hown hts hK hS758 (fun q hq => FA_sz rfl q hq) lkX0_97 yn_X6_init (ct_X6_init (G := G) (l := l) (b0 := (b0 + 173)) (sz := H756.size) (by omega)) ⟨Nat.le_of_ble_eq_true rfl, Nat.le_of_ble_eq_true rfl⟩ (fun z h => Or.inr (by have h8 := h.1; omega)) hW757 rfl rfl hl.1 (Nat.le_of_ble_eq_true rfl) dX0_init_228 ⟨Nat.le_of_ble_eq_true rfl, Nat.le_of_ble_eq_true rfl⟩ (fun ov9 H770 locs771 hP772 hkp773 hS774 => ?_)
  obtain ⟨rfl, hW775, hz776⟩ := hP772
  have hW777 := rg_keepA hW761 hkp773 (by intro z h1 h2 h3; have h8 := h3.1; have h9 := h3.2; omega)
  have hW778 := rg_keepA hW762 hkp773 (by intro z h1 h2 h3; have h8 := h3.1; have h9 := h3.2; omega)
  have hW779 := rg_keepA hW763 hkp773 (by intro z h1 h2 h3; have h8 := h3.1; have h9 := h3.2; omega)
  have hW780 := rg_keepA hW764 hkp773 (by intro z h1 h2 h3; have h8 := h3.1; have h9 := h3.2; omega)
  have hW781 := rg_keepA hW765 hkp773 (by intro z h1 h2 h3; have h8 := h3.1; have h9 := h3.2; omega)
  have hW782 := rg_keepA hW766 hkp773 (by intro z h1 h2 h3; have h8 := h3.1; have h9 := h3.2; omega)
  have hP783 := PP.keepA hP767 hkp773 (by omega)
  have hz784 : H770.size = b0 + 174 := by omega
  have ap785 := Ap.cons (x := ((b0 + 173), 1, (shX6 G.2.1), (vc_X6 (b0 + 173)))) (Or.inl (show b0 < (b0 + 173) by omega)) ap736
  have ap786 := Ap.cons (x := ((b0 + 173), 1, (shX6 G.2.1), (vc_X6 (b0 + 173)))) (Or.inl (show (b0 + 155) < (b0 + 173) by omega)) ap737
  have ap787 := Ap.cons (x := ((b0 + 173), 1, (shX6 G.2.1), (vc_X6 (b0 + 173)))) (Or.inl (show (b0 + 156) < (b0 + 173) by omega)) ap738
  have ap788 := Ap.cons (x := ((b0 + 173), 1, (shX6 G.2.1), (vc_X6 (b0 + 173)))) (Or.inl (show (b0 + 159) < (b0 + 173) by omega)) ap739
  have ap789 := Ap.cons (x := ((b0 + 173), 1, (shX6 G.2.1), (vc_X6 (b0 + 173)))) (Or.inl (show (b0 + 164) < (b0 + 173) by omega)) ap740
  have ap790 := Ap.cons (x := ((b0 + 173), 1, (shX6 G.2.1), (vc_X6 (b0 + 173)))) (Or.inl (show (b0 + 167) < (b0 + 173) by omega)) ap741
  have hP791 := PP.cons (hi' := b0 + 174) hW775 hP783 (by omega) (by omega)
  clear hW761 hW762 hW763 hW764 hW765 hW766 hP767 hz769 hz776 hkp773 hS758 hW757 ap768 ap736 ap737 ap738 ap739 ap740 ap741 hP783 hW775
  refine W.eq (g2 := F0 m 231 ls [.ref (b0 + 173), .int (5 : Int32), .ref (b0 + 167), .ref (b0 + 167), .ref b0]) rfl ?_
  refine rk_aastC (pc := 231) hx hb hK hW782 hS774 0 11 (by decide) rfl (Or.inr (by omega)) (fun _ _ _ => rfl) rfl rfl (rk_recv (ci := 6) (C := RX6) (T := TX6) (N := 1) hK (PP.at hP791 0 rfl) 0 (by decide) rfl rfl rfl) dX0_init_231 (fun H792 locs793 hW794 hS795 hz796 hkp797 => ?_)
  have hW794 : rg G (b0 + 167) 1 (fun _ _ _ _ z => some (.inl (G.2.1 11, 6, .inr (.inr (.inr (.inr z)))))) (vq_X0_init_797 b0) H792 := hW794
  have hW798 := rg_keepq hW777 hkp797 (by omega)
  have hW799 := rg_keepq hW778 hkp797 (by omega)
  have hW800 := rg_keepq hW779 hkp797 (by omega)
  have hW801 := rg_keepq hW780 hkp797 (by omega)
  have hW802 := rg_keepq hW781 hkp797 (by omega)
  have hP803 := PP.keepq hP791 hkp797 ap790
  have hz804 := hz796.trans hz784
  clear hW782 hW777 hW778 hW779 hW780 hW781 hP791 hz784 hz796 hS774 hkp797
  refine rk_putF (pc := 232) (q := b0) hx hb hts hown hK hW798 hS795 flX0_98 ft_X0 0 (by decide) rfl (Or.inl (show iv _ _ _ from ⟨by omega, by omega⟩)) rfl rfl hin rfl (x := va_rf (some (b0 + 167))) (rf_nar _ rfl (some (b0 + 167))) (rf_fit _ rfl (some (b0 + 167))) (Nat.le_of_ble_eq_true rfl) (sR (vo_X0_init_491 b0) 0 24 (some (b0 + 167))) sR_ne (by rw [sR_eq]; rfl) dX0_init_232 (fun H805 locs806 hW807 hS808 hz809 hkp810 => ?_)
  have hW807 : rg G b0 1 shO_X0 (vo_X0_init_810 b0) H805 := hW807
  have hW811 := rg_keepq hW799 hkp810 (by omega)
  have hW812 := rg_keepq hW800 hkp810 (by omega)
  have hW813 := rg_keepq hW801 hkp810 (by omega)
  have hW814 := rg_keepq hW802 hkp810 (by omega)
  have hW815 := rg_keepq hW794 hkp810 (by omega)
  have hP816 := PP.keepq hP803 hkp810 ap785
  have hz817 := hz809.trans hz804
  clear hW798 hW799 hW800 hW801 hW802 hW794 hP803 hz804 hz809 hS795 hkp810
  refine lv_aload_n (pc := 235) hx hb dX0_init_235 rfl (lv_at hl 0 rfl) ?_
  refine rk_get (pc := 236) hx hb hts hown hK hW807 flX0_46 0 (by decide) rfl rfl (x := .ref (b0 + 155)) rfl dX0_init_236 ?_
  refine lv_iconst (pc := 239) (v := (0 : Int32)) hx hb dX0_init_239 (by decide) ?_
  refine rk_const (pc := 240) (rest := [.int (0 : Int32), .ref (b0 + 155)]) hx hb hml hl.1 hnm ((hZI s hK).1) (Nat.le_of_ble_eq_true rfl) dX0_init_240 ?_
  have hLc824 : LQ H805 (G.2.1 28) (G.2.1 20) [] := LC_old hS808 hG hgb (by omega) hZL.2.1
  refine rk_aastL (pc := 245) hx hb hK hW811 hS808 0 7 (by decide) rfl (Or.inr (by omega)) (fun _ _ _ => rfl) rfl rfl hLc824 (hZL.1 s hK).1.1 lfL0 rfl dX0_init_245 (fun H818 locs819 hW820 hS821 hz822 hkp823 => ?_)
  have hW820 : rg G (b0 + 155) 1 (fun _ _ _ _ z => some (.inl (G.2.1 7, 2, .inr (.inr (.inr (.inr z)))))) (vq_X0_init_824 G.2.1 b0) H818 := hW820
  have hW825 := rg_keepq hW807 hkp823 (by omega)
  have hW826 := rg_keepq hW812 hkp823 (by omega)
  have hW827 := rg_keepq hW813 hkp823 (by omega)
  have hW828 := rg_keepq hW814 hkp823 (by omega)
  have hW829 := rg_keepq hW815 hkp823 (by omega)
  have hP830 := PP.keepq hP816 hkp823 ap786
  have hz831 := hz822.trans hz817
  clear hW811 hW807 hW812 hW813 hW814 hW815 hP816 hLc824 hz817 hz822 hS808 hkp823
  refine lv_aload_n (pc := 246) hx hb dX0_init_246 rfl (lv_at hl 0 rfl) ?_
  refine rk_get (pc := 247) hx hb hts hown hK hW825 flX0_46 0 (by decide) rfl rfl (x := .ref (b0 + 155)) rfl dX0_init_247 ?_
  refine lv_iconst (pc := 250) (v := (1 : Int32)) hx hb dX0_init_250 (by decide) ?_
  refine rk_const (pc := 251) (rest := [.int (1 : Int32), .ref (b0 + 155)]) hx hb hml hl.1 hnm ((hZI s hK).2.1) (Nat.le_of_ble_eq_true rfl) dX0_init_251 ?_
  have hLc838 : LQ H818 (G.2.1 29) (G.2.1 21) [] := LC_old hS821 hG hgb (by omega) hZL.2.2
  refine rk_aastL (pc := 256) hx hb hK hW820 hS821 0 7 (by decide) rfl (Or.inr (by omega)) (fun _ _ _ => rfl) rfl rfl hLc838 (hZL.1 s hK).1.2.1 lfL1 rfl dX0_init_256 (fun H832 locs833 hW834 hS835 hz836 hkp837 => ?_)
  have hW834 : rg G (b0 + 155) 1 (fun _ _ _ _ z => some (.inl (G.2.1 7, 2, .inr (.inr (.inr (.inr z)))))) (vq_X0_init_838 G.2.1 b0) H832 := hW834
  have hW839 := rg_keepq hW825 hkp837 (by omega)
  have hW840 := rg_keepq hW826 hkp837 (by omega)
  have hW841 := rg_keepq hW827 hkp837 (by omega)
  have hW842 := rg_keepq hW828 hkp837 (by omega)
  have hW843 := rg_keepq hW829 hkp837 (by omega)
  have hP844 := PP.keepq hP830 hkp837 ap786
  have hz845 := hz836.trans hz831
  clear hW820 hW825 hW826 hW827 hW828 hW829 hP830 hLc838 hz831 hz836 hS821 hkp837
  refine lv_aload_n (pc := 257) hx hb dX0_init_257 rfl (lv_at hl 0 rfl) ?_
  refine rk_get (pc := 258) hx hb hts hown hK hW839 flX0_52 0 (by decide) rfl rfl (x := .ref (b0 + 156)) rfl dX0_init_258 ?_
  refine lv_iconst (pc := 261) (v := (0 : Int32)) hx hb dX0_init_261 (by decide) ?_
  refine lv_aload_n (pc := 262) hx hb dX0_init_262 rfl (lv_at hl 0 rfl) ?_
  refine rk_made (pc := 263) (h := b0 + 174) (vals := [.ref b0]) (rest := [.int (0 : Int32), .ref (b0 + 156)]) hx hb hml hl.1 hnm hS835 ((hZI s hK).2.2.1) lfC0 rfl rfl (fun i v hv => by rcases i with _ | i <;> simp at hv <;> subst hv <;> exact ⟨_, rfl, rfl⟩) rfl (Nat.le_of_ble_eq_true rfl) hz845 (Nat.le_of_ble_eq_true rfl) (Nat.le_of_ble_eq_true rfl) dX0_init_263 (fun H846 hL847 hS848 hz849 hkp850 => ?_)
  have hW852 := rg_keepN hW839 hz845 hkp850
  have hW853 := rg_keepN hW834 hz845 hkp850
  have hW854 := rg_keepN hW840 hz845 hkp850
  have hW855 := rg_keepN hW841 hz845 hkp850
  have hW856 := rg_keepN hW842 hz845 hkp850
  have hW857 := rg_keepN hW843 hz845 hkp850
  have hP858 := PP.keepN hP844 hz845 hkp850
  have hz859 : H846.size = b0 + 175 := by omega
  clear hW839 hW834 hW840 hW841 hW842 hW843 hP844 hS835 hz845 hz849 hkp850
  have hW851 := rg_ofLC (G := G) hL847
  have ap860 := Ap.cons (x := ((b0 + 174), 1, (fun _ _ _ _ _ => some (.inl (G.2.1 22, 1, .inr (.inr (.inr (.inr (fun _ => some b0))))))), mz)) (Or.inl (show b0 < (b0 + 174) by omega)) ap785
  have ap861 := Ap.cons (x := ((b0 + 174), 1, (fun _ _ _ _ _ => some (.inl (G.2.1 22, 1, .inr (.inr (.inr (.inr (fun _ => some b0))))))), mz)) (Or.inl (show (b0 + 155) < (b0 + 174) by omega)) ap786
  have ap862 := Ap.cons (x := ((b0 + 174), 1, (fun _ _ _ _ _ => some (.inl (G.2.1 22, 1, .inr (.inr (.inr (.inr (fun _ => some b0))))))), mz)) (Or.inl (show (b0 + 156) < (b0 + 174) by omega)) ap787
  have ap863 := Ap.cons (x := ((b0 + 174), 1, (fun _ _ _ _ _ => some (.inl (G.2.1 22, 1, .inr (.inr (.inr (.inr (fun _ => some b0))))))), mz)) (Or.inl (show (b0 + 159) < (b0 + 174) by omega)) ap788
  have ap864 := Ap.cons (x := ((b0 + 174), 1, (fun _ _ _ _ _ => some (.inl (G.2.1 22, 1, .inr (.inr (.inr (.inr (fun _ => some b0))))))), mz)) (Or.inl (show (b0 + 164) < (b0 + 174) by omega)) ap789
  have ap865 := Ap.cons (x := ((b0 + 174), 1, (fun _ _ _ _ _ => some (.inl (G.2.1 22, 1, .inr (.inr (.inr (.inr (fun _ => some b0))))))), mz)) (Or.inl (show (b0 + 167) < (b0 + 174) by omega)) ap790
  have hP866 := PP.cons (hi' := b0 + 175) hW851 hP858 (by omega) (by omega)
  clear ap785 ap786 ap787 ap788 ap789 ap790 hP858 hW851
  refine rk_aastL (pc := 268) hx hb hK hW854 hS848 0 8 (by decide) rfl (Or.inr (by omega)) (fun _ _ _ => rfl) rfl rfl (LC.q hL847) (hZL.1 s hK).1.2.2.1 lfC0 rfl dX0_init_268 (fun H867 locs868 hW869 hS870 hz871 hkp872 => ?_)
  have hW869 : rg G (b0 + 156) 1 (fun _ _ _ _ z => some (.inl (G.2.1 8, 3, .inr (.inr (.inr (.inr z)))))) (vq_X0_init_873 G.2.1 b0) H867 := hW869
  have hW874 := rg_keepq hW852 hkp872 (by omega)
  have hW875 := rg_keepq hW853 hkp872 (by omega)
  have hW876 := rg_keepq hW855 hkp872 (by omega)
  have hW877 := rg_keepq hW856 hkp872 (by omega)
  have hW878 := rg_keepq hW857 hkp872 (by omega)
  have hP879 := PP.keepq hP866 hkp872 ap862
  have hz880 := hz871.trans hz859
  clear hW854 hW852 hW853 hW855 hW856 hW857 hP866 hL847 hz859 hz871 hS848 hkp872
  refine lv_aload_n (pc := 269) hx hb dX0_init_269 rfl (lv_at hl 0 rfl) ?_
  refine rk_get (pc := 270) hx hb hts hown hK hW874 flX0_52 0 (by decide) rfl rfl (x := .ref (b0 + 156)) rfl dX0_init_270 ?_
  refine lv_iconst (pc := 273) (v := (1 : Int32)) hx hb dX0_init_273 (by decide) ?_
  refine lv_aload_n (pc := 274) hx hb dX0_init_274 rfl (lv_at hl 0 rfl) ?_
  refine rk_made (pc := 275) (h := b0 + 175) (vals := [.ref b0]) (rest := [.int (1 : Int32), .ref (b0 + 156)]) hx hb hml hl.1 hnm hS870 ((hZI s hK).2.2.2.1) lfC1 rfl rfl (fun i v hv => by rcases i with _ | i <;> simp at hv <;> subst hv <;> exact ⟨_, rfl, rfl⟩) rfl (Nat.le_of_ble_eq_true rfl) hz880 (Nat.le_of_ble_eq_true rfl) (Nat.le_of_ble_eq_true rfl) dX0_init_275 (fun H881 hL882 hS883 hz884 hkp885 => ?_)
  have hW887 := rg_keepN hW874 hz880 hkp885
  have hW888 := rg_keepN hW875 hz880 hkp885
  have hW889 := rg_keepN hW869 hz880 hkp885
  have hW890 := rg_keepN hW876 hz880 hkp885
  have hW891 := rg_keepN hW877 hz880 hkp885
  have hW892 := rg_keepN hW878 hz880 hkp885
  have hP893 := PP.keepN hP879 hz880 hkp885
  have hz894 : H881.size = b0 + 176 := by omega
  clear hW874 hW875 hW869 hW876 hW877 hW878 hP879 hS870 hz880 hz884 hkp885
  have hW886 := rg_ofLC (G := G) hL882
  have ap895 := Ap.cons (x := ((b0 + 175), 1, (fun _ _ _ _ _ => some (.inl (G.2.1 23, 1, .inr (.inr (.inr (.inr (fun _ => some b0))))))), mz)) (Or.inl (show b0 < (b0 + 175) by omega)) ap860
  have ap896 := Ap.cons (x := ((b0 + 175), 1, (fun _ _ _ _ _ => some (.inl (G.2.1 23, 1, .inr (.inr (.inr (.inr (fun _ => some b0))))))), mz)) (Or.inl (show (b0 + 155) < (b0 + 175) by omega)) ap861
  have ap897 := Ap.cons (x := ((b0 + 175), 1, (fun _ _ _ _ _ => some (.inl (G.2.1 23, 1, .inr (.inr (.inr (.inr (fun _ => some b0))))))), mz)) (Or.inl (show (b0 + 156) < (b0 + 175) by omega)) ap862
  have ap898 := Ap.cons (x := ((b0 + 175), 1, (fun _ _ _ _ _ => some (.inl (G.2.1 23, 1, .inr (.inr (.inr (.inr (fun _ => some b0))))))), mz)) (Or.inl (show (b0 + 159) < (b0 + 175) by omega)) ap863
  have ap899 := Ap.cons (x := ((b0 + 175), 1, (fun _ _ _ _ _ => some (.inl (G.2.1 23, 1, .inr (.inr (.inr (.inr (fun _ => some b0))))))), mz)) (Or.inl (show (b0 + 164) < (b0 + 175) by omega)) ap864
  have ap900 := Ap.cons (x := ((b0 + 175), 1, (fun _ _ _ _ _ => some (.inl (G.2.1 23, 1, .inr (.inr (.inr (.inr (fun _ => some b0))))))), mz)) (Or.inl (show (b0 + 167) < (b0 + 175) by omega)) ap865
  have hP901 := PP.cons (hi' := b0 + 176) hW886 hP893 (by omega) (by omega)
  clear ap860 ap861 ap862 ap863 ap864 ap865 hP893 hW886
  refine rk_aastL (pc := 280) hx hb hK hW889 hS883 0 8 (by decide) rfl (Or.inr (by omega)) (fun _ _ _ => rfl) rfl rfl (LC.q hL882) (hZL.1 s hK).1.2.2.2.1 lfC1 rfl dX0_init_280 (fun H902 locs903 hW904 hS905 hz906 hkp907 => ?_)
  have hW904 : rg G (b0 + 156) 1 (fun _ _ _ _ z => some (.inl (G.2.1 8, 3, .inr (.inr (.inr (.inr z)))))) (vq_X0_init_908 G.2.1 b0) H902 := hW904
  have hW909 := rg_keepq hW887 hkp907 (by omega)
  have hW910 := rg_keepq hW888 hkp907 (by omega)
  have hW911 := rg_keepq hW890 hkp907 (by omega)
  have hW912 := rg_keepq hW891 hkp907 (by omega)
  have hW913 := rg_keepq hW892 hkp907 (by omega)
  have hP914 := PP.keepq hP901 hkp907 ap897
  have hz915 := hz906.trans hz894
  clear hW889 hW887 hW888 hW890 hW891 hW892 hP901 hL882 hz894 hz906 hS883 hkp907
  refine lv_aload_n (pc := 281) hx hb dX0_init_281 rfl (lv_at hl 0 rfl) ?_
  refine rk_get (pc := 282) hx hb hts hown hK hW909 flX0_52 0 (by decide) rfl rfl (x := .ref (b0 + 156)) rfl dX0_init_282 ?_
  refine lv_iconst (pc := 285) (v := (2 : Int32)) hx hb dX0_init_285 (by decide) ?_
  refine lv_aload_n (pc := 286) hx hb dX0_init_286 rfl (lv_at hl 0 rfl) ?_
  refine rk_made (pc := 287) (h := b0 + 176) (vals := [.ref b0]) (rest := [.int (2 : Int32), .ref (b0 + 156)]) hx hb hml hl.1 hnm hS905 ((hZI s hK).2.2.2.2) lfC2 rfl rfl (fun i v hv => by rcases i with _ | i <;> simp at hv <;> subst hv <;> exact ⟨_, rfl, rfl⟩) rfl (Nat.le_of_ble_eq_true rfl) hz915 (Nat.le_of_ble_eq_true rfl) (Nat.le_of_ble_eq_true rfl) dX0_init_287 (fun H916 hL917 hS918 hz919 hkp920 => ?_)
  have hW922 := rg_keepN hW909 hz915 hkp920
  have hW923 := rg_keepN hW910 hz915 hkp920
  have hW924 := rg_keepN hW904 hz915 hkp920
  have hW925 := rg_keepN hW911 hz915 hkp920
  have hW926 := rg_keepN hW912 hz915 hkp920
  have hW927 := rg_keepN hW913 hz915 hkp920
  have hP928 := PP.keepN hP914 hz915 hkp920
  have hz929 : H916.size = b0 + 177 := by omega
  clear hW909 hW910 hW904 hW911 hW912 hW913 hP914 hS905 hz915 hz919 hkp920
  have hW921 := rg_ofLC (G := G) hL917
  have ap930 := Ap.cons (x := ((b0 + 176), 1, (fun _ _ _ _ _ => some (.inl (G.2.1 24, 1, .inr (.inr (.inr (.inr (fun _ => some b0))))))), mz)) (Or.inl (show b0 < (b0 + 176) by omega)) ap895
  have ap931 := Ap.cons (x := ((b0 + 176), 1, (fun _ _ _ _ _ => some (.inl (G.2.1 24, 1, .inr (.inr (.inr (.inr (fun _ => some b0))))))), mz)) (Or.inl (show (b0 + 155) < (b0 + 176) by omega)) ap896
  have ap932 := Ap.cons (x := ((b0 + 176), 1, (fun _ _ _ _ _ => some (.inl (G.2.1 24, 1, .inr (.inr (.inr (.inr (fun _ => some b0))))))), mz)) (Or.inl (show (b0 + 156) < (b0 + 176) by omega)) ap897
  have ap933 := Ap.cons (x := ((b0 + 176), 1, (fun _ _ _ _ _ => some (.inl (G.2.1 24, 1, .inr (.inr (.inr (.inr (fun _ => some b0))))))), mz)) (Or.inl (show (b0 + 159) < (b0 + 176) by omega)) ap898
  have ap934 := Ap.cons (x := ((b0 + 176), 1, (fun _ _ _ _ _ => some (.inl (G.2.1 24, 1, .inr (.inr (.inr (.inr (fun _ => some b0))))))), mz)) (Or.inl (show (b0 + 164) < (b0 + 176) by omega)) ap899
  have ap935 := Ap.cons (x := ((b0 + 176), 1, (fun _ _ _ _ _ => some (.inl (G.2.1 24, 1, .inr (.inr (.inr (.inr (fun _ => some b0))))))), mz)) (Or.inl (show (b0 + 167) < (b0 + 176) by omega)) ap900
  have hP936 := PP.cons (hi' := b0 + 177) hW921 hP928 (by omega) (by omega)
  clear ap895 ap896 ap897 ap898 ap899 ap900 hP928 hW921
  refine rk_aastL (pc := 292) hx hb hK hW924 hS918 0 8 (by decide) rfl (Or.inr (by omega)) (fun _ _ _ => rfl) rfl rfl (LC.q hL917) (hZL.1 s hK).1.2.2.2.2.1 lfC2 rfl dX0_init_292 (fun H937 locs938 hW939 hS940 hz941 hkp942 => ?_)
  have hW939 : rg G (b0 + 156) 1 (fun _ _ _ _ z => some (.inl (G.2.1 8, 3, .inr (.inr (.inr (.inr z)))))) (vq_X0_init_943 G.2.1 b0) H937 := hW939
  have hW944 := rg_keepq hW922 hkp942 (by omega)
  have hW945 := rg_keepq hW923 hkp942 (by omega)
  have hW946 := rg_keepq hW925 hkp942 (by omega)
  have hW947 := rg_keepq hW926 hkp942 (by omega)
  have hW948 := rg_keepq hW927 hkp942 (by omega)
  have hP949 := PP.keepq hP936 hkp942 ap932
  have hz950 := hz941.trans hz929
  clear hW924 hW922 hW923 hW925 hW926 hW927 hP936 hL917 hz929 hz941 hS918 hkp942
  refine lv_iconst (pc := 293) (v := (0 : Int32)) hx hb dX0_init_293 (by decide) ?_
  refine lv_istore_n (pc := 294) (lv' := [(1, .int (0 : Int32)), (0, .ref b0)]) hx hb dX0_init_294 rfl hl (by decide) rfl (fun ls hl => ?_)
  clear ap931
  have ap951 := Ap.cons (x := ((b0 + 155), 1, (fun _ _ _ _ z => some (.inl (G.2.1 7, 2, .inr (.inr (.inr (.inr z)))))), (vq_X0_init_838 G.2.1 b0))) (Or.inl (show b0 < (b0 + 155) by omega)) ap930
  have ap952 := Ap.cons (x := ((b0 + 155), 1, (fun _ _ _ _ z => some (.inl (G.2.1 7, 2, .inr (.inr (.inr (.inr z)))))), (vq_X0_init_838 G.2.1 b0))) (Or.inr (show (b0 + 155) + 1 ≤ (b0 + 156) by omega)) ap932
  have ap953 := Ap.cons (x := ((b0 + 155), 1, (fun _ _ _ _ z => some (.inl (G.2.1 7, 2, .inr (.inr (.inr (.inr z)))))), (vq_X0_init_838 G.2.1 b0))) (Or.inr (show (b0 + 155) + 1 ≤ (b0 + 159) by omega)) ap933
  have ap954 := Ap.cons (x := ((b0 + 155), 1, (fun _ _ _ _ z => some (.inl (G.2.1 7, 2, .inr (.inr (.inr (.inr z)))))), (vq_X0_init_838 G.2.1 b0))) (Or.inr (show (b0 + 155) + 1 ≤ (b0 + 164) by omega)) ap934
  have ap955 := Ap.cons (x := ((b0 + 155), 1, (fun _ _ _ _ z => some (.inl (G.2.1 7, 2, .inr (.inr (.inr (.inr z)))))), (vq_X0_init_838 G.2.1 b0))) (Or.inr (show (b0 + 155) + 1 ≤ (b0 + 167) by omega)) ap935
  have hP956 := PP.cons (hi' := b0 + 177) hW945 hP949 (by omega) (by omega)
  clear ap930 ap932 ap933 ap934 ap935 hP949 hW945
  clear ap952
  have ap957 := Ap.cons (x := ((b0 + 156), 1, (fun _ _ _ _ z => some (.inl (G.2.1 8, 3, .inr (.inr (.inr (.inr z)))))), (vq_X0_init_943 G.2.1 b0))) (Or.inl (show b0 < (b0 + 156) by omega)) ap951
  have ap958 := Ap.cons (x := ((b0 + 156), 1, (fun _ _ _ _ z => some (.inl (G.2.1 8, 3, .inr (.inr (.inr (.inr z)))))), (vq_X0_init_943 G.2.1 b0))) (Or.inr (show (b0 + 156) + 1 ≤ (b0 + 159) by omega)) ap953
  have ap959 := Ap.cons (x := ((b0 + 156), 1, (fun _ _ _ _ z => some (.inl (G.2.1 8, 3, .inr (.inr (.inr (.inr z)))))), (vq_X0_init_943 G.2.1 b0))) (Or.inr (show (b0 + 156) + 1 ≤ (b0 + 164) by omega)) ap954
  have ap960 := Ap.cons (x := ((b0 + 156), 1, (fun _ _ _ _ z => some (.inl (G.2.1 8, 3, .inr (.inr (.inr (.inr z)))))), (vq_X0_init_943 G.2.1 b0))) (Or.inr (show (b0 + 156) + 1 ≤ (b0 + 167) by omega)) ap955
  have hP961 := PP.cons (hi' := b0 + 177) hW939 hP956 (by omega) (by omega)
  clear ap951 ap953 ap954 ap955 hP956 hW939
  clear ap960
  have ap962 := Ap.cons (x := ((b0 + 167), 1, (fun _ _ _ _ z => some (.inl (G.2.1 11, 6, .inr (.inr (.inr (.inr z)))))), (vq_X0_init_797 b0))) (Or.inl (show b0 < (b0 + 167) by omega)) ap957
  have ap963 := Ap.cons (x := ((b0 + 167), 1, (fun _ _ _ _ z => some (.inl (G.2.1 11, 6, .inr (.inr (.inr (.inr z)))))), (vq_X0_init_797 b0))) (Or.inl (show (b0 + 159) < (b0 + 167) by omega)) ap958
  have ap964 := Ap.cons (x := ((b0 + 167), 1, (fun _ _ _ _ z => some (.inl (G.2.1 11, 6, .inr (.inr (.inr (.inr z)))))), (vq_X0_init_797 b0))) (Or.inl (show (b0 + 164) < (b0 + 167) by omega)) ap959
  have hP965 := PP.cons (hi' := b0 + 177) hW948 hP961 (by omega) (by omega)
  clear ap957 ap958 ap959 hP961 hW948
  have hcE : rg G (b0 + 159) 1 (shFA G) (mAr b0 177 1 0) H937 := rg_castr hW946 rfl rfl (fun j hj => rfl)
  have hnE : rg G (b0 + 164) 1 (shNA G) mz H937 := hW947
  have hfE : rg G (b0 + 177) 0 (shFs G b0) mz H937 := fun o ho => absurd ho (Nat.not_lt_zero o)
  refine lp_found C (vO := vo_X0_init_810 b0) (cells0 := 176) (slots0 := 1792) rfl hz0 (fun q hq => Or.inr hq) ap963 (Nat.le_of_ble_eq_true rfl) (Nat.le_of_ble_eq_true rfl) (Nat.le_of_ble_eq_true rfl) (Nat.le_of_ble_eq_true rfl) ?_ 20 0 rfl _ _ ls hP965 hW944 hnE hcE hfE hS940 (by omega) hl
  intro H7 locs7 ls7 hP7 hO7 hN7 hF7 hFs7 hS7 hz7 hl7
  have hP71 := PP.cons (hi' := b0 + 197) hF7 hP7 (by omega) (by omega)
  have hP72 := PP.cons (hi' := b0 + 197) hFs7 hP71 (by omega) (by omega)
  have ap71 := Ap.cons (x := (b0 + 159, 1, shFA G, mAr b0 177 1 20)) (Or.inr (show b0 + 159 + 1 ≤ b0 + 164 by omega)) ap964
  have ap72 := Ap.cons (x := (b0 + 177, 20, shFs G b0, mz)) (Or.inl (show b0 + 164 < b0 + 177 by omega)) ap71
  have hcN : rg G (b0 + 164) 1 (shNA G) (mAr b0 197 4 0) H7 := rg_castr hN7 rfl rfl (fun j hj => rfl)
  have hnN : rg G (b0 + 197) (4 * 0) (shNs G b0) (mNd 0) H7 := fun o ho => absurd ho (Nat.not_lt_zero o)
  refine lv_iconst (pc := 320) (v := (0 : Int32)) hx hb dX0_init_320 (by decide) ?_
  refine lv_istore_n (pc := 321) (lv' := [(1, .int (0 : Int32)), (0, .ref b0)]) hx hb dX0_init_321 rfl hl7 (by decide) rfl (fun ls hl => ?_)
  refine lp_node C (vO := vo_X0_init_810 b0) (cells0 := 196) (slots0 := 1832) rfl hz0 (fun q hq => Or.inr hq) ap72 (Nat.le_of_ble_eq_true rfl) (Nat.le_of_ble_eq_true rfl) (Nat.le_of_ble_eq_true rfl) (Nat.le_of_ble_eq_true rfl) ?_ 40 0 rfl _ _ ls hP72 hO7 hcN hnN hS7 (by omega) hl
  intro H8 locs8 ls8 hP8 hO8 hN8 hNs8 hS8 hz8 hl8
  have hA0 : rg G b0 1 (shX0 G.2.1) (mz) H8 := rg_cast hO8 rfl
  have hA966 : rg G b0 23 (shX0 G.2.1) (vf_X0_init_1 b0) H8 := rg_app (k := 1) (n' := 22) hA0 (PP.at hP8 28 rfl) rfl (fun o ho x y z => shX0_n1 G.2.1 _ rfl o ho x y z)
  have hA967 : rg G b0 45 (shX0 G.2.1) (vf_X0_init_23 b0) H8 := rg_app (k := 23) (n' := 22) hA966 (PP.at hP8 27 rfl) rfl (fun o ho x y z => shX0_n23 G.2.1 _ rfl o ho x y z)
  have hA968 : rg G b0 67 (shX0 G.2.1) (vf_X0_init_45 b0) H8 := rg_app (k := 45) (n' := 22) hA967 (PP.at hP8 26 rfl) rfl (fun o ho x y z => shX0_n45 G.2.1 _ rfl o ho x y z)
  have hA969 : rg G b0 110 (shX0 G.2.1) (vf_X0_init_67 b0) H8 := rg_app (k := 67) (n' := 43) hA968 (PP.at hP8 25 rfl) rfl (fun o ho x y z => shX0_n67 G.2.1 _ rfl o ho x y z)
  have hA970 : rg G b0 153 (shX0 G.2.1) (vf_X0_init_110 b0) H8 := rg_app (k := 110) (n' := 43) hA969 (PP.at hP8 24 rfl) rfl (fun o ho x y z => shX0_n110 G.2.1 _ rfl o ho x y z)
  have hA971 : rg G b0 155 (shX0 G.2.1) (vf_X0_init_110 b0) H8 := rg_hole (k := 153) (n' := 2) hA970 (fun o ho x y z => shX0_hole G.2.1 (by omega))
  have hC973 : rg G (b0 + 155) 1 (fun _ _ _ _ _ => some (.inl (G.2.1 7, 2, .inr (.inr (.inr (.inr (fun j => some (G.2.1 (28 + j))))))))) mz H8 := rg_castr (PP.at hP8 4 rfl) rfl rfl (fun j hj => match j, hj with | 0, _ => rfl | 1, _ => rfl | n + 2, h => absurd h (by omega))
  have hA972 : rg G b0 156 (shX0 G.2.1) (vf_X0_init_155 b0) H8 := rg_app (k := 155) (n' := 1) hA971 hC973 rfl (fun o ho x y z => by have h0 : o = 0 := (by omega); subst h0; rfl)
  have hC975 : rg G (b0 + 156) 1 (fun _ _ _ _ _ => some (.inl (G.2.1 8, 3, .inr (.inr (.inr (.inr (fun j => some (b0 + (174 + 1 * j))))))))) mz H8 := rg_castr (PP.at hP8 3 rfl) rfl rfl (fun j hj => match j, hj with | 0, _ => rfl | 1, _ => rfl | 2, _ => rfl | n + 3, h => absurd h (by omega))
  have hA974 : rg G b0 157 (shX0 G.2.1) (vf_X0_init_156 b0) H8 := rg_app (k := 156) (n' := 1) hA972 hC975 rfl (fun o ho x y z => by have h0 : o = 0 := (by omega); subst h0; rfl)
  have hA976 : rg G b0 158 (shX0 G.2.1) (vf_X0_init_157 b0) H8 := rg_app (k := 157) (n' := 1) hA974 (PP.at hP8 21 rfl) rfl (fun o ho x y z => by have h0 : o = 0 := (by omega); subst h0; rfl)
  have hA977 : rg G b0 159 (shX0 G.2.1) (vf_X0_init_158 b0) H8 := rg_app (k := 158) (n' := 1) hA976 (PP.at hP8 20 rfl) rfl (fun o ho x y z => by have h0 : o = 0 := (by omega); subst h0; rfl)
  have hC979 : rg G (b0 + 159) 1 (fun _ _ _ _ _ => some (.inl (G.2.1 9, 20, .inr (.inr (.inr (.inr (fun j => some (b0 + (177 + 1 * j))))))))) mz H8 := rg_castr (PP.at hP8 1 rfl) rfl rfl (fun j hj => by show (if 0 = 0 ∧ j < 20 then _ else _) = _; rw [if_pos ⟨rfl, hj⟩])
  have hA978 : rg G b0 160 (shX0 G.2.1) (vf_X0_init_159 b0) H8 := rg_app (k := 159) (n' := 1) hA977 hC979 rfl (fun o ho x y z => by have h0 : o = 0 := (by omega); subst h0; rfl)
  have hA980 : rg G b0 163 (shX0 G.2.1) (vf_X0_init_159 b0) H8 := rg_hole (k := 160) (n' := 3) hA978 (fun o ho x y z => shX0_hole G.2.1 (by omega))
  have hA981 : rg G b0 164 (shX0 G.2.1) (vf_X0_init_163 b0) H8 := rg_app (k := 163) (n' := 1) hA980 (PP.at hP8 16 rfl) rfl (fun o ho x y z => by have h0 : o = 0 := (by omega); subst h0; rfl)
  have hC983 : rg G (b0 + 164) 1 (fun _ _ _ _ _ => some (.inl (G.2.1 10, 40, .inr (.inr (.inr (.inr (fun j => some (b0 + (197 + 4 * j))))))))) mz H8 := rg_castr hN8 rfl rfl (fun j hj => by show (if 0 = 0 ∧ j < 40 then _ else _) = _; rw [if_pos ⟨rfl, hj⟩])
  have hA982 : rg G b0 165 (shX0 G.2.1) (vf_X0_init_164 b0) H8 := rg_app (k := 164) (n' := 1) hA981 hC983 rfl (fun o ho x y z => by have h0 : o = 0 := (by omega); subst h0; rfl)
  have hA984 : rg G b0 167 (shX0 G.2.1) (vf_X0_init_164 b0) H8 := rg_hole (k := 165) (n' := 2) hA982 (fun o ho x y z => shX0_hole G.2.1 (by omega))
  have hC986 : rg G (b0 + 167) 1 (fun _ _ _ _ _ => some (.inl (G.2.1 11, 6, .inr (.inr (.inr (.inr (fun j => some (b0 + (168 + 1 * j))))))))) mz H8 := rg_castr (PP.at hP8 2 rfl) rfl rfl (fun j hj => match j, hj with | 0, _ => rfl | 1, _ => rfl | 2, _ => rfl | 3, _ => rfl | 4, _ => rfl | 5, _ => rfl | n + 6, h => absurd h (by omega))
  have hA985 : rg G b0 168 (shX0 G.2.1) (vf_X0_init_167 b0) H8 := rg_app (k := 167) (n' := 1) hA984 hC986 rfl (fun o ho x y z => by have h0 : o = 0 := (by omega); subst h0; rfl)
  have hA987 : rg G b0 174 (shX0 G.2.1) (vf_X0_init_167 b0) H8 := rg_hole (k := 168) (n' := 6) hA985 (fun o ho x y z => shX0_hole G.2.1 (by omega))
  have hA988 : rg G b0 175 (shX0 G.2.1) (vf_X0_init_174 b0) H8 := rg_app (k := 174) (n' := 1) hA987 (PP.at hP8 7 rfl) rfl (fun o ho x y z => by have h0 : o = 0 := (by omega); subst h0; rfl)
  have hA989 : rg G b0 176 (shX0 G.2.1) (vf_X0_init_175 b0) H8 := rg_app (k := 175) (n' := 1) hA988 (PP.at hP8 6 rfl) rfl (fun o ho x y z => by have h0 : o = 0 := (by omega); subst h0; rfl)
  have hA990 : rg G b0 177 (shX0 G.2.1) (vf_X0_init_176 b0) H8 := rg_app (k := 176) (n' := 1) hA989 (PP.at hP8 5 rfl) rfl (fun o ho x y z => by have h0 : o = 0 := (by omega); subst h0; rfl)
  have hA991 : rg G b0 197 (shX0 G.2.1) (vf_X0_init_177 b0) H8 := rg_app (k := 177) (n' := 20) hA990 (PP.at hP8 0 rfl) rfl (fun o ho x y z => rfl)
  have hA992 : rg G b0 357 (shX0 G.2.1) (vf_X0_init_197 b0) H8 := rg_app (k := 197) (n' := 160) hA991 hNs8 rfl (fun o ho x y z => rfl)
  have hpl : ∀ PL : Nat → Bool, pl G PL (vp0 b0) H8 := by
    intro PL o e he
    obtain ⟨hq1, hq2⟩ := shP_PL he
    rcases vp0_at hq2 with rfl | rfl | rfl | rfl | rfl | rfl | rfl | rfl | rfl | rfl | rfl | rfl | rfl
    · rw [shP_16 hq1 (by simp [vp0])] at he; cases he; exact va_same (e := (.inr (16, [.null, .null, .null, .null, .int 0, .int 0, .null, .null, .null]))) ((PP.at hP8 23 rfl) 0 (by decide) _ rfl) rfl (by simp [vp0, va_rf, i11])
    · rw [shP_16 hq1 (by simp [vp0])] at he; cases he; exact va_same (e := (.inr (16, [.null, .null, .null, .null, .int 0, .int 0, .null, .null, .null]))) ((PP.at hP8 22 rfl) 0 (by decide) _ rfl) rfl (by simp [vp0, va_rf, i11])
    · rw [shP_17 hq1 (by simp [vp0])] at he; cases he; exact va_same (e := (.inr (17, [.ref (b0 + 162), .int 0, .ref (b0 + 161), .int 0]))) ((PP.at hP8 18 rfl) 0 (by decide) _ rfl) rfl (by simp [vp0, va_rf, i11])
    · rw [shP_5 hq1 (by simp [vp0])] at he; cases he; exact va_same (e := (.inr (5, []))) ((PP.at hP8 19 rfl) 0 (by decide) _ rfl) rfl (by simp [vp0, va_rf, i11])
    · rw [shP_44 hq1 (by simp [vp0])] at he; cases he; exact va_same (e := (.inl (G.2.1 12, 11, .inr (.inr (.inr (.inr (fun _ => none))))))) ((PP.at hP8 17 rfl) 0 (by decide) _ rfl) rfl (by simp [vp0, va_rf, i11])
    · rw [shP_17 hq1 (by simp [vp0])] at he; cases he; exact va_same (e := (.inr (17, [.ref (b0 + 166), .int 0, .null, .int 0]))) ((PP.at hP8 15 rfl) 0 (by decide) _ rfl) rfl (by simp [vp0, va_rf, i11])
    · rw [shP_44 hq1 (by simp [vp0])] at he; cases he; exact va_same (e := (.inl (G.2.1 12, 11, .inr (.inr (.inr (.inr (fun _ => none))))))) ((PP.at hP8 14 rfl) 0 (by decide) _ rfl) rfl (by simp [vp0, va_rf, i11])
    · rw [shP_6 hq1 (by simp [vp0])] at he; cases he; exact va_same (e := (.inr (6, [.null]))) ((PP.at hP8 13 rfl) 0 (by decide) _ rfl) rfl (by simp [vp0, va_rf, i11])
    · rw [shP_6 hq1 (by simp [vp0])] at he; cases he; exact va_same (e := (.inr (6, [.null]))) ((PP.at hP8 12 rfl) 0 (by decide) _ rfl) rfl (by simp [vp0, va_rf, i11])
    · rw [shP_6 hq1 (by simp [vp0])] at he; cases he; exact va_same (e := (.inr (6, [.null]))) ((PP.at hP8 11 rfl) 0 (by decide) _ rfl) rfl (by simp [vp0, va_rf, i11])
    · rw [shP_6 hq1 (by simp [vp0])] at he; cases he; exact va_same (e := (.inr (6, [.null]))) ((PP.at hP8 10 rfl) 0 (by decide) _ rfl) rfl (by simp [vp0, va_rf, i11])
    · rw [shP_6 hq1 (by simp [vp0])] at he; cases he; exact va_same (e := (.inr (6, [.null]))) ((PP.at hP8 9 rfl) 0 (by decide) _ rfl) rfl (by simp [vp0, va_rf, i11])
    · rw [shP_6 hq1 (by simp [vp0])] at he; cases he; exact va_same (e := (.inr (6, [.null]))) ((PP.at hP8 8 rfl) 0 (by decide) _ rfl) rfl (by simp [vp0, va_rf, i11])
  exact rk_vretA (pc := 348) hx hb hr hlk hS8 ⟨rfl, hA992, hpl, hz8⟩ dX0_init_348 (Nat.le_of_ble_eq_true rfl) (Nat.le_of_ble_eq_true rfl)
end
