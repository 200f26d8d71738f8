/-! calls of lambdas, by their family: what the target's contract says -/
set_option maxRecDepth 100000
theorem dfL0 : decode bfL 0 = .ok (.lload_n 1, 1) := by decide +kernel
theorem dfL1 : decode bfL 1 = .ok (.lload_n 3, 1) := by decide +kernel
theorem dfL2 : decode bfL 2 = .ok (.invokestatic 17, 3) := by decide +kernel
theorem dfL5 : decode bfL 5 = .ok (.lreturn, 1) := by decide +kernel
theorem dfC0 : decode bfC 0 = .ok (.aload_n 0, 1) := by decide +kernel
theorem dfC1 : decode bfC 1 = .ok (.getfield 15, 3) := by decide +kernel
theorem dfC4 : decode bfC 4 = .ok (.iload_n 1, 1) := by decide +kernel
theorem dfC5 : decode bfC 5 = .ok (.iload_n 2, 1) := by decide +kernel
theorem dfC6 : decode bfC 6 = .ok (.invokevirtual 22, 3) := by decide +kernel
theorem dfC9 : decode bfC 9 = .ok (.return_, 1) := by decide +kernel
theorem dfK0 : decode bfK 0 = .ok (.aload_n 0, 1) := by decide +kernel
theorem dfK1 : decode bfK 1 = .ok (.getfield 17, 3) := by decide +kernel
theorem dfK4 : decode bfK 4 = .ok (.aload_n 0, 1) := by decide +kernel
theorem dfK5 : decode bfK 5 = .ok (.getfield 19, 3) := by decide +kernel
theorem dfK8 : decode bfK 8 = .ok (.iload_n 1, 1) := by decide +kernel
theorem dfK9 : decode bfK 9 = .ok (.iload_n 2, 1) := by decide +kernel
theorem dfK10 : decode bfK 10 = .ok (.iload_n 3, 1) := by decide +kernel
theorem dfK11 : decode bfK 11 = .ok (.invokevirtual 27, 3) := by decide +kernel
theorem dfK14 : decode bfK 14 = .ok (.ireturn, 1) := by decide +kernel
abbrev yLof : MethodName := ⟨"WholePacks$Left", "of", "(JJ)J"⟩
abbrev yCdoes : MethodName := ⟨"WholePacks$Change", "does", "(II)V"⟩
abbrev yKgoes : MethodName := ⟨"WholePacks$Look", "goesOn", "(III)Z"⟩
theorem dsL : (⟨[.long, .long], some .long⟩ : MethodDescriptor).toString = "(JJ)J" := by decide +kernel
theorem dsC : (⟨[.int, .int], none⟩ : MethodDescriptor).toString = "(II)V" := by decide +kernel
theorem dsK : (⟨[.int, .int, .int], some .boolean⟩ : MethodDescriptor).toString = "(III)Z" := by decide +kernel
theorem dsK4 : (⟨[.int, .int, .int, .int], some .boolean⟩ : MethodDescriptor).toString = "(IIII)Z" := by decide +kernel
theorem yn_Lof : YN yLof 2 := by unfold YN; decide +kernel
theorem yn_Cdoes : YN yCdoes 2 := by unfold YN; decide +kernel
theorem yn_Kgoes : YN yKgoes 3 := by unfold YN; decide +kernel
section LCALL
variable {p : Program} {l : Launch} {e : Env} {R : Room} {s : State} {m : MethodId} {args : Array Value} {below : List Frame} {meth : Method} {c : Code} {H : Heap} {locs : List Loc} {cells slots : Nat} {Q : State → Prop}
variable {cc bytes : ByteArray} {pc nL maxL index count fr lo mc ms : Nat} {ls : Array Slot} {rest : List Value} {G : Gv} {A0 : Nat → Prop} {H0 : Heap} {own : String} {y : MethodName} {FP : Nat → Prop} {Post : Option Value → Heap → Prop} {Pre : Heap → Prop} {cK q b : Nat} {nm : String}
theorem rk_lamL {a1 a2 r : Int64} (hx : p.tables.exec = Jvm.exec) (hb : c.code = cc) (hml : c.maxLocals = nL) (hown : s.vm.findClass own = some m.cls) (hts : ∀ w ∈ lw_all, w.before args s = true) (hK : KK G s) (hF : LFL nm) (hL : Lam (sgL nm) cK s) (hIM : IM yLof s) (hlink : Cond.methodLink own index yLof ∈ lw_all) (hdecl : Cond.declares yLof ∈ lw_tbl) (hC : LQ H q cK []) (hyc : y.cls = "WholePacks") (hyn : y.name = nm) (hyd : y.desc = "(JJ)J") (hy : YN y 2) (hw : Cond.static y ∈ lw_all ∧ Cond.initialized y.cls ∈ lw_all ∧ Cond.code y bytes maxL (some .long) ∈ lw_all) (hM : CP G l y (ws_ y bytes maxL (some .long)) fr lo [.long a1, .long a2] Pre (some (.long r))) (hR : fr + 2 ≤ R.frames ∧ 24 + (8 + (maxL + 11) + lo) ≤ R.locals) (hp : Pre H) (hls : ls.size = nL) (hrest : (rest.map fun v => v.category).sum ≤ 8) (hdg : decode cc pc = .ok (.invokeinterface index count, 5)) (hf : cells ≤ R.cells ∧ slots ≤ R.slots)
    (kk : W p l e R s m args below meth c H locs cells slots Q (F0 m (pc + 5) ls (.long r :: rest))) : W p l e R s m args below meth c H locs cells slots Q (F0 m pc ls (.long a2 :: .long a1 :: .ref q :: rest)) := by
  refine rk_lamP (ov := some (.long r)) (As := [.long a1, .long a2]) (fr := fr + 1) (lo := 8 + (maxL + 11) + lo) hx hb hml hown hts hK hF hL ⟨rfl, rfl, dsL.symm⟩ hlink hdecl hIM.2 yn_Lof hC hR rfl rfl hls hrest hdg hf ?_ kk
  intro s' meth' c' g hH hWs hX
  subst hH
  obtain ⟨hx, hb, hr, hlk, hml, hL', hts, hK⟩ := hX
  have hl := lv_entry ([.ref q, .long a1, .long a2]) (n := 5) (Nat.le_of_ble_eq_true rfl)
  rw [lg_entry_eq]
  generalize (lg_sl ([.ref q, .long a1, .long a2]) ++ List.replicate (5 - (lg_sl ([.ref q, .long a1, .long a2])).length) Slot.unset).toArray = ls at hl ⊢
  have hl : lv_has ls 5 [(0, .ref q), (1, .long a1), (3, .long a2)] := hl
  refine lv_lload_n (pc := 0) hx hb dfL0 rfl (lv_at hl 1 rfl) ?_
  refine lv_lload_n (pc := 1) hx hb dfL1 rfl (lv_at hl 2 rfl) ?_
  refine rk_fwS (pc := 2) (As := [.long a1, .long a2]) (rest := []) hx hb rfl hF hL' hK hts hyc hyn (hyd.trans dsL.symm) hy hw hM ⟨Nat.le_refl _, Nat.le_refl _⟩ hp rfl rfl (hl.1.trans hml.symm) (Nat.le_of_ble_eq_true rfl) dfL2 ⟨Nat.zero_le _, Nat.zero_le _⟩ ?_
  exact rk_lretP (pc := 5) hx hb hr hlk rfl dfL5
theorem rk_lamC {k v : Int32} (hx : p.tables.exec = Jvm.exec) (hb : c.code = cc) (hml : c.maxLocals = nL) (hown : s.vm.findClass own = some m.cls) (hts : ∀ w ∈ lw_all, w.before args s = true) (hK : KK G s) (hS : va_S A0 H0 H locs) (hA : ∀ q, H0.size ≤ q → A0 q) (hF : LFC nm) (hL : Lam (sgC nm) cK s) (hIM : IM yCdoes s) (hlink : Cond.methodLink own index yCdoes ∈ lw_all) (hdecl : Cond.declares yCdoes ∈ lw_tbl) (hC : LC H q cK [.ref b]) (hyc : y.cls = "WholePacks") (hyn : y.name = nm) (hyd : y.desc = "(II)V") (hy : YN y 2) (hw : Cond.instanceMethod y ∈ lw_all ∧ Cond.selects "WholePacks" y y ∈ lw_all ∧ Cond.initialized "WholePacks" ∈ lw_all ∧ Cond.code y bytes maxL none ∈ lw_all) (hM : CT G l y (ws_ y bytes maxL none) fr mc ms lo [.ref b, .int k, .int v] FP H.size Pre Post) (hov : ∀ ov H, Post ov H → ov = none) (hR : fr + 2 ≤ R.frames ∧ 22 + (8 + (maxL + 11) + lo) ≤ R.locals) (hf2 : ∀ q, FP q → A0 q) (hrc : RcV s H "WholePacks" b) (hp : Pre H) (hls : ls.size = nL) (hrest : (rest.map fun v => v.category).sum ≤ 8) (hdg : decode cc pc = .ok (.invokeinterface index count, 5)) (hf : cells + mc ≤ R.cells ∧ slots + ms ≤ R.slots)
    (kk : ∀ (H1 : Heap) (locs1 : List Loc), Post none H1 → (∀ q : Nat, q < H.size → ¬ (FP q ∨ H.size ≤ q) → H1[q]? = H[q]?) → va_S A0 H0 H1 locs1 → W p l e R s m args below meth c H1 locs1 (cells + mc) (slots + ms) Q (F0 m (pc + 5) ls rest)) : W p l e R s m args below meth c H locs cells slots Q (F0 m pc ls (.int v :: .int k :: .ref q :: rest)) := by
  refine rk_lam (As := [.int k, .int v]) (fr := fr + 1) (lo := 8 + (maxL + 11) + lo) (Post := Post) hx hb hml hown hts hK hS hA hF hL ⟨rfl, rfl, dsC.symm⟩ hlink hdecl hIM.2 yn_Cdoes hC hR hf2 rfl rfl hls hrest hdg hf ?_ (fun ov H1 locs1 h1 h2 h3 => by cases hov _ _ h1; exact kk H1 locs1 h1 h2 h3)
  intro s' meth' c' g hH hWs hX
  subst hH
  obtain ⟨hx, hb, hr, hlk, hml, hL', hts', hK'⟩ := hX
  obtain ⟨cellB, r1, r2, r3⟩ := hrc
  have hrc' : RcV s' s'.heap "WholePacks" b := ⟨cellB, r1, r2, by rw [hWs.alike.findClass]; exact r3⟩
  have hl := lv_entry ([.ref q, .int k, .int v]) (n := 3) (Nat.le_of_ble_eq_true rfl)
  rw [lg_entry_eq]
  generalize (lg_sl ([.ref q, .int k, .int v]) ++ List.replicate (3 - (lg_sl ([.ref q, .int k, .int v])).length) Slot.unset).toArray = ls at hl ⊢
  have hl : lv_has ls 3 [(0, .ref q), (1, .int k), (2, .int v)] := hl
  refine lv_aload_n (pc := 0) hx hb dfC0 rfl (lv_at hl 0 rfl) ?_
  refine rk_fwG (pc := 1) (iF := 15) (j := 0) hx hb rfl hF hL' (by simp) hC rfl dfC1 ?_
  refine lv_iload_n (pc := 4) hx hb dfC4 rfl (lv_at hl 1 rfl) ?_
  refine lv_iload_n (pc := 5) hx hb dfC5 rfl (lv_at hl 2 rfl) ?_
  refine rk_fwV (pc := 6) (As := [.int k, .int v]) (rest := []) hx hb rfl hF hL' hK' hts' va_S.rf (fun q hq => Or.inr hq) hyc hyn (hyd.trans dsC.symm) hy hw hM ⟨Nat.le_refl _, Nat.le_refl _⟩ (fun q h => Or.inl h) hrc' hp rfl rfl (hl.1.trans hml.symm) (Nat.le_of_ble_eq_true rfl) dfC6 ⟨by show 0 + mc ≤ mc; omega, by show 0 + ms ≤ ms; omega⟩ (fun ov H1 locs1 h1 h2 h3 => ?_)
  cases hov _ _ h1
  exact rk_vretA (pc := 9) hx hb hr hlk h3 h1 dfC9 (by omega) (by omega)
theorem rk_lamK {z0 z1 z2 z3 : Int32} (hx : p.tables.exec = Jvm.exec) (hb : c.code = cc) (hml : c.maxLocals = nL) (hown : s.vm.findClass own = some m.cls) (hts : ∀ w ∈ lw_all, w.before args s = true) (hK : KK G s) (hS : va_S A0 H0 H locs) (hA : ∀ q, H0.size ≤ q → A0 q) (hF : LFK nm) (hL : Lam (sgK nm) cK s) (hIM : IM yKgoes s) (hlink : Cond.methodLink own index yKgoes ∈ lw_all) (hdecl : Cond.declares yKgoes ∈ lw_tbl) (hC : LC H q cK [.ref b, .int z0]) (hyc : y.cls = "WholePacks") (hyn : y.name = nm) (hyd : y.desc = "(IIII)Z") (hy : YN y 4) (hw : Cond.instanceMethod y ∈ lw_all ∧ Cond.selects "WholePacks" y y ∈ lw_all ∧ Cond.initialized "WholePacks" ∈ lw_all ∧ Cond.code y bytes maxL (some .boolean) ∈ lw_all) (hM : CT G l y (ws_ y bytes maxL (some .boolean)) fr mc ms lo [.ref b, .int z0, .int z1, .int z2, .int z3] FP H.size Pre Post) (hov : ∀ ov H, Post ov H → ∃ r : Int32, ov = some (.int r) ∧ z01 r = true) (hR : fr + 2 ≤ R.frames ∧ 23 + (8 + (maxL + 11) + lo) ≤ R.locals) (hf2 : ∀ q, FP q → A0 q) (hrc : RcV s H "WholePacks" b) (hp : Pre H) (hls : ls.size = nL) (hrest : (rest.map fun v => v.category).sum ≤ 8) (hdg : decode cc pc = .ok (.invokeinterface index count, 5)) (hf : cells + mc ≤ R.cells ∧ slots + ms ≤ R.slots)
    (kk : ∀ (r : Int32) (H1 : Heap) (locs1 : List Loc), Post (some (.int r)) H1 → (∀ q : Nat, q < H.size → ¬ (FP q ∨ H.size ≤ q) → H1[q]? = H[q]?) → va_S A0 H0 H1 locs1 → W p l e R s m args below meth c H1 locs1 (cells + mc) (slots + ms) Q (F0 m (pc + 5) ls (.int r :: rest))) : W p l e R s m args below meth c H locs cells slots Q (F0 m pc ls (.int z3 :: .int z2 :: .int z1 :: .ref q :: rest)) := by
  refine rk_lam (As := [.int z1, .int z2, .int z3]) (fr := fr + 1) (lo := 8 + (maxL + 11) + lo) (Post := Post) hx hb hml hown hts hK hS hA hF hL ⟨rfl, rfl, dsK.symm⟩ hlink hdecl hIM.2 yn_Kgoes hC hR hf2 rfl rfl hls hrest hdg hf ?_ (fun ov H1 locs1 h1 h2 h3 => by obtain ⟨r, rfl, -⟩ := hov _ _ h1; exact kk r H1 locs1 h1 h2 h3)
  intro s' meth' c' g hH hWs hX
  subst hH
  obtain ⟨hx, hb, hr, hlk, hml, hL', hts', hK'⟩ := hX
  obtain ⟨cellB, r1, r2, r3⟩ := hrc
  have hrc' : RcV s' s'.heap "WholePacks" b := ⟨cellB, r1, r2, by rw [hWs.alike.findClass]; exact r3⟩
  have hl := lv_entry ([.ref q, .int z1, .int z2, .int z3]) (n := 4) (Nat.le_of_ble_eq_true rfl)
  rw [lg_entry_eq]
  generalize (lg_sl ([.ref q, .int z1, .int z2, .int z3]) ++ List.replicate (4 - (lg_sl ([.ref q, .int z1, .int z2, .int z3])).length) Slot.unset).toArray = ls at hl ⊢
  have hl : lv_has ls 4 [(0, .ref q), (1, .int z1), (2, .int z2), (3, .int z3)] := hl
  refine lv_aload_n (pc := 0) hx hb dfK0 rfl (lv_at hl 0 rfl) ?_
  refine rk_fwG (pc := 1) (iF := 17) (j := 0) hx hb rfl hF hL' (by simp) hC rfl dfK1 ?_
  refine lv_aload_n (pc := 4) hx hb dfK4 rfl (lv_at hl 0 rfl) ?_
  refine rk_fwG (pc := 5) (iF := 19) (j := 1) hx hb rfl hF hL' (by simp) hC rfl dfK5 ?_
  refine lv_iload_n (pc := 8) hx hb dfK8 rfl (lv_at hl 1 rfl) ?_
  refine lv_iload_n (pc := 9) hx hb dfK9 rfl (lv_at hl 2 rfl) ?_
  refine lv_iload_n (pc := 10) hx hb dfK10 rfl (lv_at hl 3 rfl) ?_
  refine rk_fwV (pc := 11) (As := [.int z0, .int z1, .int z2, .int z3]) (rest := []) hx hb rfl hF hL' hK' hts' va_S.rf (fun q hq => Or.inr hq) hyc hyn (hyd.trans dsK4.symm) hy hw hM ⟨Nat.le_refl _, Nat.le_refl _⟩ (fun q h => Or.inl h) hrc' hp rfl rfl (hl.1.trans hml.symm) (Nat.le_of_ble_eq_true rfl) dfK11 ⟨by show 0 + mc ≤ mc; omega, by show 0 + ms ≤ ms; omega⟩ (fun ov H1 locs1 h1 h2 h3 => ?_)
  obtain ⟨r, rfl, hz⟩ := hov _ _ h1
  exact rk_zretA (pc := 14) hx hb hr hlk hz h3 h1 dfK14 (by omega) (by omega)
end LCALL
