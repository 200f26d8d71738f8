set_option maxRecDepth 100000
section
variable {p : Program} {l : Launch} {e : Env} {s : State} {m : MethodId} {args : Array Value} {below : List Frame} {meth : Method} {c : Code} {G : Gv}
theorem yn_J14_nextEntry : YN yJ14_nextEntry 0 := by
  unfold YN
  decide +kernel
theorem lfJ15_7_J15 : LU RJ15 7 RJ15 "java/util/TreeMap$PrivateEntryIterator" ⟨"java/util/TreeMap$KeyIterator", "nextEntry", "()Ljava/util/TreeMap$Entry;"⟩ yJ14_nextEntry cJ14_nextEntry 2 (some (.object "java/util/TreeMap$Entry")) := ⟨⟨q1587, q1588, q1590, q1591, q145⟩, q1592, by decide, by decide⟩
theorem ynx_J15_7 : YN ⟨"java/util/TreeMap$KeyIterator", "nextEntry", "()Ljava/util/TreeMap$Entry;"⟩ 0 := by
  unfold YN
  decide +kernel
theorem flJ15_13 : FL RJ15 13 18 0 RJ11 TJ11 6 := ⟨in_J11, rfl, by decide, q1404⟩
noncomputable def fJ15_next (PL : Nat → Bool) (v0 : Mem) (p0 : Nat) : Option (Option Nat × Mem) :=
  gb (kd PL v0 p0 20) (
  ob2 (fJ14_nextEntry PL v0 p0) fun oa2 w3 =>
  ob oa2 fun pa15 =>
  gb (kd PL w3 pa15 18) (
  lo (gR w3 pa15 0) fun oa19 =>
  some (oa19, w3)))
set_option maxHeartbeats 4000000 in
theorem w_fJ15_next (C : Cx G p s m args meth c RJ15 cJ15_next 1 (some (.object "java/lang/Object"))) {PL : Nat → Bool} {vP0 : Mem} {rx : Option Nat} {rw0 : Mem} : ∀ (v0 : Mem) (p0 : Nat), fJ15_next PL v0 p0 = some (rx, rw0) → ∀ (H : Heap) (locs : List Loc) (ls : Array Slot), pl G PL v0 H → va_S (FA (fP PL vP0) s.heap.size) s.heap H locs → H.size = s.heap.size → KM vP0 v0 s.heap.size → lv_has ls 1 [(0, .ref p0)] → W p l e (rmT 2 0 0 43) s m args below meth c H locs 0 0 (MQ below (QcT (FA (fP PL vP0) s.heap.size) (fun ov H => ov = (some (va_rf rx)) ∧ pl G PL rw0 H ∧ H.size = s.heap.size ∧ KM vP0 rw0 s.heap.size)) args s 0 0 (FA (fP PL vP0) s.heap.size)) (F0 m 0 ls []) := by
  intro v0 p0 hm H locs ls hW0 hS hz hKM hl
  obtain ⟨hx, hb, hr, hlk, hml, hown, hts, hK⟩ := id C
  unfold fJ15_next at hm
  refine lv_aload_n (pc := 0) hx hb dJ15_next_0 rfl (lv_at hl 0 rfl) ?_
  obtain ⟨hg1, hm⟩ := gb_some hm
  obtain ⟨oa2, w3, hq4, hm⟩ := ob2_some hm
  refine rp_TU (pc := 1) (As := []) (rest := []) (mc := 0) (ms := 0) hx hb hml hown hts hK hS (fun q hq => FA_sz rfl q hq) lfJ15_7_J15 q1589 ynx_J15_7 (ct_J14_nextEntry (G := G) (l := l) (sz := H.size) hq4) ⟨Nat.le_of_ble_eq_true rfl, Nat.le_of_ble_eq_true rfl⟩ (fun z h => (KM_hf2 hKM z h)) (rp_recv hK hW0 (C := RJ15) (T := TJ15) (N := 4) rfl (shP_20 (kd_PL hg1) (kd_k hg1))) hW0 rfl rfl hl.1 (Nat.le_of_ble_eq_true rfl) dJ15_next_1 ⟨Nat.zero_le _, Nat.zero_le _⟩ (fun ov9 H5 locs6 hP7 hkp8 hS9 => ?_)
  obtain ⟨rfl, hW10, hz11, hKM12⟩ := hP7
  have hz13 := hz11.trans hz
  have hKM14 := KM.trans hKM hKM12 (by omega)
  refine W.eq (g2 := F0 m 4 ls [va_rf oa2]) rfl ?_
  obtain ⟨pa15, he16, hm17⟩ := ob_some hm
  subst he16
  have hm := hm17
  obtain ⟨hg18, hm⟩ := gb_some hm
  obtain ⟨oa19, he20, hm⟩ := lo_some hm
  refine rk_get (pc := 4) hx hb hts hown hK (pl_rg hW10) flJ15_13 pa15 (Nat.lt_succ_self _) (Nat.zero_add _).symm (shP_18 (kd_PL hg18) (kd_k hg18)) (x := va_rf oa19) (congrArg (fun z => some (va_rf z)) he20) dJ15_next_4 ?_
  obtain ⟨e8, e9⟩ := rs2 hm
  subst e8
  subst e9
  exact rp_aret (pc := 7) (x := oa19) hx hb hr (Or.inl ⟨_, rfl⟩) hlk hS9 ⟨rfl, hW10, hz13, hKM14⟩ dJ15_next_7
set_option maxHeartbeats 4000000 in
theorem ct_J15_next {G : Gv} {l : Launch} {PL : Nat → Bool} {v0 : Mem} {p0 : Nat} {rx : Option Nat} {rw0 : Mem} {sz : Nat} (hm : fJ15_next PL v0 p0 = some (rx, rw0)) : CT G l yJ15_next (ws_ yJ15_next cJ15_next 1 (some (.object "java/lang/Object"))) 2 0 0 43 [.ref p0] (fP PL v0) sz (fun H => pl G PL v0 H) (fun ov H => ov = (some (va_rf rx)) ∧ pl G PL rw0 H ∧ H.size = sz ∧ KM v0 rw0 sz) := by
  refine Met.ofW (cc := cJ15_next) (maxL := 1) (ret := (some (.object "java/lang/Object"))) (by decide +kernel) rfl ?_
  intro p e s m args below meth c s₁ B hml hv
  obtain ⟨rfl, ⟨hz, hW0⟩, hK⟩ := hv
  subst hz
  have hts := atoms_spec (ws := ws_ yJ15_next cJ15_next 1 (some (.object "java/lang/Object"))) B.pre
  have hts : ∀ w ∈ lw_all, w.before _ s = true := fun w h => hts w (List.mem_cons_of_mem _ h)
  have C : Cx G p s m _ meth c RJ15 cJ15_next 1 (some (.object "java/lang/Object")) := ⟨B.exec, B.bytes, B.returns, B.notSynchronized, hml, findClass_of_methodNamed B.named, hts, hK⟩
  have hl := lv_entry ([.ref p0]) (n := 1) (Nat.le_of_ble_eq_true rfl)
  rw [lg_entry_eq]
  generalize (lg_sl ([.ref p0]) ++ List.replicate (1 - (lg_sl ([.ref p0])).length) Slot.unset).toArray = ls at hl ⊢
  have hl : lv_has ls 1 [(0, .ref p0)] := hl
  exact w_fJ15_next C _ _ hm s.heap [] ls hW0 va_S.rf rfl KM.rf hl
end
