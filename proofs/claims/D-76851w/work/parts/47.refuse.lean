set_option maxRecDepth 100000
section
variable {p : Program} {l : Launch} {e : Env} {s : State} {m : MethodId} {args : Array Value} {below : List Frame} {meth : Method} {c : Code} {G : Gv}
/-! WHAT THE MACHINE REFUSES of tapes -/
theorem inR_out {i : Int32} {n : Nat} (h : (!inR i n) = true) : ¬ vp_in i n := fun k => by
  unfold inR at h
  rw [Bool.not_not, Bool.or_eq_true] at h
  exact k (h.imp of_decide_eq_true of_decide_eq_true)
def noC (v : Mem) (q q2 : Nat) (sp dp n : Int32) : Bool := decide (gI v q 99 = gI v q2 99) && (decide (sp < 0) || (decide (dp < 0) || (decide (n < 0) || (!decide (sp.toNatClampNeg + n.toNatClampNeg ≤ (gI v q2 98).toNatClampNeg) || !decide (dp.toNatClampNeg + n.toNatClampNeg ≤ (gI v q 98).toNatClampNeg)))))
def ZC (G : Gv) : Prop := ∀ U : State, KK G U → va_Nc "java/lang/ArrayIndexOutOfBoundsException" "java/lang/ArrayStoreException" U
def kts : List (Int32 × FieldType) := [(32, .int), (33, .long), (34, .byte), (35, .short), (36, .boolean)]
def tyT (a b : FieldType) : String := "arraycopy: type mismatch: can not copy " ++ Native.java_lang_System.arraycopy.kindName a ++ "[] into " ++ Native.java_lang_System.arraycopy.kindName b ++ "[]"
theorem kts_1 : ∀ a ∈ kts, ∀ b ∈ kts, a.1 ≠ b.1 → ((refKind a.2 != refKind b.2) || (!refKind a.2 && a.2 != b.2)) = true := by decide
theorem kts_2 : ∀ a ∈ kts, ∀ b ∈ kts, a.1 = b.1 → ((refKind a.2 != refKind b.2) || (!refKind a.2 && a.2 != b.2)) = false := by decide
theorem kts_3 : ∀ a ∈ kts, ∀ b ∈ kts, (stringBytes (stringToUtf16 (tyT a.2 b.2))).size ≤ 490 := by decide +kernel
theorem kts_4 : ∀ a ∈ kts, ∀ b ∈ kts, ((tyT a.2 b.2) == notModelled) = false := by decide +kernel
section RFS
variable {p : Program} {l : Launch} {e : Env} {R : Room} {s : State} {m : MethodId} {args : Array Value} {below : List Frame} {meth : Method} {c : Code} {H : Heap} {locs : List Loc} {cells slots : Nat} {Q : State → Prop}
variable {pc : Nat} {ls : Array Slot} {rest : List Value} {G : Gv} {PL : Nat → Bool} {own : String} {q q2 : Nat} {v : Mem}
theorem rp_prim (hK : KK G s) (hW : pl G PL v H) (hk : ks PL v q = true) : ∃ (cd : Cell) (a : Int32 × FieldType) (kd : Class) (cm : ClassId), a ∈ kts ∧ v.1 q 99 = a.1 ∧ H[q]? = some cd ∧ (∀ k, cd.vm ≠ .statics k) ∧ s.vm.classes[cd.cls]? = some kd ∧ kd.kind = .array cm a.2 ∧ cd.slots.size = (v.1 q 98).toNatClampNeg := by
  have h1 := ks_PL hk
  rcases ks_k hk with h | h | h | h | h
  · obtain ⟨-, k1, hk1, cm1, hkk1⟩ := (hK.1.2 0 _ rfl).1 (v.1 q 98).toNatClampNeg (fun j => .int (v.1 q j))
    exact ⟨_, (32, .int), k1, cm1, by decide, h, hW q _ (shP_32 h1 h), (fun _ z => by cases z), hk1, hkk1, arrV_size _ _ _⟩
  · obtain ⟨-, k1, hk1, cm1, hkk1⟩ := (hK.1.2 1 _ rfl).1 (v.1 q 98).toNatClampNeg (fun j => .long (v.2.1 q j))
    exact ⟨_, (33, .long), k1, cm1, by decide, h, hW q _ (shP_33 h1 h), (fun _ z => by cases z), hk1, hkk1, arrV_size _ _ _⟩
  · obtain ⟨-, k1, hk1, cm1, hkk1⟩ := (hK.1.2 2 _ rfl).1 (v.1 q 98).toNatClampNeg (fun j => .int (v.1 q j))
    exact ⟨_, (34, .byte), k1, cm1, by decide, h, hW q _ (shP_34 h1 h), (fun _ z => by cases z), hk1, hkk1, arrV_size _ _ _⟩
  · obtain ⟨-, k1, hk1, cm1, hkk1⟩ := (hK.1.2 3 _ rfl).1 (v.1 q 98).toNatClampNeg (fun j => .int (v.1 q j))
    exact ⟨_, (35, .short), k1, cm1, by decide, h, hW q _ (shP_35 h1 h), (fun _ z => by cases z), hk1, hkk1, arrV_size _ _ _⟩
  · obtain ⟨-, k1, hk1, cm1, hkk1⟩ := (hK.1.2 4 _ rfl).1 (v.1 q 98).toNatClampNeg (fun j => .int (v.1 q j))
    exact ⟨_, (36, .boolean), k1, cm1, by decide, h, hW q _ (shP_36 h1 h), (fun _ z => by cases z), hk1, hkk1, arrV_size _ _ _⟩
theorem ac_cast {sp dp k : Int32} (hK : KK G s) (hW : pl G PL v H) (hk : ks PL v q = true) (hk2 : ks PL v q2 = true) (hne : ¬ gI v q 99 = gI v q2 99) : ∃ tx : String, (tx == notModelled) = false ∧ (stringBytes (stringToUtf16 tx)).size ≤ 490 ∧ ∀ (U : State) (E : CtlPost), U.heap = H → s.vm.Alike U.vm → (∀ acts', E (.throwNew "java/lang/ArrayStoreException" (some tx)) acts' U) → wp (Native.java_lang_System.arraycopy.sem #[.ref q2, .int sp, .ref q, .int dp, .int k]) (fun _ _ _ _ => False) E e false [] U := by
  obtain ⟨cd, a, kd, cm, ha, hva, hcd, hcv, hkd, hkk, -⟩ := rp_prim hK hW hk
  obtain ⟨cs, b, k2, cm2, hb, hvb, hcs, hcv2, hks, hkk2, -⟩ := rp_prim hK hW hk2
  have t1 := kts_4 b hb a ha
  have t2 := kts_3 b hb a ha
  have t3 := kts_1 b hb a ha (fun h => hne (by show v.1 q 99 = v.1 q2 99; rw [hva, hvb, h]))
  obtain ⟨a1, a2⟩ := a
  obtain ⟨b1, b2⟩ := b
  dsimp only at t1 t2 t3 hkk hkk2
  refine ⟨tyT b2 a2, t1, t2, fun U E hU hal hE => ?_⟩
  unfold tyT at hE
  obtain ⟨ks', hks', hes⟩ := hal.2.2 _ _ hks
  obtain ⟨kd', hkd', hed⟩ := hal.2.2 _ _ hkd
  exact W.arraycopy_types (by rw [hU]; exact hcs) (by rw [hU]; exact hcd) hcv2 hcv hks' hkd' (by rw [hes]; exact hkk2) (by rw [hed]; exact hkk) t3 (hE _)
theorem ac_place {sp dp k : Int32} (hK : KK G s) (hW : pl G PL v H) (hk : ks PL v q = true) (hk2 : ks PL v q2 = true) (hne : noC v q q2 sp dp k = true) : ∃ tx : String, (tx == notModelled) = false ∧ (stringBytes (stringToUtf16 tx)).size ≤ 490 ∧ ∀ (U : State) (E : CtlPost), U.heap = H → s.vm.Alike U.vm → (∀ acts', E (.throwNew "java/lang/ArrayIndexOutOfBoundsException" (some tx)) acts' U) → wp (Native.java_lang_System.arraycopy.sem #[.ref q2, .int sp, .ref q, .int dp, .int k]) (fun _ _ _ _ => False) E e false [] U := by
  obtain ⟨cd, a, kd, cm, ha, hva, hcd, hcv, hkd, hkk, hsd⟩ := rp_prim hK hW hk
  obtain ⟨cs, b, k2, cm2, hb, hvb, hcs, hcv2, hks, hkk2, hss⟩ := rp_prim hK hW hk2
  unfold noC at hne
  rw [Bool.and_eq_true] at hne
  have heq : v.1 q 99 = v.1 q2 99 := of_decide_eq_true hne.1
  have hlt := ks_le hk
  have hlt2 := ks_le hk2
  obtain ⟨w, hw⟩ : ∃ w, copyFault b.2 a.2 cs.slots.size cd.slots.size sp dp k = some w := by
    have h2 := hne.2
    unfold copyFault
    split
    · exact ⟨_, rfl⟩
    split
    · exact ⟨_, rfl⟩
    split
    · exact ⟨_, rfl⟩
    split
    · exact ⟨_, rfl⟩
    split
    · exact ⟨_, rfl⟩
    rename_i n1 n2 n3 n4 n5
    exfalso
    rw [i32_nn n1, i32_nn n3, hss] at n4
    rw [i32_nn n2, i32_nn n3, hsd] at n5
    simp only [Bool.or_eq_true, Bool.not_eq_true', decide_eq_false_iff_not] at h2
    rcases h2 with h | h | h | h | h
    · exact n1 (of_decide_eq_true h)
    · exact n2 (of_decide_eq_true h)
    · exact n3 (of_decide_eq_true h)
    · have h9 : ¬ sp.toNatClampNeg + k.toNatClampNeg ≤ (v.1 q2 98).toNatClampNeg := h
      omega
    · have h9 : ¬ dp.toNatClampNeg + k.toNatClampNeg ≤ (v.1 q 98).toNatClampNeg := h
      omega
  refine ⟨"arraycopy: " ++ w, text_a, ?_, fun U E hU hal hE => ?_⟩
  · have h1 := fault_le (by omega) (by omega) hw
    have h2 := text_le (tx := "arraycopy: " ++ w) (k := 111) (by
      rw [String.toList_append, List.length_append]
      have h0 : "arraycopy: ".toList.length = 11 := by decide
      omega)
    omega
  · obtain ⟨ks', hks', hes⟩ := hal.2.2 _ _ hks
    obtain ⟨kd', hkd', hed⟩ := hal.2.2 _ _ hkd
    exact W.arraycopy_bounds (by rw [hU]; exact hcs) (by rw [hU]; exact hcd) hcv2 hcv hks' hkd' (by rw [hes]; exact hkk2) (by rw [hed]; exact hkk) (kts_2 b hb a ha (by rw [← hva, ← hvb, heq])) hw (hE _)
theorem rk_catchN {q : Addr} {E name : String} {ce : Cell} {hh : List (Nat × Nat × Nat × Nat)} (hK : KK G s) (hown : s.vm.findClass own = some m.cls) (hts : ∀ w ∈ lw_all, w.before args s = true) (ht : c.exceptionTable.toList = tableOf hh) (pre : List ExceptionTableEntry) (x : ExceptionTableEntry) (suf : List ExceptionTableEntry) (hsplit : tableOf hh = pre ++ x :: suf) (hpass : ∀ z ∈ pre, z.catchType ≠ 0 ∧ ∃ nm : String, Cond.classLink own z.catchType nm ∈ lw_all ∧ va_Nc E nm s) (hx : covers x pc = true) (h0 : x.catchType ≠ 0) (hlink : Cond.classLink own x.catchType name ∈ lw_all) (hcast : Cond.castable E name ∈ lw_tbl) (hcell : H[q]? = some ce) (hv : ce.vm = .none) (hcl : s.vm.findClass E = some ce.cls) (t : Nat) (hpc : x.handlerPc = t)
    (kk : W p l e R s m args below meth c H locs cells slots Q (F0 m t ls [.ref q])) : vx_W p l e R s m args below meth c H locs cells slots Q (F0 m pc ls rest) q := by
  subst hpc
  exact vx_catch hown pre x suf (ht.trans hsplit) (fun z hz => Or.inr ⟨(hpass z hz).1, by obtain ⟨nm, h1, h2⟩ := (hpass z hz).2; exact ⟨nm, hts _ h1, h2⟩⟩) hx h0 (hts _ hlink) (va_Nw.use rfl (hK.nw hcast rfl)) hcell hv hcl kk
end RFS
noncomputable def fX6_becomes_neg (PL : Nat → Bool) (V0 : Mem) (p0 : Nat) (i1 : Int32) (i2 : Int32) : Option Unit :=
  if 0 ≤ i1 then (
  if i1 = 0 then (
  gb (decide (i2 < 0)) (
  some ()))
  else (
  if i1 = (1 : Int32) then (
  gb (decide (i2 < 0)) (
  some ()))
  else (
  if i1 = (2 : Int32) then (
  gb (decide (i2 < 0)) (
  some ()))
  else (
  if i1 = (3 : Int32) then (
  gb (decide (i2 < 0)) (
  some ()))
  else (
  gb (decide (i2 < 0)) (
  some ()))))))
  else (
  none)
set_option maxHeartbeats 4000000 in
theorem w_fX6_becomes_neg (C : Cx G p s m args meth c RX6 cX6_becomes 3 none) {PL : Nat → Bool} {V0 : Mem} (hW0 : pl G PL V0 s.heap) (hG : GO G s.heap) (hl0 : l.stackTraces = false) (hZX : ZX G) (hgz : gB G ≤ s.heap.size) (hZN : ZN G) (ht : ∀ x ∈ c.exceptionTable.toList, False) : ∀ (p0 : Nat) (i1 : Int32) (i2 : Int32), fX6_becomes_neg PL V0 p0 i1 i2 = some () → ∀ (ls : Array Slot), lv_has ls 3 [(0, .ref p0), (1, .int i1), (2, .int i2)] → W p l e (rmT 7 3 54 10260) s m args below meth c s.heap [] 0 0 (vx_MQ below (QcX false (FA (fun _ => False) s.heap.size) (fun _ _ => True)) (XcX false (FA (fun _ => False) s.heap.size) (fun _ E _ => E = "java/lang/NegativeArraySizeException")) args s 3 54 (FA (fun _ => False) s.heap.size)) (F0 m 0 ls []) := by
  intro p0 i1 i2 hm ls hl
  obtain ⟨hx, hb, hr, hlk, hml, hown, hts, hK⟩ := id C
  have hS : va_S (FA (fun _ => False) s.heap.size) s.heap s.heap [] := va_S.rf
  unfold fX6_becomes_neg at hm
  refine lv_aload_n (pc := 0) hx hb dX6_becomes_0 rfl (lv_at hl 0 rfl) ?_
  refine lv_iload_n (pc := 1) hx hb dX6_becomes_1 rfl (lv_at hl 1 rfl) ?_
  refine lv_if_ge (pc := 2) (tgt := 9) hx hb dX6_becomes_2 (by decide) (fun c1 => ?_) (fun c1 => ?_)
  · have hm := ite_t c1 hm
    refine lv_iload_n (pc := 9) hx hb dX6_becomes_9 rfl (lv_at hl 1 rfl) ?_
    refine lv_if_ne (pc := 10) (tgt := 19) hx hb dX6_becomes_10 (by decide) (fun c2 => ?_) (fun c2 => ?_)
    · have hm := ite_f c2 hm
      refine lv_iload_n (pc := 19) hx hb dX6_becomes_19 rfl (lv_at hl 1 rfl) ?_
      refine lv_iconst (pc := 20) (v := (1 : Int32)) hx hb dX6_becomes_20 (by decide) ?_
      refine lv_icmp_ne (pc := 21) (tgt := 30) hx hb dX6_becomes_21 (by decide) (fun c3 => ?_) (fun c3 => ?_)
      · have hm := ite_f c3 hm
        refine lv_iload_n (pc := 30) hx hb dX6_becomes_30 rfl (lv_at hl 1 rfl) ?_
        refine lv_iconst (pc := 31) (v := (2 : Int32)) hx hb dX6_becomes_31 (by decide) ?_
        refine lv_icmp_ne (pc := 32) (tgt := 41) hx hb dX6_becomes_32 (by decide) (fun c4 => ?_) (fun c4 => ?_)
        · have hm := ite_f c4 hm
          refine lv_iload_n (pc := 41) hx hb dX6_becomes_41 rfl (lv_at hl 1 rfl) ?_
          refine lv_iconst (pc := 42) (v := (3 : Int32)) hx hb dX6_becomes_42 (by decide) ?_
          refine lv_icmp_ne (pc := 43) (tgt := 52) hx hb dX6_becomes_43 (by decide) (fun c5 => ?_) (fun c5 => ?_)
          · have hm := ite_f c5 hm
            refine lv_iload_n (pc := 52) hx hb dX6_becomes_52 rfl (lv_at hl 2 rfl) ?_
            obtain ⟨hg6, hm⟩ := gb_some hm
            have hg6 := of_decide_eq_true hg6
            refine vx_newarrayZ (pc := 53) hx hb hg6 dX6_becomes_53 (fun tx htx => rk_mx (X := "java/lang/NegativeArraySizeException") (names := ["java/lang/RuntimeException", "java/lang/Exception"]) (nb := 44) hx hl0 hts hK hZX hG hgz (fun _ h => h.elim) at_NASE ag_NASE hS (hl.1.trans hml.symm) (by decide) (by decide) (by decide) (by decide) (by decide) (by rw [htx]; exact negative_text_modelled hg6) (by rw [htx]; exact negative_text_bytes _) (by decide) (Nat.le_of_ble_eq_true rfl) (Nat.le_of_ble_eq_true rfl) (Nat.le_of_ble_eq_true rfl) (Nat.le_of_ble_eq_true rfl) hlk (fun H1 q9 ce hz1 ho1 hS1 hce hcv hcl => ?_))
            exact rk_xout (fun x hx => (ht x hx).elim) hlk hS1 hce hcv hcl rfl (by exact Nat.le_of_ble_eq_true rfl) (by exact Nat.le_of_ble_eq_true rfl)
          · have hm := ite_t c5 hm
            refine lv_iload_n (pc := 46) hx hb dX6_becomes_46 rfl (lv_at hl 2 rfl) ?_
            obtain ⟨hg7, hm⟩ := gb_some hm
            have hg7 := of_decide_eq_true hg7
            refine vx_newarrayZ (pc := 47) hx hb hg7 dX6_becomes_47 (fun tx htx => rk_mx (X := "java/lang/NegativeArraySizeException") (names := ["java/lang/RuntimeException", "java/lang/Exception"]) (nb := 44) hx hl0 hts hK hZX hG hgz (fun _ h => h.elim) at_NASE ag_NASE hS (hl.1.trans hml.symm) (by decide) (by decide) (by decide) (by decide) (by decide) (by rw [htx]; exact negative_text_modelled hg7) (by rw [htx]; exact negative_text_bytes _) (by decide) (Nat.le_of_ble_eq_true rfl) (Nat.le_of_ble_eq_true rfl) (Nat.le_of_ble_eq_true rfl) (Nat.le_of_ble_eq_true rfl) hlk (fun H1 q9 ce hz1 ho1 hS1 hce hcv hcl => ?_))
            exact rk_xout (fun x hx => (ht x hx).elim) hlk hS1 hce hcv hcl rfl (by exact Nat.le_of_ble_eq_true rfl) (by exact Nat.le_of_ble_eq_true rfl)
        · have hm := ite_t c4 hm
          refine lv_iload_n (pc := 35) hx hb dX6_becomes_35 rfl (lv_at hl 2 rfl) ?_
          obtain ⟨hg8, hm⟩ := gb_some hm
          have hg8 := of_decide_eq_true hg8
          refine vx_newarrayZ (pc := 36) hx hb hg8 dX6_becomes_36 (fun tx htx => rk_mx (X := "java/lang/NegativeArraySizeException") (names := ["java/lang/RuntimeException", "java/lang/Exception"]) (nb := 44) hx hl0 hts hK hZX hG hgz (fun _ h => h.elim) at_NASE ag_NASE hS (hl.1.trans hml.symm) (by decide) (by decide) (by decide) (by decide) (by decide) (by rw [htx]; exact negative_text_modelled hg8) (by rw [htx]; exact negative_text_bytes _) (by decide) (Nat.le_of_ble_eq_true rfl) (Nat.le_of_ble_eq_true rfl) (Nat.le_of_ble_eq_true rfl) (Nat.le_of_ble_eq_true rfl) hlk (fun H1 q9 ce hz1 ho1 hS1 hce hcv hcl => ?_))
          exact rk_xout (fun x hx => (ht x hx).elim) hlk hS1 hce hcv hcl rfl (by exact Nat.le_of_ble_eq_true rfl) (by exact Nat.le_of_ble_eq_true rfl)
      · have hm := ite_t c3 hm
        refine lv_iload_n (pc := 24) hx hb dX6_becomes_24 rfl (lv_at hl 2 rfl) ?_
        obtain ⟨hg9, hm⟩ := gb_some hm
        have hg9 := of_decide_eq_true hg9
        refine vx_newarrayZ (pc := 25) hx hb hg9 dX6_becomes_25 (fun tx htx => rk_mx (X := "java/lang/NegativeArraySizeException") (names := ["java/lang/RuntimeException", "java/lang/Exception"]) (nb := 44) hx hl0 hts hK hZX hG hgz (fun _ h => h.elim) at_NASE ag_NASE hS (hl.1.trans hml.symm) (by decide) (by decide) (by decide) (by decide) (by decide) (by rw [htx]; exact negative_text_modelled hg9) (by rw [htx]; exact negative_text_bytes _) (by decide) (Nat.le_of_ble_eq_true rfl) (Nat.le_of_ble_eq_true rfl) (Nat.le_of_ble_eq_true rfl) (Nat.le_of_ble_eq_true rfl) hlk (fun H1 q9 ce hz1 ho1 hS1 hce hcv hcl => ?_))
        exact rk_xout (fun x hx => (ht x hx).elim) hlk hS1 hce hcv hcl rfl (by exact Nat.le_of_ble_eq_true rfl) (by exact Nat.le_of_ble_eq_true rfl)
    · have hm := ite_t c2 hm
      refine lv_iload_n (pc := 13) hx hb dX6_becomes_13 rfl (lv_at hl 2 rfl) ?_
      obtain ⟨hg10, hm⟩ := gb_some hm
      have hg10 := of_decide_eq_true hg10
      refine vx_newarrayZ (pc := 14) hx hb hg10 dX6_becomes_14 (fun tx htx => rk_mx (X := "java/lang/NegativeArraySizeException") (names := ["java/lang/RuntimeException", "java/lang/Exception"]) (nb := 44) hx hl0 hts hK hZX hG hgz (fun _ h => h.elim) at_NASE ag_NASE hS (hl.1.trans hml.symm) (by decide) (by decide) (by decide) (by decide) (by decide) (by rw [htx]; exact negative_text_modelled hg10) (by rw [htx]; exact negative_text_bytes _) (by decide) (Nat.le_of_ble_eq_true rfl) (Nat.le_of_ble_eq_true rfl) (Nat.le_of_ble_eq_true rfl) (Nat.le_of_ble_eq_true rfl) hlk (fun H1 q9 ce hz1 ho1 hS1 hce hcv hcl => ?_))
      exact rk_xout (fun x hx => (ht x hx).elim) hlk hS1 hce hcv hcl rfl (by exact Nat.le_of_ble_eq_true rfl) (by exact Nat.le_of_ble_eq_true rfl)
  · have hm := ite_f c1 hm
    refine lv_null (pc := 5) hx hb dX6_becomes_5 ?_
    refine lv_goto (pc := 6) (tgt := 55) hx hb dX6_becomes_6 (by decide) ?_
    exact nomatch hm
set_option maxHeartbeats 4000000 in
theorem ct_X6_becomes_neg {G : Gv} {l : Launch} {PL : Nat → Bool} {V0 : Mem} {p0 : Nat} {i1 : Int32} {i2 : Int32} {sz : Nat} (hm : fX6_becomes_neg PL V0 p0 i1 i2 = some ()) (hl0 : l.stackTraces = false) (hZX : ZX G) (hgz : gB G ≤ sz) (hZN : ZN G) : CX G l yX6_becomes (ws_ yX6_becomes cX6_becomes 3 none) 7 3 54 10260 [.ref p0, .int i1, .int i2] (fun _ => False) sz (fun H => pl G PL V0 H ∧ GO G H) false (fun _ _ => True) (fun _ E _ => E = "java/lang/NegativeArraySizeException") := by
  refine vx_ofW (cc := cX6_becomes) (maxL := 3) (ret := none) (by decide +kernel) rfl ?_
  intro p e s m args below meth c s₁ B hml ht hv
  obtain ⟨rfl, ⟨hz, hW0, hG⟩, hK⟩ := hv
  subst hz
  have hts := atoms_spec (ws := ws_ yX6_becomes cX6_becomes 3 none) B.pre
  have hts : ∀ w ∈ lw_all, w.before _ s = true := fun w h => hts w (List.mem_cons_of_mem _ h)
  have C : Cx G p s m _ meth c RX6 cX6_becomes 3 none := ⟨B.exec, B.bytes, B.returns, B.notSynchronized, hml, findClass_of_methodNamed B.named, hts, hK⟩
  have hl := lv_entry ([.ref p0, .int i1, .int i2]) (n := 3) (Nat.le_of_ble_eq_true rfl)
  rw [lg_entry_eq]
  generalize (lg_sl ([.ref p0, .int i1, .int i2]) ++ List.replicate (3 - (lg_sl ([.ref p0, .int i1, .int i2])).length) Slot.unset).toArray = ls at hl ⊢
  have hl : lv_has ls 3 [(0, .ref p0), (1, .int i1), (2, .int i2)] := hl
  exact w_fX6_becomes_neg C hW0 hG hl0 hZX hgz hZN ht _ _ _ hm ls hl
noncomputable def fX6_puts_out (PL : Nat → Bool) (V0 : Mem) (p0 : Nat) (i1 : Int32) (j2 : Int64) : Option Unit :=
  gb (kd PL V0 p0 6) (
  ob (fX6_sort PL V0 p0) fun r2 =>
  if r2 = (0 : Int32) then (
  gb (kd PL V0 p0 6) (
  lo (gR V0 p0 0) fun oa6 =>
  od oa6 (
  none) (fun pa8 =>
  gb (ka PL V0 pa8 34) (
  gb (!inR i1 (gI V0 pa8 98).toNatClampNeg) (
  some ())))))
  else if r2 = (1 : Int32) then (
  gb (kd PL V0 p0 6) (
  lo (gR V0 p0 0) fun oa13 =>
  od oa13 (
  none) (fun pa15 =>
  gb (ka PL V0 pa15 35) (
  gb (!inR i1 (gI V0 pa15 98).toNatClampNeg) (
  some ())))))
  else if r2 = (2 : Int32) then (
  gb (kd PL V0 p0 6) (
  lo (gR V0 p0 0) fun oa20 =>
  od oa20 (
  none) (fun pa22 =>
  gb (ka PL V0 pa22 32) (
  gb (!inR i1 (gI V0 pa22 98).toNatClampNeg) (
  some ())))))
  else if r2 = (3 : Int32) then (
  gb (kd PL V0 p0 6) (
  lo (gR V0 p0 0) fun oa27 =>
  od oa27 (
  none) (fun pa29 =>
  gb (ka PL V0 pa29 33) (
  gb (!inR i1 (gI V0 pa29 98).toNatClampNeg) (
  some ())))))
  else (
  gb (kd PL V0 p0 6) (
  lo (gR V0 p0 0) fun oa33 =>
  od oa33 (
  if j2 = (0 : Int64) then (
  none)
  else (
  none)) (fun pa35 =>
  gb (ka PL V0 pa35 36) (
  if j2 = (0 : Int64) then (
  gb (!inR i1 (gI V0 pa35 98).toNatClampNeg) (
  some ()))
  else (
  gb (!inR i1 (gI V0 pa35 98).toNatClampNeg) (
  some ())))))))
set_option maxHeartbeats 4000000 in
theorem w_fX6_puts_out (C : Cx G p s m args meth c RX6 cX6_puts 4 none) {PL : Nat → Bool} {V0 : Mem} (hW0 : pl G PL V0 s.heap) (hG : GO G s.heap) (hl0 : l.stackTraces = false) (hZX : ZX G) (hgz : gB G ≤ s.heap.size) (hZN : ZN G) (ht : ∀ x ∈ c.exceptionTable.toList, False) : ∀ (p0 : Nat) (i1 : Int32) (j2 : Int64), fX6_puts_out PL V0 p0 i1 j2 = some () → ∀ (ls : Array Slot), lv_has ls 4 [(0, .ref p0), (1, .int i1), (2, .long j2)] → W p l e (rmT 8 3 222 10260) s m args below meth c s.heap [] 0 0 (vx_MQ below (QcX false (FA (fun _ => False) s.heap.size) (fun _ _ => True)) (XcX false (FA (fun _ => False) s.heap.size) (fun _ E _ => E = "java/lang/ArrayIndexOutOfBoundsException")) args s 3 222 (FA (fun _ => False) s.heap.size)) (F0 m 0 ls []) := by
  intro p0 i1 j2 hm ls hl
  obtain ⟨hx, hb, hr, hlk, hml, hown, hts, hK⟩ := id C
  have hS : va_S (FA (fun _ => False) s.heap.size) s.heap s.heap [] := va_S.rf
  unfold fX6_puts_out at hm
  refine lv_aload_n (pc := 0) hx hb dX6_puts_0 rfl (lv_at hl 0 rfl) ?_
  obtain ⟨hg1, hm⟩ := gb_some hm
  obtain ⟨r2, hq3, hm⟩ := ob_some hm
  refine rk_PV (pc := 1) (As := []) (rest := []) hx hb hml hown hts hK lkX6_21 rfl yn_X6_sort (ct_X6_sort (G := G) (l := l) hq3 hZN) ⟨Nat.le_of_ble_eq_true rfl, Nat.le_of_ble_eq_true rfl⟩ (rp_recv hK hW0 (C := RX6) (T := TX6) (N := 1) rfl (shP_6 (kd_PL hg1) (kd_k hg1))) hW0 rfl rfl hl.1 (Nat.le_of_ble_eq_true rfl) dX6_puts_1 ⟨Nat.zero_le _, Nat.zero_le _⟩ ?_
  refine W.eq (g2 := F0 m 4 ls [.int r2]) rfl ?_
  by_cases c4 : r2 = (0 : Int32)
  · have hm := ite_t c4 hm
    refine lv_tableIn (pc := 4) (tgt := 36) hx hb dX6_puts_4 (by rw [c4]; decide) (by rw [c4]; decide) (by rw [c4]; rfl) (by decide) ?_
    refine lv_aload_n (pc := 36) hx hb dX6_puts_36 rfl (lv_at hl 0 rfl) ?_
    obtain ⟨hg5, hm⟩ := gb_some hm
    obtain ⟨oa6, he7, hm⟩ := lo_some hm
    refine rk_get (pc := 37) hx hb hts hown hK (pl_rg hW0) flX6_7 p0 (Nat.lt_succ_self _) (Nat.zero_add _).symm (shP_6 (kd_PL hg5) (kd_k hg5)) (x := va_rf oa6) (congrArg (fun z => some (va_rf z)) he7) dX6_puts_37 ?_
    rcases oa6 with _ | pa8
    · have hm := od_n hm
      refine lv_castN (pc := 40) hx hb dX6_puts_40 ?_
      refine lv_iload_n (pc := 43) hx hb dX6_puts_43 rfl (lv_at hl 1 rfl) ?_
      refine lv_lload_n (pc := 44) hx hb dX6_puts_44 rfl (lv_at hl 2 rfl) ?_
      refine lv_l2i (pc := 45) hx hb dX6_puts_45 rfl ?_
      refine lv_i2b (pc := 46) hx hb dX6_puts_46 rfl ?_
      exact nomatch hm
    · have hm := od_s hm
      obtain ⟨hg9, hm⟩ := gb_some hm
      refine rp_cast34 (pc := 40) hx hb hown hts hK q1634 hW0 hg9 dX6_puts_40 ?_
      refine lv_iload_n (pc := 43) hx hb dX6_puts_43 rfl (lv_at hl 1 rfl) ?_
      refine lv_lload_n (pc := 44) hx hb dX6_puts_44 rfl (lv_at hl 2 rfl) ?_
      refine lv_l2i (pc := 45) hx hb dX6_puts_45 rfl ?_
      refine lv_i2b (pc := 46) hx hb dX6_puts_46 rfl ?_
      obtain ⟨hg10, hm⟩ := gb_some hm
      refine vx_bastZ (pc := 47) hx hb hK.1 (rg_P (pl_rg hW0 (n := pa8 + 1)) (Nat.lt_succ_self _) (Nat.zero_add _).symm (shP_34 (kd_PL (ka_kd hg9)) (kd_k (ka_kd hg9)))) 0 2 rfl rfl (inR_out hg10) dX6_puts_47 (fun tx htx => rk_mx (X := "java/lang/ArrayIndexOutOfBoundsException") (names := ["java/lang/IndexOutOfBoundsException", "java/lang/RuntimeException", "java/lang/Exception"]) (nb := 212) hx hl0 hts hK hZX hG hgz (fun _ h => h.elim) at_AIOOBE ag_AIOOBE hS (hl.1.trans hml.symm) (by decide) (by decide) (by decide) (by decide) (by decide) (by rw [htx]; exact index_text_modelled _ _) (by rw [htx]; exact index_text_bytes _ (Nat.lt_of_le_of_lt (ka_le hg9) (by decide))) (by decide) (Nat.le_of_ble_eq_true rfl) (Nat.le_of_ble_eq_true rfl) (Nat.le_of_ble_eq_true rfl) (Nat.le_of_ble_eq_true rfl) hlk (fun H1 q9 ce hz1 ho1 hS1 hce hcv hcl => ?_))
      exact rk_xout (fun x hx => (ht x hx).elim) hlk hS1 hce hcv hcl rfl (by exact Nat.le_of_ble_eq_true rfl) (by exact Nat.le_of_ble_eq_true rfl)
  have hm := ite_f c4 hm
  by_cases c11 : r2 = (1 : Int32)
  · have hm := ite_t c11 hm
    refine lv_tableIn (pc := 4) (tgt := 51) hx hb dX6_puts_4 (by rw [c11]; decide) (by rw [c11]; decide) (by rw [c11]; rfl) (by decide) ?_
    refine lv_aload_n (pc := 51) hx hb dX6_puts_51 rfl (lv_at hl 0 rfl) ?_
    obtain ⟨hg12, hm⟩ := gb_some hm
    obtain ⟨oa13, he14, hm⟩ := lo_some hm
    refine rk_get (pc := 52) hx hb hts hown hK (pl_rg hW0) flX6_7 p0 (Nat.lt_succ_self _) (Nat.zero_add _).symm (shP_6 (kd_PL hg12) (kd_k hg12)) (x := va_rf oa13) (congrArg (fun z => some (va_rf z)) he14) dX6_puts_52 ?_
    rcases oa13 with _ | pa15
    · have hm := od_n hm
      refine lv_castN (pc := 55) hx hb dX6_puts_55 ?_
      refine lv_iload_n (pc := 58) hx hb dX6_puts_58 rfl (lv_at hl 1 rfl) ?_
      refine lv_lload_n (pc := 59) hx hb dX6_puts_59 rfl (lv_at hl 2 rfl) ?_
      refine lv_l2i (pc := 60) hx hb dX6_puts_60 rfl ?_
      refine lv_i2s (pc := 61) hx hb dX6_puts_61 rfl ?_
      exact nomatch hm
    · have hm := od_s hm
      obtain ⟨hg16, hm⟩ := gb_some hm
      refine rp_cast35 (pc := 55) hx hb hown hts hK q1635 hW0 hg16 dX6_puts_55 ?_
      refine lv_iload_n (pc := 58) hx hb dX6_puts_58 rfl (lv_at hl 1 rfl) ?_
      refine lv_lload_n (pc := 59) hx hb dX6_puts_59 rfl (lv_at hl 2 rfl) ?_
      refine lv_l2i (pc := 60) hx hb dX6_puts_60 rfl ?_
      refine lv_i2s (pc := 61) hx hb dX6_puts_61 rfl ?_
      obtain ⟨hg17, hm⟩ := gb_some hm
      refine vx_sastZ (pc := 62) hx hb hK.1 (rg_P (pl_rg hW0 (n := pa15 + 1)) (Nat.lt_succ_self _) (Nat.zero_add _).symm (shP_35 (kd_PL (ka_kd hg16)) (kd_k (ka_kd hg16)))) 0 3 rfl rfl (inR_out hg17) dX6_puts_62 (fun tx htx => rk_mx (X := "java/lang/ArrayIndexOutOfBoundsException") (names := ["java/lang/IndexOutOfBoundsException", "java/lang/RuntimeException", "java/lang/Exception"]) (nb := 212) hx hl0 hts hK hZX hG hgz (fun _ h => h.elim) at_AIOOBE ag_AIOOBE hS (hl.1.trans hml.symm) (by decide) (by decide) (by decide) (by decide) (by decide) (by rw [htx]; exact index_text_modelled _ _) (by rw [htx]; exact index_text_bytes _ (Nat.lt_of_le_of_lt (ka_le hg16) (by decide))) (by decide) (Nat.le_of_ble_eq_true rfl) (Nat.le_of_ble_eq_true rfl) (Nat.le_of_ble_eq_true rfl) (Nat.le_of_ble_eq_true rfl) hlk (fun H1 q9 ce hz1 ho1 hS1 hce hcv hcl => ?_))
      exact rk_xout (fun x hx => (ht x hx).elim) hlk hS1 hce hcv hcl rfl (by exact Nat.le_of_ble_eq_true rfl) (by exact Nat.le_of_ble_eq_true rfl)
  have hm := ite_f c11 hm
  by_cases c18 : r2 = (2 : Int32)
  · have hm := ite_t c18 hm
    refine lv_tableIn (pc := 4) (tgt := 66) hx hb dX6_puts_4 (by rw [c18]; decide) (by rw [c18]; decide) (by rw [c18]; rfl) (by decide) ?_
    refine lv_aload_n (pc := 66) hx hb dX6_puts_66 rfl (lv_at hl 0 rfl) ?_
    obtain ⟨hg19, hm⟩ := gb_some hm
    obtain ⟨oa20, he21, hm⟩ := lo_some hm
    refine rk_get (pc := 67) hx hb hts hown hK (pl_rg hW0) flX6_7 p0 (Nat.lt_succ_self _) (Nat.zero_add _).symm (shP_6 (kd_PL hg19) (kd_k hg19)) (x := va_rf oa20) (congrArg (fun z => some (va_rf z)) he21) dX6_puts_67 ?_
    rcases oa20 with _ | pa22
    · have hm := od_n hm
      refine lv_castN (pc := 70) hx hb dX6_puts_70 ?_
      refine lv_iload_n (pc := 73) hx hb dX6_puts_73 rfl (lv_at hl 1 rfl) ?_
      refine lv_lload_n (pc := 74) hx hb dX6_puts_74 rfl (lv_at hl 2 rfl) ?_
      refine lv_l2i (pc := 75) hx hb dX6_puts_75 rfl ?_
      exact nomatch hm
    · have hm := od_s hm
      obtain ⟨hg23, hm⟩ := gb_some hm
      refine rp_cast32 (pc := 70) hx hb hown hts hK q1636 hW0 hg23 dX6_puts_70 ?_
      refine lv_iload_n (pc := 73) hx hb dX6_puts_73 rfl (lv_at hl 1 rfl) ?_
      refine lv_lload_n (pc := 74) hx hb dX6_puts_74 rfl (lv_at hl 2 rfl) ?_
      refine lv_l2i (pc := 75) hx hb dX6_puts_75 rfl ?_
      obtain ⟨hg24, hm⟩ := gb_some hm
      refine vx_iastZ (pc := 76) hx hb hK.1 (rg_P (pl_rg hW0 (n := pa22 + 1)) (Nat.lt_succ_self _) (Nat.zero_add _).symm (shP_32 (kd_PL (ka_kd hg23)) (kd_k (ka_kd hg23)))) 0 0 rfl rfl (inR_out hg24) dX6_puts_76 (fun tx htx => rk_mx (X := "java/lang/ArrayIndexOutOfBoundsException") (names := ["java/lang/IndexOutOfBoundsException", "java/lang/RuntimeException", "java/lang/Exception"]) (nb := 212) hx hl0 hts hK hZX hG hgz (fun _ h => h.elim) at_AIOOBE ag_AIOOBE hS (hl.1.trans hml.symm) (by decide) (by decide) (by decide) (by decide) (by decide) (by rw [htx]; exact index_text_modelled _ _) (by rw [htx]; exact index_text_bytes _ (Nat.lt_of_le_of_lt (ka_le hg23) (by decide))) (by decide) (Nat.le_of_ble_eq_true rfl) (Nat.le_of_ble_eq_true rfl) (Nat.le_of_ble_eq_true rfl) (Nat.le_of_ble_eq_true rfl) hlk (fun H1 q9 ce hz1 ho1 hS1 hce hcv hcl => ?_))
      exact rk_xout (fun x hx => (ht x hx).elim) hlk hS1 hce hcv hcl rfl (by exact Nat.le_of_ble_eq_true rfl) (by exact Nat.le_of_ble_eq_true rfl)
  have hm := ite_f c18 hm
  by_cases c25 : r2 = (3 : Int32)
  · have hm := ite_t c25 hm
    refine lv_tableIn (pc := 4) (tgt := 80) hx hb dX6_puts_4 (by rw [c25]; decide) (by rw [c25]; decide) (by rw [c25]; rfl) (by decide) ?_
    refine lv_aload_n (pc := 80) hx hb dX6_puts_80 rfl (lv_at hl 0 rfl) ?_
    obtain ⟨hg26, hm⟩ := gb_some hm
    obtain ⟨oa27, he28, hm⟩ := lo_some hm
    refine rk_get (pc := 81) hx hb hts hown hK (pl_rg hW0) flX6_7 p0 (Nat.lt_succ_self _) (Nat.zero_add _).symm (shP_6 (kd_PL hg26) (kd_k hg26)) (x := va_rf oa27) (congrArg (fun z => some (va_rf z)) he28) dX6_puts_81 ?_
    rcases oa27 with _ | pa29
    · have hm := od_n hm
      refine lv_castN (pc := 84) hx hb dX6_puts_84 ?_
      refine lv_iload_n (pc := 87) hx hb dX6_puts_87 rfl (lv_at hl 1 rfl) ?_
      refine lv_lload_n (pc := 88) hx hb dX6_puts_88 rfl (lv_at hl 2 rfl) ?_
      exact nomatch hm
    · have hm := od_s hm
      obtain ⟨hg30, hm⟩ := gb_some hm
      refine rp_cast33 (pc := 84) hx hb hown hts hK q1637 hW0 hg30 dX6_puts_84 ?_
      refine lv_iload_n (pc := 87) hx hb dX6_puts_87 rfl (lv_at hl 1 rfl) ?_
      refine lv_lload_n (pc := 88) hx hb dX6_puts_88 rfl (lv_at hl 2 rfl) ?_
      obtain ⟨hg31, hm⟩ := gb_some hm
      refine vx_lastZ (pc := 89) hx hb hK.1 (rg_P (pl_rg hW0 (n := pa29 + 1)) (Nat.lt_succ_self _) (Nat.zero_add _).symm (shP_33 (kd_PL (ka_kd hg30)) (kd_k (ka_kd hg30)))) 0 1 rfl rfl (inR_out hg31) dX6_puts_89 (fun tx htx => rk_mx (X := "java/lang/ArrayIndexOutOfBoundsException") (names := ["java/lang/IndexOutOfBoundsException", "java/lang/RuntimeException", "java/lang/Exception"]) (nb := 212) hx hl0 hts hK hZX hG hgz (fun _ h => h.elim) at_AIOOBE ag_AIOOBE hS (hl.1.trans hml.symm) (by decide) (by decide) (by decide) (by decide) (by decide) (by rw [htx]; exact index_text_modelled _ _) (by rw [htx]; exact index_text_bytes _ (Nat.lt_of_le_of_lt (ka_le hg30) (by decide))) (by decide) (Nat.le_of_ble_eq_true rfl) (Nat.le_of_ble_eq_true rfl) (Nat.le_of_ble_eq_true rfl) (Nat.le_of_ble_eq_true rfl) hlk (fun H1 q9 ce hz1 ho1 hS1 hce hcv hcl => ?_))
      exact rk_xout (fun x hx => (ht x hx).elim) hlk hS1 hce hcv hcl rfl (by exact Nat.le_of_ble_eq_true rfl) (by exact Nat.le_of_ble_eq_true rfl)
  have hm := ite_f c25 hm
  refine lv_tableOut (pc := 4) (tgt := 93) hx hb dX6_puts_4 (tsw4 c4 c11 c18 c25) (by decide) ?_
  refine lv_aload_n (pc := 93) hx hb dX6_puts_93 rfl (lv_at hl 0 rfl) ?_
  obtain ⟨hg32, hm⟩ := gb_some hm
  obtain ⟨oa33, he34, hm⟩ := lo_some hm
  refine rk_get (pc := 94) hx hb hts hown hK (pl_rg hW0) flX6_7 p0 (Nat.lt_succ_self _) (Nat.zero_add _).symm (shP_6 (kd_PL hg32) (kd_k hg32)) (x := va_rf oa33) (congrArg (fun z => some (va_rf z)) he34) dX6_puts_94 ?_
  rcases oa33 with _ | pa35
  · have hm := od_n hm
    refine lv_castN (pc := 97) hx hb dX6_puts_97 ?_
    refine lv_iload_n (pc := 100) hx hb dX6_puts_100 rfl (lv_at hl 1 rfl) ?_
    refine lv_lload_n (pc := 101) hx hb dX6_puts_101 rfl (lv_at hl 2 rfl) ?_
    refine lv_lconst (pc := 102) (v := (0 : Int64)) hx hb dX6_puts_102 (by decide) ?_
    refine rk_lcmp_eq (pc := 103) (tgt := 111) hx hb dX6_puts_103 rfl dX6_puts_104 (by decide) (fun c36 => ?_) (fun c36 => ?_)
    · have hm := ite_t c36 hm
      refine lv_iconst (pc := 111) (v := (0 : Int32)) hx hb dX6_puts_111 (by decide) ?_
      exact nomatch hm
    · have hm := ite_f c36 hm
      refine lv_iconst (pc := 107) (v := (1 : Int32)) hx hb dX6_puts_107 (by decide) ?_
      refine lv_goto (pc := 108) (tgt := 112) hx hb dX6_puts_108 (by decide) ?_
      exact nomatch hm
  · have hm := od_s hm
    obtain ⟨hg37, hm⟩ := gb_some hm
    refine rp_cast36 (pc := 97) hx hb hown hts hK q1643 hW0 hg37 dX6_puts_97 ?_
    refine lv_iload_n (pc := 100) hx hb dX6_puts_100 rfl (lv_at hl 1 rfl) ?_
    refine lv_lload_n (pc := 101) hx hb dX6_puts_101 rfl (lv_at hl 2 rfl) ?_
    refine lv_lconst (pc := 102) (v := (0 : Int64)) hx hb dX6_puts_102 (by decide) ?_
    refine rk_lcmp_eq (pc := 103) (tgt := 111) hx hb dX6_puts_103 rfl dX6_puts_104 (by decide) (fun c38 => ?_) (fun c38 => ?_)
    · have hm := ite_t c38 hm
      refine lv_iconst (pc := 111) (v := (0 : Int32)) hx hb dX6_puts_111 (by decide) ?_
      obtain ⟨hg39, hm⟩ := gb_some hm
      refine vx_zastZ (pc := 112) hx hb hK.1 (rg_P (pl_rg hW0 (n := pa35 + 1)) (Nat.lt_succ_self _) (Nat.zero_add _).symm (shP_36 (kd_PL (ka_kd hg37)) (kd_k (ka_kd hg37)))) 0 4 rfl rfl (inR_out hg39) dX6_puts_112 (fun tx htx => rk_mx (X := "java/lang/ArrayIndexOutOfBoundsException") (names := ["java/lang/IndexOutOfBoundsException", "java/lang/RuntimeException", "java/lang/Exception"]) (nb := 212) hx hl0 hts hK hZX hG hgz (fun _ h => h.elim) at_AIOOBE ag_AIOOBE hS (hl.1.trans hml.symm) (by decide) (by decide) (by decide) (by decide) (by decide) (by rw [htx]; exact index_text_modelled _ _) (by rw [htx]; exact index_text_bytes _ (Nat.lt_of_le_of_lt (ka_le hg37) (by decide))) (by decide) (Nat.le_of_ble_eq_true rfl) (Nat.le_of_ble_eq_true rfl) (Nat.le_of_ble_eq_true rfl) (Nat.le_of_ble_eq_true rfl) hlk (fun H1 q9 ce hz1 ho1 hS1 hce hcv hcl => ?_))
      exact rk_xout (fun x hx => (ht x hx).elim) hlk hS1 hce hcv hcl rfl (by exact Nat.le_of_ble_eq_true rfl) (by exact Nat.le_of_ble_eq_true rfl)
    · have hm := ite_f c38 hm
      refine lv_iconst (pc := 107) (v := (1 : Int32)) hx hb dX6_puts_107 (by decide) ?_
      refine lv_goto (pc := 108) (tgt := 112) hx hb dX6_puts_108 (by decide) ?_
      obtain ⟨hg40, hm⟩ := gb_some hm
      refine vx_zastZ (pc := 112) hx hb hK.1 (rg_P (pl_rg hW0 (n := pa35 + 1)) (Nat.lt_succ_self _) (Nat.zero_add _).symm (shP_36 (kd_PL (ka_kd hg37)) (kd_k (ka_kd hg37)))) 0 4 rfl rfl (inR_out hg40) dX6_puts_112 (fun tx htx => rk_mx (X := "java/lang/ArrayIndexOutOfBoundsException") (names := ["java/lang/IndexOutOfBoundsException", "java/lang/RuntimeException", "java/lang/Exception"]) (nb := 212) hx hl0 hts hK hZX hG hgz (fun _ h => h.elim) at_AIOOBE ag_AIOOBE hS (hl.1.trans hml.symm) (by decide) (by decide) (by decide) (by decide) (by decide) (by rw [htx]; exact index_text_modelled _ _) (by rw [htx]; exact index_text_bytes _ (Nat.lt_of_le_of_lt (ka_le hg37) (by decide))) (by decide) (Nat.le_of_ble_eq_true rfl) (Nat.le_of_ble_eq_true rfl) (Nat.le_of_ble_eq_true rfl) (Nat.le_of_ble_eq_true rfl) hlk (fun H1 q9 ce hz1 ho1 hS1 hce hcv hcl => ?_))
      exact rk_xout (fun x hx => (ht x hx).elim) hlk hS1 hce hcv hcl rfl (by exact Nat.le_of_ble_eq_true rfl) (by exact Nat.le_of_ble_eq_true rfl)
set_option maxHeartbeats 4000000 in
theorem ct_X6_puts_out {G : Gv} {l : Launch} {PL : Nat → Bool} {V0 : Mem} {p0 : Nat} {i1 : Int32} {j2 : Int64} {sz : Nat} (hm : fX6_puts_out PL V0 p0 i1 j2 = some ()) (hl0 : l.stackTraces = false) (hZX : ZX G) (hgz : gB G ≤ sz) (hZN : ZN G) : CX G l yX6_puts (ws_ yX6_puts cX6_puts 4 none) 8 3 222 10260 [.ref p0, .int i1, .long j2] (fun _ => False) sz (fun H => pl G PL V0 H ∧ GO G H) false (fun _ _ => True) (fun _ E _ => E = "java/lang/ArrayIndexOutOfBoundsException") := by
  refine vx_ofW (cc := cX6_puts) (maxL := 4) (ret := none) (by decide +kernel) rfl ?_
  intro p e s m args below meth c s₁ B hml ht hv
  obtain ⟨rfl, ⟨hz, hW0, hG⟩, hK⟩ := hv
  subst hz
  have hts := atoms_spec (ws := ws_ yX6_puts cX6_puts 4 none) B.pre
  have hts : ∀ w ∈ lw_all, w.before _ s = true := fun w h => hts w (List.mem_cons_of_mem _ h)
  have C : Cx G p s m _ meth c RX6 cX6_puts 4 none := ⟨B.exec, B.bytes, B.returns, B.notSynchronized, hml, findClass_of_methodNamed B.named, hts, hK⟩
  have hl := lv_entry ([.ref p0, .int i1, .long j2]) (n := 4) (Nat.le_of_ble_eq_true rfl)
  rw [lg_entry_eq]
  generalize (lg_sl ([.ref p0, .int i1, .long j2]) ++ List.replicate (4 - (lg_sl ([.ref p0, .int i1, .long j2])).length) Slot.unset).toArray = ls at hl ⊢
  have hl : lv_has ls 4 [(0, .ref p0), (1, .int i1), (2, .long j2)] := hl
  exact w_fX6_puts_out C hW0 hG hl0 hZX hgz hZN ht _ _ _ hm ls hl
noncomputable def fX0_tape_neg (PL : Nat → Bool) (b0 : Nat) (V0 : Mem) (V1 : Mem) (i1 : Int32) (i2 : Int32) (i3 : Int32) : Option Int32 :=
  ob (fX0_isTape i1) fun r1 =>
  if r1 = 0 then (
  none)
  else (
  ob (fX0_in i2.toInt64 (-1 : Int64) (4 : Int64)) fun r4 =>
  if r4 = 0 then (
  none)
  else (
  if i2 < 0 then (
  gb (inR i1 6) (
  ln (b0 + (168 + 1 * i1.toNatClampNeg)) fun pa9 =>
  gb (kd PL V1 pa9 6) (
  ob (fX6_becomes_neg PL V1 pa9 i2 i3) fun _ =>
  some (-14 : Int32))))
  else (
  if i3 ≤ (60 : Int32) then (
  gb (inR i1 6) (
  ln (b0 + (168 + 1 * i1.toNatClampNeg)) fun pa15 =>
  gb (kd PL V1 pa15 6) (
  ob (fX6_becomes_neg PL V1 pa15 i2 i3) fun _ =>
  some (-14 : Int32))))
  else (
  none))))
set_option maxHeartbeats 4000000 in
theorem w_fX0_tape_neg (C : Cx G p s m args meth c RX0 cX0_tape 5 (some .int)) {b0 : Nat} {PL : Nat → Bool} {V0 : Mem} {V1 : Mem} {rx : Int32} (hW0 : rg G b0 357 (shX0 G.2.1) V0 s.heap) (hW1 : pl G PL V1 s.heap) (hG : GO G s.heap) (hl0 : l.stackTraces = false) (hZX : ZX G) (hgz : gB G ≤ s.heap.size) (hZN : ZN G) (ht : c.exceptionTable.toList = tableOf [(36, 47, 50, 583)]) : ∀ (i1 : Int32) (i2 : Int32) (i3 : Int32), fX0_tape_neg PL b0 V0 V1 i1 i2 i3 = some rx → ∀ (ls : Array Slot), lv_has ls 5 [(0, .ref b0), (1, .int i1), (2, .int i2), (3, .int i3)] → W p l e (rmT 8 3 54 10282) s m args below meth c s.heap [] 0 0 (MQ below (QcT (FA (fun _ => False) s.heap.size) (fun ov _ => ov = some (.int rx))) args s 3 54 (FA (fun _ => False) s.heap.size)) (F0 m 0 ls []) := by
  intro i1 i2 i3 hm ls hl
  obtain ⟨hx, hb, hr, hlk, hml, hown, hts, hK⟩ := id C
  have hS : va_S (FA (fun _ => False) s.heap.size) s.heap s.heap [] := va_S.rf
  unfold fX0_tape_neg at hm
  refine lv_iload_n (pc := 0) hx hb dX0_tape_0 rfl (lv_at hl 1 rfl) ?_
  obtain ⟨r1, hq2, hm⟩ := ob_some hm
  refine rk_PS (pc := 1) (As := [.int i1]) (rest := []) hx hb hml hown hts hK lkX0_569 yn_X0_isTape (ct_X0_isTape (G := G) (l := l) hq2) ⟨Nat.le_of_ble_eq_true rfl, Nat.le_of_ble_eq_true rfl⟩ trivial rfl rfl hl.1 (Nat.le_of_ble_eq_true rfl) dX0_tape_1 ⟨Nat.zero_le _, Nat.zero_le _⟩ ?_
  refine W.eq (g2 := F0 m 4 ls [.int r1]) rfl ?_
  refine lv_if_ne (pc := 4) (tgt := 9) hx hb dX0_tape_4 (by decide) (fun c3 => ?_) (fun c3 => ?_)
  · have hm := ite_f c3 hm
    refine lv_iload_n (pc := 9) hx hb dX0_tape_9 rfl (lv_at hl 2 rfl) ?_
    refine lv_i2l (pc := 10) hx hb dX0_tape_10 rfl ?_
    refine lv_ldc2 (pc := 11) (v := (-1 : Int64)) hx hb hown (hts _ q1681) dX0_tape_11 ?_
    refine lv_ldc2 (pc := 14) (v := (4 : Int64)) hx hb hown (hts _ q1324) dX0_tape_14 ?_
    obtain ⟨r4, hq5, hm⟩ := ob_some hm
    refine rk_PS (pc := 17) (As := [.long i2.toInt64, .long (-1 : Int64), .long (4 : Int64)]) (rest := []) hx hb hml hown hts hK lkX0_127 yn_X0_in (ct_X0_in (G := G) (l := l) hq5) ⟨Nat.le_of_ble_eq_true rfl, Nat.le_of_ble_eq_true rfl⟩ trivial rfl rfl hl.1 (Nat.le_of_ble_eq_true rfl) dX0_tape_17 ⟨Nat.zero_le _, Nat.zero_le _⟩ ?_
    refine W.eq (g2 := F0 m 20 ls [.int r4]) rfl ?_
    refine lv_if_eq (pc := 20) (tgt := 33) hx hb dX0_tape_20 (by decide) (fun c6 => ?_) (fun c6 => ?_)
    · have hm := ite_t c6 hm
      refine lv_bipush (pc := 33) (v := (-2 : Int32)) hx hb dX0_tape_33 (by decide) ?_
      exact nomatch hm
    · have hm := ite_f c6 hm
      refine lv_iload_n (pc := 23) hx hb dX0_tape_23 rfl (lv_at hl 2 rfl) ?_
      refine lv_if_lt (pc := 24) (tgt := 36) hx hb dX0_tape_24 (by decide) (fun c7 => ?_) (fun c7 => ?_)
      · have hm := ite_t c7 hm
        refine lv_aload_n (pc := 36) hx hb dX0_tape_36 rfl (lv_at hl 0 rfl) ?_
        refine rk_get (pc := 37) hx hb hts hown hK hW0 flX0_98 0 (by decide) rfl rfl (x := .ref (b0 + 167)) (by first | rfl | exact congrArg (fun z => some (Value.ref z)) (by omega)) dX0_tape_37 ?_
        refine lv_iload_n (pc := 40) hx hb dX0_tape_40 rfl (lv_at hl 1 rfl) ?_
        obtain ⟨hg8, hm⟩ := gb_some hm
        obtain ⟨pa9, he10, hm⟩ := ln_some hm
        refine rk_aald (pc := 41) hx hb hK hW0 167 11 (by decide) rfl rfl rfl hg8 (x := pa9) (congrArg some (by rw [← he10])) dX0_tape_41 ?_
        refine lv_iload_n (pc := 42) hx hb dX0_tape_42 rfl (lv_at hl 2 rfl) ?_
        refine lv_iload_n (pc := 43) hx hb dX0_tape_43 rfl (lv_at hl 3 rfl) ?_
        obtain ⟨hg11, hm⟩ := gb_some hm
        obtain ⟨_, hq12, hm⟩ := ob_some hm
        refine rk_XV (pc := 44) (As := [.int i2, .int i3]) (rest := []) (mc := 3) (ms := 54) hx hb hml hown hts hK hS (fun q hq => FA_sz rfl q hq) lkX0_580 rfl yn_X6_becomes (ct_X6_becomes_neg (G := G) (l := l) (sz := s.heap.size) hq12 hl0 hZX hgz hZN) ⟨Nat.le_of_ble_eq_true rfl, Nat.le_of_ble_eq_true rfl⟩ (fun _ h => h.elim) (rp_recv hK hW1 (C := RX6) (T := TX6) (N := 1) rfl (shP_6 (kd_PL hg11) (kd_k hg11))) ⟨hW1, hG⟩ rfl rfl hl.1 (Nat.le_of_ble_eq_true rfl) dX0_tape_44 ⟨Nat.le_of_ble_eq_true rfl, Nat.le_of_ble_eq_true rfl⟩ (fun q9 E9 ce H1 locs1 hE9 hkp1 hS1 hce hcv hcl => ?_)
        subst hE9
        refine rk_catch hK hown hts ht [] ⟨36, 47, 50, 583⟩ [] rfl (by decide) (by decide) (by decide) q1652 q1672 hce hcv hcl 50 rfl ?_
        refine lv_astore (pc := 50) (lv' := [(4, .ref q9), (0, .ref b0), (1, .int i1), (2, .int i2), (3, .int i3)]) hx hb dX0_tape_50 hl (by decide) rfl (fun ls hl => ?_)
        refine lv_bipush (pc := 52) (v := (-14 : Int32)) hx hb dX0_tape_52 (by decide) ?_
        obtain rfl := rs1 hm
        exact rk_iretA (pc := 54) hx hb hr hlk hS1 rfl dX0_tape_54 (by exact Nat.le_of_ble_eq_true rfl) (by exact Nat.le_of_ble_eq_true rfl)
      · have hm := ite_f c7 hm
        refine lv_iload_n (pc := 27) hx hb dX0_tape_27 rfl (lv_at hl 3 rfl) ?_
        refine lv_bipush (pc := 28) (v := (60 : Int32)) hx hb dX0_tape_28 (by decide) ?_
        refine lv_icmp_le (pc := 30) (tgt := 36) hx hb dX0_tape_30 (by decide) (fun c13 => ?_) (fun c13 => ?_)
        · have hm := ite_t c13 hm
          refine lv_aload_n (pc := 36) hx hb dX0_tape_36 rfl (lv_at hl 0 rfl) ?_
          refine rk_get (pc := 37) hx hb hts hown hK hW0 flX0_98 0 (by decide) rfl rfl (x := .ref (b0 + 167)) (by first | rfl | exact congrArg (fun z => some (Value.ref z)) (by omega)) dX0_tape_37 ?_
          refine lv_iload_n (pc := 40) hx hb dX0_tape_40 rfl (lv_at hl 1 rfl) ?_
          obtain ⟨hg14, hm⟩ := gb_some hm
          obtain ⟨pa15, he16, hm⟩ := ln_some hm
          refine rk_aald (pc := 41) hx hb hK hW0 167 11 (by decide) rfl rfl rfl hg14 (x := pa15) (congrArg some (by rw [← he16])) dX0_tape_41 ?_
          refine lv_iload_n (pc := 42) hx hb dX0_tape_42 rfl (lv_at hl 2 rfl) ?_
          refine lv_iload_n (pc := 43) hx hb dX0_tape_43 rfl (lv_at hl 3 rfl) ?_
          obtain ⟨hg17, hm⟩ := gb_some hm
          obtain ⟨_, hq18, hm⟩ := ob_some hm
          refine rk_XV (pc := 44) (As := [.int i2, .int i3]) (rest := []) (mc := 3) (ms := 54) hx hb hml hown hts hK hS (fun q hq => FA_sz rfl q hq) lkX0_580 rfl yn_X6_becomes (ct_X6_becomes_neg (G := G) (l := l) (sz := s.heap.size) hq18 hl0 hZX hgz hZN) ⟨Nat.le_of_ble_eq_true rfl, Nat.le_of_ble_eq_true rfl⟩ (fun _ h => h.elim) (rp_recv hK hW1 (C := RX6) (T := TX6) (N := 1) rfl (shP_6 (kd_PL hg17) (kd_k hg17))) ⟨hW1, hG⟩ rfl rfl hl.1 (Nat.le_of_ble_eq_true rfl) dX0_tape_44 ⟨Nat.le_of_ble_eq_true rfl, Nat.le_of_ble_eq_true rfl⟩ (fun q9 E9 ce H1 locs1 hE9 hkp1 hS1 hce hcv hcl => ?_)
          subst hE9
          refine rk_catch hK hown hts ht [] ⟨36, 47, 50, 583⟩ [] rfl (by decide) (by decide) (by decide) q1652 q1672 hce hcv hcl 50 rfl ?_
          refine lv_astore (pc := 50) (lv' := [(4, .ref q9), (0, .ref b0), (1, .int i1), (2, .int i2), (3, .int i3)]) hx hb dX0_tape_50 hl (by decide) rfl (fun ls hl => ?_)
          refine lv_bipush (pc := 52) (v := (-14 : Int32)) hx hb dX0_tape_52 (by decide) ?_
          obtain rfl := rs1 hm
          exact rk_iretA (pc := 54) hx hb hr hlk hS1 rfl dX0_tape_54 (by exact Nat.le_of_ble_eq_true rfl) (by exact Nat.le_of_ble_eq_true rfl)
        · have hm := ite_f c13 hm
          refine lv_bipush (pc := 33) (v := (-2 : Int32)) hx hb dX0_tape_33 (by decide) ?_
          exact nomatch hm
  · have hm := ite_t c3 hm
    refine lv_iconst (pc := 7) (v := (-1 : Int32)) hx hb dX0_tape_7 (by decide) ?_
    exact nomatch hm
set_option maxHeartbeats 4000000 in
theorem ct_X0_tape_neg {G : Gv} {l : Launch} {b0 : Nat} {PL : Nat → Bool} {V0 : Mem} {V1 : Mem} {i1 : Int32} {i2 : Int32} {i3 : Int32} {rx : Int32} {sz : Nat} (hm : fX0_tape_neg PL b0 V0 V1 i1 i2 i3 = some rx) (hl0 : l.stackTraces = false) (hZX : ZX G) (hgz : gB G ≤ sz) (hZN : ZN G) : CT G l yX0_tape (wsW_ yX0_tape cX0_tape 5 (some .int) [(36, 47, 50, 583)]) 8 3 54 10282 [.ref b0, .int i1, .int i2, .int i3] (fun _ => False) sz (fun H => rg G b0 357 (shX0 G.2.1) V0 H ∧ pl G PL V1 H ∧ GO G H) (fun ov _ => ov = some (.int rx)) := by
  refine va_MetW (cc := cX0_tape) (maxL := 5) (ret := (some .int)) (by decide +kernel) rfl ?_
  intro p e s m args below meth c s₁ B hml hv
  obtain ⟨rfl, ⟨hz, hW0, hW1, hG⟩, hK⟩ := hv
  subst hz
  have ht := vx_table (x := yX0_tape) B (atoms_spec (ws := wsW_ yX0_tape cX0_tape 5 (some .int) [(36, 47, 50, 583)]) B.pre _ List.mem_cons_self)
  have hts := atoms_spec (ws := wsW_ yX0_tape cX0_tape 5 (some .int) [(36, 47, 50, 583)]) B.pre
  have hts : ∀ w ∈ lw_all, w.before _ s = true := fun w h => hts w (List.mem_cons_of_mem _ h)
  have C : Cx G p s m _ meth c RX0 cX0_tape 5 (some .int) := ⟨B.exec, B.bytes, B.returns, B.notSynchronized, hml, findClass_of_methodNamed B.named, hts, hK⟩
  have hl := lv_entry ([.ref b0, .int i1, .int i2, .int i3]) (n := 5) (Nat.le_of_ble_eq_true rfl)
  rw [lg_entry_eq]
  generalize (lg_sl ([.ref b0, .int i1, .int i2, .int i3]) ++ List.replicate (5 - (lg_sl ([.ref b0, .int i1, .int i2, .int i3])).length) Slot.unset).toArray = ls at hl ⊢
  have hl : lv_has ls 5 [(0, .ref b0), (1, .int i1), (2, .int i2), (3, .int i3)] := hl
  exact w_fX0_tape_neg C hW0 hW1 hG hl0 hZX hgz hZN ht _ _ _ hm ls hl
noncomputable def fX0_item_out (PL : Nat → Bool) (b0 : Nat) (V0 : Mem) (V1 : Mem) (i1 : Int32) (i2 : Int32) (j3 : Int64) : Option Int32 :=
  ob (fX0_isTape i1) fun r1 =>
  if r1 = 0 then (
  none)
  else (
  gb (inR i1 6) (
  ln (b0 + (168 + 1 * i1.toNatClampNeg)) fun pa5 =>
  gb (kd PL V1 pa5 6) (
  lo (gR V1 pa5 0) fun oa8 =>
  od oa8 (
  none) (fun pa10 =>
  gb (inR i1 6) (
  ln (b0 + (168 + 1 * i1.toNatClampNeg)) fun pa12 =>
  gb (kd PL V1 pa12 6) (
  ob (fX6_puts_out PL V1 pa12 i2 j3) fun _ =>
  some (-13 : Int32)))))))
set_option maxHeartbeats 4000000 in
theorem w_fX0_item_out (C : Cx G p s m args meth c RX0 cX0_item 6 (some .int)) {b0 : Nat} {PL : Nat → Bool} {V0 : Mem} {V1 : Mem} {rx : Int32} (hW0 : rg G b0 357 (shX0 G.2.1) V0 s.heap) (hW1 : pl G PL V1 s.heap) (hG : GO G s.heap) (hl0 : l.stackTraces = false) (hZX : ZX G) (hgz : gB G ≤ s.heap.size) (hZN : ZN G) (ht : c.exceptionTable.toList = tableOf [(24, 35, 38, 593)]) : ∀ (i1 : Int32) (i2 : Int32) (j3 : Int64), fX0_item_out PL b0 V0 V1 i1 i2 j3 = some rx → ∀ (ls : Array Slot), lv_has ls 6 [(0, .ref b0), (1, .int i1), (2, .int i2), (3, .long j3)] → W p l e (rmT 9 3 222 10283) s m args below meth c s.heap [] 0 0 (MQ below (QcT (FA (fun _ => False) s.heap.size) (fun ov _ => ov = some (.int rx))) args s 3 222 (FA (fun _ => False) s.heap.size)) (F0 m 0 ls []) := by
  intro i1 i2 j3 hm ls hl
  obtain ⟨hx, hb, hr, hlk, hml, hown, hts, hK⟩ := id C
  have hS : va_S (FA (fun _ => False) s.heap.size) s.heap s.heap [] := va_S.rf
  unfold fX0_item_out at hm
  refine lv_iload_n (pc := 0) hx hb dX0_item_0 rfl (lv_at hl 1 rfl) ?_
  obtain ⟨r1, hq2, hm⟩ := ob_some hm
  refine rk_PS (pc := 1) (As := [.int i1]) (rest := []) hx hb hml hown hts hK lkX0_569 yn_X0_isTape (ct_X0_isTape (G := G) (l := l) hq2) ⟨Nat.le_of_ble_eq_true rfl, Nat.le_of_ble_eq_true rfl⟩ trivial rfl rfl hl.1 (Nat.le_of_ble_eq_true rfl) dX0_item_1 ⟨Nat.zero_le _, Nat.zero_le _⟩ ?_
  refine W.eq (g2 := F0 m 4 ls [.int r1]) rfl ?_
  refine lv_if_ne (pc := 4) (tgt := 9) hx hb dX0_item_4 (by decide) (fun c3 => ?_) (fun c3 => ?_)
  · have hm := ite_f c3 hm
    refine lv_aload_n (pc := 9) hx hb dX0_item_9 rfl (lv_at hl 0 rfl) ?_
    refine rk_get (pc := 10) hx hb hts hown hK hW0 flX0_98 0 (by decide) rfl rfl (x := .ref (b0 + 167)) (by first | rfl | exact congrArg (fun z => some (Value.ref z)) (by omega)) dX0_item_10 ?_
    refine lv_iload_n (pc := 13) hx hb dX0_item_13 rfl (lv_at hl 1 rfl) ?_
    obtain ⟨hg4, hm⟩ := gb_some hm
    obtain ⟨pa5, he6, hm⟩ := ln_some hm
    refine rk_aald (pc := 14) hx hb hK hW0 167 11 (by decide) rfl rfl rfl hg4 (x := pa5) (congrArg some (by rw [← he6])) dX0_item_14 ?_
    obtain ⟨hg7, hm⟩ := gb_some hm
    obtain ⟨oa8, he9, hm⟩ := lo_some hm
    refine rk_getN (pc := 15) hx hb hts hown hK (pl_rg hW1) fnX0_585 pa5 (Nat.lt_succ_self _) (Nat.zero_add _).symm (shP_6 (kd_PL hg7) (kd_k hg7)) (x := va_rf oa8) (congrArg (fun z => some (va_rf z)) he9) dX0_item_15 ?_
    rcases oa8 with _ | pa10
    · have hm := od_n hm
      refine lv_ifnonnullN (pc := 18) hx hb dX0_item_18 ?_
      refine lv_bipush (pc := 21) (v := (-11 : Int32)) hx hb dX0_item_21 (by decide) ?_
      exact nomatch hm
    · have hm := od_s hm
      refine lv_ifnonnull (pc := 18) (tgt := 24) hx hb dX0_item_18 (by decide) ?_
      refine lv_aload_n (pc := 24) hx hb dX0_item_24 rfl (lv_at hl 0 rfl) ?_
      refine rk_get (pc := 25) hx hb hts hown hK hW0 flX0_98 0 (by decide) rfl rfl (x := .ref (b0 + 167)) (by first | rfl | exact congrArg (fun z => some (Value.ref z)) (by omega)) dX0_item_25 ?_
      refine lv_iload_n (pc := 28) hx hb dX0_item_28 rfl (lv_at hl 1 rfl) ?_
      obtain ⟨hg11, hm⟩ := gb_some hm
      obtain ⟨pa12, he13, hm⟩ := ln_some hm
      refine rk_aald (pc := 29) hx hb hK hW0 167 11 (by decide) rfl rfl rfl hg11 (x := pa12) (congrArg some (by rw [← he13])) dX0_item_29 ?_
      refine lv_iload_n (pc := 30) hx hb dX0_item_30 rfl (lv_at hl 2 rfl) ?_
      refine lv_lload_n (pc := 31) hx hb dX0_item_31 rfl (lv_at hl 3 rfl) ?_
      obtain ⟨hg14, hm⟩ := gb_some hm
      obtain ⟨_, hq15, hm⟩ := ob_some hm
      refine rk_XV (pc := 32) (As := [.int i2, .long j3]) (rest := []) (mc := 3) (ms := 222) hx hb hml hown hts hK hS (fun q hq => FA_sz rfl q hq) lkX0_589 rfl yn_X6_puts (ct_X6_puts_out (G := G) (l := l) (sz := s.heap.size) hq15 hl0 hZX hgz hZN) ⟨Nat.le_of_ble_eq_true rfl, Nat.le_of_ble_eq_true rfl⟩ (fun _ h => h.elim) (rp_recv hK hW1 (C := RX6) (T := TX6) (N := 1) rfl (shP_6 (kd_PL hg14) (kd_k hg14))) ⟨hW1, hG⟩ rfl rfl hl.1 (Nat.le_of_ble_eq_true rfl) dX0_item_32 ⟨Nat.le_of_ble_eq_true rfl, Nat.le_of_ble_eq_true rfl⟩ (fun q9 E9 ce H1 locs1 hE9 hkp1 hS1 hce hcv hcl => ?_)
      subst hE9
      refine rk_catch hK hown hts ht [] ⟨24, 35, 38, 593⟩ [] rfl (by decide) (by decide) (by decide) q1692 q1707 hce hcv hcl 38 rfl ?_
      refine lv_astore (pc := 38) (lv' := [(5, .ref q9), (0, .ref b0), (1, .int i1), (2, .int i2), (3, .long j3)]) hx hb dX0_item_38 hl (by decide) rfl (fun ls hl => ?_)
      refine lv_bipush (pc := 40) (v := (-13 : Int32)) hx hb dX0_item_40 (by decide) ?_
      obtain rfl := rs1 hm
      exact rk_iretA (pc := 42) hx hb hr hlk hS1 rfl dX0_item_42 (by exact Nat.le_of_ble_eq_true rfl) (by exact Nat.le_of_ble_eq_true rfl)
  · have hm := ite_t c3 hm
    refine lv_iconst (pc := 7) (v := (-1 : Int32)) hx hb dX0_item_7 (by decide) ?_
    exact nomatch hm
set_option maxHeartbeats 4000000 in
theorem ct_X0_item_out {G : Gv} {l : Launch} {b0 : Nat} {PL : Nat → Bool} {V0 : Mem} {V1 : Mem} {i1 : Int32} {i2 : Int32} {j3 : Int64} {rx : Int32} {sz : Nat} (hm : fX0_item_out PL b0 V0 V1 i1 i2 j3 = some rx) (hl0 : l.stackTraces = false) (hZX : ZX G) (hgz : gB G ≤ sz) (hZN : ZN G) : CT G l yX0_item (wsW_ yX0_item cX0_item 6 (some .int) [(24, 35, 38, 593)]) 9 3 222 10283 [.ref b0, .int i1, .int i2, .long j3] (fun _ => False) sz (fun H => rg G b0 357 (shX0 G.2.1) V0 H ∧ pl G PL V1 H ∧ GO G H) (fun ov _ => ov = some (.int rx)) := by
  refine va_MetW (cc := cX0_item) (maxL := 6) (ret := (some .int)) (by decide +kernel) rfl ?_
  intro p e s m args below meth c s₁ B hml hv
  obtain ⟨rfl, ⟨hz, hW0, hW1, hG⟩, hK⟩ := hv
  subst hz
  have ht := vx_table (x := yX0_item) B (atoms_spec (ws := wsW_ yX0_item cX0_item 6 (some .int) [(24, 35, 38, 593)]) B.pre _ List.mem_cons_self)
  have hts := atoms_spec (ws := wsW_ yX0_item cX0_item 6 (some .int) [(24, 35, 38, 593)]) B.pre
  have hts : ∀ w ∈ lw_all, w.before _ s = true := fun w h => hts w (List.mem_cons_of_mem _ h)
  have C : Cx G p s m _ meth c RX0 cX0_item 6 (some .int) := ⟨B.exec, B.bytes, B.returns, B.notSynchronized, hml, findClass_of_methodNamed B.named, hts, hK⟩
  have hl := lv_entry ([.ref b0, .int i1, .int i2, .long j3]) (n := 6) (Nat.le_of_ble_eq_true rfl)
  rw [lg_entry_eq]
  generalize (lg_sl ([.ref b0, .int i1, .int i2, .long j3]) ++ List.replicate (6 - (lg_sl ([.ref b0, .int i1, .int i2, .long j3])).length) Slot.unset).toArray = ls at hl ⊢
  have hl : lv_has ls 6 [(0, .ref b0), (1, .int i1), (2, .int i2), (3, .long j3)] := hl
  exact w_fX0_item_out C hW0 hW1 hG hl0 hZX hgz hZN ht _ _ _ hm ls hl
noncomputable def fX0_shift_cast (PL : Nat → Bool) (b0 : Nat) (V0 : Mem) (V1 : Mem) (i1 : Int32) (i2 : Int32) (i3 : Int32) (i4 : Int32) (i5 : Int32) : Option Int32 :=
  ob (fX0_isTape i1) fun r1 =>
  if r1 = 0 then (
  none)
  else (
  ob (fX0_isTape i3) fun r4 =>
  if r4 = 0 then (
  none)
  else (
  gb (inR i1 6) (
  ln (b0 + (168 + 1 * i1.toNatClampNeg)) fun pa8 =>
  gb (kd PL V1 pa8 6) (
  lo (gR V1 pa8 0) fun oa11 =>
  od oa11 (
  none) (fun pa13 =>
  gb (inR i3 6) (
  ln (b0 + (168 + 1 * i3.toNatClampNeg)) fun pa15 =>
  gb (kd PL V1 pa15 6) (
  lo (gR V1 pa15 0) fun oa18 =>
  od oa18 (
  none) (fun pa20 =>
  gb (inR i1 6) (
  ln (b0 + (168 + 1 * i1.toNatClampNeg)) fun pa22 =>
  gb (kd PL V1 pa22 6) (
  lo (gR V1 pa22 0) fun oa25 =>
  gb (inR i3 6) (
  ln (b0 + (168 + 1 * i3.toNatClampNeg)) fun pa28 =>
  gb (kd PL V1 pa28 6) (
  lo (gR V1 pa28 0) fun oa31 =>
  ob oa25 fun pa33 =>
  ob oa31 fun pa36 =>
  gb (ks PL V1 pa36) (
  gb (ks PL V1 pa33) (
  gb (decide (¬ gI V1 pa36 99 = gI V1 pa33 99)) (
  some (-12 : Int32))))))))))))))))
set_option maxHeartbeats 4000000 in
theorem w_fX0_shift_cast (C : Cx G p s m args meth c RX0 cX0_shift 7 (some .int)) {b0 : Nat} {PL : Nat → Bool} {V0 : Mem} {V1 : Mem} {rx : Int32} (hW0 : rg G b0 357 (shX0 G.2.1) V0 s.heap) (hW1 : pl G PL V1 s.heap) (hG : GO G s.heap) (hl0 : l.stackTraces = false) (hZX : ZX G) (hgz : gB G ≤ s.heap.size) (hZN : ZN G) (ht : c.exceptionTable.toList = tableOf [(43, 69, 72, 601), (43, 69, 77, 603)]) : ∀ (i1 : Int32) (i2 : Int32) (i3 : Int32) (i4 : Int32) (i5 : Int32), fX0_shift_cast PL b0 V0 V1 i1 i2 i3 i4 i5 = some rx → ∀ (ls : Array Slot), lv_has ls 7 [(0, .ref b0), (1, .int i1), (2, .int i2), (3, .int i3), (4, .int i4), (5, .int i5)] → W p l e (rmT 8 3 500 10260) s m args below meth c s.heap [] 0 0 (MQ below (QcT (FA (fun _ => False) s.heap.size) (fun ov _ => ov = some (.int rx))) args s 3 500 (FA (fun _ => False) s.heap.size)) (F0 m 0 ls []) := by
  intro i1 i2 i3 i4 i5 hm ls hl
  obtain ⟨hx, hb, hr, hlk, hml, hown, hts, hK⟩ := id C
  have hS : va_S (FA (fun _ => False) s.heap.size) s.heap s.heap [] := va_S.rf
  unfold fX0_shift_cast at hm
  refine lv_iload_n (pc := 0) hx hb dX0_shift_0 rfl (lv_at hl 1 rfl) ?_
  obtain ⟨r1, hq2, hm⟩ := ob_some hm
  refine rk_PS (pc := 1) (As := [.int i1]) (rest := []) hx hb hml hown hts hK lkX0_569 yn_X0_isTape (ct_X0_isTape (G := G) (l := l) hq2) ⟨Nat.le_of_ble_eq_true rfl, Nat.le_of_ble_eq_true rfl⟩ trivial rfl rfl hl.1 (Nat.le_of_ble_eq_true rfl) dX0_shift_1 ⟨Nat.zero_le _, Nat.zero_le _⟩ ?_
  refine W.eq (g2 := F0 m 4 ls [.int r1]) rfl ?_
  refine lv_if_eq (pc := 4) (tgt := 14) hx hb dX0_shift_4 (by decide) (fun c3 => ?_) (fun c3 => ?_)
  · have hm := ite_t c3 hm
    refine lv_iconst (pc := 14) (v := (-1 : Int32)) hx hb dX0_shift_14 (by decide) ?_
    exact nomatch hm
  · have hm := ite_f c3 hm
    refine lv_iload_n (pc := 7) hx hb dX0_shift_7 rfl (lv_at hl 3 rfl) ?_
    obtain ⟨r4, hq5, hm⟩ := ob_some hm
    refine rk_PS (pc := 8) (As := [.int i3]) (rest := []) hx hb hml hown hts hK lkX0_569 yn_X0_isTape (ct_X0_isTape (G := G) (l := l) hq5) ⟨Nat.le_of_ble_eq_true rfl, Nat.le_of_ble_eq_true rfl⟩ trivial rfl rfl hl.1 (Nat.le_of_ble_eq_true rfl) dX0_shift_8 ⟨Nat.zero_le _, Nat.zero_le _⟩ ?_
    refine W.eq (g2 := F0 m 11 ls [.int r4]) rfl ?_
    refine lv_if_ne (pc := 11) (tgt := 16) hx hb dX0_shift_11 (by decide) (fun c6 => ?_) (fun c6 => ?_)
    · have hm := ite_f c6 hm
      refine lv_aload_n (pc := 16) hx hb dX0_shift_16 rfl (lv_at hl 0 rfl) ?_
      refine rk_get (pc := 17) hx hb hts hown hK hW0 flX0_98 0 (by decide) rfl rfl (x := .ref (b0 + 167)) (by first | rfl | exact congrArg (fun z => some (Value.ref z)) (by omega)) dX0_shift_17 ?_
      refine lv_iload_n (pc := 20) hx hb dX0_shift_20 rfl (lv_at hl 1 rfl) ?_
      obtain ⟨hg7, hm⟩ := gb_some hm
      obtain ⟨pa8, he9, hm⟩ := ln_some hm
      refine rk_aald (pc := 21) hx hb hK hW0 167 11 (by decide) rfl rfl rfl hg7 (x := pa8) (congrArg some (by rw [← he9])) dX0_shift_21 ?_
      obtain ⟨hg10, hm⟩ := gb_some hm
      obtain ⟨oa11, he12, hm⟩ := lo_some hm
      refine rk_getN (pc := 22) hx hb hts hown hK (pl_rg hW1) fnX0_585 pa8 (Nat.lt_succ_self _) (Nat.zero_add _).symm (shP_6 (kd_PL hg10) (kd_k hg10)) (x := va_rf oa11) (congrArg (fun z => some (va_rf z)) he12) dX0_shift_22 ?_
      rcases oa11 with _ | pa13
      · have hm := od_n hm
        refine lv_ifnullN (pc := 25) (tgt := 40) hx hb dX0_shift_25 (by decide) ?_
        refine lv_bipush (pc := 40) (v := (-11 : Int32)) hx hb dX0_shift_40 (by decide) ?_
        exact nomatch hm
      · have hm := od_s hm
        refine lv_ifnull (pc := 25) hx hb dX0_shift_25 ?_
        refine lv_aload_n (pc := 28) hx hb dX0_shift_28 rfl (lv_at hl 0 rfl) ?_
        refine rk_get (pc := 29) hx hb hts hown hK hW0 flX0_98 0 (by decide) rfl rfl (x := .ref (b0 + 167)) (by first | rfl | exact congrArg (fun z => some (Value.ref z)) (by omega)) dX0_shift_29 ?_
        refine lv_iload_n (pc := 32) hx hb dX0_shift_32 rfl (lv_at hl 3 rfl) ?_
        obtain ⟨hg14, hm⟩ := gb_some hm
        obtain ⟨pa15, he16, hm⟩ := ln_some hm
        refine rk_aald (pc := 33) hx hb hK hW0 167 11 (by decide) rfl rfl rfl hg14 (x := pa15) (congrArg some (by rw [← he16])) dX0_shift_33 ?_
        obtain ⟨hg17, hm⟩ := gb_some hm
        obtain ⟨oa18, he19, hm⟩ := lo_some hm
        refine rk_getN (pc := 34) hx hb hts hown hK (pl_rg hW1) fnX0_585 pa15 (Nat.lt_succ_self _) (Nat.zero_add _).symm (shP_6 (kd_PL hg17) (kd_k hg17)) (x := va_rf oa18) (congrArg (fun z => some (va_rf z)) he19) dX0_shift_34 ?_
        rcases oa18 with _ | pa20
        · have hm := od_n hm
          refine lv_ifnonnullN (pc := 37) hx hb dX0_shift_37 ?_
          refine lv_bipush (pc := 40) (v := (-11 : Int32)) hx hb dX0_shift_40 (by decide) ?_
          exact nomatch hm
        · have hm := od_s hm
          refine lv_ifnonnull (pc := 37) (tgt := 43) hx hb dX0_shift_37 (by decide) ?_
          refine lv_aload_n (pc := 43) hx hb dX0_shift_43 rfl (lv_at hl 0 rfl) ?_
          refine rk_get (pc := 44) hx hb hts hown hK hW0 flX0_98 0 (by decide) rfl rfl (x := .ref (b0 + 167)) (by first | rfl | exact congrArg (fun z => some (Value.ref z)) (by omega)) dX0_shift_44 ?_
          refine lv_iload_n (pc := 47) hx hb dX0_shift_47 rfl (lv_at hl 1 rfl) ?_
          obtain ⟨hg21, hm⟩ := gb_some hm
          obtain ⟨pa22, he23, hm⟩ := ln_some hm
          refine rk_aald (pc := 48) hx hb hK hW0 167 11 (by decide) rfl rfl rfl hg21 (x := pa22) (congrArg some (by rw [← he23])) dX0_shift_48 ?_
          obtain ⟨hg24, hm⟩ := gb_some hm
          obtain ⟨oa25, he26, hm⟩ := lo_some hm
          refine rk_getN (pc := 49) hx hb hts hown hK (pl_rg hW1) fnX0_585 pa22 (Nat.lt_succ_self _) (Nat.zero_add _).symm (shP_6 (kd_PL hg24) (kd_k hg24)) (x := va_rf oa25) (congrArg (fun z => some (va_rf z)) he26) dX0_shift_49 ?_
          refine lv_iload_n (pc := 52) hx hb dX0_shift_52 rfl (lv_at hl 2 rfl) ?_
          refine lv_aload_n (pc := 53) hx hb dX0_shift_53 rfl (lv_at hl 0 rfl) ?_
          refine rk_get (pc := 54) hx hb hts hown hK hW0 flX0_98 0 (by decide) rfl rfl (x := .ref (b0 + 167)) (by first | rfl | exact congrArg (fun z => some (Value.ref z)) (by omega)) dX0_shift_54 ?_
          refine lv_iload_n (pc := 57) hx hb dX0_shift_57 rfl (lv_at hl 3 rfl) ?_
          obtain ⟨hg27, hm⟩ := gb_some hm
          obtain ⟨pa28, he29, hm⟩ := ln_some hm
          refine rk_aald (pc := 58) hx hb hK hW0 167 11 (by decide) rfl rfl rfl hg27 (x := pa28) (congrArg some (by rw [← he29])) dX0_shift_58 ?_
          obtain ⟨hg30, hm⟩ := gb_some hm
          obtain ⟨oa31, he32, hm⟩ := lo_some hm
          refine rk_getN (pc := 59) hx hb hts hown hK (pl_rg hW1) fnX0_585 pa28 (Nat.lt_succ_self _) (Nat.zero_add _).symm (shP_6 (kd_PL hg30) (kd_k hg30)) (x := va_rf oa31) (congrArg (fun z => some (va_rf z)) he32) dX0_shift_59 ?_
          refine lv_iload (pc := 62) hx hb dX0_shift_62 (lv_at hl 4 rfl) ?_
          refine lv_iload (pc := 64) hx hb dX0_shift_64 (lv_at hl 5 rfl) ?_
          obtain ⟨pa33, he34, hm35⟩ := ob_some hm
          subst he34
          have hm := hm35
          obtain ⟨pa36, he37, hm38⟩ := ob_some hm
          subst he37
          have hm := hm38
          obtain ⟨hg39, hm⟩ := gb_some hm
          obtain ⟨hg40, hm⟩ := gb_some hm
          obtain ⟨hg41, hm⟩ := gb_some hm
          obtain ⟨tx, ht1, ht2, hwp⟩ := ac_cast (sp := i2) (dp := i4) (k := i5) hK hW1 hg39 hg40 (of_decide_eq_true hg41)
          refine rk_acX (pc := 66) (X := "java/lang/ArrayStoreException") (names := ["java/lang/RuntimeException", "java/lang/Exception"]) (nb := 490) hx hb hl0 hml hown hts hK lacX0_595 hZX hG hgz (fun _ h => h.elim) at_ASE ag_ASE hS hl.1 (by decide) (by decide) (by decide) (by decide) (by decide) ht1 ht2 (by decide) (Nat.le_of_ble_eq_true rfl) (Nat.le_of_ble_eq_true rfl) (Nat.le_of_ble_eq_true rfl) (Nat.le_of_ble_eq_true rfl) hwp dX0_shift_66 (fun H1 q9 ce hz1 ho1 hS1 hce hcv hcl => ?_)
          refine rk_catch hK hown hts ht [] ⟨43, 69, 72, 601⟩ [⟨43, 69, 77, 603⟩] rfl (by decide) (by decide) (by decide) q1723 q1735 hce hcv hcl 72 rfl ?_
          refine lv_astore (pc := 72) (lv' := [(6, .ref q9), (0, .ref b0), (1, .int i1), (2, .int i2), (3, .int i3), (4, .int i4), (5, .int i5)]) hx hb dX0_shift_72 hl (by decide) rfl (fun ls hl => ?_)
          refine lv_bipush (pc := 74) (v := (-12 : Int32)) hx hb dX0_shift_74 (by decide) ?_
          obtain rfl := rs1 hm
          exact rk_iretA (pc := 76) hx hb hr hlk hS1 rfl dX0_shift_76 (by exact Nat.le_of_ble_eq_true rfl) (by exact Nat.le_of_ble_eq_true rfl)
    · have hm := ite_t c6 hm
      refine lv_iconst (pc := 14) (v := (-1 : Int32)) hx hb dX0_shift_14 (by decide) ?_
      exact nomatch hm
set_option maxHeartbeats 4000000 in
theorem ct_X0_shift_cast {G : Gv} {l : Launch} {b0 : Nat} {PL : Nat → Bool} {V0 : Mem} {V1 : Mem} {i1 : Int32} {i2 : Int32} {i3 : Int32} {i4 : Int32} {i5 : Int32} {rx : Int32} {sz : Nat} (hm : fX0_shift_cast PL b0 V0 V1 i1 i2 i3 i4 i5 = some rx) (hl0 : l.stackTraces = false) (hZX : ZX G) (hgz : gB G ≤ sz) (hZN : ZN G) : CT G l yX0_shift (wsW_ yX0_shift cX0_shift 7 (some .int) [(43, 69, 72, 601), (43, 69, 77, 603)]) 8 3 500 10260 [.ref b0, .int i1, .int i2, .int i3, .int i4, .int i5] (fun _ => False) sz (fun H => rg G b0 357 (shX0 G.2.1) V0 H ∧ pl G PL V1 H ∧ GO G H) (fun ov _ => ov = some (.int rx)) := by
  refine va_MetW (cc := cX0_shift) (maxL := 7) (ret := (some .int)) (by decide +kernel) rfl ?_
  intro p e s m args below meth c s₁ B hml hv
  obtain ⟨rfl, ⟨hz, hW0, hW1, hG⟩, hK⟩ := hv
  subst hz
  have ht := vx_table (x := yX0_shift) B (atoms_spec (ws := wsW_ yX0_shift cX0_shift 7 (some .int) [(43, 69, 72, 601), (43, 69, 77, 603)]) B.pre _ List.mem_cons_self)
  have hts := atoms_spec (ws := wsW_ yX0_shift cX0_shift 7 (some .int) [(43, 69, 72, 601), (43, 69, 77, 603)]) B.pre
  have hts : ∀ w ∈ lw_all, w.before _ s = true := fun w h => hts w (List.mem_cons_of_mem _ h)
  have C : Cx G p s m _ meth c RX0 cX0_shift 7 (some .int) := ⟨B.exec, B.bytes, B.returns, B.notSynchronized, hml, findClass_of_methodNamed B.named, hts, hK⟩
  have hl := lv_entry ([.ref b0, .int i1, .int i2, .int i3, .int i4, .int i5]) (n := 7) (Nat.le_of_ble_eq_true rfl)
  rw [lg_entry_eq]
  generalize (lg_sl ([.ref b0, .int i1, .int i2, .int i3, .int i4, .int i5]) ++ List.replicate (7 - (lg_sl ([.ref b0, .int i1, .int i2, .int i3, .int i4, .int i5])).length) Slot.unset).toArray = ls at hl ⊢
  have hl : lv_has ls 7 [(0, .ref b0), (1, .int i1), (2, .int i2), (3, .int i3), (4, .int i4), (5, .int i5)] := hl
  exact w_fX0_shift_cast C hW0 hW1 hG hl0 hZX hgz hZN ht _ _ _ _ _ hm ls hl
noncomputable def fX0_shift_place (PL : Nat → Bool) (b0 : Nat) (V0 : Mem) (V1 : Mem) (i1 : Int32) (i2 : Int32) (i3 : Int32) (i4 : Int32) (i5 : Int32) : Option Int32 :=
  ob (fX0_isTape i1) fun r1 =>
  if r1 = 0 then (
  none)
  else (
  ob (fX0_isTape i3) fun r4 =>
  if r4 = 0 then (
  none)
  else (
  gb (inR i1 6) (
  ln (b0 + (168 + 1 * i1.toNatClampNeg)) fun pa8 =>
  gb (kd PL V1 pa8 6) (
  lo (gR V1 pa8 0) fun oa11 =>
  od oa11 (
  none) (fun pa13 =>
  gb (inR i3 6) (
  ln (b0 + (168 + 1 * i3.toNatClampNeg)) fun pa15 =>
  gb (kd PL V1 pa15 6) (
  lo (gR V1 pa15 0) fun oa18 =>
  od oa18 (
  none) (fun pa20 =>
  gb (inR i1 6) (
  ln (b0 + (168 + 1 * i1.toNatClampNeg)) fun pa22 =>
  gb (kd PL V1 pa22 6) (
  lo (gR V1 pa22 0) fun oa25 =>
  gb (inR i3 6) (
  ln (b0 + (168 + 1 * i3.toNatClampNeg)) fun pa28 =>
  gb (kd PL V1 pa28 6) (
  lo (gR V1 pa28 0) fun oa31 =>
  ob oa25 fun pa33 =>
  ob oa31 fun pa36 =>
  gb (ks PL V1 pa36) (
  gb (ks PL V1 pa33) (
  gb (noC V1 pa36 pa33 i2 i4 i5) (
  some (-13 : Int32))))))))))))))))
set_option maxHeartbeats 4000000 in
theorem w_fX0_shift_place (C : Cx G p s m args meth c RX0 cX0_shift 7 (some .int)) {b0 : Nat} {PL : Nat → Bool} {V0 : Mem} {V1 : Mem} {rx : Int32} (hW0 : rg G b0 357 (shX0 G.2.1) V0 s.heap) (hW1 : pl G PL V1 s.heap) (hG : GO G s.heap) (hl0 : l.stackTraces = false) (hZX : ZX G) (hgz : gB G ≤ s.heap.size) (hZN : ZN G) (hZC : ZC G) (ht : c.exceptionTable.toList = tableOf [(43, 69, 72, 601), (43, 69, 77, 603)]) : ∀ (i1 : Int32) (i2 : Int32) (i3 : Int32) (i4 : Int32) (i5 : Int32), fX0_shift_place PL b0 V0 V1 i1 i2 i3 i4 i5 = some rx → ∀ (ls : Array Slot), lv_has ls 7 [(0, .ref b0), (1, .int i1), (2, .int i2), (3, .int i3), (4, .int i4), (5, .int i5)] → W p l e (rmT 9 3 500 10260) s m args below meth c s.heap [] 0 0 (MQ below (QcT (FA (fun _ => False) s.heap.size) (fun ov _ => ov = some (.int rx))) args s 3 500 (FA (fun _ => False) s.heap.size)) (F0 m 0 ls []) := by
  intro i1 i2 i3 i4 i5 hm ls hl
  obtain ⟨hx, hb, hr, hlk, hml, hown, hts, hK⟩ := id C
  have hS : va_S (FA (fun _ => False) s.heap.size) s.heap s.heap [] := va_S.rf
  unfold fX0_shift_place at hm
  refine lv_iload_n (pc := 0) hx hb dX0_shift_0 rfl (lv_at hl 1 rfl) ?_
  obtain ⟨r1, hq2, hm⟩ := ob_some hm
  refine rk_PS (pc := 1) (As := [.int i1]) (rest := []) hx hb hml hown hts hK lkX0_569 yn_X0_isTape (ct_X0_isTape (G := G) (l := l) hq2) ⟨Nat.le_of_ble_eq_true rfl, Nat.le_of_ble_eq_true rfl⟩ trivial rfl rfl hl.1 (Nat.le_of_ble_eq_true rfl) dX0_shift_1 ⟨Nat.zero_le _, Nat.zero_le _⟩ ?_
  refine W.eq (g2 := F0 m 4 ls [.int r1]) rfl ?_
  refine lv_if_eq (pc := 4) (tgt := 14) hx hb dX0_shift_4 (by decide) (fun c3 => ?_) (fun c3 => ?_)
  · have hm := ite_t c3 hm
    refine lv_iconst (pc := 14) (v := (-1 : Int32)) hx hb dX0_shift_14 (by decide) ?_
    exact nomatch hm
  · have hm := ite_f c3 hm
    refine lv_iload_n (pc := 7) hx hb dX0_shift_7 rfl (lv_at hl 3 rfl) ?_
    obtain ⟨r4, hq5, hm⟩ := ob_some hm
    refine rk_PS (pc := 8) (As := [.int i3]) (rest := []) hx hb hml hown hts hK lkX0_569 yn_X0_isTape (ct_X0_isTape (G := G) (l := l) hq5) ⟨Nat.le_of_ble_eq_true rfl, Nat.le_of_ble_eq_true rfl⟩ trivial rfl rfl hl.1 (Nat.le_of_ble_eq_true rfl) dX0_shift_8 ⟨Nat.zero_le _, Nat.zero_le _⟩ ?_
    refine W.eq (g2 := F0 m 11 ls [.int r4]) rfl ?_
    refine lv_if_ne (pc := 11) (tgt := 16) hx hb dX0_shift_11 (by decide) (fun c6 => ?_) (fun c6 => ?_)
    · have hm := ite_f c6 hm
      refine lv_aload_n (pc := 16) hx hb dX0_shift_16 rfl (lv_at hl 0 rfl) ?_
      refine rk_get (pc := 17) hx hb hts hown hK hW0 flX0_98 0 (by decide) rfl rfl (x := .ref (b0 + 167)) (by first | rfl | exact congrArg (fun z => some (Value.ref z)) (by omega)) dX0_shift_17 ?_
      refine lv_iload_n (pc := 20) hx hb dX0_shift_20 rfl (lv_at hl 1 rfl) ?_
      obtain ⟨hg7, hm⟩ := gb_some hm
      obtain ⟨pa8, he9, hm⟩ := ln_some hm
      refine rk_aald (pc := 21) hx hb hK hW0 167 11 (by decide) rfl rfl rfl hg7 (x := pa8) (congrArg some (by rw [← he9])) dX0_shift_21 ?_
      obtain ⟨hg10, hm⟩ := gb_some hm
      obtain ⟨oa11, he12, hm⟩ := lo_some hm
      refine rk_getN (pc := 22) hx hb hts hown hK (pl_rg hW1) fnX0_585 pa8 (Nat.lt_succ_self _) (Nat.zero_add _).symm (shP_6 (kd_PL hg10) (kd_k hg10)) (x := va_rf oa11) (congrArg (fun z => some (va_rf z)) he12) dX0_shift_22 ?_
      rcases oa11 with _ | pa13
      · have hm := od_n hm
        refine lv_ifnullN (pc := 25) (tgt := 40) hx hb dX0_shift_25 (by decide) ?_
        refine lv_bipush (pc := 40) (v := (-11 : Int32)) hx hb dX0_shift_40 (by decide) ?_
        exact nomatch hm
      · have hm := od_s hm
        refine lv_ifnull (pc := 25) hx hb dX0_shift_25 ?_
        refine lv_aload_n (pc := 28) hx hb dX0_shift_28 rfl (lv_at hl 0 rfl) ?_
        refine rk_get (pc := 29) hx hb hts hown hK hW0 flX0_98 0 (by decide) rfl rfl (x := .ref (b0 + 167)) (by first | rfl | exact congrArg (fun z => some (Value.ref z)) (by omega)) dX0_shift_29 ?_
        refine lv_iload_n (pc := 32) hx hb dX0_shift_32 rfl (lv_at hl 3 rfl) ?_
        obtain ⟨hg14, hm⟩ := gb_some hm
        obtain ⟨pa15, he16, hm⟩ := ln_some hm
        refine rk_aald (pc := 33) hx hb hK hW0 167 11 (by decide) rfl rfl rfl hg14 (x := pa15) (congrArg some (by rw [← he16])) dX0_shift_33 ?_
        obtain ⟨hg17, hm⟩ := gb_some hm
        obtain ⟨oa18, he19, hm⟩ := lo_some hm
        refine rk_getN (pc := 34) hx hb hts hown hK (pl_rg hW1) fnX0_585 pa15 (Nat.lt_succ_self _) (Nat.zero_add _).symm (shP_6 (kd_PL hg17) (kd_k hg17)) (x := va_rf oa18) (congrArg (fun z => some (va_rf z)) he19) dX0_shift_34 ?_
        rcases oa18 with _ | pa20
        · have hm := od_n hm
          refine lv_ifnonnullN (pc := 37) hx hb dX0_shift_37 ?_
          refine lv_bipush (pc := 40) (v := (-11 : Int32)) hx hb dX0_shift_40 (by decide) ?_
          exact nomatch hm
        · have hm := od_s hm
          refine lv_ifnonnull (pc := 37) (tgt := 43) hx hb dX0_shift_37 (by decide) ?_
          refine lv_aload_n (pc := 43) hx hb dX0_shift_43 rfl (lv_at hl 0 rfl) ?_
          refine rk_get (pc := 44) hx hb hts hown hK hW0 flX0_98 0 (by decide) rfl rfl (x := .ref (b0 + 167)) (by first | rfl | exact congrArg (fun z => some (Value.ref z)) (by omega)) dX0_shift_44 ?_
          refine lv_iload_n (pc := 47) hx hb dX0_shift_47 rfl (lv_at hl 1 rfl) ?_
          obtain ⟨hg21, hm⟩ := gb_some hm
          obtain ⟨pa22, he23, hm⟩ := ln_some hm
          refine rk_aald (pc := 48) hx hb hK hW0 167 11 (by decide) rfl rfl rfl hg21 (x := pa22) (congrArg some (by rw [← he23])) dX0_shift_48 ?_
          obtain ⟨hg24, hm⟩ := gb_some hm
          obtain ⟨oa25, he26, hm⟩ := lo_some hm
          refine rk_getN (pc := 49) hx hb hts hown hK (pl_rg hW1) fnX0_585 pa22 (Nat.lt_succ_self _) (Nat.zero_add _).symm (shP_6 (kd_PL hg24) (kd_k hg24)) (x := va_rf oa25) (congrArg (fun z => some (va_rf z)) he26) dX0_shift_49 ?_
          refine lv_iload_n (pc := 52) hx hb dX0_shift_52 rfl (lv_at hl 2 rfl) ?_
          refine lv_aload_n (pc := 53) hx hb dX0_shift_53 rfl (lv_at hl 0 rfl) ?_
          refine rk_get (pc := 54) hx hb hts hown hK hW0 flX0_98 0 (by decide) rfl rfl (x := .ref (b0 + 167)) (by first | rfl | exact congrArg (fun z => some (Value.ref z)) (by omega)) dX0_shift_54 ?_
          refine lv_iload_n (pc := 57) hx hb dX0_shift_57 rfl (lv_at hl 3 rfl) ?_
          obtain ⟨hg27, hm⟩ := gb_some hm
          obtain ⟨pa28, he29, hm⟩ := ln_some hm
          refine rk_aald (pc := 58) hx hb hK hW0 167 11 (by decide) rfl rfl rfl hg27 (x := pa28) (congrArg some (by rw [← he29])) dX0_shift_58 ?_
          obtain ⟨hg30, hm⟩ := gb_some hm
          obtain ⟨oa31, he32, hm⟩ := lo_some hm
          refine rk_getN (pc := 59) hx hb hts hown hK (pl_rg hW1) fnX0_585 pa28 (Nat.lt_succ_self _) (Nat.zero_add _).symm (shP_6 (kd_PL hg30) (kd_k hg30)) (x := va_rf oa31) (congrArg (fun z => some (va_rf z)) he32) dX0_shift_59 ?_
          refine lv_iload (pc := 62) hx hb dX0_shift_62 (lv_at hl 4 rfl) ?_
          refine lv_iload (pc := 64) hx hb dX0_shift_64 (lv_at hl 5 rfl) ?_
          obtain ⟨pa33, he34, hm35⟩ := ob_some hm
          subst he34
          have hm := hm35
          obtain ⟨pa36, he37, hm38⟩ := ob_some hm
          subst he37
          have hm := hm38
          obtain ⟨hg39, hm⟩ := gb_some hm
          obtain ⟨hg40, hm⟩ := gb_some hm
          obtain ⟨hg41, hm⟩ := gb_some hm
          obtain ⟨tx, ht1, ht2, hwp⟩ := ac_place (sp := i2) (dp := i4) (k := i5) hK hW1 hg39 hg40 hg41
          refine rk_acX (pc := 66) (X := "java/lang/ArrayIndexOutOfBoundsException") (names := ["java/lang/IndexOutOfBoundsException", "java/lang/RuntimeException", "java/lang/Exception"]) (nb := 490) hx hb hl0 hml hown hts hK lacX0_595 hZX hG hgz (fun _ h => h.elim) at_AIOOBE ag_AIOOBE hS hl.1 (by decide) (by decide) (by decide) (by decide) (by decide) ht1 ht2 (by decide) (Nat.le_of_ble_eq_true rfl) (Nat.le_of_ble_eq_true rfl) (Nat.le_of_ble_eq_true rfl) (Nat.le_of_ble_eq_true rfl) hwp dX0_shift_66 (fun H1 q9 ce hz1 ho1 hS1 hce hcv hcl => ?_)
          refine rk_catchN hK hown hts ht [⟨43, 69, 72, 601⟩] ⟨43, 69, 77, 603⟩ [] rfl (fun z hz => by rw [List.mem_singleton.mp hz]; exact ⟨by decide, _, q1723, hZC s hK⟩) (by decide) (by decide) q1737 q2396 hce hcv hcl 77 rfl ?_
          refine lv_astore (pc := 77) (lv' := [(6, .ref q9), (0, .ref b0), (1, .int i1), (2, .int i2), (3, .int i3), (4, .int i4), (5, .int i5)]) hx hb dX0_shift_77 hl (by decide) rfl (fun ls hl => ?_)
          refine lv_bipush (pc := 79) (v := (-13 : Int32)) hx hb dX0_shift_79 (by decide) ?_
          obtain rfl := rs1 hm
          exact rk_iretA (pc := 81) hx hb hr hlk hS1 rfl dX0_shift_81 (by exact Nat.le_of_ble_eq_true rfl) (by exact Nat.le_of_ble_eq_true rfl)
    · have hm := ite_t c6 hm
      refine lv_iconst (pc := 14) (v := (-1 : Int32)) hx hb dX0_shift_14 (by decide) ?_
      exact nomatch hm
set_option maxHeartbeats 4000000 in
theorem ct_X0_shift_place {G : Gv} {l : Launch} {b0 : Nat} {PL : Nat → Bool} {V0 : Mem} {V1 : Mem} {i1 : Int32} {i2 : Int32} {i3 : Int32} {i4 : Int32} {i5 : Int32} {rx : Int32} {sz : Nat} (hm : fX0_shift_place PL b0 V0 V1 i1 i2 i3 i4 i5 = some rx) (hl0 : l.stackTraces = false) (hZX : ZX G) (hgz : gB G ≤ sz) (hZN : ZN G) (hZC : ZC G) : CT G l yX0_shift (wsW_ yX0_shift cX0_shift 7 (some .int) [(43, 69, 72, 601), (43, 69, 77, 603)]) 9 3 500 10260 [.ref b0, .int i1, .int i2, .int i3, .int i4, .int i5] (fun _ => False) sz (fun H => rg G b0 357 (shX0 G.2.1) V0 H ∧ pl G PL V1 H ∧ GO G H) (fun ov _ => ov = some (.int rx)) := by
  refine va_MetW (cc := cX0_shift) (maxL := 7) (ret := (some .int)) (by decide +kernel) rfl ?_
  intro p e s m args below meth c s₁ B hml hv
  obtain ⟨rfl, ⟨hz, hW0, hW1, hG⟩, hK⟩ := hv
  subst hz
  have ht := vx_table (x := yX0_shift) B (atoms_spec (ws := wsW_ yX0_shift cX0_shift 7 (some .int) [(43, 69, 72, 601), (43, 69, 77, 603)]) B.pre _ List.mem_cons_self)
  have hts := atoms_spec (ws := wsW_ yX0_shift cX0_shift 7 (some .int) [(43, 69, 72, 601), (43, 69, 77, 603)]) B.pre
  have hts : ∀ w ∈ lw_all, w.before _ s = true := fun w h => hts w (List.mem_cons_of_mem _ h)
  have C : Cx G p s m _ meth c RX0 cX0_shift 7 (some .int) := ⟨B.exec, B.bytes, B.returns, B.notSynchronized, hml, findClass_of_methodNamed B.named, hts, hK⟩
  have hl := lv_entry ([.ref b0, .int i1, .int i2, .int i3, .int i4, .int i5]) (n := 7) (Nat.le_of_ble_eq_true rfl)
  rw [lg_entry_eq]
  generalize (lg_sl ([.ref b0, .int i1, .int i2, .int i3, .int i4, .int i5]) ++ List.replicate (7 - (lg_sl ([.ref b0, .int i1, .int i2, .int i3, .int i4, .int i5])).length) Slot.unset).toArray = ls at hl ⊢
  have hl : lv_has ls 7 [(0, .ref b0), (1, .int i1), (2, .int i2), (3, .int i3), (4, .int i4), (5, .int i5)] := hl
  exact w_fX0_shift_place C hW0 hW1 hG hl0 hZX hgz hZN hZC ht _ _ _ _ _ hm ls hl
end
