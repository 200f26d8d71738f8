/-! THE MACHINE'S OWN EXCEPTIONS: their words are among the claim's; a row that throws one -/
set_option maxRecDepth 100000
theorem fa_c {α : Type} {P : α → Prop} {a : α} {l : List α} (h : P a) (t : ∀ w ∈ l, P w) : ∀ w ∈ a :: l, P w := fun w hw => (List.mem_cons.mp hw).elim (fun e => by rw [e]; exact h) (t w)
theorem fa_n {α : Type} {P : α → Prop} : ∀ w ∈ ([] : List α), P w := fun _ h => nomatch h
def atOk (w : Cond) : Prop := vx_no w = true → w ∈ lw_all ∨ (w ∈ lw_tbl ∧ nwOk w = true)
theorem atA {w : Cond} (h : w ∈ lw_all) : atOk w := fun _ => Or.inl h
theorem atT {w : Cond} (h : w ∈ lw_tbl) (k : nwOk w = true) : atOk w := fun _ => Or.inr ⟨h, k⟩
theorem atN {w : Cond} (h : vx_no w = false) : atOk w := fun k => by rw [h] at k; cases k
set_option maxHeartbeats 4000000 in
theorem at_NASE : ∀ w ∈ Bundle.messageArmAtoms "java/lang/NegativeArraySizeException" ["java/lang/RuntimeException", "java/lang/Exception"], atOk w :=
  fa_c (atA q131) (fa_c (atA q703) (fa_c (atA q712) (fa_c (atA q718) (fa_c (atA q721) (fa_c (atA q723) (fa_c (atA q704) (fa_c (atA q705) (fa_c (atA q159) (fa_c (atA q160) (fa_c (atA q706) (fa_c (atA q711) (fa_c (atA q719) (fa_c (atA q737) (fa_c (atA q693) (fa_c (atA q738) (fa_c (atA q695) (fa_c (atA q739) (fa_c (atA q697) (fa_c (atA q707) (fa_c (atN (by decide)) (fa_c (atA q709) (fa_c (atN (by decide)) (fa_c (atA q699) (fa_c (atA q1663) (fa_c (atA q1664) (fa_c (atA q736) (fa_c (atA q699) (fa_c (atA q1654) (fa_c (atA q1655) (fa_c (atA q1656) (fa_c (atA q1657) (fa_c (atT q1674 rfl) (fa_c (atA q1657) (fa_c (atA q1658) (fa_c (atA q1659) (fa_c (atA q1660) (fa_c (atT q687 rfl) (fa_c (atA q1660) (fa_c (atA q1661) (fa_c (atA q1662) (fa_c (atA q1663) (fa_c (atT q689 rfl) (fa_c (atA q149) (fa_c (atA q1676) (fa_c (atA q373) (fa_c (atA q1677) (fa_c (atA q1679) (fa_c (atA q1678) (fa_c (atA q1680) (fa_c (atA q148) (fa_c (atA q1653) (fa_c (atT q1672 rfl) (fa_c (atA q1675) (fa_c (atA q717) (fa_c (atA q1667) (fa_c (atA q1668) (fa_c (atA q1670) (fa_c (atA q1666) (fa_c (atN (by decide)) (fa_c (atN (by decide)) (fa_c (atA q735) (fa_c (atA q701) (fa_c (atA q1665) (fa_n))))))))))))))))))))))))))))))))))))))))))))))))))))))))))))))))
set_option maxHeartbeats 4000000 in
theorem ag_NASE : ∀ w ∈ vx_atM "java/lang/NegativeArraySizeException" ["java/lang/RuntimeException", "java/lang/Exception"], vx_ot w = true := by decide +kernel
set_option maxHeartbeats 4000000 in
theorem at_AIOOBE : ∀ w ∈ Bundle.messageArmAtoms "java/lang/ArrayIndexOutOfBoundsException" ["java/lang/IndexOutOfBoundsException", "java/lang/RuntimeException", "java/lang/Exception"], atOk w :=
  fa_c (atA q131) (fa_c (atA q703) (fa_c (atA q712) (fa_c (atA q718) (fa_c (atA q721) (fa_c (atA q723) (fa_c (atA q704) (fa_c (atA q705) (fa_c (atA q159) (fa_c (atA q160) (fa_c (atA q706) (fa_c (atA q711) (fa_c (atA q719) (fa_c (atA q737) (fa_c (atA q693) (fa_c (atA q738) (fa_c (atA q695) (fa_c (atA q739) (fa_c (atA q697) (fa_c (atA q707) (fa_c (atN (by decide)) (fa_c (atA q709) (fa_c (atN (by decide)) (fa_c (atA q699) (fa_c (atA q1663) (fa_c (atA q1664) (fa_c (atA q736) (fa_c (atA q699) (fa_c (atA q1694) (fa_c (atA q1695) (fa_c (atA q1696) (fa_c (atA q1697) (fa_c (atT q1709 rfl) (fa_c (atA q1697) (fa_c (atA q1698) (fa_c (atA q1699) (fa_c (atA q1657) (fa_c (atT q1674 rfl) (fa_c (atA q1657) (fa_c (atA q1658) (fa_c (atA q1659) (fa_c (atA q1660) (fa_c (atT q687 rfl) (fa_c (atA q1660) (fa_c (atA q1661) (fa_c (atA q1662) (fa_c (atA q1663) (fa_c (atT q689 rfl) (fa_c (atA q149) (fa_c (atA q1676) (fa_c (atA q373) (fa_c (atA q1677) (fa_c (atA q1679) (fa_c (atA q1678) (fa_c (atA q1680) (fa_c (atA q151) (fa_c (atA q1693) (fa_c (atT q1707 rfl) (fa_c (atA q1710) (fa_c (atA q715) (fa_c (atA q1702) (fa_c (atA q1703) (fa_c (atA q1705) (fa_c (atA q1701) (fa_c (atN (by decide)) (fa_c (atN (by decide)) (fa_c (atA q735) (fa_c (atA q701) (fa_c (atA q1700) (fa_n)))))))))))))))))))))))))))))))))))))))))))))))))))))))))))))))))))))
set_option maxHeartbeats 4000000 in
theorem ag_AIOOBE : ∀ w ∈ vx_atM "java/lang/ArrayIndexOutOfBoundsException" ["java/lang/IndexOutOfBoundsException", "java/lang/RuntimeException", "java/lang/Exception"], vx_ot w = true := by decide +kernel
set_option maxHeartbeats 4000000 in
theorem at_ASE : ∀ w ∈ Bundle.messageArmAtoms "java/lang/ArrayStoreException" ["java/lang/RuntimeException", "java/lang/Exception"], atOk w :=
  fa_c (atA q131) (fa_c (atA q703) (fa_c (atA q712) (fa_c (atA q718) (fa_c (atA q721) (fa_c (atA q723) (fa_c (atA q704) (fa_c (atA q705) (fa_c (atA q159) (fa_c (atA q160) (fa_c (atA q706) (fa_c (atA q711) (fa_c (atA q719) (fa_c (atA q737) (fa_c (atA q693) (fa_c (atA q738) (fa_c (atA q695) (fa_c (atA q739) (fa_c (atA q697) (fa_c (atA q707) (fa_c (atN (by decide)) (fa_c (atA q709) (fa_c (atN (by decide)) (fa_c (atA q699) (fa_c (atA q1663) (fa_c (atA q1664) (fa_c (atA q736) (fa_c (atA q699) (fa_c (atA q1725) (fa_c (atA q1726) (fa_c (atA q1727) (fa_c (atA q1657) (fa_c (atT q1674 rfl) (fa_c (atA q1657) (fa_c (atA q1658) (fa_c (atA q1659) (fa_c (atA q1660) (fa_c (atT q687 rfl) (fa_c (atA q1660) (fa_c (atA q1661) (fa_c (atA q1662) (fa_c (atA q1663) (fa_c (atT q689 rfl) (fa_c (atA q149) (fa_c (atA q1676) (fa_c (atA q373) (fa_c (atA q1677) (fa_c (atA q1679) (fa_c (atA q1678) (fa_c (atA q1680) (fa_c (atA q152) (fa_c (atA q1724) (fa_c (atT q1735 rfl) (fa_c (atA q1736) (fa_c (atA q716) (fa_c (atA q1730) (fa_c (atA q1731) (fa_c (atA q1733) (fa_c (atA q1729) (fa_c (atN (by decide)) (fa_c (atN (by decide)) (fa_c (atA q735) (fa_c (atA q701) (fa_c (atA q1728) (fa_n))))))))))))))))))))))))))))))))))))))))))))))))))))))))))))))))
set_option maxHeartbeats 4000000 in
theorem ag_ASE : ∀ w ∈ vx_atM "java/lang/ArrayStoreException" ["java/lang/RuntimeException", "java/lang/Exception"], vx_ot w = true := by decide +kernel
/-- what G must know of Throwable's two statics -/
def ZX (G : Gv) : Prop := ∀ U : State, KK G U → vx_Zq Bundle.tN "UNASSIGNED_STACK" Bundle.steD (fun q => gB G ≤ q) U G.2.2.2 ∧ vx_Zq Bundle.tN "SUPPRESSED_SENTINEL" Bundle.listD (fun q => gB G ≤ q) U G.2.2.2
theorem at_use {args : Array Value} {s : State} {G : Gv} {X : String} {names : List String} (hts : ∀ w ∈ lw_all, w.before args s = true) (hK : KK G s) (h : ∀ w ∈ Bundle.messageArmAtoms X names, atOk w) : ∀ w ∈ vx_atM X names, w.before args s = true := fun w hw => by
  obtain ⟨h1, h2⟩ := List.mem_filter.mp hw
  rcases h w h1 h2 with k | ⟨k, k2⟩
  · exact hts w k
  · have h3 := hK.nw k k2
    cases w <;> first | (cases k2; done) | exact va_Nw.use rfl h3
section MXN
variable {p : Program} {l : Launch} {e : Env} {R : Room} {s : State} {m : MethodId} {args : Array Value} {below : List Frame} {meth : Method} {c : Code} {H : Heap} {locs : List Loc} {cells slots : Nat} {Q : State → Prop}
variable {cc : ByteArray} {pc : Nat} {ls : Array Slot} {rest : List Value} {G : Gv} {FP : Nat → Prop}
theorem zx_at {C n d : String} (h : vx_Zq C n d (fun q => gB G ≤ q) s G.2.2.2) (hG : GO G s.heap) (hgz : gB G ≤ s.heap.size) (hFP : ∀ q, FP q → gB G ≤ q) : vx_Zq C n d (FA FP s.heap.size) s s.heap :=
  (h.kept (H1 := s.heap) (fun a ha _ => hG a ha)).narrow (fun q hq => hq.elim (hFP q) (fun k => Nat.le_trans hgz k))
theorem rk_mx {X text : String} {names : List String} {nb : Nat} (hx : p.tables.exec = Jvm.exec) (hl0 : l.stackTraces = false) (hts : ∀ w ∈ lw_all, w.before args s = true) (hK : KK G s) (hZX : ZX G) (hG : GO G s.heap) (hgz : gB G ≤ s.heap.size) (hFP : ∀ q, FP q → gB G ≤ q) (hat : ∀ w ∈ Bundle.messageArmAtoms X names, atOk w) (hgood : ∀ w ∈ vx_atM X names, vx_ot w = true) (hS : va_S (FA FP s.heap.size) s.heap H locs) (hls : ls.size = c.maxLocals)
    (hcls : Bundle.fit X = true) (hnames : ∀ n ∈ names, Bundle.fit n = true) (hsoe : (X == "java/lang/StackOverflowError") = false) (hoom : (X == "java/lang/OutOfMemoryError") = false) (hshort : 13 * names.length + 55 ≤ 10240)
    (htext : (text == notModelled) = false) (hnb : (stringBytes (stringToUtf16 text)).size ≤ nb) (hnb1 : nb ≤ 1000) (hR1 : names.length + 4 < R.frames) (hR2 : (rest.map fun v => v.category).sum + 10240 ≤ R.locals) (hR3 : cells + 3 ≤ R.cells) (hR4 : slots + (nb + 10) ≤ R.slots) (hlk : meth.locks = false)
    (k : ∀ (H1 : Heap) (q9 : Addr) (ce : Cell), H.size ≤ H1.size → (∀ q : Nat, q < H.size → H1[q]? = H[q]?) → va_S (FA FP s.heap.size) s.heap H1 locs → H1[q9]? = some ce → ce.vm = .none → s.vm.findClass X = some ce.cls → vx_W p l e R s m args below meth c H1 locs (cells + 3) (slots + (nb + 10)) Q (F0 m pc ls rest) q9) :
    vx_Note p l e R s m args below meth c H locs cells slots Q (F0 m pc ls rest) X text :=
  vx_vm hx hl0 hcls hnames hsoe hoom (at_use hts hK hat) hgood (zx_at (hZX s hK).1 hG hgz hFP) (zx_at (hZX s hK).2 hG hgz hFP) hS hls htext hnb hnb1 hR1 hR2 hshort hR3 hR4 hlk k
end MXN
section
set_option maxHeartbeats 1000000 in
theorem vx_vmAtN {p : Program} {l : Launch} {e : Env} {R : Room} {s : State} {m₀ : MethodId} {args : Array Value} {below : List Frame} {meth : Method} {c : Code} {W : State} {locs : List Loc} {cells slots : Nat}
    (X : Stand p l e R s m₀ args below meth c W locs cells slots) (hexec : p.tables.exec = Jvm.exec) (htr : e.platform.stackTraces = false) {cls : String} {names : List String} {text : String}
    (hcls : Bundle.fit cls = true) (hnames : ∀ n ∈ names, Bundle.fit n = true) (hsoe : (cls == "java/lang/StackOverflowError") = false) (hoom : (cls == "java/lang/OutOfMemoryError") = false)
    (h : ∀ a ∈ Bundle.messageArmAtoms cls names, a.before args s = true)
    (hlocs : ∀ x ∈ locs, ∀ cell, s.heap[x.base]? = some cell → cell.vm.isStatics = false)
    (htext : (text == notModelled) = false) (hlimit : ¬ (stringBytes (stringToUtf16 text)).size > e.platform.arrayLengthLimit) (hheap : ¬ (stringBytes (stringToUtf16 text)).size * componentBytes .byte > e.platform.maxHeapBytes)
    {g : JFrame} (hsize : g.locals.size = c.maxLocals) {nf : NFrame} (hnf : nf.words = 0)
    (hRframes : names.length + 5 < R.frames) (hRlocals : 2 * g.monitorRoom + (g.stack.map fun v => v.category).sum + 10240 ≤ R.locals) (hshort : 13 * names.length + 55 ≤ 10240)
    (hRcells : cells + 3 ≤ R.cells) (hRslots : slots + ((stringBytes (stringToUtf16 text)).size + 4 + 6) ≤ R.slots) :
    ∃ (S : State) (q : Addr) (ce : Cell), Steps p.tables e below (W.setFrames (.throwNew cls (some text) none :: .native nf :: .java g :: below)) (S.setFrames (.throwing q :: .native nf :: .java g :: below)) ∧
      Stand p l e R s m₀ args below meth c S locs (cells + 3) (slots + ((stringBytes (stringToUtf16 text)).size + 4 + 6)) ∧ S.heap[q]? = some ce ∧ s.vm.findClass cls = some ce.cls ∧ ce.vm = .none ∧ (∀ a0, a0 < W.heap.size → S.heap[a0]? = W.heap[a0]?) ∧ W.heap.size ≤ S.heap.size := by
  have howns : e.platform.frameOwnsMonitors = true := by rw [X.admits.platform]
  have hfin : e.platform.finalization = false := by rw [X.admits.platform]
  have hpl : e.platform.magicAccessors = ({} : Platform).magicAccessors := by rw [X.admits.platform]
  have a : ∀ x, x ∈ Bundle.messageArmAtoms cls names → x.holds args s none s [] = true := fun x hx => h x hx
  obtain ⟨T, Z0, L, -, Y⟩ := ThrowableC.of_atoms (args := args) howns hfin hpl (fun x hx => h x (by simp [Bundle.messageArmAtoms, hx]))
  obtain ⟨Z, M, LZ, LM, hnZ⟩ := Init0T.ofS_atoms (args := args) hpl L Y (fun x hx => h x (by simp [Bundle.messageArmAtoms, hx]))
  obtain ⟨P1, Ps, hlen, L1, hL, hP1m, hlink1, hlink⟩ := Bundle.chainS (args := args) hpl hnZ names cls hcls hnames (fun x hx => h x (by simp [Bundle.messageArmAtoms, hx]))
  obtain ⟨Zs, LZs, hn4, hfitv, hfitc⟩ := StringT.of_atoms (args := args) (fun x hx => h x (by simp [Bundle.messageArmAtoms, hx]))
  have hfound : s.vm.findClass cls = some P1.m.cls := findClass_of_methodNamed hP1m
  obtain ⟨c1, kX, hc1, hk, hord, -, -, hn6⟩ := Cond.instantiable_spec (a (.instantiable cls 6) (by simp [Bundle.messageArmAtoms]))
  cases Option.some.inj (hc1.symm.trans hfound)
  have hinit := Cond.initialized_spec hfound hk (a (.initialized cls) (by simp [Bundle.messageArmAtoms]))
  have hctor : kX.findMethod "<init>" "(Ljava/lang/String;)V" = some P1.m.idx := findMethod_of_methodNamed hP1m hk
  have hsel0 : selectMethod e.platform s.vm P1.m.cls T.fill0 = .method T.fill0 := by
    obtain ⟨c2, r2, m2, q1, q2, q3, q4, -⟩ := Cond.selects_spec (a (.selects cls Bundle.tFill0 Bundle.tFill0) (by simp [Bundle.messageArmAtoms]))
    cases Option.some.inj (q1.symm.trans hfound)
    cases Option.some.inj (q2.symm.trans (State.methodFound?_of_named Y.fill0 (by decide)))
    cases Option.some.inj (q3.symm.trans Y.fill0)
    rw [Launch.admits_selectMethod X.admits]; exact q4
  have hselF : selectMethod e.platform s.vm P1.m.cls T.fill = .method T.fill := by
    obtain ⟨c2, r2, m2, q1, q2, q3, q4, -⟩ := Cond.selects_spec (a (.selects cls Bundle.tFill Bundle.tFill) (by simp [Bundle.messageArmAtoms]))
    cases Option.some.inj (q1.symm.trans hfound)
    cases Option.some.inj (q2.symm.trans (State.methodFound?_of_named Y.fill (by decide)))
    cases Option.some.inj (q3.symm.trans Y.fill)
    rw [Launch.admits_selectMethod X.admits]; exact q4
  obtain ⟨cellS0, hcS0, hiss⟩ := Y.statics
  obtain ⟨u0, hu0⟩ := Cond.staticRefV Y.unassigned L.unassignedStatic L.statics hcS0 hiss (a (.isRef (.static Bundle.tN "UNASSIGNED_STACK" Bundle.steD)) (by simp [Bundle.messageArmAtoms]))
  obtain ⟨sen, hsen⟩ := Cond.staticRefV Y.sentinel L.sentinelStatic L.statics hcS0 hiss (a (.isRef (.static Bundle.tN "SUPPRESSED_SENTINEL" Bundle.listD)) (by simp [Bundle.messageArmAtoms]))
  obtain ⟨ci198, i198, fB, hk198, hg198, ha198, hsB, -, hnB, htB, hffB⟩ := Cond.ownField (t := .object "java/lang/Object") Y.found L.cls (by decide +kernel) (a (.fieldLink Bundle.tN 198 Bundle.tN "backtrace" "Ljava/lang/Object;") (by simp [Bundle.messageArmAtoms])) (a (.lays Bundle.tN Bundle.tN "backtrace" "Ljava/lang/Object;") (by simp [Bundle.messageArmAtoms])) e.platform hpl
  obtain ⟨cellS, hcS', heS, -, hkeep⟩ := X.same.2.2.2.2.2 T.aS cellS0 hcS0
  have hcellS : W.heap[T.aS]? = some cellS := hcS'
  have hout' : ∀ i, (⟨T.aS, i⟩ : Loc) ∉ locs := fun i hmem => by
    have := hlocs _ hmem cellS0 hcS0
    rw [hiss] at this; cases this
  have hknownS : cellS.vm ≠ .unknown := by
    rw [heS]; intro hu
    rw [show cellS0.vm = .unknown from hu] at hiss
    cases hiss
  have hvU : cellS.slots[T.fUnassigned.slot]? = some u0.v := by rw [hkeep _ (hout' _)]; exact hu0
  have hvSen : cellS.slots[T.fSentinel.slot]? = some sen.v := by rw [hkeep _ (hout' _)]; exact hsen
  obtain ⟨iM, hffM⟩ := Y.msg
  obtain ⟨tyC, dC, hdC, hdnC⟩ := Cond.laysAt hfound hk Y.cause (a (.lays cls Bundle.tN "cause" "Ljava/lang/Throwable;") (by simp [Bundle.messageArmAtoms]))
  obtain ⟨tyS, dS, hdS, hdnS⟩ := Cond.laysAt hfound hk Y.stack (a (.lays cls Bundle.tN "stackTrace" Bundle.steD) (by simp [Bundle.messageArmAtoms]))
  obtain ⟨tyP, dP, hdP, hdnP⟩ := Cond.laysAt hfound hk Y.supp (a (.lays cls Bundle.tN "suppressedExceptions" Bundle.listD) (by simp [Bundle.messageArmAtoms]))
  obtain ⟨tyM, dM, hdM, hdnM⟩ := Cond.laysAt hfound hk hffM (a (.lays cls Bundle.tN "detailMessage" "Ljava/lang/String;") (by simp [Bundle.messageArmAtoms]))
  obtain ⟨tyB, dB, hdB, hdnB⟩ := Cond.laysAt hfound hk hffB (a (.lays cls Bundle.tN "backtrace" "Ljava/lang/Object;") (by simp [Bundle.messageArmAtoms]))
  have bC := Cond.laysApart hdB hdC hdnB hdnC (by rw [hnB, Y.causeName]; decide)
  have bS := Cond.laysApart hdB hdS hdnB hdnS (by rw [hnB, Y.stackName]; decide)
  have bP := Cond.laysApart hdB hdP hdnB hdnP (by rw [hnB, Y.suppName]; decide)
  have hbk : ((preparedCellV T.toThrowableT (freshCell P1.m.cls kX) (W.heap.size + 2) u0 sen).withEntry W.cur).slots[fB.slot]? = some .null := by
    have := fresh_default (c := P1.m.cls) tyB
    rw [htB] at this
    simpa [preparedCellV, Cell.setSlot, Cell.withEntry, Array.getElem?_setIfInBounds, bC, bS, bP, bC.symm, bS.symm, bP.symm, defaultValue] using this
  have tkC := Takes.of_laid (v := .ref (W.heap.size + 2)) hk hord tyC (by rw [Y.causeType]; rfl)
  have tkS := Takes.of_laid (v := u0.v) hk hord tyS (by rw [Y.stackType]; exact fits_refV_array _ u0)
  have tkP := Takes.of_laid (v := sen.v) hk hord tyP (by rw [Y.suppType]; exact fits_refV_object _ sen)
  have tkM := Takes.of_laid (v := .ref (W.heap.size + 1)) hk hord tyM (by rw [Y.msgType]; rfl)
  have hskip : SkipFacts T e.platform s (fun u => u) u0 ((preparedCellV T.toThrowableT (freshCell P1.m.cls kX) (W.heap.size + 2) u0 sen).withEntry W.cur) := ⟨{ ci198 := ci198, i198 := i198, fBack := fB }, ⟨hk198, hg198, ha198, hsB⟩, hbk, fun _ _ => rfl⟩
  obtain ⟨vm', X5, h1, hkept⟩ := X.nativeThrowsMessageColdBareV hexec hsize hnf T L Z LZ M LM Zs LZs P1 L1 Ps hL hlink1 hlink hsoe hoom hfound hk hinit hord hctor htext hlimit hheap
    (hfitv _) (hfitc _) hsel0 hselF hcellS hknownS hvU hvSen tkC tkS tkP tkM Y.objLocals hskip (fun _ _ hA hW _ hroom _ hrest => L.nativeOff p htr hA hW hroom hrest)
    (by rw [hlen]; exact hRframes) hRlocals (by rw [hlen]; exact hshort) hRcells (by rw [hn4, hn6]; omega)
  have b1 : (bytesOf Zs.cB (stringToUtf16 text)).slots.size = (stringBytes (stringToUtf16 text)).size := by
    rw [(Cell.writeAll_facts _ _).2.2]; simp [bytes0]
  have b2 : (stringAt Zs.cS Zs.kS Zs.fv Zs.fc (stringToUtf16 text) W.heap.size).slots.size = 4 := by simp [string0, Cell.setSlot, hn4]
  have b3 : (freshCell P1.m.cls kX).slots.size = 6 := by simp [hn6]
  rw [b1, b2, b3] at X5
  have e9 : slots + (stringBytes (stringToUtf16 text)).size + 4 + 6 = slots + ((stringBytes (stringToUtf16 text)).size + 4 + 6) := by omega
  rw [e9] at X5
  have ha : (W.heap.size + 2) < ((withThrown W Zs text P1.m.cls kX).setVm vm').heap.size := by
    show W.heap.size + 2 < (withThrown W Zs text P1.m.cls kX).heap.size
    rw [(withThrown_facts e.platform W Zs text P1.m.cls kX).2.2.1]; omega
  refine ⟨_, W.heap.size + 2, _, h1, X5.forget (fun y hy => ?_), heapAt_setCell_self _ ha, hfound, rfl, hkept, ?_⟩
  · simp only [List.mem_cons, List.not_mem_nil, or_false] at hy
    have hge : s.heap.size ≤ W.heap.size := X.same.2.1
    rcases hy with rfl | rfl | rfl | rfl | rfl <;> exact Nat.le_trans hge (Nat.le_add_right _ 2)
  · rw [size_setCell]
    omega
end
/-! System.arraycopy refused -/
theorem int_print {z : Int} (h1 : z < 10 ^ 10) (h2 : -(10 ^ 10 : Int) < z) : (toString z).toList.length ≤ 11 := by
  show (Int.repr z).toList.length ≤ 11
  cases h : z with
  | ofNat m =>
    rw [h] at h1
    have h1' : (m : Int) < 10 ^ 10 := h1
    have := nat_print (n := m) (by omega)
    show (toString m).toList.length ≤ 11
    omega
  | negSucc m =>
    rw [h] at h2
    have h2' : -(10 : Int) ^ 10 < -((m : Int) + 1) := by simpa [Int.negSucc_eq] using h2
    have := nat_print (n := m.succ) (by omega)
    show ("-" ++ toString m.succ).toList.length ≤ 11
    rw [String.toList_append, List.length_append]
    have h0 : "-".toList.length = 1 := by decide
    omega
theorem kindName_le : ∀ t : FieldType, (Native.java_lang_System.arraycopy.kindName t).toList.length ≤ 12
  | .byte => by decide
  | .char => by decide
  | .double => by decide
  | .float => by decide
  | .int => by decide
  | .long => by decide
  | .short => by decide
  | .boolean => by decide
  | .object _ => by show ("object array" : String).toList.length ≤ 12; decide
  | .array _ => by show ("object array" : String).toList.length ≤ 12; decide
theorem text_le {tx : String} {k : Nat} (h : tx.toList.length ≤ k) : (stringBytes (stringToUtf16 tx)).size ≤ 4 * k := by
  have b1 := stringBytes_size_le (stringToUtf16 tx)
  have b2 := utf16_size_le tx
  omega
theorem text_a {tx : String} : (("arraycopy: " ++ tx) == notModelled) = false := by
  rw [beq_eq_false_iff_ne]
  intro h
  have h2 := congrArg String.toList h
  have h3 : ("arraycopy: " ++ tx).toList = 'a' :: ("rraycopy: ".toList ++ tx.toList) := by
    rw [String.toList_append]
    rfl
  have h4 : notModelled.toList = '\u0000' :: " a message that is not modelled".toList := by decide
  rw [h3, h4] at h2
  simp at h2
theorem fault_le {sT dT : FieldType} {a b : Nat} {sp dp n : Int32} {w : String} (ha : a < 2 ^ 31) (hb : b < 2 ^ 31) (h : copyFault sT dT a b sp dp n = some w) : w.toList.length ≤ 100 := by
  have k1 := int32_print sp
  have k2 := int32_print dp
  have k3 := int32_print n
  have k4 := nat_print (n := a) (by omega)
  have k5 := nat_print (n := b) (by omega)
  have k6 := kindName_le sT
  have k7 := kindName_le dT
  have b1 := Int32.toInt_lt sp
  have b2 := Int32.le_toInt sp
  have b3 := Int32.toInt_lt dp
  have b4 := Int32.le_toInt dp
  have b5 := Int32.toInt_lt n
  have b6 := Int32.le_toInt n
  have k8 := int_print (z := sp.toInt + n.toInt) (by omega) (by omega)
  have k9 := int_print (z := dp.toInt + n.toInt) (by omega) (by omega)
  unfold copyFault at h
  split at h
  · cases h
    show (toString "source index " ++ toString sp ++ toString " out of bounds for " ++ toString (toString (Native.java_lang_System.arraycopy.kindName sT) ++ toString "[" ++ toString a ++ toString "]")).toList.length ≤ 100
    have c1 : (toString "source index ").toList.length = 13 := by decide
    have c2 : (toString " out of bounds for ").toList.length = 19 := by decide
    have c3 : (toString "[").toList.length = 1 := by decide
    have c4 : (toString "]").toList.length = 1 := by decide
    have c5 : (toString "").toList.length = 0 := by decide
    simp only [String.toList_append, List.length_append, show ∀ z : String, toString z = z from fun _ => rfl] at *
    omega
  split at h
  · cases h
    show (toString "destination index " ++ toString dp ++ toString " out of bounds for " ++ toString (toString (Native.java_lang_System.arraycopy.kindName dT) ++ toString "[" ++ toString b ++ toString "]")).toList.length ≤ 100
    have c1 : (toString "destination index ").toList.length = 18 := by decide
    have c2 : (toString " out of bounds for ").toList.length = 19 := by decide
    have c3 : (toString "[").toList.length = 1 := by decide
    have c4 : (toString "]").toList.length = 1 := by decide
    have c5 : (toString "").toList.length = 0 := by decide
    simp only [String.toList_append, List.length_append, show ∀ z : String, toString z = z from fun _ => rfl] at *
    omega
  split at h
  · cases h
    show (toString "length " ++ toString n ++ toString " is negative").toList.length ≤ 100
    have c1 : (toString "length ").toList.length = 7 := by decide
    have c2 : (toString " is negative").toList.length = 12 := by decide
    simp only [String.toList_append, List.length_append, show ∀ z : String, toString z = z from fun _ => rfl] at *
    omega
  split at h
  · cases h
    show (toString "last source index " ++ toString (sp.toInt + n.toInt) ++ toString " out of bounds for " ++ toString (toString (Native.java_lang_System.arraycopy.kindName sT) ++ toString "[" ++ toString a ++ toString "]")).toList.length ≤ 100
    have c1 : (toString "last source index ").toList.length = 18 := by decide
    have c2 : (toString " out of bounds for ").toList.length = 19 := by decide
    have c3 : (toString "[").toList.length = 1 := by decide
    have c4 : (toString "]").toList.length = 1 := by decide
    have c5 : (toString "").toList.length = 0 := by decide
    simp only [String.toList_append, List.length_append, show ∀ z : String, toString z = z from fun _ => rfl] at *
    omega
  split at h
  · cases h
    show (toString "last destination index " ++ toString (dp.toInt + n.toInt) ++ toString " out of bounds for " ++ toString (toString (Native.java_lang_System.arraycopy.kindName dT) ++ toString "[" ++ toString b ++ toString "]")).toList.length ≤ 100
    have c1 : (toString "last destination index ").toList.length = 23 := by decide
    have c2 : (toString " out of bounds for ").toList.length = 19 := by decide
    have c3 : (toString "[").toList.length = 1 := by decide
    have c4 : (toString "]").toList.length = 1 := by decide
    have c5 : (toString "").toList.length = 0 := by decide
    simp only [String.toList_append, List.length_append, show ∀ z : String, toString z = z from fun _ => rfl] at *
    omega
  · cases h
section ACX
variable {p : Program} {l : Launch} {e : Env} {R : Room} {s : State} {m : MethodId} {args : Array Value} {below : List Frame} {meth : Method} {c : Code} {H : Heap} {locs : List Loc} {cells slots : Nat} {Q : State → Prop}
variable {cc : ByteArray} {pc : Nat} {ls : Array Slot} {rest : List Value} {G : Gv} {FP : Nat → Prop} {own : String} {index q q2 nL : Nat}
set_option maxHeartbeats 1000000 in
theorem rk_acX {X text : String} {names : List String} {nb : Nat} {sp dp k : Int32} (hx : p.tables.exec = Jvm.exec) (hb : c.code = cc) (hl0 : l.stackTraces = false) (hml : c.maxLocals = nL) (hown : s.vm.findClass own = some m.cls) (hts : ∀ w ∈ lw_all, w.before args s = true) (hK : KK G s) (hL : LAC own index) (hZX : ZX G) (hG : GO G s.heap) (hgz : gB G ≤ s.heap.size) (hFP : ∀ q, FP q → gB G ≤ q) (hat : ∀ w ∈ Bundle.messageArmAtoms X names, atOk w) (hgood : ∀ w ∈ vx_atM X names, vx_ot w = true) (hS : va_S (FA FP s.heap.size) s.heap H locs) (hls : ls.size = nL)
    (hcls : Bundle.fit X = true) (hnames : ∀ n ∈ names, Bundle.fit n = true) (hsoe : (X == "java/lang/StackOverflowError") = false) (hoom : (X == "java/lang/OutOfMemoryError") = false) (hshort : 13 * names.length + 55 ≤ 10240)
    (htext : (text == notModelled) = false) (hnb : (stringBytes (stringToUtf16 text)).size ≤ nb) (hnb1 : nb ≤ 1000) (hR1 : names.length + 5 < R.frames) (hR2 : (rest.map fun v => v.category).sum + 10240 ≤ R.locals) (hR3 : cells + 3 ≤ R.cells) (hR4 : slots + (nb + 10) ≤ R.slots)
    (hwp : ∀ (U : State) (E : CtlPost), U.heap = H → s.vm.Alike U.vm → (∀ acts', E (.throwNew X (some text)) acts' U) → wp (Native.java_lang_System.arraycopy.sem #[.ref q2, .int sp, .ref q, .int dp, .int k]) (fun _ _ _ _ => False) E e false [] U)
    (hdg : decode cc pc = .ok (.invokestatic index, 3))
    (kx : ∀ (H1 : Heap) (q9 : Addr) (ce : Cell), H.size ≤ H1.size → (∀ q : Nat, q < H.size → H1[q]? = H[q]?) → va_S (FA FP s.heap.size) s.heap H1 locs → H1[q9]? = some ce → ce.vm = .none → s.vm.findClass X = some ce.cls → vx_W p l e R s m args below meth c H1 locs (cells + 3) (slots + (nb + 10)) Q (F0 m pc ls rest) q9) :
    W p l e R s m args below meth c H locs cells slots Q (F0 m pc ls (.int k :: .int dp :: .ref q :: .int sp :: .ref q2 :: rest)) := by
  intro T hT X0
  have htr : e.platform.stackTraces = false := (show e.platform.stackTraces = l.stackTraces by rw [X0.admits.platform]).trans hl0
  obtain ⟨r, kS, methS, hnS, hmS, hkS, N⟩ := NativeOf.of_static (hts _ hL.2.1) (hts _ hL.2.2.1) (ps := [.object "java/lang/Object", .int, .object "java/lang/Object", .int, .int]) (ret := none) (by decide +kernel)
  have hinitS : kS.init = .initialized := Cond.initialized_spec (findClass_of_methodNamed hnS) hkS (hts _ hL.2.2.2)
  obtain ⟨vm', X1, step⟩ := X0.invokestatic hx hown (hts _ hL.1) hnS hmS N.static hkS hinitS (by decide) (g := F0 m pc ls (.int k :: .int dp :: .ref q :: .int sp :: .ref q2 :: rest)) rfl (argsL := [.ref q2, .int sp, .ref q, .int dp, .int k]) (rest := rest) (by rw [N.sig]; rfl) rfl (by rw [hb]; exact hdg)
  have hhp0 : (T.setVm vm').heap = H := hT
  have hlim1 : ¬ (stringBytes (stringToUtf16 text)).size > e.platform.arrayLengthLimit := by rw [Launch.admits_arrayLengthLimit X0.admits]; omega
  have hlim2 : ¬ (stringBytes (stringToUtf16 text)).size * componentBytes .byte > e.platform.maxHeapBytes := by rw [Launch.admits_maxHeapBytes X0.admits]; simp only [componentBytes]; omega
  have B : Jvm.Free.BackT l R p e below s args arraycopyName 3 (rest.map fun v => v.category).sum (fun A a => a = #[.ref q2, .int sp, .ref q, .int dp, .int k] ∧ A.U.heap = H ∧ A.cells + 3 ≤ R.cells ∧ A.slots + (nb + 10) ≤ R.slots)
      (fun A a t B => ∃ ce : Cell, B.U.heap[t]? = some ce ∧ s.vm.findClass X = some ce.cls ∧ ce.vm = .none ∧ (∀ a0, a0 < A.U.heap.size → B.U.heap[a0]? = A.U.heap[a0]?) ∧ A.U.heap.size ≤ B.U.heap.size ∧ B.locs = A.locs ∧ B.cells = A.cells + 3 ∧ B.slots = A.slots + (nb + 10)) := by
    refine Jvm.Free.BackT.of_native (row := arraycopyRow) (words := 5) (arraycopy_row p) ⟨r, kS, methS, hnS, N⟩ (by omega) (Nat.le_trans (Nat.add_le_add_left (show nativeFrameWords arraycopyName.cls arraycopyName.name 5 + 11 ≤ 10240 by decide) _) hR2) fun m2 meth2 c2 A a x g mk Y hg hsize hW hn hst hps hask => ?_
    obtain ⟨rfl, hAH, hAc, hAs⟩ := hask
    refine ⟨rfl, by simp [seenByNative, hst, hps, narrow], X, some text, id, fun _ => rfl, rfl, fun fs E hE => ?_, ?_⟩
    · rw [arraycopyRow_sem]
      exact hwp _ E hAH Y.warmed.alike hE
    · have hW0 : s.WarmedH ((A.U.setVm s.vm).setFrames (.invoking m2 args :: below)).vm := State.WarmedH.refl s
      have hhp : ((A.U.setVm s.vm).setFrames (.invoking m2 args :: below)).heap = H := hAH
      have Y2 := vx_rebase Y (R' := { frames := R.frames, locals := R.locals, cells := 3, slots := nb + 10 }) (Nat.le_refl _) (Nat.le_refl _) hAc hAs
      have hat' : ∀ w ∈ vx_atM X names, w.before args ((A.U.setVm s.vm).setFrames (.invoking m2 args :: below)) = true := fun w hw => vx_ot_at hW0 rfl (hgood w hw) (at_use hts hK hat w hw)
      have hU' : vx_Zq Bundle.tN "UNASSIGNED_STACK" Bundle.steD (FA FP s.heap.size) ((A.U.setVm s.vm).setFrames (.invoking m2 args :: below)) ((A.U.setVm s.vm).setFrames (.invoking m2 args :: below)).heap := by rw [hhp]; exact vx_Zq.moved hW0.alike ((zx_at (hZX s hK).1 hG hgz hFP).kept hS.2.1)
      have hN' : vx_Zq Bundle.tN "SUPPRESSED_SENTINEL" Bundle.listD (FA FP s.heap.size) ((A.U.setVm s.vm).setFrames (.invoking m2 args :: below)) ((A.U.setVm s.vm).setFrames (.invoking m2 args :: below)).heap := by rw [hhp]; exact vx_Zq.moved hW0.alike ((zx_at (hZX s hK).2 hG hgz hFP).kept hS.2.1)
      obtain ⟨S, q9, ce, st, Z, hce, hcl', hv, hk1, hk2⟩ := vx_vmAtN Y2 hx htr (cls := X) (names := names) (text := text) hcls hnames hsoe hoom (vx_own hat' (vx_isRefq hU'.1) (vx_isRefq hN'.1) hU'.2.word hN'.2.word) (fun x hx => nomatch hx) htext hlim1 hlim2
        (g := g) hsize (nf := { method := mk, args := #[.ref q2, .int sp, .ref q, .int dp, .int k], locked := none }) rfl hR1 (by show _ + _ + 10240 ≤ R.locals; omega) hshort (by show 0 + 3 ≤ 3; omega) (by show 0 + (_ + 4 + 6) ≤ nb + 10; omega)
      have X5 := vx_back9 Y Y2 Z
      have X6 : Stand p l e R s m2 args below meth2 c2 S A.locs (A.cells + 3) (A.slots + (nb + 10)) := { X5 with same := X5.same.mono (by omega) (by omega) }
      exact ⟨q9, ⟨S, A.locs, A.cells + 3, A.slots + (nb + 10)⟩, X6, ⟨ce, hce, hcl', hv, hk1, hk2, rfl, rfl, rfl⟩, st⟩
  obtain ⟨q9, B1, XB, ⟨ce, g1, g2, g3, g4, g5, g6, g7, g8⟩, st⟩ := B m meth c ⟨T.setVm vm', locs, cells, slots⟩ (F0 m pc ls rest) (.invokestatic index) r #[.ref q2, .int sp, .ref q, .int dp, .int k] X1 rfl (by rw [hml]; exact hls) (by rw [hb]; exact hdg) (by show 2 * 0 + (rest.map fun v => v.category).sum ≤ _; omega) (X1.named hnS) ⟨rfl, hhp0, hR3, hR4⟩
  have g4' : ∀ a0, a0 < H.size → B1.U.heap[a0]? = H[a0]? := fun a0 h0 => by
    have h9 := g4 a0 (by show a0 < (T.setVm vm').heap.size; rw [hhp0]; exact h0)
    rw [h9]
    show (T.setVm vm').heap[a0]? = _
    rw [hhp0]
  have g5' : H.size ≤ B1.U.heap.size := by rw [← hhp0]; exact g5
  obtain ⟨U1, L1, c1, s1⟩ := B1
  replace g6 : L1 = locs := g6
  replace g7 : c1 = cells + 3 := g7
  replace g8 : s1 = slots + (nb + 10) := g8
  subst g6
  subst g7
  subst g8
  obtain ⟨t, a1, b1⟩ := kx U1.heap q9 ce g5' g4' ⟨Nat.le_trans hS.1 g5', fun z h1 h2 => (g4' z (Nat.lt_of_lt_of_le h1 hS.1)).trans (hS.2.1 z h1 h2), hS.2.2⟩ g1 g3 g2 U1 rfl XB
  exact ⟨t, step _ fun acts => by
    rw [doInvoke_state]
    exact st.trans a1, b1⟩
end ACX
