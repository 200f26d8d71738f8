/-! THE LAW: its own ends (out of the given skeleton), and what its walk stands on -/
set_option maxRecDepth 100000
def R_law : String := "WholePacksLaw"
def lw_P (b : Addr) (xs : List Int32) (args : Array Value) (s : State) : Prop := args = #[.ref b] ∧ s.IntsAt b xs ∧ xs.length ≤ 144 ∧ (Jvm.Cond.and given_1 narrow_1).before args s = true
def lw_Q (_ : Array Value) (s : State) (o : Outcome) (t : State) : Prop := o = .returned (some (.int 1)) ∧ Framed s o t [] 1200144 5496634
def lw_Z (below : List Frame) (a : Array Value) (s : State) : State → Prop := fun t => ∃ o, t.status = .running ∧ Ended t below o ∧ lw_Q a s o t
theorem lw_ret {p : Program} {l : Launch} {e : Env} {s : State} {m : MethodId} {below : List Frame} {meth : Method} {c : Code} {b : Nat} (hx : p.tables.exec = Jvm.exec) (hb : c.code = code) (hr : meth.sig.returnType = ret) (hlocks : meth.locks = false) {pc : Nat} {H : Heap} {ls : Array Slot} (hdg : decode code pc = .ok (.ireturn, 1)) : W p l e room_1 s m #[Value.ref b] below meth c H [] 1200144 5496634 (lw_Z below #[Value.ref b] s) (F0 m pc ls [.int 1]) := by
  intro T hT X
  obtain ⟨fs, hret, hrun, hended, hW, hframe⟩ := X.leave (v := some (.int 1)) (hlocks := hlocks) (fun h => by rw [hr] at h; cases h)
  have hmeth' : T.vm.method? m = some meth := X.method'
  refine ⟨T.setFrames fs, ?_, .returned (some (.int 1)), hrun, hended, rfl, ⟨_, rfl⟩, hW, hframe⟩
  jvm_step X.here [X.here.top, hx, hb, hdg, hmeth', hr, ret, narrow_b1]
  (try refine ⟨rfl, ?_⟩); (try refine ⟨rfl, ?_⟩)
  first | (intro acts; rw [hret _ acts rfl rfl rfl]) | rw [hret _ _ rfl rfl rfl]
  exact Steps.refl _
def lw_At (p : Program) (s : State) (m : MethodId) (meth : Method) (c : Code) (b L : Nat) (xs : Nat → Int32) : Prop :=
  p.tables.exec = Jvm.exec ∧ c.code = code ∧ meth.sig.returnType = ret ∧ c.maxLocals = 4 ∧ s.vm.findClass R_law = some m.cls ∧ (∀ w ∈ lw_tbl, w.before #[Value.ref b] s = true) ∧ va_X b L xs s s.heap ∧ b < s.heap.size ∧ meth.locks = false ∧ (Jvm.Cond.and given_1 narrow_1).before #[Value.ref b] s = true
/-- the pool's places: X's holes, and all that comes behind X and the model -/
def PLs (b : Nat) : Nat → Bool := fun z => decide (z = b + 153 ∨ z = b + 154 ∨ (b + 160 ≤ z ∧ z ≤ b + 162) ∨ z = b + 165 ∨ z = b + 166 ∨ (b + 168 ≤ z ∧ z ≤ b + 173) ∨ b + 403 ≤ z)
theorem PLs_X {b : Nat} : ∀ z, PLs b z = true → ¬ fX b z := fun z h k => by
  have h1 := of_decide_eq_true h
  unfold fX at k
  omega
theorem PLs_g {b k : Nat} (hk : k ≤ b) : ∀ z, PLs b z = true → k ≤ z := fun z h => by
  have h1 := of_decide_eq_true h
  omega
theorem PLs_m {b : Nat} : ∀ z, PLs b z = true → ¬ iv (b + 357) 46 z := fun z h k => by
  have h1 := of_decide_eq_true h
  unfold iv at k
  omega
section LRW
variable {p : Program} {l : Launch} {e : Env} {R : Room} {s : State} {m : MethodId} {args : Array Value} {below : List Frame} {meth : Method} {c : Code} {H : Heap} {locs : List Loc} {cells slots : Nat} {Q : State → Prop}
variable {cc bytes : ByteArray} {pc nL maxL index n fr lo mc ms sz : Nat} {ls : Array Slot} {rest st0 As : List Value} {G : Gv} {A A0 : Nat → Prop} {H0 : Heap} {own C host : String} {y : MethodName} {ret : Option FieldType} {b : Nat} {Pre : Heap → Prop} {FP : Nat → Prop} {Post : Option Value → Heap → Prop}
/-- a call whose cells aren't counted: the heap has grown -/
theorem rk_backTz {a : Array Value} (hr : va_Run p l e R s m args below meth c H locs cells slots mc ms (F0 m pc ls st0) rest (QcT (FA FP H.size) Post a) (FA FP H.size)) (hS : va_S A0 H0 H locs) (hf : ∀ q, FP q → A0 q) (hA : ∀ q, H0.size ≤ q → A0 q)
    (kk : ∀ (ov : Option Value) (H1 : Heap) (locs1 : List Loc), Post ov H1 → H.size ≤ H1.size → (∀ q : Nat, q < H.size → ¬ (FP q ∨ H.size ≤ q) → H1[q]? = H[q]?) → va_S A0 H0 H1 locs1 → W p l e R s m args below meth c H1 locs1 (cells + mc) (slots + ms) Q (F0 m (pc + 3) ls (ov.toList ++ rest))) : W p l e R s m args below meth c H locs cells slots Q (F0 m pc ls st0) := by
  have hf2 : ∀ q, FA FP H.size q → A0 q := fun q h => h.elim (hf q) (fun h => hA q (Nat.le_trans hS.1 h))
  intro T hT X
  obtain ⟨v, st₀, t, T', L, h0, X', hL, e1, e2, ⟨⟨ov, hv, hp⟩, hz, hk⟩, st⟩ := hr T hT X
  cases hv
  rw [h0] at hz hk
  obtain ⟨t2, a1, b1⟩ := kk v T'.heap (locs ++ L) (by rw [e1]; exact hp) (by rw [e1]; exact hz) (fun q h1 h2 => by rw [e1]; exact hk q h1 h2)
    ⟨Nat.le_trans hS.1 (by rw [e1]; exact hz), fun q h1 h2 => by rw [e1, hk q (Nat.lt_of_lt_of_le h1 hS.1) (fun z => h2 (hf2 q z))]; exact hS.2.1 q h1 h2, fun q hq => by
      rcases List.mem_append.mp hq with h | h
      · exact hS.2.2 q h
      · exact hf2 _ (hL q h)⟩ T' rfl X'
  exact ⟨t2, st t2 a1, b1⟩
theorem rk_TVWz {hh : List (Nat × Nat × Nat × Nat)} (hx : p.tables.exec = Jvm.exec) (hb : c.code = cc) (hml : c.maxLocals = nL) (hown : s.vm.findClass own = some m.cls) (hts : ∀ w ∈ lw_all, w.before args s = true) (hK : KK G s) (hS : va_S A0 H0 H locs) (hA : ∀ q, H0.size ≤ q → A0 q) (hw : LVW own index C y bytes maxL ret hh) (hyC : y.cls = C) (hy : YN y n) (hM : CT G l y (wsW_ y bytes maxL ret hh) fr mc ms lo (.ref b :: As) FP H.size Pre Post) (hR : fr + 1 ≤ R.frames ∧ 8 + (maxL + 11) + lo ≤ R.locals) (hf2 : ∀ q, FP q → A0 q) (hrc : RcV s H C b) (hp : Pre H) (hst : st0 = As.reverse ++ .ref b :: rest) (hn : As.length = n) (hls : ls.size = nL) (hrest : (rest.map fun v => v.category).sum ≤ 8) (hdg : decode cc pc = .ok (.invokevirtual index, 3)) (hf : cells + mc ≤ R.cells ∧ slots + ms ≤ R.slots)
    (kk : ∀ (ov : Option Value) (H1 : Heap) (locs1 : List Loc), Post ov H1 → H.size ≤ H1.size → (∀ q : Nat, q < H.size → ¬ (FP q ∨ H.size ≤ q) → H1[q]? = H[q]?) → va_S A0 H0 H1 locs1 → W p l e R s m args below meth c H1 locs1 (cells + mc) (slots + ms) Q (F0 m (pc + 3) ls (ov.toList ++ rest))) : W p l e R s m args below meth c H locs cells slots Q (F0 m pc ls st0) :=
  rk_backTz (vx_runVW (Ts := lw_all) ⟨hx, hb, hml, hown, hts⟩ hM (rk_cwVW hts hw hyC hy hR) ⟨PcK.blind, hrc, rk_pre hK ⟨rfl, hp⟩⟩ rfl hn hls hst (lv_room hrest) hdg hf) hS hf2 hA kk
end LRW
/-- what stays through the law's run -/
def LWd (G : Gv) (p : Program) (l : Launch) (s : State) (m : MethodId) (c : Code) (b L : Nat) (xs : Nat → Int32) (b0 : Nat) : Prop :=
  p.tables.exec = Jvm.exec ∧ c.code = cL_law ∧ c.maxLocals = 4 ∧ s.vm.findClass R_law = some m.cls ∧ (∀ w ∈ lw_all, w.before #[Value.ref b] s = true) ∧ KK G s ∧ va_X b L xs s s.heap ∧ b < s.heap.size ∧ s.heap.size ≤ b0 ∧ ZQ G ∧ ZX G ∧ ZL G ∧ ZP G ∧ ZN G ∧ ZC G ∧ l.stackTraces = false ∧ gB G ≤ s.heap.size
/-- the loop's world -/
def LInv (G : Gv) (Rel : Mem → Mem → Nat → Mem → Prop) (s : State) (b b0 : Nat) (i3 : Int32) (H : Heap) (locs : List Loc) (ls : Array Slot) : Prop :=
  ∃ vx vp vm, rg G b0 357 (shX0 G.2.1) vx H ∧ pl G (PLs b0) vp H ∧ rg G (b0 + 357) 46 (shX9 G.2.1) vm H ∧ Rel vx vp H.size vm ∧ GO G H ∧ va_S (fun q => s.heap.size ≤ q) s.heap H locs ∧ lv_has ls 4 [(0, .ref b), (1, .ref b0), (2, .ref (b0 + 357)), (3, .int i3)]
def LIn (i3 : Int32) (L : Nat) : Prop := vp_in (i3 + (1 : Int32)) L ∧ vp_in (i3 + (2 : Int32)) L ∧ vp_in (i3 + (3 : Int32)) L ∧ vp_in (i3 + (4 : Int32)) L ∧ vp_in (i3 + (5 : Int32)) L
abbrev lwW (p : Program) (l : Launch) (e : Env) (s : State) (m : MethodId) (b : Nat) (below : List Frame) (meth : Method) (c : Code) (H : Heap) (locs : List Loc) (cells slots : Nat) (g : JFrame) : Prop := W p l e room_1 s m #[Value.ref b] below meth c H locs cells slots (lw_Z below #[Value.ref b] s) g
/-! what each call keeps: X and its pool, the model, and what the calls answer -/
def OK_size (b : Nat) (Rel : Mem → Mem → Nat → Mem → Prop) : Prop := ∀ (vx vp : Mem) (sz : Nat) (vm : Mem) (i1 : Int32), Rel vx vp sz vm → ∃ (rx : Int32) (wx : Mem) (wp : Mem) (um : Mem), fX0_size (PLs b) b vx vp i1 = some (rx, wx, wp) ∧ fX9_size vm i1 = some (rx, um) ∧ Rel wx wp sz um
def OK_cost (b : Nat) (Rel : Mem → Mem → Nat → Mem → Prop) : Prop := ∀ (vx vp : Mem) (sz : Nat) (vm : Mem) (i1 : Int32) (i2 : Int32), Rel vx vp sz vm → ∃ (rx : Int32) (wx : Mem) (wp : Mem) (um : Mem), fX0_cost (PLs b) b vx vp i1 i2 = some (rx, wx, wp) ∧ fX9_cost vm i1 i2 = some (rx, um) ∧ Rel wx wp sz um
def OK_rule (b : Nat) (Rel : Mem → Mem → Nat → Mem → Prop) : Prop := ∀ (vx vp : Mem) (sz : Nat) (vm : Mem) (i1 : Int32) (i2 : Int32), Rel vx vp sz vm → ∃ (rx : Int32) (wx : Mem) (um : Mem), fX0_rule vx i1 i2 = some (rx, wx) ∧ fX9_rule vm i1 i2 = some (rx, um) ∧ Rel wx vp sz um
def OK_factor (b : Nat) (Rel : Mem → Mem → Nat → Mem → Prop) : Prop := ∀ (vx vp : Mem) (sz : Nat) (vm : Mem) (i1 : Int32) (i2 : Int32) (i3 : Int32), Rel vx vp sz vm → ∃ (rx : Int32) (wx : Mem) (um : Mem), fX0_factor vx i1 i2 i3 = some (rx, wx) ∧ fX9_factor vm i1 i2 i3 = some (rx, um) ∧ Rel wx vp sz um
def OK_bound (b : Nat) (Rel : Mem → Mem → Nat → Mem → Prop) : Prop := ∀ (vx vp : Mem) (sz : Nat) (vm : Mem) (i1 : Int32) (i2 : Int32), Rel vx vp sz vm → ∃ (rx : Int32) (wx : Mem) (um : Mem), fX0_bound vx i1 i2 = some (rx, wx) ∧ fX9_bound vm i1 i2 = some (rx, um) ∧ Rel wx vp sz um
def OK_less (b : Nat) (Rel : Mem → Mem → Nat → Mem → Prop) : Prop := ∀ (vx vp : Mem) (sz : Nat) (vm : Mem), Rel vx vp sz vm → ∃ (rx : Int32) (wx : Mem) (um : Mem), fX0_less vx = some (rx, wx) ∧ fX9_less vm = some (rx, um) ∧ Rel wx vp sz um
def OK_feed (b : Nat) (Rel : Mem → Mem → Nat → Mem → Prop) : Prop := ∀ (vx vp : Mem) (sz : Nat) (vm : Mem) (i1 : Int32), Rel vx vp sz vm → ∃ (rx : Int32) (wx : Mem) (um : Mem), fX0_feed vx i1 = some (rx, wx) ∧ fX9_feed vm i1 = some (rx, um) ∧ Rel wx vp sz um
def OK_read (b : Nat) (Rel : Mem → Mem → Nat → Mem → Prop) : Prop := ∀ (vx vp : Mem) (sz : Nat) (vm : Mem), Rel vx vp sz vm → ∃ (rx : Int32) (rc : Nat) (wx : Mem) (wr : Mem) (um : Mem), fX0_read vx = some (rx, rc, wx, wr) ∧ fX9_read vm = some (rx, um) ∧ Rel wx vp (sz + rc) um
def OK_ruleOf (b : Nat) (Rel : Mem → Mem → Nat → Mem → Prop) : Prop := ∀ (vx vp : Mem) (sz : Nat) (vm : Mem) (i1 : Int32) (i2 : Int32), Rel vx vp sz vm → ∃ (rx : Int32), fX0_ruleOf vx i1 i2 = some rx ∧ fX9_ruleOf vm i1 i2 = some rx
def OK_solve (b : Nat) (Rel : Mem → Mem → Nat → Mem → Prop) : Prop := ∀ (vx vp : Mem) (sz : Nat) (vm : Mem) (i1 : Int32), Rel vx vp sz vm → ∃ (rx : Int32) (rc : Nat) (wx : Mem) (um : Mem), fX0_solve vx i1 = some (rx, rc, wx) ∧ fX9_solve vm i1 = some (rx, um) ∧ Rel wx vp (sz + rc) um
def OK_entry (b : Nat) (Rel : Mem → Mem → Nat → Mem → Prop) : Prop := ∀ (vx vp : Mem) (sz : Nat) (vm : Mem) (i1 : Int32) (i2 : Int32), Rel vx vp sz vm → ∃ (rx : Int64), fX0_entry vx i1 i2 = some rx ∧ fX9_entry vm i1 i2 = some rx
def OK_amount (b : Nat) (Rel : Mem → Mem → Nat → Mem → Prop) : Prop := ∀ (vx vp : Mem) (sz : Nat) (vm : Mem) (i1 : Int32) (i2 : Int32), Rel vx vp sz vm → ∃ (rx : Int64), fX0_amount vx i1 i2 = some rx ∧ fX9_amount vm i1 i2 = some rx
def OK_value (b : Nat) (Rel : Mem → Mem → Nat → Mem → Prop) : Prop := ∀ (vx vp : Mem) (sz : Nat) (vm : Mem) (i1 : Int32), Rel vx vp sz vm → ∃ (rx : Int64), fX0_value vx i1 = some rx ∧ fX9_value vm i1 = some rx
def OK_price (b : Nat) (Rel : Mem → Mem → Nat → Mem → Prop) : Prop := ∀ (vx vp : Mem) (sz : Nat) (vm : Mem) (i1 : Int32) (i2 : Int32), Rel vx vp sz vm → ∃ (rx : Int64), fX0_price vx i1 i2 = some rx ∧ fX9_price vm i1 i2 = some rx
def OK_cut (b : Nat) (Rel : Mem → Mem → Nat → Mem → Prop) : Prop := ∀ (vx vp : Mem) (sz : Nat) (vm : Mem) (i1 : Int32) (i2 : Int32), Rel vx vp sz vm → ∃ (rx : Int64), fX0_cut vx i1 i2 = some rx ∧ fX9_cut vm i1 i2 = some rx
def OK_weight (b : Nat) (Rel : Mem → Mem → Nat → Mem → Prop) : Prop := ∀ (vx vp : Mem) (sz : Nat) (vm : Mem) (i1 : Int32) (i2 : Int32) (i3 : Int32), Rel vx vp sz vm → ∃ (rx : Int64), fX0_weight vx i1 i2 i3 = some rx ∧ fX9_weight vm i1 i2 i3 = some rx
def OK_proved (b : Nat) (Rel : Mem → Mem → Nat → Mem → Prop) : Prop := ∀ (vx vp : Mem) (sz : Nat) (vm : Mem) (i1 : Int32), Rel vx vp sz vm → ∃ (rx : Int32), fX0_proved vx i1 = some rx ∧ fX9_proved vm i1 = some rx
def OK_hand (b : Nat) (Rel : Mem → Mem → Nat → Mem → Prop) : Prop := ∀ (vx vp : Mem) (sz : Nat) (vm : Mem) (i1 : Int32) (i2 : Int32), Rel vx vp sz vm → ∃ (rx : Int32) (wx : Mem) (um : Mem), fX0_hand vx i1 i2 = some (rx, wx) ∧ fX9_hand vm i1 i2 = some (rx, um) ∧ Rel wx vp sz um
def OK_by (b : Nat) (Rel : Mem → Mem → Nat → Mem → Prop) : Prop := ∀ (vx vp : Mem) (sz : Nat) (vm : Mem) (i1 : Int32), Rel vx vp sz vm → ∃ (rx : Int32) (wx : Mem) (um : Mem), fX0_by vx i1 = some (rx, wx) ∧ fX9_by vm i1 = some (rx, um) ∧ Rel wx vp sz um
def OK_points (b : Nat) (Rel : Mem → Mem → Nat → Mem → Prop) : Prop := ∀ (vx vp : Mem) (sz : Nat) (vm : Mem) (i1 : Int32), Rel vx vp sz vm → ∃ (rx : Int64), fX0_points vx i1 = some rx ∧ fX9_points vm i1 = some rx
def OK_bites (b : Nat) (Rel : Mem → Mem → Nat → Mem → Prop) : Prop := ∀ (vx vp : Mem) (sz : Nat) (vm : Mem), Rel vx vp sz vm → ∃ (rx : Int32), fX0_bites vx = some rx ∧ fX9_bites vm = some rx
def OK_box (b : Nat) (Rel : Mem → Mem → Nat → Mem → Prop) : Prop := ∀ (vx vp : Mem) (sz : Nat) (vm : Mem) (i1 : Int32), Rel vx vp sz vm → ∃ (rx : Int32) (wx : Mem) (um : Mem), fX0_box vx i1 = some (rx, wx) ∧ fX9_box vm i1 = some (rx, um) ∧ Rel wx vp sz um
def OK_nth (b : Nat) (Rel : Mem → Mem → Nat → Mem → Prop) : Prop := ∀ (vx vp : Mem) (sz : Nat) (vm : Mem) (i1 : Int32), Rel vx vp sz vm → ∃ (rx : Int32) (rc : Nat) (wx : Mem) (wp : Mem) (um : Mem), fX0_nth (PLs b) sz b vx vp i1 = some (rx, rc, wx, wp) ∧ fX9_nth vm i1 = some (rx, um) ∧ Rel wx wp (sz + rc) um
def OK_many (b : Nat) (Rel : Mem → Mem → Nat → Mem → Prop) : Prop := ∀ (vx vp : Mem) (sz : Nat) (vm : Mem) (i1 : Int32), Rel vx vp sz vm → ∃ (rx : Int32) (rc : Nat) (wx : Mem) (um : Mem), fX0_many vx i1 = some (rx, rc, wx) ∧ fX9_many vm i1 = some (rx, um) ∧ Rel wx vp (sz + rc) um
def OK_breaks (b : Nat) (Rel : Mem → Mem → Nat → Mem → Prop) : Prop := ∀ (vx vp : Mem) (sz : Nat) (vm : Mem) (i1 : Int32), Rel vx vp sz vm → ∃ (rx : Int32) (wx : Mem) (um : Mem), fX0_breaks vx i1 = some (rx, wx) ∧ fX9_breaks vm i1 = some (rx, um) ∧ Rel wx vp sz um
def OK_lost (b : Nat) (Rel : Mem → Mem → Nat → Mem → Prop) : Prop := ∀ (vx vp : Mem) (sz : Nat) (vm : Mem) (i1 : Int32), Rel vx vp sz vm → ∃ (rx : Int32) (rc : Nat) (wx : Mem) (um : Mem), fX0_lost vx i1 = some (rx, rc, wx) ∧ fX9_lost vm i1 = some (rx, um) ∧ Rel wx vp (sz + rc) um
def OK_branch (b : Nat) (Rel : Mem → Mem → Nat → Mem → Prop) : Prop := ∀ (vx vp : Mem) (sz : Nat) (vm : Mem) (i1 : Int32), Rel vx vp sz vm → ∃ (rx : Int32) (rc : Nat) (wx : Mem) (wp : Mem) (um : Mem), fX0_branch (PLs b) sz b vx vp i1 = some (rx, rc, wx, wp) ∧ fX9_branch vm i1 = some (rx, um) ∧ Rel wx wp (sz + rc) um
def OK_would (b : Nat) (Rel : Mem → Mem → Nat → Mem → Prop) : Prop := ∀ (vx vp : Mem) (sz : Nat) (vm : Mem) (i1 : Int32) (i2 : Int32), Rel vx vp sz vm → ∃ (rx : Int32) (rc : Nat) (wx : Mem) (um : Mem), fX0_would vx i1 i2 = some (rx, rc, wx) ∧ fX9_would vm i1 i2 = some (rx, um) ∧ Rel wx vp (sz + rc) um
def OK_see (b : Nat) (Rel : Mem → Mem → Nat → Mem → Prop) : Prop := ∀ (vx vp : Mem) (sz : Nat) (vm : Mem) (i1 : Int32) (i2 : Int32), Rel vx vp sz vm → ∃ (rx : Int32) (wx : Mem) (um : Mem), fX0_see vx i1 i2 = some (rx, wx) ∧ fX9_see vm i1 i2 = some (rx, um) ∧ Rel wx vp sz um
def OK_fits (b : Nat) (Rel : Mem → Mem → Nat → Mem → Prop) : Prop := ∀ (vx vp : Mem) (sz : Nat) (vm : Mem) (i1 : Int32) (i2 : Int32), Rel vx vp sz vm → ∃ (rx : Int32) (rc : Nat) (wx : Mem) (um : Mem), fX0_fits vx i1 i2 = some (rx, rc, wx) ∧ fX9_fits vm i1 i2 = some (rx, um) ∧ Rel wx vp (sz + rc) um
def OK_odds (b : Nat) (Rel : Mem → Mem → Nat → Mem → Prop) : Prop := ∀ (vx vp : Mem) (sz : Nat) (vm : Mem) (i1 : Int32) (i2 : Int32) (i3 : Int32) (i4 : Int32) (i5 : Int32), Rel vx vp sz vm → ∃ (rx : Int64) (rc : Nat) (wx : Mem) (um : Mem), fX0_odds vx i1 i2 i3 i4 i5 = some (rx, rc, wx) ∧ fX9_odds vm i1 i2 i3 i4 i5 = some (rx, um) ∧ Rel wx vp (sz + rc) um
def OK_mean (b : Nat) (Rel : Mem → Mem → Nat → Mem → Prop) : Prop := ∀ (vx vp : Mem) (sz : Nat) (vm : Mem) (i1 : Int32), Rel vx vp sz vm → ∃ (rx : Int64), fX0_mean vx i1 = some rx ∧ fX9_mean vm i1 = some rx
def OK_drawn (b : Nat) (Rel : Mem → Mem → Nat → Mem → Prop) : Prop := ∀ (vx vp : Mem) (sz : Nat) (vm : Mem) (i1 : Int32) (i2 : Int32), Rel vx vp sz vm → ∃ (rx : Int32) (rc : Nat) (wx : Mem) (um : Mem), fX0_drawn vx i1 i2 = some (rx, rc, wx) ∧ fX9_drawn vm i1 i2 = some (rx, um) ∧ Rel wx vp (sz + rc) um
def OK_offer (b : Nat) (Rel : Mem → Mem → Nat → Mem → Prop) : Prop := ∀ (vx vp : Mem) (sz : Nat) (vm : Mem) (i1 : Int32) (i2 : Int32), Rel vx vp sz vm → ∃ (rx : Int32) (rc : Nat) (wx : Mem) (wp : Mem) (um : Mem), fX0_offer (PLs b) sz b vx vp i1 i2 = some (rx, rc, wx, wp) ∧ fX9_offer vm i1 i2 = some (rx, um) ∧ Rel wx wp (sz + rc) um
def OK_offered (b : Nat) (Rel : Mem → Mem → Nat → Mem → Prop) : Prop := ∀ (vx vp : Mem) (sz : Nat) (vm : Mem) (i1 : Int32) (i2 : Int32), Rel vx vp sz vm → ∃ (rx : Int32) (um : Mem), fX0_offered (PLs b) b vx vp i1 i2 = some rx ∧ fX9_offered vm i1 i2 = some (rx, um) ∧ Rel vx vp sz um
def OK_upTo (b : Nat) (Rel : Mem → Mem → Nat → Mem → Prop) : Prop := ∀ (vx vp : Mem) (sz : Nat) (vm : Mem) (i1 : Int32), Rel vx vp sz vm → ∃ (rx : Int32) (rc : Nat) (wp : Mem) (um : Mem), fX0_upTo (PLs b) sz b vx vp i1 = some (rx, rc, wp) ∧ fX9_upTo vm i1 = some (rx, um) ∧ Rel vx wp (sz + rc) um
def OK_dearest (b : Nat) (Rel : Mem → Mem → Nat → Mem → Prop) : Prop := ∀ (vx vp : Mem) (sz : Nat) (vm : Mem), Rel vx vp sz vm → ∃ (rx : Int32) (rc : Nat) (wp : Mem) (um : Mem), fX0_dearest (PLs b) sz b vx vp = some (rx, rc, wp) ∧ fX9_dearest vm = some (rx, um) ∧ Rel vx wp (sz + rc) um
def OK_plan (b : Nat) (Rel : Mem → Mem → Nat → Mem → Prop) : Prop := ∀ (vx vp : Mem) (sz : Nat) (vm : Mem) (i1 : Int32) (i2 : Int32) (i3 : Int32), Rel vx vp sz vm → ∃ (rx : Int32) (wx : Mem) (um : Mem), fX0_plan vx i1 i2 i3 = some (rx, wx) ∧ fX9_plan vm i1 i2 i3 = some (rx, um) ∧ Rel wx vp sz um
def OK_ends (b : Nat) (Rel : Mem → Mem → Nat → Mem → Prop) : Prop := ∀ (vx vp : Mem) (sz : Nat) (vm : Mem), Rel vx vp sz vm → ∃ (rx : Int32) (rc : Nat) (wx : Mem) (um : Mem), fX0_ends vx = some (rx, rc, wx) ∧ fX9_ends vm = some (rx, um) ∧ Rel wx vp (sz + rc) um
def OK_judge (b : Nat) (Rel : Mem → Mem → Nat → Mem → Prop) : Prop := ∀ (vx vp : Mem) (sz : Nat) (vm : Mem) (i1 : Int32) (i2 : Int32), Rel vx vp sz vm → ∃ (rx : Int32), fX0_judge (PLs b) b vx vp i1 i2 = some rx ∧ fX9_judge vm i1 i2 = some rx
def OK_image (b : Nat) (Rel : Mem → Mem → Nat → Mem → Prop) : Prop := ∀ (vx vp : Mem) (sz : Nat) (vm : Mem), Rel vx vp sz vm → ∃ (rx : Int32) (rc : Nat) (wx : Mem) (wp : Mem) (um : Mem), fX0_image (PLs b) sz b vx vp = some (rx, rc, wx, wp) ∧ fX9_image vm = some (rx, um) ∧ Rel wx wp (sz + rc) um
def OK_undo (b : Nat) (Rel : Mem → Mem → Nat → Mem → Prop) : Prop := ∀ (vx vp : Mem) (sz : Nat) (vm : Mem), Rel vx vp sz vm → ∃ (rx : Int32) (rc : Nat) (wx : Mem) (wp : Mem) (um : Mem), fX0_undo (PLs b) sz b vx vp = some (rx, rc, wx, wp) ∧ fX9_undo vm = some (rx, um) ∧ Rel wx wp (sz + rc) um
def OK_count (b : Nat) (Rel : Mem → Mem → Nat → Mem → Prop) : Prop := ∀ (vx vp : Mem) (sz : Nat) (vm : Mem) (i1 : Int32), Rel vx vp sz vm → ∃ (rx : Int32), fX0_count (PLs b) b vx vp i1 = some rx ∧ fX9_count vm i1 = some rx
def OK_tape (b : Nat) (Rel : Mem → Mem → Nat → Mem → Prop) : Prop := ∀ (vx vp : Mem) (sz : Nat) (vm : Mem) (i1 : Int32) (i2 : Int32) (i3 : Int32), Rel vx vp sz vm → ∃ (rx : Int32) (um : Mem), fX9_tape vm i1 i2 i3 = some (rx, um) ∧ ((∃ rc wp, fX0_tape (PLs b) sz b vx vp i1 i2 i3 = some (rx, rc, wp) ∧ Rel vx wp (sz + rc) um) ∨ (fX0_tape_neg (PLs b) b vx vp i1 i2 i3 = some rx ∧ ∀ sz9, sz ≤ sz9 → Rel vx vp sz9 um))
def OK_item (b : Nat) (Rel : Mem → Mem → Nat → Mem → Prop) : Prop := ∀ (vx vp : Mem) (sz : Nat) (vm : Mem) (i1 : Int32) (i2 : Int32) (j3 : Int64), Rel vx vp sz vm → ∃ (rx : Int32) (um : Mem), fX9_item vm i1 i2 j3 = some (rx, um) ∧ ((∃ wp, fX0_item (PLs b) b vx vp i1 i2 j3 = some (rx, wp) ∧ Rel vx wp sz um) ∨ (fX0_item_out (PLs b) b vx vp i1 i2 j3 = some rx ∧ ∀ sz9, sz ≤ sz9 → Rel vx vp sz9 um))
def OK_peek (b : Nat) (Rel : Mem → Mem → Nat → Mem → Prop) : Prop := ∀ (vx vp : Mem) (sz : Nat) (vm : Mem) (i1 : Int32) (i2 : Int32), Rel vx vp sz vm → ∃ (rx : Int64), fX0_peek (PLs b) b vx vp i1 i2 = some rx ∧ fX9_peek vm i1 i2 = some rx
def OK_shift (b : Nat) (Rel : Mem → Mem → Nat → Mem → Prop) : Prop := ∀ (vx vp : Mem) (sz : Nat) (vm : Mem) (i1 : Int32) (i2 : Int32) (i3 : Int32) (i4 : Int32) (i5 : Int32), Rel vx vp sz vm → ∃ (rx : Int32) (um : Mem), fX9_shift vm i1 i2 i3 i4 i5 = some (rx, um) ∧ ((∃ wp, fX0_shift (PLs b) b vx vp i1 i2 i3 i4 i5 = some (rx, wp) ∧ Rel vx wp sz um) ∨ (fX0_shift_cast (PLs b) b vx vp i1 i2 i3 i4 i5 = some rx ∧ ∀ sz9, sz ≤ sz9 → Rel vx vp sz9 um) ∨ (fX0_shift_place (PLs b) b vx vp i1 i2 i3 i4 i5 = some rx ∧ ∀ sz9, sz ≤ sz9 → Rel vx vp sz9 um))
def LawOK (b : Nat) (Rel : Mem → Mem → Nat → Mem → Prop) : Prop := OK_size b Rel ∧ OK_cost b Rel ∧ OK_rule b Rel ∧ OK_factor b Rel ∧ OK_bound b Rel ∧ OK_less b Rel ∧ OK_feed b Rel ∧ OK_read b Rel ∧ OK_ruleOf b Rel ∧ OK_solve b Rel ∧ OK_entry b Rel ∧ OK_amount b Rel ∧ OK_value b Rel ∧ OK_price b Rel ∧ OK_cut b Rel ∧ OK_weight b Rel ∧ OK_proved b Rel ∧ OK_hand b Rel ∧ OK_by b Rel ∧ OK_points b Rel ∧ OK_bites b Rel ∧ OK_box b Rel ∧ OK_nth b Rel ∧ OK_many b Rel ∧ OK_breaks b Rel ∧ OK_lost b Rel ∧ OK_branch b Rel ∧ OK_would b Rel ∧ OK_see b Rel ∧ OK_fits b Rel ∧ OK_odds b Rel ∧ OK_mean b Rel ∧ OK_drawn b Rel ∧ OK_offer b Rel ∧ OK_offered b Rel ∧ OK_upTo b Rel ∧ OK_dearest b Rel ∧ OK_plan b Rel ∧ OK_ends b Rel ∧ OK_judge b Rel ∧ OK_image b Rel ∧ OK_undo b Rel ∧ OK_count b Rel ∧ OK_tape b Rel ∧ OK_item b Rel ∧ OK_peek b Rel ∧ OK_shift b Rel
