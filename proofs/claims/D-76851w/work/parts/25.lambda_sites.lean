/-- an interface's method, as the tables say it: it stays -/
def IM (x : MethodName) (U : State) : Prop := va_Nw (.declares x) U ∧ va_Nw (.interfaceMethod x.cls x.cls x.name x.desc) U
theorem IM.moved {x : MethodName} (hx : x.cls ≠ "java/lang/invoke/MethodHandle" ∧ x.cls ≠ "java/lang/invoke/VarHandle") {u U : State} (hW : u.WarmedH U.vm) (h : IM x u) : IM x U := by
  obtain ⟨r, meth, hn, -⟩ := Cond.declares_spec (va_Nw.use (A := #[]) rfl h.1)
  exact ⟨va_Nw.warmD hW h.1, va_tabs rfl (rfl : (u.setVm U.vm).vm = U.vm) (by rw [Cond.interfaceMethod_setVm hW.alike (r := r) hn hx]; exact h.2)⟩
/-! the shapes of WholePacks: by their target's name -/
def sgL (nm : String) : Lambda.Shape := { iface := "WholePacks$Left", name := "of", sam := ⟨[.long, .long], some .long⟩, captured := [], kind := 6, implClass := "WholePacks", implName := nm, implDesc := ⟨[.long, .long], some .long⟩, implItf := false, inst := ⟨[.long, .long], some .long⟩ }
def sgC (nm : String) : Lambda.Shape := { iface := "WholePacks$Change", name := "does", sam := ⟨[.int, .int], none⟩, captured := [.object "WholePacks"], kind := 5, implClass := "WholePacks", implName := nm, implDesc := ⟨[.int, .int], none⟩, implItf := false, inst := ⟨[.int, .int], none⟩ }
def sgK (nm : String) : Lambda.Shape := { iface := "WholePacks$Look", name := "goesOn", sam := ⟨[.int, .int, .int], some .boolean⟩, captured := [.object "WholePacks", .int], kind := 5, implClass := "WholePacks", implName := nm, implDesc := ⟨[.int, .int, .int, .int], some .boolean⟩, implItf := false, inst := ⟨[.int, .int, .int], some .boolean⟩ }
def fD (σ : Lambda.Shape) : ClassFile := (σ.file "WholePacks").getD { minorVersion := 0, majorVersion := 0, constantPool := #[], accessFlags := 0, thisClass := 0, superClass := 0, interfaces := #[], fields := #[], methods := #[], attributes := #[] }
def fM (σ : Lambda.Shape) : Method := ((layoutMethods (fD σ)).bind (·[1]?)).getD default
def fL (σ : Lambda.Shape) : Array Field × Array FieldType × Array FieldType := (layoutFields (fD σ) 0).getD (#[], #[], #[])
theorem fD_is {σ : Lambda.Shape} (h : (σ.file "WholePacks").isSome = true) : σ.file "WholePacks" = some (fD σ) := by
  obtain ⟨x, hx⟩ := Option.isSome_iff_exists.mp h
  simp [fD, hx]
theorem fM_is {σ : Lambda.Shape} (h : ((layoutMethods (fD σ)).bind (·[1]?)).isSome = true) : ∀ ms, layoutMethods (fD σ) = some ms → ms[1]? = some (fM σ) := by
  intro ms hms
  obtain ⟨x, hx⟩ := Option.isSome_iff_exists.mp h
  have hf : fM σ = x := by simp [fM, hx]
  rw [hms] at hx
  rw [hf]
  exact hx
theorem fL_is {σ : Lambda.Shape} (h : (layoutFields (fD σ) 0).isSome = true) : layoutFields (fD σ) 0 = some (fL σ) := by
  obtain ⟨x, hx⟩ := Option.isSome_iff_exists.mp h
  simp [fL, hx]
def bfL : ByteArray := ⟨#[31, 33, 184, 0, 17, 173]⟩
def bfC : ByteArray := ⟨#[42, 180, 0, 15, 27, 28, 182, 0, 22, 177]⟩
def bfK : ByteArray := ⟨#[42, 180, 0, 17, 42, 180, 0, 19, 27, 28, 29, 182, 0, 27, 172]⟩
def LFL (nm : String) : Prop := LamF (sgL nm) (fD (sgL nm)) (fM (sgL nm)) (fL (sgL nm)) bfL 5 (some .long) 17 14 16 13 #[] []
def LFC (nm : String) : Prop := LamF (sgC nm) (fD (sgC nm)) (fM (sgC nm)) (fL (sgC nm)) bfC 3 none 22 19 21 18 #[.object "WholePacks"] [(15, 0)]
def LFK (nm : String) : Prop := LamF (sgK nm) (fD (sgK nm)) (fM (sgK nm)) (fL (sgK nm)) bfK 4 (some .boolean) 27 23 26 22 #[.object "WholePacks", .int] [(17, 0), (19, 1)]
theorem lfL0 : LFL "lambda$new$0" := ⟨⟨fD_is (by decide +kernel), fM_is (by decide +kernel), fL_is (by decide +kernel), by decide +kernel, by decide +kernel⟩, by decide +kernel, by decide +kernel, ⟨rfl, rfl, by decide +kernel⟩, (fun z hz => nomatch hz)⟩
theorem lfL1 : LFL "lambda$new$1" := ⟨⟨fD_is (by decide +kernel), fM_is (by decide +kernel), fL_is (by decide +kernel), by decide +kernel, by decide +kernel⟩, by decide +kernel, by decide +kernel, ⟨rfl, rfl, by decide +kernel⟩, (fun z hz => nomatch hz)⟩
theorem lfC0 : LFC "bounds" := ⟨⟨fD_is (by decide +kernel), fM_is (by decide +kernel), fL_is (by decide +kernel), by decide +kernel, by decide +kernel⟩, by decide +kernel, by decide +kernel, ⟨rfl, rfl, by decide +kernel⟩, (fun z hz => by
    simp only [List.mem_cons, List.not_mem_nil, or_false] at hz
    subst hz
    exact ⟨2, 14, "arg$1", "LWholePacks;", by decide +kernel⟩)⟩
theorem lfC1 : LFC "lambda$new$2" := ⟨⟨fD_is (by decide +kernel), fM_is (by decide +kernel), fL_is (by decide +kernel), by decide +kernel, by decide +kernel⟩, by decide +kernel, by decide +kernel, ⟨rfl, rfl, by decide +kernel⟩, (fun z hz => by
    simp only [List.mem_cons, List.not_mem_nil, or_false] at hz
    subst hz
    exact ⟨2, 14, "arg$1", "LWholePacks;", by decide +kernel⟩)⟩
theorem lfC2 : LFC "factors" := ⟨⟨fD_is (by decide +kernel), fM_is (by decide +kernel), fL_is (by decide +kernel), by decide +kernel, by decide +kernel⟩, by decide +kernel, by decide +kernel, ⟨rfl, rfl, by decide +kernel⟩, (fun z hz => by
    simp only [List.mem_cons, List.not_mem_nil, or_false] at hz
    subst hz
    exact ⟨2, 14, "arg$1", "LWholePacks;", by decide +kernel⟩)⟩
theorem lfK0 : LFK "lambda$nth$3" := ⟨⟨fD_is (by decide +kernel), fM_is (by decide +kernel), fL_is (by decide +kernel), by decide +kernel, by decide +kernel⟩, by decide +kernel, by decide +kernel, ⟨rfl, rfl, by decide +kernel⟩, (fun z hz => by
    simp only [List.mem_cons, List.not_mem_nil, or_false] at hz
    rcases hz with rfl | rfl
    · exact ⟨2, 16, "arg$1", "LWholePacks;", by decide +kernel⟩
    · exact ⟨2, 18, "arg$2", "I", by decide +kernel⟩)⟩
theorem lfK1 : LFK "lambda$many$4" := ⟨⟨fD_is (by decide +kernel), fM_is (by decide +kernel), fL_is (by decide +kernel), by decide +kernel, by decide +kernel⟩, by decide +kernel, by decide +kernel, ⟨rfl, rfl, by decide +kernel⟩, (fun z hz => by
    simp only [List.mem_cons, List.not_mem_nil, or_false] at hz
    rcases hz with rfl | rfl
    · exact ⟨2, 16, "arg$1", "LWholePacks;", by decide +kernel⟩
    · exact ⟨2, 18, "arg$2", "I", by decide +kernel⟩)⟩
theorem lfK2 : LFK "lambda$lost$5" := ⟨⟨fD_is (by decide +kernel), fM_is (by decide +kernel), fL_is (by decide +kernel), by decide +kernel, by decide +kernel⟩, by decide +kernel, by decide +kernel, ⟨rfl, rfl, by decide +kernel⟩, (fun z hz => by
    simp only [List.mem_cons, List.not_mem_nil, or_false] at hz
    rcases hz with rfl | rfl
    · exact ⟨2, 16, "arg$1", "LWholePacks;", by decide +kernel⟩
    · exact ⟨2, 18, "arg$2", "I", by decide +kernel⟩)⟩
