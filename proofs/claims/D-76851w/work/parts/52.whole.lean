/-! THE WHOLE, over what phase 2 owes: for every place a relation that each call keeps, and that holds at first -/
def Owed : Prop := ∀ b0 : Nat, ∃ Rel : Mem → Mem → Nat → Mem → Prop, LawOK b0 Rel ∧ ∃ rc vm, fX9_init_b (vc_X9 (b0 + 357)) = some (rc, vm) ∧ Rel (vc_X0 b0) (vp0 b0) (b0 + 357 + 1 + rc) vm
theorem whole_of (hO : Owed) {p : Program} {e : Env} {s : State} {m : MethodId} {below : List Frame} {meth : Method} {c : Code} (l : Launch) (hflags : l.flags = flags0) {b L : Nat} {xs : Nat → Int32} (hL : L ≤ 144) (C0 : lw_At p s m meth c b L xs) : W p l e room_1 s m #[Value.ref b] below meth c s.heap [] 0 0 (lw_Z below #[Value.ref b] s) (entryFrame m ([Value.ref b] : List Value).toArray 4) := by
  obtain ⟨G, W0, hG0, hZI⟩ := world (l := l) (by unfold Launch.stackTraces; rw [hflags]; decide +kernel) C0
  obtain ⟨hx, hb, hr, hml, hown, hts0, hX, hbl, hlocks, hgv⟩ := id C0
  obtain ⟨Rel, hOK, hst⟩ := hO s.heap.size
  have hl := lv_entry ([.ref b]) (n := 4) (Nat.le_of_ble_eq_true rfl)
  rw [lg_entry_eq]
  generalize (lg_sl ([.ref b]) ++ List.replicate (4 - (lg_sl ([.ref b])).length) Slot.unset).toArray = ls at hl ⊢
  have hl : lv_has ls 4 [(0, .ref b)] := hl
  exact law_start W0 rfl hG0 hZI hOK hst hr hlocks hL hl
