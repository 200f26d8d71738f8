def shX2 (dA : Nat → ClassId) : Shp := fun o a x y z => if o < 2 then (match o with | 0 => some (.inr (2, [.int (x 0), .int (x 1), .ref (a + 1)])) | 1 => some (.inl (dA 0, 5, .inl x)) | _ => none) else none
def shX1 (dA : Nat → ClassId) : Shp := fun o a x y z => if o < 6 then (match o with | 0 => some (.inr (1, [.int (x 0), .int (x 1), .int (x 2), .int (x 3), .int (x 4), .int (x 5), .ref (a + 1), .ref (a + 2), .ref (a + 3), .ref (a + 4), .ref (a + 5)])) | 1 => some (.inl (dA 0, 5, .inl x)) | 2 => some (.inl (dA 5, 8, .inr (.inr (.inr (.inr (fun j => some (a + (6 + 2 * j)))))))) | 3 => some (.inl (dA 0, 8, .inl x)) | 4 => some (.inl (dA 0, 10, .inl x)) | 5 => some (.inl (dA 0, 24, .inl x)) | _ => none) else if o < 22 then (shX2 dA ((o - 6) % 2) (a + (6 + 2 * ((o - 6) / 2))) x y z) else none
theorem shX1_f6 (dA : Nat → ClassId) {a k : Nat} (hk : k < 8) (q : Nat) (hq : q = a + (6 + 2 * k)) (o : Nat) (ho : o < 2) (x : Nat → Int32) (y : Nat → Int64) (z : Nat → Option Nat) : shX1 dA (6 + 2 * k + o) a x y z = shX2 dA o q x y z := by
  subst hq
  unfold shX1
  rw [if_neg (by omega), if_pos (by omega), show (6 + 2 * k + o - 6) % 2 = o by omega, show (6 + 2 * k + o - 6) / 2 = k by omega]
def shX4 (dA : Nat → ClassId) : Shp := fun o a x y z => if o < 3 then (match o with | 0 => some (.inr (4, [.ref (a + 1), .long (y 1), .long (y 2), .ref (a + 2)])) | 1 => some (.inl (dA 1, 5, .inr (.inl y))) | 2 => some (.inl (dA 1, 20, .inr (.inl y))) | _ => none) else none
def shX3 (dA : Nat → ClassId) : Shp := fun o a x y z => if o < 7 then (match o with | 0 => some (.inr (3, [.int (x 0), .int (x 1), .int (x 2), .int (x 3), .long (y 4), .long (y 5), .ref (a + 1), .ref (a + 2), .ref (a + 3), .ref (a + 4), .ref (a + 5), .ref (a + 6)])) | 1 => some (.inl (dA 1, 150, .inr (.inl y))) | 2 => some (.inl (dA 1, 30, .inr (.inl y))) | 3 => some (.inl (dA 1, 5, .inr (.inl y))) | 4 => some (.inl (dA 0, 30, .inl x)) | 5 => some (.inl (dA 0, 5, .inl x)) | 6 => some (.inl (dA 6, 12, .inr (.inr (.inr (.inr (fun j => some (a + (7 + 3 * j)))))))) | _ => none) else if o < 43 then (shX4 dA ((o - 7) % 3) (a + (7 + 3 * ((o - 7) / 3))) x y z) else none
theorem shX3_f7 (dA : Nat → ClassId) {a k : Nat} (hk : k < 12) (q : Nat) (hq : q = a + (7 + 3 * k)) (o : Nat) (ho : o < 3) (x : Nat → Int32) (y : Nat → Int64) (z : Nat → Option Nat) : shX3 dA (7 + 3 * k + o) a x y z = shX4 dA o q x y z := by
  subst hq
  unfold shX3
  rw [if_neg (by omega), if_pos (by omega), show (7 + 3 * k + o - 7) % 3 = o by omega, show (7 + 3 * k + o - 7) / 3 = k by omega]
def shX7 (dA : Nat → ClassId) : Shp := fun o a x y z => if o < 1 then (match o with | 0 => some (.inr (7, [.int (x 0), .int (x 1)])) | _ => none) else none
def shX8 (dA : Nat → ClassId) : Shp := fun o a x y z => if o < 4 then (match o with | 0 => some (.inr (8, [.int (x 0), .int (x 1), .long (y 2), .long (y 3), .int (x 4), .ref (a + 1), .ref (a + 2), .ref (a + 3)])) | 1 => some (.inl (dA 0, 5, .inl x)) | 2 => some (.inl (dA 0, 5, .inl x)) | 3 => some (.inl (dA 0, 5, .inl x)) | _ => none) else none
def shX0 (dA : Nat → ClassId) : Shp := fun o a x y z => if o < 1 then (match o with | 0 => some (.inr (0, [.ref (a + 1), .ref (a + 23), .ref (a + 45), .ref (a + 67), .ref (a + 110), .int (x 5), .int (x 6), .ref (a + 153), .ref (a + 154), .ref (a + 155), .ref (a + 156), .ref (a + 157), .int (x 12), .ref (a + 158), .ref (a + 159), .ref (a + 160), .int (x 16), .ref (a + 163), .ref (a + 164), .ref (a + 165), .int (x 20), .int (x 21), .int (x 22), .int (x 23), .ref (a + 167)])) | _ => none) else if o < 23 then (shX1 dA (o - 1) (a + 1) x y z) else if o < 45 then (shX1 dA (o - 23) (a + 23) x y z) else if o < 67 then (shX1 dA (o - 45) (a + 45) x y z) else if o < 110 then (shX3 dA (o - 67) (a + 67) x y z) else if o < 153 then (shX3 dA (o - 110) (a + 110) x y z) else if o < 169 then (match o - 153 with | 0 => none | 1 => none | 2 => some (.inl (dA 7, 2, .inr (.inr (.inr (.inr (fun j => some (dA (28 + j)))))))) | 3 => some (.inl (dA 8, 3, .inr (.inr (.inr (.inr (fun j => some (a + (174 + 1 * j)))))))) | 4 => some (.inl (dA 2, 80, .inl x)) | 5 => some (.inl (dA 0, 5, .inl x)) | 6 => some (.inl (dA 9, 20, .inr (.inr (.inr (.inr (fun j => some (a + (177 + 1 * j)))))))) | 7 => none | 8 => none | 9 => none | 10 => some (.inl (dA 0, 5, .inl x)) | 11 => some (.inl (dA 10, 40, .inr (.inr (.inr (.inr (fun j => some (a + (197 + 4 * j)))))))) | 12 => none | 13 => none | 14 => some (.inl (dA 11, 6, .inr (.inr (.inr (.inr (fun j => some (a + (168 + 1 * j)))))))) | 15 => none | _ => none) else if o < 177 then (match o - 169 with | 0 => none | 1 => none | 2 => none | 3 => none | 4 => none | 5 => some (.inl (dA 22, 1, .inr (.inr (.inr (.inr (fun _ => some a)))))) | 6 => some (.inl (dA 23, 1, .inr (.inr (.inr (.inr (fun _ => some a)))))) | 7 => some (.inl (dA 24, 1, .inr (.inr (.inr (.inr (fun _ => some a)))))) | _ => none) else if o < 197 then (shX7 dA ((o - 177) % 1) (a + (177 + 1 * ((o - 177) / 1))) x y z) else if o < 357 then (shX8 dA ((o - 197) % 4) (a + (197 + 4 * ((o - 197) / 4))) x y z) else none
theorem shX0_n1 (dA : Nat → ClassId) (q : Nat) {a : Nat} (hq : q = a + 1) (o : Nat) (ho : o < 22) (x : Nat → Int32) (y : Nat → Int64) (z : Nat → Option Nat) : shX0 dA (1 + o) a x y z = shX1 dA o q x y z := by
  subst hq
  unfold shX0
  rw [if_neg (by omega), if_pos (by omega), show 1 + o - 1 = o by omega]
theorem shX0_n23 (dA : Nat → ClassId) (q : Nat) {a : Nat} (hq : q = a + 23) (o : Nat) (ho : o < 22) (x : Nat → Int32) (y : Nat → Int64) (z : Nat → Option Nat) : shX0 dA (23 + o) a x y z = shX1 dA o q x y z := by
  subst hq
  unfold shX0
  rw [if_neg (by omega), if_neg (by omega), if_pos (by omega), show 23 + o - 23 = o by omega]
theorem shX0_n45 (dA : Nat → ClassId) (q : Nat) {a : Nat} (hq : q = a + 45) (o : Nat) (ho : o < 22) (x : Nat → Int32) (y : Nat → Int64) (z : Nat → Option Nat) : shX0 dA (45 + o) a x y z = shX1 dA o q x y z := by
  subst hq
  unfold shX0
  rw [if_neg (by omega), if_neg (by omega), if_neg (by omega), if_pos (by omega), show 45 + o - 45 = o by omega]
theorem shX0_n67 (dA : Nat → ClassId) (q : Nat) {a : Nat} (hq : q = a + 67) (o : Nat) (ho : o < 43) (x : Nat → Int32) (y : Nat → Int64) (z : Nat → Option Nat) : shX0 dA (67 + o) a x y z = shX3 dA o q x y z := by
  subst hq
  unfold shX0
  rw [if_neg (by omega), if_neg (by omega), if_neg (by omega), if_neg (by omega), if_pos (by omega), show 67 + o - 67 = o by omega]
theorem shX0_n110 (dA : Nat → ClassId) (q : Nat) {a : Nat} (hq : q = a + 110) (o : Nat) (ho : o < 43) (x : Nat → Int32) (y : Nat → Int64) (z : Nat → Option Nat) : shX0 dA (110 + o) a x y z = shX3 dA o q x y z := by
  subst hq
  unfold shX0
  rw [if_neg (by omega), if_neg (by omega), if_neg (by omega), if_neg (by omega), if_neg (by omega), if_pos (by omega), show 110 + o - 110 = o by omega]
theorem shX0_f177 (dA : Nat → ClassId) {a k : Nat} (hk : k < 20) (q : Nat) (hq : q = a + (177 + 1 * k)) (o : Nat) (ho : o < 1) (x : Nat → Int32) (y : Nat → Int64) (z : Nat → Option Nat) : shX0 dA (177 + 1 * k + o) a x y z = shX7 dA o q x y z := by
  subst hq
  unfold shX0
  rw [if_neg (by omega), if_neg (by omega), if_neg (by omega), if_neg (by omega), if_neg (by omega), if_neg (by omega), if_neg (by omega), if_neg (by omega), if_pos (by omega), show (177 + 1 * k + o - 177) % 1 = o by omega, show (177 + 1 * k + o - 177) / 1 = k by omega]
theorem shX0_f197 (dA : Nat → ClassId) {a k : Nat} (hk : k < 40) (q : Nat) (hq : q = a + (197 + 4 * k)) (o : Nat) (ho : o < 4) (x : Nat → Int32) (y : Nat → Int64) (z : Nat → Option Nat) : shX0 dA (197 + 4 * k + o) a x y z = shX8 dA o q x y z := by
  subst hq
  unfold shX0
  rw [if_neg (by omega), if_neg (by omega), if_neg (by omega), if_neg (by omega), if_neg (by omega), if_neg (by omega), if_neg (by omega), if_neg (by omega), if_neg (by omega), if_pos (by omega), show (197 + 4 * k + o - 197) % 4 = o by omega, show (197 + 4 * k + o - 197) / 4 = k by omega]
theorem shX0_f7 (dA : Nat → ClassId) {a k : Nat} (hk : k < 8) (q : Nat) (hq : q = a + (7 + 2 * k)) (o : Nat) (ho : o < 2) (x : Nat → Int32) (y : Nat → Int64) (z : Nat → Option Nat) : shX0 dA (7 + 2 * k + o) a x y z = shX2 dA o q x y z := by
  rw [show 7 + 2 * k + o = 1 + (6 + 2 * k + o) by omega, shX0_n1 dA (a + 1) rfl _ (by omega)]
  exact shX1_f6 dA hk q (by omega) o ho x y z
theorem shX0_f29 (dA : Nat → ClassId) {a k : Nat} (hk : k < 8) (q : Nat) (hq : q = a + (29 + 2 * k)) (o : Nat) (ho : o < 2) (x : Nat → Int32) (y : Nat → Int64) (z : Nat → Option Nat) : shX0 dA (29 + 2 * k + o) a x y z = shX2 dA o q x y z := by
  rw [show 29 + 2 * k + o = 23 + (6 + 2 * k + o) by omega, shX0_n23 dA (a + 23) rfl _ (by omega)]
  exact shX1_f6 dA hk q (by omega) o ho x y z
theorem shX0_f51 (dA : Nat → ClassId) {a k : Nat} (hk : k < 8) (q : Nat) (hq : q = a + (51 + 2 * k)) (o : Nat) (ho : o < 2) (x : Nat → Int32) (y : Nat → Int64) (z : Nat → Option Nat) : shX0 dA (51 + 2 * k + o) a x y z = shX2 dA o q x y z := by
  rw [show 51 + 2 * k + o = 45 + (6 + 2 * k + o) by omega, shX0_n45 dA (a + 45) rfl _ (by omega)]
  exact shX1_f6 dA hk q (by omega) o ho x y z
theorem shX0_f74 (dA : Nat → ClassId) {a k : Nat} (hk : k < 12) (q : Nat) (hq : q = a + (74 + 3 * k)) (o : Nat) (ho : o < 3) (x : Nat → Int32) (y : Nat → Int64) (z : Nat → Option Nat) : shX0 dA (74 + 3 * k + o) a x y z = shX4 dA o q x y z := by
  rw [show 74 + 3 * k + o = 67 + (7 + 3 * k + o) by omega, shX0_n67 dA (a + 67) rfl _ (by omega)]
  exact shX3_f7 dA hk q (by omega) o ho x y z
theorem shX0_f117 (dA : Nat → ClassId) {a k : Nat} (hk : k < 12) (q : Nat) (hq : q = a + (117 + 3 * k)) (o : Nat) (ho : o < 3) (x : Nat → Int32) (y : Nat → Int64) (z : Nat → Option Nat) : shX0 dA (117 + 3 * k + o) a x y z = shX4 dA o q x y z := by
  rw [show 117 + 3 * k + o = 110 + (7 + 3 * k + o) by omega, shX0_n110 dA (a + 110) rfl _ (by omega)]
  exact shX3_f7 dA hk q (by omega) o ho x y z
def shX11 (w : Nat) (dA : Nat → ClassId) : Shp := fun o a x y z => if o < 2 then (match o with | 0 => some (.inr (11, [.ref (a + 1), .int (x 1), .int (x 2), .ref w])) | 1 => some (.inl (dA 5, 4, .inr (.inr (.inr (.inr (fun j => some (a + (2 + 2 * j)))))))) | _ => none) else if o < 10 then (shX2 dA ((o - 2) % 2) (a + (2 + 2 * ((o - 2) / 2))) x y z) else none
theorem shX11_f2 {w : Nat} (dA : Nat → ClassId) {a k : Nat} (hk : k < 4) (q : Nat) (hq : q = a + (2 + 2 * k)) (o : Nat) (ho : o < 2) (x : Nat → Int32) (y : Nat → Int64) (z : Nat → Option Nat) : shX11 w dA (2 + 2 * k + o) a x y z = shX2 dA o q x y z := by
  subst hq
  unfold shX11
  rw [if_neg (by omega), if_pos (by omega), show (2 + 2 * k + o - 2) % 2 = o by omega, show (2 + 2 * k + o - 2) / 2 = k by omega]
def ob6 {α α2 α3 α4 α5 α6 β : Type} (x : Option (α × α2 × α3 × α4 × α5 × α6)) (k : α → α2 → α3 → α4 → α5 → α6 → Option β) : Option β := match x with
  | some a => k a.1 a.2.1 a.2.2.1 a.2.2.2.1 a.2.2.2.2.1 a.2.2.2.2.2
  | none => none
theorem ob6_some {α α2 α3 α4 α5 α6 β : Type} {x : Option (α × α2 × α3 × α4 × α5 × α6)} {k : α → α2 → α3 → α4 → α5 → α6 → Option β} {r : β} (h : ob6 x k = some r) : ∃ a b c d e f, x = some (a, b, c, d, e, f) ∧ k a b c d e f = some r := by
  cases x with
  | none => cases h
  | some a => exact ⟨a.1, a.2.1, a.2.2.1, a.2.2.2.1, a.2.2.2.2.1, a.2.2.2.2.2, rfl, h⟩
theorem rs6 {α β γ δ ε ζ : Type} {a e : α} {b f : β} {c g : γ} {d i : δ} {j k : ε} {x y : ζ} (h : some (a, b, c, d, j, x) = some (e, f, g, i, k, y)) : a = e ∧ b = f ∧ c = g ∧ d = i ∧ j = k ∧ x = y := ⟨(rs5 h).1, (rs5 h).2.1, (rs5 h).2.2.1, (rs5 h).2.2.2.1, Prod.mk.inj (rs5 h).2.2.2.2⟩
/-! X's cells without the collections' (they are the pool's) -/
def fX (b : Nat) : Nat → Prop := fun z => (b ≤ z ∧ z < b + 357) ∧ ¬ (z = b + 153 ∨ z = b + 154 ∨ (b + 160 ≤ z ∧ z ≤ b + 162) ∨ z = b + 165 ∨ z = b + 166 ∨ (b + 168 ≤ z ∧ z ≤ b + 173))
theorem shX0_hole (dA : Nat → ClassId) {o a : Nat} {x : Nat → Int32} {y : Nat → Int64} {z : Nat → Option Nat} (h : o = 153 ∨ o = 154 ∨ (160 ≤ o ∧ o ≤ 162) ∨ o = 165 ∨ o = 166 ∨ (168 ≤ o ∧ o ≤ 173)) : shX0 dA o a x y z = none := by
  have h1 : o = 153 ∨ o = 154 ∨ o = 160 ∨ o = 161 ∨ o = 162 ∨ o = 165 ∨ o = 166 ∨ o = 168 ∨ o = 169 ∨ o = 170 ∨ o = 171 ∨ o = 172 ∨ o = 173 := by omega
  rcases h1 with h | h | h | h | h | h | h | h | h | h | h | h | h <;> (subst h; rfl)
theorem rg_keepS {G : Gv} {a : Nat} {v : Mem} {H H1 : Heap} (h : rg G a 357 (shX0 G.2.1) v H) (hk : ∀ z, fX a z → z < H.size → H1[z]? = H[z]?) : rg G a 357 (shX0 G.2.1) v H1 := by
  intro o ho e he
  by_cases hc : o = 153 ∨ o = 154 ∨ (160 ≤ o ∧ o ≤ 162) ∨ o = 165 ∨ o = 166 ∨ (168 ≤ o ∧ o ≤ 173)
  · rw [shX0_hole G.2.1 hc] at he
    cases he
  · exact (h o ho e he).kept (hk _ (show fX _ _ from ⟨⟨by omega, by omega⟩, by omega⟩) (h o ho e he).lt)
theorem rg_keepX {G : Gv} {a : Nat} {v : Mem} {H H1 : Heap} {F : Nat → Prop} (h : rg G a 357 (shX0 G.2.1) v H) (oq : ∀ z : Nat, z < H.size → ¬ (F z ∨ H.size ≤ z) → H1[z]? = H[z]?) (hd : ∀ z, fX a z → ¬ F z) : rg G a 357 (shX0 G.2.1) v H1 :=
  rg_keepS h (fun z hz hl => oq z hl (fun k => k.elim (hd z hz) (fun k => by omega)))
theorem rg_keepqX {G : Gv} {a q : Nat} {v : Mem} {H H1 : Heap} (h : rg G a 357 (shX0 G.2.1) v H) (oq : ∀ z : Nat, z ≠ q → H1[z]? = H[z]?) (hd : ¬ fX a q) : rg G a 357 (shX0 G.2.1) v H1 :=
  rg_keepS h (fun z hz _ => oq z (fun e => hd (by rw [← e]; exact hz)))
