/-! THE COMPONENT: its state by kinds of cells (printed by gen/clayer.py) -/
set_option maxRecDepth 100000
/-- addresses (kind, index); ints of objects (kind, index, field); ints of rows; lengths of rows; long fields; beaches of days; programs of houses; days that are made; rows of trays; loose cells; cells that never change -/
abbrev CS : Type := (Nat → Nat → Nat) × (Nat → Nat → Nat → Int32) × (Nat → Nat → Nat → Int32) × (Nat → Nat → Nat) × (Nat → Int64) × (Nat → Nat) × (Nat → Option Nat) × (Nat → Bool) × (Nat → Option va_E) × (Nat → Option va_E) × (Nat → Option va_E)
def od (C : CS) : Nat → Nat → Nat := C.1
def oI (C : CS) : Nat → Nat → Nat → Int32 := C.2.1
def oA (C : CS) : Nat → Nat → Nat → Int32 := C.2.2.1
def oN (C : CS) : Nat → Nat → Nat := C.2.2.2.1
def oL (C : CS) : Nat → Int64 := C.2.2.2.2.1
def oB (C : CS) : Nat → Nat := C.2.2.2.2.2.1
def oP (C : CS) : Nat → Option Nat := C.2.2.2.2.2.2.1
def oO (C : CS) : Nat → Bool := C.2.2.2.2.2.2.2.1
def oT (C : CS) : Nat → Option va_E := C.2.2.2.2.2.2.2.2.1
def oM (C : CS) : Nat → Option va_E := C.2.2.2.2.2.2.2.2.2.1
def oZ (C : CS) : Nat → Option va_E := C.2.2.2.2.2.2.2.2.2.2
def up2 {α : Type} (f : Nat → Nat → α) (k j : Nat) (v : α) : Nat → Nat → α := va_up f k (va_up (f k) j v)
def up3 {α : Type} (f : Nat → Nat → Nat → α) (k j i : Nat) (v : α) : Nat → Nat → Nat → α := up2 f k j (va_up (f k j) i v)
def ud (C : CS) (k j a : Nat) : CS := (up2 (od C) k j a, C.2.1, C.2.2.1, C.2.2.2.1, C.2.2.2.2.1, C.2.2.2.2.2.1, C.2.2.2.2.2.2.1, C.2.2.2.2.2.2.2.1, C.2.2.2.2.2.2.2.2.1, C.2.2.2.2.2.2.2.2.2.1, C.2.2.2.2.2.2.2.2.2.2)
def uI (C : CS) (k j f : Nat) (v : Int32) : CS := (C.1, up3 (oI C) k j f v, C.2.2.1, C.2.2.2.1, C.2.2.2.2.1, C.2.2.2.2.2.1, C.2.2.2.2.2.2.1, C.2.2.2.2.2.2.2.1, C.2.2.2.2.2.2.2.2.1, C.2.2.2.2.2.2.2.2.2.1, C.2.2.2.2.2.2.2.2.2.2)
def uA (C : CS) (k j i : Nat) (v : Int32) : CS := (C.1, C.2.1, up3 (oA C) k j i v, C.2.2.2.1, C.2.2.2.2.1, C.2.2.2.2.2.1, C.2.2.2.2.2.2.1, C.2.2.2.2.2.2.2.1, C.2.2.2.2.2.2.2.2.1, C.2.2.2.2.2.2.2.2.2.1, C.2.2.2.2.2.2.2.2.2.2)
def uF (C : CS) (k j : Nat) (F : Nat → Int32) : CS := (C.1, C.2.1, up2 (oA C) k j F, C.2.2.2.1, C.2.2.2.2.1, C.2.2.2.2.2.1, C.2.2.2.2.2.2.1, C.2.2.2.2.2.2.2.1, C.2.2.2.2.2.2.2.2.1, C.2.2.2.2.2.2.2.2.2.1, C.2.2.2.2.2.2.2.2.2.2)
def uN (C : CS) (k j m : Nat) : CS := (C.1, C.2.1, C.2.2.1, up2 (oN C) k j m, C.2.2.2.2.1, C.2.2.2.2.2.1, C.2.2.2.2.2.2.1, C.2.2.2.2.2.2.2.1, C.2.2.2.2.2.2.2.2.1, C.2.2.2.2.2.2.2.2.2.1, C.2.2.2.2.2.2.2.2.2.2)
def uL (C : CS) (k : Nat) (v : Int64) : CS := (C.1, C.2.1, C.2.2.1, C.2.2.2.1, va_up (oL C) k v, C.2.2.2.2.2.1, C.2.2.2.2.2.2.1, C.2.2.2.2.2.2.2.1, C.2.2.2.2.2.2.2.2.1, C.2.2.2.2.2.2.2.2.2.1, C.2.2.2.2.2.2.2.2.2.2)
def uB (C : CS) (k : Nat) (v : Nat) : CS := (C.1, C.2.1, C.2.2.1, C.2.2.2.1, C.2.2.2.2.1, va_up (oB C) k v, C.2.2.2.2.2.2.1, C.2.2.2.2.2.2.2.1, C.2.2.2.2.2.2.2.2.1, C.2.2.2.2.2.2.2.2.2.1, C.2.2.2.2.2.2.2.2.2.2)
def uP (C : CS) (k : Nat) (v : Option Nat) : CS := (C.1, C.2.1, C.2.2.1, C.2.2.2.1, C.2.2.2.2.1, C.2.2.2.2.2.1, va_up (oP C) k v, C.2.2.2.2.2.2.2.1, C.2.2.2.2.2.2.2.2.1, C.2.2.2.2.2.2.2.2.2.1, C.2.2.2.2.2.2.2.2.2.2)
def uO (C : CS) (k : Nat) (v : Bool) : CS := (C.1, C.2.1, C.2.2.1, C.2.2.2.1, C.2.2.2.2.1, C.2.2.2.2.2.1, C.2.2.2.2.2.2.1, va_up (oO C) k v, C.2.2.2.2.2.2.2.2.1, C.2.2.2.2.2.2.2.2.2.1, C.2.2.2.2.2.2.2.2.2.2)
def uT (C : CS) (k : Nat) (v : Option va_E) : CS := (C.1, C.2.1, C.2.2.1, C.2.2.2.1, C.2.2.2.2.1, C.2.2.2.2.2.1, C.2.2.2.2.2.2.1, C.2.2.2.2.2.2.2.1, va_up (oT C) k v, C.2.2.2.2.2.2.2.2.2.1, C.2.2.2.2.2.2.2.2.2.2)
def uM (C : CS) (k : Nat) (v : Option va_E) : CS := (C.1, C.2.1, C.2.2.1, C.2.2.2.1, C.2.2.2.2.1, C.2.2.2.2.2.1, C.2.2.2.2.2.2.1, C.2.2.2.2.2.2.2.1, C.2.2.2.2.2.2.2.2.1, va_up (oM C) k v, C.2.2.2.2.2.2.2.2.2.2)
def uZ (C : CS) (k : Nat) (v : Option va_E) : CS := (C.1, C.2.1, C.2.2.1, C.2.2.2.1, C.2.2.2.2.1, C.2.2.2.2.2.1, C.2.2.2.2.2.2.1, C.2.2.2.2.2.2.2.1, C.2.2.2.2.2.2.2.2.1, C.2.2.2.2.2.2.2.2.2.1, va_up (oZ C) k v)
theorem up2_eq {α : Type} (f : Nat → Nat → α) (k j : Nat) (v : α) : up2 f k j v k j = v := by unfold up2; rw [va_up_self, va_up_self]
theorem up2_ne {α : Type} (f : Nat → Nat → α) {k j a b : Nat} (v : α) (h : a = k → b = j → False) : up2 f k j v a b = f a b := by
  unfold up2
  by_cases h1 : a = k
  · subst h1
    rw [va_up_self, va_up_ne _ _ (fun z => h rfl z)]
  · rw [va_up_ne _ _ h1]
theorem up3_eq {α : Type} (f : Nat → Nat → Nat → α) (k j i : Nat) (v : α) : up3 f k j i v k j i = v := by unfold up3; rw [up2_eq, va_up_self]
theorem up3_ne {α : Type} (f : Nat → Nat → Nat → α) {k j i a b c : Nat} (v : α) (h : a = k → b = j → c = i → False) : up3 f k j i v a b c = f a b c := by
  unfold up3
  by_cases h1 : a = k ∧ b = j
  · obtain ⟨rfl, rfl⟩ := h1
    rw [up2_eq, va_up_ne _ _ (fun z => h rfl rfl z)]
  · rw [up2_ne _ _ (fun x y => h1 ⟨x, y⟩)]
theorem up3_ne2 {α : Type} (f : Nat → Nat → Nat → α) {k j i a b : Nat} (v : α) (h : a = k → b = j → False) : up3 f k j i v a b = f a b := by
  unfold up3
  exact up2_ne _ _ h
theorem oI_eq (C : CS) (k j f : Nat) (v : Int32) : oI (uI C k j f v) k j f = v := up3_eq (oI C) k j f v
theorem oI_ne (C : CS) {k j f a b c : Nat} (v : Int32) (h : a = k → b = j → c = f → False) : oI (uI C k j f v) a b c = oI C a b c := up3_ne (oI C) v h
theorem oI_ne2 (C : CS) {k j f a b : Nat} (v : Int32) (h : a = k → b = j → False) : oI (uI C k j f v) a b = oI C a b := up3_ne2 (oI C) v h
theorem oA_eq (C : CS) (k j i : Nat) (v : Int32) : oA (uA C k j i v) k j i = v := up3_eq (oA C) k j i v
theorem oA_ne (C : CS) {k j i a b c : Nat} (v : Int32) (h : a = k → b = j → c = i → False) : oA (uA C k j i v) a b c = oA C a b c := up3_ne (oA C) v h
theorem oA_ne2 (C : CS) {k j i a b : Nat} (v : Int32) (h : a = k → b = j → False) : oA (uA C k j i v) a b = oA C a b := up3_ne2 (oA C) v h
theorem oA_F (C : CS) (k i : Nat) (F : Nat → Int32) : oA (uF C k i F) k i = F := up2_eq (oA C) k i F
theorem oA_F2 (C : CS) {k i a b : Nat} (F : Nat → Int32) (h : a = k → b = i → False) : oA (uF C k i F) a b = oA C a b := up2_ne (oA C) F h
def encX (C : CS) : List Value := [.ref (od C 0 0), .ref (od C 0 1), .int (oI C 0 30 2), .int (oI C 0 30 3), .int (oI C 0 30 4), .ref (od C 0 5), .ref (od C 0 6), .int (oI C 0 30 7), .long (oL C 8), .long (oL C 9), .ref (od C 2 0), .ref (od C 0 11), .int (oI C 0 30 12), .ref (od C 0 13), .ref (od C 0 14), .ref (od C 0 15), .int (oI C 0 30 16), .int (oI C 0 30 17), .int (oI C 0 30 18), .ref (od C 0 19), .ref (od C 3 4), .ref (od C 0 21), .int (oI C 0 30 22)]
def encD (C : CS) (j : Nat) : List Value := [.ref (oB C j), .ref (od C 11 j), .ref (od C 12 j), .ref (od C 13 j), .ref (od C 14 j), .ref (od C 4 j), .int (oI C 3 j 6), .int (oI C 3 j 7), .int (oI C 3 j 8)]
def encH (C : CS) (i : Nat) : List Value := [.ref (od C 6 i), .ref (od C 7 i), .int (oI C 5 i 2)]
def oneT (r : Option va_E) (a : Nat) : Value := match r with
  | none => .null
  | some _ => .ref a
def mkR (C : CS) (i : Nat) : Option Nat := if oO C (i + 1) then some (od C 2 (i + 1)) else none
def ceX (g : GG) (C : CS) (j : Nat) : Option va_E := match j with
  | 0 => some (.inl (g.2.2.2 4, 4, .inr (.inr (.inr (.inr fun t => some (od C 1 t))))))
  | 1 => some (.inl (g.2.2.2 2, 900, .inl (oA C 0 1)))
  | 5 => some (.inr (2, [.null, .null, .null, .null, .null, .int 0, .int (oI C 0 5 6), .int (oI C 0 5 7)]))
  | 6 => some (.inr (3, [.null, .null, .null, .null, .null, .int 0, .int (oI C 0 6 6)]))
  | 11 => some (.inl (g.2.2.2 6, 3, .inr (.inr (.inr (.inr (mkR C))))))
  | 13 => some (.inl (g.2.2.2 0, 8, .inl (oA C 0 13)))
  | 14 => some (.inl (g.2.2.2 0, 8, .inl (oA C 0 14)))
  | 15 => some (.inl (g.2.2.2 0, 8, .inl (oA C 0 15)))
  | 19 => some (.inl (g.2.2.2 0, 8, .inl (oA C 0 19)))
  | 21 => some (.inl (g.2.2.2 0, 5, .inl (oA C 0 21)))
  | 30 => some (.inr (0, encX C))
  | _ => none
def ceC (g : GG) (C : CS) (k j : Nat) : Option va_E := match k with
  | 0 => if oO C 0 = true then ceX g C j else none
  | 1 => if oO C 0 = true ∧ j < 4 then some (.inr (1, [oneT (oT C j) (od C 15 j)])) else none
  | 2 => if oO C j = true ∧ j < 4 then some (.inr (4, [.ref (od C 3 j), va_rf (oP C j)])) else none
  | 3 => if oO C j = true then some (.inr (5, encD C j)) else none
  | 4 => if oO C j = true then some (.inl (g.2.2.2 5, 8, .inr (.inr (.inr (.inr fun i => some (od C 5 (8 * j + i))))))) else none
  | 5 => if oO C (j / 8) = true then some (.inr (7, encH C j)) else none
  | 6 => if oO C (j / 8) = true then some (.inl (g.2.2.2 0, oN C 6 j, .inl (oA C 6 j))) else none
  | 7 => if oO C (j / 8) = true then some (.inl (g.2.2.2 0, oN C 7 j, .inl (oA C 7 j))) else none
  | 8 => oM C j
  | 9 => none
  | 10 => none
  | 11 => if oO C j = true then some (.inl (g.2.2.2 0, 6, .inl (oA C 11 j))) else none
  | 12 => if oO C j = true then some (.inl (g.2.2.2 0, 6, .inl (oA C 12 j))) else none
  | 13 => if oO C j = true then some (.inl (g.2.2.2 0, 6, .inl (oA C 13 j))) else none
  | 14 => if oO C j = true then some (.inl (g.2.2.2 0, 6, .inl (oA C 14 j))) else none
  | 15 => oT C j
  | _ + 16 => none
theorem ce_hi {g : GG} {C : CS} {k j : Nat} (h : 16 ≤ k) : ceC g C k j = none := by
  obtain ⟨n, rfl⟩ : ∃ n, k = n + 16 := ⟨k - 16, by omega⟩
  rfl
theorem ce_all {g : GG} {C C2 : CS} {P : Nat → Nat → Prop} (h0 : ∀ j, P 0 j → ceC g C2 0 j = ceC g C 0 j) (h1 : ∀ j, P 1 j → ceC g C2 1 j = ceC g C 1 j) (h2 : ∀ j, P 2 j → ceC g C2 2 j = ceC g C 2 j) (h3 : ∀ j, P 3 j → ceC g C2 3 j = ceC g C 3 j) (h4 : ∀ j, P 4 j → ceC g C2 4 j = ceC g C 4 j) (h5 : ∀ j, P 5 j → ceC g C2 5 j = ceC g C 5 j) (h6 : ∀ j, P 6 j → ceC g C2 6 j = ceC g C 6 j) (h7 : ∀ j, P 7 j → ceC g C2 7 j = ceC g C 7 j) (h8 : ∀ j, P 8 j → ceC g C2 8 j = ceC g C 8 j) (h11 : ∀ j, P 11 j → ceC g C2 11 j = ceC g C 11 j) (h12 : ∀ j, P 12 j → ceC g C2 12 j = ceC g C 12 j) (h13 : ∀ j, P 13 j → ceC g C2 13 j = ceC g C 13 j) (h14 : ∀ j, P 14 j → ceC g C2 14 j = ceC g C 14 j) (h15 : ∀ j, P 15 j → ceC g C2 15 j = ceC g C 15 j) : ∀ k j, P k j → ceC g C2 k j = ceC g C k j
  | 0, j, h => h0 j h
  | 1, j, h => h1 j h
  | 2, j, h => h2 j h
  | 3, j, h => h3 j h
  | 4, j, h => h4 j h
  | 5, j, h => h5 j h
  | 6, j, h => h6 j h
  | 7, j, h => h7 j h
  | 8, j, h => h8 j h
  | 9, _, _ => rfl
  | 10, _, _ => rfl
  | 11, j, h => h11 j h
  | 12, j, h => h12 j h
  | 13, j, h => h13 j h
  | 14, j, h => h14 j h
  | 15, j, h => h15 j h
  | _ + 16, _, _ => rfl
/-- the heap function holds the state -/
def Hold (g : GG) (σ : PH) (C : CS) : Prop := (∀ a, σ.1 ≤ a → σ.2 a = none) ∧ (∀ k j e, ceC g C k j = some e → σ.2 (od C k j) = some ((k, j), e)) ∧ ∀ a e, oZ C a = some e → σ.2 a = some ((9, 0), e)
/-- what is not the component's stays -/
def Fr (σ σ2 : PH) : Prop := σ.1 ≤ σ2.1 ∧ ∀ a t e, 20 ≤ t.1 → σ.2 a = some (t, e) → σ2.2 a = some (t, e)
theorem Fr.refl {σ : PH} : Fr σ σ := ⟨Nat.le_refl _, fun _ _ _ _ h => h⟩
theorem Fr.trans {σ σ2 σ3 : PH} (h : Fr σ σ2) (h2 : Fr σ2 σ3) : Fr σ σ3 := ⟨Nat.le_trans h.1 h2.1, fun a t e ht hh => h2.2 a t e ht (h.2 a t e ht hh)⟩
theorem Fr.hup {σ0 σ : PH} (F : Fr σ0 σ) {a : Nat} {t t2 : Tg} {e e2 : va_E} (ht : t.1 < 20) (h : σ.2 a = some (t, e)) : Fr σ0 (hup σ a t2 e2) := by
  refine ⟨F.1, fun q u x hu hq => ?_⟩
  have h1 := F.2 q u x hu hq
  by_cases hqa : q = a
  · subst hqa
    rw [h] at h1
    cases h1
    omega
  · show (if q = a then _ else σ.2 q) = _
    rw [if_neg hqa]
    exact h1
theorem Fr.hnew {σ0 σ : PH} (F : Fr σ0 σ) (hw : ∀ a, σ.1 ≤ a → σ.2 a = none) {t : Tg} {e : va_E} : Fr σ0 (hnew σ t e) := by
  refine ⟨Nat.le_trans F.1 (Nat.le_succ _), fun q u x hu hq => ?_⟩
  have h1 := F.2 q u x hu hq
  by_cases hqa : q = σ.1
  · rw [hw q (by omega)] at h1
    cases h1
  · show (if q = σ.1 then _ else σ.2 q) = _
    rw [if_neg hqa]
    exact h1
theorem Hold.lt {g : GG} {σ : PH} {C : CS} (H : Hold g σ C) {a : Nat} {x : Tg × va_E} (h : σ.2 a = some x) : a < σ.1 := by
  by_cases z : a < σ.1
  · exact z
  · rw [H.1 a (by omega)] at h
    cases h
theorem Hold.get {g : GG} {σ : PH} {C : CS} (H : Hold g σ C) {k j : Nat} {e : va_E} (h : ceC g C k j = some e) : σ.2 (od C k j) = some ((k, j), e) := H.2.1 k j e h
theorem Hold.z {g : GG} {σ : PH} {C : CS} (H : Hold g σ C) {a : Nat} {e : va_E} (h : oZ C a = some e) : σ.2 a = some ((9, 0), e) := H.2.2 a e h
theorem Hold.cast {g : GG} {σ : PH} {C C2 : CS} (H : Hold g σ C) (h : C = C2) : Hold g σ C2 := h ▸ H
/-- a cell changes -/
theorem Hold.set {g : GG} {σ : PH} {C C2 : CS} (H : Hold g σ C) {k j : Nat} {e e2 : va_E} (hc : ceC g C k j = some e) (h9 : k ≠ 9) (hd : od C2 = od C) (hz : oZ C2 = oZ C) (he : ceC g C2 k j = some e2) (ho : ∀ a b, (a = k → b = j → False) → ceC g C2 a b = ceC g C a b) : Hold g (hup σ (od C k j) (k, j) e2) C2 := by
  have hk := H.get hc
  refine ⟨fun a ha => ?_, fun a b x hx => ?_, fun a x hx => ?_⟩
  · have := H.lt hk
    show (if a = od C k j then _ else σ.2 a) = _
    rw [if_neg (by intro z; have h2 : σ.1 ≤ a := ha; omega)]
    exact H.1 a ha
  · rw [hd]
    show (if od C a b = od C k j then _ else σ.2 (od C a b)) = _
    by_cases h : a = k ∧ b = j
    · obtain ⟨rfl, rfl⟩ := h
      rw [if_pos rfl]
      rw [he] at hx
      cases hx
      rfl
    · have h2 : ceC g C a b = some x := by rw [← ho a b (fun x y => h ⟨x, y⟩)]; exact hx
      have h3 := H.get h2
      rw [if_neg]
      · exact h3
      · intro z
        rw [z, hk] at h3
        cases h3
        exact h ⟨rfl, rfl⟩
  · rw [hz] at hx
    have h3 := H.z hx
    show (if a = od C k j then _ else σ.2 a) = _
    rw [if_neg]
    · exact h3
    · intro z
      rw [z, hk] at h3
      cases h3
      exact h9 rfl
/-- a cell is new, at its place -/
theorem Hold.new_ {g : GG} {σ : PH} {C C2 : CS} (H : Hold g σ C) {k j : Nat} {e : va_E} (h9 : k ≠ 9) (hd : od C2 k j = σ.1) (hd2 : ∀ a b, (a = k → b = j → False) → od C2 a b = od C a b) (hz : oZ C2 = oZ C) (he : ceC g C2 k j = some e) (ho : ∀ a b, (a = k → b = j → False) → ceC g C2 a b = ceC g C a b) : Hold g (hnew σ (k, j) e) C2 := by
  refine ⟨fun a ha => ?_, fun a b x hx => ?_, fun a x hx => ?_⟩
  · have ha2 : σ.1 + 1 ≤ a := ha
    show (if a = σ.1 then _ else σ.2 a) = _
    rw [if_neg (by omega)]
    exact H.1 a (by omega)
  · show (if od C2 a b = σ.1 then _ else σ.2 (od C2 a b)) = _
    by_cases h : a = k ∧ b = j
    · obtain ⟨rfl, rfl⟩ := h
      rw [if_pos hd]
      rw [he] at hx
      cases hx
      rfl
    · have h2 : ceC g C a b = some x := by rw [← ho a b (fun x y => h ⟨x, y⟩)]; exact hx
      have h3 := H.get h2
      have h4 := H.lt h3
      rw [hd2 a b (fun x y => h ⟨x, y⟩), if_neg (by omega)]
      exact h3
  · rw [hz] at hx
    have h3 := H.z hx
    have h4 := H.lt h3
    show (if a = σ.1 then _ else σ.2 a) = _
    rw [if_neg (by omega)]
    exact h3
/-- other tags, the same cells -/
def retag (σ : PH) (f : Tg → Tg) : PH := (σ.1, fun a => (σ.2 a).map fun x => (f x.1, x.2))
theorem Rep.retag {g : GG} {σ : PH} {H : Heap} (h : Rep g σ H) (f : Tg → Tg) : Rep g (retag σ f) H := by
  obtain ⟨k1, k2, k3, k4⟩ := h
  refine ⟨k1, k2, k3, fun a t e ha => ?_⟩
  show gz g ≤ a ∧ _
  have h2 : (σ.2 a).map (fun x => (f x.1, x.2)) = some (t, e) := ha
  cases hq : σ.2 a with
  | none => rw [hq] at h2; cases h2
  | some x =>
    obtain ⟨t0, e0⟩ := x
    rw [hq] at h2
    cases h2
    exact k4 a t0 e0 hq
theorem w_retag {g : GG} {mt : MT} {kc ks pc : Nat} {L : List (Option Value)} {st : List Value} {σ : PH} (f : Tg → Tg) (k : Wp g mt kc ks pc L st (retag σ f)) : Wp g mt kc ks pc L st σ := by
  intro p e s m args below meth c H locs ls cells slots C hR hl hL h1 h2
  exact k p e s m args below meth c H locs ls cells slots C (hR.retag f) hl hL h1 h2
theorem Fr.retag {σ0 σ : PH} (F : Fr σ0 σ) {f : Tg → Tg} (hf : ∀ t : Tg, 20 ≤ t.1 → f t = t) : Fr σ0 (retag σ f) := by
  refine ⟨F.1, fun a t e ht h => ?_⟩
  have h1 := F.2 a t e ht h
  show (σ.2 a).map _ = _
  rw [h1]
  show some (f t, e) = _
  rw [hf t ht]
/-- a contract that changes nothing -/
def Cr (g : GG) (mi : MI) (d : Nat) (args : List Value) (C : CS) (v : Option Value) : Prop := ∀ σ : PH, Hold g σ C → Ct g mi d 0 0 args σ (fun w σ2 => w = v ∧ σ2 = σ) noX
def mtR (g : GG) (mi : MI) (d : Nat) (σ : PH) (v : Option Value) : MT := mtOf g mi d 0 0 (fun w σ2 => w = v ∧ σ2 = σ) noX
/-- a contract that changes the state as P says -/
def Cp (g : GG) (mi : MI) (d mc ms : Nat) (args : List Value) (C : CS) (v : Option Value) (P : CS → Prop) : Prop := ∀ σ : PH, Hold g σ C → Ct g mi d mc ms args σ (fun w σ2 => w = v ∧ ∃ C2, P C2 ∧ Hold g σ2 C2 ∧ Fr σ σ2) noX
def mtC (g : GG) (mi : MI) (d mc ms : Nat) (σ : PH) (v : Option Value) (P : CS → Prop) : MT := mtOf g mi d mc ms (fun w σ2 => w = v ∧ ∃ C2, P C2 ∧ Hold g σ2 C2 ∧ Fr σ σ2) noX
section CCON
variable {g : GG} {mi : MI} {d mc ms : Nat} {args : List Value} {C : CS} {v : Option Value} {P : CS → Prop}
theorem Cr.start (L : List (Option Value)) (hy : plainName mi.1.cls = true) (hh : mi.2.2.2.2 = []) (hn : (lg_sl args).length ≤ mi.2.2.1) (hL : asL 0 L = lv_args 0 args) (k : ∀ σ : PH, Hold g σ C → Wp g (mtR g mi d σ v) 0 0 0 L [] σ) : Cr g mi d args C v :=
  fun σ H => Ct.start L hy hh hn hL fun _ => k σ H
theorem Cp.start (L : List (Option Value)) (hy : plainName mi.1.cls = true) (hh : mi.2.2.2.2 = []) (hn : (lg_sl args).length ≤ mi.2.2.1) (hL : asL 0 L = lv_args 0 args) (k : ∀ σ0 σ : PH, Hold g σ C → Fr σ0 σ → Wp g (mtC g mi d mc ms σ0 v P) mc ms 0 L [] σ) : Cp g mi d mc ms args C v P :=
  fun σ H => Ct.start L hy hh hn hL fun _ => k σ σ H Fr.refl
theorem Cr.toP (h : Cr g mi d args C v) (hP : P C) : Cp g mi d 0 0 args C v P := fun σ H => Ct.mono (h σ H) (fun w σ2 hw => ⟨hw.1, C, hP, by rw [hw.2]; exact H, by rw [hw.2]; exact Fr.refl⟩) (fun _ _ _ hq => hq)
theorem Cp.mono {P2 : CS → Prop} (h : Cp g mi d mc ms args C v P) (hP : ∀ C2, P C2 → P2 C2) : Cp g mi d mc ms args C v P2 := fun σ H => Ct.mono (h σ H) (fun w σ2 hw => ⟨hw.1, by obtain ⟨C2, h1, h2, h3⟩ := hw.2; exact ⟨C2, hP C2 h1, h2, h3⟩⟩) (fun _ _ _ hq => hq)
theorem Cr.cast {v2 : Option Value} (h : Cr g mi d args C v) (hv : v = v2) : Cr g mi d args C v2 := hv ▸ h
theorem Cp.cast {v2 : Option Value} (h : Cp g mi d mc ms args C v P) (hv : v = v2) : Cp g mi d mc ms args C v2 P := hv ▸ h
end CCON
section CROWS
variable {g : GG} {mt : MT} {kc ks pc : Nat} {L : List (Option Value)} {st rest stk As : List Value} {σ σ0 : PH} {C C2 : CS} {mi : MI} {d2 mc2 ms2 n : Nat} {v : Option Value} {P : CS → Prop}
theorem cr_call {b ci N index : Nat} {Cn : String} {T : u_T} {ty : Nat → FieldType} {t : Tg} {fs : List Value} (d : decode mt.1.2.1 pc = .ok (.invokevirtual index, 3)) (q : Cond.methodLink mt.1.1 index mi.1 ∈ lw_all) (ok : MOkV mi n) (hC : ClOk ci Cn T N ty) (hcls : mi.1.cls = Cn) (hb : σ.2 b = some (t, .inr (ci, fs))) (hd : d2 + 1 ≤ mt.2.1.1) (hM : Cr g mi d2 (.ref b :: As) C v) (H : Hold g σ C) (hn : As.length = n) (hst : stk = As.reverse ++ .ref b :: rest) (hcat : (rest.map fun v => v.category).sum ≤ 8) (kk : Wp g mt kc ks (pc + 3) L (v.toList ++ rest) σ) : Wp g mt kc ks pc L stk σ :=
  w_callV (kc := kc) (ks := ks) (mc2 := 0) (ms2 := 0) d q ok hC hcls (hM σ H) hd hb hn hst hcat (fun w σ2 hw => by rw [hw.1, hw.2]; exact kk) (fun _ _ _ hx => absurd hx id)
theorem cp_call {b ci N index : Nat} {Cn : String} {T : u_T} {ty : Nat → FieldType} {t : Tg} {fs : List Value} (d : decode mt.1.2.1 pc = .ok (.invokevirtual index, 3)) (q : Cond.methodLink mt.1.1 index mi.1 ∈ lw_all) (ok : MOkV mi n) (hC : ClOk ci Cn T N ty) (hcls : mi.1.cls = Cn) (hb : σ.2 b = some (t, .inr (ci, fs))) (hd : d2 + 1 ≤ mt.2.1.1) (hM : Cp g mi d2 mc2 ms2 (.ref b :: As) C v P) (H : Hold g σ C) (F : Fr σ0 σ) (hn : As.length = n) (hst : stk = As.reverse ++ .ref b :: rest) (hcat : (rest.map fun v => v.category).sum ≤ 8) (kk : ∀ (σ : PH) (C2 : CS), P C2 → Hold g σ C2 → Fr σ0 σ → Wp g mt kc ks (pc + 3) L (v.toList ++ rest) σ) : Wp g mt (kc + mc2) (ks + ms2) pc L stk σ :=
  w_callV d q ok hC hcls (hM σ H) hd hb hn hst hcat (fun w σ2 hw => by obtain ⟨h1, C2, h2, h3, h4⟩ := hw; rw [h1]; exact kk σ2 C2 h2 h3 (F.trans h4)) (fun _ _ _ hx => absurd hx id)
theorem cs_call {index : Nat} (d : decode mt.1.2.1 pc = .ok (.invokestatic index, 3)) (q : Cond.methodLink mt.1.1 index mi.1 ∈ lw_all) (ok : MOkS mi n) (hd : d2 + 1 ≤ mt.2.1.1) (hM : Ms g mi d2 As v) (hn : As.length = n) (hst : stk = As.reverse ++ rest) (hcat : (rest.map fun v => v.category).sum ≤ 8) (kk : Wp g mt kc ks (pc + 3) L (v.toList ++ rest) σ) : Wp g mt kc ks pc L stk σ :=
  w_callS (kc := kc) (ks := ks) (mc2 := 0) (ms2 := 0) d q ok (hM σ) hd hn hst hcat (fun w σ2 hw => by rw [hw.1, hw.2]; exact kk) (fun _ _ _ hx => absurd hx id)
theorem csp_call {index : Nat} (d : decode mt.1.2.1 pc = .ok (.invokestatic index, 3)) (q : Cond.methodLink mt.1.1 index mi.1 ∈ lw_all) (ok : MOkS mi n) (hd : d2 + 1 ≤ mt.2.1.1) (hM : Cp g mi d2 mc2 ms2 As C v P) (H : Hold g σ C) (F : Fr σ0 σ) (hn : As.length = n) (hst : stk = As.reverse ++ rest) (hcat : (rest.map fun v => v.category).sum ≤ 8) (kk : ∀ (σ : PH) (C2 : CS), P C2 → Hold g σ C2 → Fr σ0 σ → Wp g mt kc ks (pc + 3) L (v.toList ++ rest) σ) : Wp g mt (kc + mc2) (ks + ms2) pc L stk σ :=
  w_callS d q ok (hM σ H) hd hn hst hcat (fun w σ2 hw => by obtain ⟨h1, C2, h2, h3, h4⟩ := hw; rw [h1]; exact kk σ2 C2 h2 h3 (F.trans h4)) (fun _ _ _ hx => absurd hx id)
theorem c_put {k j ci f N index : Nat} {Cn : String} {T : u_T} {ty : Nat → FieldType} {fs : List Value} {v : Value} (C2 : CS) (d : decode mt.1.2.1 pc = .ok (.putfield index, 3)) (hC : ClOk ci Cn T N ty) (hk : f < N) (q : Cond.fieldLink mt.1.1 index (T f).1 (T f).2.1 (T f).2.2.1 ∈ lw_all) (hfin : (T f).2.2.2 = false) (H : Hold g σ C) (F : Fr σ0 σ) (hc : ceC g C k j = some (.inr (ci, fs))) (h9 : k ≠ 9 ∧ k < 20) (hn : narrow (ty f) v = v) (hfit : fits (ty f) v = true) (hl9 : f < fs.length) (hd : od C2 = od C) (hz : oZ C2 = oZ C) (he : ceC g C2 k j = some (.inr (ci, fs.set f v))) (ho : ∀ a b, (a = k → b = j → False) → ceC g C2 a b = ceC g C a b) (kk : ∀ σ, Hold g σ C2 → Fr σ0 σ → Wp g mt kc ks (pc + 3) L st σ) : Wp g mt kc ks pc L (v :: .ref (od C k j) :: st) σ :=
  w_putf d hC hk q hfin (H.get hc) hn hfit hl9 (kk _ (H.set hc h9.1 hd hz he ho) (F.hup h9.2 (H.get hc)))
theorem c_putN {k j ci f N index : Nat} {Cn host : String} {T : u_T} {ty : Nat → FieldType} {fs : List Value} {v : Value} (C2 : CS) (d : decode mt.1.2.1 pc = .ok (.putfield index, 3)) (hC : ClOk ci Cn T N ty) (hk : f < N) (q : Cond.fieldLinkNest mt.1.1 index (T f).1 (T f).2.1 (T f).2.2.1 host ∈ lw_tbl) (hfin : (T f).2.2.2 = false) (H : Hold g σ C) (F : Fr σ0 σ) (hc : ceC g C k j = some (.inr (ci, fs))) (h9 : k ≠ 9 ∧ k < 20) (hn : narrow (ty f) v = v) (hfit : fits (ty f) v = true) (hl9 : f < fs.length) (hd : od C2 = od C) (hz : oZ C2 = oZ C) (he : ceC g C2 k j = some (.inr (ci, fs.set f v))) (ho : ∀ a b, (a = k → b = j → False) → ceC g C2 a b = ceC g C a b) (kk : ∀ σ, Hold g σ C2 → Fr σ0 σ → Wp g mt kc ks (pc + 3) L st σ) : Wp g mt kc ks pc L (v :: .ref (od C k j) :: st) σ :=
  w_putfN d hC hk q hfin (H.get hc) hn hfit hl9 (kk _ (H.set hc h9.1 hd hz he ho) (F.hup h9.2 (H.get hc)))
theorem c_iast {k j m i : Nat} {f : Nat → Int32} {x : Int32} (C2 : CS) (d : decode mt.1.2.1 pc = .ok (.iastore, 1)) (H : Hold g σ C) (F : Fr σ0 σ) (hc : ceC g C k j = some (.inl (g.2.2.2 0, m, .inl f))) (hi : i < m) (hm : m < 2147483648) (h9 : k ≠ 9 ∧ k < 20) (hd : od C2 = od C) (hz : oZ C2 = oZ C) (he : ceC g C2 k j = some (.inl (g.2.2.2 0, m, .inl (upd f i x)))) (ho : ∀ a b, (a = k → b = j → False) → ceC g C2 a b = ceC g C a b) (kk : ∀ σ, Hold g σ C2 → Fr σ0 σ → Wp g mt kc ks (pc + 1) L st σ) : Wp g mt kc ks pc L (.int x :: .int (nI i) :: .ref (od C k j) :: st) σ :=
  w_iastN d (H.get hc) hi hm (kk _ (H.set hc h9.1 hd hz he ho) (F.hup h9.2 (H.get hc)))
end CROWS
section CES
variable {g : GG} {C : CS} {j i d : Nat}
theorem ce_X (h : oO C 0 = true) : ceC g C 0 30 = some (.inr (0, encX C)) := if_pos h
theorem ce_tape (h : oO C 0 = true) : ceC g C 0 1 = some (.inl (g.2.2.2 2, 900, .inl (oA C 0 1))) := if_pos h
theorem ce_bad (h : oO C 0 = true) : ceC g C 0 5 = some (.inr (2, [.null, .null, .null, .null, .null, .int 0, .int (oI C 0 5 6), .int (oI C 0 5 7)])) := if_pos h
theorem ce_ref (h : oO C 0 = true) : ceC g C 0 6 = some (.inr (3, [.null, .null, .null, .null, .null, .int 0, .int (oI C 0 6 6)])) := if_pos h
theorem ce_r13 (h : oO C 0 = true) : ceC g C 0 13 = some (.inl (g.2.2.2 0, 8, .inl (oA C 0 13))) := if_pos h
theorem ce_r14 (h : oO C 0 = true) : ceC g C 0 14 = some (.inl (g.2.2.2 0, 8, .inl (oA C 0 14))) := if_pos h
theorem ce_r15 (h : oO C 0 = true) : ceC g C 0 15 = some (.inl (g.2.2.2 0, 8, .inl (oA C 0 15))) := if_pos h
theorem ce_r19 (h : oO C 0 = true) : ceC g C 0 19 = some (.inl (g.2.2.2 0, 8, .inl (oA C 0 19))) := if_pos h
theorem ce_r21 (h : oO C 0 = true) : ceC g C 0 21 = some (.inl (g.2.2.2 0, 5, .inl (oA C 0 21))) := if_pos h
theorem ce_house (h : oO C j = true) (h4 : j < 4) : ceC g C 2 j = some (.inr (4, [.ref (od C 3 j), va_rf (oP C j)])) := if_pos ⟨h, h4⟩
theorem ce_day (h : oO C j = true) : ceC g C 3 j = some (.inr (5, encD C j)) := if_pos h
theorem ce_heaps (h : oO C j = true) : ceC g C 4 j = some (.inl (g.2.2.2 5, 8, .inr (.inr (.inr (.inr fun i => some (od C 5 (8 * j + i))))))) := if_pos h
theorem ce_heap (h : oO C (i / 8) = true) : ceC g C 5 i = some (.inr (7, encH C i)) := if_pos h
theorem ce_who (h : oO C (i / 8) = true) : ceC g C 6 i = some (.inl (g.2.2.2 0, oN C 6 i, .inl (oA C 6 i))) := if_pos h
theorem ce_tim (h : oO C (i / 8) = true) : ceC g C 7 i = some (.inl (g.2.2.2 0, oN C 7 i, .inl (oA C 7 i))) := if_pos h
theorem ce_a11 (h : oO C j = true) : ceC g C 11 j = some (.inl (g.2.2.2 0, 6, .inl (oA C 11 j))) := if_pos h
theorem ce_a12 (h : oO C j = true) : ceC g C 12 j = some (.inl (g.2.2.2 0, 6, .inl (oA C 12 j))) := if_pos h
theorem ce_a13 (h : oO C j = true) : ceC g C 13 j = some (.inl (g.2.2.2 0, 6, .inl (oA C 13 j))) := if_pos h
theorem ce_a14 (h : oO C j = true) : ceC g C 14 j = some (.inl (g.2.2.2 0, 6, .inl (oA C 14 j))) := if_pos h
theorem on8 (h : oO C j = true) (hd : d < 8) : oO C ((8 * j + d) / 8) = true := by rw [show (8 * j + d) / 8 = j by omega]; exact h
theorem ot_I30 {f : Nat} {v : Int32} : ∀ a b, (a = 0 → b = 30 → False) → ceC g (uI C 0 30 f v) a b = ceC g C a b := ce_all (P := fun a b => a = 0 → b = 30 → False) (fun b h => by
  show (if oO C 0 = true then ceX g (uI C 0 30 f v) b else none) = (if oO C 0 = true then ceX g C b else none)
  congr 1
  unfold ceX
  split <;> first | rfl | exact (h rfl rfl).elim) (fun _ _ => rfl) (fun _ _ => rfl) (fun _ _ => rfl) (fun _ _ => rfl) (fun _ _ => rfl) (fun _ _ => rfl) (fun _ _ => rfl) (fun _ _ => rfl) (fun _ _ => rfl) (fun _ _ => rfl) (fun _ _ => rfl) (fun _ _ => rfl) (fun _ _ => rfl)
theorem ot_L30 {f : Nat} {v : Int64} : ∀ a b, (a = 0 → b = 30 → False) → ceC g (uL C f v) a b = ceC g C a b := ce_all (P := fun a b => a = 0 → b = 30 → False) (fun b h => by
  show (if oO C 0 = true then ceX g (uL C f v) b else none) = (if oO C 0 = true then ceX g C b else none)
  congr 1
  unfold ceX
  split <;> first | rfl | exact (h rfl rfl).elim) (fun _ _ => rfl) (fun _ _ => rfl) (fun _ _ => rfl) (fun _ _ => rfl) (fun _ _ => rfl) (fun _ _ => rfl) (fun _ _ => rfl) (fun _ _ => rfl) (fun _ _ => rfl) (fun _ _ => rfl) (fun _ _ => rfl) (fun _ _ => rfl) (fun _ _ => rfl)
theorem ot_I5 {f : Nat} {v : Int32} : ∀ a b, (a = 0 → b = 5 → False) → ceC g (uI C 0 5 f v) a b = ceC g C a b := ce_all (P := fun a b => a = 0 → b = 5 → False) (fun b h => by
  show (if oO C 0 = true then ceX g (uI C 0 5 f v) b else none) = (if oO C 0 = true then ceX g C b else none)
  congr 1
  unfold ceX
  split <;> first | rfl | exact (h rfl rfl).elim) (fun _ _ => rfl) (fun _ _ => rfl) (fun _ _ => rfl) (fun _ _ => rfl) (fun _ _ => rfl) (fun _ _ => rfl) (fun _ _ => rfl) (fun _ _ => rfl) (fun _ _ => rfl) (fun _ _ => rfl) (fun _ _ => rfl) (fun _ _ => rfl) (fun _ _ => rfl)
theorem ot_I6 {f : Nat} {v : Int32} : ∀ a b, (a = 0 → b = 6 → False) → ceC g (uI C 0 6 f v) a b = ceC g C a b := ce_all (P := fun a b => a = 0 → b = 6 → False) (fun b h => by
  show (if oO C 0 = true then ceX g (uI C 0 6 f v) b else none) = (if oO C 0 = true then ceX g C b else none)
  congr 1
  unfold ceX
  split <;> first | rfl | exact (h rfl rfl).elim) (fun _ _ => rfl) (fun _ _ => rfl) (fun _ _ => rfl) (fun _ _ => rfl) (fun _ _ => rfl) (fun _ _ => rfl) (fun _ _ => rfl) (fun _ _ => rfl) (fun _ _ => rfl) (fun _ _ => rfl) (fun _ _ => rfl) (fun _ _ => rfl) (fun _ _ => rfl)
theorem ot_XA1 {i : Nat} {v : Int32} : ∀ a b, (a = 0 → b = 1 → False) → ceC g (uA C 0 1 i v) a b = ceC g C a b := ce_all (P := fun a b => a = 0 → b = 1 → False) (fun b h => by
  show (if oO C 0 = true then ceX g (uA C 0 1 i v) b else none) = (if oO C 0 = true then ceX g C b else none)
  congr 1
  unfold ceX
  split <;> first | rfl | exact (h rfl rfl).elim) (fun _ _ => rfl) (fun _ _ => rfl) (fun _ _ => rfl) (fun _ _ => rfl) (fun _ _ => rfl) (fun _ _ => rfl) (fun _ _ => rfl) (fun _ _ => rfl) (fun _ _ => rfl) (fun _ _ => rfl) (fun _ _ => rfl) (fun _ _ => rfl) (fun _ _ => rfl)
theorem ot_XF1 {v : Nat → Int32} : ∀ a b, (a = 0 → b = 1 → False) → ceC g (uF C 0 1 v) a b = ceC g C a b := ce_all (P := fun a b => a = 0 → b = 1 → False) (fun b h => by
  show (if oO C 0 = true then ceX g (uF C 0 1 v) b else none) = (if oO C 0 = true then ceX g C b else none)
  congr 1
  unfold ceX
  split <;> first | rfl | exact (h rfl rfl).elim) (fun _ _ => rfl) (fun _ _ => rfl) (fun _ _ => rfl) (fun _ _ => rfl) (fun _ _ => rfl) (fun _ _ => rfl) (fun _ _ => rfl) (fun _ _ => rfl) (fun _ _ => rfl) (fun _ _ => rfl) (fun _ _ => rfl) (fun _ _ => rfl) (fun _ _ => rfl)
theorem ot_XA13 {i : Nat} {v : Int32} : ∀ a b, (a = 0 → b = 13 → False) → ceC g (uA C 0 13 i v) a b = ceC g C a b := ce_all (P := fun a b => a = 0 → b = 13 → False) (fun b h => by
  show (if oO C 0 = true then ceX g (uA C 0 13 i v) b else none) = (if oO C 0 = true then ceX g C b else none)
  congr 1
  unfold ceX
  split <;> first | rfl | exact (h rfl rfl).elim) (fun _ _ => rfl) (fun _ _ => rfl) (fun _ _ => rfl) (fun _ _ => rfl) (fun _ _ => rfl) (fun _ _ => rfl) (fun _ _ => rfl) (fun _ _ => rfl) (fun _ _ => rfl) (fun _ _ => rfl) (fun _ _ => rfl) (fun _ _ => rfl) (fun _ _ => rfl)
theorem ot_XF13 {v : Nat → Int32} : ∀ a b, (a = 0 → b = 13 → False) → ceC g (uF C 0 13 v) a b = ceC g C a b := ce_all (P := fun a b => a = 0 → b = 13 → False) (fun b h => by
  show (if oO C 0 = true then ceX g (uF C 0 13 v) b else none) = (if oO C 0 = true then ceX g C b else none)
  congr 1
  unfold ceX
  split <;> first | rfl | exact (h rfl rfl).elim) (fun _ _ => rfl) (fun _ _ => rfl) (fun _ _ => rfl) (fun _ _ => rfl) (fun _ _ => rfl) (fun _ _ => rfl) (fun _ _ => rfl) (fun _ _ => rfl) (fun _ _ => rfl) (fun _ _ => rfl) (fun _ _ => rfl) (fun _ _ => rfl) (fun _ _ => rfl)
theorem ot_XA14 {i : Nat} {v : Int32} : ∀ a b, (a = 0 → b = 14 → False) → ceC g (uA C 0 14 i v) a b = ceC g C a b := ce_all (P := fun a b => a = 0 → b = 14 → False) (fun b h => by
  show (if oO C 0 = true then ceX g (uA C 0 14 i v) b else none) = (if oO C 0 = true then ceX g C b else none)
  congr 1
  unfold ceX
  split <;> first | rfl | exact (h rfl rfl).elim) (fun _ _ => rfl) (fun _ _ => rfl) (fun _ _ => rfl) (fun _ _ => rfl) (fun _ _ => rfl) (fun _ _ => rfl) (fun _ _ => rfl) (fun _ _ => rfl) (fun _ _ => rfl) (fun _ _ => rfl) (fun _ _ => rfl) (fun _ _ => rfl) (fun _ _ => rfl)
theorem ot_XF14 {v : Nat → Int32} : ∀ a b, (a = 0 → b = 14 → False) → ceC g (uF C 0 14 v) a b = ceC g C a b := ce_all (P := fun a b => a = 0 → b = 14 → False) (fun b h => by
  show (if oO C 0 = true then ceX g (uF C 0 14 v) b else none) = (if oO C 0 = true then ceX g C b else none)
  congr 1
  unfold ceX
  split <;> first | rfl | exact (h rfl rfl).elim) (fun _ _ => rfl) (fun _ _ => rfl) (fun _ _ => rfl) (fun _ _ => rfl) (fun _ _ => rfl) (fun _ _ => rfl) (fun _ _ => rfl) (fun _ _ => rfl) (fun _ _ => rfl) (fun _ _ => rfl) (fun _ _ => rfl) (fun _ _ => rfl) (fun _ _ => rfl)
theorem ot_XA15 {i : Nat} {v : Int32} : ∀ a b, (a = 0 → b = 15 → False) → ceC g (uA C 0 15 i v) a b = ceC g C a b := ce_all (P := fun a b => a = 0 → b = 15 → False) (fun b h => by
  show (if oO C 0 = true then ceX g (uA C 0 15 i v) b else none) = (if oO C 0 = true then ceX g C b else none)
  congr 1
  unfold ceX
  split <;> first | rfl | exact (h rfl rfl).elim) (fun _ _ => rfl) (fun _ _ => rfl) (fun _ _ => rfl) (fun _ _ => rfl) (fun _ _ => rfl) (fun _ _ => rfl) (fun _ _ => rfl) (fun _ _ => rfl) (fun _ _ => rfl) (fun _ _ => rfl) (fun _ _ => rfl) (fun _ _ => rfl) (fun _ _ => rfl)
theorem ot_XF15 {v : Nat → Int32} : ∀ a b, (a = 0 → b = 15 → False) → ceC g (uF C 0 15 v) a b = ceC g C a b := ce_all (P := fun a b => a = 0 → b = 15 → False) (fun b h => by
  show (if oO C 0 = true then ceX g (uF C 0 15 v) b else none) = (if oO C 0 = true then ceX g C b else none)
  congr 1
  unfold ceX
  split <;> first | rfl | exact (h rfl rfl).elim) (fun _ _ => rfl) (fun _ _ => rfl) (fun _ _ => rfl) (fun _ _ => rfl) (fun _ _ => rfl) (fun _ _ => rfl) (fun _ _ => rfl) (fun _ _ => rfl) (fun _ _ => rfl) (fun _ _ => rfl) (fun _ _ => rfl) (fun _ _ => rfl) (fun _ _ => rfl)
theorem ot_XA19 {i : Nat} {v : Int32} : ∀ a b, (a = 0 → b = 19 → False) → ceC g (uA C 0 19 i v) a b = ceC g C a b := ce_all (P := fun a b => a = 0 → b = 19 → False) (fun b h => by
  show (if oO C 0 = true then ceX g (uA C 0 19 i v) b else none) = (if oO C 0 = true then ceX g C b else none)
  congr 1
  unfold ceX
  split <;> first | rfl | exact (h rfl rfl).elim) (fun _ _ => rfl) (fun _ _ => rfl) (fun _ _ => rfl) (fun _ _ => rfl) (fun _ _ => rfl) (fun _ _ => rfl) (fun _ _ => rfl) (fun _ _ => rfl) (fun _ _ => rfl) (fun _ _ => rfl) (fun _ _ => rfl) (fun _ _ => rfl) (fun _ _ => rfl)
theorem ot_XF19 {v : Nat → Int32} : ∀ a b, (a = 0 → b = 19 → False) → ceC g (uF C 0 19 v) a b = ceC g C a b := ce_all (P := fun a b => a = 0 → b = 19 → False) (fun b h => by
  show (if oO C 0 = true then ceX g (uF C 0 19 v) b else none) = (if oO C 0 = true then ceX g C b else none)
  congr 1
  unfold ceX
  split <;> first | rfl | exact (h rfl rfl).elim) (fun _ _ => rfl) (fun _ _ => rfl) (fun _ _ => rfl) (fun _ _ => rfl) (fun _ _ => rfl) (fun _ _ => rfl) (fun _ _ => rfl) (fun _ _ => rfl) (fun _ _ => rfl) (fun _ _ => rfl) (fun _ _ => rfl) (fun _ _ => rfl) (fun _ _ => rfl)
theorem ot_XA21 {i : Nat} {v : Int32} : ∀ a b, (a = 0 → b = 21 → False) → ceC g (uA C 0 21 i v) a b = ceC g C a b := ce_all (P := fun a b => a = 0 → b = 21 → False) (fun b h => by
  show (if oO C 0 = true then ceX g (uA C 0 21 i v) b else none) = (if oO C 0 = true then ceX g C b else none)
  congr 1
  unfold ceX
  split <;> first | rfl | exact (h rfl rfl).elim) (fun _ _ => rfl) (fun _ _ => rfl) (fun _ _ => rfl) (fun _ _ => rfl) (fun _ _ => rfl) (fun _ _ => rfl) (fun _ _ => rfl) (fun _ _ => rfl) (fun _ _ => rfl) (fun _ _ => rfl) (fun _ _ => rfl) (fun _ _ => rfl) (fun _ _ => rfl)
theorem ot_XF21 {v : Nat → Int32} : ∀ a b, (a = 0 → b = 21 → False) → ceC g (uF C 0 21 v) a b = ceC g C a b := ce_all (P := fun a b => a = 0 → b = 21 → False) (fun b h => by
  show (if oO C 0 = true then ceX g (uF C 0 21 v) b else none) = (if oO C 0 = true then ceX g C b else none)
  congr 1
  unfold ceX
  split <;> first | rfl | exact (h rfl rfl).elim) (fun _ _ => rfl) (fun _ _ => rfl) (fun _ _ => rfl) (fun _ _ => rfl) (fun _ _ => rfl) (fun _ _ => rfl) (fun _ _ => rfl) (fun _ _ => rfl) (fun _ _ => rfl) (fun _ _ => rfl) (fun _ _ => rfl) (fun _ _ => rfl) (fun _ _ => rfl)
theorem ot_D {f : Nat} {v : Int32} : ∀ a b, (a = 3 → b = j → False) → ceC g (uI C 3 j f v) a b = ceC g C a b := ce_all (P := fun a b => a = 3 → b = j → False) (fun _ _ => rfl) (fun _ _ => rfl) (fun _ _ => rfl) (fun b h => by
  show (if oO C b = true then (some (.inr (5, encD (uI C 3 j f v) b)) : Option va_E) else none) = (if oO C b = true then (some (.inr (5, encD C b)) : Option va_E) else none)
  rw [show encD (uI C 3 j f v) b = encD C b by unfold encD; rw [show oI (uI C 3 j f v) 3 b = oI C 3 b from (up3_ne2 (oI C) v (fun _ y => h rfl y) : up3 (oI C) 3 j f v 3 b = oI C 3 b)]; rfl]) (fun _ _ => rfl) (fun _ _ => rfl) (fun _ _ => rfl) (fun _ _ => rfl) (fun _ _ => rfl) (fun _ _ => rfl) (fun _ _ => rfl) (fun _ _ => rfl) (fun _ _ => rfl) (fun _ _ => rfl)
theorem ot_B {v : Nat} : ∀ a b, (a = 3 → b = j → False) → ceC g (uB C j v) a b = ceC g C a b := ce_all (P := fun a b => a = 3 → b = j → False) (fun _ _ => rfl) (fun _ _ => rfl) (fun _ _ => rfl) (fun b h => by
  show (if oO C b = true then (some (.inr (5, encD (uB C j v) b)) : Option va_E) else none) = (if oO C b = true then (some (.inr (5, encD C b)) : Option va_E) else none)
  rw [show encD (uB C j v) b = encD C b by unfold encD; rw [show oB (uB C j v) b = oB C b from va_up_ne _ _ (fun y => h rfl y)]; rfl]) (fun _ _ => rfl) (fun _ _ => rfl) (fun _ _ => rfl) (fun _ _ => rfl) (fun _ _ => rfl) (fun _ _ => rfl) (fun _ _ => rfl) (fun _ _ => rfl) (fun _ _ => rfl) (fun _ _ => rfl)
theorem ot_P {v : Option Nat} : ∀ a b, (a = 2 → b = j → False) → ceC g (uP C j v) a b = ceC g C a b := ce_all (P := fun a b => a = 2 → b = j → False) (fun _ _ => rfl) (fun _ _ => rfl) (fun b h => by
  show (if oO C b = true ∧ b < 4 then (some (.inr (4, [.ref (od C 3 b), va_rf (oP (uP C j v) b)])) : Option va_E) else none) = (if oO C b = true ∧ b < 4 then (some (.inr (4, [.ref (od C 3 b), va_rf (oP C b)])) : Option va_E) else none)
  rw [show oP (uP C j v) b = oP C b from va_up_ne _ _ (fun y => h rfl y)]) (fun _ _ => rfl) (fun _ _ => rfl) (fun _ _ => rfl) (fun _ _ => rfl) (fun _ _ => rfl) (fun _ _ => rfl) (fun _ _ => rfl) (fun _ _ => rfl) (fun _ _ => rfl) (fun _ _ => rfl) (fun _ _ => rfl)
theorem ot_H {f : Nat} {v : Int32} : ∀ a b, (a = 5 → b = i → False) → ceC g (uI C 5 i f v) a b = ceC g C a b := ce_all (P := fun a b => a = 5 → b = i → False) (fun _ _ => rfl) (fun _ _ => rfl) (fun _ _ => rfl) (fun _ _ => rfl) (fun _ _ => rfl) (fun b h => by
  show (if oO C (b / 8) = true then (some (.inr (7, encH (uI C 5 i f v) b)) : Option va_E) else none) = (if oO C (b / 8) = true then (some (.inr (7, encH C b)) : Option va_E) else none)
  rw [show encH (uI C 5 i f v) b = encH C b by unfold encH; rw [show oI (uI C 5 i f v) 5 b = oI C 5 b from (up3_ne2 (oI C) v (fun _ y => h rfl y) : up3 (oI C) 5 i f v 5 b = oI C 5 b)]; rfl]) (fun _ _ => rfl) (fun _ _ => rfl) (fun _ _ => rfl) (fun _ _ => rfl) (fun _ _ => rfl) (fun _ _ => rfl) (fun _ _ => rfl) (fun _ _ => rfl)
theorem ot_A6 {m : Nat} {v : Int32} : ∀ a b, (a = 6 → b = i → False) → ceC g (uA C 6 i m v) a b = ceC g C a b := ce_all (P := fun a b => a = 6 → b = i → False) (fun _ _ => rfl) (fun _ _ => rfl) (fun _ _ => rfl) (fun _ _ => rfl) (fun _ _ => rfl) (fun _ _ => rfl) (fun b h => by
  show (if oO C (b / 8) = true then (some (.inl (g.2.2.2 0, oN C 6 b, .inl (oA (uA C 6 i m v) 6 b))) : Option va_E) else none) = (if oO C (b / 8) = true then (some (.inl (g.2.2.2 0, oN C 6 b, .inl (oA C 6 b))) : Option va_E) else none)
  rw [show oA (uA C 6 i m v) 6 b = oA C 6 b from (up3_ne2 (oA C) v (fun _ y => h rfl y) : up3 (oA C) 6 i m v 6 b = _)]) (fun _ _ => rfl) (fun _ _ => rfl) (fun _ _ => rfl) (fun _ _ => rfl) (fun _ _ => rfl) (fun _ _ => rfl) (fun _ _ => rfl)
theorem ot_F6 {v : Nat → Int32} : ∀ a b, (a = 6 → b = i → False) → ceC g (uF C 6 i v) a b = ceC g C a b := ce_all (P := fun a b => a = 6 → b = i → False) (fun _ _ => rfl) (fun _ _ => rfl) (fun _ _ => rfl) (fun _ _ => rfl) (fun _ _ => rfl) (fun _ _ => rfl) (fun b h => by
  show (if oO C (b / 8) = true then (some (.inl (g.2.2.2 0, oN C 6 b, .inl (oA (uF C 6 i v) 6 b))) : Option va_E) else none) = (if oO C (b / 8) = true then (some (.inl (g.2.2.2 0, oN C 6 b, .inl (oA C 6 b))) : Option va_E) else none)
  rw [show oA (uF C 6 i v) 6 b = oA C 6 b from (up2_ne (oA C) v (fun _ y => h rfl y) : up2 (oA C) 6 i v 6 b = _)]) (fun _ _ => rfl) (fun _ _ => rfl) (fun _ _ => rfl) (fun _ _ => rfl) (fun _ _ => rfl) (fun _ _ => rfl) (fun _ _ => rfl)
theorem ot_A7 {m : Nat} {v : Int32} : ∀ a b, (a = 7 → b = i → False) → ceC g (uA C 7 i m v) a b = ceC g C a b := ce_all (P := fun a b => a = 7 → b = i → False) (fun _ _ => rfl) (fun _ _ => rfl) (fun _ _ => rfl) (fun _ _ => rfl) (fun _ _ => rfl) (fun _ _ => rfl) (fun _ _ => rfl) (fun b h => by
  show (if oO C (b / 8) = true then (some (.inl (g.2.2.2 0, oN C 7 b, .inl (oA (uA C 7 i m v) 7 b))) : Option va_E) else none) = (if oO C (b / 8) = true then (some (.inl (g.2.2.2 0, oN C 7 b, .inl (oA C 7 b))) : Option va_E) else none)
  rw [show oA (uA C 7 i m v) 7 b = oA C 7 b from (up3_ne2 (oA C) v (fun _ y => h rfl y) : up3 (oA C) 7 i m v 7 b = _)]) (fun _ _ => rfl) (fun _ _ => rfl) (fun _ _ => rfl) (fun _ _ => rfl) (fun _ _ => rfl) (fun _ _ => rfl)
theorem ot_F7 {v : Nat → Int32} : ∀ a b, (a = 7 → b = i → False) → ceC g (uF C 7 i v) a b = ceC g C a b := ce_all (P := fun a b => a = 7 → b = i → False) (fun _ _ => rfl) (fun _ _ => rfl) (fun _ _ => rfl) (fun _ _ => rfl) (fun _ _ => rfl) (fun _ _ => rfl) (fun _ _ => rfl) (fun b h => by
  show (if oO C (b / 8) = true then (some (.inl (g.2.2.2 0, oN C 7 b, .inl (oA (uF C 7 i v) 7 b))) : Option va_E) else none) = (if oO C (b / 8) = true then (some (.inl (g.2.2.2 0, oN C 7 b, .inl (oA C 7 b))) : Option va_E) else none)
  rw [show oA (uF C 7 i v) 7 b = oA C 7 b from (up2_ne (oA C) v (fun _ y => h rfl y) : up2 (oA C) 7 i v 7 b = _)]) (fun _ _ => rfl) (fun _ _ => rfl) (fun _ _ => rfl) (fun _ _ => rfl) (fun _ _ => rfl) (fun _ _ => rfl)
theorem ot_A11 {m : Nat} {v : Int32} : ∀ a b, (a = 11 → b = j → False) → ceC g (uA C 11 j m v) a b = ceC g C a b := ce_all (P := fun a b => a = 11 → b = j → False) (fun _ _ => rfl) (fun _ _ => rfl) (fun _ _ => rfl) (fun _ _ => rfl) (fun _ _ => rfl) (fun _ _ => rfl) (fun _ _ => rfl) (fun _ _ => rfl) (fun _ _ => rfl) (fun b h => by
  show (if oO C b = true then (some (.inl (g.2.2.2 0, 6, .inl (oA (uA C 11 j m v) 11 b))) : Option va_E) else none) = (if oO C b = true then (some (.inl (g.2.2.2 0, 6, .inl (oA C 11 b))) : Option va_E) else none)
  rw [show oA (uA C 11 j m v) 11 b = oA C 11 b from (up3_ne2 (oA C) v (fun _ y => h rfl y) : up3 (oA C) 11 j m v 11 b = _)]) (fun _ _ => rfl) (fun _ _ => rfl) (fun _ _ => rfl) (fun _ _ => rfl)
theorem ot_F11 {v : Nat → Int32} : ∀ a b, (a = 11 → b = j → False) → ceC g (uF C 11 j v) a b = ceC g C a b := ce_all (P := fun a b => a = 11 → b = j → False) (fun _ _ => rfl) (fun _ _ => rfl) (fun _ _ => rfl) (fun _ _ => rfl) (fun _ _ => rfl) (fun _ _ => rfl) (fun _ _ => rfl) (fun _ _ => rfl) (fun _ _ => rfl) (fun b h => by
  show (if oO C b = true then (some (.inl (g.2.2.2 0, 6, .inl (oA (uF C 11 j v) 11 b))) : Option va_E) else none) = (if oO C b = true then (some (.inl (g.2.2.2 0, 6, .inl (oA C 11 b))) : Option va_E) else none)
  rw [show oA (uF C 11 j v) 11 b = oA C 11 b from (up2_ne (oA C) v (fun _ y => h rfl y) : up2 (oA C) 11 j v 11 b = _)]) (fun _ _ => rfl) (fun _ _ => rfl) (fun _ _ => rfl) (fun _ _ => rfl)
theorem ot_A12 {m : Nat} {v : Int32} : ∀ a b, (a = 12 → b = j → False) → ceC g (uA C 12 j m v) a b = ceC g C a b := ce_all (P := fun a b => a = 12 → b = j → False) (fun _ _ => rfl) (fun _ _ => rfl) (fun _ _ => rfl) (fun _ _ => rfl) (fun _ _ => rfl) (fun _ _ => rfl) (fun _ _ => rfl) (fun _ _ => rfl) (fun _ _ => rfl) (fun _ _ => rfl) (fun b h => by
  show (if oO C b = true then (some (.inl (g.2.2.2 0, 6, .inl (oA (uA C 12 j m v) 12 b))) : Option va_E) else none) = (if oO C b = true then (some (.inl (g.2.2.2 0, 6, .inl (oA C 12 b))) : Option va_E) else none)
  rw [show oA (uA C 12 j m v) 12 b = oA C 12 b from (up3_ne2 (oA C) v (fun _ y => h rfl y) : up3 (oA C) 12 j m v 12 b = _)]) (fun _ _ => rfl) (fun _ _ => rfl) (fun _ _ => rfl)
theorem ot_F12 {v : Nat → Int32} : ∀ a b, (a = 12 → b = j → False) → ceC g (uF C 12 j v) a b = ceC g C a b := ce_all (P := fun a b => a = 12 → b = j → False) (fun _ _ => rfl) (fun _ _ => rfl) (fun _ _ => rfl) (fun _ _ => rfl) (fun _ _ => rfl) (fun _ _ => rfl) (fun _ _ => rfl) (fun _ _ => rfl) (fun _ _ => rfl) (fun _ _ => rfl) (fun b h => by
  show (if oO C b = true then (some (.inl (g.2.2.2 0, 6, .inl (oA (uF C 12 j v) 12 b))) : Option va_E) else none) = (if oO C b = true then (some (.inl (g.2.2.2 0, 6, .inl (oA C 12 b))) : Option va_E) else none)
  rw [show oA (uF C 12 j v) 12 b = oA C 12 b from (up2_ne (oA C) v (fun _ y => h rfl y) : up2 (oA C) 12 j v 12 b = _)]) (fun _ _ => rfl) (fun _ _ => rfl) (fun _ _ => rfl)
theorem ot_A13 {m : Nat} {v : Int32} : ∀ a b, (a = 13 → b = j → False) → ceC g (uA C 13 j m v) a b = ceC g C a b := ce_all (P := fun a b => a = 13 → b = j → False) (fun _ _ => rfl) (fun _ _ => rfl) (fun _ _ => rfl) (fun _ _ => rfl) (fun _ _ => rfl) (fun _ _ => rfl) (fun _ _ => rfl) (fun _ _ => rfl) (fun _ _ => rfl) (fun _ _ => rfl) (fun _ _ => rfl) (fun b h => by
  show (if oO C b = true then (some (.inl (g.2.2.2 0, 6, .inl (oA (uA C 13 j m v) 13 b))) : Option va_E) else none) = (if oO C b = true then (some (.inl (g.2.2.2 0, 6, .inl (oA C 13 b))) : Option va_E) else none)
  rw [show oA (uA C 13 j m v) 13 b = oA C 13 b from (up3_ne2 (oA C) v (fun _ y => h rfl y) : up3 (oA C) 13 j m v 13 b = _)]) (fun _ _ => rfl) (fun _ _ => rfl)
theorem ot_F13 {v : Nat → Int32} : ∀ a b, (a = 13 → b = j → False) → ceC g (uF C 13 j v) a b = ceC g C a b := ce_all (P := fun a b => a = 13 → b = j → False) (fun _ _ => rfl) (fun _ _ => rfl) (fun _ _ => rfl) (fun _ _ => rfl) (fun _ _ => rfl) (fun _ _ => rfl) (fun _ _ => rfl) (fun _ _ => rfl) (fun _ _ => rfl) (fun _ _ => rfl) (fun _ _ => rfl) (fun b h => by
  show (if oO C b = true then (some (.inl (g.2.2.2 0, 6, .inl (oA (uF C 13 j v) 13 b))) : Option va_E) else none) = (if oO C b = true then (some (.inl (g.2.2.2 0, 6, .inl (oA C 13 b))) : Option va_E) else none)
  rw [show oA (uF C 13 j v) 13 b = oA C 13 b from (up2_ne (oA C) v (fun _ y => h rfl y) : up2 (oA C) 13 j v 13 b = _)]) (fun _ _ => rfl) (fun _ _ => rfl)
theorem ot_A14 {m : Nat} {v : Int32} : ∀ a b, (a = 14 → b = j → False) → ceC g (uA C 14 j m v) a b = ceC g C a b := ce_all (P := fun a b => a = 14 → b = j → False) (fun _ _ => rfl) (fun _ _ => rfl) (fun _ _ => rfl) (fun _ _ => rfl) (fun _ _ => rfl) (fun _ _ => rfl) (fun _ _ => rfl) (fun _ _ => rfl) (fun _ _ => rfl) (fun _ _ => rfl) (fun _ _ => rfl) (fun _ _ => rfl) (fun b h => by
  show (if oO C b = true then (some (.inl (g.2.2.2 0, 6, .inl (oA (uA C 14 j m v) 14 b))) : Option va_E) else none) = (if oO C b = true then (some (.inl (g.2.2.2 0, 6, .inl (oA C 14 b))) : Option va_E) else none)
  rw [show oA (uA C 14 j m v) 14 b = oA C 14 b from (up3_ne2 (oA C) v (fun _ y => h rfl y) : up3 (oA C) 14 j m v 14 b = _)]) (fun _ _ => rfl)
theorem ot_F14 {v : Nat → Int32} : ∀ a b, (a = 14 → b = j → False) → ceC g (uF C 14 j v) a b = ceC g C a b := ce_all (P := fun a b => a = 14 → b = j → False) (fun _ _ => rfl) (fun _ _ => rfl) (fun _ _ => rfl) (fun _ _ => rfl) (fun _ _ => rfl) (fun _ _ => rfl) (fun _ _ => rfl) (fun _ _ => rfl) (fun _ _ => rfl) (fun _ _ => rfl) (fun _ _ => rfl) (fun _ _ => rfl) (fun b h => by
  show (if oO C b = true then (some (.inl (g.2.2.2 0, 6, .inl (oA (uF C 14 j v) 14 b))) : Option va_E) else none) = (if oO C b = true then (some (.inl (g.2.2.2 0, 6, .inl (oA C 14 b))) : Option va_E) else none)
  rw [show oA (uF C 14 j v) 14 b = oA C 14 b from (up2_ne (oA C) v (fun _ y => h rfl y) : up2 (oA C) 14 j v 14 b = _)]) (fun _ _ => rfl)
theorem ot_M {v : Option va_E} : ∀ a b, (a = 8 → b = i → False) → ceC g (uM C i v) a b = ceC g C a b := ce_all (P := fun a b => a = 8 → b = i → False) (fun _ _ => rfl) (fun _ _ => rfl) (fun _ _ => rfl) (fun _ _ => rfl) (fun _ _ => rfl) (fun _ _ => rfl) (fun _ _ => rfl) (fun _ _ => rfl) (fun b h => va_up_ne _ _ (fun y => h rfl y)) (fun _ _ => rfl) (fun _ _ => rfl) (fun _ _ => rfl) (fun _ _ => rfl) (fun _ _ => rfl)
end CES
