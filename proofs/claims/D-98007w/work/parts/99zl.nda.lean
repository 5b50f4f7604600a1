/-! a new day's cells; X.mark with a new house (printed by gen/nda.py) -/
set_option maxRecDepth 100000
/-- a cell of day j, or of its house -/
def isN (j k i : Nat) : Prop := (k = 2 ∧ i = j) ∨ (k = 3 ∧ i = j) ∨ (k = 4 ∧ i = j) ∨ ((11 ≤ k ∧ k ≤ 14) ∧ i = j) ∨ ((k = 5 ∨ k = 6 ∨ k = 7) ∧ i / 8 = j)
def ndF (j y z a : Nat) (f : Nat → Nat → Nat) : Nat → Nat → Nat := fun k i =>
  if k = 2 ∧ i = j then a else if k = 3 ∧ i = j then y else if k = 4 ∧ i = j then z + 15 else if (11 ≤ k ∧ k ≤ 14) ∧ i = j then z + k else if k = 5 ∧ i / 8 = j then z + (16 + 3 * (i % 8)) else if k = 6 ∧ i / 8 = j then z + (17 + 3 * (i % 8)) else if k = 7 ∧ i / 8 = j then z + (17 + 3 * (i % 8) + 1) else f k i
def ndI (j : Nat) (f : Nat → Nat → Nat → Int32) : Nat → Nat → Nat → Int32 := fun k i => if k = 3 ∧ i = j then (fun x => if x = 8 then nI 60 else 0) else if k = 5 ∧ i / 8 = j then (fun _ => 0) else f k i
def ndA (j : Nat) (f : Nat → Nat → Nat → Int32) : Nat → Nat → Nat → Int32 := fun k i => if (11 ≤ k ∧ k ≤ 14) ∧ i = j ∨ (k = 6 ∨ k = 7) ∧ i / 8 = j then (fun _ => 0) else f k i
def ndN (j : Nat) (f : Nat → Nat → Nat) : Nat → Nat → Nat := fun k i => if (k = 6 ∨ k = 7) ∧ i / 8 = j then 4 else f k i
def ndZ (g : GG) (j z : Nat) (f : Nat → Option va_E) : Nat → Option va_E := fun q => if z ≤ q ∧ q < z + 11 then ((dayL g j z)[q - z]?).map (fun x => x.2) else f q
/-- the state with a new day j: its object at y, its cells from z on, its house at a -/
def ndC (g : GG) (C : CS) (j y z a : Nat) : CS := (ndF j y z a C.1, ndI j C.2.1, ndA j C.2.2.1, ndN j C.2.2.2.1, C.2.2.2.2.1, va_up C.2.2.2.2.2.1 j z, va_up C.2.2.2.2.2.2.1 j none, va_up C.2.2.2.2.2.2.2.1 j true, C.2.2.2.2.2.2.2.2.1, C.2.2.2.2.2.2.2.2.2.1, ndZ g j z C.2.2.2.2.2.2.2.2.2.2)
section ND
variable {g : GG} {C : CS} {j y z a k i d : Nat}
theorem ndF_ne {f : Nat → Nat → Nat} (h : ¬ isN j k i) : ndF j y z a f k i = f k i := by
  unfold isN at h
  unfold ndF
  rw [if_neg (by omega), if_neg (by omega), if_neg (by omega), if_neg (by omega), if_neg (by omega), if_neg (by omega), if_neg (by omega)]
theorem nd_od (h : ¬ isN j k i) : od (ndC g C j y z a) k i = od C k i := ndF_ne h
theorem nd_od2 : od (ndC g C j y z a) 2 j = a := if_pos ⟨rfl, rfl⟩
theorem nd_od3 : od (ndC g C j y z a) 3 j = y := by
  show ndF j y z a C.1 3 j = y
  unfold ndF
  rw [if_neg (by omega), if_pos ⟨rfl, rfl⟩]
theorem nd_od4 : od (ndC g C j y z a) 4 j = z + 15 := by
  show ndF j y z a C.1 4 j = _
  unfold ndF
  rw [if_neg (by omega), if_neg (by omega), if_pos ⟨rfl, rfl⟩]
theorem nd_od1 (h : 11 ≤ k ∧ k ≤ 14) : od (ndC g C j y z a) k j = z + k := by
  show ndF j y z a C.1 k j = _
  unfold ndF
  rw [if_neg (by omega), if_neg (by omega), if_neg (by omega), if_pos ⟨h, rfl⟩]
theorem nd_od5 (hd : d < 8) : od (ndC g C j y z a) 5 (8 * j + d) = z + (16 + 3 * d) := by
  show ndF j y z a C.1 5 (8 * j + d) = _
  unfold ndF
  rw [if_neg (by omega), if_neg (by omega), if_neg (by omega), if_neg (by omega), if_pos ⟨rfl, by omega⟩, show (8 * j + d) % 8 = d by omega]
theorem nd_od6 (hd : d < 8) : od (ndC g C j y z a) 6 (8 * j + d) = z + (17 + 3 * d) := by
  show ndF j y z a C.1 6 (8 * j + d) = _
  unfold ndF
  rw [if_neg (by omega), if_neg (by omega), if_neg (by omega), if_neg (by omega), if_neg (by omega), if_pos ⟨rfl, by omega⟩, show (8 * j + d) % 8 = d by omega]
theorem nd_od7 (hd : d < 8) : od (ndC g C j y z a) 7 (8 * j + d) = z + (17 + 3 * d + 1) := by
  show ndF j y z a C.1 7 (8 * j + d) = _
  unfold ndF
  rw [if_neg (by omega), if_neg (by omega), if_neg (by omega), if_neg (by omega), if_neg (by omega), if_neg (by omega), if_pos ⟨rfl, by omega⟩, show (8 * j + d) % 8 = d by omega]
theorem nd_oI (h : ¬ isN j k i) : oI (ndC g C j y z a) k i = oI C k i := by
  unfold isN at h
  show ndI j C.2.1 k i = _
  unfold ndI
  rw [if_neg (by omega), if_neg (by omega)]
  rfl
theorem nd_oA (h : ¬ isN j k i) : oA (ndC g C j y z a) k i = oA C k i := by
  unfold isN at h
  show ndA j C.2.2.1 k i = _
  unfold ndA
  rw [if_neg (by omega)]
  rfl
theorem nd_oN (h : ¬ isN j k i) : oN (ndC g C j y z a) k i = oN C k i := by
  unfold isN at h
  show ndN j C.2.2.2.1 k i = _
  unfold ndN
  rw [if_neg (by omega)]
  rfl
theorem nd_oO : oO (ndC g C j y z a) j = true := va_up_self (oO C) j true
theorem nd_oOn (h : i ≠ j) : oO (ndC g C j y z a) i = oO C i := va_up_ne (oO C) true h
theorem nd_I3 : oI (ndC g C j y z a) 3 j = fun x => if x = 8 then nI 60 else 0 := by
  show ndI j C.2.1 3 j = _
  unfold ndI
  rw [if_pos ⟨rfl, rfl⟩]
theorem nd_I5 (h : i / 8 = j) : oI (ndC g C j y z a) 5 i = fun _ => 0 := by
  show ndI j C.2.1 5 i = _
  unfold ndI
  rw [if_neg (by omega), if_pos ⟨rfl, h⟩]
theorem nd_A1 (h : 11 ≤ k ∧ k ≤ 14) : oA (ndC g C j y z a) k j = fun _ => 0 := by
  show ndA j C.2.2.1 k j = _
  unfold ndA
  rw [if_pos (Or.inl ⟨h, rfl⟩)]
theorem nd_A6 (hk : k = 6 ∨ k = 7) (h : i / 8 = j) : oA (ndC g C j y z a) k i = fun _ => 0 := by
  show ndA j C.2.2.1 k i = _
  unfold ndA
  rw [if_pos (Or.inr ⟨hk, h⟩)]
theorem nd_N6 (hk : k = 6 ∨ k = 7) (h : i / 8 = j) : oN (ndC g C j y z a) k i = 4 := by
  show ndN j C.2.2.2.1 k i = _
  unfold ndN
  rw [if_pos ⟨hk, h⟩]
theorem nd_B : oB (ndC g C j y z a) j = z := va_up_self (oB C) j z
theorem nd_Bn (h : i ≠ j) : oB (ndC g C j y z a) i = oB C i := va_up_ne (oB C) z h
theorem nd_P : oP (ndC g C j y z a) j = none := va_up_self (oP C) j none
theorem nd_Pn (h : i ≠ j) : oP (ndC g C j y z a) i = oP C i := va_up_ne (oP C) none h
theorem nd_Z (h : i < 11) : oZ (ndC g C j y z a) (z + i) = ((dayL g j z)[i]?).map (fun x => x.2) := by
  show ndZ g j z C.2.2.2.2.2.2.2.2.2.2 (z + i) = _
  unfold ndZ
  rw [if_pos ⟨by omega, by omega⟩, Nat.add_sub_cancel_left]
theorem nd_encD : encD (ndC g C j y z a) j = [.ref (z + 0), .ref (z + 11), .ref (z + 12), .ref (z + 13), .ref (z + 14), .ref (z + 15), .int 0, .int 0, .int (nI 60)] := by
  unfold encD
  rw [nd_B, nd_od1 (by omega), nd_od1 (by omega), nd_od1 (by omega), nd_od1 (by omega), nd_od4, nd_I3]
  rfl
theorem nd_encDn (hi : i ≠ j) : encD (ndC g C j y z a) i = encD C i := by
  unfold encD
  rw [nd_Bn hi, nd_od (by unfold isN; omega), nd_od (by unfold isN; omega), nd_od (by unfold isN; omega), nd_od (by unfold isN; omega), nd_od (by unfold isN; omega), nd_oI (by unfold isN; omega)]
theorem nd_encHn (hi : i / 8 ≠ j) : encH (ndC g C j y z a) i = encH C i := by
  unfold encH
  rw [nd_od (by unfold isN; omega), nd_od (by unfold isN; omega), nd_oI (by unfold isN; omega)]
theorem nd_ceX (hj : j < 5) (h0 : j ≠ 0 ∧ j ≠ 4) (hi : i ≠ 11) : ceX g (ndC g C j y z a) i = ceX g C i := by
  have hX : encX (ndC g C j y z a) = encX C := by
    unfold encX
    simp only [nd_od (g := g) (C := C) (j := j) (y := y) (z := z) (a := a) (k := 0) (by unfold isN; omega), nd_od (g := g) (C := C) (j := j) (y := y) (z := z) (a := a) (k := 2) (i := 0) (by unfold isN; omega), nd_od (g := g) (C := C) (j := j) (y := y) (z := z) (a := a) (k := 3) (i := 4) (by unfold isN; omega), nd_oI (g := g) (C := C) (j := j) (y := y) (z := z) (a := a) (k := 0) (by unfold isN; omega)]
    rfl
  have h1 : ∀ t, od (ndC g C j y z a) 1 t = od C 1 t := fun t => nd_od (by unfold isN; omega)
  have hA : ∀ t, oA (ndC g C j y z a) 0 t = oA C 0 t := fun t => nd_oA (by unfold isN; omega)
  have hI : ∀ t, oI (ndC g C j y z a) 0 t = oI C 0 t := fun t => nd_oI (by unfold isN; omega)
  unfold ceX
  simp only [hX, h1, hA, hI]
  split <;> first | rfl | exact absurd rfl hi
theorem nd_ce (hj : j < 5) (hx : j ≠ 0 ∧ (oO C 0 = true → j ≠ 4)) (h : ¬ isN j k i) (h4 : k ≠ 4) (h11 : k = 0 → i = 11 → False) : ceC g (ndC g C j y z a) k i = ceC g C k i := by
  have h9 : oO (ndC g C j y z a) 0 = oO C 0 := nd_oOn (fun z => hx.1 z.symm)
  by_cases hk : 16 ≤ k
  · rw [ce_hi hk, ce_hi hk]
  have hkk : k = 0 ∨ k = 1 ∨ k = 2 ∨ k = 3 ∨ k = 4 ∨ k = 5 ∨ k = 6 ∨ k = 7 ∨ k = 8 ∨ k = 9 ∨ k = 10 ∨ k = 11 ∨ k = 12 ∨ k = 13 ∨ k = 14 ∨ k = 15 := by omega
  rcases hkk with rfl | rfl | rfl | rfl | rfl | rfl | rfl | rfl | rfl | rfl | rfl | rfl | rfl | rfl | rfl | rfl
  · show (if oO (ndC g C j y z a) 0 = true then ceX g (ndC g C j y z a) i else none) = if oO C 0 = true then ceX g C i else none
    rw [h9]
    by_cases h8 : oO C 0 = true
    · rw [if_pos h8, if_pos h8]
      exact nd_ceX hj ⟨hx.1, hx.2 h8⟩ (fun z => h11 rfl z)
    · rw [if_neg h8, if_neg h8]
  · show (if oO (ndC g C j y z a) 0 = true ∧ i < 4 then (some (.inr (1, [oneT (oT C i) (od (ndC g C j y z a) 15 i)])) : Option va_E) else none) = if oO C 0 = true ∧ i < 4 then some (.inr (1, [oneT (oT C i) (od C 15 i)])) else none
    rw [h9, nd_od (by unfold isN; omega)]
  · have hi : i ≠ j := fun z => h (Or.inl ⟨rfl, z⟩)
    show (if oO (ndC g C j y z a) i = true ∧ i < 4 then (some (.inr (4, [.ref (od (ndC g C j y z a) 3 i), va_rf (oP (ndC g C j y z a) i)])) : Option va_E) else none) = if oO C i = true ∧ i < 4 then some (.inr (4, [.ref (od C 3 i), va_rf (oP C i)])) else none
    rw [nd_oOn hi, nd_od (by unfold isN; omega), nd_Pn hi]
  · have hi : i ≠ j := fun z => h (Or.inr (Or.inl ⟨rfl, z⟩))
    show (if oO (ndC g C j y z a) i = true then (some (.inr (5, encD (ndC g C j y z a) i)) : Option va_E) else none) = if oO C i = true then some (.inr (5, encD C i)) else none
    rw [nd_oOn hi, nd_encDn hi]
  · exact absurd rfl h4
  · have hi : i / 8 ≠ j := fun z => h (Or.inr (Or.inr (Or.inr (Or.inr ⟨by omega, z⟩))))
    show (if oO (ndC g C j y z a) (i / 8) = true then (some (.inr (7, encH (ndC g C j y z a) i)) : Option va_E) else none) = if oO C (i / 8) = true then some (.inr (7, encH C i)) else none
    rw [nd_oOn hi, nd_encHn hi]
  · have hi : i / 8 ≠ j := fun z => h (Or.inr (Or.inr (Or.inr (Or.inr ⟨by omega, z⟩))))
    show (if oO (ndC g C j y z a) (i / 8) = true then (some (.inl (g.2.2.2 0, oN (ndC g C j y z a) 6 i, .inl (oA (ndC g C j y z a) 6 i))) : Option va_E) else none) = if oO C (i / 8) = true then some (.inl (g.2.2.2 0, oN C 6 i, .inl (oA C 6 i))) else none
    rw [nd_oOn hi, nd_oN (by unfold isN; omega), nd_oA (by unfold isN; omega)]
  · have hi : i / 8 ≠ j := fun z => h (Or.inr (Or.inr (Or.inr (Or.inr ⟨by omega, z⟩))))
    show (if oO (ndC g C j y z a) (i / 8) = true then (some (.inl (g.2.2.2 0, oN (ndC g C j y z a) 7 i, .inl (oA (ndC g C j y z a) 7 i))) : Option va_E) else none) = if oO C (i / 8) = true then some (.inl (g.2.2.2 0, oN C 7 i, .inl (oA C 7 i))) else none
    rw [nd_oOn hi, nd_oN (by unfold isN; omega), nd_oA (by unfold isN; omega)]
  · rfl
  · rfl
  · rfl
  · have hi : i ≠ j := fun z => h (Or.inr (Or.inr (Or.inr (Or.inl ⟨by omega, z⟩))))
    show (if oO (ndC g C j y z a) i = true then (some (.inl (g.2.2.2 0, 6, .inl (oA (ndC g C j y z a) 11 i))) : Option va_E) else none) = if oO C i = true then some (.inl (g.2.2.2 0, 6, .inl (oA C 11 i))) else none
    rw [nd_oOn hi, nd_oA (by unfold isN; omega)]
  · have hi : i ≠ j := fun z => h (Or.inr (Or.inr (Or.inr (Or.inl ⟨by omega, z⟩))))
    show (if oO (ndC g C j y z a) i = true then (some (.inl (g.2.2.2 0, 6, .inl (oA (ndC g C j y z a) 12 i))) : Option va_E) else none) = if oO C i = true then some (.inl (g.2.2.2 0, 6, .inl (oA C 12 i))) else none
    rw [nd_oOn hi, nd_oA (by unfold isN; omega)]
  · have hi : i ≠ j := fun z => h (Or.inr (Or.inr (Or.inr (Or.inl ⟨by omega, z⟩))))
    show (if oO (ndC g C j y z a) i = true then (some (.inl (g.2.2.2 0, 6, .inl (oA (ndC g C j y z a) 13 i))) : Option va_E) else none) = if oO C i = true then some (.inl (g.2.2.2 0, 6, .inl (oA C 13 i))) else none
    rw [nd_oOn hi, nd_oA (by unfold isN; omega)]
  · have hi : i ≠ j := fun z => h (Or.inr (Or.inr (Or.inr (Or.inl ⟨by omega, z⟩))))
    show (if oO (ndC g C j y z a) i = true then (some (.inl (g.2.2.2 0, 6, .inl (oA (ndC g C j y z a) 14 i))) : Option va_E) else none) = if oO C i = true then some (.inl (g.2.2.2 0, 6, .inl (oA C 14 i))) else none
    rw [nd_oOn hi, nd_oA (by unfold isN; omega)]
  · rfl
end ND
def row4E (g : GG) (C : CS) (i : Nat) : va_E := .inl (g.2.2.2 5, 8, .inr (.inr (.inr (.inr fun d => some (od C 5 (8 * i + d))))))
/-- the rows of heaps said by the state -/
def re4 (g : GG) (C : CS) (σ : PH) : PH := (σ.1, fun q => match σ.2 q with
  | some (t, e) => if t.1 = 4 ∧ q = od C 4 t.2 ∧ oO C t.2 = true then some (t, row4E g C t.2) else some (t, e)
  | none => none)
theorem re4_ne {g : GG} {C : CS} {σ : PH} {q : Nat} {t : Tg} {e : va_E} (h : σ.2 q = some (t, e)) (h4 : t.1 ≠ 4) : (re4 g C σ).2 q = some (t, e) := by
  show (match σ.2 q with
    | some (t, e) => if t.1 = 4 ∧ q = od C 4 t.2 ∧ oO C t.2 = true then some (t, row4E g C t.2) else some (t, e)
    | none => none) = _
  rw [h]
  exact if_neg (fun z => h4 z.1)
theorem re4_eq {g : GG} {C : CS} {σ : PH} {i : Nat} {e : va_E} (h : σ.2 (od C 4 i) = some ((4, i), e)) (ho : oO C i = true) : (re4 g C σ).2 (od C 4 i) = some ((4, i), row4E g C i) := by
  show (match σ.2 (od C 4 i) with
    | some (t, e) => if t.1 = 4 ∧ od C 4 i = od C 4 t.2 ∧ oO C t.2 = true then some (t, row4E g C t.2) else some (t, e)
    | none => none) = _
  rw [h]
  exact if_pos ⟨rfl, rfl, ho⟩
theorem re4_no {g : GG} {C : CS} {σ : PH} {q : Nat} (h : σ.2 q = none) : (re4 g C σ).2 q = none := by
  show (match σ.2 q with
    | some (t, e) => if t.1 = 4 ∧ q = od C 4 t.2 ∧ oO C t.2 = true then some (t, row4E g C t.2) else some (t, e)
    | none => none) = _
  rw [h]
section HD
variable {g : GG} {C : CS} {σ σ' : PH} {j y z a : Nat}
/-- a new day stands -/
theorem w_day {mt : MT} {kc ks pc : Nat} {L : List (Option Value)} {st : List Value} {σ0 : PH} (hj : j < 5) (H : Hold g σ C) (hx : j ≠ 0 ∧ (oO C 0 = true → j ≠ 4)) (h1 : ∀ q, σ'.1 ≤ q → σ'.2 q = none) (h2 : ∀ q t e, σ.2 q = some (t, e) → t ≠ (0, 11) → σ'.2 q = some (t, e)) (h11 : oO C 0 = true → σ'.2 (od C 0 11) = some ((0, 11), .inl (g.2.2.2 6, 3, .inr (.inr (.inr (.inr (mkR (ndC g C j y z a)))))))) (hH : j < 4 → σ'.2 a = some ((2, j), .inr (4, [.ref y, .null]))) (hD : σ'.2 y = some ((3, j), dayE z)) (hL : ∀ i, i < 40 → σ'.2 (z + i) = (dayL g j z)[i]?) (F : Fr σ0 σ') (kk : ∀ σ : PH, Hold g σ (ndC g C j y z a) → Fr σ0 σ → Wp g mt kc ks pc L st σ) : Wp g mt kc ks pc L st σ' := by
  have r4 : ∀ i, oO (ndC g C j y z a) i = true → ∃ e0, σ'.2 (od (ndC g C j y z a) 4 i) = some ((4, i), e0) ∧ eqE (row4E g (ndC g C j y z a) i) e0 := by
    intro i ho
    by_cases hi : i = j
    · subst hi
      refine ⟨hpQ g fun d => some (z + (16 + 3 * d)), ?_, eqE_q (fun d hd => ?_)⟩
      · rw [nd_od4]
        exact hL 15 (by omega)
      · exact congrArg some (nd_od5 hd)
    · rw [nd_oOn hi] at ho
      have h4 : ceC g C 4 i = some (row4E g C i) := if_pos ho
      have h5 := h2 _ _ _ (H.get h4) (by simp)
      refine ⟨row4E g C i, ?_, eqE_q (fun d hd => ?_)⟩
      · rw [nd_od (by unfold isN; omega)]
        exact h5
      · exact congrArg some (nd_od (by unfold isN; omega))
  refine w_re (σ2 := re4 g (ndC g C j y z a) σ') rfl (fun q t e h => ?_) (kk _ ⟨fun q hq => re4_no (h1 q hq), fun k i e he => ?_, fun q e he => ?_⟩ ⟨F.1, fun q t e ht h => re4_ne (F.2 q t e ht h) (by omega)⟩)
  · cases hq : σ'.2 q with
    | none =>
      rw [re4_no hq] at h
      cases h
    | some x =>
      obtain ⟨t0, e0⟩ := x
      have h3 : (if t0.1 = 4 ∧ q = od (ndC g C j y z a) 4 t0.2 ∧ oO (ndC g C j y z a) t0.2 = true then some (t0, row4E g (ndC g C j y z a) t0.2) else some (t0, e0)) = some (t, e) := by
        have h4 : (match σ'.2 q with
          | some (t, e) => if t.1 = 4 ∧ q = od (ndC g C j y z a) 4 t.2 ∧ oO (ndC g C j y z a) t.2 = true then some (t, row4E g (ndC g C j y z a) t.2) else some (t, e)
          | none => none) = some (t, e) := h
        rw [hq] at h4
        exact h4
      by_cases hc : t0.1 = 4 ∧ q = od (ndC g C j y z a) 4 t0.2 ∧ oO (ndC g C j y z a) t0.2 = true
      · rw [if_pos hc] at h3
        obtain ⟨e1, h5, h6⟩ := r4 _ hc.2.2
        rw [← hc.2.1, hq] at h5
        have h7 : e0 = e1 := congrArg Prod.snd (Option.some.inj h5)
        cases h3
        exact ⟨_, _, rfl, by rw [h7]; exact h6⟩
      · rw [if_neg hc] at h3
        cases h3
        exact ⟨_, _, rfl, eqE.rfl⟩
  · by_cases h4 : k = 4
    · subst h4
      have he2 : (if oO (ndC g C j y z a) i = true then some (row4E g (ndC g C j y z a) i) else none) = some e := he
      by_cases ho : oO (ndC g C j y z a) i = true
      · rw [if_pos ho] at he2
        cases he2
        obtain ⟨e0, h5, -⟩ := r4 i ho
        exact re4_eq h5 ho
      · rw [if_neg ho] at he2
        cases he2
    refine re4_ne ?_ h4
    by_cases hn : isN j k i
    · rcases hn with ⟨rfl, rfl⟩ | ⟨rfl, rfl⟩ | ⟨rfl, rfl⟩ | ⟨hk, rfl⟩ | ⟨hk, hi⟩
      · have he2 : (if oO (ndC g C i y z a) i = true ∧ i < 4 then (some (.inr (4, [.ref (od (ndC g C i y z a) 3 i), va_rf (oP (ndC g C i y z a) i)])) : Option va_E) else none) = some e := he
        by_cases h5 : i < 4
        · rw [if_pos ⟨nd_oO, h5⟩, nd_od3, nd_P] at he2
          cases he2
          rw [nd_od2]
          exact hH h5
        · rw [if_neg (fun z => h5 z.2)] at he2
          cases he2
      · have he2 : (if oO (ndC g C i y z a) i = true then (some (.inr (5, encD (ndC g C i y z a) i)) : Option va_E) else none) = some e := he
        rw [if_pos nd_oO, nd_encD] at he2
        cases he2
        rw [nd_od3]
        exact hD
      · exact absurd rfl h4
      · rcases show k = 11 ∨ k = 12 ∨ k = 13 ∨ k = 14 by omega with rfl | rfl | rfl | rfl
        · have he2 : (if oO (ndC g C i y z a) i = true then (some (.inl (g.2.2.2 0, 6, .inl (oA (ndC g C i y z a) 11 i))) : Option va_E) else none) = some e := he
          rw [if_pos nd_oO, nd_A1 (by omega)] at he2
          cases he2
          rw [nd_od1 (by omega)]
          exact hL 11 (by omega)
        · have he2 : (if oO (ndC g C i y z a) i = true then (some (.inl (g.2.2.2 0, 6, .inl (oA (ndC g C i y z a) 12 i))) : Option va_E) else none) = some e := he
          rw [if_pos nd_oO, nd_A1 (by omega)] at he2
          cases he2
          rw [nd_od1 (by omega)]
          exact hL 12 (by omega)
        · have he2 : (if oO (ndC g C i y z a) i = true then (some (.inl (g.2.2.2 0, 6, .inl (oA (ndC g C i y z a) 13 i))) : Option va_E) else none) = some e := he
          rw [if_pos nd_oO, nd_A1 (by omega)] at he2
          cases he2
          rw [nd_od1 (by omega)]
          exact hL 13 (by omega)
        · have he2 : (if oO (ndC g C i y z a) i = true then (some (.inl (g.2.2.2 0, 6, .inl (oA (ndC g C i y z a) 14 i))) : Option va_E) else none) = some e := he
          rw [if_pos nd_oO, nd_A1 (by omega)] at he2
          cases he2
          rw [nd_od1 (by omega)]
          exact hL 14 (by omega)
      · obtain ⟨d, hd, rfl⟩ : ∃ d, d < 8 ∧ i = 8 * j + d := ⟨i % 8, by omega, by omega⟩
        rcases hk with rfl | rfl | rfl
        · have he2 : (if oO (ndC g C j y z a) ((8 * j + d) / 8) = true then (some (.inr (7, encH (ndC g C j y z a) (8 * j + d))) : Option va_E) else none) = some e := he
          rw [hi, if_pos nd_oO] at he2
          have hE : encH (ndC g C j y z a) (8 * j + d) = [.ref (z + (17 + 3 * d)), .ref (z + (17 + 3 * d + 1)), .int 0] := by
            unfold encH
            rw [nd_od6 hd, nd_od7 hd, nd_I5 hi]
          rw [hE] at he2
          cases he2
          rw [nd_od5 hd, hL _ (by omega)]
          rcases show d = 0 ∨ d = 1 ∨ d = 2 ∨ d = 3 ∨ d = 4 ∨ d = 5 ∨ d = 6 ∨ d = 7 by omega with rfl | rfl | rfl | rfl | rfl | rfl | rfl | rfl <;> rfl
        · have he2 : (if oO (ndC g C j y z a) ((8 * j + d) / 8) = true then (some (.inl (g.2.2.2 0, oN (ndC g C j y z a) 6 (8 * j + d), .inl (oA (ndC g C j y z a) 6 (8 * j + d)))) : Option va_E) else none) = some e := he
          rw [hi, if_pos nd_oO, nd_N6 (by omega) hi, nd_A6 (by omega) hi] at he2
          cases he2
          rw [nd_od6 hd, hL _ (by omega)]
          rcases show d = 0 ∨ d = 1 ∨ d = 2 ∨ d = 3 ∨ d = 4 ∨ d = 5 ∨ d = 6 ∨ d = 7 by omega with rfl | rfl | rfl | rfl | rfl | rfl | rfl | rfl <;> rfl
        · have he2 : (if oO (ndC g C j y z a) ((8 * j + d) / 8) = true then (some (.inl (g.2.2.2 0, oN (ndC g C j y z a) 7 (8 * j + d), .inl (oA (ndC g C j y z a) 7 (8 * j + d)))) : Option va_E) else none) = some e := he
          rw [hi, if_pos nd_oO, nd_N6 (by omega) hi, nd_A6 (by omega) hi] at he2
          cases he2
          rw [nd_od7 hd, hL _ (by omega)]
          rcases show d = 0 ∨ d = 1 ∨ d = 2 ∨ d = 3 ∨ d = 4 ∨ d = 5 ∨ d = 6 ∨ d = 7 by omega with rfl | rfl | rfl | rfl | rfl | rfl | rfl | rfl <;> rfl
    · by_cases hm : k = 0 ∧ i = 11
      · obtain ⟨rfl, rfl⟩ := hm
        have he2 : (if oO (ndC g C j y z a) 0 = true then ceX g (ndC g C j y z a) 11 else none) = some e := he
        have h9 : oO (ndC g C j y z a) 0 = oO C 0 := nd_oOn (fun z => hx.1 z.symm)
        rw [h9] at he2
        by_cases h8 : oO C 0 = true
        · rw [if_pos h8] at he2
          have he3 : some (.inl (g.2.2.2 6, 3, .inr (.inr (.inr (.inr (mkR (ndC g C j y z a))))))) = some e := he2
          cases he3
          rw [nd_od (by unfold isN; omega)]
          exact h11 h8
        · rw [if_neg h8] at he2
          cases he2
      · have h5 : ceC g C k i = some e := by
          rw [← nd_ce hj hx hn h4 (fun u v => hm ⟨u, v⟩)]
          exact he
        rw [nd_od hn]
        exact h2 _ _ _ (H.get h5) (fun z => hm ⟨congrArg Prod.fst z, congrArg Prod.snd z⟩)
  · refine re4_ne ?_ (by decide)
    have he2 : (if z ≤ q ∧ q < z + 11 then ((dayL g j z)[q - z]?).map (fun x => x.2) else oZ C q) = some e := he
    by_cases hq : z ≤ q ∧ q < z + 11
    · rw [if_pos hq] at he2
      obtain ⟨i, hi, rfl⟩ : ∃ i, i < 11 ∧ q = z + i := ⟨q - z, by omega, by omega⟩
      rw [Nat.add_sub_cancel_left] at he2
      rw [hL i (by omega)]
      rcases show i = 0 ∨ i = 1 ∨ i = 2 ∨ i = 3 ∨ i = 4 ∨ i = 5 ∨ i = 6 ∨ i = 7 ∨ i = 8 ∨ i = 9 ∨ i = 10 by omega with rfl | rfl | rfl | rfl | rfl | rfl | rfl | rfl | rfl | rfl | rfl
      all_goals
        obtain rfl := Option.some.inj he2
        rfl
    · rw [if_neg hq] at he2
      exact h2 _ _ _ (H.z he2) (by simp)
/-- what a new day says -/
def V0 : VS := (fun i => if i = 0 then 2 else if i = 3 then 60 else if i = 5 then 1 else 0, fun _ _ => 0, fun _ _ _ => 0)
theorem nd_E (g : GG) (C : CS) (j y z a : Nat) : EncD g (ndC g C j y z a) j (setS V0 9 z) (fun _ => 4) := by
  have hz : ∀ i e, i < 11 → ((dayL g j z)[i]?).map (fun x => x.2) = some e → oZ (ndC g C j y z a) (z + i) = some e := fun i e hi h => (nd_Z hi).trans h
  have hb : oZ (ndC g C j y z a) (oB (ndC g C j y z a) j) = some (.inr (6, [.int (nI 2), .int (nI 60), .int 0, .int 0, .int 0, .int (nI 1), .int 0, .ref (z + 1), .ref (z + 2), .ref (z + 3), .ref (z + 4), .ref (z + 5), .ref (z + 6), .ref (z + 7), .ref (z + 8), .ref (z + 9), .ref (z + 10)])) := by
    rw [nd_B]
    exact hz 0 _ (by omega) rfl
  have hF : ∀ f, bF (ndC g C j y z a) j f = [Value.int (nI 2), .int (nI 60), .int 0, .int 0, .int 0, .int (nI 1), .int 0, .ref (z + 1), .ref (z + 2), .ref (z + 3), .ref (z + 4), .ref (z + 5), .ref (z + 6), .ref (z + 7), .ref (z + 8), .ref (z + 9), .ref (z + 10)].getD f .null := fun f => by
    unfold bF
    rw [hb]
  have hI : ∀ f, bI (ndC g C j y z a) j f = vI ([Value.int (nI 2), .int (nI 60), .int 0, .int 0, .int 0, .int (nI 1), .int 0, .ref (z + 1), .ref (z + 2), .ref (z + 3), .ref (z + 4), .ref (z + 5), .ref (z + 6), .ref (z + 7), .ref (z + 8), .ref (z + 9), .ref (z + 10)].getD f .null) := fun f => congrArg vI (hF f)
  have hR : ∀ f, bR (ndC g C j y z a) j f = vR ([Value.int (nI 2), .int (nI 60), .int 0, .int 0, .int 0, .int (nI 1), .int 0, .ref (z + 1), .ref (z + 2), .ref (z + 3), .ref (z + 4), .ref (z + 5), .ref (z + 6), .ref (z + 7), .ref (z + 8), .ref (z + 9), .ref (z + 10)].getD f .null) := fun f => congrArg vR (hF f)
  have r7 : bR (ndC g C j y z a) j 7 = z + 1 := (hR 7).trans rfl
  have r8 : bR (ndC g C j y z a) j 8 = z + 2 := (hR 8).trans rfl
  have r9 : bR (ndC g C j y z a) j 9 = z + 3 := (hR 9).trans rfl
  have r10 : bR (ndC g C j y z a) j 10 = z + 4 := (hR 10).trans rfl
  have r11 : bR (ndC g C j y z a) j 11 = z + 5 := (hR 11).trans rfl
  have r12 : bR (ndC g C j y z a) j 12 = z + 6 := (hR 12).trans rfl
  have r13 : bR (ndC g C j y z a) j 13 = z + 7 := (hR 13).trans rfl
  have r14 : bR (ndC g C j y z a) j 14 = z + 8 := (hR 14).trans rfl
  have r15 : bR (ndC g C j y z a) j 15 = z + 9 := (hR 15).trans rfl
  have r16 : bR (ndC g C j y z a) j 16 = z + 10 := (hR 16).trans rfl
  have z7 : oZ (ndC g C j y z a) (z + 1) = some (.inl (g.2.2.2 1, 6, .inr (.inl fun _ => 0))) := hz 1 _ (by omega) rfl
  have y7 : zL (ndC g C j y z a) (z + 1) = fun _ => 0 := zL_of z7
  have z8 : oZ (ndC g C j y z a) (z + 2) = some (.inl (g.2.2.2 1, 8, .inr (.inl fun _ => 0))) := hz 2 _ (by omega) rfl
  have y8 : zL (ndC g C j y z a) (z + 2) = fun _ => 0 := zL_of z8
  have z9 : oZ (ndC g C j y z a) (z + 3) = some (.inl (g.2.2.2 0, 6, .inl fun _ => 0)) := hz 3 _ (by omega) rfl
  have y9 : zA (ndC g C j y z a) (z + 3) = fun _ => 0 := zA_of z9
  have z10 : oZ (ndC g C j y z a) (z + 4) = some (.inl (g.2.2.2 0, 6, .inl fun _ => 0)) := hz 4 _ (by omega) rfl
  have y10 : zA (ndC g C j y z a) (z + 4) = fun _ => 0 := zA_of z10
  have z11 : oZ (ndC g C j y z a) (z + 5) = some (.inl (g.2.2.2 0, 6, .inl fun _ => 0)) := hz 5 _ (by omega) rfl
  have y11 : zA (ndC g C j y z a) (z + 5) = fun _ => 0 := zA_of z11
  have z12 : oZ (ndC g C j y z a) (z + 6) = some (.inl (g.2.2.2 0, 8, .inl fun _ => 0)) := hz 6 _ (by omega) rfl
  have y12 : zA (ndC g C j y z a) (z + 6) = fun _ => 0 := zA_of z12
  have z13 : oZ (ndC g C j y z a) (z + 7) = some (.inl (g.2.2.2 0, 8, .inl fun _ => 0)) := hz 7 _ (by omega) rfl
  have y13 : zA (ndC g C j y z a) (z + 7) = fun _ => 0 := zA_of z13
  have z14 : oZ (ndC g C j y z a) (z + 8) = some (.inl (g.2.2.2 0, 30, .inl fun _ => 0)) := hz 8 _ (by omega) rfl
  have y14 : zA (ndC g C j y z a) (z + 8) = fun _ => 0 := zA_of z14
  have z15 : oZ (ndC g C j y z a) (z + 9) = some (.inl (g.2.2.2 0, 30, .inl fun _ => 0)) := hz 9 _ (by omega) rfl
  have y15 : zA (ndC g C j y z a) (z + 9) = fun _ => 0 := zA_of z15
  have z16 : oZ (ndC g C j y z a) (z + 10) = some (.inl (g.2.2.2 0, 30, .inl fun _ => 0)) := hz 10 _ (by omega) rfl
  have y16 : zA (ndC g C j y z a) (z + 10) = fun _ => 0 := zA_of z16
  refine ⟨⟨?_, ?_, ?_, ?_, ?_, ?_, ?_, ?_, ?_, ?_, ?_⟩, ⟨?_, ?_, ?_, ?_, ?_, nd_B⟩, ?_, ?_, ⟨?_, ?_, ?_⟩, ?_, ?_⟩
  · rw [hb]
    unfold encB
    simp only [hI, hR]
    rfl
  · rw [r7, y7]
    exact z7
  · rw [r8, y8]
    exact z8
  · rw [r9, y9]
    exact z9
  · rw [r10, y10]
    exact z10
  · rw [r11, y11]
    exact z11
  · rw [r12, y12]
    exact z12
  · rw [r13, y13]
    exact z13
  · rw [r14, y14]
    exact z14
  · rw [r15, y15]
    exact z15
  · rw [r16, y16]
    exact z16
  · exact (hI 0).trans rfl
  · exact (hI 2).trans rfl
  · exact (hI 3).trans rfl
  · exact (hI 4).trans rfl
  · exact (hI 5).trans rfl
  · intro f hf
    exact absurd (show f < 0 from hf) (Nat.not_lt_zero f)
  · intro f hf
    exact absurd (show f < 0 from hf) (Nat.not_lt_zero f)
  · rw [nd_I3]
    rfl
  · rw [nd_I3]
    rfl
  · rw [nd_I3]
    rfl
  · intro f hf
    rw [nd_A1 (by omega), nd_A1 (by omega), nd_A1 (by omega), nd_A1 (by omega)]
    exact ⟨rfl, rfl, rfl, rfl⟩
  · intro d hd
    refine ⟨?_, Nat.zero_le _, Or.inl rfl, nd_N6 (Or.inl rfl) (by omega), nd_N6 (Or.inr rfl) (by omega), fun k hk => absurd (show k < 0 from hk) (Nat.not_lt_zero k)⟩
    rw [nd_I5 (by omega)]
    rfl
theorem EncD.nd {i : Nat} {V : VS} {q : Nat → Nat} (H : Hold g σ C) (hz : σ.1 ≤ z) (E : EncD g C i V q) (hi : i ≠ j) : EncD g (ndC g C j y z a) i V q := by
  have hmono : ∀ b e, oZ C b = some e → oZ (ndC g C j y z a) b = some e := fun b e h => by
    have hlt := H.lt (H.z h)
    show (if z ≤ b ∧ b < z + 11 then _ else oZ C b) = _
    rw [if_neg (by omega)]
    exact h
  have E1 : EncD g (sMZ C (oM C) (oZ (ndC g C j y z a))) i V q := E.mono ⟨rfl, rfl, rfl, rfl, rfl, rfl, rfl, rfl, rfl, hmono⟩
  exact E1.eq ((nd_Bn hi).trans rfl) rfl (nd_oI (by unfold isN; omega)) (fun k h1 h2 => nd_oA (by unfold isN; omega)) (fun d hd => nd_oI (by unfold isN; omega)) (fun k d hk hd => ⟨nd_oA (by unfold isN; omega), nd_oN (by unfold isN; omega)⟩)
end HD
set_option maxHeartbeats 4000000 in
/-- X.mark, a house is made -/
theorem kX0_mark_c {g : GG} {C : CS} {m : Nat} {V : VS} {q : Nat → Nat} (hx : oO C 0 = true) (h0 : oO C 0 = true) (hm : oI C 0 30 12 = nI m) (hm3 : m < 3) (ho : oO C (m + 1) = false) (E : EncD g C 0 V q) (hl : oM C 90 = none) : Cp g miX0_mark 4 58 1310 [.ref (od C 0 30)] C (some (.int (nI (m + 1)))) (fun C2 => ∃ y z a C1, (∀ b e, oZ C b = some e → oZ (ndC g (uI C 0 30 7 (nI 0)) (m + 1) y z a) b = some e) ∧ EncD g C1 (m + 1) V (fun d => if 4 < vt V 7 d then q d else 4) ∧ SD (m + 1) (ndC g (uI C 0 30 7 (nI 0)) (m + 1) y z a) C1 ∧ C2 = uI (uP C1 (m + 1) (oP C 0)) 0 30 12 (nI (m + 1))) := by
  refine Cp.start [some (.ref (od C 0 30))] plX0 rfl (Nat.le_of_ble_eq_true rfl) rfl ?_
  intro σ0 σ H F
  refine mark_hd (kc := 58) (ks := 1310) hx hm hm3 H F ?_
  intro σ H F
  rw [show mkR C m = none from if_neg (by rw [ho]; decide)]
  have hmc : oI (uI C 0 30 7 (nI 0)) 0 30 12 = nI m := (oI_ne C _ (fun _ _ z => by omega)).trans hm
  have E1 : EncD g (uI C 0 30 7 (nI 0)) 0 V q := EncD.stH H E
  obtain ⟨C1, hC1⟩ : ∃ X, X = uI C 0 30 7 (nI 0) := ⟨_, rfl⟩
  have x1 : oO C1 0 = true := by rw [hC1]; exact hx
  have z1 : oO C1 0 = true := by rw [hC1]; exact h0
  have o1 : oO C1 (m + 1) = false := by rw [hC1]; exact ho
  have l1 : oM C1 90 = none := by rw [hC1]; exact hl
  have d1 : od C1 0 30 = od C 0 30 := by rw [hC1]; rfl
  have p1 : oP C1 0 = oP C 0 := by rw [hC1]; rfl
  have zz1 : oZ C1 = oZ C := by rw [hC1]; rfl
  rw [← hC1] at H hmc E1 ⊢
  refine w_ifnonnullN dX0_mark_35 ?_
  refine w_aload_n dX0_mark_38 rfl ?_
  refine w_ref d1 ?_
  refine gX0_59 (C := C1) dX0_mark_39 rfl x1 H ?_
  refine w_aload_n dX0_mark_42 rfl ?_
  refine w_ref d1 ?_
  refine gX0_469 (C := C1) dX0_mark_43 rfl x1 H ?_
  rw [hmc]
  refine w_new (kc := 57) (ks := 1308) [.null, .null] (2, m + 1) dX0_mark_46 clX4 q273 q274 q140 dfX4 ?_
  refine w_dup dX0_mark_49 rfl ?_
  have w1 : wf9 (hnew σ (2, m + 1) (.inr (4, [.null, .null]))) := fun b hb => by
    have hb2 : σ.1 + 1 ≤ b := hb
    show (if b = σ.1 then _ else σ.2 b) = none
    rw [if_neg (by omega)]
    exact H.1 b (by omega)
  have hc1 : (hnew σ (2, m + 1) (.inr (4, [.null, .null]))).2 σ.1 = some ((2, m + 1), .inr (4, [.null, .null])) := if_pos rfl
  refine w_callIN (kc := 16) (ks := 1024) (mc2 := 41) (ms2 := 284) (mi := miX4_init) (As := []) (rest := [.ref σ.1, .int (nI m), .ref (od C1 0 11)]) dX0_mark_50 q275 okX4_init (iX4_init (j := m + 1) _ σ.1 (2, m + 1) w1 hc1) (Nat.le_of_ble_eq_true rfl) rfl rfl (Nat.le_of_ble_eq_true rfl) ?_ (fun _ _ _ hx => absurd hx id)
  rintro v σ2 ⟨rfl, rfl⟩
  have ha : σ.1 < (hnew σ (2, m + 1) (.inr (4, [.null, .null]))).1 := Nat.lt_succ_self _
  have hs : (hnew σ (2, m + 1) (.inr (4, [.null, .null]))).1 = σ.1 + 1 := rfl
  obtain ⟨σ3, hσ3⟩ : ∃ s, s = rw_ (hnew σ (2, m + 1) (.inr (4, [.null, .null]))) σ.1 (2, m + 1) (.inr (4, [.ref ((hnew σ (2, m + 1) (.inr (4, [.null, .null]))).1 + 0), .null])) (((3, m + 1), dayE ((hnew σ (2, m + 1) (.inr (4, [.null, .null]))).1 + 1)) :: dayL g (m + 1) ((hnew σ (2, m + 1) (.inr (4, [.null, .null]))).1 + 1)) := ⟨_, rfl⟩
  have k0 : ∀ b x, σ.2 b = some x → σ3.2 b = some x := fun b x h => by
    have h3 := H.lt h
    rw [hσ3, rw_lo (by omega) (by omega)]
    exact (if_neg (by omega)).trans h
  have ka : σ3.2 σ.1 = some ((2, m + 1), .inr (4, [.ref (σ.1 + 1), .null])) := by
    rw [hσ3]
    exact rw_a
  have ky : σ3.2 (σ.1 + 1) = some ((3, m + 1), dayE (σ.1 + 2)) := by
    rw [hσ3]
    exact rw_i (i := 0) ha rfl
  have kz : ∀ i, i < 40 → σ3.2 (σ.1 + 2 + i) = (dayL g (m + 1) (σ.1 + 2))[i]? := fun i hi => by
    have hlen : (dayL g (m + 1) (σ.1 + 2)).length = 40 := dayL_len
    rw [hσ3, show σ.1 + 2 + i = (hnew σ (2, m + 1) (.inr (4, [.null, .null]))).1 + (i + 1) by rw [hs]; omega]
    rw [List.getElem?_eq_getElem (by omega)]
    exact rw_i (i := i + 1) ha (List.getElem?_eq_getElem (l := dayL g (m + 1) (σ.1 + 2)) (by omega))
  have kw : ∀ b, σ3.1 ≤ b → σ3.2 b = none := by
    rw [hσ3]
    exact rw_wf ha
  have f3 : Fr σ0 σ3 := ⟨by
    rw [hσ3]
    exact Nat.le_trans F.1 (Nat.le_trans (Nat.le_of_lt ha) (Nat.le_add_right _ _)), fun b t e ht h => k0 b _ (F.2 b t e ht h)⟩
  have hle3 : σ.1 + 2 ≤ σ3.1 := by
    rw [hσ3]
    show σ.1 + 2 ≤ σ.1 + 1 + (((3, m + 1), dayE (σ.1 + 1 + 1)) :: dayL g (m + 1) (σ.1 + 1 + 1)).length
    rw [houseL_len]
    omega
  rw [← hσ3]
  clear hσ3 w1 hc1
  have km := k0 _ _ (H.get (ce_mk x1))
  refine w_aastN (k := 6) (j := m) dX0_mark_53 clX4 rfl km ka (by omega) (by omega) ?_
  refine w_day (C := C1) (σ := σ) (j := m + 1) (y := σ.1 + 1) (z := σ.1 + 2) (a := σ.1) (σ0 := σ0) (by omega) H ⟨by omega, fun _ => by omega⟩ (fun b hb => ?_) (fun b t e h ht => ?_) (fun _ => ?_) (fun _ => ?_) ?_ (fun i hi => ?_) (f3.hup (by show 0 < 20; decide) km) ?_
  · have hlt := H.lt (H.get (ce_mk x1))
    show (if b = od C1 0 11 then _ else σ3.2 b) = none
    have hb2 : σ3.1 ≤ b := hb
    rw [if_neg (by omega)]
    exact kw b hb
  · have h3 := k0 b _ h
    show (if b = od C1 0 11 then _ else σ3.2 b) = _
    rw [if_neg (fun z => by rw [z, H.get (ce_mk x1)] at h; cases h; exact ht rfl)]
    exact h3
  · refine (if_pos rfl).trans ?_
    have hfun : va_up (mkR C1) m (some σ.1) = mkR (ndC g C1 (m + 1) (σ.1 + 1) (σ.1 + 2) σ.1) := funext fun i => by
      unfold va_up mkR
      by_cases hi : i = m
      · subst hi
        rw [if_pos rfl, if_pos nd_oO, nd_od2]
      · rw [if_neg hi, nd_oOn (by omega), nd_od (by unfold isN; omega)]
    rw [hfun]
  · show (if σ.1 = od C1 0 11 then _ else σ3.2 σ.1) = _
    have hlt := H.lt (H.get (ce_mk x1))
    rw [if_neg (by omega)]
    exact ka
  · show (if σ.1 + 1 = od C1 0 11 then _ else σ3.2 (σ.1 + 1)) = _
    have hlt := H.lt (H.get (ce_mk x1))
    rw [if_neg (by omega)]
    exact ky
  · show (if σ.1 + 2 + i = od C1 0 11 then _ else σ3.2 (σ.1 + 2 + i)) = _
    have hlt := H.lt (H.get (ce_mk x1))
    rw [if_neg (by omega)]
    exact kz i hi
  · intro σ4 H4 F4
    have E4 : EncD g (ndC g C1 (m + 1) (σ.1 + 1) (σ.1 + 2) σ.1) 0 V q := E1.nd H (Nat.le_add_right _ _) (by omega)
    have hz4 : ∀ b e, oZ C b = some e → oZ (ndC g C1 (m + 1) (σ.1 + 1) (σ.1 + 2) σ.1) b = some e := fun b e h => by
      rw [← zz1] at h
      have hlt := H.lt (H.z h)
      show (if σ.1 + 2 ≤ b ∧ b < σ.1 + 2 + 11 then _ else oZ C1 b) = _
      rw [if_neg (by omega)]
      exact h
    exact mark_go (C := ndC g C1 (m + 1) (σ.1 + 1) (σ.1 + 2) σ.1) (C0 := C) (V := V) (W := setS V0 9 (σ.1 + 2)) (q := q) (p := fun _ => 4) ((nd_od (by unfold isN; omega)).trans d1) ((nd_oOn (by omega)).trans x1) ((nd_oOn (by omega)).trans z1) (by rw [nd_oI (by unfold isN; omega)]; exact hmc) hm3 nd_oO E4 (nd_E g C1 _ _ _ _) l1 H4 F4 (fun C9 E9 S9 => ⟨σ.1 + 1, σ.1 + 2, σ.1, C9, hz4, E9, S9, by rw [← p1, ← nd_Pn (g := g) (C := C1) (j := m + 1) (y := σ.1 + 1) (z := σ.1 + 2) (a := σ.1) (i := 0) (by omega)]⟩)
