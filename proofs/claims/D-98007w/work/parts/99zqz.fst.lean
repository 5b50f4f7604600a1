/-! THE FIRST STATE (printed by gen/xfst.py) -/
set_option maxRecDepth 100000
theorem nd_cells {g : GG} {C : CS} {σ' : PH} {j y z a k i : Nat} {e : va_E} (hn : isN j k i) (h4 : k ≠ 4) (he : ceC g (ndC g C j y z a) k i = some e) (hH : j < 4 → σ'.2 a = some ((2, j), .inr (4, [.ref y, .null]))) (hD : σ'.2 y = some ((3, j), dayE z)) (hL : ∀ i, i < 40 → σ'.2 (z + i) = (dayL g j z)[i]?) : σ'.2 (od (ndC g C j y z a) k i) = some ((k, i), e) := by
  rcases hn with ⟨rfl, rfl⟩ | ⟨rfl, rfl⟩ | ⟨rfl, rfl⟩ | ⟨hk, rfl⟩ | ⟨hk, hi⟩
  · have he2 : (if oO (ndC g C i y z a) i = true ∧ i < 4 then (some (.inr (4, [.ref (od (ndC g C i y z a) 3 i), va_rf (oP (ndC g C i y z a) i)])) : Option va_E) else none) = some e := he
    by_cases h5 : i < 4
    · rw [if_pos ⟨nd_oO, h5⟩, nd_od3, nd_P] at he2
      cases he2
      rw [nd_od2]
      exact hH h5
    · rw [if_neg (fun z => h5 z.2)] at he2
      cases he2
  · have he2 : (if oO (ndC g C i y z a) i = true then (some (.inr (5, encD (ndC g C i y z a) i)) : Option va_E) else none) = some e := he
    rw [if_pos nd_oO, nd_encD] at he2
    cases he2
    rw [nd_od3]
    exact hD
  · exact absurd rfl h4
  · rcases show k = 11 ∨ k = 12 ∨ k = 13 ∨ k = 14 by omega with rfl | rfl | rfl | rfl
    · have he2 : (if oO (ndC g C i y z a) i = true then (some (.inl (g.2.2.2 0, 6, .inl (oA (ndC g C i y z a) 11 i))) : Option va_E) else none) = some e := he
      rw [if_pos nd_oO, nd_A1 (by omega)] at he2
      cases he2
      rw [nd_od1 (by omega)]
      exact hL 11 (by omega)
    · have he2 : (if oO (ndC g C i y z a) i = true then (some (.inl (g.2.2.2 0, 6, .inl (oA (ndC g C i y z a) 12 i))) : Option va_E) else none) = some e := he
      rw [if_pos nd_oO, nd_A1 (by omega)] at he2
      cases he2
      rw [nd_od1 (by omega)]
      exact hL 12 (by omega)
    · have he2 : (if oO (ndC g C i y z a) i = true then (some (.inl (g.2.2.2 0, 6, .inl (oA (ndC g C i y z a) 13 i))) : Option va_E) else none) = some e := he
      rw [if_pos nd_oO, nd_A1 (by omega)] at he2
      cases he2
      rw [nd_od1 (by omega)]
      exact hL 13 (by omega)
    · have he2 : (if oO (ndC g C i y z a) i = true then (some (.inl (g.2.2.2 0, 6, .inl (oA (ndC g C i y z a) 14 i))) : Option va_E) else none) = some e := he
      rw [if_pos nd_oO, nd_A1 (by omega)] at he2
      cases he2
      rw [nd_od1 (by omega)]
      exact hL 14 (by omega)
  · obtain ⟨d, hd, rfl⟩ : ∃ d, d < 8 ∧ i = 8 * j + d := ⟨i % 8, by omega, by omega⟩
    rcases hk with rfl | rfl | rfl
    · have he2 : (if oO (ndC g C j y z a) ((8 * j + d) / 8) = true then (some (.inr (7, encH (ndC g C j y z a) (8 * j + d))) : Option va_E) else none) = some e := he
      rw [hi, if_pos nd_oO] at he2
      have hE : encH (ndC g C j y z a) (8 * j + d) = [.ref (z + (17 + 3 * d)), .ref (z + (17 + 3 * d + 1)), .int 0] := by
        unfold encH
        rw [nd_od6 hd, nd_od7 hd, nd_I5 hi]
      rw [hE] at he2
      cases he2
      rw [nd_od5 hd, hL _ (by omega)]
      rcases show d = 0 ∨ d = 1 ∨ d = 2 ∨ d = 3 ∨ d = 4 ∨ d = 5 ∨ d = 6 ∨ d = 7 by omega with rfl | rfl | rfl | rfl | rfl | rfl | rfl | rfl <;> rfl
    · have he2 : (if oO (ndC g C j y z a) ((8 * j + d) / 8) = true then (some (.inl (g.2.2.2 0, oN (ndC g C j y z a) 6 (8 * j + d), .inl (oA (ndC g C j y z a) 6 (8 * j + d)))) : Option va_E) else none) = some e := he
      rw [hi, if_pos nd_oO, nd_N6 (by omega) hi, nd_A6 (by omega) hi] at he2
      cases he2
      rw [nd_od6 hd, hL _ (by omega)]
      rcases show d = 0 ∨ d = 1 ∨ d = 2 ∨ d = 3 ∨ d = 4 ∨ d = 5 ∨ d = 6 ∨ d = 7 by omega with rfl | rfl | rfl | rfl | rfl | rfl | rfl | rfl <;> rfl
    · have he2 : (if oO (ndC g C j y z a) ((8 * j + d) / 8) = true then (some (.inl (g.2.2.2 0, oN (ndC g C j y z a) 7 (8 * j + d), .inl (oA (ndC g C j y z a) 7 (8 * j + d)))) : Option va_E) else none) = some e := he
      rw [hi, if_pos nd_oO, nd_N6 (by omega) hi, nd_A6 (by omega) hi] at he2
      cases he2
      rw [nd_od7 hd, hL _ (by omega)]
      rcases show d = 0 ∨ d = 1 ∨ d = 2 ∨ d = 3 ∨ d = 4 ∨ d = 5 ∨ d = 6 ∨ d = 7 by omega with rfl | rfl | rfl | rfl | rfl | rfl | rfl | rfl <;> rfl
/-- nothing is made: X's parts from z on, X at a -/
def fsD (a z k i : Nat) : Nat := if k = 0 then (if i = 0 then z else if i = 1 then z + 5 else if i = 5 then z + 6 else if i = 6 then z + 7 else if i = 11 then z + 50 else if i = 13 then z + 51 else if i = 14 then z + 52 else if i = 15 then z + 53 else if i = 19 then z + 54 else if i = 21 then z + 96 else if i = 30 then a else 0) else if k = 1 then z + (1 + i) else 0
def fsE (a z : Nat) : CS := (fsD a z, fun k i f => if k = 0 ∧ i = 30 ∧ (f = 3 ∨ f = 4) then -1 else 0, fun _ _ _ => 0, fun _ _ => 0, fun k => if k = 9 then 1 else 0, fun _ => 0, fun _ => none, fun _ => false, fun _ => none, fun _ => none, fun _ => none)
def fs4 (g : GG) (a z : Nat) : CS := ndC g (fsE a z) 4 (z + 55) (z + 56) 0
/-- the component's first state -/
def fsC (g : GG) (a z : Nat) : CS := ndC g (fs4 g a z) 0 (z + 9) (z + 10) (z + 8)
section FST
variable {g : GG} {a z k i : Nat} {e : va_E}
theorem fsE_ce : ceC g (fsE a z) k i = none := by
  by_cases hk : 16 ≤ k
  · exact ce_hi hk
  have hkk : k = 0 ∨ k = 1 ∨ k = 2 ∨ k = 3 ∨ k = 4 ∨ k = 5 ∨ k = 6 ∨ k = 7 ∨ k = 8 ∨ k = 9 ∨ k = 10 ∨ k = 11 ∨ k = 12 ∨ k = 13 ∨ k = 14 ∨ k = 15 := by omega
  rcases hkk with rfl | rfl | rfl | rfl | rfl | rfl | rfl | rfl | rfl | rfl | rfl | rfl | rfl | rfl | rfl | rfl
  · rfl
  · rfl
  · rfl
  · rfl
  · rfl
  · rfl
  · rfl
  · rfl
  · rfl
  · rfl
  · rfl
  · rfl
  · rfl
  · rfl
  · rfl
  · rfl
/-- beside the X parts, trays, rows of heaps and day j all is as it was -/
theorem nd_ce2 {C : CS} {j y z a k i : Nat} (h : ¬ isN j k i) (h4 : k ≠ 4) (h2 : 2 ≤ k) : ceC g (ndC g C j y z a) k i = ceC g C k i := by
  by_cases hk : 16 ≤ k
  · rw [ce_hi hk, ce_hi hk]
  have hkk : k = 0 ∨ k = 1 ∨ k = 2 ∨ k = 3 ∨ k = 4 ∨ k = 5 ∨ k = 6 ∨ k = 7 ∨ k = 8 ∨ k = 9 ∨ k = 10 ∨ k = 11 ∨ k = 12 ∨ k = 13 ∨ k = 14 ∨ k = 15 := by omega
  rcases hkk with rfl | rfl | rfl | rfl | rfl | rfl | rfl | rfl | rfl | rfl | rfl | rfl | rfl | rfl | rfl | rfl
  · omega
  · omega
  · have hi : i ≠ j := fun z => h (Or.inl ⟨rfl, z⟩)
    show (if oO (ndC g C j y z a) i = true ∧ i < 4 then (some (.inr (4, [.ref (od (ndC g C j y z a) 3 i), va_rf (oP (ndC g C j y z a) i)])) : Option va_E) else none) = if oO C i = true ∧ i < 4 then some (.inr (4, [.ref (od C 3 i), va_rf (oP C i)])) else none
    rw [nd_oOn hi, nd_od (by unfold isN; omega), nd_Pn hi]
  · have hi : i ≠ j := fun z => h (Or.inr (Or.inl ⟨rfl, z⟩))
    show (if oO (ndC g C j y z a) i = true then (some (.inr (5, encD (ndC g C j y z a) i)) : Option va_E) else none) = if oO C i = true then some (.inr (5, encD C i)) else none
    rw [nd_oOn hi, nd_encDn hi]
  · exact absurd rfl h4
  · have hi : i / 8 ≠ j := fun z => h (Or.inr (Or.inr (Or.inr (Or.inr ⟨by omega, z⟩))))
    show (if oO (ndC g C j y z a) (i / 8) = true then (some (.inr (7, encH (ndC g C j y z a) i)) : Option va_E) else none) = if oO C (i / 8) = true then some (.inr (7, encH C i)) else none
    rw [nd_oOn hi, nd_encHn hi]
  · have hi : i / 8 ≠ j := fun z => h (Or.inr (Or.inr (Or.inr (Or.inr ⟨by omega, z⟩))))
    show (if oO (ndC g C j y z a) (i / 8) = true then (some (.inl (g.2.2.2 0, oN (ndC g C j y z a) 6 i, .inl (oA (ndC g C j y z a) 6 i))) : Option va_E) else none) = if oO C (i / 8) = true then some (.inl (g.2.2.2 0, oN C 6 i, .inl (oA C 6 i))) else none
    rw [nd_oOn hi, nd_oN (by unfold isN; omega), nd_oA (by unfold isN; omega)]
  · have hi : i / 8 ≠ j := fun z => h (Or.inr (Or.inr (Or.inr (Or.inr ⟨by omega, z⟩))))
    show (if oO (ndC g C j y z a) (i / 8) = true then (some (.inl (g.2.2.2 0, oN (ndC g C j y z a) 7 i, .inl (oA (ndC g C j y z a) 7 i))) : Option va_E) else none) = if oO C (i / 8) = true then some (.inl (g.2.2.2 0, oN C 7 i, .inl (oA C 7 i))) else none
    rw [nd_oOn hi, nd_oN (by unfold isN; omega), nd_oA (by unfold isN; omega)]
  · rfl
  · rfl
  · rfl
  · have hi : i ≠ j := fun z => h (Or.inr (Or.inr (Or.inr (Or.inl ⟨by omega, z⟩))))
    show (if oO (ndC g C j y z a) i = true then (some (.inl (g.2.2.2 0, 6, .inl (oA (ndC g C j y z a) 11 i))) : Option va_E) else none) = if oO C i = true then some (.inl (g.2.2.2 0, 6, .inl (oA C 11 i))) else none
    rw [nd_oOn hi, nd_oA (by unfold isN; omega)]
  · have hi : i ≠ j := fun z => h (Or.inr (Or.inr (Or.inr (Or.inl ⟨by omega, z⟩))))
    show (if oO (ndC g C j y z a) i = true then (some (.inl (g.2.2.2 0, 6, .inl (oA (ndC g C j y z a) 12 i))) : Option va_E) else none) = if oO C i = true then some (.inl (g.2.2.2 0, 6, .inl (oA C 12 i))) else none
    rw [nd_oOn hi, nd_oA (by unfold isN; omega)]
  · have hi : i ≠ j := fun z => h (Or.inr (Or.inr (Or.inr (Or.inl ⟨by omega, z⟩))))
    show (if oO (ndC g C j y z a) i = true then (some (.inl (g.2.2.2 0, 6, .inl (oA (ndC g C j y z a) 13 i))) : Option va_E) else none) = if oO C i = true then some (.inl (g.2.2.2 0, 6, .inl (oA C 13 i))) else none
    rw [nd_oOn hi, nd_oA (by unfold isN; omega)]
  · have hi : i ≠ j := fun z => h (Or.inr (Or.inr (Or.inr (Or.inl ⟨by omega, z⟩))))
    show (if oO (ndC g C j y z a) i = true then (some (.inl (g.2.2.2 0, 6, .inl (oA (ndC g C j y z a) 14 i))) : Option va_E) else none) = if oO C i = true then some (.inl (g.2.2.2 0, 6, .inl (oA C 14 i))) else none
    rw [nd_oOn hi, nd_oA (by unfold isN; omega)]
  · rfl
theorem fs_o0 : oO (fsC g a z) 0 = true := nd_oO
theorem fs_o4 : oO (fsC g a z) 4 = true := (nd_oOn (by omega)).trans nd_oO
theorem fs_on (h0 : i ≠ 0) (h4 : i ≠ 4) : oO (fsC g a z) i = false := (nd_oOn h0).trans (nd_oOn h4)
theorem fs_n0 {j : Nat} : ¬ isN j 0 i := by unfold isN; omega
theorem fs_n1 {j : Nat} : ¬ isN j 1 i := by unfold isN; omega
theorem fs_d0 : od (fsC g a z) 0 i = fsD a z 0 i := (nd_od fs_n0).trans (nd_od fs_n0)
theorem fs_d1 : od (fsC g a z) 1 i = z + (1 + i) := (nd_od fs_n1).trans (nd_od fs_n1)
theorem fs_d15 : od (fsC g a z) 15 i = 0 := (nd_od (by unfold isN; omega)).trans (nd_od (by unfold isN; omega))
theorem fs_d2 : od (fsC g a z) 2 0 = z + 8 := nd_od2
theorem fs_d34 : od (fsC g a z) 3 4 = z + 55 := (nd_od (by unfold isN; omega)).trans nd_od3
theorem fs_I {f : Nat} : oI (fsC g a z) 0 i f = oI (fsE a z) 0 i f := congrFun ((nd_oI fs_n0).trans (nd_oI fs_n0)) f
theorem fs_A : oA (fsC g a z) 0 i = fun _ => 0 := (nd_oA fs_n0).trans (nd_oA fs_n0)
theorem fs_T : oT (fsC g a z) i = none := rfl
theorem fs_M : oM (fsC g a z) = fun _ => none := rfl
theorem fs_L : oL (fsC g a z) i = if i = 9 then 1 else 0 := rfl
/-- the cells that are told anew: the rows of heaps, the row of marks -/
def reF (g : GG) (a z : Nat) (σ : PH) : PH := (σ.1, fun q => if q = z + 50 then some ((0, 11), .inl (g.2.2.2 6, 3, .inr (.inr (.inr (.inr (mkR (fsC g a z))))))) else (re4 g (fsC g a z) σ).2 q)
/-- X's own parts -/
theorem fs_X {σ' : PH} (hX : σ'.2 a = some ((0, 30), lpE z)) (hL : ∀ i t x, (lpL g z)[i]? = some (t, x) → t.1 ≠ 4 → i ≠ 50 → σ'.2 (z + i) = some (t, x)) (h50 : σ'.2 (z + 50) = some ((0, 11), .inl (g.2.2.2 6, 3, .inr (.inr (.inr (.inr (mkR (fsC g a z)))))))) (he : ceX g (fsC g a z) i = some e) : σ'.2 (od (fsC g a z) 0 i) = some ((0, i), e) := by
  unfold ceX at he
  split at he
  · obtain rfl := Option.some.inj he
    rw [fs_d0]
    have h := hL 0 _ _ rfl (by decide) (by omega)
    rw [Nat.add_zero] at h
    refine h.trans ?_
    rw [show (fun t => some (od (fsC g a z) 1 t)) = fun t => some (z + (1 + t)) from funext fun t => by rw [fs_d1]]
  · obtain rfl := Option.some.inj he
    rw [fs_d0, fs_A]
    exact hL 5 _ _ rfl (by decide) (by omega)
  · obtain rfl := Option.some.inj he
    rw [fs_d0, fs_I, fs_I]
    exact hL 6 _ _ rfl (by decide) (by omega)
  · obtain rfl := Option.some.inj he
    rw [fs_d0, fs_I]
    exact hL 7 _ _ rfl (by decide) (by omega)
  · obtain rfl := Option.some.inj he
    rw [fs_d0]
    exact h50
  · obtain rfl := Option.some.inj he
    rw [fs_d0, fs_A]
    exact hL 51 _ _ rfl (by decide) (by omega)
  · obtain rfl := Option.some.inj he
    rw [fs_d0, fs_A]
    exact hL 52 _ _ rfl (by decide) (by omega)
  · obtain rfl := Option.some.inj he
    rw [fs_d0, fs_A]
    exact hL 53 _ _ rfl (by decide) (by omega)
  · obtain rfl := Option.some.inj he
    rw [fs_d0, fs_A]
    exact hL 54 _ _ rfl (by decide) (by omega)
  · obtain rfl := Option.some.inj he
    rw [fs_d0, fs_A]
    exact hL 96 _ _ rfl (by decide) (by omega)
  · obtain rfl := Option.some.inj he
    rw [fs_d0]
    refine hX.trans ?_
    unfold encX
    simp only [fs_d0, fs_I, fs_d2, fs_d34, fs_L]
    rfl
  · cases he
theorem fs_ce (hk : 2 ≤ k) (h4 : k ≠ 4) (h0 : ¬ isN 0 k i) (h1 : ¬ isN 4 k i) : ceC g (fsC g a z) k i = none := (nd_ce2 h0 h4 hk).trans ((nd_ce2 h1 h4 hk).trans fsE_ce)
theorem fs_d44 : od (fsC g a z) 4 4 = z + 71 := (nd_od (by unfold isN; omega)).trans nd_od4
theorem fs_d40 : od (fsC g a z) 4 0 = z + 25 := nd_od4
theorem fs_d5 {j d : Nat} (hj : j = 0 ∨ j = 4) (hd : d < 8) : od (fsC g a z) 5 (8 * j + d) = (if j = 0 then z + 10 else z + 56) + (16 + 3 * d) := by
  rcases hj with rfl | rfl
  · exact nd_od5 hd
  · exact (nd_od (by unfold isN; omega)).trans (nd_od5 hd)
/-- the cells that lie by the days -/
theorem lp_d0 {i : Nat} (h : i < 40) : (lpL g z)[10 + i]? = (dayL g 0 (z + 10))[i]? := by
  unfold lpL
  rw [List.append_assoc, List.append_assoc, List.append_assoc, List.getElem?_append_right (by show 9 ≤ _; omega)]
  show ((((3, 0), dayE (z + 9 + 1)) :: dayL g 0 (z + 9 + 1)) ++ _)[10 + i - 9]? = _
  rw [show 10 + i - 9 = i + 1 by omega, List.cons_append, List.getElem?_cons_succ, List.getElem?_append_left (by rw [dayL_len]; exact h)]
theorem get_mid {α : Type} {A B D : List α} {n i : Nat} (hA : A.length = n) (hD : i < D.length) : (A ++ D ++ B)[n + i]? = D[i]? := by
  rw [List.getElem?_append_left (by rw [List.length_append]; omega), List.getElem?_append_right (by omega), show n + i - A.length = i by omega]
theorem lp_d4 {i : Nat} (h : i < 40) : (lpL g z)[56 + i]? = (dayL g 4 (z + 56))[i]? := by
  unfold lpL
  exact get_mid (by simp [dayL_len]) (by rw [dayL_len]; exact h)
theorem lp_len : (lpL g z).length = 97 := by
  unfold lpL
  simp [dayL_len]
theorem lp_y0 : (lpL g z)[9]? = some ((3, 0), dayE (z + 10)) := rfl
theorem lp_y4 : (lpL g z)[55]? = some ((3, 4), dayE (z + 56)) := rfl
theorem lp_h : (lpL g z)[8]? = some ((2, 0), .inr (4, [.ref (z + 9), .null])) := rfl
theorem lp_tr {t : Nat} (h : t < 4) : (lpL g z)[1 + t]? = some ((1, t), .inr (1, [.null])) := by
  rcases show t = 0 ∨ t = 1 ∨ t = 2 ∨ t = 3 by omega with rfl | rfl | rfl | rfl <;> rfl
theorem lp_50 : (lpL g z)[50]? = some ((0, 11), .inl (g.2.2.2 6, 3, .inr (.inr (.inr (.inr fun _ => none))))) := rfl
theorem fs_r4 {σ1 : PH} (hL : ∀ i, i < 97 → σ1.2 (z + i) = (lpL g z)[i]?) : ∀ i, oO (fsC g a z) i = true → ∃ e0, σ1.2 (od (fsC g a z) 4 i) = some ((4, i), e0) ∧ eqE (row4E g (fsC g a z) i) e0 := by
  intro i ho
  by_cases h0 : i = 0
  · subst h0
    refine ⟨hpQ g fun d => some (z + 10 + (16 + 3 * d)), ?_, eqE_q (fun d hd => ?_)⟩
    · rw [fs_d40]
      have h := hL 25 (by omega)
      rw [show (25 : Nat) = 10 + 15 from rfl, lp_d0 (by omega)] at h
      exact h
    · exact congrArg some (fs_d5 (j := 0) (Or.inl rfl) hd)
  · by_cases h4 : i = 4
    · subst h4
      refine ⟨hpQ g fun d => some (z + 56 + (16 + 3 * d)), ?_, eqE_q (fun d hd => ?_)⟩
      · rw [fs_d44]
        have h := hL 71 (by omega)
        rw [show (71 : Nat) = 56 + 15 from rfl, lp_d4 (by omega)] at h
        exact h
      · exact congrArg some (fs_d5 (j := 4) (Or.inr rfl) hd)
    · rw [fs_on h0 h4] at ho
      cases ho
theorem reF_ne {σ1 : PH} {q : Nat} {t : Tg} {x : va_E} (h : σ1.2 q = some (t, x)) (h4 : t.1 ≠ 4) (h50 : q ≠ z + 50) : (reF g a z σ1).2 q = some (t, x) := by
  show (if q = z + 50 then _ else (re4 g (fsC g a z) σ1).2 q) = _
  rw [if_neg h50]
  exact re4_ne h h4
theorem w_first {mt : MT} {kc ks pc : Nat} {L : List (Option Value)} {st : List Value} {σ1 : PH} (ha : a < z) (h1 : σ1.1 = z + 97) (hn : ∀ q, σ1.1 ≤ q → σ1.2 q = none) (hX : σ1.2 a = some ((0, 30), lpE z)) (hL : ∀ i, i < 97 → σ1.2 (z + i) = (lpL g z)[i]?) (kk : ∀ σ3, Hold g σ3 (fsC g a z) → σ3.1 = z + 97 → Wp g mt kc ks pc L st σ3) : Wp g mt kc ks pc L st σ1 := by
  have r4 := fs_r4 (a := a) hL
  have h50 : σ1.2 (z + 50) = some ((0, 11), .inl (g.2.2.2 6, 3, .inr (.inr (.inr (.inr fun _ => none))))) := (hL 50 (by omega)).trans lp_50
  have e50 : (reF g a z σ1).2 (z + 50) = some ((0, 11), .inl (g.2.2.2 6, 3, .inr (.inr (.inr (.inr (mkR (fsC g a z))))))) := if_pos rfl
  have hl2 : ∀ i t x, (lpL g z)[i]? = some (t, x) → t.1 ≠ 4 → i ≠ 50 → (reF g a z σ1).2 (z + i) = some (t, x) := fun i t x h h4 h5 => by
    have hi : i < 97 := by
      have := (List.getElem?_eq_some_iff.mp h).1
      rw [lp_len] at this
      exact this
    exact reF_ne ((hL i hi).trans h) h4 (by omega)
  refine w_re (σ2 := reF g a z σ1) rfl (fun q t e h => ?_) (kk _ ⟨fun q hq => ?_, fun k i e he => ?_, fun q e he => ?_⟩ h1)
  · by_cases hq : q = z + 50
    · subst hq
      rw [e50] at h
      cases h
      refine ⟨_, _, h50, eqE_q (fun j hj => ?_)⟩
      unfold mkR
      rw [if_neg]
      rw [fs_on (by omega) (by omega)]
      decide
    · have h' : (re4 g (fsC g a z) σ1).2 q = some (t, e) := by
        have h2 : (if q = z + 50 then _ else (re4 g (fsC g a z) σ1).2 q) = some (t, e) := h
        rw [if_neg hq] at h2
        exact h2
      cases hq1 : σ1.2 q with
      | none =>
        rw [re4_no hq1] at h'
        cases h'
      | some x =>
        obtain ⟨t0, e0⟩ := x
        have h3 : (if t0.1 = 4 ∧ q = od (fsC g a z) 4 t0.2 ∧ oO (fsC g a z) t0.2 = true then some (t0, row4E g (fsC g a z) t0.2) else some (t0, e0)) = some (t, e) := by
          have h4 : (match σ1.2 q with
            | some (t, e) => if t.1 = 4 ∧ q = od (fsC g a z) 4 t.2 ∧ oO (fsC g a z) t.2 = true then some (t, row4E g (fsC g a z) t.2) else some (t, e)
            | none => none) = some (t, e) := h'
          rw [hq1] at h4
          exact h4
        by_cases hc : t0.1 = 4 ∧ q = od (fsC g a z) 4 t0.2 ∧ oO (fsC g a z) t0.2 = true
        · rw [if_pos hc] at h3
          obtain ⟨e1, h5, h6⟩ := r4 _ hc.2.2
          rw [← hc.2.1, hq1] at h5
          have h7 : e0 = e1 := congrArg Prod.snd (Option.some.inj h5)
          cases h3
          exact ⟨_, _, rfl, by rw [h7]; exact h6⟩
        · rw [if_neg hc] at h3
          cases h3
          exact ⟨_, _, rfl, eqE.rfl⟩
  · have hq1 : σ1.1 ≤ q := hq
    show (if q = z + 50 then _ else (re4 g (fsC g a z) σ1).2 q) = none
    rw [if_neg (by omega)]
    exact re4_no (hn q hq1)
  · by_cases h4 : k = 4
    · subst h4
      have he2 : (if oO (fsC g a z) i = true then some (row4E g (fsC g a z) i) else none) = some e := he
      by_cases ho : oO (fsC g a z) i = true
      · rw [if_pos ho] at he2
        cases he2
        obtain ⟨e0, h5, -⟩ := r4 i ho
        show (if od (fsC g a z) 4 i = z + 50 then _ else (re4 g (fsC g a z) σ1).2 (od (fsC g a z) 4 i)) = _
        rw [if_neg]
        · exact re4_eq h5 ho
        · intro hz
          rw [hz, h50] at h5
          cases h5
      · rw [if_neg ho] at he2
        cases he2
    by_cases h0 : k = 0
    · subst h0
      have he2 : (if oO (fsC g a z) 0 = true then ceX g (fsC g a z) i else none) = some e := he
      rw [if_pos fs_o0] at he2
      exact fs_X (reF_ne hX (by decide) (by omega)) hl2 e50 he2
    by_cases hk1 : k = 1
    · subst hk1
      have he2 : (if oO (fsC g a z) 0 = true ∧ i < 4 then (some (.inr (1, [oneT (oT (fsC g a z) i) (od (fsC g a z) 15 i)])) : Option va_E) else none) = some e := he
      by_cases hi : i < 4
      · rw [if_pos ⟨fs_o0, hi⟩] at he2
        cases he2
        rw [fs_d1]
        exact hl2 (1 + i) _ _ (lp_tr hi) (by show 1 ≠ 4; decide) (by omega)
      · rw [if_neg (fun x => hi x.2)] at he2
        cases he2
    by_cases hn0 : isN 0 k i
    · have h5 := nd_cells (C := fs4 g a z) (σ' := σ1) (y := z + 9) (z := z + 10) (a := z + 8) hn0 h4 he (fun _ => (hL 8 (by omega)).trans lp_h) ((hL 9 (by omega)).trans lp_y0) (fun i hi => by rw [Nat.add_assoc, hL _ (by omega)]; exact lp_d0 hi)
      refine reF_ne h5 (by show k ≠ 4; exact h4) (fun hz => ?_)
      have h6 : σ1.2 (od (fsC g a z) k i) = some ((k, i), e) := h5
      rw [hz, h50] at h6
      cases h6
      exact h0 rfl
    by_cases hn4 : isN 4 k i
    · have he4 : ceC g (fs4 g a z) k i = some e := (nd_ce2 hn0 h4 (by omega)).symm.trans he
      have h5 := nd_cells (C := fsE a z) (σ' := σ1) (y := z + 55) (z := z + 56) (a := 0) hn4 h4 he4 (fun h => absurd h (by omega)) ((hL 55 (by omega)).trans lp_y4) (fun i hi => by rw [Nat.add_assoc, hL _ (by omega)]; exact lp_d4 hi)
      have h6 : σ1.2 (od (fsC g a z) k i) = some ((k, i), e) := by
        rw [show od (fsC g a z) k i = od (fs4 g a z) k i from nd_od hn0]
        exact h5
      refine reF_ne h6 (by show k ≠ 4; exact h4) (fun hz => ?_)
      rw [hz, h50] at h6
      cases h6
      exact h0 rfl
    · rw [fs_ce (by omega) h4 hn0 hn4] at he
      cases he
  · have he2 : (if z + 10 ≤ q ∧ q < z + 10 + 11 then ((dayL g 0 (z + 10))[q - (z + 10)]?).map (fun x => x.2) else if z + 56 ≤ q ∧ q < z + 56 + 11 then ((dayL g 4 (z + 56))[q - (z + 56)]?).map (fun x => x.2) else none) = some e := he
    by_cases hq : z + 10 ≤ q ∧ q < z + 10 + 11
    · rw [if_pos hq] at he2
      obtain ⟨i, hi, rfl⟩ : ∃ i, i < 11 ∧ q = z + 10 + i := ⟨q - (z + 10), by omega, by omega⟩
      rw [Nat.add_sub_cancel_left] at he2
      have h7 : σ1.2 (z + 10 + i) = (dayL g 0 (z + 10))[i]? := by rw [Nat.add_assoc, hL _ (by omega)]; exact lp_d0 (by omega)
      refine reF_ne (t := (9, 0)) ?_ (by decide) (by omega)
      rw [h7]
      rcases show i = 0 ∨ i = 1 ∨ i = 2 ∨ i = 3 ∨ i = 4 ∨ i = 5 ∨ i = 6 ∨ i = 7 ∨ i = 8 ∨ i = 9 ∨ i = 10 by omega with rfl | rfl | rfl | rfl | rfl | rfl | rfl | rfl | rfl | rfl | rfl
      all_goals
        obtain rfl := Option.some.inj he2
        rfl
    · rw [if_neg hq] at he2
      by_cases hq4 : z + 56 ≤ q ∧ q < z + 56 + 11
      · rw [if_pos hq4] at he2
        obtain ⟨i, hi, rfl⟩ : ∃ i, i < 11 ∧ q = z + 56 + i := ⟨q - (z + 56), by omega, by omega⟩
        rw [Nat.add_sub_cancel_left] at he2
        have h7 : σ1.2 (z + 56 + i) = (dayL g 4 (z + 56))[i]? := by rw [Nat.add_assoc, hL _ (by omega)]; exact lp_d4 (by omega)
        refine reF_ne (t := (9, 0)) ?_ (by decide) (by omega)
        rw [h7]
        rcases show i = 0 ∨ i = 1 ∨ i = 2 ∨ i = 3 ∨ i = 4 ∨ i = 5 ∨ i = 6 ∨ i = 7 ∨ i = 8 ∨ i = 9 ∨ i = 10 by omega with rfl | rfl | rfl | rfl | rfl | rfl | rfl | rfl | rfl | rfl | rfl
        all_goals
          obtain rfl := Option.some.inj he2
          rfl
      · rw [if_neg hq4] at he2
        cases he2
theorem fs_E0 : EncD g (fsC g a z) 0 (setS V0 9 (z + 10)) (fun _ => 4) := nd_E g _ 0 _ _ _
theorem fs_E4 : EncD g (fsC g a z) 4 (setS V0 9 (z + 56)) (fun _ => 4) := by
  have E4 : EncD g (fs4 g a z) 4 (setS V0 9 (z + 56)) (fun _ => 4) := nd_E g _ 4 _ _ _
  refine E4.kd ⟨nd_Bn (by omega), nd_Pn (by omega), nd_oI (by unfold isN; omega), fun k h1 h2 => nd_oA (by unfold isN; omega), fun d hd => nd_oI (by unfold isN; omega), fun k d hk hd => ⟨nd_oA (by unfold isN; omega), nd_oN (by unfold isN; omega)⟩, fun q e he => ?_⟩
  have he2 : (if z + 56 ≤ q ∧ q < z + 56 + 11 then ((dayL g 4 (z + 56))[q - (z + 56)]?).map (fun x => x.2) else none) = some e := he
  show (if z + 10 ≤ q ∧ q < z + 10 + 11 then ((dayL g 0 (z + 10))[q - (z + 10)]?).map (fun x => x.2) else if z + 56 ≤ q ∧ q < z + 56 + 11 then ((dayL g 4 (z + 56))[q - (z + 56)]?).map (fun x => x.2) else none) = some e
  by_cases hq : z + 56 ≤ q ∧ q < z + 56 + 11
  · rw [if_neg (by omega)]
    exact he2
  · rw [if_neg hq] at he2
    cases he2
end FST
