/-! THE READER: words, faults -/
set_option maxRecDepth 100000
/-- the place among the words of each String constant of the reader -/
def wk (i : Nat) : Nat := ([0, 18, 19, 20, 21, 22, 23, 1, 27, 13, 14, 15, 16, 0, 2, 3, 7, 8, 9, 4, 10, 5, 11, 12, 6, 17, 24, 28, 29, 25, 26] : List Nat).getD i 0
def skB (i : Nat) : List Int32 := (skL.getD i ("", 0, "", [])).2.2.2
theorem skB_of {i : Nat} {x : String × Nat × String × List Int32} (hx : skL[i]? = some x) : skB i = x.2.2.2 := by
  unfold skB
  rw [List.getD_eq_getElem?_getD, hx]
  rfl
theorem wk_all : ((List.range 31).all fun i => i == 0 || (skB i == ((keys.getD (wk i) []).map fun c => nI c) && decide (wk i < 30))) = true := by decide +kernel
theorem wk_ok {i : Nat} (h1 : 1 ≤ i) (h : i < 31) : skB i = (keys.getD (wk i) []).map (fun c => nI c) ∧ wk i < 30 := by
  have h2 := List.all_eq_true.mp wk_all i (List.mem_range.mpr h)
  simp only [Bool.or_eq_true, Bool.and_eq_true, beq_iff_eq, decide_eq_true_eq] at h2
  rcases h2 with h2 | h2
  · omega
  · exact h2
theorem keys_ne : ∀ n, n < 30 → ∀ m, m < n → keys.getD m [] ≠ keys.getD n [] := by decide +kernel
theorem keys_lt : ∀ n, n < 30 → ∀ j, j < (keys.getD n []).length → (keys.getD n []).getD j 0 < 128 := by decide +kernel
theorem kfi_hit {w : List Nat} : ∀ j k, kfi w j k < k + j → keys.getD (kfi w j k) [] = w
  | 0, k, h => absurd h (by show ¬ k < k + 0; omega)
  | j + 1, k, h => by
    unfold kfi at h ⊢
    split
    · assumption
    · rename_i h1
      rw [if_neg h1] at h
      exact kfi_hit j (k + 1) (by omega)
theorem kix_iff {X : TX} {t : Tk} {n : Nat} (hn : n < 30) : kix X t = n ↔ (t.so = 2 ∧ keys.getD n [] = wd X t) := by
  constructor
  · intro h
    have h2 := kix_so (X := X) (t := t) (by omega)
    refine ⟨h2, ?_⟩
    unfold kix at h
    rw [if_pos h2] at h
    have h3 := kfi_hit (w := wd X t) 30 0 (by omega)
    rw [h] at h3
    exact h3
  · rintro ⟨h2, h3⟩
    exact kix_hit h2 hn (fun i hi => by rw [← h3]; exact keys_ne n hn i hi) h3
theorem tok_sgv {X : TX} {t : Tk} (h : OkT9 X t) (h4 : t.so = 4) : t.fr < X.2 ∧ t.va = X.1 t.fr := by
  obtain ⟨e, he, rfl⟩ := h
  unfold tok at h4 ⊢
  generalize scn X isSp e = a at *
  unfold tokA at h4 ⊢
  split at h4
  · exact absurd h4 (show ¬ (0 : Nat) = 4 by decide)
  · rename_i h1
    rw [if_neg h1]
    split at h4
    · exact absurd h4 (show ¬ (2 : Nat) = 4 by decide)
    · rename_i h2
      rw [if_neg h2]
      split at h4
      · split at h4
        · exact absurd h4 (show ¬ (1 : Nat) = 4 by decide)
        · exact absurd h4 (show ¬ (3 : Nat) = 4 by decide)
      · rename_i h3
        rw [if_neg h3]
        split at h4
        · rename_i h5
          rw [if_pos h5]
          exact ⟨(show a < X.2 by omega), rfl⟩
        · exact absurd h4 (show ¬ (1 : Nat) = 4 by decide)
theorem nI_digit {v c : Nat} (h1 : 48 ≤ c) : nI 10 * nI v + nI c - nI 48 = nI (10 * v + (c - 48)) := by
  rw [pk_mul, nI_add, pk_sub (by omega), show 10 * v + c - 48 = 10 * v + (c - 48) by omega]
/-- the fault in Bad -/
def bdS (C : CS) (f : Nat × Nat) : CS := uI (uI C 0 5 6 (nI f.1)) 0 5 7 (nI f.2)
theorem Bd.mk_ {C C1 : CS} {f : Nat × Nat} (h : RFr C C1) : Bd C f (bdS C1 f) := ⟨(h.trans (RFr.I C1 6 _)).trans (RFr.I _ 7 _), (oI_ne _ _ (fun _ _ z => absurd z (by decide))).trans (oI_eq _ _ _ _ _), oI_eq _ _ _ _ _⟩
def QT (C : CS) (X : TX) (st du : Int32) (r : PR Tk) : Option Value → CS → Prop := fun w C2 => w = none ∧ ∃ (t2 : Tk) (nu2 : Int32), r = .ok t2 ∧ OkT9 X t2 ∧ C2 = rdS C X.2 (rqT t2 nu2 st du) ∧ NuT t2 nu2
def QN (C : CS) (X : TX) (st du : Int32) (r : PR (Nat × Tk)) : Option Value → CS → Prop := fun w C2 => ∃ (v : Nat) (t2 : Tk) (nu2 : Int32), w = some (.int (nI v)) ∧ r = .ok (v, t2) ∧ OkT9 X t2 ∧ C2 = rdS C X.2 (rqT t2 nu2 st du) ∧ NuT t2 nu2
def ET {α : Type} (C : CS) (r : PR α) : CS → Prop := fun C2 => ∃ f, r = .error f ∧ Bd C f C2
theorem r_at {g : GG} {C : CS} {x y : Int32} (hx : oO C 0 = true) : Cp g miX2_at 1 0 0 [.ref (od C 0 5), .int x, .int y] C (some (.ref (od C 0 5))) (fun C2 => C2 = uI (uI C 0 5 6 x) 0 5 7 y) := by
  refine Cp.start [some (.ref (od C 0 5)), some (.int x), some (.int y)] plX2 rfl (Nat.le_of_ble_eq_true rfl) rfl (fun σ0 σ H F => ?_)
  refine w_aload_n dX2_at_0 rfl ?_
  refine w_iload_n dX2_at_1 rfl ?_
  refine pX2_7 (C := C) dX2_at_2 rfl hx H F ?_
  intro σ H F
  refine w_aload_n dX2_at_5 rfl ?_
  refine w_iload_n dX2_at_6 rfl ?_
  refine pX2_13 (C := uI C 0 5 6 x) dX2_at_7 rfl hx H F ?_
  intro σ H F
  refine w_aload_n dX2_at_10 rfl ?_
  exact w_aret dX2_at_11 rfl (Or.inl ⟨_, rfl⟩) ⟨rfl, _, rfl, H, F⟩
theorem wk_x {i : Nat} {x : String × Nat × String × List Int32} (h1 : 1 ≤ i) (hx : skL[i]? = some x) : wk i < 30 ∧ x.2.2.2.length = (keys.getD (wk i) []).length ∧ ∀ j, j < x.2.2.2.length → x.2.2.2.getD j 0 = nI ((keys.getD (wk i) []).getD j 0) ∧ (keys.getD (wk i) []).getD j 0 < 128 := by
  have h := wk_ok h1 (List.getElem?_eq_some_iff.mp hx).1
  rw [skB_of hx] at h
  have hlt := keys_lt _ h.2
  obtain ⟨h1, h2⟩ := h
  refine ⟨h2, ?_⟩
  generalize keys.getD (wk i) [] = ws at *
  refine ⟨by rw [h1, List.length_map], fun j hj => ?_⟩
  have hj2 : j < ws.length := by rw [h1, List.length_map] at hj; exact hj
  refine ⟨?_, hlt j hj2⟩
  have e1 : x.2.2.2.getD j 0 = x.2.2.2[j]'hj := List.getElem_eq_getD 0 |>.symm
  have e2 : ws.getD j 0 = ws[j]'hj2 := List.getElem_eq_getD 0 |>.symm
  rw [e1, e2]
  simp only [h1, List.getElem_map]
