set_option maxRecDepth 100000
section NWM
variable {g : GG} {mt : MT} {kc ks pc : Nat} {L : List (Option Value)} {st rest : List Value} {σ σ0 : PH} {C : CS} {i c : Nat}
/-- one row grows: the call of longer and the store of the row -/
theorem grow6 (d2 : decode mt.1.2.1 pc = .ok (.invokestatic 28, 3)) (d3 : decode mt.1.2.1 (pc + 3) = .ok (.putfield 9, 3)) (ho : mt.1.1 = RX7) (hd : 2 ≤ mt.2.1.1) (hi : oO C (i / 8) = true) (hc : oN C 6 i = c) (h32 : c ≤ 32) (H : Hold g σ C) (F : Fr σ0 σ) (kk : ∀ (a : Nat) (e : va_E) (σ : PH), Hold g σ (gr1 C i c a e) → Fr σ0 σ → Wp g mt kc ks (pc + 3 + 3) L rest σ) (hr : (rest.map fun v => v.category).sum ≤ 7) : Wp g mt (kc + 1) (ks + 2 * c) pc L (.ref (od C 6 i) :: .ref (od C 5 i) :: rest) σ := by
  refine csq_call (mi := miX7_longer) (As := [.ref (od C 6 i)]) (rest := .ref (od C 5 i) :: rest) d2 (by rw [ho]; exact q898) okX7_longer hd (kX7_longer (C := C) (k := 6) (i := i) (by omega) ((ce_who hi).trans (by rw [hc])) (by omega)) H F rfl rfl (by simp only [List.map_cons, List.sum_cons]; show 1 + _ ≤ 8; omega) ?_
  intro σ C2 h2 H2 F2
  obtain ⟨a, rfl⟩ := h2
  exact c_grow6 d3 ho hi H2 F2 (nw_ce (g := g)) (fun σ H F => kk a _ σ H F)
theorem grow7 (d2 : decode mt.1.2.1 pc = .ok (.invokestatic 28, 3)) (d3 : decode mt.1.2.1 (pc + 3) = .ok (.putfield 15, 3)) (ho : mt.1.1 = RX7) (hd : 2 ≤ mt.2.1.1) (hi : oO C (i / 8) = true) (hc : oN C 7 i = c) (h32 : c ≤ 32) (H : Hold g σ C) (F : Fr σ0 σ) (kk : ∀ (a : Nat) (e : va_E) (σ : PH), Hold g σ (gr2 C i c a e) → Fr σ0 σ → Wp g mt kc ks (pc + 3 + 3) L rest σ) (hr : (rest.map fun v => v.category).sum ≤ 7) : Wp g mt (kc + 1) (ks + 2 * c) pc L (.ref (od C 7 i) :: .ref (od C 5 i) :: rest) σ := by
  refine csq_call (mi := miX7_longer) (As := [.ref (od C 7 i)]) (rest := .ref (od C 5 i) :: rest) d2 (by rw [ho]; exact q898) okX7_longer hd (kX7_longer (C := C) (k := 7) (i := i) (by omega) ((ce_tim hi).trans (by rw [hc])) (by omega)) H F rfl rfl (by simp only [List.map_cons, List.sum_cons]; show 1 + _ ≤ 8; omega) ?_
  intro σ C2 h2 H2 F2
  obtain ⟨a, rfl⟩ := h2
  exact c_grow7 d3 ho hi H2 F2 (nw_ce (g := g)) (fun σ H F => kk a _ σ H F)
theorem gr1_5 {a : Nat} {e : va_E} : od (gr1 C i c a e) 5 i = od C 5 i := (gw_ne (C := nwC C 90 a e) (by omega)).trans (nw_ne (by omega))
theorem gr2_5 {a : Nat} {e : va_E} : od (gr2 C i c a e) 5 i = od C 5 i := (gw_ne (C := nwC C 90 a e) (by omega)).trans (nw_ne (by omega))
theorem gr1_M {a : Nat} {e : va_E} : oM (gr1 C i c a e) 90 = none := gw_M.1
theorem gr1_7 {a : Nat} {e : va_E} : oN (gr1 C i c a e) 7 i = oN C 7 i := gw_N2 (by omega)
end NWM
set_option maxHeartbeats 4000000 in
theorem kX7_add {g : GG} {C : CS} {i n c : Nat} {who tim : Nat → Nat} {f : Nat} {m : Nat} (hi : oO C (i / 8) = true) (Eh : EncH C i n who tim c) (hm2 : ∀ k, k < n → tim k ≤ 240) (hn : n < 64) (hl : oM C 90 = none) (hm : m ≤ 240) : Cp g miX7_add 2 (if n = c then 2 else 0) (if n = c then 4 * c else 0) [.ref (od C 5 i), .int (nI f), .int (nI m)] C (none) (fun C2 => EncH C2 i (n + 1) (rowIn who (insP tim m n) f) (rowIn tim (insP tim m n) m) (if n = c then 2 * c else c) ∧ SH i C C2) := by
  refine Cp.start [some (.ref (od C 5 i)), some (.int (nI f)), some (.int (nI m)), none] plX7 rfl (Nat.le_of_ble_eq_true rfl) rfl ?_
  intro σ0 σ H F
  have hc9 := Eh.cap
  refine w_aload_n dX7_add_0 rfl ?_
  refine gX7_18 (C := C) dX7_add_1 rfl hi H ?_
  refine w_topN Eh.sz ?_
  refine w_aload_n dX7_add_4 rfl ?_
  refine gX7_9 (C := C) dX7_add_5 rfl hi H ?_
  refine w_alen (k := 0) dX7_add_8 (H.get (ce_who hi)) rfl ?_
  refine w_topN (congrArg nI Eh.l6) ?_
  refine w_icmpN_ne dX7_add_9 rfl (by omega) (by omega) (fun h_9 => ?_) (fun h_9 => ?_)
  · refine w_bud (kc2 := 0) (ks2 := 0) (Nat.zero_le _) (Nat.zero_le _) ?_
    exact add_tail Eh (by omega) (if_neg (by omega)).symm SH.refl H F hi hm2 hm
  · have hc32 : c ≤ 32 := by have := Eh.2.2.1; unfold capO at this; omega
    refine w_bud (kc2 := 0 + 1 + 1) (ks2 := 0 + 2 * c + 2 * c) (by rw [if_pos h_9]; exact Nat.le_refl 2) (by rw [if_pos h_9]; omega) ?_
    refine w_aload_n dX7_add_12 rfl ?_
    refine w_aload_n dX7_add_13 rfl ?_
    refine gX7_9 (C := C) dX7_add_14 rfl hi H ?_
    refine grow6 dX7_add_17 dX7_add_20 rfl (Nat.le_of_ble_eq_true rfl) hi Eh.l6 hc32 H F ?_ (Nat.le_of_ble_eq_true rfl)
    intro a17 e17 σ H F
    generalize hC9 : gr1 C i c a17 e17 = C9 at H
    have hi9 : oO C9 (i / 8) = true := by rw [← hC9]; exact hi
    rw [show od C 5 i = od C9 5 i by rw [← hC9]; exact gr1_5.symm]
    refine w_aload_n dX7_add_23 rfl ?_
    refine w_aload_n dX7_add_24 rfl ?_
    refine gX7_15 (C := C9) dX7_add_25 rfl hi9 H ?_
    refine grow7 dX7_add_28 dX7_add_31 rfl (Nat.le_of_ble_eq_true rfl) hi9 (by rw [← hC9, gr1_7]; exact Eh.l7) hc32 H F ?_ (Nat.le_of_ble_eq_true rfl)
    intro a28 e28 σ H F
    rw [show od C9 5 i = od (gr2 C9 i c a28 e28) 5 i from gr2_5.symm]
    have hE := Eh.grow (a := a17) (e := e17) (a2 := a28) (e2 := e28) hc32
    rw [hC9] at hE
    have hS1 := SH.gr1 (i := i) (c := c) (a := a17) (e := e17) hl
    rw [hC9] at hS1
    have hM9 : oM C9 90 = none := by rw [← hC9]; exact gr1_M
    exact add_tail hE (by omega) (if_pos h_9).symm (hS1.trans (SH.gr2 hM9)) H F hi9 hm2 hm
