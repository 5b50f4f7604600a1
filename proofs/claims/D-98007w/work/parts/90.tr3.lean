/-! want and on -/
set_option maxRecDepth 100000
section TR3
variable {g : GG} {C : CS}
/-- Refused was thrown: its reason stands -/
def RfX (g : GG) (C : CS) (w : Int32) (σ : PH) (q : Addr) (E : String) (σ2 : PH) : Prop := q = od C 0 6 ∧ E = RX3 ∧ Hold g σ2 (uI C 0 6 6 w) ∧ Fr σ σ2
theorem tX0_want0 {w : Int32} (hx : oO C 0 = true) (σ : PH) (H : Hold g σ C) : Ct g miX0_want 3 0 0 [.ref (od C 0 30), .int (nI 0), .int w] σ (fun _ _ => False) (RfX g C w σ) := by
  refine Ct.start [some (.ref (od C 0 30)), some (.int (nI 0)), some (.int w)] plX0 rfl (Nat.le_of_ble_eq_true rfl) rfl (fun _ => ?_)
  refine w_iload_n dX0_want_0 rfl ?_
  refine w_if_ne dX0_want_1 rfl (fun h => absurd rfl h) (fun _ => ?_)
  refine w_aload_n dX0_want_4 rfl ?_
  refine gX0_44 (C := C) dX0_want_5 rfl hx H ?_
  refine w_iload_n dX0_want_8 rfl ?_
  refine w_callV (kc := 0) (ks := 0) (rest := []) dX0_want_9 q583 okX3_by clX3 rfl (kX3_by hx σ H) (show 1 + 1 ≤ 3 by decide) (H.get (ce_ref hx)) rfl rfl (by decide) ?_ (fun q E σ2 h => h.elim)
  rintro v σ2 ⟨rfl, C2, rfl, H2, F2⟩
  exact w_athrow (q := od C 0 6) (rest := []) dX0_want_12 clX3 (H2.get (ce_ref (C := uI C 0 6 6 w) hx)) (t_out rfl ⟨rfl, rfl, H2, F2⟩)
theorem tX0_want1 {w : Int32} (σ : PH) : Ct g miX0_want 3 0 0 [.ref (od C 0 30), .int (nI 1), .int w] σ (fun v σ2 => v = none ∧ σ2 = σ) noX := by
  refine Ct.start [some (.ref (od C 0 30)), some (.int (nI 1)), some (.int w)] plX0 rfl (Nat.le_of_ble_eq_true rfl) rfl (fun _ => ?_)
  refine w_iload_n dX0_want_0 rfl ?_
  refine w_if_ne dX0_want_1 rfl (fun _ => ?_) (fun h => absurd h (by decide))
  exact w_vret dX0_want_13 rfl ⟨rfl, rfl⟩
/-- what stands against a tray: 0, or 1, 2 -/
def onW (C : CS) (x : Int32) : Nat := if inN x 4 then (if (oT C (cl x)).isNone then 2 else 0) else 1
def onQ (C : CS) (x : Int32) (σ : PH) (v : Option Value) (σ2 : PH) : Prop := onW C x = 0 ∧ v = some (.ref (od C 15 (cl x))) ∧ σ2 = σ
def onX (g : GG) (C : CS) (x : Int32) (σ : PH) (q : Addr) (E : String) (σ2 : PH) : Prop := onW C x ≠ 0 ∧ RfX g C (nI (onW C x)) σ q E σ2
theorem on_bad {x : Int32} (h : ¬ inN x 4) : onW C x = 1 := if_neg h
theorem on_none {j : Nat} (h : inN (nI j) 4) (hc : cl (nI j) = j) (ho : oT C j = none) : onW C (nI j) = 2 := by
  unfold onW
  rw [if_pos h, hc, ho]
  rfl
theorem on_some {j : Nat} {e : va_E} (h : inN (nI j) 4) (hc : cl (nI j) = j) (ho : oT C j = some e) : onW C (nI j) = 0 := by
  unfold onW
  rw [if_pos h, hc, ho]
  rfl
theorem ce_trays (hx : oO C 0 = true) : ceC g C 0 0 = some (.inl (g.2.2.2 4, 4, .inr (.inr (.inr (.inr fun t => some (od C 1 t)))))) := if_pos hx
theorem ce_tray {j : Nat} (hx : oO C 0 = true) (hj : j < 4) : ceC g C 1 j = some (.inr (1, [oneT (oT C j) (od C 15 j)])) := if_pos ⟨hx, hj⟩
theorem tX0_on {x : Int32} (hx : oO C 0 = true) (σ : PH) (H : Hold g σ C) : Ct g miX0_on 4 0 0 [.ref (od C 0 30), .int x] σ (onQ C x σ) (onX g C x σ) := by
  refine Ct.start [some (.ref (od C 0 30)), some (.int x)] plX0 rfl (Nat.le_of_ble_eq_true rfl) rfl (fun _ => ?_)
  refine w_aload_n dX0_on_0 rfl ?_
  refine w_iload_n dX0_on_1 rfl ?_
  by_cases h4 : inN x 4
  · obtain ⟨j, hj, rfl⟩ := inN_of h4 (by omega)
    have hc : cl (nI j) = j := nI_clamp (by omega)
    refine w_if_lt dX0_on_2 rfl (fun h => absurd h h4.1) (fun _ => ?_)
    refine w_iload_n dX0_on_5 rfl ?_
    refine w_iconst (v := nI 4) dX0_on_6 ki_4 ?_
    refine w_icmp_ge dX0_on_7 rfl (fun h => absurd h h4.2) (fun _ => ?_)
    refine w_iconst (v := nI 1) dX0_on_10 ki_1 ?_
    refine w_goto dX0_on_11 rfl ?_
    refine w_iconst (v := nI 1) dX0_on_15 ki_1 ?_
    refine w_callV (kc := 0) (ks := 0) (rest := []) dX0_on_16 q579 okX0_want clX0 rfl (tX0_want1 σ) (show 3 + 1 ≤ 4 by decide) (H.get (ce_X hx)) rfl rfl (by decide) ?_ (fun q E σ2 h => absurd h (fun z => z))
    rintro v σ2 ⟨rfl, rfl⟩
    refine w_aload_n dX0_on_19 rfl ?_
    refine w_aload_n dX0_on_20 rfl ?_
    refine gX0_18 (C := C) dX0_on_21 rfl hx H ?_
    refine w_iload_n dX0_on_24 rfl ?_
    refine w_aaldN (k := 4) dX0_on_25 rfl (H.get (ce_trays hx)) hj (by omega) ?_
    rcases ho : oT C j with _ | e
    · refine w_getfN (k := 0) (v := .null) dX0_on_26 clX1 (by decide) q179 (H.get (ce_tray hx hj)) (by rw [ho]; rfl) ?_
      refine w_ifnullN dX0_on_29 rfl ?_
      refine w_iconst (v := nI 0) dX0_on_36 ki_0 ?_
      refine w_iconst (v := nI 2) dX0_on_37 ki_2 ?_
      refine w_callV (kc := 0) (ks := 0) (rest := []) dX0_on_38 q579 okX0_want clX0 rfl (tX0_want0 hx σ2 H) (show 3 + 1 ≤ 4 by decide) (H.get (ce_X hx)) rfl rfl (by decide) (fun _ _ h => absurd h (fun z => z)) (fun q E σ2 h => t_out rfl ?_)
      have h9 := on_none h4 hc ho
      exact ⟨by rw [h9]; decide, by rw [h9]; exact h⟩
    · refine w_getfN (k := 0) (v := .ref (od C 15 j)) dX0_on_26 clX1 (by decide) q179 (H.get (ce_tray hx hj)) (by rw [ho]; rfl) ?_
      refine w_ifnull dX0_on_29 ?_
      refine w_iconst (v := nI 1) dX0_on_32 ki_1 ?_
      refine w_goto dX0_on_33 rfl ?_
      refine w_iconst (v := nI 2) dX0_on_37 ki_2 ?_
      refine w_callV (kc := 0) (ks := 0) (rest := []) dX0_on_38 q579 okX0_want clX0 rfl (tX0_want1 σ2) (show 3 + 1 ≤ 4 by decide) (H.get (ce_X hx)) rfl rfl (by decide) ?_ (fun q E σ2 h => absurd h (fun z => z))
      rintro v σ2 ⟨rfl, rfl⟩
      refine w_aload_n dX0_on_41 rfl ?_
      refine gX0_18 (C := C) dX0_on_42 rfl hx H ?_
      refine w_iload_n dX0_on_45 rfl ?_
      refine w_aaldN (k := 4) dX0_on_46 rfl (H.get (ce_trays hx)) hj (by omega) ?_
      refine w_getfN (k := 0) (v := .ref (od C 15 j)) dX0_on_47 clX1 (by decide) q179 (H.get (ce_tray hx hj)) (by rw [ho]; rfl) ?_
      exact w_aret dX0_on_50 rfl (Or.inl ⟨_, rfl⟩) ⟨on_some h4 hc ho, by rw [hc], rfl⟩
  · have h9 := on_bad (C := C) h4
    have k14 : Wp g (mtOf g miX0_on 4 0 0 (onQ C x σ) (onX g C x σ)) 0 0 14 [some (.ref (od C 0 30)), some (.int x)] [.ref (od C 0 30)] σ := by
      refine w_iconst (v := nI 0) dX0_on_14 ki_0 ?_
      refine w_iconst (v := nI 1) dX0_on_15 ki_1 ?_
      refine w_callV (kc := 0) (ks := 0) (rest := []) dX0_on_16 q579 okX0_want clX0 rfl (tX0_want0 hx σ H) (show 3 + 1 ≤ 4 by decide) (H.get (ce_X hx)) rfl rfl (by decide) (fun _ _ h => absurd h (fun z => z)) (fun q E σ2 h => t_out rfl ?_)
      exact ⟨by rw [h9]; decide, by rw [h9]; exact h⟩
    refine w_if_lt dX0_on_2 rfl (fun _ => k14) (fun h => ?_)
    refine w_iload_n dX0_on_5 rfl ?_
    refine w_iconst (v := nI 4) dX0_on_6 ki_4 ?_
    exact w_icmp_ge dX0_on_7 rfl (fun _ => k14) (fun h2 => absurd ⟨h, h2⟩ h4)
end TR3
