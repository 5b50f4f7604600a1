/-! X.bestAt (printed by gen/bat.py) -/
set_option maxRecDepth 100000
set_option maxHeartbeats 4000000 in
theorem kX0_bestAt {g : GG} {C : CS} {x : Int32} {m : Nat} {w : Nat → Nat} (hx : oO C 0 = true) (hm : oI C 0 30 18 = nI m) (hm8 : m ≤ 8) (hr : ∀ k, k < m → oA C 0 15 k = nI (w k) ∧ w k < 8) : Cp g miX0_bestAt 2 0 0 [.ref (od C 0 30), .int x] C (some (.int (if inN x m then nI (w (cl x)) else -1))) (fun C2 => C2 = uI C 0 30 7 (if inN x m then nI 0 else nI 6)) := by
  refine Cp.start [some (.ref (od C 0 30)), some (.int x)] plX0 rfl (Nat.le_of_ble_eq_true rfl) rfl ?_
  intro σ0 σ H F
  refine w_aload_n dX0_bestAt_0 rfl ?_
  refine w_iload_n dX0_bestAt_1 rfl ?_
  refine w_i2l dX0_bestAt_2 rfl ?_
  refine w_lconst (v := 0) dX0_bestAt_3 rfl ?_
  refine w_aload_n dX0_bestAt_4 rfl ?_
  refine gX0_391 (C := C) dX0_bestAt_5 rfl hx H ?_
  rw [hm]
  refine w_iconst (v := nI 1) dX0_bestAt_8 ki_1 ?_
  refine w_isub dX0_bestAt_9 ?_
  refine w_i2l dX0_bestAt_10 rfl ?_
  refine cs_call (mi := miX0_isIn) dX0_bestAt_11 q1016 okX0_isIn (Nat.le_of_ble_eq_true rfl) (kX0_isInD (m := m) (by omega)) rfl rfl (Nat.le_of_ble_eq_true rfl) ?_
  refine w_ifB_eq dX0_bestAt_14 rfl (fun h => ?_) (fun h => ?_)
  · rw [if_neg h, if_neg h]
    refine w_iconst (v := (-1)) dX0_bestAt_26 ki_m1 ?_
    refine cp_call (mi := miX0_answer) dX0_bestAt_27 q1199 okX0_answer clX0 rfl (H.get (ce_X hx)) (Nat.le_of_ble_eq_true rfl) (kX0_answerM (C := C) hx) H F rfl rfl (Nat.le_of_ble_eq_true rfl) ?_
    rintro σ C2 h2 H F
    exact w_iret dX0_bestAt_30 rfl ⟨rfl, C2, h2, H, F⟩
  · rw [if_pos h, if_pos h]
    obtain ⟨k, hk, rfl⟩ := inN_of h (by omega)
    have hck : cl (nI k) = k := nI_clamp (by omega)
    rw [hck]
    refine w_aload_n dX0_bestAt_17 rfl ?_
    refine gX0_69 (C := C) dX0_bestAt_18 rfl hx H ?_
    refine w_iload_n dX0_bestAt_21 rfl ?_
    refine w_ialdN dX0_bestAt_22 (H.get (ce_r15 hx)) (by omega) (by omega) ?_
    refine w_topN (n := w k) (hr k hk).1 ?_
    refine w_goto dX0_bestAt_23 rfl ?_
    have h8 := (hr k hk).2
    refine cp_call (mi := miX0_answer) dX0_bestAt_27 q1199 okX0_answer clX0 rfl (H.get (ce_X hx)) (Nat.le_of_ble_eq_true rfl) (kX0_answerN (C := C) (c := w k) hx (by omega)) H F rfl rfl (Nat.le_of_ble_eq_true rfl) ?_
    rintro σ C2 h2 H F
    exact w_iret dX0_bestAt_30 rfl ⟨rfl, C2, h2, H, F⟩
