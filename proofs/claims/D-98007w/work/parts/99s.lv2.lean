set_option maxRecDepth 100000
set_option maxHeartbeats 4000000 in
theorem kX0_live_a {g : GG} {C : CS} {x : Int32} {P : PG} (hx : oO C 0 = true) (h0 : oO C 0 = true) (hno : ¬ inN x 10000) : Cp g miX0_live 2 (0) (0) [.ref (od C 0 30), .int x] C (some (.int ((-1)))) (fun C2 => C2 = uI C 0 30 7 (nI (w_live P x))) := by
  refine Cp.start [some (.ref (od C 0 30)), some (.int x), none] plX0 rfl (Nat.le_of_ble_eq_true rfl) rfl ?_
  intro σ0 σ H F
  refine w_aload_n dX0_live_0 rfl ?_
  refine w_iload_n dX0_live_1 rfl ?_
  refine w_i2l dX0_live_2 rfl ?_
  refine w_lconst (v := 0) dX0_live_3 rfl ?_
  refine w_ldc2 dX0_live_4 q1413 ?_
  refine cs_call (mi := miX0_isIn) dX0_live_7 q1016 okX0_isIn (Nat.le_of_ble_eq_true rfl) (kX0_isIn0 (m := 9999) (by first | assumption | omega)) rfl rfl (Nat.le_of_ble_eq_true rfl) ?_
  refine w_ifB_ne dX0_live_10 rfl (fun h_10 => ?_) (fun h_10 => ?_)
  · exact absurd h_10 hno
  · refine w_iconst (v := nI 1) dX0_live_13 ki_1 ?_
    refine w_goto dX0_live_14 rfl ?_
    refine pX0_85 (C := C) dX0_live_33 rfl hx H F ?_
    intro σ H F
    refine w_aload_n dX0_live_36 rfl ?_
    refine gst_85 dX0_live_37 rfl hx H ?_
    refine w_ifN_le dX0_live_40 rfl (by decide) (fun h_40 => ?_) (fun h_40 => ?_)
    · exact absurd (show _ from h_40) (by decide)
    refine w_iconst (v := (-1)) dX0_live_43 ki_m1 ?_
    exact w_iret dX0_live_44 rfl ⟨by rfl, _, by rw [w_live, if_neg hno], H, F⟩
set_option maxHeartbeats 4000000 in
theorem kX0_live_b {g : GG} {C : CS} {x : Int32} {P : PG} (hx : oO C 0 = true) (h0 : oO C 0 = true) (hyes : inN x 10000) (hp : pn P = 0) (hP : oP C 0 = none) : Cp g miX0_live 2 (0) (0) [.ref (od C 0 30), .int x] C (some (.int ((-1)))) (fun C2 => C2 = uI C 0 30 7 (nI (w_live P x))) := by
  refine Cp.start [some (.ref (od C 0 30)), some (.int x), none] plX0 rfl (Nat.le_of_ble_eq_true rfl) rfl ?_
  intro σ0 σ H F
  have hxe := hyes
  refine w_aload_n dX0_live_0 rfl ?_
  refine w_iload_n dX0_live_1 rfl ?_
  refine w_i2l dX0_live_2 rfl ?_
  refine w_lconst (v := 0) dX0_live_3 rfl ?_
  refine w_ldc2 dX0_live_4 q1413 ?_
  refine cs_call (mi := miX0_isIn) dX0_live_7 q1016 okX0_isIn (Nat.le_of_ble_eq_true rfl) (kX0_isIn0 (m := 9999) (by first | assumption | omega)) rfl rfl (Nat.le_of_ble_eq_true rfl) ?_
  refine w_ifB_ne dX0_live_10 rfl (fun h_10 => ?_) (fun h_10 => ?_)
  · refine w_aload_n dX0_live_17 rfl ?_
    refine gX0_55 (C := C) dX0_live_18 rfl hx H ?_
    refine gX0_222 (C := C) dX0_live_21 rfl h0 (by omega) H ?_
    rw [hP]
    refine w_ifnonnullN dX0_live_24 ?_
    refine w_bipush (v := nI 6) dX0_live_27 kb_6 ?_
    refine w_goto dX0_live_29 rfl ?_
    refine pX0_85 (C := C) dX0_live_33 rfl hx H F ?_
    intro σ H F
    refine w_aload_n dX0_live_36 rfl ?_
    refine gst_85 dX0_live_37 rfl hx H ?_
    refine w_ifN_le dX0_live_40 rfl (by decide) (fun h_40 => ?_) (fun h_40 => ?_)
    · exact absurd (show _ from h_40) (by decide)
    refine w_iconst (v := (-1)) dX0_live_43 ki_m1 ?_
    exact w_iret dX0_live_44 rfl ⟨by rfl, _, by rw [w_live, if_pos hyes, if_pos hp], H, F⟩
  · exact absurd hyes h_10
set_option maxHeartbeats 4000000 in
theorem kX0_live_c {g : GG} {C : CS} {V : VS} {q : Nat → Nat} {x : Int32} {P : PG} {lo : Nat → Nat} {pa : Nat} (hx : oO C 0 = true) (h0 : oO C 0 = true) (E : EncD g C 0 V q) (K : OkV V) (hk : KepV V) (O : OkP (vs V 0) (vs V 1) (vs V 2) P) (hp0 : 0 < pn P) (hP : oP C 0 = some pa) (hD : DaysZ g (oZ C) P pa) (hl : oM C 90 = none) (hl3 : oM C 3 = none) (hyes : inN x 10000) : Cp g miX0_live 35 (241) (1929) [.ref (od C 0 30), .int x] C (some (.int ((nI (livesV V P lo (cl x)).2.2)))) (fun C2 => LiX g C C2 (livesV V P lo (cl x))) := by
  refine Cp.start [some (.ref (od C 0 30)), some (.int x), none] plX0 rfl (Nat.le_of_ble_eq_true rfl) rfl ?_
  intro σ0 σ H F
  have kb := K.b
  refine w_aload_n dX0_live_0 rfl ?_
  refine w_iload_n dX0_live_1 rfl ?_
  refine w_i2l dX0_live_2 rfl ?_
  refine w_lconst (v := 0) dX0_live_3 rfl ?_
  refine w_ldc2 dX0_live_4 q1413 ?_
  refine cs_call (mi := miX0_isIn) dX0_live_7 q1016 okX0_isIn (Nat.le_of_ble_eq_true rfl) (kX0_isIn0 (m := 9999) (by first | assumption | omega)) rfl rfl (Nat.le_of_ble_eq_true rfl) ?_
  refine w_ifB_ne dX0_live_10 rfl (fun h_10 => ?_) (fun h_10 => ?_)
  · have hx_m := h_10
    obtain ⟨m, hf_m, rfl⟩ := inN_of h_10 (by omega)
    have hcl_m : cl (nI m) = m := nI_clamp (by omega)
    refine w_aload_n dX0_live_17 rfl ?_
    refine gX0_55 (C := C) dX0_live_18 rfl hx H ?_
    refine gX0_222 (C := C) dX0_live_21 rfl h0 (by omega) H ?_
    rw [hP]
    refine w_ifnonnull dX0_live_24 rfl ?_
    refine w_iconst (v := nI 0) dX0_live_32 ki_0 ?_
    refine pX0_85 (C := C) dX0_live_33 rfl hx H F ?_
    intro σ H F
    have E := EncD.stH H E
    refine w_aload_n dX0_live_36 rfl ?_
    refine gst_85 dX0_live_37 rfl hx H ?_
    refine w_ifN_le dX0_live_40 rfl (by decide) (fun h_40 => ?_) (fun h_40 => ?_)
    rotate_left
    · exact absurd (show _ from h_40) (by decide)
    rw [hcl_m]
    exact live_run (C := uI C 0 30 7 (nI 0)) (Cb := C) hx h0 E K hk O hp0 hP hD hl hl3 (oI_eq C 0 30 7 _) (by omega) (LiR.I (Or.inl rfl)) rfl H F
  · exact absurd hyes h_10
