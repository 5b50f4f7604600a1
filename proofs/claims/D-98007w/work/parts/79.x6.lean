set_option maxRecDepth 100000
/-- a call has changed the day, and told a status -/
def ChX (g : GG) (C C2 : CS) (V2 : VS) (w : Int32) : Prop := ∃ q2 : Nat → Nat, EncD g C2 0 V2 q2 ∧ SD 0 (uI C 0 30 7 w) C2
theorem SD.st {j : Nat} {C C1 : CS} {f : Nat} {w : Int32} (h : SD j C C1) : SD j (uI C 0 30 f w) (uI C1 0 30 f w) := by
  obtain ⟨a1, a2, a3, a4, a5, a6, a7, a8, a9, a10, a11⟩ := h
  refine ⟨a1, fun k a u v => ?_, a3, a4, a5, a6, a7, a8, a9, a10, a11⟩
  by_cases h : k = 0 ∧ a = 30
  · obtain ⟨rfl, rfl⟩ := h
    have h0 := a2 0 30 (by omega) (by omega)
    funext x
    by_cases hx : x = f
    · subst hx
      rw [oI_eq, oI_eq]
    · rw [oI_ne C1 w (fun _ _ z => hx z), oI_ne C w (fun _ _ z => hx z), h0]
  · rw [oI_ne2 C1 w (fun x y => h ⟨x, y⟩), oI_ne2 C w (fun x y => h ⟨x, y⟩)]
    exact a2 k a u v
theorem ChX.no {g : GG} {C : CS} {V : VS} {q : Nat → Nat} {w : Int32} (E : EncD g (uI C 0 30 7 w) 0 V q) : ChX g C (uI C 0 30 7 w) V w := ⟨q, E, SD.refl⟩
theorem ChX.mk {g : GG} {C C1 : CS} {V : VS} {q : Nat → Nat} {w : Int32} (E : EncD g (uI C1 0 30 7 w) 0 V q) (S : SD 0 C C1) : ChX g C (uI C1 0 30 7 w) V w := ⟨q, E, S.st⟩
set_option maxHeartbeats 4000000 in
theorem kX0_go {g : GG} {C : CS} {V : VS} {q : Nat → Nat} {x : Int32} {y : Int32} (hx : oO C 0 = true) (h0 : oO C 0 = true) (E : EncD g C 0 V q) (K : OkV V) : Cp g miX0_go 3 (0) (0) [.ref (od C 0 30), .int x, .int y] C (some (.int ((p_go V x y).1))) (fun C2 => ChX g C C2 (v_go V x y) (p_go V x y).2) := by
  refine Cp.start [some (.ref (od C 0 30)), some (.int x), some (.int y)] plX0 rfl (Nat.le_of_ble_eq_true rfl) rfl ?_
  intro σ0 σ H F
  have kb := K.b
  refine w_aload_n dX0_go_0 rfl ?_
  refine w_aload_n dX0_go_1 rfl ?_
  refine w_iload_n dX0_go_2 rfl ?_
  refine cr_call (mi := miX0_isFinder) dX0_go_3 q1027 okX0_isFinder clX0 rfl (H.get (ce_X hx)) (Nat.le_of_ble_eq_true rfl) (kX0_isFinder (C := C) hx h0 E K) H rfl rfl (Nat.le_of_ble_eq_true rfl) ?_
  refine w_ifB_eq dX0_go_6 rfl (fun h_6 => ?_) (fun h_6 => ?_)
  · refine w_iconst (v := nI 1) dX0_go_28 ki_1 ?_
    refine w_goto dX0_go_29 rfl ?_
    refine pX0_85 (C := C) dX0_go_50 rfl hx H F ?_
    intro σ H F
    have E := EncD.stH H E
    refine w_aload_n dX0_go_53 rfl ?_
    refine gst_85 dX0_go_54 rfl hx H ?_
    refine w_ifN_le dX0_go_57 rfl (by decide) (fun h_57 => ?_) (fun h_57 => ?_)
    · exact absurd (show _ from h_57) (by decide)
    refine w_iconst (v := (-1)) dX0_go_60 ki_m1 ?_
    refine w_goto dX0_go_61 rfl ?_
    exact w_iret dX0_go_73 rfl ⟨by first | (rw [p_go, if_neg (fun z => h_6 z.1)]; rfl) | (rw [p_go, if_neg (fun z => h_25 z.2)]; rfl) | (rw [p_go, if_pos ⟨hx_f, hx_m⟩, hcl_f, hcl_m, if_pos (by omega)]; rfl) | (rw [p_go, if_pos ⟨hx_f, hx_m⟩, hcl_f, hcl_m, if_neg (by omega), wentV, if_neg (by omega), goV, vt_ne (by omega), setT_t, if_pos ⟨rfl, rfl⟩]; rfl), _, by first | (rw [p_go, v_go, if_neg (fun z => h_6 z.1), if_neg (fun z => h_6 z.1)]; exact ChX.no E) | (rw [p_go, v_go, if_neg (fun z => h_25 z.2), if_neg (fun z => h_25 z.2)]; exact ChX.no E) | (rw [p_go, v_go, if_pos ⟨hx_f, hx_m⟩, if_pos ⟨hx_f, hx_m⟩, hcl_f, hcl_m, if_pos (by omega)]; exact ChX.mk E hS38) | (rw [p_go, v_go, if_pos ⟨hx_f, hx_m⟩, if_pos ⟨hx_f, hx_m⟩, hcl_f, hcl_m, if_neg (by omega)]; exact ChX.mk E hS38), H, F⟩
  · have hx_f := h_6
    obtain ⟨f, hf_f, rfl⟩ := inN_of h_6 (by omega)
    have hcl_f : cl (nI f) = f := nI_clamp (by omega)
    have kf_f := K.f hf_f
    refine w_iload_n dX0_go_9 rfl ?_
    refine w_i2l dX0_go_10 rfl ?_
    refine w_lconst (v := 0) dX0_go_11 rfl ?_
    refine w_aload_n dX0_go_12 rfl ?_
    refine cr_call (mi := miX0_beach_2) dX0_go_13 q934 okX0_beach_2 clX0 rfl (H.get (ce_X hx)) (Nat.le_of_ble_eq_true rfl) (kX0_beach (C := C) hx h0) H rfl rfl (Nat.le_of_ble_eq_true rfl) ?_
    refine gX0_242 (C := C) dX0_go_16 rfl E H ?_
    refine w_iconst (v := nI 1) dX0_go_19 ki_1 ?_
    refine w_isub dX0_go_20 ?_
    refine w_i2l dX0_go_21 rfl ?_
    refine cs_call (mi := miX0_isIn) dX0_go_22 q1016 okX0_isIn (Nat.le_of_ble_eq_true rfl) (kX0_isInD (m := vs V 0) (by first | assumption | omega)) rfl rfl (Nat.le_of_ble_eq_true rfl) ?_
    refine w_ifB_ne dX0_go_25 rfl (fun h_25 => ?_) (fun h_25 => ?_)
    · have hx_m := h_25
      obtain ⟨m, hf_m, rfl⟩ := inN_of h_25 (by omega)
      have hcl_m : cl (nI m) = m := nI_clamp (by omega)
      refine w_aload_n dX0_go_32 rfl ?_
      refine cr_call (mi := miX0_day) dX0_go_33 q886 okX0_day clX0 rfl (H.get (ce_X hx)) (Nat.le_of_ble_eq_true rfl) (kX0_day (C := C) hx h0) H rfl rfl (Nat.le_of_ble_eq_true rfl) ?_
      refine w_iload_n dX0_go_36 rfl ?_
      refine w_iload_n dX0_go_37 rfl ?_
      refine cp_call (mi := miX5_goes) dX0_go_38 q1049 okX5_goes clX5 rfl (H.get (ce_day h0)) (Nat.le_of_ble_eq_true rfl) (kX5_goes (C := C) h0 E K (by first | assumption | omega) (by omega)) H F rfl rfl (Nat.le_of_ble_eq_true rfl) ?_
      intro σ C38 hC38 H F
      obtain ⟨E, hS38⟩ := hC38
      rw [show od C 0 30 = od C38 0 30 from (hS38.1 0 30 (by omega) (by omega)).symm]
      have hx : oO C38 0 = true := by rw [hS38.on]; exact hx
      have h0 : oO C38 0 = true := by rw [hS38.on]; exact h0
      have hst := stepsV_le K (f := f) (c := m) hf_f (by omega)
      refine w_ifB_eq dX0_go_41 rfl (fun h_41 => ?_) (fun h_41 => ?_)
      · refine w_bipush (v := nI 7) dX0_go_48 kb_7 ?_
        refine pX0_85 (C := C38) dX0_go_50 rfl hx H F ?_
        intro σ H F
        have E := EncD.stH H E
        refine w_aload_n dX0_go_53 rfl ?_
        refine gst_85 dX0_go_54 rfl hx H ?_
        refine w_ifN_le dX0_go_57 rfl (by decide) (fun h_57 => ?_) (fun h_57 => ?_)
        · exact absurd (show _ from h_57) (by decide)
        refine w_iconst (v := (-1)) dX0_go_60 ki_m1 ?_
        refine w_goto dX0_go_61 rfl ?_
        exact w_iret dX0_go_73 rfl ⟨by first | (rw [p_go, if_neg (fun z => h_6 z.1)]; rfl) | (rw [p_go, if_neg (fun z => h_25 z.2)]; rfl) | (rw [p_go, if_pos ⟨hx_f, hx_m⟩, hcl_f, hcl_m, if_pos (by omega)]; rfl) | (rw [p_go, if_pos ⟨hx_f, hx_m⟩, hcl_f, hcl_m, if_neg (by omega), wentV, if_neg (by omega), goV, vt_ne (by omega), setT_t, if_pos ⟨rfl, rfl⟩]; rfl), _, by first | (rw [p_go, v_go, if_neg (fun z => h_6 z.1), if_neg (fun z => h_6 z.1)]; exact ChX.no E) | (rw [p_go, v_go, if_neg (fun z => h_25 z.2), if_neg (fun z => h_25 z.2)]; exact ChX.no E) | (rw [p_go, v_go, if_pos ⟨hx_f, hx_m⟩, if_pos ⟨hx_f, hx_m⟩, hcl_f, hcl_m, if_pos (by omega)]; exact ChX.mk E hS38) | (rw [p_go, v_go, if_pos ⟨hx_f, hx_m⟩, if_pos ⟨hx_f, hx_m⟩, hcl_f, hcl_m, if_neg (by omega)]; exact ChX.mk E hS38), H, F⟩
      · refine w_iconst (v := nI 0) dX0_go_44 ki_0 ?_
        refine w_goto dX0_go_45 rfl ?_
        refine pX0_85 (C := C38) dX0_go_50 rfl hx H F ?_
        intro σ H F
        have E := EncD.stH H E
        refine w_aload_n dX0_go_53 rfl ?_
        refine gst_85 dX0_go_54 rfl hx H ?_
        refine w_ifN_le dX0_go_57 rfl (by decide) (fun h_57 => ?_) (fun h_57 => ?_)
        rotate_left
        · exact absurd (show _ from h_57) (by decide)
        refine w_aload_n dX0_go_64 rfl ?_
        refine cr_call (mi := miX0_day) dX0_go_65 q886 okX0_day clX0 rfl (H.get (ce_X hx)) (Nat.le_of_ble_eq_true rfl) (kX0_day (C := uI (C38) 0 30 7 _) hx h0) H rfl rfl (Nat.le_of_ble_eq_true rfl) ?_
        refine gX0_274 (C := uI (C38) 0 30 7 _) dX0_go_68 rfl h0 H ?_
        refine w_iload_n dX0_go_71 rfl ?_
        refine da_13 (C := uI (C38) 0 30 7 _) dX0_go_72 h0 E (by omega) H ?_
        exact w_iret dX0_go_73 rfl ⟨by first | (rw [p_go, if_neg (fun z => h_6 z.1)]; rfl) | (rw [p_go, if_neg (fun z => h_25 z.2)]; rfl) | (rw [p_go, if_pos ⟨hx_f, hx_m⟩, hcl_f, hcl_m, if_pos (by omega)]; rfl) | (rw [p_go, if_pos ⟨hx_f, hx_m⟩, hcl_f, hcl_m, if_neg (by omega), wentV, if_neg (by omega), goV, vt_ne (by omega), setT_t, if_pos ⟨rfl, rfl⟩]; rfl), _, by first | (rw [p_go, v_go, if_neg (fun z => h_6 z.1), if_neg (fun z => h_6 z.1)]; exact ChX.no E) | (rw [p_go, v_go, if_neg (fun z => h_25 z.2), if_neg (fun z => h_25 z.2)]; exact ChX.no E) | (rw [p_go, v_go, if_pos ⟨hx_f, hx_m⟩, if_pos ⟨hx_f, hx_m⟩, hcl_f, hcl_m, if_pos (by omega)]; exact ChX.mk E hS38) | (rw [p_go, v_go, if_pos ⟨hx_f, hx_m⟩, if_pos ⟨hx_f, hx_m⟩, hcl_f, hcl_m, if_neg (by omega)]; exact ChX.mk E hS38), H, F⟩
    · refine w_iconst (v := nI 1) dX0_go_28 ki_1 ?_
      refine w_goto dX0_go_29 rfl ?_
      refine pX0_85 (C := C) dX0_go_50 rfl hx H F ?_
      intro σ H F
      have E := EncD.stH H E
      refine w_aload_n dX0_go_53 rfl ?_
      refine gst_85 dX0_go_54 rfl hx H ?_
      refine w_ifN_le dX0_go_57 rfl (by decide) (fun h_57 => ?_) (fun h_57 => ?_)
      · exact absurd (show _ from h_57) (by decide)
      refine w_iconst (v := (-1)) dX0_go_60 ki_m1 ?_
      refine w_goto dX0_go_61 rfl ?_
      exact w_iret dX0_go_73 rfl ⟨by first | (rw [p_go, if_neg (fun z => h_6 z.1)]; rfl) | (rw [p_go, if_neg (fun z => h_25 z.2)]; rfl) | (rw [p_go, if_pos ⟨hx_f, hx_m⟩, hcl_f, hcl_m, if_pos (by omega)]; rfl) | (rw [p_go, if_pos ⟨hx_f, hx_m⟩, hcl_f, hcl_m, if_neg (by omega), wentV, if_neg (by omega), goV, vt_ne (by omega), setT_t, if_pos ⟨rfl, rfl⟩]; rfl), _, by first | (rw [p_go, v_go, if_neg (fun z => h_6 z.1), if_neg (fun z => h_6 z.1)]; exact ChX.no E) | (rw [p_go, v_go, if_neg (fun z => h_25 z.2), if_neg (fun z => h_25 z.2)]; exact ChX.no E) | (rw [p_go, v_go, if_pos ⟨hx_f, hx_m⟩, if_pos ⟨hx_f, hx_m⟩, hcl_f, hcl_m, if_pos (by omega)]; exact ChX.mk E hS38) | (rw [p_go, v_go, if_pos ⟨hx_f, hx_m⟩, if_pos ⟨hx_f, hx_m⟩, hcl_f, hcl_m, if_neg (by omega)]; exact ChX.mk E hS38), H, F⟩
set_option maxHeartbeats 4000000 in
theorem kX0_pass {g : GG} {C : CS} {V : VS} {q : Nat → Nat} {x : Int32} {y : Int32} (hx : oO C 0 = true) (h0 : oO C 0 = true) (E : EncD g C 0 V q) (K : OkV V) : Cp g miX0_pass 3 (0) (0) [.ref (od C 0 30), .int x, .int y] C (some (.int ((p_pass V x y).1))) (fun C2 => ChX g C C2 (v_pass V x y) (p_pass V x y).2) := by
  refine Cp.start [some (.ref (od C 0 30)), some (.int x), some (.int y)] plX0 rfl (Nat.le_of_ble_eq_true rfl) rfl ?_
  intro σ0 σ H F
  have kb := K.b
  refine w_aload_n dX0_pass_0 rfl ?_
  refine w_aload_n dX0_pass_1 rfl ?_
  refine w_iload_n dX0_pass_2 rfl ?_
  refine cr_call (mi := miX0_isFinder) dX0_pass_3 q1027 okX0_isFinder clX0 rfl (H.get (ce_X hx)) (Nat.le_of_ble_eq_true rfl) (kX0_isFinder (C := C) hx h0 E K) H rfl rfl (Nat.le_of_ble_eq_true rfl) ?_
  refine w_ifB_eq dX0_pass_6 rfl (fun h_6 => ?_) (fun h_6 => ?_)
  · refine w_iconst (v := nI 1) dX0_pass_21 ki_1 ?_
    refine w_goto dX0_pass_22 rfl ?_
    refine pX0_85 (C := C) dX0_pass_43 rfl hx H F ?_
    intro σ H F
    have E := EncD.stH H E
    refine w_aload_n dX0_pass_46 rfl ?_
    refine gst_85 dX0_pass_47 rfl hx H ?_
    refine w_ifN_le dX0_pass_50 rfl (by decide) (fun h_50 => ?_) (fun h_50 => ?_)
    · exact absurd (show _ from h_50) (by decide)
    refine w_iconst (v := (-1)) dX0_pass_53 ki_m1 ?_
    refine w_goto dX0_pass_54 rfl ?_
    exact w_iret dX0_pass_66 rfl ⟨by first | (rw [p_pass, if_neg (fun z => h_6 z.1)]; rfl) | (rw [p_pass, if_neg (fun z => h_18 z.2)]; rfl) | (rw [p_pass, if_pos ⟨hx_f, hx_m⟩, hcl_f, hcl_m, if_pos (by omega)]; rfl) | (rw [p_pass, if_pos ⟨hx_f, hx_m⟩, hcl_f, hcl_m, if_neg (by omega), waitedV, if_neg (by omega), waitV, setT_t, if_pos ⟨rfl, rfl⟩]; rfl), _, by first | (rw [p_pass, v_pass, if_neg (fun z => h_6 z.1), if_neg (fun z => h_6 z.1)]; exact ChX.no E) | (rw [p_pass, v_pass, if_neg (fun z => h_18 z.2), if_neg (fun z => h_18 z.2)]; exact ChX.no E) | (rw [p_pass, v_pass, if_pos ⟨hx_f, hx_m⟩, if_pos ⟨hx_f, hx_m⟩, hcl_f, hcl_m, if_pos (by omega)]; exact ChX.mk E hS31) | (rw [p_pass, v_pass, if_pos ⟨hx_f, hx_m⟩, if_pos ⟨hx_f, hx_m⟩, hcl_f, hcl_m, if_neg (by omega)]; exact ChX.mk E hS31), H, F⟩
  · have hx_f := h_6
    obtain ⟨f, hf_f, rfl⟩ := inN_of h_6 (by omega)
    have hcl_f : cl (nI f) = f := nI_clamp (by omega)
    have kf_f := K.f hf_f
    refine w_iload_n dX0_pass_9 rfl ?_
    refine w_i2l dX0_pass_10 rfl ?_
    refine w_lconst (v := 1) dX0_pass_11 rfl ?_
    refine w_ldc2 dX0_pass_12 q1064 ?_
    refine cs_call (mi := miX0_isIn) dX0_pass_15 q1016 okX0_isIn (Nat.le_of_ble_eq_true rfl) (kX0_isIn1 (m := 240) (by first | assumption | omega)) rfl rfl (Nat.le_of_ble_eq_true rfl) ?_
    refine w_ifB_ne dX0_pass_18 rfl (fun h_18 => ?_) (fun h_18 => ?_)
    · have hx_m := h_18
      obtain ⟨m, hf_m, rfl⟩ := inN_of h_18.1 (by omega)
      have hcl_m : cl (nI m) = m := nI_clamp (by omega)
      refine w_aload_n dX0_pass_25 rfl ?_
      refine cr_call (mi := miX0_day) dX0_pass_26 q886 okX0_day clX0 rfl (H.get (ce_X hx)) (Nat.le_of_ble_eq_true rfl) (kX0_day (C := C) hx h0) H rfl rfl (Nat.le_of_ble_eq_true rfl) ?_
      refine w_iload_n dX0_pass_29 rfl ?_
      refine w_iload_n dX0_pass_30 rfl ?_
      refine cp_call (mi := miX5_waits) dX0_pass_31 q1065 okX5_waits clX5 rfl (H.get (ce_day h0)) (Nat.le_of_ble_eq_true rfl) (kX5_waits (C := C) h0 E K (by first | assumption | omega) (by omega)) H F rfl rfl (Nat.le_of_ble_eq_true rfl) ?_
      intro σ C31 hC31 H F
      obtain ⟨E, hS31⟩ := hC31
      rw [show od C 0 30 = od C31 0 30 from (hS31.1 0 30 (by omega) (by omega)).symm]
      have hx : oO C31 0 = true := by rw [hS31.on]; exact hx
      have h0 : oO C31 0 = true := by rw [hS31.on]; exact h0
      refine w_ifB_eq dX0_pass_34 rfl (fun h_34 => ?_) (fun h_34 => ?_)
      · refine w_bipush (v := nI 7) dX0_pass_41 kb_7 ?_
        refine pX0_85 (C := C31) dX0_pass_43 rfl hx H F ?_
        intro σ H F
        have E := EncD.stH H E
        refine w_aload_n dX0_pass_46 rfl ?_
        refine gst_85 dX0_pass_47 rfl hx H ?_
        refine w_ifN_le dX0_pass_50 rfl (by decide) (fun h_50 => ?_) (fun h_50 => ?_)
        · exact absurd (show _ from h_50) (by decide)
        refine w_iconst (v := (-1)) dX0_pass_53 ki_m1 ?_
        refine w_goto dX0_pass_54 rfl ?_
        exact w_iret dX0_pass_66 rfl ⟨by first | (rw [p_pass, if_neg (fun z => h_6 z.1)]; rfl) | (rw [p_pass, if_neg (fun z => h_18 z.2)]; rfl) | (rw [p_pass, if_pos ⟨hx_f, hx_m⟩, hcl_f, hcl_m, if_pos (by omega)]; rfl) | (rw [p_pass, if_pos ⟨hx_f, hx_m⟩, hcl_f, hcl_m, if_neg (by omega), waitedV, if_neg (by omega), waitV, setT_t, if_pos ⟨rfl, rfl⟩]; rfl), _, by first | (rw [p_pass, v_pass, if_neg (fun z => h_6 z.1), if_neg (fun z => h_6 z.1)]; exact ChX.no E) | (rw [p_pass, v_pass, if_neg (fun z => h_18 z.2), if_neg (fun z => h_18 z.2)]; exact ChX.no E) | (rw [p_pass, v_pass, if_pos ⟨hx_f, hx_m⟩, if_pos ⟨hx_f, hx_m⟩, hcl_f, hcl_m, if_pos (by omega)]; exact ChX.mk E hS31) | (rw [p_pass, v_pass, if_pos ⟨hx_f, hx_m⟩, if_pos ⟨hx_f, hx_m⟩, hcl_f, hcl_m, if_neg (by omega)]; exact ChX.mk E hS31), H, F⟩
      · refine w_iconst (v := nI 0) dX0_pass_37 ki_0 ?_
        refine w_goto dX0_pass_38 rfl ?_
        refine pX0_85 (C := C31) dX0_pass_43 rfl hx H F ?_
        intro σ H F
        have E := EncD.stH H E
        refine w_aload_n dX0_pass_46 rfl ?_
        refine gst_85 dX0_pass_47 rfl hx H ?_
        refine w_ifN_le dX0_pass_50 rfl (by decide) (fun h_50 => ?_) (fun h_50 => ?_)
        rotate_left
        · exact absurd (show _ from h_50) (by decide)
        refine w_aload_n dX0_pass_57 rfl ?_
        refine cr_call (mi := miX0_day) dX0_pass_58 q886 okX0_day clX0 rfl (H.get (ce_X hx)) (Nat.le_of_ble_eq_true rfl) (kX0_day (C := uI (C31) 0 30 7 _) hx h0) H rfl rfl (Nat.le_of_ble_eq_true rfl) ?_
        refine gX0_274 (C := uI (C31) 0 30 7 _) dX0_pass_61 rfl h0 H ?_
        refine w_iload_n dX0_pass_64 rfl ?_
        refine da_13 (C := uI (C31) 0 30 7 _) dX0_pass_65 h0 E (by omega) H ?_
        exact w_iret dX0_pass_66 rfl ⟨by first | (rw [p_pass, if_neg (fun z => h_6 z.1)]; rfl) | (rw [p_pass, if_neg (fun z => h_18 z.2)]; rfl) | (rw [p_pass, if_pos ⟨hx_f, hx_m⟩, hcl_f, hcl_m, if_pos (by omega)]; rfl) | (rw [p_pass, if_pos ⟨hx_f, hx_m⟩, hcl_f, hcl_m, if_neg (by omega), waitedV, if_neg (by omega), waitV, setT_t, if_pos ⟨rfl, rfl⟩]; rfl), _, by first | (rw [p_pass, v_pass, if_neg (fun z => h_6 z.1), if_neg (fun z => h_6 z.1)]; exact ChX.no E) | (rw [p_pass, v_pass, if_neg (fun z => h_18 z.2), if_neg (fun z => h_18 z.2)]; exact ChX.no E) | (rw [p_pass, v_pass, if_pos ⟨hx_f, hx_m⟩, if_pos ⟨hx_f, hx_m⟩, hcl_f, hcl_m, if_pos (by omega)]; exact ChX.mk E hS31) | (rw [p_pass, v_pass, if_pos ⟨hx_f, hx_m⟩, if_pos ⟨hx_f, hx_m⟩, hcl_f, hcl_m, if_neg (by omega)]; exact ChX.mk E hS31), H, F⟩
    · refine w_iconst (v := nI 1) dX0_pass_21 ki_1 ?_
      refine w_goto dX0_pass_22 rfl ?_
      refine pX0_85 (C := C) dX0_pass_43 rfl hx H F ?_
      intro σ H F
      have E := EncD.stH H E
      refine w_aload_n dX0_pass_46 rfl ?_
      refine gst_85 dX0_pass_47 rfl hx H ?_
      refine w_ifN_le dX0_pass_50 rfl (by decide) (fun h_50 => ?_) (fun h_50 => ?_)
      · exact absurd (show _ from h_50) (by decide)
      refine w_iconst (v := (-1)) dX0_pass_53 ki_m1 ?_
      refine w_goto dX0_pass_54 rfl ?_
      exact w_iret dX0_pass_66 rfl ⟨by first | (rw [p_pass, if_neg (fun z => h_6 z.1)]; rfl) | (rw [p_pass, if_neg (fun z => h_18 z.2)]; rfl) | (rw [p_pass, if_pos ⟨hx_f, hx_m⟩, hcl_f, hcl_m, if_pos (by omega)]; rfl) | (rw [p_pass, if_pos ⟨hx_f, hx_m⟩, hcl_f, hcl_m, if_neg (by omega), waitedV, if_neg (by omega), waitV, setT_t, if_pos ⟨rfl, rfl⟩]; rfl), _, by first | (rw [p_pass, v_pass, if_neg (fun z => h_6 z.1), if_neg (fun z => h_6 z.1)]; exact ChX.no E) | (rw [p_pass, v_pass, if_neg (fun z => h_18 z.2), if_neg (fun z => h_18 z.2)]; exact ChX.no E) | (rw [p_pass, v_pass, if_pos ⟨hx_f, hx_m⟩, if_pos ⟨hx_f, hx_m⟩, hcl_f, hcl_m, if_pos (by omega)]; exact ChX.mk E hS31) | (rw [p_pass, v_pass, if_pos ⟨hx_f, hx_m⟩, if_pos ⟨hx_f, hx_m⟩, hcl_f, hcl_m, if_neg (by omega)]; exact ChX.mk E hS31), H, F⟩
theorem OkV.n60 {V : VS} (K : OkV V) {d : Nat} (hd : d < 8) (h : vs V 8 ≠ 60) : vt V 7 d < 60 := by
  have h8 := K.s8
  have hb := K.b
  have := foldN_le (f := fun d => vt V 7 d) 8 d hd
  have h2 : vt V 7 d ≤ foldN (fun d c => c + vt V 7 d) 0 8 := this
  omega
set_option maxHeartbeats 4000000 in
theorem kX0_set {g : GG} {C : CS} {V : VS} {q : Nat → Nat} {x : Int32} {y : Int32} (hx : oO C 0 = true) (h0 : oO C 0 = true) (E : EncD g C 0 V q) (K : OkV V) (hl : oM C 90 = none) : Cp g miX0_set 4 (0 + 2) (0 + 256) [.ref (od C 0 30), .int x, .int y] C (some (.int ((p_set V x y).1))) (fun C2 => ChX g C C2 (v_set V x y) (p_set V x y).2) := by
  refine Cp.start [some (.ref (od C 0 30)), some (.int x), some (.int y), none] plX0 rfl (Nat.le_of_ble_eq_true rfl) rfl ?_
  intro σ0 σ H F
  have kb := K.b
  refine w_aload_n dX0_set_0 rfl ?_
  refine w_iload_n dX0_set_1 rfl ?_
  refine w_iload_n dX0_set_2 rfl ?_
  refine cr_call (mi := miX0_areThere) dX0_set_3 q1073 okX0_areThere clX0 rfl (H.get (ce_X hx)) (Nat.le_of_ble_eq_true rfl) (kX0_areThere (C := C) hx h0 E K) H rfl rfl (Nat.le_of_ble_eq_true rfl) ?_
  refine w_istore_n dX0_set_6 rfl (Nat.le_of_ble_eq_true rfl) ls_4_3 ?_
  refine w_aload_n dX0_set_7 rfl ?_
  refine w_iload_n dX0_set_8 rfl ?_
  refine w_ifB_ne dX0_set_9 rfl (fun h_9 => ?_) (fun h_9 => ?_)
  · have hx_f := h_9.1
    have hx_d := h_9.2
    obtain ⟨f, hf_f, rfl⟩ := inN_of hx_f (by omega)
    have hcl_f : cl (nI f) = f := nI_clamp (by omega)
    have kf_f := K.f hf_f
    obtain ⟨d, hf_d, rfl⟩ := inN_of hx_d (by omega)
    have hcl_d : cl (nI d) = d := nI_clamp (by omega)
    have kf_d := K.d hf_d
    have kn_d := K.n (d := d) (by omega)
    refine w_aload_n dX0_set_16 rfl ?_
    refine cr_call (mi := miX0_day) dX0_set_17 q886 okX0_day clX0 rfl (H.get (ce_X hx)) (Nat.le_of_ble_eq_true rfl) (kX0_day (C := C) hx h0) H rfl rfl (Nat.le_of_ble_eq_true rfl) ?_
    refine cr_call (mi := miX5_pebbles) dX0_set_20 q1019 okX5_pebbles clX5 rfl (H.get (ce_day h0)) (Nat.le_of_ble_eq_true rfl) (kX5_pebbles (C := C) h0 E K) H rfl rfl (Nat.le_of_ble_eq_true rfl) ?_
    refine w_bipush (v := nI 60) dX0_set_23 kb_60 ?_
    refine w_icmpN_ne dX0_set_25 rfl (by omega) (by omega) (fun h_25 => ?_) (fun h_25 => ?_)
    · refine w_aload_n dX0_set_32 rfl ?_
      refine cr_call (mi := miX0_day) dX0_set_33 q886 okX0_day clX0 rfl (H.get (ce_X hx)) (Nat.le_of_ble_eq_true rfl) (kX0_day (C := C) hx h0) H rfl rfl (Nat.le_of_ble_eq_true rfl) ?_
      refine gX0_271 (C := C) dX0_set_36 rfl h0 H ?_
      refine w_iload_n dX0_set_39 rfl ?_
      refine da_12 (C := C) dX0_set_40 h0 E (by omega) H ?_
      refine w_ifN_ne dX0_set_41 rfl (by omega) (fun h_41 => ?_) (fun h_41 => ?_)
      · refine w_aload_n dX0_set_49 rfl ?_
        refine cr_call (mi := miX0_day) dX0_set_50 q886 okX0_day clX0 rfl (H.get (ce_X hx)) (Nat.le_of_ble_eq_true rfl) (kX0_day (C := C) hx h0) H rfl rfl (Nat.le_of_ble_eq_true rfl) ?_
        refine w_iload_n dX0_set_53 rfl ?_
        refine w_iload_n dX0_set_54 rfl ?_
        refine cr_call (mi := miX5_isAt) dX0_set_55 q1077 okX5_isAt clX5 rfl (H.get (ce_day h0)) (Nat.le_of_ble_eq_true rfl) (kX5_isAt (C := C) h0 E K (by first | assumption | omega) (by first | assumption | omega)) H rfl rfl (Nat.le_of_ble_eq_true rfl) ?_
        refine w_ifB_eq dX0_set_58 rfl (fun h_58 => ?_) (fun h_58 => ?_)
        · have hw : wsetV V f d = 7 := by rw [wsetV, if_neg (by omega), if_neg (by omega), if_neg h_58]
          refine w_bipush (v := nI 7) dX0_set_65 kb_7 ?_
          refine pX0_85 (C := C) dX0_set_67 rfl hx H F ?_
          intro σ H F
          have E := EncD.stH H E
          refine w_aload_n dX0_set_70 rfl ?_
          refine gst_85 dX0_set_71 rfl hx H ?_
          refine w_ifN_le dX0_set_74 rfl (by decide) (fun h_74 => ?_) (fun h_74 => ?_)
          · exact absurd (show _ from h_74) (by decide)
          refine w_iconst (v := (-1)) dX0_set_77 ki_m1 ?_
          exact w_iret dX0_set_78 rfl ⟨by first | (rw [p_set, if_neg h_9]; rfl) | (rw [p_set, if_pos h_9, hcl_f, hcl_d, hw, if_neg (by omega)]; rfl) | (rw [p_set, if_pos h_9, hcl_f, hcl_d, hw, if_pos rfl]; rfl), _, by first | (rw [p_set, v_set, if_neg h_9, if_neg h_9]; exact ChX.no E) | (rw [p_set, v_set, if_pos h_9, if_pos h_9, hcl_f, hcl_d, hw, if_neg (by omega), if_neg (by omega)]; exact ChX.no E) | (rw [p_set, v_set, if_pos h_9, if_pos h_9, hcl_f, hcl_d, hw, if_pos rfl, if_pos rfl]; exact ⟨_, E, hS85⟩), H, F⟩
        · have hw : wsetV V f d = 0 := by rw [wsetV, if_neg (by omega), if_neg (by omega), if_pos h_58]
          have h7s := OkV.n60 K (d := d) (by omega) (by omega)
          refine w_iconst (v := nI 0) dX0_set_61 ki_0 ?_
          refine w_goto dX0_set_62 rfl ?_
          refine pX0_85 (C := C) dX0_set_67 rfl hx H F ?_
          intro σ H F
          have E := EncD.stH H E
          refine w_aload_n dX0_set_70 rfl ?_
          refine gst_85 dX0_set_71 rfl hx H ?_
          refine w_ifN_le dX0_set_74 rfl (by decide) (fun h_74 => ?_) (fun h_74 => ?_)
          rotate_left
          · exact absurd (show _ from h_74) (by decide)
          refine w_aload_n dX0_set_79 rfl ?_
          refine cr_call (mi := miX0_day) dX0_set_80 q886 okX0_day clX0 rfl (H.get (ce_X hx)) (Nat.le_of_ble_eq_true rfl) (kX0_day (C := uI (C) 0 30 7 _) hx h0) H rfl rfl (Nat.le_of_ble_eq_true rfl) ?_
          refine w_iload_n dX0_set_83 rfl ?_
          refine w_iload_n dX0_set_84 rfl ?_
          have hcap := ((E.h (d := d) (by omega)).cap).2.1
          refine w_bud (kc2 := 0 + (if vt V 7 d = q d then 2 else 0)) (ks2 := 0 + (if vt V 7 d = q d then 4 * q d else 0)) (by split <;> omega) (by split <;> omega) ?_
          refine cp_call (mi := miX5_sets) dX0_set_85 q1085 okX5_sets clX5 rfl (H.get (ce_day h0)) (Nat.le_of_ble_eq_true rfl) (kX5_sets (C := uI (C) 0 30 7 _) h0 E K (by first | assumption | omega) (by first | assumption | omega) (by omega) (by omega) hl) H F rfl rfl (Nat.le_of_ble_eq_true rfl) ?_
          intro σ C85 hC85 H F
          obtain ⟨E, hS85⟩ := hC85
          rw [show od C 0 30 = od C85 0 30 from (hS85.1 0 30 (by omega) (by omega)).symm]
          have hx : oO C85 0 = true := by rw [hS85.on]; exact hx
          have h0 : oO C85 0 = true := by rw [hS85.on]; exact h0
          refine w_aload_n dX0_set_88 rfl ?_
          refine cr_call (mi := miX0_day) dX0_set_89 q886 okX0_day clX0 rfl (H.get (ce_X hx)) (Nat.le_of_ble_eq_true rfl) (kX0_day (C := C85) hx h0) H rfl rfl (Nat.le_of_ble_eq_true rfl) ?_
          refine gX0_288 (C := C85) dX0_set_92 rfl h0 H ?_
          refine w_iload_n dX0_set_95 rfl ?_
          refine ga_heaps (C := C85) dX0_set_96 h0 (by omega) H ?_
          skip
          refine gX0_292 (C := C85) dX0_set_97 rfl (on8 h0 (by omega)) H ?_
          refine w_topN (E.h (d := d) (by omega)).sz ?_
          refine w_topN (n := vt V 7 d + 1) (congrArg nI (by rw [setsV, insV_t, if_pos ⟨rfl, rfl⟩, setT_t, if_neg (by omega)])) ?_
          exact w_iret dX0_set_100 rfl ⟨by first | (rw [p_set, if_neg h_9]; rfl) | (rw [p_set, if_pos h_9, hcl_f, hcl_d, hw, if_neg (by omega)]; rfl) | (rw [p_set, if_pos h_9, hcl_f, hcl_d, hw, if_pos rfl]; rfl), _, by first | (rw [p_set, v_set, if_neg h_9, if_neg h_9]; exact ChX.no E) | (rw [p_set, v_set, if_pos h_9, if_pos h_9, hcl_f, hcl_d, hw, if_neg (by omega), if_neg (by omega)]; exact ChX.no E) | (rw [p_set, v_set, if_pos h_9, if_pos h_9, hcl_f, hcl_d, hw, if_pos rfl, if_pos rfl]; exact ⟨_, E, hS85⟩), H, F⟩
      · have hw : wsetV V f d = 6 := by rw [wsetV, if_neg (by omega), if_pos (by omega)]
        refine w_bipush (v := nI 6) dX0_set_44 kb_6 ?_
        refine w_goto dX0_set_46 rfl ?_
        refine pX0_85 (C := C) dX0_set_67 rfl hx H F ?_
        intro σ H F
        have E := EncD.stH H E
        refine w_aload_n dX0_set_70 rfl ?_
        refine gst_85 dX0_set_71 rfl hx H ?_
        refine w_ifN_le dX0_set_74 rfl (by decide) (fun h_74 => ?_) (fun h_74 => ?_)
        · exact absurd (show _ from h_74) (by decide)
        refine w_iconst (v := (-1)) dX0_set_77 ki_m1 ?_
        exact w_iret dX0_set_78 rfl ⟨by first | (rw [p_set, if_neg h_9]; rfl) | (rw [p_set, if_pos h_9, hcl_f, hcl_d, hw, if_neg (by omega)]; rfl) | (rw [p_set, if_pos h_9, hcl_f, hcl_d, hw, if_pos rfl]; rfl), _, by first | (rw [p_set, v_set, if_neg h_9, if_neg h_9]; exact ChX.no E) | (rw [p_set, v_set, if_pos h_9, if_pos h_9, hcl_f, hcl_d, hw, if_neg (by omega), if_neg (by omega)]; exact ChX.no E) | (rw [p_set, v_set, if_pos h_9, if_pos h_9, hcl_f, hcl_d, hw, if_pos rfl, if_pos rfl]; exact ⟨_, E, hS85⟩), H, F⟩
    · have hw : wsetV V f d = 4 := by rw [wsetV, if_pos (by omega)]
      refine w_iconst (v := nI 4) dX0_set_28 ki_4 ?_
      refine w_goto dX0_set_29 rfl ?_
      refine pX0_85 (C := C) dX0_set_67 rfl hx H F ?_
      intro σ H F
      have E := EncD.stH H E
      refine w_aload_n dX0_set_70 rfl ?_
      refine gst_85 dX0_set_71 rfl hx H ?_
      refine w_ifN_le dX0_set_74 rfl (by decide) (fun h_74 => ?_) (fun h_74 => ?_)
      · exact absurd (show _ from h_74) (by decide)
      refine w_iconst (v := (-1)) dX0_set_77 ki_m1 ?_
      exact w_iret dX0_set_78 rfl ⟨by first | (rw [p_set, if_neg h_9]; rfl) | (rw [p_set, if_pos h_9, hcl_f, hcl_d, hw, if_neg (by omega)]; rfl) | (rw [p_set, if_pos h_9, hcl_f, hcl_d, hw, if_pos rfl]; rfl), _, by first | (rw [p_set, v_set, if_neg h_9, if_neg h_9]; exact ChX.no E) | (rw [p_set, v_set, if_pos h_9, if_pos h_9, hcl_f, hcl_d, hw, if_neg (by omega), if_neg (by omega)]; exact ChX.no E) | (rw [p_set, v_set, if_pos h_9, if_pos h_9, hcl_f, hcl_d, hw, if_pos rfl, if_pos rfl]; exact ⟨_, E, hS85⟩), H, F⟩
  · refine w_iconst (v := nI 1) dX0_set_12 ki_1 ?_
    refine w_goto dX0_set_13 rfl ?_
    refine pX0_85 (C := C) dX0_set_67 rfl hx H F ?_
    intro σ H F
    have E := EncD.stH H E
    refine w_aload_n dX0_set_70 rfl ?_
    refine gst_85 dX0_set_71 rfl hx H ?_
    refine w_ifN_le dX0_set_74 rfl (by decide) (fun h_74 => ?_) (fun h_74 => ?_)
    · exact absurd (show _ from h_74) (by decide)
    refine w_iconst (v := (-1)) dX0_set_77 ki_m1 ?_
    exact w_iret dX0_set_78 rfl ⟨by first | (rw [p_set, if_neg h_9]; rfl) | (rw [p_set, if_pos h_9, hcl_f, hcl_d, hw, if_neg (by omega)]; rfl) | (rw [p_set, if_pos h_9, hcl_f, hcl_d, hw, if_pos rfl]; rfl), _, by first | (rw [p_set, v_set, if_neg h_9, if_neg h_9]; exact ChX.no E) | (rw [p_set, v_set, if_pos h_9, if_pos h_9, hcl_f, hcl_d, hw, if_neg (by omega), if_neg (by omega)]; exact ChX.no E) | (rw [p_set, v_set, if_pos h_9, if_pos h_9, hcl_f, hcl_d, hw, if_pos rfl, if_pos rfl]; exact ⟨_, E, hS85⟩), H, F⟩
set_option maxHeartbeats 4000000 in
theorem kX0_lift {g : GG} {C : CS} {V : VS} {q : Nat → Nat} {x : Int32} {y : Int32} (hx : oO C 0 = true) (h0 : oO C 0 = true) (E : EncD g C 0 V q) (K : OkV V) : Cp g miX0_lift 4 (0) (0) [.ref (od C 0 30), .int x, .int y] C (some (.int ((p_lift V x y).1))) (fun C2 => ChX g C C2 (v_lift V x y) (p_lift V x y).2) := by
  refine Cp.start [some (.ref (od C 0 30)), some (.int x), some (.int y), none] plX0 rfl (Nat.le_of_ble_eq_true rfl) rfl ?_
  intro σ0 σ H F
  have kb := K.b
  refine w_aload_n dX0_lift_0 rfl ?_
  refine w_iload_n dX0_lift_1 rfl ?_
  refine w_iload_n dX0_lift_2 rfl ?_
  refine cr_call (mi := miX0_areThere) dX0_lift_3 q1073 okX0_areThere clX0 rfl (H.get (ce_X hx)) (Nat.le_of_ble_eq_true rfl) (kX0_areThere (C := C) hx h0 E K) H rfl rfl (Nat.le_of_ble_eq_true rfl) ?_
  refine w_istore_n dX0_lift_6 rfl (Nat.le_of_ble_eq_true rfl) ls_4_3 ?_
  refine w_aload_n dX0_lift_7 rfl ?_
  refine w_iload_n dX0_lift_8 rfl ?_
  refine w_ifB_ne dX0_lift_9 rfl (fun h_9 => ?_) (fun h_9 => ?_)
  · have hx_f := h_9.1
    have hx_d := h_9.2
    obtain ⟨f, hf_f, rfl⟩ := inN_of hx_f (by omega)
    have hcl_f : cl (nI f) = f := nI_clamp (by omega)
    have kf_f := K.f hf_f
    obtain ⟨d, hf_d, rfl⟩ := inN_of hx_d (by omega)
    have hcl_d : cl (nI d) = d := nI_clamp (by omega)
    have kf_d := K.d hf_d
    have kn_d := K.n (d := d) (by omega)
    refine w_aload_n dX0_lift_16 rfl ?_
    refine cr_call (mi := miX0_day) dX0_lift_17 q886 okX0_day clX0 rfl (H.get (ce_X hx)) (Nat.le_of_ble_eq_true rfl) (kX0_day (C := C) hx h0) H rfl rfl (Nat.le_of_ble_eq_true rfl) ?_
    refine gX0_288 (C := C) dX0_lift_20 rfl h0 H ?_
    refine w_iload_n dX0_lift_23 rfl ?_
    refine ga_heaps (C := C) dX0_lift_24 h0 (by omega) H ?_
    refine w_iload_n dX0_lift_25 rfl ?_
    refine cr_call (mi := miX7_latestOf) dX0_lift_26 q1093 okX7_latestOf clX7 rfl (H.get (ce_heap (on8 h0 (by omega)))) (Nat.le_of_ble_eq_true rfl) (kX7_latestOf (C := C) (on8 h0 (by omega)) (E.h (d := d) (by omega)) (by intro k9 hk9; have h9 := (K.p (d := d) (by omega) hk9).1; omega) (by first | assumption | omega)) H rfl rfl (Nat.le_of_ble_eq_true rfl) ?_
    refine w_top (y := .int (nI (ownK V f d) - nI 1)) rfl ?_
    have hok := ownK_le V f d
    refine w_if_ge dX0_lift_29 rfl (fun h_29 => ?_) (fun h_29 => ?_)
    · have h_29 : ownK V f d ≠ 0 := fun z => absurd ((dn_lt (by omega)).mpr z) (Int32.not_lt.mpr h_29)
      refine w_aload_n dX0_lift_37 rfl ?_
      refine cr_call (mi := miX0_day) dX0_lift_38 q886 okX0_day clX0 rfl (H.get (ce_X hx)) (Nat.le_of_ble_eq_true rfl) (kX0_day (C := C) hx h0) H rfl rfl (Nat.le_of_ble_eq_true rfl) ?_
      refine w_iload_n dX0_lift_41 rfl ?_
      refine w_iload_n dX0_lift_42 rfl ?_
      refine cr_call (mi := miX5_isAt) dX0_lift_43 q1077 okX5_isAt clX5 rfl (H.get (ce_day h0)) (Nat.le_of_ble_eq_true rfl) (kX5_isAt (C := C) h0 E K (by first | assumption | omega) (by first | assumption | omega)) H rfl rfl (Nat.le_of_ble_eq_true rfl) ?_
      refine w_ifB_eq dX0_lift_46 rfl (fun h_46 => ?_) (fun h_46 => ?_)
      · have hw : wliV V f d = 7 := by rw [wliV, if_neg h_29, if_neg (fun z => h_46 ⟨K.th (by omega) (by omega), z⟩)]
        refine w_bipush (v := nI 7) dX0_lift_53 kb_7 ?_
        refine pX0_85 (C := C) dX0_lift_55 rfl hx H F ?_
        intro σ H F
        have E := EncD.stH H E
        refine w_aload_n dX0_lift_58 rfl ?_
        refine gst_85 dX0_lift_59 rfl hx H ?_
        refine w_ifN_le dX0_lift_62 rfl (by decide) (fun h_62 => ?_) (fun h_62 => ?_)
        · exact absurd (show _ from h_62) (by decide)
        refine w_iconst (v := (-1)) dX0_lift_65 ki_m1 ?_
        refine w_goto dX0_lift_66 rfl ?_
        exact w_iret dX0_lift_78 rfl ⟨by first | (rw [p_lift, if_neg h_9]; rfl) | (rw [p_lift, if_pos h_9, hcl_f, hcl_d, hw, if_neg (by omega)]; rfl) | (rw [p_lift, if_pos h_9, hcl_f, hcl_d, hw, if_pos rfl]; rfl), _, by first | (rw [p_lift, v_lift, if_neg h_9, if_neg h_9]; exact ChX.no E) | (rw [p_lift, v_lift, if_pos h_9, if_pos h_9, hcl_f, hcl_d, hw, if_neg (by omega), if_neg (by omega)]; exact ChX.no E) | (rw [p_lift, v_lift, if_pos h_9, if_pos h_9, hcl_f, hcl_d, hw, if_pos rfl, if_pos rfl]; exact ⟨_, E, hS75⟩), H, F⟩
      · have hw : wliV V f d = 0 := by rw [wliV, if_neg h_29, if_pos h_46.2]
        refine w_iconst (v := nI 0) dX0_lift_49 ki_0 ?_
        refine w_goto dX0_lift_50 rfl ?_
        refine pX0_85 (C := C) dX0_lift_55 rfl hx H F ?_
        intro σ H F
        have E := EncD.stH H E
        refine w_aload_n dX0_lift_58 rfl ?_
        refine gst_85 dX0_lift_59 rfl hx H ?_
        refine w_ifN_le dX0_lift_62 rfl (by decide) (fun h_62 => ?_) (fun h_62 => ?_)
        rotate_left
        · exact absurd (show _ from h_62) (by decide)
        refine w_aload_n dX0_lift_69 rfl ?_
        refine cr_call (mi := miX0_day) dX0_lift_70 q886 okX0_day clX0 rfl (H.get (ce_X hx)) (Nat.le_of_ble_eq_true rfl) (kX0_day (C := uI (C) 0 30 7 _) hx h0) H rfl rfl (Nat.le_of_ble_eq_true rfl) ?_
        refine w_iload_n dX0_lift_73 rfl ?_
        refine w_iload_n dX0_lift_74 rfl ?_
        refine cp_call (mi := miX5_lifts) dX0_lift_75 q1097 okX5_lifts clX5 rfl (H.get (ce_day h0)) (Nat.le_of_ble_eq_true rfl) (kX5_lifts (C := uI (C) 0 30 7 _) h0 E K (by first | assumption | omega) (by first | assumption | omega) h_29) H F rfl rfl (Nat.le_of_ble_eq_true rfl) ?_
        intro σ C75 hC75 H F
        obtain ⟨E, hS75⟩ := hC75
        rw [show od C 0 30 = od C75 0 30 from (hS75.1 0 30 (by omega) (by omega)).symm]
        have hx : oO C75 0 = true := by rw [hS75.on]; exact hx
        have h0 : oO C75 0 = true := by rw [hS75.on]; exact h0
        exact w_iret dX0_lift_78 rfl ⟨by first | (rw [p_lift, if_neg h_9]; rfl) | (rw [p_lift, if_pos h_9, hcl_f, hcl_d, hw, if_neg (by omega)]; rfl) | (rw [p_lift, if_pos h_9, hcl_f, hcl_d, hw, if_pos rfl]; rfl), _, by first | (rw [p_lift, v_lift, if_neg h_9, if_neg h_9]; exact ChX.no E) | (rw [p_lift, v_lift, if_pos h_9, if_pos h_9, hcl_f, hcl_d, hw, if_neg (by omega), if_neg (by omega)]; exact ChX.no E) | (rw [p_lift, v_lift, if_pos h_9, if_pos h_9, hcl_f, hcl_d, hw, if_pos rfl, if_pos rfl]; exact ⟨_, E, hS75⟩), H, F⟩
    · have h_29 : ownK V f d = 0 := (dn_lt (by omega)).mp (Int32.not_le.mp h_29)
      have hw : wliV V f d = 6 := by rw [wliV, if_pos h_29]
      refine w_bipush (v := nI 6) dX0_lift_32 kb_6 ?_
      refine w_goto dX0_lift_34 rfl ?_
      refine pX0_85 (C := C) dX0_lift_55 rfl hx H F ?_
      intro σ H F
      have E := EncD.stH H E
      refine w_aload_n dX0_lift_58 rfl ?_
      refine gst_85 dX0_lift_59 rfl hx H ?_
      refine w_ifN_le dX0_lift_62 rfl (by decide) (fun h_62 => ?_) (fun h_62 => ?_)
      · exact absurd (show _ from h_62) (by decide)
      refine w_iconst (v := (-1)) dX0_lift_65 ki_m1 ?_
      refine w_goto dX0_lift_66 rfl ?_
      exact w_iret dX0_lift_78 rfl ⟨by first | (rw [p_lift, if_neg h_9]; rfl) | (rw [p_lift, if_pos h_9, hcl_f, hcl_d, hw, if_neg (by omega)]; rfl) | (rw [p_lift, if_pos h_9, hcl_f, hcl_d, hw, if_pos rfl]; rfl), _, by first | (rw [p_lift, v_lift, if_neg h_9, if_neg h_9]; exact ChX.no E) | (rw [p_lift, v_lift, if_pos h_9, if_pos h_9, hcl_f, hcl_d, hw, if_neg (by omega), if_neg (by omega)]; exact ChX.no E) | (rw [p_lift, v_lift, if_pos h_9, if_pos h_9, hcl_f, hcl_d, hw, if_pos rfl, if_pos rfl]; exact ⟨_, E, hS75⟩), H, F⟩
  · refine w_iconst (v := nI 1) dX0_lift_12 ki_1 ?_
    refine w_goto dX0_lift_13 rfl ?_
    refine pX0_85 (C := C) dX0_lift_55 rfl hx H F ?_
    intro σ H F
    have E := EncD.stH H E
    refine w_aload_n dX0_lift_58 rfl ?_
    refine gst_85 dX0_lift_59 rfl hx H ?_
    refine w_ifN_le dX0_lift_62 rfl (by decide) (fun h_62 => ?_) (fun h_62 => ?_)
    · exact absurd (show _ from h_62) (by decide)
    refine w_iconst (v := (-1)) dX0_lift_65 ki_m1 ?_
    refine w_goto dX0_lift_66 rfl ?_
    exact w_iret dX0_lift_78 rfl ⟨by first | (rw [p_lift, if_neg h_9]; rfl) | (rw [p_lift, if_pos h_9, hcl_f, hcl_d, hw, if_neg (by omega)]; rfl) | (rw [p_lift, if_pos h_9, hcl_f, hcl_d, hw, if_pos rfl]; rfl), _, by first | (rw [p_lift, v_lift, if_neg h_9, if_neg h_9]; exact ChX.no E) | (rw [p_lift, v_lift, if_pos h_9, if_pos h_9, hcl_f, hcl_d, hw, if_neg (by omega), if_neg (by omega)]; exact ChX.no E) | (rw [p_lift, v_lift, if_pos h_9, if_pos h_9, hcl_f, hcl_d, hw, if_pos rfl, if_pos rfl]; exact ⟨_, E, hS75⟩), H, F⟩
theorem sum2_le {f : Nat → Nat} {a b : Nat} : ∀ n, a < n → b < n → a ≠ b → f a + f b ≤ foldN (fun i c => c + f i) 0 n
  | 0, h, _, _ => absurd h (Nat.not_lt_zero a)
  | n + 1, ha, hb, h => by
    show f a + f b ≤ foldN (fun i c => c + f i) 0 n + f n
    by_cases h1 : a = n
    · subst h1
      have := foldN_le (f := f) a b (by omega)
      omega
    · by_cases h2 : b = n
      · subst h2
        have := foldN_le (f := f) b a (by omega)
        omega
      · have := sum2_le (f := f) n (by omega : a < n) (by omega : b < n) h
        omega
theorem gull60 {V : VS} (K : OkV V) {d e : Nat} (hd : d < 8) (he : e < 8) (h : d ≠ e) (hn : 0 < vt V 7 d) : vt V 7 e < 60 := by
  have h8 := K.s8
  have hb := K.b
  have h2 : vt V 7 d + vt V 7 e ≤ foldN (fun d c => c + vt V 7 d) 0 8 := sum2_le (f := fun d => vt V 7 d) 8 hd he h
  omega
set_option maxHeartbeats 4000000 in
theorem kX0_gull {g : GG} {C : CS} {V : VS} {q : Nat → Nat} {x : Int32} {y : Int32} (hx : oO C 0 = true) (h0 : oO C 0 = true) (E : EncD g C 0 V q) (K : OkV V) (hl : oM C 90 = none) : Cp g miX0_gull 4 (0 + 2) (0 + 256) [.ref (od C 0 30), .int x, .int y] C (some (.int ((p_gull V x y).1))) (fun C2 => ChX g C C2 (v_gull V x y) (p_gull V x y).2) := by
  refine Cp.start [some (.ref (od C 0 30)), some (.int x), some (.int y), none] plX0 rfl (Nat.le_of_ble_eq_true rfl) rfl ?_
  intro σ0 σ H F
  have kb := K.b
  refine w_aload_n dX0_gull_0 rfl ?_
  refine w_iload_n dX0_gull_1 rfl ?_
  refine cr_call (mi := miX0_isFind) dX0_gull_2 q1036 okX0_isFind clX0 rfl (H.get (ce_X hx)) (Nat.le_of_ble_eq_true rfl) (kX0_isFind (C := C) hx h0 E K) H rfl rfl (Nat.le_of_ble_eq_true rfl) ?_
  refine w_ifB_eq dX0_gull_5 rfl (fun h_5 => ?_) (fun h_5 => ?_)
  · have hno : ¬ (inN x (vs V 2) ∧ inN y (vs V 2) ∧ x ≠ y) := fun z => h_5 z.1
    refine w_iconst (v := nI 0) dX0_gull_25 ki_0 ?_
    refine w_istore_n dX0_gull_26 rfl (Nat.le_of_ble_eq_true rfl) ls_4_3 ?_
    refine w_aload_n dX0_gull_27 rfl ?_
    refine w_iload_n dX0_gull_28 rfl ?_
    refine w_ifN_ne dX0_gull_29 rfl (by decide) (fun h_29 => ?_) (fun h_29 => ?_)
    · exact absurd (show _ from h_29) (by decide)
    refine w_iconst (v := nI 1) dX0_gull_32 ki_1 ?_
    refine w_goto dX0_gull_33 rfl ?_
    refine pX0_85 (C := C) dX0_gull_74 rfl hx H F ?_
    intro σ H F
    have E := EncD.stH H E
    refine w_aload_n dX0_gull_77 rfl ?_
    refine gst_85 dX0_gull_78 rfl hx H ?_
    refine w_ifN_le dX0_gull_81 rfl (by decide) (fun h_81 => ?_) (fun h_81 => ?_)
    · exact absurd (show _ from h_81) (by decide)
    refine w_iconst (v := (-1)) dX0_gull_84 ki_m1 ?_
    refine w_goto dX0_gull_85 rfl ?_
    exact w_iret dX0_gull_97 rfl ⟨by first | (rw [p_gull, if_neg hno]; rfl) | (rw [p_gull, if_pos h_9, hcl_d, hcl_e, hw, if_neg (by omega)]; rfl) | (rw [p_gull, if_pos h_9, hcl_d, hcl_e, hw, if_pos rfl]; rfl), _, by first | (rw [p_gull, v_gull, if_neg hno, if_neg hno]; exact ChX.no E) | (rw [p_gull, v_gull, if_pos h_9, if_pos h_9, hcl_d, hcl_e, hw, if_neg (by omega), if_neg (by omega)]; exact ChX.no E) | (rw [p_gull, v_gull, if_pos h_9, if_pos h_9, hcl_d, hcl_e, hw, if_pos rfl, if_pos rfl]; exact ⟨_, E, hS94⟩), H, F⟩
  · have hx_d := h_5
    obtain ⟨d, hf_d, rfl⟩ := inN_of h_5 (by omega)
    have hcl_d : cl (nI d) = d := nI_clamp (by omega)
    have kf_d := K.d hf_d
    have kn_d := K.n (d := d) (by omega)
    refine w_aload_n dX0_gull_8 rfl ?_
    refine w_iload_n dX0_gull_9 rfl ?_
    refine cr_call (mi := miX0_isFind) dX0_gull_10 q1036 okX0_isFind clX0 rfl (H.get (ce_X hx)) (Nat.le_of_ble_eq_true rfl) (kX0_isFind (C := C) hx h0 E K) H rfl rfl (Nat.le_of_ble_eq_true rfl) ?_
    refine w_ifB_eq dX0_gull_13 rfl (fun h_13 => ?_) (fun h_13 => ?_)
    · have hno : ¬ (inN (nI d) (vs V 2) ∧ inN y (vs V 2) ∧ nI d ≠ y) := fun z => h_13 z.2.1
      refine w_iconst (v := nI 0) dX0_gull_25 ki_0 ?_
      refine w_istore_n dX0_gull_26 rfl (Nat.le_of_ble_eq_true rfl) ls_4_3 ?_
      refine w_aload_n dX0_gull_27 rfl ?_
      refine w_iload_n dX0_gull_28 rfl ?_
      refine w_ifN_ne dX0_gull_29 rfl (by decide) (fun h_29 => ?_) (fun h_29 => ?_)
      · exact absurd (show _ from h_29) (by decide)
      refine w_iconst (v := nI 1) dX0_gull_32 ki_1 ?_
      refine w_goto dX0_gull_33 rfl ?_
      refine pX0_85 (C := C) dX0_gull_74 rfl hx H F ?_
      intro σ H F
      have E := EncD.stH H E
      refine w_aload_n dX0_gull_77 rfl ?_
      refine gst_85 dX0_gull_78 rfl hx H ?_
      refine w_ifN_le dX0_gull_81 rfl (by decide) (fun h_81 => ?_) (fun h_81 => ?_)
      · exact absurd (show _ from h_81) (by decide)
      refine w_iconst (v := (-1)) dX0_gull_84 ki_m1 ?_
      refine w_goto dX0_gull_85 rfl ?_
      exact w_iret dX0_gull_97 rfl ⟨by first | (rw [p_gull, if_neg hno]; rfl) | (rw [p_gull, if_pos h_9, hcl_d, hcl_e, hw, if_neg (by omega)]; rfl) | (rw [p_gull, if_pos h_9, hcl_d, hcl_e, hw, if_pos rfl]; rfl), _, by first | (rw [p_gull, v_gull, if_neg hno, if_neg hno]; exact ChX.no E) | (rw [p_gull, v_gull, if_pos h_9, if_pos h_9, hcl_d, hcl_e, hw, if_neg (by omega), if_neg (by omega)]; exact ChX.no E) | (rw [p_gull, v_gull, if_pos h_9, if_pos h_9, hcl_d, hcl_e, hw, if_pos rfl, if_pos rfl]; exact ⟨_, E, hS94⟩), H, F⟩
    · have hx_e := h_13
      obtain ⟨e, hf_e, rfl⟩ := inN_of h_13 (by omega)
      have hcl_e : cl (nI e) = e := nI_clamp (by omega)
      have kf_e := K.d hf_e
      have kn_e := K.n (d := e) (by omega)
      refine w_iload_n dX0_gull_16 rfl ?_
      refine w_iload_n dX0_gull_17 rfl ?_
      refine w_icmpN_eq dX0_gull_18 rfl (by omega) (by omega) (fun h_18 => ?_) (fun h_18 => ?_)
      · have hno : ¬ (inN (nI d) (vs V 2) ∧ inN (nI e) (vs V 2) ∧ nI d ≠ nI e) := fun z => z.2.2 (by rw [h_18])
        refine w_iconst (v := nI 0) dX0_gull_25 ki_0 ?_
        refine w_istore_n dX0_gull_26 rfl (Nat.le_of_ble_eq_true rfl) ls_4_3 ?_
        refine w_aload_n dX0_gull_27 rfl ?_
        refine w_iload_n dX0_gull_28 rfl ?_
        refine w_ifN_ne dX0_gull_29 rfl (by decide) (fun h_29 => ?_) (fun h_29 => ?_)
        · exact absurd (show _ from h_29) (by decide)
        refine w_iconst (v := nI 1) dX0_gull_32 ki_1 ?_
        refine w_goto dX0_gull_33 rfl ?_
        refine pX0_85 (C := C) dX0_gull_74 rfl hx H F ?_
        intro σ H F
        have E := EncD.stH H E
        refine w_aload_n dX0_gull_77 rfl ?_
        refine gst_85 dX0_gull_78 rfl hx H ?_
        refine w_ifN_le dX0_gull_81 rfl (by decide) (fun h_81 => ?_) (fun h_81 => ?_)
        · exact absurd (show _ from h_81) (by decide)
        refine w_iconst (v := (-1)) dX0_gull_84 ki_m1 ?_
        refine w_goto dX0_gull_85 rfl ?_
        exact w_iret dX0_gull_97 rfl ⟨by first | (rw [p_gull, if_neg hno]; rfl) | (rw [p_gull, if_pos h_9, hcl_d, hcl_e, hw, if_neg (by omega)]; rfl) | (rw [p_gull, if_pos h_9, hcl_d, hcl_e, hw, if_pos rfl]; rfl), _, by first | (rw [p_gull, v_gull, if_neg hno, if_neg hno]; exact ChX.no E) | (rw [p_gull, v_gull, if_pos h_9, if_pos h_9, hcl_d, hcl_e, hw, if_neg (by omega), if_neg (by omega)]; exact ChX.no E) | (rw [p_gull, v_gull, if_pos h_9, if_pos h_9, hcl_d, hcl_e, hw, if_pos rfl, if_pos rfl]; exact ⟨_, E, hS94⟩), H, F⟩
      · have h_9 : inN (nI d) (vs V 2) ∧ inN (nI e) (vs V 2) ∧ nI d ≠ nI e := ⟨hx_d, hx_e, fun z => h_18 ((nI_eq (by omega) (by omega)).mp z)⟩
        refine w_iconst (v := nI 1) dX0_gull_21 ki_1 ?_
        refine w_goto dX0_gull_22 rfl ?_
        refine w_istore_n dX0_gull_26 rfl (Nat.le_of_ble_eq_true rfl) ls_4_3 ?_
        refine w_aload_n dX0_gull_27 rfl ?_
        refine w_iload_n dX0_gull_28 rfl ?_
        refine w_ifN_ne dX0_gull_29 rfl (by decide) (fun h_29 => ?_) (fun h_29 => ?_)
        rotate_left
        · exact absurd (show _ from h_29) (by decide)
        refine w_aload_n dX0_gull_36 rfl ?_
        refine cr_call (mi := miX0_day) dX0_gull_37 q886 okX0_day clX0 rfl (H.get (ce_X hx)) (Nat.le_of_ble_eq_true rfl) (kX0_day (C := C) hx h0) H rfl rfl (Nat.le_of_ble_eq_true rfl) ?_
        refine gX0_288 (C := C) dX0_gull_40 rfl h0 H ?_
        refine w_iload_n dX0_gull_43 rfl ?_
        refine ga_heaps (C := C) dX0_gull_44 h0 (by omega) H ?_
        refine gX0_292 (C := C) dX0_gull_45 rfl (on8 h0 (by omega)) H ?_
        refine w_topN (E.h (d := d) (by omega)).sz ?_
        refine w_ifN_ne dX0_gull_48 rfl (by omega) (fun h_48 => ?_) (fun h_48 => ?_)
        · refine w_aload_n dX0_gull_56 rfl ?_
          refine cr_call (mi := miX0_day) dX0_gull_57 q886 okX0_day clX0 rfl (H.get (ce_X hx)) (Nat.le_of_ble_eq_true rfl) (kX0_day (C := C) hx h0) H rfl rfl (Nat.le_of_ble_eq_true rfl) ?_
          refine w_iload_n dX0_gull_60 rfl ?_
          refine w_iload_n dX0_gull_61 rfl ?_
          refine cr_call (mi := miX5_canGull) dX0_gull_62 q1110 okX5_canGull clX5 rfl (H.get (ce_day h0)) (Nat.le_of_ble_eq_true rfl) (kX5_canGull (C := C) h0 E K (by omega) (by omega)) H rfl rfl (Nat.le_of_ble_eq_true rfl) ?_
          refine w_ifB_eq dX0_gull_65 rfl (fun h_65 => ?_) (fun h_65 => ?_)
          · have hw : wgV V d e = 7 := by rw [wgV, if_neg (by omega), if_neg (fun z => h_65 ⟨h_18, z.1, z.2, by omega⟩)]
            refine w_bipush (v := nI 7) dX0_gull_72 kb_7 ?_
            refine pX0_85 (C := C) dX0_gull_74 rfl hx H F ?_
            intro σ H F
            have E := EncD.stH H E
            refine w_aload_n dX0_gull_77 rfl ?_
            refine gst_85 dX0_gull_78 rfl hx H ?_
            refine w_ifN_le dX0_gull_81 rfl (by decide) (fun h_81 => ?_) (fun h_81 => ?_)
            · exact absurd (show _ from h_81) (by decide)
            refine w_iconst (v := (-1)) dX0_gull_84 ki_m1 ?_
            refine w_goto dX0_gull_85 rfl ?_
            exact w_iret dX0_gull_97 rfl ⟨by first | (rw [p_gull, if_neg hno]; rfl) | (rw [p_gull, if_pos h_9, hcl_d, hcl_e, hw, if_neg (by omega)]; rfl) | (rw [p_gull, if_pos h_9, hcl_d, hcl_e, hw, if_pos rfl]; rfl), _, by first | (rw [p_gull, v_gull, if_neg hno, if_neg hno]; exact ChX.no E) | (rw [p_gull, v_gull, if_pos h_9, if_pos h_9, hcl_d, hcl_e, hw, if_neg (by omega), if_neg (by omega)]; exact ChX.no E) | (rw [p_gull, v_gull, if_pos h_9, if_pos h_9, hcl_d, hcl_e, hw, if_pos rfl, if_pos rfl]; exact ⟨_, E, hS94⟩), H, F⟩
          · have hw : wgV V d e = 0 := by rw [wgV, if_neg (by omega), if_pos ⟨h_65.2.1, h_65.2.2.1⟩]
            have h7s := gull60 K (d := d) (e := e) (by omega) (by omega) h_18 (by omega)
            refine w_iconst (v := nI 0) dX0_gull_68 ki_0 ?_
            refine w_goto dX0_gull_69 rfl ?_
            refine pX0_85 (C := C) dX0_gull_74 rfl hx H F ?_
            intro σ H F
            have E := EncD.stH H E
            refine w_aload_n dX0_gull_77 rfl ?_
            refine gst_85 dX0_gull_78 rfl hx H ?_
            refine w_ifN_le dX0_gull_81 rfl (by decide) (fun h_81 => ?_) (fun h_81 => ?_)
            rotate_left
            · exact absurd (show _ from h_81) (by decide)
            refine w_aload_n dX0_gull_88 rfl ?_
            refine cr_call (mi := miX0_day) dX0_gull_89 q886 okX0_day clX0 rfl (H.get (ce_X hx)) (Nat.le_of_ble_eq_true rfl) (kX0_day (C := uI (C) 0 30 7 _) hx h0) H rfl rfl (Nat.le_of_ble_eq_true rfl) ?_
            refine w_iload_n dX0_gull_92 rfl ?_
            refine w_iload_n dX0_gull_93 rfl ?_
            have hcap := ((E.h (d := e) (by omega)).cap).2.1
            refine w_bud (kc2 := 0 + (if vt V 7 e = q e then 2 else 0)) (ks2 := 0 + (if vt V 7 e = q e then 4 * q e else 0)) (by split <;> omega) (by split <;> omega) ?_
            refine cp_call (mi := miX5_gull) dX0_gull_94 q1114 okX5_gull clX5 rfl (H.get (ce_day h0)) (Nat.le_of_ble_eq_true rfl) (kX5_gull (C := uI (C) 0 30 7 _) h0 E K (by omega) (by omega) h_18 (by omega) (by omega) hl) H F rfl rfl (Nat.le_of_ble_eq_true rfl) ?_
            intro σ C94 hC94 H F
            obtain ⟨E, hS94⟩ := hC94
            rw [show od C 0 30 = od C94 0 30 from (hS94.1 0 30 (by omega) (by omega)).symm]
            have hx : oO C94 0 = true := by rw [hS94.on]; exact hx
            have h0 : oO C94 0 = true := by rw [hS94.on]; exact h0
            exact w_iret dX0_gull_97 rfl ⟨by first | (rw [p_gull, if_neg hno]; rfl) | (rw [p_gull, if_pos h_9, hcl_d, hcl_e, hw, if_neg (by omega)]; rfl) | (rw [p_gull, if_pos h_9, hcl_d, hcl_e, hw, if_pos rfl]; rfl), _, by first | (rw [p_gull, v_gull, if_neg hno, if_neg hno]; exact ChX.no E) | (rw [p_gull, v_gull, if_pos h_9, if_pos h_9, hcl_d, hcl_e, hw, if_neg (by omega), if_neg (by omega)]; exact ChX.no E) | (rw [p_gull, v_gull, if_pos h_9, if_pos h_9, hcl_d, hcl_e, hw, if_pos rfl, if_pos rfl]; exact ⟨_, E, hS94⟩), H, F⟩
        · have hw : wgV V d e = 6 := by rw [wgV, if_pos (by omega)]
          refine w_bipush (v := nI 6) dX0_gull_51 kb_6 ?_
          refine w_goto dX0_gull_53 rfl ?_
          refine pX0_85 (C := C) dX0_gull_74 rfl hx H F ?_
          intro σ H F
          have E := EncD.stH H E
          refine w_aload_n dX0_gull_77 rfl ?_
          refine gst_85 dX0_gull_78 rfl hx H ?_
          refine w_ifN_le dX0_gull_81 rfl (by decide) (fun h_81 => ?_) (fun h_81 => ?_)
          · exact absurd (show _ from h_81) (by decide)
          refine w_iconst (v := (-1)) dX0_gull_84 ki_m1 ?_
          refine w_goto dX0_gull_85 rfl ?_
          exact w_iret dX0_gull_97 rfl ⟨by first | (rw [p_gull, if_neg hno]; rfl) | (rw [p_gull, if_pos h_9, hcl_d, hcl_e, hw, if_neg (by omega)]; rfl) | (rw [p_gull, if_pos h_9, hcl_d, hcl_e, hw, if_pos rfl]; rfl), _, by first | (rw [p_gull, v_gull, if_neg hno, if_neg hno]; exact ChX.no E) | (rw [p_gull, v_gull, if_pos h_9, if_pos h_9, hcl_d, hcl_e, hw, if_neg (by omega), if_neg (by omega)]; exact ChX.no E) | (rw [p_gull, v_gull, if_pos h_9, if_pos h_9, hcl_d, hcl_e, hw, if_pos rfl, if_pos rfl]; exact ⟨_, E, hS94⟩), H, F⟩
set_option maxHeartbeats 4000000 in
theorem kX0_wave {g : GG} {C : CS} {V : VS} {q : Nat → Nat} {x : Int32} (hx : oO C 0 = true) (h0 : oO C 0 = true) (E : EncD g C 0 V q) (K : OkV V) : Cp g miX0_wave 2 (0) (0) [.ref (od C 0 30), .int x] C (some (.int ((p_wave V x).1))) (fun C2 => ChX g C C2 (v_wave V x) (p_wave V x).2) := by
  refine Cp.start [some (.ref (od C 0 30)), some (.int x)] plX0 rfl (Nat.le_of_ble_eq_true rfl) rfl ?_
  intro σ0 σ H F
  have kb := K.b
  refine w_aload_n dX0_wave_0 rfl ?_
  refine w_iload_n dX0_wave_1 rfl ?_
  refine w_i2l dX0_wave_2 rfl ?_
  refine w_lconst (v := 0) dX0_wave_3 rfl ?_
  refine w_ldc2 dX0_wave_4 q1122 ?_
  refine cs_call (mi := miX0_isIn) dX0_wave_7 q1016 okX0_isIn (Nat.le_of_ble_eq_true rfl) (kX0_isIn0 (m := 40) (by first | assumption | omega)) rfl rfl (Nat.le_of_ble_eq_true rfl) ?_
  refine w_ifB_eq dX0_wave_10 rfl (fun h_10 => ?_) (fun h_10 => ?_)
  · refine w_iconst (v := nI 1) dX0_wave_17 ki_1 ?_
    refine pX0_85 (C := C) dX0_wave_18 rfl hx H F ?_
    intro σ H F
    have E := EncD.stH H E
    refine w_aload_n dX0_wave_21 rfl ?_
    refine gst_85 dX0_wave_22 rfl hx H ?_
    refine w_ifN_le dX0_wave_25 rfl (by decide) (fun h_25 => ?_) (fun h_25 => ?_)
    · exact absurd (show _ from h_25) (by decide)
    refine w_iconst (v := (-1)) dX0_wave_28 ki_m1 ?_
    refine w_goto dX0_wave_29 rfl ?_
    exact w_iret dX0_wave_40 rfl ⟨by first | (rw [p_wave, if_neg h_10]; rfl) | (rw [p_wave, if_pos hx_m, hcl_m]; rfl), _, by first | (rw [p_wave, v_wave, if_neg h_10, if_neg h_10]; exact ChX.no E) | (rw [p_wave, v_wave, if_pos hx_m, if_pos hx_m, hcl_m]; exact ⟨_, E, hS37⟩), H, F⟩
  · have hx_m := h_10
    obtain ⟨m, hf_m, rfl⟩ := inN_of h_10 (by omega)
    have hcl_m : cl (nI m) = m := nI_clamp (by omega)
    refine w_iconst (v := nI 0) dX0_wave_13 ki_0 ?_
    refine w_goto dX0_wave_14 rfl ?_
    refine pX0_85 (C := C) dX0_wave_18 rfl hx H F ?_
    intro σ H F
    have E := EncD.stH H E
    refine w_aload_n dX0_wave_21 rfl ?_
    refine gst_85 dX0_wave_22 rfl hx H ?_
    refine w_ifN_le dX0_wave_25 rfl (by decide) (fun h_25 => ?_) (fun h_25 => ?_)
    rotate_left
    · exact absurd (show _ from h_25) (by decide)
    refine w_aload_n dX0_wave_32 rfl ?_
    refine cr_call (mi := miX0_day) dX0_wave_33 q886 okX0_day clX0 rfl (H.get (ce_X hx)) (Nat.le_of_ble_eq_true rfl) (kX0_day (C := uI (C) 0 30 7 _) hx h0) H rfl rfl (Nat.le_of_ble_eq_true rfl) ?_
    refine w_iload_n dX0_wave_36 rfl ?_
    refine cp_call (mi := miX5_wave) dX0_wave_37 q1123 okX5_wave clX5 rfl (H.get (ce_day h0)) (Nat.le_of_ble_eq_true rfl) (kX5_wave (C := uI (C) 0 30 7 _) h0 E K (by omega)) H F rfl rfl (Nat.le_of_ble_eq_true rfl) ?_
    intro σ C37 hC37 H F
    obtain ⟨E, hS37⟩ := hC37
    rw [show od C 0 30 = od C37 0 30 from (hS37.1 0 30 (by omega) (by omega)).symm]
    have hx : oO C37 0 = true := by rw [hS37.on]; exact hx
    have h0 : oO C37 0 = true := by rw [hS37.on]; exact h0
    exact w_iret dX0_wave_40 rfl ⟨by first | (rw [p_wave, if_neg h_10]; rfl) | (rw [p_wave, if_pos hx_m, hcl_m]; rfl), _, by first | (rw [p_wave, v_wave, if_neg h_10, if_neg h_10]; exact ChX.no E) | (rw [p_wave, v_wave, if_pos hx_m, if_pos hx_m, hcl_m]; exact ⟨_, E, hS37⟩), H, F⟩
set_option maxHeartbeats 4000000 in
theorem kX0_tide {g : GG} {C : CS} {V : VS} {q : Nat → Nat} (hx : oO C 0 = true) (h0 : oO C 0 = true) (E : EncD g C 0 V q) (K : OkV V) (hk : KepV V) : Cp g miX0_tide 6 (0) (0) [.ref (od C 0 30)] C (some (.int ((p_tide V).1))) (fun C2 => ChX g C C2 (v_tide V) (p_tide V).2) := by
  refine Cp.start [some (.ref (od C 0 30))] plX0 rfl (Nat.le_of_ble_eq_true rfl) rfl ?_
  intro σ0 σ H F
  have kb := K.b
  refine w_aload_n dX0_tide_0 rfl ?_
  refine w_aload_n dX0_tide_1 rfl ?_
  refine cr_call (mi := miX0_day) dX0_tide_2 q886 okX0_day clX0 rfl (H.get (ce_X hx)) (Nat.le_of_ble_eq_true rfl) (kX0_day (C := C) hx h0) H rfl rfl (Nat.le_of_ble_eq_true rfl) ?_
  refine gX0_254 (C := C) dX0_tide_5 rfl h0 H ?_
  refine w_topN (E.dy) ?_
  refine w_bipush (v := nI 99) dX0_tide_8 kb_99 ?_
  refine w_icmpN_ne dX0_tide_10 rfl (by omega) (by omega) (fun h_10 => ?_) (fun h_10 => ?_)
  · refine w_aload_n dX0_tide_17 rfl ?_
    refine cr_call (mi := miX0_day) dX0_tide_18 q886 okX0_day clX0 rfl (H.get (ce_X hx)) (Nat.le_of_ble_eq_true rfl) (kX0_day (C := C) hx h0) H rfl rfl (Nat.le_of_ble_eq_true rfl) ?_
    refine gX0_256 (C := C) dX0_tide_21 rfl h0 H ?_
    refine w_topN (E.th) ?_
    refine w_ifN_ne dX0_tide_24 rfl (by omega) (fun h_24 => ?_) (fun h_24 => ?_)
    · refine w_iconst (v := nI 0) dX0_tide_32 ki_0 ?_
      refine pX0_85 (C := C) dX0_tide_33 rfl hx H F ?_
      intro σ H F
      have E := EncD.stH H E
      refine w_aload_n dX0_tide_36 rfl ?_
      refine gst_85 dX0_tide_37 rfl hx H ?_
      refine w_ifN_le dX0_tide_40 rfl (by decide) (fun h_40 => ?_) (fun h_40 => ?_)
      rotate_left
      · exact absurd (show _ from h_40) (by decide)
      refine w_aload_n dX0_tide_45 rfl ?_
      refine cr_call (mi := miX0_day) dX0_tide_46 q886 okX0_day clX0 rfl (H.get (ce_X hx)) (Nat.le_of_ble_eq_true rfl) (kX0_day (C := uI (C) 0 30 7 _) hx h0) H rfl rfl (Nat.le_of_ble_eq_true rfl) ?_
      refine cp_call (mi := miX5_tide) dX0_tide_49 q1131 okX5_tide clX5 rfl (H.get (ce_day h0)) (Nat.le_of_ble_eq_true rfl) (kX5_tide (C := uI (C) 0 30 7 _) h0 E K hk (by omega)) H F rfl rfl (Nat.le_of_ble_eq_true rfl) ?_
      intro σ C49 hC49 H F
      obtain ⟨E, hS49⟩ := hC49
      rw [show od C 0 30 = od C49 0 30 from (hS49.1 0 30 (by omega) (by omega)).symm]
      have hx : oO C49 0 = true := by rw [hS49.on]; exact hx
      have h0 : oO C49 0 = true := by rw [hS49.on]; exact h0
      refine w_aload_n dX0_tide_52 rfl ?_
      refine cr_call (mi := miX0_day) dX0_tide_53 q886 okX0_day clX0 rfl (H.get (ce_X hx)) (Nat.le_of_ble_eq_true rfl) (kX0_day (C := C49) hx h0) H rfl rfl (Nat.le_of_ble_eq_true rfl) ?_
      refine gX0_254 (C := C49) dX0_tide_56 rfl h0 H ?_
      refine w_topN (E.dy) ?_
      refine w_topN (n := vs V 6 + 1) (congrArg nI (by rw [flood_s, if_neg (by omega), if_pos rfl])) ?_
      exact w_iret dX0_tide_59 rfl ⟨by first | (rw [p_tide, if_pos (by omega)]; done) | (rw [p_tide, if_pos (by omega)]; rfl) | (rw [p_tide, if_neg (by omega), if_pos (by omega)]; rfl) | (rw [p_tide, if_neg (by omega), if_neg (by omega)]; rfl), _, by first | (rw [p_tide, v_tide, if_pos (show vs V 6 = 99 by omega), if_pos (show vs V 6 = 99 by omega)]; exact ChX.no E) | (rw [p_tide, v_tide, if_neg (show ¬ vs V 6 = 99 by omega), if_neg (show ¬ vs V 6 = 99 by omega), if_pos (show vs V 7 = 0 by omega), if_pos (show vs V 7 = 0 by omega)]; exact ChX.no E) | (rw [p_tide, v_tide, if_neg (show ¬ vs V 6 = 99 by omega), if_neg (show ¬ vs V 6 = 99 by omega), if_neg (show ¬ vs V 7 = 0 by omega), if_neg (show ¬ vs V 7 = 0 by omega)]; exact ⟨_, E, hS49⟩), H, F⟩
    · refine w_bipush (v := nI 7) dX0_tide_27 kb_7 ?_
      refine w_goto dX0_tide_29 rfl ?_
      refine pX0_85 (C := C) dX0_tide_33 rfl hx H F ?_
      intro σ H F
      have E := EncD.stH H E
      refine w_aload_n dX0_tide_36 rfl ?_
      refine gst_85 dX0_tide_37 rfl hx H ?_
      refine w_ifN_le dX0_tide_40 rfl (by decide) (fun h_40 => ?_) (fun h_40 => ?_)
      · exact absurd (show _ from h_40) (by decide)
      refine w_iconst (v := (-1)) dX0_tide_43 ki_m1 ?_
      exact w_iret dX0_tide_44 rfl ⟨by first | (rw [p_tide, if_pos (by omega)]; done) | (rw [p_tide, if_pos (by omega)]; rfl) | (rw [p_tide, if_neg (by omega), if_pos (by omega)]; rfl) | (rw [p_tide, if_neg (by omega), if_neg (by omega)]; rfl), _, by first | (rw [p_tide, v_tide, if_pos (show vs V 6 = 99 by omega), if_pos (show vs V 6 = 99 by omega)]; exact ChX.no E) | (rw [p_tide, v_tide, if_neg (show ¬ vs V 6 = 99 by omega), if_neg (show ¬ vs V 6 = 99 by omega), if_pos (show vs V 7 = 0 by omega), if_pos (show vs V 7 = 0 by omega)]; exact ChX.no E) | (rw [p_tide, v_tide, if_neg (show ¬ vs V 6 = 99 by omega), if_neg (show ¬ vs V 6 = 99 by omega), if_neg (show ¬ vs V 7 = 0 by omega), if_neg (show ¬ vs V 7 = 0 by omega)]; exact ⟨_, E, hS49⟩), H, F⟩
  · refine w_iconst (v := nI 4) dX0_tide_13 ki_4 ?_
    refine w_goto dX0_tide_14 rfl ?_
    refine pX0_85 (C := C) dX0_tide_33 rfl hx H F ?_
    intro σ H F
    have E := EncD.stH H E
    refine w_aload_n dX0_tide_36 rfl ?_
    refine gst_85 dX0_tide_37 rfl hx H ?_
    refine w_ifN_le dX0_tide_40 rfl (by decide) (fun h_40 => ?_) (fun h_40 => ?_)
    · exact absurd (show _ from h_40) (by decide)
    refine w_iconst (v := (-1)) dX0_tide_43 ki_m1 ?_
    exact w_iret dX0_tide_44 rfl ⟨by first | (rw [p_tide, if_pos (by omega)]; done) | (rw [p_tide, if_pos (by omega)]; rfl) | (rw [p_tide, if_neg (by omega), if_pos (by omega)]; rfl) | (rw [p_tide, if_neg (by omega), if_neg (by omega)]; rfl), _, by first | (rw [p_tide, v_tide, if_pos (show vs V 6 = 99 by omega), if_pos (show vs V 6 = 99 by omega)]; exact ChX.no E) | (rw [p_tide, v_tide, if_neg (show ¬ vs V 6 = 99 by omega), if_neg (show ¬ vs V 6 = 99 by omega), if_pos (show vs V 7 = 0 by omega), if_pos (show vs V 7 = 0 by omega)]; exact ChX.no E) | (rw [p_tide, v_tide, if_neg (show ¬ vs V 6 = 99 by omega), if_neg (show ¬ vs V 6 = 99 by omega), if_neg (show ¬ vs V 7 = 0 by omega), if_neg (show ¬ vs V 7 = 0 by omega)]; exact ⟨_, E, hS49⟩), H, F⟩
set_option maxHeartbeats 4000000 in
theorem kX0_dawn {g : GG} {C : CS} {V : VS} {q : Nat → Nat} (hx : oO C 0 = true) (h0 : oO C 0 = true) (E : EncD g C 0 V q) (K : OkV V) : Cp g miX0_dawn 2 (0) (0) [.ref (od C 0 30)] C (some (.int ((p_dawn V).1))) (fun C2 => ChX g C C2 (v_dawn V) (p_dawn V).2) := by
  refine Cp.start [some (.ref (od C 0 30))] plX0 rfl (Nat.le_of_ble_eq_true rfl) rfl ?_
  intro σ0 σ H F
  have kb := K.b
  refine w_aload_n dX0_dawn_0 rfl ?_
  refine w_aload_n dX0_dawn_1 rfl ?_
  refine cr_call (mi := miX0_day) dX0_dawn_2 q886 okX0_day clX0 rfl (H.get (ce_X hx)) (Nat.le_of_ble_eq_true rfl) (kX0_day (C := C) hx h0) H rfl rfl (Nat.le_of_ble_eq_true rfl) ?_
  refine gX0_256 (C := C) dX0_dawn_5 rfl h0 H ?_
  refine w_topN (E.th) ?_
  refine w_ifN_eq dX0_dawn_8 rfl (by omega) (fun h_8 => ?_) (fun h_8 => ?_)
  · refine w_iconst (v := nI 0) dX0_dawn_16 ki_0 ?_
    refine pX0_85 (C := C) dX0_dawn_17 rfl hx H F ?_
    intro σ H F
    have E := EncD.stH H E
    refine w_aload_n dX0_dawn_20 rfl ?_
    refine gst_85 dX0_dawn_21 rfl hx H ?_
    refine w_ifN_le dX0_dawn_24 rfl (by decide) (fun h_24 => ?_) (fun h_24 => ?_)
    rotate_left
    · exact absurd (show _ from h_24) (by decide)
    refine w_aload_n dX0_dawn_29 rfl ?_
    refine cr_call (mi := miX0_day) dX0_dawn_30 q886 okX0_day clX0 rfl (H.get (ce_X hx)) (Nat.le_of_ble_eq_true rfl) (kX0_day (C := uI (C) 0 30 7 _) hx h0) H rfl rfl (Nat.le_of_ble_eq_true rfl) ?_
    refine cp_call (mi := miX5_dawn) dX0_dawn_33 q1171 okX5_dawn clX5 rfl (H.get (ce_day h0)) (Nat.le_of_ble_eq_true rfl) (kX5_dawn (C := uI (C) 0 30 7 _) h0 E K) H F rfl rfl (Nat.le_of_ble_eq_true rfl) ?_
    intro σ C33 hC33 H F
    obtain ⟨E, hS33⟩ := hC33
    rw [show od C 0 30 = od C33 0 30 from (hS33.1 0 30 (by omega) (by omega)).symm]
    have hx : oO C33 0 = true := by rw [hS33.on]; exact hx
    have h0 : oO C33 0 = true := by rw [hS33.on]; exact h0
    refine w_aload_n dX0_dawn_36 rfl ?_
    refine cr_call (mi := miX0_beach_2) dX0_dawn_37 q934 okX0_beach_2 clX0 rfl (H.get (ce_X hx)) (Nat.le_of_ble_eq_true rfl) (kX0_beach (C := C33) hx h0) H rfl rfl (Nat.le_of_ble_eq_true rfl) ?_
    refine gX0_177 (C := C33) dX0_dawn_40 rfl E H ?_
    exact w_iret dX0_dawn_43 rfl ⟨by first | (rw [p_dawn, if_pos (by omega)]; rfl) | (rw [p_dawn, if_neg (by omega)]; rfl), _, by first | (rw [p_dawn, v_dawn, if_neg (by omega), if_neg (by omega)]; exact ChX.no E) | (rw [p_dawn, v_dawn, if_pos (by omega), if_pos (by omega)]; exact ⟨_, E, hS33⟩), H, F⟩
  · refine w_bipush (v := nI 7) dX0_dawn_11 kb_7 ?_
    refine w_goto dX0_dawn_13 rfl ?_
    refine pX0_85 (C := C) dX0_dawn_17 rfl hx H F ?_
    intro σ H F
    have E := EncD.stH H E
    refine w_aload_n dX0_dawn_20 rfl ?_
    refine gst_85 dX0_dawn_21 rfl hx H ?_
    refine w_ifN_le dX0_dawn_24 rfl (by decide) (fun h_24 => ?_) (fun h_24 => ?_)
    · exact absurd (show _ from h_24) (by decide)
    refine w_iconst (v := (-1)) dX0_dawn_27 ki_m1 ?_
    exact w_iret dX0_dawn_28 rfl ⟨by first | (rw [p_dawn, if_pos (by omega)]; rfl) | (rw [p_dawn, if_neg (by omega)]; rfl), _, by first | (rw [p_dawn, v_dawn, if_neg (by omega), if_neg (by omega)]; exact ChX.no E) | (rw [p_dawn, v_dawn, if_pos (by omega), if_pos (by omega)]; exact ⟨_, E, hS33⟩), H, F⟩
