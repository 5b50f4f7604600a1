set_option maxRecDepth 100000
set_option maxHeartbeats 4000000 in
theorem kX0_richest {g : GG} {C : CS} {V : VS} {q : Nat → Nat} (hx : oO C 0 = true) (h0 : oO C 0 = true) (E : EncD g C 0 V q) (K : OkV V) : Cp g miX0_richest 2 (0) (0) [.ref (od C 0 30)] C (some (.int ((q_richest V).1))) (fun C2 => C2 = uI C 0 30 7 (q_richest V).2) := by
  refine Cp.start [some (.ref (od C 0 30)), none, none] plX0 rfl (Nat.le_of_ble_eq_true rfl) rfl ?_
  intro σ0 σ H F
  have kb := K.b
  refine w_iconst (v := (-1)) dX0_richest_0 ki_m1 ?_
  refine w_istore_n dX0_richest_1 rfl (Nat.le_of_ble_eq_true rfl) ls_3_1 ?_
  refine w_iconst (v := nI 0) dX0_richest_2 ki_0 ?_
  refine w_istore_n dX0_richest_3 rfl (Nat.le_of_ble_eq_true rfl) ls_3_2 ?_
  have lp : ∀ (j9 : Nat) (k : Nat) (c : Nat), vs V 2 - k < j9 → k ≤ vs V 2 → richK V k = c → c ≤ k → Wp g (mtC g miX0_richest 2 (0) (0) σ0 (some (.int ((q_richest V).1))) (fun C2 => C2 = uI C 0 30 7 (q_richest V).2)) 0 0 4 [some (.ref (od C 0 30)), some (.int (nI c - nI 1)), some (.int (nI k))] [] σ := by
    intro j9
    induction j9 with
    | zero => intro k c hmu hk hc hck; exact absurd hmu (Nat.not_lt_zero _)
    | succ j9 ih_lp =>
      intro k c hmu hk hc hck
      refine w_iload_n dX0_richest_4 rfl ?_
      refine w_aload_n dX0_richest_5 rfl ?_
      refine cr_call (mi := miX0_beach_2) dX0_richest_6 q934 okX0_beach_2 clX0 rfl (H.get (ce_X hx)) (Nat.le_of_ble_eq_true rfl) (kX0_beach (C := C) hx h0) H rfl rfl (Nat.le_of_ble_eq_true rfl) ?_
      refine gX0_177 (C := C) dX0_richest_9 rfl E H ?_
      refine w_icmpN_ge dX0_richest_12 rfl (by omega) (by omega) (fun h_12 => ?_) (fun h_12 => ?_)
      · obtain rfl : k = vs V 2 := by omega
        refine w_aload_n dX0_richest_59 rfl ?_
        refine w_iload_n dX0_richest_60 rfl ?_
        refine cp_call (mi := miX0_answer) dX0_richest_61 q1199 okX0_answer clX0 rfl (H.get (ce_X hx)) (Nat.le_of_ble_eq_true rfl) (kX0_answerO (C := C) hx (by first | assumption | omega)) H F rfl rfl (Nat.le_of_ble_eq_true rfl) ?_
        rintro σ _ rfl H F
        have E := EncD.stH H E
        exact w_iret dX0_richest_64 rfl ⟨by first | rfl | (rw [← hc]; rfl), _, by first | rfl | (rw [← hc]; rfl), H, F⟩
      · refine w_aload_n dX0_richest_15 rfl ?_
        refine cr_call (mi := miX0_day) dX0_richest_16 q886 okX0_day clX0 rfl (H.get (ce_X hx)) (Nat.le_of_ble_eq_true rfl) (kX0_day (C := C) hx h0) H rfl rfl (Nat.le_of_ble_eq_true rfl) ?_
        refine w_iload_n dX0_richest_19 rfl ?_
        refine cr_call (mi := miX5_isThere) dX0_richest_20 q1183 okX5_isThere clX5 rfl (H.get (ce_day h0)) (Nat.le_of_ble_eq_true rfl) (kX5_isThere (C := C) h0 E K (by first | assumption | omega)) H rfl rfl (Nat.le_of_ble_eq_true rfl) ?_
        refine w_ifB_eq dX0_richest_23 rfl (fun h_23 => ?_) (fun h_23 => ?_)
        · refine w_iinc dX0_richest_53 rfl (nI_inc _ 1) rfl (Nat.le_of_ble_eq_true rfl) ls_3_2 ?_
          refine w_goto dX0_richest_56 rfl ?_
          exact ih_lp (k + 1) c (by omega) (by omega) (by rw [richK, foldN_s, ← richK, hc, if_neg (fun z => h_23 z.1)]) (by omega)
        · refine w_iload_n dX0_richest_26 rfl ?_
          refine w_if_lt dX0_richest_27 rfl (fun h_27 => ?_) (fun h_27 => ?_)
          · have h_27 : c = 0 := (dn_lt (by omega)).mp h_27
            refine w_iload_n dX0_richest_51 rfl ?_
            refine w_istore_n dX0_richest_52 rfl (Nat.le_of_ble_eq_true rfl) ls_3_1 ?_
            refine w_iinc dX0_richest_53 rfl (nI_inc _ 1) rfl (Nat.le_of_ble_eq_true rfl) ls_3_2 ?_
            refine w_goto dX0_richest_56 rfl ?_
            exact w_as (ih_lp (k + 1) (k + 1) (by omega) (by omega) (by rw [richK, foldN_s, ← richK, hc, if_pos ⟨h_23, Or.inl h_27⟩]) (by omega)) (by rw [nI_dn]) rfl rfl
          · obtain ⟨i, rfl⟩ : ∃ i, c = i + 1 := ⟨c - 1, by have := mt (dn_lt (j := c) (by omega)).mpr h_27; omega⟩
            rw [nI_dn]
            refine w_aload_n dX0_richest_30 rfl ?_
            refine cr_call (mi := miX0_beach_2) dX0_richest_31 q934 okX0_beach_2 clX0 rfl (H.get (ce_X hx)) (Nat.le_of_ble_eq_true rfl) (kX0_beach (C := C) hx h0) H rfl rfl (Nat.le_of_ble_eq_true rfl) ?_
            refine gX0_285 (C := C) dX0_richest_34 rfl E H ?_
            refine w_iload_n dX0_richest_37 rfl ?_
            refine ba_13 (C := C) dX0_richest_38 E K (by omega) H ?_
            refine w_aload_n dX0_richest_39 rfl ?_
            refine cr_call (mi := miX0_beach_2) dX0_richest_40 q934 okX0_beach_2 clX0 rfl (H.get (ce_X hx)) (Nat.le_of_ble_eq_true rfl) (kX0_beach (C := C) hx h0) H rfl rfl (Nat.le_of_ble_eq_true rfl) ?_
            refine gX0_285 (C := C) dX0_richest_43 rfl E H ?_
            refine w_iload_n dX0_richest_46 rfl ?_
            refine ba_13 (C := C) dX0_richest_47 E K (by omega) H ?_
            have hkd1 := K.d (d := k) (by omega)
            have hkd2 := K.d (d := i) (by omega)
            refine w_icmpN_le dX0_richest_48 rfl (by omega) (by omega) (fun h_48 => ?_) (fun h_48 => ?_)
            · refine w_iinc dX0_richest_53 rfl (nI_inc _ 1) rfl (Nat.le_of_ble_eq_true rfl) ls_3_2 ?_
              refine w_goto dX0_richest_56 rfl ?_
              exact w_as (ih_lp (k + 1) (i + 1) (by omega) (by omega) (by rw [richK, foldN_s, ← richK, hc, if_neg (fun z => by have := z.2; simp only [Nat.add_sub_cancel] at this; omega)]) (by omega)) (by rw [nI_dn]) rfl rfl
            · refine w_iload_n dX0_richest_51 rfl ?_
              refine w_istore_n dX0_richest_52 rfl (Nat.le_of_ble_eq_true rfl) ls_3_1 ?_
              refine w_iinc dX0_richest_53 rfl (nI_inc _ 1) rfl (Nat.le_of_ble_eq_true rfl) ls_3_2 ?_
              refine w_goto dX0_richest_56 rfl ?_
              exact w_as (ih_lp (k + 1) (k + 1) (by omega) (by omega) (by rw [richK, foldN_s, ← richK, hc, if_pos ⟨h_23, Or.inr (by simp only [Nat.add_sub_cancel]; omega)⟩]) (by omega)) (by rw [nI_dn]) rfl rfl
  exact lp (vs V 2 + 1) 0 0 (by omega) (by omega) rfl (by omega)
set_option maxHeartbeats 4000000 in
theorem kX0_left {g : GG} {C : CS} {V : VS} {q : Nat → Nat} {x : Int32} (hx : oO C 0 = true) (h0 : oO C 0 = true) (E : EncD g C 0 V q) (K : OkV V) : Cp g miX0_left 4 (0) (0) [.ref (od C 0 30), .int x] C (some (.int ((q_left V x).1))) (fun C2 => C2 = uI C 0 30 7 (q_left V x).2) := by
  refine Cp.start [some (.ref (od C 0 30)), some (.int x), none] plX0 rfl (Nat.le_of_ble_eq_true rfl) rfl ?_
  intro σ0 σ H F
  have kb := K.b
  have hwl := wfV_le V x
  refine w_aload_n dX0_left_0 rfl ?_
  refine w_aload_n dX0_left_1 rfl ?_
  refine w_iload_n dX0_left_2 rfl ?_
  refine cr_call (mi := miX0_whyGone) dX0_left_3 q1179 okX0_whyGone clX0 rfl (H.get (ce_X hx)) (Nat.le_of_ble_eq_true rfl) (kX0_whyGone (C := C) hx h0 E K) H rfl rfl (Nat.le_of_ble_eq_true rfl) ?_
  refine pX0_85 (C := C) dX0_left_6 rfl hx H F ?_
  intro σ H F
  have E := EncD.stH H E
  refine w_aload_n dX0_left_9 rfl ?_
  refine gst_85 dX0_left_10 rfl hx H ?_
  refine w_ifN_le dX0_left_13 rfl (by omega) (fun h_13 => ?_) (fun h_13 => ?_)
  · obtain ⟨hx_d, hth⟩ := wfV_0 (V := V) (x := x) (by omega)
    obtain ⟨d, hf_d, rfl⟩ := inN_of hx_d (by omega)
    have hcl_d : cl (nI d) = d := nI_clamp (by omega)
    have kf_d := K.d hf_d
    have kn_d := K.n (d := d) (by omega)
    rw [hcl_d] at hth
    have hw0 : wfV V (nI d) = 0 := by omega
    rw [hw0] at H E
    refine w_aload_n dX0_left_18 rfl ?_
    refine cr_call (mi := miX0_day) dX0_left_19 q886 okX0_day clX0 rfl (H.get (ce_X hx)) (Nat.le_of_ble_eq_true rfl) (kX0_day (C := uI (C) 0 30 7 _) hx h0) H rfl rfl (Nat.le_of_ble_eq_true rfl) ?_
    refine gX0_288 (C := uI (C) 0 30 7 _) dX0_left_22 rfl h0 H ?_
    refine w_iload_n dX0_left_25 rfl ?_
    refine ga_heaps (C := uI (C) 0 30 7 _) dX0_left_26 h0 (by omega) H ?_
    refine w_astore_n dX0_left_27 rfl (Nat.le_of_ble_eq_true rfl) ls_3_2 ?_
    refine w_aload_n dX0_left_28 rfl ?_
    refine w_aload_n dX0_left_29 rfl ?_
    refine gX0_292 (C := uI (C) 0 30 7 _) dX0_left_30 rfl (on8 h0 (by omega)) H ?_
    refine w_topN (E.h (d := d) (by omega)).sz ?_
    refine w_ifN_ne dX0_left_33 rfl (by omega) (fun h_33 => ?_) (fun h_33 => ?_)
    · have hp := (K.p (d := d) (by omega) (k := vt V 7 d - 1) (by omega)).2
      have hwx : wlV V (nI d) = 0 := by rw [wlV, if_neg (by omega), hcl_d, if_neg (by omega)]
      refine w_iconst (v := nI 0) dX0_left_40 ki_0 ?_
      refine w_aload_n dX0_left_41 rfl ?_
      refine cr_call (mi := miX0_day) dX0_left_42 q886 okX0_day clX0 rfl (H.get (ce_X hx)) (Nat.le_of_ble_eq_true rfl) (kX0_day (C := uI (C) 0 30 7 _) hx h0) H rfl rfl (Nat.le_of_ble_eq_true rfl) ?_
      refine gX0_245 (C := uI (C) 0 30 7 _) dX0_left_45 rfl h0 H ?_
      refine w_topN (E.ti) ?_
      refine w_aload_n dX0_left_48 rfl ?_
      refine gX0_300 (C := uI (C) 0 30 7 _) dX0_left_49 rfl (on8 h0 (by omega)) H ?_
      refine w_aload_n dX0_left_52 rfl ?_
      refine gX0_292 (C := uI (C) 0 30 7 _) dX0_left_53 rfl (on8 h0 (by omega)) H ?_
      refine w_topN (E.h (d := d) (by omega)).sz ?_
      refine w_iconst (v := nI 1) dX0_left_56 ki_1 ?_
      refine w_isubN dX0_left_57 (by omega) ?_
      refine ha_7 (C := uI (C) 0 30 7 _) dX0_left_58 (on8 h0 (by omega)) (E.h (d := d) (by omega)) (by omega) H ?_
      refine w_isubN dX0_left_59 (by omega) ?_
      refine w_mmax dX0_left_60 q1309 q1165 q155 q1166 (Nat.le_of_ble_eq_true rfl) (Nat.le_of_ble_eq_true rfl) ?_
      refine w_topN (max_n (by omega) (by omega)) ?_
      refine w_topN (n := leftV V d) (by rw [Nat.zero_max]; rfl) ?_
      have hle : leftV V d ≤ 240 := by unfold leftV; omega
      refine cp_call (mi := miX0_answer) dX0_left_63 q1199 okX0_answer clX0 rfl (H.get (ce_X hx)) (Nat.le_of_ble_eq_true rfl) (kX0_answerN (C := uI (C) 0 30 7 _) hx (by first | assumption | omega)) H F rfl rfl (Nat.le_of_ble_eq_true rfl) ?_
      rintro σ _ rfl H F
      rw [uI_I] at H
      have E := EncD.stH H E
      exact w_iret dX0_left_66 rfl ⟨by first | (rw [q_left, hwx, if_neg (by omega)]; rfl) | (rw [q_left, hwx, if_pos rfl, hcl_d]; rfl), _, by first | (rw [q_left, hwx, if_neg (by omega)]; rfl) | (rw [q_left, hwx, if_pos rfl]; rfl), H, F⟩
    · have hwx : wlV V (nI d) = 6 := by rw [wlV, if_neg (by omega), hcl_d, if_pos (by omega)]
      refine w_iconst (v := (-1)) dX0_left_36 ki_m1 ?_
      refine w_goto dX0_left_37 rfl ?_
      refine cp_call (mi := miX0_answer) dX0_left_63 q1199 okX0_answer clX0 rfl (H.get (ce_X hx)) (Nat.le_of_ble_eq_true rfl) (kX0_answerM (C := uI (C) 0 30 7 _) hx) H F rfl rfl (Nat.le_of_ble_eq_true rfl) ?_
      rintro σ _ rfl H F
      rw [uI_I] at H
      have E := EncD.stH H E
      exact w_iret dX0_left_66 rfl ⟨by first | (rw [q_left, hwx, if_neg (by omega)]; rfl) | (rw [q_left, hwx, if_pos rfl, hcl_d]; rfl), _, by first | (rw [q_left, hwx, if_neg (by omega)]; rfl) | (rw [q_left, hwx, if_pos rfl]; rfl), H, F⟩
  · have hwx : wlV V x = wfV V x := if_pos (by omega)
    refine w_iconst (v := (-1)) dX0_left_16 ki_m1 ?_
    exact w_iret dX0_left_17 rfl ⟨by first | (rw [q_left, hwx, if_neg (by omega)]; rfl) | (rw [q_left, hwx, if_pos rfl, hcl_d]; rfl), _, by first | (rw [q_left, hwx, if_neg (by omega)]; rfl) | (rw [q_left, hwx, if_pos rfl]; rfl), H, F⟩
set_option maxHeartbeats 4000000 in
theorem kX0_tideIn {g : GG} {C : CS} {V : VS} {q : Nat → Nat} {x : Int32} (hx : oO C 0 = true) (h0 : oO C 0 = true) (E : EncD g C 0 V q) (K : OkV V) : Cp g miX0_tideIn 2 (0) (0) [.ref (od C 0 30), .int x] C (some (.int ((q_tideIn V x).1))) (fun C2 => C2 = uI C 0 30 7 (q_tideIn V x).2) := by
  refine Cp.start [some (.ref (od C 0 30)), some (.int x)] plX0 rfl (Nat.le_of_ble_eq_true rfl) rfl ?_
  intro σ0 σ H F
  have kb := K.b
  refine w_aload_n dX0_tideIn_0 rfl ?_
  refine w_iload_n dX0_tideIn_1 rfl ?_
  refine w_i2l dX0_tideIn_2 rfl ?_
  refine w_lconst (v := 0) dX0_tideIn_3 rfl ?_
  refine w_ldc2 dX0_tideIn_4 q1352 ?_
  refine cs_call (mi := miX0_isIn) dX0_tideIn_7 q1016 okX0_isIn (Nat.le_of_ble_eq_true rfl) (kX0_isIn0 (m := 99) (by first | assumption | omega)) rfl rfl (Nat.le_of_ble_eq_true rfl) ?_
  refine w_ifB_eq dX0_tideIn_10 rfl (fun h_10 => ?_) (fun h_10 => ?_)
  · refine w_iconst (v := nI 1) dX0_tideIn_17 ki_1 ?_
    refine pX0_85 (C := C) dX0_tideIn_18 rfl hx H F ?_
    intro σ H F
    have E := EncD.stH H E
    refine w_aload_n dX0_tideIn_21 rfl ?_
    refine gst_85 dX0_tideIn_22 rfl hx H ?_
    refine w_ifN_le dX0_tideIn_25 rfl (by decide) (fun h_25 => ?_) (fun h_25 => ?_)
    · exact absurd (show _ from h_25) (by decide)
    refine w_iconst (v := (-1)) dX0_tideIn_28 ki_m1 ?_
    refine w_goto dX0_tideIn_29 rfl ?_
    exact w_iret dX0_tideIn_53 rfl ⟨by first | rfl | (unfold q_tideIn; (try simp only [hcl_k]); (repeat' split) <;> first | rfl | contradiction | omega | (exfalso; simp_all; done)), _, by first | rfl | (unfold q_tideIn; (try simp only [hcl_k]); (repeat' split) <;> first | rfl | contradiction | omega | (exfalso; simp_all; done)), H, F⟩
  · have hx_k := h_10
    obtain ⟨k, hf_k, rfl⟩ := inN_of h_10 (by omega)
    have hcl_k : cl (nI k) = k := nI_clamp (by omega)
    have hm : k * vs V 4 ≤ 99 * 60 := Nat.mul_le_mul (by omega) (by omega)
    refine w_iconst (v := nI 0) dX0_tideIn_13 ki_0 ?_
    refine w_goto dX0_tideIn_14 rfl ?_
    refine pX0_85 (C := C) dX0_tideIn_18 rfl hx H F ?_
    intro σ H F
    have E := EncD.stH H E
    refine w_aload_n dX0_tideIn_21 rfl ?_
    refine gst_85 dX0_tideIn_22 rfl hx H ?_
    refine w_ifN_le dX0_tideIn_25 rfl (by decide) (fun h_25 => ?_) (fun h_25 => ?_)
    rotate_left
    · exact absurd (show _ from h_25) (by decide)
    refine w_iconst (v := nI 1) dX0_tideIn_32 ki_1 ?_
    refine w_aload_n dX0_tideIn_33 rfl ?_
    refine cr_call (mi := miX0_day) dX0_tideIn_34 q886 okX0_day clX0 rfl (H.get (ce_X hx)) (Nat.le_of_ble_eq_true rfl) (kX0_day (C := uI (C) 0 30 7 _) hx h0) H rfl rfl (Nat.le_of_ble_eq_true rfl) ?_
    refine gX0_245 (C := uI (C) 0 30 7 _) dX0_tideIn_37 rfl h0 H ?_
    refine w_topN (E.ti) ?_
    refine w_iload_n dX0_tideIn_40 rfl ?_
    refine w_aload_n dX0_tideIn_41 rfl ?_
    refine cr_call (mi := miX0_beach_2) dX0_tideIn_42 q934 okX0_beach_2 clX0 rfl (H.get (ce_X hx)) (Nat.le_of_ble_eq_true rfl) (kX0_beach (C := uI (C) 0 30 7 _) hx h0) H rfl rfl (Nat.le_of_ble_eq_true rfl) ?_
    refine gX0_248 (C := uI (C) 0 30 7 _) dX0_tideIn_45 rfl E H ?_
    refine w_imulN dX0_tideIn_48 ?_
    refine w_isub dX0_tideIn_49 ?_
    refine w_mmax dX0_tideIn_50 q1309 q1165 q155 q1166 (Nat.le_of_ble_eq_true rfl) (Nat.le_of_ble_eq_true rfl) ?_
    refine w_topN (max_sub (by omega) (by omega)) ?_
    exact w_iret dX0_tideIn_53 rfl ⟨by first | rfl | (unfold q_tideIn; (try simp only [hcl_k]); (repeat' split) <;> first | rfl | contradiction | omega | (exfalso; simp_all; done)), _, by first | rfl | (unfold q_tideIn; (try simp only [hcl_k]); (repeat' split) <;> first | rfl | contradiction | omega | (exfalso; simp_all; done)), H, F⟩
set_option maxHeartbeats 4000000 in
theorem kX0_open {g : GG} {C : CS} {V : VS} {q : Nat → Nat} (hx : oO C 0 = true) (h0 : oO C 0 = true) (E : EncD g C 0 V q) (K : OkV V) : Cp g miX0_open 4 (0) (0) [.ref (od C 0 30)] C (some (.int ((q_open V).1))) (fun C2 => C2 = uI C 0 30 7 (q_open V).2) := by
  refine Cp.start [some (.ref (od C 0 30)), none, none] plX0 rfl (Nat.le_of_ble_eq_true rfl) rfl ?_
  intro σ0 σ H F
  have kb := K.b
  refine w_aload_n dX0_open_0 rfl ?_
  refine w_iconst (v := nI 0) dX0_open_1 ki_0 ?_
  refine pX0_85 (C := C) dX0_open_2 rfl hx H F ?_
  intro σ H F
  have E := EncD.stH H E
  refine w_iconst (v := nI 0) dX0_open_5 ki_0 ?_
  refine w_istore_n dX0_open_6 rfl (Nat.le_of_ble_eq_true rfl) ls_3_1 ?_
  refine w_iconst (v := nI 0) dX0_open_7 ki_0 ?_
  refine w_istore_n dX0_open_8 rfl (Nat.le_of_ble_eq_true rfl) ls_3_2 ?_
  have lp : ∀ (j9 : Nat) (k : Nat), vs V 2 - k < j9 → k ≤ vs V 2 → Wp g (mtC g miX0_open 4 (0) (0) σ0 (some (.int ((q_open V).1))) (fun C2 => C2 = uI C 0 30 7 (q_open V).2)) 0 0 9 [some (.ref (od C 0 30)), some (.int (nI (foldN (fun d n => n + if isT V d ∧ ownersV V d = 0 then vt V 6 d else 0) 0 k))), some (.int (nI k))] [] σ := by
    intro j9
    induction j9 with
    | zero => intro k hmu hk_k; exact absurd hmu (Nat.not_lt_zero _)
    | succ j9 ih_lp =>
      intro k hmu hk_k
      refine w_iload_n dX0_open_9 rfl ?_
      refine w_aload_n dX0_open_10 rfl ?_
      refine cr_call (mi := miX0_beach_2) dX0_open_11 q934 okX0_beach_2 clX0 rfl (H.get (ce_X hx)) (Nat.le_of_ble_eq_true rfl) (kX0_beach (C := uI (C) 0 30 7 _) hx h0) H rfl rfl (Nat.le_of_ble_eq_true rfl) ?_
      refine gX0_177 (C := uI (C) 0 30 7 _) dX0_open_14 rfl E H ?_
      refine w_icmpN_ge dX0_open_17 rfl (by omega) (by omega) (fun h_17 => ?_) (fun h_17 => ?_)
      · obtain rfl : k = vs V 2 := by omega
        refine w_iload_n dX0_open_64 rfl ?_
        exact w_iret dX0_open_65 rfl ⟨by first | rfl | (unfold q_open; (repeat' split) <;> first | rfl | contradiction | omega | (exfalso; simp_all; done)), _, by first | rfl | (unfold q_open; (repeat' split) <;> first | rfl | contradiction | omega | (exfalso; simp_all; done)), H, F⟩
      · refine w_iload_n dX0_open_20 rfl ?_
        refine w_aload_n dX0_open_21 rfl ?_
        refine cr_call (mi := miX0_day) dX0_open_22 q886 okX0_day clX0 rfl (H.get (ce_X hx)) (Nat.le_of_ble_eq_true rfl) (kX0_day (C := uI (C) 0 30 7 _) hx h0) H rfl rfl (Nat.le_of_ble_eq_true rfl) ?_
        refine w_iload_n dX0_open_25 rfl ?_
        refine cr_call (mi := miX5_isThere) dX0_open_26 q1183 okX5_isThere clX5 rfl (H.get (ce_day h0)) (Nat.le_of_ble_eq_true rfl) (kX5_isThere (C := uI (C) 0 30 7 _) h0 E K (by first | assumption | omega)) H rfl rfl (Nat.le_of_ble_eq_true rfl) ?_
        refine w_ifB_eq dX0_open_29 rfl (fun h_29 => ?_) (fun h_29 => ?_)
        · refine w_iconst (v := nI 0) dX0_open_55 ki_0 ?_
          refine w_iaddN dX0_open_56 ?_
          refine w_istore_n dX0_open_57 rfl (Nat.le_of_ble_eq_true rfl) ls_3_1 ?_
          refine w_iinc dX0_open_58 rfl (nI_inc _ 1) rfl (Nat.le_of_ble_eq_true rfl) ls_3_2 ?_
          refine w_goto dX0_open_61 rfl ?_
          exact w_as (ih_lp (k + 1) (by omega) (by omega)) (by simp only [foldN_s]; (try split) <;> first | rfl | (exfalso; first | contradiction | omega | (simp_all; done))) rfl rfl
        · refine w_aload_n dX0_open_32 rfl ?_
          refine cr_call (mi := miX0_day) dX0_open_33 q886 okX0_day clX0 rfl (H.get (ce_X hx)) (Nat.le_of_ble_eq_true rfl) (kX0_day (C := uI (C) 0 30 7 _) hx h0) H rfl rfl (Nat.le_of_ble_eq_true rfl) ?_
          refine w_iload_n dX0_open_36 rfl ?_
          refine cr_call (mi := miX5_whose) dX0_open_37 q1189 okX5_whose clX5 rfl (H.get (ce_day h0)) (Nat.le_of_ble_eq_true rfl) (kX5_whose (C := uI (C) 0 30 7 _) h0 E K (by first | assumption | omega)) H rfl rfl (Nat.le_of_ble_eq_true rfl) ?_
          have hol := ownersV_lt K (d := k) (by omega)
          refine w_ifN_ne dX0_open_40 rfl (by omega) (fun h_40 => ?_) (fun h_40 => ?_)
          · refine w_iconst (v := nI 0) dX0_open_55 ki_0 ?_
            refine w_iaddN dX0_open_56 ?_
            refine w_istore_n dX0_open_57 rfl (Nat.le_of_ble_eq_true rfl) ls_3_1 ?_
            refine w_iinc dX0_open_58 rfl (nI_inc _ 1) rfl (Nat.le_of_ble_eq_true rfl) ls_3_2 ?_
            refine w_goto dX0_open_61 rfl ?_
            exact w_as (ih_lp (k + 1) (by omega) (by omega)) (by simp only [foldN_s]; (try split) <;> first | rfl | (exfalso; first | contradiction | omega | (simp_all; done))) rfl rfl
          · refine w_aload_n dX0_open_43 rfl ?_
            refine cr_call (mi := miX0_beach_2) dX0_open_44 q934 okX0_beach_2 clX0 rfl (H.get (ce_X hx)) (Nat.le_of_ble_eq_true rfl) (kX0_beach (C := uI (C) 0 30 7 _) hx h0) H rfl rfl (Nat.le_of_ble_eq_true rfl) ?_
            refine gX0_285 (C := uI (C) 0 30 7 _) dX0_open_47 rfl E H ?_
            refine w_iload_n dX0_open_50 rfl ?_
            refine ba_13 (C := uI (C) 0 30 7 _) dX0_open_51 E K (by omega) H ?_
            refine w_goto dX0_open_52 rfl ?_
            refine w_iaddN dX0_open_56 ?_
            refine w_istore_n dX0_open_57 rfl (Nat.le_of_ble_eq_true rfl) ls_3_1 ?_
            refine w_iinc dX0_open_58 rfl (nI_inc _ 1) rfl (Nat.le_of_ble_eq_true rfl) ls_3_2 ?_
            refine w_goto dX0_open_61 rfl ?_
            exact w_as (ih_lp (k + 1) (by omega) (by omega)) (by simp only [foldN_s]; (try split) <;> first | rfl | (exfalso; first | contradiction | omega | (simp_all; done))) rfl rfl
  exact lp (vs V 2 + 1) 0 (by omega) (by omega)
set_option maxHeartbeats 4000000 in
theorem kX0_minutesTo {g : GG} {C : CS} {V : VS} {q : Nat → Nat} {f : Nat} {d : Nat} (hx : oO C 0 = true) (h0 : oO C 0 = true) (E : EncD g C 0 V q) (K : OkV V) (hf : f < vs V 1) (hd : d < vs V 2) : Cr g miX0_minutesTo 2 [.ref (od C 0 30), .int (nI f), .int (nI d)] C (some (.int (nI (stepsV V f (vt V 5 d))))) := by
  refine Cr.start [some (.ref (od C 0 30)), some (.int (nI f)), some (.int (nI d))] plX0 rfl (Nat.le_of_ble_eq_true rfl) rfl ?_
  intro σ H
  have kb := K.b
  have kf_f := K.f hf
  have kd_d := K.d hd
  have kn_d := K.n (d := d) (by omega)
  refine w_aload_n dX0_minutesTo_0 rfl ?_
  refine cr_call (mi := miX0_day) dX0_minutesTo_1 q886 okX0_day clX0 rfl (H.get (ce_X hx)) (Nat.le_of_ble_eq_true rfl) (kX0_day (C := C) hx h0) H rfl rfl (Nat.le_of_ble_eq_true rfl) ?_
  refine w_iload_n dX0_minutesTo_4 rfl ?_
  refine w_aload_n dX0_minutesTo_5 rfl ?_
  refine cr_call (mi := miX0_beach_2) dX0_minutesTo_6 q934 okX0_beach_2 clX0 rfl (H.get (ce_X hx)) (Nat.le_of_ble_eq_true rfl) (kX0_beach (C := C) hx h0) H rfl rfl (Nat.le_of_ble_eq_true rfl) ?_
  refine gX0_282 (C := C) dX0_minutesTo_9 rfl E H ?_
  refine w_iload_n dX0_minutesTo_12 rfl ?_
  refine ba_12 (C := C) dX0_minutesTo_13 E K (by omega) H ?_
  refine cr_call (mi := miX5_arrives) dX0_minutesTo_14 q1228 okX5_arrives clX5 rfl (H.get (ce_day h0)) (Nat.le_of_ble_eq_true rfl) (kX5_arrives (C := C) h0 E K (by first | assumption | omega) (by omega)) H rfl rfl (Nat.le_of_ble_eq_true rfl) ?_
  refine w_aload_n dX0_minutesTo_17 rfl ?_
  refine cr_call (mi := miX0_day) dX0_minutesTo_18 q886 okX0_day clX0 rfl (H.get (ce_X hx)) (Nat.le_of_ble_eq_true rfl) (kX0_day (C := C) hx h0) H rfl rfl (Nat.le_of_ble_eq_true rfl) ?_
  refine gX0_274 (C := C) dX0_minutesTo_21 rfl h0 H ?_
  refine w_iload_n dX0_minutesTo_24 rfl ?_
  refine da_13 (C := C) dX0_minutesTo_25 h0 E (by omega) H ?_
  have hst := stepsV_le K (f := f) (c := vt V 5 d) hf (by omega)
  refine w_isubN dX0_minutesTo_26 (by omega) ?_
  refine w_topN (n := stepsV V f (vt V 5 d)) (congrArg nI (by omega)) ?_
  exact w_iret dX0_minutesTo_27 rfl ⟨by rfl, rfl⟩
set_option maxHeartbeats 4000000 in
theorem kX0_farthest {g : GG} {C : CS} {V : VS} {q : Nat → Nat} {x : Int32} (hx : oO C 0 = true) (h0 : oO C 0 = true) (E : EncD g C 0 V q) (K : OkV V) : Cp g miX0_farthest 3 (0) (0) [.ref (od C 0 30), .int x] C (some (.int ((q_farthest V x).1))) (fun C2 => C2 = uI C 0 30 7 (q_farthest V x).2) := by
  refine Cp.start [some (.ref (od C 0 30)), some (.int x), none, none] plX0 rfl (Nat.le_of_ble_eq_true rfl) rfl ?_
  intro σ0 σ H F
  have kb := K.b
  refine w_aload_n dX0_farthest_0 rfl ?_
  refine w_aload_n dX0_farthest_1 rfl ?_
  refine w_iload_n dX0_farthest_2 rfl ?_
  refine cr_call (mi := miX0_isFinder) dX0_farthest_3 q1027 okX0_isFinder clX0 rfl (H.get (ce_X hx)) (Nat.le_of_ble_eq_true rfl) (kX0_isFinder (C := C) hx h0 E K) H rfl rfl (Nat.le_of_ble_eq_true rfl) ?_
  refine w_ifB_eq dX0_farthest_6 rfl (fun h_6 => ?_) (fun h_6 => ?_)
  · refine w_iconst (v := nI 1) dX0_farthest_13 ki_1 ?_
    refine pX0_85 (C := C) dX0_farthest_14 rfl hx H F ?_
    intro σ H F
    have E := EncD.stH H E
    refine w_aload_n dX0_farthest_17 rfl ?_
    refine gst_85 dX0_farthest_18 rfl hx H ?_
    refine w_ifN_le dX0_farthest_21 rfl (by decide) (fun h_21 => ?_) (fun h_21 => ?_)
    · exact absurd (show _ from h_21) (by decide)
    refine w_iconst (v := (-1)) dX0_farthest_24 ki_m1 ?_
    exact w_iret dX0_farthest_25 rfl ⟨by first | (rw [q_farthest, if_neg h_6]; rfl) | (rw [q_farthest, if_pos hx_f, hcl_f, hc]; done) | (rw [q_farthest, if_pos hx_f, hcl_f, hc]; rfl), _, by first | (rw [q_farthest, if_neg h_6]; rfl) | (rw [q_farthest, if_pos hx_f, hcl_f, hc]; done) | (rw [q_farthest, if_pos hx_f, hcl_f, hc]; rfl), H, F⟩
  · have hx_f := h_6
    obtain ⟨f, hf_f, rfl⟩ := inN_of h_6 (by omega)
    have hcl_f : cl (nI f) = f := nI_clamp (by omega)
    have kf_f := K.f hf_f
    refine w_iconst (v := nI 0) dX0_farthest_9 ki_0 ?_
    refine w_goto dX0_farthest_10 rfl ?_
    refine pX0_85 (C := C) dX0_farthest_14 rfl hx H F ?_
    intro σ H F
    have E := EncD.stH H E
    refine w_aload_n dX0_farthest_17 rfl ?_
    refine gst_85 dX0_farthest_18 rfl hx H ?_
    refine w_ifN_le dX0_farthest_21 rfl (by decide) (fun h_21 => ?_) (fun h_21 => ?_)
    rotate_left
    · exact absurd (show _ from h_21) (by decide)
    refine w_iconst (v := (-1)) dX0_farthest_26 ki_m1 ?_
    refine w_istore_n dX0_farthest_27 rfl (Nat.le_of_ble_eq_true rfl) ls_4_2 ?_
    refine w_iconst (v := nI 0) dX0_farthest_28 ki_0 ?_
    refine w_istore_n dX0_farthest_29 rfl (Nat.le_of_ble_eq_true rfl) ls_4_3 ?_
    have lp : ∀ (j9 : Nat) (k : Nat) (c : Nat), vs V 2 - k < j9 → k ≤ vs V 2 → farK V f k = c → c ≤ k → Wp g (mtC g miX0_farthest 3 (0) (0) σ0 (some (.int ((q_farthest V (nI f)).1))) (fun C2 => C2 = uI C 0 30 7 (q_farthest V (nI f)).2)) 0 0 30 [some (.ref (od C 0 30)), some (.int (nI f)), some (.int (nI c - nI 1)), some (.int (nI k))] [] σ := by
      intro j9
      induction j9 with
      | zero => intro k c hmu hk hc hck; exact absurd hmu (Nat.not_lt_zero _)
      | succ j9 ih_lp =>
        intro k c hmu hk hc hck
        refine w_iload_n dX0_farthest_30 rfl ?_
        refine w_aload_n dX0_farthest_31 rfl ?_
        refine cr_call (mi := miX0_beach_2) dX0_farthest_32 q934 okX0_beach_2 clX0 rfl (H.get (ce_X hx)) (Nat.le_of_ble_eq_true rfl) (kX0_beach (C := uI (C) 0 30 7 _) hx h0) H rfl rfl (Nat.le_of_ble_eq_true rfl) ?_
        refine gX0_177 (C := uI (C) 0 30 7 _) dX0_farthest_35 rfl E H ?_
        refine w_icmpN_ge dX0_farthest_38 rfl (by omega) (by omega) (fun h_38 => ?_) (fun h_38 => ?_)
        · obtain rfl : k = vs V 2 := by omega
          refine w_aload_n dX0_farthest_79 rfl ?_
          refine w_iload_n dX0_farthest_80 rfl ?_
          refine cp_call (mi := miX0_answer) dX0_farthest_81 q1199 okX0_answer clX0 rfl (H.get (ce_X hx)) (Nat.le_of_ble_eq_true rfl) (kX0_answerO (C := uI (C) 0 30 7 _) hx (by first | assumption | omega)) H F rfl rfl (Nat.le_of_ble_eq_true rfl) ?_
          rintro σ _ rfl H F
          rw [uI_I] at H
          have E := EncD.stH H E
          exact w_iret dX0_farthest_84 rfl ⟨by first | (rw [q_farthest, if_neg h_6]; rfl) | (rw [q_farthest, if_pos hx_f, hcl_f, hc]; done) | (rw [q_farthest, if_pos hx_f, hcl_f, hc]; rfl), _, by first | (rw [q_farthest, if_neg h_6]; rfl) | (rw [q_farthest, if_pos hx_f, hcl_f, hc]; done) | (rw [q_farthest, if_pos hx_f, hcl_f, hc]; rfl), H, F⟩
        · refine w_aload_n dX0_farthest_41 rfl ?_
          refine cr_call (mi := miX0_day) dX0_farthest_42 q886 okX0_day clX0 rfl (H.get (ce_X hx)) (Nat.le_of_ble_eq_true rfl) (kX0_day (C := uI (C) 0 30 7 _) hx h0) H rfl rfl (Nat.le_of_ble_eq_true rfl) ?_
          refine w_iload_n dX0_farthest_45 rfl ?_
          refine cr_call (mi := miX5_isThere) dX0_farthest_46 q1183 okX5_isThere clX5 rfl (H.get (ce_day h0)) (Nat.le_of_ble_eq_true rfl) (kX5_isThere (C := uI (C) 0 30 7 _) h0 E K (by first | assumption | omega)) H rfl rfl (Nat.le_of_ble_eq_true rfl) ?_
          refine w_ifB_eq dX0_farthest_49 rfl (fun h_49 => ?_) (fun h_49 => ?_)
          · refine w_iinc dX0_farthest_73 rfl (nI_inc _ 1) rfl (Nat.le_of_ble_eq_true rfl) ls_4_3 ?_
            refine w_goto dX0_farthest_76 rfl ?_
            exact ih_lp (k + 1) c (by omega) (by omega) (by rw [farK, foldN_s, ← farK, hc, if_neg (fun z => h_49 z.1)]) (by omega)
          · refine w_iload_n dX0_farthest_52 rfl ?_
            refine w_if_lt dX0_farthest_53 rfl (fun h_53 => ?_) (fun h_53 => ?_)
            · have h_53 : c = 0 := (dn_lt (by omega)).mp h_53
              refine w_iload_n dX0_farthest_71 rfl ?_
              refine w_istore_n dX0_farthest_72 rfl (Nat.le_of_ble_eq_true rfl) ls_4_2 ?_
              refine w_iinc dX0_farthest_73 rfl (nI_inc _ 1) rfl (Nat.le_of_ble_eq_true rfl) ls_4_3 ?_
              refine w_goto dX0_farthest_76 rfl ?_
              exact w_as (ih_lp (k + 1) (k + 1) (by omega) (by omega) (by rw [farK, foldN_s, ← farK, hc, if_pos ⟨h_49, Or.inl h_53⟩]) (by omega)) (by rw [nI_dn]) rfl rfl
            · obtain ⟨i, rfl⟩ : ∃ i, c = i + 1 := ⟨c - 1, by have := mt (dn_lt (j := c) (by omega)).mpr h_53; omega⟩
              rw [nI_dn]
              refine w_aload_n dX0_farthest_56 rfl ?_
              refine w_iload_n dX0_farthest_57 rfl ?_
              refine w_iload_n dX0_farthest_58 rfl ?_
              refine cr_call (mi := miX0_minutesTo) dX0_farthest_59 q1361 okX0_minutesTo clX0 rfl (H.get (ce_X hx)) (Nat.le_of_ble_eq_true rfl) (kX0_minutesTo (C := uI (C) 0 30 7 _) hx h0 E K (by first | assumption | omega) (by first | assumption | omega)) H rfl rfl (Nat.le_of_ble_eq_true rfl) ?_
              refine w_aload_n dX0_farthest_62 rfl ?_
              refine w_iload_n dX0_farthest_63 rfl ?_
              refine w_iload_n dX0_farthest_64 rfl ?_
              refine cr_call (mi := miX0_minutesTo) dX0_farthest_65 q1361 okX0_minutesTo clX0 rfl (H.get (ce_X hx)) (Nat.le_of_ble_eq_true rfl) (kX0_minutesTo (C := uI (C) 0 30 7 _) hx h0 E K (by first | assumption | omega) (by first | assumption | omega)) H rfl rfl (Nat.le_of_ble_eq_true rfl) ?_
              have hs1 := stepsV_le K (f := f) (c := vt V 5 k) hf_f (by have := K.d (d := k) (by omega); omega)
              have hs2 := stepsV_le K (f := f) (c := vt V 5 i) hf_f (by have := K.d (d := i) (by omega); omega)
              refine w_icmpN_le dX0_farthest_68 rfl (by omega) (by omega) (fun h_68 => ?_) (fun h_68 => ?_)
              · refine w_iinc dX0_farthest_73 rfl (nI_inc _ 1) rfl (Nat.le_of_ble_eq_true rfl) ls_4_3 ?_
                refine w_goto dX0_farthest_76 rfl ?_
                exact w_as (ih_lp (k + 1) (i + 1) (by omega) (by omega) (by rw [farK, foldN_s, ← farK, hc, if_neg (fun z => by have := z.2; simp only [Nat.add_sub_cancel] at this; omega)]) (by omega)) (by rw [nI_dn]) rfl rfl
              · refine w_iload_n dX0_farthest_71 rfl ?_
                refine w_istore_n dX0_farthest_72 rfl (Nat.le_of_ble_eq_true rfl) ls_4_2 ?_
                refine w_iinc dX0_farthest_73 rfl (nI_inc _ 1) rfl (Nat.le_of_ble_eq_true rfl) ls_4_3 ?_
                refine w_goto dX0_farthest_76 rfl ?_
                exact w_as (ih_lp (k + 1) (k + 1) (by omega) (by omega) (by rw [farK, foldN_s, ← farK, hc, if_pos ⟨h_49, Or.inr (by simp only [Nat.add_sub_cancel]; omega)⟩]) (by omega)) (by rw [nI_dn]) rfl rfl
    exact lp (vs V 2 + 1) 0 0 (by omega) (by omega) rfl (by omega)
set_option maxHeartbeats 4000000 in
theorem kX0_time {g : GG} {C : CS} {V : VS} {q : Nat → Nat} {x : Int32} (hx : oO C 0 = true) (h0 : oO C 0 = true) (E : EncD g C 0 V q) (K : OkV V) : Cp g miX0_time 3 (0) (0) [.ref (od C 0 30), .int x] C (some (.int ((q_time V x).1))) (fun C2 => C2 = uI C 0 30 7 (q_time V x).2) := by
  refine Cp.start [some (.ref (od C 0 30)), some (.int x)] plX0 rfl (Nat.le_of_ble_eq_true rfl) rfl ?_
  intro σ0 σ H F
  have kb := K.b
  refine w_aload_n dX0_time_0 rfl ?_
  refine w_aload_n dX0_time_1 rfl ?_
  refine w_iload_n dX0_time_2 rfl ?_
  refine cr_call (mi := miX0_isFinder) dX0_time_3 q1027 okX0_isFinder clX0 rfl (H.get (ce_X hx)) (Nat.le_of_ble_eq_true rfl) (kX0_isFinder (C := C) hx h0 E K) H rfl rfl (Nat.le_of_ble_eq_true rfl) ?_
  refine w_ifB_eq dX0_time_6 rfl (fun h_6 => ?_) (fun h_6 => ?_)
  · refine w_iconst (v := nI 1) dX0_time_13 ki_1 ?_
    refine pX0_85 (C := C) dX0_time_14 rfl hx H F ?_
    intro σ H F
    have E := EncD.stH H E
    refine w_aload_n dX0_time_17 rfl ?_
    refine gst_85 dX0_time_18 rfl hx H ?_
    refine w_ifN_le dX0_time_21 rfl (by decide) (fun h_21 => ?_) (fun h_21 => ?_)
    · exact absurd (show _ from h_21) (by decide)
    refine w_iconst (v := (-1)) dX0_time_24 ki_m1 ?_
    refine w_goto dX0_time_25 rfl ?_
    exact w_iret dX0_time_45 rfl ⟨by first | rfl | (unfold q_time; (try simp only [hcl_f]); (repeat' split) <;> first | rfl | contradiction | omega | (exfalso; simp_all; done)), _, by first | rfl | (unfold q_time; (try simp only [hcl_f]); (repeat' split) <;> first | rfl | contradiction | omega | (exfalso; simp_all; done)), H, F⟩
  · have hx_f := h_6
    obtain ⟨f, hf_f, rfl⟩ := inN_of h_6 (by omega)
    have hcl_f : cl (nI f) = f := nI_clamp (by omega)
    have kf_f := K.f hf_f
    refine w_iconst (v := nI 0) dX0_time_9 ki_0 ?_
    refine w_goto dX0_time_10 rfl ?_
    refine pX0_85 (C := C) dX0_time_14 rfl hx H F ?_
    intro σ H F
    have E := EncD.stH H E
    refine w_aload_n dX0_time_17 rfl ?_
    refine gst_85 dX0_time_18 rfl hx H ?_
    refine w_ifN_le dX0_time_21 rfl (by decide) (fun h_21 => ?_) (fun h_21 => ?_)
    rotate_left
    · exact absurd (show _ from h_21) (by decide)
    refine w_aload_n dX0_time_28 rfl ?_
    refine cr_call (mi := miX0_day) dX0_time_29 q886 okX0_day clX0 rfl (H.get (ce_X hx)) (Nat.le_of_ble_eq_true rfl) (kX0_day (C := uI (C) 0 30 7 _) hx h0) H rfl rfl (Nat.le_of_ble_eq_true rfl) ?_
    refine gX0_245 (C := uI (C) 0 30 7 _) dX0_time_32 rfl h0 H ?_
    refine w_topN (E.ti) ?_
    refine w_aload_n dX0_time_35 rfl ?_
    refine cr_call (mi := miX0_day) dX0_time_36 q886 okX0_day clX0 rfl (H.get (ce_X hx)) (Nat.le_of_ble_eq_true rfl) (kX0_day (C := uI (C) 0 30 7 _) hx h0) H rfl rfl (Nat.le_of_ble_eq_true rfl) ?_
    refine gX0_274 (C := uI (C) 0 30 7 _) dX0_time_39 rfl h0 H ?_
    refine w_iload_n dX0_time_42 rfl ?_
    refine da_13 (C := uI (C) 0 30 7 _) dX0_time_43 h0 E (by omega) H ?_
    refine w_isubN dX0_time_44 (by omega) ?_
    exact w_iret dX0_time_45 rfl ⟨by first | rfl | (unfold q_time; (try simp only [hcl_f]); (repeat' split) <;> first | rfl | contradiction | omega | (exfalso; simp_all; done)), _, by first | rfl | (unfold q_time; (try simp only [hcl_f]); (repeat' split) <;> first | rfl | contradiction | omega | (exfalso; simp_all; done)), H, F⟩
set_option maxHeartbeats 4000000 in
theorem kX0_tally {g : GG} {C : CS} {V : VS} {q : Nat → Nat} {x : Int32} {y : Int32} (hx : oO C 0 = true) (h0 : oO C 0 = true) (E : EncD g C 0 V q) (K : OkV V) : Cp g miX0_tally 4 (0) (0) [.ref (od C 0 30), .int x, .int y] C (some (.int ((q_tally V x y).1))) (fun C2 => C2 = uI C 0 30 7 (q_tally V x y).2) := by
  refine Cp.start [some (.ref (od C 0 30)), some (.int x), some (.int y)] plX0 rfl (Nat.le_of_ble_eq_true rfl) rfl ?_
  intro σ0 σ H F
  have kb := K.b
  refine w_aload_n dX0_tally_0 rfl ?_
  refine w_aload_n dX0_tally_1 rfl ?_
  refine w_iload_n dX0_tally_2 rfl ?_
  refine w_iload_n dX0_tally_3 rfl ?_
  refine cr_call (mi := miX0_areThere) dX0_tally_4 q1073 okX0_areThere clX0 rfl (H.get (ce_X hx)) (Nat.le_of_ble_eq_true rfl) (kX0_areThere (C := C) hx h0 E K) H rfl rfl (Nat.le_of_ble_eq_true rfl) ?_
  refine w_ifB_eq dX0_tally_7 rfl (fun h_7 => ?_) (fun h_7 => ?_)
  · refine w_iconst (v := nI 1) dX0_tally_14 ki_1 ?_
    refine pX0_85 (C := C) dX0_tally_15 rfl hx H F ?_
    intro σ H F
    have E := EncD.stH H E
    refine w_aload_n dX0_tally_18 rfl ?_
    refine gst_85 dX0_tally_19 rfl hx H ?_
    refine w_ifN_le dX0_tally_22 rfl (by decide) (fun h_22 => ?_) (fun h_22 => ?_)
    · exact absurd (show _ from h_22) (by decide)
    refine w_iconst (v := (-1)) dX0_tally_25 ki_m1 ?_
    refine w_goto dX0_tally_26 rfl ?_
    exact w_iret dX0_tally_42 rfl ⟨by first | (rw [q_tally, if_neg (fun z => h_7 ⟨z.2, z.1⟩)]; rfl) | (rw [q_tally, if_pos ⟨hx_d, hx_f⟩, hcl_d, hcl_f]; rfl), _, by first | (rw [q_tally, if_neg (fun z => h_7 ⟨z.2, z.1⟩)]; rfl) | (rw [q_tally, if_pos ⟨hx_d, hx_f⟩]; rfl), H, F⟩
  · have hx_d := h_7.2
    have hx_f := h_7.1
    obtain ⟨f, hf_f, rfl⟩ := inN_of hx_f (by omega)
    have hcl_f : cl (nI f) = f := nI_clamp (by omega)
    obtain ⟨d, hf_d, rfl⟩ := inN_of hx_d (by omega)
    have hcl_d : cl (nI d) = d := nI_clamp (by omega)
    have kn_d := K.n (d := d) (by omega)
    refine w_iconst (v := nI 0) dX0_tally_10 ki_0 ?_
    refine w_goto dX0_tally_11 rfl ?_
    refine pX0_85 (C := C) dX0_tally_15 rfl hx H F ?_
    intro σ H F
    have E := EncD.stH H E
    refine w_aload_n dX0_tally_18 rfl ?_
    refine gst_85 dX0_tally_19 rfl hx H ?_
    refine w_ifN_le dX0_tally_22 rfl (by decide) (fun h_22 => ?_) (fun h_22 => ?_)
    rotate_left
    · exact absurd (show _ from h_22) (by decide)
    refine w_aload_n dX0_tally_29 rfl ?_
    refine cr_call (mi := miX0_day) dX0_tally_30 q886 okX0_day clX0 rfl (H.get (ce_X hx)) (Nat.le_of_ble_eq_true rfl) (kX0_day (C := uI (C) 0 30 7 _) hx h0) H rfl rfl (Nat.le_of_ble_eq_true rfl) ?_
    refine gX0_288 (C := uI (C) 0 30 7 _) dX0_tally_33 rfl h0 H ?_
    refine w_iload_n dX0_tally_36 rfl ?_
    refine ga_heaps (C := uI (C) 0 30 7 _) dX0_tally_37 h0 (by omega) H ?_
    refine w_iload_n dX0_tally_38 rfl ?_
    refine cr_call (mi := miX7_many) dX0_tally_39 q1216 okX7_many clX7 rfl (H.get (ce_heap (on8 h0 (by omega)))) (Nat.le_of_ble_eq_true rfl) (kX7_many (C := uI (C) 0 30 7 _) (on8 h0 (by omega)) (E.h (d := d) (by omega)) (by intro k9 hk9; have h9 := (K.p (d := d) (by omega) hk9).1; omega) (by first | assumption | omega)) H rfl rfl (Nat.le_of_ble_eq_true rfl) ?_
    exact w_iret dX0_tally_42 rfl ⟨by first | (rw [q_tally, if_neg (fun z => h_7 ⟨z.2, z.1⟩)]; rfl) | (rw [q_tally, if_pos ⟨hx_d, hx_f⟩, hcl_d, hcl_f]; rfl), _, by first | (rw [q_tally, if_neg (fun z => h_7 ⟨z.2, z.1⟩)]; rfl) | (rw [q_tally, if_pos ⟨hx_d, hx_f⟩]; rfl), H, F⟩
set_option maxHeartbeats 4000000 in
theorem kX0_strewnOf {g : GG} {C : CS} {V : VS} {q : Nat → Nat} {f : Nat} (hx : oO C 0 = true) (h0 : oO C 0 = true) (E : EncD g C 0 V q) (K : OkV V) (hf6 : f < 6) : Cr g miX0_strewnOf 2 [.ref (od C 0 30), .int (nI f)] C (some (.int (nI (strewnV V f)))) := by
  refine Cr.start [some (.ref (od C 0 30)), some (.int (nI f)), none, none] plX0 rfl (Nat.le_of_ble_eq_true rfl) rfl ?_
  intro σ H
  have kb := K.b
  refine w_iconst (v := nI 0) dX0_strewnOf_0 ki_0 ?_
  refine w_istore_n dX0_strewnOf_1 rfl (Nat.le_of_ble_eq_true rfl) ls_4_2 ?_
  refine w_iconst (v := nI 0) dX0_strewnOf_2 ki_0 ?_
  refine w_istore_n dX0_strewnOf_3 rfl (Nat.le_of_ble_eq_true rfl) ls_4_3 ?_
  have lp : ∀ (j9 : Nat) (k : Nat), vs V 2 - k < j9 → k ≤ vs V 2 → Wp g (mtR g miX0_strewnOf 2 σ (some (.int (nI (strewnV V f))))) 0 0 4 [some (.ref (od C 0 30)), some (.int (nI f)), some (.int (nI (foldN (fun d n => n + ownV V d f) 0 k))), some (.int (nI k))] [] σ := by
    intro j9
    induction j9 with
    | zero => intro k hmu hk_k; exact absurd hmu (Nat.not_lt_zero _)
    | succ j9 ih_lp =>
      intro k hmu hk_k
      refine w_iload_n dX0_strewnOf_4 rfl ?_
      refine w_aload_n dX0_strewnOf_5 rfl ?_
      refine cr_call (mi := miX0_beach_2) dX0_strewnOf_6 q934 okX0_beach_2 clX0 rfl (H.get (ce_X hx)) (Nat.le_of_ble_eq_true rfl) (kX0_beach (C := C) hx h0) H rfl rfl (Nat.le_of_ble_eq_true rfl) ?_
      refine gX0_177 (C := C) dX0_strewnOf_9 rfl E H ?_
      refine w_icmpN_ge dX0_strewnOf_12 rfl (by omega) (by omega) (fun h_12 => ?_) (fun h_12 => ?_)
      · obtain rfl : k = vs V 2 := by omega
        refine w_iload_n dX0_strewnOf_37 rfl ?_
        exact w_iret dX0_strewnOf_38 rfl ⟨by rfl, rfl⟩
      · refine w_iload_n dX0_strewnOf_15 rfl ?_
        refine w_aload_n dX0_strewnOf_16 rfl ?_
        refine cr_call (mi := miX0_day) dX0_strewnOf_17 q886 okX0_day clX0 rfl (H.get (ce_X hx)) (Nat.le_of_ble_eq_true rfl) (kX0_day (C := C) hx h0) H rfl rfl (Nat.le_of_ble_eq_true rfl) ?_
        refine gX0_288 (C := C) dX0_strewnOf_20 rfl h0 H ?_
        refine w_iload_n dX0_strewnOf_23 rfl ?_
        refine ga_heaps (C := C) dX0_strewnOf_24 h0 (by omega) H ?_
        refine w_iload_n dX0_strewnOf_25 rfl ?_
        refine cr_call (mi := miX7_many) dX0_strewnOf_26 q1216 okX7_many clX7 rfl (H.get (ce_heap (on8 h0 (by omega)))) (Nat.le_of_ble_eq_true rfl) (kX7_many (C := C) (on8 h0 (by omega)) (E.h (d := k) (by omega)) (by intro k9 hk9; have h9 := (K.p (d := k) (by omega) hk9).1; omega) (by first | assumption | omega)) H rfl rfl (Nat.le_of_ble_eq_true rfl) ?_
        refine w_iaddN dX0_strewnOf_29 ?_
        refine w_istore_n dX0_strewnOf_30 rfl (Nat.le_of_ble_eq_true rfl) ls_4_2 ?_
        refine w_iinc dX0_strewnOf_31 rfl (nI_inc _ 1) rfl (Nat.le_of_ble_eq_true rfl) ls_4_3 ?_
        refine w_goto dX0_strewnOf_34 rfl ?_
        exact w_as (ih_lp (k + 1) (by omega) (by omega)) (by rw [foldN_s]; rfl) rfl rfl
  exact lp (vs V 2 + 1) 0 (by omega) (by omega)
theorem strewnV_le {V : VS} (K : OkV V) (f : Nat) : strewnV V f ≤ 8 * 60 := by
  have h := sum_le (f := fun d => ownV V d f) (m := 60) (vs V 2) (fun d hd => ownV_le K (by have := K.b; omega) f)
  have := K.b
  have h2 : vs V 2 * 60 ≤ 8 * 60 := Nat.mul_le_mul_right 60 (by omega)
  exact Nat.le_trans h h2
set_option maxHeartbeats 4000000 in
theorem kX0_busiest {g : GG} {C : CS} {V : VS} {q : Nat → Nat} (hx : oO C 0 = true) (h0 : oO C 0 = true) (E : EncD g C 0 V q) (K : OkV V) : Cp g miX0_busiest 3 (0) (0) [.ref (od C 0 30)] C (some (.int ((q_busiest V).1))) (fun C2 => C2 = uI C 0 30 7 (q_busiest V).2) := by
  refine Cp.start [some (.ref (od C 0 30)), none, none] plX0 rfl (Nat.le_of_ble_eq_true rfl) rfl ?_
  intro σ0 σ H F
  have kb := K.b
  refine w_iconst (v := (-1)) dX0_busiest_0 ki_m1 ?_
  refine w_istore_n dX0_busiest_1 rfl (Nat.le_of_ble_eq_true rfl) ls_3_1 ?_
  refine w_iconst (v := nI 0) dX0_busiest_2 ki_0 ?_
  refine w_istore_n dX0_busiest_3 rfl (Nat.le_of_ble_eq_true rfl) ls_3_2 ?_
  have lp : ∀ (j9 : Nat) (k : Nat) (c : Nat), vs V 1 - k < j9 → k ≤ vs V 1 → busyK V k = c → c ≤ k → Wp g (mtC g miX0_busiest 3 (0) (0) σ0 (some (.int ((q_busiest V).1))) (fun C2 => C2 = uI C 0 30 7 (q_busiest V).2)) 0 0 4 [some (.ref (od C 0 30)), some (.int (nI c - nI 1)), some (.int (nI k))] [] σ := by
    intro j9
    induction j9 with
    | zero => intro k c hmu hk hc hck; exact absurd hmu (Nat.not_lt_zero _)
    | succ j9 ih_lp =>
      intro k c hmu hk hc hck
      refine w_iload_n dX0_busiest_4 rfl ?_
      refine w_aload_n dX0_busiest_5 rfl ?_
      refine cr_call (mi := miX0_beach_2) dX0_busiest_6 q934 okX0_beach_2 clX0 rfl (H.get (ce_X hx)) (Nat.le_of_ble_eq_true rfl) (kX0_beach (C := C) hx h0) H rfl rfl (Nat.le_of_ble_eq_true rfl) ?_
      refine gX0_168 (C := C) dX0_busiest_9 rfl E H ?_
      refine w_icmpN_ge dX0_busiest_12 rfl (by omega) (by omega) (fun h_12 => ?_) (fun h_12 => ?_)
      · obtain rfl : k = vs V 1 := by omega
        refine w_aload_n dX0_busiest_40 rfl ?_
        refine w_iload_n dX0_busiest_41 rfl ?_
        refine cp_call (mi := miX0_answer) dX0_busiest_42 q1199 okX0_answer clX0 rfl (H.get (ce_X hx)) (Nat.le_of_ble_eq_true rfl) (kX0_answerO (C := C) hx (by first | assumption | omega)) H F rfl rfl (Nat.le_of_ble_eq_true rfl) ?_
        rintro σ _ rfl H F
        have E := EncD.stH H E
        exact w_iret dX0_busiest_45 rfl ⟨by first | rfl | (rw [← hc]; rfl), _, by first | rfl | (rw [← hc]; rfl), H, F⟩
      · refine w_iload_n dX0_busiest_15 rfl ?_
        refine w_if_lt dX0_busiest_16 rfl (fun h_16 => ?_) (fun h_16 => ?_)
        · have h_16 : c = 0 := (dn_lt (by omega)).mp h_16
          refine w_iload_n dX0_busiest_32 rfl ?_
          refine w_istore_n dX0_busiest_33 rfl (Nat.le_of_ble_eq_true rfl) ls_3_1 ?_
          refine w_iinc dX0_busiest_34 rfl (nI_inc _ 1) rfl (Nat.le_of_ble_eq_true rfl) ls_3_2 ?_
          refine w_goto dX0_busiest_37 rfl ?_
          exact w_as (ih_lp (k + 1) (k + 1) (by omega) (by omega) (by rw [busyK, foldN_s, ← busyK, hc, if_pos (Or.inl h_16)]) (by omega)) (by rw [nI_dn]) rfl rfl
        · obtain ⟨i, rfl⟩ : ∃ i, c = i + 1 := ⟨c - 1, by have := mt (dn_lt (j := c) (by omega)).mpr h_16; omega⟩
          rw [nI_dn]
          refine w_aload_n dX0_busiest_19 rfl ?_
          refine w_iload_n dX0_busiest_20 rfl ?_
          refine cr_call (mi := miX0_strewnOf) dX0_busiest_21 q1377 okX0_strewnOf clX0 rfl (H.get (ce_X hx)) (Nat.le_of_ble_eq_true rfl) (kX0_strewnOf (C := C) hx h0 E K (by first | assumption | omega)) H rfl rfl (Nat.le_of_ble_eq_true rfl) ?_
          refine w_aload_n dX0_busiest_24 rfl ?_
          refine w_iload_n dX0_busiest_25 rfl ?_
          refine cr_call (mi := miX0_strewnOf) dX0_busiest_26 q1377 okX0_strewnOf clX0 rfl (H.get (ce_X hx)) (Nat.le_of_ble_eq_true rfl) (kX0_strewnOf (C := C) hx h0 E K (by first | assumption | omega)) H rfl rfl (Nat.le_of_ble_eq_true rfl) ?_
          have hs1 := strewnV_le K k
          have hs2 := strewnV_le K i
          refine w_icmpN_le dX0_busiest_29 rfl (by omega) (by omega) (fun h_29 => ?_) (fun h_29 => ?_)
          · refine w_iinc dX0_busiest_34 rfl (nI_inc _ 1) rfl (Nat.le_of_ble_eq_true rfl) ls_3_2 ?_
            refine w_goto dX0_busiest_37 rfl ?_
            exact w_as (ih_lp (k + 1) (i + 1) (by omega) (by omega) (by rw [busyK, foldN_s, ← busyK, hc, if_neg (fun z => by have := z; simp only [Nat.add_sub_cancel] at this; omega)]) (by omega)) (by rw [nI_dn]) rfl rfl
          · refine w_iload_n dX0_busiest_32 rfl ?_
            refine w_istore_n dX0_busiest_33 rfl (Nat.le_of_ble_eq_true rfl) ls_3_1 ?_
            refine w_iinc dX0_busiest_34 rfl (nI_inc _ 1) rfl (Nat.le_of_ble_eq_true rfl) ls_3_2 ?_
            refine w_goto dX0_busiest_37 rfl ?_
            exact w_as (ih_lp (k + 1) (k + 1) (by omega) (by omega) (by rw [busyK, foldN_s, ← busyK, hc, if_pos (Or.inr (by simp only [Nat.add_sub_cancel]; omega))]) (by omega)) (by rw [nI_dn]) rfl rfl
  exact lp (vs V 1 + 1) 0 0 (by omega) (by omega) rfl (by omega)
set_option maxHeartbeats 4000000 in
theorem kX0_both {g : GG} {C : CS} {V : VS} {q : Nat → Nat} {x : Int32} {y : Int32} {z : Int32} (hx : oO C 0 = true) (h0 : oO C 0 = true) (E : EncD g C 0 V q) (K : OkV V) : Cp g miX0_both 3 (0) (0) [.ref (od C 0 30), .int x, .int y, .int z] C (some (.int ((q_both V x y z).1))) (fun C2 => C2 = uI C 0 30 7 (q_both V x y z).2) := by
  refine Cp.start [some (.ref (od C 0 30)), some (.int x), some (.int y), some (.int z)] plX0 rfl (Nat.le_of_ble_eq_true rfl) rfl ?_
  intro σ0 σ H F
  have kb := K.b
  refine w_aload_n dX0_both_0 rfl ?_
  refine w_aload_n dX0_both_1 rfl ?_
  refine w_iload_n dX0_both_2 rfl ?_
  refine cr_call (mi := miX0_isFinder) dX0_both_3 q1027 okX0_isFinder clX0 rfl (H.get (ce_X hx)) (Nat.le_of_ble_eq_true rfl) (kX0_isFinder (C := C) hx h0 E K) H rfl rfl (Nat.le_of_ble_eq_true rfl) ?_
  refine w_ifB_eq dX0_both_6 rfl (fun h_6 => ?_) (fun h_6 => ?_)
  · refine w_iconst (v := nI 1) dX0_both_38 ki_1 ?_
    refine pX0_85 (C := C) dX0_both_39 rfl hx H F ?_
    intro σ H F
    have E := EncD.stH H E
    refine w_aload_n dX0_both_42 rfl ?_
    refine gst_85 dX0_both_43 rfl hx H ?_
    refine w_ifN_le dX0_both_46 rfl (by decide) (fun h_46 => ?_) (fun h_46 => ?_)
    · exact absurd (show _ from h_46) (by decide)
    refine w_iconst (v := (-1)) dX0_both_49 ki_m1 ?_
    refine w_goto dX0_both_50 rfl ?_
    exact w_iret dX0_both_66 rfl ⟨by first | (rw [q_both, if_neg (fun u => h_6 u.1)]; rfl) | (rw [q_both, if_neg (fun u => h_14 u.2.1)]; rfl) | (rw [q_both, if_neg (fun u => u.2.2.1 (by rw [hne]))]; rfl) | (rw [q_both, if_neg (fun u => h_31 u.2.2.2)]; rfl) | (rw [q_both, if_pos ⟨hx_f, hx_h, hne, hx_m⟩, hcl_f, hcl_h, hcl_m]; rfl), _, by first | (rw [q_both, if_neg (fun u => h_6 u.1)]; rfl) | (rw [q_both, if_neg (fun u => h_14 u.2.1)]; rfl) | (rw [q_both, if_neg (fun u => u.2.2.1 (by rw [hne]))]; rfl) | (rw [q_both, if_neg (fun u => h_31 u.2.2.2)]; rfl) | (rw [q_both, if_pos ⟨hx_f, hx_h, hne, hx_m⟩]; rfl), H, F⟩
  · have hx_f := h_6
    obtain ⟨f, hf_f, rfl⟩ := inN_of h_6 (by omega)
    have hcl_f : cl (nI f) = f := nI_clamp (by omega)
    have kf_f := K.f hf_f
    refine w_aload_n dX0_both_9 rfl ?_
    refine w_iload_n dX0_both_10 rfl ?_
    refine cr_call (mi := miX0_isFinder) dX0_both_11 q1027 okX0_isFinder clX0 rfl (H.get (ce_X hx)) (Nat.le_of_ble_eq_true rfl) (kX0_isFinder (C := C) hx h0 E K) H rfl rfl (Nat.le_of_ble_eq_true rfl) ?_
    refine w_ifB_eq dX0_both_14 rfl (fun h_14 => ?_) (fun h_14 => ?_)
    · refine w_iconst (v := nI 1) dX0_both_38 ki_1 ?_
      refine pX0_85 (C := C) dX0_both_39 rfl hx H F ?_
      intro σ H F
      have E := EncD.stH H E
      refine w_aload_n dX0_both_42 rfl ?_
      refine gst_85 dX0_both_43 rfl hx H ?_
      refine w_ifN_le dX0_both_46 rfl (by decide) (fun h_46 => ?_) (fun h_46 => ?_)
      · exact absurd (show _ from h_46) (by decide)
      refine w_iconst (v := (-1)) dX0_both_49 ki_m1 ?_
      refine w_goto dX0_both_50 rfl ?_
      exact w_iret dX0_both_66 rfl ⟨by first | (rw [q_both, if_neg (fun u => h_6 u.1)]; rfl) | (rw [q_both, if_neg (fun u => h_14 u.2.1)]; rfl) | (rw [q_both, if_neg (fun u => u.2.2.1 (by rw [hne]))]; rfl) | (rw [q_both, if_neg (fun u => h_31 u.2.2.2)]; rfl) | (rw [q_both, if_pos ⟨hx_f, hx_h, hne, hx_m⟩, hcl_f, hcl_h, hcl_m]; rfl), _, by first | (rw [q_both, if_neg (fun u => h_6 u.1)]; rfl) | (rw [q_both, if_neg (fun u => h_14 u.2.1)]; rfl) | (rw [q_both, if_neg (fun u => u.2.2.1 (by rw [hne]))]; rfl) | (rw [q_both, if_neg (fun u => h_31 u.2.2.2)]; rfl) | (rw [q_both, if_pos ⟨hx_f, hx_h, hne, hx_m⟩]; rfl), H, F⟩
    · have hx_h := h_14
      obtain ⟨h, hf_h, rfl⟩ := inN_of h_14 (by omega)
      have hcl_h : cl (nI h) = h := nI_clamp (by omega)
      have kf_h := K.f hf_h
      refine w_iload_n dX0_both_17 rfl ?_
      refine w_iload_n dX0_both_18 rfl ?_
      refine w_icmpN_eq dX0_both_19 rfl (by omega) (by omega) (fun h_19 => ?_) (fun h_19 => ?_)
      · have hne : f = h := h_19
        refine w_iconst (v := nI 1) dX0_both_38 ki_1 ?_
        refine pX0_85 (C := C) dX0_both_39 rfl hx H F ?_
        intro σ H F
        have E := EncD.stH H E
        refine w_aload_n dX0_both_42 rfl ?_
        refine gst_85 dX0_both_43 rfl hx H ?_
        refine w_ifN_le dX0_both_46 rfl (by decide) (fun h_46 => ?_) (fun h_46 => ?_)
        · exact absurd (show _ from h_46) (by decide)
        refine w_iconst (v := (-1)) dX0_both_49 ki_m1 ?_
        refine w_goto dX0_both_50 rfl ?_
        exact w_iret dX0_both_66 rfl ⟨by first | (rw [q_both, if_neg (fun u => h_6 u.1)]; rfl) | (rw [q_both, if_neg (fun u => h_14 u.2.1)]; rfl) | (rw [q_both, if_neg (fun u => u.2.2.1 (by rw [hne]))]; rfl) | (rw [q_both, if_neg (fun u => h_31 u.2.2.2)]; rfl) | (rw [q_both, if_pos ⟨hx_f, hx_h, hne, hx_m⟩, hcl_f, hcl_h, hcl_m]; rfl), _, by first | (rw [q_both, if_neg (fun u => h_6 u.1)]; rfl) | (rw [q_both, if_neg (fun u => h_14 u.2.1)]; rfl) | (rw [q_both, if_neg (fun u => u.2.2.1 (by rw [hne]))]; rfl) | (rw [q_both, if_neg (fun u => h_31 u.2.2.2)]; rfl) | (rw [q_both, if_pos ⟨hx_f, hx_h, hne, hx_m⟩]; rfl), H, F⟩
      · have hne : nI f ≠ nI h := fun z => h_19 ((nI_eq (by omega) (by omega)).mp z)
        refine w_iload_n dX0_both_22 rfl ?_
        refine w_i2l dX0_both_23 rfl ?_
        refine w_lconst (v := 0) dX0_both_24 rfl ?_
        refine w_ldc2 dX0_both_25 q1122 ?_
        refine cs_call (mi := miX0_isIn) dX0_both_28 q1016 okX0_isIn (Nat.le_of_ble_eq_true rfl) (kX0_isIn0 (m := 40) (by first | assumption | omega)) rfl rfl (Nat.le_of_ble_eq_true rfl) ?_
        refine w_ifB_eq dX0_both_31 rfl (fun h_31 => ?_) (fun h_31 => ?_)
        · refine w_iconst (v := nI 1) dX0_both_38 ki_1 ?_
          refine pX0_85 (C := C) dX0_both_39 rfl hx H F ?_
          intro σ H F
          have E := EncD.stH H E
          refine w_aload_n dX0_both_42 rfl ?_
          refine gst_85 dX0_both_43 rfl hx H ?_
          refine w_ifN_le dX0_both_46 rfl (by decide) (fun h_46 => ?_) (fun h_46 => ?_)
          · exact absurd (show _ from h_46) (by decide)
          refine w_iconst (v := (-1)) dX0_both_49 ki_m1 ?_
          refine w_goto dX0_both_50 rfl ?_
          exact w_iret dX0_both_66 rfl ⟨by first | (rw [q_both, if_neg (fun u => h_6 u.1)]; rfl) | (rw [q_both, if_neg (fun u => h_14 u.2.1)]; rfl) | (rw [q_both, if_neg (fun u => u.2.2.1 (by rw [hne]))]; rfl) | (rw [q_both, if_neg (fun u => h_31 u.2.2.2)]; rfl) | (rw [q_both, if_pos ⟨hx_f, hx_h, hne, hx_m⟩, hcl_f, hcl_h, hcl_m]; rfl), _, by first | (rw [q_both, if_neg (fun u => h_6 u.1)]; rfl) | (rw [q_both, if_neg (fun u => h_14 u.2.1)]; rfl) | (rw [q_both, if_neg (fun u => u.2.2.1 (by rw [hne]))]; rfl) | (rw [q_both, if_neg (fun u => h_31 u.2.2.2)]; rfl) | (rw [q_both, if_pos ⟨hx_f, hx_h, hne, hx_m⟩]; rfl), H, F⟩
        · have hx_m := h_31
          obtain ⟨m, hf_m, rfl⟩ := inN_of h_31 (by omega)
          have hcl_m : cl (nI m) = m := nI_clamp (by omega)
          refine w_iconst (v := nI 0) dX0_both_34 ki_0 ?_
          refine w_goto dX0_both_35 rfl ?_
          refine pX0_85 (C := C) dX0_both_39 rfl hx H F ?_
          intro σ H F
          have E := EncD.stH H E
          refine w_aload_n dX0_both_42 rfl ?_
          refine gst_85 dX0_both_43 rfl hx H ?_
          refine w_ifN_le dX0_both_46 rfl (by decide) (fun h_46 => ?_) (fun h_46 => ?_)
          rotate_left
          · exact absurd (show _ from h_46) (by decide)
          refine w_aload_n dX0_both_53 rfl ?_
          refine w_iload_n dX0_both_54 rfl ?_
          refine w_iload_n dX0_both_55 rfl ?_
          refine cr_call (mi := miX0_seenBy) dX0_both_56 q1266 okX0_seenBy clX0 rfl (H.get (ce_X hx)) (Nat.le_of_ble_eq_true rfl) (kX0_seenBy (C := uI (C) 0 30 7 _) hx h0 E K (by first | assumption | omega) (by first | assumption | omega)) H rfl rfl (Nat.le_of_ble_eq_true rfl) ?_
          refine w_aload_n dX0_both_59 rfl ?_
          refine w_iload_n dX0_both_60 rfl ?_
          refine w_iload_n dX0_both_61 rfl ?_
          refine cr_call (mi := miX0_seenBy) dX0_both_62 q1266 okX0_seenBy clX0 rfl (H.get (ce_X hx)) (Nat.le_of_ble_eq_true rfl) (kX0_seenBy (C := uI (C) 0 30 7 _) hx h0 E K (by first | assumption | omega) (by first | assumption | omega)) H rfl rfl (Nat.le_of_ble_eq_true rfl) ?_
          refine w_iandN dX0_both_65 ?_
          exact w_iret dX0_both_66 rfl ⟨by first | (rw [q_both, if_neg (fun u => h_6 u.1)]; rfl) | (rw [q_both, if_neg (fun u => h_14 u.2.1)]; rfl) | (rw [q_both, if_neg (fun u => u.2.2.1 (by rw [hne]))]; rfl) | (rw [q_both, if_neg (fun u => h_31 u.2.2.2)]; rfl) | (rw [q_both, if_pos ⟨hx_f, hx_h, hne, hx_m⟩, hcl_f, hcl_h, hcl_m]; rfl), _, by first | (rw [q_both, if_neg (fun u => h_6 u.1)]; rfl) | (rw [q_both, if_neg (fun u => h_14 u.2.1)]; rfl) | (rw [q_both, if_neg (fun u => u.2.2.1 (by rw [hne]))]; rfl) | (rw [q_both, if_neg (fun u => h_31 u.2.2.2)]; rfl) | (rw [q_both, if_pos ⟨hx_f, hx_h, hne, hx_m⟩]; rfl), H, F⟩
set_option maxHeartbeats 4000000 in
theorem kX0_latest {g : GG} {C : CS} {V : VS} {q : Nat → Nat} (hx : oO C 0 = true) (h0 : oO C 0 = true) (E : EncD g C 0 V q) (K : OkV V) : Cp g miX0_latest 2 (0) (0) [.ref (od C 0 30)] C (some (.int ((q_latest V).1))) (fun C2 => C2 = uI C 0 30 7 (q_latest V).2) := by
  refine Cp.start [some (.ref (od C 0 30)), none, none] plX0 rfl (Nat.le_of_ble_eq_true rfl) rfl ?_
  intro σ0 σ H F
  have kb := K.b
  refine w_iconst (v := (-1)) dX0_latest_0 ki_m1 ?_
  refine w_istore_n dX0_latest_1 rfl (Nat.le_of_ble_eq_true rfl) ls_3_1 ?_
  refine w_iconst (v := nI 0) dX0_latest_2 ki_0 ?_
  refine w_istore_n dX0_latest_3 rfl (Nat.le_of_ble_eq_true rfl) ls_3_2 ?_
  have lp : ∀ (j9 : Nat) (k : Nat) (c : Nat), vs V 2 - k < j9 → k ≤ vs V 2 → latK V k = c → c ≤ 241 → Wp g (mtC g miX0_latest 2 (0) (0) σ0 (some (.int ((q_latest V).1))) (fun C2 => C2 = uI C 0 30 7 (q_latest V).2)) 0 0 4 [some (.ref (od C 0 30)), some (.int (nI c - nI 1)), some (.int (nI k))] [] σ := by
    intro j9
    induction j9 with
    | zero => intro k c hmu hk hc hck; exact absurd hmu (Nat.not_lt_zero _)
    | succ j9 ih_lp =>
      intro k c hmu hk hc hck
      refine w_iload_n dX0_latest_4 rfl ?_
      refine w_aload_n dX0_latest_5 rfl ?_
      refine cr_call (mi := miX0_beach_2) dX0_latest_6 q934 okX0_beach_2 clX0 rfl (H.get (ce_X hx)) (Nat.le_of_ble_eq_true rfl) (kX0_beach (C := C) hx h0) H rfl rfl (Nat.le_of_ble_eq_true rfl) ?_
      refine gX0_177 (C := C) dX0_latest_9 rfl E H ?_
      refine w_icmpN_ge dX0_latest_12 rfl (by omega) (by omega) (fun h_12 => ?_) (fun h_12 => ?_)
      · obtain rfl : k = vs V 2 := by omega
        refine w_aload_n dX0_latest_68 rfl ?_
        refine w_iload_n dX0_latest_69 rfl ?_
        refine cp_call (mi := miX0_answer) dX0_latest_70 q1199 okX0_answer clX0 rfl (H.get (ce_X hx)) (Nat.le_of_ble_eq_true rfl) (kX0_answerO (C := C) hx (by first | assumption | omega)) H F rfl rfl (Nat.le_of_ble_eq_true rfl) ?_
        rintro σ _ rfl H F
        have E := EncD.stH H E
        exact w_iret dX0_latest_73 rfl ⟨by first | rfl | (rw [← hc]; rfl), _, by first | rfl | (rw [← hc]; rfl), H, F⟩
      · have hkn := K.n (d := k) (by omega)
        refine w_aload_n dX0_latest_15 rfl ?_
        refine cr_call (mi := miX0_day) dX0_latest_16 q886 okX0_day clX0 rfl (H.get (ce_X hx)) (Nat.le_of_ble_eq_true rfl) (kX0_day (C := C) hx h0) H rfl rfl (Nat.le_of_ble_eq_true rfl) ?_
        refine gX0_288 (C := C) dX0_latest_19 rfl h0 H ?_
        refine w_iload_n dX0_latest_22 rfl ?_
        refine ga_heaps (C := C) dX0_latest_23 h0 (by omega) H ?_
        refine gX0_292 (C := C) dX0_latest_24 rfl (on8 h0 (by omega)) H ?_
        refine w_topN (E.h (d := k) (by omega)).sz ?_
        refine w_ifN_le dX0_latest_27 rfl (by omega) (fun h_27 => ?_) (fun h_27 => ?_)
        · refine w_iinc dX0_latest_62 rfl (nI_inc _ 1) rfl (Nat.le_of_ble_eq_true rfl) ls_3_2 ?_
          refine w_goto dX0_latest_65 rfl ?_
          exact ih_lp (k + 1) c (by omega) (by omega) (by rw [latK, foldN_s, ← latK, hc, if_neg (by omega)]) (by omega)
        · have hp := (K.p (d := k) (by omega) (k := vt V 7 k - 1) (by omega)).2
          refine w_iload_n dX0_latest_30 rfl ?_
          refine w_aload_n dX0_latest_31 rfl ?_
          refine cr_call (mi := miX0_day) dX0_latest_32 q886 okX0_day clX0 rfl (H.get (ce_X hx)) (Nat.le_of_ble_eq_true rfl) (kX0_day (C := C) hx h0) H rfl rfl (Nat.le_of_ble_eq_true rfl) ?_
          refine gX0_288 (C := C) dX0_latest_35 rfl h0 H ?_
          refine w_iload_n dX0_latest_38 rfl ?_
          refine ga_heaps (C := C) dX0_latest_39 h0 (by omega) H ?_
          refine gX0_300 (C := C) dX0_latest_40 rfl (on8 h0 (by omega)) H ?_
          refine w_aload_n dX0_latest_43 rfl ?_
          refine cr_call (mi := miX0_day) dX0_latest_44 q886 okX0_day clX0 rfl (H.get (ce_X hx)) (Nat.le_of_ble_eq_true rfl) (kX0_day (C := C) hx h0) H rfl rfl (Nat.le_of_ble_eq_true rfl) ?_
          refine gX0_288 (C := C) dX0_latest_47 rfl h0 H ?_
          refine w_iload_n dX0_latest_50 rfl ?_
          refine ga_heaps (C := C) dX0_latest_51 h0 (by omega) H ?_
          refine gX0_292 (C := C) dX0_latest_52 rfl (on8 h0 (by omega)) H ?_
          refine w_topN (E.h (d := k) (by omega)).sz ?_
          refine w_iconst (v := nI 1) dX0_latest_55 ki_1 ?_
          refine w_isubN dX0_latest_56 (by omega) ?_
          refine ha_7 (C := C) dX0_latest_57 (on8 h0 (by omega)) (E.h (d := k) (by omega)) (by omega) H ?_
          refine w_mmax dX0_latest_58 q1309 q1165 q155 q1166 (Nat.le_of_ble_eq_true rfl) (Nat.le_of_ble_eq_true rfl) ?_
          refine w_top (congrArg Value.int (max_m1 (by omega) (by omega))) ?_
          refine w_istore_n dX0_latest_61 rfl (Nat.le_of_ble_eq_true rfl) ls_3_1 ?_
          refine w_iinc dX0_latest_62 rfl (nI_inc _ 1) rfl (Nat.le_of_ble_eq_true rfl) ls_3_2 ?_
          refine w_goto dX0_latest_65 rfl ?_
          exact ih_lp (k + 1) (max c (vp V 1 k (vt V 7 k - 1) + 1)) (by omega) (by omega) (by rw [latK, foldN_s, ← latK, hc, if_pos (by omega)]) (by omega)
  exact lp (vs V 2 + 1) 0 0 (by omega) (by omega) rfl (by omega)
set_option maxHeartbeats 4000000 in
theorem kX0_behind {g : GG} {C : CS} {V : VS} {q : Nat → Nat} {x : Int32} (hx : oO C 0 = true) (h0 : oO C 0 = true) (E : EncD g C 0 V q) (K : OkV V) : Cp g miX0_behind 5 (0) (0) [.ref (od C 0 30), .int x] C (some (.int ((q_behind V x).1))) (fun C2 => C2 = uI C 0 30 7 (q_behind V x).2) := by
  refine Cp.start [some (.ref (od C 0 30)), some (.int x), none, none] plX0 rfl (Nat.le_of_ble_eq_true rfl) rfl ?_
  intro σ0 σ H F
  have kb := K.b
  refine w_aload_n dX0_behind_0 rfl ?_
  refine w_aload_n dX0_behind_1 rfl ?_
  refine w_iload_n dX0_behind_2 rfl ?_
  refine cr_call (mi := miX0_isFinder) dX0_behind_3 q1027 okX0_isFinder clX0 rfl (H.get (ce_X hx)) (Nat.le_of_ble_eq_true rfl) (kX0_isFinder (C := C) hx h0 E K) H rfl rfl (Nat.le_of_ble_eq_true rfl) ?_
  refine w_ifB_eq dX0_behind_6 rfl (fun h_6 => ?_) (fun h_6 => ?_)
  · refine w_iconst (v := nI 1) dX0_behind_13 ki_1 ?_
    refine pX0_85 (C := C) dX0_behind_14 rfl hx H F ?_
    intro σ H F
    have E := EncD.stH H E
    refine w_aload_n dX0_behind_17 rfl ?_
    refine gst_85 dX0_behind_18 rfl hx H ?_
    refine w_ifN_le dX0_behind_21 rfl (by decide) (fun h_21 => ?_) (fun h_21 => ?_)
    · exact absurd (show _ from h_21) (by decide)
    refine w_iconst (v := (-1)) dX0_behind_24 ki_m1 ?_
    exact w_iret dX0_behind_25 rfl ⟨by first | rfl | (unfold q_behind; (try simp only [hcl_f]); (repeat' split) <;> first | rfl | contradiction | omega | (exfalso; simp_all; done)), _, by first | rfl | (unfold q_behind; (try simp only [hcl_f]); (repeat' split) <;> first | rfl | contradiction | omega | (exfalso; simp_all; done)), H, F⟩
  · have hx_f := h_6
    obtain ⟨f, hf_f, rfl⟩ := inN_of h_6 (by omega)
    have hcl_f : cl (nI f) = f := nI_clamp (by omega)
    have kf_f := K.f hf_f
    refine w_iconst (v := nI 0) dX0_behind_9 ki_0 ?_
    refine w_goto dX0_behind_10 rfl ?_
    refine pX0_85 (C := C) dX0_behind_14 rfl hx H F ?_
    intro σ H F
    have E := EncD.stH H E
    refine w_aload_n dX0_behind_17 rfl ?_
    refine gst_85 dX0_behind_18 rfl hx H ?_
    refine w_ifN_le dX0_behind_21 rfl (by decide) (fun h_21 => ?_) (fun h_21 => ?_)
    rotate_left
    · exact absurd (show _ from h_21) (by decide)
    refine w_iconst (v := nI 0) dX0_behind_26 ki_0 ?_
    refine w_istore_n dX0_behind_27 rfl (Nat.le_of_ble_eq_true rfl) ls_4_2 ?_
    refine w_iconst (v := nI 0) dX0_behind_28 ki_0 ?_
    refine w_istore_n dX0_behind_29 rfl (Nat.le_of_ble_eq_true rfl) ls_4_3 ?_
    have lp : ∀ (j9 : Nat) (k : Nat), vs V 1 - k < j9 → k ≤ vs V 1 → (foldN (fun f m => max m (leadV V f)) 0 k) ≤ 7992 → Wp g (mtC g miX0_behind 5 (0) (0) σ0 (some (.int ((q_behind V (nI f)).1))) (fun C2 => C2 = uI C 0 30 7 (q_behind V (nI f)).2)) 0 0 30 [some (.ref (od C 0 30)), some (.int (nI f)), some (.int (nI (foldN (fun f m => max m (leadV V f)) 0 k))), some (.int (nI k))] [] σ := by
      intro j9
      induction j9 with
      | zero => intro k hmu hk_k hbd; exact absurd hmu (Nat.not_lt_zero _)
      | succ j9 ih_lp =>
        intro k hmu hk_k hbd
        have hl1 := leadV_le K k
        refine w_iload_n dX0_behind_30 rfl ?_
        refine w_aload_n dX0_behind_31 rfl ?_
        refine cr_call (mi := miX0_beach_2) dX0_behind_32 q934 okX0_beach_2 clX0 rfl (H.get (ce_X hx)) (Nat.le_of_ble_eq_true rfl) (kX0_beach (C := uI (C) 0 30 7 _) hx h0) H rfl rfl (Nat.le_of_ble_eq_true rfl) ?_
        refine gX0_168 (C := uI (C) 0 30 7 _) dX0_behind_35 rfl E H ?_
        refine w_icmpN_ge dX0_behind_38 rfl (by omega) (by omega) (fun h_38 => ?_) (fun h_38 => ?_)
        · obtain rfl : k = vs V 1 := by omega
          have hlt := lead_top hf_f
          refine w_iload_n dX0_behind_60 rfl ?_
          refine w_aload_n dX0_behind_61 rfl ?_
          refine cr_call (mi := miX0_day) dX0_behind_62 q886 okX0_day clX0 rfl (H.get (ce_X hx)) (Nat.le_of_ble_eq_true rfl) (kX0_day (C := uI (C) 0 30 7 _) hx h0) H rfl rfl (Nat.le_of_ble_eq_true rfl) ?_
          refine w_iload_n dX0_behind_65 rfl ?_
          refine cr_call (mi := miX5_leads) dX0_behind_66 q1194 okX5_leads clX5 rfl (H.get (ce_day h0)) (Nat.le_of_ble_eq_true rfl) (kX5_leads (C := uI (C) 0 30 7 _) h0 E K (by first | assumption | omega)) H rfl rfl (Nat.le_of_ble_eq_true rfl) ?_
          refine w_isubN dX0_behind_69 (show leadV V f ≤ _ from hlt) ?_
          exact w_iret dX0_behind_70 rfl ⟨by first | rfl | (unfold q_behind; (try simp only [hcl_f]); (repeat' split) <;> first | rfl | contradiction | omega | (exfalso; simp_all; done)), _, by first | rfl | (unfold q_behind; (try simp only [hcl_f]); (repeat' split) <;> first | rfl | contradiction | omega | (exfalso; simp_all; done)), H, F⟩
        · refine w_iload_n dX0_behind_41 rfl ?_
          refine w_aload_n dX0_behind_42 rfl ?_
          refine cr_call (mi := miX0_day) dX0_behind_43 q886 okX0_day clX0 rfl (H.get (ce_X hx)) (Nat.le_of_ble_eq_true rfl) (kX0_day (C := uI (C) 0 30 7 _) hx h0) H rfl rfl (Nat.le_of_ble_eq_true rfl) ?_
          refine w_iload_n dX0_behind_46 rfl ?_
          refine cr_call (mi := miX5_leads) dX0_behind_47 q1194 okX5_leads clX5 rfl (H.get (ce_day h0)) (Nat.le_of_ble_eq_true rfl) (kX5_leads (C := uI (C) 0 30 7 _) h0 E K (by first | assumption | omega)) H rfl rfl (Nat.le_of_ble_eq_true rfl) ?_
          refine w_mmax dX0_behind_50 q1309 q1165 q155 q1166 (Nat.le_of_ble_eq_true rfl) (Nat.le_of_ble_eq_true rfl) ?_
          refine w_topN (max_n (by omega) (by omega)) ?_
          refine w_istore_n dX0_behind_53 rfl (Nat.le_of_ble_eq_true rfl) ls_4_2 ?_
          refine w_iinc dX0_behind_54 rfl (nI_inc _ 1) rfl (Nat.le_of_ble_eq_true rfl) ls_4_3 ?_
          refine w_goto dX0_behind_57 rfl ?_
          exact ih_lp (k + 1) (by omega) (by omega) (by rw [foldN_s]; omega)
    exact lp (vs V 1 + 1) 0 (by omega) (by omega) (show 0 ≤ 7992 by omega)
