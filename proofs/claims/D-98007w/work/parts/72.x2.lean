set_option maxRecDepth 100000
set_option maxHeartbeats 4000000 in
theorem kX0_last {g : GG} {C : CS} {V : VS} {q : Nat → Nat} {x : Int32} (hx : oO C 0 = true) (h0 : oO C 0 = true) (E : EncD g C 0 V q) (K : OkV V) : Cp g miX0_last 4 (0) (0) [.ref (od C 0 30), .int x] C (some (.int ((q_last V x).1))) (fun C2 => C2 = uI C 0 30 7 (q_last V x).2) := by
  refine Cp.start [some (.ref (od C 0 30)), some (.int x)] plX0 rfl (Nat.le_of_ble_eq_true rfl) rfl ?_
  intro σ0 σ H F
  have kb := K.b
  have hwl := wfV_le V x
  refine w_aload_n dX0_last_0 rfl ?_
  refine w_aload_n dX0_last_1 rfl ?_
  refine w_iload_n dX0_last_2 rfl ?_
  refine cr_call (mi := miX0_whyGone) dX0_last_3 q1179 okX0_whyGone clX0 rfl (H.get (ce_X hx)) (Nat.le_of_ble_eq_true rfl) (kX0_whyGone (C := C) hx h0 E K) H rfl rfl (Nat.le_of_ble_eq_true rfl) ?_
  refine pX0_85 (C := C) dX0_last_6 rfl hx H F ?_
  intro σ H F
  have E := EncD.stH H E
  refine w_aload_n dX0_last_9 rfl ?_
  refine gst_85 dX0_last_10 rfl hx H ?_
  refine w_ifN_le dX0_last_13 rfl (by omega) (fun h_13 => ?_) (fun h_13 => ?_)
  · obtain ⟨hx_d, hth⟩ := wfV_0 (V := V) (x := x) (by omega)
    obtain ⟨d, hf_d, rfl⟩ := inN_of hx_d (by omega)
    have hcl_d : cl (nI d) = d := nI_clamp (by omega)
    have kf_d := K.d hf_d
    have kn_d := K.n (d := d) (by omega)
    rw [hcl_d] at hth
    have hw0 : wfV V (nI d) = 0 := by omega
    rw [hw0] at H E
    refine w_aload_n dX0_last_20 rfl ?_
    refine cr_call (mi := miX0_day) dX0_last_21 q886 okX0_day clX0 rfl (H.get (ce_X hx)) (Nat.le_of_ble_eq_true rfl) (kX0_day (C := uI (C) 0 30 7 _) hx h0) H rfl rfl (Nat.le_of_ble_eq_true rfl) ?_
    refine gX0_288 (C := uI (C) 0 30 7 _) dX0_last_24 rfl h0 H ?_
    refine w_iload_n dX0_last_27 rfl ?_
    refine ga_heaps (C := uI (C) 0 30 7 _) dX0_last_28 h0 (by omega) H ?_
    refine cr_call (mi := miX7_last) dX0_last_29 q1184 okX7_last clX7 rfl (H.get (ce_heap (on8 h0 (by omega)))) (Nat.le_of_ble_eq_true rfl) (kX7_last (C := uI (C) 0 30 7 _) (on8 h0 (by omega)) (E.h (d := d) (by omega)) (by intro k9 hk9; have h9 := (K.p (d := d) (by omega) hk9).1; omega) (by intro k9 hk9; have h9 := (K.p (d := d) (by omega) hk9).2; omega)) H rfl rfl (Nat.le_of_ble_eq_true rfl) ?_
    exact w_iret dX0_last_32 rfl ⟨by first | rfl | (unfold q_last; (try simp only [hcl_d]); (repeat' split) <;> first | rfl | contradiction | omega | (exfalso; simp_all; done)), _, by first | rfl | (unfold q_last; (try simp only [hcl_d]); (repeat' split) <;> first | rfl | contradiction | omega | (exfalso; simp_all; done)), H, F⟩
  · refine w_iconst (v := (-1)) dX0_last_16 ki_m1 ?_
    refine w_goto dX0_last_17 rfl ?_
    exact w_iret dX0_last_32 rfl ⟨by first | rfl | (unfold q_last; (try simp only [hcl_d]); (repeat' split) <;> first | rfl | contradiction | omega | (exfalso; simp_all; done)), _, by first | rfl | (unfold q_last; (try simp only [hcl_d]); (repeat' split) <;> first | rfl | contradiction | omega | (exfalso; simp_all; done)), H, F⟩
set_option maxHeartbeats 4000000 in
theorem kX0_whose {g : GG} {C : CS} {V : VS} {q : Nat → Nat} {x : Int32} (hx : oO C 0 = true) (h0 : oO C 0 = true) (E : EncD g C 0 V q) (K : OkV V) : Cp g miX0_whose 4 (0) (0) [.ref (od C 0 30), .int x] C (some (.int ((q_whose V x).1))) (fun C2 => C2 = uI C 0 30 7 (q_whose V x).2) := by
  refine Cp.start [some (.ref (od C 0 30)), some (.int x)] plX0 rfl (Nat.le_of_ble_eq_true rfl) rfl ?_
  intro σ0 σ H F
  have kb := K.b
  have hwl := wfV_le V x
  refine w_aload_n dX0_whose_0 rfl ?_
  refine w_aload_n dX0_whose_1 rfl ?_
  refine w_iload_n dX0_whose_2 rfl ?_
  refine cr_call (mi := miX0_whyGone) dX0_whose_3 q1179 okX0_whyGone clX0 rfl (H.get (ce_X hx)) (Nat.le_of_ble_eq_true rfl) (kX0_whyGone (C := C) hx h0 E K) H rfl rfl (Nat.le_of_ble_eq_true rfl) ?_
  refine pX0_85 (C := C) dX0_whose_6 rfl hx H F ?_
  intro σ H F
  have E := EncD.stH H E
  refine w_aload_n dX0_whose_9 rfl ?_
  refine gst_85 dX0_whose_10 rfl hx H ?_
  refine w_ifN_le dX0_whose_13 rfl (by omega) (fun h_13 => ?_) (fun h_13 => ?_)
  · obtain ⟨hx_d, hth⟩ := wfV_0 (V := V) (x := x) (by omega)
    obtain ⟨d, hf_d, rfl⟩ := inN_of hx_d (by omega)
    have hcl_d : cl (nI d) = d := nI_clamp (by omega)
    have kf_d := K.d hf_d
    have kn_d := K.n (d := d) (by omega)
    rw [hcl_d] at hth
    have hw0 : wfV V (nI d) = 0 := by omega
    rw [hw0] at H E
    refine w_aload_n dX0_whose_20 rfl ?_
    refine cr_call (mi := miX0_day) dX0_whose_21 q886 okX0_day clX0 rfl (H.get (ce_X hx)) (Nat.le_of_ble_eq_true rfl) (kX0_day (C := uI (C) 0 30 7 _) hx h0) H rfl rfl (Nat.le_of_ble_eq_true rfl) ?_
    refine w_iload_n dX0_whose_24 rfl ?_
    refine cr_call (mi := miX5_whose) dX0_whose_25 q1189 okX5_whose clX5 rfl (H.get (ce_day h0)) (Nat.le_of_ble_eq_true rfl) (kX5_whose (C := uI (C) 0 30 7 _) h0 E K (by first | assumption | omega)) H rfl rfl (Nat.le_of_ble_eq_true rfl) ?_
    exact w_iret dX0_whose_28 rfl ⟨by first | rfl | (unfold q_whose; (try simp only [hcl_d]); (repeat' split) <;> first | rfl | contradiction | omega | (exfalso; simp_all; done)), _, by first | rfl | (unfold q_whose; (try simp only [hcl_d]); (repeat' split) <;> first | rfl | contradiction | omega | (exfalso; simp_all; done)), H, F⟩
  · refine w_iconst (v := (-1)) dX0_whose_16 ki_m1 ?_
    refine w_goto dX0_whose_17 rfl ?_
    exact w_iret dX0_whose_28 rfl ⟨by first | rfl | (unfold q_whose; (try simp only [hcl_d]); (repeat' split) <;> first | rfl | contradiction | omega | (exfalso; simp_all; done)), _, by first | rfl | (unfold q_whose; (try simp only [hcl_d]); (repeat' split) <;> first | rfl | contradiction | omega | (exfalso; simp_all; done)), H, F⟩
set_option maxHeartbeats 4000000 in
theorem kX0_leads {g : GG} {C : CS} {V : VS} {q : Nat → Nat} {x : Int32} (hx : oO C 0 = true) (h0 : oO C 0 = true) (E : EncD g C 0 V q) (K : OkV V) : Cp g miX0_leads 5 (0) (0) [.ref (od C 0 30), .int x] C (some (.int ((q_leads V x).1))) (fun C2 => C2 = uI C 0 30 7 (q_leads V x).2) := by
  refine Cp.start [some (.ref (od C 0 30)), some (.int x)] plX0 rfl (Nat.le_of_ble_eq_true rfl) rfl ?_
  intro σ0 σ H F
  have kb := K.b
  refine w_aload_n dX0_leads_0 rfl ?_
  refine w_aload_n dX0_leads_1 rfl ?_
  refine w_iload_n dX0_leads_2 rfl ?_
  refine cr_call (mi := miX0_isFinder) dX0_leads_3 q1027 okX0_isFinder clX0 rfl (H.get (ce_X hx)) (Nat.le_of_ble_eq_true rfl) (kX0_isFinder (C := C) hx h0 E K) H rfl rfl (Nat.le_of_ble_eq_true rfl) ?_
  refine w_ifB_eq dX0_leads_6 rfl (fun h_6 => ?_) (fun h_6 => ?_)
  · refine w_iconst (v := nI 1) dX0_leads_13 ki_1 ?_
    refine pX0_85 (C := C) dX0_leads_14 rfl hx H F ?_
    intro σ H F
    have E := EncD.stH H E
    refine w_aload_n dX0_leads_17 rfl ?_
    refine gst_85 dX0_leads_18 rfl hx H ?_
    refine w_ifN_le dX0_leads_21 rfl (by decide) (fun h_21 => ?_) (fun h_21 => ?_)
    · exact absurd (show _ from h_21) (by decide)
    refine w_iconst (v := (-1)) dX0_leads_24 ki_m1 ?_
    refine w_goto dX0_leads_25 rfl ?_
    exact w_iret dX0_leads_36 rfl ⟨by first | rfl | (unfold q_leads; (try simp only [hcl_f]); (repeat' split) <;> first | rfl | contradiction | omega | (exfalso; simp_all; done)), _, by first | rfl | (unfold q_leads; (try simp only [hcl_f]); (repeat' split) <;> first | rfl | contradiction | omega | (exfalso; simp_all; done)), H, F⟩
  · have hx_f := h_6
    obtain ⟨f, hf_f, rfl⟩ := inN_of h_6 (by omega)
    have hcl_f : cl (nI f) = f := nI_clamp (by omega)
    have kf_f := K.f hf_f
    refine w_iconst (v := nI 0) dX0_leads_9 ki_0 ?_
    refine w_goto dX0_leads_10 rfl ?_
    refine pX0_85 (C := C) dX0_leads_14 rfl hx H F ?_
    intro σ H F
    have E := EncD.stH H E
    refine w_aload_n dX0_leads_17 rfl ?_
    refine gst_85 dX0_leads_18 rfl hx H ?_
    refine w_ifN_le dX0_leads_21 rfl (by decide) (fun h_21 => ?_) (fun h_21 => ?_)
    rotate_left
    · exact absurd (show _ from h_21) (by decide)
    refine w_aload_n dX0_leads_28 rfl ?_
    refine cr_call (mi := miX0_day) dX0_leads_29 q886 okX0_day clX0 rfl (H.get (ce_X hx)) (Nat.le_of_ble_eq_true rfl) (kX0_day (C := uI (C) 0 30 7 _) hx h0) H rfl rfl (Nat.le_of_ble_eq_true rfl) ?_
    refine w_iload_n dX0_leads_32 rfl ?_
    refine cr_call (mi := miX5_leads) dX0_leads_33 q1194 okX5_leads clX5 rfl (H.get (ce_day h0)) (Nat.le_of_ble_eq_true rfl) (kX5_leads (C := uI (C) 0 30 7 _) h0 E K (by first | assumption | omega)) H rfl rfl (Nat.le_of_ble_eq_true rfl) ?_
    exact w_iret dX0_leads_36 rfl ⟨by first | rfl | (unfold q_leads; (try simp only [hcl_f]); (repeat' split) <;> first | rfl | contradiction | omega | (exfalso; simp_all; done)), _, by first | rfl | (unfold q_leads; (try simp only [hcl_f]); (repeat' split) <;> first | rfl | contradiction | omega | (exfalso; simp_all; done)), H, F⟩
set_option maxHeartbeats 4000000 in
theorem kX0_duels {g : GG} {C : CS} {V : VS} {q : Nat → Nat} (hx : oO C 0 = true) (h0 : oO C 0 = true) (E : EncD g C 0 V q) (K : OkV V) : Cp g miX0_duels 2 (0) (0) [.ref (od C 0 30)] C (some (.int ((q_duels V).1))) (fun C2 => C2 = uI C 0 30 7 (q_duels V).2) := by
  refine Cp.start [some (.ref (od C 0 30)), none, none] plX0 rfl (Nat.le_of_ble_eq_true rfl) rfl ?_
  intro σ0 σ H F
  have kb := K.b
  refine w_aload_n dX0_duels_0 rfl ?_
  refine w_iconst (v := nI 0) dX0_duels_1 ki_0 ?_
  refine pX0_85 (C := C) dX0_duels_2 rfl hx H F ?_
  intro σ H F
  have E := EncD.stH H E
  refine w_iconst (v := nI 0) dX0_duels_5 ki_0 ?_
  refine w_istore_n dX0_duels_6 rfl (Nat.le_of_ble_eq_true rfl) ls_3_1 ?_
  refine w_iconst (v := nI 0) dX0_duels_7 ki_0 ?_
  refine w_istore_n dX0_duels_8 rfl (Nat.le_of_ble_eq_true rfl) ls_3_2 ?_
  have lp : ∀ (j9 : Nat) (k : Nat), vs V 2 - k < j9 → k ≤ vs V 2 → Wp g (mtC g miX0_duels 2 (0) (0) σ0 (some (.int ((q_duels V).1))) (fun C2 => C2 = uI C 0 30 7 (q_duels V).2)) 0 0 9 [some (.ref (od C 0 30)), some (.int (nI (foldN (fun d s => s ||| if 1 < pcnt (lastV V d) then 2 ^ d else 0) 0 k))), some (.int (nI k))] [] σ := by
    intro j9
    induction j9 with
    | zero => intro k hmu hk_k; exact absurd hmu (Nat.not_lt_zero _)
    | succ j9 ih_lp =>
      intro k hmu hk_k
      refine w_iload_n dX0_duels_9 rfl ?_
      refine w_aload_n dX0_duels_10 rfl ?_
      refine cr_call (mi := miX0_beach_2) dX0_duels_11 q934 okX0_beach_2 clX0 rfl (H.get (ce_X hx)) (Nat.le_of_ble_eq_true rfl) (kX0_beach (C := uI (C) 0 30 7 _) hx h0) H rfl rfl (Nat.le_of_ble_eq_true rfl) ?_
      refine gX0_177 (C := uI (C) 0 30 7 _) dX0_duels_14 rfl E H ?_
      refine w_icmpN_ge dX0_duels_17 rfl (by omega) (by omega) (fun h_17 => ?_) (fun h_17 => ?_)
      · obtain rfl : k = vs V 2 := by omega
        refine w_iload_n dX0_duels_55 rfl ?_
        exact w_iret dX0_duels_56 rfl ⟨by first | rfl | (unfold q_duels; (repeat' split) <;> first | rfl | contradiction | omega | (exfalso; simp_all; done)), _, by first | rfl | (unfold q_duels; (repeat' split) <;> first | rfl | contradiction | omega | (exfalso; simp_all; done)), H, F⟩
      · refine w_iload_n dX0_duels_20 rfl ?_
        refine w_aload_n dX0_duels_21 rfl ?_
        refine cr_call (mi := miX0_day) dX0_duels_22 q886 okX0_day clX0 rfl (H.get (ce_X hx)) (Nat.le_of_ble_eq_true rfl) (kX0_day (C := uI (C) 0 30 7 _) hx h0) H rfl rfl (Nat.le_of_ble_eq_true rfl) ?_
        refine gX0_288 (C := uI (C) 0 30 7 _) dX0_duels_25 rfl h0 H ?_
        refine w_iload_n dX0_duels_28 rfl ?_
        refine ga_heaps (C := uI (C) 0 30 7 _) dX0_duels_29 h0 (by omega) H ?_
        refine cr_call (mi := miX7_last) dX0_duels_30 q1184 okX7_last clX7 rfl (H.get (ce_heap (on8 h0 (by omega)))) (Nat.le_of_ble_eq_true rfl) (kX7_last (C := uI (C) 0 30 7 _) (on8 h0 (by omega)) (E.h (d := k) (by omega)) (by intro k9 hk9; have h9 := (K.p (d := k) (by omega) hk9).1; omega) (by intro k9 hk9; have h9 := (K.p (d := k) (by omega) hk9).2; omega)) H rfl rfl (Nat.le_of_ble_eq_true rfl) ?_
        refine w_topN (show _ = nI (lastV V k) from rfl) ?_
        have hl := lastV_lt K (d := k) (by omega)
        have hp6 := pcnt_le _ hl
        refine cs_call (mi := miJ11_bitCount) dX0_duels_33 q1207 okJ11_bitCount (Nat.le_of_ble_eq_true rfl) (kInt_bitCount (by first | assumption | omega)) rfl rfl (Nat.le_of_ble_eq_true rfl) ?_
        refine w_iconst (v := nI 1) dX0_duels_36 ki_1 ?_
        refine w_icmpN_le dX0_duels_37 rfl (by omega) (by omega) (fun h_37 => ?_) (fun h_37 => ?_)
        · refine w_iconst (v := nI 0) dX0_duels_46 ki_0 ?_
          refine w_iorN dX0_duels_47 ?_
          refine w_istore_n dX0_duels_48 rfl (Nat.le_of_ble_eq_true rfl) ls_3_1 ?_
          refine w_iinc dX0_duels_49 rfl (nI_inc _ 1) rfl (Nat.le_of_ble_eq_true rfl) ls_3_2 ?_
          refine w_goto dX0_duels_52 rfl ?_
          exact w_as (ih_lp (k + 1) (by omega) (by omega)) (by simp only [foldN_s]; (try split) <;> first | rfl | (exfalso; first | contradiction | omega | (simp_all; done))) rfl rfl
        · refine w_iconst (v := nI 1) dX0_duels_40 ki_1 ?_
          refine w_iload_n dX0_duels_41 rfl ?_
          refine w_shl1N dX0_duels_42 (by omega) ?_
          refine w_goto dX0_duels_43 rfl ?_
          refine w_iorN dX0_duels_47 ?_
          refine w_istore_n dX0_duels_48 rfl (Nat.le_of_ble_eq_true rfl) ls_3_1 ?_
          refine w_iinc dX0_duels_49 rfl (nI_inc _ 1) rfl (Nat.le_of_ble_eq_true rfl) ls_3_2 ?_
          refine w_goto dX0_duels_52 rfl ?_
          exact w_as (ih_lp (k + 1) (by omega) (by omega)) (by simp only [foldN_s]; (try split) <;> first | rfl | (exfalso; first | contradiction | omega | (simp_all; done))) rfl rfl
  exact lp (vs V 2 + 1) 0 (by omega) (by omega)
set_option maxHeartbeats 4000000 in
theorem kX0_needs {g : GG} {C : CS} {V : VS} {q : Nat → Nat} {x : Int32} (hx : oO C 0 = true) (h0 : oO C 0 = true) (E : EncD g C 0 V q) (K : OkV V) : Cp g miX0_needs 3 (0) (0) [.ref (od C 0 30), .int x] C (some (.int ((q_needs V x).1))) (fun C2 => C2 = uI C 0 30 7 (q_needs V x).2) := by
  refine Cp.start [some (.ref (od C 0 30)), some (.int x), none, none] plX0 rfl (Nat.le_of_ble_eq_true rfl) rfl ?_
  intro σ0 σ H F
  have kb := K.b
  refine w_aload_n dX0_needs_0 rfl ?_
  refine w_aload_n dX0_needs_1 rfl ?_
  refine w_iload_n dX0_needs_2 rfl ?_
  refine cr_call (mi := miX0_isFinder) dX0_needs_3 q1027 okX0_isFinder clX0 rfl (H.get (ce_X hx)) (Nat.le_of_ble_eq_true rfl) (kX0_isFinder (C := C) hx h0 E K) H rfl rfl (Nat.le_of_ble_eq_true rfl) ?_
  refine w_ifB_eq dX0_needs_6 rfl (fun h_6 => ?_) (fun h_6 => ?_)
  · refine w_iconst (v := nI 1) dX0_needs_13 ki_1 ?_
    refine pX0_85 (C := C) dX0_needs_14 rfl hx H F ?_
    intro σ H F
    have E := EncD.stH H E
    refine w_aload_n dX0_needs_17 rfl ?_
    refine gst_85 dX0_needs_18 rfl hx H ?_
    refine w_ifN_le dX0_needs_21 rfl (by decide) (fun h_21 => ?_) (fun h_21 => ?_)
    · exact absurd (show _ from h_21) (by decide)
    refine w_iconst (v := (-1)) dX0_needs_24 ki_m1 ?_
    exact w_iret dX0_needs_25 rfl ⟨by first | rfl | (unfold q_needs; (try simp only [hcl_f]); (repeat' split) <;> first | rfl | contradiction | omega | (exfalso; simp_all; done)), _, by first | rfl | (unfold q_needs; (try simp only [hcl_f]); (repeat' split) <;> first | rfl | contradiction | omega | (exfalso; simp_all; done)), H, F⟩
  · have hx_f := h_6
    obtain ⟨f, hf_f, rfl⟩ := inN_of h_6 (by omega)
    have hcl_f : cl (nI f) = f := nI_clamp (by omega)
    have kf_f := K.f hf_f
    refine w_iconst (v := nI 0) dX0_needs_9 ki_0 ?_
    refine w_goto dX0_needs_10 rfl ?_
    refine pX0_85 (C := C) dX0_needs_14 rfl hx H F ?_
    intro σ H F
    have E := EncD.stH H E
    refine w_aload_n dX0_needs_17 rfl ?_
    refine gst_85 dX0_needs_18 rfl hx H ?_
    refine w_ifN_le dX0_needs_21 rfl (by decide) (fun h_21 => ?_) (fun h_21 => ?_)
    rotate_left
    · exact absurd (show _ from h_21) (by decide)
    refine w_iconst (v := nI 0) dX0_needs_26 ki_0 ?_
    refine w_istore_n dX0_needs_27 rfl (Nat.le_of_ble_eq_true rfl) ls_4_2 ?_
    refine w_iconst (v := nI 0) dX0_needs_28 ki_0 ?_
    refine w_istore_n dX0_needs_29 rfl (Nat.le_of_ble_eq_true rfl) ls_4_3 ?_
    have lp : ∀ (j9 : Nat) (k : Nat), vs V 2 - k < j9 → k ≤ vs V 2 → Wp g (mtC g miX0_needs 3 (0) (0) σ0 (some (.int ((q_needs V (nI f)).1))) (fun C2 => C2 = uI C 0 30 7 (q_needs V (nI f)).2)) 0 0 30 [some (.ref (od C 0 30)), some (.int (nI f)), some (.int (nI (foldN (fun d n => n + if isT V d ∧ lastV V d ≠ 2 ^ f then 1 else 0) 0 k))), some (.int (nI k))] [] σ := by
      intro j9
      induction j9 with
      | zero => intro k hmu hk_k; exact absurd hmu (Nat.not_lt_zero _)
      | succ j9 ih_lp =>
        intro k hmu hk_k
        have hp6 : 2 ^ f < 64 := by have : 2 ^ f ≤ 2 ^ 5 := Nat.pow_le_pow_right (by omega) (by omega); omega
        refine w_iload_n dX0_needs_30 rfl ?_
        refine w_aload_n dX0_needs_31 rfl ?_
        refine cr_call (mi := miX0_beach_2) dX0_needs_32 q934 okX0_beach_2 clX0 rfl (H.get (ce_X hx)) (Nat.le_of_ble_eq_true rfl) (kX0_beach (C := uI (C) 0 30 7 _) hx h0) H rfl rfl (Nat.le_of_ble_eq_true rfl) ?_
        refine gX0_177 (C := uI (C) 0 30 7 _) dX0_needs_35 rfl E H ?_
        refine w_icmpN_ge dX0_needs_38 rfl (by omega) (by omega) (fun h_38 => ?_) (fun h_38 => ?_)
        · obtain rfl : k = vs V 2 := by omega
          refine w_iload_n dX0_needs_84 rfl ?_
          exact w_iret dX0_needs_85 rfl ⟨by first | rfl | (unfold q_needs; (try simp only [hcl_f]); (repeat' split) <;> first | rfl | contradiction | omega | (exfalso; simp_all; done)), _, by first | rfl | (unfold q_needs; (try simp only [hcl_f]); (repeat' split) <;> first | rfl | contradiction | omega | (exfalso; simp_all; done)), H, F⟩
        · refine w_iload_n dX0_needs_41 rfl ?_
          refine w_aload_n dX0_needs_42 rfl ?_
          refine cr_call (mi := miX0_day) dX0_needs_43 q886 okX0_day clX0 rfl (H.get (ce_X hx)) (Nat.le_of_ble_eq_true rfl) (kX0_day (C := uI (C) 0 30 7 _) hx h0) H rfl rfl (Nat.le_of_ble_eq_true rfl) ?_
          refine w_iload_n dX0_needs_46 rfl ?_
          refine cr_call (mi := miX5_isThere) dX0_needs_47 q1183 okX5_isThere clX5 rfl (H.get (ce_day h0)) (Nat.le_of_ble_eq_true rfl) (kX5_isThere (C := uI (C) 0 30 7 _) h0 E K (by first | assumption | omega)) H rfl rfl (Nat.le_of_ble_eq_true rfl) ?_
          refine w_ifB_eq dX0_needs_50 rfl (fun h_50 => ?_) (fun h_50 => ?_)
          · refine w_iconst (v := nI 0) dX0_needs_75 ki_0 ?_
            refine w_iaddN dX0_needs_76 ?_
            refine w_istore_n dX0_needs_77 rfl (Nat.le_of_ble_eq_true rfl) ls_4_2 ?_
            refine w_iinc dX0_needs_78 rfl (nI_inc _ 1) rfl (Nat.le_of_ble_eq_true rfl) ls_4_3 ?_
            refine w_goto dX0_needs_81 rfl ?_
            exact w_as (ih_lp (k + 1) (by omega) (by omega)) (by simp only [foldN_s]; (try split) <;> first | rfl | (exfalso; first | contradiction | omega | (simp_all; done))) rfl rfl
          · refine w_aload_n dX0_needs_53 rfl ?_
            refine cr_call (mi := miX0_day) dX0_needs_54 q886 okX0_day clX0 rfl (H.get (ce_X hx)) (Nat.le_of_ble_eq_true rfl) (kX0_day (C := uI (C) 0 30 7 _) hx h0) H rfl rfl (Nat.le_of_ble_eq_true rfl) ?_
            refine gX0_288 (C := uI (C) 0 30 7 _) dX0_needs_57 rfl h0 H ?_
            refine w_iload_n dX0_needs_60 rfl ?_
            refine ga_heaps (C := uI (C) 0 30 7 _) dX0_needs_61 h0 (by omega) H ?_
            refine cr_call (mi := miX7_last) dX0_needs_62 q1184 okX7_last clX7 rfl (H.get (ce_heap (on8 h0 (by omega)))) (Nat.le_of_ble_eq_true rfl) (kX7_last (C := uI (C) 0 30 7 _) (on8 h0 (by omega)) (E.h (d := k) (by omega)) (by intro k9 hk9; have h9 := (K.p (d := k) (by omega) hk9).1; omega) (by intro k9 hk9; have h9 := (K.p (d := k) (by omega) hk9).2; omega)) H rfl rfl (Nat.le_of_ble_eq_true rfl) ?_
            refine w_topN (show _ = nI (lastV V k) from rfl) ?_
            have hl := lastV_lt K (d := k) (by omega)
            refine w_iconst (v := nI 1) dX0_needs_65 ki_1 ?_
            refine w_iload_n dX0_needs_66 rfl ?_
            refine w_shl1N dX0_needs_67 (by omega) ?_
            refine w_icmpN_eq dX0_needs_68 rfl (by omega) (by omega) (fun h_68 => ?_) (fun h_68 => ?_)
            · refine w_iconst (v := nI 0) dX0_needs_75 ki_0 ?_
              refine w_iaddN dX0_needs_76 ?_
              refine w_istore_n dX0_needs_77 rfl (Nat.le_of_ble_eq_true rfl) ls_4_2 ?_
              refine w_iinc dX0_needs_78 rfl (nI_inc _ 1) rfl (Nat.le_of_ble_eq_true rfl) ls_4_3 ?_
              refine w_goto dX0_needs_81 rfl ?_
              exact w_as (ih_lp (k + 1) (by omega) (by omega)) (by simp only [foldN_s]; (try split) <;> first | rfl | (exfalso; first | contradiction | omega | (simp_all; done))) rfl rfl
            · refine w_iconst (v := nI 1) dX0_needs_71 ki_1 ?_
              refine w_goto dX0_needs_72 rfl ?_
              refine w_iaddN dX0_needs_76 ?_
              refine w_istore_n dX0_needs_77 rfl (Nat.le_of_ble_eq_true rfl) ls_4_2 ?_
              refine w_iinc dX0_needs_78 rfl (nI_inc _ 1) rfl (Nat.le_of_ble_eq_true rfl) ls_4_3 ?_
              refine w_goto dX0_needs_81 rfl ?_
              exact w_as (ih_lp (k + 1) (by omega) (by omega)) (by simp only [foldN_s]; (try split) <;> first | rfl | (exfalso; first | contradiction | omega | (simp_all; done))) rfl rfl
    exact lp (vs V 2 + 1) 0 (by omega) (by omega)
set_option maxHeartbeats 4000000 in
theorem kX0_strewn {g : GG} {C : CS} {V : VS} {q : Nat → Nat} {x : Int32} (hx : oO C 0 = true) (h0 : oO C 0 = true) (E : EncD g C 0 V q) (K : OkV V) : Cp g miX0_strewn 3 (0) (0) [.ref (od C 0 30), .int x] C (some (.int ((q_strewn V x).1))) (fun C2 => C2 = uI C 0 30 7 (q_strewn V x).2) := by
  refine Cp.start [some (.ref (od C 0 30)), some (.int x), none, none] plX0 rfl (Nat.le_of_ble_eq_true rfl) rfl ?_
  intro σ0 σ H F
  have kb := K.b
  refine w_aload_n dX0_strewn_0 rfl ?_
  refine w_aload_n dX0_strewn_1 rfl ?_
  refine w_iload_n dX0_strewn_2 rfl ?_
  refine cr_call (mi := miX0_isFinder) dX0_strewn_3 q1027 okX0_isFinder clX0 rfl (H.get (ce_X hx)) (Nat.le_of_ble_eq_true rfl) (kX0_isFinder (C := C) hx h0 E K) H rfl rfl (Nat.le_of_ble_eq_true rfl) ?_
  refine w_ifB_eq dX0_strewn_6 rfl (fun h_6 => ?_) (fun h_6 => ?_)
  · refine w_iconst (v := nI 1) dX0_strewn_13 ki_1 ?_
    refine pX0_85 (C := C) dX0_strewn_14 rfl hx H F ?_
    intro σ H F
    have E := EncD.stH H E
    refine w_aload_n dX0_strewn_17 rfl ?_
    refine gst_85 dX0_strewn_18 rfl hx H ?_
    refine w_ifN_le dX0_strewn_21 rfl (by decide) (fun h_21 => ?_) (fun h_21 => ?_)
    · exact absurd (show _ from h_21) (by decide)
    refine w_iconst (v := (-1)) dX0_strewn_24 ki_m1 ?_
    exact w_iret dX0_strewn_25 rfl ⟨by first | rfl | (unfold q_strewn; (try simp only [hcl_f]); (repeat' split) <;> first | rfl | contradiction | omega | (exfalso; simp_all; done)), _, by first | rfl | (unfold q_strewn; (try simp only [hcl_f]); (repeat' split) <;> first | rfl | contradiction | omega | (exfalso; simp_all; done)), H, F⟩
  · have hx_f := h_6
    obtain ⟨f, hf_f, rfl⟩ := inN_of h_6 (by omega)
    have hcl_f : cl (nI f) = f := nI_clamp (by omega)
    have kf_f := K.f hf_f
    refine w_iconst (v := nI 0) dX0_strewn_9 ki_0 ?_
    refine w_goto dX0_strewn_10 rfl ?_
    refine pX0_85 (C := C) dX0_strewn_14 rfl hx H F ?_
    intro σ H F
    have E := EncD.stH H E
    refine w_aload_n dX0_strewn_17 rfl ?_
    refine gst_85 dX0_strewn_18 rfl hx H ?_
    refine w_ifN_le dX0_strewn_21 rfl (by decide) (fun h_21 => ?_) (fun h_21 => ?_)
    rotate_left
    · exact absurd (show _ from h_21) (by decide)
    refine w_iconst (v := nI 0) dX0_strewn_26 ki_0 ?_
    refine w_istore_n dX0_strewn_27 rfl (Nat.le_of_ble_eq_true rfl) ls_4_2 ?_
    refine w_iconst (v := nI 0) dX0_strewn_28 ki_0 ?_
    refine w_istore_n dX0_strewn_29 rfl (Nat.le_of_ble_eq_true rfl) ls_4_3 ?_
    have lp : ∀ (j9 : Nat) (k : Nat), vs V 2 - k < j9 → k ≤ vs V 2 → Wp g (mtC g miX0_strewn 3 (0) (0) σ0 (some (.int ((q_strewn V (nI f)).1))) (fun C2 => C2 = uI C 0 30 7 (q_strewn V (nI f)).2)) 0 0 30 [some (.ref (od C 0 30)), some (.int (nI f)), some (.int (nI (foldN (fun d n => n + ownV V d f) 0 k))), some (.int (nI k))] [] σ := by
      intro j9
      induction j9 with
      | zero => intro k hmu hk_k; exact absurd hmu (Nat.not_lt_zero _)
      | succ j9 ih_lp =>
        intro k hmu hk_k
        refine w_iload_n dX0_strewn_30 rfl ?_
        refine w_aload_n dX0_strewn_31 rfl ?_
        refine cr_call (mi := miX0_beach_2) dX0_strewn_32 q934 okX0_beach_2 clX0 rfl (H.get (ce_X hx)) (Nat.le_of_ble_eq_true rfl) (kX0_beach (C := uI (C) 0 30 7 _) hx h0) H rfl rfl (Nat.le_of_ble_eq_true rfl) ?_
        refine gX0_177 (C := uI (C) 0 30 7 _) dX0_strewn_35 rfl E H ?_
        refine w_icmpN_ge dX0_strewn_38 rfl (by omega) (by omega) (fun h_38 => ?_) (fun h_38 => ?_)
        · obtain rfl : k = vs V 2 := by omega
          refine w_iload_n dX0_strewn_63 rfl ?_
          exact w_iret dX0_strewn_64 rfl ⟨by first | rfl | (unfold q_strewn; (try simp only [hcl_f]); (repeat' split) <;> first | rfl | contradiction | omega | (exfalso; simp_all; done)), _, by first | rfl | (unfold q_strewn; (try simp only [hcl_f]); (repeat' split) <;> first | rfl | contradiction | omega | (exfalso; simp_all; done)), H, F⟩
        · refine w_iload_n dX0_strewn_41 rfl ?_
          refine w_aload_n dX0_strewn_42 rfl ?_
          refine cr_call (mi := miX0_day) dX0_strewn_43 q886 okX0_day clX0 rfl (H.get (ce_X hx)) (Nat.le_of_ble_eq_true rfl) (kX0_day (C := uI (C) 0 30 7 _) hx h0) H rfl rfl (Nat.le_of_ble_eq_true rfl) ?_
          refine gX0_288 (C := uI (C) 0 30 7 _) dX0_strewn_46 rfl h0 H ?_
          refine w_iload_n dX0_strewn_49 rfl ?_
          refine ga_heaps (C := uI (C) 0 30 7 _) dX0_strewn_50 h0 (by omega) H ?_
          refine w_iload_n dX0_strewn_51 rfl ?_
          refine cr_call (mi := miX7_many) dX0_strewn_52 q1216 okX7_many clX7 rfl (H.get (ce_heap (on8 h0 (by omega)))) (Nat.le_of_ble_eq_true rfl) (kX7_many (C := uI (C) 0 30 7 _) (on8 h0 (by omega)) (E.h (d := k) (by omega)) (by intro k9 hk9; have h9 := (K.p (d := k) (by omega) hk9).1; omega) (by first | assumption | omega)) H rfl rfl (Nat.le_of_ble_eq_true rfl) ?_
          refine w_iaddN dX0_strewn_55 ?_
          refine w_istore_n dX0_strewn_56 rfl (Nat.le_of_ble_eq_true rfl) ls_4_2 ?_
          refine w_iinc dX0_strewn_57 rfl (nI_inc _ 1) rfl (Nat.le_of_ble_eq_true rfl) ls_4_3 ?_
          refine w_goto dX0_strewn_60 rfl ?_
          exact w_as (ih_lp (k + 1) (by omega) (by omega)) (by rw [foldN_s]; rfl) rfl rfl
    exact lp (vs V 2 + 1) 0 (by omega) (by omega)
set_option maxHeartbeats 4000000 in
theorem kX0_soonestOf {g : GG} {C : CS} {V : VS} {q : Nat → Nat} {f : Nat} {d : Nat} (hx : oO C 0 = true) (h0 : oO C 0 = true) (E : EncD g C 0 V q) (K : OkV V) (hf : f < vs V 1) (hd : d < vs V 2) : Cr g miX0_soonestOf 3 [.ref (od C 0 30), .int (nI f), .int (nI d)] C (some (.int (nI (soonV V f d) - nI 1))) := by
  refine Cr.start [some (.ref (od C 0 30)), some (.int (nI f)), some (.int (nI d)), none] plX0 rfl (Nat.le_of_ble_eq_true rfl) rfl ?_
  intro σ H
  have kb := K.b
  have kf_f := K.f hf
  have kd_d := K.d hd
  have kn_d := K.n (d := d) (by omega)
  have hst := stepsV_le K (f := f) (c := vt V 5 d) hf (by omega)
  have hbo : behO V f d ≤ 241 := behK_le K f (d := d) (by omega) _ (Nat.le_refl _)
  refine w_aload_n dX0_soonestOf_0 rfl ?_
  refine cr_call (mi := miX0_day) dX0_soonestOf_1 q886 okX0_day clX0 rfl (H.get (ce_X hx)) (Nat.le_of_ble_eq_true rfl) (kX0_day (C := C) hx h0) H rfl rfl (Nat.le_of_ble_eq_true rfl) ?_
  refine w_iload_n dX0_soonestOf_4 rfl ?_
  refine w_iload_n dX0_soonestOf_5 rfl ?_
  refine w_aload_n dX0_soonestOf_6 rfl ?_
  refine cr_call (mi := miX0_day) dX0_soonestOf_7 q886 okX0_day clX0 rfl (H.get (ce_X hx)) (Nat.le_of_ble_eq_true rfl) (kX0_day (C := C) hx h0) H rfl rfl (Nat.le_of_ble_eq_true rfl) ?_
  refine w_iload_n dX0_soonestOf_10 rfl ?_
  refine w_aload_n dX0_soonestOf_11 rfl ?_
  refine cr_call (mi := miX0_beach_2) dX0_soonestOf_12 q934 okX0_beach_2 clX0 rfl (H.get (ce_X hx)) (Nat.le_of_ble_eq_true rfl) (kX0_beach (C := C) hx h0) H rfl rfl (Nat.le_of_ble_eq_true rfl) ?_
  refine gX0_282 (C := C) dX0_soonestOf_15 rfl E H ?_
  refine w_iload_n dX0_soonestOf_18 rfl ?_
  refine ba_12 (C := C) dX0_soonestOf_19 E K (by omega) H ?_
  refine cr_call (mi := miX5_arrives) dX0_soonestOf_20 q1228 okX5_arrives clX5 rfl (H.get (ce_day h0)) (Nat.le_of_ble_eq_true rfl) (kX5_arrives (C := C) h0 E K (by first | assumption | omega) (by first | assumption | omega)) H rfl rfl (Nat.le_of_ble_eq_true rfl) ?_
  refine cr_call (mi := miX5_minute) dX0_soonestOf_23 q1229 okX5_minute clX5 rfl (H.get (ce_day h0)) (Nat.le_of_ble_eq_true rfl) (kX5_minute (C := C) h0 E K (by first | assumption | omega) (by first | assumption | omega) (by first | assumption | omega)) H rfl rfl (Nat.le_of_ble_eq_true rfl) ?_
  refine w_topN (show _ = nI (soonT V f d) from rfl) ?_
  have hso : soonT V f d ≤ 100000 := by unfold soonT; omega
  refine w_istore_n dX0_soonestOf_26 rfl (Nat.le_of_ble_eq_true rfl) ls_4_3 ?_
  refine w_aload_n dX0_soonestOf_27 rfl ?_
  refine cr_call (mi := miX0_day) dX0_soonestOf_28 q886 okX0_day clX0 rfl (H.get (ce_X hx)) (Nat.le_of_ble_eq_true rfl) (kX0_day (C := C) hx h0) H rfl rfl (Nat.le_of_ble_eq_true rfl) ?_
  refine w_iload_n dX0_soonestOf_31 rfl ?_
  refine cr_call (mi := miX5_isThere) dX0_soonestOf_32 q1183 okX5_isThere clX5 rfl (H.get (ce_day h0)) (Nat.le_of_ble_eq_true rfl) (kX5_isThere (C := C) h0 E K (by first | assumption | omega)) H rfl rfl (Nat.le_of_ble_eq_true rfl) ?_
  refine w_ifB_eq dX0_soonestOf_35 rfl (fun h_35 => ?_) (fun h_35 => ?_)
  · refine w_iconst (v := (-1)) dX0_soonestOf_65 ki_m1 ?_
    exact w_iret dX0_soonestOf_66 rfl ⟨by rw [soonV, if_neg h_35]; rfl, rfl⟩
  · refine w_iload_n dX0_soonestOf_38 rfl ?_
    refine w_aload_n dX0_soonestOf_39 rfl ?_
    refine cr_call (mi := miX0_day) dX0_soonestOf_40 q886 okX0_day clX0 rfl (H.get (ce_X hx)) (Nat.le_of_ble_eq_true rfl) (kX0_day (C := C) hx h0) H rfl rfl (Nat.le_of_ble_eq_true rfl) ?_
    refine gX0_245 (C := C) dX0_soonestOf_43 rfl h0 H ?_
    refine w_topN (E.ti) ?_
    refine w_icmpN_gt dX0_soonestOf_46 rfl (by omega) (by omega) (fun h_46 => ?_) (fun h_46 => ?_)
    · refine w_iconst (v := (-1)) dX0_soonestOf_65 ki_m1 ?_
      exact w_iret dX0_soonestOf_66 rfl ⟨by rw [soonV, if_pos h_35, if_pos (show vs V 3 < soonT V f d by omega), ite_self]; rfl, rfl⟩
    · refine w_aload_n dX0_soonestOf_49 rfl ?_
      refine cr_call (mi := miX0_day) dX0_soonestOf_50 q886 okX0_day clX0 rfl (H.get (ce_X hx)) (Nat.le_of_ble_eq_true rfl) (kX0_day (C := C) hx h0) H rfl rfl (Nat.le_of_ble_eq_true rfl) ?_
      refine gX0_271 (C := C) dX0_soonestOf_53 rfl h0 H ?_
      refine w_iload_n dX0_soonestOf_56 rfl ?_
      refine da_12 (C := C) dX0_soonestOf_57 h0 E (by omega) H ?_
      refine w_ifN_le dX0_soonestOf_58 rfl (by omega) (fun h_58 => ?_) (fun h_58 => ?_)
      · refine w_iconst (v := (-1)) dX0_soonestOf_65 ki_m1 ?_
        exact w_iret dX0_soonestOf_66 rfl ⟨by rw [soonV, if_pos h_35, if_pos (by omega)]; rfl, rfl⟩
      · refine w_iload_n dX0_soonestOf_61 rfl ?_
        refine w_goto dX0_soonestOf_62 rfl ?_
        exact w_iret dX0_soonestOf_66 rfl ⟨by rw [soonV, if_pos h_35, if_neg (by omega), if_neg (by omega), nI_dn], rfl⟩
set_option maxHeartbeats 4000000 in
theorem kX0_soonest {g : GG} {C : CS} {V : VS} {q : Nat → Nat} {x : Int32} {y : Int32} (hx : oO C 0 = true) (h0 : oO C 0 = true) (E : EncD g C 0 V q) (K : OkV V) : Cp g miX0_soonest 4 (0) (0) [.ref (od C 0 30), .int x, .int y] C (some (.int ((q_soonest V x y).1))) (fun C2 => C2 = uI C 0 30 7 (q_soonest V x y).2) := by
  refine Cp.start [some (.ref (od C 0 30)), some (.int x), some (.int y), none] plX0 rfl (Nat.le_of_ble_eq_true rfl) rfl ?_
  intro σ0 σ H F
  have kb := K.b
  refine w_aload_n dX0_soonest_0 rfl ?_
  refine w_aload_n dX0_soonest_1 rfl ?_
  refine w_iload_n dX0_soonest_2 rfl ?_
  refine w_iload_n dX0_soonest_3 rfl ?_
  refine cr_call (mi := miX0_areThere) dX0_soonest_4 q1073 okX0_areThere clX0 rfl (H.get (ce_X hx)) (Nat.le_of_ble_eq_true rfl) (kX0_areThere (C := C) hx h0 E K) H rfl rfl (Nat.le_of_ble_eq_true rfl) ?_
  refine w_ifB_eq dX0_soonest_7 rfl (fun h_7 => ?_) (fun h_7 => ?_)
  · refine w_iconst (v := nI 1) dX0_soonest_14 ki_1 ?_
    refine pX0_85 (C := C) dX0_soonest_15 rfl hx H F ?_
    intro σ H F
    have E := EncD.stH H E
    refine w_aload_n dX0_soonest_18 rfl ?_
    refine gst_85 dX0_soonest_19 rfl hx H ?_
    refine w_ifN_le dX0_soonest_22 rfl (by decide) (fun h_22 => ?_) (fun h_22 => ?_)
    · exact absurd (show _ from h_22) (by decide)
    refine w_iconst (v := (-1)) dX0_soonest_25 ki_m1 ?_
    exact w_iret dX0_soonest_26 rfl ⟨by first | rfl | (rw [q_soonest, if_neg (by assumption)]; rfl) | (rw [q_soonest, if_pos ⟨hx_f, hx_d⟩, hcl_f, hcl_d, if_pos h_36, h_36]; rfl) | (rw [q_soonest, if_pos ⟨hx_f, hx_d⟩, hcl_f, hcl_d, if_neg h_36]; exact congrArg (fun z => some (Value.int z)) (pk_sub (show 1 ≤ soonV V f d by omega))), _, by first | rfl | (rw [q_soonest, if_neg (by assumption)]; rfl) | (rw [q_soonest, if_pos ⟨hx_f, hx_d⟩, hcl_f, hcl_d, if_pos h_36]; rfl) | (rw [q_soonest, if_pos ⟨hx_f, hx_d⟩, hcl_f, hcl_d, if_neg h_36]; rfl), H, F⟩
  · have hx_f := h_7.1
    have hx_d := h_7.2
    obtain ⟨f, hf_f, rfl⟩ := inN_of hx_f (by omega)
    have hcl_f : cl (nI f) = f := nI_clamp (by omega)
    have kf_f := K.f hf_f
    obtain ⟨d, hf_d, rfl⟩ := inN_of hx_d (by omega)
    have hcl_d : cl (nI d) = d := nI_clamp (by omega)
    have kf_d := K.d hf_d
    have kn_d := K.n (d := d) (by omega)
    refine w_iconst (v := nI 0) dX0_soonest_10 ki_0 ?_
    refine w_goto dX0_soonest_11 rfl ?_
    refine pX0_85 (C := C) dX0_soonest_15 rfl hx H F ?_
    intro σ H F
    have E := EncD.stH H E
    refine w_aload_n dX0_soonest_18 rfl ?_
    refine gst_85 dX0_soonest_19 rfl hx H ?_
    refine w_ifN_le dX0_soonest_22 rfl (by decide) (fun h_22 => ?_) (fun h_22 => ?_)
    rotate_left
    · exact absurd (show _ from h_22) (by decide)
    refine w_aload_n dX0_soonest_27 rfl ?_
    refine w_iload_n dX0_soonest_28 rfl ?_
    refine w_iload_n dX0_soonest_29 rfl ?_
    refine cr_call (mi := miX0_soonestOf) dX0_soonest_30 q1224 okX0_soonestOf clX0 rfl (H.get (ce_X hx)) (Nat.le_of_ble_eq_true rfl) (kX0_soonestOf (C := uI (C) 0 30 7 _) hx h0 E K (by first | assumption | omega) (by first | assumption | omega)) H rfl rfl (Nat.le_of_ble_eq_true rfl) ?_
    have hso := soonV_le K f d
    refine w_istore_n dX0_soonest_33 rfl (Nat.le_of_ble_eq_true rfl) ls_4_3 ?_
    refine w_aload_n dX0_soonest_34 rfl ?_
    refine w_iload_n dX0_soonest_35 rfl ?_
    refine w_if_ge dX0_soonest_36 rfl (fun h_36 => ?_) (fun h_36 => ?_)
    · have h_36 : soonV V f d ≠ 0 := fun z => absurd ((dn_lt (by omega)).mpr z) (Int32.not_lt.mpr h_36)
      refine w_iconst (v := nI 0) dX0_soonest_44 ki_0 ?_
      refine pX0_85 (C := uI (C) 0 30 7 _) dX0_soonest_45 rfl hx H F ?_
      intro σ H F
      rw [uI_I] at H
      have E := EncD.stH H E
      refine w_iload_n dX0_soonest_48 rfl ?_
      exact w_iret dX0_soonest_49 rfl ⟨by first | rfl | (rw [q_soonest, if_neg (by assumption)]; rfl) | (rw [q_soonest, if_pos ⟨hx_f, hx_d⟩, hcl_f, hcl_d, if_pos h_36, h_36]; rfl) | (rw [q_soonest, if_pos ⟨hx_f, hx_d⟩, hcl_f, hcl_d, if_neg h_36]; exact congrArg (fun z => some (Value.int z)) (pk_sub (show 1 ≤ soonV V f d by omega))), _, by first | rfl | (rw [q_soonest, if_neg (by assumption)]; rfl) | (rw [q_soonest, if_pos ⟨hx_f, hx_d⟩, hcl_f, hcl_d, if_pos h_36]; rfl) | (rw [q_soonest, if_pos ⟨hx_f, hx_d⟩, hcl_f, hcl_d, if_neg h_36]; rfl), H, F⟩
    · have h_36 : soonV V f d = 0 := (dn_lt (by omega)).mp (Int32.not_le.mp h_36)
      refine w_bipush (v := nI 7) dX0_soonest_39 kb_7 ?_
      refine w_goto dX0_soonest_41 rfl ?_
      refine pX0_85 (C := uI (C) 0 30 7 _) dX0_soonest_45 rfl hx H F ?_
      intro σ H F
      rw [uI_I] at H
      have E := EncD.stH H E
      refine w_iload_n dX0_soonest_48 rfl ?_
      exact w_iret dX0_soonest_49 rfl ⟨by first | rfl | (rw [q_soonest, if_neg (by assumption)]; rfl) | (rw [q_soonest, if_pos ⟨hx_f, hx_d⟩, hcl_f, hcl_d, if_pos h_36, h_36]; rfl) | (rw [q_soonest, if_pos ⟨hx_f, hx_d⟩, hcl_f, hcl_d, if_neg h_36]; exact congrArg (fun z => some (Value.int z)) (pk_sub (show 1 ≤ soonV V f d by omega))), _, by first | rfl | (rw [q_soonest, if_neg (by assumption)]; rfl) | (rw [q_soonest, if_pos ⟨hx_f, hx_d⟩, hcl_f, hcl_d, if_pos h_36]; rfl) | (rw [q_soonest, if_pos ⟨hx_f, hx_d⟩, hcl_f, hcl_d, if_neg h_36]; rfl), H, F⟩
set_option maxHeartbeats 4000000 in
theorem kX0_threat {g : GG} {C : CS} {V : VS} {q : Nat → Nat} {x : Int32} (hx : oO C 0 = true) (h0 : oO C 0 = true) (E : EncD g C 0 V q) (K : OkV V) : Cp g miX0_threat 4 (0) (0) [.ref (od C 0 30), .int x] C (some (.int ((q_threat V x).1))) (fun C2 => C2 = uI C 0 30 7 (q_threat V x).2) := by
  refine Cp.start [some (.ref (od C 0 30)), some (.int x), none, none] plX0 rfl (Nat.le_of_ble_eq_true rfl) rfl ?_
  intro σ0 σ H F
  have kb := K.b
  have hwl := wfV_le V x
  refine w_aload_n dX0_threat_0 rfl ?_
  refine w_aload_n dX0_threat_1 rfl ?_
  refine w_iload_n dX0_threat_2 rfl ?_
  refine cr_call (mi := miX0_whyGone) dX0_threat_3 q1179 okX0_whyGone clX0 rfl (H.get (ce_X hx)) (Nat.le_of_ble_eq_true rfl) (kX0_whyGone (C := C) hx h0 E K) H rfl rfl (Nat.le_of_ble_eq_true rfl) ?_
  refine pX0_85 (C := C) dX0_threat_6 rfl hx H F ?_
  intro σ H F
  have E := EncD.stH H E
  refine w_aload_n dX0_threat_9 rfl ?_
  refine gst_85 dX0_threat_10 rfl hx H ?_
  refine w_ifN_le dX0_threat_13 rfl (by omega) (fun h_13 => ?_) (fun h_13 => ?_)
  · obtain ⟨hx_d, hth⟩ := wfV_0 (V := V) (x := x) (by omega)
    obtain ⟨d, hf_d, rfl⟩ := inN_of hx_d (by omega)
    have hcl_d : cl (nI d) = d := nI_clamp (by omega)
    have kf_d := K.d hf_d
    have kn_d := K.n (d := d) (by omega)
    rw [hcl_d] at hth
    have hw0 : wfV V (nI d) = 0 := by omega
    rw [hw0] at H E
    refine w_iconst (v := nI 0) dX0_threat_18 ki_0 ?_
    refine w_istore_n dX0_threat_19 rfl (Nat.le_of_ble_eq_true rfl) ls_4_2 ?_
    refine w_iconst (v := nI 0) dX0_threat_20 ki_0 ?_
    refine w_istore_n dX0_threat_21 rfl (Nat.le_of_ble_eq_true rfl) ls_4_3 ?_
    have lp : ∀ (j9 : Nat) (k : Nat), vs V 1 - k < j9 → k ≤ vs V 1 → Wp g (mtC g miX0_threat 4 (0) (0) σ0 (some (.int ((q_threat V (nI d)).1))) (fun C2 => C2 = uI C 0 30 7 (q_threat V (nI d)).2)) 0 0 22 [some (.ref (od C 0 30)), some (.int (nI d)), some (.int (nI (foldN (fun f s => s ||| if soonV V f d = 0 then 0 else 2 ^ f) 0 k))), some (.int (nI k))] [] σ := by
      intro j9
      induction j9 with
      | zero => intro k hmu hk_k; exact absurd hmu (Nat.not_lt_zero _)
      | succ j9 ih_lp =>
        intro k hmu hk_k
        refine w_iload_n dX0_threat_22 rfl ?_
        refine w_aload_n dX0_threat_23 rfl ?_
        refine cr_call (mi := miX0_beach_2) dX0_threat_24 q934 okX0_beach_2 clX0 rfl (H.get (ce_X hx)) (Nat.le_of_ble_eq_true rfl) (kX0_beach (C := uI (C) 0 30 7 _) hx h0) H rfl rfl (Nat.le_of_ble_eq_true rfl) ?_
        refine gX0_168 (C := uI (C) 0 30 7 _) dX0_threat_27 rfl E H ?_
        refine w_icmpN_ge dX0_threat_30 rfl (by omega) (by omega) (fun h_30 => ?_) (fun h_30 => ?_)
        · obtain rfl : k = vs V 1 := by omega
          refine w_iload_n dX0_threat_58 rfl ?_
          exact w_iret dX0_threat_59 rfl ⟨by first | rfl | (rw [q_threat, if_neg (by omega)]; rfl) | (rw [q_threat, if_pos hw0, hcl_d]; rfl), _, by first | rfl | (rw [q_threat, if_neg (by omega)]; rfl) | (rw [q_threat, if_pos hw0]; rfl), H, F⟩
        · refine w_iload_n dX0_threat_33 rfl ?_
          refine w_aload_n dX0_threat_34 rfl ?_
          refine w_iload_n dX0_threat_35 rfl ?_
          refine w_iload_n dX0_threat_36 rfl ?_
          refine cr_call (mi := miX0_soonestOf) dX0_threat_37 q1224 okX0_soonestOf clX0 rfl (H.get (ce_X hx)) (Nat.le_of_ble_eq_true rfl) (kX0_soonestOf (C := uI (C) 0 30 7 _) hx h0 E K (by first | assumption | omega) (by first | assumption | omega)) H rfl rfl (Nat.le_of_ble_eq_true rfl) ?_
          have hso := soonV_le K k d
          refine w_if_ge dX0_threat_40 rfl (fun h_40 => ?_) (fun h_40 => ?_)
          · have h_40 : soonV V k d ≠ 0 := fun z => absurd ((dn_lt (by omega)).mpr z) (Int32.not_lt.mpr h_40)
            refine w_iconst (v := nI 1) dX0_threat_47 ki_1 ?_
            refine w_iload_n dX0_threat_48 rfl ?_
            refine w_shl1N dX0_threat_49 (by omega) ?_
            refine w_iorN dX0_threat_50 ?_
            refine w_istore_n dX0_threat_51 rfl (Nat.le_of_ble_eq_true rfl) ls_4_2 ?_
            refine w_iinc dX0_threat_52 rfl (nI_inc _ 1) rfl (Nat.le_of_ble_eq_true rfl) ls_4_3 ?_
            refine w_goto dX0_threat_55 rfl ?_
            exact w_as (ih_lp (k + 1) (by omega) (by omega)) (by simp only [foldN_s]; (try split) <;> first | rfl | (exfalso; first | contradiction | omega | (simp_all; done))) rfl rfl
          · have h_40 : soonV V k d = 0 := (dn_lt (by omega)).mp (Int32.not_le.mp h_40)
            refine w_iconst (v := nI 0) dX0_threat_43 ki_0 ?_
            refine w_goto dX0_threat_44 rfl ?_
            refine w_iorN dX0_threat_50 ?_
            refine w_istore_n dX0_threat_51 rfl (Nat.le_of_ble_eq_true rfl) ls_4_2 ?_
            refine w_iinc dX0_threat_52 rfl (nI_inc _ 1) rfl (Nat.le_of_ble_eq_true rfl) ls_4_3 ?_
            refine w_goto dX0_threat_55 rfl ?_
            exact w_as (ih_lp (k + 1) (by omega) (by omega)) (by simp only [foldN_s]; (try split) <;> first | rfl | (exfalso; first | contradiction | omega | (simp_all; done))) rfl rfl
    exact lp (vs V 1 + 1) 0 (by omega) (by omega)
  · refine w_iconst (v := (-1)) dX0_threat_16 ki_m1 ?_
    exact w_iret dX0_threat_17 rfl ⟨by first | rfl | (rw [q_threat, if_neg (by omega)]; rfl) | (rw [q_threat, if_pos hw0, hcl_d]; rfl), _, by first | rfl | (rw [q_threat, if_neg (by omega)]; rfl) | (rw [q_threat, if_pos hw0]; rfl), H, F⟩
set_option maxHeartbeats 4000000 in
theorem kX0_seenBy {g : GG} {C : CS} {V : VS} {q : Nat → Nat} {f : Nat} {m : Nat} (hx : oO C 0 = true) (h0 : oO C 0 = true) (E : EncD g C 0 V q) (K : OkV V) (hf : f < vs V 1) (hm : m < 100) : Cr g miX0_seenBy 2 [.ref (od C 0 30), .int (nI f), .int (nI m)] C (some (.int (nI (seenV V f m)))) := by
  refine Cr.start [some (.ref (od C 0 30)), some (.int (nI f)), some (.int (nI m)), none, none] plX0 rfl (Nat.le_of_ble_eq_true rfl) rfl ?_
  intro σ H
  have kb := K.b
  have kf_f := K.f hf
  refine w_iconst (v := nI 0) dX0_seenBy_0 ki_0 ?_
  refine w_istore_n dX0_seenBy_1 rfl (Nat.le_of_ble_eq_true rfl) ls_5_3 ?_
  refine w_iconst (v := nI 0) dX0_seenBy_2 ki_0 ?_
  refine w_istore dX0_seenBy_3 rfl (Nat.le_of_ble_eq_true rfl) ls_5_4 ?_
  have lp : ∀ (j9 : Nat) (k : Nat), vs V 2 - k < j9 → k ≤ vs V 2 → Wp g (mtR g miX0_seenBy 2 σ (some (.int (nI (seenV V f m))))) 0 0 5 [some (.ref (od C 0 30)), some (.int (nI f)), some (.int (nI m)), some (.int (nI (foldN (fun d s => s ||| if isT V d ∧ nabs (vt V 5 d) (vt V 0 f) ≤ m then 2 ^ d else 0) 0 k))), some (.int (nI k))] [] σ := by
    intro j9
    induction j9 with
    | zero => intro k hmu hk_k; exact absurd hmu (Nat.not_lt_zero _)
    | succ j9 ih_lp =>
      intro k hmu hk_k
      refine w_iload dX0_seenBy_5 rfl ?_
      refine w_aload_n dX0_seenBy_7 rfl ?_
      refine cr_call (mi := miX0_beach_2) dX0_seenBy_8 q934 okX0_beach_2 clX0 rfl (H.get (ce_X hx)) (Nat.le_of_ble_eq_true rfl) (kX0_beach (C := C) hx h0) H rfl rfl (Nat.le_of_ble_eq_true rfl) ?_
      refine gX0_177 (C := C) dX0_seenBy_11 rfl E H ?_
      refine w_icmpN_ge dX0_seenBy_14 rfl (by omega) (by omega) (fun h_14 => ?_) (fun h_14 => ?_)
      · obtain rfl : k = vs V 2 := by omega
        refine w_iload_n dX0_seenBy_73 rfl ?_
        exact w_iret dX0_seenBy_74 rfl ⟨by rfl, rfl⟩
      · refine w_iload_n dX0_seenBy_17 rfl ?_
        refine w_aload_n dX0_seenBy_18 rfl ?_
        refine cr_call (mi := miX0_day) dX0_seenBy_19 q886 okX0_day clX0 rfl (H.get (ce_X hx)) (Nat.le_of_ble_eq_true rfl) (kX0_day (C := C) hx h0) H rfl rfl (Nat.le_of_ble_eq_true rfl) ?_
        refine w_iload dX0_seenBy_22 rfl ?_
        refine cr_call (mi := miX5_isThere) dX0_seenBy_24 q1183 okX5_isThere clX5 rfl (H.get (ce_day h0)) (Nat.le_of_ble_eq_true rfl) (kX5_isThere (C := C) h0 E K (by first | assumption | omega)) H rfl rfl (Nat.le_of_ble_eq_true rfl) ?_
        refine w_ifB_eq dX0_seenBy_27 rfl (fun h_27 => ?_) (fun h_27 => ?_)
        · refine w_iconst (v := nI 0) dX0_seenBy_64 ki_0 ?_
          refine w_iorN dX0_seenBy_65 ?_
          refine w_istore_n dX0_seenBy_66 rfl (Nat.le_of_ble_eq_true rfl) ls_5_3 ?_
          refine w_iinc dX0_seenBy_67 rfl (nI_inc _ 1) rfl (Nat.le_of_ble_eq_true rfl) ls_5_4 ?_
          refine w_goto dX0_seenBy_70 rfl ?_
          exact w_as (ih_lp (k + 1) (by omega) (by omega)) (by simp only [foldN_s]; (try split) <;> first | rfl | (exfalso; first | contradiction | omega | (simp_all; done))) rfl rfl
        · refine w_aload_n dX0_seenBy_30 rfl ?_
          refine cr_call (mi := miX0_beach_2) dX0_seenBy_31 q934 okX0_beach_2 clX0 rfl (H.get (ce_X hx)) (Nat.le_of_ble_eq_true rfl) (kX0_beach (C := C) hx h0) H rfl rfl (Nat.le_of_ble_eq_true rfl) ?_
          refine gX0_282 (C := C) dX0_seenBy_34 rfl E H ?_
          refine w_iload dX0_seenBy_37 rfl ?_
          refine ba_12 (C := C) dX0_seenBy_39 E K (by omega) H ?_
          refine w_aload_n dX0_seenBy_40 rfl ?_
          refine cr_call (mi := miX0_day) dX0_seenBy_41 q886 okX0_day clX0 rfl (H.get (ce_X hx)) (Nat.le_of_ble_eq_true rfl) (kX0_day (C := C) hx h0) H rfl rfl (Nat.le_of_ble_eq_true rfl) ?_
          refine gX0_265 (C := C) dX0_seenBy_44 rfl h0 H ?_
          refine w_iload_n dX0_seenBy_47 rfl ?_
          refine da_11 (C := C) dX0_seenBy_48 h0 E (by omega) H ?_
          refine w_isub dX0_seenBy_49 ?_
          refine w_mabs dX0_seenBy_50 q1253 q1058 q155 q1059 (Nat.le_of_ble_eq_true rfl) (Nat.le_of_ble_eq_true rfl) ?_
          refine w_topN (abs_n (by have := K.d (d := k) (by omega); omega) (by omega)) ?_
          have hn9 := nabs_le (vt V 5 k) (vt V 0 f) 40 (by have := K.d (d := k) (by omega); omega) (by omega)
          refine w_iload_n dX0_seenBy_53 rfl ?_
          refine w_icmpN_gt dX0_seenBy_54 rfl (by omega) (by omega) (fun h_54 => ?_) (fun h_54 => ?_)
          · refine w_iconst (v := nI 0) dX0_seenBy_64 ki_0 ?_
            refine w_iorN dX0_seenBy_65 ?_
            refine w_istore_n dX0_seenBy_66 rfl (Nat.le_of_ble_eq_true rfl) ls_5_3 ?_
            refine w_iinc dX0_seenBy_67 rfl (nI_inc _ 1) rfl (Nat.le_of_ble_eq_true rfl) ls_5_4 ?_
            refine w_goto dX0_seenBy_70 rfl ?_
            exact w_as (ih_lp (k + 1) (by omega) (by omega)) (by simp only [foldN_s]; (try split) <;> first | rfl | (exfalso; first | contradiction | omega | (simp_all; done))) rfl rfl
          · refine w_iconst (v := nI 1) dX0_seenBy_57 ki_1 ?_
            refine w_iload dX0_seenBy_58 rfl ?_
            refine w_shl1N dX0_seenBy_60 (by omega) ?_
            refine w_goto dX0_seenBy_61 rfl ?_
            refine w_iorN dX0_seenBy_65 ?_
            refine w_istore_n dX0_seenBy_66 rfl (Nat.le_of_ble_eq_true rfl) ls_5_3 ?_
            refine w_iinc dX0_seenBy_67 rfl (nI_inc _ 1) rfl (Nat.le_of_ble_eq_true rfl) ls_5_4 ?_
            refine w_goto dX0_seenBy_70 rfl ?_
            exact w_as (ih_lp (k + 1) (by omega) (by omega)) (by simp only [foldN_s]; (try split) <;> first | rfl | (exfalso; first | contradiction | omega | (simp_all; done))) rfl rfl
  exact lp (vs V 2 + 1) 0 (by omega) (by omega)
set_option maxHeartbeats 4000000 in
theorem kX0_seen {g : GG} {C : CS} {V : VS} {q : Nat → Nat} {x : Int32} {y : Int32} (hx : oO C 0 = true) (h0 : oO C 0 = true) (E : EncD g C 0 V q) (K : OkV V) : Cp g miX0_seen 3 (0) (0) [.ref (od C 0 30), .int x, .int y] C (some (.int ((q_seen V x y).1))) (fun C2 => C2 = uI C 0 30 7 (q_seen V x y).2) := by
  refine Cp.start [some (.ref (od C 0 30)), some (.int x), some (.int y)] plX0 rfl (Nat.le_of_ble_eq_true rfl) rfl ?_
  intro σ0 σ H F
  have kb := K.b
  refine w_aload_n dX0_seen_0 rfl ?_
  refine w_aload_n dX0_seen_1 rfl ?_
  refine w_iload_n dX0_seen_2 rfl ?_
  refine cr_call (mi := miX0_isFinder) dX0_seen_3 q1027 okX0_isFinder clX0 rfl (H.get (ce_X hx)) (Nat.le_of_ble_eq_true rfl) (kX0_isFinder (C := C) hx h0 E K) H rfl rfl (Nat.le_of_ble_eq_true rfl) ?_
  refine w_ifB_eq dX0_seen_6 rfl (fun h_6 => ?_) (fun h_6 => ?_)
  · refine w_iconst (v := nI 1) dX0_seen_25 ki_1 ?_
    refine pX0_85 (C := C) dX0_seen_26 rfl hx H F ?_
    intro σ H F
    have E := EncD.stH H E
    refine w_aload_n dX0_seen_29 rfl ?_
    refine gst_85 dX0_seen_30 rfl hx H ?_
    refine w_ifN_le dX0_seen_33 rfl (by decide) (fun h_33 => ?_) (fun h_33 => ?_)
    · exact absurd (show _ from h_33) (by decide)
    refine w_iconst (v := (-1)) dX0_seen_36 ki_m1 ?_
    refine w_goto dX0_seen_37 rfl ?_
    exact w_iret dX0_seen_46 rfl ⟨by first | rfl | (unfold q_seen; (try simp only [hcl_f, hcl_m]); (repeat' split) <;> first | rfl | contradiction | omega | (exfalso; simp_all; done)), _, by first | rfl | (unfold q_seen; (try simp only [hcl_f, hcl_m]); (repeat' split) <;> first | rfl | contradiction | omega | (exfalso; simp_all; done)), H, F⟩
  · have hx_f := h_6
    obtain ⟨f, hf_f, rfl⟩ := inN_of h_6 (by omega)
    have hcl_f : cl (nI f) = f := nI_clamp (by omega)
    have kf_f := K.f hf_f
    refine w_iload_n dX0_seen_9 rfl ?_
    refine w_i2l dX0_seen_10 rfl ?_
    refine w_lconst (v := 0) dX0_seen_11 rfl ?_
    refine w_ldc2 dX0_seen_12 q1122 ?_
    refine cs_call (mi := miX0_isIn) dX0_seen_15 q1016 okX0_isIn (Nat.le_of_ble_eq_true rfl) (kX0_isIn0 (m := 40) (by first | assumption | omega)) rfl rfl (Nat.le_of_ble_eq_true rfl) ?_
    refine w_ifB_eq dX0_seen_18 rfl (fun h_18 => ?_) (fun h_18 => ?_)
    · refine w_iconst (v := nI 1) dX0_seen_25 ki_1 ?_
      refine pX0_85 (C := C) dX0_seen_26 rfl hx H F ?_
      intro σ H F
      have E := EncD.stH H E
      refine w_aload_n dX0_seen_29 rfl ?_
      refine gst_85 dX0_seen_30 rfl hx H ?_
      refine w_ifN_le dX0_seen_33 rfl (by decide) (fun h_33 => ?_) (fun h_33 => ?_)
      · exact absurd (show _ from h_33) (by decide)
      refine w_iconst (v := (-1)) dX0_seen_36 ki_m1 ?_
      refine w_goto dX0_seen_37 rfl ?_
      exact w_iret dX0_seen_46 rfl ⟨by first | rfl | (unfold q_seen; (try simp only [hcl_f, hcl_m]); (repeat' split) <;> first | rfl | contradiction | omega | (exfalso; simp_all; done)), _, by first | rfl | (unfold q_seen; (try simp only [hcl_f, hcl_m]); (repeat' split) <;> first | rfl | contradiction | omega | (exfalso; simp_all; done)), H, F⟩
    · have hx_m := h_18
      obtain ⟨m, hf_m, rfl⟩ := inN_of h_18 (by omega)
      have hcl_m : cl (nI m) = m := nI_clamp (by omega)
      refine w_iconst (v := nI 0) dX0_seen_21 ki_0 ?_
      refine w_goto dX0_seen_22 rfl ?_
      refine pX0_85 (C := C) dX0_seen_26 rfl hx H F ?_
      intro σ H F
      have E := EncD.stH H E
      refine w_aload_n dX0_seen_29 rfl ?_
      refine gst_85 dX0_seen_30 rfl hx H ?_
      refine w_ifN_le dX0_seen_33 rfl (by decide) (fun h_33 => ?_) (fun h_33 => ?_)
      rotate_left
      · exact absurd (show _ from h_33) (by decide)
      refine w_aload_n dX0_seen_40 rfl ?_
      refine w_iload_n dX0_seen_41 rfl ?_
      refine w_iload_n dX0_seen_42 rfl ?_
      refine cr_call (mi := miX0_seenBy) dX0_seen_43 q1266 okX0_seenBy clX0 rfl (H.get (ce_X hx)) (Nat.le_of_ble_eq_true rfl) (kX0_seenBy (C := uI (C) 0 30 7 _) hx h0 E K (by first | assumption | omega) (by first | assumption | omega)) H rfl rfl (Nat.le_of_ble_eq_true rfl) ?_
      exact w_iret dX0_seen_46 rfl ⟨by first | rfl | (unfold q_seen; (try simp only [hcl_f, hcl_m]); (repeat' split) <;> first | rfl | contradiction | omega | (exfalso; simp_all; done)), _, by first | rfl | (unfold q_seen; (try simp only [hcl_f, hcl_m]); (repeat' split) <;> first | rfl | contradiction | omega | (exfalso; simp_all; done)), H, F⟩
set_option maxHeartbeats 4000000 in
theorem kX0_walk {g : GG} {C : CS} {V : VS} {q : Nat → Nat} {x : Int32} {y : Int32} (hx : oO C 0 = true) (h0 : oO C 0 = true) (E : EncD g C 0 V q) (K : OkV V) : Cp g miX0_walk 4 (0) (0) [.ref (od C 0 30), .int x, .int y] C (some (.int ((q_walk V x y).1))) (fun C2 => C2 = uI C 0 30 7 (q_walk V x y).2) := by
  refine Cp.start [some (.ref (od C 0 30)), some (.int x), some (.int y)] plX0 rfl (Nat.le_of_ble_eq_true rfl) rfl ?_
  intro σ0 σ H F
  have kb := K.b
  refine w_aload_n dX0_walk_0 rfl ?_
  refine w_aload_n dX0_walk_1 rfl ?_
  refine w_iload_n dX0_walk_2 rfl ?_
  refine w_iload_n dX0_walk_3 rfl ?_
  refine cr_call (mi := miX0_areThere) dX0_walk_4 q1073 okX0_areThere clX0 rfl (H.get (ce_X hx)) (Nat.le_of_ble_eq_true rfl) (kX0_areThere (C := C) hx h0 E K) H rfl rfl (Nat.le_of_ble_eq_true rfl) ?_
  refine w_ifB_eq dX0_walk_7 rfl (fun h_7 => ?_) (fun h_7 => ?_)
  · refine w_iconst (v := nI 1) dX0_walk_14 ki_1 ?_
    refine pX0_85 (C := C) dX0_walk_15 rfl hx H F ?_
    intro σ H F
    have E := EncD.stH H E
    refine w_aload_n dX0_walk_18 rfl ?_
    refine gst_85 dX0_walk_19 rfl hx H ?_
    refine w_ifN_le dX0_walk_22 rfl (by decide) (fun h_22 => ?_) (fun h_22 => ?_)
    · exact absurd (show _ from h_22) (by decide)
    refine w_iconst (v := (-1)) dX0_walk_25 ki_m1 ?_
    refine w_goto dX0_walk_26 rfl ?_
    exact w_iret dX0_walk_56 rfl ⟨by first | rfl | (unfold q_walk; (try simp only [hcl_f, hcl_d]); (repeat' split) <;> first | rfl | contradiction | omega | (exfalso; simp_all; done)), _, by first | rfl | (unfold q_walk; (try simp only [hcl_f, hcl_d]); (repeat' split) <;> first | rfl | contradiction | omega | (exfalso; simp_all; done)), H, F⟩
  · have hx_f := h_7.1
    have hx_d := h_7.2
    obtain ⟨f, hf_f, rfl⟩ := inN_of hx_f (by omega)
    have hcl_f : cl (nI f) = f := nI_clamp (by omega)
    have kf_f := K.f hf_f
    obtain ⟨d, hf_d, rfl⟩ := inN_of hx_d (by omega)
    have hcl_d : cl (nI d) = d := nI_clamp (by omega)
    have kf_d := K.d hf_d
    have kn_d := K.n (d := d) (by omega)
    refine w_iconst (v := nI 0) dX0_walk_10 ki_0 ?_
    refine w_goto dX0_walk_11 rfl ?_
    refine pX0_85 (C := C) dX0_walk_15 rfl hx H F ?_
    intro σ H F
    have E := EncD.stH H E
    refine w_aload_n dX0_walk_18 rfl ?_
    refine gst_85 dX0_walk_19 rfl hx H ?_
    refine w_ifN_le dX0_walk_22 rfl (by decide) (fun h_22 => ?_) (fun h_22 => ?_)
    rotate_left
    · exact absurd (show _ from h_22) (by decide)
    refine w_aload_n dX0_walk_29 rfl ?_
    refine cr_call (mi := miX0_day) dX0_walk_30 q886 okX0_day clX0 rfl (H.get (ce_X hx)) (Nat.le_of_ble_eq_true rfl) (kX0_day (C := uI (C) 0 30 7 _) hx h0) H rfl rfl (Nat.le_of_ble_eq_true rfl) ?_
    refine w_iload_n dX0_walk_33 rfl ?_
    refine w_aload_n dX0_walk_34 rfl ?_
    refine cr_call (mi := miX0_beach_2) dX0_walk_35 q934 okX0_beach_2 clX0 rfl (H.get (ce_X hx)) (Nat.le_of_ble_eq_true rfl) (kX0_beach (C := uI (C) 0 30 7 _) hx h0) H rfl rfl (Nat.le_of_ble_eq_true rfl) ?_
    refine gX0_282 (C := uI (C) 0 30 7 _) dX0_walk_38 rfl E H ?_
    refine w_iload_n dX0_walk_41 rfl ?_
    refine ba_12 (C := uI (C) 0 30 7 _) dX0_walk_42 E K (by omega) H ?_
    refine cr_call (mi := miX5_arrives) dX0_walk_43 q1228 okX5_arrives clX5 rfl (H.get (ce_day h0)) (Nat.le_of_ble_eq_true rfl) (kX5_arrives (C := uI (C) 0 30 7 _) h0 E K (by first | assumption | omega) (by omega)) H rfl rfl (Nat.le_of_ble_eq_true rfl) ?_
    refine w_aload_n dX0_walk_46 rfl ?_
    refine cr_call (mi := miX0_day) dX0_walk_47 q886 okX0_day clX0 rfl (H.get (ce_X hx)) (Nat.le_of_ble_eq_true rfl) (kX0_day (C := uI (C) 0 30 7 _) hx h0) H rfl rfl (Nat.le_of_ble_eq_true rfl) ?_
    refine gX0_274 (C := uI (C) 0 30 7 _) dX0_walk_50 rfl h0 H ?_
    refine w_iload_n dX0_walk_53 rfl ?_
    refine da_13 (C := uI (C) 0 30 7 _) dX0_walk_54 h0 E (by omega) H ?_
    have hst := stepsV_le K (f := f) (c := vt V 5 d) hf_f (by omega)
    refine w_isubN dX0_walk_55 (by omega) ?_
    refine w_topN (n := stepsV V f (vt V 5 d)) (congrArg nI (by omega)) ?_
    exact w_iret dX0_walk_56 rfl ⟨by first | rfl | (unfold q_walk; (try simp only [hcl_f, hcl_d]); (repeat' split) <;> first | rfl | contradiction | omega | (exfalso; simp_all; done)), _, by first | rfl | (unfold q_walk; (try simp only [hcl_f, hcl_d]); (repeat' split) <;> first | rfl | contradiction | omega | (exfalso; simp_all; done)), H, F⟩
set_option maxHeartbeats 4000000 in
theorem kX0_rivals {g : GG} {C : CS} {V : VS} {q : Nat → Nat} {x : Int32} {y : Int32} (hx : oO C 0 = true) (h0 : oO C 0 = true) (E : EncD g C 0 V q) (K : OkV V) : Cp g miX0_rivals 3 (0) (0) [.ref (od C 0 30), .int x, .int y] C (some (.int ((q_rivals V x y).1))) (fun C2 => C2 = uI C 0 30 7 (q_rivals V x y).2) := by
  refine Cp.start [some (.ref (od C 0 30)), some (.int x), some (.int y), none, none] plX0 rfl (Nat.le_of_ble_eq_true rfl) rfl ?_
  intro σ0 σ H F
  have kb := K.b
  refine w_aload_n dX0_rivals_0 rfl ?_
  refine w_aload_n dX0_rivals_1 rfl ?_
  refine w_iload_n dX0_rivals_2 rfl ?_
  refine cr_call (mi := miX0_isFinder) dX0_rivals_3 q1027 okX0_isFinder clX0 rfl (H.get (ce_X hx)) (Nat.le_of_ble_eq_true rfl) (kX0_isFinder (C := C) hx h0 E K) H rfl rfl (Nat.le_of_ble_eq_true rfl) ?_
  refine w_ifB_eq dX0_rivals_6 rfl (fun h_6 => ?_) (fun h_6 => ?_)
  · refine w_iconst (v := nI 1) dX0_rivals_26 ki_1 ?_
    refine pX0_85 (C := C) dX0_rivals_27 rfl hx H F ?_
    intro σ H F
    have E := EncD.stH H E
    refine w_aload_n dX0_rivals_30 rfl ?_
    refine gst_85 dX0_rivals_31 rfl hx H ?_
    refine w_ifN_le dX0_rivals_34 rfl (by decide) (fun h_34 => ?_) (fun h_34 => ?_)
    · exact absurd (show _ from h_34) (by decide)
    refine w_iconst (v := (-1)) dX0_rivals_37 ki_m1 ?_
    exact w_iret dX0_rivals_38 rfl ⟨by first | rfl | (rw [q_rivals, if_neg (fun z => h_6 z.1)]; rfl) | (rw [q_rivals, if_neg (fun z => h_14 z.2.1)]; rfl) | (rw [q_rivals, if_neg (fun z => z.2.2 (by rw [hne]))]; rfl) | (rw [q_rivals, if_pos ⟨hx_f, hx_h, hne⟩, hcl_f, hcl_h]; rfl), _, by first | rfl | (rw [q_rivals, if_neg (fun z => h_6 z.1)]; rfl) | (rw [q_rivals, if_neg (fun z => h_14 z.2.1)]; rfl) | (rw [q_rivals, if_neg (fun z => z.2.2 (by rw [hne]))]; rfl) | (rw [q_rivals, if_pos ⟨hx_f, hx_h, hne⟩]; rfl), H, F⟩
  · have hx_f := h_6
    obtain ⟨f, hf_f, rfl⟩ := inN_of h_6 (by omega)
    have hcl_f : cl (nI f) = f := nI_clamp (by omega)
    have kf_f := K.f hf_f
    refine w_aload_n dX0_rivals_9 rfl ?_
    refine w_iload_n dX0_rivals_10 rfl ?_
    refine cr_call (mi := miX0_isFinder) dX0_rivals_11 q1027 okX0_isFinder clX0 rfl (H.get (ce_X hx)) (Nat.le_of_ble_eq_true rfl) (kX0_isFinder (C := C) hx h0 E K) H rfl rfl (Nat.le_of_ble_eq_true rfl) ?_
    refine w_ifB_eq dX0_rivals_14 rfl (fun h_14 => ?_) (fun h_14 => ?_)
    · refine w_iconst (v := nI 1) dX0_rivals_26 ki_1 ?_
      refine pX0_85 (C := C) dX0_rivals_27 rfl hx H F ?_
      intro σ H F
      have E := EncD.stH H E
      refine w_aload_n dX0_rivals_30 rfl ?_
      refine gst_85 dX0_rivals_31 rfl hx H ?_
      refine w_ifN_le dX0_rivals_34 rfl (by decide) (fun h_34 => ?_) (fun h_34 => ?_)
      · exact absurd (show _ from h_34) (by decide)
      refine w_iconst (v := (-1)) dX0_rivals_37 ki_m1 ?_
      exact w_iret dX0_rivals_38 rfl ⟨by first | rfl | (rw [q_rivals, if_neg (fun z => h_6 z.1)]; rfl) | (rw [q_rivals, if_neg (fun z => h_14 z.2.1)]; rfl) | (rw [q_rivals, if_neg (fun z => z.2.2 (by rw [hne]))]; rfl) | (rw [q_rivals, if_pos ⟨hx_f, hx_h, hne⟩, hcl_f, hcl_h]; rfl), _, by first | rfl | (rw [q_rivals, if_neg (fun z => h_6 z.1)]; rfl) | (rw [q_rivals, if_neg (fun z => h_14 z.2.1)]; rfl) | (rw [q_rivals, if_neg (fun z => z.2.2 (by rw [hne]))]; rfl) | (rw [q_rivals, if_pos ⟨hx_f, hx_h, hne⟩]; rfl), H, F⟩
    · have hx_h := h_14
      obtain ⟨h, hf_h, rfl⟩ := inN_of h_14 (by omega)
      have hcl_h : cl (nI h) = h := nI_clamp (by omega)
      have kf_h := K.f hf_h
      refine w_iload_n dX0_rivals_17 rfl ?_
      refine w_iload_n dX0_rivals_18 rfl ?_
      refine w_icmpN_eq dX0_rivals_19 rfl (by omega) (by omega) (fun h_19 => ?_) (fun h_19 => ?_)
      · have hne : f = h := h_19
        refine w_iconst (v := nI 1) dX0_rivals_26 ki_1 ?_
        refine pX0_85 (C := C) dX0_rivals_27 rfl hx H F ?_
        intro σ H F
        have E := EncD.stH H E
        refine w_aload_n dX0_rivals_30 rfl ?_
        refine gst_85 dX0_rivals_31 rfl hx H ?_
        refine w_ifN_le dX0_rivals_34 rfl (by decide) (fun h_34 => ?_) (fun h_34 => ?_)
        · exact absurd (show _ from h_34) (by decide)
        refine w_iconst (v := (-1)) dX0_rivals_37 ki_m1 ?_
        exact w_iret dX0_rivals_38 rfl ⟨by first | rfl | (rw [q_rivals, if_neg (fun z => h_6 z.1)]; rfl) | (rw [q_rivals, if_neg (fun z => h_14 z.2.1)]; rfl) | (rw [q_rivals, if_neg (fun z => z.2.2 (by rw [hne]))]; rfl) | (rw [q_rivals, if_pos ⟨hx_f, hx_h, hne⟩, hcl_f, hcl_h]; rfl), _, by first | rfl | (rw [q_rivals, if_neg (fun z => h_6 z.1)]; rfl) | (rw [q_rivals, if_neg (fun z => h_14 z.2.1)]; rfl) | (rw [q_rivals, if_neg (fun z => z.2.2 (by rw [hne]))]; rfl) | (rw [q_rivals, if_pos ⟨hx_f, hx_h, hne⟩]; rfl), H, F⟩
      · have hne : nI f ≠ nI h := fun z => h_19 ((nI_eq (by omega) (by omega)).mp z)
        refine w_iconst (v := nI 0) dX0_rivals_22 ki_0 ?_
        refine w_goto dX0_rivals_23 rfl ?_
        refine pX0_85 (C := C) dX0_rivals_27 rfl hx H F ?_
        intro σ H F
        have E := EncD.stH H E
        refine w_aload_n dX0_rivals_30 rfl ?_
        refine gst_85 dX0_rivals_31 rfl hx H ?_
        refine w_ifN_le dX0_rivals_34 rfl (by decide) (fun h_34 => ?_) (fun h_34 => ?_)
        rotate_left
        · exact absurd (show _ from h_34) (by decide)
        refine w_iconst (v := nI 0) dX0_rivals_39 ki_0 ?_
        refine w_istore_n dX0_rivals_40 rfl (Nat.le_of_ble_eq_true rfl) ls_5_3 ?_
        refine w_iconst (v := nI 0) dX0_rivals_41 ki_0 ?_
        refine w_istore dX0_rivals_42 rfl (Nat.le_of_ble_eq_true rfl) ls_5_4 ?_
        have lp : ∀ (j9 : Nat) (k : Nat), vs V 2 - k < j9 → k ≤ vs V 2 → Wp g (mtC g miX0_rivals 3 (0) (0) σ0 (some (.int ((q_rivals V (nI f) (nI h)).1))) (fun C2 => C2 = uI C 0 30 7 (q_rivals V (nI f) (nI h)).2)) 0 0 44 [some (.ref (od C 0 30)), some (.int (nI f)), some (.int (nI h)), some (.int (nI (foldN (fun d s => s ||| if 0 < ownV V d f ∧ 0 < ownV V d h then 2 ^ d else 0) 0 k))), some (.int (nI k))] [] σ := by
          intro j9
          induction j9 with
          | zero => intro k hmu hk_k; exact absurd hmu (Nat.not_lt_zero _)
          | succ j9 ih_lp =>
            intro k hmu hk_k
            refine w_iload dX0_rivals_44 rfl ?_
            refine w_aload_n dX0_rivals_46 rfl ?_
            refine cr_call (mi := miX0_beach_2) dX0_rivals_47 q934 okX0_beach_2 clX0 rfl (H.get (ce_X hx)) (Nat.le_of_ble_eq_true rfl) (kX0_beach (C := uI (C) 0 30 7 _) hx h0) H rfl rfl (Nat.le_of_ble_eq_true rfl) ?_
            refine gX0_177 (C := uI (C) 0 30 7 _) dX0_rivals_50 rfl E H ?_
            refine w_icmpN_ge dX0_rivals_53 rfl (by omega) (by omega) (fun h_53 => ?_) (fun h_53 => ?_)
            · obtain rfl : k = vs V 2 := by omega
              refine w_iload_n dX0_rivals_107 rfl ?_
              exact w_iret dX0_rivals_108 rfl ⟨by first | rfl | (rw [q_rivals, if_neg (fun z => h_6 z.1)]; rfl) | (rw [q_rivals, if_neg (fun z => h_14 z.2.1)]; rfl) | (rw [q_rivals, if_neg (fun z => z.2.2 (by rw [hne]))]; rfl) | (rw [q_rivals, if_pos ⟨hx_f, hx_h, hne⟩, hcl_f, hcl_h]; rfl), _, by first | rfl | (rw [q_rivals, if_neg (fun z => h_6 z.1)]; rfl) | (rw [q_rivals, if_neg (fun z => h_14 z.2.1)]; rfl) | (rw [q_rivals, if_neg (fun z => z.2.2 (by rw [hne]))]; rfl) | (rw [q_rivals, if_pos ⟨hx_f, hx_h, hne⟩]; rfl), H, F⟩
            · refine w_iload_n dX0_rivals_56 rfl ?_
              refine w_aload_n dX0_rivals_57 rfl ?_
              refine cr_call (mi := miX0_day) dX0_rivals_58 q886 okX0_day clX0 rfl (H.get (ce_X hx)) (Nat.le_of_ble_eq_true rfl) (kX0_day (C := uI (C) 0 30 7 _) hx h0) H rfl rfl (Nat.le_of_ble_eq_true rfl) ?_
              refine gX0_288 (C := uI (C) 0 30 7 _) dX0_rivals_61 rfl h0 H ?_
              refine w_iload dX0_rivals_64 rfl ?_
              refine ga_heaps (C := uI (C) 0 30 7 _) dX0_rivals_66 h0 (by omega) H ?_
              refine w_iload_n dX0_rivals_67 rfl ?_
              refine cr_call (mi := miX7_many) dX0_rivals_68 q1216 okX7_many clX7 rfl (H.get (ce_heap (on8 h0 (by omega)))) (Nat.le_of_ble_eq_true rfl) (kX7_many (C := uI (C) 0 30 7 _) (on8 h0 (by omega)) (E.h (d := k) (by omega)) (by intro k9 hk9; have h9 := (K.p (d := k) (by omega) hk9).1; omega) (by first | assumption | omega)) H rfl rfl (Nat.le_of_ble_eq_true rfl) ?_
              have ho1 := ownV_le K (d := k) (by omega) f
              have ho2 := ownV_le K (d := k) (by omega) h
              refine w_topN (show _ = nI (ownV V k f) from rfl) ?_
              refine w_ifN_le dX0_rivals_71 rfl (by have := ownV_le K (d := k) (by omega) f; exact Nat.lt_of_le_of_lt this (by have := K.n (d := k) (by omega); omega)) (fun h_71 => ?_) (fun h_71 => ?_)
              · refine w_iconst (v := nI 0) dX0_rivals_98 ki_0 ?_
                refine w_iorN dX0_rivals_99 ?_
                refine w_istore_n dX0_rivals_100 rfl (Nat.le_of_ble_eq_true rfl) ls_5_3 ?_
                refine w_iinc dX0_rivals_101 rfl (nI_inc _ 1) rfl (Nat.le_of_ble_eq_true rfl) ls_5_4 ?_
                refine w_goto dX0_rivals_104 rfl ?_
                exact w_as (ih_lp (k + 1) (by omega) (by omega)) (by simp only [foldN_s]; (try split) <;> first | rfl | (exfalso; first | contradiction | omega | (simp_all; done))) rfl rfl
              · refine w_aload_n dX0_rivals_74 rfl ?_
                refine cr_call (mi := miX0_day) dX0_rivals_75 q886 okX0_day clX0 rfl (H.get (ce_X hx)) (Nat.le_of_ble_eq_true rfl) (kX0_day (C := uI (C) 0 30 7 _) hx h0) H rfl rfl (Nat.le_of_ble_eq_true rfl) ?_
                refine gX0_288 (C := uI (C) 0 30 7 _) dX0_rivals_78 rfl h0 H ?_
                refine w_iload dX0_rivals_81 rfl ?_
                refine ga_heaps (C := uI (C) 0 30 7 _) dX0_rivals_83 h0 (by omega) H ?_
                refine w_iload_n dX0_rivals_84 rfl ?_
                refine cr_call (mi := miX7_many) dX0_rivals_85 q1216 okX7_many clX7 rfl (H.get (ce_heap (on8 h0 (by omega)))) (Nat.le_of_ble_eq_true rfl) (kX7_many (C := uI (C) 0 30 7 _) (on8 h0 (by omega)) (E.h (d := k) (by omega)) (by intro k9 hk9; have h9 := (K.p (d := k) (by omega) hk9).1; omega) (by first | assumption | omega)) H rfl rfl (Nat.le_of_ble_eq_true rfl) ?_
                refine w_topN (show _ = nI (ownV V k h) from rfl) ?_
                refine w_ifN_le dX0_rivals_88 rfl (by have := K.n (d := k) (by omega); omega) (fun h_88 => ?_) (fun h_88 => ?_)
                · refine w_iconst (v := nI 0) dX0_rivals_98 ki_0 ?_
                  refine w_iorN dX0_rivals_99 ?_
                  refine w_istore_n dX0_rivals_100 rfl (Nat.le_of_ble_eq_true rfl) ls_5_3 ?_
                  refine w_iinc dX0_rivals_101 rfl (nI_inc _ 1) rfl (Nat.le_of_ble_eq_true rfl) ls_5_4 ?_
                  refine w_goto dX0_rivals_104 rfl ?_
                  exact w_as (ih_lp (k + 1) (by omega) (by omega)) (by simp only [foldN_s]; (try split) <;> first | rfl | (exfalso; first | contradiction | omega | (simp_all; done))) rfl rfl
                · refine w_iconst (v := nI 1) dX0_rivals_91 ki_1 ?_
                  refine w_iload dX0_rivals_92 rfl ?_
                  refine w_shl1N dX0_rivals_94 (by omega) ?_
                  refine w_goto dX0_rivals_95 rfl ?_
                  refine w_iorN dX0_rivals_99 ?_
                  refine w_istore_n dX0_rivals_100 rfl (Nat.le_of_ble_eq_true rfl) ls_5_3 ?_
                  refine w_iinc dX0_rivals_101 rfl (nI_inc _ 1) rfl (Nat.le_of_ble_eq_true rfl) ls_5_4 ?_
                  refine w_goto dX0_rivals_104 rfl ?_
                  exact w_as (ih_lp (k + 1) (by omega) (by omega)) (by simp only [foldN_s]; (try split) <;> first | rfl | (exfalso; first | contradiction | omega | (simp_all; done))) rfl rfl
        exact lp (vs V 2 + 1) 0 (by omega) (by omega)
