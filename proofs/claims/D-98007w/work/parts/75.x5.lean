set_option maxRecDepth 100000
theorem isIn_nn {a b c : Nat} (ha : a < 1000000) (hb : b < 1000000) (hc : c < 1000000) : (¬ lg_cmp (nI a).toInt64 (nI b).toInt64 < 0 ∧ ¬ 0 < lg_cmp (nI a).toInt64 (nI c).toInt64) ↔ b ≤ a ∧ a ≤ c := by
  rw [nI_l2 hb, nI_l2 hc, long_ge hb, long_le hc, Int32.not_lt, Int32.not_le, Int32.le_iff_toInt_le, Int32.lt_iff_toInt_lt, nI_toInt (by omega), nI_toInt (by omega), nI_toInt (by omega)]
  omega
theorem kX0_isInNN {g : GG} {a b c : Nat} (ha : a < 1000000) (hb : b < 1000000) (hc : c < 1000000) : Ms g miX0_isIn 1 [.long (nI a).toInt64, .long (nI b).toInt64, .long (nI c).toInt64] (some (.int (bP (b ≤ a ∧ a ≤ c)))) := by
  have h := kX0_isIn (g := g) (x := (nI a).toInt64) (y := (nI b).toInt64) (z := (nI c).toInt64)
  have e : bP (¬ lg_cmp (nI a).toInt64 (nI b).toInt64 < 0 ∧ ¬ 0 < lg_cmp (nI a).toInt64 (nI c).toInt64) = bP (b ≤ a ∧ a ≤ c) := by
    unfold bP
    simp only [isIn_nn ha hb hc]
  rw [e] at h
  exact h
theorem out_tab {x : Int32} {n : Nat} (h : ¬ inN x (n + 1)) (hn : n < 1000000) : x.toInt < 0 ∨ (n : Int) < x.toInt := by
  rw [inN_iff, Int32.not_lt, Int32.not_le, Int32.le_iff_toInt_le, Int32.lt_iff_toInt_lt, nI_toInt (by omega), Int32.toInt_zero] at h
  omega
set_option maxHeartbeats 4000000 in
theorem kX0_crowd {g : GG} {C : CS} {V : VS} {q : Nat → Nat} {x : Int32} (hx : oO C 0 = true) (h0 : oO C 0 = true) (E : EncD g C 0 V q) (K : OkV V) : Cp g miX0_crowd 2 (0) (0) [.ref (od C 0 30), .int x] C (some (.int ((q_crowd V x).1))) (fun C2 => C2 = uI C 0 30 7 (q_crowd V x).2) := by
  refine Cp.start [some (.ref (od C 0 30)), some (.int x), none, none, none, none] plX0 rfl (Nat.le_of_ble_eq_true rfl) rfl ?_
  intro σ0 σ H F
  have kb := K.b
  refine w_aload_n dX0_crowd_0 rfl ?_
  refine w_iload_n dX0_crowd_1 rfl ?_
  refine w_i2l dX0_crowd_2 rfl ?_
  refine w_lconst (v := 1) dX0_crowd_3 rfl ?_
  refine w_ldc2 dX0_crowd_4 q1122 ?_
  refine cs_call (mi := miX0_isIn) dX0_crowd_7 q1016 okX0_isIn (Nat.le_of_ble_eq_true rfl) (kX0_isIn1 (m := 40) (by first | assumption | omega)) rfl rfl (Nat.le_of_ble_eq_true rfl) ?_
  refine w_ifB_eq dX0_crowd_10 rfl (fun h_10 => ?_) (fun h_10 => ?_)
  · refine w_iconst (v := nI 1) dX0_crowd_17 ki_1 ?_
    refine pX0_85 (C := C) dX0_crowd_18 rfl hx H F ?_
    intro σ H F
    have E := EncD.stH H E
    refine w_aload_n dX0_crowd_21 rfl ?_
    refine gst_85 dX0_crowd_22 rfl hx H ?_
    refine w_ifN_le dX0_crowd_25 rfl (by decide) (fun h_25 => ?_) (fun h_25 => ?_)
    · exact absurd (show _ from h_25) (by decide)
    refine w_iconst (v := (-1)) dX0_crowd_28 ki_m1 ?_
    exact w_iret dX0_crowd_29 rfl ⟨by first | rfl | (rw [q_crowd, if_pos hx_q, hcl_u, hm]; rfl) | (rw [q_crowd, if_neg h_10]; rfl), _, by first | rfl | (rw [q_crowd, if_pos hx_q, hcl_u, hm]; rfl) | (rw [q_crowd, if_neg h_10]; rfl), H, F⟩
  · have hx_q := h_10
    obtain ⟨u, hu, rfl⟩ := inN_of h_10.1 (by omega)
    have hcl_u : cl (nI u) = u := nI_clamp (by omega)
    have hu0 : 1 ≤ u := by rcases Nat.eq_zero_or_pos u with z | z; exact absurd (by rw [z]) hx_q.2; exact z
    refine w_iconst (v := nI 0) dX0_crowd_13 ki_0 ?_
    refine w_goto dX0_crowd_14 rfl ?_
    refine pX0_85 (C := C) dX0_crowd_18 rfl hx H F ?_
    intro σ H F
    have E := EncD.stH H E
    refine w_aload_n dX0_crowd_21 rfl ?_
    refine gst_85 dX0_crowd_22 rfl hx H ?_
    refine w_ifN_le dX0_crowd_25 rfl (by decide) (fun h_25 => ?_) (fun h_25 => ?_)
    rotate_left
    · exact absurd (show _ from h_25) (by decide)
    refine w_iconst (v := nI 0) dX0_crowd_30 ki_0 ?_
    refine w_istore_n dX0_crowd_31 rfl (Nat.le_of_ble_eq_true rfl) ls_6_2 ?_
    refine w_iconst (v := nI 0) dX0_crowd_32 ki_0 ?_
    refine w_istore_n dX0_crowd_33 rfl (Nat.le_of_ble_eq_true rfl) ls_6_3 ?_
    have lo : ∀ (j9 : Nat) (k : Nat) (m : Nat), vs V 0 - k < j9 → k ≤ vs V 0 → foldN (fun c m => max m (crowdK V u c (vs V 1))) 0 k = m → m ≤ 6 → Wp g (mtC g miX0_crowd 2 (0) (0) σ0 (some (.int ((q_crowd V (nI u)).1))) (fun C2 => C2 = uI C 0 30 7 (q_crowd V (nI u)).2)) 0 0 34 [some (.ref (od C 0 30)), some (.int (nI u)), some (.int (nI m)), some (.int (nI k)), none, none] [] σ := by
      intro j9
      induction j9 with
      | zero => intro k m hmu hk hm hm6; exact absurd hmu (Nat.not_lt_zero _)
      | succ j9 ih_lo =>
        intro k m hmu hk hm hm6
        refine w_iload_n dX0_crowd_34 rfl ?_
        refine w_aload_n dX0_crowd_35 rfl ?_
        refine cr_call (mi := miX0_beach_2) dX0_crowd_36 q934 okX0_beach_2 clX0 rfl (H.get (ce_X hx)) (Nat.le_of_ble_eq_true rfl) (kX0_beach (C := uI (C) 0 30 7 _) hx h0) H rfl rfl (Nat.le_of_ble_eq_true rfl) ?_
        refine gX0_242 (C := uI (C) 0 30 7 _) dX0_crowd_39 rfl E H ?_
        refine w_icmpN_ge dX0_crowd_42 rfl (by omega) (by omega) (fun h_42 => ?_) (fun h_42 => ?_)
        · obtain rfl : k = vs V 0 := by omega
          refine w_iload_n dX0_crowd_117 rfl ?_
          exact w_iret dX0_crowd_118 rfl ⟨by first | rfl | (rw [q_crowd, if_pos hx_q, hcl_u, hm]; rfl) | (rw [q_crowd, if_neg h_10]; rfl), _, by first | rfl | (rw [q_crowd, if_pos hx_q, hcl_u, hm]; rfl) | (rw [q_crowd, if_neg h_10]; rfl), H, F⟩
        · refine w_iconst (v := nI 0) dX0_crowd_45 ki_0 ?_
          refine w_istore dX0_crowd_46 rfl (Nat.le_of_ble_eq_true rfl) ls_6_4 ?_
          refine w_iconst (v := nI 0) dX0_crowd_48 ki_0 ?_
          refine w_istore dX0_crowd_49 rfl (Nat.le_of_ble_eq_true rfl) ls_6_5 ?_
          have li : ∀ (j9 : Nat) (f : Nat), vs V 1 - f < j9 → f ≤ vs V 1 → crowdK V u k f ≤ f → Wp g (mtC g miX0_crowd 2 (0) (0) σ0 (some (.int ((q_crowd V (nI u)).1))) (fun C2 => C2 = uI C 0 30 7 (q_crowd V (nI u)).2)) 0 0 51 [some (.ref (od C 0 30)), some (.int (nI u)), some (.int (nI m)), some (.int (nI k)), some (.int (nI (crowdK V u k f))), some (.int (nI f))] [] σ := by
            intro j9
            induction j9 with
            | zero => intro f hmu hf hn; exact absurd hmu (Nat.not_lt_zero _)
            | succ j9 ih_li =>
              intro f hmu hf hn
              refine w_iload dX0_crowd_51 rfl ?_
              refine w_aload_n dX0_crowd_53 rfl ?_
              refine cr_call (mi := miX0_beach_2) dX0_crowd_54 q934 okX0_beach_2 clX0 rfl (H.get (ce_X hx)) (Nat.le_of_ble_eq_true rfl) (kX0_beach (C := uI (C) 0 30 7 _) hx h0) H rfl rfl (Nat.le_of_ble_eq_true rfl) ?_
              refine gX0_168 (C := uI (C) 0 30 7 _) dX0_crowd_57 rfl E H ?_
              refine w_icmpN_ge dX0_crowd_60 rfl (by omega) (by omega) (fun h_60 => ?_) (fun h_60 => ?_)
              · have hfn : f = vs V 1 := by omega
                subst hfn
                refine w_iload_n dX0_crowd_104 rfl ?_
                refine w_iload dX0_crowd_105 rfl ?_
                refine w_mmax dX0_crowd_107 q1309 q1165 q155 q1166 (Nat.le_of_ble_eq_true rfl) (Nat.le_of_ble_eq_true rfl) ?_
                refine w_topN (max_n (by omega) (by omega)) ?_
                refine w_istore_n dX0_crowd_110 rfl (Nat.le_of_ble_eq_true rfl) ls_6_2 ?_
                refine w_iinc dX0_crowd_111 rfl (nI_inc _ 1) rfl (Nat.le_of_ble_eq_true rfl) ls_6_3 ?_
                refine w_goto dX0_crowd_114 rfl ?_
                exact w_L (wkS (wkS (wkS (wkS (wkN (wkN wk0)))))) (ih_lo (k + 1) _ (by omega) (by omega) (by rw [foldN_s, hm]) (by omega))
              · have kf := K.f (f := f) (by omega)
                refine w_iload dX0_crowd_63 rfl ?_
                refine w_aload_n dX0_crowd_65 rfl ?_
                refine cr_call (mi := miX0_day) dX0_crowd_66 q886 okX0_day clX0 rfl (H.get (ce_X hx)) (Nat.le_of_ble_eq_true rfl) (kX0_day (C := uI (C) 0 30 7 _) hx h0) H rfl rfl (Nat.le_of_ble_eq_true rfl) ?_
                refine gX0_265 (C := uI (C) 0 30 7 _) dX0_crowd_69 rfl h0 H ?_
                refine w_iload dX0_crowd_72 rfl ?_
                refine da_11 (C := uI (C) 0 30 7 _) dX0_crowd_74 h0 E (by omega) H ?_
                refine w_i2l dX0_crowd_75 rfl ?_
                refine w_iload_n dX0_crowd_76 rfl ?_
                refine w_i2l dX0_crowd_77 rfl ?_
                refine w_iload_n dX0_crowd_78 rfl ?_
                refine w_iload_n dX0_crowd_79 rfl ?_
                refine w_iaddN dX0_crowd_80 ?_
                refine w_iconst (v := nI 1) dX0_crowd_81 ki_1 ?_
                refine w_isubN dX0_crowd_82 (by omega) ?_
                refine w_i2l dX0_crowd_83 rfl ?_
                refine cs_call (mi := miX0_isIn) dX0_crowd_84 q1016 okX0_isIn (Nat.le_of_ble_eq_true rfl) (kX0_isInNN (by omega) (by omega) (by omega)) rfl rfl (Nat.le_of_ble_eq_true rfl) ?_
                refine w_ifB_eq dX0_crowd_87 rfl (fun h_87 => ?_) (fun h_87 => ?_)
                · refine w_iconst (v := nI 0) dX0_crowd_94 ki_0 ?_
                  refine w_iaddN dX0_crowd_95 ?_
                  refine w_istore dX0_crowd_96 rfl (Nat.le_of_ble_eq_true rfl) ls_6_4 ?_
                  refine w_iinc dX0_crowd_98 rfl (nI_inc _ 1) rfl (Nat.le_of_ble_eq_true rfl) ls_6_5 ?_
                  refine w_goto dX0_crowd_101 rfl ?_
                  exact w_as (ih_li (f + 1) (by omega) (by omega) (by rw [crowd_s]; split <;> omega)) (by rw [crowd_s, if_neg (by omega)]) rfl rfl
                · refine w_iconst (v := nI 1) dX0_crowd_90 ki_1 ?_
                  refine w_goto dX0_crowd_91 rfl ?_
                  refine w_iaddN dX0_crowd_95 ?_
                  refine w_istore dX0_crowd_96 rfl (Nat.le_of_ble_eq_true rfl) ls_6_4 ?_
                  refine w_iinc dX0_crowd_98 rfl (nI_inc _ 1) rfl (Nat.le_of_ble_eq_true rfl) ls_6_5 ?_
                  refine w_goto dX0_crowd_101 rfl ?_
                  exact w_as (ih_li (f + 1) (by omega) (by omega) (by rw [crowd_s]; split <;> omega)) (by rw [crowd_s, if_pos ⟨by omega, by omega⟩]) rfl rfl
          exact li (vs V 1 + 1) 0 (by omega) (by omega) (by exact Nat.le_refl _)
    exact lo (vs V 0 + 1) 0 0 (by omega) (by omega) rfl (by omega)
set_option maxHeartbeats 4000000 in
theorem kX0_find {g : GG} {C : CS} {V : VS} {q : Nat → Nat} {x : Int32} {y : Int32} (hx : oO C 0 = true) (h0 : oO C 0 = true) (E : EncD g C 0 V q) (K : OkV V) : Cp g miX0_find 3 (0) (0) [.ref (od C 0 30), .int x, .int y] C (some (.int ((q_find V x y).1))) (fun C2 => C2 = uI C 0 30 7 (q_find V x y).2) := by
  refine Cp.start [some (.ref (od C 0 30)), some (.int x), some (.int y)] plX0 rfl (Nat.le_of_ble_eq_true rfl) rfl ?_
  intro σ0 σ H F
  have kb := K.b
  refine w_aload_n dX0_find_0 rfl ?_
  refine w_aload_n dX0_find_1 rfl ?_
  refine w_iload_n dX0_find_2 rfl ?_
  refine cr_call (mi := miX0_isFind) dX0_find_3 q1036 okX0_isFind clX0 rfl (H.get (ce_X hx)) (Nat.le_of_ble_eq_true rfl) (kX0_isFind (C := C) hx h0 E K) H rfl rfl (Nat.le_of_ble_eq_true rfl) ?_
  refine w_ifB_eq dX0_find_6 rfl (fun h_6 => ?_) (fun h_6 => ?_)
  · refine w_iconst (v := nI 1) dX0_find_25 ki_1 ?_
    refine pX0_85 (C := C) dX0_find_26 rfl hx H F ?_
    intro σ H F
    have E := EncD.stH H E
    refine w_aload_n dX0_find_29 rfl ?_
    refine gst_85 dX0_find_30 rfl hx H ?_
    refine w_ifN_le dX0_find_33 rfl (by decide) (fun h_33 => ?_) (fun h_33 => ?_)
    · exact absurd (show _ from h_33) (by decide)
    refine w_iconst (v := (-1)) dX0_find_36 ki_m1 ?_
    refine w_goto dX0_find_37 rfl ?_
    exact w_iret dX0_find_85 rfl ⟨by first | (rw [q_find, if_neg (fun z => h_6 z.1)]; rfl) | (rw [q_find, if_neg (fun z => h_18 z.2)]; rfl) | (rw [q_find, if_pos ⟨hx_d, hx_m⟩, hcl_d, hcl_m, hm0]; rfl) | (rw [q_find, if_pos ⟨hx_d, hx_m⟩, hcl_d, hcl_m, hm1]; rfl) | (rw [q_find, if_pos ⟨hx_d, hx_m⟩, hcl_d, hcl_m, hm2]; rfl), _, by first | (rw [q_find, if_neg (fun z => h_6 z.1)]; rfl) | (rw [q_find, if_neg (fun z => h_18 z.2)]; rfl) | (rw [q_find, if_pos ⟨hx_d, hx_m⟩]; rfl), H, F⟩
  · have hx_d := h_6
    obtain ⟨d, hf_d, rfl⟩ := inN_of h_6 (by omega)
    have hcl_d : cl (nI d) = d := nI_clamp (by omega)
    have kf_d := K.d hf_d
    have kn_d := K.n (d := d) (by omega)
    refine w_iload_n dX0_find_9 rfl ?_
    refine w_i2l dX0_find_10 rfl ?_
    refine w_lconst (v := 0) dX0_find_11 rfl ?_
    refine w_ldc2 dX0_find_12 q1040 ?_
    refine cs_call (mi := miX0_isIn) dX0_find_15 q1016 okX0_isIn (Nat.le_of_ble_eq_true rfl) (kX0_isIn0 (m := 2) (by first | assumption | omega)) rfl rfl (Nat.le_of_ble_eq_true rfl) ?_
    refine w_ifB_eq dX0_find_18 rfl (fun h_18 => ?_) (fun h_18 => ?_)
    · refine w_iconst (v := nI 1) dX0_find_25 ki_1 ?_
      refine pX0_85 (C := C) dX0_find_26 rfl hx H F ?_
      intro σ H F
      have E := EncD.stH H E
      refine w_aload_n dX0_find_29 rfl ?_
      refine gst_85 dX0_find_30 rfl hx H ?_
      refine w_ifN_le dX0_find_33 rfl (by decide) (fun h_33 => ?_) (fun h_33 => ?_)
      · exact absurd (show _ from h_33) (by decide)
      refine w_iconst (v := (-1)) dX0_find_36 ki_m1 ?_
      refine w_goto dX0_find_37 rfl ?_
      exact w_iret dX0_find_85 rfl ⟨by first | (rw [q_find, if_neg (fun z => h_6 z.1)]; rfl) | (rw [q_find, if_neg (fun z => h_18 z.2)]; rfl) | (rw [q_find, if_pos ⟨hx_d, hx_m⟩, hcl_d, hcl_m, hm0]; rfl) | (rw [q_find, if_pos ⟨hx_d, hx_m⟩, hcl_d, hcl_m, hm1]; rfl) | (rw [q_find, if_pos ⟨hx_d, hx_m⟩, hcl_d, hcl_m, hm2]; rfl), _, by first | (rw [q_find, if_neg (fun z => h_6 z.1)]; rfl) | (rw [q_find, if_neg (fun z => h_18 z.2)]; rfl) | (rw [q_find, if_pos ⟨hx_d, hx_m⟩]; rfl), H, F⟩
    · have hx_m := h_18
      obtain ⟨m, hf_m, rfl⟩ := inN_of h_18 (by omega)
      have hcl_m : cl (nI m) = m := nI_clamp (by omega)
      refine w_iconst (v := nI 0) dX0_find_21 ki_0 ?_
      refine w_goto dX0_find_22 rfl ?_
      refine pX0_85 (C := C) dX0_find_26 rfl hx H F ?_
      intro σ H F
      have E := EncD.stH H E
      refine w_aload_n dX0_find_29 rfl ?_
      refine gst_85 dX0_find_30 rfl hx H ?_
      refine w_ifN_le dX0_find_33 rfl (by decide) (fun h_33 => ?_) (fun h_33 => ?_)
      rotate_left
      · exact absurd (show _ from h_33) (by decide)
      refine w_iload_n dX0_find_40 rfl ?_
      refine w_ifN_ne dX0_find_41 rfl (by omega) (fun h_41 => ?_) (fun h_41 => ?_)
      · refine w_iload_n dX0_find_56 rfl ?_
        refine w_iconst (v := nI 1) dX0_find_57 ki_1 ?_
        refine w_icmpN_ne dX0_find_58 rfl (by omega) (by omega) (fun h_58 => ?_) (fun h_58 => ?_)
        · have hm2 : m = 2 := by omega
          refine w_aload_n dX0_find_73 rfl ?_
          refine cr_call (mi := miX0_day) dX0_find_74 q886 okX0_day clX0 rfl (H.get (ce_X hx)) (Nat.le_of_ble_eq_true rfl) (kX0_day (C := uI (C) 0 30 7 _) hx h0) H rfl rfl (Nat.le_of_ble_eq_true rfl) ?_
          refine gX0_288 (C := uI (C) 0 30 7 _) dX0_find_77 rfl h0 H ?_
          refine w_iload_n dX0_find_80 rfl ?_
          refine ga_heaps (C := uI (C) 0 30 7 _) dX0_find_81 h0 (by omega) H ?_
          refine gX0_292 (C := uI (C) 0 30 7 _) dX0_find_82 rfl (on8 h0 (by omega)) H ?_
          refine w_topN (E.h (d := d) (by omega)).sz ?_
          exact w_iret dX0_find_85 rfl ⟨by first | (rw [q_find, if_neg (fun z => h_6 z.1)]; rfl) | (rw [q_find, if_neg (fun z => h_18 z.2)]; rfl) | (rw [q_find, if_pos ⟨hx_d, hx_m⟩, hcl_d, hcl_m, hm0]; rfl) | (rw [q_find, if_pos ⟨hx_d, hx_m⟩, hcl_d, hcl_m, hm1]; rfl) | (rw [q_find, if_pos ⟨hx_d, hx_m⟩, hcl_d, hcl_m, hm2]; rfl), _, by first | (rw [q_find, if_neg (fun z => h_6 z.1)]; rfl) | (rw [q_find, if_neg (fun z => h_18 z.2)]; rfl) | (rw [q_find, if_pos ⟨hx_d, hx_m⟩]; rfl), H, F⟩
        · have hm1 : m = 1 := by omega
          refine w_aload_n dX0_find_61 rfl ?_
          refine cr_call (mi := miX0_beach_2) dX0_find_62 q934 okX0_beach_2 clX0 rfl (H.get (ce_X hx)) (Nat.le_of_ble_eq_true rfl) (kX0_beach (C := uI (C) 0 30 7 _) hx h0) H rfl rfl (Nat.le_of_ble_eq_true rfl) ?_
          refine gX0_285 (C := uI (C) 0 30 7 _) dX0_find_65 rfl E H ?_
          refine w_iload_n dX0_find_68 rfl ?_
          refine ba_13 (C := uI (C) 0 30 7 _) dX0_find_69 E K (by omega) H ?_
          refine w_goto dX0_find_70 rfl ?_
          exact w_iret dX0_find_85 rfl ⟨by first | (rw [q_find, if_neg (fun z => h_6 z.1)]; rfl) | (rw [q_find, if_neg (fun z => h_18 z.2)]; rfl) | (rw [q_find, if_pos ⟨hx_d, hx_m⟩, hcl_d, hcl_m, hm0]; rfl) | (rw [q_find, if_pos ⟨hx_d, hx_m⟩, hcl_d, hcl_m, hm1]; rfl) | (rw [q_find, if_pos ⟨hx_d, hx_m⟩, hcl_d, hcl_m, hm2]; rfl), _, by first | (rw [q_find, if_neg (fun z => h_6 z.1)]; rfl) | (rw [q_find, if_neg (fun z => h_18 z.2)]; rfl) | (rw [q_find, if_pos ⟨hx_d, hx_m⟩]; rfl), H, F⟩
      · have hm0 : m = 0 := by omega
        refine w_aload_n dX0_find_44 rfl ?_
        refine cr_call (mi := miX0_beach_2) dX0_find_45 q934 okX0_beach_2 clX0 rfl (H.get (ce_X hx)) (Nat.le_of_ble_eq_true rfl) (kX0_beach (C := uI (C) 0 30 7 _) hx h0) H rfl rfl (Nat.le_of_ble_eq_true rfl) ?_
        refine gX0_282 (C := uI (C) 0 30 7 _) dX0_find_48 rfl E H ?_
        refine w_iload_n dX0_find_51 rfl ?_
        refine ba_12 (C := uI (C) 0 30 7 _) dX0_find_52 E K (by omega) H ?_
        refine w_goto dX0_find_53 rfl ?_
        exact w_iret dX0_find_85 rfl ⟨by first | (rw [q_find, if_neg (fun z => h_6 z.1)]; rfl) | (rw [q_find, if_neg (fun z => h_18 z.2)]; rfl) | (rw [q_find, if_pos ⟨hx_d, hx_m⟩, hcl_d, hcl_m, hm0]; rfl) | (rw [q_find, if_pos ⟨hx_d, hx_m⟩, hcl_d, hcl_m, hm1]; rfl) | (rw [q_find, if_pos ⟨hx_d, hx_m⟩, hcl_d, hcl_m, hm2]; rfl), _, by first | (rw [q_find, if_neg (fun z => h_6 z.1)]; rfl) | (rw [q_find, if_neg (fun z => h_18 z.2)]; rfl) | (rw [q_find, if_pos ⟨hx_d, hx_m⟩]; rfl), H, F⟩
set_option maxHeartbeats 4000000 in
theorem kX0_pebble {g : GG} {C : CS} {V : VS} {q : Nat → Nat} {x : Int32} {y : Int32} {z : Int32} (hx : oO C 0 = true) (h0 : oO C 0 = true) (E : EncD g C 0 V q) (K : OkV V) : Cp g miX0_pebble 3 (0) (0) [.ref (od C 0 30), .int x, .int y, .int z] C (some (.int ((q_pebble V x y z).1))) (fun C2 => C2 = uI C 0 30 7 (q_pebble V x y z).2) := by
  refine Cp.start [some (.ref (od C 0 30)), some (.int x), some (.int y), some (.int z)] plX0 rfl (Nat.le_of_ble_eq_true rfl) rfl ?_
  intro σ0 σ H F
  have kb := K.b
  refine w_aload_n dX0_pebble_0 rfl ?_
  refine w_aload_n dX0_pebble_1 rfl ?_
  refine w_iload_n dX0_pebble_2 rfl ?_
  refine cr_call (mi := miX0_isFind) dX0_pebble_3 q1036 okX0_isFind clX0 rfl (H.get (ce_X hx)) (Nat.le_of_ble_eq_true rfl) (kX0_isFind (C := C) hx h0 E K) H rfl rfl (Nat.le_of_ble_eq_true rfl) ?_
  refine w_ifB_eq dX0_pebble_6 rfl (fun h_6 => ?_) (fun h_6 => ?_)
  · refine w_iconst (v := nI 1) dX0_pebble_19 ki_1 ?_
    refine w_goto dX0_pebble_20 rfl ?_
    refine pX0_85 (C := C) dX0_pebble_53 rfl hx H F ?_
    intro σ H F
    have E := EncD.stH H E
    refine w_aload_n dX0_pebble_56 rfl ?_
    refine gst_85 dX0_pebble_57 rfl hx H ?_
    refine w_ifN_le dX0_pebble_60 rfl (by decide) (fun h_60 => ?_) (fun h_60 => ?_)
    · exact absurd (show _ from h_60) (by decide)
    refine w_iconst (v := (-1)) dX0_pebble_63 ki_m1 ?_
    refine w_goto dX0_pebble_64 rfl ?_
    exact w_iret dX0_pebble_102 rfl ⟨by first | (rw [q_pebble, if_neg (fun u => h_6 u.1)]; rfl) | (rw [q_pebble, if_neg (fun u => h_16 u.2)]; rfl) | (rw [q_pebble, if_pos ⟨hx_d, hx_m⟩, hcl_d, if_neg h_44]; rfl) | (rw [q_pebble, if_pos ⟨hx_d, hx_m⟩, hcl_d, if_pos hx_k, hcl_k, hcl_m, hm0]; rfl) | (rw [q_pebble, if_pos ⟨hx_d, hx_m⟩, hcl_d, if_pos hx_k, hcl_k, hcl_m, hm1]; rfl), _, by first | (rw [q_pebble, if_neg (fun u => h_6 u.1)]; rfl) | (rw [q_pebble, if_neg (fun u => h_16 u.2)]; rfl) | (rw [q_pebble, if_pos ⟨hx_d, hx_m⟩, hcl_d, if_neg h_44]; rfl) | (rw [q_pebble, if_pos ⟨hx_d, hx_m⟩, hcl_d, if_pos hx_k]; rfl), H, F⟩
  · have hx_d := h_6
    obtain ⟨d, hf_d, rfl⟩ := inN_of h_6 (by omega)
    have hcl_d : cl (nI d) = d := nI_clamp (by omega)
    have kf_d := K.d hf_d
    have kn_d := K.n (d := d) (by omega)
    refine w_iload_n dX0_pebble_9 rfl ?_
    refine w_i2l dX0_pebble_10 rfl ?_
    refine w_lconst (v := 0) dX0_pebble_11 rfl ?_
    refine w_lconst (v := 1) dX0_pebble_12 rfl ?_
    refine cs_call (mi := miX0_isIn) dX0_pebble_13 q1016 okX0_isIn (Nat.le_of_ble_eq_true rfl) (kX0_isIn0 (m := 1) (by first | assumption | omega)) rfl rfl (Nat.le_of_ble_eq_true rfl) ?_
    refine w_ifB_ne dX0_pebble_16 rfl (fun h_16 => ?_) (fun h_16 => ?_)
    · have hx_m := h_16
      obtain ⟨m, hf_m, rfl⟩ := inN_of h_16 (by omega)
      have hcl_m : cl (nI m) = m := nI_clamp (by omega)
      refine w_iload_n dX0_pebble_23 rfl ?_
      refine w_i2l dX0_pebble_24 rfl ?_
      refine w_lconst (v := 0) dX0_pebble_25 rfl ?_
      refine w_aload_n dX0_pebble_26 rfl ?_
      refine cr_call (mi := miX0_day) dX0_pebble_27 q886 okX0_day clX0 rfl (H.get (ce_X hx)) (Nat.le_of_ble_eq_true rfl) (kX0_day (C := C) hx h0) H rfl rfl (Nat.le_of_ble_eq_true rfl) ?_
      refine gX0_288 (C := C) dX0_pebble_30 rfl h0 H ?_
      refine w_iload_n dX0_pebble_33 rfl ?_
      refine ga_heaps (C := C) dX0_pebble_34 h0 (by omega) H ?_
      refine gX0_292 (C := C) dX0_pebble_35 rfl (on8 h0 (by omega)) H ?_
      refine w_topN (E.h (d := d) (by omega)).sz ?_
      refine w_iconst (v := nI 1) dX0_pebble_38 ki_1 ?_
      refine w_isub dX0_pebble_39 ?_
      refine w_i2l dX0_pebble_40 rfl ?_
      refine cs_call (mi := miX0_isIn) dX0_pebble_41 q1016 okX0_isIn (Nat.le_of_ble_eq_true rfl) (kX0_isInD (m := vt V 7 d) (by omega)) rfl rfl (Nat.le_of_ble_eq_true rfl) ?_
      refine w_ifB_eq dX0_pebble_44 rfl (fun h_44 => ?_) (fun h_44 => ?_)
      · refine w_bipush (v := nI 6) dX0_pebble_51 kb_6 ?_
        refine pX0_85 (C := C) dX0_pebble_53 rfl hx H F ?_
        intro σ H F
        have E := EncD.stH H E
        refine w_aload_n dX0_pebble_56 rfl ?_
        refine gst_85 dX0_pebble_57 rfl hx H ?_
        refine w_ifN_le dX0_pebble_60 rfl (by decide) (fun h_60 => ?_) (fun h_60 => ?_)
        · exact absurd (show _ from h_60) (by decide)
        refine w_iconst (v := (-1)) dX0_pebble_63 ki_m1 ?_
        refine w_goto dX0_pebble_64 rfl ?_
        exact w_iret dX0_pebble_102 rfl ⟨by first | (rw [q_pebble, if_neg (fun u => h_6 u.1)]; rfl) | (rw [q_pebble, if_neg (fun u => h_16 u.2)]; rfl) | (rw [q_pebble, if_pos ⟨hx_d, hx_m⟩, hcl_d, if_neg h_44]; rfl) | (rw [q_pebble, if_pos ⟨hx_d, hx_m⟩, hcl_d, if_pos hx_k, hcl_k, hcl_m, hm0]; rfl) | (rw [q_pebble, if_pos ⟨hx_d, hx_m⟩, hcl_d, if_pos hx_k, hcl_k, hcl_m, hm1]; rfl), _, by first | (rw [q_pebble, if_neg (fun u => h_6 u.1)]; rfl) | (rw [q_pebble, if_neg (fun u => h_16 u.2)]; rfl) | (rw [q_pebble, if_pos ⟨hx_d, hx_m⟩, hcl_d, if_neg h_44]; rfl) | (rw [q_pebble, if_pos ⟨hx_d, hx_m⟩, hcl_d, if_pos hx_k]; rfl), H, F⟩
      · have hx_k := h_44
        obtain ⟨k, hf_k, rfl⟩ := inN_of h_44 (by omega)
        have hcl_k : cl (nI k) = k := nI_clamp (by omega)
        refine w_iconst (v := nI 0) dX0_pebble_47 ki_0 ?_
        refine w_goto dX0_pebble_48 rfl ?_
        refine pX0_85 (C := C) dX0_pebble_53 rfl hx H F ?_
        intro σ H F
        have E := EncD.stH H E
        refine w_aload_n dX0_pebble_56 rfl ?_
        refine gst_85 dX0_pebble_57 rfl hx H ?_
        refine w_ifN_le dX0_pebble_60 rfl (by decide) (fun h_60 => ?_) (fun h_60 => ?_)
        rotate_left
        · exact absurd (show _ from h_60) (by decide)
        refine w_iload_n dX0_pebble_67 rfl ?_
        refine w_ifN_ne dX0_pebble_68 rfl (by omega) (fun h_68 => ?_) (fun h_68 => ?_)
        · have hm1 : m = 1 := by omega
          refine w_aload_n dX0_pebble_88 rfl ?_
          refine cr_call (mi := miX0_day) dX0_pebble_89 q886 okX0_day clX0 rfl (H.get (ce_X hx)) (Nat.le_of_ble_eq_true rfl) (kX0_day (C := uI (C) 0 30 7 _) hx h0) H rfl rfl (Nat.le_of_ble_eq_true rfl) ?_
          refine gX0_288 (C := uI (C) 0 30 7 _) dX0_pebble_92 rfl h0 H ?_
          refine w_iload_n dX0_pebble_95 rfl ?_
          refine ga_heaps (C := uI (C) 0 30 7 _) dX0_pebble_96 h0 (by omega) H ?_
          refine gX0_300 (C := uI (C) 0 30 7 _) dX0_pebble_97 rfl (on8 h0 (by omega)) H ?_
          refine w_iload_n dX0_pebble_100 rfl ?_
          refine ha_7 (C := uI (C) 0 30 7 _) dX0_pebble_101 (on8 h0 (by omega)) (E.h (d := d) (by omega)) (by omega) H ?_
          exact w_iret dX0_pebble_102 rfl ⟨by first | (rw [q_pebble, if_neg (fun u => h_6 u.1)]; rfl) | (rw [q_pebble, if_neg (fun u => h_16 u.2)]; rfl) | (rw [q_pebble, if_pos ⟨hx_d, hx_m⟩, hcl_d, if_neg h_44]; rfl) | (rw [q_pebble, if_pos ⟨hx_d, hx_m⟩, hcl_d, if_pos hx_k, hcl_k, hcl_m, hm0]; rfl) | (rw [q_pebble, if_pos ⟨hx_d, hx_m⟩, hcl_d, if_pos hx_k, hcl_k, hcl_m, hm1]; rfl), _, by first | (rw [q_pebble, if_neg (fun u => h_6 u.1)]; rfl) | (rw [q_pebble, if_neg (fun u => h_16 u.2)]; rfl) | (rw [q_pebble, if_pos ⟨hx_d, hx_m⟩, hcl_d, if_neg h_44]; rfl) | (rw [q_pebble, if_pos ⟨hx_d, hx_m⟩, hcl_d, if_pos hx_k]; rfl), H, F⟩
        · have hm0 : m = 0 := by omega
          refine w_aload_n dX0_pebble_71 rfl ?_
          refine cr_call (mi := miX0_day) dX0_pebble_72 q886 okX0_day clX0 rfl (H.get (ce_X hx)) (Nat.le_of_ble_eq_true rfl) (kX0_day (C := uI (C) 0 30 7 _) hx h0) H rfl rfl (Nat.le_of_ble_eq_true rfl) ?_
          refine gX0_288 (C := uI (C) 0 30 7 _) dX0_pebble_75 rfl h0 H ?_
          refine w_iload_n dX0_pebble_78 rfl ?_
          refine ga_heaps (C := uI (C) 0 30 7 _) dX0_pebble_79 h0 (by omega) H ?_
          refine gX0_297 (C := uI (C) 0 30 7 _) dX0_pebble_80 rfl (on8 h0 (by omega)) H ?_
          refine w_iload_n dX0_pebble_83 rfl ?_
          refine ha_6 (C := uI (C) 0 30 7 _) dX0_pebble_84 (on8 h0 (by omega)) (E.h (d := d) (by omega)) (by omega) H ?_
          have hp := (K.p (d := d) (by omega) hf_k).1
          refine w_goto dX0_pebble_85 rfl ?_
          exact w_iret dX0_pebble_102 rfl ⟨by first | (rw [q_pebble, if_neg (fun u => h_6 u.1)]; rfl) | (rw [q_pebble, if_neg (fun u => h_16 u.2)]; rfl) | (rw [q_pebble, if_pos ⟨hx_d, hx_m⟩, hcl_d, if_neg h_44]; rfl) | (rw [q_pebble, if_pos ⟨hx_d, hx_m⟩, hcl_d, if_pos hx_k, hcl_k, hcl_m, hm0]; rfl) | (rw [q_pebble, if_pos ⟨hx_d, hx_m⟩, hcl_d, if_pos hx_k, hcl_k, hcl_m, hm1]; rfl), _, by first | (rw [q_pebble, if_neg (fun u => h_6 u.1)]; rfl) | (rw [q_pebble, if_neg (fun u => h_16 u.2)]; rfl) | (rw [q_pebble, if_pos ⟨hx_d, hx_m⟩, hcl_d, if_neg h_44]; rfl) | (rw [q_pebble, if_pos ⟨hx_d, hx_m⟩, hcl_d, if_pos hx_k]; rfl), H, F⟩
    · refine w_iconst (v := nI 1) dX0_pebble_19 ki_1 ?_
      refine w_goto dX0_pebble_20 rfl ?_
      refine pX0_85 (C := C) dX0_pebble_53 rfl hx H F ?_
      intro σ H F
      have E := EncD.stH H E
      refine w_aload_n dX0_pebble_56 rfl ?_
      refine gst_85 dX0_pebble_57 rfl hx H ?_
      refine w_ifN_le dX0_pebble_60 rfl (by decide) (fun h_60 => ?_) (fun h_60 => ?_)
      · exact absurd (show _ from h_60) (by decide)
      refine w_iconst (v := (-1)) dX0_pebble_63 ki_m1 ?_
      refine w_goto dX0_pebble_64 rfl ?_
      exact w_iret dX0_pebble_102 rfl ⟨by first | (rw [q_pebble, if_neg (fun u => h_6 u.1)]; rfl) | (rw [q_pebble, if_neg (fun u => h_16 u.2)]; rfl) | (rw [q_pebble, if_pos ⟨hx_d, hx_m⟩, hcl_d, if_neg h_44]; rfl) | (rw [q_pebble, if_pos ⟨hx_d, hx_m⟩, hcl_d, if_pos hx_k, hcl_k, hcl_m, hm0]; rfl) | (rw [q_pebble, if_pos ⟨hx_d, hx_m⟩, hcl_d, if_pos hx_k, hcl_k, hcl_m, hm1]; rfl), _, by first | (rw [q_pebble, if_neg (fun u => h_6 u.1)]; rfl) | (rw [q_pebble, if_neg (fun u => h_16 u.2)]; rfl) | (rw [q_pebble, if_pos ⟨hx_d, hx_m⟩, hcl_d, if_neg h_44]; rfl) | (rw [q_pebble, if_pos ⟨hx_d, hx_m⟩, hcl_d, if_pos hx_k]; rfl), H, F⟩
set_option maxHeartbeats 4000000 in
theorem kX0_finder {g : GG} {C : CS} {V : VS} {q : Nat → Nat} {x : Int32} {y : Int32} (hx : oO C 0 = true) (h0 : oO C 0 = true) (E : EncD g C 0 V q) (K : OkV V) : Cp g miX0_finder 3 (0) (0) [.ref (od C 0 30), .int x, .int y] C (some (.int ((q_finder V x y).1))) (fun C2 => C2 = uI C 0 30 7 (q_finder V x y).2) := by
  refine Cp.start [some (.ref (od C 0 30)), some (.int x), some (.int y)] plX0 rfl (Nat.le_of_ble_eq_true rfl) rfl ?_
  intro σ0 σ H F
  have kb := K.b
  refine w_aload_n dX0_finder_0 rfl ?_
  refine w_aload_n dX0_finder_1 rfl ?_
  refine w_iload_n dX0_finder_2 rfl ?_
  refine cr_call (mi := miX0_isFinder) dX0_finder_3 q1027 okX0_isFinder clX0 rfl (H.get (ce_X hx)) (Nat.le_of_ble_eq_true rfl) (kX0_isFinder (C := C) hx h0 E K) H rfl rfl (Nat.le_of_ble_eq_true rfl) ?_
  refine w_ifB_eq dX0_finder_6 rfl (fun h_6 => ?_) (fun h_6 => ?_)
  · refine w_iconst (v := nI 1) dX0_finder_25 ki_1 ?_
    refine pX0_85 (C := C) dX0_finder_26 rfl hx H F ?_
    intro σ H F
    have E := EncD.stH H E
    refine w_aload_n dX0_finder_29 rfl ?_
    refine gst_85 dX0_finder_30 rfl hx H ?_
    refine w_ifN_le dX0_finder_33 rfl (by decide) (fun h_33 => ?_) (fun h_33 => ?_)
    · exact absurd (show _ from h_33) (by decide)
    refine w_iconst (v := (-1)) dX0_finder_36 ki_m1 ?_
    exact w_iret dX0_finder_37 rfl ⟨by first | (rw [q_finder, if_neg (fun z => h_6 z.1)]; rfl) | (rw [q_finder, if_neg (fun z => h_18 z.2)]; rfl) | (rw [q_finder, if_pos ⟨hx_f, hx_m⟩, hcl_f, hcl_m]; rfl), _, by first | (rw [q_finder, if_neg (fun z => h_6 z.1)]; rfl) | (rw [q_finder, if_neg (fun z => h_18 z.2)]; rfl) | (rw [q_finder, if_pos ⟨hx_f, hx_m⟩]; rfl), H, F⟩
  · have hx_f := h_6
    obtain ⟨f, hf_f, rfl⟩ := inN_of h_6 (by omega)
    have hcl_f : cl (nI f) = f := nI_clamp (by omega)
    have kf_f := K.f hf_f
    refine w_iload_n dX0_finder_9 rfl ?_
    refine w_i2l dX0_finder_10 rfl ?_
    refine w_lconst (v := 0) dX0_finder_11 rfl ?_
    refine w_ldc2 dX0_finder_12 q1031 ?_
    refine cs_call (mi := miX0_isIn) dX0_finder_15 q1016 okX0_isIn (Nat.le_of_ble_eq_true rfl) (kX0_isIn0 (m := 4) (by first | assumption | omega)) rfl rfl (Nat.le_of_ble_eq_true rfl) ?_
    refine w_ifB_eq dX0_finder_18 rfl (fun h_18 => ?_) (fun h_18 => ?_)
    · refine w_iconst (v := nI 1) dX0_finder_25 ki_1 ?_
      refine pX0_85 (C := C) dX0_finder_26 rfl hx H F ?_
      intro σ H F
      have E := EncD.stH H E
      refine w_aload_n dX0_finder_29 rfl ?_
      refine gst_85 dX0_finder_30 rfl hx H ?_
      refine w_ifN_le dX0_finder_33 rfl (by decide) (fun h_33 => ?_) (fun h_33 => ?_)
      · exact absurd (show _ from h_33) (by decide)
      refine w_iconst (v := (-1)) dX0_finder_36 ki_m1 ?_
      exact w_iret dX0_finder_37 rfl ⟨by first | (rw [q_finder, if_neg (fun z => h_6 z.1)]; rfl) | (rw [q_finder, if_neg (fun z => h_18 z.2)]; rfl) | (rw [q_finder, if_pos ⟨hx_f, hx_m⟩, hcl_f, hcl_m]; rfl), _, by first | (rw [q_finder, if_neg (fun z => h_6 z.1)]; rfl) | (rw [q_finder, if_neg (fun z => h_18 z.2)]; rfl) | (rw [q_finder, if_pos ⟨hx_f, hx_m⟩]; rfl), H, F⟩
    · have hx_m := h_18
      obtain ⟨m, hf_m, rfl⟩ := inN_of h_18 (by omega)
      have hcl_m : cl (nI m) = m := nI_clamp (by omega)
      refine w_iconst (v := nI 0) dX0_finder_21 ki_0 ?_
      refine w_goto dX0_finder_22 rfl ?_
      refine pX0_85 (C := C) dX0_finder_26 rfl hx H F ?_
      intro σ H F
      have E := EncD.stH H E
      refine w_aload_n dX0_finder_29 rfl ?_
      refine gst_85 dX0_finder_30 rfl hx H ?_
      refine w_ifN_le dX0_finder_33 rfl (by decide) (fun h_33 => ?_) (fun h_33 => ?_)
      rotate_left
      · exact absurd (show _ from h_33) (by decide)
      refine w_iload_n dX0_finder_38 rfl ?_
      by_cases hs_0 : m = 0
      · subst hs_0
        refine w_tableIn dX0_finder_39 (by decide +kernel) (by decide +kernel) rfl rfl ?_
        refine w_aload_n dX0_finder_68 rfl ?_
        refine cr_call (mi := miX0_day) dX0_finder_69 q886 okX0_day clX0 rfl (H.get (ce_X hx)) (Nat.le_of_ble_eq_true rfl) (kX0_day (C := uI (C) 0 30 7 _) hx h0) H rfl rfl (Nat.le_of_ble_eq_true rfl) ?_
        refine gX0_265 (C := uI (C) 0 30 7 _) dX0_finder_72 rfl h0 H ?_
        refine w_iload_n dX0_finder_75 rfl ?_
        refine da_11 (C := uI (C) 0 30 7 _) dX0_finder_76 h0 E (by omega) H ?_
        exact w_iret dX0_finder_77 rfl ⟨by first | (rw [q_finder, if_neg (fun z => h_6 z.1)]; rfl) | (rw [q_finder, if_neg (fun z => h_18 z.2)]; rfl) | (rw [q_finder, if_pos ⟨hx_f, hx_m⟩, hcl_f, hcl_m]; rfl), _, by first | (rw [q_finder, if_neg (fun z => h_6 z.1)]; rfl) | (rw [q_finder, if_neg (fun z => h_18 z.2)]; rfl) | (rw [q_finder, if_pos ⟨hx_f, hx_m⟩]; rfl), H, F⟩
      by_cases hs_1 : m = 1
      · subst hs_1
        refine w_tableIn dX0_finder_39 (by decide +kernel) (by decide +kernel) rfl rfl ?_
        refine w_aload_n dX0_finder_78 rfl ?_
        refine cr_call (mi := miX0_beach_2) dX0_finder_79 q934 okX0_beach_2 clX0 rfl (H.get (ce_X hx)) (Nat.le_of_ble_eq_true rfl) (kX0_beach (C := uI (C) 0 30 7 _) hx h0) H rfl rfl (Nat.le_of_ble_eq_true rfl) ?_
        refine gX0_268 (C := uI (C) 0 30 7 _) dX0_finder_82 rfl E H ?_
        refine w_iload_n dX0_finder_85 rfl ?_
        refine ba_10 (C := uI (C) 0 30 7 _) dX0_finder_86 E K (by omega) H ?_
        exact w_iret dX0_finder_87 rfl ⟨by first | (rw [q_finder, if_neg (fun z => h_6 z.1)]; rfl) | (rw [q_finder, if_neg (fun z => h_18 z.2)]; rfl) | (rw [q_finder, if_pos ⟨hx_f, hx_m⟩, hcl_f, hcl_m]; rfl), _, by first | (rw [q_finder, if_neg (fun z => h_6 z.1)]; rfl) | (rw [q_finder, if_neg (fun z => h_18 z.2)]; rfl) | (rw [q_finder, if_pos ⟨hx_f, hx_m⟩]; rfl), H, F⟩
      by_cases hs_2 : m = 2
      · subst hs_2
        refine w_tableIn dX0_finder_39 (by decide +kernel) (by decide +kernel) rfl rfl ?_
        refine w_aload_n dX0_finder_88 rfl ?_
        refine cr_call (mi := miX0_day) dX0_finder_89 q886 okX0_day clX0 rfl (H.get (ce_X hx)) (Nat.le_of_ble_eq_true rfl) (kX0_day (C := uI (C) 0 30 7 _) hx h0) H rfl rfl (Nat.le_of_ble_eq_true rfl) ?_
        refine gX0_271 (C := uI (C) 0 30 7 _) dX0_finder_92 rfl h0 H ?_
        refine w_iload_n dX0_finder_95 rfl ?_
        refine da_12 (C := uI (C) 0 30 7 _) dX0_finder_96 h0 E (by omega) H ?_
        exact w_iret dX0_finder_97 rfl ⟨by first | (rw [q_finder, if_neg (fun z => h_6 z.1)]; rfl) | (rw [q_finder, if_neg (fun z => h_18 z.2)]; rfl) | (rw [q_finder, if_pos ⟨hx_f, hx_m⟩, hcl_f, hcl_m]; rfl), _, by first | (rw [q_finder, if_neg (fun z => h_6 z.1)]; rfl) | (rw [q_finder, if_neg (fun z => h_18 z.2)]; rfl) | (rw [q_finder, if_pos ⟨hx_f, hx_m⟩]; rfl), H, F⟩
      by_cases hs_3 : m = 3
      · subst hs_3
        refine w_tableIn dX0_finder_39 (by decide +kernel) (by decide +kernel) rfl rfl ?_
        refine w_aload_n dX0_finder_98 rfl ?_
        refine cr_call (mi := miX0_day) dX0_finder_99 q886 okX0_day clX0 rfl (H.get (ce_X hx)) (Nat.le_of_ble_eq_true rfl) (kX0_day (C := uI (C) 0 30 7 _) hx h0) H rfl rfl (Nat.le_of_ble_eq_true rfl) ?_
        refine gX0_274 (C := uI (C) 0 30 7 _) dX0_finder_102 rfl h0 H ?_
        refine w_iload_n dX0_finder_105 rfl ?_
        refine da_13 (C := uI (C) 0 30 7 _) dX0_finder_106 h0 E (by omega) H ?_
        exact w_iret dX0_finder_107 rfl ⟨by first | (rw [q_finder, if_neg (fun z => h_6 z.1)]; rfl) | (rw [q_finder, if_neg (fun z => h_18 z.2)]; rfl) | (rw [q_finder, if_pos ⟨hx_f, hx_m⟩, hcl_f, hcl_m]; rfl), _, by first | (rw [q_finder, if_neg (fun z => h_6 z.1)]; rfl) | (rw [q_finder, if_neg (fun z => h_18 z.2)]; rfl) | (rw [q_finder, if_pos ⟨hx_f, hx_m⟩]; rfl), H, F⟩
      by_cases hs_4 : m = 4
      · subst hs_4
        refine w_tableOut dX0_finder_39 (by decide +kernel) rfl ?_
        refine w_aload_n dX0_finder_108 rfl ?_
        refine cr_call (mi := miX0_day) dX0_finder_109 q886 okX0_day clX0 rfl (H.get (ce_X hx)) (Nat.le_of_ble_eq_true rfl) (kX0_day (C := uI (C) 0 30 7 _) hx h0) H rfl rfl (Nat.le_of_ble_eq_true rfl) ?_
        refine gX0_277 (C := uI (C) 0 30 7 _) dX0_finder_112 rfl h0 H ?_
        refine w_iload_n dX0_finder_115 rfl ?_
        refine da_14 (C := uI (C) 0 30 7 _) dX0_finder_116 h0 E (by omega) H ?_
        exact w_iret dX0_finder_117 rfl ⟨by first | (rw [q_finder, if_neg (fun z => h_6 z.1)]; rfl) | (rw [q_finder, if_neg (fun z => h_18 z.2)]; rfl) | (rw [q_finder, if_pos ⟨hx_f, hx_m⟩, hcl_f, hcl_m]; rfl), _, by first | (rw [q_finder, if_neg (fun z => h_6 z.1)]; rfl) | (rw [q_finder, if_neg (fun z => h_18 z.2)]; rfl) | (rw [q_finder, if_pos ⟨hx_f, hx_m⟩]; rfl), H, F⟩
      exact absurd hf_m (by omega)
set_option maxHeartbeats 4000000 in
theorem kX0_told {g : GG} {C : CS} {V : VS} {q : Nat → Nat} {x : Int32} (hx : oO C 0 = true) (h0 : oO C 0 = true) (E : EncD g C 0 V q) (K : OkV V) : Cp g miX0_told 2 (0) (0) [.ref (od C 0 30), .int x] C (some (.int ((q_told V x).1))) (fun C2 => C2 = uI C 0 30 7 (q_told V x).2) := by
  refine Cp.start [some (.ref (od C 0 30)), some (.int x)] plX0 rfl (Nat.le_of_ble_eq_true rfl) rfl ?_
  intro σ0 σ H F
  have kb := K.b
  refine w_aload_n dX0_told_0 rfl ?_
  refine w_iload_n dX0_told_1 rfl ?_
  refine w_i2l dX0_told_2 rfl ?_
  refine w_lconst (v := 0) dX0_told_3 rfl ?_
  refine w_ldc2 dX0_told_4 q1015 ?_
  refine cs_call (mi := miX0_isIn) dX0_told_7 q1016 okX0_isIn (Nat.le_of_ble_eq_true rfl) (kX0_isIn0 (m := 8) (by first | assumption | omega)) rfl rfl (Nat.le_of_ble_eq_true rfl) ?_
  refine w_ifB_eq dX0_told_10 rfl (fun h_10 => ?_) (fun h_10 => ?_)
  · have hno := h_10
    refine w_iconst (v := nI 1) dX0_told_17 ki_1 ?_
    refine pX0_85 (C := C) dX0_told_18 rfl hx H F ?_
    intro σ H F
    have E := EncD.stH H E
    refine w_iload_n dX0_told_21 rfl ?_
    refine w_tableOut dX0_told_22 (out_tab (n := 8) hno (by omega)) rfl ?_
    refine w_iconst (v := (-1)) dX0_told_144 ki_m1 ?_
    exact w_iret dX0_told_145 rfl ⟨by first | (rw [q_told, if_neg hno]; rfl) | (rw [q_told, if_pos hx_m, hcl_m]; rfl), _, by first | (rw [q_told, if_neg hno]; rfl) | (rw [q_told, if_pos hx_m]; rfl), H, F⟩
  · have hx_m := h_10
    obtain ⟨m, hf_m, rfl⟩ := inN_of h_10 (by omega)
    have hcl_m : cl (nI m) = m := nI_clamp (by omega)
    refine w_iconst (v := nI 0) dX0_told_13 ki_0 ?_
    refine w_goto dX0_told_14 rfl ?_
    refine pX0_85 (C := C) dX0_told_18 rfl hx H F ?_
    intro σ H F
    have E := EncD.stH H E
    refine w_iload_n dX0_told_21 rfl ?_
    by_cases hs_0 : m = 0
    · subst hs_0
      refine w_tableIn dX0_told_22 (by decide +kernel) (by decide +kernel) rfl rfl ?_
      refine w_aload_n dX0_told_72 rfl ?_
      refine cr_call (mi := miX0_beach_2) dX0_told_73 q934 okX0_beach_2 clX0 rfl (H.get (ce_X hx)) (Nat.le_of_ble_eq_true rfl) (kX0_beach (C := uI (C) 0 30 7 _) hx h0) H rfl rfl (Nat.le_of_ble_eq_true rfl) ?_
      refine gX0_242 (C := uI (C) 0 30 7 _) dX0_told_76 rfl E H ?_
      exact w_iret dX0_told_79 rfl ⟨by first | (rw [q_told, if_neg hno]; rfl) | (rw [q_told, if_pos hx_m, hcl_m]; rfl), _, by first | (rw [q_told, if_neg hno]; rfl) | (rw [q_told, if_pos hx_m]; rfl), H, F⟩
    by_cases hs_1 : m = 1
    · subst hs_1
      refine w_tableIn dX0_told_22 (by decide +kernel) (by decide +kernel) rfl rfl ?_
      refine w_aload_n dX0_told_80 rfl ?_
      refine cr_call (mi := miX0_beach_2) dX0_told_81 q934 okX0_beach_2 clX0 rfl (H.get (ce_X hx)) (Nat.le_of_ble_eq_true rfl) (kX0_beach (C := uI (C) 0 30 7 _) hx h0) H rfl rfl (Nat.le_of_ble_eq_true rfl) ?_
      refine gX0_168 (C := uI (C) 0 30 7 _) dX0_told_84 rfl E H ?_
      exact w_iret dX0_told_87 rfl ⟨by first | (rw [q_told, if_neg hno]; rfl) | (rw [q_told, if_pos hx_m, hcl_m]; rfl), _, by first | (rw [q_told, if_neg hno]; rfl) | (rw [q_told, if_pos hx_m]; rfl), H, F⟩
    by_cases hs_2 : m = 2
    · subst hs_2
      refine w_tableIn dX0_told_22 (by decide +kernel) (by decide +kernel) rfl rfl ?_
      refine w_aload_n dX0_told_88 rfl ?_
      refine cr_call (mi := miX0_beach_2) dX0_told_89 q934 okX0_beach_2 clX0 rfl (H.get (ce_X hx)) (Nat.le_of_ble_eq_true rfl) (kX0_beach (C := uI (C) 0 30 7 _) hx h0) H rfl rfl (Nat.le_of_ble_eq_true rfl) ?_
      refine gX0_177 (C := uI (C) 0 30 7 _) dX0_told_92 rfl E H ?_
      exact w_iret dX0_told_95 rfl ⟨by first | (rw [q_told, if_neg hno]; rfl) | (rw [q_told, if_pos hx_m, hcl_m]; rfl), _, by first | (rw [q_told, if_neg hno]; rfl) | (rw [q_told, if_pos hx_m]; rfl), H, F⟩
    by_cases hs_3 : m = 3
    · subst hs_3
      refine w_tableIn dX0_told_22 (by decide +kernel) (by decide +kernel) rfl rfl ?_
      refine w_aload_n dX0_told_96 rfl ?_
      refine cr_call (mi := miX0_day) dX0_told_97 q886 okX0_day clX0 rfl (H.get (ce_X hx)) (Nat.le_of_ble_eq_true rfl) (kX0_day (C := uI (C) 0 30 7 _) hx h0) H rfl rfl (Nat.le_of_ble_eq_true rfl) ?_
      refine gX0_245 (C := uI (C) 0 30 7 _) dX0_told_100 rfl h0 H ?_
      refine w_topN (E.ti) ?_
      exact w_iret dX0_told_103 rfl ⟨by first | (rw [q_told, if_neg hno]; rfl) | (rw [q_told, if_pos hx_m, hcl_m]; rfl), _, by first | (rw [q_told, if_neg hno]; rfl) | (rw [q_told, if_pos hx_m]; rfl), H, F⟩
    by_cases hs_4 : m = 4
    · subst hs_4
      refine w_tableIn dX0_told_22 (by decide +kernel) (by decide +kernel) rfl rfl ?_
      refine w_aload_n dX0_told_104 rfl ?_
      refine cr_call (mi := miX0_beach_2) dX0_told_105 q934 okX0_beach_2 clX0 rfl (H.get (ce_X hx)) (Nat.le_of_ble_eq_true rfl) (kX0_beach (C := uI (C) 0 30 7 _) hx h0) H rfl rfl (Nat.le_of_ble_eq_true rfl) ?_
      refine gX0_248 (C := uI (C) 0 30 7 _) dX0_told_108 rfl E H ?_
      exact w_iret dX0_told_111 rfl ⟨by first | (rw [q_told, if_neg hno]; rfl) | (rw [q_told, if_pos hx_m, hcl_m]; rfl), _, by first | (rw [q_told, if_neg hno]; rfl) | (rw [q_told, if_pos hx_m]; rfl), H, F⟩
    by_cases hs_5 : m = 5
    · subst hs_5
      refine w_tableIn dX0_told_22 (by decide +kernel) (by decide +kernel) rfl rfl ?_
      refine w_aload_n dX0_told_112 rfl ?_
      refine cr_call (mi := miX0_beach_2) dX0_told_113 q934 okX0_beach_2 clX0 rfl (H.get (ce_X hx)) (Nat.le_of_ble_eq_true rfl) (kX0_beach (C := uI (C) 0 30 7 _) hx h0) H rfl rfl (Nat.le_of_ble_eq_true rfl) ?_
      refine gX0_251 (C := uI (C) 0 30 7 _) dX0_told_116 rfl E H ?_
      exact w_iret dX0_told_119 rfl ⟨by first | (rw [q_told, if_neg hno]; rfl) | (rw [q_told, if_pos hx_m, hcl_m]; rfl), _, by first | (rw [q_told, if_neg hno]; rfl) | (rw [q_told, if_pos hx_m]; rfl), H, F⟩
    by_cases hs_6 : m = 6
    · subst hs_6
      refine w_tableIn dX0_told_22 (by decide +kernel) (by decide +kernel) rfl rfl ?_
      refine w_aload_n dX0_told_120 rfl ?_
      refine cr_call (mi := miX0_day) dX0_told_121 q886 okX0_day clX0 rfl (H.get (ce_X hx)) (Nat.le_of_ble_eq_true rfl) (kX0_day (C := uI (C) 0 30 7 _) hx h0) H rfl rfl (Nat.le_of_ble_eq_true rfl) ?_
      refine gX0_254 (C := uI (C) 0 30 7 _) dX0_told_124 rfl h0 H ?_
      refine w_topN (E.dy) ?_
      exact w_iret dX0_told_127 rfl ⟨by first | (rw [q_told, if_neg hno]; rfl) | (rw [q_told, if_pos hx_m, hcl_m]; rfl), _, by first | (rw [q_told, if_neg hno]; rfl) | (rw [q_told, if_pos hx_m]; rfl), H, F⟩
    by_cases hs_7 : m = 7
    · subst hs_7
      refine w_tableIn dX0_told_22 (by decide +kernel) (by decide +kernel) rfl rfl ?_
      refine w_aload_n dX0_told_128 rfl ?_
      refine cr_call (mi := miX0_day) dX0_told_129 q886 okX0_day clX0 rfl (H.get (ce_X hx)) (Nat.le_of_ble_eq_true rfl) (kX0_day (C := uI (C) 0 30 7 _) hx h0) H rfl rfl (Nat.le_of_ble_eq_true rfl) ?_
      refine gX0_256 (C := uI (C) 0 30 7 _) dX0_told_132 rfl h0 H ?_
      refine w_topN (E.th) ?_
      exact w_iret dX0_told_135 rfl ⟨by first | (rw [q_told, if_neg hno]; rfl) | (rw [q_told, if_pos hx_m, hcl_m]; rfl), _, by first | (rw [q_told, if_neg hno]; rfl) | (rw [q_told, if_pos hx_m]; rfl), H, F⟩
    by_cases hs_8 : m = 8
    · subst hs_8
      refine w_tableIn dX0_told_22 (by decide +kernel) (by decide +kernel) rfl rfl ?_
      refine w_aload_n dX0_told_136 rfl ?_
      refine cr_call (mi := miX0_day) dX0_told_137 q886 okX0_day clX0 rfl (H.get (ce_X hx)) (Nat.le_of_ble_eq_true rfl) (kX0_day (C := uI (C) 0 30 7 _) hx h0) H rfl rfl (Nat.le_of_ble_eq_true rfl) ?_
      refine cr_call (mi := miX5_pebbles) dX0_told_140 q1019 okX5_pebbles clX5 rfl (H.get (ce_day h0)) (Nat.le_of_ble_eq_true rfl) (kX5_pebbles (C := uI (C) 0 30 7 _) h0 E K) H rfl rfl (Nat.le_of_ble_eq_true rfl) ?_
      exact w_iret dX0_told_143 rfl ⟨by first | (rw [q_told, if_neg hno]; rfl) | (rw [q_told, if_pos hx_m, hcl_m]; rfl), _, by first | (rw [q_told, if_neg hno]; rfl) | (rw [q_told, if_pos hx_m]; rfl), H, F⟩
    exact absurd hf_m (by omega)
/-- none but f can be alone the last -/
theorem safe_or {V : VS} {f d n : Nat} (hf : f < 6) : foldN (fun g s => s ||| if soonV V g d = 0 then 0 else 2 ^ g) 0 n ||| 2 ^ f = 2 ^ f ↔ ∀ g, g < n → g = f ∨ soonV V g d = 0 := by
  induction n with
  | zero => exact ⟨fun _ g h => absurd h (Nat.not_lt_zero g), fun _ => by show (0 : Nat) ||| 2 ^ f = _; rw [Nat.zero_or]⟩
  | succ n ih =>
    rw [foldN_s]
    have hz : ∀ a b c : Nat, (a ||| b) ||| c = c ↔ a ||| c = c ∧ b ||| c = c := by
      intro a b c
      constructor
      · intro h
        constructor <;> (apply Nat.eq_of_testBit_eq; intro i; have := congrArg (fun z => z.testBit i) h; simp only [Nat.testBit_or] at this ⊢; revert this; cases a.testBit i <;> cases b.testBit i <;> cases c.testBit i <;> simp)
      · rintro ⟨h1, h2⟩
        rw [Nat.or_assoc, h2, h1]
    rw [hz, ih]
    have h1 : (if soonV V n d = 0 then 0 else 2 ^ n) ||| 2 ^ f = 2 ^ f ↔ n = f ∨ soonV V n d = 0 := by
      by_cases h0 : soonV V n d = 0
      · rw [if_pos h0, Nat.zero_or]
        exact ⟨fun _ => Or.inr h0, fun _ => rfl⟩
      · rw [if_neg h0]
        constructor
        · intro h
          left
          have := congrArg (fun z => z.testBit n) h
          simp only [Nat.testBit_or, Nat.testBit_two_pow] at this
          simp at this
          exact this.symm
        · rintro (h | h)
          · rw [h]; apply Nat.eq_of_testBit_eq; intro i; rw [Nat.testBit_or, Bool.or_self]
          · exact absurd h h0
    rw [h1]
    constructor
    · rintro ⟨h2, h3⟩ g hg
      by_cases hgn : g = n
      · subst hgn; exact h3
      · exact h2 g (by omega)
    · intro h
      exact ⟨fun g hg => h g (by omega), h n (by omega)⟩
def safeB (V : VS) (f d n : Nat) : Nat := if ∀ g, g < n → g = f ∨ soonV V g d = 0 then 1 else 0
theorem safeB_s {V : VS} {f d n : Nat} : safeB V f d (n + 1) = if safeB V f d n = 1 ∧ (n = f ∨ soonV V n d = 0) then 1 else 0 := by
  have h9 : (∀ g, g < n + 1 → g = f ∨ soonV V g d = 0) ↔ (∀ g, g < n → g = f ∨ soonV V g d = 0) ∧ (n = f ∨ soonV V n d = 0) := by
    constructor
    · intro h
      exact ⟨fun g hg => h g (by omega), h n (by omega)⟩
    · rintro ⟨h, h2⟩ g hg
      by_cases hgn : g = n
      · subst hgn; exact h2
      · exact h g (by omega)
  have h8 : safeB V f d n = 1 ↔ ∀ g, g < n → g = f ∨ soonV V g d = 0 := by
    unfold safeB
    by_cases h : ∀ g, g < n → g = f ∨ soonV V g d = 0
    · rw [if_pos h]; exact ⟨fun _ => h, fun _ => rfl⟩
    · rw [if_neg h]; exact ⟨fun z => by omega, fun z => absurd z h⟩
  show (if ∀ g, g < n + 1 → g = f ∨ soonV V g d = 0 then 1 else 0) = _
  by_cases h : ∀ g, g < n + 1 → g = f ∨ soonV V g d = 0
  · rw [if_pos h, if_pos ⟨h8.mpr (h9.mp h).1, (h9.mp h).2⟩]
  · rw [if_neg h, if_neg (fun z => h (h9.mpr ⟨h8.mp z.1, z.2⟩))]
theorem safeB_01 (V : VS) (f d n : Nat) : safeB V f d n = 0 ∨ safeB V f d n = 1 := by unfold safeB; split <;> omega
theorem safe_fin {V : VS} {f d : Nat} (hf : f < 6) (ht : isT V d) (hl : lastV V d = 2 ^ f) : safeB V f d (vs V 1) = 1 ↔ safeP V f d := by
  unfold safeB safeP threatV
  rw [safe_or hf]
  constructor
  · intro h
    refine ⟨ht, hl, ?_⟩
    by_cases h2 : ∀ g, g < vs V 1 → g = f ∨ soonV V g d = 0
    · exact h2
    · rw [if_neg h2] at h; omega
  · rintro ⟨-, -, h⟩
    rw [if_pos h]
set_option maxHeartbeats 4000000 in
theorem kX0_safe {g : GG} {C : CS} {V : VS} {q : Nat → Nat} {x : Int32} (hx : oO C 0 = true) (h0 : oO C 0 = true) (E : EncD g C 0 V q) (K : OkV V) : Cp g miX0_safe 4 (0) (0) [.ref (od C 0 30), .int x] C (some (.int ((q_safe V x).1))) (fun C2 => C2 = uI C 0 30 7 (q_safe V x).2) := by
  refine Cp.start [some (.ref (od C 0 30)), some (.int x), none, none, none, none] plX0 rfl (Nat.le_of_ble_eq_true rfl) rfl ?_
  intro σ0 σ H F
  have kb := K.b
  refine w_aload_n dX0_safe_0 rfl ?_
  refine w_aload_n dX0_safe_1 rfl ?_
  refine w_iload_n dX0_safe_2 rfl ?_
  refine cr_call (mi := miX0_isFinder) dX0_safe_3 q1027 okX0_isFinder clX0 rfl (H.get (ce_X hx)) (Nat.le_of_ble_eq_true rfl) (kX0_isFinder (C := C) hx h0 E K) H rfl rfl (Nat.le_of_ble_eq_true rfl) ?_
  refine w_ifB_eq dX0_safe_6 rfl (fun h_6 => ?_) (fun h_6 => ?_)
  · refine w_iconst (v := nI 1) dX0_safe_13 ki_1 ?_
    refine pX0_85 (C := C) dX0_safe_14 rfl hx H F ?_
    intro σ H F
    have E := EncD.stH H E
    refine w_aload_n dX0_safe_17 rfl ?_
    refine gst_85 dX0_safe_18 rfl hx H ?_
    refine w_ifN_le dX0_safe_21 rfl (by decide) (fun h_21 => ?_) (fun h_21 => ?_)
    · exact absurd (show _ from h_21) (by decide)
    refine w_iconst (v := (-1)) dX0_safe_24 ki_m1 ?_
    exact w_iret dX0_safe_25 rfl ⟨by first | rfl | (unfold q_safe; (try simp only [hcl_f]); (repeat' split) <;> first | rfl | contradiction | omega | (exfalso; simp_all; done)), _, by first | rfl | (unfold q_safe; (try simp only [hcl_f]); (repeat' split) <;> first | rfl | contradiction | omega | (exfalso; simp_all; done)), H, F⟩
  · have hx_f := h_6
    obtain ⟨f, hf_f, rfl⟩ := inN_of h_6 (by omega)
    have hcl_f : cl (nI f) = f := nI_clamp (by omega)
    have kf_f := K.f hf_f
    refine w_iconst (v := nI 0) dX0_safe_9 ki_0 ?_
    refine w_goto dX0_safe_10 rfl ?_
    refine pX0_85 (C := C) dX0_safe_14 rfl hx H F ?_
    intro σ H F
    have E := EncD.stH H E
    refine w_aload_n dX0_safe_17 rfl ?_
    refine gst_85 dX0_safe_18 rfl hx H ?_
    refine w_ifN_le dX0_safe_21 rfl (by decide) (fun h_21 => ?_) (fun h_21 => ?_)
    rotate_left
    · exact absurd (show _ from h_21) (by decide)
    refine w_iconst (v := nI 0) dX0_safe_26 ki_0 ?_
    refine w_istore_n dX0_safe_27 rfl (Nat.le_of_ble_eq_true rfl) ls_6_2 ?_
    refine w_iconst (v := nI 0) dX0_safe_28 ki_0 ?_
    refine w_istore_n dX0_safe_29 rfl (Nat.le_of_ble_eq_true rfl) ls_6_3 ?_
    have lp : ∀ (j9 : Nat) (k : Nat), vs V 2 - k < j9 → k ≤ vs V 2 → Wp g (mtC g miX0_safe 4 (0) (0) σ0 (some (.int ((q_safe V (nI f)).1))) (fun C2 => C2 = uI C 0 30 7 (q_safe V (nI f)).2)) 0 0 30 [some (.ref (od C 0 30)), some (.int (nI f)), some (.int (nI (foldN (fun d s => s ||| if safeP V f d then 2 ^ d else 0) 0 k))), some (.int (nI k)), none, none] [] σ := by
      intro j9
      induction j9 with
      | zero => intro k hmu hk; exact absurd hmu (Nat.not_lt_zero _)
      | succ j9 ih_lp =>
        intro k hmu hk
        have hp6 := pow6 f (by omega)
        refine w_iload_n dX0_safe_30 rfl ?_
        refine w_aload_n dX0_safe_31 rfl ?_
        refine cr_call (mi := miX0_beach_2) dX0_safe_32 q934 okX0_beach_2 clX0 rfl (H.get (ce_X hx)) (Nat.le_of_ble_eq_true rfl) (kX0_beach (C := uI (C) 0 30 7 _) hx h0) H rfl rfl (Nat.le_of_ble_eq_true rfl) ?_
        refine gX0_177 (C := uI (C) 0 30 7 _) dX0_safe_35 rfl E H ?_
        refine w_icmpN_ge dX0_safe_38 rfl (by omega) (by omega) (fun h_38 => ?_) (fun h_38 => ?_)
        · obtain rfl : k = vs V 2 := by omega
          refine w_iload_n dX0_safe_146 rfl ?_
          exact w_iret dX0_safe_147 rfl ⟨by first | rfl | (unfold q_safe; (try simp only [hcl_f]); (repeat' split) <;> first | rfl | contradiction | omega | (exfalso; simp_all; done)), _, by first | rfl | (unfold q_safe; (try simp only [hcl_f]); (repeat' split) <;> first | rfl | contradiction | omega | (exfalso; simp_all; done)), H, F⟩
        · refine w_aload_n dX0_safe_41 rfl ?_
          refine cr_call (mi := miX0_day) dX0_safe_42 q886 okX0_day clX0 rfl (H.get (ce_X hx)) (Nat.le_of_ble_eq_true rfl) (kX0_day (C := uI (C) 0 30 7 _) hx h0) H rfl rfl (Nat.le_of_ble_eq_true rfl) ?_
          refine w_iload_n dX0_safe_45 rfl ?_
          refine cr_call (mi := miX5_isThere) dX0_safe_46 q1183 okX5_isThere clX5 rfl (H.get (ce_day h0)) (Nat.le_of_ble_eq_true rfl) (kX5_isThere (C := uI (C) 0 30 7 _) h0 E K (by first | assumption | omega)) H rfl rfl (Nat.le_of_ble_eq_true rfl) ?_
          refine w_ifB_eq dX0_safe_49 rfl (fun h_49 => ?_) (fun h_49 => ?_)
          · refine w_iinc dX0_safe_140 rfl (nI_inc _ 1) rfl (Nat.le_of_ble_eq_true rfl) ls_6_3 ?_
            refine w_goto dX0_safe_143 rfl ?_
            exact w_as (ih_lp (k + 1) (by omega) (by omega)) (by rw [foldN_s, if_neg (fun z => h_49 z.1), Nat.or_zero]) rfl rfl
          · refine w_aload_n dX0_safe_52 rfl ?_
            refine cr_call (mi := miX0_day) dX0_safe_53 q886 okX0_day clX0 rfl (H.get (ce_X hx)) (Nat.le_of_ble_eq_true rfl) (kX0_day (C := uI (C) 0 30 7 _) hx h0) H rfl rfl (Nat.le_of_ble_eq_true rfl) ?_
            refine gX0_288 (C := uI (C) 0 30 7 _) dX0_safe_56 rfl h0 H ?_
            refine w_iload_n dX0_safe_59 rfl ?_
            refine ga_heaps (C := uI (C) 0 30 7 _) dX0_safe_60 h0 (by omega) H ?_
            refine cr_call (mi := miX7_last) dX0_safe_61 q1184 okX7_last clX7 rfl (H.get (ce_heap (on8 h0 (by omega)))) (Nat.le_of_ble_eq_true rfl) (kX7_last (C := uI (C) 0 30 7 _) (on8 h0 (by omega)) (E.h (d := k) (by omega)) (by intro k9 hk9; have h9 := (K.p (d := k) (by omega) hk9).1; omega) (by intro k9 hk9; have h9 := (K.p (d := k) (by omega) hk9).2; omega)) H rfl rfl (Nat.le_of_ble_eq_true rfl) ?_
            refine w_topN (show _ = nI (lastV V k) from rfl) ?_
            have hl := lastV_lt K (d := k) (by omega)
            refine w_iconst (v := nI 1) dX0_safe_64 ki_1 ?_
            refine w_iload_n dX0_safe_65 rfl ?_
            refine w_shl1N dX0_safe_66 (by omega) ?_
            refine w_icmpN_eq dX0_safe_67 rfl (by omega) (by omega) (fun h_67 => ?_) (fun h_67 => ?_)
            · refine w_iconst (v := nI 1) dX0_safe_73 ki_1 ?_
              refine w_istore dX0_safe_74 rfl (Nat.le_of_ble_eq_true rfl) ls_6_4 ?_
              refine w_iconst (v := nI 0) dX0_safe_76 ki_0 ?_
              refine w_istore dX0_safe_77 rfl (Nat.le_of_ble_eq_true rfl) ls_6_5 ?_
              have li : ∀ (j9 : Nat) (u : Nat), vs V 1 - u < j9 → u ≤ vs V 1 → Wp g (mtC g miX0_safe 4 (0) (0) σ0 (some (.int ((q_safe V (nI f)).1))) (fun C2 => C2 = uI C 0 30 7 (q_safe V (nI f)).2)) 0 0 79 [some (.ref (od C 0 30)), some (.int (nI f)), some (.int (nI (foldN (fun d s => s ||| if safeP V f d then 2 ^ d else 0) 0 k))), some (.int (nI k)), some (.int (nI (safeB V f k u))), some (.int (nI u))] [] σ := by
                intro j9
                induction j9 with
                | zero => intro u hmu hu; exact absurd hmu (Nat.not_lt_zero _)
                | succ j9 ih_li =>
                  intro u hmu hu
                  have hb01 := safeB_01 V f k u
                  refine w_iload dX0_safe_79 rfl ?_
                  refine w_aload_n dX0_safe_81 rfl ?_
                  refine cr_call (mi := miX0_beach_2) dX0_safe_82 q934 okX0_beach_2 clX0 rfl (H.get (ce_X hx)) (Nat.le_of_ble_eq_true rfl) (kX0_beach (C := uI (C) 0 30 7 _) hx h0) H rfl rfl (Nat.le_of_ble_eq_true rfl) ?_
                  refine gX0_168 (C := uI (C) 0 30 7 _) dX0_safe_85 rfl E H ?_
                  refine w_icmpN_ge dX0_safe_88 rfl (by omega) (by omega) (fun h_88 => ?_) (fun h_88 => ?_)
                  · have hun : u = vs V 1 := by omega
                    subst hun
                    refine w_iload_n dX0_safe_125 rfl ?_
                    refine w_iload dX0_safe_126 rfl ?_
                    refine w_ifN_eq dX0_safe_128 rfl (by omega) (fun h_128 => ?_) (fun h_128 => ?_)
                    · refine w_iconst (v := nI 0) dX0_safe_137 ki_0 ?_
                      refine w_iorN dX0_safe_138 ?_
                      refine w_istore_n dX0_safe_139 rfl (Nat.le_of_ble_eq_true rfl) ls_6_2 ?_
                      refine w_iinc dX0_safe_140 rfl (nI_inc _ 1) rfl (Nat.le_of_ble_eq_true rfl) ls_6_3 ?_
                      refine w_goto dX0_safe_143 rfl ?_
                      exact w_L (wkS (wkS (wkS (wkS (wkN (wkN wk0)))))) (w_as (ih_lp (k + 1) (by omega) (by omega)) (by rw [foldN_s, if_neg (fun z => by have := (safe_fin (by omega) h_49 h_67).mpr z; omega), Nat.or_zero]) rfl rfl)
                    · refine w_iconst (v := nI 1) dX0_safe_131 ki_1 ?_
                      refine w_iload_n dX0_safe_132 rfl ?_
                      refine w_shl1N dX0_safe_133 (by omega) ?_
                      refine w_goto dX0_safe_134 rfl ?_
                      refine w_iorN dX0_safe_138 ?_
                      refine w_istore_n dX0_safe_139 rfl (Nat.le_of_ble_eq_true rfl) ls_6_2 ?_
                      refine w_iinc dX0_safe_140 rfl (nI_inc _ 1) rfl (Nat.le_of_ble_eq_true rfl) ls_6_3 ?_
                      refine w_goto dX0_safe_143 rfl ?_
                      exact w_L (wkS (wkS (wkS (wkS (wkN (wkN wk0)))))) (w_as (ih_lp (k + 1) (by omega) (by omega)) (by rw [foldN_s, if_pos ((safe_fin (by omega) h_49 h_67).mp (by have := safeB_01 V f k (vs V 1); omega))]) rfl rfl)
                  · refine w_iload dX0_safe_91 rfl ?_
                    refine w_ifN_eq dX0_safe_93 rfl (by omega) (fun h_93 => ?_) (fun h_93 => ?_)
                    · refine w_iconst (v := nI 0) dX0_safe_116 ki_0 ?_
                      refine w_istore dX0_safe_117 rfl (Nat.le_of_ble_eq_true rfl) ls_6_4 ?_
                      refine w_iinc dX0_safe_119 rfl (nI_inc _ 1) rfl (Nat.le_of_ble_eq_true rfl) ls_6_5 ?_
                      refine w_goto dX0_safe_122 rfl ?_
                      exact w_as (ih_li (u + 1) (by omega) (by omega)) (by rw [safeB_s, if_neg (fun z => by omega)]) rfl rfl
                    · refine w_iload dX0_safe_96 rfl ?_
                      refine w_iload_n dX0_safe_98 rfl ?_
                      refine w_icmpN_eq dX0_safe_99 rfl (by omega) (by omega) (fun h_99 => ?_) (fun h_99 => ?_)
                      · refine w_iconst (v := nI 1) dX0_safe_112 ki_1 ?_
                        refine w_goto dX0_safe_113 rfl ?_
                        refine w_istore dX0_safe_117 rfl (Nat.le_of_ble_eq_true rfl) ls_6_4 ?_
                        refine w_iinc dX0_safe_119 rfl (nI_inc _ 1) rfl (Nat.le_of_ble_eq_true rfl) ls_6_5 ?_
                        refine w_goto dX0_safe_122 rfl ?_
                        exact w_as (ih_li (u + 1) (by omega) (by omega)) (by rw [safeB_s, if_pos ⟨by omega, by omega⟩]) rfl rfl
                      · refine w_aload_n dX0_safe_102 rfl ?_
                        refine w_iload dX0_safe_103 rfl ?_
                        refine w_iload_n dX0_safe_105 rfl ?_
                        refine cr_call (mi := miX0_soonestOf) dX0_safe_106 q1224 okX0_soonestOf clX0 rfl (H.get (ce_X hx)) (Nat.le_of_ble_eq_true rfl) (kX0_soonestOf (C := uI (C) 0 30 7 _) hx h0 E K (by first | assumption | omega) (by first | assumption | omega)) H rfl rfl (Nat.le_of_ble_eq_true rfl) ?_
                        have hso := soonV_le K u k
                        refine w_if_ge dX0_safe_109 rfl (fun h_109 => ?_) (fun h_109 => ?_)
                        · have h_109 : soonV V u k ≠ 0 := fun z => absurd ((dn_lt (by omega)).mpr z) (Int32.not_lt.mpr h_109)
                          refine w_iconst (v := nI 0) dX0_safe_116 ki_0 ?_
                          refine w_istore dX0_safe_117 rfl (Nat.le_of_ble_eq_true rfl) ls_6_4 ?_
                          refine w_iinc dX0_safe_119 rfl (nI_inc _ 1) rfl (Nat.le_of_ble_eq_true rfl) ls_6_5 ?_
                          refine w_goto dX0_safe_122 rfl ?_
                          exact w_as (ih_li (u + 1) (by omega) (by omega)) (by rw [safeB_s, if_neg (fun z => by omega)]) rfl rfl
                        · have h_109 : soonV V u k = 0 := (dn_lt (by omega)).mp (Int32.not_le.mp h_109)
                          refine w_iconst (v := nI 1) dX0_safe_112 ki_1 ?_
                          refine w_goto dX0_safe_113 rfl ?_
                          refine w_istore dX0_safe_117 rfl (Nat.le_of_ble_eq_true rfl) ls_6_4 ?_
                          refine w_iinc dX0_safe_119 rfl (nI_inc _ 1) rfl (Nat.le_of_ble_eq_true rfl) ls_6_5 ?_
                          refine w_goto dX0_safe_122 rfl ?_
                          exact w_as (ih_li (u + 1) (by omega) (by omega)) (by rw [safeB_s, if_pos ⟨by omega, by omega⟩]) rfl rfl
              exact w_as (li (vs V 1 + 1) 0 (by omega) (by omega)) (by rw [show safeB V f k 0 = 1 from if_pos (fun g hg => absurd hg (Nat.not_lt_zero g))]) rfl rfl
            · refine w_goto dX0_safe_70 rfl ?_
              refine w_iinc dX0_safe_140 rfl (nI_inc _ 1) rfl (Nat.le_of_ble_eq_true rfl) ls_6_3 ?_
              refine w_goto dX0_safe_143 rfl ?_
              exact w_as (ih_lp (k + 1) (by omega) (by omega)) (by rw [foldN_s, if_neg (fun z => h_67 z.2.1), Nat.or_zero]) rfl rfl
    exact lp (vs V 2 + 1) 0 (by omega) (by omega)
