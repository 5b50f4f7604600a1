set_option maxRecDepth 100000
set_option maxHeartbeats 4000000 in
theorem c_aFinder {g : GG} {S : MS} {X : TX} {t : Tk} {B : BS} (hT : TxS S X) (hK : TkS S t) (hO : OkT9 X t) (h0 : mI S 18 = nI 0) (EB : EncB S B) (OB : OkB B) : Mp g miX8_aFinder 8 [] (S) (some (.int (bP (okE (pFinder X B t))))) (PX (pFinder X B t) S (fun v S2 => FrP S S2 ∧ EncB S2 v.1 ∧ OkB v.1 ∧ TkS S2 v.2 ∧ mI S2 18 = nI 0 ∧ mI S2 17 = mI S 17)) := by
  refine Mp.start (fun b => [some (.ref b), none]) plX8 rfl (fun b => (Nat.le_of_ble_eq_true rfl)) (fun b => rfl) ?_
  intro σ b
  have hb6 := OB.b
  have hT0 := hT
  have k0 := hK
  have o0 := hO
  have z0 := h0
  have F0 := FrP.refl S
  have A0 : mA S 0 = (mA S 0) := rfl
  have B0 : mB S 1 = (mB S 1) := rfl
  have I0 : ∀ i, 15 < i → mI S i = mI S i := fun _ _ => rfl
  refine w_sipush (v := nI 5610) dX8_aFinder_0 ks_5610 ?_
  refine w_iconst (v := nI 5) dX8_aFinder_3 ki_5 ?_
  refine w_aload_n dX8_aFinder_4 rfl ?_
  refine mg_at dX8_aFinder_5 rfl ?_
  refine w_sipush (v := nI 5601) dX8_aFinder_8 ks_5601 ?_
  refine ma_at dX8_aFinder_11 (by omega) ?_
  refine w_topN (n := vs B.W 1) (EB.s 1 (by omega)) ?_
  refine w_imulN dX8_aFinder_12 ?_
  refine w_iaddN dX8_aFinder_13 ?_
  refine w_istore_n dX8_aFinder_14 rfl (Nat.le_of_ble_eq_true rfl) ls_2_1 ?_
  refine w_aload_n dX8_aFinder_15 rfl ?_
  refine w_iconst (v := nI 1) dX8_aFinder_16 ki_1 ?_
  refine w_bipush (v := nI 6) dX8_aFinder_17 kb_6 ?_
  refine w_iconst (v := nI 0) dX8_aFinder_19 ki_0 ?_
  refine m_callPi3 (mi := miX8_newOne) dX8_aFinder_20 q1789 okX8_newOne rfl (Nat.le_of_ble_eq_true rfl) (c_newOne hT0 k0 o0 z0 EB OB (EB.s 1 (by omega)) (by omega) (by omega) (by omega)) (Nat.le_of_ble_eq_true rfl) (fun S20 hS20 => ?_)
  refine w_ifB_eq dX8_aFinder_23 rfl (fun h_23 => ?_) (fun h_23 => ?_)
  · obtain ⟨f9, e9⟩ := okE_f h_23
    have ee : pFinder X B t = .error f9 := by simp only [pFinder, bind, Except.bind, e9]
    have hx0 := PX_f hS20 e9
    have hx := And.intro (F0.trans hx0.1) hx0.2
    refine w_iconst (v := nI 0) dX8_aFinder_34 ki_0 ?_
    exact w_zret dX8_aFinder_35 rfl (by first | exact narr0 | exact narr1) ⟨by rw [bP_f (okE_er (ee))], _, by exact PX_er ee hx, rfl⟩
  · obtain ⟨⟨v1, t1⟩, e1⟩ := okE_t h_23
    have a1 := PX_t hS20 e1
    have p1 := wNew_pg o0 e1
    have o1 := p1.1.1
    have k1 : TkS S20 t1 := a1.2
    have q1 : FrK (sB S 1 (56 + 0 + vs B.W 1) (lN (n256 v1))) S20 := a1.1
    have F1 := F0.trans ((FrP.B1 S (lN (n256 v1)) (show 56 ≤ 56 + 0 + vs B.W 1 by omega)).trans q1.P)
    have hT1 := (show TxS (sB S 1 (56 + 0 + vs B.W 1) (lN (n256 v1))) X from hT0).fr q1
    have A1 : mA S20 0 = (mA S 0) := (q1.A 0).trans A0
    have B1 : mB S20 1 = (vp_updL (mB S 1) (56 + 0 + vs B.W 1) (lN (n256 v1))) := (q1.B 1).trans (congrArg (fun q => vp_updL q (56 + 0 + vs B.W 1) (lN (n256 v1))) B0)
    have I1 : ∀ i, 15 < i → mI S20 i = mI S i := fun i hi => (q1.1 i (by omega)).trans (I0 i hi)
    have z1 := (I1 18 (by omega)).trans h0
    have hn6 : vs B.W 1 < 6 := by have := p1.2.2; omega
    refine w_aload_n dX8_aFinder_26 rfl ?_
    refine w_iload_n dX8_aFinder_27 rfl ?_
    have EB1 : EncB S20 B := ⟨by rw [A1]; exact EB.1, fun i hi => by rw [B1, updL_ne (by omega)]; exact EB.2.1 i hi, fun i hi => by rw [B1, updL_ne (by omega)]; exact EB.2.2.1 i hi, (I1 21 (by omega)).trans EB.2.2.2.1, (I1 20 (by omega)).trans EB.2.2.2.2.1, by rw [A1]; exact EB.2.2.2.2.2⟩
    refine m_callPi1 (mi := miX8_atCell) dX8_aFinder_28 q1805 okX8_atCell rfl (Nat.le_of_ble_eq_true rfl) (c_atCell hT1 k1 o1 z1 EB1 OB (by omega) (by omega)) (Nat.le_of_ble_eq_true rfl) (fun S28 hS28 => ?_)
    refine w_ifB_ne dX8_aFinder_31 rfl (fun h_31 => ?_) (fun h_31 => ?_)
    · obtain ⟨⟨v2, t2⟩, e2⟩ := okE_t h_31
      have a2 := PX_t hS28 e2
      have p2 := pCell_pg OB o1 e2
      have o2 := p2.1.1
      have k2 : TkS S28 t2 := a2.2
      have q2 : FrK (sA S20 0 ((5610 + 5 * vs B.W 1)) (nI v2)) S28 := a2.1
      have F2 := F1.trans ((FrP.A0 S20 (nI v2) (show 5600 ≤ (5610 + 5 * vs B.W 1) by omega)).trans q2.P)
      have hT2 := (show TxS (sA S20 0 ((5610 + 5 * vs B.W 1)) (nI v2)) X from hT1).fr q2
      have A2 : mA S28 0 = (upd (mA S 0) ((5610 + 5 * vs B.W 1)) (nI v2)) := (q2.A 0).trans (congrArg (fun q => upd q ((5610 + 5 * vs B.W 1)) (nI v2)) A1)
      have B2 : mB S28 1 = (vp_updL (mB S 1) (56 + 0 + vs B.W 1) (lN (n256 v1))) := (q2.B 1).trans B1
      have I2 : ∀ i, 15 < i → mI S28 i = mI S i := fun i hi => (q2.1 i (by omega)).trans (I1 i hi)
      have z2 := (I2 18 (by omega)).trans h0
      refine w_aload_n dX8_aFinder_36 rfl ?_
      refine w_ldcS hx0 rfl rfl dX8_aFinder_37 ?_
      refine w_bipush (v := nI 8) dX8_aFinder_39 kb_8 ?_
      refine m_callPi2 (mi := miX8_wantWord) dX8_aFinder_41 q1755 okX8_wantWord rfl (Nat.le_of_ble_eq_true rfl) (c_wantWord hT2 k2 o2 z2 (by omega)) (Nat.le_of_ble_eq_true rfl) (fun S41 hS41 => ?_)
      refine w_ifB_eq dX8_aFinder_44 rfl (fun h_44 => ?_) (fun h_44 => ?_)
      · obtain ⟨f9, e9⟩ := okE_f h_44
        have ee : pFinder X B t = .error f9 := by simp only [pFinder, bind, Except.bind, e1, e2, e9]
        have hx0 := PX_f hS41 e9
        have hx := And.intro (F2.trans hx0.1) hx0.2
        refine w_iconst (v := nI 0) dX8_aFinder_84 ki_0 ?_
        exact w_zret dX8_aFinder_85 rfl (by first | exact narr0 | exact narr1) ⟨by rw [bP_f (okE_er (ee))], _, by exact PX_er ee hx, rfl⟩
      · obtain ⟨t3, e3⟩ := okE_t h_44
        have a3 := PX_t hS41 e3
        have p3 := wWord_pg o2 e3
        have o3 := p3.1
        have k3 : TkS S41 t3 := a3.2
        have q3 : FrK S28 S41 := a3.1
        have F3 := F2.trans q3.P
        have hT3 := hT2.fr q3
        have A3 : mA S41 0 = (upd (mA S 0) ((5610 + 5 * vs B.W 1)) (nI v2)) := (q3.A 0).trans A2
        have B3 : mB S41 1 = (vp_updL (mB S 1) (56 + 0 + vs B.W 1) (lN (n256 v1))) := (q3.B 1).trans B2
        have I3 : ∀ i, 15 < i → mI S41 i = mI S i := fun i hi => (q3.1 i (by omega)).trans (I2 i hi)
        have z3 := (I3 18 (by omega)).trans h0
        refine w_aload_n dX8_aFinder_47 rfl ?_
        refine w_iload_n dX8_aFinder_48 rfl ?_
        refine w_iconst (v := nI 1) dX8_aFinder_49 ki_1 ?_
        refine w_iaddN dX8_aFinder_50 ?_
        refine w_iconst (v := nI 1) dX8_aFinder_51 ki_1 ?_
        refine w_bipush (v := nI 9) dX8_aFinder_52 kb_9 ?_
        refine m_callPi3 (mi := miX8_number) dX8_aFinder_54 q1769 okX8_number rfl (Nat.le_of_ble_eq_true rfl) (c_number hT3 k3 o3 z3 (by omega) (by omega) (by omega)) (Nat.le_of_ble_eq_true rfl) (fun S54 hS54 => ?_)
        refine w_ifB_eq dX8_aFinder_57 rfl (fun h_57 => ?_) (fun h_57 => ?_)
        · obtain ⟨f9, e9⟩ := okE_f h_57
          have ee : pFinder X B t = .error f9 := by simp only [pFinder, bind, Except.bind, e1, e2, e3, e9]
          have hx0 := PX_f hS54 e9
          have hx := And.intro (F3.trans hx0.1) hx0.2
          refine w_iconst (v := nI 0) dX8_aFinder_84 ki_0 ?_
          exact w_zret dX8_aFinder_85 rfl (by first | exact narr0 | exact narr1) ⟨by rw [bP_f (okE_er (ee))], _, by exact PX_er ee hx, rfl⟩
        · obtain ⟨⟨v4, t4⟩, e4⟩ := okE_t h_57
          have a4 := PX_t hS54 e4
          have p4 := wNum_pg o3 e4
          have o4 := p4.1.1
          have k4 : TkS S54 t4 := a4.2
          have q4 : FrK (sA S41 0 ((5610 + 5 * vs B.W 1) + 1) (nI v4)) S54 := a4.1
          have F4 := F3.trans ((FrP.A0 S41 (nI v4) (show 5600 ≤ (5610 + 5 * vs B.W 1) + 1 by omega)).trans q4.P)
          have hT4 := (show TxS (sA S41 0 ((5610 + 5 * vs B.W 1) + 1) (nI v4)) X from hT3).fr q4
          have A4 : mA S54 0 = (upd (upd (mA S 0) ((5610 + 5 * vs B.W 1)) (nI v2)) ((5610 + 5 * vs B.W 1) + 1) (nI v4)) := (q4.A 0).trans (congrArg (fun q => upd q ((5610 + 5 * vs B.W 1) + 1) (nI v4)) A3)
          have B4 : mB S54 1 = (vp_updL (mB S 1) (56 + 0 + vs B.W 1) (lN (n256 v1))) := (q4.B 1).trans B3
          have I4 : ∀ i, 15 < i → mI S54 i = mI S i := fun i hi => (q4.1 i (by omega)).trans (I3 i hi)
          have z4 := (I4 18 (by omega)).trans h0
          refine w_aload_n dX8_aFinder_60 rfl ?_
          refine w_ldcS hx0 rfl rfl dX8_aFinder_61 ?_
          refine w_bipush (v := nI 9) dX8_aFinder_63 kb_9 ?_
          refine m_callPi2 (mi := miX8_wantWord) dX8_aFinder_65 q1755 okX8_wantWord rfl (Nat.le_of_ble_eq_true rfl) (c_wantWord hT4 k4 o4 z4 (by omega)) (Nat.le_of_ble_eq_true rfl) (fun S65 hS65 => ?_)
          refine w_ifB_eq dX8_aFinder_68 rfl (fun h_68 => ?_) (fun h_68 => ?_)
          · obtain ⟨f9, e9⟩ := okE_f h_68
            have ee : pFinder X B t = .error f9 := by simp only [pFinder, bind, Except.bind, e1, e2, e3, e4, e9]
            have hx0 := PX_f hS65 e9
            have hx := And.intro (F4.trans hx0.1) hx0.2
            refine w_iconst (v := nI 0) dX8_aFinder_84 ki_0 ?_
            exact w_zret dX8_aFinder_85 rfl (by first | exact narr0 | exact narr1) ⟨by rw [bP_f (okE_er (ee))], _, by exact PX_er ee hx, rfl⟩
          · obtain ⟨t5, e5⟩ := okE_t h_68
            have a5 := PX_t hS65 e5
            have p5 := wWord_pg o4 e5
            have o5 := p5.1
            have k5 : TkS S65 t5 := a5.2
            have q5 : FrK S54 S65 := a5.1
            have F5 := F4.trans q5.P
            have hT5 := hT4.fr q5
            have A5 : mA S65 0 = (upd (upd (mA S 0) ((5610 + 5 * vs B.W 1)) (nI v2)) ((5610 + 5 * vs B.W 1) + 1) (nI v4)) := (q5.A 0).trans A4
            have B5 : mB S65 1 = (vp_updL (mB S 1) (56 + 0 + vs B.W 1) (lN (n256 v1))) := (q5.B 1).trans B4
            have I5 : ∀ i, 15 < i → mI S65 i = mI S i := fun i hi => (q5.1 i (by omega)).trans (I4 i hi)
            have z5 := (I5 18 (by omega)).trans h0
            refine w_aload_n dX8_aFinder_71 rfl ?_
            refine w_iload_n dX8_aFinder_72 rfl ?_
            refine w_iconst (v := nI 2) dX8_aFinder_73 ki_2 ?_
            refine w_iaddN dX8_aFinder_74 ?_
            refine w_iconst (v := nI 0) dX8_aFinder_75 ki_0 ?_
            refine w_bipush (v := nI 20) dX8_aFinder_76 kb_20 ?_
            refine m_callPi3 (mi := miX8_number) dX8_aFinder_78 q1769 okX8_number rfl (Nat.le_of_ble_eq_true rfl) (c_number hT5 k5 o5 z5 (by omega) (by omega) (by omega)) (Nat.le_of_ble_eq_true rfl) (fun S78 hS78 => ?_)
            refine w_ifB_ne dX8_aFinder_81 rfl (fun h_81 => ?_) (fun h_81 => ?_)
            · obtain ⟨⟨v6, t6⟩, e6⟩ := okE_t h_81
              have a6 := PX_t hS78 e6
              have p6 := wNum_pg o5 e6
              have o6 := p6.1.1
              have k6 : TkS S78 t6 := a6.2
              have q6 : FrK (sA S65 0 ((5610 + 5 * vs B.W 1) + 2) (nI v6)) S78 := a6.1
              have F6 := F5.trans ((FrP.A0 S65 (nI v6) (show 5600 ≤ (5610 + 5 * vs B.W 1) + 2 by omega)).trans q6.P)
              have hT6 := (show TxS (sA S65 0 ((5610 + 5 * vs B.W 1) + 2) (nI v6)) X from hT5).fr q6
              have A6 : mA S78 0 = (upd (upd (upd (mA S 0) ((5610 + 5 * vs B.W 1)) (nI v2)) ((5610 + 5 * vs B.W 1) + 1) (nI v4)) ((5610 + 5 * vs B.W 1) + 2) (nI v6)) := (q6.A 0).trans (congrArg (fun q => upd q ((5610 + 5 * vs B.W 1) + 2) (nI v6)) A5)
              have B6 : mB S78 1 = (vp_updL (mB S 1) (56 + 0 + vs B.W 1) (lN (n256 v1))) := (q6.B 1).trans B5
              have I6 : ∀ i, 15 < i → mI S78 i = mI S i := fun i hi => (q6.1 i (by omega)).trans (I5 i hi)
              have z6 := (I6 18 (by omega)).trans h0
              have ee : pFinder X B t = .ok (bFinder B v1 v2 v4 v6, t6) := by simp only [pFinder, bind, Except.bind, e1, e2, e3, e4, e5, e6]
              refine w_aload_n dX8_aFinder_86 rfl ?_
              refine mg_at dX8_aFinder_87 rfl ?_
              refine w_sipush (v := nI 5601) dX8_aFinder_90 ks_5601 ?_
              refine w_dup2 dX8_aFinder_93 rfl rfl ?_
              refine ma_at dX8_aFinder_94 (by omega) ?_
              refine w_topN (n := vs B.W 1) (by rw [A6, upd_ne (by omega), upd_ne (by omega), upd_ne (by omega)]; exact EB.s 1 (by omega)) ?_
              refine w_iconst (v := nI 1) dX8_aFinder_95 ki_1 ?_
              refine w_iaddN dX8_aFinder_96 ?_
              refine ms_at dX8_aFinder_97 (by omega) ?_
              refine w_iconst (v := nI 1) dX8_aFinder_98 ki_1 ?_
              exact w_zret dX8_aFinder_99 rfl (by first | exact narr0 | exact narr1) ⟨by rw [bP_t (okE_ok (ee))], _, by exact PX_ok ee ⟨F6.trans (FrP.A0 _ _ (by omega)), EB.addF OB hn6 (A6.trans (by rw [show 5610 + 5 * vs B.W 1 = 5600 + (10 + 5 * vs B.W 1 + 0) by omega, show 5600 + (10 + 5 * vs B.W 1 + 0) + 1 = 5600 + (10 + 5 * vs B.W 1 + 1) by omega, show 5600 + (10 + 5 * vs B.W 1 + 0) + 2 = 5600 + (10 + 5 * vs B.W 1 + 2) by omega])) (B6.trans (by rw [show 56 + 0 + vs B.W 1 = 56 + vs B.W 1 by omega])) (I6 20 (by omega)) (I6 21 (by omega)), OB.addF hn6 p1.2.1 p2.2 p4.2.1 p4.2.2 p6.2.2, k6.fr (fun _ _ _ => rfl), z6, I6 17 (by omega)⟩, rfl⟩
            · obtain ⟨f9, e9⟩ := okE_f h_81
              have ee : pFinder X B t = .error f9 := by simp only [pFinder, bind, Except.bind, e1, e2, e3, e4, e5, e9]
              have hx0 := PX_f hS78 e9
              have hx := And.intro (F5.trans hx0.1) hx0.2
              refine w_iconst (v := nI 0) dX8_aFinder_84 ki_0 ?_
              exact w_zret dX8_aFinder_85 rfl (by first | exact narr0 | exact narr1) ⟨by rw [bP_f (okE_er (ee))], _, by exact PX_er ee hx, rfl⟩
    · obtain ⟨f9, e9⟩ := okE_f h_31
      have ee : pFinder X B t = .error f9 := by simp only [pFinder, bind, Except.bind, e1, e9]
      have hx0 := PX_f hS28 e9
      have hx := And.intro (F1.trans hx0.1) hx0.2
      refine w_iconst (v := nI 0) dX8_aFinder_34 ki_0 ?_
      exact w_zret dX8_aFinder_35 rfl (by first | exact narr0 | exact narr1) ⟨by rw [bP_f (okE_er (ee))], _, by exact PX_er ee hx, rfl⟩
set_option maxHeartbeats 4000000 in
theorem c_aFind {g : GG} {S : MS} {X : TX} {t : Tk} {B : BS} (hT : TxS S X) (hK : TkS S t) (hO : OkT9 X t) (h0 : mI S 18 = nI 0) (EB : EncB S B) (OB : OkB B) : Mp g miX8_aFind 8 [] (S) (some (.int (bP (okE (pFind X B t))))) (PX (pFind X B t) S (fun v S2 => FrP S S2 ∧ EncB S2 v.1 ∧ OkB v.1 ∧ TkS S2 v.2 ∧ mI S2 18 = nI 0 ∧ mI S2 17 = mI S 17)) := by
  refine Mp.start (fun b => [some (.ref b), none]) plX8 rfl (fun b => (Nat.le_of_ble_eq_true rfl)) (fun b => rfl) ?_
  intro σ b
  have hb6 := OB.b
  have hT0 := hT
  have k0 := hK
  have o0 := hO
  have z0 := h0
  have F0 := FrP.refl S
  have A0 : mA S 0 = (mA S 0) := rfl
  have B0 : mB S 1 = (mB S 1) := rfl
  have I0 : ∀ i, 15 < i → mI S i = mI S i := fun _ _ => rfl
  refine w_sipush (v := nI 5600) dX8_aFind_0 ks_5600 ?_
  refine w_aload_n dX8_aFind_3 rfl ?_
  refine mg_at dX8_aFind_4 rfl ?_
  refine w_sipush (v := nI 5602) dX8_aFind_7 ks_5602 ?_
  refine ma_at dX8_aFind_10 (by omega) ?_
  refine w_topN (n := vs B.W 2) (EB.s 2 (by omega)) ?_
  refine s_calli2 (mi := miX8_findRow) dX8_aFind_11 q1813 okX8_findRow (Nat.le_of_ble_eq_true rfl) c_findRow (Nat.le_of_ble_eq_true rfl) ?_
  rw [show 5600 + 40 + 3 * vs B.W 2 = 5640 + 3 * vs B.W 2 by omega]
  refine w_istore_n dX8_aFind_14 rfl (Nat.le_of_ble_eq_true rfl) ls_2_1 ?_
  refine w_aload_n dX8_aFind_15 rfl ?_
  refine w_iconst (v := nI 2) dX8_aFind_16 ki_2 ?_
  refine w_bipush (v := nI 8) dX8_aFind_17 kb_8 ?_
  refine w_bipush (v := nI 6) dX8_aFind_19 kb_6 ?_
  refine m_callPi3 (mi := miX8_newOne) dX8_aFind_21 q1789 okX8_newOne rfl (Nat.le_of_ble_eq_true rfl) (c_newOne hT0 k0 o0 z0 EB OB (EB.s 2 (by omega)) (by omega) (by omega) (by omega)) (Nat.le_of_ble_eq_true rfl) (fun S21 hS21 => ?_)
  refine w_ifB_eq dX8_aFind_24 rfl (fun h_24 => ?_) (fun h_24 => ?_)
  · obtain ⟨f9, e9⟩ := okE_f h_24
    have ee : pFind X B t = .error f9 := by simp only [pFind, bind, Except.bind, e9]
    have hx0 := PX_f hS21 e9
    have hx := And.intro (F0.trans hx0.1) hx0.2
    refine w_iconst (v := nI 0) dX8_aFind_35 ki_0 ?_
    exact w_zret dX8_aFind_36 rfl (by first | exact narr0 | exact narr1) ⟨by rw [bP_f (okE_er (ee))], _, by exact PX_er ee hx, rfl⟩
  · obtain ⟨⟨v1, t1⟩, e1⟩ := okE_t h_24
    have a1 := PX_t hS21 e1
    have p1 := wNew_pg o0 e1
    have o1 := p1.1.1
    have k1 : TkS S21 t1 := a1.2
    have q1 : FrK (sB S 1 (56 + 6 + vs B.W 2) (lN (n256 v1))) S21 := a1.1
    have F1 := F0.trans ((FrP.B1 S (lN (n256 v1)) (show 56 ≤ 56 + 6 + vs B.W 2 by omega)).trans q1.P)
    have hT1 := (show TxS (sB S 1 (56 + 6 + vs B.W 2) (lN (n256 v1))) X from hT0).fr q1
    have A1 : mA S21 0 = (mA S 0) := (q1.A 0).trans A0
    have B1 : mB S21 1 = (vp_updL (mB S 1) (56 + 6 + vs B.W 2) (lN (n256 v1))) := (q1.B 1).trans (congrArg (fun q => vp_updL q (56 + 6 + vs B.W 2) (lN (n256 v1))) B0)
    have I1 : ∀ i, 15 < i → mI S21 i = mI S i := fun i hi => (q1.1 i (by omega)).trans (I0 i hi)
    have z1 := (I1 18 (by omega)).trans h0
    have hn6 : vs B.W 2 < 8 := by have := p1.2.2; omega
    refine w_aload_n dX8_aFind_27 rfl ?_
    refine w_iload_n dX8_aFind_28 rfl ?_
    have EB1 : EncB S21 B := ⟨by rw [A1]; exact EB.1, fun i hi => by rw [B1, updL_ne (by omega)]; exact EB.2.1 i hi, fun i hi => by rw [B1, updL_ne (by omega)]; exact EB.2.2.1 i hi, (I1 21 (by omega)).trans EB.2.2.2.1, (I1 20 (by omega)).trans EB.2.2.2.2.1, by rw [A1]; exact EB.2.2.2.2.2⟩
    refine m_callPi1 (mi := miX8_atCell) dX8_aFind_29 q1805 okX8_atCell rfl (Nat.le_of_ble_eq_true rfl) (c_atCell hT1 k1 o1 z1 EB1 OB (by omega) (by omega)) (Nat.le_of_ble_eq_true rfl) (fun S29 hS29 => ?_)
    refine w_ifB_ne dX8_aFind_32 rfl (fun h_32 => ?_) (fun h_32 => ?_)
    · obtain ⟨⟨v2, t2⟩, e2⟩ := okE_t h_32
      have a2 := PX_t hS29 e2
      have p2 := pCell_pg OB o1 e2
      have o2 := p2.1.1
      have k2 : TkS S29 t2 := a2.2
      have q2 : FrK (sA S21 0 ((5640 + 3 * vs B.W 2)) (nI v2)) S29 := a2.1
      have F2 := F1.trans ((FrP.A0 S21 (nI v2) (show 5600 ≤ (5640 + 3 * vs B.W 2) by omega)).trans q2.P)
      have hT2 := (show TxS (sA S21 0 ((5640 + 3 * vs B.W 2)) (nI v2)) X from hT1).fr q2
      have A2 : mA S29 0 = (upd (mA S 0) ((5640 + 3 * vs B.W 2)) (nI v2)) := (q2.A 0).trans (congrArg (fun q => upd q ((5640 + 3 * vs B.W 2)) (nI v2)) A1)
      have B2 : mB S29 1 = (vp_updL (mB S 1) (56 + 6 + vs B.W 2) (lN (n256 v1))) := (q2.B 1).trans B1
      have I2 : ∀ i, 15 < i → mI S29 i = mI S i := fun i hi => (q2.1 i (by omega)).trans (I1 i hi)
      have z2 := (I2 18 (by omega)).trans h0
      refine w_aload_n dX8_aFind_37 rfl ?_
      refine w_ldcS hx0 rfl rfl dX8_aFind_38 ?_
      refine w_bipush (v := nI 10) dX8_aFind_40 kb_10 ?_
      refine m_callPi2 (mi := miX8_wantWord) dX8_aFind_42 q1755 okX8_wantWord rfl (Nat.le_of_ble_eq_true rfl) (c_wantWord hT2 k2 o2 z2 (by omega)) (Nat.le_of_ble_eq_true rfl) (fun S42 hS42 => ?_)
      refine w_ifB_eq dX8_aFind_45 rfl (fun h_45 => ?_) (fun h_45 => ?_)
      · obtain ⟨f9, e9⟩ := okE_f h_45
        have ee : pFind X B t = .error f9 := by simp only [pFind, bind, Except.bind, e1, e2, e9]
        have hx0 := PX_f hS42 e9
        have hx := And.intro (F2.trans hx0.1) hx0.2
        refine w_iconst (v := nI 0) dX8_aFind_62 ki_0 ?_
        exact w_zret dX8_aFind_63 rfl (by first | exact narr0 | exact narr1) ⟨by rw [bP_f (okE_er (ee))], _, by exact PX_er ee hx, rfl⟩
      · obtain ⟨t3, e3⟩ := okE_t h_45
        have a3 := PX_t hS42 e3
        have p3 := wWord_pg o2 e3
        have o3 := p3.1
        have k3 : TkS S42 t3 := a3.2
        have q3 : FrK S29 S42 := a3.1
        have F3 := F2.trans q3.P
        have hT3 := hT2.fr q3
        have A3 : mA S42 0 = (upd (mA S 0) ((5640 + 3 * vs B.W 2)) (nI v2)) := (q3.A 0).trans A2
        have B3 : mB S42 1 = (vp_updL (mB S 1) (56 + 6 + vs B.W 2) (lN (n256 v1))) := (q3.B 1).trans B2
        have I3 : ∀ i, 15 < i → mI S42 i = mI S i := fun i hi => (q3.1 i (by omega)).trans (I2 i hi)
        have z3 := (I3 18 (by omega)).trans h0
        refine w_aload_n dX8_aFind_48 rfl ?_
        refine w_iload_n dX8_aFind_49 rfl ?_
        refine w_iconst (v := nI 1) dX8_aFind_50 ki_1 ?_
        refine w_iaddN dX8_aFind_51 ?_
        refine w_iconst (v := nI 0) dX8_aFind_52 ki_0 ?_
        refine w_sipush (v := nI 999) dX8_aFind_53 ks_999 ?_
        refine m_callPi3 (mi := miX8_number) dX8_aFind_56 q1769 okX8_number rfl (Nat.le_of_ble_eq_true rfl) (c_number hT3 k3 o3 z3 (by omega) (by omega) (by omega)) (Nat.le_of_ble_eq_true rfl) (fun S56 hS56 => ?_)
        refine w_ifB_ne dX8_aFind_59 rfl (fun h_59 => ?_) (fun h_59 => ?_)
        · obtain ⟨⟨v4, t4⟩, e4⟩ := okE_t h_59
          have a4 := PX_t hS56 e4
          have p4 := wNum_pg o3 e4
          have o4 := p4.1.1
          have k4 : TkS S56 t4 := a4.2
          have q4 : FrK (sA S42 0 ((5640 + 3 * vs B.W 2) + 1) (nI v4)) S56 := a4.1
          have F4 := F3.trans ((FrP.A0 S42 (nI v4) (show 5600 ≤ (5640 + 3 * vs B.W 2) + 1 by omega)).trans q4.P)
          have hT4 := (show TxS (sA S42 0 ((5640 + 3 * vs B.W 2) + 1) (nI v4)) X from hT3).fr q4
          have A4 : mA S56 0 = (upd (upd (mA S 0) ((5640 + 3 * vs B.W 2)) (nI v2)) ((5640 + 3 * vs B.W 2) + 1) (nI v4)) := (q4.A 0).trans (congrArg (fun q => upd q ((5640 + 3 * vs B.W 2) + 1) (nI v4)) A3)
          have B4 : mB S56 1 = (vp_updL (mB S 1) (56 + 6 + vs B.W 2) (lN (n256 v1))) := (q4.B 1).trans B3
          have I4 : ∀ i, 15 < i → mI S56 i = mI S i := fun i hi => (q4.1 i (by omega)).trans (I3 i hi)
          have z4 := (I4 18 (by omega)).trans h0
          have ee : pFind X B t = .ok (bFind B v1 v2 v4, t4) := by simp only [pFind, bind, Except.bind, e1, e2, e3, e4]
          have h7b : vs B.W 7 < 256 := OB.1.b.2.2.2.2.2.2.2.2.2.1
          refine w_aload_n dX8_aFind_64 rfl ?_
          refine mg_at dX8_aFind_65 rfl ?_
          refine w_sipush (v := nI 5607) dX8_aFind_68 ks_5607 ?_
          refine w_dup2 dX8_aFind_71 rfl rfl ?_
          refine ma_at dX8_aFind_72 (by omega) ?_
          refine w_topN (n := vs B.W 7) (by rw [A4, upd_ne (by omega), upd_ne (by omega)]; exact EB.s 7 (by omega)) ?_
          refine w_iconst (v := nI 1) dX8_aFind_73 ki_1 ?_
          refine w_aload_n dX8_aFind_74 rfl ?_
          refine mg_at dX8_aFind_75 rfl ?_
          refine w_sipush (v := nI 5602) dX8_aFind_78 ks_5602 ?_
          refine ma_at dX8_aFind_81 (by omega) ?_
          refine w_topN (n := vs B.W 2) (by rw [A4, upd_ne (by omega), upd_ne (by omega)]; exact EB.s 2 (by omega)) ?_
          refine w_shl1N dX8_aFind_82 (by omega) ?_
          refine w_iorN dX8_aFind_83 ?_
          refine ms_at dX8_aFind_84 (by omega) ?_
          refine w_aload_n dX8_aFind_85 rfl ?_
          refine mg_at dX8_aFind_86 rfl ?_
          refine w_sipush (v := nI 5602) dX8_aFind_89 ks_5602 ?_
          refine w_dup2 dX8_aFind_92 rfl rfl ?_
          refine ma_at dX8_aFind_93 (by omega) ?_
          refine w_topN (n := vs B.W 2) (show upd (mA S56 0) 5607 (nI (vs B.W 7 ||| 2 ^ vs B.W 2)) 5602 = nI (vs B.W 2) by rw [upd_ne (by omega), A4, upd_ne (by omega), upd_ne (by omega)]; exact EB.s 2 (by omega)) ?_
          refine w_iconst (v := nI 1) dX8_aFind_94 ki_1 ?_
          refine w_iaddN dX8_aFind_95 ?_
          refine ms_at dX8_aFind_96 (by omega) ?_
          refine w_iconst (v := nI 1) dX8_aFind_97 ki_1 ?_
          exact w_zret dX8_aFind_98 rfl (by first | exact narr0 | exact narr1) ⟨by rw [bP_t (okE_ok (ee))], _, by exact PX_ok ee ⟨F4.trans ((FrP.A0 _ _ (by omega)).trans (FrP.A0 _ _ (by omega))), EB.addD OB hn6 (A4.trans (by rw [show 5640 + 3 * vs B.W 2 = 5600 + (40 + 3 * vs B.W 2 + 0) by omega, show 5600 + (40 + 3 * vs B.W 2 + 0) + 1 = 5600 + (40 + 3 * vs B.W 2 + 1) by omega])) (B4.trans (by rw [show 56 + 6 + vs B.W 2 = 62 + vs B.W 2 by omega])) (I4 20 (by omega)) (I4 21 (by omega)), OB.addD hn6 p1.2.1 p2.2 p4.2.2, k4.fr (fun _ _ _ => rfl), z4, I4 17 (by omega)⟩, rfl⟩
        · obtain ⟨f9, e9⟩ := okE_f h_59
          have ee : pFind X B t = .error f9 := by simp only [pFind, bind, Except.bind, e1, e2, e3, e9]
          have hx0 := PX_f hS56 e9
          have hx := And.intro (F3.trans hx0.1) hx0.2
          refine w_iconst (v := nI 0) dX8_aFind_62 ki_0 ?_
          exact w_zret dX8_aFind_63 rfl (by first | exact narr0 | exact narr1) ⟨by rw [bP_f (okE_er (ee))], _, by exact PX_er ee hx, rfl⟩
    · obtain ⟨f9, e9⟩ := okE_f h_32
      have ee : pFind X B t = .error f9 := by simp only [pFind, bind, Except.bind, e1, e9]
      have hx0 := PX_f hS29 e9
      have hx := And.intro (F1.trans hx0.1) hx0.2
      refine w_iconst (v := nI 0) dX8_aFind_35 ki_0 ?_
      exact w_zret dX8_aFind_36 rfl (by first | exact narr0 | exact narr1) ⟨by rw [bP_f (okE_er (ee))], _, by exact PX_er ee hx, rfl⟩
set_option maxHeartbeats 4000000 in
theorem c_aPebble {g : GG} {S : MS} {X : TX} {t : Tk} {B : BS} (hT : TxS S X) (hK : TkS S t) (hO : OkT9 X t) (h0 : mI S 18 = nI 0) (EB : EncB S B) (OB : OkB B) : Mp g miX8_aPebble 8 [] (S) (some (.int (bP (okE (pPebble X B t))))) (PX (pPebble X B t) S (fun v S2 => FrP S S2 ∧ EncB S2 v.1 ∧ OkB v.1 ∧ TkS S2 v.2 ∧ mI S2 18 = nI 0 ∧ mI S2 17 = mI S 17)) := by
  refine Mp.start (fun b => [some (.ref b)]) plX8 rfl (fun b => (Nat.le_of_ble_eq_true rfl)) (fun b => rfl) ?_
  intro σ b
  have hb6 := OB.b
  have hT0 := hT
  have k0 := hK
  have o0 := hO
  have z0 := h0
  have F0 := FrP.refl S
  have A0 : mA S 0 = (mA S 0) := rfl
  have B0 : mB S 1 = (mB S 1) := rfl
  have I0 : ∀ i, 15 < i → mI S i = mI S i := fun _ _ => rfl
  refine w_aload_n dX8_aPebble_0 rfl ?_
  refine mg_pebblesTold dX8_aPebble_1 rfl ?_
  refine w_topN (n := B.pb) EB.2.2.2.1 ?_
  have hpb9 : B.pb ≤ 30 := OB.2.2.2.2.2.1
  refine w_bipush (v := nI 30) dX8_aPebble_4 kb_30 ?_
  refine w_icmpN_ne dX8_aPebble_6 rfl (by omega) (by omega) (fun h_6 => ?_) (fun h_6 => ?_)
  · refine w_aload_n dX8_aPebble_16 rfl ?_
    refine m_callPv0 (mi := miX8_ahead) dX8_aPebble_17 q1730 okX8_ahead rfl (Nat.le_of_ble_eq_true rfl) (c_aheadX hT hK hO) (Nat.le_of_ble_eq_true rfl) (fun S17 hS17 => ?_)
    have q1 : FrK S S17 := hS17.1
    have k1 : TkS S17 _ := hS17.2
    have o1 := o0.nx
    have F1 := F0.trans q1.P
    have hT1 := hT0.fr q1
    have A1 : mA S17 0 = (mA S 0) := (q1.A 0).trans A0
    have B1 : mB S17 1 = (mB S 1) := (q1.B 1).trans B0
    have I1 : ∀ i, 15 < i → mI S17 i = mI S i := fun i hi => (q1.1 i (by omega)).trans (I0 i hi)
    have z1 := (I1 18 (by omega)).trans h0
    refine w_aload_n dX8_aPebble_20 rfl ?_
    refine w_ldcS hx0 rfl rfl dX8_aPebble_21 ?_
    refine w_bipush (v := nI 11) dX8_aPebble_23 kb_11 ?_
    refine m_callPi2 (mi := miX8_wantWord) dX8_aPebble_25 q1755 okX8_wantWord rfl (Nat.le_of_ble_eq_true rfl) (c_wantWord hT1 k1 o1 z1 (by omega)) (Nat.le_of_ble_eq_true rfl) (fun S25 hS25 => ?_)
    refine w_ifB_eq dX8_aPebble_28 rfl (fun h_28 => ?_) (fun h_28 => ?_)
    · obtain ⟨f9, e9⟩ := okE_f h_28
      have ee : pPebble X B t = .error f9 := by simp only [pPebble, if_neg h_6, bind, Except.bind, e9]
      have hx0 := PX_f hS25 e9
      have hx := And.intro (F1.trans hx0.1) hx0.2
      refine w_iconst (v := nI 0) dX8_aPebble_51 ki_0 ?_
      exact w_zret dX8_aPebble_52 rfl (by first | exact narr0 | exact narr1) ⟨by rw [bP_f (okE_er (ee))], _, by exact PX_er ee hx, rfl⟩
    · obtain ⟨t2, e2⟩ := okE_t h_28
      have a2 := PX_t hS25 e2
      have p2 := wWord_pg o1 e2
      have o2 := p2.1
      have k2 : TkS S25 t2 := a2.2
      have q2 : FrK S17 S25 := a2.1
      have F2 := F1.trans q2.P
      have hT2 := hT1.fr q2
      have A2 : mA S25 0 = (mA S 0) := (q2.A 0).trans A1
      have B2 : mB S25 1 = (mB S 1) := (q2.B 1).trans B1
      have I2 : ∀ i, 15 < i → mI S25 i = mI S i := fun i hi => (q2.1 i (by omega)).trans (I1 i hi)
      have z2 := (I2 18 (by omega)).trans h0
      refine w_aload_n dX8_aPebble_31 rfl ?_
      refine w_bipush (v := nI 56) dX8_aPebble_32 kb_56 ?_
      refine w_aload_n dX8_aPebble_34 rfl ?_
      refine mg_at dX8_aPebble_35 rfl ?_
      refine w_sipush (v := nI 5601) dX8_aPebble_38 ks_5601 ?_
      have EB2 := (EncB.fr EB OB (fun k h1 h2 => by rw [A2]) (fun k _ => by rw [B2]) (I2 20 (by omega)) (I2 21 (by omega)))
      refine ma_at dX8_aPebble_41 (by omega) ?_
      refine w_topN (n := vs B.W 1) (EB2.s 1 (by omega)) ?_
      refine w_sipush (v := nI 6995) dX8_aPebble_42 ks_6995 ?_
      refine m_callPi3 (mi := miX8_oldOne) dX8_aPebble_45 q1820 okX8_oldOne rfl (Nat.le_of_ble_eq_true rfl) (c_oldOne hT2 k2 o2 z2 (OB.f EB2) (by omega) (by omega) (by omega)) (Nat.le_of_ble_eq_true rfl) (fun S45 hS45 => ?_)
      refine w_ifB_ne dX8_aPebble_48 rfl (fun h_48 => ?_) (fun h_48 => ?_)
      · obtain ⟨⟨v3, t3⟩, e3⟩ := okE_t h_48
        have a3 := PX_t hS45 e3
        have p3 := wOld_pg o2 e3
        have o3 := p3.1.1
        have k3 : TkS S45 t3 := a3.2
        have q3 : FrK (sA S25 0 (6995) (nI v3)) S45 := a3.1
        have F3 := F2.trans ((FrP.A0 S25 (nI v3) (show 5600 ≤ 6995 by omega)).trans q3.P)
        have hT3 := (show TxS (sA S25 0 (6995) (nI v3)) X from hT2).fr q3
        have A3 : mA S45 0 = (upd (mA S 0) (6995) (nI v3)) := (q3.A 0).trans (congrArg (fun q => upd q (6995) (nI v3)) A2)
        have B3 : mB S45 1 = (mB S 1) := (q3.B 1).trans B2
        have I3 : ∀ i, 15 < i → mI S45 i = mI S i := fun i hi => (q3.1 i (by omega)).trans (I2 i hi)
        have z3 := (I3 18 (by omega)).trans h0
        refine w_aload_n dX8_aPebble_53 rfl ?_
        refine w_ldcS hx0 rfl rfl dX8_aPebble_54 ?_
        refine w_bipush (v := nI 12) dX8_aPebble_56 kb_12 ?_
        refine m_callPi2 (mi := miX8_wantWord) dX8_aPebble_58 q1755 okX8_wantWord rfl (Nat.le_of_ble_eq_true rfl) (c_wantWord hT3 k3 o3 z3 (by omega)) (Nat.le_of_ble_eq_true rfl) (fun S58 hS58 => ?_)
        refine w_ifB_eq dX8_aPebble_61 rfl (fun h_61 => ?_) (fun h_61 => ?_)
        · obtain ⟨f9, e9⟩ := okE_f h_61
          have ee : pPebble X B t = .error f9 := by simp only [pPebble, if_neg h_6, bind, Except.bind, e2, e3, e9]
          have hx0 := PX_f hS58 e9
          have hx := And.intro (F3.trans hx0.1) hx0.2
          refine w_iconst (v := nI 0) dX8_aPebble_84 ki_0 ?_
          exact w_zret dX8_aPebble_85 rfl (by first | exact narr0 | exact narr1) ⟨by rw [bP_f (okE_er (ee))], _, by exact PX_er ee hx, rfl⟩
        · obtain ⟨t4, e4⟩ := okE_t h_61
          have a4 := PX_t hS58 e4
          have p4 := wWord_pg o3 e4
          have o4 := p4.1
          have k4 : TkS S58 t4 := a4.2
          have q4 : FrK S45 S58 := a4.1
          have F4 := F3.trans q4.P
          have hT4 := hT3.fr q4
          have A4 : mA S58 0 = (upd (mA S 0) (6995) (nI v3)) := (q4.A 0).trans A3
          have B4 : mB S58 1 = (mB S 1) := (q4.B 1).trans B3
          have I4 : ∀ i, 15 < i → mI S58 i = mI S i := fun i hi => (q4.1 i (by omega)).trans (I3 i hi)
          have z4 := (I4 18 (by omega)).trans h0
          refine w_aload_n dX8_aPebble_64 rfl ?_
          refine w_bipush (v := nI 62) dX8_aPebble_65 kb_62 ?_
          refine w_aload_n dX8_aPebble_67 rfl ?_
          refine mg_at dX8_aPebble_68 rfl ?_
          refine w_sipush (v := nI 5602) dX8_aPebble_71 ks_5602 ?_
          have EB4 := (EncB.fr EB OB (fun k h1 h2 => by rw [A4, upd_ne (by omega)]) (fun k _ => by rw [B4]) (I4 20 (by omega)) (I4 21 (by omega)))
          refine ma_at dX8_aPebble_74 (by omega) ?_
          refine w_topN (n := vs B.W 2) (EB4.s 2 (by omega)) ?_
          refine w_sipush (v := nI 6996) dX8_aPebble_75 ks_6996 ?_
          refine m_callPi3 (mi := miX8_oldOne) dX8_aPebble_78 q1820 okX8_oldOne rfl (Nat.le_of_ble_eq_true rfl) (c_oldOne hT4 k4 o4 z4 (OB.d EB4) (by omega) (by omega) (by omega)) (Nat.le_of_ble_eq_true rfl) (fun S78 hS78 => ?_)
          refine w_ifB_ne dX8_aPebble_81 rfl (fun h_81 => ?_) (fun h_81 => ?_)
          · obtain ⟨⟨v5, t5⟩, e5⟩ := okE_t h_81
            have a5 := PX_t hS78 e5
            have p5 := wOld_pg o4 e5
            have o5 := p5.1.1
            have k5 : TkS S78 t5 := a5.2
            have q5 : FrK (sA S58 0 (6996) (nI v5)) S78 := a5.1
            have F5 := F4.trans ((FrP.A0 S58 (nI v5) (show 5600 ≤ 6996 by omega)).trans q5.P)
            have hT5 := (show TxS (sA S58 0 (6996) (nI v5)) X from hT4).fr q5
            have A5 : mA S78 0 = (upd (upd (mA S 0) (6995) (nI v3)) (6996) (nI v5)) := (q5.A 0).trans (congrArg (fun q => upd q (6996) (nI v5)) A4)
            have B5 : mB S78 1 = (mB S 1) := (q5.B 1).trans B4
            have I5 : ∀ i, 15 < i → mI S78 i = mI S i := fun i hi => (q5.1 i (by omega)).trans (I4 i hi)
            have z5 := (I5 18 (by omega)).trans h0
            refine w_aload_n dX8_aPebble_86 rfl ?_
            refine w_ldcS hx0 rfl rfl dX8_aPebble_87 ?_
            refine w_bipush (v := nI 7) dX8_aPebble_89 kb_7 ?_
            refine m_callPi2 (mi := miX8_wantWord) dX8_aPebble_91 q1755 okX8_wantWord rfl (Nat.le_of_ble_eq_true rfl) (c_wantWord hT5 k5 o5 z5 (by omega)) (Nat.le_of_ble_eq_true rfl) (fun S91 hS91 => ?_)
            refine w_ifB_eq dX8_aPebble_94 rfl (fun h_94 => ?_) (fun h_94 => ?_)
            · obtain ⟨f9, e9⟩ := okE_f h_94
              have ee : pPebble X B t = .error f9 := by simp only [pPebble, if_neg h_6, bind, Except.bind, e2, e3, e4, e5, e9]
              have hx0 := PX_f hS91 e9
              have hx := And.intro (F5.trans hx0.1) hx0.2
              refine w_iconst (v := nI 0) dX8_aPebble_116 ki_0 ?_
              exact w_zret dX8_aPebble_117 rfl (by first | exact narr0 | exact narr1) ⟨by rw [bP_f (okE_er (ee))], _, by exact PX_er ee hx, rfl⟩
            · obtain ⟨t6, e6⟩ := okE_t h_94
              have a6 := PX_t hS91 e6
              have p6 := wWord_pg o5 e6
              have o6 := p6.1
              have k6 : TkS S91 t6 := a6.2
              have q6 : FrK S78 S91 := a6.1
              have F6 := F5.trans q6.P
              have hT6 := hT5.fr q6
              have A6 : mA S91 0 = (upd (upd (mA S 0) (6995) (nI v3)) (6996) (nI v5)) := (q6.A 0).trans A5
              have B6 : mB S91 1 = (mB S 1) := (q6.B 1).trans B5
              have I6 : ∀ i, 15 < i → mI S91 i = mI S i := fun i hi => (q6.1 i (by omega)).trans (I5 i hi)
              have z6 := (I6 18 (by omega)).trans h0
              refine w_aload_n dX8_aPebble_97 rfl ?_
              refine w_sipush (v := nI 6997) dX8_aPebble_98 ks_6997 ?_
              refine w_iconst (v := nI 0) dX8_aPebble_101 ki_0 ?_
              refine w_aload_n dX8_aPebble_102 rfl ?_
              refine mg_at dX8_aPebble_103 rfl ?_
              refine w_sipush (v := nI 5603) dX8_aPebble_106 ks_5603 ?_
              have EB6 := (EncB.fr EB OB (fun k h1 h2 => by rw [A6, upd_ne (by omega), upd_ne (by omega)]) (fun k _ => by rw [B6]) (I6 20 (by omega)) (I6 21 (by omega)))
              refine ma_at dX8_aPebble_109 (by omega) ?_
              refine w_topN (n := vs B.W 3) (EB6.s 3 (by omega)) ?_
              refine m_callPi3 (mi := miX8_number) dX8_aPebble_110 q1769 okX8_number rfl (Nat.le_of_ble_eq_true rfl) (c_number hT6 k6 o6 z6 (by omega) (by omega) (by omega)) (Nat.le_of_ble_eq_true rfl) (fun S110 hS110 => ?_)
              refine w_ifB_ne dX8_aPebble_113 rfl (fun h_113 => ?_) (fun h_113 => ?_)
              · obtain ⟨⟨v7, t7⟩, e7⟩ := okE_t h_113
                have a7 := PX_t hS110 e7
                have p7 := wNum_pg o6 e7
                have o7 := p7.1.1
                have k7 : TkS S110 t7 := a7.2
                have q7 : FrK (sA S91 0 (6997) (nI v7)) S110 := a7.1
                have F7 := F6.trans ((FrP.A0 S91 (nI v7) (show 5600 ≤ 6997 by omega)).trans q7.P)
                have hT7 := (show TxS (sA S91 0 (6997) (nI v7)) X from hT6).fr q7
                have A7 : mA S110 0 = (upd (upd (upd (mA S 0) (6995) (nI v3)) (6996) (nI v5)) (6997) (nI v7)) := (q7.A 0).trans (congrArg (fun q => upd q (6997) (nI v7)) A6)
                have B7 : mB S110 1 = (mB S 1) := (q7.B 1).trans B6
                have I7 : ∀ i, 15 < i → mI S110 i = mI S i := fun i hi => (q7.1 i (by omega)).trans (I6 i hi)
                have z7 := (I7 18 (by omega)).trans h0
                have ee : pPebble X B t = .ok (bPebble B v3 v5 v7, t7) := by simp only [pPebble, if_neg h_6, bind, Except.bind, e2, e3, e4, e5, e6, e7]
                have EB7 : EncB S110 B := (EncB.fr EB OB (fun k h1 h2 => by rw [A7, upd_ne (by omega), upd_ne (by omega), upd_ne (by omega)]) (fun k _ => by rw [B7]) (I7 20 (by omega)) (I7 21 (by omega)))
                have h7n := OB.n60 v5 (by have := p5.2; omega)
                have hlt8 : vt B.W 7 v5 < 60 := by
                  have h8 := OB.2.2.2.2.1
                  have h9 := OB.1.2.2.2.2.2.2.2.1
                  have h10 := foldN_le (f := fun d => vt B.W 7 d) 8 v5 (by have := p5.2; omega)
                  have h11 : vt B.W 7 v5 ≤ foldN (fun d c => c + vt B.W 7 d) 0 8 := h10
                  omega
                refine w_aload_n dX8_aPebble_118 rfl ?_
                refine w_sipush (v := nI 5600) dX8_aPebble_119 ks_5600 ?_
                refine w_aload_n dX8_aPebble_122 rfl ?_
                refine mg_at dX8_aPebble_123 rfl ?_
                refine w_sipush (v := nI 6996) dX8_aPebble_126 ks_6996 ?_
                refine ma_at dX8_aPebble_129 (by omega) ?_
                refine w_topN (n := v5) (by rw [A7, upd_ne (by omega), upd_eq]) ?_
                refine w_aload_n dX8_aPebble_130 rfl ?_
                refine mg_at dX8_aPebble_131 rfl ?_
                refine w_sipush (v := nI 6995) dX8_aPebble_134 ks_6995 ?_
                refine ma_at dX8_aPebble_137 (by omega) ?_
                refine w_topN (n := v3) (by rw [A7, upd_ne (by omega), upd_ne (by omega), upd_eq]) ?_
                refine w_aload_n dX8_aPebble_138 rfl ?_
                refine mg_at dX8_aPebble_139 rfl ?_
                refine w_sipush (v := nI 6997) dX8_aPebble_142 ks_6997 ?_
                refine ma_at dX8_aPebble_145 (by omega) ?_
                refine w_topN (n := v7) (by rw [A7, upd_eq]) ?_
                refine m_callv4 (mi := miX8_comes) dX8_aPebble_146 q1824 okX8_comes rfl (Nat.le_of_ble_eq_true rfl) (c_comes (n := (vt B.W 7 v5)) (tim := (vp B.W 1 v5)) (by omega) (by have := p5.2; omega) (EB7.1.2.2.1 v5 (by have := p5.2; omega) 2 (by omega) |> fun z => (congrArg (mA S110 0) (by omega)).trans z) hlt8 (fun i hi => (congrArg (mA S110 0) (by omega)).trans (EB7.1.2.2.2 v5 (by have := p5.2; omega) i hi 1 (by omega))) (fun i hi => by have := OB.1.p (d := v5) (by have := p5.2; omega) hi; omega) (by have := p7.2; omega)) (Nat.le_of_ble_eq_true rfl) ?_
                refine w_aload_n dX8_aPebble_149 rfl ?_
                refine w_dup dX8_aPebble_150 rfl ?_
                refine mg_pebblesTold dX8_aPebble_151 rfl ?_
                refine w_topN (n := B.pb) ((I7 21 (by omega)).trans EB.2.2.2.1) ?_
                refine w_iconst (v := nI 1) dX8_aPebble_154 ki_1 ?_
                refine w_iaddN dX8_aPebble_155 ?_
                refine mp_pebblesTold dX8_aPebble_156 rfl ?_
                refine w_iconst (v := nI 1) dX8_aPebble_159 ki_1 ?_
                exact w_zret dX8_aPebble_160 rfl (by first | exact narr0 | exact narr1) ⟨by rw [bP_t (okE_ok (ee))], _, by exact PX_ok ee ⟨F7.trans ((FrP.at_ (fun k hk => comesA_lo _ _ _ _ _ _ _ k hk)).trans (FrP.I _ _ (by omega))), EB7.addP OB (by have := p5.2; omega) hlt8 _ rfl, OB.addP (by omega) p3.2 p5.2 p7.2.2, k7.fr (fun i _ _ => sI_ne (by omega)), z7, I7 17 (by omega)⟩, rfl⟩
              · obtain ⟨f9, e9⟩ := okE_f h_113
                have ee : pPebble X B t = .error f9 := by simp only [pPebble, if_neg h_6, bind, Except.bind, e2, e3, e4, e5, e6, e9]
                have hx0 := PX_f hS110 e9
                have hx := And.intro (F6.trans hx0.1) hx0.2
                refine w_iconst (v := nI 0) dX8_aPebble_116 ki_0 ?_
                exact w_zret dX8_aPebble_117 rfl (by first | exact narr0 | exact narr1) ⟨by rw [bP_f (okE_er (ee))], _, by exact PX_er ee hx, rfl⟩
          · obtain ⟨f9, e9⟩ := okE_f h_81
            have ee : pPebble X B t = .error f9 := by simp only [pPebble, if_neg h_6, bind, Except.bind, e2, e3, e4, e9]
            have hx0 := PX_f hS78 e9
            have hx := And.intro (F4.trans hx0.1) hx0.2
            refine w_iconst (v := nI 0) dX8_aPebble_84 ki_0 ?_
            exact w_zret dX8_aPebble_85 rfl (by first | exact narr0 | exact narr1) ⟨by rw [bP_f (okE_er (ee))], _, by exact PX_er ee hx, rfl⟩
      · obtain ⟨f9, e9⟩ := okE_f h_48
        have ee : pPebble X B t = .error f9 := by simp only [pPebble, if_neg h_6, bind, Except.bind, e2, e9]
        have hx0 := PX_f hS45 e9
        have hx := And.intro (F2.trans hx0.1) hx0.2
        refine w_iconst (v := nI 0) dX8_aPebble_51 ki_0 ?_
        exact w_zret dX8_aPebble_52 rfl (by first | exact narr0 | exact narr1) ⟨by rw [bP_f (okE_er (ee))], _, by exact PX_er ee hx, rfl⟩
  · have ee : pPebble X B t = .error (flt t 6) := if_pos h_6
    refine w_aload_n dX8_aPebble_9 rfl ?_
    refine w_bipush (v := nI 6) dX8_aPebble_10 kb_6 ?_
    refine m_callPi1 (mi := miX8_fails) dX8_aPebble_12 q1765 okX8_fails rfl (Nat.le_of_ble_eq_true rfl) (c_failsX (k := 6) (t := t) hK h0 (by omega) (by omega) hO.ok.2.2.1) (Nat.le_of_ble_eq_true rfl) (fun S12 hS12 => ?_)
    exact w_zret dX8_aPebble_15 rfl (by first | exact narr0 | exact narr1) ⟨by rw [bP_f (okE_er (ee))], _, by exact PX_er ee hS12, rfl⟩
set_option maxHeartbeats 4000000 in
theorem c_aDuel {g : GG} {S : MS} {X : TX} {t : Tk} {B : BS} (hT : TxS S X) (hK : TkS S t) (hO : OkT9 X t) (h0 : mI S 18 = nI 0) (EB : EncB S B) (OB : OkB B) : Mp g miX8_aDuel 6 [] (S) (some (.int (bP (okE (pDuel X B t))))) (PX (pDuel X B t) S (fun v S2 => FrP S S2 ∧ EncB S2 v.1 ∧ OkB v.1 ∧ TkS S2 v.2 ∧ mI S2 18 = nI 0 ∧ mI S2 17 = mI S 17)) := by
  refine Mp.start (fun b => [some (.ref b), none]) plX8 rfl (fun b => (Nat.le_of_ble_eq_true rfl)) (fun b => rfl) ?_
  intro σ b
  have hdu := OB.2.2.2.2.2.2.1
  have hO1 := hO.nx
  refine w_aload_n dX8_aDuel_0 rfl ?_
  refine mg_duelTold dX8_aDuel_1 rfl ?_
  refine w_topN (n := B.du) EB.2.2.2.2.1 ?_
  refine w_ifN_eq dX8_aDuel_4 rfl (by omega) (fun h_4 => ?_) (fun h_4 => ?_)
  · have hd0 : ¬ B.du = 1 := by omega
    refine w_aload_n dX8_aDuel_13 rfl ?_
    refine w_iconst (v := nI 1) dX8_aDuel_14 ki_1 ?_
    refine mp_duelTold (by first | exact narr0 | exact narr1 | exact narrB) (by first | exact fitz0 | exact fitz1) dX8_aDuel_15 rfl ?_
    refine w_aload_n dX8_aDuel_18 rfl ?_
    refine m_callPv0 (mi := miX8_ahead) dX8_aDuel_19 q1730 okX8_ahead rfl (Nat.le_of_ble_eq_true rfl) (c_aheadX (show TxS (sI S 20 (nI 1)) X from hT) (show TkS (sI S 20 (nI 1)) t from hK) hO) (Nat.le_of_ble_eq_true rfl) (fun S19 hS19 => ?_)
    have hT1 : TxS S19 X := (show TxS (sI S 20 (nI 1)) X from hT).fr hS19.1
    have hkl := kix_le X (nx X t)
    refine w_aload_n dX8_aDuel_22 rfl ?_
    refine w_ldcS hx0 rfl rfl dX8_aDuel_23 ?_
    refine m_calli1 (mi := miX8_inWords) dX8_aDuel_25 q1759 okX8_inWords rfl (Nat.le_of_ble_eq_true rfl) (c_inWords hT1 hS19.2 hO1) (Nat.le_of_ble_eq_true rfl) ?_
    refine w_istore_n dX8_aDuel_28 rfl (Nat.le_of_ble_eq_true rfl) ls_2_1 ?_
    refine w_iload_n dX8_aDuel_29 rfl ?_
    refine w_bipush (v := nI 13) dX8_aDuel_30 kb_13 ?_
    refine w_icmp_lt dX8_aDuel_32 rfl (fun h_32 => ?_) (fun h_32 => ?_)
    · have hbad : (kix X (nx X t)) < 13 ∨ 16 < (kix X (nx X t)) := by
        unfold wI at h_32
        by_cases z : (kix X (nx X t)) < 30
        · rw [if_pos z, nI_ltI (by omega) (by omega)] at h_32; omega
        · omega
      refine w_aload_n dX8_aDuel_41 rfl ?_
      refine w_iconst (v := nI 2) dX8_aDuel_42 ki_2 ?_
      refine m_callPi1 (mi := miX8_fails) dX8_aDuel_43 q1765 okX8_fails rfl (Nat.le_of_ble_eq_true rfl) (c_failsX (k := 2) (t := (nx X t)) hS19.2 ((hS19.1.1 18 (by omega)).trans h0) (by omega) (by omega) hO1.ok.2.2.1) (Nat.le_of_ble_eq_true rfl) (fun S43 hS43 => ?_)
      exact w_zret dX8_aDuel_46 rfl (by first | exact narr0 | exact narr1) ⟨by rw [bP_f (okE_er (show pDuel X B t = .error (flt (nx X t) 2) from by unfold pDuel; rw [if_neg hd0, if_pos hbad]))], _, by exact PX_er (show pDuel X B t = .error (flt (nx X t) 2) from by unfold pDuel; rw [if_neg hd0, if_pos hbad]) ⟨(FrP.I S (i := 20) _ (by omega)).trans (hS19.1.P.trans hS43.1), hS43.2⟩, rfl⟩
    · have hk30 : (kix X (nx X t)) < 30 := by
        rcases Nat.lt_or_ge (kix X (nx X t)) 30 with z | z
        · exact z
        · exact absurd (by unfold wI; rw [if_neg (by omega)]; decide) h_32
      rw [show wI (kix X (nx X t)) = nI (kix X (nx X t)) from if_pos hk30] at h_32
      rw [show wI (kix X (nx X t)) = nI (kix X (nx X t)) from if_pos hk30]
      rw [nI_ltI (by omega) (by omega)] at h_32
      refine w_iload_n dX8_aDuel_35 rfl ?_
      refine w_bipush (v := nI 16) dX8_aDuel_36 kb_16 ?_
      refine w_icmpN_le dX8_aDuel_38 rfl (by omega) (by omega) (fun h_38 => ?_) (fun h_38 => ?_)
      · have hok : ¬ ((kix X (nx X t)) < 13 ∨ 16 < (kix X (nx X t))) := by omega
        refine w_aload_n dX8_aDuel_47 rfl ?_
        refine mg_at dX8_aDuel_48 rfl ?_
        refine w_sipush (v := nI 5605) dX8_aDuel_51 ks_5605 ?_
        refine w_iload_n dX8_aDuel_54 rfl ?_
        refine w_bipush (v := nI 13) dX8_aDuel_55 kb_13 ?_
        refine w_isubN dX8_aDuel_57 (by omega) ?_
        refine ms_at dX8_aDuel_58 (by omega) ?_
        refine w_aload_n dX8_aDuel_59 rfl ?_
        refine m_callPv0 (mi := miX8_ahead) dX8_aDuel_60 q1730 okX8_ahead rfl (Nat.le_of_ble_eq_true rfl) (c_aheadX (show TxS (sA S19 0 5605 (nI ((kix X (nx X t)) - 13))) X from hT1) (show TkS (sA S19 0 5605 (nI ((kix X (nx X t)) - 13))) (nx X t) from hS19.2) hO1) (Nat.le_of_ble_eq_true rfl) (fun S60 hS60 => ?_)
        refine w_iconst (v := nI 1) dX8_aDuel_63 ki_1 ?_
        exact w_zret dX8_aDuel_64 rfl (by first | exact narr0 | exact narr1) ⟨by rw [bP_t (okE_ok (show pDuel X B t = .ok (bDuel B ((kix X (nx X t)) - 13), nx X (nx X t)) from by unfold pDuel; rw [if_neg hd0, if_neg hok]))], _, by exact PX_ok (show pDuel X B t = .ok (bDuel B ((kix X (nx X t)) - 13), nx X (nx X t)) from by unfold pDuel; rw [if_neg hd0, if_neg hok]) ⟨(FrP.I S (i := 20) _ (by omega)).trans (hS19.1.P.trans ((FrP.A0 _ _ (by omega)).trans hS60.1.P)), EncB.frK (EB.addU hS19.1 ((kix X (nx X t)) - 13)) hS60.1, OB.addU (by omega), hS60.2, ((hS60.1.1 18 (by omega)).trans (hS19.1.1 18 (by omega))).trans h0, (hS60.1.1 17 (by omega)).trans (hS19.1.1 17 (by omega))⟩, rfl⟩
      · have hbad : (kix X (nx X t)) < 13 ∨ 16 < (kix X (nx X t)) := by omega
        refine w_aload_n dX8_aDuel_41 rfl ?_
        refine w_iconst (v := nI 2) dX8_aDuel_42 ki_2 ?_
        refine m_callPi1 (mi := miX8_fails) dX8_aDuel_43 q1765 okX8_fails rfl (Nat.le_of_ble_eq_true rfl) (c_failsX (k := 2) (t := (nx X t)) hS19.2 ((hS19.1.1 18 (by omega)).trans h0) (by omega) (by omega) hO1.ok.2.2.1) (Nat.le_of_ble_eq_true rfl) (fun S43 hS43 => ?_)
        exact w_zret dX8_aDuel_46 rfl (by first | exact narr0 | exact narr1) ⟨by rw [bP_f (okE_er (show pDuel X B t = .error (flt (nx X t) 2) from by unfold pDuel; rw [if_neg hd0, if_pos hbad]))], _, by exact PX_er (show pDuel X B t = .error (flt (nx X t) 2) from by unfold pDuel; rw [if_neg hd0, if_pos hbad]) ⟨(FrP.I S (i := 20) _ (by omega)).trans (hS19.1.P.trans hS43.1), hS43.2⟩, rfl⟩
  · have hd1 : B.du = 1 := by omega
    refine w_aload_n dX8_aDuel_7 rfl ?_
    refine w_iconst (v := nI 5) dX8_aDuel_8 ki_5 ?_
    refine m_callPi1 (mi := miX8_fails) dX8_aDuel_9 q1765 okX8_fails rfl (Nat.le_of_ble_eq_true rfl) (c_failsX (k := 5) (t := t) hK h0 (by omega) (by omega) hO.ok.2.2.1) (Nat.le_of_ble_eq_true rfl) (fun S9 hS9 => ?_)
    exact w_zret dX8_aDuel_12 rfl (by first | exact narr0 | exact narr1) ⟨by rw [bP_f (okE_er (show pDuel X B t = .error (flt t 5) from if_pos hd1))], _, by exact PX_er (show pDuel X B t = .error (flt t 5) from if_pos hd1) hS9, rfl⟩
