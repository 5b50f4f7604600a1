set_option maxRecDepth 100000
set_option maxHeartbeats 4000000 in
theorem c_first {g : GG} {S : MS} {X : TX} {t : Tk} (hT : TxS S X) (hK : TkS S t) (hO : OkT9 X t) (h0 : mI S 18 = nI 0) (EB : EncB S (bNew 0 0 0)) : Mp g miX8_first 7 [] (S) (some (.int (bP (okE (pFirst X t))))) (PX (pFirst X t) S (fun v S2 => FrP S S2 ∧ EncB S2 (bNew v.1.1 v.1.2.1 v.1.2.2) ∧ TkS S2 v.2 ∧ mI S2 18 = nI 0 ∧ mI S2 17 = mI S 17)) := by
  refine Mp.start (fun b => [some (.ref b)]) plX8 rfl (fun b => (Nat.le_of_ble_eq_true rfl)) (fun b => rfl) ?_
  intro σ b
  have hT0 := hT
  have k0 := hK
  have o0 := hO
  have z0 := h0
  have F0 := FrP.refl S
  have A0 : mA S 0 = (mA S 0) := rfl
  have B0 : mB S 1 = (mB S 1) := rfl
  have I0 : ∀ i, 15 < i → mI S i = mI S i := fun _ _ => rfl
  refine w_aload_n dX8_first_0 rfl ?_
  refine w_ldcS hx0 rfl rfl dX8_first_1 ?_
  refine w_iconst (v := nI 0) dX8_first_3 ki_0 ?_
  refine m_callPi2 (mi := miX8_wantWord) dX8_first_4 q1755 okX8_wantWord rfl (Nat.le_of_ble_eq_true rfl) (c_wantWord hT0 k0 o0 z0 (by omega)) (Nat.le_of_ble_eq_true rfl) (fun S4 hS4 => ?_)
  refine w_ifB_eq dX8_first_7 rfl (fun h_7 => ?_) (fun h_7 => ?_)
  · obtain ⟨f9, e9⟩ := okE_f h_7
    have ee : pFirst X t = .error f9 := by simp only [pFirst, bind, Except.bind, e9]
    have hx0 := PX_f hS4 e9
    have hx := And.intro (F0.trans hx0.1) hx0.2
    refine w_iconst (v := nI 0) dX8_first_47 ki_0 ?_
    exact w_zret dX8_first_48 rfl (by first | exact narr0 | exact narr1) ⟨by rw [bP_f (okE_er (ee))], _, by exact PX_er ee hx, rfl⟩
  · obtain ⟨t1, e1⟩ := okE_t h_7
    have a1 := PX_t hS4 e1
    have p1 := wWord_pg o0 e1
    have o1 := p1.1
    have k1 : TkS S4 t1 := a1.2
    have q1 : FrK S S4 := a1.1
    have F1 := F0.trans q1.P
    have hT1 := hT0.fr q1
    have A1 : mA S4 0 = (mA S 0) := (q1.A 0).trans A0
    have B1 : mB S4 1 = (mB S 1) := (q1.B 1).trans B0
    have I1 : ∀ i, 15 < i → mI S4 i = mI S i := fun i hi => (q1.1 i (by omega)).trans (I0 i hi)
    have z1 := (I1 18 (by omega)).trans h0
    refine w_aload_n dX8_first_10 rfl ?_
    refine w_sipush (v := nI 5600) dX8_first_11 ks_5600 ?_
    refine w_iconst (v := nI 2) dX8_first_14 ki_2 ?_
    refine w_bipush (v := nI 40) dX8_first_15 kb_40 ?_
    refine m_callPi3 (mi := miX8_number) dX8_first_17 q1769 okX8_number rfl (Nat.le_of_ble_eq_true rfl) (c_number hT1 k1 o1 z1 (by omega) (by omega) (by omega)) (Nat.le_of_ble_eq_true rfl) (fun S17 hS17 => ?_)
    refine w_ifB_eq dX8_first_20 rfl (fun h_20 => ?_) (fun h_20 => ?_)
    · obtain ⟨f9, e9⟩ := okE_f h_20
      have ee : pFirst X t = .error f9 := by simp only [pFirst, bind, Except.bind, e1, e9]
      have hx0 := PX_f hS17 e9
      have hx := And.intro (F1.trans hx0.1) hx0.2
      refine w_iconst (v := nI 0) dX8_first_47 ki_0 ?_
      exact w_zret dX8_first_48 rfl (by first | exact narr0 | exact narr1) ⟨by rw [bP_f (okE_er (ee))], _, by exact PX_er ee hx, rfl⟩
    · obtain ⟨⟨v2, t2⟩, e2⟩ := okE_t h_20
      have a2 := PX_t hS17 e2
      have p2 := wNum_pg o1 e2
      have o2 := p2.1.1
      have k2 : TkS S17 t2 := a2.2
      have q2 : FrK (sA S4 0 (5600) (nI v2)) S17 := a2.1
      have F2 := F1.trans ((FrP.A0 S4 (nI v2) (show 5600 ≤ 5600 by omega)).trans q2.P)
      have hT2 := (show TxS (sA S4 0 (5600) (nI v2)) X from hT1).fr q2
      have A2 : mA S17 0 = (upd (mA S 0) (5600) (nI v2)) := (q2.A 0).trans (congrArg (fun q => upd q (5600) (nI v2)) A1)
      have B2 : mB S17 1 = (mB S 1) := (q2.B 1).trans B1
      have I2 : ∀ i, 15 < i → mI S17 i = mI S i := fun i hi => (q2.1 i (by omega)).trans (I1 i hi)
      have z2 := (I2 18 (by omega)).trans h0
      refine w_aload_n dX8_first_23 rfl ?_
      refine w_ldcS hx0 rfl rfl dX8_first_24 ?_
      refine w_iconst (v := nI 1) dX8_first_26 ki_1 ?_
      refine m_callPi2 (mi := miX8_wantWord) dX8_first_27 q1755 okX8_wantWord rfl (Nat.le_of_ble_eq_true rfl) (c_wantWord hT2 k2 o2 z2 (by omega)) (Nat.le_of_ble_eq_true rfl) (fun S27 hS27 => ?_)
      refine w_ifB_eq dX8_first_30 rfl (fun h_30 => ?_) (fun h_30 => ?_)
      · obtain ⟨f9, e9⟩ := okE_f h_30
        have ee : pFirst X t = .error f9 := by simp only [pFirst, bind, Except.bind, e1, e2, e9]
        have hx0 := PX_f hS27 e9
        have hx := And.intro (F2.trans hx0.1) hx0.2
        refine w_iconst (v := nI 0) dX8_first_47 ki_0 ?_
        exact w_zret dX8_first_48 rfl (by first | exact narr0 | exact narr1) ⟨by rw [bP_f (okE_er (ee))], _, by exact PX_er ee hx, rfl⟩
      · obtain ⟨t3, e3⟩ := okE_t h_30
        have a3 := PX_t hS27 e3
        have p3 := wWord_pg o2 e3
        have o3 := p3.1
        have k3 : TkS S27 t3 := a3.2
        have q3 : FrK S17 S27 := a3.1
        have F3 := F2.trans q3.P
        have hT3 := hT2.fr q3
        have A3 : mA S27 0 = (upd (mA S 0) (5600) (nI v2)) := (q3.A 0).trans A2
        have B3 : mB S27 1 = (mB S 1) := (q3.B 1).trans B2
        have I3 : ∀ i, 15 < i → mI S27 i = mI S i := fun i hi => (q3.1 i (by omega)).trans (I2 i hi)
        have z3 := (I3 18 (by omega)).trans h0
        refine w_aload_n dX8_first_33 rfl ?_
        refine w_sipush (v := nI 5603) dX8_first_34 ks_5603 ?_
        refine w_iconst (v := nI 1) dX8_first_37 ki_1 ?_
        refine w_sipush (v := nI 240) dX8_first_38 ks_240 ?_
        refine m_callPi3 (mi := miX8_number) dX8_first_41 q1769 okX8_number rfl (Nat.le_of_ble_eq_true rfl) (c_number hT3 k3 o3 z3 (by omega) (by omega) (by omega)) (Nat.le_of_ble_eq_true rfl) (fun S41 hS41 => ?_)
        refine w_ifB_ne dX8_first_44 rfl (fun h_44 => ?_) (fun h_44 => ?_)
        · obtain ⟨⟨v4, t4⟩, e4⟩ := okE_t h_44
          have a4 := PX_t hS41 e4
          have p4 := wNum_pg o3 e4
          have o4 := p4.1.1
          have k4 : TkS S41 t4 := a4.2
          have q4 : FrK (sA S27 0 (5603) (nI v4)) S41 := a4.1
          have F4 := F3.trans ((FrP.A0 S27 (nI v4) (show 5600 ≤ 5603 by omega)).trans q4.P)
          have hT4 := (show TxS (sA S27 0 (5603) (nI v4)) X from hT3).fr q4
          have A4 : mA S41 0 = (upd (upd (mA S 0) (5600) (nI v2)) (5603) (nI v4)) := (q4.A 0).trans (congrArg (fun q => upd q (5603) (nI v4)) A3)
          have B4 : mB S41 1 = (mB S 1) := (q4.B 1).trans B3
          have I4 : ∀ i, 15 < i → mI S41 i = mI S i := fun i hi => (q4.1 i (by omega)).trans (I3 i hi)
          have z4 := (I4 18 (by omega)).trans h0
          refine w_aload_n dX8_first_49 rfl ?_
          refine w_ldcS hx0 rfl rfl dX8_first_50 ?_
          refine m_calli1 (mi := miX8_inWords) dX8_first_52 q1759 okX8_inWords rfl (Nat.le_of_ble_eq_true rfl) (c_inWords hT4 k4 o4) (Nat.le_of_ble_eq_true rfl) ?_
          refine w_iconst (v := nI 2) dX8_first_55 ki_2 ?_
          refine w_icmp_ne dX8_first_56 rfl (fun h_56 => ?_) (fun h_56 => ?_)
          · have hkm : ¬ kix X t4 = 2 := fun z => h_56 (by rw [z]; rfl)
            refine w_aload_n dX8_first_78 rfl ?_
            refine w_bipush (v := nI 59) dX8_first_79 kb_59 ?_
            refine m_callPi1 (mi := miX8_wantSign) dX8_first_81 q1773 okX8_wantSign rfl (Nat.le_of_ble_eq_true rfl) (c_wantSign hT4 k4 o4 z4 (by omega)) (Nat.le_of_ble_eq_true rfl) (fun S81 hS81 => ?_)
            have hfin : bP (okE (wSign X 59 t4)) = bP (okE (pFirst X t)) ∧ PX (pFirst X t) S (fun v S2 => FrP S S2 ∧ EncB S2 (bNew v.1.1 v.1.2.1 v.1.2.2) ∧ TkS S2 v.2 ∧ mI S2 18 = nI 0 ∧ mI S2 17 = mI S 17) S81 := by
              rcases e9 : wSign X 59 t4 with f9 | t9
              · have ee : pFirst X t = .error f9 := by simp only [pFirst, bind, Except.bind, e1, e2, e3, e4, if_neg hkm, e9]
                have hx := PX_f hS81 e9
                rw [bP_f (okE_er rfl), bP_f (okE_er ee)]
                exact ⟨rfl, PX_er ee ⟨F4.trans hx.1, hx.2⟩⟩
              · have ee : pFirst X t = .ok ((v2, v4, 0), t9) := by simp only [pFirst, bind, Except.bind, e1, e2, e3, e4, if_neg hkm, e9]
                have a9 := PX_t hS81 e9
                have q9 : FrK S41 S81 := a9.1
                rw [bP_t (okE_ok rfl), bP_t (okE_ok ee)]
                exact ⟨rfl, PX_ok ee ⟨F4.trans q9.P, EncB.frK (EB.first A4 (I4 20 (by omega)) (I4 21 (by omega))) q9, a9.2, (q9.1 18 (by omega)).trans z4, (q9.1 17 (by omega)).trans (I4 17 (by omega))⟩⟩
            exact w_zret dX8_first_84 rfl narrB ⟨by rw [hfin.1], _, by exact hfin.2, rfl⟩
          · have hkl := kix_le X t4
            have hkm : kix X t4 = 2 := by
              unfold wI at h_56
              by_cases z : kix X t4 < 30
              · rw [if_pos z] at h_56; exact (nI_eq (by omega) (by omega)).mp h_56
              · rw [if_neg z] at h_56; exact absurd h_56.symm (nI_nm1 (by omega))
            refine w_aload_n dX8_first_59 rfl ?_
            refine m_callPv0 (mi := miX8_ahead) dX8_first_60 q1730 okX8_ahead rfl (Nat.le_of_ble_eq_true rfl) (c_aheadX hT4 k4 o4) (Nat.le_of_ble_eq_true rfl) (fun S60 hS60 => ?_)
            have q5 : FrK S41 S60 := hS60.1
            have k5 : TkS S60 _ := hS60.2
            have o5 := o4.nx
            have F5 := F4.trans q5.P
            have hT5 := hT4.fr q5
            have A5 : mA S60 0 = (upd (upd (mA S 0) (5600) (nI v2)) (5603) (nI v4)) := (q5.A 0).trans A4
            have B5 : mB S60 1 = (mB S 1) := (q5.B 1).trans B4
            have I5 : ∀ i, 15 < i → mI S60 i = mI S i := fun i hi => (q5.1 i (by omega)).trans (I4 i hi)
            have z5 := (I5 18 (by omega)).trans h0
            refine w_aload_n dX8_first_63 rfl ?_
            refine w_sipush (v := nI 5604) dX8_first_64 ks_5604 ?_
            refine w_iconst (v := nI 0) dX8_first_67 ki_0 ?_
            refine w_bipush (v := nI 60) dX8_first_68 kb_60 ?_
            refine m_callPi3 (mi := miX8_number) dX8_first_70 q1769 okX8_number rfl (Nat.le_of_ble_eq_true rfl) (c_number hT5 k5 o5 z5 (by omega) (by omega) (by omega)) (Nat.le_of_ble_eq_true rfl) (fun S70 hS70 => ?_)
            refine w_ifB_ne dX8_first_73 rfl (fun h_73 => ?_) (fun h_73 => ?_)
            · obtain ⟨⟨v6, t6⟩, e6⟩ := okE_t h_73
              have a6 := PX_t hS70 e6
              have p6 := wNum_pg o5 e6
              have o6 := p6.1.1
              have k6 : TkS S70 t6 := a6.2
              have q6 : FrK (sA S60 0 (5604) (nI v6)) S70 := a6.1
              have F6 := F5.trans ((FrP.A0 S60 (nI v6) (show 5600 ≤ 5604 by omega)).trans q6.P)
              have hT6 := (show TxS (sA S60 0 (5604) (nI v6)) X from hT5).fr q6
              have A6 : mA S70 0 = (upd (upd (upd (mA S 0) (5600) (nI v2)) (5603) (nI v4)) (5604) (nI v6)) := (q6.A 0).trans (congrArg (fun q => upd q (5604) (nI v6)) A5)
              have B6 : mB S70 1 = (mB S 1) := (q6.B 1).trans B5
              have I6 : ∀ i, 15 < i → mI S70 i = mI S i := fun i hi => (q6.1 i (by omega)).trans (I5 i hi)
              have z6 := (I6 18 (by omega)).trans h0
              refine w_aload_n dX8_first_78 rfl ?_
              refine w_bipush (v := nI 59) dX8_first_79 kb_59 ?_
              refine m_callPi1 (mi := miX8_wantSign) dX8_first_81 q1773 okX8_wantSign rfl (Nat.le_of_ble_eq_true rfl) (c_wantSign hT6 k6 o6 z6 (by omega)) (Nat.le_of_ble_eq_true rfl) (fun S81 hS81 => ?_)
              have hfin : bP (okE (wSign X 59 t6)) = bP (okE (pFirst X t)) ∧ PX (pFirst X t) S (fun v S2 => FrP S S2 ∧ EncB S2 (bNew v.1.1 v.1.2.1 v.1.2.2) ∧ TkS S2 v.2 ∧ mI S2 18 = nI 0 ∧ mI S2 17 = mI S 17) S81 := by
                rcases e9 : wSign X 59 t6 with f9 | t9
                · have ee : pFirst X t = .error f9 := by simp only [pFirst, bind, Except.bind, e1, e2, e3, e4, e6, if_pos hkm, e9]
                  have hx := PX_f hS81 e9
                  rw [bP_f (okE_er rfl), bP_f (okE_er ee)]
                  exact ⟨rfl, PX_er ee ⟨F6.trans hx.1, hx.2⟩⟩
                · have ee : pFirst X t = .ok ((v2, v4, v6), t9) := by simp only [pFirst, bind, Except.bind, e1, e2, e3, e4, e6, if_pos hkm, e9]
                  have a9 := PX_t hS81 e9
                  have q9 : FrK S70 S81 := a9.1
                  rw [bP_t (okE_ok rfl), bP_t (okE_ok ee)]
                  exact ⟨rfl, PX_ok ee ⟨F6.trans q9.P, EncB.frK (EB.moon A6 (I6 20 (by omega)) (I6 21 (by omega))) q9, a9.2, (q9.1 18 (by omega)).trans z6, (q9.1 17 (by omega)).trans (I6 17 (by omega))⟩⟩
              exact w_zret dX8_first_84 rfl narrB ⟨by rw [hfin.1], _, by exact hfin.2, rfl⟩
            · obtain ⟨f9, e9⟩ := okE_f h_73
              have ee : pFirst X t = .error f9 := by simp only [pFirst, bind, Except.bind, e1, e2, e3, e4, e9, if_pos hkm]
              have hx0 := PX_f hS70 e9
              have hx := And.intro (F5.trans hx0.1) hx0.2
              refine w_iconst (v := nI 0) dX8_first_76 ki_0 ?_
              exact w_zret dX8_first_77 rfl (by first | exact narr0 | exact narr1) ⟨by rw [bP_f (okE_er (ee))], _, by exact PX_er ee hx, rfl⟩
        · obtain ⟨f9, e9⟩ := okE_f h_44
          have ee : pFirst X t = .error f9 := by simp only [pFirst, bind, Except.bind, e1, e2, e3, e9]
          have hx0 := PX_f hS41 e9
          have hx := And.intro (F3.trans hx0.1) hx0.2
          refine w_iconst (v := nI 0) dX8_first_47 ki_0 ?_
          exact w_zret dX8_first_48 rfl (by first | exact narr0 | exact narr1) ⟨by rw [bP_f (okE_er (ee))], _, by exact PX_er ee hx, rfl⟩
