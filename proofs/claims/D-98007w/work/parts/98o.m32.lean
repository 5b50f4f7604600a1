set_option maxRecDepth 100000
set_option maxHeartbeats 4000000 in
theorem c_finderTo {g : GG} {S : MS} {to : Nat} {X : TX} {t : Tk} {H : HS} (hT : TxS S X) (hK : TkS S t) (hO : OkT9 X t) (h0 : mI S 18 = nI 0) (EH : EncZ S H) (OH : OkH H) (hto : 5600 ≤ to) (hto2 : to < 8400) : Mp g miX8_finderTo 8 [.int (nI to)] (S) (some (.int (bP (okE (wOld X H.nf H.cf t))))) (PX (wOld X H.nf H.cf t) S (fun v S2 => FrK (sA S 0 to (nI v.1)) S2 ∧ TkS S2 v.2)) := by
  refine Mp.start (fun b => [some (.ref b), some (.int (nI to))]) plX8 rfl (fun b => (Nat.le_of_ble_eq_true rfl)) (fun b => rfl) ?_
  intro σ b
  obtain ⟨-, -, hcf9, hcd9, -, -⟩ := OH
  refine w_aload_n dX8_finderTo_0 rfl ?_
  refine w_iconst (v := nI 0) dX8_finderTo_1 ki_0 ?_
  refine w_aload_n dX8_finderTo_2 rfl ?_
  refine mg_at dX8_finderTo_3 rfl ?_
  refine w_iconst (v := nI 1) dX8_finderTo_6 ki_1 ?_
  refine ma_at dX8_finderTo_7 (by omega) ?_
  refine w_topN (n := H.cf) (EH.2.1) ?_
  refine w_iload_n dX8_finderTo_8 rfl ?_
  refine m_callPi3 (mi := miX8_oldOne) dX8_finderTo_9 q1820 okX8_oldOne rfl (Nat.le_of_ble_eq_true rfl) (c_oldOne (nm := H.nf) hT hK hO h0 EH.2.2.2.1 (by omega) hto hto2) (Nat.le_of_ble_eq_true rfl) (fun S9 hS9 => ?_)
  exact w_zret dX8_finderTo_12 rfl narrB ⟨by rfl, _, by exact hS9, rfl⟩
set_option maxHeartbeats 4000000 in
theorem c_findTo {g : GG} {S : MS} {to : Nat} {X : TX} {t : Tk} {H : HS} (hT : TxS S X) (hK : TkS S t) (hO : OkT9 X t) (h0 : mI S 18 = nI 0) (EH : EncZ S H) (OH : OkH H) (hto : 5600 ≤ to) (hto2 : to < 8400) : Mp g miX8_findTo 8 [.int (nI to)] (S) (some (.int (bP (okE (wOld X H.nd H.cd t))))) (PX (wOld X H.nd H.cd t) S (fun v S2 => FrK (sA S 0 to (nI v.1)) S2 ∧ TkS S2 v.2)) := by
  refine Mp.start (fun b => [some (.ref b), some (.int (nI to))]) plX8 rfl (fun b => (Nat.le_of_ble_eq_true rfl)) (fun b => rfl) ?_
  intro σ b
  obtain ⟨-, -, hcf9, hcd9, -, -⟩ := OH
  refine w_aload_n dX8_findTo_0 rfl ?_
  refine w_bipush (v := nI 6) dX8_findTo_1 kb_6 ?_
  refine w_aload_n dX8_findTo_3 rfl ?_
  refine mg_at dX8_findTo_4 rfl ?_
  refine w_iconst (v := nI 2) dX8_findTo_7 ki_2 ?_
  refine ma_at dX8_findTo_8 (by omega) ?_
  refine w_topN (n := H.cd) (EH.2.2.1) ?_
  refine w_iload_n dX8_findTo_9 rfl ?_
  refine m_callPi3 (mi := miX8_oldOne) dX8_findTo_10 q1820 okX8_oldOne rfl (Nat.le_of_ble_eq_true rfl) (c_oldOne (nm := H.nd) hT hK hO h0 EH.2.2.2.2 (by omega) hto hto2) (Nat.le_of_ble_eq_true rfl) (fun S10 hS10 => ?_)
  exact w_zret dX8_findTo_13 rfl narrB ⟨by rfl, _, by exact hS10, rfl⟩
set_option maxHeartbeats 4000000 in
theorem c_test {g : GG} {S : MS} {r : Nat} {X : TX} {t : Tk} {H : HS} (hT : TxS S X) (hK : TkS S t) (hO : OkT9 X t) (h0 : mI S 18 = nI 0) (EH : EncZ S H) (OH : OkH H) (hr : 5600 ≤ r) (hr2 : r + 6 ≤ 8400) (h0r : Row0 S r 24) : Mp g miX8_test 9 [.int (nI r)] (S) (some (.int (bP (okE (pTest X H t))))) (PX (pTest X H t) S (fun v S2 => RowS r v.1 S S2 ∧ TkS S2 v.2)) := by
  refine Mp.start (fun b => [some (.ref b), some (.int (nI r)), none]) plX8 rfl (fun b => (Nat.le_of_ble_eq_true rfl)) (fun b => rfl) ?_
  intro σ b
  have hkl := kix_le X t
  have F0 := FrP.refl S
  refine w_aload_n dX8_test_0 rfl ?_
  refine w_ldcS hx0 rfl rfl dX8_test_1 ?_
  refine m_calli1 (mi := miX8_inWords) dX8_test_3 q1759 okX8_inWords rfl (Nat.le_of_ble_eq_true rfl) (c_inWords hT hK hO) (Nat.le_of_ble_eq_true rfl) ?_
  refine w_istore_n dX8_test_6 rfl (Nat.le_of_ble_eq_true rfl) ls_3_2 ?_
  refine w_iload_n dX8_test_7 rfl ?_
  refine w_bipush (v := nI 28) dX8_test_8 kb_28 ?_
  refine w_icmp_eq dX8_test_10 rfl (fun h_10 => ?_) (fun h_10 => ?_)
  · have hkx : kix X t = 28 := by
      unfold wI at h_10
      by_cases z : kix X t < 30
      · rw [if_pos z] at h_10; exact (nI_eq (by omega) (by omega)).mp h_10
      · rw [if_neg z] at h_10; exact absurd h_10.symm (nI_nm1 (by omega))
    have hkn : ¬ kix X t = 29 := by omega
    have hkn2 : ¬ kix X t = 15 := by omega
    rw [show wI (kix X t) = nI 28 by rw [hkx]; rfl]
    refine w_aload_n dX8_test_31 rfl ?_
    refine mg_at dX8_test_32 rfl ?_
    refine w_iload_n dX8_test_35 rfl ?_
    refine w_sipush (v := nI 2400) dX8_test_36 ks_2400 ?_
    refine w_iload_n dX8_test_39 rfl ?_
    refine w_iaddN dX8_test_40 ?_
    refine ms_at dX8_test_41 (by omega) ?_
    refine w_aload_n dX8_test_42 rfl ?_
    refine m_callPv0 (mi := miX8_ahead) dX8_test_43 q1730 okX8_ahead rfl (Nat.le_of_ble_eq_true rfl) (c_aheadX (show TxS (sA S 0 r (nI (2400 + 28))) X from hT) (show TkS (sA S 0 r (nI (2400 + 28))) t from hK) hO) (Nat.le_of_ble_eq_true rfl) (fun S43 hS43 => ?_)
    have q1 : FrK (sA S 0 r (nI (2400 + 28))) S43 := hS43.1
    have k1 : TkS S43 (nx X t) := hS43.2
    have o1 := hO.nx
    have hT1 := (show TxS (sA S 0 r (nI (2400 + 28))) X from hT).fr q1
    have F1 : FrP S S43 := (FrP.A0 S (nI (2400 + 28)) (by omega)).trans q1.P
    have A1 : mA S43 0 = upd (mA S 0) r (nI (2400 + 28)) := q1.A 0
    have B1 : mB S43 1 = mB S 1 := q1.B 1
    have I1 : ∀ i, 15 < i → mI S43 i = mI S i := fun i hi => q1.1 i (by omega)
    have z1 := (I1 18 (by omega)).trans h0
    have G1 : FrA S S43 := (FrA.A0 S r (nI (2400 + 28))).trans q1.toA
    refine w_iload_n dX8_test_46 rfl ?_
    refine w_bipush (v := nI 29) dX8_test_47 kb_29 ?_
    refine w_icmpN_ne dX8_test_49 rfl (by omega) (by omega) (fun h_49 => ?_) (fun h_49 => ?_)
    · refine w_aload_n dX8_test_60 rfl ?_
      refine w_iload_n dX8_test_61 rfl ?_
      refine w_iconst (v := nI 1) dX8_test_62 ki_1 ?_
      refine w_iaddN dX8_test_63 ?_
      refine m_callPi1 (mi := miX8_finderTo) dX8_test_64 q1855 okX8_finderTo rfl (Nat.le_of_ble_eq_true rfl) (c_finderTo hT1 k1 o1 z1 (EH.frP OH F1) OH (by omega) (by omega)) (Nat.le_of_ble_eq_true rfl) (fun S64 hS64 => ?_)
      refine w_ifB_ne dX8_test_67 rfl (fun h_67 => ?_) (fun h_67 => ?_)
      · obtain ⟨⟨v2, t2⟩, e2⟩ := okE_t h_67
        have a2 := PX_t hS64 e2
        have p2 := wOld_pg o1 e2
        have o2 := p2.1.1
        have k2 : TkS S64 t2 := a2.2
        have q2 : FrK (sA S43 0 (r + 1) (nI v2)) S64 := a2.1
        have F2 := F1.trans ((FrP.A0 S43 (nI v2) (show 5600 ≤ r + 1 by omega)).trans q2.P)
        have hT2 := (show TxS (sA S43 0 (r + 1) (nI v2)) X from hT1).fr q2
        have A2 : mA S64 0 = (upd (upd (mA S 0) r (nI (2400 + 28))) (r + 1) (nI v2)) := (q2.A 0).trans (congrArg (fun q => upd q (r + 1) (nI v2)) A1)
        have B2 : mB S64 1 = (mB S 1) := (q2.B 1).trans B1
        have I2 : ∀ i, 15 < i → mI S64 i = mI S i := fun i hi => (q2.1 i (by omega)).trans (I1 i hi)
        have z2 := (I2 18 (by omega)).trans h0
        have G2 := G1.trans ((FrA.A0 S43 (r + 1) (nI v2)).trans q2.toA)
        refine w_iload_n dX8_test_72 rfl ?_
        refine w_bipush (v := nI 15) dX8_test_73 kb_15 ?_
        refine w_icmpN_ne dX8_test_75 rfl (by omega) (by omega) (fun h_75 => ?_) (fun h_75 => ?_)
        · refine w_aload_n dX8_test_105 rfl ?_
          refine w_bipush (v := nI 60) dX8_test_106 kb_60 ?_
          refine m_calli1 (mi := miX8_isSign) dX8_test_108 q1777 okX8_isSign rfl (Nat.le_of_ble_eq_true rfl) c_isSign (Nat.le_of_ble_eq_true rfl) ?_
          refine w_ifB_ne dX8_test_111 rfl (fun h_111 => ?_) (fun h_111 => ?_)
          · have hsg : (t2.so = 4 ∧ (t2.va = 60 ∨ t2.va = 62 ∨ t2.va = 61)) := by have := (sgn_iff k2 o2 (by omega)).mp h_111; omega
            refine w_aload_n dX8_test_138 rfl ?_
            refine mg_at dX8_test_139 rfl ?_
            refine w_iload_n dX8_test_142 rfl ?_
            refine w_iconst (v := nI 5) dX8_test_143 ki_5 ?_
            refine w_iaddN dX8_test_144 ?_
            refine w_aload_n dX8_test_145 rfl ?_
            refine mg_value dX8_test_146 rfl ?_
            refine w_topN (n := t2.va) (k2.2.2.2 (Or.inr hsg.1)) ?_
            refine ms_at dX8_test_149 (by omega) ?_
            refine w_aload_n dX8_test_150 rfl ?_
            refine m_callPv0 (mi := miX8_ahead) dX8_test_151 q1730 okX8_ahead rfl (Nat.le_of_ble_eq_true rfl) (c_aheadX (show TxS (sA S64 0 (r + 5) (nI t2.va)) X from hT2) (show TkS (sA S64 0 (r + 5) (nI t2.va)) t2 from k2) o2) (Nat.le_of_ble_eq_true rfl) (fun S151 hS151 => ?_)
            have q3 : FrK (sA S64 0 (r + 5) (nI t2.va)) S151 := hS151.1
            have k3 : TkS S151 (nx X t2) := hS151.2
            have o3 := o2.nx
            have hT3 := (show TxS (sA S64 0 (r + 5) (nI t2.va)) X from hT2).fr q3
            have F3 : FrP S S151 := F2.trans ((FrP.A0 S64 (nI t2.va) (show 5600 ≤ r + 5 by omega)).trans q3.P)
            have A3 : mA S151 0 = upd (upd (upd (mA S 0) r (nI (2400 + 28))) (r + 1) (nI v2)) (r + 5) (nI t2.va) := (q3.A 0).trans (congrArg (fun q => upd q (r + 5) (nI t2.va)) A2)
            have B3 : mB S151 1 = mB S 1 := (q3.B 1).trans B2
            have I3 : ∀ i, 15 < i → mI S151 i = mI S i := fun i hi => (q3.1 i (by omega)).trans (I2 i hi)
            have z3 := (I3 18 (by omega)).trans h0
            have G3 := G2.trans ((FrA.A0 S64 (r + 5) (nI t2.va)).trans q3.toA)
            refine w_aload_n dX8_test_154 rfl ?_
            refine w_iload_n dX8_test_155 rfl ?_
            refine w_iconst (v := nI 2) dX8_test_156 ki_2 ?_
            refine w_iaddN dX8_test_157 ?_
            refine w_iconst (v := nI 0) dX8_test_158 ki_0 ?_
            refine w_sipush (v := nI 9999) dX8_test_159 ks_9999 ?_
            refine m_callPi3 (mi := miX8_number) dX8_test_162 q1769 okX8_number rfl (Nat.le_of_ble_eq_true rfl) (c_number hT3 k3 o3 z3 (by omega) (by omega) (by omega)) (Nat.le_of_ble_eq_true rfl) (fun S162 hS162 => ?_)
            have hfin : bP (okE (wNum X 0 9999 (nx X t2))) = bP (okE (pTest X H t)) ∧ PX (pTest X H t) S (fun v S2 => RowS r v.1 S S2 ∧ TkS S2 v.2) S162 := by
              rcases e4 : wNum X 0 9999 (nx X t2) with f9 | ⟨v4, t4⟩
              · have ee : pTest X H t = .error f9 := by simp only [pTest, if_neg hkn, if_neg hkn2, if_pos hkx, if_pos hsg, bind, Except.bind, e2, e4]
                have hx := PX_f hS162 e4
                rw [bP_f (okE_er rfl), bP_f (okE_er ee)]
                exact ⟨rfl, PX_er ee ⟨F3.trans hx.1, hx.2⟩⟩
              · have ee : pTest X H t = .ok ((2428, v2, v4, t2.va), t4) := by simp only [pTest, if_neg hkn, if_neg hkn2, if_pos hkx, if_pos hsg, bind, Except.bind, e2, e4]
                have a4 := PX_t hS162 e4
                have p4 := wNum_pg o3 e4
                have o4 := p4.1.1
                have k4 : TkS S162 t4 := a4.2
                have q4 : FrK (sA S151 0 (r + 2) (nI v4)) S162 := a4.1
                have F4 := F3.trans ((FrP.A0 S151 (nI v4) (show 5600 ≤ r + 2 by omega)).trans q4.P)
                have hT4 := (show TxS (sA S151 0 (r + 2) (nI v4)) X from hT3).fr q4
                have A4 : mA S162 0 = (upd (upd (upd (upd (mA S 0) r (nI (2400 + 28))) (r + 1) (nI v2)) (r + 5) (nI t2.va)) (r + 2) (nI v4)) := (q4.A 0).trans (congrArg (fun q => upd q (r + 2) (nI v4)) A3)
                have B4 : mB S162 1 = (mB S 1) := (q4.B 1).trans B3
                have I4 : ∀ i, 15 < i → mI S162 i = mI S i := fun i hi => (q4.1 i (by omega)).trans (I3 i hi)
                have z4 := (I4 18 (by omega)).trans h0
                have G4 := G3.trans ((FrA.A0 S151 (r + 2) (nI v4)).trans q4.toA)
                rw [bP_t (okE_ok rfl), bP_t (okE_ok ee)]
                exact ⟨rfl, PX_ok ee ⟨(show RowS r (2428, v2, v4, t2.va) S S162 from ⟨G4, fun k9 h9 => (by rw [A4, upd_ne (by omega), upd_ne (by omega), upd_ne (by omega), upd_ne (by omega)]), (by rw [A4]; unfold upd; (repeat' split) <;> first | rfl | omega | (simp_all; done) | (first | exact h0r.1 | exact h0r.1.trans (congrArg nI (by assumption)) | exact h0r.2.1 | exact h0r.2.2.1 | exact h0r.2.2.2)), (by rw [A4]; unfold upd; (repeat' split) <;> first | rfl | omega | (simp_all; done) | (first | exact h0r.1 | exact h0r.1.trans (congrArg nI (by assumption)) | exact h0r.2.1 | exact h0r.2.2.1 | exact h0r.2.2.2)), (by rw [A4]; unfold upd; (repeat' split) <;> first | rfl | omega | (simp_all; done) | (first | exact h0r.1 | exact h0r.1.trans (congrArg nI (by assumption)) | exact h0r.2.1 | exact h0r.2.2.1 | exact h0r.2.2.2)), (by rw [A4]; unfold upd; (repeat' split) <;> first | rfl | omega | (simp_all; done) | (first | exact h0r.1 | exact h0r.1.trans (congrArg nI (by assumption)) | exact h0r.2.1 | exact h0r.2.2.1 | exact h0r.2.2.2)), (by rw [A4]; unfold upd; (repeat' split) <;> first | rfl | omega | (simp_all; done) | (first | exact h0r.1 | exact h0r.1.trans (congrArg nI (by assumption)) | exact h0r.2.1 | exact h0r.2.2.1 | exact h0r.2.2.2)), (by rw [A4]; unfold upd; (repeat' split) <;> first | rfl | omega | (simp_all; done) | (first | exact h0r.1 | exact h0r.1.trans (congrArg nI (by assumption)) | exact h0r.2.1 | exact h0r.2.2.1 | exact h0r.2.2.2))⟩), k4⟩⟩
            exact w_zret dX8_test_165 rfl narrB ⟨by rw [hfin.1], _, by exact hfin.2, rfl⟩
          · refine w_aload_n dX8_test_114 rfl ?_
            refine w_bipush (v := nI 62) dX8_test_115 kb_62 ?_
            refine m_calli1 (mi := miX8_isSign) dX8_test_117 q1777 okX8_isSign rfl (Nat.le_of_ble_eq_true rfl) c_isSign (Nat.le_of_ble_eq_true rfl) ?_
            refine w_ifB_ne dX8_test_120 rfl (fun h_120 => ?_) (fun h_120 => ?_)
            · have hsg : (t2.so = 4 ∧ (t2.va = 60 ∨ t2.va = 62 ∨ t2.va = 61)) := by have := (sgn_iff k2 o2 (by omega)).mp h_120; omega
              refine w_aload_n dX8_test_138 rfl ?_
              refine mg_at dX8_test_139 rfl ?_
              refine w_iload_n dX8_test_142 rfl ?_
              refine w_iconst (v := nI 5) dX8_test_143 ki_5 ?_
              refine w_iaddN dX8_test_144 ?_
              refine w_aload_n dX8_test_145 rfl ?_
              refine mg_value dX8_test_146 rfl ?_
              refine w_topN (n := t2.va) (k2.2.2.2 (Or.inr hsg.1)) ?_
              refine ms_at dX8_test_149 (by omega) ?_
              refine w_aload_n dX8_test_150 rfl ?_
              refine m_callPv0 (mi := miX8_ahead) dX8_test_151 q1730 okX8_ahead rfl (Nat.le_of_ble_eq_true rfl) (c_aheadX (show TxS (sA S64 0 (r + 5) (nI t2.va)) X from hT2) (show TkS (sA S64 0 (r + 5) (nI t2.va)) t2 from k2) o2) (Nat.le_of_ble_eq_true rfl) (fun S151 hS151 => ?_)
              have q3 : FrK (sA S64 0 (r + 5) (nI t2.va)) S151 := hS151.1
              have k3 : TkS S151 (nx X t2) := hS151.2
              have o3 := o2.nx
              have hT3 := (show TxS (sA S64 0 (r + 5) (nI t2.va)) X from hT2).fr q3
              have F3 : FrP S S151 := F2.trans ((FrP.A0 S64 (nI t2.va) (show 5600 ≤ r + 5 by omega)).trans q3.P)
              have A3 : mA S151 0 = upd (upd (upd (mA S 0) r (nI (2400 + 28))) (r + 1) (nI v2)) (r + 5) (nI t2.va) := (q3.A 0).trans (congrArg (fun q => upd q (r + 5) (nI t2.va)) A2)
              have B3 : mB S151 1 = mB S 1 := (q3.B 1).trans B2
              have I3 : ∀ i, 15 < i → mI S151 i = mI S i := fun i hi => (q3.1 i (by omega)).trans (I2 i hi)
              have z3 := (I3 18 (by omega)).trans h0
              have G3 := G2.trans ((FrA.A0 S64 (r + 5) (nI t2.va)).trans q3.toA)
              refine w_aload_n dX8_test_154 rfl ?_
              refine w_iload_n dX8_test_155 rfl ?_
              refine w_iconst (v := nI 2) dX8_test_156 ki_2 ?_
              refine w_iaddN dX8_test_157 ?_
              refine w_iconst (v := nI 0) dX8_test_158 ki_0 ?_
              refine w_sipush (v := nI 9999) dX8_test_159 ks_9999 ?_
              refine m_callPi3 (mi := miX8_number) dX8_test_162 q1769 okX8_number rfl (Nat.le_of_ble_eq_true rfl) (c_number hT3 k3 o3 z3 (by omega) (by omega) (by omega)) (Nat.le_of_ble_eq_true rfl) (fun S162 hS162 => ?_)
              have hfin : bP (okE (wNum X 0 9999 (nx X t2))) = bP (okE (pTest X H t)) ∧ PX (pTest X H t) S (fun v S2 => RowS r v.1 S S2 ∧ TkS S2 v.2) S162 := by
                rcases e4 : wNum X 0 9999 (nx X t2) with f9 | ⟨v4, t4⟩
                · have ee : pTest X H t = .error f9 := by simp only [pTest, if_neg hkn, if_neg hkn2, if_pos hkx, if_pos hsg, bind, Except.bind, e2, e4]
                  have hx := PX_f hS162 e4
                  rw [bP_f (okE_er rfl), bP_f (okE_er ee)]
                  exact ⟨rfl, PX_er ee ⟨F3.trans hx.1, hx.2⟩⟩
                · have ee : pTest X H t = .ok ((2428, v2, v4, t2.va), t4) := by simp only [pTest, if_neg hkn, if_neg hkn2, if_pos hkx, if_pos hsg, bind, Except.bind, e2, e4]
                  have a4 := PX_t hS162 e4
                  have p4 := wNum_pg o3 e4
                  have o4 := p4.1.1
                  have k4 : TkS S162 t4 := a4.2
                  have q4 : FrK (sA S151 0 (r + 2) (nI v4)) S162 := a4.1
                  have F4 := F3.trans ((FrP.A0 S151 (nI v4) (show 5600 ≤ r + 2 by omega)).trans q4.P)
                  have hT4 := (show TxS (sA S151 0 (r + 2) (nI v4)) X from hT3).fr q4
                  have A4 : mA S162 0 = (upd (upd (upd (upd (mA S 0) r (nI (2400 + 28))) (r + 1) (nI v2)) (r + 5) (nI t2.va)) (r + 2) (nI v4)) := (q4.A 0).trans (congrArg (fun q => upd q (r + 2) (nI v4)) A3)
                  have B4 : mB S162 1 = (mB S 1) := (q4.B 1).trans B3
                  have I4 : ∀ i, 15 < i → mI S162 i = mI S i := fun i hi => (q4.1 i (by omega)).trans (I3 i hi)
                  have z4 := (I4 18 (by omega)).trans h0
                  have G4 := G3.trans ((FrA.A0 S151 (r + 2) (nI v4)).trans q4.toA)
                  rw [bP_t (okE_ok rfl), bP_t (okE_ok ee)]
                  exact ⟨rfl, PX_ok ee ⟨(show RowS r (2428, v2, v4, t2.va) S S162 from ⟨G4, fun k9 h9 => (by rw [A4, upd_ne (by omega), upd_ne (by omega), upd_ne (by omega), upd_ne (by omega)]), (by rw [A4]; unfold upd; (repeat' split) <;> first | rfl | omega | (simp_all; done) | (first | exact h0r.1 | exact h0r.1.trans (congrArg nI (by assumption)) | exact h0r.2.1 | exact h0r.2.2.1 | exact h0r.2.2.2)), (by rw [A4]; unfold upd; (repeat' split) <;> first | rfl | omega | (simp_all; done) | (first | exact h0r.1 | exact h0r.1.trans (congrArg nI (by assumption)) | exact h0r.2.1 | exact h0r.2.2.1 | exact h0r.2.2.2)), (by rw [A4]; unfold upd; (repeat' split) <;> first | rfl | omega | (simp_all; done) | (first | exact h0r.1 | exact h0r.1.trans (congrArg nI (by assumption)) | exact h0r.2.1 | exact h0r.2.2.1 | exact h0r.2.2.2)), (by rw [A4]; unfold upd; (repeat' split) <;> first | rfl | omega | (simp_all; done) | (first | exact h0r.1 | exact h0r.1.trans (congrArg nI (by assumption)) | exact h0r.2.1 | exact h0r.2.2.1 | exact h0r.2.2.2)), (by rw [A4]; unfold upd; (repeat' split) <;> first | rfl | omega | (simp_all; done) | (first | exact h0r.1 | exact h0r.1.trans (congrArg nI (by assumption)) | exact h0r.2.1 | exact h0r.2.2.1 | exact h0r.2.2.2)), (by rw [A4]; unfold upd; (repeat' split) <;> first | rfl | omega | (simp_all; done) | (first | exact h0r.1 | exact h0r.1.trans (congrArg nI (by assumption)) | exact h0r.2.1 | exact h0r.2.2.1 | exact h0r.2.2.2))⟩), k4⟩⟩
              exact w_zret dX8_test_165 rfl narrB ⟨by rw [hfin.1], _, by exact hfin.2, rfl⟩
            · refine w_aload_n dX8_test_123 rfl ?_
              refine w_bipush (v := nI 61) dX8_test_124 kb_61 ?_
              refine m_calli1 (mi := miX8_isSign) dX8_test_126 q1777 okX8_isSign rfl (Nat.le_of_ble_eq_true rfl) c_isSign (Nat.le_of_ble_eq_true rfl) ?_
              refine w_ifB_ne dX8_test_129 rfl (fun h_129 => ?_) (fun h_129 => ?_)
              · have hsg : (t2.so = 4 ∧ (t2.va = 60 ∨ t2.va = 62 ∨ t2.va = 61)) := by have := (sgn_iff k2 o2 (by omega)).mp h_129; omega
                refine w_aload_n dX8_test_138 rfl ?_
                refine mg_at dX8_test_139 rfl ?_
                refine w_iload_n dX8_test_142 rfl ?_
                refine w_iconst (v := nI 5) dX8_test_143 ki_5 ?_
                refine w_iaddN dX8_test_144 ?_
                refine w_aload_n dX8_test_145 rfl ?_
                refine mg_value dX8_test_146 rfl ?_
                refine w_topN (n := t2.va) (k2.2.2.2 (Or.inr hsg.1)) ?_
                refine ms_at dX8_test_149 (by omega) ?_
                refine w_aload_n dX8_test_150 rfl ?_
                refine m_callPv0 (mi := miX8_ahead) dX8_test_151 q1730 okX8_ahead rfl (Nat.le_of_ble_eq_true rfl) (c_aheadX (show TxS (sA S64 0 (r + 5) (nI t2.va)) X from hT2) (show TkS (sA S64 0 (r + 5) (nI t2.va)) t2 from k2) o2) (Nat.le_of_ble_eq_true rfl) (fun S151 hS151 => ?_)
                have q3 : FrK (sA S64 0 (r + 5) (nI t2.va)) S151 := hS151.1
                have k3 : TkS S151 (nx X t2) := hS151.2
                have o3 := o2.nx
                have hT3 := (show TxS (sA S64 0 (r + 5) (nI t2.va)) X from hT2).fr q3
                have F3 : FrP S S151 := F2.trans ((FrP.A0 S64 (nI t2.va) (show 5600 ≤ r + 5 by omega)).trans q3.P)
                have A3 : mA S151 0 = upd (upd (upd (mA S 0) r (nI (2400 + 28))) (r + 1) (nI v2)) (r + 5) (nI t2.va) := (q3.A 0).trans (congrArg (fun q => upd q (r + 5) (nI t2.va)) A2)
                have B3 : mB S151 1 = mB S 1 := (q3.B 1).trans B2
                have I3 : ∀ i, 15 < i → mI S151 i = mI S i := fun i hi => (q3.1 i (by omega)).trans (I2 i hi)
                have z3 := (I3 18 (by omega)).trans h0
                have G3 := G2.trans ((FrA.A0 S64 (r + 5) (nI t2.va)).trans q3.toA)
                refine w_aload_n dX8_test_154 rfl ?_
                refine w_iload_n dX8_test_155 rfl ?_
                refine w_iconst (v := nI 2) dX8_test_156 ki_2 ?_
                refine w_iaddN dX8_test_157 ?_
                refine w_iconst (v := nI 0) dX8_test_158 ki_0 ?_
                refine w_sipush (v := nI 9999) dX8_test_159 ks_9999 ?_
                refine m_callPi3 (mi := miX8_number) dX8_test_162 q1769 okX8_number rfl (Nat.le_of_ble_eq_true rfl) (c_number hT3 k3 o3 z3 (by omega) (by omega) (by omega)) (Nat.le_of_ble_eq_true rfl) (fun S162 hS162 => ?_)
                have hfin : bP (okE (wNum X 0 9999 (nx X t2))) = bP (okE (pTest X H t)) ∧ PX (pTest X H t) S (fun v S2 => RowS r v.1 S S2 ∧ TkS S2 v.2) S162 := by
                  rcases e4 : wNum X 0 9999 (nx X t2) with f9 | ⟨v4, t4⟩
                  · have ee : pTest X H t = .error f9 := by simp only [pTest, if_neg hkn, if_neg hkn2, if_pos hkx, if_pos hsg, bind, Except.bind, e2, e4]
                    have hx := PX_f hS162 e4
                    rw [bP_f (okE_er rfl), bP_f (okE_er ee)]
                    exact ⟨rfl, PX_er ee ⟨F3.trans hx.1, hx.2⟩⟩
                  · have ee : pTest X H t = .ok ((2428, v2, v4, t2.va), t4) := by simp only [pTest, if_neg hkn, if_neg hkn2, if_pos hkx, if_pos hsg, bind, Except.bind, e2, e4]
                    have a4 := PX_t hS162 e4
                    have p4 := wNum_pg o3 e4
                    have o4 := p4.1.1
                    have k4 : TkS S162 t4 := a4.2
                    have q4 : FrK (sA S151 0 (r + 2) (nI v4)) S162 := a4.1
                    have F4 := F3.trans ((FrP.A0 S151 (nI v4) (show 5600 ≤ r + 2 by omega)).trans q4.P)
                    have hT4 := (show TxS (sA S151 0 (r + 2) (nI v4)) X from hT3).fr q4
                    have A4 : mA S162 0 = (upd (upd (upd (upd (mA S 0) r (nI (2400 + 28))) (r + 1) (nI v2)) (r + 5) (nI t2.va)) (r + 2) (nI v4)) := (q4.A 0).trans (congrArg (fun q => upd q (r + 2) (nI v4)) A3)
                    have B4 : mB S162 1 = (mB S 1) := (q4.B 1).trans B3
                    have I4 : ∀ i, 15 < i → mI S162 i = mI S i := fun i hi => (q4.1 i (by omega)).trans (I3 i hi)
                    have z4 := (I4 18 (by omega)).trans h0
                    have G4 := G3.trans ((FrA.A0 S151 (r + 2) (nI v4)).trans q4.toA)
                    rw [bP_t (okE_ok rfl), bP_t (okE_ok ee)]
                    exact ⟨rfl, PX_ok ee ⟨(show RowS r (2428, v2, v4, t2.va) S S162 from ⟨G4, fun k9 h9 => (by rw [A4, upd_ne (by omega), upd_ne (by omega), upd_ne (by omega), upd_ne (by omega)]), (by rw [A4]; unfold upd; (repeat' split) <;> first | rfl | omega | (simp_all; done) | (first | exact h0r.1 | exact h0r.1.trans (congrArg nI (by assumption)) | exact h0r.2.1 | exact h0r.2.2.1 | exact h0r.2.2.2)), (by rw [A4]; unfold upd; (repeat' split) <;> first | rfl | omega | (simp_all; done) | (first | exact h0r.1 | exact h0r.1.trans (congrArg nI (by assumption)) | exact h0r.2.1 | exact h0r.2.2.1 | exact h0r.2.2.2)), (by rw [A4]; unfold upd; (repeat' split) <;> first | rfl | omega | (simp_all; done) | (first | exact h0r.1 | exact h0r.1.trans (congrArg nI (by assumption)) | exact h0r.2.1 | exact h0r.2.2.1 | exact h0r.2.2.2)), (by rw [A4]; unfold upd; (repeat' split) <;> first | rfl | omega | (simp_all; done) | (first | exact h0r.1 | exact h0r.1.trans (congrArg nI (by assumption)) | exact h0r.2.1 | exact h0r.2.2.1 | exact h0r.2.2.2)), (by rw [A4]; unfold upd; (repeat' split) <;> first | rfl | omega | (simp_all; done) | (first | exact h0r.1 | exact h0r.1.trans (congrArg nI (by assumption)) | exact h0r.2.1 | exact h0r.2.2.1 | exact h0r.2.2.2)), (by rw [A4]; unfold upd; (repeat' split) <;> first | rfl | omega | (simp_all; done) | (first | exact h0r.1 | exact h0r.1.trans (congrArg nI (by assumption)) | exact h0r.2.1 | exact h0r.2.2.1 | exact h0r.2.2.2))⟩), k4⟩⟩
                exact w_zret dX8_test_165 rfl narrB ⟨by rw [hfin.1], _, by exact hfin.2, rfl⟩
              · have hns : ¬ (t2.so = 4 ∧ (t2.va = 60 ∨ t2.va = 62 ∨ t2.va = 61)) := fun z => by
                  rcases z.2 with q | q | q
                  · exact h_111 ((sgn_iff k2 o2 (by omega)).mpr ⟨z.1, q⟩)
                  · exact h_120 ((sgn_iff k2 o2 (by omega)).mpr ⟨z.1, q⟩)
                  · exact h_129 ((sgn_iff k2 o2 (by omega)).mpr ⟨z.1, q⟩)
                have ee : pTest X H t = .error (flt t2 2) := by simp only [pTest, if_neg hkn, if_neg hkn2, if_pos hkx, bind, Except.bind, e2, if_neg hns]
                refine w_aload_n dX8_test_132 rfl ?_
                refine w_iconst (v := nI 2) dX8_test_133 ki_2 ?_
                refine m_callPi1 (mi := miX8_fails) dX8_test_134 q1765 okX8_fails rfl (Nat.le_of_ble_eq_true rfl) (c_failsX (k := 2) (t := t2) k2 z2 (by omega) (by omega) o2.ok.2.2.1) (Nat.le_of_ble_eq_true rfl) (fun S134 hS134 => ?_)
                exact w_zret dX8_test_137 rfl (by first | exact narr0 | exact narr1) ⟨by rw [bP_f (okE_er (ee))], _, by exact PX_er ee ⟨F2.trans hS134.1, hS134.2⟩, rfl⟩
        · exact absurd h_75 (by decide)
      · obtain ⟨f9, e9⟩ := okE_f h_67
        have ee : pTest X H t = .error f9 := by simp only [pTest, if_neg hkn, if_neg hkn2, if_pos hkx, bind, Except.bind, e9]
        have hx0 := PX_f hS64 e9
        have hx := And.intro (F1.trans hx0.1) hx0.2
        refine w_iconst (v := nI 0) dX8_test_70 ki_0 ?_
        exact w_zret dX8_test_71 rfl (by first | exact narr0 | exact narr1) ⟨by rw [bP_f (okE_er (ee))], _, by exact PX_er ee hx, rfl⟩
    · exact absurd h_49 (by decide)
  · refine w_iload_n dX8_test_13 rfl ?_
    refine w_bipush (v := nI 15) dX8_test_14 kb_15 ?_
    refine w_icmp_eq dX8_test_16 rfl (fun h_16 => ?_) (fun h_16 => ?_)
    · have hkx : kix X t = 15 := by
        unfold wI at h_16
        by_cases z : kix X t < 30
        · rw [if_pos z] at h_16; exact (nI_eq (by omega) (by omega)).mp h_16
        · rw [if_neg z] at h_16; exact absurd h_16.symm (nI_nm1 (by omega))
      have hkn : ¬ kix X t = 29 := by omega
      rw [show wI (kix X t) = nI 15 by rw [hkx]; rfl]
      refine w_aload_n dX8_test_31 rfl ?_
      refine mg_at dX8_test_32 rfl ?_
      refine w_iload_n dX8_test_35 rfl ?_
      refine w_sipush (v := nI 2400) dX8_test_36 ks_2400 ?_
      refine w_iload_n dX8_test_39 rfl ?_
      refine w_iaddN dX8_test_40 ?_
      refine ms_at dX8_test_41 (by omega) ?_
      refine w_aload_n dX8_test_42 rfl ?_
      refine m_callPv0 (mi := miX8_ahead) dX8_test_43 q1730 okX8_ahead rfl (Nat.le_of_ble_eq_true rfl) (c_aheadX (show TxS (sA S 0 r (nI (2400 + 15))) X from hT) (show TkS (sA S 0 r (nI (2400 + 15))) t from hK) hO) (Nat.le_of_ble_eq_true rfl) (fun S43 hS43 => ?_)
      have q1 : FrK (sA S 0 r (nI (2400 + 15))) S43 := hS43.1
      have k1 : TkS S43 (nx X t) := hS43.2
      have o1 := hO.nx
      have hT1 := (show TxS (sA S 0 r (nI (2400 + 15))) X from hT).fr q1
      have F1 : FrP S S43 := (FrP.A0 S (nI (2400 + 15)) (by omega)).trans q1.P
      have A1 : mA S43 0 = upd (mA S 0) r (nI (2400 + 15)) := q1.A 0
      have B1 : mB S43 1 = mB S 1 := q1.B 1
      have I1 : ∀ i, 15 < i → mI S43 i = mI S i := fun i hi => q1.1 i (by omega)
      have z1 := (I1 18 (by omega)).trans h0
      have G1 : FrA S S43 := (FrA.A0 S r (nI (2400 + 15))).trans q1.toA
      refine w_iload_n dX8_test_46 rfl ?_
      refine w_bipush (v := nI 29) dX8_test_47 kb_29 ?_
      refine w_icmpN_ne dX8_test_49 rfl (by omega) (by omega) (fun h_49 => ?_) (fun h_49 => ?_)
      · refine w_aload_n dX8_test_60 rfl ?_
        refine w_iload_n dX8_test_61 rfl ?_
        refine w_iconst (v := nI 1) dX8_test_62 ki_1 ?_
        refine w_iaddN dX8_test_63 ?_
        refine m_callPi1 (mi := miX8_finderTo) dX8_test_64 q1855 okX8_finderTo rfl (Nat.le_of_ble_eq_true rfl) (c_finderTo hT1 k1 o1 z1 (EH.frP OH F1) OH (by omega) (by omega)) (Nat.le_of_ble_eq_true rfl) (fun S64 hS64 => ?_)
        refine w_ifB_ne dX8_test_67 rfl (fun h_67 => ?_) (fun h_67 => ?_)
        · obtain ⟨⟨v2, t2⟩, e2⟩ := okE_t h_67
          have a2 := PX_t hS64 e2
          have p2 := wOld_pg o1 e2
          have o2 := p2.1.1
          have k2 : TkS S64 t2 := a2.2
          have q2 : FrK (sA S43 0 (r + 1) (nI v2)) S64 := a2.1
          have F2 := F1.trans ((FrP.A0 S43 (nI v2) (show 5600 ≤ r + 1 by omega)).trans q2.P)
          have hT2 := (show TxS (sA S43 0 (r + 1) (nI v2)) X from hT1).fr q2
          have A2 : mA S64 0 = (upd (upd (mA S 0) r (nI (2400 + 15))) (r + 1) (nI v2)) := (q2.A 0).trans (congrArg (fun q => upd q (r + 1) (nI v2)) A1)
          have B2 : mB S64 1 = (mB S 1) := (q2.B 1).trans B1
          have I2 : ∀ i, 15 < i → mI S64 i = mI S i := fun i hi => (q2.1 i (by omega)).trans (I1 i hi)
          have z2 := (I2 18 (by omega)).trans h0
          have G2 := G1.trans ((FrA.A0 S43 (r + 1) (nI v2)).trans q2.toA)
          refine w_iload_n dX8_test_72 rfl ?_
          refine w_bipush (v := nI 15) dX8_test_73 kb_15 ?_
          refine w_icmpN_ne dX8_test_75 rfl (by omega) (by omega) (fun h_75 => ?_) (fun h_75 => ?_)
          · exact absurd rfl h_75
          · refine w_aload_n dX8_test_78 rfl ?_
            refine w_ldcS hx0 rfl rfl dX8_test_79 ?_
            refine w_bipush (v := nI 12) dX8_test_81 kb_12 ?_
            refine m_callPi2 (mi := miX8_wantWord) dX8_test_83 q1755 okX8_wantWord rfl (Nat.le_of_ble_eq_true rfl) (c_wantWord hT2 k2 o2 z2 (by omega)) (Nat.le_of_ble_eq_true rfl) (fun S83 hS83 => ?_)
            refine w_ifB_eq dX8_test_86 rfl (fun h_86 => ?_) (fun h_86 => ?_)
            · obtain ⟨f9, e9⟩ := okE_f h_86
              have ee : pTest X H t = .error f9 := by simp only [pTest, if_neg hkn, if_pos hkx, bind, Except.bind, e2, e9]
              have hx0 := PX_f hS83 e9
              have hx := And.intro (F2.trans hx0.1) hx0.2
              refine w_iconst (v := nI 0) dX8_test_103 ki_0 ?_
              exact w_zret dX8_test_104 rfl (by first | exact narr0 | exact narr1) ⟨by rw [bP_f (okE_er (ee))], _, by exact PX_er ee hx, rfl⟩
            · obtain ⟨t3, e3⟩ := okE_t h_86
              have a3 := PX_t hS83 e3
              have p3 := wWord_pg o2 e3
              have o3 := p3.1
              have k3 : TkS S83 t3 := a3.2
              have q3 : FrK S64 S83 := a3.1
              have F3 := F2.trans q3.P
              have hT3 := hT2.fr q3
              have A3 : mA S83 0 = (upd (upd (mA S 0) r (nI (2400 + 15))) (r + 1) (nI v2)) := (q3.A 0).trans A2
              have B3 : mB S83 1 = (mB S 1) := (q3.B 1).trans B2
              have I3 : ∀ i, 15 < i → mI S83 i = mI S i := fun i hi => (q3.1 i (by omega)).trans (I2 i hi)
              have z3 := (I3 18 (by omega)).trans h0
              have G3 := G2.trans q3.toA
              refine w_aload_n dX8_test_89 rfl ?_
              refine w_iload_n dX8_test_90 rfl ?_
              refine w_iconst (v := nI 2) dX8_test_91 ki_2 ?_
              refine w_iaddN dX8_test_92 ?_
              refine m_callPi1 (mi := miX8_findTo) dX8_test_93 q1859 okX8_findTo rfl (Nat.le_of_ble_eq_true rfl) (c_findTo hT3 k3 o3 z3 (EH.frP OH F3) OH (by omega) (by omega)) (Nat.le_of_ble_eq_true rfl) (fun S93 hS93 => ?_)
              refine w_ifB_eq dX8_test_96 rfl (fun h_96 => ?_) (fun h_96 => ?_)
              · obtain ⟨f9, e9⟩ := okE_f h_96
                have ee : pTest X H t = .error f9 := by simp only [pTest, if_neg hkn, if_pos hkx, bind, Except.bind, e2, e3, e9]
                have hx0 := PX_f hS93 e9
                have hx := And.intro (F3.trans hx0.1) hx0.2
                refine w_iconst (v := nI 0) dX8_test_103 ki_0 ?_
                exact w_zret dX8_test_104 rfl (by first | exact narr0 | exact narr1) ⟨by rw [bP_f (okE_er (ee))], _, by exact PX_er ee hx, rfl⟩
              · obtain ⟨⟨v4, t4⟩, e4⟩ := okE_t h_96
                have a4 := PX_t hS93 e4
                have p4 := wOld_pg o3 e4
                have o4 := p4.1.1
                have k4 : TkS S93 t4 := a4.2
                have q4 : FrK (sA S83 0 (r + 2) (nI v4)) S93 := a4.1
                have F4 := F3.trans ((FrP.A0 S83 (nI v4) (show 5600 ≤ r + 2 by omega)).trans q4.P)
                have hT4 := (show TxS (sA S83 0 (r + 2) (nI v4)) X from hT3).fr q4
                have A4 : mA S93 0 = (upd (upd (upd (mA S 0) r (nI (2400 + 15))) (r + 1) (nI v2)) (r + 2) (nI v4)) := (q4.A 0).trans (congrArg (fun q => upd q (r + 2) (nI v4)) A3)
                have B4 : mB S93 1 = (mB S 1) := (q4.B 1).trans B3
                have I4 : ∀ i, 15 < i → mI S93 i = mI S i := fun i hi => (q4.1 i (by omega)).trans (I3 i hi)
                have z4 := (I4 18 (by omega)).trans h0
                have G4 := G3.trans ((FrA.A0 S83 (r + 2) (nI v4)).trans q4.toA)
                have ee : pTest X H t = .ok ((2415, v2, v4, 0), t4) := by simp only [pTest, if_neg hkn, if_pos hkx, bind, Except.bind, e2, e3, e4]
                refine w_iconst (v := nI 1) dX8_test_99 ki_1 ?_
                refine w_goto dX8_test_100 rfl ?_
                exact w_zret dX8_test_104 rfl (by first | exact narr0 | exact narr1) ⟨by rw [bP_t (okE_ok (ee))], _, by exact PX_ok ee ⟨(show RowS r (2415, v2, v4, 0) S S93 from ⟨G4, fun k9 h9 => (by rw [A4, upd_ne (by omega), upd_ne (by omega), upd_ne (by omega)]), (by rw [A4]; unfold upd; (repeat' split) <;> first | rfl | omega | (simp_all; done) | (first | exact h0r.1 | exact h0r.1.trans (congrArg nI (by assumption)) | exact h0r.2.1 | exact h0r.2.2.1 | exact h0r.2.2.2)), (by rw [A4]; unfold upd; (repeat' split) <;> first | rfl | omega | (simp_all; done) | (first | exact h0r.1 | exact h0r.1.trans (congrArg nI (by assumption)) | exact h0r.2.1 | exact h0r.2.2.1 | exact h0r.2.2.2)), (by rw [A4]; unfold upd; (repeat' split) <;> first | rfl | omega | (simp_all; done) | (first | exact h0r.1 | exact h0r.1.trans (congrArg nI (by assumption)) | exact h0r.2.1 | exact h0r.2.2.1 | exact h0r.2.2.2)), (by rw [A4]; unfold upd; (repeat' split) <;> first | rfl | omega | (simp_all; done) | (first | exact h0r.1 | exact h0r.1.trans (congrArg nI (by assumption)) | exact h0r.2.1 | exact h0r.2.2.1 | exact h0r.2.2.2)), (by rw [A4]; unfold upd; (repeat' split) <;> first | rfl | omega | (simp_all; done) | (first | exact h0r.1 | exact h0r.1.trans (congrArg nI (by assumption)) | exact h0r.2.1 | exact h0r.2.2.1 | exact h0r.2.2.2)), (by rw [A4]; unfold upd; (repeat' split) <;> first | rfl | omega | (simp_all; done) | (first | exact h0r.1 | exact h0r.1.trans (congrArg nI (by assumption)) | exact h0r.2.1 | exact h0r.2.2.1 | exact h0r.2.2.2))⟩), k4⟩, rfl⟩
        · obtain ⟨f9, e9⟩ := okE_f h_67
          have ee : pTest X H t = .error f9 := by simp only [pTest, if_neg hkn, if_pos hkx, bind, Except.bind, e9]
          have hx0 := PX_f hS64 e9
          have hx := And.intro (F1.trans hx0.1) hx0.2
          refine w_iconst (v := nI 0) dX8_test_70 ki_0 ?_
          exact w_zret dX8_test_71 rfl (by first | exact narr0 | exact narr1) ⟨by rw [bP_f (okE_er (ee))], _, by exact PX_er ee hx, rfl⟩
      · exact absurd h_49 (by decide)
    · refine w_iload_n dX8_test_19 rfl ?_
      refine w_bipush (v := nI 29) dX8_test_20 kb_29 ?_
      refine w_icmp_eq dX8_test_22 rfl (fun h_22 => ?_) (fun h_22 => ?_)
      · have hkx : kix X t = 29 := by
          unfold wI at h_22
          by_cases z : kix X t < 30
          · rw [if_pos z] at h_22; exact (nI_eq (by omega) (by omega)).mp h_22
          · rw [if_neg z] at h_22; exact absurd h_22.symm (nI_nm1 (by omega))
        rw [show wI (kix X t) = nI 29 by rw [hkx]; rfl]
        refine w_aload_n dX8_test_31 rfl ?_
        refine mg_at dX8_test_32 rfl ?_
        refine w_iload_n dX8_test_35 rfl ?_
        refine w_sipush (v := nI 2400) dX8_test_36 ks_2400 ?_
        refine w_iload_n dX8_test_39 rfl ?_
        refine w_iaddN dX8_test_40 ?_
        refine ms_at dX8_test_41 (by omega) ?_
        refine w_aload_n dX8_test_42 rfl ?_
        refine m_callPv0 (mi := miX8_ahead) dX8_test_43 q1730 okX8_ahead rfl (Nat.le_of_ble_eq_true rfl) (c_aheadX (show TxS (sA S 0 r (nI (2400 + 29))) X from hT) (show TkS (sA S 0 r (nI (2400 + 29))) t from hK) hO) (Nat.le_of_ble_eq_true rfl) (fun S43 hS43 => ?_)
        have q1 : FrK (sA S 0 r (nI (2400 + 29))) S43 := hS43.1
        have k1 : TkS S43 (nx X t) := hS43.2
        have o1 := hO.nx
        have hT1 := (show TxS (sA S 0 r (nI (2400 + 29))) X from hT).fr q1
        have F1 : FrP S S43 := (FrP.A0 S (nI (2400 + 29)) (by omega)).trans q1.P
        have A1 : mA S43 0 = upd (mA S 0) r (nI (2400 + 29)) := q1.A 0
        have B1 : mB S43 1 = mB S 1 := q1.B 1
        have I1 : ∀ i, 15 < i → mI S43 i = mI S i := fun i hi => q1.1 i (by omega)
        have z1 := (I1 18 (by omega)).trans h0
        have G1 : FrA S S43 := (FrA.A0 S r (nI (2400 + 29))).trans q1.toA
        refine w_iload_n dX8_test_46 rfl ?_
        refine w_bipush (v := nI 29) dX8_test_47 kb_29 ?_
        refine w_icmpN_ne dX8_test_49 rfl (by omega) (by omega) (fun h_49 => ?_) (fun h_49 => ?_)
        · exact absurd rfl h_49
        · refine w_aload_n dX8_test_52 rfl ?_
          refine w_iload_n dX8_test_53 rfl ?_
          refine w_iconst (v := nI 1) dX8_test_54 ki_1 ?_
          refine w_iaddN dX8_test_55 ?_
          refine m_callPi1 (mi := miX8_findTo) dX8_test_56 q1859 okX8_findTo rfl (Nat.le_of_ble_eq_true rfl) (c_findTo hT1 k1 o1 z1 (EH.frP OH F1) OH (by omega) (by omega)) (Nat.le_of_ble_eq_true rfl) (fun S56 hS56 => ?_)
          have hfin : bP (okE (wOld X H.nd H.cd (nx X t))) = bP (okE (pTest X H t)) ∧ PX (pTest X H t) S (fun v S2 => RowS r v.1 S S2 ∧ TkS S2 v.2) S56 := by
            rcases e2 : wOld X H.nd H.cd (nx X t) with f9 | ⟨v2, t2⟩
            · have ee : pTest X H t = .error f9 := by simp only [pTest, if_pos hkx, bind, Except.bind, e2]
              have hx := PX_f hS56 e2
              rw [bP_f (okE_er rfl), bP_f (okE_er ee)]
              exact ⟨rfl, PX_er ee ⟨F1.trans hx.1, hx.2⟩⟩
            · have ee : pTest X H t = .ok ((2429, v2, 0, 0), t2) := by simp only [pTest, if_pos hkx, bind, Except.bind, e2]
              have a2 := PX_t hS56 e2
              have p2 := wOld_pg o1 e2
              have o2 := p2.1.1
              have k2 : TkS S56 t2 := a2.2
              have q2 : FrK (sA S43 0 (r + 1) (nI v2)) S56 := a2.1
              have F2 := F1.trans ((FrP.A0 S43 (nI v2) (show 5600 ≤ r + 1 by omega)).trans q2.P)
              have hT2 := (show TxS (sA S43 0 (r + 1) (nI v2)) X from hT1).fr q2
              have A2 : mA S56 0 = (upd (upd (mA S 0) r (nI (2400 + 29))) (r + 1) (nI v2)) := (q2.A 0).trans (congrArg (fun q => upd q (r + 1) (nI v2)) A1)
              have B2 : mB S56 1 = (mB S 1) := (q2.B 1).trans B1
              have I2 : ∀ i, 15 < i → mI S56 i = mI S i := fun i hi => (q2.1 i (by omega)).trans (I1 i hi)
              have z2 := (I2 18 (by omega)).trans h0
              have G2 := G1.trans ((FrA.A0 S43 (r + 1) (nI v2)).trans q2.toA)
              rw [bP_t (okE_ok rfl), bP_t (okE_ok ee)]
              exact ⟨rfl, PX_ok ee ⟨(show RowS r (2429, v2, 0, 0) S S56 from ⟨G2, fun k9 h9 => (by rw [A2, upd_ne (by omega), upd_ne (by omega)]), (by rw [A2]; unfold upd; (repeat' split) <;> first | rfl | omega | (simp_all; done) | (first | exact h0r.1 | exact h0r.1.trans (congrArg nI (by assumption)) | exact h0r.2.1 | exact h0r.2.2.1 | exact h0r.2.2.2)), (by rw [A2]; unfold upd; (repeat' split) <;> first | rfl | omega | (simp_all; done) | (first | exact h0r.1 | exact h0r.1.trans (congrArg nI (by assumption)) | exact h0r.2.1 | exact h0r.2.2.1 | exact h0r.2.2.2)), (by rw [A2]; unfold upd; (repeat' split) <;> first | rfl | omega | (simp_all; done) | (first | exact h0r.1 | exact h0r.1.trans (congrArg nI (by assumption)) | exact h0r.2.1 | exact h0r.2.2.1 | exact h0r.2.2.2)), (by rw [A2]; unfold upd; (repeat' split) <;> first | rfl | omega | (simp_all; done) | (first | exact h0r.1 | exact h0r.1.trans (congrArg nI (by assumption)) | exact h0r.2.1 | exact h0r.2.2.1 | exact h0r.2.2.2)), (by rw [A2]; unfold upd; (repeat' split) <;> first | rfl | omega | (simp_all; done) | (first | exact h0r.1 | exact h0r.1.trans (congrArg nI (by assumption)) | exact h0r.2.1 | exact h0r.2.2.1 | exact h0r.2.2.2)), (by rw [A2]; unfold upd; (repeat' split) <;> first | rfl | omega | (simp_all; done) | (first | exact h0r.1 | exact h0r.1.trans (congrArg nI (by assumption)) | exact h0r.2.1 | exact h0r.2.2.1 | exact h0r.2.2.2))⟩), k2⟩⟩
          exact w_zret dX8_test_59 rfl narrB ⟨by rw [hfin.1], _, by exact hfin.2, rfl⟩
      · have hk29 : ¬ kix X t = 29 := fun z => h_22 (by rw [z]; rfl)
        have hk15 : ¬ kix X t = 15 := fun z => h_16 (by rw [z]; rfl)
        have hk28 : ¬ kix X t = 28 := fun z => h_10 (by rw [z]; rfl)
        have ee : pTest X H t = .error (flt t 2) := by simp only [pTest, if_neg hk29, if_neg hk15, if_neg hk28]
        refine w_aload_n dX8_test_25 rfl ?_
        refine w_iconst (v := nI 2) dX8_test_26 ki_2 ?_
        refine m_callPi1 (mi := miX8_fails) dX8_test_27 q1765 okX8_fails rfl (Nat.le_of_ble_eq_true rfl) (c_failsX (k := 2) (t := t) hK h0 (by omega) (by omega) hO.ok.2.2.1) (Nat.le_of_ble_eq_true rfl) (fun S27 hS27 => ?_)
        exact w_zret dX8_test_30 rfl (by first | exact narr0 | exact narr1) ⟨by rw [bP_f (okE_er (ee))], _, by exact PX_er ee hS27, rfl⟩
