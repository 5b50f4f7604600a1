set_option maxRecDepth 100000
set_option maxHeartbeats 4000000 in
theorem c_dayOrder {g : GG} {S : MS} {k : Nat} {r : Nat} {X : TX} {t : Tk} {H : HS} (hT : TxS S X) (hK : TkS S t) (hO : OkT9 X t) (h0 : mI S 18 = nI 0) (EH : EncZ S H) (OH : OkH H) (hr : 5600 ≤ r) (hr2 : r + 6 ≤ 8400) (h0r : Row0 S r k) (hk9 : k < 100) : Mp g miX8_dayOrder 10 [.int (nI k), .int (nI r)] (S) (some (.int (bP (okE (pOrder X H k t))))) (PX (pOrder X H k t) S (fun v S2 => RowS r v.1 S S2 ∧ TkS S2 v.2)) := by
  refine Mp.start (fun b => [some (.ref b), some (.int (nI k)), some (.int (nI r))]) plX8 rfl (fun b => (Nat.le_of_ble_eq_true rfl)) (fun b => rfl) ?_
  intro σ b
  have hb9 := OH.2.1
  have hT0 := hT
  have k0 := hK
  have o0 := hO
  have z0 := h0
  have F0 := FrP.refl S
  have A0 : mA S 0 = (mA S 0) := rfl
  have B0 : mB S 1 = (mB S 1) := rfl
  have I0 : ∀ i, 15 < i → mI S i = mI S i := fun _ _ => rfl
  have G0 := FrA.refl S
  refine w_iload_n dX8_dayOrder_0 rfl ?_
  by_cases hs_18 : k = 18
  · have cp : k = 18 := by omega
    rw [show nI k = nI 18 by rw [hs_18]]
    refine w_tableIn dX8_dayOrder_1 (by decide +kernel) (by decide +kernel) rfl rfl ?_
    refine w_aload_n dX8_dayOrder_48 rfl ?_
    refine w_iload_n dX8_dayOrder_49 rfl ?_
    refine w_iconst (v := nI 1) dX8_dayOrder_50 ki_1 ?_
    refine w_iaddN dX8_dayOrder_51 ?_
    refine m_callPi1 (mi := miX8_finderTo) dX8_dayOrder_52 q1855 okX8_finderTo rfl (Nat.le_of_ble_eq_true rfl) (c_finderTo hT0 k0 o0 z0 EH OH (by omega) (by omega)) (Nat.le_of_ble_eq_true rfl) (fun S52 hS52 => ?_)
    refine w_ifB_eq dX8_dayOrder_55 rfl (fun h_55 => ?_) (fun h_55 => ?_)
    · obtain ⟨f9, e9⟩ := okE_f h_55
      have ee : pOrder X H k t = .error f9 := by simp only [pOrder, if_pos cp, bind, Except.bind, e9]
      have hx0 := PX_f hS52 e9
      have hx := And.intro (F0.trans hx0.1) hx0.2
      refine w_iconst (v := nI 0) dX8_dayOrder_92 ki_0 ?_
      exact w_zret dX8_dayOrder_93 rfl (by first | exact narr0 | exact narr1) ⟨by rw [bP_f (okE_er (ee))], _, by exact PX_er ee hx, rfl⟩
    · obtain ⟨⟨v1, t1⟩, e1⟩ := okE_t h_55
      have a1 := PX_t hS52 e1
      have p1 := wOld_pg o0 e1
      have o1 := p1.1.1
      have k1 : TkS S52 t1 := a1.2
      have q1 : FrK (sA S 0 (r + 1) (nI v1)) S52 := a1.1
      have F1 := F0.trans ((FrP.A0 S (nI v1) (show 5600 ≤ r + 1 by omega)).trans q1.P)
      have hT1 := (show TxS (sA S 0 (r + 1) (nI v1)) X from hT0).fr q1
      have A1 : mA S52 0 = (upd (mA S 0) (r + 1) (nI v1)) := (q1.A 0).trans (congrArg (fun q => upd q (r + 1) (nI v1)) A0)
      have B1 : mB S52 1 = (mB S 1) := (q1.B 1).trans B0
      have I1 : ∀ i, 15 < i → mI S52 i = mI S i := fun i hi => (q1.1 i (by omega)).trans (I0 i hi)
      have z1 := (I1 18 (by omega)).trans h0
      have G1 := G0.trans ((FrA.A0 S (r + 1) (nI v1)).trans q1.toA)
      refine w_aload_n dX8_dayOrder_58 rfl ?_
      refine w_ldcS hx0 rfl rfl dX8_dayOrder_59 ?_
      refine w_bipush (v := nI 17) dX8_dayOrder_61 kb_17 ?_
      refine m_callPi2 (mi := miX8_wantWord) dX8_dayOrder_63 q1755 okX8_wantWord rfl (Nat.le_of_ble_eq_true rfl) (c_wantWord hT1 k1 o1 z1 (by omega)) (Nat.le_of_ble_eq_true rfl) (fun S63 hS63 => ?_)
      refine w_ifB_eq dX8_dayOrder_66 rfl (fun h_66 => ?_) (fun h_66 => ?_)
      · obtain ⟨f9, e9⟩ := okE_f h_66
        have ee : pOrder X H k t = .error f9 := by simp only [pOrder, if_pos cp, bind, Except.bind, e1, e9]
        have hx0 := PX_f hS63 e9
        have hx := And.intro (F1.trans hx0.1) hx0.2
        refine w_iconst (v := nI 0) dX8_dayOrder_92 ki_0 ?_
        exact w_zret dX8_dayOrder_93 rfl (by first | exact narr0 | exact narr1) ⟨by rw [bP_f (okE_er (ee))], _, by exact PX_er ee hx, rfl⟩
      · obtain ⟨t2, e2⟩ := okE_t h_66
        have a2 := PX_t hS63 e2
        have p2 := wWord_pg o1 e2
        have o2 := p2.1
        have k2 : TkS S63 t2 := a2.2
        have q2 : FrK S52 S63 := a2.1
        have F2 := F1.trans q2.P
        have hT2 := hT1.fr q2
        have A2 : mA S63 0 = (upd (mA S 0) (r + 1) (nI v1)) := (q2.A 0).trans A1
        have B2 : mB S63 1 = (mB S 1) := (q2.B 1).trans B1
        have I2 : ∀ i, 15 < i → mI S63 i = mI S i := fun i hi => (q2.1 i (by omega)).trans (I1 i hi)
        have z2 := (I2 18 (by omega)).trans h0
        have G2 := G1.trans q2.toA
        refine w_aload_n dX8_dayOrder_69 rfl ?_
        refine w_iload_n dX8_dayOrder_70 rfl ?_
        refine w_iconst (v := nI 2) dX8_dayOrder_71 ki_2 ?_
        refine w_iaddN dX8_dayOrder_72 ?_
        refine w_iconst (v := nI 0) dX8_dayOrder_73 ki_0 ?_
        refine w_aload_n dX8_dayOrder_74 rfl ?_
        refine mg_at dX8_dayOrder_75 rfl ?_
        refine w_iconst (v := nI 0) dX8_dayOrder_78 ki_0 ?_
        refine ma_at dX8_dayOrder_79 (by omega) ?_
        refine w_topN (n := H.nc) ((EH.frP OH F2).1) ?_
        refine w_iconst (v := nI 1) dX8_dayOrder_80 ki_1 ?_
        refine w_isubN dX8_dayOrder_81 (by have := OH.1; omega) ?_
        refine m_callPi3 (mi := miX8_number) dX8_dayOrder_82 q1769 okX8_number rfl (Nat.le_of_ble_eq_true rfl) (c_number hT2 k2 o2 z2 (by omega) (by omega) (by omega)) (Nat.le_of_ble_eq_true rfl) (fun S82 hS82 => ?_)
        refine w_ifB_eq dX8_dayOrder_85 rfl (fun h_85 => ?_) (fun h_85 => ?_)
        · obtain ⟨f9, e9⟩ := okE_f h_85
          have ee : pOrder X H k t = .error f9 := by simp only [pOrder, if_pos cp, bind, Except.bind, e1, e2, e9]
          have hx0 := PX_f hS82 e9
          have hx := And.intro (F2.trans hx0.1) hx0.2
          refine w_iconst (v := nI 0) dX8_dayOrder_92 ki_0 ?_
          exact w_zret dX8_dayOrder_93 rfl (by first | exact narr0 | exact narr1) ⟨by rw [bP_f (okE_er (ee))], _, by exact PX_er ee hx, rfl⟩
        · obtain ⟨⟨v3, t3⟩, e3⟩ := okE_t h_85
          have a3 := PX_t hS82 e3
          have p3 := wNum_pg o2 e3
          have o3 := p3.1.1
          have k3 : TkS S82 t3 := a3.2
          have q3 : FrK (sA S63 0 (r + 2) (nI v3)) S82 := a3.1
          have F3 := F2.trans ((FrP.A0 S63 (nI v3) (show 5600 ≤ r + 2 by omega)).trans q3.P)
          have hT3 := (show TxS (sA S63 0 (r + 2) (nI v3)) X from hT2).fr q3
          have A3 : mA S82 0 = (upd (upd (mA S 0) (r + 1) (nI v1)) (r + 2) (nI v3)) := (q3.A 0).trans (congrArg (fun q => upd q (r + 2) (nI v3)) A2)
          have B3 : mB S82 1 = (mB S 1) := (q3.B 1).trans B2
          have I3 : ∀ i, 15 < i → mI S82 i = mI S i := fun i hi => (q3.1 i (by omega)).trans (I2 i hi)
          have z3 := (I3 18 (by omega)).trans h0
          have G3 := G2.trans ((FrA.A0 S63 (r + 2) (nI v3)).trans q3.toA)
          have ee : pOrder X H k t = .ok ((18, v1, v3, 0), t3) := by simp only [pOrder, if_pos cp, bind, Except.bind, e1, e2, e3]
          have hrow := (show RowS r (18, v1, v3, 0) S S82 from ⟨G3, fun k9 h9 => (by rw [A3, upd_ne (by omega), upd_ne (by omega)]), (by rw [A3]; unfold upd; (repeat' split) <;> first | rfl | omega | (exact h0r.1.trans (congrArg nI (by assumption))) | (simp_all; done) | (first | exact h0r.1 | (rw [← cpk]; exact h0r.1) | exact h0r.1.trans (congrArg nI (by assumption)) | exact h0r.2.1 | exact h0r.2.2.1 | exact h0r.2.2.2)), (by rw [A3]; unfold upd; (repeat' split) <;> first | rfl | omega | (exact h0r.1.trans (congrArg nI (by assumption))) | (simp_all; done) | (first | exact h0r.1 | (rw [← cpk]; exact h0r.1) | exact h0r.1.trans (congrArg nI (by assumption)) | exact h0r.2.1 | exact h0r.2.2.1 | exact h0r.2.2.2)), (by rw [A3]; unfold upd; (repeat' split) <;> first | rfl | omega | (exact h0r.1.trans (congrArg nI (by assumption))) | (simp_all; done) | (first | exact h0r.1 | (rw [← cpk]; exact h0r.1) | exact h0r.1.trans (congrArg nI (by assumption)) | exact h0r.2.1 | exact h0r.2.2.1 | exact h0r.2.2.2)), (by rw [A3]; unfold upd; (repeat' split) <;> first | rfl | omega | (exact h0r.1.trans (congrArg nI (by assumption))) | (simp_all; done) | (first | exact h0r.1 | (rw [← cpk]; exact h0r.1) | exact h0r.1.trans (congrArg nI (by assumption)) | exact h0r.2.1 | exact h0r.2.2.1 | exact h0r.2.2.2)), (by rw [A3]; unfold upd; (repeat' split) <;> first | rfl | omega | (exact h0r.1.trans (congrArg nI (by assumption))) | (simp_all; done) | (first | exact h0r.1 | (rw [← cpk]; exact h0r.1) | exact h0r.1.trans (congrArg nI (by assumption)) | exact h0r.2.1 | exact h0r.2.2.1 | exact h0r.2.2.2)), (by rw [A3]; unfold upd; (repeat' split) <;> first | rfl | omega | (exact h0r.1.trans (congrArg nI (by assumption))) | (simp_all; done) | (first | exact h0r.1 | (rw [← cpk]; exact h0r.1) | exact h0r.1.trans (congrArg nI (by assumption)) | exact h0r.2.1 | exact h0r.2.2.1 | exact h0r.2.2.2))⟩)
          have hend := And.intro hrow k3
          refine w_iconst (v := nI 1) dX8_dayOrder_88 ki_1 ?_
          refine w_goto dX8_dayOrder_89 rfl ?_
          exact w_zret dX8_dayOrder_93 rfl (by first | exact narr0 | exact narr1) ⟨by rw [bP_t (okE_ok (ee))], _, by exact PX_ok ee hend, rfl⟩
  by_cases hs_19 : k = 19
  · have cn0 : ¬ (k = 18) := by omega
    have cp : k = 19 ∨ k = 21 := by omega
    rw [show nI k = nI 19 by rw [hs_19]]
    refine w_tableIn dX8_dayOrder_1 (by decide +kernel) (by decide +kernel) rfl rfl ?_
    refine w_aload_n dX8_dayOrder_94 rfl ?_
    refine w_iload_n dX8_dayOrder_95 rfl ?_
    refine w_iconst (v := nI 1) dX8_dayOrder_96 ki_1 ?_
    refine w_iaddN dX8_dayOrder_97 ?_
    refine m_callPi1 (mi := miX8_finderTo) dX8_dayOrder_98 q1855 okX8_finderTo rfl (Nat.le_of_ble_eq_true rfl) (c_finderTo hT0 k0 o0 z0 EH OH (by omega) (by omega)) (Nat.le_of_ble_eq_true rfl) (fun S98 hS98 => ?_)
    refine w_ifB_eq dX8_dayOrder_101 rfl (fun h_101 => ?_) (fun h_101 => ?_)
    · obtain ⟨f9, e9⟩ := okE_f h_101
      have ee : pOrder X H k t = .error f9 := by simp only [pOrder, if_neg cn0, if_pos cp, bind, Except.bind, e9]
      have hx0 := PX_f hS98 e9
      have hx := And.intro (F0.trans hx0.1) hx0.2
      refine w_iconst (v := nI 0) dX8_dayOrder_129 ki_0 ?_
      exact w_zret dX8_dayOrder_130 rfl (by first | exact narr0 | exact narr1) ⟨by rw [bP_f (okE_er (ee))], _, by exact PX_er ee hx, rfl⟩
    · obtain ⟨⟨v1, t1⟩, e1⟩ := okE_t h_101
      have a1 := PX_t hS98 e1
      have p1 := wOld_pg o0 e1
      have o1 := p1.1.1
      have k1 : TkS S98 t1 := a1.2
      have q1 : FrK (sA S 0 (r + 1) (nI v1)) S98 := a1.1
      have F1 := F0.trans ((FrP.A0 S (nI v1) (show 5600 ≤ r + 1 by omega)).trans q1.P)
      have hT1 := (show TxS (sA S 0 (r + 1) (nI v1)) X from hT0).fr q1
      have A1 : mA S98 0 = (upd (mA S 0) (r + 1) (nI v1)) := (q1.A 0).trans (congrArg (fun q => upd q (r + 1) (nI v1)) A0)
      have B1 : mB S98 1 = (mB S 1) := (q1.B 1).trans B0
      have I1 : ∀ i, 15 < i → mI S98 i = mI S i := fun i hi => (q1.1 i (by omega)).trans (I0 i hi)
      have z1 := (I1 18 (by omega)).trans h0
      have G1 := G0.trans ((FrA.A0 S (r + 1) (nI v1)).trans q1.toA)
      refine w_aload_n dX8_dayOrder_104 rfl ?_
      refine w_ldcS hx0 rfl rfl dX8_dayOrder_105 ?_
      refine w_bipush (v := nI 12) dX8_dayOrder_107 kb_12 ?_
      refine m_callPi2 (mi := miX8_wantWord) dX8_dayOrder_109 q1755 okX8_wantWord rfl (Nat.le_of_ble_eq_true rfl) (c_wantWord hT1 k1 o1 z1 (by omega)) (Nat.le_of_ble_eq_true rfl) (fun S109 hS109 => ?_)
      refine w_ifB_eq dX8_dayOrder_112 rfl (fun h_112 => ?_) (fun h_112 => ?_)
      · obtain ⟨f9, e9⟩ := okE_f h_112
        have ee : pOrder X H k t = .error f9 := by simp only [pOrder, if_neg cn0, if_pos cp, bind, Except.bind, e1, e9]
        have hx0 := PX_f hS109 e9
        have hx := And.intro (F1.trans hx0.1) hx0.2
        refine w_iconst (v := nI 0) dX8_dayOrder_129 ki_0 ?_
        exact w_zret dX8_dayOrder_130 rfl (by first | exact narr0 | exact narr1) ⟨by rw [bP_f (okE_er (ee))], _, by exact PX_er ee hx, rfl⟩
      · obtain ⟨t2, e2⟩ := okE_t h_112
        have a2 := PX_t hS109 e2
        have p2 := wWord_pg o1 e2
        have o2 := p2.1
        have k2 : TkS S109 t2 := a2.2
        have q2 : FrK S98 S109 := a2.1
        have F2 := F1.trans q2.P
        have hT2 := hT1.fr q2
        have A2 : mA S109 0 = (upd (mA S 0) (r + 1) (nI v1)) := (q2.A 0).trans A1
        have B2 : mB S109 1 = (mB S 1) := (q2.B 1).trans B1
        have I2 : ∀ i, 15 < i → mI S109 i = mI S i := fun i hi => (q2.1 i (by omega)).trans (I1 i hi)
        have z2 := (I2 18 (by omega)).trans h0
        have G2 := G1.trans q2.toA
        refine w_aload_n dX8_dayOrder_115 rfl ?_
        refine w_iload_n dX8_dayOrder_116 rfl ?_
        refine w_iconst (v := nI 2) dX8_dayOrder_117 ki_2 ?_
        refine w_iaddN dX8_dayOrder_118 ?_
        refine m_callPi1 (mi := miX8_findTo) dX8_dayOrder_119 q1859 okX8_findTo rfl (Nat.le_of_ble_eq_true rfl) (c_findTo hT2 k2 o2 z2 (EH.frP OH F2) OH (by omega) (by omega)) (Nat.le_of_ble_eq_true rfl) (fun S119 hS119 => ?_)
        refine w_ifB_eq dX8_dayOrder_122 rfl (fun h_122 => ?_) (fun h_122 => ?_)
        · obtain ⟨f9, e9⟩ := okE_f h_122
          have ee : pOrder X H k t = .error f9 := by simp only [pOrder, if_neg cn0, if_pos cp, bind, Except.bind, e1, e2, e9]
          have hx0 := PX_f hS119 e9
          have hx := And.intro (F2.trans hx0.1) hx0.2
          refine w_iconst (v := nI 0) dX8_dayOrder_129 ki_0 ?_
          exact w_zret dX8_dayOrder_130 rfl (by first | exact narr0 | exact narr1) ⟨by rw [bP_f (okE_er (ee))], _, by exact PX_er ee hx, rfl⟩
        · obtain ⟨⟨v3, t3⟩, e3⟩ := okE_t h_122
          have a3 := PX_t hS119 e3
          have p3 := wOld_pg o2 e3
          have o3 := p3.1.1
          have k3 : TkS S119 t3 := a3.2
          have q3 : FrK (sA S109 0 (r + 2) (nI v3)) S119 := a3.1
          have F3 := F2.trans ((FrP.A0 S109 (nI v3) (show 5600 ≤ r + 2 by omega)).trans q3.P)
          have hT3 := (show TxS (sA S109 0 (r + 2) (nI v3)) X from hT2).fr q3
          have A3 : mA S119 0 = (upd (upd (mA S 0) (r + 1) (nI v1)) (r + 2) (nI v3)) := (q3.A 0).trans (congrArg (fun q => upd q (r + 2) (nI v3)) A2)
          have B3 : mB S119 1 = (mB S 1) := (q3.B 1).trans B2
          have I3 : ∀ i, 15 < i → mI S119 i = mI S i := fun i hi => (q3.1 i (by omega)).trans (I2 i hi)
          have z3 := (I3 18 (by omega)).trans h0
          have G3 := G2.trans ((FrA.A0 S109 (r + 2) (nI v3)).trans q3.toA)
          have ee : pOrder X H k t = .ok ((k, v1, v3, 0), t3) := by simp only [pOrder, if_neg cn0, if_pos cp, bind, Except.bind, e1, e2, e3]
          have hrow := (show RowS r (k, v1, v3, 0) S S119 from ⟨G3, fun k9 h9 => (by rw [A3, upd_ne (by omega), upd_ne (by omega)]), (by rw [A3]; unfold upd; (repeat' split) <;> first | rfl | omega | (exact h0r.1.trans (congrArg nI (by assumption))) | (simp_all; done) | (first | exact h0r.1 | (rw [← cpk]; exact h0r.1) | exact h0r.1.trans (congrArg nI (by assumption)) | exact h0r.2.1 | exact h0r.2.2.1 | exact h0r.2.2.2)), (by rw [A3]; unfold upd; (repeat' split) <;> first | rfl | omega | (exact h0r.1.trans (congrArg nI (by assumption))) | (simp_all; done) | (first | exact h0r.1 | (rw [← cpk]; exact h0r.1) | exact h0r.1.trans (congrArg nI (by assumption)) | exact h0r.2.1 | exact h0r.2.2.1 | exact h0r.2.2.2)), (by rw [A3]; unfold upd; (repeat' split) <;> first | rfl | omega | (exact h0r.1.trans (congrArg nI (by assumption))) | (simp_all; done) | (first | exact h0r.1 | (rw [← cpk]; exact h0r.1) | exact h0r.1.trans (congrArg nI (by assumption)) | exact h0r.2.1 | exact h0r.2.2.1 | exact h0r.2.2.2)), (by rw [A3]; unfold upd; (repeat' split) <;> first | rfl | omega | (exact h0r.1.trans (congrArg nI (by assumption))) | (simp_all; done) | (first | exact h0r.1 | (rw [← cpk]; exact h0r.1) | exact h0r.1.trans (congrArg nI (by assumption)) | exact h0r.2.1 | exact h0r.2.2.1 | exact h0r.2.2.2)), (by rw [A3]; unfold upd; (repeat' split) <;> first | rfl | omega | (exact h0r.1.trans (congrArg nI (by assumption))) | (simp_all; done) | (first | exact h0r.1 | (rw [← cpk]; exact h0r.1) | exact h0r.1.trans (congrArg nI (by assumption)) | exact h0r.2.1 | exact h0r.2.2.1 | exact h0r.2.2.2)), (by rw [A3]; unfold upd; (repeat' split) <;> first | rfl | omega | (exact h0r.1.trans (congrArg nI (by assumption))) | (simp_all; done) | (first | exact h0r.1 | (rw [← cpk]; exact h0r.1) | exact h0r.1.trans (congrArg nI (by assumption)) | exact h0r.2.1 | exact h0r.2.2.1 | exact h0r.2.2.2))⟩)
          have hend := And.intro hrow k3
          refine w_iconst (v := nI 1) dX8_dayOrder_125 ki_1 ?_
          refine w_goto dX8_dayOrder_126 rfl ?_
          exact w_zret dX8_dayOrder_130 rfl (by first | exact narr0 | exact narr1) ⟨by rw [bP_t (okE_ok (ee))], _, by exact PX_ok ee hend, rfl⟩
  by_cases hs_20 : k = 20
  · have cn0 : ¬ (k = 18) := by omega
    have cn1 : ¬ (k = 19 ∨ k = 21) := by omega
    have cp : k = 20 := by omega
    rw [show nI k = nI 20 by rw [hs_20]]
    refine w_tableIn dX8_dayOrder_1 (by decide +kernel) (by decide +kernel) rfl rfl ?_
    refine w_aload_n dX8_dayOrder_131 rfl ?_
    refine w_iload_n dX8_dayOrder_132 rfl ?_
    refine w_iconst (v := nI 1) dX8_dayOrder_133 ki_1 ?_
    refine w_iaddN dX8_dayOrder_134 ?_
    refine m_callPi1 (mi := miX8_finderTo) dX8_dayOrder_135 q1855 okX8_finderTo rfl (Nat.le_of_ble_eq_true rfl) (c_finderTo hT0 k0 o0 z0 EH OH (by omega) (by omega)) (Nat.le_of_ble_eq_true rfl) (fun S135 hS135 => ?_)
    refine w_ifB_eq dX8_dayOrder_138 rfl (fun h_138 => ?_) (fun h_138 => ?_)
    · obtain ⟨f9, e9⟩ := okE_f h_138
      have ee : pOrder X H k t = .error f9 := by simp only [pOrder, if_neg cn0, if_neg cn1, if_pos cp, bind, Except.bind, e9]
      have hx0 := PX_f hS135 e9
      have hx := And.intro (F0.trans hx0.1) hx0.2
      refine w_iconst (v := nI 0) dX8_dayOrder_159 ki_0 ?_
      exact w_zret dX8_dayOrder_160 rfl (by first | exact narr0 | exact narr1) ⟨by rw [bP_f (okE_er (ee))], _, by exact PX_er ee hx, rfl⟩
    · obtain ⟨⟨v1, t1⟩, e1⟩ := okE_t h_138
      have a1 := PX_t hS135 e1
      have p1 := wOld_pg o0 e1
      have o1 := p1.1.1
      have k1 : TkS S135 t1 := a1.2
      have q1 : FrK (sA S 0 (r + 1) (nI v1)) S135 := a1.1
      have F1 := F0.trans ((FrP.A0 S (nI v1) (show 5600 ≤ r + 1 by omega)).trans q1.P)
      have hT1 := (show TxS (sA S 0 (r + 1) (nI v1)) X from hT0).fr q1
      have A1 : mA S135 0 = (upd (mA S 0) (r + 1) (nI v1)) := (q1.A 0).trans (congrArg (fun q => upd q (r + 1) (nI v1)) A0)
      have B1 : mB S135 1 = (mB S 1) := (q1.B 1).trans B0
      have I1 : ∀ i, 15 < i → mI S135 i = mI S i := fun i hi => (q1.1 i (by omega)).trans (I0 i hi)
      have z1 := (I1 18 (by omega)).trans h0
      have G1 := G0.trans ((FrA.A0 S (r + 1) (nI v1)).trans q1.toA)
      refine w_aload_n dX8_dayOrder_141 rfl ?_
      refine w_iload_n dX8_dayOrder_142 rfl ?_
      refine w_iconst (v := nI 2) dX8_dayOrder_143 ki_2 ?_
      refine w_iaddN dX8_dayOrder_144 ?_
      refine w_iconst (v := nI 1) dX8_dayOrder_145 ki_1 ?_
      refine w_sipush (v := nI 240) dX8_dayOrder_146 ks_240 ?_
      refine m_callPi3 (mi := miX8_number) dX8_dayOrder_149 q1769 okX8_number rfl (Nat.le_of_ble_eq_true rfl) (c_number hT1 k1 o1 z1 (by omega) (by omega) (by omega)) (Nat.le_of_ble_eq_true rfl) (fun S149 hS149 => ?_)
      refine w_ifB_eq dX8_dayOrder_152 rfl (fun h_152 => ?_) (fun h_152 => ?_)
      · obtain ⟨f9, e9⟩ := okE_f h_152
        have ee : pOrder X H k t = .error f9 := by simp only [pOrder, if_neg cn0, if_neg cn1, if_pos cp, bind, Except.bind, e1, e9]
        have hx0 := PX_f hS149 e9
        have hx := And.intro (F1.trans hx0.1) hx0.2
        refine w_iconst (v := nI 0) dX8_dayOrder_159 ki_0 ?_
        exact w_zret dX8_dayOrder_160 rfl (by first | exact narr0 | exact narr1) ⟨by rw [bP_f (okE_er (ee))], _, by exact PX_er ee hx, rfl⟩
      · obtain ⟨⟨v2, t2⟩, e2⟩ := okE_t h_152
        have a2 := PX_t hS149 e2
        have p2 := wNum_pg o1 e2
        have o2 := p2.1.1
        have k2 : TkS S149 t2 := a2.2
        have q2 : FrK (sA S135 0 (r + 2) (nI v2)) S149 := a2.1
        have F2 := F1.trans ((FrP.A0 S135 (nI v2) (show 5600 ≤ r + 2 by omega)).trans q2.P)
        have hT2 := (show TxS (sA S135 0 (r + 2) (nI v2)) X from hT1).fr q2
        have A2 : mA S149 0 = (upd (upd (mA S 0) (r + 1) (nI v1)) (r + 2) (nI v2)) := (q2.A 0).trans (congrArg (fun q => upd q (r + 2) (nI v2)) A1)
        have B2 : mB S149 1 = (mB S 1) := (q2.B 1).trans B1
        have I2 : ∀ i, 15 < i → mI S149 i = mI S i := fun i hi => (q2.1 i (by omega)).trans (I1 i hi)
        have z2 := (I2 18 (by omega)).trans h0
        have G2 := G1.trans ((FrA.A0 S135 (r + 2) (nI v2)).trans q2.toA)
        have ee : pOrder X H k t = .ok ((20, v1, v2, 0), t2) := by simp only [pOrder, if_neg cn0, if_neg cn1, if_pos cp, bind, Except.bind, e1, e2]
        have hrow := (show RowS r (20, v1, v2, 0) S S149 from ⟨G2, fun k9 h9 => (by rw [A2, upd_ne (by omega), upd_ne (by omega)]), (by rw [A2]; unfold upd; (repeat' split) <;> first | rfl | omega | (exact h0r.1.trans (congrArg nI (by assumption))) | (simp_all; done) | (first | exact h0r.1 | (rw [← cpk]; exact h0r.1) | exact h0r.1.trans (congrArg nI (by assumption)) | exact h0r.2.1 | exact h0r.2.2.1 | exact h0r.2.2.2)), (by rw [A2]; unfold upd; (repeat' split) <;> first | rfl | omega | (exact h0r.1.trans (congrArg nI (by assumption))) | (simp_all; done) | (first | exact h0r.1 | (rw [← cpk]; exact h0r.1) | exact h0r.1.trans (congrArg nI (by assumption)) | exact h0r.2.1 | exact h0r.2.2.1 | exact h0r.2.2.2)), (by rw [A2]; unfold upd; (repeat' split) <;> first | rfl | omega | (exact h0r.1.trans (congrArg nI (by assumption))) | (simp_all; done) | (first | exact h0r.1 | (rw [← cpk]; exact h0r.1) | exact h0r.1.trans (congrArg nI (by assumption)) | exact h0r.2.1 | exact h0r.2.2.1 | exact h0r.2.2.2)), (by rw [A2]; unfold upd; (repeat' split) <;> first | rfl | omega | (exact h0r.1.trans (congrArg nI (by assumption))) | (simp_all; done) | (first | exact h0r.1 | (rw [← cpk]; exact h0r.1) | exact h0r.1.trans (congrArg nI (by assumption)) | exact h0r.2.1 | exact h0r.2.2.1 | exact h0r.2.2.2)), (by rw [A2]; unfold upd; (repeat' split) <;> first | rfl | omega | (exact h0r.1.trans (congrArg nI (by assumption))) | (simp_all; done) | (first | exact h0r.1 | (rw [← cpk]; exact h0r.1) | exact h0r.1.trans (congrArg nI (by assumption)) | exact h0r.2.1 | exact h0r.2.2.1 | exact h0r.2.2.2)), (by rw [A2]; unfold upd; (repeat' split) <;> first | rfl | omega | (exact h0r.1.trans (congrArg nI (by assumption))) | (simp_all; done) | (first | exact h0r.1 | (rw [← cpk]; exact h0r.1) | exact h0r.1.trans (congrArg nI (by assumption)) | exact h0r.2.1 | exact h0r.2.2.1 | exact h0r.2.2.2))⟩)
        have hend := And.intro hrow k2
        refine w_iconst (v := nI 1) dX8_dayOrder_155 ki_1 ?_
        refine w_goto dX8_dayOrder_156 rfl ?_
        exact w_zret dX8_dayOrder_160 rfl (by first | exact narr0 | exact narr1) ⟨by rw [bP_t (okE_ok (ee))], _, by exact PX_ok ee hend, rfl⟩
  by_cases hs_21 : k = 21
  · have cn0 : ¬ (k = 18) := by omega
    have cp : k = 19 ∨ k = 21 := by omega
    rw [show nI k = nI 21 by rw [hs_21]]
    refine w_tableIn dX8_dayOrder_1 (by decide +kernel) (by decide +kernel) rfl rfl ?_
    refine w_aload_n dX8_dayOrder_94 rfl ?_
    refine w_iload_n dX8_dayOrder_95 rfl ?_
    refine w_iconst (v := nI 1) dX8_dayOrder_96 ki_1 ?_
    refine w_iaddN dX8_dayOrder_97 ?_
    refine m_callPi1 (mi := miX8_finderTo) dX8_dayOrder_98 q1855 okX8_finderTo rfl (Nat.le_of_ble_eq_true rfl) (c_finderTo hT0 k0 o0 z0 EH OH (by omega) (by omega)) (Nat.le_of_ble_eq_true rfl) (fun S98 hS98 => ?_)
    refine w_ifB_eq dX8_dayOrder_101 rfl (fun h_101 => ?_) (fun h_101 => ?_)
    · obtain ⟨f9, e9⟩ := okE_f h_101
      have ee : pOrder X H k t = .error f9 := by simp only [pOrder, if_neg cn0, if_pos cp, bind, Except.bind, e9]
      have hx0 := PX_f hS98 e9
      have hx := And.intro (F0.trans hx0.1) hx0.2
      refine w_iconst (v := nI 0) dX8_dayOrder_129 ki_0 ?_
      exact w_zret dX8_dayOrder_130 rfl (by first | exact narr0 | exact narr1) ⟨by rw [bP_f (okE_er (ee))], _, by exact PX_er ee hx, rfl⟩
    · obtain ⟨⟨v1, t1⟩, e1⟩ := okE_t h_101
      have a1 := PX_t hS98 e1
      have p1 := wOld_pg o0 e1
      have o1 := p1.1.1
      have k1 : TkS S98 t1 := a1.2
      have q1 : FrK (sA S 0 (r + 1) (nI v1)) S98 := a1.1
      have F1 := F0.trans ((FrP.A0 S (nI v1) (show 5600 ≤ r + 1 by omega)).trans q1.P)
      have hT1 := (show TxS (sA S 0 (r + 1) (nI v1)) X from hT0).fr q1
      have A1 : mA S98 0 = (upd (mA S 0) (r + 1) (nI v1)) := (q1.A 0).trans (congrArg (fun q => upd q (r + 1) (nI v1)) A0)
      have B1 : mB S98 1 = (mB S 1) := (q1.B 1).trans B0
      have I1 : ∀ i, 15 < i → mI S98 i = mI S i := fun i hi => (q1.1 i (by omega)).trans (I0 i hi)
      have z1 := (I1 18 (by omega)).trans h0
      have G1 := G0.trans ((FrA.A0 S (r + 1) (nI v1)).trans q1.toA)
      refine w_aload_n dX8_dayOrder_104 rfl ?_
      refine w_ldcS hx0 rfl rfl dX8_dayOrder_105 ?_
      refine w_bipush (v := nI 12) dX8_dayOrder_107 kb_12 ?_
      refine m_callPi2 (mi := miX8_wantWord) dX8_dayOrder_109 q1755 okX8_wantWord rfl (Nat.le_of_ble_eq_true rfl) (c_wantWord hT1 k1 o1 z1 (by omega)) (Nat.le_of_ble_eq_true rfl) (fun S109 hS109 => ?_)
      refine w_ifB_eq dX8_dayOrder_112 rfl (fun h_112 => ?_) (fun h_112 => ?_)
      · obtain ⟨f9, e9⟩ := okE_f h_112
        have ee : pOrder X H k t = .error f9 := by simp only [pOrder, if_neg cn0, if_pos cp, bind, Except.bind, e1, e9]
        have hx0 := PX_f hS109 e9
        have hx := And.intro (F1.trans hx0.1) hx0.2
        refine w_iconst (v := nI 0) dX8_dayOrder_129 ki_0 ?_
        exact w_zret dX8_dayOrder_130 rfl (by first | exact narr0 | exact narr1) ⟨by rw [bP_f (okE_er (ee))], _, by exact PX_er ee hx, rfl⟩
      · obtain ⟨t2, e2⟩ := okE_t h_112
        have a2 := PX_t hS109 e2
        have p2 := wWord_pg o1 e2
        have o2 := p2.1
        have k2 : TkS S109 t2 := a2.2
        have q2 : FrK S98 S109 := a2.1
        have F2 := F1.trans q2.P
        have hT2 := hT1.fr q2
        have A2 : mA S109 0 = (upd (mA S 0) (r + 1) (nI v1)) := (q2.A 0).trans A1
        have B2 : mB S109 1 = (mB S 1) := (q2.B 1).trans B1
        have I2 : ∀ i, 15 < i → mI S109 i = mI S i := fun i hi => (q2.1 i (by omega)).trans (I1 i hi)
        have z2 := (I2 18 (by omega)).trans h0
        have G2 := G1.trans q2.toA
        refine w_aload_n dX8_dayOrder_115 rfl ?_
        refine w_iload_n dX8_dayOrder_116 rfl ?_
        refine w_iconst (v := nI 2) dX8_dayOrder_117 ki_2 ?_
        refine w_iaddN dX8_dayOrder_118 ?_
        refine m_callPi1 (mi := miX8_findTo) dX8_dayOrder_119 q1859 okX8_findTo rfl (Nat.le_of_ble_eq_true rfl) (c_findTo hT2 k2 o2 z2 (EH.frP OH F2) OH (by omega) (by omega)) (Nat.le_of_ble_eq_true rfl) (fun S119 hS119 => ?_)
        refine w_ifB_eq dX8_dayOrder_122 rfl (fun h_122 => ?_) (fun h_122 => ?_)
        · obtain ⟨f9, e9⟩ := okE_f h_122
          have ee : pOrder X H k t = .error f9 := by simp only [pOrder, if_neg cn0, if_pos cp, bind, Except.bind, e1, e2, e9]
          have hx0 := PX_f hS119 e9
          have hx := And.intro (F2.trans hx0.1) hx0.2
          refine w_iconst (v := nI 0) dX8_dayOrder_129 ki_0 ?_
          exact w_zret dX8_dayOrder_130 rfl (by first | exact narr0 | exact narr1) ⟨by rw [bP_f (okE_er (ee))], _, by exact PX_er ee hx, rfl⟩
        · obtain ⟨⟨v3, t3⟩, e3⟩ := okE_t h_122
          have a3 := PX_t hS119 e3
          have p3 := wOld_pg o2 e3
          have o3 := p3.1.1
          have k3 : TkS S119 t3 := a3.2
          have q3 : FrK (sA S109 0 (r + 2) (nI v3)) S119 := a3.1
          have F3 := F2.trans ((FrP.A0 S109 (nI v3) (show 5600 ≤ r + 2 by omega)).trans q3.P)
          have hT3 := (show TxS (sA S109 0 (r + 2) (nI v3)) X from hT2).fr q3
          have A3 : mA S119 0 = (upd (upd (mA S 0) (r + 1) (nI v1)) (r + 2) (nI v3)) := (q3.A 0).trans (congrArg (fun q => upd q (r + 2) (nI v3)) A2)
          have B3 : mB S119 1 = (mB S 1) := (q3.B 1).trans B2
          have I3 : ∀ i, 15 < i → mI S119 i = mI S i := fun i hi => (q3.1 i (by omega)).trans (I2 i hi)
          have z3 := (I3 18 (by omega)).trans h0
          have G3 := G2.trans ((FrA.A0 S109 (r + 2) (nI v3)).trans q3.toA)
          have ee : pOrder X H k t = .ok ((k, v1, v3, 0), t3) := by simp only [pOrder, if_neg cn0, if_pos cp, bind, Except.bind, e1, e2, e3]
          have hrow := (show RowS r (k, v1, v3, 0) S S119 from ⟨G3, fun k9 h9 => (by rw [A3, upd_ne (by omega), upd_ne (by omega)]), (by rw [A3]; unfold upd; (repeat' split) <;> first | rfl | omega | (exact h0r.1.trans (congrArg nI (by assumption))) | (simp_all; done) | (first | exact h0r.1 | (rw [← cpk]; exact h0r.1) | exact h0r.1.trans (congrArg nI (by assumption)) | exact h0r.2.1 | exact h0r.2.2.1 | exact h0r.2.2.2)), (by rw [A3]; unfold upd; (repeat' split) <;> first | rfl | omega | (exact h0r.1.trans (congrArg nI (by assumption))) | (simp_all; done) | (first | exact h0r.1 | (rw [← cpk]; exact h0r.1) | exact h0r.1.trans (congrArg nI (by assumption)) | exact h0r.2.1 | exact h0r.2.2.1 | exact h0r.2.2.2)), (by rw [A3]; unfold upd; (repeat' split) <;> first | rfl | omega | (exact h0r.1.trans (congrArg nI (by assumption))) | (simp_all; done) | (first | exact h0r.1 | (rw [← cpk]; exact h0r.1) | exact h0r.1.trans (congrArg nI (by assumption)) | exact h0r.2.1 | exact h0r.2.2.1 | exact h0r.2.2.2)), (by rw [A3]; unfold upd; (repeat' split) <;> first | rfl | omega | (exact h0r.1.trans (congrArg nI (by assumption))) | (simp_all; done) | (first | exact h0r.1 | (rw [← cpk]; exact h0r.1) | exact h0r.1.trans (congrArg nI (by assumption)) | exact h0r.2.1 | exact h0r.2.2.1 | exact h0r.2.2.2)), (by rw [A3]; unfold upd; (repeat' split) <;> first | rfl | omega | (exact h0r.1.trans (congrArg nI (by assumption))) | (simp_all; done) | (first | exact h0r.1 | (rw [← cpk]; exact h0r.1) | exact h0r.1.trans (congrArg nI (by assumption)) | exact h0r.2.1 | exact h0r.2.2.1 | exact h0r.2.2.2)), (by rw [A3]; unfold upd; (repeat' split) <;> first | rfl | omega | (exact h0r.1.trans (congrArg nI (by assumption))) | (simp_all; done) | (first | exact h0r.1 | (rw [← cpk]; exact h0r.1) | exact h0r.1.trans (congrArg nI (by assumption)) | exact h0r.2.1 | exact h0r.2.2.1 | exact h0r.2.2.2))⟩)
          have hend := And.intro hrow k3
          refine w_iconst (v := nI 1) dX8_dayOrder_125 ki_1 ?_
          refine w_goto dX8_dayOrder_126 rfl ?_
          exact w_zret dX8_dayOrder_130 rfl (by first | exact narr0 | exact narr1) ⟨by rw [bP_t (okE_ok (ee))], _, by exact PX_ok ee hend, rfl⟩
  by_cases hs_22 : k = 22
  · have cn0 : ¬ (k = 18) := by omega
    have cn1 : ¬ (k = 19 ∨ k = 21) := by omega
    have cn2 : ¬ (k = 20) := by omega
    have cp : k = 22 := by omega
    rw [show nI k = nI 22 by rw [hs_22]]
    refine w_tableIn dX8_dayOrder_1 (by decide +kernel) (by decide +kernel) rfl rfl ?_
    refine w_aload_n dX8_dayOrder_161 rfl ?_
    refine w_iload_n dX8_dayOrder_162 rfl ?_
    refine w_iconst (v := nI 1) dX8_dayOrder_163 ki_1 ?_
    refine w_iaddN dX8_dayOrder_164 ?_
    refine w_iconst (v := nI 0) dX8_dayOrder_165 ki_0 ?_
    refine w_bipush (v := nI 16) dX8_dayOrder_166 kb_16 ?_
    refine m_callPi3 (mi := miX8_number) dX8_dayOrder_168 q1769 okX8_number rfl (Nat.le_of_ble_eq_true rfl) (c_number hT0 k0 o0 z0 (by omega) (by omega) (by omega)) (Nat.le_of_ble_eq_true rfl) (fun S168 hS168 => ?_)
    have hfin : bP (okE (wNum X 0 16 t)) = bP (okE (pOrder X H k t)) ∧ PX (pOrder X H k t) S (fun v S2 => RowS r v.1 S S2 ∧ TkS S2 v.2) S168 := by
      rcases e1 : wNum X 0 16 t with f9 | ⟨v1, t1⟩
      · have ee : pOrder X H k t = .error f9 := by simp only [pOrder, if_neg cn0, if_neg cn1, if_neg cn2, if_pos cp, bind, Except.bind, e1]
        have hx := PX_f hS168 e1
        rw [bP_f (okE_er rfl), bP_f (okE_er ee)]
        exact ⟨rfl, PX_er ee ⟨F0.trans hx.1, hx.2⟩⟩
      · have ee : pOrder X H k t = .ok ((22, v1, 0, 0), t1) := by simp only [pOrder, if_neg cn0, if_neg cn1, if_neg cn2, if_pos cp, bind, Except.bind, e1]
        have a1 := PX_t hS168 e1
        have p1 := wNum_pg o0 e1
        have o1 := p1.1.1
        have k1 : TkS S168 t1 := a1.2
        have q1 : FrK (sA S 0 (r + 1) (nI v1)) S168 := a1.1
        have F1 := F0.trans ((FrP.A0 S (nI v1) (show 5600 ≤ r + 1 by omega)).trans q1.P)
        have hT1 := (show TxS (sA S 0 (r + 1) (nI v1)) X from hT0).fr q1
        have A1 : mA S168 0 = (upd (mA S 0) (r + 1) (nI v1)) := (q1.A 0).trans (congrArg (fun q => upd q (r + 1) (nI v1)) A0)
        have B1 : mB S168 1 = (mB S 1) := (q1.B 1).trans B0
        have I1 : ∀ i, 15 < i → mI S168 i = mI S i := fun i hi => (q1.1 i (by omega)).trans (I0 i hi)
        have z1 := (I1 18 (by omega)).trans h0
        have G1 := G0.trans ((FrA.A0 S (r + 1) (nI v1)).trans q1.toA)
        rw [bP_t (okE_ok rfl), bP_t (okE_ok ee)]
        exact ⟨rfl, PX_ok ee ⟨(show RowS r (22, v1, 0, 0) S S168 from ⟨G1, fun k9 h9 => (by rw [A1, upd_ne (by omega)]), (by rw [A1]; unfold upd; (repeat' split) <;> first | rfl | omega | (simp_all; done) | (first | exact h0r.1 | exact h0r.1.trans (congrArg nI (by assumption)) | exact h0r.2.1 | exact h0r.2.2.1 | exact h0r.2.2.2)), (by rw [A1]; unfold upd; (repeat' split) <;> first | rfl | omega | (simp_all; done) | (first | exact h0r.1 | exact h0r.1.trans (congrArg nI (by assumption)) | exact h0r.2.1 | exact h0r.2.2.1 | exact h0r.2.2.2)), (by rw [A1]; unfold upd; (repeat' split) <;> first | rfl | omega | (simp_all; done) | (first | exact h0r.1 | exact h0r.1.trans (congrArg nI (by assumption)) | exact h0r.2.1 | exact h0r.2.2.1 | exact h0r.2.2.2)), (by rw [A1]; unfold upd; (repeat' split) <;> first | rfl | omega | (simp_all; done) | (first | exact h0r.1 | exact h0r.1.trans (congrArg nI (by assumption)) | exact h0r.2.1 | exact h0r.2.2.1 | exact h0r.2.2.2)), (by rw [A1]; unfold upd; (repeat' split) <;> first | rfl | omega | (simp_all; done) | (first | exact h0r.1 | exact h0r.1.trans (congrArg nI (by assumption)) | exact h0r.2.1 | exact h0r.2.2.1 | exact h0r.2.2.2)), (by rw [A1]; unfold upd; (repeat' split) <;> first | rfl | omega | (simp_all; done) | (first | exact h0r.1 | exact h0r.1.trans (congrArg nI (by assumption)) | exact h0r.2.1 | exact h0r.2.2.1 | exact h0r.2.2.2))⟩), k1⟩⟩
    exact w_zret dX8_dayOrder_171 rfl narrB ⟨by rw [hfin.1], _, by exact hfin.2, rfl⟩
  by_cases hs_23 : k = 23
  · have cn0 : ¬ (k = 18) := by omega
    have cn1 : ¬ (k = 19 ∨ k = 21) := by omega
    have cn2 : ¬ (k = 20) := by omega
    have cn3 : ¬ (k = 22) := by omega
    have cp : k = 23 := by omega
    rw [show nI k = nI 23 by rw [hs_23]]
    refine w_tableIn dX8_dayOrder_1 (by decide +kernel) (by decide +kernel) rfl rfl ?_
    refine w_aload_n dX8_dayOrder_172 rfl ?_
    refine w_iload_n dX8_dayOrder_173 rfl ?_
    refine w_iconst (v := nI 1) dX8_dayOrder_174 ki_1 ?_
    refine w_iaddN dX8_dayOrder_175 ?_
    refine w_iconst (v := nI 0) dX8_dayOrder_176 ki_0 ?_
    refine w_bipush (v := nI 40) dX8_dayOrder_177 kb_40 ?_
    refine m_callPi3 (mi := miX8_number) dX8_dayOrder_179 q1769 okX8_number rfl (Nat.le_of_ble_eq_true rfl) (c_number hT0 k0 o0 z0 (by omega) (by omega) (by omega)) (Nat.le_of_ble_eq_true rfl) (fun S179 hS179 => ?_)
    have hfin : bP (okE (wNum X 0 40 t)) = bP (okE (pOrder X H k t)) ∧ PX (pOrder X H k t) S (fun v S2 => RowS r v.1 S S2 ∧ TkS S2 v.2) S179 := by
      rcases e1 : wNum X 0 40 t with f9 | ⟨v1, t1⟩
      · have ee : pOrder X H k t = .error f9 := by simp only [pOrder, if_neg cn0, if_neg cn1, if_neg cn2, if_neg cn3, if_pos cp, bind, Except.bind, e1]
        have hx := PX_f hS179 e1
        rw [bP_f (okE_er rfl), bP_f (okE_er ee)]
        exact ⟨rfl, PX_er ee ⟨F0.trans hx.1, hx.2⟩⟩
      · have ee : pOrder X H k t = .ok ((23, v1, 0, 0), t1) := by simp only [pOrder, if_neg cn0, if_neg cn1, if_neg cn2, if_neg cn3, if_pos cp, bind, Except.bind, e1]
        have a1 := PX_t hS179 e1
        have p1 := wNum_pg o0 e1
        have o1 := p1.1.1
        have k1 : TkS S179 t1 := a1.2
        have q1 : FrK (sA S 0 (r + 1) (nI v1)) S179 := a1.1
        have F1 := F0.trans ((FrP.A0 S (nI v1) (show 5600 ≤ r + 1 by omega)).trans q1.P)
        have hT1 := (show TxS (sA S 0 (r + 1) (nI v1)) X from hT0).fr q1
        have A1 : mA S179 0 = (upd (mA S 0) (r + 1) (nI v1)) := (q1.A 0).trans (congrArg (fun q => upd q (r + 1) (nI v1)) A0)
        have B1 : mB S179 1 = (mB S 1) := (q1.B 1).trans B0
        have I1 : ∀ i, 15 < i → mI S179 i = mI S i := fun i hi => (q1.1 i (by omega)).trans (I0 i hi)
        have z1 := (I1 18 (by omega)).trans h0
        have G1 := G0.trans ((FrA.A0 S (r + 1) (nI v1)).trans q1.toA)
        rw [bP_t (okE_ok rfl), bP_t (okE_ok ee)]
        exact ⟨rfl, PX_ok ee ⟨(show RowS r (23, v1, 0, 0) S S179 from ⟨G1, fun k9 h9 => (by rw [A1, upd_ne (by omega)]), (by rw [A1]; unfold upd; (repeat' split) <;> first | rfl | omega | (simp_all; done) | (first | exact h0r.1 | exact h0r.1.trans (congrArg nI (by assumption)) | exact h0r.2.1 | exact h0r.2.2.1 | exact h0r.2.2.2)), (by rw [A1]; unfold upd; (repeat' split) <;> first | rfl | omega | (simp_all; done) | (first | exact h0r.1 | exact h0r.1.trans (congrArg nI (by assumption)) | exact h0r.2.1 | exact h0r.2.2.1 | exact h0r.2.2.2)), (by rw [A1]; unfold upd; (repeat' split) <;> first | rfl | omega | (simp_all; done) | (first | exact h0r.1 | exact h0r.1.trans (congrArg nI (by assumption)) | exact h0r.2.1 | exact h0r.2.2.1 | exact h0r.2.2.2)), (by rw [A1]; unfold upd; (repeat' split) <;> first | rfl | omega | (simp_all; done) | (first | exact h0r.1 | exact h0r.1.trans (congrArg nI (by assumption)) | exact h0r.2.1 | exact h0r.2.2.1 | exact h0r.2.2.2)), (by rw [A1]; unfold upd; (repeat' split) <;> first | rfl | omega | (simp_all; done) | (first | exact h0r.1 | exact h0r.1.trans (congrArg nI (by assumption)) | exact h0r.2.1 | exact h0r.2.2.1 | exact h0r.2.2.2)), (by rw [A1]; unfold upd; (repeat' split) <;> first | rfl | omega | (simp_all; done) | (first | exact h0r.1 | exact h0r.1.trans (congrArg nI (by assumption)) | exact h0r.2.1 | exact h0r.2.2.1 | exact h0r.2.2.2))⟩), k1⟩⟩
    exact w_zret dX8_dayOrder_182 rfl narrB ⟨by rw [hfin.1], _, by exact hfin.2, rfl⟩
  by_cases hs_24 : k = 24
  · have cn0 : ¬ (k = 18) := by omega
    have cn1 : ¬ (k = 19 ∨ k = 21) := by omega
    have cn2 : ¬ (k = 20) := by omega
    have cn3 : ¬ (k = 22) := by omega
    have cn4 : ¬ (k = 23) := by omega
    have cp : k = 24 := by omega
    rw [show nI k = nI 24 by rw [hs_24]]
    refine w_tableIn dX8_dayOrder_1 (by decide +kernel) (by decide +kernel) rfl rfl ?_
    refine w_aload_n dX8_dayOrder_183 rfl ?_
    refine w_iload_n dX8_dayOrder_184 rfl ?_
    refine m_callPi1 (mi := miX8_test) dX8_dayOrder_185 q1863 okX8_test rfl (Nat.le_of_ble_eq_true rfl) (c_test hT hK hO h0 EH OH hr hr2 (by rw [hs_24] at h0r; exact h0r)) (Nat.le_of_ble_eq_true rfl) (fun S185 hS185 => ?_)
    have hpt : pOrder X H k t = pTest X H t := by simp only [pOrder, if_neg cn0, if_neg cn1, if_neg cn2, if_neg cn3, if_neg cn4, if_pos cp]
    exact w_zret dX8_dayOrder_188 rfl narrB ⟨by rw [hpt], _, by rw [hpt]; exact hS185, rfl⟩
  by_cases hs_25 : k = 25
  · have cn0 : ¬ (k = 18) := by omega
    have cn1 : ¬ (k = 19 ∨ k = 21) := by omega
    have cn2 : ¬ (k = 20) := by omega
    have cn3 : ¬ (k = 22) := by omega
    have cn4 : ¬ (k = 23) := by omega
    have cn5 : ¬ (k = 24) := by omega
    have cp : k = 25 := by omega
    rw [show nI k = nI 25 by rw [hs_25]]
    refine w_tableIn dX8_dayOrder_1 (by decide +kernel) (by decide +kernel) rfl rfl ?_
    refine w_aload_n dX8_dayOrder_189 rfl ?_
    refine w_iload_n dX8_dayOrder_190 rfl ?_
    refine w_iconst (v := nI 1) dX8_dayOrder_191 ki_1 ?_
    refine w_iaddN dX8_dayOrder_192 ?_
    refine w_iconst (v := nI 1) dX8_dayOrder_193 ki_1 ?_
    refine w_bipush (v := nI 99) dX8_dayOrder_194 kb_99 ?_
    refine m_callPi3 (mi := miX8_number) dX8_dayOrder_196 q1769 okX8_number rfl (Nat.le_of_ble_eq_true rfl) (c_number hT0 k0 o0 z0 (by omega) (by omega) (by omega)) (Nat.le_of_ble_eq_true rfl) (fun S196 hS196 => ?_)
    have hfin : bP (okE (wNum X 1 99 t)) = bP (okE (pOrder X H k t)) ∧ PX (pOrder X H k t) S (fun v S2 => RowS r v.1 S S2 ∧ TkS S2 v.2) S196 := by
      rcases e1 : wNum X 1 99 t with f9 | ⟨v1, t1⟩
      · have ee : pOrder X H k t = .error f9 := by simp only [pOrder, if_neg cn0, if_neg cn1, if_neg cn2, if_neg cn3, if_neg cn4, if_neg cn5, if_pos cp, bind, Except.bind, e1]
        have hx := PX_f hS196 e1
        rw [bP_f (okE_er rfl), bP_f (okE_er ee)]
        exact ⟨rfl, PX_er ee ⟨F0.trans hx.1, hx.2⟩⟩
      · have ee : pOrder X H k t = .ok ((25, v1, 0, 0), t1) := by simp only [pOrder, if_neg cn0, if_neg cn1, if_neg cn2, if_neg cn3, if_neg cn4, if_neg cn5, if_pos cp, bind, Except.bind, e1]
        have a1 := PX_t hS196 e1
        have p1 := wNum_pg o0 e1
        have o1 := p1.1.1
        have k1 : TkS S196 t1 := a1.2
        have q1 : FrK (sA S 0 (r + 1) (nI v1)) S196 := a1.1
        have F1 := F0.trans ((FrP.A0 S (nI v1) (show 5600 ≤ r + 1 by omega)).trans q1.P)
        have hT1 := (show TxS (sA S 0 (r + 1) (nI v1)) X from hT0).fr q1
        have A1 : mA S196 0 = (upd (mA S 0) (r + 1) (nI v1)) := (q1.A 0).trans (congrArg (fun q => upd q (r + 1) (nI v1)) A0)
        have B1 : mB S196 1 = (mB S 1) := (q1.B 1).trans B0
        have I1 : ∀ i, 15 < i → mI S196 i = mI S i := fun i hi => (q1.1 i (by omega)).trans (I0 i hi)
        have z1 := (I1 18 (by omega)).trans h0
        have G1 := G0.trans ((FrA.A0 S (r + 1) (nI v1)).trans q1.toA)
        rw [bP_t (okE_ok rfl), bP_t (okE_ok ee)]
        exact ⟨rfl, PX_ok ee ⟨(show RowS r (25, v1, 0, 0) S S196 from ⟨G1, fun k9 h9 => (by rw [A1, upd_ne (by omega)]), (by rw [A1]; unfold upd; (repeat' split) <;> first | rfl | omega | (simp_all; done) | (first | exact h0r.1 | exact h0r.1.trans (congrArg nI (by assumption)) | exact h0r.2.1 | exact h0r.2.2.1 | exact h0r.2.2.2)), (by rw [A1]; unfold upd; (repeat' split) <;> first | rfl | omega | (simp_all; done) | (first | exact h0r.1 | exact h0r.1.trans (congrArg nI (by assumption)) | exact h0r.2.1 | exact h0r.2.2.1 | exact h0r.2.2.2)), (by rw [A1]; unfold upd; (repeat' split) <;> first | rfl | omega | (simp_all; done) | (first | exact h0r.1 | exact h0r.1.trans (congrArg nI (by assumption)) | exact h0r.2.1 | exact h0r.2.2.1 | exact h0r.2.2.2)), (by rw [A1]; unfold upd; (repeat' split) <;> first | rfl | omega | (simp_all; done) | (first | exact h0r.1 | exact h0r.1.trans (congrArg nI (by assumption)) | exact h0r.2.1 | exact h0r.2.2.1 | exact h0r.2.2.2)), (by rw [A1]; unfold upd; (repeat' split) <;> first | rfl | omega | (simp_all; done) | (first | exact h0r.1 | exact h0r.1.trans (congrArg nI (by assumption)) | exact h0r.2.1 | exact h0r.2.2.1 | exact h0r.2.2.2)), (by rw [A1]; unfold upd; (repeat' split) <;> first | rfl | omega | (simp_all; done) | (first | exact h0r.1 | exact h0r.1.trans (congrArg nI (by assumption)) | exact h0r.2.1 | exact h0r.2.2.1 | exact h0r.2.2.2))⟩), k1⟩⟩
    exact w_zret dX8_dayOrder_199 rfl narrB ⟨by rw [hfin.1], _, by exact hfin.2, rfl⟩
  refine w_tableOut dX8_dayOrder_1 (by rw [nI_toInt (by omega)]; omega) rfl ?_
  refine w_iconst (v := nI 1) dX8_dayOrder_200 ki_1 ?_
  exact w_zret dX8_dayOrder_201 rfl (by first | exact narr0 | exact narr1) ⟨by rw [bP_t (okE_ok (show pOrder X H k t = .ok ((k, 0, 0, 0), t) from by simp only [pOrder, if_neg hs_18, if_neg (not_or.mpr ⟨hs_19, hs_21⟩), if_neg hs_20, if_neg hs_22, if_neg hs_23, if_neg hs_24, if_neg hs_25]))], _, by exact PX_ok (show pOrder X H k t = .ok ((k, 0, 0, 0), t) from by simp only [pOrder, if_neg hs_18, if_neg (not_or.mpr ⟨hs_19, hs_21⟩), if_neg hs_20, if_neg hs_22, if_neg hs_23, if_neg hs_24, if_neg hs_25]) ⟨⟨FrA.refl S, fun _ _ => rfl, h0r.1, h0r.2.1, h0r.2.2.1, rfl, rfl, h0r.2.2.2⟩, hK⟩, rfl⟩
