set_option maxRecDepth 100000
set_option maxHeartbeats 4000000 in
theorem c_oldOne {g : GG} {S : MS} {ba : Nat} {many : Nat} {to : Nat} {X : TX} {t : Tk} {nm : Nat → List Nat} (hT : TxS S X) (hK : TkS S t) (hO : OkT9 X t) (h0 : mI S 18 = nI 0) (hn : ∀ i, i < many → mB S 1 (ba + i) = lN (n256 (nm i)) ∧ NmW (nm i)) (hb9 : ba + many ≤ 80) (hto : 5600 ≤ to) (hto2 : to < 8400) : Mp g miX8_oldOne 7 [.int (nI ba), .int (nI many), .int (nI to)] (S) (some (.int (bP (okE (wOld X nm many t))))) (PX (wOld X nm many t) S (fun v S2 => FrK (sA S 0 to (nI v.1)) S2 ∧ TkS S2 v.2)) := by
  refine Mp.start (fun b => [some (.ref b), some (.int (nI ba)), some (.int (nI many)), some (.int (nI to))]) plX8 rfl (fun b => (Nat.le_of_ble_eq_true rfl)) (fun b => rfl) ?_
  intro σ b
  have hfl := nfd_le nm many (wd X t)
  refine w_aload_n dX8_oldOne_0 rfl ?_
  refine w_ldcS hx0 rfl rfl dX8_oldOne_1 ?_
  refine m_calli1 (mi := miX8_isName) dX8_oldOne_3 q1793 okX8_isName rfl (Nat.le_of_ble_eq_true rfl) (c_isName hT hK hO) (Nat.le_of_ble_eq_true rfl) ?_
  refine w_ifB_ne dX8_oldOne_6 rfl (fun h_6 => ?_) (fun h_6 => ?_)
  · refine w_aload_n dX8_oldOne_15 rfl ?_
    refine mg_at dX8_oldOne_16 rfl ?_
    refine w_iload_n dX8_oldOne_19 rfl ?_
    refine w_aload_n dX8_oldOne_20 rfl ?_
    refine w_iload_n dX8_oldOne_21 rfl ?_
    refine w_iload_n dX8_oldOne_22 rfl ?_
    refine m_calli2 (mi := miX8_findHere) dX8_oldOne_23 q1797 okX8_findHere rfl (Nat.le_of_ble_eq_true rfl) (c_findHere hT hK hO (wd_nm hO h_6) hn hb9) (Nat.le_of_ble_eq_true rfl) ?_
    refine ms_at dX8_oldOne_26 (by omega) ?_
    refine w_aload_n dX8_oldOne_27 rfl ?_
    refine mg_at dX8_oldOne_28 rfl ?_
    refine w_iload_n dX8_oldOne_31 rfl ?_
    refine ma_at dX8_oldOne_32 (by omega) ?_
    rw [show mA (sA S 0 to (fI (nfd nm many (wd X t)) many)) 0 to = fI (nfd nm many (wd X t)) many from upd_eq]
    refine w_iconst (v := (-1)) dX8_oldOne_33 ki_m1 ?_
    refine w_icmp_ne dX8_oldOne_34 rfl (fun h_34 => ?_) (fun h_34 => ?_)
    · have hlt : nfd nm many (wd X t) < many := by
        rcases Nat.lt_or_ge (nfd nm many (wd X t)) many with z | z
        · exact z
        · exact absurd ((fI_m1 hfl (by omega)).mpr (by omega)) h_34
      rw [show fI (nfd nm many (wd X t)) many = nI (nfd nm many (wd X t)) from if_pos hlt]
      refine w_aload_n dX8_oldOne_43 rfl ?_
      refine m_callPv0 (mi := miX8_ahead) dX8_oldOne_44 q1730 okX8_ahead rfl (Nat.le_of_ble_eq_true rfl) (c_aheadX (show TxS (sA S 0 to (nI (nfd nm many (wd X t)))) X from hT) (show TkS (sA S 0 to (nI (nfd nm many (wd X t)))) t from hK) hO) (Nat.le_of_ble_eq_true rfl) (fun S44 hS44 => ?_)
      refine w_iconst (v := nI 1) dX8_oldOne_47 ki_1 ?_
      exact w_zret dX8_oldOne_48 rfl (by first | exact narr0 | exact narr1) ⟨by rw [bP_t (okE_ok (show wOld X nm many t = .ok (nfd nm many (wd X t), nx X t) from by unfold wOld; rw [if_neg (fun z => z h_6), if_neg (by omega)]))], _, by exact PX_ok (show wOld X nm many t = .ok (nfd nm many (wd X t), nx X t) from by unfold wOld; rw [if_neg (fun z => z h_6), if_neg (by omega)]) hS44, rfl⟩
    · have heq : nfd nm many (wd X t) = many := (fI_m1 hfl (by omega)).mp h_34
      refine w_aload_n dX8_oldOne_37 rfl ?_
      refine w_iconst (v := nI 3) dX8_oldOne_38 ki_3 ?_
      refine m_callPi1 (mi := miX8_fails) dX8_oldOne_39 q1765 okX8_fails rfl (Nat.le_of_ble_eq_true rfl) (c_failsX (k := 3) (t := t) (show TkS (sA S 0 to (fI (nfd nm many (wd X t)) many)) t from hK) h0 (by omega) (by omega) hO.ok.2.2.1) (Nat.le_of_ble_eq_true rfl) (fun S39 hS39 => ?_)
      exact w_zret dX8_oldOne_42 rfl (by first | exact narr0 | exact narr1) ⟨by rw [bP_f (okE_er (show wOld X nm many t = .error (flt t 3) from by unfold wOld; rw [if_neg (fun z => z h_6), if_pos heq]))], _, by exact PX_er (show wOld X nm many t = .error (flt t 3) from by unfold wOld; rw [if_neg (fun z => z h_6), if_pos heq]) ⟨(FrP.A0 S _ hto).trans hS39.1, hS39.2⟩, rfl⟩
  · refine w_aload_n dX8_oldOne_9 rfl ?_
    refine w_iconst (v := nI 2) dX8_oldOne_10 ki_2 ?_
    refine m_callPi1 (mi := miX8_fails) dX8_oldOne_11 q1765 okX8_fails rfl (Nat.le_of_ble_eq_true rfl) (c_failsX (k := 2) (t := t) hK h0 (by omega) (by omega) hO.ok.2.2.1) (Nat.le_of_ble_eq_true rfl) (fun S11 hS11 => ?_)
    exact w_zret dX8_oldOne_14 rfl (by first | exact narr0 | exact narr1) ⟨by rw [bP_f (okE_er (show wOld X nm many t = .error (flt t 2) from if_pos h_6))], _, by exact PX_er (show wOld X nm many t = .error (flt t 2) from if_pos h_6) hS11, rfl⟩
set_option maxHeartbeats 4000000 in
theorem c_newOne {g : GG} {S : MS} {j : Nat} {most : Nat} {sr : Nat} {X : TX} {t : Tk} {B : BS} {cnt : Nat} (hT : TxS S X) (hK : TkS S t) (hO : OkT9 X t) (h0 : mI S 18 = nI 0) (EB : EncB S B) (OB : OkB B) (hc : mA S 0 (5600 + j) = nI cnt) (hj : j < 10) (hcm : cnt ≤ most) (hsr : sr + most ≤ 14) : Mp g miX8_newOne 7 [.int (nI j), .int (nI most), .int (nI sr)] (S) (some (.int (bP (okE (wNew X B cnt most t))))) (PX (wNew X B cnt most t) S (fun v S2 => FrK (sB S 1 (56 + sr + cnt) (lN (n256 v.1))) S2 ∧ TkS S2 v.2)) := by
  refine Mp.start (fun b => [some (.ref b), some (.int (nI j)), some (.int (nI most)), some (.int (nI sr))]) plX8 rfl (fun b => (Nat.le_of_ble_eq_true rfl)) (fun b => rfl) ?_
  intro σ b
  have hb6 := OB.b
  have hf1 := nfd_le B.nf (vs B.W 1) (wd X (nx X t))
  have hf2 := nfd_le B.nd (vs B.W 2) (wd X (nx X t))
  refine w_aload_n dX8_newOne_0 rfl ?_
  refine mg_at dX8_newOne_1 rfl ?_
  refine w_sipush (v := nI 5600) dX8_newOne_4 ks_5600 ?_
  refine w_iload_n dX8_newOne_7 rfl ?_
  refine w_iaddN dX8_newOne_8 ?_
  refine ma_at dX8_newOne_9 (by omega) ?_
  refine w_topN (n := cnt) hc ?_
  refine w_iload_n dX8_newOne_10 rfl ?_
  refine w_icmpN_ne dX8_newOne_11 rfl (by omega) (by omega) (fun h_11 => ?_) (fun h_11 => ?_)
  · refine w_aload_n dX8_newOne_21 rfl ?_
    refine m_callPv0 (mi := miX8_ahead) dX8_newOne_22 q1730 okX8_ahead rfl (Nat.le_of_ble_eq_true rfl) (c_aheadX hT hK hO) (Nat.le_of_ble_eq_true rfl) (fun S22 hS22 => ?_)
    have hT22 := hT.fr hS22.1
    have hO22 := hO.nx
    have EB22 := EB.frK hS22.1
    have h022 := (hS22.1.1 18 (by omega)).trans h0
    refine w_aload_n dX8_newOne_25 rfl ?_
    refine w_ldcS hx0 rfl rfl dX8_newOne_26 ?_
    refine m_calli1 (mi := miX8_isName) dX8_newOne_28 q1793 okX8_isName rfl (Nat.le_of_ble_eq_true rfl) (c_isName (t := (nx X t)) hT22 hS22.2 hO22) (Nat.le_of_ble_eq_true rfl) ?_
    refine w_ifB_ne dX8_newOne_31 rfl (fun h_31 => ?_) (fun h_31 => ?_)
    · refine w_aload_n dX8_newOne_40 rfl ?_
      refine w_bipush (v := nI 56) dX8_newOne_41 kb_56 ?_
      refine w_aload_n dX8_newOne_43 rfl ?_
      refine mg_at dX8_newOne_44 rfl ?_
      refine w_sipush (v := nI 5601) dX8_newOne_47 ks_5601 ?_
      refine ma_at dX8_newOne_50 (by omega) ?_
      refine w_topN (n := vs B.W 1) (EB22.s 1 (by omega)) ?_
      refine m_calli2 (mi := miX8_findHere) dX8_newOne_51 q1797 okX8_findHere rfl (Nat.le_of_ble_eq_true rfl) (c_findHere (nm := B.nf) hT22 hS22.2 hO22 (wd_nm hO22 h_31) (OB.f EB22) (by omega)) (Nat.le_of_ble_eq_true rfl) ?_
      refine w_iconst (v := (-1)) dX8_newOne_54 ki_m1 ?_
      refine w_icmp_ne dX8_newOne_55 rfl (fun h_55 => ?_) (fun h_55 => ?_)
      · have hdup : nfd B.nf (vs B.W 1) (wd X (nx X t)) < vs B.W 1 ∨ nfd B.nd (vs B.W 2) (wd X (nx X t)) < vs B.W 2 := by
          left
          rcases Nat.lt_or_ge (nfd B.nf (vs B.W 1) (wd X (nx X t))) (vs B.W 1) with z | z
          · exact z
          · exact absurd ((fI_m1 hf1 (by omega)).mpr (by omega)) h_55
        refine w_aload_n dX8_newOne_76 rfl ?_
        refine w_iconst (v := nI 3) dX8_newOne_77 ki_3 ?_
        refine m_callPi1 (mi := miX8_fails) dX8_newOne_78 q1765 okX8_fails rfl (Nat.le_of_ble_eq_true rfl) (c_failsX (k := 3) (t := (nx X t)) hS22.2 h022 (by omega) (by omega) hO22.ok.2.2.1) (Nat.le_of_ble_eq_true rfl) (fun S78 hS78 => ?_)
        exact w_zret dX8_newOne_81 rfl (by first | exact narr0 | exact narr1) ⟨by rw [bP_f (okE_er (show wNew X B cnt most t = .error (flt (nx X t) 3) from by unfold wNew; rw [if_neg h_11, if_neg (fun z => z h_31), if_pos hdup]))], _, by exact PX_er (show wNew X B cnt most t = .error (flt (nx X t) 3) from by unfold wNew; rw [if_neg h_11, if_neg (fun z => z h_31), if_pos hdup]) ⟨hS22.1.P.trans hS78.1, hS78.2⟩, rfl⟩
      · have hn1 := (fI_m1 hf1 (by omega)).mp h_55
        refine w_aload_n dX8_newOne_58 rfl ?_
        refine w_bipush (v := nI 62) dX8_newOne_59 kb_62 ?_
        refine w_aload_n dX8_newOne_61 rfl ?_
        refine mg_at dX8_newOne_62 rfl ?_
        refine w_sipush (v := nI 5602) dX8_newOne_65 ks_5602 ?_
        refine ma_at dX8_newOne_68 (by omega) ?_
        refine w_topN (n := vs B.W 2) (EB22.s 2 (by omega)) ?_
        refine m_calli2 (mi := miX8_findHere) dX8_newOne_69 q1797 okX8_findHere rfl (Nat.le_of_ble_eq_true rfl) (c_findHere (nm := B.nd) hT22 hS22.2 hO22 (wd_nm hO22 h_31) (OB.d EB22) (by omega)) (Nat.le_of_ble_eq_true rfl) ?_
        refine w_iconst (v := (-1)) dX8_newOne_72 ki_m1 ?_
        refine w_icmp_eq dX8_newOne_73 rfl (fun h_73 => ?_) (fun h_73 => ?_)
        · have hn2 := (fI_m1 hf2 (by omega)).mp h_73
          refine w_aload_n dX8_newOne_82 rfl ?_
          refine mg_names dX8_newOne_83 rfl ?_
          refine w_bipush (v := nI 56) dX8_newOne_86 kb_56 ?_
          refine w_iload_n dX8_newOne_88 rfl ?_
          refine w_iaddN dX8_newOne_89 ?_
          refine w_aload_n dX8_newOne_90 rfl ?_
          refine mg_at dX8_newOne_91 rfl ?_
          refine w_sipush (v := nI 5600) dX8_newOne_94 ks_5600 ?_
          refine w_iload_n dX8_newOne_97 rfl ?_
          refine w_iaddN dX8_newOne_98 ?_
          refine ma_at dX8_newOne_99 (by omega) ?_
          refine w_topN (n := cnt) (by rw [hS22.1.A]; exact hc) ?_
          refine w_iaddN dX8_newOne_100 ?_
          refine w_aload_n dX8_newOne_101 rfl ?_
          refine m_calll0 (mi := miX8_nameHere) dX8_newOne_102 q1801 okX8_nameHere rfl (Nat.le_of_ble_eq_true rfl) (c_nameHere (t := (nx X t)) hT22 hS22.2 hO22) (Nat.le_of_ble_eq_true rfl) ?_
          refine ms_names dX8_newOne_105 (by omega) ?_
          refine w_aload_n dX8_newOne_106 rfl ?_
          refine m_callPv0 (mi := miX8_ahead) dX8_newOne_107 q1730 okX8_ahead rfl (Nat.le_of_ble_eq_true rfl) (c_aheadX (show TxS (sB S22 1 (56 + sr + cnt) (lN (n256 (wd X (nx X t))))) X from hT22) (show TkS (sB S22 1 (56 + sr + cnt) (lN (n256 (wd X (nx X t))))) (nx X t) from hS22.2) hO22) (Nat.le_of_ble_eq_true rfl) (fun S107 hS107 => ?_)
          refine w_iconst (v := nI 1) dX8_newOne_110 ki_1 ?_
          exact w_zret dX8_newOne_111 rfl (by first | exact narr0 | exact narr1) ⟨by rw [bP_t (okE_ok (show wNew X B cnt most t = .ok (wd X (nx X t), nx X (nx X t)) from by unfold wNew; rw [if_neg h_11, if_neg (fun z => z h_31), if_neg (by omega)]))], _, by exact PX_ok (show wNew X B cnt most t = .ok (wd X (nx X t), nx X (nx X t)) from by unfold wNew; rw [if_neg h_11, if_neg (fun z => z h_31), if_neg (by omega)]) ⟨(hS22.1.sB 1 _ _).trans hS107.1, hS107.2⟩, rfl⟩
        · have hdup : nfd B.nf (vs B.W 1) (wd X (nx X t)) < vs B.W 1 ∨ nfd B.nd (vs B.W 2) (wd X (nx X t)) < vs B.W 2 := by
            right
            rcases Nat.lt_or_ge (nfd B.nd (vs B.W 2) (wd X (nx X t))) (vs B.W 2) with z | z
            · exact z
            · exact absurd ((fI_m1 hf2 (by omega)).mpr (by omega)) h_73
          refine w_aload_n dX8_newOne_76 rfl ?_
          refine w_iconst (v := nI 3) dX8_newOne_77 ki_3 ?_
          refine m_callPi1 (mi := miX8_fails) dX8_newOne_78 q1765 okX8_fails rfl (Nat.le_of_ble_eq_true rfl) (c_failsX (k := 3) (t := (nx X t)) hS22.2 h022 (by omega) (by omega) hO22.ok.2.2.1) (Nat.le_of_ble_eq_true rfl) (fun S78 hS78 => ?_)
          exact w_zret dX8_newOne_81 rfl (by first | exact narr0 | exact narr1) ⟨by rw [bP_f (okE_er (show wNew X B cnt most t = .error (flt (nx X t) 3) from by unfold wNew; rw [if_neg h_11, if_neg (fun z => z h_31), if_pos hdup]))], _, by exact PX_er (show wNew X B cnt most t = .error (flt (nx X t) 3) from by unfold wNew; rw [if_neg h_11, if_neg (fun z => z h_31), if_pos hdup]) ⟨hS22.1.P.trans hS78.1, hS78.2⟩, rfl⟩
    · refine w_aload_n dX8_newOne_34 rfl ?_
      refine w_iconst (v := nI 2) dX8_newOne_35 ki_2 ?_
      refine m_callPi1 (mi := miX8_fails) dX8_newOne_36 q1765 okX8_fails rfl (Nat.le_of_ble_eq_true rfl) (c_failsX (k := 2) (t := (nx X t)) hS22.2 h022 (by omega) (by omega) hO22.ok.2.2.1) (Nat.le_of_ble_eq_true rfl) (fun S36 hS36 => ?_)
      exact w_zret dX8_newOne_39 rfl (by first | exact narr0 | exact narr1) ⟨by rw [bP_f (okE_er (show wNew X B cnt most t = .error (flt (nx X t) 2) from by unfold wNew; rw [if_neg h_11, if_pos h_31]))], _, by exact PX_er (show wNew X B cnt most t = .error (flt (nx X t) 2) from by unfold wNew; rw [if_neg h_11, if_pos h_31]) ⟨hS22.1.P.trans hS36.1, hS36.2⟩, rfl⟩
  · refine w_aload_n dX8_newOne_14 rfl ?_
    refine w_bipush (v := nI 6) dX8_newOne_15 kb_6 ?_
    refine m_callPi1 (mi := miX8_fails) dX8_newOne_17 q1765 okX8_fails rfl (Nat.le_of_ble_eq_true rfl) (c_failsX (k := 6) (t := t) hK h0 (by omega) (by omega) hO.ok.2.2.1) (Nat.le_of_ble_eq_true rfl) (fun S17 hS17 => ?_)
    exact w_zret dX8_newOne_20 rfl (by first | exact narr0 | exact narr1) ⟨by rw [bP_f (okE_er (show wNew X B cnt most t = .error (flt t 6) from if_pos h_11))], _, by exact PX_er (show wNew X B cnt most t = .error (flt t 6) from if_pos h_11) hS17, rfl⟩
set_option maxHeartbeats 4000000 in
theorem c_atCell {g : GG} {S : MS} {to : Nat} {X : TX} {t : Tk} {B : BS} (hT : TxS S X) (hK : TkS S t) (hO : OkT9 X t) (h0 : mI S 18 = nI 0) (EB : EncB S B) (OB : OkB B) (hto : 5600 ≤ to) (hto2 : to < 8400) : Mp g miX8_atCell 7 [.int (nI to)] (S) (some (.int (bP (okE (pCell X B t))))) (PX (pCell X B t) S (fun v S2 => FrK (sA S 0 to (nI v.1)) S2 ∧ TkS S2 v.2)) := by
  refine Mp.start (fun b => [some (.ref b), some (.int (nI to))]) plX8 rfl (fun b => (Nat.le_of_ble_eq_true rfl)) (fun b => rfl) ?_
  intro σ b
  have hb6 := OB.b
  refine w_aload_n dX8_atCell_0 rfl ?_
  refine w_ldcS hx0 rfl rfl dX8_atCell_1 ?_
  refine w_bipush (v := nI 7) dX8_atCell_3 kb_7 ?_
  refine m_callPi2 (mi := miX8_wantWord) dX8_atCell_5 q1755 okX8_wantWord rfl (Nat.le_of_ble_eq_true rfl) (c_wantWord hT hK hO h0 (by omega)) (Nat.le_of_ble_eq_true rfl) (fun S5 hS5 => ?_)
  refine w_ifB_eq dX8_atCell_8 rfl (fun h_8 => ?_) (fun h_8 => ?_)
  · obtain ⟨f9, e9⟩ := okE_f h_8
    have ee : pCell X B t = .error f9 := by simp only [pCell, e9, bind, Except.bind]
    have hx := PX_f hS5 e9
    refine w_iconst (v := nI 0) dX8_atCell_34 ki_0 ?_
    exact w_zret dX8_atCell_35 rfl (by first | exact narr0 | exact narr1) ⟨by rw [bP_f (okE_er (ee))], _, by exact PX_er ee hx, rfl⟩
  · obtain ⟨t1, e1⟩ := okE_t h_8
    have a1 := PX_t hS5 e1
    have o1 := (wWord_pg hO e1).1
    have hT1 := hT.fr a1.1
    have EB1 := EB.frK a1.1
    have h01 := (a1.1.1 18 (by omega)).trans h0
    refine w_aload_n dX8_atCell_11 rfl ?_
    refine w_iload_n dX8_atCell_12 rfl ?_
    refine w_iconst (v := nI 0) dX8_atCell_13 ki_0 ?_
    refine w_aload_n dX8_atCell_14 rfl ?_
    refine mg_at dX8_atCell_15 rfl ?_
    refine w_sipush (v := nI 5600) dX8_atCell_18 ks_5600 ?_
    refine ma_at dX8_atCell_21 (by omega) ?_
    refine w_topN (n := vs B.W 0) (EB1.s 0 (by omega)) ?_
    refine w_iconst (v := nI 1) dX8_atCell_22 ki_1 ?_
    refine w_isubN dX8_atCell_23 (by omega) ?_
    refine m_callPi3 (mi := miX8_number) dX8_atCell_24 q1769 okX8_number rfl (Nat.le_of_ble_eq_true rfl) (c_number hT1 a1.2 o1 h01 (by omega) (by omega) (by omega)) (Nat.le_of_ble_eq_true rfl) (fun S24 hS24 => ?_)
    refine w_ifB_eq dX8_atCell_27 rfl (fun h_27 => ?_) (fun h_27 => ?_)
    · obtain ⟨f9, e9⟩ := okE_f h_27
      have ee : pCell X B t = .error f9 := by simp only [pCell, e1, e9, bind, Except.bind]
      have hx0 := PX_f hS24 e9
      have hx := And.intro (a1.1.P.trans hx0.1) hx0.2
      refine w_iconst (v := nI 0) dX8_atCell_34 ki_0 ?_
      exact w_zret dX8_atCell_35 rfl (by first | exact narr0 | exact narr1) ⟨by rw [bP_f (okE_er (ee))], _, by exact PX_er ee hx, rfl⟩
    · obtain ⟨v2, e2⟩ := okE_t h_27
      have ee : pCell X B t = .ok v2 := by simp only [pCell, e1, e2, bind, Except.bind]
      have a2 := PX_t hS24 e2
      refine w_iconst (v := nI 1) dX8_atCell_30 ki_1 ?_
      refine w_goto dX8_atCell_31 rfl ?_
      exact w_zret dX8_atCell_35 rfl (by first | exact narr0 | exact narr1) ⟨by rw [bP_t (okE_ok (ee))], _, by exact PX_ok ee ⟨(a1.1.sA 0 _ _).trans a2.1, a2.2⟩, rfl⟩
