set_option maxRecDepth 100000
set_option maxHeartbeats 4000000 in
theorem c_draw {g : GG} {S : MS} {n : Nat} {dr : Nat} (hdr : mI S 31 = nI dr) (hdb : dr < 65536) (hn : 0 < n) (hn2 : n < 1000000) : Mt g miX8_draw 1 [.int (nI n)] (S) (some (.int (nI (drawV dr / 8 % n)))) (sI S 31 (nI (drawV dr))) := by
  refine Mt.start (fun b => [some (.ref b), some (.int (nI n))]) plX8 rfl (fun b => (Nat.le_of_ble_eq_true rfl)) (fun b => rfl) ?_
  intro σ b
  refine w_aload_n dX8_draw_0 rfl ?_
  refine w_aload_n dX8_draw_1 rfl ?_
  refine mg_drawn dX8_draw_2 rfl ?_
  rw [hdr]
  refine w_sipush (v := nI 2843) dX8_draw_5 ks_2843 ?_
  refine w_imulN dX8_draw_8 ?_
  refine w_sipush (v := nI 10709) dX8_draw_9 ks_10709 ?_
  refine w_iaddN dX8_draw_12 ?_
  refine w_ldcw dX8_draw_13 q2260 ?_
  rw [show (65536 : Int32) = nI 65536 from rfl]
  refine w_iremN dX8_draw_16 (by omega) (by omega) (by omega) ?_
  rw [show (dr * 2843 + 10709) % 65536 = drawV dr from rfl]
  have hdl := drawV_lt dr
  refine mp_drawn dX8_draw_17 rfl ?_
  refine w_aload_n dX8_draw_20 rfl ?_
  refine mg_drawn dX8_draw_21 rfl ?_
  refine w_topN (n := drawV dr) rfl ?_
  refine w_bipush (v := nI 8) dX8_draw_24 kb_8 ?_
  refine w_idivN dX8_draw_26 (by omega) (by omega) (by omega) ?_
  refine w_iload_n dX8_draw_27 rfl ?_
  refine w_iremN dX8_draw_28 (by omega) (by omega) (by omega) ?_
  exact w_iret dX8_draw_29 rfl ⟨by rfl, by rfl⟩
/-- steps and loops are as they were -/
def Fr2 (S S2 : MS) : Prop := mI S2 32 = mI S 32 ∧ mA S2 33 = mA S 33
theorem Ch.f2 {S S2 : MS} {V2 : VS} (h : Ch S S2 V2) : Fr2 S S2 := ⟨h.fr.2.1 32, h.fr.2.2 33 (by omega)⟩
theorem bP_c {p q : Prop} [Decidable p] [Decidable q] (h : p ↔ q) : bP p = bP q := by
  by_cases hp : p
  · rw [bP_t hp, bP_t (h.mp hp)]
  · rw [bP_f hp, bP_f (fun z => hp (h.mpr z))]
set_option maxHeartbeats 800000 in
theorem c_gullComes {g : GG} {S : MS} {s : Nat} {V0 : VS} {R : RS} (ER : EncR S R) (OR : OkR V0 R) (hs : s ≤ 16) : Mp g miX8_gullComes 4 [.int (nI s)] (S) (none) (fun S2 => FrR S S2 ∧ EncR S2 (gcV R s) ∧ Fr2 S S2) := by
  refine Mp.start (fun b => [some (.ref b), some (.int (nI s)), none, none]) plX8 rfl (fun b => (Nat.le_of_ble_eq_true rfl)) (fun b => rfl) ?_
  intro σ b
  have E : Enc S R.1 := ER.1
  have K := OR.1
  have kb := K.b
  have hd1 := drawV_lt R.2.1
  have hd2 := drawV_lt (drawV R.2.1)
  have hd3 := drawV_lt (drawV (drawV R.2.1))
  refine w_aload_n dX8_gullComes_0 rfl ?_
  refine w_bipush (v := nI 16) dX8_gullComes_1 kb_16 ?_
  refine m_calli1 (mi := miX8_draw) dX8_gullComes_3 q2256 okX8_draw rfl (Nat.le_of_ble_eq_true rfl) (c_draw ER.2.1 OR.2.2.1 (by omega) (by omega)) (Nat.le_of_ble_eq_true rfl) ?_
  refine w_iload_n dX8_gullComes_6 rfl ?_
  refine w_icmpN_ge dX8_gullComes_7 rfl (by omega) (by omega) (fun h_7 => ?_) (fun h_7 => ?_)
  · exact w_vret dX8_gullComes_20 rfl ⟨by rfl, _, by rw [gcV, if_pos (by omega)]; exact ⟨FrR.i31 S _, ER.dr _, rfl, rfl⟩, rfl⟩
  · refine w_aload_n dX8_gullComes_10 rfl ?_
    refine mg_at dX8_gullComes_11 rfl ?_
    refine w_iconst (v := nI 2) dX8_gullComes_14 ki_2 ?_
    refine ma_at dX8_gullComes_15 (by omega) ?_
    refine w_topN (n := vs R.1 2) (E.s 2 (by omega)) ?_
    refine w_iconst (v := nI 2) dX8_gullComes_16 ki_2 ?_
    refine w_icmpN_ge dX8_gullComes_17 rfl (by omega) (by omega) (fun h_17 => ?_) (fun h_17 => ?_)
    · refine w_aload_n dX8_gullComes_21 rfl ?_
      refine w_aload_n dX8_gullComes_22 rfl ?_
      refine mg_at dX8_gullComes_23 rfl ?_
      refine w_iconst (v := nI 2) dX8_gullComes_26 ki_2 ?_
      refine ma_at dX8_gullComes_27 (by omega) ?_
      refine w_topN (n := vs R.1 2) (E.s 2 (by omega)) ?_
      refine m_calli1 (mi := miX8_draw) dX8_gullComes_28 q2256 okX8_draw rfl (Nat.le_of_ble_eq_true rfl) (c_draw rfl hd1 (by omega) (by omega)) (Nat.le_of_ble_eq_true rfl) ?_
      have hlt : drawV (drawV R.2.1) / 8 % vs R.1 2 < vs R.1 2 := Nat.mod_lt _ (by omega)
      refine w_istore_n dX8_gullComes_31 rfl (Nat.le_of_ble_eq_true rfl) ls_4_2 ?_
      refine w_aload_n dX8_gullComes_32 rfl ?_
      refine w_aload_n dX8_gullComes_33 rfl ?_
      refine mg_at dX8_gullComes_34 rfl ?_
      refine w_iconst (v := nI 2) dX8_gullComes_37 ki_2 ?_
      refine ma_at dX8_gullComes_38 (by omega) ?_
      refine w_topN (n := vs R.1 2) (E.s 2 (by omega)) ?_
      refine w_iconst (v := nI 1) dX8_gullComes_39 ki_1 ?_
      refine w_isubN dX8_gullComes_40 (by omega) ?_
      refine m_calli1 (mi := miX8_draw) dX8_gullComes_41 q2256 okX8_draw rfl (Nat.le_of_ble_eq_true rfl) (c_draw rfl hd2 (by omega) (by omega)) (Nat.le_of_ble_eq_true rfl) ?_
      have hlt2 : drawV (drawV (drawV R.2.1)) / 8 % (vs R.1 2 - 1) < vs R.1 2 - 1 := Nat.mod_lt _ (by omega)
      refine w_istore_n dX8_gullComes_44 rfl (Nat.le_of_ble_eq_true rfl) ls_4_3 ?_
      refine w_iload_n dX8_gullComes_45 rfl ?_
      refine w_iload_n dX8_gullComes_46 rfl ?_
      refine w_iload_n dX8_gullComes_47 rfl ?_
      refine w_icmpN_lt dX8_gullComes_48 rfl (by omega) (by omega) (fun h_48 => ?_) (fun h_48 => ?_)
      · refine w_iconst (v := nI 0) dX8_gullComes_55 ki_0 ?_
        have hgt : gTo (drawV (drawV R.2.1) / 8 % vs R.1 2) (drawV (drawV (drawV R.2.1)) / 8 % (vs R.1 2 - 1)) = drawV (drawV (drawV R.2.1)) / 8 % (vs R.1 2 - 1) + 0 := if_neg (by omega)
        refine w_iaddN dX8_gullComes_56 ?_
        rw [← hgt]
        have hgl : gTo (drawV (drawV R.2.1) / 8 % vs R.1 2) (drawV (drawV (drawV R.2.1)) / 8 % (vs R.1 2 - 1)) < vs R.1 2 := by omega
        have hgn : drawV (drawV R.2.1) / 8 % vs R.1 2 ≠ gTo (drawV (drawV R.2.1) / 8 % vs R.1 2) (drawV (drawV (drawV R.2.1)) / 8 % (vs R.1 2 - 1)) := by omega
        have hwl := wgV_lt R.1 (drawV (drawV R.2.1) / 8 % vs R.1 2) (gTo (drawV (drawV R.2.1) / 8 % vs R.1 2) (drawV (drawV (drawV R.2.1)) / 8 % (vs R.1 2 - 1)))
        refine w_istore_n dX8_gullComes_57 rfl (Nat.le_of_ble_eq_true rfl) ls_4_3 ?_
        refine w_aload_n dX8_gullComes_58 rfl ?_
        refine w_iload_n dX8_gullComes_59 rfl ?_
        refine w_iload_n dX8_gullComes_60 rfl ?_
        refine m_calli2 (mi := miX8_wrongGull) dX8_gullComes_61 q1975 okX8_wrongGull rfl (Nat.le_of_ble_eq_true rfl) (c_wrongGull E K hlt hgl) (Nat.le_of_ble_eq_true rfl) ?_
        refine w_ifN_le dX8_gullComes_64 rfl (by omega) (fun h_64 => ?_) (fun h_64 => ?_)
        · have hw0 := wgV_0 (V := R.1) (Nat.le_zero.mp h_64)
          refine w_aload_n dX8_gullComes_68 rfl ?_
          refine w_iload_n dX8_gullComes_69 rfl ?_
          refine w_iload_n dX8_gullComes_70 rfl ?_
          refine m_callPi2 (mi := miX8_carries) dX8_gullComes_71 q1979 okX8_carries rfl (Nat.le_of_ble_eq_true rfl) (c_carries E K hlt hgl hw0.1 hgn) (Nat.le_of_ble_eq_true rfl) (fun S71 hS71 => ?_)
          have hE4 := (((ER.dr (drawV R.2.1)).dr (drawV (drawV R.2.1))).dr (drawV (drawV (drawV R.2.1)))).ch hS71
          refine w_pop dX8_gullComes_74 rfl ?_
          refine w_aload_n dX8_gullComes_75 rfl ?_
          refine mg_ran dX8_gullComes_76 rfl ?_
          refine w_iconst (v := nI 1) dX8_gullComes_79 ki_1 ?_
          refine w_dup2 dX8_gullComes_80 rfl rfl ?_
          refine ma_ran dX8_gullComes_81 (by omega) ?_
          refine w_topN (n := R.2.2 1) (hE4.1.2.2 1 (by omega)) ?_
          refine w_iconst (v := nI 1) dX8_gullComes_82 ki_1 ?_
          refine w_iaddN dX8_gullComes_83 ?_
          refine ms_ran dX8_gullComes_84 (by omega) ?_
          exact w_vret dX8_gullComes_85 rfl ⟨by rfl, _, by rw [gcV, if_neg (by omega), if_pos (by omega)]; exact ⟨(FrR.i31 S _).trans ((FrR.i31 _ _).trans ((FrR.i31 _ _).trans (hE4.2.trans (FrR.cnt _ _ _)))), hE4.1.cnt (by omega) rfl, hS71.fr.2.1 32, hS71.fr.2.2 33 (by omega)⟩, rfl⟩
        · exact w_vret dX8_gullComes_67 rfl ⟨by rfl, _, by rw [gcV, if_neg (by omega), if_neg (by omega)]; exact ⟨(FrR.i31 S _).trans ((FrR.i31 _ _).trans (FrR.i31 _ _)), ((ER.dr _).dr _).dr _, rfl, rfl⟩, rfl⟩
      · refine w_iconst (v := nI 1) dX8_gullComes_51 ki_1 ?_
        have hgt : gTo (drawV (drawV R.2.1) / 8 % vs R.1 2) (drawV (drawV (drawV R.2.1)) / 8 % (vs R.1 2 - 1)) = drawV (drawV (drawV R.2.1)) / 8 % (vs R.1 2 - 1) + 1 := if_pos (by omega)
        refine w_goto dX8_gullComes_52 rfl ?_
        refine w_iaddN dX8_gullComes_56 ?_
        rw [← hgt]
        have hgl : gTo (drawV (drawV R.2.1) / 8 % vs R.1 2) (drawV (drawV (drawV R.2.1)) / 8 % (vs R.1 2 - 1)) < vs R.1 2 := by omega
        have hgn : drawV (drawV R.2.1) / 8 % vs R.1 2 ≠ gTo (drawV (drawV R.2.1) / 8 % vs R.1 2) (drawV (drawV (drawV R.2.1)) / 8 % (vs R.1 2 - 1)) := by omega
        have hwl := wgV_lt R.1 (drawV (drawV R.2.1) / 8 % vs R.1 2) (gTo (drawV (drawV R.2.1) / 8 % vs R.1 2) (drawV (drawV (drawV R.2.1)) / 8 % (vs R.1 2 - 1)))
        refine w_istore_n dX8_gullComes_57 rfl (Nat.le_of_ble_eq_true rfl) ls_4_3 ?_
        refine w_aload_n dX8_gullComes_58 rfl ?_
        refine w_iload_n dX8_gullComes_59 rfl ?_
        refine w_iload_n dX8_gullComes_60 rfl ?_
        refine m_calli2 (mi := miX8_wrongGull) dX8_gullComes_61 q1975 okX8_wrongGull rfl (Nat.le_of_ble_eq_true rfl) (c_wrongGull E K hlt hgl) (Nat.le_of_ble_eq_true rfl) ?_
        refine w_ifN_le dX8_gullComes_64 rfl (by omega) (fun h_64 => ?_) (fun h_64 => ?_)
        · have hw0 := wgV_0 (V := R.1) (Nat.le_zero.mp h_64)
          refine w_aload_n dX8_gullComes_68 rfl ?_
          refine w_iload_n dX8_gullComes_69 rfl ?_
          refine w_iload_n dX8_gullComes_70 rfl ?_
          refine m_callPi2 (mi := miX8_carries) dX8_gullComes_71 q1979 okX8_carries rfl (Nat.le_of_ble_eq_true rfl) (c_carries E K hlt hgl hw0.1 hgn) (Nat.le_of_ble_eq_true rfl) (fun S71 hS71 => ?_)
          have hE4 := (((ER.dr (drawV R.2.1)).dr (drawV (drawV R.2.1))).dr (drawV (drawV (drawV R.2.1)))).ch hS71
          refine w_pop dX8_gullComes_74 rfl ?_
          refine w_aload_n dX8_gullComes_75 rfl ?_
          refine mg_ran dX8_gullComes_76 rfl ?_
          refine w_iconst (v := nI 1) dX8_gullComes_79 ki_1 ?_
          refine w_dup2 dX8_gullComes_80 rfl rfl ?_
          refine ma_ran dX8_gullComes_81 (by omega) ?_
          refine w_topN (n := R.2.2 1) (hE4.1.2.2 1 (by omega)) ?_
          refine w_iconst (v := nI 1) dX8_gullComes_82 ki_1 ?_
          refine w_iaddN dX8_gullComes_83 ?_
          refine ms_ran dX8_gullComes_84 (by omega) ?_
          exact w_vret dX8_gullComes_85 rfl ⟨by rfl, _, by rw [gcV, if_neg (by omega), if_pos (by omega)]; exact ⟨(FrR.i31 S _).trans ((FrR.i31 _ _).trans ((FrR.i31 _ _).trans (hE4.2.trans (FrR.cnt _ _ _)))), hE4.1.cnt (by omega) rfl, hS71.fr.2.1 32, hS71.fr.2.2 33 (by omega)⟩, rfl⟩
        · exact w_vret dX8_gullComes_67 rfl ⟨by rfl, _, by rw [gcV, if_neg (by omega), if_neg (by omega)]; exact ⟨(FrR.i31 S _).trans ((FrR.i31 _ _).trans (FrR.i31 _ _)), ((ER.dr _).dr _).dr _, rfl, rfl⟩, rfl⟩
    · exact w_vret dX8_gullComes_20 rfl ⟨by rfl, _, by rw [gcV, if_pos (by omega)]; exact ⟨FrR.i31 S _, ER.dr _, rfl, rfl⟩, rfl⟩
