set_option maxRecDepth 100000
set_option maxHeartbeats 4000000 in
theorem vX15_draw {g : GG} {C : CS} {j la da : Nat} {s : XS} {n : Nat} (B : LvOk g C j la da s) (hdb : s.R.2.1 < 65536) (hn : 0 < n) (hn2 : n < 1000000) : Cp g miX15_draw 1 (0) (0) [.ref la, .int (nI n)] C (some (.int (nI (drawV s.R.2.1 / 8 % n)))) (fun C2 => LvOk g C2 j la da (((s.R.1, drawV s.R.2.1, s.R.2.2), s.q, s.n, s.o)) ∧ SL j C C2) := by
  refine Cp.start [some (.ref la), some (.int (nI n))] (by decide +kernel) rfl (Nat.le_of_ble_eq_true rfl) rfl ?_
  intro σ0 σ H F
  refine w_aload_n dX15_draw_0 rfl ?_
  refine w_aload_n dX15_draw_1 rfl ?_
  refine lvg0 (f := 1) (v := .int (nI (XS.R (s)).2.1)) dX15_draw_2 (by decide) q1423 B H rfl ?_
  refine w_sipush (v := nI 2843) dX15_draw_5 ks_2843 ?_
  refine w_imulN dX15_draw_8 ?_
  refine w_sipush (v := nI 10709) dX15_draw_9 ks_10709 ?_
  refine w_iaddN dX15_draw_12 ?_
  refine w_ldc dX15_draw_13 q1497 ?_
  rw [show (65536 : Int32) = nI 65536 from rfl]
  refine w_iremN dX15_draw_15 (by omega) (by omega) (by omega) ?_
  rw [show (s.R.2.1 * 2843 + 10709) % 65536 = drawV s.R.2.1 from rfl]
  have hdl := drawV_lt s.R.2.1
  refine lvp0 (f := 1) (s := s) (((s.R.1, drawV s.R.2.1, s.R.2.2), s.q, s.n, s.o)) dX15_draw_16 (by decide) q1423 rfl rfl rfl B H F rfl rfl rfl ?_
  intro σ C16 B16 S16 H F
  refine w_aload_n dX15_draw_19 rfl ?_
  refine lvg0 (f := 1) (v := .int (nI (XS.R (((s.R.1, drawV s.R.2.1, s.R.2.2), s.q, s.n, s.o))).2.1)) dX15_draw_20 (by decide) q1423 B16 H rfl ?_
  refine w_topN (n := drawV s.R.2.1) rfl ?_
  refine w_bipush (v := nI 8) dX15_draw_23 kb_8 ?_
  refine w_idivN dX15_draw_25 (by omega) (by omega) (by omega) ?_
  refine w_iload_n dX15_draw_26 rfl ?_
  refine w_iremN dX15_draw_27 (by omega) (by omega) (by omega) ?_
  exact w_iret dX15_draw_28 rfl ⟨by rfl, _, ⟨by exact B16, S16⟩, H, F⟩
set_option maxHeartbeats 4000000 in
theorem vX14_gulls {g : GG} {C : CS} {j la da : Nat} {s : XS} {sa : Nat} {V0 : VS} {w x : Int32} {y : Nat} (B : LvOk g C j la da s) (OR : OkR V0 s.R) (hz : oZ C sa = some (.inr (12, [.int w, .int x, .int (nI y)]))) (hy16 : y ≤ 16) : Cp g miX14_gulls 4 ((pq s.q - pq (gcQ s.R s.q y)) / 2) (4 * (pq s.q - pq (gcQ s.R s.q y))) [.ref sa, .ref la, .ref da] C (none) (fun C2 => LvOk g C2 j la da ((gcV s.R y, gcQ s.R s.q y, s.n, s.o)) ∧ SL j C C2) := by
  refine Cp.start [some (.ref sa), some (.ref la), some (.ref da), none, none] (by decide +kernel) rfl (Nat.le_of_ble_eq_true rfl) rfl ?_
  intro σ0 σ H F
  have K := OR.1
  have kb := K.b
  have hd1 := drawV_lt s.R.2.1
  have hd2 := drawV_lt (drawV s.R.2.1)
  have hd3 := drawV_lt (drawV (drawV s.R.2.1))
  refine w_aload_n dX14_gulls_0 rfl ?_
  refine w_bipush (v := nI 16) dX14_gulls_1 kb_16 ?_
  refine cp_call (kc := (pq s.q - pq (gcQ s.R s.q y)) / 2) (ks := 4 * (pq s.q - pq (gcQ s.R s.q y))) (mc2 := 0) (ms2 := 0) (mi := miX15_draw) dX14_gulls_3 q1493 okX15_draw clX15 rfl (lv_cell B H) (Nat.le_of_ble_eq_true rfl) (vX15_draw (C := C) B OR.2.2.1 (by omega) (by omega)) H F rfl rfl (Nat.le_of_ble_eq_true rfl) ?_
  rintro σ C3 ⟨B3, S3⟩ H F
  refine w_aload_n dX14_gulls_6 rfl ?_
  refine w_getf (k := 2) dX14_gulls_7 clX14 (by decide) q992 (H.z (by rw [SL.oz (S3)]; exact hz)) rfl ?_
  refine w_icmpN_ge dX14_gulls_10 rfl (by omega) (by omega) (fun h_10 => ?_) (fun h_10 => ?_)
  · exact w_vret dX14_gulls_24 rfl ⟨by rfl, _, ⟨by rw [gcV, gcQ, if_pos (by omega), if_pos (by omega)]; exact B3, S3⟩, H, F⟩
  · refine w_aload_n dX14_gulls_13 rfl ?_
    refine w_ref B3.hda ?_
    refine gX14_96 (C := C3) dX14_gulls_14 rfl B3.on H ?_
    refine gX14_100 (C := C3) dX14_gulls_17 rfl B3.E H ?_
    refine w_topN (n := vs s.R.1 2) rfl ?_
    refine w_iconst (v := nI 2) dX14_gulls_20 ki_2 ?_
    refine w_icmpN_ge dX14_gulls_21 rfl (by omega) (by omega) (fun h_21 => ?_) (fun h_21 => ?_)
    · refine w_aload_n dX14_gulls_25 rfl ?_
      refine w_aload_n dX14_gulls_26 rfl ?_
      refine w_ref B3.hda ?_
      refine gX14_96 (C := C3) dX14_gulls_27 rfl B3.on H ?_
      refine gX14_100 (C := C3) dX14_gulls_30 rfl B3.E H ?_
      refine w_topN (n := vs s.R.1 2) rfl ?_
      refine cp_call (kc := (pq s.q - pq (gcQ s.R s.q y)) / 2) (ks := 4 * (pq s.q - pq (gcQ s.R s.q y))) (mc2 := 0) (ms2 := 0) (mi := miX15_draw) dX14_gulls_33 q1493 okX15_draw clX15 rfl (lv_cell B3 H) (Nat.le_of_ble_eq_true rfl) (vX15_draw (C := C3) B3 (drawV_lt _) (by omega) (by omega)) H F rfl rfl (Nat.le_of_ble_eq_true rfl) ?_
      rintro σ C33 ⟨B33, S33⟩ H F
      refine w_topN (n := drawV (drawV s.R.2.1) / 8 % vs s.R.1 2) rfl ?_
      have hlt : drawV (drawV s.R.2.1) / 8 % vs s.R.1 2 < vs s.R.1 2 := Nat.mod_lt _ (by omega)
      refine w_istore_n dX14_gulls_36 rfl (Nat.le_of_ble_eq_true rfl) ls_5_3 ?_
      refine w_aload_n dX14_gulls_37 rfl ?_
      refine w_aload_n dX14_gulls_38 rfl ?_
      refine w_ref B33.hda ?_
      refine gX14_96 (C := C33) dX14_gulls_39 rfl B33.on H ?_
      refine gX14_100 (C := C33) dX14_gulls_42 rfl B33.E H ?_
      refine w_topN (n := vs s.R.1 2) rfl ?_
      refine w_iconst (v := nI 1) dX14_gulls_45 ki_1 ?_
      refine w_isubN dX14_gulls_46 (by omega) ?_
      refine cp_call (kc := (pq s.q - pq (gcQ s.R s.q y)) / 2) (ks := 4 * (pq s.q - pq (gcQ s.R s.q y))) (mc2 := 0) (ms2 := 0) (mi := miX15_draw) dX14_gulls_47 q1493 okX15_draw clX15 rfl (lv_cell B33 H) (Nat.le_of_ble_eq_true rfl) (vX15_draw (C := C33) B33 (drawV_lt _) (by omega) (by omega)) H F rfl rfl (Nat.le_of_ble_eq_true rfl) ?_
      rintro σ C47 ⟨B47, S47⟩ H F
      refine w_topN (n := drawV (drawV (drawV s.R.2.1)) / 8 % (vs s.R.1 2 - 1)) rfl ?_
      have hlt2 : drawV (drawV (drawV s.R.2.1)) / 8 % (vs s.R.1 2 - 1) < vs s.R.1 2 - 1 := Nat.mod_lt _ (by omega)
      refine w_istore dX14_gulls_50 rfl (Nat.le_of_ble_eq_true rfl) ls_5_4 ?_
      refine w_iload dX14_gulls_52 rfl ?_
      refine w_iload_n dX14_gulls_54 rfl ?_
      refine w_icmpN_lt dX14_gulls_55 rfl (by omega) (by omega) (fun h_55 => ?_) (fun h_55 => ?_)
      · have hgt : gTo (drawV (drawV s.R.2.1) / 8 % vs s.R.1 2) (drawV (drawV (drawV s.R.2.1)) / 8 % (vs s.R.1 2 - 1)) = drawV (drawV (drawV s.R.2.1)) / 8 % (vs s.R.1 2 - 1) := if_neg (by omega)
        rw [← hgt]
        have hgl : gTo (drawV (drawV s.R.2.1) / 8 % vs s.R.1 2) (drawV (drawV (drawV s.R.2.1)) / 8 % (vs s.R.1 2 - 1)) < vs s.R.1 2 := by omega
        have hgn : drawV (drawV s.R.2.1) / 8 % vs s.R.1 2 ≠ gTo (drawV (drawV s.R.2.1) / 8 % vs s.R.1 2) (drawV (drawV (drawV s.R.2.1)) / 8 % (vs s.R.1 2 - 1)) := by omega
        refine w_aload_n dX14_gulls_61 rfl ?_
        refine w_iload_n dX14_gulls_62 rfl ?_
        refine w_iload dX14_gulls_63 rfl ?_
        refine cr_call (mi := miX5_canGull) dX14_gulls_65 q1498 okX5_canGull clX5 rfl (lv_day B47 H) (Nat.le_of_ble_eq_true rfl) (Cr.at_ B47.hda (kX5_canGull (C := C47) B47.on B47.E K hlt hgl)) H rfl rfl (Nat.le_of_ble_eq_true rfl) ?_
        refine w_ifB_ne dX14_gulls_68 rfl (fun h_68 => ?_) (fun h_68 => ?_)
        · have h68 : (drawV (drawV s.R.2.1) / 8 % vs s.R.1 2) ≠ (gTo (drawV (drawV s.R.2.1) / 8 % vs s.R.1 2) (drawV (drawV (drawV s.R.2.1)) / 8 % (vs s.R.1 2 - 1))) ∧ isT s.R.1 (drawV (drawV s.R.2.1) / 8 % vs s.R.1 2) ∧ isT s.R.1 (gTo (drawV (drawV s.R.2.1) / 8 % vs s.R.1 2) (drawV (drawV (drawV s.R.2.1)) / 8 % (vs s.R.1 2 - 1))) ∧ 0 < vt s.R.1 7 (drawV (drawV s.R.2.1) / 8 % vs s.R.1 2) := h_68
          have hw : wgV s.R.1 (drawV (drawV s.R.2.1) / 8 % vs s.R.1 2) (gTo (drawV (drawV s.R.2.1) / 8 % vs s.R.1 2) (drawV (drawV (drawV s.R.2.1)) / 8 % (vs s.R.1 2 - 1))) = 0 := by rw [wgV, if_neg (by omega), if_pos ⟨h68.2.1, h68.2.2.1⟩]
          have hn6 := gull60 K (d := (drawV (drawV s.R.2.1) / 8 % vs s.R.1 2)) (e := (gTo (drawV (drawV s.R.2.1) / 8 % vs s.R.1 2) (drawV (drawV (drawV s.R.2.1)) / 8 % (vs s.R.1 2 - 1)))) (by omega) (by omega) hgn h68.2.2.2
          have hq : gcQ s.R s.q y = capU s.R.1 s.q (gTo (drawV (drawV s.R.2.1) / 8 % vs s.R.1 2) (drawV (drawV (drawV s.R.2.1)) / 8 % (vs s.R.1 2 - 1))) := by rw [gcQ, if_neg (by omega), if_pos hw]
          refine w_aload_n dX14_gulls_72 rfl ?_
          refine w_iload_n dX14_gulls_73 rfl ?_
          refine w_iload dX14_gulls_74 rfl ?_
          have hcc := cap_cost (V := s.R.1) (q := s.q) (d := (gTo (drawV (drawV s.R.2.1) / 8 % vs s.R.1 2) (drawV (drawV (drawV s.R.2.1)) / 8 % (vs s.R.1 2 - 1)))) (by omega) (EncD.half (g := g) (C := C47) (j := j) (V := s.R.1) (q := s.q) B47.E (by omega) hn6)
          refine w_bud (kc2 := 0 + (if vt s.R.1 7 (gTo (drawV (drawV s.R.2.1) / 8 % vs s.R.1 2) (drawV (drawV (drawV s.R.2.1)) / 8 % (vs s.R.1 2 - 1))) = s.q (gTo (drawV (drawV s.R.2.1) / 8 % vs s.R.1 2) (drawV (drawV (drawV s.R.2.1)) / 8 % (vs s.R.1 2 - 1))) then 2 else 0)) (ks2 := 0 + (if vt s.R.1 7 (gTo (drawV (drawV s.R.2.1) / 8 % vs s.R.1 2) (drawV (drawV (drawV s.R.2.1)) / 8 % (vs s.R.1 2 - 1))) = s.q (gTo (drawV (drawV s.R.2.1) / 8 % vs s.R.1 2) (drawV (drawV (drawV s.R.2.1)) / 8 % (vs s.R.1 2 - 1))) then 4 * s.q (gTo (drawV (drawV s.R.2.1) / 8 % vs s.R.1 2) (drawV (drawV (drawV s.R.2.1)) / 8 % (vs s.R.1 2 - 1))) else 0)) (by rw [hq, Nat.zero_add]; exact hcc.1) (by rw [hq, Nat.zero_add]; exact hcc.2) ?_
          refine cp_call (kc := 0) (ks := 0) (mc2 := if vt s.R.1 7 (gTo (drawV (drawV s.R.2.1) / 8 % vs s.R.1 2) (drawV (drawV (drawV s.R.2.1)) / 8 % (vs s.R.1 2 - 1))) = s.q (gTo (drawV (drawV s.R.2.1) / 8 % vs s.R.1 2) (drawV (drawV (drawV s.R.2.1)) / 8 % (vs s.R.1 2 - 1))) then 2 else 0) (ms2 := if vt s.R.1 7 (gTo (drawV (drawV s.R.2.1) / 8 % vs s.R.1 2) (drawV (drawV (drawV s.R.2.1)) / 8 % (vs s.R.1 2 - 1))) = s.q (gTo (drawV (drawV s.R.2.1) / 8 % vs s.R.1 2) (drawV (drawV (drawV s.R.2.1)) / 8 % (vs s.R.1 2 - 1))) then 4 * s.q (gTo (drawV (drawV s.R.2.1) / 8 % vs s.R.1 2) (drawV (drawV (drawV s.R.2.1)) / 8 % (vs s.R.1 2 - 1))) else 0) (mi := miX5_gull) dX14_gulls_76 q1499 okX5_gull clX5 rfl (lv_day B47 H) (Nat.le_of_ble_eq_true rfl) (Cp.at_ B47.hda (kX5_gull (C := C47) B47.on B47.E K hlt hgl hgn h68.2.2.2 hn6 B47.l90)) H F rfl rfl (Nat.le_of_ble_eq_true rfl) ?_
          rintro σ C76 ⟨E76, D76⟩ H F
          have B76 := LvOk.day B47 E76 D76
          refine w_pop dX14_gulls_79 rfl ?_
          refine w_aload_n dX14_gulls_80 rfl ?_
          refine w_dup dX14_gulls_81 rfl ?_
          refine lvg (f := 4) (v := .int (nI (cnt (XS.R (((gullV s.R.1 (drawV (drawV s.R.2.1) / 8 % vs s.R.1 2) (gTo (drawV (drawV s.R.2.1) / 8 % vs s.R.1 2) (drawV (drawV (drawV s.R.2.1)) / 8 % (vs s.R.1 2 - 1))), drawV (drawV (drawV s.R.2.1)), s.R.2.2), capU s.R.1 s.q (gTo (drawV (drawV s.R.2.1) / 8 % vs s.R.1 2) (drawV (drawV (drawV s.R.2.1)) / 8 % (vs s.R.1 2 - 1))), s.n, s.o))) 1))) dX14_gulls_82 (by decide) q1428 B76 H rfl ?_
          refine w_iconst (v := nI 1) dX14_gulls_85 ki_1 ?_
          refine w_iaddN dX14_gulls_86 ?_
          refine lvp (f := 4) (s := ((gullV s.R.1 (drawV (drawV s.R.2.1) / 8 % vs s.R.1 2) (gTo (drawV (drawV s.R.2.1) / 8 % vs s.R.1 2) (drawV (drawV (drawV s.R.2.1)) / 8 % (vs s.R.1 2 - 1))), drawV (drawV (drawV s.R.2.1)), s.R.2.2), capU s.R.1 s.q (gTo (drawV (drawV s.R.2.1) / 8 % vs s.R.1 2) (drawV (drawV (drawV s.R.2.1)) / 8 % (vs s.R.1 2 - 1))), s.n, s.o)) ((upC (gullV s.R.1 (drawV (drawV s.R.2.1) / 8 % vs s.R.1 2) (gTo (drawV (drawV s.R.2.1) / 8 % vs s.R.1 2) (drawV (drawV (drawV s.R.2.1)) / 8 % (vs s.R.1 2 - 1))), drawV (drawV (drawV s.R.2.1)), s.R.2.2) 1 1, capU s.R.1 s.q (gTo (drawV (drawV s.R.2.1) / 8 % vs s.R.1 2) (drawV (drawV (drawV s.R.2.1)) / 8 % (vs s.R.1 2 - 1))), s.n, s.o)) dX14_gulls_87 (by decide) q1428 rfl rfl rfl B76 H F rfl rfl rfl ?_
          intro σ C87 B87 S87 H F
          exact w_vret dX14_gulls_90 rfl ⟨by rfl, _, ⟨by rw [gcV, gcQ, if_neg (by omega), if_pos hw, if_neg (by omega), if_pos hw]; exact B87, ((((S3).trans S33).trans S47).trans D76.L).trans S87⟩, H, F⟩
        · have hw : ¬ wgV s.R.1 (drawV (drawV s.R.2.1) / 8 % vs s.R.1 2) (gTo (drawV (drawV s.R.2.1) / 8 % vs s.R.1 2) (drawV (drawV (drawV s.R.2.1)) / 8 % (vs s.R.1 2 - 1))) = 0 := fun z => h_68 ⟨hgn, (wgV_0 z).2.1, (wgV_0 z).2.2, (wgV_0 z).1⟩
          exact w_vret dX14_gulls_71 rfl ⟨by rfl, _, ⟨by rw [gcV, gcQ, if_neg (by omega), if_neg hw, if_neg (by omega), if_neg hw]; exact B47, ((S3).trans S33).trans S47⟩, H, F⟩
      · refine w_iinc dX14_gulls_58 rfl (nI_inc _ 1) rfl (Nat.le_of_ble_eq_true rfl) ls_5_4 ?_
        have hgt : gTo (drawV (drawV s.R.2.1) / 8 % vs s.R.1 2) (drawV (drawV (drawV s.R.2.1)) / 8 % (vs s.R.1 2 - 1)) = drawV (drawV (drawV s.R.2.1)) / 8 % (vs s.R.1 2 - 1) + 1 := if_pos (by omega)
        rw [← hgt]
        have hgl : gTo (drawV (drawV s.R.2.1) / 8 % vs s.R.1 2) (drawV (drawV (drawV s.R.2.1)) / 8 % (vs s.R.1 2 - 1)) < vs s.R.1 2 := by omega
        have hgn : drawV (drawV s.R.2.1) / 8 % vs s.R.1 2 ≠ gTo (drawV (drawV s.R.2.1) / 8 % vs s.R.1 2) (drawV (drawV (drawV s.R.2.1)) / 8 % (vs s.R.1 2 - 1)) := by omega
        refine w_aload_n dX14_gulls_61 rfl ?_
        refine w_iload_n dX14_gulls_62 rfl ?_
        refine w_iload dX14_gulls_63 rfl ?_
        refine cr_call (mi := miX5_canGull) dX14_gulls_65 q1498 okX5_canGull clX5 rfl (lv_day B47 H) (Nat.le_of_ble_eq_true rfl) (Cr.at_ B47.hda (kX5_canGull (C := C47) B47.on B47.E K hlt hgl)) H rfl rfl (Nat.le_of_ble_eq_true rfl) ?_
        refine w_ifB_ne dX14_gulls_68 rfl (fun h_68 => ?_) (fun h_68 => ?_)
        · have h68 : (drawV (drawV s.R.2.1) / 8 % vs s.R.1 2) ≠ (gTo (drawV (drawV s.R.2.1) / 8 % vs s.R.1 2) (drawV (drawV (drawV s.R.2.1)) / 8 % (vs s.R.1 2 - 1))) ∧ isT s.R.1 (drawV (drawV s.R.2.1) / 8 % vs s.R.1 2) ∧ isT s.R.1 (gTo (drawV (drawV s.R.2.1) / 8 % vs s.R.1 2) (drawV (drawV (drawV s.R.2.1)) / 8 % (vs s.R.1 2 - 1))) ∧ 0 < vt s.R.1 7 (drawV (drawV s.R.2.1) / 8 % vs s.R.1 2) := h_68
          have hw : wgV s.R.1 (drawV (drawV s.R.2.1) / 8 % vs s.R.1 2) (gTo (drawV (drawV s.R.2.1) / 8 % vs s.R.1 2) (drawV (drawV (drawV s.R.2.1)) / 8 % (vs s.R.1 2 - 1))) = 0 := by rw [wgV, if_neg (by omega), if_pos ⟨h68.2.1, h68.2.2.1⟩]
          have hn6 := gull60 K (d := (drawV (drawV s.R.2.1) / 8 % vs s.R.1 2)) (e := (gTo (drawV (drawV s.R.2.1) / 8 % vs s.R.1 2) (drawV (drawV (drawV s.R.2.1)) / 8 % (vs s.R.1 2 - 1)))) (by omega) (by omega) hgn h68.2.2.2
          have hq : gcQ s.R s.q y = capU s.R.1 s.q (gTo (drawV (drawV s.R.2.1) / 8 % vs s.R.1 2) (drawV (drawV (drawV s.R.2.1)) / 8 % (vs s.R.1 2 - 1))) := by rw [gcQ, if_neg (by omega), if_pos hw]
          refine w_aload_n dX14_gulls_72 rfl ?_
          refine w_iload_n dX14_gulls_73 rfl ?_
          refine w_iload dX14_gulls_74 rfl ?_
          have hcc := cap_cost (V := s.R.1) (q := s.q) (d := (gTo (drawV (drawV s.R.2.1) / 8 % vs s.R.1 2) (drawV (drawV (drawV s.R.2.1)) / 8 % (vs s.R.1 2 - 1)))) (by omega) (EncD.half (g := g) (C := C47) (j := j) (V := s.R.1) (q := s.q) B47.E (by omega) hn6)
          refine w_bud (kc2 := 0 + (if vt s.R.1 7 (gTo (drawV (drawV s.R.2.1) / 8 % vs s.R.1 2) (drawV (drawV (drawV s.R.2.1)) / 8 % (vs s.R.1 2 - 1))) = s.q (gTo (drawV (drawV s.R.2.1) / 8 % vs s.R.1 2) (drawV (drawV (drawV s.R.2.1)) / 8 % (vs s.R.1 2 - 1))) then 2 else 0)) (ks2 := 0 + (if vt s.R.1 7 (gTo (drawV (drawV s.R.2.1) / 8 % vs s.R.1 2) (drawV (drawV (drawV s.R.2.1)) / 8 % (vs s.R.1 2 - 1))) = s.q (gTo (drawV (drawV s.R.2.1) / 8 % vs s.R.1 2) (drawV (drawV (drawV s.R.2.1)) / 8 % (vs s.R.1 2 - 1))) then 4 * s.q (gTo (drawV (drawV s.R.2.1) / 8 % vs s.R.1 2) (drawV (drawV (drawV s.R.2.1)) / 8 % (vs s.R.1 2 - 1))) else 0)) (by rw [hq, Nat.zero_add]; exact hcc.1) (by rw [hq, Nat.zero_add]; exact hcc.2) ?_
          refine cp_call (kc := 0) (ks := 0) (mc2 := if vt s.R.1 7 (gTo (drawV (drawV s.R.2.1) / 8 % vs s.R.1 2) (drawV (drawV (drawV s.R.2.1)) / 8 % (vs s.R.1 2 - 1))) = s.q (gTo (drawV (drawV s.R.2.1) / 8 % vs s.R.1 2) (drawV (drawV (drawV s.R.2.1)) / 8 % (vs s.R.1 2 - 1))) then 2 else 0) (ms2 := if vt s.R.1 7 (gTo (drawV (drawV s.R.2.1) / 8 % vs s.R.1 2) (drawV (drawV (drawV s.R.2.1)) / 8 % (vs s.R.1 2 - 1))) = s.q (gTo (drawV (drawV s.R.2.1) / 8 % vs s.R.1 2) (drawV (drawV (drawV s.R.2.1)) / 8 % (vs s.R.1 2 - 1))) then 4 * s.q (gTo (drawV (drawV s.R.2.1) / 8 % vs s.R.1 2) (drawV (drawV (drawV s.R.2.1)) / 8 % (vs s.R.1 2 - 1))) else 0) (mi := miX5_gull) dX14_gulls_76 q1499 okX5_gull clX5 rfl (lv_day B47 H) (Nat.le_of_ble_eq_true rfl) (Cp.at_ B47.hda (kX5_gull (C := C47) B47.on B47.E K hlt hgl hgn h68.2.2.2 hn6 B47.l90)) H F rfl rfl (Nat.le_of_ble_eq_true rfl) ?_
          rintro σ C76 ⟨E76, D76⟩ H F
          have B76 := LvOk.day B47 E76 D76
          refine w_pop dX14_gulls_79 rfl ?_
          refine w_aload_n dX14_gulls_80 rfl ?_
          refine w_dup dX14_gulls_81 rfl ?_
          refine lvg (f := 4) (v := .int (nI (cnt (XS.R (((gullV s.R.1 (drawV (drawV s.R.2.1) / 8 % vs s.R.1 2) (gTo (drawV (drawV s.R.2.1) / 8 % vs s.R.1 2) (drawV (drawV (drawV s.R.2.1)) / 8 % (vs s.R.1 2 - 1))), drawV (drawV (drawV s.R.2.1)), s.R.2.2), capU s.R.1 s.q (gTo (drawV (drawV s.R.2.1) / 8 % vs s.R.1 2) (drawV (drawV (drawV s.R.2.1)) / 8 % (vs s.R.1 2 - 1))), s.n, s.o))) 1))) dX14_gulls_82 (by decide) q1428 B76 H rfl ?_
          refine w_iconst (v := nI 1) dX14_gulls_85 ki_1 ?_
          refine w_iaddN dX14_gulls_86 ?_
          refine lvp (f := 4) (s := ((gullV s.R.1 (drawV (drawV s.R.2.1) / 8 % vs s.R.1 2) (gTo (drawV (drawV s.R.2.1) / 8 % vs s.R.1 2) (drawV (drawV (drawV s.R.2.1)) / 8 % (vs s.R.1 2 - 1))), drawV (drawV (drawV s.R.2.1)), s.R.2.2), capU s.R.1 s.q (gTo (drawV (drawV s.R.2.1) / 8 % vs s.R.1 2) (drawV (drawV (drawV s.R.2.1)) / 8 % (vs s.R.1 2 - 1))), s.n, s.o)) ((upC (gullV s.R.1 (drawV (drawV s.R.2.1) / 8 % vs s.R.1 2) (gTo (drawV (drawV s.R.2.1) / 8 % vs s.R.1 2) (drawV (drawV (drawV s.R.2.1)) / 8 % (vs s.R.1 2 - 1))), drawV (drawV (drawV s.R.2.1)), s.R.2.2) 1 1, capU s.R.1 s.q (gTo (drawV (drawV s.R.2.1) / 8 % vs s.R.1 2) (drawV (drawV (drawV s.R.2.1)) / 8 % (vs s.R.1 2 - 1))), s.n, s.o)) dX14_gulls_87 (by decide) q1428 rfl rfl rfl B76 H F rfl rfl rfl ?_
          intro σ C87 B87 S87 H F
          exact w_vret dX14_gulls_90 rfl ⟨by rfl, _, ⟨by rw [gcV, gcQ, if_neg (by omega), if_pos hw, if_neg (by omega), if_pos hw]; exact B87, ((((S3).trans S33).trans S47).trans D76.L).trans S87⟩, H, F⟩
        · have hw : ¬ wgV s.R.1 (drawV (drawV s.R.2.1) / 8 % vs s.R.1 2) (gTo (drawV (drawV s.R.2.1) / 8 % vs s.R.1 2) (drawV (drawV (drawV s.R.2.1)) / 8 % (vs s.R.1 2 - 1))) = 0 := fun z => h_68 ⟨hgn, (wgV_0 z).2.1, (wgV_0 z).2.2, (wgV_0 z).1⟩
          exact w_vret dX14_gulls_71 rfl ⟨by rfl, _, ⟨by rw [gcV, gcQ, if_neg (by omega), if_neg hw, if_neg (by omega), if_neg hw]; exact B47, ((S3).trans S33).trans S47⟩, H, F⟩
    · exact w_vret dX14_gulls_24 rfl ⟨by rfl, _, ⟨by rw [gcV, gcQ, if_pos (by omega), if_pos (by omega)]; exact B3, S3⟩, H, F⟩
theorem wset_0 {V : VS} {f d : Nat} : wsetV V f d = 0 ↔ vs V 8 ≠ 60 ∧ vt V 2 f ≠ 0 ∧ isT V d ∧ vt V 0 f = vt V 5 d := by
  unfold wsetV
  constructor
  · intro h
    split at h
    · cases h
    · split at h
      · cases h
      · split at h
        · rename_i a b c
          exact ⟨a, b, c.1, c.2⟩
        · cases h
  · rintro ⟨a, b, c, e⟩
    rw [if_neg a, if_neg b, if_pos ⟨c, e⟩]
theorem wli_0 {V : VS} {f d : Nat} (K : OkV V) (hd : d < 8) (h : wliV V f d = 0) : ownK V f d ≠ 0 ∧ isT V d ∧ vt V 0 f = vt V 5 d := by
  unfold wliV at h
  split at h
  · cases h
  · split at h
    · rename_i a b
      have := ownK_le V f d
      exact ⟨a, K.th hd (by omega), b⟩
    · cases h
set_option maxHeartbeats 4000000 in
theorem vX14_can {g : GG} {C : CS} {j la da : Nat} {s : XS} {sa : Nat} {V0 : VS} {n9 k9 : Nat} {r : Nat → Nat} {x : Int32} {y : Nat} (B : LvOk g C j la da s) (OR : OkR V0 s.R) (OW : OkRow (vs V0 0) (vs V0 1) (vs V0 2) n9 k9 r) (hz : oZ C sa = some (.inr (12, [.int (nI (aW (r 0))), .int x, .int (nI y)]))) (hp : isPl (r 0)) (hx : 18 ≤ r 0 ∧ r 0 ≤ 21 → x = nI (r 1) ∧ y = r 2) (hy : r 0 = 22 ∨ r 0 = 23 → y = r 1) : Cp g miX14_can 6 ((pq s.q - pq (capX s.R s.q r)) / 2) (4 * (pq s.q - pq (capX s.R s.q r))) [.ref sa, .ref la] C (some (.int (bP (fD s.R.1 r = 0)))) (fun C2 => LvOk g C2 j la da ((doD s.R r, capX s.R s.q r, s.n, if r 0 = 27 then 1 else s.o)) ∧ SL j C C2) := by
  refine Cp.start [some (.ref sa), some (.ref la), none] (by decide +kernel) rfl (Nat.le_of_ble_eq_true rfl) rfl ?_
  intro σ0 σ H F
  obtain ⟨-, w18, w19, w21, w20, w22, w23, -⟩ := OW
  have K := OR.1
  have kb := K.b
  obtain ⟨-, -, hdb, e0, e1, e2⟩ := id OR
  have ha := aW_iff (r 0) (by unfold isPl at hp; omega)
  refine w_aload_n dX14_can_0 rfl ?_
  refine lvg (f := 0) (v := .ref da) dX14_can_1 (by decide) q1421 B H rfl ?_
  refine w_astore_n dX14_can_4 rfl (Nat.le_of_ble_eq_true rfl) ls_3_2 ?_
  refine w_aload_n dX14_can_5 rfl ?_
  refine w_getf (k := 0) dX14_can_6 clX14 (by decide) q990 (H.z hz) rfl ?_
  by_cases hs_0 : aW (r 0) = 0
  · rw [show nI (aW (r 0)) = nI 0 by rw [hs_0]]
    refine w_tableIn dX14_can_9 (by decide +kernel) (by decide +kernel) rfl rfl ?_
    have hr : r 0 = 18 := ha.1.mp hs_0
    obtain ⟨rfl, rfl⟩ := hx (by omega)
    have hwr := w18 hr
    refine w_aload_n dX14_can_52 rfl ?_
    refine w_aload_n dX14_can_53 rfl ?_
    refine w_getf (k := 1) dX14_can_54 clX14 (by decide) q991 (H.z hz) rfl ?_
    refine w_aload_n dX14_can_57 rfl ?_
    refine w_getf (k := 2) dX14_can_58 clX14 (by decide) q992 (H.z hz) rfl ?_
    refine cp_call (kc := (pq s.q - pq (capX s.R s.q r)) / 2) (ks := 4 * (pq s.q - pq (capX s.R s.q r))) (mc2 := 0) (ms2 := 0) (mi := miX5_goes) dX14_can_61 q1482 okX5_goes clX5 rfl (lv_day B H) (Nat.le_of_ble_eq_true rfl) (Cp.at_ B.hda (kX5_goes (C := C) B.on B.E K (by omega) (by omega))) H F rfl rfl (Nat.le_of_ble_eq_true rfl) ?_
    rintro σ C61 ⟨E61, D61⟩ H F
    have B61 := LvOk.day B E61 D61
    exact w_zret dX14_can_64 rfl narrB ⟨by exact congrArg (fun z => some (Value.int z)) (bP_c (by rw [fD, if_pos hr]; exact ⟨fun h => if_neg h, fun h z => by rw [if_pos z] at h; exact absurd h (by decide)⟩)), _, ⟨by rw [show doD s.R r = _ from by rw [doD, if_pos hr], show capX s.R s.q r = _ from by rw [capX, if_neg (by omega), if_neg (by omega)], show (if r 0 = 27 then 1 else s.o) = _ from if_neg (by omega)]; exact B61, D61.L⟩, H, F⟩
  by_cases hs_1 : aW (r 0) = 1
  · rw [show nI (aW (r 0)) = nI 1 by rw [hs_1]]
    refine w_tableIn dX14_can_9 (by decide +kernel) (by decide +kernel) rfl rfl ?_
    have hr : r 0 = 19 := ha.2.1.mp hs_1
    obtain ⟨rfl, rfl⟩ := hx (by omega)
    have hwr := w19 hr
    refine w_aload_n dX14_can_78 rfl ?_
    refine w_aload_n dX14_can_79 rfl ?_
    refine w_getf (k := 1) dX14_can_80 clX14 (by decide) q991 (H.z hz) rfl ?_
    refine w_aload_n dX14_can_83 rfl ?_
    refine w_getf (k := 2) dX14_can_84 clX14 (by decide) q992 (H.z hz) rfl ?_
    refine cr_call (mi := miX5_isAt) dX14_can_87 q1484 okX5_isAt clX5 rfl (lv_day B H) (Nat.le_of_ble_eq_true rfl) (Cr.at_ B.hda (kX5_isAt (C := C) B.on B.E K (by omega) (by omega))) H rfl rfl (Nat.le_of_ble_eq_true rfl) ?_
    refine w_ifB_eq dX14_can_90 rfl (fun h_90 => ?_) (fun h_90 => ?_)
    · have hw : ¬ wsetV s.R.1 (r 1) (r 2) = 0 := fun z => h_90 ⟨(wset_0.mp z).2.2.1, (wset_0.mp z).2.2.2⟩
      refine w_iconst (v := nI 0) dX14_can_114 ki_0 ?_
      exact w_zret dX14_can_115 rfl (by first | exact narr0 | exact narr1) ⟨by rw [show fD s.R.1 r = 1 from by rw [fD, if_neg (by omega), if_neg (by omega), if_pos hr, if_neg hw]]; rfl, _, ⟨by rw [show doD s.R r = _ from by rw [doD, if_neg (by omega), if_neg (by omega), if_pos hr, if_neg hw], show capX s.R s.q r = _ from by rw [capX, if_pos hr, if_neg hw], show (if r 0 = 27 then 1 else s.o) = _ from if_neg (by omega)]; exact B, SL.refl⟩, H, F⟩
    · refine w_aload_n dX14_can_93 rfl ?_
      refine w_ref B.hda ?_
      refine gX14_39 (C := C) dX14_can_94 rfl B.on H ?_
      refine w_aload_n dX14_can_97 rfl ?_
      refine w_getf (k := 1) dX14_can_98 clX14 (by decide) q991 (H.z hz) rfl ?_
      have hpo := (K.f (f := r 1) (by omega)).2.2.2.1
      refine da_12 (C := C) dX14_can_101 B.on B.E (by omega) H ?_
      refine w_ifN_eq dX14_can_102 rfl (by omega) (fun h_102 => ?_) (fun h_102 => ?_)
      · have hw : ¬ wsetV s.R.1 (r 1) (r 2) = 0 := fun z => (wset_0.mp z).2.1 h_102
        refine w_iconst (v := nI 0) dX14_can_114 ki_0 ?_
        exact w_zret dX14_can_115 rfl (by first | exact narr0 | exact narr1) ⟨by rw [show fD s.R.1 r = 1 from by rw [fD, if_neg (by omega), if_neg (by omega), if_pos hr, if_neg hw]]; rfl, _, ⟨by rw [show doD s.R r = _ from by rw [doD, if_neg (by omega), if_neg (by omega), if_pos hr, if_neg hw], show capX s.R s.q r = _ from by rw [capX, if_pos hr, if_neg hw], show (if r 0 = 27 then 1 else s.o) = _ from if_neg (by omega)]; exact B, SL.refl⟩, H, F⟩
      · refine w_aload_n dX14_can_105 rfl ?_
        refine cr_call (mi := miX5_pebbles) dX14_can_106 q1485 okX5_pebbles clX5 rfl (lv_day B H) (Nat.le_of_ble_eq_true rfl) (Cr.at_ B.hda (kX5_pebbles (C := C) B.on B.E K)) H rfl rfl (Nat.le_of_ble_eq_true rfl) ?_
        refine w_bipush (v := nI 60) dX14_can_109 kb_60 ?_
        refine w_icmpN_ne dX14_can_111 rfl (by omega) (by omega) (fun h_111 => ?_) (fun h_111 => ?_)
        · have hw : wsetV s.R.1 (r 1) (r 2) = 0 := wset_0.mpr ⟨h_111, h_102, h_90.1, h_90.2⟩
          have h7s := OkV.n60 K (d := r 2) (by omega) h_111
          have hq : capX s.R s.q r = capU s.R.1 s.q (r 2) := by rw [capX, if_pos hr, if_pos hw]
          refine w_aload_n dX14_can_116 rfl ?_
          refine w_aload_n dX14_can_117 rfl ?_
          refine w_getf (k := 1) dX14_can_118 clX14 (by decide) q991 (H.z hz) rfl ?_
          refine w_aload_n dX14_can_121 rfl ?_
          refine w_getf (k := 2) dX14_can_122 clX14 (by decide) q992 (H.z hz) rfl ?_
          have hcc := cap_cost (V := s.R.1) (q := s.q) (d := r 2) (by omega) (B.E.half (by omega) h7s)
          refine w_bud (kc2 := 0 + (if vt s.R.1 7 (r 2) = s.q (r 2) then 2 else 0)) (ks2 := 0 + (if vt s.R.1 7 (r 2) = s.q (r 2) then 4 * s.q (r 2) else 0)) (by rw [hq, Nat.zero_add]; exact hcc.1) (by rw [hq, Nat.zero_add]; exact hcc.2) ?_
          refine cp_call (kc := 0) (ks := 0) (mc2 := if vt s.R.1 7 (r 2) = s.q (r 2) then 2 else 0) (ms2 := if vt s.R.1 7 (r 2) = s.q (r 2) then 4 * s.q (r 2) else 0) (mi := miX5_sets) dX14_can_125 q1486 okX5_sets clX5 rfl (lv_day B H) (Nat.le_of_ble_eq_true rfl) (Cp.at_ B.hda (kX5_sets (C := C) B.on B.E K (by omega) (by omega) h7s (by omega) B.l90)) H F rfl rfl (Nat.le_of_ble_eq_true rfl) ?_
          rintro σ C125 ⟨E125, D125⟩ H F
          have B125 := LvOk.day B E125 D125
          refine w_iconst (v := nI 1) dX14_can_128 ki_1 ?_
          exact w_zret dX14_can_129 rfl (by first | exact narr0 | exact narr1) ⟨by rw [show fD s.R.1 r = 0 from by rw [fD, if_neg (by omega), if_neg (by omega), if_pos hr, if_pos hw]]; rfl, _, ⟨by rw [show doD s.R r = _ from by rw [doD, if_neg (by omega), if_neg (by omega), if_pos hr, if_pos hw], show capX s.R s.q r = _ from by rw [capX, if_pos hr, if_pos hw], show (if r 0 = 27 then 1 else s.o) = _ from if_neg (by omega)]; exact B125, D125.L⟩, H, F⟩
        · have hw : ¬ wsetV s.R.1 (r 1) (r 2) = 0 := fun z => (wset_0.mp z).1 (by omega)
          refine w_iconst (v := nI 0) dX14_can_114 ki_0 ?_
          exact w_zret dX14_can_115 rfl (by first | exact narr0 | exact narr1) ⟨by rw [show fD s.R.1 r = 1 from by rw [fD, if_neg (by omega), if_neg (by omega), if_pos hr, if_neg hw]]; rfl, _, ⟨by rw [show doD s.R r = _ from by rw [doD, if_neg (by omega), if_neg (by omega), if_pos hr, if_neg hw], show capX s.R s.q r = _ from by rw [capX, if_pos hr, if_neg hw], show (if r 0 = 27 then 1 else s.o) = _ from if_neg (by omega)]; exact B, SL.refl⟩, H, F⟩
  by_cases hs_2 : aW (r 0) = 2
  · rw [show nI (aW (r 0)) = nI 2 by rw [hs_2]]
    refine w_tableIn dX14_can_9 (by decide +kernel) (by decide +kernel) rfl rfl ?_
    have hr : r 0 = 20 := ha.2.2.1.mp hs_2
    obtain ⟨rfl, rfl⟩ := hx (by omega)
    have hwr := w20 hr
    refine w_aload_n dX14_can_65 rfl ?_
    refine w_aload_n dX14_can_66 rfl ?_
    refine w_getf (k := 1) dX14_can_67 clX14 (by decide) q991 (H.z hz) rfl ?_
    refine w_aload_n dX14_can_70 rfl ?_
    refine w_getf (k := 2) dX14_can_71 clX14 (by decide) q992 (H.z hz) rfl ?_
    refine cp_call (kc := (pq s.q - pq (capX s.R s.q r)) / 2) (ks := 4 * (pq s.q - pq (capX s.R s.q r))) (mc2 := 0) (ms2 := 0) (mi := miX5_waits) dX14_can_74 q1483 okX5_waits clX5 rfl (lv_day B H) (Nat.le_of_ble_eq_true rfl) (Cp.at_ B.hda (kX5_waits (C := C) B.on B.E K (by omega) (by omega))) H F rfl rfl (Nat.le_of_ble_eq_true rfl) ?_
    rintro σ C74 ⟨E74, D74⟩ H F
    have B74 := LvOk.day B E74 D74
    exact w_zret dX14_can_77 rfl narrB ⟨by exact congrArg (fun z => some (Value.int z)) (bP_c (by rw [fD, if_neg (by omega), if_pos hr]; exact ⟨fun h => if_neg h, fun h z => by rw [if_pos z] at h; exact absurd h (by decide)⟩)), _, ⟨by rw [show doD s.R r = _ from by rw [doD, if_neg (by omega), if_pos hr], show capX s.R s.q r = _ from by rw [capX, if_neg (by omega), if_neg (by omega)], show (if r 0 = 27 then 1 else s.o) = _ from if_neg (by omega)]; exact B74, D74.L⟩, H, F⟩
  by_cases hs_3 : aW (r 0) = 3
  · rw [show nI (aW (r 0)) = nI 3 by rw [hs_3]]
    refine w_tableIn dX14_can_9 (by decide +kernel) (by decide +kernel) rfl rfl ?_
    have hr : r 0 = 21 := ha.2.2.2.1.mp hs_3
    obtain ⟨rfl, rfl⟩ := hx (by omega)
    have hwr := w21 hr
    refine w_aload_n dX14_can_130 rfl ?_
    refine w_aload_n dX14_can_131 rfl ?_
    refine w_getf (k := 1) dX14_can_132 clX14 (by decide) q991 (H.z hz) rfl ?_
    refine w_aload_n dX14_can_135 rfl ?_
    refine w_getf (k := 2) dX14_can_136 clX14 (by decide) q992 (H.z hz) rfl ?_
    refine cr_call (mi := miX5_isAt) dX14_can_139 q1484 okX5_isAt clX5 rfl (lv_day B H) (Nat.le_of_ble_eq_true rfl) (Cr.at_ B.hda (kX5_isAt (C := C) B.on B.E K (by omega) (by omega))) H rfl rfl (Nat.le_of_ble_eq_true rfl) ?_
    refine w_ifB_eq dX14_can_142 rfl (fun h_142 => ?_) (fun h_142 => ?_)
    · have hw : ¬ wliV s.R.1 (r 1) (r 2) = 0 := fun z => h_142 (wli_0 K (by omega) z).2
      refine w_iconst (v := nI 0) dX14_can_164 ki_0 ?_
      exact w_zret dX14_can_165 rfl (by first | exact narr0 | exact narr1) ⟨by rw [show fD s.R.1 r = 1 from by rw [fD, if_neg (by omega), if_neg (by omega), if_neg (by omega), if_pos hr, if_neg hw]]; rfl, _, ⟨by rw [show doD s.R r = _ from by rw [doD, if_neg (by omega), if_neg (by omega), if_neg (by omega), if_pos hr, if_neg hw], show capX s.R s.q r = _ from by rw [capX, if_neg (by omega), if_neg (by omega)], show (if r 0 = 27 then 1 else s.o) = _ from if_neg (by omega)]; exact B, SL.refl⟩, H, F⟩
    · refine w_aload_n dX14_can_145 rfl ?_
      refine w_ref B.hda ?_
      refine gX14_51 (C := C) dX14_can_146 rfl B.on H ?_
      refine w_aload_n dX14_can_149 rfl ?_
      refine w_getf (k := 2) dX14_can_150 clX14 (by decide) q992 (H.z hz) rfl ?_
      refine ga_heaps (C := C) dX14_can_153 B.on (show r 2 < 8 by omega) H ?_
      refine w_aload_n dX14_can_154 rfl ?_
      refine w_getf (k := 1) dX14_can_155 clX14 (by decide) q991 (H.z hz) rfl ?_
      refine cr_call (mi := miX7_latestOf) dX14_can_158 q1487 okX7_latestOf clX7 rfl (H.get (ce_heap (on8 B.on (show r 2 < 8 by omega)))) (Nat.le_of_ble_eq_true rfl) (kX7_latestOf (C := C) (on8 B.on (show r 2 < 8 by omega)) (B.E.h (show r 2 < 8 by omega)) (fun k9 hk9 => by have h9 := (K.p (d := r 2) (by omega) hk9).1; omega) (by omega)) H rfl rfl (Nat.le_of_ble_eq_true rfl) ?_
      refine w_top (y := .int (nI (ownK s.R.1 (r 1) (r 2)) - nI 1)) rfl ?_
      have hok := ownK_le s.R.1 (r 1) (r 2)
      have hkn := K.n (d := r 2) (by omega)
      refine w_if_ge dX14_can_161 rfl (fun h_161 => ?_) (fun h_161 => ?_)
      · have h161 : ownK s.R.1 (r 1) (r 2) ≠ 0 := fun z => absurd ((dn_lt (by omega)).mpr z) (Int32.not_lt.mpr h_161)
        have hw : wliV s.R.1 (r 1) (r 2) = 0 := by rw [wliV, if_neg h161, if_pos h_142.2]
        refine w_aload_n dX14_can_166 rfl ?_
        refine w_aload_n dX14_can_167 rfl ?_
        refine w_getf (k := 1) dX14_can_168 clX14 (by decide) q991 (H.z hz) rfl ?_
        refine w_aload_n dX14_can_171 rfl ?_
        refine w_getf (k := 2) dX14_can_172 clX14 (by decide) q992 (H.z hz) rfl ?_
        refine cp_call (kc := (pq s.q - pq (capX s.R s.q r)) / 2) (ks := 4 * (pq s.q - pq (capX s.R s.q r))) (mc2 := 0) (ms2 := 0) (mi := miX5_lifts) dX14_can_175 q1488 okX5_lifts clX5 rfl (lv_day B H) (Nat.le_of_ble_eq_true rfl) (Cp.at_ B.hda (kX5_lifts (C := C) B.on B.E K (by omega) (by omega) h161)) H F rfl rfl (Nat.le_of_ble_eq_true rfl) ?_
        rintro σ C175 ⟨E175, D175⟩ H F
        have B175 := LvOk.day B E175 D175
        refine w_pop dX14_can_178 rfl ?_
        refine w_iconst (v := nI 1) dX14_can_179 ki_1 ?_
        exact w_zret dX14_can_180 rfl (by first | exact narr0 | exact narr1) ⟨by rw [show fD s.R.1 r = 0 from by rw [fD, if_neg (by omega), if_neg (by omega), if_neg (by omega), if_pos hr, if_pos hw]]; rfl, _, ⟨by rw [show doD s.R r = _ from by rw [doD, if_neg (by omega), if_neg (by omega), if_neg (by omega), if_pos hr, if_pos hw], show capX s.R s.q r = _ from by rw [capX, if_neg (by omega), if_neg (by omega)], show (if r 0 = 27 then 1 else s.o) = _ from if_neg (by omega)]; exact B175, D175.L⟩, H, F⟩
      · have h161 : ownK s.R.1 (r 1) (r 2) = 0 := (dn_lt (by omega)).mp (Int32.not_le.mp h_161)
        have hw : ¬ wliV s.R.1 (r 1) (r 2) = 0 := by rw [wliV, if_pos h161]; omega
        refine w_iconst (v := nI 0) dX14_can_164 ki_0 ?_
        exact w_zret dX14_can_165 rfl (by first | exact narr0 | exact narr1) ⟨by rw [show fD s.R.1 r = 1 from by rw [fD, if_neg (by omega), if_neg (by omega), if_neg (by omega), if_pos hr, if_neg hw]]; rfl, _, ⟨by rw [show doD s.R r = _ from by rw [doD, if_neg (by omega), if_neg (by omega), if_neg (by omega), if_pos hr, if_neg hw], show capX s.R s.q r = _ from by rw [capX, if_neg (by omega), if_neg (by omega)], show (if r 0 = 27 then 1 else s.o) = _ from if_neg (by omega)]; exact B, SL.refl⟩, H, F⟩
  by_cases hs_4 : aW (r 0) = 4
  · rw [show nI (aW (r 0)) = nI 4 by rw [hs_4]]
    refine w_tableIn dX14_can_9 (by decide +kernel) (by decide +kernel) rfl rfl ?_
    have hr : r 0 = 22 := ha.2.2.2.2.1.mp hs_4
    obtain rfl := hy (by omega)
    have hwr := w22 hr
    refine w_aload_n dX14_can_181 rfl ?_
    refine w_aload_n dX14_can_182 rfl ?_
    refine w_aload_n dX14_can_183 rfl ?_
    have hq : capX s.R s.q r = gcQ s.R s.q (r 1) := by rw [capX, if_neg (by omega), if_pos hr]
    rw [hq]
    refine w_bud (kc2 := 0 + (pq s.q - pq (gcQ s.R s.q (r 1))) / 2) (ks2 := 0 + 4 * (pq s.q - pq (gcQ s.R s.q (r 1)))) (Nat.le_of_eq (Nat.zero_add _)) (Nat.le_of_eq (Nat.zero_add _)) ?_
    refine cp_call (kc := 0) (ks := 0) (mc2 := (pq s.q - pq (gcQ s.R s.q (r 1))) / 2) (ms2 := 4 * (pq s.q - pq (gcQ s.R s.q (r 1)))) (mi := miX14_gulls) dX14_can_184 q1489 okX14_gulls clX14 rfl (H.z hz) (Nat.le_of_ble_eq_true rfl) (vX14_gulls (C := C) B OR hz (by omega)) H F rfl rfl (Nat.le_of_ble_eq_true rfl) ?_
    rintro σ C184 ⟨B184, S184⟩ H F
    refine w_iconst (v := nI 1) dX14_can_187 ki_1 ?_
    exact w_zret dX14_can_188 rfl (by first | exact narr0 | exact narr1) ⟨by rw [show fD s.R.1 r = 0 from by rw [fD, if_neg (by omega), if_neg (by omega), if_neg (by omega), if_neg (by omega), if_neg (by omega)]]; rfl, _, ⟨by rw [show doD s.R r = _ from by rw [doD, if_neg (by omega), if_neg (by omega), if_neg (by omega), if_neg (by omega), if_pos hr], show (if r 0 = 27 then 1 else s.o) = _ from if_neg (by omega)]; exact B184, S184⟩, H, F⟩
  by_cases hs_5 : aW (r 0) = 5
  · rw [show nI (aW (r 0)) = nI 5 by rw [hs_5]]
    refine w_tableIn dX14_can_9 (by decide +kernel) (by decide +kernel) rfl rfl ?_
    have hr : r 0 = 23 := ha.2.2.2.2.2.1.mp hs_5
    obtain rfl := hy (by omega)
    have hwr := w23 hr
    refine w_aload_n dX14_can_189 rfl ?_
    refine w_dup dX14_can_190 rfl ?_
    refine lvg (f := 5) (v := .int (nI (cnt (XS.R (s)) 2))) dX14_can_191 (by decide) q1430 B H rfl ?_
    refine w_aload_n dX14_can_194 rfl ?_
    refine w_aload_n dX14_can_195 rfl ?_
    refine w_getf (k := 2) dX14_can_196 clX14 (by decide) q992 (H.z hz) rfl ?_
    refine cp_call (kc := (pq s.q - pq (capX s.R s.q r)) / 2) (ks := 4 * (pq s.q - pq (capX s.R s.q r))) (mc2 := 0) (ms2 := 0) (mi := miX5_wave) dX14_can_199 q1500 okX5_wave clX5 rfl (lv_day B H) (Nat.le_of_ble_eq_true rfl) (Cp.at_ B.hda (kX5_wave (C := C) B.on B.E K (by omega))) H F rfl rfl (Nat.le_of_ble_eq_true rfl) ?_
    rintro σ C199 ⟨E199, D199⟩ H F
    have B199 := LvOk.day B E199 D199
    refine w_iaddN dX14_can_202 ?_
    refine lvp (f := 5) (s := ((waveV s.R.1 (r 1), s.R.2.1, s.R.2.2), s.q, s.n, s.o)) ((upC (waveV s.R.1 (r 1), s.R.2) 2 (waveN s.R.1 (r 1) (vs s.R.1 2)), s.q, s.n, s.o)) dX14_can_203 (by decide) q1430 rfl rfl rfl B199 H F rfl rfl rfl ?_
    intro σ C203 B203 S203 H F
    refine w_iconst (v := nI 1) dX14_can_206 ki_1 ?_
    exact w_zret dX14_can_207 rfl (by first | exact narr0 | exact narr1) ⟨by rw [show fD s.R.1 r = 0 from by rw [fD, if_neg (by omega), if_neg (by omega), if_neg (by omega), if_neg (by omega), if_neg (by omega)]]; rfl, _, ⟨by rw [show doD s.R r = _ from by rw [doD, if_neg (by omega), if_neg (by omega), if_neg (by omega), if_neg (by omega), if_neg (by omega), if_pos hr], show capX s.R s.q r = _ from by rw [capX, if_neg (by omega), if_neg (by omega)], show (if r 0 = 27 then 1 else s.o) = _ from if_neg (by omega)]; exact B203, (D199.L).trans S203⟩, H, F⟩
  by_cases hs_6 : aW (r 0) = 6
  · rw [show nI (aW (r 0)) = nI 6 by rw [hs_6]]
    refine w_tableIn dX14_can_9 (by decide +kernel) (by decide +kernel) rfl rfl ?_
    have hr : r 0 = 1 := ha.2.2.2.2.2.2.1.mp hs_6
    refine w_aload_n dX14_can_208 rfl ?_
    refine w_ref B.hda ?_
    refine gX14_75 (C := C) dX14_can_209 rfl B.on H ?_
    refine w_topN (B.E.dy) ?_
    refine w_bipush (v := nI 99) dX14_can_212 kb_99 ?_
    refine w_icmpN_eq dX14_can_214 rfl (by omega) (by omega) (fun h_214 => ?_) (fun h_214 => ?_)
    · have hw : vs s.R.1 6 = 99 ∨ vs s.R.1 7 = 0 := Or.inl h_214
      refine w_iconst (v := nI 0) dX14_can_224 ki_0 ?_
      exact w_zret dX14_can_225 rfl (by first | exact narr0 | exact narr1) ⟨by rw [show fD s.R.1 r = 1 from by rw [fD, if_neg (by omega), if_neg (by omega), if_neg (by omega), if_neg (by omega), if_pos hr, if_pos hw]]; rfl, _, ⟨by rw [show doD s.R r = _ from by rw [doD, if_neg (by omega), if_neg (by omega), if_neg (by omega), if_neg (by omega), if_neg (by omega), if_neg (by omega), if_pos hr, if_pos hw], show capX s.R s.q r = _ from by rw [capX, if_neg (by omega), if_neg (by omega)], show (if r 0 = 27 then 1 else s.o) = _ from if_neg (by omega)]; exact B, SL.refl⟩, H, F⟩
    · refine w_aload_n dX14_can_217 rfl ?_
      refine w_ref B.hda ?_
      refine gX14_77 (C := C) dX14_can_218 rfl B.on H ?_
      refine w_topN (B.E.th) ?_
      refine w_ifN_ne dX14_can_221 rfl (by omega) (fun h_221 => ?_) (fun h_221 => ?_)
      · have hw : ¬ (vs s.R.1 6 = 99 ∨ vs s.R.1 7 = 0) := by omega
        have hfl := K.flood OR.2.1 (by omega)
        refine w_aload_n dX14_can_226 rfl ?_
        refine cp_call (kc := (pq s.q - pq (capX s.R s.q r)) / 2) (ks := 4 * (pq s.q - pq (capX s.R s.q r))) (mc2 := 0) (ms2 := 0) (mi := miX5_tide) dX14_can_227 q1501 okX5_tide clX5 rfl (lv_day B H) (Nat.le_of_ble_eq_true rfl) (Cp.at_ B.hda (kX5_tide (C := C) B.on B.E K OR.2.1 (by omega))) H F rfl rfl (Nat.le_of_ble_eq_true rfl) ?_
        rintro σ C227 ⟨E227, D227⟩ H F
        have B227 := LvOk.day B E227 D227
        refine w_aload_n dX14_can_230 rfl ?_
        refine cp_call (kc := (pq s.q - pq (capX s.R s.q r)) / 2) (ks := 4 * (pq s.q - pq (capX s.R s.q r))) (mc2 := 0) (ms2 := 0) (mi := miX5_dawn) dX14_can_231 q1502 okX5_dawn clX5 rfl (lv_day B227 H) (Nat.le_of_ble_eq_true rfl) (Cp.at_ B227.hda (kX5_dawn (C := C227) B227.on B227.E hfl.1)) H F rfl rfl (Nat.le_of_ble_eq_true rfl) ?_
        rintro σ C231 ⟨E231, D231⟩ H F
        have B231 := LvOk.day B227 E231 D231
        refine w_aload_n dX14_can_234 rfl ?_
        refine w_dup dX14_can_235 rfl ?_
        refine lvg (f := 6) (v := .int (nI (cnt (XS.R (((dawnV (floodV s.R.1), s.R.2.1, s.R.2.2), s.q, s.n, s.o))) 3))) dX14_can_236 (by decide) q1432 B231 H rfl ?_
        refine w_iconst (v := nI 1) dX14_can_239 ki_1 ?_
        refine w_iaddN dX14_can_240 ?_
        refine lvp (f := 6) (s := ((dawnV (floodV s.R.1), s.R.2.1, s.R.2.2), s.q, s.n, s.o)) ((upC (dawnV (floodV s.R.1), s.R.2) 3 1, s.q, s.n, s.o)) dX14_can_241 (by decide) q1432 rfl rfl rfl B231 H F rfl rfl rfl ?_
        intro σ C241 B241 S241 H F
        refine w_iconst (v := nI 1) dX14_can_244 ki_1 ?_
        exact w_zret dX14_can_245 rfl (by first | exact narr0 | exact narr1) ⟨by rw [show fD s.R.1 r = 0 from by rw [fD, if_neg (by omega), if_neg (by omega), if_neg (by omega), if_neg (by omega), if_pos hr, if_neg hw]]; rfl, _, ⟨by rw [show doD s.R r = _ from by rw [doD, if_neg (by omega), if_neg (by omega), if_neg (by omega), if_neg (by omega), if_neg (by omega), if_neg (by omega), if_pos hr, if_neg hw], show capX s.R s.q r = _ from by rw [capX, if_neg (by omega), if_neg (by omega)], show (if r 0 = 27 then 1 else s.o) = _ from if_neg (by omega)]; exact B241, ((D227.L).trans D231.L).trans S241⟩, H, F⟩
      · have hw : vs s.R.1 6 = 99 ∨ vs s.R.1 7 = 0 := Or.inr (by omega)
        refine w_iconst (v := nI 0) dX14_can_224 ki_0 ?_
        exact w_zret dX14_can_225 rfl (by first | exact narr0 | exact narr1) ⟨by rw [show fD s.R.1 r = 1 from by rw [fD, if_neg (by omega), if_neg (by omega), if_neg (by omega), if_neg (by omega), if_pos hr, if_pos hw]]; rfl, _, ⟨by rw [show doD s.R r = _ from by rw [doD, if_neg (by omega), if_neg (by omega), if_neg (by omega), if_neg (by omega), if_neg (by omega), if_neg (by omega), if_pos hr, if_pos hw], show capX s.R s.q r = _ from by rw [capX, if_neg (by omega), if_neg (by omega)], show (if r 0 = 27 then 1 else s.o) = _ from if_neg (by omega)]; exact B, SL.refl⟩, H, F⟩
  by_cases hs_7 : aW (r 0) = 7
  · rw [show nI (aW (r 0)) = nI 7 by rw [hs_7]]
    refine w_tableOut dX14_can_9 (by decide +kernel) rfl ?_
    have hr : r 0 = 27 := by unfold isPl at hp; omega
    refine w_aload_n dX14_can_246 rfl ?_
    refine w_iconst (v := nI 1) dX14_can_247 ki_1 ?_
    refine lvp (f := 7) (s := s) ((s.R, s.q, s.n, 1)) dX14_can_248 (by decide) q1435 rfl (by first | exact narr1 | rfl) (by first | exact fitz1 | rfl) B H F rfl rfl rfl ?_
    intro σ C248 B248 S248 H F
    refine w_iconst (v := nI 1) dX14_can_251 ki_1 ?_
    exact w_zret dX14_can_252 rfl (by first | exact narr0 | exact narr1) ⟨by rw [show fD s.R.1 r = 0 from by rw [fD, if_neg (by omega), if_neg (by omega), if_neg (by omega), if_neg (by omega), if_neg (by omega)]]; rfl, _, ⟨by rw [show doD s.R r = _ from by rw [doD, if_neg (by omega), if_neg (by omega), if_neg (by omega), if_neg (by omega), if_neg (by omega), if_neg (by omega), if_neg (by omega)], show capX s.R s.q r = _ from by rw [capX, if_neg (by omega), if_neg (by omega)], show (if r 0 = 27 then 1 else s.o) = _ from if_pos hr]; exact B248, S248⟩, H, F⟩
  exact absurd ha.2.2.2.2.2.2.2 (by omega)
theorem does_l0 {g : GG} {C : CS} {j la da : Nat} {s : XS} {r : Nat → Nat} (h : fD s.R.1 r = 0) (B : LvOk g C j la da (doD s.R r, capX s.R s.q r, s.n, if r 0 = 27 then 1 else s.o)) : LvOk g C j la da (if r 0 = 27 then (s.R, s.q, s.n, 1) else (upC (doD s.R r) 0 (fD s.R.1 r), capX s.R s.q r, s.n, s.o)) := by
  by_cases z : r 0 = 27
  · rw [if_pos z] at B ⊢
    rw [show doD s.R r = s.R from by rw [doD, if_neg (by omega), if_neg (by omega), if_neg (by omega), if_neg (by omega), if_neg (by omega), if_neg (by omega), if_neg (by omega)], show capX s.R s.q r = s.q from by rw [capX, if_neg (by omega), if_neg (by omega)]] at B
    exact B
  · rw [if_neg z] at B ⊢
    rw [h, upC_0]
    exact B
theorem does_l1 {g : GG} {C : CS} {j la da : Nat} {s : XS} {r : Nat → Nat} (h : ¬ fD s.R.1 r = 0) (B : LvOk g C j la da (upC (doD s.R r) 0 1, capX s.R s.q r, s.n, if r 0 = 27 then 1 else s.o)) : LvOk g C j la da (if r 0 = 27 then (s.R, s.q, s.n, 1) else (upC (doD s.R r) 0 (fD s.R.1 r), capX s.R s.q r, s.n, s.o)) := by
  by_cases z : r 0 = 27
  · exact absurd (by rw [fD, if_neg (by omega), if_neg (by omega), if_neg (by omega), if_neg (by omega), if_neg (by omega)]) h
  · rw [if_neg z] at B ⊢
    have h1 : fD s.R.1 r = 1 := by
      unfold fD at h ⊢
      repeat' split
      all_goals first | rfl | (exfalso; apply h; simp_all)
    rw [h1]
    exact B
set_option maxHeartbeats 4000000 in
theorem vX14_does {g : GG} {C : CS} {j la da : Nat} {s : XS} {sa : Nat} {V0 : VS} {n9 k9 : Nat} {r : Nat → Nat} (B : LvOk g C j la da s) (OR : OkR V0 s.R) (OW : OkRow (vs V0 0) (vs V0 1) (vs V0 2) n9 k9 r) (hA : ActZ (oZ C) sa r) : Cp g miX14_does 7 ((pq s.q - pq (capX s.R s.q r)) / 2) (4 * (pq s.q - pq (capX s.R s.q r))) [.ref sa, .ref la] C (none) (fun C2 => LvOk g C2 j la da (if r 0 = 27 then (s.R, s.q, s.n, 1) else (upC (doD s.R r) 0 (fD s.R.1 r), capX s.R s.q r, s.n, s.o)) ∧ SL j C C2) := by
  refine Cp.start [some (.ref sa), some (.ref la)] (by decide +kernel) rfl (Nat.le_of_ble_eq_true rfl) rfl ?_
  intro σ0 σ H F
  obtain ⟨x, y, hz, hp, hx, hy⟩ := hA
  refine w_aload_n dX14_does_0 rfl ?_
  refine w_aload_n dX14_does_1 rfl ?_
  refine w_bud (kc2 := 0 + (pq s.q - pq (capX s.R s.q r)) / 2) (ks2 := 0 + 4 * (pq s.q - pq (capX s.R s.q r))) (Nat.le_of_eq (Nat.zero_add _)) (Nat.le_of_eq (Nat.zero_add _)) ?_
  refine cp_call (kc := 0) (ks := 0) (mc2 := (pq s.q - pq (capX s.R s.q r)) / 2) (ms2 := 4 * (pq s.q - pq (capX s.R s.q r))) (mi := miX14_can) dX14_does_2 q1478 okX14_can clX14 rfl (H.z hz) (Nat.le_of_ble_eq_true rfl) (vX14_can (C := C) B OR OW hz hp hx hy) H F rfl rfl (Nat.le_of_ble_eq_true rfl) ?_
  rintro σ C2 ⟨B2, S2⟩ H F
  refine w_ifB_ne dX14_does_5 rfl (fun h_5 => ?_) (fun h_5 => ?_)
  · exact w_vret dX14_does_18 rfl ⟨by rfl, _, ⟨by exact does_l0 h_5 B2, S2⟩, H, F⟩
  · refine w_aload_n dX14_does_8 rfl ?_
    refine w_dup dX14_does_9 rfl ?_
    refine lvg (f := 3) (v := .int (nI (cnt (XS.R ((doD s.R r, capX s.R s.q r, s.n, if r 0 = 27 then 1 else s.o))) 0))) dX14_does_10 (by decide) q1426 B2 H rfl ?_
    refine w_iconst (v := nI 1) dX14_does_13 ki_1 ?_
    refine w_iaddN dX14_does_14 ?_
    refine lvp (f := 3) (s := (doD s.R r, capX s.R s.q r, s.n, if r 0 = 27 then 1 else s.o)) ((upC (doD s.R r) 0 1, capX s.R s.q r, s.n, if r 0 = 27 then 1 else s.o)) dX14_does_15 (by decide) q1426 rfl rfl rfl B2 H F rfl rfl rfl ?_
    intro σ C15 B15 S15 H F
    exact w_vret dX14_does_18 rfl ⟨by rfl, _, ⟨by exact does_l1 h_5 B15, (S2).trans S15⟩, H, F⟩
