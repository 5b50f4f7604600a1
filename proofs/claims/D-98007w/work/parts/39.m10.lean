set_option maxRecDepth 100000
set_option maxHeartbeats 4000000 in
theorem c_cut {g : GG} {v : Int64} {s : Nat} (hs : s < 2147483648) : Ms g miX8_cut 1 [.long v, .int (nI s)] (some (.long (cutV v s))) := by
  refine Ms.start [some (.long v), none, some (.int (nI s))] plX8 rfl (Nat.le_of_ble_eq_true rfl) rfl ?_
  intro σ
  refine w_iload_n dX8_cut_0 rfl ?_
  refine w_ifN_ne dX8_cut_1 rfl (by omega) (fun h_1 => ?_) (fun h_1 => ?_)
  · refine w_iload_n dX8_cut_11 rfl ?_
    refine w_iconst (v := nI 1) dX8_cut_12 ki_1 ?_
    refine w_icmpN_ne dX8_cut_13 rfl (by omega) (by omega) (fun h_13 => ?_) (fun h_13 => ?_)
    · refine w_iload_n dX8_cut_23 rfl ?_
      refine w_iconst (v := nI 2) dX8_cut_24 ki_2 ?_
      refine w_icmpN_ne dX8_cut_25 rfl (by omega) (by omega) (fun h_25 => ?_) (fun h_25 => ?_)
      · refine w_lload_n dX8_cut_34 rfl ?_
        exact w_lret dX8_cut_35 rfl ⟨by rw [cutV, if_neg h_1, if_neg h_13, if_neg h_25], by first | rfl | (simp only [bP, isT, bitN, inN, *, not_true_eq_false, not_false_eq_true, and_true, true_and, and_false, false_and, or_true, true_or, or_false, false_or, and_self, or_self, if_true, if_false, ite_true, ite_false]; done) | (simp [bP, isT, bitN, inN, *]; done) | (simp_all [bP, isT, bitN, inN]; done) | (repeat split) <;> first | rfl | contradiction | simp_all⟩
      · refine w_lload_n dX8_cut_28 rfl ?_
        refine w_l2i dX8_cut_29 rfl ?_
        refine w_i2l dX8_cut_30 rfl ?_
        refine w_goto dX8_cut_31 rfl ?_
        exact w_lret dX8_cut_35 rfl ⟨by rw [cutV, if_neg h_1, if_neg h_13, if_pos h_25], by first | rfl | (simp only [bP, isT, bitN, inN, *, not_true_eq_false, not_false_eq_true, and_true, true_and, and_false, false_and, or_true, true_or, or_false, false_or, and_self, or_self, if_true, if_false, ite_true, ite_false]; done) | (simp [bP, isT, bitN, inN, *]; done) | (simp_all [bP, isT, bitN, inN]; done) | (repeat split) <;> first | rfl | contradiction | simp_all⟩
    · refine w_lload_n dX8_cut_16 rfl ?_
      refine w_l2i dX8_cut_17 rfl ?_
      refine w_i2s dX8_cut_18 rfl ?_
      refine w_i2l dX8_cut_19 rfl ?_
      refine w_goto dX8_cut_20 rfl ?_
      exact w_lret dX8_cut_35 rfl ⟨by rw [cutV, if_neg h_1, if_pos h_13], by first | rfl | (simp only [bP, isT, bitN, inN, *, not_true_eq_false, not_false_eq_true, and_true, true_and, and_false, false_and, or_true, true_or, or_false, false_or, and_self, or_self, if_true, if_false, ite_true, ite_false]; done) | (simp [bP, isT, bitN, inN, *]; done) | (simp_all [bP, isT, bitN, inN]; done) | (repeat split) <;> first | rfl | contradiction | simp_all⟩
  · refine w_lload_n dX8_cut_4 rfl ?_
    refine w_l2i dX8_cut_5 rfl ?_
    refine w_i2b dX8_cut_6 rfl ?_
    refine w_i2l dX8_cut_7 rfl ?_
    refine w_goto dX8_cut_8 rfl ?_
    exact w_lret dX8_cut_35 rfl ⟨by rw [cutV, if_pos h_1], by first | rfl | (simp only [bP, isT, bitN, inN, *, not_true_eq_false, not_false_eq_true, and_true, true_and, and_false, false_and, or_true, true_or, or_false, false_or, and_self, or_self, if_true, if_false, ite_true, ite_false]; done) | (simp [bP, isT, bitN, inN, *]; done) | (simp_all [bP, isT, bitN, inN]; done) | (repeat split) <;> first | rfl | contradiction | simp_all⟩
set_option maxHeartbeats 4000000 in
theorem c_wrongPlace {g : GG} {S : MS} {x : Int32} {y : Int32} {T : TS} (E : EncT S T) (O : OkT T) : Mt g miX8_wrongPlace 2 [.int x, .int y] (S) (some (.int (nI (wpT T x y)))) (S) := by
  refine Mt.start (fun b => [some (.ref b), some (.int x), some (.int y)]) plX8 rfl (fun b => (Nat.le_of_ble_eq_true rfl)) (fun b => rfl) ?_
  intro σ b
  refine w_iload_n dX8_wrongPlace_0 rfl ?_
  refine s_calli1 (mi := miX8_isTray) dX8_wrongPlace_1 q1683 okX8_isTray (Nat.le_of_ble_eq_true rfl) c_isTray (Nat.le_of_ble_eq_true rfl) ?_
  refine w_ifB_ne dX8_wrongPlace_4 rfl (fun h_4 => ?_) (fun h_4 => ?_)
  · obtain ⟨t, ht4, rfl⟩ := inN_of h_4 (by omega)
    have hcl_t : cl (nI t) = t := nI_clamp (by omega)
    have hx_t : inN (nI t) 4 := inN_nI ht4 (by omega)
    obtain ⟨e5_t, e6_t, e7_t⟩ := E t ht4
    obtain ⟨o5_t, o6_t⟩ := O t ht4
    refine w_aload_n dX8_wrongPlace_11 rfl ?_
    refine mg_trayMany dX8_wrongPlace_12 rfl ?_
    refine w_iload_n dX8_wrongPlace_15 rfl ?_
    refine ma_trayMany dX8_wrongPlace_16 (by omega) ?_
    rw [e6_t]
    refine w_iconst (v := (-1)) dX8_wrongPlace_17 ki_m1 ?_
    refine w_icmp_ne dX8_wrongPlace_18 rfl (fun h_18 => ?_) (fun h_18 => ?_)
    · have h_18 : tm T t ≠ 0 := mt (m1_iff (by omega)).mpr h_18
      obtain ⟨m, hm⟩ : ∃ m, tm T t = m + 1 := ⟨tm T t - 1, by omega⟩
      rw [hm, nI_dn] at e6_t
      have hm : tm T t - 1 = m := by omega
      refine w_iload_n dX8_wrongPlace_25 rfl ?_
      refine w_if_lt dX8_wrongPlace_26 rfl (fun h_26 => ?_) (fun h_26 => ?_)
      · refine w_iconst (v := nI 3) dX8_wrongPlace_39 ki_3 ?_
        refine w_goto dX8_wrongPlace_40 rfl ?_
        exact w_iret dX8_wrongPlace_44 rfl ⟨by rw [wpT, if_pos hx_t, hcl_t, if_neg h_18, if_neg (out_lt h_26)], by first | rfl | (simp only [bP, isT, bitN, inN, *, not_true_eq_false, not_false_eq_true, and_true, true_and, and_false, false_and, or_true, true_or, or_false, false_or, and_self, or_self, if_true, if_false, ite_true, ite_false]; done) | (simp [bP, isT, bitN, inN, *]; done) | (simp_all [bP, isT, bitN, inN]; done) | (repeat split) <;> first | rfl | contradiction | simp_all⟩
      · refine w_iload_n dX8_wrongPlace_29 rfl ?_
        refine w_aload_n dX8_wrongPlace_30 rfl ?_
        refine mg_trayMany dX8_wrongPlace_31 rfl ?_
        refine w_iload_n dX8_wrongPlace_34 rfl ?_
        refine ma_trayMany dX8_wrongPlace_35 (by omega) ?_
        rw [e6_t]
        refine w_icmp_lt dX8_wrongPlace_36 rfl (fun h_36 => ?_) (fun h_36 => ?_)
        · refine w_iconst (v := nI 0) dX8_wrongPlace_43 ki_0 ?_
          exact w_iret dX8_wrongPlace_44 rfl ⟨by rw [wpT, if_pos hx_t, hcl_t, if_neg h_18, if_pos (in_lt h_26 (by rw [hm]; exact h_36))], by first | rfl | (simp only [bP, isT, bitN, inN, *, not_true_eq_false, not_false_eq_true, and_true, true_and, and_false, false_and, or_true, true_or, or_false, false_or, and_self, or_self, if_true, if_false, ite_true, ite_false]; done) | (simp [bP, isT, bitN, inN, *]; done) | (simp_all [bP, isT, bitN, inN]; done) | (repeat split) <;> first | rfl | contradiction | simp_all⟩
        · refine w_iconst (v := nI 3) dX8_wrongPlace_39 ki_3 ?_
          refine w_goto dX8_wrongPlace_40 rfl ?_
          exact w_iret dX8_wrongPlace_44 rfl ⟨by rw [wpT, if_pos hx_t, hcl_t, if_neg h_18, if_neg (out_ge (by rw [hm]; exact h_36))], by first | rfl | (simp only [bP, isT, bitN, inN, *, not_true_eq_false, not_false_eq_true, and_true, true_and, and_false, false_and, or_true, true_or, or_false, false_or, and_self, or_self, if_true, if_false, ite_true, ite_false]; done) | (simp [bP, isT, bitN, inN, *]; done) | (simp_all [bP, isT, bitN, inN]; done) | (repeat split) <;> first | rfl | contradiction | simp_all⟩
    · have h_18 : tm T t = 0 := (m1_iff (by omega)).mp h_18
      refine w_iconst (v := nI 2) dX8_wrongPlace_21 ki_2 ?_
      refine w_goto dX8_wrongPlace_22 rfl ?_
      exact w_iret dX8_wrongPlace_44 rfl ⟨by rw [wpT, if_pos hx_t, hcl_t, if_pos h_18], by first | rfl | (simp only [bP, isT, bitN, inN, *, not_true_eq_false, not_false_eq_true, and_true, true_and, and_false, false_and, or_true, true_or, or_false, false_or, and_self, or_self, if_true, if_false, ite_true, ite_false]; done) | (simp [bP, isT, bitN, inN, *]; done) | (simp_all [bP, isT, bitN, inN]; done) | (repeat split) <;> first | rfl | contradiction | simp_all⟩
  · refine w_iconst (v := nI 1) dX8_wrongPlace_7 ki_1 ?_
    refine w_goto dX8_wrongPlace_8 rfl ?_
    exact w_iret dX8_wrongPlace_44 rfl ⟨by rw [wpT, if_neg h_4], by first | rfl | (simp only [bP, isT, bitN, inN, *, not_true_eq_false, not_false_eq_true, and_true, true_and, and_false, false_and, or_true, true_or, or_false, false_or, and_self, or_self, if_true, if_false, ite_true, ite_false]; done) | (simp [bP, isT, bitN, inN, *]; done) | (simp_all [bP, isT, bitN, inN]; done) | (repeat split) <;> first | rfl | contradiction | simp_all⟩
set_option maxHeartbeats 4000000 in
theorem c_read {g : GG} {S : MS} {x : Int32} {y : Int32} {T : TS} (E : EncT S T) (O : OkT T) : Mt g miX8_read 3 [.int x, .int y] (S) (some (.long (a_read T x y))) (sI S 2 (nI (wpT T x y))) := by
  refine Mt.start (fun b => [some (.ref b), some (.int x), some (.int y)]) plX8 rfl (fun b => (Nat.le_of_ble_eq_true rfl)) (fun b => rfl) ?_
  intro σ b
  have hw3 := wpT_le T x y
  refine w_aload_n dX8_read_0 rfl ?_
  refine w_aload_n dX8_read_1 rfl ?_
  refine w_iload_n dX8_read_2 rfl ?_
  refine w_iload_n dX8_read_3 rfl ?_
  refine m_calli2 (mi := miX8_wrongPlace) dX8_read_4 q1694 okX8_wrongPlace rfl (Nat.le_of_ble_eq_true rfl) (c_wrongPlace E (by first | assumption | omega)) (Nat.le_of_ble_eq_true rfl) ?_
  refine mp_status dX8_read_7 rfl ?_
  refine w_aload_n dX8_read_10 rfl ?_
  refine mg_status dX8_read_11 rfl ?_
  refine w_topN (n := wpT T x y) rfl ?_
  refine w_ifN_le dX8_read_14 rfl (by omega) (fun h_14 => ?_) (fun h_14 => ?_)
  · have h_W : wpT T x y = 0 := by omega
    obtain ⟨hx4, hm0, hy⟩ := wpT_0 h_W
    obtain ⟨t, ht4, rfl⟩ := inN_of hx4 (by omega)
    have hcl_t : cl (nI t) = t := nI_clamp (by omega)
    rw [hcl_t] at hm0 hy
    obtain ⟨e5_t, e6_t, e7_t⟩ := E t ht4
    obtain ⟨o5_t, o6_t⟩ := O t ht4
    obtain ⟨k, hk, rfl⟩ := inN_of hy (by omega)
    have hcl_k : cl (nI k) = k := nI_clamp (by omega)
    refine w_aload_n dX8_read_23 rfl ?_
    refine mg_trays dX8_read_24 rfl ?_
    refine w_bipush (v := nI 60) dX8_read_27 kb_60 ?_
    refine w_iload_n dX8_read_29 rfl ?_
    refine w_imulN dX8_read_30 ?_
    refine w_iload_n dX8_read_31 rfl ?_
    refine w_iaddN dX8_read_32 ?_
    refine ma_trays dX8_read_33 (by omega) ?_
    refine w_top (y := .long (tv T t k)) (congrArg Value.long (e7_t k (by omega))) ?_
    exact w_lret dX8_read_34 rfl ⟨by rw [a_read, if_pos h_W, hcl_t, hcl_k], by rfl⟩
  · refine w_ldc2 dX8_read_17 q1705 ?_
    refine w_goto dX8_read_20 rfl ?_
    exact w_lret dX8_read_34 rfl ⟨by rw [a_read, if_neg (by omega)], by rfl⟩
set_option maxHeartbeats 4000000 in
theorem c_write {g : GG} {S : MS} {x : Int32} {y : Int32} {v : Int64} {T : TS} (E : EncT S T) (O : OkT T) : Mp g miX8_write 3 [.int x, .int y, .long v] (S) (some (.int (bP (nI (wpT T x y) = 0)))) (fun S2 => FrT S S2 ∧ EncT S2 (v_write T x y v) ∧ mI S2 2 = nI (wpT T x y)) := by
  refine Mp.start (fun b => [some (.ref b), some (.int x), some (.int y), some (.long v), none, none]) plX8 rfl (fun b => (Nat.le_of_ble_eq_true rfl)) (fun b => rfl) ?_
  intro σ b
  have hw3 := wpT_le T x y
  have hN : ∀ t, t < 4 → tm T t ≤ 61 := fun t ht => (O t ht).2
  refine w_aload_n dX8_write_0 rfl ?_
  refine w_iload_n dX8_write_1 rfl ?_
  refine w_iload_n dX8_write_2 rfl ?_
  refine m_calli2 (mi := miX8_wrongPlace) dX8_write_3 q1694 okX8_wrongPlace rfl (Nat.le_of_ble_eq_true rfl) (c_wrongPlace E (by first | assumption | omega)) (Nat.le_of_ble_eq_true rfl) ?_
  refine w_istore dX8_write_6 rfl (Nat.le_of_ble_eq_true rfl) ls_6_5 ?_
  refine w_iload dX8_write_8 rfl ?_
  refine w_ifN_ne dX8_write_10 rfl (by omega) (fun h_10 => ?_) (fun h_10 => ?_)
  · refine w_aload_n dX8_write_34 rfl ?_
    refine w_iload dX8_write_35 rfl ?_
    refine m_calli1 (mi := miX8_is) dX8_write_37 q1686 okX8_is rfl (Nat.le_of_ble_eq_true rfl) c_is (Nat.le_of_ble_eq_true rfl) ?_
    exact w_zret dX8_write_40 rfl narrB ⟨by rfl, _, by rw [v_write, if_neg (by omega)]; exact ⟨⟨fun k hk => if_neg hk, fun _ => rfl, fun _ _ _ => rfl, fun _ _ => rfl⟩, E, rfl⟩, rfl⟩
  · have h_W : wpT T x y = 0 := h_10
    have hx12 := h_W
    obtain ⟨hx4, hm0, hy⟩ := wpT_0 h_W
    obtain ⟨t, ht4, rfl⟩ := inN_of hx4 (by omega)
    have hcl_t : cl (nI t) = t := nI_clamp (by omega)
    rw [hcl_t] at hm0 hy
    obtain ⟨e5_t, e6_t, e7_t⟩ := E t ht4
    obtain ⟨o5_t, o6_t⟩ := O t ht4
    obtain ⟨k, hk, rfl⟩ := inN_of hy (by omega)
    have hcl_k : cl (nI k) = k := nI_clamp (by omega)
    refine w_aload_n dX8_write_13 rfl ?_
    refine mg_trays dX8_write_14 rfl ?_
    refine w_bipush (v := nI 60) dX8_write_17 kb_60 ?_
    refine w_iload_n dX8_write_19 rfl ?_
    refine w_imulN dX8_write_20 ?_
    refine w_iload_n dX8_write_21 rfl ?_
    refine w_iaddN dX8_write_22 ?_
    refine w_lload_n dX8_write_23 rfl ?_
    refine w_aload_n dX8_write_24 rfl ?_
    refine mg_sort dX8_write_25 rfl ?_
    refine w_iload_n dX8_write_28 rfl ?_
    refine ma_sort dX8_write_29 (by omega) ?_
    rw [e5_t]
    refine s_calll2 (mi := miX8_cut) dX8_write_30 q1698 okX8_cut (Nat.le_of_ble_eq_true rfl) (c_cut (by first | assumption | omega)) (Nat.le_of_ble_eq_true rfl) ?_
    refine ms_trays dX8_write_33 (by omega) ?_
    refine w_aload_n dX8_write_34 rfl ?_
    refine w_iload dX8_write_35 rfl ?_
    refine m_calli1 (mi := miX8_is) dX8_write_37 q1686 okX8_is rfl (Nat.le_of_ble_eq_true rfl) c_is (Nat.le_of_ble_eq_true rfl) ?_
    exact w_zret dX8_write_40 rfl narrB ⟨by rfl, _, by rw [v_write, if_pos h_W, hcl_t, hcl_k]; have h := wr_ok E (t := t) (k := k) ht4 (by omega) hN (cutV v (tk T t)) (nI (wpT T (nI t) (nI k))); exact ⟨h.1, h.2, rfl⟩, rfl⟩
set_option maxHeartbeats 4000000 in
theorem c_tray {g : GG} {S : MS} {x : Int32} {y : Int32} {z : Int32} {T : TS} (E : EncT S T) (O : OkT T) : Mp g miX8_tray 2 [.int x, .int y, .int z] (S) (some (.int (bP (nI (w_tray x y z) = 0)))) (fun S2 => FrT S S2 ∧ EncT S2 (v_tray T x y z) ∧ mI S2 2 = nI (w_tray x y z)) := by
  refine Mp.start (fun b => [some (.ref b), some (.int x), some (.int y), some (.int z), none]) plX8 rfl (fun b => (Nat.le_of_ble_eq_true rfl)) (fun b => rfl) ?_
  intro σ b
  refine w_iload_n dX8_tray_0 rfl ?_
  refine s_calli1 (mi := miX8_isTray) dX8_tray_1 q1683 okX8_isTray (Nat.le_of_ble_eq_true rfl) c_isTray (Nat.le_of_ble_eq_true rfl) ?_
  refine w_ifB_eq dX8_tray_4 rfl (fun h_4 => ?_) (fun h_4 => ?_)
  · have hno : ¬ (inN x 4 ∧ inN y 4 ∧ inN z 61) := fun z => h_4 z.1
    refine w_aload_n dX8_tray_26 rfl ?_
    refine w_iconst (v := nI 1) dX8_tray_27 ki_1 ?_
    refine m_calli1 (mi := miX8_is) dX8_tray_28 q1686 okX8_is rfl (Nat.le_of_ble_eq_true rfl) c_is (Nat.le_of_ble_eq_true rfl) ?_
    exact w_zret dX8_tray_31 rfl narrB ⟨by first | (rw [w_tray, if_neg hno]; done) | (rw [w_tray, if_neg hno]; rfl), _, by rw [v_tray, if_neg hno, w_tray, if_neg hno]; exact ⟨⟨fun k hk => if_neg hk, fun _ => rfl, fun _ _ _ => rfl, fun _ _ => rfl⟩, E, rfl⟩, rfl⟩
  · refine w_iload_n dX8_tray_7 rfl ?_
    refine w_if_lt dX8_tray_8 rfl (fun h_8 => ?_) (fun h_8 => ?_)
    · have hno : ¬ (inN x 4 ∧ inN y 4 ∧ inN z 61) := fun z => h_8 |> fun w => z.2.1.1 w
      refine w_aload_n dX8_tray_26 rfl ?_
      refine w_iconst (v := nI 1) dX8_tray_27 ki_1 ?_
      refine m_calli1 (mi := miX8_is) dX8_tray_28 q1686 okX8_is rfl (Nat.le_of_ble_eq_true rfl) c_is (Nat.le_of_ble_eq_true rfl) ?_
      exact w_zret dX8_tray_31 rfl narrB ⟨by first | (rw [w_tray, if_neg hno]; done) | (rw [w_tray, if_neg hno]; rfl), _, by rw [v_tray, if_neg hno, w_tray, if_neg hno]; exact ⟨⟨fun k hk => if_neg hk, fun _ => rfl, fun _ _ _ => rfl, fun _ _ => rfl⟩, E, rfl⟩, rfl⟩
    · refine w_iload_n dX8_tray_11 rfl ?_
      refine w_iconst (v := nI 3) dX8_tray_12 ki_3 ?_
      refine w_icmp_gt dX8_tray_13 rfl (fun h_13 => ?_) (fun h_13 => ?_)
      · have hno : ¬ (inN x 4 ∧ inN y 4 ∧ inN z 61) := fun z => out_gt h_13 (by omega) z.2.1
        refine w_aload_n dX8_tray_26 rfl ?_
        refine w_iconst (v := nI 1) dX8_tray_27 ki_1 ?_
        refine m_calli1 (mi := miX8_is) dX8_tray_28 q1686 okX8_is rfl (Nat.le_of_ble_eq_true rfl) c_is (Nat.le_of_ble_eq_true rfl) ?_
        exact w_zret dX8_tray_31 rfl narrB ⟨by first | (rw [w_tray, if_neg hno]; done) | (rw [w_tray, if_neg hno]; rfl), _, by rw [v_tray, if_neg hno, w_tray, if_neg hno]; exact ⟨⟨fun k hk => if_neg hk, fun _ => rfl, fun _ _ _ => rfl, fun _ _ => rfl⟩, E, rfl⟩, rfl⟩
      · refine w_iload_n dX8_tray_16 rfl ?_
        refine w_if_lt dX8_tray_17 rfl (fun h_17 => ?_) (fun h_17 => ?_)
        · have hno : ¬ (inN x 4 ∧ inN y 4 ∧ inN z 61) := fun q => q.2.2.1 h_17
          refine w_aload_n dX8_tray_26 rfl ?_
          refine w_iconst (v := nI 1) dX8_tray_27 ki_1 ?_
          refine m_calli1 (mi := miX8_is) dX8_tray_28 q1686 okX8_is rfl (Nat.le_of_ble_eq_true rfl) c_is (Nat.le_of_ble_eq_true rfl) ?_
          exact w_zret dX8_tray_31 rfl narrB ⟨by first | (rw [w_tray, if_neg hno]; done) | (rw [w_tray, if_neg hno]; rfl), _, by rw [v_tray, if_neg hno, w_tray, if_neg hno]; exact ⟨⟨fun k hk => if_neg hk, fun _ => rfl, fun _ _ _ => rfl, fun _ _ => rfl⟩, E, rfl⟩, rfl⟩
        · refine w_iload_n dX8_tray_20 rfl ?_
          refine w_bipush (v := nI 60) dX8_tray_21 kb_60 ?_
          refine w_icmp_le dX8_tray_23 rfl (fun h_23 => ?_) (fun h_23 => ?_)
          · obtain ⟨t, ht4, rfl⟩ := inN_of h_4 (by omega)
            have hcl_t : cl (nI t) = t := nI_clamp (by omega)
            have hyes : inN (nI t) 4 ∧ inN y 4 ∧ inN z 61 := ⟨h_4, in_le h_8 (Int32.not_lt.mp h_13) (by omega), in_le h_17 h_23 (by omega)⟩
            obtain ⟨q, hq, rfl⟩ := inN_of hyes.2.1 (by omega)
            have hcl_q : cl (nI q) = q := nI_clamp (by omega)
            obtain ⟨n, hn, rfl⟩ := inN_of hyes.2.2 (by omega)
            have hcl_n : cl (nI n) = n := nI_clamp (by omega)
            refine w_aload_n dX8_tray_32 rfl ?_
            refine mg_sort dX8_tray_33 rfl ?_
            refine w_iload_n dX8_tray_36 rfl ?_
            refine w_iload_n dX8_tray_37 rfl ?_
            refine ms_sort dX8_tray_38 (by omega) ?_
            refine w_aload_n dX8_tray_39 rfl ?_
            refine mg_trayMany dX8_tray_40 rfl ?_
            refine w_iload_n dX8_tray_43 rfl ?_
            refine w_iload_n dX8_tray_44 rfl ?_
            refine ms_trayMany dX8_tray_45 (by omega) ?_
            refine w_iconst (v := nI 0) dX8_tray_46 ki_0 ?_
            refine w_istore dX8_tray_47 rfl (Nat.le_of_ble_eq_true rfl) ls_5_4 ?_
            have lp : ∀ (j9 : Nat) (k : Nat), n - k < j9 → k ≤ n → Wp g (mtP g miX8_tray 2 σ b (some (.int (bP (nI (w_tray (nI t) (nI q) (nI n)) = 0)))) (fun S2 => FrT S S2 ∧ EncT S2 (v_tray T (nI t) (nI q) (nI n)) ∧ mI S2 2 = nI (w_tray (nI t) (nI q) (nI n)))) 0 0 49 [some (.ref b), some (.int (nI t)), some (.int (nI q)), some (.int (nI n)), some (.int (nI k))] [] (sM g σ b (trS S t q n k)) := by
              intro j9
              induction j9 with
              | zero => intro k hmu hk; exact absurd hmu (Nat.not_lt_zero _)
              | succ j9 ih_lp =>
                intro k hmu hk
                refine w_iload dX8_tray_49 rfl ?_
                refine w_iload_n dX8_tray_51 rfl ?_
                refine w_icmpN_ge dX8_tray_52 rfl (by omega) (by omega) (fun h_52 => ?_) (fun h_52 => ?_)
                · obtain rfl : k = n := by omega
                  refine w_aload_n dX8_tray_74 rfl ?_
                  refine w_iconst (v := nI 0) dX8_tray_75 ki_0 ?_
                  refine m_calli1 (mi := miX8_is) dX8_tray_76 q1686 okX8_is rfl (Nat.le_of_ble_eq_true rfl) c_is (Nat.le_of_ble_eq_true rfl) ?_
                  exact w_zret dX8_tray_79 rfl narrB ⟨by first | (rw [w_tray, if_pos hyes]; done) | (rw [w_tray, if_pos hyes]; rfl), _, by rw [v_tray, if_pos hyes, w_tray, if_pos hyes, hcl_t, hcl_q, hcl_n]; have h := trS_ok E O (t := t) (q := q) (z := k) ht4 hn (nI 0); exact ⟨h.1, h.2, rfl⟩, rfl⟩
                · refine w_aload_n dX8_tray_55 rfl ?_
                  refine mg_trays dX8_tray_56 rfl ?_
                  refine w_bipush (v := nI 60) dX8_tray_59 kb_60 ?_
                  refine w_iload_n dX8_tray_61 rfl ?_
                  refine w_imulN dX8_tray_62 ?_
                  refine w_iload dX8_tray_63 rfl ?_
                  refine w_iaddN dX8_tray_65 ?_
                  refine w_lconst (v := 0) dX8_tray_66 rfl ?_
                  refine ms_trays dX8_tray_67 (by omega) ?_
                  refine w_iinc dX8_tray_68 rfl (nI_inc _ 1) rfl (Nat.le_of_ble_eq_true rfl) ls_5_4 ?_
                  refine w_goto dX8_tray_71 rfl ?_
                  exact ih_lp (k + 1) (by omega) (by omega)
            exact lp (n + 1) 0 (by omega) (by omega)
          · have hno : ¬ (inN x 4 ∧ inN y 4 ∧ inN z 61) := fun q => out_gt (Int32.not_le.mp h_23) (by omega) q.2.2
            refine w_aload_n dX8_tray_26 rfl ?_
            refine w_iconst (v := nI 1) dX8_tray_27 ki_1 ?_
            refine m_calli1 (mi := miX8_is) dX8_tray_28 q1686 okX8_is rfl (Nat.le_of_ble_eq_true rfl) c_is (Nat.le_of_ble_eq_true rfl) ?_
            exact w_zret dX8_tray_31 rfl narrB ⟨by first | (rw [w_tray, if_neg hno]; done) | (rw [w_tray, if_neg hno]; rfl), _, by rw [v_tray, if_neg hno, w_tray, if_neg hno]; exact ⟨⟨fun k hk => if_neg hk, fun _ => rfl, fun _ _ _ => rfl, fun _ _ => rfl⟩, E, rfl⟩, rfl⟩
set_option maxHeartbeats 4000000 in
theorem c_pour {g : GG} {S : MS} {x : Int32} {y : Int32} {z : Int32} {u : Int32} {w : Int32} {T : TS} (E : EncT S T) (O : OkT T) : Mp g miX8_pour 2 [.int x, .int y, .int z, .int u, .int w] (S) (some (.int (bP (nI (w_pour T x y z u w) = 0)))) (fun S2 => FrT S S2 ∧ EncT S2 (v_pour T x y z u w) ∧ mI S2 2 = nI (w_pour T x y z u w)) := by
  refine Mp.start (fun b => [some (.ref b), some (.int x), some (.int y), some (.int z), some (.int u), some (.int w), none, none]) plX8 rfl (fun b => (Nat.le_of_ble_eq_true rfl)) (fun b => rfl) ?_
  intro σ b
  refine w_iload_n dX8_pour_0 rfl ?_
  refine s_calli1 (mi := miX8_isTray) dX8_pour_1 q1683 okX8_isTray (Nat.le_of_ble_eq_true rfl) c_isTray (Nat.le_of_ble_eq_true rfl) ?_
  refine w_ifB_eq dX8_pour_4 rfl (fun h_4 => ?_) (fun h_4 => ?_)
  · have hno : ¬ (inN x 4 ∧ inN z 4 ∧ ¬ y < 0 ∧ ¬ u < 0 ∧ ¬ w < 0) := fun z => h_4 z.1
    refine w_aload_n dX8_pour_28 rfl ?_
    refine w_iconst (v := nI 1) dX8_pour_29 ki_1 ?_
    refine m_calli1 (mi := miX8_is) dX8_pour_30 q1686 okX8_is rfl (Nat.le_of_ble_eq_true rfl) c_is (Nat.le_of_ble_eq_true rfl) ?_
    exact w_zret dX8_pour_33 rfl narrB ⟨by first | (rw [show w_pour T x y z u w = 1 by rw [w_pour, if_neg hno]]; done) | (rw [show w_pour T x y z u w = 1 by rw [w_pour, if_neg hno]]; rfl), _, by rw [v_pour, show w_pour T x y z u w = 1 by rw [w_pour, if_neg hno], if_neg (by omega)]; exact ⟨⟨fun k hk => if_neg hk, fun _ => rfl, fun _ _ _ => rfl, fun _ _ => rfl⟩, E, rfl⟩, rfl⟩
  · refine w_iload_n dX8_pour_7 rfl ?_
    refine s_calli1 (mi := miX8_isTray) dX8_pour_8 q1683 okX8_isTray (Nat.le_of_ble_eq_true rfl) c_isTray (Nat.le_of_ble_eq_true rfl) ?_
    refine w_ifB_eq dX8_pour_11 rfl (fun h_11 => ?_) (fun h_11 => ?_)
    · have hno : ¬ (inN x 4 ∧ inN z 4 ∧ ¬ y < 0 ∧ ¬ u < 0 ∧ ¬ w < 0) := fun z => h_11 z.2.1
      refine w_aload_n dX8_pour_28 rfl ?_
      refine w_iconst (v := nI 1) dX8_pour_29 ki_1 ?_
      refine m_calli1 (mi := miX8_is) dX8_pour_30 q1686 okX8_is rfl (Nat.le_of_ble_eq_true rfl) c_is (Nat.le_of_ble_eq_true rfl) ?_
      exact w_zret dX8_pour_33 rfl narrB ⟨by first | (rw [show w_pour T x y z u w = 1 by rw [w_pour, if_neg hno]]; done) | (rw [show w_pour T x y z u w = 1 by rw [w_pour, if_neg hno]]; rfl), _, by rw [v_pour, show w_pour T x y z u w = 1 by rw [w_pour, if_neg hno], if_neg (by omega)]; exact ⟨⟨fun k hk => if_neg hk, fun _ => rfl, fun _ _ _ => rfl, fun _ _ => rfl⟩, E, rfl⟩, rfl⟩
    · refine w_iload_n dX8_pour_14 rfl ?_
      refine w_if_lt dX8_pour_15 rfl (fun h_15 => ?_) (fun h_15 => ?_)
      · have hno : ¬ (inN x 4 ∧ inN z 4 ∧ ¬ y < 0 ∧ ¬ u < 0 ∧ ¬ w < 0) := fun z => z.2.2.1 h_15
        refine w_aload_n dX8_pour_28 rfl ?_
        refine w_iconst (v := nI 1) dX8_pour_29 ki_1 ?_
        refine m_calli1 (mi := miX8_is) dX8_pour_30 q1686 okX8_is rfl (Nat.le_of_ble_eq_true rfl) c_is (Nat.le_of_ble_eq_true rfl) ?_
        exact w_zret dX8_pour_33 rfl narrB ⟨by first | (rw [show w_pour T x y z u w = 1 by rw [w_pour, if_neg hno]]; done) | (rw [show w_pour T x y z u w = 1 by rw [w_pour, if_neg hno]]; rfl), _, by rw [v_pour, show w_pour T x y z u w = 1 by rw [w_pour, if_neg hno], if_neg (by omega)]; exact ⟨⟨fun k hk => if_neg hk, fun _ => rfl, fun _ _ _ => rfl, fun _ _ => rfl⟩, E, rfl⟩, rfl⟩
      · refine w_iload dX8_pour_18 rfl ?_
        refine w_if_lt dX8_pour_20 rfl (fun h_20 => ?_) (fun h_20 => ?_)
        · have hno : ¬ (inN x 4 ∧ inN z 4 ∧ ¬ y < 0 ∧ ¬ u < 0 ∧ ¬ w < 0) := fun z => z.2.2.2.1 h_20
          refine w_aload_n dX8_pour_28 rfl ?_
          refine w_iconst (v := nI 1) dX8_pour_29 ki_1 ?_
          refine m_calli1 (mi := miX8_is) dX8_pour_30 q1686 okX8_is rfl (Nat.le_of_ble_eq_true rfl) c_is (Nat.le_of_ble_eq_true rfl) ?_
          exact w_zret dX8_pour_33 rfl narrB ⟨by first | (rw [show w_pour T x y z u w = 1 by rw [w_pour, if_neg hno]]; done) | (rw [show w_pour T x y z u w = 1 by rw [w_pour, if_neg hno]]; rfl), _, by rw [v_pour, show w_pour T x y z u w = 1 by rw [w_pour, if_neg hno], if_neg (by omega)]; exact ⟨⟨fun k hk => if_neg hk, fun _ => rfl, fun _ _ _ => rfl, fun _ _ => rfl⟩, E, rfl⟩, rfl⟩
        · refine w_iload dX8_pour_23 rfl ?_
          refine w_if_ge dX8_pour_25 rfl (fun h_25 => ?_) (fun h_25 => ?_)
          · have hyes : inN x 4 ∧ inN z 4 ∧ ¬ y < 0 ∧ ¬ u < 0 ∧ ¬ w < 0 := ⟨h_4, h_11, h_15, h_20, Int32.not_lt.mpr h_25⟩
            obtain ⟨f, hf4, rfl⟩ := inN_of h_4 (by omega)
            have hcl_f : cl (nI f) = f := nI_clamp (by omega)
            have hx_f : inN (nI f) 4 := inN_nI hf4 (by omega)
            obtain ⟨e5_f, e6_f, e7_f⟩ := E f hf4
            obtain ⟨o5_f, o6_f⟩ := O f hf4
            obtain ⟨t, ht4, rfl⟩ := inN_of h_11 (by omega)
            have hcl_t : cl (nI t) = t := nI_clamp (by omega)
            have hx_t : inN (nI t) 4 := inN_nI ht4 (by omega)
            obtain ⟨e5_t, e6_t, e7_t⟩ := E t ht4
            obtain ⟨o5_t, o6_t⟩ := O t ht4
            obtain ⟨p, hpp, rfl, hcl_p⟩ := nat_pos h_15
            obtain ⟨a, hap, rfl, hcl_a⟩ := nat_pos h_20
            obtain ⟨n, hnp, rfl, hcl_n⟩ := nat_pos hyes.2.2.2.2
            refine w_aload_n dX8_pour_34 rfl ?_
            refine mg_trayMany dX8_pour_35 rfl ?_
            refine w_iload_n dX8_pour_38 rfl ?_
            refine ma_trayMany dX8_pour_39 (by omega) ?_
            rw [e6_f]
            refine w_iconst (v := (-1)) dX8_pour_40 ki_m1 ?_
            refine w_icmp_eq dX8_pour_41 rfl (fun h_41 => ?_) (fun h_41 => ?_)
            · have h_41 : tm T f = 0 := (m1_iff (by omega)).mp h_41
              refine w_aload_n dX8_pour_54 rfl ?_
              refine w_iconst (v := nI 2) dX8_pour_55 ki_2 ?_
              refine m_calli1 (mi := miX8_is) dX8_pour_56 q1686 okX8_is rfl (Nat.le_of_ble_eq_true rfl) c_is (Nat.le_of_ble_eq_true rfl) ?_
              exact w_zret dX8_pour_59 rfl narrB ⟨by first | (rw [show w_pour T (nI f) (nI p) (nI t) (nI a) (nI n) = 2 by rw [w_pour, if_pos hyes, hcl_f, hcl_t, if_pos (Or.inl h_41)]]; done) | (rw [show w_pour T (nI f) (nI p) (nI t) (nI a) (nI n) = 2 by rw [w_pour, if_pos hyes, hcl_f, hcl_t, if_pos (Or.inl h_41)]]; rfl), _, by rw [v_pour, show w_pour T (nI f) (nI p) (nI t) (nI a) (nI n) = 2 by rw [w_pour, if_pos hyes, hcl_f, hcl_t, if_pos (Or.inl h_41)], if_neg (by omega)]; exact ⟨⟨fun k hk => if_neg hk, fun _ => rfl, fun _ _ _ => rfl, fun _ _ => rfl⟩, E, rfl⟩, rfl⟩
            · have h_41 : ¬ tm T f = 0 := mt (m1_iff (by omega)).mpr h_41
              refine w_aload_n dX8_pour_44 rfl ?_
              refine mg_trayMany dX8_pour_45 rfl ?_
              refine w_iload_n dX8_pour_48 rfl ?_
              refine ma_trayMany dX8_pour_49 (by omega) ?_
              rw [e6_t]
              refine w_iconst (v := (-1)) dX8_pour_50 ki_m1 ?_
              refine w_icmp_ne dX8_pour_51 rfl (fun h_51 => ?_) (fun h_51 => ?_)
              · have h_51 : ¬ tm T t = 0 := mt (m1_iff (by omega)).mpr h_51
                obtain ⟨m1, hmf⟩ : ∃ m1, tm T f = m1 + 1 := ⟨tm T f - 1, by omega⟩
                obtain ⟨m2, hmt⟩ : ∃ m2, tm T t = m2 + 1 := ⟨tm T t - 1, by omega⟩
                rw [hmf, nI_dn] at e6_f
                rw [hmt, nI_dn] at e6_t
                refine w_aload_n dX8_pour_60 rfl ?_
                refine mg_sort dX8_pour_61 rfl ?_
                refine w_iload_n dX8_pour_64 rfl ?_
                refine ma_sort dX8_pour_65 (by omega) ?_
                rw [e5_f]
                refine w_aload_n dX8_pour_66 rfl ?_
                refine mg_sort dX8_pour_67 rfl ?_
                refine w_iload_n dX8_pour_70 rfl ?_
                refine ma_sort dX8_pour_71 (by omega) ?_
                rw [e5_t]
                refine w_icmpN_eq dX8_pour_72 rfl (by omega) (by omega) (fun h_72 => ?_) (fun h_72 => ?_)
                · refine w_iload dX8_pour_82 rfl ?_
                  refine w_aload_n dX8_pour_84 rfl ?_
                  refine mg_trayMany dX8_pour_85 rfl ?_
                  refine w_iload_n dX8_pour_88 rfl ?_
                  refine ma_trayMany dX8_pour_89 (by omega) ?_
                  rw [e6_f]
                  refine w_iload_n dX8_pour_90 rfl ?_
                  refine w_isub dX8_pour_91 ?_
                  refine w_icmp_gt dX8_pour_92 rfl (fun h_92 => ?_) (fun h_92 => ?_)
                  · have h_92 := (sub_gt (by omega) hpp hnp).mp h_92
                    refine w_aload_n dX8_pour_109 rfl ?_
                    refine w_iconst (v := nI 3) dX8_pour_110 ki_3 ?_
                    refine m_calli1 (mi := miX8_is) dX8_pour_111 q1686 okX8_is rfl (Nat.le_of_ble_eq_true rfl) c_is (Nat.le_of_ble_eq_true rfl) ?_
                    exact w_zret dX8_pour_114 rfl narrB ⟨by first | (rw [show w_pour T (nI f) (nI p) (nI t) (nI a) (nI n) = 3 by rw [w_pour, if_pos hyes, hcl_f, hcl_t, if_neg (fun z => z.elim h_41 h_51), if_neg (fun z => z h_72), hcl_p, hcl_a, hcl_n, if_neg (by omega)]]; done) | (rw [show w_pour T (nI f) (nI p) (nI t) (nI a) (nI n) = 3 by rw [w_pour, if_pos hyes, hcl_f, hcl_t, if_neg (fun z => z.elim h_41 h_51), if_neg (fun z => z h_72), hcl_p, hcl_a, hcl_n, if_neg (by omega)]]; rfl), _, by rw [v_pour, show w_pour T (nI f) (nI p) (nI t) (nI a) (nI n) = 3 by rw [w_pour, if_pos hyes, hcl_f, hcl_t, if_neg (fun z => z.elim h_41 h_51), if_neg (fun z => z h_72), hcl_p, hcl_a, hcl_n, if_neg (by omega)], if_neg (by omega)]; exact ⟨⟨fun k hk => if_neg hk, fun _ => rfl, fun _ _ _ => rfl, fun _ _ => rfl⟩, E, rfl⟩, rfl⟩
                  · have h_92 := mt (sub_gt (by omega) hpp hnp).mpr h_92
                    refine w_iload dX8_pour_95 rfl ?_
                    refine w_aload_n dX8_pour_97 rfl ?_
                    refine mg_trayMany dX8_pour_98 rfl ?_
                    refine w_iload_n dX8_pour_101 rfl ?_
                    refine ma_trayMany dX8_pour_102 (by omega) ?_
                    rw [e6_t]
                    refine w_iload dX8_pour_103 rfl ?_
                    refine w_isub dX8_pour_105 ?_
                    refine w_icmp_le dX8_pour_106 rfl (fun h_106 => ?_) (fun h_106 => ?_)
                    · have h_106 := mt (sub_gt (by omega) hap hnp).mpr (Int32.not_lt.mpr h_106)
                      refine w_iconst (v := nI 0) dX8_pour_115 ki_0 ?_
                      refine w_istore dX8_pour_116 rfl (Nat.le_of_ble_eq_true rfl) ls_8_6 ?_
                      have lp : ∀ (j9 : Nat) (i : Nat), n - i < j9 → i ≤ n → Wp g (mtP g miX8_pour 2 σ b (some (.int (bP (nI (w_pour T (nI f) (nI p) (nI t) (nI a) (nI n)) = 0)))) (fun S2 => FrT S S2 ∧ EncT S2 (v_pour T (nI f) (nI p) (nI t) (nI a) (nI n)) ∧ mI S2 2 = nI (w_pour T (nI f) (nI p) (nI t) (nI a) (nI n)))) 0 0 118 [some (.ref b), some (.int (nI f)), some (.int (nI p)), some (.int (nI t)), some (.int (nI a)), some (.int (nI n)), some (.int (nI i)), none] [] (sM g σ b (setB S (poA (mB S 7) (60 * f + p) (60 * t + a) (if p < a then n - i else 0) (if p < a then n else i)))) := by
                        intro j9
                        induction j9 with
                        | zero => intro i hmu hi; exact absurd hmu (Nat.not_lt_zero _)
                        | succ j9 ih_lp =>
                          intro i hmu hi
                          have hnl : p + n + 1 ≤ tm T f ∧ a + n + 1 ≤ tm T t := ⟨by omega, by omega⟩
                          refine w_iload dX8_pour_118 rfl ?_
                          refine w_iload dX8_pour_120 rfl ?_
                          refine w_icmpN_ge dX8_pour_122 rfl (by omega) (by omega) (fun h_122 => ?_) (fun h_122 => ?_)
                          · obtain rfl : n = i := by omega
                            refine w_aload_n dX8_pour_180 rfl ?_
                            refine w_iconst (v := nI 0) dX8_pour_181 ki_0 ?_
                            refine m_calli1 (mi := miX8_is) dX8_pour_182 q1686 okX8_is rfl (Nat.le_of_ble_eq_true rfl) c_is (Nat.le_of_ble_eq_true rfl) ?_
                            exact w_zret dX8_pour_185 rfl narrB ⟨by first | (rw [show w_pour T (nI f) (nI p) (nI t) (nI a) (nI n) = 0 by rw [w_pour, if_pos hyes, hcl_f, hcl_t, if_neg (fun z => z.elim h_41 h_51), if_neg (fun z => z h_72), hcl_p, hcl_a, hcl_n, if_pos (by omega)]]; done) | (rw [show w_pour T (nI f) (nI p) (nI t) (nI a) (nI n) = 0 by rw [w_pour, if_pos hyes, hcl_f, hcl_t, if_neg (fun z => z.elim h_41 h_51), if_neg (fun z => z h_72), hcl_p, hcl_a, hcl_n, if_pos (by omega)]]; rfl), _, by rw [v_pour, show w_pour T (nI f) (nI p) (nI t) (nI a) (nI n) = 0 by rw [w_pour, if_pos hyes, hcl_f, hcl_t, if_neg (fun z => z.elim h_41 h_51), if_neg (fun z => z h_72), hcl_p, hcl_a, hcl_n, if_pos (by omega)], if_pos rfl, hcl_f, hcl_p, hcl_t, hcl_a, hcl_n]; have h := po_ok E O (f := f) (p := p) (t := t) (a := a) (n := n) hf4 ht4 (by omega) (by omega) (nI 0); try simp only [Nat.sub_self, ite_self] at h ⊢; exact ⟨h.1, h.2, rfl⟩, rfl⟩
                          · obtain ⟨k, hk⟩ : ∃ k, n - 1 - i = k := ⟨_, rfl⟩
                            refine w_iload_n dX8_pour_125 rfl ?_
                            refine w_iload dX8_pour_126 rfl ?_
                            refine w_icmpN_ge dX8_pour_128 rfl (by omega) (by omega) (fun h_128 => ?_) (fun h_128 => ?_)
                            · have hsrc : mB (setB S (poA (mB S 7) (60 * f + p) (60 * t + a) (if p < a then n - i else 0) (if p < a then n else i))) 7 (60 * f + p + i) = mB S 7 (60 * f + p + i) := by
                                rw [setB_B, if_neg (by omega), if_neg (by omega)]
                                unfold poA
                                rw [if_neg]
                                rcases Nat.lt_trichotomy f t with q | q | q <;> omega
                              refine w_iload dX8_pour_141 rfl ?_
                              refine w_istore dX8_pour_143 rfl (Nat.le_of_ble_eq_true rfl) ls_8_7 ?_
                              refine w_aload_n dX8_pour_145 rfl ?_
                              refine mg_trays dX8_pour_146 rfl ?_
                              refine w_bipush (v := nI 60) dX8_pour_149 kb_60 ?_
                              refine w_iload_n dX8_pour_151 rfl ?_
                              refine w_imulN dX8_pour_152 ?_
                              refine w_iload dX8_pour_153 rfl ?_
                              refine w_iaddN dX8_pour_155 ?_
                              refine w_iload dX8_pour_156 rfl ?_
                              refine w_iaddN dX8_pour_158 ?_
                              refine w_aload_n dX8_pour_159 rfl ?_
                              refine mg_trays dX8_pour_160 rfl ?_
                              refine w_bipush (v := nI 60) dX8_pour_163 kb_60 ?_
                              refine w_iload_n dX8_pour_165 rfl ?_
                              refine w_imulN dX8_pour_166 ?_
                              refine w_iload_n dX8_pour_167 rfl ?_
                              refine w_iaddN dX8_pour_168 ?_
                              refine w_iload dX8_pour_169 rfl ?_
                              refine w_iaddN dX8_pour_171 ?_
                              refine ma_trays dX8_pour_172 (by omega) ?_
                              rw [hsrc]
                              refine ms_trays dX8_pour_173 (by omega) ?_
                              refine w_iinc dX8_pour_174 rfl (nI_inc _ 1) rfl (Nat.le_of_ble_eq_true rfl) ls_8_6 ?_
                              refine w_goto dX8_pour_177 rfl ?_
                              rw [setB_s, if_neg (by omega), if_neg (by omega), poA_up (mB S 7)]
                              exact w_L (wkS (wkS (wkS (wkS (wkS (wkS (wkS (wkN wk0)))))))) (w_as (ih_lp (i + 1) (by omega) (by omega)) rfl rfl (by rw [if_neg (by omega), if_neg (by omega)]))
                            · have hsrc : mB (setB S (poA (mB S 7) (60 * f + p) (60 * t + a) (if p < a then n - i else 0) (if p < a then n else i))) 7 (60 * f + p + k) = mB S 7 (60 * f + p + k) := by
                                rw [setB_B, if_pos h_128, if_pos h_128]
                                unfold poA
                                rw [if_neg]
                                rcases Nat.lt_trichotomy f t with q | q | q <;> omega
                              refine w_iload dX8_pour_131 rfl ?_
                              refine w_iconst (v := nI 1) dX8_pour_133 ki_1 ?_
                              refine w_isubN dX8_pour_134 (by omega) ?_
                              refine w_iload dX8_pour_135 rfl ?_
                              refine w_isubN dX8_pour_137 (by omega) ?_
                              rw [hk]
                              refine w_goto dX8_pour_138 rfl ?_
                              refine w_istore dX8_pour_143 rfl (Nat.le_of_ble_eq_true rfl) ls_8_7 ?_
                              refine w_aload_n dX8_pour_145 rfl ?_
                              refine mg_trays dX8_pour_146 rfl ?_
                              refine w_bipush (v := nI 60) dX8_pour_149 kb_60 ?_
                              refine w_iload_n dX8_pour_151 rfl ?_
                              refine w_imulN dX8_pour_152 ?_
                              refine w_iload dX8_pour_153 rfl ?_
                              refine w_iaddN dX8_pour_155 ?_
                              refine w_iload dX8_pour_156 rfl ?_
                              refine w_iaddN dX8_pour_158 ?_
                              refine w_aload_n dX8_pour_159 rfl ?_
                              refine mg_trays dX8_pour_160 rfl ?_
                              refine w_bipush (v := nI 60) dX8_pour_163 kb_60 ?_
                              refine w_iload_n dX8_pour_165 rfl ?_
                              refine w_imulN dX8_pour_166 ?_
                              refine w_iload_n dX8_pour_167 rfl ?_
                              refine w_iaddN dX8_pour_168 ?_
                              refine w_iload dX8_pour_169 rfl ?_
                              refine w_iaddN dX8_pour_171 ?_
                              refine ma_trays dX8_pour_172 (by omega) ?_
                              rw [hsrc]
                              refine ms_trays dX8_pour_173 (by omega) ?_
                              refine w_iinc dX8_pour_174 rfl (nI_inc _ 1) rfl (Nat.le_of_ble_eq_true rfl) ls_8_6 ?_
                              refine w_goto dX8_pour_177 rfl ?_
                              rw [setB_s, if_pos h_128, if_pos h_128, show n - i = k + 1 by omega, poA_dn (mB S 7) (k := k) (by omega)]
                              exact w_L (wkS (wkS (wkS (wkS (wkS (wkS (wkS (wkN wk0)))))))) (w_as (ih_lp (i + 1) (by omega) (by omega)) rfl rfl (by rw [if_pos h_128, if_pos h_128, show n - (i + 1) = k by omega]))
                      exact w_L (wkS (wkS (wkS (wkS (wkS (wkS (wkS (wkN wk0)))))))) (w_as (lp (n + 1) 0 (by omega) (by omega)) rfl rfl (by simp only [Nat.sub_zero]; split <;> rw [poA_0, setB_0]))
                    · have h_106 := (sub_gt (by omega) hap hnp).mp (Int32.not_le.mp h_106)
                      refine w_aload_n dX8_pour_109 rfl ?_
                      refine w_iconst (v := nI 3) dX8_pour_110 ki_3 ?_
                      refine m_calli1 (mi := miX8_is) dX8_pour_111 q1686 okX8_is rfl (Nat.le_of_ble_eq_true rfl) c_is (Nat.le_of_ble_eq_true rfl) ?_
                      exact w_zret dX8_pour_114 rfl narrB ⟨by first | (rw [show w_pour T (nI f) (nI p) (nI t) (nI a) (nI n) = 3 by rw [w_pour, if_pos hyes, hcl_f, hcl_t, if_neg (fun z => z.elim h_41 h_51), if_neg (fun z => z h_72), hcl_p, hcl_a, hcl_n, if_neg (by omega)]]; done) | (rw [show w_pour T (nI f) (nI p) (nI t) (nI a) (nI n) = 3 by rw [w_pour, if_pos hyes, hcl_f, hcl_t, if_neg (fun z => z.elim h_41 h_51), if_neg (fun z => z h_72), hcl_p, hcl_a, hcl_n, if_neg (by omega)]]; rfl), _, by rw [v_pour, show w_pour T (nI f) (nI p) (nI t) (nI a) (nI n) = 3 by rw [w_pour, if_pos hyes, hcl_f, hcl_t, if_neg (fun z => z.elim h_41 h_51), if_neg (fun z => z h_72), hcl_p, hcl_a, hcl_n, if_neg (by omega)], if_neg (by omega)]; exact ⟨⟨fun k hk => if_neg hk, fun _ => rfl, fun _ _ _ => rfl, fun _ _ => rfl⟩, E, rfl⟩, rfl⟩
                · refine w_aload_n dX8_pour_75 rfl ?_
                  refine w_bipush (v := nI 8) dX8_pour_76 kb_8 ?_
                  refine m_calli1 (mi := miX8_is) dX8_pour_78 q1686 okX8_is rfl (Nat.le_of_ble_eq_true rfl) c_is (Nat.le_of_ble_eq_true rfl) ?_
                  exact w_zret dX8_pour_81 rfl narrB ⟨by first | (rw [show w_pour T (nI f) (nI p) (nI t) (nI a) (nI n) = 8 by rw [w_pour, if_pos hyes, hcl_f, hcl_t, if_neg (fun z => z.elim h_41 h_51), if_pos h_72]]; done) | (rw [show w_pour T (nI f) (nI p) (nI t) (nI a) (nI n) = 8 by rw [w_pour, if_pos hyes, hcl_f, hcl_t, if_neg (fun z => z.elim h_41 h_51), if_pos h_72]]; rfl), _, by rw [v_pour, show w_pour T (nI f) (nI p) (nI t) (nI a) (nI n) = 8 by rw [w_pour, if_pos hyes, hcl_f, hcl_t, if_neg (fun z => z.elim h_41 h_51), if_pos h_72], if_neg (by omega)]; exact ⟨⟨fun k hk => if_neg hk, fun _ => rfl, fun _ _ _ => rfl, fun _ _ => rfl⟩, E, rfl⟩, rfl⟩
              · have h_51 : tm T t = 0 := (m1_iff (by omega)).mp h_51
                refine w_aload_n dX8_pour_54 rfl ?_
                refine w_iconst (v := nI 2) dX8_pour_55 ki_2 ?_
                refine m_calli1 (mi := miX8_is) dX8_pour_56 q1686 okX8_is rfl (Nat.le_of_ble_eq_true rfl) c_is (Nat.le_of_ble_eq_true rfl) ?_
                exact w_zret dX8_pour_59 rfl narrB ⟨by first | (rw [show w_pour T (nI f) (nI p) (nI t) (nI a) (nI n) = 2 by rw [w_pour, if_pos hyes, hcl_f, hcl_t, if_pos (Or.inr h_51)]]; done) | (rw [show w_pour T (nI f) (nI p) (nI t) (nI a) (nI n) = 2 by rw [w_pour, if_pos hyes, hcl_f, hcl_t, if_pos (Or.inr h_51)]]; rfl), _, by rw [v_pour, show w_pour T (nI f) (nI p) (nI t) (nI a) (nI n) = 2 by rw [w_pour, if_pos hyes, hcl_f, hcl_t, if_pos (Or.inr h_51)], if_neg (by omega)]; exact ⟨⟨fun k hk => if_neg hk, fun _ => rfl, fun _ _ _ => rfl, fun _ _ => rfl⟩, E, rfl⟩, rfl⟩
          · have hno : ¬ (inN x 4 ∧ inN z 4 ∧ ¬ y < 0 ∧ ¬ u < 0 ∧ ¬ w < 0) := fun z => h_25 (Int32.not_lt.mp z.2.2.2.2)
            refine w_aload_n dX8_pour_28 rfl ?_
            refine w_iconst (v := nI 1) dX8_pour_29 ki_1 ?_
            refine m_calli1 (mi := miX8_is) dX8_pour_30 q1686 okX8_is rfl (Nat.le_of_ble_eq_true rfl) c_is (Nat.le_of_ble_eq_true rfl) ?_
            exact w_zret dX8_pour_33 rfl narrB ⟨by first | (rw [show w_pour T x y z u w = 1 by rw [w_pour, if_neg hno]]; done) | (rw [show w_pour T x y z u w = 1 by rw [w_pour, if_neg hno]]; rfl), _, by rw [v_pour, show w_pour T x y z u w = 1 by rw [w_pour, if_neg hno], if_neg (by omega)]; exact ⟨⟨fun k hk => if_neg hk, fun _ => rfl, fun _ _ _ => rfl, fun _ _ => rfl⟩, E, rfl⟩, rfl⟩
