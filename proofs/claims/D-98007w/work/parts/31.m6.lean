set_option maxRecDepth 100000
set_option maxHeartbeats 4000000 in
theorem c_told {g : GG} {S : MS} {x : Int32} {V : VS} (E : Enc S V) (K : OkV V) : Mt g miX8_told 2 [.int x] (S) (some (.int ((q_told V x).1))) (sI S 2 (q_told V x).2) := by
  refine Mt.start (fun b => [some (.ref b), some (.int x)]) plX8 rfl (fun b => (Nat.le_of_ble_eq_true rfl)) (fun b => rfl) ?_
  intro σ b
  have kb := K.b
  refine w_iload_n dX8_told_0 rfl ?_
  refine w_if_lt dX8_told_1 rfl (fun h_1 => ?_) (fun h_1 => ?_)
  · have hno : ¬ inN x 9 := out_lt h_1
    refine w_aload_n dX8_told_10 rfl ?_
    refine w_iconst (v := nI 1) dX8_told_11 ki_1 ?_
    refine m_calli1 (mi := miX8_refuse) dX8_told_12 q1746 okX8_refuse rfl (Nat.le_of_ble_eq_true rfl) c_refuse (Nat.le_of_ble_eq_true rfl) ?_
    refine w_goto dX8_told_15 rfl ?_
    exact w_iret dX8_told_28 rfl ⟨by first | (rw [q_told, if_pos hx_q, hcl_q]; rfl) | (rw [q_told, if_neg hno]; rfl), by first | (rw [q_told, if_pos hx_q, hcl_q]; rfl) | (rw [q_told, if_neg hno]; rfl)⟩
  · refine w_iload_n dX8_told_4 rfl ?_
    refine w_bipush (v := nI 8) dX8_told_5 kb_8 ?_
    refine w_icmp_le dX8_told_7 rfl (fun h_7 => ?_) (fun h_7 => ?_)
    · obtain ⟨q, hf_q, rfl⟩ := inN_of (in_le h_1 h_7 (by omega)) (by omega)
      have hcl_q : cl (nI q) = q := nI_clamp (by omega)
      have hx_q : inN (nI q) 9 := inN_nI hf_q (by omega)
      refine w_aload_n dX8_told_18 rfl ?_
      refine w_aload_n dX8_told_19 rfl ?_
      refine mg_at dX8_told_20 rfl ?_
      refine w_iload_n dX8_told_23 rfl ?_
      refine ma_at dX8_told_24 (by omega) ?_
      refine w_topN (E.s q (by omega)) ?_
      refine m_calli1 (mi := miX8_gives) dX8_told_25 q1839 okX8_gives rfl (Nat.le_of_ble_eq_true rfl) c_gives (Nat.le_of_ble_eq_true rfl) ?_
      exact w_iret dX8_told_28 rfl ⟨by first | (rw [q_told, if_pos hx_q, hcl_q]; rfl) | (rw [q_told, if_neg hno]; rfl), by first | (rw [q_told, if_pos hx_q, hcl_q]; rfl) | (rw [q_told, if_neg hno]; rfl)⟩
    · have hno := out_gt (Int32.not_le.mp h_7) (by omega)
      refine w_aload_n dX8_told_10 rfl ?_
      refine w_iconst (v := nI 1) dX8_told_11 ki_1 ?_
      refine m_calli1 (mi := miX8_refuse) dX8_told_12 q1746 okX8_refuse rfl (Nat.le_of_ble_eq_true rfl) c_refuse (Nat.le_of_ble_eq_true rfl) ?_
      refine w_goto dX8_told_15 rfl ?_
      exact w_iret dX8_told_28 rfl ⟨by first | (rw [q_told, if_pos hx_q, hcl_q]; rfl) | (rw [q_told, if_neg hno]; rfl), by first | (rw [q_told, if_pos hx_q, hcl_q]; rfl) | (rw [q_told, if_neg hno]; rfl)⟩
set_option maxHeartbeats 4000000 in
theorem c_finder {g : GG} {S : MS} {x : Int32} {y : Int32} {V : VS} (E : Enc S V) (K : OkV V) : Mt g miX8_finder 2 [.int x, .int y] (S) (some (.int ((q_finder V x y).1))) (sI S 2 (q_finder V x y).2) := by
  refine Mt.start (fun b => [some (.ref b), some (.int x), some (.int y)]) plX8 rfl (fun b => (Nat.le_of_ble_eq_true rfl)) (fun b => rfl) ?_
  intro σ b
  have kb := K.b
  refine w_aload_n dX8_finder_0 rfl ?_
  refine w_iload_n dX8_finder_1 rfl ?_
  refine m_calli1 (mi := miX8_isFinder) dX8_finder_2 q1875 okX8_isFinder rfl (Nat.le_of_ble_eq_true rfl) (c_isFinder E K) (Nat.le_of_ble_eq_true rfl) ?_
  refine w_ifB_eq dX8_finder_5 rfl (fun h_5 => ?_) (fun h_5 => ?_)
  · refine w_aload_n dX8_finder_35 rfl ?_
    refine w_iconst (v := nI 1) dX8_finder_36 ki_1 ?_
    refine m_calli1 (mi := miX8_refuse) dX8_finder_37 q1746 okX8_refuse rfl (Nat.le_of_ble_eq_true rfl) c_refuse (Nat.le_of_ble_eq_true rfl) ?_
    exact w_iret dX8_finder_40 rfl ⟨by first | (rw [q_finder, if_pos ⟨hx_f, hx_q⟩, hcl_f, hcl_q]; rfl) | (rw [q_finder, if_neg (fun z => h_5 z.1)]; rfl) | (rw [q_finder, if_neg (fun z => hno z.2)]; rfl), by first | (rw [q_finder, if_pos ⟨hx_f, hx_q⟩, hcl_f, hcl_q]; rfl) | (rw [q_finder, if_neg (fun z => h_5 z.1)]; rfl) | (rw [q_finder, if_neg (fun z => hno z.2)]; rfl)⟩
  · have hx_f := h_5
    obtain ⟨f, hf_f, rfl⟩ := inN_of h_5 (by omega)
    have hcl_f : cl (nI f) = f := nI_clamp (by omega)
    have kf_f := K.f hf_f
    refine w_iload_n dX8_finder_8 rfl ?_
    refine w_if_lt dX8_finder_9 rfl (fun h_9 => ?_) (fun h_9 => ?_)
    · have hno : ¬ inN y 5 := out_lt h_9
      refine w_aload_n dX8_finder_35 rfl ?_
      refine w_iconst (v := nI 1) dX8_finder_36 ki_1 ?_
      refine m_calli1 (mi := miX8_refuse) dX8_finder_37 q1746 okX8_refuse rfl (Nat.le_of_ble_eq_true rfl) c_refuse (Nat.le_of_ble_eq_true rfl) ?_
      exact w_iret dX8_finder_40 rfl ⟨by first | (rw [q_finder, if_pos ⟨hx_f, hx_q⟩, hcl_f, hcl_q]; rfl) | (rw [q_finder, if_neg (fun z => h_5 z.1)]; rfl) | (rw [q_finder, if_neg (fun z => hno z.2)]; rfl), by first | (rw [q_finder, if_pos ⟨hx_f, hx_q⟩, hcl_f, hcl_q]; rfl) | (rw [q_finder, if_neg (fun z => h_5 z.1)]; rfl) | (rw [q_finder, if_neg (fun z => hno z.2)]; rfl)⟩
    · refine w_iload_n dX8_finder_12 rfl ?_
      refine w_iconst (v := nI 4) dX8_finder_13 ki_4 ?_
      refine w_icmp_gt dX8_finder_14 rfl (fun h_14 => ?_) (fun h_14 => ?_)
      · have hno := out_gt h_14 (by omega)
        refine w_aload_n dX8_finder_35 rfl ?_
        refine w_iconst (v := nI 1) dX8_finder_36 ki_1 ?_
        refine m_calli1 (mi := miX8_refuse) dX8_finder_37 q1746 okX8_refuse rfl (Nat.le_of_ble_eq_true rfl) c_refuse (Nat.le_of_ble_eq_true rfl) ?_
        exact w_iret dX8_finder_40 rfl ⟨by first | (rw [q_finder, if_pos ⟨hx_f, hx_q⟩, hcl_f, hcl_q]; rfl) | (rw [q_finder, if_neg (fun z => h_5 z.1)]; rfl) | (rw [q_finder, if_neg (fun z => hno z.2)]; rfl), by first | (rw [q_finder, if_pos ⟨hx_f, hx_q⟩, hcl_f, hcl_q]; rfl) | (rw [q_finder, if_neg (fun z => h_5 z.1)]; rfl) | (rw [q_finder, if_neg (fun z => hno z.2)]; rfl)⟩
      · obtain ⟨q, hf_q, rfl⟩ := inN_of (in_le h_9 (Int32.not_lt.mp h_14) (by omega)) (by omega)
        have hcl_q : cl (nI q) = q := nI_clamp (by omega)
        have hx_q : inN (nI q) 5 := inN_nI hf_q (by omega)
        refine w_aload_n dX8_finder_17 rfl ?_
        refine w_aload_n dX8_finder_18 rfl ?_
        refine mg_at dX8_finder_19 rfl ?_
        refine w_iload_n dX8_finder_22 rfl ?_
        refine s_calli1 (mi := miX8_finderRow) dX8_finder_23 q1879 okX8_finderRow (Nat.le_of_ble_eq_true rfl) c_finderRow (Nat.le_of_ble_eq_true rfl) ?_
        refine w_iload_n dX8_finder_26 rfl ?_
        refine w_iaddN dX8_finder_27 ?_
        refine ma_at dX8_finder_28 (by omega) ?_
        refine w_topN (E.f q (by omega) (by omega)) ?_
        refine m_calli1 (mi := miX8_gives) dX8_finder_29 q1839 okX8_gives rfl (Nat.le_of_ble_eq_true rfl) c_gives (Nat.le_of_ble_eq_true rfl) ?_
        refine w_goto dX8_finder_32 rfl ?_
        exact w_iret dX8_finder_40 rfl ⟨by first | (rw [q_finder, if_pos ⟨hx_f, hx_q⟩, hcl_f, hcl_q]; rfl) | (rw [q_finder, if_neg (fun z => h_5 z.1)]; rfl) | (rw [q_finder, if_neg (fun z => hno z.2)]; rfl), by first | (rw [q_finder, if_pos ⟨hx_f, hx_q⟩, hcl_f, hcl_q]; rfl) | (rw [q_finder, if_neg (fun z => h_5 z.1)]; rfl) | (rw [q_finder, if_neg (fun z => hno z.2)]; rfl)⟩
set_option maxHeartbeats 4000000 in
theorem c_find {g : GG} {S : MS} {x : Int32} {y : Int32} {V : VS} (E : Enc S V) (K : OkV V) : Mt g miX8_find 2 [.int x, .int y] (S) (some (.int ((q_find V x y).1))) (sI S 2 (q_find V x y).2) := by
  refine Mt.start (fun b => [some (.ref b), some (.int x), some (.int y)]) plX8 rfl (fun b => (Nat.le_of_ble_eq_true rfl)) (fun b => rfl) ?_
  intro σ b
  have kb := K.b
  refine w_aload_n dX8_find_0 rfl ?_
  refine w_iload_n dX8_find_1 rfl ?_
  refine m_calli1 (mi := miX8_isFind) dX8_find_2 q1886 okX8_isFind rfl (Nat.le_of_ble_eq_true rfl) (c_isFind E K) (Nat.le_of_ble_eq_true rfl) ?_
  refine w_ifB_eq dX8_find_5 rfl (fun h_5 => ?_) (fun h_5 => ?_)
  · refine w_aload_n dX8_find_36 rfl ?_
    refine w_iconst (v := nI 1) dX8_find_37 ki_1 ?_
    refine m_calli1 (mi := miX8_refuse) dX8_find_38 q1746 okX8_refuse rfl (Nat.le_of_ble_eq_true rfl) c_refuse (Nat.le_of_ble_eq_true rfl) ?_
    exact w_iret dX8_find_41 rfl ⟨by first | (rw [q_find, if_pos ⟨hx_f, hx_q⟩, hcl_f, hcl_q]; rfl) | (rw [q_find, if_neg (fun z => h_5 z.1)]; rfl) | (rw [q_find, if_neg (fun z => hno z.2)]; rfl), by first | (rw [q_find, if_pos ⟨hx_f, hx_q⟩, hcl_f, hcl_q]; rfl) | (rw [q_find, if_neg (fun z => h_5 z.1)]; rfl) | (rw [q_find, if_neg (fun z => hno z.2)]; rfl)⟩
  · have hx_f := h_5
    obtain ⟨f, hf_f, rfl⟩ := inN_of h_5 (by omega)
    have hcl_f : cl (nI f) = f := nI_clamp (by omega)
    have kf_f := K.d hf_f
    refine w_iload_n dX8_find_8 rfl ?_
    refine w_if_lt dX8_find_9 rfl (fun h_9 => ?_) (fun h_9 => ?_)
    · have hno : ¬ inN y 3 := out_lt h_9
      refine w_aload_n dX8_find_36 rfl ?_
      refine w_iconst (v := nI 1) dX8_find_37 ki_1 ?_
      refine m_calli1 (mi := miX8_refuse) dX8_find_38 q1746 okX8_refuse rfl (Nat.le_of_ble_eq_true rfl) c_refuse (Nat.le_of_ble_eq_true rfl) ?_
      exact w_iret dX8_find_41 rfl ⟨by first | (rw [q_find, if_pos ⟨hx_f, hx_q⟩, hcl_f, hcl_q]; rfl) | (rw [q_find, if_neg (fun z => h_5 z.1)]; rfl) | (rw [q_find, if_neg (fun z => hno z.2)]; rfl), by first | (rw [q_find, if_pos ⟨hx_f, hx_q⟩, hcl_f, hcl_q]; rfl) | (rw [q_find, if_neg (fun z => h_5 z.1)]; rfl) | (rw [q_find, if_neg (fun z => hno z.2)]; rfl)⟩
    · refine w_iload_n dX8_find_12 rfl ?_
      refine w_iconst (v := nI 2) dX8_find_13 ki_2 ?_
      refine w_icmp_gt dX8_find_14 rfl (fun h_14 => ?_) (fun h_14 => ?_)
      · have hno := out_gt h_14 (by omega)
        refine w_aload_n dX8_find_36 rfl ?_
        refine w_iconst (v := nI 1) dX8_find_37 ki_1 ?_
        refine m_calli1 (mi := miX8_refuse) dX8_find_38 q1746 okX8_refuse rfl (Nat.le_of_ble_eq_true rfl) c_refuse (Nat.le_of_ble_eq_true rfl) ?_
        exact w_iret dX8_find_41 rfl ⟨by first | (rw [q_find, if_pos ⟨hx_f, hx_q⟩, hcl_f, hcl_q]; rfl) | (rw [q_find, if_neg (fun z => h_5 z.1)]; rfl) | (rw [q_find, if_neg (fun z => hno z.2)]; rfl), by first | (rw [q_find, if_pos ⟨hx_f, hx_q⟩, hcl_f, hcl_q]; rfl) | (rw [q_find, if_neg (fun z => h_5 z.1)]; rfl) | (rw [q_find, if_neg (fun z => hno z.2)]; rfl)⟩
      · obtain ⟨q, hf_q, rfl⟩ := inN_of (in_le h_9 (Int32.not_lt.mp h_14) (by omega)) (by omega)
        have hcl_q : cl (nI q) = q := nI_clamp (by omega)
        have hx_q : inN (nI q) 3 := inN_nI hf_q (by omega)
        refine w_aload_n dX8_find_17 rfl ?_
        refine w_aload_n dX8_find_18 rfl ?_
        refine mg_at dX8_find_19 rfl ?_
        refine w_iconst (v := nI 0) dX8_find_22 ki_0 ?_
        refine w_iload_n dX8_find_23 rfl ?_
        refine s_calli2 (mi := miX8_findRow) dX8_find_24 q1813 okX8_findRow (Nat.le_of_ble_eq_true rfl) c_findRow (Nat.le_of_ble_eq_true rfl) ?_
        refine w_iload_n dX8_find_27 rfl ?_
        refine w_iaddN dX8_find_28 ?_
        refine ma_at dX8_find_29 (by omega) ?_
        refine w_topN (E.d q (by omega) (by omega)) ?_
        refine m_calli1 (mi := miX8_gives) dX8_find_30 q1839 okX8_gives rfl (Nat.le_of_ble_eq_true rfl) c_gives (Nat.le_of_ble_eq_true rfl) ?_
        refine w_goto dX8_find_33 rfl ?_
        exact w_iret dX8_find_41 rfl ⟨by first | (rw [q_find, if_pos ⟨hx_f, hx_q⟩, hcl_f, hcl_q]; rfl) | (rw [q_find, if_neg (fun z => h_5 z.1)]; rfl) | (rw [q_find, if_neg (fun z => hno z.2)]; rfl), by first | (rw [q_find, if_pos ⟨hx_f, hx_q⟩, hcl_f, hcl_q]; rfl) | (rw [q_find, if_neg (fun z => h_5 z.1)]; rfl) | (rw [q_find, if_neg (fun z => hno z.2)]; rfl)⟩
set_option maxHeartbeats 4000000 in
theorem c_pebble {g : GG} {S : MS} {x : Int32} {y : Int32} {z : Int32} {V : VS} (E : Enc S V) (K : OkV V) : Mt g miX8_pebble 3 [.int x, .int y, .int z] (S) (some (.int ((q_pebble V x y z).1))) (sI S 2 (q_pebble V x y z).2) := by
  refine Mt.start (fun b => [some (.ref b), some (.int x), some (.int y), some (.int z)]) plX8 rfl (fun b => (Nat.le_of_ble_eq_true rfl)) (fun b => rfl) ?_
  intro σ b
  have kb := K.b
  refine w_aload_n dX8_pebble_0 rfl ?_
  refine w_iload_n dX8_pebble_1 rfl ?_
  refine m_calli1 (mi := miX8_isFind) dX8_pebble_2 q1886 okX8_isFind rfl (Nat.le_of_ble_eq_true rfl) (c_isFind E K) (Nat.le_of_ble_eq_true rfl) ?_
  refine w_ifB_eq dX8_pebble_5 rfl (fun h_5 => ?_) (fun h_5 => ?_)
  · refine w_aload_n dX8_pebble_17 rfl ?_
    refine w_iconst (v := nI 1) dX8_pebble_18 ki_1 ?_
    refine m_calli1 (mi := miX8_refuse) dX8_pebble_19 q1746 okX8_refuse rfl (Nat.le_of_ble_eq_true rfl) c_refuse (Nat.le_of_ble_eq_true rfl) ?_
    exact w_iret dX8_pebble_22 rfl ⟨by first | (rw [q_pebble, if_pos ⟨hx_f, hx_q⟩, hcl_f, hcl_q, if_pos hx_k, hcl_k]; rfl) | (rw [q_pebble, if_neg (fun z => h_5 z.1)]; rfl) | (rw [q_pebble, if_neg (fun z => hno z.2)]; rfl) | (rw [q_pebble, if_pos ⟨hx_f, hx_q⟩, hcl_f, if_neg hnk]; rfl), by first | (rw [q_pebble, if_pos ⟨hx_f, hx_q⟩, hcl_f, hcl_q, if_pos hx_k, hcl_k]; rfl) | (rw [q_pebble, if_neg (fun z => h_5 z.1)]; rfl) | (rw [q_pebble, if_neg (fun z => hno z.2)]; rfl) | (rw [q_pebble, if_pos ⟨hx_f, hx_q⟩, hcl_f, if_neg hnk]; rfl)⟩
  · have hx_f := h_5
    obtain ⟨f, hf_f, rfl⟩ := inN_of h_5 (by omega)
    have hcl_f : cl (nI f) = f := nI_clamp (by omega)
    have kf_f := K.d hf_f
    refine w_iload_n dX8_pebble_8 rfl ?_
    refine w_if_lt dX8_pebble_9 rfl (fun h_9 => ?_) (fun h_9 => ?_)
    · have hno : ¬ inN z 2 := out_lt h_9
      refine w_aload_n dX8_pebble_17 rfl ?_
      refine w_iconst (v := nI 1) dX8_pebble_18 ki_1 ?_
      refine m_calli1 (mi := miX8_refuse) dX8_pebble_19 q1746 okX8_refuse rfl (Nat.le_of_ble_eq_true rfl) c_refuse (Nat.le_of_ble_eq_true rfl) ?_
      exact w_iret dX8_pebble_22 rfl ⟨by first | (rw [q_pebble, if_pos ⟨hx_f, hx_q⟩, hcl_f, hcl_q, if_pos hx_k, hcl_k]; rfl) | (rw [q_pebble, if_neg (fun z => h_5 z.1)]; rfl) | (rw [q_pebble, if_neg (fun z => hno z.2)]; rfl) | (rw [q_pebble, if_pos ⟨hx_f, hx_q⟩, hcl_f, if_neg hnk]; rfl), by first | (rw [q_pebble, if_pos ⟨hx_f, hx_q⟩, hcl_f, hcl_q, if_pos hx_k, hcl_k]; rfl) | (rw [q_pebble, if_neg (fun z => h_5 z.1)]; rfl) | (rw [q_pebble, if_neg (fun z => hno z.2)]; rfl) | (rw [q_pebble, if_pos ⟨hx_f, hx_q⟩, hcl_f, if_neg hnk]; rfl)⟩
    · refine w_iload_n dX8_pebble_12 rfl ?_
      refine w_iconst (v := nI 1) dX8_pebble_13 ki_1 ?_
      refine w_icmp_le dX8_pebble_14 rfl (fun h_14 => ?_) (fun h_14 => ?_)
      · obtain ⟨q, hf_q, rfl⟩ := inN_of (in_le h_9 h_14 (by omega)) (by omega)
        have hcl_q : cl (nI q) = q := nI_clamp (by omega)
        have hx_q : inN (nI q) 2 := inN_nI hf_q (by omega)
        refine w_iload_n dX8_pebble_23 rfl ?_
        refine w_if_lt dX8_pebble_24 rfl (fun h_24 => ?_) (fun h_24 => ?_)
        · have hnk : ¬ inN y (vt V 7 f) := out_lt h_24
          refine w_aload_n dX8_pebble_36 rfl ?_
          refine w_bipush (v := nI 6) dX8_pebble_37 kb_6 ?_
          refine m_calli1 (mi := miX8_refuse) dX8_pebble_39 q1746 okX8_refuse rfl (Nat.le_of_ble_eq_true rfl) c_refuse (Nat.le_of_ble_eq_true rfl) ?_
          refine w_goto dX8_pebble_42 rfl ?_
          exact w_iret dX8_pebble_62 rfl ⟨by first | (rw [q_pebble, if_pos ⟨hx_f, hx_q⟩, hcl_f, hcl_q, if_pos hx_k, hcl_k]; rfl) | (rw [q_pebble, if_neg (fun z => h_5 z.1)]; rfl) | (rw [q_pebble, if_neg (fun z => hno z.2)]; rfl) | (rw [q_pebble, if_pos ⟨hx_f, hx_q⟩, hcl_f, if_neg hnk]; rfl), by first | (rw [q_pebble, if_pos ⟨hx_f, hx_q⟩, hcl_f, hcl_q, if_pos hx_k, hcl_k]; rfl) | (rw [q_pebble, if_neg (fun z => h_5 z.1)]; rfl) | (rw [q_pebble, if_neg (fun z => hno z.2)]; rfl) | (rw [q_pebble, if_pos ⟨hx_f, hx_q⟩, hcl_f, if_neg hnk]; rfl)⟩
        · have kn_f := K.n (d := f) (by omega)
          refine w_iload_n dX8_pebble_27 rfl ?_
          refine w_aload_n dX8_pebble_28 rfl ?_
          refine w_iload_n dX8_pebble_29 rfl ?_
          refine m_calli1 (mi := miX8_manyOn) dX8_pebble_30 q1894 okX8_manyOn rfl (Nat.le_of_ble_eq_true rfl) (c_manyOn E K (by first | assumption | omega)) (Nat.le_of_ble_eq_true rfl) ?_
          refine w_icmp_lt dX8_pebble_33 rfl (fun h_33 => ?_) (fun h_33 => ?_)
          · obtain ⟨k, hf_k, rfl⟩ := inN_of (in_lt h_24 h_33) (by omega)
            have hcl_k : cl (nI k) = k := nI_clamp (by omega)
            have hx_k : inN (nI k) (vt V 7 f) := inN_nI hf_k (by omega)
            refine w_aload_n dX8_pebble_45 rfl ?_
            refine w_aload_n dX8_pebble_46 rfl ?_
            refine mg_at dX8_pebble_47 rfl ?_
            refine w_iconst (v := nI 0) dX8_pebble_50 ki_0 ?_
            refine w_iload_n dX8_pebble_51 rfl ?_
            refine w_iload_n dX8_pebble_52 rfl ?_
            refine s_calli3 (mi := miX8_pebbleRow) dX8_pebble_53 q1828 okX8_pebbleRow (Nat.le_of_ble_eq_true rfl) c_pebbleRow (Nat.le_of_ble_eq_true rfl) ?_
            refine w_iload_n dX8_pebble_56 rfl ?_
            refine w_iaddN dX8_pebble_57 ?_
            refine ma_at dX8_pebble_58 (by omega) ?_
            refine w_topN (E.p q (by omega) hf_k (by omega)) ?_
            refine m_calli1 (mi := miX8_gives) dX8_pebble_59 q1839 okX8_gives rfl (Nat.le_of_ble_eq_true rfl) c_gives (Nat.le_of_ble_eq_true rfl) ?_
            exact w_iret dX8_pebble_62 rfl ⟨by first | (rw [q_pebble, if_pos ⟨hx_f, hx_q⟩, hcl_f, hcl_q, if_pos hx_k, hcl_k]; rfl) | (rw [q_pebble, if_neg (fun z => h_5 z.1)]; rfl) | (rw [q_pebble, if_neg (fun z => hno z.2)]; rfl) | (rw [q_pebble, if_pos ⟨hx_f, hx_q⟩, hcl_f, if_neg hnk]; rfl), by first | (rw [q_pebble, if_pos ⟨hx_f, hx_q⟩, hcl_f, hcl_q, if_pos hx_k, hcl_k]; rfl) | (rw [q_pebble, if_neg (fun z => h_5 z.1)]; rfl) | (rw [q_pebble, if_neg (fun z => hno z.2)]; rfl) | (rw [q_pebble, if_pos ⟨hx_f, hx_q⟩, hcl_f, if_neg hnk]; rfl)⟩
          · have hnk : ¬ inN y (vt V 7 f) := out_ge h_33
            refine w_aload_n dX8_pebble_36 rfl ?_
            refine w_bipush (v := nI 6) dX8_pebble_37 kb_6 ?_
            refine m_calli1 (mi := miX8_refuse) dX8_pebble_39 q1746 okX8_refuse rfl (Nat.le_of_ble_eq_true rfl) c_refuse (Nat.le_of_ble_eq_true rfl) ?_
            refine w_goto dX8_pebble_42 rfl ?_
            exact w_iret dX8_pebble_62 rfl ⟨by first | (rw [q_pebble, if_pos ⟨hx_f, hx_q⟩, hcl_f, hcl_q, if_pos hx_k, hcl_k]; rfl) | (rw [q_pebble, if_neg (fun z => h_5 z.1)]; rfl) | (rw [q_pebble, if_neg (fun z => hno z.2)]; rfl) | (rw [q_pebble, if_pos ⟨hx_f, hx_q⟩, hcl_f, if_neg hnk]; rfl), by first | (rw [q_pebble, if_pos ⟨hx_f, hx_q⟩, hcl_f, hcl_q, if_pos hx_k, hcl_k]; rfl) | (rw [q_pebble, if_neg (fun z => h_5 z.1)]; rfl) | (rw [q_pebble, if_neg (fun z => hno z.2)]; rfl) | (rw [q_pebble, if_pos ⟨hx_f, hx_q⟩, hcl_f, if_neg hnk]; rfl)⟩
      · have hno := out_gt (Int32.not_le.mp h_14) (by omega)
        refine w_aload_n dX8_pebble_17 rfl ?_
        refine w_iconst (v := nI 1) dX8_pebble_18 ki_1 ?_
        refine m_calli1 (mi := miX8_refuse) dX8_pebble_19 q1746 okX8_refuse rfl (Nat.le_of_ble_eq_true rfl) c_refuse (Nat.le_of_ble_eq_true rfl) ?_
        exact w_iret dX8_pebble_22 rfl ⟨by first | (rw [q_pebble, if_pos ⟨hx_f, hx_q⟩, hcl_f, hcl_q, if_pos hx_k, hcl_k]; rfl) | (rw [q_pebble, if_neg (fun z => h_5 z.1)]; rfl) | (rw [q_pebble, if_neg (fun z => hno z.2)]; rfl) | (rw [q_pebble, if_pos ⟨hx_f, hx_q⟩, hcl_f, if_neg hnk]; rfl), by first | (rw [q_pebble, if_pos ⟨hx_f, hx_q⟩, hcl_f, hcl_q, if_pos hx_k, hcl_k]; rfl) | (rw [q_pebble, if_neg (fun z => h_5 z.1)]; rfl) | (rw [q_pebble, if_neg (fun z => hno z.2)]; rfl) | (rw [q_pebble, if_pos ⟨hx_f, hx_q⟩, hcl_f, if_neg hnk]; rfl)⟩
set_option maxHeartbeats 4000000 in
theorem c_behind {g : GG} {S : MS} {x : Int32} {V : VS} (E : Enc S V) (K : OkV V) : Mt g miX8_behind 8 [.int x] (S) (some (.int ((q_behind V x).1))) (sI S 2 (q_behind V x).2) := by
  refine Mt.start (fun b => [some (.ref b), some (.int x)]) plX8 rfl (fun b => (Nat.le_of_ble_eq_true rfl)) (fun b => rfl) ?_
  intro σ b
  have kb := K.b
  refine w_aload_n dX8_behind_0 rfl ?_
  refine w_iload_n dX8_behind_1 rfl ?_
  refine m_calli1 (mi := miX8_isFinder) dX8_behind_2 q1875 okX8_isFinder rfl (Nat.le_of_ble_eq_true rfl) (c_isFinder E K) (Nat.le_of_ble_eq_true rfl) ?_
  refine w_ifB_eq dX8_behind_5 rfl (fun h_5 => ?_) (fun h_5 => ?_)
  · refine w_aload_n dX8_behind_30 rfl ?_
    refine w_iconst (v := nI 1) dX8_behind_31 ki_1 ?_
    refine m_calli1 (mi := miX8_refuse) dX8_behind_32 q1746 okX8_refuse rfl (Nat.le_of_ble_eq_true rfl) c_refuse (Nat.le_of_ble_eq_true rfl) ?_
    exact w_iret dX8_behind_35 rfl ⟨by first | rfl | (unfold q_behind; (try simp only [hcl_f]); (repeat' split) <;> first | rfl | contradiction | omega | (exfalso; simp_all; done)), by first | rfl | (unfold q_behind; (try simp only [hcl_f]); (repeat' split) <;> first | rfl | contradiction | omega | (exfalso; simp_all; done))⟩
  · have hx_f := h_5
    obtain ⟨f, hf_f, rfl⟩ := inN_of h_5 (by omega)
    have hcl_f : cl (nI f) = f := nI_clamp (by omega)
    have kf_f := K.f hf_f
    refine w_aload_n dX8_behind_8 rfl ?_
    refine w_aload_n dX8_behind_9 rfl ?_
    refine w_aload_n dX8_behind_10 rfl ?_
    refine w_iconst (v := nI 0) dX8_behind_11 ki_0 ?_
    refine m_calli1 (mi := miX8_atRank) dX8_behind_12 q2031 okX8_atRank rfl (Nat.le_of_ble_eq_true rfl) (c_atRank E K) (Nat.le_of_ble_eq_true rfl) ?_
    obtain ⟨hr1, hr2, hr3⟩ := rank0 K (by omega)
    obtain ⟨r, hr⟩ : ∃ r, rankV V (nI 0) = r + 1 := ⟨rankV V (nI 0) - 1, by omega⟩
    rw [hr] at hr2 hr3
    rw [hr, nI_dn]
    simp only [Nat.add_sub_cancel] at hr2 hr3
    have hlt := lead_top hf_f
    refine m_calli1 (mi := miX8_leadOf) dX8_behind_15 q2019 okX8_leadOf rfl (Nat.le_of_ble_eq_true rfl) (c_leadOf E K (by first | assumption | omega)) (Nat.le_of_ble_eq_true rfl) ?_
    refine w_aload_n dX8_behind_18 rfl ?_
    refine w_iload_n dX8_behind_19 rfl ?_
    refine m_calli1 (mi := miX8_leadOf) dX8_behind_20 q2019 okX8_leadOf rfl (Nat.le_of_ble_eq_true rfl) (c_leadOf E K (by first | assumption | omega)) (Nat.le_of_ble_eq_true rfl) ?_
    have hl1 := leadV_le K r
    rw [hr3]
    refine w_isubN dX8_behind_23 (by omega) ?_
    refine m_calli1 (mi := miX8_gives) dX8_behind_24 q1839 okX8_gives rfl (Nat.le_of_ble_eq_true rfl) c_gives (Nat.le_of_ble_eq_true rfl) ?_
    refine w_goto dX8_behind_27 rfl ?_
    exact w_iret dX8_behind_35 rfl ⟨by first | rfl | (unfold q_behind; (try simp only [hcl_f]); (repeat' split) <;> first | rfl | contradiction | omega | (exfalso; simp_all; done)), by first | rfl | (unfold q_behind; (try simp only [hcl_f]); (repeat' split) <;> first | rfl | contradiction | omega | (exfalso; simp_all; done))⟩
set_option maxHeartbeats 4000000 in
theorem c_behindOthers {g : GG} {S : MS} {f : Nat} {d : Nat} {V : VS} (E : Enc S V) (K : OkV V) (hd8 : d < 8) (hf6 : f < 6) : Mt g miX8_behindOthers 3 [.int (nI f), .int (nI d)] (S) (some (.int (nI (behO V f d)))) (S) := by
  refine Mt.start (fun b => [some (.ref b), some (.int (nI f)), some (.int (nI d)), none, none]) plX8 rfl (fun b => (Nat.le_of_ble_eq_true rfl)) (fun b => rfl) ?_
  intro σ b
  have kb := K.b
  have kn := K.n hd8
  refine w_iconst (v := nI 0) dX8_behindOthers_0 ki_0 ?_
  refine w_istore_n dX8_behindOthers_1 rfl (Nat.le_of_ble_eq_true rfl) ls_5_3 ?_
  refine w_iconst (v := nI 0) dX8_behindOthers_2 ki_0 ?_
  refine w_istore dX8_behindOthers_3 rfl (Nat.le_of_ble_eq_true rfl) ls_5_4 ?_
  have lp : ∀ (j9 : Nat) (k : Nat), vt V 7 d - k < j9 → k ≤ vt V 7 d → Wp g (mtM g miX8_behindOthers 3 σ b (some (.int (nI (behO V f d)))) (S)) 0 0 5 [some (.ref b), some (.int (nI f)), some (.int (nI d)), some (.int (nI (behK V f d k))), some (.int (nI k))] [] (sM g σ b (S)) := by
    intro j9
    induction j9 with
    | zero => intro k hmu hk; exact absurd hmu (Nat.not_lt_zero _)
    | succ j9 ih_lp =>
      intro k hmu hk
      refine w_iload dX8_behindOthers_5 rfl ?_
      refine w_aload_n dX8_behindOthers_7 rfl ?_
      refine w_iload_n dX8_behindOthers_8 rfl ?_
      refine m_calli1 (mi := miX8_manyOn) dX8_behindOthers_9 q1894 okX8_manyOn rfl (Nat.le_of_ble_eq_true rfl) (c_manyOn E K (by first | assumption | omega)) (Nat.le_of_ble_eq_true rfl) ?_
      refine w_icmpN_ge dX8_behindOthers_12 rfl (by omega) (by omega) (fun h_12 => ?_) (fun h_12 => ?_)
      · obtain rfl : k = vt V 7 d := by omega
        refine w_iload_n dX8_behindOthers_46 rfl ?_
        exact w_iret dX8_behindOthers_47 rfl ⟨by first | rfl | (simp only [bP, isT, bitN, inN, *, not_true_eq_false, not_false_eq_true, and_true, true_and, and_false, false_and, or_true, true_or, or_false, false_or, and_self, or_self, if_true, if_false, ite_true, ite_false]; done) | (simp [bP, isT, bitN, inN, *]; done) | (simp_all [bP, isT, bitN, inN]; done) | (repeat split) <;> first | rfl | contradiction | simp_all, by first | rfl | (simp only [bP, isT, bitN, inN, *, not_true_eq_false, not_false_eq_true, and_true, true_and, and_false, false_and, or_true, true_or, or_false, false_or, and_self, or_self, if_true, if_false, ite_true, ite_false]; done) | (simp [bP, isT, bitN, inN, *]; done) | (simp_all [bP, isT, bitN, inN]; done) | (repeat split) <;> first | rfl | contradiction | simp_all⟩
      · have hpk := K.p hd8 (k := k) (by omega)
        have hbk := behK_le K f hd8 k (by omega)
        refine w_aload_n dX8_behindOthers_15 rfl ?_
        refine w_iload_n dX8_behindOthers_16 rfl ?_
        refine w_iload dX8_behindOthers_17 rfl ?_
        refine m_calli2 (mi := miX8_whoAt) dX8_behindOthers_19 q1955 okX8_whoAt rfl (Nat.le_of_ble_eq_true rfl) (c_whoAt E K (by first | assumption | omega) (by first | assumption | omega)) (Nat.le_of_ble_eq_true rfl) ?_
        refine w_iload_n dX8_behindOthers_22 rfl ?_
        refine w_icmpN_eq dX8_behindOthers_23 rfl (by omega) (by omega) (fun h_23 => ?_) (fun h_23 => ?_)
        · refine w_iinc dX8_behindOthers_40 rfl (nI_inc _ 1) rfl (Nat.le_of_ble_eq_true rfl) ls_5_4 ?_
          refine w_goto dX8_behindOthers_43 rfl ?_
          exact w_as (ih_lp (k + 1) (by omega) (by omega)) (by rw [behK_s, if_pos h_23]) rfl rfl
        · refine w_iload_n dX8_behindOthers_26 rfl ?_
          refine w_aload_n dX8_behindOthers_27 rfl ?_
          refine w_iload_n dX8_behindOthers_28 rfl ?_
          refine w_iload dX8_behindOthers_29 rfl ?_
          refine m_calli2 (mi := miX8_minuteAt) dX8_behindOthers_31 q1963 okX8_minuteAt rfl (Nat.le_of_ble_eq_true rfl) (c_minuteAt E K (by first | assumption | omega) (by first | assumption | omega)) (Nat.le_of_ble_eq_true rfl) ?_
          refine w_iconst (v := nI 1) dX8_behindOthers_34 ki_1 ?_
          refine w_iaddN dX8_behindOthers_35 ?_
          refine w_mmax dX8_behindOthers_36 q2092 q1165 q155 q1166 (Nat.le_of_ble_eq_true rfl) (Nat.le_of_ble_eq_true rfl) ?_
          refine w_topN (max_n (by omega) (by omega)) ?_
          refine w_istore_n dX8_behindOthers_39 rfl (Nat.le_of_ble_eq_true rfl) ls_5_3 ?_
          refine w_iinc dX8_behindOthers_40 rfl (nI_inc _ 1) rfl (Nat.le_of_ble_eq_true rfl) ls_5_4 ?_
          refine w_goto dX8_behindOthers_43 rfl ?_
          exact w_as (ih_lp (k + 1) (by omega) (by omega)) (by rw [behK_s, if_neg h_23]) rfl rfl
  exact lp (vt V 7 d + 1) 0 (by omega) (by omega)
set_option maxHeartbeats 4000000 in
theorem c_soonestOf {g : GG} {S : MS} {f : Nat} {d : Nat} {V : VS} (E : Enc S V) (K : OkV V) (hf : f < vs V 1) (hd : d < vs V 2) : Mt g miX8_soonestOf 4 [.int (nI f), .int (nI d)] (S) (some (.int (nI (soonV V f d) - nI 1))) (S) := by
  refine Mt.start (fun b => [some (.ref b), some (.int (nI f)), some (.int (nI d)), none]) plX8 rfl (fun b => (Nat.le_of_ble_eq_true rfl)) (fun b => rfl) ?_
  intro σ b
  have kb := K.b
  have kf_f := K.f hf
  have kd_d := K.d hd
  have kn_d := K.n (d := d) (by omega)
  have hst := stepsV_le K (f := f) (c := vt V 5 d) hf (by omega)
  have hbo : behO V f d ≤ 241 := behK_le K f (d := d) (by omega) _ (Nat.le_refl _)
  refine w_aload_n dX8_soonestOf_0 rfl ?_
  refine w_iload_n dX8_soonestOf_1 rfl ?_
  refine m_calli1 (mi := miX8_isThere) dX8_soonestOf_2 q1935 okX8_isThere rfl (Nat.le_of_ble_eq_true rfl) (c_isThere E K (by first | assumption | omega)) (Nat.le_of_ble_eq_true rfl) ?_
  refine w_ifB_eq dX8_soonestOf_5 rfl (fun h_5 => ?_) (fun h_5 => ?_)
  · refine w_iconst (v := (-1)) dX8_soonestOf_22 ki_m1 ?_
    exact w_iret dX8_soonestOf_23 rfl ⟨by rw [soonV, if_neg h_5]; rfl, by first | rfl | (simp only [bP, isT, bitN, inN, *, not_true_eq_false, not_false_eq_true, and_true, true_and, and_false, false_and, or_true, true_or, or_false, false_or, and_self, or_self, if_true, if_false, ite_true, ite_false]; done) | (simp [bP, isT, bitN, inN, *]; done) | (simp_all [bP, isT, bitN, inN]; done) | (repeat split) <;> first | rfl | contradiction | simp_all⟩
  · refine w_aload_n dX8_soonestOf_8 rfl ?_
    refine mg_at dX8_soonestOf_9 rfl ?_
    refine w_iload_n dX8_soonestOf_12 rfl ?_
    refine s_calli1 (mi := miX8_finderRow) dX8_soonestOf_13 q1879 okX8_finderRow (Nat.le_of_ble_eq_true rfl) c_finderRow (Nat.le_of_ble_eq_true rfl) ?_
    refine w_iconst (v := nI 2) dX8_soonestOf_16 ki_2 ?_
    refine w_iaddN dX8_soonestOf_17 ?_
    refine ma_at dX8_soonestOf_18 (by omega) ?_
    refine w_topN (E.f 2 (by omega) (by omega)) ?_
    refine w_ifN_ne dX8_soonestOf_19 rfl (by omega) (fun h_19 => ?_) (fun h_19 => ?_)
    · refine w_aload_n dX8_soonestOf_24 rfl ?_
      refine mg_at dX8_soonestOf_25 rfl ?_
      refine w_iload_n dX8_soonestOf_28 rfl ?_
      refine s_calli1 (mi := miX8_finderRow) dX8_soonestOf_29 q1879 okX8_finderRow (Nat.le_of_ble_eq_true rfl) c_finderRow (Nat.le_of_ble_eq_true rfl) ?_
      refine w_iconst (v := nI 3) dX8_soonestOf_32 ki_3 ?_
      refine w_iaddN dX8_soonestOf_33 ?_
      refine ma_at dX8_soonestOf_34 (by omega) ?_
      refine w_topN (E.f 3 (by omega) (by omega)) ?_
      refine w_aload_n dX8_soonestOf_35 rfl ?_
      refine w_iload_n dX8_soonestOf_36 rfl ?_
      refine w_aload_n dX8_soonestOf_37 rfl ?_
      refine mg_at dX8_soonestOf_38 rfl ?_
      refine w_iconst (v := nI 0) dX8_soonestOf_41 ki_0 ?_
      refine w_iload_n dX8_soonestOf_42 rfl ?_
      refine s_calli2 (mi := miX8_findRow) dX8_soonestOf_43 q1813 okX8_findRow (Nat.le_of_ble_eq_true rfl) c_findRow (Nat.le_of_ble_eq_true rfl) ?_
      refine ma_at dX8_soonestOf_46 (by omega) ?_
      refine w_topN (E.d0 (by omega)) ?_
      refine m_calli2 (mi := miX8_stepsTo) dX8_soonestOf_47 q1909 okX8_stepsTo rfl (Nat.le_of_ble_eq_true rfl) (c_stepsTo E K (by first | assumption | omega) (by omega)) (Nat.le_of_ble_eq_true rfl) ?_
      refine w_topN (show _ = nI (stepsV V f (vt V 5 d)) from rfl) ?_
      refine w_iaddN dX8_soonestOf_50 ?_
      refine w_aload_n dX8_soonestOf_51 rfl ?_
      refine w_iload_n dX8_soonestOf_52 rfl ?_
      refine w_iload_n dX8_soonestOf_53 rfl ?_
      refine m_calli2 (mi := miX8_behindOthers) dX8_soonestOf_54 q2169 okX8_behindOthers rfl (Nat.le_of_ble_eq_true rfl) (c_behindOthers E K (by first | assumption | omega) (by first | assumption | omega)) (Nat.le_of_ble_eq_true rfl) ?_
      refine w_mmax dX8_soonestOf_57 q2092 q1165 q155 q1166 (Nat.le_of_ble_eq_true rfl) (Nat.le_of_ble_eq_true rfl) ?_
      refine w_topN (max_n (by omega) (by omega)) ?_
      refine w_topN (show _ = nI (soonT V f d) from rfl) ?_
      have hso : soonT V f d ≤ 100000 := by unfold soonT; omega
      refine w_istore_n dX8_soonestOf_60 rfl (Nat.le_of_ble_eq_true rfl) ls_4_3 ?_
      refine w_iload_n dX8_soonestOf_61 rfl ?_
      refine w_aload_n dX8_soonestOf_62 rfl ?_
      refine mg_at dX8_soonestOf_63 rfl ?_
      refine w_iconst (v := nI 3) dX8_soonestOf_66 ki_3 ?_
      refine ma_at dX8_soonestOf_67 (by omega) ?_
      refine w_topN (E.s 3 (by omega)) ?_
      refine w_icmpN_le dX8_soonestOf_68 rfl (by omega) (by omega) (fun h_68 => ?_) (fun h_68 => ?_)
      · refine w_iload_n dX8_soonestOf_75 rfl ?_
        exact w_iret dX8_soonestOf_76 rfl ⟨by rw [soonV, if_pos h_5, if_neg (by omega), if_neg (by omega), nI_dn], by first | rfl | (simp only [bP, isT, bitN, inN, *, not_true_eq_false, not_false_eq_true, and_true, true_and, and_false, false_and, or_true, true_or, or_false, false_or, and_self, or_self, if_true, if_false, ite_true, ite_false]; done) | (simp [bP, isT, bitN, inN, *]; done) | (simp_all [bP, isT, bitN, inN]; done) | (repeat split) <;> first | rfl | contradiction | simp_all⟩
      · refine w_iconst (v := (-1)) dX8_soonestOf_71 ki_m1 ?_
        refine w_goto dX8_soonestOf_72 rfl ?_
        exact w_iret dX8_soonestOf_76 rfl ⟨by rw [soonV, if_pos h_5, if_neg (by omega), if_pos (by omega)]; rfl, by first | rfl | (simp only [bP, isT, bitN, inN, *, not_true_eq_false, not_false_eq_true, and_true, true_and, and_false, false_and, or_true, true_or, or_false, false_or, and_self, or_self, if_true, if_false, ite_true, ite_false]; done) | (simp [bP, isT, bitN, inN, *]; done) | (simp_all [bP, isT, bitN, inN]; done) | (repeat split) <;> first | rfl | contradiction | simp_all⟩
    · refine w_iconst (v := (-1)) dX8_soonestOf_22 ki_m1 ?_
      exact w_iret dX8_soonestOf_23 rfl ⟨by rw [soonV, if_pos h_5, if_pos (by omega)]; rfl, by first | rfl | (simp only [bP, isT, bitN, inN, *, not_true_eq_false, not_false_eq_true, and_true, true_and, and_false, false_and, or_true, true_or, or_false, false_or, and_self, or_self, if_true, if_false, ite_true, ite_false]; done) | (simp [bP, isT, bitN, inN, *]; done) | (simp_all [bP, isT, bitN, inN]; done) | (repeat split) <;> first | rfl | contradiction | simp_all⟩
set_option maxHeartbeats 4000000 in
theorem c_soonest {g : GG} {S : MS} {x : Int32} {y : Int32} {V : VS} (E : Enc S V) (K : OkV V) : Mt g miX8_soonest 5 [.int x, .int y] (S) (some (.int ((q_soonest V x y).1))) (sI S 2 (q_soonest V x y).2) := by
  refine Mt.start (fun b => [some (.ref b), some (.int x), some (.int y)]) plX8 rfl (fun b => (Nat.le_of_ble_eq_true rfl)) (fun b => rfl) ?_
  intro σ b
  have kb := K.b
  refine w_aload_n dX8_soonest_0 rfl ?_
  refine w_iload_n dX8_soonest_1 rfl ?_
  refine m_calli1 (mi := miX8_isFinder) dX8_soonest_2 q1875 okX8_isFinder rfl (Nat.le_of_ble_eq_true rfl) (c_isFinder E K) (Nat.le_of_ble_eq_true rfl) ?_
  refine w_ifB_eq dX8_soonest_5 rfl (fun h_5 => ?_) (fun h_5 => ?_)
  · refine w_aload_n dX8_soonest_16 rfl ?_
    refine w_iconst (v := nI 1) dX8_soonest_17 ki_1 ?_
    refine m_calli1 (mi := miX8_refuse) dX8_soonest_18 q1746 okX8_refuse rfl (Nat.le_of_ble_eq_true rfl) c_refuse (Nat.le_of_ble_eq_true rfl) ?_
    exact w_iret dX8_soonest_21 rfl ⟨by first | (rw [q_soonest, if_neg (fun z => h_5 z.1)]; rfl) | (rw [q_soonest, if_neg (fun z => h_13 z.2)]; rfl) | (rw [q_soonest, if_pos ⟨hx_f, hx_h⟩, hcl_f, hcl_h, if_pos h_29]; rfl) | (rw [q_soonest, if_pos ⟨hx_f, hx_h⟩, hcl_f, hcl_h, if_neg h_29]; rfl), by first | (rw [q_soonest, if_neg (fun z => h_5 z.1)]; rfl) | (rw [q_soonest, if_neg (fun z => h_13 z.2)]; rfl) | (rw [q_soonest, if_pos ⟨hx_f, hx_h⟩, hcl_f, hcl_h, if_pos h_29]; rfl) | (rw [q_soonest, if_pos ⟨hx_f, hx_h⟩, hcl_f, hcl_h, if_neg h_29]; rfl)⟩
  · have hx_f := h_5
    obtain ⟨f, hf_f, rfl⟩ := inN_of h_5 (by omega)
    have hcl_f : cl (nI f) = f := nI_clamp (by omega)
    have kf_f := K.f hf_f
    refine w_aload_n dX8_soonest_8 rfl ?_
    refine w_iload_n dX8_soonest_9 rfl ?_
    refine m_calli1 (mi := miX8_isFind) dX8_soonest_10 q1886 okX8_isFind rfl (Nat.le_of_ble_eq_true rfl) (c_isFind E K) (Nat.le_of_ble_eq_true rfl) ?_
    refine w_ifB_ne dX8_soonest_13 rfl (fun h_13 => ?_) (fun h_13 => ?_)
    · have hx_h := h_13
      obtain ⟨h, hf_h, rfl⟩ := inN_of h_13 (by omega)
      have hcl_h : cl (nI h) = h := nI_clamp (by omega)
      have kf_h := K.d hf_h
      refine w_aload_n dX8_soonest_22 rfl ?_
      refine w_iload_n dX8_soonest_23 rfl ?_
      refine w_iload_n dX8_soonest_24 rfl ?_
      refine m_calli2 (mi := miX8_soonestOf) dX8_soonest_25 q2165 okX8_soonestOf rfl (Nat.le_of_ble_eq_true rfl) (c_soonestOf E K (by first | assumption | omega) (by first | assumption | omega)) (Nat.le_of_ble_eq_true rfl) ?_
      refine w_iconst (v := (-1)) dX8_soonest_28 ki_m1 ?_
      refine w_icmp_ne dX8_soonest_29 rfl (fun h_29 => ?_) (fun h_29 => ?_)
      · have h_29 : soonV V f h ≠ 0 := mt (m1_iff (by have := soonV_le K f h; omega)).mpr h_29
        refine w_aload_n dX8_soonest_41 rfl ?_
        refine w_aload_n dX8_soonest_42 rfl ?_
        refine w_iload_n dX8_soonest_43 rfl ?_
        refine w_iload_n dX8_soonest_44 rfl ?_
        refine m_calli2 (mi := miX8_soonestOf) dX8_soonest_45 q2165 okX8_soonestOf rfl (Nat.le_of_ble_eq_true rfl) (c_soonestOf E K (by first | assumption | omega) (by first | assumption | omega)) (Nat.le_of_ble_eq_true rfl) ?_
        obtain ⟨r, hr⟩ : ∃ r, soonV V f h = r + 1 := ⟨soonV V f h - 1, by omega⟩
        refine w_topN (n := soonV V f h - 1) (by rw [hr, nI_dn]; rfl) ?_
        refine m_calli1 (mi := miX8_gives) dX8_soonest_48 q1839 okX8_gives rfl (Nat.le_of_ble_eq_true rfl) c_gives (Nat.le_of_ble_eq_true rfl) ?_
        exact w_iret dX8_soonest_51 rfl ⟨by first | (rw [q_soonest, if_neg (fun z => h_5 z.1)]; rfl) | (rw [q_soonest, if_neg (fun z => h_13 z.2)]; rfl) | (rw [q_soonest, if_pos ⟨hx_f, hx_h⟩, hcl_f, hcl_h, if_pos h_29]; rfl) | (rw [q_soonest, if_pos ⟨hx_f, hx_h⟩, hcl_f, hcl_h, if_neg h_29]; rfl), by first | (rw [q_soonest, if_neg (fun z => h_5 z.1)]; rfl) | (rw [q_soonest, if_neg (fun z => h_13 z.2)]; rfl) | (rw [q_soonest, if_pos ⟨hx_f, hx_h⟩, hcl_f, hcl_h, if_pos h_29]; rfl) | (rw [q_soonest, if_pos ⟨hx_f, hx_h⟩, hcl_f, hcl_h, if_neg h_29]; rfl)⟩
      · have h_29 : soonV V f h = 0 := (m1_iff (by have := soonV_le K f h; omega)).mp h_29
        refine w_aload_n dX8_soonest_32 rfl ?_
        refine w_bipush (v := nI 7) dX8_soonest_33 kb_7 ?_
        refine m_calli1 (mi := miX8_refuse) dX8_soonest_35 q1746 okX8_refuse rfl (Nat.le_of_ble_eq_true rfl) c_refuse (Nat.le_of_ble_eq_true rfl) ?_
        refine w_goto dX8_soonest_38 rfl ?_
        exact w_iret dX8_soonest_51 rfl ⟨by first | (rw [q_soonest, if_neg (fun z => h_5 z.1)]; rfl) | (rw [q_soonest, if_neg (fun z => h_13 z.2)]; rfl) | (rw [q_soonest, if_pos ⟨hx_f, hx_h⟩, hcl_f, hcl_h, if_pos h_29]; rfl) | (rw [q_soonest, if_pos ⟨hx_f, hx_h⟩, hcl_f, hcl_h, if_neg h_29]; rfl), by first | (rw [q_soonest, if_neg (fun z => h_5 z.1)]; rfl) | (rw [q_soonest, if_neg (fun z => h_13 z.2)]; rfl) | (rw [q_soonest, if_pos ⟨hx_f, hx_h⟩, hcl_f, hcl_h, if_pos h_29]; rfl) | (rw [q_soonest, if_pos ⟨hx_f, hx_h⟩, hcl_f, hcl_h, if_neg h_29]; rfl)⟩
    · refine w_aload_n dX8_soonest_16 rfl ?_
      refine w_iconst (v := nI 1) dX8_soonest_17 ki_1 ?_
      refine m_calli1 (mi := miX8_refuse) dX8_soonest_18 q1746 okX8_refuse rfl (Nat.le_of_ble_eq_true rfl) c_refuse (Nat.le_of_ble_eq_true rfl) ?_
      exact w_iret dX8_soonest_21 rfl ⟨by first | (rw [q_soonest, if_neg (fun z => h_5 z.1)]; rfl) | (rw [q_soonest, if_neg (fun z => h_13 z.2)]; rfl) | (rw [q_soonest, if_pos ⟨hx_f, hx_h⟩, hcl_f, hcl_h, if_pos h_29]; rfl) | (rw [q_soonest, if_pos ⟨hx_f, hx_h⟩, hcl_f, hcl_h, if_neg h_29]; rfl), by first | (rw [q_soonest, if_neg (fun z => h_5 z.1)]; rfl) | (rw [q_soonest, if_neg (fun z => h_13 z.2)]; rfl) | (rw [q_soonest, if_pos ⟨hx_f, hx_h⟩, hcl_f, hcl_h, if_pos h_29]; rfl) | (rw [q_soonest, if_pos ⟨hx_f, hx_h⟩, hcl_f, hcl_h, if_neg h_29]; rfl)⟩
set_option maxHeartbeats 4000000 in
theorem c_threatTo {g : GG} {S : MS} {d : Nat} {V : VS} (E : Enc S V) (K : OkV V) (hd : d < vs V 2) : Mt g miX8_threatTo 5 [.int (nI d)] (S) (some (.int (nI (threatV V d)))) (S) := by
  refine Mt.start (fun b => [some (.ref b), some (.int (nI d)), none, none]) plX8 rfl (fun b => (Nat.le_of_ble_eq_true rfl)) (fun b => rfl) ?_
  intro σ b
  have kb := K.b
  have kd_d := K.d hd
  have kn_d := K.n (d := d) (by omega)
  refine w_iconst (v := nI 0) dX8_threatTo_0 ki_0 ?_
  refine w_istore_n dX8_threatTo_1 rfl (Nat.le_of_ble_eq_true rfl) ls_4_2 ?_
  refine w_iconst (v := nI 0) dX8_threatTo_2 ki_0 ?_
  refine w_istore_n dX8_threatTo_3 rfl (Nat.le_of_ble_eq_true rfl) ls_4_3 ?_
  have lp : ∀ (j9 : Nat) (k : Nat), vs V 1 - k < j9 → k ≤ vs V 1 → Wp g (mtM g miX8_threatTo 5 σ b (some (.int (nI (threatV V d)))) (S)) 0 0 4 [some (.ref b), some (.int (nI d)), some (.int (nI (foldN (fun f s => s ||| if soonV V f d = 0 then 0 else 2 ^ f) 0 k))), some (.int (nI k))] [] (sM g σ b (S)) := by
    intro j9
    induction j9 with
    | zero => intro k hmu hk_k; exact absurd hmu (Nat.not_lt_zero _)
    | succ j9 ih_lp =>
      intro k hmu hk_k
      refine w_iload_n dX8_threatTo_4 rfl ?_
      refine w_aload_n dX8_threatTo_5 rfl ?_
      refine mg_at dX8_threatTo_6 rfl ?_
      refine w_iconst (v := nI 1) dX8_threatTo_9 ki_1 ?_
      refine ma_at dX8_threatTo_10 (by omega) ?_
      refine w_topN (E.s 1 (by omega)) ?_
      refine w_icmpN_ge dX8_threatTo_11 rfl (by omega) (by omega) (fun h_11 => ?_) (fun h_11 => ?_)
      · obtain rfl : k = vs V 1 := by omega
        refine w_iload_n dX8_threatTo_40 rfl ?_
        exact w_iret dX8_threatTo_41 rfl ⟨by rfl, by first | rfl | (simp only [bP, isT, bitN, inN, *, not_true_eq_false, not_false_eq_true, and_true, true_and, and_false, false_and, or_true, true_or, or_false, false_or, and_self, or_self, if_true, if_false, ite_true, ite_false]; done) | (simp [bP, isT, bitN, inN, *]; done) | (simp_all [bP, isT, bitN, inN]; done) | (repeat split) <;> first | rfl | contradiction | simp_all⟩
      · refine w_iload_n dX8_threatTo_14 rfl ?_
        refine w_aload_n dX8_threatTo_15 rfl ?_
        refine w_iload_n dX8_threatTo_16 rfl ?_
        refine w_iload_n dX8_threatTo_17 rfl ?_
        refine m_calli2 (mi := miX8_soonestOf) dX8_threatTo_18 q2165 okX8_soonestOf rfl (Nat.le_of_ble_eq_true rfl) (c_soonestOf E K (by first | assumption | omega) (by first | assumption | omega)) (Nat.le_of_ble_eq_true rfl) ?_
        refine w_iconst (v := (-1)) dX8_threatTo_21 ki_m1 ?_
        refine w_icmp_ne dX8_threatTo_22 rfl (fun h_22 => ?_) (fun h_22 => ?_)
        · have h_22 : soonV V k d ≠ 0 := mt (m1_iff (by have := soonV_le K k d; omega)).mpr h_22
          refine w_iconst (v := nI 1) dX8_threatTo_29 ki_1 ?_
          refine w_iload_n dX8_threatTo_30 rfl ?_
          refine w_shl1N dX8_threatTo_31 (by omega) ?_
          refine w_iorN dX8_threatTo_32 ?_
          refine w_istore_n dX8_threatTo_33 rfl (Nat.le_of_ble_eq_true rfl) ls_4_2 ?_
          refine w_iinc dX8_threatTo_34 rfl (nI_inc _ 1) rfl (Nat.le_of_ble_eq_true rfl) ls_4_3 ?_
          refine w_goto dX8_threatTo_37 rfl ?_
          exact w_as (ih_lp (k + 1) (by omega) (by omega)) (by simp only [foldN_s]; (try split) <;> first | rfl | (exfalso; first | contradiction | omega | (simp_all; done))) rfl (rfl)
        · have h_22 : soonV V k d = 0 := (m1_iff (by have := soonV_le K k d; omega)).mp h_22
          refine w_iconst (v := nI 0) dX8_threatTo_25 ki_0 ?_
          refine w_goto dX8_threatTo_26 rfl ?_
          refine w_iorN dX8_threatTo_32 ?_
          refine w_istore_n dX8_threatTo_33 rfl (Nat.le_of_ble_eq_true rfl) ls_4_2 ?_
          refine w_iinc dX8_threatTo_34 rfl (nI_inc _ 1) rfl (Nat.le_of_ble_eq_true rfl) ls_4_3 ?_
          refine w_goto dX8_threatTo_37 rfl ?_
          exact w_as (ih_lp (k + 1) (by omega) (by omega)) (by simp only [foldN_s]; (try split) <;> first | rfl | (exfalso; first | contradiction | omega | (simp_all; done))) rfl (rfl)
  exact lp (vs V 1 + 1) 0 (by omega) (by omega)
set_option maxHeartbeats 4000000 in
theorem c_threat {g : GG} {S : MS} {x : Int32} {V : VS} (E : Enc S V) (K : OkV V) : Mt g miX8_threat 6 [.int x] (S) (some (.int ((q_threat V x).1))) (sI S 2 (q_threat V x).2) := by
  refine Mt.start (fun b => [some (.ref b), some (.int x), none]) plX8 rfl (fun b => (Nat.le_of_ble_eq_true rfl)) (fun b => rfl) ?_
  intro σ b
  have kb := K.b
  have hwl := wfV_le V x
  refine w_aload_n dX8_threat_0 rfl ?_
  refine w_iload_n dX8_threat_1 rfl ?_
  refine m_calli1 (mi := miX8_wrongFind) dX8_threat_2 q1996 okX8_wrongFind rfl (Nat.le_of_ble_eq_true rfl) (c_wrongFind E K) (Nat.le_of_ble_eq_true rfl) ?_
  refine w_istore_n dX8_threat_5 rfl (Nat.le_of_ble_eq_true rfl) ls_3_2 ?_
  refine w_iload_n dX8_threat_6 rfl ?_
  refine w_ifN_le dX8_threat_7 rfl (by omega) (fun h_7 => ?_) (fun h_7 => ?_)
  · have hw0 := wfV_0 (V := V) (x := x) (by omega)
    obtain ⟨hx_d, hth⟩ := hw0
    obtain ⟨d, hd, rfl⟩ := inN_of hx_d (by omega)
    have hcl_d : cl (nI d) = d := nI_clamp (by omega)
    refine w_aload_n dX8_threat_18 rfl ?_
    refine w_aload_n dX8_threat_19 rfl ?_
    refine w_iload_n dX8_threat_20 rfl ?_
    refine m_calli1 (mi := miX8_threatTo) dX8_threat_21 q2177 okX8_threatTo rfl (Nat.le_of_ble_eq_true rfl) (c_threatTo E K (by first | assumption | omega)) (Nat.le_of_ble_eq_true rfl) ?_
    refine m_calli1 (mi := miX8_gives) dX8_threat_24 q1839 okX8_gives rfl (Nat.le_of_ble_eq_true rfl) c_gives (Nat.le_of_ble_eq_true rfl) ?_
    exact w_iret dX8_threat_27 rfl ⟨by first | rfl | (unfold q_threat; (try simp only [hcl_d]); (repeat' split) <;> first | rfl | contradiction | omega | (exfalso; simp_all; done)), by first | rfl | (unfold q_threat; (try simp only [hcl_d]); (repeat' split) <;> first | rfl | contradiction | omega | (exfalso; simp_all; done))⟩
  · refine w_aload_n dX8_threat_10 rfl ?_
    refine w_iload_n dX8_threat_11 rfl ?_
    refine m_calli1 (mi := miX8_refuse) dX8_threat_12 q1746 okX8_refuse rfl (Nat.le_of_ble_eq_true rfl) c_refuse (Nat.le_of_ble_eq_true rfl) ?_
    refine w_goto dX8_threat_15 rfl ?_
    exact w_iret dX8_threat_27 rfl ⟨by first | rfl | (unfold q_threat; (try simp only [hcl_d]); (repeat' split) <;> first | rfl | contradiction | omega | (exfalso; simp_all; done)), by first | rfl | (unfold q_threat; (try simp only [hcl_d]); (repeat' split) <;> first | rfl | contradiction | omega | (exfalso; simp_all; done))⟩
set_option maxHeartbeats 4000000 in
theorem c_safe {g : GG} {S : MS} {x : Int32} {V : VS} (E : Enc S V) (K : OkV V) : Mt g miX8_safe 6 [.int x] (S) (some (.int ((q_safe V x).1))) (sI S 2 (q_safe V x).2) := by
  refine Mt.start (fun b => [some (.ref b), some (.int x), none, none]) plX8 rfl (fun b => (Nat.le_of_ble_eq_true rfl)) (fun b => rfl) ?_
  intro σ b
  have kb := K.b
  refine w_aload_n dX8_safe_0 rfl ?_
  refine w_iload_n dX8_safe_1 rfl ?_
  refine m_calli1 (mi := miX8_isFinder) dX8_safe_2 q1875 okX8_isFinder rfl (Nat.le_of_ble_eq_true rfl) (c_isFinder E K) (Nat.le_of_ble_eq_true rfl) ?_
  refine w_ifB_ne dX8_safe_5 rfl (fun h_5 => ?_) (fun h_5 => ?_)
  · have hx_f := h_5
    obtain ⟨f, hf_f, rfl⟩ := inN_of h_5 (by omega)
    have hcl_f : cl (nI f) = f := nI_clamp (by omega)
    have kf_f := K.f hf_f
    refine w_iconst (v := nI 0) dX8_safe_14 ki_0 ?_
    refine w_istore_n dX8_safe_15 rfl (Nat.le_of_ble_eq_true rfl) ls_4_2 ?_
    refine w_iconst (v := nI 0) dX8_safe_16 ki_0 ?_
    refine w_istore_n dX8_safe_17 rfl (Nat.le_of_ble_eq_true rfl) ls_4_3 ?_
    have lp : ∀ (j9 : Nat) (k : Nat), vs V 2 - k < j9 → k ≤ vs V 2 → Wp g (mtM g miX8_safe 6 σ b (some (.int ((q_safe V (nI f)).1))) (sI S 2 (q_safe V (nI f)).2)) 0 0 18 [some (.ref b), some (.int (nI f)), some (.int (nI (foldN (fun d s => s ||| if safeP V f d then 2 ^ d else 0) 0 k))), some (.int (nI k))] [] (sM g σ b (S)) := by
      intro j9
      induction j9 with
      | zero => intro k hmu hk_k; exact absurd hmu (Nat.not_lt_zero _)
      | succ j9 ih_lp =>
        intro k hmu hk_k
        have hp6 := pow6 f (by omega)
        refine w_iload_n dX8_safe_18 rfl ?_
        refine w_aload_n dX8_safe_19 rfl ?_
        refine mg_at dX8_safe_20 rfl ?_
        refine w_iconst (v := nI 2) dX8_safe_23 ki_2 ?_
        refine ma_at dX8_safe_24 (by omega) ?_
        refine w_topN (E.s 2 (by omega)) ?_
        refine w_icmpN_ge dX8_safe_25 rfl (by omega) (by omega) (fun h_25 => ?_) (fun h_25 => ?_)
        · obtain rfl : k = vs V 2 := by omega
          refine w_aload_n dX8_safe_77 rfl ?_
          refine w_iload_n dX8_safe_78 rfl ?_
          refine m_calli1 (mi := miX8_gives) dX8_safe_79 q1839 okX8_gives rfl (Nat.le_of_ble_eq_true rfl) c_gives (Nat.le_of_ble_eq_true rfl) ?_
          exact w_iret dX8_safe_82 rfl ⟨by first | rfl | (unfold q_safe; (try simp only [hcl_f]); (repeat' split) <;> first | rfl | contradiction | omega | (exfalso; simp_all; done)), by first | rfl | (unfold q_safe; (try simp only [hcl_f]); (repeat' split) <;> first | rfl | contradiction | omega | (exfalso; simp_all; done))⟩
        · refine w_iload_n dX8_safe_28 rfl ?_
          refine w_aload_n dX8_safe_29 rfl ?_
          refine w_iload_n dX8_safe_30 rfl ?_
          refine m_calli1 (mi := miX8_isThere) dX8_safe_31 q1935 okX8_isThere rfl (Nat.le_of_ble_eq_true rfl) (c_isThere E K (by first | assumption | omega)) (Nat.le_of_ble_eq_true rfl) ?_
          refine w_ifB_eq dX8_safe_34 rfl (fun h_34 => ?_) (fun h_34 => ?_)
          · refine w_iconst (v := nI 0) dX8_safe_68 ki_0 ?_
            refine w_iorN dX8_safe_69 ?_
            refine w_istore_n dX8_safe_70 rfl (Nat.le_of_ble_eq_true rfl) ls_4_2 ?_
            refine w_iinc dX8_safe_71 rfl (nI_inc _ 1) rfl (Nat.le_of_ble_eq_true rfl) ls_4_3 ?_
            refine w_goto dX8_safe_74 rfl ?_
            exact w_as (ih_lp (k + 1) (by omega) (by omega)) (by rw [foldN_s]; first | (rw [if_pos ⟨h_34, h_45, h_59⟩]; done) | (rw [if_neg (fun z => h_34 z.1)]; done) | (rw [if_neg (fun z => h_45 z.2.1)]; done) | (rw [if_neg (fun z => h_59 z.2.2)]; done)) rfl (rfl)
          · refine w_aload_n dX8_safe_37 rfl ?_
            refine w_iload_n dX8_safe_38 rfl ?_
            refine m_calli1 (mi := miX8_lastOn) dX8_safe_39 q2000 okX8_lastOn rfl (Nat.le_of_ble_eq_true rfl) (c_lastOn E K (by first | assumption | omega)) (Nat.le_of_ble_eq_true rfl) ?_
            refine w_iconst (v := nI 1) dX8_safe_42 ki_1 ?_
            refine w_iload_n dX8_safe_43 rfl ?_
            refine w_shl1N dX8_safe_44 (by omega) ?_
            refine w_icmpN_ne dX8_safe_45 rfl (by have := lastV_lt K (d := k) (by omega); omega) (by omega) (fun h_45 => ?_) (fun h_45 => ?_)
            · refine w_iconst (v := nI 0) dX8_safe_68 ki_0 ?_
              refine w_iorN dX8_safe_69 ?_
              refine w_istore_n dX8_safe_70 rfl (Nat.le_of_ble_eq_true rfl) ls_4_2 ?_
              refine w_iinc dX8_safe_71 rfl (nI_inc _ 1) rfl (Nat.le_of_ble_eq_true rfl) ls_4_3 ?_
              refine w_goto dX8_safe_74 rfl ?_
              exact w_as (ih_lp (k + 1) (by omega) (by omega)) (by rw [foldN_s]; first | (rw [if_pos ⟨h_34, h_45, h_59⟩]; done) | (rw [if_neg (fun z => h_34 z.1)]; done) | (rw [if_neg (fun z => h_45 z.2.1)]; done) | (rw [if_neg (fun z => h_59 z.2.2)]; done)) rfl (rfl)
            · refine w_aload_n dX8_safe_48 rfl ?_
              refine w_iload_n dX8_safe_49 rfl ?_
              refine m_calli1 (mi := miX8_threatTo) dX8_safe_50 q2177 okX8_threatTo rfl (Nat.le_of_ble_eq_true rfl) (c_threatTo E K (by first | assumption | omega)) (Nat.le_of_ble_eq_true rfl) ?_
              refine w_iconst (v := nI 1) dX8_safe_53 ki_1 ?_
              refine w_iload_n dX8_safe_54 rfl ?_
              refine w_shl1N dX8_safe_55 (by omega) ?_
              refine w_iconst (v := (-1)) dX8_safe_56 ki_m1 ?_
              refine w_ixor dX8_safe_57 ?_
              refine w_iand dX8_safe_58 ?_
              refine w_if_ne dX8_safe_59 rfl (fun h_59 => ?_) (fun h_59 => ?_)
              · have h_59 := mt (and_not _ (threatV_lt K k) f (by omega)).mpr h_59
                refine w_iconst (v := nI 0) dX8_safe_68 ki_0 ?_
                refine w_iorN dX8_safe_69 ?_
                refine w_istore_n dX8_safe_70 rfl (Nat.le_of_ble_eq_true rfl) ls_4_2 ?_
                refine w_iinc dX8_safe_71 rfl (nI_inc _ 1) rfl (Nat.le_of_ble_eq_true rfl) ls_4_3 ?_
                refine w_goto dX8_safe_74 rfl ?_
                exact w_as (ih_lp (k + 1) (by omega) (by omega)) (by rw [foldN_s]; first | (rw [if_pos ⟨h_34, h_45, h_59⟩]; done) | (rw [if_neg (fun z => h_34 z.1)]; done) | (rw [if_neg (fun z => h_45 z.2.1)]; done) | (rw [if_neg (fun z => h_59 z.2.2)]; done)) rfl (rfl)
              · have h_59 := (and_not _ (threatV_lt K k) f (by omega)).mp h_59
                refine w_iconst (v := nI 1) dX8_safe_62 ki_1 ?_
                refine w_iload_n dX8_safe_63 rfl ?_
                refine w_shl1N dX8_safe_64 (by omega) ?_
                refine w_goto dX8_safe_65 rfl ?_
                refine w_iorN dX8_safe_69 ?_
                refine w_istore_n dX8_safe_70 rfl (Nat.le_of_ble_eq_true rfl) ls_4_2 ?_
                refine w_iinc dX8_safe_71 rfl (nI_inc _ 1) rfl (Nat.le_of_ble_eq_true rfl) ls_4_3 ?_
                refine w_goto dX8_safe_74 rfl ?_
                exact w_as (ih_lp (k + 1) (by omega) (by omega)) (by rw [foldN_s]; first | (rw [if_pos ⟨h_34, h_45, h_59⟩]; done) | (rw [if_neg (fun z => h_34 z.1)]; done) | (rw [if_neg (fun z => h_45 z.2.1)]; done) | (rw [if_neg (fun z => h_59 z.2.2)]; done)) rfl (rfl)
    exact lp (vs V 2 + 1) 0 (by omega) (by omega)
  · refine w_aload_n dX8_safe_8 rfl ?_
    refine w_iconst (v := nI 1) dX8_safe_9 ki_1 ?_
    refine m_calli1 (mi := miX8_refuse) dX8_safe_10 q1746 okX8_refuse rfl (Nat.le_of_ble_eq_true rfl) c_refuse (Nat.le_of_ble_eq_true rfl) ?_
    exact w_iret dX8_safe_13 rfl ⟨by first | rfl | (unfold q_safe; (try simp only [hcl_f]); (repeat' split) <;> first | rfl | contradiction | omega | (exfalso; simp_all; done)), by first | rfl | (unfold q_safe; (try simp only [hcl_f]); (repeat' split) <;> first | rfl | contradiction | omega | (exfalso; simp_all; done))⟩
set_option maxHeartbeats 4000000 in
theorem c_gain {g : GG} {S : MS} {x : Int32} {y : Int32} {V : VS} (E : Enc S V) (K : OkV V) : Mt g miX8_gain 6 [.int x, .int y] (S) (some (.int ((q_gain V x y).1))) (sI S 2 (q_gain V x y).2) := by
  refine Mt.start (fun b => [some (.ref b), some (.int x), some (.int y)]) plX8 rfl (fun b => (Nat.le_of_ble_eq_true rfl)) (fun b => rfl) ?_
  intro σ b
  have kb := K.b
  refine w_aload_n dX8_gain_0 rfl ?_
  refine w_iload_n dX8_gain_1 rfl ?_
  refine m_calli1 (mi := miX8_isFinder) dX8_gain_2 q1875 okX8_isFinder rfl (Nat.le_of_ble_eq_true rfl) (c_isFinder E K) (Nat.le_of_ble_eq_true rfl) ?_
  refine w_ifB_eq dX8_gain_5 rfl (fun h_5 => ?_) (fun h_5 => ?_)
  · refine w_aload_n dX8_gain_16 rfl ?_
    refine w_iconst (v := nI 1) dX8_gain_17 ki_1 ?_
    refine m_calli1 (mi := miX8_refuse) dX8_gain_18 q1746 okX8_refuse rfl (Nat.le_of_ble_eq_true rfl) c_refuse (Nat.le_of_ble_eq_true rfl) ?_
    exact w_iret dX8_gain_21 rfl ⟨by first | (rw [q_gain, if_neg (fun z => h_5 z.1)]; rfl) | (rw [q_gain, if_neg (fun z => h_13 z.2)]; rfl) | (rw [q_gain, if_pos ⟨hx_f, hx_h⟩, hcl_f, hcl_h, if_pos h_29]; rfl) | (rw [q_gain, if_pos ⟨hx_f, hx_h⟩, hcl_f, hcl_h, if_neg h_29]; rfl), by first | (rw [q_gain, if_neg (fun z => h_5 z.1)]; rfl) | (rw [q_gain, if_neg (fun z => h_13 z.2)]; rfl) | (rw [q_gain, if_pos ⟨hx_f, hx_h⟩, hcl_f, hcl_h, if_pos h_29]; rfl) | (rw [q_gain, if_pos ⟨hx_f, hx_h⟩, hcl_f, hcl_h, if_neg h_29]; rfl)⟩
  · have hx_f := h_5
    obtain ⟨f, hf_f, rfl⟩ := inN_of h_5 (by omega)
    have hcl_f : cl (nI f) = f := nI_clamp (by omega)
    have kf_f := K.f hf_f
    refine w_aload_n dX8_gain_8 rfl ?_
    refine w_iload_n dX8_gain_9 rfl ?_
    refine m_calli1 (mi := miX8_isFind) dX8_gain_10 q1886 okX8_isFind rfl (Nat.le_of_ble_eq_true rfl) (c_isFind E K) (Nat.le_of_ble_eq_true rfl) ?_
    refine w_ifB_ne dX8_gain_13 rfl (fun h_13 => ?_) (fun h_13 => ?_)
    · have hx_h := h_13
      obtain ⟨h, hf_h, rfl⟩ := inN_of h_13 (by omega)
      have hcl_h : cl (nI h) = h := nI_clamp (by omega)
      have kf_h := K.d hf_h
      refine w_aload_n dX8_gain_22 rfl ?_
      refine w_iload_n dX8_gain_23 rfl ?_
      refine w_iload_n dX8_gain_24 rfl ?_
      refine m_calli2 (mi := miX8_soonestOf) dX8_gain_25 q2165 okX8_soonestOf rfl (Nat.le_of_ble_eq_true rfl) (c_soonestOf E K (by first | assumption | omega) (by first | assumption | omega)) (Nat.le_of_ble_eq_true rfl) ?_
      refine w_iconst (v := (-1)) dX8_gain_28 ki_m1 ?_
      refine w_icmp_ne dX8_gain_29 rfl (fun h_29 => ?_) (fun h_29 => ?_)
      · have h_29 : soonV V f h ≠ 0 := mt (m1_iff (by have := soonV_le K f h; omega)).mpr h_29
        refine w_aload_n dX8_gain_41 rfl ?_
        refine w_aload_n dX8_gain_42 rfl ?_
        refine mg_at dX8_gain_43 rfl ?_
        refine w_iconst (v := nI 0) dX8_gain_46 ki_0 ?_
        refine w_iload_n dX8_gain_47 rfl ?_
        refine s_calli2 (mi := miX8_findRow) dX8_gain_48 q1813 okX8_findRow (Nat.le_of_ble_eq_true rfl) c_findRow (Nat.le_of_ble_eq_true rfl) ?_
        refine w_iconst (v := nI 1) dX8_gain_51 ki_1 ?_
        refine w_iaddN dX8_gain_52 ?_
        refine ma_at dX8_gain_53 (by omega) ?_
        refine w_topN (E.d1 (by omega)) ?_
        refine w_aload_n dX8_gain_54 rfl ?_
        refine w_iload_n dX8_gain_55 rfl ?_
        refine w_iload_n dX8_gain_56 rfl ?_
        refine m_calli2 (mi := miX8_shareOf) dX8_gain_57 q2023 okX8_shareOf rfl (Nat.le_of_ble_eq_true rfl) (c_shareOf E K (by first | assumption | omega) (by first | assumption | omega)) (Nat.le_of_ble_eq_true rfl) ?_
        refine w_isubN dX8_gain_60 (shareV_w V f h) ?_
        refine m_calli1 (mi := miX8_gives) dX8_gain_61 q1839 okX8_gives rfl (Nat.le_of_ble_eq_true rfl) c_gives (Nat.le_of_ble_eq_true rfl) ?_
        exact w_iret dX8_gain_64 rfl ⟨by first | (rw [q_gain, if_neg (fun z => h_5 z.1)]; rfl) | (rw [q_gain, if_neg (fun z => h_13 z.2)]; rfl) | (rw [q_gain, if_pos ⟨hx_f, hx_h⟩, hcl_f, hcl_h, if_pos h_29]; rfl) | (rw [q_gain, if_pos ⟨hx_f, hx_h⟩, hcl_f, hcl_h, if_neg h_29]; rfl), by first | (rw [q_gain, if_neg (fun z => h_5 z.1)]; rfl) | (rw [q_gain, if_neg (fun z => h_13 z.2)]; rfl) | (rw [q_gain, if_pos ⟨hx_f, hx_h⟩, hcl_f, hcl_h, if_pos h_29]; rfl) | (rw [q_gain, if_pos ⟨hx_f, hx_h⟩, hcl_f, hcl_h, if_neg h_29]; rfl)⟩
      · have h_29 : soonV V f h = 0 := (m1_iff (by have := soonV_le K f h; omega)).mp h_29
        refine w_aload_n dX8_gain_32 rfl ?_
        refine w_bipush (v := nI 7) dX8_gain_33 kb_7 ?_
        refine m_calli1 (mi := miX8_refuse) dX8_gain_35 q1746 okX8_refuse rfl (Nat.le_of_ble_eq_true rfl) c_refuse (Nat.le_of_ble_eq_true rfl) ?_
        refine w_goto dX8_gain_38 rfl ?_
        exact w_iret dX8_gain_64 rfl ⟨by first | (rw [q_gain, if_neg (fun z => h_5 z.1)]; rfl) | (rw [q_gain, if_neg (fun z => h_13 z.2)]; rfl) | (rw [q_gain, if_pos ⟨hx_f, hx_h⟩, hcl_f, hcl_h, if_pos h_29]; rfl) | (rw [q_gain, if_pos ⟨hx_f, hx_h⟩, hcl_f, hcl_h, if_neg h_29]; rfl), by first | (rw [q_gain, if_neg (fun z => h_5 z.1)]; rfl) | (rw [q_gain, if_neg (fun z => h_13 z.2)]; rfl) | (rw [q_gain, if_pos ⟨hx_f, hx_h⟩, hcl_f, hcl_h, if_pos h_29]; rfl) | (rw [q_gain, if_pos ⟨hx_f, hx_h⟩, hcl_f, hcl_h, if_neg h_29]; rfl)⟩
    · refine w_aload_n dX8_gain_16 rfl ?_
      refine w_iconst (v := nI 1) dX8_gain_17 ki_1 ?_
      refine m_calli1 (mi := miX8_refuse) dX8_gain_18 q1746 okX8_refuse rfl (Nat.le_of_ble_eq_true rfl) c_refuse (Nat.le_of_ble_eq_true rfl) ?_
      exact w_iret dX8_gain_21 rfl ⟨by first | (rw [q_gain, if_neg (fun z => h_5 z.1)]; rfl) | (rw [q_gain, if_neg (fun z => h_13 z.2)]; rfl) | (rw [q_gain, if_pos ⟨hx_f, hx_h⟩, hcl_f, hcl_h, if_pos h_29]; rfl) | (rw [q_gain, if_pos ⟨hx_f, hx_h⟩, hcl_f, hcl_h, if_neg h_29]; rfl), by first | (rw [q_gain, if_neg (fun z => h_5 z.1)]; rfl) | (rw [q_gain, if_neg (fun z => h_13 z.2)]; rfl) | (rw [q_gain, if_pos ⟨hx_f, hx_h⟩, hcl_f, hcl_h, if_pos h_29]; rfl) | (rw [q_gain, if_pos ⟨hx_f, hx_h⟩, hcl_f, hcl_h, if_neg h_29]; rfl)⟩
set_option maxHeartbeats 4000000 in
theorem c_boyFrom {g : GG} {S : MS} {c : Nat} {x : Nat} {V : VS} (E : Enc S V) (K : OkV V) (hc : c < 1000000) (hx : x < 1000000) : Mt g miX8_boyFrom 2 [.int (nI c), .int (nI x)] (S) (some (.int (nI (boyF V c x) - nI 1))) (S) := by
  refine Mt.start (fun b => [some (.ref b), some (.int (nI c)), some (.int (nI x)), none, none]) plX8 rfl (fun b => (Nat.le_of_ble_eq_true rfl)) (fun b => rfl) ?_
  intro σ b
  have kb := K.b
  refine w_iconst (v := (-1)) dX8_boyFrom_0 ki_m1 ?_
  refine w_istore_n dX8_boyFrom_1 rfl (Nat.le_of_ble_eq_true rfl) ls_5_3 ?_
  refine w_iconst (v := nI 0) dX8_boyFrom_2 ki_0 ?_
  refine w_istore dX8_boyFrom_3 rfl (Nat.le_of_ble_eq_true rfl) ls_5_4 ?_
  have lp : ∀ (j9 : Nat) (k : Nat) (m : Nat), vs V 2 - k < j9 → k ≤ vs V 2 → leastK V c k = m → Wp g (mtM g miX8_boyFrom 2 σ b (some (.int (nI (boyF V c x) - nI 1))) (S)) 0 0 5 [some (.ref b), some (.int (nI c)), some (.int (nI x)), some (.int (nI m - nI 1)), some (.int (nI k))] [] (sM g σ b (S)) := by
    intro j9
    induction j9 with
    | zero => intro k m hmu hk hm; exact absurd hmu (Nat.not_lt_zero _)
    | succ j9 ih_lp =>
      intro k m hmu hk hm
      have hml := least_le K c k (by omega)
      refine w_iload dX8_boyFrom_5 rfl ?_
      refine w_aload_n dX8_boyFrom_7 rfl ?_
      refine mg_at dX8_boyFrom_8 rfl ?_
      refine w_iconst (v := nI 2) dX8_boyFrom_11 ki_2 ?_
      refine ma_at dX8_boyFrom_12 (by omega) ?_
      refine w_topN (E.s 2 (by omega)) ?_
      refine w_icmpN_ge dX8_boyFrom_13 rfl (by omega) (by omega) (fun h_13 => ?_) (fun h_13 => ?_)
      · obtain rfl : k = vs V 2 := by omega
        refine w_iload_n dX8_boyFrom_78 rfl ?_
        refine w_iconst (v := (-1)) dX8_boyFrom_79 ki_m1 ?_
        refine w_icmp_ne dX8_boyFrom_80 rfl (fun h_80 => ?_) (fun h_80 => ?_)
        · have h_80 : m ≠ 0 := mt (m1_iff (by omega)).mpr h_80
          obtain ⟨i, rfl⟩ : ∃ i, m = i + 1 := ⟨m - 1, by omega⟩
          rw [nI_dn]
          refine w_iload_n dX8_boyFrom_87 rfl ?_
          refine w_iload_n dX8_boyFrom_88 rfl ?_
          refine w_iaddN dX8_boyFrom_89 ?_
          refine w_aload_n dX8_boyFrom_90 rfl ?_
          refine mg_at dX8_boyFrom_91 rfl ?_
          refine w_iconst (v := nI 0) dX8_boyFrom_94 ki_0 ?_
          refine ma_at dX8_boyFrom_95 (by omega) ?_
          refine w_topN (E.s 0 (by omega)) ?_
          refine w_iconst (v := nI 1) dX8_boyFrom_96 ki_1 ?_
          refine w_isubN dX8_boyFrom_97 (by omega) ?_
          refine w_mmin dX8_boyFrom_98 q1745 q1279 q155 q1280 (Nat.le_of_ble_eq_true rfl) (Nat.le_of_ble_eq_true rfl) ?_
          refine w_topN (min_n (by omega) (by omega)) ?_
          exact w_iret dX8_boyFrom_101 rfl ⟨by rw [boyF, hm, if_neg h_80, nI_dn, Nat.add_sub_cancel], by first | rfl | (simp only [bP, isT, bitN, inN, *, not_true_eq_false, not_false_eq_true, and_true, true_and, and_false, false_and, or_true, true_or, or_false, false_or, and_self, or_self, if_true, if_false, ite_true, ite_false]; done) | (simp [bP, isT, bitN, inN, *]; done) | (simp_all [bP, isT, bitN, inN]; done) | (repeat split) <;> first | rfl | contradiction | simp_all⟩
        · have h_80 : m = 0 := (m1_iff (by omega)).mp h_80
          refine w_iconst (v := (-1)) dX8_boyFrom_83 ki_m1 ?_
          refine w_goto dX8_boyFrom_84 rfl ?_
          exact w_iret dX8_boyFrom_101 rfl ⟨by rw [boyF, hm, if_pos h_80]; rfl, by first | rfl | (simp only [bP, isT, bitN, inN, *, not_true_eq_false, not_false_eq_true, and_true, true_and, and_false, false_and, or_true, true_or, or_false, false_or, and_self, or_self, if_true, if_false, ite_true, ite_false]; done) | (simp [bP, isT, bitN, inN, *]; done) | (simp_all [bP, isT, bitN, inN]; done) | (repeat split) <;> first | rfl | contradiction | simp_all⟩
      · have hkd := K.d (d := k) (by omega)
        refine w_aload_n dX8_boyFrom_16 rfl ?_
        refine w_iload dX8_boyFrom_17 rfl ?_
        refine m_calli1 (mi := miX8_isThere) dX8_boyFrom_19 q1935 okX8_isThere rfl (Nat.le_of_ble_eq_true rfl) (c_isThere E K (by first | assumption | omega)) (Nat.le_of_ble_eq_true rfl) ?_
        refine w_ifB_eq dX8_boyFrom_22 rfl (fun h_22 => ?_) (fun h_22 => ?_)
        · refine w_iinc dX8_boyFrom_72 rfl (nI_inc _ 1) rfl (Nat.le_of_ble_eq_true rfl) ls_5_4 ?_
          refine w_goto dX8_boyFrom_75 rfl ?_
          exact ih_lp (k + 1) m (by omega) (by omega) (by rw [least_s, hm, if_neg (fun z => h_22 z.1)])
        · refine w_aload_n dX8_boyFrom_25 rfl ?_
          refine mg_at dX8_boyFrom_26 rfl ?_
          refine w_iconst (v := nI 0) dX8_boyFrom_29 ki_0 ?_
          refine w_iload dX8_boyFrom_30 rfl ?_
          refine s_calli2 (mi := miX8_findRow) dX8_boyFrom_32 q1813 okX8_findRow (Nat.le_of_ble_eq_true rfl) c_findRow (Nat.le_of_ble_eq_true rfl) ?_
          refine ma_at dX8_boyFrom_35 (by omega) ?_
          refine w_topN (E.d0 (by omega)) ?_
          refine w_iload_n dX8_boyFrom_36 rfl ?_
          refine w_icmpN_lt dX8_boyFrom_37 rfl (by omega) (by omega) (fun h_37 => ?_) (fun h_37 => ?_)
          · refine w_iinc dX8_boyFrom_72 rfl (nI_inc _ 1) rfl (Nat.le_of_ble_eq_true rfl) ls_5_4 ?_
            refine w_goto dX8_boyFrom_75 rfl ?_
            exact ih_lp (k + 1) m (by omega) (by omega) (by rw [least_s, hm, if_neg (fun z => by omega)])
          · refine w_iload_n dX8_boyFrom_40 rfl ?_
            refine w_iconst (v := (-1)) dX8_boyFrom_41 ki_m1 ?_
            refine w_icmp_eq dX8_boyFrom_42 rfl (fun h_42 => ?_) (fun h_42 => ?_)
            · have h_42 : m = 0 := (m1_iff (by omega)).mp h_42
              refine w_aload_n dX8_boyFrom_60 rfl ?_
              refine mg_at dX8_boyFrom_61 rfl ?_
              refine w_iconst (v := nI 0) dX8_boyFrom_64 ki_0 ?_
              refine w_iload dX8_boyFrom_65 rfl ?_
              refine s_calli2 (mi := miX8_findRow) dX8_boyFrom_67 q1813 okX8_findRow (Nat.le_of_ble_eq_true rfl) c_findRow (Nat.le_of_ble_eq_true rfl) ?_
              refine ma_at dX8_boyFrom_70 (by omega) ?_
              refine w_topN (E.d0 (by omega)) ?_
              refine w_istore_n dX8_boyFrom_71 rfl (Nat.le_of_ble_eq_true rfl) ls_5_3 ?_
              refine w_iinc dX8_boyFrom_72 rfl (nI_inc _ 1) rfl (Nat.le_of_ble_eq_true rfl) ls_5_4 ?_
              refine w_goto dX8_boyFrom_75 rfl ?_
              exact w_as (ih_lp (k + 1) (vt V 5 k + 1) (by omega) (by omega) (by rw [least_s, hm, if_pos ⟨h_22, h_37, Or.inl h_42⟩])) (by rw [nI_dn]) rfl rfl
            · have h_42 : m ≠ 0 := mt (m1_iff (by omega)).mpr h_42
              obtain ⟨i, rfl⟩ : ∃ i, m = i + 1 := ⟨m - 1, by omega⟩
              rw [nI_dn]
              refine w_aload_n dX8_boyFrom_45 rfl ?_
              refine mg_at dX8_boyFrom_46 rfl ?_
              refine w_iconst (v := nI 0) dX8_boyFrom_49 ki_0 ?_
              refine w_iload dX8_boyFrom_50 rfl ?_
              refine s_calli2 (mi := miX8_findRow) dX8_boyFrom_52 q1813 okX8_findRow (Nat.le_of_ble_eq_true rfl) c_findRow (Nat.le_of_ble_eq_true rfl) ?_
              refine ma_at dX8_boyFrom_55 (by omega) ?_
              refine w_topN (E.d0 (by omega)) ?_
              refine w_iload_n dX8_boyFrom_56 rfl ?_
              refine w_icmpN_ge dX8_boyFrom_57 rfl (by omega) (by omega) (fun h_57 => ?_) (fun h_57 => ?_)
              · refine w_iinc dX8_boyFrom_72 rfl (nI_inc _ 1) rfl (Nat.le_of_ble_eq_true rfl) ls_5_4 ?_
                refine w_goto dX8_boyFrom_75 rfl ?_
                exact w_as (ih_lp (k + 1) (i + 1) (by omega) (by omega) (by rw [least_s, hm, if_neg (fun z => by have := z.2.2; simp only [Nat.add_sub_cancel] at this; omega)])) (by rw [nI_dn]) rfl rfl
              · refine w_aload_n dX8_boyFrom_60 rfl ?_
                refine mg_at dX8_boyFrom_61 rfl ?_
                refine w_iconst (v := nI 0) dX8_boyFrom_64 ki_0 ?_
                refine w_iload dX8_boyFrom_65 rfl ?_
                refine s_calli2 (mi := miX8_findRow) dX8_boyFrom_67 q1813 okX8_findRow (Nat.le_of_ble_eq_true rfl) c_findRow (Nat.le_of_ble_eq_true rfl) ?_
                refine ma_at dX8_boyFrom_70 (by omega) ?_
                refine w_topN (E.d0 (by omega)) ?_
                refine w_istore_n dX8_boyFrom_71 rfl (Nat.le_of_ble_eq_true rfl) ls_5_3 ?_
                refine w_iinc dX8_boyFrom_72 rfl (nI_inc _ 1) rfl (Nat.le_of_ble_eq_true rfl) ls_5_4 ?_
                refine w_goto dX8_boyFrom_75 rfl ?_
                exact w_as (ih_lp (k + 1) (vt V 5 k + 1) (by omega) (by omega) (by rw [least_s, hm, if_pos ⟨h_22, h_37, Or.inr (by simp only [Nat.add_sub_cancel]; omega)⟩])) (by rw [nI_dn]) rfl rfl
  exact lp (vs V 2 + 1) 0 0 (by omega) (by omega) rfl
set_option maxHeartbeats 4000000 in
theorem c_boy {g : GG} {S : MS} {x : Nat} {k : Nat} {V : VS} (E : Enc S V) (K : OkV V) (hx : x < 41) (hk : k < 9) : Mt g miX8_boy 3 [.int (nI x), .int (nI k)] (S) (some (.int (nI (boyK V x k) - nI 1))) (S) := by
  refine Mt.start (fun b => [some (.ref b), some (.int (nI x)), some (.int (nI k)), none, none]) plX8 rfl (fun b => (Nat.le_of_ble_eq_true rfl)) (fun b => rfl) ?_
  intro σ b
  have kb := K.b
  refine w_aload_n dX8_boy_0 rfl ?_
  refine w_iconst (v := nI 0) dX8_boy_1 ki_0 ?_
  refine w_iload_n dX8_boy_2 rfl ?_
  refine m_calli2 (mi := miX8_boyFrom) dX8_boy_3 q2217 okX8_boyFrom rfl (Nat.le_of_ble_eq_true rfl) (c_boyFrom E K (by first | assumption | omega) (by first | assumption | omega)) (Nat.le_of_ble_eq_true rfl) ?_
  refine w_istore_n dX8_boy_6 rfl (Nat.le_of_ble_eq_true rfl) ls_5_3 ?_
  refine w_iconst (v := nI 0) dX8_boy_7 ki_0 ?_
  refine w_istore dX8_boy_8 rfl (Nat.le_of_ble_eq_true rfl) ls_5_4 ?_
  have lp : ∀ (j9 : Nat) (i : Nat), k - i < j9 → i ≤ k → Wp g (mtM g miX8_boy 3 σ b (some (.int (nI (boyK V x k) - nI 1))) (S)) 0 0 10 [some (.ref b), some (.int (nI x)), some (.int (nI k)), some (.int (nI (boyK V x i) - nI 1)), some (.int (nI i))] [] (sM g σ b (S)) := by
    intro j9
    induction j9 with
    | zero => intro i hmu hi; exact absurd hmu (Nat.not_lt_zero _)
    | succ j9 ih_lp =>
      intro i hmu hi
      have hbl := boyK_le K x i
      refine w_iload dX8_boy_10 rfl ?_
      refine w_iload_n dX8_boy_12 rfl ?_
      refine w_icmpN_ge dX8_boy_13 rfl (by omega) (by omega) (fun h_13 => ?_) (fun h_13 => ?_)
      · obtain rfl : i = k := by omega
        refine w_iload_n dX8_boy_38 rfl ?_
        exact w_iret dX8_boy_39 rfl ⟨by rfl, by first | rfl | (simp only [bP, isT, bitN, inN, *, not_true_eq_false, not_false_eq_true, and_true, true_and, and_false, false_and, or_true, true_or, or_false, false_or, and_self, or_self, if_true, if_false, ite_true, ite_false]; done) | (simp [bP, isT, bitN, inN, *]; done) | (simp_all [bP, isT, bitN, inN]; done) | (repeat split) <;> first | rfl | contradiction | simp_all⟩
      · refine w_iload_n dX8_boy_16 rfl ?_
        refine w_iconst (v := (-1)) dX8_boy_17 ki_m1 ?_
        refine w_icmp_eq dX8_boy_18 rfl (fun h_18 => ?_) (fun h_18 => ?_)
        · have h_18 : boyK V x i = 0 := (m1_iff (by omega)).mp h_18
          have h0 := boyK_0 h_18 (k - i)
          rw [show i + (k - i) = k by omega] at h0
          refine w_iload_n dX8_boy_38 rfl ?_
          exact w_iret dX8_boy_39 rfl ⟨by rw [h_18, h0], by first | rfl | (simp only [bP, isT, bitN, inN, *, not_true_eq_false, not_false_eq_true, and_true, true_and, and_false, false_and, or_true, true_or, or_false, false_or, and_self, or_self, if_true, if_false, ite_true, ite_false]; done) | (simp [bP, isT, bitN, inN, *]; done) | (simp_all [bP, isT, bitN, inN]; done) | (repeat split) <;> first | rfl | contradiction | simp_all⟩
        · have h_18 : boyK V x i ≠ 0 := mt (m1_iff (by omega)).mpr h_18
          obtain ⟨r, hr⟩ : ∃ r, boyK V x i = r + 1 := ⟨boyK V x i - 1, by omega⟩
          rw [hr, nI_dn]
          refine w_aload_n dX8_boy_21 rfl ?_
          refine w_iload_n dX8_boy_22 rfl ?_
          refine w_iload_n dX8_boy_23 rfl ?_
          refine w_iaddN dX8_boy_24 ?_
          refine w_iconst (v := nI 1) dX8_boy_25 ki_1 ?_
          refine w_iaddN dX8_boy_26 ?_
          refine w_iload_n dX8_boy_27 rfl ?_
          refine m_calli2 (mi := miX8_boyFrom) dX8_boy_28 q2217 okX8_boyFrom rfl (Nat.le_of_ble_eq_true rfl) (c_boyFrom E K (by first | assumption | omega) (by first | assumption | omega)) (Nat.le_of_ble_eq_true rfl) ?_
          refine w_istore_n dX8_boy_31 rfl (Nat.le_of_ble_eq_true rfl) ls_5_3 ?_
          refine w_iinc dX8_boy_32 rfl (nI_inc _ 1) rfl (Nat.le_of_ble_eq_true rfl) ls_5_4 ?_
          refine w_goto dX8_boy_35 rfl ?_
          exact w_as (ih_lp (i + 1) (by omega) (by omega)) (by rw [show boyK V x (i + 1) = if boyK V x i = 0 then 0 else boyF V (boyK V x i + x) x from rfl, if_neg h_18, hr, show r + 1 + x = r + x + 1 by omega]) rfl rfl
  exact lp (k + 1) 0 (by omega) (by omega)
set_option maxHeartbeats 4000000 in
theorem c_boys {g : GG} {S : MS} {x : Int32} {V : VS} (E : Enc S V) (K : OkV V) : Mt g miX8_boys 4 [.int x] (S) (some (.int ((q_boys V x).1))) (sI S 2 (q_boys V x).2) := by
  refine Mt.start (fun b => [some (.ref b), some (.int x), none]) plX8 rfl (fun b => (Nat.le_of_ble_eq_true rfl)) (fun b => rfl) ?_
  intro σ b
  have kb := K.b
  refine w_iload_n dX8_boys_0 rfl ?_
  refine w_i2l dX8_boys_1 rfl ?_
  refine w_lconst (v := 0) dX8_boys_2 rfl ?_
  refine w_ldc2 dX8_boys_3 q1987 ?_
  refine s_calli3 (mi := miX8_isFrom) dX8_boys_6 q1902 okX8_isFrom (Nat.le_of_ble_eq_true rfl) (c_isFrom0 (m := 40) (by first | assumption | omega)) (Nat.le_of_ble_eq_true rfl) ?_
  refine w_ifB_ne dX8_boys_9 rfl (fun h_9 => ?_) (fun h_9 => ?_)
  · have hx_q := h_9
    obtain ⟨q, hq, rfl⟩ := inN_of h_9 (by omega)
    have hcl_q : cl (nI q) = q := nI_clamp (by omega)
    refine w_iconst (v := nI 0) dX8_boys_18 ki_0 ?_
    refine w_istore_n dX8_boys_19 rfl (Nat.le_of_ble_eq_true rfl) ls_3_2 ?_
    have lp : ∀ (j9 : Nat) (n : Nat), 8 - n < j9 → n ≤ 8 → cntF (fun n => boyK V q n ≠ 0) n (8 - n) = boysV V q → Wp g (mtM g miX8_boys 4 σ b (some (.int ((q_boys V (nI q)).1))) (sI S 2 (q_boys V (nI q)).2)) 0 0 20 [some (.ref b), some (.int (nI q)), some (.int (nI n))] [] (sM g σ b (S)) := by
      intro j9
      induction j9 with
      | zero => intro n hmu hn hc; exact absurd hmu (Nat.not_lt_zero _)
      | succ j9 ih_lp =>
        intro n hmu hn hc
        have hbl := boyK_le K q n
        refine w_iload_n dX8_boys_20 rfl ?_
        refine w_bipush (v := nI 8) dX8_boys_21 kb_8 ?_
        refine w_icmpN_ge dX8_boys_23 rfl (by omega) (by omega) (fun h_23 => ?_) (fun h_23 => ?_)
        · obtain rfl : n = 8 := by omega
          have hr : boysV V q = 8 := by rw [← hc]; rfl
          refine w_aload_n dX8_boys_42 rfl ?_
          refine w_iload_n dX8_boys_43 rfl ?_
          refine m_calli1 (mi := miX8_gives) dX8_boys_44 q1839 okX8_gives rfl (Nat.le_of_ble_eq_true rfl) c_gives (Nat.le_of_ble_eq_true rfl) ?_
          exact w_iret dX8_boys_47 rfl ⟨by first | (rw [q_boys, if_neg h_9]; rfl) | (rw [q_boys, if_pos hx_q, hcl_q, hr]; rfl), by first | (rw [q_boys, if_neg h_9]; rfl) | (rw [q_boys, if_pos hx_q, hcl_q, hr]; rfl)⟩
        · refine w_aload_n dX8_boys_26 rfl ?_
          refine w_iload_n dX8_boys_27 rfl ?_
          refine w_iload_n dX8_boys_28 rfl ?_
          refine m_calli2 (mi := miX8_boy) dX8_boys_29 q2213 okX8_boy rfl (Nat.le_of_ble_eq_true rfl) (c_boy E K (by first | assumption | omega) (by first | assumption | omega)) (Nat.le_of_ble_eq_true rfl) ?_
          refine w_iconst (v := (-1)) dX8_boys_32 ki_m1 ?_
          refine w_icmp_eq dX8_boys_33 rfl (fun h_33 => ?_) (fun h_33 => ?_)
          · have h_33 : boyK V q n = 0 := (m1_iff (by omega)).mp h_33
            have hr : boysV V q = n := by rw [← hc, show 8 - n = (8 - (n + 1)) + 1 by omega]; exact if_neg (fun z => z h_33)
            refine w_aload_n dX8_boys_42 rfl ?_
            refine w_iload_n dX8_boys_43 rfl ?_
            refine m_calli1 (mi := miX8_gives) dX8_boys_44 q1839 okX8_gives rfl (Nat.le_of_ble_eq_true rfl) c_gives (Nat.le_of_ble_eq_true rfl) ?_
            exact w_iret dX8_boys_47 rfl ⟨by first | (rw [q_boys, if_neg h_9]; rfl) | (rw [q_boys, if_pos hx_q, hcl_q, hr]; rfl), by first | (rw [q_boys, if_neg h_9]; rfl) | (rw [q_boys, if_pos hx_q, hcl_q, hr]; rfl)⟩
          · have h_33 : boyK V q n ≠ 0 := mt (m1_iff (by omega)).mpr h_33
            refine w_iinc dX8_boys_36 rfl (nI_inc _ 1) rfl (Nat.le_of_ble_eq_true rfl) ls_3_2 ?_
            refine w_goto dX8_boys_39 rfl ?_
            exact ih_lp (n + 1) (by omega) (by omega) (by rw [← hc, show 8 - n = (8 - (n + 1)) + 1 by omega]; exact (if_pos h_33).symm)
    exact lp 9 0 (by omega) (by omega) rfl
  · refine w_aload_n dX8_boys_12 rfl ?_
    refine w_iconst (v := nI 1) dX8_boys_13 ki_1 ?_
    refine m_calli1 (mi := miX8_refuse) dX8_boys_14 q1746 okX8_refuse rfl (Nat.le_of_ble_eq_true rfl) c_refuse (Nat.le_of_ble_eq_true rfl) ?_
    exact w_iret dX8_boys_17 rfl ⟨by first | (rw [q_boys, if_neg h_9]; rfl) | (rw [q_boys, if_pos hx_q, hcl_q, hr]; rfl), by first | (rw [q_boys, if_neg h_9]; rfl) | (rw [q_boys, if_pos hx_q, hcl_q, hr]; rfl)⟩
set_option maxHeartbeats 4000000 in
theorem c_boyAt {g : GG} {S : MS} {x : Int32} {y : Int32} {V : VS} (E : Enc S V) (K : OkV V) : Mt g miX8_boyAt 4 [.int x, .int y] (S) (some (.int ((q_boyAt V x y).1))) (sI S 2 (q_boyAt V x y).2) := by
  refine Mt.start (fun b => [some (.ref b), some (.int x), some (.int y)]) plX8 rfl (fun b => (Nat.le_of_ble_eq_true rfl)) (fun b => rfl) ?_
  intro σ b
  have kb := K.b
  refine w_iload_n dX8_boyAt_0 rfl ?_
  refine w_i2l dX8_boyAt_1 rfl ?_
  refine w_lconst (v := 0) dX8_boyAt_2 rfl ?_
  refine w_ldc2 dX8_boyAt_3 q1987 ?_
  refine s_calli3 (mi := miX8_isFrom) dX8_boyAt_6 q1902 okX8_isFrom (Nat.le_of_ble_eq_true rfl) (c_isFrom0 (m := 40) (by first | assumption | omega)) (Nat.le_of_ble_eq_true rfl) ?_
  refine w_ifB_ne dX8_boyAt_9 rfl (fun h_9 => ?_) (fun h_9 => ?_)
  · have hx_q := h_9
    obtain ⟨q, hq, rfl⟩ := inN_of h_9 (by omega)
    have hcl_q : cl (nI q) = q := nI_clamp (by omega)
    refine w_iload_n dX8_boyAt_18 rfl ?_
    refine w_if_lt dX8_boyAt_19 rfl (fun h_19 => ?_) (fun h_19 => ?_)
    · have hno : ¬ inN y 9 := out_lt h_19
      refine w_aload_n dX8_boyAt_28 rfl ?_
      refine w_bipush (v := nI 6) dX8_boyAt_29 kb_6 ?_
      refine m_calli1 (mi := miX8_refuse) dX8_boyAt_31 q1746 okX8_refuse rfl (Nat.le_of_ble_eq_true rfl) c_refuse (Nat.le_of_ble_eq_true rfl) ?_
      refine w_goto dX8_boyAt_34 rfl ?_
      exact w_iret dX8_boyAt_47 rfl ⟨by first | (rw [q_boyAt, if_neg h_9]; rfl) | (rw [q_boyAt, if_pos hx_q, if_neg hno]; rfl) | (rw [q_boyAt, if_pos hx_q, hcl_q, if_pos hx_r, hcl_r]; rfl), by first | (rw [q_boyAt, if_neg h_9]; rfl) | (rw [q_boyAt, if_pos hx_q, if_neg hno]; rfl) | (rw [q_boyAt, if_pos hx_q, hcl_q, if_pos hx_r, hcl_r, orA_2 (by have := boyK_le K q r; omega)])⟩
    · refine w_iload_n dX8_boyAt_22 rfl ?_
      refine w_bipush (v := nI 8) dX8_boyAt_23 kb_8 ?_
      refine w_icmp_le dX8_boyAt_25 rfl (fun h_25 => ?_) (fun h_25 => ?_)
      · obtain ⟨r, hf_r, rfl⟩ := inN_of (in_le h_19 h_25 (by omega)) (by omega)
        have hcl_r : cl (nI r) = r := nI_clamp (by omega)
        have hx_r : inN (nI r) 9 := inN_nI hf_r (by omega)
        refine w_aload_n dX8_boyAt_37 rfl ?_
        refine w_aload_n dX8_boyAt_38 rfl ?_
        refine w_iload_n dX8_boyAt_39 rfl ?_
        refine w_iload_n dX8_boyAt_40 rfl ?_
        refine m_calli2 (mi := miX8_boy) dX8_boyAt_41 q2213 okX8_boy rfl (Nat.le_of_ble_eq_true rfl) (c_boy E K (by first | assumption | omega) (by first | assumption | omega)) (Nat.le_of_ble_eq_true rfl) ?_
        refine m_calli1 (mi := miX8_orNone) dX8_boyAt_44 q2035 okX8_orNone rfl (Nat.le_of_ble_eq_true rfl) c_orNone (Nat.le_of_ble_eq_true rfl) ?_
        exact w_iret dX8_boyAt_47 rfl ⟨by first | (rw [q_boyAt, if_neg h_9]; rfl) | (rw [q_boyAt, if_pos hx_q, if_neg hno]; rfl) | (rw [q_boyAt, if_pos hx_q, hcl_q, if_pos hx_r, hcl_r]; rfl), by first | (rw [q_boyAt, if_neg h_9]; rfl) | (rw [q_boyAt, if_pos hx_q, if_neg hno]; rfl) | (rw [q_boyAt, if_pos hx_q, hcl_q, if_pos hx_r, hcl_r, orA_2 (by have := boyK_le K q r; omega)])⟩
      · have hno := out_gt (Int32.not_le.mp h_25) (by omega)
        refine w_aload_n dX8_boyAt_28 rfl ?_
        refine w_bipush (v := nI 6) dX8_boyAt_29 kb_6 ?_
        refine m_calli1 (mi := miX8_refuse) dX8_boyAt_31 q1746 okX8_refuse rfl (Nat.le_of_ble_eq_true rfl) c_refuse (Nat.le_of_ble_eq_true rfl) ?_
        refine w_goto dX8_boyAt_34 rfl ?_
        exact w_iret dX8_boyAt_47 rfl ⟨by first | (rw [q_boyAt, if_neg h_9]; rfl) | (rw [q_boyAt, if_pos hx_q, if_neg hno]; rfl) | (rw [q_boyAt, if_pos hx_q, hcl_q, if_pos hx_r, hcl_r]; rfl), by first | (rw [q_boyAt, if_neg h_9]; rfl) | (rw [q_boyAt, if_pos hx_q, if_neg hno]; rfl) | (rw [q_boyAt, if_pos hx_q, hcl_q, if_pos hx_r, hcl_r, orA_2 (by have := boyK_le K q r; omega)])⟩
  · refine w_aload_n dX8_boyAt_12 rfl ?_
    refine w_iconst (v := nI 1) dX8_boyAt_13 ki_1 ?_
    refine m_calli1 (mi := miX8_refuse) dX8_boyAt_14 q1746 okX8_refuse rfl (Nat.le_of_ble_eq_true rfl) c_refuse (Nat.le_of_ble_eq_true rfl) ?_
    exact w_iret dX8_boyAt_17 rfl ⟨by first | (rw [q_boyAt, if_neg h_9]; rfl) | (rw [q_boyAt, if_pos hx_q, if_neg hno]; rfl) | (rw [q_boyAt, if_pos hx_q, hcl_q, if_pos hx_r, hcl_r]; rfl), by first | (rw [q_boyAt, if_neg h_9]; rfl) | (rw [q_boyAt, if_pos hx_q, if_neg hno]; rfl) | (rw [q_boyAt, if_pos hx_q, hcl_q, if_pos hx_r, hcl_r, orA_2 (by have := boyK_le K q r; omega)])⟩
