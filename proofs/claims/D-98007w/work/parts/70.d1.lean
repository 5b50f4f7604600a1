set_option maxRecDepth 100000
theorem shareN {V : VS} {f d : Nat} (h : ¬ isT V d) : shareV V f d = 0 := by
  unfold shareV setV
  rw [if_neg h]
  simp
theorem shareO {V : VS} {f d : Nat} (h : isT V d) (hb : ¬ bitN (ownersV V d) f) : shareV V f d = 0 := by
  unfold shareV setV
  rw [if_pos h]
  rcases and1_01 (ownersV V d >>> f) with z | z
  · rw [if_pos z]
  · exact absurd z hb
theorem shareY {V : VS} {f d : Nat} (h : isT V d) (hb : bitN (ownersV V d) f) : shareV V f d = vt V 6 d / pcnt (ownersV V d) := by
  unfold shareV setV
  rw [if_pos h, if_neg (by unfold bitN at hb; omega)]
theorem behK_top {V : VS} (K : OkV V) (f : Nat) {d : Nat} (hd : d < 8) : ∀ n t, (∀ k, k < n → vp V 1 d k ≤ t) → behK V f d n ≤ t + 1
  | 0, t, _ => Nat.zero_le _
  | n + 1, t, h => by
    have h1 := behK_top K f hd n t (fun k hk => h k (by omega))
    have h2 := h n (by omega)
    rw [behK_s]
    split <;> omega
theorem oth_beh {V : VS} (K : OkV V) (f : Nat) {d : Nat} (hd : d < 8) : ∀ n, n ≤ vt V 7 d → othG (vp V 0 d) (vp V 1 d) f n = behK V f d n
  | 0, _ => rfl
  | n + 1, h => by
    rw [behK_s, othG]
    split
    · exact oth_beh K f hd n (by omega)
    · have := behK_top K f hd n (vp V 1 d n) (fun k hk => K.so hd (by omega) (by omega))
      omega
theorem sub_add1 (a : Nat) : nI a - nI 1 + nI 1 = nI a := Int32.sub_add_cancel (nI a) (nI 1)
set_option maxHeartbeats 4000000 in
theorem kX5_isThere {g : GG} {C : CS} {j : Nat} {V : VS} {q : Nat → Nat} {d : Nat} (hj : oO C j = true) (E : EncD g C j V q) (K : OkV V) (hd8 : d < 8) : Cr g miX5_isThere 1 [.ref (od C 3 j), .int (nI d)] C (some (.int (bP (isT V d)))) := by
  refine Cr.start [some (.ref (od C 3 j)), some (.int (nI d))] plX5 rfl (Nat.le_of_ble_eq_true rfl) rfl ?_
  intro σ H
  have kb := K.b
  refine w_aload_n dX5_isThere_0 rfl ?_
  refine gX5_49 (C := C) dX5_isThere_1 rfl hj H ?_
  refine w_topN (E.th) ?_
  refine w_iload_n dX5_isThere_4 rfl ?_
  refine w_ishrN dX5_isThere_5 (by omega) (by omega) ?_
  refine w_iconst (v := nI 1) dX5_isThere_6 ki_1 ?_
  refine w_iandN dX5_isThere_7 ?_
  refine w_iconst (v := nI 1) dX5_isThere_8 ki_1 ?_
  refine w_icmpN_ne dX5_isThere_9 rfl (and1_lt _) (by omega) (fun h_9 => ?_) (fun h_9 => ?_)
  · refine w_iconst (v := nI 0) dX5_isThere_16 ki_0 ?_
    exact w_zret dX5_isThere_17 rfl (by first | exact narr0 | exact narr1) ⟨by first | rfl | (simp only [bP, isT, bitN, inN, *, not_true_eq_false, not_false_eq_true, and_true, true_and, and_false, false_and, or_true, true_or, or_false, false_or, and_self, or_self, if_true, if_false, ite_true, ite_false]; done) | (simp [bP, isT, bitN, inN, *]; done) | (simp_all [bP, isT, bitN, inN]; done) | (repeat split) <;> first | rfl | contradiction | simp_all, rfl⟩
  · refine w_iconst (v := nI 1) dX5_isThere_12 ki_1 ?_
    refine w_goto dX5_isThere_13 rfl ?_
    exact w_zret dX5_isThere_17 rfl (by first | exact narr0 | exact narr1) ⟨by first | rfl | (simp only [bP, isT, bitN, inN, *, not_true_eq_false, not_false_eq_true, and_true, true_and, and_false, false_and, or_true, true_or, or_false, false_or, and_self, or_self, if_true, if_false, ite_true, ite_false]; done) | (simp [bP, isT, bitN, inN, *]; done) | (simp_all [bP, isT, bitN, inN]; done) | (repeat split) <;> first | rfl | contradiction | simp_all, rfl⟩
set_option maxHeartbeats 4000000 in
theorem kX5_pebbles {g : GG} {C : CS} {j : Nat} {V : VS} {q : Nat → Nat} (hj : oO C j = true) (E : EncD g C j V q) (K : OkV V) : Cr g miX5_pebbles 1 [.ref (od C 3 j)] C (some (.int (nI (vs V 8)))) := by
  refine Cr.start [some (.ref (od C 3 j)), none, none] plX5 rfl (Nat.le_of_ble_eq_true rfl) rfl ?_
  intro σ H
  have kb := K.b
  refine w_iconst (v := nI 0) dX5_pebbles_0 ki_0 ?_
  refine w_istore_n dX5_pebbles_1 rfl (Nat.le_of_ble_eq_true rfl) ls_3_1 ?_
  refine w_iconst (v := nI 0) dX5_pebbles_2 ki_0 ?_
  refine w_istore_n dX5_pebbles_3 rfl (Nat.le_of_ble_eq_true rfl) ls_3_2 ?_
  have lp : ∀ (j9 : Nat) (k : Nat), 8 - k < j9 → k ≤ 8 → Wp g (mtR g miX5_pebbles 1 σ (some (.int (nI (vs V 8))))) 0 0 4 [some (.ref (od C 3 j)), some (.int (nI (foldN (fun d c => c + vt V 7 d) 0 k))), some (.int (nI k))] [] σ := by
    intro j9
    induction j9 with
    | zero => intro k hmu hk; exact absurd hmu (Nat.not_lt_zero _)
    | succ j9 ih_lp =>
      intro k hmu hk
      refine w_iload_n dX5_pebbles_4 rfl ?_
      refine w_bipush (v := nI 8) dX5_pebbles_5 kb_8 ?_
      refine w_icmpN_ge dX5_pebbles_7 rfl (by omega) (by omega) (fun h_7 => ?_) (fun h_7 => ?_)
      · have hk8 : k = 8 := by omega
        refine w_iload_n dX5_pebbles_28 rfl ?_
        exact w_iret dX5_pebbles_29 rfl ⟨by rw [hk8, ← K.s8], rfl⟩
      · refine w_iload_n dX5_pebbles_10 rfl ?_
        refine w_aload_n dX5_pebbles_11 rfl ?_
        refine gX5_33 (C := C) dX5_pebbles_12 rfl hj H ?_
        refine w_iload_n dX5_pebbles_15 rfl ?_
        refine ga_heaps (C := C) dX5_pebbles_16 hj (by omega) H ?_
        refine gX5_54 (C := C) dX5_pebbles_17 rfl (on8 hj (by omega)) H ?_
        refine w_topN (E.h (d := k) (by omega)).sz ?_
        refine w_iaddN dX5_pebbles_20 ?_
        refine w_istore_n dX5_pebbles_21 rfl (Nat.le_of_ble_eq_true rfl) ls_3_1 ?_
        refine w_iinc dX5_pebbles_22 rfl (nI_inc _ 1) rfl (Nat.le_of_ble_eq_true rfl) ls_3_2 ?_
        refine w_goto dX5_pebbles_25 rfl ?_
        exact ih_lp (k + 1) (by omega) (by omega)
  exact lp 9 0 (by omega) (by omega)
set_option maxHeartbeats 4000000 in
theorem kX5_arrives {g : GG} {C : CS} {j : Nat} {V : VS} {q : Nat → Nat} {f : Nat} {m : Nat} (hj : oO C j = true) (E : EncD g C j V q) (K : OkV V) (hf : f < vs V 1) (hm : m < 40) : Cr g miX5_arrives 1 [.ref (od C 3 j), .int (nI f), .int (nI m)] C (some (.int (nI (vt V 3 f + stepsV V f m)))) := by
  refine Cr.start [some (.ref (od C 3 j)), some (.int (nI f)), some (.int (nI m))] plX5 rfl (Nat.le_of_ble_eq_true rfl) rfl ?_
  intro σ H
  have kb := K.b
  have kf_f := K.f hf
  refine w_aload_n dX5_arrives_0 rfl ?_
  refine gX5_25 (C := C) dX5_arrives_1 rfl hj H ?_
  refine w_iload_n dX5_arrives_4 rfl ?_
  refine da_13 (C := C) dX5_arrives_5 hj E (by omega) H ?_
  refine w_aload_n dX5_arrives_6 rfl ?_
  refine gX5_12 (C := C) dX5_arrives_7 rfl hj H ?_
  refine gX5_83 (C := C) dX5_arrives_10 rfl E H ?_
  refine w_iload_n dX5_arrives_13 rfl ?_
  refine ba_10 (C := C) dX5_arrives_14 E K (by omega) H ?_
  refine w_iload_n dX5_arrives_15 rfl ?_
  refine w_aload_n dX5_arrives_16 rfl ?_
  refine gX5_18 (C := C) dX5_arrives_17 rfl hj H ?_
  refine w_iload_n dX5_arrives_20 rfl ?_
  refine da_11 (C := C) dX5_arrives_21 hj E (by omega) H ?_
  refine w_isub dX5_arrives_22 ?_
  refine w_mabs dX5_arrives_23 q1057 q1058 q155 q1059 (Nat.le_of_ble_eq_true rfl) (Nat.le_of_ble_eq_true rfl) ?_
  refine w_topN (abs_n (by omega) (by omega)) ?_
  refine w_imulN dX5_arrives_26 ?_
  refine w_iaddN dX5_arrives_27 ?_
  exact w_iret dX5_arrives_28 rfl ⟨by rw [nabs_comm]; rfl, rfl⟩
set_option maxHeartbeats 4000000 in
theorem kX5_isAt {g : GG} {C : CS} {j : Nat} {V : VS} {q : Nat → Nat} {f : Nat} {d : Nat} (hj : oO C j = true) (E : EncD g C j V q) (K : OkV V) (hf : f < vs V 1) (hd : d < vs V 2) : Cr g miX5_isAt 2 [.ref (od C 3 j), .int (nI f), .int (nI d)] C (some (.int (bP (isT V d ∧ vt V 0 f = vt V 5 d)))) := by
  refine Cr.start [some (.ref (od C 3 j)), some (.int (nI f)), some (.int (nI d))] plX5 rfl (Nat.le_of_ble_eq_true rfl) rfl ?_
  intro σ H
  have kb := K.b
  have kf_f := K.f hf
  have kd_d := K.d hd
  have kn_d := K.n (d := d) (by omega)
  refine w_aload_n dX5_isAt_0 rfl ?_
  refine w_iload_n dX5_isAt_1 rfl ?_
  refine cr_call (mi := miX5_isThere) dX5_isAt_2 q1081 okX5_isThere clX5 rfl (H.get (ce_day hj)) (Nat.le_of_ble_eq_true rfl) (kX5_isThere (C := C) hj E K (by first | assumption | omega)) H rfl rfl (Nat.le_of_ble_eq_true rfl) ?_
  refine w_ifB_eq dX5_isAt_5 rfl (fun h_5 => ?_) (fun h_5 => ?_)
  · refine w_iconst (v := nI 0) dX5_isAt_30 ki_0 ?_
    exact w_zret dX5_isAt_31 rfl (by first | exact narr0 | exact narr1) ⟨by first | rfl | (simp only [bP, isT, bitN, inN, *, not_true_eq_false, not_false_eq_true, and_true, true_and, and_false, false_and, or_true, true_or, or_false, false_or, and_self, or_self, if_true, if_false, ite_true, ite_false]; done) | (simp [bP, isT, bitN, inN, *]; done) | (simp_all [bP, isT, bitN, inN]; done) | (repeat split) <;> first | rfl | contradiction | simp_all, rfl⟩
  · refine w_aload_n dX5_isAt_8 rfl ?_
    refine gX5_18 (C := C) dX5_isAt_9 rfl hj H ?_
    refine w_iload_n dX5_isAt_12 rfl ?_
    refine da_11 (C := C) dX5_isAt_13 hj E (by omega) H ?_
    refine w_aload_n dX5_isAt_14 rfl ?_
    refine gX5_12 (C := C) dX5_isAt_15 rfl hj H ?_
    refine gX5_100 (C := C) dX5_isAt_18 rfl E H ?_
    refine w_iload_n dX5_isAt_21 rfl ?_
    refine ba_12 (C := C) dX5_isAt_22 E K (by omega) H ?_
    refine w_icmpN_ne dX5_isAt_23 rfl (by omega) (by omega) (fun h_23 => ?_) (fun h_23 => ?_)
    · refine w_iconst (v := nI 0) dX5_isAt_30 ki_0 ?_
      exact w_zret dX5_isAt_31 rfl (by first | exact narr0 | exact narr1) ⟨by first | rfl | (simp only [bP, isT, bitN, inN, *, not_true_eq_false, not_false_eq_true, and_true, true_and, and_false, false_and, or_true, true_or, or_false, false_or, and_self, or_self, if_true, if_false, ite_true, ite_false]; done) | (simp [bP, isT, bitN, inN, *]; done) | (simp_all [bP, isT, bitN, inN]; done) | (repeat split) <;> first | rfl | contradiction | simp_all, rfl⟩
    · refine w_iconst (v := nI 1) dX5_isAt_26 ki_1 ?_
      refine w_goto dX5_isAt_27 rfl ?_
      exact w_zret dX5_isAt_31 rfl (by first | exact narr0 | exact narr1) ⟨by first | rfl | (simp only [bP, isT, bitN, inN, *, not_true_eq_false, not_false_eq_true, and_true, true_and, and_false, false_and, or_true, true_or, or_false, false_or, and_self, or_self, if_true, if_false, ite_true, ite_false]; done) | (simp [bP, isT, bitN, inN, *]; done) | (simp_all [bP, isT, bitN, inN]; done) | (repeat split) <;> first | rfl | contradiction | simp_all, rfl⟩
set_option maxHeartbeats 4000000 in
theorem kX5_canGull {g : GG} {C : CS} {j : Nat} {V : VS} {q : Nat → Nat} {d : Nat} {e : Nat} (hj : oO C j = true) (E : EncD g C j V q) (K : OkV V) (hd : d < vs V 2) (he : e < vs V 2) : Cr g miX5_canGull 2 [.ref (od C 3 j), .int (nI d), .int (nI e)] C (some (.int (bP (d ≠ e ∧ isT V d ∧ isT V e ∧ 0 < vt V 7 d)))) := by
  refine Cr.start [some (.ref (od C 3 j)), some (.int (nI d)), some (.int (nI e))] plX5 rfl (Nat.le_of_ble_eq_true rfl) rfl ?_
  intro σ H
  have kb := K.b
  have kd_d := K.d hd
  have kn_d := K.n (d := d) (by omega)
  have kd_e := K.d he
  have kn_e := K.n (d := e) (by omega)
  refine w_iload_n dX5_canGull_0 rfl ?_
  refine w_iload_n dX5_canGull_1 rfl ?_
  refine w_icmpN_eq dX5_canGull_2 rfl (by omega) (by omega) (fun h_2 => ?_) (fun h_2 => ?_)
  · refine w_iconst (v := nI 0) dX5_canGull_37 ki_0 ?_
    exact w_zret dX5_canGull_38 rfl (by first | exact narr0 | exact narr1) ⟨by first | rfl | (exact congrArg (fun z => some (Value.int z)) (bP_t ⟨by assumption, by assumption, by assumption, by omega⟩).symm) | (exact congrArg (fun z => some (Value.int z)) (bP_f (fun z => by first | exact absurd z.1 (by assumption) | exact absurd z.2.1 (by assumption) | exact absurd z.2.2.1 (by assumption) | (have := z.2.2.2; omega))).symm) | (exact congrArg (fun z => some (Value.int z)) (bP_f (fun z => z.1 (by assumption))).symm), rfl⟩
  · refine w_aload_n dX5_canGull_5 rfl ?_
    refine w_iload_n dX5_canGull_6 rfl ?_
    refine cr_call (mi := miX5_isThere) dX5_canGull_7 q1081 okX5_isThere clX5 rfl (H.get (ce_day hj)) (Nat.le_of_ble_eq_true rfl) (kX5_isThere (C := C) hj E K (by first | assumption | omega)) H rfl rfl (Nat.le_of_ble_eq_true rfl) ?_
    refine w_ifB_eq dX5_canGull_10 rfl (fun h_10 => ?_) (fun h_10 => ?_)
    · refine w_iconst (v := nI 0) dX5_canGull_37 ki_0 ?_
      exact w_zret dX5_canGull_38 rfl (by first | exact narr0 | exact narr1) ⟨by first | rfl | (exact congrArg (fun z => some (Value.int z)) (bP_t ⟨by assumption, by assumption, by assumption, by omega⟩).symm) | (exact congrArg (fun z => some (Value.int z)) (bP_f (fun z => by first | exact absurd z.1 (by assumption) | exact absurd z.2.1 (by assumption) | exact absurd z.2.2.1 (by assumption) | (have := z.2.2.2; omega))).symm) | (exact congrArg (fun z => some (Value.int z)) (bP_f (fun z => z.1 (by assumption))).symm), rfl⟩
    · refine w_aload_n dX5_canGull_13 rfl ?_
      refine w_iload_n dX5_canGull_14 rfl ?_
      refine cr_call (mi := miX5_isThere) dX5_canGull_15 q1081 okX5_isThere clX5 rfl (H.get (ce_day hj)) (Nat.le_of_ble_eq_true rfl) (kX5_isThere (C := C) hj E K (by first | assumption | omega)) H rfl rfl (Nat.le_of_ble_eq_true rfl) ?_
      refine w_ifB_eq dX5_canGull_18 rfl (fun h_18 => ?_) (fun h_18 => ?_)
      · refine w_iconst (v := nI 0) dX5_canGull_37 ki_0 ?_
        exact w_zret dX5_canGull_38 rfl (by first | exact narr0 | exact narr1) ⟨by first | rfl | (exact congrArg (fun z => some (Value.int z)) (bP_t ⟨by assumption, by assumption, by assumption, by omega⟩).symm) | (exact congrArg (fun z => some (Value.int z)) (bP_f (fun z => by first | exact absurd z.1 (by assumption) | exact absurd z.2.1 (by assumption) | exact absurd z.2.2.1 (by assumption) | (have := z.2.2.2; omega))).symm) | (exact congrArg (fun z => some (Value.int z)) (bP_f (fun z => z.1 (by assumption))).symm), rfl⟩
      · refine w_aload_n dX5_canGull_21 rfl ?_
        refine gX5_33 (C := C) dX5_canGull_22 rfl hj H ?_
        refine w_iload_n dX5_canGull_25 rfl ?_
        refine ga_heaps (C := C) dX5_canGull_26 hj (by omega) H ?_
        refine gX5_54 (C := C) dX5_canGull_27 rfl (on8 hj (by omega)) H ?_
        refine w_topN (E.h (d := d) (by omega)).sz ?_
        refine w_ifN_le dX5_canGull_30 rfl (by omega) (fun h_30 => ?_) (fun h_30 => ?_)
        · refine w_iconst (v := nI 0) dX5_canGull_37 ki_0 ?_
          exact w_zret dX5_canGull_38 rfl (by first | exact narr0 | exact narr1) ⟨by first | rfl | (exact congrArg (fun z => some (Value.int z)) (bP_t ⟨by assumption, by assumption, by assumption, by omega⟩).symm) | (exact congrArg (fun z => some (Value.int z)) (bP_f (fun z => by first | exact absurd z.1 (by assumption) | exact absurd z.2.1 (by assumption) | exact absurd z.2.2.1 (by assumption) | (have := z.2.2.2; omega))).symm) | (exact congrArg (fun z => some (Value.int z)) (bP_f (fun z => z.1 (by assumption))).symm), rfl⟩
        · refine w_iconst (v := nI 1) dX5_canGull_33 ki_1 ?_
          refine w_goto dX5_canGull_34 rfl ?_
          exact w_zret dX5_canGull_38 rfl (by first | exact narr0 | exact narr1) ⟨by first | rfl | (exact congrArg (fun z => some (Value.int z)) (bP_t ⟨by assumption, by assumption, by assumption, by omega⟩).symm) | (exact congrArg (fun z => some (Value.int z)) (bP_f (fun z => by first | exact absurd z.1 (by assumption) | exact absurd z.2.1 (by assumption) | exact absurd z.2.2.1 (by assumption) | (have := z.2.2.2; omega))).symm) | (exact congrArg (fun z => some (Value.int z)) (bP_f (fun z => z.1 (by assumption))).symm), rfl⟩
set_option maxHeartbeats 4000000 in
theorem kX5_whose {g : GG} {C : CS} {j : Nat} {V : VS} {q : Nat → Nat} {d : Nat} (hj : oO C j = true) (E : EncD g C j V q) (K : OkV V) (hd8 : d < 8) : Cr g miX5_whose 3 [.ref (od C 3 j), .int (nI d)] C (some (.int (nI (ownersV V d)))) := by
  refine Cr.start [some (.ref (od C 3 j)), some (.int (nI d)), none] plX5 rfl (Nat.le_of_ble_eq_true rfl) rfl ?_
  intro σ H
  have kb := K.b
  have hl := lastV_lt K hd8
  have hpc := pcnt_le _ hl
  have h00 : pcnt 0 = 0 := rfl
  refine w_aload_n dX5_whose_0 rfl ?_
  refine gX5_33 (C := C) dX5_whose_1 rfl hj H ?_
  refine w_iload_n dX5_whose_4 rfl ?_
  refine ga_heaps (C := C) dX5_whose_5 hj (by omega) H ?_
  refine cr_call (mi := miX7_last) dX5_whose_6 q1143 okX7_last clX7 rfl (H.get (ce_heap (on8 hj (by omega)))) (Nat.le_of_ble_eq_true rfl) (kX7_last (C := C) (on8 hj (by omega)) (E.h (d := d) (by omega)) (by intro k9 hk9; have h9 := (K.p (d := d) (by omega) hk9).1; omega) (by intro k9 hk9; have h9 := (K.p (d := d) (by omega) hk9).2; omega)) H rfl rfl (Nat.le_of_ble_eq_true rfl) ?_
  refine w_topN (show _ = nI (lastV V d) from rfl) ?_
  refine w_istore_n dX5_whose_9 rfl (Nat.le_of_ble_eq_true rfl) ls_3_2 ?_
  refine w_iload_n dX5_whose_10 rfl ?_
  refine cs_call (mi := miJ11_bitCount) dX5_whose_11 q1147 okJ11_bitCount (Nat.le_of_ble_eq_true rfl) (kInt_bitCount (by first | assumption | omega)) rfl rfl (Nat.le_of_ble_eq_true rfl) ?_
  refine w_iconst (v := nI 2) dX5_whose_14 ki_2 ?_
  refine w_icmpN_lt dX5_whose_15 rfl (by omega) (by omega) (fun h_15 => ?_) (fun h_15 => ?_)
  · refine w_iload_n dX5_whose_29 rfl ?_
    exact w_iret dX5_whose_30 rfl ⟨by first | (rw [ownersV, if_pos (by omega)]; done) | (rw [ownersV, if_neg (by omega), if_pos (by omega)]; done) | (rw [ownersV, if_neg (by omega), if_neg (by omega), if_pos (by omega)]; done) | (rw [ownersV, if_neg (by omega), if_neg (by omega), if_neg (by omega)]; done), rfl⟩
  · have h0 : 0 < lastV V d := by rcases Nat.eq_zero_or_pos (lastV V d) with z | z; rw [z] at h_15; omega; exact z
    refine w_aload_n dX5_whose_18 rfl ?_
    refine gX5_12 (C := C) dX5_whose_19 rfl hj H ?_
    refine gX5_123 (C := C) dX5_whose_22 rfl E H ?_
    refine w_iconst (v := nI 3) dX5_whose_25 ki_3 ?_
    refine w_icmpN_ne dX5_whose_26 rfl (by omega) (by omega) (fun h_26 => ?_) (fun h_26 => ?_)
    · refine w_aload_n dX5_whose_31 rfl ?_
      refine gX5_12 (C := C) dX5_whose_32 rfl hj H ?_
      refine gX5_123 (C := C) dX5_whose_35 rfl E H ?_
      refine w_ifN_ne dX5_whose_38 rfl (by omega) (fun h_38 => ?_) (fun h_38 => ?_)
      · refine w_aload_n dX5_whose_45 rfl ?_
        refine gX5_12 (C := C) dX5_whose_46 rfl hj H ?_
        refine gX5_123 (C := C) dX5_whose_49 rfl E H ?_
        refine w_iconst (v := nI 1) dX5_whose_52 ki_1 ?_
        refine w_icmpN_ne dX5_whose_53 rfl (by omega) (by omega) (fun h_53 => ?_) (fun h_53 => ?_)
        · refine w_iload_n dX5_whose_63 rfl ?_
          refine cs_call (mi := miJ11_highestOneBit) dX5_whose_64 q1156 okJ11_highestOneBit (Nat.le_of_ble_eq_true rfl) (kInt_highestOneBit (by first | assumption | omega) h0) rfl rfl (Nat.le_of_ble_eq_true rfl) ?_
          exact w_iret dX5_whose_67 rfl ⟨by first | (rw [ownersV, if_pos (by omega)]; done) | (rw [ownersV, if_neg (by omega), if_pos (by omega)]; done) | (rw [ownersV, if_neg (by omega), if_neg (by omega), if_pos (by omega)]; done) | (rw [ownersV, if_neg (by omega), if_neg (by omega), if_neg (by omega)]; done), rfl⟩
        · refine w_iload_n dX5_whose_56 rfl ?_
          refine cs_call (mi := miJ11_lowestOneBit) dX5_whose_57 q1153 okJ11_lowestOneBit (Nat.le_of_ble_eq_true rfl) (kInt_lowestOneBit (by first | assumption | omega) h0) rfl rfl (Nat.le_of_ble_eq_true rfl) ?_
          refine w_goto dX5_whose_60 rfl ?_
          exact w_iret dX5_whose_67 rfl ⟨by first | (rw [ownersV, if_pos (by omega)]; done) | (rw [ownersV, if_neg (by omega), if_pos (by omega)]; done) | (rw [ownersV, if_neg (by omega), if_neg (by omega), if_pos (by omega)]; done) | (rw [ownersV, if_neg (by omega), if_neg (by omega), if_neg (by omega)]; done), rfl⟩
      · refine w_iconst (v := nI 0) dX5_whose_41 ki_0 ?_
        refine w_goto dX5_whose_42 rfl ?_
        exact w_iret dX5_whose_67 rfl ⟨by first | (rw [ownersV, if_pos (by omega)]; done) | (rw [ownersV, if_neg (by omega), if_pos (by omega)]; done) | (rw [ownersV, if_neg (by omega), if_neg (by omega), if_pos (by omega)]; done) | (rw [ownersV, if_neg (by omega), if_neg (by omega), if_neg (by omega)]; done), rfl⟩
    · refine w_iload_n dX5_whose_29 rfl ?_
      exact w_iret dX5_whose_30 rfl ⟨by first | (rw [ownersV, if_pos (by omega)]; done) | (rw [ownersV, if_neg (by omega), if_pos (by omega)]; done) | (rw [ownersV, if_neg (by omega), if_neg (by omega), if_pos (by omega)]; done) | (rw [ownersV, if_neg (by omega), if_neg (by omega), if_neg (by omega)]; done), rfl⟩
set_option maxHeartbeats 4000000 in
theorem kX5_leads {g : GG} {C : CS} {j : Nat} {V : VS} {q : Nat → Nat} {f : Nat} (hj : oO C j = true) (E : EncD g C j V q) (K : OkV V) (hf6 : f < 6) : Cr g miX5_leads 4 [.ref (od C 3 j), .int (nI f)] C (some (.int (nI (leadV V f)))) := by
  refine Cr.start [some (.ref (od C 3 j)), some (.int (nI f)), none, none, none] plX5 rfl (Nat.le_of_ble_eq_true rfl) rfl ?_
  intro σ H
  have kb := K.b
  refine w_iconst (v := nI 0) dX5_leads_0 ki_0 ?_
  refine w_istore_n dX5_leads_1 rfl (Nat.le_of_ble_eq_true rfl) ls_5_2 ?_
  refine w_iconst (v := nI 0) dX5_leads_2 ki_0 ?_
  refine w_istore_n dX5_leads_3 rfl (Nat.le_of_ble_eq_true rfl) ls_5_3 ?_
  have lp : ∀ (j9 : Nat) (k : Nat), vs V 2 - k < j9 → k ≤ vs V 2 → Wp g (mtR g miX5_leads 4 σ (some (.int (nI (leadV V f))))) 0 0 4 [some (.ref (od C 3 j)), some (.int (nI f)), some (.int (nI (foldN (fun d n => n + shareV V f d) 0 k))), some (.int (nI k)), none] [] σ := by
    intro j9
    induction j9 with
    | zero => intro k hmu hk; exact absurd hmu (Nat.not_lt_zero _)
    | succ j9 ih_lp =>
      intro k hmu hk
      refine w_iload_n dX5_leads_4 rfl ?_
      refine w_aload_n dX5_leads_5 rfl ?_
      refine gX5_12 (C := C) dX5_leads_6 rfl hj H ?_
      refine gX5_46 (C := C) dX5_leads_9 rfl E H ?_
      refine w_icmpN_ge dX5_leads_12 rfl (by omega) (by omega) (fun h_12 => ?_) (fun h_12 => ?_)
      · have hkx : k = vs V 2 := by omega
        refine w_iload_n dX5_leads_71 rfl ?_
        exact w_iret dX5_leads_72 rfl ⟨by rw [hkx]; rfl, rfl⟩
      · refine w_aload_n dX5_leads_15 rfl ?_
        refine w_iload_n dX5_leads_16 rfl ?_
        refine cr_call (mi := miX5_isThere) dX5_leads_17 q1081 okX5_isThere clX5 rfl (H.get (ce_day hj)) (Nat.le_of_ble_eq_true rfl) (kX5_isThere (C := C) hj E K (by first | assumption | omega)) H rfl rfl (Nat.le_of_ble_eq_true rfl) ?_
        refine w_ifB_ne dX5_leads_20 rfl (fun h_20 => ?_) (fun h_20 => ?_)
        · refine w_aload_n dX5_leads_26 rfl ?_
          refine w_iload_n dX5_leads_27 rfl ?_
          refine cr_call (mi := miX5_whose) dX5_leads_28 q1139 okX5_whose clX5 rfl (H.get (ce_day hj)) (Nat.le_of_ble_eq_true rfl) (kX5_whose (C := C) hj E K (by first | assumption | omega)) H rfl rfl (Nat.le_of_ble_eq_true rfl) ?_
          have hol := ownersV_lt K (d := k) (by omega)
          have hkd := K.d (d := k) (by omega)
          refine w_istore dX5_leads_31 rfl (Nat.le_of_ble_eq_true rfl) ls_5_4 ?_
          refine w_iload_n dX5_leads_33 rfl ?_
          refine w_iload dX5_leads_34 rfl ?_
          refine w_iload_n dX5_leads_36 rfl ?_
          refine w_ishrN dX5_leads_37 (by omega) (by omega) ?_
          refine w_iconst (v := nI 1) dX5_leads_38 ki_1 ?_
          refine w_iandN dX5_leads_39 ?_
          refine w_iconst (v := nI 1) dX5_leads_40 ki_1 ?_
          refine w_icmpN_ne dX5_leads_41 rfl (and1_lt _) (by omega) (fun h_41 => ?_) (fun h_41 => ?_)
          · refine w_iconst (v := nI 0) dX5_leads_62 ki_0 ?_
            refine w_iaddN dX5_leads_63 ?_
            refine w_istore_n dX5_leads_64 rfl (Nat.le_of_ble_eq_true rfl) ls_5_2 ?_
            refine w_iinc dX5_leads_65 rfl (nI_inc _ 1) rfl (Nat.le_of_ble_eq_true rfl) ls_5_3 ?_
            refine w_goto dX5_leads_68 rfl ?_
            exact w_L (wkS (wkS (wkS (wkS (wkN wk0))))) (w_as (ih_lp (k + 1) (by omega) (by omega)) (by rw [foldN_s, shareO h_20 h_41, Nat.add_zero]) rfl rfl)
          · have hp0 := (bits64 _ hol).2.2 f hf6 h_41
            have hp6 := pcnt_le _ hol
            refine w_aload_n dX5_leads_44 rfl ?_
            refine gX5_12 (C := C) dX5_leads_45 rfl hj H ?_
            refine gX5_134 (C := C) dX5_leads_48 rfl E H ?_
            refine w_iload_n dX5_leads_51 rfl ?_
            refine ba_13 (C := C) dX5_leads_52 E K (by omega) H ?_
            refine w_iload dX5_leads_53 rfl ?_
            refine cs_call (mi := miJ11_bitCount) dX5_leads_55 q1147 okJ11_bitCount (Nat.le_of_ble_eq_true rfl) (kInt_bitCount (by first | assumption | omega)) rfl rfl (Nat.le_of_ble_eq_true rfl) ?_
            refine w_idivN dX5_leads_58 (by omega) (by omega) (by omega) ?_
            refine w_goto dX5_leads_59 rfl ?_
            refine w_iaddN dX5_leads_63 ?_
            refine w_istore_n dX5_leads_64 rfl (Nat.le_of_ble_eq_true rfl) ls_5_2 ?_
            refine w_iinc dX5_leads_65 rfl (nI_inc _ 1) rfl (Nat.le_of_ble_eq_true rfl) ls_5_3 ?_
            refine w_goto dX5_leads_68 rfl ?_
            exact w_L (wkS (wkS (wkS (wkS (wkN wk0))))) (w_as (ih_lp (k + 1) (by omega) (by omega)) (by rw [foldN_s, shareY h_20 h_41]) rfl rfl)
        · refine w_goto dX5_leads_23 rfl ?_
          refine w_iinc dX5_leads_65 rfl (nI_inc _ 1) rfl (Nat.le_of_ble_eq_true rfl) ls_5_3 ?_
          refine w_goto dX5_leads_68 rfl ?_
          exact w_as (ih_lp (k + 1) (by omega) (by omega)) (by simp only [foldN_s, shareN h_20, Nat.add_zero]) rfl rfl
  exact lp (vs V 2 + 1) 0 (by omega) (by omega)
set_option maxHeartbeats 4000000 in
theorem kX5_minute {g : GG} {C : CS} {j : Nat} {V : VS} {q : Nat → Nat} {f : Nat} {d : Nat} {m : Nat} (hj : oO C j = true) (E : EncD g C j V q) (K : OkV V) (hf6 : f < 6) (hd8 : d < 8) (hm : m < 1000000) : Cr g miX5_minute 2 [.ref (od C 3 j), .int (nI f), .int (nI d), .int (nI m)] C (some (.int (nI (max m (behO V f d))))) := by
  refine Cr.start [some (.ref (od C 3 j)), some (.int (nI f)), some (.int (nI d)), some (.int (nI m))] plX5 rfl (Nat.le_of_ble_eq_true rfl) rfl ?_
  intro σ H
  have kb := K.b
  have hbo : behO V f d ≤ 241 := behK_le K f hd8 _ (Nat.le_refl _)
  have hob : othG (vp V 0 d) (vp V 1 d) f (vt V 7 d) = behO V f d := oth_beh K f hd8 _ (Nat.le_refl _)
  refine w_iload_n dX5_minute_0 rfl ?_
  refine w_aload_n dX5_minute_1 rfl ?_
  refine gX5_33 (C := C) dX5_minute_2 rfl hj H ?_
  refine w_iload_n dX5_minute_5 rfl ?_
  refine ga_heaps (C := C) dX5_minute_6 hj (by omega) H ?_
  refine w_iload_n dX5_minute_7 rfl ?_
  refine cr_call (mi := miX7_others) dX5_minute_8 q1233 okX7_others clX7 rfl (H.get (ce_heap (on8 hj (by omega)))) (Nat.le_of_ble_eq_true rfl) (kX7_others (C := C) (on8 hj (by omega)) (E.h (d := d) (by omega)) (by intro k9 hk9; have h9 := (K.p (d := d) (by omega) hk9).1; omega) (by first | assumption | omega)) H rfl rfl (Nat.le_of_ble_eq_true rfl) ?_
  refine w_top (y := .int (nI (behO V f d) - nI 1)) (by rw [hob]) ?_
  refine w_iconst (v := nI 1) dX5_minute_11 ki_1 ?_
  refine w_iadd dX5_minute_12 ?_
  refine w_topN (sub_add1 _) ?_
  refine w_mmax dX5_minute_13 q1164 q1165 q155 q1166 (Nat.le_of_ble_eq_true rfl) (Nat.le_of_ble_eq_true rfl) ?_
  refine w_topN (max_n (by omega) (by omega)) ?_
  exact w_iret dX5_minute_16 rfl ⟨by rfl, rfl⟩
