set_option maxRecDepth 100000
theorem c_isFrom0 {g : GG} {x : Int32} {m : Nat} (hm : m < 1000000) : Ms g miX8_isFrom 1 [.long x.toInt64, .long (0 : Int64), .long (lN m)] (some (.int (bP (inN x (m + 1))))) := by
  have h := c_isFrom (g := g) (x := x.toInt64) (y := (0 : Int64)) (z := lN m)
  have e : bP (¬ lg_cmp x.toInt64 (0 : Int64) < 0 ∧ ¬ 0 < lg_cmp x.toInt64 (lN m)) = bP (inN x (m + 1)) := by
    unfold bP
    simp only [isFrom_0 hm]
  rw [e] at h
  exact h
theorem c_isFrom1 {g : GG} {x : Int32} {m : Nat} (hm : m < 1000000) : Ms g miX8_isFrom 1 [.long x.toInt64, .long (1 : Int64), .long (lN m)] (some (.int (bP (inN x (m + 1) ∧ x ≠ nI 0)))) := by
  have h := c_isFrom (g := g) (x := x.toInt64) (y := (1 : Int64)) (z := lN m)
  have e : bP (¬ lg_cmp x.toInt64 (1 : Int64) < 0 ∧ ¬ 0 < lg_cmp x.toInt64 (lN m)) = bP (inN x (m + 1) ∧ x ≠ nI 0) := by
    unfold bP
    simp only [isFrom_1 hm]
  rw [e] at h
  exact h
set_option maxHeartbeats 4000000 in
theorem c_shareOf {g : GG} {S : MS} {f : Nat} {d : Nat} {V : VS} (E : Enc S V) (K : OkV V) (hf6 : f < 6) (hd : d < vs V 2) : Mt g miX8_shareOf 5 [.int (nI f), .int (nI d)] (S) (some (.int (nI (shareV V f d)))) (S) := by
  refine Mt.start (fun b => [some (.ref b), some (.int (nI f)), some (.int (nI d)), none]) plX8 rfl (fun b => (Nat.le_of_ble_eq_true rfl)) (fun b => rfl) ?_
  intro σ b
  have kb := K.b
  have kd_d := K.d hd
  have kn_d := K.n (d := d) (by omega)
  have hs := setV_lt K (d := d) (by omega)
  refine w_aload_n dX8_shareOf_0 rfl ?_
  refine w_iload_n dX8_shareOf_1 rfl ?_
  refine m_calli1 (mi := miX8_isThere) dX8_shareOf_2 q1935 okX8_isThere rfl (Nat.le_of_ble_eq_true rfl) (c_isThere E K (by first | assumption | omega)) (Nat.le_of_ble_eq_true rfl) ?_
  refine w_ifB_eq dX8_shareOf_5 rfl (fun h_5 => ?_) (fun h_5 => ?_)
  · refine w_iconst (v := nI 0) dX8_shareOf_16 ki_0 ?_
    refine w_topN (n := setV V d) (by rw [setV, if_neg h_5]) ?_
    refine w_istore_n dX8_shareOf_17 rfl (Nat.le_of_ble_eq_true rfl) ls_4_3 ?_
    refine w_iload_n dX8_shareOf_18 rfl ?_
    refine w_iload_n dX8_shareOf_19 rfl ?_
    refine w_ishrN dX8_shareOf_20 (by omega) (by omega) ?_
    refine w_iconst (v := nI 1) dX8_shareOf_21 ki_1 ?_
    refine w_iandN dX8_shareOf_22 ?_
    refine w_ifN_ne dX8_shareOf_23 rfl (and1_lt _) (fun h_23 => ?_) (fun h_23 => ?_)
    · have hpc := (bits64 _ hs).2.2 f hf6 (by rcases and1_01 (setV V d >>> f) with z | z; exact absurd z h_23; exact z)
      have hp6 := pcnt_le _ hs
      refine w_aload_n dX8_shareOf_30 rfl ?_
      refine mg_at dX8_shareOf_31 rfl ?_
      refine w_iconst (v := nI 0) dX8_shareOf_34 ki_0 ?_
      refine w_iload_n dX8_shareOf_35 rfl ?_
      refine s_calli2 (mi := miX8_findRow) dX8_shareOf_36 q1813 okX8_findRow (Nat.le_of_ble_eq_true rfl) c_findRow (Nat.le_of_ble_eq_true rfl) ?_
      refine w_iconst (v := nI 1) dX8_shareOf_39 ki_1 ?_
      refine w_iaddN dX8_shareOf_40 ?_
      refine ma_at dX8_shareOf_41 (by omega) ?_
      refine w_topN (E.d1 (by omega)) ?_
      refine w_iload_n dX8_shareOf_42 rfl ?_
      refine s_calli1 (mi := miX8_bits) dX8_shareOf_43 q2012 okX8_bits (Nat.le_of_ble_eq_true rfl) (c_bits (by first | assumption | omega)) (Nat.le_of_ble_eq_true rfl) ?_
      refine w_idivN dX8_shareOf_46 (by omega) (by omega) (by omega) ?_
      exact w_iret dX8_shareOf_47 rfl ⟨by first | rfl | (simp only [bP, isT, bitN, inN, shareV, *, not_true_eq_false, not_false_eq_true, and_true, true_and, and_false, false_and, or_true, true_or, or_false, false_or, and_self, or_self, if_true, if_false, ite_true, ite_false]; done) | (simp [bP, isT, bitN, inN, shareV, *]; done) | (simp_all [bP, isT, bitN, inN, shareV]; done) | (unfold shareV; repeat split) <;> first | rfl | contradiction | simp_all, by first | rfl | (simp only [bP, isT, bitN, inN, shareV, *, not_true_eq_false, not_false_eq_true, and_true, true_and, and_false, false_and, or_true, true_or, or_false, false_or, and_self, or_self, if_true, if_false, ite_true, ite_false]; done) | (simp [bP, isT, bitN, inN, shareV, *]; done) | (simp_all [bP, isT, bitN, inN, shareV]; done) | (unfold shareV; repeat split) <;> first | rfl | contradiction | simp_all⟩
    · refine w_iconst (v := nI 0) dX8_shareOf_26 ki_0 ?_
      refine w_goto dX8_shareOf_27 rfl ?_
      exact w_iret dX8_shareOf_47 rfl ⟨by first | rfl | (simp only [bP, isT, bitN, inN, shareV, *, not_true_eq_false, not_false_eq_true, and_true, true_and, and_false, false_and, or_true, true_or, or_false, false_or, and_self, or_self, if_true, if_false, ite_true, ite_false]; done) | (simp [bP, isT, bitN, inN, shareV, *]; done) | (simp_all [bP, isT, bitN, inN, shareV]; done) | (unfold shareV; repeat split) <;> first | rfl | contradiction | simp_all, by first | rfl | (simp only [bP, isT, bitN, inN, shareV, *, not_true_eq_false, not_false_eq_true, and_true, true_and, and_false, false_and, or_true, true_or, or_false, false_or, and_self, or_self, if_true, if_false, ite_true, ite_false]; done) | (simp [bP, isT, bitN, inN, shareV, *]; done) | (simp_all [bP, isT, bitN, inN, shareV]; done) | (unfold shareV; repeat split) <;> first | rfl | contradiction | simp_all⟩
  · refine w_aload_n dX8_shareOf_8 rfl ?_
    refine w_iload_n dX8_shareOf_9 rfl ?_
    refine m_calli1 (mi := miX8_ownersOf) dX8_shareOf_10 q2008 okX8_ownersOf rfl (Nat.le_of_ble_eq_true rfl) (c_ownersOf E K (by first | assumption | omega)) (Nat.le_of_ble_eq_true rfl) ?_
    refine w_topN (n := setV V d) (by rw [setV, if_pos h_5]) ?_
    refine w_goto dX8_shareOf_13 rfl ?_
    refine w_istore_n dX8_shareOf_17 rfl (Nat.le_of_ble_eq_true rfl) ls_4_3 ?_
    refine w_iload_n dX8_shareOf_18 rfl ?_
    refine w_iload_n dX8_shareOf_19 rfl ?_
    refine w_ishrN dX8_shareOf_20 (by omega) (by omega) ?_
    refine w_iconst (v := nI 1) dX8_shareOf_21 ki_1 ?_
    refine w_iandN dX8_shareOf_22 ?_
    refine w_ifN_ne dX8_shareOf_23 rfl (and1_lt _) (fun h_23 => ?_) (fun h_23 => ?_)
    · have hpc := (bits64 _ hs).2.2 f hf6 (by rcases and1_01 (setV V d >>> f) with z | z; exact absurd z h_23; exact z)
      have hp6 := pcnt_le _ hs
      refine w_aload_n dX8_shareOf_30 rfl ?_
      refine mg_at dX8_shareOf_31 rfl ?_
      refine w_iconst (v := nI 0) dX8_shareOf_34 ki_0 ?_
      refine w_iload_n dX8_shareOf_35 rfl ?_
      refine s_calli2 (mi := miX8_findRow) dX8_shareOf_36 q1813 okX8_findRow (Nat.le_of_ble_eq_true rfl) c_findRow (Nat.le_of_ble_eq_true rfl) ?_
      refine w_iconst (v := nI 1) dX8_shareOf_39 ki_1 ?_
      refine w_iaddN dX8_shareOf_40 ?_
      refine ma_at dX8_shareOf_41 (by omega) ?_
      refine w_topN (E.d1 (by omega)) ?_
      refine w_iload_n dX8_shareOf_42 rfl ?_
      refine s_calli1 (mi := miX8_bits) dX8_shareOf_43 q2012 okX8_bits (Nat.le_of_ble_eq_true rfl) (c_bits (by first | assumption | omega)) (Nat.le_of_ble_eq_true rfl) ?_
      refine w_idivN dX8_shareOf_46 (by omega) (by omega) (by omega) ?_
      exact w_iret dX8_shareOf_47 rfl ⟨by first | rfl | (simp only [bP, isT, bitN, inN, shareV, *, not_true_eq_false, not_false_eq_true, and_true, true_and, and_false, false_and, or_true, true_or, or_false, false_or, and_self, or_self, if_true, if_false, ite_true, ite_false]; done) | (simp [bP, isT, bitN, inN, shareV, *]; done) | (simp_all [bP, isT, bitN, inN, shareV]; done) | (unfold shareV; repeat split) <;> first | rfl | contradiction | simp_all, by first | rfl | (simp only [bP, isT, bitN, inN, shareV, *, not_true_eq_false, not_false_eq_true, and_true, true_and, and_false, false_and, or_true, true_or, or_false, false_or, and_self, or_self, if_true, if_false, ite_true, ite_false]; done) | (simp [bP, isT, bitN, inN, shareV, *]; done) | (simp_all [bP, isT, bitN, inN, shareV]; done) | (unfold shareV; repeat split) <;> first | rfl | contradiction | simp_all⟩
    · refine w_iconst (v := nI 0) dX8_shareOf_26 ki_0 ?_
      refine w_goto dX8_shareOf_27 rfl ?_
      exact w_iret dX8_shareOf_47 rfl ⟨by first | rfl | (simp only [bP, isT, bitN, inN, shareV, *, not_true_eq_false, not_false_eq_true, and_true, true_and, and_false, false_and, or_true, true_or, or_false, false_or, and_self, or_self, if_true, if_false, ite_true, ite_false]; done) | (simp [bP, isT, bitN, inN, shareV, *]; done) | (simp_all [bP, isT, bitN, inN, shareV]; done) | (unfold shareV; repeat split) <;> first | rfl | contradiction | simp_all, by first | rfl | (simp only [bP, isT, bitN, inN, shareV, *, not_true_eq_false, not_false_eq_true, and_true, true_and, and_false, false_and, or_true, true_or, or_false, false_or, and_self, or_self, if_true, if_false, ite_true, ite_false]; done) | (simp [bP, isT, bitN, inN, shareV, *]; done) | (simp_all [bP, isT, bitN, inN, shareV]; done) | (unfold shareV; repeat split) <;> first | rfl | contradiction | simp_all⟩
set_option maxHeartbeats 4000000 in
theorem c_leadOf {g : GG} {S : MS} {f : Nat} {V : VS} (E : Enc S V) (K : OkV V) (hf6 : f < 6) : Mt g miX8_leadOf 6 [.int (nI f)] (S) (some (.int (nI (leadV V f)))) (S) := by
  refine Mt.start (fun b => [some (.ref b), some (.int (nI f)), none, none]) plX8 rfl (fun b => (Nat.le_of_ble_eq_true rfl)) (fun b => rfl) ?_
  intro σ b
  have kb := K.b
  refine w_iconst (v := nI 0) dX8_leadOf_0 ki_0 ?_
  refine w_istore_n dX8_leadOf_1 rfl (Nat.le_of_ble_eq_true rfl) ls_4_2 ?_
  refine w_iconst (v := nI 0) dX8_leadOf_2 ki_0 ?_
  refine w_istore_n dX8_leadOf_3 rfl (Nat.le_of_ble_eq_true rfl) ls_4_3 ?_
  have lp : ∀ (j9 : Nat) (k : Nat), vs V 2 - k < j9 → k ≤ vs V 2 → Wp g (mtM g miX8_leadOf 6 σ b (some (.int (nI (leadV V f)))) (S)) 0 0 4 [some (.ref b), some (.int (nI f)), some (.int (nI (foldN (fun d n => n + shareV V f d) 0 k))), some (.int (nI k))] [] (sM g σ b (S)) := by
    intro j9
    induction j9 with
    | zero => intro k hmu hk_k; exact absurd hmu (Nat.not_lt_zero _)
    | succ j9 ih_lp =>
      intro k hmu hk_k
      refine w_iload_n dX8_leadOf_4 rfl ?_
      refine w_aload_n dX8_leadOf_5 rfl ?_
      refine mg_at dX8_leadOf_6 rfl ?_
      refine w_iconst (v := nI 2) dX8_leadOf_9 ki_2 ?_
      refine ma_at dX8_leadOf_10 (by omega) ?_
      refine w_topN (E.s 2 (by omega)) ?_
      refine w_icmpN_ge dX8_leadOf_11 rfl (by omega) (by omega) (fun h_11 => ?_) (fun h_11 => ?_)
      · obtain rfl : k = vs V 2 := by omega
        refine w_iload_n dX8_leadOf_29 rfl ?_
        exact w_iret dX8_leadOf_30 rfl ⟨by first | rfl | (simp only [bP, isT, bitN, inN, *, not_true_eq_false, not_false_eq_true, and_true, true_and, and_false, false_and, or_true, true_or, or_false, false_or, and_self, or_self, if_true, if_false, ite_true, ite_false]; done) | (simp [bP, isT, bitN, inN, *]; done) | (simp_all [bP, isT, bitN, inN]; done) | (repeat split) <;> first | rfl | contradiction | simp_all, by first | rfl | (simp only [bP, isT, bitN, inN, *, not_true_eq_false, not_false_eq_true, and_true, true_and, and_false, false_and, or_true, true_or, or_false, false_or, and_self, or_self, if_true, if_false, ite_true, ite_false]; done) | (simp [bP, isT, bitN, inN, *]; done) | (simp_all [bP, isT, bitN, inN]; done) | (repeat split) <;> first | rfl | contradiction | simp_all⟩
      · refine w_iload_n dX8_leadOf_14 rfl ?_
        refine w_aload_n dX8_leadOf_15 rfl ?_
        refine w_iload_n dX8_leadOf_16 rfl ?_
        refine w_iload_n dX8_leadOf_17 rfl ?_
        refine m_calli2 (mi := miX8_shareOf) dX8_leadOf_18 q2023 okX8_shareOf rfl (Nat.le_of_ble_eq_true rfl) (c_shareOf E K (by first | assumption | omega) (by first | assumption | omega)) (Nat.le_of_ble_eq_true rfl) ?_
        refine w_iaddN dX8_leadOf_21 ?_
        refine w_istore_n dX8_leadOf_22 rfl (Nat.le_of_ble_eq_true rfl) ls_4_2 ?_
        refine w_iinc dX8_leadOf_23 rfl (nI_inc _ 1) rfl (Nat.le_of_ble_eq_true rfl) ls_4_3 ?_
        refine w_goto dX8_leadOf_26 rfl ?_
        exact w_as (ih_lp (k + 1) (by omega) (by omega)) (by rfl) rfl (rfl)
  exact lp (vs V 2 + 1) 0 (by omega) (by omega)
set_option maxHeartbeats 4000000 in
theorem c_atRank {g : GG} {S : MS} {k : Int32} {V : VS} (E : Enc S V) (K : OkV V) : Mt g miX8_atRank 7 [.int k] (S) (some (.int (nI (rankV V k) - nI 1))) (S) := by
  refine Mt.start (fun b => [some (.ref b), some (.int k), none, none, none]) plX8 rfl (fun b => (Nat.le_of_ble_eq_true rfl)) (fun b => rfl) ?_
  intro σ b
  have kb := K.b
  refine w_iconst (v := nI 0) dX8_atRank_0 ki_0 ?_
  refine w_istore_n dX8_atRank_1 rfl (Nat.le_of_ble_eq_true rfl) ls_5_2 ?_
  have lo : ∀ (j9 : Nat) (f : Nat), vs V 1 - f < j9 → f ≤ vs V 1 → firstF (fun f => nI (aheadV V f) = k) f (vs V 1 - f) = rankV V k → Wp g (mtM g miX8_atRank 7 σ b (some (.int (nI (rankV V k) - nI 1))) (S)) 0 0 2 [some (.ref b), some (.int k), some (.int (nI f)), none, none] [] (sM g σ b (S)) := by
    intro j9
    induction j9 with
    | zero => intro f hmu hf hr; exact absurd hmu (Nat.not_lt_zero _)
    | succ j9 ih_lo =>
      intro f hmu hf hr
      refine w_iload_n dX8_atRank_2 rfl ?_
      refine w_aload_n dX8_atRank_3 rfl ?_
      refine mg_at dX8_atRank_4 rfl ?_
      refine w_iconst (v := nI 1) dX8_atRank_7 ki_1 ?_
      refine ma_at dX8_atRank_8 (by omega) ?_
      refine w_topN (E.s 1 (by omega)) ?_
      refine w_icmpN_ge dX8_atRank_9 rfl (by omega) (by omega) (fun h_9 => ?_) (fun h_9 => ?_)
      · have hr2 : rankV V k = 0 := by rw [← hr, show vs V 1 - f = 0 by omega]; rfl
        refine w_iconst (v := (-1)) dX8_atRank_89 ki_m1 ?_
        exact w_iret dX8_atRank_90 rfl ⟨by first | (rw [hr2, nI_dn]; done) | (rw [hr2]; rfl), by first | rfl | (simp only [bP, isT, bitN, inN, *, not_true_eq_false, not_false_eq_true, and_true, true_and, and_false, false_and, or_true, true_or, or_false, false_or, and_self, or_self, if_true, if_false, ite_true, ite_false]; done) | (simp [bP, isT, bitN, inN, *]; done) | (simp_all [bP, isT, bitN, inN]; done) | (repeat split) <;> first | rfl | contradiction | simp_all⟩
      · refine w_iconst (v := nI 0) dX8_atRank_12 ki_0 ?_
        refine w_istore_n dX8_atRank_13 rfl (Nat.le_of_ble_eq_true rfl) ls_5_3 ?_
        refine w_iconst (v := nI 0) dX8_atRank_14 ki_0 ?_
        refine w_istore dX8_atRank_15 rfl (Nat.le_of_ble_eq_true rfl) ls_5_4 ?_
        have li : ∀ (j9 : Nat) (q : Nat), vs V 1 - q < j9 → q ≤ vs V 1 → Wp g (mtM g miX8_atRank 7 σ b (some (.int (nI (rankV V k) - nI 1))) (S)) 0 0 17 [some (.ref b), some (.int k), some (.int (nI f)), some (.int (nI (foldN (fun g c => c + if leadV V f < leadV V g ∨ leadV V g = leadV V f ∧ g < f then 1 else 0) 0 q))), some (.int (nI q))] [] (sM g σ b (S)) := by
          intro j9
          induction j9 with
          | zero => intro q hmu hk_q; exact absurd hmu (Nat.not_lt_zero _)
          | succ j9 ih_li =>
            intro q hmu hk_q
            have hq := leadV_le K q
            have hfl := leadV_le K f
            refine w_iload dX8_atRank_17 rfl ?_
            refine w_aload_n dX8_atRank_19 rfl ?_
            refine mg_at dX8_atRank_20 rfl ?_
            refine w_iconst (v := nI 1) dX8_atRank_23 ki_1 ?_
            refine ma_at dX8_atRank_24 (by omega) ?_
            refine w_topN (E.s 1 (by omega)) ?_
            refine w_icmpN_ge dX8_atRank_25 rfl (by omega) (by omega) (fun h_25 => ?_) (fun h_25 => ?_)
            · obtain rfl : q = vs V 1 := by omega
              have hah : aheadV V f = foldN (fun g c => c + if leadV V f < leadV V g ∨ leadV V g = leadV V f ∧ g < f then 1 else 0) 0 (vs V 1) := rfl
              rw [← hah]
              refine w_iload_n dX8_atRank_76 rfl ?_
              refine w_iload_n dX8_atRank_77 rfl ?_
              refine w_icmp_ne dX8_atRank_78 rfl (fun h_78 => ?_) (fun h_78 => ?_)
              · refine w_iinc dX8_atRank_83 rfl (nI_inc _ 1) rfl (Nat.le_of_ble_eq_true rfl) ls_5_2 ?_
                refine w_goto dX8_atRank_86 rfl ?_
                exact w_L (wkS (wkS (wkS (wkN (wkN wk0))))) (ih_lo (f + 1) (by omega) (by omega) (by rw [← hr, show vs V 1 - f = (vs V 1 - (f + 1)) + 1 by omega]; exact (if_neg h_78).symm))
              · have hr2 : rankV V k = f + 1 := by rw [← hr, show vs V 1 - f = (vs V 1 - (f + 1)) + 1 by omega]; exact if_pos h_78
                refine w_iload_n dX8_atRank_81 rfl ?_
                exact w_iret dX8_atRank_82 rfl ⟨by first | (rw [hr2, nI_dn]; done) | (rw [hr2]; rfl), by first | rfl | (simp only [bP, isT, bitN, inN, *, not_true_eq_false, not_false_eq_true, and_true, true_and, and_false, false_and, or_true, true_or, or_false, false_or, and_self, or_self, if_true, if_false, ite_true, ite_false]; done) | (simp [bP, isT, bitN, inN, *]; done) | (simp_all [bP, isT, bitN, inN]; done) | (repeat split) <;> first | rfl | contradiction | simp_all⟩
            · refine w_iload_n dX8_atRank_28 rfl ?_
              refine w_aload_n dX8_atRank_29 rfl ?_
              refine w_iload dX8_atRank_30 rfl ?_
              refine m_calli1 (mi := miX8_leadOf) dX8_atRank_32 q2019 okX8_leadOf rfl (Nat.le_of_ble_eq_true rfl) (c_leadOf E K (by first | assumption | omega)) (Nat.le_of_ble_eq_true rfl) ?_
              refine w_aload_n dX8_atRank_35 rfl ?_
              refine w_iload_n dX8_atRank_36 rfl ?_
              refine m_calli1 (mi := miX8_leadOf) dX8_atRank_37 q2019 okX8_leadOf rfl (Nat.le_of_ble_eq_true rfl) (c_leadOf E K (by first | assumption | omega)) (Nat.le_of_ble_eq_true rfl) ?_
              refine w_icmpN_gt dX8_atRank_40 rfl (by omega) (by omega) (fun h_40 => ?_) (fun h_40 => ?_)
              · refine w_iconst (v := nI 1) dX8_atRank_63 ki_1 ?_
                refine w_goto dX8_atRank_64 rfl ?_
                refine w_iaddN dX8_atRank_68 ?_
                refine w_istore_n dX8_atRank_69 rfl (Nat.le_of_ble_eq_true rfl) ls_5_3 ?_
                refine w_iinc dX8_atRank_70 rfl (nI_inc _ 1) rfl (Nat.le_of_ble_eq_true rfl) ls_5_4 ?_
                refine w_goto dX8_atRank_73 rfl ?_
                exact w_as (ih_li (q + 1) (by omega) (by omega)) (by simp only [foldN_s]; (try split) <;> first | rfl | (exfalso; first | contradiction | omega | (simp_all; done))) rfl (rfl)
              · refine w_aload_n dX8_atRank_43 rfl ?_
                refine w_iload dX8_atRank_44 rfl ?_
                refine m_calli1 (mi := miX8_leadOf) dX8_atRank_46 q2019 okX8_leadOf rfl (Nat.le_of_ble_eq_true rfl) (c_leadOf E K (by first | assumption | omega)) (Nat.le_of_ble_eq_true rfl) ?_
                refine w_aload_n dX8_atRank_49 rfl ?_
                refine w_iload_n dX8_atRank_50 rfl ?_
                refine m_calli1 (mi := miX8_leadOf) dX8_atRank_51 q2019 okX8_leadOf rfl (Nat.le_of_ble_eq_true rfl) (c_leadOf E K (by first | assumption | omega)) (Nat.le_of_ble_eq_true rfl) ?_
                refine w_icmpN_ne dX8_atRank_54 rfl (by omega) (by omega) (fun h_54 => ?_) (fun h_54 => ?_)
                · refine w_iconst (v := nI 0) dX8_atRank_67 ki_0 ?_
                  refine w_iaddN dX8_atRank_68 ?_
                  refine w_istore_n dX8_atRank_69 rfl (Nat.le_of_ble_eq_true rfl) ls_5_3 ?_
                  refine w_iinc dX8_atRank_70 rfl (nI_inc _ 1) rfl (Nat.le_of_ble_eq_true rfl) ls_5_4 ?_
                  refine w_goto dX8_atRank_73 rfl ?_
                  exact w_as (ih_li (q + 1) (by omega) (by omega)) (by simp only [foldN_s]; (try split) <;> first | rfl | (exfalso; first | contradiction | omega | (simp_all; done))) rfl (rfl)
                · refine w_iload dX8_atRank_57 rfl ?_
                  refine w_iload_n dX8_atRank_59 rfl ?_
                  refine w_icmpN_ge dX8_atRank_60 rfl (by omega) (by omega) (fun h_60 => ?_) (fun h_60 => ?_)
                  · refine w_iconst (v := nI 0) dX8_atRank_67 ki_0 ?_
                    refine w_iaddN dX8_atRank_68 ?_
                    refine w_istore_n dX8_atRank_69 rfl (Nat.le_of_ble_eq_true rfl) ls_5_3 ?_
                    refine w_iinc dX8_atRank_70 rfl (nI_inc _ 1) rfl (Nat.le_of_ble_eq_true rfl) ls_5_4 ?_
                    refine w_goto dX8_atRank_73 rfl ?_
                    exact w_as (ih_li (q + 1) (by omega) (by omega)) (by simp only [foldN_s]; (try split) <;> first | rfl | (exfalso; first | contradiction | omega | (simp_all; done))) rfl (rfl)
                  · refine w_iconst (v := nI 1) dX8_atRank_63 ki_1 ?_
                    refine w_goto dX8_atRank_64 rfl ?_
                    refine w_iaddN dX8_atRank_68 ?_
                    refine w_istore_n dX8_atRank_69 rfl (Nat.le_of_ble_eq_true rfl) ls_5_3 ?_
                    refine w_iinc dX8_atRank_70 rfl (nI_inc _ 1) rfl (Nat.le_of_ble_eq_true rfl) ls_5_4 ?_
                    refine w_goto dX8_atRank_73 rfl ?_
                    exact w_as (ih_li (q + 1) (by omega) (by omega)) (by simp only [foldN_s]; (try split) <;> first | rfl | (exfalso; first | contradiction | omega | (simp_all; done))) rfl (rfl)
        exact li (vs V 1 + 1) 0 (by omega) (by omega)
  exact lo (vs V 1 + 1) 0 (by omega) (by omega) rfl
set_option maxHeartbeats 4000000 in
theorem c_leader {g : GG} {S : MS} {V : VS} (E : Enc S V) (K : OkV V) : Mt g miX8_leader 8 [] (S) (some (.int ((q_leader V).1))) (sI S 2 (q_leader V).2) := by
  refine Mt.start (fun b => [some (.ref b)]) plX8 rfl (fun b => (Nat.le_of_ble_eq_true rfl)) (fun b => rfl) ?_
  intro σ b
  have kb := K.b
  have hr := firstF_le (fun f => nI (aheadV V f) = nI 0) (vs V 1) 0
  refine w_aload_n dX8_leader_0 rfl ?_
  refine w_aload_n dX8_leader_1 rfl ?_
  refine w_iconst (v := nI 0) dX8_leader_2 ki_0 ?_
  refine m_calli1 (mi := miX8_atRank) dX8_leader_3 q2031 okX8_atRank rfl (Nat.le_of_ble_eq_true rfl) (c_atRank E K) (Nat.le_of_ble_eq_true rfl) ?_
  refine m_calli1 (mi := miX8_orNone) dX8_leader_6 q2035 okX8_orNone rfl (Nat.le_of_ble_eq_true rfl) c_orNone (Nat.le_of_ble_eq_true rfl) ?_
  exact w_iret dX8_leader_9 rfl ⟨by rfl, by rw [orA_2 (c := rankV V (nI 0)) (by unfold rankV; omega)]; rfl⟩
set_option maxHeartbeats 4000000 in
theorem c_ranked {g : GG} {S : MS} {k : Int32} {V : VS} (E : Enc S V) (K : OkV V) : Mt g miX8_ranked 8 [.int k] (S) (some (.int ((q_ranked V k).1))) (sI S 2 (q_ranked V k).2) := by
  refine Mt.start (fun b => [some (.ref b), some (.int k)]) plX8 rfl (fun b => (Nat.le_of_ble_eq_true rfl)) (fun b => rfl) ?_
  intro σ b
  have kb := K.b
  have hr := firstF_le (fun f => nI (aheadV V f) = k) (vs V 1) 0
  refine w_aload_n dX8_ranked_0 rfl ?_
  refine w_aload_n dX8_ranked_1 rfl ?_
  refine w_iload_n dX8_ranked_2 rfl ?_
  refine m_calli1 (mi := miX8_atRank) dX8_ranked_3 q2031 okX8_atRank rfl (Nat.le_of_ble_eq_true rfl) (c_atRank E K) (Nat.le_of_ble_eq_true rfl) ?_
  refine m_calli1 (mi := miX8_orNone) dX8_ranked_6 q2035 okX8_orNone rfl (Nat.le_of_ble_eq_true rfl) c_orNone (Nat.le_of_ble_eq_true rfl) ?_
  exact w_iret dX8_ranked_9 rfl ⟨by rfl, by rw [orA_2 (c := rankV V k) (by unfold rankV; omega)]; rfl⟩
set_option maxHeartbeats 4000000 in
theorem c_last {g : GG} {S : MS} {x : Int32} {V : VS} (E : Enc S V) (K : OkV V) : Mt g miX8_last 4 [.int x] (S) (some (.int ((q_last V x).1))) (sI S 2 (q_last V x).2) := by
  refine Mt.start (fun b => [some (.ref b), some (.int x), none]) plX8 rfl (fun b => (Nat.le_of_ble_eq_true rfl)) (fun b => rfl) ?_
  intro σ b
  have kb := K.b
  have hwl := wfV_le V x
  refine w_aload_n dX8_last_0 rfl ?_
  refine w_iload_n dX8_last_1 rfl ?_
  refine m_calli1 (mi := miX8_wrongFind) dX8_last_2 q1996 okX8_wrongFind rfl (Nat.le_of_ble_eq_true rfl) (c_wrongFind E K) (Nat.le_of_ble_eq_true rfl) ?_
  refine w_istore_n dX8_last_5 rfl (Nat.le_of_ble_eq_true rfl) ls_3_2 ?_
  refine w_iload_n dX8_last_6 rfl ?_
  refine w_ifN_le dX8_last_7 rfl (by omega) (fun h_7 => ?_) (fun h_7 => ?_)
  · have hw0 := wfV_0 (V := V) (x := x) (by omega)
    obtain ⟨hx_d, hth⟩ := hw0
    obtain ⟨d, hd, rfl⟩ := inN_of hx_d (by omega)
    have hcl_d : cl (nI d) = d := nI_clamp (by omega)
    refine w_aload_n dX8_last_18 rfl ?_
    refine w_aload_n dX8_last_19 rfl ?_
    refine w_iload_n dX8_last_20 rfl ?_
    refine m_calli1 (mi := miX8_lastOn) dX8_last_21 q2000 okX8_lastOn rfl (Nat.le_of_ble_eq_true rfl) (c_lastOn E K (by first | assumption | omega)) (Nat.le_of_ble_eq_true rfl) ?_
    refine m_calli1 (mi := miX8_gives) dX8_last_24 q1839 okX8_gives rfl (Nat.le_of_ble_eq_true rfl) c_gives (Nat.le_of_ble_eq_true rfl) ?_
    exact w_iret dX8_last_27 rfl ⟨by first | rfl | (unfold q_last; (try simp only [hcl_d]); (repeat' split) <;> first | rfl | contradiction | omega | (exfalso; simp_all; done)), by first | rfl | (unfold q_last; (try simp only [hcl_d]); (repeat' split) <;> first | rfl | contradiction | omega | (exfalso; simp_all; done))⟩
  · refine w_aload_n dX8_last_10 rfl ?_
    refine w_iload_n dX8_last_11 rfl ?_
    refine m_calli1 (mi := miX8_refuse) dX8_last_12 q1746 okX8_refuse rfl (Nat.le_of_ble_eq_true rfl) c_refuse (Nat.le_of_ble_eq_true rfl) ?_
    refine w_goto dX8_last_15 rfl ?_
    exact w_iret dX8_last_27 rfl ⟨by first | rfl | (unfold q_last; (try simp only [hcl_d]); (repeat' split) <;> first | rfl | contradiction | omega | (exfalso; simp_all; done)), by first | rfl | (unfold q_last; (try simp only [hcl_d]); (repeat' split) <;> first | rfl | contradiction | omega | (exfalso; simp_all; done))⟩
set_option maxHeartbeats 4000000 in
theorem c_whose {g : GG} {S : MS} {x : Int32} {V : VS} (E : Enc S V) (K : OkV V) : Mt g miX8_whose 5 [.int x] (S) (some (.int ((q_whose V x).1))) (sI S 2 (q_whose V x).2) := by
  refine Mt.start (fun b => [some (.ref b), some (.int x), none]) plX8 rfl (fun b => (Nat.le_of_ble_eq_true rfl)) (fun b => rfl) ?_
  intro σ b
  have kb := K.b
  have hwl := wfV_le V x
  refine w_aload_n dX8_whose_0 rfl ?_
  refine w_iload_n dX8_whose_1 rfl ?_
  refine m_calli1 (mi := miX8_wrongFind) dX8_whose_2 q1996 okX8_wrongFind rfl (Nat.le_of_ble_eq_true rfl) (c_wrongFind E K) (Nat.le_of_ble_eq_true rfl) ?_
  refine w_istore_n dX8_whose_5 rfl (Nat.le_of_ble_eq_true rfl) ls_3_2 ?_
  refine w_iload_n dX8_whose_6 rfl ?_
  refine w_ifN_le dX8_whose_7 rfl (by omega) (fun h_7 => ?_) (fun h_7 => ?_)
  · have hw0 := wfV_0 (V := V) (x := x) (by omega)
    obtain ⟨hx_d, hth⟩ := hw0
    obtain ⟨d, hd, rfl⟩ := inN_of hx_d (by omega)
    have hcl_d : cl (nI d) = d := nI_clamp (by omega)
    refine w_aload_n dX8_whose_18 rfl ?_
    refine w_aload_n dX8_whose_19 rfl ?_
    refine w_iload_n dX8_whose_20 rfl ?_
    refine m_calli1 (mi := miX8_ownersOf) dX8_whose_21 q2008 okX8_ownersOf rfl (Nat.le_of_ble_eq_true rfl) (c_ownersOf E K (by first | assumption | omega)) (Nat.le_of_ble_eq_true rfl) ?_
    refine m_calli1 (mi := miX8_gives) dX8_whose_24 q1839 okX8_gives rfl (Nat.le_of_ble_eq_true rfl) c_gives (Nat.le_of_ble_eq_true rfl) ?_
    exact w_iret dX8_whose_27 rfl ⟨by first | rfl | (unfold q_whose; (try simp only [hcl_d]); (repeat' split) <;> first | rfl | contradiction | omega | (exfalso; simp_all; done)), by first | rfl | (unfold q_whose; (try simp only [hcl_d]); (repeat' split) <;> first | rfl | contradiction | omega | (exfalso; simp_all; done))⟩
  · refine w_aload_n dX8_whose_10 rfl ?_
    refine w_iload_n dX8_whose_11 rfl ?_
    refine m_calli1 (mi := miX8_refuse) dX8_whose_12 q1746 okX8_refuse rfl (Nat.le_of_ble_eq_true rfl) c_refuse (Nat.le_of_ble_eq_true rfl) ?_
    refine w_goto dX8_whose_15 rfl ?_
    exact w_iret dX8_whose_27 rfl ⟨by first | rfl | (unfold q_whose; (try simp only [hcl_d]); (repeat' split) <;> first | rfl | contradiction | omega | (exfalso; simp_all; done)), by first | rfl | (unfold q_whose; (try simp only [hcl_d]); (repeat' split) <;> first | rfl | contradiction | omega | (exfalso; simp_all; done))⟩
set_option maxHeartbeats 4000000 in
theorem c_leads {g : GG} {S : MS} {x : Int32} {V : VS} (E : Enc S V) (K : OkV V) : Mt g miX8_leads 7 [.int x] (S) (some (.int ((q_leads V x).1))) (sI S 2 (q_leads V x).2) := by
  refine Mt.start (fun b => [some (.ref b), some (.int x)]) plX8 rfl (fun b => (Nat.le_of_ble_eq_true rfl)) (fun b => rfl) ?_
  intro σ b
  have kb := K.b
  refine w_aload_n dX8_leads_0 rfl ?_
  refine w_iload_n dX8_leads_1 rfl ?_
  refine m_calli1 (mi := miX8_isFinder) dX8_leads_2 q1875 okX8_isFinder rfl (Nat.le_of_ble_eq_true rfl) (c_isFinder E K) (Nat.le_of_ble_eq_true rfl) ?_
  refine w_ifB_eq dX8_leads_5 rfl (fun h_5 => ?_) (fun h_5 => ?_)
  · refine w_aload_n dX8_leads_20 rfl ?_
    refine w_iconst (v := nI 1) dX8_leads_21 ki_1 ?_
    refine m_calli1 (mi := miX8_refuse) dX8_leads_22 q1746 okX8_refuse rfl (Nat.le_of_ble_eq_true rfl) c_refuse (Nat.le_of_ble_eq_true rfl) ?_
    exact w_iret dX8_leads_25 rfl ⟨by first | rfl | (unfold q_leads; (try simp only [hcl_f]); (repeat' split) <;> first | rfl | contradiction | omega | (exfalso; simp_all; done)), by first | rfl | (unfold q_leads; (try simp only [hcl_f]); (repeat' split) <;> first | rfl | contradiction | omega | (exfalso; simp_all; done))⟩
  · have hx_f := h_5
    obtain ⟨f, hf_f, rfl⟩ := inN_of h_5 (by omega)
    have hcl_f : cl (nI f) = f := nI_clamp (by omega)
    have kf_f := K.f hf_f
    refine w_aload_n dX8_leads_8 rfl ?_
    refine w_aload_n dX8_leads_9 rfl ?_
    refine w_iload_n dX8_leads_10 rfl ?_
    refine m_calli1 (mi := miX8_leadOf) dX8_leads_11 q2019 okX8_leadOf rfl (Nat.le_of_ble_eq_true rfl) (c_leadOf E K (by first | assumption | omega)) (Nat.le_of_ble_eq_true rfl) ?_
    refine m_calli1 (mi := miX8_gives) dX8_leads_14 q1839 okX8_gives rfl (Nat.le_of_ble_eq_true rfl) c_gives (Nat.le_of_ble_eq_true rfl) ?_
    refine w_goto dX8_leads_17 rfl ?_
    exact w_iret dX8_leads_25 rfl ⟨by first | rfl | (unfold q_leads; (try simp only [hcl_f]); (repeat' split) <;> first | rfl | contradiction | omega | (exfalso; simp_all; done)), by first | rfl | (unfold q_leads; (try simp only [hcl_f]); (repeat' split) <;> first | rfl | contradiction | omega | (exfalso; simp_all; done))⟩
set_option maxHeartbeats 4000000 in
theorem c_duels {g : GG} {S : MS} {V : VS} (E : Enc S V) (K : OkV V) : Mt g miX8_duels 4 [] (S) (some (.int ((q_duels V).1))) (sI S 2 (q_duels V).2) := by
  refine Mt.start (fun b => [some (.ref b), none, none]) plX8 rfl (fun b => (Nat.le_of_ble_eq_true rfl)) (fun b => rfl) ?_
  intro σ b
  have kb := K.b
  refine w_iconst (v := nI 0) dX8_duels_0 ki_0 ?_
  refine w_istore_n dX8_duels_1 rfl (Nat.le_of_ble_eq_true rfl) ls_3_1 ?_
  refine w_iconst (v := nI 0) dX8_duels_2 ki_0 ?_
  refine w_istore_n dX8_duels_3 rfl (Nat.le_of_ble_eq_true rfl) ls_3_2 ?_
  have lp : ∀ (j9 : Nat) (k : Nat), vs V 2 - k < j9 → k ≤ vs V 2 → Wp g (mtM g miX8_duels 4 σ b (some (.int ((q_duels V).1))) (sI S 2 (q_duels V).2)) 0 0 4 [some (.ref b), some (.int (nI (foldN (fun d s => s ||| if 1 < pcnt (lastV V d) then 2 ^ d else 0) 0 k))), some (.int (nI k))] [] (sM g σ b (S)) := by
    intro j9
    induction j9 with
    | zero => intro k hmu hk_k; exact absurd hmu (Nat.not_lt_zero _)
    | succ j9 ih_lp =>
      intro k hmu hk_k
      refine w_iload_n dX8_duels_4 rfl ?_
      refine w_aload_n dX8_duels_5 rfl ?_
      refine mg_at dX8_duels_6 rfl ?_
      refine w_iconst (v := nI 2) dX8_duels_9 ki_2 ?_
      refine ma_at dX8_duels_10 (by omega) ?_
      refine w_topN (E.s 2 (by omega)) ?_
      refine w_icmpN_ge dX8_duels_11 rfl (by omega) (by omega) (fun h_11 => ?_) (fun h_11 => ?_)
      · obtain rfl : k = vs V 2 := by omega
        refine w_aload_n dX8_duels_42 rfl ?_
        refine w_iload_n dX8_duels_43 rfl ?_
        refine m_calli1 (mi := miX8_gives) dX8_duels_44 q1839 okX8_gives rfl (Nat.le_of_ble_eq_true rfl) c_gives (Nat.le_of_ble_eq_true rfl) ?_
        exact w_iret dX8_duels_47 rfl ⟨by rfl, by rfl⟩
      · refine w_iload_n dX8_duels_14 rfl ?_
        refine w_aload_n dX8_duels_15 rfl ?_
        refine w_iload_n dX8_duels_16 rfl ?_
        refine m_calli1 (mi := miX8_lastOn) dX8_duels_17 q2000 okX8_lastOn rfl (Nat.le_of_ble_eq_true rfl) (c_lastOn E K (by first | assumption | omega)) (Nat.le_of_ble_eq_true rfl) ?_
        refine s_calli1 (mi := miX8_bits) dX8_duels_20 q2012 okX8_bits (Nat.le_of_ble_eq_true rfl) (c_bits (lastV_lt K (by omega))) (Nat.le_of_ble_eq_true rfl) ?_
        refine w_iconst (v := nI 1) dX8_duels_23 ki_1 ?_
        refine w_icmpN_le dX8_duels_24 rfl (by have := pcnt_le _ (lastV_lt K (d := k) (by omega)); omega) (by omega) (fun h_24 => ?_) (fun h_24 => ?_)
        · refine w_iconst (v := nI 0) dX8_duels_33 ki_0 ?_
          refine w_iorN dX8_duels_34 ?_
          refine w_istore_n dX8_duels_35 rfl (Nat.le_of_ble_eq_true rfl) ls_3_1 ?_
          refine w_iinc dX8_duels_36 rfl (nI_inc _ 1) rfl (Nat.le_of_ble_eq_true rfl) ls_3_2 ?_
          refine w_goto dX8_duels_39 rfl ?_
          exact w_as (ih_lp (k + 1) (by omega) (by omega)) (by simp only [foldN_s]; (try split) <;> first | rfl | (exfalso; first | contradiction | omega | (simp_all; done))) rfl (rfl)
        · refine w_iconst (v := nI 1) dX8_duels_27 ki_1 ?_
          refine w_iload_n dX8_duels_28 rfl ?_
          refine w_shl1N dX8_duels_29 (by omega) ?_
          refine w_goto dX8_duels_30 rfl ?_
          refine w_iorN dX8_duels_34 ?_
          refine w_istore_n dX8_duels_35 rfl (Nat.le_of_ble_eq_true rfl) ls_3_1 ?_
          refine w_iinc dX8_duels_36 rfl (nI_inc _ 1) rfl (Nat.le_of_ble_eq_true rfl) ls_3_2 ?_
          refine w_goto dX8_duels_39 rfl ?_
          exact w_as (ih_lp (k + 1) (by omega) (by omega)) (by simp only [foldN_s]; (try split) <;> first | rfl | (exfalso; first | contradiction | omega | (simp_all; done))) rfl (rfl)
  exact lp (vs V 2 + 1) 0 (by omega) (by omega)
set_option maxHeartbeats 4000000 in
theorem c_needs {g : GG} {S : MS} {x : Int32} {V : VS} (E : Enc S V) (K : OkV V) : Mt g miX8_needs 4 [.int x] (S) (some (.int ((q_needs V x).1))) (sI S 2 (q_needs V x).2) := by
  refine Mt.start (fun b => [some (.ref b), some (.int x), none, none]) plX8 rfl (fun b => (Nat.le_of_ble_eq_true rfl)) (fun b => rfl) ?_
  intro σ b
  have kb := K.b
  refine w_aload_n dX8_needs_0 rfl ?_
  refine w_iload_n dX8_needs_1 rfl ?_
  refine m_calli1 (mi := miX8_isFinder) dX8_needs_2 q1875 okX8_isFinder rfl (Nat.le_of_ble_eq_true rfl) (c_isFinder E K) (Nat.le_of_ble_eq_true rfl) ?_
  refine w_ifB_ne dX8_needs_5 rfl (fun h_5 => ?_) (fun h_5 => ?_)
  · have hx_f := h_5
    obtain ⟨f, hf_f, rfl⟩ := inN_of h_5 (by omega)
    have hcl_f : cl (nI f) = f := nI_clamp (by omega)
    have kf_f := K.f hf_f
    refine w_iconst (v := nI 0) dX8_needs_14 ki_0 ?_
    refine w_istore_n dX8_needs_15 rfl (Nat.le_of_ble_eq_true rfl) ls_4_2 ?_
    refine w_iconst (v := nI 0) dX8_needs_16 ki_0 ?_
    refine w_istore_n dX8_needs_17 rfl (Nat.le_of_ble_eq_true rfl) ls_4_3 ?_
    have lp : ∀ (j9 : Nat) (k : Nat), vs V 2 - k < j9 → k ≤ vs V 2 → Wp g (mtM g miX8_needs 4 σ b (some (.int ((q_needs V (nI f)).1))) (sI S 2 (q_needs V (nI f)).2)) 0 0 18 [some (.ref b), some (.int (nI f)), some (.int (nI (foldN (fun d n => n + if isT V d ∧ lastV V d ≠ 2 ^ f then 1 else 0) 0 k))), some (.int (nI k))] [] (sM g σ b (S)) := by
      intro j9
      induction j9 with
      | zero => intro k hmu hk_k; exact absurd hmu (Nat.not_lt_zero _)
      | succ j9 ih_lp =>
        intro k hmu hk_k
        have hp6 := pow6 f (by omega)
        refine w_iload_n dX8_needs_18 rfl ?_
        refine w_aload_n dX8_needs_19 rfl ?_
        refine mg_at dX8_needs_20 rfl ?_
        refine w_iconst (v := nI 2) dX8_needs_23 ki_2 ?_
        refine ma_at dX8_needs_24 (by omega) ?_
        refine w_topN (E.s 2 (by omega)) ?_
        refine w_icmpN_ge dX8_needs_25 rfl (by omega) (by omega) (fun h_25 => ?_) (fun h_25 => ?_)
        · obtain rfl : k = vs V 2 := by omega
          refine w_aload_n dX8_needs_61 rfl ?_
          refine w_iload_n dX8_needs_62 rfl ?_
          refine m_calli1 (mi := miX8_gives) dX8_needs_63 q1839 okX8_gives rfl (Nat.le_of_ble_eq_true rfl) c_gives (Nat.le_of_ble_eq_true rfl) ?_
          exact w_iret dX8_needs_66 rfl ⟨by first | rfl | (unfold q_needs; (try simp only [hcl_f]); (repeat' split) <;> first | rfl | contradiction | omega | (exfalso; simp_all; done)), by first | rfl | (unfold q_needs; (try simp only [hcl_f]); (repeat' split) <;> first | rfl | contradiction | omega | (exfalso; simp_all; done))⟩
        · refine w_iload_n dX8_needs_28 rfl ?_
          refine w_aload_n dX8_needs_29 rfl ?_
          refine w_iload_n dX8_needs_30 rfl ?_
          refine m_calli1 (mi := miX8_isThere) dX8_needs_31 q1935 okX8_isThere rfl (Nat.le_of_ble_eq_true rfl) (c_isThere E K (by first | assumption | omega)) (Nat.le_of_ble_eq_true rfl) ?_
          refine w_ifB_eq dX8_needs_34 rfl (fun h_34 => ?_) (fun h_34 => ?_)
          · refine w_iconst (v := nI 0) dX8_needs_52 ki_0 ?_
            refine w_iaddN dX8_needs_53 ?_
            refine w_istore_n dX8_needs_54 rfl (Nat.le_of_ble_eq_true rfl) ls_4_2 ?_
            refine w_iinc dX8_needs_55 rfl (nI_inc _ 1) rfl (Nat.le_of_ble_eq_true rfl) ls_4_3 ?_
            refine w_goto dX8_needs_58 rfl ?_
            exact w_as (ih_lp (k + 1) (by omega) (by omega)) (by simp only [foldN_s]; (try split) <;> first | rfl | (exfalso; first | contradiction | omega | (simp_all; done))) rfl (rfl)
          · refine w_aload_n dX8_needs_37 rfl ?_
            refine w_iload_n dX8_needs_38 rfl ?_
            refine m_calli1 (mi := miX8_lastOn) dX8_needs_39 q2000 okX8_lastOn rfl (Nat.le_of_ble_eq_true rfl) (c_lastOn E K (by first | assumption | omega)) (Nat.le_of_ble_eq_true rfl) ?_
            refine w_iconst (v := nI 1) dX8_needs_42 ki_1 ?_
            refine w_iload_n dX8_needs_43 rfl ?_
            refine w_shl1N dX8_needs_44 (by omega) ?_
            refine w_icmpN_eq dX8_needs_45 rfl (by have := lastV_lt K (d := k) (by omega); omega) (by omega) (fun h_45 => ?_) (fun h_45 => ?_)
            · refine w_iconst (v := nI 0) dX8_needs_52 ki_0 ?_
              refine w_iaddN dX8_needs_53 ?_
              refine w_istore_n dX8_needs_54 rfl (Nat.le_of_ble_eq_true rfl) ls_4_2 ?_
              refine w_iinc dX8_needs_55 rfl (nI_inc _ 1) rfl (Nat.le_of_ble_eq_true rfl) ls_4_3 ?_
              refine w_goto dX8_needs_58 rfl ?_
              exact w_as (ih_lp (k + 1) (by omega) (by omega)) (by simp only [foldN_s]; (try split) <;> first | rfl | (exfalso; first | contradiction | omega | (simp_all; done))) rfl (rfl)
            · refine w_iconst (v := nI 1) dX8_needs_48 ki_1 ?_
              refine w_goto dX8_needs_49 rfl ?_
              refine w_iaddN dX8_needs_53 ?_
              refine w_istore_n dX8_needs_54 rfl (Nat.le_of_ble_eq_true rfl) ls_4_2 ?_
              refine w_iinc dX8_needs_55 rfl (nI_inc _ 1) rfl (Nat.le_of_ble_eq_true rfl) ls_4_3 ?_
              refine w_goto dX8_needs_58 rfl ?_
              exact w_as (ih_lp (k + 1) (by omega) (by omega)) (by simp only [foldN_s]; (try split) <;> first | rfl | (exfalso; first | contradiction | omega | (simp_all; done))) rfl (rfl)
    exact lp (vs V 2 + 1) 0 (by omega) (by omega)
  · refine w_aload_n dX8_needs_8 rfl ?_
    refine w_iconst (v := nI 1) dX8_needs_9 ki_1 ?_
    refine m_calli1 (mi := miX8_refuse) dX8_needs_10 q1746 okX8_refuse rfl (Nat.le_of_ble_eq_true rfl) c_refuse (Nat.le_of_ble_eq_true rfl) ?_
    exact w_iret dX8_needs_13 rfl ⟨by first | rfl | (unfold q_needs; (try simp only [hcl_f]); (repeat' split) <;> first | rfl | contradiction | omega | (exfalso; simp_all; done)), by first | rfl | (unfold q_needs; (try simp only [hcl_f]); (repeat' split) <;> first | rfl | contradiction | omega | (exfalso; simp_all; done))⟩
set_option maxHeartbeats 4000000 in
theorem c_strewnOf {g : GG} {S : MS} {f : Nat} {V : VS} (E : Enc S V) (K : OkV V) (hf6 : f < 6) : Mt g miX8_strewnOf 4 [.int (nI f)] (S) (some (.int (nI (strewnV V f)))) (S) := by
  refine Mt.start (fun b => [some (.ref b), some (.int (nI f)), none, none]) plX8 rfl (fun b => (Nat.le_of_ble_eq_true rfl)) (fun b => rfl) ?_
  intro σ b
  have kb := K.b
  refine w_iconst (v := nI 0) dX8_strewnOf_0 ki_0 ?_
  refine w_istore_n dX8_strewnOf_1 rfl (Nat.le_of_ble_eq_true rfl) ls_4_2 ?_
  refine w_iconst (v := nI 0) dX8_strewnOf_2 ki_0 ?_
  refine w_istore_n dX8_strewnOf_3 rfl (Nat.le_of_ble_eq_true rfl) ls_4_3 ?_
  have lp : ∀ (j9 : Nat) (k : Nat), vs V 2 - k < j9 → k ≤ vs V 2 → Wp g (mtM g miX8_strewnOf 4 σ b (some (.int (nI (strewnV V f)))) (S)) 0 0 4 [some (.ref b), some (.int (nI f)), some (.int (nI (foldN (fun d n => n + ownV V d f) 0 k))), some (.int (nI k))] [] (sM g σ b (S)) := by
    intro j9
    induction j9 with
    | zero => intro k hmu hk_k; exact absurd hmu (Nat.not_lt_zero _)
    | succ j9 ih_lp =>
      intro k hmu hk_k
      refine w_iload_n dX8_strewnOf_4 rfl ?_
      refine w_aload_n dX8_strewnOf_5 rfl ?_
      refine mg_at dX8_strewnOf_6 rfl ?_
      refine w_iconst (v := nI 2) dX8_strewnOf_9 ki_2 ?_
      refine ma_at dX8_strewnOf_10 (by omega) ?_
      refine w_topN (E.s 2 (by omega)) ?_
      refine w_icmpN_ge dX8_strewnOf_11 rfl (by omega) (by omega) (fun h_11 => ?_) (fun h_11 => ?_)
      · obtain rfl : k = vs V 2 := by omega
        refine w_iload_n dX8_strewnOf_29 rfl ?_
        exact w_iret dX8_strewnOf_30 rfl ⟨by first | rfl | (simp only [bP, isT, bitN, inN, *, not_true_eq_false, not_false_eq_true, and_true, true_and, and_false, false_and, or_true, true_or, or_false, false_or, and_self, or_self, if_true, if_false, ite_true, ite_false]; done) | (simp [bP, isT, bitN, inN, *]; done) | (simp_all [bP, isT, bitN, inN]; done) | (repeat split) <;> first | rfl | contradiction | simp_all, by first | rfl | (simp only [bP, isT, bitN, inN, *, not_true_eq_false, not_false_eq_true, and_true, true_and, and_false, false_and, or_true, true_or, or_false, false_or, and_self, or_self, if_true, if_false, ite_true, ite_false]; done) | (simp [bP, isT, bitN, inN, *]; done) | (simp_all [bP, isT, bitN, inN]; done) | (repeat split) <;> first | rfl | contradiction | simp_all⟩
      · refine w_iload_n dX8_strewnOf_14 rfl ?_
        refine w_aload_n dX8_strewnOf_15 rfl ?_
        refine w_iload_n dX8_strewnOf_16 rfl ?_
        refine w_iload_n dX8_strewnOf_17 rfl ?_
        refine m_calli2 (mi := miX8_ownMany) dX8_strewnOf_18 q2059 okX8_ownMany rfl (Nat.le_of_ble_eq_true rfl) (c_ownMany E K (by first | assumption | omega) (by first | assumption | omega)) (Nat.le_of_ble_eq_true rfl) ?_
        refine w_iaddN dX8_strewnOf_21 ?_
        refine w_istore_n dX8_strewnOf_22 rfl (Nat.le_of_ble_eq_true rfl) ls_4_2 ?_
        refine w_iinc dX8_strewnOf_23 rfl (nI_inc _ 1) rfl (Nat.le_of_ble_eq_true rfl) ls_4_3 ?_
        refine w_goto dX8_strewnOf_26 rfl ?_
        exact w_as (ih_lp (k + 1) (by omega) (by omega)) (by rfl) rfl (rfl)
  exact lp (vs V 2 + 1) 0 (by omega) (by omega)
set_option maxHeartbeats 4000000 in
theorem c_strewn {g : GG} {S : MS} {x : Int32} {V : VS} (E : Enc S V) (K : OkV V) : Mt g miX8_strewn 5 [.int x] (S) (some (.int ((q_strewn V x).1))) (sI S 2 (q_strewn V x).2) := by
  refine Mt.start (fun b => [some (.ref b), some (.int x)]) plX8 rfl (fun b => (Nat.le_of_ble_eq_true rfl)) (fun b => rfl) ?_
  intro σ b
  have kb := K.b
  refine w_aload_n dX8_strewn_0 rfl ?_
  refine w_iload_n dX8_strewn_1 rfl ?_
  refine m_calli1 (mi := miX8_isFinder) dX8_strewn_2 q1875 okX8_isFinder rfl (Nat.le_of_ble_eq_true rfl) (c_isFinder E K) (Nat.le_of_ble_eq_true rfl) ?_
  refine w_ifB_eq dX8_strewn_5 rfl (fun h_5 => ?_) (fun h_5 => ?_)
  · refine w_aload_n dX8_strewn_20 rfl ?_
    refine w_iconst (v := nI 1) dX8_strewn_21 ki_1 ?_
    refine m_calli1 (mi := miX8_refuse) dX8_strewn_22 q1746 okX8_refuse rfl (Nat.le_of_ble_eq_true rfl) c_refuse (Nat.le_of_ble_eq_true rfl) ?_
    exact w_iret dX8_strewn_25 rfl ⟨by first | rfl | (unfold q_strewn; (try simp only [hcl_f]); (repeat' split) <;> first | rfl | contradiction | omega | (exfalso; simp_all; done)), by first | rfl | (unfold q_strewn; (try simp only [hcl_f]); (repeat' split) <;> first | rfl | contradiction | omega | (exfalso; simp_all; done))⟩
  · have hx_f := h_5
    obtain ⟨f, hf_f, rfl⟩ := inN_of h_5 (by omega)
    have hcl_f : cl (nI f) = f := nI_clamp (by omega)
    have kf_f := K.f hf_f
    refine w_aload_n dX8_strewn_8 rfl ?_
    refine w_aload_n dX8_strewn_9 rfl ?_
    refine w_iload_n dX8_strewn_10 rfl ?_
    refine m_calli1 (mi := miX8_strewnOf) dX8_strewn_11 q2055 okX8_strewnOf rfl (Nat.le_of_ble_eq_true rfl) (c_strewnOf E K (by first | assumption | omega)) (Nat.le_of_ble_eq_true rfl) ?_
    refine m_calli1 (mi := miX8_gives) dX8_strewn_14 q1839 okX8_gives rfl (Nat.le_of_ble_eq_true rfl) c_gives (Nat.le_of_ble_eq_true rfl) ?_
    refine w_goto dX8_strewn_17 rfl ?_
    exact w_iret dX8_strewn_25 rfl ⟨by first | rfl | (unfold q_strewn; (try simp only [hcl_f]); (repeat' split) <;> first | rfl | contradiction | omega | (exfalso; simp_all; done)), by first | rfl | (unfold q_strewn; (try simp only [hcl_f]); (repeat' split) <;> first | rfl | contradiction | omega | (exfalso; simp_all; done))⟩
