set_option maxRecDepth 100000
theorem nI_l2 {n : Nat} (h : n < 1000000) : (nI n).toInt64 = lN n := by
  apply Int64.toInt_inj.mp
  rw [Int32.toInt_toInt64, lN_toInt (by omega), nI_toInt (by omega)]
theorem isIn_n {x : Int32} {n : Nat} (hn : n < 1000000) : (¬ lg_cmp x.toInt64 (0 : Int64) < 0 ∧ ¬ 0 < lg_cmp x.toInt64 (nI n - nI 1).toInt64) ↔ inN x n := by
  have e0 : (0 : Int64) = lN 0 := rfl
  cases n with
  | succ m => rw [nI_dn, nI_l2 (by omega)]; exact isFrom_0 (by omega)
  | zero =>
    have h0 := long_ge (x := x) (m := 0) (by omega)
    constructor
    · intro h
      exfalso
      have h1 := h.1
      rw [e0, h0] at h1
      have h2 := h.2
      rw [Int32.not_lt, lg_cmp_le, Int64.le_iff_toInt_le, Int32.toInt_toInt64, Int32.toInt_toInt64] at h2
      rw [Int32.not_lt, Int32.le_iff_toInt_le, nI_toInt (by omega)] at h1
      have h3 : (nI 0 - nI 1).toInt = -1 := by decide +kernel
      omega
    · intro h
      exact absurd (Int32.not_lt.mp h.1) h.2
theorem uI_I (C : CS) (k j f : Nat) (a b : Int32) : uI (uI C k j f a) k j f b = uI C k j f b := by
  have h : up3 (oI (uI C k j f a)) k j f b = up3 (oI C) k j f b := by
    funext x y z
    by_cases h : x = k ∧ y = j ∧ z = f
    · obtain ⟨rfl, rfl, rfl⟩ := h
      rw [up3_eq, up3_eq]
    · have h2 : x = k → y = j → z = f → False := fun u v w => h ⟨u, v, w⟩
      rw [up3_ne _ _ h2, up3_ne _ _ h2, oI_ne C a h2]
  show (_, up3 (oI (uI C k j f a)) k j f b, _) = (_, up3 (oI C) k j f b, _)
  rw [h]
  rfl
set_option maxHeartbeats 4000000 in
theorem kX0_isIn {g : GG} {x : Int64} {y : Int64} {z : Int64}  : Ms g miX0_isIn 1 [.long x, .long y, .long z] (some (.int (bP (¬ lg_cmp x y < 0 ∧ ¬ 0 < lg_cmp x z)))) := by
  refine Ms.start [some (.long x), none, some (.long y), none, some (.long z), none] plX0 rfl (Nat.le_of_ble_eq_true rfl) rfl ?_
  intro σ
  refine w_lload_n dX0_isIn_0 rfl ?_
  refine w_lload_n dX0_isIn_1 rfl ?_
  refine w_lcmp dX0_isIn_2 ?_
  refine w_if_lt dX0_isIn_3 rfl (fun h_3 => ?_) (fun h_3 => ?_)
  · refine w_iconst (v := nI 0) dX0_isIn_17 ki_0 ?_
    exact w_zret dX0_isIn_18 rfl (by first | exact narr0 | exact narr1) ⟨by first | rfl | (simp only [bP, isT, bitN, inN, *, not_true_eq_false, not_false_eq_true, and_true, true_and, and_false, false_and, or_true, true_or, or_false, false_or, and_self, or_self, if_true, if_false, ite_true, ite_false]; done) | (simp [bP, isT, bitN, inN, *]; done) | (simp_all [bP, isT, bitN, inN]; done) | (repeat split) <;> first | rfl | contradiction | simp_all, rfl⟩
  · refine w_lload_n dX0_isIn_6 rfl ?_
    refine w_lload dX0_isIn_7 rfl ?_
    refine w_lcmp dX0_isIn_9 ?_
    refine w_if_gt dX0_isIn_10 rfl (fun h_10 => ?_) (fun h_10 => ?_)
    · refine w_iconst (v := nI 0) dX0_isIn_17 ki_0 ?_
      exact w_zret dX0_isIn_18 rfl (by first | exact narr0 | exact narr1) ⟨by first | rfl | (simp only [bP, isT, bitN, inN, *, not_true_eq_false, not_false_eq_true, and_true, true_and, and_false, false_and, or_true, true_or, or_false, false_or, and_self, or_self, if_true, if_false, ite_true, ite_false]; done) | (simp [bP, isT, bitN, inN, *]; done) | (simp_all [bP, isT, bitN, inN]; done) | (repeat split) <;> first | rfl | contradiction | simp_all, rfl⟩
    · refine w_iconst (v := nI 1) dX0_isIn_13 ki_1 ?_
      refine w_goto dX0_isIn_14 rfl ?_
      exact w_zret dX0_isIn_18 rfl (by first | exact narr0 | exact narr1) ⟨by first | rfl | (simp only [bP, isT, bitN, inN, *, not_true_eq_false, not_false_eq_true, and_true, true_and, and_false, false_and, or_true, true_or, or_false, false_or, and_self, or_self, if_true, if_false, ite_true, ite_false]; done) | (simp [bP, isT, bitN, inN, *]; done) | (simp_all [bP, isT, bitN, inN]; done) | (repeat split) <;> first | rfl | contradiction | simp_all, rfl⟩
theorem kX0_isIn0 {g : GG} {x : Int32} {m : Nat} (hm : m < 1000000) : Ms g miX0_isIn 1 [.long x.toInt64, .long (0 : Int64), .long (lN m)] (some (.int (bP (inN x (m + 1))))) := by
  have h := kX0_isIn (g := g) (x := x.toInt64) (y := (0 : Int64)) (z := (lN m))
  have e : bP (¬ lg_cmp x.toInt64 (0 : Int64) < 0 ∧ ¬ 0 < lg_cmp x.toInt64 (lN m)) = bP (inN x (m + 1)) := by
    unfold bP
    simp only [isFrom_0 hm]
  rw [e] at h
  exact h
theorem kX0_isIn1 {g : GG} {x : Int32} {m : Nat} (hm : m < 1000000) : Ms g miX0_isIn 1 [.long x.toInt64, .long (1 : Int64), .long (lN m)] (some (.int (bP (inN x (m + 1) ∧ x ≠ nI 0)))) := by
  have h := kX0_isIn (g := g) (x := x.toInt64) (y := (1 : Int64)) (z := (lN m))
  have e : bP (¬ lg_cmp x.toInt64 (1 : Int64) < 0 ∧ ¬ 0 < lg_cmp x.toInt64 (lN m)) = bP (inN x (m + 1) ∧ x ≠ nI 0) := by
    unfold bP
    simp only [isFrom_1 hm]
  rw [e] at h
  exact h
theorem kX0_isInD {g : GG} {x : Int32} {m : Nat} (hm : m < 1000000) : Ms g miX0_isIn 1 [.long x.toInt64, .long (0 : Int64), .long (nI m - nI 1).toInt64] (some (.int (bP (inN x m)))) := by
  have h := kX0_isIn (g := g) (x := x.toInt64) (y := (0 : Int64)) (z := (nI m - nI 1).toInt64)
  have e : bP (¬ lg_cmp x.toInt64 (0 : Int64) < 0 ∧ ¬ 0 < lg_cmp x.toInt64 (nI m - nI 1).toInt64) = bP (inN x m) := by
    unfold bP
    simp only [isIn_n hm]
  rw [e] at h
  exact h
set_option maxHeartbeats 4000000 in
theorem kX0_status {g : GG} {C : CS} (hx : oO C 0 = true) : Cr g miX0_status 1 [.ref (od C 0 30)] C (some (.int (oI C 0 30 7))) := by
  refine Cr.start [some (.ref (od C 0 30))] plX0 rfl (Nat.le_of_ble_eq_true rfl) rfl ?_
  intro σ H
  refine w_aload_n dX0_status_0 rfl ?_
  refine gX0_85 (C := C) dX0_status_1 rfl hx H ?_
  exact w_iret dX0_status_4 rfl ⟨by first | rfl | (simp only [bP, isT, bitN, inN, *, not_true_eq_false, not_false_eq_true, and_true, true_and, and_false, false_and, or_true, true_or, or_false, false_or, and_self, or_self, if_true, if_false, ite_true, ite_false]; done) | (simp [bP, isT, bitN, inN, *]; done) | (simp_all [bP, isT, bitN, inN]; done) | (repeat split) <;> first | rfl | contradiction | simp_all, rfl⟩
set_option maxHeartbeats 4000000 in
theorem kX0_top {g : GG} {C : CS} (hx : oO C 0 = true) : Cr g miX0_top 1 [.ref (od C 0 30)] C (some (.long (oL C 8))) := by
  refine Cr.start [some (.ref (od C 0 30))] plX0 rfl (Nat.le_of_ble_eq_true rfl) rfl ?_
  intro σ H
  refine w_aload_n dX0_top_0 rfl ?_
  refine gX0_88 (C := C) dX0_top_1 rfl hx H ?_
  exact w_lret dX0_top_4 rfl ⟨by first | rfl | (simp only [bP, isT, bitN, inN, *, not_true_eq_false, not_false_eq_true, and_true, true_and, and_false, false_and, or_true, true_or, or_false, false_or, and_self, or_self, if_true, if_false, ite_true, ite_false]; done) | (simp [bP, isT, bitN, inN, *]; done) | (simp_all [bP, isT, bitN, inN]; done) | (repeat split) <;> first | rfl | contradiction | simp_all, rfl⟩
set_option maxHeartbeats 4000000 in
theorem kX0_bottom {g : GG} {C : CS} (hx : oO C 0 = true) : Cr g miX0_bottom 1 [.ref (od C 0 30)] C (some (.long (oL C 9))) := by
  refine Cr.start [some (.ref (od C 0 30))] plX0 rfl (Nat.le_of_ble_eq_true rfl) rfl ?_
  intro σ H
  refine w_aload_n dX0_bottom_0 rfl ?_
  refine gX0_48 (C := C) dX0_bottom_1 rfl hx H ?_
  exact w_lret dX0_bottom_4 rfl ⟨by first | rfl | (simp only [bP, isT, bitN, inN, *, not_true_eq_false, not_false_eq_true, and_true, true_and, and_false, false_and, or_true, true_or, or_false, false_or, and_self, or_self, if_true, if_false, ite_true, ite_false]; done) | (simp [bP, isT, bitN, inN, *]; done) | (simp_all [bP, isT, bitN, inN]; done) | (repeat split) <;> first | rfl | contradiction | simp_all, rfl⟩
set_option maxHeartbeats 4000000 in
theorem kX0_day {g : GG} {C : CS} (hx : oO C 0 = true) (h0 : oO C 0 = true) : Cr g miX0_day 1 [.ref (od C 0 30)] C (some (.ref (od C 3 0))) := by
  refine Cr.start [some (.ref (od C 0 30))] plX0 rfl (Nat.le_of_ble_eq_true rfl) rfl ?_
  intro σ H
  refine w_aload_n dX0_day_0 rfl ?_
  refine gX0_55 (C := C) dX0_day_1 rfl hx H ?_
  refine gX0_158 (C := C) dX0_day_4 rfl h0 (by omega) H ?_
  exact w_aret dX0_day_7 rfl (Or.inl ⟨_, rfl⟩) ⟨by first | rfl | (simp only [bP, isT, bitN, inN, *, not_true_eq_false, not_false_eq_true, and_true, true_and, and_false, false_and, or_true, true_or, or_false, false_or, and_self, or_self, if_true, if_false, ite_true, ite_false]; done) | (simp [bP, isT, bitN, inN, *]; done) | (simp_all [bP, isT, bitN, inN]; done) | (repeat split) <;> first | rfl | contradiction | simp_all, rfl⟩
set_option maxHeartbeats 4000000 in
theorem kX0_beach {g : GG} {C : CS} (hx : oO C 0 = true) (h0 : oO C 0 = true) : Cr g miX0_beach_2 1 [.ref (od C 0 30)] C (some (.ref (oB C 0))) := by
  refine Cr.start [some (.ref (od C 0 30))] plX0 rfl (Nat.le_of_ble_eq_true rfl) rfl ?_
  intro σ H
  refine w_aload_n dX0_beach_2_0 rfl ?_
  refine gX0_55 (C := C) dX0_beach_2_1 rfl hx H ?_
  refine gX0_158 (C := C) dX0_beach_2_4 rfl h0 (by omega) H ?_
  refine gX0_161 (C := C) dX0_beach_2_7 rfl h0 H ?_
  exact w_aret dX0_beach_2_10 rfl (Or.inl ⟨_, rfl⟩) ⟨by first | rfl | (simp only [bP, isT, bitN, inN, *, not_true_eq_false, not_false_eq_true, and_true, true_and, and_false, false_and, or_true, true_or, or_false, false_or, and_self, or_self, if_true, if_false, ite_true, ite_false]; done) | (simp [bP, isT, bitN, inN, *]; done) | (simp_all [bP, isT, bitN, inN]; done) | (repeat split) <;> first | rfl | contradiction | simp_all, rfl⟩
set_option maxHeartbeats 4000000 in
theorem kX0_isFinder {g : GG} {C : CS} {V : VS} {q : Nat → Nat} {x : Int32} (hx : oO C 0 = true) (h0 : oO C 0 = true) (E : EncD g C 0 V q) (K : OkV V) : Cr g miX0_isFinder 2 [.ref (od C 0 30), .int x] C (some (.int (bP (inN x (vs V 1))))) := by
  refine Cr.start [some (.ref (od C 0 30)), some (.int x)] plX0 rfl (Nat.le_of_ble_eq_true rfl) rfl ?_
  intro σ H
  have kb := K.b
  refine w_iload_n dX0_isFinder_0 rfl ?_
  refine w_i2l dX0_isFinder_1 rfl ?_
  refine w_lconst (v := 0) dX0_isFinder_2 rfl ?_
  refine w_aload_n dX0_isFinder_3 rfl ?_
  refine cr_call (mi := miX0_beach_2) dX0_isFinder_4 q934 okX0_beach_2 clX0 rfl (H.get (ce_X hx)) (Nat.le_of_ble_eq_true rfl) (kX0_beach (C := C) hx h0) H rfl rfl (Nat.le_of_ble_eq_true rfl) ?_
  refine gX0_168 (C := C) dX0_isFinder_7 rfl E H ?_
  refine w_iconst (v := nI 1) dX0_isFinder_10 ki_1 ?_
  refine w_isub dX0_isFinder_11 ?_
  refine w_i2l dX0_isFinder_12 rfl ?_
  refine cs_call (mi := miX0_isIn) dX0_isFinder_13 q1016 okX0_isIn (Nat.le_of_ble_eq_true rfl) (kX0_isInD (m := vs V 1) (by first | assumption | omega)) rfl rfl (Nat.le_of_ble_eq_true rfl) ?_
  exact w_zret dX0_isFinder_16 rfl narrB ⟨by first | rfl | (simp only [bP, isT, bitN, inN, *, not_true_eq_false, not_false_eq_true, and_true, true_and, and_false, false_and, or_true, true_or, or_false, false_or, and_self, or_self, if_true, if_false, ite_true, ite_false]; done) | (simp [bP, isT, bitN, inN, *]; done) | (simp_all [bP, isT, bitN, inN]; done) | (repeat split) <;> first | rfl | contradiction | simp_all, rfl⟩
set_option maxHeartbeats 4000000 in
theorem kX0_isFind {g : GG} {C : CS} {V : VS} {q : Nat → Nat} {x : Int32} (hx : oO C 0 = true) (h0 : oO C 0 = true) (E : EncD g C 0 V q) (K : OkV V) : Cr g miX0_isFind 2 [.ref (od C 0 30), .int x] C (some (.int (bP (inN x (vs V 2))))) := by
  refine Cr.start [some (.ref (od C 0 30)), some (.int x)] plX0 rfl (Nat.le_of_ble_eq_true rfl) rfl ?_
  intro σ H
  have kb := K.b
  refine w_iload_n dX0_isFind_0 rfl ?_
  refine w_i2l dX0_isFind_1 rfl ?_
  refine w_lconst (v := 0) dX0_isFind_2 rfl ?_
  refine w_aload_n dX0_isFind_3 rfl ?_
  refine cr_call (mi := miX0_beach_2) dX0_isFind_4 q934 okX0_beach_2 clX0 rfl (H.get (ce_X hx)) (Nat.le_of_ble_eq_true rfl) (kX0_beach (C := C) hx h0) H rfl rfl (Nat.le_of_ble_eq_true rfl) ?_
  refine gX0_177 (C := C) dX0_isFind_7 rfl E H ?_
  refine w_iconst (v := nI 1) dX0_isFind_10 ki_1 ?_
  refine w_isub dX0_isFind_11 ?_
  refine w_i2l dX0_isFind_12 rfl ?_
  refine cs_call (mi := miX0_isIn) dX0_isFind_13 q1016 okX0_isIn (Nat.le_of_ble_eq_true rfl) (kX0_isInD (m := vs V 2) (by first | assumption | omega)) rfl rfl (Nat.le_of_ble_eq_true rfl) ?_
  exact w_zret dX0_isFind_16 rfl narrB ⟨by first | rfl | (simp only [bP, isT, bitN, inN, *, not_true_eq_false, not_false_eq_true, and_true, true_and, and_false, false_and, or_true, true_or, or_false, false_or, and_self, or_self, if_true, if_false, ite_true, ite_false]; done) | (simp [bP, isT, bitN, inN, *]; done) | (simp_all [bP, isT, bitN, inN]; done) | (repeat split) <;> first | rfl | contradiction | simp_all, rfl⟩
set_option maxHeartbeats 4000000 in
theorem kX0_areThere {g : GG} {C : CS} {V : VS} {q : Nat → Nat} {x : Int32} {y : Int32} (hx : oO C 0 = true) (h0 : oO C 0 = true) (E : EncD g C 0 V q) (K : OkV V) : Cr g miX0_areThere 3 [.ref (od C 0 30), .int x, .int y] C (some (.int (bP (inN x (vs V 1) ∧ inN y (vs V 2))))) := by
  refine Cr.start [some (.ref (od C 0 30)), some (.int x), some (.int y)] plX0 rfl (Nat.le_of_ble_eq_true rfl) rfl ?_
  intro σ H
  have kb := K.b
  refine w_aload_n dX0_areThere_0 rfl ?_
  refine w_iload_n dX0_areThere_1 rfl ?_
  refine cr_call (mi := miX0_isFinder) dX0_areThere_2 q1027 okX0_isFinder clX0 rfl (H.get (ce_X hx)) (Nat.le_of_ble_eq_true rfl) (kX0_isFinder (C := C) hx h0 E K) H rfl rfl (Nat.le_of_ble_eq_true rfl) ?_
  refine w_ifB_eq dX0_areThere_5 rfl (fun h_5 => ?_) (fun h_5 => ?_)
  · refine w_iconst (v := nI 0) dX0_areThere_20 ki_0 ?_
    exact w_zret dX0_areThere_21 rfl (by first | exact narr0 | exact narr1) ⟨by first | rfl | (exact congrArg (fun z => some (Value.int z)) (bP_t ⟨by assumption, by assumption⟩).symm) | (exact congrArg (fun z => some (Value.int z)) (bP_f (fun z => by first | exact absurd z.1 (by assumption) | exact absurd z.2 (by assumption))).symm), rfl⟩
  · refine w_aload_n dX0_areThere_8 rfl ?_
    refine w_iload_n dX0_areThere_9 rfl ?_
    refine cr_call (mi := miX0_isFind) dX0_areThere_10 q1036 okX0_isFind clX0 rfl (H.get (ce_X hx)) (Nat.le_of_ble_eq_true rfl) (kX0_isFind (C := C) hx h0 E K) H rfl rfl (Nat.le_of_ble_eq_true rfl) ?_
    refine w_ifB_eq dX0_areThere_13 rfl (fun h_13 => ?_) (fun h_13 => ?_)
    · refine w_iconst (v := nI 0) dX0_areThere_20 ki_0 ?_
      exact w_zret dX0_areThere_21 rfl (by first | exact narr0 | exact narr1) ⟨by first | rfl | (exact congrArg (fun z => some (Value.int z)) (bP_t ⟨by assumption, by assumption⟩).symm) | (exact congrArg (fun z => some (Value.int z)) (bP_f (fun z => by first | exact absurd z.1 (by assumption) | exact absurd z.2 (by assumption))).symm), rfl⟩
    · refine w_iconst (v := nI 1) dX0_areThere_16 ki_1 ?_
      refine w_goto dX0_areThere_17 rfl ?_
      exact w_zret dX0_areThere_21 rfl (by first | exact narr0 | exact narr1) ⟨by first | rfl | (exact congrArg (fun z => some (Value.int z)) (bP_t ⟨by assumption, by assumption⟩).symm) | (exact congrArg (fun z => some (Value.int z)) (bP_f (fun z => by first | exact absurd z.1 (by assumption) | exact absurd z.2 (by assumption))).symm), rfl⟩
set_option maxHeartbeats 4000000 in
theorem kX0_whyGone {g : GG} {C : CS} {V : VS} {q : Nat → Nat} {x : Int32} (hx : oO C 0 = true) (h0 : oO C 0 = true) (E : EncD g C 0 V q) (K : OkV V) : Cr g miX0_whyGone 3 [.ref (od C 0 30), .int x] C (some (.int (nI (wfV V x)))) := by
  refine Cr.start [some (.ref (od C 0 30)), some (.int x)] plX0 rfl (Nat.le_of_ble_eq_true rfl) rfl ?_
  intro σ H
  have kb := K.b
  refine w_aload_n dX0_whyGone_0 rfl ?_
  refine w_iload_n dX0_whyGone_1 rfl ?_
  refine cr_call (mi := miX0_isFind) dX0_whyGone_2 q1036 okX0_isFind clX0 rfl (H.get (ce_X hx)) (Nat.le_of_ble_eq_true rfl) (kX0_isFind (C := C) hx h0 E K) H rfl rfl (Nat.le_of_ble_eq_true rfl) ?_
  refine w_ifB_ne dX0_whyGone_5 rfl (fun h_5 => ?_) (fun h_5 => ?_)
  · have hx_d := h_5
    obtain ⟨d, hd, rfl⟩ := inN_of h_5 (by omega)
    have hcl_d : cl (nI d) = d := nI_clamp (by omega)
    refine w_aload_n dX0_whyGone_12 rfl ?_
    refine cr_call (mi := miX0_day) dX0_whyGone_13 q886 okX0_day clX0 rfl (H.get (ce_X hx)) (Nat.le_of_ble_eq_true rfl) (kX0_day (C := C) hx h0) H rfl rfl (Nat.le_of_ble_eq_true rfl) ?_
    refine w_iload_n dX0_whyGone_16 rfl ?_
    refine cr_call (mi := miX5_isThere) dX0_whyGone_17 q1183 okX5_isThere clX5 rfl (H.get (ce_day h0)) (Nat.le_of_ble_eq_true rfl) (kX5_isThere (C := C) h0 E K (by first | assumption | omega)) H rfl rfl (Nat.le_of_ble_eq_true rfl) ?_
    refine w_ifB_eq dX0_whyGone_20 rfl (fun h_20 => ?_) (fun h_20 => ?_)
    · refine w_bipush (v := nI 7) dX0_whyGone_27 kb_7 ?_
      exact w_iret dX0_whyGone_29 rfl ⟨by first | (rw [wfV, if_pos hx_d, hcl_d, if_pos (by assumption)]; done) | (rw [wfV, if_pos hx_d, hcl_d, if_neg (by assumption)]; done) | (rw [wfV, if_neg (by assumption)]; done), rfl⟩
    · refine w_iconst (v := nI 0) dX0_whyGone_23 ki_0 ?_
      refine w_goto dX0_whyGone_24 rfl ?_
      exact w_iret dX0_whyGone_29 rfl ⟨by first | (rw [wfV, if_pos hx_d, hcl_d, if_pos (by assumption)]; done) | (rw [wfV, if_pos hx_d, hcl_d, if_neg (by assumption)]; done) | (rw [wfV, if_neg (by assumption)]; done), rfl⟩
  · refine w_iconst (v := nI 1) dX0_whyGone_8 ki_1 ?_
    refine w_goto dX0_whyGone_9 rfl ?_
    exact w_iret dX0_whyGone_29 rfl ⟨by first | (rw [wfV, if_pos hx_d, hcl_d, if_pos (by assumption)]; done) | (rw [wfV, if_pos hx_d, hcl_d, if_neg (by assumption)]; done) | (rw [wfV, if_neg (by assumption)]; done), rfl⟩
set_option maxHeartbeats 4000000 in
theorem kX0_answer {g : GG} {C : CS} {v : Int32} (hx : oO C 0 = true) : Cp g miX0_answer 1 (0) (0) [.ref (od C 0 30), .int v] C (some (.int (v))) (fun C2 => C2 = uI C 0 30 7 (if v < 0 then nI 6 else nI 0)) := by
  refine Cp.start [some (.ref (od C 0 30)), some (.int v)] plX0 rfl (Nat.le_of_ble_eq_true rfl) rfl ?_
  intro σ0 σ H F
  refine w_aload_n dX0_answer_0 rfl ?_
  refine w_iload_n dX0_answer_1 rfl ?_
  refine w_if_ge dX0_answer_2 rfl (fun h_2 => ?_) (fun h_2 => ?_)
  · have h_2 : ¬ v < 0 := Int32.not_lt.mpr h_2
    refine w_iconst (v := nI 0) dX0_answer_10 ki_0 ?_
    refine pX0_85 (C := C) dX0_answer_11 rfl hx H F ?_
    intro σ H F
    refine w_iload_n dX0_answer_14 rfl ?_
    exact w_iret dX0_answer_15 rfl ⟨by rfl, _, by first | (rw [if_neg h_2]; done) | (rw [if_pos h_2]; done), H, F⟩
  · have h_2 : v < 0 := Int32.not_le.mp h_2
    refine w_bipush (v := nI 6) dX0_answer_5 kb_6 ?_
    refine w_goto dX0_answer_7 rfl ?_
    refine pX0_85 (C := C) dX0_answer_11 rfl hx H F ?_
    intro σ H F
    refine w_iload_n dX0_answer_14 rfl ?_
    exact w_iret dX0_answer_15 rfl ⟨by rfl, _, by first | (rw [if_neg h_2]; done) | (rw [if_pos h_2]; done), H, F⟩
theorem ans_or {c : Nat} (h : c < 1073741824) : (if nI c - nI 1 < 0 then nI 6 else nI 0) = (orA c).2 := by
  unfold orA
  by_cases z : c = 0
  · rw [if_pos ((dn_lt h).mpr z), if_pos z]
  · rw [if_neg (mt (dn_lt h).mp z), if_neg z]
theorem kX0_answerO {g : GG} {C : CS} {c : Nat} (hx : oO C 0 = true) (hc : c < 1073741824) : Cp g miX0_answer 1 0 0 [.ref (od C 0 30), .int (nI c - nI 1)] C (some (.int (nI c - nI 1))) (fun C2 => C2 = uI C 0 30 7 (orA c).2) := (kX0_answer (v := nI c - nI 1) hx).mono (fun C2 h => by rw [h, ans_or hc])
theorem kX0_answerN {g : GG} {C : CS} {c : Nat} (hx : oO C 0 = true) (hc : c < 1073741824) : Cp g miX0_answer 1 0 0 [.ref (od C 0 30), .int (nI c)] C (some (.int (nI c))) (fun C2 => C2 = uI C 0 30 7 (nI 0)) := (kX0_answer (v := nI c) hx).mono (fun C2 h => by rw [h, if_neg (nI_pos (by omega))])
theorem kX0_answerM {g : GG} {C : CS} (hx : oO C 0 = true) : Cp g miX0_answer 1 0 0 [.ref (od C 0 30), .int (-1)] C (some (.int (-1))) (fun C2 => C2 = uI C 0 30 7 (nI 6)) := (kX0_answer (v := -1) hx).mono (fun C2 h => by rw [h]; rfl)
