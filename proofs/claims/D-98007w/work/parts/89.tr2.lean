set_option maxRecDepth 100000
set_option maxHeartbeats 4000000 in
theorem kX3_by {g : GG} {y : Int32} {C : CS} (hx : oO C 0 = true) : Cp g miX3_by 1 (0) (0) [.ref (od C 0 6), .int y] C (some (.ref (od C 0 6))) (fun C2 => C2 = uI C 0 6 6 y) := by
  refine Cp.start [some (.ref (od C 0 6)), some (.int y)] plX3 rfl (Nat.le_of_ble_eq_true rfl) rfl ?_
  intro σ0 σ H F
  refine w_aload_n dX3_by_0 rfl ?_
  refine w_iload_n dX3_by_1 rfl ?_
  refine pX3_7 (C := C) dX3_by_2 rfl hx H F ?_
  intro σ H F
  refine w_aload_n dX3_by_5 rfl ?_
  exact w_aret dX3_by_6 rfl (Or.inl ⟨_, rfl⟩) ⟨by first | rfl | (simp only [bP, isT, bitN, inN, *, not_true_eq_false, not_false_eq_true, and_true, true_and, and_false, false_and, or_true, true_or, or_false, false_or, and_self, or_self, if_true, if_false, ite_true, ite_false]; done) | (simp [bP, isT, bitN, inN, *]; done) | (simp_all [bP, isT, bitN, inN]; done) | (repeat split) <;> first | rfl | contradiction | simp_all, _, by first | rfl | first | rfl | (simp only [bP, isT, bitN, inN, *, not_true_eq_false, not_false_eq_true, and_true, true_and, and_false, false_and, or_true, true_or, or_false, false_or, and_self, or_self, if_true, if_false, ite_true, ite_false]; done) | (simp [bP, isT, bitN, inN, *]; done) | (simp_all [bP, isT, bitN, inN]; done) | (repeat split) <;> first | rfl | contradiction | simp_all, H, F⟩
set_option maxHeartbeats 4000000 in
theorem kX0_no {g : GG} {C : CS} (hx : oO C 0 = true) : Cp g miX0_no 1 (0) (0) [.ref (od C 0 30), .ref (od C 0 6)] C (some (.int (nI 0))) (fun C2 => C2 = uI C 0 30 7 (oI C 0 6 6)) := by
  refine Cp.start [some (.ref (od C 0 30)), some (.ref (od C 0 6))] plX0 rfl (Nat.le_of_ble_eq_true rfl) rfl ?_
  intro σ0 σ H F
  refine w_aload_n dX0_no_0 rfl ?_
  refine w_aload_n dX0_no_1 rfl ?_
  refine gX0_95 (C := C) dX0_no_2 rfl hx H ?_
  refine pX0_85 (C := C) dX0_no_5 rfl hx H F ?_
  intro σ H F
  refine w_iconst (v := nI 0) dX0_no_8 ki_0 ?_
  exact w_zret dX0_no_9 rfl (by first | exact narr0 | exact narr1) ⟨by first | rfl | (simp only [bP, isT, bitN, inN, *, not_true_eq_false, not_false_eq_true, and_true, true_and, and_false, false_and, or_true, true_or, or_false, false_or, and_self, or_self, if_true, if_false, ite_true, ite_false]; done) | (simp [bP, isT, bitN, inN, *]; done) | (simp_all [bP, isT, bitN, inN]; done) | (repeat split) <;> first | rfl | contradiction | simp_all, _, by first | rfl | first | rfl | (simp only [bP, isT, bitN, inN, *, not_true_eq_false, not_false_eq_true, and_true, true_and, and_false, false_and, or_true, true_or, or_false, false_or, and_self, or_self, if_true, if_false, ite_true, ite_false]; done) | (simp [bP, isT, bitN, inN, *]; done) | (simp_all [bP, isT, bitN, inN]; done) | (repeat split) <;> first | rfl | contradiction | simp_all, H, F⟩
set_option maxHeartbeats 4000000 in
theorem kX0_none {g : GG} {C : CS} (hx : oO C 0 = true) : Cp g miX0_none 1 (0) (0) [.ref (od C 0 30), .ref (od C 0 6)] C (some (.int (nI 0 - nI 1))) (fun C2 => C2 = uI C 0 30 7 (oI C 0 6 6)) := by
  refine Cp.start [some (.ref (od C 0 30)), some (.ref (od C 0 6))] plX0 rfl (Nat.le_of_ble_eq_true rfl) rfl ?_
  intro σ0 σ H F
  refine w_aload_n dX0_none_0 rfl ?_
  refine w_aload_n dX0_none_1 rfl ?_
  refine gX0_95 (C := C) dX0_none_2 rfl hx H ?_
  refine pX0_85 (C := C) dX0_none_5 rfl hx H F ?_
  intro σ H F
  refine w_iconst (v := (-1)) dX0_none_8 ki_m1 ?_
  exact w_iret dX0_none_9 rfl ⟨by first | rfl | (simp only [bP, isT, bitN, inN, *, not_true_eq_false, not_false_eq_true, and_true, true_and, and_false, false_and, or_true, true_or, or_false, false_or, and_self, or_self, if_true, if_false, ite_true, ite_false]; done) | (simp [bP, isT, bitN, inN, *]; done) | (simp_all [bP, isT, bitN, inN]; done) | (repeat split) <;> first | rfl | contradiction | simp_all, _, by first | rfl | first | rfl | (simp only [bP, isT, bitN, inN, *, not_true_eq_false, not_false_eq_true, and_true, true_and, and_false, false_and, or_true, true_or, or_false, false_or, and_self, or_self, if_true, if_false, ite_true, ite_false]; done) | (simp [bP, isT, bitN, inN, *]; done) | (simp_all [bP, isT, bitN, inN]; done) | (repeat split) <;> first | rfl | contradiction | simp_all, H, F⟩
