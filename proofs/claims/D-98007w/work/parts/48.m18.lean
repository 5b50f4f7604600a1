set_option maxRecDepth 100000
def a_lived (S : MS) (x : Int32) : AS := if inN x 5 then (if mI S 36 = 0 then (-1, nI 6) else (mA S 35 (cl x), nI 0)) else (-1, nI 1)
def a_fault (S : MS) (x : Int32) : Int32 := if x = 0 then mI S 16 else if x = nI 1 then mI S 17 else -1
abbrev isSm (x : Int32) : Prop := ¬ x < nI 97 ∧ ¬ nI 122 < x
abbrev isDg (x : Int32) : Prop := ¬ x < nI 48 ∧ ¬ nI 57 < x
set_option maxHeartbeats 4000000 in
theorem c_lived {g : GG} {S : MS} {x : Int32}  : Mt g miX8_lived 2 [.int x] (S) (some (.int ((a_lived S x).1))) (sI S 2 (a_lived S x).2) := by
  refine Mt.start (fun b => [some (.ref b), some (.int x)]) plX8 rfl (fun b => (Nat.le_of_ble_eq_true rfl)) (fun b => rfl) ?_
  intro σ b
  refine w_iload_n dX8_lived_0 rfl ?_
  refine w_if_lt dX8_lived_1 rfl (fun h_1 => ?_) (fun h_1 => ?_)
  · have hno : ¬ inN x 5 := out_lt h_1
    refine w_aload_n dX8_lived_9 rfl ?_
    refine w_iconst (v := nI 1) dX8_lived_10 ki_1 ?_
    refine m_calli1 (mi := miX8_refuse) dX8_lived_11 q1746 okX8_refuse rfl (Nat.le_of_ble_eq_true rfl) c_refuse (Nat.le_of_ble_eq_true rfl) ?_
    refine w_goto dX8_lived_14 rfl ?_
    exact w_iret dX8_lived_43 rfl ⟨by first | (rw [a_lived, if_neg hno]; done) | (rw [a_lived, if_neg hno]; rfl), by first | (rw [a_lived, if_neg hno]; done) | (rw [a_lived, if_neg hno]; rfl)⟩
  · refine w_iload_n dX8_lived_4 rfl ?_
    refine w_iconst (v := nI 4) dX8_lived_5 ki_4 ?_
    refine w_icmp_le dX8_lived_6 rfl (fun h_6 => ?_) (fun h_6 => ?_)
    · obtain ⟨q, hf_q, rfl⟩ := inN_of (in_le h_1 h_6 (by omega)) (by omega)
      have hcl_q : cl (nI q) = q := nI_clamp (by omega)
      have hx_q : inN (nI q) 5 := inN_nI hf_q (by omega)
      refine w_aload_n dX8_lived_17 rfl ?_
      refine mg_isTold dX8_lived_18 rfl ?_
      refine w_if_eq dX8_lived_21 rfl (fun h_21 => ?_) (fun h_21 => ?_)
      · refine w_aload_n dX8_lived_37 rfl ?_
        refine w_bipush (v := nI 6) dX8_lived_38 kb_6 ?_
        refine m_calli1 (mi := miX8_refuse) dX8_lived_40 q1746 okX8_refuse rfl (Nat.le_of_ble_eq_true rfl) c_refuse (Nat.le_of_ble_eq_true rfl) ?_
        exact w_iret dX8_lived_43 rfl ⟨by first | (rw [a_lived, if_pos hx_q, if_pos h_21]; done) | (rw [a_lived, if_pos hx_q, if_pos h_21]; rfl), by first | (rw [a_lived, if_pos hx_q, if_pos h_21]; done) | (rw [a_lived, if_pos hx_q, if_pos h_21]; rfl)⟩
      · refine w_aload_n dX8_lived_24 rfl ?_
        refine w_aload_n dX8_lived_25 rfl ?_
        refine mg_told0 dX8_lived_26 rfl ?_
        refine w_iload_n dX8_lived_29 rfl ?_
        refine ma_told0 dX8_lived_30 (by omega) ?_
        refine m_calli1 (mi := miX8_gives) dX8_lived_31 q1839 okX8_gives rfl (Nat.le_of_ble_eq_true rfl) c_gives (Nat.le_of_ble_eq_true rfl) ?_
        refine w_goto dX8_lived_34 rfl ?_
        exact w_iret dX8_lived_43 rfl ⟨by first | (rw [a_lived, if_pos hx_q, if_neg h_21, hcl_q]; done) | (rw [a_lived, if_pos hx_q, if_neg h_21, hcl_q]; rfl), by first | (rw [a_lived, if_pos hx_q, if_neg h_21, hcl_q]; done) | (rw [a_lived, if_pos hx_q, if_neg h_21, hcl_q]; rfl)⟩
    · have hno := out_gt (Int32.not_le.mp h_6) (by omega)
      refine w_aload_n dX8_lived_9 rfl ?_
      refine w_iconst (v := nI 1) dX8_lived_10 ki_1 ?_
      refine m_calli1 (mi := miX8_refuse) dX8_lived_11 q1746 okX8_refuse rfl (Nat.le_of_ble_eq_true rfl) c_refuse (Nat.le_of_ble_eq_true rfl) ?_
      refine w_goto dX8_lived_14 rfl ?_
      exact w_iret dX8_lived_43 rfl ⟨by first | (rw [a_lived, if_neg hno]; done) | (rw [a_lived, if_neg hno]; rfl), by first | (rw [a_lived, if_neg hno]; done) | (rw [a_lived, if_neg hno]; rfl)⟩
set_option maxHeartbeats 4000000 in
theorem c_fault {g : GG} {S : MS} {x : Int32}  : Mt g miX8_fault 1 [.int x] (S) (some (.int (a_fault S x))) (S) := by
  refine Mt.start (fun b => [some (.ref b), some (.int x)]) plX8 rfl (fun b => (Nat.le_of_ble_eq_true rfl)) (fun b => rfl) ?_
  intro σ b
  refine w_iload_n dX8_fault_0 rfl ?_
  refine w_if_ne dX8_fault_1 rfl (fun h_1 => ?_) (fun h_1 => ?_)
  · refine w_iload_n dX8_fault_11 rfl ?_
    refine w_iconst (v := nI 1) dX8_fault_12 ki_1 ?_
    refine w_icmp_ne dX8_fault_13 rfl (fun h_13 => ?_) (fun h_13 => ?_)
    · refine w_iconst (v := (-1)) dX8_fault_23 ki_m1 ?_
      exact w_iret dX8_fault_24 rfl ⟨by rw [a_fault, if_neg h_1, if_neg h_13], by first | rfl | (simp only [bP, isT, bitN, inN, *, not_true_eq_false, not_false_eq_true, and_true, true_and, and_false, false_and, or_true, true_or, or_false, false_or, and_self, or_self, if_true, if_false, ite_true, ite_false]; done) | (simp [bP, isT, bitN, inN, *]; done) | (simp_all [bP, isT, bitN, inN]; done) | (repeat split) <;> first | rfl | contradiction | simp_all⟩
    · refine w_aload_n dX8_fault_16 rfl ?_
      refine mg_faultPlace dX8_fault_17 rfl ?_
      refine w_goto dX8_fault_20 rfl ?_
      exact w_iret dX8_fault_24 rfl ⟨by rw [a_fault, if_neg h_1, if_pos h_13], by first | rfl | (simp only [bP, isT, bitN, inN, *, not_true_eq_false, not_false_eq_true, and_true, true_and, and_false, false_and, or_true, true_or, or_false, false_or, and_self, or_self, if_true, if_false, ite_true, ite_false]; done) | (simp [bP, isT, bitN, inN, *]; done) | (simp_all [bP, isT, bitN, inN]; done) | (repeat split) <;> first | rfl | contradiction | simp_all⟩
  · refine w_aload_n dX8_fault_4 rfl ?_
    refine mg_faultKind dX8_fault_5 rfl ?_
    refine w_goto dX8_fault_8 rfl ?_
    exact w_iret dX8_fault_24 rfl ⟨by rw [a_fault, if_pos h_1], by first | rfl | (simp only [bP, isT, bitN, inN, *, not_true_eq_false, not_false_eq_true, and_true, true_and, and_false, false_and, or_true, true_or, or_false, false_or, and_self, or_self, if_true, if_false, ite_true, ite_false]; done) | (simp [bP, isT, bitN, inN, *]; done) | (simp_all [bP, isT, bitN, inN]; done) | (repeat split) <;> first | rfl | contradiction | simp_all⟩
set_option maxHeartbeats 4000000 in
theorem c_isSmall {g : GG} {x : Int32}  : Ms g miX8_isSmall 1 [.int x] (some (.int (bP (isSm x)))) := by
  refine Ms.start [some (.int x)] plX8 rfl (Nat.le_of_ble_eq_true rfl) rfl ?_
  intro σ
  refine w_iload_n dX8_isSmall_0 rfl ?_
  refine w_bipush (v := nI 97) dX8_isSmall_1 kb_97 ?_
  refine w_icmp_lt dX8_isSmall_3 rfl (fun h_3 => ?_) (fun h_3 => ?_)
  · refine w_iconst (v := nI 0) dX8_isSmall_16 ki_0 ?_
    exact w_zret dX8_isSmall_17 rfl (by first | exact narr0 | exact narr1) ⟨by rw [bP_f (fun z => z.1 h_3)], by first | rfl | (simp only [bP, isT, bitN, inN, *, not_true_eq_false, not_false_eq_true, and_true, true_and, and_false, false_and, or_true, true_or, or_false, false_or, and_self, or_self, if_true, if_false, ite_true, ite_false]; done) | (simp [bP, isT, bitN, inN, *]; done) | (simp_all [bP, isT, bitN, inN]; done) | (repeat split) <;> first | rfl | contradiction | simp_all⟩
  · refine w_iload_n dX8_isSmall_6 rfl ?_
    refine w_bipush (v := nI 122) dX8_isSmall_7 kb_122 ?_
    refine w_icmp_gt dX8_isSmall_9 rfl (fun h_9 => ?_) (fun h_9 => ?_)
    · refine w_iconst (v := nI 0) dX8_isSmall_16 ki_0 ?_
      exact w_zret dX8_isSmall_17 rfl (by first | exact narr0 | exact narr1) ⟨by rw [bP_f (fun z => z.2 h_9)], by first | rfl | (simp only [bP, isT, bitN, inN, *, not_true_eq_false, not_false_eq_true, and_true, true_and, and_false, false_and, or_true, true_or, or_false, false_or, and_self, or_self, if_true, if_false, ite_true, ite_false]; done) | (simp [bP, isT, bitN, inN, *]; done) | (simp_all [bP, isT, bitN, inN]; done) | (repeat split) <;> first | rfl | contradiction | simp_all⟩
    · refine w_iconst (v := nI 1) dX8_isSmall_12 ki_1 ?_
      refine w_goto dX8_isSmall_13 rfl ?_
      exact w_zret dX8_isSmall_17 rfl (by first | exact narr0 | exact narr1) ⟨by rw [bP_t ⟨h_3, h_9⟩], by first | rfl | (simp only [bP, isT, bitN, inN, *, not_true_eq_false, not_false_eq_true, and_true, true_and, and_false, false_and, or_true, true_or, or_false, false_or, and_self, or_self, if_true, if_false, ite_true, ite_false]; done) | (simp [bP, isT, bitN, inN, *]; done) | (simp_all [bP, isT, bitN, inN]; done) | (repeat split) <;> first | rfl | contradiction | simp_all⟩
set_option maxHeartbeats 4000000 in
theorem c_isDigit {g : GG} {x : Int32}  : Ms g miX8_isDigit 1 [.int x] (some (.int (bP (isDg x)))) := by
  refine Ms.start [some (.int x)] plX8 rfl (Nat.le_of_ble_eq_true rfl) rfl ?_
  intro σ
  refine w_iload_n dX8_isDigit_0 rfl ?_
  refine w_bipush (v := nI 48) dX8_isDigit_1 kb_48 ?_
  refine w_icmp_lt dX8_isDigit_3 rfl (fun h_3 => ?_) (fun h_3 => ?_)
  · refine w_iconst (v := nI 0) dX8_isDigit_16 ki_0 ?_
    exact w_zret dX8_isDigit_17 rfl (by first | exact narr0 | exact narr1) ⟨by rw [bP_f (fun z => z.1 h_3)], by first | rfl | (simp only [bP, isT, bitN, inN, *, not_true_eq_false, not_false_eq_true, and_true, true_and, and_false, false_and, or_true, true_or, or_false, false_or, and_self, or_self, if_true, if_false, ite_true, ite_false]; done) | (simp [bP, isT, bitN, inN, *]; done) | (simp_all [bP, isT, bitN, inN]; done) | (repeat split) <;> first | rfl | contradiction | simp_all⟩
  · refine w_iload_n dX8_isDigit_6 rfl ?_
    refine w_bipush (v := nI 57) dX8_isDigit_7 kb_57 ?_
    refine w_icmp_gt dX8_isDigit_9 rfl (fun h_9 => ?_) (fun h_9 => ?_)
    · refine w_iconst (v := nI 0) dX8_isDigit_16 ki_0 ?_
      exact w_zret dX8_isDigit_17 rfl (by first | exact narr0 | exact narr1) ⟨by rw [bP_f (fun z => z.2 h_9)], by first | rfl | (simp only [bP, isT, bitN, inN, *, not_true_eq_false, not_false_eq_true, and_true, true_and, and_false, false_and, or_true, true_or, or_false, false_or, and_self, or_self, if_true, if_false, ite_true, ite_false]; done) | (simp [bP, isT, bitN, inN, *]; done) | (simp_all [bP, isT, bitN, inN]; done) | (repeat split) <;> first | rfl | contradiction | simp_all⟩
    · refine w_iconst (v := nI 1) dX8_isDigit_12 ki_1 ?_
      refine w_goto dX8_isDigit_13 rfl ?_
      exact w_zret dX8_isDigit_17 rfl (by first | exact narr0 | exact narr1) ⟨by rw [bP_t ⟨h_3, h_9⟩], by first | rfl | (simp only [bP, isT, bitN, inN, *, not_true_eq_false, not_false_eq_true, and_true, true_and, and_false, false_and, or_true, true_or, or_false, false_or, and_self, or_self, if_true, if_false, ite_true, ite_false]; done) | (simp [bP, isT, bitN, inN, *]; done) | (simp_all [bP, isT, bitN, inN]; done) | (repeat split) <;> first | rfl | contradiction | simp_all⟩
set_option maxHeartbeats 4000000 in
theorem c_isSign {g : GG} {S : MS} {x : Int32}  : Mt g miX8_isSign 1 [.int x] (S) (some (.int (bP (mI S 12 = nI 4 ∧ mI S 15 = x)))) (S) := by
  refine Mt.start (fun b => [some (.ref b), some (.int x)]) plX8 rfl (fun b => (Nat.le_of_ble_eq_true rfl)) (fun b => rfl) ?_
  intro σ b
  refine w_aload_n dX8_isSign_0 rfl ?_
  refine mg_token dX8_isSign_1 rfl ?_
  refine w_iconst (v := nI 4) dX8_isSign_4 ki_4 ?_
  refine w_icmp_ne dX8_isSign_5 rfl (fun h_5 => ?_) (fun h_5 => ?_)
  · refine w_iconst (v := nI 0) dX8_isSign_20 ki_0 ?_
    exact w_zret dX8_isSign_21 rfl (by first | exact narr0 | exact narr1) ⟨by rw [bP_f (fun z => h_5 z.1)], by first | rfl | (simp only [bP, isT, bitN, inN, *, not_true_eq_false, not_false_eq_true, and_true, true_and, and_false, false_and, or_true, true_or, or_false, false_or, and_self, or_self, if_true, if_false, ite_true, ite_false]; done) | (simp [bP, isT, bitN, inN, *]; done) | (simp_all [bP, isT, bitN, inN]; done) | (repeat split) <;> first | rfl | contradiction | simp_all⟩
  · refine w_aload_n dX8_isSign_8 rfl ?_
    refine mg_value dX8_isSign_9 rfl ?_
    refine w_iload_n dX8_isSign_12 rfl ?_
    refine w_icmp_ne dX8_isSign_13 rfl (fun h_13 => ?_) (fun h_13 => ?_)
    · refine w_iconst (v := nI 0) dX8_isSign_20 ki_0 ?_
      exact w_zret dX8_isSign_21 rfl (by first | exact narr0 | exact narr1) ⟨by rw [bP_f (fun z => h_13 z.2)], by first | rfl | (simp only [bP, isT, bitN, inN, *, not_true_eq_false, not_false_eq_true, and_true, true_and, and_false, false_and, or_true, true_or, or_false, false_or, and_self, or_self, if_true, if_false, ite_true, ite_false]; done) | (simp [bP, isT, bitN, inN, *]; done) | (simp_all [bP, isT, bitN, inN]; done) | (repeat split) <;> first | rfl | contradiction | simp_all⟩
    · refine w_iconst (v := nI 1) dX8_isSign_16 ki_1 ?_
      refine w_goto dX8_isSign_17 rfl ?_
      exact w_zret dX8_isSign_21 rfl (by first | exact narr0 | exact narr1) ⟨by rw [bP_t ⟨h_5, h_13⟩], by first | rfl | (simp only [bP, isT, bitN, inN, *, not_true_eq_false, not_false_eq_true, and_true, true_and, and_false, false_and, or_true, true_or, or_false, false_or, and_self, or_self, if_true, if_false, ite_true, ite_false]; done) | (simp [bP, isT, bitN, inN, *]; done) | (simp_all [bP, isT, bitN, inN]; done) | (repeat split) <;> first | rfl | contradiction | simp_all⟩
