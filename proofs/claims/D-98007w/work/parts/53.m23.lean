set_option maxRecDepth 100000
/-- byte k of a text of n bytes: one above it; 0: none -/
def byK (S : MS) (n k : Nat) : Int32 := if k < n then mA S 9 k &&& nI 255 else -1
def a_fails (S : MS) (x : Int32) : MS := if mI S 18 = 0 then sI (sI S 18 (if mI S 12 = nI 1 then nI 1 else x)) 17 (mI S 13) else S
set_option maxHeartbeats 4000000 in
theorem c_byteAt {g : GG} {S : MS} {k : Nat} {n : Nat} (hn : mI S 11 = nI n) (hn9 : n ≤ 900) (hk : k < 2147483648) : Mt g miX8_byteAt 1 [.int (nI k)] (S) (some (.int (byK S n k))) (S) := by
  refine Mt.start (fun b => [some (.ref b), some (.int (nI k))]) plX8 rfl (fun b => (Nat.le_of_ble_eq_true rfl)) (fun b => rfl) ?_
  intro σ b
  refine w_iload_n dX8_byteAt_0 rfl ?_
  refine w_aload_n dX8_byteAt_1 rfl ?_
  refine mg_size dX8_byteAt_2 rfl ?_
  rw [hn]
  refine w_icmpN_ge dX8_byteAt_5 rfl (by omega) (by omega) (fun h_5 => ?_) (fun h_5 => ?_)
  · refine w_iconst (v := (-1)) dX8_byteAt_21 ki_m1 ?_
    exact w_iret dX8_byteAt_22 rfl ⟨by first | (rw [byK, if_pos (by omega)]; done) | (rw [byK, if_neg (by omega)]; done) | (rw [byK, if_pos (by omega)]; rfl) | (rw [byK, if_neg (by omega)]; rfl), by first | rfl | (simp only [bP, isT, bitN, inN, *, not_true_eq_false, not_false_eq_true, and_true, true_and, and_false, false_and, or_true, true_or, or_false, false_or, and_self, or_self, if_true, if_false, ite_true, ite_false]; done) | (simp [bP, isT, bitN, inN, *]; done) | (simp_all [bP, isT, bitN, inN]; done) | (repeat split) <;> first | rfl | contradiction | simp_all⟩
  · refine w_aload_n dX8_byteAt_8 rfl ?_
    refine mg_text dX8_byteAt_9 rfl ?_
    refine w_iload_n dX8_byteAt_12 rfl ?_
    refine ma_text dX8_byteAt_13 (by omega) ?_
    refine w_sipush (v := nI 255) dX8_byteAt_14 ks_255 ?_
    refine w_iand dX8_byteAt_17 ?_
    refine w_goto dX8_byteAt_18 rfl ?_
    exact w_iret dX8_byteAt_22 rfl ⟨by first | (rw [byK, if_pos (by omega)]; done) | (rw [byK, if_neg (by omega)]; done) | (rw [byK, if_pos (by omega)]; rfl) | (rw [byK, if_neg (by omega)]; rfl), by first | rfl | (simp only [bP, isT, bitN, inN, *, not_true_eq_false, not_false_eq_true, and_true, true_and, and_false, false_and, or_true, true_or, or_false, false_or, and_self, or_self, if_true, if_false, ite_true, ite_false]; done) | (simp [bP, isT, bitN, inN, *]; done) | (simp_all [bP, isT, bitN, inN]; done) | (repeat split) <;> first | rfl | contradiction | simp_all⟩
set_option maxHeartbeats 4000000 in
theorem c_fails {g : GG} {S : MS} {x : Int32}  : Mt g miX8_fails 1 [.int x] (S) (some (.int (bP (False)))) (a_fails S x) := by
  refine Mt.start (fun b => [some (.ref b), some (.int x)]) plX8 rfl (fun b => (Nat.le_of_ble_eq_true rfl)) (fun b => rfl) ?_
  intro σ b
  refine w_aload_n dX8_fails_0 rfl ?_
  refine mg_faults dX8_fails_1 rfl ?_
  refine w_if_ne dX8_fails_4 rfl (fun h_4 => ?_) (fun h_4 => ?_)
  · refine w_iconst (v := nI 0) dX8_fails_32 ki_0 ?_
    exact w_zret dX8_fails_33 rfl (by first | exact narr0 | exact narr1) ⟨by exact congrArg (fun z => some (Value.int z)) (bP_f id).symm, by first | (rw [a_fails, if_neg h_4]; done) | (rw [a_fails, if_neg h_4]; rfl)⟩
  · refine w_aload_n dX8_fails_7 rfl ?_
    refine w_aload_n dX8_fails_8 rfl ?_
    refine mg_token dX8_fails_9 rfl ?_
    refine w_iconst (v := nI 1) dX8_fails_12 ki_1 ?_
    refine w_icmp_ne dX8_fails_13 rfl (fun h_13 => ?_) (fun h_13 => ?_)
    · refine w_iload_n dX8_fails_20 rfl ?_
      refine mp_faults dX8_fails_21 rfl ?_
      refine w_aload_n dX8_fails_24 rfl ?_
      refine w_aload_n dX8_fails_25 rfl ?_
      refine mg_from dX8_fails_26 rfl ?_
      refine mp_faultPlace dX8_fails_29 rfl ?_
      refine w_iconst (v := nI 0) dX8_fails_32 ki_0 ?_
      exact w_zret dX8_fails_33 rfl (by first | exact narr0 | exact narr1) ⟨by exact congrArg (fun z => some (Value.int z)) (bP_f id).symm, by first | (rw [a_fails, if_pos h_4, if_neg h_13]; done) | (rw [a_fails, if_pos h_4, if_neg h_13]; rfl)⟩
    · refine w_iconst (v := nI 1) dX8_fails_16 ki_1 ?_
      refine w_goto dX8_fails_17 rfl ?_
      refine mp_faults dX8_fails_21 rfl ?_
      refine w_aload_n dX8_fails_24 rfl ?_
      refine w_aload_n dX8_fails_25 rfl ?_
      refine mg_from dX8_fails_26 rfl ?_
      refine mp_faultPlace dX8_fails_29 rfl ?_
      refine w_iconst (v := nI 0) dX8_fails_32 ki_0 ?_
      exact w_zret dX8_fails_33 rfl (by first | exact narr0 | exact narr1) ⟨by exact congrArg (fun z => some (Value.int z)) (bP_f id).symm, by first | (rw [a_fails, if_pos h_4, if_pos h_13]; done) | (rw [a_fails, if_pos h_4, if_pos h_13]; rfl)⟩
