set_option maxRecDepth 100000
def copA (S : MS) (f t n : Nat) : MS := foldN (fun k W => sA W 0 (1400 * t + k) (mA W 0 (1400 * f + k))) S n
def copB (S : MS) (f t n : Nat) : MS := foldN (fun k W => sB W 1 (14 * t + k) (mB W 1 (14 * f + k))) S n
theorem copA_I (S : MS) (f t : Nat) : ∀ n, (copA S f t n).1 = S.1
  | 0 => rfl
  | n + 1 => copA_I S f t n
theorem copB_I (S : MS) (f t : Nat) : ∀ n, (copB S f t n).1 = S.1
  | 0 => rfl
  | n + 1 => copB_I S f t n
/-- one slot becomes as another is -/
def copS (S : MS) (f t m n : Nat) : MS := copB (copA S f t m) f t n
theorem copS_I (S : MS) (f t m n : Nat) (k : Nat) : mI (copS S f t m n) k = mI S k := by
  show (copB (copA S f t m) f t n).1 k = S.1 k
  rw [copB_I, copA_I]
set_option maxHeartbeats 4000000 in
theorem c_copies {g : GG} {S : MS} {f : Nat} {t : Nat} {c14 c1 : Nat} (hf : f ≤ 3) (ht : t ≤ 3) (h14 : c14 = 1400) (h1 : c1 = 14) : Mt g miX8_copies 1 [.int (nI f), .int (nI t)] (S) (none) (copS S f t c14 c1) := by
  refine Mt.start (fun b => [some (.ref b), some (.int (nI f)), some (.int (nI t)), none]) plX8 rfl (fun b => (Nat.le_of_ble_eq_true rfl)) (fun b => rfl) ?_
  intro σ b
  refine w_iconst (v := nI 0) dX8_copies_0 ki_0 ?_
  refine w_istore_n dX8_copies_1 rfl (Nat.le_of_ble_eq_true rfl) ls_4_3 ?_
  have la : ∀ (j9 : Nat) (k : Nat), c14 - k < j9 → k ≤ c14 → Wp g (mtM g miX8_copies 1 σ b (none) (copS S f t c14 c1)) 0 0 2 [some (.ref b), some (.int (nI f)), some (.int (nI t)), some (.int (nI k))] [] (sM g σ b (copA S f t k)) := by
    intro j9
    induction j9 with
    | zero => intro k hmu hk; exact absurd hmu (Nat.not_lt_zero _)
    | succ j9 ih_la =>
      intro k hmu hk
      refine w_iload_n dX8_copies_2 rfl ?_
      refine w_sipush (v := nI 1400) dX8_copies_3 ks_1400 ?_
      refine w_icmpN_ge dX8_copies_6 rfl (by omega) (by omega) (fun h_6 => ?_) (fun h_6 => ?_)
      · obtain rfl : c14 = k := by omega
        refine w_iconst (v := nI 0) dX8_copies_39 ki_0 ?_
        refine w_istore_n dX8_copies_40 rfl (Nat.le_of_ble_eq_true rfl) ls_4_3 ?_
        have lb : ∀ (j9 : Nat) (k : Nat), c1 - k < j9 → k ≤ c1 → Wp g (mtM g miX8_copies 1 σ b (none) (copS S f t c14 c1)) 0 0 41 [some (.ref b), some (.int (nI f)), some (.int (nI t)), some (.int (nI k))] [] (sM g σ b (copB (copA S f t c14) f t k)) := by
          intro j9
          induction j9 with
          | zero => intro k hmu hk1; exact absurd hmu (Nat.not_lt_zero _)
          | succ j9 ih_lb =>
            intro k hmu hk1
            refine w_iload_n dX8_copies_41 rfl ?_
            refine w_bipush (v := nI 14) dX8_copies_42 kb_14 ?_
            refine w_icmpN_ge dX8_copies_44 rfl (by omega) (by omega) (fun h_44 => ?_) (fun h_44 => ?_)
            · obtain rfl : c1 = k := by omega
              exact w_vret dX8_copies_75 rfl ⟨by rfl, by rfl⟩
            · refine w_aload_n dX8_copies_47 rfl ?_
              refine mg_names dX8_copies_48 rfl ?_
              refine w_bipush (v := nI 14) dX8_copies_51 kb_14 ?_
              refine w_iload_n dX8_copies_53 rfl ?_
              refine w_imulN dX8_copies_54 ?_
              refine w_iload_n dX8_copies_55 rfl ?_
              refine w_iaddN dX8_copies_56 ?_
              refine w_aload_n dX8_copies_57 rfl ?_
              refine mg_names dX8_copies_58 rfl ?_
              refine w_bipush (v := nI 14) dX8_copies_61 kb_14 ?_
              refine w_iload_n dX8_copies_63 rfl ?_
              refine w_imulN dX8_copies_64 ?_
              refine w_iload_n dX8_copies_65 rfl ?_
              refine w_iaddN dX8_copies_66 ?_
              refine ma_names dX8_copies_67 (by omega) ?_
              refine ms_names dX8_copies_68 (by omega) ?_
              refine w_iinc dX8_copies_69 rfl (nI_inc _ 1) rfl (Nat.le_of_ble_eq_true rfl) ls_4_3 ?_
              refine w_goto dX8_copies_72 rfl ?_
              exact ih_lb (k + 1) (by omega) (by omega)
        exact lb (c1 + 1) 0 (by omega) (by omega)
      · refine w_aload_n dX8_copies_9 rfl ?_
        refine mg_at dX8_copies_10 rfl ?_
        refine w_sipush (v := nI 1400) dX8_copies_13 ks_1400 ?_
        refine w_iload_n dX8_copies_16 rfl ?_
        refine w_imulN dX8_copies_17 ?_
        refine w_iload_n dX8_copies_18 rfl ?_
        refine w_iaddN dX8_copies_19 ?_
        refine w_aload_n dX8_copies_20 rfl ?_
        refine mg_at dX8_copies_21 rfl ?_
        refine w_sipush (v := nI 1400) dX8_copies_24 ks_1400 ?_
        refine w_iload_n dX8_copies_27 rfl ?_
        refine w_imulN dX8_copies_28 ?_
        refine w_iload_n dX8_copies_29 rfl ?_
        refine w_iaddN dX8_copies_30 ?_
        refine ma_at dX8_copies_31 (by omega) ?_
        refine ms_at dX8_copies_32 (by omega) ?_
        refine w_iinc dX8_copies_33 rfl (nI_inc _ 1) rfl (Nat.le_of_ble_eq_true rfl) ls_4_3 ?_
        refine w_goto dX8_copies_36 rfl ?_
        exact ih_la (k + 1) (by omega) (by omega)
  exact w_L (wkS (wkS (wkS (wkS wk0)))) (la (c14 + 1) 0 (by omega) (by omega))
def a_best (S : MS) (m : Nat) (x : Int32) : AS := if inN x m then (mA S 28 (cl x), nI 0) else (-1, nI 6)
set_option maxHeartbeats 4000000 in
theorem c_bestAt {g : GG} {S : MS} {x : Int32} {m : Nat} (hm : mI S 30 = nI m) (hm8 : m ≤ 8) : Mt g miX8_bestAt 2 [.int x] (S) (some (.int ((a_best S m x).1))) (sI S 2 (a_best S m x).2) := by
  refine Mt.start (fun b => [some (.ref b), some (.int x)]) plX8 rfl (fun b => (Nat.le_of_ble_eq_true rfl)) (fun b => rfl) ?_
  intro σ b
  refine w_iload_n dX8_bestAt_0 rfl ?_
  refine w_if_lt dX8_bestAt_1 rfl (fun h_1 => ?_) (fun h_1 => ?_)
  · refine w_aload_n dX8_bestAt_12 rfl ?_
    refine w_bipush (v := nI 6) dX8_bestAt_13 kb_6 ?_
    refine m_calli1 (mi := miX8_refuse) dX8_bestAt_15 q1746 okX8_refuse rfl (Nat.le_of_ble_eq_true rfl) c_refuse (Nat.le_of_ble_eq_true rfl) ?_
    refine w_goto dX8_bestAt_18 rfl ?_
    exact w_iret dX8_bestAt_31 rfl ⟨by first | (rw [a_best, if_neg (out_lt h_1)]; done) | (rw [a_best, if_neg (out_lt h_1)]; rfl), by first | (rw [a_best, if_neg (out_lt h_1)]; done) | (rw [a_best, if_neg (out_lt h_1)]; rfl)⟩
  · refine w_iload_n dX8_bestAt_4 rfl ?_
    refine w_aload_n dX8_bestAt_5 rfl ?_
    refine mg_toldMany dX8_bestAt_6 rfl ?_
    refine w_icmp_lt dX8_bestAt_9 rfl (fun h_9 => ?_) (fun h_9 => ?_)
    · have hx9 : inN x m := in_lt h_1 (by rw [hm] at h_9; exact h_9)
      obtain ⟨q, hq, rfl⟩ := inN_of hx9 (by omega)
      have hcl_q : cl (nI q) = q := nI_clamp (by omega)
      have hx_q := hx9
      refine w_aload_n dX8_bestAt_21 rfl ?_
      refine w_aload_n dX8_bestAt_22 rfl ?_
      refine mg_toldRow dX8_bestAt_23 rfl ?_
      refine w_iload_n dX8_bestAt_26 rfl ?_
      refine ma_toldRow dX8_bestAt_27 (by omega) ?_
      refine m_calli1 (mi := miX8_gives) dX8_bestAt_28 q1839 okX8_gives rfl (Nat.le_of_ble_eq_true rfl) c_gives (Nat.le_of_ble_eq_true rfl) ?_
      exact w_iret dX8_bestAt_31 rfl ⟨by first | (rw [a_best, if_pos hx_q, hcl_q]; done) | (rw [a_best, if_pos hx_q, hcl_q]; rfl), by first | (rw [a_best, if_pos hx_q, hcl_q]; done) | (rw [a_best, if_pos hx_q, hcl_q]; rfl)⟩
    · refine w_aload_n dX8_bestAt_12 rfl ?_
      refine w_bipush (v := nI 6) dX8_bestAt_13 kb_6 ?_
      refine m_calli1 (mi := miX8_refuse) dX8_bestAt_15 q1746 okX8_refuse rfl (Nat.le_of_ble_eq_true rfl) c_refuse (Nat.le_of_ble_eq_true rfl) ?_
      refine w_goto dX8_bestAt_18 rfl ?_
      exact w_iret dX8_bestAt_31 rfl ⟨by first | (rw [a_best, if_neg (out_ge (by rw [hm] at h_9; exact h_9))]; done) | (rw [a_best, if_neg (out_ge (by rw [hm] at h_9; exact h_9))]; rfl), by first | (rw [a_best, if_neg (out_ge (by rw [hm] at h_9; exact h_9))]; done) | (rw [a_best, if_neg (out_ge (by rw [hm] at h_9; exact h_9))]; rfl)⟩
