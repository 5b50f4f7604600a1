set_option maxRecDepth 100000
set_option maxHeartbeats 4000000 in
theorem c_lastOn {g : GG} {S : MS} {d : Nat} {V : VS} (E : Enc S V) (K : OkV V) (hd8 : d < 8) : Mt g miX8_lastOn 3 [.int (nI d)] (S) (some (.int (nI (lastV V d)))) (S) := by
  refine Mt.start (fun b => [some (.ref b), some (.int (nI d)), none, none]) plX8 rfl (fun b => (Nat.le_of_ble_eq_true rfl)) (fun b => rfl) ?_
  intro σ b
  have kb := K.b
  have kn := K.n hd8
  refine w_iconst (v := nI 0) dX8_lastOn_0 ki_0 ?_
  refine w_istore_n dX8_lastOn_1 rfl (Nat.le_of_ble_eq_true rfl) ls_4_2 ?_
  refine w_aload_n dX8_lastOn_2 rfl ?_
  refine w_iload_n dX8_lastOn_3 rfl ?_
  refine m_calli1 (mi := miX8_manyOn) dX8_lastOn_4 q1894 okX8_manyOn rfl (Nat.le_of_ble_eq_true rfl) (c_manyOn E K (by first | assumption | omega)) (Nat.le_of_ble_eq_true rfl) ?_
  refine w_iconst (v := nI 1) dX8_lastOn_7 ki_1 ?_
  refine w_isub dX8_lastOn_8 ?_
  refine w_istore_n dX8_lastOn_9 rfl (Nat.le_of_ble_eq_true rfl) ls_4_3 ?_
  have lp : ∀ (j9 : Nat) (j : Nat) (set : Nat), j < j9 → j ≤ vt V 7 d → lastG (vp V 0 d) (vp V 1 d) (vp V 1 d (vt V 7 d - 1)) j set = lastV V d → Wp g (mtM g miX8_lastOn 3 σ b (some (.int (nI (lastV V d)))) (S)) 0 0 10 [some (.ref b), some (.int (nI d)), some (.int (nI set)), some (.int (nI j - nI 1))] [] (sM g σ b (S)) := by
    intro j9
    induction j9 with
    | zero => intro j set hmu hj hs; exact absurd hmu (Nat.not_lt_zero _)
    | succ j9 ih_lp =>
      intro j set hmu hj hs
      refine w_iload_n dX8_lastOn_10 rfl ?_
      refine w_if_lt dX8_lastOn_11 rfl (fun h_11 => ?_) (fun h_11 => ?_)
      · obtain rfl : j = 0 := (dn_lt (by omega)).mp h_11
        refine w_iload_n dX8_lastOn_52 rfl ?_
        exact w_iret dX8_lastOn_53 rfl ⟨by first | exact congrArg (fun z => some (Value.int (nI z))) hs | exact congrArg (fun z => some (Value.int (nI z))) hs2, by first | rfl | (simp only [bP, isT, bitN, inN, *, not_true_eq_false, not_false_eq_true, and_true, true_and, and_false, false_and, or_true, true_or, or_false, false_or, and_self, or_self, if_true, if_false, ite_true, ite_false]; done) | (simp [bP, isT, bitN, inN, *]; done) | (simp_all [bP, isT, bitN, inN]; done) | (repeat split) <;> first | rfl | contradiction | simp_all⟩
      · obtain ⟨i, rfl⟩ : ∃ i, j = i + 1 := ⟨j - 1, by have := mt (dn_lt (j := j) (by omega)).mpr h_11; omega⟩
        rw [nI_dn]
        refine w_aload_n dX8_lastOn_14 rfl ?_
        refine w_iload_n dX8_lastOn_15 rfl ?_
        refine w_iload_n dX8_lastOn_16 rfl ?_
        refine m_calli2 (mi := miX8_minuteAt) dX8_lastOn_17 q1963 okX8_minuteAt rfl (Nat.le_of_ble_eq_true rfl) (c_minuteAt E K (by first | assumption | omega) (by first | assumption | omega)) (Nat.le_of_ble_eq_true rfl) ?_
        refine w_aload_n dX8_lastOn_20 rfl ?_
        refine w_iload_n dX8_lastOn_21 rfl ?_
        refine w_aload_n dX8_lastOn_22 rfl ?_
        refine w_iload_n dX8_lastOn_23 rfl ?_
        refine m_calli1 (mi := miX8_manyOn) dX8_lastOn_24 q1894 okX8_manyOn rfl (Nat.le_of_ble_eq_true rfl) (c_manyOn E K (by first | assumption | omega)) (Nat.le_of_ble_eq_true rfl) ?_
        refine w_iconst (v := nI 1) dX8_lastOn_27 ki_1 ?_
        refine w_isubN dX8_lastOn_28 (by omega) ?_
        refine m_calli2 (mi := miX8_minuteAt) dX8_lastOn_29 q1963 okX8_minuteAt rfl (Nat.le_of_ble_eq_true rfl) (c_minuteAt E K (by first | assumption | omega) (by first | assumption | omega)) (Nat.le_of_ble_eq_true rfl) ?_
        refine w_icmpN_ne dX8_lastOn_32 rfl (by have := (K.p hd8 (k := i) (by omega)).2; omega) (by have := (K.p hd8 (k := vt V 7 d - 1) (by omega)).2; omega) (fun h_32 => ?_) (fun h_32 => ?_)
        · have hs2 : set = lastV V d := by rw [← hs]; exact (if_neg h_32).symm
          refine w_iload_n dX8_lastOn_52 rfl ?_
          exact w_iret dX8_lastOn_53 rfl ⟨by first | exact congrArg (fun z => some (Value.int (nI z))) hs | exact congrArg (fun z => some (Value.int (nI z))) hs2, by first | rfl | (simp only [bP, isT, bitN, inN, *, not_true_eq_false, not_false_eq_true, and_true, true_and, and_false, false_and, or_true, true_or, or_false, false_or, and_self, or_self, if_true, if_false, ite_true, ite_false]; done) | (simp [bP, isT, bitN, inN, *]; done) | (simp_all [bP, isT, bitN, inN]; done) | (repeat split) <;> first | rfl | contradiction | simp_all⟩
        · have hw6 := (K.p hd8 (k := i) (by omega)).1
          refine w_iload_n dX8_lastOn_35 rfl ?_
          refine w_iconst (v := nI 1) dX8_lastOn_36 ki_1 ?_
          refine w_aload_n dX8_lastOn_37 rfl ?_
          refine w_iload_n dX8_lastOn_38 rfl ?_
          refine w_iload_n dX8_lastOn_39 rfl ?_
          refine m_calli2 (mi := miX8_whoAt) dX8_lastOn_40 q1955 okX8_whoAt rfl (Nat.le_of_ble_eq_true rfl) (c_whoAt E K (by first | assumption | omega) (by first | assumption | omega)) (Nat.le_of_ble_eq_true rfl) ?_
          refine w_shl1N dX8_lastOn_43 (by omega) ?_
          refine w_iorN dX8_lastOn_44 ?_
          refine w_istore_n dX8_lastOn_45 rfl (Nat.le_of_ble_eq_true rfl) ls_4_2 ?_
          refine w_iinc dX8_lastOn_46 rfl (nI_m1 _) rfl (Nat.le_of_ble_eq_true rfl) ls_4_3 ?_
          refine w_goto dX8_lastOn_49 rfl ?_
          exact ih_lp i _ (by omega) (by omega) (by rw [← hs]; exact (if_pos h_32).symm)
  exact lp (vt V 7 d + 1) _ 0 (by omega) (by omega) rfl
set_option maxHeartbeats 4000000 in
theorem c_bits {g : GG} {s : Nat} (hs : s < 64) : Ms g miX8_bits 1 [.int (nI s)] (some (.int (nI (pcnt s)))) := by
  refine Ms.start [some (.int (nI s)), none, none] plX8 rfl (Nat.le_of_ble_eq_true rfl) rfl ?_
  intro σ
  refine w_iconst (v := nI 0) dX8_bits_0 ki_0 ?_
  refine w_istore_n dX8_bits_1 rfl (Nat.le_of_ble_eq_true rfl) ls_3_1 ?_
  refine w_iload_n dX8_bits_2 rfl ?_
  refine w_istore_n dX8_bits_3 rfl (Nat.le_of_ble_eq_true rfl) ls_3_2 ?_
  have lp : ∀ (j9 : Nat) (k : Nat) (c : Nat), k < j9 → k < 64 → c + pcnt k = pcnt s → Wp g (mtOf g miX8_bits 1 0 0 (fun w σ2 => w = some (.int (nI (pcnt s))) ∧ σ2 = σ) noX) 0 0 4 [some (.int (nI s)), some (.int (nI c)), some (.int (nI k))] [] σ := by
    intro j9
    induction j9 with
    | zero => intro k c hmu hk hc; exact absurd hmu (Nat.not_lt_zero _)
    | succ j9 ih_lp =>
      intro k c hmu hk hc
      refine w_iload_n dX8_bits_4 rfl ?_
      refine w_ifN_eq dX8_bits_5 rfl (by omega) (fun h_5 => ?_) (fun h_5 => ?_)
      · subst h_5
        have h0 : pcnt 0 = 0 := rfl
        refine w_iload_n dX8_bits_20 rfl ?_
        exact w_iret dX8_bits_21 rfl ⟨by rw [show c = pcnt s by omega], by first | rfl | (simp only [bP, isT, bitN, inN, *, not_true_eq_false, not_false_eq_true, and_true, true_and, and_false, false_and, or_true, true_or, or_false, false_or, and_self, or_self, if_true, if_false, ite_true, ite_false]; done) | (simp [bP, isT, bitN, inN, *]; done) | (simp_all [bP, isT, bitN, inN]; done) | (repeat split) <;> first | rfl | contradiction | simp_all⟩
      · refine w_iinc dX8_bits_8 rfl (nI_inc _ 1) rfl (Nat.le_of_ble_eq_true rfl) ls_3_1 ?_
        refine w_iload_n dX8_bits_11 rfl ?_
        refine w_iload_n dX8_bits_12 rfl ?_
        refine w_iconst (v := nI 1) dX8_bits_13 ki_1 ?_
        refine w_isub dX8_bits_14 ?_
        refine w_iand dX8_bits_15 ?_
        refine w_istore_n dX8_bits_16 rfl (Nat.le_of_ble_eq_true rfl) ls_3_2 ?_
        refine w_goto dX8_bits_17 rfl ?_
        exact w_as (ih_lp (k &&& (k - 1)) (c + 1) (by have := (pcnt_step k hk h_5).2; omega) (by have := (pcnt_step k hk h_5).2; omega) (by have := (pcnt_step k hk h_5).1; omega)) (by rw [pcnt_and k hk h_5]) rfl rfl
  exact lp (s + 1) s 0 (by omega) hs (by omega)
set_option maxHeartbeats 4000000 in
theorem c_ownOn {g : GG} {S : MS} {f : Nat} {d : Nat} {V : VS} (E : Enc S V) (K : OkV V) (hd8 : d < 8) (hf6 : f < 6) : Mt g miX8_ownOn 3 [.int (nI f), .int (nI d)] (S) (some (.int (nI (ownOnF (vp V 0 d) f (vt V 7 d)) - nI 1))) (S) := by
  refine Mt.start (fun b => [some (.ref b), some (.int (nI f)), some (.int (nI d)), none]) plX8 rfl (fun b => (Nat.le_of_ble_eq_true rfl)) (fun b => rfl) ?_
  intro σ b
  have kb := K.b
  have kn := K.n hd8
  refine w_aload_n dX8_ownOn_0 rfl ?_
  refine w_iload_n dX8_ownOn_1 rfl ?_
  refine m_calli1 (mi := miX8_manyOn) dX8_ownOn_2 q1894 okX8_manyOn rfl (Nat.le_of_ble_eq_true rfl) (c_manyOn E K (by first | assumption | omega)) (Nat.le_of_ble_eq_true rfl) ?_
  refine w_iconst (v := nI 1) dX8_ownOn_5 ki_1 ?_
  refine w_isub dX8_ownOn_6 ?_
  refine w_istore_n dX8_ownOn_7 rfl (Nat.le_of_ble_eq_true rfl) ls_4_3 ?_
  have lp : ∀ (j9 : Nat) (j : Nat), j < j9 → j ≤ vt V 7 d → ownOnF (vp V 0 d) f j = ownOnF (vp V 0 d) f (vt V 7 d) → Wp g (mtM g miX8_ownOn 3 σ b (some (.int (nI (ownOnF (vp V 0 d) f (vt V 7 d)) - nI 1))) (S)) 0 0 8 [some (.ref b), some (.int (nI f)), some (.int (nI d)), some (.int (nI j - nI 1))] [] (sM g σ b (S)) := by
    intro j9
    induction j9 with
    | zero => intro j hmu hj hs; exact absurd hmu (Nat.not_lt_zero _)
    | succ j9 ih_lp =>
      intro j hmu hj hs
      refine w_iload_n dX8_ownOn_8 rfl ?_
      refine w_if_lt dX8_ownOn_9 rfl (fun h_9 => ?_) (fun h_9 => ?_)
      · obtain rfl : j = 0 := (dn_lt (by omega)).mp h_9
        have hs2 : ownOnF (vp V 0 d) f (vt V 7 d) = 0 := hs.symm
        refine w_iconst (v := (-1)) dX8_ownOn_30 ki_m1 ?_
        exact w_iret dX8_ownOn_31 rfl ⟨by first | (rw [hs2, nI_dn]; done) | (rw [hs2]; rfl), by first | rfl | (simp only [bP, isT, bitN, inN, *, not_true_eq_false, not_false_eq_true, and_true, true_and, and_false, false_and, or_true, true_or, or_false, false_or, and_self, or_self, if_true, if_false, ite_true, ite_false]; done) | (simp [bP, isT, bitN, inN, *]; done) | (simp_all [bP, isT, bitN, inN]; done) | (repeat split) <;> first | rfl | contradiction | simp_all⟩
      · obtain ⟨i, rfl⟩ : ∃ i, j = i + 1 := ⟨j - 1, by have := mt (dn_lt (j := j) (by omega)).mpr h_9; omega⟩
        rw [nI_dn]
        refine w_aload_n dX8_ownOn_12 rfl ?_
        refine w_iload_n dX8_ownOn_13 rfl ?_
        refine w_iload_n dX8_ownOn_14 rfl ?_
        refine m_calli2 (mi := miX8_whoAt) dX8_ownOn_15 q1955 okX8_whoAt rfl (Nat.le_of_ble_eq_true rfl) (c_whoAt E K (by first | assumption | omega) (by first | assumption | omega)) (Nat.le_of_ble_eq_true rfl) ?_
        refine w_iload_n dX8_ownOn_18 rfl ?_
        refine w_icmpN_ne dX8_ownOn_19 rfl (by have := (K.p hd8 (k := i) (by omega)).1; omega) (by omega) (fun h_19 => ?_) (fun h_19 => ?_)
        · have h_19 : ¬ vp V 0 d i = f := h_19
          refine w_iinc dX8_ownOn_24 rfl (nI_m1 _) rfl (Nat.le_of_ble_eq_true rfl) ls_4_3 ?_
          refine w_goto dX8_ownOn_27 rfl ?_
          exact ih_lp i (by omega) (by omega) (by rw [← hs]; exact (if_neg h_19).symm)
        · have hs2 : ownOnF (vp V 0 d) f (vt V 7 d) = i + 1 := by rw [← hs]; exact if_pos h_19
          refine w_iload_n dX8_ownOn_22 rfl ?_
          exact w_iret dX8_ownOn_23 rfl ⟨by first | (rw [hs2, nI_dn]; done) | (rw [hs2]; rfl), by first | rfl | (simp only [bP, isT, bitN, inN, *, not_true_eq_false, not_false_eq_true, and_true, true_and, and_false, false_and, or_true, true_or, or_false, false_or, and_self, or_self, if_true, if_false, ite_true, ite_false]; done) | (simp [bP, isT, bitN, inN, *]; done) | (simp_all [bP, isT, bitN, inN]; done) | (repeat split) <;> first | rfl | contradiction | simp_all⟩
  exact lp (vt V 7 d + 1) _ (by omega) (by omega) rfl
set_option maxHeartbeats 4000000 in
theorem c_ownMany {g : GG} {S : MS} {f : Nat} {d : Nat} {V : VS} (E : Enc S V) (K : OkV V) (hd8 : d < 8) (hf6 : f < 6) : Mt g miX8_ownMany 3 [.int (nI f), .int (nI d)] (S) (some (.int (nI (ownV V d f)))) (S) := by
  refine Mt.start (fun b => [some (.ref b), some (.int (nI f)), some (.int (nI d)), none, none]) plX8 rfl (fun b => (Nat.le_of_ble_eq_true rfl)) (fun b => rfl) ?_
  intro σ b
  have kb := K.b
  have kn := K.n hd8
  refine w_iconst (v := nI 0) dX8_ownMany_0 ki_0 ?_
  refine w_istore_n dX8_ownMany_1 rfl (Nat.le_of_ble_eq_true rfl) ls_5_3 ?_
  refine w_iconst (v := nI 0) dX8_ownMany_2 ki_0 ?_
  refine w_istore dX8_ownMany_3 rfl (Nat.le_of_ble_eq_true rfl) ls_5_4 ?_
  have lp : ∀ (j9 : Nat) (k : Nat), vt V 7 d - k < j9 → k ≤ vt V 7 d → Wp g (mtM g miX8_ownMany 3 σ b (some (.int (nI (ownV V d f)))) (S)) 0 0 5 [some (.ref b), some (.int (nI f)), some (.int (nI d)), some (.int (nI (ownF k (vp V 0 d) f))), some (.int (nI k))] [] (sM g σ b (S)) := by
    intro j9
    induction j9 with
    | zero => intro k hmu hk; exact absurd hmu (Nat.not_lt_zero _)
    | succ j9 ih_lp =>
      intro k hmu hk
      refine w_iload dX8_ownMany_5 rfl ?_
      refine w_aload_n dX8_ownMany_7 rfl ?_
      refine w_iload_n dX8_ownMany_8 rfl ?_
      refine m_calli1 (mi := miX8_manyOn) dX8_ownMany_9 q1894 okX8_manyOn rfl (Nat.le_of_ble_eq_true rfl) (c_manyOn E K (by first | assumption | omega)) (Nat.le_of_ble_eq_true rfl) ?_
      refine w_icmpN_ge dX8_ownMany_12 rfl (by omega) (by omega) (fun h_12 => ?_) (fun h_12 => ?_)
      · obtain rfl : k = vt V 7 d := by omega
        refine w_iload_n dX8_ownMany_40 rfl ?_
        exact w_iret dX8_ownMany_41 rfl ⟨by first | rfl | (simp only [bP, isT, bitN, inN, *, not_true_eq_false, not_false_eq_true, and_true, true_and, and_false, false_and, or_true, true_or, or_false, false_or, and_self, or_self, if_true, if_false, ite_true, ite_false]; done) | (simp [bP, isT, bitN, inN, *]; done) | (simp_all [bP, isT, bitN, inN]; done) | (repeat split) <;> first | rfl | contradiction | simp_all, by first | rfl | (simp only [bP, isT, bitN, inN, *, not_true_eq_false, not_false_eq_true, and_true, true_and, and_false, false_and, or_true, true_or, or_false, false_or, and_self, or_self, if_true, if_false, ite_true, ite_false]; done) | (simp [bP, isT, bitN, inN, *]; done) | (simp_all [bP, isT, bitN, inN]; done) | (repeat split) <;> first | rfl | contradiction | simp_all⟩
      · refine w_iload_n dX8_ownMany_15 rfl ?_
        refine w_aload_n dX8_ownMany_16 rfl ?_
        refine w_iload_n dX8_ownMany_17 rfl ?_
        refine w_iload dX8_ownMany_18 rfl ?_
        refine m_calli2 (mi := miX8_whoAt) dX8_ownMany_20 q1955 okX8_whoAt rfl (Nat.le_of_ble_eq_true rfl) (c_whoAt E K (by first | assumption | omega) (by first | assumption | omega)) (Nat.le_of_ble_eq_true rfl) ?_
        refine w_iload_n dX8_ownMany_23 rfl ?_
        refine w_icmpN_ne dX8_ownMany_24 rfl (by have := (K.p hd8 (k := k) (by omega)).1; omega) (by omega) (fun h_24 => ?_) (fun h_24 => ?_)
        · have h_24 : ¬ vp V 0 d k = f := h_24
          refine w_iconst (v := nI 0) dX8_ownMany_31 ki_0 ?_
          refine w_iaddN dX8_ownMany_32 ?_
          refine w_istore_n dX8_ownMany_33 rfl (Nat.le_of_ble_eq_true rfl) ls_5_3 ?_
          refine w_iinc dX8_ownMany_34 rfl (nI_inc _ 1) rfl (Nat.le_of_ble_eq_true rfl) ls_5_4 ?_
          refine w_goto dX8_ownMany_37 rfl ?_
          exact w_as (ih_lp (k + 1) (by omega) (by omega)) (by simp only [ownF, foldN, h_24, if_true, if_false]) rfl rfl
        · refine w_iconst (v := nI 1) dX8_ownMany_27 ki_1 ?_
          refine w_goto dX8_ownMany_28 rfl ?_
          refine w_iaddN dX8_ownMany_32 ?_
          refine w_istore_n dX8_ownMany_33 rfl (Nat.le_of_ble_eq_true rfl) ls_5_3 ?_
          refine w_iinc dX8_ownMany_34 rfl (nI_inc _ 1) rfl (Nat.le_of_ble_eq_true rfl) ls_5_4 ?_
          refine w_goto dX8_ownMany_37 rfl ?_
          exact w_as (ih_lp (k + 1) (by omega) (by omega)) (by simp only [ownF, foldN, h_24, if_true, if_false]) rfl rfl
  exact lp (vt V 7 d + 1) 0 (by omega) (by omega)
theorem best_s (m s k : Nat) : bestF m s (k + 1) = if (s >>> k) &&& 1 = 1 ∧ (bestF m s k = 0 ∨ m = 2) then k + 1 else bestF m s k := rfl
theorem best1 : ∀ n, n < 7 → ∀ s, s < 2 ^ n → ∀ m, m < 3 → bestF m s n = bestF m s 6 := by decide +kernel
theorem best2 : ∀ s, s < 64 → 2 ≤ pcnt s → 0 < bestF 1 s 6 ∧ bestF 1 s 6 ≤ 6 ∧ 0 < bestF 2 s 6 ∧ bestF 2 s 6 ≤ 6 := by decide +kernel
theorem or_pow : ∀ n, n < 7 → ∀ s, s < 2 ^ n → ∀ f, f < n → s ||| 2 ^ f < 2 ^ n := by decide +kernel
theorem lastG_pow {who tim : Nat → Nat} {t m : Nat} (hm : m < 7) : ∀ (n set : Nat), (∀ k, k < n → who k < m) → set < 2 ^ m → lastG who tim t n set < 2 ^ m
  | 0, set, _, h => h
  | n + 1, set, hw, h => by
    unfold lastG
    split
    · exact lastG_pow hm n _ (fun k hk => hw k (by omega)) (or_pow m hm set h _ (hw n (by omega)))
    · exact h
theorem lastV_pow {V : VS} (K : OkV V) {d : Nat} (h : d < 8) : lastV V d < 2 ^ vs V 1 := by
  have := K.b
  exact lastG_pow (by omega) _ 0 (fun k hk => (K.p h hk).1) (Nat.pow_pos (by omega))
set_option maxHeartbeats 4000000 in
theorem c_ownersOf {g : GG} {S : MS} {d : Nat} {V : VS} (E : Enc S V) (K : OkV V) (hd8 : d < 8) : Mt g miX8_ownersOf 4 [.int (nI d)] (S) (some (.int (nI (ownersV V d)))) (S) := by
  refine Mt.start (fun b => [some (.ref b), some (.int (nI d)), none, none, none]) plX8 rfl (fun b => (Nat.le_of_ble_eq_true rfl)) (fun b => rfl) ?_
  intro σ b
  have kb := K.b
  have hl := lastV_lt K hd8
  have hlp := lastV_pow K hd8
  have hpc := pcnt_le _ hl
  refine w_aload_n dX8_ownersOf_0 rfl ?_
  refine w_iload_n dX8_ownersOf_1 rfl ?_
  refine m_calli1 (mi := miX8_lastOn) dX8_ownersOf_2 q2000 okX8_lastOn rfl (Nat.le_of_ble_eq_true rfl) (c_lastOn E K (by first | assumption | omega)) (Nat.le_of_ble_eq_true rfl) ?_
  refine w_istore_n dX8_ownersOf_5 rfl (Nat.le_of_ble_eq_true rfl) ls_5_2 ?_
  refine w_iload_n dX8_ownersOf_6 rfl ?_
  refine s_calli1 (mi := miX8_bits) dX8_ownersOf_7 q2012 okX8_bits (Nat.le_of_ble_eq_true rfl) (c_bits (by first | assumption | omega)) (Nat.le_of_ble_eq_true rfl) ?_
  refine w_iconst (v := nI 2) dX8_ownersOf_10 ki_2 ?_
  refine w_icmpN_lt dX8_ownersOf_11 rfl (by omega) (by omega) (fun h_11 => ?_) (fun h_11 => ?_)
  · refine w_iload_n dX8_ownersOf_24 rfl ?_
    exact w_iret dX8_ownersOf_25 rfl ⟨by first | (simp only [ownersV, *, true_or, or_true, if_true]; done) | (rw [ownersV, if_neg (by omega), if_pos (by assumption)]) | (rw [ownersV, if_neg (by omega), if_neg (by omega)]; rcases hm with z | z <;> rw [z] at hi <;> simp only [z, lowB, highB, hi, if_true]; simp) | (rw [ownersV, if_pos (by omega)]), by first | rfl | (simp only [bP, isT, bitN, inN, *, not_true_eq_false, not_false_eq_true, and_true, true_and, and_false, false_and, or_true, true_or, or_false, false_or, and_self, or_self, if_true, if_false, ite_true, ite_false]; done) | (simp [bP, isT, bitN, inN, *]; done) | (simp_all [bP, isT, bitN, inN]; done) | (repeat split) <;> first | rfl | contradiction | simp_all⟩
  · refine w_aload_n dX8_ownersOf_14 rfl ?_
    refine mg_at dX8_ownersOf_15 rfl ?_
    refine w_iconst (v := nI 5) dX8_ownersOf_18 ki_5 ?_
    refine ma_at dX8_ownersOf_19 (by omega) ?_
    refine w_topN (E.s 5 (by omega)) ?_
    refine w_iconst (v := nI 3) dX8_ownersOf_20 ki_3 ?_
    refine w_icmpN_ne dX8_ownersOf_21 rfl (by omega) (by omega) (fun h_21 => ?_) (fun h_21 => ?_)
    · refine w_aload_n dX8_ownersOf_26 rfl ?_
      refine mg_at dX8_ownersOf_27 rfl ?_
      refine w_iconst (v := nI 5) dX8_ownersOf_30 ki_5 ?_
      refine ma_at dX8_ownersOf_31 (by omega) ?_
      refine w_topN (E.s 5 (by omega)) ?_
      refine w_ifN_ne dX8_ownersOf_32 rfl (by omega) (fun h_32 => ?_) (fun h_32 => ?_)
      · refine w_iconst (v := (-1)) dX8_ownersOf_37 ki_m1 ?_
        refine w_istore_n dX8_ownersOf_38 rfl (Nat.le_of_ble_eq_true rfl) ls_5_3 ?_
        refine w_iconst (v := nI 0) dX8_ownersOf_39 ki_0 ?_
        refine w_istore dX8_ownersOf_40 rfl (Nat.le_of_ble_eq_true rfl) ls_5_4 ?_
        have hm : vs V 5 = 1 ∨ vs V 5 = 2 := by omega
        have lp : ∀ (j9 : Nat) (k : Nat) (c : Nat), vs V 1 - k < j9 → k ≤ vs V 1 → bestF (vs V 5) (lastV V d) k = c → c ≤ 6 → Wp g (mtM g miX8_ownersOf 4 σ b (some (.int (nI (ownersV V d)))) (S)) 0 0 42 [some (.ref b), some (.int (nI d)), some (.int (nI (lastV V d))), some (.int (nI c - nI 1)), some (.int (nI k))] [] (sM g σ b (S)) := by
          intro j9
          induction j9 with
          | zero => intro k c hmu hk hc hc6; exact absurd hmu (Nat.not_lt_zero _)
          | succ j9 ih_lp =>
            intro k c hmu hk hc hc6
            refine w_iload dX8_ownersOf_42 rfl ?_
            refine w_aload_n dX8_ownersOf_44 rfl ?_
            refine mg_at dX8_ownersOf_45 rfl ?_
            refine w_iconst (v := nI 1) dX8_ownersOf_48 ki_1 ?_
            refine ma_at dX8_ownersOf_49 (by omega) ?_
            refine w_topN (E.s 1 (by omega)) ?_
            refine w_icmpN_ge dX8_ownersOf_50 rfl (by omega) (by omega) (fun h_50 => ?_) (fun h_50 => ?_)
            · obtain rfl : k = vs V 1 := by omega
              have hb1 := best1 (vs V 1) (by omega) _ hlp (vs V 5) (by omega)
              have hb2 := best2 _ hl (by omega)
              have hc0 : 0 < c := by rcases hm with z | z <;> rw [z] at hb1 hc <;> omega
              obtain ⟨i, rfl⟩ : ∃ i, c = i + 1 := ⟨c - 1, by omega⟩
              rw [nI_dn]
              have hi : bestF (vs V 5) (lastV V d) 6 - 1 = i := by omega
              refine w_iconst (v := nI 1) dX8_ownersOf_87 ki_1 ?_
              refine w_iload_n dX8_ownersOf_88 rfl ?_
              refine w_shl1N dX8_ownersOf_89 (by omega) ?_
              exact w_iret dX8_ownersOf_90 rfl ⟨by first | (simp only [ownersV, *, true_or, or_true, if_true]; done) | (rw [ownersV, if_neg (by omega), if_pos (by assumption)]) | (rw [ownersV, if_neg (by omega), if_neg (by omega)]; rcases hm with z | z <;> rw [z] at hi <;> simp only [z, lowB, highB, hi, if_true]; simp) | (rw [ownersV, if_pos (by omega)]), by first | rfl | (simp only [bP, isT, bitN, inN, *, not_true_eq_false, not_false_eq_true, and_true, true_and, and_false, false_and, or_true, true_or, or_false, false_or, and_self, or_self, if_true, if_false, ite_true, ite_false]; done) | (simp [bP, isT, bitN, inN, *]; done) | (simp_all [bP, isT, bitN, inN]; done) | (repeat split) <;> first | rfl | contradiction | simp_all⟩
            · refine w_iload_n dX8_ownersOf_53 rfl ?_
              refine w_iload dX8_ownersOf_54 rfl ?_
              refine w_ishrN dX8_ownersOf_56 (by omega) (by omega) ?_
              refine w_iconst (v := nI 1) dX8_ownersOf_57 ki_1 ?_
              refine w_iandN dX8_ownersOf_58 ?_
              refine w_iconst (v := nI 1) dX8_ownersOf_59 ki_1 ?_
              refine w_icmpN_ne dX8_ownersOf_60 rfl (and1_lt _) (by omega) (fun h_60 => ?_) (fun h_60 => ?_)
              · refine w_iinc dX8_ownersOf_81 rfl (nI_inc _ 1) rfl (Nat.le_of_ble_eq_true rfl) ls_5_4 ?_
                refine w_goto dX8_ownersOf_84 rfl ?_
                exact ih_lp (k + 1) c (by omega) (by omega) (by rw [best_s, hc, if_neg (by omega)]) (by omega)
              · refine w_iload_n dX8_ownersOf_63 rfl ?_
                refine w_iconst (v := (-1)) dX8_ownersOf_64 ki_m1 ?_
                refine w_icmp_eq dX8_ownersOf_65 rfl (fun h_65 => ?_) (fun h_65 => ?_)
                · have h_65 : c = 0 := (by rcases Nat.eq_zero_or_pos c with z | z; exact z; exfalso; obtain ⟨i, rfl⟩ : ∃ i, c = i + 1 := ⟨c - 1, by omega⟩; rw [nI_dn] at h_65; exact nI_pos (n := i) (by omega) (by rw [h_65]; decide))
                  refine w_iload dX8_ownersOf_78 rfl ?_
                  refine w_istore_n dX8_ownersOf_80 rfl (Nat.le_of_ble_eq_true rfl) ls_5_3 ?_
                  refine w_iinc dX8_ownersOf_81 rfl (nI_inc _ 1) rfl (Nat.le_of_ble_eq_true rfl) ls_5_4 ?_
                  refine w_goto dX8_ownersOf_84 rfl ?_
                  exact w_as (ih_lp (k + 1) (k + 1) (by omega) (by omega) (by rw [best_s, hc, if_pos ⟨h_60, by omega⟩]) (by omega)) (by rw [nI_dn]) rfl rfl
                · have h_65 : c ≠ 0 := fun z => h_65 (by rw [z]; rfl)
                  refine w_aload_n dX8_ownersOf_68 rfl ?_
                  refine mg_at dX8_ownersOf_69 rfl ?_
                  refine w_iconst (v := nI 5) dX8_ownersOf_72 ki_5 ?_
                  refine ma_at dX8_ownersOf_73 (by omega) ?_
                  refine w_topN (E.s 5 (by omega)) ?_
                  refine w_iconst (v := nI 2) dX8_ownersOf_74 ki_2 ?_
                  refine w_icmpN_ne dX8_ownersOf_75 rfl (by omega) (by omega) (fun h_75 => ?_) (fun h_75 => ?_)
                  · refine w_iinc dX8_ownersOf_81 rfl (nI_inc _ 1) rfl (Nat.le_of_ble_eq_true rfl) ls_5_4 ?_
                    refine w_goto dX8_ownersOf_84 rfl ?_
                    exact ih_lp (k + 1) c (by omega) (by omega) (by rw [best_s, hc, if_neg (by omega)]) (by omega)
                  · refine w_iload dX8_ownersOf_78 rfl ?_
                    refine w_istore_n dX8_ownersOf_80 rfl (Nat.le_of_ble_eq_true rfl) ls_5_3 ?_
                    refine w_iinc dX8_ownersOf_81 rfl (nI_inc _ 1) rfl (Nat.le_of_ble_eq_true rfl) ls_5_4 ?_
                    refine w_goto dX8_ownersOf_84 rfl ?_
                    exact w_as (ih_lp (k + 1) (k + 1) (by omega) (by omega) (by rw [best_s, hc, if_pos ⟨h_60, by omega⟩]) (by omega)) (by rw [nI_dn]) rfl rfl
        exact lp (vs V 1 + 1) 0 0 (by omega) (by omega) rfl (by omega)
      · refine w_iconst (v := nI 0) dX8_ownersOf_35 ki_0 ?_
        exact w_iret dX8_ownersOf_36 rfl ⟨by first | (simp only [ownersV, *, true_or, or_true, if_true]; done) | (rw [ownersV, if_neg (by omega), if_pos (by assumption)]) | (rw [ownersV, if_neg (by omega), if_neg (by omega)]; rcases hm with z | z <;> rw [z] at hi <;> simp only [z, lowB, highB, hi, if_true]; simp) | (rw [ownersV, if_pos (by omega)]), by first | rfl | (simp only [bP, isT, bitN, inN, *, not_true_eq_false, not_false_eq_true, and_true, true_and, and_false, false_and, or_true, true_or, or_false, false_or, and_self, or_self, if_true, if_false, ite_true, ite_false]; done) | (simp [bP, isT, bitN, inN, *]; done) | (simp_all [bP, isT, bitN, inN]; done) | (repeat split) <;> first | rfl | contradiction | simp_all⟩
    · refine w_iload_n dX8_ownersOf_24 rfl ?_
      exact w_iret dX8_ownersOf_25 rfl ⟨by first | (simp only [ownersV, *, true_or, or_true, if_true]; done) | (rw [ownersV, if_neg (by omega), if_pos (by assumption)]) | (rw [ownersV, if_neg (by omega), if_neg (by omega)]; rcases hm with z | z <;> rw [z] at hi <;> simp only [z, lowB, highB, hi, if_true]; simp) | (rw [ownersV, if_pos (by omega)]), by first | rfl | (simp only [bP, isT, bitN, inN, *, not_true_eq_false, not_false_eq_true, and_true, true_and, and_false, false_and, or_true, true_or, or_false, false_or, and_self, or_self, if_true, if_false, ite_true, ite_false]; done) | (simp [bP, isT, bitN, inN, *]; done) | (simp_all [bP, isT, bitN, inN]; done) | (repeat split) <;> first | rfl | contradiction | simp_all⟩
