set_option maxRecDepth 100000
set_option maxHeartbeats 1200000 in
theorem c_holds {g : GG} {S : MS} {r : Nat} {P : PG} {k : Nat} {V : VS} (E : Enc S V) (K : OkV V) (EP : EncP S P) (OP : OkP (vs V 0) (vs V 1) (vs V 2) P) (hk : k + 1 < pn P) (hr : r = 1030 + 6 * k) (ht : 2400 ≤ pr P k 0) : Mt g miX8_holds 7 [.int (nI r)] (S) (some (.int (bP (hD V (pr P k) = 1)))) (S) := by
  refine Mt.start (fun b => [some (.ref b), some (.int (nI r)), none, none, none, none]) plX8 rfl (fun b => (Nat.le_of_ble_eq_true rfl)) (fun b => rfl) ?_
  intro σ b
  have kb := K.b
  subst hr
  have hpn := OP.1
  have hrow := OP.2 k hk
  have hkb : pr P k 0 < 3000 := by have := hrow.1; omega
  have e0 := EP.2 k hk 0 (by omega) (Or.inl rfl)
  rw [Nat.add_zero] at e0
  refine w_aload_n dX8_holds_0 rfl ?_
  refine mg_at dX8_holds_1 rfl ?_
  refine w_iload_n dX8_holds_4 rfl ?_
  refine ma_at dX8_holds_5 (by omega) ?_
  rw [e0]
  refine w_sipush (v := nI 2400) dX8_holds_6 ks_2400 ?_
  refine w_isubN dX8_holds_9 (by omega) ?_
  refine w_istore_n dX8_holds_10 rfl (Nat.le_of_ble_eq_true rfl) ls_6_2 ?_
  refine w_aload_n dX8_holds_11 rfl ?_
  refine mg_at dX8_holds_12 rfl ?_
  refine w_iload_n dX8_holds_15 rfl ?_
  refine w_iconst (v := nI 1) dX8_holds_16 ki_1 ?_
  refine w_iaddN dX8_holds_17 ?_
  refine ma_at dX8_holds_18 (by omega) ?_
  rw [EP.2 k hk 1 (by omega) (by omega)]
  refine w_istore_n dX8_holds_19 rfl (Nat.le_of_ble_eq_true rfl) ls_6_3 ?_
  refine w_aload_n dX8_holds_20 rfl ?_
  refine mg_at dX8_holds_21 rfl ?_
  refine w_iload_n dX8_holds_24 rfl ?_
  refine w_iconst (v := nI 2) dX8_holds_25 ki_2 ?_
  refine w_iaddN dX8_holds_26 ?_
  refine ma_at dX8_holds_27 (by omega) ?_
  refine w_istore dX8_holds_28 rfl (Nat.le_of_ble_eq_true rfl) ls_6_4 ?_
  refine w_iload_n dX8_holds_30 rfl ?_
  refine w_bipush (v := nI 29) dX8_holds_31 kb_29 ?_
  refine w_icmpN_ne dX8_holds_33 rfl (by omega) (by omega) (fun h_33 => ?_) (fun h_33 => ?_)
  · refine w_iload_n dX8_holds_58 rfl ?_
    refine w_bipush (v := nI 15) dX8_holds_59 kb_15 ?_
    refine w_icmpN_ne dX8_holds_61 rfl (by omega) (by omega) (fun h_61 => ?_) (fun h_61 => ?_)
    · have hk28 : pr P k 0 = 2428 := by have := hrow.1; omega
      have e2 := EP.2 k hk 2 (by omega) (by omega)
      rw [e2]
      have hq := hrow.2.2.2.2.2.2.2.1 hk28
      have hle := leadV_le K (pr P k 1)
      refine w_aload_n dX8_holds_84 rfl ?_
      refine w_iload_n dX8_holds_85 rfl ?_
      refine m_calli1 (mi := miX8_leadOf) dX8_holds_86 q2019 okX8_leadOf rfl (Nat.le_of_ble_eq_true rfl) (c_leadOf E K (by first | assumption | omega)) (Nat.le_of_ble_eq_true rfl) ?_
      refine w_istore dX8_holds_89 rfl (Nat.le_of_ble_eq_true rfl) ls_6_5 ?_
      refine w_aload_n dX8_holds_91 rfl ?_
      refine mg_at dX8_holds_92 rfl ?_
      refine w_iload_n dX8_holds_95 rfl ?_
      refine w_iconst (v := nI 5) dX8_holds_96 ki_5 ?_
      refine w_iaddN dX8_holds_97 ?_
      refine ma_at dX8_holds_98 (by omega) ?_
      rw [EP.2 k hk 5 (by omega) (by omega)]
      refine w_bipush (v := nI 60) dX8_holds_99 kb_60 ?_
      refine w_icmpN_ne dX8_holds_101 rfl (by omega) (by omega) (fun h_101 => ?_) (fun h_101 => ?_)
      · refine w_aload_n dX8_holds_119 rfl ?_
        refine mg_at dX8_holds_120 rfl ?_
        refine w_iload_n dX8_holds_123 rfl ?_
        refine w_iconst (v := nI 5) dX8_holds_124 ki_5 ?_
        refine w_iaddN dX8_holds_125 ?_
        refine ma_at dX8_holds_126 (by omega) ?_
        rw [EP.2 k hk 5 (by omega) (by omega)]
        refine w_bipush (v := nI 62) dX8_holds_127 kb_62 ?_
        refine w_icmpN_ne dX8_holds_129 rfl (by omega) (by omega) (fun h_129 => ?_) (fun h_129 => ?_)
        · refine w_iload dX8_holds_147 rfl ?_
          refine w_iload dX8_holds_149 rfl ?_
          refine w_icmpN_ne dX8_holds_151 rfl (by omega) (by omega) (fun h_151 => ?_) (fun h_151 => ?_)
          · refine w_iconst (v := nI 0) dX8_holds_158 ki_0 ?_
            exact w_zret dX8_holds_159 rfl (by first | exact narr0 | exact narr1) ⟨by rw [bP_f (show ¬ hD V (pr P k) = 1 by rw [hD, if_neg (show ¬ pr P k 0 = 2429 by omega), if_neg (show ¬ pr P k 0 = 2415 by omega), if_neg h_101, if_neg h_129, if_neg h_151]; omega)], by first | rfl | (simp only [bP, isT, bitN, inN, *, not_true_eq_false, not_false_eq_true, and_true, true_and, and_false, false_and, or_true, true_or, or_false, false_or, and_self, or_self, if_true, if_false, ite_true, ite_false]; done) | (simp [bP, isT, bitN, inN, *]; done) | (simp_all [bP, isT, bitN, inN]; done) | (repeat split) <;> first | rfl | contradiction | simp_all⟩
          · refine w_iconst (v := nI 1) dX8_holds_154 ki_1 ?_
            refine w_goto dX8_holds_155 rfl ?_
            exact w_zret dX8_holds_159 rfl (by first | exact narr0 | exact narr1) ⟨by rw [bP_t (show hD V (pr P k) = 1 by rw [hD, if_neg (show ¬ pr P k 0 = 2429 by omega), if_neg (show ¬ pr P k 0 = 2415 by omega), if_neg h_101, if_neg h_129, if_pos h_151])], by first | rfl | (simp only [bP, isT, bitN, inN, *, not_true_eq_false, not_false_eq_true, and_true, true_and, and_false, false_and, or_true, true_or, or_false, false_or, and_self, or_self, if_true, if_false, ite_true, ite_false]; done) | (simp [bP, isT, bitN, inN, *]; done) | (simp_all [bP, isT, bitN, inN]; done) | (repeat split) <;> first | rfl | contradiction | simp_all⟩
        · refine w_iload dX8_holds_132 rfl ?_
          refine w_iload dX8_holds_134 rfl ?_
          refine w_icmpN_le dX8_holds_136 rfl (by omega) (by omega) (fun h_136 => ?_) (fun h_136 => ?_)
          · refine w_iconst (v := nI 0) dX8_holds_143 ki_0 ?_
            refine w_goto dX8_holds_144 rfl ?_
            exact w_zret dX8_holds_159 rfl (by first | exact narr0 | exact narr1) ⟨by rw [bP_f (show ¬ hD V (pr P k) = 1 by rw [hD, if_neg (show ¬ pr P k 0 = 2429 by omega), if_neg (show ¬ pr P k 0 = 2415 by omega), if_neg h_101, if_pos h_129, if_neg (by omega)]; omega)], by first | rfl | (simp only [bP, isT, bitN, inN, *, not_true_eq_false, not_false_eq_true, and_true, true_and, and_false, false_and, or_true, true_or, or_false, false_or, and_self, or_self, if_true, if_false, ite_true, ite_false]; done) | (simp [bP, isT, bitN, inN, *]; done) | (simp_all [bP, isT, bitN, inN]; done) | (repeat split) <;> first | rfl | contradiction | simp_all⟩
          · refine w_iconst (v := nI 1) dX8_holds_139 ki_1 ?_
            refine w_goto dX8_holds_140 rfl ?_
            exact w_zret dX8_holds_159 rfl (by first | exact narr0 | exact narr1) ⟨by rw [bP_t (show hD V (pr P k) = 1 by rw [hD, if_neg (show ¬ pr P k 0 = 2429 by omega), if_neg (show ¬ pr P k 0 = 2415 by omega), if_neg h_101, if_pos h_129, if_pos (by omega)])], by first | rfl | (simp only [bP, isT, bitN, inN, *, not_true_eq_false, not_false_eq_true, and_true, true_and, and_false, false_and, or_true, true_or, or_false, false_or, and_self, or_self, if_true, if_false, ite_true, ite_false]; done) | (simp [bP, isT, bitN, inN, *]; done) | (simp_all [bP, isT, bitN, inN]; done) | (repeat split) <;> first | rfl | contradiction | simp_all⟩
      · refine w_iload dX8_holds_104 rfl ?_
        refine w_iload dX8_holds_106 rfl ?_
        refine w_icmpN_ge dX8_holds_108 rfl (by omega) (by omega) (fun h_108 => ?_) (fun h_108 => ?_)
        · refine w_iconst (v := nI 0) dX8_holds_115 ki_0 ?_
          refine w_goto dX8_holds_116 rfl ?_
          exact w_zret dX8_holds_159 rfl (by first | exact narr0 | exact narr1) ⟨by rw [bP_f (show ¬ hD V (pr P k) = 1 by rw [hD, if_neg (show ¬ pr P k 0 = 2429 by omega), if_neg (show ¬ pr P k 0 = 2415 by omega), if_pos h_101, if_neg (by omega)]; omega)], by first | rfl | (simp only [bP, isT, bitN, inN, *, not_true_eq_false, not_false_eq_true, and_true, true_and, and_false, false_and, or_true, true_or, or_false, false_or, and_self, or_self, if_true, if_false, ite_true, ite_false]; done) | (simp [bP, isT, bitN, inN, *]; done) | (simp_all [bP, isT, bitN, inN]; done) | (repeat split) <;> first | rfl | contradiction | simp_all⟩
        · refine w_iconst (v := nI 1) dX8_holds_111 ki_1 ?_
          refine w_goto dX8_holds_112 rfl ?_
          exact w_zret dX8_holds_159 rfl (by first | exact narr0 | exact narr1) ⟨by rw [bP_t (show hD V (pr P k) = 1 by rw [hD, if_neg (show ¬ pr P k 0 = 2429 by omega), if_neg (show ¬ pr P k 0 = 2415 by omega), if_pos h_101, if_pos (by omega)])], by first | rfl | (simp only [bP, isT, bitN, inN, *, not_true_eq_false, not_false_eq_true, and_true, true_and, and_false, false_and, or_true, true_or, or_false, false_or, and_self, or_self, if_true, if_false, ite_true, ite_false]; done) | (simp [bP, isT, bitN, inN, *]; done) | (simp_all [bP, isT, bitN, inN]; done) | (repeat split) <;> first | rfl | contradiction | simp_all⟩
    · have hk15 : pr P k 0 = 2415 := by omega
      have e2 := EP.2 k hk 2 (by omega) (by omega)
      rw [e2]
      have hq := hrow.2.2.2.2.2.2.2.2.1 hk15
      have hll := lastV_lt K (d := pr P k 2) (by omega)
      refine w_aload_n dX8_holds_64 rfl ?_
      refine w_iload dX8_holds_65 rfl ?_
      refine m_calli1 (mi := miX8_lastOn) dX8_holds_67 q2000 okX8_lastOn rfl (Nat.le_of_ble_eq_true rfl) (c_lastOn E K (by first | assumption | omega)) (Nat.le_of_ble_eq_true rfl) ?_
      refine w_iload_n dX8_holds_70 rfl ?_
      refine w_ishrN dX8_holds_71 (by omega) (by omega) ?_
      refine w_iconst (v := nI 1) dX8_holds_72 ki_1 ?_
      refine w_iandN dX8_holds_73 ?_
      refine w_iconst (v := nI 1) dX8_holds_74 ki_1 ?_
      refine w_icmpN_ne dX8_holds_75 rfl (and1_lt _) (by omega) (fun h_75 => ?_) (fun h_75 => ?_)
      · refine w_iconst (v := nI 0) dX8_holds_82 ki_0 ?_
        exact w_zret dX8_holds_83 rfl (by first | exact narr0 | exact narr1) ⟨by rw [bP_f (show ¬ hD V (pr P k) = 1 by rw [hD, if_neg (show ¬ pr P k 0 = 2429 by omega), if_pos (show pr P k 0 = 2415 by omega), if_neg h_75]; omega)], by first | rfl | (simp only [bP, isT, bitN, inN, *, not_true_eq_false, not_false_eq_true, and_true, true_and, and_false, false_and, or_true, true_or, or_false, false_or, and_self, or_self, if_true, if_false, ite_true, ite_false]; done) | (simp [bP, isT, bitN, inN, *]; done) | (simp_all [bP, isT, bitN, inN]; done) | (repeat split) <;> first | rfl | contradiction | simp_all⟩
      · refine w_iconst (v := nI 1) dX8_holds_78 ki_1 ?_
        refine w_goto dX8_holds_79 rfl ?_
        exact w_zret dX8_holds_83 rfl (by first | exact narr0 | exact narr1) ⟨by rw [bP_t (show hD V (pr P k) = 1 by rw [hD, if_neg (show ¬ pr P k 0 = 2429 by omega), if_pos (show pr P k 0 = 2415 by omega), if_pos h_75])], by first | rfl | (simp only [bP, isT, bitN, inN, *, not_true_eq_false, not_false_eq_true, and_true, true_and, and_false, false_and, or_true, true_or, or_false, false_or, and_self, or_self, if_true, if_false, ite_true, ite_false]; done) | (simp [bP, isT, bitN, inN, *]; done) | (simp_all [bP, isT, bitN, inN]; done) | (repeat split) <;> first | rfl | contradiction | simp_all⟩
  · have hq := hrow.2.2.2.2.2.2.2.2.2.1 (show pr P k 0 = 2429 by omega)
    have hqn := K.n (d := pr P k 1) (by omega)
    refine w_aload_n dX8_holds_36 rfl ?_
    refine w_iload_n dX8_holds_37 rfl ?_
    refine m_calli1 (mi := miX8_isThere) dX8_holds_38 q1935 okX8_isThere rfl (Nat.le_of_ble_eq_true rfl) (c_isThere E K (by first | assumption | omega)) (Nat.le_of_ble_eq_true rfl) ?_
    refine w_ifB_eq dX8_holds_41 rfl (fun h_41 => ?_) (fun h_41 => ?_)
    · refine w_iconst (v := nI 0) dX8_holds_56 ki_0 ?_
      exact w_zret dX8_holds_57 rfl (by first | exact narr0 | exact narr1) ⟨by rw [bP_f (show ¬ hD V (pr P k) = 1 by rw [hD, if_pos (show pr P k 0 = 2429 by omega), if_neg (fun z => h_41 z.1)]; omega)], by first | rfl | (simp only [bP, isT, bitN, inN, *, not_true_eq_false, not_false_eq_true, and_true, true_and, and_false, false_and, or_true, true_or, or_false, false_or, and_self, or_self, if_true, if_false, ite_true, ite_false]; done) | (simp [bP, isT, bitN, inN, *]; done) | (simp_all [bP, isT, bitN, inN]; done) | (repeat split) <;> first | rfl | contradiction | simp_all⟩
    · refine w_aload_n dX8_holds_44 rfl ?_
      refine w_iload_n dX8_holds_45 rfl ?_
      refine m_calli1 (mi := miX8_manyOn) dX8_holds_46 q1894 okX8_manyOn rfl (Nat.le_of_ble_eq_true rfl) (c_manyOn E K (by first | assumption | omega)) (Nat.le_of_ble_eq_true rfl) ?_
      refine w_ifN_ne dX8_holds_49 rfl (by omega) (fun h_49 => ?_) (fun h_49 => ?_)
      · refine w_iconst (v := nI 0) dX8_holds_56 ki_0 ?_
        exact w_zret dX8_holds_57 rfl (by first | exact narr0 | exact narr1) ⟨by rw [bP_f (show ¬ hD V (pr P k) = 1 by rw [hD, if_pos (show pr P k 0 = 2429 by omega), if_neg (fun z => by have := z.2; omega)]; omega)], by first | rfl | (simp only [bP, isT, bitN, inN, *, not_true_eq_false, not_false_eq_true, and_true, true_and, and_false, false_and, or_true, true_or, or_false, false_or, and_self, or_self, if_true, if_false, ite_true, ite_false]; done) | (simp [bP, isT, bitN, inN, *]; done) | (simp_all [bP, isT, bitN, inN]; done) | (repeat split) <;> first | rfl | contradiction | simp_all⟩
      · refine w_iconst (v := nI 1) dX8_holds_52 ki_1 ?_
        refine w_goto dX8_holds_53 rfl ?_
        exact w_zret dX8_holds_57 rfl (by first | exact narr0 | exact narr1) ⟨by rw [bP_t (show hD V (pr P k) = 1 by rw [hD, if_pos (show pr P k 0 = 2429 by omega), if_pos ⟨h_41, by omega⟩])], by first | rfl | (simp only [bP, isT, bitN, inN, *, not_true_eq_false, not_false_eq_true, and_true, true_and, and_false, false_and, or_true, true_or, or_false, false_or, and_self, or_self, if_true, if_false, ite_true, ite_false]; done) | (simp [bP, isT, bitN, inN, *]; done) | (simp_all [bP, isT, bitN, inN]; done) | (repeat split) <;> first | rfl | contradiction | simp_all⟩
