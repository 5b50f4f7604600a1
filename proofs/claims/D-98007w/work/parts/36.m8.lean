set_option maxRecDepth 100000
theorem OkV.kept {V : VS} (K : OkV V) (hk : KepV V) (hday : vs V 6 ≤ 99) {k : Nat} (h : k ≤ vs V 2) : OkV (keptK V k) := by
  have hb := K.b
  have es := fun i => keptK_s V k i
  have et : ∀ j i, j ≠ 4 → vt (keptK V k) j i = vt V j i := fun j i hj => by rw [keptK_t, if_neg (fun z => hj z.1)]
  have ep := fun j d i => keptK_p V k j d i
  have K0 := K
  obtain ⟨k1, k2, k3, k4, k5, k6, k7, k8, k9⟩ := K
  refine ⟨?_, ?_, fun f hf => ?_, fun d hd => ?_, fun d hd => ?_, fun d hd i hi => ?_, fun d hd i j hij hj => ?_, ?_, ?_⟩
  · simp only [es]; exact hb
  · rw [es, es]; exact k2
  · rw [es] at hf
    have hq := k3 f hf
    have hl := leadK_le K0 f h
    have hkf := hk f hf
    rw [et 0 f (by omega), et 1 f (by omega), et 3 f (by omega), es, es]
    refine ⟨hq.1, hq.2.1, hq.2.2.1, hq.2.2.2.1, ?_⟩
    rw [keptK_t, if_pos ⟨rfl, hf⟩]
    omega
  · rw [es] at hd
    rw [et 5 d (by omega), et 6 d (by omega), es]
    exact k4 d hd
  · unfold isT
    rw [et 7 d (by omega), es]
    exact k5 d hd
  · rw [et 7 d (by omega)] at hi
    rw [ep, ep, es, es]
    exact k6 d hd i hi
  · rw [et 7 d (by omega)] at hj
    rw [ep, ep]
    exact k7 d hd i j hij hj
  · rw [es, sum_eq (f := fun d => vt V 7 d) (g := fun d => vt (keptK V k) 7 d) 8 (fun i _ => et 7 i (by omega))]; exact k8
  · rw [es, es, sum_eq (f := fun d => vt V 2 d) (g := fun d => vt (keptK V k) 2 d) (vs V 1) (fun i _ => et 2 i (by omega))]; exact k9
set_option maxHeartbeats 4000000 in
theorem c_whoAt4 {g : GG} {S : MS} {d : Nat} {k : Nat} {V : VS} (E : Enc S V) (hd8 : d < 8) (hk : k < vt V 7 d) (kn : vt V 7 d ≤ 60) : Mt g miX8_whoAt 2 [.int (nI d), .int (nI k)] (S) (some (.int (nI (vp V 0 d k)))) (S) := by
  refine Mt.start (fun b => [some (.ref b), some (.int (nI d)), some (.int (nI k))]) plX8 rfl (fun b => (Nat.le_of_ble_eq_true rfl)) (fun b => rfl) ?_
  intro σ b
  refine w_aload_n dX8_whoAt_0 rfl ?_
  refine mg_at dX8_whoAt_1 rfl ?_
  refine w_iconst (v := nI 0) dX8_whoAt_4 ki_0 ?_
  refine w_iload_n dX8_whoAt_5 rfl ?_
  refine w_iload_n dX8_whoAt_6 rfl ?_
  refine s_calli3 (mi := miX8_pebbleRow) dX8_whoAt_7 q1828 okX8_pebbleRow (Nat.le_of_ble_eq_true rfl) c_pebbleRow (Nat.le_of_ble_eq_true rfl) ?_
  refine ma_at dX8_whoAt_10 (by omega) ?_
  refine w_topN (E.p 0 (by omega) (by omega) (by omega)) ?_
  exact w_iret dX8_whoAt_11 rfl ⟨by first | rfl | (simp only [bP, isT, bitN, inN, *, not_true_eq_false, not_false_eq_true, and_true, true_and, and_false, false_and, or_true, true_or, or_false, false_or, and_self, or_self, if_true, if_false, ite_true, ite_false]; done) | (simp [bP, isT, bitN, inN, *]; done) | (simp_all [bP, isT, bitN, inN]; done) | (repeat split) <;> first | rfl | contradiction | simp_all, by first | rfl | (simp only [bP, isT, bitN, inN, *, not_true_eq_false, not_false_eq_true, and_true, true_and, and_false, false_and, or_true, true_or, or_false, false_or, and_self, or_self, if_true, if_false, ite_true, ite_false]; done) | (simp [bP, isT, bitN, inN, *]; done) | (simp_all [bP, isT, bitN, inN]; done) | (repeat split) <;> first | rfl | contradiction | simp_all⟩
set_option maxHeartbeats 4000000 in
theorem c_floods {g : GG} {S : MS} {V : VS} (E : Enc S V) (K : OkV V) (hkep : KepV V) (hday : vs V 6 < 99) : Mp g miX8_floods 5 [] (S) (none) (fun S2 => Ch S S2 (floodV V)) := by
  refine Mp.start (fun b => [some (.ref b), none, none, none]) plX8 rfl (fun b => (Nat.le_of_ble_eq_true rfl)) (fun b => rfl) ?_
  intro σ b
  have kb := K.b
  refine w_iconst (v := nI 0) dX8_floods_0 ki_0 ?_
  refine w_istore_n dX8_floods_1 rfl (Nat.le_of_ble_eq_true rfl) ls_4_1 ?_
  have lo : ∀ (j9 : Nat) (k : Nat) (S4 : MS), vs V 2 - k < j9 → k ≤ vs V 2 → Ch S S4 (keptK V k) → Wp g (mtP g miX8_floods 5 σ b (none) (fun S2 => Ch S S2 (floodV V))) 0 0 2 [some (.ref b), some (.int (nI k)), none, none] [] (sM g σ b (S4)) := by
    intro j9
    induction j9 with
    | zero => intro k S4 hmu hk hC; exact absurd hmu (Nat.not_lt_zero _)
    | succ j9 ih_lo =>
      intro k S4 hmu hk hC
      have E4 := hC.E
      have K4 := OkV.kept K hkep (by omega) hk
      have e2 := keptK_s V k 2
      have e1 := keptK_s V k 1
      have hse := set_eq (V := V) (W := keptK V k) (d := k) (keptK_s V k 5) (keptK_s V k 7) (by rw [keptK_t, if_neg (by omega)]) (fun j i => keptK_p V k j k i)
      have hnk : ∀ j i, j ≠ 4 → vt (keptK V k) j i = vt V j i := fun j i hj => by rw [keptK_t, if_neg (fun z => hj z.1)]
      refine w_iload_n dX8_floods_2 rfl ?_
      refine w_aload_n dX8_floods_3 rfl ?_
      refine mg_at dX8_floods_4 rfl ?_
      refine w_iconst (v := nI 2) dX8_floods_7 ki_2 ?_
      refine ma_at dX8_floods_8 (by omega) ?_
      refine w_topN (n := vs V 2) ((E4.s 2 (by omega)).trans (by rw [e2])) ?_
      refine w_icmpN_ge dX8_floods_9 rfl (by omega) (by omega) (fun h_9 => ?_) (fun h_9 => ?_)
      · obtain rfl : k = vs V 2 := by omega
        refine w_iconst (v := nI 0) dX8_floods_98 ki_0 ?_
        refine w_istore_n dX8_floods_99 rfl (Nat.le_of_ble_eq_true rfl) ls_4_1 ?_
        have lo2 : ∀ (j9 : Nat) (k : Nat) (S4 : MS), vs V 2 - k < j9 → k ≤ vs V 2 → Ch S S4 (hasK V (keptK V (vs V 2)) k) → Wp g (mtP g miX8_floods 5 σ b (none) (fun S2 => Ch S S2 (floodV V))) 0 0 100 [some (.ref b), some (.int (nI k)), none, none] [] (sM g σ b (S4)) := by
          intro j9
          induction j9 with
          | zero => intro k S4 hmu hk2 hC2; exact absurd hmu (Nat.not_lt_zero _)
          | succ j9 ih_lo2 =>
            intro k S4 hmu hk2 hC2
            have E4 := hC2.E
            have e2 : vs (hasK V (keptK V (vs V 2)) k) 2 = vs V 2 := by rw [hasK_s, keptK_s]
            have e1 : vs (hasK V (keptK V (vs V 2)) k) 1 = vs V 1 := by rw [hasK_s, keptK_s]
            refine w_iload_n dX8_floods_100 rfl ?_
            refine w_aload_n dX8_floods_101 rfl ?_
            refine mg_at dX8_floods_102 rfl ?_
            refine w_iconst (v := nI 2) dX8_floods_105 ki_2 ?_
            refine ma_at dX8_floods_106 (by omega) ?_
            refine w_topN (n := vs V 2) ((E4.s 2 (by omega)).trans (by rw [e2])) ?_
            refine w_icmpN_ge dX8_floods_107 rfl (by omega) (by omega) (fun h_107 => ?_) (fun h_107 => ?_)
            · obtain rfl : k = vs V 2 := by omega
              refine w_iconst (v := nI 0) dX8_floods_166 ki_0 ?_
              refine w_istore_n dX8_floods_167 rfl (Nat.le_of_ble_eq_true rfl) ls_4_1 ?_
              have lo3 : ∀ (j9 : Nat) (k : Nat) (S4 : MS), vs V 1 - k < j9 → k ≤ vs V 1 → Ch S S4 (clkK (hasK V (keptK V (vs V 2)) (vs V 2)) k) → Wp g (mtP g miX8_floods 5 σ b (none) (fun S2 => Ch S S2 (floodV V))) 0 0 168 [some (.ref b), some (.int (nI k)), none, none] [] (sM g σ b (S4)) := by
                intro j9
                induction j9 with
                | zero => intro k S4 hmu hk3 hC3; exact absurd hmu (Nat.not_lt_zero _)
                | succ j9 ih_lo3 =>
                  intro k S4 hmu hk3 hC3
                  have E4 := hC3.E
                  have ek : ∀ i, vs (clkK (hasK V (keptK V (vs V 2)) (vs V 2)) k) i = vs V i := fun i => by rw [clkK_s, hasK_s, keptK_s]
                  refine w_iload_n dX8_floods_168 rfl ?_
                  refine w_aload_n dX8_floods_169 rfl ?_
                  refine mg_at dX8_floods_170 rfl ?_
                  refine w_iconst (v := nI 1) dX8_floods_173 ki_1 ?_
                  refine ma_at dX8_floods_174 (by omega) ?_
                  refine w_topN (n := vs V 1) ((E4.s 1 (by omega)).trans (by rw [ek])) ?_
                  refine w_icmpN_ge dX8_floods_175 rfl (by omega) (by omega) (fun h_175 => ?_) (fun h_175 => ?_)
                  · obtain rfl : k = vs V 1 := by omega
                    refine w_aload_n dX8_floods_196 rfl ?_
                    refine mg_at dX8_floods_197 rfl ?_
                    refine w_bipush (v := nI 8) dX8_floods_200 kb_8 ?_
                    refine w_iconst (v := nI 0) dX8_floods_202 ki_0 ?_
                    refine ms_at dX8_floods_203 (by omega) ?_
                    have hD1 := hC3.trans (Ch.setS E4 (k := 8) (x := 0) (by omega))
                    refine w_aload_n dX8_floods_204 rfl ?_
                    refine mg_at dX8_floods_205 rfl ?_
                    refine w_bipush (v := nI 7) dX8_floods_208 kb_7 ?_
                    refine w_iconst (v := nI 0) dX8_floods_210 ki_0 ?_
                    refine ms_at dX8_floods_211 (by omega) ?_
                    have hD2 := hD1.trans (Ch.setS hD1.E (k := 7) (x := 0) (by omega))
                    refine w_aload_n dX8_floods_212 rfl ?_
                    refine mg_at dX8_floods_213 rfl ?_
                    refine w_bipush (v := nI 6) dX8_floods_216 kb_6 ?_
                    refine w_dup2 dX8_floods_218 rfl rfl ?_
                    refine ma_at dX8_floods_219 (by omega) ?_
                    refine w_topN (n := vs V 6) ((hD2.E.s 6 (by omega)).trans (by rw [setS_s, if_neg (by omega), setS_s, if_neg (by omega), ek])) ?_
                    refine w_iconst (v := nI 1) dX8_floods_220 ki_1 ?_
                    refine w_iaddN dX8_floods_221 ?_
                    refine ms_at dX8_floods_222 (by omega) ?_
                    have hD3 := hD2.trans (Ch.setS hD2.E (k := 6) (x := vs V 6 + 1) (by omega))
                    refine w_aload_n dX8_floods_223 rfl ?_
                    refine mg_at dX8_floods_224 rfl ?_
                    refine w_iconst (v := nI 3) dX8_floods_227 ki_3 ?_
                    refine w_iconst (v := nI 1) dX8_floods_228 ki_1 ?_
                    refine w_aload_n dX8_floods_229 rfl ?_
                    refine mg_at dX8_floods_230 rfl ?_
                    refine w_iconst (v := nI 3) dX8_floods_233 ki_3 ?_
                    refine ma_at dX8_floods_234 (by omega) ?_
                    refine w_topN (n := vs V 3) ((hD3.E.s 3 (by omega)).trans (by rw [setS_s, if_neg (by omega), setS_s, if_neg (by omega), setS_s, if_neg (by omega), ek])) ?_
                    refine w_aload_n dX8_floods_235 rfl ?_
                    refine mg_at dX8_floods_236 rfl ?_
                    refine w_iconst (v := nI 4) dX8_floods_239 ki_4 ?_
                    refine ma_at dX8_floods_240 (by omega) ?_
                    refine w_topN (n := vs V 4) ((hD3.E.s 4 (by omega)).trans (by rw [setS_s, if_neg (by omega), setS_s, if_neg (by omega), setS_s, if_neg (by omega), ek])) ?_
                    refine w_isub dX8_floods_241 ?_
                    refine w_mmax dX8_floods_242 q2092 q1165 q155 q1166 (Nat.le_of_ble_eq_true rfl) (Nat.le_of_ble_eq_true rfl) ?_
                    refine w_topN (max_sub (by omega) (by omega)) ?_
                    refine ms_at dX8_floods_245 (by omega) ?_
                    have hD4 := hD3.trans (Ch.setS hD3.E (k := 3) (x := max 1 (vs V 3 - vs V 4)) (by omega))
                    exact w_vret dX8_floods_246 rfl ⟨by rfl, _, by exact hD4, rfl⟩
                  · refine w_aload_n dX8_floods_178 rfl ?_
                    refine mg_at dX8_floods_179 rfl ?_
                    refine w_iload_n dX8_floods_182 rfl ?_
                    refine s_calli1 (mi := miX8_finderRow) dX8_floods_183 q1879 okX8_finderRow (Nat.le_of_ble_eq_true rfl) c_finderRow (Nat.le_of_ble_eq_true rfl) ?_
                    refine w_iconst (v := nI 3) dX8_floods_186 ki_3 ?_
                    refine w_iaddN dX8_floods_187 ?_
                    refine w_iconst (v := nI 0) dX8_floods_188 ki_0 ?_
                    refine ms_at dX8_floods_189 (by omega) ?_
                    refine w_iinc dX8_floods_190 rfl (nI_inc _ 1) rfl (Nat.le_of_ble_eq_true rfl) ls_4_1 ?_
                    refine w_goto dX8_floods_193 rfl ?_
                    exact ih_lo3 (k + 1) _ (by omega) (by omega) (hC3.trans (Ch.setF E4 (f := k) (j := 3) (x := 0) (by omega) (by omega) rfl))
              exact w_L (wkS (wkS (wkN (wkN wk0)))) (lo3 (vs V 1 + 1) 0 _ (by omega) (by omega) hC2)
            · refine w_iconst (v := nI 0) dX8_floods_110 ki_0 ?_
              refine w_istore_n dX8_floods_111 rfl (Nat.le_of_ble_eq_true rfl) ls_4_2 ?_
              have li2 : ∀ (j9 : Nat) (n : Nat) (S5 : MS), vt V 7 k - n < j9 → n ≤ vt V 7 k → Ch S S5 (hasF V (hasK V (keptK V (vs V 2)) k) k n) → Wp g (mtP g miX8_floods 5 σ b (none) (fun S2 => Ch S S2 (floodV V))) 0 0 112 [some (.ref b), some (.int (nI k)), some (.int (nI n)), none] [] (sM g σ b (S5)) := by
                intro j9
                induction j9 with
                | zero => intro n S5 hmu hn hC6; exact absurd hmu (Nat.not_lt_zero _)
                | succ j9 ih_li2 =>
                  intro n S5 hmu hn hC6
                  have E5 := hC6.E
                  have h7k : vt (hasF V (hasK V (keptK V (vs V 2)) k) k n) 7 k = vt V 7 k := by rw [hasF_t, if_neg (by omega), hasK_t, if_neg (by omega), if_neg (by omega), keptK_t, if_neg (by omega)]
                  have hpk : vp (hasF V (hasK V (keptK V (vs V 2)) k) k n) 0 k n = vp V 0 k n := by rw [hasF_p, hasK_p, keptK_p]
                  have hkn := K.n (d := k) (by omega)
                  refine w_iload_n dX8_floods_112 rfl ?_
                  refine w_aload_n dX8_floods_113 rfl ?_
                  refine w_iload_n dX8_floods_114 rfl ?_
                  refine m_calli1 (mi := miX8_manyOn) dX8_floods_115 q1894 okX8_manyOn rfl (Nat.le_of_ble_eq_true rfl) (c_manyOn4 E5 (by first | assumption | omega)) (Nat.le_of_ble_eq_true rfl) ?_
                  rw [h7k]
                  refine w_icmpN_ge dX8_floods_118 rfl (by omega) (by omega) (fun h_118 => ?_) (fun h_118 => ?_)
                  · obtain rfl : n = vt V 7 k := by omega
                    refine w_aload_n dX8_floods_147 rfl ?_
                    refine mg_at dX8_floods_148 rfl ?_
                    refine w_iconst (v := nI 0) dX8_floods_151 ki_0 ?_
                    refine w_iload_n dX8_floods_152 rfl ?_
                    refine s_calli2 (mi := miX8_findRow) dX8_floods_153 q1813 okX8_findRow (Nat.le_of_ble_eq_true rfl) c_findRow (Nat.le_of_ble_eq_true rfl) ?_
                    refine w_iconst (v := nI 2) dX8_floods_156 ki_2 ?_
                    refine w_iaddN dX8_floods_157 ?_
                    rw [show 0 + 40 + 3 * k + 2 = 40 + 3 * k + 2 by omega]
                    refine w_iconst (v := nI 0) dX8_floods_158 ki_0 ?_
                    refine ms_at dX8_floods_159 (by omega) ?_
                    refine w_iinc dX8_floods_160 rfl (nI_inc _ 1) rfl (Nat.le_of_ble_eq_true rfl) ls_4_1 ?_
                    refine w_goto dX8_floods_163 rfl ?_
                    exact w_L (wkS (wkS (wkN (wkN wk0)))) (ih_lo2 (k + 1) _ (by omega) (by omega) (hC6.trans (by rw [show hasK V (keptK V (vs V 2)) (k + 1) = setT (hasF V (hasK V (keptK V (vs V 2)) k) k (vt V 7 k)) 7 k 0 from rfl]; exact Ch.setN hC6.E (d := k) (x := 0) (by omega) (by omega))))
                  · have hpkn := K.p (d := k) (by omega) (k := n) (by omega)
                    refine w_aload_n dX8_floods_121 rfl ?_
                    refine mg_at dX8_floods_122 rfl ?_
                    refine w_aload_n dX8_floods_125 rfl ?_
                    refine w_iload_n dX8_floods_126 rfl ?_
                    refine w_iload_n dX8_floods_127 rfl ?_
                    refine m_calli2 (mi := miX8_whoAt) dX8_floods_128 q1955 okX8_whoAt rfl (Nat.le_of_ble_eq_true rfl) (c_whoAt4 E5 (by first | assumption | omega) (by rw [h7k]; omega) (by rw [h7k]; omega)) (Nat.le_of_ble_eq_true rfl) ?_
                    rw [hpk]
                    refine s_calli1 (mi := miX8_finderRow) dX8_floods_131 q1879 okX8_finderRow (Nat.le_of_ble_eq_true rfl) c_finderRow (Nat.le_of_ble_eq_true rfl) ?_
                    refine w_iconst (v := nI 2) dX8_floods_134 ki_2 ?_
                    refine w_iaddN dX8_floods_135 ?_
                    refine w_dup2 dX8_floods_136 rfl rfl ?_
                    refine ma_at dX8_floods_137 (by omega) ?_
                    refine w_topN (n := vt (hasF V (hasK V (keptK V (vs V 2)) k) k n) 2 (vp V 0 k n)) (E5.f 2 (by omega) (by omega)) ?_
                    refine w_iconst (v := nI 1) dX8_floods_138 ki_1 ?_
                    refine w_iaddN dX8_floods_139 ?_
                    refine ms_at dX8_floods_140 (by omega) ?_
                    refine w_iinc dX8_floods_141 rfl (nI_inc _ 1) rfl (Nat.le_of_ble_eq_true rfl) ls_4_2 ?_
                    refine w_goto dX8_floods_144 rfl ?_
                    exact ih_li2 (n + 1) _ (by omega) (by omega) (hC6.trans (Ch.setF E5 (f := vp V 0 k n) (j := 2) (by omega) (by omega) rfl))
              exact w_L (wkS (wkS (wkS (wkN wk0)))) (li2 (vt V 7 k + 1) 0 S4 (by omega) (by omega) hC2)
        exact w_L (wkS (wkS (wkN (wkN wk0)))) (lo2 (vs V 2 + 1) 0 _ (by omega) (by omega) hC)
      · refine w_aload_n dX8_floods_12 rfl ?_
        refine w_iload_n dX8_floods_13 rfl ?_
        refine m_calli1 (mi := miX8_isThere) dX8_floods_14 q1935 okX8_isThere rfl (Nat.le_of_ble_eq_true rfl) (c_isThere E4 K4 (by first | assumption | omega)) (Nat.le_of_ble_eq_true rfl) ?_
        refine w_ifB_eq dX8_floods_17 rfl (fun h_17 => ?_) (fun h_17 => ?_)
        · have h_17 : ¬ isT V k := fun z => h_17 (by unfold isT; rw [keptK_s]; exact z)
          refine w_iconst (v := nI 0) dX8_floods_28 ki_0 ?_
          refine w_topN (n := setV V k) (by rw [setV, if_neg h_17]) ?_
          refine w_istore_n dX8_floods_29 rfl (Nat.le_of_ble_eq_true rfl) ls_4_2 ?_
          refine w_iconst (v := nI 0) dX8_floods_30 ki_0 ?_
          refine w_istore_n dX8_floods_31 rfl (Nat.le_of_ble_eq_true rfl) ls_4_3 ?_
          have li : ∀ (j9 : Nat) (m : Nat) (S5 : MS), vs V 1 - m < j9 → m ≤ vs V 1 → Ch S S5 (keptF V (keptK V k) k m) → Wp g (mtP g miX8_floods 5 σ b (none) (fun S2 => Ch S S2 (floodV V))) 0 0 32 [some (.ref b), some (.int (nI k)), some (.int (nI (setV V k))), some (.int (nI m))] [] (sM g σ b (S5)) := by
            intro j9
            induction j9 with
            | zero => intro m S5 hmu hm hC5; exact absurd hmu (Nat.not_lt_zero _)
            | succ j9 ih_li =>
              intro m S5 hmu hm hC5
              have E5 := hC5.E
              have hf4 := keptF_t V (keptK V k) k m
              have hfs := keptF_s V (keptK V k) k m
              have hsl := setV_lt K (d := k) (by omega)
              refine w_iload_n dX8_floods_32 rfl ?_
              refine w_aload_n dX8_floods_33 rfl ?_
              refine mg_at dX8_floods_34 rfl ?_
              refine w_iconst (v := nI 1) dX8_floods_37 ki_1 ?_
              refine ma_at dX8_floods_38 (by omega) ?_
              refine w_topN (n := vs V 1) ((E5.s 1 (by omega)).trans (by rw [hfs, e1])) ?_
              refine w_icmpN_ge dX8_floods_39 rfl (by omega) (by omega) (fun h_39 => ?_) (fun h_39 => ?_)
              · obtain rfl : m = vs V 1 := by omega
                refine w_iinc dX8_floods_92 rfl (nI_inc _ 1) rfl (Nat.le_of_ble_eq_true rfl) ls_4_1 ?_
                refine w_goto dX8_floods_95 rfl ?_
                exact w_L (wkS (wkS (wkN (wkN wk0)))) (ih_lo (k + 1) S5 (by omega) (by omega) hC5)
              · refine w_aload_n dX8_floods_42 rfl ?_
                refine mg_at dX8_floods_43 rfl ?_
                refine w_iload_n dX8_floods_46 rfl ?_
                refine s_calli1 (mi := miX8_finderRow) dX8_floods_47 q1879 okX8_finderRow (Nat.le_of_ble_eq_true rfl) c_finderRow (Nat.le_of_ble_eq_true rfl) ?_
                refine w_iconst (v := nI 4) dX8_floods_50 ki_4 ?_
                refine w_iaddN dX8_floods_51 ?_
                refine w_dup2 dX8_floods_52 rfl rfl ?_
                refine ma_at dX8_floods_53 (by omega) ?_
                refine w_topN (n := vt (keptF V (keptK V k) k m) 4 m) (E5.f 4 (by omega) (by omega)) ?_
                refine w_iload_n dX8_floods_54 rfl ?_
                refine w_iload_n dX8_floods_55 rfl ?_
                refine w_ishrN dX8_floods_56 (by omega) (by omega) ?_
                refine w_iconst (v := nI 1) dX8_floods_57 ki_1 ?_
                refine w_iandN dX8_floods_58 ?_
                refine w_iconst (v := nI 1) dX8_floods_59 ki_1 ?_
                refine w_icmpN_ne dX8_floods_60 rfl (and1_lt _) (by omega) (fun h_60 => ?_) (fun h_60 => ?_)
                · have hsh : shareV V m k = 0 := by rw [shareV, if_pos (by rcases and1_01 (setV V k >>> m) with z | z; exact z; exact absurd z h_60)]
                  refine w_iconst (v := nI 0) dX8_floods_83 ki_0 ?_
                  refine w_iaddN dX8_floods_84 ?_
                  refine ms_at dX8_floods_85 (by omega) ?_
                  refine w_iinc dX8_floods_86 rfl (nI_inc _ 1) rfl (Nat.le_of_ble_eq_true rfl) ls_4_3 ?_
                  refine w_goto dX8_floods_89 rfl ?_
                  exact ih_li (m + 1) _ (by omega) (by omega) (hC5.trans (by rw [show keptF V (keptK V k) k (m + 1) = setT (keptF V (keptK V k) k m) 4 m (vt (keptF V (keptK V k) k m) 4 m + shareV V m k) from rfl, hsh]; exact Ch.setF E5 (f := m) (j := 4) (by omega) (by omega) rfl))
                · have hsh : shareV V m k = vt V 6 k / pcnt (setV V k) := by rw [shareV, if_neg (by omega)]
                  have hpc := (bits64 _ hsl).2.2 m (by omega) h_60
                  have hp6 := pcnt_le _ hsl
                  have hkd := K.d (d := k) (by omega)
                  refine w_aload_n dX8_floods_63 rfl ?_
                  refine mg_at dX8_floods_64 rfl ?_
                  refine w_iconst (v := nI 0) dX8_floods_67 ki_0 ?_
                  refine w_iload_n dX8_floods_68 rfl ?_
                  refine s_calli2 (mi := miX8_findRow) dX8_floods_69 q1813 okX8_findRow (Nat.le_of_ble_eq_true rfl) c_findRow (Nat.le_of_ble_eq_true rfl) ?_
                  refine w_iconst (v := nI 1) dX8_floods_72 ki_1 ?_
                  refine w_iaddN dX8_floods_73 ?_
                  refine ma_at dX8_floods_74 (by omega) ?_
                  refine w_topN (n := vt V 6 k) ((E5.d 1 (by omega) (by omega)).trans (by rw [hf4, if_neg (by omega), hnk _ _ (by omega)])) ?_
                  refine w_iload_n dX8_floods_75 rfl ?_
                  refine s_calli1 (mi := miX8_bits) dX8_floods_76 q2012 okX8_bits (Nat.le_of_ble_eq_true rfl) (c_bits (by first | assumption | omega)) (Nat.le_of_ble_eq_true rfl) ?_
                  refine w_idivN dX8_floods_79 (by omega) (by omega) (by omega) ?_
                  refine w_goto dX8_floods_80 rfl ?_
                  refine w_iaddN dX8_floods_84 ?_
                  refine ms_at dX8_floods_85 (by omega) ?_
                  refine w_iinc dX8_floods_86 rfl (nI_inc _ 1) rfl (Nat.le_of_ble_eq_true rfl) ls_4_3 ?_
                  refine w_goto dX8_floods_89 rfl ?_
                  exact ih_li (m + 1) _ (by omega) (by omega) (hC5.trans (by rw [show keptF V (keptK V k) k (m + 1) = setT (keptF V (keptK V k) k m) 4 m (vt (keptF V (keptK V k) k m) 4 m + shareV V m k) from rfl, hsh]; exact Ch.setF E5 (f := m) (j := 4) (by omega) (by omega) rfl))
          exact li (vs V 1 + 1) 0 S4 (by omega) (by omega) hC
        · have h_17 : isT V k := by unfold isT at h_17; rw [keptK_s] at h_17; exact h_17
          refine w_aload_n dX8_floods_20 rfl ?_
          refine w_iload_n dX8_floods_21 rfl ?_
          refine m_calli1 (mi := miX8_ownersOf) dX8_floods_22 q2008 okX8_ownersOf rfl (Nat.le_of_ble_eq_true rfl) (c_ownersOf E4 K4 (by first | assumption | omega)) (Nat.le_of_ble_eq_true rfl) ?_
          refine w_topN (n := setV V k) (by rw [setV, if_pos h_17, hse.2.1]) ?_
          refine w_goto dX8_floods_25 rfl ?_
          refine w_istore_n dX8_floods_29 rfl (Nat.le_of_ble_eq_true rfl) ls_4_2 ?_
          refine w_iconst (v := nI 0) dX8_floods_30 ki_0 ?_
          refine w_istore_n dX8_floods_31 rfl (Nat.le_of_ble_eq_true rfl) ls_4_3 ?_
          have li : ∀ (j9 : Nat) (m : Nat) (S5 : MS), vs V 1 - m < j9 → m ≤ vs V 1 → Ch S S5 (keptF V (keptK V k) k m) → Wp g (mtP g miX8_floods 5 σ b (none) (fun S2 => Ch S S2 (floodV V))) 0 0 32 [some (.ref b), some (.int (nI k)), some (.int (nI (setV V k))), some (.int (nI m))] [] (sM g σ b (S5)) := by
            intro j9
            induction j9 with
            | zero => intro m S5 hmu hm hC5; exact absurd hmu (Nat.not_lt_zero _)
            | succ j9 ih_li =>
              intro m S5 hmu hm hC5
              have E5 := hC5.E
              have hf4 := keptF_t V (keptK V k) k m
              have hfs := keptF_s V (keptK V k) k m
              have hsl := setV_lt K (d := k) (by omega)
              refine w_iload_n dX8_floods_32 rfl ?_
              refine w_aload_n dX8_floods_33 rfl ?_
              refine mg_at dX8_floods_34 rfl ?_
              refine w_iconst (v := nI 1) dX8_floods_37 ki_1 ?_
              refine ma_at dX8_floods_38 (by omega) ?_
              refine w_topN (n := vs V 1) ((E5.s 1 (by omega)).trans (by rw [hfs, e1])) ?_
              refine w_icmpN_ge dX8_floods_39 rfl (by omega) (by omega) (fun h_39 => ?_) (fun h_39 => ?_)
              · obtain rfl : m = vs V 1 := by omega
                refine w_iinc dX8_floods_92 rfl (nI_inc _ 1) rfl (Nat.le_of_ble_eq_true rfl) ls_4_1 ?_
                refine w_goto dX8_floods_95 rfl ?_
                exact w_L (wkS (wkS (wkN (wkN wk0)))) (ih_lo (k + 1) S5 (by omega) (by omega) hC5)
              · refine w_aload_n dX8_floods_42 rfl ?_
                refine mg_at dX8_floods_43 rfl ?_
                refine w_iload_n dX8_floods_46 rfl ?_
                refine s_calli1 (mi := miX8_finderRow) dX8_floods_47 q1879 okX8_finderRow (Nat.le_of_ble_eq_true rfl) c_finderRow (Nat.le_of_ble_eq_true rfl) ?_
                refine w_iconst (v := nI 4) dX8_floods_50 ki_4 ?_
                refine w_iaddN dX8_floods_51 ?_
                refine w_dup2 dX8_floods_52 rfl rfl ?_
                refine ma_at dX8_floods_53 (by omega) ?_
                refine w_topN (n := vt (keptF V (keptK V k) k m) 4 m) (E5.f 4 (by omega) (by omega)) ?_
                refine w_iload_n dX8_floods_54 rfl ?_
                refine w_iload_n dX8_floods_55 rfl ?_
                refine w_ishrN dX8_floods_56 (by omega) (by omega) ?_
                refine w_iconst (v := nI 1) dX8_floods_57 ki_1 ?_
                refine w_iandN dX8_floods_58 ?_
                refine w_iconst (v := nI 1) dX8_floods_59 ki_1 ?_
                refine w_icmpN_ne dX8_floods_60 rfl (and1_lt _) (by omega) (fun h_60 => ?_) (fun h_60 => ?_)
                · have hsh : shareV V m k = 0 := by rw [shareV, if_pos (by rcases and1_01 (setV V k >>> m) with z | z; exact z; exact absurd z h_60)]
                  refine w_iconst (v := nI 0) dX8_floods_83 ki_0 ?_
                  refine w_iaddN dX8_floods_84 ?_
                  refine ms_at dX8_floods_85 (by omega) ?_
                  refine w_iinc dX8_floods_86 rfl (nI_inc _ 1) rfl (Nat.le_of_ble_eq_true rfl) ls_4_3 ?_
                  refine w_goto dX8_floods_89 rfl ?_
                  exact ih_li (m + 1) _ (by omega) (by omega) (hC5.trans (by rw [show keptF V (keptK V k) k (m + 1) = setT (keptF V (keptK V k) k m) 4 m (vt (keptF V (keptK V k) k m) 4 m + shareV V m k) from rfl, hsh]; exact Ch.setF E5 (f := m) (j := 4) (by omega) (by omega) rfl))
                · have hsh : shareV V m k = vt V 6 k / pcnt (setV V k) := by rw [shareV, if_neg (by omega)]
                  have hpc := (bits64 _ hsl).2.2 m (by omega) h_60
                  have hp6 := pcnt_le _ hsl
                  have hkd := K.d (d := k) (by omega)
                  refine w_aload_n dX8_floods_63 rfl ?_
                  refine mg_at dX8_floods_64 rfl ?_
                  refine w_iconst (v := nI 0) dX8_floods_67 ki_0 ?_
                  refine w_iload_n dX8_floods_68 rfl ?_
                  refine s_calli2 (mi := miX8_findRow) dX8_floods_69 q1813 okX8_findRow (Nat.le_of_ble_eq_true rfl) c_findRow (Nat.le_of_ble_eq_true rfl) ?_
                  refine w_iconst (v := nI 1) dX8_floods_72 ki_1 ?_
                  refine w_iaddN dX8_floods_73 ?_
                  refine ma_at dX8_floods_74 (by omega) ?_
                  refine w_topN (n := vt V 6 k) ((E5.d 1 (by omega) (by omega)).trans (by rw [hf4, if_neg (by omega), hnk _ _ (by omega)])) ?_
                  refine w_iload_n dX8_floods_75 rfl ?_
                  refine s_calli1 (mi := miX8_bits) dX8_floods_76 q2012 okX8_bits (Nat.le_of_ble_eq_true rfl) (c_bits (by first | assumption | omega)) (Nat.le_of_ble_eq_true rfl) ?_
                  refine w_idivN dX8_floods_79 (by omega) (by omega) (by omega) ?_
                  refine w_goto dX8_floods_80 rfl ?_
                  refine w_iaddN dX8_floods_84 ?_
                  refine ms_at dX8_floods_85 (by omega) ?_
                  refine w_iinc dX8_floods_86 rfl (nI_inc _ 1) rfl (Nat.le_of_ble_eq_true rfl) ls_4_3 ?_
                  refine w_goto dX8_floods_89 rfl ?_
                  exact ih_li (m + 1) _ (by omega) (by omega) (hC5.trans (by rw [show keptF V (keptK V k) k (m + 1) = setT (keptF V (keptK V k) k m) 4 m (vt (keptF V (keptK V k) k m) 4 m + shareV V m k) from rfl, hsh]; exact Ch.setF E5 (f := m) (j := 4) (by omega) (by omega) rfl))
          exact li (vs V 1 + 1) 0 S4 (by omega) (by omega) hC
  exact w_L (wkS (wkS (wkN (wkN wk0)))) (lo (vs V 2 + 1) 0 S (by omega) (by omega) (Ch.refl E))
set_option maxHeartbeats 4000000 in
theorem c_dawns {g : GG} {S : MS} {V : VS} (E : Enc S V) (K : OkV V) : Mp g miX8_dawns 1 [] (S) (none) (fun S2 => Ch S S2 (dawnV V)) := by
  refine Mp.start (fun b => [some (.ref b)]) plX8 rfl (fun b => (Nat.le_of_ble_eq_true rfl)) (fun b => rfl) ?_
  intro σ b
  have kb := K.b
  have hp8 : 2 ^ vs V 2 ≤ 2 ^ 8 := Nat.pow_le_pow_right (by omega) kb.2.2.2.1
  have hp0 : 0 < 2 ^ vs V 2 := Nat.pow_pos (by omega)
  refine w_aload_n dX8_dawns_0 rfl ?_
  refine mg_at dX8_dawns_1 rfl ?_
  refine w_bipush (v := nI 7) dX8_dawns_4 kb_7 ?_
  refine w_iconst (v := nI 1) dX8_dawns_6 ki_1 ?_
  refine w_aload_n dX8_dawns_7 rfl ?_
  refine mg_at dX8_dawns_8 rfl ?_
  refine w_iconst (v := nI 2) dX8_dawns_11 ki_2 ?_
  refine ma_at dX8_dawns_12 (by omega) ?_
  refine w_topN (E.s 2 (by omega)) ?_
  refine w_shl1N dX8_dawns_13 (by omega) ?_
  refine w_iconst (v := nI 1) dX8_dawns_14 ki_1 ?_
  refine w_isubN dX8_dawns_15 (by omega) ?_
  refine ms_at dX8_dawns_16 (by omega) ?_
  have hc1 : Ch S _ (dawnV V) := Ch.setS E (k := 7) (x := 2 ^ vs V 2 - 1) (by omega)
  exact w_vret dX8_dawns_17 rfl ⟨by rfl, _, by exact hc1, rfl⟩
