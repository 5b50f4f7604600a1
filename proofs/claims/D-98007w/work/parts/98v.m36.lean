set_option maxRecDepth 100000
set_option maxHeartbeats 4000000 in
theorem c_rounds {g : GG} {S : MS} {f : Nat} {tide : Nat} {V : VS} (E : Enc S V) (K : OkV V) (hf : f < vs V 1) (htd : tide ≤ 600) : Mp g miX8_rounds 4 [.int (nI f), .int (nI tide)] (S) (some (.int (nI ((rdB V f tide).1 - 1)))) (fun S2 => FrN S S2 ∧ OkB9 (rdB V f tide) ∧ mI S2 29 = nI (rdB V f tide).2.1 ∧ ∀ i, i < (rdB V f tide).2.1 → mA S2 27 i = nI ((rdB V f tide).2.2 i)) := by
  refine Mp.start (fun b => [some (.ref b), some (.int (nI f)), some (.int (nI tide)), none, none, none, none, none, none, none, none, none]) plX8 rfl (fun b => (Nat.le_of_ble_eq_true rfl)) (fun b => rfl) ?_
  intro σ b
  have kb := K.b
  have kf_f := K.f hf
  have kb8 : vs V 2 ≤ 8 := K.b.2.2.2.1
  have kf6 : vs V 1 ≤ 6 := K.b.2.2.1
  obtain ⟨R, hRd⟩ : ∃ R, rdB V f tide = R := ⟨_, rfl⟩
  refine w_iload_n dX8_rounds_0 rfl ?_
  refine s_calli1 (mi := miX8_finderRow) dX8_rounds_1 q1879 okX8_finderRow (Nat.le_of_ble_eq_true rfl) c_finderRow (Nat.le_of_ble_eq_true rfl) ?_
  refine w_istore_n dX8_rounds_4 rfl (Nat.le_of_ble_eq_true rfl) ls_12_3 ?_
  refine w_iconst (v := nI 0) dX8_rounds_5 ki_0 ?_
  refine w_istore dX8_rounds_6 rfl (Nat.le_of_ble_eq_true rfl) ls_12_4 ?_
  refine w_iconst (v := nI 0) dX8_rounds_8 ki_0 ?_
  refine w_istore dX8_rounds_9 rfl (Nat.le_of_ble_eq_true rfl) ls_12_5 ?_
  refine w_iconst (v := nI 0) dX8_rounds_11 ki_0 ?_
  refine w_istore dX8_rounds_12 rfl (Nat.le_of_ble_eq_true rfl) ls_12_6 ?_
  refine w_iconst (v := nI 0) dX8_rounds_14 ki_0 ?_
  refine w_istore dX8_rounds_15 rfl (Nat.le_of_ble_eq_true rfl) ls_12_7 ?_
  refine w_aload_n dX8_rounds_17 rfl ?_
  refine w_iconst (v := nI 0) dX8_rounds_18 ki_0 ?_
  refine mp_bestMany dX8_rounds_19 rfl ?_
  refine w_aload_n dX8_rounds_22 rfl ?_
  refine mg_row dX8_rounds_23 rfl ?_
  refine w_iconst (v := nI 0) dX8_rounds_26 ki_0 ?_
  refine w_iconst (v := (-1)) dX8_rounds_27 ki_m1 ?_
  refine ms_row dX8_rounds_28 (by omega) ?_
  refine w_iload dX8_rounds_29 rfl ?_
  refine w_ifN_lt dX8_rounds_31 rfl (by omega) (fun h_31 => ?_) (fun h_31 => ?_)
  · exact absurd h_31 (by omega)
  · refine w_aload_n dX8_rounds_34 rfl ?_
    refine mg_row dX8_rounds_35 rfl ?_
    refine w_iload dX8_rounds_38 rfl ?_
    refine ma_row dX8_rounds_40 (by omega) ?_
    refine w_top (y := .int (-1)) (congrArg Value.int (upd_eq (a := mA S 25) (i := 0) (x := (-1 : Int32)))) ?_
    refine w_iconst (v := (-1)) dX8_rounds_41 ki_m1 ?_
    refine w_icmp_eq dX8_rounds_42 rfl (fun h_42 => ?_) (fun h_42 => ?_)
    · have lp : ∀ (j9 : Nat) (L : Nat) (row : Nat → Nat) (wh : Nat → Nat) (k : Nat) (bb : Bst) (S3 : MS), rdMu row L k < j9 → L ≤ 8 → k ≤ vs V 2 → OkPa V row L → (∀ i, i < L → wh i ≤ 600) → EncR9 S3 row wh L k bb → OkB9 bb → FrN S S3 → cont V f tide row wh L k bb = R → Wp g (mtP g miX8_rounds 4 σ b (some (.int (nI ((rdB V f tide).1 - 1)))) (fun S2 => FrN S S2 ∧ OkB9 (rdB V f tide) ∧ mI S2 29 = nI (rdB V f tide).2.1 ∧ ∀ i, i < (rdB V f tide).2.1 → mA S2 27 i = nI ((rdB V f tide).2.2 i))) 0 0 84 [some (.ref b), some (.int (nI f)), some (.int (nI tide)), some (.int (nI (10 + 5 * f))), some (.int (nI (bb.1 - 1))), some (.int (nI (rdW V row L))), some (.int (nI (rdU row L))), some (.int (nI L)), none, none, none, none] [] (sM g σ b (S3)) := by
        intro j9
        induction j9 with
        | zero => intro L row wh k bb S3 hmu hL hk hO hw6 hE hB hF hR; exact absurd hmu (Nat.not_lt_zero _)
        | succ j9 ih_lp =>
          intro L row wh k bb S3 hmu hL hk hO hw6 hE hB hF hR
          have hmu84 := hmu
          have E3 := hF.E E
          have hu := hO.2.1
          have hwb := OkPa.w K (row := row) L (fun i hi => (hO.1 i hi).1)
          have hb1 := hB.1
          have hb2 := hB.2.1
          have hb3 := hB.2.2
          have hc9 : (rdC V f row L) ≤ 40 := by
            unfold rdC
            split
            · omega
            · have := (K.d (hO.1 (L - 1) (by omega)).1).1
              omega
          have hm9 : (rdM V f wh L) ≤ 600 := by
            unfold rdM
            split
            · omega
            · exact hw6 _ (by omega)
          refine w_aload_n dX8_rounds_84 rfl ?_
          refine mg_row dX8_rounds_85 rfl ?_
          refine w_iload dX8_rounds_88 rfl ?_
          refine ma_row dX8_rounds_90 (by omega) ?_
          refine w_top (y := .int (nI k - nI 1)) (congrArg Value.int hE.2.1) ?_
          refine w_iconst (v := nI 1) dX8_rounds_91 ki_1 ?_
          refine w_iadd dX8_rounds_92 ?_
          rw [show nI k - nI 1 + nI 1 = nI k from Int32.sub_add_cancel _ _]
          refine w_istore dX8_rounds_93 rfl (Nat.le_of_ble_eq_true rfl) ls_12_8 ?_
          refine w_iload dX8_rounds_95 rfl ?_
          refine w_ifN_ne dX8_rounds_97 rfl (by omega) (fun h_97 => ?_) (fun h_97 => ?_)
          · refine w_aload_n dX8_rounds_109 rfl ?_
            refine mg_at dX8_rounds_110 rfl ?_
            refine w_iconst (v := nI 0) dX8_rounds_113 ki_0 ?_
            refine w_aload_n dX8_rounds_114 rfl ?_
            refine mg_row dX8_rounds_115 rfl ?_
            refine w_iload dX8_rounds_118 rfl ?_
            refine w_iconst (v := nI 1) dX8_rounds_120 ki_1 ?_
            refine w_isubN dX8_rounds_121 (by omega) ?_
            refine ma_row dX8_rounds_122 (by omega) ?_
            refine w_topN (n := row (L - 1)) (hE.1 (L - 1) (by omega)) ?_
            have hrl := (hO.1 (L - 1) (by omega)).1
            refine s_calli2 (mi := miX8_findRow) dX8_rounds_123 q1813 okX8_findRow (Nat.le_of_ble_eq_true rfl) c_findRow (Nat.le_of_ble_eq_true rfl) ?_
            refine ma_at dX8_rounds_126 (by omega) ?_
            refine w_topN (n := (rdC V f row L)) (by rw [show (rdC V f row L) = vt V 5 (row (L - 1)) from if_neg h_97]; exact (congrArg (mA S3 0) (by omega)).trans (E3.d 0 (by have := (hO.1 (L - 1) (by omega)).1; omega) (by omega))) ?_
            refine w_istore dX8_rounds_127 rfl (Nat.le_of_ble_eq_true rfl) ls_12_9 ?_
            refine w_iload dX8_rounds_129 rfl ?_
            refine w_ifN_ne dX8_rounds_131 rfl (by omega) (fun h_131 => ?_) (fun h_131 => ?_)
            · refine w_aload_n dX8_rounds_145 rfl ?_
              refine mg_when dX8_rounds_146 rfl ?_
              refine w_iload dX8_rounds_149 rfl ?_
              refine w_iconst (v := nI 1) dX8_rounds_151 ki_1 ?_
              refine w_isubN dX8_rounds_152 (by omega) ?_
              refine ma_when dX8_rounds_153 (by omega) ?_
              refine w_topN (n := (rdM V f wh L)) (by rw [show (rdM V f wh L) = wh (L - 1) from if_neg h_97]; exact hE.2.2.1 (L - 1) (by omega)) ?_
              refine w_istore dX8_rounds_154 rfl (Nat.le_of_ble_eq_true rfl) ls_12_10 ?_
              have li : ∀ (j9 : Nat) (d : Nat) (S4 : MS), vs V 2 - d < j9 → k ≤ d → d ≤ vs V 2 → (∀ i, k ≤ i → i < d → ¬ rdOk V f tide (rdC V f row L) (rdM V f wh L) (rdU row L) i) → FrN S S4 → EncR9 S4 row wh L k bb → Wp g (mtP g miX8_rounds 4 σ b (some (.int (nI ((rdB V f tide).1 - 1)))) (fun S2 => FrN S S2 ∧ OkB9 (rdB V f tide) ∧ mI S2 29 = nI (rdB V f tide).2.1 ∧ ∀ i, i < (rdB V f tide).2.1 → mA S2 27 i = nI ((rdB V f tide).2.2 i))) 0 0 156 [some (.ref b), some (.int (nI f)), some (.int (nI tide)), some (.int (nI (10 + 5 * f))), some (.int (nI (bb.1 - 1))), some (.int (nI (rdW V row L))), some (.int (nI (rdU row L))), some (.int (nI L)), some (.int (nI d)), some (.int (nI (rdC V f row L))), some (.int (nI (rdM V f wh L))), none] [] (sM g σ b (S4)) := by
                intro j9
                induction j9 with
                | zero => intro d S4 hmu hd1 hd2 hno hF4 hE4; exact absurd hmu (Nat.not_lt_zero _)
                | succ j9 ih_li =>
                  intro d S4 hmu hd1 hd2 hno hF4 hE4
                  have E4 := hF4.E E
                  refine w_iload dX8_rounds_156 rfl ?_
                  refine w_aload_n dX8_rounds_158 rfl ?_
                  refine mg_at dX8_rounds_159 rfl ?_
                  refine w_iconst (v := nI 2) dX8_rounds_162 ki_2 ?_
                  refine ma_at dX8_rounds_163 (by omega) ?_
                  refine w_topN (n := vs V 2) (E4.s 2 (by omega)) ?_
                  refine w_icmpN_ge dX8_rounds_164 rfl (by omega) (by omega) (fun h_164 => ?_) (fun h_164 => ?_)
                  · have hdf : d = vs V 2 := by omega
                    refine w_iload dX8_rounds_252 rfl ?_
                    refine w_aload_n dX8_rounds_254 rfl ?_
                    refine mg_at dX8_rounds_255 rfl ?_
                    refine w_iconst (v := nI 2) dX8_rounds_258 ki_2 ?_
                    refine ma_at dX8_rounds_259 (by omega) ?_
                    refine w_topN (n := vs V 2) (E4.s 2 (by omega)) ?_
                    refine w_icmpN_eq dX8_rounds_260 rfl (by omega) (by omega) (fun h_260 => ?_) (fun h_260 => ?_)
                    · have hend : L = vt V 2 f ∨ ∀ i, k ≤ i → i < vs V 2 → ¬ rdOk V f tide (rdC V f row L) (rdM V f wh L) (rdU row L) i := Or.inr (fun i h1 h2 => hno i h1 (by omega))
                      obtain ⟨SXp, hSXp⟩ : ∃ SXp, S4 = SXp := ⟨_, rfl⟩
                      rw [hSXp]
                      have hEX : EncR9 SXp row wh L k bb := by rw [← hSXp]; exact hE4
                      have hFX : FrN S SXp := by rw [← hSXp]; exact hF4
                      have EX : Enc SXp V := hFX.E E
                      refine w_iinc dX8_rounds_276 rfl (nI_m1 _) rfl (Nat.le_of_ble_eq_true rfl) ls_12_7 ?_
                      by_cases hL0 : L = 0
                      · subst hL0
                        rw [show nI 0 - nI 1 = (-1 : Int32) by decide]
                        have hRe : R = bb := by
                          rw [← hR]
                          exact lvl_end hk hend
                        refine w_goto dX8_rounds_279 rfl ?_
                        refine w_iload dX8_rounds_29 rfl ?_
                        refine w_if_lt dX8_rounds_31 rfl (fun h_31 => ?_) (fun h_31 => ?_)
                        · refine w_iload dX8_rounds_399 rfl ?_
                          exact w_iret dX8_rounds_401 rfl ⟨by rw [hRd, hRe], _, by exact ⟨hFX, by rw [hRd, hRe]; exact hB, by rw [hRd, hRe]; exact hEX.2.2.2.1, by rw [hRd, hRe]; exact hEX.2.2.2.2⟩, rfl⟩
                        · exact absurd (show (-1 : Int32) < 0 by decide) h_31
                      · obtain ⟨L9, rfl⟩ : ∃ L9, L = L9 + 1 := ⟨L - 1, by omega⟩
                        rw [nI_dn]
                        have hr9 := (hO.1 L9 (by omega)).1
                        have hU9 : rdU row L9 < 256 := (hO.dn kb8).2.1
                        have hw1 : rdW V row (L9 + 1) = rdW V row L9 + vt V 6 (row L9) := rfl
                        have hd9 := K.d hr9
                        refine w_goto dX8_rounds_279 rfl ?_
                        refine w_iload dX8_rounds_29 rfl ?_
                        refine w_ifN_lt dX8_rounds_31 rfl (by omega) (fun h_31 => ?_) (fun h_31 => ?_)
                        · exact absurd h_31 (by omega)
                        · refine w_aload_n dX8_rounds_34 rfl ?_
                          refine mg_row dX8_rounds_35 rfl ?_
                          refine w_iload dX8_rounds_38 rfl ?_
                          refine ma_row dX8_rounds_40 (by omega) ?_
                          refine w_topN (n := row L9) (hEX.1 L9 (by omega)) ?_
                          refine w_iconst (v := (-1)) dX8_rounds_41 ki_m1 ?_
                          refine w_icmp_eq dX8_rounds_42 rfl (fun h_42 => ?_) (fun h_42 => ?_)
                          · exact absurd h_42 (nI_nm1 (by omega))
                          · refine w_iload dX8_rounds_45 rfl ?_
                            refine w_iconst (v := nI 1) dX8_rounds_47 ki_1 ?_
                            refine w_aload_n dX8_rounds_48 rfl ?_
                            refine mg_row dX8_rounds_49 rfl ?_
                            refine w_iload dX8_rounds_52 rfl ?_
                            refine ma_row dX8_rounds_54 (by omega) ?_
                            refine w_topN (n := row L9) (hEX.1 L9 (by omega)) ?_
                            refine w_shl1N dX8_rounds_55 (by omega) ?_
                            refine w_iconst (v := (-1)) dX8_rounds_56 ki_m1 ?_
                            refine w_ixor dX8_rounds_57 ?_
                            refine w_iand dX8_rounds_58 ?_
                            rw [show nI (rdU row (L9 + 1)) &&& (nI (2 ^ row L9) ^^^ (-1)) = nI (rdU row L9) from bit_off _ hU9 _ (by omega) (hO.1 L9 (by omega)).2]
                            refine w_istore dX8_rounds_59 rfl (Nat.le_of_ble_eq_true rfl) ls_12_6 ?_
                            refine w_iload dX8_rounds_61 rfl ?_
                            refine w_aload_n dX8_rounds_63 rfl ?_
                            refine mg_at dX8_rounds_64 rfl ?_
                            refine w_iconst (v := nI 0) dX8_rounds_67 ki_0 ?_
                            refine w_aload_n dX8_rounds_68 rfl ?_
                            refine mg_row dX8_rounds_69 rfl ?_
                            refine w_iload dX8_rounds_72 rfl ?_
                            refine ma_row dX8_rounds_74 (by omega) ?_
                            refine w_topN (n := row L9) (hEX.1 L9 (by omega)) ?_
                            refine s_calli2 (mi := miX8_findRow) dX8_rounds_75 q1813 okX8_findRow (Nat.le_of_ble_eq_true rfl) c_findRow (Nat.le_of_ble_eq_true rfl) ?_
                            refine w_iconst (v := nI 1) dX8_rounds_78 ki_1 ?_
                            refine w_iaddN dX8_rounds_79 ?_
                            refine ma_at dX8_rounds_80 (by omega) ?_
                            refine w_topN (n := vt V 6 (row L9)) ((congrArg (mA SXp 0) (by omega)).trans (EX.d 1 (by omega) (by omega))) ?_
                            refine w_isubN dX8_rounds_81 (by omega) ?_
                            rw [show rdW V row (L9 + 1) - vt V 6 (row L9) = rdW V row L9 by omega]
                            refine w_istore dX8_rounds_82 rfl (Nat.le_of_ble_eq_true rfl) ls_12_5 ?_
                            refine w_L (wkS (wkS (wkS (wkS (wkS (wkS (wkS (wkS (wkN (wkN (wkN (wkN wk0)))))))))))) ?_
                            exact ih_lp L9 row wh (row L9 + 1) bb SXp (Nat.lt_of_lt_of_le (rdMu_pop (by omega)) (Nat.le_of_lt_succ hmu84)) (by omega) (by have := (hO.1 L9 (by omega)).1; omega) (hO.dn kb8) (fun i hi => hw6 i (by omega)) hEX.dn hB hFX (by rw [← hR]; show _ = cont V f tide row wh L9 (row L9 + 1) (lvl V f tide row wh (L9 + 1) k bb); rw [lvl_end hk hend])
                    · exact absurd hdf h_260
                  · have hkd := K.d (d := d) (by omega)
                    have hnb : nabs (rdC V f row L) (vt V 5 d) ≤ 40 := nabs_le _ _ 40 (by omega) (by omega)
                    have hprod : vt V 1 f * nabs (rdC V f row L) (vt V 5 d) ≤ 9 * 40 := Nat.mul_le_mul (by omega) hnb
                    have hbo : behO V f d ≤ 241 := behK_le K f (d := d) (by omega) _ (Nat.le_refl _)
                    have hrt : (rdT V f (rdC V f row L) (rdM V f wh L) d) ≤ 1000 := Nat.max_le.mpr ⟨by omega, by omega⟩
                    refine w_aload_n dX8_rounds_167 rfl ?_
                    refine mg_when dX8_rounds_168 rfl ?_
                    refine w_iload dX8_rounds_171 rfl ?_
                    refine w_iload dX8_rounds_173 rfl ?_
                    refine w_aload_n dX8_rounds_175 rfl ?_
                    refine mg_at dX8_rounds_176 rfl ?_
                    refine w_iload_n dX8_rounds_179 rfl ?_
                    refine w_iconst (v := nI 1) dX8_rounds_180 ki_1 ?_
                    refine w_iaddN dX8_rounds_181 ?_
                    refine ma_at dX8_rounds_182 (by omega) ?_
                    refine w_topN (n := vt V 1 f) (E4.f 1 (by omega) (by omega)) ?_
                    refine w_iload dX8_rounds_183 rfl ?_
                    refine w_aload_n dX8_rounds_185 rfl ?_
                    refine mg_at dX8_rounds_186 rfl ?_
                    refine w_iconst (v := nI 0) dX8_rounds_189 ki_0 ?_
                    refine w_iload dX8_rounds_190 rfl ?_
                    refine s_calli2 (mi := miX8_findRow) dX8_rounds_192 q1813 okX8_findRow (Nat.le_of_ble_eq_true rfl) c_findRow (Nat.le_of_ble_eq_true rfl) ?_
                    refine ma_at dX8_rounds_195 (by omega) ?_
                    refine w_topN (n := vt V 5 d) ((congrArg (mA S4 0) (by omega)).trans (E4.d 0 (by omega) (by omega))) ?_
                    refine w_isub dX8_rounds_196 ?_
                    refine w_mabs dX8_rounds_197 q1913 q1058 q155 q1059 (Nat.le_of_ble_eq_true rfl) (Nat.le_of_ble_eq_true rfl) ?_
                    refine w_topN (abs_n (by omega) (by omega)) ?_
                    refine w_imulN dX8_rounds_200 ?_
                    refine w_iaddN dX8_rounds_201 ?_
                    refine w_aload_n dX8_rounds_202 rfl ?_
                    refine w_iload_n dX8_rounds_203 rfl ?_
                    refine w_iload dX8_rounds_204 rfl ?_
                    refine m_calli2 (mi := miX8_behindOthers) dX8_rounds_206 q2169 okX8_behindOthers rfl (Nat.le_of_ble_eq_true rfl) (c_behindOthers E4 K (by omega) (by omega)) (Nat.le_of_ble_eq_true rfl) ?_
                    refine w_mmax dX8_rounds_209 q2092 q1165 q155 q1166 (Nat.le_of_ble_eq_true rfl) (Nat.le_of_ble_eq_true rfl) ?_
                    refine w_topN (max_n (by omega) (by omega)) ?_
                    rw [show max ((rdM V f wh L) + vt V 1 f * nabs (rdC V f row L) (vt V 5 d)) (behO V f d) = (rdT V f (rdC V f row L) (rdM V f wh L) d) from rfl]
                    refine ms_when dX8_rounds_212 (by omega) ?_
                    have E5 : Enc (sA S4 26 L (nI (rdT V f (rdC V f row L) (rdM V f wh L) d))) V := E4
                    refine w_aload_n dX8_rounds_213 rfl ?_
                    refine w_iload dX8_rounds_214 rfl ?_
                    refine m_calli1 (mi := miX8_isThere) dX8_rounds_216 q1935 okX8_isThere rfl (Nat.le_of_ble_eq_true rfl) (c_isThere E5 K (by omega)) (Nat.le_of_ble_eq_true rfl) ?_
                    refine w_ifB_eq dX8_rounds_219 rfl (fun h_219 => ?_) (fun h_219 => ?_)
                    · have hnok : ¬ rdOk V f tide (rdC V f row L) (rdM V f wh L) (rdU row L) d := fun z => h_219 z.1
                      refine w_iinc dX8_rounds_246 rfl (nI_inc _ 1) rfl (Nat.le_of_ble_eq_true rfl) ls_12_8 ?_
                      refine w_goto dX8_rounds_249 rfl ?_
                      exact ih_li (d + 1) _ (by omega) (by omega) (by omega) (fun i h1 h2 => by
                        by_cases z : i = d
                        · rw [z]; exact hnok
                        · exact hno i h1 (by omega)) (hF4.A (by omega)) (hE4.w _)
                    · refine w_iload dX8_rounds_222 rfl ?_
                      refine w_iload dX8_rounds_224 rfl ?_
                      refine w_ishrN dX8_rounds_226 (by omega) (by omega) ?_
                      refine w_iconst (v := nI 1) dX8_rounds_227 ki_1 ?_
                      refine w_iandN dX8_rounds_228 ?_
                      refine w_ifN_ne dX8_rounds_229 rfl (by have := Nat.and_one_is_mod ((rdU row L) >>> d); omega) (fun h_229 => ?_) (fun h_229 => ?_)
                      · have hnok : ¬ rdOk V f tide (rdC V f row L) (rdM V f wh L) (rdU row L) d := fun z => z.2.1 (by have := Nat.and_one_is_mod ((rdU row L) >>> d); omega)
                        refine w_iinc dX8_rounds_246 rfl (nI_inc _ 1) rfl (Nat.le_of_ble_eq_true rfl) ls_12_8 ?_
                        refine w_goto dX8_rounds_249 rfl ?_
                        exact ih_li (d + 1) _ (by omega) (by omega) (by omega) (fun i h1 h2 => by
                          by_cases z : i = d
                          · rw [z]; exact hnok
                          · exact hno i h1 (by omega)) (hF4.A (by omega)) (hE4.w _)
                      · have hbit : ¬ ((rdU row L) >>> d) &&& 1 = 1 := by omega
                        refine w_aload_n dX8_rounds_232 rfl ?_
                        refine mg_when dX8_rounds_233 rfl ?_
                        refine w_iload dX8_rounds_236 rfl ?_
                        refine ma_when dX8_rounds_238 (by omega) ?_
                        refine w_topN (n := (rdT V f (rdC V f row L) (rdM V f wh L) d)) (upd_eq (a := mA S4 26) (i := L) (x := nI (rdT V f (rdC V f row L) (rdM V f wh L) d))) ?_
                        refine w_iload_n dX8_rounds_239 rfl ?_
                        refine w_icmpN_gt dX8_rounds_240 rfl (by omega) (by omega) (fun h_240 => ?_) (fun h_240 => ?_)
                        · have hnok : ¬ rdOk V f tide (rdC V f row L) (rdM V f wh L) (rdU row L) d := fun z => absurd z.2.2 (by omega)
                          refine w_iinc dX8_rounds_246 rfl (nI_inc _ 1) rfl (Nat.le_of_ble_eq_true rfl) ls_12_8 ?_
                          refine w_goto dX8_rounds_249 rfl ?_
                          exact ih_li (d + 1) _ (by omega) (by omega) (by omega) (fun i h1 h2 => by
                            by_cases z : i = d
                            · rw [z]; exact hnok
                            · exact hno i h1 (by omega)) (hF4.A (by omega)) (hE4.w _)
                        · have hok : rdOk V f tide (rdC V f row L) (rdM V f wh L) (rdU row L) d := ⟨h_219, hbit, by omega⟩
                          refine w_goto dX8_rounds_243 rfl ?_
                          refine w_iload dX8_rounds_252 rfl ?_
                          refine w_aload_n dX8_rounds_254 rfl ?_
                          refine mg_at dX8_rounds_255 rfl ?_
                          refine w_iconst (v := nI 2) dX8_rounds_258 ki_2 ?_
                          refine ma_at dX8_rounds_259 (by omega) ?_
                          refine w_topN (n := vs V 2) (E5.s 2 (by omega)) ?_
                          refine w_icmpN_eq dX8_rounds_260 rfl (by omega) (by omega) (fun h_260 => ?_) (fun h_260 => ?_)
                          · have hend : L = vt V 2 f ∨ ∀ i, k ≤ i → i < vs V 2 → ¬ rdOk V f tide (rdC V f row L) (rdM V f wh L) (rdU row L) i := Or.inr (fun i h1 h2 => hno i h1 (by omega))
                            obtain ⟨SXp, hSXp⟩ : ∃ SXp, S4 = SXp := ⟨_, rfl⟩
                            rw [hSXp]
                            have hEX : EncR9 SXp row wh L k bb := by rw [← hSXp]; exact hE4
                            have hFX : FrN S SXp := by rw [← hSXp]; exact hF4
                            have EX : Enc SXp V := hFX.E E
                            exact absurd h_260 (by omega)
                          · refine w_iload dX8_rounds_263 rfl ?_
                            refine w_aload_n dX8_rounds_265 rfl ?_
                            refine mg_at dX8_rounds_266 rfl ?_
                            refine w_iload_n dX8_rounds_269 rfl ?_
                            refine w_iconst (v := nI 2) dX8_rounds_270 ki_2 ?_
                            refine w_iaddN dX8_rounds_271 ?_
                            refine ma_at dX8_rounds_272 (by omega) ?_
                            refine w_topN (n := vt V 2 f) (E5.f 2 (by omega) (by omega)) ?_
                            refine w_icmpN_ne dX8_rounds_273 rfl (by omega) (by omega) (fun h_273 => ?_) (fun h_273 => ?_)
                            · have hup := hO.up kb8 h_164 hbit
                              have eU : rdU (va_up row L d) (L + 1) = (rdU row L) ||| 2 ^ d := by
                                show rdU (va_up row L d) L ||| 2 ^ ((va_up row L d) L) = _
                                rw [show (va_up row L d) L = d from if_pos rfl, rdU_congr (row := (va_up row L d)) (row2 := row) L (fun i hi => if_neg (by omega))]
                              have eW : rdW V (va_up row L d) (L + 1) = (rdW V row L) + vt V 6 d := by
                                show rdW V (va_up row L d) L + vt V 6 ((va_up row L d) L) = _
                                rw [show (va_up row L d) L = d from if_pos rfl, rdW_congr (row := (va_up row L d)) (row2 := row) L (fun i hi => if_neg (by omega))]
                              have hwh2 : ∀ i, i < L + 1 → (va_up wh L (rdT V f (rdC V f row L) (rdM V f wh L) d)) i ≤ 600 := fun i hi => by
                                unfold va_up
                                split
                                · omega
                                · exact hw6 i (by omega)
                              have hL8 := hup.2
                              refine w_aload_n dX8_rounds_282 rfl ?_
                              refine mg_row dX8_rounds_283 rfl ?_
                              refine w_iload dX8_rounds_286 rfl ?_
                              refine w_iload dX8_rounds_288 rfl ?_
                              refine ms_row dX8_rounds_290 (by omega) ?_
                              refine w_iload dX8_rounds_291 rfl ?_
                              refine w_iconst (v := nI 1) dX8_rounds_293 ki_1 ?_
                              refine w_iload dX8_rounds_294 rfl ?_
                              refine w_shl1N dX8_rounds_296 (by omega) ?_
                              refine w_iorN dX8_rounds_297 ?_
                              refine w_istore dX8_rounds_298 rfl (Nat.le_of_ble_eq_true rfl) ls_12_6 ?_
                              refine w_iload dX8_rounds_300 rfl ?_
                              refine w_aload_n dX8_rounds_302 rfl ?_
                              refine mg_at dX8_rounds_303 rfl ?_
                              refine w_iconst (v := nI 0) dX8_rounds_306 ki_0 ?_
                              refine w_iload dX8_rounds_307 rfl ?_
                              refine s_calli2 (mi := miX8_findRow) dX8_rounds_309 q1813 okX8_findRow (Nat.le_of_ble_eq_true rfl) c_findRow (Nat.le_of_ble_eq_true rfl) ?_
                              refine w_iconst (v := nI 1) dX8_rounds_312 ki_1 ?_
                              refine w_iaddN dX8_rounds_313 ?_
                              refine ma_at dX8_rounds_314 (by omega) ?_
                              refine w_topN (n := vt V 6 d) ((congrArg (mA (sA (sA S4 26 L (nI (rdT V f (rdC V f row L) (rdM V f wh L) d))) 25 L (nI d)) 0) (by omega)).trans (E5.d 1 (by omega) (by omega))) ?_
                              refine w_iaddN dX8_rounds_315 ?_
                              refine w_istore dX8_rounds_316 rfl (Nat.le_of_ble_eq_true rfl) ls_12_5 ?_
                              refine w_iload dX8_rounds_318 rfl ?_
                              refine w_iload dX8_rounds_320 rfl ?_
                              refine w_icmpN_gt dX8_rounds_322 rfl (by omega) (by omega) (fun h_322 => ?_) (fun h_322 => ?_)
                              · have hbt : bb.1 < (rdW V row L) + vt V 6 d + 1 ∨ (bb.1 = (rdW V row L) + vt V 6 d + 1 ∧ L + 1 < bb.2.1) := Or.inl (by omega)
                                refine w_iload dX8_rounds_343 rfl ?_
                                refine w_istore dX8_rounds_345 rfl (Nat.le_of_ble_eq_true rfl) ls_12_4 ?_
                                refine w_aload_n dX8_rounds_347 rfl ?_
                                refine w_iload dX8_rounds_348 rfl ?_
                                refine w_iconst (v := nI 1) dX8_rounds_350 ki_1 ?_
                                refine w_iaddN dX8_rounds_351 ?_
                                refine mp_bestMany dX8_rounds_352 rfl ?_
                                refine w_iconst (v := nI 0) dX8_rounds_355 ki_0 ?_
                                refine w_istore dX8_rounds_356 rfl (Nat.le_of_ble_eq_true rfl) ls_12_11 ?_
                                have lc : ∀ (j9 : Nat) (kk : Nat) (S7 : MS), L + 1 - kk < j9 → kk ≤ L + 1 → FrN S S7 → mI S7 29 = nI (L + 1) → mA S7 25 = upd (mA S4 25) L (nI d) → mA S7 26 = upd (mA S4 26) L (nI (rdT V f (rdC V f row L) (rdM V f wh L) d)) → (∀ i, i < kk → mA S7 27 i = nI ((va_up row L d) i)) → Wp g (mtP g miX8_rounds 4 σ b (some (.int (nI ((rdB V f tide).1 - 1)))) (fun S2 => FrN S S2 ∧ OkB9 (rdB V f tide) ∧ mI S2 29 = nI (rdB V f tide).2.1 ∧ ∀ i, i < (rdB V f tide).2.1 → mA S2 27 i = nI ((rdB V f tide).2.2 i))) 0 0 358 [some (.ref b), some (.int (nI f)), some (.int (nI tide)), some (.int (nI (10 + 5 * f))), some (.int (nI ((rdW V row L) + vt V 6 d))), some (.int (nI ((rdW V row L) + vt V 6 d))), some (.int (nI ((rdU row L) ||| 2 ^ d))), some (.int (nI L)), some (.int (nI d)), some (.int (nI (rdC V f row L))), some (.int (nI (rdM V f wh L))), some (.int (nI kk))] [] (sM g σ b (S7)) := by
                                  intro j9
                                  induction j9 with
                                  | zero => intro kk S7 hmu hkk hF7 h729 h725 h726 h727; exact absurd hmu (Nat.not_lt_zero _)
                                  | succ j9 ih_lc =>
                                    intro kk S7 hmu hkk hF7 h729 h725 h726 h727
                                    refine w_iload dX8_rounds_358 rfl ?_
                                    refine w_iload dX8_rounds_360 rfl ?_
                                    refine w_icmpN_gt dX8_rounds_362 rfl (by omega) (by omega) (fun h_362 => ?_) (fun h_362 => ?_)
                                    · obtain rfl : kk = L + 1 := by omega
                                      have hb9 : bet bb (rdW V (va_up row L d) (L + 1)) (L + 1) (va_up row L d) = (rdW V (va_up row L d) (L + 1) + 1, L + 1, fun i => if i < L + 1 then (va_up row L d) i else 0) := bet_t (by rw [eW]; exact hbt)
                                      have hEB : EncR9 (sA S7 25 (L + 1) (-1)) (va_up row L d) (va_up wh L (rdT V f (rdC V f row L) (rdM V f wh L) d)) (L + 1) 0 (rdW V (va_up row L d) (L + 1) + 1, L + 1, fun i => if i < L + 1 then (va_up row L d) i else 0) := EncR9.up hE4 h725 h726 h729 (fun i hi => by
                                        show mA S7 27 i = nI (if i < L + 1 then (va_up row L d) i else 0)
                                        have hi2 : i < L + 1 := hi
                                        rw [if_pos hi2]
                                        exact h727 i hi)
                                      have hBB : OkB9 (rdW V (va_up row L d) (L + 1) + 1, L + 1, fun i => if i < L + 1 then (va_up row L d) i else 0) := ⟨Nat.succ_pos _, by show rdW V (va_up row L d) (L + 1) + 1 ≤ 8000; rw [eW]; omega, hL8⟩
                                      have hFB : FrN S (sA S7 25 (L + 1) (-1)) := hF7.A (by omega)
                                      refine w_iinc dX8_rounds_385 rfl (nI_inc _ 1) rfl (Nat.le_of_ble_eq_true rfl) ls_12_7 ?_
                                      refine w_aload_n dX8_rounds_388 rfl ?_
                                      refine mg_row dX8_rounds_389 rfl ?_
                                      refine w_iload dX8_rounds_392 rfl ?_
                                      refine w_iconst (v := (-1)) dX8_rounds_394 ki_m1 ?_
                                      refine ms_row dX8_rounds_395 (by omega) ?_
                                      refine w_goto dX8_rounds_396 rfl ?_
                                      refine w_iload dX8_rounds_29 rfl ?_
                                      refine w_ifN_lt dX8_rounds_31 rfl (by omega) (fun h_31 => ?_) (fun h_31 => ?_)
                                      · exact absurd h_31 (by omega)
                                      · refine w_aload_n dX8_rounds_34 rfl ?_
                                        refine mg_row dX8_rounds_35 rfl ?_
                                        refine w_iload dX8_rounds_38 rfl ?_
                                        refine ma_row dX8_rounds_40 (by omega) ?_
                                        refine w_top (y := .int (-1)) (congrArg Value.int (upd_eq (a := mA S7 25) (i := L + 1) (x := (-1 : Int32)))) ?_
                                        refine w_iconst (v := (-1)) dX8_rounds_41 ki_m1 ?_
                                        refine w_icmp_eq dX8_rounds_42 rfl (fun h_42 => ?_) (fun h_42 => ?_)
                                        · refine w_L (wkS (wkS (wkS (wkS (wkS (wkS (wkS (wkS (wkN (wkN (wkN (wkN wk0)))))))))))) ?_
                                          exact w_as (ih_lp (L + 1) (va_up row L d) (va_up wh L (rdT V f (rdC V f row L) (rdM V f wh L) d)) 0 (bet bb (rdW V (va_up row L d) (L + 1)) (L + 1) (va_up row L d)) _ (Nat.lt_of_lt_of_le (rdMu_push (by omega) (by omega) (by omega)) (Nat.le_of_lt_succ hmu84)) (by omega) (by omega) hup.1 hwh2 (by rw [hb9]; exact hEB) (by rw [hb9]; exact hBB) hFB (by rw [← hR, cont_push (by omega) hd1 h_164 h_273 hno hok])) (by rw [hb9, eW, eU] <;> rfl) rfl rfl
                                        · exact absurd rfl h_42
                                    · refine w_aload_n dX8_rounds_365 rfl ?_
                                      refine mg_bestRow dX8_rounds_366 rfl ?_
                                      refine w_iload dX8_rounds_369 rfl ?_
                                      refine w_aload_n dX8_rounds_371 rfl ?_
                                      refine mg_row dX8_rounds_372 rfl ?_
                                      refine w_iload dX8_rounds_375 rfl ?_
                                      refine ma_row dX8_rounds_377 (by omega) ?_
                                      refine w_topN (n := (va_up row L d) kk) (by rw [h725]; show upd (mA S4 25) L (nI d) kk = nI (va_up row L d kk); unfold upd va_up; split; rfl; exact hE4.1 kk (by omega)) ?_
                                      refine ms_bestRow dX8_rounds_378 (by omega) ?_
                                      refine w_iinc dX8_rounds_379 rfl (nI_inc _ 1) rfl (Nat.le_of_ble_eq_true rfl) ls_12_11 ?_
                                      refine w_goto dX8_rounds_382 rfl ?_
                                      exact ih_lc (kk + 1) _ (by omega) (by omega) (hF7.A (by omega)) h729 h725 h726 (fun i hi => by
                                        show upd (mA S7 27) kk _ i = _
                                        by_cases z : i = kk
                                        · rw [z, upd_eq]
                                        · rw [upd_ne z]; exact h727 i (by omega))
                                exact lc (L + 2) 0 _ (by omega) (by omega) (((hF4.A (by omega)).A (by omega)).I) rfl rfl rfl (fun i hi => absurd hi (Nat.not_lt_zero i))
                              · refine w_iload dX8_rounds_325 rfl ?_
                                refine w_iload dX8_rounds_327 rfl ?_
                                refine w_icmpN_ne dX8_rounds_329 rfl (by omega) (by omega) (fun h_329 => ?_) (fun h_329 => ?_)
                                · have hbf : ¬ (bb.1 < (rdW V row L) + vt V 6 d + 1 ∨ (bb.1 = (rdW V row L) + vt V 6 d + 1 ∧ L + 1 < bb.2.1)) := by omega
                                  have hb9 : bet bb (rdW V (va_up row L d) (L + 1)) (L + 1) (va_up row L d) = bb := bet_f (by rw [eW]; exact hbf)
                                  have hEB : EncR9 (sA (sA (sA S4 26 L (nI (rdT V f (rdC V f row L) (rdM V f wh L) d))) 25 L (nI d)) 25 (L + 1) (-1)) (va_up row L d) (va_up wh L (rdT V f (rdC V f row L) (rdM V f wh L) d)) (L + 1) 0 bb := EncR9.up (S2 := (sA (sA S4 26 L (nI (rdT V f (rdC V f row L) (rdM V f wh L) d))) 25 L (nI d))) hE4 rfl rfl hE4.2.2.2.1 hE4.2.2.2.2
                                  have hBB := hB
                                  have hFB : FrN S (sA (sA (sA S4 26 L (nI (rdT V f (rdC V f row L) (rdM V f wh L) d))) 25 L (nI d)) 25 (L + 1) (-1)) := ((hF4.A (by omega)).A (by omega)).A (by omega)
                                  refine w_iinc dX8_rounds_385 rfl (nI_inc _ 1) rfl (Nat.le_of_ble_eq_true rfl) ls_12_7 ?_
                                  refine w_aload_n dX8_rounds_388 rfl ?_
                                  refine mg_row dX8_rounds_389 rfl ?_
                                  refine w_iload dX8_rounds_392 rfl ?_
                                  refine w_iconst (v := (-1)) dX8_rounds_394 ki_m1 ?_
                                  refine ms_row dX8_rounds_395 (by omega) ?_
                                  refine w_goto dX8_rounds_396 rfl ?_
                                  refine w_iload dX8_rounds_29 rfl ?_
                                  refine w_ifN_lt dX8_rounds_31 rfl (by omega) (fun h_31 => ?_) (fun h_31 => ?_)
                                  · exact absurd h_31 (by omega)
                                  · refine w_aload_n dX8_rounds_34 rfl ?_
                                    refine mg_row dX8_rounds_35 rfl ?_
                                    refine w_iload dX8_rounds_38 rfl ?_
                                    refine ma_row dX8_rounds_40 (by omega) ?_
                                    refine w_top (y := .int (-1)) (congrArg Value.int (upd_eq (a := mA (sA (sA S4 26 L (nI (rdT V f (rdC V f row L) (rdM V f wh L) d))) 25 L (nI d)) 25) (i := L + 1) (x := (-1 : Int32)))) ?_
                                    refine w_iconst (v := (-1)) dX8_rounds_41 ki_m1 ?_
                                    refine w_icmp_eq dX8_rounds_42 rfl (fun h_42 => ?_) (fun h_42 => ?_)
                                    · refine w_L (wkS (wkS (wkS (wkS (wkS (wkS (wkS (wkS (wkN (wkN (wkN (wkN wk0)))))))))))) ?_
                                      exact w_as (ih_lp (L + 1) (va_up row L d) (va_up wh L (rdT V f (rdC V f row L) (rdM V f wh L) d)) 0 (bet bb (rdW V (va_up row L d) (L + 1)) (L + 1) (va_up row L d)) _ (Nat.lt_of_lt_of_le (rdMu_push (by omega) (by omega) (by omega)) (Nat.le_of_lt_succ hmu84)) (by omega) (by omega) hup.1 hwh2 (by rw [hb9]; exact hEB) (by rw [hb9]; exact hBB) hFB (by rw [← hR, cont_push (by omega) hd1 h_164 h_273 hno hok])) (by rw [hb9, eW, eU] <;> rfl) rfl rfl
                                    · exact absurd rfl h_42
                                · refine w_iload dX8_rounds_332 rfl ?_
                                  refine w_iconst (v := nI 1) dX8_rounds_334 ki_1 ?_
                                  refine w_iaddN dX8_rounds_335 ?_
                                  refine w_aload_n dX8_rounds_336 rfl ?_
                                  refine mg_bestMany dX8_rounds_337 rfl ?_
                                  refine w_topN (n := bb.2.1) (show mI S4 29 = nI bb.2.1 from hE4.2.2.2.1) ?_
                                  refine w_icmpN_ge dX8_rounds_340 rfl (by omega) (by omega) (fun h_340 => ?_) (fun h_340 => ?_)
                                  · have hbf : ¬ (bb.1 < (rdW V row L) + vt V 6 d + 1 ∨ (bb.1 = (rdW V row L) + vt V 6 d + 1 ∧ L + 1 < bb.2.1)) := by omega
                                    have hb9 : bet bb (rdW V (va_up row L d) (L + 1)) (L + 1) (va_up row L d) = bb := bet_f (by rw [eW]; exact hbf)
                                    have hEB : EncR9 (sA (sA (sA S4 26 L (nI (rdT V f (rdC V f row L) (rdM V f wh L) d))) 25 L (nI d)) 25 (L + 1) (-1)) (va_up row L d) (va_up wh L (rdT V f (rdC V f row L) (rdM V f wh L) d)) (L + 1) 0 bb := EncR9.up (S2 := (sA (sA S4 26 L (nI (rdT V f (rdC V f row L) (rdM V f wh L) d))) 25 L (nI d))) hE4 rfl rfl hE4.2.2.2.1 hE4.2.2.2.2
                                    have hBB := hB
                                    have hFB : FrN S (sA (sA (sA S4 26 L (nI (rdT V f (rdC V f row L) (rdM V f wh L) d))) 25 L (nI d)) 25 (L + 1) (-1)) := ((hF4.A (by omega)).A (by omega)).A (by omega)
                                    refine w_iinc dX8_rounds_385 rfl (nI_inc _ 1) rfl (Nat.le_of_ble_eq_true rfl) ls_12_7 ?_
                                    refine w_aload_n dX8_rounds_388 rfl ?_
                                    refine mg_row dX8_rounds_389 rfl ?_
                                    refine w_iload dX8_rounds_392 rfl ?_
                                    refine w_iconst (v := (-1)) dX8_rounds_394 ki_m1 ?_
                                    refine ms_row dX8_rounds_395 (by omega) ?_
                                    refine w_goto dX8_rounds_396 rfl ?_
                                    refine w_iload dX8_rounds_29 rfl ?_
                                    refine w_ifN_lt dX8_rounds_31 rfl (by omega) (fun h_31 => ?_) (fun h_31 => ?_)
                                    · exact absurd h_31 (by omega)
                                    · refine w_aload_n dX8_rounds_34 rfl ?_
                                      refine mg_row dX8_rounds_35 rfl ?_
                                      refine w_iload dX8_rounds_38 rfl ?_
                                      refine ma_row dX8_rounds_40 (by omega) ?_
                                      refine w_top (y := .int (-1)) (congrArg Value.int (upd_eq (a := mA (sA (sA S4 26 L (nI (rdT V f (rdC V f row L) (rdM V f wh L) d))) 25 L (nI d)) 25) (i := L + 1) (x := (-1 : Int32)))) ?_
                                      refine w_iconst (v := (-1)) dX8_rounds_41 ki_m1 ?_
                                      refine w_icmp_eq dX8_rounds_42 rfl (fun h_42 => ?_) (fun h_42 => ?_)
                                      · refine w_L (wkS (wkS (wkS (wkS (wkS (wkS (wkS (wkS (wkN (wkN (wkN (wkN wk0)))))))))))) ?_
                                        exact w_as (ih_lp (L + 1) (va_up row L d) (va_up wh L (rdT V f (rdC V f row L) (rdM V f wh L) d)) 0 (bet bb (rdW V (va_up row L d) (L + 1)) (L + 1) (va_up row L d)) _ (Nat.lt_of_lt_of_le (rdMu_push (by omega) (by omega) (by omega)) (Nat.le_of_lt_succ hmu84)) (by omega) (by omega) hup.1 hwh2 (by rw [hb9]; exact hEB) (by rw [hb9]; exact hBB) hFB (by rw [← hR, cont_push (by omega) hd1 h_164 h_273 hno hok])) (by rw [hb9, eW, eU] <;> rfl) rfl rfl
                                      · exact absurd rfl h_42
                                  · have hbt : bb.1 < (rdW V row L) + vt V 6 d + 1 ∨ (bb.1 = (rdW V row L) + vt V 6 d + 1 ∧ L + 1 < bb.2.1) := Or.inr ⟨by omega, by omega⟩
                                    refine w_iload dX8_rounds_343 rfl ?_
                                    refine w_istore dX8_rounds_345 rfl (Nat.le_of_ble_eq_true rfl) ls_12_4 ?_
                                    refine w_aload_n dX8_rounds_347 rfl ?_
                                    refine w_iload dX8_rounds_348 rfl ?_
                                    refine w_iconst (v := nI 1) dX8_rounds_350 ki_1 ?_
                                    refine w_iaddN dX8_rounds_351 ?_
                                    refine mp_bestMany dX8_rounds_352 rfl ?_
                                    refine w_iconst (v := nI 0) dX8_rounds_355 ki_0 ?_
                                    refine w_istore dX8_rounds_356 rfl (Nat.le_of_ble_eq_true rfl) ls_12_11 ?_
                                    have lc : ∀ (j9 : Nat) (kk : Nat) (S7 : MS), L + 1 - kk < j9 → kk ≤ L + 1 → FrN S S7 → mI S7 29 = nI (L + 1) → mA S7 25 = upd (mA S4 25) L (nI d) → mA S7 26 = upd (mA S4 26) L (nI (rdT V f (rdC V f row L) (rdM V f wh L) d)) → (∀ i, i < kk → mA S7 27 i = nI ((va_up row L d) i)) → Wp g (mtP g miX8_rounds 4 σ b (some (.int (nI ((rdB V f tide).1 - 1)))) (fun S2 => FrN S S2 ∧ OkB9 (rdB V f tide) ∧ mI S2 29 = nI (rdB V f tide).2.1 ∧ ∀ i, i < (rdB V f tide).2.1 → mA S2 27 i = nI ((rdB V f tide).2.2 i))) 0 0 358 [some (.ref b), some (.int (nI f)), some (.int (nI tide)), some (.int (nI (10 + 5 * f))), some (.int (nI ((rdW V row L) + vt V 6 d))), some (.int (nI ((rdW V row L) + vt V 6 d))), some (.int (nI ((rdU row L) ||| 2 ^ d))), some (.int (nI L)), some (.int (nI d)), some (.int (nI (rdC V f row L))), some (.int (nI (rdM V f wh L))), some (.int (nI kk))] [] (sM g σ b (S7)) := by
                                      intro j9
                                      induction j9 with
                                      | zero => intro kk S7 hmu hkk hF7 h729 h725 h726 h727; exact absurd hmu (Nat.not_lt_zero _)
                                      | succ j9 ih_lc =>
                                        intro kk S7 hmu hkk hF7 h729 h725 h726 h727
                                        refine w_iload dX8_rounds_358 rfl ?_
                                        refine w_iload dX8_rounds_360 rfl ?_
                                        refine w_icmpN_gt dX8_rounds_362 rfl (by omega) (by omega) (fun h_362 => ?_) (fun h_362 => ?_)
                                        · obtain rfl : kk = L + 1 := by omega
                                          have hb9 : bet bb (rdW V (va_up row L d) (L + 1)) (L + 1) (va_up row L d) = (rdW V (va_up row L d) (L + 1) + 1, L + 1, fun i => if i < L + 1 then (va_up row L d) i else 0) := bet_t (by rw [eW]; exact hbt)
                                          have hEB : EncR9 (sA S7 25 (L + 1) (-1)) (va_up row L d) (va_up wh L (rdT V f (rdC V f row L) (rdM V f wh L) d)) (L + 1) 0 (rdW V (va_up row L d) (L + 1) + 1, L + 1, fun i => if i < L + 1 then (va_up row L d) i else 0) := EncR9.up hE4 h725 h726 h729 (fun i hi => by
                                            show mA S7 27 i = nI (if i < L + 1 then (va_up row L d) i else 0)
                                            have hi2 : i < L + 1 := hi
                                            rw [if_pos hi2]
                                            exact h727 i hi)
                                          have hBB : OkB9 (rdW V (va_up row L d) (L + 1) + 1, L + 1, fun i => if i < L + 1 then (va_up row L d) i else 0) := ⟨Nat.succ_pos _, by show rdW V (va_up row L d) (L + 1) + 1 ≤ 8000; rw [eW]; omega, hL8⟩
                                          have hFB : FrN S (sA S7 25 (L + 1) (-1)) := hF7.A (by omega)
                                          refine w_iinc dX8_rounds_385 rfl (nI_inc _ 1) rfl (Nat.le_of_ble_eq_true rfl) ls_12_7 ?_
                                          refine w_aload_n dX8_rounds_388 rfl ?_
                                          refine mg_row dX8_rounds_389 rfl ?_
                                          refine w_iload dX8_rounds_392 rfl ?_
                                          refine w_iconst (v := (-1)) dX8_rounds_394 ki_m1 ?_
                                          refine ms_row dX8_rounds_395 (by omega) ?_
                                          refine w_goto dX8_rounds_396 rfl ?_
                                          refine w_iload dX8_rounds_29 rfl ?_
                                          refine w_ifN_lt dX8_rounds_31 rfl (by omega) (fun h_31 => ?_) (fun h_31 => ?_)
                                          · exact absurd h_31 (by omega)
                                          · refine w_aload_n dX8_rounds_34 rfl ?_
                                            refine mg_row dX8_rounds_35 rfl ?_
                                            refine w_iload dX8_rounds_38 rfl ?_
                                            refine ma_row dX8_rounds_40 (by omega) ?_
                                            refine w_top (y := .int (-1)) (congrArg Value.int (upd_eq (a := mA S7 25) (i := L + 1) (x := (-1 : Int32)))) ?_
                                            refine w_iconst (v := (-1)) dX8_rounds_41 ki_m1 ?_
                                            refine w_icmp_eq dX8_rounds_42 rfl (fun h_42 => ?_) (fun h_42 => ?_)
                                            · refine w_L (wkS (wkS (wkS (wkS (wkS (wkS (wkS (wkS (wkN (wkN (wkN (wkN wk0)))))))))))) ?_
                                              exact w_as (ih_lp (L + 1) (va_up row L d) (va_up wh L (rdT V f (rdC V f row L) (rdM V f wh L) d)) 0 (bet bb (rdW V (va_up row L d) (L + 1)) (L + 1) (va_up row L d)) _ (Nat.lt_of_lt_of_le (rdMu_push (by omega) (by omega) (by omega)) (Nat.le_of_lt_succ hmu84)) (by omega) (by omega) hup.1 hwh2 (by rw [hb9]; exact hEB) (by rw [hb9]; exact hBB) hFB (by rw [← hR, cont_push (by omega) hd1 h_164 h_273 hno hok])) (by rw [hb9, eW, eU] <;> rfl) rfl rfl
                                            · exact absurd rfl h_42
                                        · refine w_aload_n dX8_rounds_365 rfl ?_
                                          refine mg_bestRow dX8_rounds_366 rfl ?_
                                          refine w_iload dX8_rounds_369 rfl ?_
                                          refine w_aload_n dX8_rounds_371 rfl ?_
                                          refine mg_row dX8_rounds_372 rfl ?_
                                          refine w_iload dX8_rounds_375 rfl ?_
                                          refine ma_row dX8_rounds_377 (by omega) ?_
                                          refine w_topN (n := (va_up row L d) kk) (by rw [h725]; show upd (mA S4 25) L (nI d) kk = nI (va_up row L d kk); unfold upd va_up; split; rfl; exact hE4.1 kk (by omega)) ?_
                                          refine ms_bestRow dX8_rounds_378 (by omega) ?_
                                          refine w_iinc dX8_rounds_379 rfl (nI_inc _ 1) rfl (Nat.le_of_ble_eq_true rfl) ls_12_11 ?_
                                          refine w_goto dX8_rounds_382 rfl ?_
                                          exact ih_lc (kk + 1) _ (by omega) (by omega) (hF7.A (by omega)) h729 h725 h726 (fun i hi => by
                                            show upd (mA S7 27) kk _ i = _
                                            by_cases z : i = kk
                                            · rw [z, upd_eq]
                                            · rw [upd_ne z]; exact h727 i (by omega))
                                    exact lc (L + 2) 0 _ (by omega) (by omega) (((hF4.A (by omega)).A (by omega)).I) rfl rfl rfl (fun i hi => absurd hi (Nat.not_lt_zero i))
                            · have hend : L = vt V 2 f ∨ ∀ i, k ≤ i → i < vs V 2 → ¬ rdOk V f tide (rdC V f row L) (rdM V f wh L) (rdU row L) i := Or.inl h_273
                              obtain ⟨SXp, hSXp⟩ : ∃ SXp, (sA S4 26 L (nI (rdT V f (rdC V f row L) (rdM V f wh L) d))) = SXp := ⟨_, rfl⟩
                              rw [hSXp]
                              have hEX : EncR9 SXp row wh L k bb := by rw [← hSXp]; exact hE4.w _
                              have hFX : FrN S SXp := by rw [← hSXp]; exact hF4.A (by omega)
                              have EX : Enc SXp V := hFX.E E
                              refine w_iinc dX8_rounds_276 rfl (nI_m1 _) rfl (Nat.le_of_ble_eq_true rfl) ls_12_7 ?_
                              by_cases hL0 : L = 0
                              · subst hL0
                                rw [show nI 0 - nI 1 = (-1 : Int32) by decide]
                                have hRe : R = bb := by
                                  rw [← hR]
                                  exact lvl_end hk hend
                                refine w_goto dX8_rounds_279 rfl ?_
                                refine w_iload dX8_rounds_29 rfl ?_
                                refine w_if_lt dX8_rounds_31 rfl (fun h_31 => ?_) (fun h_31 => ?_)
                                · refine w_iload dX8_rounds_399 rfl ?_
                                  exact w_iret dX8_rounds_401 rfl ⟨by rw [hRd, hRe], _, by exact ⟨hFX, by rw [hRd, hRe]; exact hB, by rw [hRd, hRe]; exact hEX.2.2.2.1, by rw [hRd, hRe]; exact hEX.2.2.2.2⟩, rfl⟩
                                · exact absurd (show (-1 : Int32) < 0 by decide) h_31
                              · obtain ⟨L9, rfl⟩ : ∃ L9, L = L9 + 1 := ⟨L - 1, by omega⟩
                                rw [nI_dn]
                                have hr9 := (hO.1 L9 (by omega)).1
                                have hU9 : rdU row L9 < 256 := (hO.dn kb8).2.1
                                have hw1 : rdW V row (L9 + 1) = rdW V row L9 + vt V 6 (row L9) := rfl
                                have hd9 := K.d hr9
                                refine w_goto dX8_rounds_279 rfl ?_
                                refine w_iload dX8_rounds_29 rfl ?_
                                refine w_ifN_lt dX8_rounds_31 rfl (by omega) (fun h_31 => ?_) (fun h_31 => ?_)
                                · exact absurd h_31 (by omega)
                                · refine w_aload_n dX8_rounds_34 rfl ?_
                                  refine mg_row dX8_rounds_35 rfl ?_
                                  refine w_iload dX8_rounds_38 rfl ?_
                                  refine ma_row dX8_rounds_40 (by omega) ?_
                                  refine w_topN (n := row L9) (hEX.1 L9 (by omega)) ?_
                                  refine w_iconst (v := (-1)) dX8_rounds_41 ki_m1 ?_
                                  refine w_icmp_eq dX8_rounds_42 rfl (fun h_42 => ?_) (fun h_42 => ?_)
                                  · exact absurd h_42 (nI_nm1 (by omega))
                                  · refine w_iload dX8_rounds_45 rfl ?_
                                    refine w_iconst (v := nI 1) dX8_rounds_47 ki_1 ?_
                                    refine w_aload_n dX8_rounds_48 rfl ?_
                                    refine mg_row dX8_rounds_49 rfl ?_
                                    refine w_iload dX8_rounds_52 rfl ?_
                                    refine ma_row dX8_rounds_54 (by omega) ?_
                                    refine w_topN (n := row L9) (hEX.1 L9 (by omega)) ?_
                                    refine w_shl1N dX8_rounds_55 (by omega) ?_
                                    refine w_iconst (v := (-1)) dX8_rounds_56 ki_m1 ?_
                                    refine w_ixor dX8_rounds_57 ?_
                                    refine w_iand dX8_rounds_58 ?_
                                    rw [show nI (rdU row (L9 + 1)) &&& (nI (2 ^ row L9) ^^^ (-1)) = nI (rdU row L9) from bit_off _ hU9 _ (by omega) (hO.1 L9 (by omega)).2]
                                    refine w_istore dX8_rounds_59 rfl (Nat.le_of_ble_eq_true rfl) ls_12_6 ?_
                                    refine w_iload dX8_rounds_61 rfl ?_
                                    refine w_aload_n dX8_rounds_63 rfl ?_
                                    refine mg_at dX8_rounds_64 rfl ?_
                                    refine w_iconst (v := nI 0) dX8_rounds_67 ki_0 ?_
                                    refine w_aload_n dX8_rounds_68 rfl ?_
                                    refine mg_row dX8_rounds_69 rfl ?_
                                    refine w_iload dX8_rounds_72 rfl ?_
                                    refine ma_row dX8_rounds_74 (by omega) ?_
                                    refine w_topN (n := row L9) (hEX.1 L9 (by omega)) ?_
                                    refine s_calli2 (mi := miX8_findRow) dX8_rounds_75 q1813 okX8_findRow (Nat.le_of_ble_eq_true rfl) c_findRow (Nat.le_of_ble_eq_true rfl) ?_
                                    refine w_iconst (v := nI 1) dX8_rounds_78 ki_1 ?_
                                    refine w_iaddN dX8_rounds_79 ?_
                                    refine ma_at dX8_rounds_80 (by omega) ?_
                                    refine w_topN (n := vt V 6 (row L9)) ((congrArg (mA SXp 0) (by omega)).trans (EX.d 1 (by omega) (by omega))) ?_
                                    refine w_isubN dX8_rounds_81 (by omega) ?_
                                    rw [show rdW V row (L9 + 1) - vt V 6 (row L9) = rdW V row L9 by omega]
                                    refine w_istore dX8_rounds_82 rfl (Nat.le_of_ble_eq_true rfl) ls_12_5 ?_
                                    refine w_L (wkS (wkS (wkS (wkS (wkS (wkS (wkS (wkS (wkN (wkN (wkN (wkN wk0)))))))))))) ?_
                                    exact ih_lp L9 row wh (row L9 + 1) bb SXp (Nat.lt_of_lt_of_le (rdMu_pop (by omega)) (Nat.le_of_lt_succ hmu84)) (by omega) (by have := (hO.1 L9 (by omega)).1; omega) (hO.dn kb8) (fun i hi => hw6 i (by omega)) hEX.dn hB hFX (by rw [← hR]; show _ = cont V f tide row wh L9 (row L9 + 1) (lvl V f tide row wh (L9 + 1) k bb); rw [lvl_end hk hend])
              exact li (vs V 2 + 1) k S3 (by omega) (Nat.le_refl _) hk (fun i h1 h2 => absurd h1 (by omega)) hF hE
            · exact absurd h_131 h_97
          · refine w_aload_n dX8_rounds_100 rfl ?_
            refine mg_at dX8_rounds_101 rfl ?_
            refine w_iload_n dX8_rounds_104 rfl ?_
            refine ma_at dX8_rounds_105 (by omega) ?_
            refine w_topN (n := (rdC V f row L)) (by rw [show (rdC V f row L) = vt V 0 f from if_pos h_97]; exact E3.f 0 (by omega) (by omega)) ?_
            refine w_goto dX8_rounds_106 rfl ?_
            refine w_istore dX8_rounds_127 rfl (Nat.le_of_ble_eq_true rfl) ls_12_9 ?_
            refine w_iload dX8_rounds_129 rfl ?_
            refine w_ifN_ne dX8_rounds_131 rfl (by omega) (fun h_131 => ?_) (fun h_131 => ?_)
            · exact absurd h_97 h_131
            · refine w_aload_n dX8_rounds_134 rfl ?_
              refine mg_at dX8_rounds_135 rfl ?_
              refine w_iload_n dX8_rounds_138 rfl ?_
              refine w_iconst (v := nI 3) dX8_rounds_139 ki_3 ?_
              refine w_iaddN dX8_rounds_140 ?_
              refine ma_at dX8_rounds_141 (by omega) ?_
              refine w_topN (n := (rdM V f wh L)) (by rw [show (rdM V f wh L) = vt V 3 f from if_pos h_97]; exact E3.f 3 (by omega) (by omega)) ?_
              refine w_goto dX8_rounds_142 rfl ?_
              refine w_istore dX8_rounds_154 rfl (Nat.le_of_ble_eq_true rfl) ls_12_10 ?_
              have li : ∀ (j9 : Nat) (d : Nat) (S4 : MS), vs V 2 - d < j9 → k ≤ d → d ≤ vs V 2 → (∀ i, k ≤ i → i < d → ¬ rdOk V f tide (rdC V f row L) (rdM V f wh L) (rdU row L) i) → FrN S S4 → EncR9 S4 row wh L k bb → Wp g (mtP g miX8_rounds 4 σ b (some (.int (nI ((rdB V f tide).1 - 1)))) (fun S2 => FrN S S2 ∧ OkB9 (rdB V f tide) ∧ mI S2 29 = nI (rdB V f tide).2.1 ∧ ∀ i, i < (rdB V f tide).2.1 → mA S2 27 i = nI ((rdB V f tide).2.2 i))) 0 0 156 [some (.ref b), some (.int (nI f)), some (.int (nI tide)), some (.int (nI (10 + 5 * f))), some (.int (nI (bb.1 - 1))), some (.int (nI (rdW V row L))), some (.int (nI (rdU row L))), some (.int (nI L)), some (.int (nI d)), some (.int (nI (rdC V f row L))), some (.int (nI (rdM V f wh L))), none] [] (sM g σ b (S4)) := by
                intro j9
                induction j9 with
                | zero => intro d S4 hmu hd1 hd2 hno hF4 hE4; exact absurd hmu (Nat.not_lt_zero _)
                | succ j9 ih_li =>
                  intro d S4 hmu hd1 hd2 hno hF4 hE4
                  have E4 := hF4.E E
                  refine w_iload dX8_rounds_156 rfl ?_
                  refine w_aload_n dX8_rounds_158 rfl ?_
                  refine mg_at dX8_rounds_159 rfl ?_
                  refine w_iconst (v := nI 2) dX8_rounds_162 ki_2 ?_
                  refine ma_at dX8_rounds_163 (by omega) ?_
                  refine w_topN (n := vs V 2) (E4.s 2 (by omega)) ?_
                  refine w_icmpN_ge dX8_rounds_164 rfl (by omega) (by omega) (fun h_164 => ?_) (fun h_164 => ?_)
                  · have hdf : d = vs V 2 := by omega
                    refine w_iload dX8_rounds_252 rfl ?_
                    refine w_aload_n dX8_rounds_254 rfl ?_
                    refine mg_at dX8_rounds_255 rfl ?_
                    refine w_iconst (v := nI 2) dX8_rounds_258 ki_2 ?_
                    refine ma_at dX8_rounds_259 (by omega) ?_
                    refine w_topN (n := vs V 2) (E4.s 2 (by omega)) ?_
                    refine w_icmpN_eq dX8_rounds_260 rfl (by omega) (by omega) (fun h_260 => ?_) (fun h_260 => ?_)
                    · have hend : L = vt V 2 f ∨ ∀ i, k ≤ i → i < vs V 2 → ¬ rdOk V f tide (rdC V f row L) (rdM V f wh L) (rdU row L) i := Or.inr (fun i h1 h2 => hno i h1 (by omega))
                      obtain ⟨SXp, hSXp⟩ : ∃ SXp, S4 = SXp := ⟨_, rfl⟩
                      rw [hSXp]
                      have hEX : EncR9 SXp row wh L k bb := by rw [← hSXp]; exact hE4
                      have hFX : FrN S SXp := by rw [← hSXp]; exact hF4
                      have EX : Enc SXp V := hFX.E E
                      refine w_iinc dX8_rounds_276 rfl (nI_m1 _) rfl (Nat.le_of_ble_eq_true rfl) ls_12_7 ?_
                      by_cases hL0 : L = 0
                      · subst hL0
                        rw [show nI 0 - nI 1 = (-1 : Int32) by decide]
                        have hRe : R = bb := by
                          rw [← hR]
                          exact lvl_end hk hend
                        refine w_goto dX8_rounds_279 rfl ?_
                        refine w_iload dX8_rounds_29 rfl ?_
                        refine w_if_lt dX8_rounds_31 rfl (fun h_31 => ?_) (fun h_31 => ?_)
                        · refine w_iload dX8_rounds_399 rfl ?_
                          exact w_iret dX8_rounds_401 rfl ⟨by rw [hRd, hRe], _, by exact ⟨hFX, by rw [hRd, hRe]; exact hB, by rw [hRd, hRe]; exact hEX.2.2.2.1, by rw [hRd, hRe]; exact hEX.2.2.2.2⟩, rfl⟩
                        · exact absurd (show (-1 : Int32) < 0 by decide) h_31
                      · obtain ⟨L9, rfl⟩ : ∃ L9, L = L9 + 1 := ⟨L - 1, by omega⟩
                        rw [nI_dn]
                        have hr9 := (hO.1 L9 (by omega)).1
                        have hU9 : rdU row L9 < 256 := (hO.dn kb8).2.1
                        have hw1 : rdW V row (L9 + 1) = rdW V row L9 + vt V 6 (row L9) := rfl
                        have hd9 := K.d hr9
                        refine w_goto dX8_rounds_279 rfl ?_
                        refine w_iload dX8_rounds_29 rfl ?_
                        refine w_ifN_lt dX8_rounds_31 rfl (by omega) (fun h_31 => ?_) (fun h_31 => ?_)
                        · exact absurd h_31 (by omega)
                        · refine w_aload_n dX8_rounds_34 rfl ?_
                          refine mg_row dX8_rounds_35 rfl ?_
                          refine w_iload dX8_rounds_38 rfl ?_
                          refine ma_row dX8_rounds_40 (by omega) ?_
                          refine w_topN (n := row L9) (hEX.1 L9 (by omega)) ?_
                          refine w_iconst (v := (-1)) dX8_rounds_41 ki_m1 ?_
                          refine w_icmp_eq dX8_rounds_42 rfl (fun h_42 => ?_) (fun h_42 => ?_)
                          · exact absurd h_42 (nI_nm1 (by omega))
                          · refine w_iload dX8_rounds_45 rfl ?_
                            refine w_iconst (v := nI 1) dX8_rounds_47 ki_1 ?_
                            refine w_aload_n dX8_rounds_48 rfl ?_
                            refine mg_row dX8_rounds_49 rfl ?_
                            refine w_iload dX8_rounds_52 rfl ?_
                            refine ma_row dX8_rounds_54 (by omega) ?_
                            refine w_topN (n := row L9) (hEX.1 L9 (by omega)) ?_
                            refine w_shl1N dX8_rounds_55 (by omega) ?_
                            refine w_iconst (v := (-1)) dX8_rounds_56 ki_m1 ?_
                            refine w_ixor dX8_rounds_57 ?_
                            refine w_iand dX8_rounds_58 ?_
                            rw [show nI (rdU row (L9 + 1)) &&& (nI (2 ^ row L9) ^^^ (-1)) = nI (rdU row L9) from bit_off _ hU9 _ (by omega) (hO.1 L9 (by omega)).2]
                            refine w_istore dX8_rounds_59 rfl (Nat.le_of_ble_eq_true rfl) ls_12_6 ?_
                            refine w_iload dX8_rounds_61 rfl ?_
                            refine w_aload_n dX8_rounds_63 rfl ?_
                            refine mg_at dX8_rounds_64 rfl ?_
                            refine w_iconst (v := nI 0) dX8_rounds_67 ki_0 ?_
                            refine w_aload_n dX8_rounds_68 rfl ?_
                            refine mg_row dX8_rounds_69 rfl ?_
                            refine w_iload dX8_rounds_72 rfl ?_
                            refine ma_row dX8_rounds_74 (by omega) ?_
                            refine w_topN (n := row L9) (hEX.1 L9 (by omega)) ?_
                            refine s_calli2 (mi := miX8_findRow) dX8_rounds_75 q1813 okX8_findRow (Nat.le_of_ble_eq_true rfl) c_findRow (Nat.le_of_ble_eq_true rfl) ?_
                            refine w_iconst (v := nI 1) dX8_rounds_78 ki_1 ?_
                            refine w_iaddN dX8_rounds_79 ?_
                            refine ma_at dX8_rounds_80 (by omega) ?_
                            refine w_topN (n := vt V 6 (row L9)) ((congrArg (mA SXp 0) (by omega)).trans (EX.d 1 (by omega) (by omega))) ?_
                            refine w_isubN dX8_rounds_81 (by omega) ?_
                            rw [show rdW V row (L9 + 1) - vt V 6 (row L9) = rdW V row L9 by omega]
                            refine w_istore dX8_rounds_82 rfl (Nat.le_of_ble_eq_true rfl) ls_12_5 ?_
                            refine w_L (wkS (wkS (wkS (wkS (wkS (wkS (wkS (wkS (wkN (wkN (wkN (wkN wk0)))))))))))) ?_
                            exact ih_lp L9 row wh (row L9 + 1) bb SXp (Nat.lt_of_lt_of_le (rdMu_pop (by omega)) (Nat.le_of_lt_succ hmu84)) (by omega) (by have := (hO.1 L9 (by omega)).1; omega) (hO.dn kb8) (fun i hi => hw6 i (by omega)) hEX.dn hB hFX (by rw [← hR]; show _ = cont V f tide row wh L9 (row L9 + 1) (lvl V f tide row wh (L9 + 1) k bb); rw [lvl_end hk hend])
                    · exact absurd hdf h_260
                  · have hkd := K.d (d := d) (by omega)
                    have hnb : nabs (rdC V f row L) (vt V 5 d) ≤ 40 := nabs_le _ _ 40 (by omega) (by omega)
                    have hprod : vt V 1 f * nabs (rdC V f row L) (vt V 5 d) ≤ 9 * 40 := Nat.mul_le_mul (by omega) hnb
                    have hbo : behO V f d ≤ 241 := behK_le K f (d := d) (by omega) _ (Nat.le_refl _)
                    have hrt : (rdT V f (rdC V f row L) (rdM V f wh L) d) ≤ 1000 := Nat.max_le.mpr ⟨by omega, by omega⟩
                    refine w_aload_n dX8_rounds_167 rfl ?_
                    refine mg_when dX8_rounds_168 rfl ?_
                    refine w_iload dX8_rounds_171 rfl ?_
                    refine w_iload dX8_rounds_173 rfl ?_
                    refine w_aload_n dX8_rounds_175 rfl ?_
                    refine mg_at dX8_rounds_176 rfl ?_
                    refine w_iload_n dX8_rounds_179 rfl ?_
                    refine w_iconst (v := nI 1) dX8_rounds_180 ki_1 ?_
                    refine w_iaddN dX8_rounds_181 ?_
                    refine ma_at dX8_rounds_182 (by omega) ?_
                    refine w_topN (n := vt V 1 f) (E4.f 1 (by omega) (by omega)) ?_
                    refine w_iload dX8_rounds_183 rfl ?_
                    refine w_aload_n dX8_rounds_185 rfl ?_
                    refine mg_at dX8_rounds_186 rfl ?_
                    refine w_iconst (v := nI 0) dX8_rounds_189 ki_0 ?_
                    refine w_iload dX8_rounds_190 rfl ?_
                    refine s_calli2 (mi := miX8_findRow) dX8_rounds_192 q1813 okX8_findRow (Nat.le_of_ble_eq_true rfl) c_findRow (Nat.le_of_ble_eq_true rfl) ?_
                    refine ma_at dX8_rounds_195 (by omega) ?_
                    refine w_topN (n := vt V 5 d) ((congrArg (mA S4 0) (by omega)).trans (E4.d 0 (by omega) (by omega))) ?_
                    refine w_isub dX8_rounds_196 ?_
                    refine w_mabs dX8_rounds_197 q1913 q1058 q155 q1059 (Nat.le_of_ble_eq_true rfl) (Nat.le_of_ble_eq_true rfl) ?_
                    refine w_topN (abs_n (by omega) (by omega)) ?_
                    refine w_imulN dX8_rounds_200 ?_
                    refine w_iaddN dX8_rounds_201 ?_
                    refine w_aload_n dX8_rounds_202 rfl ?_
                    refine w_iload_n dX8_rounds_203 rfl ?_
                    refine w_iload dX8_rounds_204 rfl ?_
                    refine m_calli2 (mi := miX8_behindOthers) dX8_rounds_206 q2169 okX8_behindOthers rfl (Nat.le_of_ble_eq_true rfl) (c_behindOthers E4 K (by omega) (by omega)) (Nat.le_of_ble_eq_true rfl) ?_
                    refine w_mmax dX8_rounds_209 q2092 q1165 q155 q1166 (Nat.le_of_ble_eq_true rfl) (Nat.le_of_ble_eq_true rfl) ?_
                    refine w_topN (max_n (by omega) (by omega)) ?_
                    rw [show max ((rdM V f wh L) + vt V 1 f * nabs (rdC V f row L) (vt V 5 d)) (behO V f d) = (rdT V f (rdC V f row L) (rdM V f wh L) d) from rfl]
                    refine ms_when dX8_rounds_212 (by omega) ?_
                    have E5 : Enc (sA S4 26 L (nI (rdT V f (rdC V f row L) (rdM V f wh L) d))) V := E4
                    refine w_aload_n dX8_rounds_213 rfl ?_
                    refine w_iload dX8_rounds_214 rfl ?_
                    refine m_calli1 (mi := miX8_isThere) dX8_rounds_216 q1935 okX8_isThere rfl (Nat.le_of_ble_eq_true rfl) (c_isThere E5 K (by omega)) (Nat.le_of_ble_eq_true rfl) ?_
                    refine w_ifB_eq dX8_rounds_219 rfl (fun h_219 => ?_) (fun h_219 => ?_)
                    · have hnok : ¬ rdOk V f tide (rdC V f row L) (rdM V f wh L) (rdU row L) d := fun z => h_219 z.1
                      refine w_iinc dX8_rounds_246 rfl (nI_inc _ 1) rfl (Nat.le_of_ble_eq_true rfl) ls_12_8 ?_
                      refine w_goto dX8_rounds_249 rfl ?_
                      exact ih_li (d + 1) _ (by omega) (by omega) (by omega) (fun i h1 h2 => by
                        by_cases z : i = d
                        · rw [z]; exact hnok
                        · exact hno i h1 (by omega)) (hF4.A (by omega)) (hE4.w _)
                    · refine w_iload dX8_rounds_222 rfl ?_
                      refine w_iload dX8_rounds_224 rfl ?_
                      refine w_ishrN dX8_rounds_226 (by omega) (by omega) ?_
                      refine w_iconst (v := nI 1) dX8_rounds_227 ki_1 ?_
                      refine w_iandN dX8_rounds_228 ?_
                      refine w_ifN_ne dX8_rounds_229 rfl (by have := Nat.and_one_is_mod ((rdU row L) >>> d); omega) (fun h_229 => ?_) (fun h_229 => ?_)
                      · have hnok : ¬ rdOk V f tide (rdC V f row L) (rdM V f wh L) (rdU row L) d := fun z => z.2.1 (by have := Nat.and_one_is_mod ((rdU row L) >>> d); omega)
                        refine w_iinc dX8_rounds_246 rfl (nI_inc _ 1) rfl (Nat.le_of_ble_eq_true rfl) ls_12_8 ?_
                        refine w_goto dX8_rounds_249 rfl ?_
                        exact ih_li (d + 1) _ (by omega) (by omega) (by omega) (fun i h1 h2 => by
                          by_cases z : i = d
                          · rw [z]; exact hnok
                          · exact hno i h1 (by omega)) (hF4.A (by omega)) (hE4.w _)
                      · have hbit : ¬ ((rdU row L) >>> d) &&& 1 = 1 := by omega
                        refine w_aload_n dX8_rounds_232 rfl ?_
                        refine mg_when dX8_rounds_233 rfl ?_
                        refine w_iload dX8_rounds_236 rfl ?_
                        refine ma_when dX8_rounds_238 (by omega) ?_
                        refine w_topN (n := (rdT V f (rdC V f row L) (rdM V f wh L) d)) (upd_eq (a := mA S4 26) (i := L) (x := nI (rdT V f (rdC V f row L) (rdM V f wh L) d))) ?_
                        refine w_iload_n dX8_rounds_239 rfl ?_
                        refine w_icmpN_gt dX8_rounds_240 rfl (by omega) (by omega) (fun h_240 => ?_) (fun h_240 => ?_)
                        · have hnok : ¬ rdOk V f tide (rdC V f row L) (rdM V f wh L) (rdU row L) d := fun z => absurd z.2.2 (by omega)
                          refine w_iinc dX8_rounds_246 rfl (nI_inc _ 1) rfl (Nat.le_of_ble_eq_true rfl) ls_12_8 ?_
                          refine w_goto dX8_rounds_249 rfl ?_
                          exact ih_li (d + 1) _ (by omega) (by omega) (by omega) (fun i h1 h2 => by
                            by_cases z : i = d
                            · rw [z]; exact hnok
                            · exact hno i h1 (by omega)) (hF4.A (by omega)) (hE4.w _)
                        · have hok : rdOk V f tide (rdC V f row L) (rdM V f wh L) (rdU row L) d := ⟨h_219, hbit, by omega⟩
                          refine w_goto dX8_rounds_243 rfl ?_
                          refine w_iload dX8_rounds_252 rfl ?_
                          refine w_aload_n dX8_rounds_254 rfl ?_
                          refine mg_at dX8_rounds_255 rfl ?_
                          refine w_iconst (v := nI 2) dX8_rounds_258 ki_2 ?_
                          refine ma_at dX8_rounds_259 (by omega) ?_
                          refine w_topN (n := vs V 2) (E5.s 2 (by omega)) ?_
                          refine w_icmpN_eq dX8_rounds_260 rfl (by omega) (by omega) (fun h_260 => ?_) (fun h_260 => ?_)
                          · have hend : L = vt V 2 f ∨ ∀ i, k ≤ i → i < vs V 2 → ¬ rdOk V f tide (rdC V f row L) (rdM V f wh L) (rdU row L) i := Or.inr (fun i h1 h2 => hno i h1 (by omega))
                            obtain ⟨SXp, hSXp⟩ : ∃ SXp, S4 = SXp := ⟨_, rfl⟩
                            rw [hSXp]
                            have hEX : EncR9 SXp row wh L k bb := by rw [← hSXp]; exact hE4
                            have hFX : FrN S SXp := by rw [← hSXp]; exact hF4
                            have EX : Enc SXp V := hFX.E E
                            exact absurd h_260 (by omega)
                          · refine w_iload dX8_rounds_263 rfl ?_
                            refine w_aload_n dX8_rounds_265 rfl ?_
                            refine mg_at dX8_rounds_266 rfl ?_
                            refine w_iload_n dX8_rounds_269 rfl ?_
                            refine w_iconst (v := nI 2) dX8_rounds_270 ki_2 ?_
                            refine w_iaddN dX8_rounds_271 ?_
                            refine ma_at dX8_rounds_272 (by omega) ?_
                            refine w_topN (n := vt V 2 f) (E5.f 2 (by omega) (by omega)) ?_
                            refine w_icmpN_ne dX8_rounds_273 rfl (by omega) (by omega) (fun h_273 => ?_) (fun h_273 => ?_)
                            · have hup := hO.up kb8 h_164 hbit
                              have eU : rdU (va_up row L d) (L + 1) = (rdU row L) ||| 2 ^ d := by
                                show rdU (va_up row L d) L ||| 2 ^ ((va_up row L d) L) = _
                                rw [show (va_up row L d) L = d from if_pos rfl, rdU_congr (row := (va_up row L d)) (row2 := row) L (fun i hi => if_neg (by omega))]
                              have eW : rdW V (va_up row L d) (L + 1) = (rdW V row L) + vt V 6 d := by
                                show rdW V (va_up row L d) L + vt V 6 ((va_up row L d) L) = _
                                rw [show (va_up row L d) L = d from if_pos rfl, rdW_congr (row := (va_up row L d)) (row2 := row) L (fun i hi => if_neg (by omega))]
                              have hwh2 : ∀ i, i < L + 1 → (va_up wh L (rdT V f (rdC V f row L) (rdM V f wh L) d)) i ≤ 600 := fun i hi => by
                                unfold va_up
                                split
                                · omega
                                · exact hw6 i (by omega)
                              have hL8 := hup.2
                              refine w_aload_n dX8_rounds_282 rfl ?_
                              refine mg_row dX8_rounds_283 rfl ?_
                              refine w_iload dX8_rounds_286 rfl ?_
                              refine w_iload dX8_rounds_288 rfl ?_
                              refine ms_row dX8_rounds_290 (by omega) ?_
                              refine w_iload dX8_rounds_291 rfl ?_
                              refine w_iconst (v := nI 1) dX8_rounds_293 ki_1 ?_
                              refine w_iload dX8_rounds_294 rfl ?_
                              refine w_shl1N dX8_rounds_296 (by omega) ?_
                              refine w_iorN dX8_rounds_297 ?_
                              refine w_istore dX8_rounds_298 rfl (Nat.le_of_ble_eq_true rfl) ls_12_6 ?_
                              refine w_iload dX8_rounds_300 rfl ?_
                              refine w_aload_n dX8_rounds_302 rfl ?_
                              refine mg_at dX8_rounds_303 rfl ?_
                              refine w_iconst (v := nI 0) dX8_rounds_306 ki_0 ?_
                              refine w_iload dX8_rounds_307 rfl ?_
                              refine s_calli2 (mi := miX8_findRow) dX8_rounds_309 q1813 okX8_findRow (Nat.le_of_ble_eq_true rfl) c_findRow (Nat.le_of_ble_eq_true rfl) ?_
                              refine w_iconst (v := nI 1) dX8_rounds_312 ki_1 ?_
                              refine w_iaddN dX8_rounds_313 ?_
                              refine ma_at dX8_rounds_314 (by omega) ?_
                              refine w_topN (n := vt V 6 d) ((congrArg (mA (sA (sA S4 26 L (nI (rdT V f (rdC V f row L) (rdM V f wh L) d))) 25 L (nI d)) 0) (by omega)).trans (E5.d 1 (by omega) (by omega))) ?_
                              refine w_iaddN dX8_rounds_315 ?_
                              refine w_istore dX8_rounds_316 rfl (Nat.le_of_ble_eq_true rfl) ls_12_5 ?_
                              refine w_iload dX8_rounds_318 rfl ?_
                              refine w_iload dX8_rounds_320 rfl ?_
                              refine w_icmpN_gt dX8_rounds_322 rfl (by omega) (by omega) (fun h_322 => ?_) (fun h_322 => ?_)
                              · have hbt : bb.1 < (rdW V row L) + vt V 6 d + 1 ∨ (bb.1 = (rdW V row L) + vt V 6 d + 1 ∧ L + 1 < bb.2.1) := Or.inl (by omega)
                                refine w_iload dX8_rounds_343 rfl ?_
                                refine w_istore dX8_rounds_345 rfl (Nat.le_of_ble_eq_true rfl) ls_12_4 ?_
                                refine w_aload_n dX8_rounds_347 rfl ?_
                                refine w_iload dX8_rounds_348 rfl ?_
                                refine w_iconst (v := nI 1) dX8_rounds_350 ki_1 ?_
                                refine w_iaddN dX8_rounds_351 ?_
                                refine mp_bestMany dX8_rounds_352 rfl ?_
                                refine w_iconst (v := nI 0) dX8_rounds_355 ki_0 ?_
                                refine w_istore dX8_rounds_356 rfl (Nat.le_of_ble_eq_true rfl) ls_12_11 ?_
                                have lc : ∀ (j9 : Nat) (kk : Nat) (S7 : MS), L + 1 - kk < j9 → kk ≤ L + 1 → FrN S S7 → mI S7 29 = nI (L + 1) → mA S7 25 = upd (mA S4 25) L (nI d) → mA S7 26 = upd (mA S4 26) L (nI (rdT V f (rdC V f row L) (rdM V f wh L) d)) → (∀ i, i < kk → mA S7 27 i = nI ((va_up row L d) i)) → Wp g (mtP g miX8_rounds 4 σ b (some (.int (nI ((rdB V f tide).1 - 1)))) (fun S2 => FrN S S2 ∧ OkB9 (rdB V f tide) ∧ mI S2 29 = nI (rdB V f tide).2.1 ∧ ∀ i, i < (rdB V f tide).2.1 → mA S2 27 i = nI ((rdB V f tide).2.2 i))) 0 0 358 [some (.ref b), some (.int (nI f)), some (.int (nI tide)), some (.int (nI (10 + 5 * f))), some (.int (nI ((rdW V row L) + vt V 6 d))), some (.int (nI ((rdW V row L) + vt V 6 d))), some (.int (nI ((rdU row L) ||| 2 ^ d))), some (.int (nI L)), some (.int (nI d)), some (.int (nI (rdC V f row L))), some (.int (nI (rdM V f wh L))), some (.int (nI kk))] [] (sM g σ b (S7)) := by
                                  intro j9
                                  induction j9 with
                                  | zero => intro kk S7 hmu hkk hF7 h729 h725 h726 h727; exact absurd hmu (Nat.not_lt_zero _)
                                  | succ j9 ih_lc =>
                                    intro kk S7 hmu hkk hF7 h729 h725 h726 h727
                                    refine w_iload dX8_rounds_358 rfl ?_
                                    refine w_iload dX8_rounds_360 rfl ?_
                                    refine w_icmpN_gt dX8_rounds_362 rfl (by omega) (by omega) (fun h_362 => ?_) (fun h_362 => ?_)
                                    · obtain rfl : kk = L + 1 := by omega
                                      have hb9 : bet bb (rdW V (va_up row L d) (L + 1)) (L + 1) (va_up row L d) = (rdW V (va_up row L d) (L + 1) + 1, L + 1, fun i => if i < L + 1 then (va_up row L d) i else 0) := bet_t (by rw [eW]; exact hbt)
                                      have hEB : EncR9 (sA S7 25 (L + 1) (-1)) (va_up row L d) (va_up wh L (rdT V f (rdC V f row L) (rdM V f wh L) d)) (L + 1) 0 (rdW V (va_up row L d) (L + 1) + 1, L + 1, fun i => if i < L + 1 then (va_up row L d) i else 0) := EncR9.up hE4 h725 h726 h729 (fun i hi => by
                                        show mA S7 27 i = nI (if i < L + 1 then (va_up row L d) i else 0)
                                        have hi2 : i < L + 1 := hi
                                        rw [if_pos hi2]
                                        exact h727 i hi)
                                      have hBB : OkB9 (rdW V (va_up row L d) (L + 1) + 1, L + 1, fun i => if i < L + 1 then (va_up row L d) i else 0) := ⟨Nat.succ_pos _, by show rdW V (va_up row L d) (L + 1) + 1 ≤ 8000; rw [eW]; omega, hL8⟩
                                      have hFB : FrN S (sA S7 25 (L + 1) (-1)) := hF7.A (by omega)
                                      refine w_iinc dX8_rounds_385 rfl (nI_inc _ 1) rfl (Nat.le_of_ble_eq_true rfl) ls_12_7 ?_
                                      refine w_aload_n dX8_rounds_388 rfl ?_
                                      refine mg_row dX8_rounds_389 rfl ?_
                                      refine w_iload dX8_rounds_392 rfl ?_
                                      refine w_iconst (v := (-1)) dX8_rounds_394 ki_m1 ?_
                                      refine ms_row dX8_rounds_395 (by omega) ?_
                                      refine w_goto dX8_rounds_396 rfl ?_
                                      refine w_iload dX8_rounds_29 rfl ?_
                                      refine w_ifN_lt dX8_rounds_31 rfl (by omega) (fun h_31 => ?_) (fun h_31 => ?_)
                                      · exact absurd h_31 (by omega)
                                      · refine w_aload_n dX8_rounds_34 rfl ?_
                                        refine mg_row dX8_rounds_35 rfl ?_
                                        refine w_iload dX8_rounds_38 rfl ?_
                                        refine ma_row dX8_rounds_40 (by omega) ?_
                                        refine w_top (y := .int (-1)) (congrArg Value.int (upd_eq (a := mA S7 25) (i := L + 1) (x := (-1 : Int32)))) ?_
                                        refine w_iconst (v := (-1)) dX8_rounds_41 ki_m1 ?_
                                        refine w_icmp_eq dX8_rounds_42 rfl (fun h_42 => ?_) (fun h_42 => ?_)
                                        · refine w_L (wkS (wkS (wkS (wkS (wkS (wkS (wkS (wkS (wkN (wkN (wkN (wkN wk0)))))))))))) ?_
                                          exact w_as (ih_lp (L + 1) (va_up row L d) (va_up wh L (rdT V f (rdC V f row L) (rdM V f wh L) d)) 0 (bet bb (rdW V (va_up row L d) (L + 1)) (L + 1) (va_up row L d)) _ (Nat.lt_of_lt_of_le (rdMu_push (by omega) (by omega) (by omega)) (Nat.le_of_lt_succ hmu84)) (by omega) (by omega) hup.1 hwh2 (by rw [hb9]; exact hEB) (by rw [hb9]; exact hBB) hFB (by rw [← hR, cont_push (by omega) hd1 h_164 h_273 hno hok])) (by rw [hb9, eW, eU] <;> rfl) rfl rfl
                                        · exact absurd rfl h_42
                                    · refine w_aload_n dX8_rounds_365 rfl ?_
                                      refine mg_bestRow dX8_rounds_366 rfl ?_
                                      refine w_iload dX8_rounds_369 rfl ?_
                                      refine w_aload_n dX8_rounds_371 rfl ?_
                                      refine mg_row dX8_rounds_372 rfl ?_
                                      refine w_iload dX8_rounds_375 rfl ?_
                                      refine ma_row dX8_rounds_377 (by omega) ?_
                                      refine w_topN (n := (va_up row L d) kk) (by rw [h725]; show upd (mA S4 25) L (nI d) kk = nI (va_up row L d kk); unfold upd va_up; split; rfl; exact hE4.1 kk (by omega)) ?_
                                      refine ms_bestRow dX8_rounds_378 (by omega) ?_
                                      refine w_iinc dX8_rounds_379 rfl (nI_inc _ 1) rfl (Nat.le_of_ble_eq_true rfl) ls_12_11 ?_
                                      refine w_goto dX8_rounds_382 rfl ?_
                                      exact ih_lc (kk + 1) _ (by omega) (by omega) (hF7.A (by omega)) h729 h725 h726 (fun i hi => by
                                        show upd (mA S7 27) kk _ i = _
                                        by_cases z : i = kk
                                        · rw [z, upd_eq]
                                        · rw [upd_ne z]; exact h727 i (by omega))
                                exact lc (L + 2) 0 _ (by omega) (by omega) (((hF4.A (by omega)).A (by omega)).I) rfl rfl rfl (fun i hi => absurd hi (Nat.not_lt_zero i))
                              · refine w_iload dX8_rounds_325 rfl ?_
                                refine w_iload dX8_rounds_327 rfl ?_
                                refine w_icmpN_ne dX8_rounds_329 rfl (by omega) (by omega) (fun h_329 => ?_) (fun h_329 => ?_)
                                · have hbf : ¬ (bb.1 < (rdW V row L) + vt V 6 d + 1 ∨ (bb.1 = (rdW V row L) + vt V 6 d + 1 ∧ L + 1 < bb.2.1)) := by omega
                                  have hb9 : bet bb (rdW V (va_up row L d) (L + 1)) (L + 1) (va_up row L d) = bb := bet_f (by rw [eW]; exact hbf)
                                  have hEB : EncR9 (sA (sA (sA S4 26 L (nI (rdT V f (rdC V f row L) (rdM V f wh L) d))) 25 L (nI d)) 25 (L + 1) (-1)) (va_up row L d) (va_up wh L (rdT V f (rdC V f row L) (rdM V f wh L) d)) (L + 1) 0 bb := EncR9.up (S2 := (sA (sA S4 26 L (nI (rdT V f (rdC V f row L) (rdM V f wh L) d))) 25 L (nI d))) hE4 rfl rfl hE4.2.2.2.1 hE4.2.2.2.2
                                  have hBB := hB
                                  have hFB : FrN S (sA (sA (sA S4 26 L (nI (rdT V f (rdC V f row L) (rdM V f wh L) d))) 25 L (nI d)) 25 (L + 1) (-1)) := ((hF4.A (by omega)).A (by omega)).A (by omega)
                                  refine w_iinc dX8_rounds_385 rfl (nI_inc _ 1) rfl (Nat.le_of_ble_eq_true rfl) ls_12_7 ?_
                                  refine w_aload_n dX8_rounds_388 rfl ?_
                                  refine mg_row dX8_rounds_389 rfl ?_
                                  refine w_iload dX8_rounds_392 rfl ?_
                                  refine w_iconst (v := (-1)) dX8_rounds_394 ki_m1 ?_
                                  refine ms_row dX8_rounds_395 (by omega) ?_
                                  refine w_goto dX8_rounds_396 rfl ?_
                                  refine w_iload dX8_rounds_29 rfl ?_
                                  refine w_ifN_lt dX8_rounds_31 rfl (by omega) (fun h_31 => ?_) (fun h_31 => ?_)
                                  · exact absurd h_31 (by omega)
                                  · refine w_aload_n dX8_rounds_34 rfl ?_
                                    refine mg_row dX8_rounds_35 rfl ?_
                                    refine w_iload dX8_rounds_38 rfl ?_
                                    refine ma_row dX8_rounds_40 (by omega) ?_
                                    refine w_top (y := .int (-1)) (congrArg Value.int (upd_eq (a := mA (sA (sA S4 26 L (nI (rdT V f (rdC V f row L) (rdM V f wh L) d))) 25 L (nI d)) 25) (i := L + 1) (x := (-1 : Int32)))) ?_
                                    refine w_iconst (v := (-1)) dX8_rounds_41 ki_m1 ?_
                                    refine w_icmp_eq dX8_rounds_42 rfl (fun h_42 => ?_) (fun h_42 => ?_)
                                    · refine w_L (wkS (wkS (wkS (wkS (wkS (wkS (wkS (wkS (wkN (wkN (wkN (wkN wk0)))))))))))) ?_
                                      exact w_as (ih_lp (L + 1) (va_up row L d) (va_up wh L (rdT V f (rdC V f row L) (rdM V f wh L) d)) 0 (bet bb (rdW V (va_up row L d) (L + 1)) (L + 1) (va_up row L d)) _ (Nat.lt_of_lt_of_le (rdMu_push (by omega) (by omega) (by omega)) (Nat.le_of_lt_succ hmu84)) (by omega) (by omega) hup.1 hwh2 (by rw [hb9]; exact hEB) (by rw [hb9]; exact hBB) hFB (by rw [← hR, cont_push (by omega) hd1 h_164 h_273 hno hok])) (by rw [hb9, eW, eU] <;> rfl) rfl rfl
                                    · exact absurd rfl h_42
                                · refine w_iload dX8_rounds_332 rfl ?_
                                  refine w_iconst (v := nI 1) dX8_rounds_334 ki_1 ?_
                                  refine w_iaddN dX8_rounds_335 ?_
                                  refine w_aload_n dX8_rounds_336 rfl ?_
                                  refine mg_bestMany dX8_rounds_337 rfl ?_
                                  refine w_topN (n := bb.2.1) (show mI S4 29 = nI bb.2.1 from hE4.2.2.2.1) ?_
                                  refine w_icmpN_ge dX8_rounds_340 rfl (by omega) (by omega) (fun h_340 => ?_) (fun h_340 => ?_)
                                  · have hbf : ¬ (bb.1 < (rdW V row L) + vt V 6 d + 1 ∨ (bb.1 = (rdW V row L) + vt V 6 d + 1 ∧ L + 1 < bb.2.1)) := by omega
                                    have hb9 : bet bb (rdW V (va_up row L d) (L + 1)) (L + 1) (va_up row L d) = bb := bet_f (by rw [eW]; exact hbf)
                                    have hEB : EncR9 (sA (sA (sA S4 26 L (nI (rdT V f (rdC V f row L) (rdM V f wh L) d))) 25 L (nI d)) 25 (L + 1) (-1)) (va_up row L d) (va_up wh L (rdT V f (rdC V f row L) (rdM V f wh L) d)) (L + 1) 0 bb := EncR9.up (S2 := (sA (sA S4 26 L (nI (rdT V f (rdC V f row L) (rdM V f wh L) d))) 25 L (nI d))) hE4 rfl rfl hE4.2.2.2.1 hE4.2.2.2.2
                                    have hBB := hB
                                    have hFB : FrN S (sA (sA (sA S4 26 L (nI (rdT V f (rdC V f row L) (rdM V f wh L) d))) 25 L (nI d)) 25 (L + 1) (-1)) := ((hF4.A (by omega)).A (by omega)).A (by omega)
                                    refine w_iinc dX8_rounds_385 rfl (nI_inc _ 1) rfl (Nat.le_of_ble_eq_true rfl) ls_12_7 ?_
                                    refine w_aload_n dX8_rounds_388 rfl ?_
                                    refine mg_row dX8_rounds_389 rfl ?_
                                    refine w_iload dX8_rounds_392 rfl ?_
                                    refine w_iconst (v := (-1)) dX8_rounds_394 ki_m1 ?_
                                    refine ms_row dX8_rounds_395 (by omega) ?_
                                    refine w_goto dX8_rounds_396 rfl ?_
                                    refine w_iload dX8_rounds_29 rfl ?_
                                    refine w_ifN_lt dX8_rounds_31 rfl (by omega) (fun h_31 => ?_) (fun h_31 => ?_)
                                    · exact absurd h_31 (by omega)
                                    · refine w_aload_n dX8_rounds_34 rfl ?_
                                      refine mg_row dX8_rounds_35 rfl ?_
                                      refine w_iload dX8_rounds_38 rfl ?_
                                      refine ma_row dX8_rounds_40 (by omega) ?_
                                      refine w_top (y := .int (-1)) (congrArg Value.int (upd_eq (a := mA (sA (sA S4 26 L (nI (rdT V f (rdC V f row L) (rdM V f wh L) d))) 25 L (nI d)) 25) (i := L + 1) (x := (-1 : Int32)))) ?_
                                      refine w_iconst (v := (-1)) dX8_rounds_41 ki_m1 ?_
                                      refine w_icmp_eq dX8_rounds_42 rfl (fun h_42 => ?_) (fun h_42 => ?_)
                                      · refine w_L (wkS (wkS (wkS (wkS (wkS (wkS (wkS (wkS (wkN (wkN (wkN (wkN wk0)))))))))))) ?_
                                        exact w_as (ih_lp (L + 1) (va_up row L d) (va_up wh L (rdT V f (rdC V f row L) (rdM V f wh L) d)) 0 (bet bb (rdW V (va_up row L d) (L + 1)) (L + 1) (va_up row L d)) _ (Nat.lt_of_lt_of_le (rdMu_push (by omega) (by omega) (by omega)) (Nat.le_of_lt_succ hmu84)) (by omega) (by omega) hup.1 hwh2 (by rw [hb9]; exact hEB) (by rw [hb9]; exact hBB) hFB (by rw [← hR, cont_push (by omega) hd1 h_164 h_273 hno hok])) (by rw [hb9, eW, eU] <;> rfl) rfl rfl
                                      · exact absurd rfl h_42
                                  · have hbt : bb.1 < (rdW V row L) + vt V 6 d + 1 ∨ (bb.1 = (rdW V row L) + vt V 6 d + 1 ∧ L + 1 < bb.2.1) := Or.inr ⟨by omega, by omega⟩
                                    refine w_iload dX8_rounds_343 rfl ?_
                                    refine w_istore dX8_rounds_345 rfl (Nat.le_of_ble_eq_true rfl) ls_12_4 ?_
                                    refine w_aload_n dX8_rounds_347 rfl ?_
                                    refine w_iload dX8_rounds_348 rfl ?_
                                    refine w_iconst (v := nI 1) dX8_rounds_350 ki_1 ?_
                                    refine w_iaddN dX8_rounds_351 ?_
                                    refine mp_bestMany dX8_rounds_352 rfl ?_
                                    refine w_iconst (v := nI 0) dX8_rounds_355 ki_0 ?_
                                    refine w_istore dX8_rounds_356 rfl (Nat.le_of_ble_eq_true rfl) ls_12_11 ?_
                                    have lc : ∀ (j9 : Nat) (kk : Nat) (S7 : MS), L + 1 - kk < j9 → kk ≤ L + 1 → FrN S S7 → mI S7 29 = nI (L + 1) → mA S7 25 = upd (mA S4 25) L (nI d) → mA S7 26 = upd (mA S4 26) L (nI (rdT V f (rdC V f row L) (rdM V f wh L) d)) → (∀ i, i < kk → mA S7 27 i = nI ((va_up row L d) i)) → Wp g (mtP g miX8_rounds 4 σ b (some (.int (nI ((rdB V f tide).1 - 1)))) (fun S2 => FrN S S2 ∧ OkB9 (rdB V f tide) ∧ mI S2 29 = nI (rdB V f tide).2.1 ∧ ∀ i, i < (rdB V f tide).2.1 → mA S2 27 i = nI ((rdB V f tide).2.2 i))) 0 0 358 [some (.ref b), some (.int (nI f)), some (.int (nI tide)), some (.int (nI (10 + 5 * f))), some (.int (nI ((rdW V row L) + vt V 6 d))), some (.int (nI ((rdW V row L) + vt V 6 d))), some (.int (nI ((rdU row L) ||| 2 ^ d))), some (.int (nI L)), some (.int (nI d)), some (.int (nI (rdC V f row L))), some (.int (nI (rdM V f wh L))), some (.int (nI kk))] [] (sM g σ b (S7)) := by
                                      intro j9
                                      induction j9 with
                                      | zero => intro kk S7 hmu hkk hF7 h729 h725 h726 h727; exact absurd hmu (Nat.not_lt_zero _)
                                      | succ j9 ih_lc =>
                                        intro kk S7 hmu hkk hF7 h729 h725 h726 h727
                                        refine w_iload dX8_rounds_358 rfl ?_
                                        refine w_iload dX8_rounds_360 rfl ?_
                                        refine w_icmpN_gt dX8_rounds_362 rfl (by omega) (by omega) (fun h_362 => ?_) (fun h_362 => ?_)
                                        · obtain rfl : kk = L + 1 := by omega
                                          have hb9 : bet bb (rdW V (va_up row L d) (L + 1)) (L + 1) (va_up row L d) = (rdW V (va_up row L d) (L + 1) + 1, L + 1, fun i => if i < L + 1 then (va_up row L d) i else 0) := bet_t (by rw [eW]; exact hbt)
                                          have hEB : EncR9 (sA S7 25 (L + 1) (-1)) (va_up row L d) (va_up wh L (rdT V f (rdC V f row L) (rdM V f wh L) d)) (L + 1) 0 (rdW V (va_up row L d) (L + 1) + 1, L + 1, fun i => if i < L + 1 then (va_up row L d) i else 0) := EncR9.up hE4 h725 h726 h729 (fun i hi => by
                                            show mA S7 27 i = nI (if i < L + 1 then (va_up row L d) i else 0)
                                            have hi2 : i < L + 1 := hi
                                            rw [if_pos hi2]
                                            exact h727 i hi)
                                          have hBB : OkB9 (rdW V (va_up row L d) (L + 1) + 1, L + 1, fun i => if i < L + 1 then (va_up row L d) i else 0) := ⟨Nat.succ_pos _, by show rdW V (va_up row L d) (L + 1) + 1 ≤ 8000; rw [eW]; omega, hL8⟩
                                          have hFB : FrN S (sA S7 25 (L + 1) (-1)) := hF7.A (by omega)
                                          refine w_iinc dX8_rounds_385 rfl (nI_inc _ 1) rfl (Nat.le_of_ble_eq_true rfl) ls_12_7 ?_
                                          refine w_aload_n dX8_rounds_388 rfl ?_
                                          refine mg_row dX8_rounds_389 rfl ?_
                                          refine w_iload dX8_rounds_392 rfl ?_
                                          refine w_iconst (v := (-1)) dX8_rounds_394 ki_m1 ?_
                                          refine ms_row dX8_rounds_395 (by omega) ?_
                                          refine w_goto dX8_rounds_396 rfl ?_
                                          refine w_iload dX8_rounds_29 rfl ?_
                                          refine w_ifN_lt dX8_rounds_31 rfl (by omega) (fun h_31 => ?_) (fun h_31 => ?_)
                                          · exact absurd h_31 (by omega)
                                          · refine w_aload_n dX8_rounds_34 rfl ?_
                                            refine mg_row dX8_rounds_35 rfl ?_
                                            refine w_iload dX8_rounds_38 rfl ?_
                                            refine ma_row dX8_rounds_40 (by omega) ?_
                                            refine w_top (y := .int (-1)) (congrArg Value.int (upd_eq (a := mA S7 25) (i := L + 1) (x := (-1 : Int32)))) ?_
                                            refine w_iconst (v := (-1)) dX8_rounds_41 ki_m1 ?_
                                            refine w_icmp_eq dX8_rounds_42 rfl (fun h_42 => ?_) (fun h_42 => ?_)
                                            · refine w_L (wkS (wkS (wkS (wkS (wkS (wkS (wkS (wkS (wkN (wkN (wkN (wkN wk0)))))))))))) ?_
                                              exact w_as (ih_lp (L + 1) (va_up row L d) (va_up wh L (rdT V f (rdC V f row L) (rdM V f wh L) d)) 0 (bet bb (rdW V (va_up row L d) (L + 1)) (L + 1) (va_up row L d)) _ (Nat.lt_of_lt_of_le (rdMu_push (by omega) (by omega) (by omega)) (Nat.le_of_lt_succ hmu84)) (by omega) (by omega) hup.1 hwh2 (by rw [hb9]; exact hEB) (by rw [hb9]; exact hBB) hFB (by rw [← hR, cont_push (by omega) hd1 h_164 h_273 hno hok])) (by rw [hb9, eW, eU] <;> rfl) rfl rfl
                                            · exact absurd rfl h_42
                                        · refine w_aload_n dX8_rounds_365 rfl ?_
                                          refine mg_bestRow dX8_rounds_366 rfl ?_
                                          refine w_iload dX8_rounds_369 rfl ?_
                                          refine w_aload_n dX8_rounds_371 rfl ?_
                                          refine mg_row dX8_rounds_372 rfl ?_
                                          refine w_iload dX8_rounds_375 rfl ?_
                                          refine ma_row dX8_rounds_377 (by omega) ?_
                                          refine w_topN (n := (va_up row L d) kk) (by rw [h725]; show upd (mA S4 25) L (nI d) kk = nI (va_up row L d kk); unfold upd va_up; split; rfl; exact hE4.1 kk (by omega)) ?_
                                          refine ms_bestRow dX8_rounds_378 (by omega) ?_
                                          refine w_iinc dX8_rounds_379 rfl (nI_inc _ 1) rfl (Nat.le_of_ble_eq_true rfl) ls_12_11 ?_
                                          refine w_goto dX8_rounds_382 rfl ?_
                                          exact ih_lc (kk + 1) _ (by omega) (by omega) (hF7.A (by omega)) h729 h725 h726 (fun i hi => by
                                            show upd (mA S7 27) kk _ i = _
                                            by_cases z : i = kk
                                            · rw [z, upd_eq]
                                            · rw [upd_ne z]; exact h727 i (by omega))
                                    exact lc (L + 2) 0 _ (by omega) (by omega) (((hF4.A (by omega)).A (by omega)).I) rfl rfl rfl (fun i hi => absurd hi (Nat.not_lt_zero i))
                            · have hend : L = vt V 2 f ∨ ∀ i, k ≤ i → i < vs V 2 → ¬ rdOk V f tide (rdC V f row L) (rdM V f wh L) (rdU row L) i := Or.inl h_273
                              obtain ⟨SXp, hSXp⟩ : ∃ SXp, (sA S4 26 L (nI (rdT V f (rdC V f row L) (rdM V f wh L) d))) = SXp := ⟨_, rfl⟩
                              rw [hSXp]
                              have hEX : EncR9 SXp row wh L k bb := by rw [← hSXp]; exact hE4.w _
                              have hFX : FrN S SXp := by rw [← hSXp]; exact hF4.A (by omega)
                              have EX : Enc SXp V := hFX.E E
                              refine w_iinc dX8_rounds_276 rfl (nI_m1 _) rfl (Nat.le_of_ble_eq_true rfl) ls_12_7 ?_
                              by_cases hL0 : L = 0
                              · subst hL0
                                rw [show nI 0 - nI 1 = (-1 : Int32) by decide]
                                have hRe : R = bb := by
                                  rw [← hR]
                                  exact lvl_end hk hend
                                refine w_goto dX8_rounds_279 rfl ?_
                                refine w_iload dX8_rounds_29 rfl ?_
                                refine w_if_lt dX8_rounds_31 rfl (fun h_31 => ?_) (fun h_31 => ?_)
                                · refine w_iload dX8_rounds_399 rfl ?_
                                  exact w_iret dX8_rounds_401 rfl ⟨by rw [hRd, hRe], _, by exact ⟨hFX, by rw [hRd, hRe]; exact hB, by rw [hRd, hRe]; exact hEX.2.2.2.1, by rw [hRd, hRe]; exact hEX.2.2.2.2⟩, rfl⟩
                                · exact absurd (show (-1 : Int32) < 0 by decide) h_31
                              · obtain ⟨L9, rfl⟩ : ∃ L9, L = L9 + 1 := ⟨L - 1, by omega⟩
                                rw [nI_dn]
                                have hr9 := (hO.1 L9 (by omega)).1
                                have hU9 : rdU row L9 < 256 := (hO.dn kb8).2.1
                                have hw1 : rdW V row (L9 + 1) = rdW V row L9 + vt V 6 (row L9) := rfl
                                have hd9 := K.d hr9
                                refine w_goto dX8_rounds_279 rfl ?_
                                refine w_iload dX8_rounds_29 rfl ?_
                                refine w_ifN_lt dX8_rounds_31 rfl (by omega) (fun h_31 => ?_) (fun h_31 => ?_)
                                · exact absurd h_31 (by omega)
                                · refine w_aload_n dX8_rounds_34 rfl ?_
                                  refine mg_row dX8_rounds_35 rfl ?_
                                  refine w_iload dX8_rounds_38 rfl ?_
                                  refine ma_row dX8_rounds_40 (by omega) ?_
                                  refine w_topN (n := row L9) (hEX.1 L9 (by omega)) ?_
                                  refine w_iconst (v := (-1)) dX8_rounds_41 ki_m1 ?_
                                  refine w_icmp_eq dX8_rounds_42 rfl (fun h_42 => ?_) (fun h_42 => ?_)
                                  · exact absurd h_42 (nI_nm1 (by omega))
                                  · refine w_iload dX8_rounds_45 rfl ?_
                                    refine w_iconst (v := nI 1) dX8_rounds_47 ki_1 ?_
                                    refine w_aload_n dX8_rounds_48 rfl ?_
                                    refine mg_row dX8_rounds_49 rfl ?_
                                    refine w_iload dX8_rounds_52 rfl ?_
                                    refine ma_row dX8_rounds_54 (by omega) ?_
                                    refine w_topN (n := row L9) (hEX.1 L9 (by omega)) ?_
                                    refine w_shl1N dX8_rounds_55 (by omega) ?_
                                    refine w_iconst (v := (-1)) dX8_rounds_56 ki_m1 ?_
                                    refine w_ixor dX8_rounds_57 ?_
                                    refine w_iand dX8_rounds_58 ?_
                                    rw [show nI (rdU row (L9 + 1)) &&& (nI (2 ^ row L9) ^^^ (-1)) = nI (rdU row L9) from bit_off _ hU9 _ (by omega) (hO.1 L9 (by omega)).2]
                                    refine w_istore dX8_rounds_59 rfl (Nat.le_of_ble_eq_true rfl) ls_12_6 ?_
                                    refine w_iload dX8_rounds_61 rfl ?_
                                    refine w_aload_n dX8_rounds_63 rfl ?_
                                    refine mg_at dX8_rounds_64 rfl ?_
                                    refine w_iconst (v := nI 0) dX8_rounds_67 ki_0 ?_
                                    refine w_aload_n dX8_rounds_68 rfl ?_
                                    refine mg_row dX8_rounds_69 rfl ?_
                                    refine w_iload dX8_rounds_72 rfl ?_
                                    refine ma_row dX8_rounds_74 (by omega) ?_
                                    refine w_topN (n := row L9) (hEX.1 L9 (by omega)) ?_
                                    refine s_calli2 (mi := miX8_findRow) dX8_rounds_75 q1813 okX8_findRow (Nat.le_of_ble_eq_true rfl) c_findRow (Nat.le_of_ble_eq_true rfl) ?_
                                    refine w_iconst (v := nI 1) dX8_rounds_78 ki_1 ?_
                                    refine w_iaddN dX8_rounds_79 ?_
                                    refine ma_at dX8_rounds_80 (by omega) ?_
                                    refine w_topN (n := vt V 6 (row L9)) ((congrArg (mA SXp 0) (by omega)).trans (EX.d 1 (by omega) (by omega))) ?_
                                    refine w_isubN dX8_rounds_81 (by omega) ?_
                                    rw [show rdW V row (L9 + 1) - vt V 6 (row L9) = rdW V row L9 by omega]
                                    refine w_istore dX8_rounds_82 rfl (Nat.le_of_ble_eq_true rfl) ls_12_5 ?_
                                    refine w_L (wkS (wkS (wkS (wkS (wkS (wkS (wkS (wkS (wkN (wkN (wkN (wkN wk0)))))))))))) ?_
                                    exact ih_lp L9 row wh (row L9 + 1) bb SXp (Nat.lt_of_lt_of_le (rdMu_pop (by omega)) (Nat.le_of_lt_succ hmu84)) (by omega) (by have := (hO.1 L9 (by omega)).1; omega) (hO.dn kb8) (fun i hi => hw6 i (by omega)) hEX.dn hB hFX (by rw [← hR]; show _ = cont V f tide row wh L9 (row L9 + 1) (lvl V f tide row wh (L9 + 1) k bb); rw [lvl_end hk hend])
              exact li (vs V 2 + 1) k S3 (by omega) (Nat.le_refl _) hk (fun i h1 h2 => absurd h1 (by omega)) hF hE
      refine w_L (wkS (wkS (wkS (wkS (wkS (wkS (wkS (wkS (wkN (wkN (wkN (wkN wk0)))))))))))) ?_
      exact lp (rdMu (fun _ => 0) 0 0 + 1) 0 (fun _ => 0) (fun _ => 0) 0 (1, 0, fun _ => 0) _ (Nat.lt_succ_self _) (by omega) (by omega) ⟨fun i hi => absurd hi (Nat.not_lt_zero i), (show 0 < 256 by decide), (show pc8 0 = 0 by decide)⟩ (fun i hi => absurd hi (Nat.not_lt_zero i)) ⟨fun i hi => absurd hi (Nat.not_lt_zero i), (upd_eq (a := mA S 25) (i := 0) (x := (-1 : Int32))).trans (by decide), fun i hi => absurd hi (Nat.not_lt_zero i), rfl, fun i hi => absurd hi (Nat.not_lt_zero i)⟩ ⟨Nat.succ_pos 0, (show 1 ≤ 8000 by decide), Nat.zero_le 8⟩ ((FrN.refl S).I.A (by omega)) hRd
    · exact absurd rfl h_42
