set_option maxRecDepth 100000
set_option maxHeartbeats 4000000 in
theorem c_ahead {g : GG} {S : MS} {X : TX} {e : Nat} (hT : TxS S X) (he : mI S 14 = nI e) (he9 : e ≤ X.2) : Mp g miX8_ahead 2 [] (S) (none) (fun S2 => FrK S S2 ∧ TkS S2 (tok X e)) := by
  refine Mp.start (fun b => [some (.ref b), none]) plX8 rfl (fun b => (Nat.le_of_ble_eq_true rfl)) (fun b => rfl) ?_
  intro σ b
  have hX9 := hT.2.1
  have lp : ∀ (j9 : Nat) (k : Nat) (S3 : MS), X.2 - k < j9 → k ≤ X.2 → scn X isSp k = scn X isSp e → FrK S S3 → mI S3 14 = nI k → Wp g (mtP g miX8_ahead 2 σ b (none) (fun S2 => FrK S S2 ∧ TkS S2 (tok X e))) 0 0 0 [some (.ref b), none] [] (sM g σ b (S3)) := by
    intro j9
    induction j9 with
    | zero => intro k S3 hmu hk hq hF h14; exact absurd hmu (Nat.not_lt_zero _)
    | succ j9 ih_lp =>
      intro k S3 hmu hk hq hF h14
      have hT3 := hT.fr hF
      refine w_aload_n dX8_ahead_0 rfl ?_
      refine w_aload_n dX8_ahead_1 rfl ?_
      refine mg_end dX8_ahead_2 rfl ?_
      refine w_topN (n := k) h14 ?_
      refine m_calli1 (mi := miX8_byteAt) dX8_ahead_5 q1734 okX8_byteAt rfl (Nat.le_of_ble_eq_true rfl) (c_byteX (k := k) hT3 (by omega)) (Nat.le_of_ble_eq_true rfl) ?_
      refine w_bipush (v := nI 32) dX8_ahead_8 kb_32 ?_
      refine w_icmp_eq dX8_ahead_10 rfl (fun h_10 => ?_) (fun h_10 => ?_)
      · have hc := (cI_eq hT3 (by omega)).mp h_10
        have hs := scn_t (p := isSp) hc.1 (by rw [hc.2]; rfl)
        refine w_aload_n dX8_ahead_26 rfl ?_
        refine w_dup dX8_ahead_27 rfl ?_
        refine mg_end dX8_ahead_28 rfl ?_
        refine w_topN (n := k) h14 ?_
        refine w_iconst (v := nI 1) dX8_ahead_31 ki_1 ?_
        refine w_iaddN dX8_ahead_32 ?_
        refine mp_end dX8_ahead_33 rfl ?_
        refine w_goto dX8_ahead_36 rfl ?_
        exact ih_lp (k + 1) _ (by omega) (by omega) (hs.symm.trans hq) (hF.put (by omega) (by omega)) rfl
      · refine w_aload_n dX8_ahead_13 rfl ?_
        refine w_aload_n dX8_ahead_14 rfl ?_
        refine mg_end dX8_ahead_15 rfl ?_
        refine w_topN (n := k) h14 ?_
        refine m_calli1 (mi := miX8_byteAt) dX8_ahead_18 q1734 okX8_byteAt rfl (Nat.le_of_ble_eq_true rfl) (c_byteX (k := k) hT3 (by omega)) (Nat.le_of_ble_eq_true rfl) ?_
        refine w_bipush (v := nI 10) dX8_ahead_21 kb_10 ?_
        refine w_icmp_ne dX8_ahead_23 rfl (fun h_23 => ?_) (fun h_23 => ?_)
        · have hst : ¬ (k < X.2 ∧ isSp (X.1 k) = true) := fun z => by
            have z2 := z.2
            simp only [isSp, Bool.or_eq_true, beq_iff_eq] at z2
            rcases z2 with z2 | z2
            · exact h_10 ((cI_eq hT3 (by omega)).mpr ⟨z.1, z2⟩)
            · exact h_23 ((cI_eq hT3 (by omega)).mpr ⟨z.1, z2⟩)
          have hak : scn X isSp e = k := hq.symm.trans (scn_f hst)
          refine w_aload_n dX8_ahead_39 rfl ?_
          refine w_aload_n dX8_ahead_40 rfl ?_
          refine mg_end dX8_ahead_41 rfl ?_
          refine w_topN (n := k) h14 ?_
          refine mp_from dX8_ahead_44 rfl ?_
          refine w_aload_n dX8_ahead_47 rfl ?_
          refine w_aload_n dX8_ahead_48 rfl ?_
          refine mg_end dX8_ahead_49 rfl ?_
          refine w_topN (n := k) h14 ?_
          refine m_calli1 (mi := miX8_byteAt) dX8_ahead_52 q1734 okX8_byteAt rfl (Nat.le_of_ble_eq_true rfl) (c_byteX (k := k) hT3 (by omega)) (Nat.le_of_ble_eq_true rfl) ?_
          refine w_istore_n dX8_ahead_55 rfl (Nat.le_of_ble_eq_true rfl) ls_2_1 ?_
          refine w_aload_n dX8_ahead_56 rfl ?_
          refine w_iload_n dX8_ahead_57 rfl ?_
          refine mp_value dX8_ahead_58 rfl ?_
          refine w_iload_n dX8_ahead_61 rfl ?_
          refine w_iconst (v := (-1)) dX8_ahead_62 ki_m1 ?_
          refine w_icmp_ne dX8_ahead_63 rfl (fun h_63 => ?_) (fun h_63 => ?_)
          · have hkX : k < X.2 := by
              rcases Nat.lt_or_ge k X.2 with z | z
              · exact z
              · exact absurd (cI_out (by omega)) h_63
            refine w_iload_n dX8_ahead_74 rfl ?_
            refine s_calli1 (mi := miX8_isSmall) dX8_ahead_75 q1738 okX8_isSmall (Nat.le_of_ble_eq_true rfl) (c_isSmallX (k := k) hT3) (Nat.le_of_ble_eq_true rfl) ?_
            refine w_ifB_eq dX8_ahead_78 rfl (fun h_78 => ?_) (fun h_78 => ?_)
            · refine w_iload_n dX8_ahead_116 rfl ?_
              refine s_calli1 (mi := miX8_isDigit) dX8_ahead_117 q1741 okX8_isDigit (Nat.le_of_ble_eq_true rfl) (c_isDigitX (k := k) hT3) (Nat.le_of_ble_eq_true rfl) ?_
              refine w_ifB_eq dX8_ahead_120 rfl (fun h_120 => ?_) (fun h_120 => ?_)
              · refine w_aload_n dX8_ahead_208 rfl ?_
                refine w_dup dX8_ahead_209 rfl ?_
                refine mg_end dX8_ahead_210 rfl ?_
                refine w_topN (n := k) h14 ?_
                refine w_iconst (v := nI 1) dX8_ahead_213 ki_1 ?_
                refine w_iaddN dX8_ahead_214 ?_
                refine mp_end dX8_ahead_215 rfl ?_
                refine w_aload_n dX8_ahead_218 rfl ?_
                refine w_iload_n dX8_ahead_219 rfl ?_
                refine w_bipush (v := nI 59) dX8_ahead_220 kb_59 ?_
                refine w_icmp_eq dX8_ahead_222 rfl (fun h_222 => ?_) (fun h_222 => ?_)
                · refine w_iconst (v := nI 4) dX8_ahead_243 ki_4 ?_
                  refine w_goto dX8_ahead_244 rfl ?_
                  refine mp_token dX8_ahead_248 rfl ?_
                  exact w_vret dX8_ahead_251 rfl ⟨by rfl, _, by exact ⟨(((((hF.put (v := nI k) (i := 13) (by omega) (by omega)).put (v := cI X k) (i := 15) (by omega) (by omega))).put (v := nI (k + 1)) (i := 14) (by omega) (by omega)).put (by omega) (by omega)), by rw [tok_sig hak hkX (fun z => h_78 ⟨hkX, z⟩) (fun z => h_120 ⟨hkX, z⟩) (by rw [((cI_eq hT3 (c := 59) (by omega)).mp h_222).2]; rfl)]; exact ⟨rfl, rfl, rfl, fun _ => cI_in hkX⟩⟩, rfl⟩
                · refine w_iload_n dX8_ahead_225 rfl ?_
                  refine w_bipush (v := nI 60) dX8_ahead_226 kb_60 ?_
                  refine w_icmp_eq dX8_ahead_228 rfl (fun h_228 => ?_) (fun h_228 => ?_)
                  · refine w_iconst (v := nI 4) dX8_ahead_243 ki_4 ?_
                    refine w_goto dX8_ahead_244 rfl ?_
                    refine mp_token dX8_ahead_248 rfl ?_
                    exact w_vret dX8_ahead_251 rfl ⟨by rfl, _, by exact ⟨(((((hF.put (v := nI k) (i := 13) (by omega) (by omega)).put (v := cI X k) (i := 15) (by omega) (by omega))).put (v := nI (k + 1)) (i := 14) (by omega) (by omega)).put (by omega) (by omega)), by rw [tok_sig hak hkX (fun z => h_78 ⟨hkX, z⟩) (fun z => h_120 ⟨hkX, z⟩) (by rw [((cI_eq hT3 (c := 60) (by omega)).mp h_228).2]; rfl)]; exact ⟨rfl, rfl, rfl, fun _ => cI_in hkX⟩⟩, rfl⟩
                  · refine w_iload_n dX8_ahead_231 rfl ?_
                    refine w_bipush (v := nI 62) dX8_ahead_232 kb_62 ?_
                    refine w_icmp_eq dX8_ahead_234 rfl (fun h_234 => ?_) (fun h_234 => ?_)
                    · refine w_iconst (v := nI 4) dX8_ahead_243 ki_4 ?_
                      refine w_goto dX8_ahead_244 rfl ?_
                      refine mp_token dX8_ahead_248 rfl ?_
                      exact w_vret dX8_ahead_251 rfl ⟨by rfl, _, by exact ⟨(((((hF.put (v := nI k) (i := 13) (by omega) (by omega)).put (v := cI X k) (i := 15) (by omega) (by omega))).put (v := nI (k + 1)) (i := 14) (by omega) (by omega)).put (by omega) (by omega)), by rw [tok_sig hak hkX (fun z => h_78 ⟨hkX, z⟩) (fun z => h_120 ⟨hkX, z⟩) (by rw [((cI_eq hT3 (c := 62) (by omega)).mp h_234).2]; rfl)]; exact ⟨rfl, rfl, rfl, fun _ => cI_in hkX⟩⟩, rfl⟩
                    · refine w_iload_n dX8_ahead_237 rfl ?_
                      refine w_bipush (v := nI 61) dX8_ahead_238 kb_61 ?_
                      refine w_icmp_ne dX8_ahead_240 rfl (fun h_240 => ?_) (fun h_240 => ?_)
                      · have hno4 : ¬ isSg (X.1 k) = true := fun z => by
                          simp only [isSg, Bool.or_eq_true, beq_iff_eq] at z
                          rcases z with ((z | z) | z) | z
                          · exact h_222 ((cI_eq hT3 (by omega)).mpr ⟨hkX, z⟩)
                          · exact h_228 ((cI_eq hT3 (by omega)).mpr ⟨hkX, z⟩)
                          · exact h_234 ((cI_eq hT3 (by omega)).mpr ⟨hkX, z⟩)
                          · exact h_240 ((cI_eq hT3 (by omega)).mpr ⟨hkX, z⟩)
                        refine w_iconst (v := nI 1) dX8_ahead_247 ki_1 ?_
                        refine mp_token dX8_ahead_248 rfl ?_
                        exact w_vret dX8_ahead_251 rfl ⟨by rfl, _, by exact ⟨(((((hF.put (v := nI k) (i := 13) (by omega) (by omega)).put (v := cI X k) (i := 15) (by omega) (by omega))).put (v := nI (k + 1)) (i := 14) (by omega) (by omega)).put (by omega) (by omega)), by rw [tok_odd hak hkX (fun z => h_78 ⟨hkX, z⟩) (fun z => h_120 ⟨hkX, z⟩) hno4]; exact ⟨rfl, rfl, rfl, (fun z => absurd z (show ¬ ((1 : Nat) = 3 ∨ (1 : Nat) = 4) by decide))⟩⟩, rfl⟩
                      · refine w_iconst (v := nI 4) dX8_ahead_243 ki_4 ?_
                        refine w_goto dX8_ahead_244 rfl ?_
                        refine mp_token dX8_ahead_248 rfl ?_
                        exact w_vret dX8_ahead_251 rfl ⟨by rfl, _, by exact ⟨(((((hF.put (v := nI k) (i := 13) (by omega) (by omega)).put (v := cI X k) (i := 15) (by omega) (by omega))).put (v := nI (k + 1)) (i := 14) (by omega) (by omega)).put (by omega) (by omega)), by rw [tok_sig hak hkX (fun z => h_78 ⟨hkX, z⟩) (fun z => h_120 ⟨hkX, z⟩) (by rw [((cI_eq hT3 (c := 61) (by omega)).mp h_240).2]; rfl)]; exact ⟨rfl, rfl, rfl, fun _ => cI_in hkX⟩⟩, rfl⟩
              · refine w_aload_n dX8_ahead_123 rfl ?_
                refine w_iconst (v := nI 0) dX8_ahead_124 ki_0 ?_
                refine mp_value dX8_ahead_125 rfl ?_
                have hF5 : FrK S (sI (sI (sI S3 13 (nI k)) 15 (cI X k)) 15 (nI 0)) := ((hF.put (by omega) (by omega)).put (by omega) (by omega)).put (by omega) (by omega)
                have ld : ∀ (j9 : Nat) (z : Nat) (S6 : MS), X.2 - z < j9 → k ≤ z → z ≤ X.2 → scn X isDi z = scn X isDi k → FrK S S6 → mI S6 13 = nI k → mI S6 14 = nI z → (z - k ≤ 4 → mI S6 15 = nI (nv X k (z - k))) → (∀ i, i < z - k → X.1 (k + i) ≤ 57) → Wp g (mtP g miX8_ahead 2 σ b (none) (fun S2 => FrK S S2 ∧ TkS S2 (tok X e))) 0 0 128 [some (.ref b), some (.int (cI X k))] [] (sM g σ b (S6)) := by
                  intro j9
                  induction j9 with
                  | zero => intro z S6 hmu hkz hz hq6 hF6 h13 h146 hv6 hd6; exact absurd hmu (Nat.not_lt_zero _)
                  | succ j9 ih_ld =>
                    intro z S6 hmu hkz hz hq6 hF6 h13 h146 hv6 hd6
                    have hT6 := hT.fr hF6
                    refine w_aload_n dX8_ahead_128 rfl ?_
                    refine w_aload_n dX8_ahead_129 rfl ?_
                    refine mg_end dX8_ahead_130 rfl ?_
                    refine w_topN (n := z) h146 ?_
                    refine m_calli1 (mi := miX8_byteAt) dX8_ahead_133 q1734 okX8_byteAt rfl (Nat.le_of_ble_eq_true rfl) (c_byteX (k := z) hT6 (by omega)) (Nat.le_of_ble_eq_true rfl) ?_
                    refine s_calli1 (mi := miX8_isDigit) dX8_ahead_136 q1741 okX8_isDigit (Nat.le_of_ble_eq_true rfl) (c_isDigitX (k := z) hT6) (Nat.le_of_ble_eq_true rfl) ?_
                    refine w_ifB_eq dX8_ahead_139 rfl (fun h_139 => ?_) (fun h_139 => ?_)
                    · refine w_aload_n dX8_ahead_183 rfl ?_
                      refine w_aload_n dX8_ahead_184 rfl ?_
                      refine mg_end dX8_ahead_185 rfl ?_
                      refine w_topN (n := z) h146 ?_
                      refine w_aload_n dX8_ahead_188 rfl ?_
                      refine mg_from dX8_ahead_189 rfl ?_
                      refine w_topN (n := k) h13 ?_
                      refine w_isubN dX8_ahead_192 (by omega) ?_
                      refine w_iconst (v := nI 4) dX8_ahead_193 ki_4 ?_
                      refine w_icmpN_le dX8_ahead_194 rfl (by omega) (by omega) (fun h_194 => ?_) (fun h_194 => ?_)
                      · refine w_iconst (v := nI 3) dX8_ahead_201 ki_3 ?_
                        refine mp_token dX8_ahead_202 rfl ?_
                        refine w_goto dX8_ahead_205 rfl ?_
                        exact w_vret dX8_ahead_251 rfl ⟨by rfl, _, by exact ⟨hF6.put (by omega) (by omega), by rw [tok_num hak h_120.1 (fun z => h_78 ⟨h_120.1, z⟩) h_120.2 (hq6.symm.trans (scn_f h_139)) h_194]; exact ⟨rfl, h13, h146, fun _ => hv6 h_194⟩⟩, rfl⟩
                      · refine w_iconst (v := nI 1) dX8_ahead_197 ki_1 ?_
                        refine w_goto dX8_ahead_198 rfl ?_
                        refine mp_token dX8_ahead_202 rfl ?_
                        refine w_goto dX8_ahead_205 rfl ?_
                        exact w_vret dX8_ahead_251 rfl ⟨by rfl, _, by exact ⟨hF6.put (by omega) (by omega), by rw [tok_big hak h_120.1 (fun z => h_78 ⟨h_120.1, z⟩) h_120.2 (hq6.symm.trans (scn_f h_139)) (by omega)]; exact ⟨rfl, h13, h146, (fun z => absurd z (show ¬ ((1 : Nat) = 3 ∨ (1 : Nat) = 4) by decide))⟩⟩, rfl⟩
                    · refine w_aload_n dX8_ahead_142 rfl ?_
                      refine w_ldc dX8_ahead_143 q1744 ?_
                      refine w_bipush (v := nI 10) dX8_ahead_145 kb_10 ?_
                      refine w_aload_n dX8_ahead_147 rfl ?_
                      refine mg_value dX8_ahead_148 rfl ?_
                      refine w_imul dX8_ahead_151 ?_
                      refine w_aload_n dX8_ahead_152 rfl ?_
                      refine w_aload_n dX8_ahead_153 rfl ?_
                      refine mg_end dX8_ahead_154 rfl ?_
                      refine w_topN (n := z) h146 ?_
                      refine m_calli1 (mi := miX8_byteAt) dX8_ahead_157 q1734 okX8_byteAt rfl (Nat.le_of_ble_eq_true rfl) (c_byteX (k := z) hT6 (by omega)) (Nat.le_of_ble_eq_true rfl) ?_
                      refine w_iadd dX8_ahead_160 ?_
                      refine w_bipush (v := nI 48) dX8_ahead_161 kb_48 ?_
                      refine w_isub dX8_ahead_163 ?_
                      refine w_mmin dX8_ahead_164 q1745 q1279 q155 q1280 (Nat.le_of_ble_eq_true rfl) (Nat.le_of_ble_eq_true rfl) ?_
                      refine mp_value dX8_ahead_167 rfl ?_
                      refine w_aload_n dX8_ahead_170 rfl ?_
                      refine w_dup dX8_ahead_171 rfl ?_
                      refine mg_end dX8_ahead_172 rfl ?_
                      refine w_topN (n := z) h146 ?_
                      refine w_iconst (v := nI 1) dX8_ahead_175 ki_1 ?_
                      refine w_iaddN dX8_ahead_176 ?_
                      refine mp_end dX8_ahead_177 rfl ?_
                      refine w_goto dX8_ahead_180 rfl ?_
                      have hdz : 48 ≤ X.1 z ∧ X.1 z ≤ 57 := by
                        have := h_139.2
                        simpa [isDi] using this
                      refine ih_ld (z + 1) _ (by omega) (by omega) (by omega) ((scn_t h_139.1 h_139.2).symm.trans hq6) ((hF6.put (by omega) (by omega)).put (by omega) (by omega)) h13 rfl (fun hle => ?_) (fun i hi => ?_)
                      · have hv := hv6 (by omega)
                        have hlt := nv_lt (X := X) (a := k) (z - k) hd6
                        have hp : 10 ^ (z - k) ≤ 10 ^ 4 := Nat.pow_le_pow_right (by omega) (by omega)
                        show (if nI 10 * mI S6 15 + cI X z - nI 48 < 100000 then nI 10 * mI S6 15 + cI X z - nI 48 else 100000) = _
                        rw [hv, cI_in h_139.1, dig_step (by omega) hdz.1 hdz.2, show z + 1 - k = (z - k) + 1 by omega, nv, show k + (z - k) = z by omega]
                      · by_cases hi2 : i < z - k
                        · exact hd6 i hi2
                        · rw [show k + i = z by omega]; exact hdz.2
                exact ld (X.2 + 1) k _ (by omega) (Nat.le_refl _) (by omega) rfl hF5 rfl h14 (fun _ => by rw [Nat.sub_self]; rfl) (fun i hi => by omega)
            · have hF5 : FrK S (sI (sI S3 13 (nI k)) 15 (cI X k)) := (hF.put (by omega) (by omega)).put (by omega) (by omega)
              have lw : ∀ (j9 : Nat) (z : Nat) (S6 : MS), X.2 - z < j9 → k ≤ z → z ≤ X.2 → scn X isLo z = scn X isLo k → FrK S S6 → mI S6 13 = nI k → mI S6 14 = nI z → Wp g (mtP g miX8_ahead 2 σ b (none) (fun S2 => FrK S S2 ∧ TkS S2 (tok X e))) 0 0 81 [some (.ref b), some (.int (cI X k))] [] (sM g σ b (S6)) := by
                intro j9
                induction j9 with
                | zero => intro z S6 hmu hkz hz hq6 hF6 h13 h146; exact absurd hmu (Nat.not_lt_zero _)
                | succ j9 ih_lw =>
                  intro z S6 hmu hkz hz hq6 hF6 h13 h146
                  have hT6 := hT.fr hF6
                  refine w_aload_n dX8_ahead_81 rfl ?_
                  refine w_aload_n dX8_ahead_82 rfl ?_
                  refine mg_end dX8_ahead_83 rfl ?_
                  refine w_topN (n := z) h146 ?_
                  refine m_calli1 (mi := miX8_byteAt) dX8_ahead_86 q1734 okX8_byteAt rfl (Nat.le_of_ble_eq_true rfl) (c_byteX (k := z) hT6 (by omega)) (Nat.le_of_ble_eq_true rfl) ?_
                  refine s_calli1 (mi := miX8_isSmall) dX8_ahead_89 q1738 okX8_isSmall (Nat.le_of_ble_eq_true rfl) (c_isSmallX (k := z) hT6) (Nat.le_of_ble_eq_true rfl) ?_
                  refine w_ifB_eq dX8_ahead_92 rfl (fun h_92 => ?_) (fun h_92 => ?_)
                  · refine w_aload_n dX8_ahead_108 rfl ?_
                    refine w_iconst (v := nI 2) dX8_ahead_109 ki_2 ?_
                    refine mp_token dX8_ahead_110 rfl ?_
                    refine w_goto dX8_ahead_113 rfl ?_
                    exact w_vret dX8_ahead_251 rfl ⟨by rfl, _, by exact ⟨hF6.put (by omega) (by omega), by rw [tok_word hak h_78.1 h_78.2 (hq6.symm.trans (scn_f h_92))]; exact ⟨rfl, h13, h146, (fun z => absurd z (show ¬ ((2 : Nat) = 3 ∨ (2 : Nat) = 4) by decide))⟩⟩, rfl⟩
                  · refine w_aload_n dX8_ahead_95 rfl ?_
                    refine w_dup dX8_ahead_96 rfl ?_
                    refine mg_end dX8_ahead_97 rfl ?_
                    refine w_topN (n := z) h146 ?_
                    refine w_iconst (v := nI 1) dX8_ahead_100 ki_1 ?_
                    refine w_iaddN dX8_ahead_101 ?_
                    refine mp_end dX8_ahead_102 rfl ?_
                    refine w_goto dX8_ahead_105 rfl ?_
                    exact ih_lw (z + 1) _ (by omega) (by omega) (by omega) ((scn_t h_92.1 h_92.2).symm.trans hq6) (hF6.put (by omega) (by omega)) h13 rfl
              exact lw (X.2 + 1) k _ (by omega) (Nat.le_refl _) (by omega) rfl hF5 rfl h14
          · refine w_aload_n dX8_ahead_66 rfl ?_
            refine w_iconst (v := nI 0) dX8_ahead_67 ki_0 ?_
            refine mp_token dX8_ahead_68 rfl ?_
            refine w_goto dX8_ahead_71 rfl ?_
            exact w_vret dX8_ahead_251 rfl ⟨by rfl, _, by exact ⟨((hF.put (v := nI k) (i := 13) (by omega) (by omega)).put (v := cI X k) (i := 15) (by omega) (by omega)).put (by omega) (by omega), by rw [tok_end hak ((cI_m1 hT3).mp h_63)]; exact ⟨rfl, rfl, h14, (fun z => absurd z (show ¬ ((0 : Nat) = 3 ∨ (0 : Nat) = 4) by decide))⟩⟩, rfl⟩
        · have hc := (cI_eq hT3 (by omega)).mp h_23
          have hs := scn_t (p := isSp) hc.1 (by rw [hc.2]; rfl)
          refine w_aload_n dX8_ahead_26 rfl ?_
          refine w_dup dX8_ahead_27 rfl ?_
          refine mg_end dX8_ahead_28 rfl ?_
          refine w_topN (n := k) h14 ?_
          refine w_iconst (v := nI 1) dX8_ahead_31 ki_1 ?_
          refine w_iaddN dX8_ahead_32 ?_
          refine mp_end dX8_ahead_33 rfl ?_
          refine w_goto dX8_ahead_36 rfl ?_
          exact ih_lp (k + 1) _ (by omega) (by omega) (hs.symm.trans hq) (hF.put (by omega) (by omega)) rfl
  exact lp (X.2 + 1) e S (by omega) he9 rfl (FrK.refl S) he
