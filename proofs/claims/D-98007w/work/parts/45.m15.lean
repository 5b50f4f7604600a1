set_option maxRecDepth 100000
set_option maxHeartbeats 1200000 in
theorem c_does {g : GG} {S : MS} {r : Nat} {V0 : VS} {R : RS} {P : PG} {k : Nat} (ER : EncR S R) (OR : OkR V0 R) (EP : EncP S P) (OP : OkP (vs V0 0) (vs V0 1) (vs V0 2) P) (hk : k + 1 < pn P) (hr : r = 1030 + 6 * k) : Mp g miX8_does 6 [.int (nI r)] (S) (some (.int (bP (fD R.1 (pr P k) = 0)))) (fun S2 => FrR S S2 ∧ EncR S2 (doD R (pr P k)) ∧ Fr2 S S2) := by
  refine Mp.start (fun b => [some (.ref b), some (.int (nI r)), none, none]) plX8 rfl (fun b => (Nat.le_of_ble_eq_true rfl)) (fun b => rfl) ?_
  intro σ b
  subst hr
  have hpn := OP.1
  have hrow := OP.2 k hk
  have hkb : pr P k 0 < 3000 := by have := hrow.1; omega
  have e0 := EP.2 k hk 0 (by omega) (Or.inl rfl)
  rw [Nat.add_zero] at e0
  obtain ⟨K, hKep, hdr, o0, o1, o2⟩ := id OR
  have kb := K.b
  refine w_aload_n dX8_does_0 rfl ?_
  refine mg_at dX8_does_1 rfl ?_
  refine w_iload_n dX8_does_4 rfl ?_
  refine w_iconst (v := nI 1) dX8_does_5 ki_1 ?_
  refine w_iaddN dX8_does_6 ?_
  refine ma_at dX8_does_7 (by omega) ?_
  refine w_istore_n dX8_does_8 rfl (Nat.le_of_ble_eq_true rfl) ls_4_2 ?_
  refine w_aload_n dX8_does_9 rfl ?_
  refine mg_at dX8_does_10 rfl ?_
  refine w_iload_n dX8_does_13 rfl ?_
  refine w_iconst (v := nI 2) dX8_does_14 ki_2 ?_
  refine w_iaddN dX8_does_15 ?_
  refine ma_at dX8_does_16 (by omega) ?_
  refine w_istore_n dX8_does_17 rfl (Nat.le_of_ble_eq_true rfl) ls_4_3 ?_
  refine w_aload_n dX8_does_18 rfl ?_
  refine mg_at dX8_does_19 rfl ?_
  refine w_iload_n dX8_does_22 rfl ?_
  refine ma_at dX8_does_23 (by omega) ?_
  rw [e0]
  by_cases hs_18 : pr P k 0 = 18
  · rw [show nI (pr P k 0) = nI 18 by rw [hs_18]]
    refine w_tableIn dX8_does_24 (by decide +kernel) (by decide +kernel) rfl rfl ?_
    rw [EP.2 k hk 1 (by omega) (by omega)]
    rw [EP.2 k hk 2 (by omega) (by omega)]
    have hq := hrow.2.1 hs_18
    refine w_aload_n dX8_does_132 rfl ?_
    refine w_iload_n dX8_does_133 rfl ?_
    refine w_iload_n dX8_does_134 rfl ?_
    refine m_callPi2 (mi := miX8_went) dX8_does_135 q1905 okX8_went rfl (Nat.le_of_ble_eq_true rfl) (c_went ER.1 K (by omega) (by omega)) (Nat.le_of_ble_eq_true rfl) (fun S135 hS135 => ?_)
    exact w_zret dX8_does_138 rfl narrB ⟨by exact congrArg (fun z => some (Value.int z)) (bP_c (by rw [fD, if_pos hs_18]; exact ⟨fun h => if_neg h, fun h z => by rw [if_pos z] at h; exact absurd h (by decide)⟩)), _, by rw [doD, if_pos hs_18]; exact ⟨(ER.ch hS135).2, (ER.ch hS135).1, hS135.f2⟩, rfl⟩
  by_cases hs_20 : pr P k 0 = 20
  · rw [show nI (pr P k 0) = nI 20 by rw [hs_20]]
    refine w_tableIn dX8_does_24 (by decide +kernel) (by decide +kernel) rfl rfl ?_
    rw [EP.2 k hk 1 (by omega) (by omega)]
    rw [EP.2 k hk 2 (by omega) (by omega)]
    have hq := hrow.2.2.2.2.1 hs_20
    refine w_aload_n dX8_does_139 rfl ?_
    refine w_iload_n dX8_does_140 rfl ?_
    refine w_iload_n dX8_does_141 rfl ?_
    refine m_callPi2 (mi := miX8_waited) dX8_does_142 q1923 okX8_waited rfl (Nat.le_of_ble_eq_true rfl) (c_waited ER.1 K (by omega) (by omega)) (Nat.le_of_ble_eq_true rfl) (fun S142 hS142 => ?_)
    exact w_zret dX8_does_145 rfl narrB ⟨by exact congrArg (fun z => some (Value.int z)) (bP_c (by rw [fD, if_neg (show ¬ pr P k 0 = 18 by omega), if_pos hs_20]; exact ⟨fun h => if_neg h, fun h z => by rw [if_pos z] at h; exact absurd h (by decide)⟩)), _, by rw [doD, if_neg (show ¬ pr P k 0 = 18 by omega), if_pos hs_20]; exact ⟨(ER.ch hS142).2, (ER.ch hS142).1, hS142.f2⟩, rfl⟩
  by_cases hs_19 : pr P k 0 = 19
  · rw [show nI (pr P k 0) = nI 19 by rw [hs_19]]
    refine w_tableIn dX8_does_24 (by decide +kernel) (by decide +kernel) rfl rfl ?_
    rw [EP.2 k hk 1 (by omega) (by omega)]
    rw [EP.2 k hk 2 (by omega) (by omega)]
    have hq := hrow.2.2.1 hs_19
    have hwl := wsetV_lt R.1 (pr P k 1) (pr P k 2)
    refine w_aload_n dX8_does_146 rfl ?_
    refine w_iload_n dX8_does_147 rfl ?_
    refine w_iload_n dX8_does_148 rfl ?_
    refine m_calli2 (mi := miX8_wrongSet) dX8_does_149 q1931 okX8_wrongSet rfl (Nat.le_of_ble_eq_true rfl) (c_wrongSet ER.1 K (by omega) (by omega)) (Nat.le_of_ble_eq_true rfl) ?_
    refine w_ifN_le dX8_does_152 rfl (by omega) (fun h_152 => ?_) (fun h_152 => ?_)
    · have hw0 := wsetV_0 (V := R.1) (f := pr P k 1) (d := pr P k 2) (by omega)
      refine w_aload_n dX8_does_157 rfl ?_
      refine w_iload_n dX8_does_158 rfl ?_
      refine w_iload_n dX8_does_159 rfl ?_
      refine m_callPv2 (mi := miX8_sets) dX8_does_160 q1939 okX8_sets rfl (Nat.le_of_ble_eq_true rfl) (c_sets ER.1 K (by omega) (by omega) hw0.2.1 (by omega)) (Nat.le_of_ble_eq_true rfl) (fun S160 hS160 => ?_)
      refine w_iconst (v := nI 1) dX8_does_163 ki_1 ?_
      exact w_zret dX8_does_164 rfl (by first | exact narr0 | exact narr1) ⟨by rw [bP_t (show fD R.1 (pr P k) = 0 by rw [fD, if_neg (show ¬ pr P k 0 = 18 by omega), if_neg (show ¬ pr P k 0 = 20 by omega), if_pos hs_19, if_pos (by omega)])], _, by rw [doD, if_neg (show ¬ pr P k 0 = 18 by omega), if_neg (show ¬ pr P k 0 = 20 by omega), if_pos hs_19, if_pos (by omega)]; exact ⟨(ER.ch hS160).2, (ER.ch hS160).1, hS160.f2⟩, rfl⟩
    · refine w_iconst (v := nI 0) dX8_does_155 ki_0 ?_
      exact w_zret dX8_does_156 rfl (by first | exact narr0 | exact narr1) ⟨by rw [bP_f (show ¬ fD R.1 (pr P k) = 0 by rw [fD, if_neg (show ¬ pr P k 0 = 18 by omega), if_neg (show ¬ pr P k 0 = 20 by omega), if_pos hs_19, if_neg (by omega)]; omega)], _, by rw [doD, if_neg (show ¬ pr P k 0 = 18 by omega), if_neg (show ¬ pr P k 0 = 20 by omega), if_pos hs_19, if_neg (by omega)]; exact ⟨FrR.refl S, ER, rfl, rfl⟩, rfl⟩
  by_cases hs_21 : pr P k 0 = 21
  · rw [show nI (pr P k 0) = nI 21 by rw [hs_21]]
    refine w_tableIn dX8_does_24 (by decide +kernel) (by decide +kernel) rfl rfl ?_
    rw [EP.2 k hk 1 (by omega) (by omega)]
    rw [EP.2 k hk 2 (by omega) (by omega)]
    have hq := hrow.2.2.2.1 hs_21
    have hwl := wliV_lt R.1 (pr P k 1) (pr P k 2)
    refine w_aload_n dX8_does_165 rfl ?_
    refine w_iload_n dX8_does_166 rfl ?_
    refine w_iload_n dX8_does_167 rfl ?_
    refine m_calli2 (mi := miX8_wrongLift) dX8_does_168 q1947 okX8_wrongLift rfl (Nat.le_of_ble_eq_true rfl) (c_wrongLift ER.1 K (by omega) (by omega)) (Nat.le_of_ble_eq_true rfl) ?_
    refine w_ifN_ne dX8_does_171 rfl (by omega) (fun h_171 => ?_) (fun h_171 => ?_)
    · refine w_iconst (v := nI 0) dX8_does_187 ki_0 ?_
      exact w_zret dX8_does_188 rfl (by first | exact narr0 | exact narr1) ⟨by rw [bP_f (show ¬ fD R.1 (pr P k) = 0 by rw [fD, if_neg (show ¬ pr P k 0 = 18 by omega), if_neg (show ¬ pr P k 0 = 20 by omega), if_neg (show ¬ pr P k 0 = 19 by omega), if_pos hs_21, if_neg h_171]; omega)], _, by rw [doD, if_neg (show ¬ pr P k 0 = 18 by omega), if_neg (show ¬ pr P k 0 = 20 by omega), if_neg (show ¬ pr P k 0 = 19 by omega), if_pos hs_21, if_neg h_171]; exact ⟨FrR.refl S, ER, rfl, rfl⟩, rfl⟩
    · have hw0 := wliV_0 h_171
      refine w_aload_n dX8_does_174 rfl ?_
      refine w_iload_n dX8_does_175 rfl ?_
      refine w_iload_n dX8_does_176 rfl ?_
      refine m_callPi2 (mi := miX8_lifts) dX8_does_177 q1959 okX8_lifts rfl (Nat.le_of_ble_eq_true rfl) (c_lifts ER.1 K (by omega) (by omega) hw0.1) (Nat.le_of_ble_eq_true rfl) (fun S177 hS177 => ?_)
      have hol := ownK_le R.1 (pr P k 1) (pr P k 2)
      have hpp := (K.p (d := pr P k 2) (by omega) (k := ownK R.1 (pr P k 1) (pr P k 2) - 1) (by omega)).2
      refine w_ifN_lt dX8_does_180 rfl (by omega) (fun h_180 => ?_) (fun h_180 => ?_)
      · exact absurd h_180 (Nat.not_lt_zero _)
      · refine w_iconst (v := nI 1) dX8_does_183 ki_1 ?_
        refine w_goto dX8_does_184 rfl ?_
        exact w_zret dX8_does_188 rfl (by first | exact narr0 | exact narr1) ⟨by rw [bP_t (show fD R.1 (pr P k) = 0 by rw [fD, if_neg (show ¬ pr P k 0 = 18 by omega), if_neg (show ¬ pr P k 0 = 20 by omega), if_neg (show ¬ pr P k 0 = 19 by omega), if_pos hs_21, if_pos h_171])], _, by rw [doD, if_neg (show ¬ pr P k 0 = 18 by omega), if_neg (show ¬ pr P k 0 = 20 by omega), if_neg (show ¬ pr P k 0 = 19 by omega), if_pos hs_21, if_pos h_171]; exact ⟨(ER.ch hS177).2, (ER.ch hS177).1, hS177.f2⟩, rfl⟩
  by_cases hs_22 : pr P k 0 = 22
  · rw [show nI (pr P k 0) = nI 22 by rw [hs_22]]
    refine w_tableIn dX8_does_24 (by decide +kernel) (by decide +kernel) rfl rfl ?_
    rw [EP.2 k hk 1 (by omega) (by omega)]
    have hq := hrow.2.2.2.2.2.1 hs_22
    refine w_aload_n dX8_does_189 rfl ?_
    refine w_iload_n dX8_does_190 rfl ?_
    refine m_callPv1 (mi := miX8_gullComes) dX8_does_191 q2252 okX8_gullComes rfl (Nat.le_of_ble_eq_true rfl) (c_gullComes ER OR (by omega)) (Nat.le_of_ble_eq_true rfl) (fun S191 hS191 => ?_)
    refine w_iconst (v := nI 1) dX8_does_194 ki_1 ?_
    exact w_zret dX8_does_195 rfl (by first | exact narr0 | exact narr1) ⟨by rw [bP_t (show fD R.1 (pr P k) = 0 by rw [fD, if_neg (show ¬ pr P k 0 = 18 by omega), if_neg (show ¬ pr P k 0 = 20 by omega), if_neg (show ¬ pr P k 0 = 19 by omega), if_neg (show ¬ pr P k 0 = 21 by omega), if_neg (show ¬ pr P k 0 = 1 by omega)])], _, by rw [doD, if_neg (show ¬ pr P k 0 = 18 by omega), if_neg (show ¬ pr P k 0 = 20 by omega), if_neg (show ¬ pr P k 0 = 19 by omega), if_neg (show ¬ pr P k 0 = 21 by omega), if_pos hs_22]; exact hS191, rfl⟩
  by_cases hs_23 : pr P k 0 = 23
  · rw [show nI (pr P k 0) = nI 23 by rw [hs_23]]
    refine w_tableIn dX8_does_24 (by decide +kernel) (by decide +kernel) rfl rfl ?_
    rw [EP.2 k hk 1 (by omega) (by omega)]
    have hq := hrow.2.2.2.2.2.2.1 hs_23
    refine w_aload_n dX8_does_196 rfl ?_
    refine mg_ran dX8_does_197 rfl ?_
    refine w_iconst (v := nI 2) dX8_does_200 ki_2 ?_
    refine w_dup2 dX8_does_201 rfl rfl ?_
    refine ma_ran dX8_does_202 (by omega) ?_
    refine w_topN (n := R.2.2 2) (ER.2.2 2 (by omega)) ?_
    refine w_aload_n dX8_does_203 rfl ?_
    refine w_iload_n dX8_does_204 rfl ?_
    refine m_callPi1 (mi := miX8_washes) dX8_does_205 q1988 okX8_washes rfl (Nat.le_of_ble_eq_true rfl) (c_washes ER.1 K (by omega)) (Nat.le_of_ble_eq_true rfl) (fun S205 hS205 => ?_)
    refine w_iaddN dX8_does_208 ?_
    refine ms_ran dX8_does_209 (by omega) ?_
    refine w_iconst (v := nI 1) dX8_does_210 ki_1 ?_
    exact w_zret dX8_does_211 rfl (by first | exact narr0 | exact narr1) ⟨by rw [bP_t (show fD R.1 (pr P k) = 0 by rw [fD, if_neg (show ¬ pr P k 0 = 18 by omega), if_neg (show ¬ pr P k 0 = 20 by omega), if_neg (show ¬ pr P k 0 = 19 by omega), if_neg (show ¬ pr P k 0 = 21 by omega), if_neg (show ¬ pr P k 0 = 1 by omega)])], _, by rw [doD, if_neg (show ¬ pr P k 0 = 18 by omega), if_neg (show ¬ pr P k 0 = 20 by omega), if_neg (show ¬ pr P k 0 = 19 by omega), if_neg (show ¬ pr P k 0 = 21 by omega), if_neg (show ¬ pr P k 0 = 22 by omega), if_pos hs_23]; exact ⟨(ER.ch hS205).2.trans (FrR.cnt _ _ _), (ER.ch hS205).1.cnt (by omega) rfl, hS205.f2⟩, rfl⟩
  by_cases hs_1 : pr P k 0 = 1
  · rw [show nI (pr P k 0) = nI 1 by rw [hs_1]]
    refine w_tableIn dX8_does_24 (by decide +kernel) (by decide +kernel) rfl rfl ?_
    refine w_aload_n dX8_does_212 rfl ?_
    refine mg_at dX8_does_213 rfl ?_
    refine w_bipush (v := nI 6) dX8_does_216 kb_6 ?_
    refine ma_at dX8_does_218 (by omega) ?_
    refine w_topN (n := vs R.1 6) (Enc.s ER.1 6 (by omega)) ?_
    refine w_bipush (v := nI 99) dX8_does_219 kb_99 ?_
    refine w_icmpN_eq dX8_does_221 rfl (by omega) (by omega) (fun h_221 => ?_) (fun h_221 => ?_)
    · refine w_iconst (v := nI 0) dX8_does_234 ki_0 ?_
      exact w_zret dX8_does_235 rfl (by first | exact narr0 | exact narr1) ⟨by rw [bP_f (show ¬ fD R.1 (pr P k) = 0 by rw [fD, if_neg (show ¬ pr P k 0 = 18 by omega), if_neg (show ¬ pr P k 0 = 20 by omega), if_neg (show ¬ pr P k 0 = 19 by omega), if_neg (show ¬ pr P k 0 = 21 by omega), if_pos hs_1, if_pos (Or.inl h_221)]; omega)], _, by rw [doD, if_neg (show ¬ pr P k 0 = 18 by omega), if_neg (show ¬ pr P k 0 = 20 by omega), if_neg (show ¬ pr P k 0 = 19 by omega), if_neg (show ¬ pr P k 0 = 21 by omega), if_neg (show ¬ pr P k 0 = 22 by omega), if_neg (show ¬ pr P k 0 = 23 by omega), if_pos hs_1, if_pos (Or.inl h_221)]; exact ⟨FrR.refl S, ER, rfl, rfl⟩, rfl⟩
    · refine w_aload_n dX8_does_224 rfl ?_
      refine mg_at dX8_does_225 rfl ?_
      refine w_bipush (v := nI 7) dX8_does_228 kb_7 ?_
      refine ma_at dX8_does_230 (by omega) ?_
      refine w_topN (n := vs R.1 7) (Enc.s ER.1 7 (by omega)) ?_
      refine w_ifN_ne dX8_does_231 rfl (by omega) (fun h_231 => ?_) (fun h_231 => ?_)
      · refine w_aload_n dX8_does_236 rfl ?_
        refine m_callPv0 (mi := miX8_floods) dX8_does_237 q2149 okX8_floods rfl (Nat.le_of_ble_eq_true rfl) (c_floods ER.1 K hKep (by omega)) (Nat.le_of_ble_eq_true rfl) (fun S237 hS237 => ?_)
        obtain ⟨f1, f2⟩ := OkV.flood K hKep (by omega)
        refine w_aload_n dX8_does_240 rfl ?_
        refine m_callPv0 (mi := miX8_dawns) dX8_does_241 q2157 okX8_dawns rfl (Nat.le_of_ble_eq_true rfl) (c_dawns hS237.E f1) (Nat.le_of_ble_eq_true rfl) (fun S241 hS241 => ?_)
        have hC2 := hS237.trans hS241
        refine w_aload_n dX8_does_244 rfl ?_
        refine mg_ran dX8_does_245 rfl ?_
        refine w_iconst (v := nI 3) dX8_does_248 ki_3 ?_
        refine w_dup2 dX8_does_249 rfl rfl ?_
        refine ma_ran dX8_does_250 (by omega) ?_
        refine w_topN (n := R.2.2 3) ((ER.ch hC2).1.2.2 3 (by omega)) ?_
        refine w_iconst (v := nI 1) dX8_does_251 ki_1 ?_
        refine w_iaddN dX8_does_252 ?_
        refine ms_ran dX8_does_253 (by omega) ?_
        refine w_iconst (v := nI 1) dX8_does_254 ki_1 ?_
        exact w_zret dX8_does_255 rfl (by first | exact narr0 | exact narr1) ⟨by rw [bP_t (show fD R.1 (pr P k) = 0 by rw [fD, if_neg (show ¬ pr P k 0 = 18 by omega), if_neg (show ¬ pr P k 0 = 20 by omega), if_neg (show ¬ pr P k 0 = 19 by omega), if_neg (show ¬ pr P k 0 = 21 by omega), if_pos hs_1, if_neg (by omega)])], _, by rw [doD, if_neg (show ¬ pr P k 0 = 18 by omega), if_neg (show ¬ pr P k 0 = 20 by omega), if_neg (show ¬ pr P k 0 = 19 by omega), if_neg (show ¬ pr P k 0 = 21 by omega), if_neg (show ¬ pr P k 0 = 22 by omega), if_neg (show ¬ pr P k 0 = 23 by omega), if_pos hs_1, if_neg (by omega)]; exact ⟨(ER.ch hC2).2.trans (FrR.cnt _ _ _), (ER.ch hC2).1.cnt (by omega) rfl, hC2.f2⟩, rfl⟩
      · refine w_iconst (v := nI 0) dX8_does_234 ki_0 ?_
        exact w_zret dX8_does_235 rfl (by first | exact narr0 | exact narr1) ⟨by rw [bP_f (show ¬ fD R.1 (pr P k) = 0 by rw [fD, if_neg (show ¬ pr P k 0 = 18 by omega), if_neg (show ¬ pr P k 0 = 20 by omega), if_neg (show ¬ pr P k 0 = 19 by omega), if_neg (show ¬ pr P k 0 = 21 by omega), if_pos hs_1, if_pos (Or.inr h_231)]; omega)], _, by rw [doD, if_neg (show ¬ pr P k 0 = 18 by omega), if_neg (show ¬ pr P k 0 = 20 by omega), if_neg (show ¬ pr P k 0 = 19 by omega), if_neg (show ¬ pr P k 0 = 21 by omega), if_neg (show ¬ pr P k 0 = 22 by omega), if_neg (show ¬ pr P k 0 = 23 by omega), if_pos hs_1, if_pos (Or.inr h_231)]; exact ⟨FrR.refl S, ER, rfl, rfl⟩, rfl⟩
  by_cases hs_25 : pr P k 0 = 25
  · rw [show nI (pr P k 0) = nI 25 by rw [hs_25]]
    refine w_tableOut dX8_does_24 (by decide +kernel) rfl ?_
    refine w_iconst (v := nI 1) dX8_does_256 ki_1 ?_
    exact w_zret dX8_does_257 rfl (by first | exact narr0 | exact narr1) ⟨by rw [bP_t (show fD R.1 (pr P k) = 0 by rw [fD, if_neg (show ¬ pr P k 0 = 18 by omega), if_neg (show ¬ pr P k 0 = 20 by omega), if_neg (show ¬ pr P k 0 = 19 by omega), if_neg (show ¬ pr P k 0 = 21 by omega), if_neg (show ¬ pr P k 0 = 1 by omega)])], _, by rw [doD, if_neg (show ¬ pr P k 0 = 18 by omega), if_neg (show ¬ pr P k 0 = 20 by omega), if_neg (show ¬ pr P k 0 = 19 by omega), if_neg (show ¬ pr P k 0 = 21 by omega), if_neg (show ¬ pr P k 0 = 22 by omega), if_neg (show ¬ pr P k 0 = 23 by omega), if_neg (show ¬ pr P k 0 = 1 by omega)]; exact ⟨FrR.refl S, ER, rfl, rfl⟩, rfl⟩
  by_cases hs_26 : pr P k 0 = 26
  · rw [show nI (pr P k 0) = nI 26 by rw [hs_26]]
    refine w_tableOut dX8_does_24 (by decide +kernel) rfl ?_
    refine w_iconst (v := nI 1) dX8_does_256 ki_1 ?_
    exact w_zret dX8_does_257 rfl (by first | exact narr0 | exact narr1) ⟨by rw [bP_t (show fD R.1 (pr P k) = 0 by rw [fD, if_neg (show ¬ pr P k 0 = 18 by omega), if_neg (show ¬ pr P k 0 = 20 by omega), if_neg (show ¬ pr P k 0 = 19 by omega), if_neg (show ¬ pr P k 0 = 21 by omega), if_neg (show ¬ pr P k 0 = 1 by omega)])], _, by rw [doD, if_neg (show ¬ pr P k 0 = 18 by omega), if_neg (show ¬ pr P k 0 = 20 by omega), if_neg (show ¬ pr P k 0 = 19 by omega), if_neg (show ¬ pr P k 0 = 21 by omega), if_neg (show ¬ pr P k 0 = 22 by omega), if_neg (show ¬ pr P k 0 = 23 by omega), if_neg (show ¬ pr P k 0 = 1 by omega)]; exact ⟨FrR.refl S, ER, rfl, rfl⟩, rfl⟩
  by_cases hs_27 : pr P k 0 = 27
  · rw [show nI (pr P k 0) = nI 27 by rw [hs_27]]
    refine w_tableOut dX8_does_24 (by decide +kernel) rfl ?_
    refine w_iconst (v := nI 1) dX8_does_256 ki_1 ?_
    exact w_zret dX8_does_257 rfl (by first | exact narr0 | exact narr1) ⟨by rw [bP_t (show fD R.1 (pr P k) = 0 by rw [fD, if_neg (show ¬ pr P k 0 = 18 by omega), if_neg (show ¬ pr P k 0 = 20 by omega), if_neg (show ¬ pr P k 0 = 19 by omega), if_neg (show ¬ pr P k 0 = 21 by omega), if_neg (show ¬ pr P k 0 = 1 by omega)])], _, by rw [doD, if_neg (show ¬ pr P k 0 = 18 by omega), if_neg (show ¬ pr P k 0 = 20 by omega), if_neg (show ¬ pr P k 0 = 19 by omega), if_neg (show ¬ pr P k 0 = 21 by omega), if_neg (show ¬ pr P k 0 = 22 by omega), if_neg (show ¬ pr P k 0 = 23 by omega), if_neg (show ¬ pr P k 0 = 1 by omega)]; exact ⟨FrR.refl S, ER, rfl, rfl⟩, rfl⟩
  by_cases hs_2415 : pr P k 0 = 2415
  · rw [show nI (pr P k 0) = nI 2415 by rw [hs_2415]]
    refine w_tableOut dX8_does_24 (by decide +kernel) rfl ?_
    refine w_iconst (v := nI 1) dX8_does_256 ki_1 ?_
    exact w_zret dX8_does_257 rfl (by first | exact narr0 | exact narr1) ⟨by rw [bP_t (show fD R.1 (pr P k) = 0 by rw [fD, if_neg (show ¬ pr P k 0 = 18 by omega), if_neg (show ¬ pr P k 0 = 20 by omega), if_neg (show ¬ pr P k 0 = 19 by omega), if_neg (show ¬ pr P k 0 = 21 by omega), if_neg (show ¬ pr P k 0 = 1 by omega)])], _, by rw [doD, if_neg (show ¬ pr P k 0 = 18 by omega), if_neg (show ¬ pr P k 0 = 20 by omega), if_neg (show ¬ pr P k 0 = 19 by omega), if_neg (show ¬ pr P k 0 = 21 by omega), if_neg (show ¬ pr P k 0 = 22 by omega), if_neg (show ¬ pr P k 0 = 23 by omega), if_neg (show ¬ pr P k 0 = 1 by omega)]; exact ⟨FrR.refl S, ER, rfl, rfl⟩, rfl⟩
  by_cases hs_2428 : pr P k 0 = 2428
  · rw [show nI (pr P k 0) = nI 2428 by rw [hs_2428]]
    refine w_tableOut dX8_does_24 (by decide +kernel) rfl ?_
    refine w_iconst (v := nI 1) dX8_does_256 ki_1 ?_
    exact w_zret dX8_does_257 rfl (by first | exact narr0 | exact narr1) ⟨by rw [bP_t (show fD R.1 (pr P k) = 0 by rw [fD, if_neg (show ¬ pr P k 0 = 18 by omega), if_neg (show ¬ pr P k 0 = 20 by omega), if_neg (show ¬ pr P k 0 = 19 by omega), if_neg (show ¬ pr P k 0 = 21 by omega), if_neg (show ¬ pr P k 0 = 1 by omega)])], _, by rw [doD, if_neg (show ¬ pr P k 0 = 18 by omega), if_neg (show ¬ pr P k 0 = 20 by omega), if_neg (show ¬ pr P k 0 = 19 by omega), if_neg (show ¬ pr P k 0 = 21 by omega), if_neg (show ¬ pr P k 0 = 22 by omega), if_neg (show ¬ pr P k 0 = 23 by omega), if_neg (show ¬ pr P k 0 = 1 by omega)]; exact ⟨FrR.refl S, ER, rfl, rfl⟩, rfl⟩
  by_cases hs_2429 : pr P k 0 = 2429
  · rw [show nI (pr P k 0) = nI 2429 by rw [hs_2429]]
    refine w_tableOut dX8_does_24 (by decide +kernel) rfl ?_
    refine w_iconst (v := nI 1) dX8_does_256 ki_1 ?_
    exact w_zret dX8_does_257 rfl (by first | exact narr0 | exact narr1) ⟨by rw [bP_t (show fD R.1 (pr P k) = 0 by rw [fD, if_neg (show ¬ pr P k 0 = 18 by omega), if_neg (show ¬ pr P k 0 = 20 by omega), if_neg (show ¬ pr P k 0 = 19 by omega), if_neg (show ¬ pr P k 0 = 21 by omega), if_neg (show ¬ pr P k 0 = 1 by omega)])], _, by rw [doD, if_neg (show ¬ pr P k 0 = 18 by omega), if_neg (show ¬ pr P k 0 = 20 by omega), if_neg (show ¬ pr P k 0 = 19 by omega), if_neg (show ¬ pr P k 0 = 21 by omega), if_neg (show ¬ pr P k 0 = 22 by omega), if_neg (show ¬ pr P k 0 = 23 by omega), if_neg (show ¬ pr P k 0 = 1 by omega)]; exact ⟨FrR.refl S, ER, rfl, rfl⟩, rfl⟩
  exfalso
  have := hrow.1
  omega
