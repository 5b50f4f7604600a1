set_option maxRecDepth 100000
theorem beF_le {P : PG} {nc nf nd : Nat} (O : OkP nc nf nd P) : ∀ f k lo, k ≤ 61 → (beF P f k lo).1 ≤ 61
  | 0, k, lo, h => h
  | f + 1, k, lo, h => by
    unfold beF
    have := O.1
    split
    · rename_i h1
      have h4 := (O.2 k h1.1).2.2.2.2.2.2.2.2.2.2.2.1 h1.2
      split
      · exact beF_le O f _ _ (by omega)
      · exact beF_le O f _ _ (by omega)
    · exact h
theorem beF_lo {P : PG} {B : Nat} : ∀ f k (lo : Nat → Nat), (∀ o, lo o < B) → ∀ o, (beF P f k lo).2 o < B
  | 0, k, lo, h => h
  | f + 1, k, lo, h => by
    unfold beF
    split
    · split
      · exact beF_lo f _ _ (fun o => by
          have h1 := h o
          have h2 := h (pr P k 4)
          unfold va_up
          split <;> omega)
      · exact beF_lo f _ _ h
    · exact h
theorem gcV_0 (R : RS) (s : Nat) : (gcV R s).2.2 0 = R.2.2 0 := by
  unfold gcV
  split
  · rfl
  · split
    · show va_up R.2.2 1 (R.2.2 1 + 1) 0 = _
      unfold va_up; rw [if_neg (by omega)]
    · rfl
theorem doD_0 (R : RS) (r : Nat → Nat) : (doD R r).2.2 0 = R.2.2 0 := by
  have h3 : ∀ (W : VS) (i x : Nat), i ≠ 0 → (upC (W, R.2) i x).2.2 0 = R.2.2 0 := fun W i x hi => by
    show va_up R.2.2 i (R.2.2 i + x) 0 = _
    unfold va_up; rw [if_neg (fun z => hi z.symm)]
  unfold doD
  repeat' split
  all_goals first | rfl | exact gcV_0 _ _ | exact h3 _ _ _ (by omega)
theorem fD_01 (V : VS) (r : Nat → Nat) : fD V r = 0 ∨ fD V r = 1 := by
  unfold fD
  repeat' split
  all_goals first | exact Or.inl rfl | exact Or.inr rfl
theorem hD_01 (V : VS) (r : Nat → Nat) : hD V r = 0 ∨ hD V r = 1 := by
  unfold hD
  repeat' split
  all_goals first | exact Or.inl rfl | exact Or.inr rfl
set_option maxHeartbeats 2000000 in
theorem c_lives {g : GG} {S : MS} {seed : Nat} {P : PG} {lo : Nat → Nat} {V : VS} (E : Enc S V) (K : OkV V) (hkep : KepV V) (EP : EncP S P) (OP : OkP (vs V 0) (vs V 1) (vs V 2) P) (EL : EncL S lo) (hlo : ∀ o, lo o < 2147483648) (hp0 : 0 < pn P) (hse : seed < 65536) : Mp g miX8_lives 8 [.int (nI seed)] (S) (none) (fun S2 => FrR S S2 ∧ EncR S2 (livesV V P lo seed).1 ∧ EncL S2 (livesV V P lo seed).2.1 ∧ mI S2 32 = nI (livesV V P lo seed).2.2) := by
  refine Mp.start (fun b => [some (.ref b), some (.int (nI seed)), none, none]) plX8 rfl (fun b => (Nat.le_of_ble_eq_true rfl)) (fun b => rfl) ?_
  intro σ b
  have kb := K.b
  have hpn := OP.1
  obtain ⟨n, hn⟩ : ∃ n, pn P = n + 1 := ⟨pn P - 1, by omega⟩
  refine w_aload_n dX8_lives_0 rfl ?_
  refine w_iload_n dX8_lives_1 rfl ?_
  refine mp_drawn dX8_lives_2 rfl ?_
  refine w_aload_n dX8_lives_5 rfl ?_
  refine w_iconst (v := nI 0) dX8_lives_6 ki_0 ?_
  refine mp_ranSteps dX8_lives_7 rfl ?_
  refine w_iconst (v := nI 0) dX8_lives_10 ki_0 ?_
  refine w_istore_n dX8_lives_11 rfl (Nat.le_of_ble_eq_true rfl) ls_4_2 ?_
  have lr : ∀ (j9 : Nat) (j : Nat) (S3 : MS), 5 - j < j9 → j ≤ 5 → FrR S S3 → Enc S3 V → mI S3 31 = nI seed → mI S3 32 = nI 0 → mA S3 33 = mA S 33 → (∀ i, i < j → mA S3 34 i = nI 0) → Wp g (mtP g miX8_lives 8 σ b (none) (fun S2 => FrR S S2 ∧ EncR S2 (livesV V P lo seed).1 ∧ EncL S2 (livesV V P lo seed).2.1 ∧ mI S2 32 = nI (livesV V P lo seed).2.2)) 0 0 12 [some (.ref b), some (.int (nI seed)), some (.int (nI j)), none] [] (sM g σ b (S3)) := by
    intro j9
    induction j9 with
    | zero => intro j S3 hmu hj hF3 E3 h31 h32 h33 h34; exact absurd hmu (Nat.not_lt_zero _)
    | succ j9 ih_lr =>
      intro j S3 hmu hj hF3 E3 h31 h32 h33 h34
      refine w_iload_n dX8_lives_12 rfl ?_
      refine w_iconst (v := nI 5) dX8_lives_13 ki_5 ?_
      refine w_icmpN_ge dX8_lives_14 rfl (by omega) (by omega) (fun h_14 => ?_) (fun h_14 => ?_)
      · obtain rfl : j = 5 := by omega
        refine w_iconst (v := nI 0) dX8_lives_30 ki_0 ?_
        refine w_istore_n dX8_lives_31 rfl (Nat.le_of_ble_eq_true rfl) ls_4_2 ?_
        have lp : ∀ (j9 : Nat) (k : Nat) (R : RS) (l2 : Nat → Nat) (s : Nat) (S4 : MS), 300 - s < j9 → k ≤ 61 → s + j9 = 301 → lvF P j9 k R l2 s = livesV V P lo seed → s ≤ 300 → OkR V R → EncR S4 R → EncL S4 l2 → (∀ o, l2 o < 2147483648) → FrR S S4 → mI S4 32 = nI s → Wp g (mtP g miX8_lives 8 σ b (none) (fun S2 => FrR S S2 ∧ EncR S2 (livesV V P lo seed).1 ∧ EncL S2 (livesV V P lo seed).2.1 ∧ mI S2 32 = nI (livesV V P lo seed).2.2)) 0 0 32 [some (.ref b), some (.int (nI seed)), some (.int (nI k)), none] [] (sM g σ b (S4)) := by
          intro j9
          induction j9 with
          | zero => intro k R l2 s S4 hmu hk hj9 hb hs hO ER4 hL hLb hF h32; exact absurd hmu (Nat.not_lt_zero _)
          | succ j9 ih_lp =>
            intro k R l2 s S4 hmu hk hj9 hb hs hO ER4 hL hLb hF h32
            have EP4 := EP.fr hF
            have e9 := EP4.1
            rw [hn, nI_dn] at e9
            refine w_iload_n dX8_lives_32 rfl ?_
            refine w_aload_n dX8_lives_33 rfl ?_
            refine mg_at dX8_lives_34 rfl ?_
            refine w_bipush (v := nI 9) dX8_lives_37 kb_9 ?_
            refine ma_at dX8_lives_39 (by omega) ?_
            rw [e9]
            refine w_icmpN_ge dX8_lives_40 rfl (by omega) (by omega) (fun h_40 => ?_) (fun h_40 => ?_)
            · have hout : livesV V P lo seed = (R, l2, s) := by rw [← hb]; exact if_neg (by omega)
              exact w_vret dX8_lives_185 rfl ⟨by rfl, _, by rw [hout]; exact ⟨hF, ER4, hL, h32⟩, rfl⟩
            · have hkP : k + 1 < pn P := by omega
              have hrow := OP.2 k hkP
              have hkb : pr P k 0 < 3000 := by have := hrow.1; omega
              refine w_aload_n dX8_lives_43 rfl ?_
              refine mg_ranSteps dX8_lives_44 rfl ?_
              rw [h32]
              refine w_sipush (v := nI 300) dX8_lives_47 ks_300 ?_
              refine w_icmpN_ne dX8_lives_50 rfl (by omega) (by omega) (fun h_50 => ?_) (fun h_50 => ?_)
              · refine w_sipush (v := nI 1030) dX8_lives_61 ks_1030 ?_
                refine w_bipush (v := nI 6) dX8_lives_64 kb_6 ?_
                refine w_iload_n dX8_lives_66 rfl ?_
                refine w_imulN dX8_lives_67 ?_
                refine w_iaddN dX8_lives_68 ?_
                refine w_istore_n dX8_lives_69 rfl (Nat.le_of_ble_eq_true rfl) ls_4_3 ?_
                refine w_aload_n dX8_lives_70 rfl ?_
                refine w_dup dX8_lives_71 rfl ?_
                refine mg_ranSteps dX8_lives_72 rfl ?_
                rw [h32]
                refine w_iconst (v := nI 1) dX8_lives_75 ki_1 ?_
                refine w_iaddN dX8_lives_76 ?_
                refine mp_ranSteps dX8_lives_77 rfl ?_
                have hE5 := ER4.i32 (nI (s + 1))
                have hF5 := hF.trans (FrR.i32 S4 (nI (s + 1)))
                have EP5 := EP.fr hF5
                refine w_aload_n dX8_lives_80 rfl ?_
                refine mg_at dX8_lives_81 rfl ?_
                refine w_iload_n dX8_lives_84 rfl ?_
                refine ma_at dX8_lives_85 (by omega) ?_
                refine w_topN (n := pr P k 0) (EP5.2 k hkP 0 (by omega) (Or.inl rfl)) ?_
                refine w_bipush (v := nI 27) dX8_lives_86 kb_27 ?_
                refine w_icmpN_ne dX8_lives_88 rfl (by omega) (by omega) (fun h_88 => ?_) (fun h_88 => ?_)
                · have hO2 := hO.do hrow
                  have OP2 : OkP (vs (doD R (pr P k)).1 0) (vs (doD R (pr P k)).1 1) (vs (doD R (pr P k)).1 2) P := by rw [hO2.2.2.2.1, hO2.2.2.2.2.1, hO2.2.2.2.2.2]; exact OP
                  refine w_aload_n dX8_lives_92 rfl ?_
                  refine mg_ran dX8_lives_93 rfl ?_
                  refine w_iconst (v := nI 0) dX8_lives_96 ki_0 ?_
                  refine w_dup2 dX8_lives_97 rfl rfl ?_
                  refine ma_ran dX8_lives_98 (by omega) ?_
                  refine w_topN (n := R.2.2 0) (hE5.2.2 0 (by omega)) ?_
                  refine w_aload_n dX8_lives_99 rfl ?_
                  refine w_iload_n dX8_lives_100 rfl ?_
                  refine m_callPi1 (mi := miX8_does) dX8_lives_101 q2248 okX8_does rfl (Nat.le_of_ble_eq_true rfl) (c_does hE5 hO EP5 OP hkP rfl) (Nat.le_of_ble_eq_true rfl) (fun S101 hS101 => ?_)
                  refine w_ifB_eq dX8_lives_104 rfl (fun h_104 => ?_) (fun h_104 => ?_)
                  · have hfd : fD R.1 (pr P k) = 1 := by have := fD_01 R.1 (pr P k); omega
                    refine w_iconst (v := nI 1) dX8_lives_111 ki_1 ?_
                    refine w_iaddN dX8_lives_112 ?_
                    refine w_topN (n := R.2.2 0 + fD R.1 (pr P k)) (by rw [hfd]) ?_
                    refine ms_ran dX8_lives_113 (by omega) ?_
                    have hE6 := hS101.2.1.cnt (i := 0) (x := R.2.2 0 + fD R.1 (pr P k)) (y := fD R.1 (pr P k)) (by omega) (by rw [doD_0])
                    have hF6 := hF5.trans (hS101.1.trans (FrR.cnt S101 0 (nI (R.2.2 0 + fD R.1 (pr P k)))))
                    have EP6 := EP.fr hF6
                    have hL6 : EncL (sA S101 34 0 (nI (R.2.2 0 + fD R.1 (pr P k)))) l2 := hL.of hS101.2.2.2
                    have h326 : mI (sA S101 34 0 (nI (R.2.2 0 + fD R.1 (pr P k)))) 32 = nI (s + 1) := hS101.2.2.1
                    refine w_aload_n dX8_lives_114 rfl ?_
                    refine mg_at dX8_lives_115 rfl ?_
                    refine w_iload_n dX8_lives_118 rfl ?_
                    refine ma_at dX8_lives_119 (by omega) ?_
                    refine w_topN (n := pr P k 0) (EP6.2 k hkP 0 (by omega) (Or.inl rfl)) ?_
                    refine w_bipush (v := nI 25) dX8_lives_120 kb_25 ?_
                    refine w_icmpN_ne dX8_lives_122 rfl (by omega) (by omega) (fun h_122 => ?_) (fun h_122 => ?_)
                    · have hL7 := hL6
                      have hF7 := hF6
                      have hE7 := hE6
                      have h327 := h326
                      have hLb7 := hLb
                      have EP7 := EP6
                      refine w_aload_n dX8_lives_141 rfl ?_
                      refine w_aload_n dX8_lives_142 rfl ?_
                      refine mg_at dX8_lives_143 rfl ?_
                      refine w_iload_n dX8_lives_146 rfl ?_
                      refine ma_at dX8_lives_147 (by omega) ?_
                      refine w_topN (n := pr P k 0) (EP7.2 k hkP 0 (by omega) (Or.inl rfl)) ?_
                      refine w_sipush (v := nI 2400) dX8_lives_148 ks_2400 ?_
                      refine w_icmpN_lt dX8_lives_151 rfl (by omega) (by omega) (fun h_151 => ?_) (fun h_151 => ?_)
                      · refine w_iload_n dX8_lives_175 rfl ?_
                        refine w_iconst (v := nI 1) dX8_lives_176 ki_1 ?_
                        refine w_iaddN dX8_lives_177 ?_
                        refine m_callPi1 (mi := miX8_behindEnds) dX8_lives_178 q2265 okX8_behindEnds rfl (Nat.le_of_ble_eq_true rfl) (c_behindEnds EP7 OP hL7 (by omega) hp0 hLb7) (Nat.le_of_ble_eq_true rfl) (fun S178 hS178 => ?_)
                        refine w_istore_n dX8_lives_181 rfl (Nat.le_of_ble_eq_true rfl) ls_4_2 ?_
                        refine w_goto dX8_lives_182 rfl ?_
                        have hl1 : (if pr P k 0 = 25 then va_up l2 k (pr P k 1 - 1) else l2) = l2 := if_neg h_122
                        have hkn : (if 2400 ≤ pr P k 0 ∧ hD (doD R (pr P k)).1 (pr P k) = 0 then pr P k 4 + 1 else k + 1) = (k + 1) := if_neg (fun z => by omega)
                        have hE8 : EncR S178 (upC (doD R (pr P k)) 0 (fD R.1 (pr P k))) := ⟨by show EncA (mA S178 0) _; rw [hS178.2.2.2 0 (by omega)]; exact hE7.1, (hS178.2.2.1 31).trans hE7.2.1, fun i hi => by rw [hS178.2.2.2 34 (by omega)]; exact hE7.2.2 i hi⟩
                        have hb2 : lvF P j9 (beV P (k + 1) l2).1 (upC (doD R (pr P k)) 0 (fD R.1 (pr P k))) (beV P (k + 1) l2).2 (s + 1) = livesV V P lo seed := by rw [← hb, lvF, if_pos hkP, if_neg h_50, if_neg h_88, hl1, hkn]
                        exact w_L (wkS (wkS (wkS (wkN wk0)))) (ih_lp _ (upC (doD R (pr P k)) 0 (fD R.1 (pr P k))) _ (s + 1) S178 (by omega) (beF_le OP _ _ _ (by omega)) (by omega) hb2 (by omega) ⟨hO2.1, hO2.2.1, hO2.2.2.1, hO2.2.2.2.1, hO2.2.2.2.2.1, hO2.2.2.2.2.2⟩ hE8 hS178.1 (beF_lo _ _ _ hLb7) (hF7.trans hS178.2.1) ((hS178.2.2.1 32).trans h327))
                      · refine w_aload_n dX8_lives_154 rfl ?_
                        refine w_iload_n dX8_lives_155 rfl ?_
                        refine m_calli1 (mi := miX8_holds) dX8_lives_156 q2261 okX8_holds rfl (Nat.le_of_ble_eq_true rfl) (c_holds (show Enc _ (doD R (pr P k)).1 from hE7.1) hO2.1 EP7 OP2 hkP rfl h_151) (Nat.le_of_ble_eq_true rfl) ?_
                        refine w_ifB_ne dX8_lives_159 rfl (fun h_159 => ?_) (fun h_159 => ?_)
                        · refine w_iload_n dX8_lives_175 rfl ?_
                          refine w_iconst (v := nI 1) dX8_lives_176 ki_1 ?_
                          refine w_iaddN dX8_lives_177 ?_
                          refine m_callPi1 (mi := miX8_behindEnds) dX8_lives_178 q2265 okX8_behindEnds rfl (Nat.le_of_ble_eq_true rfl) (c_behindEnds EP7 OP hL7 (by omega) hp0 hLb7) (Nat.le_of_ble_eq_true rfl) (fun S178 hS178 => ?_)
                          refine w_istore_n dX8_lives_181 rfl (Nat.le_of_ble_eq_true rfl) ls_4_2 ?_
                          refine w_goto dX8_lives_182 rfl ?_
                          have hl1 : (if pr P k 0 = 25 then va_up l2 k (pr P k 1 - 1) else l2) = l2 := if_neg h_122
                          have hkn : (if 2400 ≤ pr P k 0 ∧ hD (doD R (pr P k)).1 (pr P k) = 0 then pr P k 4 + 1 else k + 1) = (k + 1) := if_neg (fun z => by omega)
                          have hE8 : EncR S178 (upC (doD R (pr P k)) 0 (fD R.1 (pr P k))) := ⟨by show EncA (mA S178 0) _; rw [hS178.2.2.2 0 (by omega)]; exact hE7.1, (hS178.2.2.1 31).trans hE7.2.1, fun i hi => by rw [hS178.2.2.2 34 (by omega)]; exact hE7.2.2 i hi⟩
                          have hb2 : lvF P j9 (beV P (k + 1) l2).1 (upC (doD R (pr P k)) 0 (fD R.1 (pr P k))) (beV P (k + 1) l2).2 (s + 1) = livesV V P lo seed := by rw [← hb, lvF, if_pos hkP, if_neg h_50, if_neg h_88, hl1, hkn]
                          exact w_L (wkS (wkS (wkS (wkN wk0)))) (ih_lp _ (upC (doD R (pr P k)) 0 (fD R.1 (pr P k))) _ (s + 1) S178 (by omega) (beF_le OP _ _ _ (by omega)) (by omega) hb2 (by omega) ⟨hO2.1, hO2.2.1, hO2.2.2.1, hO2.2.2.2.1, hO2.2.2.2.2.1, hO2.2.2.2.2.2⟩ hE8 hS178.1 (beF_lo _ _ _ hLb7) (hF7.trans hS178.2.1) ((hS178.2.2.1 32).trans h327))
                        · have hm4 := hrow.2.2.2.2.2.2.2.2.2.2.2.2 h_151
                          refine w_aload_n dX8_lives_162 rfl ?_
                          refine mg_at dX8_lives_163 rfl ?_
                          refine w_iload_n dX8_lives_166 rfl ?_
                          refine w_iconst (v := nI 4) dX8_lives_167 ki_4 ?_
                          refine w_iaddN dX8_lives_168 ?_
                          refine ma_at dX8_lives_169 (by omega) ?_
                          refine w_topN (n := pr P k 4) (EP7.2 k hkP 4 (by omega) (by omega)) ?_
                          refine w_iconst (v := nI 1) dX8_lives_170 ki_1 ?_
                          refine w_iaddN dX8_lives_171 ?_
                          refine w_goto dX8_lives_172 rfl ?_
                          refine m_callPi1 (mi := miX8_behindEnds) dX8_lives_178 q2265 okX8_behindEnds rfl (Nat.le_of_ble_eq_true rfl) (c_behindEnds EP7 OP hL7 (by omega) hp0 hLb7) (Nat.le_of_ble_eq_true rfl) (fun S178 hS178 => ?_)
                          refine w_istore_n dX8_lives_181 rfl (Nat.le_of_ble_eq_true rfl) ls_4_2 ?_
                          refine w_goto dX8_lives_182 rfl ?_
                          have hl1 : (if pr P k 0 = 25 then va_up l2 k (pr P k 1 - 1) else l2) = l2 := if_neg h_122
                          have hkn : (if 2400 ≤ pr P k 0 ∧ hD (doD R (pr P k)).1 (pr P k) = 0 then pr P k 4 + 1 else k + 1) = (pr P k 4 + 1) := if_pos ⟨h_151, by have := hD_01 (doD R (pr P k)).1 (pr P k); omega⟩
                          have hE8 : EncR S178 (upC (doD R (pr P k)) 0 (fD R.1 (pr P k))) := ⟨by show EncA (mA S178 0) _; rw [hS178.2.2.2 0 (by omega)]; exact hE7.1, (hS178.2.2.1 31).trans hE7.2.1, fun i hi => by rw [hS178.2.2.2 34 (by omega)]; exact hE7.2.2 i hi⟩
                          have hb2 : lvF P j9 (beV P (pr P k 4 + 1) l2).1 (upC (doD R (pr P k)) 0 (fD R.1 (pr P k))) (beV P (pr P k 4 + 1) l2).2 (s + 1) = livesV V P lo seed := by rw [← hb, lvF, if_pos hkP, if_neg h_50, if_neg h_88, hl1, hkn]
                          exact w_L (wkS (wkS (wkS (wkN wk0)))) (ih_lp _ (upC (doD R (pr P k)) 0 (fD R.1 (pr P k))) _ (s + 1) S178 (by omega) (beF_le OP _ _ _ (by omega)) (by omega) hb2 (by omega) ⟨hO2.1, hO2.2.1, hO2.2.2.1, hO2.2.2.2.1, hO2.2.2.2.2.1, hO2.2.2.2.2.2⟩ hE8 hS178.1 (beF_lo _ _ _ hLb7) (hF7.trans hS178.2.1) ((hS178.2.2.1 32).trans h327))
                    · have h25 := hrow.2.2.2.2.2.2.2.2.2.2.1 h_122
                      refine w_aload_n dX8_lives_125 rfl ?_
                      refine mg_loops dX8_lives_126 rfl ?_
                      refine w_iload_n dX8_lives_129 rfl ?_
                      refine w_aload_n dX8_lives_130 rfl ?_
                      refine mg_at dX8_lives_131 rfl ?_
                      refine w_iload_n dX8_lives_134 rfl ?_
                      refine w_iconst (v := nI 1) dX8_lives_135 ki_1 ?_
                      refine w_iaddN dX8_lives_136 ?_
                      refine ma_at dX8_lives_137 (by omega) ?_
                      refine w_topN (n := pr P k 1) (EP6.2 k hkP 1 (by omega) (by omega)) ?_
                      refine w_iconst (v := nI 1) dX8_lives_138 ki_1 ?_
                      refine w_isubN dX8_lives_139 (by omega) ?_
                      refine ms_loops dX8_lives_140 (by omega) ?_
                      have hL7 := hL6.put (o := k) (x := pr P k 1 - 1)
                      have hF7 := hF6.trans (FrR.lo _ k (nI (pr P k 1 - 1)))
                      have hE7 : EncR (sA (sA S101 34 0 (nI (R.2.2 0 + fD R.1 (pr P k)))) 33 k (nI (pr P k 1 - 1))) (upC (doD R (pr P k)) 0 (fD R.1 (pr P k))) := ⟨hE6.1, hE6.2.1, hE6.2.2⟩
                      have h327 : mI (sA (sA S101 34 0 (nI (R.2.2 0 + fD R.1 (pr P k)))) 33 k (nI (pr P k 1 - 1))) 32 = nI (s + 1) := h326
                      have hLb7 : ∀ o, va_up l2 k (pr P k 1 - 1) o < 2147483648 := fun o => by have := hLb o; unfold va_up; split <;> omega
                      have EP7 := EP.fr hF7
                      refine w_aload_n dX8_lives_141 rfl ?_
                      refine w_aload_n dX8_lives_142 rfl ?_
                      refine mg_at dX8_lives_143 rfl ?_
                      refine w_iload_n dX8_lives_146 rfl ?_
                      refine ma_at dX8_lives_147 (by omega) ?_
                      refine w_topN (n := pr P k 0) (EP7.2 k hkP 0 (by omega) (Or.inl rfl)) ?_
                      refine w_sipush (v := nI 2400) dX8_lives_148 ks_2400 ?_
                      refine w_icmpN_lt dX8_lives_151 rfl (by omega) (by omega) (fun h_151 => ?_) (fun h_151 => ?_)
                      · refine w_iload_n dX8_lives_175 rfl ?_
                        refine w_iconst (v := nI 1) dX8_lives_176 ki_1 ?_
                        refine w_iaddN dX8_lives_177 ?_
                        refine m_callPi1 (mi := miX8_behindEnds) dX8_lives_178 q2265 okX8_behindEnds rfl (Nat.le_of_ble_eq_true rfl) (c_behindEnds EP7 OP hL7 (by omega) hp0 hLb7) (Nat.le_of_ble_eq_true rfl) (fun S178 hS178 => ?_)
                        refine w_istore_n dX8_lives_181 rfl (Nat.le_of_ble_eq_true rfl) ls_4_2 ?_
                        refine w_goto dX8_lives_182 rfl ?_
                        have hl1 : (if pr P k 0 = 25 then va_up l2 k (pr P k 1 - 1) else l2) = (va_up l2 k (pr P k 1 - 1)) := if_pos h_122
                        have hkn : (if 2400 ≤ pr P k 0 ∧ hD (doD R (pr P k)).1 (pr P k) = 0 then pr P k 4 + 1 else k + 1) = (k + 1) := if_neg (fun z => by omega)
                        have hE8 : EncR S178 (upC (doD R (pr P k)) 0 (fD R.1 (pr P k))) := ⟨by show EncA (mA S178 0) _; rw [hS178.2.2.2 0 (by omega)]; exact hE7.1, (hS178.2.2.1 31).trans hE7.2.1, fun i hi => by rw [hS178.2.2.2 34 (by omega)]; exact hE7.2.2 i hi⟩
                        have hb2 : lvF P j9 (beV P (k + 1) (va_up l2 k (pr P k 1 - 1))).1 (upC (doD R (pr P k)) 0 (fD R.1 (pr P k))) (beV P (k + 1) (va_up l2 k (pr P k 1 - 1))).2 (s + 1) = livesV V P lo seed := by rw [← hb, lvF, if_pos hkP, if_neg h_50, if_neg h_88, hl1, hkn]
                        exact w_L (wkS (wkS (wkS (wkN wk0)))) (ih_lp _ (upC (doD R (pr P k)) 0 (fD R.1 (pr P k))) _ (s + 1) S178 (by omega) (beF_le OP _ _ _ (by omega)) (by omega) hb2 (by omega) ⟨hO2.1, hO2.2.1, hO2.2.2.1, hO2.2.2.2.1, hO2.2.2.2.2.1, hO2.2.2.2.2.2⟩ hE8 hS178.1 (beF_lo _ _ _ hLb7) (hF7.trans hS178.2.1) ((hS178.2.2.1 32).trans h327))
                      · refine w_aload_n dX8_lives_154 rfl ?_
                        refine w_iload_n dX8_lives_155 rfl ?_
                        refine m_calli1 (mi := miX8_holds) dX8_lives_156 q2261 okX8_holds rfl (Nat.le_of_ble_eq_true rfl) (c_holds (show Enc _ (doD R (pr P k)).1 from hE7.1) hO2.1 EP7 OP2 hkP rfl h_151) (Nat.le_of_ble_eq_true rfl) ?_
                        refine w_ifB_ne dX8_lives_159 rfl (fun h_159 => ?_) (fun h_159 => ?_)
                        · refine w_iload_n dX8_lives_175 rfl ?_
                          refine w_iconst (v := nI 1) dX8_lives_176 ki_1 ?_
                          refine w_iaddN dX8_lives_177 ?_
                          refine m_callPi1 (mi := miX8_behindEnds) dX8_lives_178 q2265 okX8_behindEnds rfl (Nat.le_of_ble_eq_true rfl) (c_behindEnds EP7 OP hL7 (by omega) hp0 hLb7) (Nat.le_of_ble_eq_true rfl) (fun S178 hS178 => ?_)
                          refine w_istore_n dX8_lives_181 rfl (Nat.le_of_ble_eq_true rfl) ls_4_2 ?_
                          refine w_goto dX8_lives_182 rfl ?_
                          have hl1 : (if pr P k 0 = 25 then va_up l2 k (pr P k 1 - 1) else l2) = (va_up l2 k (pr P k 1 - 1)) := if_pos h_122
                          have hkn : (if 2400 ≤ pr P k 0 ∧ hD (doD R (pr P k)).1 (pr P k) = 0 then pr P k 4 + 1 else k + 1) = (k + 1) := if_neg (fun z => by omega)
                          have hE8 : EncR S178 (upC (doD R (pr P k)) 0 (fD R.1 (pr P k))) := ⟨by show EncA (mA S178 0) _; rw [hS178.2.2.2 0 (by omega)]; exact hE7.1, (hS178.2.2.1 31).trans hE7.2.1, fun i hi => by rw [hS178.2.2.2 34 (by omega)]; exact hE7.2.2 i hi⟩
                          have hb2 : lvF P j9 (beV P (k + 1) (va_up l2 k (pr P k 1 - 1))).1 (upC (doD R (pr P k)) 0 (fD R.1 (pr P k))) (beV P (k + 1) (va_up l2 k (pr P k 1 - 1))).2 (s + 1) = livesV V P lo seed := by rw [← hb, lvF, if_pos hkP, if_neg h_50, if_neg h_88, hl1, hkn]
                          exact w_L (wkS (wkS (wkS (wkN wk0)))) (ih_lp _ (upC (doD R (pr P k)) 0 (fD R.1 (pr P k))) _ (s + 1) S178 (by omega) (beF_le OP _ _ _ (by omega)) (by omega) hb2 (by omega) ⟨hO2.1, hO2.2.1, hO2.2.2.1, hO2.2.2.2.1, hO2.2.2.2.2.1, hO2.2.2.2.2.2⟩ hE8 hS178.1 (beF_lo _ _ _ hLb7) (hF7.trans hS178.2.1) ((hS178.2.2.1 32).trans h327))
                        · have hm4 := hrow.2.2.2.2.2.2.2.2.2.2.2.2 h_151
                          refine w_aload_n dX8_lives_162 rfl ?_
                          refine mg_at dX8_lives_163 rfl ?_
                          refine w_iload_n dX8_lives_166 rfl ?_
                          refine w_iconst (v := nI 4) dX8_lives_167 ki_4 ?_
                          refine w_iaddN dX8_lives_168 ?_
                          refine ma_at dX8_lives_169 (by omega) ?_
                          refine w_topN (n := pr P k 4) (EP7.2 k hkP 4 (by omega) (by omega)) ?_
                          refine w_iconst (v := nI 1) dX8_lives_170 ki_1 ?_
                          refine w_iaddN dX8_lives_171 ?_
                          refine w_goto dX8_lives_172 rfl ?_
                          refine m_callPi1 (mi := miX8_behindEnds) dX8_lives_178 q2265 okX8_behindEnds rfl (Nat.le_of_ble_eq_true rfl) (c_behindEnds EP7 OP hL7 (by omega) hp0 hLb7) (Nat.le_of_ble_eq_true rfl) (fun S178 hS178 => ?_)
                          refine w_istore_n dX8_lives_181 rfl (Nat.le_of_ble_eq_true rfl) ls_4_2 ?_
                          refine w_goto dX8_lives_182 rfl ?_
                          have hl1 : (if pr P k 0 = 25 then va_up l2 k (pr P k 1 - 1) else l2) = (va_up l2 k (pr P k 1 - 1)) := if_pos h_122
                          have hkn : (if 2400 ≤ pr P k 0 ∧ hD (doD R (pr P k)).1 (pr P k) = 0 then pr P k 4 + 1 else k + 1) = (pr P k 4 + 1) := if_pos ⟨h_151, by have := hD_01 (doD R (pr P k)).1 (pr P k); omega⟩
                          have hE8 : EncR S178 (upC (doD R (pr P k)) 0 (fD R.1 (pr P k))) := ⟨by show EncA (mA S178 0) _; rw [hS178.2.2.2 0 (by omega)]; exact hE7.1, (hS178.2.2.1 31).trans hE7.2.1, fun i hi => by rw [hS178.2.2.2 34 (by omega)]; exact hE7.2.2 i hi⟩
                          have hb2 : lvF P j9 (beV P (pr P k 4 + 1) (va_up l2 k (pr P k 1 - 1))).1 (upC (doD R (pr P k)) 0 (fD R.1 (pr P k))) (beV P (pr P k 4 + 1) (va_up l2 k (pr P k 1 - 1))).2 (s + 1) = livesV V P lo seed := by rw [← hb, lvF, if_pos hkP, if_neg h_50, if_neg h_88, hl1, hkn]
                          exact w_L (wkS (wkS (wkS (wkN wk0)))) (ih_lp _ (upC (doD R (pr P k)) 0 (fD R.1 (pr P k))) _ (s + 1) S178 (by omega) (beF_le OP _ _ _ (by omega)) (by omega) hb2 (by omega) ⟨hO2.1, hO2.2.1, hO2.2.2.1, hO2.2.2.2.1, hO2.2.2.2.2.1, hO2.2.2.2.2.2⟩ hE8 hS178.1 (beF_lo _ _ _ hLb7) (hF7.trans hS178.2.1) ((hS178.2.2.1 32).trans h327))
                  · have hfd : fD R.1 (pr P k) = 0 := h_104
                    refine w_iconst (v := nI 0) dX8_lives_107 ki_0 ?_
                    refine w_goto dX8_lives_108 rfl ?_
                    refine w_iaddN dX8_lives_112 ?_
                    refine w_topN (n := R.2.2 0 + fD R.1 (pr P k)) (by rw [hfd]) ?_
                    refine ms_ran dX8_lives_113 (by omega) ?_
                    have hE6 := hS101.2.1.cnt (i := 0) (x := R.2.2 0 + fD R.1 (pr P k)) (y := fD R.1 (pr P k)) (by omega) (by rw [doD_0])
                    have hF6 := hF5.trans (hS101.1.trans (FrR.cnt S101 0 (nI (R.2.2 0 + fD R.1 (pr P k)))))
                    have EP6 := EP.fr hF6
                    have hL6 : EncL (sA S101 34 0 (nI (R.2.2 0 + fD R.1 (pr P k)))) l2 := hL.of hS101.2.2.2
                    have h326 : mI (sA S101 34 0 (nI (R.2.2 0 + fD R.1 (pr P k)))) 32 = nI (s + 1) := hS101.2.2.1
                    refine w_aload_n dX8_lives_114 rfl ?_
                    refine mg_at dX8_lives_115 rfl ?_
                    refine w_iload_n dX8_lives_118 rfl ?_
                    refine ma_at dX8_lives_119 (by omega) ?_
                    refine w_topN (n := pr P k 0) (EP6.2 k hkP 0 (by omega) (Or.inl rfl)) ?_
                    refine w_bipush (v := nI 25) dX8_lives_120 kb_25 ?_
                    refine w_icmpN_ne dX8_lives_122 rfl (by omega) (by omega) (fun h_122 => ?_) (fun h_122 => ?_)
                    · have hL7 := hL6
                      have hF7 := hF6
                      have hE7 := hE6
                      have h327 := h326
                      have hLb7 := hLb
                      have EP7 := EP6
                      refine w_aload_n dX8_lives_141 rfl ?_
                      refine w_aload_n dX8_lives_142 rfl ?_
                      refine mg_at dX8_lives_143 rfl ?_
                      refine w_iload_n dX8_lives_146 rfl ?_
                      refine ma_at dX8_lives_147 (by omega) ?_
                      refine w_topN (n := pr P k 0) (EP7.2 k hkP 0 (by omega) (Or.inl rfl)) ?_
                      refine w_sipush (v := nI 2400) dX8_lives_148 ks_2400 ?_
                      refine w_icmpN_lt dX8_lives_151 rfl (by omega) (by omega) (fun h_151 => ?_) (fun h_151 => ?_)
                      · refine w_iload_n dX8_lives_175 rfl ?_
                        refine w_iconst (v := nI 1) dX8_lives_176 ki_1 ?_
                        refine w_iaddN dX8_lives_177 ?_
                        refine m_callPi1 (mi := miX8_behindEnds) dX8_lives_178 q2265 okX8_behindEnds rfl (Nat.le_of_ble_eq_true rfl) (c_behindEnds EP7 OP hL7 (by omega) hp0 hLb7) (Nat.le_of_ble_eq_true rfl) (fun S178 hS178 => ?_)
                        refine w_istore_n dX8_lives_181 rfl (Nat.le_of_ble_eq_true rfl) ls_4_2 ?_
                        refine w_goto dX8_lives_182 rfl ?_
                        have hl1 : (if pr P k 0 = 25 then va_up l2 k (pr P k 1 - 1) else l2) = l2 := if_neg h_122
                        have hkn : (if 2400 ≤ pr P k 0 ∧ hD (doD R (pr P k)).1 (pr P k) = 0 then pr P k 4 + 1 else k + 1) = (k + 1) := if_neg (fun z => by omega)
                        have hE8 : EncR S178 (upC (doD R (pr P k)) 0 (fD R.1 (pr P k))) := ⟨by show EncA (mA S178 0) _; rw [hS178.2.2.2 0 (by omega)]; exact hE7.1, (hS178.2.2.1 31).trans hE7.2.1, fun i hi => by rw [hS178.2.2.2 34 (by omega)]; exact hE7.2.2 i hi⟩
                        have hb2 : lvF P j9 (beV P (k + 1) l2).1 (upC (doD R (pr P k)) 0 (fD R.1 (pr P k))) (beV P (k + 1) l2).2 (s + 1) = livesV V P lo seed := by rw [← hb, lvF, if_pos hkP, if_neg h_50, if_neg h_88, hl1, hkn]
                        exact w_L (wkS (wkS (wkS (wkN wk0)))) (ih_lp _ (upC (doD R (pr P k)) 0 (fD R.1 (pr P k))) _ (s + 1) S178 (by omega) (beF_le OP _ _ _ (by omega)) (by omega) hb2 (by omega) ⟨hO2.1, hO2.2.1, hO2.2.2.1, hO2.2.2.2.1, hO2.2.2.2.2.1, hO2.2.2.2.2.2⟩ hE8 hS178.1 (beF_lo _ _ _ hLb7) (hF7.trans hS178.2.1) ((hS178.2.2.1 32).trans h327))
                      · refine w_aload_n dX8_lives_154 rfl ?_
                        refine w_iload_n dX8_lives_155 rfl ?_
                        refine m_calli1 (mi := miX8_holds) dX8_lives_156 q2261 okX8_holds rfl (Nat.le_of_ble_eq_true rfl) (c_holds (show Enc _ (doD R (pr P k)).1 from hE7.1) hO2.1 EP7 OP2 hkP rfl h_151) (Nat.le_of_ble_eq_true rfl) ?_
                        refine w_ifB_ne dX8_lives_159 rfl (fun h_159 => ?_) (fun h_159 => ?_)
                        · refine w_iload_n dX8_lives_175 rfl ?_
                          refine w_iconst (v := nI 1) dX8_lives_176 ki_1 ?_
                          refine w_iaddN dX8_lives_177 ?_
                          refine m_callPi1 (mi := miX8_behindEnds) dX8_lives_178 q2265 okX8_behindEnds rfl (Nat.le_of_ble_eq_true rfl) (c_behindEnds EP7 OP hL7 (by omega) hp0 hLb7) (Nat.le_of_ble_eq_true rfl) (fun S178 hS178 => ?_)
                          refine w_istore_n dX8_lives_181 rfl (Nat.le_of_ble_eq_true rfl) ls_4_2 ?_
                          refine w_goto dX8_lives_182 rfl ?_
                          have hl1 : (if pr P k 0 = 25 then va_up l2 k (pr P k 1 - 1) else l2) = l2 := if_neg h_122
                          have hkn : (if 2400 ≤ pr P k 0 ∧ hD (doD R (pr P k)).1 (pr P k) = 0 then pr P k 4 + 1 else k + 1) = (k + 1) := if_neg (fun z => by omega)
                          have hE8 : EncR S178 (upC (doD R (pr P k)) 0 (fD R.1 (pr P k))) := ⟨by show EncA (mA S178 0) _; rw [hS178.2.2.2 0 (by omega)]; exact hE7.1, (hS178.2.2.1 31).trans hE7.2.1, fun i hi => by rw [hS178.2.2.2 34 (by omega)]; exact hE7.2.2 i hi⟩
                          have hb2 : lvF P j9 (beV P (k + 1) l2).1 (upC (doD R (pr P k)) 0 (fD R.1 (pr P k))) (beV P (k + 1) l2).2 (s + 1) = livesV V P lo seed := by rw [← hb, lvF, if_pos hkP, if_neg h_50, if_neg h_88, hl1, hkn]
                          exact w_L (wkS (wkS (wkS (wkN wk0)))) (ih_lp _ (upC (doD R (pr P k)) 0 (fD R.1 (pr P k))) _ (s + 1) S178 (by omega) (beF_le OP _ _ _ (by omega)) (by omega) hb2 (by omega) ⟨hO2.1, hO2.2.1, hO2.2.2.1, hO2.2.2.2.1, hO2.2.2.2.2.1, hO2.2.2.2.2.2⟩ hE8 hS178.1 (beF_lo _ _ _ hLb7) (hF7.trans hS178.2.1) ((hS178.2.2.1 32).trans h327))
                        · have hm4 := hrow.2.2.2.2.2.2.2.2.2.2.2.2 h_151
                          refine w_aload_n dX8_lives_162 rfl ?_
                          refine mg_at dX8_lives_163 rfl ?_
                          refine w_iload_n dX8_lives_166 rfl ?_
                          refine w_iconst (v := nI 4) dX8_lives_167 ki_4 ?_
                          refine w_iaddN dX8_lives_168 ?_
                          refine ma_at dX8_lives_169 (by omega) ?_
                          refine w_topN (n := pr P k 4) (EP7.2 k hkP 4 (by omega) (by omega)) ?_
                          refine w_iconst (v := nI 1) dX8_lives_170 ki_1 ?_
                          refine w_iaddN dX8_lives_171 ?_
                          refine w_goto dX8_lives_172 rfl ?_
                          refine m_callPi1 (mi := miX8_behindEnds) dX8_lives_178 q2265 okX8_behindEnds rfl (Nat.le_of_ble_eq_true rfl) (c_behindEnds EP7 OP hL7 (by omega) hp0 hLb7) (Nat.le_of_ble_eq_true rfl) (fun S178 hS178 => ?_)
                          refine w_istore_n dX8_lives_181 rfl (Nat.le_of_ble_eq_true rfl) ls_4_2 ?_
                          refine w_goto dX8_lives_182 rfl ?_
                          have hl1 : (if pr P k 0 = 25 then va_up l2 k (pr P k 1 - 1) else l2) = l2 := if_neg h_122
                          have hkn : (if 2400 ≤ pr P k 0 ∧ hD (doD R (pr P k)).1 (pr P k) = 0 then pr P k 4 + 1 else k + 1) = (pr P k 4 + 1) := if_pos ⟨h_151, by have := hD_01 (doD R (pr P k)).1 (pr P k); omega⟩
                          have hE8 : EncR S178 (upC (doD R (pr P k)) 0 (fD R.1 (pr P k))) := ⟨by show EncA (mA S178 0) _; rw [hS178.2.2.2 0 (by omega)]; exact hE7.1, (hS178.2.2.1 31).trans hE7.2.1, fun i hi => by rw [hS178.2.2.2 34 (by omega)]; exact hE7.2.2 i hi⟩
                          have hb2 : lvF P j9 (beV P (pr P k 4 + 1) l2).1 (upC (doD R (pr P k)) 0 (fD R.1 (pr P k))) (beV P (pr P k 4 + 1) l2).2 (s + 1) = livesV V P lo seed := by rw [← hb, lvF, if_pos hkP, if_neg h_50, if_neg h_88, hl1, hkn]
                          exact w_L (wkS (wkS (wkS (wkN wk0)))) (ih_lp _ (upC (doD R (pr P k)) 0 (fD R.1 (pr P k))) _ (s + 1) S178 (by omega) (beF_le OP _ _ _ (by omega)) (by omega) hb2 (by omega) ⟨hO2.1, hO2.2.1, hO2.2.2.1, hO2.2.2.2.1, hO2.2.2.2.2.1, hO2.2.2.2.2.2⟩ hE8 hS178.1 (beF_lo _ _ _ hLb7) (hF7.trans hS178.2.1) ((hS178.2.2.1 32).trans h327))
                    · have h25 := hrow.2.2.2.2.2.2.2.2.2.2.1 h_122
                      refine w_aload_n dX8_lives_125 rfl ?_
                      refine mg_loops dX8_lives_126 rfl ?_
                      refine w_iload_n dX8_lives_129 rfl ?_
                      refine w_aload_n dX8_lives_130 rfl ?_
                      refine mg_at dX8_lives_131 rfl ?_
                      refine w_iload_n dX8_lives_134 rfl ?_
                      refine w_iconst (v := nI 1) dX8_lives_135 ki_1 ?_
                      refine w_iaddN dX8_lives_136 ?_
                      refine ma_at dX8_lives_137 (by omega) ?_
                      refine w_topN (n := pr P k 1) (EP6.2 k hkP 1 (by omega) (by omega)) ?_
                      refine w_iconst (v := nI 1) dX8_lives_138 ki_1 ?_
                      refine w_isubN dX8_lives_139 (by omega) ?_
                      refine ms_loops dX8_lives_140 (by omega) ?_
                      have hL7 := hL6.put (o := k) (x := pr P k 1 - 1)
                      have hF7 := hF6.trans (FrR.lo _ k (nI (pr P k 1 - 1)))
                      have hE7 : EncR (sA (sA S101 34 0 (nI (R.2.2 0 + fD R.1 (pr P k)))) 33 k (nI (pr P k 1 - 1))) (upC (doD R (pr P k)) 0 (fD R.1 (pr P k))) := ⟨hE6.1, hE6.2.1, hE6.2.2⟩
                      have h327 : mI (sA (sA S101 34 0 (nI (R.2.2 0 + fD R.1 (pr P k)))) 33 k (nI (pr P k 1 - 1))) 32 = nI (s + 1) := h326
                      have hLb7 : ∀ o, va_up l2 k (pr P k 1 - 1) o < 2147483648 := fun o => by have := hLb o; unfold va_up; split <;> omega
                      have EP7 := EP.fr hF7
                      refine w_aload_n dX8_lives_141 rfl ?_
                      refine w_aload_n dX8_lives_142 rfl ?_
                      refine mg_at dX8_lives_143 rfl ?_
                      refine w_iload_n dX8_lives_146 rfl ?_
                      refine ma_at dX8_lives_147 (by omega) ?_
                      refine w_topN (n := pr P k 0) (EP7.2 k hkP 0 (by omega) (Or.inl rfl)) ?_
                      refine w_sipush (v := nI 2400) dX8_lives_148 ks_2400 ?_
                      refine w_icmpN_lt dX8_lives_151 rfl (by omega) (by omega) (fun h_151 => ?_) (fun h_151 => ?_)
                      · refine w_iload_n dX8_lives_175 rfl ?_
                        refine w_iconst (v := nI 1) dX8_lives_176 ki_1 ?_
                        refine w_iaddN dX8_lives_177 ?_
                        refine m_callPi1 (mi := miX8_behindEnds) dX8_lives_178 q2265 okX8_behindEnds rfl (Nat.le_of_ble_eq_true rfl) (c_behindEnds EP7 OP hL7 (by omega) hp0 hLb7) (Nat.le_of_ble_eq_true rfl) (fun S178 hS178 => ?_)
                        refine w_istore_n dX8_lives_181 rfl (Nat.le_of_ble_eq_true rfl) ls_4_2 ?_
                        refine w_goto dX8_lives_182 rfl ?_
                        have hl1 : (if pr P k 0 = 25 then va_up l2 k (pr P k 1 - 1) else l2) = (va_up l2 k (pr P k 1 - 1)) := if_pos h_122
                        have hkn : (if 2400 ≤ pr P k 0 ∧ hD (doD R (pr P k)).1 (pr P k) = 0 then pr P k 4 + 1 else k + 1) = (k + 1) := if_neg (fun z => by omega)
                        have hE8 : EncR S178 (upC (doD R (pr P k)) 0 (fD R.1 (pr P k))) := ⟨by show EncA (mA S178 0) _; rw [hS178.2.2.2 0 (by omega)]; exact hE7.1, (hS178.2.2.1 31).trans hE7.2.1, fun i hi => by rw [hS178.2.2.2 34 (by omega)]; exact hE7.2.2 i hi⟩
                        have hb2 : lvF P j9 (beV P (k + 1) (va_up l2 k (pr P k 1 - 1))).1 (upC (doD R (pr P k)) 0 (fD R.1 (pr P k))) (beV P (k + 1) (va_up l2 k (pr P k 1 - 1))).2 (s + 1) = livesV V P lo seed := by rw [← hb, lvF, if_pos hkP, if_neg h_50, if_neg h_88, hl1, hkn]
                        exact w_L (wkS (wkS (wkS (wkN wk0)))) (ih_lp _ (upC (doD R (pr P k)) 0 (fD R.1 (pr P k))) _ (s + 1) S178 (by omega) (beF_le OP _ _ _ (by omega)) (by omega) hb2 (by omega) ⟨hO2.1, hO2.2.1, hO2.2.2.1, hO2.2.2.2.1, hO2.2.2.2.2.1, hO2.2.2.2.2.2⟩ hE8 hS178.1 (beF_lo _ _ _ hLb7) (hF7.trans hS178.2.1) ((hS178.2.2.1 32).trans h327))
                      · refine w_aload_n dX8_lives_154 rfl ?_
                        refine w_iload_n dX8_lives_155 rfl ?_
                        refine m_calli1 (mi := miX8_holds) dX8_lives_156 q2261 okX8_holds rfl (Nat.le_of_ble_eq_true rfl) (c_holds (show Enc _ (doD R (pr P k)).1 from hE7.1) hO2.1 EP7 OP2 hkP rfl h_151) (Nat.le_of_ble_eq_true rfl) ?_
                        refine w_ifB_ne dX8_lives_159 rfl (fun h_159 => ?_) (fun h_159 => ?_)
                        · refine w_iload_n dX8_lives_175 rfl ?_
                          refine w_iconst (v := nI 1) dX8_lives_176 ki_1 ?_
                          refine w_iaddN dX8_lives_177 ?_
                          refine m_callPi1 (mi := miX8_behindEnds) dX8_lives_178 q2265 okX8_behindEnds rfl (Nat.le_of_ble_eq_true rfl) (c_behindEnds EP7 OP hL7 (by omega) hp0 hLb7) (Nat.le_of_ble_eq_true rfl) (fun S178 hS178 => ?_)
                          refine w_istore_n dX8_lives_181 rfl (Nat.le_of_ble_eq_true rfl) ls_4_2 ?_
                          refine w_goto dX8_lives_182 rfl ?_
                          have hl1 : (if pr P k 0 = 25 then va_up l2 k (pr P k 1 - 1) else l2) = (va_up l2 k (pr P k 1 - 1)) := if_pos h_122
                          have hkn : (if 2400 ≤ pr P k 0 ∧ hD (doD R (pr P k)).1 (pr P k) = 0 then pr P k 4 + 1 else k + 1) = (k + 1) := if_neg (fun z => by omega)
                          have hE8 : EncR S178 (upC (doD R (pr P k)) 0 (fD R.1 (pr P k))) := ⟨by show EncA (mA S178 0) _; rw [hS178.2.2.2 0 (by omega)]; exact hE7.1, (hS178.2.2.1 31).trans hE7.2.1, fun i hi => by rw [hS178.2.2.2 34 (by omega)]; exact hE7.2.2 i hi⟩
                          have hb2 : lvF P j9 (beV P (k + 1) (va_up l2 k (pr P k 1 - 1))).1 (upC (doD R (pr P k)) 0 (fD R.1 (pr P k))) (beV P (k + 1) (va_up l2 k (pr P k 1 - 1))).2 (s + 1) = livesV V P lo seed := by rw [← hb, lvF, if_pos hkP, if_neg h_50, if_neg h_88, hl1, hkn]
                          exact w_L (wkS (wkS (wkS (wkN wk0)))) (ih_lp _ (upC (doD R (pr P k)) 0 (fD R.1 (pr P k))) _ (s + 1) S178 (by omega) (beF_le OP _ _ _ (by omega)) (by omega) hb2 (by omega) ⟨hO2.1, hO2.2.1, hO2.2.2.1, hO2.2.2.2.1, hO2.2.2.2.2.1, hO2.2.2.2.2.2⟩ hE8 hS178.1 (beF_lo _ _ _ hLb7) (hF7.trans hS178.2.1) ((hS178.2.2.1 32).trans h327))
                        · have hm4 := hrow.2.2.2.2.2.2.2.2.2.2.2.2 h_151
                          refine w_aload_n dX8_lives_162 rfl ?_
                          refine mg_at dX8_lives_163 rfl ?_
                          refine w_iload_n dX8_lives_166 rfl ?_
                          refine w_iconst (v := nI 4) dX8_lives_167 ki_4 ?_
                          refine w_iaddN dX8_lives_168 ?_
                          refine ma_at dX8_lives_169 (by omega) ?_
                          refine w_topN (n := pr P k 4) (EP7.2 k hkP 4 (by omega) (by omega)) ?_
                          refine w_iconst (v := nI 1) dX8_lives_170 ki_1 ?_
                          refine w_iaddN dX8_lives_171 ?_
                          refine w_goto dX8_lives_172 rfl ?_
                          refine m_callPi1 (mi := miX8_behindEnds) dX8_lives_178 q2265 okX8_behindEnds rfl (Nat.le_of_ble_eq_true rfl) (c_behindEnds EP7 OP hL7 (by omega) hp0 hLb7) (Nat.le_of_ble_eq_true rfl) (fun S178 hS178 => ?_)
                          refine w_istore_n dX8_lives_181 rfl (Nat.le_of_ble_eq_true rfl) ls_4_2 ?_
                          refine w_goto dX8_lives_182 rfl ?_
                          have hl1 : (if pr P k 0 = 25 then va_up l2 k (pr P k 1 - 1) else l2) = (va_up l2 k (pr P k 1 - 1)) := if_pos h_122
                          have hkn : (if 2400 ≤ pr P k 0 ∧ hD (doD R (pr P k)).1 (pr P k) = 0 then pr P k 4 + 1 else k + 1) = (pr P k 4 + 1) := if_pos ⟨h_151, by have := hD_01 (doD R (pr P k)).1 (pr P k); omega⟩
                          have hE8 : EncR S178 (upC (doD R (pr P k)) 0 (fD R.1 (pr P k))) := ⟨by show EncA (mA S178 0) _; rw [hS178.2.2.2 0 (by omega)]; exact hE7.1, (hS178.2.2.1 31).trans hE7.2.1, fun i hi => by rw [hS178.2.2.2 34 (by omega)]; exact hE7.2.2 i hi⟩
                          have hb2 : lvF P j9 (beV P (pr P k 4 + 1) (va_up l2 k (pr P k 1 - 1))).1 (upC (doD R (pr P k)) 0 (fD R.1 (pr P k))) (beV P (pr P k 4 + 1) (va_up l2 k (pr P k 1 - 1))).2 (s + 1) = livesV V P lo seed := by rw [← hb, lvF, if_pos hkP, if_neg h_50, if_neg h_88, hl1, hkn]
                          exact w_L (wkS (wkS (wkS (wkN wk0)))) (ih_lp _ (upC (doD R (pr P k)) 0 (fD R.1 (pr P k))) _ (s + 1) S178 (by omega) (beF_le OP _ _ _ (by omega)) (by omega) hb2 (by omega) ⟨hO2.1, hO2.2.1, hO2.2.2.1, hO2.2.2.2.1, hO2.2.2.2.2.1, hO2.2.2.2.2.2⟩ hE8 hS178.1 (beF_lo _ _ _ hLb7) (hF7.trans hS178.2.1) ((hS178.2.2.1 32).trans h327))
                · have hout : livesV V P lo seed = (R, l2, s + 1) := by rw [← hb, lvF, if_pos hkP, if_neg h_50, if_pos h_88]
                  exact w_vret dX8_lives_91 rfl ⟨by rfl, _, by rw [hout]; exact ⟨hF5, hE5, hL, rfl⟩, rfl⟩
              · have hout : livesV V P lo seed = ((R.1, R.2.1, va_up R.2.2 4 1), l2, s) := by rw [← hb, lvF, if_pos hkP, if_pos h_50]
                refine w_aload_n dX8_lives_53 rfl ?_
                refine mg_ran dX8_lives_54 rfl ?_
                refine w_iconst (v := nI 4) dX8_lives_57 ki_4 ?_
                refine w_iconst (v := nI 1) dX8_lives_58 ki_1 ?_
                refine ms_ran dX8_lives_59 (by omega) ?_
                exact w_vret dX8_lives_60 rfl ⟨by rfl, _, by rw [hout]; exact ⟨hF.trans (FrR.cnt _ _ _), ER4.put (by omega), hL, h32⟩, rfl⟩
        exact w_L (wkS (wkS (wkS (wkN wk0)))) (lp 301 0 (V, seed, fun _ => 0) lo 0 S3 (by omega) (by omega) (by omega) rfl (by omega) ⟨K, hkep, hse, rfl, rfl, rfl⟩ ⟨E3, h31, fun i hi => h34 i (by omega)⟩ (EL.of h33) hlo hF3 h32)
      · refine w_aload_n dX8_lives_17 rfl ?_
        refine mg_ran dX8_lives_18 rfl ?_
        refine w_iload_n dX8_lives_21 rfl ?_
        refine w_iconst (v := nI 0) dX8_lives_22 ki_0 ?_
        refine ms_ran dX8_lives_23 (by omega) ?_
        refine w_iinc dX8_lives_24 rfl (nI_inc _ 1) rfl (Nat.le_of_ble_eq_true rfl) ls_4_2 ?_
        refine w_goto dX8_lives_27 rfl ?_
        exact ih_lr (j + 1) _ (by omega) (by omega) (hF3.trans (FrR.cnt _ _ _)) E3 h31 h32 h33 (fun i hi => by
          show upd (mA S3 34) j (nI 0) i = nI 0
          unfold upd
          by_cases h : i = j
          · rw [if_pos h]
          · rw [if_neg h]; exact h34 i (by omega))
  exact lr 6 0 _ (by omega) (by omega) ((FrR.i31 S (nI seed)).trans (FrR.i32 _ (nI 0))) E rfl rfl rfl (fun i hi => absurd hi (Nat.not_lt_zero i))
