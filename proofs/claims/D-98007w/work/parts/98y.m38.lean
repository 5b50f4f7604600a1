set_option maxRecDepth 100000
def P_mean (V : VS) (P : PG) (lo : Nat → Nat) (S S2 : MS) (x y z : Int32) : Prop := if w_mean V P x y z = 0 then ∃ S4, S2 = tellS S4 (mnV V P (cl x) (cl y) lo (cl z)).2 (cl z) ∧ FrM S S4 ∧ EncL S4 (mnV V P (cl x) (cl y) lo (cl z)).1 else S2 = sI S 2 (nI (w_mean V P x y z))
set_option maxHeartbeats 4000000 in
theorem c_mean {g : GG} {S : MS} {x : Int32} {y : Int32} {z : Int32} {P : PG} {lo : Nat → Nat} {V : VS} (E : Enc S V) (K : OkV V) (hkep : KepV V) (EP : EncP S P) (OP : OkP (vs V 0) (vs V 1) (vs V 2) P) (EL : EncL S lo) (hlo : ∀ o, lo o < 2147483648) : Mp g miX8_mean 9 [.int x, .int y, .int z] (S) (some (.int (bP (nI (w_mean V P x y z) = 0)))) (fun S2 => P_mean V P lo S S2 x y z) := by
  refine Mp.start (fun b => [some (.ref b), some (.int x), some (.int y), some (.int z), none, none, none, none]) plX8 rfl (fun b => (Nat.le_of_ble_eq_true rfl)) (fun b => rfl) ?_
  intro σ b
  have kb := K.b
  have hpn := OP.1
  refine w_aload_n dX8_mean_0 rfl ?_
  refine w_iload_n dX8_mean_1 rfl ?_
  refine m_calli1 (mi := miX8_isFinder) dX8_mean_2 q1875 okX8_isFinder rfl (Nat.le_of_ble_eq_true rfl) (c_isFinder E K) (Nat.le_of_ble_eq_true rfl) ?_
  refine w_ifB_eq dX8_mean_5 rfl (fun h_5 => ?_) (fun h_5 => ?_)
  · have hno : w_mean V P x y z = 1 := if_neg (fun u => h_5 u.1)
    refine w_aload_n dX8_mean_43 rfl ?_
    refine w_iconst (v := nI 1) dX8_mean_44 ki_1 ?_
    refine m_calli1 (mi := miX8_is) dX8_mean_45 q1686 okX8_is rfl (Nat.le_of_ble_eq_true rfl) c_is (Nat.le_of_ble_eq_true rfl) ?_
    exact w_zret dX8_mean_48 rfl narrB ⟨by rw [hno], _, by show P_mean V P lo S _ _ _ _; unfold P_mean; rw [hno, if_neg (by decide)], rfl⟩
  · obtain ⟨f, hf, rfl⟩ := inN_of h_5 (by omega)
    have hclf : cl (nI f) = f := nI_clamp (by omega)
    refine w_iload_n dX8_mean_8 rfl ?_
    refine w_i2l dX8_mean_9 rfl ?_
    refine w_lconst (v := 0) dX8_mean_10 rfl ?_
    refine w_ldc2 dX8_mean_11 q2243 ?_
    refine s_calli3 (mi := miX8_isFrom) dX8_mean_14 q1902 okX8_isFrom (Nat.le_of_ble_eq_true rfl) (c_isFrom0 (m := 9999) (by first | assumption | omega)) (Nat.le_of_ble_eq_true rfl) ?_
    refine w_ifB_eq dX8_mean_17 rfl (fun h_17 => ?_) (fun h_17 => ?_)
    · have hno : w_mean V P (nI f) y z = 1 := if_neg (fun u => h_17 u.2.1)
      refine w_aload_n dX8_mean_43 rfl ?_
      refine w_iconst (v := nI 1) dX8_mean_44 ki_1 ?_
      refine m_calli1 (mi := miX8_is) dX8_mean_45 q1686 okX8_is rfl (Nat.le_of_ble_eq_true rfl) c_is (Nat.le_of_ble_eq_true rfl) ?_
      exact w_zret dX8_mean_48 rfl narrB ⟨by rw [hno], _, by show P_mean V P lo S _ _ _ _; unfold P_mean; rw [hno, if_neg (by decide)], rfl⟩
    · obtain ⟨q, hq, rfl⟩ := inN_of h_17 (by omega)
      have hclq : cl (nI q) = q := nI_clamp (by omega)
      refine w_iload_n dX8_mean_20 rfl ?_
      refine w_i2l dX8_mean_21 rfl ?_
      refine w_lconst (v := 1) dX8_mean_22 rfl ?_
      refine w_ldc2 dX8_mean_23 q2277 ?_
      refine s_calli3 (mi := miX8_isFrom) dX8_mean_26 q1902 okX8_isFrom (Nat.le_of_ble_eq_true rfl) (c_isFrom1 (m := 20) (by first | assumption | omega)) (Nat.le_of_ble_eq_true rfl) ?_
      refine w_ifB_eq dX8_mean_29 rfl (fun h_29 => ?_) (fun h_29 => ?_)
      · have hno : w_mean V P (nI f) (nI q) z = 1 := if_neg (fun u => h_29 ⟨u.2.2.1, u.2.2.2.1⟩)
        refine w_aload_n dX8_mean_43 rfl ?_
        refine w_iconst (v := nI 1) dX8_mean_44 ki_1 ?_
        refine m_calli1 (mi := miX8_is) dX8_mean_45 q1686 okX8_is rfl (Nat.le_of_ble_eq_true rfl) c_is (Nat.le_of_ble_eq_true rfl) ?_
        exact w_zret dX8_mean_48 rfl narrB ⟨by rw [hno], _, by show P_mean V P lo S _ _ _ _; unfold P_mean; rw [hno, if_neg (by decide)], rfl⟩
      · obtain ⟨m, hm, rfl⟩ := inN_of h_29.1 (by omega)
        have hclm : cl (nI m) = m := nI_clamp (by omega)
        have hm0 : 0 < m := by
          rcases Nat.eq_zero_or_pos m with u | u
          · exact absurd (by rw [u]) h_29.2
          · exact u
        refine w_iload_n dX8_mean_32 rfl ?_
        refine w_iload_n dX8_mean_33 rfl ?_
        refine w_iaddN dX8_mean_34 ?_
        refine w_iconst (v := nI 1) dX8_mean_35 ki_1 ?_
        refine w_isubN dX8_mean_36 (by omega) ?_
        refine w_sipush (v := nI 9999) dX8_mean_37 ks_9999 ?_
        refine w_icmpN_le dX8_mean_40 rfl (by omega) (by omega) (fun h_40 => ?_) (fun h_40 => ?_)
        · have hyes : w_mean V P (nI f) (nI q) (nI m) = if pn P = 0 then 6 else 0 := if_pos ⟨h_5, h_17, h_29.1, h_29.2, by rw [hclq, hclm]; omega⟩
          refine w_aload_n dX8_mean_49 rfl ?_
          refine mg_at dX8_mean_50 rfl ?_
          refine w_bipush (v := nI 9) dX8_mean_53 kb_9 ?_
          refine ma_at dX8_mean_55 (by omega) ?_
          rw [EP.1]
          refine w_iconst (v := (-1)) dX8_mean_56 ki_m1 ?_
          refine w_icmp_ne dX8_mean_57 rfl (fun h_57 => ?_) (fun h_57 => ?_)
          · have hp0 : 0 < pn P := by
              rcases Nat.eq_zero_or_pos (pn P) with u | u
              · exact absurd (by rw [u]; decide) h_57
              · exact u
            have hw0 : w_mean V P (nI f) (nI q) (nI m) = 0 := by rw [hyes, if_neg (by omega)]
            refine w_iconst (v := nI 0) dX8_mean_67 ki_0 ?_
            refine w_istore dX8_mean_68 rfl (Nat.le_of_ble_eq_true rfl) ls_8_4 ?_
            have lw : ∀ (j9 : Nat) (k : Nat), 1030 - k < j9 → k ≤ 1030 → Wp g (mtP g miX8_mean 9 σ b (some (.int (bP (nI (w_mean V P (nI f) (nI q) (nI m)) = 0)))) (fun S2 => P_mean V P lo S S2 (nI f) (nI q) (nI m))) 0 0 70 [some (.ref b), some (.int (nI f)), some (.int (nI q)), some (.int (nI m)), some (.int (nI k)), none, none, none] [] (sM g σ b ((setAt S (cpW (mA S 0) k)))) := by
              intro j9
              induction j9 with
              | zero => intro k hmu hk; exact absurd hmu (Nat.not_lt_zero _)
              | succ j9 ih_lw =>
                intro k hmu hk
                refine w_iload dX8_mean_70 rfl ?_
                refine w_sipush (v := nI 1030) dX8_mean_72 ks_1030 ?_
                refine w_icmpN_ge dX8_mean_75 rfl (by omega) (by omega) (fun h_75 => ?_) (fun h_75 => ?_)
                · obtain rfl : k = 1030 := by omega
                  refine w_lconst (v := 0) dX8_mean_102 rfl ?_
                  refine w_lstore dX8_mean_103 rfl (Nat.le_of_ble_eq_true rfl) ls2_8_4 ?_
                  refine w_iconst (v := nI 0) dX8_mean_105 ki_0 ?_
                  refine w_istore dX8_mean_106 rfl (Nat.le_of_ble_eq_true rfl) ls_8_6 ?_
                  have hs0 := FrM.start S
                  have lp : ∀ (j9 : Nat) (i : Nat) (S4 : MS), m - i < j9 → i ≤ m → FrM S S4 → (∀ k, k < 1030 → mA S4 0 (7000 + k) = mA S 0 k) → EncL S4 (mnV V P f q lo i).1 → Wp g (mtP g miX8_mean 9 σ b (some (.int (bP (nI (w_mean V P (nI f) (nI q) (nI m)) = 0)))) (fun S2 => P_mean V P lo S S2 (nI f) (nI q) (nI m))) 0 0 108 [some (.ref b), some (.int (nI f)), some (.int (nI q)), some (.int (nI m)), some (.long (lN (mnV V P f q lo i).2)), none, some (.int (nI i)), none] [] (sM g σ b (S4)) := by
                    intro j9
                    induction j9 with
                    | zero => intro i S4 hmu hi hF h7 hL; exact absurd hmu (Nat.not_lt_zero _)
                    | succ j9 ih_lp =>
                      intro i S4 hmu hi hF h7 hL
                      have hmn := mnV_le (seed := q) K hkep OP hf hlo i (by omega)
                      have hRo := livesV_ok (lo := (mnV V P f q lo i).1) (seed := q + i) K hkep OP (by omega)
                      have hk4 := (hRo.1.f (f := f) (by rw [hRo.2.2.2.2.1]; exact hf)).2.2.2.2.2
                      refine w_iload dX8_mean_108 rfl ?_
                      refine w_iload_n dX8_mean_110 rfl ?_
                      refine w_icmpN_ge dX8_mean_111 rfl (by omega) (by omega) (fun h_111 => ?_) (fun h_111 => ?_)
                      · obtain rfl : i = m := by omega
                        refine w_aload_n dX8_mean_180 rfl ?_
                        refine w_lload dX8_mean_181 rfl ?_
                        refine w_iload_n dX8_mean_183 rfl ?_
                        refine w_i2l dX8_mean_184 rfl ?_
                        rw [nI_l (by omega)]
                        refine m_calli2 (mi := miX8_tellsBy) dX8_mean_185 q2230 okX8_tellsBy rfl (Nat.le_of_ble_eq_true rfl) (c_tellsBy (n := (mnV V P f q lo i).2) (d := i) hm0 (by have := hmn.1; omega) (by omega)) (Nat.le_of_ble_eq_true rfl) ?_
                        exact w_zret dX8_mean_188 rfl narrB ⟨by rw [hw0], _, by show P_mean V P lo S _ _ _ _; unfold P_mean; rw [if_pos hw0, hclf, hclq, hclm]; exact ⟨S4, rfl, hF, hL⟩, rfl⟩
                      · refine w_aload_n dX8_mean_114 rfl ?_
                        refine w_iload_n dX8_mean_115 rfl ?_
                        refine w_iload dX8_mean_116 rfl ?_
                        refine w_iaddN dX8_mean_118 ?_
                        refine m_callPv1 (mi := miX8_lives) dX8_mean_119 q2244 okX8_lives rfl (Nat.le_of_ble_eq_true rfl) (c_lives (lo := (mnV V P f q lo i).1) (hF.E K E) K hkep (hF.P hpn EP) OP hL hmn.2 hp0 (by omega)) (Nat.le_of_ble_eq_true rfl) (fun S119 hS119 => ?_)
                        refine w_lload dX8_mean_122 rfl ?_
                        refine w_aload_n dX8_mean_124 rfl ?_
                        refine mg_at dX8_mean_125 rfl ?_
                        refine w_iload_n dX8_mean_128 rfl ?_
                        refine s_calli1 (mi := miX8_finderRow) dX8_mean_129 q1879 okX8_finderRow (Nat.le_of_ble_eq_true rfl) c_finderRow (Nat.le_of_ble_eq_true rfl) ?_
                        refine w_iconst (v := nI 4) dX8_mean_132 ki_4 ?_
                        refine w_iaddN dX8_mean_133 ?_
                        refine ma_at dX8_mean_134 (by omega) ?_
                        refine w_topN (n := vt (livesV V P (mnV V P f q lo i).1 (q + i)).1.1 4 f) (hS119.2.1.1.f 4 (by omega) (by omega)) ?_
                        refine w_i2l dX8_mean_135 rfl ?_
                        rw [nI_l (by omega)]
                        refine w_ladd dX8_mean_136 ?_
                        rw [lN_add]
                        refine w_lstore dX8_mean_137 rfl (Nat.le_of_ble_eq_true rfl) ls2_8_4 ?_
                        refine w_iconst (v := nI 0) dX8_mean_139 ki_0 ?_
                        refine w_istore dX8_mean_140 rfl (Nat.le_of_ble_eq_true rfl) ls_8_7 ?_
                        have lv : ∀ (j9 : Nat) (k : Nat), 1030 - k < j9 → k ≤ 1030 → Wp g (mtP g miX8_mean 9 σ b (some (.int (bP (nI (w_mean V P (nI f) (nI q) (nI m)) = 0)))) (fun S2 => P_mean V P lo S S2 (nI f) (nI q) (nI m))) 0 0 142 [some (.ref b), some (.int (nI f)), some (.int (nI q)), some (.int (nI m)), some (.long (lN (mnV V P f q lo (i + 1)).2)), none, some (.int (nI i)), some (.int (nI k))] [] (sM g σ b ((setAt S119 (cpV (mA S119 0) k)))) := by
                          intro j9
                          induction j9 with
                          | zero => intro k hmu hk; exact absurd hmu (Nat.not_lt_zero _)
                          | succ j9 ih_lv =>
                            intro k hmu hk
                            refine w_iload dX8_mean_142 rfl ?_
                            refine w_sipush (v := nI 1030) dX8_mean_144 ks_1030 ?_
                            refine w_icmpN_ge dX8_mean_147 rfl (by omega) (by omega) (fun h_147 => ?_) (fun h_147 => ?_)
                            · obtain rfl : k = 1030 := by omega
                              refine w_iinc dX8_mean_174 rfl (nI_inc _ 1) rfl (Nat.le_of_ble_eq_true rfl) ls_8_6 ?_
                              refine w_goto dX8_mean_177 rfl ?_
                              refine w_L (wkS (wkS (wkS (wkS (wkS (wkS (wkS (wkN wk0)))))))) ?_
                              have hbk := hF.back h7 hS119.1
                              exact ih_lp (i + 1) _ (by omega) (by omega) hbk.1 hbk.2 (hS119.2.2.1.of (setAt_ne (by decide)))
                            · refine w_aload_n dX8_mean_150 rfl ?_
                              refine mg_at dX8_mean_151 rfl ?_
                              refine w_iload dX8_mean_154 rfl ?_
                              refine w_aload_n dX8_mean_156 rfl ?_
                              refine mg_at dX8_mean_157 rfl ?_
                              refine w_sipush (v := nI 7000) dX8_mean_160 ks_7000 ?_
                              refine w_iload dX8_mean_163 rfl ?_
                              refine w_iaddN dX8_mean_165 ?_
                              refine ma_at dX8_mean_166 (by omega) ?_
                              refine ms_at dX8_mean_167 (by omega) ?_
                              refine w_iinc dX8_mean_168 rfl (nI_inc _ 1) rfl (Nat.le_of_ble_eq_true rfl) ls_8_7 ?_
                              refine w_goto dX8_mean_171 rfl ?_
                              rw [setAt_s, show mA (setAt S119 (cpV (mA S119 0) k)) 0 (7000 + k) = cpV (mA S119 0) k (7000 + k) from rfl, cpV_s _ _ (by omega)]
                              exact ih_lv (k + 1) (by omega) (by omega)
                        exact w_as (lv 1031 0 (by omega) (by omega)) rfl rfl (by rw [cpV_0, setAt_0])
                  exact lp (m + 1) 0 _ (by omega) (by omega) hs0.1 hs0.2 (EL.of (setAt_ne (by decide)))
                · refine w_aload_n dX8_mean_78 rfl ?_
                  refine mg_at dX8_mean_79 rfl ?_
                  refine w_sipush (v := nI 7000) dX8_mean_82 ks_7000 ?_
                  refine w_iload dX8_mean_85 rfl ?_
                  refine w_iaddN dX8_mean_87 ?_
                  refine w_aload_n dX8_mean_88 rfl ?_
                  refine mg_at dX8_mean_89 rfl ?_
                  refine w_iload dX8_mean_92 rfl ?_
                  refine ma_at dX8_mean_94 (by omega) ?_
                  refine ms_at dX8_mean_95 (by omega) ?_
                  refine w_iinc dX8_mean_96 rfl (nI_inc _ 1) rfl (Nat.le_of_ble_eq_true rfl) ls_8_4 ?_
                  refine w_goto dX8_mean_99 rfl ?_
                  rw [setAt_s, show mA (setAt S (cpW (mA S 0) k)) 0 k = cpW (mA S 0) k k from rfl, cpW_s _ _ (by omega)]
                  exact ih_lw (k + 1) (by omega) (by omega)
            exact w_as (lw 1031 0 (by omega) (by omega)) rfl rfl (by rw [cpW_0, setAt_0])
          · have hp0 : pn P = 0 := by
              rcases Nat.eq_zero_or_pos (pn P) with u | u
              · exact u
              · exfalso
                rw [pk_sub (by omega)] at h_57
                exact nI_nm1 (by omega) h_57
            have hw6 : w_mean V P (nI f) (nI q) (nI m) = 6 := by rw [hyes, if_pos hp0]
            refine w_aload_n dX8_mean_60 rfl ?_
            refine w_bipush (v := nI 6) dX8_mean_61 kb_6 ?_
            refine m_calli1 (mi := miX8_is) dX8_mean_63 q1686 okX8_is rfl (Nat.le_of_ble_eq_true rfl) c_is (Nat.le_of_ble_eq_true rfl) ?_
            exact w_zret dX8_mean_66 rfl narrB ⟨by rw [hw6], _, by show P_mean V P lo S _ _ _ _; unfold P_mean; rw [hw6, if_neg (by decide)], rfl⟩
        · have hno : w_mean V P (nI f) (nI q) (nI m) = 1 := if_neg (fun u => by have := u.2.2.2.2; rw [hclq, hclm] at this; omega)
          refine w_aload_n dX8_mean_43 rfl ?_
          refine w_iconst (v := nI 1) dX8_mean_44 ki_1 ?_
          refine m_calli1 (mi := miX8_is) dX8_mean_45 q1686 okX8_is rfl (Nat.le_of_ble_eq_true rfl) c_is (Nat.le_of_ble_eq_true rfl) ?_
          exact w_zret dX8_mean_48 rfl narrB ⟨by rw [hno], _, by show P_mean V P lo S _ _ _ _; unfold P_mean; rw [hno, if_neg (by decide)], rfl⟩
