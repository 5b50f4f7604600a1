set_option maxRecDepth 100000
abbrev inG (v : Int64) : Prop := ¬ lg_cmp v (0 : Int64) < 0 ∧ ¬ 0 < lg_cmp v (lN 60)
def gN (T : TS) (t d : Nat) : Nat := cl (tv T t d).toInt32
theorem inG_of {v : Int64} (h : inG v) : ∃ m, m ≤ 60 ∧ v = lN m := by
  obtain ⟨h1, h2⟩ := h
  rw [Int32.not_lt, lg_cmp_ge, Int64.le_iff_toInt_le] at h1
  rw [Int32.not_lt, lg_cmp_le, Int64.le_iff_toInt_le, lN_toInt (by omega)] at h2
  rw [show (0 : Int64) = lN 0 from rfl, lN_toInt (by omega)] at h1
  refine ⟨v.toInt.toNat, by omega, ?_⟩
  rw [← Int64.toInt_inj, lN_toInt (by omega)]
  omega
theorem gN_of {T : TS} {t d : Nat} (h : inG (tv T t d)) : (tv T t d).toInt32 = nI (gN T t d) ∧ gN T t d ≤ 60 := by
  obtain ⟨m, hm, h2⟩ := inG_of h
  unfold gN
  rw [h2, lN_i]
  have : cl (nI m) = m := nI_clamp (by omega)
  rw [this]
  exact ⟨rfl, hm⟩
theorem max_sub0 {a b : Nat} (ha : a < 1000000) (hb : b < 1000000) : (if nI 0 < nI a - nI b then nI a - nI b else nI 0) = nI (a - b) := by
  have h : (nI a - nI b).toInt = (a : Int) - b := pk_sub_toInt (by omega) (by omega)
  by_cases h1 : b < a
  · rw [if_pos (by rw [Int32.lt_iff_toInt_lt, h, nI_toInt (by omega)]; omega), pk_sub (by omega)]
  · rw [if_neg (by rw [Int32.lt_iff_toInt_lt, h, nI_toInt (by omega)]; omega), show a - b = 0 by omega]
def gSum (T : TS) (t k : Nat) : Nat := foldN (fun d c => c + gN T t d) 0 k
def gNew (V : VS) (T : TS) (t k : Nat) : Nat := foldN (fun d c => c + (gN T t d - vt V 7 d)) 0 k
def q_gulls (V : VS) (T : TS) (x : Int32) : AS := if inN x 4 then (if tm T (cl x) = 0 then noA 2 else if tm T (cl x) - 1 < vs V 2 then noA 3 else if ∀ d, d < vs V 2 → inG (tv T (cl x) d) then (if (∀ d, d < vs V 2 → gN T (cl x) d = 0 ∨ isT V d) ∧ gSum T (cl x) (vs V 2) = vs V 8 then okA (gNew V T (cl x) (vs V 2)) else noA 7) else noA 5) else noA 1
set_option maxHeartbeats 4000000 in
theorem c_gulls {g : GG} {S : MS} {x : Int32} {T : TS} {V : VS} (E : Enc S V) (K : OkV V) (ET : EncT S T) (O : OkT T) : Mt g miX8_gulls 3 [.int x] (S) (some (.int ((q_gulls V T x).1))) (sI S 2 (q_gulls V T x).2) := by
  refine Mt.start (fun b => [some (.ref b), some (.int x), none, none, none, none]) plX8 rfl (fun b => (Nat.le_of_ble_eq_true rfl)) (fun b => rfl) ?_
  intro σ b
  have kb := K.b
  refine w_iload_n dX8_gulls_0 rfl ?_
  refine s_calli1 (mi := miX8_isTray) dX8_gulls_1 q1683 okX8_isTray (Nat.le_of_ble_eq_true rfl) c_isTray (Nat.le_of_ble_eq_true rfl) ?_
  refine w_ifB_ne dX8_gulls_4 rfl (fun h_4 => ?_) (fun h_4 => ?_)
  · obtain ⟨t, ht4, rfl⟩ := inN_of h_4 (by omega)
    have hcl_t : cl (nI t) = t := nI_clamp (by omega)
    have hx_t : inN (nI t) 4 := inN_nI ht4 (by omega)
    obtain ⟨e5_t, e6_t, e7_t⟩ := ET t ht4
    obtain ⟨o5_t, o6_t⟩ := O t ht4
    refine w_aload_n dX8_gulls_13 rfl ?_
    refine mg_trayMany dX8_gulls_14 rfl ?_
    refine w_iload_n dX8_gulls_17 rfl ?_
    refine ma_trayMany dX8_gulls_18 (by omega) ?_
    rw [e6_t]
    refine w_iconst (v := (-1)) dX8_gulls_19 ki_m1 ?_
    refine w_icmp_ne dX8_gulls_20 rfl (fun h_20 => ?_) (fun h_20 => ?_)
    · have h_20 : tm T t ≠ 0 := mt (m1_iff (by omega)).mpr h_20
      obtain ⟨m, hm⟩ : ∃ m, tm T t = m + 1 := ⟨tm T t - 1, by omega⟩
      rw [hm, nI_dn] at e6_t
      refine w_aload_n dX8_gulls_29 rfl ?_
      refine mg_trayMany dX8_gulls_30 rfl ?_
      refine w_iload_n dX8_gulls_33 rfl ?_
      refine ma_trayMany dX8_gulls_34 (by omega) ?_
      rw [e6_t]
      refine w_aload_n dX8_gulls_35 rfl ?_
      refine mg_at dX8_gulls_36 rfl ?_
      refine w_iconst (v := nI 2) dX8_gulls_39 ki_2 ?_
      refine ma_at dX8_gulls_40 (by omega) ?_
      refine w_topN (E.s 2 (by omega)) ?_
      refine w_icmpN_ge dX8_gulls_41 rfl (by omega) (by omega) (fun h_41 => ?_) (fun h_41 => ?_)
      · refine w_iconst (v := nI 0) dX8_gulls_50 ki_0 ?_
        refine w_istore_n dX8_gulls_51 rfl (Nat.le_of_ble_eq_true rfl) ls_6_2 ?_
        have lo : ∀ (j9 : Nat) (k : Nat), vs V 2 - k < j9 → k ≤ vs V 2 → (∀ d, d < k → inG (tv T t d)) → Wp g (mtM g miX8_gulls 3 σ b (some (.int ((q_gulls V T (nI t)).1))) (sI S 2 (q_gulls V T (nI t)).2)) 0 0 52 [some (.ref b), some (.int (nI t)), some (.int (nI k)), none, none, none] [] (sM g σ b (S)) := by
          intro j9
          induction j9 with
          | zero => intro k hmu hk hg; exact absurd hmu (Nat.not_lt_zero _)
          | succ j9 ih_lo =>
            intro k hmu hk hg
            refine w_iload_n dX8_gulls_52 rfl ?_
            refine w_aload_n dX8_gulls_53 rfl ?_
            refine mg_at dX8_gulls_54 rfl ?_
            refine w_iconst (v := nI 2) dX8_gulls_57 ki_2 ?_
            refine ma_at dX8_gulls_58 (by omega) ?_
            refine w_topN (E.s 2 (by omega)) ?_
            refine w_icmpN_ge dX8_gulls_59 rfl (by omega) (by omega) (fun h_59 => ?_) (fun h_59 => ?_)
            · obtain rfl : k = vs V 2 := by omega
              have hall := hg
              refine w_iconst (v := nI 0) dX8_gulls_95 ki_0 ?_
              refine w_istore_n dX8_gulls_96 rfl (Nat.le_of_ble_eq_true rfl) ls_6_2 ?_
              refine w_iconst (v := nI 0) dX8_gulls_97 ki_0 ?_
              refine w_istore_n dX8_gulls_98 rfl (Nat.le_of_ble_eq_true rfl) ls_6_3 ?_
              refine w_iconst (v := nI 0) dX8_gulls_99 ki_0 ?_
              refine w_istore dX8_gulls_100 rfl (Nat.le_of_ble_eq_true rfl) ls_6_4 ?_
              have lp : ∀ (j9 : Nat) (k : Nat), vs V 2 - k < j9 → k ≤ vs V 2 → (∀ d, d < k → gN T t d = 0 ∨ isT V d) → gSum T t k ≤ 60 * k → gNew V T t k ≤ 60 * k → Wp g (mtM g miX8_gulls 3 σ b (some (.int ((q_gulls V T (nI t)).1))) (sI S 2 (q_gulls V T (nI t)).2)) 0 0 102 [some (.ref b), some (.int (nI t)), some (.int (nI (gSum T t k))), some (.int (nI (gNew V T t k))), some (.int (nI k)), none] [] (sM g σ b (S)) := by
                intro j9
                induction j9 with
                | zero => intro k hmu hk hth hs1 hs2; exact absurd hmu (Nat.not_lt_zero _)
                | succ j9 ih_lp =>
                  intro k hmu hk hth hs1 hs2
                  refine w_iload dX8_gulls_102 rfl ?_
                  refine w_aload_n dX8_gulls_104 rfl ?_
                  refine mg_at dX8_gulls_105 rfl ?_
                  refine w_iconst (v := nI 2) dX8_gulls_108 ki_2 ?_
                  refine ma_at dX8_gulls_109 (by omega) ?_
                  refine w_topN (E.s 2 (by omega)) ?_
                  refine w_icmpN_ge dX8_gulls_110 rfl (by omega) (by omega) (fun h_110 => ?_) (fun h_110 => ?_)
                  · obtain rfl : k = vs V 2 := by omega
                    refine w_iload_n dX8_gulls_176 rfl ?_
                    refine w_aload_n dX8_gulls_177 rfl ?_
                    refine mg_at dX8_gulls_178 rfl ?_
                    refine w_bipush (v := nI 8) dX8_gulls_181 kb_8 ?_
                    refine ma_at dX8_gulls_183 (by omega) ?_
                    refine w_topN (E.s 8 (by omega)) ?_
                    refine w_icmpN_ne dX8_gulls_184 rfl (by omega) (by omega) (fun h_184 => ?_) (fun h_184 => ?_)
                    · refine w_aload_n dX8_gulls_195 rfl ?_
                      refine w_bipush (v := nI 7) dX8_gulls_196 kb_7 ?_
                      refine m_calli1 (mi := miX8_refuse) dX8_gulls_198 q1746 okX8_refuse rfl (Nat.le_of_ble_eq_true rfl) c_refuse (Nat.le_of_ble_eq_true rfl) ?_
                      exact w_iret dX8_gulls_201 rfl ⟨by first | (rw [q_gulls, if_pos hx_t, hcl_t, if_neg h_20, if_neg (by omega), if_pos hall, if_neg (fun z => h_184 z.2)]; done) | (rw [q_gulls, if_pos hx_t, hcl_t, if_neg h_20, if_neg (by omega), if_pos hall, if_neg (fun z => h_184 z.2)]; rfl), by first | (rw [q_gulls, if_pos hx_t, hcl_t, if_neg h_20, if_neg (by omega), if_pos hall, if_neg (fun z => h_184 z.2)]; done) | (rw [q_gulls, if_pos hx_t, hcl_t, if_neg h_20, if_neg (by omega), if_pos hall, if_neg (fun z => h_184 z.2)]; rfl)⟩
                    · refine w_aload_n dX8_gulls_187 rfl ?_
                      refine w_iload_n dX8_gulls_188 rfl ?_
                      refine m_calli1 (mi := miX8_gives) dX8_gulls_189 q1839 okX8_gives rfl (Nat.le_of_ble_eq_true rfl) c_gives (Nat.le_of_ble_eq_true rfl) ?_
                      refine w_goto dX8_gulls_192 rfl ?_
                      exact w_iret dX8_gulls_201 rfl ⟨by first | (rw [q_gulls, if_pos hx_t, hcl_t, if_neg h_20, if_neg (by omega), if_pos hall, if_pos ⟨hth, h_184⟩]; done) | (rw [q_gulls, if_pos hx_t, hcl_t, if_neg h_20, if_neg (by omega), if_pos hall, if_pos ⟨hth, h_184⟩]; rfl), by first | (rw [q_gulls, if_pos hx_t, hcl_t, if_neg h_20, if_neg (by omega), if_pos hall, if_pos ⟨hth, h_184⟩]; done) | (rw [q_gulls, if_pos hx_t, hcl_t, if_neg h_20, if_neg (by omega), if_pos hall, if_pos ⟨hth, h_184⟩]; rfl)⟩
                  · have hgk := gN_of (hall k (by omega))
                    have hkn := K.n (d := k) (by omega)
                    refine w_aload_n dX8_gulls_113 rfl ?_
                    refine mg_trays dX8_gulls_114 rfl ?_
                    refine w_bipush (v := nI 60) dX8_gulls_117 kb_60 ?_
                    refine w_iload_n dX8_gulls_119 rfl ?_
                    refine w_imulN dX8_gulls_120 ?_
                    refine w_iload dX8_gulls_121 rfl ?_
                    refine w_iaddN dX8_gulls_123 ?_
                    refine ma_trays dX8_gulls_124 (by omega) ?_
                    refine w_top (y := .long (tv T t k)) (congrArg Value.long (e7_t k (by omega))) ?_
                    refine w_l2i dX8_gulls_125 rfl ?_
                    rw [hgk.1]
                    refine w_istore dX8_gulls_126 rfl (Nat.le_of_ble_eq_true rfl) ls_6_5 ?_
                    refine w_iload dX8_gulls_128 rfl ?_
                    refine w_ifN_le dX8_gulls_130 rfl (by omega) (fun h_130 => ?_) (fun h_130 => ?_)
                    · refine w_iload_n dX8_gulls_149 rfl ?_
                      refine w_iload dX8_gulls_150 rfl ?_
                      refine w_iaddN dX8_gulls_152 ?_
                      refine w_istore_n dX8_gulls_153 rfl (Nat.le_of_ble_eq_true rfl) ls_6_2 ?_
                      refine w_iload_n dX8_gulls_154 rfl ?_
                      refine w_iconst (v := nI 0) dX8_gulls_155 ki_0 ?_
                      refine w_iload dX8_gulls_156 rfl ?_
                      refine w_aload_n dX8_gulls_158 rfl ?_
                      refine w_iload dX8_gulls_159 rfl ?_
                      refine m_calli1 (mi := miX8_manyOn) dX8_gulls_161 q1894 okX8_manyOn rfl (Nat.le_of_ble_eq_true rfl) (c_manyOn E K (by first | assumption | omega)) (Nat.le_of_ble_eq_true rfl) ?_
                      refine w_isub dX8_gulls_164 ?_
                      refine w_mmax dX8_gulls_165 q2092 q1165 q155 q1166 (Nat.le_of_ble_eq_true rfl) (Nat.le_of_ble_eq_true rfl) ?_
                      refine w_topN (max_sub0 (by omega) (by omega)) ?_
                      refine w_iaddN dX8_gulls_168 ?_
                      refine w_istore_n dX8_gulls_169 rfl (Nat.le_of_ble_eq_true rfl) ls_6_3 ?_
                      refine w_iinc dX8_gulls_170 rfl (nI_inc _ 1) rfl (Nat.le_of_ble_eq_true rfl) ls_6_4 ?_
                      refine w_goto dX8_gulls_173 rfl ?_
                      exact w_L (wkS (wkS (wkS (wkS (wkS (wkN wk0)))))) (ih_lp (k + 1) (by omega) (by omega) (fun d hd => by rcases Nat.lt_succ_iff_lt_or_eq.mp hd with z | z; exact hth d z; rw [z]; exact Or.inl (by omega)) (by show gSum T t k + gN T t k ≤ _; omega) (by show gNew V T t k + (gN T t k - vt V 7 k) ≤ _; omega))
                    · refine w_aload_n dX8_gulls_133 rfl ?_
                      refine w_iload dX8_gulls_134 rfl ?_
                      refine m_calli1 (mi := miX8_isThere) dX8_gulls_136 q1935 okX8_isThere rfl (Nat.le_of_ble_eq_true rfl) (c_isThere E K (by first | assumption | omega)) (Nat.le_of_ble_eq_true rfl) ?_
                      refine w_ifB_ne dX8_gulls_139 rfl (fun h_139 => ?_) (fun h_139 => ?_)
                      · refine w_iload_n dX8_gulls_149 rfl ?_
                        refine w_iload dX8_gulls_150 rfl ?_
                        refine w_iaddN dX8_gulls_152 ?_
                        refine w_istore_n dX8_gulls_153 rfl (Nat.le_of_ble_eq_true rfl) ls_6_2 ?_
                        refine w_iload_n dX8_gulls_154 rfl ?_
                        refine w_iconst (v := nI 0) dX8_gulls_155 ki_0 ?_
                        refine w_iload dX8_gulls_156 rfl ?_
                        refine w_aload_n dX8_gulls_158 rfl ?_
                        refine w_iload dX8_gulls_159 rfl ?_
                        refine m_calli1 (mi := miX8_manyOn) dX8_gulls_161 q1894 okX8_manyOn rfl (Nat.le_of_ble_eq_true rfl) (c_manyOn E K (by first | assumption | omega)) (Nat.le_of_ble_eq_true rfl) ?_
                        refine w_isub dX8_gulls_164 ?_
                        refine w_mmax dX8_gulls_165 q2092 q1165 q155 q1166 (Nat.le_of_ble_eq_true rfl) (Nat.le_of_ble_eq_true rfl) ?_
                        refine w_topN (max_sub0 (by omega) (by omega)) ?_
                        refine w_iaddN dX8_gulls_168 ?_
                        refine w_istore_n dX8_gulls_169 rfl (Nat.le_of_ble_eq_true rfl) ls_6_3 ?_
                        refine w_iinc dX8_gulls_170 rfl (nI_inc _ 1) rfl (Nat.le_of_ble_eq_true rfl) ls_6_4 ?_
                        refine w_goto dX8_gulls_173 rfl ?_
                        exact w_L (wkS (wkS (wkS (wkS (wkS (wkN wk0)))))) (ih_lp (k + 1) (by omega) (by omega) (fun d hd => by rcases Nat.lt_succ_iff_lt_or_eq.mp hd with z | z; exact hth d z; rw [z]; exact Or.inr h_139) (by show gSum T t k + gN T t k ≤ _; omega) (by show gNew V T t k + (gN T t k - vt V 7 k) ≤ _; omega))
                      · refine w_aload_n dX8_gulls_142 rfl ?_
                        refine w_bipush (v := nI 7) dX8_gulls_143 kb_7 ?_
                        refine m_calli1 (mi := miX8_refuse) dX8_gulls_145 q1746 okX8_refuse rfl (Nat.le_of_ble_eq_true rfl) c_refuse (Nat.le_of_ble_eq_true rfl) ?_
                        exact w_iret dX8_gulls_148 rfl ⟨by first | (rw [q_gulls, if_pos hx_t, hcl_t, if_neg h_20, if_neg (by omega), if_pos hall, if_neg (fun z => by rcases z.1 k (by omega) with q | q; omega; exact h_139 q)]; done) | (rw [q_gulls, if_pos hx_t, hcl_t, if_neg h_20, if_neg (by omega), if_pos hall, if_neg (fun z => by rcases z.1 k (by omega) with q | q; omega; exact h_139 q)]; rfl), by first | (rw [q_gulls, if_pos hx_t, hcl_t, if_neg h_20, if_neg (by omega), if_pos hall, if_neg (fun z => by rcases z.1 k (by omega) with q | q; omega; exact h_139 q)]; done) | (rw [q_gulls, if_pos hx_t, hcl_t, if_neg h_20, if_neg (by omega), if_pos hall, if_neg (fun z => by rcases z.1 k (by omega) with q | q; omega; exact h_139 q)]; rfl)⟩
              exact w_L (wkS (wkS (wkS (wkS (wkS (wkN wk0)))))) (lp (vs V 2 + 1) 0 (by omega) (by omega) (fun d hd => absurd hd (Nat.not_lt_zero d)) (by show 0 ≤ _; omega) (by show 0 ≤ _; omega))
            · have hkd8 : k < 8 := by omega
              refine w_aload_n dX8_gulls_62 rfl ?_
              refine mg_trays dX8_gulls_63 rfl ?_
              refine w_bipush (v := nI 60) dX8_gulls_66 kb_60 ?_
              refine w_iload_n dX8_gulls_68 rfl ?_
              refine w_imulN dX8_gulls_69 ?_
              refine w_iload_n dX8_gulls_70 rfl ?_
              refine w_iaddN dX8_gulls_71 ?_
              refine ma_trays dX8_gulls_72 (by omega) ?_
              refine w_top (y := .long (tv T t k)) (congrArg Value.long (e7_t k (by omega))) ?_
              refine w_lconst (v := 0) dX8_gulls_73 rfl ?_
              refine w_ldc2 dX8_gulls_74 q2238 ?_
              refine s_calli3 (mi := miX8_isFrom) dX8_gulls_77 q1902 okX8_isFrom (Nat.le_of_ble_eq_true rfl) c_isFrom (Nat.le_of_ble_eq_true rfl) ?_
              refine w_ifB_ne dX8_gulls_80 rfl (fun h_80 => ?_) (fun h_80 => ?_)
              · refine w_iinc dX8_gulls_89 rfl (nI_inc _ 1) rfl (Nat.le_of_ble_eq_true rfl) ls_6_2 ?_
                refine w_goto dX8_gulls_92 rfl ?_
                exact ih_lo (k + 1) (by omega) (by omega) (fun d hd => by rcases Nat.lt_succ_iff_lt_or_eq.mp hd with z | z; exact hg d z; rw [z]; exact h_80)
              · refine w_aload_n dX8_gulls_83 rfl ?_
                refine w_iconst (v := nI 5) dX8_gulls_84 ki_5 ?_
                refine m_calli1 (mi := miX8_refuse) dX8_gulls_85 q1746 okX8_refuse rfl (Nat.le_of_ble_eq_true rfl) c_refuse (Nat.le_of_ble_eq_true rfl) ?_
                exact w_iret dX8_gulls_88 rfl ⟨by first | (rw [q_gulls, if_pos hx_t, hcl_t, if_neg h_20, if_neg (by omega), if_neg (fun z => h_80 (z k h_59))]; done) | (rw [q_gulls, if_pos hx_t, hcl_t, if_neg h_20, if_neg (by omega), if_neg (fun z => h_80 (z k h_59))]; rfl), by first | (rw [q_gulls, if_pos hx_t, hcl_t, if_neg h_20, if_neg (by omega), if_neg (fun z => h_80 (z k h_59))]; done) | (rw [q_gulls, if_pos hx_t, hcl_t, if_neg h_20, if_neg (by omega), if_neg (fun z => h_80 (z k h_59))]; rfl)⟩
        exact w_L (wkS (wkS (wkS (wkN (wkN (wkN wk0)))))) (lo (vs V 2 + 1) 0 (by omega) (by omega) (fun d hd => absurd hd (Nat.not_lt_zero d)))
      · refine w_aload_n dX8_gulls_44 rfl ?_
        refine w_iconst (v := nI 3) dX8_gulls_45 ki_3 ?_
        refine m_calli1 (mi := miX8_refuse) dX8_gulls_46 q1746 okX8_refuse rfl (Nat.le_of_ble_eq_true rfl) c_refuse (Nat.le_of_ble_eq_true rfl) ?_
        exact w_iret dX8_gulls_49 rfl ⟨by first | (rw [q_gulls, if_pos hx_t, hcl_t, if_neg h_20, if_pos (by omega)]; done) | (rw [q_gulls, if_pos hx_t, hcl_t, if_neg h_20, if_pos (by omega)]; rfl), by first | (rw [q_gulls, if_pos hx_t, hcl_t, if_neg h_20, if_pos (by omega)]; done) | (rw [q_gulls, if_pos hx_t, hcl_t, if_neg h_20, if_pos (by omega)]; rfl)⟩
    · have h_20 : tm T t = 0 := (m1_iff (by omega)).mp h_20
      refine w_aload_n dX8_gulls_23 rfl ?_
      refine w_iconst (v := nI 2) dX8_gulls_24 ki_2 ?_
      refine m_calli1 (mi := miX8_refuse) dX8_gulls_25 q1746 okX8_refuse rfl (Nat.le_of_ble_eq_true rfl) c_refuse (Nat.le_of_ble_eq_true rfl) ?_
      exact w_iret dX8_gulls_28 rfl ⟨by first | (rw [q_gulls, if_pos hx_t, hcl_t, if_pos h_20]; done) | (rw [q_gulls, if_pos hx_t, hcl_t, if_pos h_20]; rfl), by first | (rw [q_gulls, if_pos hx_t, hcl_t, if_pos h_20]; done) | (rw [q_gulls, if_pos hx_t, hcl_t, if_pos h_20]; rfl)⟩
  · refine w_aload_n dX8_gulls_7 rfl ?_
    refine w_iconst (v := nI 1) dX8_gulls_8 ki_1 ?_
    refine m_calli1 (mi := miX8_refuse) dX8_gulls_9 q1746 okX8_refuse rfl (Nat.le_of_ble_eq_true rfl) c_refuse (Nat.le_of_ble_eq_true rfl) ?_
    exact w_iret dX8_gulls_12 rfl ⟨by first | (rw [q_gulls, if_neg h_4]; done) | (rw [q_gulls, if_neg h_4]; rfl), by first | (rw [q_gulls, if_neg h_4]; done) | (rw [q_gulls, if_neg h_4]; rfl)⟩
