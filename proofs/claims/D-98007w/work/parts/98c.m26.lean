set_option maxRecDepth 100000
set_option maxHeartbeats 4000000 in
theorem c_inWords {g : GG} {S : MS} {X : TX} {t : Tk} (hT : TxS S X) (hK : TkS S t) (hO : OkT9 X t) : Mt g miX8_inWords 5 [.ref (sa g 0)] (S) (some (.int (wI (kix X t)))) (S) := by
  refine Mt.start (fun b => [some (.ref b), some (.ref (sa g 0)), none, none, none, none, none]) plX8 rfl (fun b => (Nat.le_of_ble_eq_true rfl)) (fun b => rfl) ?_
  intro σ b
  have hX9 := hT.2.1
  obtain ⟨ho1, ho2, ho3, ho4, -, -, -, -⟩ := hO.ok
  refine w_aload_n dX8_inWords_0 rfl ?_
  refine mg_token dX8_inWords_1 rfl ?_
  refine w_topN (n := t.so) hK.1 ?_
  refine w_iconst (v := nI 2) dX8_inWords_4 ki_2 ?_
  refine w_icmpN_eq dX8_inWords_5 rfl (by omega) (by omega) (fun h_5 => ?_) (fun h_5 => ?_)
  · refine w_iconst (v := nI 0) dX8_inWords_10 ki_0 ?_
    refine w_istore_n dX8_inWords_11 rfl (Nat.le_of_ble_eq_true rfl) ls_7_2 ?_
    refine w_iconst (v := nI 1) dX8_inWords_12 ki_1 ?_
    refine w_istore_n dX8_inWords_13 rfl (Nat.le_of_ble_eq_true rfl) ls_7_3 ?_
    have lp : ∀ (j9 : Nat) (n : Nat), 31 - n < j9 → n ≤ 30 → (∀ j, j < n → keys.getD j [] ≠ wd X t) → Wp g (mtM g miX8_inWords 5 σ b (some (.int (wI (kix X t)))) (S)) 0 0 14 [some (.ref b), some (.ref (sa g 0)), some (.int (nI n)), some (.int (nI (kS n))), none, none, none] [] (sM g σ b (S)) := by
      intro j9
      induction j9 with
      | zero => intro n hmu hn hno; exact absurd hmu (Nat.not_lt_zero _)
      | succ j9 ih_lp =>
        intro n hmu hn hno
        have hkn : kS n ≤ 151 := by
          rcases Nat.lt_or_ge n 30 with z | z
          · have := kS_lt n z; omega
          · rw [show n = 30 by omega, kS_30]; exact Nat.le_refl _
        refine w_iload_n dX8_inWords_14 rfl ?_
        refine w_aload_n dX8_inWords_15 rfl ?_
        refine str_calli0 (mi := miJ4_length) hx0 dX8_inWords_16 q1763 okJ4_length rfl (Nat.le_of_ble_eq_true rfl) c_keyLen (Nat.le_of_ble_eq_true rfl) ?_
        refine w_icmpN_ge dX8_inWords_19 rfl (by omega) (by omega) (fun h_19 => ?_) (fun h_19 => ?_)
        · have hn30 : n = 30 := by
            rcases Nat.lt_or_ge n 30 with z | z
            · have := kS_lt n z; omega
            · omega
          refine w_iconst (v := (-1)) dX8_inWords_133 ki_m1 ?_
          exact w_iret dX8_inWords_134 rfl ⟨by rw [show kix X t = 30 from kix_none (fun i hi => hno i (by omega))]; rfl, by rfl⟩
        · have hn30 : n < 30 := by
            rcases Nat.lt_or_ge n 30 with z | z
            · exact z
            · rw [show n = 30 by omega, kS_30] at h_19; omega
          have hf := kS_lt n hn30
          have hg := kS_at n hn30
          refine w_iload_n dX8_inWords_22 rfl ?_
          refine w_istore dX8_inWords_23 rfl (Nat.le_of_ble_eq_true rfl) ls_7_4 ?_
          have le : ∀ (j9 : Nat) (e : Nat), 152 - e < j9 → kS n ≤ e → e ≤ kS n + kL n → Wp g (mtM g miX8_inWords 5 σ b (some (.int (wI (kix X t)))) (S)) 0 0 25 [some (.ref b), some (.ref (sa g 0)), some (.int (nI n)), some (.int (nI (kS n))), some (.int (nI e)), none, none] [] (sM g σ b (S)) := by
            intro j9
            induction j9 with
            | zero => intro e hmu he1 he2; exact absurd hmu (Nat.not_lt_zero _)
            | succ j9 ih_le =>
              intro e hmu he1 he2
              refine w_aload_n dX8_inWords_25 rfl ?_
              refine w_iload dX8_inWords_26 rfl ?_
              refine str_calli1 (mi := miJ4_charAt) hx0 dX8_inWords_28 q1764 okJ4_charAt rfl (Nat.le_of_ble_eq_true rfl) (c_keyAt (by omega)) (Nat.le_of_ble_eq_true rfl) ?_
              have hce := kc_lt e (by omega)
              refine w_bipush (v := nI 32) dX8_inWords_31 kb_32 ?_
              refine w_icmpN_eq dX8_inWords_33 rfl (by omega) (by omega) (fun h_33 => ?_) (fun h_33 => ?_)
              · have he9 : e = kS n + kL n := by
                  rcases Nat.lt_or_ge e (kS n + kL n) with z | z
                  · have := (hg (e - kS n) (by omega)).2
                    rw [show kS n + (e - kS n) = e by omega] at this
                    exact absurd h_33 this
                  · omega
                subst he9
                refine w_iload dX8_inWords_42 rfl ?_
                refine w_iload_n dX8_inWords_44 rfl ?_
                refine w_isubN dX8_inWords_45 (by omega) ?_
                refine w_aload_n dX8_inWords_46 rfl ?_
                refine mg_end dX8_inWords_47 rfl ?_
                refine w_topN (n := t.to) hK.2.2.1 ?_
                refine w_aload_n dX8_inWords_50 rfl ?_
                refine mg_from dX8_inWords_51 rfl ?_
                refine w_topN (n := t.fr) hK.2.1 ?_
                refine w_isubN dX8_inWords_54 (by omega) ?_
                refine w_icmpN_ne dX8_inWords_55 rfl (by omega) (by omega) (fun h_55 => ?_) (fun h_55 => ?_)
                · refine w_iconst (v := nI 0) dX8_inWords_62 ki_0 ?_
                  refine w_istore dX8_inWords_63 rfl (Nat.le_of_ble_eq_true rfl) ls_7_5 ?_
                  refine w_iload_n dX8_inWords_65 rfl ?_
                  refine w_istore dX8_inWords_66 rfl (Nat.le_of_ble_eq_true rfl) ls_7_6 ?_
                  have li : ∀ (j9 : Nat) (i : Nat) (l : Nat), kL n - i < j9 → i ≤ kL n → l ≤ 1 → (l = 1 ↔ (kL n = t.to - t.fr ∧ ∀ j, j < i → (keys.getD n []).getD j 0 = X.1 (t.fr + j))) → Wp g (mtM g miX8_inWords 5 σ b (some (.int (wI (kix X t)))) (S)) 0 0 68 [some (.ref b), some (.ref (sa g 0)), some (.int (nI n)), some (.int (nI (kS n))), some (.int (nI (kS n + kL n))), some (.int (nI l)), some (.int (nI (kS n + i)))] [] (sM g σ b (S)) := by
                    intro j9
                    induction j9 with
                    | zero => intro i l hmu hi hl2 hl; exact absurd hmu (Nat.not_lt_zero _)
                    | succ j9 ih_li =>
                      intro i l hmu hi hl2 hl
                      refine w_iload dX8_inWords_68 rfl ?_
                      refine w_iload dX8_inWords_70 rfl ?_
                      refine w_icmpN_ge dX8_inWords_72 rfl (by omega) (by omega) (fun h_72 => ?_) (fun h_72 => ?_)
                      · refine w_iload dX8_inWords_115 rfl ?_
                        refine w_ifN_eq dX8_inWords_117 rfl (by omega) (fun h_117 => ?_) (fun h_117 => ?_)
                        · refine w_iinc dX8_inWords_122 rfl (nI_inc _ 1) rfl (Nat.le_of_ble_eq_true rfl) ls_7_2 ?_
                          refine w_iload dX8_inWords_125 rfl ?_
                          refine w_iconst (v := nI 1) dX8_inWords_127 ki_1 ?_
                          refine w_iaddN dX8_inWords_128 ?_
                          refine w_istore_n dX8_inWords_129 rfl (Nat.le_of_ble_eq_true rfl) ls_7_3 ?_
                          refine w_goto dX8_inWords_130 rfl ?_
                          refine w_L (wkS (wkS (wkS (wkS (wkN (wkN (wkN wk0))))))) ?_
                          exact w_as (ih_lp (n + 1) (by omega) (by omega) (fun j hj => by
                            by_cases z : j < n
                            · exact hno j z
                            · rw [show j = n by omega]
                              intro hw
                              have h9 := wd_eq.mp hw
                              exact absurd (hl.mpr ⟨h9.1, fun j hj => h9.2 j (by unfold kL at hi; omega)⟩) (by omega))) rfl rfl rfl
                        · refine w_iload_n dX8_inWords_120 rfl ?_
                          exact w_iret dX8_inWords_121 rfl ⟨by rw [show kix X t = n from kix_hit h_5 hn30 hno (wd_eq.mpr ((hl.mp (by omega)).imp id (fun z j hj => z j (by unfold kL at h_72; omega)))), show wI n = nI n from if_pos hn30], by rfl⟩
                      · refine w_iload dX8_inWords_75 rfl ?_
                        refine w_ifN_eq dX8_inWords_77 rfl (by omega) (fun h_77 => ?_) (fun h_77 => ?_)
                        · refine w_iload dX8_inWords_115 rfl ?_
                          refine w_ifN_eq dX8_inWords_117 rfl (by omega) (fun h_117 => ?_) (fun h_117 => ?_)
                          · refine w_iinc dX8_inWords_122 rfl (nI_inc _ 1) rfl (Nat.le_of_ble_eq_true rfl) ls_7_2 ?_
                            refine w_iload dX8_inWords_125 rfl ?_
                            refine w_iconst (v := nI 1) dX8_inWords_127 ki_1 ?_
                            refine w_iaddN dX8_inWords_128 ?_
                            refine w_istore_n dX8_inWords_129 rfl (Nat.le_of_ble_eq_true rfl) ls_7_3 ?_
                            refine w_goto dX8_inWords_130 rfl ?_
                            refine w_L (wkS (wkS (wkS (wkS (wkN (wkN (wkN wk0))))))) ?_
                            exact w_as (ih_lp (n + 1) (by omega) (by omega) (fun j hj => by
                              by_cases z : j < n
                              · exact hno j z
                              · rw [show j = n by omega]
                                intro hw
                                have h9 := wd_eq.mp hw
                                exact absurd (hl.mpr ⟨h9.1, fun j hj => h9.2 j (by unfold kL at hi; omega)⟩) (by omega))) rfl rfl rfl
                          · exact absurd h_77 h_117
                        · have hl1 : l = 1 := by omega
                          have hin := (hl.mp hl1).1
                          refine w_aload_n dX8_inWords_80 rfl ?_
                          refine w_iload dX8_inWords_81 rfl ?_
                          refine str_calli1 (mi := miJ4_charAt) hx0 dX8_inWords_83 q1764 okJ4_charAt rfl (Nat.le_of_ble_eq_true rfl) (c_keyAt (by omega)) (Nat.le_of_ble_eq_true rfl) ?_
                          have hck := hg i (by omega)
                          have hc128 := kc_lt (kS n + i) (by omega)
                          refine w_aload_n dX8_inWords_86 rfl ?_
                          refine w_aload_n dX8_inWords_87 rfl ?_
                          refine mg_from dX8_inWords_88 rfl ?_
                          refine w_topN (n := t.fr) hK.2.1 ?_
                          refine w_iload dX8_inWords_91 rfl ?_
                          refine w_iaddN dX8_inWords_93 ?_
                          refine w_iload_n dX8_inWords_94 rfl ?_
                          refine w_isubN dX8_inWords_95 (by omega) ?_
                          rw [show t.fr + (kS n + i) - kS n = t.fr + i by omega]
                          refine m_calli1 (mi := miX8_byteAt) dX8_inWords_96 q1734 okX8_byteAt rfl (Nat.le_of_ble_eq_true rfl) (c_byteX (k := t.fr + i) hT (by omega)) (Nat.le_of_ble_eq_true rfl) ?_
                          refine w_icmp_ne dX8_inWords_99 rfl (fun h_99 => ?_) (fun h_99 => ?_)
                          · have hne : ¬ (keys.getD n []).getD i 0 = X.1 (t.fr + i) := fun z => h_99 (by rw [cI_in (by omega), ← z, hck.1])
                            refine w_iconst (v := nI 0) dX8_inWords_106 ki_0 ?_
                            refine w_istore dX8_inWords_107 rfl (Nat.le_of_ble_eq_true rfl) ls_7_5 ?_
                            refine w_iinc dX8_inWords_109 rfl (nI_inc _ 1) rfl (Nat.le_of_ble_eq_true rfl) ls_7_6 ?_
                            refine w_goto dX8_inWords_112 rfl ?_
                            exact ih_li (i + 1) 0 (by omega) (by omega) (by omega) ⟨fun z => absurd z (by decide), fun z => absurd (z.2 i (by omega)) hne⟩
                          · have heq : (keys.getD n []).getD i 0 = X.1 (t.fr + i) := by
                              have hx := (hT.2.2 (t.fr + i) (by omega)).2
                              rw [cI_in (by omega)] at h_99
                              rw [← hck.1]
                              exact (nI_eq (by omega) (by omega)).mp h_99
                            refine w_iconst (v := nI 1) dX8_inWords_102 ki_1 ?_
                            refine w_goto dX8_inWords_103 rfl ?_
                            refine w_istore dX8_inWords_107 rfl (Nat.le_of_ble_eq_true rfl) ls_7_5 ?_
                            refine w_iinc dX8_inWords_109 rfl (nI_inc _ 1) rfl (Nat.le_of_ble_eq_true rfl) ls_7_6 ?_
                            refine w_goto dX8_inWords_112 rfl ?_
                            exact ih_li (i + 1) 1 (by omega) (by omega) (by omega) ⟨fun _ => ⟨(hl.mp hl1).1, fun j hj => by
                              by_cases z : j < i
                              · exact (hl.mp hl1).2 j z
                              · rw [show j = i by omega]; exact heq⟩, fun _ => rfl⟩
                  exact w_as (li (kL n + 1) 0 0 (by omega) (by omega) (by omega) ⟨fun z => absurd z (by decide), fun z => absurd z.1 (by omega)⟩) rfl rfl rfl
                · refine w_iconst (v := nI 1) dX8_inWords_58 ki_1 ?_
                  refine w_goto dX8_inWords_59 rfl ?_
                  refine w_istore dX8_inWords_63 rfl (Nat.le_of_ble_eq_true rfl) ls_7_5 ?_
                  refine w_iload_n dX8_inWords_65 rfl ?_
                  refine w_istore dX8_inWords_66 rfl (Nat.le_of_ble_eq_true rfl) ls_7_6 ?_
                  have li : ∀ (j9 : Nat) (i : Nat) (l : Nat), kL n - i < j9 → i ≤ kL n → l ≤ 1 → (l = 1 ↔ (kL n = t.to - t.fr ∧ ∀ j, j < i → (keys.getD n []).getD j 0 = X.1 (t.fr + j))) → Wp g (mtM g miX8_inWords 5 σ b (some (.int (wI (kix X t)))) (S)) 0 0 68 [some (.ref b), some (.ref (sa g 0)), some (.int (nI n)), some (.int (nI (kS n))), some (.int (nI (kS n + kL n))), some (.int (nI l)), some (.int (nI (kS n + i)))] [] (sM g σ b (S)) := by
                    intro j9
                    induction j9 with
                    | zero => intro i l hmu hi hl2 hl; exact absurd hmu (Nat.not_lt_zero _)
                    | succ j9 ih_li =>
                      intro i l hmu hi hl2 hl
                      refine w_iload dX8_inWords_68 rfl ?_
                      refine w_iload dX8_inWords_70 rfl ?_
                      refine w_icmpN_ge dX8_inWords_72 rfl (by omega) (by omega) (fun h_72 => ?_) (fun h_72 => ?_)
                      · refine w_iload dX8_inWords_115 rfl ?_
                        refine w_ifN_eq dX8_inWords_117 rfl (by omega) (fun h_117 => ?_) (fun h_117 => ?_)
                        · refine w_iinc dX8_inWords_122 rfl (nI_inc _ 1) rfl (Nat.le_of_ble_eq_true rfl) ls_7_2 ?_
                          refine w_iload dX8_inWords_125 rfl ?_
                          refine w_iconst (v := nI 1) dX8_inWords_127 ki_1 ?_
                          refine w_iaddN dX8_inWords_128 ?_
                          refine w_istore_n dX8_inWords_129 rfl (Nat.le_of_ble_eq_true rfl) ls_7_3 ?_
                          refine w_goto dX8_inWords_130 rfl ?_
                          refine w_L (wkS (wkS (wkS (wkS (wkN (wkN (wkN wk0))))))) ?_
                          exact w_as (ih_lp (n + 1) (by omega) (by omega) (fun j hj => by
                            by_cases z : j < n
                            · exact hno j z
                            · rw [show j = n by omega]
                              intro hw
                              have h9 := wd_eq.mp hw
                              exact absurd (hl.mpr ⟨h9.1, fun j hj => h9.2 j (by unfold kL at hi; omega)⟩) (by omega))) rfl rfl rfl
                        · refine w_iload_n dX8_inWords_120 rfl ?_
                          exact w_iret dX8_inWords_121 rfl ⟨by rw [show kix X t = n from kix_hit h_5 hn30 hno (wd_eq.mpr ((hl.mp (by omega)).imp id (fun z j hj => z j (by unfold kL at h_72; omega)))), show wI n = nI n from if_pos hn30], by rfl⟩
                      · refine w_iload dX8_inWords_75 rfl ?_
                        refine w_ifN_eq dX8_inWords_77 rfl (by omega) (fun h_77 => ?_) (fun h_77 => ?_)
                        · refine w_iload dX8_inWords_115 rfl ?_
                          refine w_ifN_eq dX8_inWords_117 rfl (by omega) (fun h_117 => ?_) (fun h_117 => ?_)
                          · refine w_iinc dX8_inWords_122 rfl (nI_inc _ 1) rfl (Nat.le_of_ble_eq_true rfl) ls_7_2 ?_
                            refine w_iload dX8_inWords_125 rfl ?_
                            refine w_iconst (v := nI 1) dX8_inWords_127 ki_1 ?_
                            refine w_iaddN dX8_inWords_128 ?_
                            refine w_istore_n dX8_inWords_129 rfl (Nat.le_of_ble_eq_true rfl) ls_7_3 ?_
                            refine w_goto dX8_inWords_130 rfl ?_
                            refine w_L (wkS (wkS (wkS (wkS (wkN (wkN (wkN wk0))))))) ?_
                            exact w_as (ih_lp (n + 1) (by omega) (by omega) (fun j hj => by
                              by_cases z : j < n
                              · exact hno j z
                              · rw [show j = n by omega]
                                intro hw
                                have h9 := wd_eq.mp hw
                                exact absurd (hl.mpr ⟨h9.1, fun j hj => h9.2 j (by unfold kL at hi; omega)⟩) (by omega))) rfl rfl rfl
                          · exact absurd h_77 h_117
                        · have hl1 : l = 1 := by omega
                          have hin := (hl.mp hl1).1
                          refine w_aload_n dX8_inWords_80 rfl ?_
                          refine w_iload dX8_inWords_81 rfl ?_
                          refine str_calli1 (mi := miJ4_charAt) hx0 dX8_inWords_83 q1764 okJ4_charAt rfl (Nat.le_of_ble_eq_true rfl) (c_keyAt (by omega)) (Nat.le_of_ble_eq_true rfl) ?_
                          have hck := hg i (by omega)
                          have hc128 := kc_lt (kS n + i) (by omega)
                          refine w_aload_n dX8_inWords_86 rfl ?_
                          refine w_aload_n dX8_inWords_87 rfl ?_
                          refine mg_from dX8_inWords_88 rfl ?_
                          refine w_topN (n := t.fr) hK.2.1 ?_
                          refine w_iload dX8_inWords_91 rfl ?_
                          refine w_iaddN dX8_inWords_93 ?_
                          refine w_iload_n dX8_inWords_94 rfl ?_
                          refine w_isubN dX8_inWords_95 (by omega) ?_
                          rw [show t.fr + (kS n + i) - kS n = t.fr + i by omega]
                          refine m_calli1 (mi := miX8_byteAt) dX8_inWords_96 q1734 okX8_byteAt rfl (Nat.le_of_ble_eq_true rfl) (c_byteX (k := t.fr + i) hT (by omega)) (Nat.le_of_ble_eq_true rfl) ?_
                          refine w_icmp_ne dX8_inWords_99 rfl (fun h_99 => ?_) (fun h_99 => ?_)
                          · have hne : ¬ (keys.getD n []).getD i 0 = X.1 (t.fr + i) := fun z => h_99 (by rw [cI_in (by omega), ← z, hck.1])
                            refine w_iconst (v := nI 0) dX8_inWords_106 ki_0 ?_
                            refine w_istore dX8_inWords_107 rfl (Nat.le_of_ble_eq_true rfl) ls_7_5 ?_
                            refine w_iinc dX8_inWords_109 rfl (nI_inc _ 1) rfl (Nat.le_of_ble_eq_true rfl) ls_7_6 ?_
                            refine w_goto dX8_inWords_112 rfl ?_
                            exact ih_li (i + 1) 0 (by omega) (by omega) (by omega) ⟨fun z => absurd z (by decide), fun z => absurd (z.2 i (by omega)) hne⟩
                          · have heq : (keys.getD n []).getD i 0 = X.1 (t.fr + i) := by
                              have hx := (hT.2.2 (t.fr + i) (by omega)).2
                              rw [cI_in (by omega)] at h_99
                              rw [← hck.1]
                              exact (nI_eq (by omega) (by omega)).mp h_99
                            refine w_iconst (v := nI 1) dX8_inWords_102 ki_1 ?_
                            refine w_goto dX8_inWords_103 rfl ?_
                            refine w_istore dX8_inWords_107 rfl (Nat.le_of_ble_eq_true rfl) ls_7_5 ?_
                            refine w_iinc dX8_inWords_109 rfl (nI_inc _ 1) rfl (Nat.le_of_ble_eq_true rfl) ls_7_6 ?_
                            refine w_goto dX8_inWords_112 rfl ?_
                            exact ih_li (i + 1) 1 (by omega) (by omega) (by omega) ⟨fun _ => ⟨(hl.mp hl1).1, fun j hj => by
                              by_cases z : j < i
                              · exact (hl.mp hl1).2 j z
                              · rw [show j = i by omega]; exact heq⟩, fun _ => rfl⟩
                  exact w_as (li (kL n + 1) 0 1 (by omega) (by omega) (by omega) ⟨fun _ => ⟨by omega, fun j hj => absurd hj (Nat.not_lt_zero j)⟩, fun _ => rfl⟩) rfl rfl rfl
              · refine w_iinc dX8_inWords_36 rfl (nI_inc _ 1) rfl (Nat.le_of_ble_eq_true rfl) ls_7_4 ?_
                refine w_goto dX8_inWords_39 rfl ?_
                exact ih_le (e + 1) (by omega) (by omega) (by
                  rcases Nat.lt_or_ge e (kS n + kL n) with z | z
                  · omega
                  · exact absurd (show kc e = 32 by rw [show e = kS n + kL n by omega]; exact hf.2.1) h_33)
          refine w_L (wkS (wkS (wkS (wkS (wkS (wkN (wkN wk0))))))) ?_
          exact w_as (le 153 (kS n) (by omega) (Nat.le_refl _) (by omega)) rfl rfl rfl
    refine w_L (wkS (wkS (wkS (wkS (wkN (wkN (wkN wk0))))))) ?_
    exact w_as (lp 32 0 (by omega) (by omega) (fun j hj => absurd hj (Nat.not_lt_zero j))) rfl rfl rfl
  · refine w_iconst (v := (-1)) dX8_inWords_8 ki_m1 ?_
    exact w_iret dX8_inWords_9 rfl ⟨by rw [show kix X t = 30 from if_neg h_5]; rfl, by rfl⟩
