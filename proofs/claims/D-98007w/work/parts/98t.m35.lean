set_option maxRecDepth 100000
set_option maxHeartbeats 4000000 in
theorem c_days {g : GG} {S : MS} {x : Int32} {p : Nat} {tp : Nat → Nat} {H : HS} (hp : mI S 10 = nI p) (hp9 : p ≤ 900) (hTp : TpS S tp) (EH : EncZ S H) (OH : OkH H) : Mp g miX8_days 12 [.int x] (S) (some (.int (a_days (q_days p tp H x)))) (fun S2 => P_days H S S2 (q_days p tp H x)) := by
  refine Mp.start (fun b => [some (.ref b), some (.int x), none, none]) plX8 rfl (fun b => (Nat.le_of_ble_eq_true rfl)) (fun b => rfl) ?_
  intro σ b
  refine w_aload_n dX8_days_0 rfl ?_
  refine w_iload_n dX8_days_1 rfl ?_
  refine w_sipush (v := nI 300) dX8_days_2 ks_300 ?_
  refine m_callPi2 (mi := miX8_begins) dX8_days_5 q1726 okX8_begins rfl (Nat.le_of_ble_eq_true rfl) (c_begins (p := p) (tp := tp) hp hp9 (by omega) hTp) (Nat.le_of_ble_eq_true rfl) (fun S5 hS5 => ?_)
  refine w_ifB_ne dX8_days_8 rfl (fun h_8 => ?_) (fun h_8 => ?_)
  · have hb5 := hS5.1 h_8
    obtain ⟨q, hq, rfl⟩ := inN_of h_8 (by omega)
    have hclq : cl (nI q) = q := nI_clamp (by omega)
    rw [hclq] at hb5
    obtain ⟨hG, h510, h517, h518, hTx, hTk⟩ := hb5
    obtain ⟨R, hRq⟩ : ∃ R, pSteps (tp, q) H (q + 1) D0 (tok (tp, q) 0) = R := ⟨_, rfl⟩
    have hqb : q_days p tp H (nI q) = some R := by rw [q_days, if_pos h_8, hclq, ← hRq]; rfl
    have hbF : FrP S5 (sI (sI (sA S5 0 5609 (nI 0)) 23 (nI 0)) 24 (nI 0)) := (FrP.A0 S5 (nI 0) (by omega)).trans ((FrP.I _ _ (by omega)).trans (FrP.I _ _ (by omega)))
    have hT0 : TxS (sI (sI (sA S5 0 5609 (nI 0)) 23 (nI 0)) 24 (nI 0)) (tp, q) := hTx
    have EH5 : EncZ S5 H := ⟨(congrFun (hG.2.2.1 0 (by omega)) 0).trans EH.1, (congrFun (hG.2.2.1 0 (by omega)) 1).trans EH.2.1, (congrFun (hG.2.2.1 0 (by omega)) 2).trans EH.2.2.1, fun i hi => by rw [hG.2.2.2 1]; exact EH.2.2.2.1 i hi, fun i hi => by rw [hG.2.2.2 1]; exact EH.2.2.2.2 i hi⟩
    refine w_aload_n dX8_days_17 rfl ?_
    refine mg_at dX8_days_18 rfl ?_
    refine w_sipush (v := nI 5609) dX8_days_21 ks_5609 ?_
    refine w_iconst (v := nI 0) dX8_days_24 ki_0 ?_
    refine ms_at dX8_days_25 (by omega) ?_
    refine w_aload_n dX8_days_26 rfl ?_
    refine w_iconst (v := nI 0) dX8_days_27 ki_0 ?_
    refine mp_depth dX8_days_28 rfl ?_
    refine w_aload_n dX8_days_31 rfl ?_
    refine w_iconst (v := nI 0) dX8_days_32 ki_0 ?_
    refine mp_counted dX8_days_33 rfl ?_
    refine w_iconst (v := nI 1) dX8_days_36 ki_1 ?_
    refine w_istore_n dX8_days_37 rfl (Nat.le_of_ble_eq_true rfl) ls_4_2 ?_
    refine w_iload_n dX8_days_38 rfl ?_
    refine w_ifN_eq dX8_days_39 rfl (by omega) (fun h_39 => ?_) (fun h_39 => ?_)
    · 
      exact absurd h_39 (by decide)
    · 
      have lp : ∀ (j9 : Nat) (D : DS) (t : Tk) (S4 : MS), q - t.fr < j9 → OkT9 (tp, q) t → FrP (sI (sI (sA S5 0 5609 (nI 0)) 23 (nI 0)) 24 (nI 0)) S4 → EncY S4 D → OkD H D → TkS S4 t → mI S4 18 = nI 0 → mI S4 17 = -1 → pSteps (tp, q) H j9 D t = R → Wp g (mtP g miX8_days 12 σ b (some (.int (a_days (q_days p tp H (nI q))))) (fun S2 => P_days H S S2 (q_days p tp H (nI q)))) 0 0 42 [some (.ref b), some (.int (nI q)), none, none] [] (sM g σ b (S4)) := by
        intro j9
        induction j9 with
        | zero => intro D t S4 hmu hO hF EY OD hK h0 h17 hR; exact absurd hmu (Nat.not_lt_zero _)
        | succ j9 ih_lp =>
          intro D t S4 hmu hO hF EY OD hK h0 h17 hR
          have ho := hO.ok
          have hT4 := hT0.frP hF
          have hdb := OD.b
          have hct9 := OD.2.1
          have hop9 := OD.2.2.1
          refine w_aload_n dX8_days_42 rfl ?_
          refine mg_token dX8_days_43 rfl ?_
          refine w_topN (n := t.so) hK.1 ?_
          refine w_ifN_eq dX8_days_46 rfl (by omega) (fun h_46 => ?_) (fun h_46 => ?_)
          · refine w_aload_n dX8_days_57 rfl ?_
            refine mg_faults dX8_days_58 rfl ?_
            refine w_topN (n := 0) h0 ?_
            refine w_ifN_ne dX8_days_61 rfl (by first | omega | (have := hx.2.2.2.2; omega)) (fun h_61 => ?_) (fun h_61 => ?_)
            · exact absurd rfl h_61
            · refine w_aload_n dX8_days_64 rfl ?_
              refine mg_depth dX8_days_65 rfl ?_
              refine w_topN (n := D.op.length) EY.2.2.2.1 ?_
              refine w_ifN_le dX8_days_68 rfl (by omega) (fun h_68 => ?_) (fun h_68 => ?_)
              · have hop : D.op = [] := List.length_eq_zero_iff.mp (by omega)
                have hRe : R = .ok D := by rw [← hR]; exact pSteps_ok h_46 hop
                refine w_aload_n dX8_days_77 rfl ?_
                refine mg_faults dX8_days_78 rfl ?_
                refine w_topN (n := 0) h0 ?_
                refine w_ifN_ne dX8_days_81 rfl (by first | omega | (have := hx.2.2.2.2; omega)) (fun h_81 => ?_) (fun h_81 => ?_)
                · exact absurd rfl h_81
                · refine w_aload_n dX8_days_84 rfl ?_
                  refine mg_at dX8_days_85 rfl ?_
                  refine w_bipush (v := nI 9) dX8_days_88 kb_9 ?_
                  refine w_aload_n dX8_days_90 rfl ?_
                  refine mg_at dX8_days_91 rfl ?_
                  refine w_sipush (v := nI 5609) dX8_days_94 ks_5609 ?_
                  refine ma_at dX8_days_97 (by omega) ?_
                  refine w_topN (n := D.n) EY.2.1 ?_
                  refine ms_at dX8_days_98 (by omega) ?_
                  refine w_sipush (v := nI 1030) dX8_days_99 ks_1030 ?_
                  refine w_istore_n dX8_days_102 rfl (Nat.le_of_ble_eq_true rfl) ls_4_3 ?_
                  have lc : ∀ (j9 : Nat) (k : Nat), 1395 - k < j9 → 1030 ≤ k → k ≤ 1395 → Wp g (mtP g miX8_days 12 σ b (some (.int (a_days (q_days p tp H (nI q))))) (fun S2 => P_days H S S2 (q_days p tp H (nI q)))) 0 0 103 [some (.ref b), some (.int (nI q)), none, some (.int (nI k))] [] (sM g σ b ((setAt (sA S4 0 9 (nI D.n)) (cpR (mA (sA S4 0 9 (nI D.n)) 0) k)))) := by
                    intro j9
                    induction j9 with
                    | zero => intro k hmu hk1 hk; exact absurd hmu (Nat.not_lt_zero _)
                    | succ j9 ih_lc =>
                      intro k hmu hk1 hk
                      refine w_iload_n dX8_days_103 rfl ?_
                      refine w_sipush (v := nI 1395) dX8_days_104 ks_1395 ?_
                      refine w_icmpN_ge dX8_days_107 rfl (by omega) (by omega) (fun h_107 => ?_) (fun h_107 => ?_)
                      · obtain rfl : k = 1395 := by omega
                        refine w_aload_n dX8_days_132 rfl ?_
                        refine w_aload_n dX8_days_133 rfl ?_
                        refine mg_counted dX8_days_134 rfl ?_
                        rw [show mI (setAt (sA S4 0 9 (nI D.n)) (cpR (mA (sA S4 0 9 (nI D.n)) 0) 1395)) 24 = nI D.ct from EY.2.2.2.2]
                        refine m_calli1 (mi := miX8_taken) dX8_days_137 q1835 okX8_taken rfl (Nat.le_of_ble_eq_true rfl) (c_taken (show mI (setAt (sA S4 0 9 (nI D.n)) (cpR (mA (sA S4 0 9 (nI D.n)) 0) 1395)) 18 = nI 0 from h0) (by omega)) (Nat.le_of_ble_eq_true rfl) ?_
                        exact w_iret dX8_days_140 rfl ⟨by rw [hqb, hRe]; rfl, _, by rw [hqb, hRe]; exact days_ok hG h510 h17 hbF hF EY OD hop, rfl⟩
                      · refine w_aload_n dX8_days_110 rfl ?_
                        refine mg_at dX8_days_111 rfl ?_
                        refine w_iload_n dX8_days_114 rfl ?_
                        refine w_aload_n dX8_days_115 rfl ?_
                        refine mg_at dX8_days_116 rfl ?_
                        refine w_sipush (v := nI 5600) dX8_days_119 ks_5600 ?_
                        refine w_iload_n dX8_days_122 rfl ?_
                        refine w_iaddN dX8_days_123 ?_
                        refine ma_at dX8_days_124 (by omega) ?_
                        refine ms_at dX8_days_125 (by omega) ?_
                        refine w_iinc dX8_days_126 rfl (nI_inc _ 1) rfl (Nat.le_of_ble_eq_true rfl) ls_4_3 ?_
                        refine w_goto dX8_days_129 rfl ?_
                        rw [setAt_s, show mA (setAt (sA S4 0 9 (nI D.n)) (cpR (mA (sA S4 0 9 (nI D.n)) 0) k)) 0 (5600 + k) = cpR (mA (sA S4 0 9 (nI D.n)) 0) k (5600 + k) from rfl, cpR_s _ _ hk1 (by omega)]
                        exact ih_lc (k + 1) (by omega) (by omega) (by omega)
                  refine w_L (wkS (wkS (wkN (wkS wk0)))) ?_
                  exact w_as (lc 366 1030 (by omega) (by omega) (by omega)) rfl rfl (by rw [cpR_0, setAt_0])
              · have hop : D.op ≠ [] := List.length_pos_iff.mp (by omega)
                obtain ⟨f9, hf9⟩ : ∃ f9, flt t 2 = f9 := ⟨_, rfl⟩
                have hRe : R = .error f9 := by rw [← hR, ← hf9]; exact pSteps_er h_46 hop
                refine w_aload_n dX8_days_71 rfl ?_
                refine w_iconst (v := nI 2) dX8_days_72 ki_2 ?_
                refine m_callPi1 (mi := miX8_fails) dX8_days_73 q1765 okX8_fails rfl (Nat.le_of_ble_eq_true rfl) (c_failsX (k := 2) (t := t) hK h0 (by omega) (by omega) hO.ok.2.2.1) (Nat.le_of_ble_eq_true rfl) (fun S73 hS73 => ?_)
                rw [hf9] at hS73
                have hx := And.intro (hF.trans hS73.1) hS73.2
                refine w_pop dX8_days_76 rfl ?_
                refine w_aload_n dX8_days_77 rfl ?_
                refine mg_faults dX8_days_78 rfl ?_
                refine w_topN (n := f9.1) hx.2.1 ?_
                refine w_ifN_ne dX8_days_81 rfl (by first | omega | (have := hx.2.2.2.2; omega)) (fun h_81 => ?_) (fun h_81 => ?_)
                · refine w_aload_n dX8_days_132 rfl ?_
                  refine w_aload_n dX8_days_133 rfl ?_
                  refine mg_counted dX8_days_134 rfl ?_
                  
                  refine m_calli1 (mi := miX8_taken) dX8_days_137 q1835 okX8_taken rfl (Nat.le_of_ble_eq_true rfl) (c_taken hx.2.1 (by have := hx.2.2.2.2; omega)) (Nat.le_of_ble_eq_true rfl) ?_
                  exact w_iret dX8_days_140 rfl ⟨by rw [hqb, hRe, if_neg (by have := hx.2.2.2.1; omega)]; rfl, _, by rw [hqb, hRe]; exact days_er hG h510 hbF hx.1 hx.2, rfl⟩
                · exact absurd h_81 (by have := hx.2.2.2.1; omega)
          · refine w_aload_n dX8_days_49 rfl ?_
            refine m_callPi0 (mi := miX8_dayStep) dX8_days_50 q1847 okX8_dayStep rfl (Nat.le_of_ble_eq_true rfl) (c_dayStep hT4 hK hO h0 (EH5.frP OH (hbF.trans hF)) OH EY OD) (Nat.le_of_ble_eq_true rfl) (fun S50 hS50 => ?_)
            refine w_istore_n dX8_days_53 rfl (Nat.le_of_ble_eq_true rfl) ls_4_2 ?_
            refine w_goto dX8_days_54 rfl ?_
            refine w_iload_n dX8_days_38 rfl ?_
            refine w_ifB_eq dX8_days_39 rfl (fun h_39 => ?_) (fun h_39 => ?_)
            · obtain ⟨f9, e9⟩ := okE_f h_39
              have hRe : R = .error f9 := by rw [← hR, pSteps, if_neg h_46]; simp only [e9, bind, Except.bind]
              have hx0 := PX_f hS50 e9
              have hx := And.intro (hF.trans hx0.1) hx0.2
              refine w_aload_n dX8_days_57 rfl ?_
              refine mg_faults dX8_days_58 rfl ?_
              refine w_topN (n := f9.1) hx.2.1 ?_
              refine w_ifN_ne dX8_days_61 rfl (by first | omega | (have := hx.2.2.2.2; omega)) (fun h_61 => ?_) (fun h_61 => ?_)
              · refine w_aload_n dX8_days_77 rfl ?_
                refine mg_faults dX8_days_78 rfl ?_
                refine w_topN (n := f9.1) hx.2.1 ?_
                refine w_ifN_ne dX8_days_81 rfl (by first | omega | (have := hx.2.2.2.2; omega)) (fun h_81 => ?_) (fun h_81 => ?_)
                · refine w_aload_n dX8_days_132 rfl ?_
                  refine w_aload_n dX8_days_133 rfl ?_
                  refine mg_counted dX8_days_134 rfl ?_
                  
                  refine m_calli1 (mi := miX8_taken) dX8_days_137 q1835 okX8_taken rfl (Nat.le_of_ble_eq_true rfl) (c_taken hx.2.1 (by have := hx.2.2.2.2; omega)) (Nat.le_of_ble_eq_true rfl) ?_
                  exact w_iret dX8_days_140 rfl ⟨by rw [hqb, hRe, if_neg (by have := hx.2.2.2.1; omega)]; rfl, _, by rw [hqb, hRe]; exact days_er hG h510 hbF hx.1 hx.2, rfl⟩
                · exact absurd h_81 (by have := hx.2.2.2.1; omega)
              · exact absurd h_61 (by have := hx.2.2.2.1; omega)
            · obtain ⟨⟨D1, t1⟩, e2⟩ := okE_t h_39
              have a1 := PX_t hS50 e2
              have p1 := pStep_ok OH OD hO e2
              refine w_L (wkS (wkS (wkN (wkN wk0)))) ?_
              exact ih_lp D1 t1 _ (by have h8 := ho.1; have h9 := ho.2.1; have h10 : t1.fr ≤ q := Nat.le_trans p1.2.2.1.ok.1 p1.2.2.1.ok.2.1; have h11 := p1.2.1; omega) p1.2.2.1 (hF.trans a1.1) a1.2.1 p1.2.2.2 a1.2.2.1 a1.2.2.2.1 (a1.2.2.2.2.trans h17) (by rw [← hR, pSteps, if_neg h_46]; simp only [e2, bind, Except.bind])
      refine w_L (wkS (wkS (wkN (wkN wk0)))) ?_
      exact lp (q + 1) D0 (tok (tp, q) 0) _ (by have h8 := (okT_tok (tp, q)).ok.1; have h9 := (okT_tok (tp, q)).ok.2.1; have h10 : (tok (tp, q) 0).fr ≤ q := Nat.le_trans h8 h9; omega) (okT_tok (tp, q)) (FrP.refl _) (EncY.new S5) (OkD.new H) (show TkS (sI (sI (sA S5 0 5609 (nI 0)) 23 (nI 0)) 24 (nI 0)) (tok (tp, q) 0) from hTk) (show mI (sI (sI (sA S5 0 5609 (nI 0)) 23 (nI 0)) 24 (nI 0)) 18 = nI 0 from h518) (show mI (sI (sI (sA S5 0 5609 (nI 0)) 23 (nI 0)) 24 (nI 0)) 17 = -1 from h517) hRq
  · have hqb : q_days p tp H x = none := if_neg h_8
    rw [hS5.2 h_8, hqb]
    refine w_aload_n dX8_days_11 rfl ?_
    refine w_iconst (v := nI 1) dX8_days_12 ki_1 ?_
    refine m_calli1 (mi := miX8_refuse) dX8_days_13 q1746 okX8_refuse rfl (Nat.le_of_ble_eq_true rfl) c_refuse (Nat.le_of_ble_eq_true rfl) ?_
    exact w_iret dX8_days_16 rfl ⟨by rfl, _, by rfl, rfl⟩
