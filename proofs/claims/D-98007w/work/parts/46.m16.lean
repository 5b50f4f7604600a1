set_option maxRecDepth 100000
theorem EncL.same {S : MS} {lo : Nat → Nat} (E : EncL S lo) {o x : Nat} (h : x = lo o) : EncL (sA S 33 o (nI x)) lo := fun j hj => by
  subst h
  show upd (mA S 33) o _ j = nI (lo j)
  unfold upd
  by_cases h : j = o
  · rw [if_pos h, h]
  · rw [if_neg h]; exact E j hj
/-- loops alone changed -/
def Fr3 (S S2 : MS) : Prop := FrR S S2 ∧ (∀ i, mI S2 i = mI S i) ∧ ∀ j, j ≠ 33 → mA S2 j = mA S j
theorem Fr3.put {S S2 : MS} (h : Fr3 S S2) (o : Nat) (x : Int32) : Fr3 S (sA S2 33 o x) :=
  ⟨h.1.trans (FrR.lo _ _ _), h.2.1, fun j hj => by
    rw [← h.2.2 j hj]
    show va_up S2.2.2.1 33 _ j = _
    unfold va_up; rw [if_neg hj]; rfl⟩
set_option maxHeartbeats 1200000 in
theorem c_behindEnds {g : GG} {S : MS} {q : Nat} {P : PG} {lo : Nat → Nat} {nc nf nd : Nat} (EP : EncP S P) (OP : OkP nc nf nd P) (EL : EncL S lo) (hq : q ≤ 61) (hp0 : 0 < pn P) (hlo : ∀ o, lo o < 2147483648) : Mp g miX8_behindEnds 1 [.int (nI q)] (S) (some (.int (nI ((beV P q lo).1)))) (fun S2 => EncL S2 (beV P q lo).2 ∧ Fr3 S S2) := by
  refine Mp.start (fun b => [some (.ref b), some (.int (nI q)), none, none, none]) plX8 rfl (fun b => (Nat.le_of_ble_eq_true rfl)) (fun b => rfl) ?_
  intro σ b
  have hpn := OP.1
  obtain ⟨n, hn⟩ : ∃ n, pn P = n + 1 := ⟨pn P - 1, by omega⟩
  refine w_iload_n dX8_behindEnds_0 rfl ?_
  refine w_istore_n dX8_behindEnds_1 rfl (Nat.le_of_ble_eq_true rfl) ls_5_2 ?_
  have lp : ∀ (j9 : Nat) (k : Nat) (l2 : Nat → Nat) (S4 : MS), beM k l2 < j9 → k ≤ 61 → beF P j9 k l2 = beV P q lo → Fr3 S S4 → EncL S4 l2 → (∀ o, l2 o < 2147483648) → Wp g (mtP g miX8_behindEnds 1 σ b (some (.int (nI ((beV P q lo).1)))) (fun S2 => EncL S2 (beV P q lo).2 ∧ Fr3 S S2)) 0 0 2 [some (.ref b), some (.int (nI q)), some (.int (nI k)), none, none] [] (sM g σ b (S4)) := by
    intro j9
    induction j9 with
    | zero => intro k l2 S4 hmu hk hb hF hL hLb; exact absurd hmu (Nat.not_lt_zero _)
    | succ j9 ih_lp =>
      intro k l2 S4 hmu hk hb hF hL hLb
      have EP4 := EP.fr hF.1
      have e9 := EP4.1
      rw [hn, nI_dn] at e9
      refine w_iload_n dX8_behindEnds_2 rfl ?_
      refine w_aload_n dX8_behindEnds_3 rfl ?_
      refine mg_at dX8_behindEnds_4 rfl ?_
      refine w_bipush (v := nI 9) dX8_behindEnds_7 kb_9 ?_
      refine ma_at dX8_behindEnds_9 (by omega) ?_
      rw [e9]
      refine w_icmpN_ge dX8_behindEnds_10 rfl (by omega) (by omega) (fun h_10 => ?_) (fun h_10 => ?_)
      · have hout : beV P q lo = (k, l2) := by rw [← hb]; exact if_neg (by omega)
        refine w_iload_n dX8_behindEnds_118 rfl ?_
        exact w_iret dX8_behindEnds_119 rfl ⟨by rw [hout], _, by rw [hout]; exact ⟨hL, hF⟩, rfl⟩
      · have hkP : k + 1 < pn P := by omega
        have hrow := OP.2 k hkP
        have hkb : pr P k 0 < 3000 := by have := hrow.1; omega
        refine w_aload_n dX8_behindEnds_13 rfl ?_
        refine mg_at dX8_behindEnds_14 rfl ?_
        refine w_sipush (v := nI 1030) dX8_behindEnds_17 ks_1030 ?_
        refine w_bipush (v := nI 6) dX8_behindEnds_20 kb_6 ?_
        refine w_iload_n dX8_behindEnds_22 rfl ?_
        refine w_imulN dX8_behindEnds_23 ?_
        refine w_iaddN dX8_behindEnds_24 ?_
        refine ma_at dX8_behindEnds_25 (by omega) ?_
        refine w_topN (n := pr P k 0) (EP4.2 k hkP 0 (by omega) (Or.inl rfl)) ?_
        refine w_bipush (v := nI 26) dX8_behindEnds_26 kb_26 ?_
        refine w_icmpN_ne dX8_behindEnds_28 rfl (by omega) (by omega) (fun h_28 => ?_) (fun h_28 => ?_)
        · have hout : beV P q lo = (k, l2) := by rw [← hb]; exact if_neg (fun z => h_28 z.2)
          refine w_iload_n dX8_behindEnds_118 rfl ?_
          exact w_iret dX8_behindEnds_119 rfl ⟨by rw [hout], _, by rw [hout]; exact ⟨hL, hF⟩, rfl⟩
        · have ho4 := hrow.2.2.2.2.2.2.2.2.2.2.2.1 h_28
          have hkO : pr P k 4 + 1 < pn P := by omega
          have hrowO := OP.2 (pr P k 4) hkO
          have hkbO : pr P (pr P k 4) 0 < 3000 := by have := hrowO.1; omega
          refine w_aload_n dX8_behindEnds_31 rfl ?_
          refine mg_at dX8_behindEnds_32 rfl ?_
          refine w_sipush (v := nI 1030) dX8_behindEnds_35 ks_1030 ?_
          refine w_bipush (v := nI 6) dX8_behindEnds_38 kb_6 ?_
          refine w_iload_n dX8_behindEnds_40 rfl ?_
          refine w_imulN dX8_behindEnds_41 ?_
          refine w_iaddN dX8_behindEnds_42 ?_
          refine w_iconst (v := nI 4) dX8_behindEnds_43 ki_4 ?_
          refine w_iaddN dX8_behindEnds_44 ?_
          refine ma_at dX8_behindEnds_45 (by omega) ?_
          refine w_topN (n := pr P k 4) (EP4.2 k hkP 4 (by omega) (by omega)) ?_
          refine w_istore_n dX8_behindEnds_46 rfl (Nat.le_of_ble_eq_true rfl) ls_5_3 ?_
          refine w_aload_n dX8_behindEnds_47 rfl ?_
          refine mg_at dX8_behindEnds_48 rfl ?_
          refine w_sipush (v := nI 1030) dX8_behindEnds_51 ks_1030 ?_
          refine w_bipush (v := nI 6) dX8_behindEnds_54 kb_6 ?_
          refine w_iload_n dX8_behindEnds_56 rfl ?_
          refine w_imulN dX8_behindEnds_57 ?_
          refine w_iaddN dX8_behindEnds_58 ?_
          refine ma_at dX8_behindEnds_59 (by omega) ?_
          refine w_topN (n := pr P (pr P k 4) 0) (EP4.2 (pr P k 4) hkO 0 (by omega) (Or.inl rfl)) ?_
          refine w_bipush (v := nI 25) dX8_behindEnds_60 kb_25 ?_
          refine w_icmpN_ne dX8_behindEnds_62 rfl (by omega) (by omega) (fun h_62 => ?_) (fun h_62 => ?_)
          · refine w_iconst (v := nI 0) dX8_behindEnds_78 ki_0 ?_
            refine w_istore dX8_behindEnds_79 rfl (Nat.le_of_ble_eq_true rfl) ls_5_4 ?_
            refine w_aload_n dX8_behindEnds_81 rfl ?_
            refine mg_loops dX8_behindEnds_82 rfl ?_
            refine w_iload_n dX8_behindEnds_85 rfl ?_
            refine w_dup2 dX8_behindEnds_86 rfl rfl ?_
            refine ma_loops dX8_behindEnds_87 (by omega) ?_
            refine w_topN (n := l2 (pr P k 4)) (hL (pr P k 4) (by omega)) ?_
            refine w_iload dX8_behindEnds_88 rfl ?_
            refine w_ifN_eq dX8_behindEnds_90 rfl (by omega) (fun h_90 => ?_) (fun h_90 => ?_)
            · refine w_iconst (v := nI 0) dX8_behindEnds_97 ki_0 ?_
              refine w_isubN dX8_behindEnds_98 (by omega) ?_
              refine ms_loops dX8_behindEnds_99 (by omega) ?_
              refine w_iload dX8_behindEnds_100 rfl ?_
              refine w_ifN_eq dX8_behindEnds_102 rfl (by omega) (fun h_102 => ?_) (fun h_102 => ?_)
              · refine w_iload_n dX8_behindEnds_111 rfl ?_
                refine w_iconst (v := nI 1) dX8_behindEnds_112 ki_1 ?_
                refine w_iaddN dX8_behindEnds_113 ?_
                refine w_istore_n dX8_behindEnds_114 rfl (Nat.le_of_ble_eq_true rfl) ls_5_2 ?_
                refine w_goto dX8_behindEnds_115 rfl ?_
                exact w_L (wkS (wkS (wkS (wkN (wkN wk0))))) (ih_lp (k + 1) l2 _ (by unfold beM at hmu ⊢; omega) (by omega) (by rw [← hb, show beF P (j9 + 1) k l2 = _ from if_pos ⟨by omega, h_28⟩]; exact (if_neg (fun z => h_62 z.1)).symm) (hF.put _ _) (hL.same (by omega)) hLb)
              · exact absurd rfl h_102
            · exact absurd rfl h_90
          · refine w_aload_n dX8_behindEnds_65 rfl ?_
            refine mg_loops dX8_behindEnds_66 rfl ?_
            refine w_iload_n dX8_behindEnds_69 rfl ?_
            refine ma_loops dX8_behindEnds_70 (by omega) ?_
            have hlb : l2 (pr P k 4) < 2147483648 := hLb _
            refine w_topN (n := l2 (pr P k 4)) (hL (pr P k 4) (by omega)) ?_
            refine w_ifN_le dX8_behindEnds_71 rfl (by omega) (fun h_71 => ?_) (fun h_71 => ?_)
            · refine w_iconst (v := nI 0) dX8_behindEnds_78 ki_0 ?_
              refine w_istore dX8_behindEnds_79 rfl (Nat.le_of_ble_eq_true rfl) ls_5_4 ?_
              refine w_aload_n dX8_behindEnds_81 rfl ?_
              refine mg_loops dX8_behindEnds_82 rfl ?_
              refine w_iload_n dX8_behindEnds_85 rfl ?_
              refine w_dup2 dX8_behindEnds_86 rfl rfl ?_
              refine ma_loops dX8_behindEnds_87 (by omega) ?_
              refine w_topN (n := l2 (pr P k 4)) (hL (pr P k 4) (by omega)) ?_
              refine w_iload dX8_behindEnds_88 rfl ?_
              refine w_ifN_eq dX8_behindEnds_90 rfl (by omega) (fun h_90 => ?_) (fun h_90 => ?_)
              · refine w_iconst (v := nI 0) dX8_behindEnds_97 ki_0 ?_
                refine w_isubN dX8_behindEnds_98 (by omega) ?_
                refine ms_loops dX8_behindEnds_99 (by omega) ?_
                refine w_iload dX8_behindEnds_100 rfl ?_
                refine w_ifN_eq dX8_behindEnds_102 rfl (by omega) (fun h_102 => ?_) (fun h_102 => ?_)
                · refine w_iload_n dX8_behindEnds_111 rfl ?_
                  refine w_iconst (v := nI 1) dX8_behindEnds_112 ki_1 ?_
                  refine w_iaddN dX8_behindEnds_113 ?_
                  refine w_istore_n dX8_behindEnds_114 rfl (Nat.le_of_ble_eq_true rfl) ls_5_2 ?_
                  refine w_goto dX8_behindEnds_115 rfl ?_
                  exact w_L (wkS (wkS (wkS (wkN (wkN wk0))))) (ih_lp (k + 1) l2 _ (by unfold beM at hmu ⊢; omega) (by omega) (by rw [← hb, show beF P (j9 + 1) k l2 = _ from if_pos ⟨by omega, h_28⟩]; exact (if_neg (fun z => by have := z.2; omega)).symm) (hF.put _ _) (hL.same (by omega)) hLb)
                · exact absurd rfl h_102
              · exact absurd rfl h_90
            · refine w_iconst (v := nI 1) dX8_behindEnds_74 ki_1 ?_
              refine w_goto dX8_behindEnds_75 rfl ?_
              refine w_istore dX8_behindEnds_79 rfl (Nat.le_of_ble_eq_true rfl) ls_5_4 ?_
              refine w_aload_n dX8_behindEnds_81 rfl ?_
              refine mg_loops dX8_behindEnds_82 rfl ?_
              refine w_iload_n dX8_behindEnds_85 rfl ?_
              refine w_dup2 dX8_behindEnds_86 rfl rfl ?_
              refine ma_loops dX8_behindEnds_87 (by omega) ?_
              refine w_topN (n := l2 (pr P k 4)) (hL (pr P k 4) (by omega)) ?_
              refine w_iload dX8_behindEnds_88 rfl ?_
              refine w_ifN_eq dX8_behindEnds_90 rfl (by omega) (fun h_90 => ?_) (fun h_90 => ?_)
              · exact absurd h_90 (by decide)
              · refine w_iconst (v := nI 1) dX8_behindEnds_93 ki_1 ?_
                refine w_goto dX8_behindEnds_94 rfl ?_
                refine w_isubN dX8_behindEnds_98 (by omega) ?_
                refine ms_loops dX8_behindEnds_99 (by omega) ?_
                refine w_iload dX8_behindEnds_100 rfl ?_
                refine w_ifN_eq dX8_behindEnds_102 rfl (by omega) (fun h_102 => ?_) (fun h_102 => ?_)
                · exact absurd h_102 (by decide)
                · refine w_iload_n dX8_behindEnds_105 rfl ?_
                  refine w_iconst (v := nI 1) dX8_behindEnds_106 ki_1 ?_
                  refine w_iaddN dX8_behindEnds_107 ?_
                  refine w_goto dX8_behindEnds_108 rfl ?_
                  refine w_istore_n dX8_behindEnds_114 rfl (Nat.le_of_ble_eq_true rfl) ls_5_2 ?_
                  refine w_goto dX8_behindEnds_115 rfl ?_
                  exact w_L (wkS (wkS (wkS (wkN (wkN wk0))))) (ih_lp (pr P k 4 + 1) (va_up l2 (pr P k 4) (l2 (pr P k 4) - 1)) _ (by have := beM_again (lo := l2) (o := pr P k 4) (k := k) (by omega) (by omega) (by omega); omega) (by omega) (by rw [← hb, show beF P (j9 + 1) k l2 = _ from if_pos ⟨by omega, h_28⟩]; exact (if_pos ⟨h_62, by omega⟩).symm) (hF.put _ _) hL.put (fun o => by have := hLb o; unfold va_up; split <;> omega))
  exact w_L (wkS (wkS (wkS (wkN (wkN wk0))))) (lp (beM q lo + 1) q lo S (by omega) hq rfl ⟨FrR.refl S, fun _ => rfl, fun _ _ => rfl⟩ EL hlo)
