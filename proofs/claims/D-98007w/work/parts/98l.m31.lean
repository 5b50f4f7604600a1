set_option maxRecDepth 100000
set_option maxHeartbeats 4000000 in
theorem c_plain {g : GG} {S : MS} {sl : Nat} (hsl : sl ≤ 5600) : Mt g miX8_plain 1 [.int (nI sl)] (S) (none) (setAt S (plaA (mA S 0) sl)) := by
  refine Mt.start (fun b => [some (.ref b), some (.int (nI sl)), none]) plX8 rfl (fun b => (Nat.le_of_ble_eq_true rfl)) (fun b => rfl) ?_
  intro σ b
  refine w_iconst (v := nI 0) dX8_plain_0 ki_0 ?_
  refine w_istore_n dX8_plain_1 rfl (Nat.le_of_ble_eq_true rfl) ls_3_2 ?_
  have lp : ∀ (j9 : Nat) (k : Nat), 1400 - k < j9 → k ≤ 1400 → Wp g (mtM g miX8_plain 1 σ b (none) (setAt S (plaA (mA S 0) sl))) 0 0 2 [some (.ref b), some (.int (nI sl)), some (.int (nI k))] [] (sM g σ b (setAt S (zer (mA S 0) sl k))) := by
    intro j9
    induction j9 with
    | zero => intro k hmu hk; exact absurd hmu (Nat.not_lt_zero _)
    | succ j9 ih_lp =>
      intro k hmu hk
      refine w_iload_n dX8_plain_2 rfl ?_
      refine w_sipush (v := nI 1400) dX8_plain_3 ks_1400 ?_
      refine w_icmpN_ge dX8_plain_6 rfl (by omega) (by omega) (fun h_6 => ?_) (fun h_6 => ?_)
      · obtain rfl : k = 1400 := by omega
        refine w_aload_n dX8_plain_24 rfl ?_
        refine mg_at dX8_plain_25 rfl ?_
        refine w_iload_n dX8_plain_28 rfl ?_
        refine w_iconst (v := nI 5) dX8_plain_29 ki_5 ?_
        refine w_iaddN dX8_plain_30 ?_
        refine w_iconst (v := nI 1) dX8_plain_31 ki_1 ?_
        refine ms_at dX8_plain_32 (by omega) ?_
        refine w_aload_n dX8_plain_33 rfl ?_
        refine mg_at dX8_plain_34 rfl ?_
        refine w_iload_n dX8_plain_37 rfl ?_
        refine w_bipush (v := nI 9) dX8_plain_38 kb_9 ?_
        refine w_iaddN dX8_plain_40 ?_
        refine w_iconst (v := (-1)) dX8_plain_41 ki_m1 ?_
        refine ms_at dX8_plain_42 (by omega) ?_
        exact w_vret dX8_plain_43 rfl ⟨by rfl, by rw [setAt_s, setAt_s]; rfl⟩
      · refine w_aload_n dX8_plain_9 rfl ?_
        refine mg_at dX8_plain_10 rfl ?_
        refine w_iload_n dX8_plain_13 rfl ?_
        refine w_iload_n dX8_plain_14 rfl ?_
        refine w_iaddN dX8_plain_15 ?_
        refine w_iconst (v := nI 0) dX8_plain_16 ki_0 ?_
        refine ms_at dX8_plain_17 (by omega) ?_
        refine w_iinc dX8_plain_18 rfl (nI_inc _ 1) rfl (Nat.le_of_ble_eq_true rfl) ls_3_2 ?_
        refine w_goto dX8_plain_21 rfl ?_
        rw [setAt_s, zer_s]
        exact ih_lp (k + 1) (by omega) (by omega)
  exact w_as (lp 1401 0 (by omega) (by omega)) rfl rfl (by rw [zer_0, setAt_0])
set_option maxHeartbeats 4000000 in
theorem c_begins {g : GG} {S : MS} {x : Int32} {most : Nat} {p : Nat} {tp : Nat → Nat} (hp : mI S 10 = nI p) (hp9 : p ≤ 900) (hm9 : most ≤ 900) (hTp : TpS S tp) : Mp g miX8_begins 3 [.int x, .int (nI most)] (S) (some (.int (bP (inN x (min p most + 1))))) (fun S2 => (inN x (min p most + 1) → FrG S S2 ∧ mI S2 10 = nI 0 ∧ mI S2 17 = -1 ∧ mI S2 18 = nI 0 ∧ TxS S2 (tp, cl x) ∧ TkS S2 (tok (tp, cl x) 0)) ∧ (¬ inN x (min p most + 1) → S2 = S)) := by
  refine Mp.start (fun b => [some (.ref b), some (.int x), some (.int (nI most)), none]) plX8 rfl (fun b => (Nat.le_of_ble_eq_true rfl)) (fun b => rfl) ?_
  intro σ b
  refine w_iload_n dX8_begins_0 rfl ?_
  refine w_if_lt dX8_begins_1 rfl (fun h_1 => ?_) (fun h_1 => ?_)
  · have hno : ¬ inN x (min p most + 1) := out_lt h_1
    refine w_iconst (v := nI 0) dX8_begins_17 ki_0 ?_
    exact w_zret dX8_begins_18 rfl (by first | exact narr0 | exact narr1) ⟨by rw [bP_f hno], _, by exact ⟨fun z => absurd z hno, fun _ => rfl⟩, rfl⟩
  · refine w_iload_n dX8_begins_4 rfl ?_
    refine w_aload_n dX8_begins_5 rfl ?_
    refine mg_taped dX8_begins_6 rfl ?_
    refine w_topN (n := p) hp ?_
    refine w_icmp_gt dX8_begins_9 rfl (fun h_9 => ?_) (fun h_9 => ?_)
    · have hno : ¬ inN x (min p most + 1) := fun z => by
        obtain ⟨q, hq, rfl⟩ := inN_of z (by omega)
        rw [nI_ltI (by omega) (by omega)] at h_9
        omega
      refine w_iconst (v := nI 0) dX8_begins_17 ki_0 ?_
      exact w_zret dX8_begins_18 rfl (by first | exact narr0 | exact narr1) ⟨by rw [bP_f hno], _, by exact ⟨fun z => absurd z hno, fun _ => rfl⟩, rfl⟩
    · refine w_iload_n dX8_begins_12 rfl ?_
      refine w_iload_n dX8_begins_13 rfl ?_
      refine w_icmp_le dX8_begins_14 rfl (fun h_14 => ?_) (fun h_14 => ?_)
      · obtain ⟨q, hqm, rfl⟩ := inN_of (in_le h_1 h_14 (by omega)) (by omega)
        rw [nI_ltI (by omega) (by omega)] at h_9
        have hyes : inN (nI q) (min p most + 1) := inN_nI (by omega) (by omega)
        have hclq : cl (nI q) = q := nI_clamp (by omega)
        refine w_aload_n dX8_begins_19 rfl ?_
        refine w_iload_n dX8_begins_20 rfl ?_
        refine mp_size dX8_begins_21 rfl ?_
        refine w_iconst (v := nI 0) dX8_begins_24 ki_0 ?_
        refine w_istore_n dX8_begins_25 rfl (Nat.le_of_ble_eq_true rfl) ls_4_3 ?_
        have lp : ∀ (j9 : Nat) (k : Nat) (S3 : MS), q - k < j9 → k ≤ q → FrG S S3 → mI S3 11 = nI q → (∀ i, i < k → mA S3 9 i = b8 (tp i)) → Wp g (mtP g miX8_begins 3 σ b (some (.int (bP (inN (nI q) (min p most + 1))))) (fun S2 => (inN (nI q) (min p most + 1) → FrG S S2 ∧ mI S2 10 = nI 0 ∧ mI S2 17 = -1 ∧ mI S2 18 = nI 0 ∧ TxS S2 (tp, cl (nI q)) ∧ TkS S2 (tok (tp, cl (nI q)) 0)) ∧ (¬ inN (nI q) (min p most + 1) → S2 = S))) 0 0 26 [some (.ref b), some (.int (nI q)), some (.int (nI most)), some (.int (nI k))] [] (sM g σ b (S3)) := by
          intro j9
          induction j9 with
          | zero => intro k S3 hmu hk hF h11 h9; exact absurd hmu (Nat.not_lt_zero _)
          | succ j9 ih_lp =>
            intro k S3 hmu hk hF h11 h9
            refine w_iload_n dX8_begins_26 rfl ?_
            refine w_iload_n dX8_begins_27 rfl ?_
            refine w_icmpN_ge dX8_begins_28 rfl (by omega) (by omega) (fun h_28 => ?_) (fun h_28 => ?_)
            · refine w_aload_n dX8_begins_49 rfl ?_
              refine w_iconst (v := nI 0) dX8_begins_50 ki_0 ?_
              refine mp_taped dX8_begins_51 rfl ?_
              refine w_aload_n dX8_begins_54 rfl ?_
              refine w_iconst (v := nI 0) dX8_begins_55 ki_0 ?_
              refine mp_faults dX8_begins_56 rfl ?_
              refine w_aload_n dX8_begins_59 rfl ?_
              refine w_iconst (v := (-1)) dX8_begins_60 ki_m1 ?_
              refine mp_faultPlace dX8_begins_61 rfl ?_
              refine w_aload_n dX8_begins_64 rfl ?_
              refine w_iconst (v := nI 0) dX8_begins_65 ki_0 ?_
              refine mp_end dX8_begins_66 rfl ?_
              refine w_aload_n dX8_begins_69 rfl ?_
              refine w_iconst (v := nI 0) dX8_begins_70 ki_0 ?_
              refine mp_seen dX8_begins_71 rfl ?_
              refine w_aload_n dX8_begins_74 rfl ?_
              refine m_callPv0 (mi := miX8_ahead) dX8_begins_75 q1730 okX8_ahead rfl (Nat.le_of_ble_eq_true rfl) (c_ahead (X := (tp, q)) (e := 0) (show TxS (sI (sI (sI (sI (sI S3 10 (nI 0)) 18 (nI 0)) 17 (-1)) 14 (nI 0)) 19 (nI 0)) (tp, q) from ⟨h11, (show q ≤ 900 by omega), fun i hi => by have hi2 : i < q := hi; rw [show mA (sI (sI (sI (sI (sI S3 10 (nI 0)) 18 (nI 0)) 17 (-1)) 14 (nI 0)) 19 (nI 0)) 9 i = b8 (tp i) from h9 i (by omega)]; exact ⟨b8_and (hTp i (by omega)).2, (hTp i (by omega)).2⟩⟩) rfl (Nat.zero_le _)) (Nat.le_of_ble_eq_true rfl) (fun S75 hS75 => ?_)
              have hT3 : TxS (sI (sI (sI (sI (sI S3 10 (nI 0)) 18 (nI 0)) 17 (-1)) 14 (nI 0)) 19 (nI 0)) (tp, q) := ⟨h11, (show q ≤ 900 by omega), fun i hi => by have hi2 : i < q := hi; rw [show mA (sI (sI (sI (sI (sI S3 10 (nI 0)) 18 (nI 0)) 17 (-1)) 14 (nI 0)) 19 (nI 0)) 9 i = b8 (tp i) from h9 i (by omega)]; exact ⟨b8_and (hTp i (by omega)).2, (hTp i (by omega)).2⟩⟩
              refine w_iconst (v := nI 1) dX8_begins_78 ki_1 ?_
              exact w_zret dX8_begins_79 rfl (by first | exact narr0 | exact narr1) ⟨by rw [bP_t hyes], _, by exact ⟨fun _ => ⟨(((((hF.I _ (by omega)).I _ (by omega)).I _ (by omega)).I _ (by omega)).I _ (by omega)).K hS75.1, hS75.1.1 10 (by omega), hS75.1.1 17 (by omega), hS75.1.1 18 (by omega), by rw [hclq]; exact hT3.fr hS75.1, by rw [hclq]; exact hS75.2⟩, fun z => absurd hyes z⟩, rfl⟩
            · refine w_aload_n dX8_begins_31 rfl ?_
              refine mg_text dX8_begins_32 rfl ?_
              refine w_iload_n dX8_begins_35 rfl ?_
              refine w_aload_n dX8_begins_36 rfl ?_
              refine mg_tape dX8_begins_37 rfl ?_
              refine w_iload_n dX8_begins_40 rfl ?_
              refine ma_tape dX8_begins_41 (by omega) ?_
              refine ms_text dX8_begins_42 (by omega) ?_
              refine w_iinc dX8_begins_43 rfl (nI_inc _ 1) rfl (Nat.le_of_ble_eq_true rfl) ls_4_3 ?_
              refine w_goto dX8_begins_46 rfl ?_
              refine ih_lp (k + 1) _ (by omega) (by omega) (hF.A9 _ _) h11 (fun i hi => ?_)
              show upd (mA S3 9) k (vp_nar .byte (mA S3 8 k)) i = b8 (tp i)
              by_cases z : i = k
              · subst z
                rw [upd_eq, hF.2.2.1 8 (by omega), (hTp i (by omega)).1, b8_nar]
              · rw [upd_ne z]; exact h9 i (by omega)
        exact lp (q + 1) 0 _ (by omega) (by omega) ((FrG.refl S).I _ (by omega)) rfl (fun i hi => absurd hi (Nat.not_lt_zero i))
      · have hno : ¬ inN x (min p most + 1) := fun z => by
          obtain ⟨q, hq, rfl⟩ := inN_of z (by omega)
          rw [nI_leI (by omega) (by omega)] at h_14
          omega
        refine w_iconst (v := nI 0) dX8_begins_17 ki_0 ?_
        exact w_zret dX8_begins_18 rfl (by first | exact narr0 | exact narr1) ⟨by rw [bP_f hno], _, by exact ⟨fun z => absurd z hno, fun _ => rfl⟩, rfl⟩
set_option maxHeartbeats 4000000 in
theorem c_taken {g : GG} {S : MS} {x : Int32} {f : Nat} (hf : mI S 18 = nI f) (hf9 : f < 1000) : Mt g miX8_taken 2 [.int x] (S) (some (.int (if f = 0 then x else -1))) (takenS S f) := by
  refine Mt.start (fun b => [some (.ref b), some (.int x)]) plX8 rfl (fun b => (Nat.le_of_ble_eq_true rfl)) (fun b => rfl) ?_
  intro σ b
  refine w_aload_n dX8_taken_0 rfl ?_
  refine w_aload_n dX8_taken_1 rfl ?_
  refine mg_faults dX8_taken_2 rfl ?_
  refine w_topN (n := f) hf ?_
  refine mp_faultKind dX8_taken_5 rfl ?_
  refine w_aload_n dX8_taken_8 rfl ?_
  refine mg_faults dX8_taken_9 rfl ?_
  refine w_topN (n := f) hf ?_
  refine w_ifN_le dX8_taken_12 rfl (by omega) (fun h_12 => ?_) (fun h_12 => ?_)
  · refine w_aload_n dX8_taken_24 rfl ?_
    refine w_iload_n dX8_taken_25 rfl ?_
    refine m_calli1 (mi := miX8_gives) dX8_taken_26 q1839 okX8_gives rfl (Nat.le_of_ble_eq_true rfl) c_gives (Nat.le_of_ble_eq_true rfl) ?_
    exact w_iret dX8_taken_29 rfl ⟨by rw [if_pos (by omega)], by unfold takenS; rw [if_pos (by omega)]⟩
  · refine w_aload_n dX8_taken_15 rfl ?_
    refine w_bipush (v := nI 9) dX8_taken_16 kb_9 ?_
    refine m_calli1 (mi := miX8_refuse) dX8_taken_18 q1746 okX8_refuse rfl (Nat.le_of_ble_eq_true rfl) c_refuse (Nat.le_of_ble_eq_true rfl) ?_
    refine w_goto dX8_taken_21 rfl ?_
    exact w_iret dX8_taken_29 rfl ⟨by rw [if_neg (by omega)], by unfold takenS; rw [if_neg (by omega)]⟩
theorem wI_out {k : Nat} (h3 : ¬ k = 3) (h4 : ¬ k = 4) (h5 : ¬ k = 5) (h6 : ¬ k = 6) : (wI k).toInt < 3 ∨ 6 < (wI k).toInt := by
  unfold wI
  split
  · rw [nI_toInt (by omega)]
    omega
  · left
    decide
set_option maxHeartbeats 4000000 in
theorem c_beachPart {g : GG} {S : MS} {X : TX} {t : Tk} {B : BS} (hT : TxS S X) (hK : TkS S t) (hO : OkT9 X t) (h0 : mI S 18 = nI 0) (EB : EncB S B) (OB : OkB B) : Mp g miX8_beachPart 9 [] (S) (some (.int (bP (okE (pPart X B t))))) (PX (pPart X B t) S (fun v S2 => FrP S S2 ∧ EncB S2 v.1 ∧ OkB v.1 ∧ TkS S2 v.2 ∧ mI S2 18 = nI 0 ∧ mI S2 17 = mI S 17)) := by
  refine Mp.start (fun b => [some (.ref b), none]) plX8 rfl (fun b => (Nat.le_of_ble_eq_true rfl)) (fun b => rfl) ?_
  intro σ b
  have hkl := kix_le X t
  refine w_aload_n dX8_beachPart_0 rfl ?_
  refine w_ldcS hx0 rfl rfl dX8_beachPart_1 ?_
  refine m_calli1 (mi := miX8_inWords) dX8_beachPart_3 q1759 okX8_inWords rfl (Nat.le_of_ble_eq_true rfl) (c_inWords hT hK hO) (Nat.le_of_ble_eq_true rfl) ?_
  by_cases hs_3 : kix X t = 3
  · have hkx := hs_3
    rw [show wI (kix X t) = nI 3 by rw [hs_3]; rfl]
    refine w_tableIn dX8_beachPart_6 (by decide +kernel) (by decide +kernel) rfl rfl ?_
    refine w_aload_n dX8_beachPart_36 rfl ?_
    refine m_callPi0 (mi := miX8_aFinder) dX8_beachPart_37 q1785 okX8_aFinder rfl (Nat.le_of_ble_eq_true rfl) (c_aFinder hT hK hO h0 EB OB) (Nat.le_of_ble_eq_true rfl) (fun S37 hS37 => ?_)
    refine w_istore_n dX8_beachPart_40 rfl (Nat.le_of_ble_eq_true rfl) ls_2_1 ?_
    refine w_goto dX8_beachPart_41 rfl ?_
    refine w_iload_n dX8_beachPart_74 rfl ?_
    refine w_ifB_eq dX8_beachPart_75 rfl (fun h_75 => ?_) (fun h_75 => ?_)
    · obtain ⟨f9, e9⟩ := okE_f h_75
      have ee : pPart X B t = .error f9 := by simp only [pPart, if_pos hkx, e9, bind, Except.bind]
      have hx := PX_f hS37 e9
      refine w_iconst (v := nI 0) dX8_beachPart_91 ki_0 ?_
      exact w_zret dX8_beachPart_92 rfl (by first | exact narr0 | exact narr1) ⟨by rw [bP_f (okE_er (ee))], _, by exact PX_er ee hx, rfl⟩
    · obtain ⟨⟨B1, t1⟩, e1⟩ := okE_t h_75
      have a1 := PX_t hS37 e1
      have o1 := (pFinder_ok OB hO e1).1.1
      have hT1 := hT.frP a1.1
      refine w_aload_n dX8_beachPart_78 rfl ?_
      refine w_bipush (v := nI 59) dX8_beachPart_79 kb_59 ?_
      refine m_callPi1 (mi := miX8_wantSign) dX8_beachPart_81 q1773 okX8_wantSign rfl (Nat.le_of_ble_eq_true rfl) (c_wantSign hT1 a1.2.2.2.1 o1 a1.2.2.2.2.1 (by omega)) (Nat.le_of_ble_eq_true rfl) (fun S81 hS81 => ?_)
      refine w_ifB_eq dX8_beachPart_84 rfl (fun h_84 => ?_) (fun h_84 => ?_)
      · obtain ⟨f9, e9⟩ := okE_f h_84
        have ee : pPart X B t = .error f9 := by simp only [pPart, if_pos hkx, e1, e9, bind, Except.bind]
        have hx0 := PX_f hS81 e9
        have hx := And.intro (a1.1.trans hx0.1) hx0.2
        refine w_iconst (v := nI 0) dX8_beachPart_91 ki_0 ?_
        exact w_zret dX8_beachPart_92 rfl (by first | exact narr0 | exact narr1) ⟨by rw [bP_f (okE_er (ee))], _, by exact PX_er ee hx, rfl⟩
      · obtain ⟨t2, e2⟩ := okE_t h_84
        have ee : pPart X B t = .ok (B1, t2) := by simp only [pPart, if_pos hkx, e1, e2, bind, Except.bind]
        have a2 := PX_t hS81 e2
        refine w_iconst (v := nI 1) dX8_beachPart_87 ki_1 ?_
        refine w_goto dX8_beachPart_88 rfl ?_
        exact w_zret dX8_beachPart_92 rfl (by first | exact narr0 | exact narr1) ⟨by rw [bP_t (okE_ok (ee))], _, by exact PX_ok ee ⟨a1.1.trans a2.1.P, a1.2.1.frK a2.1, a1.2.2.1, a2.2, (a2.1.1 18 (by omega)).trans a1.2.2.2.2.1, (a2.1.1 17 (by omega)).trans a1.2.2.2.2.2⟩, rfl⟩
  by_cases hs_4 : kix X t = 4
  · have hkx := hs_4
    rw [show wI (kix X t) = nI 4 by rw [hs_4]; rfl]
    refine w_tableIn dX8_beachPart_6 (by decide +kernel) (by decide +kernel) rfl rfl ?_
    refine w_aload_n dX8_beachPart_44 rfl ?_
    refine m_callPi0 (mi := miX8_aFind) dX8_beachPart_45 q1809 okX8_aFind rfl (Nat.le_of_ble_eq_true rfl) (c_aFind hT hK hO h0 EB OB) (Nat.le_of_ble_eq_true rfl) (fun S45 hS45 => ?_)
    refine w_istore_n dX8_beachPart_48 rfl (Nat.le_of_ble_eq_true rfl) ls_2_1 ?_
    refine w_goto dX8_beachPart_49 rfl ?_
    refine w_iload_n dX8_beachPart_74 rfl ?_
    refine w_ifB_eq dX8_beachPart_75 rfl (fun h_75 => ?_) (fun h_75 => ?_)
    · obtain ⟨f9, e9⟩ := okE_f h_75
      have ee : pPart X B t = .error f9 := by simp only [pPart, if_neg hs_3, if_pos hkx, e9, bind, Except.bind]
      have hx := PX_f hS45 e9
      refine w_iconst (v := nI 0) dX8_beachPart_91 ki_0 ?_
      exact w_zret dX8_beachPart_92 rfl (by first | exact narr0 | exact narr1) ⟨by rw [bP_f (okE_er (ee))], _, by exact PX_er ee hx, rfl⟩
    · obtain ⟨⟨B1, t1⟩, e1⟩ := okE_t h_75
      have a1 := PX_t hS45 e1
      have o1 := (pFind_ok OB hO e1).1.1
      have hT1 := hT.frP a1.1
      refine w_aload_n dX8_beachPart_78 rfl ?_
      refine w_bipush (v := nI 59) dX8_beachPart_79 kb_59 ?_
      refine m_callPi1 (mi := miX8_wantSign) dX8_beachPart_81 q1773 okX8_wantSign rfl (Nat.le_of_ble_eq_true rfl) (c_wantSign hT1 a1.2.2.2.1 o1 a1.2.2.2.2.1 (by omega)) (Nat.le_of_ble_eq_true rfl) (fun S81 hS81 => ?_)
      refine w_ifB_eq dX8_beachPart_84 rfl (fun h_84 => ?_) (fun h_84 => ?_)
      · obtain ⟨f9, e9⟩ := okE_f h_84
        have ee : pPart X B t = .error f9 := by simp only [pPart, if_neg hs_3, if_pos hkx, e1, e9, bind, Except.bind]
        have hx0 := PX_f hS81 e9
        have hx := And.intro (a1.1.trans hx0.1) hx0.2
        refine w_iconst (v := nI 0) dX8_beachPart_91 ki_0 ?_
        exact w_zret dX8_beachPart_92 rfl (by first | exact narr0 | exact narr1) ⟨by rw [bP_f (okE_er (ee))], _, by exact PX_er ee hx, rfl⟩
      · obtain ⟨t2, e2⟩ := okE_t h_84
        have ee : pPart X B t = .ok (B1, t2) := by simp only [pPart, if_neg hs_3, if_pos hkx, e1, e2, bind, Except.bind]
        have a2 := PX_t hS81 e2
        refine w_iconst (v := nI 1) dX8_beachPart_87 ki_1 ?_
        refine w_goto dX8_beachPart_88 rfl ?_
        exact w_zret dX8_beachPart_92 rfl (by first | exact narr0 | exact narr1) ⟨by rw [bP_t (okE_ok (ee))], _, by exact PX_ok ee ⟨a1.1.trans a2.1.P, a1.2.1.frK a2.1, a1.2.2.1, a2.2, (a2.1.1 18 (by omega)).trans a1.2.2.2.2.1, (a2.1.1 17 (by omega)).trans a1.2.2.2.2.2⟩, rfl⟩
  by_cases hs_5 : kix X t = 5
  · have hkx := hs_5
    rw [show wI (kix X t) = nI 5 by rw [hs_5]; rfl]
    refine w_tableIn dX8_beachPart_6 (by decide +kernel) (by decide +kernel) rfl rfl ?_
    refine w_aload_n dX8_beachPart_52 rfl ?_
    refine m_callPi0 (mi := miX8_aPebble) dX8_beachPart_53 q1816 okX8_aPebble rfl (Nat.le_of_ble_eq_true rfl) (c_aPebble hT hK hO h0 EB OB) (Nat.le_of_ble_eq_true rfl) (fun S53 hS53 => ?_)
    refine w_istore_n dX8_beachPart_56 rfl (Nat.le_of_ble_eq_true rfl) ls_2_1 ?_
    refine w_goto dX8_beachPart_57 rfl ?_
    refine w_iload_n dX8_beachPart_74 rfl ?_
    refine w_ifB_eq dX8_beachPart_75 rfl (fun h_75 => ?_) (fun h_75 => ?_)
    · obtain ⟨f9, e9⟩ := okE_f h_75
      have ee : pPart X B t = .error f9 := by simp only [pPart, if_neg hs_3, if_neg hs_4, if_pos hkx, e9, bind, Except.bind]
      have hx := PX_f hS53 e9
      refine w_iconst (v := nI 0) dX8_beachPart_91 ki_0 ?_
      exact w_zret dX8_beachPart_92 rfl (by first | exact narr0 | exact narr1) ⟨by rw [bP_f (okE_er (ee))], _, by exact PX_er ee hx, rfl⟩
    · obtain ⟨⟨B1, t1⟩, e1⟩ := okE_t h_75
      have a1 := PX_t hS53 e1
      have o1 := (pPebble_ok OB hO e1).1.1
      have hT1 := hT.frP a1.1
      refine w_aload_n dX8_beachPart_78 rfl ?_
      refine w_bipush (v := nI 59) dX8_beachPart_79 kb_59 ?_
      refine m_callPi1 (mi := miX8_wantSign) dX8_beachPart_81 q1773 okX8_wantSign rfl (Nat.le_of_ble_eq_true rfl) (c_wantSign hT1 a1.2.2.2.1 o1 a1.2.2.2.2.1 (by omega)) (Nat.le_of_ble_eq_true rfl) (fun S81 hS81 => ?_)
      refine w_ifB_eq dX8_beachPart_84 rfl (fun h_84 => ?_) (fun h_84 => ?_)
      · obtain ⟨f9, e9⟩ := okE_f h_84
        have ee : pPart X B t = .error f9 := by simp only [pPart, if_neg hs_3, if_neg hs_4, if_pos hkx, e1, e9, bind, Except.bind]
        have hx0 := PX_f hS81 e9
        have hx := And.intro (a1.1.trans hx0.1) hx0.2
        refine w_iconst (v := nI 0) dX8_beachPart_91 ki_0 ?_
        exact w_zret dX8_beachPart_92 rfl (by first | exact narr0 | exact narr1) ⟨by rw [bP_f (okE_er (ee))], _, by exact PX_er ee hx, rfl⟩
      · obtain ⟨t2, e2⟩ := okE_t h_84
        have ee : pPart X B t = .ok (B1, t2) := by simp only [pPart, if_neg hs_3, if_neg hs_4, if_pos hkx, e1, e2, bind, Except.bind]
        have a2 := PX_t hS81 e2
        refine w_iconst (v := nI 1) dX8_beachPart_87 ki_1 ?_
        refine w_goto dX8_beachPart_88 rfl ?_
        exact w_zret dX8_beachPart_92 rfl (by first | exact narr0 | exact narr1) ⟨by rw [bP_t (okE_ok (ee))], _, by exact PX_ok ee ⟨a1.1.trans a2.1.P, a1.2.1.frK a2.1, a1.2.2.1, a2.2, (a2.1.1 18 (by omega)).trans a1.2.2.2.2.1, (a2.1.1 17 (by omega)).trans a1.2.2.2.2.2⟩, rfl⟩
  by_cases hs_6 : kix X t = 6
  · have hkx := hs_6
    rw [show wI (kix X t) = nI 6 by rw [hs_6]; rfl]
    refine w_tableIn dX8_beachPart_6 (by decide +kernel) (by decide +kernel) rfl rfl ?_
    refine w_aload_n dX8_beachPart_60 rfl ?_
    refine m_callPi0 (mi := miX8_aDuel) dX8_beachPart_61 q1831 okX8_aDuel rfl (Nat.le_of_ble_eq_true rfl) (c_aDuel hT hK hO h0 EB OB) (Nat.le_of_ble_eq_true rfl) (fun S61 hS61 => ?_)
    refine w_istore_n dX8_beachPart_64 rfl (Nat.le_of_ble_eq_true rfl) ls_2_1 ?_
    refine w_goto dX8_beachPart_65 rfl ?_
    refine w_iload_n dX8_beachPart_74 rfl ?_
    refine w_ifB_eq dX8_beachPart_75 rfl (fun h_75 => ?_) (fun h_75 => ?_)
    · obtain ⟨f9, e9⟩ := okE_f h_75
      have ee : pPart X B t = .error f9 := by simp only [pPart, if_neg hs_3, if_neg hs_4, if_neg hs_5, if_pos hkx, e9, bind, Except.bind]
      have hx := PX_f hS61 e9
      refine w_iconst (v := nI 0) dX8_beachPart_91 ki_0 ?_
      exact w_zret dX8_beachPart_92 rfl (by first | exact narr0 | exact narr1) ⟨by rw [bP_f (okE_er (ee))], _, by exact PX_er ee hx, rfl⟩
    · obtain ⟨⟨B1, t1⟩, e1⟩ := okE_t h_75
      have a1 := PX_t hS61 e1
      have o1 := (pDuel_ok OB hO e1).1.1
      have hT1 := hT.frP a1.1
      refine w_aload_n dX8_beachPart_78 rfl ?_
      refine w_bipush (v := nI 59) dX8_beachPart_79 kb_59 ?_
      refine m_callPi1 (mi := miX8_wantSign) dX8_beachPart_81 q1773 okX8_wantSign rfl (Nat.le_of_ble_eq_true rfl) (c_wantSign hT1 a1.2.2.2.1 o1 a1.2.2.2.2.1 (by omega)) (Nat.le_of_ble_eq_true rfl) (fun S81 hS81 => ?_)
      refine w_ifB_eq dX8_beachPart_84 rfl (fun h_84 => ?_) (fun h_84 => ?_)
      · obtain ⟨f9, e9⟩ := okE_f h_84
        have ee : pPart X B t = .error f9 := by simp only [pPart, if_neg hs_3, if_neg hs_4, if_neg hs_5, if_pos hkx, e1, e9, bind, Except.bind]
        have hx0 := PX_f hS81 e9
        have hx := And.intro (a1.1.trans hx0.1) hx0.2
        refine w_iconst (v := nI 0) dX8_beachPart_91 ki_0 ?_
        exact w_zret dX8_beachPart_92 rfl (by first | exact narr0 | exact narr1) ⟨by rw [bP_f (okE_er (ee))], _, by exact PX_er ee hx, rfl⟩
      · obtain ⟨t2, e2⟩ := okE_t h_84
        have ee : pPart X B t = .ok (B1, t2) := by simp only [pPart, if_neg hs_3, if_neg hs_4, if_neg hs_5, if_pos hkx, e1, e2, bind, Except.bind]
        have a2 := PX_t hS81 e2
        refine w_iconst (v := nI 1) dX8_beachPart_87 ki_1 ?_
        refine w_goto dX8_beachPart_88 rfl ?_
        exact w_zret dX8_beachPart_92 rfl (by first | exact narr0 | exact narr1) ⟨by rw [bP_t (okE_ok (ee))], _, by exact PX_ok ee ⟨a1.1.trans a2.1.P, a1.2.1.frK a2.1, a1.2.2.1, a2.2, (a2.1.1 18 (by omega)).trans a1.2.2.2.2.1, (a2.1.1 17 (by omega)).trans a1.2.2.2.2.2⟩, rfl⟩
  refine w_tableOut dX8_beachPart_6 (wI_out hs_3 hs_4 hs_5 hs_6) rfl ?_
  refine w_aload_n dX8_beachPart_68 rfl ?_
  refine w_iconst (v := nI 2) dX8_beachPart_69 ki_2 ?_
  refine m_callPi1 (mi := miX8_fails) dX8_beachPart_70 q1765 okX8_fails rfl (Nat.le_of_ble_eq_true rfl) (c_failsX (k := 2) (t := t) hK h0 (by omega) (by omega) hO.ok.2.2.1) (Nat.le_of_ble_eq_true rfl) (fun S70 hS70 => ?_)
  exact w_zret dX8_beachPart_73 rfl (by first | exact narr0 | exact narr1) ⟨by rw [bP_f (okE_er (show pPart X B t = .error (flt t 2) from by simp only [pPart, if_neg hs_3, if_neg hs_4, if_neg hs_5, if_neg hs_6, bind, Except.bind]))], _, by exact PX_er (show pPart X B t = .error (flt t 2) from by simp only [pPart, if_neg hs_3, if_neg hs_4, if_neg hs_5, if_neg hs_6, bind, Except.bind]) hS70, rfl⟩
set_option maxHeartbeats 4000000 in
theorem c_beach {g : GG} {S : MS} {x : Int32} {p : Nat} {tp : Nat → Nat} (hp : mI S 10 = nI p) (hp9 : p ≤ 900) (hTp : TpS S tp) : Mp g miX8_beach 10 [.int x] (S) (some (.int (a_beach (q_beach p tp x)))) (fun S2 => P_beach S S2 (q_beach p tp x)) := by
  refine Mp.start (fun b => [some (.ref b), some (.int x), none, none]) plX8 rfl (fun b => (Nat.le_of_ble_eq_true rfl)) (fun b => rfl) ?_
  intro σ b
  refine w_aload_n dX8_beach_0 rfl ?_
  refine w_iload_n dX8_beach_1 rfl ?_
  refine w_sipush (v := nI 900) dX8_beach_2 ks_900 ?_
  refine m_callPi2 (mi := miX8_begins) dX8_beach_5 q1726 okX8_begins rfl (Nat.le_of_ble_eq_true rfl) (c_begins (p := p) (tp := tp) hp hp9 (by omega) hTp) (Nat.le_of_ble_eq_true rfl) (fun S5 hS5 => ?_)
  refine w_ifB_ne dX8_beach_8 rfl (fun h_8 => ?_) (fun h_8 => ?_)
  · have hb5 := hS5.1 h_8
    obtain ⟨q, hq, rfl⟩ := inN_of h_8 (by omega)
    have hclq : cl (nI q) = q := nI_clamp (by omega)
    rw [hclq] at hb5
    obtain ⟨hG, h510, h517, h518, hTx, hTk⟩ := hb5
    obtain ⟨R, hRq⟩ : ∃ R, pBeach (tp, q) = R := ⟨_, rfl⟩
    have hqb : q_beach p tp (nI q) = some R := by rw [q_beach, if_pos h_8, hclq, hRq]
    refine w_aload_n dX8_beach_17 rfl ?_
    refine w_sipush (v := nI 5600) dX8_beach_18 ks_5600 ?_
    refine m_callv1 (mi := miX8_plain) dX8_beach_21 q1548 okX8_plain rfl (Nat.le_of_ble_eq_true rfl) (c_plain (by first | assumption | omega)) (Nat.le_of_ble_eq_true rfl) ?_
    refine w_aload_n dX8_beach_24 rfl ?_
    refine w_iconst (v := nI 0) dX8_beach_25 ki_0 ?_
    refine mp_duelTold (by first | exact narr0 | exact narr1 | exact narrB) (by first | exact fitz0 | exact fitz1) dX8_beach_26 rfl ?_
    refine w_aload_n dX8_beach_29 rfl ?_
    refine w_iconst (v := nI 0) dX8_beach_30 ki_0 ?_
    refine mp_pebblesTold dX8_beach_31 rfl ?_
    refine w_aload_n dX8_beach_34 rfl ?_
    have hT0 : TxS (sI (sI (setAt S5 (plaA (mA S5 0) 5600)) 20 (nI 0)) 21 (nI 0)) (tp, q) := hTx
    have hbF : FrP S5 (sI (sI (setAt S5 (plaA (mA S5 0) 5600)) 20 (nI 0)) 21 (nI 0)) := ((FrP.at_ (fun k hk => plaA_lo _ k hk)).trans (FrP.I _ _ (by omega))).trans (FrP.I _ _ (by omega))
    refine m_callPi0 (mi := miX8_first) dX8_beach_35 q1750 okX8_first rfl (Nat.le_of_ble_eq_true rfl) (c_first (X := (tp, q)) (t := (tok (tp, q) 0)) hT0 (show TkS (sI (sI (setAt S5 (plaA (mA S5 0) 5600)) 20 (nI 0)) 21 (nI 0)) (tok (tp, q) 0) from hTk) (okT_tok (tp, q)) h518 (plaA_b S5 0)) (Nat.le_of_ble_eq_true rfl) (fun S35 hS35 => ?_)
    refine w_istore_n dX8_beach_38 rfl (Nat.le_of_ble_eq_true rfl) ls_4_2 ?_
    refine w_iload_n dX8_beach_39 rfl ?_
    refine w_ifB_eq dX8_beach_40 rfl (fun h_40 => ?_) (fun h_40 => ?_)
    · obtain ⟨f9, e9⟩ := okE_f h_40
      have hRe : R = .error f9 := by rw [← hRq]; simp only [pBeach, e9, bind, Except.bind]
      have hx := PX_f hS35 e9
      refine w_aload_n dX8_beach_58 rfl ?_
      refine mg_faults dX8_beach_59 rfl ?_
      refine w_topN (n := f9.1) hx.2.1 ?_
      refine w_ifN_ne dX8_beach_62 rfl (by first | omega | (have := hx.2.2.2.2; omega)) (fun h_62 => ?_) (fun h_62 => ?_)
      · refine w_aload_n dX8_beach_125 rfl ?_
        refine w_aload_n dX8_beach_126 rfl ?_
        refine mg_at dX8_beach_127 rfl ?_
        refine w_iconst (v := nI 2) dX8_beach_130 ki_2 ?_
        refine ma_at dX8_beach_131 (by omega) ?_
        
        refine m_calli1 (mi := miX8_taken) dX8_beach_132 q1835 okX8_taken rfl (Nat.le_of_ble_eq_true rfl) (c_taken hx.2.1 (by have := hx.2.2.2.2; omega)) (Nat.le_of_ble_eq_true rfl) ?_
        exact w_iret dX8_beach_135 rfl ⟨by rw [hqb, hRe, if_neg (by have := hx.2.2.2.1; omega)]; rfl, _, by rw [hqb, hRe]; exact beach_er hG h510 hbF hx.1 hx.2, rfl⟩
      · exact absurd h_62 (by have := hx.2.2.2.1; omega)
    · obtain ⟨⟨c1, t1⟩, e1⟩ := okE_t h_40
      have a1 := PX_t hS35 e1
      have p0 := pFirst_ok (okT_tok (tp, q)) e1
      have lp : ∀ (j9 : Nat) (B : BS) (t : Tk) (S4 : MS), q - t.fr < j9 → OkT9 (tp, q) t → FrP (sI (sI (setAt S5 (plaA (mA S5 0) 5600)) 20 (nI 0)) 21 (nI 0)) S4 → EncB S4 B → OkB B → TkS S4 t → mI S4 18 = nI 0 → mI S4 17 = -1 → pParts (tp, q) j9 B t = R → Wp g (mtP g miX8_beach 10 σ b (some (.int (a_beach (q_beach p tp (nI q))))) (fun S2 => P_beach S S2 (q_beach p tp (nI q)))) 0 0 43 [some (.ref b), some (.int (nI q)), none, none] [] (sM g σ b (S4)) := by
        intro j9
        induction j9 with
        | zero => intro B t S4 hmu hO hF EB OB hK h0 h17 hR; exact absurd hmu (Nat.not_lt_zero _)
        | succ j9 ih_lp =>
          intro B t S4 hmu hO hF EB OB hK h0 h17 hR
          have ho := hO.ok
          have hT4 := hT0.frP hF
          refine w_aload_n dX8_beach_43 rfl ?_
          refine mg_token dX8_beach_44 rfl ?_
          refine w_topN (n := t.so) hK.1 ?_
          refine w_ifN_eq dX8_beach_47 rfl (by omega) (fun h_47 => ?_) (fun h_47 => ?_)
          · have hRe : R = .ok B := by rw [← hR, pParts, if_pos h_47]
            refine w_aload_n dX8_beach_58 rfl ?_
            refine mg_faults dX8_beach_59 rfl ?_
            refine w_topN (n := 0) h0 ?_
            refine w_ifN_ne dX8_beach_62 rfl (by first | omega | (have := hx.2.2.2.2; omega)) (fun h_62 => ?_) (fun h_62 => ?_)
            · exact absurd rfl h_62
            · refine w_iconst (v := nI 0) dX8_beach_65 ki_0 ?_
              refine w_istore_n dX8_beach_66 rfl (Nat.le_of_ble_eq_true rfl) ls_4_3 ?_
              have lc : ∀ (j9 : Nat) (k : Nat), 1400 - k < j9 → k ≤ 1400 → Wp g (mtP g miX8_beach 10 σ b (some (.int (a_beach (q_beach p tp (nI q))))) (fun S2 => P_beach S S2 (q_beach p tp (nI q)))) 0 0 67 [some (.ref b), some (.int (nI q)), none, some (.int (nI k))] [] (sM g σ b ((setAt S4 (cpyA (mA S4 0) k)))) := by
                intro j9
                induction j9 with
                | zero => intro k hmu hk; exact absurd hmu (Nat.not_lt_zero _)
                | succ j9 ih_lc =>
                  intro k hmu hk
                  refine w_iload_n dX8_beach_67 rfl ?_
                  refine w_sipush (v := nI 1400) dX8_beach_68 ks_1400 ?_
                  refine w_icmpN_ge dX8_beach_71 rfl (by omega) (by omega) (fun h_71 => ?_) (fun h_71 => ?_)
                  · obtain rfl : k = 1400 := by omega
                    refine w_iconst (v := nI 0) dX8_beach_96 ki_0 ?_
                    refine w_istore_n dX8_beach_97 rfl (Nat.le_of_ble_eq_true rfl) ls_4_3 ?_
                    have ld : ∀ (j9 : Nat) (k : Nat), 14 - k < j9 → k ≤ 14 → Wp g (mtP g miX8_beach 10 σ b (some (.int (a_beach (q_beach p tp (nI q))))) (fun S2 => P_beach S S2 (q_beach p tp (nI q)))) 0 0 98 [some (.ref b), some (.int (nI q)), none, some (.int (nI k))] [] (sM g σ b ((setNm (setAt S4 (cpyA (mA S4 0) 1400)) (cpyB (mB S4 1) k)))) := by
                      intro j9
                      induction j9 with
                      | zero => intro k hmu hk; exact absurd hmu (Nat.not_lt_zero _)
                      | succ j9 ih_ld =>
                        intro k hmu hk
                        refine w_iload_n dX8_beach_98 rfl ?_
                        refine w_bipush (v := nI 14) dX8_beach_99 kb_14 ?_
                        refine w_icmpN_ge dX8_beach_101 rfl (by omega) (by omega) (fun h_101 => ?_) (fun h_101 => ?_)
                        · obtain rfl : k = 14 := by omega
                          have hb6 := OB.b
                          refine w_aload_n dX8_beach_125 rfl ?_
                          refine w_aload_n dX8_beach_126 rfl ?_
                          refine mg_at dX8_beach_127 rfl ?_
                          refine w_iconst (v := nI 2) dX8_beach_130 ki_2 ?_
                          refine ma_at dX8_beach_131 (by omega) ?_
                          rw [show mA (setNm (setAt S4 (cpyA (mA S4 0) 1400)) (cpyB (mB S4 1) 14)) 0 2 = nI (vs B.W 2) from by show cpyA (mA S4 0) 1400 2 = _; rw [cpyA, if_pos (by omega)]; exact EB.s 2 (by omega)]
                          refine m_calli1 (mi := miX8_taken) dX8_beach_132 q1835 okX8_taken rfl (Nat.le_of_ble_eq_true rfl) (c_taken (show mI (setNm (setAt S4 (cpyA (mA S4 0) 1400)) (cpyB (mB S4 1) 14)) 18 = nI 0 from h0) (by omega)) (Nat.le_of_ble_eq_true rfl) ?_
                          exact w_iret dX8_beach_135 rfl ⟨by rw [hqb, hRe]; rfl, _, by rw [hqb, hRe]; exact beach_ok hG h510 h17 hbF hF EB OB, rfl⟩
                        · refine w_aload_n dX8_beach_104 rfl ?_
                          refine mg_names dX8_beach_105 rfl ?_
                          refine w_iload_n dX8_beach_108 rfl ?_
                          refine w_aload_n dX8_beach_109 rfl ?_
                          refine mg_names dX8_beach_110 rfl ?_
                          refine w_bipush (v := nI 56) dX8_beach_113 kb_56 ?_
                          refine w_iload_n dX8_beach_115 rfl ?_
                          refine w_iaddN dX8_beach_116 ?_
                          refine ma_names dX8_beach_117 (by omega) ?_
                          refine ms_names dX8_beach_118 (by omega) ?_
                          refine w_iinc dX8_beach_119 rfl (nI_inc _ 1) rfl (Nat.le_of_ble_eq_true rfl) ls_4_3 ?_
                          refine w_goto dX8_beach_122 rfl ?_
                          rw [setNm_s, show mB (setNm (setAt S4 (cpyA (mA S4 0) 1400)) (cpyB (mB S4 1) k)) 1 (56 + k) = cpyB (mB S4 1) k (56 + k) from rfl, cpyB_s _ _ (by omega)]
                          exact ih_ld (k + 1) (by omega) (by omega)
                    exact w_as (ld 15 0 (by omega) (by omega)) rfl rfl (by rw [cpyB_0, show setNm (setAt S4 (cpyA (mA S4 0) 1400)) (mB S4 1) = setAt S4 (cpyA (mA S4 0) 1400) from setNm_0 (setAt S4 (cpyA (mA S4 0) 1400))])
                  · refine w_aload_n dX8_beach_74 rfl ?_
                    refine mg_at dX8_beach_75 rfl ?_
                    refine w_iload_n dX8_beach_78 rfl ?_
                    refine w_aload_n dX8_beach_79 rfl ?_
                    refine mg_at dX8_beach_80 rfl ?_
                    refine w_sipush (v := nI 5600) dX8_beach_83 ks_5600 ?_
                    refine w_iload_n dX8_beach_86 rfl ?_
                    refine w_iaddN dX8_beach_87 ?_
                    refine ma_at dX8_beach_88 (by omega) ?_
                    refine ms_at dX8_beach_89 (by omega) ?_
                    refine w_iinc dX8_beach_90 rfl (nI_inc _ 1) rfl (Nat.le_of_ble_eq_true rfl) ls_4_3 ?_
                    refine w_goto dX8_beach_93 rfl ?_
                    rw [setAt_s, setAt_A, cpyA_s _ _ (by omega)]
                    exact ih_lc (k + 1) (by omega) (by omega)
              refine w_L (wkS (wkS (wkN (wkS wk0)))) ?_
              exact w_as (lc 1401 0 (by omega) (by omega)) rfl rfl (by rw [cpyA_0, setAt_0])
          · refine w_aload_n dX8_beach_50 rfl ?_
            refine m_callPi0 (mi := miX8_beachPart) dX8_beach_51 q1781 okX8_beachPart rfl (Nat.le_of_ble_eq_true rfl) (c_beachPart hT4 hK hO h0 EB OB) (Nat.le_of_ble_eq_true rfl) (fun S51 hS51 => ?_)
            refine w_istore_n dX8_beach_54 rfl (Nat.le_of_ble_eq_true rfl) ls_4_2 ?_
            refine w_goto dX8_beach_55 rfl ?_
            refine w_iload_n dX8_beach_39 rfl ?_
            refine w_ifB_eq dX8_beach_40 rfl (fun h_40 => ?_) (fun h_40 => ?_)
            · obtain ⟨f9, e9⟩ := okE_f h_40
              have hRe : R = .error f9 := by rw [← hR, pParts, if_neg h_47]; simp only [e9, bind, Except.bind]
              have hx0 := PX_f hS51 e9
              have hx := And.intro (hF.trans hx0.1) hx0.2
              refine w_aload_n dX8_beach_58 rfl ?_
              refine mg_faults dX8_beach_59 rfl ?_
              refine w_topN (n := f9.1) hx.2.1 ?_
              refine w_ifN_ne dX8_beach_62 rfl (by first | omega | (have := hx.2.2.2.2; omega)) (fun h_62 => ?_) (fun h_62 => ?_)
              · refine w_aload_n dX8_beach_125 rfl ?_
                refine w_aload_n dX8_beach_126 rfl ?_
                refine mg_at dX8_beach_127 rfl ?_
                refine w_iconst (v := nI 2) dX8_beach_130 ki_2 ?_
                refine ma_at dX8_beach_131 (by omega) ?_
                
                refine m_calli1 (mi := miX8_taken) dX8_beach_132 q1835 okX8_taken rfl (Nat.le_of_ble_eq_true rfl) (c_taken hx.2.1 (by have := hx.2.2.2.2; omega)) (Nat.le_of_ble_eq_true rfl) ?_
                exact w_iret dX8_beach_135 rfl ⟨by rw [hqb, hRe, if_neg (by have := hx.2.2.2.1; omega)]; rfl, _, by rw [hqb, hRe]; exact beach_er hG h510 hbF hx.1 hx.2, rfl⟩
              · exact absurd h_62 (by have := hx.2.2.2.1; omega)
            · obtain ⟨⟨B1, t1⟩, e2⟩ := okE_t h_40
              have a1 := PX_t hS51 e2
              have p1 := pPart_ok OB hO e2
              refine w_L (wkS (wkS (wkN (wkN wk0)))) ?_
              exact ih_lp B1 t1 _ (by have := p1.1.1.ok; have := p1.1.2.2 h_47; have h8 := ho.1; have h9 := ho.2.1; have h10 : t1.fr ≤ q := Nat.le_trans (p1.1.1.ok.1) p1.1.1.ok.2.1; omega) p1.1.1 (hF.trans a1.1) a1.2.1 p1.2 a1.2.2.2.1 a1.2.2.2.2.1 (a1.2.2.2.2.2.trans h17) (by rw [← hR, pParts, if_neg h_47]; simp only [e2, bind, Except.bind])
      refine w_L (wkS (wkS (wkN (wkN wk0)))) ?_
      exact lp (q + 1) _ t1 _ (by omega) p0.1.1 a1.1 a1.2.1 p0.2 a1.2.2.1 a1.2.2.2.1 (a1.2.2.2.2.trans h517) (by rw [← hRq]; simp only [pBeach, e1, bind, Except.bind])
  · have hqb : q_beach p tp x = none := if_neg h_8
    rw [hS5.2 h_8, hqb]
    refine w_aload_n dX8_beach_11 rfl ?_
    refine w_iconst (v := nI 1) dX8_beach_12 ki_1 ?_
    refine m_calli1 (mi := miX8_refuse) dX8_beach_13 q1746 okX8_refuse rfl (Nat.le_of_ble_eq_true rfl) c_refuse (Nat.le_of_ble_eq_true rfl) ?_
    exact w_iret dX8_beach_16 rfl ⟨by rfl, _, by rfl, rfl⟩
