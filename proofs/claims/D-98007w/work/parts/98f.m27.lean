set_option maxRecDepth 100000
set_option maxHeartbeats 4000000 in
theorem c_wantSign {g : GG} {S : MS} {c : Nat} {X : TX} {t : Tk} (hT : TxS S X) (hK : TkS S t) (hO : OkT9 X t) (h0 : mI S 18 = nI 0) (hc : c < 256) : Mp g miX8_wantSign 3 [.int (nI c)] (S) (some (.int (bP (okE (wSign X c t))))) (PX (wSign X c t) S (fun t2 S2 => FrK S S2 ∧ TkS S2 t2)) := by
  refine Mp.start (fun b => [some (.ref b), some (.int (nI c))]) plX8 rfl (fun b => (Nat.le_of_ble_eq_true rfl)) (fun b => rfl) ?_
  intro σ b
  have hsg : (mI S 12 = nI 4 ∧ mI S 15 = nI c) ↔ (t.so = 4 ∧ t.va = c) := by
    have hso := hO.ok.2.2.1
    constructor
    · rintro ⟨z1, z2⟩
      have z3 : t.so = 4 := (nI_eq (by omega) (by omega)).mp (hK.1.symm.trans z1)
      have z4 := hO.ok.2.2.2.2.2.2.2 z3
      refine ⟨z3, (nI_eq ?_ (by omega)).mp ((hK.2.2.2 (Or.inr z3)).symm.trans z2)⟩
      simp only [isSg, Bool.or_eq_true, beq_iff_eq] at z4
      omega
    · rintro ⟨z1, z2⟩
      exact ⟨by rw [hK.1, z1], by rw [hK.2.2.2 (Or.inr z1), z2]⟩
  refine w_aload_n dX8_wantSign_0 rfl ?_
  refine w_iload_n dX8_wantSign_1 rfl ?_
  refine m_calli1 (mi := miX8_isSign) dX8_wantSign_2 q1777 okX8_isSign rfl (Nat.le_of_ble_eq_true rfl) c_isSign (Nat.le_of_ble_eq_true rfl) ?_
  refine w_ifB_ne dX8_wantSign_5 rfl (fun h_5 => ?_) (fun h_5 => ?_)
  · refine w_aload_n dX8_wantSign_14 rfl ?_
    refine m_callPv0 (mi := miX8_ahead) dX8_wantSign_15 q1730 okX8_ahead rfl (Nat.le_of_ble_eq_true rfl) (c_aheadX hT hK hO) (Nat.le_of_ble_eq_true rfl) (fun S15 hS15 => ?_)
    refine w_iconst (v := nI 1) dX8_wantSign_18 ki_1 ?_
    exact w_zret dX8_wantSign_19 rfl (by first | exact narr0 | exact narr1) ⟨by rw [bP_t (okE_ok (show wSign X c t = .ok (nx X t) from if_pos (hsg.mp h_5)))], _, by exact PX_ok (show wSign X c t = .ok (nx X t) from if_pos (hsg.mp h_5)) hS15, rfl⟩
  · refine w_aload_n dX8_wantSign_8 rfl ?_
    refine w_iconst (v := nI 2) dX8_wantSign_9 ki_2 ?_
    refine m_callPi1 (mi := miX8_fails) dX8_wantSign_10 q1765 okX8_fails rfl (Nat.le_of_ble_eq_true rfl) (c_failsX (k := 2) (t := t) hK h0 (by omega) (by omega) hO.ok.2.2.1) (Nat.le_of_ble_eq_true rfl) (fun S10 hS10 => ?_)
    exact w_zret dX8_wantSign_13 rfl (by first | exact narr0 | exact narr1) ⟨by rw [bP_f (okE_er (show wSign X c t = .error (flt t 2) from if_neg (fun z => h_5 (hsg.mpr z))))], _, by exact PX_er (show wSign X c t = .error (flt t 2) from if_neg (fun z => h_5 (hsg.mpr z))) hS10, rfl⟩
set_option maxHeartbeats 4000000 in
theorem c_wantWord {g : GG} {S : MS} {k : Nat} {X : TX} {t : Tk} (hT : TxS S X) (hK : TkS S t) (hO : OkT9 X t) (h0 : mI S 18 = nI 0) (hk3 : k < 30) : Mp g miX8_wantWord 6 [.ref (sa g 0), .int (nI k)] (S) (some (.int (bP (okE (wWord X k t))))) (PX (wWord X k t) S (fun t2 S2 => FrK S S2 ∧ TkS S2 t2)) := by
  refine Mp.start (fun b => [some (.ref b), some (.ref (sa g 0)), some (.int (nI k))]) plX8 rfl (fun b => (Nat.le_of_ble_eq_true rfl)) (fun b => rfl) ?_
  intro σ b
  have hkl := kix_le X t
  refine w_aload_n dX8_wantWord_0 rfl ?_
  refine w_aload_n dX8_wantWord_1 rfl ?_
  refine m_calli1 (mi := miX8_inWords) dX8_wantWord_2 q1759 okX8_inWords rfl (Nat.le_of_ble_eq_true rfl) (c_inWords hT hK hO) (Nat.le_of_ble_eq_true rfl) ?_
  refine w_iload_n dX8_wantWord_5 rfl ?_
  refine w_icmp_eq dX8_wantWord_6 rfl (fun h_6 => ?_) (fun h_6 => ?_)
  · have hkx : kix X t = k := by
      unfold wI at h_6
      by_cases z : kix X t < 30
      · rw [if_pos z] at h_6; exact (nI_eq (by omega) (by omega)).mp h_6
      · rw [if_neg z] at h_6; exact absurd h_6.symm (nI_nm1 (by omega))
    refine w_aload_n dX8_wantWord_15 rfl ?_
    refine m_callPv0 (mi := miX8_ahead) dX8_wantWord_16 q1730 okX8_ahead rfl (Nat.le_of_ble_eq_true rfl) (c_aheadX hT hK hO) (Nat.le_of_ble_eq_true rfl) (fun S16 hS16 => ?_)
    refine w_iconst (v := nI 1) dX8_wantWord_19 ki_1 ?_
    exact w_zret dX8_wantWord_20 rfl (by first | exact narr0 | exact narr1) ⟨by rw [bP_t (okE_ok (show wWord X k t = .ok (nx X t) from if_pos hkx))], _, by exact PX_ok (show wWord X k t = .ok (nx X t) from if_pos hkx) hS16, rfl⟩
  · have hkx : ¬ kix X t = k := fun z => h_6 (by unfold wI; rw [z, if_pos hk3])
    refine w_aload_n dX8_wantWord_9 rfl ?_
    refine w_iconst (v := nI 2) dX8_wantWord_10 ki_2 ?_
    refine m_callPi1 (mi := miX8_fails) dX8_wantWord_11 q1765 okX8_fails rfl (Nat.le_of_ble_eq_true rfl) (c_failsX (k := 2) (t := t) hK h0 (by omega) (by omega) hO.ok.2.2.1) (Nat.le_of_ble_eq_true rfl) (fun S11 hS11 => ?_)
    exact w_zret dX8_wantWord_14 rfl (by first | exact narr0 | exact narr1) ⟨by rw [bP_f (okE_er (show wWord X k t = .error (flt t 2) from if_neg hkx))], _, by exact PX_er (show wWord X k t = .error (flt t 2) from if_neg hkx) hS11, rfl⟩
set_option maxHeartbeats 4000000 in
theorem c_number {g : GG} {S : MS} {to : Nat} {lo : Nat} {hi : Nat} {X : TX} {t : Tk} (hT : TxS S X) (hK : TkS S t) (hO : OkT9 X t) (h0 : mI S 18 = nI 0) (ht : to < 8400) (hlo : lo < 100000) (hhi : hi < 100000) : Mp g miX8_number 3 [.int (nI to), .int (nI lo), .int (nI hi)] (S) (some (.int (bP (okE (wNum X lo hi t))))) (PX (wNum X lo hi t) S (fun v S2 => FrK (sA S 0 to (nI v.1)) S2 ∧ TkS S2 v.2)) := by
  refine Mp.start (fun b => [some (.ref b), some (.int (nI to)), some (.int (nI lo)), some (.int (nI hi))]) plX8 rfl (fun b => (Nat.le_of_ble_eq_true rfl)) (fun b => rfl) ?_
  intro σ b
  refine w_aload_n dX8_number_0 rfl ?_
  refine mg_token dX8_number_1 rfl ?_
  refine w_topN (n := t.so) hK.1 ?_
  have hso := hO.ok.2.2.1
  refine w_iconst (v := nI 3) dX8_number_4 ki_3 ?_
  refine w_icmpN_eq dX8_number_5 rfl (by omega) (by omega) (fun h_5 => ?_) (fun h_5 => ?_)
  · have hva := hK.2.2.2 (Or.inl h_5)
    have hvl := hO.ok.2.2.2.2.2.1 h_5
    refine w_aload_n dX8_number_14 rfl ?_
    refine mg_value dX8_number_15 rfl ?_
    refine w_topN (n := t.va) hva ?_
    refine w_iload_n dX8_number_18 rfl ?_
    refine w_icmpN_lt dX8_number_19 rfl (by omega) (by omega) (fun h_19 => ?_) (fun h_19 => ?_)
    · refine w_aload_n dX8_number_30 rfl ?_
      refine w_iconst (v := nI 4) dX8_number_31 ki_4 ?_
      refine m_callPi1 (mi := miX8_fails) dX8_number_32 q1765 okX8_fails rfl (Nat.le_of_ble_eq_true rfl) (c_failsX (k := 4) (t := t) hK h0 (by omega) (by omega) hO.ok.2.2.1) (Nat.le_of_ble_eq_true rfl) (fun S32 hS32 => ?_)
      exact w_zret dX8_number_35 rfl (by first | exact narr0 | exact narr1) ⟨by rw [bP_f (okE_er (show wNum X lo hi t = .error (flt t 4) from by unfold wNum; rw [if_neg (fun z => z h_5), if_pos (by omega)]))], _, by exact PX_er (show wNum X lo hi t = .error (flt t 4) from by unfold wNum; rw [if_neg (fun z => z h_5), if_pos (by omega)]) hS32, rfl⟩
    · refine w_aload_n dX8_number_22 rfl ?_
      refine mg_value dX8_number_23 rfl ?_
      refine w_topN (n := t.va) hva ?_
      refine w_iload_n dX8_number_26 rfl ?_
      refine w_icmpN_le dX8_number_27 rfl (by omega) (by omega) (fun h_27 => ?_) (fun h_27 => ?_)
      · refine w_aload_n dX8_number_36 rfl ?_
        refine mg_at dX8_number_37 rfl ?_
        refine w_iload_n dX8_number_40 rfl ?_
        refine w_aload_n dX8_number_41 rfl ?_
        refine mg_value dX8_number_42 rfl ?_
        refine w_topN (n := t.va) hva ?_
        refine ms_at dX8_number_45 (by omega) ?_
        refine w_aload_n dX8_number_46 rfl ?_
        refine m_callPv0 (mi := miX8_ahead) dX8_number_47 q1730 okX8_ahead rfl (Nat.le_of_ble_eq_true rfl) (c_aheadX (show TxS (sA S 0 to (nI t.va)) X from hT) (show TkS (sA S 0 to (nI t.va)) t from hK) hO) (Nat.le_of_ble_eq_true rfl) (fun S47 hS47 => ?_)
        refine w_iconst (v := nI 1) dX8_number_50 ki_1 ?_
        exact w_zret dX8_number_51 rfl (by first | exact narr0 | exact narr1) ⟨by rw [bP_t (okE_ok (show wNum X lo hi t = .ok (t.va, nx X t) from by unfold wNum; rw [if_neg (fun z => z h_5), if_neg (by omega)]))], _, by exact PX_ok (show wNum X lo hi t = .ok (t.va, nx X t) from by unfold wNum; rw [if_neg (fun z => z h_5), if_neg (by omega)]) hS47, rfl⟩
      · refine w_aload_n dX8_number_30 rfl ?_
        refine w_iconst (v := nI 4) dX8_number_31 ki_4 ?_
        refine m_callPi1 (mi := miX8_fails) dX8_number_32 q1765 okX8_fails rfl (Nat.le_of_ble_eq_true rfl) (c_failsX (k := 4) (t := t) hK h0 (by omega) (by omega) hO.ok.2.2.1) (Nat.le_of_ble_eq_true rfl) (fun S32 hS32 => ?_)
        exact w_zret dX8_number_35 rfl (by first | exact narr0 | exact narr1) ⟨by rw [bP_f (okE_er (show wNum X lo hi t = .error (flt t 4) from by unfold wNum; rw [if_neg (fun z => z h_5), if_pos (by omega)]))], _, by exact PX_er (show wNum X lo hi t = .error (flt t 4) from by unfold wNum; rw [if_neg (fun z => z h_5), if_pos (by omega)]) hS32, rfl⟩
  · refine w_aload_n dX8_number_8 rfl ?_
    refine w_iconst (v := nI 2) dX8_number_9 ki_2 ?_
    refine m_callPi1 (mi := miX8_fails) dX8_number_10 q1765 okX8_fails rfl (Nat.le_of_ble_eq_true rfl) (c_failsX (k := 2) (t := t) hK h0 (by omega) (by omega) hO.ok.2.2.1) (Nat.le_of_ble_eq_true rfl) (fun S10 hS10 => ?_)
    exact w_zret dX8_number_13 rfl (by first | exact narr0 | exact narr1) ⟨by rw [bP_f (okE_er (show wNum X lo hi t = .error (flt t 2) from if_pos h_5))], _, by exact PX_er (show wNum X lo hi t = .error (flt t 2) from if_pos h_5) hS10, rfl⟩
set_option maxHeartbeats 4000000 in
theorem c_isName {g : GG} {S : MS} {X : TX} {t : Tk} (hT : TxS S X) (hK : TkS S t) (hO : OkT9 X t) : Mt g miX8_isName 6 [.ref (sa g 0)] (S) (some (.int (bP (isNm X t)))) (S) := by
  refine Mt.start (fun b => [some (.ref b), some (.ref (sa g 0))]) plX8 rfl (fun b => (Nat.le_of_ble_eq_true rfl)) (fun b => rfl) ?_
  intro σ b
  have hkl := kix_le X t
  obtain ⟨ho1, ho2, ho3, -⟩ := hO.ok
  have hX9 := hT.2.1
  refine w_aload_n dX8_isName_0 rfl ?_
  refine mg_token dX8_isName_1 rfl ?_
  refine w_topN (n := t.so) hK.1 ?_
  refine w_iconst (v := nI 2) dX8_isName_4 ki_2 ?_
  refine w_icmpN_ne dX8_isName_5 rfl (by omega) (by omega) (fun h_5 => ?_) (fun h_5 => ?_)
  · refine w_iconst (v := nI 0) dX8_isName_35 ki_0 ?_
    exact w_zret dX8_isName_36 rfl (by first | exact narr0 | exact narr1) ⟨by rw [bP_f (fun z => h_5 z.1)], by rfl⟩
  · refine w_aload_n dX8_isName_8 rfl ?_
    refine mg_end dX8_isName_9 rfl ?_
    refine w_topN (n := t.to) hK.2.2.1 ?_
    refine w_aload_n dX8_isName_12 rfl ?_
    refine mg_from dX8_isName_13 rfl ?_
    refine w_topN (n := t.fr) hK.2.1 ?_
    refine w_isubN dX8_isName_16 (by omega) ?_
    refine w_bipush (v := nI 8) dX8_isName_17 kb_8 ?_
    refine w_icmpN_gt dX8_isName_19 rfl (by omega) (by omega) (fun h_19 => ?_) (fun h_19 => ?_)
    · refine w_iconst (v := nI 0) dX8_isName_35 ki_0 ?_
      exact w_zret dX8_isName_36 rfl (by first | exact narr0 | exact narr1) ⟨by rw [bP_f (fun z => absurd z.2.1 (by omega))], by rfl⟩
    · refine w_aload_n dX8_isName_22 rfl ?_
      refine w_aload_n dX8_isName_23 rfl ?_
      refine m_calli1 (mi := miX8_inWords) dX8_isName_24 q1759 okX8_inWords rfl (Nat.le_of_ble_eq_true rfl) (c_inWords hT hK hO) (Nat.le_of_ble_eq_true rfl) ?_
      refine w_iconst (v := (-1)) dX8_isName_27 ki_m1 ?_
      refine w_icmp_ne dX8_isName_28 rfl (fun h_28 => ?_) (fun h_28 => ?_)
      · have hkx : ¬ kix X t = 30 := fun z => h_28 (by rw [z]; rfl)
        refine w_iconst (v := nI 0) dX8_isName_35 ki_0 ?_
        exact w_zret dX8_isName_36 rfl (by first | exact narr0 | exact narr1) ⟨by rw [bP_f (fun z => hkx z.2.2)], by rfl⟩
      · have hkx : kix X t = 30 := by
          unfold wI at h_28
          by_cases z : kix X t < 30
          · rw [if_pos z] at h_28; exact absurd h_28 (nI_nm1 (by omega))
          · omega
        refine w_iconst (v := nI 1) dX8_isName_31 ki_1 ?_
        refine w_goto dX8_isName_32 rfl ?_
        exact w_zret dX8_isName_36 rfl (by first | exact narr0 | exact narr1) ⟨by rw [bP_t ⟨h_5, by omega, hkx⟩], by rfl⟩
set_option maxHeartbeats 4000000 in
theorem c_nameHere {g : GG} {S : MS} {X : TX} {t : Tk} (hT : TxS S X) (hK : TkS S t) (hO : OkT9 X t) : Mt g miX8_nameHere 2 [] (S) (some (.long (lN (n256 (wd X t))))) (S) := by
  refine Mt.start (fun b => [some (.ref b), none, none, none]) plX8 rfl (fun b => (Nat.le_of_ble_eq_true rfl)) (fun b => rfl) ?_
  intro σ b
  obtain ⟨ho1, ho2, ho3, -⟩ := hO.ok
  have hX9 := hT.2.1
  refine w_lconst (v := 0) dX8_nameHere_0 rfl ?_
  refine w_lstore_n dX8_nameHere_1 rfl (Nat.le_of_ble_eq_true rfl) ls2_4_1 ?_
  refine w_aload_n dX8_nameHere_2 rfl ?_
  refine mg_from dX8_nameHere_3 rfl ?_
  refine w_topN (n := t.fr) hK.2.1 ?_
  refine w_istore_n dX8_nameHere_6 rfl (Nat.le_of_ble_eq_true rfl) ls_4_3 ?_
  have lp : ∀ (j9 : Nat) (k : Nat), t.to - k < j9 → t.fr ≤ k → k ≤ t.to → Wp g (mtM g miX8_nameHere 2 σ b (some (.long (lN (n256 (wd X t))))) (S)) 0 0 7 [some (.ref b), some (.long (lN (nmF X t.fr (k - t.fr)))), none, some (.int (nI k))] [] (sM g σ b (S)) := by
    intro j9
    induction j9 with
    | zero => intro k hmu hk1 hk2; exact absurd hmu (Nat.not_lt_zero _)
    | succ j9 ih_lp =>
      intro k hmu hk1 hk2
      refine w_iload_n dX8_nameHere_7 rfl ?_
      refine w_aload_n dX8_nameHere_8 rfl ?_
      refine mg_end dX8_nameHere_9 rfl ?_
      refine w_topN (n := t.to) hK.2.2.1 ?_
      refine w_icmpN_ge dX8_nameHere_12 rfl (by omega) (by omega) (fun h_12 => ?_) (fun h_12 => ?_)
      · refine w_lload_n dX8_nameHere_33 rfl ?_
        exact w_lret dX8_nameHere_34 rfl ⟨by rw [n256_wd, show t.to - t.fr = k - t.fr by omega], by rfl⟩
      · refine w_lload_n dX8_nameHere_15 rfl ?_
        refine w_bipush (v := nI 8) dX8_nameHere_16 kb_8 ?_
        refine w_lshl dX8_nameHere_18 rfl ?_
        refine w_aload_n dX8_nameHere_19 rfl ?_
        refine w_iload_n dX8_nameHere_20 rfl ?_
        refine m_calli1 (mi := miX8_byteAt) dX8_nameHere_21 q1734 okX8_byteAt rfl (Nat.le_of_ble_eq_true rfl) (c_byteX (k := k) hT (by omega)) (Nat.le_of_ble_eq_true rfl) ?_
        refine w_i2l dX8_nameHere_24 rfl ?_
        have hck := (hT.2.2 k (by omega)).2
        rw [cI_in (show k < X.2 by omega)]
        refine w_lor dX8_nameHere_25 ?_
        rw [shl8 _ hck, show nmF X t.fr (k - t.fr) * 256 + X.1 k = nmF X t.fr (k - t.fr + 1) by rw [nmF, show t.fr + (k - t.fr) = k by omega]]
        refine w_lstore_n dX8_nameHere_26 rfl (Nat.le_of_ble_eq_true rfl) ls2_4_1 ?_
        refine w_iinc dX8_nameHere_27 rfl (nI_inc _ 1) rfl (Nat.le_of_ble_eq_true rfl) ls_4_3 ?_
        refine w_goto dX8_nameHere_30 rfl ?_
        exact w_as (ih_lp (k + 1) (by omega) (by omega) (by omega)) (wL1 rfl (wL1 (by rw [show k + 1 - t.fr = (k - t.fr) + 1 by omega]) rfl)) rfl rfl
  exact w_as (lp (t.to + 1) t.fr (by omega) (Nat.le_refl _) (by omega)) (wL1 rfl (wL1 (by rw [Nat.sub_self]; rfl) rfl)) rfl rfl
def fI (k many : Nat) : Int32 := if k < many then nI k else -1
theorem fI_m1 {k many : Nat} (h : k ≤ many) (h2 : many < 2147483648) : fI k many = -1 ↔ k = many := by
  unfold fI
  by_cases z : k < many
  · rw [if_pos z]
    exact ⟨fun q => absurd q (nI_nm1 (by omega)), fun q => absurd q (by omega)⟩
  · rw [if_neg z]
    exact ⟨fun _ => by omega, fun _ => rfl⟩
set_option maxHeartbeats 4000000 in
theorem c_findHere {g : GG} {S : MS} {ba : Nat} {many : Nat} {X : TX} {t : Tk} {nm : Nat → List Nat} (hT : TxS S X) (hK : TkS S t) (hO : OkT9 X t) (hw : NmW (wd X t)) (hn : ∀ i, i < many → mB S 1 (ba + i) = lN (n256 (nm i)) ∧ NmW (nm i)) (hb9 : ba + many ≤ 80) : Mt g miX8_findHere 3 [.int (nI ba), .int (nI many)] (S) (some (.int (fI (nfd nm many (wd X t)) many))) (S) := by
  refine Mt.start (fun b => [some (.ref b), some (.int (nI ba)), some (.int (nI many)), none]) plX8 rfl (fun b => (Nat.le_of_ble_eq_true rfl)) (fun b => rfl) ?_
  intro σ b
  refine w_iconst (v := nI 0) dX8_findHere_0 ki_0 ?_
  refine w_istore_n dX8_findHere_1 rfl (Nat.le_of_ble_eq_true rfl) ls_4_3 ?_
  have lp : ∀ (j9 : Nat) (k : Nat), many - k < j9 → k ≤ many → (∀ i, i < k → nm i ≠ wd X t) → Wp g (mtM g miX8_findHere 3 σ b (some (.int (fI (nfd nm many (wd X t)) many))) (S)) 0 0 2 [some (.ref b), some (.int (nI ba)), some (.int (nI many)), some (.int (nI k))] [] (sM g σ b (S)) := by
    intro j9
    induction j9 with
    | zero => intro k hmu hk hno; exact absurd hmu (Nat.not_lt_zero _)
    | succ j9 ih_lp =>
      intro k hmu hk hno
      refine w_iload_n dX8_findHere_2 rfl ?_
      refine w_iload_n dX8_findHere_3 rfl ?_
      refine w_icmpN_ge dX8_findHere_4 rfl (by omega) (by omega) (fun h_4 => ?_) (fun h_4 => ?_)
      · refine w_iconst (v := (-1)) dX8_findHere_31 ki_m1 ?_
        exact w_iret dX8_findHere_32 rfl ⟨by rw [nfd_none (fun i hi => hno i (by omega)), fI, if_neg (by omega)], by rfl⟩
      · refine w_aload_n dX8_findHere_7 rfl ?_
        refine mg_names dX8_findHere_8 rfl ?_
        refine w_iload_n dX8_findHere_11 rfl ?_
        refine w_iload_n dX8_findHere_12 rfl ?_
        refine w_iaddN dX8_findHere_13 ?_
        refine ma_names dX8_findHere_14 (by omega) ?_
        rw [(hn k (by omega)).1]
        refine w_aload_n dX8_findHere_15 rfl ?_
        refine m_calll0 (mi := miX8_nameHere) dX8_findHere_16 q1801 okX8_nameHere rfl (Nat.le_of_ble_eq_true rfl) (c_nameHere hT hK hO) (Nat.le_of_ble_eq_true rfl) ?_
        refine w_lcmp dX8_findHere_19 ?_
        refine w_if_ne dX8_findHere_20 rfl (fun h_20 => ?_) (fun h_20 => ?_)
        · have hne : nm k ≠ wd X t := fun z => h_20 ((cmp_eq _ _).mpr (by rw [z]))
          refine w_iinc dX8_findHere_25 rfl (nI_inc _ 1) rfl (Nat.le_of_ble_eq_true rfl) ls_4_3 ?_
          refine w_goto dX8_findHere_28 rfl ?_
          exact w_as (ih_lp (k + 1) (by omega) (by omega) (fun i hi => by
            by_cases z : i < k
            · exact hno i z
            · rw [show i = k by omega]; exact hne)) rfl rfl rfl
        · have heq : nm k = wd X t := n256_inj (hn k (by omega)).2 hw ((pk_lEQ (n256_lt (hn k (by omega)).2) (n256_lt hw)).mp ((cmp_eq _ _).mp h_20))
          refine w_iload_n dX8_findHere_23 rfl ?_
          exact w_iret dX8_findHere_24 rfl ⟨by rw [nfd_hit (by omega) hno heq, fI, if_pos (by omega)], by rfl⟩
  exact w_as (lp (many + 1) 0 (by omega) (by omega) (fun i hi => absurd hi (Nat.not_lt_zero i))) rfl rfl rfl
