set_option maxRecDepth 100000
set_option maxHeartbeats 4000000 in
theorem c_comes {g : GG} {S : MS} {sl : Nat} {d : Nat} {who : Nat} {m : Nat} {n : Nat} {tim : Nat → Nat} (hsl : sl ≤ 5600) (hd8 : d < 8) (hn : mA S 0 (sl + 40 + 3 * d + 2) = nI n) (hn6 : n < 60) (ht : ∀ i, i < n → mA S 0 (sl + 64 + 120 * d + 2 * i + 1) = nI (tim i)) (htb : ∀ i, i < n → tim i < 1000000) (hm : m < 1000000) : Mt g miX8_comes 2 [.int (nI sl), .int (nI d), .int (nI who), .int (nI m)] (S) (none) (setAt S (comesA (mA S 0) sl d (insP tim m n) n who m (mA S 0 (sl + 8)))) := by
  refine Mt.start (fun b => [some (.ref b), some (.int (nI sl)), some (.int (nI d)), some (.int (nI who)), some (.int (nI m)), none]) plX8 rfl (fun b => (Nat.le_of_ble_eq_true rfl)) (fun b => rfl) ?_
  intro σ b
  refine w_aload_n dX8_comes_0 rfl ?_
  refine mg_at dX8_comes_1 rfl ?_
  refine w_iload_n dX8_comes_4 rfl ?_
  refine w_iload_n dX8_comes_5 rfl ?_
  refine s_calli2 (mi := miX8_findRow) dX8_comes_6 q1813 okX8_findRow (Nat.le_of_ble_eq_true rfl) (c_findRow (s := sl) ) (Nat.le_of_ble_eq_true rfl) ?_
  refine w_iconst (v := nI 2) dX8_comes_9 ki_2 ?_
  refine w_iaddN dX8_comes_10 ?_
  refine ma_at dX8_comes_11 (by omega) ?_
  rw [hn]
  refine w_istore dX8_comes_12 rfl (Nat.le_of_ble_eq_true rfl) ls_6_5 ?_
  have lp : ∀ (j9 : Nat) (k : Nat), k < j9 → k ≤ n → insP tim m k = insP tim m n → Wp g (mtM g miX8_comes 2 σ b (none) (setAt S (comesA (mA S 0) sl d (insP tim m n) n who m (mA S 0 (sl + 8))))) 0 0 14 [some (.ref b), some (.int (nI sl)), some (.int (nI d)), some (.int (nI who)), some (.int (nI m)), some (.int (nI k))] [] (sM g σ b (setAt S (shUp (mA S 0) (sl + 64 + 120 * d) k n))) := by
    intro j9
    induction j9 with
    | zero => intro k hmu hk hq; exact absurd hmu (Nat.not_lt_zero _)
    | succ j9 ih_lp =>
      intro k hmu hk hq
      refine w_iload dX8_comes_14 rfl ?_
      refine w_ifN_le dX8_comes_16 rfl (by omega) (fun h_16 => ?_) (fun h_16 => ?_)
      · obtain rfl : k = 0 := by omega
        have hs2 : insP tim m n = 0 := hq.symm
        refine w_aload_n dX8_comes_102 rfl ?_
        refine mg_at dX8_comes_103 rfl ?_
        refine w_iload_n dX8_comes_106 rfl ?_
        refine w_iload_n dX8_comes_107 rfl ?_
        refine w_iload dX8_comes_108 rfl ?_
        refine s_calli3 (mi := miX8_pebbleRow) dX8_comes_110 q1828 okX8_pebbleRow (Nat.le_of_ble_eq_true rfl) c_pebbleRow (Nat.le_of_ble_eq_true rfl) ?_
        refine w_iload_n dX8_comes_113 rfl ?_
        refine ms_at dX8_comes_114 (by omega) ?_
        rw [setAt_s]
        refine w_aload_n dX8_comes_115 rfl ?_
        refine mg_at dX8_comes_116 rfl ?_
        refine w_iload_n dX8_comes_119 rfl ?_
        refine w_iload_n dX8_comes_120 rfl ?_
        refine w_iload dX8_comes_121 rfl ?_
        refine s_calli3 (mi := miX8_pebbleRow) dX8_comes_123 q1828 okX8_pebbleRow (Nat.le_of_ble_eq_true rfl) c_pebbleRow (Nat.le_of_ble_eq_true rfl) ?_
        refine w_iconst (v := nI 1) dX8_comes_126 ki_1 ?_
        refine w_iaddN dX8_comes_127 ?_
        refine w_iload dX8_comes_128 rfl ?_
        refine ms_at dX8_comes_130 (by omega) ?_
        rw [setAt_s]
        refine w_aload_n dX8_comes_131 rfl ?_
        refine mg_at dX8_comes_132 rfl ?_
        refine w_iload_n dX8_comes_135 rfl ?_
        refine w_iload_n dX8_comes_136 rfl ?_
        refine s_calli2 (mi := miX8_findRow) dX8_comes_137 q1813 okX8_findRow (Nat.le_of_ble_eq_true rfl) c_findRow (Nat.le_of_ble_eq_true rfl) ?_
        refine w_iconst (v := nI 2) dX8_comes_140 ki_2 ?_
        refine w_iaddN dX8_comes_141 ?_
        refine w_dup2 dX8_comes_142 rfl rfl ?_
        refine ma_at dX8_comes_143 (by omega) ?_
        refine w_topN (n := n) (by rw [setAt_A, upd_ne (by omega), upd_ne (by omega), shUp_ne (by omega)]; exact hn) ?_
        refine w_iconst (v := nI 1) dX8_comes_144 ki_1 ?_
        refine w_iaddN dX8_comes_145 ?_
        refine ms_at dX8_comes_146 (by omega) ?_
        rw [setAt_s]
        refine w_aload_n dX8_comes_147 rfl ?_
        refine mg_at dX8_comes_148 rfl ?_
        refine w_iload_n dX8_comes_151 rfl ?_
        refine w_bipush (v := nI 8) dX8_comes_152 kb_8 ?_
        refine w_iaddN dX8_comes_154 ?_
        refine w_dup2 dX8_comes_155 rfl rfl ?_
        refine ma_at dX8_comes_156 (by omega) ?_
        refine w_top (y := .int (mA S 0 (sl + 8))) (congrArg Value.int (by rw [setAt_A, upd_ne (by omega), upd_ne (by omega), upd_ne (by omega), shUp_ne (by omega)])) ?_
        refine w_iconst (v := nI 1) dX8_comes_157 ki_1 ?_
        refine w_iadd dX8_comes_158 ?_
        refine ms_at dX8_comes_159 (by omega) ?_
        rw [setAt_s]
        exact w_vret dX8_comes_160 rfl ⟨by rfl, by rw [hs2]; rfl⟩
      · obtain ⟨i, rfl⟩ : ∃ i, k = i + 1 := ⟨k - 1, by omega⟩
        refine w_aload_n dX8_comes_19 rfl ?_
        refine mg_at dX8_comes_20 rfl ?_
        refine w_iload_n dX8_comes_23 rfl ?_
        refine w_iload_n dX8_comes_24 rfl ?_
        refine w_iload dX8_comes_25 rfl ?_
        refine w_iconst (v := nI 1) dX8_comes_27 ki_1 ?_
        refine w_isubN dX8_comes_28 (by omega) ?_
        rw [show i + 1 - 1 = i from rfl]
        refine s_calli3 (mi := miX8_pebbleRow) dX8_comes_29 q1828 okX8_pebbleRow (Nat.le_of_ble_eq_true rfl) c_pebbleRow (Nat.le_of_ble_eq_true rfl) ?_
        refine w_iconst (v := nI 1) dX8_comes_32 ki_1 ?_
        refine w_iaddN dX8_comes_33 ?_
        refine ma_at dX8_comes_34 (by omega) ?_
        refine w_topN (n := tim i) (by rw [setAt_A, shUp_ne (by omega)]; exact ht i (by omega)) ?_
        have hti := htb i (by omega)
        refine w_iload dX8_comes_35 rfl ?_
        refine w_icmpN_le dX8_comes_37 rfl (by omega) (by omega) (fun h_37 => ?_) (fun h_37 => ?_)
        · have hs2 : insP tim m n = i + 1 := by rw [← hq]; exact if_neg (by omega)
          refine w_aload_n dX8_comes_102 rfl ?_
          refine mg_at dX8_comes_103 rfl ?_
          refine w_iload_n dX8_comes_106 rfl ?_
          refine w_iload_n dX8_comes_107 rfl ?_
          refine w_iload dX8_comes_108 rfl ?_
          refine s_calli3 (mi := miX8_pebbleRow) dX8_comes_110 q1828 okX8_pebbleRow (Nat.le_of_ble_eq_true rfl) c_pebbleRow (Nat.le_of_ble_eq_true rfl) ?_
          refine w_iload_n dX8_comes_113 rfl ?_
          refine ms_at dX8_comes_114 (by omega) ?_
          rw [setAt_s]
          refine w_aload_n dX8_comes_115 rfl ?_
          refine mg_at dX8_comes_116 rfl ?_
          refine w_iload_n dX8_comes_119 rfl ?_
          refine w_iload_n dX8_comes_120 rfl ?_
          refine w_iload dX8_comes_121 rfl ?_
          refine s_calli3 (mi := miX8_pebbleRow) dX8_comes_123 q1828 okX8_pebbleRow (Nat.le_of_ble_eq_true rfl) c_pebbleRow (Nat.le_of_ble_eq_true rfl) ?_
          refine w_iconst (v := nI 1) dX8_comes_126 ki_1 ?_
          refine w_iaddN dX8_comes_127 ?_
          refine w_iload dX8_comes_128 rfl ?_
          refine ms_at dX8_comes_130 (by omega) ?_
          rw [setAt_s]
          refine w_aload_n dX8_comes_131 rfl ?_
          refine mg_at dX8_comes_132 rfl ?_
          refine w_iload_n dX8_comes_135 rfl ?_
          refine w_iload_n dX8_comes_136 rfl ?_
          refine s_calli2 (mi := miX8_findRow) dX8_comes_137 q1813 okX8_findRow (Nat.le_of_ble_eq_true rfl) c_findRow (Nat.le_of_ble_eq_true rfl) ?_
          refine w_iconst (v := nI 2) dX8_comes_140 ki_2 ?_
          refine w_iaddN dX8_comes_141 ?_
          refine w_dup2 dX8_comes_142 rfl rfl ?_
          refine ma_at dX8_comes_143 (by omega) ?_
          refine w_topN (n := n) (by rw [setAt_A, upd_ne (by omega), upd_ne (by omega), shUp_ne (by omega)]; exact hn) ?_
          refine w_iconst (v := nI 1) dX8_comes_144 ki_1 ?_
          refine w_iaddN dX8_comes_145 ?_
          refine ms_at dX8_comes_146 (by omega) ?_
          rw [setAt_s]
          refine w_aload_n dX8_comes_147 rfl ?_
          refine mg_at dX8_comes_148 rfl ?_
          refine w_iload_n dX8_comes_151 rfl ?_
          refine w_bipush (v := nI 8) dX8_comes_152 kb_8 ?_
          refine w_iaddN dX8_comes_154 ?_
          refine w_dup2 dX8_comes_155 rfl rfl ?_
          refine ma_at dX8_comes_156 (by omega) ?_
          refine w_top (y := .int (mA S 0 (sl + 8))) (congrArg Value.int (by rw [setAt_A, upd_ne (by omega), upd_ne (by omega), upd_ne (by omega), shUp_ne (by omega)])) ?_
          refine w_iconst (v := nI 1) dX8_comes_157 ki_1 ?_
          refine w_iadd dX8_comes_158 ?_
          refine ms_at dX8_comes_159 (by omega) ?_
          rw [setAt_s]
          exact w_vret dX8_comes_160 rfl ⟨by rfl, by rw [hs2]; rfl⟩
        · refine w_aload_n dX8_comes_40 rfl ?_
          refine mg_at dX8_comes_41 rfl ?_
          refine w_iload_n dX8_comes_44 rfl ?_
          refine w_iload_n dX8_comes_45 rfl ?_
          refine w_iload dX8_comes_46 rfl ?_
          refine s_calli3 (mi := miX8_pebbleRow) dX8_comes_48 q1828 okX8_pebbleRow (Nat.le_of_ble_eq_true rfl) c_pebbleRow (Nat.le_of_ble_eq_true rfl) ?_
          refine w_aload_n dX8_comes_51 rfl ?_
          refine mg_at dX8_comes_52 rfl ?_
          refine w_iload_n dX8_comes_55 rfl ?_
          refine w_iload_n dX8_comes_56 rfl ?_
          refine w_iload dX8_comes_57 rfl ?_
          refine w_iconst (v := nI 1) dX8_comes_59 ki_1 ?_
          refine w_isubN dX8_comes_60 (by omega) ?_
          rw [show i + 1 - 1 = i from rfl]
          refine s_calli3 (mi := miX8_pebbleRow) dX8_comes_61 q1828 okX8_pebbleRow (Nat.le_of_ble_eq_true rfl) c_pebbleRow (Nat.le_of_ble_eq_true rfl) ?_
          refine ma_at dX8_comes_64 (by omega) ?_
          refine w_top (y := .int (mA S 0 (sl + 64 + 120 * d + 2 * i))) (congrArg Value.int (by rw [setAt_A, shUp_ne (by omega)])) ?_
          refine ms_at dX8_comes_65 (by omega) ?_
          rw [setAt_s]
          refine w_aload_n dX8_comes_66 rfl ?_
          refine mg_at dX8_comes_67 rfl ?_
          refine w_iload_n dX8_comes_70 rfl ?_
          refine w_iload_n dX8_comes_71 rfl ?_
          refine w_iload dX8_comes_72 rfl ?_
          refine s_calli3 (mi := miX8_pebbleRow) dX8_comes_74 q1828 okX8_pebbleRow (Nat.le_of_ble_eq_true rfl) c_pebbleRow (Nat.le_of_ble_eq_true rfl) ?_
          refine w_iconst (v := nI 1) dX8_comes_77 ki_1 ?_
          refine w_iaddN dX8_comes_78 ?_
          refine w_aload_n dX8_comes_79 rfl ?_
          refine mg_at dX8_comes_80 rfl ?_
          refine w_iload_n dX8_comes_83 rfl ?_
          refine w_iload_n dX8_comes_84 rfl ?_
          refine w_iload dX8_comes_85 rfl ?_
          refine w_iconst (v := nI 1) dX8_comes_87 ki_1 ?_
          refine w_isubN dX8_comes_88 (by omega) ?_
          rw [show i + 1 - 1 = i from rfl]
          refine s_calli3 (mi := miX8_pebbleRow) dX8_comes_89 q1828 okX8_pebbleRow (Nat.le_of_ble_eq_true rfl) c_pebbleRow (Nat.le_of_ble_eq_true rfl) ?_
          refine w_iconst (v := nI 1) dX8_comes_92 ki_1 ?_
          refine w_iaddN dX8_comes_93 ?_
          refine ma_at dX8_comes_94 (by omega) ?_
          refine w_top (y := .int (mA S 0 (sl + 64 + 120 * d + 2 * i + 1))) (congrArg Value.int (by rw [setAt_A, upd_ne (by omega), shUp_ne (by omega)])) ?_
          refine ms_at dX8_comes_95 (by omega) ?_
          rw [setAt_s]
          refine w_iinc dX8_comes_96 rfl (nI_m1 _) rfl (Nat.le_of_ble_eq_true rfl) ls_6_5 ?_
          refine w_goto dX8_comes_99 rfl ?_
          rw [shUp_s _ _ _ _ (by omega), nI_dn]
          exact ih_lp i (by omega) (by omega) (by rw [← hq]; exact (if_pos h_37).symm)
  rw [show sM g σ b S = sM g σ b (setAt S (shUp (mA S 0) (sl + 64 + 120 * d) n n)) by rw [shUp_0, setAt_0]]
  exact lp (n + 1) n (by omega) (by omega) rfl
theorem comes_Ch {S : MS} {V : VS} (E : Enc S V) (hN : ∀ d, d < 8 → vt V 7 d ≤ 60) {d who m : Nat} (hd : d < 8) (hn : vt V 7 d < 60) : Ch S (setAt S (comesA (mA S 0) 0 d (insP (vp V 1 d) m (vt V 7 d)) (vt V 7 d) who m (mA S 0 (0 + 8)))) (insV V d who m) := by
  have hk := insP_le (vp V 1 d) m (vt V 7 d)
  refine Ch.mk_ (fun i hi => ?_) ?_ (EncA.ins E hd hn hk hN (E.s 8 (by omega)))
  · unfold comesA
    rw [upd_ne (by omega), upd_ne (by omega), upd_ne (by omega), upd_ne (by omega), shUp_ne (by omega)]
  · unfold comesA
    rw [upd_ne (by omega), upd_ne (by omega), upd_ne (by omega), upd_ne (by omega), shUp_ne (by omega)]
theorem c_comesP {g : GG} {S : MS} {V : VS} {d who m : Nat} (E : Enc S V) (hN : ∀ d, d < 8 → vt V 7 d ≤ 60) (hpt : ∀ i, i < vt V 7 d → vp V 1 d i < 1000000) (hd8 : d < 8) (hn6 : vt V 7 d < 60) (hm : m < 1000000) : Mp g miX8_comes 2 [.int (nI 0), .int (nI d), .int (nI who), .int (nI m)] S none (fun S2 => Ch S S2 (insV V d who m)) :=
  Mt.toP (c_comes (n := vt V 7 d) (tim := vp V 1 d) (by omega) hd8 ((congrArg (mA S 0) (by omega)).trans (E.d2 hd8)) hn6 (fun i hi => (congrArg (mA S 0) (by omega)).trans (E.p 1 hd8 hi (by omega))) hpt hm) (comes_Ch E hN hd8 hn6)
set_option maxHeartbeats 4000000 in
theorem c_goes {g : GG} {S : MS} {d : Nat} {k : Nat} {n L9 : Nat} (hd8 : d < 8) (hn : mA S 0 (40 + 3 * d + 2) = nI n) (hL : mA S 0 8 = nI L9) (hk : k < n) (hn6 : n ≤ 60) (hl6 : 0 < L9) : Mt g miX8_goes 2 [.int (nI d), .int (nI k)] (S) (none) (setAt S (goesA (mA S 0) d k n L9)) := by
  refine Mt.start (fun b => [some (.ref b), some (.int (nI d)), some (.int (nI k)), none, none]) plX8 rfl (fun b => (Nat.le_of_ble_eq_true rfl)) (fun b => rfl) ?_
  intro σ b
  refine w_iconst (v := nI 0) dX8_goes_0 ki_0 ?_
  refine w_iload_n dX8_goes_1 rfl ?_
  refine s_calli2 (mi := miX8_findRow) dX8_goes_2 q1813 okX8_findRow (Nat.le_of_ble_eq_true rfl) c_findRow (Nat.le_of_ble_eq_true rfl) ?_
  refine w_istore_n dX8_goes_5 rfl (Nat.le_of_ble_eq_true rfl) ls_5_3 ?_
  refine w_aload_n dX8_goes_6 rfl ?_
  refine mg_at dX8_goes_7 rfl ?_
  refine w_iload_n dX8_goes_10 rfl ?_
  refine w_iconst (v := nI 2) dX8_goes_11 ki_2 ?_
  refine w_iaddN dX8_goes_12 ?_
  refine w_dup2 dX8_goes_13 rfl rfl ?_
  refine ma_at dX8_goes_14 (by omega) ?_
  refine w_topN (n := n) ((congrArg (mA S 0) (by omega)).trans hn) ?_
  refine w_iconst (v := nI 1) dX8_goes_15 ki_1 ?_
  refine w_isubN dX8_goes_16 (by omega) ?_
  refine ms_at dX8_goes_17 (by omega) ?_
  rw [show 0 + 40 + 3 * d + 2 = 40 + 3 * d + 2 by omega, sA_at]
  refine w_aload_n dX8_goes_18 rfl ?_
  refine mg_at dX8_goes_19 rfl ?_
  refine w_bipush (v := nI 8) dX8_goes_22 kb_8 ?_
  refine w_dup2 dX8_goes_24 rfl rfl ?_
  refine ma_at dX8_goes_25 (by omega) ?_
  refine w_topN (n := L9) (by rw [setAt_A, upd_ne (by omega)]; exact hL) ?_
  refine w_iconst (v := nI 1) dX8_goes_26 ki_1 ?_
  refine w_isubN dX8_goes_27 (by omega) ?_
  refine ms_at dX8_goes_28 (by omega) ?_
  rw [setAt_s]
  refine w_iload_n dX8_goes_29 rfl ?_
  refine w_istore dX8_goes_30 rfl (Nat.le_of_ble_eq_true rfl) ls_5_4 ?_
  have lp : ∀ (j9 : Nat) (i : Nat), n - i < j9 → k ≤ i → i ≤ n - 1 → Wp g (mtM g miX8_goes 2 σ b (none) (setAt S (goesA (mA S 0) d k n L9))) 0 0 32 [some (.ref b), some (.int (nI d)), some (.int (nI k)), some (.int (nI (0 + 40 + 3 * d))), some (.int (nI i))] [] (sM g σ b (setAt S (shDn (upd (upd (mA S 0) (40 + 3 * d + 2) (nI (n - 1))) 8 (nI (L9 - 1))) (64 + 120 * d) k i))) := by
    intro j9
    induction j9 with
    | zero => intro i hmu hi hi2; exact absurd hmu (Nat.not_lt_zero _)
    | succ j9 ih_lp =>
      intro i hmu hi hi2
      refine w_iload dX8_goes_32 rfl ?_
      refine w_aload_n dX8_goes_34 rfl ?_
      refine mg_at dX8_goes_35 rfl ?_
      refine w_iload_n dX8_goes_38 rfl ?_
      refine w_iconst (v := nI 2) dX8_goes_39 ki_2 ?_
      refine w_iaddN dX8_goes_40 ?_
      refine ma_at dX8_goes_41 (by omega) ?_
      refine w_topN (n := n - 1) (by rw [show 0 + 40 + 3 * d + 2 = 40 + 3 * d + 2 by omega, setAt_A, shDn_ne (by omega), upd_ne (by omega), upd_eq]) ?_
      refine w_icmpN_ge dX8_goes_42 rfl (by omega) (by omega) (fun h_42 => ?_) (fun h_42 => ?_)
      · obtain rfl : i = n - 1 := by omega
        exact w_vret dX8_goes_107 rfl ⟨by rfl, by rfl⟩
      · refine w_aload_n dX8_goes_45 rfl ?_
        refine mg_at dX8_goes_46 rfl ?_
        refine w_iconst (v := nI 0) dX8_goes_49 ki_0 ?_
        refine w_iload_n dX8_goes_50 rfl ?_
        refine w_iload dX8_goes_51 rfl ?_
        refine s_calli3 (mi := miX8_pebbleRow) dX8_goes_53 q1828 okX8_pebbleRow (Nat.le_of_ble_eq_true rfl) c_pebbleRow (Nat.le_of_ble_eq_true rfl) ?_
        rw [show 0 + 64 + 120 * d + 2 * i = 64 + 120 * d + 2 * i by omega]
        refine w_aload_n dX8_goes_56 rfl ?_
        refine mg_at dX8_goes_57 rfl ?_
        refine w_iconst (v := nI 0) dX8_goes_60 ki_0 ?_
        refine w_iload_n dX8_goes_61 rfl ?_
        refine w_iload dX8_goes_62 rfl ?_
        refine w_iconst (v := nI 1) dX8_goes_64 ki_1 ?_
        refine w_iaddN dX8_goes_65 ?_
        refine s_calli3 (mi := miX8_pebbleRow) dX8_goes_66 q1828 okX8_pebbleRow (Nat.le_of_ble_eq_true rfl) c_pebbleRow (Nat.le_of_ble_eq_true rfl) ?_
        rw [show 0 + 64 + 120 * d + 2 * (i + 1) = 64 + 120 * d + 2 * (i + 1) by omega]
        refine ma_at dX8_goes_69 (by omega) ?_
        refine w_top (y := .int ((upd (upd (mA S 0) (40 + 3 * d + 2) (nI (n - 1))) 8 (nI (L9 - 1))) (64 + 120 * d + 2 * (i + 1)))) (congrArg Value.int (by rw [setAt_A, shDn_ne (by omega)])) ?_
        refine ms_at dX8_goes_70 (by omega) ?_
        rw [setAt_s]
        refine w_aload_n dX8_goes_71 rfl ?_
        refine mg_at dX8_goes_72 rfl ?_
        refine w_iconst (v := nI 0) dX8_goes_75 ki_0 ?_
        refine w_iload_n dX8_goes_76 rfl ?_
        refine w_iload dX8_goes_77 rfl ?_
        refine s_calli3 (mi := miX8_pebbleRow) dX8_goes_79 q1828 okX8_pebbleRow (Nat.le_of_ble_eq_true rfl) c_pebbleRow (Nat.le_of_ble_eq_true rfl) ?_
        rw [show 0 + 64 + 120 * d + 2 * i = 64 + 120 * d + 2 * i by omega]
        refine w_iconst (v := nI 1) dX8_goes_82 ki_1 ?_
        refine w_iaddN dX8_goes_83 ?_
        refine w_aload_n dX8_goes_84 rfl ?_
        refine mg_at dX8_goes_85 rfl ?_
        refine w_iconst (v := nI 0) dX8_goes_88 ki_0 ?_
        refine w_iload_n dX8_goes_89 rfl ?_
        refine w_iload dX8_goes_90 rfl ?_
        refine w_iconst (v := nI 1) dX8_goes_92 ki_1 ?_
        refine w_iaddN dX8_goes_93 ?_
        refine s_calli3 (mi := miX8_pebbleRow) dX8_goes_94 q1828 okX8_pebbleRow (Nat.le_of_ble_eq_true rfl) c_pebbleRow (Nat.le_of_ble_eq_true rfl) ?_
        rw [show 0 + 64 + 120 * d + 2 * (i + 1) = 64 + 120 * d + 2 * (i + 1) by omega]
        refine w_iconst (v := nI 1) dX8_goes_97 ki_1 ?_
        refine w_iaddN dX8_goes_98 ?_
        refine ma_at dX8_goes_99 (by omega) ?_
        refine w_top (y := .int ((upd (upd (mA S 0) (40 + 3 * d + 2) (nI (n - 1))) 8 (nI (L9 - 1))) (64 + 120 * d + 2 * (i + 1) + 1))) (congrArg Value.int (by rw [setAt_A, upd_ne (by omega), shDn_ne (by omega)])) ?_
        refine ms_at dX8_goes_100 (by omega) ?_
        rw [setAt_s]
        refine w_iinc dX8_goes_101 rfl (nI_inc _ 1) rfl (Nat.le_of_ble_eq_true rfl) ls_5_4 ?_
        refine w_goto dX8_goes_104 rfl ?_
        rw [shDn_s _ _ _ _ (by omega)]
        exact ih_lp (i + 1) (by omega) (by omega) (by omega)
  rw [show sM g σ b (setAt S (upd (upd (mA S 0) (40 + 3 * d + 2) (nI (n - 1))) 8 (nI (L9 - 1)))) = sM g σ b (setAt S (shDn (upd (upd (mA S 0) (40 + 3 * d + 2) (nI (n - 1))) 8 (nI (L9 - 1))) (64 + 120 * d) k k)) by rw [shDn_0]]
  exact lp (n + 1) k (by omega) (by omega) (by omega)
theorem c_goesP {g : GG} {S : MS} {V : VS} {d k : Nat} (E : Enc S V) (hN : ∀ d, d < 8 → vt V 7 d ≤ 60) (hd8 : d < 8) (hk : k < vt V 7 d) (h8 : 0 < vs V 8) : Mp g miX8_goes 2 [.int (nI d), .int (nI k)] S none (fun S2 => Ch S S2 (delK V d k)) := by
  have hn := hN d hd8
  refine Mt.toP (c_goes (n := vt V 7 d) (L9 := vs V 8) hd8 (E.d2 hd8) (E.s 8 (by omega)) hk hn h8) (Ch.mk_ (fun i hi => ?_) ?_ (EncA.del E hd8 hk hN))
  · unfold goesA
    rw [shDn_ne (by omega), upd_ne (by omega), upd_ne (by omega)]
  · unfold goesA
    rw [shDn_ne (by omega), upd_ne (by omega), upd_ne (by omega)]
theorem OkV.n8 {V : VS} (K : OkV V) {d : Nat} (hd : d < 8) : vt V 7 d ≤ vs V 8 := by
  have := foldN_le (f := fun d => vt V 7 d) 8 d hd
  rw [K.s8]
  exact this
theorem OkV.nn {V : VS} (K : OkV V) : ∀ d, d < 8 → vt V 7 d ≤ 60 := fun _ h => K.n h
def goV (V : VS) (f c : Nat) : VS := setT (setT V 3 f (vt V 3 f + stepsV V f c)) 0 f c
def wentV (V : VS) (f c : Nat) : VS := if vs V 3 < vt V 3 f + stepsV V f c then V else goV V f c
def waitV (V : VS) (f m : Nat) : VS := setT V 3 f (vt V 3 f + m)
def waitedV (V : VS) (f m : Nat) : VS := if vs V 3 < vt V 3 f + m then V else waitV V f m
def wsetV (V : VS) (f d : Nat) : Nat := if vs V 8 = 60 then 4 else if vt V 2 f = 0 then 6 else if isT V d ∧ vt V 0 f = vt V 5 d then 0 else 7
def setsV (V : VS) (f d : Nat) : VS := insV (setT V 2 f (vt V 2 f - 1)) d f (vt V 3 f)
def ownK (V : VS) (f d : Nat) : Nat := ownOnF (vp V 0 d) f (vt V 7 d)
def wliV (V : VS) (f d : Nat) : Nat := if ownK V f d = 0 then 6 else if vt V 0 f = vt V 5 d then 0 else 7
def liftV (V : VS) (f d : Nat) : VS := setT (delK V d (ownK V f d - 1)) 2 f (vt V 2 f + 1)
def wgV (V : VS) (d e : Nat) : Nat := if vt V 7 d = 0 then 6 else if isT V d ∧ isT V e then 0 else 7
def gullV (V : VS) (d e : Nat) : VS := insV (delK V d (vt V 7 d - 1)) e (vp V 0 d (vt V 7 d - 1)) (vp V 1 d (vt V 7 d - 1))
theorem ownOn_le (who : Nat → Nat) (f : Nat) : ∀ n, ownOnF who f n ≤ n
  | 0 => Nat.le_refl _
  | n + 1 => by
    unfold ownOnF
    split
    · exact Nat.le_refl _
    · exact Nat.le_succ_of_le (ownOn_le who f n)
theorem ownK_le (V : VS) (f d : Nat) : ownK V f d ≤ vt V 7 d := ownOn_le _ _ _
set_option maxHeartbeats 4000000 in
theorem c_went {g : GG} {S : MS} {f : Nat} {c : Nat} {V : VS} (E : Enc S V) (K : OkV V) (hf : f < vs V 1) (hc : c < 40) : Mp g miX8_went 3 [.int (nI f), .int (nI c)] (S) (some (.int (bP (¬ vs V 3 < vt V 3 f + stepsV V f c)))) (fun S2 => Ch S S2 (wentV V f c)) := by
  refine Mp.start (fun b => [some (.ref b), some (.int (nI f)), some (.int (nI c))]) plX8 rfl (fun b => (Nat.le_of_ble_eq_true rfl)) (fun b => rfl) ?_
  intro σ b
  have kb := K.b
  have kf_f := K.f hf
  have hst := stepsV_le K (f := f) (c := c) hf (by omega)
  refine w_aload_n dX8_went_0 rfl ?_
  refine w_iload_n dX8_went_1 rfl ?_
  refine w_aload_n dX8_went_2 rfl ?_
  refine w_iload_n dX8_went_3 rfl ?_
  refine w_iload_n dX8_went_4 rfl ?_
  refine m_calli2 (mi := miX8_stepsTo) dX8_went_5 q1909 okX8_stepsTo rfl (Nat.le_of_ble_eq_true rfl) (c_stepsTo E K (by first | assumption | omega) (by first | assumption | omega)) (Nat.le_of_ble_eq_true rfl) ?_
  refine w_topN (show _ = nI (stepsV V f c) from rfl) ?_
  refine m_calli2 (mi := miX8_mayTo) dX8_went_8 q1914 okX8_mayTo rfl (Nat.le_of_ble_eq_true rfl) (c_mayTo E K (by first | assumption | omega) (by first | assumption | omega)) (Nat.le_of_ble_eq_true rfl) ?_
  refine w_ifB_ne dX8_went_11 rfl (fun h_11 => ?_) (fun h_11 => ?_)
  · refine w_aload_n dX8_went_16 rfl ?_
    refine mg_at dX8_went_17 rfl ?_
    refine w_iload_n dX8_went_20 rfl ?_
    refine s_calli1 (mi := miX8_finderRow) dX8_went_21 q1879 okX8_finderRow (Nat.le_of_ble_eq_true rfl) c_finderRow (Nat.le_of_ble_eq_true rfl) ?_
    refine w_iconst (v := nI 3) dX8_went_24 ki_3 ?_
    refine w_iaddN dX8_went_25 ?_
    refine w_dup2 dX8_went_26 rfl rfl ?_
    refine ma_at dX8_went_27 (by omega) ?_
    refine w_topN (E.f 3 (by omega) (by omega)) ?_
    refine w_aload_n dX8_went_28 rfl ?_
    refine w_iload_n dX8_went_29 rfl ?_
    refine w_iload_n dX8_went_30 rfl ?_
    refine m_calli2 (mi := miX8_stepsTo) dX8_went_31 q1909 okX8_stepsTo rfl (Nat.le_of_ble_eq_true rfl) (c_stepsTo E K (by first | assumption | omega) (by first | assumption | omega)) (Nat.le_of_ble_eq_true rfl) ?_
    refine w_topN (show _ = nI (stepsV V f c) from rfl) ?_
    refine w_iaddN dX8_went_34 ?_
    refine ms_at dX8_went_35 (by omega) ?_
    have hc1 : Ch S _ (setT V 3 f (vt V 3 f + stepsV V f c)) := Ch.setF E (f := f) (j := 3) (x := vt V 3 f + stepsV V f c) (by omega) (by omega) rfl
    have hc2 := hc1.trans (Ch.setF hc1.E (f := f) (j := 0) (x := c) (i := 10 + 5 * f) (by omega) (by omega) rfl)
    refine w_aload_n dX8_went_36 rfl ?_
    refine mg_at dX8_went_37 rfl ?_
    refine w_iload_n dX8_went_40 rfl ?_
    refine s_calli1 (mi := miX8_finderRow) dX8_went_41 q1879 okX8_finderRow (Nat.le_of_ble_eq_true rfl) c_finderRow (Nat.le_of_ble_eq_true rfl) ?_
    refine w_iload_n dX8_went_44 rfl ?_
    refine ms_at dX8_went_45 (by omega) ?_
    refine w_iconst (v := nI 1) dX8_went_46 ki_1 ?_
    exact w_zret dX8_went_47 rfl (by first | exact narr0 | exact narr1) ⟨by rw [bP_t h_11], _, by rw [wentV, if_neg h_11]; exact hc2, rfl⟩
  · refine w_iconst (v := nI 0) dX8_went_14 ki_0 ?_
    exact w_zret dX8_went_15 rfl (by first | exact narr0 | exact narr1) ⟨by rw [bP_f h_11], _, by rw [wentV, if_pos (Classical.not_not.mp h_11)]; exact Ch.refl E, rfl⟩
set_option maxHeartbeats 4000000 in
theorem c_waited {g : GG} {S : MS} {f : Nat} {m : Nat} {V : VS} (E : Enc S V) (K : OkV V) (hf : f < vs V 1) (hm : m < 1000000) : Mp g miX8_waited 3 [.int (nI f), .int (nI m)] (S) (some (.int (bP (¬ vs V 3 < vt V 3 f + m)))) (fun S2 => Ch S S2 (waitedV V f m)) := by
  refine Mp.start (fun b => [some (.ref b), some (.int (nI f)), some (.int (nI m))]) plX8 rfl (fun b => (Nat.le_of_ble_eq_true rfl)) (fun b => rfl) ?_
  intro σ b
  have kb := K.b
  have kf_f := K.f hf
  refine w_aload_n dX8_waited_0 rfl ?_
  refine w_iload_n dX8_waited_1 rfl ?_
  refine w_iload_n dX8_waited_2 rfl ?_
  refine m_calli2 (mi := miX8_mayTo) dX8_waited_3 q1914 okX8_mayTo rfl (Nat.le_of_ble_eq_true rfl) (c_mayTo (x := m) E K (by first | assumption | omega) (by first | assumption | omega)) (Nat.le_of_ble_eq_true rfl) ?_
  refine w_ifB_ne dX8_waited_6 rfl (fun h_6 => ?_) (fun h_6 => ?_)
  · refine w_aload_n dX8_waited_11 rfl ?_
    refine mg_at dX8_waited_12 rfl ?_
    refine w_iload_n dX8_waited_15 rfl ?_
    refine s_calli1 (mi := miX8_finderRow) dX8_waited_16 q1879 okX8_finderRow (Nat.le_of_ble_eq_true rfl) c_finderRow (Nat.le_of_ble_eq_true rfl) ?_
    refine w_iconst (v := nI 3) dX8_waited_19 ki_3 ?_
    refine w_iaddN dX8_waited_20 ?_
    refine w_dup2 dX8_waited_21 rfl rfl ?_
    refine ma_at dX8_waited_22 (by omega) ?_
    refine w_topN (E.f 3 (by omega) (by omega)) ?_
    refine w_iload_n dX8_waited_23 rfl ?_
    refine w_iaddN dX8_waited_24 ?_
    refine ms_at dX8_waited_25 (by omega) ?_
    have hc1 : Ch S _ (setT V 3 f (vt V 3 f + m)) := Ch.setF E (f := f) (j := 3) (x := vt V 3 f + m) (by omega) (by omega) rfl
    refine w_iconst (v := nI 1) dX8_waited_26 ki_1 ?_
    exact w_zret dX8_waited_27 rfl (by first | exact narr0 | exact narr1) ⟨by rw [bP_t h_6], _, by rw [waitedV, if_neg h_6]; exact hc1, rfl⟩
  · refine w_iconst (v := nI 0) dX8_waited_9 ki_0 ?_
    exact w_zret dX8_waited_10 rfl (by first | exact narr0 | exact narr1) ⟨by rw [bP_f h_6], _, by rw [waitedV, if_pos (Classical.not_not.mp h_6)]; exact Ch.refl E, rfl⟩
set_option maxHeartbeats 4000000 in
theorem c_wrongSet {g : GG} {S : MS} {f : Nat} {d : Nat} {V : VS} (E : Enc S V) (K : OkV V) (hf : f < vs V 1) (hd : d < vs V 2) : Mt g miX8_wrongSet 2 [.int (nI f), .int (nI d)] (S) (some (.int (nI (wsetV V f d)))) (S) := by
  refine Mt.start (fun b => [some (.ref b), some (.int (nI f)), some (.int (nI d))]) plX8 rfl (fun b => (Nat.le_of_ble_eq_true rfl)) (fun b => rfl) ?_
  intro σ b
  have kb := K.b
  have kf_f := K.f hf
  have kd_d := K.d hd
  have kn_d := K.n (d := d) (by omega)
  refine w_aload_n dX8_wrongSet_0 rfl ?_
  refine mg_at dX8_wrongSet_1 rfl ?_
  refine w_bipush (v := nI 8) dX8_wrongSet_4 kb_8 ?_
  refine ma_at dX8_wrongSet_6 (by omega) ?_
  refine w_topN (E.s 8 (by omega)) ?_
  refine w_bipush (v := nI 60) dX8_wrongSet_7 kb_60 ?_
  refine w_icmpN_ne dX8_wrongSet_9 rfl (by omega) (by omega) (fun h_9 => ?_) (fun h_9 => ?_)
  · refine w_aload_n dX8_wrongSet_14 rfl ?_
    refine mg_at dX8_wrongSet_15 rfl ?_
    refine w_iload_n dX8_wrongSet_18 rfl ?_
    refine s_calli1 (mi := miX8_finderRow) dX8_wrongSet_19 q1879 okX8_finderRow (Nat.le_of_ble_eq_true rfl) c_finderRow (Nat.le_of_ble_eq_true rfl) ?_
    refine w_iconst (v := nI 2) dX8_wrongSet_22 ki_2 ?_
    refine w_iaddN dX8_wrongSet_23 ?_
    refine ma_at dX8_wrongSet_24 (by omega) ?_
    refine w_topN (E.f 2 (by omega) (by omega)) ?_
    refine w_ifN_ne dX8_wrongSet_25 rfl (by omega) (fun h_25 => ?_) (fun h_25 => ?_)
    · refine w_aload_n dX8_wrongSet_31 rfl ?_
      refine w_iload_n dX8_wrongSet_32 rfl ?_
      refine m_calli1 (mi := miX8_isThere) dX8_wrongSet_33 q1935 okX8_isThere rfl (Nat.le_of_ble_eq_true rfl) (c_isThere E K (by first | assumption | omega)) (Nat.le_of_ble_eq_true rfl) ?_
      refine w_ifB_eq dX8_wrongSet_36 rfl (fun h_36 => ?_) (fun h_36 => ?_)
      · refine w_bipush (v := nI 7) dX8_wrongSet_65 kb_7 ?_
        exact w_iret dX8_wrongSet_67 rfl ⟨by rw [wsetV, if_neg h_9, if_neg (by omega), if_neg (fun z => h_36 z.1)], by first | rfl | (simp only [bP, isT, bitN, inN, *, not_true_eq_false, not_false_eq_true, and_true, true_and, and_false, false_and, or_true, true_or, or_false, false_or, and_self, or_self, if_true, if_false, ite_true, ite_false]; done) | (simp [bP, isT, bitN, inN, *]; done) | (simp_all [bP, isT, bitN, inN]; done) | (repeat split) <;> first | rfl | contradiction | simp_all⟩
      · refine w_aload_n dX8_wrongSet_39 rfl ?_
        refine mg_at dX8_wrongSet_40 rfl ?_
        refine w_iload_n dX8_wrongSet_43 rfl ?_
        refine s_calli1 (mi := miX8_finderRow) dX8_wrongSet_44 q1879 okX8_finderRow (Nat.le_of_ble_eq_true rfl) c_finderRow (Nat.le_of_ble_eq_true rfl) ?_
        refine ma_at dX8_wrongSet_47 (by omega) ?_
        refine w_topN (E.f 0 (by omega) (by omega)) ?_
        refine w_aload_n dX8_wrongSet_48 rfl ?_
        refine mg_at dX8_wrongSet_49 rfl ?_
        refine w_iconst (v := nI 0) dX8_wrongSet_52 ki_0 ?_
        refine w_iload_n dX8_wrongSet_53 rfl ?_
        refine s_calli2 (mi := miX8_findRow) dX8_wrongSet_54 q1813 okX8_findRow (Nat.le_of_ble_eq_true rfl) c_findRow (Nat.le_of_ble_eq_true rfl) ?_
        refine ma_at dX8_wrongSet_57 (by omega) ?_
        refine w_topN (E.d0 (by omega)) ?_
        refine w_icmpN_ne dX8_wrongSet_58 rfl (by omega) (by omega) (fun h_58 => ?_) (fun h_58 => ?_)
        · refine w_bipush (v := nI 7) dX8_wrongSet_65 kb_7 ?_
          exact w_iret dX8_wrongSet_67 rfl ⟨by rw [wsetV, if_neg h_9, if_neg (by omega), if_neg (fun z => h_58 z.2)], by first | rfl | (simp only [bP, isT, bitN, inN, *, not_true_eq_false, not_false_eq_true, and_true, true_and, and_false, false_and, or_true, true_or, or_false, false_or, and_self, or_self, if_true, if_false, ite_true, ite_false]; done) | (simp [bP, isT, bitN, inN, *]; done) | (simp_all [bP, isT, bitN, inN]; done) | (repeat split) <;> first | rfl | contradiction | simp_all⟩
        · refine w_iconst (v := nI 0) dX8_wrongSet_61 ki_0 ?_
          refine w_goto dX8_wrongSet_62 rfl ?_
          exact w_iret dX8_wrongSet_67 rfl ⟨by rw [wsetV, if_neg h_9, if_neg (by omega), if_pos ⟨h_36, h_58⟩], by first | rfl | (simp only [bP, isT, bitN, inN, *, not_true_eq_false, not_false_eq_true, and_true, true_and, and_false, false_and, or_true, true_or, or_false, false_or, and_self, or_self, if_true, if_false, ite_true, ite_false]; done) | (simp [bP, isT, bitN, inN, *]; done) | (simp_all [bP, isT, bitN, inN]; done) | (repeat split) <;> first | rfl | contradiction | simp_all⟩
    · refine w_bipush (v := nI 6) dX8_wrongSet_28 kb_6 ?_
      exact w_iret dX8_wrongSet_30 rfl ⟨by rw [wsetV, if_neg h_9, if_pos h_25], by first | rfl | (simp only [bP, isT, bitN, inN, *, not_true_eq_false, not_false_eq_true, and_true, true_and, and_false, false_and, or_true, true_or, or_false, false_or, and_self, or_self, if_true, if_false, ite_true, ite_false]; done) | (simp [bP, isT, bitN, inN, *]; done) | (simp_all [bP, isT, bitN, inN]; done) | (repeat split) <;> first | rfl | contradiction | simp_all⟩
  · refine w_iconst (v := nI 4) dX8_wrongSet_12 ki_4 ?_
    exact w_iret dX8_wrongSet_13 rfl ⟨by rw [wsetV, if_pos h_9], by first | rfl | (simp only [bP, isT, bitN, inN, *, not_true_eq_false, not_false_eq_true, and_true, true_and, and_false, false_and, or_true, true_or, or_false, false_or, and_self, or_self, if_true, if_false, ite_true, ite_false]; done) | (simp [bP, isT, bitN, inN, *]; done) | (simp_all [bP, isT, bitN, inN]; done) | (repeat split) <;> first | rfl | contradiction | simp_all⟩
set_option maxHeartbeats 4000000 in
theorem c_sets {g : GG} {S : MS} {f : Nat} {d : Nat} {V : VS} (E : Enc S V) (K : OkV V) (hf : f < vs V 1) (hd : d < vs V 2) (hp : 0 < vt V 2 f) (hl : vs V 8 < 60) : Mp g miX8_sets 3 [.int (nI f), .int (nI d)] (S) (none) (fun S2 => Ch S S2 (setsV V f d)) := by
  refine Mp.start (fun b => [some (.ref b), some (.int (nI f)), some (.int (nI d))]) plX8 rfl (fun b => (Nat.le_of_ble_eq_true rfl)) (fun b => rfl) ?_
  intro σ b
  have kb := K.b
  have kf_f := K.f hf
  have kd_d := K.d hd
  have kn_d := K.n (d := d) (by omega)
  have hn6 := K.n8 (d := d) (by omega)
  refine w_aload_n dX8_sets_0 rfl ?_
  refine mg_at dX8_sets_1 rfl ?_
  refine w_iload_n dX8_sets_4 rfl ?_
  refine s_calli1 (mi := miX8_finderRow) dX8_sets_5 q1879 okX8_finderRow (Nat.le_of_ble_eq_true rfl) c_finderRow (Nat.le_of_ble_eq_true rfl) ?_
  refine w_iconst (v := nI 2) dX8_sets_8 ki_2 ?_
  refine w_iaddN dX8_sets_9 ?_
  refine w_dup2 dX8_sets_10 rfl rfl ?_
  refine ma_at dX8_sets_11 (by omega) ?_
  refine w_topN (E.f 2 (by omega) (by omega)) ?_
  refine w_iconst (v := nI 1) dX8_sets_12 ki_1 ?_
  refine w_isubN dX8_sets_13 (by omega) ?_
  refine ms_at dX8_sets_14 (by omega) ?_
  have hc1 : Ch S _ (setT V 2 f (vt V 2 f - 1)) := Ch.setF E (f := f) (j := 2) (x := vt V 2 f - 1) (by omega) (by omega) rfl
  refine w_aload_n dX8_sets_15 rfl ?_
  refine w_iconst (v := nI 0) dX8_sets_16 ki_0 ?_
  refine w_iload_n dX8_sets_17 rfl ?_
  refine w_iload_n dX8_sets_18 rfl ?_
  refine w_aload_n dX8_sets_19 rfl ?_
  refine mg_at dX8_sets_20 rfl ?_
  refine w_iload_n dX8_sets_23 rfl ?_
  refine s_calli1 (mi := miX8_finderRow) dX8_sets_24 q1879 okX8_finderRow (Nat.le_of_ble_eq_true rfl) c_finderRow (Nat.le_of_ble_eq_true rfl) ?_
  refine w_iconst (v := nI 3) dX8_sets_27 ki_3 ?_
  refine w_iaddN dX8_sets_28 ?_
  refine ma_at dX8_sets_29 (by omega) ?_
  refine w_topN (n := vt V 3 f) (hc1.E.f 3 (by omega) (by omega)) ?_
  refine m_callPv4 (mi := miX8_comes) dX8_sets_30 q1824 okX8_comes rfl (Nat.le_of_ble_eq_true rfl) (c_comesP hc1.E (fun e he => K.n (d := e) he) (fun i hi => by have := (K.p (d := d) (by omega) (k := i) hi).2; show vp V 1 d i < _; omega) (by first | assumption | omega) (show vt V 7 d < 60 by omega) (by omega)) (Nat.le_of_ble_eq_true rfl) (fun S30 hS30 => ?_)
  exact w_vret dX8_sets_33 rfl ⟨by rfl, _, by exact hc1.trans hS30, rfl⟩
set_option maxHeartbeats 4000000 in
theorem c_wrongLift {g : GG} {S : MS} {f : Nat} {d : Nat} {V : VS} (E : Enc S V) (K : OkV V) (hf : f < vs V 1) (hd : d < vs V 2) : Mt g miX8_wrongLift 4 [.int (nI f), .int (nI d)] (S) (some (.int (nI (wliV V f d)))) (S) := by
  refine Mt.start (fun b => [some (.ref b), some (.int (nI f)), some (.int (nI d))]) plX8 rfl (fun b => (Nat.le_of_ble_eq_true rfl)) (fun b => rfl) ?_
  intro σ b
  have kb := K.b
  have kf_f := K.f hf
  have kd_d := K.d hd
  have kn_d := K.n (d := d) (by omega)
  refine w_aload_n dX8_wrongLift_0 rfl ?_
  refine w_iload_n dX8_wrongLift_1 rfl ?_
  refine w_iload_n dX8_wrongLift_2 rfl ?_
  refine m_calli2 (mi := miX8_ownOn) dX8_wrongLift_3 q1951 okX8_ownOn rfl (Nat.le_of_ble_eq_true rfl) (c_ownOn E K (by first | assumption | omega) (by first | assumption | omega)) (Nat.le_of_ble_eq_true rfl) ?_
  rw [show ownOnF (vp V 0 d) f (vt V 7 d) = ownK V f d from rfl]
  refine w_iconst (v := (-1)) dX8_wrongLift_6 ki_m1 ?_
  refine w_icmp_ne dX8_wrongLift_7 rfl (fun h_7 => ?_) (fun h_7 => ?_)
  · have h_7 : ownK V f d ≠ 0 := mt (m1_iff (by have := ownK_le V f d; omega)).mpr h_7
    refine w_aload_n dX8_wrongLift_15 rfl ?_
    refine mg_at dX8_wrongLift_16 rfl ?_
    refine w_iload_n dX8_wrongLift_19 rfl ?_
    refine s_calli1 (mi := miX8_finderRow) dX8_wrongLift_20 q1879 okX8_finderRow (Nat.le_of_ble_eq_true rfl) c_finderRow (Nat.le_of_ble_eq_true rfl) ?_
    refine ma_at dX8_wrongLift_23 (by omega) ?_
    refine w_topN (E.f 0 (by omega) (by omega)) ?_
    refine w_aload_n dX8_wrongLift_24 rfl ?_
    refine mg_at dX8_wrongLift_25 rfl ?_
    refine w_iconst (v := nI 0) dX8_wrongLift_28 ki_0 ?_
    refine w_iload_n dX8_wrongLift_29 rfl ?_
    refine s_calli2 (mi := miX8_findRow) dX8_wrongLift_30 q1813 okX8_findRow (Nat.le_of_ble_eq_true rfl) c_findRow (Nat.le_of_ble_eq_true rfl) ?_
    refine ma_at dX8_wrongLift_33 (by omega) ?_
    refine w_topN (E.d0 (by omega)) ?_
    refine w_icmpN_ne dX8_wrongLift_34 rfl (by omega) (by omega) (fun h_34 => ?_) (fun h_34 => ?_)
    · refine w_bipush (v := nI 7) dX8_wrongLift_41 kb_7 ?_
      exact w_iret dX8_wrongLift_43 rfl ⟨by rw [wliV, if_neg h_7, if_neg h_34], by first | rfl | (simp only [bP, isT, bitN, inN, *, not_true_eq_false, not_false_eq_true, and_true, true_and, and_false, false_and, or_true, true_or, or_false, false_or, and_self, or_self, if_true, if_false, ite_true, ite_false]; done) | (simp [bP, isT, bitN, inN, *]; done) | (simp_all [bP, isT, bitN, inN]; done) | (repeat split) <;> first | rfl | contradiction | simp_all⟩
    · refine w_iconst (v := nI 0) dX8_wrongLift_37 ki_0 ?_
      refine w_goto dX8_wrongLift_38 rfl ?_
      exact w_iret dX8_wrongLift_43 rfl ⟨by rw [wliV, if_neg h_7, if_pos h_34], by first | rfl | (simp only [bP, isT, bitN, inN, *, not_true_eq_false, not_false_eq_true, and_true, true_and, and_false, false_and, or_true, true_or, or_false, false_or, and_self, or_self, if_true, if_false, ite_true, ite_false]; done) | (simp [bP, isT, bitN, inN, *]; done) | (simp_all [bP, isT, bitN, inN]; done) | (repeat split) <;> first | rfl | contradiction | simp_all⟩
  · have h_7 : ownK V f d = 0 := (m1_iff (by have := ownK_le V f d; omega)).mp h_7
    refine w_bipush (v := nI 6) dX8_wrongLift_10 kb_6 ?_
    refine w_goto dX8_wrongLift_12 rfl ?_
    exact w_iret dX8_wrongLift_43 rfl ⟨by rw [wliV, if_pos h_7], by first | rfl | (simp only [bP, isT, bitN, inN, *, not_true_eq_false, not_false_eq_true, and_true, true_and, and_false, false_and, or_true, true_or, or_false, false_or, and_self, or_self, if_true, if_false, ite_true, ite_false]; done) | (simp [bP, isT, bitN, inN, *]; done) | (simp_all [bP, isT, bitN, inN]; done) | (repeat split) <;> first | rfl | contradiction | simp_all⟩
set_option maxHeartbeats 4000000 in
theorem c_lifts {g : GG} {S : MS} {f : Nat} {d : Nat} {V : VS} (E : Enc S V) (K : OkV V) (hf : f < vs V 1) (hd : d < vs V 2) (ho : ownK V f d ≠ 0) : Mp g miX8_lifts 4 [.int (nI f), .int (nI d)] (S) (some (.int (nI (vp V 1 d (ownK V f d - 1))))) (fun S2 => Ch S S2 (liftV V f d)) := by
  refine Mp.start (fun b => [some (.ref b), some (.int (nI f)), some (.int (nI d)), none, none]) plX8 rfl (fun b => (Nat.le_of_ble_eq_true rfl)) (fun b => rfl) ?_
  intro σ b
  have kb := K.b
  have kf_f := K.f hf
  have kd_d := K.d hd
  have kn_d := K.n (d := d) (by omega)
  have hok := ownK_le V f d
  have hn8 := K.n8 (d := d) (by omega)
  obtain ⟨r, hr⟩ : ∃ r, ownK V f d = r + 1 := ⟨ownK V f d - 1, by omega⟩
  refine w_aload_n dX8_lifts_0 rfl ?_
  refine w_iload_n dX8_lifts_1 rfl ?_
  refine w_iload_n dX8_lifts_2 rfl ?_
  refine m_calli2 (mi := miX8_ownOn) dX8_lifts_3 q1951 okX8_ownOn rfl (Nat.le_of_ble_eq_true rfl) (c_ownOn E K (by first | assumption | omega) (by first | assumption | omega)) (Nat.le_of_ble_eq_true rfl) ?_
  rw [show ownOnF (vp V 0 d) f (vt V 7 d) = ownK V f d from rfl, hr, nI_dn]
  refine w_istore_n dX8_lifts_6 rfl (Nat.le_of_ble_eq_true rfl) ls_5_3 ?_
  refine w_aload_n dX8_lifts_7 rfl ?_
  refine w_iload_n dX8_lifts_8 rfl ?_
  refine w_iload_n dX8_lifts_9 rfl ?_
  refine m_calli2 (mi := miX8_minuteAt) dX8_lifts_10 q1963 okX8_minuteAt rfl (Nat.le_of_ble_eq_true rfl) (c_minuteAt E K (by first | assumption | omega) (by first | assumption | omega)) (Nat.le_of_ble_eq_true rfl) ?_
  refine w_istore dX8_lifts_13 rfl (Nat.le_of_ble_eq_true rfl) ls_5_4 ?_
  refine w_aload_n dX8_lifts_15 rfl ?_
  refine w_iload_n dX8_lifts_16 rfl ?_
  refine w_iload_n dX8_lifts_17 rfl ?_
  refine m_callPv2 (mi := miX8_goes) dX8_lifts_18 q1967 okX8_goes rfl (Nat.le_of_ble_eq_true rfl) (c_goesP E K.nn (by first | assumption | omega) (by first | assumption | omega) (by first | assumption | omega)) (Nat.le_of_ble_eq_true rfl) (fun S18 hS18 => ?_)
  have E1 := hS18.E
  refine w_aload_n dX8_lifts_21 rfl ?_
  refine mg_at dX8_lifts_22 rfl ?_
  refine w_iload_n dX8_lifts_25 rfl ?_
  refine s_calli1 (mi := miX8_finderRow) dX8_lifts_26 q1879 okX8_finderRow (Nat.le_of_ble_eq_true rfl) c_finderRow (Nat.le_of_ble_eq_true rfl) ?_
  refine w_iconst (v := nI 2) dX8_lifts_29 ki_2 ?_
  refine w_iaddN dX8_lifts_30 ?_
  refine w_dup2 dX8_lifts_31 rfl rfl ?_
  refine ma_at dX8_lifts_32 (by omega) ?_
  refine w_topN (n := vt V 2 f) ((E1.f 2 (by omega) (by omega)).trans (by rw [del_t _ _ _ _ _ (by decide)])) ?_
  refine w_iconst (v := nI 1) dX8_lifts_33 ki_1 ?_
  refine w_iaddN dX8_lifts_34 ?_
  refine ms_at dX8_lifts_35 (by omega) ?_
  have hc2 := hS18.trans (Ch.setF E1 (f := f) (j := 2) (x := vt V 2 f + 1) (by omega) (by omega) rfl)
  refine w_iload dX8_lifts_36 rfl ?_
  exact w_iret dX8_lifts_38 rfl ⟨by first | rfl | rw [hr, Nat.add_sub_cancel], _, by rw [liftV, hr, Nat.add_sub_cancel]; exact hc2, rfl⟩
set_option maxHeartbeats 4000000 in
theorem c_wrongGull {g : GG} {S : MS} {d : Nat} {e : Nat} {V : VS} (E : Enc S V) (K : OkV V) (hd : d < vs V 2) (he : e < vs V 2) : Mt g miX8_wrongGull 3 [.int (nI d), .int (nI e)] (S) (some (.int (nI (wgV V d e)))) (S) := by
  refine Mt.start (fun b => [some (.ref b), some (.int (nI d)), some (.int (nI e))]) plX8 rfl (fun b => (Nat.le_of_ble_eq_true rfl)) (fun b => rfl) ?_
  intro σ b
  have kb := K.b
  have kd_d := K.d hd
  have kn_d := K.n (d := d) (by omega)
  have kd_e := K.d he
  have kn_e := K.n (d := e) (by omega)
  have hkn := K.n (d := d) (by omega)
  refine w_aload_n dX8_wrongGull_0 rfl ?_
  refine w_iload_n dX8_wrongGull_1 rfl ?_
  refine m_calli1 (mi := miX8_manyOn) dX8_wrongGull_2 q1894 okX8_manyOn rfl (Nat.le_of_ble_eq_true rfl) (c_manyOn E K (by first | assumption | omega)) (Nat.le_of_ble_eq_true rfl) ?_
  refine w_ifN_ne dX8_wrongGull_5 rfl (by omega) (fun h_5 => ?_) (fun h_5 => ?_)
  · refine w_aload_n dX8_wrongGull_13 rfl ?_
    refine w_iload_n dX8_wrongGull_14 rfl ?_
    refine m_calli1 (mi := miX8_isThere) dX8_wrongGull_15 q1935 okX8_isThere rfl (Nat.le_of_ble_eq_true rfl) (c_isThere E K (by first | assumption | omega)) (Nat.le_of_ble_eq_true rfl) ?_
    refine w_ifB_eq dX8_wrongGull_18 rfl (fun h_18 => ?_) (fun h_18 => ?_)
    · refine w_bipush (v := nI 7) dX8_wrongGull_33 kb_7 ?_
      exact w_iret dX8_wrongGull_35 rfl ⟨by rw [wgV, if_neg (by omega), if_neg (fun z => h_18 z.1)], by first | rfl | (simp only [bP, isT, bitN, inN, *, not_true_eq_false, not_false_eq_true, and_true, true_and, and_false, false_and, or_true, true_or, or_false, false_or, and_self, or_self, if_true, if_false, ite_true, ite_false]; done) | (simp [bP, isT, bitN, inN, *]; done) | (simp_all [bP, isT, bitN, inN]; done) | (repeat split) <;> first | rfl | contradiction | simp_all⟩
    · refine w_aload_n dX8_wrongGull_21 rfl ?_
      refine w_iload_n dX8_wrongGull_22 rfl ?_
      refine m_calli1 (mi := miX8_isThere) dX8_wrongGull_23 q1935 okX8_isThere rfl (Nat.le_of_ble_eq_true rfl) (c_isThere E K (by first | assumption | omega)) (Nat.le_of_ble_eq_true rfl) ?_
      refine w_ifB_eq dX8_wrongGull_26 rfl (fun h_26 => ?_) (fun h_26 => ?_)
      · refine w_bipush (v := nI 7) dX8_wrongGull_33 kb_7 ?_
        exact w_iret dX8_wrongGull_35 rfl ⟨by rw [wgV, if_neg (by omega), if_neg (fun z => h_26 z.2)], by first | rfl | (simp only [bP, isT, bitN, inN, *, not_true_eq_false, not_false_eq_true, and_true, true_and, and_false, false_and, or_true, true_or, or_false, false_or, and_self, or_self, if_true, if_false, ite_true, ite_false]; done) | (simp [bP, isT, bitN, inN, *]; done) | (simp_all [bP, isT, bitN, inN]; done) | (repeat split) <;> first | rfl | contradiction | simp_all⟩
      · refine w_iconst (v := nI 0) dX8_wrongGull_29 ki_0 ?_
        refine w_goto dX8_wrongGull_30 rfl ?_
        exact w_iret dX8_wrongGull_35 rfl ⟨by rw [wgV, if_neg (by omega), if_pos ⟨h_18, h_26⟩], by first | rfl | (simp only [bP, isT, bitN, inN, *, not_true_eq_false, not_false_eq_true, and_true, true_and, and_false, false_and, or_true, true_or, or_false, false_or, and_self, or_self, if_true, if_false, ite_true, ite_false]; done) | (simp [bP, isT, bitN, inN, *]; done) | (simp_all [bP, isT, bitN, inN]; done) | (repeat split) <;> first | rfl | contradiction | simp_all⟩
  · refine w_bipush (v := nI 6) dX8_wrongGull_8 kb_6 ?_
    refine w_goto dX8_wrongGull_10 rfl ?_
    exact w_iret dX8_wrongGull_35 rfl ⟨by rw [wgV, if_pos h_5], by first | rfl | (simp only [bP, isT, bitN, inN, *, not_true_eq_false, not_false_eq_true, and_true, true_and, and_false, false_and, or_true, true_or, or_false, false_or, and_self, or_self, if_true, if_false, ite_true, ite_false]; done) | (simp [bP, isT, bitN, inN, *]; done) | (simp_all [bP, isT, bitN, inN]; done) | (repeat split) <;> first | rfl | contradiction | simp_all⟩
set_option maxHeartbeats 4000000 in
theorem c_carries {g : GG} {S : MS} {d : Nat} {e : Nat} {V : VS} (E : Enc S V) (K : OkV V) (hd : d < vs V 2) (he : e < vs V 2) (hn : 0 < vt V 7 d) (hne : d ≠ e) : Mp g miX8_carries 3 [.int (nI d), .int (nI e)] (S) (some (.int (nI (vp V 0 d (vt V 7 d - 1))))) (fun S2 => Ch S S2 (gullV V d e)) := by
  refine Mp.start (fun b => [some (.ref b), some (.int (nI d)), some (.int (nI e)), none, none, none]) plX8 rfl (fun b => (Nat.le_of_ble_eq_true rfl)) (fun b => rfl) ?_
  intro σ b
  have kb := K.b
  have kd_d := K.d hd
  have kn_d := K.n (d := d) (by omega)
  have kd_e := K.d he
  have kn_e := K.n (d := e) (by omega)
  have hn8 := K.n8 (d := d) (by omega)
  have hp := K.p (d := d) (by omega) (k := vt V 7 d - 1) (by omega)
  obtain ⟨K1, -⟩ := K.del (d := d) (k := vt V 7 d - 1) (by omega) (by omega)
  have he8 := K1.n8 (d := e) (by omega)
  rw [del_s, if_pos rfl] at he8
  refine w_aload_n dX8_carries_0 rfl ?_
  refine w_iload_n dX8_carries_1 rfl ?_
  refine m_calli1 (mi := miX8_manyOn) dX8_carries_2 q1894 okX8_manyOn rfl (Nat.le_of_ble_eq_true rfl) (c_manyOn E K (by first | assumption | omega)) (Nat.le_of_ble_eq_true rfl) ?_
  refine w_iconst (v := nI 1) dX8_carries_5 ki_1 ?_
  refine w_isubN dX8_carries_6 (by omega) ?_
  refine w_istore_n dX8_carries_7 rfl (Nat.le_of_ble_eq_true rfl) ls_6_3 ?_
  refine w_aload_n dX8_carries_8 rfl ?_
  refine w_iload_n dX8_carries_9 rfl ?_
  refine w_iload_n dX8_carries_10 rfl ?_
  refine m_calli2 (mi := miX8_whoAt) dX8_carries_11 q1955 okX8_whoAt rfl (Nat.le_of_ble_eq_true rfl) (c_whoAt E K (by first | assumption | omega) (by first | assumption | omega)) (Nat.le_of_ble_eq_true rfl) ?_
  refine w_istore dX8_carries_14 rfl (Nat.le_of_ble_eq_true rfl) ls_6_4 ?_
  refine w_aload_n dX8_carries_16 rfl ?_
  refine w_iload_n dX8_carries_17 rfl ?_
  refine w_iload_n dX8_carries_18 rfl ?_
  refine m_calli2 (mi := miX8_minuteAt) dX8_carries_19 q1963 okX8_minuteAt rfl (Nat.le_of_ble_eq_true rfl) (c_minuteAt E K (by first | assumption | omega) (by first | assumption | omega)) (Nat.le_of_ble_eq_true rfl) ?_
  refine w_istore dX8_carries_22 rfl (Nat.le_of_ble_eq_true rfl) ls_6_5 ?_
  refine w_aload_n dX8_carries_24 rfl ?_
  refine w_iload_n dX8_carries_25 rfl ?_
  refine w_iload_n dX8_carries_26 rfl ?_
  refine m_callPv2 (mi := miX8_goes) dX8_carries_27 q1967 okX8_goes rfl (Nat.le_of_ble_eq_true rfl) (c_goesP E K.nn (by first | assumption | omega) (by omega) (by first | assumption | omega)) (Nat.le_of_ble_eq_true rfl) (fun S27 hS27 => ?_)
  have E1 := hS27.E
  refine w_aload_n dX8_carries_30 rfl ?_
  refine w_iconst (v := nI 0) dX8_carries_31 ki_0 ?_
  refine w_iload_n dX8_carries_32 rfl ?_
  refine w_iload dX8_carries_33 rfl ?_
  refine w_iload dX8_carries_35 rfl ?_
  refine m_callPv4 (mi := miX8_comes) dX8_carries_37 q1824 okX8_comes rfl (Nat.le_of_ble_eq_true rfl) (c_comesP E1 K1.nn (fun i hi => by have := (K1.p (d := e) (by omega) (k := i) hi).2; rw [del_s, if_neg (by omega)] at this; omega) (by first | assumption | omega) (by omega) (by omega)) (Nat.le_of_ble_eq_true rfl) (fun S37 hS37 => ?_)
  refine w_iload dX8_carries_40 rfl ?_
  exact w_iret dX8_carries_42 rfl ⟨by rfl, _, by exact hS27.trans hS37, rfl⟩
/-- the finds before k that lie below x have no pebble -/
def waveK (V : VS) (x k : Nat) : VS := foldN (fun d W => if vt V 5 d < x then setT (setS W 8 (vs W 8 - vt V 7 d)) 7 d 0 else W) V k
theorem waveK_s (V : VS) (x k : Nat) : waveK V x (k + 1) = if vt V 5 k < x then setT (setS (waveK V x k) 8 (vs (waveK V x k) 8 - vt V 7 k)) 7 k 0 else waveK V x k := rfl
def waveV (V : VS) (x : Nat) : VS := waveK V x (vs V 2)
def waveN (V : VS) (x k : Nat) : Nat := foldN (fun d c => if vt V 5 d < x then c + vt V 7 d else c) 0 k
theorem waveN_s (V : VS) (x k : Nat) : waveN V x (k + 1) = if vt V 5 k < x then waveN V x k + vt V 7 k else waveN V x k := rfl
theorem waveN_le (V : VS) (x : Nat) : ∀ k, waveN V x k ≤ foldN (fun d c => c + vt V 7 d) 0 k
  | 0 => Nat.le_refl _
  | k + 1 => by
    have := waveN_le V x k
    rw [waveN_s]
    show _ ≤ foldN (fun d c => c + vt V 7 d) 0 k + vt V 7 k
    split <;> omega
theorem waveK_t (V : VS) (x : Nat) : ∀ k j i, vt (waveK V x k) j i = if j = 7 ∧ i < k ∧ vt V 5 i < x then 0 else vt V j i
  | 0, j, i => by rw [if_neg (by omega)]; rfl
  | k + 1, j, i => by
    have ih := waveK_t V x k j i
    rw [waveK_s]
    by_cases h : vt V 5 k < x
    · rw [if_pos h, setT_t, setS_t, ih]
      by_cases h1 : j = 7 ∧ i = k
      · rw [if_pos h1, if_pos ⟨h1.1, by omega, by rw [h1.2]; exact h⟩]
      · rw [if_neg h1]
        by_cases h2 : j = 7 ∧ i < k ∧ vt V 5 i < x
        · rw [if_pos h2, if_pos ⟨h2.1, by omega, h2.2.2⟩]
        · rw [if_neg h2, if_neg (fun z => h2 ⟨z.1, by omega, z.2.2⟩)]
    · rw [if_neg h, ih]
      by_cases h2 : j = 7 ∧ i < k ∧ vt V 5 i < x
      · rw [if_pos h2, if_pos ⟨h2.1, by omega, h2.2.2⟩]
      · rw [if_neg h2, if_neg (fun z => h2 ⟨z.1, by
          rcases Nat.lt_succ_iff_lt_or_eq.mp z.2.1 with q | q
          · exact q
          · rw [q] at z; exact absurd z.2.2 h, z.2.2⟩)]
theorem waveK_8 (V : VS) (x : Nat) : ∀ k i, vs (waveK V x k) i = if i = 8 then vs V 8 - waveN V x k else vs V i
  | 0, i => by
    by_cases h : i = 8
    · rw [if_pos h, h]; rfl
    · rw [if_neg h]; rfl
  | k + 1, i => by
    have ih := waveK_8 V x k
    rw [waveK_s, waveN_s]
    by_cases h : vt V 5 k < x
    · rw [if_pos h, if_pos h, setT_s, setS_s, ih 8, if_pos rfl]
      by_cases h1 : i = 8
      · rw [if_pos h1, if_pos h1]; omega
      · rw [if_neg h1, if_neg h1, ih i, if_neg h1]
    · rw [if_neg h, if_neg h]; exact ih i
theorem waveK_p (V : VS) (x : Nat) : ∀ k j d i, vp (waveK V x k) j d i = vp V j d i
  | 0, _, _, _ => rfl
  | k + 1, j, d, i => by
    rw [waveK_s]
    split
    · rw [setT_p]; exact waveK_p V x k j d i
    · exact waveK_p V x k j d i
theorem sum_le8 {f : Nat → Nat} {m n : Nat} (h : m ≤ n) : foldN (fun d c => c + f d) 0 m ≤ foldN (fun d c => c + f d) 0 n := by
  induction n with
  | zero => obtain rfl : m = 0 := by omega
            exact Nat.le_refl _
  | succ n ih =>
    by_cases hm : m = n + 1
    · rw [hm]; exact Nat.le_refl _
    · exact Nat.le_trans (ih (by omega)) (Nat.le_add_right _ _)
theorem waveN_8 {V : VS} (K : OkV V) (x : Nat) {k : Nat} (hk : k ≤ 8) : waveN V x k ≤ vs V 8 := by
  have h1 := waveN_le V x k
  have h2 := sum_le8 (f := fun d => vt V 7 d) hk
  rw [K.s8]
  exact Nat.le_trans h1 h2
set_option maxHeartbeats 4000000 in
theorem c_manyOn4 {g : GG} {S : MS} {d : Nat} {V : VS} (E : Enc S V) (hd8 : d < 8) : Mt g miX8_manyOn 2 [.int (nI d)] (S) (some (.int (nI (vt V 7 d)))) (S) := by
  refine Mt.start (fun b => [some (.ref b), some (.int (nI d))]) plX8 rfl (fun b => (Nat.le_of_ble_eq_true rfl)) (fun b => rfl) ?_
  intro σ b
  refine w_aload_n dX8_manyOn_0 rfl ?_
  refine mg_at dX8_manyOn_1 rfl ?_
  refine w_iconst (v := nI 0) dX8_manyOn_4 ki_0 ?_
  refine w_iload_n dX8_manyOn_5 rfl ?_
  refine s_calli2 (mi := miX8_findRow) dX8_manyOn_6 q1813 okX8_findRow (Nat.le_of_ble_eq_true rfl) c_findRow (Nat.le_of_ble_eq_true rfl) ?_
  refine w_iconst (v := nI 2) dX8_manyOn_9 ki_2 ?_
  refine w_iaddN dX8_manyOn_10 ?_
  refine ma_at dX8_manyOn_11 (by omega) ?_
  refine w_topN (E.d2 (by omega)) ?_
  exact w_iret dX8_manyOn_12 rfl ⟨by first | rfl | (simp only [bP, isT, bitN, inN, *, not_true_eq_false, not_false_eq_true, and_true, true_and, and_false, false_and, or_true, true_or, or_false, false_or, and_self, or_self, if_true, if_false, ite_true, ite_false]; done) | (simp [bP, isT, bitN, inN, *]; done) | (simp_all [bP, isT, bitN, inN]; done) | (repeat split) <;> first | rfl | contradiction | simp_all, by first | rfl | (simp only [bP, isT, bitN, inN, *, not_true_eq_false, not_false_eq_true, and_true, true_and, and_false, false_and, or_true, true_or, or_false, false_or, and_self, or_self, if_true, if_false, ite_true, ite_false]; done) | (simp [bP, isT, bitN, inN, *]; done) | (simp_all [bP, isT, bitN, inN]; done) | (repeat split) <;> first | rfl | contradiction | simp_all⟩
set_option maxHeartbeats 4000000 in
theorem c_washes {g : GG} {S : MS} {x : Nat} {V : VS} (E : Enc S V) (K : OkV V) (hx : x < 1000000) : Mp g miX8_washes 3 [.int (nI x)] (S) (some (.int (nI (waveN V x (vs V 2))))) (fun S2 => Ch S S2 (waveV V x)) := by
  refine Mp.start (fun b => [some (.ref b), some (.int (nI x)), none, none]) plX8 rfl (fun b => (Nat.le_of_ble_eq_true rfl)) (fun b => rfl) ?_
  intro σ b
  have kb := K.b
  refine w_iconst (v := nI 0) dX8_washes_0 ki_0 ?_
  refine w_istore_n dX8_washes_1 rfl (Nat.le_of_ble_eq_true rfl) ls_4_2 ?_
  refine w_iconst (v := nI 0) dX8_washes_2 ki_0 ?_
  refine w_istore_n dX8_washes_3 rfl (Nat.le_of_ble_eq_true rfl) ls_4_3 ?_
  have lp : ∀ (j9 : Nat) (k : Nat) (S4 : MS), vs V 2 - k < j9 → k ≤ vs V 2 → Ch S S4 (waveK V x k) → Wp g (mtP g miX8_washes 3 σ b (some (.int (nI (waveN V x (vs V 2))))) (fun S2 => Ch S S2 (waveV V x))) 0 0 4 [some (.ref b), some (.int (nI x)), some (.int (nI (waveN V x k))), some (.int (nI k))] [] (sM g σ b (S4)) := by
    intro j9
    induction j9 with
    | zero => intro k S4 hmu hk hC; exact absurd hmu (Nat.not_lt_zero _)
    | succ j9 ih_lp =>
      intro k S4 hmu hk hC
      have E4 := hC.E
      have hw8 := waveN_8 K x (k := k) (by omega)
      have hc2 : vs (waveK V x k) 2 = vs V 2 := by rw [waveK_8, if_neg (by omega)]
      refine w_iload_n dX8_washes_4 rfl ?_
      refine w_aload_n dX8_washes_5 rfl ?_
      refine mg_at dX8_washes_6 rfl ?_
      refine w_iconst (v := nI 2) dX8_washes_9 ki_2 ?_
      refine ma_at dX8_washes_10 (by omega) ?_
      refine w_topN (n := vs V 2) ((E4.s 2 (by omega)).trans (by rw [hc2])) ?_
      refine w_icmpN_ge dX8_washes_11 rfl (by omega) (by omega) (fun h_11 => ?_) (fun h_11 => ?_)
      · obtain rfl : k = vs V 2 := by omega
        refine w_iload_n dX8_washes_73 rfl ?_
        exact w_iret dX8_washes_74 rfl ⟨by rfl, _, by exact hC, rfl⟩
      · have hkd := K.d (d := k) (by omega)
        have h7k : vt (waveK V x k) 7 k = vt V 7 k := by rw [waveK_t, if_neg (by omega)]
        have hn := K.n (d := k) (by omega)
        have hwN := waveN_8 K x (k := k + 1) (by omega)
        refine w_aload_n dX8_washes_14 rfl ?_
        refine mg_at dX8_washes_15 rfl ?_
        refine w_iconst (v := nI 0) dX8_washes_18 ki_0 ?_
        refine w_iload_n dX8_washes_19 rfl ?_
        refine s_calli2 (mi := miX8_findRow) dX8_washes_20 q1813 okX8_findRow (Nat.le_of_ble_eq_true rfl) c_findRow (Nat.le_of_ble_eq_true rfl) ?_
        refine ma_at dX8_washes_23 (by omega) ?_
        refine w_topN (n := vt V 5 k) ((E4.d 0 (by omega) (by omega)).trans (by rw [waveK_t, if_neg (by omega)])) ?_
        refine w_iload_n dX8_washes_24 rfl ?_
        refine w_icmpN_lt dX8_washes_25 rfl (by omega) (by omega) (fun h_25 => ?_) (fun h_25 => ?_)
        · refine w_iload_n dX8_washes_31 rfl ?_
          refine w_aload_n dX8_washes_32 rfl ?_
          refine w_iload_n dX8_washes_33 rfl ?_
          refine m_calli1 (mi := miX8_manyOn) dX8_washes_34 q1894 okX8_manyOn rfl (Nat.le_of_ble_eq_true rfl) (c_manyOn4 E4 (by first | assumption | omega)) (Nat.le_of_ble_eq_true rfl) ?_
          rw [h7k]
          refine w_iaddN dX8_washes_37 ?_
          refine w_istore_n dX8_washes_38 rfl (Nat.le_of_ble_eq_true rfl) ls_4_2 ?_
          refine w_aload_n dX8_washes_39 rfl ?_
          refine mg_at dX8_washes_40 rfl ?_
          refine w_bipush (v := nI 8) dX8_washes_43 kb_8 ?_
          refine w_dup2 dX8_washes_45 rfl rfl ?_
          refine ma_at dX8_washes_46 (by omega) ?_
          refine w_topN (n := vs V 8 - waveN V x k) ((E4.s 8 (by omega)).trans (by rw [waveK_8, if_pos rfl])) ?_
          refine w_aload_n dX8_washes_47 rfl ?_
          refine w_iload_n dX8_washes_48 rfl ?_
          refine m_calli1 (mi := miX8_manyOn) dX8_washes_49 q1894 okX8_manyOn rfl (Nat.le_of_ble_eq_true rfl) (c_manyOn4 E4 (by first | assumption | omega)) (Nat.le_of_ble_eq_true rfl) ?_
          rw [h7k]
          refine w_isubN dX8_washes_52 (by rw [waveN_s, if_pos h_25] at hwN; omega) ?_
          refine ms_at dX8_washes_53 (by omega) ?_
          have hc3 : Ch S4 _ (setS (waveK V x k) 8 (vs (waveK V x k) 8 - vt V 7 k)) := Ch.setS E4 (k := 8) (x := vs (waveK V x k) 8 - vt V 7 k) (by omega)
          rw [waveK_8, if_pos rfl] at hc3
          refine w_aload_n dX8_washes_54 rfl ?_
          refine mg_at dX8_washes_55 rfl ?_
          refine w_iconst (v := nI 0) dX8_washes_58 ki_0 ?_
          refine w_iload_n dX8_washes_59 rfl ?_
          refine s_calli2 (mi := miX8_findRow) dX8_washes_60 q1813 okX8_findRow (Nat.le_of_ble_eq_true rfl) c_findRow (Nat.le_of_ble_eq_true rfl) ?_
          refine w_iconst (v := nI 2) dX8_washes_63 ki_2 ?_
          refine w_iaddN dX8_washes_64 ?_
          refine w_iconst (v := nI 0) dX8_washes_65 ki_0 ?_
          refine ms_at dX8_washes_66 (by omega) ?_
          have hc4 := Ch.setN hc3.E (d := k) (x := 0) (by omega) (by omega)
          rw [show sA (sA S4 0 8 (nI (vs V 8 - waveN V x k - vt V 7 k))) 0 (0 + 40 + 3 * k + 2) (nI 0) = sA (sA S4 0 8 (nI (vs V 8 - waveN V x k - vt V 7 k))) 0 (40 + 3 * k + 2) (nI 0) by rw [show 0 + 40 + 3 * k + 2 = 40 + 3 * k + 2 by omega]]
          refine w_iinc dX8_washes_67 rfl (nI_inc _ 1) rfl (Nat.le_of_ble_eq_true rfl) ls_4_3 ?_
          refine w_goto dX8_washes_70 rfl ?_
          exact w_as (ih_lp (k + 1) _ (by omega) (by omega) (by rw [waveK_s, if_pos h_25, waveK_8 V x k 8, if_pos rfl]; exact hC.trans (hc3.trans hc4))) (by rw [waveN_s, if_pos h_25]) rfl rfl
        · refine w_goto dX8_washes_28 rfl ?_
          refine w_iinc dX8_washes_67 rfl (nI_inc _ 1) rfl (Nat.le_of_ble_eq_true rfl) ls_4_3 ?_
          refine w_goto dX8_washes_70 rfl ?_
          exact w_as (ih_lp (k + 1) _ (by omega) (by omega) (by rw [waveK_s, if_neg (by omega)]; exact hC)) (by rw [waveN_s, if_neg (by omega)]) rfl rfl
  exact lp (vs V 2 + 1) 0 S (by omega) (by omega) (Ch.refl E)
