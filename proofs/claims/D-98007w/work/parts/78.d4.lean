set_option maxRecDepth 100000
theorem has_enc {g : GG} {C : CS} {j k : Nat} {V : VS} {q : Nat → Nat} (E : EncD g C j (hasF V (hasK V (kepL V (vs V 1)) k) k (vt V 7 k)) q) (hk : k < 8) : EncD g (uI C 5 (8 * j + k) 2 (nI 0)) j (hasK V (kepL V (vs V 1)) (k + 1)) q := by
  refine E.heap hk SH.I (fun i _ => rfl) (fun a b h => vt_ne (fun z _ => h z)) (fun e _ he => ⟨vt_ne (fun _ z => he z), rfl⟩) (fun _ _ _ _ => rfl) ?_
  have h := (E.h hk).I (m := 0) (Nat.zero_le _)
  have h7 : vt (hasK V (kepL V (vs V 1)) (k + 1)) 7 k = 0 := by
    show vt (setT _ 7 k 0) 7 k = 0
    rw [setT_t, if_pos ⟨rfl, rfl⟩]
  rw [h7]
  exact h
set_option maxHeartbeats 4000000 in
theorem kX5_tide {g : GG} {C : CS} {j : Nat} {V : VS} {q : Nat → Nat} (hj : oO C j = true) (E : EncD g C j V q) (K : OkV V) (hk : KepV V) (hd : vs V 6 < 99) : Cp g miX5_tide 5 (0) (0) [.ref (od C 3 j)] C (none) (fun C2 => EncD g C2 j (floodV V) q ∧ SD j C C2) := by
  refine Cp.start [some (.ref (od C 3 j)), none, none] plX5 rfl (Nat.le_of_ble_eq_true rfl) rfl ?_
  intro σ0 σ H F
  have kb := K.b
  refine w_iconst (v := nI 0) dX5_tide_0 ki_0 ?_
  refine w_istore_n dX5_tide_1 rfl (Nat.le_of_ble_eq_true rfl) ls_3_1 ?_
  have l1 : ∀ (j9 : Nat) (k : Nat) (C3 : CS) (σ : PH), vs V 1 - k < j9 → k ≤ vs V 1 → EncD g C3 j (kepL V k) q → SD j C C3 → Hold g σ C3 → Fr σ0 σ → Wp g (mtC g miX5_tide 5 (0) (0) σ0 (none) (fun C2 => EncD g C2 j (floodV V) q ∧ SD j C C2)) 0 0 2 [some (.ref (od C3 3 j)), some (.int (nI k)), none] [] σ := by
    intro j9
    induction j9 with
    | zero => intro k C3 σ hmu hk_k E hS H F; exact absurd hmu (Nat.not_lt_zero _)
    | succ j9 ih_l1 =>
      intro k C3 σ hmu hk_k E hS H F
      have hj3 : oO C3 j = true := by rw [hS.on]; exact hj
      have K3 := K.kep hk hd k hk_k
      have hw1 : vs (kepL V k) 1 = vs V 1 := kepL_s V k 1
      have hw4 : vt (kepL V k) 4 k = vt V 4 k := by rw [kepL_t, if_neg (by omega)]
      refine w_iload_n dX5_tide_2 rfl ?_
      refine w_aload_n dX5_tide_3 rfl ?_
      refine gX5_12 (C := C3) dX5_tide_4 rfl hj3 H ?_
      refine gX5_137 (C := C3) dX5_tide_7 rfl E H ?_
      refine w_icmpN_ge dX5_tide_10 rfl (by omega) (by omega) (fun h_10 => ?_) (fun h_10 => ?_)
      · have hkx : k = vs V 1 := by omega
        refine w_iconst (v := nI 0) dX5_tide_33 ki_0 ?_
        refine w_istore_n dX5_tide_34 rfl (Nat.le_of_ble_eq_true rfl) ls_3_1 ?_
        have l2 : ∀ (j9 : Nat) (k : Nat) (C3 : CS) (σ : PH), vs V 2 - k < j9 → k ≤ vs V 2 → EncD g C3 j (hasK V (kepL V (vs V 1)) k) q → SD j C C3 → Hold g σ C3 → Fr σ0 σ → Wp g (mtC g miX5_tide 5 (0) (0) σ0 (none) (fun C2 => EncD g C2 j (floodV V) q ∧ SD j C C2)) 0 0 35 [some (.ref (od C3 3 j)), some (.int (nI k)), none] [] σ := by
          intro j9
          induction j9 with
          | zero => intro k C3 σ hmu hk_k E hS H F; exact absurd hmu (Nat.not_lt_zero _)
          | succ j9 ih_l2 =>
            intro k C3 σ hmu hk_k E hS H F
            have hj3 : oO C3 j = true := by rw [hS.on]; exact hj
            have hw2 : vs (hasK V (kepL V (vs V 1)) k) 2 = vs V 2 := by rw [hasK_s, kepL_s]
            have hw7 : vt (hasK V (kepL V (vs V 1)) k) 7 k = vt V 7 k := by rw [hasK_t, if_neg (by omega), if_neg (by omega), kepL_t, if_neg (by omega)]
            refine w_iload_n dX5_tide_35 rfl ?_
            refine w_aload_n dX5_tide_36 rfl ?_
            refine gX5_12 (C := C3) dX5_tide_37 rfl hj3 H ?_
            refine gX5_46 (C := C3) dX5_tide_40 rfl E H ?_
            refine w_icmpN_ge dX5_tide_43 rfl (by omega) (by omega) (fun h_43 => ?_) (fun h_43 => ?_)
            · have hkx : k = vs V 2 := by omega
              refine w_iconst (v := nI 0) dX5_tide_103 ki_0 ?_
              refine w_istore_n dX5_tide_104 rfl (Nat.le_of_ble_eq_true rfl) ls_3_1 ?_
              have l3 : ∀ (j9 : Nat) (k : Nat) (C3 : CS) (σ : PH), vs V 1 - k < j9 → k ≤ vs V 1 → EncD g C3 j (clkK (hasK V (kepL V (vs V 1)) (vs V 2)) k) q → SD j C C3 → Hold g σ C3 → Fr σ0 σ → Wp g (mtC g miX5_tide 5 (0) (0) σ0 (none) (fun C2 => EncD g C2 j (floodV V) q ∧ SD j C C2)) 0 0 105 [some (.ref (od C3 3 j)), some (.int (nI k)), none] [] σ := by
                intro j9
                induction j9 with
                | zero => intro k C3 σ hmu hk_k E hS H F; exact absurd hmu (Nat.not_lt_zero _)
                | succ j9 ih_l3 =>
                  intro k C3 σ hmu hk_k E hS H F
                  have hj3 : oO C3 j = true := by rw [hS.on]; exact hj
                  have hw1 : vs (clkK (hasK V (kepL V (vs V 1)) (vs V 2)) k) 1 = vs V 1 := by rw [clkK_s, hasK_s, kepL_s]
                  refine w_iload_n dX5_tide_105 rfl ?_
                  refine w_aload_n dX5_tide_106 rfl ?_
                  refine gX5_12 (C := C3) dX5_tide_107 rfl hj3 H ?_
                  refine gX5_137 (C := C3) dX5_tide_110 rfl E H ?_
                  refine w_icmpN_ge dX5_tide_113 rfl (by omega) (by omega) (fun h_113 => ?_) (fun h_113 => ?_)
                  · have hkx : k = vs V 1 := by omega
                    rw [hkx] at E
                    have hw6 : vs (clkK (hasK V (kepL V (vs V 1)) (vs V 2)) (vs V 1)) 6 = vs V 6 := by rw [clkK_s, hasK_s, kepL_s]
                    have hw3 : vs (clkK (hasK V (kepL V (vs V 1)) (vs V 2)) (vs V 1)) 3 = vs V 3 := by rw [clkK_s, hasK_s, kepL_s]
                    have hw4 : vs (clkK (hasK V (kepL V (vs V 1)) (vs V 2)) (vs V 1)) 4 = vs V 4 := by rw [clkK_s, hasK_s, kepL_s]
                    refine w_aload_n dX5_tide_129 rfl ?_
                    refine w_iconst (v := nI 0) dX5_tide_130 ki_0 ?_
                    refine pX5_49 (C := C3) dX5_tide_131 rfl hj3 H F ?_
                    intro σ H F
                    have E := E.I6 0
                    refine w_aload_n dX5_tide_134 rfl ?_
                    refine w_dup dX5_tide_135 rfl ?_
                    refine gX5_43 (C := uI (C3) 3 j 6 _) dX5_tide_136 rfl hj3 H ?_
                    refine w_topN (E.dy) ?_
                    refine w_topN (congrArg nI hw6) ?_
                    refine w_iconst (v := nI 1) dX5_tide_139 ki_1 ?_
                    refine w_iaddN dX5_tide_140 ?_
                    refine pX5_43 (C := uI (C3) 3 j 6 _) dX5_tide_141 rfl hj3 H F ?_
                    intro σ H F
                    have E := E.I7 (vs V 6 + 1)
                    refine w_aload_n dX5_tide_144 rfl ?_
                    refine w_iconst (v := nI 1) dX5_tide_145 ki_1 ?_
                    refine w_aload_n dX5_tide_146 rfl ?_
                    refine gX5_37 (C := uI (uI (C3) 3 j 6 _) 3 j 7 _) dX5_tide_147 rfl hj3 H ?_
                    refine w_topN (E.ti) ?_
                    refine w_topN (congrArg nI hw3) ?_
                    refine w_aload_n dX5_tide_150 rfl ?_
                    refine gX5_12 (C := uI (uI (C3) 3 j 6 _) 3 j 7 _) dX5_tide_151 rfl hj3 H ?_
                    refine gX5_143 (C := uI (uI (C3) 3 j 6 _) 3 j 7 _) dX5_tide_154 rfl E H ?_
                    refine w_topN (congrArg nI hw4) ?_
                    refine w_isub dX5_tide_157 ?_
                    refine w_mmax dX5_tide_158 q1164 q1165 q155 q1166 (Nat.le_of_ble_eq_true rfl) (Nat.le_of_ble_eq_true rfl) ?_
                    refine w_topN (max_sub (by omega) (by omega)) ?_
                    refine pX5_37 (C := uI (uI (C3) 3 j 6 _) 3 j 7 _) dX5_tide_161 rfl hj3 H F ?_
                    intro σ H F
                    have E := E.I8 (max 1 (vs V 3 - vs V 4))
                    exact w_vret dX5_tide_164 rfl ⟨by rfl, _, by exact ⟨E.congr (fun i hi => by rw [flood_s]; simp only [setS_s, clkK_s, hasK_s, kepL_s]; by_cases h3 : i = 3 <;> by_cases h6 : i = 6 <;> by_cases h7 : i = 7 <;> simp [h3, h6, h7] <;> omega) (fun a b => (flood_kep V a b).symm) (fun a d k => by rw [flood_p]; exact (show vp (clkK (hasK V (kepL V (vs V 1)) (vs V 2)) (vs V 1)) a d k = _ by rw [clkK_p, hasK_p, kepL_p]).symm) (h9 := by rw [flood_s]; simp [setS_s, clkK_s, hasK_s, kepL_s]), hS.trans (SD.I6.trans (SD.I7.trans SD.I8))⟩, H, F⟩
                  · refine w_aload_n dX5_tide_116 rfl ?_
                    refine gX5_25 (C := C3) dX5_tide_117 rfl hj3 H ?_
                    refine w_iload_n dX5_tide_120 rfl ?_
                    refine w_iconst (v := nI 0) dX5_tide_121 ki_0 ?_
                    refine is_13 (C := C3) dX5_tide_122 hj3 (by omega) H F ?_
                    intro σ H F
                    refine w_iinc dX5_tide_123 rfl (nI_inc _ 1) rfl (Nat.le_of_ble_eq_true rfl) ls_3_1 ?_
                    refine w_goto dX5_tide_126 rfl ?_
                    exact ih_l3 (k + 1) (uA C3 13 j k _) σ (by omega) (by omega) (E.A13 0) (hS.trans SD.A13) H F
              exact w_L (wkS (wkS (wkN wk0))) (l3 (vs V 1 + 1) 0 C3 σ (by omega) (by omega) (by rw [hkx] at E; exact E) hS H F)
            · have hn60 := K.n (d := k) (by omega)
              refine w_iconst (v := nI 0) dX5_tide_46 ki_0 ?_
              refine w_istore_n dX5_tide_47 rfl (Nat.le_of_ble_eq_true rfl) ls_3_2 ?_
              have li : ∀ (j9 : Nat) (u : Nat) (C3 : CS) (σ : PH), vt V 7 k - u < j9 → u ≤ vt V 7 k → EncD g C3 j (hasF V (hasK V (kepL V (vs V 1)) k) k u) q → SD j C C3 → Hold g σ C3 → Fr σ0 σ → Wp g (mtC g miX5_tide 5 (0) (0) σ0 (none) (fun C2 => EncD g C2 j (floodV V) q ∧ SD j C C2)) 0 0 48 [some (.ref (od C3 3 j)), some (.int (nI k)), some (.int (nI u))] [] σ := by
                intro j9
                induction j9 with
                | zero => intro u C3 σ hmu hk_u E hS H F; exact absurd hmu (Nat.not_lt_zero _)
                | succ j9 ih_li =>
                  intro u C3 σ hmu hk_u E hS H F
                  have hj3 : oO C3 j = true := by rw [hS.on]; exact hj
                  have hw7 : vt (hasF V (hasK V (kepL V (vs V 1)) k) k u) 7 k = vt V 7 k := by rw [hasF_t, if_neg (by omega), hasK_t, if_neg (by omega), if_neg (by omega), kepL_t, if_neg (by omega)]
                  have hwp : ∀ i, vp (hasF V (hasK V (kepL V (vs V 1)) k) k u) 0 k i = vp V 0 k i := fun i => by rw [hasF_p, hasK_p, kepL_p]
                  refine w_iload_n dX5_tide_48 rfl ?_
                  refine w_aload_n dX5_tide_49 rfl ?_
                  refine gX5_33 (C := C3) dX5_tide_50 rfl hj3 H ?_
                  refine w_iload_n dX5_tide_53 rfl ?_
                  refine ga_heaps (C := C3) dX5_tide_54 hj3 (by omega) H ?_
                  refine gX5_54 (C := C3) dX5_tide_55 rfl (on8 hj3 (by omega)) H ?_
                  refine w_topN (E.h (d := k) (by omega)).sz ?_
                  refine w_topN (congrArg nI hw7) ?_
                  refine w_icmpN_ge dX5_tide_58 rfl (by omega) (by omega) (fun h_58 => ?_) (fun h_58 => ?_)
                  · have hux : u = vt V 7 k := by omega
                    refine w_aload_n dX5_tide_87 rfl ?_
                    refine gX5_33 (C := C3) dX5_tide_88 rfl hj3 H ?_
                    refine w_iload_n dX5_tide_91 rfl ?_
                    refine ga_heaps (C := C3) dX5_tide_92 hj3 (by omega) H ?_
                    refine w_iconst (v := nI 0) dX5_tide_93 ki_0 ?_
                    refine pX5_54 (C := C3) dX5_tide_94 rfl (on8 hj3 (by omega)) H F ?_
                    intro σ H F
                    refine w_iinc dX5_tide_97 rfl (nI_inc _ 1) rfl (Nat.le_of_ble_eq_true rfl) ls_3_1 ?_
                    refine w_goto dX5_tide_100 rfl ?_
                    exact w_L (wkS (wkS (wkN wk0))) (ih_l2 (k + 1) (uI C3 5 (8 * j + k) 2 (nI 0)) σ (by omega) (by omega) (has_enc (by rw [hux] at E; exact E) (by omega)) (hS.trans (SH.I.D (by omega))) H F)
                  · refine w_aload_n dX5_tide_61 rfl ?_
                    refine gX5_22 (C := C3) dX5_tide_62 rfl hj3 H ?_
                    refine w_aload_n dX5_tide_65 rfl ?_
                    refine gX5_33 (C := C3) dX5_tide_66 rfl hj3 H ?_
                    refine w_iload_n dX5_tide_69 rfl ?_
                    refine ga_heaps (C := C3) dX5_tide_70 hj3 (by omega) H ?_
                    refine gX5_113 (C := C3) dX5_tide_71 rfl (on8 hj3 (by omega)) H ?_
                    refine w_iload_n dX5_tide_74 rfl ?_
                    refine ha_6 (C := C3) dX5_tide_75 (on8 hj3 (by omega)) (E.h (d := k) (by omega)) (by omega) H ?_
                    refine w_topN (congrArg nI (hwp u)) ?_
                    have hw6 := (K.p (d := k) (by omega) (k := u) (by omega)).1
                    refine w_dup2 dX5_tide_76 rfl rfl ?_
                    refine da_12 (C := C3) dX5_tide_77 hj3 E (by omega) H ?_
                    refine w_iconst (v := nI 1) dX5_tide_78 ki_1 ?_
                    refine w_iaddN dX5_tide_79 ?_
                    refine is_12 (C := C3) dX5_tide_80 hj3 (by omega) H F ?_
                    intro σ H F
                    refine w_iinc dX5_tide_81 rfl (nI_inc _ 1) rfl (Nat.le_of_ble_eq_true rfl) ls_3_2 ?_
                    refine w_goto dX5_tide_84 rfl ?_
                    exact ih_li (u + 1) (uA C3 12 j _ _) σ (by omega) (by omega) (E.A12 _) (hS.trans SD.A12) H F
              exact li (vt V 7 k + 1) 0 C3 σ (by omega) (by omega) E hS H F
        exact w_L (wkS (wkS (wkN wk0))) (l2 (vs V 2 + 1) 0 C3 σ (by omega) (by omega) (by rw [hkx] at E; exact E) hS H F)
      · refine w_aload_n dX5_tide_13 rfl ?_
        refine gX5_28 (C := C3) dX5_tide_14 rfl hj3 H ?_
        refine w_iload_n dX5_tide_17 rfl ?_
        refine w_dup2 dX5_tide_18 rfl rfl ?_
        refine da_14 (C := C3) dX5_tide_19 hj3 E (by omega) H ?_
        refine w_topN (congrArg nI hw4) ?_
        refine w_aload_n dX5_tide_20 rfl ?_
        refine w_iload_n dX5_tide_21 rfl ?_
        refine cr_call (mi := miX5_leads) dX5_tide_22 q1135 okX5_leads clX5 rfl (H.get (ce_day hj3)) (Nat.le_of_ble_eq_true rfl) (kX5_leads (C := C3) hj3 E K3 (by first | assumption | omega)) H rfl rfl (Nat.le_of_ble_eq_true rfl) ?_
        refine w_topN (congrArg nI (lead_kep V k k)) ?_
        refine w_iaddN dX5_tide_25 ?_
        rw [← hw4]
        refine is_14 (C := C3) dX5_tide_26 hj3 (by omega) H F ?_
        intro σ H F
        refine w_iinc dX5_tide_27 rfl (nI_inc _ 1) rfl (Nat.le_of_ble_eq_true rfl) ls_3_1 ?_
        refine w_goto dX5_tide_30 rfl ?_
        exact ih_l1 (k + 1) (uA C3 14 j k _) σ (by omega) (by omega) (E.A14 _) (hS.trans SD.A14) H F
  exact l1 (vs V 1 + 1) 0 C σ (by omega) (by omega) E SD.refl H F
