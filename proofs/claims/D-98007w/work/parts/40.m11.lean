set_option maxRecDepth 100000
theorem cmp_eq (x y : Int64) : lg_cmp x y = 0 ↔ x = y := by
  unfold lg_cmp
  constructor
  · intro h
    repeat' split at h
    all_goals first | assumption | (exact absurd h (by decide)) | (rename_i h1 h2; exact Int64.le_antisymm (Int64.not_lt.mp h2) (Int64.not_lt.mp h1)) | (rename_i h1 h2; exact Int64.le_antisymm (Int64.not_lt.mp h1) (Int64.not_lt.mp h2))
  · intro h
    subst h
    simp
theorem lN_0 {b : Nat} (hb : b < 2 ^ 63) : lN b = 0 ↔ b = 0 := by
  constructor
  · intro h
    have h2 : (lN b).toBitVec.toNat = 0 := by rw [h]; rfl
    have h3 : (lN b).toBitVec.toNat = b % 2 ^ 64 := by
      show (BitVec.ofNat 64 b).toNat = _
      exact BitVec.toNat_ofNat _ _
    omega
  · intro h
    subst h; rfl
def tellS (S : MS) (n d : Nat) : MS := sI (sL (sL S 3 (lN (n / Nat.gcd n d))) 4 (lN (d / Nat.gcd n d))) 2 (nI 0)
set_option maxHeartbeats 4000000 in
theorem c_tellsBy {g : GG} {S : MS} {n : Nat} {d : Nat} (hd : 0 < d) (hn : n < 2 ^ 62) (hd2 : d < 2 ^ 62) : Mt g miX8_tellsBy 2 [.long (lN n), .long (lN d)] (S) (some (.int (bP (nI 0 = 0)))) (tellS S n d) := by
  refine Mt.start (fun b => [some (.ref b), some (.long (lN n)), none, some (.long (lN d)), none, none, none, none, none, none, none]) plX8 rfl (fun b => (Nat.le_of_ble_eq_true rfl)) (fun b => rfl) ?_
  intro σ b
  refine w_lload_n dX8_tellsBy_0 rfl ?_
  refine w_lstore dX8_tellsBy_1 rfl (Nat.le_of_ble_eq_true rfl) ls2_11_5 ?_
  refine w_lload_n dX8_tellsBy_3 rfl ?_
  refine w_lstore dX8_tellsBy_4 rfl (Nat.le_of_ble_eq_true rfl) ls2_11_7 ?_
  have lp : ∀ (j9 : Nat) (a : Nat) (c : Nat), c < j9 → a < 2 ^ 62 → c < 2 ^ 62 → Nat.gcd a c = Nat.gcd n d → Wp g (mtM g miX8_tellsBy 2 σ b (some (.int (bP (nI 0 = 0)))) (tellS S n d)) 0 0 6 [some (.ref b), some (.long (lN n)), none, some (.long (lN d)), none, some (.long (lN a)), none, some (.long (lN c)), none, none, none] [] (sM g σ b (S)) := by
    intro j9
    induction j9 with
    | zero => intro a c hmu ha hc hg; exact absurd hmu (Nat.not_lt_zero _)
    | succ j9 ih_lp =>
      intro a c hmu ha hc hg
      refine w_lload dX8_tellsBy_6 rfl ?_
      refine w_lconst (v := 0) dX8_tellsBy_8 rfl ?_
      refine w_lcmp dX8_tellsBy_9 ?_
      refine w_if_eq dX8_tellsBy_10 rfl (fun h_10 => ?_) (fun h_10 => ?_)
      · obtain rfl : c = 0 := (lN_0 (by omega)).mp ((cmp_eq _ _).mp h_10)
        rw [Nat.gcd_zero_right] at hg
        subst hg
        have hgp : 0 < Nat.gcd n d := Nat.gcd_pos_of_pos_right n hd
        have hne : ¬ lN (Nat.gcd n d) = 0 := fun z => by have := (lN_0 (by omega)).mp z; omega
        refine w_aload_n dX8_tellsBy_31 rfl ?_
        refine w_lload_n dX8_tellsBy_32 rfl ?_
        refine w_lload dX8_tellsBy_33 rfl ?_
        refine w_ldiv dX8_tellsBy_35 hne ?_
        rw [pk_lDiv (by omega) (by omega) (by omega)]
        refine mp_top dX8_tellsBy_36 rfl ?_
        refine w_aload_n dX8_tellsBy_39 rfl ?_
        refine w_lload_n dX8_tellsBy_40 rfl ?_
        refine w_lload dX8_tellsBy_41 rfl ?_
        refine w_ldiv dX8_tellsBy_43 hne ?_
        rw [pk_lDiv (by omega) (by omega) (by omega)]
        refine mp_bottom dX8_tellsBy_44 rfl ?_
        refine w_aload_n dX8_tellsBy_47 rfl ?_
        refine w_iconst (v := nI 0) dX8_tellsBy_48 ki_0 ?_
        refine m_calli1 (mi := miX8_is) dX8_tellsBy_49 q1686 okX8_is rfl (Nat.le_of_ble_eq_true rfl) c_is (Nat.le_of_ble_eq_true rfl) ?_
        exact w_zret dX8_tellsBy_52 rfl narrB ⟨by rfl, by rfl⟩
      · have h_c : 0 < c := Nat.pos_of_ne_zero (fun z => h_10 ((cmp_eq _ _).mpr ((lN_0 (by omega)).mpr z)))
        have hne : ¬ lN c = 0 := fun z => by have := (lN_0 (by omega)).mp z; omega
        refine w_lload dX8_tellsBy_13 rfl ?_
        refine w_lload dX8_tellsBy_15 rfl ?_
        refine w_lrem dX8_tellsBy_17 hne ?_
        rw [pk_lRem (by omega) h_c (by omega)]
        refine w_lstore dX8_tellsBy_18 rfl (Nat.le_of_ble_eq_true rfl) ls2_11_9 ?_
        refine w_lload dX8_tellsBy_20 rfl ?_
        refine w_lstore dX8_tellsBy_22 rfl (Nat.le_of_ble_eq_true rfl) ls2_11_5 ?_
        refine w_lload dX8_tellsBy_24 rfl ?_
        refine w_lstore dX8_tellsBy_26 rfl (Nat.le_of_ble_eq_true rfl) ls2_11_7 ?_
        refine w_goto dX8_tellsBy_28 rfl ?_
        exact w_L (wkS (wkS (wkS (wkS (wkS (wkS (wkS (wkS (wkS (wkN (wkN wk0))))))))))) (ih_lp c (a % c) (by have := Nat.mod_lt a h_c; omega) (by omega) (by have := Nat.mod_lt a h_c; omega) (by rw [← hg, Nat.gcd_comm a c, Nat.gcd_rec c a, Nat.gcd_comm]))
  exact w_L (wkS (wkS (wkS (wkS (wkS (wkS (wkS (wkS (wkS (wkN (wkN wk0))))))))))) (lp (d + 1) n d (by omega) hn hd2 rfl)
def w_odds (V : VS) (x y z : Int32) : Nat := if inN x (vs V 2) ∧ inN y 17 ∧ inN z 2 then (if wlV V x = 0 then (if 12 < leftV V (cl x) then 7 else 0) else wlV V x) else 1
def o_odds (V : VS) (x y z : Int32) : Nat := (if cl z = 0 then 1 else vt V 6 (cl x)) * (16 - cl y) ^ leftV V (cl x)
def oddsS (S : MS) (V : VS) (x y z : Int32) : MS := if w_odds V x y z = 0 then tellS S (o_odds V x y z) (16 ^ leftV V (cl x)) else sI S 2 (nI (w_odds V x y z))
theorem lN_16 {q : Nat} (h : q < 17) : (16 : Int64) - (nI q).toInt64 = lN (16 - q) := by
  rw [nI_l (by omega), show (16 : Int64) = lN 16 from rfl, lN_sub (by omega)]
theorem leftV_le {V : VS} (K : OkV V) (d : Nat) : leftV V d ≤ 240 := by
  have := K.b
  unfold leftV
  omega
theorem odds_lt {w q k : Nat} (hw : w ≤ 999) (hk : k ≤ 12) : w * (16 - q) ^ k < 2 ^ 62 := by
  have h1 : (16 - q) ^ k ≤ 16 ^ k := Nat.pow_le_pow_left (by omega) k
  have h2 : 16 ^ k ≤ 16 ^ 12 := Nat.pow_le_pow_right (by omega) hk
  have h3 : w * (16 - q) ^ k ≤ 999 * 16 ^ 12 := Nat.mul_le_mul hw (by omega)
  omega
set_option maxHeartbeats 4000000 in
theorem c_odds {g : GG} {S : MS} {x : Int32} {y : Int32} {z : Int32} {V : VS} (E : Enc S V) (K : OkV V) : Mt g miX8_odds 4 [.int x, .int y, .int z] (S) (some (.int (bP (nI (w_odds V x y z) = 0)))) (oddsS S V x y z) := by
  refine Mt.start (fun b => [some (.ref b), some (.int x), some (.int y), some (.int z), none, none, none, none, none, none]) plX8 rfl (fun b => (Nat.le_of_ble_eq_true rfl)) (fun b => rfl) ?_
  intro σ b
  have kb := K.b
  refine w_aload_n dX8_odds_0 rfl ?_
  refine w_iload_n dX8_odds_1 rfl ?_
  refine m_calli1 (mi := miX8_isFind) dX8_odds_2 q1886 okX8_isFind rfl (Nat.le_of_ble_eq_true rfl) (c_isFind E K) (Nat.le_of_ble_eq_true rfl) ?_
  refine w_ifB_eq dX8_odds_5 rfl (fun h_5 => ?_) (fun h_5 => ?_)
  · have hno : ¬ (inN x (vs V 2) ∧ inN y 17 ∧ inN z 2) := fun u => h_5 u.1
    refine w_aload_n dX8_odds_29 rfl ?_
    refine w_iconst (v := nI 1) dX8_odds_30 ki_1 ?_
    refine m_calli1 (mi := miX8_is) dX8_odds_31 q1686 okX8_is rfl (Nat.le_of_ble_eq_true rfl) c_is (Nat.le_of_ble_eq_true rfl) ?_
    exact w_zret dX8_odds_34 rfl narrB ⟨by first | (rw [show w_odds V x y z = 1 by rw [w_odds, if_neg hno]]; done) | (rw [show w_odds V x y z = 1 by rw [w_odds, if_neg hno]]; rfl), by rw [oddsS, show w_odds V x y z = 1 by rw [w_odds, if_neg hno], if_neg (by omega)]⟩
  · have hx_d := h_5
    obtain ⟨d, hf_d, rfl⟩ := inN_of h_5 (by omega)
    have hcl_d : cl (nI d) = d := nI_clamp (by omega)
    have kf_d := K.d hf_d
    refine w_iload_n dX8_odds_8 rfl ?_
    refine w_i2l dX8_odds_9 rfl ?_
    refine w_lconst (v := 0) dX8_odds_10 rfl ?_
    refine w_ldc2 dX8_odds_11 q2229 ?_
    refine s_calli3 (mi := miX8_isFrom) dX8_odds_14 q1902 okX8_isFrom (Nat.le_of_ble_eq_true rfl) (c_isFrom0 (m := 16) (by first | assumption | omega)) (Nat.le_of_ble_eq_true rfl) ?_
    refine w_ifB_eq dX8_odds_17 rfl (fun h_17 => ?_) (fun h_17 => ?_)
    · have hno : ¬ (inN (nI d) (vs V 2) ∧ inN y 17 ∧ inN z 2) := fun u => h_17 u.2.1
      refine w_aload_n dX8_odds_29 rfl ?_
      refine w_iconst (v := nI 1) dX8_odds_30 ki_1 ?_
      refine m_calli1 (mi := miX8_is) dX8_odds_31 q1686 okX8_is rfl (Nat.le_of_ble_eq_true rfl) c_is (Nat.le_of_ble_eq_true rfl) ?_
      exact w_zret dX8_odds_34 rfl narrB ⟨by first | (rw [show w_odds V (nI d) y z = 1 by rw [w_odds, if_neg hno]]; done) | (rw [show w_odds V (nI d) y z = 1 by rw [w_odds, if_neg hno]]; rfl), by rw [oddsS, show w_odds V (nI d) y z = 1 by rw [w_odds, if_neg hno], if_neg (by omega)]⟩
    · have hx_q := h_17
      obtain ⟨q, hq, rfl⟩ := inN_of h_17 (by omega)
      have hcl_q : cl (nI q) = q := nI_clamp (by omega)
      refine w_iload_n dX8_odds_20 rfl ?_
      refine w_if_lt dX8_odds_21 rfl (fun h_21 => ?_) (fun h_21 => ?_)
      · have hno : ¬ (inN (nI d) (vs V 2) ∧ inN (nI q) 17 ∧ inN z 2) := fun u => u.2.2.1 h_21
        refine w_aload_n dX8_odds_29 rfl ?_
        refine w_iconst (v := nI 1) dX8_odds_30 ki_1 ?_
        refine m_calli1 (mi := miX8_is) dX8_odds_31 q1686 okX8_is rfl (Nat.le_of_ble_eq_true rfl) c_is (Nat.le_of_ble_eq_true rfl) ?_
        exact w_zret dX8_odds_34 rfl narrB ⟨by first | (rw [show w_odds V (nI d) (nI q) z = 1 by rw [w_odds, if_neg hno]]; done) | (rw [show w_odds V (nI d) (nI q) z = 1 by rw [w_odds, if_neg hno]]; rfl), by rw [oddsS, show w_odds V (nI d) (nI q) z = 1 by rw [w_odds, if_neg hno], if_neg (by omega)]⟩
      · refine w_iload_n dX8_odds_24 rfl ?_
        refine w_iconst (v := nI 1) dX8_odds_25 ki_1 ?_
        refine w_icmp_le dX8_odds_26 rfl (fun h_26 => ?_) (fun h_26 => ?_)
        · have hx_z := in_le h_21 h_26 (by omega)
          obtain ⟨z, hz, rfl⟩ := inN_of hx_z (by omega)
          have hcl_z : cl (nI z) = z := nI_clamp (by omega)
          have hyes : inN (nI d) (vs V 2) ∧ inN (nI q) 17 ∧ inN (nI z) 2 := ⟨hx_d, hx_q, hx_z⟩
          have hwl9 := wlV_le V (nI d)
          refine w_aload_n dX8_odds_35 rfl ?_
          refine w_iload_n dX8_odds_36 rfl ?_
          refine m_calli1 (mi := miX8_wrongLast) dX8_odds_37 q2079 okX8_wrongLast rfl (Nat.le_of_ble_eq_true rfl) (c_wrongLast E K) (Nat.le_of_ble_eq_true rfl) ?_
          refine w_istore dX8_odds_40 rfl (Nat.le_of_ble_eq_true rfl) ls_10_4 ?_
          refine w_iload dX8_odds_42 rfl ?_
          refine w_ifN_le dX8_odds_44 rfl (by omega) (fun h_44 => ?_) (fun h_44 => ?_)
          · have hwl0 : wlV V (nI d) = 0 := by omega
            obtain ⟨-, -, hn0⟩ := wlV_0 hwl0
            rw [hcl_d] at hn0
            have hlf := leftV_le K d
            refine w_aload_n dX8_odds_54 rfl ?_
            refine w_iload_n dX8_odds_55 rfl ?_
            refine m_calli1 (mi := miX8_leftOn) dX8_odds_56 q2083 okX8_leftOn rfl (Nat.le_of_ble_eq_true rfl) (c_leftOn E K (by first | assumption | omega) (by first | assumption | omega)) (Nat.le_of_ble_eq_true rfl) ?_
            refine w_bipush (v := nI 12) dX8_odds_59 kb_12 ?_
            refine w_icmpN_le dX8_odds_61 rfl (by omega) (by omega) (fun h_61 => ?_) (fun h_61 => ?_)
            · refine w_iload_n dX8_odds_71 rfl ?_
              refine w_ifN_ne dX8_odds_72 rfl (by omega) (fun h_72 => ?_) (fun h_72 => ?_)
              · refine w_aload_n dX8_odds_79 rfl ?_
                refine mg_at dX8_odds_80 rfl ?_
                refine w_iconst (v := nI 0) dX8_odds_83 ki_0 ?_
                refine w_iload_n dX8_odds_84 rfl ?_
                refine s_calli2 (mi := miX8_findRow) dX8_odds_85 q1813 okX8_findRow (Nat.le_of_ble_eq_true rfl) c_findRow (Nat.le_of_ble_eq_true rfl) ?_
                refine w_iconst (v := nI 1) dX8_odds_88 ki_1 ?_
                refine w_iaddN dX8_odds_89 ?_
                refine ma_at dX8_odds_90 (by omega) ?_
                refine w_topN (E.d1 (by omega)) ?_
                refine w_i2l dX8_odds_91 rfl ?_
                obtain ⟨w9, hw8⟩ : ∃ w9, w9 = vt V 6 d := ⟨_, rfl⟩
                refine w_top (y := .long (lN w9)) (congrArg Value.long (by rw [hw8]; exact nI_l (by omega))) ?_
                have hw9 : (if z = 0 then 1 else vt V 6 d) = w9 := by rw [hw8]; exact if_neg (by omega)
                have hw7 : w9 ≤ 999 := by omega
                refine w_lstore dX8_odds_92 rfl (Nat.le_of_ble_eq_true rfl) ls2_10_5 ?_
                refine w_lconst (v := 1) dX8_odds_94 rfl ?_
                refine w_lstore dX8_odds_95 rfl (Nat.le_of_ble_eq_true rfl) ls2_10_7 ?_
                refine w_iconst (v := nI 0) dX8_odds_97 ki_0 ?_
                refine w_istore dX8_odds_98 rfl (Nat.le_of_ble_eq_true rfl) ls_10_9 ?_
                
                have lp : ∀ (j9 : Nat) (k : Nat), leftV V d - k < j9 → k ≤ leftV V d → Wp g (mtM g miX8_odds 4 σ b (some (.int (bP (nI (w_odds V (nI d) (nI q) (nI z)) = 0)))) (oddsS S V (nI d) (nI q) (nI z))) 0 0 100 [some (.ref b), some (.int (nI d)), some (.int (nI q)), some (.int (nI z)), some (.int (nI (wlV V (nI d)))), some (.long (lN (w9 * (16 - q) ^ k))), none, some (.long (lN (16 ^ k))), none, some (.int (nI k))] [] (sM g σ b (S)) := by
                  intro j9
                  induction j9 with
                  | zero => intro k hmu hk; exact absurd hmu (Nat.not_lt_zero _)
                  | succ j9 ih_lp =>
                    intro k hmu hk
                    refine w_iload dX8_odds_100 rfl ?_
                    refine w_aload_n dX8_odds_102 rfl ?_
                    refine w_iload_n dX8_odds_103 rfl ?_
                    refine m_calli1 (mi := miX8_leftOn) dX8_odds_104 q2083 okX8_leftOn rfl (Nat.le_of_ble_eq_true rfl) (c_leftOn E K (by first | assumption | omega) (by first | assumption | omega)) (Nat.le_of_ble_eq_true rfl) ?_
                    refine w_icmpN_ge dX8_odds_107 rfl (by omega) (by omega) (fun h_107 => ?_) (fun h_107 => ?_)
                    · obtain rfl : k = leftV V d := by omega
                      refine w_aload_n dX8_odds_135 rfl ?_
                      refine w_lload dX8_odds_136 rfl ?_
                      refine w_lload dX8_odds_138 rfl ?_
                      refine m_calli2 (mi := miX8_tellsBy) dX8_odds_140 q2230 okX8_tellsBy rfl (Nat.le_of_ble_eq_true rfl) (c_tellsBy (Nat.pow_pos (by omega)) (odds_lt hw7 (by omega)) (by have := Nat.pow_le_pow_right (n := 16) (by omega) (show leftV V d ≤ 12 by omega); omega)) (Nat.le_of_ble_eq_true rfl) ?_
                      exact w_zret dX8_odds_143 rfl narrB ⟨by first | (rw [show w_odds V (nI d) (nI q) (nI z) = 0 by rw [w_odds, if_pos hyes, if_pos hwl0, hcl_d, if_neg (by omega)]]; done) | (rw [show w_odds V (nI d) (nI q) (nI z) = 0 by rw [w_odds, if_pos hyes, if_pos hwl0, hcl_d, if_neg (by omega)]]; rfl), by rw [oddsS, show w_odds V (nI d) (nI q) (nI z) = 0 by rw [w_odds, if_pos hyes, if_pos hwl0, hcl_d, if_neg (by omega)], if_pos rfl, o_odds, hcl_d, hcl_q, hcl_z]; first | rfl | (simp only [*, if_true, if_false]; done) | (rw [hw9])⟩
                    · refine w_lload dX8_odds_110 rfl ?_
                      refine w_ldc2 dX8_odds_112 q2229 ?_
                      refine w_iload_n dX8_odds_115 rfl ?_
                      refine w_i2l dX8_odds_116 rfl ?_
                      refine w_lsub dX8_odds_117 ?_
                      rw [lN_16 hq]
                      refine w_lmul dX8_odds_118 ?_
                      rw [lN_mul]
                      refine w_lstore dX8_odds_119 rfl (Nat.le_of_ble_eq_true rfl) ls2_10_5 ?_
                      refine w_lload dX8_odds_121 rfl ?_
                      refine w_ldc2 dX8_odds_123 q2229 ?_
                      refine w_lmul dX8_odds_126 ?_
                      rw [show (16 : Int64) = lN 16 from rfl, lN_mul]
                      refine w_lstore dX8_odds_127 rfl (Nat.le_of_ble_eq_true rfl) ls2_10_7 ?_
                      refine w_iinc dX8_odds_129 rfl (nI_inc _ 1) rfl (Nat.le_of_ble_eq_true rfl) ls_10_9 ?_
                      refine w_goto dX8_odds_132 rfl ?_
                      exact w_as (ih_lp (k + 1) (by omega) (by omega)) (by rw [Nat.pow_succ, Nat.pow_succ, Nat.mul_assoc]) rfl rfl
                exact w_as (lp (leftV V d + 1) 0 (by omega) (by omega)) (by rw [Nat.pow_zero, Nat.pow_zero, Nat.mul_one]; rfl) rfl rfl
              · refine w_lconst (v := 1) dX8_odds_75 rfl ?_
                obtain ⟨w9, hw8⟩ : ∃ w9, w9 = 1 := ⟨_, rfl⟩
                refine w_top (y := .long (lN w9)) (congrArg Value.long (by rw [hw8]; rfl)) ?_
                have hw9 : (if z = 0 then 1 else vt V 6 d) = w9 := by rw [hw8]; exact if_pos h_72
                have hw7 : w9 ≤ 999 := by omega
                refine w_goto dX8_odds_76 rfl ?_
                refine w_lstore dX8_odds_92 rfl (Nat.le_of_ble_eq_true rfl) ls2_10_5 ?_
                refine w_lconst (v := 1) dX8_odds_94 rfl ?_
                refine w_lstore dX8_odds_95 rfl (Nat.le_of_ble_eq_true rfl) ls2_10_7 ?_
                refine w_iconst (v := nI 0) dX8_odds_97 ki_0 ?_
                refine w_istore dX8_odds_98 rfl (Nat.le_of_ble_eq_true rfl) ls_10_9 ?_
                
                have lp : ∀ (j9 : Nat) (k : Nat), leftV V d - k < j9 → k ≤ leftV V d → Wp g (mtM g miX8_odds 4 σ b (some (.int (bP (nI (w_odds V (nI d) (nI q) (nI z)) = 0)))) (oddsS S V (nI d) (nI q) (nI z))) 0 0 100 [some (.ref b), some (.int (nI d)), some (.int (nI q)), some (.int (nI z)), some (.int (nI (wlV V (nI d)))), some (.long (lN (w9 * (16 - q) ^ k))), none, some (.long (lN (16 ^ k))), none, some (.int (nI k))] [] (sM g σ b (S)) := by
                  intro j9
                  induction j9 with
                  | zero => intro k hmu hk; exact absurd hmu (Nat.not_lt_zero _)
                  | succ j9 ih_lp =>
                    intro k hmu hk
                    refine w_iload dX8_odds_100 rfl ?_
                    refine w_aload_n dX8_odds_102 rfl ?_
                    refine w_iload_n dX8_odds_103 rfl ?_
                    refine m_calli1 (mi := miX8_leftOn) dX8_odds_104 q2083 okX8_leftOn rfl (Nat.le_of_ble_eq_true rfl) (c_leftOn E K (by first | assumption | omega) (by first | assumption | omega)) (Nat.le_of_ble_eq_true rfl) ?_
                    refine w_icmpN_ge dX8_odds_107 rfl (by omega) (by omega) (fun h_107 => ?_) (fun h_107 => ?_)
                    · obtain rfl : k = leftV V d := by omega
                      refine w_aload_n dX8_odds_135 rfl ?_
                      refine w_lload dX8_odds_136 rfl ?_
                      refine w_lload dX8_odds_138 rfl ?_
                      refine m_calli2 (mi := miX8_tellsBy) dX8_odds_140 q2230 okX8_tellsBy rfl (Nat.le_of_ble_eq_true rfl) (c_tellsBy (Nat.pow_pos (by omega)) (odds_lt hw7 (by omega)) (by have := Nat.pow_le_pow_right (n := 16) (by omega) (show leftV V d ≤ 12 by omega); omega)) (Nat.le_of_ble_eq_true rfl) ?_
                      exact w_zret dX8_odds_143 rfl narrB ⟨by first | (rw [show w_odds V (nI d) (nI q) (nI z) = 0 by rw [w_odds, if_pos hyes, if_pos hwl0, hcl_d, if_neg (by omega)]]; done) | (rw [show w_odds V (nI d) (nI q) (nI z) = 0 by rw [w_odds, if_pos hyes, if_pos hwl0, hcl_d, if_neg (by omega)]]; rfl), by rw [oddsS, show w_odds V (nI d) (nI q) (nI z) = 0 by rw [w_odds, if_pos hyes, if_pos hwl0, hcl_d, if_neg (by omega)], if_pos rfl, o_odds, hcl_d, hcl_q, hcl_z]; first | rfl | (simp only [*, if_true, if_false]; done) | (rw [hw9])⟩
                    · refine w_lload dX8_odds_110 rfl ?_
                      refine w_ldc2 dX8_odds_112 q2229 ?_
                      refine w_iload_n dX8_odds_115 rfl ?_
                      refine w_i2l dX8_odds_116 rfl ?_
                      refine w_lsub dX8_odds_117 ?_
                      rw [lN_16 hq]
                      refine w_lmul dX8_odds_118 ?_
                      rw [lN_mul]
                      refine w_lstore dX8_odds_119 rfl (Nat.le_of_ble_eq_true rfl) ls2_10_5 ?_
                      refine w_lload dX8_odds_121 rfl ?_
                      refine w_ldc2 dX8_odds_123 q2229 ?_
                      refine w_lmul dX8_odds_126 ?_
                      rw [show (16 : Int64) = lN 16 from rfl, lN_mul]
                      refine w_lstore dX8_odds_127 rfl (Nat.le_of_ble_eq_true rfl) ls2_10_7 ?_
                      refine w_iinc dX8_odds_129 rfl (nI_inc _ 1) rfl (Nat.le_of_ble_eq_true rfl) ls_10_9 ?_
                      refine w_goto dX8_odds_132 rfl ?_
                      exact w_as (ih_lp (k + 1) (by omega) (by omega)) (by rw [Nat.pow_succ, Nat.pow_succ, Nat.mul_assoc]) rfl rfl
                exact w_as (lp (leftV V d + 1) 0 (by omega) (by omega)) (by rw [Nat.pow_zero, Nat.pow_zero, Nat.mul_one]; rfl) rfl rfl
            · refine w_aload_n dX8_odds_64 rfl ?_
              refine w_bipush (v := nI 7) dX8_odds_65 kb_7 ?_
              refine m_calli1 (mi := miX8_is) dX8_odds_67 q1686 okX8_is rfl (Nat.le_of_ble_eq_true rfl) c_is (Nat.le_of_ble_eq_true rfl) ?_
              exact w_zret dX8_odds_70 rfl narrB ⟨by first | (rw [show w_odds V (nI d) (nI q) (nI z) = 7 by rw [w_odds, if_pos hyes, if_pos hwl0, hcl_d, if_pos h_61]]; done) | (rw [show w_odds V (nI d) (nI q) (nI z) = 7 by rw [w_odds, if_pos hyes, if_pos hwl0, hcl_d, if_pos h_61]]; rfl), by rw [oddsS, show w_odds V (nI d) (nI q) (nI z) = 7 by rw [w_odds, if_pos hyes, if_pos hwl0, hcl_d, if_pos h_61], if_neg (by omega)]⟩
          · refine w_aload_n dX8_odds_47 rfl ?_
            refine w_iload dX8_odds_48 rfl ?_
            refine m_calli1 (mi := miX8_is) dX8_odds_50 q1686 okX8_is rfl (Nat.le_of_ble_eq_true rfl) c_is (Nat.le_of_ble_eq_true rfl) ?_
            exact w_zret dX8_odds_53 rfl narrB ⟨by first | (rw [show w_odds V (nI d) (nI q) (nI z) = wlV V (nI d) by rw [w_odds, if_pos hyes, if_neg (by omega)]]; done) | (rw [show w_odds V (nI d) (nI q) (nI z) = wlV V (nI d) by rw [w_odds, if_pos hyes, if_neg (by omega)]]; rfl), by rw [oddsS, show w_odds V (nI d) (nI q) (nI z) = wlV V (nI d) by rw [w_odds, if_pos hyes, if_neg (by omega)], if_neg (by omega)]⟩
        · have hno : ¬ (inN (nI d) (vs V 2) ∧ inN (nI q) 17 ∧ inN z 2) := fun u => out_gt (Int32.not_le.mp h_26) (by omega) u.2.2
          refine w_aload_n dX8_odds_29 rfl ?_
          refine w_iconst (v := nI 1) dX8_odds_30 ki_1 ?_
          refine m_calli1 (mi := miX8_is) dX8_odds_31 q1686 okX8_is rfl (Nat.le_of_ble_eq_true rfl) c_is (Nat.le_of_ble_eq_true rfl) ?_
          exact w_zret dX8_odds_34 rfl narrB ⟨by first | (rw [show w_odds V (nI d) (nI q) z = 1 by rw [w_odds, if_neg hno]]; done) | (rw [show w_odds V (nI d) (nI q) z = 1 by rw [w_odds, if_neg hno]]; rfl), by rw [oddsS, show w_odds V (nI d) (nI q) z = 1 by rw [w_odds, if_neg hno], if_neg (by omega)]⟩
