set_option maxRecDepth 100000
section ML
variable {g : GG} {mt : MT} {kc ks pc : Nat} {L : List (Option Value)} {st rest : List Value} {σ : PH}
theorem w_mabsL {index : Nat} {x : Int64} (d : decode mt.1.2.1 pc = .ok (.invokestatic index, 3)) (q1 : Cond.methodLink mt.1.1 index Lib.MathLoose.abs_long.x ∈ lw_all) (q2 : Cond.static Lib.MathLoose.abs_long.x ∈ lw_all) (q3 : Cond.initialized "java/lang/Math" ∈ lw_all) (q4 : Cond.code Lib.MathLoose.abs_long.x Lib.MathLoose.abs_long.code 2 (some .long) ∈ lw_all) (hd : 1 ≤ mt.2.1.1) (hcat : (rest.map fun v => v.category).sum ≤ 8) (kk : Wp g mt kc ks (pc + 3) L (.long (if 0 < x then x else -x) :: rest) σ) : Wp g mt kc ks pc L (.long x :: rest) σ := by
  intro p e s m args below meth c H locs ls cells slots X hR hl hL h1 h2
  have hR' := X.rm
  exact va_mabs_long X.hx X.hb (by rw [X.ml]; exact hL.1.symm) X.own (X.ts _ q1) (X.ts _ q2) (X.ts _ q3) (X.ts _ q4) (by omega) (by omega) (by omega) (by omega) d (kk p e s m args below meth c H locs ls cells slots X hR hl hL h1 h2)
end ML
def sgE (x : Int64) : Int32 := ((x >>> ((nI 63).toInt64 &&& 63)) ||| (((-x).toUInt64 >>> ((nI 63).toInt64.toUInt64 &&& Int64.toUInt64 63)).toInt64)).toInt32
theorem absL {n : Nat} (h : n < 2 ^ 62) : (if 0 < lN n then lN n else -lN n) = lN n := by
  by_cases h0 : n = 0
  · subst h0
    rfl
  · have h2 : (lN n).toInt = (n : Int) := by
      show (BitVec.ofNat 64 n).toInt = n
      rw [BitVec.toInt_eq_toNat_of_lt (by rw [BitVec.toNat_ofNat]; omega), BitVec.toNat_ofNat]
      omega
    rw [if_pos]
    rw [Int64.lt_iff_toInt_lt, h2, Int64.toInt_zero]
    omega
def tellC (C : CS) (n d : Nat) : CS := uL (uL C 8 (lN (n / Nat.gcd n d))) 9 (lN (d / Nat.gcd n d))
set_option maxHeartbeats 4000000 in
theorem kLng_signum {g : GG} {x : Int64}  : Ms g miJ12_signum 1 [.long x] (some (.int (sgE x))) := by
  refine Ms.start [some (.long x), none] plJ12 rfl (Nat.le_of_ble_eq_true rfl) rfl ?_
  intro σ
  refine w_lload_n dJ12_signum_0 rfl ?_
  refine w_bipush (v := nI 63) dJ12_signum_1 kb_63 ?_
  refine w_lshr dJ12_signum_3 rfl ?_
  refine w_lload_n dJ12_signum_4 rfl ?_
  refine w_lneg dJ12_signum_5 ?_
  refine w_bipush (v := nI 63) dJ12_signum_6 kb_63 ?_
  refine w_lushr dJ12_signum_8 rfl ?_
  refine w_lor dJ12_signum_9 ?_
  refine w_l2i dJ12_signum_10 rfl ?_
  exact w_iret dJ12_signum_11 rfl ⟨by rfl, rfl⟩
set_option maxHeartbeats 4000000 in
theorem kX0_fraction {g : GG} {C : CS} {n : Nat} {d : Nat} (hx : oO C 0 = true) (hd : 0 < d) (hn : n < 2 ^ 62) (hd2 : d < 2 ^ 62) : Cp g miX0_fraction 2 (0) (0) [.ref (od C 0 30), .long (lN n), .long (lN d)] C (some (.int (sgE (lN n)))) (fun C2 => C2 = tellC C n d) := by
  refine Cp.start [some (.ref (od C 0 30)), some (.long (lN n)), none, some (.long (lN d)), none, none, none, none, none, none, none] plX0 rfl (Nat.le_of_ble_eq_true rfl) rfl ?_
  intro σ0 σ H F
  refine w_lload_n dX0_fraction_0 rfl ?_
  refine w_mabsL dX0_fraction_1 q1294 q1295 q155 q1296 (Nat.le_of_ble_eq_true rfl) (Nat.le_of_ble_eq_true rfl) ?_
  rw [absL hn]
  refine w_lstore dX0_fraction_4 rfl (Nat.le_of_ble_eq_true rfl) ls2_11_5 ?_
  refine w_lload_n dX0_fraction_6 rfl ?_
  refine w_lstore dX0_fraction_7 rfl (Nat.le_of_ble_eq_true rfl) ls2_11_7 ?_
  have lp : ∀ (j9 : Nat) (a : Nat) (c : Nat), c < j9 → a < 2 ^ 62 → c < 2 ^ 62 → Nat.gcd a c = Nat.gcd n d → Wp g (mtC g miX0_fraction 2 (0) (0) σ0 (some (.int (sgE (lN n)))) (fun C2 => C2 = tellC C n d)) 0 0 9 [some (.ref (od C 0 30)), some (.long (lN n)), none, some (.long (lN d)), none, some (.long (lN a)), none, some (.long (lN c)), none, none, none] [] σ := by
    intro j9
    induction j9 with
    | zero => intro a c hmu ha hc hg; exact absurd hmu (Nat.not_lt_zero _)
    | succ j9 ih_lp =>
      intro a c hmu ha hc hg
      refine w_lload dX0_fraction_9 rfl ?_
      refine w_lconst (v := 0) dX0_fraction_11 rfl ?_
      refine w_lcmp dX0_fraction_12 ?_
      refine w_if_eq dX0_fraction_13 rfl (fun h_13 => ?_) (fun h_13 => ?_)
      · obtain rfl : c = 0 := (lN_0 (by omega)).mp ((cmp_eq _ _).mp h_13)
        rw [Nat.gcd_zero_right] at hg
        subst hg
        have hgp : 0 < Nat.gcd n d := Nat.gcd_pos_of_pos_right n hd
        have hne : ¬ lN (Nat.gcd n d) = 0 := fun z => by have := (lN_0 (by omega)).mp z; omega
        refine w_aload_n dX0_fraction_34 rfl ?_
        refine w_lload_n dX0_fraction_35 rfl ?_
        refine w_lload dX0_fraction_36 rfl ?_
        refine w_ldiv dX0_fraction_38 hne ?_
        rw [pk_lDiv (by omega) (by omega) (by omega)]
        refine pX0_88 (C := C) dX0_fraction_39 rfl hx H F ?_
        intro σ H F
        refine w_aload_n dX0_fraction_42 rfl ?_
        refine w_lload_n dX0_fraction_43 rfl ?_
        refine w_lload dX0_fraction_44 rfl ?_
        refine w_ldiv dX0_fraction_46 hne ?_
        rw [pk_lDiv (by omega) (by omega) (by omega)]
        refine pX0_48 (C := uL (C) 8 _) dX0_fraction_47 rfl hx H F ?_
        intro σ H F
        refine w_lload_n dX0_fraction_50 rfl ?_
        refine cs_call (mi := miJ12_signum) dX0_fraction_51 q1297 okJ12_signum (Nat.le_of_ble_eq_true rfl) (kLng_signum ) rfl rfl (Nat.le_of_ble_eq_true rfl) ?_
        exact w_iret dX0_fraction_54 rfl ⟨by rfl, _, by rfl, H, F⟩
      · have h_c : 0 < c := Nat.pos_of_ne_zero (fun z => h_13 ((cmp_eq _ _).mpr ((lN_0 (by omega)).mpr z)))
        have hne : ¬ lN c = 0 := fun z => by have := (lN_0 (by omega)).mp z; omega
        refine w_lload dX0_fraction_16 rfl ?_
        refine w_lload dX0_fraction_18 rfl ?_
        refine w_lrem dX0_fraction_20 hne ?_
        rw [pk_lRem (by omega) h_c (by omega)]
        refine w_lstore dX0_fraction_21 rfl (Nat.le_of_ble_eq_true rfl) ls2_11_9 ?_
        refine w_lload dX0_fraction_23 rfl ?_
        refine w_lstore dX0_fraction_25 rfl (Nat.le_of_ble_eq_true rfl) ls2_11_5 ?_
        refine w_lload dX0_fraction_27 rfl ?_
        refine w_lstore dX0_fraction_29 rfl (Nat.le_of_ble_eq_true rfl) ls2_11_7 ?_
        refine w_goto dX0_fraction_31 rfl ?_
        exact w_L (wkS (wkS (wkS (wkS (wkS (wkS (wkS (wkS (wkS (wkN (wkN wk0))))))))))) (ih_lp c (a % c) (by have := Nat.mod_lt a h_c; omega) (by omega) (by have := Nat.mod_lt a h_c; omega) (by rw [← hg, Nat.gcd_comm a c, Nat.gcd_rec c a, Nat.gcd_comm]))
  exact w_L (wkS (wkS (wkS (wkS (wkS (wkS (wkS (wkS (wkS (wkN (wkN wk0))))))))))) (lp (d + 1) n d (by omega) hn hd2 rfl)
set_option maxHeartbeats 4000000 in
theorem kX0_odds {g : GG} {C : CS} {V : VS} {q : Nat → Nat} {x : Int32} {y : Int32} {z : Int32} (hx : oO C 0 = true) (h0 : oO C 0 = true) (E : EncD g C 0 V q) (K : OkV V) : Cp g miX0_odds 4 (0) (0) [.ref (od C 0 30), .int x, .int y, .int z] C (some (.int (bP (w_odds V x y z = 0)))) (fun C2 => C2 = (if w_odds V x y z = 0 then tellC (uI C 0 30 7 (nI 0)) (o_odds V x y z) (16 ^ leftV V (cl x)) else uI C 0 30 7 (nI (w_odds V x y z)))) := by
  refine Cp.start [some (.ref (od C 0 30)), some (.int x), some (.int y), some (.int z), none, none, none, none, none, none, none] plX0 rfl (Nat.le_of_ble_eq_true rfl) rfl ?_
  intro σ0 σ H F
  have kb := K.b
  have hwl := wfV_le V x
  refine w_aload_n dX0_odds_0 rfl ?_
  refine w_iload_n dX0_odds_1 rfl ?_
  refine w_i2l dX0_odds_2 rfl ?_
  refine w_lconst (v := 0) dX0_odds_3 rfl ?_
  refine w_ldc2 dX0_odds_4 q1289 ?_
  refine cs_call (mi := miX0_isIn) dX0_odds_7 q1016 okX0_isIn (Nat.le_of_ble_eq_true rfl) (kX0_isIn0 (m := 16) (by first | assumption | omega)) rfl rfl (Nat.le_of_ble_eq_true rfl) ?_
  refine w_ifB_eq dX0_odds_10 rfl (fun h_10 => ?_) (fun h_10 => ?_)
  · have hw : w_odds V x y z = 1 := by rw [w_odds, if_neg (fun u => h_10 u.2.1)]
    refine w_iconst (v := nI 1) dX0_odds_23 ki_1 ?_
    refine w_goto dX0_odds_24 rfl ?_
    refine pX0_85 (C := C) dX0_odds_32 rfl hx H F ?_
    intro σ H F
    have E := EncD.stH H E
    refine w_aload_n dX0_odds_35 rfl ?_
    refine gst_85 dX0_odds_36 rfl hx H ?_
    refine w_ifN_le dX0_odds_39 rfl (by decide) (fun h_39 => ?_) (fun h_39 => ?_)
    · exact absurd (show _ from h_39) (by decide)
    refine w_iconst (v := nI 0) dX0_odds_42 ki_0 ?_
    exact w_zret dX0_odds_43 rfl (by first | exact narr0 | exact narr1) ⟨by first | (exact congrArg (fun z => some (Value.int z)) (bP_f (by rw [hw]; omega)).symm) | (exact congrArg (fun z => some (Value.int z)) (bP_t hw).symm), _, by first | (rw [hw, if_neg (by omega)]; done) | (rw [hw, if_pos rfl, o_odds, hcl_d, hcl_r, hcl_u, hw9]), H, F⟩
  · have hx_r := h_10
    obtain ⟨r, hf_r, rfl⟩ := inN_of h_10 (by omega)
    have hcl_r : cl (nI r) = r := nI_clamp (by omega)
    refine w_iload_n dX0_odds_13 rfl ?_
    refine w_i2l dX0_odds_14 rfl ?_
    refine w_lconst (v := 0) dX0_odds_15 rfl ?_
    refine w_lconst (v := 1) dX0_odds_16 rfl ?_
    refine cs_call (mi := miX0_isIn) dX0_odds_17 q1016 okX0_isIn (Nat.le_of_ble_eq_true rfl) (kX0_isIn0 (m := 1) (by first | assumption | omega)) rfl rfl (Nat.le_of_ble_eq_true rfl) ?_
    refine w_ifB_ne dX0_odds_20 rfl (fun h_20 => ?_) (fun h_20 => ?_)
    · have hx_u := h_20
      obtain ⟨u, hf_u, rfl⟩ := inN_of h_20 (by omega)
      have hcl_u : cl (nI u) = u := nI_clamp (by omega)
      refine w_aload_n dX0_odds_27 rfl ?_
      refine w_iload_n dX0_odds_28 rfl ?_
      refine cr_call (mi := miX0_whyGone) dX0_odds_29 q1179 okX0_whyGone clX0 rfl (H.get (ce_X hx)) (Nat.le_of_ble_eq_true rfl) (kX0_whyGone (C := C) hx h0 E K) H rfl rfl (Nat.le_of_ble_eq_true rfl) ?_
      refine pX0_85 (C := C) dX0_odds_32 rfl hx H F ?_
      intro σ H F
      have E := EncD.stH H E
      refine w_aload_n dX0_odds_35 rfl ?_
      refine gst_85 dX0_odds_36 rfl hx H ?_
      refine w_ifN_le dX0_odds_39 rfl (by omega) (fun h_39 => ?_) (fun h_39 => ?_)
      · obtain ⟨hx_d, hth⟩ := wfV_0 (V := V) (x := x) (by omega)
        obtain ⟨d, hf_d, rfl⟩ := inN_of hx_d (by omega)
        have hcl_d : cl (nI d) = d := nI_clamp (by omega)
        have kf_d := K.d hf_d
        have kn_d := K.n (d := d) (by omega)
        rw [hcl_d] at hth
        have hw0 : wfV V (nI d) = 0 := by omega
        rw [hw0] at H E
        have hyes : inN (nI d) (vs V 2) ∧ inN (nI r) 17 ∧ inN (nI u) 2 := ⟨hx_d, hx_r, hx_u⟩
        have hlf := leftV_le K d
        refine w_aload_n dX0_odds_44 rfl ?_
        refine cr_call (mi := miX0_day) dX0_odds_45 q886 okX0_day clX0 rfl (H.get (ce_X hx)) (Nat.le_of_ble_eq_true rfl) (kX0_day (C := uI (C) 0 30 7 _) hx h0) H rfl rfl (Nat.le_of_ble_eq_true rfl) ?_
        refine gX0_288 (C := uI (C) 0 30 7 _) dX0_odds_48 rfl h0 H ?_
        refine w_iload_n dX0_odds_51 rfl ?_
        refine ga_heaps (C := uI (C) 0 30 7 _) dX0_odds_52 h0 (by omega) H ?_
        refine w_astore dX0_odds_53 rfl (Nat.le_of_ble_eq_true rfl) ls_11_4 ?_
        refine w_aload dX0_odds_55 rfl ?_
        refine gX0_292 (C := uI (C) 0 30 7 _) dX0_odds_57 rfl (on8 h0 (by omega)) H ?_
        refine w_topN (E.h (d := d) (by omega)).sz ?_
        refine w_ifN_ne dX0_odds_60 rfl (by omega) (fun h_60 => ?_) (fun h_60 => ?_)
        · have hwl0 : wlV V (nI d) = 0 := by rw [wlV, if_neg (by omega), hcl_d, if_neg (by omega)]
          have hp := (K.p (d := d) (by omega) (k := vt V 7 d - 1) (by omega)).2
          refine w_aload_n dX0_odds_67 rfl ?_
          refine cr_call (mi := miX0_day) dX0_odds_68 q886 okX0_day clX0 rfl (H.get (ce_X hx)) (Nat.le_of_ble_eq_true rfl) (kX0_day (C := uI (C) 0 30 7 _) hx h0) H rfl rfl (Nat.le_of_ble_eq_true rfl) ?_
          refine gX0_245 (C := uI (C) 0 30 7 _) dX0_odds_71 rfl h0 H ?_
          refine w_topN (E.ti) ?_
          refine w_aload dX0_odds_74 rfl ?_
          refine gX0_300 (C := uI (C) 0 30 7 _) dX0_odds_76 rfl (on8 h0 (by omega)) H ?_
          refine w_aload dX0_odds_79 rfl ?_
          refine gX0_292 (C := uI (C) 0 30 7 _) dX0_odds_81 rfl (on8 h0 (by omega)) H ?_
          refine w_topN (E.h (d := d) (by omega)).sz ?_
          refine w_iconst (v := nI 1) dX0_odds_84 ki_1 ?_
          refine w_isubN dX0_odds_85 (by omega) ?_
          refine ha_7 (C := uI (C) 0 30 7 _) dX0_odds_86 (on8 h0 (by omega)) (E.h (d := d) (by omega)) (by omega) H ?_
          refine w_isubN dX0_odds_87 (by omega) ?_
          refine w_topN (show _ = nI (leftV V d) from rfl) ?_
          refine w_istore dX0_odds_88 rfl (Nat.le_of_ble_eq_true rfl) ls_11_5 ?_
          refine w_aload_n dX0_odds_90 rfl ?_
          refine w_aload dX0_odds_91 rfl ?_
          refine gX0_292 (C := uI (C) 0 30 7 _) dX0_odds_93 rfl (on8 h0 (by omega)) H ?_
          refine w_topN (E.h (d := d) (by omega)).sz ?_
          refine w_ifN_ne dX0_odds_96 rfl (by omega) (fun h_96 => ?_) (fun h_96 => ?_)
          · refine w_iload dX0_odds_104 rfl ?_
            refine w_bipush (v := nI 12) dX0_odds_106 kb_12 ?_
            refine w_icmpN_le dX0_odds_108 rfl (by omega) (by omega) (fun h_108 => ?_) (fun h_108 => ?_)
            · have hw : w_odds V (nI d) (nI r) (nI u) = 0 := by rw [w_odds, if_pos hyes, if_pos hwl0, hcl_d, if_neg (by omega)]
              refine w_iconst (v := nI 0) dX0_odds_116 ki_0 ?_
              refine pX0_85 (C := uI (C) 0 30 7 _) dX0_odds_117 rfl hx H F ?_
              intro σ H F
              rw [uI_I] at H
              have E := EncD.stH H E
              refine w_aload_n dX0_odds_120 rfl ?_
              refine gst_85 dX0_odds_121 rfl hx H ?_
              refine w_ifN_le dX0_odds_124 rfl (by decide) (fun h_124 => ?_) (fun h_124 => ?_)
              rotate_left
              · exact absurd (show _ from h_124) (by decide)
              refine w_iload_n dX0_odds_129 rfl ?_
              refine w_ifN_ne dX0_odds_130 rfl (by omega) (fun h_130 => ?_) (fun h_130 => ?_)
              · refine w_aload_n dX0_odds_137 rfl ?_
                refine cr_call (mi := miX0_beach_2) dX0_odds_138 q934 okX0_beach_2 clX0 rfl (H.get (ce_X hx)) (Nat.le_of_ble_eq_true rfl) (kX0_beach (C := uI (C) 0 30 7 _) hx h0) H rfl rfl (Nat.le_of_ble_eq_true rfl) ?_
                refine gX0_285 (C := uI (C) 0 30 7 _) dX0_odds_141 rfl E H ?_
                refine w_iload_n dX0_odds_144 rfl ?_
                refine ba_13 (C := uI (C) 0 30 7 _) dX0_odds_145 E K (by omega) H ?_
                refine w_i2l dX0_odds_146 rfl ?_
                obtain ⟨w9, hw8⟩ : ∃ w9, w9 = vt V 6 d := ⟨_, rfl⟩
                refine w_top (y := .long (lN w9)) (congrArg Value.long (by rw [hw8]; exact nI_l2 (by omega))) ?_
                have hw9 : (if u = 0 then 1 else vt V 6 d) = w9 := by rw [hw8]; exact if_neg (by omega)
                have hw7 : w9 ≤ 999 := by omega
                refine w_lstore dX0_odds_147 rfl (Nat.le_of_ble_eq_true rfl) ls2_11_6 ?_
                refine w_lconst (v := 1) dX0_odds_149 rfl ?_
                refine w_lstore dX0_odds_150 rfl (Nat.le_of_ble_eq_true rfl) ls2_11_8 ?_
                refine w_iconst (v := nI 0) dX0_odds_152 ki_0 ?_
                refine w_istore dX0_odds_153 rfl (Nat.le_of_ble_eq_true rfl) ls_11_10 ?_
                have lp : ∀ (j9 : Nat) (k : Nat), leftV V d - k < j9 → k ≤ leftV V d → Wp g (mtC g miX0_odds 4 (0) (0) σ0 (some (.int (bP (w_odds V (nI d) (nI r) (nI u) = 0)))) (fun C2 => C2 = (if w_odds V (nI d) (nI r) (nI u) = 0 then tellC (uI C 0 30 7 (nI 0)) (o_odds V (nI d) (nI r) (nI u)) (16 ^ leftV V (cl (nI d))) else uI C 0 30 7 (nI (w_odds V (nI d) (nI r) (nI u)))))) 0 0 155 [some (.ref (od C 0 30)), some (.int (nI d)), some (.int (nI r)), some (.int (nI u)), some (.ref (od C 5 (8 * 0 + d))), some (.int (nI (leftV V d))), some (.long (lN (w9 * (16 - r) ^ k))), none, some (.long (lN (16 ^ k))), none, some (.int (nI k))] [] σ := by
                  intro j9
                  induction j9 with
                  | zero => intro k hmu hk; exact absurd hmu (Nat.not_lt_zero _)
                  | succ j9 ih_lp =>
                    intro k hmu hk
                    refine w_iload dX0_odds_155 rfl ?_
                    refine w_iload dX0_odds_157 rfl ?_
                    refine w_icmpN_ge dX0_odds_159 rfl (by omega) (by omega) (fun h_159 => ?_) (fun h_159 => ?_)
                    · obtain rfl : k = leftV V d := by omega
                      refine w_aload_n dX0_odds_186 rfl ?_
                      refine w_lload dX0_odds_187 rfl ?_
                      refine w_lload dX0_odds_189 rfl ?_
                      refine cp_call (mi := miX0_fraction) dX0_odds_191 q1290 okX0_fraction clX0 rfl (H.get (ce_X hx)) (Nat.le_of_ble_eq_true rfl) (kX0_fraction (C := uI (C) 0 30 7 _) hx (Nat.pow_pos (by omega)) (odds_lt hw7 (by omega)) (by have := Nat.pow_le_pow_right (n := 16) (by omega) (show leftV V d ≤ 12 by omega); omega)) H F rfl rfl (Nat.le_of_ble_eq_true rfl) ?_
                      rintro σ _ rfl H F
                      refine w_pop dX0_odds_194 rfl ?_
                      refine w_iconst (v := nI 1) dX0_odds_195 ki_1 ?_
                      exact w_zret dX0_odds_196 rfl (by first | exact narr0 | exact narr1) ⟨by first | (exact congrArg (fun z => some (Value.int z)) (bP_f (by rw [hw]; omega)).symm) | (exact congrArg (fun z => some (Value.int z)) (bP_t hw).symm), _, by first | (rw [hw, if_neg (by omega)]; done) | (rw [hw, if_pos rfl, o_odds, hcl_d, hcl_r, hcl_u, hw9]), H, F⟩
                    · refine w_lload dX0_odds_162 rfl ?_
                      refine w_bipush (v := nI 16) dX0_odds_164 kb_16 ?_
                      refine w_iload_n dX0_odds_166 rfl ?_
                      refine w_isubN dX0_odds_167 (by omega) ?_
                      refine w_i2l dX0_odds_168 rfl ?_
                      rw [nI_l2 (by omega)]
                      refine w_lmul dX0_odds_169 ?_
                      rw [lN_mul]
                      refine w_lstore dX0_odds_170 rfl (Nat.le_of_ble_eq_true rfl) ls2_11_6 ?_
                      refine w_lload dX0_odds_172 rfl ?_
                      refine w_ldc2 dX0_odds_174 q1289 ?_
                      refine w_lmul dX0_odds_177 ?_
                      rw [show (16 : Int64) = lN 16 from rfl, lN_mul]
                      refine w_lstore dX0_odds_178 rfl (Nat.le_of_ble_eq_true rfl) ls2_11_8 ?_
                      refine w_iinc dX0_odds_180 rfl (nI_inc _ 1) rfl (Nat.le_of_ble_eq_true rfl) ls_11_10 ?_
                      refine w_goto dX0_odds_183 rfl ?_
                      exact w_as (ih_lp (k + 1) (by omega) (by omega)) (by rw [Nat.pow_succ, Nat.pow_succ, Nat.mul_assoc]) rfl rfl
                exact w_as (lp (leftV V d + 1) 0 (by omega) (by omega)) (by rw [Nat.pow_zero, Nat.pow_zero, Nat.mul_one]; rfl) rfl rfl
              · refine w_lconst (v := 1) dX0_odds_133 rfl ?_
                obtain ⟨w9, hw8⟩ : ∃ w9, w9 = 1 := ⟨_, rfl⟩
                refine w_top (y := .long (lN w9)) (congrArg Value.long (by rw [hw8]; rfl)) ?_
                have hw9 : (if u = 0 then 1 else vt V 6 d) = w9 := by rw [hw8]; exact if_pos (by omega)
                have hw7 : w9 ≤ 999 := by omega
                refine w_goto dX0_odds_134 rfl ?_
                refine w_lstore dX0_odds_147 rfl (Nat.le_of_ble_eq_true rfl) ls2_11_6 ?_
                refine w_lconst (v := 1) dX0_odds_149 rfl ?_
                refine w_lstore dX0_odds_150 rfl (Nat.le_of_ble_eq_true rfl) ls2_11_8 ?_
                refine w_iconst (v := nI 0) dX0_odds_152 ki_0 ?_
                refine w_istore dX0_odds_153 rfl (Nat.le_of_ble_eq_true rfl) ls_11_10 ?_
                have lp : ∀ (j9 : Nat) (k : Nat), leftV V d - k < j9 → k ≤ leftV V d → Wp g (mtC g miX0_odds 4 (0) (0) σ0 (some (.int (bP (w_odds V (nI d) (nI r) (nI u) = 0)))) (fun C2 => C2 = (if w_odds V (nI d) (nI r) (nI u) = 0 then tellC (uI C 0 30 7 (nI 0)) (o_odds V (nI d) (nI r) (nI u)) (16 ^ leftV V (cl (nI d))) else uI C 0 30 7 (nI (w_odds V (nI d) (nI r) (nI u)))))) 0 0 155 [some (.ref (od C 0 30)), some (.int (nI d)), some (.int (nI r)), some (.int (nI u)), some (.ref (od C 5 (8 * 0 + d))), some (.int (nI (leftV V d))), some (.long (lN (w9 * (16 - r) ^ k))), none, some (.long (lN (16 ^ k))), none, some (.int (nI k))] [] σ := by
                  intro j9
                  induction j9 with
                  | zero => intro k hmu hk; exact absurd hmu (Nat.not_lt_zero _)
                  | succ j9 ih_lp =>
                    intro k hmu hk
                    refine w_iload dX0_odds_155 rfl ?_
                    refine w_iload dX0_odds_157 rfl ?_
                    refine w_icmpN_ge dX0_odds_159 rfl (by omega) (by omega) (fun h_159 => ?_) (fun h_159 => ?_)
                    · obtain rfl : k = leftV V d := by omega
                      refine w_aload_n dX0_odds_186 rfl ?_
                      refine w_lload dX0_odds_187 rfl ?_
                      refine w_lload dX0_odds_189 rfl ?_
                      refine cp_call (mi := miX0_fraction) dX0_odds_191 q1290 okX0_fraction clX0 rfl (H.get (ce_X hx)) (Nat.le_of_ble_eq_true rfl) (kX0_fraction (C := uI (C) 0 30 7 _) hx (Nat.pow_pos (by omega)) (odds_lt hw7 (by omega)) (by have := Nat.pow_le_pow_right (n := 16) (by omega) (show leftV V d ≤ 12 by omega); omega)) H F rfl rfl (Nat.le_of_ble_eq_true rfl) ?_
                      rintro σ _ rfl H F
                      refine w_pop dX0_odds_194 rfl ?_
                      refine w_iconst (v := nI 1) dX0_odds_195 ki_1 ?_
                      exact w_zret dX0_odds_196 rfl (by first | exact narr0 | exact narr1) ⟨by first | (exact congrArg (fun z => some (Value.int z)) (bP_f (by rw [hw]; omega)).symm) | (exact congrArg (fun z => some (Value.int z)) (bP_t hw).symm), _, by first | (rw [hw, if_neg (by omega)]; done) | (rw [hw, if_pos rfl, o_odds, hcl_d, hcl_r, hcl_u, hw9]), H, F⟩
                    · refine w_lload dX0_odds_162 rfl ?_
                      refine w_bipush (v := nI 16) dX0_odds_164 kb_16 ?_
                      refine w_iload_n dX0_odds_166 rfl ?_
                      refine w_isubN dX0_odds_167 (by omega) ?_
                      refine w_i2l dX0_odds_168 rfl ?_
                      rw [nI_l2 (by omega)]
                      refine w_lmul dX0_odds_169 ?_
                      rw [lN_mul]
                      refine w_lstore dX0_odds_170 rfl (Nat.le_of_ble_eq_true rfl) ls2_11_6 ?_
                      refine w_lload dX0_odds_172 rfl ?_
                      refine w_ldc2 dX0_odds_174 q1289 ?_
                      refine w_lmul dX0_odds_177 ?_
                      rw [show (16 : Int64) = lN 16 from rfl, lN_mul]
                      refine w_lstore dX0_odds_178 rfl (Nat.le_of_ble_eq_true rfl) ls2_11_8 ?_
                      refine w_iinc dX0_odds_180 rfl (nI_inc _ 1) rfl (Nat.le_of_ble_eq_true rfl) ls_11_10 ?_
                      refine w_goto dX0_odds_183 rfl ?_
                      exact w_as (ih_lp (k + 1) (by omega) (by omega)) (by rw [Nat.pow_succ, Nat.pow_succ, Nat.mul_assoc]) rfl rfl
                exact w_as (lp (leftV V d + 1) 0 (by omega) (by omega)) (by rw [Nat.pow_zero, Nat.pow_zero, Nat.mul_one]; rfl) rfl rfl
            · have hw : w_odds V (nI d) (nI r) (nI u) = 7 := by rw [w_odds, if_pos hyes, if_pos hwl0, hcl_d, if_pos (by omega)]
              refine w_bipush (v := nI 7) dX0_odds_111 kb_7 ?_
              refine w_goto dX0_odds_113 rfl ?_
              refine pX0_85 (C := uI (C) 0 30 7 _) dX0_odds_117 rfl hx H F ?_
              intro σ H F
              rw [uI_I] at H
              have E := EncD.stH H E
              refine w_aload_n dX0_odds_120 rfl ?_
              refine gst_85 dX0_odds_121 rfl hx H ?_
              refine w_ifN_le dX0_odds_124 rfl (by decide) (fun h_124 => ?_) (fun h_124 => ?_)
              · exact absurd (show _ from h_124) (by decide)
              refine w_iconst (v := nI 0) dX0_odds_127 ki_0 ?_
              exact w_zret dX0_odds_128 rfl (by first | exact narr0 | exact narr1) ⟨by first | (exact congrArg (fun z => some (Value.int z)) (bP_f (by rw [hw]; omega)).symm) | (exact congrArg (fun z => some (Value.int z)) (bP_t hw).symm), _, by first | (rw [hw, if_neg (by omega)]; done) | (rw [hw, if_pos rfl, o_odds, hcl_d, hcl_r, hcl_u, hw9]), H, F⟩
          · exact absurd h_96 (by omega)
        · have hw : w_odds V (nI d) (nI r) (nI u) = 6 := by rw [w_odds, if_pos hyes, show wlV V (nI d) = 6 from by rw [wlV, if_neg (by omega), hcl_d, if_pos (by omega)], if_neg (by omega)]
          refine w_iconst (v := nI 0) dX0_odds_63 ki_0 ?_
          refine w_goto dX0_odds_64 rfl ?_
          refine w_istore dX0_odds_88 rfl (Nat.le_of_ble_eq_true rfl) ls_11_5 ?_
          refine w_aload_n dX0_odds_90 rfl ?_
          refine w_aload dX0_odds_91 rfl ?_
          refine gX0_292 (C := uI (C) 0 30 7 _) dX0_odds_93 rfl (on8 h0 (by omega)) H ?_
          refine w_topN (E.h (d := d) (by omega)).sz ?_
          refine w_ifN_ne dX0_odds_96 rfl (by omega) (fun h_96 => ?_) (fun h_96 => ?_)
          · exact absurd h_96 (by omega)
          · refine w_bipush (v := nI 6) dX0_odds_99 kb_6 ?_
            refine w_goto dX0_odds_101 rfl ?_
            refine pX0_85 (C := uI (C) 0 30 7 _) dX0_odds_117 rfl hx H F ?_
            intro σ H F
            rw [uI_I] at H
            have E := EncD.stH H E
            refine w_aload_n dX0_odds_120 rfl ?_
            refine gst_85 dX0_odds_121 rfl hx H ?_
            refine w_ifN_le dX0_odds_124 rfl (by decide) (fun h_124 => ?_) (fun h_124 => ?_)
            · exact absurd (show _ from h_124) (by decide)
            refine w_iconst (v := nI 0) dX0_odds_127 ki_0 ?_
            exact w_zret dX0_odds_128 rfl (by first | exact narr0 | exact narr1) ⟨by first | (exact congrArg (fun z => some (Value.int z)) (bP_f (by rw [hw]; omega)).symm) | (exact congrArg (fun z => some (Value.int z)) (bP_t hw).symm), _, by first | (rw [hw, if_neg (by omega)]; done) | (rw [hw, if_pos rfl, o_odds, hcl_d, hcl_r, hcl_u, hw9]), H, F⟩
      · have hw : w_odds V x (nI r) (nI u) = wfV V x := by
          unfold w_odds
          by_cases hx9 : inN x (vs V 2)
          · rw [if_pos ⟨hx9, hx_r, hx_u⟩, show wlV V x = wfV V x from if_pos (by omega), if_neg (by omega)]
          · rw [if_neg (fun z => hx9 z.1), wfV, if_neg hx9]
        refine w_iconst (v := nI 0) dX0_odds_42 ki_0 ?_
        exact w_zret dX0_odds_43 rfl (by first | exact narr0 | exact narr1) ⟨by first | (exact congrArg (fun z => some (Value.int z)) (bP_f (by rw [hw]; omega)).symm) | (exact congrArg (fun z => some (Value.int z)) (bP_t hw).symm), _, by first | (rw [hw, if_neg (by omega)]; done) | (rw [hw, if_pos rfl, o_odds, hcl_d, hcl_r, hcl_u, hw9]), H, F⟩
    · have hw : w_odds V x (nI r) z = 1 := by rw [w_odds, if_neg (fun u => h_20 u.2.2)]
      refine w_iconst (v := nI 1) dX0_odds_23 ki_1 ?_
      refine w_goto dX0_odds_24 rfl ?_
      refine pX0_85 (C := C) dX0_odds_32 rfl hx H F ?_
      intro σ H F
      have E := EncD.stH H E
      refine w_aload_n dX0_odds_35 rfl ?_
      refine gst_85 dX0_odds_36 rfl hx H ?_
      refine w_ifN_le dX0_odds_39 rfl (by decide) (fun h_39 => ?_) (fun h_39 => ?_)
      · exact absurd (show _ from h_39) (by decide)
      refine w_iconst (v := nI 0) dX0_odds_42 ki_0 ?_
      exact w_zret dX0_odds_43 rfl (by first | exact narr0 | exact narr1) ⟨by first | (exact congrArg (fun z => some (Value.int z)) (bP_f (by rw [hw]; omega)).symm) | (exact congrArg (fun z => some (Value.int z)) (bP_t hw).symm), _, by first | (rw [hw, if_neg (by omega)]; done) | (rw [hw, if_pos rfl, o_odds, hcl_d, hcl_r, hcl_u, hw9]), H, F⟩
