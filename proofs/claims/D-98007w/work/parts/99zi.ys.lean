set_option maxRecDepth 100000
theorem StO.z9 {C C2 : CS} {b : Nat} (h : StO (oZ C) b) (r : R9 C C2) : StO (oZ C2) b := by
  rcases h with ⟨fs, h⟩ | ⟨fs, h⟩ | ⟨fs, h⟩
  · exact Or.inl ⟨fs, r.z h⟩
  · exact Or.inr (Or.inl ⟨fs, r.z h⟩)
  · exact Or.inr (Or.inr ⟨fs, r.z h⟩)
theorem lo_blk {C C9 C8 C7 : CS} {w : Nat} (l9 : Lk (LoS (w + 1)) C C9) (l8 : Lk (fun i => (i == 21 + w || i == 31 + w) = false ∧ i ≠ 1) C9 C8) (l7 : Lk (fun i => i ≠ 1 ∧ i ≠ 20 + w ∧ i ≠ 30 + w) C8 C7) (hw : w ≤ 3) : Lk (LoS w) C C7 := by
  refine (l9.sub (fun i h => ?_)).trans ((l8.sub (fun i h => ?_)).trans (l7.sub (fun i h => ?_)))
  · unfold LoS at h ⊢
    omega
  · unfold LoS at h
    refine ⟨?_, by omega⟩
    rw [Bool.or_eq_false_iff, beq_eq_false_iff_ne, beq_eq_false_iff_ne]
    omega
  · unfold LoS at h
    omega
theorem lo_pl {C C9 C7 : CS} {w : Nat} (l9 : Lk (fun i => i ≠ 1 ∧ i ≠ 4) C C9) (l7 : Lk (fun i => i ≠ 1 ∧ i ≠ 20 + w ∧ i ≠ 30 + w) C9 C7) (hw : w ≤ 3) : Lk (LoS w) C C7 := by
  refine (l9.sub (fun i h => ?_)).trans (l7.sub (fun i h => ?_))
  · unfold LoS at h
    omega
  · unfold LoS at h
    omega
set_option maxHeartbeats 8000000 in
theorem c_step {g : GG} {C : CS} {X : TX} {t : Tk} {nu du : Int32} {b : Nat} {Hs : HS} {D : DS} {w ci k cap d8 : Nat} {rest : List Value} {f : Nat → Option Nat} (hx : oO C 0 = true) (hT : TxC C X) (hO : OkT9 X t) (hN : NuT t nu) (hB : BeF g C b Hs) (hd9 : 11 ≤ d8) (OD : OkD Hs D) (hw : D.op.length = w) (hw3 : w ≤ 3) (h26 : kix X t ≠ 26 ∨ D.op = []) (B : BkL g C (20 + w) (30 + w) ci k cap rest f) (hr : RsO ci rest) (hk : k ≤ D.ct) (hf : ∀ i, i < k → ∃ a, f i = some a ∧ StO (oZ C) a) (hBl : w < 3 → BlockC g X b Hs w d8) : Cz g miX9_step (d8 + 1) (3 * (ctE (itF X Hs w D t) - D.ct)) (48 * (ctE (itF X Hs w D t) - D.ct)) [.ref (od C 8 1), .ref b, .ref (od C 8 (20 + w)), .int (nI w)] (rdS C X.2 (rqT t nu (nI D.ct) du)) (QSt g C X D w ci k rest f du (itF X Hs w D t)) (EY C (itF X Hs w D t)) := by
  refine Cz.start [some (.ref (od C 8 1)), some (.ref b), some (.ref (od C 8 (20 + w))), some (.int (nI w)), none, none, none] plX9 rfl (Nat.le_of_ble_eq_true rfl) rfl ?_
  intro σ0 σ H F
  have hX9 := hT.1
  have hk31 := kix_le X t
  have hct := OD.2.1
  refine w_aload_n dX9_step_0 rfl ?_
  refine w_ldcS (i := 26) rfl rfl rfl dX9_step_1 ?_
  refine cr_call (As := [_]) (mi := miX9_isWord) dX9_step_3 q727 okX9_isWord clX9 rfl (H.get ce_rd) (show 5 + 1 ≤ (d8 + 1) by omega) (r_isWord (i := 26) (m := 24) (C := C) hx hT hO rfl (by decide) rfl) H rfl rfl (Nat.le_of_ble_eq_true rfl) ?_
  refine w_istore dX9_step_6 rfl (Nat.le_of_ble_eq_true rfl) ls_7_4 ?_
  refine w_iload dX9_step_8 rfl ?_
  refine w_ifB_ne dX9_step_10 rfl (fun h_10 => ?_) (fun h_10 => ?_)
  · refine w_iconst (v := nI 1) dX9_step_22 ki_1 ?_
    refine w_goto dX9_step_23 rfl ?_
    refine w_istore dX9_step_27 rfl (Nat.le_of_ble_eq_true rfl) ls_7_5 ?_
    refine w_aload_n dX9_step_29 rfl ?_
    refine cr_call (As := []) (mi := miX9_acts) dX9_step_30 q833 okX9_acts clX9 rfl (H.get ce_rd) (show 6 + 1 ≤ (d8 + 1) by omega) (r_acts (C := C) hx hT hO) H rfl rfl (Nat.le_of_ble_eq_true rfl) ?_
    refine w_if_ge dX9_step_33 rfl (fun h_33 => ?_) (fun h_33 => ?_)
    · have hact := (actI_ge _ (show kix X t < 31 by omega)).mp h_33
      omega
    · have hact := mt (actI_ge _ (show kix X t < 31 by omega)).mpr h_33
      refine w_iload dX9_step_36 rfl ?_
      refine w_ifN_ne dX9_step_38 rfl (by omega) (fun h_38 => ?_) (fun h_38 => ?_)
      · refine w_aload_n dX9_step_46 rfl ?_
        refine rd_get (f := 5) (C := C) (q := rqT t nu (nI D.ct) du) (v := .int ((nI D.ct))) dX9_step_47 (by decide) q693 H rfl ?_
        refine w_bipush (v := nI 30) dX9_step_50 kb_30 ?_
        refine w_icmpN_ne dX9_step_52 rfl (by omega) (by omega) (fun h_52 => ?_) (fun h_52 => ?_)
        · refine w_iload dX9_step_72 rfl ?_
          refine w_ifN_eq dX9_step_74 rfl (by omega) (fun h_74 => ?_) (fun h_74 => ?_)
          · exact absurd (show _ from h_74) (by decide)
          · refine w_iload_n dX9_step_77 rfl ?_
            refine w_iconst (v := nI 3) dX9_step_78 ki_3 ?_
            refine w_icmpN_ne dX9_step_79 rfl (by omega) (by omega) (fun h_79 => ?_) (fun h_79 => ?_)
            · refine w_aload_n dX9_step_99 rfl ?_
              refine w_dup dX9_step_100 rfl ?_
              refine rd_get (f := 5) (C := C) (q := rqT t nu (nI D.ct) du) (v := .int ((nI D.ct))) dX9_step_101 (by decide) q693 H rfl ?_
              refine w_iconst (v := nI 1) dX9_step_104 ki_1 ?_
              refine w_iaddN dX9_step_105 ?_
              refine rd_put (f := 5) (C := C) (q := rqT t nu (nI D.ct) du) (v := nI (D.ct + 1)) (nI t.fr, nI t.to, nI (so2 t.so), nu, nI (D.ct + 1), du) dX9_step_106 (by decide) q693 rfl rfl rfl H F rfl ?_
              intro σ H F
              refine w_iload dX9_step_109 rfl ?_
              refine w_ifN_eq dX9_step_111 rfl (by omega) (fun h_111 => ?_) (fun h_111 => ?_)
              · exact absurd (show _ from h_111) (by decide)
              · refine w_aload_n dX9_step_114 rfl ?_
                refine w_aload_n dX9_step_115 rfl ?_
                refine w_iload dX9_step_116 rfl ?_
                refine w_iload_n dX9_step_118 rfl ?_
                have hk9 : kix X t = 24 ∨ kix X t = 25 := Or.inl h_10
                have hw2 : w < 3 := by omega
                have hcE := ctE_gt (X := X) (t := t) hB.ok OD hO hw h26 h_52
                refine w_bud (kc2 := 1 + (3 * (ctE (itF X Hs w D t) - (D.ct + 1)) + 2)) (ks2 := 32 + (48 * (ctE (itF X Hs w D t) - (D.ct + 1)) + 11)) (by omega) (by omega) ?_
                refine cy_call (kc := 1) (ks := 32) (As := [_, _, _]) (mi2 := miX9_block) dX9_step_119 q946 okX9_block clX9 rfl (H.get ce_rd) (Nat.le_refl _) (hBl hw2 C D t nu du hx hT hO hN hB OD hw hk9 h_52) rfl H F (show od C 0 5 = od C 0 5 from rfl) (fun C2 h => h) rfl rfl (Nat.le_of_ble_eq_true rfl) ?_
                rintro v119 σ C119 ⟨C9, D9, t9, nu9, ci9, k9, cap9, rest9, f9, q9, hv9, e9, hO9, hN9, hC9, r9, l9, h19, b9, hk9c, hR9, row9, rows9, op9, lt9, O9, bl9⟩ H F
                subst hv9 hC9
                have hx9 := r9.x hx
                have hT9 := r9.T hT
                have h59 : od C9 0 5 = od C 0 5 := r9.1 0 5 (by decide)
                refine w_goto dX9_step_122 rfl ?_
                refine w_astore dX9_step_130 rfl (Nat.le_of_ble_eq_true rfl) ls_7_6 ?_
                refine w_aload_n dX9_step_132 rfl ?_
                refine w_ref h19 ?_
                refine cy_call (kc := 1) (ks := 32) (As := []) (mi2 := miX9_close) dX9_step_133 q793 okX9_close clX9 rfl (H.get ce_rd) (show 3 + 1 ≤ (d8 + 1) by omega) (r_close (C := C9) hx9 hT9 hO9 hN9) rfl H F h59 (fun C2 h => EY.up h r9.Y (fun f z => by rw [e9, z]; rfl)) rfl rfl (Nat.le_of_ble_eq_true rfl) ?_
                intro v133 σ C133 hQ133 H F
                obtain ⟨hv133, t133, nu133, e133, hO133, hc133, hN133⟩ := hQ133
                subst hv133 hc133
                have hlo1 : LoS (w + 1) (20 + w) := Or.inr (Or.inl ⟨by omega, by omega⟩)
                have hlo2 : LoS (w + 1) (30 + w) := Or.inr (Or.inr ⟨by omega, by omega⟩)
                have B9 := B.keep l9 hlo1 hlo2
                refine y_frz (C := C9) (n := X.2) (q := rqT t133 nu133 (nI D9.ct) du) (fun i => i == 21 + w || i == 31 + w) (show (1 == 21 + w || 1 == 31 + w) = false by rw [Bool.or_eq_false_iff, beq_eq_false_iff_ne, beq_eq_false_iff_ne]; exact ⟨by omega, by omega⟩) H F ?_
                intro σ C8 r8 d8' l8 z8 H F
                have p8 : ∀ i, i ≠ 21 + w → i ≠ 31 + w → i ≠ 1 → ((i == 21 + w || i == 31 + w) = false ∧ i ≠ 1) := fun i a1 a2 a3 => ⟨by simp [a1, a2], a3⟩
                have B8 := B9.keep l8 (p8 _ (by omega) (by omega) (by omega)) (p8 _ (by omega) (by omega) (by omega))
                have za := z8 (21 + w) _ (by simp) b9.1
                have zb := z8 (31 + w) _ (by simp) b9.2.1
                have hop2 : (dAdd D9 26 (26, 0, 0, 0)) = ⟨D9.n + 1, up4 (upR D9.r D9.n (row4 (26, 0, 0, 0) D.n)) D.n D9.n, D.op, D9.ct⟩ := by
                  unfold dAdd
                  rw [if_neg (by omega), if_pos rfl, op9]
                  rfl
                have rw3 : ∀ j, D.n + 1 ≤ j → j < D9.n → pr (pgD (dAdd D9 26 (26, 0, 0, 0))) j = pr (pgD D9) j := fun j a1 a2 => by
                  rw [hop2]
                  show up4 (upR D9.r D9.n (row4 (26, 0, 0, 0) D.n)) D.n D9.n j = D9.r j
                  rw [up4_fn (by omega)]
                  exact upR_ne (by omega)
                have rn : ∀ j, j ≠ 4 → pr (pgD (dAdd D9 26 (26, 0, 0, 0))) D.n j = row4 q9 0 j := fun j hj => by
                  rw [hop2]
                  show up4 (upR D9.r D9.n (row4 (26, 0, 0, 0) D.n)) D.n D9.n D.n j = _
                  rw [up4_ne (Or.inr hj), upR_ne (by omega), row9]
                have rn4 : pr (pgD (dAdd D9 26 (26, 0, 0, 0))) D.n 4 = D9.n := by
                  rw [hop2]
                  exact up4_eq
                have bz : BlkZ (oZ C8) (od C9 8 (21 + w)) (od C9 8 (31 + w)) k9 (pr (pgD (dAdd D9 26 (26, 0, 0, 0))) D.n) := hR9.Z za (rn 0 (by decide)) (rn 1 (by decide)) (rn 2 (by decide)) (rn 5 (by decide))
                have bl8 : Bld g (pgD (dAdd D9 26 (26, 0, 0, 0))) (oZ C8) (3 - w) (D.n + 1) D9.n k9 f9 := Bld.mono rw3 r8.2.2.2.2.2.2.2.2.2 bl9
                have hk30 := O9.2.1
                have hkc9 := b9.2.2.1
                have hcp9 := b9.2.2.2
                have sz : StZ g (pgD (dAdd D9 26 (26, 0, 0, 0))) (oZ C8) (4 - w) (od C9 8 (21 + w)) D.n := by
                  rw [show 4 - w = (3 - w) + 1 by omega]
                  refine Or.inr ⟨_, k9, bz, cap9, f9, zb, hkc9, by omega, by omega, ?_⟩
                  rw [rn4]
                  exact bl8
                have nx9 : nxt (pgD (dAdd D9 26 (26, 0, 0, 0))) D.n = (dAdd D9 26 (26, 0, 0, 0)).n := by
                  unfold nxt
                  rw [if_pos bz.b, rn4, hop2]
                have hct9 : (dAdd D9 26 (26, 0, 0, 0)).ct = D9.ct := by rw [hop2]
                have hd8 : od C8 8 (20 + w) = od C 8 (20 + w) := (congrFun (congrFun d8' 8) _).trans (l9 _ hlo1).2
                refine w_aload_n dX9_step_136 rfl ?_
                refine w_ref hd8 ?_
                refine w_aload dX9_step_137 rfl ?_
                refine y_add (kc := 0) (ks := 0) (C := C8) (n := X.2) (q := rqT t133 nu133 (nI D9.ct) du) (u := 20 + w) (v := 30 + w) (by omega) (by omega) (by omega) hr B8 (by omega) (fun i hi => by obtain ⟨a1, a2, a3⟩ := hf i hi; exact ⟨a1, a2, a3.z9 (r9.trans r8)⟩) sz.o H F dX9_step_139 rfl (show 2 ≤ d8 + 1 by omega) ?_
                intro σ C7 r7 l7 du7 d17 z7 ⟨cap7, f7, b7, fs7, fk7⟩ H F
                exact w_vret dX9_step_142 rfl ⟨_, by exact ⟨rfl, C7, dAdd D9 26 (26, 0, 0, 0), t133, _, _, cap7, f7, by rw [e9, e133]; rfl, hO133, hN133, by rw [hct9], r9.trans (r8.trans r7), lo_blk l9 l8 l7 (by omega), d17.trans ((congrFun (congrFun d8' 8) 1).trans h19), du7.trans hd8, b7, fs7, fk7, by rw [z7]; exact sz, nx9⟩, H, F⟩
            · refine w_aload_n dX9_step_82 rfl ?_
              refine rd_get (f := 7) (C := C) (q := rqT t nu (nI D.ct) du) (v := .ref (od C 0 30)) dX9_step_83 (by decide) q696 H rfl ?_
              refine rd_55 (C := C) (q := rqT t nu (nI D.ct) du) dX9_step_86 rfl hx H ?_
              refine w_bipush (v := nI 7) dX9_step_89 kb_7 ?_
              refine w_aload_n dX9_step_91 rfl ?_
              refine rd_get (f := 1) (C := C) (q := rqT t nu (nI D.ct) du) (v := .int (nI t.fr)) dX9_step_92 (by decide) q689 H rfl ?_
              refine cp_call (kc := (3 * (ctE (itF X Hs w D t) - D.ct))) (ks := (48 * (ctE (itF X Hs w D t) - D.ct))) (As := [_, _]) (mi := miX2_at) dX9_step_95 q783 okX2_at clX2 rfl (H.get (ce_bad (C := rdS C X.2 (rqT t nu (nI D.ct) du)) hx)) (show 1 + 1 ≤ (d8 + 1) by omega) (r_at (C := rdS C X.2 (rqT t nu (nI D.ct) du)) hx) H F rfl rfl (Nat.le_of_ble_eq_true rfl) ?_
              intro σ C95 hC95 H F
              change C95 = bdS (rdS C X.2 (rqT t nu (nI D.ct) du)) (7, t.fr) at hC95
              exact cy_throw (C1 := C95) dX9_step_98 rfl (by rw [hC95]; exact hx) H F (bd_rd6 hC95) (rd_5 (show od C 0 5 = od C 0 5 from rfl)) (EY.mk (it_no hB.ok OD hO (ps_3 (fun z => by rcases z with z | z <;> omega) h_52 (by omega) (by omega))) hC95 (R9.refl (C := C)).Y)
        · refine w_aload_n dX9_step_55 rfl ?_
          refine rd_get (f := 7) (C := C) (q := rqT t nu (nI D.ct) du) (v := .ref (od C 0 30)) dX9_step_56 (by decide) q696 H rfl ?_
          refine rd_55 (C := C) (q := rqT t nu (nI D.ct) du) dX9_step_59 rfl hx H ?_
          refine w_bipush (v := nI 6) dX9_step_62 kb_6 ?_
          refine w_aload_n dX9_step_64 rfl ?_
          refine rd_get (f := 1) (C := C) (q := rqT t nu (nI D.ct) du) (v := .int (nI t.fr)) dX9_step_65 (by decide) q689 H rfl ?_
          refine cp_call (kc := (3 * (ctE (itF X Hs w D t) - D.ct))) (ks := (48 * (ctE (itF X Hs w D t) - D.ct))) (As := [_, _]) (mi := miX2_at) dX9_step_68 q783 okX2_at clX2 rfl (H.get (ce_bad (C := rdS C X.2 (rqT t nu (nI D.ct) du)) hx)) (show 1 + 1 ≤ (d8 + 1) by omega) (r_at (C := rdS C X.2 (rqT t nu (nI D.ct) du)) hx) H F rfl rfl (Nat.le_of_ble_eq_true rfl) ?_
          intro σ C68 hC68 H F
          change C68 = bdS (rdS C X.2 (rqT t nu (nI D.ct) du)) (6, t.fr) at hC68
          exact cy_throw (C1 := C68) dX9_step_71 rfl (by rw [hC68]; exact hx) H F (bd_rd6 hC68) (rd_5 (show od C 0 5 = od C 0 5 from rfl)) (EY.mk (it_no hB.ok OD hO (ps_2 (fun z => by rcases z with z | z <;> omega) (by omega) h_52)) hC68 (R9.refl (C := C)).Y)
      · exact absurd (show _ from h_38) (by decide)
  · refine w_aload_n dX9_step_13 rfl ?_
    refine w_ldcS (i := 29) rfl rfl rfl dX9_step_14 ?_
    refine cr_call (As := [_]) (mi := miX9_isWord) dX9_step_16 q727 okX9_isWord clX9 rfl (H.get ce_rd) (show 5 + 1 ≤ (d8 + 1) by omega) (r_isWord (i := 29) (m := 25) (C := C) hx hT hO rfl (by decide) rfl) H rfl rfl (Nat.le_of_ble_eq_true rfl) ?_
    refine w_ifB_eq dX9_step_19 rfl (fun h_19 => ?_) (fun h_19 => ?_)
    · refine w_iconst (v := nI 0) dX9_step_26 ki_0 ?_
      refine w_istore dX9_step_27 rfl (Nat.le_of_ble_eq_true rfl) ls_7_5 ?_
      refine w_aload_n dX9_step_29 rfl ?_
      refine cr_call (As := []) (mi := miX9_acts) dX9_step_30 q833 okX9_acts clX9 rfl (H.get ce_rd) (show 6 + 1 ≤ (d8 + 1) by omega) (r_acts (C := C) hx hT hO) H rfl rfl (Nat.le_of_ble_eq_true rfl) ?_
      refine w_if_ge dX9_step_33 rfl (fun h_33 => ?_) (fun h_33 => ?_)
      · have hact := (actI_ge _ (show kix X t < 31 by omega)).mp h_33
        refine w_aload_n dX9_step_46 rfl ?_
        refine rd_get (f := 5) (C := C) (q := rqT t nu (nI D.ct) du) (v := .int ((nI D.ct))) dX9_step_47 (by decide) q693 H rfl ?_
        refine w_bipush (v := nI 30) dX9_step_50 kb_30 ?_
        refine w_icmpN_ne dX9_step_52 rfl (by omega) (by omega) (fun h_52 => ?_) (fun h_52 => ?_)
        · refine w_iload dX9_step_72 rfl ?_
          refine w_ifN_eq dX9_step_74 rfl (by omega) (fun h_74 => ?_) (fun h_74 => ?_)
          · refine w_aload_n dX9_step_99 rfl ?_
            refine w_dup dX9_step_100 rfl ?_
            refine rd_get (f := 5) (C := C) (q := rqT t nu (nI D.ct) du) (v := .int ((nI D.ct))) dX9_step_101 (by decide) q693 H rfl ?_
            refine w_iconst (v := nI 1) dX9_step_104 ki_1 ?_
            refine w_iaddN dX9_step_105 ?_
            refine rd_put (f := 5) (C := C) (q := rqT t nu (nI D.ct) du) (v := nI (D.ct + 1)) (nI t.fr, nI t.to, nI (so2 t.so), nu, nI (D.ct + 1), du) dX9_step_106 (by decide) q693 rfl rfl rfl H F rfl ?_
            intro σ H F
            refine w_iload dX9_step_109 rfl ?_
            refine w_ifN_eq dX9_step_111 rfl (by omega) (fun h_111 => ?_) (fun h_111 => ?_)
            · refine w_aload_n dX9_step_125 rfl ?_
              refine w_aload_n dX9_step_126 rfl ?_
              have hpl : kix X t = 1 ∨ (18 ≤ kix X t ∧ kix X t ≤ 23) ∨ kix X t = 27 := hact
              have hcE := ctE_gt (X := X) (t := t) hB.ok OD hO hw h26 h_52
              have eit := it_pl (X := X) (t := t) hB.ok OD hO hpl h_52
              rw [hw] at eit
              refine w_bud (kc2 := 1 + 1) (ks2 := 32 + 3) (by omega) (by omega) ?_
              refine cy_call (kc := 1) (ks := 32) (As := [_]) (mi2 := miX9_plain) dX9_step_127 q980 okX9_plain clX9 rfl (H.get ce_rd) (show 10 + 1 ≤ d8 + 1 by omega) (y_plain (C := C) hx hT hO hN hB hpl) rfl H F (show od C 0 5 = od C 0 5 from rfl) (fun C2 h => EY.on h (R9.refl (C := C)).Y (fun f z => by rw [eit, z]; rfl)) rfl rfl (Nat.le_of_ble_eq_true rfl) ?_
              rintro v127 σ C127 ⟨C9, q9, t9, nu9, a9, hv9, e9, hO9, hN9, hC9, r9, l9, h19, act9⟩ H F
              subst hv9 hC9
              have hx9 := r9.x hx
              have hT9 := r9.T hT
              have h59 : od C9 0 5 = od C 0 5 := r9.1 0 5 (by decide)
              refine w_astore dX9_step_130 rfl (Nat.le_of_ble_eq_true rfl) ls_7_6 ?_
              refine w_aload_n dX9_step_132 rfl ?_
              refine w_ref h19 ?_
              refine cy_call (kc := 1) (ks := 32) (As := []) (mi2 := miX9_close) dX9_step_133 q793 okX9_close clX9 rfl (H.get ce_rd) (show 3 + 1 ≤ (d8 + 1) by omega) (r_close (C := C9) hx9 hT9 hO9 hN9) rfl H F h59 (fun C2 h => EY.up h r9.Y (fun f z => by rw [eit, e9, ob, z]; rfl)) rfl rfl (Nat.le_of_ble_eq_true rfl) ?_
              intro v133 σ C133 hQ133 H F
              obtain ⟨hv133, t133, nu133, e133, hO133, hc133, hN133⟩ := hQ133
              subst hv133 hc133
              have hlo1 : (20 + w) ≠ 1 ∧ (20 + w) ≠ 4 := by omega
              have hlo2 : (30 + w) ≠ 1 ∧ (30 + w) ≠ 4 := by omega
              have B8 := B.keep l9 hlo1 hlo2
              have hd8 : od C9 8 (20 + w) = od C 8 (20 + w) := (l9 _ hlo1).2
              have hop2 : dAdd D (kix X t) q9 = ⟨D.n + 1, upR D.r D.n (row4 q9 0), D.op, D.ct + 1⟩ := dAdd_pl (by omega)
              have rn : pr (pgD (dAdd D (kix X t) q9)) D.n = row4 q9 0 := by
                rw [hop2]
                exact upR_eq
              have sz : StZ g (pgD (dAdd D (kix X t) q9)) (oZ C9) (4 - w) a9 D.n := by
                rw [show 4 - w = (3 - w) + 1 by omega]
                refine Or.inl ?_
                rw [rn]
                exact act9
              have nx9 : nxt (pgD (dAdd D (kix X t) q9)) D.n = (dAdd D (kix X t) q9).n := by
                obtain ⟨x1, y1, z1, p1, -⟩ := act9
                unfold nxt
                rw [rn, if_neg (isPl_nb p1), hop2]
              have hct9 : (dAdd D (kix X t) q9).ct = D.ct + 1 := by rw [hop2]
              refine w_aload_n dX9_step_136 rfl ?_
              refine w_ref hd8 ?_
              refine w_aload dX9_step_137 rfl ?_
              refine y_add (kc := 0) (ks := 0) (C := C9) (n := X.2) (q := rqT t133 nu133 (nI (D.ct + 1)) du) (u := 20 + w) (v := 30 + w) (by omega) (by omega) (by omega) hr B8 (by omega) (fun i hi => by obtain ⟨a1, a2, a3⟩ := hf i hi; exact ⟨a1, a2, a3.z9 r9⟩) sz.o H F dX9_step_139 rfl (show 2 ≤ d8 + 1 by omega) ?_
              intro σ C7 r7 l7 du7 d17 z7 ⟨cap7, f7, b7, fs7, fk7⟩ H F
              exact w_vret dX9_step_142 rfl ⟨_, by exact ⟨rfl, C7, dAdd D (kix X t) q9, t133, _, _, cap7, f7, by rw [eit, e9, ob, e133]; rfl, hO133, hN133, by rw [hct9], r9.trans r7, lo_pl l9 l7 (by omega), d17.trans h19, du7.trans hd8, b7, fs7, fk7, by rw [z7]; exact sz, nx9⟩, H, F⟩
            · exact absurd (show _ from h_111) (by decide)
          · exact absurd (show _ from h_74) (by decide)
        · refine w_aload_n dX9_step_55 rfl ?_
          refine rd_get (f := 7) (C := C) (q := rqT t nu (nI D.ct) du) (v := .ref (od C 0 30)) dX9_step_56 (by decide) q696 H rfl ?_
          refine rd_55 (C := C) (q := rqT t nu (nI D.ct) du) dX9_step_59 rfl hx H ?_
          refine w_bipush (v := nI 6) dX9_step_62 kb_6 ?_
          refine w_aload_n dX9_step_64 rfl ?_
          refine rd_get (f := 1) (C := C) (q := rqT t nu (nI D.ct) du) (v := .int (nI t.fr)) dX9_step_65 (by decide) q689 H rfl ?_
          refine cp_call (kc := (3 * (ctE (itF X Hs w D t) - D.ct))) (ks := (48 * (ctE (itF X Hs w D t) - D.ct))) (As := [_, _]) (mi := miX2_at) dX9_step_68 q783 okX2_at clX2 rfl (H.get (ce_bad (C := rdS C X.2 (rqT t nu (nI D.ct) du)) hx)) (show 1 + 1 ≤ (d8 + 1) by omega) (r_at (C := rdS C X.2 (rqT t nu (nI D.ct) du)) hx) H F rfl rfl (Nat.le_of_ble_eq_true rfl) ?_
          intro σ C68 hC68 H F
          change C68 = bdS (rdS C X.2 (rqT t nu (nI D.ct) du)) (6, t.fr) at hC68
          exact cy_throw (C1 := C68) dX9_step_71 rfl (by rw [hC68]; exact hx) H F (bd_rd6 hC68) (rd_5 (show od C 0 5 = od C 0 5 from rfl)) (EY.mk (it_no hB.ok OD hO (ps_2 (fun z => by rcases z with z | z <;> omega) (by omega) h_52)) hC68 (R9.refl (C := C)).Y)
      · have hact := mt (actI_ge _ (show kix X t < 31 by omega)).mpr h_33
        refine w_iload dX9_step_36 rfl ?_
        refine w_ifN_ne dX9_step_38 rfl (by omega) (fun h_38 => ?_) (fun h_38 => ?_)
        · exact absurd (show _ from h_38) (by decide)
        · refine w_aload_n dX9_step_41 rfl ?_
          refine cp_call (kc := (3 * (ctE (itF X Hs w D t) - D.ct))) (ks := (48 * (ctE (itF X Hs w D t) - D.ct))) (As := []) (mi := miX9_wrong) dX9_step_42 q779 okX9_wrong clX9 rfl (H.get ce_rd) (show 2 + 1 ≤ (d8 + 1) by omega) (r_wrong (C := C) hx hT hO) H F rfl rfl (Nat.le_of_ble_eq_true rfl) ?_
          intro σ C42 hC42 H F
          exact cy_throw (C1 := C42) dX9_step_45 rfl (by rw [hC42]; exact hx) H F (bd_rd5 hC42) (show od C 0 5 = od C 0 5 from rfl) (EY.mk (it_no hB.ok OD hO (ps_1 (by by_cases z : kix X t = 26; exact Or.inr ⟨z, (by rcases h26 with h | h; exact absurd z h; exact h)⟩; exact Or.inl ⟨by omega, by omega⟩))) hC42 (R9.refl (C := C)).Y)
    · refine w_iconst (v := nI 1) dX9_step_22 ki_1 ?_
      refine w_goto dX9_step_23 rfl ?_
      refine w_istore dX9_step_27 rfl (Nat.le_of_ble_eq_true rfl) ls_7_5 ?_
      refine w_aload_n dX9_step_29 rfl ?_
      refine cr_call (As := []) (mi := miX9_acts) dX9_step_30 q833 okX9_acts clX9 rfl (H.get ce_rd) (show 6 + 1 ≤ (d8 + 1) by omega) (r_acts (C := C) hx hT hO) H rfl rfl (Nat.le_of_ble_eq_true rfl) ?_
      refine w_if_ge dX9_step_33 rfl (fun h_33 => ?_) (fun h_33 => ?_)
      · have hact := (actI_ge _ (show kix X t < 31 by omega)).mp h_33
        omega
      · have hact := mt (actI_ge _ (show kix X t < 31 by omega)).mpr h_33
        refine w_iload dX9_step_36 rfl ?_
        refine w_ifN_ne dX9_step_38 rfl (by omega) (fun h_38 => ?_) (fun h_38 => ?_)
        · refine w_aload_n dX9_step_46 rfl ?_
          refine rd_get (f := 5) (C := C) (q := rqT t nu (nI D.ct) du) (v := .int ((nI D.ct))) dX9_step_47 (by decide) q693 H rfl ?_
          refine w_bipush (v := nI 30) dX9_step_50 kb_30 ?_
          refine w_icmpN_ne dX9_step_52 rfl (by omega) (by omega) (fun h_52 => ?_) (fun h_52 => ?_)
          · refine w_iload dX9_step_72 rfl ?_
            refine w_ifN_eq dX9_step_74 rfl (by omega) (fun h_74 => ?_) (fun h_74 => ?_)
            · exact absurd (show _ from h_74) (by decide)
            · refine w_iload_n dX9_step_77 rfl ?_
              refine w_iconst (v := nI 3) dX9_step_78 ki_3 ?_
              refine w_icmpN_ne dX9_step_79 rfl (by omega) (by omega) (fun h_79 => ?_) (fun h_79 => ?_)
              · refine w_aload_n dX9_step_99 rfl ?_
                refine w_dup dX9_step_100 rfl ?_
                refine rd_get (f := 5) (C := C) (q := rqT t nu (nI D.ct) du) (v := .int ((nI D.ct))) dX9_step_101 (by decide) q693 H rfl ?_
                refine w_iconst (v := nI 1) dX9_step_104 ki_1 ?_
                refine w_iaddN dX9_step_105 ?_
                refine rd_put (f := 5) (C := C) (q := rqT t nu (nI D.ct) du) (v := nI (D.ct + 1)) (nI t.fr, nI t.to, nI (so2 t.so), nu, nI (D.ct + 1), du) dX9_step_106 (by decide) q693 rfl rfl rfl H F rfl ?_
                intro σ H F
                refine w_iload dX9_step_109 rfl ?_
                refine w_ifN_eq dX9_step_111 rfl (by omega) (fun h_111 => ?_) (fun h_111 => ?_)
                · exact absurd (show _ from h_111) (by decide)
                · refine w_aload_n dX9_step_114 rfl ?_
                  refine w_aload_n dX9_step_115 rfl ?_
                  refine w_iload dX9_step_116 rfl ?_
                  refine w_iload_n dX9_step_118 rfl ?_
                  have hk9 : kix X t = 24 ∨ kix X t = 25 := Or.inr h_19
                  have hw2 : w < 3 := by omega
                  have hcE := ctE_gt (X := X) (t := t) hB.ok OD hO hw h26 h_52
                  refine w_bud (kc2 := 1 + (3 * (ctE (itF X Hs w D t) - (D.ct + 1)) + 2)) (ks2 := 32 + (48 * (ctE (itF X Hs w D t) - (D.ct + 1)) + 11)) (by omega) (by omega) ?_
                  refine cy_call (kc := 1) (ks := 32) (As := [_, _, _]) (mi2 := miX9_block) dX9_step_119 q946 okX9_block clX9 rfl (H.get ce_rd) (Nat.le_refl _) (hBl hw2 C D t nu du hx hT hO hN hB OD hw hk9 h_52) rfl H F (show od C 0 5 = od C 0 5 from rfl) (fun C2 h => h) rfl rfl (Nat.le_of_ble_eq_true rfl) ?_
                  rintro v119 σ C119 ⟨C9, D9, t9, nu9, ci9, k9, cap9, rest9, f9, q9, hv9, e9, hO9, hN9, hC9, r9, l9, h19, b9, hk9c, hR9, row9, rows9, op9, lt9, O9, bl9⟩ H F
                  subst hv9 hC9
                  have hx9 := r9.x hx
                  have hT9 := r9.T hT
                  have h59 : od C9 0 5 = od C 0 5 := r9.1 0 5 (by decide)
                  refine w_goto dX9_step_122 rfl ?_
                  refine w_astore dX9_step_130 rfl (Nat.le_of_ble_eq_true rfl) ls_7_6 ?_
                  refine w_aload_n dX9_step_132 rfl ?_
                  refine w_ref h19 ?_
                  refine cy_call (kc := 1) (ks := 32) (As := []) (mi2 := miX9_close) dX9_step_133 q793 okX9_close clX9 rfl (H.get ce_rd) (show 3 + 1 ≤ (d8 + 1) by omega) (r_close (C := C9) hx9 hT9 hO9 hN9) rfl H F h59 (fun C2 h => EY.up h r9.Y (fun f z => by rw [e9, z]; rfl)) rfl rfl (Nat.le_of_ble_eq_true rfl) ?_
                  intro v133 σ C133 hQ133 H F
                  obtain ⟨hv133, t133, nu133, e133, hO133, hc133, hN133⟩ := hQ133
                  subst hv133 hc133
                  have hlo1 : LoS (w + 1) (20 + w) := Or.inr (Or.inl ⟨by omega, by omega⟩)
                  have hlo2 : LoS (w + 1) (30 + w) := Or.inr (Or.inr ⟨by omega, by omega⟩)
                  have B9 := B.keep l9 hlo1 hlo2
                  refine y_frz (C := C9) (n := X.2) (q := rqT t133 nu133 (nI D9.ct) du) (fun i => i == 21 + w || i == 31 + w) (show (1 == 21 + w || 1 == 31 + w) = false by rw [Bool.or_eq_false_iff, beq_eq_false_iff_ne, beq_eq_false_iff_ne]; exact ⟨by omega, by omega⟩) H F ?_
                  intro σ C8 r8 d8' l8 z8 H F
                  have p8 : ∀ i, i ≠ 21 + w → i ≠ 31 + w → i ≠ 1 → ((i == 21 + w || i == 31 + w) = false ∧ i ≠ 1) := fun i a1 a2 a3 => ⟨by simp [a1, a2], a3⟩
                  have B8 := B9.keep l8 (p8 _ (by omega) (by omega) (by omega)) (p8 _ (by omega) (by omega) (by omega))
                  have za := z8 (21 + w) _ (by simp) b9.1
                  have zb := z8 (31 + w) _ (by simp) b9.2.1
                  have hop2 : (dAdd D9 26 (26, 0, 0, 0)) = ⟨D9.n + 1, up4 (upR D9.r D9.n (row4 (26, 0, 0, 0) D.n)) D.n D9.n, D.op, D9.ct⟩ := by
                    unfold dAdd
                    rw [if_neg (by omega), if_pos rfl, op9]
                    rfl
                  have rw3 : ∀ j, D.n + 1 ≤ j → j < D9.n → pr (pgD (dAdd D9 26 (26, 0, 0, 0))) j = pr (pgD D9) j := fun j a1 a2 => by
                    rw [hop2]
                    show up4 (upR D9.r D9.n (row4 (26, 0, 0, 0) D.n)) D.n D9.n j = D9.r j
                    rw [up4_fn (by omega)]
                    exact upR_ne (by omega)
                  have rn : ∀ j, j ≠ 4 → pr (pgD (dAdd D9 26 (26, 0, 0, 0))) D.n j = row4 q9 0 j := fun j hj => by
                    rw [hop2]
                    show up4 (upR D9.r D9.n (row4 (26, 0, 0, 0) D.n)) D.n D9.n D.n j = _
                    rw [up4_ne (Or.inr hj), upR_ne (by omega), row9]
                  have rn4 : pr (pgD (dAdd D9 26 (26, 0, 0, 0))) D.n 4 = D9.n := by
                    rw [hop2]
                    exact up4_eq
                  have bz : BlkZ (oZ C8) (od C9 8 (21 + w)) (od C9 8 (31 + w)) k9 (pr (pgD (dAdd D9 26 (26, 0, 0, 0))) D.n) := hR9.Z za (rn 0 (by decide)) (rn 1 (by decide)) (rn 2 (by decide)) (rn 5 (by decide))
                  have bl8 : Bld g (pgD (dAdd D9 26 (26, 0, 0, 0))) (oZ C8) (3 - w) (D.n + 1) D9.n k9 f9 := Bld.mono rw3 r8.2.2.2.2.2.2.2.2.2 bl9
                  have hk30 := O9.2.1
                  have hkc9 := b9.2.2.1
                  have hcp9 := b9.2.2.2
                  have sz : StZ g (pgD (dAdd D9 26 (26, 0, 0, 0))) (oZ C8) (4 - w) (od C9 8 (21 + w)) D.n := by
                    rw [show 4 - w = (3 - w) + 1 by omega]
                    refine Or.inr ⟨_, k9, bz, cap9, f9, zb, hkc9, by omega, by omega, ?_⟩
                    rw [rn4]
                    exact bl8
                  have nx9 : nxt (pgD (dAdd D9 26 (26, 0, 0, 0))) D.n = (dAdd D9 26 (26, 0, 0, 0)).n := by
                    unfold nxt
                    rw [if_pos bz.b, rn4, hop2]
                  have hct9 : (dAdd D9 26 (26, 0, 0, 0)).ct = D9.ct := by rw [hop2]
                  have hd8 : od C8 8 (20 + w) = od C 8 (20 + w) := (congrFun (congrFun d8' 8) _).trans (l9 _ hlo1).2
                  refine w_aload_n dX9_step_136 rfl ?_
                  refine w_ref hd8 ?_
                  refine w_aload dX9_step_137 rfl ?_
                  refine y_add (kc := 0) (ks := 0) (C := C8) (n := X.2) (q := rqT t133 nu133 (nI D9.ct) du) (u := 20 + w) (v := 30 + w) (by omega) (by omega) (by omega) hr B8 (by omega) (fun i hi => by obtain ⟨a1, a2, a3⟩ := hf i hi; exact ⟨a1, a2, a3.z9 (r9.trans r8)⟩) sz.o H F dX9_step_139 rfl (show 2 ≤ d8 + 1 by omega) ?_
                  intro σ C7 r7 l7 du7 d17 z7 ⟨cap7, f7, b7, fs7, fk7⟩ H F
                  exact w_vret dX9_step_142 rfl ⟨_, by exact ⟨rfl, C7, dAdd D9 26 (26, 0, 0, 0), t133, _, _, cap7, f7, by rw [e9, e133]; rfl, hO133, hN133, by rw [hct9], r9.trans (r8.trans r7), lo_blk l9 l8 l7 (by omega), d17.trans ((congrFun (congrFun d8' 8) 1).trans h19), du7.trans hd8, b7, fs7, fk7, by rw [z7]; exact sz, nx9⟩, H, F⟩
              · refine w_aload_n dX9_step_82 rfl ?_
                refine rd_get (f := 7) (C := C) (q := rqT t nu (nI D.ct) du) (v := .ref (od C 0 30)) dX9_step_83 (by decide) q696 H rfl ?_
                refine rd_55 (C := C) (q := rqT t nu (nI D.ct) du) dX9_step_86 rfl hx H ?_
                refine w_bipush (v := nI 7) dX9_step_89 kb_7 ?_
                refine w_aload_n dX9_step_91 rfl ?_
                refine rd_get (f := 1) (C := C) (q := rqT t nu (nI D.ct) du) (v := .int (nI t.fr)) dX9_step_92 (by decide) q689 H rfl ?_
                refine cp_call (kc := (3 * (ctE (itF X Hs w D t) - D.ct))) (ks := (48 * (ctE (itF X Hs w D t) - D.ct))) (As := [_, _]) (mi := miX2_at) dX9_step_95 q783 okX2_at clX2 rfl (H.get (ce_bad (C := rdS C X.2 (rqT t nu (nI D.ct) du)) hx)) (show 1 + 1 ≤ (d8 + 1) by omega) (r_at (C := rdS C X.2 (rqT t nu (nI D.ct) du)) hx) H F rfl rfl (Nat.le_of_ble_eq_true rfl) ?_
                intro σ C95 hC95 H F
                change C95 = bdS (rdS C X.2 (rqT t nu (nI D.ct) du)) (7, t.fr) at hC95
                exact cy_throw (C1 := C95) dX9_step_98 rfl (by rw [hC95]; exact hx) H F (bd_rd6 hC95) (rd_5 (show od C 0 5 = od C 0 5 from rfl)) (EY.mk (it_no hB.ok OD hO (ps_3 (fun z => by rcases z with z | z <;> omega) h_52 (by omega) (by omega))) hC95 (R9.refl (C := C)).Y)
          · refine w_aload_n dX9_step_55 rfl ?_
            refine rd_get (f := 7) (C := C) (q := rqT t nu (nI D.ct) du) (v := .ref (od C 0 30)) dX9_step_56 (by decide) q696 H rfl ?_
            refine rd_55 (C := C) (q := rqT t nu (nI D.ct) du) dX9_step_59 rfl hx H ?_
            refine w_bipush (v := nI 6) dX9_step_62 kb_6 ?_
            refine w_aload_n dX9_step_64 rfl ?_
            refine rd_get (f := 1) (C := C) (q := rqT t nu (nI D.ct) du) (v := .int (nI t.fr)) dX9_step_65 (by decide) q689 H rfl ?_
            refine cp_call (kc := (3 * (ctE (itF X Hs w D t) - D.ct))) (ks := (48 * (ctE (itF X Hs w D t) - D.ct))) (As := [_, _]) (mi := miX2_at) dX9_step_68 q783 okX2_at clX2 rfl (H.get (ce_bad (C := rdS C X.2 (rqT t nu (nI D.ct) du)) hx)) (show 1 + 1 ≤ (d8 + 1) by omega) (r_at (C := rdS C X.2 (rqT t nu (nI D.ct) du)) hx) H F rfl rfl (Nat.le_of_ble_eq_true rfl) ?_
            intro σ C68 hC68 H F
            change C68 = bdS (rdS C X.2 (rqT t nu (nI D.ct) du)) (6, t.fr) at hC68
            exact cy_throw (C1 := C68) dX9_step_71 rfl (by rw [hC68]; exact hx) H F (bd_rd6 hC68) (rd_5 (show od C 0 5 = od C 0 5 from rfl)) (EY.mk (it_no hB.ok OD hO (ps_2 (fun z => by rcases z with z | z <;> omega) (by omega) h_52)) hC68 (R9.refl (C := C)).Y)
        · exact absurd (show _ from h_38) (by decide)
/-- the steps within a block -/
theorem block_loop {g : GG} {C : CS} {X : TX} {b w d8 a9 ci mc ms : Nat} {Hs : HS} {D : DS} {du : Int32} {q : RW4} {rest : List Value} {r : PR (DS × Tk)} {σ0 : PH} {q0 : RQ} {yy : Option Value} (hx : oO C 0 = true) (hT : TxC C X) (hB : BeF g C b Hs) (hw : D.op.length = w) (hw3 : w < 3) (hd9 : 11 ≤ d8) (hR : BlkR q ci rest) (hS : StepC g X b Hs (w + 1) d8) : ∀ (n : Nat) (C1 : CS) (D1 : DS) (t1 : Tk) (nu1 : Int32) (k cap : Nat) (f : Nat → Option Nat) (σ : PH), X.2 - t1.fr < n → R9 C C1 → Lk (LoS (w + 1)) C C1 → od C1 8 1 = od C 8 1 → od C1 8 (21 + w) = a9 → BkL g C1 (21 + w) (31 + w) ci k cap rest f → k ≤ D1.ct → OkT9 X t1 → NuT t1 nu1 → OkD Hs D1 → D1.op = D.n :: D.op → (∀ j, j < D.n → D1.r j = D.r j) → D1.r D.n = row4 q 0 → D.n < D1.n → Bld g (pgD D1) (oZ C1) (3 - w) (D.n + 1) D1.n k f → itF X Hs w D1 t1 = r → Hold g σ (rdS C1 X.2 (rqT t1 nu1 (nI D1.ct) du)) → Fr σ0 σ →
    Wp g (mtX g miX9_block (d8 + 1) mc ms σ0 (rdS C X.2 q0) (QBl g C X D w du Hs r) (EY C r)) (3 * (ctE r - D1.ct)) (48 * (ctE r - D1.ct)) 36 [some (.ref (od C 8 1)), some (.ref b), yy, some (.int (nI w)), some (.ref a9)] [] σ := by
  intro n
  induction n with
  | zero => intro C1 D1 t1 nu1 k cap f σ h; exact absurd h (Nat.not_lt_zero _)
  | succ n ih =>
    intro C1 D1 t1 nu1 k cap f σ hn r1 l1 h1 ha B1 hk hO hN O1 hop hrows hrow hlt bl hr H F
    have hx1 := r1.x hx
    have hT1 := r1.T hT
    have hB1 := hB.r9 r1
    have h5 : od C1 0 5 = od C 0 5 := r1.1 0 5 (by decide)
    have hl1 : D1.op.length = w + 1 := by rw [hop, List.length_cons, hw]
    refine w_aload_n dX9_block_36 rfl ?_
    refine w_ref h1 ?_
    refine w_ldcS (i := 30) rfl rfl rfl dX9_block_37 ?_
    refine cr_call (As := [_]) (mi := miX9_isWord) dX9_block_39 q727 okX9_isWord clX9 rfl (H.get ce_rd) (show 5 + 1 ≤ d8 + 1 by omega) (r_isWord (i := 30) (m := 26) (C := C1) hx1 hT1 hO rfl (by decide) rfl) H rfl rfl (Nat.le_of_ble_eq_true rfl) ?_
    refine w_ifB_ne dX9_block_42 rfl (fun h42 => ?_) (fun h42 => ?_)
    · refine w_aload_n dX9_block_58 rfl ?_
      refine w_ref h1 ?_
      refine cp_call (kc := 3 * (ctE r - D1.ct)) (ks := 48 * (ctE r - D1.ct)) (As := []) (mi := miX9_next) dX9_block_59 q676 okX9_next clX9 rfl (H.get ce_rd) (show 2 + 1 ≤ d8 + 1 by omega) (r_next (C := C1) hx1 hT1 hO.ok.2.1) H F rfl rfl (Nat.le_of_ble_eq_true rfl) ?_
      intro σ C59 hC59 H F
      obtain ⟨nu59, hc59, hN59⟩ := hC59
      subst hc59
      refine w_aload dX9_block_62 rfl ?_
      have eend := it_en (X := X) hB.ok O1 hO h42 hop
      rw [hw] at eend
      exact w_aret dX9_block_64 rfl (Or.inl ⟨_, rfl⟩) ⟨_, ⟨C1, D1, nx X t1, nu59, ci, k, cap, rest, f, q, congrArg (fun z => some (Value.ref z)) ha.symm, hr.symm.trans eend, hO.nx, hN59, rfl, r1, l1, h1, B1, hk, hR, hrow, hrows, hop, hlt, O1, bl⟩, H, F⟩
    · have esub := it_sub (X := X) hB.ok O1 hO h42 hop
      rw [hw, hl1] at esub
      have hge1 := ctE_ge (X := X) hB.ok O1 hO (Or.inl h42)
      rw [hl1] at hge1
      have hle1 : ctE (itF X Hs (w + 1) D1 t1) ≤ ctE r := by
        cases e : itF X Hs (w + 1) D1 t1 with
        | error f9 =>
          rw [e, hr] at esub
          rw [esub]
          exact Nat.le_refl _
        | ok p =>
          obtain ⟨D2, t2⟩ := p
          rw [e, hr] at esub
          have g2 := itF_st (X := X) hB.ok O1 hO (Or.inl h42) (by rw [hl1]; exact e)
          have e2 : r = itF X Hs w D2 t2 := esub
          rw [e2]
          exact ctE_le hB.ok g2.2.2.2.2.1 g2.2.2.2.2.2.1 0 hw.symm (g2.1.trans hop)
      refine w_aload_n dX9_block_45 rfl ?_
      refine w_ref h1 ?_
      refine w_aload_n dX9_block_46 rfl ?_
      refine w_aload dX9_block_47 rfl ?_
      refine w_ref (a := od C1 8 (20 + (w + 1))) (by rw [show 20 + (w + 1) = 21 + w by omega]; exact ha) ?_
      refine w_iload_n dX9_block_49 rfl ?_
      refine w_iconst (v := nI 1) dX9_block_50 ki_1 ?_
      refine w_iaddN dX9_block_51 ?_
      have B2 : BkL g C1 (20 + (w + 1)) (30 + (w + 1)) ci k cap rest f := by
        rw [show 20 + (w + 1) = 21 + w by omega, show 30 + (w + 1) = 31 + w by omega]
        exact B1
      refine w_bud (kc2 := 3 * (ctE r - ctE (itF X Hs (w + 1) D1 t1)) + 3 * (ctE (itF X Hs (w + 1) D1 t1) - D1.ct)) (ks2 := 48 * (ctE r - ctE (itF X Hs (w + 1) D1 t1)) + 48 * (ctE (itF X Hs (w + 1) D1 t1) - D1.ct)) (by omega) (by omega) ?_
      refine cy_call (kc := 3 * (ctE r - ctE (itF X Hs (w + 1) D1 t1))) (ks := 48 * (ctE r - ctE (itF X Hs (w + 1) D1 t1))) (As := [_, _, _]) (mi2 := miX9_step) dX9_block_52 q942 okX9_step clX9 rfl (H.get ce_rd) (Nat.le_refl _) (hS C1 D1 t1 nu1 du ci k cap rest f hx1 hT1 hO hN hB1 O1 hl1 (Or.inl h42) B2 hR.o hk bl.o) rfl H F h5 (fun C2 h => EY.on h r1.Y (fun f z => by rw [← hr, esub, z]; rfl)) rfl rfl (Nat.le_of_ble_eq_true rfl) ?_
      rintro v52 σ C52 ⟨hv, C2, D2, t2, nu2, a, cap2, f2, e2, hO2, hN2, hC2, r2, l2, h12, d2, b2, fs2, fk2, sz2, nx2⟩ H F
      subst hv hC2
      have g2 := itF_st (X := X) hB.ok O1 hO (Or.inl h42) (by rw [hl1]; exact e2)
      obtain ⟨g21, g22, g23, g24, g25, g26, g27⟩ := g2
      have hc2 : ctE (itF X Hs (w + 1) D1 t1) = D2.ct := by
        rw [e2]
        rfl
      rw [hc2]
      refine w_goto dX9_block_55 rfl ?_
      have ht2 := g26.ok
      rw [e2] at esub
      refine ih C2 D2 t2 nu2 (k + 1) cap2 f2 σ (by omega) (r1.trans r2) (l1.trans l2) (h12.trans h1) ?_ ?_ (by omega) hO2 hN2 g25 (g21.trans hop) (fun j hj => (g22 j (by omega)).trans (hrows j hj)) ((g22 _ hlt).trans hrow) (by omega) (Bld.snoc bl (fun j hj => g22 j hj) r2.2.2.2.2.2.2.2.2.2 fs2 fk2 ?_ nx2) (esub.symm.trans hr) H F
      · rw [show 21 + w = 20 + (w + 1) by omega, d2, show 20 + (w + 1) = 21 + w by omega]
        exact ha
      · rw [show 21 + w = 20 + (w + 1) by omega, show 31 + w = 30 + (w + 1) by omega]
        exact b2
      · rw [show 3 - w = 4 - (w + 1) by omega]
        exact sz2
set_option maxHeartbeats 8000000 in
theorem c_block {g : GG} {C : CS} {X : TX} {t : Tk} {nu du : Int32} {b : Nat} {Hs : HS} {D : DS} {w d8 : Nat} (hx : oO C 0 = true) (hT : TxC C X) (hO : OkT9 X t) (hN : NuT t nu) (hB : BeF g C b Hs) (hd9 : 11 ≤ d8) (OD : OkD Hs D) (hw : D.op.length = w) (hw3 : w < 3) (hk : kix X t = 24 ∨ kix X t = 25) (hc : D.ct ≠ 30) (hS : StepC g X b Hs (w + 1) d8) : Cz g miX9_block (d8 + 1) (3 * (ctE (itF X Hs w D t) - (D.ct + 1)) + 2) (48 * (ctE (itF X Hs w D t) - (D.ct + 1)) + 11) [.ref (od C 8 1), .ref b, .int (bP (kix X t = 24)), .int (nI w)] (rdS C X.2 (rqT t nu (nI (D.ct + 1)) du)) (QBl g C X D w du Hs (itF X Hs w D t)) (EY C (itF X Hs w D t)) := by
  refine Cz.start [some (.ref (od C 8 1)), some (.ref b), some (.int (bP (kix X t = 24))), some (.int (nI w)), none] plX9 rfl (Nat.le_of_ble_eq_true rfl) rfl ?_
  intro σ0 σ H F
  have hX9 := hT.1
  have eit := it_bl (X := X) hB.ok OD hO hk hc (by omega)
  rw [hw] at eit
  refine w_aload_n dX9_block_0 rfl ?_
  refine cp_call (kc := (3 * (ctE (itF X Hs w D t) - (D.ct + 1)) + 2)) (ks := (48 * (ctE (itF X Hs w D t) - (D.ct + 1)) + 11)) (As := []) (mi := miX9_next) dX9_block_1 q676 okX9_next clX9 rfl (H.get ce_rd) (show 2 + 1 ≤ (d8 + 1) by omega) (r_next (C := C) hx hT hO.ok.2.1) H F rfl rfl (Nat.le_of_ble_eq_true rfl) ?_
  intro σ C1 hC1 H F
  obtain ⟨nu1, hc1, hN1⟩ := hC1
  subst hc1
  refine w_iload_n dX9_block_4 rfl ?_
  refine w_ifB_eq dX9_block_5 rfl (fun h_5 => ?_) (fun h_5 => ?_)
  · have hk25 : kix X t = 25 := by omega
    refine w_bud (kc2 := 3 * (ctE (itF X Hs w D t) - (D.ct + 1)) + 1 + 1) (ks2 := 48 * (ctE (itF X Hs w D t) - (D.ct + 1)) + 4 + 3) (by omega) (by omega) ?_
    refine y_new (kc := 3 * (ctE (itF X Hs w D t) - (D.ct + 1)) + 1) (ks := 48 * (ctE (itF X Hs w D t) - (D.ct + 1)) + 4) [.null, .int 0, .int 0] (21 + w) (by omega) H F dX9_block_16 clX12 q978 q911 q158 dfX12 ?_
    intro σ C16 r16 l16 m16 z16 H F
    have hx16 := r16.x hx
    have hT16 := r16.T hT
    have h116 : od C16 8 1 = od C 8 1 := (l16 1 (by omega)).2
    have h516 : od C16 0 5 = od C 0 5 := r16.1 0 5 (by decide)
    refine w_dup dX9_block_19 rfl ?_
    refine w_aload_n dX9_block_20 rfl ?_
    refine w_ref h116 ?_
    refine w_iconst (v := nI 1) dX9_block_21 ki_1 ?_
    refine w_bipush (v := nI 99) dX9_block_22 kb_99 ?_
    refine cy_call (kc := (3 * (ctE (itF X Hs w D t) - (D.ct + 1)) + 1)) (ks := (48 * (ctE (itF X Hs w D t) - (D.ct + 1)) + 4)) (As := [_, _]) (mi2 := miX9_number) dX9_block_24 q787 okX9_number clX9 rfl (H.get ce_rd) (show 3 + 1 ≤ (d8 + 1) by omega) (r_number (C := C16) hx16 hT16 hO.nx hN1 (by omega) (by omega)) rfl H F h516 (fun C2 h => EY.up h r16.Y (fun f z => by rw [eit, hk25, pO_25, z]; rfl)) rfl rfl (Nat.le_of_ble_eq_true rfl) ?_
    intro v24 σ C24 hQ24 H F
    obtain ⟨n24, t24, nu24, hv24, e24, hO24, hc24, hN24⟩ := hQ24
    subst hv24 hc24
    refine y_blk (kc := 3 * (ctE (itF X Hs w D t) - (D.ct + 1))) (ks := 48 * (ctE (itF X Hs w D t) - (D.ct + 1))) (C := C16) (n := X.2) (q := rqT t24 nu24 (nI (D.ct + 1)) du) (u := 21 + w) (v := 31 + w) (mi := miX12_init) (As := [.int (nI n24)]) (rest := [.ref (od C16 8 (21 + w))]) (by omega) (by omega) (by omega) m16 H F dX9_block_27 q979 okX12_init (iX12_init (u7 := (8, 31 + w))) (show 3 + 1 ≤ d8 + 1 by omega) rfl rfl (Nat.le_of_ble_eq_true rfl) ?_
    intro σ C9 r27 l27 d27 z27 b9 H F
    have r9 := r16.trans r27
    have hx9 := r9.x hx
    have hT9 := r9.T hT
    have h59 : od C9 0 5 = od C 0 5 := r9.1 0 5 (by decide)
    have h19 : od C9 8 1 = od C 8 1 := ((l27 1 ⟨by omega, by omega⟩).2).trans h116
    have l99 : Lk (LoS (w + 1)) C C9 := (l16.sub (fun i h => by unfold LoS at h; omega)).trans (l27.sub (fun i h => by unfold LoS at h; omega))
    have hR9 : BlkR (25, n24, 0, 0) 10 [.int (nI n24)] := Or.inl ⟨rfl, rfl, rfl⟩
    have e10 : pOrder X Hs (kix X t) (nx X t) = .ok ((25, n24, 0, 0), t24) := by rw [hk25, pO_25, e24]; rfl
    refine w_astore dX9_block_30 rfl (Nat.le_of_ble_eq_true rfl) ls_5_4 ?_
    refine w_aload_n dX9_block_32 rfl ?_
    refine w_ref h19 ?_
    refine cy_call (kc := (3 * (ctE (itF X Hs w D t) - (D.ct + 1)))) (ks := (48 * (ctE (itF X Hs w D t) - (D.ct + 1)))) (As := []) (mi2 := miX9_close) dX9_block_33 q793 okX9_close clX9 rfl (H.get ce_rd) (show 3 + 1 ≤ (d8 + 1) by omega) (r_close (C := C9) hx9 hT9 hO24 hN24) rfl H F h59 (fun C2 h => EY.up h r9.Y (fun f z => by rw [eit, e10, ob, z]; rfl)) rfl rfl (Nat.le_of_ble_eq_true rfl) ?_
    intro v33 σ C33 hQ33 H F
    obtain ⟨hv33, t33, nu33, e33, hO33, hc33, hN33⟩ := hQ33
    subst hv33 hc33
    have p9 := pOrder_ok (X := X) hB.ok hO.nx (show kix X t = 1 ∨ (18 ≤ kix X t ∧ kix X t ≤ 27) by omega) e10
    have O33 := dAdd_ok OD p9.2.2.1 (show kix X t < 100 by omega) p9.2.2.2 (fun z => by omega) (fun _ => by have := OD.2.1; omega) (fun _ => by omega)
    have hbl := dAdd_bl (D := D) (q := (25, n24, 0, 0)) hk
    have hr9 : itF X Hs w (dAdd D (kix X t) (25, n24, 0, 0)) t33 = itF X Hs w D t := by rw [eit, e10, ob, e33]; rfl
    rw [hbl] at O33 hr9
    exact block_loop (a9 := (od C16 8 (21 + w))) (C := C) hx hT hB hw hw3 hd9 hR9 hS (X.2 + 1) C9 ⟨D.n + 1, upR D.r D.n (row4 (25, n24, 0, 0) 0), D.n :: D.op, D.ct + 1⟩ t33 nu33 0 4 (fun _ => none) σ (by omega) r9 l99 h19 d27 b9 (Nat.zero_le _) hO33 hN33 O33 rfl (fun j hj => upR_ne (show j ≠ D.n from Nat.ne_of_lt hj)) upR_eq (Nat.lt_succ_self _) Bld.new hr9 H F
  · refine w_aload_n dX9_block_8 rfl ?_
    refine w_aload_n dX9_block_9 rfl ?_
    refine cy_call (kc := 3 * (ctE (itF X Hs w D t) - (D.ct + 1))) (ks := 48 * (ctE (itF X Hs w D t) - (D.ct + 1))) (As := [_]) (mi2 := miX9_when) dX9_block_10 q950 okX9_when clX9 rfl (H.get ce_rd) (show 10 + 1 ≤ d8 + 1 by omega) (y_when (C := C) (u := 21 + w) (v := 31 + w) hx hT hO.nx hN1 hB (by omega) (by omega) (by omega)) rfl H F (show od C 0 5 = od C 0 5 from rfl) (fun C2 h => EY.on h (R9.refl (C := C)).Y (fun f z => by rw [eit, h_5, pO_24, z]; rfl)) rfl rfl (Nat.le_of_ble_eq_true rfl) ?_
    rintro v10 σ C10 ⟨C9, q9, t9, nu9, x9, z9, y9, y29, hv9, e9, hO9, hN9, hC9, r9, l9, h19, b9, c09, c19, c29, c39⟩ H F
    subst hv9 hC9
    have hx9 := r9.x hx
    have hT9 := r9.T hT
    have h59 : od C9 0 5 = od C 0 5 := r9.1 0 5 (by decide)
    have l99 : Lk (LoS (w + 1)) C C9 := l9.sub (fun i h => by unfold LoS at h; omega)
    have hR9 : BlkR q9 11 [.int (nI (hW q9.1)), .int x9, .int z9, .int y9, .int y29] := Or.inr ⟨rfl, c09, x9, z9, y9, y29, rfl, c19, c29, c39⟩
    have e10 : pOrder X Hs (kix X t) (nx X t) = .ok (q9, t9) := by rw [h_5, pO_24]; exact e9
    refine w_goto dX9_block_13 rfl ?_
    refine w_astore dX9_block_30 rfl (Nat.le_of_ble_eq_true rfl) ls_5_4 ?_
    refine w_aload_n dX9_block_32 rfl ?_
    refine w_ref h19 ?_
    refine cy_call (kc := (3 * (ctE (itF X Hs w D t) - (D.ct + 1)))) (ks := (48 * (ctE (itF X Hs w D t) - (D.ct + 1)))) (As := []) (mi2 := miX9_close) dX9_block_33 q793 okX9_close clX9 rfl (H.get ce_rd) (show 3 + 1 ≤ (d8 + 1) by omega) (r_close (C := C9) hx9 hT9 hO9 hN9) rfl H F h59 (fun C2 h => EY.up h r9.Y (fun f z => by rw [eit, e10, ob, z]; rfl)) rfl rfl (Nat.le_of_ble_eq_true rfl) ?_
    intro v33 σ C33 hQ33 H F
    obtain ⟨hv33, t33, nu33, e33, hO33, hc33, hN33⟩ := hQ33
    subst hv33 hc33
    have p9 := pOrder_ok (X := X) hB.ok hO.nx (show kix X t = 1 ∨ (18 ≤ kix X t ∧ kix X t ≤ 27) by omega) e10
    have O33 := dAdd_ok OD p9.2.2.1 (show kix X t < 100 by omega) p9.2.2.2 (fun z => by omega) (fun _ => by have := OD.2.1; omega) (fun _ => by omega)
    have hbl := dAdd_bl (D := D) (q := q9) hk
    have hr9 : itF X Hs w (dAdd D (kix X t) q9) t33 = itF X Hs w D t := by rw [eit, e10, ob, e33]; rfl
    rw [hbl] at O33 hr9
    exact block_loop (a9 := (od C9 8 (21 + w))) (C := C) hx hT hB hw hw3 hd9 hR9 hS (X.2 + 1) C9 ⟨D.n + 1, upR D.r D.n (row4 q9 0), D.n :: D.op, D.ct + 1⟩ t33 nu33 0 4 (fun _ => none) σ (by omega) r9 l99 h19 rfl b9 (Nat.zero_le _) hO33 hN33 O33 rfl (fun j hj => upR_ne (show j ≠ D.n from Nat.ne_of_lt hj)) upR_eq (Nat.lt_succ_self _) Bld.new hr9 H F
theorem step_all {g : GG} {X : TX} {b : Nat} {Hs : HS} : ∀ m w, m + w = 3 → StepC g X b Hs w (12 + 2 * m)
  | 0, w, hm => fun C D t nu du ci k cap rest f hx hT hO hN hB OD hw h26 B hr hk hf => c_step (d8 := 11) hx hT hO hN hB (Nat.le_refl _) OD hw (by omega) h26 B hr hk hf (fun h => by omega)
  | m + 1, w, hm => fun C D t nu du ci k cap rest f hx hT hO hN hB OD hw h26 B hr hk hf => c_step (d8 := 12 + 2 * m + 1) hx hT hO hN hB (by omega) OD hw (by omega) h26 B hr hk hf (fun h C D t nu du hx hT hO hN hB OD hw hk hc => c_block (d8 := 12 + 2 * m) hx hT hO hN hB (by omega) OD hw h hk hc (step_all m (w + 1) (by omega)))
