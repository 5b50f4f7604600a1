set_option maxRecDepth 100000
set_option maxHeartbeats 4000000 in
theorem b_duel {g : GG} {C : CS} {X : TX} {t : Tk} {nu st : Int32} {B : BS} {Z : ZB} {m : Nat → Option va_E} (hx : oO C 0 = true) (hT : TxC C X) (hO : OkT9 X t) (hN : NuT t nu) (hm : m = zbM g C Z) (E : EncBe Z B) (O : OkB B) (hk : kix X t = 6) : Cz g miX9_duel 7 0 0 [.ref (od (sM8 C m) 8 1), .ref (od C 8 2)] (rdS (sM8 C m) X.2 (rqT t nu st (nI B.du))) (QB g C X st (pDuel X B t)) (ET C (pDuel X B t)) := by
  refine Cz.start [some (.ref (od (sM8 C m) 8 1)), some (.ref (od C 8 2))] plX9 rfl (Nat.le_of_ble_eq_true rfl) rfl ?_
  intro σ0 σ H F
  have hX9 := hT.1
  obtain ⟨ho1, ho2, ho3, ho4, -⟩ := hO.ok
  obtain ⟨⟨a0, a1, a2, a3, a4, a5, a6⟩, -⟩ := id E
  have hb9 := O.b
  have hpb9 := O.2.2.2.2.2.1
  have hdu9 := O.2.2.2.2.2.2.1
  have hs1 : t.so ≠ 1 := by have := kix_so (X := X) (t := t) (by omega); omega
  refine w_aload_n dX9_duel_0 rfl ?_
  refine z_get (f := 6) (C := C) (m := m) (q := rqT t nu st (nI B.du)) (v := .int ((nI B.du))) dX9_duel_1 (by decide) q695 H rfl ?_
  refine w_ifN_eq dX9_duel_4 rfl (by omega) (fun h_4 => ?_) (fun h_4 => ?_)
  · refine w_aload_n dX9_duel_23 rfl ?_
    refine w_iconst (v := nI 1) dX9_duel_24 ki_1 ?_
    refine z_put (f := 6) (C := C) (m := m) (q := rqT t nu st (nI B.du)) (v := nI 1) (nI t.fr, nI t.to, nI (so2 t.so), nu, st, nI 1) dX9_duel_25 (by decide) q695 rfl (by first | exact narr0 | exact narr1 | exact narrB) (by first | exact fitz0 | exact fitz1) H F rfl ?_
    intro σ H F
    refine w_aload_n dX9_duel_28 rfl ?_
    refine cp_call (kc := 0) (ks := 0) (As := []) (mi := miX9_next) dX9_duel_29 q676 okX9_next clX9 rfl (z_rd H) (Nat.le_of_ble_eq_true rfl) (z_next (C := C) (m := m) hx hT hO.ok.2.1) H F rfl rfl (Nat.le_of_ble_eq_true rfl) ?_
    intro σ C29 hC29 H F
    obtain ⟨nu29, hc29, hN29⟩ := hC29
    subst hc29
    refine w_aload_n dX9_duel_32 rfl ?_
    refine w_aload_n dX9_duel_33 rfl ?_
    refine cr_call (As := []) (mi := miX9_duels) dX9_duel_34 q844 okX9_duels clX9 rfl (z_rd H) (Nat.le_of_ble_eq_true rfl) (z_duels (C := C) (m := m) hx hT hO.nx) H rfl rfl (Nat.le_of_ble_eq_true rfl) ?_
    refine be_put (f := 5) (C := C) (Z := Z) (n := X.2) (q := rqT (nx X t) nu29 st (nI 1)) (v := dueI (kix X (nx X t))) dX9_duel_37 (by decide) q311 rfl rfl rfl hm H F rfl ?_
    intro σ m37 hm37 H F
    refine w_aload_n dX9_duel_40 rfl ?_
    refine be_get (f := 5) (C := C) (Z := (zI Z 5 (dueI (kix X (nx X t))))) (n := X.2) (q := rqT (nx X t) nu29 st (nI 1)) (v := .int (dueI (kix X (nx X t)))) dX9_duel_41 (by decide) q311 hm37 H (congrArg (fun x => some (Value.int x)) rfl) ?_
    refine w_if_ge dX9_duel_44 rfl (fun h_44 => ?_) (fun h_44 => ?_)
    · have hdx : ¬ (kix X (nx X t) < 13 ∨ 16 < kix X (nx X t)) := fun z => absurd ((dueI_lt _ (show kix X (nx X t) < 31 by have := kix_le X (nx X t); omega)).mpr z) (Int32.not_lt.mpr h_44)
      have hdk := dueI_ok (kix X (nx X t)) (by omega) (by omega)
      refine w_aload_n dX9_duel_52 rfl ?_
      refine cp_call (kc := 0) (ks := 0) (As := []) (mi := miX9_next) dX9_duel_53 q676 okX9_next clX9 rfl (z_rd H) (Nat.le_of_ble_eq_true rfl) (z_next (C := C) (m := m37) hx hT hO.nx.ok.2.1) H F rfl rfl (Nat.le_of_ble_eq_true rfl) ?_
      intro σ C53 hC53 H F
      obtain ⟨nu53, hc53, hN53⟩ := hC53
      subst hc53
      exact w_vret dX9_duel_56 rfl ⟨_, by exact ⟨rfl, bDuel B (kix X (nx X t) - 13), nx X (nx X t), nu53, _, _, hm37, pU_2 (by omega) hdx, hO.nx.nx, rfl, hN53, by rw [hdk]; exact E.addU⟩, H, F⟩
    · have hdx := (dueI_lt _ (show kix X (nx X t) < 31 by have := kix_le X (nx X t); omega)).mp (Int32.not_le.mp h_44)
      refine w_aload_n dX9_duel_47 rfl ?_
      refine cp_call (kc := 0) (ks := 0) (As := []) (mi := miX9_wrong) dX9_duel_48 q779 okX9_wrong clX9 rfl (z_rd H) (Nat.le_of_ble_eq_true rfl) (z_wrong (C := C) (m := m37) hx hT hO.nx) H F rfl rfl (Nat.le_of_ble_eq_true rfl) ?_
      intro σ C48 hC48 H F
      exact z_throw (C1 := C48) dX9_duel_51 rfl hx H F (RFr.bdb hC48) (ET.mkb (pU_1 (by omega) hdx) hC48)
  · refine w_aload_n dX9_duel_7 rfl ?_
    refine z_get (f := 7) (C := C) (m := m) (q := rqT t nu st (nI B.du)) (v := .ref (od C 0 30)) dX9_duel_8 (by decide) q696 H rfl ?_
    refine z_55 (C := C) (m := m) (q := rqT t nu st (nI B.du)) dX9_duel_11 rfl hx H ?_
    refine w_iconst (v := nI 5) dX9_duel_14 ki_5 ?_
    refine w_aload_n dX9_duel_15 rfl ?_
    refine z_get (f := 1) (C := C) (m := m) (q := rqT t nu st (nI B.du)) (v := .int (nI t.fr)) dX9_duel_16 (by decide) q689 H rfl ?_
    obtain ⟨fs19, hb19⟩ := z_bad hx H
    refine cp_call (kc := 0) (ks := 0) (As := [_, _]) (mi := miX2_at) dX9_duel_19 q783 okX2_at clX2 rfl hb19 (Nat.le_of_ble_eq_true rfl) (z_at (C := C) (m := m) (n := X.2) (q := rqT t nu st (nI B.du)) hx) H F rfl rfl (Nat.le_of_ble_eq_true rfl) ?_
    intro σ C19 hC19 H F
    change C19 = bdS (rdS (sM8 C m) X.2 (rqT t nu st (nI B.du))) (5, t.fr) at hC19
    exact z_throw (C1 := C19) dX9_duel_22 rfl hx H F (RFr.bdb hC19) (ET.mkb (pU_0 (by omega) hs1) hC19)
set_option maxHeartbeats 4000000 in
theorem beach_loop {g : GG} {C : CS} {X : TX} {m : Nat → Option va_E} {q0 : RQ} {R : PR BS} {σ0 : PH} (hx : oO C 0 = true) (hT : TxC C X) : ∀ (j9 : Nat) (B : BS) (t : Tk) (nu : Int32) (Z : ZB) (m9 : Nat → Option va_E) (σ : PH), X.2 - t.fr < j9 → m9 = zbM g C Z → EncBe Z B → OkB B → OkT9 X t → NuT t nu → pParts X j9 B t = R → Hold g σ (rdS (sM8 C m9) X.2 (rqT t nu (nI 0) (nI B.du))) → Fr σ0 σ → Wp g (mtX g miX9_beach 11 0 0 σ0 (rdS (sM8 C m) X.2 q0) (QBe g C X R) (ET C R)) 0 0 53 [some (.ref (od C 8 1)), some (.ref (od C 8 2))] [] σ := by
  have hX9 := hT.1
  intro j9
  induction j9 with
  | zero => intro B t nu Z m9 σ hmu hm9 E O hO hN hR H F; exact absurd hmu (Nat.not_lt_zero _)
  | succ j9 ih_lp =>
    intro B t nu Z m9 σ hmu hm9 E O hO hN hR H F
    obtain ⟨ho1, ho2, ho3, ho4, -⟩ := hO.ok
    have hs4 := so2_le ho3
    refine w_aload_n dX9_beach_53 rfl ?_
    refine z_get (f := 3) (C := C) (m := m9) (q := rqT t nu (nI 0) (nI B.du)) (v := .int (nI (so2 t.so))) dX9_beach_54 (by decide) q691 H rfl ?_
    refine w_ifN_eq dX9_beach_57 rfl (by omega) (fun h_57 => ?_) (fun h_57 => ?_)
    · have hs0 : t.so = 0 := (so2_0 ho3).mp h_57
      exact w_vret dX9_beach_140 rfl ⟨_, by exact ⟨rfl, B, t, nu, Z, m9, hm9, by rw [← hR, pParts, if_pos hs0], rfl, E, O⟩, H, F⟩
    · have hs0 : t.so ≠ 0 := fun z => h_57 ((so2_0 ho3).mpr z)
      refine w_aload_n dX9_beach_60 rfl ?_
      refine w_ldcS (i := 15) rfl rfl rfl dX9_beach_61 ?_
      refine cr_call (As := [_]) (mi := miX9_isWord) dX9_beach_63 q727 okX9_isWord clX9 rfl (z_rd H) (Nat.le_of_ble_eq_true rfl) (z_isWord (i := 15) (m9 := 3) (C := C) (m := m9) hx hT hO rfl (by decide) rfl) H rfl rfl (Nat.le_of_ble_eq_true rfl) ?_
      refine w_ifB_eq dX9_beach_66 rfl (fun h_66 => ?_) (fun h_66 => ?_)
      · refine w_aload_n dX9_beach_77 rfl ?_
        refine w_ldcS (i := 19) rfl rfl rfl dX9_beach_78 ?_
        refine cr_call (As := [_]) (mi := miX9_isWord) dX9_beach_80 q727 okX9_isWord clX9 rfl (z_rd H) (Nat.le_of_ble_eq_true rfl) (z_isWord (i := 19) (m9 := 4) (C := C) (m := m9) hx hT hO rfl (by decide) rfl) H rfl rfl (Nat.le_of_ble_eq_true rfl) ?_
        refine w_ifB_eq dX9_beach_83 rfl (fun h_83 => ?_) (fun h_83 => ?_)
        · refine w_aload_n dX9_beach_94 rfl ?_
          refine w_ldcS (i := 21) rfl rfl rfl dX9_beach_95 ?_
          refine cr_call (As := [_]) (mi := miX9_isWord) dX9_beach_97 q727 okX9_isWord clX9 rfl (z_rd H) (Nat.le_of_ble_eq_true rfl) (z_isWord (i := 21) (m9 := 5) (C := C) (m := m9) hx hT hO rfl (by decide) rfl) H rfl rfl (Nat.le_of_ble_eq_true rfl) ?_
          refine w_ifB_eq dX9_beach_100 rfl (fun h_100 => ?_) (fun h_100 => ?_)
          · refine w_aload_n dX9_beach_111 rfl ?_
            refine w_ldcS (i := 24) rfl rfl rfl dX9_beach_112 ?_
            refine cr_call (As := [_]) (mi := miX9_isWord) dX9_beach_114 q727 okX9_isWord clX9 rfl (z_rd H) (Nat.le_of_ble_eq_true rfl) (z_isWord (i := 24) (m9 := 6) (C := C) (m := m9) hx hT hO rfl (by decide) rfl) H rfl rfl (Nat.le_of_ble_eq_true rfl) ?_
            refine w_ifB_eq dX9_beach_117 rfl (fun h_117 => ?_) (fun h_117 => ?_)
            · refine w_aload_n dX9_beach_128 rfl ?_
              refine cp_call (kc := 0) (ks := 0) (As := []) (mi := miX9_wrong) dX9_beach_129 q779 okX9_wrong clX9 rfl (z_rd H) (Nat.le_of_ble_eq_true rfl) (z_wrong (C := C) (m := m9) hx hT hO) H F rfl rfl (Nat.le_of_ble_eq_true rfl) ?_
              intro σ C129 hC129 H F
              exact z_throw (C1 := C129) dX9_beach_132 rfl hx H F (RFr.bdb hC129) (ET.mkb (by rw [← hR, pParts, if_neg hs0]; simp only [pPart, if_neg h_66, if_neg h_83, if_neg h_100, if_neg h_117, bind, Except.bind]) hC129)
            · refine w_aload_n dX9_beach_120 rfl ?_
              refine w_aload_n dX9_beach_121 rfl ?_
              refine cx_call (kc := 0) (ks := 0) (As := [_]) (mi2 := miX9_duel) dX9_beach_122 q882 okX9_duel clX9 rfl (z_rd H) (Nat.le_of_ble_eq_true rfl) (b_duel (C := C) (m := m9) (Z := Z) hx hT hO hN hm9 E O (by first | assumption | omega)) rfl H F RFr.rb (fun C2 h => h.of (fun f z => by rw [← hR, pParts, if_neg hs0]; simp only [pPart, if_neg h_66, if_neg h_83, if_neg h_100, if_pos h_117, z, bind, Except.bind])) rfl rfl (Nat.le_of_ble_eq_true rfl) ?_
              intro v122 σ C122 hQ122 H F
              obtain ⟨hv122, B122, t122, nu122, Z122, m122, hm122, e122, hO122, hc122, hN122, E122⟩ := hQ122
              subst hv122 hc122
              refine w_goto dX9_beach_125 rfl ?_
              refine w_aload_n dX9_beach_133 rfl ?_
              refine cx_call (kc := 0) (ks := 0) (As := []) (mi2 := miX9_close) dX9_beach_134 q793 okX9_close clX9 rfl (z_rd H) (Nat.le_of_ble_eq_true rfl) (z_close (C := C) (m := m122) hx hT hO122 hN122) rfl H F RFr.rb (fun C2 h => (h.up RFr.sM).of (fun f z => by rw [← hR, pParts, if_neg hs0]; simp only [pPart, if_neg h_66, if_neg h_83, if_neg h_100, if_pos h_117, e122, z, bind, Except.bind])) rfl rfl (Nat.le_of_ble_eq_true rfl) ?_
              intro v134 σ C134 hQ134 H F
              obtain ⟨hv134, t134, nu134, e134, hO134, hc134, hN134⟩ := hQ134
              subst hv134 hc134
              have e2 : pPart X B t = .ok (B122, t134) := by simp only [pPart, if_neg h_66, if_neg h_83, if_neg h_100, if_pos h_117, e122, e134, bind, Except.bind]
              have p1 := pPart_ok O hO e2
              refine w_goto dX9_beach_137 rfl ?_
              exact ih_lp B122 t134 nu134 Z122 m122 σ (by have := p1.1.1.ok; have := p1.1.2.2 hs0; omega) hm122 E122 p1.2 hO134 hN134 (by rw [← hR, pParts, if_neg hs0]; simp only [e2, bind, Except.bind]) H F
          · refine w_aload_n dX9_beach_103 rfl ?_
            refine w_aload_n dX9_beach_104 rfl ?_
            refine cx_call (kc := 0) (ks := 0) (As := [_]) (mi2 := miX9_newPebble) dX9_beach_105 q866 okX9_newPebble clX9 rfl (z_rd H) (Nat.le_of_ble_eq_true rfl) (b_newPebble (C := C) (m := m9) (Z := Z) hx hT hO hN hm9 E O (by first | assumption | omega)) rfl H F RFr.rb (fun C2 h => h.of (fun f z => by rw [← hR, pParts, if_neg hs0]; simp only [pPart, if_neg h_66, if_neg h_83, if_pos h_100, z, bind, Except.bind])) rfl rfl (Nat.le_of_ble_eq_true rfl) ?_
            intro v105 σ C105 hQ105 H F
            obtain ⟨hv105, B105, t105, nu105, Z105, m105, hm105, e105, hO105, hc105, hN105, E105⟩ := hQ105
            subst hv105 hc105
            refine w_goto dX9_beach_108 rfl ?_
            refine w_aload_n dX9_beach_133 rfl ?_
            refine cx_call (kc := 0) (ks := 0) (As := []) (mi2 := miX9_close) dX9_beach_134 q793 okX9_close clX9 rfl (z_rd H) (Nat.le_of_ble_eq_true rfl) (z_close (C := C) (m := m105) hx hT hO105 hN105) rfl H F RFr.rb (fun C2 h => (h.up RFr.sM).of (fun f z => by rw [← hR, pParts, if_neg hs0]; simp only [pPart, if_neg h_66, if_neg h_83, if_pos h_100, e105, z, bind, Except.bind])) rfl rfl (Nat.le_of_ble_eq_true rfl) ?_
            intro v134 σ C134 hQ134 H F
            obtain ⟨hv134, t134, nu134, e134, hO134, hc134, hN134⟩ := hQ134
            subst hv134 hc134
            have e2 : pPart X B t = .ok (B105, t134) := by simp only [pPart, if_neg h_66, if_neg h_83, if_pos h_100, e105, e134, bind, Except.bind]
            have p1 := pPart_ok O hO e2
            refine w_goto dX9_beach_137 rfl ?_
            exact ih_lp B105 t134 nu134 Z105 m105 σ (by have := p1.1.1.ok; have := p1.1.2.2 hs0; omega) hm105 E105 p1.2 hO134 hN134 (by rw [← hR, pParts, if_neg hs0]; simp only [e2, bind, Except.bind]) H F
        · refine w_aload_n dX9_beach_86 rfl ?_
          refine w_aload_n dX9_beach_87 rfl ?_
          refine cx_call (kc := 0) (ks := 0) (As := [_]) (mi2 := miX9_newFind) dX9_beach_88 q862 okX9_newFind clX9 rfl (z_rd H) (Nat.le_of_ble_eq_true rfl) (b_newFind (C := C) (m := m9) (Z := Z) hx hT hO hN hm9 E O (by first | assumption | omega)) rfl H F RFr.rb (fun C2 h => h.of (fun f z => by rw [← hR, pParts, if_neg hs0]; simp only [pPart, if_neg h_66, if_pos h_83, z, bind, Except.bind])) rfl rfl (Nat.le_of_ble_eq_true rfl) ?_
          intro v88 σ C88 hQ88 H F
          obtain ⟨hv88, B88, t88, nu88, Z88, m88, hm88, e88, hO88, hc88, hN88, E88⟩ := hQ88
          subst hv88 hc88
          refine w_goto dX9_beach_91 rfl ?_
          refine w_aload_n dX9_beach_133 rfl ?_
          refine cx_call (kc := 0) (ks := 0) (As := []) (mi2 := miX9_close) dX9_beach_134 q793 okX9_close clX9 rfl (z_rd H) (Nat.le_of_ble_eq_true rfl) (z_close (C := C) (m := m88) hx hT hO88 hN88) rfl H F RFr.rb (fun C2 h => (h.up RFr.sM).of (fun f z => by rw [← hR, pParts, if_neg hs0]; simp only [pPart, if_neg h_66, if_pos h_83, e88, z, bind, Except.bind])) rfl rfl (Nat.le_of_ble_eq_true rfl) ?_
          intro v134 σ C134 hQ134 H F
          obtain ⟨hv134, t134, nu134, e134, hO134, hc134, hN134⟩ := hQ134
          subst hv134 hc134
          have e2 : pPart X B t = .ok (B88, t134) := by simp only [pPart, if_neg h_66, if_pos h_83, e88, e134, bind, Except.bind]
          have p1 := pPart_ok O hO e2
          refine w_goto dX9_beach_137 rfl ?_
          exact ih_lp B88 t134 nu134 Z88 m88 σ (by have := p1.1.1.ok; have := p1.1.2.2 hs0; omega) hm88 E88 p1.2 hO134 hN134 (by rw [← hR, pParts, if_neg hs0]; simp only [e2, bind, Except.bind]) H F
      · refine w_aload_n dX9_beach_69 rfl ?_
        refine w_aload_n dX9_beach_70 rfl ?_
        refine cx_call (kc := 0) (ks := 0) (As := [_]) (mi2 := miX9_newFinder) dX9_beach_71 q802 okX9_newFinder clX9 rfl (z_rd H) (Nat.le_of_ble_eq_true rfl) (b_newFinder (C := C) (m := m9) (Z := Z) hx hT hO hN hm9 E O (by first | assumption | omega)) rfl H F RFr.rb (fun C2 h => h.of (fun f z => by rw [← hR, pParts, if_neg hs0]; simp only [pPart, if_pos h_66, z, bind, Except.bind])) rfl rfl (Nat.le_of_ble_eq_true rfl) ?_
        intro v71 σ C71 hQ71 H F
        obtain ⟨hv71, B71, t71, nu71, Z71, m71, hm71, e71, hO71, hc71, hN71, E71⟩ := hQ71
        subst hv71 hc71
        refine w_goto dX9_beach_74 rfl ?_
        refine w_aload_n dX9_beach_133 rfl ?_
        refine cx_call (kc := 0) (ks := 0) (As := []) (mi2 := miX9_close) dX9_beach_134 q793 okX9_close clX9 rfl (z_rd H) (Nat.le_of_ble_eq_true rfl) (z_close (C := C) (m := m71) hx hT hO71 hN71) rfl H F RFr.rb (fun C2 h => (h.up RFr.sM).of (fun f z => by rw [← hR, pParts, if_neg hs0]; simp only [pPart, if_pos h_66, e71, z, bind, Except.bind])) rfl rfl (Nat.le_of_ble_eq_true rfl) ?_
        intro v134 σ C134 hQ134 H F
        obtain ⟨hv134, t134, nu134, e134, hO134, hc134, hN134⟩ := hQ134
        subst hv134 hc134
        have e2 : pPart X B t = .ok (B71, t134) := by simp only [pPart, if_pos h_66, e71, e134, bind, Except.bind]
        have p1 := pPart_ok O hO e2
        refine w_goto dX9_beach_137 rfl ?_
        exact ih_lp B71 t134 nu134 Z71 m71 σ (by have := p1.1.1.ok; have := p1.1.2.2 hs0; omega) hm71 E71 p1.2 hO134 hN134 (by rw [← hR, pParts, if_neg hs0]; simp only [e2, bind, Except.bind]) H F
set_option maxHeartbeats 4000000 in
theorem b_beach {g : GG} {C : CS} {X : TX} {t : Tk} {nu : Int32} {m : Nat → Option va_E} (hx : oO C 0 = true) (hT : TxC C X) (hO : OkT9 X t) (hN : NuT t nu) (hm : m = zbM g C zb0) (ht : t = tok X 0) : Cz g miX9_beach 11 0 0 [.ref (od (sM8 C m) 8 1), .ref (od C 8 2)] (rdS (sM8 C m) X.2 (rqT t nu (nI 0) (nI 0))) (QBe g C X (pBeach X)) (ET C (pBeach X)) := by
  refine Cz.start [some (.ref (od (sM8 C m) 8 1)), some (.ref (od C 8 2))] plX9 rfl (Nat.le_of_ble_eq_true rfl) rfl ?_
  intro σ0 σ H F
  have hX9 := hT.1
  refine w_aload_n dX9_beach_0 rfl ?_
  refine w_aload_n dX9_beach_1 rfl ?_
  refine w_ldcS (i := 13) rfl rfl rfl dX9_beach_2 ?_
  refine w_iconst (v := nI 2) dX9_beach_4 ki_2 ?_
  refine w_bipush (v := nI 40) dX9_beach_5 kb_40 ?_
  refine cx_call (kc := 0) (ks := 0) (As := [_, _, _]) (mi2 := miX9_behind) dX9_beach_7 q719 okX9_behind clX9 rfl (z_rd H) (Nat.le_of_ble_eq_true rfl) (z_behind (i := 13) (m9 := 0) (C := C) (m := m) hx hT hO hN (by first | assumption | omega) (by first | assumption | omega) rfl (by decide) rfl) rfl H F RFr.rb (fun C2 h => (h.up RFr.sM).of (fun f z => by rw [pBe_c ht]; simp only [z, ob, oe])) rfl rfl (Nat.le_of_ble_eq_true rfl) ?_
  intro v7 σ C7 hQ7 H F
  obtain ⟨n7, t7, nu7, hv7, e7, hO7, hc7, hN7⟩ := hQ7
  subst hv7 hc7
  refine be_put (f := 0) (C := C) (Z := zb0) (n := X.2) (q := rqT t7 nu7 (nI 0) (nI 0)) (v := nI n7) dX9_beach_10 (by decide) q292 rfl rfl rfl hm H F rfl ?_
  intro σ m10 hm10 H F
  refine w_aload_n dX9_beach_13 rfl ?_
  refine w_aload_n dX9_beach_14 rfl ?_
  refine w_ldcS (i := 7) rfl rfl rfl dX9_beach_15 ?_
  refine w_iconst (v := nI 1) dX9_beach_17 ki_1 ?_
  refine w_sipush (v := nI 240) dX9_beach_18 ks_240 ?_
  refine cx_call (kc := 0) (ks := 0) (As := [_, _, _]) (mi2 := miX9_behind) dX9_beach_21 q719 okX9_behind clX9 rfl (z_rd H) (Nat.le_of_ble_eq_true rfl) (z_behind (i := 7) (m9 := 1) (C := C) (m := m10) hx hT hO7 hN7 (by first | assumption | omega) (by first | assumption | omega) rfl (by decide) rfl) rfl H F RFr.rb (fun C2 h => (h.up RFr.sM).of (fun f z => by rw [pBe_c ht]; simp only [e7, z, ob, oe])) rfl rfl (Nat.le_of_ble_eq_true rfl) ?_
  intro v21 σ C21 hQ21 H F
  obtain ⟨n21, t21, nu21, hv21, e21, hO21, hc21, hN21⟩ := hQ21
  subst hv21 hc21
  refine be_put (f := 1) (C := C) (Z := (zI zb0 0 (nI n7))) (n := X.2) (q := rqT t21 nu21 (nI 0) (nI 0)) (v := nI n21) dX9_beach_24 (by decide) q296 rfl rfl rfl hm10 H F rfl ?_
  intro σ m24 hm24 H F
  refine w_aload_n dX9_beach_27 rfl ?_
  refine w_ldcS (i := 14) rfl rfl rfl dX9_beach_28 ?_
  refine cr_call (As := [_]) (mi := miX9_isWord) dX9_beach_30 q727 okX9_isWord clX9 rfl (z_rd H) (Nat.le_of_ble_eq_true rfl) (z_isWord (i := 14) (m9 := 2) (C := C) (m := m24) hx hT hO21 rfl (by decide) rfl) H rfl rfl (Nat.le_of_ble_eq_true rfl) ?_
  refine w_ifB_eq dX9_beach_33 rfl (fun h_33 => ?_) (fun h_33 => ?_)
  · refine w_aload_n dX9_beach_49 rfl ?_
    refine cx_call (kc := 0) (ks := 0) (As := []) (mi2 := miX9_close) dX9_beach_50 q793 okX9_close clX9 rfl (z_rd H) (Nat.le_of_ble_eq_true rfl) (z_close (C := C) (m := m24) hx hT hO21 hN21) rfl H F RFr.rb (fun C2 h => (h.up RFr.sM).of (fun f z => by rw [pBe_c ht]; simp only [e7, e21, if_neg h_33, z, ob, oe])) rfl rfl (Nat.le_of_ble_eq_true rfl) ?_
    intro v50 σ C50 hQ50 H F
    obtain ⟨hv50, t50, nu50, e50, hO50, hc50, hN50⟩ := hQ50
    subst hv50 hc50
    have e1 := pFi_2 e7 e21 h_33 e50
    have p0 := pFirst_ok hO e1
    exact beach_loop hx hT (X.2 + 1) _ t50 nu50 _ _ σ (by omega) hm24 EncBe.new0 p0.2 hO50 hN50 (by rw [pBe_c ht]; simp only [e7, e21, if_neg h_33, e50, ob, oe]) H F
  · refine w_aload_n dX9_beach_36 rfl ?_
    refine w_aload_n dX9_beach_37 rfl ?_
    refine w_ldcS (i := 14) rfl rfl rfl dX9_beach_38 ?_
    refine w_iconst (v := nI 0) dX9_beach_40 ki_0 ?_
    refine w_bipush (v := nI 60) dX9_beach_41 kb_60 ?_
    refine cx_call (kc := 0) (ks := 0) (As := [_, _, _]) (mi2 := miX9_behind) dX9_beach_43 q719 okX9_behind clX9 rfl (z_rd H) (Nat.le_of_ble_eq_true rfl) (z_behind (i := 14) (m9 := 2) (C := C) (m := m24) hx hT hO21 hN21 (by first | assumption | omega) (by first | assumption | omega) rfl (by decide) rfl) rfl H F RFr.rb (fun C2 h => (h.up RFr.sM).of (fun f z => by rw [pBe_c ht]; simp only [e7, e21, if_pos h_33, z, ob, oe])) rfl rfl (Nat.le_of_ble_eq_true rfl) ?_
    intro v43 σ C43 hQ43 H F
    obtain ⟨n43, t43, nu43, hv43, e43, hO43, hc43, hN43⟩ := hQ43
    subst hv43 hc43
    refine be_put (f := 2) (C := C) (Z := (zI (zI zb0 0 (nI n7)) 1 (nI n21))) (n := X.2) (q := rqT t43 nu43 (nI 0) (nI 0)) (v := nI n43) dX9_beach_46 (by decide) q298 rfl rfl rfl hm24 H F rfl ?_
    intro σ m46 hm46 H F
    refine w_aload_n dX9_beach_49 rfl ?_
    refine cx_call (kc := 0) (ks := 0) (As := []) (mi2 := miX9_close) dX9_beach_50 q793 okX9_close clX9 rfl (z_rd H) (Nat.le_of_ble_eq_true rfl) (z_close (C := C) (m := m46) hx hT hO43 hN43) rfl H F RFr.rb (fun C2 h => (h.up RFr.sM).of (fun f z => by rw [pBe_c ht]; simp only [e7, e21, if_pos h_33, e43, z, ob, oe])) rfl rfl (Nat.le_of_ble_eq_true rfl) ?_
    intro v50 σ C50 hQ50 H F
    obtain ⟨hv50, t50, nu50, e50, hO50, hc50, hN50⟩ := hQ50
    subst hv50 hc50
    have e1 := pFi_1 e7 e21 h_33 e43 e50
    have p0 := pFirst_ok hO e1
    exact beach_loop hx hT (X.2 + 1) _ t50 nu50 _ _ σ (by omega) hm46 EncBe.new p0.2 hO50 hN50 (by rw [pBe_c ht]; simp only [e7, e21, if_pos h_33, e43, e50, ob, oe]) H F
