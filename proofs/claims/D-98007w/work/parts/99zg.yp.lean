set_option maxRecDepth 100000
set_option maxHeartbeats 8000000 in
theorem y_plain {g : GG} {C : CS} {X : TX} {t : Tk} {nu st du : Int32} {b : Nat} {Hs : HS} (hx : oO C 0 = true) (hT : TxC C X) (hO : OkT9 X t) (hN : NuT t nu) (hB : BeF g C b Hs) (hk : kix X t = 1 ∨ (18 ≤ kix X t ∧ kix X t ≤ 23) ∨ kix X t = 27) : Cz g miX9_plain 10 1 3 [.ref (od C 8 1), .ref b] (rdS C X.2 (rqT t nu st du)) (QPl C X st du (pOrder X Hs (kix X t) (nx X t))) (EY C (pOrder X Hs (kix X t) (nx X t))) := by
  refine Cz.start [some (.ref (od C 8 1)), some (.ref b), none, none] plX9 rfl (Nat.le_of_ble_eq_true rfl) rfl ?_
  intro σ0 σ H F
  have hX9 := hT.1
  have hw := aw_b (k := kix X t)
  have hK : isK (kix X t) := hk
  have hact := actI_w _ (by omega) hk
  clear hk
  have hnc := hB.ok.1
  have hnc2 := hB.ok.2.1
  refine w_aload_n dX9_plain_0 rfl ?_
  refine cr_call (As := []) (mi := miX9_acts) dX9_plain_1 q833 okX9_acts clX9 rfl (H.get ce_rd) (Nat.le_of_ble_eq_true rfl) (r_acts (C := C) hx hT hO) H rfl rfl (Nat.le_of_ble_eq_true rfl) ?_
  rw [hact]
  clear hact
  refine w_istore_n dX9_plain_4 rfl (Nat.le_of_ble_eq_true rfl) ls_4_2 ?_
  refine w_aload_n dX9_plain_5 rfl ?_
  refine cp_call (kc := 1) (ks := 3) (As := []) (mi := miX9_next) dX9_plain_6 q676 okX9_next clX9 rfl (H.get ce_rd) (Nat.le_of_ble_eq_true rfl) (r_next (C := C) hx hT hO.ok.2.1) H F rfl rfl (Nat.le_of_ble_eq_true rfl) ?_
  intro σ C6 hC6 H F
  obtain ⟨nu6, hc6, hN6⟩ := hC6
  subst hc6
  refine w_iload_n dX9_plain_9 rfl ?_
  refine w_iconst (v := nI 3) dX9_plain_10 ki_3 ?_
  refine w_icmpN_gt dX9_plain_11 rfl (by omega) (by omega) (fun h_11 => ?_) (fun h_11 => ?_)
  · refine w_iconst (v := (-1)) dX9_plain_22 ki_m1 ?_
    refine w_istore_n dX9_plain_23 rfl (Nat.le_of_ble_eq_true rfl) ls_4_3 ?_
    refine w_iload_n dX9_plain_24 rfl ?_
    refine w_ifN_ne dX9_plain_25 rfl (by omega) (fun h_25 => ?_) (fun h_25 => ?_)
    · refine w_iload_n dX9_plain_51 rfl ?_
      refine w_iconst (v := nI 2) dX9_plain_52 ki_2 ?_
      refine w_icmpN_ne dX9_plain_53 rfl (by omega) (by omega) (fun h_53 => ?_) (fun h_53 => ?_)
      · refine w_iload_n dX9_plain_74 rfl ?_
        refine w_iconst (v := nI 1) dX9_plain_75 ki_1 ?_
        refine w_icmpN_eq dX9_plain_76 rfl (by omega) (by omega) (fun h_76 => ?_) (fun h_76 => ?_)
        · have hk19 := aw_19 (k := kix X t) (by omega)
          omega
        · refine w_iload_n dX9_plain_79 rfl ?_
          refine w_iconst (v := nI 3) dX9_plain_80 ki_3 ?_
          refine w_icmpN_ne dX9_plain_81 rfl (by omega) (by omega) (fun h_81 => ?_) (fun h_81 => ?_)
          · refine y_new (kc := 0) (ks := 0) [.int 0, .int 0, .int 0] 4 (by decide) H F dX9_plain_105 clX14 q984 q985 q160 dfX14 ?_
            intro σ C105 r105 l105 m105 z105 H F
            have hx105 := r105.x hx
            have hT105 := r105.T hT
            have hB105 := hB.r9 r105
            have h1105 : od C105 8 1 = od C 8 1 := (l105 1 (by decide)).2
            have h5105 : od C105 0 5 = od C 0 5 := r105.1 0 5 (by decide)
            refine w_dup dX9_plain_108 rfl ?_
            refine w_iload_n dX9_plain_109 rfl ?_
            refine w_iconst (v := (-1)) dX9_plain_110 ki_m1 ?_
            refine w_iload_n dX9_plain_111 rfl ?_
            refine w_iconst (v := nI 4) dX9_plain_112 ki_4 ?_
            refine w_icmpN_ne dX9_plain_113 rfl (by omega) (by omega) (fun h_113 => ?_) (fun h_113 => ?_)
            · refine w_iload_n dX9_plain_126 rfl ?_
              refine w_iconst (v := nI 5) dX9_plain_127 ki_5 ?_
              refine w_icmpN_ne dX9_plain_128 rfl (by omega) (by omega) (fun h_128 => ?_) (fun h_128 => ?_)
              · have hk1 := aw_el hK (by omega)
                refine w_iconst (v := nI 0) dX9_plain_141 ki_0 ?_
                refine y_act (C := C105) (n := X.2) (q := rqT (nx X t) nu6 st du) H F m105 dX9_plain_142 rfl (Nat.le_of_ble_eq_true rfl) ?_
                intro σ C142 r142 l142 d142 z142 H F
                exact w_aret dX9_plain_145 rfl (Or.inl ⟨_, rfl⟩) ⟨_, by exact ⟨C142, (kix X t, 0, 0, 0), (nx X t), nu6, _, rfl, by exact pO_el hk1, hO.nx, hN6, rfl, r105.trans r142, (l105.sub (fun i h => h.2)).trans l142, (congrFun (congrFun d142 8) 1).trans h1105, ⟨(-1), 0, by have z := z142; exact z, isPl_K hK, fun h => absurd (show 18 ≤ kix X t ∧ kix X t ≤ 21 from h) (aw_e1 hk1), fun h => absurd (show kix X t = 22 ∨ kix X t = 23 from h) (aw_e2 hk1)⟩⟩, H, F⟩
              · have hk23 : kix X t = 23 := aw_23 (by omega)
                refine w_aload_n dX9_plain_131 rfl ?_
                refine w_ref h1105 ?_
                refine w_iconst (v := nI 0) dX9_plain_132 ki_0 ?_
                refine w_bipush (v := nI 40) dX9_plain_133 kb_40 ?_
                refine cy_call (kc := 0) (ks := 0) (As := [_, _]) (mi2 := miX9_number) dX9_plain_135 q787 okX9_number clX9 rfl (H.get ce_rd) (Nat.le_of_ble_eq_true rfl) (r_number (C := C105) hx105 hT105 hO.nx hN6 (by omega) (by omega)) rfl H F h5105 (fun C2 h => EY.up h r105.Y (fun f z => by rw [hk23, pO_23]; simp only [z, oe])) rfl rfl (Nat.le_of_ble_eq_true rfl) ?_
                intro v135 σ C135 hQ135 H F
                obtain ⟨n135, t135, nu135, hv135, e135, hO135, hc135, hN135⟩ := hQ135
                subst hv135 hc135
                refine w_goto dX9_plain_138 rfl ?_
                refine y_act (C := C105) (n := X.2) (q := rqT t135 nu135 st du) H F m105 dX9_plain_142 rfl (Nat.le_of_ble_eq_true rfl) ?_
                intro σ C142 r142 l142 d142 z142 H F
                exact w_aret dX9_plain_145 rfl (Or.inl ⟨_, rfl⟩) ⟨_, by exact ⟨C142, (23, n135, 0, 0), t135, nu135, _, rfl, by rw [hk23, pO_23]; simp only [e135, ob], hO135, hN135, rfl, r105.trans r142, (l105.sub (fun i h => h.2)).trans l142, (congrFun (congrFun d142 8) 1).trans h1105, ⟨(-1), n135, by have z := z142; rw [hk23] at z; exact z, (Or.inr (Or.inr (Or.inr (Or.inr (Or.inr (Or.inr (Or.inl rfl))))))), fun h => absurd (show 18 ≤ 23 ∧ 23 ≤ 21 from h) (by decide), fun _ => rfl⟩⟩, H, F⟩
            · have hk22 : kix X t = 22 := aw_22 (by omega)
              refine w_aload_n dX9_plain_116 rfl ?_
              refine w_ref h1105 ?_
              refine w_iconst (v := nI 0) dX9_plain_117 ki_0 ?_
              refine w_bipush (v := nI 16) dX9_plain_118 kb_16 ?_
              refine cy_call (kc := 0) (ks := 0) (As := [_, _]) (mi2 := miX9_number) dX9_plain_120 q787 okX9_number clX9 rfl (H.get ce_rd) (Nat.le_of_ble_eq_true rfl) (r_number (C := C105) hx105 hT105 hO.nx hN6 (by omega) (by omega)) rfl H F h5105 (fun C2 h => EY.up h r105.Y (fun f z => by rw [hk22, pO_22]; simp only [z, oe])) rfl rfl (Nat.le_of_ble_eq_true rfl) ?_
              intro v120 σ C120 hQ120 H F
              obtain ⟨n120, t120, nu120, hv120, e120, hO120, hc120, hN120⟩ := hQ120
              subst hv120 hc120
              refine w_goto dX9_plain_123 rfl ?_
              refine y_act (C := C105) (n := X.2) (q := rqT t120 nu120 st du) H F m105 dX9_plain_142 rfl (Nat.le_of_ble_eq_true rfl) ?_
              intro σ C142 r142 l142 d142 z142 H F
              exact w_aret dX9_plain_145 rfl (Or.inl ⟨_, rfl⟩) ⟨_, by exact ⟨C142, (22, n120, 0, 0), t120, nu120, _, rfl, by rw [hk22, pO_22]; simp only [e120, ob], hO120, hN120, rfl, r105.trans r142, (l105.sub (fun i h => h.2)).trans l142, (congrFun (congrFun d142 8) 1).trans h1105, ⟨(-1), n120, by have z := z142; rw [hk22] at z; exact z, (Or.inr (Or.inr (Or.inr (Or.inr (Or.inr (Or.inl rfl)))))), fun h => absurd (show 18 ≤ 22 ∧ 22 ≤ 21 from h) (by decide), fun _ => rfl⟩⟩, H, F⟩
          · have hk19 := aw_19 (k := kix X t) (by omega)
            omega
      · have hk20 : kix X t = 20 := aw_20 (by omega)
        omega
    · have hk18 : kix X t = 18 := aw_18 (by omega)
      omega
  · refine w_aload_n dX9_plain_14 rfl ?_
    refine w_aload_n dX9_plain_15 rfl ?_
    refine cy_call (kc := 1) (ks := 3) (As := [_]) (mi2 := miX9_finder) dX9_plain_16 q870 okX9_finder clX9 rfl (H.get ce_rd) (Nat.le_of_ble_eq_true rfl) (r_finder (C := C) hx hT hO.nx hN6 (hB).N) rfl H F (show od C 0 5 = od C 0 5 from rfl) (fun C2 h => EY.up h (R9.refl (C := C)).Y (fun f z => by exact pO_f (aw_lo hK (by omega)) z)) rfl rfl (Nat.le_of_ble_eq_true rfl) ?_
    intro v16 σ C16 hQ16 H F
    obtain ⟨n16, t16, nu16, hv16, e16, hO16, hc16, hN16⟩ := hQ16
    subst hv16 hc16
    refine w_goto dX9_plain_19 rfl ?_
    refine w_istore_n dX9_plain_23 rfl (Nat.le_of_ble_eq_true rfl) ls_4_3 ?_
    refine w_iload_n dX9_plain_24 rfl ?_
    refine w_ifN_ne dX9_plain_25 rfl (by omega) (fun h_25 => ?_) (fun h_25 => ?_)
    · refine w_iload_n dX9_plain_51 rfl ?_
      refine w_iconst (v := nI 2) dX9_plain_52 ki_2 ?_
      refine w_icmpN_ne dX9_plain_53 rfl (by omega) (by omega) (fun h_53 => ?_) (fun h_53 => ?_)
      · refine w_iload_n dX9_plain_74 rfl ?_
        refine w_iconst (v := nI 1) dX9_plain_75 ki_1 ?_
        refine w_icmpN_eq dX9_plain_76 rfl (by omega) (by omega) (fun h_76 => ?_) (fun h_76 => ?_)
        · have hk19 := aw_19 (k := kix X t) (by omega)
          refine w_aload_n dX9_plain_84 rfl ?_
          refine w_ldcS (i := 23) rfl rfl rfl dX9_plain_85 ?_
          refine cy_call (kc := 1) (ks := 3) (As := [_]) (mi2 := miX9_word) dX9_plain_87 q723 okX9_word clX9 rfl (H.get ce_rd) (Nat.le_of_ble_eq_true rfl) (r_word (i := 23) (m := 12) (C := C) hx hT hO16 hN16 rfl (by decide) rfl) rfl H F (show od C 0 5 = od C 0 5 from rfl) (fun C2 h => EY.up h (R9.refl (C := C)).Y (fun f z => by rw [pO_19 hk19]; simp only [e16, z, ob, oe])) rfl rfl (Nat.le_of_ble_eq_true rfl) ?_
          intro v87 σ C87 hQ87 H F
          obtain ⟨hv87, t87, nu87, e87, hO87, hc87, hN87⟩ := hQ87
          subst hv87 hc87
          refine y_new (kc := 0) (ks := 0) [.int 0, .int 0, .int 0] 4 (by decide) H F dX9_plain_90 clX14 q984 q985 q160 dfX14 ?_
          intro σ C90 r90 l90 m90 z90 H F
          have hx90 := r90.x hx
          have hT90 := r90.T hT
          have hB90 := hB.r9 r90
          have h190 : od C90 8 1 = od C 8 1 := (l90 1 (by decide)).2
          have h590 : od C90 0 5 = od C 0 5 := r90.1 0 5 (by decide)
          refine w_dup dX9_plain_93 rfl ?_
          refine w_iload_n dX9_plain_94 rfl ?_
          refine w_iload_n dX9_plain_95 rfl ?_
          refine w_aload_n dX9_plain_96 rfl ?_
          refine w_ref h190 ?_
          refine w_aload_n dX9_plain_97 rfl ?_
          refine cy_call (kc := 0) (ks := 0) (As := [_]) (mi2 := miX9_find) dX9_plain_98 q878 okX9_find clX9 rfl (H.get ce_rd) (Nat.le_of_ble_eq_true rfl) (r_find (C := C90) hx90 hT90 hO87 hN87 (hB90).N) rfl H F h590 (fun C2 h => EY.up h r90.Y (fun f z => by rw [pO_19 hk19]; simp only [e16, e87, z, ob, oe])) rfl rfl (Nat.le_of_ble_eq_true rfl) ?_
          intro v98 σ C98 hQ98 H F
          obtain ⟨n98, t98, nu98, hv98, e98, hO98, hc98, hN98⟩ := hQ98
          subst hv98 hc98
          refine y_act (C := C90) (n := X.2) (q := rqT t98 nu98 st du) H F m90 dX9_plain_101 rfl (Nat.le_of_ble_eq_true rfl) ?_
          intro σ C101 r101 l101 d101 z101 H F
          exact w_aret dX9_plain_104 rfl (Or.inl ⟨_, rfl⟩) ⟨_, by exact ⟨C101, (kix X t, n16, n98, 0), t98, nu98, _, rfl, by rw [pO_19 hk19]; simp only [e16, e87, e98, ob], hO98, hN98, rfl, r90.trans r101, (l90.sub (fun i h => h.2)).trans l101, (congrFun (congrFun d101 8) 1).trans h190, ⟨nI n16, n98, by have z := z101; exact z, isPl_K hK, fun _ => ⟨rfl, rfl⟩, fun h => absurd (show kix X t = 22 ∨ kix X t = 23 from h) (aw_n2 hk19)⟩⟩, H, F⟩
        · refine w_iload_n dX9_plain_79 rfl ?_
          refine w_iconst (v := nI 3) dX9_plain_80 ki_3 ?_
          refine w_icmpN_ne dX9_plain_81 rfl (by omega) (by omega) (fun h_81 => ?_) (fun h_81 => ?_)
          · omega
          · have hk19 := aw_19 (k := kix X t) (by omega)
            refine w_aload_n dX9_plain_84 rfl ?_
            refine w_ldcS (i := 23) rfl rfl rfl dX9_plain_85 ?_
            refine cy_call (kc := 1) (ks := 3) (As := [_]) (mi2 := miX9_word) dX9_plain_87 q723 okX9_word clX9 rfl (H.get ce_rd) (Nat.le_of_ble_eq_true rfl) (r_word (i := 23) (m := 12) (C := C) hx hT hO16 hN16 rfl (by decide) rfl) rfl H F (show od C 0 5 = od C 0 5 from rfl) (fun C2 h => EY.up h (R9.refl (C := C)).Y (fun f z => by rw [pO_19 hk19]; simp only [e16, z, ob, oe])) rfl rfl (Nat.le_of_ble_eq_true rfl) ?_
            intro v87 σ C87 hQ87 H F
            obtain ⟨hv87, t87, nu87, e87, hO87, hc87, hN87⟩ := hQ87
            subst hv87 hc87
            refine y_new (kc := 0) (ks := 0) [.int 0, .int 0, .int 0] 4 (by decide) H F dX9_plain_90 clX14 q984 q985 q160 dfX14 ?_
            intro σ C90 r90 l90 m90 z90 H F
            have hx90 := r90.x hx
            have hT90 := r90.T hT
            have hB90 := hB.r9 r90
            have h190 : od C90 8 1 = od C 8 1 := (l90 1 (by decide)).2
            have h590 : od C90 0 5 = od C 0 5 := r90.1 0 5 (by decide)
            refine w_dup dX9_plain_93 rfl ?_
            refine w_iload_n dX9_plain_94 rfl ?_
            refine w_iload_n dX9_plain_95 rfl ?_
            refine w_aload_n dX9_plain_96 rfl ?_
            refine w_ref h190 ?_
            refine w_aload_n dX9_plain_97 rfl ?_
            refine cy_call (kc := 0) (ks := 0) (As := [_]) (mi2 := miX9_find) dX9_plain_98 q878 okX9_find clX9 rfl (H.get ce_rd) (Nat.le_of_ble_eq_true rfl) (r_find (C := C90) hx90 hT90 hO87 hN87 (hB90).N) rfl H F h590 (fun C2 h => EY.up h r90.Y (fun f z => by rw [pO_19 hk19]; simp only [e16, e87, z, ob, oe])) rfl rfl (Nat.le_of_ble_eq_true rfl) ?_
            intro v98 σ C98 hQ98 H F
            obtain ⟨n98, t98, nu98, hv98, e98, hO98, hc98, hN98⟩ := hQ98
            subst hv98 hc98
            refine y_act (C := C90) (n := X.2) (q := rqT t98 nu98 st du) H F m90 dX9_plain_101 rfl (Nat.le_of_ble_eq_true rfl) ?_
            intro σ C101 r101 l101 d101 z101 H F
            exact w_aret dX9_plain_104 rfl (Or.inl ⟨_, rfl⟩) ⟨_, by exact ⟨C101, (kix X t, n16, n98, 0), t98, nu98, _, rfl, by rw [pO_19 hk19]; simp only [e16, e87, e98, ob], hO98, hN98, rfl, r90.trans r101, (l90.sub (fun i h => h.2)).trans l101, (congrFun (congrFun d101 8) 1).trans h190, ⟨nI n16, n98, by have z := z101; exact z, isPl_K hK, fun _ => ⟨rfl, rfl⟩, fun h => absurd (show kix X t = 22 ∨ kix X t = 23 from h) (aw_n2 hk19)⟩⟩, H, F⟩
      · have hk20 : kix X t = 20 := aw_20 (by omega)
        refine y_new (kc := 0) (ks := 0) [.int 0, .int 0, .int 0] 4 (by decide) H F dX9_plain_56 clX14 q984 q985 q160 dfX14 ?_
        intro σ C56 r56 l56 m56 z56 H F
        have hx56 := r56.x hx
        have hT56 := r56.T hT
        have hB56 := hB.r9 r56
        have h156 : od C56 8 1 = od C 8 1 := (l56 1 (by decide)).2
        have h556 : od C56 0 5 = od C 0 5 := r56.1 0 5 (by decide)
        refine w_dup dX9_plain_59 rfl ?_
        refine w_iload_n dX9_plain_60 rfl ?_
        refine w_iload_n dX9_plain_61 rfl ?_
        refine w_aload_n dX9_plain_62 rfl ?_
        refine w_ref h156 ?_
        refine w_iconst (v := nI 1) dX9_plain_63 ki_1 ?_
        refine w_sipush (v := nI 240) dX9_plain_64 ks_240 ?_
        refine cy_call (kc := 0) (ks := 0) (As := [_, _]) (mi2 := miX9_number) dX9_plain_67 q787 okX9_number clX9 rfl (H.get ce_rd) (Nat.le_of_ble_eq_true rfl) (r_number (C := C56) hx56 hT56 hO16 hN16 (by omega) (by omega)) rfl H F h556 (fun C2 h => EY.up h r56.Y (fun f z => by rw [hk20, pO_20]; simp only [e16, z, ob, oe])) rfl rfl (Nat.le_of_ble_eq_true rfl) ?_
        intro v67 σ C67 hQ67 H F
        obtain ⟨n67, t67, nu67, hv67, e67, hO67, hc67, hN67⟩ := hQ67
        subst hv67 hc67
        refine y_act (C := C56) (n := X.2) (q := rqT t67 nu67 st du) H F m56 dX9_plain_70 rfl (Nat.le_of_ble_eq_true rfl) ?_
        intro σ C70 r70 l70 d70 z70 H F
        exact w_aret dX9_plain_73 rfl (Or.inl ⟨_, rfl⟩) ⟨_, by exact ⟨C70, (20, n16, n67, 0), t67, nu67, _, rfl, by rw [hk20, pO_20]; simp only [e16, e67, ob], hO67, hN67, rfl, r56.trans r70, (l56.sub (fun i h => h.2)).trans l70, (congrFun (congrFun d70 8) 1).trans h156, ⟨nI n16, n67, by have z := z70; rw [hk20] at z; exact z, (Or.inr (Or.inr (Or.inr (Or.inl rfl)))), fun _ => ⟨rfl, rfl⟩, fun h => absurd (show 20 = 22 ∨ 20 = 23 from h) (by decide)⟩⟩, H, F⟩
    · have hk18 : kix X t = 18 := aw_18 (by omega)
      refine y_new (kc := 0) (ks := 0) [.int 0, .int 0, .int 0] 4 (by decide) H F dX9_plain_28 clX14 q984 q985 q160 dfX14 ?_
      intro σ C28 r28 l28 m28 z28 H F
      have hx28 := r28.x hx
      have hT28 := r28.T hT
      have hB28 := hB.r9 r28
      have h128 : od C28 8 1 = od C 8 1 := (l28 1 (by decide)).2
      have h528 : od C28 0 5 = od C 0 5 := r28.1 0 5 (by decide)
      refine w_dup dX9_plain_31 rfl ?_
      refine w_iload_n dX9_plain_32 rfl ?_
      refine w_iload_n dX9_plain_33 rfl ?_
      refine w_aload_n dX9_plain_34 rfl ?_
      refine w_ref h128 ?_
      refine w_ldcS (i := 25) rfl rfl rfl dX9_plain_35 ?_
      refine w_iconst (v := nI 0) dX9_plain_37 ki_0 ?_
      refine w_aload_n dX9_plain_38 rfl ?_
      obtain ⟨fs39, -, -, -, -, hz39, e39, -⟩ := id hB28
      refine w_getfN (k := 0) dX9_plain_39 clX6 (by decide) q292 (H.z hz39) e39 ?_
      refine w_iconst (v := nI 1) dX9_plain_42 ki_1 ?_
      refine w_isubN dX9_plain_43 (by omega) ?_
      refine cy_call (kc := 0) (ks := 0) (As := [_, _, _]) (mi2 := miX9_behind) dX9_plain_44 q719 okX9_behind clX9 rfl (H.get ce_rd) (Nat.le_of_ble_eq_true rfl) (r_behind (i := 25) (m := 17) (C := C28) hx28 hT28 hO16 hN16 (by omega) (by omega) rfl (by decide) rfl) rfl H F h528 (fun C2 h => EY.up h r28.Y (fun f z => by rw [hk18, pO_18]; simp only [e16, z, ob, oe])) rfl rfl (Nat.le_of_ble_eq_true rfl) ?_
      intro v44 σ C44 hQ44 H F
      obtain ⟨n44, t44, nu44, hv44, e44, hO44, hc44, hN44⟩ := hQ44
      subst hv44 hc44
      refine y_act (C := C28) (n := X.2) (q := rqT t44 nu44 st du) H F m28 dX9_plain_47 rfl (Nat.le_of_ble_eq_true rfl) ?_
      intro σ C47 r47 l47 d47 z47 H F
      exact w_aret dX9_plain_50 rfl (Or.inl ⟨_, rfl⟩) ⟨_, by exact ⟨C47, (18, n16, n44, 0), t44, nu44, _, rfl, by rw [hk18, pO_18]; simp only [e16, e44, ob], hO44, hN44, rfl, r28.trans r47, (l28.sub (fun i h => h.2)).trans l47, (congrFun (congrFun d47 8) 1).trans h128, ⟨nI n16, n44, by have z := z47; rw [hk18] at z; exact z, (Or.inr (Or.inl rfl)), fun _ => ⟨rfl, rfl⟩, fun h => absurd (show 18 = 22 ∨ 18 = 23 from h) (by decide)⟩⟩, H, F⟩
