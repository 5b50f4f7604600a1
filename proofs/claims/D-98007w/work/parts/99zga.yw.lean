set_option maxRecDepth 100000
set_option maxHeartbeats 8000000 in
theorem y_when {g : GG} {C : CS} {X : TX} {t : Tk} {nu st du : Int32} {b : Nat} {Hs : HS} {u v : Nat} (hx : oO C 0 = true) (hT : TxC C X) (hO : OkT9 X t) (hN : NuT t nu) (hB : BeF g C b Hs) (hu1 : u ≠ 1) (hv1 : v ≠ 1) (huv : u ≠ v) : Cz g miX9_when 10 2 11 [.ref (od C 8 1), .ref b] (rdS C X.2 (rqT t nu st du)) (QWh g C X u v st du (pTest X Hs t)) (EY C (pTest X Hs t)) := by
  refine Cz.start [some (.ref (od C 8 1)), some (.ref b), none, none, none] plX9 rfl (Nat.le_of_ble_eq_true rfl) rfl ?_
  intro σ0 σ H F
  have hX9 := hT.1
  have hk9 := kix_le X t
  refine w_aload_n dX9_when_0 rfl ?_
  refine w_ldcS (i := 27) rfl rfl rfl dX9_when_1 ?_
  refine cr_call (As := [_]) (mi := miX9_isWord) dX9_when_3 q727 okX9_isWord clX9 rfl (H.get ce_rd) (Nat.le_of_ble_eq_true rfl) (r_isWord (i := 27) (m := 28) (C := C) hx hT hO rfl (by decide) rfl) H rfl rfl (Nat.le_of_ble_eq_true rfl) ?_
  refine w_ifB_eq dX9_when_6 rfl (fun h_6 => ?_) (fun h_6 => ?_)
  · refine w_aload_n dX9_when_13 rfl ?_
    refine w_ldcS (i := 11) rfl rfl rfl dX9_when_14 ?_
    refine cr_call (As := [_]) (mi := miX9_isWord) dX9_when_16 q727 okX9_isWord clX9 rfl (H.get ce_rd) (Nat.le_of_ble_eq_true rfl) (r_isWord (i := 11) (m := 15) (C := C) hx hT hO rfl (by decide) rfl) H rfl rfl (Nat.le_of_ble_eq_true rfl) ?_
    refine w_ifB_eq dX9_when_19 rfl (fun h_19 => ?_) (fun h_19 => ?_)
    · refine w_aload_n dX9_when_26 rfl ?_
      refine w_ldcS (i := 28) rfl rfl rfl dX9_when_27 ?_
      refine cr_call (As := [_]) (mi := miX9_isWord) dX9_when_29 q727 okX9_isWord clX9 rfl (H.get ce_rd) (Nat.le_of_ble_eq_true rfl) (r_isWord (i := 28) (m := 29) (C := C) hx hT hO rfl (by decide) rfl) H rfl rfl (Nat.le_of_ble_eq_true rfl) ?_
      refine w_ifB_eq dX9_when_32 rfl (fun h_32 => ?_) (fun h_32 => ?_)
      · refine w_iconst (v := (-1)) dX9_when_39 ki_m1 ?_
        refine w_istore_n dX9_when_40 rfl (Nat.le_of_ble_eq_true rfl) ls_5_2 ?_
        refine w_iload_n dX9_when_41 rfl ?_
        refine w_if_ge dX9_when_42 rfl (fun h_42 => ?_) (fun h_42 => ?_)
        · exact absurd h_42 (by decide)
        · refine w_aload_n dX9_when_45 rfl ?_
          refine cp_call (kc := 2) (ks := 11) (As := []) (mi := miX9_wrong) dX9_when_46 q779 okX9_wrong clX9 rfl (H.get ce_rd) (Nat.le_of_ble_eq_true rfl) (r_wrong (C := C) hx hT hO) H F rfl rfl (Nat.le_of_ble_eq_true rfl) ?_
          intro σ C46 hC46 H F
          exact cy_throw (C1 := C46) dX9_when_49 rfl (by rw [hC46]; exact hx) H F (bd_rd5 hC46) (show od C 0 5 = od C 0 5 from rfl) (EY.mk (pT_no ⟨by omega, by omega, by omega⟩) hC46 (R9.refl (C := C)).Y)
      · refine w_iconst (v := nI 2) dX9_when_35 ki_2 ?_
        refine w_goto dX9_when_36 rfl ?_
        refine w_istore_n dX9_when_40 rfl (Nat.le_of_ble_eq_true rfl) ls_5_2 ?_
        refine w_iload_n dX9_when_41 rfl ?_
        refine w_ifN_ge dX9_when_42 rfl (by omega) (fun h_42 => ?_) (fun h_42 => ?_)
        · refine w_aload_n dX9_when_50 rfl ?_
          refine cp_call (kc := 2) (ks := 11) (As := []) (mi := miX9_next) dX9_when_51 q676 okX9_next clX9 rfl (H.get ce_rd) (Nat.le_of_ble_eq_true rfl) (r_next (C := C) hx hT hO.ok.2.1) H F rfl rfl (Nat.le_of_ble_eq_true rfl) ?_
          intro σ C51 hC51 H F
          obtain ⟨nu51, hc51, hN51⟩ := hC51
          subst hc51
          refine w_iload_n dX9_when_54 rfl ?_
          refine w_iconst (v := nI 2) dX9_when_55 ki_2 ?_
          refine w_icmpN_ne dX9_when_56 rfl (by omega) (by omega) (fun h_56 => ?_) (fun h_56 => ?_)
          · exact absurd h_56 (by decide)
          · refine y_new (kc := 1) (ks := 4) [.null, .int 0, .int 0, .int 0, .int 0, .int 0, .int 0] u hu1 H F dX9_when_59 clX13 q954 q955 q159 dfX13 ?_
            intro σ C59 r59 l59 m59 z59 H F
            have hx59 := r59.x hx
            have hT59 := r59.T hT
            have hB59 := hB.r9 r59
            have h159 : od C59 8 1 = od C 8 1 := (l59 1 (fun z => hu1 z.symm)).2
            have h559 : od C59 0 5 = od C 0 5 := r59.1 0 5 (by decide)
            refine w_dup dX9_when_62 rfl ?_
            refine w_iload_n dX9_when_63 rfl ?_
            refine w_iconst (v := (-1)) dX9_when_64 ki_m1 ?_
            refine w_aload_n dX9_when_65 rfl ?_
            refine w_ref h159 ?_
            refine w_aload_n dX9_when_66 rfl ?_
            refine cy_call (kc := 1) (ks := 4) (As := [_]) (mi2 := miX9_find) dX9_when_67 q878 okX9_find clX9 rfl (H.get ce_rd) (Nat.le_of_ble_eq_true rfl) (r_find (C := C59) hx59 hT59 hO.nx hN51 (hB59).N) rfl H F h559 (fun C2 h => EY.up h r59.Y (fun f z => by rw [pT_29 h_32]; simp only [z, oe])) rfl rfl (Nat.le_of_ble_eq_true rfl) ?_
            intro v67 σ C67 hQ67 H F
            obtain ⟨n67, t67, nu67, hv67, e67, hO67, hc67, hN67⟩ := hQ67
            subst hv67 hc67
            refine w_iconst (v := nI 0) dX9_when_70 ki_0 ?_
            refine w_iconst (v := nI 0) dX9_when_71 ki_0 ?_
            refine y_blk (kc := 0) (ks := 0) (C := C59) (n := X.2) (q := rqT t67 nu67 st du) (u := u) (v := v) (mi := miX13_init) (As := [.int (nI 2), .int (-1), .int (nI n67), .int (nI 0), .int (nI 0)]) (rest := [.ref (od C59 8 u)]) hu1 hv1 huv m59 H F dX9_when_72 q956 okX13_init (iX13_init (u7 := (8, v))) (Nat.le_of_ble_eq_true rfl) rfl rfl (Nat.le_of_ble_eq_true rfl) ?_
            intro σ C72 r72 l72 d72 z72 b72 H F
            exact w_aret dX9_when_75 rfl (Or.inl ⟨_, rfl⟩) ⟨_, by exact ⟨C72, (2429, n67, 0, 0), t67, nu67, (-1), nI n67, nI 0, nI 0, congrArg (fun z => some (Value.ref z)) d72.symm, by rw [pT_29 h_32]; simp only [e67, ob], hO67, hN67, rfl, r59.trans r72, (l59.sub (fun i h => h.2.1)).trans (l72.sub (fun i h => h.2)), ((l72 1 ⟨fun z => hu1 z.symm, fun z => hv1 z.symm⟩).2).trans h159, b72, Or.inr (Or.inr rfl), fun h => absurd (show (2429 : Nat) = 2428 from h) (by decide), fun h => absurd (show (2429 : Nat) = 2415 from h) (by decide), fun _ => rfl⟩, H, F⟩
        · exact absurd h_42 (by decide)
    · refine w_iconst (v := nI 1) dX9_when_22 ki_1 ?_
      refine w_goto dX9_when_23 rfl ?_
      refine w_istore_n dX9_when_40 rfl (Nat.le_of_ble_eq_true rfl) ls_5_2 ?_
      refine w_iload_n dX9_when_41 rfl ?_
      refine w_ifN_ge dX9_when_42 rfl (by omega) (fun h_42 => ?_) (fun h_42 => ?_)
      · refine w_aload_n dX9_when_50 rfl ?_
        refine cp_call (kc := 2) (ks := 11) (As := []) (mi := miX9_next) dX9_when_51 q676 okX9_next clX9 rfl (H.get ce_rd) (Nat.le_of_ble_eq_true rfl) (r_next (C := C) hx hT hO.ok.2.1) H F rfl rfl (Nat.le_of_ble_eq_true rfl) ?_
        intro σ C51 hC51 H F
        obtain ⟨nu51, hc51, hN51⟩ := hC51
        subst hc51
        refine w_iload_n dX9_when_54 rfl ?_
        refine w_iconst (v := nI 2) dX9_when_55 ki_2 ?_
        refine w_icmpN_ne dX9_when_56 rfl (by omega) (by omega) (fun h_56 => ?_) (fun h_56 => ?_)
        · refine w_aload_n dX9_when_76 rfl ?_
          refine w_aload_n dX9_when_77 rfl ?_
          refine cy_call (kc := 2) (ks := 11) (As := [_]) (mi2 := miX9_finder) dX9_when_78 q870 okX9_finder clX9 rfl (H.get ce_rd) (Nat.le_of_ble_eq_true rfl) (r_finder (C := C) hx hT hO.nx hN51 (hB).N) rfl H F (show od C 0 5 = od C 0 5 from rfl) (fun C2 h => EY.up h (R9.refl (C := C)).Y (fun f z => by rw [pT_15 h_19]; simp only [z, oe])) rfl rfl (Nat.le_of_ble_eq_true rfl) ?_
          intro v78 σ C78 hQ78 H F
          obtain ⟨n78, t78, nu78, hv78, e78, hO78, hc78, hN78⟩ := hQ78
          subst hv78 hc78
          refine w_istore_n dX9_when_81 rfl (Nat.le_of_ble_eq_true rfl) ls_5_3 ?_
          refine w_iload_n dX9_when_82 rfl ?_
          refine w_iconst (v := nI 1) dX9_when_83 ki_1 ?_
          refine w_icmpN_ne dX9_when_84 rfl (by omega) (by omega) (fun h_84 => ?_) (fun h_84 => ?_)
          · exact absurd h_84 (by decide)
          · refine w_aload_n dX9_when_87 rfl ?_
            refine w_ldcS (i := 23) rfl rfl rfl dX9_when_88 ?_
            refine cy_call (kc := 2) (ks := 11) (As := [_]) (mi2 := miX9_word) dX9_when_90 q723 okX9_word clX9 rfl (H.get ce_rd) (Nat.le_of_ble_eq_true rfl) (r_word (i := 23) (m := 12) (C := C) hx hT hO78 hN78 rfl (by decide) rfl) rfl H F (show od C 0 5 = od C 0 5 from rfl) (fun C2 h => EY.up h (R9.refl (C := C)).Y (fun f z => by rw [pT_15 h_19]; simp only [e78, z, ob, oe])) rfl rfl (Nat.le_of_ble_eq_true rfl) ?_
            intro v90 σ C90 hQ90 H F
            obtain ⟨hv90, t90, nu90, e90, hO90, hc90, hN90⟩ := hQ90
            subst hv90 hc90
            refine y_new (kc := 1) (ks := 4) [.null, .int 0, .int 0, .int 0, .int 0, .int 0, .int 0] u hu1 H F dX9_when_93 clX13 q954 q955 q159 dfX13 ?_
            intro σ C93 r93 l93 m93 z93 H F
            have hx93 := r93.x hx
            have hT93 := r93.T hT
            have hB93 := hB.r9 r93
            have h193 : od C93 8 1 = od C 8 1 := (l93 1 (fun z => hu1 z.symm)).2
            have h593 : od C93 0 5 = od C 0 5 := r93.1 0 5 (by decide)
            refine w_dup dX9_when_96 rfl ?_
            refine w_iload_n dX9_when_97 rfl ?_
            refine w_iload_n dX9_when_98 rfl ?_
            refine w_aload_n dX9_when_99 rfl ?_
            refine w_ref h193 ?_
            refine w_aload_n dX9_when_100 rfl ?_
            refine cy_call (kc := 1) (ks := 4) (As := [_]) (mi2 := miX9_find) dX9_when_101 q878 okX9_find clX9 rfl (H.get ce_rd) (Nat.le_of_ble_eq_true rfl) (r_find (C := C93) hx93 hT93 hO90 hN90 (hB93).N) rfl H F h593 (fun C2 h => EY.up h r93.Y (fun f z => by rw [pT_15 h_19]; simp only [e78, e90, z, ob, oe])) rfl rfl (Nat.le_of_ble_eq_true rfl) ?_
            intro v101 σ C101 hQ101 H F
            obtain ⟨n101, t101, nu101, hv101, e101, hO101, hc101, hN101⟩ := hQ101
            subst hv101 hc101
            refine w_iconst (v := nI 0) dX9_when_104 ki_0 ?_
            refine w_iconst (v := nI 0) dX9_when_105 ki_0 ?_
            refine y_blk (kc := 0) (ks := 0) (C := C93) (n := X.2) (q := rqT t101 nu101 st du) (u := u) (v := v) (mi := miX13_init) (As := [.int (nI 1), .int (nI n78), .int (nI n101), .int (nI 0), .int (nI 0)]) (rest := [.ref (od C93 8 u)]) hu1 hv1 huv m93 H F dX9_when_106 q956 okX13_init (iX13_init (u7 := (8, v))) (Nat.le_of_ble_eq_true rfl) rfl rfl (Nat.le_of_ble_eq_true rfl) ?_
            intro σ C106 r106 l106 d106 z106 b106 H F
            exact w_aret dX9_when_109 rfl (Or.inl ⟨_, rfl⟩) ⟨_, by exact ⟨C106, (2415, n78, n101, 0), t101, nu101, nI n78, nI n101, nI 0, nI 0, congrArg (fun z => some (Value.ref z)) d106.symm, by rw [pT_15 h_19]; simp only [e78, e90, e101, ob], hO101, hN101, rfl, r93.trans r106, (l93.sub (fun i h => h.2.1)).trans (l106.sub (fun i h => h.2)), ((l106 1 ⟨fun z => hu1 z.symm, fun z => hv1 z.symm⟩).2).trans h193, b106, Or.inr (Or.inl rfl), fun h => absurd (show (2415 : Nat) = 2428 from h) (by decide), fun _ => ⟨rfl, rfl⟩, fun h => absurd (show (2415 : Nat) = 2429 from h) (by decide)⟩, H, F⟩
        · exact absurd h_56 (by decide)
      · exact absurd h_42 (by decide)
  · refine w_iconst (v := nI 0) dX9_when_9 ki_0 ?_
    refine w_goto dX9_when_10 rfl ?_
    refine w_istore_n dX9_when_40 rfl (Nat.le_of_ble_eq_true rfl) ls_5_2 ?_
    refine w_iload_n dX9_when_41 rfl ?_
    refine w_ifN_ge dX9_when_42 rfl (by omega) (fun h_42 => ?_) (fun h_42 => ?_)
    · refine w_aload_n dX9_when_50 rfl ?_
      refine cp_call (kc := 2) (ks := 11) (As := []) (mi := miX9_next) dX9_when_51 q676 okX9_next clX9 rfl (H.get ce_rd) (Nat.le_of_ble_eq_true rfl) (r_next (C := C) hx hT hO.ok.2.1) H F rfl rfl (Nat.le_of_ble_eq_true rfl) ?_
      intro σ C51 hC51 H F
      obtain ⟨nu51, hc51, hN51⟩ := hC51
      subst hc51
      refine w_iload_n dX9_when_54 rfl ?_
      refine w_iconst (v := nI 2) dX9_when_55 ki_2 ?_
      refine w_icmpN_ne dX9_when_56 rfl (by omega) (by omega) (fun h_56 => ?_) (fun h_56 => ?_)
      · refine w_aload_n dX9_when_76 rfl ?_
        refine w_aload_n dX9_when_77 rfl ?_
        refine cy_call (kc := 2) (ks := 11) (As := [_]) (mi2 := miX9_finder) dX9_when_78 q870 okX9_finder clX9 rfl (H.get ce_rd) (Nat.le_of_ble_eq_true rfl) (r_finder (C := C) hx hT hO.nx hN51 (hB).N) rfl H F (show od C 0 5 = od C 0 5 from rfl) (fun C2 h => EY.up h (R9.refl (C := C)).Y (fun f z => by rw [pT_28 h_6]; simp only [z, oe])) rfl rfl (Nat.le_of_ble_eq_true rfl) ?_
        intro v78 σ C78 hQ78 H F
        obtain ⟨n78, t78, nu78, hv78, e78, hO78, hc78, hN78⟩ := hQ78
        subst hv78 hc78
        refine w_istore_n dX9_when_81 rfl (Nat.le_of_ble_eq_true rfl) ls_5_3 ?_
        refine w_iload_n dX9_when_82 rfl ?_
        refine w_iconst (v := nI 1) dX9_when_83 ki_1 ?_
        refine w_icmpN_ne dX9_when_84 rfl (by omega) (by omega) (fun h_84 => ?_) (fun h_84 => ?_)
        · refine w_aload_n dX9_when_110 rfl ?_
          refine w_bipush (v := nI 60) dX9_when_111 kb_60 ?_
          refine cr_call (As := [_]) (mi := miX9_isSign) dX9_when_113 q797 okX9_isSign clX9 rfl (H.get ce_rd) (Nat.le_of_ble_eq_true rfl) (r_isSign (C := C) hx hT hO78 (by omega)) H rfl rfl (Nat.le_of_ble_eq_true rfl) ?_
          refine w_ifB_eq dX9_when_116 rfl (fun h_116 => ?_) (fun h_116 => ?_)
          · refine w_aload_n dX9_when_124 rfl ?_
            refine w_bipush (v := nI 62) dX9_when_125 kb_62 ?_
            refine cr_call (As := [_]) (mi := miX9_isSign) dX9_when_127 q797 okX9_isSign clX9 rfl (H.get ce_rd) (Nat.le_of_ble_eq_true rfl) (r_isSign (C := C) hx hT hO78 (by omega)) H rfl rfl (Nat.le_of_ble_eq_true rfl) ?_
            refine w_ifB_eq dX9_when_130 rfl (fun h_130 => ?_) (fun h_130 => ?_)
            · refine w_bipush (v := nI 61) dX9_when_138 kb_61 ?_
              refine w_istore dX9_when_140 rfl (Nat.le_of_ble_eq_true rfl) ls_5_4 ?_
              refine w_aload_n dX9_when_142 rfl ?_
              refine w_iload dX9_when_143 rfl ?_
              refine w_i2c (v := nI 61) dX9_when_145 (by decide +kernel) ?_
              refine cr_call (As := [_]) (mi := miX9_isSign) dX9_when_146 q797 okX9_isSign clX9 rfl (H.get ce_rd) (Nat.le_of_ble_eq_true rfl) (r_isSign (C := C) hx hT hO78 (by omega)) H rfl rfl (Nat.le_of_ble_eq_true rfl) ?_
              refine w_ifB_ne dX9_when_149 rfl (fun h_149 => ?_) (fun h_149 => ?_)
              · have hs9 : t78.so = 4 ∧ (t78.va = 60 ∨ t78.va = 62 ∨ t78.va = 61) := ⟨h_149.1, Or.inr (Or.inr h_149.2)⟩
                refine w_aload_n dX9_when_157 rfl ?_
                refine cp_call (kc := 2) (ks := 11) (As := []) (mi := miX9_next) dX9_when_158 q676 okX9_next clX9 rfl (H.get ce_rd) (Nat.le_of_ble_eq_true rfl) (r_next (C := C) hx hT hO78.ok.2.1) H F rfl rfl (Nat.le_of_ble_eq_true rfl) ?_
                intro σ C158 hC158 H F
                obtain ⟨nu158, hc158, hN158⟩ := hC158
                subst hc158
                skip
                refine y_new (kc := 1) (ks := 4) [.null, .int 0, .int 0, .int 0, .int 0, .int 0, .int 0] u hu1 H F dX9_when_161 clX13 q954 q955 q159 dfX13 ?_
                intro σ C161 r161 l161 m161 z161 H F
                have hx161 := r161.x hx
                have hT161 := r161.T hT
                have hB161 := hB.r9 r161
                have h1161 : od C161 8 1 = od C 8 1 := (l161 1 (fun z => hu1 z.symm)).2
                have h5161 : od C161 0 5 = od C 0 5 := r161.1 0 5 (by decide)
                refine w_dup dX9_when_164 rfl ?_
                refine w_iload_n dX9_when_165 rfl ?_
                refine w_iload_n dX9_when_166 rfl ?_
                refine w_iconst (v := (-1)) dX9_when_167 ki_m1 ?_
                refine w_iload dX9_when_168 rfl ?_
                refine w_aload_n dX9_when_170 rfl ?_
                refine w_ref h1161 ?_
                refine w_iconst (v := nI 0) dX9_when_171 ki_0 ?_
                refine w_sipush (v := nI 9999) dX9_when_172 ks_9999 ?_
                refine cy_call (kc := 1) (ks := 4) (As := [_, _]) (mi2 := miX9_number) dX9_when_175 q787 okX9_number clX9 rfl (H.get ce_rd) (Nat.le_of_ble_eq_true rfl) (r_number (C := C161) hx161 hT161 hO78.nx hN158 (by omega) (by omega)) rfl H F h5161 (fun C2 h => EY.up h r161.Y (fun f z => by rw [pT_28 h_6, e78]; show (if t78.so = 4 ∧ (t78.va = 60 ∨ t78.va = 62 ∨ t78.va = 61) then _ else _) = _; rw [if_pos hs9, z]; rfl)) rfl rfl (Nat.le_of_ble_eq_true rfl) ?_
                intro v175 σ C175 hQ175 H F
                obtain ⟨n175, t175, nu175, hv175, e175, hO175, hc175, hN175⟩ := hQ175
                subst hv175 hc175
                refine y_blk (kc := 0) (ks := 0) (C := C161) (n := X.2) (q := rqT t175 nu175 st du) (u := u) (v := v) (mi := miX13_init) (As := [.int (nI 0), .int (nI n78), .int (-1), .int (nI 61), .int (nI n175)]) (rest := [.ref (od C161 8 u)]) hu1 hv1 huv m161 H F dX9_when_178 q956 okX13_init (iX13_init (u7 := (8, v))) (Nat.le_of_ble_eq_true rfl) rfl rfl (Nat.le_of_ble_eq_true rfl) ?_
                intro σ C178 r178 l178 d178 z178 b178 H F
                exact w_aret dX9_when_181 rfl (Or.inl ⟨_, rfl⟩) ⟨_, by exact ⟨C178, (2428, n78, n175, t78.va), t175, nu175, nI n78, (-1), nI 61, nI n175, congrArg (fun z => some (Value.ref z)) d178.symm, by rw [pT_28 h_6, e78]; show (if t78.so = 4 ∧ (t78.va = 60 ∨ t78.va = 62 ∨ t78.va = 61) then _ else _) = _; rw [if_pos hs9, e175]; rfl, hO175, hN175, rfl, r161.trans r178, (l161.sub (fun i h => h.2.1)).trans (l178.sub (fun i h => h.2)), ((l178 1 ⟨fun z => hu1 z.symm, fun z => hv1 z.symm⟩).2).trans h1161, b178, Or.inl rfl, fun _ => ⟨rfl, congrArg nI h_149.2.symm, rfl⟩, fun h => absurd (show (2428 : Nat) = 2415 from h) (by decide), fun h => absurd (show (2428 : Nat) = 2429 from h) (by decide)⟩, H, F⟩
              · refine w_aload_n dX9_when_152 rfl ?_
                refine cp_call (kc := 2) (ks := 11) (As := []) (mi := miX9_wrong) dX9_when_153 q779 okX9_wrong clX9 rfl (H.get ce_rd) (Nat.le_of_ble_eq_true rfl) (r_wrong (C := C) hx hT hO78) H F rfl rfl (Nat.le_of_ble_eq_true rfl) ?_
                intro σ C153 hC153 H F
                exact cy_throw (C1 := C153) dX9_when_156 rfl (by rw [hC153]; exact hx) H F (bd_rd5 hC153) (show od C 0 5 = od C 0 5 from rfl) (EY.mk (by rw [pT_28 h_6, e78]; exact if_neg (fun z => by rcases z with ⟨z1, z2 | z2 | z2⟩; exact h_116 ⟨z1, z2⟩; exact h_130 ⟨z1, z2⟩; exact h_149 ⟨z1, z2⟩)) hC153 (R9.refl (C := C)).Y)
            · refine w_bipush (v := nI 62) dX9_when_133 kb_62 ?_
              refine w_goto dX9_when_135 rfl ?_
              refine w_istore dX9_when_140 rfl (Nat.le_of_ble_eq_true rfl) ls_5_4 ?_
              refine w_aload_n dX9_when_142 rfl ?_
              refine w_iload dX9_when_143 rfl ?_
              refine w_i2c (v := nI 62) dX9_when_145 (by decide +kernel) ?_
              refine cr_call (As := [_]) (mi := miX9_isSign) dX9_when_146 q797 okX9_isSign clX9 rfl (H.get ce_rd) (Nat.le_of_ble_eq_true rfl) (r_isSign (C := C) hx hT hO78 (by omega)) H rfl rfl (Nat.le_of_ble_eq_true rfl) ?_
              refine w_ifB_ne dX9_when_149 rfl (fun h_149 => ?_) (fun h_149 => ?_)
              · have hs9 : t78.so = 4 ∧ (t78.va = 60 ∨ t78.va = 62 ∨ t78.va = 61) := ⟨h_130.1, Or.inr (Or.inl h_130.2)⟩
                refine w_aload_n dX9_when_157 rfl ?_
                refine cp_call (kc := 2) (ks := 11) (As := []) (mi := miX9_next) dX9_when_158 q676 okX9_next clX9 rfl (H.get ce_rd) (Nat.le_of_ble_eq_true rfl) (r_next (C := C) hx hT hO78.ok.2.1) H F rfl rfl (Nat.le_of_ble_eq_true rfl) ?_
                intro σ C158 hC158 H F
                obtain ⟨nu158, hc158, hN158⟩ := hC158
                subst hc158
                skip
                refine y_new (kc := 1) (ks := 4) [.null, .int 0, .int 0, .int 0, .int 0, .int 0, .int 0] u hu1 H F dX9_when_161 clX13 q954 q955 q159 dfX13 ?_
                intro σ C161 r161 l161 m161 z161 H F
                have hx161 := r161.x hx
                have hT161 := r161.T hT
                have hB161 := hB.r9 r161
                have h1161 : od C161 8 1 = od C 8 1 := (l161 1 (fun z => hu1 z.symm)).2
                have h5161 : od C161 0 5 = od C 0 5 := r161.1 0 5 (by decide)
                refine w_dup dX9_when_164 rfl ?_
                refine w_iload_n dX9_when_165 rfl ?_
                refine w_iload_n dX9_when_166 rfl ?_
                refine w_iconst (v := (-1)) dX9_when_167 ki_m1 ?_
                refine w_iload dX9_when_168 rfl ?_
                refine w_aload_n dX9_when_170 rfl ?_
                refine w_ref h1161 ?_
                refine w_iconst (v := nI 0) dX9_when_171 ki_0 ?_
                refine w_sipush (v := nI 9999) dX9_when_172 ks_9999 ?_
                refine cy_call (kc := 1) (ks := 4) (As := [_, _]) (mi2 := miX9_number) dX9_when_175 q787 okX9_number clX9 rfl (H.get ce_rd) (Nat.le_of_ble_eq_true rfl) (r_number (C := C161) hx161 hT161 hO78.nx hN158 (by omega) (by omega)) rfl H F h5161 (fun C2 h => EY.up h r161.Y (fun f z => by rw [pT_28 h_6, e78]; show (if t78.so = 4 ∧ (t78.va = 60 ∨ t78.va = 62 ∨ t78.va = 61) then _ else _) = _; rw [if_pos hs9, z]; rfl)) rfl rfl (Nat.le_of_ble_eq_true rfl) ?_
                intro v175 σ C175 hQ175 H F
                obtain ⟨n175, t175, nu175, hv175, e175, hO175, hc175, hN175⟩ := hQ175
                subst hv175 hc175
                refine y_blk (kc := 0) (ks := 0) (C := C161) (n := X.2) (q := rqT t175 nu175 st du) (u := u) (v := v) (mi := miX13_init) (As := [.int (nI 0), .int (nI n78), .int (-1), .int (nI 62), .int (nI n175)]) (rest := [.ref (od C161 8 u)]) hu1 hv1 huv m161 H F dX9_when_178 q956 okX13_init (iX13_init (u7 := (8, v))) (Nat.le_of_ble_eq_true rfl) rfl rfl (Nat.le_of_ble_eq_true rfl) ?_
                intro σ C178 r178 l178 d178 z178 b178 H F
                exact w_aret dX9_when_181 rfl (Or.inl ⟨_, rfl⟩) ⟨_, by exact ⟨C178, (2428, n78, n175, t78.va), t175, nu175, nI n78, (-1), nI 62, nI n175, congrArg (fun z => some (Value.ref z)) d178.symm, by rw [pT_28 h_6, e78]; show (if t78.so = 4 ∧ (t78.va = 60 ∨ t78.va = 62 ∨ t78.va = 61) then _ else _) = _; rw [if_pos hs9, e175]; rfl, hO175, hN175, rfl, r161.trans r178, (l161.sub (fun i h => h.2.1)).trans (l178.sub (fun i h => h.2)), ((l178 1 ⟨fun z => hu1 z.symm, fun z => hv1 z.symm⟩).2).trans h1161, b178, Or.inl rfl, fun _ => ⟨rfl, congrArg nI h_130.2.symm, rfl⟩, fun h => absurd (show (2428 : Nat) = 2415 from h) (by decide), fun h => absurd (show (2428 : Nat) = 2429 from h) (by decide)⟩, H, F⟩
              · exact absurd h_130 h_149
          · refine w_bipush (v := nI 60) dX9_when_119 kb_60 ?_
            refine w_goto dX9_when_121 rfl ?_
            refine w_istore dX9_when_140 rfl (Nat.le_of_ble_eq_true rfl) ls_5_4 ?_
            refine w_aload_n dX9_when_142 rfl ?_
            refine w_iload dX9_when_143 rfl ?_
            refine w_i2c (v := nI 60) dX9_when_145 (by decide +kernel) ?_
            refine cr_call (As := [_]) (mi := miX9_isSign) dX9_when_146 q797 okX9_isSign clX9 rfl (H.get ce_rd) (Nat.le_of_ble_eq_true rfl) (r_isSign (C := C) hx hT hO78 (by omega)) H rfl rfl (Nat.le_of_ble_eq_true rfl) ?_
            refine w_ifB_ne dX9_when_149 rfl (fun h_149 => ?_) (fun h_149 => ?_)
            · have hs9 : t78.so = 4 ∧ (t78.va = 60 ∨ t78.va = 62 ∨ t78.va = 61) := ⟨h_116.1, Or.inl h_116.2⟩
              refine w_aload_n dX9_when_157 rfl ?_
              refine cp_call (kc := 2) (ks := 11) (As := []) (mi := miX9_next) dX9_when_158 q676 okX9_next clX9 rfl (H.get ce_rd) (Nat.le_of_ble_eq_true rfl) (r_next (C := C) hx hT hO78.ok.2.1) H F rfl rfl (Nat.le_of_ble_eq_true rfl) ?_
              intro σ C158 hC158 H F
              obtain ⟨nu158, hc158, hN158⟩ := hC158
              subst hc158
              skip
              refine y_new (kc := 1) (ks := 4) [.null, .int 0, .int 0, .int 0, .int 0, .int 0, .int 0] u hu1 H F dX9_when_161 clX13 q954 q955 q159 dfX13 ?_
              intro σ C161 r161 l161 m161 z161 H F
              have hx161 := r161.x hx
              have hT161 := r161.T hT
              have hB161 := hB.r9 r161
              have h1161 : od C161 8 1 = od C 8 1 := (l161 1 (fun z => hu1 z.symm)).2
              have h5161 : od C161 0 5 = od C 0 5 := r161.1 0 5 (by decide)
              refine w_dup dX9_when_164 rfl ?_
              refine w_iload_n dX9_when_165 rfl ?_
              refine w_iload_n dX9_when_166 rfl ?_
              refine w_iconst (v := (-1)) dX9_when_167 ki_m1 ?_
              refine w_iload dX9_when_168 rfl ?_
              refine w_aload_n dX9_when_170 rfl ?_
              refine w_ref h1161 ?_
              refine w_iconst (v := nI 0) dX9_when_171 ki_0 ?_
              refine w_sipush (v := nI 9999) dX9_when_172 ks_9999 ?_
              refine cy_call (kc := 1) (ks := 4) (As := [_, _]) (mi2 := miX9_number) dX9_when_175 q787 okX9_number clX9 rfl (H.get ce_rd) (Nat.le_of_ble_eq_true rfl) (r_number (C := C161) hx161 hT161 hO78.nx hN158 (by omega) (by omega)) rfl H F h5161 (fun C2 h => EY.up h r161.Y (fun f z => by rw [pT_28 h_6, e78]; show (if t78.so = 4 ∧ (t78.va = 60 ∨ t78.va = 62 ∨ t78.va = 61) then _ else _) = _; rw [if_pos hs9, z]; rfl)) rfl rfl (Nat.le_of_ble_eq_true rfl) ?_
              intro v175 σ C175 hQ175 H F
              obtain ⟨n175, t175, nu175, hv175, e175, hO175, hc175, hN175⟩ := hQ175
              subst hv175 hc175
              refine y_blk (kc := 0) (ks := 0) (C := C161) (n := X.2) (q := rqT t175 nu175 st du) (u := u) (v := v) (mi := miX13_init) (As := [.int (nI 0), .int (nI n78), .int (-1), .int (nI 60), .int (nI n175)]) (rest := [.ref (od C161 8 u)]) hu1 hv1 huv m161 H F dX9_when_178 q956 okX13_init (iX13_init (u7 := (8, v))) (Nat.le_of_ble_eq_true rfl) rfl rfl (Nat.le_of_ble_eq_true rfl) ?_
              intro σ C178 r178 l178 d178 z178 b178 H F
              exact w_aret dX9_when_181 rfl (Or.inl ⟨_, rfl⟩) ⟨_, by exact ⟨C178, (2428, n78, n175, t78.va), t175, nu175, nI n78, (-1), nI 60, nI n175, congrArg (fun z => some (Value.ref z)) d178.symm, by rw [pT_28 h_6, e78]; show (if t78.so = 4 ∧ (t78.va = 60 ∨ t78.va = 62 ∨ t78.va = 61) then _ else _) = _; rw [if_pos hs9, e175]; rfl, hO175, hN175, rfl, r161.trans r178, (l161.sub (fun i h => h.2.1)).trans (l178.sub (fun i h => h.2)), ((l178 1 ⟨fun z => hu1 z.symm, fun z => hv1 z.symm⟩).2).trans h1161, b178, Or.inl rfl, fun _ => ⟨rfl, congrArg nI h_116.2.symm, rfl⟩, fun h => absurd (show (2428 : Nat) = 2415 from h) (by decide), fun h => absurd (show (2428 : Nat) = 2429 from h) (by decide)⟩, H, F⟩
            · exact absurd h_116 h_149
        · exact absurd h_84 (by decide)
      · exact absurd h_56 (by decide)
    · exact absurd h_42 (by decide)
