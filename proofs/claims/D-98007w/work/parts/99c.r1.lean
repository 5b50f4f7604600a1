set_option maxRecDepth 100000
set_option maxHeartbeats 4000000 in
theorem r_isLetter {g : GG} {C : CS} {X : TX} {q : RQ} {k : Nat} (hx : oO C 0 = true) (hT : TxC C X) (hk : k < 1000) : Cr g miX9_isLetter 1 [.ref (od C 8 1), .int (nI k)] ((rdS C X.2 (q))) (some (.int (bP ((k < X.2 ∧ isLo (X.1 k) = true))))) := by
  refine Cr.start [some (.ref (od C 8 1)), some (.int (nI k))] plX9 rfl (Nat.le_of_ble_eq_true rfl) rfl ?_
  intro σ H
  have hX9 := hT.1
  refine w_iload_n dX9_isLetter_0 rfl ?_
  refine w_aload_n dX9_isLetter_1 rfl ?_
  refine rd_get (f := 0) (C := C) (q := q) (v := .int (nI X.2)) dX9_isLetter_2 (by decide) q688 H rfl ?_
  refine w_icmpN_ge dX9_isLetter_5 rfl (by omega) (by omega) (fun h_5 => ?_) (fun h_5 => ?_)
  · refine w_iconst (v := nI 0) dX9_isLetter_40 ki_0 ?_
    exact w_zret dX9_isLetter_41 rfl (by first | exact narr0 | exact narr1) ⟨by rw [bP_f (fun z => absurd z.1 (by omega))], rfl⟩
  · have hc := (hT.2 k (by omega)).2
    have hb1 := b8_lt _ hc 97 (by omega)
    have hb2 := b8_lt _ hc 122 (by omega)
    refine w_aload_n dX9_isLetter_8 rfl ?_
    refine rd_get (f := 7) (C := C) (q := q) (v := .ref (od C 0 30)) dX9_isLetter_9 (by decide) q696 H rfl ?_
    refine rd_22 (C := C) (q := q) dX9_isLetter_12 rfl hx H ?_
    refine w_iload_n dX9_isLetter_15 rfl ?_
    refine rd_tape (C := C) (q := q) dX9_isLetter_16 hx (by omega) H ?_
    rw [(hT.2 (k) (by omega)).1]
    refine w_bipush (v := nI 97) dX9_isLetter_17 kb_97 ?_
    refine w_icmp_lt dX9_isLetter_19 rfl (fun h_19 => ?_) (fun h_19 => ?_)
    · refine w_iconst (v := nI 0) dX9_isLetter_40 ki_0 ?_
      exact w_zret dX9_isLetter_41 rfl (by first | exact narr0 | exact narr1) ⟨by rw [bP_f (fun z => by have := hb1.1.mp h_19; have h9 := z.2; simp [isLo] at h9; omega)], rfl⟩
    · refine w_aload_n dX9_isLetter_22 rfl ?_
      refine rd_get (f := 7) (C := C) (q := q) (v := .ref (od C 0 30)) dX9_isLetter_23 (by decide) q696 H rfl ?_
      refine rd_22 (C := C) (q := q) dX9_isLetter_26 rfl hx H ?_
      refine w_iload_n dX9_isLetter_29 rfl ?_
      refine rd_tape (C := C) (q := q) dX9_isLetter_30 hx (by omega) H ?_
      rw [(hT.2 (k) (by omega)).1]
      refine w_bipush (v := nI 122) dX9_isLetter_31 kb_122 ?_
      refine w_icmp_gt dX9_isLetter_33 rfl (fun h_33 => ?_) (fun h_33 => ?_)
      · refine w_iconst (v := nI 0) dX9_isLetter_40 ki_0 ?_
        exact w_zret dX9_isLetter_41 rfl (by first | exact narr0 | exact narr1) ⟨by rw [bP_f (fun z => by have := hb2.2.mp h_33; have h9 := z.2; simp [isLo] at h9; omega)], rfl⟩
      · refine w_iconst (v := nI 1) dX9_isLetter_36 ki_1 ?_
        refine w_goto dX9_isLetter_37 rfl ?_
        exact w_zret dX9_isLetter_41 rfl (by first | exact narr0 | exact narr1) ⟨by rw [bP_t ⟨by omega, by have h8 := mt hb1.1.mpr h_19; have h9 := mt hb2.2.mpr h_33; simp [isLo]; omega⟩], rfl⟩
set_option maxHeartbeats 4000000 in
theorem r_isDigit {g : GG} {C : CS} {X : TX} {q : RQ} {k : Nat} (hx : oO C 0 = true) (hT : TxC C X) (hk : k < 1000) : Cr g miX9_isDigit 1 [.ref (od C 8 1), .int (nI k)] ((rdS C X.2 (q))) (some (.int (bP ((k < X.2 ∧ isDi (X.1 k) = true))))) := by
  refine Cr.start [some (.ref (od C 8 1)), some (.int (nI k))] plX9 rfl (Nat.le_of_ble_eq_true rfl) rfl ?_
  intro σ H
  have hX9 := hT.1
  refine w_iload_n dX9_isDigit_0 rfl ?_
  refine w_aload_n dX9_isDigit_1 rfl ?_
  refine rd_get (f := 0) (C := C) (q := q) (v := .int (nI X.2)) dX9_isDigit_2 (by decide) q688 H rfl ?_
  refine w_icmpN_ge dX9_isDigit_5 rfl (by omega) (by omega) (fun h_5 => ?_) (fun h_5 => ?_)
  · refine w_iconst (v := nI 0) dX9_isDigit_40 ki_0 ?_
    exact w_zret dX9_isDigit_41 rfl (by first | exact narr0 | exact narr1) ⟨by rw [bP_f (fun z => absurd z.1 (by omega))], rfl⟩
  · have hc := (hT.2 k (by omega)).2
    have hb1 := b8_lt _ hc 48 (by omega)
    have hb2 := b8_lt _ hc 57 (by omega)
    refine w_aload_n dX9_isDigit_8 rfl ?_
    refine rd_get (f := 7) (C := C) (q := q) (v := .ref (od C 0 30)) dX9_isDigit_9 (by decide) q696 H rfl ?_
    refine rd_22 (C := C) (q := q) dX9_isDigit_12 rfl hx H ?_
    refine w_iload_n dX9_isDigit_15 rfl ?_
    refine rd_tape (C := C) (q := q) dX9_isDigit_16 hx (by omega) H ?_
    rw [(hT.2 (k) (by omega)).1]
    refine w_bipush (v := nI 48) dX9_isDigit_17 kb_48 ?_
    refine w_icmp_lt dX9_isDigit_19 rfl (fun h_19 => ?_) (fun h_19 => ?_)
    · refine w_iconst (v := nI 0) dX9_isDigit_40 ki_0 ?_
      exact w_zret dX9_isDigit_41 rfl (by first | exact narr0 | exact narr1) ⟨by rw [bP_f (fun z => by have := hb1.1.mp h_19; have h9 := z.2; simp [isDi] at h9; omega)], rfl⟩
    · refine w_aload_n dX9_isDigit_22 rfl ?_
      refine rd_get (f := 7) (C := C) (q := q) (v := .ref (od C 0 30)) dX9_isDigit_23 (by decide) q696 H rfl ?_
      refine rd_22 (C := C) (q := q) dX9_isDigit_26 rfl hx H ?_
      refine w_iload_n dX9_isDigit_29 rfl ?_
      refine rd_tape (C := C) (q := q) dX9_isDigit_30 hx (by omega) H ?_
      rw [(hT.2 (k) (by omega)).1]
      refine w_bipush (v := nI 57) dX9_isDigit_31 kb_57 ?_
      refine w_icmp_gt dX9_isDigit_33 rfl (fun h_33 => ?_) (fun h_33 => ?_)
      · refine w_iconst (v := nI 0) dX9_isDigit_40 ki_0 ?_
        exact w_zret dX9_isDigit_41 rfl (by first | exact narr0 | exact narr1) ⟨by rw [bP_f (fun z => by have := hb2.2.mp h_33; have h9 := z.2; simp [isDi] at h9; omega)], rfl⟩
      · refine w_iconst (v := nI 1) dX9_isDigit_36 ki_1 ?_
        refine w_goto dX9_isDigit_37 rfl ?_
        exact w_zret dX9_isDigit_41 rfl (by first | exact narr0 | exact narr1) ⟨by rw [bP_t ⟨by omega, by have h8 := mt hb1.1.mpr h_19; have h9 := mt hb2.2.mpr h_33; simp [isDi]; omega⟩], rfl⟩
set_option maxHeartbeats 4000000 in
theorem r_next {g : GG} {C : CS} {X : TX} {e : Nat} {a0 s0 nu st du : Int32} (hx : oO C 0 = true) (hT : TxC C X) (he : e ≤ X.2) : Cp g miX9_next 2 0 0 [.ref (od C 8 1)] (rdS C X.2 ((a0, nI e, s0, nu, st, du))) (none) (fun C2 => ∃ nu2, C2 = rdS C X.2 (rqT (tok X e) nu2 st du) ∧ NuT (tok X e) nu2) := by
  refine Cp.start [some (.ref (od C 8 1))] plX9 rfl (Nat.le_of_ble_eq_true rfl) rfl ?_
  intro σ0 σ H F
  have hX9 := hT.1
  refine w_aload_n dX9_next_0 rfl ?_
  refine w_aload_n dX9_next_1 rfl ?_
  refine rd_get (f := 2) (C := C) (q := (a0, nI e, s0, nu, st, du)) (v := .int (nI e)) dX9_next_2 (by decide) q690 H rfl ?_
  refine rd_put (f := 1) (C := C) (q := (a0, nI e, s0, nu, st, du)) (v := nI e) (nI e, nI e, s0, nu, st, du) dX9_next_5 (by decide) q689 rfl rfl rfl H F rfl ?_
  intro σ H F
  have lp : ∀ (j9 : Nat) (k : Nat) (σ : PH), X.2 - k < j9 → k ≤ X.2 → scn X isSp k = scn X isSp e → Hold g σ (rdS C X.2 (nI k, nI e, s0, nu, st, du)) → Fr σ0 σ → Wp g (mtC g miX9_next 2 0 0 σ0 (none) (fun C2 => ∃ nu2, C2 = rdS C X.2 (rqT (tok X e) nu2 st du) ∧ NuT (tok X e) nu2)) 0 0 8 [some (.ref (od C 8 1))] [] σ := by
    intro j9
    induction j9 with
    | zero => intro k σ hmu hk hq H F; exact absurd hmu (Nat.not_lt_zero _)
    | succ j9 ih_lp =>
      intro k σ hmu hk hq H F
      refine w_aload_n dX9_next_8 rfl ?_
      refine rd_get (f := 1) (C := C) (q := (nI k, nI e, s0, nu, st, du)) (v := .int (nI k)) dX9_next_9 (by decide) q689 H rfl ?_
      refine w_aload_n dX9_next_12 rfl ?_
      refine rd_get (f := 0) (C := C) (q := (nI k, nI e, s0, nu, st, du)) (v := .int (nI X.2)) dX9_next_13 (by decide) q688 H rfl ?_
      refine w_icmpN_ge dX9_next_16 rfl (by omega) (by omega) (fun h_16 => ?_) (fun h_16 => ?_)
      · have hak : scn X isSp e = k := hq.symm.trans (scn_f (fun z => by omega))
        refine w_aload_n dX9_next_66 rfl ?_
        refine w_aload_n dX9_next_67 rfl ?_
        refine rd_get (f := 1) (C := C) (q := (nI k, nI e, s0, nu, st, du)) (v := .int (nI k)) dX9_next_68 (by decide) q689 H rfl ?_
        refine rd_put (f := 2) (C := C) (q := (nI k, nI e, s0, nu, st, du)) (v := nI k) (nI k, nI k, s0, nu, st, du) dX9_next_71 (by decide) q690 rfl rfl rfl H F rfl ?_
        intro σ H F
        refine w_aload_n dX9_next_74 rfl ?_
        refine w_iconst (v := nI 0) dX9_next_75 ki_0 ?_
        refine rd_put (f := 3) (C := C) (q := (nI k, nI k, s0, nu, st, du)) (v := nI 0) (nI k, nI k, nI 0, nu, st, du) dX9_next_76 (by decide) q691 rfl rfl rfl H F rfl ?_
        intro σ H F
        refine w_aload_n dX9_next_79 rfl ?_
        refine rd_get (f := 1) (C := C) (q := (nI k, nI k, nI 0, nu, st, du)) (v := .int (nI k)) dX9_next_80 (by decide) q689 H rfl ?_
        refine w_aload_n dX9_next_83 rfl ?_
        refine rd_get (f := 0) (C := C) (q := (nI k, nI k, nI 0, nu, st, du)) (v := .int (nI X.2)) dX9_next_84 (by decide) q688 H rfl ?_
        refine w_icmpN_lt dX9_next_87 rfl (by omega) (by omega) (fun h_87 => ?_) (fun h_87 => ?_)
        · have hck := (hT.2 k h_87).2
          refine w_aload_n dX9_next_91 rfl ?_
          refine w_aload_n dX9_next_92 rfl ?_
          refine rd_get (f := 1) (C := C) (q := (nI k, nI k, nI 0, nu, st, du)) (v := .int (nI k)) dX9_next_93 (by decide) q689 H rfl ?_
          refine cr_call (As := [_]) (mi := miX9_isLetter) dX9_next_96 q680 okX9_isLetter clX9 rfl (H.get ce_rd) (Nat.le_of_ble_eq_true rfl) (r_isLetter (C := C) (q := (nI k, nI k, nI 0, nu, st, du)) hx hT (by omega)) H rfl rfl (Nat.le_of_ble_eq_true rfl) ?_
          refine w_ifB_eq dX9_next_99 rfl (fun h_99 => ?_) (fun h_99 => ?_)
          · refine w_aload_n dX9_next_131 rfl ?_
            refine w_aload_n dX9_next_132 rfl ?_
            refine rd_get (f := 1) (C := C) (q := (nI k, nI k, nI 0, nu, st, du)) (v := .int (nI k)) dX9_next_133 (by decide) q689 H rfl ?_
            refine cr_call (As := [_]) (mi := miX9_isDigit) dX9_next_136 q684 okX9_isDigit clX9 rfl (H.get ce_rd) (Nat.le_of_ble_eq_true rfl) (r_isDigit (C := C) (q := (nI k, nI k, nI 0, nu, st, du)) hx hT (by omega)) H rfl rfl (Nat.le_of_ble_eq_true rfl) ?_
            refine w_ifB_eq dX9_next_139 rfl (fun h_139 => ?_) (fun h_139 => ?_)
            · refine w_aload_n dX9_next_236 rfl ?_
              refine w_aload_n dX9_next_237 rfl ?_
              refine rd_get (f := 1) (C := C) (q := (nI k, nI k, nI 0, nu, st, du)) (v := .int (nI k)) dX9_next_238 (by decide) q689 H rfl ?_
              refine w_iconst (v := nI 1) dX9_next_241 ki_1 ?_
              refine w_iaddN dX9_next_242 ?_
              refine rd_put (f := 2) (C := C) (q := (nI k, nI k, nI 0, nu, st, du)) (v := nI (k + 1)) (nI k, nI (k + 1), nI 0, nu, st, du) dX9_next_243 (by decide) q690 rfl rfl rfl H F rfl ?_
              intro σ H F
              refine w_aload_n dX9_next_246 rfl ?_
              refine w_aload_n dX9_next_247 rfl ?_
              refine rd_get (f := 7) (C := C) (q := (nI k, nI (k + 1), nI 0, nu, st, du)) (v := .ref (od C 0 30)) dX9_next_248 (by decide) q696 H rfl ?_
              refine rd_22 (C := C) (q := (nI k, nI (k + 1), nI 0, nu, st, du)) dX9_next_251 rfl hx H ?_
              refine w_aload_n dX9_next_254 rfl ?_
              refine rd_get (f := 1) (C := C) (q := (nI k, nI (k + 1), nI 0, nu, st, du)) (v := .int (nI k)) dX9_next_255 (by decide) q689 H rfl ?_
              refine rd_tape (C := C) (q := (nI k, nI (k + 1), nI 0, nu, st, du)) dX9_next_258 hx (by omega) H ?_
              rw [(hT.2 (k) (by omega)).1]
              refine w_bipush (v := nI 59) dX9_next_259 kb_59 ?_
              refine w_icmp_eq dX9_next_261 rfl (fun h_261 => ?_) (fun h_261 => ?_)
              · refine w_iconst (v := nI 3) dX9_next_315 ki_3 ?_
                refine w_goto dX9_next_316 rfl ?_
                refine rd_put (f := 3) (C := C) (q := (nI k, nI (k + 1), nI 0, nu, st, du)) (v := nI 3) (nI k, nI (k + 1), nI 3, nu, st, du) dX9_next_320 (by decide) q691 rfl rfl rfl H F rfl ?_
                intro σ H F
                exact w_vret dX9_next_323 rfl ⟨by rfl, _, by exact ⟨nu, by rw [tok_sig hak h_87 (fun z => h_99 ⟨h_87, z⟩) (fun z => h_139 ⟨h_87, z⟩) (by rw [(b8_eq hck (m := 59) (by omega)).mp h_261]; rfl)]; rfl, by rw [tok_sig hak h_87 (fun z => h_99 ⟨h_87, z⟩) (fun z => h_139 ⟨h_87, z⟩) (by rw [(b8_eq hck (m := 59) (by omega)).mp h_261]; rfl)]; exact (fun z => absurd z (show ¬ (4 : Nat) = 3 by decide))⟩, H, F⟩
              · refine w_aload_n dX9_next_264 rfl ?_
                refine rd_get (f := 7) (C := C) (q := (nI k, nI (k + 1), nI 0, nu, st, du)) (v := .ref (od C 0 30)) dX9_next_265 (by decide) q696 H rfl ?_
                refine rd_22 (C := C) (q := (nI k, nI (k + 1), nI 0, nu, st, du)) dX9_next_268 rfl hx H ?_
                refine w_aload_n dX9_next_271 rfl ?_
                refine rd_get (f := 1) (C := C) (q := (nI k, nI (k + 1), nI 0, nu, st, du)) (v := .int (nI k)) dX9_next_272 (by decide) q689 H rfl ?_
                refine rd_tape (C := C) (q := (nI k, nI (k + 1), nI 0, nu, st, du)) dX9_next_275 hx (by omega) H ?_
                rw [(hT.2 (k) (by omega)).1]
                refine w_bipush (v := nI 60) dX9_next_276 kb_60 ?_
                refine w_icmp_eq dX9_next_278 rfl (fun h_278 => ?_) (fun h_278 => ?_)
                · refine w_iconst (v := nI 3) dX9_next_315 ki_3 ?_
                  refine w_goto dX9_next_316 rfl ?_
                  refine rd_put (f := 3) (C := C) (q := (nI k, nI (k + 1), nI 0, nu, st, du)) (v := nI 3) (nI k, nI (k + 1), nI 3, nu, st, du) dX9_next_320 (by decide) q691 rfl rfl rfl H F rfl ?_
                  intro σ H F
                  exact w_vret dX9_next_323 rfl ⟨by rfl, _, by exact ⟨nu, by rw [tok_sig hak h_87 (fun z => h_99 ⟨h_87, z⟩) (fun z => h_139 ⟨h_87, z⟩) (by rw [(b8_eq hck (m := 60) (by omega)).mp h_278]; rfl)]; rfl, by rw [tok_sig hak h_87 (fun z => h_99 ⟨h_87, z⟩) (fun z => h_139 ⟨h_87, z⟩) (by rw [(b8_eq hck (m := 60) (by omega)).mp h_278]; rfl)]; exact (fun z => absurd z (show ¬ (4 : Nat) = 3 by decide))⟩, H, F⟩
                · refine w_aload_n dX9_next_281 rfl ?_
                  refine rd_get (f := 7) (C := C) (q := (nI k, nI (k + 1), nI 0, nu, st, du)) (v := .ref (od C 0 30)) dX9_next_282 (by decide) q696 H rfl ?_
                  refine rd_22 (C := C) (q := (nI k, nI (k + 1), nI 0, nu, st, du)) dX9_next_285 rfl hx H ?_
                  refine w_aload_n dX9_next_288 rfl ?_
                  refine rd_get (f := 1) (C := C) (q := (nI k, nI (k + 1), nI 0, nu, st, du)) (v := .int (nI k)) dX9_next_289 (by decide) q689 H rfl ?_
                  refine rd_tape (C := C) (q := (nI k, nI (k + 1), nI 0, nu, st, du)) dX9_next_292 hx (by omega) H ?_
                  rw [(hT.2 (k) (by omega)).1]
                  refine w_bipush (v := nI 62) dX9_next_293 kb_62 ?_
                  refine w_icmp_eq dX9_next_295 rfl (fun h_295 => ?_) (fun h_295 => ?_)
                  · refine w_iconst (v := nI 3) dX9_next_315 ki_3 ?_
                    refine w_goto dX9_next_316 rfl ?_
                    refine rd_put (f := 3) (C := C) (q := (nI k, nI (k + 1), nI 0, nu, st, du)) (v := nI 3) (nI k, nI (k + 1), nI 3, nu, st, du) dX9_next_320 (by decide) q691 rfl rfl rfl H F rfl ?_
                    intro σ H F
                    exact w_vret dX9_next_323 rfl ⟨by rfl, _, by exact ⟨nu, by rw [tok_sig hak h_87 (fun z => h_99 ⟨h_87, z⟩) (fun z => h_139 ⟨h_87, z⟩) (by rw [(b8_eq hck (m := 62) (by omega)).mp h_295]; rfl)]; rfl, by rw [tok_sig hak h_87 (fun z => h_99 ⟨h_87, z⟩) (fun z => h_139 ⟨h_87, z⟩) (by rw [(b8_eq hck (m := 62) (by omega)).mp h_295]; rfl)]; exact (fun z => absurd z (show ¬ (4 : Nat) = 3 by decide))⟩, H, F⟩
                  · refine w_aload_n dX9_next_298 rfl ?_
                    refine rd_get (f := 7) (C := C) (q := (nI k, nI (k + 1), nI 0, nu, st, du)) (v := .ref (od C 0 30)) dX9_next_299 (by decide) q696 H rfl ?_
                    refine rd_22 (C := C) (q := (nI k, nI (k + 1), nI 0, nu, st, du)) dX9_next_302 rfl hx H ?_
                    refine w_aload_n dX9_next_305 rfl ?_
                    refine rd_get (f := 1) (C := C) (q := (nI k, nI (k + 1), nI 0, nu, st, du)) (v := .int (nI k)) dX9_next_306 (by decide) q689 H rfl ?_
                    refine rd_tape (C := C) (q := (nI k, nI (k + 1), nI 0, nu, st, du)) dX9_next_309 hx (by omega) H ?_
                    rw [(hT.2 (k) (by omega)).1]
                    refine w_bipush (v := nI 61) dX9_next_310 kb_61 ?_
                    refine w_icmp_ne dX9_next_312 rfl (fun h_312 => ?_) (fun h_312 => ?_)
                    · have hno4 : ¬ isSg (X.1 k) = true := fun z => by
                        simp only [isSg, Bool.or_eq_true, beq_iff_eq] at z
                        rcases z with ((z | z) | z) | z
                        · exact h_261 ((b8_eq hck (by omega)).mpr z)
                        · exact h_278 ((b8_eq hck (by omega)).mpr z)
                        · exact h_295 ((b8_eq hck (by omega)).mpr z)
                        · exact h_312 ((b8_eq hck (by omega)).mpr z)
                      refine w_iconst (v := nI 4) dX9_next_319 ki_4 ?_
                      refine rd_put (f := 3) (C := C) (q := (nI k, nI (k + 1), nI 0, nu, st, du)) (v := nI 4) (nI k, nI (k + 1), nI 4, nu, st, du) dX9_next_320 (by decide) q691 rfl rfl rfl H F rfl ?_
                      intro σ H F
                      exact w_vret dX9_next_323 rfl ⟨by rfl, _, by exact ⟨nu, by rw [tok_odd hak h_87 (fun z => h_99 ⟨h_87, z⟩) (fun z => h_139 ⟨h_87, z⟩) hno4]; rfl, by rw [tok_odd hak h_87 (fun z => h_99 ⟨h_87, z⟩) (fun z => h_139 ⟨h_87, z⟩) hno4]; exact (fun z => absurd z (show ¬ (1 : Nat) = 3 by decide))⟩, H, F⟩
                    · refine w_iconst (v := nI 3) dX9_next_315 ki_3 ?_
                      refine w_goto dX9_next_316 rfl ?_
                      refine rd_put (f := 3) (C := C) (q := (nI k, nI (k + 1), nI 0, nu, st, du)) (v := nI 3) (nI k, nI (k + 1), nI 3, nu, st, du) dX9_next_320 (by decide) q691 rfl rfl rfl H F rfl ?_
                      intro σ H F
                      exact w_vret dX9_next_323 rfl ⟨by rfl, _, by exact ⟨nu, by rw [tok_sig hak h_87 (fun z => h_99 ⟨h_87, z⟩) (fun z => h_139 ⟨h_87, z⟩) (by rw [(b8_eq hck (m := 61) (by omega)).mp h_312]; rfl)]; rfl, by rw [tok_sig hak h_87 (fun z => h_99 ⟨h_87, z⟩) (fun z => h_139 ⟨h_87, z⟩) (by rw [(b8_eq hck (m := 61) (by omega)).mp h_312]; rfl)]; exact (fun z => absurd z (show ¬ (4 : Nat) = 3 by decide))⟩, H, F⟩
            · refine w_aload_n dX9_next_142 rfl ?_
              refine w_iconst (v := nI 0) dX9_next_143 ki_0 ?_
              refine rd_put (f := 4) (C := C) (q := (nI k, nI k, nI 0, nu, st, du)) (v := nI 0) (nI k, nI k, nI 0, nI 0, st, du) dX9_next_144 (by decide) q692 rfl rfl rfl H F rfl ?_
              intro σ H F
              have ld : ∀ (j9 : Nat) (z : Nat) (m : Int32) (σ : PH), X.2 - z < j9 → k ≤ z → z ≤ X.2 → scn X isDi z = scn X isDi k → (z - k ≤ 4 → m = nI (nv X k (z - k))) → Hold g σ (rdS C X.2 (nI k, nI z, nI 0, m, st, du)) → Fr σ0 σ → Wp g (mtC g miX9_next 2 0 0 σ0 (none) (fun C2 => ∃ nu2, C2 = rdS C X.2 (rqT (tok X e) nu2 st du) ∧ NuT (tok X e) nu2)) 0 0 147 [some (.ref (od C 8 1))] [] σ := by
                intro j9
                induction j9 with
                | zero => intro z m σ hmu hkz hz hq6 hm6 H F; exact absurd hmu (Nat.not_lt_zero _)
                | succ j9 ih_ld =>
                  intro z m σ hmu hkz hz hq6 hm6 H F
                  refine w_aload_n dX9_next_147 rfl ?_
                  refine w_aload_n dX9_next_148 rfl ?_
                  refine rd_get (f := 2) (C := C) (q := (nI k, nI z, nI 0, m, st, du)) (v := .int (nI z)) dX9_next_149 (by decide) q690 H rfl ?_
                  refine cr_call (As := [_]) (mi := miX9_isDigit) dX9_next_152 q684 okX9_isDigit clX9 rfl (H.get ce_rd) (Nat.le_of_ble_eq_true rfl) (r_isDigit (C := C) (q := (nI k, nI z, nI 0, m, st, du)) hx hT (by omega)) H rfl rfl (Nat.le_of_ble_eq_true rfl) ?_
                  refine w_ifB_eq dX9_next_155 rfl (fun h_155 => ?_) (fun h_155 => ?_)
                  · refine w_aload_n dX9_next_211 rfl ?_
                    refine w_aload_n dX9_next_212 rfl ?_
                    refine rd_get (f := 2) (C := C) (q := (nI k, nI z, nI 0, m, st, du)) (v := .int (nI z)) dX9_next_213 (by decide) q690 H rfl ?_
                    refine w_aload_n dX9_next_216 rfl ?_
                    refine rd_get (f := 1) (C := C) (q := (nI k, nI z, nI 0, m, st, du)) (v := .int (nI k)) dX9_next_217 (by decide) q689 H rfl ?_
                    refine w_isubN dX9_next_220 (by omega) ?_
                    refine w_iconst (v := nI 4) dX9_next_221 ki_4 ?_
                    refine w_icmpN_le dX9_next_222 rfl (by omega) (by omega) (fun h_222 => ?_) (fun h_222 => ?_)
                    · refine w_iconst (v := nI 2) dX9_next_229 ki_2 ?_
                      refine rd_put (f := 3) (C := C) (q := (nI k, nI z, nI 0, m, st, du)) (v := nI 2) (nI k, nI z, nI 2, m, st, du) dX9_next_230 (by decide) q691 rfl rfl rfl H F rfl ?_
                      intro σ H F
                      refine w_goto dX9_next_233 rfl ?_
                      exact w_vret dX9_next_323 rfl ⟨by rfl, _, by exact ⟨m, by rw [tok_num hak h_87 (fun z => h_99 ⟨h_87, z⟩) h_139.2 (hq6.symm.trans (scn_f h_155)) h_222]; rfl, by rw [tok_num hak h_87 (fun z => h_99 ⟨h_87, z⟩) h_139.2 (hq6.symm.trans (scn_f h_155)) h_222]; exact fun _ => hm6 h_222⟩, H, F⟩
                    · refine w_iconst (v := nI 4) dX9_next_225 ki_4 ?_
                      refine w_goto dX9_next_226 rfl ?_
                      refine rd_put (f := 3) (C := C) (q := (nI k, nI z, nI 0, m, st, du)) (v := nI 4) (nI k, nI z, nI 4, m, st, du) dX9_next_230 (by decide) q691 rfl rfl rfl H F rfl ?_
                      intro σ H F
                      refine w_goto dX9_next_233 rfl ?_
                      exact w_vret dX9_next_323 rfl ⟨by rfl, _, by exact ⟨m, by rw [tok_big hak h_87 (fun z => h_99 ⟨h_87, z⟩) h_139.2 (hq6.symm.trans (scn_f h_155)) (by omega)]; rfl, by rw [tok_big hak h_87 (fun z => h_99 ⟨h_87, z⟩) h_139.2 (hq6.symm.trans (scn_f h_155)) (by omega)]; exact (fun z => absurd z (show ¬ (1 : Nat) = 3 by decide))⟩, H, F⟩
                  · refine w_aload_n dX9_next_158 rfl ?_
                    refine rd_get (f := 2) (C := C) (q := (nI k, nI z, nI 0, m, st, du)) (v := .int (nI z)) dX9_next_159 (by decide) q690 H rfl ?_
                    refine w_aload_n dX9_next_162 rfl ?_
                    refine rd_get (f := 1) (C := C) (q := (nI k, nI z, nI 0, m, st, du)) (v := .int (nI k)) dX9_next_163 (by decide) q689 H rfl ?_
                    refine w_isubN dX9_next_166 (by omega) ?_
                    refine w_iconst (v := nI 4) dX9_next_167 ki_4 ?_
                    refine w_icmpN_ge dX9_next_168 rfl (by omega) (by omega) (fun h_168 => ?_) (fun h_168 => ?_)
                    · refine w_aload_n dX9_next_198 rfl ?_
                      refine w_dup dX9_next_199 rfl ?_
                      refine rd_get (f := 2) (C := C) (q := (nI k, nI z, nI 0, m, st, du)) (v := .int (nI z)) dX9_next_200 (by decide) q690 H rfl ?_
                      refine w_iconst (v := nI 1) dX9_next_203 ki_1 ?_
                      refine w_iaddN dX9_next_204 ?_
                      refine rd_put (f := 2) (C := C) (q := (nI k, nI z, nI 0, m, st, du)) (v := nI (z + 1)) (nI k, nI (z + 1), nI 0, m, st, du) dX9_next_205 (by decide) q690 rfl rfl rfl H F rfl ?_
                      intro σ H F
                      refine w_goto dX9_next_208 rfl ?_
                      exact ih_ld (z + 1) m σ (by omega) (by omega) (by omega) ((scn_t h_155.1 h_155.2).symm.trans hq6) (fun hle => absurd hle (by omega)) H F
                    · refine w_aload_n dX9_next_171 rfl ?_
                      refine w_bipush (v := nI 10) dX9_next_172 kb_10 ?_
                      refine w_aload_n dX9_next_174 rfl ?_
                      refine rd_get (f := 4) (C := C) (q := (nI k, nI z, nI 0, m, st, du)) (v := .int (m)) dX9_next_175 (by decide) q692 H rfl ?_
                      refine w_imul dX9_next_178 ?_
                      refine w_aload_n dX9_next_179 rfl ?_
                      refine rd_get (f := 7) (C := C) (q := (nI k, nI z, nI 0, m, st, du)) (v := .ref (od C 0 30)) dX9_next_180 (by decide) q696 H rfl ?_
                      refine rd_22 (C := C) (q := (nI k, nI z, nI 0, m, st, du)) dX9_next_183 rfl hx H ?_
                      refine w_aload_n dX9_next_186 rfl ?_
                      refine rd_get (f := 2) (C := C) (q := (nI k, nI z, nI 0, m, st, du)) (v := .int (nI z)) dX9_next_187 (by decide) q690 H rfl ?_
                      refine rd_tape (C := C) (q := (nI k, nI z, nI 0, m, st, du)) dX9_next_190 hx (by omega) H ?_
                      rw [(hT.2 (z) (by omega)).1]
                      refine w_iadd dX9_next_191 ?_
                      refine w_bipush (v := nI 48) dX9_next_192 kb_48 ?_
                      refine w_isub dX9_next_194 ?_
                      refine rd_put (f := 4) (C := C) (q := (nI k, nI z, nI 0, m, st, du)) (v := nI 10 * m + b8 (X.1 z) - nI 48) (nI k, nI z, nI 0, nI 10 * m + b8 (X.1 z) - nI 48, st, du) dX9_next_195 (by decide) q692 rfl rfl rfl H F rfl ?_
                      intro σ H F
                      refine w_aload_n dX9_next_198 rfl ?_
                      refine w_dup dX9_next_199 rfl ?_
                      refine rd_get (f := 2) (C := C) (q := (nI k, nI z, nI 0, nI 10 * m + b8 (X.1 z) - nI 48, st, du)) (v := .int (nI z)) dX9_next_200 (by decide) q690 H rfl ?_
                      refine w_iconst (v := nI 1) dX9_next_203 ki_1 ?_
                      refine w_iaddN dX9_next_204 ?_
                      refine rd_put (f := 2) (C := C) (q := (nI k, nI z, nI 0, nI 10 * m + b8 (X.1 z) - nI 48, st, du)) (v := nI (z + 1)) (nI k, nI (z + 1), nI 0, nI 10 * m + b8 (X.1 z) - nI 48, st, du) dX9_next_205 (by decide) q690 rfl rfl rfl H F rfl ?_
                      intro σ H F
                      refine w_goto dX9_next_208 rfl ?_
                      have hdz : 48 ≤ X.1 z ∧ X.1 z ≤ 57 := by
                        have := h_155.2
                        simpa [isDi] using this
                      exact ih_ld (z + 1) _ σ (by omega) (by omega) (by omega) ((scn_t h_155.1 h_155.2).symm.trans hq6) (fun hle => by
                        rw [hm6 (by omega), b8_n _ (by omega), nI_digit hdz.1, show z + 1 - k = (z - k) + 1 by omega, nv, show k + (z - k) = z by omega]) H F
              exact ld (X.2 + 1) k _ σ (by omega) (Nat.le_refl _) (by omega) rfl (fun _ => by rw [Nat.sub_self]; rfl) H F
          · refine w_aload_n dX9_next_102 rfl ?_
            refine w_iconst (v := nI 1) dX9_next_103 ki_1 ?_
            refine rd_put (f := 3) (C := C) (q := (nI k, nI k, nI 0, nu, st, du)) (v := nI 1) (nI k, nI k, nI 1, nu, st, du) dX9_next_104 (by decide) q691 rfl rfl rfl H F rfl ?_
            intro σ H F
            have lw : ∀ (j9 : Nat) (z : Nat) (σ : PH), X.2 - z < j9 → k ≤ z → z ≤ X.2 → scn X isLo z = scn X isLo k → Hold g σ (rdS C X.2 (nI k, nI z, nI 1, nu, st, du)) → Fr σ0 σ → Wp g (mtC g miX9_next 2 0 0 σ0 (none) (fun C2 => ∃ nu2, C2 = rdS C X.2 (rqT (tok X e) nu2 st du) ∧ NuT (tok X e) nu2)) 0 0 107 [some (.ref (od C 8 1))] [] σ := by
              intro j9
              induction j9 with
              | zero => intro z σ hmu hkz hz hq6 H F; exact absurd hmu (Nat.not_lt_zero _)
              | succ j9 ih_lw =>
                intro z σ hmu hkz hz hq6 H F
                refine w_aload_n dX9_next_107 rfl ?_
                refine w_aload_n dX9_next_108 rfl ?_
                refine rd_get (f := 2) (C := C) (q := (nI k, nI z, nI 1, nu, st, du)) (v := .int (nI z)) dX9_next_109 (by decide) q690 H rfl ?_
                refine cr_call (As := [_]) (mi := miX9_isLetter) dX9_next_112 q680 okX9_isLetter clX9 rfl (H.get ce_rd) (Nat.le_of_ble_eq_true rfl) (r_isLetter (C := C) (q := (nI k, nI z, nI 1, nu, st, du)) hx hT (by omega)) H rfl rfl (Nat.le_of_ble_eq_true rfl) ?_
                refine w_ifB_eq dX9_next_115 rfl (fun h_115 => ?_) (fun h_115 => ?_)
                · exact w_vret dX9_next_323 rfl ⟨by rfl, _, by exact ⟨nu, by rw [tok_word hak h_87 h_99.2 (hq6.symm.trans (scn_f h_115))]; rfl, by rw [tok_word hak h_87 h_99.2 (hq6.symm.trans (scn_f h_115))]; exact (fun z => absurd z (show ¬ (2 : Nat) = 3 by decide))⟩, H, F⟩
                · refine w_aload_n dX9_next_118 rfl ?_
                  refine w_dup dX9_next_119 rfl ?_
                  refine rd_get (f := 2) (C := C) (q := (nI k, nI z, nI 1, nu, st, du)) (v := .int (nI z)) dX9_next_120 (by decide) q690 H rfl ?_
                  refine w_iconst (v := nI 1) dX9_next_123 ki_1 ?_
                  refine w_iaddN dX9_next_124 ?_
                  refine rd_put (f := 2) (C := C) (q := (nI k, nI z, nI 1, nu, st, du)) (v := nI (z + 1)) (nI k, nI (z + 1), nI 1, nu, st, du) dX9_next_125 (by decide) q690 rfl rfl rfl H F rfl ?_
                  intro σ H F
                  refine w_goto dX9_next_128 rfl ?_
                  exact ih_lw (z + 1) σ (by omega) (by omega) (by omega) ((scn_t h_115.1 h_115.2).symm.trans hq6) H F
            exact lw (X.2 + 1) k σ (by omega) (Nat.le_refl _) (by omega) rfl H F
        · exact w_vret dX9_next_90 rfl ⟨by rfl, _, by exact ⟨nu, by rw [tok_end hak (by omega)]; rfl, by rw [tok_end hak (by omega)]; exact (fun z => absurd z (show ¬ (0 : Nat) = 3 by decide))⟩, H, F⟩
      · refine w_aload_n dX9_next_19 rfl ?_
        refine rd_get (f := 7) (C := C) (q := (nI k, nI e, s0, nu, st, du)) (v := .ref (od C 0 30)) dX9_next_20 (by decide) q696 H rfl ?_
        refine rd_22 (C := C) (q := (nI k, nI e, s0, nu, st, du)) dX9_next_23 rfl hx H ?_
        refine w_aload_n dX9_next_26 rfl ?_
        refine rd_get (f := 1) (C := C) (q := (nI k, nI e, s0, nu, st, du)) (v := .int (nI k)) dX9_next_27 (by decide) q689 H rfl ?_
        refine rd_tape (C := C) (q := (nI k, nI e, s0, nu, st, du)) dX9_next_30 hx (by omega) H ?_
        rw [(hT.2 (k) (by omega)).1]
        refine w_bipush (v := nI 10) dX9_next_31 kb_10 ?_
        refine w_icmp_eq dX9_next_33 rfl (fun h_33 => ?_) (fun h_33 => ?_)
        · have hc := (b8_eq (hT.2 k (by omega)).2 (by omega)).mp h_33
          have hs := scn_t (p := isSp) (show k < X.2 by omega) (by rw [hc]; rfl)
          refine w_aload_n dX9_next_53 rfl ?_
          refine w_dup dX9_next_54 rfl ?_
          refine rd_get (f := 1) (C := C) (q := (nI k, nI e, s0, nu, st, du)) (v := .int (nI k)) dX9_next_55 (by decide) q689 H rfl ?_
          refine w_iconst (v := nI 1) dX9_next_58 ki_1 ?_
          refine w_iaddN dX9_next_59 ?_
          refine rd_put (f := 1) (C := C) (q := (nI k, nI e, s0, nu, st, du)) (v := nI (k + 1)) (nI (k + 1), nI e, s0, nu, st, du) dX9_next_60 (by decide) q689 rfl rfl rfl H F rfl ?_
          intro σ H F
          refine w_goto dX9_next_63 rfl ?_
          exact ih_lp (k + 1) σ (by omega) (by omega) (hs.symm.trans hq) H F
        · refine w_aload_n dX9_next_36 rfl ?_
          refine rd_get (f := 7) (C := C) (q := (nI k, nI e, s0, nu, st, du)) (v := .ref (od C 0 30)) dX9_next_37 (by decide) q696 H rfl ?_
          refine rd_22 (C := C) (q := (nI k, nI e, s0, nu, st, du)) dX9_next_40 rfl hx H ?_
          refine w_aload_n dX9_next_43 rfl ?_
          refine rd_get (f := 1) (C := C) (q := (nI k, nI e, s0, nu, st, du)) (v := .int (nI k)) dX9_next_44 (by decide) q689 H rfl ?_
          refine rd_tape (C := C) (q := (nI k, nI e, s0, nu, st, du)) dX9_next_47 hx (by omega) H ?_
          rw [(hT.2 (k) (by omega)).1]
          refine w_bipush (v := nI 32) dX9_next_48 kb_32 ?_
          refine w_icmp_ne dX9_next_50 rfl (fun h_50 => ?_) (fun h_50 => ?_)
          · have hak : scn X isSp e = k := hq.symm.trans (scn_f (fun z => by
              have z2 := z.2
              simp only [isSp, Bool.or_eq_true, beq_iff_eq] at z2
              rcases z2 with z2 | z2
              · exact h_50 ((b8_eq (hT.2 k (by omega)).2 (by omega)).mpr z2)
              · exact h_33 ((b8_eq (hT.2 k (by omega)).2 (by omega)).mpr z2)))
            refine w_aload_n dX9_next_66 rfl ?_
            refine w_aload_n dX9_next_67 rfl ?_
            refine rd_get (f := 1) (C := C) (q := (nI k, nI e, s0, nu, st, du)) (v := .int (nI k)) dX9_next_68 (by decide) q689 H rfl ?_
            refine rd_put (f := 2) (C := C) (q := (nI k, nI e, s0, nu, st, du)) (v := nI k) (nI k, nI k, s0, nu, st, du) dX9_next_71 (by decide) q690 rfl rfl rfl H F rfl ?_
            intro σ H F
            refine w_aload_n dX9_next_74 rfl ?_
            refine w_iconst (v := nI 0) dX9_next_75 ki_0 ?_
            refine rd_put (f := 3) (C := C) (q := (nI k, nI k, s0, nu, st, du)) (v := nI 0) (nI k, nI k, nI 0, nu, st, du) dX9_next_76 (by decide) q691 rfl rfl rfl H F rfl ?_
            intro σ H F
            refine w_aload_n dX9_next_79 rfl ?_
            refine rd_get (f := 1) (C := C) (q := (nI k, nI k, nI 0, nu, st, du)) (v := .int (nI k)) dX9_next_80 (by decide) q689 H rfl ?_
            refine w_aload_n dX9_next_83 rfl ?_
            refine rd_get (f := 0) (C := C) (q := (nI k, nI k, nI 0, nu, st, du)) (v := .int (nI X.2)) dX9_next_84 (by decide) q688 H rfl ?_
            refine w_icmpN_lt dX9_next_87 rfl (by omega) (by omega) (fun h_87 => ?_) (fun h_87 => ?_)
            · have hck := (hT.2 k h_87).2
              refine w_aload_n dX9_next_91 rfl ?_
              refine w_aload_n dX9_next_92 rfl ?_
              refine rd_get (f := 1) (C := C) (q := (nI k, nI k, nI 0, nu, st, du)) (v := .int (nI k)) dX9_next_93 (by decide) q689 H rfl ?_
              refine cr_call (As := [_]) (mi := miX9_isLetter) dX9_next_96 q680 okX9_isLetter clX9 rfl (H.get ce_rd) (Nat.le_of_ble_eq_true rfl) (r_isLetter (C := C) (q := (nI k, nI k, nI 0, nu, st, du)) hx hT (by omega)) H rfl rfl (Nat.le_of_ble_eq_true rfl) ?_
              refine w_ifB_eq dX9_next_99 rfl (fun h_99 => ?_) (fun h_99 => ?_)
              · refine w_aload_n dX9_next_131 rfl ?_
                refine w_aload_n dX9_next_132 rfl ?_
                refine rd_get (f := 1) (C := C) (q := (nI k, nI k, nI 0, nu, st, du)) (v := .int (nI k)) dX9_next_133 (by decide) q689 H rfl ?_
                refine cr_call (As := [_]) (mi := miX9_isDigit) dX9_next_136 q684 okX9_isDigit clX9 rfl (H.get ce_rd) (Nat.le_of_ble_eq_true rfl) (r_isDigit (C := C) (q := (nI k, nI k, nI 0, nu, st, du)) hx hT (by omega)) H rfl rfl (Nat.le_of_ble_eq_true rfl) ?_
                refine w_ifB_eq dX9_next_139 rfl (fun h_139 => ?_) (fun h_139 => ?_)
                · refine w_aload_n dX9_next_236 rfl ?_
                  refine w_aload_n dX9_next_237 rfl ?_
                  refine rd_get (f := 1) (C := C) (q := (nI k, nI k, nI 0, nu, st, du)) (v := .int (nI k)) dX9_next_238 (by decide) q689 H rfl ?_
                  refine w_iconst (v := nI 1) dX9_next_241 ki_1 ?_
                  refine w_iaddN dX9_next_242 ?_
                  refine rd_put (f := 2) (C := C) (q := (nI k, nI k, nI 0, nu, st, du)) (v := nI (k + 1)) (nI k, nI (k + 1), nI 0, nu, st, du) dX9_next_243 (by decide) q690 rfl rfl rfl H F rfl ?_
                  intro σ H F
                  refine w_aload_n dX9_next_246 rfl ?_
                  refine w_aload_n dX9_next_247 rfl ?_
                  refine rd_get (f := 7) (C := C) (q := (nI k, nI (k + 1), nI 0, nu, st, du)) (v := .ref (od C 0 30)) dX9_next_248 (by decide) q696 H rfl ?_
                  refine rd_22 (C := C) (q := (nI k, nI (k + 1), nI 0, nu, st, du)) dX9_next_251 rfl hx H ?_
                  refine w_aload_n dX9_next_254 rfl ?_
                  refine rd_get (f := 1) (C := C) (q := (nI k, nI (k + 1), nI 0, nu, st, du)) (v := .int (nI k)) dX9_next_255 (by decide) q689 H rfl ?_
                  refine rd_tape (C := C) (q := (nI k, nI (k + 1), nI 0, nu, st, du)) dX9_next_258 hx (by omega) H ?_
                  rw [(hT.2 (k) (by omega)).1]
                  refine w_bipush (v := nI 59) dX9_next_259 kb_59 ?_
                  refine w_icmp_eq dX9_next_261 rfl (fun h_261 => ?_) (fun h_261 => ?_)
                  · refine w_iconst (v := nI 3) dX9_next_315 ki_3 ?_
                    refine w_goto dX9_next_316 rfl ?_
                    refine rd_put (f := 3) (C := C) (q := (nI k, nI (k + 1), nI 0, nu, st, du)) (v := nI 3) (nI k, nI (k + 1), nI 3, nu, st, du) dX9_next_320 (by decide) q691 rfl rfl rfl H F rfl ?_
                    intro σ H F
                    exact w_vret dX9_next_323 rfl ⟨by rfl, _, by exact ⟨nu, by rw [tok_sig hak h_87 (fun z => h_99 ⟨h_87, z⟩) (fun z => h_139 ⟨h_87, z⟩) (by rw [(b8_eq hck (m := 59) (by omega)).mp h_261]; rfl)]; rfl, by rw [tok_sig hak h_87 (fun z => h_99 ⟨h_87, z⟩) (fun z => h_139 ⟨h_87, z⟩) (by rw [(b8_eq hck (m := 59) (by omega)).mp h_261]; rfl)]; exact (fun z => absurd z (show ¬ (4 : Nat) = 3 by decide))⟩, H, F⟩
                  · refine w_aload_n dX9_next_264 rfl ?_
                    refine rd_get (f := 7) (C := C) (q := (nI k, nI (k + 1), nI 0, nu, st, du)) (v := .ref (od C 0 30)) dX9_next_265 (by decide) q696 H rfl ?_
                    refine rd_22 (C := C) (q := (nI k, nI (k + 1), nI 0, nu, st, du)) dX9_next_268 rfl hx H ?_
                    refine w_aload_n dX9_next_271 rfl ?_
                    refine rd_get (f := 1) (C := C) (q := (nI k, nI (k + 1), nI 0, nu, st, du)) (v := .int (nI k)) dX9_next_272 (by decide) q689 H rfl ?_
                    refine rd_tape (C := C) (q := (nI k, nI (k + 1), nI 0, nu, st, du)) dX9_next_275 hx (by omega) H ?_
                    rw [(hT.2 (k) (by omega)).1]
                    refine w_bipush (v := nI 60) dX9_next_276 kb_60 ?_
                    refine w_icmp_eq dX9_next_278 rfl (fun h_278 => ?_) (fun h_278 => ?_)
                    · refine w_iconst (v := nI 3) dX9_next_315 ki_3 ?_
                      refine w_goto dX9_next_316 rfl ?_
                      refine rd_put (f := 3) (C := C) (q := (nI k, nI (k + 1), nI 0, nu, st, du)) (v := nI 3) (nI k, nI (k + 1), nI 3, nu, st, du) dX9_next_320 (by decide) q691 rfl rfl rfl H F rfl ?_
                      intro σ H F
                      exact w_vret dX9_next_323 rfl ⟨by rfl, _, by exact ⟨nu, by rw [tok_sig hak h_87 (fun z => h_99 ⟨h_87, z⟩) (fun z => h_139 ⟨h_87, z⟩) (by rw [(b8_eq hck (m := 60) (by omega)).mp h_278]; rfl)]; rfl, by rw [tok_sig hak h_87 (fun z => h_99 ⟨h_87, z⟩) (fun z => h_139 ⟨h_87, z⟩) (by rw [(b8_eq hck (m := 60) (by omega)).mp h_278]; rfl)]; exact (fun z => absurd z (show ¬ (4 : Nat) = 3 by decide))⟩, H, F⟩
                    · refine w_aload_n dX9_next_281 rfl ?_
                      refine rd_get (f := 7) (C := C) (q := (nI k, nI (k + 1), nI 0, nu, st, du)) (v := .ref (od C 0 30)) dX9_next_282 (by decide) q696 H rfl ?_
                      refine rd_22 (C := C) (q := (nI k, nI (k + 1), nI 0, nu, st, du)) dX9_next_285 rfl hx H ?_
                      refine w_aload_n dX9_next_288 rfl ?_
                      refine rd_get (f := 1) (C := C) (q := (nI k, nI (k + 1), nI 0, nu, st, du)) (v := .int (nI k)) dX9_next_289 (by decide) q689 H rfl ?_
                      refine rd_tape (C := C) (q := (nI k, nI (k + 1), nI 0, nu, st, du)) dX9_next_292 hx (by omega) H ?_
                      rw [(hT.2 (k) (by omega)).1]
                      refine w_bipush (v := nI 62) dX9_next_293 kb_62 ?_
                      refine w_icmp_eq dX9_next_295 rfl (fun h_295 => ?_) (fun h_295 => ?_)
                      · refine w_iconst (v := nI 3) dX9_next_315 ki_3 ?_
                        refine w_goto dX9_next_316 rfl ?_
                        refine rd_put (f := 3) (C := C) (q := (nI k, nI (k + 1), nI 0, nu, st, du)) (v := nI 3) (nI k, nI (k + 1), nI 3, nu, st, du) dX9_next_320 (by decide) q691 rfl rfl rfl H F rfl ?_
                        intro σ H F
                        exact w_vret dX9_next_323 rfl ⟨by rfl, _, by exact ⟨nu, by rw [tok_sig hak h_87 (fun z => h_99 ⟨h_87, z⟩) (fun z => h_139 ⟨h_87, z⟩) (by rw [(b8_eq hck (m := 62) (by omega)).mp h_295]; rfl)]; rfl, by rw [tok_sig hak h_87 (fun z => h_99 ⟨h_87, z⟩) (fun z => h_139 ⟨h_87, z⟩) (by rw [(b8_eq hck (m := 62) (by omega)).mp h_295]; rfl)]; exact (fun z => absurd z (show ¬ (4 : Nat) = 3 by decide))⟩, H, F⟩
                      · refine w_aload_n dX9_next_298 rfl ?_
                        refine rd_get (f := 7) (C := C) (q := (nI k, nI (k + 1), nI 0, nu, st, du)) (v := .ref (od C 0 30)) dX9_next_299 (by decide) q696 H rfl ?_
                        refine rd_22 (C := C) (q := (nI k, nI (k + 1), nI 0, nu, st, du)) dX9_next_302 rfl hx H ?_
                        refine w_aload_n dX9_next_305 rfl ?_
                        refine rd_get (f := 1) (C := C) (q := (nI k, nI (k + 1), nI 0, nu, st, du)) (v := .int (nI k)) dX9_next_306 (by decide) q689 H rfl ?_
                        refine rd_tape (C := C) (q := (nI k, nI (k + 1), nI 0, nu, st, du)) dX9_next_309 hx (by omega) H ?_
                        rw [(hT.2 (k) (by omega)).1]
                        refine w_bipush (v := nI 61) dX9_next_310 kb_61 ?_
                        refine w_icmp_ne dX9_next_312 rfl (fun h_312 => ?_) (fun h_312 => ?_)
                        · have hno4 : ¬ isSg (X.1 k) = true := fun z => by
                            simp only [isSg, Bool.or_eq_true, beq_iff_eq] at z
                            rcases z with ((z | z) | z) | z
                            · exact h_261 ((b8_eq hck (by omega)).mpr z)
                            · exact h_278 ((b8_eq hck (by omega)).mpr z)
                            · exact h_295 ((b8_eq hck (by omega)).mpr z)
                            · exact h_312 ((b8_eq hck (by omega)).mpr z)
                          refine w_iconst (v := nI 4) dX9_next_319 ki_4 ?_
                          refine rd_put (f := 3) (C := C) (q := (nI k, nI (k + 1), nI 0, nu, st, du)) (v := nI 4) (nI k, nI (k + 1), nI 4, nu, st, du) dX9_next_320 (by decide) q691 rfl rfl rfl H F rfl ?_
                          intro σ H F
                          exact w_vret dX9_next_323 rfl ⟨by rfl, _, by exact ⟨nu, by rw [tok_odd hak h_87 (fun z => h_99 ⟨h_87, z⟩) (fun z => h_139 ⟨h_87, z⟩) hno4]; rfl, by rw [tok_odd hak h_87 (fun z => h_99 ⟨h_87, z⟩) (fun z => h_139 ⟨h_87, z⟩) hno4]; exact (fun z => absurd z (show ¬ (1 : Nat) = 3 by decide))⟩, H, F⟩
                        · refine w_iconst (v := nI 3) dX9_next_315 ki_3 ?_
                          refine w_goto dX9_next_316 rfl ?_
                          refine rd_put (f := 3) (C := C) (q := (nI k, nI (k + 1), nI 0, nu, st, du)) (v := nI 3) (nI k, nI (k + 1), nI 3, nu, st, du) dX9_next_320 (by decide) q691 rfl rfl rfl H F rfl ?_
                          intro σ H F
                          exact w_vret dX9_next_323 rfl ⟨by rfl, _, by exact ⟨nu, by rw [tok_sig hak h_87 (fun z => h_99 ⟨h_87, z⟩) (fun z => h_139 ⟨h_87, z⟩) (by rw [(b8_eq hck (m := 61) (by omega)).mp h_312]; rfl)]; rfl, by rw [tok_sig hak h_87 (fun z => h_99 ⟨h_87, z⟩) (fun z => h_139 ⟨h_87, z⟩) (by rw [(b8_eq hck (m := 61) (by omega)).mp h_312]; rfl)]; exact (fun z => absurd z (show ¬ (4 : Nat) = 3 by decide))⟩, H, F⟩
                · refine w_aload_n dX9_next_142 rfl ?_
                  refine w_iconst (v := nI 0) dX9_next_143 ki_0 ?_
                  refine rd_put (f := 4) (C := C) (q := (nI k, nI k, nI 0, nu, st, du)) (v := nI 0) (nI k, nI k, nI 0, nI 0, st, du) dX9_next_144 (by decide) q692 rfl rfl rfl H F rfl ?_
                  intro σ H F
                  have ld : ∀ (j9 : Nat) (z : Nat) (m : Int32) (σ : PH), X.2 - z < j9 → k ≤ z → z ≤ X.2 → scn X isDi z = scn X isDi k → (z - k ≤ 4 → m = nI (nv X k (z - k))) → Hold g σ (rdS C X.2 (nI k, nI z, nI 0, m, st, du)) → Fr σ0 σ → Wp g (mtC g miX9_next 2 0 0 σ0 (none) (fun C2 => ∃ nu2, C2 = rdS C X.2 (rqT (tok X e) nu2 st du) ∧ NuT (tok X e) nu2)) 0 0 147 [some (.ref (od C 8 1))] [] σ := by
                    intro j9
                    induction j9 with
                    | zero => intro z m σ hmu hkz hz hq6 hm6 H F; exact absurd hmu (Nat.not_lt_zero _)
                    | succ j9 ih_ld =>
                      intro z m σ hmu hkz hz hq6 hm6 H F
                      refine w_aload_n dX9_next_147 rfl ?_
                      refine w_aload_n dX9_next_148 rfl ?_
                      refine rd_get (f := 2) (C := C) (q := (nI k, nI z, nI 0, m, st, du)) (v := .int (nI z)) dX9_next_149 (by decide) q690 H rfl ?_
                      refine cr_call (As := [_]) (mi := miX9_isDigit) dX9_next_152 q684 okX9_isDigit clX9 rfl (H.get ce_rd) (Nat.le_of_ble_eq_true rfl) (r_isDigit (C := C) (q := (nI k, nI z, nI 0, m, st, du)) hx hT (by omega)) H rfl rfl (Nat.le_of_ble_eq_true rfl) ?_
                      refine w_ifB_eq dX9_next_155 rfl (fun h_155 => ?_) (fun h_155 => ?_)
                      · refine w_aload_n dX9_next_211 rfl ?_
                        refine w_aload_n dX9_next_212 rfl ?_
                        refine rd_get (f := 2) (C := C) (q := (nI k, nI z, nI 0, m, st, du)) (v := .int (nI z)) dX9_next_213 (by decide) q690 H rfl ?_
                        refine w_aload_n dX9_next_216 rfl ?_
                        refine rd_get (f := 1) (C := C) (q := (nI k, nI z, nI 0, m, st, du)) (v := .int (nI k)) dX9_next_217 (by decide) q689 H rfl ?_
                        refine w_isubN dX9_next_220 (by omega) ?_
                        refine w_iconst (v := nI 4) dX9_next_221 ki_4 ?_
                        refine w_icmpN_le dX9_next_222 rfl (by omega) (by omega) (fun h_222 => ?_) (fun h_222 => ?_)
                        · refine w_iconst (v := nI 2) dX9_next_229 ki_2 ?_
                          refine rd_put (f := 3) (C := C) (q := (nI k, nI z, nI 0, m, st, du)) (v := nI 2) (nI k, nI z, nI 2, m, st, du) dX9_next_230 (by decide) q691 rfl rfl rfl H F rfl ?_
                          intro σ H F
                          refine w_goto dX9_next_233 rfl ?_
                          exact w_vret dX9_next_323 rfl ⟨by rfl, _, by exact ⟨m, by rw [tok_num hak h_87 (fun z => h_99 ⟨h_87, z⟩) h_139.2 (hq6.symm.trans (scn_f h_155)) h_222]; rfl, by rw [tok_num hak h_87 (fun z => h_99 ⟨h_87, z⟩) h_139.2 (hq6.symm.trans (scn_f h_155)) h_222]; exact fun _ => hm6 h_222⟩, H, F⟩
                        · refine w_iconst (v := nI 4) dX9_next_225 ki_4 ?_
                          refine w_goto dX9_next_226 rfl ?_
                          refine rd_put (f := 3) (C := C) (q := (nI k, nI z, nI 0, m, st, du)) (v := nI 4) (nI k, nI z, nI 4, m, st, du) dX9_next_230 (by decide) q691 rfl rfl rfl H F rfl ?_
                          intro σ H F
                          refine w_goto dX9_next_233 rfl ?_
                          exact w_vret dX9_next_323 rfl ⟨by rfl, _, by exact ⟨m, by rw [tok_big hak h_87 (fun z => h_99 ⟨h_87, z⟩) h_139.2 (hq6.symm.trans (scn_f h_155)) (by omega)]; rfl, by rw [tok_big hak h_87 (fun z => h_99 ⟨h_87, z⟩) h_139.2 (hq6.symm.trans (scn_f h_155)) (by omega)]; exact (fun z => absurd z (show ¬ (1 : Nat) = 3 by decide))⟩, H, F⟩
                      · refine w_aload_n dX9_next_158 rfl ?_
                        refine rd_get (f := 2) (C := C) (q := (nI k, nI z, nI 0, m, st, du)) (v := .int (nI z)) dX9_next_159 (by decide) q690 H rfl ?_
                        refine w_aload_n dX9_next_162 rfl ?_
                        refine rd_get (f := 1) (C := C) (q := (nI k, nI z, nI 0, m, st, du)) (v := .int (nI k)) dX9_next_163 (by decide) q689 H rfl ?_
                        refine w_isubN dX9_next_166 (by omega) ?_
                        refine w_iconst (v := nI 4) dX9_next_167 ki_4 ?_
                        refine w_icmpN_ge dX9_next_168 rfl (by omega) (by omega) (fun h_168 => ?_) (fun h_168 => ?_)
                        · refine w_aload_n dX9_next_198 rfl ?_
                          refine w_dup dX9_next_199 rfl ?_
                          refine rd_get (f := 2) (C := C) (q := (nI k, nI z, nI 0, m, st, du)) (v := .int (nI z)) dX9_next_200 (by decide) q690 H rfl ?_
                          refine w_iconst (v := nI 1) dX9_next_203 ki_1 ?_
                          refine w_iaddN dX9_next_204 ?_
                          refine rd_put (f := 2) (C := C) (q := (nI k, nI z, nI 0, m, st, du)) (v := nI (z + 1)) (nI k, nI (z + 1), nI 0, m, st, du) dX9_next_205 (by decide) q690 rfl rfl rfl H F rfl ?_
                          intro σ H F
                          refine w_goto dX9_next_208 rfl ?_
                          exact ih_ld (z + 1) m σ (by omega) (by omega) (by omega) ((scn_t h_155.1 h_155.2).symm.trans hq6) (fun hle => absurd hle (by omega)) H F
                        · refine w_aload_n dX9_next_171 rfl ?_
                          refine w_bipush (v := nI 10) dX9_next_172 kb_10 ?_
                          refine w_aload_n dX9_next_174 rfl ?_
                          refine rd_get (f := 4) (C := C) (q := (nI k, nI z, nI 0, m, st, du)) (v := .int (m)) dX9_next_175 (by decide) q692 H rfl ?_
                          refine w_imul dX9_next_178 ?_
                          refine w_aload_n dX9_next_179 rfl ?_
                          refine rd_get (f := 7) (C := C) (q := (nI k, nI z, nI 0, m, st, du)) (v := .ref (od C 0 30)) dX9_next_180 (by decide) q696 H rfl ?_
                          refine rd_22 (C := C) (q := (nI k, nI z, nI 0, m, st, du)) dX9_next_183 rfl hx H ?_
                          refine w_aload_n dX9_next_186 rfl ?_
                          refine rd_get (f := 2) (C := C) (q := (nI k, nI z, nI 0, m, st, du)) (v := .int (nI z)) dX9_next_187 (by decide) q690 H rfl ?_
                          refine rd_tape (C := C) (q := (nI k, nI z, nI 0, m, st, du)) dX9_next_190 hx (by omega) H ?_
                          rw [(hT.2 (z) (by omega)).1]
                          refine w_iadd dX9_next_191 ?_
                          refine w_bipush (v := nI 48) dX9_next_192 kb_48 ?_
                          refine w_isub dX9_next_194 ?_
                          refine rd_put (f := 4) (C := C) (q := (nI k, nI z, nI 0, m, st, du)) (v := nI 10 * m + b8 (X.1 z) - nI 48) (nI k, nI z, nI 0, nI 10 * m + b8 (X.1 z) - nI 48, st, du) dX9_next_195 (by decide) q692 rfl rfl rfl H F rfl ?_
                          intro σ H F
                          refine w_aload_n dX9_next_198 rfl ?_
                          refine w_dup dX9_next_199 rfl ?_
                          refine rd_get (f := 2) (C := C) (q := (nI k, nI z, nI 0, nI 10 * m + b8 (X.1 z) - nI 48, st, du)) (v := .int (nI z)) dX9_next_200 (by decide) q690 H rfl ?_
                          refine w_iconst (v := nI 1) dX9_next_203 ki_1 ?_
                          refine w_iaddN dX9_next_204 ?_
                          refine rd_put (f := 2) (C := C) (q := (nI k, nI z, nI 0, nI 10 * m + b8 (X.1 z) - nI 48, st, du)) (v := nI (z + 1)) (nI k, nI (z + 1), nI 0, nI 10 * m + b8 (X.1 z) - nI 48, st, du) dX9_next_205 (by decide) q690 rfl rfl rfl H F rfl ?_
                          intro σ H F
                          refine w_goto dX9_next_208 rfl ?_
                          have hdz : 48 ≤ X.1 z ∧ X.1 z ≤ 57 := by
                            have := h_155.2
                            simpa [isDi] using this
                          exact ih_ld (z + 1) _ σ (by omega) (by omega) (by omega) ((scn_t h_155.1 h_155.2).symm.trans hq6) (fun hle => by
                            rw [hm6 (by omega), b8_n _ (by omega), nI_digit hdz.1, show z + 1 - k = (z - k) + 1 by omega, nv, show k + (z - k) = z by omega]) H F
                  exact ld (X.2 + 1) k _ σ (by omega) (Nat.le_refl _) (by omega) rfl (fun _ => by rw [Nat.sub_self]; rfl) H F
              · refine w_aload_n dX9_next_102 rfl ?_
                refine w_iconst (v := nI 1) dX9_next_103 ki_1 ?_
                refine rd_put (f := 3) (C := C) (q := (nI k, nI k, nI 0, nu, st, du)) (v := nI 1) (nI k, nI k, nI 1, nu, st, du) dX9_next_104 (by decide) q691 rfl rfl rfl H F rfl ?_
                intro σ H F
                have lw : ∀ (j9 : Nat) (z : Nat) (σ : PH), X.2 - z < j9 → k ≤ z → z ≤ X.2 → scn X isLo z = scn X isLo k → Hold g σ (rdS C X.2 (nI k, nI z, nI 1, nu, st, du)) → Fr σ0 σ → Wp g (mtC g miX9_next 2 0 0 σ0 (none) (fun C2 => ∃ nu2, C2 = rdS C X.2 (rqT (tok X e) nu2 st du) ∧ NuT (tok X e) nu2)) 0 0 107 [some (.ref (od C 8 1))] [] σ := by
                  intro j9
                  induction j9 with
                  | zero => intro z σ hmu hkz hz hq6 H F; exact absurd hmu (Nat.not_lt_zero _)
                  | succ j9 ih_lw =>
                    intro z σ hmu hkz hz hq6 H F
                    refine w_aload_n dX9_next_107 rfl ?_
                    refine w_aload_n dX9_next_108 rfl ?_
                    refine rd_get (f := 2) (C := C) (q := (nI k, nI z, nI 1, nu, st, du)) (v := .int (nI z)) dX9_next_109 (by decide) q690 H rfl ?_
                    refine cr_call (As := [_]) (mi := miX9_isLetter) dX9_next_112 q680 okX9_isLetter clX9 rfl (H.get ce_rd) (Nat.le_of_ble_eq_true rfl) (r_isLetter (C := C) (q := (nI k, nI z, nI 1, nu, st, du)) hx hT (by omega)) H rfl rfl (Nat.le_of_ble_eq_true rfl) ?_
                    refine w_ifB_eq dX9_next_115 rfl (fun h_115 => ?_) (fun h_115 => ?_)
                    · exact w_vret dX9_next_323 rfl ⟨by rfl, _, by exact ⟨nu, by rw [tok_word hak h_87 h_99.2 (hq6.symm.trans (scn_f h_115))]; rfl, by rw [tok_word hak h_87 h_99.2 (hq6.symm.trans (scn_f h_115))]; exact (fun z => absurd z (show ¬ (2 : Nat) = 3 by decide))⟩, H, F⟩
                    · refine w_aload_n dX9_next_118 rfl ?_
                      refine w_dup dX9_next_119 rfl ?_
                      refine rd_get (f := 2) (C := C) (q := (nI k, nI z, nI 1, nu, st, du)) (v := .int (nI z)) dX9_next_120 (by decide) q690 H rfl ?_
                      refine w_iconst (v := nI 1) dX9_next_123 ki_1 ?_
                      refine w_iaddN dX9_next_124 ?_
                      refine rd_put (f := 2) (C := C) (q := (nI k, nI z, nI 1, nu, st, du)) (v := nI (z + 1)) (nI k, nI (z + 1), nI 1, nu, st, du) dX9_next_125 (by decide) q690 rfl rfl rfl H F rfl ?_
                      intro σ H F
                      refine w_goto dX9_next_128 rfl ?_
                      exact ih_lw (z + 1) σ (by omega) (by omega) (by omega) ((scn_t h_115.1 h_115.2).symm.trans hq6) H F
                exact lw (X.2 + 1) k σ (by omega) (Nat.le_refl _) (by omega) rfl H F
            · exact w_vret dX9_next_90 rfl ⟨by rfl, _, by exact ⟨nu, by rw [tok_end hak (by omega)]; rfl, by rw [tok_end hak (by omega)]; exact (fun z => absurd z (show ¬ (0 : Nat) = 3 by decide))⟩, H, F⟩
          · have hc := (b8_eq (hT.2 k (by omega)).2 (by omega)).mp h_50
            have hs := scn_t (p := isSp) (show k < X.2 by omega) (by rw [hc]; rfl)
            refine w_aload_n dX9_next_53 rfl ?_
            refine w_dup dX9_next_54 rfl ?_
            refine rd_get (f := 1) (C := C) (q := (nI k, nI e, s0, nu, st, du)) (v := .int (nI k)) dX9_next_55 (by decide) q689 H rfl ?_
            refine w_iconst (v := nI 1) dX9_next_58 ki_1 ?_
            refine w_iaddN dX9_next_59 ?_
            refine rd_put (f := 1) (C := C) (q := (nI k, nI e, s0, nu, st, du)) (v := nI (k + 1)) (nI (k + 1), nI e, s0, nu, st, du) dX9_next_60 (by decide) q689 rfl rfl rfl H F rfl ?_
            intro σ H F
            refine w_goto dX9_next_63 rfl ?_
            exact ih_lp (k + 1) σ (by omega) (by omega) (hs.symm.trans hq) H F
  exact lp (X.2 + 1) e σ (by omega) he rfl H F
set_option maxHeartbeats 4000000 in
theorem r_isSign {g : GG} {C : CS} {X : TX} {t : Tk} {nu st du : Int32} {c : Nat} (hx : oO C 0 = true) (hT : TxC C X) (hO : OkT9 X t) (hc : c < 128) : Cr g miX9_isSign 1 [.ref (od C 8 1), .int (nI c)] ((rdS C X.2 (rqT t nu st du))) (some (.int (bP (t.so = 4 ∧ t.va = c)))) := by
  refine Cr.start [some (.ref (od C 8 1)), some (.int (nI c))] plX9 rfl (Nat.le_of_ble_eq_true rfl) rfl ?_
  intro σ H
  have hX9 := hT.1
  obtain ⟨ho1, ho2, ho3, ho4, -⟩ := hO.ok
  have hs4 := so2_le ho3
  refine w_aload_n dX9_isSign_0 rfl ?_
  refine rd_get (f := 3) (C := C) (q := rqT t nu st du) (v := .int (nI (so2 t.so))) dX9_isSign_1 (by decide) q691 H rfl ?_
  refine w_iconst (v := nI 3) dX9_isSign_4 ki_3 ?_
  refine w_icmpN_ne dX9_isSign_5 rfl (by omega) (by omega) (fun h_5 => ?_) (fun h_5 => ?_)
  · have hn4 : ¬ t.so = 4 := fun z => h_5 ((so2_i ho3 (by omega) (by omega)).mpr z)
    refine w_iconst (v := nI 0) dX9_isSign_28 ki_0 ?_
    exact w_zret dX9_isSign_29 rfl (by first | exact narr0 | exact narr1) ⟨by rw [bP_f (fun z => hn4 z.1)], rfl⟩
  · have h4 : t.so = 4 := (so2_i ho3 (by omega) (by omega)).mp h_5
    obtain ⟨hv1, hv2⟩ := tok_sgv hO h4
    have hcf := (hT.2 t.fr hv1).2
    refine w_aload_n dX9_isSign_8 rfl ?_
    refine rd_get (f := 7) (C := C) (q := rqT t nu st du) (v := .ref (od C 0 30)) dX9_isSign_9 (by decide) q696 H rfl ?_
    refine rd_22 (C := C) (q := rqT t nu st du) dX9_isSign_12 rfl hx H ?_
    refine w_aload_n dX9_isSign_15 rfl ?_
    refine rd_get (f := 1) (C := C) (q := rqT t nu st du) (v := .int (nI t.fr)) dX9_isSign_16 (by decide) q689 H rfl ?_
    refine rd_tape (C := C) (q := rqT t nu st du) dX9_isSign_19 hx (by omega) H ?_
    rw [(hT.2 (t.fr) (by omega)).1]
    refine w_iload_n dX9_isSign_20 rfl ?_
    refine w_icmp_ne dX9_isSign_21 rfl (fun h_21 => ?_) (fun h_21 => ?_)
    · refine w_iconst (v := nI 0) dX9_isSign_28 ki_0 ?_
      exact w_zret dX9_isSign_29 rfl (by first | exact narr0 | exact narr1) ⟨by rw [bP_f (fun z => h_21 ((b8_eq hcf (by omega)).mpr (hv2.symm.trans z.2)))], rfl⟩
    · refine w_iconst (v := nI 1) dX9_isSign_24 ki_1 ?_
      refine w_goto dX9_isSign_25 rfl ?_
      exact w_zret dX9_isSign_29 rfl (by first | exact narr0 | exact narr1) ⟨by rw [bP_t ⟨h4, hv2.trans ((b8_eq hcf (by omega)).mp h_21)⟩], rfl⟩
set_option maxHeartbeats 4000000 in
theorem r_isWord {g : GG} {C : CS} {X : TX} {t : Tk} {nu st du : Int32} {i m : Nat} {s9 : String × Nat × String × List Int32} (hx : oO C 0 = true) (hT : TxC C X) (hO : OkT9 X t) (hs9 : skL[i]? = some s9) (hi1 : 1 ≤ i) (hm9 : wk i = m) : Cr g miX9_isWord 5 [.ref (od C 8 1), .ref (sa g i)] ((rdS C X.2 (rqT t nu st du))) (some (.int (bP (kix X t = m)))) := by
  refine Cr.start [some (.ref (od C 8 1)), some (.ref (sa g i)), none] plX9 rfl (Nat.le_of_ble_eq_true rfl) rfl ?_
  intro σ H
  have hX9 := hT.1
  obtain ⟨ho1, ho2, ho3, ho4, -⟩ := hO.ok
  have hs4 := so2_le ho3
  obtain ⟨hw1, hw2, hw3⟩ := wk_x hi1 hs9
  rw [hm9] at hw1 hw2 hw3
  have hsn := skL_n hs9
  refine w_aload_n dX9_isWord_0 rfl ?_
  refine rd_get (f := 3) (C := C) (q := rqT t nu st du) (v := .int (nI (so2 t.so))) dX9_isWord_1 (by decide) q691 H rfl ?_
  refine w_iconst (v := nI 1) dX9_isWord_4 ki_1 ?_
  refine w_icmpN_ne dX9_isWord_5 rfl (by omega) (by omega) (fun h_5 => ?_) (fun h_5 => ?_)
  · have hn2 : ¬ t.so = 2 := fun z => h_5 ((so2_i ho3 (by omega) (by omega)).mpr z)
    refine w_iconst (v := nI 0) dX9_isWord_24 ki_0 ?_
    exact w_zret dX9_isWord_25 rfl (by first | exact narr0 | exact narr1) ⟨by rw [bP_f (fun z => hn2 ((kix_iff hw1).mp z).1)], rfl⟩
  · have h2 : t.so = 2 := (so2_i ho3 (by omega) (by omega)).mp h_5
    refine w_aload_n dX9_isWord_8 rfl ?_
    refine rd_get (f := 2) (C := C) (q := rqT t nu st du) (v := .int (nI t.to)) dX9_isWord_9 (by decide) q690 H rfl ?_
    refine w_aload_n dX9_isWord_12 rfl ?_
    refine rd_get (f := 1) (C := C) (q := rqT t nu st du) (v := .int (nI t.fr)) dX9_isWord_13 (by decide) q689 H rfl ?_
    refine w_isubN dX9_isWord_16 (by omega) ?_
    refine w_aload_n dX9_isWord_17 rfl ?_
    refine str_calli0 (mi := miJ4_length) hs9 dX9_isWord_18 q731 okJ4_length rfl (Nat.le_of_ble_eq_true rfl) (t_length hs9) (Nat.le_of_ble_eq_true rfl) ?_
    refine w_icmpN_eq dX9_isWord_21 rfl (by omega) (by omega) (fun h_21 => ?_) (fun h_21 => ?_)
    · refine w_iconst (v := nI 0) dX9_isWord_26 ki_0 ?_
      refine w_istore_n dX9_isWord_27 rfl (Nat.le_of_ble_eq_true rfl) ls_3_2 ?_
      have lp : ∀ (j9 : Nat) (k : Nat), s9.2.2.2.length - k < j9 → k ≤ s9.2.2.2.length → (∀ j, j < k → (keys.getD m []).getD j 0 = X.1 (t.fr + j)) → Wp g (mtR g miX9_isWord 5 σ (some (.int (bP (kix X t = m))))) 0 0 28 [some (.ref (od C 8 1)), some (.ref (sa g i)), some (.int (nI k))] [] σ := by
        intro j9
        induction j9 with
        | zero => intro k hmu hk hj; exact absurd hmu (Nat.not_lt_zero _)
        | succ j9 ih_lp =>
          intro k hmu hk hj
          refine w_iload_n dX9_isWord_28 rfl ?_
          refine w_aload_n dX9_isWord_29 rfl ?_
          refine str_calli0 (mi := miJ4_length) hs9 dX9_isWord_30 q731 okJ4_length rfl (Nat.le_of_ble_eq_true rfl) (t_length hs9) (Nat.le_of_ble_eq_true rfl) ?_
          refine w_icmpN_ge dX9_isWord_33 rfl (by omega) (by omega) (fun h_33 => ?_) (fun h_33 => ?_)
          · refine w_iconst (v := nI 1) dX9_isWord_66 ki_1 ?_
            exact w_zret dX9_isWord_67 rfl (by first | exact narr0 | exact narr1) ⟨by rw [bP_t ((kix_iff hw1).mpr ⟨h2, wd_eq.mpr ⟨by omega, fun j hj2 => hj j (by omega)⟩⟩)], rfl⟩
          · refine w_aload_n dX9_isWord_36 rfl ?_
            refine rd_get (f := 7) (C := C) (q := rqT t nu st du) (v := .ref (od C 0 30)) dX9_isWord_37 (by decide) q696 H rfl ?_
            refine rd_22 (C := C) (q := rqT t nu st du) dX9_isWord_40 rfl hx H ?_
            refine w_aload_n dX9_isWord_43 rfl ?_
            refine rd_get (f := 1) (C := C) (q := rqT t nu st du) (v := .int (nI t.fr)) dX9_isWord_44 (by decide) q689 H rfl ?_
            refine w_iload_n dX9_isWord_47 rfl ?_
            refine w_iaddN dX9_isWord_48 ?_
            refine rd_tape (C := C) (q := rqT t nu st du) dX9_isWord_49 hx (by omega) H ?_
            rw [(hT.2 (t.fr + k) (by omega)).1]
            refine w_aload_n dX9_isWord_50 rfl ?_
            refine w_iload_n dX9_isWord_51 rfl ?_
            refine str_calli1 (mi := miJ4_charAt) hs9 dX9_isWord_52 q741 okJ4_charAt rfl (Nat.le_of_ble_eq_true rfl) (t_charAt hs9 (by omega)) (Nat.le_of_ble_eq_true rfl) ?_
            refine w_icmp_eq dX9_isWord_55 rfl (fun h_55 => ?_) (fun h_55 => ?_)
            · have hck := (hT.2 (t.fr + k) (by omega)).2
              have hwk := hw3 k (by omega)
              have heq : (keys.getD m []).getD k 0 = X.1 (t.fr + k) := by
                rw [hwk.1] at h_55
                exact ((b8_eq hck hwk.2).mp h_55).symm
              refine w_iinc dX9_isWord_60 rfl (nI_inc _ 1) rfl (Nat.le_of_ble_eq_true rfl) ls_3_2 ?_
              refine w_goto dX9_isWord_63 rfl ?_
              exact ih_lp (k + 1) (by omega) (by omega) (fun j hj2 => by
                by_cases z : j < k
                · exact hj j z
                · rw [show j = k by omega]; exact heq)
            · have hck := (hT.2 (t.fr + k) (by omega)).2
              have hwk := hw3 k (by omega)
              have hne : ¬ (keys.getD m []).getD k 0 = X.1 (t.fr + k) := fun z => h_55 (by rw [hwk.1]; exact (b8_eq hck hwk.2).mpr z.symm)
              refine w_iconst (v := nI 0) dX9_isWord_58 ki_0 ?_
              exact w_zret dX9_isWord_59 rfl (by first | exact narr0 | exact narr1) ⟨by rw [bP_f (fun z => hne ((wd_eq.mp ((kix_iff hw1).mp z).2).2 k (by omega)))], rfl⟩
      exact lp (s9.2.2.2.length + 1) 0 (by omega) (by omega) (fun j h => absurd h (Nat.not_lt_zero j))
    · refine w_iconst (v := nI 0) dX9_isWord_24 ki_0 ?_
      exact w_zret dX9_isWord_25 rfl (by first | exact narr0 | exact narr1) ⟨by rw [bP_f (fun z => h_21 (by have := (wd_eq.mp ((kix_iff hw1).mp z).2).1; omega))], rfl⟩
