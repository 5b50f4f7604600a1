set_option maxRecDepth 100000
set_option maxHeartbeats 4000000 in
theorem b_newFinder {g : GG} {C : CS} {X : TX} {t : Tk} {nu st : Int32} {B : BS} {Z : ZB} {m : Nat → Option va_E} (hx : oO C 0 = true) (hT : TxC C X) (hO : OkT9 X t) (hN : NuT t nu) (hm : m = zbM g C Z) (E : EncBe Z B) (O : OkB B) (hk : kix X t = 3) : Cz g miX9_newFinder 10 0 0 [.ref (od (sM8 C m) 8 1), .ref (od C 8 2)] (rdS (sM8 C m) X.2 (rqT t nu st (nI B.du))) (QB g C X st (pFinder X B t)) (ET C (pFinder X B t)) := by
  refine Cz.start [some (.ref (od (sM8 C m) 8 1)), some (.ref (od C 8 2)), none, none, none] plX9 rfl (Nat.le_of_ble_eq_true rfl) rfl ?_
  intro σ0 σ H F
  have hX9 := hT.1
  obtain ⟨ho1, ho2, ho3, ho4, -⟩ := hO.ok
  obtain ⟨⟨a0, a1, a2, a3, a4, a5, a6⟩, -⟩ := id E
  have hb9 := O.b
  have hpb9 := O.2.2.2.2.2.1
  have hdu9 := O.2.2.2.2.2.2.1
  have hs1 : t.so ≠ 1 := by have := kix_so (X := X) (t := t) (by omega); omega
  refine w_aload_n dX9_newFinder_0 rfl ?_
  refine be_get (f := 3) (C := C) (Z := Z) (n := X.2) (q := rqT t nu st (nI B.du)) (v := .int (nI (vs B.W 1))) dX9_newFinder_1 (by decide) q302 hm H (congrArg (fun x => some (Value.int x)) a3) ?_
  refine w_istore_n dX9_newFinder_4 rfl (Nat.le_of_ble_eq_true rfl) ls_5_2 ?_
  refine w_iload_n dX9_newFinder_5 rfl ?_
  refine w_bipush (v := nI 6) dX9_newFinder_6 kb_6 ?_
  refine w_icmpN_ne dX9_newFinder_8 rfl (by omega) (by omega) (fun h_8 => ?_) (fun h_8 => ?_)
  · refine w_aload_n dX9_newFinder_28 rfl ?_
    refine cp_call (kc := 0) (ks := 0) (As := []) (mi := miX9_next) dX9_newFinder_29 q676 okX9_next clX9 rfl (z_rd H) (Nat.le_of_ble_eq_true rfl) (z_next (C := C) (m := m) hx hT hO.ok.2.1) H F rfl rfl (Nat.le_of_ble_eq_true rfl) ?_
    intro σ C29 hC29 H F
    obtain ⟨nu29, hc29, hN29⟩ := hC29
    subst hc29
    refine w_aload_n dX9_newFinder_32 rfl ?_
    refine w_aload_n dX9_newFinder_33 rfl ?_
    refine cx_call (kc := 0) (ks := 0) (As := [_]) (mi2 := miX9_fresh) dX9_newFinder_34 q806 okX9_fresh clX9 rfl (z_rd H) (Nat.le_of_ble_eq_true rfl) (z_fresh (C := C) (m := m) hx hT hO.nx hN29 (EncBe.n2 hm E O rfl rfl rfl)) rfl H F RFr.rb (fun C2 h => (h.up RFr.sM).of (fun f z => by exact pF_1 h_8 z)) rfl rfl (Nat.le_of_ble_eq_true rfl) ?_
    intro v34 σ C34 hQ34 H F
    obtain ⟨ws, t34, nu34, hv34, hw34, e34, hO34, hc34, hN34⟩ := hQ34
    subst hv34 hc34
    refine w_lstore_n dX9_newFinder_37 rfl (Nat.le_of_ble_eq_true rfl) ls2_5_3 ?_
    refine w_aload_n dX9_newFinder_38 rfl ?_
    refine be_get (f := 9) (C := C) (Z := Z) (n := X.2) (q := rqT t34 nu34 st (nI B.du)) (v := .ref (od C 8 12)) dX9_newFinder_39 (by decide) q321 hm H rfl ?_
    refine w_iload_n dX9_newFinder_42 rfl ?_
    refine w_aload_n dX9_newFinder_43 rfl ?_
    refine w_ldcS (i := 16) rfl rfl rfl dX9_newFinder_44 ?_
    refine w_iconst (v := nI 0) dX9_newFinder_46 ki_0 ?_
    refine w_aload_n dX9_newFinder_47 rfl ?_
    refine be_get (f := 0) (C := C) (Z := Z) (n := X.2) (q := rqT t34 nu34 st (nI B.du)) (v := .int (nI (vs B.W 0))) dX9_newFinder_48 (by decide) q292 hm H (congrArg (fun x => some (Value.int x)) a0) ?_
    refine w_iconst (v := nI 1) dX9_newFinder_51 ki_1 ?_
    refine w_isubN dX9_newFinder_52 (by omega) ?_
    refine cx_call (kc := 0) (ks := 0) (As := [_, _, _]) (mi2 := miX9_behind) dX9_newFinder_53 q719 okX9_behind clX9 rfl (z_rd H) (Nat.le_of_ble_eq_true rfl) (z_behind (i := 16) (m9 := 7) (C := C) (m := m) hx hT hO34 hN34 (by omega) (by omega) rfl (by decide) rfl) rfl H F RFr.rb (fun C2 h => (h.up RFr.sM).of (fun f z => by rw [pF_c h_8 e34]; simp only [z, ob, oe])) rfl rfl (Nat.le_of_ble_eq_true rfl) ?_
    intro v53 σ C53 hQ53 H F
    obtain ⟨n53, t53, nu53, hv53, e53, hO53, hc53, hN53⟩ := hQ53
    subst hv53 hc53
    refine be_ia (k := 9) (C := C) (Z := Z) (n := X.2) (q := rqT t53 nu53 st (nI B.du)) (i := vs B.W 1) (x := nI n53) dX9_newFinder_56 (fun _ => rfl) (show vs B.W 1 < zn 9 from by show vs B.W 1 < 6; omega) hm H F ?_
    intro σ m56 hm56 H F
    refine w_aload_n dX9_newFinder_57 rfl ?_
    refine be_get (f := 10) (C := C) (Z := (zR Z 9 (vs B.W 1) (nI n53))) (n := X.2) (q := rqT t53 nu53 st (nI B.du)) (v := .ref (od C 8 13)) dX9_newFinder_58 (by decide) q324 hm56 H rfl ?_
    refine w_iload_n dX9_newFinder_61 rfl ?_
    refine w_aload_n dX9_newFinder_62 rfl ?_
    refine w_ldcS (i := 17) rfl rfl rfl dX9_newFinder_63 ?_
    refine w_iconst (v := nI 1) dX9_newFinder_65 ki_1 ?_
    refine w_bipush (v := nI 9) dX9_newFinder_66 kb_9 ?_
    refine cx_call (kc := 0) (ks := 0) (As := [_, _, _]) (mi2 := miX9_behind) dX9_newFinder_68 q719 okX9_behind clX9 rfl (z_rd H) (Nat.le_of_ble_eq_true rfl) (z_behind (i := 17) (m9 := 8) (C := C) (m := m56) hx hT hO53 hN53 (by first | assumption | omega) (by first | assumption | omega) rfl (by decide) rfl) rfl H F RFr.rb (fun C2 h => (h.up RFr.sM).of (fun f z => by rw [pF_c h_8 e34]; simp only [e53, z, ob, oe])) rfl rfl (Nat.le_of_ble_eq_true rfl) ?_
    intro v68 σ C68 hQ68 H F
    obtain ⟨n68, t68, nu68, hv68, e68, hO68, hc68, hN68⟩ := hQ68
    subst hv68 hc68
    refine be_ia (k := 10) (C := C) (Z := (zR Z 9 (vs B.W 1) (nI n53))) (n := X.2) (q := rqT t68 nu68 st (nI B.du)) (i := vs B.W 1) (x := nI n68) dX9_newFinder_71 (fun _ => rfl) (show vs B.W 1 < zn 10 from by show vs B.W 1 < 6; omega) hm56 H F ?_
    intro σ m71 hm71 H F
    refine w_aload_n dX9_newFinder_72 rfl ?_
    refine be_get (f := 11) (C := C) (Z := (zR (zR Z 9 (vs B.W 1) (nI n53)) 10 (vs B.W 1) (nI n68))) (n := X.2) (q := rqT t68 nu68 st (nI B.du)) (v := .ref (od C 8 14)) dX9_newFinder_73 (by decide) q328 hm71 H rfl ?_
    refine w_iload_n dX9_newFinder_76 rfl ?_
    refine w_aload_n dX9_newFinder_77 rfl ?_
    refine w_ldcS (i := 18) rfl rfl rfl dX9_newFinder_78 ?_
    refine w_iconst (v := nI 0) dX9_newFinder_80 ki_0 ?_
    refine w_bipush (v := nI 20) dX9_newFinder_81 kb_20 ?_
    refine cx_call (kc := 0) (ks := 0) (As := [_, _, _]) (mi2 := miX9_behind) dX9_newFinder_83 q719 okX9_behind clX9 rfl (z_rd H) (Nat.le_of_ble_eq_true rfl) (z_behind (i := 18) (m9 := 9) (C := C) (m := m71) hx hT hO68 hN68 (by first | assumption | omega) (by first | assumption | omega) rfl (by decide) rfl) rfl H F RFr.rb (fun C2 h => (h.up RFr.sM).of (fun f z => by rw [pF_c h_8 e34]; simp only [e53, e68, z, ob, oe])) rfl rfl (Nat.le_of_ble_eq_true rfl) ?_
    intro v83 σ C83 hQ83 H F
    obtain ⟨n83, t83, nu83, hv83, e83, hO83, hc83, hN83⟩ := hQ83
    subst hv83 hc83
    refine be_ia (k := 11) (C := C) (Z := (zR (zR Z 9 (vs B.W 1) (nI n53)) 10 (vs B.W 1) (nI n68))) (n := X.2) (q := rqT t83 nu83 st (nI B.du)) (i := vs B.W 1) (x := nI n83) dX9_newFinder_86 (fun _ => rfl) (show vs B.W 1 < zn 11 from by show vs B.W 1 < 6; omega) hm71 H F ?_
    intro σ m86 hm86 H F
    refine w_aload_n dX9_newFinder_87 rfl ?_
    refine be_get (f := 7) (C := C) (Z := (zR (zR (zR Z 9 (vs B.W 1) (nI n53)) 10 (vs B.W 1) (nI n68)) 11 (vs B.W 1) (nI n83))) (n := X.2) (q := rqT t83 nu83 st (nI B.du)) (v := .ref (od C 8 10)) dX9_newFinder_88 (by decide) q316 hm86 H rfl ?_
    refine w_iload_n dX9_newFinder_91 rfl ?_
    refine w_lload_n dX9_newFinder_92 rfl ?_
    refine be_la (C := C) (Z := (zR (zR (zR Z 9 (vs B.W 1) (nI n53)) 10 (vs B.W 1) (nI n68)) 11 (vs B.W 1) (nI n83))) (n := X.2) (q := rqT t83 nu83 st (nI B.du)) (i := vs B.W 1) (x := lN (n32 ws)) dX9_newFinder_93 (by omega) hm86 H F ?_
    intro σ m93 hm93 H F
    refine w_aload_n dX9_newFinder_94 rfl ?_
    refine w_dup dX9_newFinder_95 rfl ?_
    refine be_get (f := 3) (C := C) (Z := (zP (zR (zR (zR Z 9 (vs B.W 1) (nI n53)) 10 (vs B.W 1) (nI n68)) 11 (vs B.W 1) (nI n83)) (vs B.W 1) (lN (n32 ws)))) (n := X.2) (q := rqT t83 nu83 st (nI B.du)) (v := .int (nI (vs B.W 1))) dX9_newFinder_96 (by decide) q302 hm93 H (congrArg (fun x => some (Value.int x)) a3) ?_
    refine w_iconst (v := nI 1) dX9_newFinder_99 ki_1 ?_
    refine w_iaddN dX9_newFinder_100 ?_
    refine be_put (f := 3) (C := C) (Z := (zP (zR (zR (zR Z 9 (vs B.W 1) (nI n53)) 10 (vs B.W 1) (nI n68)) 11 (vs B.W 1) (nI n83)) (vs B.W 1) (lN (n32 ws)))) (n := X.2) (q := rqT t83 nu83 st (nI B.du)) (v := nI (vs B.W 1 + 1)) dX9_newFinder_101 (by decide) q302 rfl rfl rfl hm93 H F rfl ?_
    intro σ m101 hm101 H F
    exact w_vret dX9_newFinder_104 rfl ⟨_, by exact ⟨rfl, bFinder B ws n53 n68 n83, t83, nu83, _, _, hm101, by rw [pF_c h_8 e34]; simp only [e53, e68, e83, ob, oe], hO83, rfl, hN83, E.addF⟩, H, F⟩
  · skip
    refine w_aload_n dX9_newFinder_11 rfl ?_
    refine z_get (f := 7) (C := C) (m := m) (q := rqT t nu st (nI B.du)) (v := .ref (od C 0 30)) dX9_newFinder_12 (by decide) q696 H rfl ?_
    refine z_55 (C := C) (m := m) (q := rqT t nu st (nI B.du)) dX9_newFinder_15 rfl hx H ?_
    refine w_bipush (v := nI 6) dX9_newFinder_18 kb_6 ?_
    refine w_aload_n dX9_newFinder_20 rfl ?_
    refine z_get (f := 1) (C := C) (m := m) (q := rqT t nu st (nI B.du)) (v := .int (nI t.fr)) dX9_newFinder_21 (by decide) q689 H rfl ?_
    obtain ⟨fs24, hb24⟩ := z_bad hx H
    refine cp_call (kc := 0) (ks := 0) (As := [_, _]) (mi := miX2_at) dX9_newFinder_24 q783 okX2_at clX2 rfl hb24 (Nat.le_of_ble_eq_true rfl) (z_at (C := C) (m := m) (n := X.2) (q := rqT t nu st (nI B.du)) hx) H F rfl rfl (Nat.le_of_ble_eq_true rfl) ?_
    intro σ C24 hC24 H F
    change C24 = bdS (rdS (sM8 C m) X.2 (rqT t nu st (nI B.du))) (6, t.fr) at hC24
    exact z_throw (C1 := C24) dX9_newFinder_27 rfl hx H F (RFr.bdb hC24) (ET.mkb (pF_0 (by omega) hs1) hC24)
set_option maxHeartbeats 4000000 in
theorem b_newFind {g : GG} {C : CS} {X : TX} {t : Tk} {nu st : Int32} {B : BS} {Z : ZB} {m : Nat → Option va_E} (hx : oO C 0 = true) (hT : TxC C X) (hO : OkT9 X t) (hN : NuT t nu) (hm : m = zbM g C Z) (E : EncBe Z B) (O : OkB B) (hk : kix X t = 4) : Cz g miX9_newFind 10 0 0 [.ref (od (sM8 C m) 8 1), .ref (od C 8 2)] (rdS (sM8 C m) X.2 (rqT t nu st (nI B.du))) (QB g C X st (pFind X B t)) (ET C (pFind X B t)) := by
  refine Cz.start [some (.ref (od (sM8 C m) 8 1)), some (.ref (od C 8 2)), none, none, none] plX9 rfl (Nat.le_of_ble_eq_true rfl) rfl ?_
  intro σ0 σ H F
  have hX9 := hT.1
  obtain ⟨ho1, ho2, ho3, ho4, -⟩ := hO.ok
  obtain ⟨⟨a0, a1, a2, a3, a4, a5, a6⟩, -⟩ := id E
  have hb9 := O.b
  have hpb9 := O.2.2.2.2.2.1
  have hdu9 := O.2.2.2.2.2.2.1
  have hs1 : t.so ≠ 1 := by have := kix_so (X := X) (t := t) (by omega); omega
  refine w_aload_n dX9_newFind_0 rfl ?_
  refine be_get (f := 4) (C := C) (Z := Z) (n := X.2) (q := rqT t nu st (nI B.du)) (v := .int (nI (vs B.W 2))) dX9_newFind_1 (by decide) q307 hm H (congrArg (fun x => some (Value.int x)) a4) ?_
  refine w_istore_n dX9_newFind_4 rfl (Nat.le_of_ble_eq_true rfl) ls_5_2 ?_
  refine w_iload_n dX9_newFind_5 rfl ?_
  refine w_bipush (v := nI 8) dX9_newFind_6 kb_8 ?_
  refine w_icmpN_ne dX9_newFind_8 rfl (by omega) (by omega) (fun h_8 => ?_) (fun h_8 => ?_)
  · refine w_aload_n dX9_newFind_28 rfl ?_
    refine cp_call (kc := 0) (ks := 0) (As := []) (mi := miX9_next) dX9_newFind_29 q676 okX9_next clX9 rfl (z_rd H) (Nat.le_of_ble_eq_true rfl) (z_next (C := C) (m := m) hx hT hO.ok.2.1) H F rfl rfl (Nat.le_of_ble_eq_true rfl) ?_
    intro σ C29 hC29 H F
    obtain ⟨nu29, hc29, hN29⟩ := hC29
    subst hc29
    refine w_aload_n dX9_newFind_32 rfl ?_
    refine w_aload_n dX9_newFind_33 rfl ?_
    refine cx_call (kc := 0) (ks := 0) (As := [_]) (mi2 := miX9_fresh) dX9_newFind_34 q806 okX9_fresh clX9 rfl (z_rd H) (Nat.le_of_ble_eq_true rfl) (z_fresh (C := C) (m := m) hx hT hO.nx hN29 (EncBe.n2 hm E O rfl rfl rfl)) rfl H F RFr.rb (fun C2 h => (h.up RFr.sM).of (fun f z => by exact pD_1 h_8 z)) rfl rfl (Nat.le_of_ble_eq_true rfl) ?_
    intro v34 σ C34 hQ34 H F
    obtain ⟨ws, t34, nu34, hv34, hw34, e34, hO34, hc34, hN34⟩ := hQ34
    subst hv34 hc34
    refine w_lstore_n dX9_newFind_37 rfl (Nat.le_of_ble_eq_true rfl) ls2_5_3 ?_
    refine w_aload_n dX9_newFind_38 rfl ?_
    refine be_get (f := 12) (C := C) (Z := Z) (n := X.2) (q := rqT t34 nu34 st (nI B.du)) (v := .ref (od C 8 15)) dX9_newFind_39 (by decide) q331 hm H rfl ?_
    refine w_iload_n dX9_newFind_42 rfl ?_
    refine w_aload_n dX9_newFind_43 rfl ?_
    refine w_ldcS (i := 16) rfl rfl rfl dX9_newFind_44 ?_
    refine w_iconst (v := nI 0) dX9_newFind_46 ki_0 ?_
    refine w_aload_n dX9_newFind_47 rfl ?_
    refine be_get (f := 0) (C := C) (Z := Z) (n := X.2) (q := rqT t34 nu34 st (nI B.du)) (v := .int (nI (vs B.W 0))) dX9_newFind_48 (by decide) q292 hm H (congrArg (fun x => some (Value.int x)) a0) ?_
    refine w_iconst (v := nI 1) dX9_newFind_51 ki_1 ?_
    refine w_isubN dX9_newFind_52 (by omega) ?_
    refine cx_call (kc := 0) (ks := 0) (As := [_, _, _]) (mi2 := miX9_behind) dX9_newFind_53 q719 okX9_behind clX9 rfl (z_rd H) (Nat.le_of_ble_eq_true rfl) (z_behind (i := 16) (m9 := 7) (C := C) (m := m) hx hT hO34 hN34 (by first | assumption | omega) (by first | assumption | omega) rfl (by decide) rfl) rfl H F RFr.rb (fun C2 h => (h.up RFr.sM).of (fun f z => by rw [pD_c h_8 e34]; simp only [z, ob, oe])) rfl rfl (Nat.le_of_ble_eq_true rfl) ?_
    intro v53 σ C53 hQ53 H F
    obtain ⟨n53, t53, nu53, hv53, e53, hO53, hc53, hN53⟩ := hQ53
    subst hv53 hc53
    refine be_ia (k := 12) (C := C) (Z := Z) (n := X.2) (q := rqT t53 nu53 st (nI B.du)) (i := vs B.W 2) (x := nI n53) dX9_newFind_56 (fun _ => rfl) (show vs B.W 2 < zn 12 from by show vs B.W 2 < 8; omega) hm H F ?_
    intro σ m56 hm56 H F
    refine w_aload_n dX9_newFind_57 rfl ?_
    refine be_get (f := 13) (C := C) (Z := (zR Z 12 (vs B.W 2) (nI n53))) (n := X.2) (q := rqT t53 nu53 st (nI B.du)) (v := .ref (od C 8 16)) dX9_newFind_58 (by decide) q335 hm56 H rfl ?_
    refine w_iload_n dX9_newFind_61 rfl ?_
    refine w_aload_n dX9_newFind_62 rfl ?_
    refine w_ldcS (i := 20) rfl rfl rfl dX9_newFind_63 ?_
    refine w_iconst (v := nI 0) dX9_newFind_65 ki_0 ?_
    refine w_sipush (v := nI 999) dX9_newFind_66 ks_999 ?_
    refine cx_call (kc := 0) (ks := 0) (As := [_, _, _]) (mi2 := miX9_behind) dX9_newFind_69 q719 okX9_behind clX9 rfl (z_rd H) (Nat.le_of_ble_eq_true rfl) (z_behind (i := 20) (m9 := 10) (C := C) (m := m56) hx hT hO53 hN53 (by first | assumption | omega) (by first | assumption | omega) rfl (by decide) rfl) rfl H F RFr.rb (fun C2 h => (h.up RFr.sM).of (fun f z => by rw [pD_c h_8 e34]; simp only [e53, z, ob, oe])) rfl rfl (Nat.le_of_ble_eq_true rfl) ?_
    intro v69 σ C69 hQ69 H F
    obtain ⟨n69, t69, nu69, hv69, e69, hO69, hc69, hN69⟩ := hQ69
    subst hv69 hc69
    refine be_ia (k := 13) (C := C) (Z := (zR Z 12 (vs B.W 2) (nI n53))) (n := X.2) (q := rqT t69 nu69 st (nI B.du)) (i := vs B.W 2) (x := nI n69) dX9_newFind_72 (fun _ => rfl) (show vs B.W 2 < zn 13 from by show vs B.W 2 < 8; omega) hm56 H F ?_
    intro σ m72 hm72 H F
    refine w_aload_n dX9_newFind_73 rfl ?_
    refine be_get (f := 8) (C := C) (Z := (zR (zR Z 12 (vs B.W 2) (nI n53)) 13 (vs B.W 2) (nI n69))) (n := X.2) (q := rqT t69 nu69 st (nI B.du)) (v := .ref (od C 8 11)) dX9_newFind_74 (by decide) q318 hm72 H rfl ?_
    refine w_iload_n dX9_newFind_77 rfl ?_
    refine w_lload_n dX9_newFind_78 rfl ?_
    refine be_lb (C := C) (Z := (zR (zR Z 12 (vs B.W 2) (nI n53)) 13 (vs B.W 2) (nI n69))) (n := X.2) (q := rqT t69 nu69 st (nI B.du)) (i := vs B.W 2) (x := lN (n32 ws)) dX9_newFind_79 (by omega) hm72 H F ?_
    intro σ m79 hm79 H F
    refine w_aload_n dX9_newFind_80 rfl ?_
    refine w_dup dX9_newFind_81 rfl ?_
    refine be_get (f := 4) (C := C) (Z := (zQ (zR (zR Z 12 (vs B.W 2) (nI n53)) 13 (vs B.W 2) (nI n69)) (vs B.W 2) (lN (n32 ws)))) (n := X.2) (q := rqT t69 nu69 st (nI B.du)) (v := .int (nI (vs B.W 2))) dX9_newFind_82 (by decide) q307 hm79 H (congrArg (fun x => some (Value.int x)) a4) ?_
    refine w_iconst (v := nI 1) dX9_newFind_85 ki_1 ?_
    refine w_iaddN dX9_newFind_86 ?_
    refine be_put (f := 4) (C := C) (Z := (zQ (zR (zR Z 12 (vs B.W 2) (nI n53)) 13 (vs B.W 2) (nI n69)) (vs B.W 2) (lN (n32 ws)))) (n := X.2) (q := rqT t69 nu69 st (nI B.du)) (v := nI (vs B.W 2 + 1)) dX9_newFind_87 (by decide) q307 rfl rfl rfl hm79 H F rfl ?_
    intro σ m87 hm87 H F
    exact w_vret dX9_newFind_90 rfl ⟨_, by exact ⟨rfl, bFind B ws n53 n69, t69, nu69, _, _, hm87, by rw [pD_c h_8 e34]; simp only [e53, e69, ob, oe], hO69, rfl, hN69, E.addD⟩, H, F⟩
  · refine w_aload_n dX9_newFind_11 rfl ?_
    refine z_get (f := 7) (C := C) (m := m) (q := rqT t nu st (nI B.du)) (v := .ref (od C 0 30)) dX9_newFind_12 (by decide) q696 H rfl ?_
    refine z_55 (C := C) (m := m) (q := rqT t nu st (nI B.du)) dX9_newFind_15 rfl hx H ?_
    refine w_bipush (v := nI 6) dX9_newFind_18 kb_6 ?_
    refine w_aload_n dX9_newFind_20 rfl ?_
    refine z_get (f := 1) (C := C) (m := m) (q := rqT t nu st (nI B.du)) (v := .int (nI t.fr)) dX9_newFind_21 (by decide) q689 H rfl ?_
    obtain ⟨fs24, hb24⟩ := z_bad hx H
    refine cp_call (kc := 0) (ks := 0) (As := [_, _]) (mi := miX2_at) dX9_newFind_24 q783 okX2_at clX2 rfl hb24 (Nat.le_of_ble_eq_true rfl) (z_at (C := C) (m := m) (n := X.2) (q := rqT t nu st (nI B.du)) hx) H F rfl rfl (Nat.le_of_ble_eq_true rfl) ?_
    intro σ C24 hC24 H F
    change C24 = bdS (rdS (sM8 C m) X.2 (rqT t nu st (nI B.du))) (6, t.fr) at hC24
    exact z_throw (C1 := C24) dX9_newFind_27 rfl hx H F (RFr.bdb hC24) (ET.mkb (pD_0 (by omega) hs1) hC24)
set_option maxHeartbeats 4000000 in
theorem b_newPebble {g : GG} {C : CS} {X : TX} {t : Tk} {nu st : Int32} {B : BS} {Z : ZB} {m : Nat → Option va_E} (hx : oO C 0 = true) (hT : TxC C X) (hO : OkT9 X t) (hN : NuT t nu) (hm : m = zbM g C Z) (E : EncBe Z B) (O : OkB B) (hk : kix X t = 5) : Cz g miX9_newPebble 10 0 0 [.ref (od (sM8 C m) 8 1), .ref (od C 8 2)] (rdS (sM8 C m) X.2 (rqT t nu st (nI B.du))) (QB g C X st (pPebble X B t)) (ET C (pPebble X B t)) := by
  refine Cz.start [some (.ref (od (sM8 C m) 8 1)), some (.ref (od C 8 2)), none] plX9 rfl (Nat.le_of_ble_eq_true rfl) rfl ?_
  intro σ0 σ H F
  have hX9 := hT.1
  obtain ⟨ho1, ho2, ho3, ho4, -⟩ := hO.ok
  obtain ⟨⟨a0, a1, a2, a3, a4, a5, a6⟩, -⟩ := id E
  have hb9 := O.b
  have hpb9 := O.2.2.2.2.2.1
  have hdu9 := O.2.2.2.2.2.2.1
  have hs1 : t.so ≠ 1 := by have := kix_so (X := X) (t := t) (by omega); omega
  refine w_aload_n dX9_newPebble_0 rfl ?_
  refine be_get (f := 6) (C := C) (Z := Z) (n := X.2) (q := rqT t nu st (nI B.du)) (v := .int (nI (B.pb))) dX9_newPebble_1 (by decide) q314 hm H (congrArg (fun x => some (Value.int x)) a6) ?_
  refine w_istore_n dX9_newPebble_4 rfl (Nat.le_of_ble_eq_true rfl) ls_3_2 ?_
  refine w_iload_n dX9_newPebble_5 rfl ?_
  refine w_bipush (v := nI 30) dX9_newPebble_6 kb_30 ?_
  refine w_icmpN_ne dX9_newPebble_8 rfl (by omega) (by omega) (fun h_8 => ?_) (fun h_8 => ?_)
  · refine w_aload_n dX9_newPebble_28 rfl ?_
    refine cp_call (kc := 0) (ks := 0) (As := []) (mi := miX9_next) dX9_newPebble_29 q676 okX9_next clX9 rfl (z_rd H) (Nat.le_of_ble_eq_true rfl) (z_next (C := C) (m := m) hx hT hO.ok.2.1) H F rfl rfl (Nat.le_of_ble_eq_true rfl) ?_
    intro σ C29 hC29 H F
    obtain ⟨nu29, hc29, hN29⟩ := hC29
    subst hc29
    refine w_aload_n dX9_newPebble_32 rfl ?_
    refine w_ldcS (i := 22) rfl rfl rfl dX9_newPebble_33 ?_
    refine cx_call (kc := 0) (ks := 0) (As := [_]) (mi2 := miX9_word) dX9_newPebble_35 q723 okX9_word clX9 rfl (z_rd H) (Nat.le_of_ble_eq_true rfl) (z_word (i := 22) (m9 := 11) (C := C) (m := m) hx hT hO.nx hN29 rfl (by decide) rfl) rfl H F RFr.rb (fun C2 h => (h.up RFr.sM).of (fun f z => by rw [pP_c h_8]; simp only [z, ob, oe])) rfl rfl (Nat.le_of_ble_eq_true rfl) ?_
    intro v35 σ C35 hQ35 H F
    obtain ⟨hv35, t35, nu35, e35, hO35, hc35, hN35⟩ := hQ35
    subst hv35 hc35
    refine w_aload_n dX9_newPebble_38 rfl ?_
    refine be_get (f := 14) (C := C) (Z := Z) (n := X.2) (q := rqT t35 nu35 st (nI B.du)) (v := .ref (od C 8 17)) dX9_newPebble_39 (by decide) q339 hm H rfl ?_
    refine w_iload_n dX9_newPebble_42 rfl ?_
    refine w_aload_n dX9_newPebble_43 rfl ?_
    refine w_aload_n dX9_newPebble_44 rfl ?_
    refine cx_call (kc := 0) (ks := 0) (As := [_]) (mi2 := miX9_finder) dX9_newPebble_45 q870 okX9_finder clX9 rfl (z_rd H) (Nat.le_of_ble_eq_true rfl) (z_finder (C := C) (m := m) hx hT hO35 hN35 (EncBe.n2 hm E O rfl rfl rfl)) rfl H F RFr.rb (fun C2 h => (h.up RFr.sM).of (fun f z => by rw [pP_c h_8]; simp only [e35, z, ob, oe])) rfl rfl (Nat.le_of_ble_eq_true rfl) ?_
    intro v45 σ C45 hQ45 H F
    obtain ⟨n45, t45, nu45, hv45, e45, hO45, hc45, hN45⟩ := hQ45
    subst hv45 hc45
    refine be_ia (k := 14) (C := C) (Z := Z) (n := X.2) (q := rqT t45 nu45 st (nI B.du)) (i := B.pb) (x := nI n45) dX9_newPebble_48 (fun _ => rfl) (show B.pb < zn 14 from by show B.pb < 30; omega) hm H F ?_
    intro σ m48 hm48 H F
    refine w_aload_n dX9_newPebble_49 rfl ?_
    refine w_ldcS (i := 23) rfl rfl rfl dX9_newPebble_50 ?_
    refine cx_call (kc := 0) (ks := 0) (As := [_]) (mi2 := miX9_word) dX9_newPebble_52 q723 okX9_word clX9 rfl (z_rd H) (Nat.le_of_ble_eq_true rfl) (z_word (i := 23) (m9 := 12) (C := C) (m := m48) hx hT hO45 hN45 rfl (by decide) rfl) rfl H F RFr.rb (fun C2 h => (h.up RFr.sM).of (fun f z => by rw [pP_c h_8]; simp only [e35, e45, z, ob, oe])) rfl rfl (Nat.le_of_ble_eq_true rfl) ?_
    intro v52 σ C52 hQ52 H F
    obtain ⟨hv52, t52, nu52, e52, hO52, hc52, hN52⟩ := hQ52
    subst hv52 hc52
    refine w_aload_n dX9_newPebble_55 rfl ?_
    refine be_get (f := 15) (C := C) (Z := (zR Z 14 (B.pb) (nI n45))) (n := X.2) (q := rqT t52 nu52 st (nI B.du)) (v := .ref (od C 8 18)) dX9_newPebble_56 (by decide) q342 hm48 H rfl ?_
    refine w_iload_n dX9_newPebble_59 rfl ?_
    refine w_aload_n dX9_newPebble_60 rfl ?_
    refine w_aload_n dX9_newPebble_61 rfl ?_
    refine cx_call (kc := 0) (ks := 0) (As := [_]) (mi2 := miX9_find) dX9_newPebble_62 q878 okX9_find clX9 rfl (z_rd H) (Nat.le_of_ble_eq_true rfl) (z_find (C := C) (m := m48) hx hT hO52 hN52 (EncBe.n2 hm48 E O rfl rfl rfl)) rfl H F RFr.rb (fun C2 h => (h.up RFr.sM).of (fun f z => by rw [pP_c h_8]; simp only [e35, e45, e52, z, ob, oe])) rfl rfl (Nat.le_of_ble_eq_true rfl) ?_
    intro v62 σ C62 hQ62 H F
    obtain ⟨n62, t62, nu62, hv62, e62, hO62, hc62, hN62⟩ := hQ62
    subst hv62 hc62
    refine be_ia (k := 15) (C := C) (Z := (zR Z 14 (B.pb) (nI n45))) (n := X.2) (q := rqT t62 nu62 st (nI B.du)) (i := B.pb) (x := nI n62) dX9_newPebble_65 (fun _ => rfl) (show B.pb < zn 15 from by show B.pb < 30; omega) hm48 H F ?_
    intro σ m65 hm65 H F
    refine w_aload_n dX9_newPebble_66 rfl ?_
    refine be_get (f := 16) (C := C) (Z := (zR (zR Z 14 (B.pb) (nI n45)) 15 (B.pb) (nI n62))) (n := X.2) (q := rqT t62 nu62 st (nI B.du)) (v := .ref (od C 8 19)) dX9_newPebble_67 (by decide) q345 hm65 H rfl ?_
    refine w_iload_n dX9_newPebble_70 rfl ?_
    refine w_aload_n dX9_newPebble_71 rfl ?_
    refine w_ldcS (i := 16) rfl rfl rfl dX9_newPebble_72 ?_
    refine w_iconst (v := nI 0) dX9_newPebble_74 ki_0 ?_
    refine w_aload_n dX9_newPebble_75 rfl ?_
    refine be_get (f := 1) (C := C) (Z := (zR (zR Z 14 (B.pb) (nI n45)) 15 (B.pb) (nI n62))) (n := X.2) (q := rqT t62 nu62 st (nI B.du)) (v := .int (nI (vs B.W 3))) dX9_newPebble_76 (by decide) q296 hm65 H (congrArg (fun x => some (Value.int x)) a1) ?_
    refine cx_call (kc := 0) (ks := 0) (As := [_, _, _]) (mi2 := miX9_behind) dX9_newPebble_79 q719 okX9_behind clX9 rfl (z_rd H) (Nat.le_of_ble_eq_true rfl) (z_behind (i := 16) (m9 := 7) (C := C) (m := m65) hx hT hO62 hN62 (by first | assumption | omega) (by first | assumption | omega) rfl (by decide) rfl) rfl H F RFr.rb (fun C2 h => (h.up RFr.sM).of (fun f z => by rw [pP_c h_8]; simp only [e35, e45, e52, e62, z, ob, oe])) rfl rfl (Nat.le_of_ble_eq_true rfl) ?_
    intro v79 σ C79 hQ79 H F
    obtain ⟨n79, t79, nu79, hv79, e79, hO79, hc79, hN79⟩ := hQ79
    subst hv79 hc79
    refine be_ia (k := 16) (C := C) (Z := (zR (zR Z 14 (B.pb) (nI n45)) 15 (B.pb) (nI n62))) (n := X.2) (q := rqT t79 nu79 st (nI B.du)) (i := B.pb) (x := nI n79) dX9_newPebble_82 (fun _ => rfl) (show B.pb < zn 16 from by show B.pb < 30; omega) hm65 H F ?_
    intro σ m82 hm82 H F
    refine w_aload_n dX9_newPebble_83 rfl ?_
    refine w_dup dX9_newPebble_84 rfl ?_
    refine be_get (f := 6) (C := C) (Z := (zR (zR (zR Z 14 (B.pb) (nI n45)) 15 (B.pb) (nI n62)) 16 (B.pb) (nI n79))) (n := X.2) (q := rqT t79 nu79 st (nI B.du)) (v := .int (nI (B.pb))) dX9_newPebble_85 (by decide) q314 hm82 H (congrArg (fun x => some (Value.int x)) a6) ?_
    refine w_iconst (v := nI 1) dX9_newPebble_88 ki_1 ?_
    refine w_iaddN dX9_newPebble_89 ?_
    refine be_put (f := 6) (C := C) (Z := (zR (zR (zR Z 14 (B.pb) (nI n45)) 15 (B.pb) (nI n62)) 16 (B.pb) (nI n79))) (n := X.2) (q := rqT t79 nu79 st (nI B.du)) (v := nI (B.pb + 1)) dX9_newPebble_90 (by decide) q314 rfl rfl rfl hm82 H F rfl ?_
    intro σ m90 hm90 H F
    exact w_vret dX9_newPebble_93 rfl ⟨_, by exact ⟨rfl, bPebble B n45 n62 n79, t79, nu79, _, _, hm90, by rw [pP_c h_8]; simp only [e35, e45, e52, e62, e79, ob, oe], hO79, rfl, hN79, E.addP (wOld_pg hO35 e45).2 (wOld_pg hO52 e62).2 (wN_le e79).2⟩, H, F⟩
  · refine w_aload_n dX9_newPebble_11 rfl ?_
    refine z_get (f := 7) (C := C) (m := m) (q := rqT t nu st (nI B.du)) (v := .ref (od C 0 30)) dX9_newPebble_12 (by decide) q696 H rfl ?_
    refine z_55 (C := C) (m := m) (q := rqT t nu st (nI B.du)) dX9_newPebble_15 rfl hx H ?_
    refine w_bipush (v := nI 6) dX9_newPebble_18 kb_6 ?_
    refine w_aload_n dX9_newPebble_20 rfl ?_
    refine z_get (f := 1) (C := C) (m := m) (q := rqT t nu st (nI B.du)) (v := .int (nI t.fr)) dX9_newPebble_21 (by decide) q689 H rfl ?_
    obtain ⟨fs24, hb24⟩ := z_bad hx H
    refine cp_call (kc := 0) (ks := 0) (As := [_, _]) (mi := miX2_at) dX9_newPebble_24 q783 okX2_at clX2 rfl hb24 (Nat.le_of_ble_eq_true rfl) (z_at (C := C) (m := m) (n := X.2) (q := rqT t nu st (nI B.du)) hx) H F rfl rfl (Nat.le_of_ble_eq_true rfl) ?_
    intro σ C24 hC24 H F
    change C24 = bdS (rdS (sM8 C m) X.2 (rqT t nu st (nI B.du))) (6, t.fr) at hC24
    exact z_throw (C1 := C24) dX9_newPebble_27 rfl hx H F (RFr.bdb hC24) (ET.mkb (pP_0 (by omega) hs1) hC24)
