/-! X.mean whole (printed by gen/mean2.py) -/
set_option maxRecDepth 100000
def mnP (V : VS) (x y z : Int32) : Prop := inN x (vs V 1) ∧ inN y 10000 ∧ inN z 21 ∧ z ≠ nI 0 ∧ cl y + cl z ≤ 10000
set_option maxHeartbeats 4000000 in
theorem mean_go {g : GG} {C : CS} {σ σ0 : PH} {V : VS} {q : Nat → Nat} {x y z : Int32} {mc ms kc ks : Nat} {v : Option Value} {Q : CS → Prop} (hx : oO C 0 = true) (h0 : oO C 0 = true) (E : EncD g C 0 V q) (K : OkV V) (H : Hold g σ C) (hno : ¬ mnP V x y z → Wp g (mtC g miX0_mean 36 mc ms σ0 v Q) kc ks 38 [some (.ref (od C 0 30)), some (.int x), some (.int y), some (.int z), none, none, none] [.ref (od C 0 30)] σ) (hyes : mnP V x y z → Wp g (mtC g miX0_mean 36 mc ms σ0 v Q) kc ks 42 [some (.ref (od C 0 30)), some (.int x), some (.int y), some (.int z), none, none, none] [.ref (od C 0 30)] σ) : Wp g (mtC g miX0_mean 36 mc ms σ0 v Q) kc ks 0 [some (.ref (od C 0 30)), some (.int x), some (.int y), some (.int z), none, none, none] [] σ := by
  have kb := K.b
  refine w_aload_n dX0_mean_0 rfl ?_
  refine w_aload_n dX0_mean_1 rfl ?_
  refine w_iload_n dX0_mean_2 rfl ?_
  refine cr_call (mi := miX0_isFinder) dX0_mean_3 q1027 okX0_isFinder clX0 rfl (H.get (ce_X hx)) (Nat.le_of_ble_eq_true rfl) (kX0_isFinder (C := C) hx h0 E K) H rfl rfl (Nat.le_of_ble_eq_true rfl) ?_
  refine w_ifB_eq dX0_mean_6 rfl (fun h6 => ?_) (fun h6 => ?_)
  · exact hno (fun z => h6 z.1)
  refine w_iload_n dX0_mean_9 rfl ?_
  refine w_i2l dX0_mean_10 rfl ?_
  refine w_lconst (v := 1) dX0_mean_11 rfl ?_
  refine w_ldc2 dX0_mean_12 q1528 ?_
  refine cs_call (mi := miX0_isIn) dX0_mean_15 q1016 okX0_isIn (Nat.le_of_ble_eq_true rfl) (kX0_isIn1 (m := 20) (by omega)) rfl rfl (Nat.le_of_ble_eq_true rfl) ?_
  refine w_ifB_eq dX0_mean_18 rfl (fun h18 => ?_) (fun h18 => ?_)
  · exact hno (fun z => h18 ⟨z.2.2.1, z.2.2.2.1⟩)
  obtain ⟨m, hm, rfl⟩ := inN_of h18.1 (by omega)
  have hm0 : m ≠ 0 := fun z => h18.2 (by rw [z])
  have hcm : cl (nI m) = m := nI_clamp (by omega)
  refine w_iload_n dX0_mean_21 rfl ?_
  refine w_i2l dX0_mean_22 rfl ?_
  refine w_lconst (v := 0) dX0_mean_23 rfl ?_
  refine w_sipush (v := nI 9999) dX0_mean_24 ks_9999 ?_
  refine w_iload_n dX0_mean_27 rfl ?_
  refine w_isubN dX0_mean_28 (by omega) ?_
  refine w_iconst (v := nI 1) dX0_mean_29 ki_1 ?_
  refine w_iaddN dX0_mean_30 ?_
  refine w_i2l dX0_mean_31 (nI_l (by omega)) ?_
  refine cs_call (mi := miX0_isIn) dX0_mean_32 q1016 okX0_isIn (Nat.le_of_ble_eq_true rfl) (kX0_isIn0 (m := 9999 - m + 1) (by omega)) rfl rfl (Nat.le_of_ble_eq_true rfl) ?_
  refine w_ifB_ne dX0_mean_35 rfl (fun h35 => ?_) (fun h35 => ?_)
  · obtain ⟨s, hs, rfl⟩ := inN_of h35 (by omega)
    have hcs : cl (nI s) = s := nI_clamp (by omega)
    exact hyes ⟨h6, inN_nI (by omega) (by omega), h18.1, h18.2, by rw [hcs, hcm]; omega⟩
  · refine hno (fun z => h35 ?_)
    obtain ⟨z1, z2, z3, z4, z5⟩ := z
    obtain ⟨s, hs, rfl⟩ := inN_of z2 (by omega)
    have hcs : cl (nI s) = s := nI_clamp (by omega)
    rw [hcs, hcm] at z5
    exact inN_nI (by omega) (by omega)
set_option maxHeartbeats 4000000 in
theorem kX0_mean_a {g : GG} {C : CS} {V : VS} {q : Nat → Nat} {P : PG} {x y z : Int32} (hx : oO C 0 = true) (h0 : oO C 0 = true) (E : EncD g C 0 V q) (K : OkV V) (hno : ¬ mnP V x y z) : Cp g miX0_mean 36 (0) (0) [.ref (od C 0 30), .int x, .int y, .int z] C (some (.int (nI 0))) (fun C2 => C2 = uI C 0 30 7 (nI (w_mean V P x y z))) := by
  refine Cp.start [some (.ref (od C 0 30)), some (.int x), some (.int y), some (.int z), none, none, none] plX0 rfl (Nat.le_of_ble_eq_true rfl) rfl ?_
  intro σ0 σ H F
  refine mean_go hx h0 E K H (fun _ => ?_) (fun h => absurd h hno)
  have hw : w_mean V P x y z = 1 := if_neg hno
  rw [hw]
  refine w_iconst (v := nI 1) dX0_mean_38 ki_1 ?_
  refine w_goto dX0_mean_39 rfl ?_
  refine pX0_85 (C := C) dX0_mean_58 rfl hx H F ?_
  intro σ H F
  refine w_aload_n dX0_mean_61 rfl ?_
  refine gst_85 dX0_mean_62 rfl hx H ?_
  refine w_ifN_le dX0_mean_65 rfl (by decide) (fun h => absurd (show _ from h) (by decide)) (fun _ => ?_)
  refine w_iconst (v := nI 0) dX0_mean_68 ki_0 ?_
  exact w_zret dX0_mean_69 rfl narr0 ⟨rfl, _, rfl, H, F⟩
set_option maxHeartbeats 4000000 in
theorem kX0_mean_b {g : GG} {C : CS} {V : VS} {q : Nat → Nat} {P : PG} {x y z : Int32} (hx : oO C 0 = true) (h0 : oO C 0 = true) (E : EncD g C 0 V q) (K : OkV V) (hyes : mnP V x y z) (hp : pn P = 0) (hP : oP C 0 = none) : Cp g miX0_mean 36 (0) (0) [.ref (od C 0 30), .int x, .int y, .int z] C (some (.int (nI 0))) (fun C2 => C2 = uI C 0 30 7 (nI (w_mean V P x y z))) := by
  refine Cp.start [some (.ref (od C 0 30)), some (.int x), some (.int y), some (.int z), none, none, none] plX0 rfl (Nat.le_of_ble_eq_true rfl) rfl ?_
  intro σ0 σ H F
  refine mean_go hx h0 E K H (fun h => absurd hyes h) (fun _ => ?_)
  have hw : w_mean V P x y z = 6 := (if_pos hyes).trans (if_pos hp)
  rw [hw]
  refine w_aload_n dX0_mean_42 rfl ?_
  refine gX0_55 (C := C) dX0_mean_43 rfl hx H ?_
  refine gX0_222 (C := C) dX0_mean_46 rfl h0 (by omega) H ?_
  rw [hP]
  refine w_ifnonnullN dX0_mean_49 ?_
  refine w_bipush (v := nI 6) dX0_mean_52 kb_6 ?_
  refine w_goto dX0_mean_54 rfl ?_
  refine pX0_85 (C := C) dX0_mean_58 rfl hx H F ?_
  intro σ H F
  refine w_aload_n dX0_mean_61 rfl ?_
  refine gst_85 dX0_mean_62 rfl hx H ?_
  refine w_ifN_le dX0_mean_65 rfl (by decide) (fun h => absurd (show _ from h) (by decide)) (fun _ => ?_)
  refine w_iconst (v := nI 0) dX0_mean_68 ki_0 ?_
  exact w_zret dX0_mean_69 rfl narr0 ⟨rfl, _, rfl, H, F⟩
set_option maxHeartbeats 4000000 in
theorem kX0_mean_c {g : GG} {C : CS} {V : VS} {q : Nat → Nat} {P : PG} {lo : Nat → Nat} {pa f seed many : Nat}  (hx : oO C 0 = true) (h0 : oO C 0 = true) (E : EncD g C 0 V q) (K : OkV V) (h4 : oO C 4 = true) (E4 : ∃ W p, EncD g C 4 W p) (hk : KepV V) (O : OkP (vs V 0) (vs V 1) (vs V 2) P) (hp0 : 0 < pn P) (hP : oP C 0 = some pa) (hD : DaysZ g (oZ C) P pa) (hl : oM C 90 = none) (hl3 : oM C 3 = none) (hf : f < vs V 1) (hm1 : 0 < many) (hm2 : many ≤ 20) (hs : seed + many ≤ 10000) : Cp g miX0_mean 36 (many * 257) (many * 2953) [.ref (od C 0 30), .int (nI f), .int (nI seed), .int (nI many)] C (some (.int (nI 1))) (fun C2 => MeX g C C2 (mnV V P f seed lo many).2 many) := by
  refine Cp.start [some (.ref (od C 0 30)), some (.int (nI f)), some (.int (nI seed)), some (.int (nI many)), none, none, none] plX0 rfl (Nat.le_of_ble_eq_true rfl) rfl ?_
  intro σ0 σ H F
  have kb := K.b
  have hcs : cl (nI seed) = seed := nI_clamp (by omega)
  have hcm : cl (nI many) = many := nI_clamp (by omega)
  have hyes : mnP V (nI f) (nI seed) (nI many) := ⟨inN_nI hf (by omega), inN_nI (by omega) (by omega), inN_nI (by omega) (by omega), fun z => absurd ((nI_eq (by omega) (by omega)).mp z) (by omega), by rw [hcs, hcm]; exact hs⟩
  refine mean_go hx h0 E K H (fun h => absurd hyes h) (fun _ => ?_)
  refine w_aload_n dX0_mean_42 rfl ?_
  refine gX0_55 (C := C) dX0_mean_43 rfl hx H ?_
  refine gX0_222 (C := C) dX0_mean_46 rfl h0 (by omega) H ?_
  rw [hP]
  refine w_ifnonnull dX0_mean_49 rfl ?_
  refine w_iconst (v := nI 0) dX0_mean_57 ki_0 ?_
  refine pX0_85 (C := C) dX0_mean_58 rfl hx H F ?_
  intro σ H F
  refine w_aload_n dX0_mean_61 rfl ?_
  refine gst_85 dX0_mean_62 rfl hx H ?_
  refine w_ifN_le dX0_mean_65 rfl (by decide) (fun _ => ?_) (fun h => absurd (show _ from h) (by decide))
  have Es : EncD g (uI C 0 30 7 (nI 0)) 0 V q := EncD.stH H E
  obtain ⟨W, p, E4⟩ := E4
  exact mean_run (C := uI C 0 30 7 (nI 0)) (Cb := C) (lo := lo) hx h0 h4 Es ⟨W, p, EncD.stH H E4⟩ K hk O hp0 hP hD hl hl3 (oI_eq C 0 30 7 _) hf hm1 hm2 hs (LiR.I (Or.inl rfl)) (fun f hf => oI_ne C _ (fun _ _ z => hf z)) rfl rfl H F
