set_option maxRecDepth 100000
/-! X.best, lateness (printed by gen/rou.py) -/
theorem rdG_B (V : VS) (f t : Nat) : rdG V f t 9 (vt V 0 f) (vt V 3 f) 0 0 0 (fun _ => 0) (0, 0, fun _ => 0) = rdB V f t := by
  have hb : bet (0, 0, fun _ => 0) 0 0 (fun _ => 0) = (1, 0, fun _ => 0) := by
    unfold bet
    rw [if_pos (Or.inl (by decide))]
    simp
  show (if 0 = vt V 2 f then bet (0, 0, fun _ => 0) 0 0 (fun _ => 0) else flp _ (vs V 2) 0 (bet (0, 0, fun _ => 0) 0 0 (fun _ => 0))) = (if 0 = vt V 2 f then (1, 0, fun _ => 0) else flp (vis V f t (fun _ => 0) (fun _ => 0) 0) (vs V 2 - 0) 0 (1, 0, fun _ => 0))
  rw [hb]
  rfl
theorem bet_ge {b : Bst} {w n : Nat} {row : Nat → Nat} : b.1 ≤ (bet b w n row).1 ∧ 1 ≤ (bet b w n row).1 := by
  unfold bet
  split
  · rename_i h
    show b.1 ≤ w + 1 ∧ 1 ≤ w + 1
    omega
  · rename_i h
    omega
theorem flp_ge {G : Nat → Bst → Bst} (h : ∀ k b, b.1 ≤ (G k b).1) : ∀ j k b, b.1 ≤ (flp G j k b).1
  | 0, _, _ => Nat.le_refl _
  | j + 1, k, b => Nat.le_trans (h k b) (flp_ge h j (k + 1) (G k b))
theorem rdG_ge {V : VS} {f t : Nat} : ∀ j c m u n w row b, b.1 ≤ (rdG V f t j c m u n w row b).1
  | 0, _, _, _, _, _, _, _ => Nat.le_refl _
  | j + 1, c, m, u, n, w, row, b => by
    rw [rdG]
    split
    · exact bet_ge.1
    · refine Nat.le_trans bet_ge.1 (flp_ge (fun k b => ?_) _ _ _)
      split
      · exact rdG_ge j _ _ _ _ _ _ _
      · exact Nat.le_refl _
theorem rdB_1 (V : VS) (f t : Nat) : 1 ≤ (rdB V f t).1 := by
  rw [← rdG_B, rdG]
  split
  · exact bet_ge.2
  · refine Nat.le_trans (bet_ge (b := (0, 0, fun _ => 0)) (w := 0) (n := 0) (row := fun _ => 0)).2 (flp_ge (fun k b => ?_) _ _ _)
    split
    · exact rdG_ge _ _ _ _ _ _ _ _
    · exact Nat.le_refl _
/-- but rounds, the round that is told, and the status nothing has changed -/
def RtR (C C2 : CS) : Prop := od C2 = od C ∧ (∀ k j f, ¬ (k = 0 ∧ j = 30 ∧ (f = 7 ∨ f = 16 ∨ f = 17 ∨ f = 18)) → oI C2 k j f = oI C k j f) ∧ (∀ k j, ¬ (k = 0 ∧ (j = 13 ∨ j = 14 ∨ j = 15)) → oA C2 k j = oA C k j) ∧ oN C2 = oN C ∧ oL C2 = oL C ∧ oB C2 = oB C ∧ oP C2 = oP C ∧ oO C2 = oO C ∧ oT C2 = oT C ∧ oM C2 = oM C ∧ oZ C2 = oZ C
section RTR
variable {g : GG} {C C2 C3 : CS} {j : Nat} {V : VS} {q : Nat → Nat}
theorem RtR.trans (h : RtR C C2) (k : RtR C2 C3) : RtR C C3 := by
  obtain ⟨a1, a2, a3, a4, a5, a6, a7, a8, a9, a10, a11⟩ := h
  obtain ⟨b1, b2, b3, b4, b5, b6, b7, b8, b9, b10, b11⟩ := k
  exact ⟨b1.trans a1, fun x y z u => (b2 x y z u).trans (a2 x y z u), fun x y u => (b3 x y u).trans (a3 x y u), b4.trans a4, b5.trans a5, b6.trans a6, b7.trans a7, b8.trans a8, b9.trans a9, b10.trans a10, b11.trans a11⟩
theorem RtR.E (h : RtR C C2) (E : EncD g C j V q) : EncD g C2 j V q := by
  obtain ⟨a1, a2, a3, a4, a5, a6, a7, a8, a9, a10, a11⟩ := h
  exact E.eq (by rw [a6]) a11 (funext fun f => a2 3 j f (by omega)) (fun k h1 h2 => a3 k j (by omega)) (fun d hd => funext fun f => a2 5 _ f (by omega)) (fun k d hk hd => ⟨a3 k _ (by omega), by rw [a4]⟩)
theorem RtR.I {f : Nat} {v : Int32} (hf : f = 7 ∨ f = 16 ∨ f = 17 ∨ f = 18) : RtR C (uI C 0 30 f v) := ⟨rfl, fun k j i h => oI_ne C v (fun x y z => h ⟨x, y, by omega⟩), fun _ _ _ => rfl, rfl, rfl, rfl, rfl, rfl, rfl, rfl, rfl⟩
theorem RtR.F {F : Nat → Int32} : RtR C (uF C 0 15 F) := ⟨rfl, fun _ _ _ _ => rfl, fun k j h => oA_F2 C F (fun x y => h ⟨x, by omega⟩), rfl, rfl, rfl, rfl, rfl, rfl, rfl, rfl⟩
theorem RoR.T (h : RoR C C2) : RtR C C2 := by
  obtain ⟨a1, a2, a3, a4, a5, a6, a7, a8, a9, a10, a11⟩ := h
  exact ⟨a1, fun k j f h => a2 k j f (by omega), fun k j h => a3 k j (by omega), a4, a5, a6, a7, a8, a9, a10, a11⟩
end RTR
def BstX (C C2 : CS) (V : VS) (x : Int32) : Prop := if inN x (vs V 1) then RtR C C2 ∧ oI C2 0 30 7 = nI 0 ∧ oI C2 0 30 18 = nI (rdB V (cl x) (vs V 3)).2.1 ∧ (rdB V (cl x) (vs V 3)).2.1 ≤ 8 ∧ ∀ i, i < (rdB V (cl x) (vs V 3)).2.1 → oA C2 0 15 i = nI ((rdB V (cl x) (vs V 3)).2.2 i) else C2 = uI C 0 30 7 (nI 1)
def LatX (C C2 : CS) (V : VS) (x y : Int32) : Prop := if inN x (vs V 1) ∧ inN y 241 then RtR C C2 ∧ oI C2 0 30 7 = nI 0 ∧ oI C2 0 30 18 = oI C 0 30 18 ∧ oA C2 0 15 = oA C 0 15 else C2 = uI C 0 30 7 (nI 1)
set_option maxHeartbeats 4000000 in
theorem kX0_best {g : GG} {C : CS} {V : VS} {q : Nat → Nat} {x : Int32} (hx : oO C 0 = true) (h0 : oO C 0 = true) (E : EncD g C 0 V q) (K : OkV V) : Cp g miX0_best 14 (0) (0) [.ref (od C 0 30), .int x] C (some (.int (a_bst V x))) (fun C2 => BstX C C2 V x) := by
  refine Cp.start [some (.ref (od C 0 30)), some (.int x)] plX0 rfl (Nat.le_of_ble_eq_true rfl) rfl ?_
  intro σ0 σ H F
  have kb := K.b
  refine w_aload_n dX0_best_0 rfl ?_
  refine w_aload_n dX0_best_1 rfl ?_
  refine w_iload_n dX0_best_2 rfl ?_
  refine cr_call (mi := miX0_isFinder) dX0_best_3 q1027 okX0_isFinder clX0 rfl (H.get (ce_X hx)) (Nat.le_of_ble_eq_true rfl) (kX0_isFinder (C := C) hx h0 E K) H rfl rfl (Nat.le_of_ble_eq_true rfl) ?_
  refine w_ifB_eq dX0_best_6 rfl (fun h_6 => ?_) (fun h_6 => ?_)
  · refine w_iconst (v := nI 1) dX0_best_13 ki_1 ?_
    refine pX0_85 (C := C) dX0_best_14 rfl hx H F ?_
    intro σ H F
    have E := EncD.stH H E
    refine w_aload_n dX0_best_17 rfl ?_
    refine gst_85 dX0_best_18 rfl hx H ?_
    refine w_ifN_le dX0_best_21 rfl (by decide) (fun h_21 => ?_) (fun h_21 => ?_)
    · exact absurd (show _ from h_21) (by decide)
    refine w_iconst (v := (-1)) dX0_best_24 ki_m1 ?_
    exact w_iret dX0_best_25 rfl ⟨by rw [a_bst, if_neg h_6], _, by show BstX C _ V _; rw [BstX, if_neg h_6], H, F⟩
  · have hx_f := h_6
    obtain ⟨f, hf_f, rfl⟩ := inN_of h_6 (by omega)
    have hcl_f : cl (nI f) = f := nI_clamp (by omega)
    have kf_f := K.f hf_f
    refine w_iconst (v := nI 0) dX0_best_9 ki_0 ?_
    refine w_goto dX0_best_10 rfl ?_
    refine pX0_85 (C := C) dX0_best_14 rfl hx H F ?_
    intro σ H F
    have E := EncD.stH H E
    refine w_aload_n dX0_best_17 rfl ?_
    refine gst_85 dX0_best_18 rfl hx H ?_
    refine w_ifN_le dX0_best_21 rfl (by decide) (fun h_21 => ?_) (fun h_21 => ?_)
    rotate_left
    · exact absurd (show _ from h_21) (by decide)
    refine w_aload_n dX0_best_26 rfl ?_
    refine w_iload_n dX0_best_27 rfl ?_
    refine w_aload_n dX0_best_28 rfl ?_
    refine cr_call (mi := miX0_day) dX0_best_29 q886 okX0_day clX0 rfl (H.get (ce_X hx)) (Nat.le_of_ble_eq_true rfl) (kX0_day (C := uI (C) 0 30 7 _) hx h0) H rfl rfl (Nat.le_of_ble_eq_true rfl) ?_
    refine gX0_245 (C := uI (C) 0 30 7 _) dX0_best_32 rfl h0 H ?_
    refine w_topN (E.ti) ?_
    refine cp_call (mi := miX0_bestOf) dX0_best_35 q1245 okX0_bestOf clX0 rfl (H.get (ce_X hx)) (Nat.le_of_ble_eq_true rfl) (kX0_bestOf (C := uI (C) 0 30 7 _) hx h0 E K (by first | assumption | omega) (by omega)) H F rfl rfl (Nat.le_of_ble_eq_true rfl) ?_
    intro σ C35 hC35 H F
    rw [rdG_B] at hC35 ⊢
    obtain ⟨B35, R35⟩ := hC35
    have hx : oO C35 0 = true := by
      rw [R35.o]
      exact hx
    rw [show od C = od C35 from R35.1.symm]
    refine w_pop dX0_best_38 rfl ?_
    refine w_aload_n dX0_best_39 rfl ?_
    refine gX0_66 (C := C35) dX0_best_40 rfl hx H ?_
    refine w_iconst (v := nI 0) dX0_best_43 ki_0 ?_
    refine w_aload_n dX0_best_44 rfl ?_
    refine gX0_69 (C := C35) dX0_best_45 rfl hx H ?_
    refine w_iconst (v := nI 0) dX0_best_48 ki_0 ?_
    refine w_aload_n dX0_best_49 rfl ?_
    refine gX0_379 (C := C35) dX0_best_50 rfl hx H ?_
    refine w_topN B35.2.1 ?_
    have hb8 := B35.2.2.2.1
    refine c_copy (C := C35) (uF C35 0 15 (va_cpy (oA C35 0 14) (oA C35 0 15) 0 0 (rdB V f (vs V 3)).2.1)) (k0 := 0) (j0 := 14) (k := 0) (j := 15) (n0 := 8) (n1 := 8) (n := (rdB V f (vs V 3)).2.1) (f0 := oA C35 0 14) (f1 := oA C35 0 15) dX0_best_53 q649 (ce_r14 hx) (ce_r15 hx) hb8 hb8 (by omega) H F (by decide) rfl rfl ((ce_r15 (C := uF C35 0 15 (va_cpy (oA C35 0 14) (oA C35 0 15) 0 0 (rdB V f (vs V 3)).2.1)) hx).trans (by rw [oA_F])) (fun a b h => ot_XF15 a b h) (Nat.le_of_ble_eq_true rfl) (Nat.le_of_ble_eq_true rfl) ?_
    intro σ H F
    refine w_aload_n dX0_best_56 rfl ?_
    refine w_aload_n dX0_best_57 rfl ?_
    refine gX0_379 (C := uF C35 0 15 (va_cpy (oA C35 0 14) (oA C35 0 15) 0 0 (rdB V f (vs V 3)).2.1)) dX0_best_58 rfl hx H ?_
    refine w_topN (n := (rdB V f (vs V 3)).2.1) B35.2.1 ?_
    refine pX0_391 (C := uF C35 0 15 (va_cpy (oA C35 0 14) (oA C35 0 15) 0 0 (rdB V f (vs V 3)).2.1)) dX0_best_61 rfl hx H F ?_
    intro σ H F
    refine w_aload_n dX0_best_64 rfl ?_
    refine gX0_376 (C := uI (uF C35 0 15 (va_cpy (oA C35 0 14) (oA C35 0 15) 0 0 (rdB V f (vs V 3)).2.1)) 0 30 18 _) dX0_best_65 rfl hx H ?_
    rw [show oI (uI (uF C35 0 15 (va_cpy (oA C35 0 14) (oA C35 0 15) 0 0 (rdB V f (vs V 3)).2.1)) 0 30 18 (nI (rdB V f (vs V 3)).2.1)) 0 30 17 = _ from (oI_ne _ _ (fun _ _ z => by omega)).trans B35.1]
    exact w_iret dX0_best_68 rfl ⟨by rw [a_bst, if_pos hx_f, hcl_f, pk_sub (rdB_1 V f (vs V 3))], _, by show BstX C _ V _; rw [BstX, if_pos hx_f, hcl_f]; exact ⟨(RtR.I (Or.inl rfl)).trans (R35.T.trans (RtR.F.trans (RtR.I (Or.inr (Or.inr (Or.inr rfl)))))), ((oI_ne _ _ (fun _ _ z => by omega)).trans (R35.2.1 0 30 7 (by omega))).trans (oI_eq _ 0 30 7 _), oI_eq _ 0 30 18 _, hb8, fun i hi => by show oA (uF C35 0 15 (va_cpy (oA C35 0 14) (oA C35 0 15) 0 0 (rdB V f (vs V 3)).2.1)) 0 15 i = _; rw [oA_F, ← B35.2.2.2.2 i hi]; unfold va_cpy; rw [if_pos (by omega)]; congr 1; omega⟩, H, F⟩
set_option maxHeartbeats 4000000 in
theorem kX0_lateness {g : GG} {C : CS} {V : VS} {q : Nat → Nat} {x : Int32} {y : Int32} (hx : oO C 0 = true) (h0 : oO C 0 = true) (E : EncD g C 0 V q) (K : OkV V) : Cp g miX0_lateness 14 (0) (0) [.ref (od C 0 30), .int x, .int y] C (some (.int (a_lat V x y))) (fun C2 => LatX C C2 V x y) := by
  refine Cp.start [some (.ref (od C 0 30)), some (.int x), some (.int y), none] plX0 rfl (Nat.le_of_ble_eq_true rfl) rfl ?_
  intro σ0 σ H F
  have kb := K.b
  refine w_aload_n dX0_lateness_0 rfl ?_
  refine w_aload_n dX0_lateness_1 rfl ?_
  refine w_iload_n dX0_lateness_2 rfl ?_
  refine cr_call (mi := miX0_isFinder) dX0_lateness_3 q1027 okX0_isFinder clX0 rfl (H.get (ce_X hx)) (Nat.le_of_ble_eq_true rfl) (kX0_isFinder (C := C) hx h0 E K) H rfl rfl (Nat.le_of_ble_eq_true rfl) ?_
  refine w_ifB_eq dX0_lateness_6 rfl (fun h_6 => ?_) (fun h_6 => ?_)
  · refine w_iconst (v := nI 1) dX0_lateness_25 ki_1 ?_
    refine pX0_85 (C := C) dX0_lateness_26 rfl hx H F ?_
    intro σ H F
    have E := EncD.stH H E
    refine w_aload_n dX0_lateness_29 rfl ?_
    refine gst_85 dX0_lateness_30 rfl hx H ?_
    refine w_ifN_le dX0_lateness_33 rfl (by decide) (fun h_33 => ?_) (fun h_33 => ?_)
    · exact absurd (show _ from h_33) (by decide)
    refine w_iconst (v := (-1)) dX0_lateness_36 ki_m1 ?_
    exact w_iret dX0_lateness_37 rfl ⟨by rw [a_lat, if_neg (fun z => h_6 z.1)], _, by show LatX C _ V _ _; rw [LatX, if_neg (fun z => h_6 z.1)], H, F⟩
  · have hx_f := h_6
    obtain ⟨f, hf_f, rfl⟩ := inN_of h_6 (by omega)
    have hcl_f : cl (nI f) = f := nI_clamp (by omega)
    have kf_f := K.f hf_f
    refine w_iload_n dX0_lateness_9 rfl ?_
    refine w_i2l dX0_lateness_10 rfl ?_
    refine w_lconst (v := 0) dX0_lateness_11 rfl ?_
    refine w_ldc2 dX0_lateness_12 q1064 ?_
    refine cs_call (mi := miX0_isIn) dX0_lateness_15 q1016 okX0_isIn (Nat.le_of_ble_eq_true rfl) (kX0_isIn0 (m := 240) (by first | assumption | omega)) rfl rfl (Nat.le_of_ble_eq_true rfl) ?_
    refine w_ifB_eq dX0_lateness_18 rfl (fun h_18 => ?_) (fun h_18 => ?_)
    · refine w_iconst (v := nI 1) dX0_lateness_25 ki_1 ?_
      refine pX0_85 (C := C) dX0_lateness_26 rfl hx H F ?_
      intro σ H F
      have E := EncD.stH H E
      refine w_aload_n dX0_lateness_29 rfl ?_
      refine gst_85 dX0_lateness_30 rfl hx H ?_
      refine w_ifN_le dX0_lateness_33 rfl (by decide) (fun h_33 => ?_) (fun h_33 => ?_)
      · exact absurd (show _ from h_33) (by decide)
      refine w_iconst (v := (-1)) dX0_lateness_36 ki_m1 ?_
      exact w_iret dX0_lateness_37 rfl ⟨by rw [a_lat, if_neg (fun z => h_18 z.2)], _, by show LatX C _ V _ _; rw [LatX, if_neg (fun z => h_18 z.2)], H, F⟩
    · have hx_m := h_18
      obtain ⟨m, hf_m, rfl⟩ := inN_of h_18 (by omega)
      have hcl_m : cl (nI m) = m := nI_clamp (by omega)
      refine w_iconst (v := nI 0) dX0_lateness_21 ki_0 ?_
      refine w_goto dX0_lateness_22 rfl ?_
      refine pX0_85 (C := C) dX0_lateness_26 rfl hx H F ?_
      intro σ H F
      have E := EncD.stH H E
      refine w_aload_n dX0_lateness_29 rfl ?_
      refine gst_85 dX0_lateness_30 rfl hx H ?_
      refine w_ifN_le dX0_lateness_33 rfl (by decide) (fun h_33 => ?_) (fun h_33 => ?_)
      rotate_left
      · exact absurd (show _ from h_33) (by decide)
      refine w_aload_n dX0_lateness_38 rfl ?_
      refine w_iload_n dX0_lateness_39 rfl ?_
      refine w_aload_n dX0_lateness_40 rfl ?_
      refine cr_call (mi := miX0_day) dX0_lateness_41 q886 okX0_day clX0 rfl (H.get (ce_X hx)) (Nat.le_of_ble_eq_true rfl) (kX0_day (C := uI (C) 0 30 7 _) hx h0) H rfl rfl (Nat.le_of_ble_eq_true rfl) ?_
      refine gX0_245 (C := uI (C) 0 30 7 _) dX0_lateness_44 rfl h0 H ?_
      refine w_topN (E.ti) ?_
      refine cp_call (mi := miX0_bestOf) dX0_lateness_47 q1245 okX0_bestOf clX0 rfl (H.get (ce_X hx)) (Nat.le_of_ble_eq_true rfl) (kX0_bestOf (C := uI (C) 0 30 7 _) hx h0 E K (by first | assumption | omega) (by omega)) H F rfl rfl (Nat.le_of_ble_eq_true rfl) ?_
      intro σ C47 hC47 H F
      rw [rdG_B] at hC47 ⊢
      obtain ⟨B47, R47⟩ := hC47
      have hx : oO C47 0 = true := by
        rw [R47.o]
        exact hx
      have h0 : oO C47 0 = true := by
        rw [R47.o]
        exact h0
      have E : EncD g C47 0 V q := R47.E E
      rw [show od C = od C47 from R47.1.symm]
      refine w_istore_n dX0_lateness_50 rfl (Nat.le_of_ble_eq_true rfl) ls_4_3 ?_
      refine w_aload_n dX0_lateness_51 rfl ?_
      refine w_iload_n dX0_lateness_52 rfl ?_
      refine w_aload_n dX0_lateness_53 rfl ?_
      refine cr_call (mi := miX0_day) dX0_lateness_54 q886 okX0_day clX0 rfl (H.get (ce_X hx)) (Nat.le_of_ble_eq_true rfl) (kX0_day (C := C47) hx h0) H rfl rfl (Nat.le_of_ble_eq_true rfl) ?_
      refine gX0_245 (C := C47) dX0_lateness_57 rfl h0 H ?_
      refine w_topN (E.ti) ?_
      refine w_iload_n dX0_lateness_60 rfl ?_
      refine w_iaddN dX0_lateness_61 ?_
      refine cp_call (mi := miX0_bestOf) dX0_lateness_62 q1245 okX0_bestOf clX0 rfl (H.get (ce_X hx)) (Nat.le_of_ble_eq_true rfl) (kX0_bestOf (C := C47) hx h0 E K (by first | assumption | omega) (by omega)) H F rfl rfl (Nat.le_of_ble_eq_true rfl) ?_
      intro σ C62 hC62 H F
      rw [rdG_B] at hC62 ⊢
      obtain ⟨B62, R62⟩ := hC62
      refine w_iload_n dX0_lateness_65 rfl ?_
      refine w_isub dX0_lateness_66 ?_
      exact w_iret dX0_lateness_67 rfl ⟨by rw [a_lat, if_pos ⟨hx_f, hx_m⟩, hcl_f, hcl_m, pk_sub (rdB_1 V f _), pk_sub (rdB_1 V f _)], _, by show LatX C _ V _ _; rw [LatX, if_pos ⟨hx_f, hx_m⟩]; exact ⟨(RtR.I (Or.inl rfl)).trans (R47.T.trans R62.T), ((R62.2.1 0 30 7 (by omega)).trans (R47.2.1 0 30 7 (by omega))).trans (oI_eq _ 0 30 7 _), ((R62.2.1 0 30 18 (by omega)).trans (R47.2.1 0 30 18 (by omega))).trans (oI_ne _ _ (fun _ _ z => by omega)), ((R62.2.2.1 0 15 (by omega)).trans (R47.2.2.1 0 15 (by omega)))⟩, H, F⟩
