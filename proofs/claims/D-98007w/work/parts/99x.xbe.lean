/-! X.beach (printed by gen/xbea.py) -/
set_option maxRecDepth 100000
theorem ca_bad : Cond.castable "LastPebble$Bad" "LastPebble$Bad" ∈ lw_tbl := by decide +kernel
theorem BeR.x30 {C C2 : CS} (h : BeR C C2) : od C2 0 30 = od C 0 30 := h.1 0 30 (by omega) (by decide)
/-- the names of the beach of day j -/
def NmC (C : CS) (j : Nat) (B : BS) : Prop := (∀ i, i < vs B.W 1 → zL C (bR C j 7) i = lN (n32 (B.nf i))) ∧ ∀ i, i < vs B.W 2 → zL C (bR C j 8) i = lN (n32 (B.nd i))
/-- the component's tape -/
def TpC (C : CS) (tp : Nat → Nat) : Prop := ∀ k, k < 900 → oA C 0 1 k = b8 (tp k) ∧ tp k < 256
def BeX (g : GG) (C C2 : CS) (V : VS) (q : Nat → Nat) : PR BS → Prop
  | .ok B => BeR C C2 ∧ oM C2 = (fun _ => none) ∧ (∃ b q, EncD g C2 0 (setS B.W 9 b) q) ∧ NmC C2 0 B ∧ OkB B ∧ oP C2 0 = none ∧ oI C2 0 30 2 = nI 0 ∧ oI C2 0 30 3 = nI 0 ∧ oI C2 0 30 4 = -1 ∧ oI C2 0 30 7 = nI 0
  | .error f => BeR C C2 ∧ oM C2 = (fun _ => none) ∧ EncD g C2 0 V q ∧ oP C2 = oP C ∧ oB C2 = oB C ∧ oZ C2 = oZ C ∧ oI C2 0 30 2 = nI 0 ∧ oI C2 0 30 3 = nI f.1 ∧ oI C2 0 30 4 = nI f.2 ∧ oI C2 0 30 7 = nI 9
theorem FzB.nm {g : GG} {C : CS} {j b : Nat} {Z : ZB} {r : Nat → Nat} (h : FzB g (oZ C) b Z r) (hb : oB C j = b) : zL C (bR C j 7) = Z.2.1 ∧ zL C (bR C j 8) = Z.2.2.1 := by
  have r7 : bR C j 7 = r 7 := by
    unfold bR bF
    rw [hb, h.1]
    rfl
  have r8 : bR C j 8 = r 8 := by
    unfold bR bF
    rw [hb, h.1]
    rfl
  rw [r7, r8]
  exact ⟨zL_of h.2.1, zL_of h.2.2.1⟩
theorem opC_v (C : CS) : oI (opC C) 0 30 2 = nI 0 ∧ oI (opC C) 0 30 3 = nI 0 ∧ oI (opC C) 0 30 4 = -1 ∧ oI (opC C) 0 30 7 = nI 0 := by
  unfold opC
  refine ⟨?_, ?_, ?_, ?_⟩
  · rw [oI_ne _ _ (fun _ _ z => by omega), oI_ne _ _ (fun _ _ z => by omega), oI_eq]
  · rw [oI_ne _ _ (fun _ _ z => by omega), oI_eq]
  · rw [oI_eq]
  · rw [oI_ne _ _ (fun _ _ z => by omega), oI_ne _ _ (fun _ _ z => by omega), oI_ne _ _ (fun _ _ z => by omega), oI_eq]
theorem EncD.rfr {g : GG} {C C2 : CS} {j : Nat} {V : VS} {q : Nat → Nat} (E : EncD g C j V q) (h : RFr C C2) : EncD g C2 j V q := E.eq (by rw [h.2.2.2.2.2.1]) h.2.2.2.2.2.2.2.2.2 (funext fun f => h.2.1 3 j f (fun z => absurd z (by decide))) (fun _ _ _ => by rw [h.2.2.1]) (fun d _ => funext fun f => h.2.1 5 _ f (fun z => absurd z (by decide))) (fun _ _ _ _ => ⟨by rw [h.2.2.1], by rw [h.2.2.2.1]⟩)
theorem zb_3 {g : GG} {C2 C3 : CS} (hm2 : oM C2 = zbM g C2 zb0) (ho3 : ∀ i, i ≠ 1 → oM C3 i = oM C2 i ∧ od C3 8 i = od C2 8 i) : oM C3 = zbM g C3 zb0 := by
  funext j
  by_cases hj : j ≠ 2 ∧ (j < 10 ∨ 19 < j)
  · rw [zbM_hi hj]
  · rw [(ho3 j (by omega)).1, hm2]
    rcases show j = 2 ∨ j = 10 ∨ j = 11 ∨ j = 12 ∨ j = 13 ∨ j = 14 ∨ j = 15 ∨ j = 16 ∨ j = 17 ∨ j = 18 ∨ j = 19 by omega with rfl | rfl | rfl | rfl | rfl | rfl | rfl | rfl | rfl | rfl | rfl
    · show some (Sum.inr (6, zbL C2 zb0)) = some (Sum.inr (6, zbL C3 zb0))
      unfold zbL
      rw [(ho3 10 (by decide)).2, (ho3 11 (by decide)).2, (ho3 12 (by decide)).2, (ho3 13 (by decide)).2, (ho3 14 (by decide)).2, (ho3 15 (by decide)).2, (ho3 16 (by decide)).2, (ho3 17 (by decide)).2, (ho3 18 (by decide)).2, (ho3 19 (by decide)).2]
    · rfl
    · rfl
    · rfl
    · rfl
    · rfl
    · rfl
    · rfl
    · rfl
    · rfl
    · rfl
def PbF (i : Nat) : Bool := decide (i = 1 ∨ i = 2 ∨ (10 ≤ i ∧ i ≤ 19))
theorem fz_of {g : GG} {C3 C5 C6 : CS} {Z : ZB} (o5 : od C5 = od C3) (m5 : ∀ i, i ≠ 1 → oM C5 i = zbM g C3 Z i) (hz : ∀ i e, PbF i = true → oM C5 i = some e → oZ C6 (od C5 8 i) = some e) : FzB g (oZ C6) (od C3 8 2) Z (fun k => od C3 8 (k + 3)) := by
  rw [o5] at hz
  refine ⟨hz 2 _ rfl (m5 2 (by decide)), hz 10 _ rfl (m5 10 (by decide)), hz 11 _ rfl (m5 11 (by decide)), fun k h1 h2 => ?_⟩
  rcases show k = 9 ∨ k = 10 ∨ k = 11 ∨ k = 12 ∨ k = 13 ∨ k = 14 ∨ k = 15 ∨ k = 16 by omega with rfl | rfl | rfl | rfl | rfl | rfl | rfl | rfl
  · exact hz 12 _ rfl (m5 12 (by decide))
  · exact hz 13 _ rfl (m5 13 (by decide))
  · exact hz 14 _ rfl (m5 14 (by decide))
  · exact hz 15 _ rfl (m5 15 (by decide))
  · exact hz 16 _ rfl (m5 16 (by decide))
  · exact hz 17 _ rfl (m5 17 (by decide))
  · exact hz 18 _ rfl (m5 18 (by decide))
  · exact hz 19 _ rfl (m5 19 (by decide))
set_option maxHeartbeats 4000000 in
theorem kX0_beach_t {g : GG} {C : CS} {V : VS} {q : Nat → Nat} {p n : Nat} {tp : Nat → Nat} (hx : oO C 0 = true) (h0 : oO C 0 = true) (E : EncD g C 0 V q) (ht : oI C 0 30 2 = nI p) (hp9 : p ≤ 900) (hn : n ≤ p) (hT : TpC C tp) (hM : oM C = fun _ => none) : Cp g miX0_beach 12 72 7843 [.ref (od C 0 30), .int (nI n)] C (some (.int (a_beach (some (pBeach (tp, n)))))) (fun C2 => BeX g C C2 V q (pBeach (tp, n))) := by
  intro σ0 H0
  refine Ct.startW [some (.ref (od C 0 30)), some (.int (nI n)), none] plX0 (h0 := (13, 54, 55, 34)) (hr := []) rfl (Nat.le_of_ble_eq_true rfl) rfl (fun _ => ?_)
  refine w_aload_n dX0_beach_0 rfl ?_
  refine w_iload_n dX0_beach_1 rfl ?_
  refine w_sipush (v := nI 900) dX0_beach_2 ks_900 ?_
  refine cp_call (kc := 72) (ks := 7843) (mi := miX0_opens) dX0_beach_5 q664 okX0_opens clX0 rfl (H0.get (ce_X hx)) (Nat.le_of_ble_eq_true rfl) (kX0_opens_t (C := C) (x := n) (y := 900) hx ht hp9 hn (by omega) (by omega)) H0 (Fr.refl (σ := σ0)) rfl rfl (Nat.le_of_ble_eq_true rfl) ?_
  rintro σ C1 hC1 H F
  have R1 : BeR C C1 := by
    rw [hC1]
    exact BeR.op
  obtain ⟨v2, v3, v4, v7⟩ : oI C1 0 30 2 = nI 0 ∧ oI C1 0 30 3 = nI 0 ∧ oI C1 0 30 4 = -1 ∧ oI C1 0 30 7 = nI 0 := by
    rw [hC1]
    exact opC_v C
  have hx1 : oO C1 0 = true := by
    rw [R1.2.2.2.2.2.2.2.1]
    exact hx
  have hM1 : oM C1 = fun _ => none := by
    rw [hC1]
    exact hM
  have E1 : EncD g C1 0 V q := by
    rw [hC1]
    exact E.eq rfl rfl rfl (fun _ _ _ => rfl) (fun _ _ => rfl) (fun _ _ _ _ => ⟨rfl, rfl⟩)
  have hT1 : TxC C1 (tp, n) := by
    rw [hC1]
    exact ⟨by show n ≤ 900; omega, fun k hk => hT k (by have h : k < n := hk; omega)⟩
  have B1 : oB C1 = oB C ∧ oZ C1 = oZ C ∧ oP C1 = oP C := by
    rw [hC1]
    exact ⟨rfl, rfl, rfl⟩
  clear hC1
  refine w_ifN_ne dX0_beach_8 rfl (by decide) (fun _ => ?_) (fun h => absurd (show _ from h) (by decide))
  refine bea_be (kc := 61) (ks := 7688) hM1 H F dX0_beach_13 dX0_beach_16 dX0_beach_17 rfl (Nat.le_of_ble_eq_true rfl) (Nat.le_of_ble_eq_true rfl) ?_
  intro σ C2 R2 hm2 hl2 H F
  refine w_astore_n dX0_beach_20 rfl (Nat.le_of_ble_eq_true rfl) ls_3_2 ?_
  refine bea_rd (kc := 60) (ks := 7680) H F dX0_beach_21 rfl ?_
  intro σ C3 R3 hc3 ho3 H F
  have R13 := R2.trans R3
  have RB3 : BeR C C3 := R1.trans R13.B
  have hx3 : oO C3 0 = true := by
    rw [R13.2.2.2.2.2.2.2.1]
    exact hx1
  have h03 : oO C3 0 = true := by
    rw [RB3.2.2.2.2.2.2.2.1]
    exact h0
  have hT3 : TxC C3 (tp, n) := ⟨hT1.1, fun k hk => by
    rw [R13.2.2.1]
    exact hT1.2 k hk⟩
  have hm3 := zb_3 hm2 ho3
  refine w_dup dX0_beach_24 rfl ?_
  refine w_aload_n dX0_beach_25 rfl ?_
  refine w_ref RB3.x30 ?_
  refine w_iload_n dX0_beach_26 rfl ?_
  refine w_callI (kc := 60) (ks := 7680) (mc2 := 0) (ms2 := 0) (mi := miX9_init) (As := [.ref (od C3 0 30), .int (nI n)]) (rest := [.ref (od C3 8 1)]) dX0_beach_27 q672 okX9_init (kX9_init (X := (tp, n)) hx3 hT3 hc3 σ H) (Nat.le_of_ble_eq_true rfl) rfl rfl (Nat.le_of_ble_eq_true rfl) ?_ (fun _ _ _ hx => absurd hx id)
  rintro v σ2 ⟨rfl, C4, ⟨nu, hC4, hN⟩, H4, F4⟩
  have F5 := F.trans F4
  have e4 : C4 = rdS (sM8 C3 (oM C3)) n (rqT (tok (tp, n) 0) nu (nI 0) (nI 0)) := hC4
  subst e4
  refine w_aload_n dX0_beach_30 rfl ?_
  refine w_ref (ho3 2 (by decide)).2 ?_
  have hb := b_beach (C := C3) (X := (tp, n)) (t := tok (tp, n) 0) (nu := nu) (m := oM C3) hx3 hT3 (okT_tok _) hN hm3 rfl
  refine w_callV (kc := 60) (ks := 7680) (mc2 := 0) (ms2 := 0) (mi := miX9_beach) (As := [.ref (od C3 8 2)]) (rest := []) dX0_beach_31 q714 okX9_beach clX9 rfl (hb σ2 H4) (Nat.le_of_ble_eq_true rfl) (H4.get ce_rd) rfl rfl (Nat.le_of_ble_eq_true rfl) (fun w σ5 hw => ?_) (fun q9 E9 σ5 hx9 => ?_)
  · obtain ⟨C5, ⟨rfl, B, t2, nu2, Z2, m2, hm5, hr, hC5, EB, OB⟩, H5, F6⟩ := hw
    have o5 : od C5 = od C3 := by
      rw [hC5]
      rfl
    have R5 : R8 C3 C5 := by
      rw [hC5]
      exact ⟨fun _ _ _ => rfl, rfl, rfl, rfl, rfl, rfl, rfl, rfl, rfl, rfl⟩
    have m5 : ∀ i, i ≠ 1 → oM C5 i = zbM g C3 Z2 i := fun i hi => by
      rw [hC5, hm5]
      exact oM_ne (C := sM8 C3 (zbM g C3 Z2)) hi
    refine w_frz PbF H5 (F5.trans F6) ?_
    intro σ C6 R6 hm6 hz6 H F
    have hZ6 := fz_of o5 m5 hz6
    have E6 : EncD g C6 0 V q := ((E1.r8 R13).r8 R5).mono R6
    have RB6 : BeR C C6 := (RB3.trans R5.B).trans R6.B
    have hx6 : oO C6 0 = true := by
      rw [RB6.2.2.2.2.2.2.2.1]
      exact hx
    have h06 : oO C6 0 = true := by
      rw [RB6.2.2.2.2.2.2.2.1]
      exact h0
    have hl6 : oM C6 90 = none := by
      rw [hm6]
      show oM C5 90 = none
      rw [m5 90 (by decide), zbM_hi (by decide), (ho3 90 (by decide)).1]
      exact hl2 90 (by decide) (by decide)
    have vI6 : oI C6 0 30 = oI C1 0 30 := by rw [R6.2.1, R5.2.1, R13.2.1]
    clear hb hC5 H5 H4 hm5
    refine w_aload_n dX0_beach_34 rfl ?_
    refine w_ref RB6.x30 ?_
    refine cr_call (mi := miX0_day) dX0_beach_35 q886 okX0_day clX0 rfl (H.get (ce_X hx6)) (Nat.le_of_ble_eq_true rfl) (kX0_day (C := C6) hx6 h06) H rfl rfl (Nat.le_of_ble_eq_true rfl) ?_
    refine w_aload_n dX0_beach_38 rfl ?_
    refine w_ref (ho3 2 (by decide)).2 ?_
    refine cp_call (kc := 0) (ks := 0) (mi := miX5_begin) dX0_beach_39 q890 okX5_begin clX5 rfl (H.get (ce_day h06)) (Nat.le_of_ble_eq_true rfl) (kX5_begin (C := C6) (j := 0) h06 E6 hZ6 EB OB hl6) H F rfl rfl (Nat.le_of_ble_eq_true rfl) ?_
    rintro σ C7 ⟨⟨q7, E7⟩, S7, b7⟩ H F
    have RB7 : BeR C C7 := RB6.trans S7.Be
    have hx7 : oO C7 0 = true := by
      rw [RB7.2.2.2.2.2.2.2.1]
      exact hx
    have h07 : oO C7 0 = true := by
      rw [RB7.2.2.2.2.2.2.2.1]
      exact h0
    refine w_aload_n dX0_beach_42 rfl ?_
    refine w_ref RB7.x30 ?_
    refine gX0_55 (C := C7) dX0_beach_43 rfl hx7 H ?_
    refine w_null dX0_beach_46 ?_
    refine pX0_222 (C := C7) (j := 0) (x := none) dX0_beach_47 rfl h07 (by omega) H F ?_
    intro σ H F
    have hZ8 : FzB g (oZ (uP C7 0 none)) (od C3 8 2) Z2 (fun k => od C3 8 (k + 3)) := by
      show FzB g (oZ C7) (od C3 8 2) Z2 (fun k => od C3 8 (k + 3))
      rw [S7.2.2.2.2.2.2.2.2.2.2]
      exact hZ6
    refine w_aload_n dX0_beach_50 rfl ?_
    refine w_ref (ho3 2 (by decide)).2 ?_
    refine w_getfN (k := 4) (v := .int (Z2.1 4)) dX0_beach_51 clX6 (by decide) q308 (H.z hZ8.1) rfl ?_
    refine w_topN (n := vs B.W 2) EB.1.2.2.2.2.1 ?_
    refine w_iret dX0_beach_54 rfl ⟨by rw [hr]; rfl, sM8 (uP C7 0 none) (fun _ => none), ?_, H.less (fun _ _ h => by cases h), F⟩
    rw [hr]
    have hnm := FzB.nm (C := sM8 (uP C7 0 none) (fun _ => none)) (j := 0) hZ8 b7
    have vI9 : oI (sM8 (uP C7 0 none) (fun _ => none)) 0 30 = oI C1 0 30 := by
      rw [← vI6]
      exact S7.2.1 0 30 (by omega) (by omega)
    refine ⟨(RB7.trans BeR.P).trans BeR.M, rfl, ⟨_, q7, E7.eq rfl rfl rfl (fun _ _ _ => rfl) (fun _ _ => rfl) (fun _ _ _ _ => ⟨rfl, rfl⟩)⟩, ⟨fun i hi => ?_, fun i hi => ?_⟩, OB, va_up_self (oP C7) 0 none, ?_, ?_, ?_, ?_⟩
    · rw [hnm.1]
      exact EB.2.1 i hi
    · rw [hnm.2]
      exact EB.2.2.1 i hi
    · rw [vI9, v2]
    · rw [vI9, v3]
    · rw [vI9, v4]
    · rw [vI9, v7]
  · obtain ⟨rfl, rfl, C5, ⟨f, hr, hB, b6, b7⟩, H5, F6⟩ := hx9
    have RB5 : BeR C C5 := RB3.trans hB.B
    have hx5 : oO C5 0 = true := by
      rw [RB5.2.2.2.2.2.2.2.1]
      exact hx
    refine t_catch (pre := []) (x := (13, 54, 55, 34)) (suf := []) rfl (fun _ h => absurd h (by simp)) (by decide) (by decide) q183 ca_bad ?_
    refine w_astore_n dX0_beach_55 rfl (Nat.le_of_ble_eq_true rfl) ls_3_2 ?_
    refine w_aload_n dX0_beach_56 rfl ?_
    refine w_ref RB5.x30 ?_
    refine w_aload_n dX0_beach_57 rfl ?_
    refine w_ref (hB.1 0 5 (by decide)) ?_
    refine cp_call (mi := miX0_faulty) dX0_beach_58 q902 okX0_faulty clX0 rfl (H5.get (ce_X hx5)) (Nat.le_of_ble_eq_true rfl) (kX0_faulty (C := C5) hx5) H5 (F5.trans F6) rfl rfl (Nat.le_of_ble_eq_true rfl) ?_
    rintro σ C6 hC6 H F
    refine w_iret dX0_beach_61 rfl ⟨by rw [hr]; rfl, sM8 C6 (fun _ => none), ?_, H.less (fun _ _ h => by cases h), F⟩
    rw [hr]
    have E5 := (E1.r8 R13).rfr hB
    have v25 : oI C5 0 30 2 = nI 0 := by
      rw [hB.2.1 0 30 2 (fun _ z => absurd z (by decide)), R13.2.1]
      exact v2
    rw [hC6]
    refine ⟨(((RB5.trans (BeR.I (Or.inr (Or.inl rfl)))).trans (BeR.I (Or.inr (Or.inr (Or.inl rfl))))).trans (BeR.I (Or.inr (Or.inr (Or.inr rfl))))).trans BeR.M, rfl, E5.eq rfl rfl rfl (fun _ _ _ => rfl) (fun _ _ => rfl) (fun _ _ _ _ => ⟨rfl, rfl⟩), ?_, ?_, ?_, ?_, ?_, ?_, ?_⟩
    · show oP C5 = oP C
      rw [hB.2.2.2.2.2.2.1, R13.2.2.2.2.2.2.1, B1.2.2]
    · show oB C5 = oB C
      rw [hB.2.2.2.2.2.1, R13.2.2.2.2.2.1, B1.1]
    · show oZ C5 = oZ C
      rw [hB.2.2.2.2.2.2.2.2.2, R13.2.2.2.2.2.2.2.2.2, B1.2.1]
    · show oI (uI (uI (uI C5 0 30 3 (oI C5 0 5 6)) 0 30 4 (oI C5 0 5 7)) 0 30 7 (nI 9)) 0 30 2 = _
      rw [oI_ne _ _ (fun _ _ z => by omega), oI_ne _ _ (fun _ _ z => by omega), oI_ne _ _ (fun _ _ z => by omega)]
      exact v25
    · show oI (uI (uI (uI C5 0 30 3 (oI C5 0 5 6)) 0 30 4 (oI C5 0 5 7)) 0 30 7 (nI 9)) 0 30 3 = _
      rw [oI_ne _ _ (fun _ _ z => by omega), oI_ne _ _ (fun _ _ z => by omega), oI_eq]
      exact b6
    · show oI (uI (uI (uI C5 0 30 3 (oI C5 0 5 6)) 0 30 4 (oI C5 0 5 7)) 0 30 7 (nI 9)) 0 30 4 = _
      rw [oI_ne _ _ (fun _ _ z => by omega), oI_eq]
      exact b7
    · show oI (uI (uI (uI C5 0 30 3 (oI C5 0 5 6)) 0 30 4 (oI C5 0 5 7)) 0 30 7 (nI 9)) 0 30 7 = _
      rw [oI_eq]
set_option maxHeartbeats 4000000 in
theorem kX0_beach_f {g : GG} {C : CS} {p : Nat} {x : Int32} (hx : oO C 0 = true) (ht : oI C 0 30 2 = nI p) (hp9 : p ≤ 900) (hno : ¬ inN x (min p 900 + 1)) : Cp g miX0_beach 12 0 0 [.ref (od C 0 30), .int x] C (some (.int (-1))) (fun C2 => C2 = uI C 0 30 7 (nI 1)) := by
  intro σ0 H0
  refine Ct.startW [some (.ref (od C 0 30)), some (.int x), none] plX0 (h0 := (13, 54, 55, 34)) (hr := []) rfl (Nat.le_of_ble_eq_true rfl) rfl (fun _ => ?_)
  refine w_aload_n dX0_beach_0 rfl ?_
  refine w_iload_n dX0_beach_1 rfl ?_
  refine w_sipush (v := nI 900) dX0_beach_2 ks_900 ?_
  refine cp_call (mi := miX0_opens) dX0_beach_5 q664 okX0_opens clX0 rfl (H0.get (ce_X hx)) (Nat.le_of_ble_eq_true rfl) (kX0_opens_f (C := C) (y := 900) hx ht hp9 (by omega) hno) H0 (Fr.refl (σ := σ0)) rfl rfl (Nat.le_of_ble_eq_true rfl) ?_
  rintro σ C1 hC1 H F
  refine w_ifN_ne dX0_beach_8 rfl (by decide) (fun h => absurd (show _ from h) (by decide)) (fun _ => ?_)
  refine w_iconst (v := (-1)) dX0_beach_11 ki_m1 ?_
  exact w_iret dX0_beach_12 rfl ⟨rfl, C1, hC1, H, F⟩
