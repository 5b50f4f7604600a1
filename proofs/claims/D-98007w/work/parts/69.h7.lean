set_option maxRecDepth 100000
section CPY
variable {g : GG} {mt : MT} {kc ks pc : Nat} {L : List (Option Value)} {st rest : List Value} {σ σ0 : PH} {C : CS} {i : Nat}
theorem c_copy {index k0 j0 k j n0 n1 n : Nat} {f0 f1 : Nat → Int32} (C2 : CS) (d : decode mt.1.2.1 pc = .ok (.invokestatic index, 3)) (q1 : Cond.methodLink mt.1.1 index arraycopyName ∈ lw_all) (hc0 : ceC g C k0 j0 = some (.inl (g.2.2.2 0, n0, .inl f0))) (hc1 : ceC g C k j = some (.inl (g.2.2.2 0, n1, .inl f1))) (hn0 : n ≤ n0) (hn1 : n ≤ n1) (hb : n < 1000) (H : Hold g σ C) (F : Fr σ0 σ) (h9 : k ≠ 9 ∧ k < 20) (hd : od C2 = od C) (hz : oZ C2 = oZ C) (he : ceC g C2 k j = some (.inl (g.2.2.2 0, n1, .inl (va_cpy f0 f1 0 0 n)))) (ho : ∀ a b, (a = k → b = j → False) → ceC g C2 a b = ceC g C a b) (hdd : 1 ≤ mt.2.1.1) (hcat : (rest.map fun v => v.category).sum ≤ 8) (kk : ∀ σ, Hold g σ C2 → Fr σ0 σ → Wp g mt kc ks (pc + 3) L rest σ) : Wp g mt kc ks pc L (.int (nI n) :: .int (nI 0) :: .ref (od C k j) :: .int (nI 0) :: .ref (od C k0 j0) :: rest) σ := by
  have e9 : (nI n).toNatClampNeg = n := nI_clamp (by omega)
  have e8 : (nI 0).toNatClampNeg = 0 := nI_clamp (by omega)
  refine w_copyI (k := 0) (ty := .int) d q1 q651 q650 q150 rfl rfl (H.get hc0) (H.get hc1) (nI_pos (by omega)) (nI_pos (by omega)) (nI_pos (by omega)) (by rw [e9, e8]; omega) (by rw [e9, e8]; omega) (fun _ _ => fits_int _) hdd hcat ?_
  rw [e9, e8]
  exact kk _ (H.set hc1 h9.1 hd hz he ho) (F.hup h9.2 (H.get hc1))
theorem growN6 {m : Nat} (d2 : decode mt.1.2.1 pc = .ok (.newarray .int, 2)) (d3 : decode mt.1.2.1 (pc + 2) = .ok (.putfield 9, 3)) (ho : mt.1.1 = RX7) (hi : oO C (i / 8) = true) (hm : m ≤ 64) (H : Hold g σ C) (F : Fr σ0 σ) (kk : ∀ (a : Nat) (e : va_E) (σ : PH), Hold g σ (gwC (nwC C 90 a e) 6 i m fun _ => 0) → Fr σ0 σ → Wp g mt kc ks (pc + 2 + 3) L rest σ) : Wp g mt (kc + 1) (ks + m) pc L (.int (nI m) :: .ref (od C 5 i) :: rest) σ := by
  refine c_newI 90 d2 (by omega) H F ?_
  intro a σ H F
  have h := c_grow6 (C := nwC C 90 a (.inl (g.2.2.2 0, m, .inl fun _ => 0))) (m := m) (f := fun _ => 0) (kc := kc) (ks := ks) (L := L) (st := rest) d3 ho hi H F (nw_ce (g := g)) (fun σ H F => kk a _ σ H F)
  rw [nw_od] at h
  exact h
theorem growN7 {m : Nat} (d2 : decode mt.1.2.1 pc = .ok (.newarray .int, 2)) (d3 : decode mt.1.2.1 (pc + 2) = .ok (.putfield 15, 3)) (ho : mt.1.1 = RX7) (hi : oO C (i / 8) = true) (hm : m ≤ 64) (H : Hold g σ C) (F : Fr σ0 σ) (kk : ∀ (a : Nat) (e : va_E) (σ : PH), Hold g σ (gwC (nwC C 90 a e) 7 i m fun _ => 0) → Fr σ0 σ → Wp g mt kc ks (pc + 2 + 3) L rest σ) : Wp g mt (kc + 1) (ks + m) pc L (.int (nI m) :: .ref (od C 5 i) :: rest) σ := by
  refine c_newI 90 d2 (by omega) H F ?_
  intro a σ H F
  have h := c_grow7 (C := nwC C 90 a (.inl (g.2.2.2 0, m, .inl fun _ => 0))) (m := m) (f := fun _ => 0) (kc := kc) (ks := ks) (L := L) (st := rest) d3 ho hi H F (nw_ce (g := g)) (fun σ H F => kk a _ σ H F)
  rw [nw_od] at h
  exact h
theorem gwn_5 {k a i2 m : Nat} {e : va_E} {f : Nat → Int32} (hk : k = 6 ∨ k = 7) : od (gwC (nwC C 90 a e) k i m f) 5 i2 = od C 5 i2 := (gw_ne (C := nwC C 90 a e) (by omega)).trans (nw_ne (by omega))
theorem SH.gwn {k a m : Nat} {e : va_E} {f : Nat → Int32} (hk : k = 6 ∨ k = 7) (hl : oM C 90 = none) : SH i C (gwC (nwC C 90 a e) k i m f) := by
  refine ⟨fun x b h h8 => ?_, fun _ _ _ => rfl, fun x b h => ?_, fun x b h => ?_, rfl, rfl, rfl, rfl, rfl, ?_, rfl⟩
  · exact (gw_ne (C := nwC C 90 a e) (fun u v => h ⟨by omega, v⟩)).trans (nw_ne (fun u v => h8 ⟨u, by omega⟩))
  · exact gw_A2 (C := nwC C 90 a e) (fun u v => h ⟨by omega, v⟩)
  · exact gw_N2 (C := nwC C 90 a e) (fun u v => h ⟨by omega, v⟩)
  · funext b
    by_cases h : b = 90
    · subst h; rw [hl]; show va_up (va_up (oM C) 90 (some e)) 90 none 90 = _; exact va_up_self _ _ _
    · show va_up (va_up (oM C) 90 (some e)) 90 none b = _
      rw [va_up_ne _ _ h, va_up_ne _ _ h]
end CPY
theorem be_enc {C1 : CS} {i i2 n2 c c1 c2 : Nat} {who2 tim2 : Nat → Nat} (h6 : oN C1 6 i = c1) (h7 : oN C1 7 i = c1) (hp : capO c1) (hnc : n2 ≤ c1) (Eo : EncH C1 i2 n2 who2 tim2 c2) (hne : i2 ≠ i) (hcc : c1 = (if c < n2 then c2 else c)) : EncH (uI (uF (uF C1 6 i (va_cpy (oA C1 6 i2) (oA C1 6 i) 0 0 n2)) 7 i (va_cpy (oA (uF C1 6 i (va_cpy (oA C1 6 i2) (oA C1 6 i) 0 0 n2)) 7 i2) (oA (uF C1 6 i (va_cpy (oA C1 6 i2) (oA C1 6 i) 0 0 n2)) 7 i) 0 0 n2)) 5 i 2 (nI n2)) i n2 who2 tim2 (if c < n2 then c2 else c) := by
  rw [← hcc]
  refine ⟨oI_eq _ 5 i 2 (nI n2), hnc, hp, h6, h7, fun b hb => ?_⟩
  have e6 : oA (uI (uF (uF C1 6 i (va_cpy (oA C1 6 i2) (oA C1 6 i) 0 0 n2)) 7 i (va_cpy (oA (uF C1 6 i (va_cpy (oA C1 6 i2) (oA C1 6 i) 0 0 n2)) 7 i2) (oA (uF C1 6 i (va_cpy (oA C1 6 i2) (oA C1 6 i) 0 0 n2)) 7 i) 0 0 n2)) 5 i 2 (nI n2)) 6 i = va_cpy (oA C1 6 i2) (oA C1 6 i) 0 0 n2 := (oA_F2 (uF C1 6 i (va_cpy (oA C1 6 i2) (oA C1 6 i) 0 0 n2)) _ (by omega)).trans (oA_F C1 6 i _)
  have e7 : oA (uI (uF (uF C1 6 i (va_cpy (oA C1 6 i2) (oA C1 6 i) 0 0 n2)) 7 i (va_cpy (oA (uF C1 6 i (va_cpy (oA C1 6 i2) (oA C1 6 i) 0 0 n2)) 7 i2) (oA (uF C1 6 i (va_cpy (oA C1 6 i2) (oA C1 6 i) 0 0 n2)) 7 i) 0 0 n2)) 5 i 2 (nI n2)) 7 i = va_cpy (oA (uF C1 6 i (va_cpy (oA C1 6 i2) (oA C1 6 i) 0 0 n2)) 7 i2) (oA (uF C1 6 i (va_cpy (oA C1 6 i2) (oA C1 6 i) 0 0 n2)) 7 i) 0 0 n2 := oA_F (uF C1 6 i (va_cpy (oA C1 6 i2) (oA C1 6 i) 0 0 n2)) 7 i _
  have e8 : oA (uF C1 6 i (va_cpy (oA C1 6 i2) (oA C1 6 i) 0 0 n2)) 7 i2 = oA C1 7 i2 := oA_F2 C1 _ (by omega)
  rw [e6, e7, e8]
  unfold va_cpy
  rw [if_pos (by omega), if_pos (by omega), show 0 + (b - 0) = b by omega]
  exact ⟨Eo.w hb, Eo.m hb⟩
set_option maxHeartbeats 4000000 in
theorem be_tail {g : GG} {σ0 σ : PH} {C C1 : CS} {i i2 n2 c c1 c2 : Nat} {who2 tim2 : Nat → Nat} (h6 : oN C1 6 i = c1) (h7 : oN C1 7 i = c1) (hp : capO c1) (hnc : n2 ≤ c1) (hne : i2 ≠ i) (Eo : EncH C1 i2 n2 who2 tim2 c2) (hcc : c1 = (if c < n2 then c2 else c)) (hS : SH i C C1) (H : Hold g σ C1) (F : Fr σ0 σ) (hi : oO C1 (i / 8) = true) (hi2 : oO C1 (i2 / 8) = true) : Wp g (mtC g miX7_be 1 (if c < n2 then 2 else 0) (if c < n2 then 2 * c2 else 0) σ0 none (fun C2 => EncH C2 i n2 who2 tim2 (if c < n2 then c2 else c) ∧ SH i C C2)) 0 0 34 [some (.ref (od C1 5 i)), some (.ref (od C1 5 i2))] [] σ := by
  have hc9 := Eo.cap
  have hn6 := Eo.l6
  have hn7 := Eo.l7
  have hp64 := capO_le hp
  refine w_aload_n dX7_be_34 rfl ?_
  refine gX7_9 (C := C1) dX7_be_35 rfl hi2 H ?_
  refine w_iconst (v := nI 0) dX7_be_38 ki_0 ?_
  refine w_aload_n dX7_be_39 rfl ?_
  refine gX7_9 (C := C1) dX7_be_40 rfl hi H ?_
  refine w_iconst (v := nI 0) dX7_be_43 ki_0 ?_
  refine w_aload_n dX7_be_44 rfl ?_
  refine gX7_18 (C := C1) dX7_be_45 rfl hi2 H ?_
  refine w_topN Eo.sz ?_
  refine c_copy (uF (C1) 6 i (va_cpy (oA (C1) 6 i2) (oA (C1) 6 i) 0 0 n2)) dX7_be_48 q901 (ce_who (C := C1) hi2) (ce_who (C := C1) hi) (show n2 ≤ oN C1 6 i2 by omega) (show n2 ≤ oN C1 6 i by omega) (by omega) H F (by decide) rfl rfl (by rw [ce_who (C := uF (C1) 6 i _) hi, oA_F]; rfl) ot_F6 (Nat.le_of_ble_eq_true rfl) (Nat.le_of_ble_eq_true rfl) ?_
  intro σ H F
  refine w_aload_n dX7_be_51 rfl ?_
  refine gX7_15 (C := uF C1 6 i (va_cpy (oA C1 6 i2) (oA C1 6 i) 0 0 n2)) dX7_be_52 rfl hi2 H ?_
  refine w_iconst (v := nI 0) dX7_be_55 ki_0 ?_
  refine w_aload_n dX7_be_56 rfl ?_
  refine gX7_15 (C := uF C1 6 i (va_cpy (oA C1 6 i2) (oA C1 6 i) 0 0 n2)) dX7_be_57 rfl hi H ?_
  refine w_iconst (v := nI 0) dX7_be_60 ki_0 ?_
  refine w_aload_n dX7_be_61 rfl ?_
  refine gX7_18 (C := uF C1 6 i (va_cpy (oA C1 6 i2) (oA C1 6 i) 0 0 n2)) dX7_be_62 rfl hi2 H ?_
  refine w_topN Eo.sz ?_
  refine c_copy (uF (uF C1 6 i (va_cpy (oA C1 6 i2) (oA C1 6 i) 0 0 n2)) 7 i (va_cpy (oA (uF C1 6 i (va_cpy (oA C1 6 i2) (oA C1 6 i) 0 0 n2)) 7 i2) (oA (uF C1 6 i (va_cpy (oA C1 6 i2) (oA C1 6 i) 0 0 n2)) 7 i) 0 0 n2)) dX7_be_65 q901 (ce_tim (C := uF C1 6 i (va_cpy (oA C1 6 i2) (oA C1 6 i) 0 0 n2)) hi2) (ce_tim (C := uF C1 6 i (va_cpy (oA C1 6 i2) (oA C1 6 i) 0 0 n2)) hi) (show n2 ≤ oN C1 7 i2 by omega) (show n2 ≤ oN C1 7 i by omega) (by omega) H F (by decide) rfl rfl (by rw [ce_tim (C := uF (uF C1 6 i (va_cpy (oA C1 6 i2) (oA C1 6 i) 0 0 n2)) 7 i _) hi, oA_F]; rfl) ot_F7 (Nat.le_of_ble_eq_true rfl) (Nat.le_of_ble_eq_true rfl) ?_
  intro σ H F
  refine w_aload_n dX7_be_68 rfl ?_
  refine w_aload_n dX7_be_69 rfl ?_
  refine gX7_18 (C := uF (uF C1 6 i (va_cpy (oA C1 6 i2) (oA C1 6 i) 0 0 n2)) 7 i (va_cpy (oA (uF C1 6 i (va_cpy (oA C1 6 i2) (oA C1 6 i) 0 0 n2)) 7 i2) (oA (uF C1 6 i (va_cpy (oA C1 6 i2) (oA C1 6 i) 0 0 n2)) 7 i) 0 0 n2)) dX7_be_70 rfl hi2 H ?_
  refine w_topN Eo.sz ?_
  refine pX7_18 (C := uF (uF C1 6 i (va_cpy (oA C1 6 i2) (oA C1 6 i) 0 0 n2)) 7 i (va_cpy (oA (uF C1 6 i (va_cpy (oA C1 6 i2) (oA C1 6 i) 0 0 n2)) 7 i2) (oA (uF C1 6 i (va_cpy (oA C1 6 i2) (oA C1 6 i) 0 0 n2)) 7 i) 0 0 n2)) dX7_be_73 rfl hi H F ?_
  intro σ H F
  exact w_vret dX7_be_76 rfl ⟨by rfl, _, by exact ⟨be_enc h6 h7 hp hnc Eo hne hcc, hS.trans (SH.F6.trans (SH.F7.trans SH.I))⟩, H, F⟩
set_option maxHeartbeats 4000000 in
theorem kX7_be {g : GG} {C : CS} {i n c : Nat} {who tim : Nat → Nat} {i2 n2 c2 : Nat} {who2 tim2 : Nat → Nat} (hi : oO C (i / 8) = true) (Eh : EncH C i n who tim c) (hi2 : oO C (i2 / 8) = true) (Eo : EncH C i2 n2 who2 tim2 c2) (hne : i2 ≠ i) (hl : oM C 90 = none) : Cp g miX7_be 1 (if c < n2 then 2 else 0) (if c < n2 then 2 * c2 else 0) [.ref (od C 5 i), .ref (od C 5 i2)] C (none) (fun C2 => EncH C2 i n2 who2 tim2 (if c < n2 then c2 else c) ∧ SH i C C2) := by
  refine Cp.start [some (.ref (od C 5 i)), some (.ref (od C 5 i2))] plX7 rfl (Nat.le_of_ble_eq_true rfl) rfl ?_
  intro σ0 σ H F
  have hc9 := Eh.cap
  have hc8 := Eo.cap
  refine w_aload_n dX7_be_0 rfl ?_
  refine gX7_9 (C := C) dX7_be_1 rfl hi H ?_
  refine w_alen (k := 0) dX7_be_4 (H.get (ce_who hi)) rfl ?_
  refine w_topN (congrArg nI Eh.l6) ?_
  refine w_aload_n dX7_be_5 rfl ?_
  refine gX7_18 (C := C) dX7_be_6 rfl hi2 H ?_
  refine w_topN Eo.sz ?_
  refine w_icmpN_ge dX7_be_9 rfl (by omega) (by omega) (fun h_9 => ?_) (fun h_9 => ?_)
  · refine w_bud (kc2 := 0) (ks2 := 0) (Nat.zero_le _) (Nat.zero_le _) ?_
    exact be_tail Eh.l6 Eh.l7 Eh.2.2.1 (by omega) hne Eo (if_neg (by omega)).symm SH.refl H F hi hi2
  · have h_9 : c < n2 := by omega
    refine w_bud (kc2 := 0 + 1 + 1) (ks2 := 0 + c2 + c2) (by rw [if_pos h_9]; exact Nat.le_refl 2) (by rw [if_pos h_9]; omega) ?_
    refine w_aload_n dX7_be_12 rfl ?_
    refine w_aload_n dX7_be_13 rfl ?_
    refine gX7_9 (C := C) dX7_be_14 rfl hi2 H ?_
    refine w_alen (k := 0) dX7_be_17 (H.get (ce_who hi2)) rfl ?_
    refine w_topN (congrArg nI Eo.l6) ?_
    refine growN6 dX7_be_18 dX7_be_20 rfl hi (by omega) H F ?_
    intro a18 e18 σ H F
    have hS1 : SH i C (gwC (nwC C 90 a18 e18) 6 i c2 fun _ => 0) := SH.gwn (Or.inl rfl) hl
    have hN6 : oN (gwC (nwC C 90 a18 e18) 6 i c2 fun _ => 0) 6 i = c2 := gw_oN
    have hN7 : oN (gwC (nwC C 90 a18 e18) 6 i c2 fun _ => 0) 7 i = oN C 7 i := gw_N2 (by omega)
    have hM9 : oM (gwC (nwC C 90 a18 e18) 6 i c2 fun _ => 0) 90 = none := gw_M.1
    have hr1 : od C 5 i = od (gwC (nwC C 90 a18 e18) 6 i c2 fun _ => 0) 5 i := (gwn_5 (Or.inl rfl)).symm
    have hr2 : od C 5 i2 = od (gwC (nwC C 90 a18 e18) 6 i c2 fun _ => 0) 5 i2 := (gwn_5 (Or.inl rfl)).symm
    generalize (gwC (nwC C 90 a18 e18) 6 i c2 fun _ => 0) = C9 at H hS1 hN6 hN7 hM9 hr1 hr2
    rw [hr1, hr2]
    have hi9 : oO C9 (i / 8) = true := by rw [hS1.on]; exact hi
    have hi29 : oO C9 (i2 / 8) = true := by rw [hS1.on]; exact hi2
    have Eo9 := Eo.sh hS1 hne
    refine w_aload_n dX7_be_23 rfl ?_
    refine w_aload_n dX7_be_24 rfl ?_
    refine gX7_9 (C := C9) dX7_be_25 rfl hi29 H ?_
    refine w_alen (k := 0) dX7_be_28 (H.get (ce_who hi29)) rfl ?_
    refine w_topN (congrArg nI Eo9.l6) ?_
    refine growN7 dX7_be_29 dX7_be_31 rfl hi9 (by omega) H F ?_
    intro a28 e28 σ H F
    rw [show od C9 5 i = od (gwC (nwC C9 90 a28 e28) 7 i c2 fun _ => 0) 5 i from (gwn_5 (Or.inr rfl)).symm, show od C9 5 i2 = od (gwC (nwC C9 90 a28 e28) 7 i c2 fun _ => 0) 5 i2 from (gwn_5 (Or.inr rfl)).symm]
    have hS2 : SH i C9 (gwC (nwC C9 90 a28 e28) 7 i c2 fun _ => 0) := SH.gwn (Or.inr rfl) hM9
    exact be_tail ((gw_N2 (by omega)).trans hN6) gw_oN Eo.2.2.1 (by omega) hne (Eo9.sh hS2 hne) (if_pos h_9).symm (hS1.trans hS2) H F hi9 hi29
