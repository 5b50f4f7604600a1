/-! X.days, where the text can be read (printed by gen/xday.py) -/
set_option maxRecDepth 100000
/-- a block is made: its object at u, its row at v -/
theorem n_blk {g : GG} {mt : MT} {kc ks pc : Nat} {L : List (Option Value)} {σ σ0 : PH} {C : CS} {u v ci d2 n9 idx : Nat} {mi : MI} {x : va_E} {vs As rest stk : List Value} (huv : u ≠ v) (hc : oM C u = some x) (H : Hold g σ C) (F : Fr σ0 σ) (dd : decode mt.1.2.1 pc = .ok (.invokespecial idx, 3)) (ql : Cond.methodLink mt.1.1 idx mi.1 ∈ lw_all) (ok : MOkI mi n9) (hM : Ck g mi d2 1 4 As x (fun z => .inr (ci, .ref (z + 0) :: .int 0 :: vs)) (fun _ => [((8, v), .inl (g.2.2.2 7, 4, .inr (.inr (.inr (.inr fun _ => none)))))])) (hd : d2 + 1 ≤ mt.2.1.1) (hna : As.length = n9) (hst : stk = As.reverse ++ .ref (od C 8 u) :: rest) (hcat : (rest.map fun v => v.category).sum ≤ 8)
    (kk : ∀ (σ : PH) (C2 : CS), R9 C C2 → Lk (fun j => j ≠ u ∧ j ≠ v) C C2 → od C2 8 u = od C 8 u → oZ C2 = oZ C → BkL g C2 u v ci 0 4 vs (fun _ => none) → Hold g σ C2 → Fr σ0 σ → Wp g mt kc ks (pc + 3) L rest σ) : Wp g mt (kc + 1) (ks + 4) pc L stk σ := by
  have hc1 : σ.2 (od C 8 u) = some ((8, u), x) := H.gm (i := u) hc
  have hlt := H.lt hc1
  refine w_callI (kc := kc) (ks := ks) (mc2 := 1) (ms2 := 4) (mi := mi) (As := As) (rest := rest) dd ql ok (hM σ (od C 8 u) (8, u) H.1 hc1) hd hna hst hcat ?_ (fun _ _ _ hx => absurd hx id)
  rintro w σ2 ⟨rfl, rfl⟩
  rw [rw_1 H.1 hlt]
  have h1 := H.nw v (.inl (g.2.2.2 7, 4, .inr (.inr (.inr (.inr fun _ => none)))))
  have f1 := F.hnew (t := (8, v)) (e := .inl (g.2.2.2 7, 4, .inr (.inr (.inr (.inr fun _ => none))))) H.1
  obtain ⟨C2, hC2⟩ : ∃ C2 : CS, C2 = nwC C v σ.1 (.inl (g.2.2.2 7, 4, .inr (.inr (.inr (.inr fun _ => none))))) := ⟨_, rfl⟩
  have hu2 : oM C2 u = some x := by rw [hC2]; exact (oM_ne huv).trans hc
  have hv2 : oM C2 v = some (.inl (g.2.2.2 7, 4, .inr (.inr (.inr (.inr fun _ => none))))) := by rw [hC2]; exact oM_eq
  have du2 : od C2 8 u = od C 8 u := by rw [hC2]; exact nw_ne (fun _ z => huv z)
  have dv2 : od C2 8 v = σ.1 := by rw [hC2]; exact nw_od
  have r2 : R9 C C2 := by rw [hC2]; exact R9.nw v σ.1 _
  have l2 : Lk (fun j => j ≠ u ∧ j ≠ v) C C2 := by rw [hC2]; exact Lk.nw (fun z => z.2 rfl)
  have z2 : oZ C2 = oZ C := by rw [hC2]; rfl
  rw [← hC2] at h1
  clear hC2
  have h2 := h1.m (e2 := .inr (ci, .ref (σ.1 + 0) :: .int 0 :: vs)) hu2
  have f2 := f1.hup (t2 := (8, u)) (e2 := .inr (ci, .ref (σ.1 + 0) :: .int 0 :: vs)) (by show 8 < 20; decide) (h1.gm hu2)
  rw [du2] at h2 f2
  refine kk _ (uM C2 u (some (.inr (ci, .ref (σ.1 + 0) :: .int 0 :: vs)))) (r2.trans (R9.M u _)) (l2.trans (Lk.M (fun z => z.1 rfl))) du2 z2 ⟨?_, (oM_ne (fun z => huv z.symm)).trans hv2, Nat.zero_le _, Or.inl rfl⟩ h2 f2
  rw [oM_eq]
  show some (Sum.inr (ci, Value.ref (σ.1 + 0) :: Value.int 0 :: vs)) = some (Sum.inr (ci, Value.ref (od C2 8 v) :: Value.int (nI 0) :: vs))
  rw [dv2]
  rfl
/-- the beach of day 0, its cells and names -/
def hsV (V : VS) (nf nd : Nat → List Nat) : HS := (vs V 0, vs V 1, vs V 2, nf, nd)
def NmJ (C : CS) (j : Nat) (V : VS) (nf nd : Nat → List Nat) : Prop := (∀ i, i < vs V 1 → zL C (bR C j 7) i = lN (n32 (nf i))) ∧ ∀ i, i < vs V 2 → zL C (bR C j 8) i = lN (n32 (nd i))
theorem EncD.bf {g : GG} {C : CS} {j : Nat} {V : VS} {q : Nat → Nat} {nf nd : Nat → List Nat} (E : EncD g C j V q) (N : NmJ C j V nf nd) (O : OkH (hsV V nf nd)) : BeF g C (oB C j) (hsV V nf nd) :=
  ⟨encB C j, bR C j 7, bR C j 8, zL C (bR C j 7), zL C (bR C j 8), E.1.1, by rw [show (hsV V nf nd).nc = vs V 0 from rfl, ← E.b0]; rfl, by rw [show (hsV V nf nd).cf = vs V 1 from rfl, ← E.b3]; rfl, by rw [show (hsV V nf nd).cd = vs V 2 from rfl, ← E.b4]; rfl, rfl, rfl, E.1.2.1, E.1.2.2.1, N.1, N.2, O⟩
theorem R9.B {C C2 : CS} (h : R9 C C2) : BeR C C2 := by
  obtain ⟨a1, a2, a3, a4, a5, a6, a7, a8, a9, a10⟩ := h
  exact ⟨fun k a _ hk => a1 k a hk, fun k a f _ _ _ _ => by rw [a2], fun k a _ _ => by rw [a3], fun k a _ => by rw [a4], a5, fun a _ => by rw [a6], fun a _ => by rw [a7], a8, a9, a10⟩
theorem RY.B {C C2 : CS} (h : RY C C2) : BeR C C2 := by
  obtain ⟨a1, a2, a3, a4, a5, a6, a7, a8, a9, a10⟩ := h
  exact ⟨fun k a _ hk => a1 k a hk, fun k a f _ _ _ h => a2 k a f (fun x y => h ⟨x, y⟩), fun k a _ _ => by rw [a3], fun k a _ => by rw [a4], a5, fun a _ => by rw [a6], fun a _ => by rw [a7], a8, a9, a10⟩
theorem EncD.ry {g : GG} {C C2 : CS} {j : Nat} {V : VS} {q : Nat → Nat} (E : EncD g C j V q) (h : RY C C2) : EncD g C2 j V q := by
  obtain ⟨a1, a2, a3, a4, a5, a6, a7, a8, a9, a10⟩ := h
  have E1 : EncD g (sMZ C (oM C2) (oZ C2)) j V q := E.mono ⟨rfl, rfl, rfl, rfl, rfl, rfl, rfl, rfl, rfl, a10⟩
  exact E1.eq (by rw [a6]; rfl) rfl (funext fun f => a2 3 j f (fun z => absurd z (by decide))) (fun _ _ _ => by rw [a3]; rfl) (fun d _ => funext fun f => a2 5 _ f (fun z => absurd z (by decide))) (fun _ _ _ _ => ⟨by rw [a3]; rfl, by rw [a4]; rfl⟩)
/-- what a call of days comes to -/
def DaX (g : GG) (C C2 : CS) (V : VS) (q : Nat → Nat) (Hs : HS) : PR DS → Prop
  | .ok D => BeR C C2 ∧ oM C2 = (fun _ => none) ∧ EncD g C2 0 V q ∧ (∃ pa, oP C2 0 = some pa ∧ DaysZ g (oZ C2) (pgD D) pa) ∧ oB C2 = oB C ∧ OkD Hs D ∧ D.op = [] ∧ oI C2 0 30 2 = nI 0 ∧ oI C2 0 30 3 = nI 0 ∧ oI C2 0 30 4 = -1 ∧ oI C2 0 30 7 = nI 0
  | .error f => BeR C C2 ∧ oM C2 = (fun _ => none) ∧ EncD g C2 0 V q ∧ oP C2 = oP C ∧ oB C2 = oB C ∧ oI C2 0 30 2 = nI 0 ∧ oI C2 0 30 3 = nI f.1 ∧ oI C2 0 30 4 = nI f.2 ∧ oI C2 0 30 7 = nI 9
set_option maxHeartbeats 4000000 in
theorem kX0_days_t {g : GG} {C : CS} {V : VS} {q : Nat → Nat} {p n : Nat} {tp : Nat → Nat} {nf nd : Nat → List Nat} (hx : oO C 0 = true) (h0 : oO C 0 = true) (E : EncD g C 0 V q) (ht : oI C 0 30 2 = nI p) (hp9 : p ≤ 900) (hn : n ≤ p) (hn3 : n ≤ 300) (hT : TpC C tp) (hM : oM C = fun _ => none) (N : NmJ C 0 V nf nd) (O : OkH (hsV V nf nd)) : Cp g miX0_days 20 93 1455 [.ref (od C 0 30), .int (nI n)] C (some (.int (a_days (some (pDays (tp, n) (hsV V nf nd)))))) (fun C2 => DaX g C C2 V q (hsV V nf nd) (pDays (tp, n) (hsV V nf nd))) := by
  intro σ0 H0
  refine Ct.startW [some (.ref (od C 0 30)), some (.int (nI n)), none, none] plX0 (h0 := (13, 53, 54, 34)) (hr := []) rfl (Nat.le_of_ble_eq_true rfl) rfl (fun _ => ?_)
  refine w_aload_n dX0_days_0 rfl ?_
  refine w_iload_n dX0_days_1 rfl ?_
  refine w_sipush (v := nI 300) dX0_days_2 ks_300 ?_
  refine cp_call (kc := 93) (ks := 1455) (mi := miX0_opens) dX0_days_5 q664 okX0_opens clX0 rfl (H0.get (ce_X hx)) (Nat.le_of_ble_eq_true rfl) (kX0_opens_t (C := C) (x := n) (y := 300) hx ht hp9 hn hn3 (by omega)) H0 (Fr.refl (σ := σ0)) rfl rfl (Nat.le_of_ble_eq_true rfl) ?_
  rintro σ C1 hC1 H F
  have R1 : BeR C C1 := by
    rw [hC1]
    exact BeR.op
  obtain ⟨v2, v3, v4, v7⟩ : oI C1 0 30 2 = nI 0 ∧ oI C1 0 30 3 = nI 0 ∧ oI C1 0 30 4 = -1 ∧ oI C1 0 30 7 = nI 0 := by
    rw [hC1]
    exact opC_v C
  have hx1 : oO C1 0 = true := by
    rw [R1.2.2.2.2.2.2.2.1]
    exact hx
  have E1 : EncD g C1 0 V q := by
    rw [hC1]
    exact E.eq rfl rfl rfl (fun _ _ _ => rfl) (fun _ _ => rfl) (fun _ _ _ _ => ⟨rfl, rfl⟩)
  have N1 : NmJ C1 0 V nf nd := by
    rw [hC1]
    exact N
  have hT1 : TxC C1 (tp, n) := by
    rw [hC1]
    exact ⟨by show n ≤ 900; omega, fun k hk => hT k (by have h : k < n := hk; omega)⟩
  have B1 : oB C1 = oB C ∧ oP C1 = oP C := by
    rw [hC1]
    exact ⟨rfl, rfl⟩
  clear hC1
  refine w_ifN_ne dX0_days_8 rfl (by decide) (fun _ => ?_) (fun h => absurd (show _ from h) (by decide))
  refine w_new (kc := 92) (ks := 1452) [.null, .int 0, .int 0] (8, 20) dX0_days_13 clX12 q910 q911 q158 dfX12 ?_
  have H2 := H.nw 20 (.inr (10, [.null, .int 0, .int 0]))
  have F2 := F.hnew (t := (8, 20)) (e := .inr (10, [.null, .int 0, .int 0])) H.1
  obtain ⟨C2, hC2⟩ : ∃ X, X = nwC C1 20 σ.1 (.inr (10, [.null, .int 0, .int 0])) := ⟨_, rfl⟩
  have R2 : R9 C1 C2 := by
    rw [hC2]
    exact R9.nw _ _ _
  have m2 : oM C2 20 = some (.inr (10, [.null, .int 0, .int 0])) := by
    rw [hC2]
    exact oM_eq
  have d2 : od C2 8 20 = σ.1 := by
    rw [hC2]
    exact nw_od
  rw [← hC2] at H2
  clear hC2 H F
  generalize hnew σ (8, 20) (.inr (10, [.null, .int 0, .int 0])) = σ2 at *
  refine w_dup dX0_days_16 rfl ?_
  refine w_iconst (v := nI 1) dX0_days_17 ki_1 ?_
  rw [← d2]
  refine n_blk (kc := 91) (ks := 1448) (C := C2) (u := 20) (v := 30) (mi := miX12_init) (As := [.int (nI 1)]) (rest := [.ref (od C2 8 20)]) (by decide) m2 H2 F2 dX0_days_18 q912 okX12_init (iX12_init (u7 := (8, 30))) (Nat.le_of_ble_eq_true rfl) rfl rfl (Nat.le_of_ble_eq_true rfl) ?_
  intro σ C3 R3 l3 d3 z3 b3 H F
  refine w_astore_n dX0_days_21 rfl (Nat.le_of_ble_eq_true rfl) ls_4_2 ?_
  refine bea_rd (kc := 90) (ks := 1440) H F dX0_days_22 rfl ?_
  intro σ C4 R4 hc4 ho4 H F
  have R14 : R9 C1 C4 := (R2.trans R3).trans R4.R9
  have RB4 : BeR C C4 := R1.trans R14.B
  have hx4 : oO C4 0 = true := R14.x hx1
  have h04 : oO C4 0 = true := by
    rw [RB4.2.2.2.2.2.2.2.1]
    exact h0
  have hT4 : TxC C4 (tp, n) := R14.T hT1
  have d4 : od C4 8 20 = od C2 8 20 := ((ho4 20 (by decide)).2).trans d3
  have b4 : BkL g C4 20 30 10 0 4 [.int (nI 1)] (fun _ => none) := b3.keep (S := fun i => i ≠ 1) (fun i hi => ho4 i hi) (by decide) (by decide)
  have bB4 : oB C4 0 = oB C1 0 := by rw [R14.2.2.2.2.2.1]
  have E4 : EncD g C4 0 V q := E1.ry R14.Y
  have hB4 : BeF g C4 (oB C4 0) (hsV V nf nd) := by
    rw [bB4]
    exact (E1.bf N1 O).r9 R14
  refine w_dup dX0_days_25 rfl ?_
  refine w_aload_n dX0_days_26 rfl ?_
  refine w_ref RB4.x30 ?_
  refine w_iload_n dX0_days_27 rfl ?_
  refine w_callI (kc := 90) (ks := 1440) (mc2 := 0) (ms2 := 0) (mi := miX9_init) (As := [.ref (od C4 0 30), .int (nI n)]) (rest := [.ref (od C4 8 1)]) dX0_days_28 q672 okX9_init (kX9_init (X := (tp, n)) hx4 hT4 hc4 σ H) (Nat.le_of_ble_eq_true rfl) rfl rfl (Nat.le_of_ble_eq_true rfl) ?_ (fun _ _ _ hx => absurd hx id)
  rintro v σ5 ⟨rfl, C5, ⟨nu, hC5, hN⟩, H5, F5⟩
  have F6 := F.trans F5
  have e5 : C5 = rdS C4 n (rqT (tok (tp, n) 0) nu (nI 0) (nI 0)) := hC5
  subst e5
  refine w_astore_n dX0_days_31 rfl (Nat.le_of_ble_eq_true rfl) ls_4_3 ?_
  refine w_aload_n dX0_days_32 rfl ?_
  refine w_aload_n dX0_days_33 rfl ?_
  refine w_ref (show od (rdS C4 n (rqT (tok (tp, n) 0) nu (nI 0) (nI 0))) 0 30 = _ from RB4.x30) ?_
  refine cr_call (mi := miX0_beach_2) dX0_days_34 q934 okX0_beach_2 clX0 rfl (H5.get (ce_X hx4)) (Nat.le_of_ble_eq_true rfl) (kX0_beach (C := rdS C4 n (rqT (tok (tp, n) 0) nu (nI 0) (nI 0))) hx4 h04) H5 rfl rfl (Nat.le_of_ble_eq_true rfl) ?_
  refine w_aload_n dX0_days_37 rfl ?_
  refine w_ref d4 ?_
  have hb := y_days (C := C4) (X := (tp, n)) (t := tok (tp, n) 0) (nu := nu) (du := nI 0) hx4 hT4 hN hB4 rfl b4
  refine w_callV (kc := 0) (ks := 0) (mc2 := 90) (ms2 := 1440) (mi := miX9_days) (As := [.ref (oB C4 0), .ref (od C4 8 20)]) (rest := []) dX0_days_38 q938 okX9_days clX9 rfl (hb σ5 H5) (Nat.le_of_ble_eq_true rfl) (H5.get ce_rd) rfl rfl (Nat.le_of_ble_eq_true rfl) (fun w σ7 hw => ?_) (fun q9 E9 σ7 hx9 => ?_)
  · obtain ⟨C6, ⟨rfl, C7, D7, t7, nu7, k7, cap7, f7, hr, hC6, R7, l7, d17, d27, b7, hk7, op7, O7, bl7⟩, H6, F7⟩ := hw
    subst hC6
    refine y_frz (C := C7) (n := n) (q := rqT t7 nu7 (nI D7.ct) (nI 0)) (fun i => i == 20 || i == 30) (by decide) H6 (F6.trans F7) ?_
    intro σ C8 R8' d8 l8 z8 H F
    have za := z8 20 _ (by decide) b7.1
    have zb := z8 30 _ (by decide) b7.2.1
    have R48 := R7.trans R8'
    have RB8 : BeR C C8 := RB4.trans R48.B
    have R18 := R14.trans R48
    have hx8 : oO C8 0 = true := R48.x hx4
    have h08 : oO C8 0 = true := R48.x h04
    have hk30 := O7.2.1
    have hkc7 := b7.2.2.1
    have hcp7 := b7.2.2.2
    have dz : DaysZ g (oZ C8) (pgD D7) (od C7 8 20) := by
      refine ⟨od C7 8 30, k7, za, ⟨cap7, f7, zb, hkc7, by omega, by omega, ?_⟩, (pDays_nst hB4.ok hr).2.2⟩
      exact Bld.mono (fun _ _ _ => rfl) R8'.2.2.2.2.2.2.2.2.2 bl7
    refine w_aload_n dX0_days_41 rfl ?_
    refine w_ref (show od (rdS C8 n (rqT t7 nu7 (nI D7.ct) (nI 0))) 0 30 = _ from RB8.x30) ?_
    refine gX0_55 (C := rdS C8 n (rqT t7 nu7 (nI D7.ct) (nI 0))) dX0_days_42 rfl hx8 H ?_
    refine w_aload_n dX0_days_45 rfl ?_
    refine w_ref (d27.trans d4) ?_
    refine pX0_222 (C := rdS C8 n (rqT t7 nu7 (nI D7.ct) (nI 0))) (j := 0) (x := some (od C7 8 20)) dX0_days_46 rfl h08 (by omega) H F ?_
    intro σ H F
    have d18 : od C8 8 1 = od C4 8 1 := (congrFun (congrFun d8 8) 1).trans d17
    refine w_aload_n dX0_days_49 rfl ?_
    refine w_ref d18 ?_
    refine w_getfN (k := 5) (v := .int (nI D7.ct)) dX0_days_50 clX9 (by decide) q694 (H.gm (i := 1) (show oM (uP (rdS C8 n (rqT t7 nu7 (nI D7.ct) (nI 0))) 0 (some (od C7 8 20))) 1 = some (.inr (9, rdL C8 n (rqT t7 nu7 (nI D7.ct) (nI 0)))) from va_up_self (oM C8) 1 _)) rfl ?_
    have vI : oI C8 0 30 = oI C1 0 30 := by rw [R18.2.1]
    refine w_iret dX0_days_53 rfl ⟨by rw [hr]; rfl, sM8 (uP (rdS C8 n (rqT t7 nu7 (nI D7.ct) (nI 0))) 0 (some (od C7 8 20))) (fun _ => none), ?_, H.less (fun _ _ h => by cases h), F⟩
    rw [hr]
    refine ⟨((RB8.trans (R9.rd (n := n) (q := rqT t7 nu7 (nI D7.ct) (nI 0))).B).trans BeR.P).trans BeR.M, rfl, ?_, ⟨od C7 8 20, va_up_self (oP C8) 0 _, dz⟩, ?_, O7, op7, ?_, ?_, ?_, ?_⟩
    · exact (E4.ry R48.Y).eq rfl rfl rfl (fun _ _ _ => rfl) (fun _ _ => rfl) (fun _ _ _ _ => ⟨rfl, rfl⟩)
    · show oB C8 = oB C
      rw [R18.2.2.2.2.2.1, B1.1]
    · show oI C8 0 30 2 = _
      rw [vI, v2]
    · show oI C8 0 30 3 = _
      rw [vI, v3]
    · show oI C8 0 30 4 = _
      rw [vI, v4]
    · show oI C8 0 30 7 = _
      rw [vI, v7]
  · obtain ⟨rfl, rfl, C6, ⟨f, hr, hB, b6, b7⟩, H6, F7⟩ := hx9
    have RB6 : BeR C C6 := RB4.trans hB.B
    have hx6 : oO C6 0 = true := by
      rw [RB6.2.2.2.2.2.2.2.1]
      exact hx
    refine t_catch (pre := []) (x := (13, 53, 54, 34)) (suf := []) rfl (fun _ h => absurd h (by simp)) (by decide) (by decide) q183 ca_bad ?_
    refine w_astore_n dX0_days_54 rfl (Nat.le_of_ble_eq_true rfl) ls_4_2 ?_
    refine w_aload_n dX0_days_55 rfl ?_
    refine w_ref RB6.x30 ?_
    refine w_aload_n dX0_days_56 rfl ?_
    refine w_ref (show od C6 0 5 = od C4 0 5 from hB.1 0 5 (by decide)) ?_
    refine cp_call (kc := 0) (ks := 0) (mi := miX0_faulty) dX0_days_57 q902 okX0_faulty clX0 rfl (H6.get (ce_X hx6)) (Nat.le_of_ble_eq_true rfl) (kX0_faulty (C := C6) hx6) H6 (F6.trans F7) rfl rfl (Nat.le_of_ble_eq_true rfl) ?_
    rintro σ C8 hC8 H F
    refine w_iret dX0_days_60 rfl ⟨by rw [hr]; rfl, sM8 C8 (fun _ => none), ?_, H.less (fun _ _ h => by cases h), F⟩
    rw [hr]
    have E6 : EncD g C6 0 V q := E4.ry hB
    have v26 : oI C6 0 30 2 = nI 0 := by
      rw [hB.2.1 0 30 2 (fun _ z => absurd z (by decide)), R14.2.1]
      exact v2
    rw [hC8]
    refine ⟨(((RB6.trans (BeR.I (Or.inr (Or.inl rfl)))).trans (BeR.I (Or.inr (Or.inr (Or.inl rfl))))).trans (BeR.I (Or.inr (Or.inr (Or.inr rfl))))).trans BeR.M, rfl, E6.eq rfl rfl rfl (fun _ _ _ => rfl) (fun _ _ => rfl) (fun _ _ _ _ => ⟨rfl, rfl⟩), ?_, ?_, ?_, ?_, ?_, ?_⟩
    · show oP C6 = oP C
      rw [hB.2.2.2.2.2.2.1, R14.2.2.2.2.2.2.1, B1.2]
    · show oB C6 = oB C
      rw [hB.2.2.2.2.2.1, R14.2.2.2.2.2.1, B1.1]
    · show oI (uI (uI (uI C6 0 30 3 (oI C6 0 5 6)) 0 30 4 (oI C6 0 5 7)) 0 30 7 (nI 9)) 0 30 2 = _
      rw [oI_ne _ _ (fun _ _ z => by omega), oI_ne _ _ (fun _ _ z => by omega), oI_ne _ _ (fun _ _ z => by omega)]
      exact v26
    · show oI (uI (uI (uI C6 0 30 3 (oI C6 0 5 6)) 0 30 4 (oI C6 0 5 7)) 0 30 7 (nI 9)) 0 30 3 = _
      rw [oI_ne _ _ (fun _ _ z => by omega), oI_ne _ _ (fun _ _ z => by omega), oI_eq]
      exact b6
    · show oI (uI (uI (uI C6 0 30 3 (oI C6 0 5 6)) 0 30 4 (oI C6 0 5 7)) 0 30 7 (nI 9)) 0 30 4 = _
      rw [oI_ne _ _ (fun _ _ z => by omega), oI_eq]
      exact b7
    · show oI (uI (uI (uI C6 0 30 3 (oI C6 0 5 6)) 0 30 4 (oI C6 0 5 7)) 0 30 7 (nI 9)) 0 30 7 = _
      rw [oI_eq]
