set_option maxRecDepth 100000
theorem it_tk {X : TX} {t : Tk} (h : t.so ≠ 0) (k : t.so ≠ 2) : kix X t ≠ 26 := fun z => k (kix_so (X := X) (t := t) (by omega))
def QDy (g : GG) (C : CS) (X : TX) (du : Int32) (Hs : HS) (r : PR DS) : Option Value → CS → Prop := fun w0 C1 => w0 = none ∧ ∃ (C2 : CS) (D2 : DS) (t2 : Tk) (nu2 : Int32) (k cap : Nat) (f : Nat → Option Nat), r = .ok D2 ∧ C1 = rdS C2 X.2 (rqT t2 nu2 (nI D2.ct) du) ∧ R9 C C2 ∧ Lk (LoS 0) C C2 ∧ od C2 8 1 = od C 8 1 ∧ od C2 8 20 = od C 8 20 ∧ BkL g C2 20 30 10 k cap [.int (nI 1)] f ∧ k ≤ D2.ct ∧ D2.op = [] ∧ OkD Hs D2 ∧ Bld g (pgD D2) (oZ C2) 4 0 D2.n k f
theorem ctF_ge {X : TX} {H : HS} (OH : OkH H) {D : DS} {t : Tk} (O : OkD H D) (h : OkT9 X t) (N : Nst D.r D.op D.n) : D.ct ≤ ctF (pF X H D t) := by
  cases e : pF X H D t with
  | error f => exact O.2.1
  | ok D2 => exact (pF_nst OH (X.2 + 1) D t (by omega) O h N D2 e).2.2.2
theorem y_dloop {g : GG} {C : CS} {X : TX} {b mc ms : Nat} {Hs : HS} {du : Int32} {r : PR DS} {σ0 : PH} {q0 : RQ} (hx : oO C 0 = true) (hT : TxC C X) (hB : BeF g C b Hs) : ∀ (n : Nat) (C1 : CS) (D1 : DS) (t1 : Tk) (nu1 : Int32) (k cap : Nat) (f : Nat → Option Nat) (σ : PH), X.2 - t1.fr < n → R9 C C1 → Lk (LoS 0) C C1 → od C1 8 1 = od C 8 1 → od C1 8 20 = od C 8 20 → BkL g C1 20 30 10 k cap [.int (nI 1)] f → k ≤ D1.ct → OkT9 X t1 → NuT t1 nu1 → OkD Hs D1 → D1.op = [] → Bld g (pgD D1) (oZ C1) 4 0 D1.n k f → Nst D1.r D1.op D1.n → pF X Hs D1 t1 = r → Hold g σ (rdS C1 X.2 (rqT t1 nu1 (nI D1.ct) du)) → Fr σ0 σ →
    Wp g (mtX g miX9_days 19 mc ms σ0 (rdS C X.2 q0) (QDy g C X du Hs r) (EY C r)) (3 * (ctF r - D1.ct)) (48 * (ctF r - D1.ct)) 0 [some (.ref (od C 8 1)), some (.ref b), some (.ref (od C 8 20))] [] σ := by
  intro n
  induction n with
  | zero => intro C1 D1 t1 nu1 k cap f σ h; exact absurd h (Nat.not_lt_zero _)
  | succ n ih =>
    intro C1 D1 t1 nu1 k cap f σ hn r1 l1 h1 h20 B1 hk hO hN O1 hop bl nst hr H F
    have hx1 := r1.x hx
    have hT1 := r1.T hT
    have hB1 := hB.r9 r1
    have h5 : od C1 0 5 = od C 0 5 := r1.1 0 5 (by decide)
    have hl1 : D1.op.length = 0 := by rw [hop]; rfl
    have ho3 := hO.ok.2.2.1
    have hs4 := so2_le ho3
    refine w_aload_n dX9_days_0 rfl ?_
    refine w_ref h1 ?_
    refine rd_get (f := 3) (C := C1) (q := rqT t1 nu1 (nI D1.ct) du) (v := .int (nI (so2 t1.so))) dX9_days_1 (by decide) q691 H rfl ?_
    refine w_ifN_eq dX9_days_4 rfl (by omega) (fun h4 => ?_) (fun h4 => ?_)
    · have hs0 : t1.so = 0 := (so2_0 ho3).mp h4
      refine w_vret dX9_days_17 rfl ⟨_, ⟨rfl, C1, D1, t1, nu1, k, cap, f, ?_, rfl, r1, l1, h1, h20, B1, hk, hop, O1, bl⟩, H, F⟩
      rw [← hr, pF_eq hB.ok O1 hO, if_pos hs0, if_pos hop]
    · have hs0 : t1.so ≠ 0 := fun z => h4 ((so2_0 ho3).mpr z)
      have esub := pF_it (X := X) (w := 0) hB.ok (X.2 + 1) D1 t1 (by omega) O1 hO (Or.inl hs0)
      rw [hr] at esub
      have hge1 := ctE_ge (X := X) hB.ok O1 hO (Or.inr hop)
      rw [hl1] at hge1
      have key : ∀ D2 t2, itF X Hs 0 D1 t1 = .ok (D2, t2) → D2.op = [] ∧ (∀ j, j < D1.n → D2.r j = D1.r j) ∧ D1.n < D2.n ∧ D1.ct < D2.ct ∧ OkD Hs D2 ∧ OkT9 X t2 ∧ t1.fr < t2.fr ∧ r = pF X Hs D2 t2 ∧ Nst D2.r D2.op D2.n := fun D2 t2 e => by
        have g2 := itF_st (X := X) hB.ok O1 hO (Or.inr hop) (by rw [hl1]; exact e)
        rw [e] at esub
        have nn := itF_nst (X := X) (w := 0) hB.ok (X.2 + 1) D1 t1 (by omega) O1 hO nst _ _ e
        exact ⟨g2.1.trans hop, g2.2.1, g2.2.2.1, g2.2.2.2.1, g2.2.2.2.2.1, g2.2.2.2.2.2.1, g2.2.2.2.2.2.2, esub, nn⟩
      have hle1 : ctE (itF X Hs 0 D1 t1) ≤ ctF r := by
        cases e : itF X Hs 0 D1 t1 with
        | error f9 =>
          rw [e] at esub
          rw [esub]
          exact Nat.le_refl _
        | ok p =>
          obtain ⟨D2, t2⟩ := p
          obtain ⟨k1, k2, k3, k4, k5, k6, k7, k8, k9⟩ := key D2 t2 e
          rw [k8]
          exact ctF_ge hB.ok k5 k6 k9
      refine w_aload_n dX9_days_7 rfl ?_
      refine w_ref h1 ?_
      refine w_aload_n dX9_days_8 rfl ?_
      refine w_aload_n dX9_days_9 rfl ?_
      refine w_ref h20 ?_
      refine w_iconst (v := nI 0) dX9_days_10 ki_0 ?_
      refine w_bud (kc2 := 3 * (ctF r - ctE (itF X Hs 0 D1 t1)) + 3 * (ctE (itF X Hs 0 D1 t1) - D1.ct)) (ks2 := 48 * (ctF r - ctE (itF X Hs 0 D1 t1)) + 48 * (ctE (itF X Hs 0 D1 t1) - D1.ct)) (by omega) (by omega) ?_
      refine cy_call (kc := 3 * (ctF r - ctE (itF X Hs 0 D1 t1))) (ks := 48 * (ctF r - ctE (itF X Hs 0 D1 t1))) (As := [_, _, _]) (mi2 := miX9_step) dX9_days_11 q942 okX9_step clX9 rfl (H.get ce_rd) (Nat.le_of_ble_eq_true rfl) (step_all 3 0 rfl C1 D1 t1 nu1 du 10 k cap [.int (nI 1)] f hx1 hT1 hO hN hB1 O1 hl1 (Or.inr hop) B1 (Or.inl ⟨rfl, _, rfl⟩) hk bl.o) rfl H F h5 (fun C2 h => EY.on h r1.Y (fun f z => by rw [esub, z]; rfl)) rfl rfl (Nat.le_of_ble_eq_true rfl) ?_
      rintro v11 σ C11 ⟨hv, C2, D2, t2, nu2, a, cap2, f2, e2, hO2, hN2, hC2, r2, l2, h12, d2, b2, fs2, fk2, sz2, nx2⟩ H F
      subst hv hC2
      obtain ⟨k1, k2, k3, k4, k5, k6, k7, k8, k9⟩ := key D2 t2 e2
      have hc2 : ctE (itF X Hs 0 D1 t1) = D2.ct := by
        rw [e2]
        rfl
      rw [hc2]
      refine w_goto dX9_days_14 rfl ?_
      have ht2 := k6.ok
      exact ih C2 D2 t2 nu2 (k + 1) cap2 f2 σ (by omega) (r1.trans r2) (l1.trans l2) (h12.trans h1) (d2.trans h20) b2 (by omega) hO2 hN2 k5 k1 (Bld.snoc bl (fun j hj => k2 j hj) r2.2.2.2.2.2.2.2.2.2 fs2 fk2 sz2 nx2) k9 k8.symm H F
set_option maxHeartbeats 8000000 in
theorem y_days {g : GG} {C : CS} {X : TX} {t : Tk} {nu du : Int32} {b cap : Nat} {Hs : HS} {f : Nat → Option Nat} (hx : oO C 0 = true) (hT : TxC C X) (hN : NuT t nu) (hB : BeF g C b Hs) (ht : t = tok X 0) (B : BkL g C 20 30 10 0 cap [.int (nI 1)] f) : Cz g miX9_days 19 90 1440 [.ref (od C 8 1), .ref b, .ref (od C 8 20)] (rdS C X.2 (rqT t nu (nI 0) du)) (QDy g C X du Hs (pDays X Hs)) (EY C (pDays X Hs)) := by
  refine Cz.start [some (.ref (od C 8 1)), some (.ref b), some (.ref (od C 8 20))] plX9 rfl (Nat.le_of_ble_eq_true rfl) rfl ?_
  intro σ0 σ H F
  subst ht
  have hc30 : ctF (pDays X Hs) ≤ 30 := by
    cases e : pDays X Hs with
    | error f => exact Nat.le_refl _
    | ok D => exact (pDays_nst hB.ok e).1.2.1
  refine w_bud (kc2 := 3 * (ctF (pDays X Hs) - 0)) (ks2 := 48 * (ctF (pDays X Hs) - 0)) (by omega) (by omega) ?_
  exact y_dloop (C := C) hx hT hB (X.2 + 1) C ⟨0, fun _ _ => 0, [], 0⟩ (tok X 0) nu 0 cap f σ (by omega) R9.refl Lk.refl rfl rfl B (Nat.zero_le _) ⟨0, Nat.zero_le _, rfl⟩ hN (OkD.new Hs) rfl Bld.new (show Nst (fun _ _ => 0) [] 0 from rfl) rfl H F
