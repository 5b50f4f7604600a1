/-! PAIRS: marks (by hand) -/
set_option maxRecDepth 100000
section COP
variable {S : MS} {f t c14 c1 : Nat}
theorem copA_1 (S : MS) (f t n : Nat) : copA S f t (n + 1) = sA (copA S f t n) 0 (1400 * t + n) (mA (copA S f t n) 0 (1400 * f + n)) := rfl
theorem copB_1 (S : MS) (f t n : Nat) : copB S f t (n + 1) = sB (copB S f t n) 1 (14 * t + n) (mB (copB S f t n) 1 (14 * f + n)) := rfl
theorem copA_A (hft : f ≠ t) : ∀ n, n ≤ 1400 → ∀ i, mA (copA S f t n) 0 i = if 1400 * t ≤ i ∧ i < 1400 * t + n then mA S 0 (1400 * f + (i - 1400 * t)) else mA S 0 i
  | 0, _, i => by
    rw [if_neg (by omega)]
    rfl
  | n + 1, hn, i => by
    rw [copA_1]
    have e : mA (sA (copA S f t n) 0 (1400 * t + n) (mA (copA S f t n) 0 (1400 * f + n))) 0 = upd (mA (copA S f t n) 0) (1400 * t + n) (mA (copA S f t n) 0 (1400 * f + n)) := va_up_self (copA S f t n).2.2.1 0 _
    rw [e]
    by_cases h : i = 1400 * t + n
    · subst h
      rw [upd_eq, copA_A hft n (by omega), if_neg (by omega), if_pos (by omega), show 1400 * t + n - 1400 * t = n by omega]
    · rw [upd_ne h, copA_A hft n (by omega)]
      by_cases h2 : 1400 * t ≤ i ∧ i < 1400 * t + n
      · rw [if_pos h2, if_pos (by omega)]
      · rw [if_neg h2, if_neg (by omega)]
theorem copA_o {j : Nat} (hj : j ≠ 0) : ∀ n, mA (copA S f t n) j = mA S j
  | 0 => rfl
  | n + 1 => by
    rw [copA_1]
    exact (va_up_ne _ _ hj).trans (copA_o hj n)
theorem copA_B (j : Nat) : ∀ n, mB (copA S f t n) j = mB S j
  | 0 => rfl
  | n + 1 => copA_B j n
theorem copA_L (j : Nat) : ∀ n, mL (copA S f t n) j = mL S j
  | 0 => rfl
  | n + 1 => copA_L j n
theorem copB_B (hft : f ≠ t) : ∀ n, n ≤ 14 → ∀ i, mB (copB S f t n) 1 i = if 14 * t ≤ i ∧ i < 14 * t + n then mB S 1 (14 * f + (i - 14 * t)) else mB S 1 i
  | 0, _, i => by
    rw [if_neg (by omega)]
    rfl
  | n + 1, hn, i => by
    rw [copB_1]
    have e : mB (sB (copB S f t n) 1 (14 * t + n) (mB (copB S f t n) 1 (14 * f + n))) 1 = vp_updL (mB (copB S f t n) 1) (14 * t + n) (mB (copB S f t n) 1 (14 * f + n)) := va_up_self (copB S f t n).2.2.2 1 _
    rw [e]
    unfold vp_updL
    by_cases h : i = 14 * t + n
    · subst h
      rw [if_pos rfl, copB_B hft n (by omega), if_neg (by omega), if_pos (by omega), show 14 * t + n - 14 * t = n by omega]
    · rw [if_neg h, copB_B hft n (by omega)]
      by_cases h2 : 14 * t ≤ i ∧ i < 14 * t + n
      · rw [if_pos h2, if_pos (by omega)]
      · rw [if_neg h2, if_neg (by omega)]
theorem copB_o {j : Nat} (hj : j ≠ 1) : ∀ n, mB (copB S f t n) j = mB S j
  | 0 => rfl
  | n + 1 => by
    rw [copB_1]
    exact (va_up_ne _ _ hj).trans (copB_o hj n)
theorem copB_A (j : Nat) : ∀ n, mA (copB S f t n) j = mA S j
  | 0 => rfl
  | n + 1 => copB_A j n
theorem copB_L (j : Nat) : ∀ n, mL (copB S f t n) j = mL S j
  | 0 => rfl
  | n + 1 => copB_L j n
theorem cop_t (hft : f ≠ t) (h14 : c14 = 1400) (h1 : c1 = 14) : (∀ i, i < 1400 → slA (copS S f t c14 c1) t i = slA S f i) ∧ ∀ i, i < 14 → slB (copS S f t c14 c1) t i = slB S f i := by
  refine ⟨fun i hi => ?_, fun i hi => ?_⟩
  · show mA (copB (copA S f t c14) f t c1) 0 (1400 * t + i) = mA S 0 (1400 * f + i)
    rw [copB_A, copA_A hft c14 (by omega), if_pos (by omega), show 1400 * t + i - 1400 * t = i by omega]
  · show mB (copB (copA S f t c14) f t c1) 1 (14 * t + i) = mB S 1 (14 * f + i)
    rw [copB_B hft c1 (by omega), if_pos (by omega), copA_B, show 14 * t + i - 14 * t = i by omega]
theorem cop_n {j : Nat} (hft : f ≠ t) (hj : j ≠ t) (h14 : c14 = 1400) (h1 : c1 = 14) : (∀ i, i < 1400 → slA (copS S f t c14 c1) j i = slA S j i) ∧ ∀ i, i < 14 → slB (copS S f t c14 c1) j i = slB S j i := by
  refine ⟨fun i hi => ?_, fun i hi => ?_⟩
  · show mA (copB (copA S f t c14) f t c1) 0 (1400 * j + i) = mA S 0 (1400 * j + i)
    rw [copB_A, copA_A hft c14 (by omega), if_neg (by omega)]
  · show mB (copB (copA S f t c14) f t c1) 1 (14 * j + i) = mB S 1 (14 * j + i)
    rw [copB_B hft c1 (by omega), if_neg (by omega), copA_B]
theorem cop_A {j : Nat} (hj : j ≠ 0) : mA (copS S f t c14 c1) j = mA S j := (copB_A j c1).trans (copA_o hj c14)
theorem cop_B {j : Nat} (hj : j ≠ 1) : mB (copS S f t c14 c1) j = mB S j := (copB_o hj c1).trans (copA_B j c14)
theorem cop_L (j : Nat) : mL (copS S f t c14 c1) j = mL S j := (copB_L j c1).trans (copA_L j c14)
end COP
/-- what a mark, a way back, keeps of X: all but the status, the count of marks, and day a -/
def MkJ (C C2 : CS) (a : Nat) (m : Int32) : Prop := od C2 0 30 = od C 0 30 ∧ oI C2 0 30 7 = nI 0 ∧ oI C2 0 30 12 = m ∧ (∀ f, f ≠ 7 → f ≠ 12 → oI C2 0 30 f = oI C 0 30 f) ∧ (∀ k, oA C2 0 k = oA C 0 k) ∧ oL C2 = oL C ∧ oT C2 = oT C ∧ (∀ j, j ≠ a → oO C2 j = oO C j) ∧ oO C2 a = true ∧ (∀ j, j ≠ a → KD j C C2) ∧ ∀ b e, oZ C b = some e → oZ C2 b = some e
theorem JX.mk {g : GG} {C C2 : CS} {S S2 : MS} {a : Nat} {m : Int32} (J : JX g C S) (h : MkJ C C2 a m) (h2 : mI S2 2 = nI 0) (hI : ∀ k, k ≠ 2 → k ≠ 37 → mI S2 k = mI S k) (hL : ∀ k, mL S2 k = mL S k) (hA : ∀ k, k ≠ 0 → mA S2 k = mA S k) (hB : ∀ k, k ≠ 1 → mB S2 k = mB S k) : JX g C2 S2 := by
  obtain ⟨⟨x1, ⟨x2, x3⟩, x4, x5⟩, y1, y2, y3, y4, y5⟩ := J
  obtain ⟨-, q1, -, q2, q3, q4, q5, -⟩ := h
  exact ⟨⟨by rw [q1, h2], ⟨by rw [q4, hL 3, x2], by rw [q4, hL 4, x3]⟩, by rw [q2 3 (by omega) (by omega), hI 16 (by omega) (by omega), x4], by rw [q2 4 (by omega) (by omega), hI 17 (by omega) (by omega), x5]⟩, y1.c (q2 2 (by omega) (by omega)) (q3 1) (hI 10 (by omega) (by omega)) (hA 8 (by omega)), y2.c q5 (hA 5 (by omega)) (hA 6 (by omega)) (hB 7 (by omega)), y3.c (q3 21) (q2 22 (by omega) (by omega)) (hA 35 (by omega)) (hI 36 (by omega) (by omega)), y4.c (q2 18 (by omega) (by omega)) (q3 15) (hI 30 (by omega) (by omega)) (hA 28 (by omega)), y5.c (hA 33 (by omega))⟩
theorem JC.mark {g : GG} {C C2 : CS} {S : MS} {V : VS} {q : Nat → Nat} {nf nd : Nat → List Nat} {P : PG} {m c14 c1 : Nat} (J : JC g C S) (D : DayV g C S 0 V nf nd P) (hm : oI C 0 30 12 = nI m) (hm3 : m < 3) (h : MkJ C C2 (m + 1) (nI (m + 1))) (E2 : EncD g C2 (m + 1) V q) (hp : oP C2 (m + 1) = oP C 0) (h14 : c14 = 1400) (h1 : c1 = 14) : od C2 0 30 = od C 0 30 ∧ JC g C2 (sI (copS (sI S 37 (nI (m + 1))) 0 (m + 1) c14 c1) 2 (nI 0)) := by
  have h0 := h
  obtain ⟨k1, k2, k3, k4, k5, k6, k7, k8, k9, k10, k11⟩ := h
  obtain ⟨-, fl, ⟨W, p, E4⟩, -, ⟨m2, b1, b2, b3, b4, b5⟩⟩ := id J
  have hmm : m2 = m := (nI_eq (by omega) (by omega)).mp (b2.symm.trans hm)
  subst hmm
  have ct := cop_t (S := sI S 37 (nI (m2 + 1))) (f := 0) (t := m2 + 1) (by omega) h14 h1
  have cn : ∀ j, j ≠ m2 + 1 → _ := fun j hj => cop_n (S := sI S 37 (nI (m2 + 1))) (f := 0) (t := m2 + 1) (j := j) (by omega) hj h14 h1
  refine ⟨k1, ⟨J.1.mk h0 mI_s (fun k a b => (sI_ne a).trans ((copS_I _ _ _ _ _ k).trans (sI_ne b))) (fun k => cop_L k) (fun k a => cop_A a) (fun k a => cop_B a), ⟨by rw [k8 0 (by omega)]; exact fl.1, by rw [k8 4 (by omega)]; exact fl.2⟩, ⟨W, p, E4.kd (k10 4 (by omega))⟩, ?_, ⟨m2 + 1, by omega, k3, ?_, fun j j1 j2 => ?_, fun j j1 j2 j3 => ?_⟩⟩⟩
  · exact J.dv.fr (k10 0 (by omega)) (fun i hi => (cn 0 (by omega)).1 i hi) (fun i hi => (cn 0 (by omega)).2 i hi)
  · rw [sI_ne (by omega), copS_I]
    exact mI_s
  · by_cases hj : j = m2 + 1
    · subst hj
      exact ⟨k9, D.sl E2 k11 hp (fun i hi => ct.1 i hi) (fun i hi => ct.2 i hi)⟩
    · obtain ⟨d1, d2⟩ := b4 j j1 (by omega)
      exact ⟨by rw [k8 j hj]; exact d1, d2.fr (k10 j hj) (fun i hi => (cn j hj).1 i hi) (fun i hi => (cn j hj).2 i hi)⟩
  · rw [k8 j (by omega)] at j3
    obtain ⟨W2, p2, E3⟩ := b5 j (by omega) j2 j3
    exact ⟨W2, p2, E3.kd (k10 j (by omega))⟩
theorem JC.back {g : GG} {C C2 : CS} {S : MS} {V : VS} {q : Nat → Nat} {nf nd : Nat → List Nat} {P : PG} {m c14 c1 : Nat} (J : JC g C S) (D : DayV g C S m V nf nd P) (hm : oI C 0 30 12 = nI m) (hm0 : 0 < m) (hm3 : m ≤ 3) (h : MkJ C C2 0 (nI (m - 1))) (E2 : EncD g C2 0 V q) (hp : oP C2 0 = oP C m) (h14 : c14 = 1400) (h1 : c1 = 14) : od C2 0 30 = od C 0 30 ∧ JC g C2 (sI (sI (copS S m 0 c14 c1) 37 (nI (m - 1))) 2 (nI 0)) := by
  have h0 := h
  obtain ⟨k1, k2, k3, k4, k5, k6, k7, k8, k9, k10, k11⟩ := h
  obtain ⟨-, fl, ⟨W, p, E4⟩, -, ⟨m2, b1, b2, b3, b4, b5⟩⟩ := id J
  have hmm : m2 = m := (nI_eq (by omega) (by omega)).mp (b2.symm.trans hm)
  subst hmm
  have ct := cop_t (S := S) (f := m2) (t := 0) (by omega) h14 h1
  have cn : ∀ j, j ≠ 0 → _ := fun j hj => cop_n (S := S) (f := m2) (t := 0) (j := j) (by omega) hj h14 h1
  refine ⟨k1, ⟨J.1.mk h0 mI_s (fun k a b => (sI_ne a).trans ((sI_ne b).trans (copS_I _ _ _ _ _ k))) (fun k => cop_L k) (fun k a => cop_A a) (fun k a => cop_B a), ⟨k9, by rw [k8 4 (by omega)]; exact fl.2⟩, ⟨W, p, E4.kd (k10 4 (by omega))⟩, ?_, ⟨m2 - 1, by omega, k3, ?_, fun j j1 j2 => ?_, fun j j1 j2 j3 => ?_⟩⟩⟩
  · exact D.sl E2 k11 hp (fun i hi => ct.1 i hi) (fun i hi => ct.2 i hi)
  · rw [sI_ne (by omega)]
    exact mI_s
  · obtain ⟨d1, d2⟩ := b4 j j1 (by omega)
    exact ⟨by rw [k8 j (by omega)]; exact d1, d2.fr (k10 j (by omega)) (fun i hi => (cn j (by omega)).1 i hi) (fun i hi => (cn j (by omega)).2 i hi)⟩
  · by_cases hj : j = m2
    · subst hj
      obtain ⟨W2, p2, E3⟩ := (b4 j (by omega) (Nat.le_refl _)).2.ex
      exact ⟨W2, p2, E3.kd (k10 j (by omega))⟩
    · rw [k8 j (by omega)] at j3
      obtain ⟨W2, p2, E3⟩ := b5 j (by omega) j2 j3
      exact ⟨W2, p2, E3.kd (k10 j (by omega))⟩
theorem KD.uP {j a : Nat} {C : CS} {v : Option Nat} (h : j ≠ a) : KD j C (uP C a v) := ⟨rfl, va_up_ne (oP C) v h, rfl, fun _ _ _ => rfl, fun _ _ => rfl, fun _ _ _ _ => ⟨rfl, rfl⟩, fun _ _ h => h⟩
/-- the state of X behind a house's be -/
theorem mk_sd {C C0 C1 : CS} {a : Nat} {v : Option Nat} {m : Int32} (hS : SD a C0 C1) (ho : oO C0 a = true) (e0 : od C0 0 30 = od C 0 30) (e7 : oI C0 0 30 7 = nI 0) (eN : ∀ f, f ≠ 7 → f ≠ 12 → oI C0 0 30 f = oI C 0 30 f) (eA : ∀ k, oA C0 0 k = oA C 0 k) (eL : oL C0 = oL C) (eT : oT C0 = oT C) (eO : ∀ j, j ≠ a → oO C0 j = oO C j) (eK : ∀ j, j ≠ a → KD j C C0) (eZ : ∀ b e, oZ C b = some e → oZ C0 b = some e) : MkJ C (uI (uP C1 a v) 0 30 12 m) a m := by
  have hI : oI C1 0 30 = oI C0 0 30 := hS.2.1 0 30 (by omega) (by omega)
  refine ⟨(hS.1 0 30 (by omega) (by omega)).trans e0, ?_, oI_eq _ 0 30 12 m, fun f h7 h12 => ?_, fun k => (hS.2.2.1 0 k (by omega) (by omega)).trans (eA k), hS.2.2.2.2.1.trans eL, hS.2.2.2.2.2.2.2.2.1.trans eT, fun j hj => (hS.on j).trans (eO j hj), (hS.on a).trans ho, fun j hj => ((eK j hj).trans (hS.kd hj)).trans ((KD.uP hj).trans KD.uI0), fun b e z => ?_⟩
  · rw [oI_ne _ _ (fun _ _ z => by omega)]
    exact (congrFun hI 7).trans e7
  · rw [oI_ne _ _ (fun _ _ z => h12 z)]
    exact (congrFun hI f).trans (eN f h7 h12)
  · show oZ C1 b = _
    rw [hS.2.2.2.2.2.2.2.2.2.2]
    exact eZ b e z
theorem pr_mark {g : GG} {ax bm : Nat} {σ : PH} (jj : JJ g ax bm σ) : PairG Value.int g ax bm miX0_mark miX8_mark [] σ := by
  obtain ⟨C, S, H, hm, rfl, hb, hz, hs, J⟩ := jj
  obtain ⟨V, nf, nd, P, D⟩ := J.dv
  obtain ⟨q, E⟩ := D.1
  obtain ⟨m, b1, b2, b3, b4, b5⟩ := J.mk
  obtain ⟨c14, h14⟩ : ∃ n : Nat, n = 1400 := ⟨_, rfl⟩
  obtain ⟨c1, h1⟩ : ∃ n : Nat, n = 14 := ⟨_, rfl⟩
  have hc := c_mark (g := g) b3 b1 h14 h1
  have hl := congrFun hm 90
  have s7 : ∀ f, f ≠ 7 → f ≠ 12 → oI (uI C 0 30 7 (nI 0)) 0 30 f = oI C 0 30 f := fun f h7 _ => oI_ne C _ (fun _ _ z => h7 z)
  by_cases h3 : m = 3
  · subst h3
    have ea : a_mark 3 = (-1, nI 4) := rfl
    have et : t_mark S 3 c14 c1 = S := rfl
    rw [ea, et] at hc
    exact pair_of H J.h0 hb hz hs (kX0_mark_a J.h0 b2) (hc.toP (P := fun S2 => S2 = sI S 2 (nI 4)) rfl) (Nat.le_of_ble_eq_true rfl) (Nat.le_of_ble_eq_true rfl) (Nat.le_of_ble_eq_true rfl) (Nat.le_of_ble_eq_true rfl) (fun C2 S2 h1 h2 => by subst h1; subst h2; exact J.q)
  · have ea : a_mark m = (nI (m + 1), nI 0) := if_neg h3
    have et : t_mark S m c14 c1 = copS (sI S 37 (nI (m + 1))) 0 (m + 1) c14 c1 := if_neg h3
    rw [ea, et] at hc
    have hmt := hc.toP (P := fun S2 => S2 = sI (copS (sI S 37 (nI (m + 1))) 0 (m + 1) c14 c1) 2 (nI 0)) rfl
    cases ho : oO C (m + 1) with
    | true =>
      obtain ⟨W, p, Em⟩ := b5 (m + 1) (Nat.lt_succ_self _) (by omega) ho
      refine pair_of H J.h0 hb hz hs (kX0_mark_b J.h0 J.h0 b2 (by omega) ho E Em hl) hmt (Nat.le_of_ble_eq_true rfl) (Nat.le_of_ble_eq_true rfl) (Nat.le_of_ble_eq_true rfl) (Nat.le_of_ble_eq_true rfl) (fun C2 S2 h1 h2 => ?_)
      obtain ⟨C1, e1, e2, rfl⟩ := h1
      subst h2
      have hk : KD (m + 1) (uP C1 (m + 1) (oP C 0)) (uI (uP C1 (m + 1) (oP C 0)) 0 30 12 (nI (m + 1))) := KD.uI0
      exact J.mark D b2 (by omega) (mk_sd e2 ho rfl (oI_eq C 0 30 7 _) s7 (fun _ => rfl) rfl rfl (fun _ _ => rfl) (fun _ _ => KD.uI0) (fun _ _ h => h)) (EncD.kd (C := uP C1 (m + 1) (oP C 0)) (e1.eq rfl rfl rfl (fun _ _ _ => rfl) (fun _ _ => rfl) (fun _ _ _ _ => ⟨rfl, rfl⟩)) hk) (va_up_self (oP C1) (m + 1) (oP C 0)) h14 h1
    | false =>
      refine pair_of H J.h0 hb hz hs (kX0_mark_c J.h0 J.h0 b2 (by omega) ho E hl) hmt (Nat.le_of_ble_eq_true rfl) (Nat.le_of_ble_eq_true rfl) (Nat.le_of_ble_eq_true rfl) (Nat.le_of_ble_eq_true rfl) (fun C2 S2 h1 h2 => ?_)
      obtain ⟨y, z, a, C1, e0, e1, e2, rfl⟩ := h1
      subst h2
      have hk : KD (m + 1) (uP C1 (m + 1) (oP C 0)) (uI (uP C1 (m + 1) (oP C 0)) 0 30 12 (nI (m + 1))) := KD.uI0
      have hK : ∀ j, j ≠ m + 1 → KD j C (ndC g (uI C 0 30 7 (nI 0)) (m + 1) y z a) := fun j hj => (KD.uI0 (f := 7) (k := 30) (v := nI 0)).trans ⟨nd_Bn hj, nd_Pn hj, nd_oI (by unfold isN; omega), fun k h1 h2 => nd_oA (by unfold isN; omega), fun d hd => nd_oI (by unfold isN; omega), fun k d hk hd => ⟨nd_oA (by unfold isN; omega), nd_oN (by unfold isN; omega)⟩, fun b e h => e0 b e h⟩
      have hI : oI (ndC g (uI C 0 30 7 (nI 0)) (m + 1) y z a) 0 30 = oI (uI C 0 30 7 (nI 0)) 0 30 := nd_oI (by unfold isN; omega)
      exact J.mark D b2 (by omega) (mk_sd e2 nd_oO (nd_od (by unfold isN; omega)) ((congrFun hI 7).trans (oI_eq C 0 30 7 _)) (fun f h7 h12 => (congrFun hI f).trans (s7 f h7 h12)) (fun k => nd_oA (by unfold isN; omega)) rfl rfl (fun j hj => nd_oOn (by omega)) hK e0) (EncD.kd (C := uP C1 (m + 1) (oP C 0)) (e1.eq rfl rfl rfl (fun _ _ _ => rfl) (fun _ _ => rfl) (fun _ _ _ _ => ⟨rfl, rfl⟩)) hk) (va_up_self (oP C1) (m + 1) (oP C 0)) h14 h1
theorem pr_back {g : GG} {ax bm : Nat} {σ : PH} (jj : JJ g ax bm σ) : PairG Value.int g ax bm miX0_back miX8_back [] σ := by
  obtain ⟨C, S, H, hm, rfl, hb, hz, hs, J⟩ := jj
  obtain ⟨m, b1, b2, b3, b4, b5⟩ := J.mk
  obtain ⟨c14, h14⟩ : ∃ n : Nat, n = 1400 := ⟨_, rfl⟩
  obtain ⟨c1, h1⟩ : ∃ n : Nat, n = 14 := ⟨_, rfl⟩
  have hc := c_back (g := g) b3 b1 h14 h1
  have hl := congrFun hm 90
  by_cases h0 : m = 0
  · subst h0
    have ea : a_back 0 = (-1, nI 6) := rfl
    have et : t_back S 0 c14 c1 = S := rfl
    rw [ea, et] at hc
    exact pair_of H J.h0 hb hz hs (kX0_back_a J.h0 b2) (hc.toP (P := fun S2 => S2 = sI S 2 (nI 6)) rfl) (Nat.le_of_ble_eq_true rfl) (Nat.le_of_ble_eq_true rfl) (Nat.le_of_ble_eq_true rfl) (Nat.le_of_ble_eq_true rfl) (fun C2 S2 h1 h2 => by subst h1; subst h2; exact J.q)
  · have ea : a_back m = (nI (m - 1), nI 0) := if_neg h0
    have et : t_back S m c14 c1 = sI (copS S m 0 c14 c1) 37 (nI (m - 1)) := if_neg h0
    rw [ea, et] at hc
    obtain ⟨W, p, E0⟩ := J.dv.ex
    obtain ⟨ho, V, nf, nd, P, D⟩ := b4 m (by omega) (Nat.le_refl _)
    obtain ⟨q, E⟩ := D.1
    refine pair_of H J.h0 hb hz hs (kX0_back_b J.h0 J.h0 b2 (by omega) b1 ho E0 E hl) (hc.toP (P := fun S2 => S2 = sI (sI (copS S m 0 c14 c1) 37 (nI (m - 1))) 2 (nI 0)) rfl) (Nat.le_of_ble_eq_true rfl) (Nat.le_of_ble_eq_true rfl) (Nat.le_of_ble_eq_true rfl) (Nat.le_of_ble_eq_true rfl) (fun C2 S2 h1 h2 => ?_)
    obtain ⟨C1, e1, e2, rfl⟩ := h1
    subst h2
    have hI : oI C1 0 30 = oI (uI (uI C 0 30 7 (nI 0)) 0 30 12 (nI (m - 1))) 0 30 := e2.2.1 0 30 (by omega) (by omega)
    have hM : MkJ C (uP C1 0 (oP C m)) 0 (nI (m - 1)) := by
      refine ⟨e2.1 0 30 (by omega) (by omega), ?_, ?_, fun f h7 h12 => ?_, fun k => e2.2.2.1 0 k (by omega) (by omega), e2.2.2.2.2.1, e2.2.2.2.2.2.2.2.2.1, fun j _ => e2.on j, (e2.on 0).trans J.h0, fun j hj => (KD.uI0.trans KD.uI0).trans ((e2.kd hj).trans (KD.uP hj)), fun b e z => ?_⟩
      · refine (congrFun hI 7).trans ?_
        rw [oI_ne _ _ (fun _ _ z => by omega)]
        exact oI_eq C 0 30 7 _
      · exact (congrFun hI 12).trans (oI_eq _ 0 30 12 _)
      · refine (congrFun hI f).trans ?_
        rw [oI_ne _ _ (fun _ _ z => h12 z), oI_ne _ _ (fun _ _ z => h7 z)]
      · show oZ C1 b = _
        rw [e2.2.2.2.2.2.2.2.2.2.2]
        exact z
    exact J.back D b2 (by omega) b1 hM (e1.eq rfl rfl rfl (fun _ _ _ => rfl) (fun _ _ => rfl) (fun _ _ _ _ => ⟨rfl, rfl⟩)) (va_up_self (oP C1) 0 (oP C m)) h14 h1
