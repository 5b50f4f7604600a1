/-! PAIRS: runs, beaches, days, marks (by hand) -/
set_option maxRecDepth 100000
theorem JC.liv {g : GG} {C C2 : CS} {S S2 : MS} {V : VS} {nf nd : Nat → List Nat} {P : PG} {lo : Nat → Nat} {seed : Nat} (J : JC g C S) (D : DayV g C S 0 V nf nd P) (hlo : ∀ o, lo o < 2147483648) (hse : seed < 65536) (h1 : LiX g C C2 (livesV V P lo seed))
    (h2 : FrV S S2 ∧ EncR S2 (livesV V P lo seed).1 ∧ EncL S2 (livesV V P lo seed).2.1 ∧ (∀ i, i < 5 → mA S2 35 i = nI (cnt (livesV V P lo seed).1 i)) ∧ mI S2 36 = nI 1 ∧ mI S2 2 = nI 0) : od C2 0 30 = od C 0 30 ∧ JC g C2 S2 := by
  obtain ⟨⟨q2, E2⟩, l1, l2, l3, hL, -⟩ := h1
  obtain ⟨⟨f1, f2, f3, f4, f5, f6⟩, u1, u2, u3, u4, u5⟩ := h2
  have hL0 := hL
  obtain ⟨a1, a2, a3, a4, a5, a6, a7, a8, a9, a10⟩ := hL
  obtain ⟨⟨⟨x1, ⟨x2, x3⟩, x4, x5⟩, y1, y2, y3, y4, y5⟩, fl, ⟨W, q, E4⟩, -, mk⟩ := id J
  have eN : ∀ f, f ≠ 7 → f ≠ 22 → oI C2 0 30 f = oI C 0 30 f := fun f a b => a2 0 30 f (by omega) (by omega) (by omega)
  have eA : ∀ k, k ≠ 21 → oA C2 0 k = oA C 0 k := fun k a => a3 0 k (by omega) (by omega) (by omega)
  have h8 := D.2.2.2.2.2.2.2.1
  rw [slA0] at h8
  have hPP : EncPA (slA S2 0) P := by
    rw [slA0]
    exact ⟨f6.trans h8.1, fun k hk j hj hu => (f5 _ (by omega)).trans (h8.2 k hk j hj hu)⟩
  have hEA : EncA (slA S2 0) (livesV V P lo seed).1.1 := by
    rw [slA0]
    exact u1.1
  have O := ok3_lives (lo := lo) (seed := seed) D.2.2.1 D.2.2.2.1 D.2.2.2.2.2.2.2.2 hse
  refine ⟨hL0.x30, J.d0 ⟨⟨by rw [l3, u5], ⟨by rw [a5, f2, x2], by rw [a5, f2, x3]⟩, by rw [eN 3 (by omega) (by omega), f1 16 (by omega) (by omega) (by omega) (by omega), x4], by rw [eN 4 (by omega) (by omega), f1 17 (by omega) (by omega) (by omega) (by omega), x5]⟩, y1.c (eN 2 (by omega) (by omega)) (eA 1 (by omega)) (f1 10 (by omega) (by omega) (by omega) (by omega)) (f3 8 (by omega) (by omega) (by omega) (by omega)), y2.c a9 (f3 5 (by omega) (by omega) (by omega) (by omega)) (f3 6 (by omega) (by omega) (by omega) (by omega)) (f4 7), ⟨fun i hi => by rw [l1 i hi, u3 i hi], by rw [l2, u4]⟩, y4.c (eN 18 (by omega) (by omega)) (eA 15 (by omega)) (f1 30 (by omega) (by omega) (by omega) (by omega)) (f3 28 (by omega) (by omega) (by omega) (by omega)), ⟨_, u2, lvF_lo D.2.2.2.2.2.2.2.2 _ _ _ _ _ hlo⟩⟩ a8 ⟨W, q, E4.kd (hL0.kd (by omega))⟩ (fun j h1 _ => hL0.kd (by omega)) (eN 12 (by omega) (by omega)) (f1 37 (by omega) (by omega) (by omega) (by omega)) (fun i h1 _ => f5 i (by omega)) (fun i _ _ => congrFun (f4 1) i) ?_⟩
  exact D.go E2 hEA O (fun x e z => by rw [a10]; exact z) (congrFun a7 0) (fun i _ => congrFun (f4 1) (14 * 0 + i)) hPP
theorem pr_live {g : GG} {ax bm : Nat} {σ : PH} {x : Int32} (jj : JJ g ax bm σ) : PairG Value.int g ax bm miX0_live miX8_live [.int x] σ := by
  obtain ⟨C, S, H, hm, rfl, hb, hz, hs, J⟩ := jj
  obtain ⟨V, nf, nd, P, D⟩ := J.dv
  obtain ⟨q, E⟩ := D.1
  have EA := D.2.1
  have K := D.2.2.1
  have hk := D.2.2.2.1
  have EP := D.2.2.2.2.2.2.2.1
  have O := D.2.2.2.2.2.2.2.2
  rw [slA0] at EA EP
  by_cases hx : inN x 10000
  · rcases D.2.2.2.2.2.2.1 with ⟨hp, hP⟩ | ⟨hp, pa, hP, hD⟩
    · exact pair_of H J.h0 hb hz hs (kX0_live_b (P := P) J.h0 J.h0 hx hp hP) ((c_live0 (P := P) EP (by unfold w_live; rw [if_pos hx, if_pos hp]; decide) O.1).toP (P := fun S2 => S2 = sI S 2 (nI (w_live P x))) rfl) (Nat.le_of_ble_eq_true rfl) (Nat.le_of_ble_eq_true rfl) (Nat.le_of_ble_eq_true rfl) (Nat.le_of_ble_eq_true rfl) (fun C2 S2 h1 h2 => by subst h1; subst h2; exact J.q)
    · obtain ⟨lo, EL, hlo⟩ := J.1.2.2.2.2.2
      obtain ⟨s, hs9, rfl⟩ := inN_of hx (by omega)
      have hc : cl (nI s) = s := nI_clamp (by omega)
      have hC := kX0_live_c (g := g) (C := C) (x := nI s) (lo := lo) J.h0 J.h0 E K hk O hp hP hD (congrFun hm 90) (congrFun hm 3) hx
      rw [hc] at hC
      exact pair_of H J.h0 hb hz hs hC (c_live1 (seed := s) EA K hk EP O EL hlo hp hs9) (Nat.le_of_ble_eq_true rfl) (Nat.le_of_ble_eq_true rfl) (Nat.le_of_ble_eq_true rfl) (Nat.le_of_ble_eq_true rfl) (fun C2 S2 h1 h2 => J.liv D hlo (by omega) h1 h2)
  · exact pair_of H J.h0 hb hz hs (kX0_live_a (P := P) J.h0 J.h0 hx) ((c_live0 (P := P) EP (by unfold w_live; rw [if_neg hx]; decide) O.1).toP (P := fun S2 => S2 = sI S 2 (nI (w_live P x))) rfl) (Nat.le_of_ble_eq_true rfl) (Nat.le_of_ble_eq_true rfl) (Nat.le_of_ble_eq_true rfl) (Nat.le_of_ble_eq_true rfl) (fun C2 S2 h1 h2 => by subst h1; subst h2; exact J.q)
theorem mnV_lo {P : PG} {V : VS} {f seed : Nat} {lo : Nat → Nat} (O : OkP (vs V 0) (vs V 1) (vs V 2) P) (hlo : ∀ o, lo o < 2147483648) : ∀ i o, (mnV V P f seed lo i).1 o < 2147483648
  | 0 => hlo
  | i + 1 => lvF_lo O _ _ _ _ _ (mnV_lo O hlo i)
theorem pr_mean {g : GG} {ax bm : Nat} {σ : PH} {x y z : Int32} (jj : JJ g ax bm σ) : PairG Value.int g ax bm miX0_mean miX8_mean [.int x, .int y, .int z] σ := by
  obtain ⟨C, S, H, hm, rfl, hb, hz, hs, J⟩ := jj
  obtain ⟨V, nf, nd, P, D⟩ := J.dv
  obtain ⟨q, E⟩ := D.1
  have EA := D.2.1
  have K := D.2.2.1
  have hk := D.2.2.2.1
  have EP := D.2.2.2.2.2.2.2.1
  have O := D.2.2.2.2.2.2.2.2
  rw [slA0] at EA EP
  obtain ⟨lo, EL, hlo⟩ := J.1.2.2.2.2.2
  have hc := c_mean (g := g) (x := x) (y := y) (z := z) EA K hk EP O EL hlo
  by_cases hx : mnP V x y z
  · rcases D.2.2.2.2.2.2.1 with ⟨hp, hP⟩ | ⟨hp, pa, hP, hD⟩
    · have hw : w_mean V P x y z = 6 := by
        unfold w_mean
        exact (if_pos hx).trans (if_pos hp)
      rw [show bP (nI (w_mean V P x y z) = 0) = nI 0 by rw [hw]; rfl] at hc
      refine pair_of H J.h0 hb hz hs (kX0_mean_b (P := P) J.h0 J.h0 E K hx hp hP) hc (Nat.le_of_ble_eq_true rfl) (Nat.le_of_ble_eq_true rfl) (Nat.le_of_ble_eq_true rfl) (Nat.le_of_ble_eq_true rfl) (fun C2 S2 h1 h2 => ?_)
      unfold P_mean at h2
      rw [if_neg (by rw [hw]; decide)] at h2
      subst h1
      subst h2
      exact J.q
    · have hw : w_mean V P x y z = 0 := by
        unfold w_mean
        exact (if_pos hx).trans (if_neg (by omega))
      rw [show bP (nI (w_mean V P x y z) = 0) = nI 1 by rw [hw]; rfl] at hc
      have hx0 := hx
      obtain ⟨z1, z2, z3, z4, z5⟩ := hx
      have kb := K.b
      obtain ⟨f, hf, rfl⟩ := inN_of z1 (by omega)
      obtain ⟨s, hs9, rfl⟩ := inN_of z2 (by omega)
      obtain ⟨n, hn9, rfl⟩ := inN_of z3 (by omega)
      have c1 : cl (nI f) = f := nI_clamp (by omega)
      have c2 : cl (nI s) = s := nI_clamp (by omega)
      have c3 : cl (nI n) = n := nI_clamp (by omega)
      have hn0 : 0 < n := by
        rcases Nat.eq_zero_or_pos n with h | h
        · exact absurd (by rw [h]) z4
        · exact h
      rw [c2, c3] at z5
      refine pair_of H J.h0 hb hz hs (kX0_mean_c (lo := lo) J.h0 J.h0 E K J.h4 J.e4 hk O hp hP hD (congrFun hm 90) (congrFun hm 3) hf hn0 (by omega) z5) hc (Nat.le_of_ble_eq_true rfl) (Nat.le_of_ble_eq_true rfl) (by omega) (by omega) (fun C2 S2 h1 h2 => ?_)
      unfold P_mean at h2
      rw [if_pos hw, c1, c2, c3] at h2
      obtain ⟨S4, rfl, ⟨f1, f2, f3, f4, f5⟩, u1⟩ := h2
      obtain ⟨C1, rfl, hL, w1, w2, w3, w4, -⟩ := h1
      obtain ⟨⟨⟨x1, ⟨x2, x3⟩, x4, x5⟩, y1, y2, y3, y4, y5⟩, fl, -, -, mk⟩ := id J
      have hL0 := hL
      obtain ⟨a1, a2, a3, a4, a5, a6, a7, a8, a9, a10⟩ := hL
      have eA : ∀ k, oA C1 0 k = oA C 0 k := fun k => by
        by_cases h : k = 21
        · subst h
          exact w4
        · exact a3 0 k (by omega) (by omega) (by omega)
      have hm4 : ∀ k, k ≠ 2 → k ≠ 31 → k ≠ 32 → mI (sI S4 2 (nI 0)) k = mI S k := fun k h1 h2 h3 => (sI_ne h1).trans (f1 k h2 h3)
      have J4 : JC g C1 (sI S4 2 (nI 0)) := J.fr ⟨⟨by rw [w2, mI_s], ⟨by rw [a5, x2]; exact (f2 3).symm, by rw [a5, x3]; exact (f2 4).symm⟩, by rw [w3 3 (by omega), hm4 16 (by omega) (by omega) (by omega), x4], by rw [w3 4 (by omega), hm4 17 (by omega) (by omega) (by omega), x5]⟩, y1.c (w3 2 (by omega)) (eA 1) (hm4 10 (by omega) (by omega) (by omega)) (f3 8 (by omega) (by omega) (by omega)), y2.c a9 (f3 5 (by omega) (by omega) (by omega)) (f3 6 (by omega) (by omega) (by omega)) (f4 7), y3.c (eA 21) (w3 22 (by omega)) (f3 35 (by omega) (by omega) (by omega)) (hm4 36 (by omega) (by omega) (by omega)), y4.c (w3 18 (by omega)) (eA 15) (hm4 30 (by omega) (by omega) (by omega)) (f3 28 (by omega) (by omega) (by omega)), ⟨_, u1, mnV_lo O hlo _⟩⟩ a8 w1 (fun j _ => hL0.kd (by omega)) (w3 12 (by omega)) (hm4 37 (by omega) (by omega) (by omega)) (fun i h => f5 i (by omega)) (fun i _ => congrFun (f4 1) i)
      obtain ⟨t1, t2⟩ := J4.tell (n := (mnV V P f s lo n).2) (d := n)
      exact ⟨t1.trans hL0.x30, t2⟩
  · have hw : w_mean V P x y z = 1 := by
      unfold w_mean
      exact if_neg hx
    rw [show bP (nI (w_mean V P x y z) = 0) = nI 0 by rw [hw]; rfl] at hc
    refine pair_of H J.h0 hb hz hs (kX0_mean_a (P := P) J.h0 J.h0 E K hx) hc (Nat.le_of_ble_eq_true rfl) (Nat.le_of_ble_eq_true rfl) (Nat.le_of_ble_eq_true rfl) (Nat.le_of_ble_eq_true rfl) (fun C2 S2 h1 h2 => ?_)
    unfold P_mean at h2
    rw [if_neg (by rw [hw]; decide)] at h2
    subst h1
    subst h2
    exact J.q
/-! beaches, days -/
theorem JX.txt {g : GG} {C C2 : CS} {S S2 : MS} {a b c : Int32} (J : JX g C S) (h : BeR C C2) (hf : FrQ S S2) (h7 : oI C2 0 30 7 = a ∧ mI S2 2 = a) (h3 : oI C2 0 30 3 = b ∧ mI S2 16 = b) (h4 : oI C2 0 30 4 = c ∧ mI S2 17 = c) (h2 : oI C2 0 30 2 = nI 0 ∧ mI S2 10 = nI 0) : JX g C2 S2 := by
  obtain ⟨a1, a2, a3, a4, a5, a6, a7, a8, a9, a10⟩ := h
  obtain ⟨f1, f2, f3, f4, f5, f6⟩ := hf
  obtain ⟨⟨x1, ⟨x2, x3⟩, x4, x5⟩, ⟨p, tp, t1, t2, t3, t4, t5⟩, y2, y3, y4, y5⟩ := J
  have eN : ∀ f, f ≠ 2 → f ≠ 3 → f ≠ 4 → f ≠ 7 → oI C2 0 30 f = oI C 0 30 f := fun f p q r s => a2 0 30 f (by omega) (by omega) (by omega) (by omega)
  have eA : ∀ k, oA C2 0 k = oA C 0 k := fun k => a3 0 k (by omega) (by omega)
  exact ⟨⟨by rw [h7.1, h7.2], ⟨by rw [a5, f2, x2], by rw [a5, f2, x3]⟩, by rw [h3.1, h3.2], by rw [h4.1, h4.2]⟩, ⟨0, tp, Nat.zero_le _, h2.1, h2.2, fun k hk => by rw [eA]; exact t4 k hk, fun k hk => by rw [f4 8 (by omega) (by omega) (by omega)]; exact t5 k hk⟩, y2.c a9 (f4 5 (by omega) (by omega) (by omega)) (f4 6 (by omega) (by omega) (by omega)) (f6 7 (by omega)), y3.c (eA 21) (eN 22 (by omega) (by omega) (by omega) (by omega)) (f4 35 (by omega) (by omega) (by omega)) (f1 36 (by omega) (by omega)), y4.c (eN 18 (by omega) (by omega) (by omega) (by omega)) (eA 15) (f1 30 (by omega) (by omega)) (f4 28 (by omega) (by omega) (by omega)), y5.c (f4 33 (by omega) (by omega) (by omega))⟩
theorem JC.txt {g : GG} {C C2 : CS} {S S2 : MS} (J : JC g C S) (h : BeR C C2) (hf : FrQ S S2) (hX : JX g C2 S2) (hD : DayR g C2 S2 0) : od C2 0 30 = od C 0 30 ∧ JC g C2 S2 := by
  obtain ⟨W, p, E4⟩ := J.e4
  exact ⟨h.x30, J.d0 hX h.2.2.2.2.2.2.2.1 ⟨W, p, E4.kd (h.kd (by omega))⟩ (fun j h1 _ => h.kd (by omega)) (h.2.1 0 30 12 (by omega) (by omega) (by omega) (by omega)) (hf.1 37 (by omega) (by omega)) (fun i h1 h2 => hf.2.2.1 i h1 h2) (fun i h1 h2 => hf.2.2.2.2.1 i h1 h2) hD⟩
theorem pr_beach {g : GG} {ax bm : Nat} {σ : PH} {x : Int32} (jj : JJ g ax bm σ) : PairG Value.int g ax bm miX0_beach miX8_beach [.int x] σ := by
  obtain ⟨C, S, H, hm, rfl, hb, hz, hs, J⟩ := jj
  obtain ⟨V, nf, nd, P, D⟩ := J.dv
  obtain ⟨q, E⟩ := D.1
  obtain ⟨p, tp, a1, a2, a3, a4, a5⟩ := J.1.2.1
  have hc := c_beach (g := g) (x := x) a3 a1 a5
  by_cases hx : inN x (min p 900 + 1)
  · obtain ⟨n, hn, rfl⟩ := inN_of hx (by omega)
    have c1 : cl (nI n) = n := nI_clamp (by omega)
    have hq : q_beach p tp (nI n) = some (pBeach (tp, n)) := by
      unfold q_beach
      rw [if_pos hx, c1]
    rw [hq] at hc
    refine pair_of H J.h0 hb hz hs (kX0_beach_t J.h0 J.h0 E a2 a1 (by omega) a4 hm) hc (Nat.le_of_ble_eq_true rfl) (Nat.le_of_ble_eq_true rfl) (Nat.le_of_ble_eq_true rfl) (Nat.le_of_ble_eq_true rfl) (fun C2 S2 h1 h2 => ?_)
    cases hr : pBeach (tp, n) with
    | ok B =>
      rw [hr] at h1 h2
      obtain ⟨b1, -, ⟨bb, q2, b3⟩, b4, b5, b6, b7, b8, b9, b10⟩ := h1
      obtain ⟨f1, ⟨n1, n2, n3, n4⟩, -, f4, f5, f6, f7⟩ := h2
      refine J.txt b1 f1 (J.1.txt b1 f1 ⟨b10, f4⟩ ⟨b8, f5⟩ ⟨b9, f6⟩ ⟨b7, f7⟩) ⟨setS B.W 9 bb, B.nf, B.nd, (0, fun _ _ => 0), ⟨q2, b3⟩, ?_, b5.1.s9, fun f hf => ?_, b4, ⟨fun i hi => ⟨?_, ?_⟩, fun i hi => ⟨?_, ?_⟩⟩, Or.inl ⟨rfl, b6⟩, ⟨?_, fun k hk => absurd hk (Nat.not_lt_zero _)⟩, Nat.zero_le _, fun k hk => absurd hk (Nat.not_lt_zero _)⟩
      · rw [slA0]
        exact EncA.s9 n1
      · show vt B.W 4 f ≤ _
        rw [(b5.2.1 f).2]
        exact Nat.zero_le _
      · rw [slB0]
        exact n3 i hi
      · exact b5.2.2.2.2.2.2.2.1 i hi
      · rw [slB0]
        exact n4 i hi
      · exact b5.2.2.2.2.2.2.2.2.1 i hi
      · rw [slA0]
        exact n2.trans (by decide +kernel)
    | error f =>
      rw [hr] at h1 h2
      obtain ⟨b1, -, b3, b4, b5, b6, b7, b8, b9, b10⟩ := h1
      obtain ⟨f1, f2, f3, f4, f5, f6, f7, -⟩ := h2
      refine J.txt b1 f1 (J.1.txt b1 f1 ⟨b10, f4⟩ ⟨b8, f5⟩ ⟨b9, f6⟩ ⟨b7, f7⟩) (D.sl b3 (fun a e z => by rw [b6]; exact z) (congrFun b4 0) (fun k hk => ?_) (fun k hk => ?_))
      · rw [slA0, slA0]
        exact f2 k hk
      · rw [slB0, slB0]
        exact f3 k hk
  · have hq : q_beach p tp x = none := by
      unfold q_beach
      rw [if_neg hx]
    rw [hq] at hc
    exact pair_of H J.h0 hb hz hs (kX0_beach_f J.h0 a2 a1 hx) hc (Nat.le_of_ble_eq_true rfl) (Nat.le_of_ble_eq_true rfl) (Nat.le_of_ble_eq_true rfl) (Nat.le_of_ble_eq_true rfl) (fun C2 S2 h1 h2 => by subst h1; rw [show S2 = sI S 2 (nI 1) from h2]; exact J.q)
theorem EncA.c9 {a a2 : Nat → Int32} {V : VS} (h7 : ∀ d, d < 8 → vt V 7 d ≤ 60) (E : EncA a V) (h : ∀ k, k < 1030 → k ≠ 9 → a2 k = a k) : EncA a2 V := by
  obtain ⟨e1, e2, e3, e4⟩ := E
  refine ⟨fun k hk => (h _ (by omega) (by omega)).trans (e1 k hk), fun f hf j hj => (h _ (by omega) (by omega)).trans (e2 f hf j hj), fun d hd j hj => (h _ (by omega) (by omega)).trans (e3 d hd j hj), fun d hd k hk j hj => ?_⟩
  have hn := h7 d hd
  exact (h _ (by omega) (by omega)).trans (e4 d hd k hk j hj)
theorem pr_days {g : GG} {ax bm : Nat} {σ : PH} {x : Int32} (jj : JJ g ax bm σ) : PairG Value.int g ax bm miX0_days miX8_days [.int x] σ := by
  obtain ⟨C, S, H, hm, rfl, hb, hz, hs, J⟩ := jj
  obtain ⟨V, nf, nd, P, D⟩ := J.dv
  obtain ⟨q, E⟩ := D.1
  have EA := D.2.1
  have NA := D.2.2.2.2.2.1
  rw [slA0] at EA
  rw [slB0] at NA
  have K := D.2.2.1
  have kb := K.b
  obtain ⟨p, tp, a1, a2, a3, a4, a5⟩ := J.1.2.1
  have OH : OkH (hsV V nf nd) := ⟨kb.1, kb.2.1, kb.2.2.1, kb.2.2.2.1, fun i hi => (NA.1 i hi).2, fun i hi => (NA.2 i hi).2⟩
  have EZ : EncZ S (hsV V nf nd) := ⟨EA.1 0 (by omega), EA.1 1 (by omega), EA.1 2 (by omega), fun i hi => by rw [Nat.zero_add]; exact NA.1 i hi, fun i hi => NA.2 i hi⟩
  have hc := c_days (g := g) (x := x) a3 a1 a5 EZ OH
  by_cases hx : inN x (min p 300 + 1)
  · obtain ⟨n, hn, rfl⟩ := inN_of hx (by omega)
    have c1 : cl (nI n) = n := nI_clamp (by omega)
    have hq : q_days p tp (hsV V nf nd) (nI n) = some (pDays (tp, n) (hsV V nf nd)) := by
      unfold q_days
      rw [if_pos hx, c1]
    rw [hq] at hc
    refine pair_of H J.h0 hb hz hs (kX0_days_t J.h0 J.h0 E a2 a1 (by omega) (by omega) a4 hm D.2.2.2.2.1 OH) hc (Nat.le_of_ble_eq_true rfl) (Nat.le_of_ble_eq_true rfl) (Nat.le_of_ble_eq_true rfl) (Nat.le_of_ble_eq_true rfl) (fun C2 S2 h1 h2 => ?_)
    cases hr : pDays (tp, n) (hsV V nf nd) with
    | ok B =>
      rw [hr] at h1 h2
      obtain ⟨b1, -, b3, ⟨pa, b4, b5⟩, b6, b7, b8, b9, b10, b11, b12⟩ := h1
      obtain ⟨f1, f2, f3, f4, -, -, f5, f6, f7, f8⟩ := h2
      refine J.txt b1 f1 (J.1.txt b1 f1 ⟨b12, f5⟩ ⟨b10, f6⟩ ⟨b11, f7⟩ ⟨b9, f8⟩) ⟨V, nf, nd, pgD B, ⟨q, b3⟩, ?_, K, D.2.2.2.1, D.2.2.2.2.1.mv E b3 rfl b1.2.2.2.2.2.2.2.2.2 rfl rfl, ?_, Or.inr ⟨Nat.succ_pos _, pa, b4, b5⟩, ?_, b7.P b8⟩
      · rw [slA0]
        exact EncA.c9 (fun d hd => K.n hd) EA f2
      · rw [slB0]
        exact NA.low K f3
      · rw [slA0]
        exact f4
    | error f =>
      rw [hr] at h1 h2
      obtain ⟨b1, -, b3, b4, b5, b7, b8, b9, b10⟩ := h1
      obtain ⟨f1, f2, f3, f4, f5, f6, f7, -⟩ := h2
      refine J.txt b1 f1 (J.1.txt b1 f1 ⟨b10, f4⟩ ⟨b8, f5⟩ ⟨b9, f6⟩ ⟨b7, f7⟩) (D.sl b3 b1.2.2.2.2.2.2.2.2.2 (congrFun b4 0) (fun k hk => ?_) (fun k hk => ?_))
      · rw [slA0, slA0]
        exact f2 k hk
      · rw [slB0, slB0]
        exact f3 k hk
  · have hq : q_days p tp (hsV V nf nd) x = none := by
      unfold q_days
      rw [if_neg hx]
    rw [hq] at hc
    exact pair_of H J.h0 hb hz hs (kX0_days_f J.h0 a2 a1 hx) hc (Nat.le_of_ble_eq_true rfl) (Nat.le_of_ble_eq_true rfl) (Nat.le_of_ble_eq_true rfl) (Nat.le_of_ble_eq_true rfl) (fun C2 S2 h1 h2 => by subst h1; rw [show S2 = sI S 2 (nI 1) from h2]; exact J.q)
