/-! PAIRS: trays, texts, rounds, fractions (by hand) -/
set_option maxRecDepth 100000
theorem pr_tray {g : GG} {ax bm : Nat} {σ : PH} {x y z : Int32} (jj : JJ g ax bm σ) : PairG Value.int g ax bm miX0_tray miX8_tray [.int x, .int y, .int z] σ := by
  obtain ⟨C, S, H, hm, rfl, hb, hz, hs, J⟩ := jj
  obtain ⟨T, ET, ES, OT⟩ := J.1.2.2.1
  exact pair_of H J.h0 hb hz hs (kX0_tray J.h0 ET) (c_tray ES OT.1) (Nat.le_of_ble_eq_true rfl) (Nat.le_of_ble_eq_true rfl) (Nat.le_of_ble_eq_true rfl) (Nat.le_of_ble_eq_true rfl) (fun C2 S2 h1 h2 => J.tr h1 h2.1 h2.2.1 h2.2.2 OT.tray)
theorem pr_write {g : GG} {ax bm : Nat} {σ : PH} {x y : Int32} {v : Int64} (jj : JJ g ax bm σ) : PairG Value.int g ax bm miX0_write miX8_write [.int x, .int y, .long v] σ := by
  obtain ⟨C, S, H, hm, rfl, hb, hz, hs, J⟩ := jj
  obtain ⟨T, ET, ES, OT⟩ := J.1.2.2.1
  exact pair_of H J.h0 hb hz hs (kX0_write J.h0 ET OT.1) (c_write ES OT.1) (Nat.le_of_ble_eq_true rfl) (Nat.le_of_ble_eq_true rfl) (Nat.le_of_ble_eq_true rfl) (Nat.le_of_ble_eq_true rfl) (fun C2 S2 h1 h2 => J.tr h1.n h2.1 h2.2.1 h2.2.2 OT.write)
/-! texts -/
theorem i8_all : ∀ c, c < 256 → (nI c).toInt8.toBitVec = BitVec.ofNat 8 c := by decide +kernel
theorem b8_of (w : Int32) : ∃ c, c < 256 ∧ w.toInt8.toInt32 = b8 c := by
  refine ⟨w.toInt8.toBitVec.toNat, w.toInt8.toBitVec.isLt, ?_⟩
  have h1 := i8_all w.toInt8.toBitVec.toNat w.toInt8.toBitVec.isLt
  have h2 : (nI w.toInt8.toBitVec.toNat).toInt8 = w.toInt8 := by
    apply Int8.toBitVec_inj.mp
    rw [h1]
    simp
  unfold b8
  rw [h2]
theorem JC.lay {g : GG} {C : CS} {S : MS} {p : Nat} {z : Int32} (J : JC g C S) (hp : oI C 0 30 2 = nI p) (hp9 : p < 900) (hz : ∃ c, c < 256 ∧ z = b8 c) : JC g (uI (uA C 0 1 p z) 0 30 2 (nI (p + 1))) (sI (sA S 8 p z) 10 (nI (p + 1))) := by
  obtain ⟨c, hc, rfl⟩ := hz
  obtain ⟨⟨⟨x1, ⟨x2, x3⟩, x4, x5⟩, ⟨p0, tp, a1, a2, a3, a4, a5⟩, y2, y3, y4, y5⟩, fl, ⟨W, q, E4⟩, -, mk⟩ := id J
  have kK : ∀ j, KD j C (uI (uA C 0 1 p (b8 c)) 0 30 2 (nI (p + 1))) := fun j => KD.trans (C2 := uA C 0 1 p (b8 c)) ⟨rfl, rfl, rfl, fun i h1 _ => oA_ne2 C _ (fun z _ => by omega), fun _ _ => rfl, fun i d h _ => ⟨oA_ne2 C _ (fun z _ => by omega), rfl⟩, fun _ _ h => h⟩ KD.uI0
  have eN : ∀ f, f ≠ 2 → oI (uI (uA C 0 1 p (b8 c)) 0 30 2 (nI (p + 1))) 0 30 f = oI C 0 30 f := fun f hf => oI_ne (uA C 0 1 p (b8 c)) _ (fun _ _ z => hf z)
  have eA : ∀ k, k ≠ 1 → oA (uI (uA C 0 1 p (b8 c)) 0 30 2 (nI (p + 1))) 0 k = oA C 0 k := fun k hk => oA_ne2 C (b8 c) (fun _ z => hk z)
  have mN : ∀ k, k ≠ 10 → mI (sI (sA S 8 p (b8 c)) 10 (nI (p + 1))) k = mI S k := fun k hk => sI_ne (S := sA S 8 p (b8 c)) hk
  have mAn : ∀ k, k ≠ 8 → mA (sI (sA S 8 p (b8 c)) 10 (nI (p + 1))) k = mA S k := fun k hk => va_up_ne _ _ hk
  refine J.fr ⟨⟨by rw [eN 7 (by omega), mN 2 (by omega), x1], ⟨x2, x3⟩, by rw [eN 3 (by omega), mN 16 (by omega), x4], by rw [eN 4 (by omega), mN 17 (by omega), x5]⟩, ⟨p + 1, va_up tp p c, hp9, oI_eq _ 0 30 2 _, mI_s, fun k hk => ?_, fun k hk => ?_⟩, y2.c rfl (mAn 5 (by omega)) (mAn 6 (by omega)) rfl, y3.c (eA 21 (by omega)) (eN 22 (by omega)) (mAn 35 (by omega)) (mN 36 (by omega)), y4.c (eN 18 (by omega)) (eA 15 (by omega)) (mN 30 (by omega)) (mAn 28 (by omega)), y5.c (mAn 33 (by omega))⟩ rfl ⟨W, q, E4.kd (kK 4)⟩ (fun j _ => kK j) (eN 12 (by omega)) (mN 37 (by omega)) (fun i _ => congrFun (mAn 0 (by omega)) i) (fun _ _ => rfl)
  · by_cases h : k = p
    · subst h
      rw [va_up_self]
      exact ⟨oA_eq C 0 1 k (b8 c), hc⟩
    · rw [va_up_ne _ _ h]
      exact ⟨(oA_ne C (b8 c) (fun _ _ z => h z)).trans (a4 k hk).1, (a4 k hk).2⟩
  · have e8 : mA (sI (sA S 8 p (b8 c)) 10 (nI (p + 1))) 8 = upd (mA S 8) p (b8 c) := va_up_self S.2.2.1 8 _
    rw [e8]
    by_cases h : k = p
    · subst h
      rw [va_up_self, upd_eq]
      exact ⟨rfl, hc⟩
    · rw [va_up_ne _ _ h, upd_ne h]
      exact a5 k hk
theorem JC.lay4 {g : GG} {C : CS} {S : MS} {p : Nat} {v : Int32} (J : JC g C S) (hp : oI C 0 30 2 = nI p) (hp9 : p + 4 ≤ 900) : ∀ j, j ≤ 4 → JC g (lay4 C v p j) (fourS S v p j)
  | 0, _ => J
  | j + 1, h => (JC.lay4 J hp hp9 j (by omega)).lay (lay4_2 hp j) (by omega) (b8_of _)
theorem JC.feed {g : GG} {C : CS} {S : MS} {p : Nat} {v1 v2 v3 v4 v5 : Int32} (J : JC g C S) (hp : oI C 0 30 2 = nI p) (hp9 : p + 20 ≤ 900) : od (feedC C v1 v2 v3 v4 v5 p) 0 30 = od C 0 30 ∧ JC g (feedC C v1 v2 v3 v4 v5 p) (feedS S v1 v2 v3 v4 v5 p) := by
  have J1 := J.lay4 (v := v1) hp (by omega) 4 (Nat.le_refl _)
  have p1 := lay4_2 (v := v1) hp 4
  have J2 := J1.lay4 (v := v2) p1 (by omega) 4 (Nat.le_refl _)
  have p2 := lay4_2 (v := v2) p1 4
  have J3 := J2.lay4 (v := v3) p2 (by omega) 4 (Nat.le_refl _)
  have p3 := lay4_2 (v := v3) p2 4
  have J4 := J3.lay4 (v := v4) p3 (by omega) 4 (Nat.le_refl _)
  have p4 := lay4_2 (v := v4) p3 4
  have J5 := J4.lay4 (v := v5) p4 (by omega) 4 (Nat.le_refl _)
  exact ⟨by unfold feedC; rw [lay4_od, lay4_od, lay4_od, lay4_od, lay4_od], J5⟩
theorem pr_feed {g : GG} {ax bm : Nat} {σ : PH} {x y z u w : Int32} (jj : JJ g ax bm σ) : PairG Value.int g ax bm miX0_feed miX8_feed [.int x, .int y, .int z, .int u, .int w] σ := by
  obtain ⟨C, S, H, hm, rfl, hb, hz, hs, J⟩ := jj
  obtain ⟨p, tp, a1, a2, a3, a4, a5⟩ := J.1.2.1
  refine pair_of H J.h0 hb hz hs (kX0_feed J.h0 a2 a1) ((c_feed a3 a1).toP (P := fun S2 => S2 = if p + 20 ≤ 900 then feedS S x y z u w p else S) rfl) (Nat.le_of_ble_eq_true rfl) (Nat.le_of_ble_eq_true rfl) (Nat.le_of_ble_eq_true rfl) (Nat.le_of_ble_eq_true rfl) (fun C2 S2 h1 h2 => ?_)
  subst h1
  subst h2
  by_cases h : p + 20 ≤ 900
  · rw [if_pos h, if_pos h]
    exact J.feed a2 h
  · rw [if_neg h, if_neg h]
    exact ⟨rfl, J⟩
/-! rounds -/
theorem JC.bst {g : GG} {C C2 : CS} {S S2 : MS} {V : VS} {x : Int32} (J : JC g C S) (h8 : vs V 2 ≤ 8) (h1 : BstX C C2 V x) (h2 : P_bst V S S2 x) : od C2 0 30 = od C 0 30 ∧ JC g C2 S2 := by
  unfold BstX at h1
  unfold P_bst at h2
  by_cases hx : inN x (vs V 1)
  · rw [if_pos hx] at h1 h2
    obtain ⟨⟨r1, r2, r3, r4, r5, r6, r7, r8, r9, r10, r11⟩, t1, t2, t3, t4⟩ := h1
    obtain ⟨⟨f1, f2, f3, f4⟩, u1, u2, u3, u4⟩ := h2
    obtain ⟨⟨⟨x1, ⟨x2, x3⟩, x4, x5⟩, y1, y2, y3, y4, y5⟩, fl, ⟨W, q, E4⟩, -, mk⟩ := id J
    have kK : ∀ j, KD j C C2 := fun j => ⟨by rw [r6], by rw [r7], funext fun f => r2 3 j f (by omega), fun k k1 k2 => r3 k j (by omega), fun d _ => funext fun f => r2 5 _ f (by omega), fun k d hk _ => ⟨r3 k _ (by omega), by rw [r4]⟩, fun a e h => by rw [r11]; exact h⟩
    have eN : ∀ f, f ≠ 7 → f ≠ 16 → f ≠ 17 → f ≠ 18 → oI C2 0 30 f = oI C 0 30 f := fun f a b c d => r2 0 30 f (by omega)
    have eA : ∀ k, k ≠ 13 → k ≠ 14 → k ≠ 15 → oA C2 0 k = oA C 0 k := fun k a b c => r3 0 k (by omega)
    refine ⟨by rw [r1], J.fr ⟨⟨by rw [t1, u1], ⟨by rw [r5, f2, x2], by rw [r5, f2, x3]⟩, by rw [eN 3 (by omega) (by omega) (by omega) (by omega), f1 16 (by omega) (by omega) (by omega), x4], by rw [eN 4 (by omega) (by omega) (by omega) (by omega), f1 17 (by omega) (by omega) (by omega), x5]⟩, y1.c (eN 2 (by omega) (by omega) (by omega) (by omega)) (eA 1 (by omega) (by omega) (by omega)) (f1 10 (by omega) (by omega) (by omega)) (f3 8 (by omega) (by omega) (by omega) (by omega)), y2.c r9 (f3 5 (by omega) (by omega) (by omega) (by omega)) (f3 6 (by omega) (by omega) (by omega) (by omega)) (f4 7), y3.c (eA 21 (by omega) (by omega) (by omega)) (eN 22 (by omega) (by omega) (by omega) (by omega)) (f3 35 (by omega) (by omega) (by omega) (by omega)) (f1 36 (by omega) (by omega) (by omega)), ⟨(rdB V (cl x) (vs V 3)).2.1, (rdB V (cl x) (vs V 3)).2.2, t3, t2, u3, fun k hk => ⟨rdB_8 h8 k, t4 k hk, u4 k hk⟩⟩, y5.c (f3 33 (by omega) (by omega) (by omega) (by omega))⟩ r8 ⟨W, q, E4.kd (kK 4)⟩ (fun j _ => kK j) (eN 12 (by omega) (by omega) (by omega) (by omega)) (f1 37 (by omega) (by omega) (by omega)) (fun i _ => congrFun (f3 0 (by omega) (by omega) (by omega) (by omega)) i) (fun i _ => congrFun (f4 1) i)⟩
  · rw [if_neg hx] at h1 h2
    subst h1
    subst h2
    exact J.q
theorem JC.lat {g : GG} {C C2 : CS} {S S2 : MS} {V : VS} {x y : Int32} (J : JC g C S) (h1 : LatX C C2 V x y) (h2 : P_lat V S S2 x y) : od C2 0 30 = od C 0 30 ∧ JC g C2 S2 := by
  unfold LatX at h1
  unfold P_lat at h2
  by_cases hx : inN x (vs V 1) ∧ inN y 241
  · rw [if_pos hx] at h1 h2
    obtain ⟨⟨r1, r2, r3, r4, r5, r6, r7, r8, r9, r10, r11⟩, t1, t2, t3⟩ := h1
    obtain ⟨⟨f1, f2, f3, f4⟩, u1, u2, u3⟩ := h2
    obtain ⟨⟨⟨x1, ⟨x2, x3⟩, x4, x5⟩, y1, y2, y3, y4, y5⟩, fl, ⟨W, q, E4⟩, -, mk⟩ := id J
    have kK : ∀ j, KD j C C2 := fun j => ⟨by rw [r6], by rw [r7], funext fun f => r2 3 j f (by omega), fun k k1 k2 => r3 k j (by omega), fun d _ => funext fun f => r2 5 _ f (by omega), fun k d hk _ => ⟨r3 k _ (by omega), by rw [r4]⟩, fun a e h => by rw [r11]; exact h⟩
    have eN : ∀ f, f ≠ 7 → f ≠ 16 → f ≠ 17 → f ≠ 18 → oI C2 0 30 f = oI C 0 30 f := fun f a b c d => r2 0 30 f (by omega)
    have eA : ∀ k, k ≠ 13 → k ≠ 14 → k ≠ 15 → oA C2 0 k = oA C 0 k := fun k a b c => r3 0 k (by omega)
    refine ⟨by rw [r1], J.fr ⟨⟨by rw [t1, u1], ⟨by rw [r5, f2, x2], by rw [r5, f2, x3]⟩, by rw [eN 3 (by omega) (by omega) (by omega) (by omega), f1 16 (by omega) (by omega) (by omega), x4], by rw [eN 4 (by omega) (by omega) (by omega) (by omega), f1 17 (by omega) (by omega) (by omega), x5]⟩, y1.c (eN 2 (by omega) (by omega) (by omega) (by omega)) (eA 1 (by omega) (by omega) (by omega)) (f1 10 (by omega) (by omega) (by omega)) (f3 8 (by omega) (by omega) (by omega) (by omega)), y2.c r9 (f3 5 (by omega) (by omega) (by omega) (by omega)) (f3 6 (by omega) (by omega) (by omega) (by omega)) (f4 7), y3.c (eA 21 (by omega) (by omega) (by omega)) (eN 22 (by omega) (by omega) (by omega) (by omega)) (f3 35 (by omega) (by omega) (by omega) (by omega)) (f1 36 (by omega) (by omega) (by omega)), y4.c t2 t3 u2 u3, y5.c (f3 33 (by omega) (by omega) (by omega) (by omega))⟩ r8 ⟨W, q, E4.kd (kK 4)⟩ (fun j _ => kK j) (eN 12 (by omega) (by omega) (by omega) (by omega)) (f1 37 (by omega) (by omega) (by omega)) (fun i _ => congrFun (f3 0 (by omega) (by omega) (by omega) (by omega)) i) (fun i _ => congrFun (f4 1) i)⟩
  · rw [if_neg hx] at h1 h2
    subst h1
    subst h2
    exact J.q
theorem pr_best {g : GG} {ax bm : Nat} {σ : PH} {x : Int32} (jj : JJ g ax bm σ) : PairG Value.int g ax bm miX0_best miX8_best [.int x] σ := by
  obtain ⟨C, S, H, hm, rfl, hb, hz, hs, J⟩ := jj
  obtain ⟨V, nf, nd, P, D⟩ := J.dv
  obtain ⟨q, E⟩ := D.1
  have EA := D.2.1
  have K := D.2.2.1
  rw [slA0] at EA
  exact pair_of H J.h0 hb hz hs (kX0_best J.h0 J.h0 E K) (c_best EA K) (Nat.le_of_ble_eq_true rfl) (Nat.le_of_ble_eq_true rfl) (Nat.le_of_ble_eq_true rfl) (Nat.le_of_ble_eq_true rfl) (fun C2 S2 h1 h2 => J.bst K.b.2.2.2.1 h1 h2)
theorem pr_lateness {g : GG} {ax bm : Nat} {σ : PH} {x y : Int32} (jj : JJ g ax bm σ) : PairG Value.int g ax bm miX0_lateness miX8_lateness [.int x, .int y] σ := by
  obtain ⟨C, S, H, hm, rfl, hb, hz, hs, J⟩ := jj
  obtain ⟨V, nf, nd, P, D⟩ := J.dv
  obtain ⟨q, E⟩ := D.1
  have EA := D.2.1
  have K := D.2.2.1
  rw [slA0] at EA
  exact pair_of H J.h0 hb hz hs (kX0_lateness J.h0 J.h0 E K) (c_lateness EA K) (Nat.le_of_ble_eq_true rfl) (Nat.le_of_ble_eq_true rfl) (Nat.le_of_ble_eq_true rfl) (Nat.le_of_ble_eq_true rfl) (fun C2 S2 h1 h2 => J.lat h1 h2)
/-! fractions -/
theorem bP_z {n : Nat} (h : n = 0) : bP (nI n = 0) = bP (n = 0) := by
  subst h
  rfl
theorem pr_odds {g : GG} {ax bm : Nat} {σ : PH} {x y z : Int32} (jj : JJ g ax bm σ) : PairG Value.int g ax bm miX0_odds miX8_odds [.int x, .int y, .int z] σ := by
  obtain ⟨C, S, H, hm, rfl, hb, hz, hs, J⟩ := jj
  obtain ⟨V, nf, nd, P, D⟩ := J.dv
  obtain ⟨q, E⟩ := D.1
  have EA := D.2.1
  have K := D.2.2.1
  rw [slA0] at EA
  have hw : w_odds V x y z < 100 := by
    unfold w_odds wlV wfV
    repeat' split
    all_goals omega
  have e : bP (nI (w_odds V x y z) = 0) = bP (w_odds V x y z = 0) := by
    unfold bP
    by_cases h : w_odds V x y z = 0
    · rw [if_pos h, h, if_pos (show nI 0 = 0 by decide)]
    · rw [if_neg h, if_neg (nI_ne0 (by omega) (by omega))]
  have hc := c_odds (g := g) (x := x) (y := y) (z := z) EA K
  rw [e] at hc
  refine pair_of H J.h0 hb hz hs (kX0_odds J.h0 J.h0 E K) (hc.toP (P := fun S2 => S2 = oddsS S V x y z) rfl) (Nat.le_of_ble_eq_true rfl) (Nat.le_of_ble_eq_true rfl) (Nat.le_of_ble_eq_true rfl) (Nat.le_of_ble_eq_true rfl) (fun C2 S2 h1 h2 => ?_)
  subst h1
  subst h2
  unfold oddsS
  by_cases h : w_odds V x y z = 0
  · rw [if_pos h, if_pos h]
    exact J.q.2.tell
  · rw [if_neg h, if_neg h]
    exact J.q
