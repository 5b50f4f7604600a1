set_option maxRecDepth 100000
/-- what live may change -/
def FrV (S S2 : MS) : Prop := (∀ k, k ≠ 2 → k ≠ 31 → k ≠ 32 → k ≠ 36 → mI S2 k = mI S k) ∧ (∀ k, mL S2 k = mL S k) ∧ (∀ k, k ≠ 0 → k ≠ 33 → k ≠ 34 → k ≠ 35 → mA S2 k = mA S k) ∧ (∀ k, mB S2 k = mB S k) ∧ (∀ i, 1030 ≤ i → mA S2 0 i = mA S 0 i) ∧ mA S2 0 9 = mA S 0 9
/-- the counts are told -/
def ToldS (S S2 : MS) (te : Nat → Nat) (m : Nat) : Prop := (∀ k, mI S2 k = mI S k) ∧ (∀ k, mL S2 k = mL S k) ∧ (∀ k, k ≠ 35 → mA S2 k = mA S k) ∧ (∀ k, mB S2 k = mB S k) ∧ ∀ i, i < m → mA S2 35 i = nI (te i)
theorem ToldS.put {S S2 : MS} {te : Nat → Nat} {m : Nat} (h : ToldS S S2 te m) : ToldS S (sA S2 35 m (nI (te m))) te (m + 1) :=
  ⟨h.1, h.2.1, fun k hk => by
    rw [← h.2.2.1 k hk]
    show va_up S2.2.2.1 35 _ k = _
    unfold va_up; rw [if_neg hk]; rfl, h.2.2.2.1, fun i hi => by
    show upd (mA S2 35) m (nI (te m)) i = _
    unfold upd
    by_cases hm : i = m
    · rw [if_pos hm, hm]
    · rw [if_neg hm]; exact h.2.2.2.2 i (by omega)⟩
theorem live_ok {S S1 S2 : MS} {R : RS} {lo : Nat → Nat} {n : Nat} (hF : FrR S S1) (hE : EncR S1 R) (hL : EncL S1 lo) (h32 : mI S1 32 = nI n) (hT : ToldS S1 S2 (cnt R) 5) :
    FrV S (sI (sI S2 36 (nI 1)) 2 (nI 0)) ∧ EncR (sI (sI S2 36 (nI 1)) 2 (nI 0)) R ∧ EncL (sI (sI S2 36 (nI 1)) 2 (nI 0)) lo ∧ (∀ i, i < 5 → mA (sI (sI S2 36 (nI 1)) 2 (nI 0)) 35 i = nI (cnt R i)) ∧ mI (sI (sI S2 36 (nI 1)) 2 (nI 0)) 36 = nI 1 ∧ mI (sI (sI S2 36 (nI 1)) 2 (nI 0)) 2 = nI 0 := by
  obtain ⟨t1, t2, t3, t4, t5⟩ := hT
  refine ⟨⟨fun k h2 h31 h32 h36 => ?_, fun k => (t2 k).trans (hF.2.1 k), fun k h0 h33 h34 h35 => (t3 k h35).trans (hF.2.2.1 k h0 h33 h34), fun k => (t4 k).trans (hF.2.2.2.1 k), fun i hi => ?_, ?_⟩, ⟨?_, (t1 31).trans hE.2.1, fun i hi => ?_⟩, hL.of (t3 33 (by omega)), t5, rfl, rfl⟩
  · show va_up (va_up S2.1 36 (nI 1)) 2 (nI 0) k = _
    unfold va_up
    rw [if_neg h2, if_neg h36]
    exact (t1 k).trans (hF.1 k h31 h32)
  · show mA S2 0 i = _
    rw [t3 0 (by omega)]; exact hF.2.2.2.2.1 i hi
  · show mA S2 0 9 = _
    rw [t3 0 (by omega)]; exact hF.2.2.2.2.2
  · show EncA (mA S2 0) _
    rw [t3 0 (by omega)]; exact hE.1
  · show mA S2 34 i = _
    rw [t3 34 (by omega)]; exact hE.2.2 i hi
set_option maxHeartbeats 2000000 in
theorem c_live1 {g : GG} {S : MS} {seed : Nat} {P : PG} {lo : Nat → Nat} {V : VS} (E : Enc S V) (K : OkV V) (hkep : KepV V) (EP : EncP S P) (OP : OkP (vs V 0) (vs V 1) (vs V 2) P) (EL : EncL S lo) (hlo : ∀ o, lo o < 2147483648) (hp0 : 0 < pn P) (hse : seed < 10000) : Mp g miX8_live 9 [.int (nI seed)] (S) (some (.int (nI ((livesV V P lo seed).2.2)))) (fun S2 => FrV S S2 ∧ EncR S2 (livesV V P lo seed).1 ∧ EncL S2 (livesV V P lo seed).2.1 ∧ (∀ i, i < 5 → mA S2 35 i = nI (cnt (livesV V P lo seed).1 i)) ∧ mI S2 36 = nI 1 ∧ mI S2 2 = nI 0) := by
  refine Mp.start (fun b => [some (.ref b), some (.int (nI seed)), none]) plX8 rfl (fun b => (Nat.le_of_ble_eq_true rfl)) (fun b => rfl) ?_
  intro σ b
  have kb := K.b
  have hse2 : seed < 65536 := by omega
  have hpn := OP.1
  obtain ⟨n, hn⟩ : ∃ n, pn P = n + 1 := ⟨pn P - 1, by omega⟩
  have e9 := EP.1
  rw [hn, nI_dn] at e9
  refine w_iload_n dX8_live_0 rfl ?_
  refine w_i2l dX8_live_1 rfl ?_
  refine w_lconst (v := 0) dX8_live_2 rfl ?_
  refine w_ldc2 dX8_live_3 q2243 ?_
  refine s_calli3 (mi := miX8_isFrom) dX8_live_6 q1902 okX8_isFrom (Nat.le_of_ble_eq_true rfl) (c_isFrom0 (m := 9999) (by first | assumption | omega)) (Nat.le_of_ble_eq_true rfl) ?_
  refine w_ifB_ne dX8_live_9 rfl (fun h_9 => ?_) (fun h_9 => ?_)
  · refine w_aload_n dX8_live_18 rfl ?_
    refine mg_at dX8_live_19 rfl ?_
    refine w_bipush (v := nI 9) dX8_live_22 kb_9 ?_
    refine ma_at dX8_live_24 (by omega) ?_
    rw [e9]
    refine w_iconst (v := (-1)) dX8_live_25 ki_m1 ?_
    refine w_icmp_ne dX8_live_26 rfl (fun h_26 => ?_) (fun h_26 => ?_)
    · refine w_aload_n dX8_live_36 rfl ?_
      refine w_iload_n dX8_live_37 rfl ?_
      refine m_callPv1 (mi := miX8_lives) dX8_live_38 q2244 okX8_lives rfl (Nat.le_of_ble_eq_true rfl) (c_lives E K (by first | assumption | omega) (by first | assumption | omega) (by first | assumption | omega) (by first | assumption | omega) (by first | assumption | omega) (by first | assumption | omega) hse2) (Nat.le_of_ble_eq_true rfl) (fun S38 hS38 => ?_)
      obtain ⟨hF, hE, hL, h32⟩ := hS38
      refine w_iconst (v := nI 0) dX8_live_41 ki_0 ?_
      refine w_istore_n dX8_live_42 rfl (Nat.le_of_ble_eq_true rfl) ls_3_2 ?_
      have lp : ∀ (j9 : Nat) (j : Nat) (S5 : MS), 5 - j < j9 → j ≤ 5 → ToldS S38 S5 (cnt (livesV V P lo seed).1) j → Wp g (mtP g miX8_live 9 σ b (some (.int (nI ((livesV V P lo seed).2.2)))) (fun S2 => FrV S S2 ∧ EncR S2 (livesV V P lo seed).1 ∧ EncL S2 (livesV V P lo seed).2.1 ∧ (∀ i, i < 5 → mA S2 35 i = nI (cnt (livesV V P lo seed).1 i)) ∧ mI S2 36 = nI 1 ∧ mI S2 2 = nI 0)) 0 0 43 [some (.ref b), some (.int (nI seed)), some (.int (nI j))] [] (sM g σ b (S5)) := by
        intro j9
        induction j9 with
        | zero => intro j S5 hmu hj hT; exact absurd hmu (Nat.not_lt_zero _)
        | succ j9 ih_lp =>
          intro j S5 hmu hj hT
          refine w_iload_n dX8_live_43 rfl ?_
          refine w_iconst (v := nI 5) dX8_live_44 ki_5 ?_
          refine w_icmpN_ge dX8_live_45 rfl (by omega) (by omega) (fun h_45 => ?_) (fun h_45 => ?_)
          · obtain rfl : j = 5 := by omega
            refine w_aload_n dX8_live_66 rfl ?_
            refine w_iconst (v := nI 1) dX8_live_67 ki_1 ?_
            refine mp_isTold (by first | exact narr0 | exact narr1 | exact narrB) (by first | exact fitz0 | exact fitz1) dX8_live_68 rfl ?_
            refine w_aload_n dX8_live_71 rfl ?_
            refine w_aload_n dX8_live_72 rfl ?_
            refine mg_ranSteps dX8_live_73 rfl ?_
            refine w_topN (n := (livesV V P lo seed).2.2) ((hT.1 32).trans h32) ?_
            refine m_calli1 (mi := miX8_gives) dX8_live_76 q1839 okX8_gives rfl (Nat.le_of_ble_eq_true rfl) c_gives (Nat.le_of_ble_eq_true rfl) ?_
            exact w_iret dX8_live_79 rfl ⟨by rfl, _, by exact live_ok hF hE hL h32 hT, rfl⟩
          · refine w_aload_n dX8_live_48 rfl ?_
            refine mg_told0 dX8_live_49 rfl ?_
            refine w_iload_n dX8_live_52 rfl ?_
            refine w_aload_n dX8_live_53 rfl ?_
            refine mg_ran dX8_live_54 rfl ?_
            refine w_iload_n dX8_live_57 rfl ?_
            refine ma_ran dX8_live_58 (by omega) ?_
            refine w_topN (n := cnt (livesV V P lo seed).1 j) (by rw [hT.2.2.1 34 (by omega)]; exact hE.2.2 j (by omega)) ?_
            refine ms_told0 dX8_live_59 (by omega) ?_
            refine w_iinc dX8_live_60 rfl (nI_inc _ 1) rfl (Nat.le_of_ble_eq_true rfl) ls_3_2 ?_
            refine w_goto dX8_live_63 rfl ?_
            exact ih_lp (j + 1) _ (by omega) (by omega) hT.put
      exact lp 6 0 S38 (by omega) (by omega) ⟨fun _ => rfl, fun _ => rfl, fun _ _ => rfl, fun _ => rfl, fun i hi => absurd hi (Nat.not_lt_zero i)⟩
    · exact absurd ((m1_iff (c := n + 1) (by omega)).mp (by rw [nI_dn]; exact h_26)) (by omega)
  · exact absurd (inN_nI hse (by omega)) h_9
