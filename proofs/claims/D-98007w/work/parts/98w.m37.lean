set_option maxRecDepth 100000
def FrT9 (S S2 : MS) : Prop := (∀ i, i ≠ 2 → i ≠ 29 → i ≠ 30 → mI S2 i = mI S i) ∧ (∀ k, mL S2 k = mL S k) ∧ (∀ j, j ≠ 25 → j ≠ 26 → j ≠ 27 → j ≠ 28 → mA S2 j = mA S j) ∧ ∀ j, mB S2 j = mB S j
theorem FrN.T {S S2 : MS} (h : FrN S S2) : FrT9 S S2 := ⟨fun i _ h2 _ => h.1 i h2, h.2.1, fun j a b c _ => h.2.2.1 j a b c, h.2.2.2⟩
theorem FrT9.I {S S2 : MS} (h : FrT9 S S2) {i : Nat} {v : Int32} (hi : i = 2 ∨ i = 29 ∨ i = 30) : FrT9 S (sI S2 i v) := ⟨fun j a b c => by
  show va_up S2.1 i v j = _
  unfold va_up
  rw [if_neg (by omega)]
  exact h.1 j a b c, h.2⟩
theorem FrT9.A {S S2 : MS} (h : FrT9 S S2) {i : Nat} {v : Int32} : FrT9 S (sA S2 28 i v) := ⟨h.1, h.2.1, fun q a b c d => by
  show va_up S2.2.2.1 28 _ q = _
  unfold va_up
  rw [if_neg d]
  exact h.2.2.1 q a b c d, h.2.2.2⟩
def a_bst (V : VS) (x : Int32) : Int32 := if inN x (vs V 1) then nI ((rdB V (cl x) (vs V 3)).1 - 1) else -1
def P_bst (V : VS) (S S2 : MS) (x : Int32) : Prop := if inN x (vs V 1) then FrT9 S S2 ∧ mI S2 2 = nI 0 ∧ OkB9 (rdB V (cl x) (vs V 3)) ∧ mI S2 30 = nI (rdB V (cl x) (vs V 3)).2.1 ∧ ∀ i, i < (rdB V (cl x) (vs V 3)).2.1 → mA S2 28 i = nI ((rdB V (cl x) (vs V 3)).2.2 i) else S2 = sI S 2 (nI 1)
def a_lat (V : VS) (x y : Int32) : Int32 := if inN x (vs V 1) ∧ inN y 241 then nI ((rdB V (cl x) (vs V 3 + cl y)).1 - 1) - nI ((rdB V (cl x) (vs V 3)).1 - 1) else -1
def P_lat (V : VS) (S S2 : MS) (x y : Int32) : Prop := if inN x (vs V 1) ∧ inN y 241 then FrT9 S S2 ∧ mI S2 2 = nI 0 ∧ mI S2 30 = mI S 30 ∧ mA S2 28 = mA S 28 else S2 = sI S 2 (nI 1)
theorem FrN.EK {S S2 : MS} {V : VS} (h : FrN S S2) (E : Enc S V) : Enc S2 V := h.E E
set_option maxHeartbeats 4000000 in
theorem c_best {g : GG} {S : MS} {x : Int32} {V : VS} (E : Enc S V) (K : OkV V) : Mp g miX8_best 5 [.int x] (S) (some (.int (a_bst V x))) (fun S2 => P_bst V S S2 x) := by
  refine Mp.start (fun b => [some (.ref b), some (.int x), none, none]) plX8 rfl (fun b => (Nat.le_of_ble_eq_true rfl)) (fun b => rfl) ?_
  intro σ b
  have kb := K.b
  refine w_aload_n dX8_best_0 rfl ?_
  refine w_iload_n dX8_best_1 rfl ?_
  refine m_calli1 (mi := miX8_isFinder) dX8_best_2 q1875 okX8_isFinder rfl (Nat.le_of_ble_eq_true rfl) (c_isFinder E K) (Nat.le_of_ble_eq_true rfl) ?_
  refine w_ifB_ne dX8_best_5 rfl (fun h_5 => ?_) (fun h_5 => ?_)
  · obtain ⟨q, hq, rfl⟩ := inN_of h_5 (by omega)
    have hclq : cl (nI q) = q := nI_clamp (by omega)
    have hxq : inN (nI q) (vs V 1) := inN_nI hq (by omega)
    refine w_aload_n dX8_best_14 rfl ?_
    refine w_iload_n dX8_best_15 rfl ?_
    refine w_aload_n dX8_best_16 rfl ?_
    refine mg_at dX8_best_17 rfl ?_
    refine w_iconst (v := nI 3) dX8_best_20 ki_3 ?_
    refine ma_at dX8_best_21 (by omega) ?_
    refine w_topN (E.s 3 (by omega)) ?_
    refine m_callPi2 (mi := miX8_rounds) dX8_best_22 q2193 okX8_rounds rfl (Nat.le_of_ble_eq_true rfl) (c_rounds E K hq (by omega)) (Nat.le_of_ble_eq_true rfl) (fun S22 hS22 => ?_)
    have hb8 := hS22.2.1.2.2
    refine w_istore_n dX8_best_25 rfl (Nat.le_of_ble_eq_true rfl) ls_4_2 ?_
    refine w_aload_n dX8_best_26 rfl ?_
    refine w_aload_n dX8_best_27 rfl ?_
    refine mg_bestMany dX8_best_28 rfl ?_
    refine w_topN (n := (rdB V q (vs V 3)).2.1) hS22.2.2.1 ?_
    refine mp_toldMany dX8_best_31 rfl ?_
    refine w_iconst (v := nI 0) dX8_best_34 ki_0 ?_
    refine w_istore_n dX8_best_35 rfl (Nat.le_of_ble_eq_true rfl) ls_4_3 ?_
    have lp : ∀ (j9 : Nat) (k : Nat) (S3 : MS), (rdB V q (vs V 3)).2.1 - k < j9 → k ≤ (rdB V q (vs V 3)).2.1 → FrT9 S S3 → mI S3 29 = nI (rdB V q (vs V 3)).2.1 → mI S3 30 = nI (rdB V q (vs V 3)).2.1 → (∀ i, i < (rdB V q (vs V 3)).2.1 → mA S3 27 i = nI ((rdB V q (vs V 3)).2.2 i)) → (∀ i, i < k → mA S3 28 i = nI ((rdB V q (vs V 3)).2.2 i)) → Wp g (mtP g miX8_best 5 σ b (some (.int (a_bst V (nI q)))) (fun S2 => P_bst V S S2 (nI q))) 0 0 36 [some (.ref b), some (.int (nI q)), some (.int (nI ((rdB V q (vs V 3)).1 - 1))), some (.int (nI k))] [] (sM g σ b (S3)) := by
      intro j9
      induction j9 with
      | zero => intro k S3 hmu hk hF h29 h30 h27 h28; exact absurd hmu (Nat.not_lt_zero _)
      | succ j9 ih_lp =>
        intro k S3 hmu hk hF h29 h30 h27 h28
        refine w_iload_n dX8_best_36 rfl ?_
        refine w_aload_n dX8_best_37 rfl ?_
        refine mg_bestMany dX8_best_38 rfl ?_
        refine w_topN (n := (rdB V q (vs V 3)).2.1) h29 ?_
        refine w_icmpN_ge dX8_best_41 rfl (by omega) (by omega) (fun h_41 => ?_) (fun h_41 => ?_)
        · obtain rfl : k = (rdB V q (vs V 3)).2.1 := by omega
          refine w_aload_n dX8_best_62 rfl ?_
          refine w_iload_n dX8_best_63 rfl ?_
          refine m_calli1 (mi := miX8_gives) dX8_best_64 q1839 okX8_gives rfl (Nat.le_of_ble_eq_true rfl) c_gives (Nat.le_of_ble_eq_true rfl) ?_
          exact w_iret dX8_best_67 rfl ⟨by rw [a_bst, if_pos hxq, hclq], _, by show P_bst V S _ _; unfold P_bst; rw [if_pos hxq, hclq]; exact ⟨hF.I (by omega), rfl, hS22.2.1, h30, h28⟩, rfl⟩
        · refine w_aload_n dX8_best_44 rfl ?_
          refine mg_toldRow dX8_best_45 rfl ?_
          refine w_iload_n dX8_best_48 rfl ?_
          refine w_aload_n dX8_best_49 rfl ?_
          refine mg_bestRow dX8_best_50 rfl ?_
          refine w_iload_n dX8_best_53 rfl ?_
          refine ma_bestRow dX8_best_54 (by omega) ?_
          refine w_topN (n := (rdB V q (vs V 3)).2.2 k) (h27 k (by omega)) ?_
          refine ms_toldRow dX8_best_55 (by omega) ?_
          refine w_iinc dX8_best_56 rfl (nI_inc _ 1) rfl (Nat.le_of_ble_eq_true rfl) ls_4_3 ?_
          refine w_goto dX8_best_59 rfl ?_
          exact ih_lp (k + 1) _ (by omega) (by omega) hF.A h29 h30 h27 (fun i hi => by
            show upd (mA S3 28) k _ i = _
            by_cases z : i = k
            · rw [z, upd_eq]
            · rw [upd_ne z]; exact h28 i (by omega))
    exact lp ((rdB V q (vs V 3)).2.1 + 1) 0 _ (by omega) (by omega) (hS22.1.T.I (by omega)) hS22.2.2.1 rfl hS22.2.2.2 (fun i hi => absurd hi (Nat.not_lt_zero i))
  · refine w_aload_n dX8_best_8 rfl ?_
    refine w_iconst (v := nI 1) dX8_best_9 ki_1 ?_
    refine m_calli1 (mi := miX8_refuse) dX8_best_10 q1746 okX8_refuse rfl (Nat.le_of_ble_eq_true rfl) c_refuse (Nat.le_of_ble_eq_true rfl) ?_
    exact w_iret dX8_best_13 rfl ⟨by rw [a_bst, if_neg h_5], _, by show P_bst V S _ _; unfold P_bst; rw [if_neg h_5], rfl⟩
set_option maxHeartbeats 4000000 in
theorem c_lateness {g : GG} {S : MS} {x : Int32} {y : Int32} {V : VS} (E : Enc S V) (K : OkV V) : Mp g miX8_lateness 5 [.int x, .int y] (S) (some (.int (a_lat V x y))) (fun S2 => P_lat V S S2 x y) := by
  refine Mp.start (fun b => [some (.ref b), some (.int x), some (.int y)]) plX8 rfl (fun b => (Nat.le_of_ble_eq_true rfl)) (fun b => rfl) ?_
  intro σ b
  have kb := K.b
  refine w_aload_n dX8_lateness_0 rfl ?_
  refine w_iload_n dX8_lateness_1 rfl ?_
  refine m_calli1 (mi := miX8_isFinder) dX8_lateness_2 q1875 okX8_isFinder rfl (Nat.le_of_ble_eq_true rfl) (c_isFinder E K) (Nat.le_of_ble_eq_true rfl) ?_
  refine w_ifB_eq dX8_lateness_5 rfl (fun h_5 => ?_) (fun h_5 => ?_)
  · have hno : ¬ (inN x (vs V 1) ∧ inN y 241) := fun z => h_5 z.1
    refine w_aload_n dX8_lateness_20 rfl ?_
    refine w_iconst (v := nI 1) dX8_lateness_21 ki_1 ?_
    refine m_calli1 (mi := miX8_refuse) dX8_lateness_22 q1746 okX8_refuse rfl (Nat.le_of_ble_eq_true rfl) c_refuse (Nat.le_of_ble_eq_true rfl) ?_
    exact w_iret dX8_lateness_25 rfl ⟨by rw [a_lat, if_neg hno], _, by show P_lat V S _ _ _; unfold P_lat; rw [if_neg hno], rfl⟩
  · obtain ⟨q, hq, rfl⟩ := inN_of h_5 (by omega)
    have hclq : cl (nI q) = q := nI_clamp (by omega)
    have hxq : inN (nI q) (vs V 1) := inN_nI hq (by omega)
    refine w_iload_n dX8_lateness_8 rfl ?_
    refine w_i2l dX8_lateness_9 rfl ?_
    refine w_lconst (v := 0) dX8_lateness_10 rfl ?_
    refine w_ldc2 dX8_lateness_11 q1922 ?_
    refine s_calli3 (mi := miX8_isFrom) dX8_lateness_14 q1902 okX8_isFrom (Nat.le_of_ble_eq_true rfl) (c_isFrom0 (m := 240) (by first | assumption | omega)) (Nat.le_of_ble_eq_true rfl) ?_
    refine w_ifB_ne dX8_lateness_17 rfl (fun h_17 => ?_) (fun h_17 => ?_)
    · obtain ⟨z, hz, rfl⟩ := inN_of h_17 (by omega)
      have hclz : cl (nI z) = z := nI_clamp (by omega)
      have hyes : inN (nI q) (vs V 1) ∧ inN (nI z) 241 := ⟨hxq, inN_nI hz (by omega)⟩
      refine w_aload_n dX8_lateness_26 rfl ?_
      refine w_aload_n dX8_lateness_27 rfl ?_
      refine w_iload_n dX8_lateness_28 rfl ?_
      refine w_aload_n dX8_lateness_29 rfl ?_
      refine mg_at dX8_lateness_30 rfl ?_
      refine w_iconst (v := nI 3) dX8_lateness_33 ki_3 ?_
      refine ma_at dX8_lateness_34 (by omega) ?_
      refine w_topN (E.s 3 (by omega)) ?_
      refine w_iload_n dX8_lateness_35 rfl ?_
      refine w_iaddN dX8_lateness_36 ?_
      refine m_callPi2 (mi := miX8_rounds) dX8_lateness_37 q2193 okX8_rounds rfl (Nat.le_of_ble_eq_true rfl) (c_rounds E K hq (by omega)) (Nat.le_of_ble_eq_true rfl) (fun S37 hS37 => ?_)
      have E37 := hS37.1.E E
      refine w_aload_n dX8_lateness_40 rfl ?_
      refine w_iload_n dX8_lateness_41 rfl ?_
      refine w_aload_n dX8_lateness_42 rfl ?_
      refine mg_at dX8_lateness_43 rfl ?_
      refine w_iconst (v := nI 3) dX8_lateness_46 ki_3 ?_
      refine ma_at dX8_lateness_47 (by omega) ?_
      refine w_topN (n := vs V 3) (E37.s 3 (by omega)) ?_
      refine m_callPi2 (mi := miX8_rounds) dX8_lateness_48 q2193 okX8_rounds rfl (Nat.le_of_ble_eq_true rfl) (c_rounds E37 K hq (by omega)) (Nat.le_of_ble_eq_true rfl) (fun S48 hS48 => ?_)
      refine w_isub dX8_lateness_51 ?_
      refine m_calli1 (mi := miX8_gives) dX8_lateness_52 q1839 okX8_gives rfl (Nat.le_of_ble_eq_true rfl) c_gives (Nat.le_of_ble_eq_true rfl) ?_
      exact w_iret dX8_lateness_55 rfl ⟨by rw [a_lat, if_pos hyes, hclq, hclz], _, by show P_lat V S _ _ _; unfold P_lat; rw [if_pos hyes]; exact ⟨⟨fun i a b c => ((hS48.1.T.I (i := 2) (v := nI 0) (by omega)).1 i a b c).trans (hS37.1.1 i b), fun k => (hS48.1.2.1 k).trans (hS37.1.2.1 k), fun j a b c d => (hS48.1.2.2.1 j a b c).trans (hS37.1.2.2.1 j a b c), fun j => (hS48.1.2.2.2 j).trans (hS37.1.2.2.2 j)⟩, rfl, (hS48.1.1 30 (by omega)).trans (hS37.1.1 30 (by omega)), (hS48.1.2.2.1 28 (by omega) (by omega) (by omega)).trans (hS37.1.2.2.1 28 (by omega) (by omega) (by omega))⟩, rfl⟩
    · have hno : ¬ (inN (nI q) (vs V 1) ∧ inN y 241) := fun z => h_17 z.2
      refine w_aload_n dX8_lateness_20 rfl ?_
      refine w_iconst (v := nI 1) dX8_lateness_21 ki_1 ?_
      refine m_calli1 (mi := miX8_refuse) dX8_lateness_22 q1746 okX8_refuse rfl (Nat.le_of_ble_eq_true rfl) c_refuse (Nat.le_of_ble_eq_true rfl) ?_
      exact w_iret dX8_lateness_25 rfl ⟨by rw [a_lat, if_neg hno], _, by show P_lat V S _ _ _; unfold P_lat; rw [if_neg hno], rfl⟩
