set_option maxRecDepth 100000
/-- byte j of four, from the highest -/
def b4 (v : Int32) (j : Nat) : Int32 := vp_nar .byte (v >>> (nI (8 * (3 - j)) &&& 31)).toInt8.toInt32
def fourS (S : MS) (v : Int32) (p : Nat) : Nat → MS
  | 0 => S
  | j + 1 => sI (sA (fourS S v p j) 8 (p + j) (b4 v j)) 10 (nI (p + j + 1))
theorem fourS_10 {S : MS} {v : Int32} {p : Nat} (h : mI S 10 = nI p) : ∀ j, mI (fourS S v p j) 10 = nI (p + j)
  | 0 => h
  | j + 1 => rfl
theorem sub8 {i : Nat} : nI (8 * (i + 1)) - nI 8 = nI (8 * i) := by
  rw [pk_sub (by omega)]
  congr 1
set_option maxHeartbeats 4000000 in
theorem c_four {g : GG} {S : MS} {v : Int32} {p : Nat} (hp : mI S 10 = nI p) (hp9 : p + 4 ≤ 900) : Mt g miX8_four 1 [.int v] (S) (none) (fourS S v p 4) := by
  refine Mt.start (fun b => [some (.ref b), some (.int v), none]) plX8 rfl (fun b => (Nat.le_of_ble_eq_true rfl)) (fun b => rfl) ?_
  intro σ b
  refine w_bipush (v := nI 24) dX8_four_0 kb_24 ?_
  refine w_istore_n dX8_four_2 rfl (Nat.le_of_ble_eq_true rfl) ls_3_2 ?_
  have lp : ∀ (j9 : Nat) (j : Nat), 4 - j < j9 → j ≤ 4 → Wp g (mtM g miX8_four 1 σ b (none) (fourS S v p 4)) 0 0 3 [some (.ref b), some (.int v), some (.int (nI (8 * (4 - j)) - nI 8))] [] (sM g σ b (fourS S v p j)) := by
    intro j9
    induction j9 with
    | zero => intro j hmu hj; exact absurd hmu (Nat.not_lt_zero _)
    | succ j9 ih_lp =>
      intro j hmu hj
      have hpj := fourS_10 (v := v) hp j
      refine w_iload_n dX8_four_3 rfl ?_
      refine w_if_lt dX8_four_4 rfl (fun h_4 => ?_) (fun h_4 => ?_)
      · obtain rfl : j = 4 := by
          rcases Nat.lt_or_ge j 4 with z | z
          · exfalso
            rw [show 4 - j = (3 - j) + 1 by omega, sub8] at h_4
            exact nI_pos (n := 8 * (3 - j)) (by omega) h_4
          · omega
        exact w_vret dX8_four_36 rfl ⟨by rfl, by rfl⟩
      · have hj3 : j < 4 := by
          rcases Nat.lt_or_ge j 4 with z | z
          · exact z
          · exfalso
            obtain rfl : j = 4 := by omega
            exact h_4 (by decide)
        rw [show 4 - j = (3 - j) + 1 by omega, sub8]
        refine w_aload_n dX8_four_7 rfl ?_
        refine mg_tape dX8_four_8 rfl ?_
        refine w_aload_n dX8_four_11 rfl ?_
        refine mg_taped dX8_four_12 rfl ?_
        rw [hpj]
        refine w_iload_n dX8_four_15 rfl ?_
        refine w_iload_n dX8_four_16 rfl ?_
        refine w_ishr dX8_four_17 ?_
        refine w_i2b dX8_four_18 rfl ?_
        refine ms_tape dX8_four_19 (by omega) ?_
        refine w_aload_n dX8_four_20 rfl ?_
        refine w_dup dX8_four_21 rfl ?_
        refine mg_taped dX8_four_22 rfl ?_
        refine w_topN (n := p + j) hpj ?_
        refine w_iconst (v := nI 1) dX8_four_25 ki_1 ?_
        refine w_iaddN dX8_four_26 ?_
        refine mp_taped dX8_four_27 rfl ?_
        refine w_iinc dX8_four_30 rfl rfl rfl (Nat.le_of_ble_eq_true rfl) ls_3_2 ?_
        refine w_goto dX8_four_33 rfl ?_
        exact w_as (ih_lp (j + 1) (by omega) (by omega)) (by rw [show 4 - (j + 1) = 3 - j by omega, Int32.sub_eq_add_neg]; rfl) rfl rfl
  exact w_as (lp 5 0 (by omega) (by omega)) rfl rfl rfl
def feedS (S : MS) (v1 v2 v3 v4 v5 : Int32) (p : Nat) : MS := fourS (fourS (fourS (fourS (fourS S v1 p 4) v2 (p + 4) 4) v3 (p + 8) 4) v4 (p + 12) 4) v5 (p + 16) 4
set_option maxHeartbeats 4000000 in
theorem c_feed {g : GG} {S : MS} {v1 : Int32} {v2 : Int32} {v3 : Int32} {v4 : Int32} {v5 : Int32} {p : Nat} (hp : mI S 10 = nI p) (hp9 : p ≤ 900) : Mt g miX8_feed 2 [.int v1, .int v2, .int v3, .int v4, .int v5] (S) (some (.int (if p + 20 ≤ 900 then nI (p + 20) else -1))) (if p + 20 ≤ 900 then feedS S v1 v2 v3 v4 v5 p else S) := by
  refine Mt.start (fun b => [some (.ref b), some (.int v1), some (.int v2), some (.int v3), some (.int v4), some (.int v5)]) plX8 rfl (fun b => (Nat.le_of_ble_eq_true rfl)) (fun b => rfl) ?_
  intro σ b
  refine w_aload_n dX8_feed_0 rfl ?_
  refine mg_taped dX8_feed_1 rfl ?_
  rw [hp]
  refine w_bipush (v := nI 20) dX8_feed_4 kb_20 ?_
  refine w_iaddN dX8_feed_6 ?_
  refine w_sipush (v := nI 900) dX8_feed_7 ks_900 ?_
  refine w_icmpN_le dX8_feed_10 rfl (by omega) (by omega) (fun h_10 => ?_) (fun h_10 => ?_)
  · refine w_aload_n dX8_feed_15 rfl ?_
    refine w_iload_n dX8_feed_16 rfl ?_
    refine m_callv1 (mi := miX8_four) dX8_feed_17 q1714 okX8_four rfl (Nat.le_of_ble_eq_true rfl) (c_four hp (by omega)) (Nat.le_of_ble_eq_true rfl) ?_
    refine w_aload_n dX8_feed_20 rfl ?_
    refine w_iload_n dX8_feed_21 rfl ?_
    refine m_callv1 (mi := miX8_four) dX8_feed_22 q1714 okX8_four rfl (Nat.le_of_ble_eq_true rfl) (c_four (p := (p + 4)) (fourS_10 hp 4) (by omega)) (Nat.le_of_ble_eq_true rfl) ?_
    refine w_aload_n dX8_feed_25 rfl ?_
    refine w_iload_n dX8_feed_26 rfl ?_
    refine m_callv1 (mi := miX8_four) dX8_feed_27 q1714 okX8_four rfl (Nat.le_of_ble_eq_true rfl) (c_four (p := (p + 8)) (fourS_10 (fourS_10 hp 4) 4) (by omega)) (Nat.le_of_ble_eq_true rfl) ?_
    refine w_aload_n dX8_feed_30 rfl ?_
    refine w_iload dX8_feed_31 rfl ?_
    refine m_callv1 (mi := miX8_four) dX8_feed_33 q1714 okX8_four rfl (Nat.le_of_ble_eq_true rfl) (c_four (p := (p + 12)) (fourS_10 (fourS_10 (fourS_10 hp 4) 4) 4) (by omega)) (Nat.le_of_ble_eq_true rfl) ?_
    refine w_aload_n dX8_feed_36 rfl ?_
    refine w_iload dX8_feed_37 rfl ?_
    refine m_callv1 (mi := miX8_four) dX8_feed_39 q1714 okX8_four rfl (Nat.le_of_ble_eq_true rfl) (c_four (p := (p + 16)) (fourS_10 (fourS_10 (fourS_10 (fourS_10 hp 4) 4) 4) 4) (by omega)) (Nat.le_of_ble_eq_true rfl) ?_
    refine w_aload_n dX8_feed_42 rfl ?_
    refine mg_taped dX8_feed_43 rfl ?_
    refine w_topN (n := p + 20) (fourS_10 (fourS_10 (fourS_10 (fourS_10 (fourS_10 hp 4) 4) 4) 4) 4) ?_
    exact w_iret dX8_feed_46 rfl ⟨by rw [if_pos (by omega)], by rw [if_pos (by omega)]; rfl⟩
  · refine w_iconst (v := (-1)) dX8_feed_13 ki_m1 ?_
    exact w_iret dX8_feed_14 rfl ⟨by rw [if_neg (by omega)], by rw [if_neg (by omega)]⟩
