set_option maxRecDepth 100000
def a_mark (m : Nat) : AS := if m = 3 then noA 4 else okA (m + 1)
def t_mark (S : MS) (m c14 c1 : Nat) : MS := if m = 3 then S else copS (sI S 37 (nI (m + 1))) 0 (m + 1) c14 c1
def a_back (m : Nat) : AS := if m = 0 then noA 6 else okA (m - 1)
def t_back (S : MS) (m c14 c1 : Nat) : MS := if m = 0 then S else sI (copS S m 0 c14 c1) 37 (nI (m - 1))
set_option maxHeartbeats 4000000 in
theorem c_mark {g : GG} {S : MS} {m c14 c1 : Nat} (hm : mI S 37 = nI m) (hm3 : m ≤ 3) (h14 : c14 = 1400) (h1 : c1 = 14) : Mt g miX8_mark 2 [] (S) (some (.int ((a_mark m).1))) (sI (t_mark S m c14 c1) 2 (a_mark m).2) := by
  refine Mt.start (fun b => [some (.ref b)]) plX8 rfl (fun b => (Nat.le_of_ble_eq_true rfl)) (fun b => rfl) ?_
  intro σ b
  refine w_aload_n dX8_mark_0 rfl ?_
  refine mg_marks dX8_mark_1 rfl ?_
  rw [hm]
  refine w_iconst (v := nI 3) dX8_mark_4 ki_3 ?_
  refine w_icmpN_ne dX8_mark_5 rfl (by omega) (by omega) (fun h_5 => ?_) (fun h_5 => ?_)
  · refine w_aload_n dX8_mark_14 rfl ?_
    refine w_dup dX8_mark_15 rfl ?_
    refine mg_marks dX8_mark_16 rfl ?_
    rw [hm]
    refine w_iconst (v := nI 1) dX8_mark_19 ki_1 ?_
    refine w_iaddN dX8_mark_20 ?_
    refine mp_marks dX8_mark_21 rfl ?_
    refine w_aload_n dX8_mark_24 rfl ?_
    refine w_iconst (v := nI 0) dX8_mark_25 ki_0 ?_
    refine w_aload_n dX8_mark_26 rfl ?_
    refine mg_marks dX8_mark_27 rfl ?_
    refine w_topN (n := m + 1) rfl ?_
    refine m_callv2 (mi := miX8_copies) dX8_mark_30 q2282 okX8_copies rfl (Nat.le_of_ble_eq_true rfl) (c_copies (c14 := c14) (c1 := c1) (by first | assumption | omega) (by first | assumption | omega) (by first | assumption | omega) (by first | assumption | omega)) (Nat.le_of_ble_eq_true rfl) ?_
    refine w_aload_n dX8_mark_33 rfl ?_
    refine w_aload_n dX8_mark_34 rfl ?_
    refine mg_marks dX8_mark_35 rfl ?_
    refine w_topN (n := m + 1) (by rw [copS_I]; rfl) ?_
    refine m_calli1 (mi := miX8_gives) dX8_mark_38 q1839 okX8_gives rfl (Nat.le_of_ble_eq_true rfl) c_gives (Nat.le_of_ble_eq_true rfl) ?_
    exact w_iret dX8_mark_41 rfl ⟨by first | (rw [a_mark, if_neg h_5]; done) | (rw [a_mark, if_neg h_5]; rfl), by first | (rw [a_mark, t_mark, if_neg h_5, if_neg h_5]; done) | (rw [a_mark, t_mark, if_neg h_5, if_neg h_5]; rfl)⟩
  · refine w_aload_n dX8_mark_8 rfl ?_
    refine w_iconst (v := nI 4) dX8_mark_9 ki_4 ?_
    refine m_calli1 (mi := miX8_refuse) dX8_mark_10 q1746 okX8_refuse rfl (Nat.le_of_ble_eq_true rfl) c_refuse (Nat.le_of_ble_eq_true rfl) ?_
    exact w_iret dX8_mark_13 rfl ⟨by first | (rw [a_mark, if_pos h_5]; done) | (rw [a_mark, if_pos h_5]; rfl), by first | (rw [a_mark, t_mark, if_pos h_5, if_pos h_5]; done) | (rw [a_mark, t_mark, if_pos h_5, if_pos h_5]; rfl)⟩
set_option maxHeartbeats 1000000 in
theorem c_back {g : GG} {S : MS} {m c14 c1 : Nat} (hm : mI S 37 = nI m) (hm3 : m ≤ 3) (h14 : c14 = 1400) (h1 : c1 = 14) : Mt g miX8_back 2 [] (S) (some (.int ((a_back m).1))) (sI (t_back S m c14 c1) 2 (a_back m).2) := by
  refine Mt.start (fun b => [some (.ref b)]) plX8 rfl (fun b => (Nat.le_of_ble_eq_true rfl)) (fun b => rfl) ?_
  intro σ b
  refine w_aload_n dX8_back_0 rfl ?_
  refine mg_marks dX8_back_1 rfl ?_
  rw [hm]
  refine w_ifN_ne dX8_back_4 rfl (by omega) (fun h_4 => ?_) (fun h_4 => ?_)
  · refine w_aload_n dX8_back_14 rfl ?_
    refine w_aload_n dX8_back_15 rfl ?_
    refine mg_marks dX8_back_16 rfl ?_
    rw [hm]
    refine w_iconst (v := nI 0) dX8_back_19 ki_0 ?_
    refine m_callv2 (mi := miX8_copies) dX8_back_20 q2282 okX8_copies rfl (Nat.le_of_ble_eq_true rfl) (c_copies (c14 := c14) (c1 := c1) (by first | assumption | omega) (by first | assumption | omega) (by first | assumption | omega) (by first | assumption | omega)) (Nat.le_of_ble_eq_true rfl) ?_
    refine w_aload_n dX8_back_23 rfl ?_
    refine w_dup dX8_back_24 rfl ?_
    refine mg_marks dX8_back_25 rfl ?_
    refine w_topN (n := m) (by rw [copS_I]; exact hm) ?_
    refine w_iconst (v := nI 1) dX8_back_28 ki_1 ?_
    refine w_isubN dX8_back_29 (by omega) ?_
    refine mp_marks dX8_back_30 rfl ?_
    refine w_aload_n dX8_back_33 rfl ?_
    refine w_aload_n dX8_back_34 rfl ?_
    refine mg_marks dX8_back_35 rfl ?_
    refine w_topN (n := m - 1) rfl ?_
    refine m_calli1 (mi := miX8_gives) dX8_back_38 q1839 okX8_gives rfl (Nat.le_of_ble_eq_true rfl) c_gives (Nat.le_of_ble_eq_true rfl) ?_
    exact w_iret dX8_back_41 rfl ⟨by first | (rw [a_back, if_neg (by omega)]; done) | (rw [a_back, if_neg (by omega)]; rfl), by first | (rw [a_back, t_back, if_neg (show ¬ m = 0 by omega), if_neg (show ¬ m = 0 by omega)]; done) | (rw [a_back, t_back, if_neg (show ¬ m = 0 by omega), if_neg (show ¬ m = 0 by omega)]; rfl)⟩
  · refine w_aload_n dX8_back_7 rfl ?_
    refine w_bipush (v := nI 6) dX8_back_8 kb_6 ?_
    refine m_calli1 (mi := miX8_refuse) dX8_back_10 q1746 okX8_refuse rfl (Nat.le_of_ble_eq_true rfl) c_refuse (Nat.le_of_ble_eq_true rfl) ?_
    exact w_iret dX8_back_13 rfl ⟨by first | (rw [a_back, if_pos (by omega)]; done) | (rw [a_back, if_pos (by omega)]; rfl), by first | (rw [a_back, t_back, if_pos (show m = 0 by omega), if_pos (show m = 0 by omega)]; done) | (rw [a_back, t_back, if_pos (show m = 0 by omega), if_pos (show m = 0 by omega)]; rfl)⟩
