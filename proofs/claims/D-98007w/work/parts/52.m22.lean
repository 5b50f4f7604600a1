set_option maxRecDepth 100000
def w_live (P : PG) (x : Int32) : Nat := if inN x 10000 then (if pn P = 0 then 6 else 0) else 1
set_option maxHeartbeats 4000000 in
theorem c_live0 {g : GG} {S : MS} {x : Int32} {P : PG} (EP : EncP S P) (hw : w_live P x ≠ 0) (hpn : pn P ≤ 61) : Mt g miX8_live 2 [.int x] (S) (some (.int (-1))) (sI S 2 (nI (w_live P x))) := by
  refine Mt.start (fun b => [some (.ref b), some (.int x), none]) plX8 rfl (fun b => (Nat.le_of_ble_eq_true rfl)) (fun b => rfl) ?_
  intro σ b
  refine w_iload_n dX8_live_0 rfl ?_
  refine w_i2l dX8_live_1 rfl ?_
  refine w_lconst (v := 0) dX8_live_2 rfl ?_
  refine w_ldc2 dX8_live_3 q2243 ?_
  refine s_calli3 (mi := miX8_isFrom) dX8_live_6 q1902 okX8_isFrom (Nat.le_of_ble_eq_true rfl) (c_isFrom0 (m := 9999) (by first | assumption | omega)) (Nat.le_of_ble_eq_true rfl) ?_
  refine w_ifB_ne dX8_live_9 rfl (fun h_9 => ?_) (fun h_9 => ?_)
  · refine w_aload_n dX8_live_18 rfl ?_
    refine mg_at dX8_live_19 rfl ?_
    refine w_bipush (v := nI 9) dX8_live_22 kb_9 ?_
    refine ma_at dX8_live_24 (by omega) ?_
    rw [EP.1]
    refine w_iconst (v := (-1)) dX8_live_25 ki_m1 ?_
    refine w_icmp_ne dX8_live_26 rfl (fun h_26 => ?_) (fun h_26 => ?_)
    · exact absurd (show w_live P x = 0 by rw [w_live, if_pos h_9, if_neg (mt (m1_iff (by omega)).mpr h_26)]) hw
    · have h_26 := (m1_iff (by omega)).mp h_26
      refine w_aload_n dX8_live_29 rfl ?_
      refine w_bipush (v := nI 6) dX8_live_30 kb_6 ?_
      refine m_calli1 (mi := miX8_refuse) dX8_live_32 q1746 okX8_refuse rfl (Nat.le_of_ble_eq_true rfl) c_refuse (Nat.le_of_ble_eq_true rfl) ?_
      exact w_iret dX8_live_35 rfl ⟨by rfl, by first | (rw [show w_live P x = 6 by rw [w_live, if_pos h_9, if_pos (by omega)]]; done) | (rw [show w_live P x = 6 by rw [w_live, if_pos h_9, if_pos (by omega)]]; rfl)⟩
  · refine w_aload_n dX8_live_12 rfl ?_
    refine w_iconst (v := nI 1) dX8_live_13 ki_1 ?_
    refine m_calli1 (mi := miX8_refuse) dX8_live_14 q1746 okX8_refuse rfl (Nat.le_of_ble_eq_true rfl) c_refuse (Nat.le_of_ble_eq_true rfl) ?_
    exact w_iret dX8_live_17 rfl ⟨by rfl, by first | (rw [show w_live P x = 1 by rw [w_live, if_neg h_9]]; done) | (rw [show w_live P x = 1 by rw [w_live, if_neg h_9]]; rfl)⟩
