/-! row of the component -/
set_option maxRecDepth 100000
section TR6
variable {g : GG} {σ : PH}
def NX : String := "java/lang/NegativeArraySizeException"
theorem tX0_row0 {n : Nat} (hn : n ≤ 60) : Ct g miX0_row 180 3 222 [.int (nI 0), .int (nI n)] σ (fun w σ2 => w = some (.ref σ.1) ∧ σ2 = hnew σ (8, 90) (rowE g.2.2.2 0 n (fun _ => 0) (fun _ => 0))) noX := by
  refine Ct.start [some (.int (nI 0)), some (.int (nI n))] plX0 rfl (Nat.le_of_ble_eq_true rfl) rfl (fun _ => ?_)
  refine w_iload_n dX0_row_0 rfl ?_
  refine w_if_ne dX0_row_1 rfl (fun h => absurd rfl h) (fun _ => ?_)
  refine w_iload_n dX0_row_4 rfl ?_
  rw [show (222 : Nat) = (222 - n) + n by omega]
  refine w_newB (kc := 2) (ks := 222 - n) (8, 90) dX0_row_5 (by omega) ?_
  refine w_goto dX0_row_7 rfl ?_
  exact w_aret dX0_row_35 rfl (Or.inl ⟨_, rfl⟩) ⟨rfl, rfl⟩
theorem tX0_row0N {z : Int32} (hz : z < 0) : Ct g miX0_row 180 3 222 [.int (nI 0), .int z] σ (fun _ _ => False) (fun q E σ2 => GrX NX σ q E σ2) := by
  refine Ct.start [some (.int (nI 0)), some (.int z)] plX0 rfl (Nat.le_of_ble_eq_true rfl) rfl (fun _ => ?_)
  refine w_iload_n dX0_row_0 rfl ?_
  refine w_if_ne dX0_row_1 rfl (fun h => absurd rfl h) (fun _ => ?_)
  refine w_iload_n dX0_row_4 rfl ?_
  exact w_newarrX (kc := 0) (ks := 168) dX0_row_5 hz (Nat.le_refl _) (Nat.zero_le _) (fun q m hm => t_out rfl ⟨rfl, m, hm, rfl⟩)
theorem tX0_row1 {n : Nat} (hn : n ≤ 60) : Ct g miX0_row 180 3 222 [.int (nI 1), .int (nI n)] σ (fun w σ2 => w = some (.ref σ.1) ∧ σ2 = hnew σ (8, 90) (rowE g.2.2.2 1 n (fun _ => 0) (fun _ => 0))) noX := by
  refine Ct.start [some (.int (nI 1)), some (.int (nI n))] plX0 rfl (Nat.le_of_ble_eq_true rfl) rfl (fun _ => ?_)
  refine w_iload_n dX0_row_0 rfl ?_
  refine w_if_ne dX0_row_1 rfl (fun _ => ?_) (fun h => absurd h (by decide))
  refine w_iload_n dX0_row_10 rfl ?_
  refine w_iconst (v := nI 1) dX0_row_11 ki_1 ?_
  refine w_icmp_ne dX0_row_12 rfl (fun h => absurd rfl h) (fun _ => ?_)
  refine w_iload_n dX0_row_15 rfl ?_
  rw [show (222 : Nat) = (222 - n) + n by omega]
  refine w_newS (kc := 2) (ks := 222 - n) (8, 90) dX0_row_16 (by omega) ?_
  refine w_goto dX0_row_18 rfl ?_
  exact w_aret dX0_row_35 rfl (Or.inl ⟨_, rfl⟩) ⟨rfl, rfl⟩
theorem tX0_row1N {z : Int32} (hz : z < 0) : Ct g miX0_row 180 3 222 [.int (nI 1), .int z] σ (fun _ _ => False) (fun q E σ2 => GrX NX σ q E σ2) := by
  refine Ct.start [some (.int (nI 1)), some (.int z)] plX0 rfl (Nat.le_of_ble_eq_true rfl) rfl (fun _ => ?_)
  refine w_iload_n dX0_row_0 rfl ?_
  refine w_if_ne dX0_row_1 rfl (fun _ => ?_) (fun h => absurd h (by decide))
  refine w_iload_n dX0_row_10 rfl ?_
  refine w_iconst (v := nI 1) dX0_row_11 ki_1 ?_
  refine w_icmp_ne dX0_row_12 rfl (fun h => absurd rfl h) (fun _ => ?_)
  refine w_iload_n dX0_row_15 rfl ?_
  exact w_newarrX (kc := 0) (ks := 168) dX0_row_16 hz (Nat.le_refl _) (Nat.zero_le _) (fun q m hm => t_out rfl ⟨rfl, m, hm, rfl⟩)
theorem tX0_row2 {n : Nat} (hn : n ≤ 60) : Ct g miX0_row 180 3 222 [.int (nI 2), .int (nI n)] σ (fun w σ2 => w = some (.ref σ.1) ∧ σ2 = hnew σ (8, 90) (rowE g.2.2.2 2 n (fun _ => 0) (fun _ => 0))) noX := by
  refine Ct.start [some (.int (nI 2)), some (.int (nI n))] plX0 rfl (Nat.le_of_ble_eq_true rfl) rfl (fun _ => ?_)
  refine w_iload_n dX0_row_0 rfl ?_
  refine w_if_ne dX0_row_1 rfl (fun _ => ?_) (fun h => absurd h (by decide))
  refine w_iload_n dX0_row_10 rfl ?_
  refine w_iconst (v := nI 1) dX0_row_11 ki_1 ?_
  refine w_icmp_ne dX0_row_12 rfl (fun _ => ?_) (fun h => absurd h (by decide))
  refine w_iload_n dX0_row_21 rfl ?_
  refine w_iconst (v := nI 2) dX0_row_22 ki_2 ?_
  refine w_icmp_ne dX0_row_23 rfl (fun h => absurd rfl h) (fun _ => ?_)
  refine w_iload_n dX0_row_26 rfl ?_
  rw [show (222 : Nat) = (222 - n) + n by omega]
  refine w_newI (kc := 2) (ks := 222 - n) (8, 90) dX0_row_27 (by omega) ?_
  refine w_goto dX0_row_29 rfl ?_
  exact w_aret dX0_row_35 rfl (Or.inl ⟨_, rfl⟩) ⟨rfl, rfl⟩
theorem tX0_row2N {z : Int32} (hz : z < 0) : Ct g miX0_row 180 3 222 [.int (nI 2), .int z] σ (fun _ _ => False) (fun q E σ2 => GrX NX σ q E σ2) := by
  refine Ct.start [some (.int (nI 2)), some (.int z)] plX0 rfl (Nat.le_of_ble_eq_true rfl) rfl (fun _ => ?_)
  refine w_iload_n dX0_row_0 rfl ?_
  refine w_if_ne dX0_row_1 rfl (fun _ => ?_) (fun h => absurd h (by decide))
  refine w_iload_n dX0_row_10 rfl ?_
  refine w_iconst (v := nI 1) dX0_row_11 ki_1 ?_
  refine w_icmp_ne dX0_row_12 rfl (fun _ => ?_) (fun h => absurd h (by decide))
  refine w_iload_n dX0_row_21 rfl ?_
  refine w_iconst (v := nI 2) dX0_row_22 ki_2 ?_
  refine w_icmp_ne dX0_row_23 rfl (fun h => absurd rfl h) (fun _ => ?_)
  refine w_iload_n dX0_row_26 rfl ?_
  exact w_newarrX (kc := 0) (ks := 168) dX0_row_27 hz (Nat.le_refl _) (Nat.zero_le _) (fun q m hm => t_out rfl ⟨rfl, m, hm, rfl⟩)
theorem tX0_row3 {n : Nat} (hn : n ≤ 60) : Ct g miX0_row 180 3 222 [.int (nI 3), .int (nI n)] σ (fun w σ2 => w = some (.ref σ.1) ∧ σ2 = hnew σ (8, 90) (rowE g.2.2.2 3 n (fun _ => 0) (fun _ => 0))) noX := by
  refine Ct.start [some (.int (nI 3)), some (.int (nI n))] plX0 rfl (Nat.le_of_ble_eq_true rfl) rfl (fun _ => ?_)
  refine w_iload_n dX0_row_0 rfl ?_
  refine w_if_ne dX0_row_1 rfl (fun _ => ?_) (fun h => absurd h (by decide))
  refine w_iload_n dX0_row_10 rfl ?_
  refine w_iconst (v := nI 1) dX0_row_11 ki_1 ?_
  refine w_icmp_ne dX0_row_12 rfl (fun _ => ?_) (fun h => absurd h (by decide))
  refine w_iload_n dX0_row_21 rfl ?_
  refine w_iconst (v := nI 2) dX0_row_22 ki_2 ?_
  refine w_icmp_ne dX0_row_23 rfl (fun _ => ?_) (fun h => absurd h (by decide))
  refine w_iload_n dX0_row_32 rfl ?_
  rw [show (222 : Nat) = (222 - n) + n by omega]
  refine w_newL (kc := 2) (ks := 222 - n) (8, 90) dX0_row_33 (by omega) ?_
  exact w_aret dX0_row_35 rfl (Or.inl ⟨_, rfl⟩) ⟨rfl, rfl⟩
theorem tX0_row3N {z : Int32} (hz : z < 0) : Ct g miX0_row 180 3 222 [.int (nI 3), .int z] σ (fun _ _ => False) (fun q E σ2 => GrX NX σ q E σ2) := by
  refine Ct.start [some (.int (nI 3)), some (.int z)] plX0 rfl (Nat.le_of_ble_eq_true rfl) rfl (fun _ => ?_)
  refine w_iload_n dX0_row_0 rfl ?_
  refine w_if_ne dX0_row_1 rfl (fun _ => ?_) (fun h => absurd h (by decide))
  refine w_iload_n dX0_row_10 rfl ?_
  refine w_iconst (v := nI 1) dX0_row_11 ki_1 ?_
  refine w_icmp_ne dX0_row_12 rfl (fun _ => ?_) (fun h => absurd h (by decide))
  refine w_iload_n dX0_row_21 rfl ?_
  refine w_iconst (v := nI 2) dX0_row_22 ki_2 ?_
  refine w_icmp_ne dX0_row_23 rfl (fun _ => ?_) (fun h => absurd h (by decide))
  refine w_iload_n dX0_row_32 rfl ?_
  exact w_newarrX (kc := 0) (ks := 168) dX0_row_33 hz (Nat.le_refl _) (Nat.zero_le _) (fun q m hm => t_out rfl ⟨rfl, m, hm, rfl⟩)
end TR6
