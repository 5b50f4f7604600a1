/-! TRAYS OF THE COMPONENT: sortOf sizeOf number put -/
set_option maxRecDepth 100000
section TR1
variable {g : GG} {σ : PH} {a n : Nat} {t : Tg}
def AX : String := "java/lang/ArrayIndexOutOfBoundsException"
/-- the array threw: only the heap's size has grown -/
def GrX (E9 : String) (σ : PH) (q : Addr) (E : String) (σ2 : PH) : Prop := E = E9 ∧ ∃ m : Nat, σ.1 ≤ m ∧ σ2 = (m, σ.2)
theorem tX0_sortOf0 {f : Nat → Int32} (hh : σ.2 a = some (t, .inl (g.2.2.2 2, n, .inl f))) : Ct g miX0_sortOf 1 0 0 [.ref a] σ (fun w σ2 => w = some (.int (nI 0)) ∧ σ2 = σ) noX := by
  refine Ct.start [some (.ref a)] plX0 rfl (Nat.le_of_ble_eq_true rfl) rfl (fun _ => ?_)
  refine w_aload_n dX0_sortOf_0 rfl ?_
  refine w_instY (k := 2) dX0_sortOf_1 q625 rfl (fun h => va_nm_byte h) hh ?_
  refine w_if_eq dX0_sortOf_4 rfl (fun h => absurd h (by decide)) (fun _ => ?_)
  refine w_iconst (v := nI 0) dX0_sortOf_7 ki_0 ?_
  refine w_goto dX0_sortOf_8 rfl ?_
  exact w_iret dX0_sortOf_34 rfl ⟨rfl, rfl⟩
theorem tX0_sizeOf0 {f : Nat → Int32} (hh : σ.2 a = some (t, .inl (g.2.2.2 2, n, .inl f))) : Ct g miX0_sizeOf 1 0 0 [.ref a] σ (fun w σ2 => w = some (.int (nI n)) ∧ σ2 = σ) noX := by
  refine Ct.start [some (.ref a), none] plX0 rfl (Nat.le_of_ble_eq_true rfl) rfl (fun _ => ?_)
  refine w_aload_n dX0_sizeOf_0 rfl ?_
  refine w_instY (k := 2) dX0_sizeOf_1 q625 rfl (fun h => va_nm_byte h) hh ?_
  refine w_if_eq dX0_sizeOf_4 rfl (fun h => absurd h (by decide)) (fun _ => ?_)
  refine w_aload_n dX0_sizeOf_7 rfl ?_
  refine w_castA (k := 2) dX0_sizeOf_8 q625 rfl (fun h => va_nm_byte h) hh ?_
  refine w_astore_n dX0_sizeOf_11 rfl (by show _ < 2; decide) rfl ?_
  refine w_aload_n dX0_sizeOf_12 rfl ?_
  refine w_alen (k := 2) dX0_sizeOf_13 hh rfl ?_
  exact w_iret dX0_sizeOf_14 rfl ⟨rfl, rfl⟩
theorem tX0_number0 {f : Nat → Int32} (hh : σ.2 a = some (t, .inl (g.2.2.2 2, n, .inl f))) {i : Int32} (hn : n < 2147483648) : Ct g miX0_number 180 3 222 [.ref a, .int i] σ (fun w σ2 => vp_in i n ∧ w = some (.long ((f (cl i)).toInt64)) ∧ σ2 = σ) (fun q E σ2 => ¬ vp_in i n ∧ GrX AX σ q E σ2) := by
  refine Ct.start [some (.ref a), some (.int i), none] plX0 rfl (Nat.le_of_ble_eq_true rfl) rfl (fun _ => ?_)
  refine w_aload_n dX0_number_0 rfl ?_
  refine w_instY (k := 2) dX0_number_1 q625 rfl (fun h => va_nm_byte h) hh ?_
  refine w_if_eq dX0_number_4 rfl (fun h => absurd h (by decide)) (fun _ => ?_)
  refine w_aload_n dX0_number_7 rfl ?_
  refine w_castA (k := 2) dX0_number_8 q625 rfl (fun h => va_nm_byte h) hh ?_
  refine w_astore_n dX0_number_11 rfl (by show _ < 3; decide) rfl ?_
  refine w_aload_n dX0_number_12 rfl ?_
  refine w_iload_n dX0_number_13 rfl ?_
  by_cases hin : vp_in i n
  rotate_left
  · exact w_baldX dX0_number_14 hh hin hn (Nat.le_refl _) (Nat.zero_le _) (fun q m hm => t_out rfl ⟨hin, rfl, m, hm, rfl⟩)
  refine w_bald dX0_number_14 hh hin ?_
  refine w_i2l dX0_number_15 rfl ?_
  exact w_lret dX0_number_16 rfl ⟨hin, rfl, rfl⟩
theorem tX0_put0 {f : Nat → Int32} (hh : σ.2 a = some (t, .inl (g.2.2.2 2, n, .inl f))) {i : Int32} {v : Int64} (hn : n < 2147483648) : Ct g miX0_put 180 3 222 [.ref a, .int i, .long v] σ (fun w σ2 => vp_in i n ∧ w = none ∧ σ2 = hup σ a t (.inl (g.2.2.2 2, n, .inl (upd f (cl i) (vp_nar .byte v.toInt32.toInt8.toInt32))))) (fun q E σ2 => ¬ vp_in i n ∧ GrX AX σ q E σ2) := by
  refine Ct.start [some (.ref a), some (.int i), some (.long v), none, none, none, none] plX0 rfl (Nat.le_of_ble_eq_true rfl) rfl (fun _ => ?_)
  refine w_aload_n dX0_put_0 rfl ?_
  refine w_instY (k := 2) dX0_put_1 q625 rfl (fun h => va_nm_byte h) hh ?_
  refine w_if_eq dX0_put_4 rfl (fun h => absurd h (by decide)) (fun _ => ?_)
  refine w_aload_n dX0_put_7 rfl ?_
  refine w_castA (k := 2) dX0_put_8 q625 rfl (fun h => va_nm_byte h) hh ?_
  refine w_astore dX0_put_11 rfl (by show _ < 7; decide) rfl ?_
  refine w_aload dX0_put_13 rfl ?_
  refine w_iload_n dX0_put_15 rfl ?_
  refine w_lload_n dX0_put_16 rfl ?_
  refine w_l2i dX0_put_17 rfl ?_
  refine w_i2b dX0_put_18 rfl ?_
  by_cases hin : vp_in i n
  rotate_left
  · exact w_bastX dX0_put_19 hh hin hn (Nat.le_refl _) (Nat.zero_le _) (fun q m hm => t_out rfl ⟨hin, rfl, m, hm, rfl⟩)
  refine w_bast dX0_put_19 hh hin ?_
  refine w_goto dX0_put_20 rfl ?_
  exact w_vret dX0_put_75 rfl ⟨hin, rfl, rfl⟩
theorem tX0_sortOf1 {f : Nat → Int32} (hh : σ.2 a = some (t, .inl (g.2.2.2 3, n, .inl f))) : Ct g miX0_sortOf 1 0 0 [.ref a] σ (fun w σ2 => w = some (.int (nI 1)) ∧ σ2 = σ) noX := by
  refine Ct.start [some (.ref a)] plX0 rfl (Nat.le_of_ble_eq_true rfl) rfl (fun _ => ?_)
  refine w_aload_n dX0_sortOf_0 rfl ?_
  refine w_instN (k := 3) dX0_sortOf_1 q625 rfl (fun h => va_nm_short h) (by decide) hh ?_
  refine w_if_eq dX0_sortOf_4 rfl (fun _ => ?_) (fun h => absurd rfl h)
  refine w_aload_n dX0_sortOf_11 rfl ?_
  refine w_instY (k := 3) dX0_sortOf_12 q626 rfl (fun h => va_nm_short h) hh ?_
  refine w_if_eq dX0_sortOf_15 rfl (fun h => absurd h (by decide)) (fun _ => ?_)
  refine w_iconst (v := nI 1) dX0_sortOf_18 ki_1 ?_
  refine w_goto dX0_sortOf_19 rfl ?_
  exact w_iret dX0_sortOf_34 rfl ⟨rfl, rfl⟩
theorem tX0_sizeOf1 {f : Nat → Int32} (hh : σ.2 a = some (t, .inl (g.2.2.2 3, n, .inl f))) : Ct g miX0_sizeOf 1 0 0 [.ref a] σ (fun w σ2 => w = some (.int (nI n)) ∧ σ2 = σ) noX := by
  refine Ct.start [some (.ref a), none] plX0 rfl (Nat.le_of_ble_eq_true rfl) rfl (fun _ => ?_)
  refine w_aload_n dX0_sizeOf_0 rfl ?_
  refine w_instN (k := 3) dX0_sizeOf_1 q625 rfl (fun h => va_nm_short h) (by decide) hh ?_
  refine w_if_eq dX0_sizeOf_4 rfl (fun _ => ?_) (fun h => absurd rfl h)
  refine w_aload_n dX0_sizeOf_15 rfl ?_
  refine w_instY (k := 3) dX0_sizeOf_16 q626 rfl (fun h => va_nm_short h) hh ?_
  refine w_if_eq dX0_sizeOf_19 rfl (fun h => absurd h (by decide)) (fun _ => ?_)
  refine w_aload_n dX0_sizeOf_22 rfl ?_
  refine w_castA (k := 3) dX0_sizeOf_23 q626 rfl (fun h => va_nm_short h) hh ?_
  refine w_astore_n dX0_sizeOf_26 rfl (by show _ < 2; decide) rfl ?_
  refine w_aload_n dX0_sizeOf_27 rfl ?_
  refine w_alen (k := 3) dX0_sizeOf_28 hh rfl ?_
  exact w_iret dX0_sizeOf_29 rfl ⟨rfl, rfl⟩
theorem tX0_number1 {f : Nat → Int32} (hh : σ.2 a = some (t, .inl (g.2.2.2 3, n, .inl f))) {i : Int32} (hn : n < 2147483648) : Ct g miX0_number 180 3 222 [.ref a, .int i] σ (fun w σ2 => vp_in i n ∧ w = some (.long ((f (cl i)).toInt64)) ∧ σ2 = σ) (fun q E σ2 => ¬ vp_in i n ∧ GrX AX σ q E σ2) := by
  refine Ct.start [some (.ref a), some (.int i), none] plX0 rfl (Nat.le_of_ble_eq_true rfl) rfl (fun _ => ?_)
  refine w_aload_n dX0_number_0 rfl ?_
  refine w_instN (k := 3) dX0_number_1 q625 rfl (fun h => va_nm_short h) (by decide) hh ?_
  refine w_if_eq dX0_number_4 rfl (fun _ => ?_) (fun h => absurd rfl h)
  refine w_aload_n dX0_number_17 rfl ?_
  refine w_instY (k := 3) dX0_number_18 q626 rfl (fun h => va_nm_short h) hh ?_
  refine w_if_eq dX0_number_21 rfl (fun h => absurd h (by decide)) (fun _ => ?_)
  refine w_aload_n dX0_number_24 rfl ?_
  refine w_castA (k := 3) dX0_number_25 q626 rfl (fun h => va_nm_short h) hh ?_
  refine w_astore_n dX0_number_28 rfl (by show _ < 3; decide) rfl ?_
  refine w_aload_n dX0_number_29 rfl ?_
  refine w_iload_n dX0_number_30 rfl ?_
  by_cases hin : vp_in i n
  rotate_left
  · exact w_saldX dX0_number_31 hh hin hn (Nat.le_refl _) (Nat.zero_le _) (fun q m hm => t_out rfl ⟨hin, rfl, m, hm, rfl⟩)
  refine w_sald dX0_number_31 hh hin ?_
  refine w_i2l dX0_number_32 rfl ?_
  exact w_lret dX0_number_33 rfl ⟨hin, rfl, rfl⟩
theorem tX0_put1 {f : Nat → Int32} (hh : σ.2 a = some (t, .inl (g.2.2.2 3, n, .inl f))) {i : Int32} {v : Int64} (hn : n < 2147483648) : Ct g miX0_put 180 3 222 [.ref a, .int i, .long v] σ (fun w σ2 => vp_in i n ∧ w = none ∧ σ2 = hup σ a t (.inl (g.2.2.2 3, n, .inl (upd f (cl i) (vp_nar .short v.toInt32.toInt16.toInt32))))) (fun q E σ2 => ¬ vp_in i n ∧ GrX AX σ q E σ2) := by
  refine Ct.start [some (.ref a), some (.int i), some (.long v), none, none, none, none] plX0 rfl (Nat.le_of_ble_eq_true rfl) rfl (fun _ => ?_)
  refine w_aload_n dX0_put_0 rfl ?_
  refine w_instN (k := 3) dX0_put_1 q625 rfl (fun h => va_nm_short h) (by decide) hh ?_
  refine w_if_eq dX0_put_4 rfl (fun _ => ?_) (fun h => absurd rfl h)
  refine w_aload_n dX0_put_23 rfl ?_
  refine w_instY (k := 3) dX0_put_24 q626 rfl (fun h => va_nm_short h) hh ?_
  refine w_if_eq dX0_put_27 rfl (fun h => absurd h (by decide)) (fun _ => ?_)
  refine w_aload_n dX0_put_30 rfl ?_
  refine w_castA (k := 3) dX0_put_31 q626 rfl (fun h => va_nm_short h) hh ?_
  refine w_astore dX0_put_34 rfl (by show _ < 7; decide) rfl ?_
  refine w_aload dX0_put_36 rfl ?_
  refine w_iload_n dX0_put_38 rfl ?_
  refine w_lload_n dX0_put_39 rfl ?_
  refine w_l2i dX0_put_40 rfl ?_
  refine w_i2s dX0_put_41 rfl ?_
  by_cases hin : vp_in i n
  rotate_left
  · exact w_sastX dX0_put_42 hh hin hn (Nat.le_refl _) (Nat.zero_le _) (fun q m hm => t_out rfl ⟨hin, rfl, m, hm, rfl⟩)
  refine w_sast dX0_put_42 hh hin ?_
  refine w_goto dX0_put_43 rfl ?_
  exact w_vret dX0_put_75 rfl ⟨hin, rfl, rfl⟩
theorem tX0_sortOf2 {f : Nat → Int32} (hh : σ.2 a = some (t, .inl (g.2.2.2 0, n, .inl f))) : Ct g miX0_sortOf 1 0 0 [.ref a] σ (fun w σ2 => w = some (.int (nI 2)) ∧ σ2 = σ) noX := by
  refine Ct.start [some (.ref a)] plX0 rfl (Nat.le_of_ble_eq_true rfl) rfl (fun _ => ?_)
  refine w_aload_n dX0_sortOf_0 rfl ?_
  refine w_instN (k := 0) dX0_sortOf_1 q625 rfl (fun h => va_nm_int h) (by decide) hh ?_
  refine w_if_eq dX0_sortOf_4 rfl (fun _ => ?_) (fun h => absurd rfl h)
  refine w_aload_n dX0_sortOf_11 rfl ?_
  refine w_instN (k := 0) dX0_sortOf_12 q626 rfl (fun h => va_nm_int h) (by decide) hh ?_
  refine w_if_eq dX0_sortOf_15 rfl (fun _ => ?_) (fun h => absurd rfl h)
  refine w_aload_n dX0_sortOf_22 rfl ?_
  refine w_instY (k := 0) dX0_sortOf_23 q627 rfl (fun h => va_nm_int h) hh ?_
  refine w_if_eq dX0_sortOf_26 rfl (fun h => absurd h (by decide)) (fun _ => ?_)
  refine w_iconst (v := nI 2) dX0_sortOf_29 ki_2 ?_
  refine w_goto dX0_sortOf_30 rfl ?_
  exact w_iret dX0_sortOf_34 rfl ⟨rfl, rfl⟩
theorem tX0_sizeOf2 {f : Nat → Int32} (hh : σ.2 a = some (t, .inl (g.2.2.2 0, n, .inl f))) : Ct g miX0_sizeOf 1 0 0 [.ref a] σ (fun w σ2 => w = some (.int (nI n)) ∧ σ2 = σ) noX := by
  refine Ct.start [some (.ref a), none] plX0 rfl (Nat.le_of_ble_eq_true rfl) rfl (fun _ => ?_)
  refine w_aload_n dX0_sizeOf_0 rfl ?_
  refine w_instN (k := 0) dX0_sizeOf_1 q625 rfl (fun h => va_nm_int h) (by decide) hh ?_
  refine w_if_eq dX0_sizeOf_4 rfl (fun _ => ?_) (fun h => absurd rfl h)
  refine w_aload_n dX0_sizeOf_15 rfl ?_
  refine w_instN (k := 0) dX0_sizeOf_16 q626 rfl (fun h => va_nm_int h) (by decide) hh ?_
  refine w_if_eq dX0_sizeOf_19 rfl (fun _ => ?_) (fun h => absurd rfl h)
  refine w_aload_n dX0_sizeOf_30 rfl ?_
  refine w_instY (k := 0) dX0_sizeOf_31 q627 rfl (fun h => va_nm_int h) hh ?_
  refine w_if_eq dX0_sizeOf_34 rfl (fun h => absurd h (by decide)) (fun _ => ?_)
  refine w_aload_n dX0_sizeOf_37 rfl ?_
  refine w_castA (k := 0) dX0_sizeOf_38 q627 rfl (fun h => va_nm_int h) hh ?_
  refine w_astore_n dX0_sizeOf_41 rfl (by show _ < 2; decide) rfl ?_
  refine w_aload_n dX0_sizeOf_42 rfl ?_
  refine w_alen (k := 0) dX0_sizeOf_43 hh rfl ?_
  refine w_goto dX0_sizeOf_44 rfl ?_
  exact w_iret dX0_sizeOf_52 rfl ⟨rfl, rfl⟩
theorem tX0_number2 {f : Nat → Int32} (hh : σ.2 a = some (t, .inl (g.2.2.2 0, n, .inl f))) {i : Int32} (hn : n < 2147483648) : Ct g miX0_number 180 3 222 [.ref a, .int i] σ (fun w σ2 => vp_in i n ∧ w = some (.long ((f (cl i)).toInt64)) ∧ σ2 = σ) (fun q E σ2 => ¬ vp_in i n ∧ GrX AX σ q E σ2) := by
  refine Ct.start [some (.ref a), some (.int i), none] plX0 rfl (Nat.le_of_ble_eq_true rfl) rfl (fun _ => ?_)
  refine w_aload_n dX0_number_0 rfl ?_
  refine w_instN (k := 0) dX0_number_1 q625 rfl (fun h => va_nm_int h) (by decide) hh ?_
  refine w_if_eq dX0_number_4 rfl (fun _ => ?_) (fun h => absurd rfl h)
  refine w_aload_n dX0_number_17 rfl ?_
  refine w_instN (k := 0) dX0_number_18 q626 rfl (fun h => va_nm_int h) (by decide) hh ?_
  refine w_if_eq dX0_number_21 rfl (fun _ => ?_) (fun h => absurd rfl h)
  refine w_aload_n dX0_number_34 rfl ?_
  refine w_instY (k := 0) dX0_number_35 q627 rfl (fun h => va_nm_int h) hh ?_
  refine w_if_eq dX0_number_38 rfl (fun h => absurd h (by decide)) (fun _ => ?_)
  refine w_aload_n dX0_number_41 rfl ?_
  refine w_castA (k := 0) dX0_number_42 q627 rfl (fun h => va_nm_int h) hh ?_
  refine w_astore_n dX0_number_45 rfl (by show _ < 3; decide) rfl ?_
  refine w_aload_n dX0_number_46 rfl ?_
  refine w_iload_n dX0_number_47 rfl ?_
  by_cases hin : vp_in i n
  rotate_left
  · exact w_ialdX dX0_number_48 hh hin hn (Nat.le_refl _) (Nat.zero_le _) (fun q m hm => t_out rfl ⟨hin, rfl, m, hm, rfl⟩)
  refine w_iald dX0_number_48 hh hin ?_
  refine w_i2l dX0_number_49 rfl ?_
  refine w_goto dX0_number_50 rfl ?_
  exact w_lret dX0_number_59 rfl ⟨hin, rfl, rfl⟩
theorem tX0_put2 {f : Nat → Int32} (hh : σ.2 a = some (t, .inl (g.2.2.2 0, n, .inl f))) {i : Int32} {v : Int64} (hn : n < 2147483648) : Ct g miX0_put 180 3 222 [.ref a, .int i, .long v] σ (fun w σ2 => vp_in i n ∧ w = none ∧ σ2 = hup σ a t (.inl (g.2.2.2 0, n, .inl (upd f (cl i) v.toInt32)))) (fun q E σ2 => ¬ vp_in i n ∧ GrX AX σ q E σ2) := by
  refine Ct.start [some (.ref a), some (.int i), some (.long v), none, none, none, none] plX0 rfl (Nat.le_of_ble_eq_true rfl) rfl (fun _ => ?_)
  refine w_aload_n dX0_put_0 rfl ?_
  refine w_instN (k := 0) dX0_put_1 q625 rfl (fun h => va_nm_int h) (by decide) hh ?_
  refine w_if_eq dX0_put_4 rfl (fun _ => ?_) (fun h => absurd rfl h)
  refine w_aload_n dX0_put_23 rfl ?_
  refine w_instN (k := 0) dX0_put_24 q626 rfl (fun h => va_nm_int h) (by decide) hh ?_
  refine w_if_eq dX0_put_27 rfl (fun _ => ?_) (fun h => absurd rfl h)
  refine w_aload_n dX0_put_46 rfl ?_
  refine w_instY (k := 0) dX0_put_47 q627 rfl (fun h => va_nm_int h) hh ?_
  refine w_if_eq dX0_put_50 rfl (fun h => absurd h (by decide)) (fun _ => ?_)
  refine w_aload_n dX0_put_53 rfl ?_
  refine w_castA (k := 0) dX0_put_54 q627 rfl (fun h => va_nm_int h) hh ?_
  refine w_astore dX0_put_57 rfl (by show _ < 7; decide) rfl ?_
  refine w_aload dX0_put_59 rfl ?_
  refine w_iload_n dX0_put_61 rfl ?_
  refine w_lload_n dX0_put_62 rfl ?_
  refine w_l2i dX0_put_63 rfl ?_
  by_cases hin : vp_in i n
  rotate_left
  · exact w_iastX dX0_put_64 hh hin hn (Nat.le_refl _) (Nat.zero_le _) (fun q m hm => t_out rfl ⟨hin, rfl, m, hm, rfl⟩)
  refine w_iast dX0_put_64 hh hin ?_
  refine w_goto dX0_put_65 rfl ?_
  exact w_vret dX0_put_75 rfl ⟨hin, rfl, rfl⟩
theorem tX0_sortOf3 {f : Nat → Int64} (hh : σ.2 a = some (t, .inl (g.2.2.2 1, n, .inr (.inl f)))) : Ct g miX0_sortOf 1 0 0 [.ref a] σ (fun w σ2 => w = some (.int (nI 3)) ∧ σ2 = σ) noX := by
  refine Ct.start [some (.ref a)] plX0 rfl (Nat.le_of_ble_eq_true rfl) rfl (fun _ => ?_)
  refine w_aload_n dX0_sortOf_0 rfl ?_
  refine w_instN (k := 1) dX0_sortOf_1 q625 rfl (fun h => va_nm_long h) (by decide) hh ?_
  refine w_if_eq dX0_sortOf_4 rfl (fun _ => ?_) (fun h => absurd rfl h)
  refine w_aload_n dX0_sortOf_11 rfl ?_
  refine w_instN (k := 1) dX0_sortOf_12 q626 rfl (fun h => va_nm_long h) (by decide) hh ?_
  refine w_if_eq dX0_sortOf_15 rfl (fun _ => ?_) (fun h => absurd rfl h)
  refine w_aload_n dX0_sortOf_22 rfl ?_
  refine w_instN (k := 1) dX0_sortOf_23 q627 rfl (fun h => va_nm_long h) (by decide) hh ?_
  refine w_if_eq dX0_sortOf_26 rfl (fun _ => ?_) (fun h => absurd rfl h)
  refine w_iconst (v := nI 3) dX0_sortOf_33 ki_3 ?_
  exact w_iret dX0_sortOf_34 rfl ⟨rfl, rfl⟩
theorem tX0_sizeOf3 {f : Nat → Int64} (hh : σ.2 a = some (t, .inl (g.2.2.2 1, n, .inr (.inl f)))) : Ct g miX0_sizeOf 1 0 0 [.ref a] σ (fun w σ2 => w = some (.int (nI n)) ∧ σ2 = σ) noX := by
  refine Ct.start [some (.ref a), none] plX0 rfl (Nat.le_of_ble_eq_true rfl) rfl (fun _ => ?_)
  refine w_aload_n dX0_sizeOf_0 rfl ?_
  refine w_instN (k := 1) dX0_sizeOf_1 q625 rfl (fun h => va_nm_long h) (by decide) hh ?_
  refine w_if_eq dX0_sizeOf_4 rfl (fun _ => ?_) (fun h => absurd rfl h)
  refine w_aload_n dX0_sizeOf_15 rfl ?_
  refine w_instN (k := 1) dX0_sizeOf_16 q626 rfl (fun h => va_nm_long h) (by decide) hh ?_
  refine w_if_eq dX0_sizeOf_19 rfl (fun _ => ?_) (fun h => absurd rfl h)
  refine w_aload_n dX0_sizeOf_30 rfl ?_
  refine w_instN (k := 1) dX0_sizeOf_31 q627 rfl (fun h => va_nm_long h) (by decide) hh ?_
  refine w_if_eq dX0_sizeOf_34 rfl (fun _ => ?_) (fun h => absurd rfl h)
  refine w_aload_n dX0_sizeOf_47 rfl ?_
  refine w_castA (k := 1) dX0_sizeOf_48 q628 rfl (fun h => va_nm_long h) hh ?_
  refine w_alen (k := 1) dX0_sizeOf_51 hh rfl ?_
  exact w_iret dX0_sizeOf_52 rfl ⟨rfl, rfl⟩
theorem tX0_number3 {f : Nat → Int64} (hh : σ.2 a = some (t, .inl (g.2.2.2 1, n, .inr (.inl f)))) {i : Int32} (hn : n < 2147483648) : Ct g miX0_number 180 3 222 [.ref a, .int i] σ (fun w σ2 => vp_in i n ∧ w = some (.long (f (cl i))) ∧ σ2 = σ) (fun q E σ2 => ¬ vp_in i n ∧ GrX AX σ q E σ2) := by
  refine Ct.start [some (.ref a), some (.int i), none] plX0 rfl (Nat.le_of_ble_eq_true rfl) rfl (fun _ => ?_)
  refine w_aload_n dX0_number_0 rfl ?_
  refine w_instN (k := 1) dX0_number_1 q625 rfl (fun h => va_nm_long h) (by decide) hh ?_
  refine w_if_eq dX0_number_4 rfl (fun _ => ?_) (fun h => absurd rfl h)
  refine w_aload_n dX0_number_17 rfl ?_
  refine w_instN (k := 1) dX0_number_18 q626 rfl (fun h => va_nm_long h) (by decide) hh ?_
  refine w_if_eq dX0_number_21 rfl (fun _ => ?_) (fun h => absurd rfl h)
  refine w_aload_n dX0_number_34 rfl ?_
  refine w_instN (k := 1) dX0_number_35 q627 rfl (fun h => va_nm_long h) (by decide) hh ?_
  refine w_if_eq dX0_number_38 rfl (fun _ => ?_) (fun h => absurd rfl h)
  refine w_aload_n dX0_number_53 rfl ?_
  refine w_castA (k := 1) dX0_number_54 q628 rfl (fun h => va_nm_long h) hh ?_
  refine w_iload_n dX0_number_57 rfl ?_
  by_cases hin : vp_in i n
  rotate_left
  · exact w_laldX dX0_number_58 hh hin hn (Nat.le_refl _) (Nat.zero_le _) (fun q m hm => t_out rfl ⟨hin, rfl, m, hm, rfl⟩)
  refine w_lald dX0_number_58 hh hin ?_
  exact w_lret dX0_number_59 rfl ⟨hin, rfl, rfl⟩
theorem tX0_put3 {f : Nat → Int64} (hh : σ.2 a = some (t, .inl (g.2.2.2 1, n, .inr (.inl f)))) {i : Int32} {v : Int64} (hn : n < 2147483648) : Ct g miX0_put 180 3 222 [.ref a, .int i, .long v] σ (fun w σ2 => vp_in i n ∧ w = none ∧ σ2 = hup σ a t (.inl (g.2.2.2 1, n, .inr (.inl (vp_updL f (cl i) v))))) (fun q E σ2 => ¬ vp_in i n ∧ GrX AX σ q E σ2) := by
  refine Ct.start [some (.ref a), some (.int i), some (.long v), none, none, none, none] plX0 rfl (Nat.le_of_ble_eq_true rfl) rfl (fun _ => ?_)
  refine w_aload_n dX0_put_0 rfl ?_
  refine w_instN (k := 1) dX0_put_1 q625 rfl (fun h => va_nm_long h) (by decide) hh ?_
  refine w_if_eq dX0_put_4 rfl (fun _ => ?_) (fun h => absurd rfl h)
  refine w_aload_n dX0_put_23 rfl ?_
  refine w_instN (k := 1) dX0_put_24 q626 rfl (fun h => va_nm_long h) (by decide) hh ?_
  refine w_if_eq dX0_put_27 rfl (fun _ => ?_) (fun h => absurd rfl h)
  refine w_aload_n dX0_put_46 rfl ?_
  refine w_instN (k := 1) dX0_put_47 q627 rfl (fun h => va_nm_long h) (by decide) hh ?_
  refine w_if_eq dX0_put_50 rfl (fun _ => ?_) (fun h => absurd rfl h)
  refine w_aload_n dX0_put_68 rfl ?_
  refine w_castA (k := 1) dX0_put_69 q628 rfl (fun h => va_nm_long h) hh ?_
  refine w_iload_n dX0_put_72 rfl ?_
  refine w_lload_n dX0_put_73 rfl ?_
  by_cases hin : vp_in i n
  rotate_left
  · exact w_lastX dX0_put_74 hh hin hn (Nat.le_refl _) (Nat.zero_le _) (fun q m hm => t_out rfl ⟨hin, rfl, m, hm, rfl⟩)
  refine w_last dX0_put_74 hh hin ?_
  exact w_vret dX0_put_75 rfl ⟨hin, rfl, rfl⟩
end TR1
