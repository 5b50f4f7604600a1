/-! House.be, X.back, X.mark where the house stands (printed by gen/hou.py) -/
set_option maxRecDepth 100000
theorem ce_mk {g : GG} {C : CS} (h : oO C 0 = true) : ceC g C 0 11 = some (.inl (g.2.2.2 6, 3, .inr (.inr (.inr (.inr (mkR C)))))) := if_pos h
set_option maxHeartbeats 4000000 in
theorem kX4_be {g : GG} {C : CS} {i o : Nat} {V W : VS} {q p : Nat → Nat} (hi : oO C i = true) (h4i : i < 4) (Ei : EncD g C i W p) (ho : oO C o = true) (h4o : o < 4) (E : EncD g C o V q) (hne : o ≠ i) (hl : oM C 90 = none) : Cp g miX4_be 3 16 1024 [.ref (od C 2 i), .ref (od C 2 o)] C none (fun C2 => ∃ C1, EncD g C1 i V (fun d => if p d < vt V 7 d then q d else p d) ∧ SD i C C1 ∧ C2 = uP C1 i (oP C o)) := by
  refine Cp.start [some (.ref (od C 2 i)), some (.ref (od C 2 o))] plX4 rfl (Nat.le_of_ble_eq_true rfl) rfl ?_
  intro σ0 σ H F
  refine w_aload_n dX4_be_0 rfl ?_
  refine gX4_10 (C := C) dX4_be_1 rfl hi h4i H ?_
  refine w_aload_n dX4_be_4 rfl ?_
  refine gX4_10 (C := C) dX4_be_5 rfl ho h4o H ?_
  refine cp_call (kc := 0) (ks := 0) (mi := miX5_be) dX4_be_8 q1537 okX5_be clX5 rfl (H.get (ce_day hi)) (Nat.le_of_ble_eq_true rfl) (kX5_be (C := C) hi Ei ho E hne hl) H F rfl rfl (Nat.le_of_ble_eq_true rfl) ?_
  rintro σ C1 ⟨E1, S1⟩ H F
  have hi1 : oO C1 i = true := by
    rw [S1.on]
    exact hi
  have ho1 : oO C1 o = true := by
    rw [S1.on]
    exact ho
  refine w_aload_n dX4_be_11 rfl ?_
  refine w_ref (S1.1 2 i (by omega) (by omega)) ?_
  refine w_aload_n dX4_be_12 rfl ?_
  refine w_ref (S1.1 2 o (by omega) (by omega)) ?_
  refine gX4_20 (C := C1) dX4_be_13 rfl ho1 h4o H ?_
  refine pX4_20 (C := C1) (x := oP C1 o) dX4_be_16 rfl hi1 h4i H F ?_
  intro σ H F
  exact w_vret dX4_be_19 rfl ⟨rfl, uP C1 i (oP C1 o), ⟨C1, E1, S1, by rw [S1.2.2.2.2.2.2.1]⟩, H, F⟩
/-- house i has become house o, the count of marks is m -/
def MkX (g : GG) (C C2 : CS) (i o m : Nat) (V : VS) (q p : Nat → Nat) : Prop := ∃ C1, EncD g C1 i V (fun d => if p d < vt V 7 d then q d else p d) ∧ SD i (uI C 0 30 7 (nI 0)) C1 ∧ C2 = uI (uP C1 i (oP C o)) 0 30 12 (nI m)
set_option maxHeartbeats 4000000 in
theorem kX0_back_a {g : GG} {C : CS} (hx : oO C 0 = true) (hm : oI C 0 30 12 = nI 0) : Cp g miX0_back 4 0 0 [.ref (od C 0 30)] C (some (.int (-1))) (fun C2 => C2 = uI C 0 30 7 (nI 6)) := by
  refine Cp.start [some (.ref (od C 0 30))] plX0 rfl (Nat.le_of_ble_eq_true rfl) rfl ?_
  intro σ0 σ H F
  refine w_aload_n dX0_back_0 rfl ?_
  refine w_aload_n dX0_back_1 rfl ?_
  refine gX0_469 (C := C) dX0_back_2 rfl hx H ?_
  rw [hm]
  refine w_ifN_ne dX0_back_5 rfl (by decide) (fun h => absurd (show _ from h) (by decide)) (fun _ => ?_)
  refine w_bipush (v := nI 6) dX0_back_8 kb_6 ?_
  refine w_goto dX0_back_10 rfl ?_
  refine pX0_85 (C := C) dX0_back_14 rfl hx H F ?_
  intro σ H F
  refine w_aload_n dX0_back_17 rfl ?_
  refine gst_85 dX0_back_18 rfl hx H ?_
  refine w_ifN_le dX0_back_21 rfl (by decide) (fun h => absurd (show _ from h) (by decide)) (fun _ => ?_)
  refine w_iconst (v := (-1)) dX0_back_24 ki_m1 ?_
  exact w_iret dX0_back_25 rfl ⟨rfl, _, rfl, H, F⟩
set_option maxHeartbeats 4000000 in
theorem kX0_back_b {g : GG} {C : CS} {m : Nat} {V W : VS} {q p : Nat → Nat} (hx : oO C 0 = true) (h0 : oO C 0 = true) (hm : oI C 0 30 12 = nI m) (hm0 : 0 < m) (hm3 : m ≤ 3) (ho : oO C m = true) (E0 : EncD g C 0 W p) (E : EncD g C m V q) (hl : oM C 90 = none) : Cp g miX0_back 4 16 1024 [.ref (od C 0 30)] C (some (.int (nI (m - 1)))) (fun C2 => ∃ C1, EncD g C1 0 V (fun d => if p d < vt V 7 d then q d else p d) ∧ SD 0 (uI (uI C 0 30 7 (nI 0)) 0 30 12 (nI (m - 1))) C1 ∧ C2 = uP C1 0 (oP C m)) := by
  refine Cp.start [some (.ref (od C 0 30))] plX0 rfl (Nat.le_of_ble_eq_true rfl) rfl ?_
  intro σ0 σ H F
  refine w_aload_n dX0_back_0 rfl ?_
  refine w_aload_n dX0_back_1 rfl ?_
  refine gX0_469 (C := C) dX0_back_2 rfl hx H ?_
  rw [hm]
  refine w_ifN_ne dX0_back_5 rfl (by omega) (fun _ => ?_) (fun h => absurd (show _ from h) (by omega))
  refine w_iconst (v := nI 0) dX0_back_13 ki_0 ?_
  refine pX0_85 (C := C) dX0_back_14 rfl hx H F ?_
  intro σ H F
  refine w_aload_n dX0_back_17 rfl ?_
  refine gst_85 dX0_back_18 rfl hx H ?_
  refine w_ifN_le dX0_back_21 rfl (by decide) (fun _ => ?_) (fun h => absurd (show _ from h) (by decide))
  refine w_aload_n dX0_back_26 rfl ?_
  refine w_dup dX0_back_27 rfl ?_
  refine gX0_469 (C := uI C 0 30 7 (nI 0)) dX0_back_28 rfl hx H ?_
  refine w_topN (n := m) ((oI_ne C _ (fun _ _ z => by omega)).trans hm) ?_
  refine w_iconst (v := nI 1) dX0_back_31 ki_1 ?_
  refine w_isubN dX0_back_32 hm0 ?_
  refine pX0_469 (C := uI C 0 30 7 (nI 0)) dX0_back_33 rfl hx H F ?_
  intro σ H F
  have F0 : EncD g (uI (uI C 0 30 7 (nI 0)) 0 30 12 (nI (m - 1))) 0 W p := EncD.stH H (EncD.eq E0 rfl rfl rfl (fun _ _ _ => rfl) (fun _ _ => rfl) (fun _ _ _ _ => ⟨rfl, rfl⟩))
  have Fm : EncD g (uI (uI C 0 30 7 (nI 0)) 0 30 12 (nI (m - 1))) m V q := EncD.stH H (EncD.eq E rfl rfl rfl (fun _ _ _ => rfl) (fun _ _ => rfl) (fun _ _ _ _ => ⟨rfl, rfl⟩))
  obtain ⟨C9, hC9⟩ : ∃ X, X = uI (uI C 0 30 7 (nI 0)) 0 30 12 (nI (m - 1)) := ⟨_, rfl⟩
  have x9 : oO C9 0 = true := by rw [hC9]; exact hx
  have z9 : oO C9 0 = true := by rw [hC9]; exact h0
  have m9 : oO C9 m = true := by rw [hC9]; exact ho
  have l9 : oM C9 90 = none := by rw [hC9]; exact hl
  have d9 : od C9 = od C := by rw [hC9]; rfl
  have p9 : oP C9 = oP C := by rw [hC9]; rfl
  have i9 : oI C9 0 30 12 = nI (m - 1) := by rw [hC9]; exact oI_eq _ 0 30 12 _
  rw [← hC9] at H F0 Fm
  have hmk : mkR C9 (m - 1) = some (od C9 2 m) := by
    unfold mkR
    rw [show m - 1 + 1 = m by omega, if_pos m9]
  have d30 : od C9 0 30 = od C 0 30 := by rw [d9]
  refine w_aload_n dX0_back_36 rfl ?_
  refine w_ref d30 ?_
  refine gX0_55 (C := C9) dX0_back_37 rfl x9 H ?_
  refine w_aload_n dX0_back_40 rfl ?_
  refine w_ref d30 ?_
  refine gX0_59 (C := C9) dX0_back_41 rfl x9 H ?_
  refine w_aload_n dX0_back_44 rfl ?_
  refine w_ref d30 ?_
  refine gX0_469 (C := C9) dX0_back_45 rfl x9 H ?_
  rw [i9]
  refine w_aaldN (k := 6) dX0_back_48 rfl (H.get (ce_mk x9)) (by omega) (by omega) ?_
  rw [hmk]
  refine cp_call (kc := 0) (ks := 0) (mi := miX4_be) dX0_back_49 q1533 okX4_be clX4 rfl (H.get (ce_house z9 (by omega))) (Nat.le_of_ble_eq_true rfl) (kX4_be (C := C9) (i := 0) (o := m) z9 (by omega) F0 m9 (by omega) Fm (by omega) l9) H F rfl rfl (Nat.le_of_ble_eq_true rfl) ?_
  rintro σ C2 ⟨C1, E1, S1, hC2⟩ H F
  have x2 : oO C2 0 = true := by
    rw [hC2]
    show oO C1 0 = true
    rw [S1.on]
    exact x9
  have d2 : od C2 0 30 = od C 0 30 := by
    rw [hC2]
    exact (S1.1 0 30 (by omega) (by omega)).trans d30
  have i2 : oI C2 0 30 12 = nI (m - 1) := by
    rw [hC2]
    exact (congrFun (S1.2.1 0 30 (by omega) (by omega)) 12).trans i9
  refine w_aload_n dX0_back_52 rfl ?_
  refine w_ref d2 ?_
  refine gX0_469 (C := C2) dX0_back_53 rfl x2 H ?_
  rw [i2]
  exact w_iret dX0_back_56 rfl ⟨rfl, C2, ⟨C1, E1, by rw [← hC9]; exact S1, by rw [hC2, p9]⟩, H, F⟩
set_option maxHeartbeats 4000000 in
theorem kX0_mark_a {g : GG} {C : CS} (hx : oO C 0 = true) (hm : oI C 0 30 12 = nI 3) : Cp g miX0_mark 4 0 0 [.ref (od C 0 30)] C (some (.int (-1))) (fun C2 => C2 = uI C 0 30 7 (nI 4)) := by
  refine Cp.start [some (.ref (od C 0 30))] plX0 rfl (Nat.le_of_ble_eq_true rfl) rfl ?_
  intro σ0 σ H F
  refine w_aload_n dX0_mark_0 rfl ?_
  refine w_aload_n dX0_mark_1 rfl ?_
  refine gX0_469 (C := C) dX0_mark_2 rfl hx H ?_
  rw [hm]
  refine w_iconst (v := nI 3) dX0_mark_5 ki_3 ?_
  refine w_icmpN_ne dX0_mark_6 rfl (by decide) (by decide) (fun h => absurd (show _ from h) (by decide)) (fun _ => ?_)
  refine w_iconst (v := nI 4) dX0_mark_9 ki_4 ?_
  refine w_goto dX0_mark_10 rfl ?_
  refine pX0_85 (C := C) dX0_mark_14 rfl hx H F ?_
  intro σ H F
  refine w_aload_n dX0_mark_17 rfl ?_
  refine gst_85 dX0_mark_18 rfl hx H ?_
  refine w_ifN_le dX0_mark_21 rfl (by decide) (fun h => absurd (show _ from h) (by decide)) (fun _ => ?_)
  refine w_iconst (v := (-1)) dX0_mark_24 ki_m1 ?_
  exact w_iret dX0_mark_25 rfl ⟨rfl, _, rfl, H, F⟩
/-- mark's tail: the house m + 1 stands -/
theorem mark_go {g : GG} {C C0 : CS} {σ σ0 : PH} {m mc ms : Nat} {V W : VS} {q p : Nat → Nat} {Q : CS → Prop} (d0 : od C 0 30 = od C0 0 30) (hx : oO C 0 = true) (h0 : oO C 0 = true) (hm : oI C 0 30 12 = nI m) (hm3 : m < 3) (ho : oO C (m + 1) = true) (E : EncD g C 0 V q) (Em : EncD g C (m + 1) W p) (hl : oM C 90 = none) (H : Hold g σ C) (F : Fr σ0 σ) (kk : ∀ C1, EncD g C1 (m + 1) V (fun d => if p d < vt V 7 d then q d else p d) → SD (m + 1) C C1 → Q (uI (uP C1 (m + 1) (oP C 0)) 0 30 12 (nI (m + 1)))) : Wp g (mtC g miX0_mark 4 mc ms σ0 (some (.int (nI (m + 1)))) Q) 16 1024 54 [some (.ref (od C0 0 30))] [] σ := by
  have hmk : mkR C m = some (od C 2 (m + 1)) := if_pos ho
  refine w_aload_n dX0_mark_54 rfl ?_
  refine w_ref d0 ?_
  refine gX0_59 (C := C) dX0_mark_55 rfl hx H ?_
  refine w_aload_n dX0_mark_58 rfl ?_
  refine w_ref d0 ?_
  refine gX0_469 (C := C) dX0_mark_59 rfl hx H ?_
  rw [hm]
  refine w_aaldN (k := 6) dX0_mark_62 rfl (H.get (ce_mk hx)) (by omega) (by omega) ?_
  rw [hmk]
  refine w_aload_n dX0_mark_63 rfl ?_
  refine w_ref d0 ?_
  refine gX0_55 (C := C) dX0_mark_64 rfl hx H ?_
  refine cp_call (kc := 0) (ks := 0) (mi := miX4_be) dX0_mark_67 q1533 okX4_be clX4 rfl (H.get (ce_house ho (by omega))) (Nat.le_of_ble_eq_true rfl) (kX4_be (C := C) (i := m + 1) (o := 0) ho (by omega) Em h0 (by omega) E (by omega) hl) H F rfl rfl (Nat.le_of_ble_eq_true rfl) ?_
  rintro σ C2 ⟨C1, E1, S1, hC2⟩ H F
  have x2 : oO C2 0 = true := by
    rw [hC2]
    show oO C1 0 = true
    rw [S1.on]
    exact hx
  have d2 : od C2 0 30 = od C0 0 30 := by
    rw [hC2]
    exact (S1.1 0 30 (by omega) (by omega)).trans d0
  have i2 : oI C2 0 30 12 = nI m := by
    rw [hC2]
    exact (congrFun (S1.2.1 0 30 (by omega) (by omega)) 12).trans hm
  refine w_aload_n dX0_mark_70 rfl ?_
  refine w_ref d2 ?_
  refine w_dup dX0_mark_71 rfl ?_
  refine gX0_469 (C := C2) dX0_mark_72 rfl x2 H ?_
  rw [i2]
  refine w_iconst (v := nI 1) dX0_mark_75 ki_1 ?_
  refine w_iaddN dX0_mark_76 ?_
  refine pX0_469 (C := C2) dX0_mark_77 rfl x2 H F ?_
  intro σ H F
  refine w_aload_n dX0_mark_80 rfl ?_
  refine w_ref d2 ?_
  refine gX0_469 (C := uI C2 0 30 12 (nI (m + 1))) dX0_mark_81 rfl x2 H ?_
  rw [oI_eq]
  exact w_iret dX0_mark_84 rfl ⟨rfl, _, by rw [hC2]; exact kk C1 E1 S1, H, F⟩
