set_option maxRecDepth 100000
theorem in_min {x : Int32} {p m : Nat} (h1 : ¬ x < 0) (h2 : ¬ nI p < x) (h3 : x ≤ nI m) (hp : p ≤ 900) (hm : m ≤ 900) : inN x (min p m + 1) := by
  obtain ⟨q, hqm, rfl⟩ := inN_of (in_le h1 h3 (by omega)) (by omega)
  rw [nI_ltI (by omega) (by omega)] at h2
  exact inN_nI (by omega) (by omega)
/-- the state when a tape is opened -/
def opC (C : CS) : CS := uI (uI (uI (uI C 0 30 7 (nI 0)) 0 30 2 (nI 0)) 0 30 3 (nI 0)) 0 30 4 (-1)
def a_lived2 (C : CS) (x : Int32) : AS := if inN x 5 then (if oI C 0 30 22 = 0 then (-1, nI 6) else (oA C 0 21 (cl x), nI 0)) else (-1, nI 1)
/-- the bytes laid on the tape -/
def lay4 (C : CS) (v : Int32) (p : Nat) : Nat → CS
  | 0 => C
  | j + 1 => uI (uA (lay4 C v p j) 0 1 (p + j) (b4 v j)) 0 30 2 (nI (p + j + 1))
theorem lay4_2 {C : CS} {v : Int32} {p : Nat} (h : oI C 0 30 2 = nI p) : ∀ j, oI (lay4 C v p j) 0 30 2 = nI (p + j)
  | 0 => h
  | j + 1 => oI_eq _ 0 30 2 _
theorem lay4_od {C : CS} {v : Int32} {p : Nat} : ∀ j, od (lay4 C v p j) = od C
  | 0 => rfl
  | j + 1 => lay4_od j
theorem lay4_oO {C : CS} {v : Int32} {p : Nat} : ∀ j, oO (lay4 C v p j) = oO C
  | 0 => rfl
  | j + 1 => lay4_oO j
theorem hup_get (σ : PH) (a : Nat) (t : Tg) (e : va_E) : (hup σ a t e).2 a = some (t, e) := if_pos rfl
theorem hup_hup (σ : PH) (a : Nat) (t t2 : Tg) (e e2 : va_E) : hup (hup σ a t e) a t2 e2 = hup σ a t2 e2 := by
  refine Prod.ext rfl (funext fun q => ?_)
  show (if q = a then some (t2, e2) else if q = a then some (t, e) else σ.2 q) = if q = a then some (t2, e2) else σ.2 q
  split <;> rfl
theorem xs_tape {g : GG} {mt : MT} {kc ks pc a : Nat} {L : List (Option Value)} {st : List Value} {σ σ0 : PH} {C : CS} {x : Int32} (dd : decode mt.1.2.1 pc = .ok (.bastore, 1)) (hx : oO C 0 = true) (ha : a < 900) (H : Hold g σ C) (F : Fr σ0 σ) (kk : ∀ σ, Hold g σ (uA C 0 1 a (vp_nar .byte x)) → Fr σ0 σ → Wp g mt kc ks (pc + 1) L st σ) : Wp g mt kc ks pc L (.int x :: .int (nI a) :: .ref (od C 0 1) :: st) σ :=
  w_bastN dd (H.get (ce_tape hx)) ha (by omega) (kk _ (H.set (k := 0) (j := 1) (C2 := uA C 0 1 a (vp_nar .byte x)) (ce_tape hx) (by decide) rfl rfl (ce_tape (C := uA C 0 1 a (vp_nar .byte x)) hx) ot_XA1) (F.hup (by show 0 < 20; decide) (H.get (ce_tape hx))))
set_option maxHeartbeats 4000000 in
theorem kX0_opens_t {g : GG} {C : CS} {x : Nat} {y : Nat} {p : Nat} (hx : oO C 0 = true) (ht : oI C 0 30 2 = nI p) (hp9 : p ≤ 900) (hn : x ≤ p) (hny : x ≤ y) (hy9 : y ≤ 900) : Cp g miX0_opens 1 (0) (0) [.ref (od C 0 30), .int (nI x), .int (nI y)] C (some (.int ((nI 1)))) (fun C2 => C2 = opC C) := by
  refine Cp.start [some (.ref (od C 0 30)), some (.int (nI x)), some (.int (nI y))] plX0 rfl (Nat.le_of_ble_eq_true rfl) rfl ?_
  intro σ0 σ H F
  refine w_aload_n dX0_opens_0 rfl ?_
  refine w_iload_n dX0_opens_1 rfl ?_
  refine w_ifN_lt dX0_opens_2 rfl (by omega) (fun h_2 => ?_) (fun h_2 => ?_)
  · exact absurd h_2 (by omega)
  · refine w_iload_n dX0_opens_5 rfl ?_
    refine w_aload_n dX0_opens_6 rfl ?_
    refine gX0_193 (C := C) dX0_opens_7 rfl hx H ?_
    rw [ht]
    refine w_icmpN_gt dX0_opens_10 rfl (by omega) (by omega) (fun h_10 => ?_) (fun h_10 => ?_)
    · exact absurd h_10 (by omega)
    · refine w_iload_n dX0_opens_13 rfl ?_
      refine w_iload_n dX0_opens_14 rfl ?_
      refine w_icmpN_le dX0_opens_15 rfl (by omega) (by omega) (fun h_15 => ?_) (fun h_15 => ?_)
      · refine w_iconst (v := nI 0) dX0_opens_22 ki_0 ?_
        refine pX0_85 (C := C) dX0_opens_23 rfl hx H F ?_
        intro σ H F
        refine w_aload_n dX0_opens_26 rfl ?_
        refine gst_85 dX0_opens_27 rfl hx H ?_
        refine w_ifN_le dX0_opens_30 rfl (by decide) (fun h_30 => ?_) (fun h_30 => ?_)
        rotate_left
        · exact absurd (show _ from h_30) (by decide)
        refine w_aload_n dX0_opens_35 rfl ?_
        refine w_iconst (v := nI 0) dX0_opens_36 ki_0 ?_
        refine pX0_193 (C := uI (C) 0 30 7 _) dX0_opens_37 rfl hx H F ?_
        intro σ H F
        refine w_aload_n dX0_opens_40 rfl ?_
        refine w_iconst (v := nI 0) dX0_opens_41 ki_0 ?_
        refine pX0_27 (C := uI (uI (C) 0 30 7 _) 0 30 2 _) dX0_opens_42 rfl hx H F ?_
        intro σ H F
        refine w_aload_n dX0_opens_45 rfl ?_
        refine w_iconst (v := (-1)) dX0_opens_46 ki_m1 ?_
        refine pX0_31 (C := uI (uI (uI (C) 0 30 7 _) 0 30 2 _) 0 30 3 _) dX0_opens_47 rfl hx H F ?_
        intro σ H F
        refine w_iconst (v := nI 1) dX0_opens_50 ki_1 ?_
        exact w_zret dX0_opens_51 rfl (by first | exact narr0 | exact narr1) ⟨by rfl, _, by rfl, H, F⟩
      · exact absurd hny (by omega)
set_option maxHeartbeats 4000000 in
theorem kX0_opens_f {g : GG} {C : CS} {x : Int32} {y : Nat} {p : Nat} (hx : oO C 0 = true) (ht : oI C 0 30 2 = nI p) (hp9 : p ≤ 900) (hy9 : y ≤ 900) (hno : ¬ inN x (min p y + 1)) : Cp g miX0_opens 1 (0) (0) [.ref (od C 0 30), .int x, .int (nI y)] C (some (.int ((nI 0)))) (fun C2 => C2 = uI C 0 30 7 (nI 1)) := by
  refine Cp.start [some (.ref (od C 0 30)), some (.int x), some (.int (nI y))] plX0 rfl (Nat.le_of_ble_eq_true rfl) rfl ?_
  intro σ0 σ H F
  refine w_aload_n dX0_opens_0 rfl ?_
  refine w_iload_n dX0_opens_1 rfl ?_
  refine w_if_lt dX0_opens_2 rfl (fun h_2 => ?_) (fun h_2 => ?_)
  · refine w_iconst (v := nI 1) dX0_opens_18 ki_1 ?_
    refine w_goto dX0_opens_19 rfl ?_
    refine pX0_85 (C := C) dX0_opens_23 rfl hx H F ?_
    intro σ H F
    refine w_aload_n dX0_opens_26 rfl ?_
    refine gst_85 dX0_opens_27 rfl hx H ?_
    refine w_ifN_le dX0_opens_30 rfl (by decide) (fun h_30 => ?_) (fun h_30 => ?_)
    · exact absurd (show _ from h_30) (by decide)
    refine w_iconst (v := nI 0) dX0_opens_33 ki_0 ?_
    exact w_zret dX0_opens_34 rfl (by first | exact narr0 | exact narr1) ⟨by rfl, _, by rfl, H, F⟩
  · refine w_iload_n dX0_opens_5 rfl ?_
    refine w_aload_n dX0_opens_6 rfl ?_
    refine gX0_193 (C := C) dX0_opens_7 rfl hx H ?_
    rw [ht]
    refine w_icmp_gt dX0_opens_10 rfl (fun h_10 => ?_) (fun h_10 => ?_)
    · refine w_iconst (v := nI 1) dX0_opens_18 ki_1 ?_
      refine w_goto dX0_opens_19 rfl ?_
      refine pX0_85 (C := C) dX0_opens_23 rfl hx H F ?_
      intro σ H F
      refine w_aload_n dX0_opens_26 rfl ?_
      refine gst_85 dX0_opens_27 rfl hx H ?_
      refine w_ifN_le dX0_opens_30 rfl (by decide) (fun h_30 => ?_) (fun h_30 => ?_)
      · exact absurd (show _ from h_30) (by decide)
      refine w_iconst (v := nI 0) dX0_opens_33 ki_0 ?_
      exact w_zret dX0_opens_34 rfl (by first | exact narr0 | exact narr1) ⟨by rfl, _, by rfl, H, F⟩
    · refine w_iload_n dX0_opens_13 rfl ?_
      refine w_iload_n dX0_opens_14 rfl ?_
      refine w_icmp_le dX0_opens_15 rfl (fun h_15 => ?_) (fun h_15 => ?_)
      · exact absurd (in_min h_2 h_10 h_15 hp9 hy9) hno
      · refine w_iconst (v := nI 1) dX0_opens_18 ki_1 ?_
        refine w_goto dX0_opens_19 rfl ?_
        refine pX0_85 (C := C) dX0_opens_23 rfl hx H F ?_
        intro σ H F
        refine w_aload_n dX0_opens_26 rfl ?_
        refine gst_85 dX0_opens_27 rfl hx H ?_
        refine w_ifN_le dX0_opens_30 rfl (by decide) (fun h_30 => ?_) (fun h_30 => ?_)
        · exact absurd (show _ from h_30) (by decide)
        refine w_iconst (v := nI 0) dX0_opens_33 ki_0 ?_
        exact w_zret dX0_opens_34 rfl (by first | exact narr0 | exact narr1) ⟨by rfl, _, by rfl, H, F⟩
set_option maxHeartbeats 4000000 in
theorem kX0_faulty {g : GG} {C : CS} (hx : oO C 0 = true) : Cp g miX0_faulty 1 (0) (0) [.ref (od C 0 30), .ref (od C 0 5)] C (some (.int ((-1)))) (fun C2 => C2 = uI (uI (uI C 0 30 3 (oI C 0 5 6)) 0 30 4 (oI C 0 5 7)) 0 30 7 (nI 9)) := by
  refine Cp.start [some (.ref (od C 0 30)), some (.ref (od C 0 5))] plX0 rfl (Nat.le_of_ble_eq_true rfl) rfl ?_
  intro σ0 σ H F
  refine w_aload_n dX0_faulty_0 rfl ?_
  refine w_aload_n dX0_faulty_1 rfl ?_
  refine gX0_200 (C := C) dX0_faulty_2 rfl hx H ?_
  refine pX0_27 (C := C) dX0_faulty_5 rfl hx H F ?_
  intro σ H F
  refine w_aload_n dX0_faulty_8 rfl ?_
  refine w_aload_n dX0_faulty_9 rfl ?_
  refine gX0_203 (C := uI (C) 0 30 3 _) dX0_faulty_10 rfl hx H ?_
  refine pX0_31 (C := uI (C) 0 30 3 _) dX0_faulty_13 rfl hx H F ?_
  intro σ H F
  refine w_aload_n dX0_faulty_16 rfl ?_
  refine w_bipush (v := nI 9) dX0_faulty_17 kb_9 ?_
  refine pX0_85 (C := uI (uI (C) 0 30 3 _) 0 30 4 _) dX0_faulty_19 rfl hx H F ?_
  intro σ H F
  refine w_iconst (v := (-1)) dX0_faulty_22 ki_m1 ?_
  exact w_iret dX0_faulty_23 rfl ⟨by rfl, _, by rfl, H, F⟩
set_option maxHeartbeats 4000000 in
theorem kX0_fault {g : GG} {C : CS} {x : Int32} (hx : oO C 0 = true) : Cr g miX0_fault 1 [.ref (od C 0 30), .int x] C (some (.int ((if x = 0 then oI C 0 30 3 else if x = nI 1 then oI C 0 30 4 else -1)))) := by
  refine Cr.start [some (.ref (od C 0 30)), some (.int x)] plX0 rfl (Nat.le_of_ble_eq_true rfl) rfl ?_
  intro σ H
  refine w_iload_n dX0_fault_0 rfl ?_
  refine w_if_ne dX0_fault_1 rfl (fun h_1 => ?_) (fun h_1 => ?_)
  · refine w_iload_n dX0_fault_11 rfl ?_
    refine w_iconst (v := nI 1) dX0_fault_12 ki_1 ?_
    refine w_icmp_ne dX0_fault_13 rfl (fun h_13 => ?_) (fun h_13 => ?_)
    · refine w_iconst (v := (-1)) dX0_fault_23 ki_m1 ?_
      exact w_iret dX0_fault_24 rfl ⟨by first | rw [if_pos h_1] | rw [if_neg h_1, if_pos h_13] | rw [if_neg h_1, if_neg h_13], rfl⟩
    · refine w_aload_n dX0_fault_16 rfl ?_
      refine gX0_31 (C := C) dX0_fault_17 rfl hx H ?_
      refine w_goto dX0_fault_20 rfl ?_
      exact w_iret dX0_fault_24 rfl ⟨by first | rw [if_pos h_1] | rw [if_neg h_1, if_pos h_13] | rw [if_neg h_1, if_neg h_13], rfl⟩
  · refine w_aload_n dX0_fault_4 rfl ?_
    refine gX0_27 (C := C) dX0_fault_5 rfl hx H ?_
    refine w_goto dX0_fault_8 rfl ?_
    exact w_iret dX0_fault_24 rfl ⟨by first | rw [if_pos h_1] | rw [if_neg h_1, if_pos h_13] | rw [if_neg h_1, if_neg h_13], rfl⟩
set_option maxHeartbeats 4000000 in
theorem kX0_lived {g : GG} {C : CS} {x : Int32} (hx : oO C 0 = true) : Cp g miX0_lived 2 (0) (0) [.ref (od C 0 30), .int x] C (some (.int ((a_lived2 C x).1))) (fun C2 => C2 = uI C 0 30 7 (a_lived2 C x).2) := by
  refine Cp.start [some (.ref (od C 0 30)), some (.int x)] plX0 rfl (Nat.le_of_ble_eq_true rfl) rfl ?_
  intro σ0 σ H F
  refine w_aload_n dX0_lived_0 rfl ?_
  refine w_iload_n dX0_lived_1 rfl ?_
  refine w_i2l dX0_lived_2 rfl ?_
  refine w_lconst (v := 0) dX0_lived_3 rfl ?_
  refine w_ldc2 dX0_lived_4 q1031 ?_
  refine cs_call (mi := miX0_isIn) dX0_lived_7 q1016 okX0_isIn (Nat.le_of_ble_eq_true rfl) (kX0_isIn0 (m := 4) (by first | assumption | omega)) rfl rfl (Nat.le_of_ble_eq_true rfl) ?_
  refine w_ifB_ne dX0_lived_10 rfl (fun h_10 => ?_) (fun h_10 => ?_)
  · have hx_m := h_10
    obtain ⟨m, hf_m, rfl⟩ := inN_of h_10 (by omega)
    have hcl_m : cl (nI m) = m := nI_clamp (by omega)
    refine w_aload_n dX0_lived_17 rfl ?_
    refine gX0_461 (C := C) dX0_lived_18 rfl hx H ?_
    refine w_if_eq dX0_lived_21 rfl (fun h_21 => ?_) (fun h_21 => ?_)
    · refine w_bipush (v := nI 6) dX0_lived_28 kb_6 ?_
      refine pX0_85 (C := C) dX0_lived_30 rfl hx H F ?_
      intro σ H F
      refine w_aload_n dX0_lived_33 rfl ?_
      refine gst_85 dX0_lived_34 rfl hx H ?_
      refine w_ifN_le dX0_lived_37 rfl (by decide) (fun h_37 => ?_) (fun h_37 => ?_)
      · exact absurd (show _ from h_37) (by decide)
      refine w_iconst (v := (-1)) dX0_lived_40 ki_m1 ?_
      refine w_goto dX0_lived_41 rfl ?_
      exact w_iret dX0_lived_50 rfl ⟨by first | (rw [a_lived2, if_neg (show ¬ inN x 5 from h_10)]; done) | (rw [a_lived2, if_neg (show ¬ inN x 5 from h_10)]; rfl) | (rw [a_lived2, if_pos (show inN (nI m) 5 from hx_m), if_pos h_21]; done) | (rw [a_lived2, if_pos (show inN (nI m) 5 from hx_m), if_pos h_21]; rfl) | (rw [a_lived2, if_pos (show inN (nI m) 5 from hx_m), if_neg h_21, hcl_m]; done) | (rw [a_lived2, if_pos (show inN (nI m) 5 from hx_m), if_neg h_21, hcl_m]; rfl), _, by first | (rw [a_lived2, if_neg (show ¬ inN x 5 from h_10)]; done) | (rw [a_lived2, if_neg (show ¬ inN x 5 from h_10)]; rfl) | (rw [a_lived2, if_pos (show inN (nI m) 5 from hx_m), if_pos h_21]; done) | (rw [a_lived2, if_pos (show inN (nI m) 5 from hx_m), if_pos h_21]; rfl) | (rw [a_lived2, if_pos (show inN (nI m) 5 from hx_m), if_neg h_21, hcl_m]; done) | (rw [a_lived2, if_pos (show inN (nI m) 5 from hx_m), if_neg h_21, hcl_m]; rfl), H, F⟩
    · refine w_iconst (v := nI 0) dX0_lived_24 ki_0 ?_
      refine w_goto dX0_lived_25 rfl ?_
      refine pX0_85 (C := C) dX0_lived_30 rfl hx H F ?_
      intro σ H F
      refine w_aload_n dX0_lived_33 rfl ?_
      refine gst_85 dX0_lived_34 rfl hx H ?_
      refine w_ifN_le dX0_lived_37 rfl (by decide) (fun h_37 => ?_) (fun h_37 => ?_)
      rotate_left
      · exact absurd (show _ from h_37) (by decide)
      refine w_aload_n dX0_lived_44 rfl ?_
      refine gX0_82 (C := uI (C) 0 30 7 _) dX0_lived_45 rfl hx H ?_
      refine w_iload_n dX0_lived_48 rfl ?_
      refine xa_21 (C := uI (C) 0 30 7 _) dX0_lived_49 hx (by omega) H ?_
      exact w_iret dX0_lived_50 rfl ⟨by first | (rw [a_lived2, if_neg (show ¬ inN x 5 from h_10)]; done) | (rw [a_lived2, if_neg (show ¬ inN x 5 from h_10)]; rfl) | (rw [a_lived2, if_pos (show inN (nI m) 5 from hx_m), if_pos h_21]; done) | (rw [a_lived2, if_pos (show inN (nI m) 5 from hx_m), if_pos h_21]; rfl) | (rw [a_lived2, if_pos (show inN (nI m) 5 from hx_m), if_neg h_21, hcl_m]; done) | (rw [a_lived2, if_pos (show inN (nI m) 5 from hx_m), if_neg h_21, hcl_m]; rfl), _, by first | (rw [a_lived2, if_neg (show ¬ inN x 5 from h_10)]; done) | (rw [a_lived2, if_neg (show ¬ inN x 5 from h_10)]; rfl) | (rw [a_lived2, if_pos (show inN (nI m) 5 from hx_m), if_pos h_21]; done) | (rw [a_lived2, if_pos (show inN (nI m) 5 from hx_m), if_pos h_21]; rfl) | (rw [a_lived2, if_pos (show inN (nI m) 5 from hx_m), if_neg h_21, hcl_m]; done) | (rw [a_lived2, if_pos (show inN (nI m) 5 from hx_m), if_neg h_21, hcl_m]; rfl), H, F⟩
  · refine w_iconst (v := nI 1) dX0_lived_13 ki_1 ?_
    refine w_goto dX0_lived_14 rfl ?_
    refine pX0_85 (C := C) dX0_lived_30 rfl hx H F ?_
    intro σ H F
    refine w_aload_n dX0_lived_33 rfl ?_
    refine gst_85 dX0_lived_34 rfl hx H ?_
    refine w_ifN_le dX0_lived_37 rfl (by decide) (fun h_37 => ?_) (fun h_37 => ?_)
    · exact absurd (show _ from h_37) (by decide)
    refine w_iconst (v := (-1)) dX0_lived_40 ki_m1 ?_
    refine w_goto dX0_lived_41 rfl ?_
    exact w_iret dX0_lived_50 rfl ⟨by first | (rw [a_lived2, if_neg (show ¬ inN x 5 from h_10)]; done) | (rw [a_lived2, if_neg (show ¬ inN x 5 from h_10)]; rfl) | (rw [a_lived2, if_pos (show inN (nI m) 5 from hx_m), if_pos h_21]; done) | (rw [a_lived2, if_pos (show inN (nI m) 5 from hx_m), if_pos h_21]; rfl) | (rw [a_lived2, if_pos (show inN (nI m) 5 from hx_m), if_neg h_21, hcl_m]; done) | (rw [a_lived2, if_pos (show inN (nI m) 5 from hx_m), if_neg h_21, hcl_m]; rfl), _, by first | (rw [a_lived2, if_neg (show ¬ inN x 5 from h_10)]; done) | (rw [a_lived2, if_neg (show ¬ inN x 5 from h_10)]; rfl) | (rw [a_lived2, if_pos (show inN (nI m) 5 from hx_m), if_pos h_21]; done) | (rw [a_lived2, if_pos (show inN (nI m) 5 from hx_m), if_pos h_21]; rfl) | (rw [a_lived2, if_pos (show inN (nI m) 5 from hx_m), if_neg h_21, hcl_m]; done) | (rw [a_lived2, if_pos (show inN (nI m) 5 from hx_m), if_neg h_21, hcl_m]; rfl), H, F⟩
set_option maxHeartbeats 4000000 in
theorem kX0_lay {g : GG} {C : CS} {v : Int32} {p : Nat} (hx : oO C 0 = true) (ht : oI C 0 30 2 = nI p) (hp9 : p + 4 ≤ 900) : Cp g miX0_lay 1 0 0 [.ref (od C 0 30), .int v] C none (fun C2 => C2 = lay4 C v p 4) := by
  refine Cp.start [some (.ref (od C 0 30)), some (.int v), none] plX0 rfl (Nat.le_of_ble_eq_true rfl) rfl ?_
  intro σ0 σ H F
  refine w_bipush (v := nI 24) dX0_lay_0 kb_24 ?_
  refine w_istore_n dX0_lay_2 rfl (Nat.le_of_ble_eq_true rfl) ls_3_2 ?_
  have lp : ∀ (j9 : Nat) (j : Nat) (D : CS) (σ : PH), 4 - j < j9 → j ≤ 4 → D = lay4 C v p j → Hold g σ D → Fr σ0 σ → Wp g (mtC g miX0_lay 1 0 0 σ0 none (fun C2 => C2 = lay4 C v p 4)) 0 0 3 [some (.ref (od C 0 30)), some (.int v), some (.int (nI (8 * (4 - j)) - nI 8))] [] σ := by
    intro j9
    induction j9 with
    | zero => intro j D σ hmu; exact absurd hmu (Nat.not_lt_zero _)
    | succ j9 ih =>
      intro j D σ hmu hj hD H F
      have hpj : oI D 0 30 2 = nI (p + j) := by rw [hD]; exact lay4_2 ht j
      have hod : od D = od C := by rw [hD]; exact lay4_od j
      have hxD : oO D 0 = true := by rw [hD, lay4_oO]; exact hx
      refine w_iload_n dX0_lay_3 rfl ?_
      refine w_if_lt dX0_lay_4 rfl (fun h_4 => ?_) (fun h_4 => ?_)
      · obtain rfl : j = 4 := by
          rcases Nat.lt_or_ge j 4 with z | z
          · exfalso
            rw [show 4 - j = (3 - j) + 1 by omega, sub8] at h_4
            exact nI_pos (n := 8 * (3 - j)) (by omega) h_4
          · omega
        exact w_vret dX0_lay_36 rfl ⟨rfl, D, hD, H, F⟩
      · have hj3 : j < 4 := by
          rcases Nat.lt_or_ge j 4 with z | z
          · exact z
          · exfalso
            obtain rfl : j = 4 := by omega
            exact h_4 (by decide)
        have hm8 : nI (8 * (4 - j)) - nI 8 = nI (8 * (3 - j)) := by rw [show 4 - j = (3 - j) + 1 by omega, sub8]
        rw [hm8, ← hod]
        refine w_aload_n dX0_lay_7 rfl ?_
        refine gX0_24 (C := D) dX0_lay_8 rfl hxD H ?_
        refine w_aload_n dX0_lay_11 rfl ?_
        refine gX0_193 (C := D) dX0_lay_12 rfl hxD H ?_
        rw [hpj]
        refine w_iload_n dX0_lay_15 rfl ?_
        refine w_iload_n dX0_lay_16 rfl ?_
        refine w_ishr dX0_lay_17 ?_
        refine w_i2b dX0_lay_18 rfl ?_
        refine xs_tape (C := D) dX0_lay_19 hxD (by omega) H F ?_
        intro σ H F
        refine w_aload_n dX0_lay_20 rfl ?_
        refine w_dup dX0_lay_21 rfl ?_
        refine gX0_193 (C := uA D 0 1 (p + j) _) dX0_lay_22 rfl hxD H ?_
        refine w_topN (n := p + j) hpj ?_
        refine w_iconst (v := nI 1) dX0_lay_25 ki_1 ?_
        refine w_iaddN dX0_lay_26 ?_
        refine pX0_193 (C := uA D 0 1 (p + j) _) dX0_lay_27 rfl hxD H F ?_
        intro σ H F
        refine w_iinc dX0_lay_30 rfl rfl rfl (Nat.le_of_ble_eq_true rfl) ls_3_2 ?_
        refine w_goto dX0_lay_33 rfl ?_
        have hi := ih (j + 1) _ σ (by omega) (by omega) (by rw [hD]; rfl) H F
        refine w_as hi ?_ rfl rfl
        rw [hod, show 4 - (j + 1) = 3 - j by omega, Int32.sub_eq_add_neg]
        rfl
  exact w_as (lp 5 0 C σ (by omega) (by omega) rfl H F) rfl rfl rfl
def feedC (C : CS) (v1 v2 v3 v4 v5 : Int32) (p : Nat) : CS := lay4 (lay4 (lay4 (lay4 (lay4 C v1 p 4) v2 (p + 4) 4) v3 (p + 8) 4) v4 (p + 12) 4) v5 (p + 16) 4
set_option maxHeartbeats 4000000 in
theorem kX0_feed {g : GG} {C : CS} {v1 v2 v3 v4 v5 : Int32} {p : Nat} (hx : oO C 0 = true) (ht : oI C 0 30 2 = nI p) (hp9 : p ≤ 900) : Cp g miX0_feed 2 0 0 [.ref (od C 0 30), .int v1, .int v2, .int v3, .int v4, .int v5] C (some (.int (if p + 20 ≤ 900 then nI (p + 20) else -1))) (fun C2 => C2 = if p + 20 ≤ 900 then feedC C v1 v2 v3 v4 v5 p else C) := by
  refine Cp.start [some (.ref (od C 0 30)), some (.int v1), some (.int v2), some (.int v3), some (.int v4), some (.int v5)] plX0 rfl (Nat.le_of_ble_eq_true rfl) rfl ?_
  intro σ0 σ H F
  refine w_aload_n dX0_feed_0 rfl ?_
  refine gX0_193 (C := C) dX0_feed_1 rfl hx H ?_
  rw [ht]
  refine w_bipush (v := nI 20) dX0_feed_4 kb_20 ?_
  refine w_iaddN dX0_feed_6 ?_
  refine w_sipush (v := nI 900) dX0_feed_7 ks_900 ?_
  refine w_icmpN_le dX0_feed_10 rfl (by omega) (by omega) (fun h_10 => ?_) (fun h_10 => ?_)
  rotate_left
  · refine w_iconst (v := (-1)) dX0_feed_13 ki_m1 ?_
    exact w_iret dX0_feed_14 rfl ⟨by rw [if_neg (by omega)], _, by rw [if_neg (by omega)], H, F⟩
  have x0 := hx
  have t0 : oI C 0 30 2 = nI (p + 0) := ht
  have o0 : od C = od C := rfl
  refine w_aload_n dX0_feed_15 rfl ?_
  refine w_ref (show od C 0 30 = od C 0 30 from congrFun (congrFun o0 0) 30) ?_
  refine w_iload_n dX0_feed_16 rfl ?_
  refine cp_call (mi := miX0_lay) dX0_feed_17 q656 okX0_lay clX0 rfl (H.get (ce_X (C := C) x0)) (Nat.le_of_ble_eq_true rfl) (kX0_lay (C := C) (v := v1) x0 t0 (by omega)) H F rfl rfl (Nat.le_of_ble_eq_true rfl) ?_
  rintro σ C1 e1 H F
  have o1 : od C1 = od C := by rw [e1, lay4_od]
  have x1 : oO C1 0 = true := by rw [e1, lay4_oO]; exact x0
  have t1 : oI C1 0 30 2 = nI (p + 0 + 4) := by rw [e1]; exact lay4_2 t0 4
  refine w_aload_n dX0_feed_20 rfl ?_
  refine w_ref (show od C1 0 30 = od C 0 30 from congrFun (congrFun o1 0) 30) ?_
  refine w_iload_n dX0_feed_21 rfl ?_
  refine cp_call (mi := miX0_lay) dX0_feed_22 q656 okX0_lay clX0 rfl (H.get (ce_X (C := C1) x1)) (Nat.le_of_ble_eq_true rfl) (kX0_lay (C := C1) (v := v2) x1 t1 (by omega)) H F rfl rfl (Nat.le_of_ble_eq_true rfl) ?_
  rintro σ C2 e2 H F
  have o2 : od C2 = od C := by rw [e2, lay4_od]; exact o1
  have x2 : oO C2 0 = true := by rw [e2, lay4_oO]; exact x1
  have t2 : oI C2 0 30 2 = nI (p + 4 + 4) := by rw [e2]; exact lay4_2 t1 4
  refine w_aload_n dX0_feed_25 rfl ?_
  refine w_ref (show od C2 0 30 = od C 0 30 from congrFun (congrFun o2 0) 30) ?_
  refine w_iload_n dX0_feed_26 rfl ?_
  refine cp_call (mi := miX0_lay) dX0_feed_27 q656 okX0_lay clX0 rfl (H.get (ce_X (C := C2) x2)) (Nat.le_of_ble_eq_true rfl) (kX0_lay (C := C2) (v := v3) x2 t2 (by omega)) H F rfl rfl (Nat.le_of_ble_eq_true rfl) ?_
  rintro σ C3 e3 H F
  have o3 : od C3 = od C := by rw [e3, lay4_od]; exact o2
  have x3 : oO C3 0 = true := by rw [e3, lay4_oO]; exact x2
  have t3 : oI C3 0 30 2 = nI (p + 8 + 4) := by rw [e3]; exact lay4_2 t2 4
  refine w_aload_n dX0_feed_30 rfl ?_
  refine w_ref (show od C3 0 30 = od C 0 30 from congrFun (congrFun o3 0) 30) ?_
  refine w_iload dX0_feed_31 rfl ?_
  refine cp_call (mi := miX0_lay) dX0_feed_33 q656 okX0_lay clX0 rfl (H.get (ce_X (C := C3) x3)) (Nat.le_of_ble_eq_true rfl) (kX0_lay (C := C3) (v := v4) x3 t3 (by omega)) H F rfl rfl (Nat.le_of_ble_eq_true rfl) ?_
  rintro σ C4 e4 H F
  have o4 : od C4 = od C := by rw [e4, lay4_od]; exact o3
  have x4 : oO C4 0 = true := by rw [e4, lay4_oO]; exact x3
  have t4 : oI C4 0 30 2 = nI (p + 12 + 4) := by rw [e4]; exact lay4_2 t3 4
  refine w_aload_n dX0_feed_36 rfl ?_
  refine w_ref (show od C4 0 30 = od C 0 30 from congrFun (congrFun o4 0) 30) ?_
  refine w_iload dX0_feed_37 rfl ?_
  refine cp_call (mi := miX0_lay) dX0_feed_39 q656 okX0_lay clX0 rfl (H.get (ce_X (C := C4) x4)) (Nat.le_of_ble_eq_true rfl) (kX0_lay (C := C4) (v := v5) x4 t4 (by omega)) H F rfl rfl (Nat.le_of_ble_eq_true rfl) ?_
  rintro σ C5 e5 H F
  have o5 : od C5 = od C := by rw [e5, lay4_od]; exact o4
  have x5 : oO C5 0 = true := by rw [e5, lay4_oO]; exact x4
  have t5 : oI C5 0 30 2 = nI (p + 16 + 4) := by rw [e5]; exact lay4_2 t4 4
  refine w_aload_n dX0_feed_42 rfl ?_
  refine w_ref (congrFun (congrFun o5 0) 30) ?_
  refine gX0_193 (C := C5) dX0_feed_43 rfl x5 H ?_
  rw [t5]
  exact w_iret dX0_feed_46 rfl ⟨by rw [if_pos h_10], C5, by rw [if_pos h_10, e5, e4, e3, e2, e1]; rfl, H, F⟩
set_option maxHeartbeats 4000000 in
theorem kX9_init {g : GG} {C : CS} {X : TX} (hx : oO C 0 = true) (hT : TxC C X) (hc : oM C 1 = some (.inr (9, [.int 0, .int 0, .int 0, .int 0, .int 0, .int 0, .int 0, .null]))) : Cp g miX9_init 3 0 0 [.ref (od C 8 1), .ref (od C 0 30), .int (nI X.2)] C none (fun C2 => ∃ nu2, C2 = rdS C X.2 (rqT (tok X 0) nu2 0 0) ∧ NuT (tok X 0) nu2) := by
  refine Cp.start [some (.ref (od C 8 1)), some (.ref (od C 0 30)), some (.int (nI X.2))] plX9 rfl (Nat.le_of_ble_eq_true rfl) rfl ?_
  intro σ0 σ H F
  have hX9 := hT.1
  have he : ceC g C 8 1 = some (.inr (9, [.int 0, .int 0, .int 0, .int 0, .int 0, .int 0, .int 0, .null])) := hc
  refine w_aload_n dX9_init_0 rfl ?_
  refine w_aload_n dX9_init_1 rfl ?_
  refine w_putfF (k := 7) dX9_init_2 clX9 (by decide) q696 rfl rfl rfl (H.get he) rfl rfl (Nat.le_of_ble_eq_true rfl) ?_
  refine w_aload_n dX9_init_5 rfl ?_
  refine w_objInit dX9_init_6 q675 q170 q171 (Nat.le_of_ble_eq_true rfl) (Nat.le_of_ble_eq_true rfl) ?_
  refine w_aload_n dX9_init_9 rfl ?_
  refine w_iload_n dX9_init_10 rfl ?_
  refine w_putfF (k := 0) dX9_init_11 clX9 (by decide) q688 rfl rfl rfl (hup_get _ _ _ _) rfl rfl (Nat.le_of_ble_eq_true rfl) ?_
  rw [hup_hup]
  have H2 : Hold g (hup σ (od C 8 1) (8, 1) (.inr (9, rdL C X.2 (0, nI 0, 0, 0, 0, 0)))) (rdS C X.2 (0, nI 0, 0, 0, 0, 0)) := H.set (k := 8) (j := 1) (C2 := rdS C X.2 (0, nI 0, 0, 0, 0, 0)) he (by decide) rfl rfl ce_rd (fun a b h => ot_M a b h)
  have F2 := F.hup (t2 := (8, 1)) (e2 := .inr (9, rdL C X.2 (0, nI 0, 0, 0, 0, 0))) (by show 8 < 20; decide) (H.get he)
  refine w_aload_n dX9_init_14 rfl ?_
  refine cp_call (mi := miX9_next) (C := rdS C X.2 (0, nI 0, 0, 0, 0, 0)) dX9_init_15 q676 okX9_next clX9 rfl (H2.get ce_rd) (Nat.le_of_ble_eq_true rfl) (r_next (C := C) (a0 := 0) (s0 := 0) (nu := 0) (st := 0) (du := 0) hx hT (Nat.zero_le _)) H2 F2 rfl rfl (Nat.le_of_ble_eq_true rfl) ?_
  rintro σ C2 h2 H F
  exact w_vret dX9_init_18 rfl ⟨rfl, C2, h2, H, F⟩
