set_option maxRecDepth 100000
set_option maxHeartbeats 4000000 in
theorem r_wrong {g : GG} {C : CS} {X : TX} {t : Tk} {nu st du : Int32} (hx : oO C 0 = true) (hT : TxC C X) (hO : OkT9 X t) : Cp g miX9_wrong 2 0 0 [.ref (od C 8 1)] (rdS C X.2 (rqT t nu st du)) (some (.ref (od C 0 5))) (fun C2 => C2 = bdS (rdS C X.2 (rqT t nu st du)) (flt t 2)) := by
  refine Cp.start [some (.ref (od C 8 1))] plX9 rfl (Nat.le_of_ble_eq_true rfl) rfl ?_
  intro σ0 σ H F
  have hX9 := hT.1
  obtain ⟨ho1, ho2, ho3, ho4, -⟩ := hO.ok
  have hs4 := so2_le ho3
  refine w_aload_n dX9_wrong_0 rfl ?_
  refine rd_get (f := 7) (C := C) (q := rqT t nu st du) (v := .ref (od C 0 30)) dX9_wrong_1 (by decide) q696 H rfl ?_
  refine rd_55 (C := C) (q := rqT t nu st du) dX9_wrong_4 rfl hx H ?_
  refine w_aload_n dX9_wrong_7 rfl ?_
  refine rd_get (f := 3) (C := C) (q := rqT t nu st du) (v := .int (nI (so2 t.so))) dX9_wrong_8 (by decide) q691 H rfl ?_
  refine w_iconst (v := nI 4) dX9_wrong_11 ki_4 ?_
  refine w_icmpN_ne dX9_wrong_12 rfl (by omega) (by omega) (fun h_12 => ?_) (fun h_12 => ?_)
  · refine w_iconst (v := nI 2) dX9_wrong_19 ki_2 ?_
    refine w_aload_n dX9_wrong_20 rfl ?_
    refine rd_get (f := 1) (C := C) (q := rqT t nu st du) (v := .int (nI t.fr)) dX9_wrong_21 (by decide) q689 H rfl ?_
    refine cp_call (kc := 0) (ks := 0) (As := [_, _]) (mi := miX2_at) dX9_wrong_24 q783 okX2_at clX2 rfl (H.get (ce_bad (C := rdS C X.2 (rqT t nu st du)) hx)) (Nat.le_of_ble_eq_true rfl) (r_at (C := rdS C X.2 (rqT t nu st du)) hx) H F rfl rfl (Nat.le_of_ble_eq_true rfl) ?_
    intro σ C24 hC24 H F
    exact w_aret dX9_wrong_27 rfl (Or.inl ⟨_, rfl⟩) ⟨by rfl, _, by rw [hC24]; unfold bdS flt; rw [if_neg (fun z => h_12 ((so2_4 ho3).mpr z))], H, F⟩
  · refine w_iconst (v := nI 1) dX9_wrong_15 ki_1 ?_
    refine w_goto dX9_wrong_16 rfl ?_
    refine w_aload_n dX9_wrong_20 rfl ?_
    refine rd_get (f := 1) (C := C) (q := rqT t nu st du) (v := .int (nI t.fr)) dX9_wrong_21 (by decide) q689 H rfl ?_
    refine cp_call (kc := 0) (ks := 0) (As := [_, _]) (mi := miX2_at) dX9_wrong_24 q783 okX2_at clX2 rfl (H.get (ce_bad (C := rdS C X.2 (rqT t nu st du)) hx)) (Nat.le_of_ble_eq_true rfl) (r_at (C := rdS C X.2 (rqT t nu st du)) hx) H F rfl rfl (Nat.le_of_ble_eq_true rfl) ?_
    intro σ C24 hC24 H F
    exact w_aret dX9_wrong_27 rfl (Or.inl ⟨_, rfl⟩) ⟨by rfl, _, by rw [hC24]; unfold bdS flt; rw [if_pos ((so2_4 ho3).mp h_12)], H, F⟩
set_option maxHeartbeats 4000000 in
theorem r_close {g : GG} {C : CS} {X : TX} {t : Tk} {nu st du : Int32} (hx : oO C 0 = true) (hT : TxC C X) (hO : OkT9 X t) (hN : NuT t nu) : Cz g miX9_close 3 0 0 [.ref (od C 8 1)] (rdS C X.2 (rqT t nu st du)) (QT C X st du (wSign X 59 t)) (ET C (wSign X 59 t)) := by
  refine Cz.start [some (.ref (od C 8 1))] plX9 rfl (Nat.le_of_ble_eq_true rfl) rfl ?_
  intro σ0 σ H F
  refine w_aload_n dX9_close_0 rfl ?_
  refine w_bipush (v := nI 59) dX9_close_1 kb_59 ?_
  refine cr_call (As := [_]) (mi := miX9_isSign) dX9_close_3 q797 okX9_isSign clX9 rfl (H.get ce_rd) (Nat.le_of_ble_eq_true rfl) (r_isSign (C := C) hx hT hO (by omega)) H rfl rfl (Nat.le_of_ble_eq_true rfl) ?_
  refine w_ifB_ne dX9_close_6 rfl (fun h_6 => ?_) (fun h_6 => ?_)
  · refine w_aload_n dX9_close_14 rfl ?_
    refine cp_call (kc := 0) (ks := 0) (As := []) (mi := miX9_next) dX9_close_15 q676 okX9_next clX9 rfl (H.get ce_rd) (Nat.le_of_ble_eq_true rfl) (r_next (C := C) hx hT hO.ok.2.1) H F rfl rfl (Nat.le_of_ble_eq_true rfl) ?_
    intro σ C15 hC15 H F
    obtain ⟨nu15, hc15, hN15⟩ := hC15
    subst hc15
    exact w_vret dX9_close_18 rfl ⟨_, by exact ⟨rfl, _, nu15, if_pos h_6, hO.nx, rfl, hN15⟩, H, F⟩
  · refine w_aload_n dX9_close_9 rfl ?_
    refine cp_call (kc := 0) (ks := 0) (As := []) (mi := miX9_wrong) dX9_close_10 q779 okX9_wrong clX9 rfl (H.get ce_rd) (Nat.le_of_ble_eq_true rfl) (r_wrong (C := C) hx hT hO) H F rfl rfl (Nat.le_of_ble_eq_true rfl) ?_
    intro σ C10 hC10 H F
    exact cx_throw (C1 := C10) dX9_close_13 rfl hx H F (RFr.bd hC10) (ET.mk_ (if_neg h_6) hC10)
set_option maxHeartbeats 4000000 in
theorem r_word {g : GG} {C : CS} {X : TX} {t : Tk} {nu st du : Int32} {i m : Nat} {s9 : String × Nat × String × List Int32} (hx : oO C 0 = true) (hT : TxC C X) (hO : OkT9 X t) (hN : NuT t nu) (hs9 : skL[i]? = some s9) (hi1 : 1 ≤ i) (hm9 : wk i = m) : Cz g miX9_word 6 0 0 [.ref (od C 8 1), .ref (sa g i)] (rdS C X.2 (rqT t nu st du)) (QT C X st du (wWord X m t)) (ET C (wWord X m t)) := by
  refine Cz.start [some (.ref (od C 8 1)), some (.ref (sa g i))] plX9 rfl (Nat.le_of_ble_eq_true rfl) rfl ?_
  intro σ0 σ H F
  refine w_aload_n dX9_word_0 rfl ?_
  refine w_aload_n dX9_word_1 rfl ?_
  refine cr_call (As := [_]) (mi := miX9_isWord) dX9_word_2 q727 okX9_isWord clX9 rfl (H.get ce_rd) (Nat.le_of_ble_eq_true rfl) (r_isWord (C := C) hx hT hO hs9 hi1 hm9) H rfl rfl (Nat.le_of_ble_eq_true rfl) ?_
  refine w_ifB_ne dX9_word_5 rfl (fun h_5 => ?_) (fun h_5 => ?_)
  · refine w_aload_n dX9_word_13 rfl ?_
    refine cp_call (kc := 0) (ks := 0) (As := []) (mi := miX9_next) dX9_word_14 q676 okX9_next clX9 rfl (H.get ce_rd) (Nat.le_of_ble_eq_true rfl) (r_next (C := C) hx hT hO.ok.2.1) H F rfl rfl (Nat.le_of_ble_eq_true rfl) ?_
    intro σ C14 hC14 H F
    obtain ⟨nu14, hc14, hN14⟩ := hC14
    subst hc14
    exact w_vret dX9_word_17 rfl ⟨_, by exact ⟨rfl, _, nu14, if_pos h_5, hO.nx, rfl, hN14⟩, H, F⟩
  · refine w_aload_n dX9_word_8 rfl ?_
    refine cp_call (kc := 0) (ks := 0) (As := []) (mi := miX9_wrong) dX9_word_9 q779 okX9_wrong clX9 rfl (H.get ce_rd) (Nat.le_of_ble_eq_true rfl) (r_wrong (C := C) hx hT hO) H F rfl rfl (Nat.le_of_ble_eq_true rfl) ?_
    intro σ C9 hC9 H F
    exact cx_throw (C1 := C9) dX9_word_12 rfl hx H F (RFr.bd hC9) (ET.mk_ (if_neg h_5) hC9)
set_option maxHeartbeats 4000000 in
theorem r_number {g : GG} {C : CS} {X : TX} {t : Tk} {nu st du : Int32} {lo : Nat} {hi : Nat} (hx : oO C 0 = true) (hT : TxC C X) (hO : OkT9 X t) (hN : NuT t nu) (hl : lo < 100000) (hh : hi < 100000) : Cz g miX9_number 3 0 0 [.ref (od C 8 1), .int (nI lo), .int (nI hi)] (rdS C X.2 (rqT t nu st du)) (QN C X st du (wNum X lo hi t)) (ET C (wNum X lo hi t)) := by
  refine Cz.start [some (.ref (od C 8 1)), some (.int (nI lo)), some (.int (nI hi)), none] plX9 rfl (Nat.le_of_ble_eq_true rfl) rfl ?_
  intro σ0 σ H F
  have hX9 := hT.1
  obtain ⟨ho1, ho2, ho3, ho4, ho5, ho6, -⟩ := hO.ok
  have hs4 := so2_le ho3
  refine w_aload_n dX9_number_0 rfl ?_
  refine rd_get (f := 3) (C := C) (q := rqT t nu st du) (v := .int (nI (so2 t.so))) dX9_number_1 (by decide) q691 H rfl ?_
  refine w_iconst (v := nI 2) dX9_number_4 ki_2 ?_
  refine w_icmpN_eq dX9_number_5 rfl (by omega) (by omega) (fun h_5 => ?_) (fun h_5 => ?_)
  · have h3 : t.so = 3 := (so2_i ho3 (by omega) (by omega)).mp h_5
    obtain rfl := hN h3
    have hv9 := ho6 h3
    refine w_aload_n dX9_number_13 rfl ?_
    refine rd_get (f := 4) (C := C) (q := rqT t (nI t.va) st du) (v := .int (nI t.va)) dX9_number_14 (by decide) q692 H rfl ?_
    refine w_iload_n dX9_number_17 rfl ?_
    refine w_icmpN_lt dX9_number_18 rfl (by omega) (by omega) (fun h_18 => ?_) (fun h_18 => ?_)
    · refine w_aload_n dX9_number_29 rfl ?_
      refine rd_get (f := 7) (C := C) (q := rqT t (nI t.va) st du) (v := .ref (od C 0 30)) dX9_number_30 (by decide) q696 H rfl ?_
      refine rd_55 (C := C) (q := rqT t (nI t.va) st du) dX9_number_33 rfl hx H ?_
      refine w_iconst (v := nI 4) dX9_number_36 ki_4 ?_
      refine w_aload_n dX9_number_37 rfl ?_
      refine rd_get (f := 1) (C := C) (q := rqT t (nI t.va) st du) (v := .int (nI t.fr)) dX9_number_38 (by decide) q689 H rfl ?_
      refine cp_call (kc := 0) (ks := 0) (As := [_, _]) (mi := miX2_at) dX9_number_41 q783 okX2_at clX2 rfl (H.get (ce_bad (C := rdS C X.2 (rqT t (nI t.va) st du)) hx)) (Nat.le_of_ble_eq_true rfl) (r_at (C := rdS C X.2 (rqT t (nI t.va) st du)) hx) H F rfl rfl (Nat.le_of_ble_eq_true rfl) ?_
      intro σ C41 hC41 H F
      change C41 = bdS (rdS C X.2 (rqT t (nI t.va) st du)) (4, t.fr) at hC41
      exact cx_throw (C1 := C41) dX9_number_44 rfl hx H F (RFr.bd hC41) (ET.mk_ (by rw [wNum, if_neg (fun z => z h3), if_pos (by omega), flt, if_neg (by omega)]) hC41)
    · refine w_aload_n dX9_number_21 rfl ?_
      refine rd_get (f := 4) (C := C) (q := rqT t (nI t.va) st du) (v := .int (nI t.va)) dX9_number_22 (by decide) q692 H rfl ?_
      refine w_iload_n dX9_number_25 rfl ?_
      refine w_icmpN_le dX9_number_26 rfl (by omega) (by omega) (fun h_26 => ?_) (fun h_26 => ?_)
      · refine w_aload_n dX9_number_45 rfl ?_
        refine rd_get (f := 4) (C := C) (q := rqT t (nI t.va) st du) (v := .int (nI t.va)) dX9_number_46 (by decide) q692 H rfl ?_
        refine w_istore_n dX9_number_49 rfl (Nat.le_of_ble_eq_true rfl) ls_4_3 ?_
        refine w_aload_n dX9_number_50 rfl ?_
        refine cp_call (kc := 0) (ks := 0) (As := []) (mi := miX9_next) dX9_number_51 q676 okX9_next clX9 rfl (H.get ce_rd) (Nat.le_of_ble_eq_true rfl) (r_next (C := C) hx hT hO.ok.2.1) H F rfl rfl (Nat.le_of_ble_eq_true rfl) ?_
        intro σ C51 hC51 H F
        obtain ⟨nu51, hc51, hN51⟩ := hC51
        subst hc51
        refine w_iload_n dX9_number_54 rfl ?_
        exact w_iret dX9_number_55 rfl ⟨_, by exact ⟨t.va, _, nu51, rfl, by rw [wNum, if_neg (fun z => z h3), if_neg (by omega)], hO.nx, rfl, hN51⟩, H, F⟩
      · refine w_aload_n dX9_number_29 rfl ?_
        refine rd_get (f := 7) (C := C) (q := rqT t (nI t.va) st du) (v := .ref (od C 0 30)) dX9_number_30 (by decide) q696 H rfl ?_
        refine rd_55 (C := C) (q := rqT t (nI t.va) st du) dX9_number_33 rfl hx H ?_
        refine w_iconst (v := nI 4) dX9_number_36 ki_4 ?_
        refine w_aload_n dX9_number_37 rfl ?_
        refine rd_get (f := 1) (C := C) (q := rqT t (nI t.va) st du) (v := .int (nI t.fr)) dX9_number_38 (by decide) q689 H rfl ?_
        refine cp_call (kc := 0) (ks := 0) (As := [_, _]) (mi := miX2_at) dX9_number_41 q783 okX2_at clX2 rfl (H.get (ce_bad (C := rdS C X.2 (rqT t (nI t.va) st du)) hx)) (Nat.le_of_ble_eq_true rfl) (r_at (C := rdS C X.2 (rqT t (nI t.va) st du)) hx) H F rfl rfl (Nat.le_of_ble_eq_true rfl) ?_
        intro σ C41 hC41 H F
        change C41 = bdS (rdS C X.2 (rqT t (nI t.va) st du)) (4, t.fr) at hC41
        exact cx_throw (C1 := C41) dX9_number_44 rfl hx H F (RFr.bd hC41) (ET.mk_ (by rw [wNum, if_neg (fun z => z h3), if_pos (by omega), flt, if_neg (by omega)]) hC41)
  · have h3 : t.so ≠ 3 := fun z => h_5 ((so2_i ho3 (by omega) (by omega)).mpr z)
    refine w_aload_n dX9_number_8 rfl ?_
    refine cp_call (kc := 0) (ks := 0) (As := []) (mi := miX9_wrong) dX9_number_9 q779 okX9_wrong clX9 rfl (H.get ce_rd) (Nat.le_of_ble_eq_true rfl) (r_wrong (C := C) hx hT hO) H F rfl rfl (Nat.le_of_ble_eq_true rfl) ?_
    intro σ C9 hC9 H F
    exact cx_throw (C1 := C9) dX9_number_12 rfl hx H F (RFr.bd hC9) (ET.mk_ (if_pos h3) hC9)
set_option maxHeartbeats 4000000 in
theorem r_behind {g : GG} {C : CS} {X : TX} {t : Tk} {nu st du : Int32} {lo : Nat} {hi : Nat} {i m : Nat} {s9 : String × Nat × String × List Int32} (hx : oO C 0 = true) (hT : TxC C X) (hO : OkT9 X t) (hN : NuT t nu) (hl : lo < 100000) (hh : hi < 100000) (hs9 : skL[i]? = some s9) (hi1 : 1 ≤ i) (hm9 : wk i = m) : Cz g miX9_behind 7 0 0 [.ref (od C 8 1), .ref (sa g i), .int (nI lo), .int (nI hi)] (rdS C X.2 (rqT t nu st du)) (QN C X st du (wWord X m t >>= fun t => wNum X lo hi t)) (ET C (wWord X m t >>= fun t => wNum X lo hi t)) := by
  refine Cz.start [some (.ref (od C 8 1)), some (.ref (sa g i)), some (.int (nI lo)), some (.int (nI hi))] plX9 rfl (Nat.le_of_ble_eq_true rfl) rfl ?_
  intro σ0 σ H F
  refine w_aload_n dX9_behind_0 rfl ?_
  refine w_aload_n dX9_behind_1 rfl ?_
  refine cx_call (kc := 0) (ks := 0) (As := [_]) (mi2 := miX9_word) dX9_behind_2 q723 okX9_word clX9 rfl (H.get ce_rd) (Nat.le_of_ble_eq_true rfl) (r_word (C := C) hx hT hO hN hs9 hi1 hm9) rfl H F RFr.rr (fun C2 h => h.of (fun f z => by rw [z]; rfl)) rfl rfl (Nat.le_of_ble_eq_true rfl) ?_
  intro v2 σ C2 hQ2 H F
  obtain ⟨hv2, t2, nu2, e2, hO2, hc2, hN2⟩ := hQ2
  subst hv2 hc2
  refine w_aload_n dX9_behind_5 rfl ?_
  refine w_iload_n dX9_behind_6 rfl ?_
  refine w_iload_n dX9_behind_7 rfl ?_
  refine cx_call (kc := 0) (ks := 0) (As := [_, _]) (mi2 := miX9_number) dX9_behind_8 q787 okX9_number clX9 rfl (H.get ce_rd) (Nat.le_of_ble_eq_true rfl) (r_number (C := C) hx hT hO2 hN2 hl hh) rfl H F RFr.rr (fun C2 h => h.of (fun f z => by rw [e2]; exact z)) rfl rfl (Nat.le_of_ble_eq_true rfl) ?_
  intro v8 σ C8 hQ8 H F
  obtain ⟨n8, t8, nu8, hv8, e8, hO8, hc8, hN8⟩ := hQ8
  subst hv8 hc8
  exact w_iret dX9_behind_11 rfl ⟨_, by exact ⟨n8, _, nu8, rfl, by rw [e2]; exact e8, hO8, rfl, hN8⟩, H, F⟩
def actI (k : Nat) : Int32 := if k = 18 then nI 0 else if k = 19 then nI 1 else if k = 20 then nI 2 else if k = 21 then nI 3 else if k = 22 then nI 4 else if k = 23 then nI 5 else if k = 1 then nI 6 else if k = 27 then nI 7 else (-1)
def dueI (k : Nat) : Int32 := if k = 13 then nI 0 else if k = 14 then nI 1 else if k = 15 then nI 2 else if k = 16 then nI 3 else (-1)
theorem actI_ge : ∀ k, k < 31 → (0 ≤ actI k ↔ (k = 1 ∨ (18 ≤ k ∧ k ≤ 23) ∨ k = 27)) := by decide +kernel
theorem dueI_lt : ∀ k, k < 31 → (dueI k < 0 ↔ (k < 13 ∨ 16 < k)) := by decide +kernel
set_option maxHeartbeats 4000000 in
theorem r_acts {g : GG} {C : CS} {X : TX} {t : Tk} {nu st du : Int32} (hx : oO C 0 = true) (hT : TxC C X) (hO : OkT9 X t) : Cr g miX9_acts 6 [.ref (od C 8 1)] ((rdS C X.2 (rqT t nu st du))) (some (.int (actI (kix X t)))) := by
  refine Cr.start [some (.ref (od C 8 1))] plX9 rfl (Nat.le_of_ble_eq_true rfl) rfl ?_
  intro σ H
  refine w_aload_n dX9_acts_0 rfl ?_
  refine w_ldcS (i := 1) rfl rfl rfl dX9_acts_1 ?_
  refine cr_call (As := [_]) (mi := miX9_isWord) dX9_acts_3 q727 okX9_isWord clX9 rfl (H.get ce_rd) (Nat.le_of_ble_eq_true rfl) (r_isWord (i := 1) (m := 18) (C := C) hx hT hO rfl (by decide) rfl) H rfl rfl (Nat.le_of_ble_eq_true rfl) ?_
  refine w_ifB_eq dX9_acts_6 rfl (fun h_6 => ?_) (fun h_6 => ?_)
  · refine w_aload_n dX9_acts_11 rfl ?_
    refine w_ldcS (i := 2) rfl rfl rfl dX9_acts_12 ?_
    refine cr_call (As := [_]) (mi := miX9_isWord) dX9_acts_14 q727 okX9_isWord clX9 rfl (H.get ce_rd) (Nat.le_of_ble_eq_true rfl) (r_isWord (i := 2) (m := 19) (C := C) hx hT hO rfl (by decide) rfl) H rfl rfl (Nat.le_of_ble_eq_true rfl) ?_
    refine w_ifB_eq dX9_acts_17 rfl (fun h_17 => ?_) (fun h_17 => ?_)
    · refine w_aload_n dX9_acts_22 rfl ?_
      refine w_ldcS (i := 3) rfl rfl rfl dX9_acts_23 ?_
      refine cr_call (As := [_]) (mi := miX9_isWord) dX9_acts_25 q727 okX9_isWord clX9 rfl (H.get ce_rd) (Nat.le_of_ble_eq_true rfl) (r_isWord (i := 3) (m := 20) (C := C) hx hT hO rfl (by decide) rfl) H rfl rfl (Nat.le_of_ble_eq_true rfl) ?_
      refine w_ifB_eq dX9_acts_28 rfl (fun h_28 => ?_) (fun h_28 => ?_)
      · refine w_aload_n dX9_acts_33 rfl ?_
        refine w_ldcS (i := 4) rfl rfl rfl dX9_acts_34 ?_
        refine cr_call (As := [_]) (mi := miX9_isWord) dX9_acts_36 q727 okX9_isWord clX9 rfl (H.get ce_rd) (Nat.le_of_ble_eq_true rfl) (r_isWord (i := 4) (m := 21) (C := C) hx hT hO rfl (by decide) rfl) H rfl rfl (Nat.le_of_ble_eq_true rfl) ?_
        refine w_ifB_eq dX9_acts_39 rfl (fun h_39 => ?_) (fun h_39 => ?_)
        · refine w_aload_n dX9_acts_44 rfl ?_
          refine w_ldcS (i := 5) rfl rfl rfl dX9_acts_45 ?_
          refine cr_call (As := [_]) (mi := miX9_isWord) dX9_acts_47 q727 okX9_isWord clX9 rfl (H.get ce_rd) (Nat.le_of_ble_eq_true rfl) (r_isWord (i := 5) (m := 22) (C := C) hx hT hO rfl (by decide) rfl) H rfl rfl (Nat.le_of_ble_eq_true rfl) ?_
          refine w_ifB_eq dX9_acts_50 rfl (fun h_50 => ?_) (fun h_50 => ?_)
          · refine w_aload_n dX9_acts_55 rfl ?_
            refine w_ldcS (i := 6) rfl rfl rfl dX9_acts_56 ?_
            refine cr_call (As := [_]) (mi := miX9_isWord) dX9_acts_58 q727 okX9_isWord clX9 rfl (H.get ce_rd) (Nat.le_of_ble_eq_true rfl) (r_isWord (i := 6) (m := 23) (C := C) hx hT hO rfl (by decide) rfl) H rfl rfl (Nat.le_of_ble_eq_true rfl) ?_
            refine w_ifB_eq dX9_acts_61 rfl (fun h_61 => ?_) (fun h_61 => ?_)
            · refine w_aload_n dX9_acts_66 rfl ?_
              refine w_ldcS (i := 7) rfl rfl rfl dX9_acts_67 ?_
              refine cr_call (As := [_]) (mi := miX9_isWord) dX9_acts_69 q727 okX9_isWord clX9 rfl (H.get ce_rd) (Nat.le_of_ble_eq_true rfl) (r_isWord (i := 7) (m := 1) (C := C) hx hT hO rfl (by decide) rfl) H rfl rfl (Nat.le_of_ble_eq_true rfl) ?_
              refine w_ifB_eq dX9_acts_72 rfl (fun h_72 => ?_) (fun h_72 => ?_)
              · refine w_aload_n dX9_acts_78 rfl ?_
                refine w_ldcS (i := 8) rfl rfl rfl dX9_acts_79 ?_
                refine cr_call (As := [_]) (mi := miX9_isWord) dX9_acts_81 q727 okX9_isWord clX9 rfl (H.get ce_rd) (Nat.le_of_ble_eq_true rfl) (r_isWord (i := 8) (m := 27) (C := C) hx hT hO rfl (by decide) rfl) H rfl rfl (Nat.le_of_ble_eq_true rfl) ?_
                refine w_ifB_eq dX9_acts_84 rfl (fun h_84 => ?_) (fun h_84 => ?_)
                · refine w_iconst (v := (-1)) dX9_acts_92 ki_m1 ?_
                  exact w_iret dX9_acts_93 rfl ⟨by unfold actI; rw [if_neg h_6, if_neg h_17, if_neg h_28, if_neg h_39, if_neg h_50, if_neg h_61, if_neg h_72, if_neg h_84], rfl⟩
                · refine w_bipush (v := nI 7) dX9_acts_87 kb_7 ?_
                  refine w_goto dX9_acts_89 rfl ?_
                  exact w_iret dX9_acts_93 rfl ⟨by unfold actI; rw [if_neg h_6, if_neg h_17, if_neg h_28, if_neg h_39, if_neg h_50, if_neg h_61, if_neg h_72, if_pos h_84], rfl⟩
              · refine w_bipush (v := nI 6) dX9_acts_75 kb_6 ?_
                exact w_iret dX9_acts_77 rfl ⟨by unfold actI; rw [if_neg h_6, if_neg h_17, if_neg h_28, if_neg h_39, if_neg h_50, if_neg h_61, if_pos h_72], rfl⟩
            · refine w_iconst (v := nI 5) dX9_acts_64 ki_5 ?_
              exact w_iret dX9_acts_65 rfl ⟨by unfold actI; rw [if_neg h_6, if_neg h_17, if_neg h_28, if_neg h_39, if_neg h_50, if_pos h_61], rfl⟩
          · refine w_iconst (v := nI 4) dX9_acts_53 ki_4 ?_
            exact w_iret dX9_acts_54 rfl ⟨by unfold actI; rw [if_neg h_6, if_neg h_17, if_neg h_28, if_neg h_39, if_pos h_50], rfl⟩
        · refine w_iconst (v := nI 3) dX9_acts_42 ki_3 ?_
          exact w_iret dX9_acts_43 rfl ⟨by unfold actI; rw [if_neg h_6, if_neg h_17, if_neg h_28, if_pos h_39], rfl⟩
      · refine w_iconst (v := nI 2) dX9_acts_31 ki_2 ?_
        exact w_iret dX9_acts_32 rfl ⟨by unfold actI; rw [if_neg h_6, if_neg h_17, if_pos h_28], rfl⟩
    · refine w_iconst (v := nI 1) dX9_acts_20 ki_1 ?_
      exact w_iret dX9_acts_21 rfl ⟨by unfold actI; rw [if_neg h_6, if_pos h_17], rfl⟩
  · refine w_iconst (v := nI 0) dX9_acts_9 ki_0 ?_
    exact w_iret dX9_acts_10 rfl ⟨by unfold actI; rw [if_pos h_6], rfl⟩
set_option maxHeartbeats 4000000 in
theorem r_duels {g : GG} {C : CS} {X : TX} {t : Tk} {nu st du : Int32} (hx : oO C 0 = true) (hT : TxC C X) (hO : OkT9 X t) : Cr g miX9_duels 6 [.ref (od C 8 1)] ((rdS C X.2 (rqT t nu st du))) (some (.int (dueI (kix X t)))) := by
  refine Cr.start [some (.ref (od C 8 1))] plX9 rfl (Nat.le_of_ble_eq_true rfl) rfl ?_
  intro σ H
  refine w_aload_n dX9_duels_0 rfl ?_
  refine w_ldcS (i := 9) rfl rfl rfl dX9_duels_1 ?_
  refine cr_call (As := [_]) (mi := miX9_isWord) dX9_duels_3 q727 okX9_isWord clX9 rfl (H.get ce_rd) (Nat.le_of_ble_eq_true rfl) (r_isWord (i := 9) (m := 13) (C := C) hx hT hO rfl (by decide) rfl) H rfl rfl (Nat.le_of_ble_eq_true rfl) ?_
  refine w_ifB_eq dX9_duels_6 rfl (fun h_6 => ?_) (fun h_6 => ?_)
  · refine w_aload_n dX9_duels_13 rfl ?_
    refine w_ldcS (i := 10) rfl rfl rfl dX9_duels_14 ?_
    refine cr_call (As := [_]) (mi := miX9_isWord) dX9_duels_16 q727 okX9_isWord clX9 rfl (H.get ce_rd) (Nat.le_of_ble_eq_true rfl) (r_isWord (i := 10) (m := 14) (C := C) hx hT hO rfl (by decide) rfl) H rfl rfl (Nat.le_of_ble_eq_true rfl) ?_
    refine w_ifB_eq dX9_duels_19 rfl (fun h_19 => ?_) (fun h_19 => ?_)
    · refine w_aload_n dX9_duels_26 rfl ?_
      refine w_ldcS (i := 11) rfl rfl rfl dX9_duels_27 ?_
      refine cr_call (As := [_]) (mi := miX9_isWord) dX9_duels_29 q727 okX9_isWord clX9 rfl (H.get ce_rd) (Nat.le_of_ble_eq_true rfl) (r_isWord (i := 11) (m := 15) (C := C) hx hT hO rfl (by decide) rfl) H rfl rfl (Nat.le_of_ble_eq_true rfl) ?_
      refine w_ifB_eq dX9_duels_32 rfl (fun h_32 => ?_) (fun h_32 => ?_)
      · refine w_aload_n dX9_duels_39 rfl ?_
        refine w_ldcS (i := 12) rfl rfl rfl dX9_duels_40 ?_
        refine cr_call (As := [_]) (mi := miX9_isWord) dX9_duels_42 q727 okX9_isWord clX9 rfl (H.get ce_rd) (Nat.le_of_ble_eq_true rfl) (r_isWord (i := 12) (m := 16) (C := C) hx hT hO rfl (by decide) rfl) H rfl rfl (Nat.le_of_ble_eq_true rfl) ?_
        refine w_ifB_eq dX9_duels_45 rfl (fun h_45 => ?_) (fun h_45 => ?_)
        · refine w_iconst (v := (-1)) dX9_duels_52 ki_m1 ?_
          exact w_iret dX9_duels_53 rfl ⟨by unfold dueI; rw [if_neg h_6, if_neg h_19, if_neg h_32, if_neg h_45], rfl⟩
        · refine w_iconst (v := nI 3) dX9_duels_48 ki_3 ?_
          refine w_goto dX9_duels_49 rfl ?_
          exact w_iret dX9_duels_53 rfl ⟨by unfold dueI; rw [if_neg h_6, if_neg h_19, if_neg h_32, if_pos h_45], rfl⟩
      · refine w_iconst (v := nI 2) dX9_duels_35 ki_2 ?_
        refine w_goto dX9_duels_36 rfl ?_
        exact w_iret dX9_duels_53 rfl ⟨by unfold dueI; rw [if_neg h_6, if_neg h_19, if_pos h_32], rfl⟩
    · refine w_iconst (v := nI 1) dX9_duels_22 ki_1 ?_
      refine w_goto dX9_duels_23 rfl ?_
      exact w_iret dX9_duels_53 rfl ⟨by unfold dueI; rw [if_neg h_6, if_pos h_19], rfl⟩
  · refine w_iconst (v := nI 0) dX9_duels_9 ki_0 ?_
    refine w_goto dX9_duels_10 rfl ?_
    exact w_iret dX9_duels_53 rfl ⟨by unfold dueI; rw [if_pos h_6], rfl⟩
set_option maxHeartbeats 4000000 in
theorem r_isKept {g : GG} {C : CS} {X : TX} {t : Tk} {nu st du : Int32} (hx : oO C 0 = true) (hT : TxC C X) (hO : OkT9 X t) : Cr g miX9_isKept 7 [.ref (od C 8 1)] ((rdS C X.2 (rqT t nu st du))) (some (.int (bP (kix X t < 30)))) := by
  refine Cr.start [some (.ref (od C 8 1)), none, none] plX9 rfl (Nat.le_of_ble_eq_true rfl) rfl ?_
  intro σ H
  have hk9 := kix_le X t
  have t2 : ∀ (p : Nat) (r : Nat), p < 2 → r < 2 → (p = 1 ↔ (kix X t = 0 ∨ kix X t = 2 ∨ kix X t = 3 ∨ kix X t = 7 ∨ kix X t = 8 ∨ kix X t = 9 ∨ kix X t = 4 ∨ kix X t = 10 ∨ kix X t = 5)) → (r = 1 ↔ (kix X t = 11 ∨ kix X t = 12 ∨ kix X t = 6 ∨ kix X t = 17 ∨ kix X t = 24 ∨ kix X t = 28 ∨ kix X t = 29 ∨ kix X t = 25 ∨ kix X t = 26)) → Wp g (mtR g miX9_isKept 7 σ (some (.int (bP (kix X t < 30))))) 0 0 173 [some (.ref (od C 8 1)), some (.int (nI p)), none] [.int (nI r)] σ := by
    intro p r hp hr hA hB
    refine w_istore_n dX9_isKept_173 rfl (Nat.le_of_ble_eq_true rfl) ls_3_2 ?_
    refine w_iload_n dX9_isKept_174 rfl ?_
    refine w_ifN_ne dX9_isKept_175 rfl (by omega) (fun h_175 => ?_) (fun h_175 => ?_)
    · refine w_iconst (v := nI 1) dX9_isKept_196 ki_1 ?_
      refine w_goto dX9_isKept_197 rfl ?_
      exact w_zret dX9_isKept_201 rfl (by first | exact narr0 | exact narr1) ⟨by rw [bP_t (by omega)], rfl⟩
    · refine w_iload_n dX9_isKept_178 rfl ?_
      refine w_ifN_ne dX9_isKept_179 rfl (by omega) (fun h_179 => ?_) (fun h_179 => ?_)
      · refine w_iconst (v := nI 1) dX9_isKept_196 ki_1 ?_
        refine w_goto dX9_isKept_197 rfl ?_
        exact w_zret dX9_isKept_201 rfl (by first | exact narr0 | exact narr1) ⟨by rw [bP_t (by omega)], rfl⟩
      · refine w_aload_n dX9_isKept_182 rfl ?_
        refine cr_call (As := []) (mi := miX9_acts) dX9_isKept_183 q833 okX9_acts clX9 rfl (H.get ce_rd) (Nat.le_of_ble_eq_true rfl) (r_acts (C := C) hx hT hO) H rfl rfl (Nat.le_of_ble_eq_true rfl) ?_
        refine w_if_ge dX9_isKept_186 rfl (fun h_186 => ?_) (fun h_186 => ?_)
        · refine w_iconst (v := nI 1) dX9_isKept_196 ki_1 ?_
          refine w_goto dX9_isKept_197 rfl ?_
          exact w_zret dX9_isKept_201 rfl (by first | exact narr0 | exact narr1) ⟨by have hg := (actI_ge _ (show kix X t < 31 by omega)).mp h_186; rw [bP_t (by omega)], rfl⟩
        · refine w_aload_n dX9_isKept_189 rfl ?_
          refine cr_call (As := []) (mi := miX9_duels) dX9_isKept_190 q844 okX9_duels clX9 rfl (H.get ce_rd) (Nat.le_of_ble_eq_true rfl) (r_duels (C := C) hx hT hO) H rfl rfl (Nat.le_of_ble_eq_true rfl) ?_
          refine w_if_lt dX9_isKept_193 rfl (fun h_193 => ?_) (fun h_193 => ?_)
          · refine w_iconst (v := nI 0) dX9_isKept_200 ki_0 ?_
            exact w_zret dX9_isKept_201 rfl (by first | exact narr0 | exact narr1) ⟨by have hg := mt (actI_ge _ (show kix X t < 31 by omega)).mpr h_186; have hd := (dueI_lt _ (show kix X t < 31 by omega)).mp h_193; rw [bP_f (by omega)], rfl⟩
          · refine w_iconst (v := nI 1) dX9_isKept_196 ki_1 ?_
            refine w_goto dX9_isKept_197 rfl ?_
            exact w_zret dX9_isKept_201 rfl (by first | exact narr0 | exact narr1) ⟨by have hg := mt (actI_ge _ (show kix X t < 31 by omega)).mpr h_186; have hd := mt (dueI_lt _ (show kix X t < 31 by omega)).mpr h_193; rw [bP_t (by omega)], rfl⟩
  have t1 : ∀ (p : Nat), p < 2 → (p = 1 ↔ (kix X t = 0 ∨ kix X t = 2 ∨ kix X t = 3 ∨ kix X t = 7 ∨ kix X t = 8 ∨ kix X t = 9 ∨ kix X t = 4 ∨ kix X t = 10 ∨ kix X t = 5)) → Wp g (mtR g miX9_isKept 7 σ (some (.int (bP (kix X t < 30))))) 0 0 86 [some (.ref (od C 8 1)), none, none] [.int (nI p)] σ := by
    intro p hp hA
    refine w_istore_n dX9_isKept_86 rfl (Nat.le_of_ble_eq_true rfl) ls_3_1 ?_
    refine w_aload_n dX9_isKept_87 rfl ?_
    refine w_ldcS (i := 22) rfl rfl rfl dX9_isKept_88 ?_
    refine cr_call (As := [_]) (mi := miX9_isWord) dX9_isKept_90 q727 okX9_isWord clX9 rfl (H.get ce_rd) (Nat.le_of_ble_eq_true rfl) (r_isWord (i := 22) (m := 11) (C := C) hx hT hO rfl (by decide) rfl) H rfl rfl (Nat.le_of_ble_eq_true rfl) ?_
    refine w_ifB_ne dX9_isKept_93 rfl (fun h_93 => ?_) (fun h_93 => ?_)
    · refine w_iconst (v := nI 1) dX9_isKept_168 ki_1 ?_
      refine w_goto dX9_isKept_169 rfl ?_
      exact t2 p 1 hp (by omega) hA (by omega)
    · refine w_aload_n dX9_isKept_96 rfl ?_
      refine w_ldcS (i := 23) rfl rfl rfl dX9_isKept_97 ?_
      refine cr_call (As := [_]) (mi := miX9_isWord) dX9_isKept_99 q727 okX9_isWord clX9 rfl (H.get ce_rd) (Nat.le_of_ble_eq_true rfl) (r_isWord (i := 23) (m := 12) (C := C) hx hT hO rfl (by decide) rfl) H rfl rfl (Nat.le_of_ble_eq_true rfl) ?_
      refine w_ifB_ne dX9_isKept_102 rfl (fun h_102 => ?_) (fun h_102 => ?_)
      · refine w_iconst (v := nI 1) dX9_isKept_168 ki_1 ?_
        refine w_goto dX9_isKept_169 rfl ?_
        exact t2 p 1 hp (by omega) hA (by omega)
      · refine w_aload_n dX9_isKept_105 rfl ?_
        refine w_ldcS (i := 24) rfl rfl rfl dX9_isKept_106 ?_
        refine cr_call (As := [_]) (mi := miX9_isWord) dX9_isKept_108 q727 okX9_isWord clX9 rfl (H.get ce_rd) (Nat.le_of_ble_eq_true rfl) (r_isWord (i := 24) (m := 6) (C := C) hx hT hO rfl (by decide) rfl) H rfl rfl (Nat.le_of_ble_eq_true rfl) ?_
        refine w_ifB_ne dX9_isKept_111 rfl (fun h_111 => ?_) (fun h_111 => ?_)
        · refine w_iconst (v := nI 1) dX9_isKept_168 ki_1 ?_
          refine w_goto dX9_isKept_169 rfl ?_
          exact t2 p 1 hp (by omega) hA (by omega)
        · refine w_aload_n dX9_isKept_114 rfl ?_
          refine w_ldcS (i := 25) rfl rfl rfl dX9_isKept_115 ?_
          refine cr_call (As := [_]) (mi := miX9_isWord) dX9_isKept_117 q727 okX9_isWord clX9 rfl (H.get ce_rd) (Nat.le_of_ble_eq_true rfl) (r_isWord (i := 25) (m := 17) (C := C) hx hT hO rfl (by decide) rfl) H rfl rfl (Nat.le_of_ble_eq_true rfl) ?_
          refine w_ifB_ne dX9_isKept_120 rfl (fun h_120 => ?_) (fun h_120 => ?_)
          · refine w_iconst (v := nI 1) dX9_isKept_168 ki_1 ?_
            refine w_goto dX9_isKept_169 rfl ?_
            exact t2 p 1 hp (by omega) hA (by omega)
          · refine w_aload_n dX9_isKept_123 rfl ?_
            refine w_ldcS (i := 26) rfl rfl rfl dX9_isKept_124 ?_
            refine cr_call (As := [_]) (mi := miX9_isWord) dX9_isKept_126 q727 okX9_isWord clX9 rfl (H.get ce_rd) (Nat.le_of_ble_eq_true rfl) (r_isWord (i := 26) (m := 24) (C := C) hx hT hO rfl (by decide) rfl) H rfl rfl (Nat.le_of_ble_eq_true rfl) ?_
            refine w_ifB_ne dX9_isKept_129 rfl (fun h_129 => ?_) (fun h_129 => ?_)
            · refine w_iconst (v := nI 1) dX9_isKept_168 ki_1 ?_
              refine w_goto dX9_isKept_169 rfl ?_
              exact t2 p 1 hp (by omega) hA (by omega)
            · refine w_aload_n dX9_isKept_132 rfl ?_
              refine w_ldcS (i := 27) rfl rfl rfl dX9_isKept_133 ?_
              refine cr_call (As := [_]) (mi := miX9_isWord) dX9_isKept_135 q727 okX9_isWord clX9 rfl (H.get ce_rd) (Nat.le_of_ble_eq_true rfl) (r_isWord (i := 27) (m := 28) (C := C) hx hT hO rfl (by decide) rfl) H rfl rfl (Nat.le_of_ble_eq_true rfl) ?_
              refine w_ifB_ne dX9_isKept_138 rfl (fun h_138 => ?_) (fun h_138 => ?_)
              · refine w_iconst (v := nI 1) dX9_isKept_168 ki_1 ?_
                refine w_goto dX9_isKept_169 rfl ?_
                exact t2 p 1 hp (by omega) hA (by omega)
              · refine w_aload_n dX9_isKept_141 rfl ?_
                refine w_ldcS (i := 28) rfl rfl rfl dX9_isKept_142 ?_
                refine cr_call (As := [_]) (mi := miX9_isWord) dX9_isKept_144 q727 okX9_isWord clX9 rfl (H.get ce_rd) (Nat.le_of_ble_eq_true rfl) (r_isWord (i := 28) (m := 29) (C := C) hx hT hO rfl (by decide) rfl) H rfl rfl (Nat.le_of_ble_eq_true rfl) ?_
                refine w_ifB_ne dX9_isKept_147 rfl (fun h_147 => ?_) (fun h_147 => ?_)
                · refine w_iconst (v := nI 1) dX9_isKept_168 ki_1 ?_
                  refine w_goto dX9_isKept_169 rfl ?_
                  exact t2 p 1 hp (by omega) hA (by omega)
                · refine w_aload_n dX9_isKept_150 rfl ?_
                  refine w_ldcS (i := 29) rfl rfl rfl dX9_isKept_151 ?_
                  refine cr_call (As := [_]) (mi := miX9_isWord) dX9_isKept_153 q727 okX9_isWord clX9 rfl (H.get ce_rd) (Nat.le_of_ble_eq_true rfl) (r_isWord (i := 29) (m := 25) (C := C) hx hT hO rfl (by decide) rfl) H rfl rfl (Nat.le_of_ble_eq_true rfl) ?_
                  refine w_ifB_ne dX9_isKept_156 rfl (fun h_156 => ?_) (fun h_156 => ?_)
                  · refine w_iconst (v := nI 1) dX9_isKept_168 ki_1 ?_
                    refine w_goto dX9_isKept_169 rfl ?_
                    exact t2 p 1 hp (by omega) hA (by omega)
                  · refine w_aload_n dX9_isKept_159 rfl ?_
                    refine w_ldcS (i := 30) rfl rfl rfl dX9_isKept_160 ?_
                    refine cr_call (As := [_]) (mi := miX9_isWord) dX9_isKept_162 q727 okX9_isWord clX9 rfl (H.get ce_rd) (Nat.le_of_ble_eq_true rfl) (r_isWord (i := 30) (m := 26) (C := C) hx hT hO rfl (by decide) rfl) H rfl rfl (Nat.le_of_ble_eq_true rfl) ?_
                    refine w_ifB_eq dX9_isKept_165 rfl (fun h_165 => ?_) (fun h_165 => ?_)
                    · refine w_iconst (v := nI 0) dX9_isKept_172 ki_0 ?_
                      exact t2 p 0 hp (by omega) hA (by omega)
                    · refine w_iconst (v := nI 1) dX9_isKept_168 ki_1 ?_
                      refine w_goto dX9_isKept_169 rfl ?_
                      exact t2 p 1 hp (by omega) hA (by omega)
  refine w_aload_n dX9_isKept_0 rfl ?_
  refine w_ldcS (i := 13) rfl rfl rfl dX9_isKept_1 ?_
  refine cr_call (As := [_]) (mi := miX9_isWord) dX9_isKept_3 q727 okX9_isWord clX9 rfl (H.get ce_rd) (Nat.le_of_ble_eq_true rfl) (r_isWord (i := 13) (m := 0) (C := C) hx hT hO rfl (by decide) rfl) H rfl rfl (Nat.le_of_ble_eq_true rfl) ?_
  refine w_ifB_ne dX9_isKept_6 rfl (fun h_6 => ?_) (fun h_6 => ?_)
  · refine w_iconst (v := nI 1) dX9_isKept_81 ki_1 ?_
    refine w_goto dX9_isKept_82 rfl ?_
    exact t1 1 (by omega) (by omega)
  · refine w_aload_n dX9_isKept_9 rfl ?_
    refine w_ldcS (i := 14) rfl rfl rfl dX9_isKept_10 ?_
    refine cr_call (As := [_]) (mi := miX9_isWord) dX9_isKept_12 q727 okX9_isWord clX9 rfl (H.get ce_rd) (Nat.le_of_ble_eq_true rfl) (r_isWord (i := 14) (m := 2) (C := C) hx hT hO rfl (by decide) rfl) H rfl rfl (Nat.le_of_ble_eq_true rfl) ?_
    refine w_ifB_ne dX9_isKept_15 rfl (fun h_15 => ?_) (fun h_15 => ?_)
    · refine w_iconst (v := nI 1) dX9_isKept_81 ki_1 ?_
      refine w_goto dX9_isKept_82 rfl ?_
      exact t1 1 (by omega) (by omega)
    · refine w_aload_n dX9_isKept_18 rfl ?_
      refine w_ldcS (i := 15) rfl rfl rfl dX9_isKept_19 ?_
      refine cr_call (As := [_]) (mi := miX9_isWord) dX9_isKept_21 q727 okX9_isWord clX9 rfl (H.get ce_rd) (Nat.le_of_ble_eq_true rfl) (r_isWord (i := 15) (m := 3) (C := C) hx hT hO rfl (by decide) rfl) H rfl rfl (Nat.le_of_ble_eq_true rfl) ?_
      refine w_ifB_ne dX9_isKept_24 rfl (fun h_24 => ?_) (fun h_24 => ?_)
      · refine w_iconst (v := nI 1) dX9_isKept_81 ki_1 ?_
        refine w_goto dX9_isKept_82 rfl ?_
        exact t1 1 (by omega) (by omega)
      · refine w_aload_n dX9_isKept_27 rfl ?_
        refine w_ldcS (i := 16) rfl rfl rfl dX9_isKept_28 ?_
        refine cr_call (As := [_]) (mi := miX9_isWord) dX9_isKept_30 q727 okX9_isWord clX9 rfl (H.get ce_rd) (Nat.le_of_ble_eq_true rfl) (r_isWord (i := 16) (m := 7) (C := C) hx hT hO rfl (by decide) rfl) H rfl rfl (Nat.le_of_ble_eq_true rfl) ?_
        refine w_ifB_ne dX9_isKept_33 rfl (fun h_33 => ?_) (fun h_33 => ?_)
        · refine w_iconst (v := nI 1) dX9_isKept_81 ki_1 ?_
          refine w_goto dX9_isKept_82 rfl ?_
          exact t1 1 (by omega) (by omega)
        · refine w_aload_n dX9_isKept_36 rfl ?_
          refine w_ldcS (i := 17) rfl rfl rfl dX9_isKept_37 ?_
          refine cr_call (As := [_]) (mi := miX9_isWord) dX9_isKept_39 q727 okX9_isWord clX9 rfl (H.get ce_rd) (Nat.le_of_ble_eq_true rfl) (r_isWord (i := 17) (m := 8) (C := C) hx hT hO rfl (by decide) rfl) H rfl rfl (Nat.le_of_ble_eq_true rfl) ?_
          refine w_ifB_ne dX9_isKept_42 rfl (fun h_42 => ?_) (fun h_42 => ?_)
          · refine w_iconst (v := nI 1) dX9_isKept_81 ki_1 ?_
            refine w_goto dX9_isKept_82 rfl ?_
            exact t1 1 (by omega) (by omega)
          · refine w_aload_n dX9_isKept_45 rfl ?_
            refine w_ldcS (i := 18) rfl rfl rfl dX9_isKept_46 ?_
            refine cr_call (As := [_]) (mi := miX9_isWord) dX9_isKept_48 q727 okX9_isWord clX9 rfl (H.get ce_rd) (Nat.le_of_ble_eq_true rfl) (r_isWord (i := 18) (m := 9) (C := C) hx hT hO rfl (by decide) rfl) H rfl rfl (Nat.le_of_ble_eq_true rfl) ?_
            refine w_ifB_ne dX9_isKept_51 rfl (fun h_51 => ?_) (fun h_51 => ?_)
            · refine w_iconst (v := nI 1) dX9_isKept_81 ki_1 ?_
              refine w_goto dX9_isKept_82 rfl ?_
              exact t1 1 (by omega) (by omega)
            · refine w_aload_n dX9_isKept_54 rfl ?_
              refine w_ldcS (i := 19) rfl rfl rfl dX9_isKept_55 ?_
              refine cr_call (As := [_]) (mi := miX9_isWord) dX9_isKept_57 q727 okX9_isWord clX9 rfl (H.get ce_rd) (Nat.le_of_ble_eq_true rfl) (r_isWord (i := 19) (m := 4) (C := C) hx hT hO rfl (by decide) rfl) H rfl rfl (Nat.le_of_ble_eq_true rfl) ?_
              refine w_ifB_ne dX9_isKept_60 rfl (fun h_60 => ?_) (fun h_60 => ?_)
              · refine w_iconst (v := nI 1) dX9_isKept_81 ki_1 ?_
                refine w_goto dX9_isKept_82 rfl ?_
                exact t1 1 (by omega) (by omega)
              · refine w_aload_n dX9_isKept_63 rfl ?_
                refine w_ldcS (i := 20) rfl rfl rfl dX9_isKept_64 ?_
                refine cr_call (As := [_]) (mi := miX9_isWord) dX9_isKept_66 q727 okX9_isWord clX9 rfl (H.get ce_rd) (Nat.le_of_ble_eq_true rfl) (r_isWord (i := 20) (m := 10) (C := C) hx hT hO rfl (by decide) rfl) H rfl rfl (Nat.le_of_ble_eq_true rfl) ?_
                refine w_ifB_ne dX9_isKept_69 rfl (fun h_69 => ?_) (fun h_69 => ?_)
                · refine w_iconst (v := nI 1) dX9_isKept_81 ki_1 ?_
                  refine w_goto dX9_isKept_82 rfl ?_
                  exact t1 1 (by omega) (by omega)
                · refine w_aload_n dX9_isKept_72 rfl ?_
                  refine w_ldcS (i := 21) rfl rfl rfl dX9_isKept_73 ?_
                  refine cr_call (As := [_]) (mi := miX9_isWord) dX9_isKept_75 q727 okX9_isWord clX9 rfl (H.get ce_rd) (Nat.le_of_ble_eq_true rfl) (r_isWord (i := 21) (m := 5) (C := C) hx hT hO rfl (by decide) rfl) H rfl rfl (Nat.le_of_ble_eq_true rfl) ?_
                  refine w_ifB_eq dX9_isKept_78 rfl (fun h_78 => ?_) (fun h_78 => ?_)
                  · refine w_iconst (v := nI 0) dX9_isKept_85 ki_0 ?_
                    exact t1 0 (by omega) (by omega)
                  · refine w_iconst (v := nI 1) dX9_isKept_81 ki_1 ?_
                    refine w_goto dX9_isKept_82 rfl ?_
                    exact t1 1 (by omega) (by omega)
