set_option maxRecDepth 100000
theorem BeN.rcv {g : GG} {σ : PH} {C : CS} {a cf cd : Nat} {nf nd : Nat → List Nat} (h : BeN g C a cf cd nf nd) (H : Hold g σ C) : ∃ (t : Tg) (fs : List Value), σ.2 a = some (t, .inr (6, fs)) := by
  obtain ⟨fs, x, y, p, q, h1, -⟩ := h
  obtain ⟨t, ht⟩ := h1.get H
  exact ⟨t, fs, ht⟩
theorem BeN.le {g : GG} {C : CS} {a cf cd : Nat} {nf nd : Nat → List Nat} (h : BeN g C a cf cd nf nd) : cf ≤ 6 ∧ cd ≤ 8 := by
  obtain ⟨fs, x, y, p, q, h1, h2, h3, h4, h5, h6, h7, h8, h9, -⟩ := h
  exact ⟨h8, h9⟩
theorem fI_0 : ∀ m, m ≤ 8 → ∀ k, k ≤ m → (0 ≤ fI k m ↔ k < m) := by decide +kernel
theorem fI_1 : ∀ m, m ≤ 8 → ∀ k, k ≤ m → (fI k m < 0 ↔ k = m) := by decide +kernel
def wName (X : TX) (t : Tk) : PR Nat := if isNm X t then .ok 0 else .error (flt t 2)
def wFr (X : TX) (cf cd : Nat) (nf nd : Nat → List Nat) (t : Tk) : PR (List Nat × Tk) := if ¬ isNm X t then .error (flt t 2) else if nfd nf cf (wd X t) < cf ∨ nfd nd cd (wd X t) < cd then .error (flt t 3) else .ok (wd X t, nx X t)
def wKn (X : TX) (v m : Nat) (t : Tk) : PR (Nat × Tk) := if v = m then .error (flt t 3) else .ok (v, nx X t)
def QNm (C : CS) (X : TX) (t : Tk) (nu st du : Int32) : Option Value → CS → Prop := fun w C2 => w = some (.long (lN (n32 (wd X t)))) ∧ isNm X t ∧ C2 = rdS C X.2 (rqT t nu st du)
def QFr (C : CS) (X : TX) (st du : Int32) (r : PR (List Nat × Tk)) : Option Value → CS → Prop := fun w C2 => ∃ (ws : List Nat) (t2 : Tk) (nu2 : Int32), w = some (.long (lN (n32 ws))) ∧ NmW ws ∧ r = .ok (ws, t2) ∧ OkT9 X t2 ∧ C2 = rdS C X.2 (rqT t2 nu2 st du) ∧ NuT t2 nu2
set_option maxHeartbeats 4000000 in
theorem r_name {g : GG} {C : CS} {X : TX} {t : Tk} {nu st du : Int32} (hx : oO C 0 = true) (hT : TxC C X) (hO : OkT9 X t) : Cz g miX9_name 8 0 0 [.ref (od C 8 1)] (rdS C X.2 (rqT t nu st du)) (QNm C X t nu st du) (ET C (wName X t)) := by
  refine Cz.start [some (.ref (od C 8 1)), none, none, none] plX9 rfl (Nat.le_of_ble_eq_true rfl) rfl ?_
  intro σ0 σ H F
  have hX9 := hT.1
  obtain ⟨ho1, ho2, ho3, ho4, ho5, ho6, ho7, -⟩ := hO.ok
  have hs4 := so2_le ho3
  have hk9 := kix_le X t
  refine w_aload_n dX9_name_0 rfl ?_
  refine rd_get (f := 3) (C := C) (q := rqT t nu st du) (v := .int (nI (so2 t.so))) dX9_name_1 (by decide) q691 H rfl ?_
  refine w_iconst (v := nI 1) dX9_name_4 ki_1 ?_
  refine w_icmpN_ne dX9_name_5 rfl (by omega) (by omega) (fun h_5 => ?_) (fun h_5 => ?_)
  · have hno : ¬ isNm X t := fun z => h_5 ((so2_i ho3 (by omega) (by omega)).mpr z.1)
    refine w_aload_n dX9_name_29 rfl ?_
    refine cp_call (kc := 0) (ks := 0) (As := []) (mi := miX9_wrong) dX9_name_30 q779 okX9_wrong clX9 rfl (H.get ce_rd) (Nat.le_of_ble_eq_true rfl) (r_wrong (C := C) hx hT hO) H F rfl rfl (Nat.le_of_ble_eq_true rfl) ?_
    intro σ C30 hC30 H F
    exact cx_throw (C1 := C30) dX9_name_33 rfl hx H F (RFr.bd hC30) (ET.mk_ (if_neg hno) hC30)
  · have h2 : t.so = 2 := (so2_i ho3 (by omega) (by omega)).mp h_5
    refine w_aload_n dX9_name_8 rfl ?_
    refine rd_get (f := 2) (C := C) (q := rqT t nu st du) (v := .int (nI t.to)) dX9_name_9 (by decide) q690 H rfl ?_
    refine w_aload_n dX9_name_12 rfl ?_
    refine rd_get (f := 1) (C := C) (q := rqT t nu st du) (v := .int (nI t.fr)) dX9_name_13 (by decide) q689 H rfl ?_
    refine w_isubN dX9_name_16 (by omega) ?_
    refine w_bipush (v := nI 8) dX9_name_17 kb_8 ?_
    refine w_icmpN_gt dX9_name_19 rfl (by omega) (by omega) (fun h_19 => ?_) (fun h_19 => ?_)
    · have hno : ¬ isNm X t := fun z => by have := z.2.1; omega
      refine w_aload_n dX9_name_29 rfl ?_
      refine cp_call (kc := 0) (ks := 0) (As := []) (mi := miX9_wrong) dX9_name_30 q779 okX9_wrong clX9 rfl (H.get ce_rd) (Nat.le_of_ble_eq_true rfl) (r_wrong (C := C) hx hT hO) H F rfl rfl (Nat.le_of_ble_eq_true rfl) ?_
      intro σ C30 hC30 H F
      exact cx_throw (C1 := C30) dX9_name_33 rfl hx H F (RFr.bd hC30) (ET.mk_ (if_neg hno) hC30)
    · refine w_aload_n dX9_name_22 rfl ?_
      refine cr_call (As := []) (mi := miX9_isKept) dX9_name_23 q814 okX9_isKept clX9 rfl (H.get ce_rd) (Nat.le_of_ble_eq_true rfl) (r_isKept (C := C) hx hT hO) H rfl rfl (Nat.le_of_ble_eq_true rfl) ?_
      refine w_ifB_eq dX9_name_26 rfl (fun h_26 => ?_) (fun h_26 => ?_)
      · have hnm : isNm X t := ⟨h2, by omega, by omega⟩
        refine w_lconst (v := 0) dX9_name_34 rfl ?_
        refine w_lstore_n dX9_name_35 rfl (Nat.le_of_ble_eq_true rfl) ls2_4_1 ?_
        refine w_aload_n dX9_name_36 rfl ?_
        refine rd_get (f := 1) (C := C) (q := rqT t nu st du) (v := .int (nI t.fr)) dX9_name_37 (by decide) q689 H rfl ?_
        refine w_istore_n dX9_name_40 rfl (Nat.le_of_ble_eq_true rfl) ls_4_3 ?_
        have lp : ∀ (j9 : Nat) (k : Nat), t.to - k < j9 → t.fr ≤ k → k ≤ t.to → Wp g (mtX g miX9_name 8 0 0 σ0 (rdS C X.2 (rqT t nu st du)) (QNm C X t nu st du) (ET C (wName X t))) 0 0 41 [some (.ref (od C 8 1)), some (.long (lN (nm3 X t.fr (k - t.fr)))), none, some (.int (nI k))] [] σ := by
          intro j9
          induction j9 with
          | zero => intro k hmu hk1 hk2; exact absurd hmu (Nat.not_lt_zero _)
          | succ j9 ih_lp =>
            intro k hmu hk1 hk2
            refine w_iload_n dX9_name_41 rfl ?_
            refine w_aload_n dX9_name_42 rfl ?_
            refine rd_get (f := 2) (C := C) (q := rqT t nu st du) (v := .int (nI t.to)) dX9_name_43 (by decide) q690 H rfl ?_
            refine w_icmpN_ge dX9_name_46 rfl (by omega) (by omega) (fun h_46 => ?_) (fun h_46 => ?_)
            · refine w_lload_n dX9_name_76 rfl ?_
              exact w_lret dX9_name_77 rfl ⟨_, by exact ⟨by rw [n32_wd, show k = t.to by omega], hnm, rfl⟩, H, F⟩
            · have hl9 := ho7 h2 k (by omega) (by omega)
              have hlb : 97 ≤ X.1 k ∧ X.1 k ≤ 122 := by simpa [isLo] using hl9
              have e9 : nm3 X t.fr (k + 1 - t.fr) = nm3 X t.fr (k - t.fr) * 32 + (X.1 k - 96) := by rw [show k + 1 - t.fr = (k - t.fr) + 1 by omega, nm3, show t.fr + (k - t.fr) = k by omega]
              refine w_lload_n dX9_name_49 rfl ?_
              refine w_ldc2 dX9_name_50 q852 ?_
              refine w_lmul dX9_name_53 ?_
              refine w_aload_n dX9_name_54 rfl ?_
              refine rd_get (f := 7) (C := C) (q := rqT t nu st du) (v := .ref (od C 0 30)) dX9_name_55 (by decide) q696 H rfl ?_
              refine rd_22 (C := C) (q := rqT t nu st du) dX9_name_58 rfl hx H ?_
              refine w_iload_n dX9_name_61 rfl ?_
              refine rd_tape (C := C) (q := rqT t nu st du) dX9_name_62 hx (by omega) H ?_
              rw [(hT.2 (k) (by omega)).1]
              refine w_i2l dX9_name_63 rfl ?_
              refine w_ladd dX9_name_64 ?_
              refine w_ldc2 dX9_name_65 q853 ?_
              refine w_lsub dX9_name_68 ?_
              rw [lN_digit hlb.1 hlb.2, ← e9]
              refine w_lstore_n dX9_name_69 rfl (Nat.le_of_ble_eq_true rfl) ls2_4_1 ?_
              refine w_iinc dX9_name_70 rfl (nI_inc _ 1) rfl (Nat.le_of_ble_eq_true rfl) ls_4_3 ?_
              refine w_goto dX9_name_73 rfl ?_
              exact ih_lp (k + 1) (by omega) (by omega) (by omega)
        have h0 := lp (t.to + 1) t.fr (by omega) (by omega) (by omega)
        rw [Nat.sub_self] at h0
        exact h0
      · have hno : ¬ isNm X t := fun z => by have := z.2.2; omega
        refine w_aload_n dX9_name_29 rfl ?_
        refine cp_call (kc := 0) (ks := 0) (As := []) (mi := miX9_wrong) dX9_name_30 q779 okX9_wrong clX9 rfl (H.get ce_rd) (Nat.le_of_ble_eq_true rfl) (r_wrong (C := C) hx hT hO) H F rfl rfl (Nat.le_of_ble_eq_true rfl) ?_
        intro σ C30 hC30 H F
        exact cx_throw (C1 := C30) dX9_name_33 rfl hx H F (RFr.bd hC30) (ET.mk_ (if_neg hno) hC30)
set_option maxHeartbeats 4000000 in
theorem r_finderNamed {g : GG} {C : CS} {a cf cd : Nat} {nf nd : Nat → List Nat} {ws : List Nat} (hB : BeN g C a cf cd nf nd) (hw : NmW ws) : Cr g miX6_finderNamed 1 [.ref a, .long (lN (n32 ws))] (C) (some (.int (fI (nfd nf cf ws) cf))) := by
  refine Cr.start [some (.ref a), some (.long (lN (n32 ws))), none, none] plX6 rfl (Nat.le_of_ble_eq_true rfl) rfl ?_
  intro σ H
  obtain ⟨fs9, x9, y9, p9, q9, a19, e39, e49, e79, e89, a29, a39, hc6, hd8, hp, hq⟩ := hB
  obtain ⟨t9, ht9⟩ := a19.get H
  obtain ⟨u9, hp9⟩ := a29.get H
  obtain ⟨v9, hq9⟩ := a39.get H
  refine w_iconst (v := nI 0) dX6_finderNamed_0 ki_0 ?_
  refine w_istore_n dX6_finderNamed_1 rfl (Nat.le_of_ble_eq_true rfl) ls_4_3 ?_
  have lp : ∀ (j9 : Nat) (k : Nat), cf - k < j9 → k ≤ cf → (∀ i, i < k → nf i ≠ ws) → Wp g (mtR g miX6_finderNamed 1 σ (some (.int (fI (nfd nf cf ws) cf)))) 0 0 2 [some (.ref a), some (.long (lN (n32 ws))), none, some (.int (nI k))] [] σ := by
    intro j9
    induction j9 with
    | zero => intro k hmu hk hno; exact absurd hmu (Nat.not_lt_zero _)
    | succ j9 ih_lp =>
      intro k hmu hk hno
      refine w_iload_n dX6_finderNamed_2 rfl ?_
      refine w_aload_n dX6_finderNamed_3 rfl ?_
      refine w_getf (k := 3) dX6_finderNamed_4 clX6 (by decide) q300 ht9 e39 ?_
      refine w_icmpN_ge dX6_finderNamed_7 rfl (by omega) (by omega) (fun h_7 => ?_) (fun h_7 => ?_)
      · refine w_iconst (v := (-1)) dX6_finderNamed_29 ki_m1 ?_
        exact w_iret dX6_finderNamed_30 rfl ⟨by rw [nfd_none (fun i hi => hno i (by omega)), fI, if_neg (by omega)], rfl⟩
      · refine w_aload_n dX6_finderNamed_10 rfl ?_
        refine w_getf (k := 7) dX6_finderNamed_11 clX6 (by decide) q315 ht9 e79 ?_
        refine w_iload_n dX6_finderNamed_14 rfl ?_
        refine w_laldN dX6_finderNamed_15 hp9 (by omega) (Nat.le_of_ble_eq_true rfl) ?_
        rw [(hp k (by omega)).1]
        refine w_lload_n dX6_finderNamed_16 rfl ?_
        refine w_lcmp dX6_finderNamed_17 ?_
        refine w_if_ne dX6_finderNamed_18 rfl (fun h_18 => ?_) (fun h_18 => ?_)
        · have hne : nf k ≠ ws := fun z => h_18 ((lg_cmp_eq _ _).mpr (by rw [z]))
          refine w_iinc dX6_finderNamed_23 rfl (nI_inc _ 1) rfl (Nat.le_of_ble_eq_true rfl) ls_4_3 ?_
          refine w_goto dX6_finderNamed_26 rfl ?_
          exact ih_lp (k + 1) (by omega) (by omega) (fun i hi => by
            by_cases z : i < k
            · exact hno i z
            · rw [show i = k by omega]; exact hne)
        · have heq : nf k = ws := n32_inj (hp k (by omega)).2 hw ((pk_lEQ (by have := nmW_32 (hp k (by omega)).2; omega) (by have := nmW_32 hw; omega)).mp ((lg_cmp_eq _ _).mp h_18))
          refine w_iload_n dX6_finderNamed_21 rfl ?_
          exact w_iret dX6_finderNamed_22 rfl ⟨by rw [nfd_hit (by omega) hno heq, fI, if_pos (by omega)], rfl⟩
  exact lp (cf + 1) 0 (by omega) (by omega) (fun i hi => absurd hi (Nat.not_lt_zero i))
set_option maxHeartbeats 4000000 in
theorem r_findNamed {g : GG} {C : CS} {a cf cd : Nat} {nf nd : Nat → List Nat} {ws : List Nat} (hB : BeN g C a cf cd nf nd) (hw : NmW ws) : Cr g miX6_findNamed 1 [.ref a, .long (lN (n32 ws))] (C) (some (.int (fI (nfd nd cd ws) cd))) := by
  refine Cr.start [some (.ref a), some (.long (lN (n32 ws))), none, none] plX6 rfl (Nat.le_of_ble_eq_true rfl) rfl ?_
  intro σ H
  obtain ⟨fs9, x9, y9, p9, q9, a19, e39, e49, e79, e89, a29, a39, hc6, hd8, hp, hq⟩ := hB
  obtain ⟨t9, ht9⟩ := a19.get H
  obtain ⟨u9, hp9⟩ := a29.get H
  obtain ⟨v9, hq9⟩ := a39.get H
  refine w_iconst (v := nI 0) dX6_findNamed_0 ki_0 ?_
  refine w_istore_n dX6_findNamed_1 rfl (Nat.le_of_ble_eq_true rfl) ls_4_3 ?_
  have lp : ∀ (j9 : Nat) (k : Nat), cd - k < j9 → k ≤ cd → (∀ i, i < k → nd i ≠ ws) → Wp g (mtR g miX6_findNamed 1 σ (some (.int (fI (nfd nd cd ws) cd)))) 0 0 2 [some (.ref a), some (.long (lN (n32 ws))), none, some (.int (nI k))] [] σ := by
    intro j9
    induction j9 with
    | zero => intro k hmu hk hno; exact absurd hmu (Nat.not_lt_zero _)
    | succ j9 ih_lp =>
      intro k hmu hk hno
      refine w_iload_n dX6_findNamed_2 rfl ?_
      refine w_aload_n dX6_findNamed_3 rfl ?_
      refine w_getf (k := 4) dX6_findNamed_4 clX6 (by decide) q305 ht9 e49 ?_
      refine w_icmpN_ge dX6_findNamed_7 rfl (by omega) (by omega) (fun h_7 => ?_) (fun h_7 => ?_)
      · refine w_iconst (v := (-1)) dX6_findNamed_29 ki_m1 ?_
        exact w_iret dX6_findNamed_30 rfl ⟨by rw [nfd_none (fun i hi => hno i (by omega)), fI, if_neg (by omega)], rfl⟩
      · refine w_aload_n dX6_findNamed_10 rfl ?_
        refine w_getf (k := 8) dX6_findNamed_11 clX6 (by decide) q317 ht9 e89 ?_
        refine w_iload_n dX6_findNamed_14 rfl ?_
        refine w_laldN dX6_findNamed_15 hq9 (by omega) (Nat.le_of_ble_eq_true rfl) ?_
        rw [(hq k (by omega)).1]
        refine w_lload_n dX6_findNamed_16 rfl ?_
        refine w_lcmp dX6_findNamed_17 ?_
        refine w_if_ne dX6_findNamed_18 rfl (fun h_18 => ?_) (fun h_18 => ?_)
        · have hne : nd k ≠ ws := fun z => h_18 ((lg_cmp_eq _ _).mpr (by rw [z]))
          refine w_iinc dX6_findNamed_23 rfl (nI_inc _ 1) rfl (Nat.le_of_ble_eq_true rfl) ls_4_3 ?_
          refine w_goto dX6_findNamed_26 rfl ?_
          exact ih_lp (k + 1) (by omega) (by omega) (fun i hi => by
            by_cases z : i < k
            · exact hno i z
            · rw [show i = k by omega]; exact hne)
        · have heq : nd k = ws := n32_inj (hq k (by omega)).2 hw ((pk_lEQ (by have := nmW_32 (hq k (by omega)).2; omega) (by have := nmW_32 hw; omega)).mp ((lg_cmp_eq _ _).mp h_18))
          refine w_iload_n dX6_findNamed_21 rfl ?_
          exact w_iret dX6_findNamed_22 rfl ⟨by rw [nfd_hit (by omega) hno heq, fI, if_pos (by omega)], rfl⟩
  exact lp (cd + 1) 0 (by omega) (by omega) (fun i hi => absurd hi (Nat.not_lt_zero i))
set_option maxHeartbeats 4000000 in
theorem r_known {g : GG} {C : CS} {X : TX} {t : Tk} {nu st du : Int32} {v m : Nat} (hx : oO C 0 = true) (hT : TxC C X) (hO : OkT9 X t) (hN : NuT t nu) (hv : v ≤ m) (hm8 : m ≤ 8) (h2 : t.so = 2) : Cz g miX9_known 3 0 0 [.ref (od C 8 1), .int (fI v m)] (rdS C X.2 (rqT t nu st du)) (QN C X st du (wKn X v m t)) (ET C (wKn X v m t)) := by
  refine Cz.start [some (.ref (od C 8 1)), some (.int (fI v m))] plX9 rfl (Nat.le_of_ble_eq_true rfl) rfl ?_
  intro σ0 σ H F
  have hX9 := hT.1
  refine w_iload_n dX9_known_0 rfl ?_
  refine w_if_ge dX9_known_1 rfl (fun h_1 => ?_) (fun h_1 => ?_)
  · have hvm : ¬ v = m := by have := (fI_0 _ hm8 _ hv).mp h_1; omega
    refine w_aload_n dX9_known_20 rfl ?_
    refine cp_call (kc := 0) (ks := 0) (As := []) (mi := miX9_next) dX9_known_21 q676 okX9_next clX9 rfl (H.get ce_rd) (Nat.le_of_ble_eq_true rfl) (r_next (C := C) hx hT hO.ok.2.1) H F rfl rfl (Nat.le_of_ble_eq_true rfl) ?_
    intro σ C21 hC21 H F
    obtain ⟨nu21, hc21, hN21⟩ := hC21
    subst hc21
    refine w_iload_n dX9_known_24 rfl ?_
    exact w_iret dX9_known_25 rfl ⟨_, by exact ⟨v, _, nu21, by rw [fI, if_pos (by omega)], by rw [wKn, if_neg hvm], hO.nx, rfl, hN21⟩, H, F⟩
  · have hvm : v = m := by have := mt (fI_0 _ hm8 _ hv).mpr h_1; omega
    refine w_aload_n dX9_known_4 rfl ?_
    refine rd_get (f := 7) (C := C) (q := rqT t nu st du) (v := .ref (od C 0 30)) dX9_known_5 (by decide) q696 H rfl ?_
    refine rd_55 (C := C) (q := rqT t nu st du) dX9_known_8 rfl hx H ?_
    refine w_iconst (v := nI 3) dX9_known_11 ki_3 ?_
    refine w_aload_n dX9_known_12 rfl ?_
    refine rd_get (f := 1) (C := C) (q := rqT t nu st du) (v := .int (nI t.fr)) dX9_known_13 (by decide) q689 H rfl ?_
    refine cp_call (kc := 0) (ks := 0) (As := [_, _]) (mi := miX2_at) dX9_known_16 q783 okX2_at clX2 rfl (H.get (ce_bad (C := rdS C X.2 (rqT t nu st du)) hx)) (Nat.le_of_ble_eq_true rfl) (r_at (C := rdS C X.2 (rqT t nu st du)) hx) H F rfl rfl (Nat.le_of_ble_eq_true rfl) ?_
    intro σ C16 hC16 H F
    change C16 = bdS (rdS C X.2 (rqT t nu st du)) (3, t.fr) at hC16
    exact cx_throw (C1 := C16) dX9_known_19 rfl hx H F (RFr.bd hC16) (ET.mk_ (by rw [wKn, if_pos hvm, flt, if_neg (by omega)]) hC16)
set_option maxHeartbeats 4000000 in
theorem r_fresh {g : GG} {C : CS} {X : TX} {t : Tk} {nu st du : Int32} {a cf cd : Nat} {nf nd : Nat → List Nat} (hx : oO C 0 = true) (hT : TxC C X) (hO : OkT9 X t) (hN : NuT t nu) (hB : BeN g C a cf cd nf nd) : Cz g miX9_fresh 9 0 0 [.ref (od C 8 1), .ref a] (rdS C X.2 (rqT t nu st du)) (QFr C X st du (wFr X cf cd nf nd t)) (ET C (wFr X cf cd nf nd t)) := by
  refine Cz.start [some (.ref (od C 8 1)), some (.ref a), none, none] plX9 rfl (Nat.le_of_ble_eq_true rfl) rfl ?_
  intro σ0 σ H F
  have hX9 := hT.1
  refine w_aload_n dX9_fresh_0 rfl ?_
  refine cx_call (kc := 0) (ks := 0) (As := []) (mi2 := miX9_name) dX9_fresh_1 q810 okX9_name clX9 rfl (H.get ce_rd) (Nat.le_of_ble_eq_true rfl) (r_name (C := C) hx hT hO) rfl H F RFr.rr (fun C2 h => h.of (fun f z => by
    unfold wName at z
    split at z
    · cases z
    · rename_i hno
      rw [wFr, if_pos hno]
      cases z
      rfl)) rfl rfl (Nat.le_of_ble_eq_true rfl) ?_
  intro v1 σ C1 hQ1 H F
  obtain ⟨hv1, hm1, hc1⟩ := hQ1
  subst hv1 hc1
  have hw1 := wd_nm hO hm1
  obtain ⟨t9, fs9, ht9⟩ := hB.rd.rcv H
  have hl1 := nfd_le nf cf (wd X t)
  have hl2 := nfd_le nd cd (wd X t)
  obtain ⟨hcf6, hcd8⟩ := hB.le
  refine w_lstore_n dX9_fresh_4 rfl (Nat.le_of_ble_eq_true rfl) ls2_4_2 ?_
  refine w_aload_n dX9_fresh_5 rfl ?_
  refine w_lload_n dX9_fresh_6 rfl ?_
  refine cr_call (As := [_]) (mi := miX6_finderNamed) dX9_fresh_7 q854 okX6_finderNamed clX6 rfl ht9 (Nat.le_of_ble_eq_true rfl) (r_finderNamed (ws := wd X t) (C := rdS C X.2 (rqT t nu st du)) (cf := cf) (cd := cd) (nf := nf) (nd := nd) hB.rd hw1) H rfl rfl (Nat.le_of_ble_eq_true rfl) ?_
  refine w_if_ge dX9_fresh_10 rfl (fun h_10 => ?_) (fun h_10 => ?_)
  · have hlt := (fI_0 _ (by omega) _ hl1).mp h_10
    refine w_aload_n dX9_fresh_21 rfl ?_
    refine rd_get (f := 7) (C := C) (q := rqT t nu st du) (v := .ref (od C 0 30)) dX9_fresh_22 (by decide) q696 H rfl ?_
    refine rd_55 (C := C) (q := rqT t nu st du) dX9_fresh_25 rfl hx H ?_
    refine w_iconst (v := nI 3) dX9_fresh_28 ki_3 ?_
    refine w_aload_n dX9_fresh_29 rfl ?_
    refine rd_get (f := 1) (C := C) (q := rqT t nu st du) (v := .int (nI t.fr)) dX9_fresh_30 (by decide) q689 H rfl ?_
    refine cp_call (kc := 0) (ks := 0) (As := [_, _]) (mi := miX2_at) dX9_fresh_33 q783 okX2_at clX2 rfl (H.get (ce_bad (C := rdS C X.2 (rqT t nu st du)) hx)) (Nat.le_of_ble_eq_true rfl) (r_at (C := rdS C X.2 (rqT t nu st du)) hx) H F rfl rfl (Nat.le_of_ble_eq_true rfl) ?_
    intro σ C33 hC33 H F
    change C33 = bdS (rdS C X.2 (rqT t nu st du)) (3, t.fr) at hC33
    exact cx_throw (C1 := C33) dX9_fresh_36 rfl hx H F (RFr.bd hC33) (ET.mk_ (by rw [wFr, if_neg (fun z => z hm1), if_pos (by omega), flt, if_neg (by have := hm1.1; omega)]) hC33)
  · have hnl := mt (fI_0 _ (by omega) _ hl1).mpr h_10
    refine w_aload_n dX9_fresh_13 rfl ?_
    refine w_lload_n dX9_fresh_14 rfl ?_
    refine cr_call (As := [_]) (mi := miX6_findNamed) dX9_fresh_15 q858 okX6_findNamed clX6 rfl ht9 (Nat.le_of_ble_eq_true rfl) (r_findNamed (ws := wd X t) (C := rdS C X.2 (rqT t nu st du)) (cf := cf) (cd := cd) (nf := nf) (nd := nd) hB.rd hw1) H rfl rfl (Nat.le_of_ble_eq_true rfl) ?_
    refine w_if_lt dX9_fresh_18 rfl (fun h_18 => ?_) (fun h_18 => ?_)
    · have hnl2 := (fI_1 _ hcd8 _ hl2).mp h_18
      refine w_aload_n dX9_fresh_37 rfl ?_
      refine cp_call (kc := 0) (ks := 0) (As := []) (mi := miX9_next) dX9_fresh_38 q676 okX9_next clX9 rfl (H.get ce_rd) (Nat.le_of_ble_eq_true rfl) (r_next (C := C) hx hT hO.ok.2.1) H F rfl rfl (Nat.le_of_ble_eq_true rfl) ?_
      intro σ C38 hC38 H F
      obtain ⟨nu38, hc38, hN38⟩ := hC38
      subst hc38
      refine w_lload_n dX9_fresh_41 rfl ?_
      exact w_lret dX9_fresh_42 rfl ⟨_, by exact ⟨wd X t, _, nu38, rfl, hw1, by rw [wFr, if_neg (fun z => z hm1), if_neg (by omega)], hO.nx, rfl, hN38⟩, H, F⟩
    · have hlt2 := mt (fI_1 _ hcd8 _ hl2).mpr h_18
      refine w_aload_n dX9_fresh_21 rfl ?_
      refine rd_get (f := 7) (C := C) (q := rqT t nu st du) (v := .ref (od C 0 30)) dX9_fresh_22 (by decide) q696 H rfl ?_
      refine rd_55 (C := C) (q := rqT t nu st du) dX9_fresh_25 rfl hx H ?_
      refine w_iconst (v := nI 3) dX9_fresh_28 ki_3 ?_
      refine w_aload_n dX9_fresh_29 rfl ?_
      refine rd_get (f := 1) (C := C) (q := rqT t nu st du) (v := .int (nI t.fr)) dX9_fresh_30 (by decide) q689 H rfl ?_
      refine cp_call (kc := 0) (ks := 0) (As := [_, _]) (mi := miX2_at) dX9_fresh_33 q783 okX2_at clX2 rfl (H.get (ce_bad (C := rdS C X.2 (rqT t nu st du)) hx)) (Nat.le_of_ble_eq_true rfl) (r_at (C := rdS C X.2 (rqT t nu st du)) hx) H F rfl rfl (Nat.le_of_ble_eq_true rfl) ?_
      intro σ C33 hC33 H F
      change C33 = bdS (rdS C X.2 (rqT t nu st du)) (3, t.fr) at hC33
      exact cx_throw (C1 := C33) dX9_fresh_36 rfl hx H F (RFr.bd hC33) (ET.mk_ (by rw [wFr, if_neg (fun z => z hm1), if_pos (by omega), flt, if_neg (by have := hm1.1; omega)]) hC33)
set_option maxHeartbeats 4000000 in
theorem r_finder {g : GG} {C : CS} {X : TX} {t : Tk} {nu st du : Int32} {a cf cd : Nat} {nf nd : Nat → List Nat} (hx : oO C 0 = true) (hT : TxC C X) (hO : OkT9 X t) (hN : NuT t nu) (hB : BeN g C a cf cd nf nd) : Cz g miX9_finder 9 0 0 [.ref (od C 8 1), .ref a] (rdS C X.2 (rqT t nu st du)) (QN C X st du (wOld X nf cf t)) (ET C (wOld X nf cf t)) := by
  refine Cz.start [some (.ref (od C 8 1)), some (.ref a)] plX9 rfl (Nat.le_of_ble_eq_true rfl) rfl ?_
  intro σ0 σ H F
  have hX9 := hT.1
  obtain ⟨hcf6, hcd8⟩ := hB.le
  refine w_aload_n dX9_finder_0 rfl ?_
  refine w_aload_n dX9_finder_1 rfl ?_
  refine w_aload_n dX9_finder_2 rfl ?_
  refine cx_call (kc := 0) (ks := 0) (As := []) (mi2 := miX9_name) dX9_finder_3 q810 okX9_name clX9 rfl (H.get ce_rd) (Nat.le_of_ble_eq_true rfl) (r_name (C := C) hx hT hO) rfl H F RFr.rr (fun C2 h => h.of (fun f z => by
    unfold wName at z
    split at z
    · cases z
    · rename_i hno
      rw [wOld, if_pos hno]
      cases z
      rfl)) rfl rfl (Nat.le_of_ble_eq_true rfl) ?_
  intro v3 σ C3 hQ3 H F
  obtain ⟨hv3, hm3, hc3⟩ := hQ3
  subst hv3 hc3
  have hw3 := wd_nm hO hm3
  obtain ⟨t9, fs9, ht9⟩ := hB.rd.rcv H
  refine cr_call (As := [_]) (mi := miX6_finderNamed) dX9_finder_6 q854 okX6_finderNamed clX6 rfl ht9 (Nat.le_of_ble_eq_true rfl) (r_finderNamed (ws := wd X t) (C := rdS C X.2 (rqT t nu st du)) (cf := cf) (cd := cd) (nf := nf) (nd := nd) hB.rd hw3) H rfl rfl (Nat.le_of_ble_eq_true rfl) ?_
  refine cx_call (kc := 0) (ks := 0) (As := [_]) (mi2 := miX9_known) dX9_finder_9 q874 okX9_known clX9 rfl (H.get ce_rd) (Nat.le_of_ble_eq_true rfl) (r_known (v := nfd nf cf (wd X t)) (m := cf) (C := C) hx hT hO hN (nfd_le _ _ _) (by omega) hm3.1) rfl H F RFr.rr (fun C2 h => h.of (fun f z => by rw [wOld, if_neg (fun y => y hm3)]; exact z)) rfl rfl (Nat.le_of_ble_eq_true rfl) ?_
  intro v9 σ C9 hQ9 H F
  obtain ⟨n9, t9, nu9, hv9, e9, hO9, hc9, hN9⟩ := hQ9
  subst hv9 hc9
  exact w_iret dX9_finder_12 rfl ⟨_, by exact ⟨n9, _, nu9, rfl, by rw [wOld, if_neg (fun y => y hm3)]; exact e9, hO9, rfl, hN9⟩, H, F⟩
set_option maxHeartbeats 4000000 in
theorem r_find {g : GG} {C : CS} {X : TX} {t : Tk} {nu st du : Int32} {a cf cd : Nat} {nf nd : Nat → List Nat} (hx : oO C 0 = true) (hT : TxC C X) (hO : OkT9 X t) (hN : NuT t nu) (hB : BeN g C a cf cd nf nd) : Cz g miX9_find 9 0 0 [.ref (od C 8 1), .ref a] (rdS C X.2 (rqT t nu st du)) (QN C X st du (wOld X nd cd t)) (ET C (wOld X nd cd t)) := by
  refine Cz.start [some (.ref (od C 8 1)), some (.ref a)] plX9 rfl (Nat.le_of_ble_eq_true rfl) rfl ?_
  intro σ0 σ H F
  have hX9 := hT.1
  obtain ⟨hcf6, hcd8⟩ := hB.le
  refine w_aload_n dX9_find_0 rfl ?_
  refine w_aload_n dX9_find_1 rfl ?_
  refine w_aload_n dX9_find_2 rfl ?_
  refine cx_call (kc := 0) (ks := 0) (As := []) (mi2 := miX9_name) dX9_find_3 q810 okX9_name clX9 rfl (H.get ce_rd) (Nat.le_of_ble_eq_true rfl) (r_name (C := C) hx hT hO) rfl H F RFr.rr (fun C2 h => h.of (fun f z => by
    unfold wName at z
    split at z
    · cases z
    · rename_i hno
      rw [wOld, if_pos hno]
      cases z
      rfl)) rfl rfl (Nat.le_of_ble_eq_true rfl) ?_
  intro v3 σ C3 hQ3 H F
  obtain ⟨hv3, hm3, hc3⟩ := hQ3
  subst hv3 hc3
  have hw3 := wd_nm hO hm3
  obtain ⟨t9, fs9, ht9⟩ := hB.rd.rcv H
  refine cr_call (As := [_]) (mi := miX6_findNamed) dX9_find_6 q858 okX6_findNamed clX6 rfl ht9 (Nat.le_of_ble_eq_true rfl) (r_findNamed (ws := wd X t) (C := rdS C X.2 (rqT t nu st du)) (cf := cf) (cd := cd) (nf := nf) (nd := nd) hB.rd hw3) H rfl rfl (Nat.le_of_ble_eq_true rfl) ?_
  refine cx_call (kc := 0) (ks := 0) (As := [_]) (mi2 := miX9_known) dX9_find_9 q874 okX9_known clX9 rfl (H.get ce_rd) (Nat.le_of_ble_eq_true rfl) (r_known (v := nfd nd cd (wd X t)) (m := cd) (C := C) hx hT hO hN (nfd_le _ _ _) (by omega) hm3.1) rfl H F RFr.rr (fun C2 h => h.of (fun f z => by rw [wOld, if_neg (fun y => y hm3)]; exact z)) rfl rfl (Nat.le_of_ble_eq_true rfl) ?_
  intro v9 σ C9 hQ9 H F
  obtain ⟨n9, t9, nu9, hv9, e9, hO9, hc9, hN9⟩ := hQ9
  subst hv9 hc9
  exact w_iret dX9_find_12 rfl ⟨_, by exact ⟨n9, _, nu9, rfl, by rw [wOld, if_neg (fun y => y hm3)]; exact e9, hO9, rfl, hN9⟩, H, F⟩
