set_option maxRecDepth 100000
theorem gull_t (V : VS) {d e : Nat} (h : d ≠ e) (k w m a b : Nat) : vt (insV (delK V d k) e w m) a b = vt (delK (insV V e w m) d k) a b := by
  simp only [insV_t, delK_t]
  by_cases h7 : a = 7
  · subst h7
    by_cases h1 : b = e
    · subst h1
      simp [h, Ne.symm h]
    · by_cases h2 : b = d
      · subst h2; simp [h]
      · simp [h1, h2]
  · simp [h7]
theorem gull_p (V : VS) {d e : Nat} (h : d ≠ e) (k w m a x i : Nat) : vp (insV (delK V d k) e w m) a x i = vp (delK (insV V e w m) d k) a x i := by
  have h1 : ∀ a, vp (delK V d k) a e = vp V a e := fun a => by funext y; rw [del_p, if_neg (Ne.symm h)]
  have h2 : vt (delK V d k) 7 e = vt V 7 e := by rw [delK_t, if_neg (by omega)]
  have h3 : ∀ a, vp (insV V e w m) a d = vp V a d := fun a => by funext y; rw [insV_p, if_neg h]
  rw [insV_p, del_p, h1, h1, h2, del_p, h3, insV_p]
  by_cases hx : x = e
  · subst hx; rw [if_pos rfl, if_neg (Ne.symm h), if_pos rfl]
  · rw [if_neg hx, if_neg hx]
section BB
variable {g : GG} {mt : MT} {kc ks pc : Nat} {L : List (Option Value)} {st rest : List Value} {σ σ0 : PH} {C : CS} {j : Nat} {V : VS} {q : Nat → Nat}
theorem bb_12 {a : Nat} (dd : decode mt.1.2.1 pc = .ok (.iaload, 1)) (E : EncD g C j V q) (ha : a < vs V 2) (h8 : a < 8) (H : Hold g σ C) (kk : Wp g mt kc ks (pc + 1) L (.int (nI (vt V 5 a)) :: st) σ) : Wp g mt kc ks pc L (.int (nI a) :: .ref (bR C j 12) :: st) σ := w_ialdN dd (H.z E.1.2.2.2.2.2.2.1) h8 (by omega) (by have h := kk; rw [← E.fat ha] at h; exact h)
end BB
/-- what all keep, finder by finder -/
def kepL (V : VS) (i : Nat) : VS := foldN (fun f W => setT W 4 f (vt W 4 f + leadV V f)) V i
theorem kepL_t (V : VS) : ∀ i a b, vt (kepL V i) a b = if a = 4 ∧ b < i then vt V 4 b + leadV V b else vt V a b
  | 0, a, b => by rw [if_neg (by omega)]; rfl
  | i + 1, a, b => by
    show vt (setT (kepL V i) 4 i (vt (kepL V i) 4 i + leadV V i)) a b = _
    rw [setT_t, kepL_t V i a b, kepL_t V i 4 i, if_neg (show ¬ (4 = 4 ∧ i < i) by omega)]
    by_cases h : a = 4 ∧ b = i
    · obtain ⟨rfl, rfl⟩ := h
      rw [if_pos ⟨rfl, rfl⟩, if_pos ⟨rfl, by omega⟩]
    · rw [if_neg h]
      by_cases h2 : a = 4 ∧ b < i
      · rw [if_pos h2, if_pos ⟨h2.1, by omega⟩]
      · rw [if_neg h2, if_neg (by omega)]
theorem kepL_s (V : VS) : ∀ i k, vs (kepL V i) k = vs V k
  | 0, _ => rfl
  | i + 1, k => kepL_s V i k
theorem kepL_p (V : VS) : ∀ i a d k, vp (kepL V i) a d k = vp V a d k
  | 0, _, _, _ => rfl
  | i + 1, a, d, k => kepL_p V i a d k
theorem lead_kep (V : VS) (i f : Nat) : leadV (kepL V i) f = leadV V f := by
  unfold leadV
  rw [kepL_s]
  refine foldN_congr _ fun d x _ => ?_
  have h := set_eq (V := V) (W := kepL V i) (d := d) (kepL_s V i 5) (kepL_s V i 7) (by rw [kepL_t, if_neg (by omega)]) (fun a k => kepL_p V i a d k)
  have h6 : vt (kepL V i) 6 d = vt V 6 d := by rw [kepL_t, if_neg (by omega)]
  unfold shareV
  rw [h.2.2, h6]
theorem OkV.kep {V : VS} (K : OkV V) (hk : KepV V) (hd : vs V 6 < 99) (i : Nat) (hi : i ≤ vs V 1) : OkV (kepL V i) := by
  have kb := K.b
  have hl := fun f => leadV_le K f
  obtain ⟨k1, k2, k3, k4, k5, k6, k7, k8, k9⟩ := K
  have e : ∀ a b, a ≠ 4 → vt (kepL V i) a b = vt V a b := fun a b h => by rw [kepL_t, if_neg (fun z => h z.1)]
  have ep : ∀ a d, vp (kepL V i) a d = vp V a d := fun a d => funext (kepL_p V i a d)
  refine ⟨?_, ?_, ?_, ?_, ?_, ?_, ?_, ?_, ?_⟩
  · simp only [kepL_s]; exact k1
  · simp only [kepL_s]; exact k2
  · intro f hf
    rw [kepL_s] at hf
    rw [e 0 f (by omega), e 1 f (by omega), e 3 f (by omega), kepL_s, kepL_s, kepL_t]
    have h3 := k3 f hf
    have h4 := hk f hf
    have h5 := hl f
    have h6 : 7992 * vs V 6 ≤ 7992 * 98 := Nat.mul_le_mul_left _ (by omega)
    refine ⟨h3.1, h3.2.1, h3.2.2.1, h3.2.2.2.1, ?_⟩
    split <;> omega
  · intro d hd9
    rw [e 5 d (by omega), e 6 d (by omega), kepL_s]
    rw [kepL_s] at hd9
    exact k4 d hd9
  · intro d hd9
    have ht : isT (kepL V i) d ↔ isT V d := by unfold isT; rw [kepL_s]
    rw [e 7 d (by omega), ht]
    exact k5 d hd9
  · intro d hd9 k hk9
    rw [e 7 d (by omega)] at hk9
    rw [ep, ep, kepL_s, kepL_s]
    exact k6 d hd9 k hk9
  · intro d hd9 a b hab hb
    rw [e 7 d (by omega)] at hb
    rw [ep]
    exact k7 d hd9 a b hab hb
  · rw [kepL_s, k8]
    exact (sum_eq 8 fun d _ => e 7 d (by omega)).symm
  · rw [kepL_s, kepL_s, sum_eq (vs V 1) fun f _ => e 2 f (by omega)]
    exact k9
theorem flood_kep (V : VS) (a b : Nat) : vt (clkK (hasK V (kepL V (vs V 1)) (vs V 2)) (vs V 1)) a b = vt (floodV V) a b := by
  simp only [clkK_t, hasK_t, kepL_t, flood_t]
  by_cases h3 : a = 3
  · subst h3
    simp
  · by_cases h2 : a = 2
    · subst h2
      simp
      rfl
    · by_cases h7 : a = 7
      · subst h7
        simp
      · by_cases h4 : a = 4
        · subst h4
          simp
        · simp [h3, h2, h7, h4]
set_option maxHeartbeats 4000000 in
theorem kX5_gull {g : GG} {C : CS} {j : Nat} {V : VS} {q : Nat → Nat} {d : Nat} {e : Nat} (hj : oO C j = true) (E : EncD g C j V q) (K : OkV V) (hd : d < vs V 2) (he : e < vs V 2) (hne : d ≠ e) (hn : 0 < vt V 7 d) (hn6 : vt V 7 e < 60) (hl : oM C 90 = none) : Cp g miX5_gull 3 (if vt V 7 e = q e then 2 else 0) (if vt V 7 e = q e then 4 * q e else 0) [.ref (od C 3 j), .int (nI d), .int (nI e)] C (some (.int (nI (vp V 0 d (vt V 7 d - 1))))) (fun C2 => EncD g C2 j (gullV V d e) (capU V q e) ∧ SD j C C2) := by
  refine Cp.start [some (.ref (od C 3 j)), some (.int (nI d)), some (.int (nI e)), none, none] plX5 rfl (Nat.le_of_ble_eq_true rfl) rfl ?_
  intro σ0 σ H F
  have kb := K.b
  have kd_d := K.d hd
  have kn_d := K.n (d := d) (by omega)
  have kd_e := K.d he
  have kn_e := K.n (d := e) (by omega)
  have hp0 := K.p (d := d) (by omega) (k := vt V 7 d - 1) (by omega)
  refine w_aload_n dX5_gull_0 rfl ?_
  refine gX5_33 (C := C) dX5_gull_1 rfl hj H ?_
  refine w_iload_n dX5_gull_4 rfl ?_
  refine ga_heaps (C := C) dX5_gull_5 hj (by omega) H ?_
  refine w_astore_n dX5_gull_6 rfl (Nat.le_of_ble_eq_true rfl) ls_5_3 ?_
  refine w_aload_n dX5_gull_7 rfl ?_
  refine gX5_113 (C := C) dX5_gull_8 rfl (on8 hj (by omega)) H ?_
  refine w_aload_n dX5_gull_11 rfl ?_
  refine gX5_54 (C := C) dX5_gull_12 rfl (on8 hj (by omega)) H ?_
  refine w_topN (E.h (d := d) (by omega)).sz ?_
  refine w_iconst (v := nI 1) dX5_gull_15 ki_1 ?_
  refine w_isubN dX5_gull_16 (by omega) ?_
  refine ha_6 (C := C) dX5_gull_17 (on8 hj (by omega)) (E.h (d := d) (by omega)) (by omega) H ?_
  refine w_istore dX5_gull_18 rfl (Nat.le_of_ble_eq_true rfl) ls_5_4 ?_
  refine w_aload_n dX5_gull_20 rfl ?_
  refine gX5_33 (C := C) dX5_gull_21 rfl hj H ?_
  refine w_iload_n dX5_gull_24 rfl ?_
  refine ga_heaps (C := C) dX5_gull_25 hj (by omega) H ?_
  refine w_iload dX5_gull_26 rfl ?_
  refine w_aload_n dX5_gull_28 rfl ?_
  refine gX5_106 (C := C) dX5_gull_29 rfl (on8 hj (by omega)) H ?_
  refine w_aload_n dX5_gull_32 rfl ?_
  refine gX5_54 (C := C) dX5_gull_33 rfl (on8 hj (by omega)) H ?_
  refine w_topN (E.h (d := d) (by omega)).sz ?_
  refine w_iconst (v := nI 1) dX5_gull_36 ki_1 ?_
  refine w_isubN dX5_gull_37 (by omega) ?_
  refine ha_7 (C := C) dX5_gull_38 (on8 hj (by omega)) (E.h (d := d) (by omega)) (by omega) H ?_
  refine w_bud (kc2 := 0 + (if vt V 7 e = q e then 2 else 0)) (ks2 := 0 + (if vt V 7 e = q e then 4 * q e else 0)) (Nat.le_of_eq (Nat.zero_add _)) (Nat.le_of_eq (Nat.zero_add _)) ?_
  refine cp_call (mi := miX7_add) dX5_gull_39 q894 okX7_add clX7 rfl (H.get (ce_heap (on8 hj (by omega)))) (Nat.le_of_ble_eq_true rfl) (kX7_add (C := C) (on8 hj (by omega)) (E.h (d := e) (by omega)) (by intro k9 hk9; have h9 := (K.p (d := e) (by omega) hk9).2; omega) (by omega) (by first | assumption | omega) (by omega)) H F rfl rfl (Nat.le_of_ble_eq_true rfl) ?_
  intro σ C39 hC39 H F
  obtain ⟨hE39, hS39⟩ := hC39
  have E := E.add (by omega) hS39 hE39
  have hj : oO C39 j = true := by rw [hS39.on]; exact hj
  have hn7 : vt (insV V e (vp V 0 d (vt V 7 d - 1)) (vp V 1 d (vt V 7 d - 1))) 7 d = vt V 7 d := by rw [insV_t, if_neg (by omega)]
  rw [show od C 3 j = od C39 3 j from (hS39.1 3 j (by omega) (by omega)).symm]
  rw [show od C 5 (8 * j + d) = od C39 5 (8 * j + d) from (hS39.1 5 (8 * j + d) (by omega) (by omega)).symm]
  refine w_aload_n dX5_gull_42 rfl ?_
  refine w_aload_n dX5_gull_43 rfl ?_
  refine gX5_54 (C := C39) dX5_gull_44 rfl (on8 hj (by omega)) H ?_
  refine w_topN (E.h (d := d) (by omega)).sz ?_
  refine w_topN (congrArg nI hn7) ?_
  refine w_iconst (v := nI 1) dX5_gull_47 ki_1 ?_
  refine w_isubN dX5_gull_48 (by omega) ?_
  refine cp_call (mi := miX7_takes) dX5_gull_49 q1102 okX7_takes clX7 rfl (H.get (ce_heap (on8 hj (by omega)))) (Nat.le_of_ble_eq_true rfl) (kX7_takes (C := C39) (on8 hj (by omega)) (E.h (d := d) (by omega)) (by rw [hn7]; omega)) H F rfl rfl (Nat.le_of_ble_eq_true rfl) ?_
  intro σ C49 hC49 H F
  obtain ⟨hE49, hS49⟩ := hC49
  have E := E.del (by omega) hS49 hE49
  refine w_iload dX5_gull_52 rfl ?_
  exact w_iret dX5_gull_54 rfl ⟨by rfl, _, by exact ⟨E.congr (fun k hk => by rw [gullV, insV_s _ _ _ _ _ hk, delK_s _ _ _ _ hk, delK_s _ _ _ _ hk, insV_s _ _ _ _ _ hk]) (fun a b => gull_t V hne _ _ _ a b) (fun a x i => gull_p V hne _ _ _ a x i), (hS39.D (by omega)).trans (hS49.D (by omega))⟩, H, F⟩
theorem wave_enc {g : GG} {C : CS} {j k x : Nat} {V : VS} {q : Nat → Nat} (E : EncD g C j (waveK V x k) q) (hk : k < 8) (hx : vt V 5 k < x) : EncD g (uI C 5 (8 * j + k) 2 (nI 0)) j (waveK V x (k + 1)) q := by
  rw [waveK_s, if_pos hx]
  refine E.heap hk SH.I (fun i hi => vs_ne (by omega)) (fun a b h => vt_ne (fun z _ => h z)) (fun e _ he => ⟨vt_ne (fun _ z => he z), rfl⟩) (fun _ _ _ _ => rfl) ?_
  have h := (E.h hk).I (m := 0) (Nat.zero_le _)
  have h7 : vt (setT (setS (waveK V x k) 8 (vs (waveK V x k) 8 - vt V 7 k)) 7 k 0) 7 k = 0 := by rw [setT_t, if_pos ⟨rfl, rfl⟩]
  rw [h7]
  exact h
set_option maxHeartbeats 4000000 in
theorem kX5_wave {g : GG} {C : CS} {j : Nat} {V : VS} {q : Nat → Nat} {x : Nat} (hj : oO C j = true) (E : EncD g C j V q) (K : OkV V) (hx : x < 1000) : Cp g miX5_wave 1 (0) (0) [.ref (od C 3 j), .int (nI x)] C (some (.int (nI (waveN V x (vs V 2))))) (fun C2 => EncD g C2 j (waveV V x) q ∧ SD j C C2) := by
  refine Cp.start [some (.ref (od C 3 j)), some (.int (nI x)), none, none] plX5 rfl (Nat.le_of_ble_eq_true rfl) rfl ?_
  intro σ0 σ H F
  have kb := K.b
  refine w_iconst (v := nI 0) dX5_wave_0 ki_0 ?_
  refine w_istore_n dX5_wave_1 rfl (Nat.le_of_ble_eq_true rfl) ls_4_2 ?_
  refine w_iconst (v := nI 0) dX5_wave_2 ki_0 ?_
  refine w_istore_n dX5_wave_3 rfl (Nat.le_of_ble_eq_true rfl) ls_4_3 ?_
  have lp : ∀ (j9 : Nat) (k : Nat) (C3 : CS) (σ : PH), vs V 2 - k < j9 → k ≤ vs V 2 → EncD g C3 j (waveK V x k) q → SD j C C3 → Hold g σ C3 → Fr σ0 σ → Wp g (mtC g miX5_wave 1 (0) (0) σ0 (some (.int (nI (waveN V x (vs V 2))))) (fun C2 => EncD g C2 j (waveV V x) q ∧ SD j C C2)) 0 0 4 [some (.ref (od C3 3 j)), some (.int (nI x)), some (.int (nI (waveN V x k))), some (.int (nI k))] [] σ := by
    intro j9
    induction j9 with
    | zero => intro k C3 σ hmu hk E3 hS H F; exact absurd hmu (Nat.not_lt_zero _)
    | succ j9 ih_lp =>
      intro k C3 σ hmu hk E3 hS H F
      have hj3 : oO C3 j = true := by rw [hS.on]; exact hj
      have hw2 : vs (waveK V x k) 2 = vs V 2 := by rw [waveK_8, if_neg (by omega)]
      have hw5 : vt (waveK V x k) 5 k = vt V 5 k := by rw [waveK_t, if_neg (by omega)]
      have hw7 : vt (waveK V x k) 7 k = vt V 7 k := by rw [waveK_t, if_neg (by omega)]
      refine w_iload_n dX5_wave_4 rfl ?_
      refine w_aload_n dX5_wave_5 rfl ?_
      refine gX5_12 (C := C3) dX5_wave_6 rfl hj3 H ?_
      refine gX5_46 (C := C3) dX5_wave_9 rfl E3 H ?_
      refine w_icmpN_ge dX5_wave_12 rfl (by omega) (by omega) (fun h_12 => ?_) (fun h_12 => ?_)
      · have hkx : k = vs V 2 := by omega
        refine w_iload_n dX5_wave_59 rfl ?_
        exact w_iret dX5_wave_60 rfl ⟨by rw [hkx], _, by exact ⟨by have h := E3; rw [hkx] at h; exact h, hS⟩, H, F⟩
      · have hkd := K.d (d := k) (by omega)
        refine w_aload_n dX5_wave_15 rfl ?_
        refine gX5_12 (C := C3) dX5_wave_16 rfl hj3 H ?_
        refine gX5_100 (C := C3) dX5_wave_19 rfl E3 H ?_
        refine w_iload_n dX5_wave_22 rfl ?_
        refine bb_12 (C := C3) dX5_wave_23 E3 (by omega) (by omega) H ?_
        refine w_topN (congrArg nI hw5) ?_
        refine w_iload_n dX5_wave_24 rfl ?_
        refine w_icmpN_lt dX5_wave_25 rfl (by omega) (by omega) (fun h_25 => ?_) (fun h_25 => ?_)
        · refine w_iload_n dX5_wave_31 rfl ?_
          refine w_aload_n dX5_wave_32 rfl ?_
          refine gX5_33 (C := C3) dX5_wave_33 rfl hj3 H ?_
          refine w_iload_n dX5_wave_36 rfl ?_
          refine ga_heaps (C := C3) dX5_wave_37 hj3 (by omega) H ?_
          refine gX5_54 (C := C3) dX5_wave_38 rfl (on8 hj3 (by omega)) H ?_
          refine w_topN (E3.h (d := k) (by omega)).sz ?_
          refine w_topN (congrArg nI hw7) ?_
          refine w_iaddN dX5_wave_41 ?_
          refine w_istore_n dX5_wave_42 rfl (Nat.le_of_ble_eq_true rfl) ls_4_2 ?_
          refine w_aload_n dX5_wave_43 rfl ?_
          refine gX5_33 (C := C3) dX5_wave_44 rfl hj3 H ?_
          refine w_iload_n dX5_wave_47 rfl ?_
          refine ga_heaps (C := C3) dX5_wave_48 hj3 (by omega) H ?_
          refine w_iconst (v := nI 0) dX5_wave_49 ki_0 ?_
          refine pX5_54 (C := C3) dX5_wave_50 rfl (on8 hj3 (by omega)) H F ?_
          intro σ H F
          refine w_iinc dX5_wave_53 rfl (nI_inc _ 1) rfl (Nat.le_of_ble_eq_true rfl) ls_4_3 ?_
          refine w_goto dX5_wave_56 rfl ?_
          exact w_as (ih_lp (k + 1) (uI C3 5 (8 * j + k) 2 (nI 0)) σ (by omega) (by omega) (wave_enc E3 (by omega) (by omega)) (hS.trans (SH.I.D (by omega))) H F) (by rw [waveN_s, if_pos (by omega)]; rfl) rfl rfl
        · skip
          refine w_goto dX5_wave_28 rfl ?_
          refine w_iinc dX5_wave_53 rfl (nI_inc _ 1) rfl (Nat.le_of_ble_eq_true rfl) ls_4_3 ?_
          refine w_goto dX5_wave_56 rfl ?_
          exact w_as (ih_lp (k + 1) C3 σ (by omega) (by omega) (by rw [waveK_s, if_neg (by omega)]; exact E3) hS H F) (by rw [waveN_s, if_neg (by omega)]) rfl rfl
  exact lp (vs V 2 + 1) 0 C σ (by omega) (by omega) E SD.refl H F
set_option maxHeartbeats 4000000 in
theorem kX5_dawn {g : GG} {C : CS} {j : Nat} {V : VS} {q : Nat → Nat} (hj : oO C j = true) (E : EncD g C j V q) (K : OkV V) : Cp g miX5_dawn 1 (0) (0) [.ref (od C 3 j)] C (none) (fun C2 => EncD g C2 j (dawnV V) q ∧ SD j C C2) := by
  refine Cp.start [some (.ref (od C 3 j))] plX5 rfl (Nat.le_of_ble_eq_true rfl) rfl ?_
  intro σ0 σ H F
  have kb := K.b
  refine w_aload_n dX5_dawn_0 rfl ?_
  refine w_iconst (v := nI 1) dX5_dawn_1 ki_1 ?_
  refine w_aload_n dX5_dawn_2 rfl ?_
  refine gX5_12 (C := C) dX5_dawn_3 rfl hj H ?_
  refine gX5_46 (C := C) dX5_dawn_6 rfl E H ?_
  refine w_shl1N dX5_dawn_9 (by omega) ?_
  refine w_iconst (v := nI 1) dX5_dawn_10 ki_1 ?_
  refine w_isubN dX5_dawn_11 Nat.one_le_two_pow ?_
  refine pX5_49 (C := C) dX5_dawn_12 rfl hj H F ?_
  intro σ H F
  exact w_vret dX5_dawn_15 rfl ⟨by rfl, _, by exact ⟨E.I6 _, SD.I6⟩, H, F⟩
