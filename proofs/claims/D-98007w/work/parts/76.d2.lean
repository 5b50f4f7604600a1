set_option maxRecDepth 100000
section DCH
variable {g : GG} {C C2 : CS} {j : Nat} {V V2 : VS} {q q2 : Nat → Nat}
/-- the same day in other words -/
theorem EncD.congr (E : EncD g C j V q) (hs : ∀ k, k < 8 → vs V2 k = vs V k) (ht : ∀ a b, vt V2 a b = vt V a b) (hp : ∀ a d k, vp V2 a d k = vp V a d k) (h9 : vs V2 9 = vs V 9 := by first | rfl | exact vs_ne (by omega)) : EncD g C j V2 q := by
  obtain ⟨e1, e2, e3, e4, e5, e6, e7⟩ := E
  refine ⟨e1, ?_, ?_, ?_, ?_, ?_, ?_⟩
  · rw [hs 0 (by omega), hs 4 (by omega), hs 1 (by omega), hs 2 (by omega), hs 5 (by omega), h9]; exact e2
  · intro f hf; rw [ht]; exact e3 f (by rw [← hs 1 (by omega)]; exact hf)
  · intro d hd; rw [ht, ht]; exact e4 d (by rw [← hs 2 (by omega)]; exact hd)
  · rw [hs 7 (by omega), hs 6 (by omega), hs 3 (by omega)]; exact e5
  · intro f hf; rw [ht, ht, ht, ht]; exact e6 f hf
  · intro d hd
    rw [ht, show vp V2 0 d = vp V 0 d from funext (hp 0 d), show vp V2 1 d = vp V 1 d from funext (hp 1 d)]
    exact e7 d hd
def capU (V : VS) (q : Nat → Nat) (d : Nat) : Nat → Nat := va_up q d (if vt V 7 d = q d then 2 * q d else q d)
theorem EncD.add {d f m : Nat} (E : EncD g C j V q) (hd : d < 8) (S : SH (8 * j + d) C C2) (Hh : EncH C2 (8 * j + d) (vt V 7 d + 1) (rowIn (vp V 0 d) (insP (vp V 1 d) m (vt V 7 d)) f) (rowIn (vp V 1 d) (insP (vp V 1 d) m (vt V 7 d)) m) (if vt V 7 d = q d then 2 * q d else q d)) : EncD g C2 j (insV V d f m) (capU V q d) := by
  refine E.heap hd S (fun k hk => ?_) (fun a b h => ins_t _ _ _ _ _ _ _ h) (fun e _ he => ⟨?_, va_up_ne _ _ he⟩) (fun a e k he => ?_) ?_
  · show vs (insK V d _ f m) k = _
    rw [ins_s, if_neg (by omega)]
  · show vt (insK V d _ f m) 7 e = _
    rw [ins_t7, if_neg he]
  · show vp (insK V d _ f m) a e k = _
    rw [ins_p, if_neg he]
  · have h7 : vt (insV V d f m) 7 d = vt V 7 d + 1 := by show vt (insK V d _ f m) 7 d = _; rw [ins_t7, if_pos rfl]
    have h0 : vp (insV V d f m) 0 d = rowIn (vp V 0 d) (insP (vp V 1 d) m (vt V 7 d)) f := by funext i; show vp (insK V d _ f m) 0 d i = _; rw [ins_p, if_pos rfl, if_pos rfl]
    have h1 : vp (insV V d f m) 1 d = rowIn (vp V 1 d) (insP (vp V 1 d) m (vt V 7 d)) m := by funext i; show vp (insK V d _ f m) 1 d i = _; rw [ins_p, if_pos rfl, if_neg (by omega)]
    rw [h7, h0, h1, capU, va_up_self]
    exact Hh
theorem EncD.del {d k : Nat} (E : EncD g C j V q) (hd : d < 8) (S : SH (8 * j + d) C C2) (Hh : EncH C2 (8 * j + d) (vt V 7 d - 1) (rowOut (vp V 0 d) k) (rowOut (vp V 1 d) k) (q d)) : EncD g C2 j (delK V d k) q := by
  refine E.heap hd S (fun i hi => ?_) (fun a b h => del_t _ _ _ _ _ h) (fun e _ he => ⟨?_, rfl⟩) (fun a e i he => ?_) ?_
  · rw [del_s, if_neg (by omega)]
  · rw [del_t7, if_neg he]
  · rw [del_p, if_neg he]
  · have h0 : ∀ a, vp (delK V d k) a d = rowOut (vp V a d) k := fun a => by funext i; rw [del_p, if_pos rfl]
    rw [del_t7, if_pos rfl, h0, h0]
    exact Hh
end DCH
theorem insV_t (V : VS) (d w m a b : Nat) : vt (insV V d w m) a b = if a = 7 ∧ b = d then vt V 7 d + 1 else vt V a b := by
  show vt (insK V d _ w m) a b = _
  by_cases h : a = 7
  · subst h
    rw [ins_t7]
    by_cases h2 : b = d
    · rw [if_pos h2, if_pos ⟨rfl, h2⟩]
    · rw [if_neg h2, if_neg (fun z => h2 z.2)]
  · rw [ins_t _ _ _ _ _ _ _ h, if_neg (fun z => h z.1)]
theorem insV_p (V : VS) (d w m a e i : Nat) : vp (insV V d w m) a e i = if e = d then rowIn (vp V a d) (insP (vp V 1 d) m (vt V 7 d)) (if a = 0 then w else m) i else vp V a e i := ins_p V d _ w m a e i
theorem insV_s (V : VS) (d w m k : Nat) (h : k < 8) : vs (insV V d w m) k = vs V k := by
  show vs (insK V d _ w m) k = _
  rw [ins_s, if_neg (by omega)]
theorem ins2_t (V : VS) (f x d w m a b : Nat) : vt (insV (setT V 2 f x) d w m) a b = vt (setT (insV V d w m) 2 f x) a b := by
  simp only [insV_t, setT_t]
  by_cases h7 : a = 7
  · subst h7
    simp
  · simp [h7]
theorem ins2_p (V : VS) (f x d w m a e k : Nat) : vp (insV (setT V 2 f x) d w m) a e k = vp (insV V d w m) a e k := by
  have h7 : vt (setT V 2 f x) 7 d = vt V 7 d := by rw [setT_t, if_neg (by omega)]
  rw [insV_p, insV_p, h7]
  rfl
theorem delK_t (V : VS) (d k a b : Nat) : vt (delK V d k) a b = if a = 7 ∧ b = d then vt V 7 d - 1 else vt V a b := by
  by_cases h : a = 7
  · subst h
    rw [del_t7]
    by_cases h2 : b = d
    · rw [if_pos h2, if_pos ⟨rfl, h2⟩]
    · rw [if_neg h2, if_neg (fun z => h2 z.2)]
  · rw [del_t _ _ _ _ _ h, if_neg (fun z => h z.1)]
theorem delK_s (V : VS) (d k i : Nat) (h : i < 8) : vs (delK V d k) i = vs V i := by rw [del_s, if_neg (by omega)]
set_option maxHeartbeats 4000000 in
theorem kX5_goes {g : GG} {C : CS} {j : Nat} {V : VS} {q : Nat → Nat} {f : Nat} {m : Nat} (hj : oO C j = true) (E : EncD g C j V q) (K : OkV V) (hf : f < vs V 1) (hm : m < 40) : Cp g miX5_goes 2 (0) (0) [.ref (od C 3 j), .int (nI f), .int (nI m)] C (some (.int (bP (¬ vs V 3 < vt V 3 f + stepsV V f m)))) (fun C2 => EncD g C2 j (wentV V f m) q ∧ SD j C C2) := by
  refine Cp.start [some (.ref (od C 3 j)), some (.int (nI f)), some (.int (nI m)), none] plX5 rfl (Nat.le_of_ble_eq_true rfl) rfl ?_
  intro σ0 σ H F
  have kb := K.b
  have kf_f := K.f hf
  have hst := stepsV_le K (f := f) (c := m) hf hm
  refine w_aload_n dX5_goes_0 rfl ?_
  refine w_iload_n dX5_goes_1 rfl ?_
  refine w_iload_n dX5_goes_2 rfl ?_
  refine cr_call (mi := miX5_arrives) dX5_goes_3 q1053 okX5_arrives clX5 rfl (H.get (ce_day hj)) (Nat.le_of_ble_eq_true rfl) (kX5_arrives (C := C) hj E K (by first | assumption | omega) (by first | assumption | omega)) H rfl rfl (Nat.le_of_ble_eq_true rfl) ?_
  refine w_istore_n dX5_goes_6 rfl (Nat.le_of_ble_eq_true rfl) ls_4_3 ?_
  refine w_iload_n dX5_goes_7 rfl ?_
  refine w_aload_n dX5_goes_8 rfl ?_
  refine gX5_37 (C := C) dX5_goes_9 rfl hj H ?_
  refine w_topN (E.ti) ?_
  refine w_icmpN_le dX5_goes_12 rfl (by omega) (by omega) (fun h_12 => ?_) (fun h_12 => ?_)
  · refine w_aload_n dX5_goes_17 rfl ?_
    refine gX5_18 (C := C) dX5_goes_18 rfl hj H ?_
    refine w_iload_n dX5_goes_21 rfl ?_
    refine w_iload_n dX5_goes_22 rfl ?_
    refine is_11 (C := C) dX5_goes_23 hj (by omega) H F ?_
    intro σ H F
    refine w_aload_n dX5_goes_24 rfl ?_
    refine gX5_25 (C := uA (C) 11 j _ _) dX5_goes_25 rfl hj H ?_
    refine w_iload_n dX5_goes_28 rfl ?_
    refine w_iload_n dX5_goes_29 rfl ?_
    refine is_13 (C := uA (C) 11 j _ _) dX5_goes_30 hj (by omega) H F ?_
    intro σ H F
    refine w_iconst (v := nI 1) dX5_goes_31 ki_1 ?_
    exact w_zret dX5_goes_32 rfl (by first | exact narr0 | exact narr1) ⟨by first | (exact congrArg (fun z => some (Value.int z)) (bP_f (fun z => z (by omega))).symm) | (exact congrArg (fun z => some (Value.int z)) (bP_t (by omega)).symm), _, by exact ⟨by rw [wentV, if_neg (by omega)]; exact ((E.A11 m).A13 (vt V 3 f + stepsV V f m)).congr (fun _ _ => rfl) (fun a b => by rw [goV, setT_t, setT_t, setT_t, setT_t]; by_cases h : a = 0 <;> by_cases h2 : a = 3 <;> simp [h, h2] <;> omega) (fun _ _ _ => rfl), SD.A11.trans SD.A13⟩, H, F⟩
  · refine w_iconst (v := nI 0) dX5_goes_15 ki_0 ?_
    exact w_zret dX5_goes_16 rfl (by first | exact narr0 | exact narr1) ⟨by first | (exact congrArg (fun z => some (Value.int z)) (bP_f (fun z => z (by omega))).symm) | (exact congrArg (fun z => some (Value.int z)) (bP_t (by omega)).symm), _, by exact ⟨by rw [wentV, if_pos (by omega)]; exact E, SD.refl⟩, H, F⟩
set_option maxHeartbeats 4000000 in
theorem kX5_waits {g : GG} {C : CS} {j : Nat} {V : VS} {q : Nat → Nat} {f : Nat} {m : Nat} (hj : oO C j = true) (E : EncD g C j V q) (K : OkV V) (hf : f < vs V 1) (hm : m < 1000) : Cp g miX5_waits 1 (0) (0) [.ref (od C 3 j), .int (nI f), .int (nI m)] C (some (.int (bP (¬ vs V 3 < vt V 3 f + m)))) (fun C2 => EncD g C2 j (waitedV V f m) q ∧ SD j C C2) := by
  refine Cp.start [some (.ref (od C 3 j)), some (.int (nI f)), some (.int (nI m))] plX5 rfl (Nat.le_of_ble_eq_true rfl) rfl ?_
  intro σ0 σ H F
  have kb := K.b
  have kf_f := K.f hf
  refine w_aload_n dX5_waits_0 rfl ?_
  refine gX5_25 (C := C) dX5_waits_1 rfl hj H ?_
  refine w_iload_n dX5_waits_4 rfl ?_
  refine da_13 (C := C) dX5_waits_5 hj E (by omega) H ?_
  refine w_iload_n dX5_waits_6 rfl ?_
  refine w_iaddN dX5_waits_7 ?_
  refine w_aload_n dX5_waits_8 rfl ?_
  refine gX5_37 (C := C) dX5_waits_9 rfl hj H ?_
  refine w_topN (E.ti) ?_
  refine w_icmpN_le dX5_waits_12 rfl (by omega) (by omega) (fun h_12 => ?_) (fun h_12 => ?_)
  · refine w_aload_n dX5_waits_17 rfl ?_
    refine gX5_25 (C := C) dX5_waits_18 rfl hj H ?_
    refine w_iload_n dX5_waits_21 rfl ?_
    refine w_dup2 dX5_waits_22 rfl rfl ?_
    refine da_13 (C := C) dX5_waits_23 hj E (by omega) H ?_
    refine w_iload_n dX5_waits_24 rfl ?_
    refine w_iaddN dX5_waits_25 ?_
    refine is_13 (C := C) dX5_waits_26 hj (by omega) H F ?_
    intro σ H F
    refine w_iconst (v := nI 1) dX5_waits_27 ki_1 ?_
    exact w_zret dX5_waits_28 rfl (by first | exact narr0 | exact narr1) ⟨by first | (exact congrArg (fun z => some (Value.int z)) (bP_f (fun z => z (by omega))).symm) | (exact congrArg (fun z => some (Value.int z)) (bP_t (by omega)).symm), _, by exact ⟨by rw [waitedV, if_neg (by omega)]; exact E.A13 _, SD.A13⟩, H, F⟩
  · refine w_iconst (v := nI 0) dX5_waits_15 ki_0 ?_
    exact w_zret dX5_waits_16 rfl (by first | exact narr0 | exact narr1) ⟨by first | (exact congrArg (fun z => some (Value.int z)) (bP_f (fun z => z (by omega))).symm) | (exact congrArg (fun z => some (Value.int z)) (bP_t (by omega)).symm), _, by exact ⟨by rw [waitedV, if_pos (by omega)]; exact E, SD.refl⟩, H, F⟩
set_option maxHeartbeats 4000000 in
theorem kX5_sets {g : GG} {C : CS} {j : Nat} {V : VS} {q : Nat → Nat} {f : Nat} {d : Nat} (hj : oO C j = true) (E : EncD g C j V q) (K : OkV V) (hf : f < vs V 1) (hd : d < vs V 2) (hn : vt V 7 d < 60) (hp : 0 < vt V 2 f) (hl : oM C 90 = none) : Cp g miX5_sets 3 (if vt V 7 d = q d then 2 else 0) (if vt V 7 d = q d then 4 * q d else 0) [.ref (od C 3 j), .int (nI f), .int (nI d)] C (none) (fun C2 => EncD g C2 j (setsV V f d) (capU V q d) ∧ SD j C C2) := by
  refine Cp.start [some (.ref (od C 3 j)), some (.int (nI f)), some (.int (nI d))] plX5 rfl (Nat.le_of_ble_eq_true rfl) rfl ?_
  intro σ0 σ H F
  have kb := K.b
  have kf_f := K.f hf
  have kd_d := K.d hd
  have kn_d := K.n (d := d) (by omega)
  refine w_aload_n dX5_sets_0 rfl ?_
  refine gX5_33 (C := C) dX5_sets_1 rfl hj H ?_
  refine w_iload_n dX5_sets_4 rfl ?_
  refine ga_heaps (C := C) dX5_sets_5 hj (by omega) H ?_
  refine w_iload_n dX5_sets_6 rfl ?_
  refine w_aload_n dX5_sets_7 rfl ?_
  refine gX5_25 (C := C) dX5_sets_8 rfl hj H ?_
  refine w_iload_n dX5_sets_11 rfl ?_
  refine da_13 (C := C) dX5_sets_12 hj E (by omega) H ?_
  refine w_bud (kc2 := 0 + (if vt V 7 d = q d then 2 else 0)) (ks2 := 0 + (if vt V 7 d = q d then 4 * q d else 0)) (Nat.le_of_eq (Nat.zero_add _)) (Nat.le_of_eq (Nat.zero_add _)) ?_
  refine cp_call (mi := miX7_add) dX5_sets_13 q894 okX7_add clX7 rfl (H.get (ce_heap (on8 hj (by omega)))) (Nat.le_of_ble_eq_true rfl) (kX7_add (C := C) (on8 hj (by omega)) (E.h (d := d) (by omega)) (by intro k9 hk9; have h9 := (K.p (d := d) (by omega) hk9).2; omega) (by omega) (by first | assumption | omega) (by omega)) H F rfl rfl (Nat.le_of_ble_eq_true rfl) ?_
  intro σ C13 hC13 H F
  obtain ⟨hE13, hS13⟩ := hC13
  have E := E.add (by omega) hS13 hE13
  rw [show od C 3 j = od C13 3 j from (hS13.1 3 j (by omega) (by omega)).symm]
  have hj : oO C13 j = true := by rw [hS13.on]; exact hj
  have hp2 : vt (insV V d f (vt V 3 f)) 2 f = vt V 2 f := by rw [insV_t, if_neg (by omega)]
  refine w_aload_n dX5_sets_16 rfl ?_
  refine gX5_22 (C := C13) dX5_sets_17 rfl hj H ?_
  refine w_iload_n dX5_sets_20 rfl ?_
  refine w_dup2 dX5_sets_21 rfl rfl ?_
  refine da_12 (C := C13) dX5_sets_22 hj E (by omega) H ?_
  refine w_topN (congrArg nI hp2) ?_
  refine w_iconst (v := nI 1) dX5_sets_23 ki_1 ?_
  refine w_isubN dX5_sets_24 (by omega) ?_
  refine is_12 (C := C13) dX5_sets_25 hj (by omega) H F ?_
  intro σ H F
  exact w_vret dX5_sets_26 rfl ⟨by rfl, _, by exact ⟨(E.A12 _).congr (fun k hk => by rw [setT_s, insV_s _ _ _ _ _ hk, setsV, insV_s _ _ _ _ _ hk, setT_s]) (fun a b => ins2_t V f (vt V 2 f - 1) d f (vt V 3 f) a b) (fun a e k => ins2_p V f (vt V 2 f - 1) d f (vt V 3 f) a e k), (hS13.D (by omega)).trans SD.A12⟩, H, F⟩
set_option maxHeartbeats 4000000 in
theorem kX5_lifts {g : GG} {C : CS} {j : Nat} {V : VS} {q : Nat → Nat} {f : Nat} {d : Nat} (hj : oO C j = true) (E : EncD g C j V q) (K : OkV V) (hf : f < vs V 1) (hd : d < vs V 2) (ho : ownK V f d ≠ 0) : Cp g miX5_lifts 2 (0) (0) [.ref (od C 3 j), .int (nI f), .int (nI d)] C (some (.int (nI (vp V 1 d (ownK V f d - 1))))) (fun C2 => EncD g C2 j (liftV V f d) q ∧ SD j C C2) := by
  refine Cp.start [some (.ref (od C 3 j)), some (.int (nI f)), some (.int (nI d)), none, none] plX5 rfl (Nat.le_of_ble_eq_true rfl) rfl ?_
  intro σ0 σ H F
  have kb := K.b
  have kf_f := K.f hf
  have kd_d := K.d hd
  have kn_d := K.n (d := d) (by omega)
  have hok := ownK_le V f d
  have hpm := (K.p (d := d) (by omega) (k := ownK V f d - 1) (by omega)).2
  refine w_aload_n dX5_lifts_0 rfl ?_
  refine gX5_33 (C := C) dX5_lifts_1 rfl hj H ?_
  refine w_iload_n dX5_lifts_4 rfl ?_
  refine ga_heaps (C := C) dX5_lifts_5 hj (by omega) H ?_
  refine w_iload_n dX5_lifts_6 rfl ?_
  refine cr_call (mi := miX7_latestOf) dX5_lifts_7 q1101 okX7_latestOf clX7 rfl (H.get (ce_heap (on8 hj (by omega)))) (Nat.le_of_ble_eq_true rfl) (kX7_latestOf (C := C) (on8 hj (by omega)) (E.h (d := d) (by omega)) (by intro k9 hk9; have h9 := (K.p (d := d) (by omega) hk9).1; omega) (by first | assumption | omega)) H rfl rfl (Nat.le_of_ble_eq_true rfl) ?_
  refine w_topN (n := ownK V f d - 1) (pk_sub (show 1 ≤ ownK V f d by omega)) ?_
  refine w_istore_n dX5_lifts_10 rfl (Nat.le_of_ble_eq_true rfl) ls_5_3 ?_
  refine w_aload_n dX5_lifts_11 rfl ?_
  refine gX5_33 (C := C) dX5_lifts_12 rfl hj H ?_
  refine w_iload_n dX5_lifts_15 rfl ?_
  refine ga_heaps (C := C) dX5_lifts_16 hj (by omega) H ?_
  refine gX5_106 (C := C) dX5_lifts_17 rfl (on8 hj (by omega)) H ?_
  refine w_iload_n dX5_lifts_20 rfl ?_
  refine ha_7 (C := C) dX5_lifts_21 (on8 hj (by omega)) (E.h (d := d) (by omega)) (by omega) H ?_
  refine w_istore dX5_lifts_22 rfl (Nat.le_of_ble_eq_true rfl) ls_5_4 ?_
  refine w_aload_n dX5_lifts_24 rfl ?_
  refine gX5_33 (C := C) dX5_lifts_25 rfl hj H ?_
  refine w_iload_n dX5_lifts_28 rfl ?_
  refine ga_heaps (C := C) dX5_lifts_29 hj (by omega) H ?_
  refine w_iload_n dX5_lifts_30 rfl ?_
  refine cp_call (mi := miX7_takes) dX5_lifts_31 q1102 okX7_takes clX7 rfl (H.get (ce_heap (on8 hj (by omega)))) (Nat.le_of_ble_eq_true rfl) (kX7_takes (C := C) (on8 hj (by omega)) (E.h (d := d) (by omega)) (by first | assumption | omega)) H F rfl rfl (Nat.le_of_ble_eq_true rfl) ?_
  intro σ C31 hC31 H F
  obtain ⟨hE31, hS31⟩ := hC31
  have E := E.del (by omega) hS31 hE31
  rw [show od C 3 j = od C31 3 j from (hS31.1 3 j (by omega) (by omega)).symm]
  have hj : oO C31 j = true := by rw [hS31.on]; exact hj
  refine w_aload_n dX5_lifts_34 rfl ?_
  refine gX5_22 (C := C31) dX5_lifts_35 rfl hj H ?_
  refine w_iload_n dX5_lifts_38 rfl ?_
  refine w_dup2 dX5_lifts_39 rfl rfl ?_
  refine da_12 (C := C31) dX5_lifts_40 hj E (by omega) H ?_
  refine w_iconst (v := nI 1) dX5_lifts_41 ki_1 ?_
  refine w_iaddN dX5_lifts_42 ?_
  refine is_12 (C := C31) dX5_lifts_43 hj (by omega) H F ?_
  intro σ H F
  refine w_iload dX5_lifts_44 rfl ?_
  exact w_iret dX5_lifts_46 rfl ⟨by rfl, _, by exact ⟨by have h := E.A12 (f := f) (vt (delK V d (ownK V f d - 1)) 2 f + 1); rw [delK_t, if_neg (by omega)] at h; exact h, (hS31.D (by omega)).trans SD.A12⟩, H, F⟩
