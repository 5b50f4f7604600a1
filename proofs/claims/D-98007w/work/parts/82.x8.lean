set_option maxRecDepth 100000
/-- what leads asks of a day -/
def OkL (V : VS) : Prop := (vs V 0 ≤ 40 ∧ vs V 1 ≤ 6 ∧ vs V 2 ≤ 8 ∧ vs V 3 ≤ 240 ∧ vs V 4 ≤ 60 ∧ vs V 5 ≤ 3 ∧ vs V 6 ≤ 99 ∧ vs V 7 < 256) ∧ (∀ d, d < vs V 2 → vt V 5 d < vs V 0 ∧ vt V 6 d ≤ 999) ∧ (∀ d, d < 8 → vt V 7 d ≤ 64) ∧ ∀ d, d < 8 → ∀ k, k < vt V 7 d → vp V 0 d k < vs V 1 ∧ vp V 1 d k ≤ 240
theorem OkL.b {V : VS} (K : OkL V) : vs V 0 ≤ 40 ∧ vs V 1 ≤ 6 ∧ vs V 2 ≤ 8 ∧ vs V 3 ≤ 240 ∧ vs V 4 ≤ 60 ∧ vs V 5 ≤ 3 ∧ vs V 6 ≤ 99 ∧ vs V 7 < 256 := K.1
theorem OkL.d {V : VS} (K : OkL V) {d : Nat} (h : d < vs V 2) : vt V 5 d < vs V 0 ∧ vt V 6 d ≤ 999 := K.2.1 d h
theorem OkL.n {V : VS} (K : OkL V) {d : Nat} (h : d < 8) : vt V 7 d ≤ 64 := K.2.2.1 d h
theorem OkL.p {V : VS} (K : OkL V) {d : Nat} (h : d < 8) {k : Nat} (hk : k < vt V 7 d) : vp V 0 d k < vs V 1 ∧ vp V 1 d k ≤ 240 := K.2.2.2 d h k hk
theorem OkL.last {V : VS} (K : OkL V) {d : Nat} (h : d < 8) : lastV V d < 64 := lastF_lt fun k hk => by have := (K.p h hk).1; have := K.b; omega
theorem OkL.own {V : VS} (K : OkL V) {d : Nat} (h : d < 8) : ownersV V d < 64 := by
  have h1 := K.last h
  have h2 := bits64 _ h1
  unfold ownersV
  split
  · exact h1
  · split
    · omega
    · split
      · exact h2.1
      · exact h2.2.1
theorem OkV.L {V : VS} (K : OkV V) : OkL V := ⟨by have := K.b; omega, fun d h => K.d h, fun d h => by have := K.n h; omega, fun d h k hk => by have := K.p h hk; have := K.b; omega⟩
theorem OkL.ins {V : VS} (K : OkV V) {d f m : Nat} (hd : d < 8) (hf : f < vs V 1) (hm : m ≤ 240) : OkL (insV V d f m) := by
  have hL := K.L
  have hs := fun k hk => insV_s V d f m k hk
  refine ⟨?_, fun e he => ?_, fun e he => ?_, fun e he k hk => ?_⟩
  · rw [hs 0 (by omega), hs 1 (by omega), hs 2 (by omega), hs 3 (by omega), hs 4 (by omega), hs 5 (by omega), hs 6 (by omega), hs 7 (by omega)]; exact hL.1
  · rw [hs 2 (by omega)] at he
    rw [hs 0 (by omega), insV_t, insV_t, if_neg (by omega), if_neg (by omega)]
    exact hL.d he
  · rw [insV_t]
    have := K.n he
    split
    · rename_i h; rw [← h.2]; omega
    · omega
  · rw [hs 1 (by omega)]
    rw [insV_t] at hk
    rw [insV_p, insV_p]
    by_cases h : e = d
    · subst h
      rw [if_pos ⟨rfl, rfl⟩] at hk
      have hle := insP_le (vp V 1 e) m (vt V 7 e)
      rw [if_pos rfl, if_pos rfl]
      unfold rowIn
      by_cases h1 : k < insP (vp V 1 e) m (vt V 7 e)
      · rw [if_pos h1, if_pos h1]
        have h9 := hL.p he (k := k) (by omega)
        simpa using h9
      · rw [if_neg h1, if_neg h1]
        by_cases h2 : k = insP (vp V 1 e) m (vt V 7 e)
        · rw [if_pos h2, if_pos h2, if_pos rfl, if_neg (by omega)]
          exact ⟨hf, hm⟩
        · rw [if_neg h2, if_neg h2]
          have h9 := hL.p he (k := k - 1) (by omega)
          simpa using h9
    · rw [if_neg (fun z => h z.2)] at hk
      rw [if_neg h, if_neg h]
      exact hL.p he hk
/-- who is alone the last -/
theorem lastG_one {who tim : Nat → Nat} {t f : Nat} : ∀ n set, (∀ k, k < n → tim k = t → who k = f) → (set = 0 ∨ set = 2 ^ f) → (set = 2 ^ f ∨ 0 < n ∧ tim (n - 1) = t) → lastG who tim t n set = 2 ^ f
  | 0, set, _, _, h => by rcases h with h | h; exact h; exact absurd h.1 (by omega)
  | n + 1, set, hw, hs, h => by
    unfold lastG
    by_cases ht : tim n = t
    · rw [if_pos ht, hw n (by omega) ht]
      have : set ||| 2 ^ f = 2 ^ f := by
        rcases hs with h0 | h0
        · rw [h0, Nat.zero_or]
        · rw [h0]; apply Nat.eq_of_testBit_eq; intro i; rw [Nat.testBit_or, Bool.or_self]
      rw [this]
      exact lastG_one n _ (fun k hk => hw k (by omega)) (Or.inr rfl) (Or.inl rfl)
    · rw [if_neg ht]
      rcases h with h | h
      · exact h
      · rw [Nat.add_sub_cancel] at h
        exact absurd h.2 ht
theorem behK_ge {V : VS} {f d : Nat} : ∀ n i, i < n → vp V 0 d i ≠ f → vp V 1 d i < behK V f d n
  | 0, i, h, _ => absurd h (Nat.not_lt_zero i)
  | n + 1, i, h, hw => by
    rw [behK_s]
    by_cases hin : i = n
    · subst hin
      rw [if_neg hw]
      omega
    · have := behK_ge n i (by omega) hw
      split <;> omega
theorem gain_last {V : VS} {d f m : Nat} (hm : behO V f d ≤ m) : lastV (insV V d f m) d = 2 ^ f := by
  have h7 : vt (insV V d f m) 7 d = vt V 7 d + 1 := by rw [insV_t, if_pos ⟨rfl, rfl⟩]
  have h0 : vp (insV V d f m) 0 d = rowIn (vp V 0 d) (insP (vp V 1 d) m (vt V 7 d)) f := by funext i; rw [insV_p, if_pos rfl, if_pos rfl]
  have h1 : vp (insV V d f m) 1 d = rowIn (vp V 1 d) (insP (vp V 1 d) m (vt V 7 d)) m := by funext i; rw [insV_p, if_pos rfl, if_neg (by omega)]
  unfold lastV lastF
  rw [h7, h0, h1, Nat.add_sub_cancel]
  have hle := insP_le (vp V 1 d) m (vt V 7 d)
  have htop : m ≤ rowIn (vp V 1 d) (insP (vp V 1 d) m (vt V 7 d)) m (vt V 7 d) := by
    unfold rowIn
    rw [if_neg (by omega)]
    by_cases h : vt V 7 d = insP (vp V 1 d) m (vt V 7 d)
    · rw [if_pos h]; exact Nat.le_refl _
    · rw [if_neg h]
      have := insP_hi (vp V 1 d) m (vt V 7 d) (vt V 7 d - 1) (by omega) (by omega)
      omega
  refine lastG_one _ 0 (fun k hk ht => ?_) (Or.inl rfl) (Or.inr ⟨by omega, by rw [Nat.add_sub_cancel]⟩)
  have key : ∀ i, i < vt V 7 d → m ≤ vp V 1 d i → vp V 0 d i = f := by
    intro i hi hmi
    by_cases hw : vp V 0 d i = f
    · exact hw
    · have := behK_ge (V := V) (f := f) (d := d) (vt V 7 d) i hi hw
      have h2 : behK V f d (vt V 7 d) ≤ m := hm
      omega
  rw [← ht] at htop
  unfold rowIn at htop ⊢
  by_cases h1 : k < insP (vp V 1 d) m (vt V 7 d)
  · rw [if_pos h1] at htop ⊢
    exact key k (by omega) htop
  · rw [if_neg h1] at htop ⊢
    by_cases h2 : k = insP (vp V 1 d) m (vt V 7 d)
    · rw [if_pos h2]
    · rw [if_neg h2] at htop ⊢
      exact key (k - 1) (by omega) htop
theorem pow64 : ∀ f, f < 6 → 2 ^ f < 64 ∧ pcnt (2 ^ f) = 1 ∧ (2 ^ f >>> f) &&& 1 = 1 := by decide
theorem gain_lead {V : VS} (K : OkV V) {d f m : Nat} (hd : d < vs V 2) (hf : f < 6) (ht : isT V d) (hm : behO V f d ≤ m) : leadV (insV V d f m) f + shareV V f d = leadV V f + vt V 6 d := by
  have kb := K.b
  have hs : vs (insV V d f m) 2 = vs V 2 := insV_s _ _ _ _ _ (by omega)
  have hp := pow64 f hf
  have hsh : shareV (insV V d f m) f d = vt V 6 d := by
    have htt : isT (insV V d f m) d := by unfold isT; rw [insV_s _ _ _ _ _ (by omega)]; exact ht
    have ho : ownersV (insV V d f m) d = 2 ^ f := by
      unfold ownersV
      rw [gain_last hm, if_pos (Or.inl (by rw [hp.2.1]; omega))]
    rw [shareY htt (by rw [ho]; exact hp.2.2), ho, hp.2.1, Nat.div_one, insV_t, if_neg (by omega)]
  have hu := sum_up (f := fun e => shareV V f e) (g := fun e => shareV (insV V d f m) f e) (i := d) (vs V 2) hd (fun e he hne => by
    have h := set_eq (V := V) (W := insV V d f m) (d := e) (insV_s _ _ _ _ _ (by omega)) (insV_s _ _ _ _ _ (by omega)) (by rw [insV_t, if_neg (fun z => hne z.2)]) (fun a k => by rw [insV_p, if_neg hne])
    show shareV _ f e = shareV V f e
    have h6 : vt (insV V d f m) 6 e = vt V 6 e := by rw [insV_t, if_neg (by omega)]
    unfold shareV
    rw [h.2.2, h6])
  have e1 : leadV (insV V d f m) f = foldN (fun e c => c + shareV (insV V d f m) f e) 0 (vs V 2) := by unfold leadV; rw [hs]
  have e2 : leadV V f = foldN (fun d c => c + shareV V f d) 0 (vs V 2) := rfl
  omega
set_option maxHeartbeats 4000000 in
theorem kX5_isThereL {g : GG} {C : CS} {j : Nat} {V : VS} {q : Nat → Nat} {d : Nat} (hj : oO C j = true) (E : EncD g C j V q) (K : OkL V) (hd8 : d < 8) : Cr g miX5_isThere 1 [.ref (od C 3 j), .int (nI d)] C (some (.int (bP (isT V d)))) := by
  refine Cr.start [some (.ref (od C 3 j)), some (.int (nI d))] plX5 rfl (Nat.le_of_ble_eq_true rfl) rfl ?_
  intro σ H
  have kb := K.b
  refine w_aload_n dX5_isThere_0 rfl ?_
  refine gX5_49 (C := C) dX5_isThere_1 rfl hj H ?_
  refine w_topN (E.th) ?_
  refine w_iload_n dX5_isThere_4 rfl ?_
  refine w_ishrN dX5_isThere_5 (by omega) (by omega) ?_
  refine w_iconst (v := nI 1) dX5_isThere_6 ki_1 ?_
  refine w_iandN dX5_isThere_7 ?_
  refine w_iconst (v := nI 1) dX5_isThere_8 ki_1 ?_
  refine w_icmpN_ne dX5_isThere_9 rfl (and1_lt _) (by omega) (fun h_9 => ?_) (fun h_9 => ?_)
  · refine w_iconst (v := nI 0) dX5_isThere_16 ki_0 ?_
    exact w_zret dX5_isThere_17 rfl (by first | exact narr0 | exact narr1) ⟨by first | rfl | (simp only [bP, isT, bitN, inN, *, not_true_eq_false, not_false_eq_true, and_true, true_and, and_false, false_and, or_true, true_or, or_false, false_or, and_self, or_self, if_true, if_false, ite_true, ite_false]; done) | (simp [bP, isT, bitN, inN, *]; done) | (simp_all [bP, isT, bitN, inN]; done) | (repeat split) <;> first | rfl | contradiction | simp_all, rfl⟩
  · refine w_iconst (v := nI 1) dX5_isThere_12 ki_1 ?_
    refine w_goto dX5_isThere_13 rfl ?_
    exact w_zret dX5_isThere_17 rfl (by first | exact narr0 | exact narr1) ⟨by first | rfl | (simp only [bP, isT, bitN, inN, *, not_true_eq_false, not_false_eq_true, and_true, true_and, and_false, false_and, or_true, true_or, or_false, false_or, and_self, or_self, if_true, if_false, ite_true, ite_false]; done) | (simp [bP, isT, bitN, inN, *]; done) | (simp_all [bP, isT, bitN, inN]; done) | (repeat split) <;> first | rfl | contradiction | simp_all, rfl⟩
set_option maxHeartbeats 4000000 in
theorem kX5_whoseL {g : GG} {C : CS} {j : Nat} {V : VS} {q : Nat → Nat} {d : Nat} (hj : oO C j = true) (E : EncD g C j V q) (K : OkL V) (hd8 : d < 8) : Cr g miX5_whose 3 [.ref (od C 3 j), .int (nI d)] C (some (.int (nI (ownersV V d)))) := by
  refine Cr.start [some (.ref (od C 3 j)), some (.int (nI d)), none] plX5 rfl (Nat.le_of_ble_eq_true rfl) rfl ?_
  intro σ H
  have kb := K.b
  have hl := K.last hd8
  have hpc := pcnt_le _ hl
  have h00 : pcnt 0 = 0 := rfl
  refine w_aload_n dX5_whose_0 rfl ?_
  refine gX5_33 (C := C) dX5_whose_1 rfl hj H ?_
  refine w_iload_n dX5_whose_4 rfl ?_
  refine ga_heaps (C := C) dX5_whose_5 hj (by omega) H ?_
  refine cr_call (mi := miX7_last) dX5_whose_6 q1143 okX7_last clX7 rfl (H.get (ce_heap (on8 hj (by omega)))) (Nat.le_of_ble_eq_true rfl) (kX7_last (C := C) (on8 hj (by omega)) (E.h (d := d) (by omega)) (by intro k9 hk9; have h9 := (K.p (d := d) (by omega) hk9).1; omega) (by intro k9 hk9; have h9 := (K.p (d := d) (by omega) hk9).2; omega)) H rfl rfl (Nat.le_of_ble_eq_true rfl) ?_
  refine w_topN (show _ = nI (lastV V d) from rfl) ?_
  refine w_istore_n dX5_whose_9 rfl (Nat.le_of_ble_eq_true rfl) ls_3_2 ?_
  refine w_iload_n dX5_whose_10 rfl ?_
  refine cs_call (mi := miJ11_bitCount) dX5_whose_11 q1147 okJ11_bitCount (Nat.le_of_ble_eq_true rfl) (kInt_bitCount (by first | assumption | omega)) rfl rfl (Nat.le_of_ble_eq_true rfl) ?_
  refine w_iconst (v := nI 2) dX5_whose_14 ki_2 ?_
  refine w_icmpN_lt dX5_whose_15 rfl (by omega) (by omega) (fun h_15 => ?_) (fun h_15 => ?_)
  · refine w_iload_n dX5_whose_29 rfl ?_
    exact w_iret dX5_whose_30 rfl ⟨by first | (rw [ownersV, if_pos (by omega)]; done) | (rw [ownersV, if_neg (by omega), if_pos (by omega)]; done) | (rw [ownersV, if_neg (by omega), if_neg (by omega), if_pos (by omega)]; done) | (rw [ownersV, if_neg (by omega), if_neg (by omega), if_neg (by omega)]; done), rfl⟩
  · have h0 : 0 < lastV V d := by rcases Nat.eq_zero_or_pos (lastV V d) with z | z; rw [z] at h_15; omega; exact z
    refine w_aload_n dX5_whose_18 rfl ?_
    refine gX5_12 (C := C) dX5_whose_19 rfl hj H ?_
    refine gX5_123 (C := C) dX5_whose_22 rfl E H ?_
    refine w_iconst (v := nI 3) dX5_whose_25 ki_3 ?_
    refine w_icmpN_ne dX5_whose_26 rfl (by omega) (by omega) (fun h_26 => ?_) (fun h_26 => ?_)
    · refine w_aload_n dX5_whose_31 rfl ?_
      refine gX5_12 (C := C) dX5_whose_32 rfl hj H ?_
      refine gX5_123 (C := C) dX5_whose_35 rfl E H ?_
      refine w_ifN_ne dX5_whose_38 rfl (by omega) (fun h_38 => ?_) (fun h_38 => ?_)
      · refine w_aload_n dX5_whose_45 rfl ?_
        refine gX5_12 (C := C) dX5_whose_46 rfl hj H ?_
        refine gX5_123 (C := C) dX5_whose_49 rfl E H ?_
        refine w_iconst (v := nI 1) dX5_whose_52 ki_1 ?_
        refine w_icmpN_ne dX5_whose_53 rfl (by omega) (by omega) (fun h_53 => ?_) (fun h_53 => ?_)
        · refine w_iload_n dX5_whose_63 rfl ?_
          refine cs_call (mi := miJ11_highestOneBit) dX5_whose_64 q1156 okJ11_highestOneBit (Nat.le_of_ble_eq_true rfl) (kInt_highestOneBit (by first | assumption | omega) h0) rfl rfl (Nat.le_of_ble_eq_true rfl) ?_
          exact w_iret dX5_whose_67 rfl ⟨by first | (rw [ownersV, if_pos (by omega)]; done) | (rw [ownersV, if_neg (by omega), if_pos (by omega)]; done) | (rw [ownersV, if_neg (by omega), if_neg (by omega), if_pos (by omega)]; done) | (rw [ownersV, if_neg (by omega), if_neg (by omega), if_neg (by omega)]; done), rfl⟩
        · refine w_iload_n dX5_whose_56 rfl ?_
          refine cs_call (mi := miJ11_lowestOneBit) dX5_whose_57 q1153 okJ11_lowestOneBit (Nat.le_of_ble_eq_true rfl) (kInt_lowestOneBit (by first | assumption | omega) h0) rfl rfl (Nat.le_of_ble_eq_true rfl) ?_
          refine w_goto dX5_whose_60 rfl ?_
          exact w_iret dX5_whose_67 rfl ⟨by first | (rw [ownersV, if_pos (by omega)]; done) | (rw [ownersV, if_neg (by omega), if_pos (by omega)]; done) | (rw [ownersV, if_neg (by omega), if_neg (by omega), if_pos (by omega)]; done) | (rw [ownersV, if_neg (by omega), if_neg (by omega), if_neg (by omega)]; done), rfl⟩
      · refine w_iconst (v := nI 0) dX5_whose_41 ki_0 ?_
        refine w_goto dX5_whose_42 rfl ?_
        exact w_iret dX5_whose_67 rfl ⟨by first | (rw [ownersV, if_pos (by omega)]; done) | (rw [ownersV, if_neg (by omega), if_pos (by omega)]; done) | (rw [ownersV, if_neg (by omega), if_neg (by omega), if_pos (by omega)]; done) | (rw [ownersV, if_neg (by omega), if_neg (by omega), if_neg (by omega)]; done), rfl⟩
    · refine w_iload_n dX5_whose_29 rfl ?_
      exact w_iret dX5_whose_30 rfl ⟨by first | (rw [ownersV, if_pos (by omega)]; done) | (rw [ownersV, if_neg (by omega), if_pos (by omega)]; done) | (rw [ownersV, if_neg (by omega), if_neg (by omega), if_pos (by omega)]; done) | (rw [ownersV, if_neg (by omega), if_neg (by omega), if_neg (by omega)]; done), rfl⟩
section BB
variable {g : GG} {mt : MT} {kc ks pc : Nat} {L : List (Option Value)} {st rest : List Value} {σ σ0 : PH} {C : CS} {j : Nat} {V : VS} {q : Nat → Nat}
theorem bb_13 {a : Nat} (dd : decode mt.1.2.1 pc = .ok (.iaload, 1)) (E : EncD g C j V q) (ha : a < vs V 2) (h8 : a < 8) (H : Hold g σ C) (kk : Wp g mt kc ks (pc + 1) L (.int (nI (vt V 6 a)) :: st) σ) : Wp g mt kc ks pc L (.int (nI a) :: .ref (bR C j 13) :: st) σ := w_ialdN dd (H.z E.1.2.2.2.2.2.2.2.1) h8 (by omega) (by have h := kk; rw [← E.wor ha] at h; exact h)
end BB
set_option maxHeartbeats 4000000 in
theorem kX5_leadsL {g : GG} {C : CS} {j : Nat} {V : VS} {q : Nat → Nat} {f : Nat} (hj : oO C j = true) (E : EncD g C j V q) (K : OkL V) (hf6 : f < 6) : Cr g miX5_leads 4 [.ref (od C 3 j), .int (nI f)] C (some (.int (nI (leadV V f)))) := by
  refine Cr.start [some (.ref (od C 3 j)), some (.int (nI f)), none, none, none] plX5 rfl (Nat.le_of_ble_eq_true rfl) rfl ?_
  intro σ H
  have kb := K.b
  refine w_iconst (v := nI 0) dX5_leads_0 ki_0 ?_
  refine w_istore_n dX5_leads_1 rfl (Nat.le_of_ble_eq_true rfl) ls_5_2 ?_
  refine w_iconst (v := nI 0) dX5_leads_2 ki_0 ?_
  refine w_istore_n dX5_leads_3 rfl (Nat.le_of_ble_eq_true rfl) ls_5_3 ?_
  have lp : ∀ (j9 : Nat) (k : Nat), vs V 2 - k < j9 → k ≤ vs V 2 → Wp g (mtR g miX5_leads 4 σ (some (.int (nI (leadV V f))))) 0 0 4 [some (.ref (od C 3 j)), some (.int (nI f)), some (.int (nI (foldN (fun d n => n + shareV V f d) 0 k))), some (.int (nI k)), none] [] σ := by
    intro j9
    induction j9 with
    | zero => intro k hmu hk; exact absurd hmu (Nat.not_lt_zero _)
    | succ j9 ih_lp =>
      intro k hmu hk
      refine w_iload_n dX5_leads_4 rfl ?_
      refine w_aload_n dX5_leads_5 rfl ?_
      refine gX5_12 (C := C) dX5_leads_6 rfl hj H ?_
      refine gX5_46 (C := C) dX5_leads_9 rfl E H ?_
      refine w_icmpN_ge dX5_leads_12 rfl (by omega) (by omega) (fun h_12 => ?_) (fun h_12 => ?_)
      · have hkx : k = vs V 2 := by omega
        refine w_iload_n dX5_leads_71 rfl ?_
        exact w_iret dX5_leads_72 rfl ⟨by rw [hkx]; rfl, rfl⟩
      · refine w_aload_n dX5_leads_15 rfl ?_
        refine w_iload_n dX5_leads_16 rfl ?_
        refine cr_call (mi := miX5_isThere) dX5_leads_17 q1081 okX5_isThere clX5 rfl (H.get (ce_day hj)) (Nat.le_of_ble_eq_true rfl) (kX5_isThereL (C := C) hj E K (by first | assumption | omega)) H rfl rfl (Nat.le_of_ble_eq_true rfl) ?_
        refine w_ifB_ne dX5_leads_20 rfl (fun h_20 => ?_) (fun h_20 => ?_)
        · refine w_aload_n dX5_leads_26 rfl ?_
          refine w_iload_n dX5_leads_27 rfl ?_
          refine cr_call (mi := miX5_whose) dX5_leads_28 q1139 okX5_whose clX5 rfl (H.get (ce_day hj)) (Nat.le_of_ble_eq_true rfl) (kX5_whoseL (C := C) hj E K (by first | assumption | omega)) H rfl rfl (Nat.le_of_ble_eq_true rfl) ?_
          have hol := K.own (d := k) (by omega)
          have hkd := K.d (d := k) (by omega)
          refine w_istore dX5_leads_31 rfl (Nat.le_of_ble_eq_true rfl) ls_5_4 ?_
          refine w_iload_n dX5_leads_33 rfl ?_
          refine w_iload dX5_leads_34 rfl ?_
          refine w_iload_n dX5_leads_36 rfl ?_
          refine w_ishrN dX5_leads_37 (by omega) (by omega) ?_
          refine w_iconst (v := nI 1) dX5_leads_38 ki_1 ?_
          refine w_iandN dX5_leads_39 ?_
          refine w_iconst (v := nI 1) dX5_leads_40 ki_1 ?_
          refine w_icmpN_ne dX5_leads_41 rfl (and1_lt _) (by omega) (fun h_41 => ?_) (fun h_41 => ?_)
          · refine w_iconst (v := nI 0) dX5_leads_62 ki_0 ?_
            refine w_iaddN dX5_leads_63 ?_
            refine w_istore_n dX5_leads_64 rfl (Nat.le_of_ble_eq_true rfl) ls_5_2 ?_
            refine w_iinc dX5_leads_65 rfl (nI_inc _ 1) rfl (Nat.le_of_ble_eq_true rfl) ls_5_3 ?_
            refine w_goto dX5_leads_68 rfl ?_
            exact w_L (wkS (wkS (wkS (wkS (wkN wk0))))) (w_as (ih_lp (k + 1) (by omega) (by omega)) (by rw [foldN_s, shareO h_20 h_41, Nat.add_zero]) rfl rfl)
          · have hp0 := (bits64 _ hol).2.2 f hf6 h_41
            have hp6 := pcnt_le _ hol
            refine w_aload_n dX5_leads_44 rfl ?_
            refine gX5_12 (C := C) dX5_leads_45 rfl hj H ?_
            refine gX5_134 (C := C) dX5_leads_48 rfl E H ?_
            refine w_iload_n dX5_leads_51 rfl ?_
            refine bb_13 (C := C) dX5_leads_52 E (by omega) (by omega) H ?_
            refine w_iload dX5_leads_53 rfl ?_
            refine cs_call (mi := miJ11_bitCount) dX5_leads_55 q1147 okJ11_bitCount (Nat.le_of_ble_eq_true rfl) (kInt_bitCount (by first | assumption | omega)) rfl rfl (Nat.le_of_ble_eq_true rfl) ?_
            refine w_idivN dX5_leads_58 (by omega) (by omega) (by omega) ?_
            refine w_goto dX5_leads_59 rfl ?_
            refine w_iaddN dX5_leads_63 ?_
            refine w_istore_n dX5_leads_64 rfl (Nat.le_of_ble_eq_true rfl) ls_5_2 ?_
            refine w_iinc dX5_leads_65 rfl (nI_inc _ 1) rfl (Nat.le_of_ble_eq_true rfl) ls_5_3 ?_
            refine w_goto dX5_leads_68 rfl ?_
            exact w_L (wkS (wkS (wkS (wkS (wkN wk0))))) (w_as (ih_lp (k + 1) (by omega) (by omega)) (by rw [foldN_s, shareY h_20 h_41]) rfl rfl)
        · refine w_goto dX5_leads_23 rfl ?_
          refine w_iinc dX5_leads_65 rfl (nI_inc _ 1) rfl (Nat.le_of_ble_eq_true rfl) ls_5_3 ?_
          refine w_goto dX5_leads_68 rfl ?_
          exact w_as (ih_lp (k + 1) (by omega) (by omega)) (by simp only [foldN_s, shareN h_20, Nat.add_zero]) rfl rfl
  exact lp (vs V 2 + 1) 0 (by omega) (by omega)
/-- only the day aside has changed, and the status; it is a day still -/
def GaX (g : GG) (C C2 : CS) (w : Int32) : Prop := SD 4 (uI C 0 30 7 w) C2 ∧ ∃ W p, EncD g C2 4 W p
set_option maxHeartbeats 4000000 in
theorem kX0_gain {g : GG} {C : CS} {V : VS} {q : Nat → Nat} {x : Int32} {y : Int32} {W : VS} {p : Nat → Nat} (hx : oO C 0 = true) (h0 : oO C 0 = true) (E : EncD g C 0 V q) (K : OkV V) (h4 : oO C 4 = true) (E4 : EncD g C 4 W p) (hl : oM C 90 = none) : Cp g miX0_gain 5 (0 + 2 + 16) (0 + 256 + 1024) [.ref (od C 0 30), .int x, .int y] C (some (.int ((q_gain V x y).1))) (fun C2 => GaX g C C2 (q_gain V x y).2) := by
  refine Cp.start [some (.ref (od C 0 30)), some (.int x), some (.int y), none] plX0 rfl (Nat.le_of_ble_eq_true rfl) rfl ?_
  intro σ0 σ H F
  have kb := K.b
  refine w_aload_n dX0_gain_0 rfl ?_
  refine w_aload_n dX0_gain_1 rfl ?_
  refine w_iload_n dX0_gain_2 rfl ?_
  refine w_iload_n dX0_gain_3 rfl ?_
  refine cr_call (mi := miX0_areThere) dX0_gain_4 q1073 okX0_areThere clX0 rfl (H.get (ce_X hx)) (Nat.le_of_ble_eq_true rfl) (kX0_areThere (C := C) hx h0 E K) H rfl rfl (Nat.le_of_ble_eq_true rfl) ?_
  refine w_ifB_eq dX0_gain_7 rfl (fun h_7 => ?_) (fun h_7 => ?_)
  · refine w_iconst (v := nI 1) dX0_gain_14 ki_1 ?_
    refine pX0_85 (C := C) dX0_gain_15 rfl hx H F ?_
    intro σ H F
    have E := EncD.stH H E
    have E4 := EncD.stH H E4
    refine w_aload_n dX0_gain_18 rfl ?_
    refine gst_85 dX0_gain_19 rfl hx H ?_
    refine w_ifN_le dX0_gain_22 rfl (by decide) (fun h_22 => ?_) (fun h_22 => ?_)
    · exact absurd (show _ from h_22) (by decide)
    refine w_iconst (v := (-1)) dX0_gain_25 ki_m1 ?_
    exact w_iret dX0_gain_26 rfl ⟨by first | (rw [q_gain, if_neg h_7]; rfl) | (rw [q_gain, if_pos h_7, hcl_f, hcl_d, if_pos h_36]; rfl) | (rw [q_gain, if_pos h_7, hcl_f, hcl_d, if_neg h_36]; rfl), _, by first | (rw [q_gain, if_neg h_7]; exact ⟨SD.refl, _, _, E4⟩) | (rw [q_gain, if_pos h_7, hcl_f, hcl_d, if_pos h_36]; exact ⟨SD.refl, _, _, E4⟩) | (rw [q_gain, if_pos h_7, hcl_f, hcl_d, if_neg h_36]; exact ⟨hS65.trans (hS79.D (j := 4) (by omega)), _, _, E4⟩), H, F⟩
  · have hx_f := h_7.1
    have hx_d := h_7.2
    obtain ⟨f, hf_f, rfl⟩ := inN_of hx_f (by omega)
    have hcl_f : cl (nI f) = f := nI_clamp (by omega)
    have kf_f := K.f hf_f
    obtain ⟨d, hf_d, rfl⟩ := inN_of hx_d (by omega)
    have hcl_d : cl (nI d) = d := nI_clamp (by omega)
    have kf_d := K.d hf_d
    have kn_d := K.n (d := d) (by omega)
    refine w_iconst (v := nI 0) dX0_gain_10 ki_0 ?_
    refine w_goto dX0_gain_11 rfl ?_
    refine pX0_85 (C := C) dX0_gain_15 rfl hx H F ?_
    intro σ H F
    have E := EncD.stH H E
    have E4 := EncD.stH H E4
    refine w_aload_n dX0_gain_18 rfl ?_
    refine gst_85 dX0_gain_19 rfl hx H ?_
    refine w_ifN_le dX0_gain_22 rfl (by decide) (fun h_22 => ?_) (fun h_22 => ?_)
    rotate_left
    · exact absurd (show _ from h_22) (by decide)
    refine w_aload_n dX0_gain_27 rfl ?_
    refine w_iload_n dX0_gain_28 rfl ?_
    refine w_iload_n dX0_gain_29 rfl ?_
    refine cr_call (mi := miX0_soonestOf) dX0_gain_30 q1224 okX0_soonestOf clX0 rfl (H.get (ce_X hx)) (Nat.le_of_ble_eq_true rfl) (kX0_soonestOf (C := uI (C) 0 30 7 _) hx h0 E K (by first | assumption | omega) (by first | assumption | omega)) H rfl rfl (Nat.le_of_ble_eq_true rfl) ?_
    have hso := soonV_le K f d
    refine w_istore_n dX0_gain_33 rfl (Nat.le_of_ble_eq_true rfl) ls_4_3 ?_
    refine w_aload_n dX0_gain_34 rfl ?_
    refine w_iload_n dX0_gain_35 rfl ?_
    refine w_if_ge dX0_gain_36 rfl (fun h_36 => ?_) (fun h_36 => ?_)
    · have h_36 : soonV V f d ≠ 0 := fun z => absurd ((dn_lt (by omega)).mpr z) (Int32.not_lt.mpr h_36)
      have hgn : isT V d ∧ soonT V f d ≤ vs V 3 ∧ soonV V f d = soonT V f d + 1 := by
        unfold soonV at h_36 ⊢
        by_cases h1 : isT V d
        · rw [if_pos h1] at h_36 ⊢
          by_cases h2 : vt V 2 f = 0
          · rw [if_pos h2] at h_36; exact absurd rfl h_36
          · rw [if_neg h2] at h_36 ⊢
            by_cases h3 : vs V 3 < soonT V f d
            · rw [if_pos h3] at h_36; exact absurd rfl h_36
            · rw [if_neg h3]; exact ⟨h1, by omega, rfl⟩
        · rw [if_neg h1] at h_36; exact absurd rfl h_36
      have hbm : behO V f d ≤ soonT V f d := Nat.le_max_right _ _
      have hgl := gain_lead K hf_d (by omega) hgn.1 hbm
      have hsw := shareV_w V f d
      refine w_iconst (v := nI 0) dX0_gain_44 ki_0 ?_
      refine pX0_85 (C := uI (C) 0 30 7 _) dX0_gain_45 rfl hx H F ?_
      intro σ H F
      rw [uI_I] at H
      have E := EncD.stH H E
      have E4 := EncD.stH H E4
      refine w_aload_n dX0_gain_48 rfl ?_
      refine gst_85 dX0_gain_49 rfl hx H ?_
      refine w_ifN_le dX0_gain_52 rfl (by decide) (fun h_52 => ?_) (fun h_52 => ?_)
      rotate_left
      · exact absurd (show _ from h_52) (by decide)
      refine w_aload_n dX0_gain_57 rfl ?_
      refine gX0_78 (C := uI (C) 0 30 7 _) dX0_gain_58 rfl hx H ?_
      have E4 : EncD g (uI C 0 30 7 (nI 0)) 4 W p := EncD.stH H E4
      refine w_aload_n dX0_gain_61 rfl ?_
      refine cr_call (mi := miX0_day) dX0_gain_62 q886 okX0_day clX0 rfl (H.get (ce_X hx)) (Nat.le_of_ble_eq_true rfl) (kX0_day (C := uI (C) 0 30 7 _) hx h0) H rfl rfl (Nat.le_of_ble_eq_true rfl) ?_
      refine cp_call (mi := miX5_be) dX0_gain_65 q1318 okX5_be clX5 rfl (H.get (ce_day h4)) (Nat.le_of_ble_eq_true rfl) (kX5_be (C := uI (C) 0 30 7 _) h4 E4 h0 E (by decide) hl) H F rfl rfl (Nat.le_of_ble_eq_true rfl) ?_
      intro σ C65 hC65 H F
      obtain ⟨hE4, hS65⟩ := hC65
      have E := E.sd hS65 (by decide)
      rw [show od C 0 30 = od C65 0 30 from (hS65.1 0 30 (by omega) (by omega)).symm]
      have hx : oO C65 0 = true := by rw [hS65.on]; exact hx
      have h0 : oO C65 0 = true := by rw [hS65.on]; exact h0
      have h4 : oO C65 4 = true := by rw [hS65.on]; exact h4
      have hl : oM C65 90 = none := by rw [hS65.2.2.2.2.2.2.2.2.2.1]; exact hl
      refine w_aload_n dX0_gain_68 rfl ?_
      refine gX0_78 (C := C65) dX0_gain_69 rfl hx H ?_
      refine gX0_288 (C := C65) dX0_gain_72 rfl h4 H ?_
      have E4 := hE4
      refine w_iload_n dX0_gain_75 rfl ?_
      refine ga_heaps (C := C65) dX0_gain_76 h4 (by omega) H ?_
      refine w_iload_n dX0_gain_77 rfl ?_
      refine w_iload_n dX0_gain_78 rfl ?_
      refine w_topN (n := soonT V f d) (by rw [hgn.2.2, nI_dn]) ?_
      generalize hq4 : (fun d => if p d < vt V 7 d then q d else p d) = q4 at hE4 E4
      have hcap := ((E4.h (d := d) (by omega)).cap).2.1
      refine w_bud (kc2 := 0 + (if vt V 7 d = q4 d then 2 else 0)) (ks2 := 0 + (if vt V 7 d = q4 d then 4 * q4 d else 0)) (by split <;> omega) (by split <;> omega) ?_
      refine cp_call (mi := miX7_add) dX0_gain_79 q1327 okX7_add clX7 rfl (H.get (ce_heap (on8 h4 (by omega)))) (Nat.le_of_ble_eq_true rfl) (kX7_add (C := C65) (on8 h4 (by omega)) (E4.h (d := d) (by omega)) (by intro k9 hk9; have h9 := (K.p (d := d) (by omega) hk9).2; omega) (by omega) hl (by omega)) H F rfl rfl (Nat.le_of_ble_eq_true rfl) ?_
      intro σ C79 hC79 H F
      obtain ⟨hE79, hS79⟩ := hC79
      have E4 := E4.add (by omega) hS79 hE79
      have E := E.sd (hS79.D (j := 4) (by omega)) (by decide)
      rw [show od C65 0 30 = od C79 0 30 from (hS79.1 0 30 (by omega) (by omega)).symm]
      have hx : oO C79 0 = true := by rw [hS79.on]; exact hx
      have h0 : oO C79 0 = true := by rw [hS79.on]; exact h0
      have h4 : oO C79 4 = true := by rw [hS79.on]; exact h4
      refine w_aload_n dX0_gain_82 rfl ?_
      refine gX0_78 (C := C79) dX0_gain_83 rfl hx H ?_
      refine w_iload_n dX0_gain_86 rfl ?_
      refine cr_call (mi := miX5_leads) dX0_gain_87 q1194 okX5_leads clX5 rfl (H.get (ce_day h4)) (Nat.le_of_ble_eq_true rfl) (kX5_leadsL (C := C79) h4 E4 (OkL.ins K (by omega) (by omega) (by omega)) (by first | assumption | omega)) H rfl rfl (Nat.le_of_ble_eq_true rfl) ?_
      have hl9 := leadV_le K f
      refine w_aload_n dX0_gain_90 rfl ?_
      refine cr_call (mi := miX0_day) dX0_gain_91 q886 okX0_day clX0 rfl (H.get (ce_X hx)) (Nat.le_of_ble_eq_true rfl) (kX0_day (C := C79) hx h0) H rfl rfl (Nat.le_of_ble_eq_true rfl) ?_
      refine w_iload_n dX0_gain_94 rfl ?_
      refine cr_call (mi := miX5_leads) dX0_gain_95 q1194 okX5_leads clX5 rfl (H.get (ce_day h0)) (Nat.le_of_ble_eq_true rfl) (kX5_leads (C := C79) h0 E K (by first | assumption | omega)) H rfl rfl (Nat.le_of_ble_eq_true rfl) ?_
      refine w_isubN dX0_gain_98 (by omega) ?_
      refine w_topN (n := vt V 6 d - shareV V f d) (congrArg nI (by omega)) ?_
      exact w_iret dX0_gain_99 rfl ⟨by first | (rw [q_gain, if_neg h_7]; rfl) | (rw [q_gain, if_pos h_7, hcl_f, hcl_d, if_pos h_36]; rfl) | (rw [q_gain, if_pos h_7, hcl_f, hcl_d, if_neg h_36]; rfl), _, by first | (rw [q_gain, if_neg h_7]; exact ⟨SD.refl, _, _, E4⟩) | (rw [q_gain, if_pos h_7, hcl_f, hcl_d, if_pos h_36]; exact ⟨SD.refl, _, _, E4⟩) | (rw [q_gain, if_pos h_7, hcl_f, hcl_d, if_neg h_36]; exact ⟨hS65.trans (hS79.D (j := 4) (by omega)), _, _, E4⟩), H, F⟩
    · have h_36 : soonV V f d = 0 := (dn_lt (by omega)).mp (Int32.not_le.mp h_36)
      refine w_bipush (v := nI 7) dX0_gain_39 kb_7 ?_
      refine w_goto dX0_gain_41 rfl ?_
      refine pX0_85 (C := uI (C) 0 30 7 _) dX0_gain_45 rfl hx H F ?_
      intro σ H F
      rw [uI_I] at H
      have E := EncD.stH H E
      have E4 := EncD.stH H E4
      refine w_aload_n dX0_gain_48 rfl ?_
      refine gst_85 dX0_gain_49 rfl hx H ?_
      refine w_ifN_le dX0_gain_52 rfl (by decide) (fun h_52 => ?_) (fun h_52 => ?_)
      · exact absurd (show _ from h_52) (by decide)
      refine w_iconst (v := (-1)) dX0_gain_55 ki_m1 ?_
      exact w_iret dX0_gain_56 rfl ⟨by first | (rw [q_gain, if_neg h_7]; rfl) | (rw [q_gain, if_pos h_7, hcl_f, hcl_d, if_pos h_36]; rfl) | (rw [q_gain, if_pos h_7, hcl_f, hcl_d, if_neg h_36]; rfl), _, by first | (rw [q_gain, if_neg h_7]; exact ⟨SD.refl, _, _, E4⟩) | (rw [q_gain, if_pos h_7, hcl_f, hcl_d, if_pos h_36]; exact ⟨SD.refl, _, _, E4⟩) | (rw [q_gain, if_pos h_7, hcl_f, hcl_d, if_neg h_36]; exact ⟨hS65.trans (hS79.D (j := 4) (by omega)), _, _, E4⟩), H, F⟩
