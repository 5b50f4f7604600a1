set_option maxRecDepth 100000
theorem plX0 : plainName "LastPebble" = true := by decide +kernel
theorem plX14 : plainName "LastPebble$Act" = true := by decide +kernel
theorem plX2 : plainName "LastPebble$Bad" = true := by decide +kernel
theorem plX6 : plainName "LastPebble$Beach" = true := by decide +kernel
theorem plX5 : plainName "LastPebble$Day" = true := by decide +kernel
theorem plX7 : plainName "LastPebble$Heap" = true := by decide +kernel
theorem plX4 : plainName "LastPebble$House" = true := by decide +kernel
theorem plX15 : plainName "LastPebble$Living" = true := by decide +kernel
theorem plX12 : plainName "LastPebble$Loop" = true := by decide +kernel
theorem plX9 : plainName "LastPebble$Reader" = true := by decide +kernel
theorem plX3 : plainName "LastPebble$Refused" = true := by decide +kernel
theorem plX1 : plainName "LastPebble$Tray" = true := by decide +kernel
theorem plX13 : plainName "LastPebble$When" = true := by decide +kernel
theorem plJ11 : plainName "java/lang/Integer" = true := by decide +kernel
theorem plJ12 : plainName "java/lang/Long" = true := by decide +kernel
/-- the latest minute of others, from n down: one above it; 0: none -/
def othG (who tim : Nat → Nat) (f : Nat) : Nat → Nat
  | 0 => 0
  | k + 1 => if who k = f then othG who tim f k else tim k + 1
set_option maxHeartbeats 4000000 in
theorem kX7_many {g : GG} {C : CS} {i n c : Nat} {who tim : Nat → Nat} {f : Nat} (hi : oO C (i / 8) = true) (Eh : EncH C i n who tim c) (hw6 : ∀ k, k < n → who k < 6) (hf6 : f < 6) : Cr g miX7_many 1 [.ref (od C 5 i), .int (nI f)] C (some (.int (nI (ownF n who f)))) := by
  refine Cr.start [some (.ref (od C 5 i)), some (.int (nI f)), none, none] plX7 rfl (Nat.le_of_ble_eq_true rfl) rfl ?_
  intro σ H
  have hc9 := Eh.cap
  refine w_iconst (v := nI 0) dX7_many_0 ki_0 ?_
  refine w_istore_n dX7_many_1 rfl (Nat.le_of_ble_eq_true rfl) ls_4_2 ?_
  refine w_iconst (v := nI 0) dX7_many_2 ki_0 ?_
  refine w_istore_n dX7_many_3 rfl (Nat.le_of_ble_eq_true rfl) ls_4_3 ?_
  have lp : ∀ (j9 : Nat) (p : Nat), n - p < j9 → p ≤ n → Wp g (mtR g miX7_many 1 σ (some (.int (nI (ownF n who f))))) 0 0 4 [some (.ref (od C 5 i)), some (.int (nI f)), some (.int (nI (ownF p who f))), some (.int (nI p))] [] σ := by
    intro j9
    induction j9 with
    | zero => intro p hmu hp; exact absurd hmu (Nat.not_lt_zero _)
    | succ j9 ih_lp =>
      intro p hmu hp
      refine w_iload_n dX7_many_4 rfl ?_
      refine w_aload_n dX7_many_5 rfl ?_
      refine gX7_18 (C := C) dX7_many_6 rfl hi H ?_
      refine w_topN Eh.sz ?_
      refine w_icmpN_ge dX7_many_9 rfl (by omega) (by omega) (fun h_9 => ?_) (fun h_9 => ?_)
      · obtain rfl : p = n := by omega
        refine w_iload_n dX7_many_36 rfl ?_
        exact w_iret dX7_many_37 rfl ⟨by rfl, rfl⟩
      · refine w_iload_n dX7_many_12 rfl ?_
        refine w_aload_n dX7_many_13 rfl ?_
        refine gX7_9 (C := C) dX7_many_14 rfl hi H ?_
        refine w_iload_n dX7_many_17 rfl ?_
        refine ha_6 (C := C) dX7_many_18 hi Eh (by omega) H ?_
        refine w_iload_n dX7_many_19 rfl ?_
        refine w_icmpN_ne dX7_many_20 rfl (by have := hw6 p (by omega); omega) (by omega) (fun h_20 => ?_) (fun h_20 => ?_)
        · have h_20 : ¬ who p = f := h_20
          refine w_iconst (v := nI 0) dX7_many_27 ki_0 ?_
          refine w_iaddN dX7_many_28 ?_
          refine w_istore_n dX7_many_29 rfl (Nat.le_of_ble_eq_true rfl) ls_4_2 ?_
          refine w_iinc dX7_many_30 rfl (nI_inc _ 1) rfl (Nat.le_of_ble_eq_true rfl) ls_4_3 ?_
          refine w_goto dX7_many_33 rfl ?_
          exact w_as (ih_lp (p + 1) (by omega) (by omega)) (by simp only [ownF, foldN, h_20, if_true, if_false]) rfl rfl
        · refine w_iconst (v := nI 1) dX7_many_23 ki_1 ?_
          refine w_goto dX7_many_24 rfl ?_
          refine w_iaddN dX7_many_28 ?_
          refine w_istore_n dX7_many_29 rfl (Nat.le_of_ble_eq_true rfl) ls_4_2 ?_
          refine w_iinc dX7_many_30 rfl (nI_inc _ 1) rfl (Nat.le_of_ble_eq_true rfl) ls_4_3 ?_
          refine w_goto dX7_many_33 rfl ?_
          exact w_as (ih_lp (p + 1) (by omega) (by omega)) (by simp only [ownF, foldN, h_20, if_true, if_false]) rfl rfl
  exact lp (n + 1) 0 (by omega) (by omega)
set_option maxHeartbeats 4000000 in
theorem kX7_last {g : GG} {C : CS} {i n c : Nat} {who tim : Nat → Nat} (hi : oO C (i / 8) = true) (Eh : EncH C i n who tim c) (hw6 : ∀ k, k < n → who k < 6) (hm2 : ∀ k, k < n → tim k ≤ 240) : Cr g miX7_last 1 [.ref (od C 5 i)] C (some (.int (nI (lastF n who tim)))) := by
  refine Cr.start [some (.ref (od C 5 i)), none, none] plX7 rfl (Nat.le_of_ble_eq_true rfl) rfl ?_
  intro σ H
  have hc9 := Eh.cap
  refine w_iconst (v := nI 0) dX7_last_0 ki_0 ?_
  refine w_istore_n dX7_last_1 rfl (Nat.le_of_ble_eq_true rfl) ls_3_1 ?_
  refine w_aload_n dX7_last_2 rfl ?_
  refine gX7_18 (C := C) dX7_last_3 rfl hi H ?_
  refine w_topN Eh.sz ?_
  refine w_iconst (v := nI 1) dX7_last_6 ki_1 ?_
  refine w_isub dX7_last_7 ?_
  refine w_istore_n dX7_last_8 rfl (Nat.le_of_ble_eq_true rfl) ls_3_2 ?_
  have lp : ∀ (j9 : Nat) (p : Nat) (set : Nat), p < j9 → p ≤ n → lastG who tim (tim (n - 1)) p set = lastF n who tim → Wp g (mtR g miX7_last 1 σ (some (.int (nI (lastF n who tim))))) 0 0 9 [some (.ref (od C 5 i)), some (.int (nI set)), some (.int (nI p - nI 1))] [] σ := by
    intro j9
    induction j9 with
    | zero => intro p set hmu hp hs; exact absurd hmu (Nat.not_lt_zero _)
    | succ j9 ih_lp =>
      intro p set hmu hp hs
      refine w_iload_n dX7_last_9 rfl ?_
      refine w_if_lt dX7_last_10 rfl (fun h_10 => ?_) (fun h_10 => ?_)
      · obtain rfl : p = 0 := (dn_lt (by omega)).mp h_10
        refine w_iload_n dX7_last_50 rfl ?_
        exact w_iret dX7_last_51 rfl ⟨by first | exact congrArg (fun z => some (Value.int (nI z))) hs | exact congrArg (fun z => some (Value.int (nI z))) hs2, rfl⟩
      · obtain ⟨a9, rfl⟩ : ∃ i, p = i + 1 := ⟨p - 1, by have := mt (dn_lt (j := p) (by omega)).mpr h_10; omega⟩
        rw [nI_dn]
        refine w_aload_n dX7_last_13 rfl ?_
        refine gX7_15 (C := C) dX7_last_14 rfl hi H ?_
        refine w_iload_n dX7_last_17 rfl ?_
        refine ha_7 (C := C) dX7_last_18 hi Eh (by omega) H ?_
        refine w_aload_n dX7_last_19 rfl ?_
        refine gX7_15 (C := C) dX7_last_20 rfl hi H ?_
        refine w_aload_n dX7_last_23 rfl ?_
        refine gX7_18 (C := C) dX7_last_24 rfl hi H ?_
        refine w_topN Eh.sz ?_
        refine w_iconst (v := nI 1) dX7_last_27 ki_1 ?_
        refine w_isubN dX7_last_28 (by omega) ?_
        refine ha_7 (C := C) dX7_last_29 hi Eh (by omega) H ?_
        refine w_icmpN_ne dX7_last_30 rfl (by have := hm2 a9 (by omega); omega) (by have := hm2 (n - 1) (by omega); omega) (fun h_30 => ?_) (fun h_30 => ?_)
        · have hs2 : set = lastF n who tim := by rw [← hs]; exact (if_neg h_30).symm
          refine w_iload_n dX7_last_50 rfl ?_
          exact w_iret dX7_last_51 rfl ⟨by first | exact congrArg (fun z => some (Value.int (nI z))) hs | exact congrArg (fun z => some (Value.int (nI z))) hs2, rfl⟩
        · have hw := hw6 a9 (by omega)
          refine w_iload_n dX7_last_33 rfl ?_
          refine w_iconst (v := nI 1) dX7_last_34 ki_1 ?_
          refine w_aload_n dX7_last_35 rfl ?_
          refine gX7_9 (C := C) dX7_last_36 rfl hi H ?_
          refine w_iload_n dX7_last_39 rfl ?_
          refine ha_6 (C := C) dX7_last_40 hi Eh (by omega) H ?_
          refine w_shl1N dX7_last_41 (by omega) ?_
          refine w_iorN dX7_last_42 ?_
          refine w_istore_n dX7_last_43 rfl (Nat.le_of_ble_eq_true rfl) ls_3_1 ?_
          refine w_iinc dX7_last_44 rfl (nI_m1 _) rfl (Nat.le_of_ble_eq_true rfl) ls_3_2 ?_
          refine w_goto dX7_last_47 rfl ?_
          exact ih_lp a9 _ (by omega) (by omega) (by rw [← hs]; exact (if_pos h_30).symm)
  exact lp (n + 1) _ 0 (by omega) (by omega) rfl
set_option maxHeartbeats 4000000 in
theorem kX7_latestOf {g : GG} {C : CS} {i n c : Nat} {who tim : Nat → Nat} {f : Nat} (hi : oO C (i / 8) = true) (Eh : EncH C i n who tim c) (hw6 : ∀ k, k < n → who k < 6) (hf6 : f < 6) : Cr g miX7_latestOf 1 [.ref (od C 5 i), .int (nI f)] C (some (.int (nI (ownOnF who f n) - nI 1))) := by
  refine Cr.start [some (.ref (od C 5 i)), some (.int (nI f)), none] plX7 rfl (Nat.le_of_ble_eq_true rfl) rfl ?_
  intro σ H
  have hc9 := Eh.cap
  refine w_aload_n dX7_latestOf_0 rfl ?_
  refine gX7_18 (C := C) dX7_latestOf_1 rfl hi H ?_
  refine w_topN Eh.sz ?_
  refine w_iconst (v := nI 1) dX7_latestOf_4 ki_1 ?_
  refine w_isub dX7_latestOf_5 ?_
  refine w_istore_n dX7_latestOf_6 rfl (Nat.le_of_ble_eq_true rfl) ls_3_2 ?_
  have lp : ∀ (j9 : Nat) (p : Nat), p < j9 → p ≤ n → ownOnF who f p = ownOnF who f n → Wp g (mtR g miX7_latestOf 1 σ (some (.int (nI (ownOnF who f n) - nI 1)))) 0 0 7 [some (.ref (od C 5 i)), some (.int (nI f)), some (.int (nI p - nI 1))] [] σ := by
    intro j9
    induction j9 with
    | zero => intro p hmu hp hs; exact absurd hmu (Nat.not_lt_zero _)
    | succ j9 ih_lp =>
      intro p hmu hp hs
      refine w_iload_n dX7_latestOf_7 rfl ?_
      refine w_if_lt dX7_latestOf_8 rfl (fun h_8 => ?_) (fun h_8 => ?_)
      · obtain rfl : p = 0 := (dn_lt (by omega)).mp h_8
        refine w_iload_n dX7_latestOf_27 rfl ?_
        exact w_iret dX7_latestOf_28 rfl ⟨by first | (rw [hs2, nI_dn]; done) | (rw [← hs]; rfl), rfl⟩
      · obtain ⟨a9, rfl⟩ : ∃ i, p = i + 1 := ⟨p - 1, by have := mt (dn_lt (j := p) (by omega)).mpr h_8; omega⟩
        rw [nI_dn]
        refine w_aload_n dX7_latestOf_11 rfl ?_
        refine gX7_9 (C := C) dX7_latestOf_12 rfl hi H ?_
        refine w_iload_n dX7_latestOf_15 rfl ?_
        refine ha_6 (C := C) dX7_latestOf_16 hi Eh (by omega) H ?_
        refine w_iload_n dX7_latestOf_17 rfl ?_
        refine w_icmpN_eq dX7_latestOf_18 rfl (by have := hw6 a9 (by omega); omega) (by omega) (fun h_18 => ?_) (fun h_18 => ?_)
        · have hs2 : ownOnF who f n = a9 + 1 := by rw [← hs]; exact if_pos h_18
          refine w_iload_n dX7_latestOf_27 rfl ?_
          exact w_iret dX7_latestOf_28 rfl ⟨by first | (rw [hs2, nI_dn]; done) | (rw [← hs]; rfl), rfl⟩
        · have h_18 : ¬ who a9 = f := h_18
          refine w_iinc dX7_latestOf_21 rfl (nI_m1 _) rfl (Nat.le_of_ble_eq_true rfl) ls_3_2 ?_
          refine w_goto dX7_latestOf_24 rfl ?_
          exact ih_lp a9 (by omega) (by omega) (by rw [← hs]; exact (if_neg h_18).symm)
  exact lp (n + 1) _ (by omega) (by omega) rfl
set_option maxHeartbeats 4000000 in
theorem kX7_others {g : GG} {C : CS} {i n c : Nat} {who tim : Nat → Nat} {f : Nat} (hi : oO C (i / 8) = true) (Eh : EncH C i n who tim c) (hw6 : ∀ k, k < n → who k < 6) (hf6 : f < 6) : Cr g miX7_others 1 [.ref (od C 5 i), .int (nI f)] C (some (.int (nI (othG who tim f n) - nI 1))) := by
  refine Cr.start [some (.ref (od C 5 i)), some (.int (nI f)), none] plX7 rfl (Nat.le_of_ble_eq_true rfl) rfl ?_
  intro σ H
  have hc9 := Eh.cap
  refine w_aload_n dX7_others_0 rfl ?_
  refine gX7_18 (C := C) dX7_others_1 rfl hi H ?_
  refine w_topN Eh.sz ?_
  refine w_iconst (v := nI 1) dX7_others_4 ki_1 ?_
  refine w_isub dX7_others_5 ?_
  refine w_istore_n dX7_others_6 rfl (Nat.le_of_ble_eq_true rfl) ls_3_2 ?_
  have lp : ∀ (j9 : Nat) (p : Nat), p < j9 → p ≤ n → othG who tim f p = othG who tim f n → Wp g (mtR g miX7_others 1 σ (some (.int (nI (othG who tim f n) - nI 1)))) 0 0 7 [some (.ref (od C 5 i)), some (.int (nI f)), some (.int (nI p - nI 1))] [] σ := by
    intro j9
    induction j9 with
    | zero => intro p hmu hp hs; exact absurd hmu (Nat.not_lt_zero _)
    | succ j9 ih_lp =>
      intro p hmu hp hs
      refine w_iload_n dX7_others_7 rfl ?_
      refine w_if_lt dX7_others_8 rfl (fun h_8 => ?_) (fun h_8 => ?_)
      · obtain rfl : p = 0 := (dn_lt (by omega)).mp h_8
        refine w_iconst (v := (-1)) dX7_others_34 ki_m1 ?_
        exact w_iret dX7_others_35 rfl ⟨by first | (rw [hs2, nI_dn]; done) | (rw [← hs]; rfl), rfl⟩
      · obtain ⟨a9, rfl⟩ : ∃ i, p = i + 1 := ⟨p - 1, by have := mt (dn_lt (j := p) (by omega)).mpr h_8; omega⟩
        rw [nI_dn]
        refine w_aload_n dX7_others_11 rfl ?_
        refine gX7_9 (C := C) dX7_others_12 rfl hi H ?_
        refine w_iload_n dX7_others_15 rfl ?_
        refine ha_6 (C := C) dX7_others_16 hi Eh (by omega) H ?_
        refine w_iload_n dX7_others_17 rfl ?_
        refine w_icmpN_eq dX7_others_18 rfl (by have := hw6 a9 (by omega); omega) (by omega) (fun h_18 => ?_) (fun h_18 => ?_)
        · refine w_iinc dX7_others_28 rfl (nI_m1 _) rfl (Nat.le_of_ble_eq_true rfl) ls_3_2 ?_
          refine w_goto dX7_others_31 rfl ?_
          exact ih_lp a9 (by omega) (by omega) (by rw [← hs]; exact (if_pos h_18).symm)
        · have hs2 : othG who tim f n = tim a9 + 1 := by rw [← hs]; exact if_neg h_18
          refine w_aload_n dX7_others_21 rfl ?_
          refine gX7_15 (C := C) dX7_others_22 rfl hi H ?_
          refine w_iload_n dX7_others_25 rfl ?_
          refine ha_7 (C := C) dX7_others_26 hi Eh (by omega) H ?_
          exact w_iret dX7_others_27 rfl ⟨by first | (rw [hs2, nI_dn]; done) | (rw [← hs]; rfl), rfl⟩
  exact lp (n + 1) _ (by omega) (by omega) rfl
