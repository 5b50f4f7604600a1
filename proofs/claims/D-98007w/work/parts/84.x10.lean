set_option maxRecDepth 100000
theorem cntF_lt (p : Nat → Prop) [DecidablePred p] : ∀ r i m, i ≤ m → m < cntF p i r → p m
  | 0, i, m, h1, h2 => by have h3 : m < i := h2; omega
  | r + 1, i, m, h1, h2 => by
    unfold cntF at h2
    by_cases hp : p i
    · rw [if_pos hp] at h2
      by_cases him : i = m
      · subst him; exact hp
      · exact cntF_lt p r (i + 1) m (by omega) h2
    · rw [if_neg hp] at h2; omega
theorem cntF_end (p : Nat → Prop) [DecidablePred p] : ∀ r i, cntF p i r < i + r → ¬ p (cntF p i r)
  | 0, i, h => by have h3 : i < i + 0 := h; omega
  | r + 1, i, h => by
    unfold cntF at h ⊢
    by_cases hp : p i
    · rw [if_pos hp] at h ⊢
      exact cntF_end p r (i + 1) (by omega)
    · rw [if_neg hp] at h ⊢
      exact hp
theorem cntF_le2 (p : Nat → Prop) [DecidablePred p] : ∀ r i, cntF p i r ≤ i + r
  | 0, i => Nat.le_refl _
  | r + 1, i => by
    unfold cntF
    split
    · have := cntF_le2 p r (i + 1); omega
    · omega
theorem boysV_le (V : VS) (x : Nat) : boysV V x ≤ 8 := by
  have := cntF_le2 (fun n => boyK V x n ≠ 0) 8 0
  have h2 : boysV V x ≤ 0 + 8 := this
  omega
/-- the row of boys has changed, and the status -/
def BoX (C C2 : CS) (w : Int32) : Prop := ∃ G : Nat → Int32, C2 = uF (uI C 0 30 7 w) 0 19 G
theorem BoX.no {C : CS} {w : Int32} : BoX C (uI C 0 30 7 w) w := ⟨oA C 0 19, (uF_self (uI C 0 30 7 w) 0 19).symm⟩
theorem BoX.st {C : CS} {w w2 : Int32} {G : Nat → Int32} : BoX C (uI (uF (uI C 0 30 7 w) 0 19 G) 0 30 7 w2) w2 := ⟨G, show uF (uI (uI C 0 30 7 w) 0 30 7 w2) 0 19 G = _ by rw [uI_I]⟩
theorem boys_at {V : VS} (K : OkV V) {x k : Nat} (h : k < boysV V x) : boyK V x k ≠ 0 ∧ k < 8 := by
  have hb : boysV V x ≤ 8 := boysV_le V x
  refine ⟨?_, by omega⟩
  have := cntF_lt (fun n => boyK V x n ≠ 0) 8 0 k (Nat.zero_le _) h
  exact this
theorem boys_no {V : VS} {x k : Nat} (h : ¬ k < boysV V x) (hk : k < 8) : boyK V x k = 0 := by
  have h1 : boyK V x (boysV V x) = 0 := by
    have := cntF_end (fun n => boyK V x n ≠ 0) 8 0 (by show boysV V x < 0 + 8; omega)
    exact Classical.not_not.mp this
  have := boyK_z h1 (k - boysV V x)
  rw [show boysV V x + (k - boysV V x) = k by omega] at this
  exact this
set_option maxHeartbeats 4000000 in
theorem kX0_boys {g : GG} {C : CS} {V : VS} {q : Nat → Nat} {x : Int32} (hx : oO C 0 = true) (h0 : oO C 0 = true) (E : EncD g C 0 V q) (K : OkV V) : Cp g miX0_boys 3 (0) (0) [.ref (od C 0 30), .int x] C (some (.int ((q_boys V x).1))) (fun C2 => BoX C C2 (q_boys V x).2) := by
  refine Cp.start [some (.ref (od C 0 30)), some (.int x)] plX0 rfl (Nat.le_of_ble_eq_true rfl) rfl ?_
  intro σ0 σ H F
  have kb := K.b
  refine w_aload_n dX0_boys_0 rfl ?_
  refine w_iload_n dX0_boys_1 rfl ?_
  refine w_i2l dX0_boys_2 rfl ?_
  refine w_lconst (v := 0) dX0_boys_3 rfl ?_
  refine w_ldc2 dX0_boys_4 q1122 ?_
  refine cs_call (mi := miX0_isIn) dX0_boys_7 q1016 okX0_isIn (Nat.le_of_ble_eq_true rfl) (kX0_isIn0 (m := 40) (by first | assumption | omega)) rfl rfl (Nat.le_of_ble_eq_true rfl) ?_
  refine w_ifB_eq dX0_boys_10 rfl (fun h_10 => ?_) (fun h_10 => ?_)
  · refine w_iconst (v := nI 1) dX0_boys_17 ki_1 ?_
    refine pX0_85 (C := C) dX0_boys_18 rfl hx H F ?_
    intro σ H F
    have E := EncD.stH H E
    refine w_aload_n dX0_boys_21 rfl ?_
    refine gst_85 dX0_boys_22 rfl hx H ?_
    refine w_ifN_le dX0_boys_25 rfl (by decide) (fun h_25 => ?_) (fun h_25 => ?_)
    · exact absurd (show _ from h_25) (by decide)
    refine w_iconst (v := (-1)) dX0_boys_28 ki_m1 ?_
    refine w_goto dX0_boys_29 rfl ?_
    exact w_iret dX0_boys_37 rfl ⟨by first | (rw [q_boys, if_neg h_10]; rfl) | (rw [q_boys, if_pos hx_m, hcl_m]; rfl), _, by first | (rw [q_boys, if_neg h_10]; exact BoX.no) | (rw [q_boys, if_pos hx_m]; exact ⟨G9, rfl⟩), H, F⟩
  · have hx_m := h_10
    obtain ⟨m, hf_m, rfl⟩ := inN_of h_10 (by omega)
    have hcl_m : cl (nI m) = m := nI_clamp (by omega)
    refine w_iconst (v := nI 0) dX0_boys_13 ki_0 ?_
    refine w_goto dX0_boys_14 rfl ?_
    refine pX0_85 (C := C) dX0_boys_18 rfl hx H F ?_
    intro σ H F
    have E := EncD.stH H E
    refine w_aload_n dX0_boys_21 rfl ?_
    refine gst_85 dX0_boys_22 rfl hx H ?_
    refine w_ifN_le dX0_boys_25 rfl (by decide) (fun h_25 => ?_) (fun h_25 => ?_)
    rotate_left
    · exact absurd (show _ from h_25) (by decide)
    refine w_aload_n dX0_boys_32 rfl ?_
    refine w_iload_n dX0_boys_33 rfl ?_
    refine cp_call (mi := miX0_watches) dX0_boys_34 q1274 okX0_watches clX0 rfl (H.get (ce_X hx)) (Nat.le_of_ble_eq_true rfl) (kX0_watches (C := uI (C) 0 30 7 _) hx h0 E K (by omega)) H F rfl rfl (Nat.le_of_ble_eq_true rfl) ?_
    intro σ C34 hC34 H F
    obtain ⟨G9, rfl, hG9⟩ := hC34
    exact w_iret dX0_boys_37 rfl ⟨by first | (rw [q_boys, if_neg h_10]; rfl) | (rw [q_boys, if_pos hx_m, hcl_m]; rfl), _, by first | (rw [q_boys, if_neg h_10]; exact BoX.no) | (rw [q_boys, if_pos hx_m]; exact ⟨G9, rfl⟩), H, F⟩
theorem BoyI.all {V : VS} (K : OkV V) (x : Nat) : ∀ c, c ≤ vs V 0 → ∃ n G, BoyI V x c n G
  | 0, _ => ⟨0, fun _ => 0, BoyI.z V x _⟩
  | c + 1, h => by
    obtain ⟨n, G, B⟩ := BoyI.all K x c (by omega)
    by_cases h1 : isB V c (vs V 2) = 1 ∧ nxtB V x n ≤ c
    · exact ⟨n + 1, _, (B.new_ (by omega) h1.1 h1.2).2.1⟩
    · refine ⟨n, G, B.skip ?_⟩
      by_cases h2 : isB V c (vs V 2) = 1
      · exact Or.inr (by omega)
      · exact Or.inl h2
theorem boys_fin {V : VS} (K : OkV V) (x : Nat) : boyK V x (boysV V x) = 0 := by
  obtain ⟨n, G, B⟩ := BoyI.all K x (vs V 0) (Nat.le_refl _)
  rw [B.cnt K]
  exact B.fin K
theorem boyAt_no {V : VS} (K : OkV V) {m : Nat} {y : Int32} (hx : inN (nI m) (40 + 1)) (hc : cl (nI m) = m) (h : ¬ inN y (boysV V m)) : q_boyAt V (nI m) y = noA 6 := by
  rw [q_boyAt, if_pos hx]
  by_cases h9 : inN y 9
  · obtain ⟨k, hk, rfl⟩ := inN_of h9 (by omega)
    have hck : cl (nI k) = k := nI_clamp (by omega)
    have hnk : ¬ k < boysV V m := fun z => h (inN_nI z (by have := boysV_le V m; omega))
    have h0 : boyK V m k = 0 := by
      by_cases h8 : k < 8
      · exact boys_no hnk h8
      · have h7 : k = 8 := by omega
        have h6 := boyK_z (boys_fin K m) (8 - boysV V m)
        have hb := boysV_le V m
        rw [show boysV V m + (8 - boysV V m) = 8 by omega] at h6
        rw [h7]
        exact h6
    rw [if_pos h9, hc, hck, h0]
    rfl
  · rw [if_neg h9]
set_option maxHeartbeats 4000000 in
theorem kX0_boyAt {g : GG} {C : CS} {V : VS} {q : Nat → Nat} {x : Int32} {y : Int32} (hx : oO C 0 = true) (h0 : oO C 0 = true) (E : EncD g C 0 V q) (K : OkV V) : Cp g miX0_boyAt 3 (0) (0) [.ref (od C 0 30), .int x, .int y] C (some (.int ((q_boyAt V x y).1))) (fun C2 => BoX C C2 (q_boyAt V x y).2) := by
  refine Cp.start [some (.ref (od C 0 30)), some (.int x), some (.int y)] plX0 rfl (Nat.le_of_ble_eq_true rfl) rfl ?_
  intro σ0 σ H F
  have kb := K.b
  refine w_aload_n dX0_boyAt_0 rfl ?_
  refine w_iload_n dX0_boyAt_1 rfl ?_
  refine w_i2l dX0_boyAt_2 rfl ?_
  refine w_lconst (v := 0) dX0_boyAt_3 rfl ?_
  refine w_ldc2 dX0_boyAt_4 q1122 ?_
  refine cs_call (mi := miX0_isIn) dX0_boyAt_7 q1016 okX0_isIn (Nat.le_of_ble_eq_true rfl) (kX0_isIn0 (m := 40) (by first | assumption | omega)) rfl rfl (Nat.le_of_ble_eq_true rfl) ?_
  refine w_ifB_eq dX0_boyAt_10 rfl (fun h_10 => ?_) (fun h_10 => ?_)
  · refine w_iconst (v := nI 1) dX0_boyAt_17 ki_1 ?_
    refine pX0_85 (C := C) dX0_boyAt_18 rfl hx H F ?_
    intro σ H F
    have E := EncD.stH H E
    refine w_aload_n dX0_boyAt_21 rfl ?_
    refine gst_85 dX0_boyAt_22 rfl hx H ?_
    refine w_ifN_le dX0_boyAt_25 rfl (by decide) (fun h_25 => ?_) (fun h_25 => ?_)
    · exact absurd (show _ from h_25) (by decide)
    refine w_iconst (v := (-1)) dX0_boyAt_28 ki_m1 ?_
    refine w_goto dX0_boyAt_29 rfl ?_
    exact w_iret dX0_boyAt_63 rfl ⟨by first | (rw [q_boyAt, if_neg h_10]; rfl) | (rw [q_boyAt, if_pos hx_m, if_pos hx9, hcl_m, hcl_k]; exact congrArg (fun z => some (Value.int z)) (pk_sub (show 1 ≤ boyK V m k by omega)).symm) | (rw [boyAt_no K hx_m hcl_m h_47]; rfl), _, by first | (rw [q_boyAt, if_neg h_10]; exact BoX.no) | (rw [q_boyAt, if_pos hx_m, if_pos hx9, hcl_m, hcl_k, show (orA (boyK V m k)).2 = nI 0 from if_neg (by omega)]; exact BoX.st) | (rw [boyAt_no K hx_m hcl_m h_47]; exact BoX.st), H, F⟩
  · have hx_m := h_10
    obtain ⟨m, hf_m, rfl⟩ := inN_of h_10 (by omega)
    have hcl_m : cl (nI m) = m := nI_clamp (by omega)
    refine w_iconst (v := nI 0) dX0_boyAt_13 ki_0 ?_
    refine w_goto dX0_boyAt_14 rfl ?_
    refine pX0_85 (C := C) dX0_boyAt_18 rfl hx H F ?_
    intro σ H F
    have E := EncD.stH H E
    refine w_aload_n dX0_boyAt_21 rfl ?_
    refine gst_85 dX0_boyAt_22 rfl hx H ?_
    refine w_ifN_le dX0_boyAt_25 rfl (by decide) (fun h_25 => ?_) (fun h_25 => ?_)
    rotate_left
    · exact absurd (show _ from h_25) (by decide)
    refine w_aload_n dX0_boyAt_32 rfl ?_
    refine w_iload_n dX0_boyAt_33 rfl ?_
    refine w_i2l dX0_boyAt_34 rfl ?_
    refine w_lconst (v := 0) dX0_boyAt_35 rfl ?_
    refine w_aload_n dX0_boyAt_36 rfl ?_
    refine w_iload_n dX0_boyAt_37 rfl ?_
    refine cp_call (mi := miX0_watches) dX0_boyAt_38 q1274 okX0_watches clX0 rfl (H.get (ce_X hx)) (Nat.le_of_ble_eq_true rfl) (kX0_watches (C := uI (C) 0 30 7 _) hx h0 E K (by omega)) H F rfl rfl (Nat.le_of_ble_eq_true rfl) ?_
    intro σ C38 hC38 H F
    obtain ⟨G9, rfl, hG9⟩ := hC38
    have E := E.xF (k := 19) (F := G9)
    have hb8 := boysV_le V m
    refine w_iconst (v := nI 1) dX0_boyAt_41 ki_1 ?_
    refine w_isub dX0_boyAt_42 ?_
    refine w_i2l dX0_boyAt_43 rfl ?_
    refine cs_call (mi := miX0_isIn) dX0_boyAt_44 q1016 okX0_isIn (Nat.le_of_ble_eq_true rfl) (kX0_isInD (m := boysV V m) (by omega)) rfl rfl (Nat.le_of_ble_eq_true rfl) ?_
    refine w_ifB_eq dX0_boyAt_47 rfl (fun h_47 => ?_) (fun h_47 => ?_)
    · refine w_iconst (v := (-1)) dX0_boyAt_59 ki_m1 ?_
      refine cp_call (mi := miX0_answer) dX0_boyAt_60 q1199 okX0_answer clX0 rfl (H.get (ce_X hx)) (Nat.le_of_ble_eq_true rfl) (kX0_answerM (C := uF (uI C 0 30 7 _) 0 19 G9) hx) H F rfl rfl (Nat.le_of_ble_eq_true rfl) ?_
      rintro σ _ rfl H F
      have E := EncD.stH H E
      exact w_iret dX0_boyAt_63 rfl ⟨by first | (rw [q_boyAt, if_neg h_10]; rfl) | (rw [q_boyAt, if_pos hx_m, if_pos hx9, hcl_m, hcl_k]; exact congrArg (fun z => some (Value.int z)) (pk_sub (show 1 ≤ boyK V m k by omega)).symm) | (rw [boyAt_no K hx_m hcl_m h_47]; rfl), _, by first | (rw [q_boyAt, if_neg h_10]; exact BoX.no) | (rw [q_boyAt, if_pos hx_m, if_pos hx9, hcl_m, hcl_k, show (orA (boyK V m k)).2 = nI 0 from if_neg (by omega)]; exact BoX.st) | (rw [boyAt_no K hx_m hcl_m h_47]; exact BoX.st), H, F⟩
    · have hx_k := h_47
      obtain ⟨k, hf_k, rfl⟩ := inN_of h_47 (by omega)
      have hcl_k : cl (nI k) = k := nI_clamp (by omega)
      have hba := boys_at K hf_k
      have hbk := boyK_le K m k
      have hx9 : inN (nI k) 9 := inN_nI (by omega) (by omega)
      refine w_aload_n dX0_boyAt_50 rfl ?_
      refine gX0_72 (C := uF (uI C 0 30 7 _) 0 19 G9) dX0_boyAt_51 rfl hx H ?_
      refine w_iload_n dX0_boyAt_54 rfl ?_
      refine xa_19 (C := uF (uI C 0 30 7 _) 0 19 G9) dX0_boyAt_55 hx (by omega) H ?_
      refine w_topN (n := boyK V m k - 1) (by rw [oA_F]; exact hG9 k hf_k) ?_
      refine w_goto dX0_boyAt_56 rfl ?_
      refine cp_call (mi := miX0_answer) dX0_boyAt_60 q1199 okX0_answer clX0 rfl (H.get (ce_X hx)) (Nat.le_of_ble_eq_true rfl) (kX0_answerN (C := uF (uI C 0 30 7 _) 0 19 G9) hx (by omega)) H F rfl rfl (Nat.le_of_ble_eq_true rfl) ?_
      rintro σ _ rfl H F
      have E := EncD.stH H E
      exact w_iret dX0_boyAt_63 rfl ⟨by first | (rw [q_boyAt, if_neg h_10]; rfl) | (rw [q_boyAt, if_pos hx_m, if_pos hx9, hcl_m, hcl_k]; exact congrArg (fun z => some (Value.int z)) (pk_sub (show 1 ≤ boyK V m k by omega)).symm) | (rw [boyAt_no K hx_m hcl_m h_47]; rfl), _, by first | (rw [q_boyAt, if_neg h_10]; exact BoX.no) | (rw [q_boyAt, if_pos hx_m, if_pos hx9, hcl_m, hcl_k, show (orA (boyK V m k)).2 = nI 0 from if_neg (by omega)]; exact BoX.st) | (rw [boyAt_no K hx_m hcl_m h_47]; exact BoX.st), H, F⟩
