set_option maxRecDepth 100000
def p_go (V : VS) (x y : Int32) : AS := if inN x (vs V 1) ∧ inN y (vs V 0) then (if vs V 3 < vt V 3 (cl x) + stepsV V (cl x) (cl y) then noA 7 else okA (vt V 3 (cl x) + stepsV V (cl x) (cl y))) else noA 1
def v_go (V : VS) (x y : Int32) : VS := if inN x (vs V 1) ∧ inN y (vs V 0) then wentV V (cl x) (cl y) else V
def p_pass (V : VS) (x y : Int32) : AS := if inN x (vs V 1) ∧ (inN y 241 ∧ y ≠ nI 0) then (if vs V 3 < vt V 3 (cl x) + cl y then noA 7 else okA (vt V 3 (cl x) + cl y)) else noA 1
def v_pass (V : VS) (x y : Int32) : VS := if inN x (vs V 1) ∧ (inN y 241 ∧ y ≠ nI 0) then waitedV V (cl x) (cl y) else V
def p_set (V : VS) (x y : Int32) : AS := if inN x (vs V 1) ∧ inN y (vs V 2) then (if wsetV V (cl x) (cl y) = 0 then okA (vt V 7 (cl y) + 1) else noA (wsetV V (cl x) (cl y))) else noA 1
def v_set (V : VS) (x y : Int32) : VS := if inN x (vs V 1) ∧ inN y (vs V 2) then (if wsetV V (cl x) (cl y) = 0 then setsV V (cl x) (cl y) else V) else V
def p_lift (V : VS) (x y : Int32) : AS := if inN x (vs V 1) ∧ inN y (vs V 2) then (if wliV V (cl x) (cl y) = 0 then okA (vp V 1 (cl y) (ownK V (cl x) (cl y) - 1)) else noA (wliV V (cl x) (cl y))) else noA 1
def v_lift (V : VS) (x y : Int32) : VS := if inN x (vs V 1) ∧ inN y (vs V 2) then (if wliV V (cl x) (cl y) = 0 then liftV V (cl x) (cl y) else V) else V
def p_gull (V : VS) (x y : Int32) : AS := if inN x (vs V 2) ∧ inN y (vs V 2) ∧ x ≠ y then (if wgV V (cl x) (cl y) = 0 then okA (vp V 0 (cl x) (vt V 7 (cl x) - 1)) else noA (wgV V (cl x) (cl y))) else noA 1
def v_gull (V : VS) (x y : Int32) : VS := if inN x (vs V 2) ∧ inN y (vs V 2) ∧ x ≠ y then (if wgV V (cl x) (cl y) = 0 then gullV V (cl x) (cl y) else V) else V
def p_wave (V : VS) (x : Int32) : AS := if inN x 41 then okA (waveN V (cl x) (vs V 2)) else noA 1
def v_wave (V : VS) (x : Int32) : VS := if inN x 41 then waveV V (cl x) else V
def p_tide (V : VS) : AS := if vs V 6 = 99 then noA 4 else if vs V 7 = 0 then noA 7 else okA (vs V 6 + 1)
def v_tide (V : VS) : VS := if vs V 6 = 99 then V else if vs V 7 = 0 then V else floodV V
def p_dawn (V : VS) : AS := if vs V 7 = 0 then okA (vs V 2) else noA 7
def v_dawn (V : VS) : VS := if vs V 7 = 0 then dawnV V else V
theorem ChS.of {S S2 : MS} {V2 V3 : VS} {w w3 : Int32} (h : Ch S S2 V2) (hV : V3 = V2) (hw : w3 = w) : ChS S (sI S2 2 w) V3 w3 := by
  subst hV; subst hw
  exact h.toS _
theorem ChS.E {S S2 : MS} {V2 : VS} {w : Int32} (h : ChS S S2 V2 w) : Enc S2 V2 := by
  obtain ⟨S1, h1, rfl⟩ := h
  exact h1.E
theorem went_3 {V : VS} {f c : Nat} (h : ¬ vs V 3 < vt V 3 f + stepsV V f c) : vt (wentV V f c) 3 f = vt V 3 f + stepsV V f c := by
  rw [wentV, if_neg h, goV, setT_t, if_neg (by omega), setT_t, if_pos ⟨rfl, rfl⟩]
theorem waited_3 {V : VS} {f m : Nat} (h : ¬ vs V 3 < vt V 3 f + m) : vt (waitedV V f m) 3 f = vt V 3 f + m := by
  rw [waitedV, if_neg h, waitV, setT_t, if_pos ⟨rfl, rfl⟩]
theorem wsetV_lt (V : VS) (f d : Nat) : wsetV V f d < 100 := by
  unfold wsetV
  split
  · omega
  · split
    · omega
    · split <;> omega
theorem wliV_lt (V : VS) (f d : Nat) : wliV V f d < 100 := by
  unfold wliV
  split
  · omega
  · split <;> omega
theorem wgV_lt (V : VS) (f d : Nat) : wgV V f d < 100 := by
  unfold wgV
  split
  · omega
  · split <;> omega
theorem wsetV_0 {V : VS} {f d : Nat} (h : wsetV V f d = 0) : vs V 8 ≠ 60 ∧ 0 < vt V 2 f ∧ isT V d ∧ vt V 0 f = vt V 5 d := by
  unfold wsetV at h
  split at h
  · omega
  · split at h
    · omega
    · split at h
      · rename_i h1 h2 h3
        exact ⟨h1, by omega, h3.1, h3.2⟩
      · omega
theorem sets_7 (V : VS) (f d : Nat) : vt (setsV V f d) 7 d = vt V 7 d + 1 := by
  rw [setsV, insV, ins_t7, if_pos rfl, setT_t, if_neg (by omega)]
set_option maxHeartbeats 4000000 in
theorem c_go {g : GG} {S : MS} {x : Int32} {y : Int32} {V : VS} (E : Enc S V) (K : OkV V) : Mp g miX8_go 4 [.int x, .int y] (S) (some (.int ((p_go V x y).1))) (fun S2 => ChS S S2 (v_go V x y) (p_go V x y).2) := by
  refine Mp.start (fun b => [some (.ref b), some (.int x), some (.int y)]) plX8 rfl (fun b => (Nat.le_of_ble_eq_true rfl)) (fun b => rfl) ?_
  intro σ b
  have kb := K.b
  refine w_aload_n dX8_go_0 rfl ?_
  refine w_iload_n dX8_go_1 rfl ?_
  refine m_calli1 (mi := miX8_isFinder) dX8_go_2 q1875 okX8_isFinder rfl (Nat.le_of_ble_eq_true rfl) (c_isFinder E K) (Nat.le_of_ble_eq_true rfl) ?_
  refine w_ifB_eq dX8_go_5 rfl (fun h_5 => ?_) (fun h_5 => ?_)
  · refine w_aload_n dX8_go_26 rfl ?_
    refine w_iconst (v := nI 1) dX8_go_27 ki_1 ?_
    refine m_calli1 (mi := miX8_refuse) dX8_go_28 q1746 okX8_refuse rfl (Nat.le_of_ble_eq_true rfl) c_refuse (Nat.le_of_ble_eq_true rfl) ?_
    exact w_iret dX8_go_31 rfl ⟨by rw [p_go, if_neg (fun z => h_5 z.1)]; rfl, _, by exact ChS.of (Ch.refl E) (by rw [v_go, if_neg (fun z => h_5 z.1)]) (by rw [p_go, if_neg (fun z => h_5 z.1)]; rfl), rfl⟩
  · have hx_f := h_5
    obtain ⟨f, hf_f, rfl⟩ := inN_of h_5 (by omega)
    have hcl_f : cl (nI f) = f := nI_clamp (by omega)
    have kf_f := K.f hf_f
    refine w_iload_n dX8_go_8 rfl ?_
    refine w_i2l dX8_go_9 rfl ?_
    refine w_lconst (v := 0) dX8_go_10 rfl ?_
    refine w_aload_n dX8_go_11 rfl ?_
    refine mg_at dX8_go_12 rfl ?_
    refine w_iconst (v := nI 0) dX8_go_15 ki_0 ?_
    refine ma_at dX8_go_16 (by omega) ?_
    refine w_topN (E.s 0 (by omega)) ?_
    refine w_i2l dX8_go_17 rfl ?_
    refine w_lconst (v := 1) dX8_go_18 rfl ?_
    refine w_lsub dX8_go_19 ?_
    rw [nI_l (by omega), show lN (vs V 0) - 1 = lN (vs V 0 - 1) from lN_sub (a := vs V 0) (b := 1) (by omega)]
    refine s_calli3 (mi := miX8_isFrom) dX8_go_20 q1902 okX8_isFrom (Nat.le_of_ble_eq_true rfl) (c_isFrom0 (m := (vs V 0 - 1)) (by first | assumption | omega)) (Nat.le_of_ble_eq_true rfl) ?_
    rw [show vs V 0 - 1 + 1 = vs V 0 by omega]
    refine w_ifB_ne dX8_go_23 rfl (fun h_23 => ?_) (fun h_23 => ?_)
    · have hx_c := h_23
      obtain ⟨c, hc, rfl⟩ := inN_of h_23 (by omega)
      have hcl_c : cl (nI c) = c := nI_clamp (by omega)
      have hst := stepsV_le K (f := f) (c := c) (by omega) (by omega)
      refine w_aload_n dX8_go_32 rfl ?_
      refine w_iload_n dX8_go_33 rfl ?_
      refine w_iload_n dX8_go_34 rfl ?_
      refine m_callPi2 (mi := miX8_went) dX8_go_35 q1905 okX8_went rfl (Nat.le_of_ble_eq_true rfl) (c_went E K (by first | assumption | omega) (by first | assumption | omega)) (Nat.le_of_ble_eq_true rfl) (fun S35 hS35 => ?_)
      refine w_ifB_eq dX8_go_38 rfl (fun h_38 => ?_) (fun h_38 => ?_)
      · refine w_aload_n dX8_go_59 rfl ?_
        refine w_bipush (v := nI 7) dX8_go_60 kb_7 ?_
        refine m_calli1 (mi := miX8_refuse) dX8_go_62 q1746 okX8_refuse rfl (Nat.le_of_ble_eq_true rfl) c_refuse (Nat.le_of_ble_eq_true rfl) ?_
        exact w_iret dX8_go_65 rfl ⟨by rw [p_go, if_pos ⟨hx_f, hx_c⟩, hcl_f, hcl_c, if_pos (Classical.not_not.mp h_38)]; rfl, _, by exact ChS.of hS35 (by rw [v_go, if_pos ⟨hx_f, hx_c⟩, hcl_f, hcl_c]) (by rw [p_go, if_pos ⟨hx_f, hx_c⟩, hcl_f, hcl_c, if_pos (Classical.not_not.mp h_38)]; rfl), rfl⟩
      · refine w_aload_n dX8_go_41 rfl ?_
        refine w_aload_n dX8_go_42 rfl ?_
        refine mg_at dX8_go_43 rfl ?_
        refine w_iload_n dX8_go_46 rfl ?_
        refine s_calli1 (mi := miX8_finderRow) dX8_go_47 q1879 okX8_finderRow (Nat.le_of_ble_eq_true rfl) c_finderRow (Nat.le_of_ble_eq_true rfl) ?_
        refine w_iconst (v := nI 3) dX8_go_50 ki_3 ?_
        refine w_iaddN dX8_go_51 ?_
        refine ma_at dX8_go_52 (by omega) ?_
        refine w_topN (n := vt V 3 f + stepsV V f c) ((hS35.E.f 3 (by omega) (by omega)).trans (by rw [went_3 h_38])) ?_
        refine m_calli1 (mi := miX8_gives) dX8_go_53 q1839 okX8_gives rfl (Nat.le_of_ble_eq_true rfl) c_gives (Nat.le_of_ble_eq_true rfl) ?_
        refine w_goto dX8_go_56 rfl ?_
        exact w_iret dX8_go_65 rfl ⟨by rw [p_go, if_pos ⟨hx_f, hx_c⟩, hcl_f, hcl_c, if_neg h_38]; rfl, _, by exact ChS.of hS35 (by rw [v_go, if_pos ⟨hx_f, hx_c⟩, hcl_f, hcl_c]) (by rw [p_go, if_pos ⟨hx_f, hx_c⟩, hcl_f, hcl_c, if_neg h_38]; rfl), rfl⟩
    · refine w_aload_n dX8_go_26 rfl ?_
      refine w_iconst (v := nI 1) dX8_go_27 ki_1 ?_
      refine m_calli1 (mi := miX8_refuse) dX8_go_28 q1746 okX8_refuse rfl (Nat.le_of_ble_eq_true rfl) c_refuse (Nat.le_of_ble_eq_true rfl) ?_
      exact w_iret dX8_go_31 rfl ⟨by rw [p_go, if_neg (fun z => h_23 z.2)]; rfl, _, by exact ChS.of (Ch.refl E) (by rw [v_go, if_neg (fun z => h_23 z.2)]) (by rw [p_go, if_neg (fun z => h_23 z.2)]; rfl), rfl⟩
set_option maxHeartbeats 4000000 in
theorem c_pass {g : GG} {S : MS} {x : Int32} {y : Int32} {V : VS} (E : Enc S V) (K : OkV V) : Mp g miX8_pass 4 [.int x, .int y] (S) (some (.int ((p_pass V x y).1))) (fun S2 => ChS S S2 (v_pass V x y) (p_pass V x y).2) := by
  refine Mp.start (fun b => [some (.ref b), some (.int x), some (.int y)]) plX8 rfl (fun b => (Nat.le_of_ble_eq_true rfl)) (fun b => rfl) ?_
  intro σ b
  have kb := K.b
  refine w_aload_n dX8_pass_0 rfl ?_
  refine w_iload_n dX8_pass_1 rfl ?_
  refine m_calli1 (mi := miX8_isFinder) dX8_pass_2 q1875 okX8_isFinder rfl (Nat.le_of_ble_eq_true rfl) (c_isFinder E K) (Nat.le_of_ble_eq_true rfl) ?_
  refine w_ifB_eq dX8_pass_5 rfl (fun h_5 => ?_) (fun h_5 => ?_)
  · refine w_aload_n dX8_pass_20 rfl ?_
    refine w_iconst (v := nI 1) dX8_pass_21 ki_1 ?_
    refine m_calli1 (mi := miX8_refuse) dX8_pass_22 q1746 okX8_refuse rfl (Nat.le_of_ble_eq_true rfl) c_refuse (Nat.le_of_ble_eq_true rfl) ?_
    exact w_iret dX8_pass_25 rfl ⟨by rw [p_pass, if_neg (fun z => h_5 z.1)]; rfl, _, by exact ChS.of (Ch.refl E) (by rw [v_pass, if_neg (fun z => h_5 z.1)]) (by rw [p_pass, if_neg (fun z => h_5 z.1)]; rfl), rfl⟩
  · have hx_f := h_5
    obtain ⟨f, hf_f, rfl⟩ := inN_of h_5 (by omega)
    have hcl_f : cl (nI f) = f := nI_clamp (by omega)
    have kf_f := K.f hf_f
    refine w_iload_n dX8_pass_8 rfl ?_
    refine w_i2l dX8_pass_9 rfl ?_
    refine w_lconst (v := 1) dX8_pass_10 rfl ?_
    refine w_ldc2 dX8_pass_11 q1922 ?_
    refine s_calli3 (mi := miX8_isFrom) dX8_pass_14 q1902 okX8_isFrom (Nat.le_of_ble_eq_true rfl) (c_isFrom1 (m := 240) (by first | assumption | omega)) (Nat.le_of_ble_eq_true rfl) ?_
    refine w_ifB_ne dX8_pass_17 rfl (fun h_17 => ?_) (fun h_17 => ?_)
    · have hx_m := h_17
      obtain ⟨m, hm, rfl⟩ := inN_of h_17.1 (by omega)
      have hcl_m : cl (nI m) = m := nI_clamp (by omega)
      refine w_aload_n dX8_pass_26 rfl ?_
      refine w_iload_n dX8_pass_27 rfl ?_
      refine w_iload_n dX8_pass_28 rfl ?_
      refine m_callPi2 (mi := miX8_waited) dX8_pass_29 q1923 okX8_waited rfl (Nat.le_of_ble_eq_true rfl) (c_waited E K (by first | assumption | omega) (by first | assumption | omega)) (Nat.le_of_ble_eq_true rfl) (fun S29 hS29 => ?_)
      refine w_ifB_eq dX8_pass_32 rfl (fun h_32 => ?_) (fun h_32 => ?_)
      · refine w_aload_n dX8_pass_53 rfl ?_
        refine w_bipush (v := nI 7) dX8_pass_54 kb_7 ?_
        refine m_calli1 (mi := miX8_refuse) dX8_pass_56 q1746 okX8_refuse rfl (Nat.le_of_ble_eq_true rfl) c_refuse (Nat.le_of_ble_eq_true rfl) ?_
        exact w_iret dX8_pass_59 rfl ⟨by rw [p_pass, if_pos ⟨hx_f, hx_m⟩, hcl_f, hcl_m, if_pos (Classical.not_not.mp h_32)]; rfl, _, by exact ChS.of hS29 (by rw [v_pass, if_pos ⟨hx_f, hx_m⟩, hcl_f, hcl_m]) (by rw [p_pass, if_pos ⟨hx_f, hx_m⟩, hcl_f, hcl_m, if_pos (Classical.not_not.mp h_32)]; rfl), rfl⟩
      · refine w_aload_n dX8_pass_35 rfl ?_
        refine w_aload_n dX8_pass_36 rfl ?_
        refine mg_at dX8_pass_37 rfl ?_
        refine w_iload_n dX8_pass_40 rfl ?_
        refine s_calli1 (mi := miX8_finderRow) dX8_pass_41 q1879 okX8_finderRow (Nat.le_of_ble_eq_true rfl) c_finderRow (Nat.le_of_ble_eq_true rfl) ?_
        refine w_iconst (v := nI 3) dX8_pass_44 ki_3 ?_
        refine w_iaddN dX8_pass_45 ?_
        refine ma_at dX8_pass_46 (by omega) ?_
        refine w_topN (n := vt V 3 f + m) ((hS29.E.f 3 (by omega) (by omega)).trans (by rw [waited_3 h_32])) ?_
        refine m_calli1 (mi := miX8_gives) dX8_pass_47 q1839 okX8_gives rfl (Nat.le_of_ble_eq_true rfl) c_gives (Nat.le_of_ble_eq_true rfl) ?_
        refine w_goto dX8_pass_50 rfl ?_
        exact w_iret dX8_pass_59 rfl ⟨by rw [p_pass, if_pos ⟨hx_f, hx_m⟩, hcl_f, hcl_m, if_neg h_32]; rfl, _, by exact ChS.of hS29 (by rw [v_pass, if_pos ⟨hx_f, hx_m⟩, hcl_f, hcl_m]) (by rw [p_pass, if_pos ⟨hx_f, hx_m⟩, hcl_f, hcl_m, if_neg h_32]; rfl), rfl⟩
    · refine w_aload_n dX8_pass_20 rfl ?_
      refine w_iconst (v := nI 1) dX8_pass_21 ki_1 ?_
      refine m_calli1 (mi := miX8_refuse) dX8_pass_22 q1746 okX8_refuse rfl (Nat.le_of_ble_eq_true rfl) c_refuse (Nat.le_of_ble_eq_true rfl) ?_
      exact w_iret dX8_pass_25 rfl ⟨by rw [p_pass, if_neg (fun z => h_17 z.2)]; rfl, _, by exact ChS.of (Ch.refl E) (by rw [v_pass, if_neg (fun z => h_17 z.2)]) (by rw [p_pass, if_neg (fun z => h_17 z.2)]; rfl), rfl⟩
set_option maxHeartbeats 4000000 in
theorem c_set {g : GG} {S : MS} {x : Int32} {y : Int32} {V : VS} (E : Enc S V) (K : OkV V) : Mp g miX8_set 4 [.int x, .int y] (S) (some (.int ((p_set V x y).1))) (fun S2 => ChS S S2 (v_set V x y) (p_set V x y).2) := by
  refine Mp.start (fun b => [some (.ref b), some (.int x), some (.int y), none]) plX8 rfl (fun b => (Nat.le_of_ble_eq_true rfl)) (fun b => rfl) ?_
  intro σ b
  have kb := K.b
  refine w_aload_n dX8_set_0 rfl ?_
  refine w_iload_n dX8_set_1 rfl ?_
  refine m_calli1 (mi := miX8_isFinder) dX8_set_2 q1875 okX8_isFinder rfl (Nat.le_of_ble_eq_true rfl) (c_isFinder E K) (Nat.le_of_ble_eq_true rfl) ?_
  refine w_ifB_eq dX8_set_5 rfl (fun h_5 => ?_) (fun h_5 => ?_)
  · refine w_aload_n dX8_set_16 rfl ?_
    refine w_iconst (v := nI 1) dX8_set_17 ki_1 ?_
    refine m_calli1 (mi := miX8_refuse) dX8_set_18 q1746 okX8_refuse rfl (Nat.le_of_ble_eq_true rfl) c_refuse (Nat.le_of_ble_eq_true rfl) ?_
    exact w_iret dX8_set_21 rfl ⟨by rw [p_set, if_neg (fun z => h_5 z.1)]; rfl, _, by exact ChS.of (Ch.refl E) (by rw [v_set, if_neg (fun z => h_5 z.1)]) (by rw [p_set, if_neg (fun z => h_5 z.1)]; rfl), rfl⟩
  · have hx_f := h_5
    obtain ⟨f, hf_f, rfl⟩ := inN_of h_5 (by omega)
    have hcl_f : cl (nI f) = f := nI_clamp (by omega)
    have kf_f := K.f hf_f
    refine w_aload_n dX8_set_8 rfl ?_
    refine w_iload_n dX8_set_9 rfl ?_
    refine m_calli1 (mi := miX8_isFind) dX8_set_10 q1886 okX8_isFind rfl (Nat.le_of_ble_eq_true rfl) (c_isFind E K) (Nat.le_of_ble_eq_true rfl) ?_
    refine w_ifB_ne dX8_set_13 rfl (fun h_13 => ?_) (fun h_13 => ?_)
    · have hx_d := h_13
      obtain ⟨d, hf_d, rfl⟩ := inN_of h_13 (by omega)
      have hcl_d : cl (nI d) = d := nI_clamp (by omega)
      have kf_d := K.d hf_d
      refine w_aload_n dX8_set_22 rfl ?_
      refine w_iload_n dX8_set_23 rfl ?_
      refine w_iload_n dX8_set_24 rfl ?_
      refine m_calli2 (mi := miX8_wrongSet) dX8_set_25 q1931 okX8_wrongSet rfl (Nat.le_of_ble_eq_true rfl) (c_wrongSet E K (by first | assumption | omega) (by first | assumption | omega)) (Nat.le_of_ble_eq_true rfl) ?_
      have hwl := wsetV_lt V f d
      refine w_istore_n dX8_set_28 rfl (Nat.le_of_ble_eq_true rfl) ls_4_3 ?_
      refine w_iload_n dX8_set_29 rfl ?_
      refine w_ifN_le dX8_set_30 rfl (by omega) (fun h_30 => ?_) (fun h_30 => ?_)
      · have h_30 : wsetV V f d = 0 := by omega
        have K1 := OkV.sets K hf_f hf_d h_30
        have hws := wsetV_0 h_30
        refine w_aload_n dX8_set_39 rfl ?_
        refine w_iload_n dX8_set_40 rfl ?_
        refine w_iload_n dX8_set_41 rfl ?_
        refine m_callPv2 (mi := miX8_sets) dX8_set_42 q1939 okX8_sets rfl (Nat.le_of_ble_eq_true rfl) (c_sets E K (by first | assumption | omega) (by first | assumption | omega) (by omega) (by omega)) (Nat.le_of_ble_eq_true rfl) (fun S42 hS42 => ?_)
        refine w_aload_n dX8_set_45 rfl ?_
        refine w_aload_n dX8_set_46 rfl ?_
        refine w_iload_n dX8_set_47 rfl ?_
        refine m_calli1 (mi := miX8_manyOn) dX8_set_48 q1894 okX8_manyOn rfl (Nat.le_of_ble_eq_true rfl) (c_manyOn hS42.E K1 (by first | assumption | omega)) (Nat.le_of_ble_eq_true rfl) ?_
        rw [sets_7]
        refine m_calli1 (mi := miX8_gives) dX8_set_51 q1839 okX8_gives rfl (Nat.le_of_ble_eq_true rfl) c_gives (Nat.le_of_ble_eq_true rfl) ?_
        exact w_iret dX8_set_54 rfl ⟨by rw [p_set, if_pos ⟨hx_f, hx_d⟩, hcl_f, hcl_d, if_pos h_30]; rfl, _, by exact ChS.of hS42 (by rw [v_set, if_pos ⟨hx_f, hx_d⟩, hcl_f, hcl_d, if_pos h_30]) (by rw [p_set, if_pos ⟨hx_f, hx_d⟩, hcl_f, hcl_d, if_pos h_30]; rfl), rfl⟩
      · have h_30 : wsetV V f d ≠ 0 := by omega
        refine w_aload_n dX8_set_33 rfl ?_
        refine w_iload_n dX8_set_34 rfl ?_
        refine m_calli1 (mi := miX8_refuse) dX8_set_35 q1746 okX8_refuse rfl (Nat.le_of_ble_eq_true rfl) c_refuse (Nat.le_of_ble_eq_true rfl) ?_
        exact w_iret dX8_set_38 rfl ⟨by rw [p_set, if_pos ⟨hx_f, hx_d⟩, hcl_f, hcl_d, if_neg h_30]; rfl, _, by exact ChS.of (Ch.refl E) (by rw [v_set, if_pos ⟨hx_f, hx_d⟩, hcl_f, hcl_d, if_neg h_30]) (by rw [p_set, if_pos ⟨hx_f, hx_d⟩, hcl_f, hcl_d, if_neg h_30]; rfl), rfl⟩
    · refine w_aload_n dX8_set_16 rfl ?_
      refine w_iconst (v := nI 1) dX8_set_17 ki_1 ?_
      refine m_calli1 (mi := miX8_refuse) dX8_set_18 q1746 okX8_refuse rfl (Nat.le_of_ble_eq_true rfl) c_refuse (Nat.le_of_ble_eq_true rfl) ?_
      exact w_iret dX8_set_21 rfl ⟨by rw [p_set, if_neg (fun z => h_13 z.2)]; rfl, _, by exact ChS.of (Ch.refl E) (by rw [v_set, if_neg (fun z => h_13 z.2)]) (by rw [p_set, if_neg (fun z => h_13 z.2)]; rfl), rfl⟩
set_option maxHeartbeats 4000000 in
theorem c_lift {g : GG} {S : MS} {x : Int32} {y : Int32} {V : VS} (E : Enc S V) (K : OkV V) : Mp g miX8_lift 5 [.int x, .int y] (S) (some (.int ((p_lift V x y).1))) (fun S2 => ChS S S2 (v_lift V x y) (p_lift V x y).2) := by
  refine Mp.start (fun b => [some (.ref b), some (.int x), some (.int y), none]) plX8 rfl (fun b => (Nat.le_of_ble_eq_true rfl)) (fun b => rfl) ?_
  intro σ b
  have kb := K.b
  refine w_aload_n dX8_lift_0 rfl ?_
  refine w_iload_n dX8_lift_1 rfl ?_
  refine m_calli1 (mi := miX8_isFinder) dX8_lift_2 q1875 okX8_isFinder rfl (Nat.le_of_ble_eq_true rfl) (c_isFinder E K) (Nat.le_of_ble_eq_true rfl) ?_
  refine w_ifB_eq dX8_lift_5 rfl (fun h_5 => ?_) (fun h_5 => ?_)
  · refine w_aload_n dX8_lift_16 rfl ?_
    refine w_iconst (v := nI 1) dX8_lift_17 ki_1 ?_
    refine m_calli1 (mi := miX8_refuse) dX8_lift_18 q1746 okX8_refuse rfl (Nat.le_of_ble_eq_true rfl) c_refuse (Nat.le_of_ble_eq_true rfl) ?_
    exact w_iret dX8_lift_21 rfl ⟨by rw [p_lift, if_neg (fun z => h_5 z.1)]; rfl, _, by exact ChS.of (Ch.refl E) (by rw [v_lift, if_neg (fun z => h_5 z.1)]) (by rw [p_lift, if_neg (fun z => h_5 z.1)]; rfl), rfl⟩
  · have hx_f := h_5
    obtain ⟨f, hf_f, rfl⟩ := inN_of h_5 (by omega)
    have hcl_f : cl (nI f) = f := nI_clamp (by omega)
    have kf_f := K.f hf_f
    refine w_aload_n dX8_lift_8 rfl ?_
    refine w_iload_n dX8_lift_9 rfl ?_
    refine m_calli1 (mi := miX8_isFind) dX8_lift_10 q1886 okX8_isFind rfl (Nat.le_of_ble_eq_true rfl) (c_isFind E K) (Nat.le_of_ble_eq_true rfl) ?_
    refine w_ifB_ne dX8_lift_13 rfl (fun h_13 => ?_) (fun h_13 => ?_)
    · have hx_d := h_13
      obtain ⟨d, hf_d, rfl⟩ := inN_of h_13 (by omega)
      have hcl_d : cl (nI d) = d := nI_clamp (by omega)
      have kf_d := K.d hf_d
      refine w_aload_n dX8_lift_22 rfl ?_
      refine w_iload_n dX8_lift_23 rfl ?_
      refine w_iload_n dX8_lift_24 rfl ?_
      refine m_calli2 (mi := miX8_wrongLift) dX8_lift_25 q1947 okX8_wrongLift rfl (Nat.le_of_ble_eq_true rfl) (c_wrongLift E K (by first | assumption | omega) (by first | assumption | omega)) (Nat.le_of_ble_eq_true rfl) ?_
      have hwl := wliV_lt V f d
      refine w_istore_n dX8_lift_28 rfl (Nat.le_of_ble_eq_true rfl) ls_4_3 ?_
      refine w_iload_n dX8_lift_29 rfl ?_
      refine w_ifN_le dX8_lift_30 rfl (by omega) (fun h_30 => ?_) (fun h_30 => ?_)
      · have h_30 : wliV V f d = 0 := by omega
        have hws := wliV_0 h_30
        refine w_aload_n dX8_lift_41 rfl ?_
        refine w_aload_n dX8_lift_42 rfl ?_
        refine w_iload_n dX8_lift_43 rfl ?_
        refine w_iload_n dX8_lift_44 rfl ?_
        refine m_callPi2 (mi := miX8_lifts) dX8_lift_45 q1959 okX8_lifts rfl (Nat.le_of_ble_eq_true rfl) (c_lifts E K (by first | assumption | omega) (by first | assumption | omega) hws.1) (Nat.le_of_ble_eq_true rfl) (fun S45 hS45 => ?_)
        refine m_calli1 (mi := miX8_gives) dX8_lift_48 q1839 okX8_gives rfl (Nat.le_of_ble_eq_true rfl) c_gives (Nat.le_of_ble_eq_true rfl) ?_
        exact w_iret dX8_lift_51 rfl ⟨by rw [p_lift, if_pos ⟨hx_f, hx_d⟩, hcl_f, hcl_d, if_pos h_30]; rfl, _, by exact ChS.of hS45 (by rw [v_lift, if_pos ⟨hx_f, hx_d⟩, hcl_f, hcl_d, if_pos h_30]) (by rw [p_lift, if_pos ⟨hx_f, hx_d⟩, hcl_f, hcl_d, if_pos h_30]; rfl), rfl⟩
      · have h_30 : wliV V f d ≠ 0 := by omega
        refine w_aload_n dX8_lift_33 rfl ?_
        refine w_iload_n dX8_lift_34 rfl ?_
        refine m_calli1 (mi := miX8_refuse) dX8_lift_35 q1746 okX8_refuse rfl (Nat.le_of_ble_eq_true rfl) c_refuse (Nat.le_of_ble_eq_true rfl) ?_
        refine w_goto dX8_lift_38 rfl ?_
        exact w_iret dX8_lift_51 rfl ⟨by rw [p_lift, if_pos ⟨hx_f, hx_d⟩, hcl_f, hcl_d, if_neg h_30]; rfl, _, by exact ChS.of (Ch.refl E) (by rw [v_lift, if_pos ⟨hx_f, hx_d⟩, hcl_f, hcl_d, if_neg h_30]) (by rw [p_lift, if_pos ⟨hx_f, hx_d⟩, hcl_f, hcl_d, if_neg h_30]; rfl), rfl⟩
    · refine w_aload_n dX8_lift_16 rfl ?_
      refine w_iconst (v := nI 1) dX8_lift_17 ki_1 ?_
      refine m_calli1 (mi := miX8_refuse) dX8_lift_18 q1746 okX8_refuse rfl (Nat.le_of_ble_eq_true rfl) c_refuse (Nat.le_of_ble_eq_true rfl) ?_
      exact w_iret dX8_lift_21 rfl ⟨by rw [p_lift, if_neg (fun z => h_13 z.2)]; rfl, _, by exact ChS.of (Ch.refl E) (by rw [v_lift, if_neg (fun z => h_13 z.2)]) (by rw [p_lift, if_neg (fun z => h_13 z.2)]; rfl), rfl⟩
set_option maxHeartbeats 4000000 in
theorem c_gull {g : GG} {S : MS} {x : Int32} {y : Int32} {V : VS} (E : Enc S V) (K : OkV V) : Mp g miX8_gull 4 [.int x, .int y] (S) (some (.int ((p_gull V x y).1))) (fun S2 => ChS S S2 (v_gull V x y) (p_gull V x y).2) := by
  refine Mp.start (fun b => [some (.ref b), some (.int x), some (.int y), none]) plX8 rfl (fun b => (Nat.le_of_ble_eq_true rfl)) (fun b => rfl) ?_
  intro σ b
  have kb := K.b
  refine w_aload_n dX8_gull_0 rfl ?_
  refine w_iload_n dX8_gull_1 rfl ?_
  refine m_calli1 (mi := miX8_isFind) dX8_gull_2 q1886 okX8_isFind rfl (Nat.le_of_ble_eq_true rfl) (c_isFind E K) (Nat.le_of_ble_eq_true rfl) ?_
  refine w_ifB_eq dX8_gull_5 rfl (fun h_5 => ?_) (fun h_5 => ?_)
  · refine w_aload_n dX8_gull_21 rfl ?_
    refine w_iconst (v := nI 1) dX8_gull_22 ki_1 ?_
    refine m_calli1 (mi := miX8_refuse) dX8_gull_23 q1746 okX8_refuse rfl (Nat.le_of_ble_eq_true rfl) c_refuse (Nat.le_of_ble_eq_true rfl) ?_
    exact w_iret dX8_gull_26 rfl ⟨by rw [p_gull, if_neg (fun z => h_5 z.1)]; rfl, _, by exact ChS.of (Ch.refl E) (by rw [v_gull, if_neg (fun z => h_5 z.1)]) (by rw [p_gull, if_neg (fun z => h_5 z.1)]; rfl), rfl⟩
  · have hx_d := h_5
    obtain ⟨d, hf_d, rfl⟩ := inN_of h_5 (by omega)
    have hcl_d : cl (nI d) = d := nI_clamp (by omega)
    have kf_d := K.d hf_d
    refine w_aload_n dX8_gull_8 rfl ?_
    refine w_iload_n dX8_gull_9 rfl ?_
    refine m_calli1 (mi := miX8_isFind) dX8_gull_10 q1886 okX8_isFind rfl (Nat.le_of_ble_eq_true rfl) (c_isFind E K) (Nat.le_of_ble_eq_true rfl) ?_
    refine w_ifB_eq dX8_gull_13 rfl (fun h_13 => ?_) (fun h_13 => ?_)
    · refine w_aload_n dX8_gull_21 rfl ?_
      refine w_iconst (v := nI 1) dX8_gull_22 ki_1 ?_
      refine m_calli1 (mi := miX8_refuse) dX8_gull_23 q1746 okX8_refuse rfl (Nat.le_of_ble_eq_true rfl) c_refuse (Nat.le_of_ble_eq_true rfl) ?_
      exact w_iret dX8_gull_26 rfl ⟨by rw [p_gull, if_neg (fun z => h_13 z.2.1)]; rfl, _, by exact ChS.of (Ch.refl E) (by rw [v_gull, if_neg (fun z => h_13 z.2.1)]) (by rw [p_gull, if_neg (fun z => h_13 z.2.1)]; rfl), rfl⟩
    · have hx_e := h_13
      obtain ⟨e, hf_e, rfl⟩ := inN_of h_13 (by omega)
      have hcl_e : cl (nI e) = e := nI_clamp (by omega)
      have kf_e := K.d hf_e
      refine w_iload_n dX8_gull_16 rfl ?_
      refine w_iload_n dX8_gull_17 rfl ?_
      refine w_icmpN_ne dX8_gull_18 rfl (by omega) (by omega) (fun h_18 => ?_) (fun h_18 => ?_)
      · have hne : nI d ≠ nI e := fun z => h_18 ((nI_eq (by omega) (by omega)).mp z)
        refine w_aload_n dX8_gull_27 rfl ?_
        refine w_iload_n dX8_gull_28 rfl ?_
        refine w_iload_n dX8_gull_29 rfl ?_
        refine m_calli2 (mi := miX8_wrongGull) dX8_gull_30 q1975 okX8_wrongGull rfl (Nat.le_of_ble_eq_true rfl) (c_wrongGull E K (by first | assumption | omega) (by first | assumption | omega)) (Nat.le_of_ble_eq_true rfl) ?_
        have hwl := wgV_lt V d e
        refine w_istore_n dX8_gull_33 rfl (Nat.le_of_ble_eq_true rfl) ls_4_3 ?_
        refine w_iload_n dX8_gull_34 rfl ?_
        refine w_ifN_le dX8_gull_35 rfl (by omega) (fun h_35 => ?_) (fun h_35 => ?_)
        · have h_35 : wgV V d e = 0 := by omega
          have hws := wgV_0 h_35
          refine w_aload_n dX8_gull_46 rfl ?_
          refine w_aload_n dX8_gull_47 rfl ?_
          refine w_iload_n dX8_gull_48 rfl ?_
          refine w_iload_n dX8_gull_49 rfl ?_
          refine m_callPi2 (mi := miX8_carries) dX8_gull_50 q1979 okX8_carries rfl (Nat.le_of_ble_eq_true rfl) (c_carries E K (by first | assumption | omega) (by first | assumption | omega) hws.1 h_18) (Nat.le_of_ble_eq_true rfl) (fun S50 hS50 => ?_)
          refine m_calli1 (mi := miX8_gives) dX8_gull_53 q1839 okX8_gives rfl (Nat.le_of_ble_eq_true rfl) c_gives (Nat.le_of_ble_eq_true rfl) ?_
          exact w_iret dX8_gull_56 rfl ⟨by rw [p_gull, if_pos ⟨hx_d, hx_e, hne⟩, hcl_d, hcl_e, if_pos h_35]; rfl, _, by exact ChS.of hS50 (by rw [v_gull, if_pos ⟨hx_d, hx_e, hne⟩, hcl_d, hcl_e, if_pos h_35]) (by rw [p_gull, if_pos ⟨hx_d, hx_e, hne⟩, hcl_d, hcl_e, if_pos h_35]; rfl), rfl⟩
        · have h_35 : wgV V d e ≠ 0 := by omega
          refine w_aload_n dX8_gull_38 rfl ?_
          refine w_iload_n dX8_gull_39 rfl ?_
          refine m_calli1 (mi := miX8_refuse) dX8_gull_40 q1746 okX8_refuse rfl (Nat.le_of_ble_eq_true rfl) c_refuse (Nat.le_of_ble_eq_true rfl) ?_
          refine w_goto dX8_gull_43 rfl ?_
          exact w_iret dX8_gull_56 rfl ⟨by rw [p_gull, if_pos ⟨hx_d, hx_e, hne⟩, hcl_d, hcl_e, if_neg h_35]; rfl, _, by exact ChS.of (Ch.refl E) (by rw [v_gull, if_pos ⟨hx_d, hx_e, hne⟩, hcl_d, hcl_e, if_neg h_35]) (by rw [p_gull, if_pos ⟨hx_d, hx_e, hne⟩, hcl_d, hcl_e, if_neg h_35]; rfl), rfl⟩
      · have hne : nI d = nI e := by rw [h_18]
        refine w_aload_n dX8_gull_21 rfl ?_
        refine w_iconst (v := nI 1) dX8_gull_22 ki_1 ?_
        refine m_calli1 (mi := miX8_refuse) dX8_gull_23 q1746 okX8_refuse rfl (Nat.le_of_ble_eq_true rfl) c_refuse (Nat.le_of_ble_eq_true rfl) ?_
        exact w_iret dX8_gull_26 rfl ⟨by rw [p_gull, if_neg (fun z => z.2.2 hne)]; rfl, _, by exact ChS.of (Ch.refl E) (by rw [v_gull, if_neg (fun z => z.2.2 hne)]) (by rw [p_gull, if_neg (fun z => z.2.2 hne)]; rfl), rfl⟩
set_option maxHeartbeats 4000000 in
theorem c_wave {g : GG} {S : MS} {x : Int32} {V : VS} (E : Enc S V) (K : OkV V) : Mp g miX8_wave 4 [.int x] (S) (some (.int ((p_wave V x).1))) (fun S2 => ChS S S2 (v_wave V x) (p_wave V x).2) := by
  refine Mp.start (fun b => [some (.ref b), some (.int x)]) plX8 rfl (fun b => (Nat.le_of_ble_eq_true rfl)) (fun b => rfl) ?_
  intro σ b
  have kb := K.b
  refine w_iload_n dX8_wave_0 rfl ?_
  refine w_i2l dX8_wave_1 rfl ?_
  refine w_lconst (v := 0) dX8_wave_2 rfl ?_
  refine w_ldc2 dX8_wave_3 q1987 ?_
  refine s_calli3 (mi := miX8_isFrom) dX8_wave_6 q1902 okX8_isFrom (Nat.le_of_ble_eq_true rfl) (c_isFrom0 (m := 40) (by first | assumption | omega)) (Nat.le_of_ble_eq_true rfl) ?_
  refine w_ifB_eq dX8_wave_9 rfl (fun h_9 => ?_) (fun h_9 => ?_)
  · refine w_aload_n dX8_wave_24 rfl ?_
    refine w_iconst (v := nI 1) dX8_wave_25 ki_1 ?_
    refine m_calli1 (mi := miX8_refuse) dX8_wave_26 q1746 okX8_refuse rfl (Nat.le_of_ble_eq_true rfl) c_refuse (Nat.le_of_ble_eq_true rfl) ?_
    exact w_iret dX8_wave_29 rfl ⟨by rw [p_wave, if_neg h_9]; rfl, _, by exact ChS.of (Ch.refl E) (by rw [v_wave, if_neg h_9]) (by rw [p_wave, if_neg h_9]; rfl), rfl⟩
  · have hx_q := h_9
    obtain ⟨q, hq, rfl⟩ := inN_of h_9 (by omega)
    have hcl_q : cl (nI q) = q := nI_clamp (by omega)
    refine w_aload_n dX8_wave_12 rfl ?_
    refine w_aload_n dX8_wave_13 rfl ?_
    refine w_iload_n dX8_wave_14 rfl ?_
    refine m_callPi1 (mi := miX8_washes) dX8_wave_15 q1988 okX8_washes rfl (Nat.le_of_ble_eq_true rfl) (c_washes E K (by omega)) (Nat.le_of_ble_eq_true rfl) (fun S15 hS15 => ?_)
    refine m_calli1 (mi := miX8_gives) dX8_wave_18 q1839 okX8_gives rfl (Nat.le_of_ble_eq_true rfl) c_gives (Nat.le_of_ble_eq_true rfl) ?_
    refine w_goto dX8_wave_21 rfl ?_
    exact w_iret dX8_wave_29 rfl ⟨by rw [p_wave, if_pos hx_q, hcl_q]; rfl, _, by exact ChS.of hS15 (by rw [v_wave, if_pos hx_q, hcl_q]) (by rw [p_wave, if_pos hx_q, hcl_q]; rfl), rfl⟩
set_option maxHeartbeats 4000000 in
theorem c_tide {g : GG} {S : MS} {V : VS} (E : Enc S V) (K : OkV V) (hkep : KepV V) : Mp g miX8_tide 6 [] (S) (some (.int ((p_tide V).1))) (fun S2 => ChS S S2 (v_tide V) (p_tide V).2) := by
  refine Mp.start (fun b => [some (.ref b)]) plX8 rfl (fun b => (Nat.le_of_ble_eq_true rfl)) (fun b => rfl) ?_
  intro σ b
  have kb := K.b
  refine w_aload_n dX8_tide_0 rfl ?_
  refine mg_at dX8_tide_1 rfl ?_
  refine w_bipush (v := nI 6) dX8_tide_4 kb_6 ?_
  refine ma_at dX8_tide_6 (by omega) ?_
  refine w_topN (E.s 6 (by omega)) ?_
  refine w_bipush (v := nI 99) dX8_tide_7 kb_99 ?_
  refine w_icmpN_ne dX8_tide_9 rfl (by omega) (by omega) (fun h_9 => ?_) (fun h_9 => ?_)
  · refine w_aload_n dX8_tide_18 rfl ?_
    refine mg_at dX8_tide_19 rfl ?_
    refine w_bipush (v := nI 7) dX8_tide_22 kb_7 ?_
    refine ma_at dX8_tide_24 (by omega) ?_
    refine w_topN (E.s 7 (by omega)) ?_
    refine w_ifN_ne dX8_tide_25 rfl (by omega) (fun h_25 => ?_) (fun h_25 => ?_)
    · refine w_aload_n dX8_tide_35 rfl ?_
      refine m_callPv0 (mi := miX8_floods) dX8_tide_36 q2149 okX8_floods rfl (Nat.le_of_ble_eq_true rfl) (c_floods E K (by first | assumption | omega) (by omega)) (Nat.le_of_ble_eq_true rfl) (fun S36 hS36 => ?_)
      refine w_aload_n dX8_tide_39 rfl ?_
      refine w_aload_n dX8_tide_40 rfl ?_
      refine mg_at dX8_tide_41 rfl ?_
      refine w_bipush (v := nI 6) dX8_tide_44 kb_6 ?_
      refine ma_at dX8_tide_46 (by omega) ?_
      refine w_topN (n := vs V 6 + 1) ((hS36.E.s 6 (by omega)).trans (by rw [flood_s, if_neg (by omega), if_pos rfl])) ?_
      refine m_calli1 (mi := miX8_gives) dX8_tide_47 q1839 okX8_gives rfl (Nat.le_of_ble_eq_true rfl) c_gives (Nat.le_of_ble_eq_true rfl) ?_
      exact w_iret dX8_tide_50 rfl ⟨by rw [p_tide, if_neg h_9, if_neg (by omega)]; rfl, _, by exact ChS.of hS36 (by rw [v_tide, if_neg h_9, if_neg (by omega)]) (by rw [p_tide, if_neg h_9, if_neg (by omega)]; rfl), rfl⟩
    · refine w_aload_n dX8_tide_28 rfl ?_
      refine w_bipush (v := nI 7) dX8_tide_29 kb_7 ?_
      refine m_calli1 (mi := miX8_refuse) dX8_tide_31 q1746 okX8_refuse rfl (Nat.le_of_ble_eq_true rfl) c_refuse (Nat.le_of_ble_eq_true rfl) ?_
      exact w_iret dX8_tide_34 rfl ⟨by rw [p_tide, if_neg h_9, if_pos h_25]; rfl, _, by exact ChS.of (Ch.refl E) (by rw [v_tide, if_neg h_9, if_pos h_25]) (by rw [p_tide, if_neg h_9, if_pos h_25]; rfl), rfl⟩
  · refine w_aload_n dX8_tide_12 rfl ?_
    refine w_iconst (v := nI 4) dX8_tide_13 ki_4 ?_
    refine m_calli1 (mi := miX8_refuse) dX8_tide_14 q1746 okX8_refuse rfl (Nat.le_of_ble_eq_true rfl) c_refuse (Nat.le_of_ble_eq_true rfl) ?_
    exact w_iret dX8_tide_17 rfl ⟨by rw [p_tide, if_pos h_9]; rfl, _, by exact ChS.of (Ch.refl E) (by rw [v_tide, if_pos h_9]) (by rw [p_tide, if_pos h_9]; rfl), rfl⟩
set_option maxHeartbeats 4000000 in
theorem c_dawn {g : GG} {S : MS} {V : VS} (E : Enc S V) (K : OkV V) : Mp g miX8_dawn 2 [] (S) (some (.int ((p_dawn V).1))) (fun S2 => ChS S S2 (v_dawn V) (p_dawn V).2) := by
  refine Mp.start (fun b => [some (.ref b)]) plX8 rfl (fun b => (Nat.le_of_ble_eq_true rfl)) (fun b => rfl) ?_
  intro σ b
  have kb := K.b
  refine w_aload_n dX8_dawn_0 rfl ?_
  refine mg_at dX8_dawn_1 rfl ?_
  refine w_bipush (v := nI 7) dX8_dawn_4 kb_7 ?_
  refine ma_at dX8_dawn_6 (by omega) ?_
  refine w_topN (E.s 7 (by omega)) ?_
  refine w_ifN_eq dX8_dawn_7 rfl (by omega) (fun h_7 => ?_) (fun h_7 => ?_)
  · refine w_aload_n dX8_dawn_17 rfl ?_
    refine m_callPv0 (mi := miX8_dawns) dX8_dawn_18 q2157 okX8_dawns rfl (Nat.le_of_ble_eq_true rfl) (c_dawns E K) (Nat.le_of_ble_eq_true rfl) (fun S18 hS18 => ?_)
    refine w_aload_n dX8_dawn_21 rfl ?_
    refine w_aload_n dX8_dawn_22 rfl ?_
    refine mg_at dX8_dawn_23 rfl ?_
    refine w_iconst (v := nI 2) dX8_dawn_26 ki_2 ?_
    refine ma_at dX8_dawn_27 (by omega) ?_
    refine w_topN (n := vs V 2) ((hS18.E.s 2 (by omega)).trans rfl) ?_
    refine m_calli1 (mi := miX8_gives) dX8_dawn_28 q1839 okX8_gives rfl (Nat.le_of_ble_eq_true rfl) c_gives (Nat.le_of_ble_eq_true rfl) ?_
    exact w_iret dX8_dawn_31 rfl ⟨by rw [p_dawn, if_pos (by omega)]; rfl, _, by exact ChS.of hS18 (by rw [v_dawn, if_pos (by omega)]) (by rw [p_dawn, if_pos (by omega)]; rfl), rfl⟩
  · refine w_aload_n dX8_dawn_10 rfl ?_
    refine w_bipush (v := nI 7) dX8_dawn_11 kb_7 ?_
    refine m_calli1 (mi := miX8_refuse) dX8_dawn_13 q1746 okX8_refuse rfl (Nat.le_of_ble_eq_true rfl) c_refuse (Nat.le_of_ble_eq_true rfl) ?_
    exact w_iret dX8_dawn_16 rfl ⟨by rw [p_dawn, if_neg (by omega)]; rfl, _, by exact ChS.of (Ch.refl E) (by rw [v_dawn, if_neg (by omega)]) (by rw [p_dawn, if_neg (by omega)]; rfl), rfl⟩
