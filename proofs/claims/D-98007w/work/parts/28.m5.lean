set_option maxRecDepth 100000
set_option maxHeartbeats 4000000 in
theorem c_walk {g : GG} {S : MS} {x : Int32} {y : Int32} {V : VS} (E : Enc S V) (K : OkV V) : Mt g miX8_walk 3 [.int x, .int y] (S) (some (.int ((q_walk V x y).1))) (sI S 2 (q_walk V x y).2) := by
  refine Mt.start (fun b => [some (.ref b), some (.int x), some (.int y)]) plX8 rfl (fun b => (Nat.le_of_ble_eq_true rfl)) (fun b => rfl) ?_
  intro σ b
  have kb := K.b
  refine w_aload_n dX8_walk_0 rfl ?_
  refine w_iload_n dX8_walk_1 rfl ?_
  refine m_calli1 (mi := miX8_isFinder) dX8_walk_2 q1875 okX8_isFinder rfl (Nat.le_of_ble_eq_true rfl) (c_isFinder E K) (Nat.le_of_ble_eq_true rfl) ?_
  refine w_ifB_eq dX8_walk_5 rfl (fun h_5 => ?_) (fun h_5 => ?_)
  · refine w_aload_n dX8_walk_38 rfl ?_
    refine w_iconst (v := nI 1) dX8_walk_39 ki_1 ?_
    refine m_calli1 (mi := miX8_refuse) dX8_walk_40 q1746 okX8_refuse rfl (Nat.le_of_ble_eq_true rfl) c_refuse (Nat.le_of_ble_eq_true rfl) ?_
    exact w_iret dX8_walk_43 rfl ⟨by first | rfl | (unfold q_walk; (try simp only [hcl_f, hcl_d]); (repeat' split) <;> first | rfl | contradiction | omega | (exfalso; simp_all; done)), by first | rfl | (unfold q_walk; (try simp only [hcl_f, hcl_d]); (repeat' split) <;> first | rfl | contradiction | omega | (exfalso; simp_all; done))⟩
  · have hx_f := h_5
    obtain ⟨f, hf_f, rfl⟩ := inN_of h_5 (by omega)
    have hcl_f : cl (nI f) = f := nI_clamp (by omega)
    have kf_f := K.f hf_f
    refine w_aload_n dX8_walk_8 rfl ?_
    refine w_iload_n dX8_walk_9 rfl ?_
    refine m_calli1 (mi := miX8_isFind) dX8_walk_10 q1886 okX8_isFind rfl (Nat.le_of_ble_eq_true rfl) (c_isFind E K) (Nat.le_of_ble_eq_true rfl) ?_
    refine w_ifB_eq dX8_walk_13 rfl (fun h_13 => ?_) (fun h_13 => ?_)
    · refine w_aload_n dX8_walk_38 rfl ?_
      refine w_iconst (v := nI 1) dX8_walk_39 ki_1 ?_
      refine m_calli1 (mi := miX8_refuse) dX8_walk_40 q1746 okX8_refuse rfl (Nat.le_of_ble_eq_true rfl) c_refuse (Nat.le_of_ble_eq_true rfl) ?_
      exact w_iret dX8_walk_43 rfl ⟨by first | rfl | (unfold q_walk; (try simp only [hcl_f, hcl_d]); (repeat' split) <;> first | rfl | contradiction | omega | (exfalso; simp_all; done)), by first | rfl | (unfold q_walk; (try simp only [hcl_f, hcl_d]); (repeat' split) <;> first | rfl | contradiction | omega | (exfalso; simp_all; done))⟩
    · have hx_d := h_13
      obtain ⟨d, hf_d, rfl⟩ := inN_of h_13 (by omega)
      have hcl_d : cl (nI d) = d := nI_clamp (by omega)
      have kf_d := K.d hf_d
      refine w_aload_n dX8_walk_16 rfl ?_
      refine w_aload_n dX8_walk_17 rfl ?_
      refine w_iload_n dX8_walk_18 rfl ?_
      refine w_aload_n dX8_walk_19 rfl ?_
      refine mg_at dX8_walk_20 rfl ?_
      refine w_iconst (v := nI 0) dX8_walk_23 ki_0 ?_
      refine w_iload_n dX8_walk_24 rfl ?_
      refine s_calli2 (mi := miX8_findRow) dX8_walk_25 q1813 okX8_findRow (Nat.le_of_ble_eq_true rfl) c_findRow (Nat.le_of_ble_eq_true rfl) ?_
      refine ma_at dX8_walk_28 (by omega) ?_
      refine w_topN (E.d0 (by omega)) ?_
      refine m_calli2 (mi := miX8_stepsTo) dX8_walk_29 q1909 okX8_stepsTo rfl (Nat.le_of_ble_eq_true rfl) (c_stepsTo E K (by first | assumption | omega) (by first | assumption | omega)) (Nat.le_of_ble_eq_true rfl) ?_
      refine m_calli1 (mi := miX8_gives) dX8_walk_32 q1839 okX8_gives rfl (Nat.le_of_ble_eq_true rfl) c_gives (Nat.le_of_ble_eq_true rfl) ?_
      refine w_goto dX8_walk_35 rfl ?_
      exact w_iret dX8_walk_43 rfl ⟨by first | rfl | (unfold q_walk; (try simp only [hcl_f, hcl_d]); (repeat' split) <;> first | rfl | contradiction | omega | (exfalso; simp_all; done)), by first | rfl | (unfold q_walk; (try simp only [hcl_f, hcl_d]); (repeat' split) <;> first | rfl | contradiction | omega | (exfalso; simp_all; done))⟩
set_option maxHeartbeats 4000000 in
theorem c_open {g : GG} {S : MS} {V : VS} (E : Enc S V) (K : OkV V) : Mt g miX8_open 5 [] (S) (some (.int ((q_open V).1))) (sI S 2 (q_open V).2) := by
  refine Mt.start (fun b => [some (.ref b), none, none]) plX8 rfl (fun b => (Nat.le_of_ble_eq_true rfl)) (fun b => rfl) ?_
  intro σ b
  have kb := K.b
  refine w_iconst (v := nI 0) dX8_open_0 ki_0 ?_
  refine w_istore_n dX8_open_1 rfl (Nat.le_of_ble_eq_true rfl) ls_3_1 ?_
  refine w_iconst (v := nI 0) dX8_open_2 ki_0 ?_
  refine w_istore_n dX8_open_3 rfl (Nat.le_of_ble_eq_true rfl) ls_3_2 ?_
  have lp : ∀ (j9 : Nat) (k : Nat), vs V 2 - k < j9 → k ≤ vs V 2 → Wp g (mtM g miX8_open 5 σ b (some (.int ((q_open V).1))) (sI S 2 (q_open V).2)) 0 0 4 [some (.ref b), some (.int (nI (foldN (fun d n => n + if isT V d ∧ ownersV V d = 0 then vt V 6 d else 0) 0 k))), some (.int (nI k))] [] (sM g σ b (S)) := by
    intro j9
    induction j9 with
    | zero => intro k hmu hk_k; exact absurd hmu (Nat.not_lt_zero _)
    | succ j9 ih_lp =>
      intro k hmu hk_k
      refine w_iload_n dX8_open_4 rfl ?_
      refine w_aload_n dX8_open_5 rfl ?_
      refine mg_at dX8_open_6 rfl ?_
      refine w_iconst (v := nI 2) dX8_open_9 ki_2 ?_
      refine ma_at dX8_open_10 (by omega) ?_
      refine w_topN (E.s 2 (by omega)) ?_
      refine w_icmpN_ge dX8_open_11 rfl (by omega) (by omega) (fun h_11 => ?_) (fun h_11 => ?_)
      · obtain rfl : k = vs V 2 := by omega
        refine w_aload_n dX8_open_55 rfl ?_
        refine w_iload_n dX8_open_56 rfl ?_
        refine m_calli1 (mi := miX8_gives) dX8_open_57 q1839 okX8_gives rfl (Nat.le_of_ble_eq_true rfl) c_gives (Nat.le_of_ble_eq_true rfl) ?_
        exact w_iret dX8_open_60 rfl ⟨by rfl, by rfl⟩
      · refine w_iload_n dX8_open_14 rfl ?_
        refine w_aload_n dX8_open_15 rfl ?_
        refine w_iload_n dX8_open_16 rfl ?_
        refine m_calli1 (mi := miX8_isThere) dX8_open_17 q1935 okX8_isThere rfl (Nat.le_of_ble_eq_true rfl) (c_isThere E K (by first | assumption | omega)) (Nat.le_of_ble_eq_true rfl) ?_
        refine w_ifB_eq dX8_open_20 rfl (fun h_20 => ?_) (fun h_20 => ?_)
        · refine w_iconst (v := nI 0) dX8_open_46 ki_0 ?_
          refine w_iaddN dX8_open_47 ?_
          refine w_istore_n dX8_open_48 rfl (Nat.le_of_ble_eq_true rfl) ls_3_1 ?_
          refine w_iinc dX8_open_49 rfl (nI_inc _ 1) rfl (Nat.le_of_ble_eq_true rfl) ls_3_2 ?_
          refine w_goto dX8_open_52 rfl ?_
          exact w_as (ih_lp (k + 1) (by omega) (by omega)) (by simp only [foldN_s]; (try split) <;> first | rfl | (exfalso; first | contradiction | omega | (simp_all; done))) rfl (rfl)
        · refine w_aload_n dX8_open_23 rfl ?_
          refine w_iload_n dX8_open_24 rfl ?_
          refine m_calli1 (mi := miX8_ownersOf) dX8_open_25 q2008 okX8_ownersOf rfl (Nat.le_of_ble_eq_true rfl) (c_ownersOf E K (by first | assumption | omega)) (Nat.le_of_ble_eq_true rfl) ?_
          refine w_ifN_ne dX8_open_28 rfl (by have := ownersV_lt K (d := k) (by omega); omega) (fun h_28 => ?_) (fun h_28 => ?_)
          · refine w_iconst (v := nI 0) dX8_open_46 ki_0 ?_
            refine w_iaddN dX8_open_47 ?_
            refine w_istore_n dX8_open_48 rfl (Nat.le_of_ble_eq_true rfl) ls_3_1 ?_
            refine w_iinc dX8_open_49 rfl (nI_inc _ 1) rfl (Nat.le_of_ble_eq_true rfl) ls_3_2 ?_
            refine w_goto dX8_open_52 rfl ?_
            exact w_as (ih_lp (k + 1) (by omega) (by omega)) (by simp only [foldN_s]; (try split) <;> first | rfl | (exfalso; first | contradiction | omega | (simp_all; done))) rfl (rfl)
          · refine w_aload_n dX8_open_31 rfl ?_
            refine mg_at dX8_open_32 rfl ?_
            refine w_iconst (v := nI 0) dX8_open_35 ki_0 ?_
            refine w_iload_n dX8_open_36 rfl ?_
            refine s_calli2 (mi := miX8_findRow) dX8_open_37 q1813 okX8_findRow (Nat.le_of_ble_eq_true rfl) c_findRow (Nat.le_of_ble_eq_true rfl) ?_
            refine w_iconst (v := nI 1) dX8_open_40 ki_1 ?_
            refine w_iaddN dX8_open_41 ?_
            refine ma_at dX8_open_42 (by omega) ?_
            refine w_topN (E.d1 (by omega)) ?_
            refine w_goto dX8_open_43 rfl ?_
            refine w_iaddN dX8_open_47 ?_
            refine w_istore_n dX8_open_48 rfl (Nat.le_of_ble_eq_true rfl) ls_3_1 ?_
            refine w_iinc dX8_open_49 rfl (nI_inc _ 1) rfl (Nat.le_of_ble_eq_true rfl) ls_3_2 ?_
            refine w_goto dX8_open_52 rfl ?_
            exact w_as (ih_lp (k + 1) (by omega) (by omega)) (by simp only [foldN_s]; (try split) <;> first | rfl | (exfalso; first | contradiction | omega | (simp_all; done))) rfl (rfl)
  exact lp (vs V 2 + 1) 0 (by omega) (by omega)
set_option maxHeartbeats 4000000 in
theorem c_farthest {g : GG} {S : MS} {x : Int32} {V : VS} (E : Enc S V) (K : OkV V) : Mt g miX8_farthest 3 [.int x] (S) (some (.int ((q_farthest V x).1))) (sI S 2 (q_farthest V x).2) := by
  refine Mt.start (fun b => [some (.ref b), some (.int x), none, none, none, none]) plX8 rfl (fun b => (Nat.le_of_ble_eq_true rfl)) (fun b => rfl) ?_
  intro σ b
  have kb := K.b
  refine w_aload_n dX8_farthest_0 rfl ?_
  refine w_iload_n dX8_farthest_1 rfl ?_
  refine m_calli1 (mi := miX8_isFinder) dX8_farthest_2 q1875 okX8_isFinder rfl (Nat.le_of_ble_eq_true rfl) (c_isFinder E K) (Nat.le_of_ble_eq_true rfl) ?_
  refine w_ifB_ne dX8_farthest_5 rfl (fun h_5 => ?_) (fun h_5 => ?_)
  · have hx_f := h_5
    obtain ⟨f, hf_f, rfl⟩ := inN_of h_5 (by omega)
    have hcl_f : cl (nI f) = f := nI_clamp (by omega)
    have kf_f := K.f hf_f
    refine w_iconst (v := (-1)) dX8_farthest_14 ki_m1 ?_
    refine w_istore_n dX8_farthest_15 rfl (Nat.le_of_ble_eq_true rfl) ls_6_2 ?_
    refine w_iconst (v := (-1)) dX8_farthest_16 ki_m1 ?_
    refine w_istore_n dX8_farthest_17 rfl (Nat.le_of_ble_eq_true rfl) ls_6_3 ?_
    refine w_iconst (v := nI 0) dX8_farthest_18 ki_0 ?_
    refine w_istore dX8_farthest_19 rfl (Nat.le_of_ble_eq_true rfl) ls_6_4 ?_
    have lp : ∀ (j9 : Nat) (k : Nat) (c : Nat), vs V 2 - k < j9 → k ≤ vs V 2 → farK V f k = c → c ≤ k → Wp g (mtM g miX8_farthest 3 σ b (some (.int ((q_farthest V (nI f)).1))) (sI S 2 (q_farthest V (nI f)).2)) 0 0 21 [some (.ref b), some (.int (nI f)), some (.int (nI c - nI 1)), some (.int (nI (farM V f c) - nI 1)), some (.int (nI k)), none] [] (sM g σ b (S)) := by
      intro j9
      induction j9 with
      | zero => intro k c hmu hk hc hck; exact absurd hmu (Nat.not_lt_zero _)
      | succ j9 ih_lp =>
        intro k c hmu hk hc hck
        refine w_iload dX8_farthest_21 rfl ?_
        refine w_aload_n dX8_farthest_23 rfl ?_
        refine mg_at dX8_farthest_24 rfl ?_
        refine w_iconst (v := nI 2) dX8_farthest_27 ki_2 ?_
        refine ma_at dX8_farthest_28 (by omega) ?_
        refine w_topN (E.s 2 (by omega)) ?_
        refine w_icmpN_ge dX8_farthest_29 rfl (by omega) (by omega) (fun h_29 => ?_) (fun h_29 => ?_)
        · obtain rfl : k = vs V 2 := by omega
          refine w_aload_n dX8_farthest_80 rfl ?_
          refine w_iload_n dX8_farthest_81 rfl ?_
          refine m_calli1 (mi := miX8_orNone) dX8_farthest_82 q2035 okX8_orNone rfl (Nat.le_of_ble_eq_true rfl) c_orNone (Nat.le_of_ble_eq_true rfl) ?_
          exact w_iret dX8_farthest_85 rfl ⟨by first | rfl | (rw [q_farthest, if_pos hx_f, hcl_f, hc]; rfl) | (rw [q_farthest, if_neg h_5]; rfl), by first | rfl | (rw [orA_2 (by omega), q_farthest, if_pos hx_f, hcl_f, hc]) | (rw [q_farthest, if_neg h_5]; rfl)⟩
        · have hkd := K.d (d := k) (by omega)
          have hst := stepsV_le K (f := f) (c := vt V 5 k) hf_f (by omega)
          have hfm : farM V f c < 1000 := by
            unfold farM
            split
            · omega
            · have := stepsV_le K (f := f) (c := vt V 5 (c - 1)) hf_f (by have := K.d (d := c - 1) (by omega); omega)
              omega
          refine w_aload_n dX8_farthest_32 rfl ?_
          refine w_iload_n dX8_farthest_33 rfl ?_
          refine w_aload_n dX8_farthest_34 rfl ?_
          refine mg_at dX8_farthest_35 rfl ?_
          refine w_iconst (v := nI 0) dX8_farthest_38 ki_0 ?_
          refine w_iload dX8_farthest_39 rfl ?_
          refine s_calli2 (mi := miX8_findRow) dX8_farthest_41 q1813 okX8_findRow (Nat.le_of_ble_eq_true rfl) c_findRow (Nat.le_of_ble_eq_true rfl) ?_
          refine ma_at dX8_farthest_44 (by omega) ?_
          refine w_topN (E.d0 (by omega)) ?_
          refine m_calli2 (mi := miX8_stepsTo) dX8_farthest_45 q1909 okX8_stepsTo rfl (Nat.le_of_ble_eq_true rfl) (c_stepsTo E K (by first | assumption | omega) (by first | assumption | omega)) (Nat.le_of_ble_eq_true rfl) ?_
          refine w_topN (show _ = nI (stepsV V f (vt V 5 k)) from rfl) ?_
          refine w_istore dX8_farthest_48 rfl (Nat.le_of_ble_eq_true rfl) ls_6_5 ?_
          refine w_aload_n dX8_farthest_50 rfl ?_
          refine w_iload dX8_farthest_51 rfl ?_
          refine m_calli1 (mi := miX8_isThere) dX8_farthest_53 q1935 okX8_isThere rfl (Nat.le_of_ble_eq_true rfl) (c_isThere E K (by first | assumption | omega)) (Nat.le_of_ble_eq_true rfl) ?_
          refine w_ifB_eq dX8_farthest_56 rfl (fun h_56 => ?_) (fun h_56 => ?_)
          · refine w_iinc dX8_farthest_74 rfl (nI_inc _ 1) rfl (Nat.le_of_ble_eq_true rfl) ls_6_4 ?_
            refine w_goto dX8_farthest_77 rfl ?_
            exact w_L (wkS (wkS (wkS (wkS (wkS (wkN wk0)))))) (ih_lp (k + 1) c (by omega) (by omega) (by rw [far_s, hc, if_neg (fun z => h_56 z.1)]) (by omega))
          · refine w_iload dX8_farthest_59 rfl ?_
            refine w_iload_n dX8_farthest_61 rfl ?_
            refine w_icmp_gt dX8_farthest_62 rfl (fun h_62 => ?_) (fun h_62 => ?_)
            · have h_62 : ¬ stepsV V f (vt V 5 k) < farM V f c := fun z => absurd ((le_m1 (by omega) (by omega)).mpr z) (by rw [Int32.not_le]; exact h_62)
              refine w_iload dX8_farthest_68 rfl ?_
              refine w_istore_n dX8_farthest_70 rfl (Nat.le_of_ble_eq_true rfl) ls_6_3 ?_
              refine w_iload dX8_farthest_71 rfl ?_
              refine w_istore_n dX8_farthest_73 rfl (Nat.le_of_ble_eq_true rfl) ls_6_2 ?_
              refine w_iinc dX8_farthest_74 rfl (nI_inc _ 1) rfl (Nat.le_of_ble_eq_true rfl) ls_6_4 ?_
              refine w_goto dX8_farthest_77 rfl ?_
              exact w_L (wkS (wkS (wkS (wkS (wkS (wkN wk0)))))) (w_as (ih_lp (k + 1) (k + 1) (by omega) (by omega) (by rw [far_s, hc, if_pos ⟨h_56, far_t h_62⟩]) (by omega)) (by rw [nI_dn, show farM V f (k + 1) = stepsV V f (vt V 5 k) + 1 from rfl, nI_dn]) rfl rfl)
            · have h_62 : stepsV V f (vt V 5 k) < farM V f c := (le_m1 (by omega) (by omega)).mp (Int32.not_lt.mp h_62)
              refine w_goto dX8_farthest_65 rfl ?_
              refine w_iinc dX8_farthest_74 rfl (nI_inc _ 1) rfl (Nat.le_of_ble_eq_true rfl) ls_6_4 ?_
              refine w_goto dX8_farthest_77 rfl ?_
              exact w_L (wkS (wkS (wkS (wkS (wkS (wkN wk0)))))) (ih_lp (k + 1) c (by omega) (by omega) (by rw [far_s, hc, if_neg (fun z => far_f h_62 z.2)]) (by omega))
    exact lp (vs V 2 + 1) 0 0 (by omega) (by omega) rfl (by omega)
  · refine w_aload_n dX8_farthest_8 rfl ?_
    refine w_iconst (v := nI 1) dX8_farthest_9 ki_1 ?_
    refine m_calli1 (mi := miX8_refuse) dX8_farthest_10 q1746 okX8_refuse rfl (Nat.le_of_ble_eq_true rfl) c_refuse (Nat.le_of_ble_eq_true rfl) ?_
    exact w_iret dX8_farthest_13 rfl ⟨by first | rfl | (rw [q_farthest, if_pos hx_f, hcl_f, hc]; rfl) | (rw [q_farthest, if_neg h_5]; rfl), by first | rfl | (rw [orA_2 (by omega), q_farthest, if_pos hx_f, hcl_f, hc]) | (rw [q_farthest, if_neg h_5]; rfl)⟩
set_option maxHeartbeats 4000000 in
theorem c_time {g : GG} {S : MS} {x : Int32} {V : VS} (E : Enc S V) (K : OkV V) : Mt g miX8_time 2 [.int x] (S) (some (.int ((q_time V x).1))) (sI S 2 (q_time V x).2) := by
  refine Mt.start (fun b => [some (.ref b), some (.int x)]) plX8 rfl (fun b => (Nat.le_of_ble_eq_true rfl)) (fun b => rfl) ?_
  intro σ b
  have kb := K.b
  refine w_aload_n dX8_time_0 rfl ?_
  refine w_iload_n dX8_time_1 rfl ?_
  refine m_calli1 (mi := miX8_isFinder) dX8_time_2 q1875 okX8_isFinder rfl (Nat.le_of_ble_eq_true rfl) (c_isFinder E K) (Nat.le_of_ble_eq_true rfl) ?_
  refine w_ifB_eq dX8_time_5 rfl (fun h_5 => ?_) (fun h_5 => ?_)
  · refine w_aload_n dX8_time_33 rfl ?_
    refine w_iconst (v := nI 1) dX8_time_34 ki_1 ?_
    refine m_calli1 (mi := miX8_refuse) dX8_time_35 q1746 okX8_refuse rfl (Nat.le_of_ble_eq_true rfl) c_refuse (Nat.le_of_ble_eq_true rfl) ?_
    exact w_iret dX8_time_38 rfl ⟨by first | rfl | (unfold q_time; (try simp only [hcl_f]); (repeat' split) <;> first | rfl | contradiction | omega | (exfalso; simp_all; done)), by first | rfl | (unfold q_time; (try simp only [hcl_f]); (repeat' split) <;> first | rfl | contradiction | omega | (exfalso; simp_all; done))⟩
  · have hx_f := h_5
    obtain ⟨f, hf_f, rfl⟩ := inN_of h_5 (by omega)
    have hcl_f : cl (nI f) = f := nI_clamp (by omega)
    have kf_f := K.f hf_f
    refine w_aload_n dX8_time_8 rfl ?_
    refine w_aload_n dX8_time_9 rfl ?_
    refine mg_at dX8_time_10 rfl ?_
    refine w_iconst (v := nI 3) dX8_time_13 ki_3 ?_
    refine ma_at dX8_time_14 (by omega) ?_
    refine w_topN (E.s 3 (by omega)) ?_
    refine w_aload_n dX8_time_15 rfl ?_
    refine mg_at dX8_time_16 rfl ?_
    refine w_iload_n dX8_time_19 rfl ?_
    refine s_calli1 (mi := miX8_finderRow) dX8_time_20 q1879 okX8_finderRow (Nat.le_of_ble_eq_true rfl) c_finderRow (Nat.le_of_ble_eq_true rfl) ?_
    refine w_iconst (v := nI 3) dX8_time_23 ki_3 ?_
    refine w_iaddN dX8_time_24 ?_
    refine ma_at dX8_time_25 (by omega) ?_
    refine w_topN (E.f 3 (by omega) (by omega)) ?_
    refine w_isubN dX8_time_26 (by omega) ?_
    refine m_calli1 (mi := miX8_gives) dX8_time_27 q1839 okX8_gives rfl (Nat.le_of_ble_eq_true rfl) c_gives (Nat.le_of_ble_eq_true rfl) ?_
    refine w_goto dX8_time_30 rfl ?_
    exact w_iret dX8_time_38 rfl ⟨by first | rfl | (unfold q_time; (try simp only [hcl_f]); (repeat' split) <;> first | rfl | contradiction | omega | (exfalso; simp_all; done)), by first | rfl | (unfold q_time; (try simp only [hcl_f]); (repeat' split) <;> first | rfl | contradiction | omega | (exfalso; simp_all; done))⟩
set_option maxHeartbeats 4000000 in
theorem c_tally {g : GG} {S : MS} {x : Int32} {y : Int32} {V : VS} (E : Enc S V) (K : OkV V) : Mt g miX8_tally 4 [.int x, .int y] (S) (some (.int ((q_tally V x y).1))) (sI S 2 (q_tally V x y).2) := by
  refine Mt.start (fun b => [some (.ref b), some (.int x), some (.int y)]) plX8 rfl (fun b => (Nat.le_of_ble_eq_true rfl)) (fun b => rfl) ?_
  intro σ b
  have kb := K.b
  refine w_aload_n dX8_tally_0 rfl ?_
  refine w_iload_n dX8_tally_1 rfl ?_
  refine m_calli1 (mi := miX8_isFind) dX8_tally_2 q1886 okX8_isFind rfl (Nat.le_of_ble_eq_true rfl) (c_isFind E K) (Nat.le_of_ble_eq_true rfl) ?_
  refine w_ifB_eq dX8_tally_5 rfl (fun h_5 => ?_) (fun h_5 => ?_)
  · refine w_aload_n dX8_tally_29 rfl ?_
    refine w_iconst (v := nI 1) dX8_tally_30 ki_1 ?_
    refine m_calli1 (mi := miX8_refuse) dX8_tally_31 q1746 okX8_refuse rfl (Nat.le_of_ble_eq_true rfl) c_refuse (Nat.le_of_ble_eq_true rfl) ?_
    exact w_iret dX8_tally_34 rfl ⟨by first | rfl | (unfold q_tally; (try simp only [hcl_d, hcl_f]); (repeat' split) <;> first | rfl | contradiction | omega | (exfalso; simp_all; done)), by first | rfl | (unfold q_tally; (try simp only [hcl_d, hcl_f]); (repeat' split) <;> first | rfl | contradiction | omega | (exfalso; simp_all; done))⟩
  · have hx_d := h_5
    obtain ⟨d, hf_d, rfl⟩ := inN_of h_5 (by omega)
    have hcl_d : cl (nI d) = d := nI_clamp (by omega)
    have kf_d := K.d hf_d
    refine w_aload_n dX8_tally_8 rfl ?_
    refine w_iload_n dX8_tally_9 rfl ?_
    refine m_calli1 (mi := miX8_isFinder) dX8_tally_10 q1875 okX8_isFinder rfl (Nat.le_of_ble_eq_true rfl) (c_isFinder E K) (Nat.le_of_ble_eq_true rfl) ?_
    refine w_ifB_eq dX8_tally_13 rfl (fun h_13 => ?_) (fun h_13 => ?_)
    · refine w_aload_n dX8_tally_29 rfl ?_
      refine w_iconst (v := nI 1) dX8_tally_30 ki_1 ?_
      refine m_calli1 (mi := miX8_refuse) dX8_tally_31 q1746 okX8_refuse rfl (Nat.le_of_ble_eq_true rfl) c_refuse (Nat.le_of_ble_eq_true rfl) ?_
      exact w_iret dX8_tally_34 rfl ⟨by first | rfl | (unfold q_tally; (try simp only [hcl_d, hcl_f]); (repeat' split) <;> first | rfl | contradiction | omega | (exfalso; simp_all; done)), by first | rfl | (unfold q_tally; (try simp only [hcl_d, hcl_f]); (repeat' split) <;> first | rfl | contradiction | omega | (exfalso; simp_all; done))⟩
    · have hx_f := h_13
      obtain ⟨f, hf_f, rfl⟩ := inN_of h_13 (by omega)
      have hcl_f : cl (nI f) = f := nI_clamp (by omega)
      have kf_f := K.f hf_f
      refine w_aload_n dX8_tally_16 rfl ?_
      refine w_aload_n dX8_tally_17 rfl ?_
      refine w_iload_n dX8_tally_18 rfl ?_
      refine w_iload_n dX8_tally_19 rfl ?_
      refine m_calli2 (mi := miX8_ownMany) dX8_tally_20 q2059 okX8_ownMany rfl (Nat.le_of_ble_eq_true rfl) (c_ownMany E K (by first | assumption | omega) (by first | assumption | omega)) (Nat.le_of_ble_eq_true rfl) ?_
      refine m_calli1 (mi := miX8_gives) dX8_tally_23 q1839 okX8_gives rfl (Nat.le_of_ble_eq_true rfl) c_gives (Nat.le_of_ble_eq_true rfl) ?_
      refine w_goto dX8_tally_26 rfl ?_
      exact w_iret dX8_tally_34 rfl ⟨by first | rfl | (unfold q_tally; (try simp only [hcl_d, hcl_f]); (repeat' split) <;> first | rfl | contradiction | omega | (exfalso; simp_all; done)), by first | rfl | (unfold q_tally; (try simp only [hcl_d, hcl_f]); (repeat' split) <;> first | rfl | contradiction | omega | (exfalso; simp_all; done))⟩
set_option maxHeartbeats 4000000 in
theorem c_busiest {g : GG} {S : MS} {V : VS} (E : Enc S V) (K : OkV V) : Mt g miX8_busiest 5 [] (S) (some (.int ((q_busiest V).1))) (sI S 2 (q_busiest V).2) := by
  refine Mt.start (fun b => [some (.ref b), none, none]) plX8 rfl (fun b => (Nat.le_of_ble_eq_true rfl)) (fun b => rfl) ?_
  intro σ b
  have kb := K.b
  refine w_iconst (v := (-1)) dX8_busiest_0 ki_m1 ?_
  refine w_istore_n dX8_busiest_1 rfl (Nat.le_of_ble_eq_true rfl) ls_3_1 ?_
  refine w_iconst (v := nI 0) dX8_busiest_2 ki_0 ?_
  refine w_istore_n dX8_busiest_3 rfl (Nat.le_of_ble_eq_true rfl) ls_3_2 ?_
  have lp : ∀ (j9 : Nat) (k : Nat) (c : Nat), vs V 1 - k < j9 → k ≤ vs V 1 → busyK V k = c → c ≤ k → Wp g (mtM g miX8_busiest 5 σ b (some (.int ((q_busiest V).1))) (sI S 2 (q_busiest V).2)) 0 0 4 [some (.ref b), some (.int (nI c - nI 1)), some (.int (nI k))] [] (sM g σ b (S)) := by
    intro j9
    induction j9 with
    | zero => intro k c hmu hk hc hck; exact absurd hmu (Nat.not_lt_zero _)
    | succ j9 ih_lp =>
      intro k c hmu hk hc hck
      refine w_iload_n dX8_busiest_4 rfl ?_
      refine w_aload_n dX8_busiest_5 rfl ?_
      refine mg_at dX8_busiest_6 rfl ?_
      refine w_iconst (v := nI 1) dX8_busiest_9 ki_1 ?_
      refine ma_at dX8_busiest_10 (by omega) ?_
      refine w_topN (E.s 1 (by omega)) ?_
      refine w_icmpN_ge dX8_busiest_11 rfl (by omega) (by omega) (fun h_11 => ?_) (fun h_11 => ?_)
      · obtain rfl : k = vs V 1 := by omega
        refine w_aload_n dX8_busiest_40 rfl ?_
        refine w_iload_n dX8_busiest_41 rfl ?_
        refine m_calli1 (mi := miX8_orNone) dX8_busiest_42 q2035 okX8_orNone rfl (Nat.le_of_ble_eq_true rfl) c_orNone (Nat.le_of_ble_eq_true rfl) ?_
        exact w_iret dX8_busiest_45 rfl ⟨by rw [← hc]; rfl, by rw [orA_2 (by omega), ← hc]; rfl⟩
      · refine w_iload_n dX8_busiest_14 rfl ?_
        refine w_iconst (v := (-1)) dX8_busiest_15 ki_m1 ?_
        refine w_icmp_eq dX8_busiest_16 rfl (fun h_16 => ?_) (fun h_16 => ?_)
        · have h_16 : c = 0 := (m1_iff (by omega)).mp h_16
          refine w_iload_n dX8_busiest_32 rfl ?_
          refine w_istore_n dX8_busiest_33 rfl (Nat.le_of_ble_eq_true rfl) ls_3_1 ?_
          refine w_iinc dX8_busiest_34 rfl (nI_inc _ 1) rfl (Nat.le_of_ble_eq_true rfl) ls_3_2 ?_
          refine w_goto dX8_busiest_37 rfl ?_
          exact w_as (ih_lp (k + 1) (k + 1) (by omega) (by omega) (by rw [busy_s, hc, if_pos (Or.inl h_16)]) (by omega)) (by rw [nI_dn]) rfl rfl
        · have h_16 : c ≠ 0 := mt (m1_iff (by omega)).mpr h_16
          obtain ⟨i, rfl⟩ : ∃ i, c = i + 1 := ⟨c - 1, by omega⟩
          rw [nI_dn]
          refine w_aload_n dX8_busiest_19 rfl ?_
          refine w_iload_n dX8_busiest_20 rfl ?_
          refine m_calli1 (mi := miX8_strewnOf) dX8_busiest_21 q2055 okX8_strewnOf rfl (Nat.le_of_ble_eq_true rfl) (c_strewnOf E K (by first | assumption | omega)) (Nat.le_of_ble_eq_true rfl) ?_
          refine w_aload_n dX8_busiest_24 rfl ?_
          refine w_iload_n dX8_busiest_25 rfl ?_
          refine m_calli1 (mi := miX8_strewnOf) dX8_busiest_26 q2055 okX8_strewnOf rfl (Nat.le_of_ble_eq_true rfl) (c_strewnOf E K (by first | assumption | omega)) (Nat.le_of_ble_eq_true rfl) ?_
          refine w_icmpN_le dX8_busiest_29 rfl (by have := sumS_le K k; omega) (by have := sumS_le K i; omega) (fun h_29 => ?_) (fun h_29 => ?_)
          · refine w_iinc dX8_busiest_34 rfl (nI_inc _ 1) rfl (Nat.le_of_ble_eq_true rfl) ls_3_2 ?_
            refine w_goto dX8_busiest_37 rfl ?_
            exact w_as (ih_lp (k + 1) (i + 1) (by omega) (by omega) (by rw [busy_s, hc, if_neg (by simp only [Nat.add_sub_cancel]; omega)]) (by omega)) (by rw [nI_dn]) rfl rfl
          · refine w_iload_n dX8_busiest_32 rfl ?_
            refine w_istore_n dX8_busiest_33 rfl (Nat.le_of_ble_eq_true rfl) ls_3_1 ?_
            refine w_iinc dX8_busiest_34 rfl (nI_inc _ 1) rfl (Nat.le_of_ble_eq_true rfl) ls_3_2 ?_
            refine w_goto dX8_busiest_37 rfl ?_
            exact w_as (ih_lp (k + 1) (k + 1) (by omega) (by omega) (by rw [busy_s, hc, Nat.add_sub_cancel, if_pos (Or.inr h_29)]) (by omega)) (by rw [nI_dn]) rfl rfl
  exact lp (vs V 1 + 1) 0 0 (by omega) (by omega) rfl (by omega)
set_option maxHeartbeats 4000000 in
theorem c_seenBy {g : GG} {S : MS} {f : Nat} {c : Nat} {V : VS} (E : Enc S V) (K : OkV V) (hf : f < vs V 1) (hc : c < 41) : Mt g miX8_seenBy 2 [.int (nI f), .int (nI c)] (S) (some (.int (nI (seenV V f c)))) (S) := by
  refine Mt.start (fun b => [some (.ref b), some (.int (nI f)), some (.int (nI c)), none, none]) plX8 rfl (fun b => (Nat.le_of_ble_eq_true rfl)) (fun b => rfl) ?_
  intro σ b
  have kb := K.b
  have kf_f := K.f hf
  refine w_iconst (v := nI 0) dX8_seenBy_0 ki_0 ?_
  refine w_istore_n dX8_seenBy_1 rfl (Nat.le_of_ble_eq_true rfl) ls_5_3 ?_
  refine w_iconst (v := nI 0) dX8_seenBy_2 ki_0 ?_
  refine w_istore dX8_seenBy_3 rfl (Nat.le_of_ble_eq_true rfl) ls_5_4 ?_
  have lp : ∀ (j9 : Nat) (k : Nat), vs V 2 - k < j9 → k ≤ vs V 2 → Wp g (mtM g miX8_seenBy 2 σ b (some (.int (nI (seenV V f c)))) (S)) 0 0 5 [some (.ref b), some (.int (nI f)), some (.int (nI c)), some (.int (nI (foldN (fun d s => s ||| if isT V d ∧ nabs (vt V 5 d) (vt V 0 f) ≤ c then 2 ^ d else 0) 0 k))), some (.int (nI k))] [] (sM g σ b (S)) := by
    intro j9
    induction j9 with
    | zero => intro k hmu hk_k; exact absurd hmu (Nat.not_lt_zero _)
    | succ j9 ih_lp =>
      intro k hmu hk_k
      refine w_iload dX8_seenBy_5 rfl ?_
      refine w_aload_n dX8_seenBy_7 rfl ?_
      refine mg_at dX8_seenBy_8 rfl ?_
      refine w_iconst (v := nI 2) dX8_seenBy_11 ki_2 ?_
      refine ma_at dX8_seenBy_12 (by omega) ?_
      refine w_topN (E.s 2 (by omega)) ?_
      refine w_icmpN_ge dX8_seenBy_13 rfl (by omega) (by omega) (fun h_13 => ?_) (fun h_13 => ?_)
      · obtain rfl : k = vs V 2 := by omega
        refine w_iload_n dX8_seenBy_70 rfl ?_
        exact w_iret dX8_seenBy_71 rfl ⟨by rfl, by first | rfl | (simp only [bP, isT, bitN, inN, *, not_true_eq_false, not_false_eq_true, and_true, true_and, and_false, false_and, or_true, true_or, or_false, false_or, and_self, or_self, if_true, if_false, ite_true, ite_false]; done) | (simp [bP, isT, bitN, inN, *]; done) | (simp_all [bP, isT, bitN, inN]; done) | (repeat split) <;> first | rfl | contradiction | simp_all⟩
      · have hkd := K.d (d := k) (by omega)
        have hab := nabs_le (vt V 5 k) (vt V 0 f) 40 (by omega) (by omega)
        refine w_iload_n dX8_seenBy_16 rfl ?_
        refine w_aload_n dX8_seenBy_17 rfl ?_
        refine w_iload dX8_seenBy_18 rfl ?_
        refine m_calli1 (mi := miX8_isThere) dX8_seenBy_20 q1935 okX8_isThere rfl (Nat.le_of_ble_eq_true rfl) (c_isThere E K (by first | assumption | omega)) (Nat.le_of_ble_eq_true rfl) ?_
        refine w_ifB_eq dX8_seenBy_23 rfl (fun h_23 => ?_) (fun h_23 => ?_)
        · refine w_iconst (v := nI 0) dX8_seenBy_61 ki_0 ?_
          refine w_iorN dX8_seenBy_62 ?_
          refine w_istore_n dX8_seenBy_63 rfl (Nat.le_of_ble_eq_true rfl) ls_5_3 ?_
          refine w_iinc dX8_seenBy_64 rfl (nI_inc _ 1) rfl (Nat.le_of_ble_eq_true rfl) ls_5_4 ?_
          refine w_goto dX8_seenBy_67 rfl ?_
          exact w_as (ih_lp (k + 1) (by omega) (by omega)) (by simp only [foldN_s]; (try split) <;> first | rfl | (exfalso; first | contradiction | omega | (simp_all; done))) rfl (rfl)
        · refine w_aload_n dX8_seenBy_26 rfl ?_
          refine mg_at dX8_seenBy_27 rfl ?_
          refine w_iconst (v := nI 0) dX8_seenBy_30 ki_0 ?_
          refine w_iload dX8_seenBy_31 rfl ?_
          refine s_calli2 (mi := miX8_findRow) dX8_seenBy_33 q1813 okX8_findRow (Nat.le_of_ble_eq_true rfl) c_findRow (Nat.le_of_ble_eq_true rfl) ?_
          refine ma_at dX8_seenBy_36 (by omega) ?_
          refine w_topN (E.d0 (by omega)) ?_
          refine w_aload_n dX8_seenBy_37 rfl ?_
          refine mg_at dX8_seenBy_38 rfl ?_
          refine w_iload_n dX8_seenBy_41 rfl ?_
          refine s_calli1 (mi := miX8_finderRow) dX8_seenBy_42 q1879 okX8_finderRow (Nat.le_of_ble_eq_true rfl) c_finderRow (Nat.le_of_ble_eq_true rfl) ?_
          refine ma_at dX8_seenBy_45 (by omega) ?_
          refine w_topN (E.f 0 (by omega) (by omega)) ?_
          refine w_isub dX8_seenBy_46 ?_
          refine w_mabs dX8_seenBy_47 q1913 q1058 q155 q1059 (Nat.le_of_ble_eq_true rfl) (Nat.le_of_ble_eq_true rfl) ?_
          refine w_topN (abs_n (by omega) (by omega)) ?_
          refine w_iload_n dX8_seenBy_50 rfl ?_
          refine w_icmpN_gt dX8_seenBy_51 rfl (by omega) (by omega) (fun h_51 => ?_) (fun h_51 => ?_)
          · refine w_iconst (v := nI 0) dX8_seenBy_61 ki_0 ?_
            refine w_iorN dX8_seenBy_62 ?_
            refine w_istore_n dX8_seenBy_63 rfl (Nat.le_of_ble_eq_true rfl) ls_5_3 ?_
            refine w_iinc dX8_seenBy_64 rfl (nI_inc _ 1) rfl (Nat.le_of_ble_eq_true rfl) ls_5_4 ?_
            refine w_goto dX8_seenBy_67 rfl ?_
            exact w_as (ih_lp (k + 1) (by omega) (by omega)) (by simp only [foldN_s]; (try split) <;> first | rfl | (exfalso; first | contradiction | omega | (simp_all; done))) rfl (rfl)
          · refine w_iconst (v := nI 1) dX8_seenBy_54 ki_1 ?_
            refine w_iload dX8_seenBy_55 rfl ?_
            refine w_shl1N dX8_seenBy_57 (by omega) ?_
            refine w_goto dX8_seenBy_58 rfl ?_
            refine w_iorN dX8_seenBy_62 ?_
            refine w_istore_n dX8_seenBy_63 rfl (Nat.le_of_ble_eq_true rfl) ls_5_3 ?_
            refine w_iinc dX8_seenBy_64 rfl (nI_inc _ 1) rfl (Nat.le_of_ble_eq_true rfl) ls_5_4 ?_
            refine w_goto dX8_seenBy_67 rfl ?_
            exact w_as (ih_lp (k + 1) (by omega) (by omega)) (by simp only [foldN_s]; (try split) <;> first | rfl | (exfalso; first | contradiction | omega | (simp_all; done))) rfl (rfl)
  exact lp (vs V 2 + 1) 0 (by omega) (by omega)
set_option maxHeartbeats 4000000 in
theorem c_seen {g : GG} {S : MS} {x : Int32} {y : Int32} {V : VS} (E : Enc S V) (K : OkV V) : Mt g miX8_seen 3 [.int x, .int y] (S) (some (.int ((q_seen V x y).1))) (sI S 2 (q_seen V x y).2) := by
  refine Mt.start (fun b => [some (.ref b), some (.int x), some (.int y)]) plX8 rfl (fun b => (Nat.le_of_ble_eq_true rfl)) (fun b => rfl) ?_
  intro σ b
  have kb := K.b
  refine w_aload_n dX8_seen_0 rfl ?_
  refine w_iload_n dX8_seen_1 rfl ?_
  refine m_calli1 (mi := miX8_isFinder) dX8_seen_2 q1875 okX8_isFinder rfl (Nat.le_of_ble_eq_true rfl) (c_isFinder E K) (Nat.le_of_ble_eq_true rfl) ?_
  refine w_ifB_eq dX8_seen_5 rfl (fun h_5 => ?_) (fun h_5 => ?_)
  · refine w_aload_n dX8_seen_33 rfl ?_
    refine w_iconst (v := nI 1) dX8_seen_34 ki_1 ?_
    refine m_calli1 (mi := miX8_refuse) dX8_seen_35 q1746 okX8_refuse rfl (Nat.le_of_ble_eq_true rfl) c_refuse (Nat.le_of_ble_eq_true rfl) ?_
    exact w_iret dX8_seen_38 rfl ⟨by first | rfl | (unfold q_seen; (try simp only [hcl_f, hcl_q]); (repeat' split) <;> first | rfl | contradiction | omega | (exfalso; simp_all; done)), by first | rfl | (unfold q_seen; (try simp only [hcl_f, hcl_q]); (repeat' split) <;> first | rfl | contradiction | omega | (exfalso; simp_all; done))⟩
  · have hx_f := h_5
    obtain ⟨f, hf_f, rfl⟩ := inN_of h_5 (by omega)
    have hcl_f : cl (nI f) = f := nI_clamp (by omega)
    have kf_f := K.f hf_f
    refine w_iload_n dX8_seen_8 rfl ?_
    refine w_i2l dX8_seen_9 rfl ?_
    refine w_lconst (v := 0) dX8_seen_10 rfl ?_
    refine w_ldc2 dX8_seen_11 q1987 ?_
    refine s_calli3 (mi := miX8_isFrom) dX8_seen_14 q1902 okX8_isFrom (Nat.le_of_ble_eq_true rfl) (c_isFrom0 (m := 40) (by first | assumption | omega)) (Nat.le_of_ble_eq_true rfl) ?_
    refine w_ifB_eq dX8_seen_17 rfl (fun h_17 => ?_) (fun h_17 => ?_)
    · refine w_aload_n dX8_seen_33 rfl ?_
      refine w_iconst (v := nI 1) dX8_seen_34 ki_1 ?_
      refine m_calli1 (mi := miX8_refuse) dX8_seen_35 q1746 okX8_refuse rfl (Nat.le_of_ble_eq_true rfl) c_refuse (Nat.le_of_ble_eq_true rfl) ?_
      exact w_iret dX8_seen_38 rfl ⟨by first | rfl | (unfold q_seen; (try simp only [hcl_f, hcl_q]); (repeat' split) <;> first | rfl | contradiction | omega | (exfalso; simp_all; done)), by first | rfl | (unfold q_seen; (try simp only [hcl_f, hcl_q]); (repeat' split) <;> first | rfl | contradiction | omega | (exfalso; simp_all; done))⟩
    · have hy := h_17
      obtain ⟨q, hq, rfl⟩ := inN_of h_17 (by omega)
      have hcl_q : cl (nI q) = q := nI_clamp (by omega)
      refine w_aload_n dX8_seen_20 rfl ?_
      refine w_aload_n dX8_seen_21 rfl ?_
      refine w_iload_n dX8_seen_22 rfl ?_
      refine w_iload_n dX8_seen_23 rfl ?_
      refine m_calli2 (mi := miX8_seenBy) dX8_seen_24 q2141 okX8_seenBy rfl (Nat.le_of_ble_eq_true rfl) (c_seenBy E K (by first | assumption | omega) (by first | assumption | omega)) (Nat.le_of_ble_eq_true rfl) ?_
      refine m_calli1 (mi := miX8_gives) dX8_seen_27 q1839 okX8_gives rfl (Nat.le_of_ble_eq_true rfl) c_gives (Nat.le_of_ble_eq_true rfl) ?_
      refine w_goto dX8_seen_30 rfl ?_
      exact w_iret dX8_seen_38 rfl ⟨by first | rfl | (unfold q_seen; (try simp only [hcl_f, hcl_q]); (repeat' split) <;> first | rfl | contradiction | omega | (exfalso; simp_all; done)), by first | rfl | (unfold q_seen; (try simp only [hcl_f, hcl_q]); (repeat' split) <;> first | rfl | contradiction | omega | (exfalso; simp_all; done))⟩
set_option maxHeartbeats 4000000 in
theorem c_both {g : GG} {S : MS} {x : Int32} {y : Int32} {z : Int32} {V : VS} (E : Enc S V) (K : OkV V) : Mt g miX8_both 3 [.int x, .int y, .int z] (S) (some (.int ((q_both V x y z).1))) (sI S 2 (q_both V x y z).2) := by
  refine Mt.start (fun b => [some (.ref b), some (.int x), some (.int y), some (.int z)]) plX8 rfl (fun b => (Nat.le_of_ble_eq_true rfl)) (fun b => rfl) ?_
  intro σ b
  have kb := K.b
  refine w_aload_n dX8_both_0 rfl ?_
  refine w_iload_n dX8_both_1 rfl ?_
  refine m_calli1 (mi := miX8_isFinder) dX8_both_2 q1875 okX8_isFinder rfl (Nat.le_of_ble_eq_true rfl) (c_isFinder E K) (Nat.le_of_ble_eq_true rfl) ?_
  refine w_ifB_eq dX8_both_5 rfl (fun h_5 => ?_) (fun h_5 => ?_)
  · refine w_aload_n dX8_both_33 rfl ?_
    refine w_iconst (v := nI 1) dX8_both_34 ki_1 ?_
    refine m_calli1 (mi := miX8_refuse) dX8_both_35 q1746 okX8_refuse rfl (Nat.le_of_ble_eq_true rfl) c_refuse (Nat.le_of_ble_eq_true rfl) ?_
    exact w_iret dX8_both_38 rfl ⟨by first | rfl | (unfold q_both; (try simp only [hcl_f, hcl_h, hcl_q]); (repeat' split) <;> first | rfl | contradiction | omega | (exfalso; simp_all; done)), by first | rfl | (unfold q_both; (try simp only [hcl_f, hcl_h, hcl_q]); (repeat' split) <;> first | rfl | contradiction | omega | (exfalso; simp_all; done))⟩
  · have hx_f := h_5
    obtain ⟨f, hf_f, rfl⟩ := inN_of h_5 (by omega)
    have hcl_f : cl (nI f) = f := nI_clamp (by omega)
    have kf_f := K.f hf_f
    refine w_aload_n dX8_both_8 rfl ?_
    refine w_iload_n dX8_both_9 rfl ?_
    refine m_calli1 (mi := miX8_isFinder) dX8_both_10 q1875 okX8_isFinder rfl (Nat.le_of_ble_eq_true rfl) (c_isFinder E K) (Nat.le_of_ble_eq_true rfl) ?_
    refine w_ifB_eq dX8_both_13 rfl (fun h_13 => ?_) (fun h_13 => ?_)
    · refine w_aload_n dX8_both_33 rfl ?_
      refine w_iconst (v := nI 1) dX8_both_34 ki_1 ?_
      refine m_calli1 (mi := miX8_refuse) dX8_both_35 q1746 okX8_refuse rfl (Nat.le_of_ble_eq_true rfl) c_refuse (Nat.le_of_ble_eq_true rfl) ?_
      exact w_iret dX8_both_38 rfl ⟨by first | rfl | (unfold q_both; (try simp only [hcl_f, hcl_h, hcl_q]); (repeat' split) <;> first | rfl | contradiction | omega | (exfalso; simp_all; done)), by first | rfl | (unfold q_both; (try simp only [hcl_f, hcl_h, hcl_q]); (repeat' split) <;> first | rfl | contradiction | omega | (exfalso; simp_all; done))⟩
    · have hx_h := h_13
      obtain ⟨h, hf_h, rfl⟩ := inN_of h_13 (by omega)
      have hcl_h : cl (nI h) = h := nI_clamp (by omega)
      have kf_h := K.f hf_h
      refine w_iload_n dX8_both_16 rfl ?_
      refine w_iload_n dX8_both_17 rfl ?_
      refine w_icmpN_eq dX8_both_18 rfl (by omega) (by omega) (fun h_18 => ?_) (fun h_18 => ?_)
      · have hne : nI f = nI h := by rw [h_18]
        refine w_aload_n dX8_both_33 rfl ?_
        refine w_iconst (v := nI 1) dX8_both_34 ki_1 ?_
        refine m_calli1 (mi := miX8_refuse) dX8_both_35 q1746 okX8_refuse rfl (Nat.le_of_ble_eq_true rfl) c_refuse (Nat.le_of_ble_eq_true rfl) ?_
        exact w_iret dX8_both_38 rfl ⟨by first | rfl | (unfold q_both; (try simp only [hcl_f, hcl_h, hcl_q]); (repeat' split) <;> first | rfl | contradiction | omega | (exfalso; simp_all; done)), by first | rfl | (unfold q_both; (try simp only [hcl_f, hcl_h, hcl_q]); (repeat' split) <;> first | rfl | contradiction | omega | (exfalso; simp_all; done))⟩
      · have hne : nI f ≠ nI h := fun z => h_18 ((nI_eq (by omega) (by omega)).mp z)
        refine w_iload_n dX8_both_21 rfl ?_
        refine w_i2l dX8_both_22 rfl ?_
        refine w_lconst (v := 0) dX8_both_23 rfl ?_
        refine w_ldc2 dX8_both_24 q1987 ?_
        refine s_calli3 (mi := miX8_isFrom) dX8_both_27 q1902 okX8_isFrom (Nat.le_of_ble_eq_true rfl) (c_isFrom0 (m := 40) (by first | assumption | omega)) (Nat.le_of_ble_eq_true rfl) ?_
        refine w_ifB_ne dX8_both_30 rfl (fun h_30 => ?_) (fun h_30 => ?_)
        · have hz := h_30
          obtain ⟨q, hq, rfl⟩ := inN_of h_30 (by omega)
          have hcl_q : cl (nI q) = q := nI_clamp (by omega)
          refine w_aload_n dX8_both_39 rfl ?_
          refine w_aload_n dX8_both_40 rfl ?_
          refine w_iload_n dX8_both_41 rfl ?_
          refine w_iload_n dX8_both_42 rfl ?_
          refine m_calli2 (mi := miX8_seenBy) dX8_both_43 q2141 okX8_seenBy rfl (Nat.le_of_ble_eq_true rfl) (c_seenBy E K (by first | assumption | omega) (by first | assumption | omega)) (Nat.le_of_ble_eq_true rfl) ?_
          refine w_aload_n dX8_both_46 rfl ?_
          refine w_iload_n dX8_both_47 rfl ?_
          refine w_iload_n dX8_both_48 rfl ?_
          refine m_calli2 (mi := miX8_seenBy) dX8_both_49 q2141 okX8_seenBy rfl (Nat.le_of_ble_eq_true rfl) (c_seenBy E K (by first | assumption | omega) (by first | assumption | omega)) (Nat.le_of_ble_eq_true rfl) ?_
          refine w_iandN dX8_both_52 ?_
          refine m_calli1 (mi := miX8_gives) dX8_both_53 q1839 okX8_gives rfl (Nat.le_of_ble_eq_true rfl) c_gives (Nat.le_of_ble_eq_true rfl) ?_
          exact w_iret dX8_both_56 rfl ⟨by first | rfl | (unfold q_both; (try simp only [hcl_f, hcl_h, hcl_q]); (repeat' split) <;> first | rfl | contradiction | omega | (exfalso; simp_all; done)), by first | rfl | (unfold q_both; (try simp only [hcl_f, hcl_h, hcl_q]); (repeat' split) <;> first | rfl | contradiction | omega | (exfalso; simp_all; done))⟩
        · refine w_aload_n dX8_both_33 rfl ?_
          refine w_iconst (v := nI 1) dX8_both_34 ki_1 ?_
          refine m_calli1 (mi := miX8_refuse) dX8_both_35 q1746 okX8_refuse rfl (Nat.le_of_ble_eq_true rfl) c_refuse (Nat.le_of_ble_eq_true rfl) ?_
          exact w_iret dX8_both_38 rfl ⟨by first | rfl | (unfold q_both; (try simp only [hcl_f, hcl_h, hcl_q]); (repeat' split) <;> first | rfl | contradiction | omega | (exfalso; simp_all; done)), by first | rfl | (unfold q_both; (try simp only [hcl_f, hcl_h, hcl_q]); (repeat' split) <;> first | rfl | contradiction | omega | (exfalso; simp_all; done))⟩
