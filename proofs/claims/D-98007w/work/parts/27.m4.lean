set_option maxRecDepth 100000
set_option maxHeartbeats 4000000 in
theorem c_liesN {g : GG} {S : MS} {x : Int32} {k : Nat} {V : VS} (E : Enc S V) (K : OkV V) (hk : k < 2147483648) : Mt g miX8_lies 4 [.int x, .int (nI k)] (S) (some (.int ((q_lies V x (nI k)).1))) (sI S 2 (q_lies V x (nI k)).2) := by
  refine Mt.start (fun b => [some (.ref b), some (.int x), some (.int (nI k)), none, none]) plX8 rfl (fun b => (Nat.le_of_ble_eq_true rfl)) (fun b => rfl) ?_
  intro σ b
  have kb := K.b
  refine w_aload_n dX8_lies_0 rfl ?_
  refine w_iload_n dX8_lies_1 rfl ?_
  refine m_calli1 (mi := miX8_isFinder) dX8_lies_2 q1875 okX8_isFinder rfl (Nat.le_of_ble_eq_true rfl) (c_isFinder E K) (Nat.le_of_ble_eq_true rfl) ?_
  refine w_ifB_ne dX8_lies_5 rfl (fun h_5 => ?_) (fun h_5 => ?_)
  · have hx_f := h_5
    obtain ⟨f, hf_f, rfl⟩ := inN_of h_5 (by omega)
    have hcl_f : cl (nI f) = f := nI_clamp (by omega)
    have kf_f := K.f hf_f
    refine w_iload_n dX8_lies_14 rfl ?_
    refine w_istore_n dX8_lies_15 rfl (Nat.le_of_ble_eq_true rfl) ls_5_3 ?_
    refine w_iconst (v := nI 0) dX8_lies_16 ki_0 ?_
    refine w_istore dX8_lies_17 rfl (Nat.le_of_ble_eq_true rfl) ls_5_4 ?_
    have lp : ∀ (j9 : Nat) (d : Nat) (l : Nat), vs V 2 - d < j9 → d ≤ vs V 2 → l ≤ k → liesF (fun d => ownV V d f) d l (vs V 2 - d) = liesF (fun d => ownV V d f) 0 k (vs V 2) → Wp g (mtM g miX8_lies 4 σ b (some (.int ((q_lies V (nI f) (nI k)).1))) (sI S 2 (q_lies V (nI f) (nI k)).2)) 0 0 19 [some (.ref b), some (.int (nI f)), some (.int (nI k)), some (.int (nI l)), some (.int (nI d))] [] (sM g σ b (S)) := by
      intro j9
      induction j9 with
      | zero => intro d l hmu hd hl hr; exact absurd hmu (Nat.not_lt_zero _)
      | succ j9 ih_lp =>
        intro d l hmu hd hl hr
        have hk0 : ¬ nI k < 0 := nI_pos (by omega)
        have hclk : cl (nI k) = k := nI_clamp (by omega)
        refine w_iload dX8_lies_19 rfl ?_
        refine w_aload_n dX8_lies_21 rfl ?_
        refine mg_at dX8_lies_22 rfl ?_
        refine w_iconst (v := nI 2) dX8_lies_25 ki_2 ?_
        refine ma_at dX8_lies_26 (by omega) ?_
        refine w_topN (E.s 2 (by omega)) ?_
        refine w_icmpN_ge dX8_lies_27 rfl (by omega) (by omega) (fun h_27 => ?_) (fun h_27 => ?_)
        · have hr2 : liesF (fun d => ownV V d f) 0 k (vs V 2) = 0 := by rw [← hr, show vs V 2 - d = 0 by omega]; rfl
          refine w_aload_n dX8_lies_68 rfl ?_
          refine w_bipush (v := nI 6) dX8_lies_69 kb_6 ?_
          refine m_calli1 (mi := miX8_refuse) dX8_lies_71 q1746 okX8_refuse rfl (Nat.le_of_ble_eq_true rfl) c_refuse (Nat.le_of_ble_eq_true rfl) ?_
          exact w_iret dX8_lies_74 rfl ⟨by first | rfl | (rw [q_lies, if_pos hx_f, if_neg hk0, hcl_f, hclk, hr2]; rfl) | (rw [q_lies, if_neg h_5]; rfl), by first | rfl | (rw [q_lies, if_pos hx_f, if_neg hk0, hcl_f, hclk, hr2]; rfl) | (rw [q_lies, if_neg h_5]; rfl)⟩
        · have how := ownV_le K (d := d) (by omega) f
          refine w_iload_n dX8_lies_30 rfl ?_
          refine w_ifN_lt dX8_lies_31 rfl (by omega) (fun h_31 => ?_) (fun h_31 => ?_)
          · exact absurd h_31 (by omega)
          · refine w_iload_n dX8_lies_34 rfl ?_
            refine w_aload_n dX8_lies_35 rfl ?_
            refine w_iload_n dX8_lies_36 rfl ?_
            refine w_iload dX8_lies_37 rfl ?_
            refine m_calli2 (mi := miX8_ownMany) dX8_lies_39 q2059 okX8_ownMany rfl (Nat.le_of_ble_eq_true rfl) (c_ownMany E K (by first | assumption | omega) (by first | assumption | omega)) (Nat.le_of_ble_eq_true rfl) ?_
            refine w_icmpN_ge dX8_lies_42 rfl (by omega) (by omega) (fun h_42 => ?_) (fun h_42 => ?_)
            · refine w_iload_n dX8_lies_52 rfl ?_
              refine w_aload_n dX8_lies_53 rfl ?_
              refine w_iload_n dX8_lies_54 rfl ?_
              refine w_iload dX8_lies_55 rfl ?_
              refine m_calli2 (mi := miX8_ownMany) dX8_lies_57 q2059 okX8_ownMany rfl (Nat.le_of_ble_eq_true rfl) (c_ownMany E K (by first | assumption | omega) (by first | assumption | omega)) (Nat.le_of_ble_eq_true rfl) ?_
              refine w_isubN dX8_lies_60 (by omega) ?_
              refine w_istore_n dX8_lies_61 rfl (Nat.le_of_ble_eq_true rfl) ls_5_3 ?_
              refine w_iinc dX8_lies_62 rfl (nI_inc _ 1) rfl (Nat.le_of_ble_eq_true rfl) ls_5_4 ?_
              refine w_goto dX8_lies_65 rfl ?_
              exact ih_lp (d + 1) (l - ownV V d f) (by omega) (by omega) (by omega) (by rw [← hr, show vs V 2 - d = (vs V 2 - (d + 1)) + 1 by omega]; exact (if_neg (show ¬ l < ownV V d f by omega)).symm)
            · have hr2 : liesF (fun d => ownV V d f) 0 k (vs V 2) = d + 1 := by rw [← hr, show vs V 2 - d = (vs V 2 - (d + 1)) + 1 by omega]; exact if_pos h_42
              refine w_aload_n dX8_lies_45 rfl ?_
              refine w_iload dX8_lies_46 rfl ?_
              refine m_calli1 (mi := miX8_gives) dX8_lies_48 q1839 okX8_gives rfl (Nat.le_of_ble_eq_true rfl) c_gives (Nat.le_of_ble_eq_true rfl) ?_
              exact w_iret dX8_lies_51 rfl ⟨by first | rfl | (rw [q_lies, if_pos hx_f, if_neg hk0, hcl_f, hclk, hr2]; rfl) | (rw [q_lies, if_neg h_5]; rfl), by first | rfl | (rw [q_lies, if_pos hx_f, if_neg hk0, hcl_f, hclk, hr2]; rfl) | (rw [q_lies, if_neg h_5]; rfl)⟩
    exact lp (vs V 2 + 1) 0 k (by omega) (by omega) (by omega) rfl
  · refine w_aload_n dX8_lies_8 rfl ?_
    refine w_iconst (v := nI 1) dX8_lies_9 ki_1 ?_
    refine m_calli1 (mi := miX8_refuse) dX8_lies_10 q1746 okX8_refuse rfl (Nat.le_of_ble_eq_true rfl) c_refuse (Nat.le_of_ble_eq_true rfl) ?_
    exact w_iret dX8_lies_13 rfl ⟨by first | rfl | (rw [q_lies, if_pos hx_f, if_neg hk0, hcl_f, hclk, hr2]; rfl) | (rw [q_lies, if_neg h_5]; rfl), by first | rfl | (rw [q_lies, if_pos hx_f, if_neg hk0, hcl_f, hclk, hr2]; rfl) | (rw [q_lies, if_neg h_5]; rfl)⟩
set_option maxHeartbeats 4000000 in
theorem c_liesM {g : GG} {S : MS} {x : Int32} {k : Int32} {V : VS} (E : Enc S V) (K : OkV V) (hk : k < 0) : Mt g miX8_lies 2 [.int x, .int k] (S) (some (.int ((q_lies V x k).1))) (sI S 2 (q_lies V x k).2) := by
  refine Mt.start (fun b => [some (.ref b), some (.int x), some (.int k), none, none]) plX8 rfl (fun b => (Nat.le_of_ble_eq_true rfl)) (fun b => rfl) ?_
  intro σ b
  have kb := K.b
  refine w_aload_n dX8_lies_0 rfl ?_
  refine w_iload_n dX8_lies_1 rfl ?_
  refine m_calli1 (mi := miX8_isFinder) dX8_lies_2 q1875 okX8_isFinder rfl (Nat.le_of_ble_eq_true rfl) (c_isFinder E K) (Nat.le_of_ble_eq_true rfl) ?_
  refine w_ifB_ne dX8_lies_5 rfl (fun h_5 => ?_) (fun h_5 => ?_)
  · have hx_f := h_5
    obtain ⟨f, hf_f, rfl⟩ := inN_of h_5 (by omega)
    have hcl_f : cl (nI f) = f := nI_clamp (by omega)
    have kf_f := K.f hf_f
    refine w_iload_n dX8_lies_14 rfl ?_
    refine w_istore_n dX8_lies_15 rfl (Nat.le_of_ble_eq_true rfl) ls_5_3 ?_
    refine w_iconst (v := nI 0) dX8_lies_16 ki_0 ?_
    refine w_istore dX8_lies_17 rfl (Nat.le_of_ble_eq_true rfl) ls_5_4 ?_
    refine w_iload dX8_lies_19 rfl ?_
    refine w_aload_n dX8_lies_21 rfl ?_
    refine mg_at dX8_lies_22 rfl ?_
    refine w_iconst (v := nI 2) dX8_lies_25 ki_2 ?_
    refine ma_at dX8_lies_26 (by omega) ?_
    refine w_topN (E.s 2 (by omega)) ?_
    refine w_icmpN_ge dX8_lies_27 rfl (by omega) (by omega) (fun h_27 => ?_) (fun h_27 => ?_)
    · refine w_aload_n dX8_lies_68 rfl ?_
      refine w_bipush (v := nI 6) dX8_lies_69 kb_6 ?_
      refine m_calli1 (mi := miX8_refuse) dX8_lies_71 q1746 okX8_refuse rfl (Nat.le_of_ble_eq_true rfl) c_refuse (Nat.le_of_ble_eq_true rfl) ?_
      exact w_iret dX8_lies_74 rfl ⟨by first | rfl | (rw [q_lies, if_pos hx_f, if_pos hk]; rfl) | (rw [q_lies, if_neg h_5]; rfl), by first | rfl | (rw [q_lies, if_pos hx_f, if_pos hk]; rfl) | (rw [q_lies, if_neg h_5]; rfl)⟩
    · refine w_iload_n dX8_lies_30 rfl ?_
      refine w_if_lt dX8_lies_31 rfl (fun h_31 => ?_) (fun h_31 => ?_)
      · refine w_aload_n dX8_lies_68 rfl ?_
        refine w_bipush (v := nI 6) dX8_lies_69 kb_6 ?_
        refine m_calli1 (mi := miX8_refuse) dX8_lies_71 q1746 okX8_refuse rfl (Nat.le_of_ble_eq_true rfl) c_refuse (Nat.le_of_ble_eq_true rfl) ?_
        exact w_iret dX8_lies_74 rfl ⟨by first | rfl | (rw [q_lies, if_pos hx_f, if_pos hk]; rfl) | (rw [q_lies, if_neg h_5]; rfl), by first | rfl | (rw [q_lies, if_pos hx_f, if_pos hk]; rfl) | (rw [q_lies, if_neg h_5]; rfl)⟩
      · exact absurd hk h_31
  · refine w_aload_n dX8_lies_8 rfl ?_
    refine w_iconst (v := nI 1) dX8_lies_9 ki_1 ?_
    refine m_calli1 (mi := miX8_refuse) dX8_lies_10 q1746 okX8_refuse rfl (Nat.le_of_ble_eq_true rfl) c_refuse (Nat.le_of_ble_eq_true rfl) ?_
    exact w_iret dX8_lies_13 rfl ⟨by first | rfl | (rw [q_lies, if_pos hx_f, if_pos hk]; rfl) | (rw [q_lies, if_neg h_5]; rfl), by first | rfl | (rw [q_lies, if_pos hx_f, if_pos hk]; rfl) | (rw [q_lies, if_neg h_5]; rfl)⟩
set_option maxHeartbeats 4000000 in
theorem c_rivals {g : GG} {S : MS} {x : Int32} {y : Int32} {V : VS} (E : Enc S V) (K : OkV V) : Mt g miX8_rivals 4 [.int x, .int y] (S) (some (.int ((q_rivals V x y).1))) (sI S 2 (q_rivals V x y).2) := by
  refine Mt.start (fun b => [some (.ref b), some (.int x), some (.int y), none, none]) plX8 rfl (fun b => (Nat.le_of_ble_eq_true rfl)) (fun b => rfl) ?_
  intro σ b
  have kb := K.b
  refine w_aload_n dX8_rivals_0 rfl ?_
  refine w_iload_n dX8_rivals_1 rfl ?_
  refine m_calli1 (mi := miX8_isFinder) dX8_rivals_2 q1875 okX8_isFinder rfl (Nat.le_of_ble_eq_true rfl) (c_isFinder E K) (Nat.le_of_ble_eq_true rfl) ?_
  refine w_ifB_eq dX8_rivals_5 rfl (fun h_5 => ?_) (fun h_5 => ?_)
  · refine w_aload_n dX8_rivals_21 rfl ?_
    refine w_iconst (v := nI 1) dX8_rivals_22 ki_1 ?_
    refine m_calli1 (mi := miX8_refuse) dX8_rivals_23 q1746 okX8_refuse rfl (Nat.le_of_ble_eq_true rfl) c_refuse (Nat.le_of_ble_eq_true rfl) ?_
    exact w_iret dX8_rivals_26 rfl ⟨by first | rfl | (unfold q_rivals; (try simp only [hcl_f, hcl_h]); (repeat' split) <;> first | rfl | contradiction | omega | (exfalso; simp_all; done)), by first | rfl | (unfold q_rivals; (try simp only [hcl_f, hcl_h]); (repeat' split) <;> first | rfl | contradiction | omega | (exfalso; simp_all; done))⟩
  · have hx_f := h_5
    obtain ⟨f, hf_f, rfl⟩ := inN_of h_5 (by omega)
    have hcl_f : cl (nI f) = f := nI_clamp (by omega)
    have kf_f := K.f hf_f
    refine w_aload_n dX8_rivals_8 rfl ?_
    refine w_iload_n dX8_rivals_9 rfl ?_
    refine m_calli1 (mi := miX8_isFinder) dX8_rivals_10 q1875 okX8_isFinder rfl (Nat.le_of_ble_eq_true rfl) (c_isFinder E K) (Nat.le_of_ble_eq_true rfl) ?_
    refine w_ifB_eq dX8_rivals_13 rfl (fun h_13 => ?_) (fun h_13 => ?_)
    · refine w_aload_n dX8_rivals_21 rfl ?_
      refine w_iconst (v := nI 1) dX8_rivals_22 ki_1 ?_
      refine m_calli1 (mi := miX8_refuse) dX8_rivals_23 q1746 okX8_refuse rfl (Nat.le_of_ble_eq_true rfl) c_refuse (Nat.le_of_ble_eq_true rfl) ?_
      exact w_iret dX8_rivals_26 rfl ⟨by first | rfl | (unfold q_rivals; (try simp only [hcl_f, hcl_h]); (repeat' split) <;> first | rfl | contradiction | omega | (exfalso; simp_all; done)), by first | rfl | (unfold q_rivals; (try simp only [hcl_f, hcl_h]); (repeat' split) <;> first | rfl | contradiction | omega | (exfalso; simp_all; done))⟩
    · have hx_h := h_13
      obtain ⟨h, hf_h, rfl⟩ := inN_of h_13 (by omega)
      have hcl_h : cl (nI h) = h := nI_clamp (by omega)
      have kf_h := K.f hf_h
      refine w_iload_n dX8_rivals_16 rfl ?_
      refine w_iload_n dX8_rivals_17 rfl ?_
      refine w_icmpN_ne dX8_rivals_18 rfl (by omega) (by omega) (fun h_18 => ?_) (fun h_18 => ?_)
      · have hne : nI f ≠ nI h := fun z => h_18 ((nI_eq (by omega) (by omega)).mp z)
        refine w_iconst (v := nI 0) dX8_rivals_27 ki_0 ?_
        refine w_istore_n dX8_rivals_28 rfl (Nat.le_of_ble_eq_true rfl) ls_5_3 ?_
        refine w_iconst (v := nI 0) dX8_rivals_29 ki_0 ?_
        refine w_istore dX8_rivals_30 rfl (Nat.le_of_ble_eq_true rfl) ls_5_4 ?_
        have lp : ∀ (j9 : Nat) (k : Nat), vs V 2 - k < j9 → k ≤ vs V 2 → Wp g (mtM g miX8_rivals 4 σ b (some (.int ((q_rivals V (nI f) (nI h)).1))) (sI S 2 (q_rivals V (nI f) (nI h)).2)) 0 0 32 [some (.ref b), some (.int (nI f)), some (.int (nI h)), some (.int (nI (foldN (fun d s => s ||| if 0 < ownV V d f ∧ 0 < ownV V d h then 2 ^ d else 0) 0 k))), some (.int (nI k))] [] (sM g σ b (S)) := by
          intro j9
          induction j9 with
          | zero => intro k hmu hk_k; exact absurd hmu (Nat.not_lt_zero _)
          | succ j9 ih_lp =>
            intro k hmu hk_k
            refine w_iload dX8_rivals_32 rfl ?_
            refine w_aload_n dX8_rivals_34 rfl ?_
            refine mg_at dX8_rivals_35 rfl ?_
            refine w_iconst (v := nI 2) dX8_rivals_38 ki_2 ?_
            refine ma_at dX8_rivals_39 (by omega) ?_
            refine w_topN (E.s 2 (by omega)) ?_
            refine w_icmpN_ge dX8_rivals_40 rfl (by omega) (by omega) (fun h_40 => ?_) (fun h_40 => ?_)
            · obtain rfl : k = vs V 2 := by omega
              refine w_aload_n dX8_rivals_80 rfl ?_
              refine w_iload_n dX8_rivals_81 rfl ?_
              refine m_calli1 (mi := miX8_gives) dX8_rivals_82 q1839 okX8_gives rfl (Nat.le_of_ble_eq_true rfl) c_gives (Nat.le_of_ble_eq_true rfl) ?_
              exact w_iret dX8_rivals_85 rfl ⟨by first | rfl | (unfold q_rivals; (try simp only [hcl_f, hcl_h]); (repeat' split) <;> first | rfl | contradiction | omega | (exfalso; simp_all; done)), by first | rfl | (unfold q_rivals; (try simp only [hcl_f, hcl_h]); (repeat' split) <;> first | rfl | contradiction | omega | (exfalso; simp_all; done))⟩
            · have ho1 := ownV_le K (d := k) (by omega) f
              have ho2 := ownV_le K (d := k) (by omega) h
              refine w_iload_n dX8_rivals_43 rfl ?_
              refine w_aload_n dX8_rivals_44 rfl ?_
              refine w_iload_n dX8_rivals_45 rfl ?_
              refine w_iload dX8_rivals_46 rfl ?_
              refine m_calli2 (mi := miX8_ownMany) dX8_rivals_48 q2059 okX8_ownMany rfl (Nat.le_of_ble_eq_true rfl) (c_ownMany E K (by first | assumption | omega) (by first | assumption | omega)) (Nat.le_of_ble_eq_true rfl) ?_
              refine w_ifN_le dX8_rivals_51 rfl (by omega) (fun h_51 => ?_) (fun h_51 => ?_)
              · refine w_iconst (v := nI 0) dX8_rivals_71 ki_0 ?_
                refine w_iorN dX8_rivals_72 ?_
                refine w_istore_n dX8_rivals_73 rfl (Nat.le_of_ble_eq_true rfl) ls_5_3 ?_
                refine w_iinc dX8_rivals_74 rfl (nI_inc _ 1) rfl (Nat.le_of_ble_eq_true rfl) ls_5_4 ?_
                refine w_goto dX8_rivals_77 rfl ?_
                exact w_as (ih_lp (k + 1) (by omega) (by omega)) (by simp only [foldN_s]; (try split) <;> first | rfl | (exfalso; first | contradiction | omega | (simp_all; done))) rfl (rfl)
              · refine w_aload_n dX8_rivals_54 rfl ?_
                refine w_iload_n dX8_rivals_55 rfl ?_
                refine w_iload dX8_rivals_56 rfl ?_
                refine m_calli2 (mi := miX8_ownMany) dX8_rivals_58 q2059 okX8_ownMany rfl (Nat.le_of_ble_eq_true rfl) (c_ownMany E K (by first | assumption | omega) (by first | assumption | omega)) (Nat.le_of_ble_eq_true rfl) ?_
                refine w_ifN_le dX8_rivals_61 rfl (by omega) (fun h_61 => ?_) (fun h_61 => ?_)
                · refine w_iconst (v := nI 0) dX8_rivals_71 ki_0 ?_
                  refine w_iorN dX8_rivals_72 ?_
                  refine w_istore_n dX8_rivals_73 rfl (Nat.le_of_ble_eq_true rfl) ls_5_3 ?_
                  refine w_iinc dX8_rivals_74 rfl (nI_inc _ 1) rfl (Nat.le_of_ble_eq_true rfl) ls_5_4 ?_
                  refine w_goto dX8_rivals_77 rfl ?_
                  exact w_as (ih_lp (k + 1) (by omega) (by omega)) (by simp only [foldN_s]; (try split) <;> first | rfl | (exfalso; first | contradiction | omega | (simp_all; done))) rfl (rfl)
                · refine w_iconst (v := nI 1) dX8_rivals_64 ki_1 ?_
                  refine w_iload dX8_rivals_65 rfl ?_
                  refine w_shl1N dX8_rivals_67 (by omega) ?_
                  refine w_goto dX8_rivals_68 rfl ?_
                  refine w_iorN dX8_rivals_72 ?_
                  refine w_istore_n dX8_rivals_73 rfl (Nat.le_of_ble_eq_true rfl) ls_5_3 ?_
                  refine w_iinc dX8_rivals_74 rfl (nI_inc _ 1) rfl (Nat.le_of_ble_eq_true rfl) ls_5_4 ?_
                  refine w_goto dX8_rivals_77 rfl ?_
                  exact w_as (ih_lp (k + 1) (by omega) (by omega)) (by simp only [foldN_s]; (try split) <;> first | rfl | (exfalso; first | contradiction | omega | (simp_all; done))) rfl (rfl)
        exact lp (vs V 2 + 1) 0 (by omega) (by omega)
      · have hne : nI f = nI h := by rw [h_18]
        refine w_aload_n dX8_rivals_21 rfl ?_
        refine w_iconst (v := nI 1) dX8_rivals_22 ki_1 ?_
        refine m_calli1 (mi := miX8_refuse) dX8_rivals_23 q1746 okX8_refuse rfl (Nat.le_of_ble_eq_true rfl) c_refuse (Nat.le_of_ble_eq_true rfl) ?_
        exact w_iret dX8_rivals_26 rfl ⟨by first | rfl | (unfold q_rivals; (try simp only [hcl_f, hcl_h]); (repeat' split) <;> first | rfl | contradiction | omega | (exfalso; simp_all; done)), by first | rfl | (unfold q_rivals; (try simp only [hcl_f, hcl_h]); (repeat' split) <;> first | rfl | contradiction | omega | (exfalso; simp_all; done))⟩
set_option maxHeartbeats 4000000 in
theorem c_richest {g : GG} {S : MS} {V : VS} (E : Enc S V) (K : OkV V) : Mt g miX8_richest 3 [] (S) (some (.int ((q_richest V).1))) (sI S 2 (q_richest V).2) := by
  refine Mt.start (fun b => [some (.ref b), none, none]) plX8 rfl (fun b => (Nat.le_of_ble_eq_true rfl)) (fun b => rfl) ?_
  intro σ b
  have kb := K.b
  refine w_iconst (v := (-1)) dX8_richest_0 ki_m1 ?_
  refine w_istore_n dX8_richest_1 rfl (Nat.le_of_ble_eq_true rfl) ls_3_1 ?_
  refine w_iconst (v := nI 0) dX8_richest_2 ki_0 ?_
  refine w_istore_n dX8_richest_3 rfl (Nat.le_of_ble_eq_true rfl) ls_3_2 ?_
  have lp : ∀ (j9 : Nat) (k : Nat) (c : Nat), vs V 2 - k < j9 → k ≤ vs V 2 → richK V k = c → c ≤ k → Wp g (mtM g miX8_richest 3 σ b (some (.int ((q_richest V).1))) (sI S 2 (q_richest V).2)) 0 0 4 [some (.ref b), some (.int (nI c - nI 1)), some (.int (nI k))] [] (sM g σ b (S)) := by
    intro j9
    induction j9 with
    | zero => intro k c hmu hk hc hck; exact absurd hmu (Nat.not_lt_zero _)
    | succ j9 ih_lp =>
      intro k c hmu hk hc hck
      refine w_iload_n dX8_richest_4 rfl ?_
      refine w_aload_n dX8_richest_5 rfl ?_
      refine mg_at dX8_richest_6 rfl ?_
      refine w_iconst (v := nI 2) dX8_richest_9 ki_2 ?_
      refine ma_at dX8_richest_10 (by omega) ?_
      refine w_topN (E.s 2 (by omega)) ?_
      refine w_icmpN_ge dX8_richest_11 rfl (by omega) (by omega) (fun h_11 => ?_) (fun h_11 => ?_)
      · obtain rfl : k = vs V 2 := by omega
        refine w_aload_n dX8_richest_62 rfl ?_
        refine w_iload_n dX8_richest_63 rfl ?_
        refine m_calli1 (mi := miX8_orNone) dX8_richest_64 q2035 okX8_orNone rfl (Nat.le_of_ble_eq_true rfl) c_orNone (Nat.le_of_ble_eq_true rfl) ?_
        exact w_iret dX8_richest_67 rfl ⟨by rw [← hc]; rfl, by rw [orA_2 (by omega), ← hc]; rfl⟩
      · refine w_aload_n dX8_richest_14 rfl ?_
        refine w_iload_n dX8_richest_15 rfl ?_
        refine m_calli1 (mi := miX8_isThere) dX8_richest_16 q1935 okX8_isThere rfl (Nat.le_of_ble_eq_true rfl) (c_isThere E K (by first | assumption | omega)) (Nat.le_of_ble_eq_true rfl) ?_
        refine w_ifB_eq dX8_richest_19 rfl (fun h_19 => ?_) (fun h_19 => ?_)
        · refine w_iinc dX8_richest_56 rfl (nI_inc _ 1) rfl (Nat.le_of_ble_eq_true rfl) ls_3_2 ?_
          refine w_goto dX8_richest_59 rfl ?_
          exact ih_lp (k + 1) c (by omega) (by omega) (by rw [richK, foldN_s, ← richK, hc, if_neg (fun z => h_19 z.1)]) (by omega)
        · refine w_iload_n dX8_richest_22 rfl ?_
          refine w_iconst (v := (-1)) dX8_richest_23 ki_m1 ?_
          refine w_icmp_eq dX8_richest_24 rfl (fun h_24 => ?_) (fun h_24 => ?_)
          · have h_24 : c = 0 := (m1_iff (by omega)).mp h_24
            refine w_iload_n dX8_richest_54 rfl ?_
            refine w_istore_n dX8_richest_55 rfl (Nat.le_of_ble_eq_true rfl) ls_3_1 ?_
            refine w_iinc dX8_richest_56 rfl (nI_inc _ 1) rfl (Nat.le_of_ble_eq_true rfl) ls_3_2 ?_
            refine w_goto dX8_richest_59 rfl ?_
            exact w_as (ih_lp (k + 1) (k + 1) (by omega) (by omega) (by rw [richK, foldN_s, ← richK, hc, if_pos ⟨h_19, by omega⟩]) (by omega)) (by rw [nI_dn]) rfl rfl
          · have h_24 : c ≠ 0 := mt (m1_iff (by omega)).mpr h_24
            obtain ⟨i, rfl⟩ : ∃ i, c = i + 1 := ⟨c - 1, by omega⟩
            rw [nI_dn]
            refine w_aload_n dX8_richest_27 rfl ?_
            refine mg_at dX8_richest_28 rfl ?_
            refine w_iconst (v := nI 0) dX8_richest_31 ki_0 ?_
            refine w_iload_n dX8_richest_32 rfl ?_
            refine s_calli2 (mi := miX8_findRow) dX8_richest_33 q1813 okX8_findRow (Nat.le_of_ble_eq_true rfl) c_findRow (Nat.le_of_ble_eq_true rfl) ?_
            refine w_iconst (v := nI 1) dX8_richest_36 ki_1 ?_
            refine w_iaddN dX8_richest_37 ?_
            refine ma_at dX8_richest_38 (by omega) ?_
            refine w_topN (E.d1 (by omega)) ?_
            refine w_aload_n dX8_richest_39 rfl ?_
            refine mg_at dX8_richest_40 rfl ?_
            refine w_iconst (v := nI 0) dX8_richest_43 ki_0 ?_
            refine w_iload_n dX8_richest_44 rfl ?_
            refine s_calli2 (mi := miX8_findRow) dX8_richest_45 q1813 okX8_findRow (Nat.le_of_ble_eq_true rfl) c_findRow (Nat.le_of_ble_eq_true rfl) ?_
            refine w_iconst (v := nI 1) dX8_richest_48 ki_1 ?_
            refine w_iaddN dX8_richest_49 ?_
            refine ma_at dX8_richest_50 (by omega) ?_
            refine w_topN (E.d1 (by omega)) ?_
            have hkd1 := K.d (d := k) (by omega)
            have hkd2 := K.d (d := i) (by omega)
            refine w_icmpN_le dX8_richest_51 rfl (by omega) (by omega) (fun h_51 => ?_) (fun h_51 => ?_)
            · refine w_iinc dX8_richest_56 rfl (nI_inc _ 1) rfl (Nat.le_of_ble_eq_true rfl) ls_3_2 ?_
              refine w_goto dX8_richest_59 rfl ?_
              exact w_as (ih_lp (k + 1) (i + 1) (by omega) (by omega) (by rw [richK, foldN_s, ← richK, hc, if_neg (fun z => by have := z.2; simp only [Nat.add_sub_cancel] at this; omega)]) (by omega)) (by rw [nI_dn]) rfl rfl
            · refine w_iload_n dX8_richest_54 rfl ?_
              refine w_istore_n dX8_richest_55 rfl (Nat.le_of_ble_eq_true rfl) ls_3_1 ?_
              refine w_iinc dX8_richest_56 rfl (nI_inc _ 1) rfl (Nat.le_of_ble_eq_true rfl) ls_3_2 ?_
              refine w_goto dX8_richest_59 rfl ?_
              exact w_as (ih_lp (k + 1) (k + 1) (by omega) (by omega) (by rw [richK, foldN_s, ← richK, hc, if_pos ⟨h_19, Or.inr (by simpa using h_51)⟩]) (by omega)) (by rw [nI_dn]) rfl rfl
  exact lp (vs V 2 + 1) 0 0 (by omega) (by omega) rfl (by omega)
set_option maxHeartbeats 4000000 in
theorem c_wrongLast {g : GG} {S : MS} {x : Int32} {V : VS} (E : Enc S V) (K : OkV V) : Mt g miX8_wrongLast 3 [.int x] (S) (some (.int (nI (wlV V x)))) (S) := by
  refine Mt.start (fun b => [some (.ref b), some (.int x)]) plX8 rfl (fun b => (Nat.le_of_ble_eq_true rfl)) (fun b => rfl) ?_
  intro σ b
  have kb := K.b
  have hwl := wfV_le V x
  refine w_aload_n dX8_wrongLast_0 rfl ?_
  refine w_iload_n dX8_wrongLast_1 rfl ?_
  refine m_calli1 (mi := miX8_wrongFind) dX8_wrongLast_2 q1996 okX8_wrongFind rfl (Nat.le_of_ble_eq_true rfl) (c_wrongFind E K) (Nat.le_of_ble_eq_true rfl) ?_
  refine w_ifN_le dX8_wrongLast_5 rfl (by omega) (fun h_5 => ?_) (fun h_5 => ?_)
  · obtain ⟨hx_d, hth⟩ := wfV_0 (V := V) (x := x) (by omega)
    obtain ⟨d, hd, rfl⟩ := inN_of hx_d (by omega)
    have hcl_d : cl (nI d) = d := nI_clamp (by omega)
    have hkn := K.n (d := d) (by omega)
    refine w_aload_n dX8_wrongLast_16 rfl ?_
    refine w_iload_n dX8_wrongLast_17 rfl ?_
    refine m_calli1 (mi := miX8_manyOn) dX8_wrongLast_18 q1894 okX8_manyOn rfl (Nat.le_of_ble_eq_true rfl) (c_manyOn E K (by first | assumption | omega)) (Nat.le_of_ble_eq_true rfl) ?_
    refine w_ifN_ne dX8_wrongLast_21 rfl (by omega) (fun h_21 => ?_) (fun h_21 => ?_)
    · refine w_iconst (v := nI 0) dX8_wrongLast_29 ki_0 ?_
      exact w_iret dX8_wrongLast_30 rfl ⟨by first | (rw [wlV, if_neg (by omega), hcl_d, if_pos h_21]; done) | (rw [wlV, if_neg (by omega), hcl_d, if_neg h_21]; done) | (rw [wlV, if_pos (by omega)]), by first | rfl | (simp only [bP, isT, bitN, inN, *, not_true_eq_false, not_false_eq_true, and_true, true_and, and_false, false_and, or_true, true_or, or_false, false_or, and_self, or_self, if_true, if_false, ite_true, ite_false]; done) | (simp [bP, isT, bitN, inN, *]; done) | (simp_all [bP, isT, bitN, inN]; done) | (repeat split) <;> first | rfl | contradiction | simp_all⟩
    · refine w_bipush (v := nI 6) dX8_wrongLast_24 kb_6 ?_
      refine w_goto dX8_wrongLast_26 rfl ?_
      exact w_iret dX8_wrongLast_30 rfl ⟨by first | (rw [wlV, if_neg (by omega), hcl_d, if_pos h_21]; done) | (rw [wlV, if_neg (by omega), hcl_d, if_neg h_21]; done) | (rw [wlV, if_pos (by omega)]), by first | rfl | (simp only [bP, isT, bitN, inN, *, not_true_eq_false, not_false_eq_true, and_true, true_and, and_false, false_and, or_true, true_or, or_false, false_or, and_self, or_self, if_true, if_false, ite_true, ite_false]; done) | (simp [bP, isT, bitN, inN, *]; done) | (simp_all [bP, isT, bitN, inN]; done) | (repeat split) <;> first | rfl | contradiction | simp_all⟩
  · refine w_aload_n dX8_wrongLast_8 rfl ?_
    refine w_iload_n dX8_wrongLast_9 rfl ?_
    refine m_calli1 (mi := miX8_wrongFind) dX8_wrongLast_10 q1996 okX8_wrongFind rfl (Nat.le_of_ble_eq_true rfl) (c_wrongFind E K) (Nat.le_of_ble_eq_true rfl) ?_
    refine w_goto dX8_wrongLast_13 rfl ?_
    exact w_iret dX8_wrongLast_30 rfl ⟨by first | (rw [wlV, if_neg (by omega), hcl_d, if_pos h_21]; done) | (rw [wlV, if_neg (by omega), hcl_d, if_neg h_21]; done) | (rw [wlV, if_pos (by omega)]), by first | rfl | (simp only [bP, isT, bitN, inN, *, not_true_eq_false, not_false_eq_true, and_true, true_and, and_false, false_and, or_true, true_or, or_false, false_or, and_self, or_self, if_true, if_false, ite_true, ite_false]; done) | (simp [bP, isT, bitN, inN, *]; done) | (simp_all [bP, isT, bitN, inN]; done) | (repeat split) <;> first | rfl | contradiction | simp_all⟩
set_option maxHeartbeats 4000000 in
theorem c_leftOn {g : GG} {S : MS} {d : Nat} {V : VS} (E : Enc S V) (K : OkV V) (hd8 : d < 8) (hn : 0 < vt V 7 d) : Mt g miX8_leftOn 3 [.int (nI d)] (S) (some (.int (nI (leftV V d)))) (S) := by
  refine Mt.start (fun b => [some (.ref b), some (.int (nI d))]) plX8 rfl (fun b => (Nat.le_of_ble_eq_true rfl)) (fun b => rfl) ?_
  intro σ b
  have kb := K.b
  have kn := K.n hd8
  have hp := (K.p hd8 (k := vt V 7 d - 1) (by omega)).2
  refine w_aload_n dX8_leftOn_0 rfl ?_
  refine mg_at dX8_leftOn_1 rfl ?_
  refine w_iconst (v := nI 3) dX8_leftOn_4 ki_3 ?_
  refine ma_at dX8_leftOn_5 (by omega) ?_
  refine w_topN (E.s 3 (by omega)) ?_
  refine w_aload_n dX8_leftOn_6 rfl ?_
  refine w_iload_n dX8_leftOn_7 rfl ?_
  refine w_aload_n dX8_leftOn_8 rfl ?_
  refine w_iload_n dX8_leftOn_9 rfl ?_
  refine m_calli1 (mi := miX8_manyOn) dX8_leftOn_10 q1894 okX8_manyOn rfl (Nat.le_of_ble_eq_true rfl) (c_manyOn E K (by first | assumption | omega)) (Nat.le_of_ble_eq_true rfl) ?_
  refine w_iconst (v := nI 1) dX8_leftOn_13 ki_1 ?_
  refine w_isubN dX8_leftOn_14 (by omega) ?_
  refine m_calli2 (mi := miX8_minuteAt) dX8_leftOn_15 q1963 okX8_minuteAt rfl (Nat.le_of_ble_eq_true rfl) (c_minuteAt E K (by first | assumption | omega) (by first | assumption | omega)) (Nat.le_of_ble_eq_true rfl) ?_
  refine w_isubN dX8_leftOn_18 hp ?_
  exact w_iret dX8_leftOn_19 rfl ⟨by rfl, by first | rfl | (simp only [bP, isT, bitN, inN, *, not_true_eq_false, not_false_eq_true, and_true, true_and, and_false, false_and, or_true, true_or, or_false, false_or, and_self, or_self, if_true, if_false, ite_true, ite_false]; done) | (simp [bP, isT, bitN, inN, *]; done) | (simp_all [bP, isT, bitN, inN]; done) | (repeat split) <;> first | rfl | contradiction | simp_all⟩
set_option maxHeartbeats 4000000 in
theorem c_left {g : GG} {S : MS} {x : Int32} {V : VS} (E : Enc S V) (K : OkV V) : Mt g miX8_left 4 [.int x] (S) (some (.int ((q_left V x).1))) (sI S 2 (q_left V x).2) := by
  refine Mt.start (fun b => [some (.ref b), some (.int x), none]) plX8 rfl (fun b => (Nat.le_of_ble_eq_true rfl)) (fun b => rfl) ?_
  intro σ b
  have kb := K.b
  have hwl := wlV_le V x
  refine w_aload_n dX8_left_0 rfl ?_
  refine w_iload_n dX8_left_1 rfl ?_
  refine m_calli1 (mi := miX8_wrongLast) dX8_left_2 q2079 okX8_wrongLast rfl (Nat.le_of_ble_eq_true rfl) (c_wrongLast E K) (Nat.le_of_ble_eq_true rfl) ?_
  refine w_istore_n dX8_left_5 rfl (Nat.le_of_ble_eq_true rfl) ls_3_2 ?_
  refine w_iload_n dX8_left_6 rfl ?_
  refine w_ifN_le dX8_left_7 rfl (by omega) (fun h_7 => ?_) (fun h_7 => ?_)
  · obtain ⟨hx_d, hth, hn⟩ := wlV_0 (V := V) (x := x) (by omega)
    obtain ⟨d, hd, rfl⟩ := inN_of hx_d (by omega)
    have hcl_d : cl (nI d) = d := nI_clamp (by omega)
    rw [hcl_d] at hn
    refine w_aload_n dX8_left_18 rfl ?_
    refine w_aload_n dX8_left_19 rfl ?_
    refine w_iload_n dX8_left_20 rfl ?_
    refine m_calli1 (mi := miX8_leftOn) dX8_left_21 q2083 okX8_leftOn rfl (Nat.le_of_ble_eq_true rfl) (c_leftOn E K (by first | assumption | omega) (by first | assumption | omega)) (Nat.le_of_ble_eq_true rfl) ?_
    refine m_calli1 (mi := miX8_gives) dX8_left_24 q1839 okX8_gives rfl (Nat.le_of_ble_eq_true rfl) c_gives (Nat.le_of_ble_eq_true rfl) ?_
    exact w_iret dX8_left_27 rfl ⟨by first | rfl | (unfold q_left; (try simp only [hcl_d]); (repeat' split) <;> first | rfl | contradiction | omega | (exfalso; simp_all; done)), by first | rfl | (unfold q_left; (try simp only [hcl_d]); (repeat' split) <;> first | rfl | contradiction | omega | (exfalso; simp_all; done))⟩
  · refine w_aload_n dX8_left_10 rfl ?_
    refine w_iload_n dX8_left_11 rfl ?_
    refine m_calli1 (mi := miX8_refuse) dX8_left_12 q1746 okX8_refuse rfl (Nat.le_of_ble_eq_true rfl) c_refuse (Nat.le_of_ble_eq_true rfl) ?_
    refine w_goto dX8_left_15 rfl ?_
    exact w_iret dX8_left_27 rfl ⟨by first | rfl | (unfold q_left; (try simp only [hcl_d]); (repeat' split) <;> first | rfl | contradiction | omega | (exfalso; simp_all; done)), by first | rfl | (unfold q_left; (try simp only [hcl_d]); (repeat' split) <;> first | rfl | contradiction | omega | (exfalso; simp_all; done))⟩
set_option maxHeartbeats 4000000 in
theorem c_tideIn {g : GG} {S : MS} {x : Int32} {V : VS} (E : Enc S V) (K : OkV V) : Mt g miX8_tideIn 2 [.int x] (S) (some (.int ((q_tideIn V x).1))) (sI S 2 (q_tideIn V x).2) := by
  refine Mt.start (fun b => [some (.ref b), some (.int x)]) plX8 rfl (fun b => (Nat.le_of_ble_eq_true rfl)) (fun b => rfl) ?_
  intro σ b
  have kb := K.b
  refine w_iload_n dX8_tideIn_0 rfl ?_
  refine w_i2l dX8_tideIn_1 rfl ?_
  refine w_lconst (v := 0) dX8_tideIn_2 rfl ?_
  refine w_ldc2 dX8_tideIn_3 q2091 ?_
  refine s_calli3 (mi := miX8_isFrom) dX8_tideIn_6 q1902 okX8_isFrom (Nat.le_of_ble_eq_true rfl) (c_isFrom0 (m := 99) (by first | assumption | omega)) (Nat.le_of_ble_eq_true rfl) ?_
  refine w_ifB_eq dX8_tideIn_9 rfl (fun h_9 => ?_) (fun h_9 => ?_)
  · refine w_aload_n dX8_tideIn_38 rfl ?_
    refine w_iconst (v := nI 1) dX8_tideIn_39 ki_1 ?_
    refine m_calli1 (mi := miX8_refuse) dX8_tideIn_40 q1746 okX8_refuse rfl (Nat.le_of_ble_eq_true rfl) c_refuse (Nat.le_of_ble_eq_true rfl) ?_
    exact w_iret dX8_tideIn_43 rfl ⟨by first | rfl | (unfold q_tideIn; (try simp only [hcl_k]); (repeat' split) <;> first | rfl | contradiction | omega | (exfalso; simp_all; done)), by first | rfl | (unfold q_tideIn; (try simp only [hcl_k]); (repeat' split) <;> first | rfl | contradiction | omega | (exfalso; simp_all; done))⟩
  · obtain ⟨k, hk, hkx⟩ := inN_of h_9 (by omega)
    have hm : k * vs V 4 ≤ 99 * 60 := Nat.mul_le_mul (by omega) (by omega)
    refine w_aload_n dX8_tideIn_12 rfl ?_
    refine w_iconst (v := nI 1) dX8_tideIn_13 ki_1 ?_
    refine w_aload_n dX8_tideIn_14 rfl ?_
    refine mg_at dX8_tideIn_15 rfl ?_
    refine w_iconst (v := nI 3) dX8_tideIn_18 ki_3 ?_
    refine ma_at dX8_tideIn_19 (by omega) ?_
    refine w_topN (E.s 3 (by omega)) ?_
    refine w_iload_n dX8_tideIn_20 rfl ?_
    refine w_aload_n dX8_tideIn_21 rfl ?_
    refine mg_at dX8_tideIn_22 rfl ?_
    refine w_iconst (v := nI 4) dX8_tideIn_25 ki_4 ?_
    refine ma_at dX8_tideIn_26 (by omega) ?_
    refine w_topN (E.s 4 (by omega)) ?_
    subst hkx
    have hcl_k : cl (nI k) = k := nI_clamp (by omega)
    refine w_imulN dX8_tideIn_27 ?_
    refine w_isub dX8_tideIn_28 ?_
    refine w_mmax dX8_tideIn_29 q2092 q1165 q155 q1166 (Nat.le_of_ble_eq_true rfl) (Nat.le_of_ble_eq_true rfl) ?_
    refine w_topN (max_sub (by omega) (by omega)) ?_
    refine m_calli1 (mi := miX8_gives) dX8_tideIn_32 q1839 okX8_gives rfl (Nat.le_of_ble_eq_true rfl) c_gives (Nat.le_of_ble_eq_true rfl) ?_
    refine w_goto dX8_tideIn_35 rfl ?_
    exact w_iret dX8_tideIn_43 rfl ⟨by first | rfl | (unfold q_tideIn; (try simp only [hcl_k]); (repeat' split) <;> first | rfl | contradiction | omega | (exfalso; simp_all; done)), by first | rfl | (unfold q_tideIn; (try simp only [hcl_k]); (repeat' split) <;> first | rfl | contradiction | omega | (exfalso; simp_all; done))⟩
set_option maxHeartbeats 4000000 in
theorem c_latest {g : GG} {S : MS} {V : VS} (E : Enc S V) (K : OkV V) : Mt g miX8_latest 3 [] (S) (some (.int ((q_latest V).1))) (sI S 2 (q_latest V).2) := by
  refine Mt.start (fun b => [some (.ref b), none, none]) plX8 rfl (fun b => (Nat.le_of_ble_eq_true rfl)) (fun b => rfl) ?_
  intro σ b
  have kb := K.b
  refine w_iconst (v := (-1)) dX8_latest_0 ki_m1 ?_
  refine w_istore_n dX8_latest_1 rfl (Nat.le_of_ble_eq_true rfl) ls_3_1 ?_
  refine w_iconst (v := nI 0) dX8_latest_2 ki_0 ?_
  refine w_istore_n dX8_latest_3 rfl (Nat.le_of_ble_eq_true rfl) ls_3_2 ?_
  have lp : ∀ (j9 : Nat) (k : Nat) (c : Nat), vs V 2 - k < j9 → k ≤ vs V 2 → latK V k = c → c ≤ 241 → Wp g (mtM g miX8_latest 3 σ b (some (.int ((q_latest V).1))) (sI S 2 (q_latest V).2)) 0 0 4 [some (.ref b), some (.int (nI c - nI 1)), some (.int (nI k))] [] (sM g σ b (S)) := by
    intro j9
    induction j9 with
    | zero => intro k c hmu hk hc hck; exact absurd hmu (Nat.not_lt_zero _)
    | succ j9 ih_lp =>
      intro k c hmu hk hc hck
      refine w_iload_n dX8_latest_4 rfl ?_
      refine w_aload_n dX8_latest_5 rfl ?_
      refine mg_at dX8_latest_6 rfl ?_
      refine w_iconst (v := nI 2) dX8_latest_9 ki_2 ?_
      refine ma_at dX8_latest_10 (by omega) ?_
      refine w_topN (E.s 2 (by omega)) ?_
      refine w_icmpN_ge dX8_latest_11 rfl (by omega) (by omega) (fun h_11 => ?_) (fun h_11 => ?_)
      · obtain rfl : k = vs V 2 := by omega
        refine w_aload_n dX8_latest_45 rfl ?_
        refine w_iload_n dX8_latest_46 rfl ?_
        refine m_calli1 (mi := miX8_orNone) dX8_latest_47 q2035 okX8_orNone rfl (Nat.le_of_ble_eq_true rfl) c_orNone (Nat.le_of_ble_eq_true rfl) ?_
        exact w_iret dX8_latest_50 rfl ⟨by rw [← hc]; rfl, by rw [orA_2 (by omega), ← hc]; rfl⟩
      · have hkn := K.n (d := k) (by omega)
        refine w_aload_n dX8_latest_14 rfl ?_
        refine w_iload_n dX8_latest_15 rfl ?_
        refine m_calli1 (mi := miX8_manyOn) dX8_latest_16 q1894 okX8_manyOn rfl (Nat.le_of_ble_eq_true rfl) (c_manyOn E K (by first | assumption | omega)) (Nat.le_of_ble_eq_true rfl) ?_
        refine w_ifN_le dX8_latest_19 rfl (by omega) (fun h_19 => ?_) (fun h_19 => ?_)
        · refine w_iinc dX8_latest_39 rfl (nI_inc _ 1) rfl (Nat.le_of_ble_eq_true rfl) ls_3_2 ?_
          refine w_goto dX8_latest_42 rfl ?_
          exact ih_lp (k + 1) c (by omega) (by omega) (by rw [latK, foldN_s, ← latK, hc, if_neg (by omega)]) (by omega)
        · have hp := (K.p (d := k) (by omega) (k := vt V 7 k - 1) (by omega)).2
          refine w_iload_n dX8_latest_22 rfl ?_
          refine w_aload_n dX8_latest_23 rfl ?_
          refine w_iload_n dX8_latest_24 rfl ?_
          refine w_aload_n dX8_latest_25 rfl ?_
          refine w_iload_n dX8_latest_26 rfl ?_
          refine m_calli1 (mi := miX8_manyOn) dX8_latest_27 q1894 okX8_manyOn rfl (Nat.le_of_ble_eq_true rfl) (c_manyOn E K (by first | assumption | omega)) (Nat.le_of_ble_eq_true rfl) ?_
          refine w_iconst (v := nI 1) dX8_latest_30 ki_1 ?_
          refine w_isubN dX8_latest_31 (by omega) ?_
          refine m_calli2 (mi := miX8_minuteAt) dX8_latest_32 q1963 okX8_minuteAt rfl (Nat.le_of_ble_eq_true rfl) (c_minuteAt E K (by first | assumption | omega) (by first | assumption | omega)) (Nat.le_of_ble_eq_true rfl) ?_
          refine w_mmax dX8_latest_35 q2092 q1165 q155 q1166 (Nat.le_of_ble_eq_true rfl) (Nat.le_of_ble_eq_true rfl) ?_
          refine w_top (congrArg Value.int (max_m1 (by omega) (by omega))) ?_
          refine w_istore_n dX8_latest_38 rfl (Nat.le_of_ble_eq_true rfl) ls_3_1 ?_
          refine w_iinc dX8_latest_39 rfl (nI_inc _ 1) rfl (Nat.le_of_ble_eq_true rfl) ls_3_2 ?_
          refine w_goto dX8_latest_42 rfl ?_
          exact ih_lp (k + 1) (max c (vp V 1 k (vt V 7 k - 1) + 1)) (by omega) (by omega) (by rw [latK, foldN_s, ← latK, hc, if_pos (by omega)]) (by omega)
  exact lp (vs V 2 + 1) 0 0 (by omega) (by omega) rfl (by omega)
set_option maxHeartbeats 4000000 in
theorem c_alone {g : GG} {S : MS} {V : VS} (E : Enc S V) (K : OkV V) : Mt g miX8_alone 3 [] (S) (some (.int ((q_alone V).1))) (sI S 2 (q_alone V).2) := by
  refine Mt.start (fun b => [some (.ref b), none, none, none, none]) plX8 rfl (fun b => (Nat.le_of_ble_eq_true rfl)) (fun b => rfl) ?_
  intro σ b
  have kb := K.b
  refine w_iconst (v := nI 0) dX8_alone_0 ki_0 ?_
  refine w_istore_n dX8_alone_1 rfl (Nat.le_of_ble_eq_true rfl) ls_5_1 ?_
  refine w_iconst (v := nI 0) dX8_alone_2 ki_0 ?_
  refine w_istore_n dX8_alone_3 rfl (Nat.le_of_ble_eq_true rfl) ls_5_2 ?_
  have lp : ∀ (j9 : Nat) (k : Nat), vs V 2 - k < j9 → k ≤ vs V 2 → Wp g (mtM g miX8_alone 3 σ b (some (.int ((q_alone V).1))) (sI S 2 (q_alone V).2)) 0 0 4 [some (.ref b), some (.int (nI (foldN (fun d s => s ||| if pcnt (whoS V d (vt V 7 d)) = 1 then 2 ^ d else 0) 0 k))), some (.int (nI k)), none, none] [] (sM g σ b (S)) := by
    intro j9
    induction j9 with
    | zero => intro k hmu hk; exact absurd hmu (Nat.not_lt_zero _)
    | succ j9 ih_lp =>
      intro k hmu hk
      refine w_iload_n dX8_alone_4 rfl ?_
      refine w_aload_n dX8_alone_5 rfl ?_
      refine mg_at dX8_alone_6 rfl ?_
      refine w_iconst (v := nI 2) dX8_alone_9 ki_2 ?_
      refine ma_at dX8_alone_10 (by omega) ?_
      refine w_topN (E.s 2 (by omega)) ?_
      refine w_icmpN_ge dX8_alone_11 rfl (by omega) (by omega) (fun h_11 => ?_) (fun h_11 => ?_)
      · obtain rfl : k = vs V 2 := by omega
        refine w_aload_n dX8_alone_71 rfl ?_
        refine w_iload_n dX8_alone_72 rfl ?_
        refine m_calli1 (mi := miX8_gives) dX8_alone_73 q1839 okX8_gives rfl (Nat.le_of_ble_eq_true rfl) c_gives (Nat.le_of_ble_eq_true rfl) ?_
        exact w_iret dX8_alone_76 rfl ⟨by rfl, by rfl⟩
      · refine w_iconst (v := nI 0) dX8_alone_14 ki_0 ?_
        refine w_istore_n dX8_alone_15 rfl (Nat.le_of_ble_eq_true rfl) ls_5_3 ?_
        refine w_iconst (v := nI 0) dX8_alone_16 ki_0 ?_
        refine w_istore dX8_alone_17 rfl (Nat.le_of_ble_eq_true rfl) ls_5_4 ?_
        have hkn := K.n (d := k) (by omega)
        have li : ∀ (j9 : Nat) (q : Nat), vt V 7 k - q < j9 → q ≤ vt V 7 k → whoS V k q < 64 → Wp g (mtM g miX8_alone 3 σ b (some (.int ((q_alone V).1))) (sI S 2 (q_alone V).2)) 0 0 19 [some (.ref b), some (.int (nI (foldN (fun d s => s ||| if pcnt (whoS V d (vt V 7 d)) = 1 then 2 ^ d else 0) 0 k))), some (.int (nI k)), some (.int (nI (whoS V k q))), some (.int (nI q))] [] (sM g σ b (S)) := by
          intro j9
          induction j9 with
          | zero => intro q hmu hq hw; exact absurd hmu (Nat.not_lt_zero _)
          | succ j9 ih_li =>
            intro q hmu hq hw
            refine w_iload dX8_alone_19 rfl ?_
            refine w_aload_n dX8_alone_21 rfl ?_
            refine w_iload_n dX8_alone_22 rfl ?_
            refine m_calli1 (mi := miX8_manyOn) dX8_alone_23 q1894 okX8_manyOn rfl (Nat.le_of_ble_eq_true rfl) (c_manyOn E K (by first | assumption | omega)) (Nat.le_of_ble_eq_true rfl) ?_
            refine w_icmpN_ge dX8_alone_26 rfl (by omega) (by omega) (fun h_26 => ?_) (fun h_26 => ?_)
            · obtain rfl : q = vt V 7 k := by omega
              have hp6 := pcnt_le _ hw
              refine w_iload_n dX8_alone_47 rfl ?_
              refine w_iload_n dX8_alone_48 rfl ?_
              refine s_calli1 (mi := miX8_bits) dX8_alone_49 q2012 okX8_bits (Nat.le_of_ble_eq_true rfl) (c_bits (by first | assumption | omega)) (Nat.le_of_ble_eq_true rfl) ?_
              refine w_iconst (v := nI 1) dX8_alone_52 ki_1 ?_
              refine w_icmpN_ne dX8_alone_53 rfl (by omega) (by omega) (fun h_53 => ?_) (fun h_53 => ?_)
              · refine w_iconst (v := nI 0) dX8_alone_62 ki_0 ?_
                refine w_iorN dX8_alone_63 ?_
                refine w_istore_n dX8_alone_64 rfl (Nat.le_of_ble_eq_true rfl) ls_5_1 ?_
                refine w_iinc dX8_alone_65 rfl (nI_inc _ 1) rfl (Nat.le_of_ble_eq_true rfl) ls_5_2 ?_
                refine w_goto dX8_alone_68 rfl ?_
                exact w_L (wkS (wkS (wkS (wkN (wkN wk0))))) (w_as (ih_lp (k + 1) (by omega) (by omega)) (by simp only [foldN_s]; (try split) <;> first | rfl | (exfalso; first | contradiction | omega | (simp_all; done))) rfl rfl)
              · refine w_iconst (v := nI 1) dX8_alone_56 ki_1 ?_
                refine w_iload_n dX8_alone_57 rfl ?_
                refine w_shl1N dX8_alone_58 (by omega) ?_
                refine w_goto dX8_alone_59 rfl ?_
                refine w_iorN dX8_alone_63 ?_
                refine w_istore_n dX8_alone_64 rfl (Nat.le_of_ble_eq_true rfl) ls_5_1 ?_
                refine w_iinc dX8_alone_65 rfl (nI_inc _ 1) rfl (Nat.le_of_ble_eq_true rfl) ls_5_2 ?_
                refine w_goto dX8_alone_68 rfl ?_
                exact w_L (wkS (wkS (wkS (wkN (wkN wk0))))) (w_as (ih_lp (k + 1) (by omega) (by omega)) (by simp only [foldN_s]; (try split) <;> first | rfl | (exfalso; first | contradiction | omega | (simp_all; done))) rfl rfl)
            · have hw6 := (K.p (d := k) (by omega) (k := q) (by omega)).1
              refine w_iload_n dX8_alone_29 rfl ?_
              refine w_iconst (v := nI 1) dX8_alone_30 ki_1 ?_
              refine w_aload_n dX8_alone_31 rfl ?_
              refine w_iload_n dX8_alone_32 rfl ?_
              refine w_iload dX8_alone_33 rfl ?_
              refine m_calli2 (mi := miX8_whoAt) dX8_alone_35 q1955 okX8_whoAt rfl (Nat.le_of_ble_eq_true rfl) (c_whoAt E K (by first | assumption | omega) (by first | assumption | omega)) (Nat.le_of_ble_eq_true rfl) ?_
              refine w_shl1N dX8_alone_38 (by omega) ?_
              refine w_iorN dX8_alone_39 ?_
              refine w_istore_n dX8_alone_40 rfl (Nat.le_of_ble_eq_true rfl) ls_5_3 ?_
              refine w_iinc dX8_alone_41 rfl (nI_inc _ 1) rfl (Nat.le_of_ble_eq_true rfl) ls_5_4 ?_
              refine w_goto dX8_alone_44 rfl ?_
              exact ih_li (q + 1) (by omega) (by omega) (or_lt64 _ hw _ (by omega))
        exact li (vt V 7 k + 1) 0 (by omega) (by omega) (show 0 < 64 by omega)
  exact lp (vs V 2 + 1) 0 (by omega) (by omega)
set_option maxHeartbeats 4000000 in
theorem c_part {g : GG} {S : MS} {x : Int32} {k : Int32} {V : VS} (E : Enc S V) (K : OkV V) : Mt g miX8_part 6 [.int x, .int k] (S) (some (.int ((q_part V x k).1))) (sI S 2 (q_part V x k).2) := by
  refine Mt.start (fun b => [some (.ref b), some (.int x), some (.int k), none, none, none]) plX8 rfl (fun b => (Nat.le_of_ble_eq_true rfl)) (fun b => rfl) ?_
  intro σ b
  have kb := K.b
  have hwl := wfV_le V x
  refine w_aload_n dX8_part_0 rfl ?_
  refine w_iload_n dX8_part_1 rfl ?_
  refine m_calli1 (mi := miX8_wrongFind) dX8_part_2 q1996 okX8_wrongFind rfl (Nat.le_of_ble_eq_true rfl) (c_wrongFind E K) (Nat.le_of_ble_eq_true rfl) ?_
  refine w_istore_n dX8_part_5 rfl (Nat.le_of_ble_eq_true rfl) ls_6_3 ?_
  refine w_iload_n dX8_part_6 rfl ?_
  refine w_ifN_le dX8_part_7 rfl (by omega) (fun h_7 => ?_) (fun h_7 => ?_)
  · obtain ⟨hx_d, hth⟩ := wfV_0 (V := V) (x := x) (by omega)
    have hw0 : ¬ 0 < wfV V x := by omega
    obtain ⟨d, hd, rfl⟩ := inN_of hx_d (by omega)
    have hcl_d : cl (nI d) = d := nI_clamp (by omega)
    refine w_iload_n dX8_part_16 rfl ?_
    refine w_istore dX8_part_17 rfl (Nat.le_of_ble_eq_true rfl) ls_6_4 ?_
    refine w_iconst (v := nI 0) dX8_part_19 ki_0 ?_
    refine w_istore dX8_part_20 rfl (Nat.le_of_ble_eq_true rfl) ls_6_5 ?_
    have lp : ∀ (j9 : Nat) (f : Nat) (j : Nat), vs V 1 - f < j9 → f ≤ vs V 1 → j ≤ f → partF (lastV V d) k f j (vs V 1 - f) = partV V (nI d) k → Wp g (mtM g miX8_part 6 σ b (some (.int ((q_part V (nI d) k).1))) (sI S 2 (q_part V (nI d) k).2)) 0 0 22 [some (.ref b), some (.int (nI d)), some (.int k), none, some (.int (k - nI j)), some (.int (nI f))] [] (sM g σ b (S)) := by
      intro j9
      induction j9 with
      | zero => intro f j hmu hf hj hr; exact absurd hmu (Nat.not_lt_zero _)
      | succ j9 ih_lp =>
        intro f j hmu hf hj hr
        have hll := lastV_lt K (d := d) (by omega)
        refine w_iload dX8_part_22 rfl ?_
        refine w_aload_n dX8_part_24 rfl ?_
        refine mg_at dX8_part_25 rfl ?_
        refine w_iconst (v := nI 1) dX8_part_28 ki_1 ?_
        refine ma_at dX8_part_29 (by omega) ?_
        refine w_topN (E.s 1 (by omega)) ?_
        refine w_icmpN_ge dX8_part_30 rfl (by omega) (by omega) (fun h_30 => ?_) (fun h_30 => ?_)
        · have hr2 : partV V (nI d) k = 0 := by rw [← hr, show vs V 1 - f = 0 by omega]; rfl
          refine w_aload_n dX8_part_75 rfl ?_
          refine w_bipush (v := nI 6) dX8_part_76 kb_6 ?_
          refine m_calli1 (mi := miX8_refuse) dX8_part_78 q1746 okX8_refuse rfl (Nat.le_of_ble_eq_true rfl) c_refuse (Nat.le_of_ble_eq_true rfl) ?_
          exact w_iret dX8_part_81 rfl ⟨by first | (rw [q_part, if_neg hw0, hr2, hcl_d]; rfl) | (rw [q_part, if_neg hw0, hr2]; rfl) | (rw [q_part, if_pos (by omega)]; rfl), by first | (rw [q_part, if_neg hw0, hr2, hcl_d]; rfl) | (rw [q_part, if_neg hw0, hr2]; rfl) | (rw [q_part, if_pos (by omega)]; rfl)⟩
        · refine w_aload_n dX8_part_33 rfl ?_
          refine w_iload_n dX8_part_34 rfl ?_
          refine m_calli1 (mi := miX8_lastOn) dX8_part_35 q2000 okX8_lastOn rfl (Nat.le_of_ble_eq_true rfl) (c_lastOn E K (by first | assumption | omega)) (Nat.le_of_ble_eq_true rfl) ?_
          refine w_iload dX8_part_38 rfl ?_
          refine w_ishrN dX8_part_40 (by omega) (by omega) ?_
          refine w_iconst (v := nI 1) dX8_part_41 ki_1 ?_
          refine w_iandN dX8_part_42 ?_
          refine w_ifN_ne dX8_part_43 rfl (and1_lt _) (fun h_43 => ?_) (fun h_43 => ?_)
          · have hbit : bitN (lastV V d) f := by rcases and1_01 (lastV V d >>> f) with z | z; exact absurd z h_43; exact z
            refine w_iload dX8_part_49 rfl ?_
            refine w_if_ne dX8_part_51 rfl (fun h_51 => ?_) (fun h_51 => ?_)
            · have hkj : ¬ k = nI j := fun z => h_51 (by rw [z, Int32.sub_self])
              refine w_iinc dX8_part_66 rfl rfl rfl (Nat.le_of_ble_eq_true rfl) ls_6_4 ?_
              refine w_iinc dX8_part_69 rfl (nI_inc _ 1) rfl (Nat.le_of_ble_eq_true rfl) ls_6_5 ?_
              refine w_goto dX8_part_72 rfl ?_
              exact w_as (ih_lp (f + 1) (j + 1) (by omega) (by omega) (by omega) (by rw [← hr, show vs V 1 - f = (vs V 1 - (f + 1)) + 1 by omega]; exact (by rw [partF, if_pos hbit, if_neg hkj]))) (by rw [kj_step]) rfl rfl
            · have hkj : k = nI j := kj_eq h_51
              have hr2 : partV V (nI d) k = f + 1 := by rw [← hr, show vs V 1 - f = (vs V 1 - (f + 1)) + 1 by omega]; rw [partF, if_pos hbit, if_pos hkj]
              refine w_aload_n dX8_part_54 rfl ?_
              refine w_aload_n dX8_part_55 rfl ?_
              refine w_iload dX8_part_56 rfl ?_
              refine w_iload_n dX8_part_58 rfl ?_
              refine m_calli2 (mi := miX8_shareOf) dX8_part_59 q2023 okX8_shareOf rfl (Nat.le_of_ble_eq_true rfl) (c_shareOf E K (by first | assumption | omega) (by first | assumption | omega)) (Nat.le_of_ble_eq_true rfl) ?_
              refine m_calli1 (mi := miX8_gives) dX8_part_62 q1839 okX8_gives rfl (Nat.le_of_ble_eq_true rfl) c_gives (Nat.le_of_ble_eq_true rfl) ?_
              exact w_iret dX8_part_65 rfl ⟨by first | (rw [q_part, if_neg hw0, hr2, hcl_d]; rfl) | (rw [q_part, if_neg hw0, hr2]; rfl) | (rw [q_part, if_pos (by omega)]; rfl), by first | (rw [q_part, if_neg hw0, hr2, hcl_d]; rfl) | (rw [q_part, if_neg hw0, hr2]; rfl) | (rw [q_part, if_pos (by omega)]; rfl)⟩
          · refine w_goto dX8_part_46 rfl ?_
            refine w_iinc dX8_part_69 rfl (nI_inc _ 1) rfl (Nat.le_of_ble_eq_true rfl) ls_6_5 ?_
            refine w_goto dX8_part_72 rfl ?_
            exact ih_lp (f + 1) j (by omega) (by omega) (by omega) (by rw [← hr, show vs V 1 - f = (vs V 1 - (f + 1)) + 1 by omega]; exact (if_neg (by intro z; rw [bitN] at z; omega)).symm)
    exact w_L (wkS (wkS (wkS (wkN (wkS (wkS wk0)))))) (w_as (lp (vs V 1 + 1) 0 0 (by omega) (by omega) (by omega) (by rw [partV, hcl_d]; rfl)) (by rw [← kj_0 k]) rfl rfl)
  · refine w_aload_n dX8_part_10 rfl ?_
    refine w_iload_n dX8_part_11 rfl ?_
    refine m_calli1 (mi := miX8_refuse) dX8_part_12 q1746 okX8_refuse rfl (Nat.le_of_ble_eq_true rfl) c_refuse (Nat.le_of_ble_eq_true rfl) ?_
    exact w_iret dX8_part_15 rfl ⟨by first | (rw [q_part, if_neg hw0, hr2, hcl_d]; rfl) | (rw [q_part, if_neg hw0, hr2]; rfl) | (rw [q_part, if_pos (by omega)]; rfl), by first | (rw [q_part, if_neg hw0, hr2, hcl_d]; rfl) | (rw [q_part, if_neg hw0, hr2]; rfl) | (rw [q_part, if_pos (by omega)]; rfl)⟩
set_option maxHeartbeats 4000000 in
theorem c_crowd {g : GG} {S : MS} {x : Int32} {V : VS} (E : Enc S V) (K : OkV V) : Mt g miX8_crowd 2 [.int x] (S) (some (.int ((q_crowd V x).1))) (sI S 2 (q_crowd V x).2) := by
  refine Mt.start (fun b => [some (.ref b), some (.int x), none, none, none, none]) plX8 rfl (fun b => (Nat.le_of_ble_eq_true rfl)) (fun b => rfl) ?_
  intro σ b
  have kb := K.b
  refine w_iload_n dX8_crowd_0 rfl ?_
  refine w_i2l dX8_crowd_1 rfl ?_
  refine w_lconst (v := 1) dX8_crowd_2 rfl ?_
  refine w_ldc2 dX8_crowd_3 q1987 ?_
  refine s_calli3 (mi := miX8_isFrom) dX8_crowd_6 q1902 okX8_isFrom (Nat.le_of_ble_eq_true rfl) (c_isFrom1 (m := 40) (by first | assumption | omega)) (Nat.le_of_ble_eq_true rfl) ?_
  refine w_ifB_ne dX8_crowd_9 rfl (fun h_9 => ?_) (fun h_9 => ?_)
  · have hx := h_9
    obtain ⟨q, hq, rfl⟩ := inN_of h_9.1 (by omega)
    have hcl_q : cl (nI q) = q := nI_clamp (by omega)
    refine w_iconst (v := nI 0) dX8_crowd_18 ki_0 ?_
    refine w_istore_n dX8_crowd_19 rfl (Nat.le_of_ble_eq_true rfl) ls_6_2 ?_
    refine w_iconst (v := nI 0) dX8_crowd_20 ki_0 ?_
    refine w_istore_n dX8_crowd_21 rfl (Nat.le_of_ble_eq_true rfl) ls_6_3 ?_
    have lo : ∀ (j9 : Nat) (c : Nat) (m : Nat), vs V 0 - c < j9 → c ≤ vs V 0 → foldN (fun c m => max m (crowdK V q c (vs V 1))) 0 c = m → m ≤ 6 → Wp g (mtM g miX8_crowd 2 σ b (some (.int ((q_crowd V (nI q)).1))) (sI S 2 (q_crowd V (nI q)).2)) 0 0 22 [some (.ref b), some (.int (nI q)), some (.int (nI m)), some (.int (nI c)), none, none] [] (sM g σ b (S)) := by
      intro j9
      induction j9 with
      | zero => intro c m hmu hc hm hm6; exact absurd hmu (Nat.not_lt_zero _)
      | succ j9 ih_lo =>
        intro c m hmu hc hm hm6
        refine w_iload_n dX8_crowd_22 rfl ?_
        refine w_aload_n dX8_crowd_23 rfl ?_
        refine mg_at dX8_crowd_24 rfl ?_
        refine w_iconst (v := nI 0) dX8_crowd_27 ki_0 ?_
        refine ma_at dX8_crowd_28 (by omega) ?_
        refine w_topN (E.s 0 (by omega)) ?_
        refine w_icmpN_ge dX8_crowd_29 rfl (by omega) (by omega) (fun h_29 => ?_) (fun h_29 => ?_)
        · obtain rfl : c = vs V 0 := by omega
          refine w_aload_n dX8_crowd_108 rfl ?_
          refine w_iload_n dX8_crowd_109 rfl ?_
          refine m_calli1 (mi := miX8_gives) dX8_crowd_110 q1839 okX8_gives rfl (Nat.le_of_ble_eq_true rfl) c_gives (Nat.le_of_ble_eq_true rfl) ?_
          exact w_iret dX8_crowd_113 rfl ⟨by first | rfl | (rw [q_crowd, if_pos hx, hcl_q, hm]; rfl) | (rw [q_crowd, if_neg h_9]; rfl), by first | rfl | (rw [q_crowd, if_pos hx, hcl_q, hm]; rfl) | (rw [q_crowd, if_neg h_9]; rfl)⟩
        · refine w_iconst (v := nI 0) dX8_crowd_32 ki_0 ?_
          refine w_istore dX8_crowd_33 rfl (Nat.le_of_ble_eq_true rfl) ls_6_4 ?_
          refine w_iconst (v := nI 0) dX8_crowd_35 ki_0 ?_
          refine w_istore dX8_crowd_36 rfl (Nat.le_of_ble_eq_true rfl) ls_6_5 ?_
          have li : ∀ (j9 : Nat) (f : Nat), vs V 1 - f < j9 → f ≤ vs V 1 → crowdK V q c f ≤ f → Wp g (mtM g miX8_crowd 2 σ b (some (.int ((q_crowd V (nI q)).1))) (sI S 2 (q_crowd V (nI q)).2)) 0 0 38 [some (.ref b), some (.int (nI q)), some (.int (nI m)), some (.int (nI c)), some (.int (nI (crowdK V q c f))), some (.int (nI f))] [] (sM g σ b (S)) := by
            intro j9
            induction j9 with
            | zero => intro f hmu hf hn; exact absurd hmu (Nat.not_lt_zero _)
            | succ j9 ih_li =>
              intro f hmu hf hn
              refine w_iload dX8_crowd_38 rfl ?_
              refine w_aload_n dX8_crowd_40 rfl ?_
              refine mg_at dX8_crowd_41 rfl ?_
              refine w_iconst (v := nI 1) dX8_crowd_44 ki_1 ?_
              refine ma_at dX8_crowd_45 (by omega) ?_
              refine w_topN (E.s 1 (by omega)) ?_
              refine w_icmpN_ge dX8_crowd_46 rfl (by omega) (by omega) (fun h_46 => ?_) (fun h_46 => ?_)
              · obtain rfl : f = vs V 1 := by omega
                refine w_iload_n dX8_crowd_95 rfl ?_
                refine w_iload dX8_crowd_96 rfl ?_
                refine w_mmax dX8_crowd_98 q2092 q1165 q155 q1166 (Nat.le_of_ble_eq_true rfl) (Nat.le_of_ble_eq_true rfl) ?_
                refine w_topN (max_n (by omega) (by omega)) ?_
                refine w_istore_n dX8_crowd_101 rfl (Nat.le_of_ble_eq_true rfl) ls_6_2 ?_
                refine w_iinc dX8_crowd_102 rfl (nI_inc _ 1) rfl (Nat.le_of_ble_eq_true rfl) ls_6_3 ?_
                refine w_goto dX8_crowd_105 rfl ?_
                exact w_L (wkS (wkS (wkS (wkS (wkN (wkN wk0)))))) (ih_lo (c + 1) _ (by omega) (by omega) (by rw [foldN_s, hm]) (by omega))
              · have kf := K.f (f := f) (by omega)
                refine w_iload dX8_crowd_49 rfl ?_
                refine w_aload_n dX8_crowd_51 rfl ?_
                refine mg_at dX8_crowd_52 rfl ?_
                refine w_iload dX8_crowd_55 rfl ?_
                refine s_calli1 (mi := miX8_finderRow) dX8_crowd_57 q1879 okX8_finderRow (Nat.le_of_ble_eq_true rfl) c_finderRow (Nat.le_of_ble_eq_true rfl) ?_
                refine ma_at dX8_crowd_60 (by omega) ?_
                refine w_topN (E.f 0 (by omega) (by omega)) ?_
                refine w_iload_n dX8_crowd_61 rfl ?_
                refine w_icmpN_lt dX8_crowd_62 rfl (by omega) (by omega) (fun h_62 => ?_) (fun h_62 => ?_)
                · refine w_iconst (v := nI 0) dX8_crowd_85 ki_0 ?_
                  refine w_iaddN dX8_crowd_86 ?_
                  refine w_istore dX8_crowd_87 rfl (Nat.le_of_ble_eq_true rfl) ls_6_4 ?_
                  refine w_iinc dX8_crowd_89 rfl (nI_inc _ 1) rfl (Nat.le_of_ble_eq_true rfl) ls_6_5 ?_
                  refine w_goto dX8_crowd_92 rfl ?_
                  exact w_as (ih_li (f + 1) (by omega) (by omega) (by rw [crowd_s]; split <;> omega)) (by rw [crowd_s, if_neg (by omega)]) rfl rfl
                · refine w_aload_n dX8_crowd_65 rfl ?_
                  refine mg_at dX8_crowd_66 rfl ?_
                  refine w_iload dX8_crowd_69 rfl ?_
                  refine s_calli1 (mi := miX8_finderRow) dX8_crowd_71 q1879 okX8_finderRow (Nat.le_of_ble_eq_true rfl) c_finderRow (Nat.le_of_ble_eq_true rfl) ?_
                  refine ma_at dX8_crowd_74 (by omega) ?_
                  refine w_topN (E.f 0 (by omega) (by omega)) ?_
                  refine w_iload_n dX8_crowd_75 rfl ?_
                  refine w_iload_n dX8_crowd_76 rfl ?_
                  refine w_iaddN dX8_crowd_77 ?_
                  refine w_icmpN_ge dX8_crowd_78 rfl (by omega) (by omega) (fun h_78 => ?_) (fun h_78 => ?_)
                  · refine w_iconst (v := nI 0) dX8_crowd_85 ki_0 ?_
                    refine w_iaddN dX8_crowd_86 ?_
                    refine w_istore dX8_crowd_87 rfl (Nat.le_of_ble_eq_true rfl) ls_6_4 ?_
                    refine w_iinc dX8_crowd_89 rfl (nI_inc _ 1) rfl (Nat.le_of_ble_eq_true rfl) ls_6_5 ?_
                    refine w_goto dX8_crowd_92 rfl ?_
                    exact w_as (ih_li (f + 1) (by omega) (by omega) (by rw [crowd_s]; split <;> omega)) (by rw [crowd_s, if_neg (by omega)]) rfl rfl
                  · refine w_iconst (v := nI 1) dX8_crowd_81 ki_1 ?_
                    refine w_goto dX8_crowd_82 rfl ?_
                    refine w_iaddN dX8_crowd_86 ?_
                    refine w_istore dX8_crowd_87 rfl (Nat.le_of_ble_eq_true rfl) ls_6_4 ?_
                    refine w_iinc dX8_crowd_89 rfl (nI_inc _ 1) rfl (Nat.le_of_ble_eq_true rfl) ls_6_5 ?_
                    refine w_goto dX8_crowd_92 rfl ?_
                    exact w_as (ih_li (f + 1) (by omega) (by omega) (by rw [crowd_s]; split <;> omega)) (by rw [crowd_s, if_pos ⟨by omega, by omega⟩]) rfl rfl
          exact li (vs V 1 + 1) 0 (by omega) (by omega) (by exact Nat.le_refl _)
    exact lo (vs V 0 + 1) 0 0 (by omega) (by omega) rfl (by omega)
  · refine w_aload_n dX8_crowd_12 rfl ?_
    refine w_iconst (v := nI 1) dX8_crowd_13 ki_1 ?_
    refine m_calli1 (mi := miX8_refuse) dX8_crowd_14 q1746 okX8_refuse rfl (Nat.le_of_ble_eq_true rfl) c_refuse (Nat.le_of_ble_eq_true rfl) ?_
    exact w_iret dX8_crowd_17 rfl ⟨by first | rfl | (rw [q_crowd, if_pos hx, hcl_q, hm]; rfl) | (rw [q_crowd, if_neg h_9]; rfl), by first | rfl | (rw [q_crowd, if_pos hx, hcl_q, hm]; rfl) | (rw [q_crowd, if_neg h_9]; rfl)⟩
