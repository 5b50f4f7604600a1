set_option maxRecDepth 100000
set_option maxHeartbeats 4000000 in
theorem add_tail {g : GG} {σ0 σ : PH} {C C1 : CS} {i n c c1 f m : Nat} {who tim : Nat → Nat} (Eh : EncH C1 i n who tim c1) (hc1 : n < c1) (hcc : c1 = (if n = c then 2 * c else c)) (hS : SH i C C1) (H : Hold g σ C1) (F : Fr σ0 σ) (hi : oO C1 (i / 8) = true) (hm2 : ∀ k, k < n → tim k ≤ 240) (hm : m ≤ 240) : Wp g (mtC g miX7_add 2 (if n = c then 2 else 0) (if n = c then 4 * c else 0) σ0 none (fun C2 => EncH C2 i (n + 1) (rowIn who (insP tim m n) f) (rowIn tim (insP tim m n) m) (if n = c then 2 * c else c) ∧ SH i C C2)) 0 0 34 [some (.ref (od C1 5 i)), some (.int (nI f)), some (.int (nI m)), none] [] σ := by
  have hc9 := Eh.cap
  have hn6 := Eh.l6
  have hn7 := Eh.l7
  refine w_aload_n dX7_add_34 rfl ?_
  refine gX7_18 (C := C1) dX7_add_35 rfl hi H ?_
  refine w_topN Eh.sz ?_
  refine w_istore_n dX7_add_38 rfl (Nat.le_of_ble_eq_true rfl) ls_4_3 ?_
  have lp : ∀ (j9 : Nat) (p : Nat) (σ : PH), p < j9 → p ≤ n → insP tim m p = insP tim m n → Hold g σ (twoC C1 i (shI (oA C1 6 i) p n) (shI (oA C1 7 i) p n)) → Fr σ0 σ → Wp g (mtC g miX7_add 2 (if n = c then 2 else 0) (if n = c then 4 * c else 0) σ0 none (fun C2 => EncH C2 i (n + 1) (rowIn who (insP tim m n) f) (rowIn tim (insP tim m n) m) (if n = c then 2 * c else c) ∧ SH i C C2)) 0 0 39 [some (.ref (od C1 5 i)), some (.int (nI f)), some (.int (nI m)), some (.int (nI p))] [] σ := by
    intro j9
    induction j9 with
    | zero => intro p σ hmu hp hs H F; exact absurd hmu (Nat.not_lt_zero _)
    | succ j9 ih_lp =>
      intro p σ hmu hp hs H F
      refine w_iload_n dX7_add_39 rfl ?_
      refine w_ifN_le dX7_add_40 rfl (by omega) (fun h_40 => ?_) (fun h_40 => ?_)
      · obtain rfl : p = 0 := by omega
        have hs2 : insP tim m n = 0 := hs.symm
        refine w_aload_n dX7_add_89 rfl ?_
        refine gX7_9 (C := twoC C1 i (shI (oA C1 6 i) 0 n) (shI (oA C1 7 i) 0 n)) dX7_add_90 rfl hi H ?_
        refine w_iload_n dX7_add_93 rfl ?_
        refine w_iload_n dX7_add_94 rfl ?_
        refine is_6 (C := twoC C1 i (shI (oA C1 6 i) 0 n) (shI (oA C1 7 i) 0 n)) dX7_add_95 hi (show _ < oN C1 6 i by omega) (show oN C1 6 i < 2147483648 by omega) H F ?_
        intro σ H F
        refine w_aload_n dX7_add_96 rfl ?_
        refine gX7_15 (C := uA (twoC C1 i (shI (oA C1 6 i) 0 n) (shI (oA C1 7 i) 0 n)) 6 i _ _) dX7_add_97 rfl hi H ?_
        refine w_iload_n dX7_add_100 rfl ?_
        refine w_iload_n dX7_add_101 rfl ?_
        refine is_7 (C := uA (twoC C1 i (shI (oA C1 6 i) 0 n) (shI (oA C1 7 i) 0 n)) 6 i _ _) dX7_add_102 hi (show _ < oN C1 7 i by omega) (show oN C1 7 i < 2147483648 by omega) H F ?_
        intro σ H F
        refine w_aload_n dX7_add_103 rfl ?_
        refine w_dup dX7_add_104 rfl ?_
        refine gX7_18 (C := uA (uA (twoC C1 i (shI (oA C1 6 i) 0 n) (shI (oA C1 7 i) 0 n)) 6 i _ _) 7 i _ _) dX7_add_105 rfl hi H ?_
        refine w_topN Eh.sz ?_
        refine w_iconst (v := nI 1) dX7_add_108 ki_1 ?_
        refine w_iaddN dX7_add_109 ?_
        refine pX7_18 (C := uA (uA (twoC C1 i (shI (oA C1 6 i) 0 n) (shI (oA C1 7 i) 0 n)) 6 i _ _) 7 i _ _) dX7_add_110 rfl hi H F ?_
        intro σ H F
        exact w_vret dX7_add_113 rfl ⟨by rfl, _, by simp only [two_A6, two_A7]; rw [hs2, ← hcc]; exact ⟨Eh.inn hc1 (by omega) (by rfl), hS.trans (SH.two.trans SH.I)⟩, H, F⟩
      · obtain ⟨a9, rfl⟩ : ∃ a9, p = a9 + 1 := ⟨p - 1, by omega⟩
        refine w_aload_n dX7_add_43 rfl ?_
        refine gX7_15 (C := twoC C1 i (shI (oA C1 6 i) (a9 + 1) n) (shI (oA C1 7 i) (a9 + 1) n)) dX7_add_44 rfl hi H ?_
        refine w_iload_n dX7_add_47 rfl ?_
        refine w_iconst (v := nI 1) dX7_add_48 ki_1 ?_
        refine w_isubN dX7_add_49 (by omega) ?_
        refine ia_7 (C := twoC C1 i (shI (oA C1 6 i) (a9 + 1) n) (shI (oA C1 7 i) (a9 + 1) n)) dX7_add_50 hi (show a9 < oN C1 7 i by omega) (show oN C1 7 i < 2147483648 by omega) H ?_
        refine w_topN (n := tim a9) (by rw [two_7]; unfold shI; rw [if_neg (by omega)]; exact Eh.m (by omega)) ?_
        refine w_iload_n dX7_add_51 rfl ?_
        refine w_icmpN_le dX7_add_52 rfl (by have := hm2 a9 (by omega); omega) (by omega) (fun h_52 => ?_) (fun h_52 => ?_)
        · have hs2 : insP tim m n = a9 + 1 := by rw [← hs]; exact if_neg (by omega)
          refine w_aload_n dX7_add_89 rfl ?_
          refine gX7_9 (C := twoC C1 i (shI (oA C1 6 i) (a9 + 1) n) (shI (oA C1 7 i) (a9 + 1) n)) dX7_add_90 rfl hi H ?_
          refine w_iload_n dX7_add_93 rfl ?_
          refine w_iload_n dX7_add_94 rfl ?_
          refine is_6 (C := twoC C1 i (shI (oA C1 6 i) (a9 + 1) n) (shI (oA C1 7 i) (a9 + 1) n)) dX7_add_95 hi (show _ < oN C1 6 i by omega) (show oN C1 6 i < 2147483648 by omega) H F ?_
          intro σ H F
          refine w_aload_n dX7_add_96 rfl ?_
          refine gX7_15 (C := uA (twoC C1 i (shI (oA C1 6 i) (a9 + 1) n) (shI (oA C1 7 i) (a9 + 1) n)) 6 i _ _) dX7_add_97 rfl hi H ?_
          refine w_iload_n dX7_add_100 rfl ?_
          refine w_iload_n dX7_add_101 rfl ?_
          refine is_7 (C := uA (twoC C1 i (shI (oA C1 6 i) (a9 + 1) n) (shI (oA C1 7 i) (a9 + 1) n)) 6 i _ _) dX7_add_102 hi (show _ < oN C1 7 i by omega) (show oN C1 7 i < 2147483648 by omega) H F ?_
          intro σ H F
          refine w_aload_n dX7_add_103 rfl ?_
          refine w_dup dX7_add_104 rfl ?_
          refine gX7_18 (C := uA (uA (twoC C1 i (shI (oA C1 6 i) (a9 + 1) n) (shI (oA C1 7 i) (a9 + 1) n)) 6 i _ _) 7 i _ _) dX7_add_105 rfl hi H ?_
          refine w_topN Eh.sz ?_
          refine w_iconst (v := nI 1) dX7_add_108 ki_1 ?_
          refine w_iaddN dX7_add_109 ?_
          refine pX7_18 (C := uA (uA (twoC C1 i (shI (oA C1 6 i) (a9 + 1) n) (shI (oA C1 7 i) (a9 + 1) n)) 6 i _ _) 7 i _ _) dX7_add_110 rfl hi H F ?_
          intro σ H F
          exact w_vret dX7_add_113 rfl ⟨by rfl, _, by simp only [two_A6, two_A7]; rw [hs2, ← hcc]; exact ⟨Eh.inn hc1 (by omega) (by rfl), hS.trans (SH.two.trans SH.I)⟩, H, F⟩
        · refine w_aload_n dX7_add_55 rfl ?_
          refine gX7_9 (C := twoC C1 i (shI (oA C1 6 i) (a9 + 1) n) (shI (oA C1 7 i) (a9 + 1) n)) dX7_add_56 rfl hi H ?_
          refine w_iload_n dX7_add_59 rfl ?_
          refine w_aload_n dX7_add_60 rfl ?_
          refine gX7_9 (C := twoC C1 i (shI (oA C1 6 i) (a9 + 1) n) (shI (oA C1 7 i) (a9 + 1) n)) dX7_add_61 rfl hi H ?_
          refine w_iload_n dX7_add_64 rfl ?_
          refine w_iconst (v := nI 1) dX7_add_65 ki_1 ?_
          refine w_isubN dX7_add_66 (by omega) ?_
          refine ia_6 (C := twoC C1 i (shI (oA C1 6 i) (a9 + 1) n) (shI (oA C1 7 i) (a9 + 1) n)) dX7_add_67 hi (show a9 < oN C1 6 i by omega) (show oN C1 6 i < 2147483648 by omega) H ?_
          refine is_6 (C := twoC C1 i (shI (oA C1 6 i) (a9 + 1) n) (shI (oA C1 7 i) (a9 + 1) n)) dX7_add_68 hi (show a9 + 1 < oN C1 6 i by omega) (show oN C1 6 i < 2147483648 by omega) H F ?_
          intro σ H F
          refine w_aload_n dX7_add_69 rfl ?_
          refine gX7_15 (C := uA (twoC C1 i (shI (oA C1 6 i) (a9 + 1) n) (shI (oA C1 7 i) (a9 + 1) n)) 6 i _ _) dX7_add_70 rfl hi H ?_
          refine w_iload_n dX7_add_73 rfl ?_
          refine w_aload_n dX7_add_74 rfl ?_
          refine gX7_15 (C := uA (twoC C1 i (shI (oA C1 6 i) (a9 + 1) n) (shI (oA C1 7 i) (a9 + 1) n)) 6 i _ _) dX7_add_75 rfl hi H ?_
          refine w_iload_n dX7_add_78 rfl ?_
          refine w_iconst (v := nI 1) dX7_add_79 ki_1 ?_
          refine w_isubN dX7_add_80 (by omega) ?_
          refine ia_7 (C := uA (twoC C1 i (shI (oA C1 6 i) (a9 + 1) n) (shI (oA C1 7 i) (a9 + 1) n)) 6 i _ _) dX7_add_81 hi (show a9 < oN C1 7 i by omega) (show oN C1 7 i < 2147483648 by omega) H ?_
          refine is_7 (C := uA (twoC C1 i (shI (oA C1 6 i) (a9 + 1) n) (shI (oA C1 7 i) (a9 + 1) n)) 6 i _ _) dX7_add_82 hi (show a9 + 1 < oN C1 7 i by omega) (show oN C1 7 i < 2147483648 by omega) H F ?_
          intro σ H F
          refine w_iinc dX7_add_83 rfl (nI_m1 _) rfl (Nat.le_of_ble_eq_true rfl) ls_4_3 ?_
          refine w_goto dX7_add_86 rfl ?_
          exact w_as (ih_lp a9 σ (by omega) (by omega) (by rw [← hs]; exact (if_pos (by omega)).symm) (H.cast (by simp only [two_A6, two_A7, two_6, two_7, Nat.add_sub_cancel]; rw [shI_s _ (by omega), shI_s _ (by omega)])) F) (by rw [nI_dn]) rfl rfl
  exact lp (n + 1) n σ (by omega) (by omega) rfl (H.cast (by rw [shI_0, shI_0, two_self])) F
