set_option maxRecDepth 100000
set_option maxHeartbeats 4000000 in
theorem vX13_is {g : GG} {C : CS} {j la da : Nat} {s : XS} {sa : Nat} {arr m : Nat} {r : Nat → Nat} {x z9 u v : Int32} (B : LvOk g C j la da s) (K : OkV s.R.1) (hz : oZ C sa = some (.inr (11, [.ref arr, .int (nI m), .int (nI (hW (r 0))), .int x, .int z9, .int u, .int v]))) (hk : r 0 = 2428 ∨ r 0 = 2415 ∨ r 0 = 2429) (h28 : r 0 = 2428 → x = nI (r 1) ∧ u = nI (r 5) ∧ v = nI (r 2)) (h15 : r 0 = 2415 → x = nI (r 1) ∧ z9 = nI (r 2)) (h29 : r 0 = 2429 → z9 = nI (r 1)) (hB28 : r 0 = 2428 → r 1 < vs s.R.1 1 ∧ r 2 ≤ 9999 ∧ (r 5 = 60 ∨ r 5 = 61 ∨ r 5 = 62)) (hB15 : r 0 = 2415 → r 1 < vs s.R.1 1 ∧ r 2 < vs s.R.1 2) (hB29 : r 0 = 2429 → r 1 < vs s.R.1 2) : Cr g miX13_is 5 [.ref sa, .ref da] C (some (.int (bP (hD s.R.1 r = 1)))) := by
  refine Cr.start [some (.ref sa), some (.ref da), none] (by decide +kernel) rfl (Nat.le_of_ble_eq_true rfl) rfl ?_
  intro σ H
  have kb := K.b
  have hh : (hW (r 0) = 1 ↔ r 0 = 2415) ∧ (hW (r 0) = 2 ↔ r 0 = 2429) ∧ hW (r 0) < 3 := by rcases hk with h | h | h <;> rw [h] <;> decide
  refine w_aload_n dX13_is_0 rfl ?_
  refine w_getf (k := 2) dX13_is_1 clX13 (by decide) q960 (H.z hz) rfl ?_
  refine w_iconst (v := nI 1) dX13_is_4 ki_1 ?_
  refine w_icmpN_ne dX13_is_5 rfl (by omega) (by omega) (fun h_5 => ?_) (fun h_5 => ?_)
  · have hn15 : ¬ r 0 = 2415 := fun z => h_5 (hh.1.mpr z)
    refine w_aload_n dX13_is_37 rfl ?_
    refine w_getf (k := 2) dX13_is_38 clX13 (by decide) q960 (H.z hz) rfl ?_
    refine w_iconst (v := nI 2) dX13_is_41 ki_2 ?_
    refine w_icmpN_ne dX13_is_42 rfl (by omega) (by omega) (fun h_42 => ?_) (fun h_42 => ?_)
    · have h9n : ¬ r 0 = 2429 := fun z => h_42 (hh.2.1.mpr z)
      have hr : r 0 = 2428 := by omega
      obtain ⟨rfl, rfl, rfl⟩ := h28 hr
      have hb := hB28 hr
      have hle := leadV_le K (r 1)
      refine w_aload_n dX13_is_77 rfl ?_
      refine w_aload_n dX13_is_78 rfl ?_
      refine w_getf (k := 3) dX13_is_79 clX13 (by decide) q961 (H.z hz) rfl ?_
      refine cr_call (mi := miX5_leads) dX13_is_82 q1516 okX5_leads clX5 rfl (lv_day B H) (Nat.le_of_ble_eq_true rfl) (Cr.at_ B.hda (kX5_leads (C := C) B.on B.E K (by omega))) H rfl rfl (Nat.le_of_ble_eq_true rfl) ?_
      refine w_istore_n dX13_is_85 rfl (Nat.le_of_ble_eq_true rfl) ls_3_2 ?_
      refine w_aload_n dX13_is_86 rfl ?_
      refine w_getf (k := 5) dX13_is_87 clX13 (by decide) q963 (H.z hz) rfl ?_
      refine w_bipush (v := nI 60) dX13_is_90 kb_60 ?_
      refine w_icmpN_ne dX13_is_92 rfl (by omega) (by omega) (fun h_92 => ?_) (fun h_92 => ?_)
      · refine w_aload_n dX13_is_111 rfl ?_
        refine w_getf (k := 5) dX13_is_112 clX13 (by decide) q963 (H.z hz) rfl ?_
        refine w_bipush (v := nI 62) dX13_is_115 kb_62 ?_
        refine w_icmpN_ne dX13_is_117 rfl (by omega) (by omega) (fun h_117 => ?_) (fun h_117 => ?_)
        · refine w_iload_n dX13_is_136 rfl ?_
          refine w_aload_n dX13_is_137 rfl ?_
          refine w_getf (k := 6) dX13_is_138 clX13 (by decide) q964 (H.z hz) rfl ?_
          refine w_icmpN_ne dX13_is_141 rfl (by omega) (by omega) (fun h_141 => ?_) (fun h_141 => ?_)
          · refine w_iconst (v := nI 0) dX13_is_148 ki_0 ?_
            exact w_zret dX13_is_149 rfl (by first | exact narr0 | exact narr1) ⟨by rw [bP_f (show ¬ hD s.R.1 r = 1 by rw [hD, if_neg (by omega), if_neg (by omega), if_neg (by omega), if_neg (by omega), if_neg (by omega)]; omega)], rfl⟩
          · refine w_iconst (v := nI 1) dX13_is_144 ki_1 ?_
            refine w_goto dX13_is_145 rfl ?_
            exact w_zret dX13_is_149 rfl (by first | exact narr0 | exact narr1) ⟨by rw [bP_t (show hD s.R.1 r = 1 by rw [hD, if_neg (by omega), if_neg (by omega), if_neg (by omega), if_neg (by omega), if_pos (by omega)])], rfl⟩
        · refine w_iload_n dX13_is_120 rfl ?_
          refine w_aload_n dX13_is_121 rfl ?_
          refine w_getf (k := 6) dX13_is_122 clX13 (by decide) q964 (H.z hz) rfl ?_
          refine w_icmpN_le dX13_is_125 rfl (by omega) (by omega) (fun h_125 => ?_) (fun h_125 => ?_)
          · refine w_iconst (v := nI 0) dX13_is_132 ki_0 ?_
            refine w_goto dX13_is_133 rfl ?_
            exact w_zret dX13_is_149 rfl (by first | exact narr0 | exact narr1) ⟨by rw [bP_f (show ¬ hD s.R.1 r = 1 by rw [hD, if_neg (by omega), if_neg (by omega), if_neg (by omega), if_pos (by omega), if_neg (by omega)]; omega)], rfl⟩
          · refine w_iconst (v := nI 1) dX13_is_128 ki_1 ?_
            refine w_goto dX13_is_129 rfl ?_
            exact w_zret dX13_is_149 rfl (by first | exact narr0 | exact narr1) ⟨by rw [bP_t (show hD s.R.1 r = 1 by rw [hD, if_neg (by omega), if_neg (by omega), if_neg (by omega), if_pos (by omega), if_pos (by omega)])], rfl⟩
      · refine w_iload_n dX13_is_95 rfl ?_
        refine w_aload_n dX13_is_96 rfl ?_
        refine w_getf (k := 6) dX13_is_97 clX13 (by decide) q964 (H.z hz) rfl ?_
        refine w_icmpN_ge dX13_is_100 rfl (by omega) (by omega) (fun h_100 => ?_) (fun h_100 => ?_)
        · refine w_iconst (v := nI 0) dX13_is_107 ki_0 ?_
          refine w_goto dX13_is_108 rfl ?_
          exact w_zret dX13_is_149 rfl (by first | exact narr0 | exact narr1) ⟨by rw [bP_f (show ¬ hD s.R.1 r = 1 by rw [hD, if_neg (by omega), if_neg (by omega), if_pos (by omega), if_neg (by omega)]; omega)], rfl⟩
        · refine w_iconst (v := nI 1) dX13_is_103 ki_1 ?_
          refine w_goto dX13_is_104 rfl ?_
          exact w_zret dX13_is_149 rfl (by first | exact narr0 | exact narr1) ⟨by rw [bP_t (show hD s.R.1 r = 1 by rw [hD, if_neg (by omega), if_neg (by omega), if_pos (by omega), if_pos (by omega)])], rfl⟩
    · have hr : r 0 = 2429 := hh.2.1.mp (by omega)
      obtain rfl := h29 hr
      have hb := hB29 hr
      have hqn := K.n (d := r 1) (by omega)
      refine w_aload_n dX13_is_45 rfl ?_
      refine w_aload_n dX13_is_46 rfl ?_
      refine w_getf (k := 4) dX13_is_47 clX13 (by decide) q962 (H.z hz) rfl ?_
      refine cr_call (mi := miX5_isThere) dX13_is_50 q1515 okX5_isThere clX5 rfl (lv_day B H) (Nat.le_of_ble_eq_true rfl) (Cr.at_ B.hda (kX5_isThere (C := C) B.on B.E K (by omega))) H rfl rfl (Nat.le_of_ble_eq_true rfl) ?_
      refine w_ifB_eq dX13_is_53 rfl (fun h_53 => ?_) (fun h_53 => ?_)
      · refine w_iconst (v := nI 0) dX13_is_75 ki_0 ?_
        exact w_zret dX13_is_76 rfl (by first | exact narr0 | exact narr1) ⟨by rw [bP_f (show ¬ hD s.R.1 r = 1 by rw [hD, if_pos hr, if_neg (fun z => h_53 z.1)]; omega)], rfl⟩
      · refine w_aload_n dX13_is_56 rfl ?_
        refine w_ref B.hda ?_
        refine gX13_27 (C := C) dX13_is_57 rfl B.on H ?_
        refine w_aload_n dX13_is_60 rfl ?_
        refine w_getf (k := 4) dX13_is_61 clX13 (by decide) q962 (H.z hz) rfl ?_
        refine ga_heaps (C := C) dX13_is_64 B.on (show r 1 < 8 by omega) H ?_
        refine gX13_43 (C := C) dX13_is_65 rfl (on8 B.on (show r 1 < 8 by omega)) H ?_
        refine w_topN ((B.E.h (show r 1 < 8 by omega)).sz) ?_
        refine w_ifN_ne dX13_is_68 rfl (by omega) (fun h_68 => ?_) (fun h_68 => ?_)
        · refine w_iconst (v := nI 0) dX13_is_75 ki_0 ?_
          exact w_zret dX13_is_76 rfl (by first | exact narr0 | exact narr1) ⟨by rw [bP_f (show ¬ hD s.R.1 r = 1 by rw [hD, if_pos hr, if_neg (fun z => by have := z.2; omega)]; omega)], rfl⟩
        · refine w_iconst (v := nI 1) dX13_is_71 ki_1 ?_
          refine w_goto dX13_is_72 rfl ?_
          exact w_zret dX13_is_76 rfl (by first | exact narr0 | exact narr1) ⟨by rw [bP_t (show hD s.R.1 r = 1 by rw [hD, if_pos hr, if_pos ⟨h_53, by omega⟩])], rfl⟩
  · have hr : r 0 = 2415 := hh.1.mp (by omega)
    obtain ⟨rfl, rfl⟩ := h15 hr
    have hb := hB15 hr
    have hll := lastV_lt K (d := r 2) (by omega)
    refine w_aload_n dX13_is_8 rfl ?_
    refine w_ref B.hda ?_
    refine gX13_27 (C := C) dX13_is_9 rfl B.on H ?_
    refine w_aload_n dX13_is_12 rfl ?_
    refine w_getf (k := 4) dX13_is_13 clX13 (by decide) q962 (H.z hz) rfl ?_
    refine ga_heaps (C := C) dX13_is_16 B.on (show r 2 < 8 by omega) H ?_
    refine cr_call (mi := miX7_last) dX13_is_17 q1514 okX7_last clX7 rfl (H.get (ce_heap (on8 B.on (show r 2 < 8 by omega)))) (Nat.le_of_ble_eq_true rfl) (kX7_last (C := C) (on8 B.on (show r 2 < 8 by omega)) (B.E.h (show r 2 < 8 by omega)) (fun k9 hk9 => by have h9 := (K.p (d := r 2) (by omega) hk9).1; omega) (fun k9 hk9 => by have h9 := (K.p (d := r 2) (by omega) hk9).2; omega)) H rfl rfl (Nat.le_of_ble_eq_true rfl) ?_
    refine w_topN (n := lastV s.R.1 (r 2)) rfl ?_
    refine w_aload_n dX13_is_20 rfl ?_
    refine w_getf (k := 3) dX13_is_21 clX13 (by decide) q961 (H.z hz) rfl ?_
    refine w_ishrN dX13_is_24 (by omega) (by omega) ?_
    refine w_iconst (v := nI 1) dX13_is_25 ki_1 ?_
    refine w_iandN dX13_is_26 ?_
    refine w_iconst (v := nI 1) dX13_is_27 ki_1 ?_
    refine w_icmpN_ne dX13_is_28 rfl (and1_lt _) (by omega) (fun h_28 => ?_) (fun h_28 => ?_)
    · refine w_iconst (v := nI 0) dX13_is_35 ki_0 ?_
      exact w_zret dX13_is_36 rfl (by first | exact narr0 | exact narr1) ⟨by rw [bP_f (show ¬ hD s.R.1 r = 1 by rw [hD, if_neg (by omega), if_pos hr, if_neg h_28]; omega)], rfl⟩
    · refine w_iconst (v := nI 1) dX13_is_31 ki_1 ?_
      refine w_goto dX13_is_32 rfl ?_
      exact w_zret dX13_is_36 rfl (by first | exact narr0 | exact narr1) ⟨by rw [bP_t (show hD s.R.1 r = 1 by rw [hD, if_neg (by omega), if_pos hr, if_pos h_28])], rfl⟩
