/-! the walk of tray -/
set_option maxRecDepth 100000
section TR9
variable {g : GG} {C : CS}
theorem kX0_tray {x y z : Int32} {T : TS} (hx : oO C 0 = true) (ET : EncTC g C T) : Cp g miX0_tray 181 3 222 [.ref (od C 0 30), .int x, .int y, .int z] C (some (.int (bP (nI (w_tray x y z) = 0)))) (fun C2 => TrN g C C2 (v_tray T x y z) (nI (w_tray x y z))) := by
  intro σ0 H
  refine Ct.startW [some (.ref (od C 0 30)), some (.int x), some (.int y), some (.int z), none] plX0 (h0 := (5, 54, 55, 120)) (hr := [(5, 54, 64, 41)]) rfl (Nat.le_of_ble_eq_true rfl) rfl (fun _ => ?_)
  refine w_aload_n dX0_tray_0 rfl ?_
  refine w_iconst (v := nI 0) dX0_tray_1 ki_0 ?_
  refine pX0_85 (C := C) dX0_tray_2 rfl hx H Fr.refl ?_
  intro σ H F
  refine w_aload_n dX0_tray_5 rfl ?_
  by_cases hF : inN x 4 ∧ inN y 4 ∧ ¬ nI 61 ≤ z
  · obtain ⟨hx4, hy4, hz4⟩ := hF
    obtain ⟨j, hj, rfl⟩ := inN_of hx4 (by omega)
    obtain ⟨k, hk, rfl⟩ := inN_of hy4 (by omega)
    have hcj : cl (nI j) = j := nI_clamp (by omega)
    have hck : cl (nI k) = k := nI_clamp (by omega)
    refine w_iload_n dX0_tray_6 rfl ?_
    refine w_if_lt dX0_tray_7 rfl (fun h => absurd h hx4.1) (fun _ => ?_)
    refine w_iload_n dX0_tray_10 rfl ?_
    refine w_iconst (v := nI 4) dX0_tray_11 ki_4 ?_
    refine w_icmp_ge dX0_tray_12 rfl (fun h => absurd h hx4.2) (fun _ => ?_)
    refine w_iload_n dX0_tray_15 rfl ?_
    refine w_if_lt dX0_tray_16 rfl (fun h => absurd h hy4.1) (fun _ => ?_)
    refine w_iload_n dX0_tray_19 rfl ?_
    refine w_iconst (v := nI 3) dX0_tray_20 ki_3 ?_
    refine w_icmp_gt dX0_tray_21 rfl (fun h => absurd ((gt_ge (by omega)).mp h) hy4.2) (fun _ => ?_)
    refine w_iload_n dX0_tray_24 rfl ?_
    refine w_bipush (v := nI 60) dX0_tray_25 rfl ?_
    refine w_icmp_gt dX0_tray_27 rfl (fun h => absurd ((gt_ge (by omega)).mp h) hz4) (fun _ => ?_)
    refine w_iconst (v := nI 1) dX0_tray_30 ki_1 ?_
    refine w_goto dX0_tray_31 rfl ?_
    refine w_iconst (v := nI 1) dX0_tray_35 ki_1 ?_
    refine w_callV (kc := 3) (ks := 222) (rest := []) dX0_tray_36 q579 okX0_want clX0 rfl (tX0_want1 σ) (show 3 + 1 ≤ 181 by decide) (H.get (ce_X (C := uI C 0 30 7 (nI 0)) hx)) rfl rfl (by decide) ?_ (fun q E σ2 h => absurd h (fun z => z))
    rintro u σ2 ⟨rfl, rfl⟩
    refine w_aload_n dX0_tray_39 rfl ?_
    refine gX0_18 (C := uI C 0 30 7 (nI 0)) dX0_tray_40 rfl hx H ?_
    refine w_iload_n dX0_tray_43 rfl ?_
    refine w_aaldN (k := 4) dX0_tray_44 rfl (H.get (ce_trays (C := uI C 0 30 7 (nI 0)) hx)) hj (by omega) ?_
    refine w_iload_n dX0_tray_45 rfl ?_
    refine w_iload_n dX0_tray_46 rfl ?_
    by_cases hz0 : z < 0
    · have hw : w_tray (nI j) (nI k) z = 1 := if_neg (fun h => h.2.2.1 hz0)
      refine w_callS (kc := 0) (ks := 0) (rest := [.ref (od C 1 j)]) dX0_tray_47 q587 okX0_row (tX0_rowN hz0 k hk) (show 180 + 1 ≤ 181 by decide) rfl rfl (Nat.le_of_ble_eq_true rfl) (fun _ _ h => absurd h (fun z => z)) ?_
      rintro q E σ3 ⟨rfl, m, hm9, rfl⟩
      refine t_catch (pre := []) (x := (5, 54, 55, 120)) (suf := [(5, 54, 64, 41)]) rfl (fun _ h => absurd h (by simp)) (by decide) (by decide) q550 ca_ng ?_
      refine w_astore dX0_tray_55 rfl (by show 4 < 5; decide) rfl ?_
      refine w_aload_n dX0_tray_57 rfl ?_
      refine w_iconst (v := nI 1) dX0_tray_58 ki_1 ?_
      refine pX0_85 (C := uI C 0 30 7 (nI 0)) dX0_tray_59 rfl hx (H.more hm9) (F.more hm9) ?_
      intro σ4 H4 F4
      refine w_iconst (v := nI 0) dX0_tray_62 ki_0 ?_
      refine w_zret dX0_tray_63 rfl narr0 ⟨?_, _, ?_, H4, F4⟩
      · rw [hw]
        rfl
      · rw [hw, v_tray, if_neg (fun h => h.2.2.1 hz0)]
        exact ⟨C, ET, Tf.refl C, TrX.of2 C _ _⟩
    · obtain ⟨n, hn, rfl⟩ := inN_of (show inN z 61 from ⟨hz0, hz4⟩) (by omega)
      have hcn : cl (nI n) = n := nI_clamp (by omega)
      have hall : inN (nI j) 4 ∧ inN (nI k) 4 ∧ inN (nI n) 61 := ⟨hx4, hy4, hz0, hz4⟩
      have hw : w_tray (nI j) (nI k) (nI n) = 0 := if_pos hall
      refine w_callS (kc := 0) (ks := 0) (rest := [.ref (od C 1 j)]) dX0_tray_47 q587 okX0_row (tX0_rowR (by omega) k hk) (show 180 + 1 ≤ 181 by decide) rfl rfl (Nat.le_of_ble_eq_true rfl) ?_ (fun _ _ _ h => absurd h (fun z => z))
      · rintro u σ3 ⟨rfl, rfl⟩
        have H3 := H.nw 90 (rowE g.2.2.2 k n (fun _ => 0) (fun _ => 0))
        have F3 := F.hnew H.1 (t := (8, 90)) (e := rowE g.2.2.2 k n (fun _ => 0) (fun _ => 0))
        have ho1 : od (nwC (uI C 0 30 7 (nI 0)) 90 σ2.1 (rowE g.2.2.2 k n (fun _ => 0) (fun _ => 0))) 8 90 = σ2.1 := nw_od
        have ho2 : od (nwC (uI C 0 30 7 (nI 0)) 90 σ2.1 (rowE g.2.2.2 k n (fun _ => 0) (fun _ => 0))) 1 j = od C 1 j := nw_ne (fun z => absurd z (by decide))
        have hput := @c_tray_put g (mtOf g miX0_tray 181 3 222 (fun w σ2 => w = some (.int (bP (nI (w_tray (nI j) (nI k) (nI n)) = 0))) ∧ ∃ C2, TrN g C C2 (v_tray T (nI j) (nI k) (nI n)) (nI (w_tray (nI j) (nI k) (nI n))) ∧ Hold g σ2 C2 ∧ Fr σ0 σ2) noX) 0 0 50 [some (.ref (od C 0 30)), some (.int (nI j)), some (.int (nI k)), some (.int (nI n)), none] [] (hnew σ2 (8, 90) (rowE g.2.2.2 k n (fun _ => 0) (fun _ => 0))) σ0 (nwC (uI C 0 30 7 (nI 0)) 90 σ2.1 (rowE g.2.2.2 k n (fun _ => 0) (fun _ => 0))) j (rowE g.2.2.2 k n (fun _ => 0) (fun _ => 0)) dX0_tray_50 rfl hx hj H3 F3 (nw_ce (g := g))
        rw [ho1, ho2] at hput
        refine hput ?_
        intro σ4 H4 F4
        refine w_iconst (v := nI 1) dX0_tray_53 ki_1 ?_
        refine w_zret dX0_tray_54 rfl narr1 ⟨?_, _, ?_, H4, F4⟩
        · rw [hw]
          rfl
        · rw [hw, v_tray, if_pos hall, hcj, hck, hcn]
          exact ⟨trC (nwC C 90 σ2.1 (rowE g.2.2.2 k n (fun _ => 0) (fun _ => 0))) j (rowE g.2.2.2 k n (fun _ => 0) (fun _ => 0)), ET.new hk, Tf.tr, TrX.of _ (nI 0)⟩
  · have hw : w_tray x y z = 1 := if_neg (fun h => hF ⟨h.1, h.2.1, h.2.2.2⟩)
    have k34 : Wp g (mtOf g miX0_tray 181 3 222 (fun w σ2 => w = some (.int (bP (nI (w_tray x y z) = 0))) ∧ ∃ C2, TrN g C C2 (v_tray T x y z) (nI (w_tray x y z)) ∧ Hold g σ2 C2 ∧ Fr σ0 σ2) noX) 3 222 34 [some (.ref (od C 0 30)), some (.int x), some (.int y), some (.int z), none] [.ref (od C 0 30)] σ := by
      refine w_iconst (v := nI 0) dX0_tray_34 ki_0 ?_
      refine w_iconst (v := nI 1) dX0_tray_35 ki_1 ?_
      refine w_callV (kc := 3) (ks := 222) (rest := []) dX0_tray_36 q579 okX0_want clX0 rfl (tX0_want0 (C := uI C 0 30 7 (nI 0)) hx σ H) (show 3 + 1 ≤ 181 by decide) (H.get (ce_X (C := uI C 0 30 7 (nI 0)) hx)) rfl rfl (by decide) (fun _ _ h => absurd h (fun z => z)) ?_
      rintro q E σ2 ⟨rfl, rfl, H2, F2⟩
      refine t_catch (pre := [(5, 54, 55, 120)]) (x := (5, 54, 64, 41)) (suf := []) rfl ?_ (by decide) (by decide) q254 ca_ref ?_
      · intro z hz
        obtain rfl := List.mem_singleton.mp hz
        exact Or.inr ⟨by decide, _, q550, show ("LastPebble$Refused", "java/lang/NegativeArraySizeException") ∈ ncL by decide⟩
      refine w_astore dX0_tray_64 rfl (by show 4 < 5; decide) rfl ?_
      refine w_aload_n dX0_tray_66 rfl ?_
      refine w_aload dX0_tray_67 rfl ?_
      refine w_callV (kc := 3) (ks := 222) (rest := []) dX0_tray_69 q590 okX0_no clX0 rfl (kX0_no (C := uI (uI C 0 30 7 (nI 0)) 0 6 6 (nI 1)) hx σ2 H2) (show 1 + 1 ≤ 181 by decide) (H2.get (ce_X (C := uI (uI C 0 30 7 (nI 0)) 0 6 6 (nI 1)) hx)) rfl rfl (by decide) ?_ (fun q E σ2 h => absurd h (fun z => z))
      rintro u σ3 ⟨rfl, C3, rfl, H3, F3⟩
      refine w_zret dX0_tray_72 rfl narr0 ⟨?_, _, ?_, H3, (F.trans F2).trans F3⟩
      · rw [hw]
        rfl
      · rw [hw, oI_at, v_tray, if_neg (fun h => hF ⟨h.1, h.2.1, h.2.2.2⟩)]
        exact ⟨C, ET, Tf.refl C, _, _, rfl⟩
    refine w_iload_n dX0_tray_6 rfl ?_
    refine w_if_lt dX0_tray_7 rfl (fun _ => k34) (fun h1 => ?_)
    refine w_iload_n dX0_tray_10 rfl ?_
    refine w_iconst (v := nI 4) dX0_tray_11 ki_4 ?_
    refine w_icmp_ge dX0_tray_12 rfl (fun _ => k34) (fun h2 => ?_)
    refine w_iload_n dX0_tray_15 rfl ?_
    refine w_if_lt dX0_tray_16 rfl (fun _ => k34) (fun h3 => ?_)
    refine w_iload_n dX0_tray_19 rfl ?_
    refine w_iconst (v := nI 3) dX0_tray_20 ki_3 ?_
    refine w_icmp_gt dX0_tray_21 rfl (fun _ => k34) (fun h4 => ?_)
    refine w_iload_n dX0_tray_24 rfl ?_
    refine w_bipush (v := nI 60) dX0_tray_25 rfl ?_
    refine w_icmp_gt dX0_tray_27 rfl (fun _ => k34) (fun h5 => ?_)
    exact absurd ⟨⟨h1, h2⟩, ⟨h3, fun h => h4 ((gt_ge (by omega)).mpr h)⟩, fun h => h5 ((gt_ge (by omega)).mpr h)⟩ hF
end TR9
