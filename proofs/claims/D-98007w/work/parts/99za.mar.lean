/-! X.mark where the house stands, X.days refused (printed by gen/hou2.py) -/
set_option maxRecDepth 100000
/-- mark up to place 35: the house's reference on the stack -/
theorem mark_hd {g : GG} {C : CS} {σ σ0 : PH} {m mc ms kc ks : Nat} {v : Option Value} {Q : CS → Prop} (hx : oO C 0 = true) (hm : oI C 0 30 12 = nI m) (hm3 : m < 3) (H : Hold g σ C) (F : Fr σ0 σ) (kk : ∀ σ, Hold g σ (uI C 0 30 7 (nI 0)) → Fr σ0 σ → Wp g (mtC g miX0_mark 4 mc ms σ0 v Q) kc ks 35 [some (.ref (od C 0 30))] [va_rf (mkR C m)] σ) : Wp g (mtC g miX0_mark 4 mc ms σ0 v Q) kc ks 0 [some (.ref (od C 0 30))] [] σ := by
  refine w_aload_n dX0_mark_0 rfl ?_
  refine w_aload_n dX0_mark_1 rfl ?_
  refine gX0_469 (C := C) dX0_mark_2 rfl hx H ?_
  rw [hm]
  refine w_iconst (v := nI 3) dX0_mark_5 ki_3 ?_
  refine w_icmpN_ne dX0_mark_6 rfl (by omega) (by decide) (fun _ => ?_) (fun h => absurd (show _ from h) (by omega))
  refine w_iconst (v := nI 0) dX0_mark_13 ki_0 ?_
  refine pX0_85 (C := C) dX0_mark_14 rfl hx H F ?_
  intro σ H F
  refine w_aload_n dX0_mark_17 rfl ?_
  refine gst_85 dX0_mark_18 rfl hx H ?_
  refine w_ifN_le dX0_mark_21 rfl (by decide) (fun _ => ?_) (fun h => absurd (show _ from h) (by decide))
  refine w_aload_n dX0_mark_26 rfl ?_
  refine gX0_59 (C := uI C 0 30 7 (nI 0)) dX0_mark_27 rfl hx H ?_
  refine w_aload_n dX0_mark_30 rfl ?_
  refine gX0_469 (C := uI C 0 30 7 (nI 0)) dX0_mark_31 rfl hx H ?_
  refine w_topN (n := m) ((oI_ne C _ (fun _ _ z => by omega)).trans hm) ?_
  refine w_aaldN (k := 6) dX0_mark_34 rfl (H.get (ce_mk (C := uI C 0 30 7 (nI 0)) hx)) (by omega) (by omega) ?_
  exact kk σ H F
/-- the answer's state: house m + 1 is as house 0 -/
def MaX (g : GG) (C C2 : CS) (m : Nat) (V : VS) (q : Nat → Nat) : Prop := ∃ C1, EncD g C1 (m + 1) V q ∧ SD (m + 1) (uI C 0 30 7 (nI 0)) C1 ∧ C2 = uI (uP C1 (m + 1) (oP C 0)) 0 30 12 (nI (m + 1))
set_option maxHeartbeats 4000000 in
theorem kX0_mark_b {g : GG} {C : CS} {m : Nat} {V W : VS} {q p : Nat → Nat} (hx : oO C 0 = true) (h0 : oO C 0 = true) (hm : oI C 0 30 12 = nI m) (hm3 : m < 3) (ho : oO C (m + 1) = true) (E : EncD g C 0 V q) (Em : EncD g C (m + 1) W p) (hl : oM C 90 = none) : Cp g miX0_mark 4 16 1024 [.ref (od C 0 30)] C (some (.int (nI (m + 1)))) (fun C2 => MaX g C C2 m V (fun d => if p d < vt V 7 d then q d else p d)) := by
  refine Cp.start [some (.ref (od C 0 30))] plX0 rfl (Nat.le_of_ble_eq_true rfl) rfl ?_
  intro σ0 σ H F
  refine mark_hd hx hm hm3 H F ?_
  intro σ H F
  rw [show mkR C m = some (od C 2 (m + 1)) from if_pos ho]
  refine w_ifnonnull dX0_mark_35 rfl ?_
  exact mark_go (C := uI C 0 30 7 (nI 0)) (C0 := C) rfl hx h0 ((oI_ne C _ (fun _ _ z => by omega)).trans hm) hm3 ho (EncD.stH H E) (EncD.stH H Em) hl H F (fun C1 E1 S1 => ⟨C1, E1, S1, rfl⟩)
set_option maxHeartbeats 4000000 in
theorem kX0_days_f {g : GG} {C : CS} {p : Nat} {x : Int32} (hx : oO C 0 = true) (ht : oI C 0 30 2 = nI p) (hp9 : p ≤ 900) (hno : ¬ inN x (min p 300 + 1)) : Cp g miX0_days 12 0 0 [.ref (od C 0 30), .int x] C (some (.int (-1))) (fun C2 => C2 = uI C 0 30 7 (nI 1)) := by
  intro σ0 H0
  refine Ct.startW [some (.ref (od C 0 30)), some (.int x), none, none] plX0 (h0 := (13, 53, 54, 34)) (hr := []) rfl (Nat.le_of_ble_eq_true rfl) rfl (fun _ => ?_)
  refine w_aload_n dX0_days_0 rfl ?_
  refine w_iload_n dX0_days_1 rfl ?_
  refine w_sipush (v := nI 300) dX0_days_2 ks_300 ?_
  refine cp_call (mi := miX0_opens) dX0_days_5 q664 okX0_opens clX0 rfl (H0.get (ce_X hx)) (Nat.le_of_ble_eq_true rfl) (kX0_opens_f (C := C) (y := 300) hx ht hp9 (by omega) hno) H0 (Fr.refl (σ := σ0)) rfl rfl (Nat.le_of_ble_eq_true rfl) ?_
  rintro σ C1 hC1 H F
  refine w_ifN_ne dX0_days_8 rfl (by decide) (fun h => absurd (show _ from h) (by decide)) (fun _ => ?_)
  refine w_iconst (v := (-1)) dX0_days_11 ki_m1 ?_
  exact w_iret dX0_days_12 rfl ⟨rfl, C1, hC1, H, F⟩
