/-! read and write of the component -/
set_option maxRecDepth 100000
theorem vp_inN {y : Int32} {n : Nat} (hn : n < 2147483648) : vp_in y n ↔ inN y n := by
  constructor
  · intro h
    rw [vp_in_iff] at h
    refine ⟨fun z => ?_, fun z => ?_⟩
    · rw [Int32.lt_iff_toInt_lt] at z
      have : (0 : Int32).toInt = 0 := rfl
      omega
    · rw [Int32.le_iff_toInt_le, nI_toInt hn] at z
      omega
  · intro h
    exact in_of h.1 (Int32.not_le.mp h.2) hn
theorem uI_self (C : CS) (k j f : Nat) : uI C k j f (oI C k j f) = C := by
  have h : up3 (oI C) k j f (oI C k j f) = oI C := by
    funext x y z
    by_cases h : x = k ∧ y = j ∧ z = f
    · obtain ⟨rfl, rfl, rfl⟩ := h
      rw [up3_eq]
    · exact up3_ne _ _ (fun u v w => h ⟨u, v, w⟩)
  show (C.1, up3 (oI C) k j f (oI C k j f), _) = C
  rw [h]
  rfl
theorem oI_at (C : CS) (k j f : Nat) (v : Int32) : oI (uI C k j f v) k j f = v := by
  exact up3_eq _ _ _ _ _
/-- the status has changed, and Refused's reason -/
def TrX (C C2 : CS) (s : Int32) : Prop := ∃ a w, C2 = uI (uI (uI C 0 30 7 a) 0 6 6 w) 0 30 7 s
theorem TrX.of (C : CS) (s : Int32) : TrX C (uI C 0 30 7 s) s := ⟨s, oI (uI C 0 30 7 s) 0 6 6, by rw [uI_self, uI_I]⟩
theorem TrX.of2 (C : CS) (a s : Int32) : TrX C (uI (uI C 0 30 7 a) 0 30 7 s) s := ⟨a, oI (uI C 0 30 7 a) 0 6 6, by rw [uI_self]⟩
/-- the component's trays hold T -/
def EncTC (g : GG) (C : CS) (T : TS) : Prop := ∀ t, t < 4 → (tm T t = 0 → oT C t = none) ∧ (tm T t ≠ 0 → ∃ f l, oT C t = some (rowE g.2.2.2 (tk T t) (tm T t - 1) f l) ∧ ∀ k, k + 1 < tm T t → rowV (tk T t) f l k = tv T t k)
section TR4
variable {g : GG} {C : CS}
theorem on_wp {T : TS} {x y : Int32} (ET : EncTC g C T) (h : onW C x ≠ 0) : wpT T x y = onW C x := by
  unfold onW at h ⊢
  unfold wpT
  by_cases h4 : inN x 4
  · rw [if_pos h4] at h
    rw [if_pos h4, if_pos h4]
    obtain ⟨j, hj, rfl⟩ := inN_of h4 (by omega)
    have hc : cl (nI j) = j := nI_clamp (by omega)
    rw [hc] at h ⊢
    have h0 : (oT C j).isNone = true := by
      by_cases z : (oT C j).isNone = true
      · exact z
      · rw [if_neg z] at h
        exact absurd rfl h
    rw [if_pos h0]
    by_cases ht : tm T j = 0
    · rw [if_pos ht]
    · obtain ⟨f, l, h1, -⟩ := (ET j hj).2 ht
      rw [h1] at h0
      cases h0
  · rw [if_neg h4, if_neg h4]
theorem on_row {T : TS} {x : Int32} (ET : EncTC g C T) (h : onW C x = 0) : ∃ j f l, j < 4 ∧ x = nI j ∧ cl x = j ∧ tm T j ≠ 0 ∧ oT C j = some (rowE g.2.2.2 (tk T j) (tm T j - 1) f l) ∧ (∀ k, k + 1 < tm T j → rowV (tk T j) f l k = tv T j k) ∧ ∀ y : Int32, wpT T x y = if inN y (tm T j - 1) then 0 else 3 := by
  unfold onW at h
  by_cases h4 : inN x 4
  · rw [if_pos h4] at h
    obtain ⟨j, hj, rfl⟩ := inN_of h4 (by omega)
    have hc : cl (nI j) = j := nI_clamp (by omega)
    rw [hc] at h
    have ht : tm T j ≠ 0 := fun z => by
      rw [(ET j hj).1 z] at h
      cases h
    obtain ⟨f, l, h1, h2⟩ := (ET j hj).2 ht
    refine ⟨j, f, l, hj, rfl, hc, ht, h1, h2, fun y => ?_⟩
    unfold wpT
    rw [if_pos h4, hc, if_neg ht]
  · rw [if_neg h4] at h
    cases h
theorem tX0_numberR {σ : PH} {a n : Nat} {t : Tg} {f : Nat → Int32} {l : Nat → Int64} {i : Int32} : ∀ k, k < 4 → σ.2 a = some (t, rowE g.2.2.2 k n f l) → n < 2147483648 → Ct g miX0_number 180 3 222 [.ref a, .int i] σ (fun w σ2 => vp_in i n ∧ w = some (.long (rowV k f l (cl i))) ∧ σ2 = σ) (fun q E σ2 => ¬ vp_in i n ∧ GrX AX σ q E σ2)
  | 0, _, hh, hn => tX0_number0 hh hn
  | 1, _, hh, hn => tX0_number1 hh hn
  | 2, _, hh, hn => tX0_number2 hh hn
  | 3, _, hh, hn => tX0_number3 hh hn
  | _ + 4, h, _, _ => absurd h (by omega)
theorem ca_ix : Cond.castable "java/lang/ArrayIndexOutOfBoundsException" "java/lang/ArrayIndexOutOfBoundsException" ∈ lw_tbl := by decide +kernel
theorem ca_ref : Cond.castable "LastPebble$Refused" "LastPebble$Refused" ∈ lw_tbl := by decide +kernel
theorem ca_ng : Cond.castable "java/lang/NegativeArraySizeException" "java/lang/NegativeArraySizeException" ∈ lw_tbl := by decide +kernel
theorem Hold.more {σ : PH} {m : Nat} (H : Hold g σ C) (h : σ.1 ≤ m) : Hold g (m, σ.2) C := ⟨fun a ha => H.1 a (Nat.le_trans h ha), H.2.1, H.2.2⟩
theorem Fr.more {σ0 σ : PH} {m : Nat} (F : Fr σ0 σ) (h : σ.1 ≤ m) : Fr σ0 (m, σ.2) := ⟨Nat.le_trans F.1 h, F.2⟩
theorem kX0_read {x y : Int32} {T : TS} (hx : oO C 0 = true) (ET : EncTC g C T) (O : OkT T) : Cp g miX0_read 181 3 222 [.ref (od C 0 30), .int x, .int y] C (some (.long (a_read T x y))) (fun C2 => TrX C C2 (nI (wpT T x y))) := by
  intro σ0 H
  refine Ct.startW [some (.ref (od C 0 30)), some (.int x), some (.int y), none] plX0 (h0 := (5, 14, 15, 134)) (hr := [(5, 14, 25, 41)]) rfl (Nat.le_of_ble_eq_true rfl) rfl (fun _ => ?_)
  refine w_aload_n dX0_read_0 rfl ?_
  refine w_iconst (v := nI 0) dX0_read_1 ki_0 ?_
  refine pX0_85 (C := C) dX0_read_2 rfl hx H Fr.refl ?_
  intro σ H F
  refine w_aload_n dX0_read_5 rfl ?_
  refine w_iload_n dX0_read_6 rfl ?_
  refine w_callV (kc := 3) (ks := 222) (rest := []) dX0_read_7 q618 okX0_on clX0 rfl (tX0_on (C := uI C 0 30 7 (nI 0)) hx σ H) (show 4 + 1 ≤ 181 by decide) (H.get (ce_X (C := uI C 0 30 7 (nI 0)) hx)) rfl rfl (by decide) ?_ ?_
  · rintro v σ2 ⟨hw, rfl, rfl⟩
    obtain ⟨j, f, l, hj, rfl, hc, ht, h1, h2, h3⟩ := on_row ET (show onW C x = 0 from hw)
    have hk := (O j hj).1
    have hm := (O j hj).2
    rw [hc]
    refine w_iload_n dX0_read_10 rfl ?_
    refine w_callS (kc := 0) (ks := 0) (rest := []) dX0_read_11 q633 okX0_number (tX0_numberR (n := tm T j - 1) (f := f) (l := l) (tk T j) (by omega) (H.get (show ceC g (uI C 0 30 7 (nI 0)) 15 j = _ from h1)) (by omega)) (show 180 + 1 ≤ 181 by decide) rfl rfl (by decide) ?_ ?_
    · rintro v σ3 ⟨hin, rfl, rfl⟩
      have hy := (vp_inN (show tm T j - 1 < 2147483648 by omega)).mp hin
      have h5 : wpT T (nI j) y = 0 := by rw [h3, if_pos hy]
      obtain ⟨k, hk9, rfl⟩ := inN_of hy (by omega)
      have hck : cl (nI k) = k := nI_clamp (by omega)
      refine w_lret dX0_read_14 rfl ⟨?_, _, ?_, H, F⟩
      · rw [a_read, if_pos h5, hc, hck, h2 k (by omega)]
      · rw [h5]
        exact TrX.of C _
    · rintro q E σ3 ⟨hin, rfl, m, hm9, rfl⟩
      have hy : ¬ inN y (tm T j - 1) := fun z => hin ((vp_inN (by omega)).mpr z)
      have h5 : wpT T (nI j) y = 3 := by rw [h3, if_neg hy]
      refine t_catch (pre := []) (x := (5, 14, 15, 134)) (suf := [(5, 14, 25, 41)]) rfl (fun _ h => absurd h (by simp)) (by decide) (by decide) q599 ca_ix ?_
      refine w_astore_n dX0_read_15 rfl (by show 3 < 4; decide) rfl ?_
      refine w_aload_n dX0_read_16 rfl ?_
      refine w_iconst (v := nI 3) dX0_read_17 ki_3 ?_
      refine pX0_85 (C := uI C 0 30 7 (nI 0)) dX0_read_18 rfl hx (H.more hm9) (F.more hm9) ?_
      intro σ4 H4 F4
      refine w_ldc2 (v := -1) dX0_read_21 q636 ?_
      refine w_lret dX0_read_24 rfl ⟨?_, _, ?_, H4, F4⟩
      · rw [a_read, if_neg (by rw [h5]; decide)]
      · rw [h5]
        exact TrX.of2 C _ _
  · rintro q E σ2 ⟨hne, rfl, rfl, H2, F2⟩
    have h5 : wpT T x y = onW C x := on_wp ET hne
    refine t_catch (pre := [(5, 14, 15, 134)]) (x := (5, 14, 25, 41)) (suf := []) rfl ?_ (by decide) (by decide) q254 ca_ref ?_
    · intro z hz
      obtain rfl := List.mem_singleton.mp hz
      exact Or.inr ⟨by decide, _, q599, show ("LastPebble$Refused", "java/lang/ArrayIndexOutOfBoundsException") ∈ ncL by decide⟩
    refine w_astore_n dX0_read_25 rfl (by show 3 < 4; decide) rfl ?_
    refine w_aload_n dX0_read_26 rfl ?_
    refine w_aload_n dX0_read_27 rfl ?_
    refine w_callV (kc := 3) (ks := 222) (rest := []) dX0_read_28 q637 okX0_none clX0 rfl (kX0_none (C := uI (uI C 0 30 7 (nI 0)) 0 6 6 (nI (onW C x))) hx σ2 H2) (show 1 + 1 ≤ 181 by decide) (H2.get (ce_X (C := uI (uI C 0 30 7 (nI 0)) 0 6 6 (nI (onW C x))) hx)) rfl rfl (by decide) ?_ (fun q E σ2 h => absurd h (fun z => z))
    rintro v σ3 ⟨rfl, C3, rfl, H3, F3⟩
    refine w_i2l (v := -1) dX0_read_31 rfl ?_
    refine w_lret dX0_read_32 rfl ⟨?_, _, ?_, H3, (F.trans F2).trans F3⟩
    · rw [a_read, if_neg (by rw [h5]; exact hne)]
    · rw [h5, oI_at]
      exact ⟨_, _, rfl⟩
end TR4
