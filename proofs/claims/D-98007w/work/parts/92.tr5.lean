/-! write of the component -/
set_option maxRecDepth 100000
section TR5
variable {g : GG} {C : CS}
theorem uT_at (C : CS) (j : Nat) (e : Option va_E) : oT (uT C j e) j = e := va_up_self _ _ _
theorem uT_ne (C : CS) (e : Option va_E) {j b : Nat} (h : b ≠ j) : oT (uT C j e) b = oT C b := if_neg h
theorem ot_T {j : Nat} {e e2 : va_E} (hc : oT C j = some e) (a b : Nat) (h : a = 15 → b = j → False) : ceC g (uT C j (some e2)) a b = ceC g C a b := by
  match a with
  | 0 => rfl
  | 1 =>
    show (if oO C 0 = true ∧ b < 4 then some (.inr (1, [oneT (oT (uT C j (some e2)) b) (od C 15 b)])) else none : Option va_E) = (if oO C 0 = true ∧ b < 4 then some (.inr (1, [oneT (oT C b) (od C 15 b)])) else none : Option va_E)
    by_cases hb : b = j
    · subst hb
      rw [uT_at, hc]
      rfl
    · rw [uT_ne _ _ hb]
  | 2 => rfl
  | 3 => rfl
  | 4 => rfl
  | 5 => rfl
  | 6 => rfl
  | 7 => rfl
  | 8 => rfl
  | 9 => rfl
  | 10 => rfl
  | 11 => rfl
  | 12 => rfl
  | 13 => rfl
  | 14 => rfl
  | 15 => exact uT_ne _ _ (fun z => h rfl z)
  | _ + 16 => rfl
def putF (k : Nat) (f : Nat → Int32) (i : Nat) (v : Int64) : Nat → Int32 := if k = 0 then upd f i (vp_nar .byte v.toInt32.toInt8.toInt32) else if k = 1 then upd f i (vp_nar .short v.toInt32.toInt16.toInt32) else upd f i v.toInt32
theorem tX0_putR {σ : PH} {a n : Nat} {t : Tg} {f : Nat → Int32} {l : Nat → Int64} {i : Int32} {v : Int64} : ∀ k, k < 4 → σ.2 a = some (t, rowE g.2.2.2 k n f l) → n < 2147483648 → Ct g miX0_put 180 3 222 [.ref a, .int i, .long v] σ (fun w σ2 => vp_in i n ∧ w = none ∧ σ2 = hup σ a t (rowE g.2.2.2 k n (putF k f (cl i) v) (vp_updL l (cl i) v))) (fun q E σ2 => ¬ vp_in i n ∧ GrX AX σ q E σ2)
  | 0, _, hh, hn => tX0_put0 hh hn
  | 1, _, hh, hn => tX0_put1 hh hn
  | 2, _, hh, hn => tX0_put2 hh hn
  | 3, _, hh, hn => tX0_put3 hh hn
  | _ + 4, h, _, _ => absurd h (by omega)
theorem put_V {k : Nat} (hk : k ≤ 3) (f : Nat → Int32) (l : Nat → Int64) (i : Nat) (v : Int64) (m : Nat) : rowV k (putF k f i v) (vp_updL l i v) m = if m = i then cutV v k else rowV k f l m := by
  by_cases hm : m = i
  · subst hm
    rw [if_pos rfl]
    obtain rfl | rfl | rfl | rfl : k = 0 ∨ k = 1 ∨ k = 2 ∨ k = 3 := by omega
    · show (upd f m (vp_nar .byte v.toInt32.toInt8.toInt32) m).toInt64 = v.toInt32.toInt8.toInt32.toInt64
      rw [upd_eq]
      exact congrArg (fun z : Int8 => z.toInt32.toInt64) (Int8.toInt8_toInt32 _)
    · show (upd f m (vp_nar .short v.toInt32.toInt16.toInt32) m).toInt64 = v.toInt32.toInt16.toInt32.toInt64
      rw [upd_eq]
      exact congrArg (fun z : Int16 => z.toInt32.toInt64) (Int16.toInt16_toInt32 _)
    · show (upd f m v.toInt32 m).toInt64 = v.toInt32.toInt64
      rw [upd_eq]
    · show vp_updL l m v m = v
      exact if_pos rfl
  · rw [if_neg hm]
    obtain rfl | rfl | rfl | rfl : k = 0 ∨ k = 1 ∨ k = 2 ∨ k = 3 := by omega
    · show (upd f i _ m).toInt64 = (f m).toInt64
      rw [upd_ne hm]
    · show (upd f i _ m).toInt64 = (f m).toInt64
      rw [upd_ne hm]
    · show (upd f i _ m).toInt64 = (f m).toInt64
      rw [upd_ne hm]
    · show vp_updL l i v m = l m
      exact if_neg hm
/-- trays changed to T2, the status and Refused's reason too -/
def TrW (g : GG) (C C2 : CS) (T2 : TS) (s : Int32) : Prop := ∃ Cm, EncTC g Cm T2 ∧ (Cm = C ∨ ∃ j e, j < 4 ∧ Cm = uT C j (some e)) ∧ TrX Cm C2 s
theorem TrW.same {C2 : CS} {T : TS} {s : Int32} (E : EncTC g C T) (h : TrX C C2 s) : TrW g C C2 T s := ⟨C, E, Or.inl rfl, h⟩
theorem EncTC.put {T : TS} (E : EncTC g C T) (O : OkT T) {j k : Nat} {f : Nat → Int32} {l : Nat → Int64} {v : Int64} (hj : j < 4) (ht : tm T j ≠ 0) (h2 : ∀ k, k + 1 < tm T j → rowV (tk T j) f l k = tv T j k) : EncTC g (uT C j (some (rowE g.2.2.2 (tk T j) (tm T j - 1) (putF (tk T j) f k v) (vp_updL l k v)))) (setTv T j k (cutV v (tk T j))) := by
  intro t h4
  by_cases hb : t = j
  · subst hb
    refine ⟨fun z => absurd z ht, fun _ => ⟨_, _, uT_at _ _ _, fun m hm => ?_⟩⟩
    show rowV (tk T t) _ _ m = _
    rw [put_V (O t h4).1, setTv_v]
    by_cases hm9 : m = k
    · rw [if_pos hm9, if_pos ⟨rfl, hm9⟩]
    · rw [if_neg hm9, if_neg (fun z => hm9 z.2)]
      exact h2 m hm
  · rw [uT_ne _ _ hb]
    refine ⟨(E t h4).1, fun z => ?_⟩
    obtain ⟨f1, l1, a1, a2⟩ := (E t h4).2 z
    refine ⟨f1, l1, a1, fun m hm => ?_⟩
    rw [setTv_v, if_neg (fun z => hb z.1)]
    exact a2 m hm
theorem kX0_write {x y : Int32} {v : Int64} {T : TS} (hx : oO C 0 = true) (ET : EncTC g C T) (O : OkT T) : Cp g miX0_write 181 3 222 [.ref (od C 0 30), .int x, .int y, .long v] C (some (.int (bP (nI (wpT T x y) = 0)))) (fun C2 => TrW g C C2 (v_write T x y v) (nI (wpT T x y))) := by
  intro σ0 H
  refine Ct.startW [some (.ref (od C 0 30)), some (.int x), some (.int y), some (.long v), none, none] plX0 (h0 := (5, 16, 17, 134)) (hr := [(5, 16, 26, 41)]) rfl (Nat.le_of_ble_eq_true rfl) rfl (fun _ => ?_)
  refine w_aload_n dX0_write_0 rfl ?_
  refine w_iconst (v := nI 0) dX0_write_1 ki_0 ?_
  refine pX0_85 (C := C) dX0_write_2 rfl hx H Fr.refl ?_
  intro σ H F
  refine w_aload_n dX0_write_5 rfl ?_
  refine w_iload_n dX0_write_6 rfl ?_
  refine w_callV (kc := 3) (ks := 222) (rest := []) dX0_write_7 q618 okX0_on clX0 rfl (tX0_on (C := uI C 0 30 7 (nI 0)) hx σ H) (show 4 + 1 ≤ 181 by decide) (H.get (ce_X (C := uI C 0 30 7 (nI 0)) hx)) rfl rfl (by decide) ?_ ?_
  · rintro u σ2 ⟨hw, rfl, rfl⟩
    obtain ⟨j, f, l, hj, rfl, hc, ht, h1, h2, h3⟩ := on_row ET (show onW C x = 0 from hw)
    have hk := (O j hj).1
    have hm := (O j hj).2
    rw [hc]
    refine w_iload_n dX0_write_10 rfl ?_
    refine w_lload_n dX0_write_11 rfl ?_
    have hcell : ceC g (uI C 0 30 7 (nI 0)) 15 j = some (rowE g.2.2.2 (tk T j) (tm T j - 1) f l) := h1
    refine w_callS (kc := 0) (ks := 0) (rest := []) dX0_write_12 q622 okX0_put (tX0_putR (n := tm T j - 1) (f := f) (l := l) (tk T j) (by omega) (H.get hcell) (by omega)) (show 180 + 1 ≤ 181 by decide) rfl rfl (by decide) ?_ ?_
    · rintro u σ3 ⟨hin, rfl, rfl⟩
      have hy := (vp_inN (show tm T j - 1 < 2147483648 by omega)).mp hin
      have h5 : wpT T (nI j) y = 0 := by rw [h3, if_pos hy]
      obtain ⟨k, hk9, rfl⟩ := inN_of hy (by omega)
      have hck : cl (nI k) = k := nI_clamp (by omega)
      rw [hck]
      have H3 := H.set (C2 := uT (uI C 0 30 7 (nI 0)) j (some (rowE g.2.2.2 (tk T j) (tm T j - 1) (putF (tk T j) f k v) (vp_updL l k v)))) hcell (by decide) rfl rfl (uT_at _ _ _) (ot_T (C := uI C 0 30 7 (nI 0)) h1)
      refine w_iconst (v := nI 1) dX0_write_15 ki_1 ?_
      refine w_zret dX0_write_16 rfl narr1 ⟨?_, _, ?_, H3, F.hup (show (15 : Nat) < 20 by decide) (H.get hcell)⟩
      · rw [h5]
        rfl
      · rw [h5, v_write, if_pos h5, hc, hck]
        exact ⟨_, ET.put O hj ht h2, Or.inr ⟨j, _, hj, rfl⟩, TrX.of (uT C j _) (nI 0)⟩
    · rintro q E σ3 ⟨hin, rfl, m, hm9, rfl⟩
      have hy : ¬ inN y (tm T j - 1) := fun z => hin ((vp_inN (by omega)).mpr z)
      have h5 : wpT T (nI j) y = 3 := by rw [h3, if_neg hy]
      refine t_catch (pre := []) (x := (5, 16, 17, 134)) (suf := [(5, 16, 26, 41)]) rfl (fun _ h => absurd h (by simp)) (by decide) (by decide) q599 ca_ix ?_
      refine w_astore dX0_write_17 rfl (by show 5 < 6; decide) rfl ?_
      refine w_aload_n dX0_write_19 rfl ?_
      refine w_iconst (v := nI 3) dX0_write_20 ki_3 ?_
      refine pX0_85 (C := uI C 0 30 7 (nI 0)) dX0_write_21 rfl hx (H.more hm9) (F.more hm9) ?_
      intro σ4 H4 F4
      refine w_iconst (v := nI 0) dX0_write_24 ki_0 ?_
      refine w_zret dX0_write_25 rfl narr0 ⟨?_, _, ?_, H4, F4⟩
      · rw [h5]
        rfl
      · rw [h5, v_write, if_neg (by rw [h5]; decide)]
        exact TrW.same ET (TrX.of2 C _ _)
  · rintro q E σ2 ⟨hne, rfl, rfl, H2, F2⟩
    have hne : onW C x ≠ 0 := hne
    have h5 : wpT T x y = onW C x := on_wp ET hne
    have hle : onW C x ≤ 3 := by rw [← h5]; exact wpT_le T x y
    refine t_catch (pre := [(5, 16, 17, 134)]) (x := (5, 16, 26, 41)) (suf := []) rfl ?_ (by decide) (by decide) q254 ca_ref ?_
    · intro z hz
      obtain rfl := List.mem_singleton.mp hz
      exact Or.inr ⟨by decide, _, q599, show ("LastPebble$Refused", "java/lang/ArrayIndexOutOfBoundsException") ∈ ncL by decide⟩
    refine w_astore dX0_write_26 rfl (by show 5 < 6; decide) rfl ?_
    refine w_aload_n dX0_write_28 rfl ?_
    refine w_aload dX0_write_29 rfl ?_
    refine w_callV (kc := 3) (ks := 222) (rest := []) dX0_write_31 q590 okX0_no clX0 rfl (kX0_no (C := uI (uI C 0 30 7 (nI 0)) 0 6 6 (nI (onW C x))) hx σ2 H2) (show 1 + 1 ≤ 181 by decide) (H2.get (ce_X (C := uI (uI C 0 30 7 (nI 0)) 0 6 6 (nI (onW C x))) hx)) rfl rfl (by decide) ?_ (fun q E σ2 h => absurd h (fun z => z))
    rintro u σ3 ⟨rfl, C3, rfl, H3, F3⟩
    refine w_zret dX0_write_34 rfl narr0 ⟨?_, _, ?_, H3, (F.trans F2).trans F3⟩
    · rw [h5]
      have h9 : onW C x = 1 ∨ onW C x = 2 ∨ onW C x = 3 := by omega
      rcases h9 with h9 | h9 | h9 <;> (rw [h9]; rfl)
    · rw [h5, oI_at, v_write, if_neg (by rw [h5]; exact hne)]
      exact TrW.same ET ⟨_, _, rfl⟩
end TR5
