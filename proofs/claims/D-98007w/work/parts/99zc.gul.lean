/-! X.gulls (printed by gen/gul.py) -/
set_option maxRecDepth 100000
section GUL
variable {g : GG} {C : CS} {σ σ0 : PH} {V : VS} {T : TS} {x : Int32} {pc w kc ks : Nat} {xx : Int32} {l2 l3 l4 l5 l6 : Option Value} {rest : List Value}
theorem gul_h (hx : oO C 0 = true) (hpc : 5 ≤ pc ∧ pc < 195) (H : Hold g σ (uI (uI C 0 30 7 (nI 0)) 0 6 6 (nI w))) (F : Fr σ0 σ) (hq : q_gulls V T x = noA w) : Tp g (mtC g miX0_gulls 181 51 3774 σ0 (some (.int (q_gulls V T x).1)) (fun C2 => TrX C C2 (q_gulls V T x).2)) kc ks pc [some (.ref (od C 0 30)), some (.int xx), l2, l3, l4, l5, l6] rest (od C 0 6) RX3 σ := by
  refine t_catch (pre := []) (x := (5, 195, 196, 41)) (suf := []) rfl (fun _ h => absurd h (by simp)) hpc (by decide) q254 ca_ref ?_
  refine w_astore_n dX0_gulls_196 rfl (by show 2 < 7; decide) rfl ?_
  refine w_aload_n dX0_gulls_197 rfl ?_
  refine w_aload_n dX0_gulls_198 rfl ?_
  refine w_callV (kc := kc) (ks := ks) (rest := []) dX0_gulls_199 q637 okX0_none clX0 rfl (kX0_none (C := uI (uI C 0 30 7 (nI 0)) 0 6 6 (nI w)) hx σ H) (show 1 + 1 ≤ 181 by decide) (H.get (ce_X (C := uI (uI C 0 30 7 (nI 0)) 0 6 6 (nI w)) hx)) rfl rfl (by decide) ?_ (fun q E σ2 h => absurd h (fun z => z))
  rintro v σ3 ⟨rfl, C3, rfl, H3, F3⟩
  refine w_iret dX0_gulls_202 rfl ⟨by rw [hq]; rfl, _, ?_, H3, F.trans F3⟩
  rw [hq, oI_at]
  exact ⟨_, _, rfl⟩
theorem gul_1 (hx : oO C 0 = true) (d : decode prog_1_method_67_code pc = .ok (.invokevirtual 110, 3)) (hcat : (rest.map fun v => v.category).sum ≤ 8) (H : Hold g σ (uI C 0 30 7 (nI 0))) (kk : Wp g (mtC g miX0_gulls 181 51 3774 σ0 (some (.int (q_gulls V T x).1)) (fun C2 => TrX C C2 (q_gulls V T x).2)) kc ks (pc + 3) [some (.ref (od C 0 30)), some (.int xx), l2, l3, l4, l5, l6] rest σ) : Wp g (mtC g miX0_gulls 181 51 3774 σ0 (some (.int (q_gulls V T x).1)) (fun C2 => TrX C C2 (q_gulls V T x).2)) kc ks pc [some (.ref (od C 0 30)), some (.int xx), l2, l3, l4, l5, l6] (.int (nI w) :: .int (nI 1) :: .ref (od C 0 30) :: rest) σ := by
  refine w_callV (kc := kc) (ks := ks) (mc2 := 0) (ms2 := 0) (mi := miX0_want) (As := [.int (nI 1), .int (nI w)]) (rest := rest) d q579 okX0_want clX0 rfl (tX0_want1 σ) (show 3 + 1 ≤ 181 by decide) (H.get (ce_X (C := uI C 0 30 7 (nI 0)) hx)) rfl rfl hcat ?_ (fun q E σ2 h => absurd h (fun z => z))
  rintro u σ2 ⟨rfl, rfl⟩
  exact kk
theorem gul_0 (hx : oO C 0 = true) (hpc : 5 ≤ pc ∧ pc < 195) (d : decode prog_1_method_67_code pc = .ok (.invokevirtual 110, 3)) (hcat : (rest.map fun v => v.category).sum ≤ 8) (H : Hold g σ (uI C 0 30 7 (nI 0))) (F : Fr σ0 σ) (hq : q_gulls V T x = noA w) : Wp g (mtC g miX0_gulls 181 51 3774 σ0 (some (.int (q_gulls V T x).1)) (fun C2 => TrX C C2 (q_gulls V T x).2)) kc ks pc [some (.ref (od C 0 30)), some (.int xx), l2, l3, l4, l5, l6] (.int (nI w) :: .int (nI 0) :: .ref (od C 0 30) :: rest) σ := by
  refine w_callV (kc := kc) (ks := ks) (mc2 := 0) (ms2 := 0) (mi := miX0_want) (As := [.int (nI 0), .int (nI w)]) (rest := rest) d q579 okX0_want clX0 rfl (tX0_want0 (C := uI C 0 30 7 (nI 0)) hx σ H) (show 3 + 1 ≤ 181 by decide) (H.get (ce_X (C := uI C 0 30 7 (nI 0)) hx)) rfl rfl hcat (fun u σ2 h => absurd h (fun z => z)) ?_
  rintro q E σ2 ⟨rfl, rfl, H2, F2⟩
  exact gul_h hx hpc H2 (F.trans F2) hq
theorem gul_w {p : Prop} {ip : Decidable p} (hx : oO C 0 = true) (hpc : 5 ≤ pc ∧ pc < 195) (d : decode prog_1_method_67_code pc = .ok (.invokevirtual 110, 3)) (hcat : (rest.map fun v => v.category).sum ≤ 8) (H : Hold g σ (uI C 0 30 7 (nI 0))) (F : Fr σ0 σ) (kt : p → Wp g (mtC g miX0_gulls 181 51 3774 σ0 (some (.int (q_gulls V T x).1)) (fun C2 => TrX C C2 (q_gulls V T x).2)) kc ks (pc + 3) [some (.ref (od C 0 30)), some (.int xx), l2, l3, l4, l5, l6] rest σ) (kf : ¬ p → q_gulls V T x = noA w) : Wp g (mtC g miX0_gulls 181 51 3774 σ0 (some (.int (q_gulls V T x).1)) (fun C2 => TrX C C2 (q_gulls V T x).2)) kc ks pc [some (.ref (od C 0 30)), some (.int xx), l2, l3, l4, l5, l6] (.int (nI w) :: .int (bP p) :: .ref (od C 0 30) :: rest) σ := by
  by_cases hp : p
  · rw [bP_t hp]
    exact gul_1 hx d hcat H (kt hp)
  · rw [bP_f hp]
    exact gul_0 hx hpc d hcat H F (kf hp)
end GUL
theorem sub4 {a b c d : Int32} : (a - b) + (c - d) = (a + c) - (b + d) := by
  simp only [Int32.sub_eq_add_neg, Int32.neg_add]
  ac_rfl
theorem sub0 {a b : Nat} (ha : a < 1000000) (hb : b < 1000000) : nI a - nI b = 0 ↔ a = b := by
  rw [← Int32.toInt_inj, pk_sub_toInt (by omega) (by omega)]
  show (a : Int) - b = 0 ↔ _
  omega
def mSum (V : VS) (k : Nat) : Nat := foldN (fun d c => c + vt V 7 d) 0 k
theorem mSum_8 {V : VS} (K : OkV V) : mSum V (vs V 2) = vs V 8 := by
  have h2 : ∀ d, d < 8 → vs V 2 ≤ d → vt V 7 d = 0 := fun d hd h => by
    by_cases z : vt V 7 d = 0
    · exact z
    · exfalso
      have h3 : (vs V 7 >>> d) &&& 1 = 1 := K.th hd z
      have h4 : vs V 7 < 2 ^ d := Nat.lt_of_lt_of_le K.2.1 (Nat.pow_le_pow_right (by decide) h)
      rw [Nat.shiftRight_eq_div_pow, Nat.div_eq_of_lt h4] at h3
      exact absurd h3 (by decide)
  have h1 : ∀ n, vs V 2 + n ≤ 8 → mSum V (vs V 2 + n) = mSum V (vs V 2) := by
    intro n
    induction n with
    | zero => intro _; rfl
    | succ n ih =>
      intro h
      show mSum V (vs V 2 + n) + vt V 7 (vs V 2 + n) = _
      rw [h2 (vs V 2 + n) (by omega) (by omega), ih (by omega), Nat.add_zero]
  have kb := K.b
  have h := h1 (8 - vs V 2) (by omega)
  rw [show vs V 2 + (8 - vs V 2) = 8 by omega] at h
  rw [← h]
  exact K.2.2.2.2.2.2.2.1.symm
theorem mSum_le {V : VS} (K : OkV V) : ∀ k, k ≤ 8 → mSum V k ≤ 60 * k
  | 0, _ => Nat.le_refl _
  | k + 1, h => by
    have h1 := mSum_le K k (by omega)
    have h2 := K.n (d := k) (by omega)
    show mSum V k + vt V 7 k ≤ _
    omega
set_option maxHeartbeats 4000000 in
theorem kX0_gulls {g : GG} {C : CS} {V : VS} {q : Nat → Nat} {T : TS} {x : Int32} (hx : oO C 0 = true) (h0 : oO C 0 = true) (E0 : EncD g C 0 V q) (K : OkV V) (ET : EncTC g C T) (OT : OkT T) : Cp g miX0_gulls 181 51 3774 [.ref (od C 0 30), .int x] C (some (.int (q_gulls V T x).1)) (fun C2 => TrX C C2 (q_gulls V T x).2) := by
  intro σ0 H
  refine Ct.startW [some (.ref (od C 0 30)), some (.int x), none, none, none, none, none] plX0 (h0 := (5, 195, 196, 41)) (hr := []) rfl (Nat.le_of_ble_eq_true rfl) rfl (fun _ => ?_)
  have kb := K.b
  refine w_aload_n dX0_gulls_0 rfl ?_
  refine w_iconst (v := nI 0) dX0_gulls_1 ki_0 ?_
  refine pX0_85 (C := C) dX0_gulls_2 rfl hx H Fr.refl ?_
  intro σ H F
  have E : EncD g (uI C 0 30 7 (nI 0)) 0 V q := EncD.stH H E0
  refine w_aload_n dX0_gulls_5 rfl ?_
  refine w_iload_n dX0_gulls_6 rfl ?_
  refine w_i2l dX0_gulls_7 rfl ?_
  refine w_lconst (v := 0) dX0_gulls_8 rfl ?_
  refine w_ldc2 dX0_gulls_9 q1304 ?_
  refine cs_call (mi := miX0_isIn) dX0_gulls_12 q1016 okX0_isIn (Nat.le_of_ble_eq_true rfl) (kX0_isIn0 (m := 3) (by omega)) rfl rfl (Nat.le_of_ble_eq_true rfl) ?_
  refine w_iconst (v := nI 1) dX0_gulls_15 ki_1 ?_
  refine gul_w (x := x) hx (by decide) dX0_gulls_16 (Nat.le_of_ble_eq_true rfl) H F (fun h4 => ?_) (fun h4 => if_neg h4)
  refine w_aload_n dX0_gulls_19 rfl ?_
  refine w_iload_n dX0_gulls_20 rfl ?_
  refine w_callV (kc := 51) (ks := 3774) (rest := []) dX0_gulls_21 q618 okX0_on clX0 rfl (tX0_on (C := uI C 0 30 7 (nI 0)) hx σ H) (show 4 + 1 ≤ 181 by decide) (H.get (ce_X (C := uI C 0 30 7 (nI 0)) hx)) rfl rfl (by decide) ?_ ?_
  rotate_left
  · rintro q9 E9 σ2 ⟨hne, rfl, rfl, H2, F2⟩
    have h5 : wpT T x (nI 0) = onW C x := on_wp ET hne
    refine gul_h hx (by decide) H2 (F.trans F2) ?_
    have hw : onW C x = 2 := by
      unfold onW at hne ⊢
      rw [if_pos h4] at hne ⊢
      split at hne
      · rename_i z
        exact if_pos z
      · exact absurd rfl hne
    obtain ⟨t, ht4, rfl⟩ := inN_of h4 (by omega)
    have hct : cl (nI t) = t := nI_clamp (by omega)
    have ht0 : tm T t = 0 := by
      by_cases z : tm T t = 0
      · exact z
      · exfalso
        obtain ⟨f, l, hf, -⟩ := (ET t ht4).2 z
        unfold onW at hw
        rw [if_pos h4, hct] at hw
        rw [hf] at hw
        exact absurd (show (0 : Nat) = 2 from hw) (by decide)
    rw [show onW (uI C 0 30 7 (nI 0)) (nI t) = 2 from hw]
    rw [q_gulls, if_pos (show inN (nI t) 4 from h4), hct, if_pos ht0]
  rintro v σ2 ⟨hw, rfl, rfl⟩
  obtain ⟨t, f, l, hj, rfl, hc, ht, h1, h2, h3⟩ := on_row ET (show onW C x = 0 from hw)
  have hk := (OT t hj).1
  have hm := (OT t hj).2
  rw [hc]
  refine w_astore_n dX0_gulls_24 rfl (by show 2 < 7; decide) rfl ?_
  have hrow : σ2.2 (od C 15 t) = some ((15, t), rowE g.2.2.2 (tk T t) (tm T t - 1) f l) := H.get (show ceC g (uI C 0 30 7 (nI 0)) 15 t = _ from h1)
  refine w_aload_n dX0_gulls_25 rfl ?_
  refine w_aload_n dX0_gulls_26 rfl ?_
  refine w_callS (kc := 51) (ks := 3774) (rest := [.ref (od C 0 30)]) dX0_gulls_27 q1305 okX0_sizeOf (tX0_sizeOfR (n := tm T t - 1) (f := f) (l := l) (tk T t) (by omega) hrow) (show 1 + 1 ≤ 181 by decide) rfl rfl (Nat.le_of_ble_eq_true rfl) ?_ (fun q E σ2 h => absurd h (fun z => z))
  rintro v σ3 ⟨rfl, rfl⟩
  refine w_aload_n dX0_gulls_30 rfl ?_
  refine cr_call (mi := miX0_beach_2) dX0_gulls_31 q934 okX0_beach_2 clX0 rfl (H.get (ce_X (C := uI C 0 30 7 (nI 0)) hx)) (Nat.le_of_ble_eq_true rfl) (kX0_beach (C := uI C 0 30 7 (nI 0)) hx h0) H rfl rfl (Nat.le_of_ble_eq_true rfl) ?_
  refine gX0_177 (C := uI C 0 30 7 (nI 0)) dX0_gulls_34 rfl E H ?_
  refine w_icmpN_lt dX0_gulls_37 rfl (by omega) (by omega) (fun h37 => ?_) (fun h37 => ?_)
  · refine w_iconst (v := nI 0) dX0_gulls_44 ki_0 ?_
    refine w_iconst (v := nI 3) dX0_gulls_45 ki_3 ?_
    exact gul_0 (x := nI t) hx (by decide) dX0_gulls_46 (Nat.le_of_ble_eq_true rfl) H F (by rw [q_gulls, if_pos (show inN (nI t) 4 from h4), hc, if_neg ht, if_pos (by omega)])
  refine w_iconst (v := nI 1) dX0_gulls_40 ki_1 ?_
  refine w_goto dX0_gulls_41 rfl ?_
  refine w_iconst (v := nI 3) dX0_gulls_45 ki_3 ?_
  refine gul_1 (x := nI t) hx dX0_gulls_46 (Nat.le_of_ble_eq_true rfl) H ?_
  refine w_iconst (v := nI 0) dX0_gulls_49 ki_0 ?_
  refine w_istore_n dX0_gulls_50 rfl (Nat.le_of_ble_eq_true rfl) rfl ?_
  have hq5 : (¬ ∀ d, d < vs V 2 → inG (tv T t d)) → q_gulls V T (nI t) = noA 5 := fun h => by
    rw [q_gulls, if_pos (show inN (nI t) 4 from h4), hc, if_neg ht, if_neg (by omega), if_neg h]
  have lp : (∀ d, d < vs V 2 → inG (tv T t d)) → ∀ (n k : Nat) (l6 : Option Value), 8 - k < n → k ≤ vs V 2 → (∀ d, d < k → gN T t d = 0 ∨ isT V d) → gSum T t k ≤ 60 * k → Wp g (mtC g miX0_gulls 181 51 3774 σ0 (some (.int (q_gulls V T (nI t)).1)) (fun C2 => TrX C C2 (q_gulls V T (nI t)).2)) ((8 - k) * 3) ((8 - k) * 222) 93 [some (.ref (od C 0 30)), some (.int (nI t)), some (.ref (od C 15 t)), some (.int (nI (gNew V T t k))), some (.int (nI (gSum T t k) - nI (mSum V k))), some (.int (nI k)), l6] [] σ3 := by
    intro hall n
    have hq : ∀ p : Prop, ((∀ d, d < vs V 2 → gN T t d = 0 ∨ isT V d) ∧ gSum T t (vs V 2) = vs V 8 → False) → q_gulls V T (nI t) = noA 7 := fun _ h => by
      rw [q_gulls, if_pos (show inN (nI t) 4 from h4), hc, if_neg ht, if_neg (by omega), if_pos hall, if_neg h]
    induction n with
    | zero => intro k l6 hmu; exact absurd hmu (Nat.not_lt_zero _)
    | succ n ih =>
      intro k l6 hmu hk2 hth hs1
      refine w_iload dX0_gulls_93 rfl ?_
      refine w_aload_n dX0_gulls_95 rfl ?_
      refine cr_call (mi := miX0_beach_2) dX0_gulls_96 q934 okX0_beach_2 clX0 rfl (H.get (ce_X (C := uI C 0 30 7 (nI 0)) hx)) (Nat.le_of_ble_eq_true rfl) (kX0_beach (C := uI C 0 30 7 (nI 0)) hx h0) H rfl rfl (Nat.le_of_ble_eq_true rfl) ?_
      refine gX0_177 (C := uI C 0 30 7 (nI 0)) dX0_gulls_99 rfl E H ?_
      refine w_icmpN_ge dX0_gulls_102 rfl (by omega) (by omega) (fun h102 => ?_) (fun h102 => ?_)
      · obtain rfl : k = vs V 2 := by omega
        have hms := mSum_le K (vs V 2) (by omega)
        have hm8 := mSum_8 K
        refine w_aload_n dX0_gulls_178 rfl ?_
        refine w_iload dX0_gulls_179 rfl ?_
        refine w_if_ne dX0_gulls_181 rfl (fun hne => ?_) (fun heq => ?_)
        · refine w_iconst (v := nI 0) dX0_gulls_188 ki_0 ?_
          refine w_bipush (v := nI 7) dX0_gulls_189 kb_7 ?_
          exact gul_0 (x := nI t) hx (by decide) dX0_gulls_191 (Nat.le_of_ble_eq_true rfl) H F (hq True (fun z => hne ((sub0 (by omega) (by omega)).mpr (z.2.trans hm8.symm))))
        · refine w_iconst (v := nI 1) dX0_gulls_184 ki_1 ?_
          refine w_goto dX0_gulls_185 rfl ?_
          refine w_bipush (v := nI 7) dX0_gulls_189 kb_7 ?_
          refine gul_1 (x := nI t) hx dX0_gulls_191 (Nat.le_of_ble_eq_true rfl) H ?_
          have hsum : gSum T t (vs V 2) = vs V 8 := ((sub0 (by omega) (by omega)).mp heq).trans hm8
          have hqk : q_gulls V T (nI t) = okA (gNew V T t (vs V 2)) := by
            rw [q_gulls, if_pos (show inN (nI t) 4 from h4), hc, if_neg ht, if_neg (by omega), if_pos hall, if_pos ⟨hth, hsum⟩]
          refine w_iload_n dX0_gulls_194 rfl ?_
          exact w_iret dX0_gulls_195 rfl ⟨by rw [hqk]; rfl, _, by rw [hqk]; exact TrX.of C (nI 0), H, F⟩
      · have hgk := gN_of (hall k (by omega))
        have hkn := K.n (d := k) (by omega)
        have hck : cl (nI k) = k := nI_clamp (by omega)
        refine w_aload_n dX0_gulls_105 rfl ?_
        refine w_iload dX0_gulls_106 rfl ?_
        refine w_bud (kc2 := (8 - (k + 1)) * 3 + 3) (ks2 := (8 - (k + 1)) * 222 + 222) (by omega) (by omega) ?_
        refine w_callS (mi := miX0_number) (kc := (8 - (k + 1)) * 3) (ks := (8 - (k + 1)) * 222) (mc2 := 3) (ms2 := 222) (As := [.ref (od C 15 t), .int (nI k)]) (rest := []) dX0_gulls_108 q633 okX0_number (tX0_numberR (n := tm T t - 1) (f := f) (l := l) (i := nI k) (tk T t) (by omega) hrow (by omega)) (show 180 + 1 ≤ 181 by decide) rfl rfl (Nat.le_of_ble_eq_true rfl) ?_ ?_
        rotate_left
        · rintro q9 E9 σ9 ⟨hin, -⟩
          exact absurd ((vp_inN (by omega)).mpr (inN_nI (by omega) (by omega))) hin
        rintro v σ9 ⟨hin, rfl, rfl⟩
        rw [hck, h2 k (by omega)]
        refine w_l2i dX0_gulls_111 hgk.1 ?_
        refine w_aload_n dX0_gulls_112 rfl ?_
        refine cr_call (mi := miX0_day) dX0_gulls_113 q886 okX0_day clX0 rfl (H.get (ce_X (C := uI C 0 30 7 (nI 0)) hx)) (Nat.le_of_ble_eq_true rfl) (kX0_day (C := uI C 0 30 7 (nI 0)) hx h0) H rfl rfl (Nat.le_of_ble_eq_true rfl) ?_
        refine gX0_288 (C := uI C 0 30 7 (nI 0)) dX0_gulls_116 rfl h0 H ?_
        refine w_iload dX0_gulls_119 rfl ?_
        refine ga_heaps (C := uI C 0 30 7 (nI 0)) dX0_gulls_121 h0 (by omega) H ?_
        refine gX0_292 (C := uI C 0 30 7 (nI 0)) dX0_gulls_122 rfl (on8 h0 (by omega)) H ?_
        refine w_topN (E.h (d := k) (by omega)).sz ?_
        refine w_isub dX0_gulls_125 ?_
        refine w_istore dX0_gulls_126 rfl (Nat.le_of_ble_eq_true rfl) rfl ?_
        have tail : gN T t k = 0 ∨ isT V k → Wp g (mtC g miX0_gulls 181 51 3774 σ0 (some (.int (q_gulls V T (nI t)).1)) (fun C2 => TrX C C2 (q_gulls V T (nI t)).2)) ((8 - (k + 1)) * 3) ((8 - (k + 1)) * 222) 146 [some (.ref (od C 0 30)), some (.int (nI t)), some (.ref (od C 15 t)), some (.int (nI (gNew V T t k))), some (.int (nI (gSum T t k) - nI (mSum V k))), some (.int (nI k)), some (.int (nI (gN T t k) - nI (vt V 7 k)))] [.ref (od C 0 30)] σ9 := by
          intro hok
          refine w_iconst (v := nI 1) dX0_gulls_146 ki_1 ?_
          refine w_goto dX0_gulls_147 rfl ?_
          refine w_bipush (v := nI 7) dX0_gulls_151 kb_7 ?_
          refine gul_1 (x := nI t) hx dX0_gulls_153 (Nat.le_of_ble_eq_true rfl) H ?_
          refine w_iload dX0_gulls_156 rfl ?_
          refine w_iload dX0_gulls_158 rfl ?_
          refine w_iadd dX0_gulls_160 ?_
          refine w_istore dX0_gulls_161 rfl (Nat.le_of_ble_eq_true rfl) rfl ?_
          refine w_iload_n dX0_gulls_163 rfl ?_
          refine w_iconst (v := nI 0) dX0_gulls_164 ki_0 ?_
          refine w_iload dX0_gulls_165 rfl ?_
          refine w_mmax dX0_gulls_167 q1309 q1165 q155 q1166 (Nat.le_of_ble_eq_true rfl) (Nat.le_of_ble_eq_true rfl) ?_
          refine w_topN (max_sub0 (by omega) (by omega)) ?_
          refine w_iaddN dX0_gulls_170 ?_
          refine w_istore_n dX0_gulls_171 rfl (Nat.le_of_ble_eq_true rfl) rfl ?_
          refine w_iinc dX0_gulls_172 rfl (nI_inc _ 1) rfl (Nat.le_of_ble_eq_true rfl) rfl ?_
          refine w_goto dX0_gulls_175 rfl ?_
          rw [sub4, nI_add, nI_add]
          exact ih (k + 1) _ (by omega) (by omega) (fun d hd => by
            rcases Nat.lt_succ_iff_lt_or_eq.mp hd with z | z
            · exact hth d z
            · rw [z]
              exact hok) (by show gSum T t k + gN T t k ≤ _; omega)
        refine w_aload_n dX0_gulls_128 rfl ?_
        refine w_aload_n dX0_gulls_129 rfl ?_
        refine cr_call (mi := miX0_day) dX0_gulls_130 q886 okX0_day clX0 rfl (H.get (ce_X (C := uI C 0 30 7 (nI 0)) hx)) (Nat.le_of_ble_eq_true rfl) (kX0_day (C := uI C 0 30 7 (nI 0)) hx h0) H rfl rfl (Nat.le_of_ble_eq_true rfl) ?_
        refine w_iload dX0_gulls_133 rfl ?_
        refine cr_call (mi := miX5_isThere) dX0_gulls_135 q1183 okX5_isThere clX5 rfl (H.get (ce_day (C := uI C 0 30 7 (nI 0)) h0)) (Nat.le_of_ble_eq_true rfl) (kX5_isThere (C := uI C 0 30 7 (nI 0)) (j := 0) (d := k) h0 E K (by omega)) H rfl rfl (Nat.le_of_ble_eq_true rfl) ?_
        refine w_ifB_ne dX0_gulls_138 rfl (fun hT => tail (Or.inr hT)) (fun hT => ?_)
        have hv0 : vt V 7 k = 0 := by
          by_cases z : vt V 7 k = 0
          · exact z
          · exact absurd (K.th (d := k) (by omega) z) hT
        refine w_iload dX0_gulls_141 rfl ?_
        refine w_if_ne dX0_gulls_143 rfl (fun hne => ?_) (fun heq => ?_)
        · refine w_iconst (v := nI 0) dX0_gulls_150 ki_0 ?_
          refine w_bipush (v := nI 7) dX0_gulls_151 kb_7 ?_
          refine gul_0 (x := nI t) hx (by decide) dX0_gulls_153 (Nat.le_of_ble_eq_true rfl) H F (hq True (fun z => ?_))
          rcases z.1 k (by omega) with y | y
          · exact hne ((sub0 (by omega) (by omega)).mpr (by omega))
          · exact hT y
        · have he := (sub0 (by omega) (by omega)).mp heq
          exact tail (Or.inl (by omega))
  have lo : ∀ (n k : Nat), vs V 2 - k < n → k ≤ vs V 2 → (∀ d, d < k → inG (tv T t d)) → Wp g (mtC g miX0_gulls 181 51 3774 σ0 (some (.int (q_gulls V T (nI t)).1)) (fun C2 => TrX C C2 (q_gulls V T (nI t)).2)) ((17 - k) * 3) ((17 - k) * 222) 51 [some (.ref (od C 0 30)), some (.int (nI t)), some (.ref (od C 15 t)), some (.int (nI k)), none, none, none] [] σ3 := by
    intro n
    induction n with
    | zero => intro k hmu; exact absurd hmu (Nat.not_lt_zero _)
    | succ n ih =>
      intro k hmu hk2 hg
      refine w_iload_n dX0_gulls_51 rfl ?_
      refine w_aload_n dX0_gulls_52 rfl ?_
      refine cr_call (mi := miX0_beach_2) dX0_gulls_53 q934 okX0_beach_2 clX0 rfl (H.get (ce_X (C := uI C 0 30 7 (nI 0)) hx)) (Nat.le_of_ble_eq_true rfl) (kX0_beach (C := uI C 0 30 7 (nI 0)) hx h0) H rfl rfl (Nat.le_of_ble_eq_true rfl) ?_
      refine gX0_177 (C := uI C 0 30 7 (nI 0)) dX0_gulls_56 rfl E H ?_
      refine w_icmpN_ge dX0_gulls_59 rfl (by omega) (by omega) (fun h59 => ?_) (fun h59 => ?_)
      · obtain rfl : k = vs V 2 := by omega
        refine w_iconst (v := nI 0) dX0_gulls_85 ki_0 ?_
        refine w_istore_n dX0_gulls_86 rfl (Nat.le_of_ble_eq_true rfl) rfl ?_
        refine w_iconst (v := nI 0) dX0_gulls_87 ki_0 ?_
        refine w_istore dX0_gulls_88 rfl (Nat.le_of_ble_eq_true rfl) rfl ?_
        refine w_iconst (v := nI 0) dX0_gulls_90 ki_0 ?_
        refine w_istore dX0_gulls_91 rfl (Nat.le_of_ble_eq_true rfl) rfl ?_
        refine w_bud (kc2 := (8 - 0) * 3) (ks2 := (8 - 0) * 222) (by omega) (by omega) ?_
        exact w_as (lp hg 9 0 none (by omega) (by omega) (fun d hd => absurd hd (Nat.not_lt_zero d)) (Nat.zero_le _)) (by rw [show nI (gSum T t 0) - nI (mSum V 0) = nI 0 from (by decide : nI 0 - nI 0 = nI 0)]; rfl) rfl rfl
      · refine w_aload_n dX0_gulls_62 rfl ?_
        refine w_aload_n dX0_gulls_63 rfl ?_
        refine w_iload_n dX0_gulls_64 rfl ?_
        refine w_bud (kc2 := (17 - (k + 1)) * 3 + 3) (ks2 := (17 - (k + 1)) * 222 + 222) (by omega) (by omega) ?_
        refine w_callS (mi := miX0_number) (kc := (17 - (k + 1)) * 3) (ks := (17 - (k + 1)) * 222) (mc2 := 3) (ms2 := 222) (As := [.ref (od C 15 t), .int (nI k)]) (rest := [.ref (od C 0 30)]) dX0_gulls_65 q633 okX0_number (tX0_numberR (n := tm T t - 1) (f := f) (l := l) (i := nI k) (tk T t) (by omega) hrow (by omega)) (show 180 + 1 ≤ 181 by decide) rfl rfl (Nat.le_of_ble_eq_true rfl) ?_ ?_
        rotate_left
        · rintro q9 E9 σ9 ⟨hin, -⟩
          exact absurd ((vp_inN (by omega)).mpr (inN_nI (by omega) (by omega))) hin
        rintro v σ9 ⟨hin, rfl, rfl⟩
        have hck : cl (nI k) = k := nI_clamp (by omega)
        rw [hck, h2 k (by omega)]
        refine w_lconst (v := 0) dX0_gulls_68 rfl ?_
        refine w_ldc2 dX0_gulls_69 q1308 ?_
        refine cs_call (mi := miX0_isIn) dX0_gulls_72 q1016 okX0_isIn (Nat.le_of_ble_eq_true rfl) (kX0_isIn (x := tv T t k) (y := 0) (z := lN 60)) rfl rfl (Nat.le_of_ble_eq_true rfl) ?_
        refine w_iconst (v := nI 5) dX0_gulls_75 ki_5 ?_
        refine gul_w (x := nI t) hx (by decide) dX0_gulls_76 (Nat.le_of_ble_eq_true rfl) H F (fun hyes => ?_) (fun hno => hq5 (fun z => hno (z k (by omega))))
        refine w_iinc dX0_gulls_79 rfl (nI_inc _ 1) rfl (Nat.le_of_ble_eq_true rfl) rfl ?_
        refine w_goto dX0_gulls_82 rfl ?_
        exact ih (k + 1) (by omega) (by omega) (fun d hd => by
          rcases Nat.lt_succ_iff_lt_or_eq.mp hd with z | z
          · exact hg d z
          · rw [z]
            exact hyes)
  exact lo (vs V 2 + 1) 0 (by omega) (Nat.zero_le _) (fun d hd => absurd hd (Nat.not_lt_zero d))
