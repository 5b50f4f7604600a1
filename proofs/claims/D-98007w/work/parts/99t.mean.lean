/-! X.mean: runs on the day aside (printed by gen/mean.py) -/
set_option maxRecDepth 100000
/-- the fraction is told, the day aside is another -/
def MeX (g : GG) (Cb C2 : CS) (n d : Nat) : Prop := ∃ C1 : CS, C2 = tellC C1 n d ∧ LiR 4 Cb C1 ∧ (∃ W p, EncD g C1 4 W p) ∧ oI C1 0 30 7 = nI 0 ∧ (∀ f, f ≠ 7 → oI C1 0 30 f = oI Cb 0 30 f) ∧ oA C1 0 21 = oA Cb 0 21 ∧ oM C1 = oM Cb
theorem mn_sum {g : GG} {V : VS} {P : PG} {f seed : Nat} {lo q : Nat → Nat} (O : OkP (vs V 0) (vs V 1) (vs V 2) P) (hp0 : 0 < pn P) (hq : Sq P (Stq P 4) 61 0 (pn P - 1)) {i : Nat} : (mnV V P f seed lo (i + 1)).2 = (mnV V P f seed lo i).2 + vt (RunC g P V (seed + i) q).R.1 4 f := by
  show (mnV V P f seed lo i).2 + vt (livesV V P (mnV V P f seed lo i).1 (seed + i)).1.1 4 f = _
  rw [(days_run (q := q) (lo := (mnV V P f seed lo i).1) (seed := seed + i) (V := V) O hp0 hq).1]
  rfl
set_option maxHeartbeats 4000000 in
theorem mean_run {g : GG} {C Cb : CS} {σ0 σ : PH} {V : VS} {q lo : Nat → Nat} {P : PG} {pa f seed many : Nat} (hx : oO C 0 = true) (h0 : oO C 0 = true) (h4 : oO C 4 = true) (E : EncD g C 0 V q) (E4 : ∃ W p, EncD g C 4 W p) (K : OkV V) (hk : KepV V) (O : OkP (vs V 0) (vs V 1) (vs V 2) P) (hp0 : 0 < pn P) (hP : oP C 0 = some pa) (hD : DaysZ g (oZ C) P pa) (hl : oM C 90 = none) (hl3 : oM C 3 = none) (hst : oI C 0 30 7 = nI 0) (hf : f < vs V 1) (hm1 : 0 < many) (hm2 : many ≤ 20) (hs : seed + many ≤ 10000) (Rb : LiR 4 Cb C) (Ib : ∀ f, f ≠ 7 → oI C 0 30 f = oI Cb 0 30 f) (Ab : oA C 0 21 = oA Cb 0 21) (Mb : oM C = oM Cb) (H : Hold g σ C) (F : Fr σ0 σ) : Wp g (mtC g miX0_mean 36 (many * 257) (many * 2953) σ0 (some (.int (nI 1))) (fun C2 => MeX g Cb C2 (mnV V P f seed lo many).2 many)) (many * 257) (many * 2953) 70 [some (.ref (od C 0 30)), some (.int (nI f)), some (.int (nI seed)), some (.int (nI many)), none, none, none] [] σ := by
  have kb := K.b
  have lp : ∀ (n k : Nat) (C1 : CS) (σ : PH), many - k < n → k ≤ many → LiR 4 C C1 → (∃ W p, EncD g C1 4 W p) → EncD g C1 0 V q → oI C1 0 30 = oI C 0 30 → oA C1 0 21 = oA C 0 21 → (∀ i, i ≠ 3 → oM C1 i = oM C i) → (mnV V P f seed lo k).2 ≤ k * 1000000 → Hold g σ C1 → Fr σ0 σ →
      Wp g (mtC g miX0_mean 36 (many * 257) (many * 2953) σ0 (some (.int (nI 1))) (fun C2 => MeX g Cb C2 (mnV V P f seed lo many).2 many)) ((many - k) * 257) ((many - k) * 2953) 76 [some (.ref (od C 0 30)), some (.int (nI f)), some (.int (nI seed)), some (.int (nI many)), some (.long (lN (mnV V P f seed lo k).2)), none, some (.int (nI k))] [] σ := by
    intro n
    induction n with
    | zero => intro k C1 σ hmu; exact absurd hmu (Nat.not_lt_zero _)
    | succ n ih =>
      intro k C1 σ hmu hkm R1 E41 E1 I1 A1 M1 hsum H F
      obtain ⟨W1, p1, E41⟩ := E41
      have hO1 : oO C1 = oO C := R1.2.2.2.2.2.2.2.1
      have hx1 : oO C1 0 = true := by rw [hO1]; exact hx
      have h01 : oO C1 0 = true := by rw [hO1]; exact h0
      have h41 : oO C1 4 = true := by rw [hO1]; exact h4
      have hl1 : oM C1 90 = none := (M1 90 (by decide)).trans hl
      refine w_iload dX0_mean_76 rfl ?_
      refine w_iload_n dX0_mean_78 rfl ?_
      refine w_icmpN_ge dX0_mean_79 rfl (by omega) (by omega) (fun h79 => ?_) (fun h79 => ?_)
      · have hkk : k = many := by omega
        subst hkk
        refine w_aload_n dX0_mean_139 rfl ?_
        refine w_ref (R1.x30) ?_
        refine w_lload dX0_mean_140 rfl ?_
        refine w_iload_n dX0_mean_142 rfl ?_
        refine w_i2l dX0_mean_143 (nI_l (by omega)) ?_
        have H2 : Hold g σ (sM8 C1 (oM C)) := H.less (fun i e h => by
          by_cases h3 : i = 3
          · subst h3
            rw [hl3] at h
            cases h
          · rw [M1 i h3]
            exact h)
        refine w_bud (kc2 := 0 + 0) (ks2 := 0 + 0) (Nat.zero_le _) (Nat.zero_le _) ?_
        refine cp_call (kc := 0) (ks := 0) (mi := miX0_fraction) dX0_mean_144 q1290 okX0_fraction clX0 rfl (H2.get (ce_X (C := sM8 C1 (oM C)) hx1)) (Nat.le_of_ble_eq_true rfl) (kX0_fraction (C := sM8 C1 (oM C)) hx1 hm1 (by omega) (by omega)) H2 F rfl rfl (Nat.le_of_ble_eq_true rfl) ?_
        rintro σ C2 rfl H3 F3
        refine w_pop dX0_mean_147 rfl ?_
        refine w_iconst (v := nI 1) dX0_mean_148 ki_1 ?_
        exact w_zret dX0_mean_149 rfl narr1 ⟨rfl, _, ⟨sM8 C1 (oM C), rfl, (Rb.trans R1).trans LiR.M, ⟨W1, p1, E41.less⟩, (congrFun I1 7).trans hst, fun f hf => (congrFun I1 f).trans (Ib f hf), A1.trans Ab, Mb⟩, H3, F3⟩
      · have e1 : many - k = (many - (k + 1)) + 1 := by omega
        refine w_bud (kc2 := ((many - (k + 1)) * 257 + 240 + 1) + 16) (ks2 := ((many - (k + 1)) * 2953 + 1920 + 9) + 1024) (by omega) (by omega) ?_
        refine w_aload_n dX0_mean_82 rfl ?_
        refine w_ref (R1.x30) ?_
        refine gX0_78 (C := C1) dX0_mean_83 rfl hx1 H ?_
        refine w_aload_n dX0_mean_86 rfl ?_
        refine w_ref (R1.x30) ?_
        refine cr_call (mi := miX0_day) dX0_mean_87 q886 okX0_day clX0 rfl (H.get (ce_X hx1)) (Nat.le_of_ble_eq_true rfl) (kX0_day (C := C1) hx1 h01) H rfl rfl (Nat.le_of_ble_eq_true rfl) ?_
        refine cp_call (mi := miX5_be) dX0_mean_90 q1318 okX5_be clX5 rfl (H.get (ce_day h41)) (Nat.le_of_ble_eq_true rfl) (kX5_be (C := C1) h41 E41 h01 E1 (by decide) hl1) H F rfl rfl (Nat.le_of_ble_eq_true rfl) ?_
        rintro σ C2 ⟨E42, S2⟩ H F
        have R2 : LiR 4 C C2 := R1.trans (SD.R S2)
        have E2 : EncD g C2 0 V q := E1.sd S2 (by decide)
        have I2 : oI C2 0 30 = oI C 0 30 := (S2.2.1 0 30 (by omega) (by omega)).trans I1
        have A2 : oA C2 0 21 = oA C 0 21 := (S2.2.2.1 0 21 (by omega) (by omega)).trans A1
        have M2 : ∀ i, i ≠ 3 → oM C2 i = oM C i := fun i hi => by rw [S2.2.2.2.2.2.2.2.2.2.1]; exact M1 i hi
        have hO2 : oO C2 = oO C := R2.2.2.2.2.2.2.2.1
        have hx2 : oO C2 0 = true := by rw [hO2]; exact hx
        have h02 : oO C2 0 = true := by rw [hO2]; exact h0
        have h42 : oO C2 4 = true := by rw [hO2]; exact h4
        refine w_aload_n dX0_mean_93 rfl ?_
        refine w_ref (R2.x30) ?_
        refine gX0_55 (C := C2) dX0_mean_94 rfl hx2 H ?_
        refine gX0_222 (C := C2) dX0_mean_97 rfl h02 (by omega) H ?_
        rw [show oP C2 0 = some pa from (congrFun R2.2.2.2.2.2.2.1 0).trans hP]
        refine run_new (kc := (many - (k + 1)) * 257 + 240) (ks := (many - (k + 1)) * 2953 + 1920) E42 H F dX0_mean_100 rfl ?_
        intro σ Cn la En N H F
        have Rn := N.2.2.1
        have hxn : oO Cn 0 = true := by rw [Rn.2.2.2.2.2.2.2.1]; exact hx2
        refine w_dup dX0_mean_103 rfl ?_
        refine w_aload_n dX0_mean_104 rfl ?_
        refine w_ref ((R2.trans Rn).x30) ?_
        refine gX0_78 (C := Cn) dX0_mean_105 rfl hxn H ?_
        refine w_iload_n dX0_mean_108 rfl ?_
        refine w_iload dX0_mean_109 rfl ?_
        refine w_iaddN dX0_mean_111 ?_
        refine run_init (seed := seed + k) h42 rfl ((M2 90 (by decide)).trans hl) N En H F dX0_mean_112 rfl (Nat.le_of_ble_eq_true rfl) (Nat.le_of_ble_eq_true rfl) ?_
        intro σ C3 B3 R3 M3 I3 A3 H F
        have hz3 : oZ C3 = oZ C := (R2.trans R3).2.2.2.2.2.2.2.2.2
        refine run_all B3 K hk O (by omega) (by rw [hz3]; exact hD) H F dX0_mean_115 rfl (Nat.le_of_ble_eq_true rfl) (Nat.le_of_ble_eq_true rfl) ?_
        intro σ C4 B4 S4 H F
        have R4 : LiR 4 C C4 := (R2.trans R3).trans S4.R
        have hO4 : oO C4 = oO C := R4.2.2.2.2.2.2.2.1
        have hx4 : oO C4 0 = true := by rw [hO4]; exact hx
        have h44 : oO C4 4 = true := by rw [hO4]; exact h4
        have hS := mn_sum (g := g) (f := f) (seed := seed) (lo := lo) (q := fun d => if p1 d < vt V 7 d then q d else p1 d) (i := k) O hp0 hD.choose_spec.choose_spec.2.2
        have OR : OkR V (RunC g P V (seed + k) (fun d => if p1 d < vt V 7 d then q d else p1 d)).R := all_ok (go_ok O 4) _ _ _ _ hD.choose_spec.choose_spec.2.2 (okR_new K hk (by omega))
        have hv := (OR.1.f (f := f) (by rw [OR.2.2.2.2.1]; exact hf)).2.2.2.2.2
        refine w_lload dX0_mean_118 rfl ?_
        refine w_aload_n dX0_mean_120 rfl ?_
        refine w_ref (R4.x30) ?_
        refine gX0_78 (C := C4) dX0_mean_121 rfl hx4 H ?_
        refine gX0_277 (C := C4) dX0_mean_124 rfl h44 H ?_
        refine w_iload_n dX0_mean_127 rfl ?_
        refine da_14 (C := C4) dX0_mean_128 h44 B4.E (by omega) H ?_
        refine w_i2l dX0_mean_129 (nI_l (by omega)) ?_
        refine w_ladd dX0_mean_130 ?_
        rw [lN_add, ← hS]
        refine w_lstore dX0_mean_131 rfl (Nat.le_of_ble_eq_true rfl) ls2_7_4 ?_
        refine w_iinc dX0_mean_133 rfl (nI_inc _ 1) rfl (Nat.le_of_ble_eq_true rfl) ls_7_6 ?_
        refine w_goto dX0_mean_136 rfl ?_
        refine ih (k + 1) C4 σ (by omega) (by omega) R4 ⟨_, _, B4.E⟩ ?_ ?_ ?_ (fun i hi => ((S4.2 i hi).trans (M3 i hi)).trans (M2 i hi)) (by rw [hS]; omega) H F
        · refine E2.eq (R3.2.2.2.2.2.1 0 (by decide) |> fun h => (S4.1.2.2.2.2.2.1 0 (by decide)).trans h) ((S4.oz).trans R3.2.2.2.2.2.2.2.2.2) ?_ ?_ ?_ ?_
          · exact (S4.1.2.1 3 0 (by omega) (by omega)).trans (by rw [I3])
          · intro a h1 h2
            exact (S4.1.2.2.1 a 0 (by omega) (by omega)).trans (R3.2.2.1 a 0 (by omega) (by omega) (by omega))
          · intro d hd
            exact (S4.1.2.1 5 (8 * 0 + d) (by omega) (by omega)).trans (by rw [I3])
          · intro a d ha hd
            exact ⟨(S4.1.2.2.1 a (8 * 0 + d) (by omega) (by omega)).trans (R3.2.2.1 a (8 * 0 + d) (by omega) (by omega) (by omega)), (S4.1.2.2.2.1 a (8 * 0 + d) (by omega)).trans (R3.2.2.2.1 a (8 * 0 + d) (by omega))⟩
        · exact (S4.1.2.1 0 30 (by omega) (by omega)).trans ((by rw [I3] : oI C3 0 30 = oI C2 0 30).trans I2)
        · exact (S4.1.2.2.1 0 21 (by omega) (by omega)).trans ((congrFun (congrFun A3 0) 21).trans A2)
  refine w_lconst (v := 0) dX0_mean_70 rfl ?_
  refine w_lstore dX0_mean_71 rfl (Nat.le_of_ble_eq_true rfl) ls2_7_4 ?_
  refine w_iconst (v := nI 0) dX0_mean_73 ki_0 ?_
  refine w_istore dX0_mean_74 rfl (Nat.le_of_ble_eq_true rfl) ls_7_6 ?_
  exact lp (many + 1) 0 C σ (by omega) (by omega) LiR.refl E4 E rfl rfl (fun _ _ => rfl) (Nat.zero_le _) H F
