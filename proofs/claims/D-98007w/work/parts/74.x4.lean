set_option maxRecDepth 100000
theorem cnt_lt (p q : Nat → Prop) [DecidablePred p] [DecidablePred q] : ∀ n, (∀ g, g < n → p g → q g) → foldN (fun k c => c + if p k then 1 else 0) 0 n ≤ foldN (fun k c => c + if q k then 1 else 0) 0 n ∧ ((∃ g, g < n ∧ q g ∧ ¬ p g) → foldN (fun k c => c + if p k then 1 else 0) 0 n < foldN (fun k c => c + if q k then 1 else 0) 0 n)
  | 0, _ => ⟨Nat.le_refl _, fun ⟨g, h, _⟩ => absurd h (Nat.not_lt_zero g)⟩
  | n + 1, h => by
    obtain ⟨h1, h2⟩ := cnt_lt p q n (fun g hg => h g (by omega))
    have h3 := h n (by omega)
    rw [foldN_s, foldN_s]
    constructor
    · by_cases hp : p n
      · rw [if_pos hp, if_pos (h3 hp)]; omega
      · rw [if_neg hp]; omega
    · rintro ⟨g, hg, hq, hp⟩
      by_cases hgn : g = n
      · subst hgn
        rw [if_neg hp, if_pos hq]
        omega
      · have h4 := h2 ⟨g, by omega, hq, hp⟩
        by_cases hp : p n
        · rw [if_pos hp, if_pos (h3 hp)]; omega
        · rw [if_neg hp]; omega
/-- who is ahead of whom -/
theorem ahead_lt {V : VS} {f g : Nat} (hf : f < vs V 1) (h : leadV V g < leadV V f ∨ leadV V g = leadV V f ∧ f < g) : aheadV V f < aheadV V g := by
  refine (cnt_lt (fun k => leadV V f < leadV V k ∨ leadV V k = leadV V f ∧ k < f) (fun k => leadV V g < leadV V k ∨ leadV V k = leadV V g ∧ k < g) (vs V 1) ?_).2 ⟨f, hf, by omega, by omega⟩
  intro k hk hp
  omega
theorem ahead_inj {V : VS} {f g : Nat} (hf : f < vs V 1) (hg : g < vs V 1) (h : aheadV V f = aheadV V g) : f = g := by
  by_cases h1 : f = g
  · exact h1
  · exfalso
    rcases Nat.lt_trichotomy (leadV V f) (leadV V g) with z | z | z
    · have := ahead_lt hg (Or.inl z); omega
    · rcases Nat.lt_or_gt_of_ne h1 with y | y
      · have := ahead_lt hf (Or.inr ⟨z.symm, y⟩); omega
      · have := ahead_lt hg (Or.inr ⟨z, y⟩); omega
    · have := ahead_lt hf (Or.inl z); omega
def lastP (p : Nat → Prop) [DecidablePred p] (n : Nat) : Nat := foldN (fun k c => if p k then k + 1 else c) 0 n
theorem lastP_ok (p : Nat → Prop) [DecidablePred p] : ∀ n, (lastP p n = 0 → ∀ k, k < n → ¬ p k) ∧ (lastP p n ≠ 0 → p (lastP p n - 1) ∧ lastP p n ≤ n)
  | 0 => ⟨fun _ k h => absurd h (Nat.not_lt_zero k), fun h => absurd rfl h⟩
  | n + 1 => by
    obtain ⟨h1, h2⟩ := lastP_ok p n
    have e : lastP p (n + 1) = if p n then n + 1 else lastP p n := rfl
    by_cases hp : p n
    · rw [e, if_pos hp]
      exact ⟨fun h => by omega, fun _ => ⟨hp, Nat.le_refl _⟩⟩
    · rw [e, if_neg hp]
      refine ⟨fun h k hk => ?_, fun h => ⟨(h2 h).1, by have := (h2 h).2; omega⟩⟩
      by_cases hkn : k = n
      · subst hkn; exact hp
      · exact h1 h k (by omega)
theorem lastP_first (p : Nat → Prop) [DecidablePred p] (n : Nat) (hu : ∀ f g, f < n → g < n → p f → p g → f = g) : lastP p n = firstF p 0 n := by
  obtain ⟨h1, h2⟩ := lastP_ok p n
  by_cases z : firstF p 0 n = 0
  · rw [z]
    by_cases y : lastP p n = 0
    · exact y
    · exact absurd (h2 y).1 (firstF_0 p n 0 z _ (Nat.zero_le _) (by have := (h2 y).2; omega))
  · obtain ⟨g1, g2, g3⟩ := firstF_ok p n 0 z
    by_cases y : lastP p n = 0
    · exact absurd g1 (h1 y _ (by omega))
    · obtain ⟨k1, k2⟩ := h2 y
      have := hu (lastP p n - 1) (firstF p 0 n - 1) (by omega) (by omega) k1 g1
      omega
theorem rank_last (V : VS) (K : OkV V) (k : Int32) : lastP (fun f => nI (aheadV V f) = k) (vs V 1) = rankV V k := by
  have kb := K.b
  have hle : ∀ f, aheadV V f ≤ vs V 1 := fun f => by
    have := sum_le (f := fun g => if leadV V f < leadV V g ∨ leadV V g = leadV V f ∧ g < f then 1 else 0) (m := 1) (vs V 1) (fun k _ => by split <;> omega)
    have h2 : aheadV V f ≤ vs V 1 * 1 := this
    omega
  refine lastP_first _ _ fun f g hf hg h1 h2 => ahead_inj hf hg ?_
  have := hle f
  have := hle g
  exact (nI_eq (by omega) (by omega)).mp (h1.trans h2.symm)
/-- the first with most -/
def bestK (g : Nat → Nat) (n : Nat) : Nat := foldN (fun k c => if c = 0 ∨ g (c - 1) < g k then k + 1 else c) 0 n
theorem bestK_ok (g : Nat → Nat) : ∀ n, 0 < n → bestK g n ≠ 0 ∧ bestK g n ≤ n ∧ ∀ k, k < n → g k ≤ g (bestK g n - 1) ∧ (k < bestK g n - 1 → g k < g (bestK g n - 1))
  | n + 1, _ => by
    have e : bestK g (n + 1) = if bestK g n = 0 ∨ g (bestK g n - 1) < g n then n + 1 else bestK g n := rfl
    by_cases h0 : 0 < n
    · obtain ⟨h1, h2, h3⟩ := bestK_ok g n h0
      by_cases h : g (bestK g n - 1) < g n
      · rw [e, if_pos (Or.inr h)]
        refine ⟨by omega, Nat.le_refl _, fun k hk => ?_⟩
        rw [Nat.add_sub_cancel]
        by_cases hkn : k = n
        · subst hkn; exact ⟨Nat.le_refl _, fun z => by omega⟩
        · have := (h3 k (by omega)).1
          exact ⟨by omega, fun _ => by omega⟩
      · rw [e, if_neg (by omega)]
        refine ⟨h1, by omega, fun k hk => ?_⟩
        by_cases hkn : k = n
        · subst hkn; exact ⟨by omega, fun z => by omega⟩
        · exact h3 k (by omega)
    · obtain rfl : n = 0 := by omega
      rw [e, if_pos (Or.inl (show bestK g 0 = 0 from rfl))]
      refine ⟨by omega, by omega, fun k hk => ?_⟩
      obtain rfl : k = 0 := by omega
      exact ⟨Nat.le_refl _, fun z => absurd z (Nat.not_lt_zero _)⟩
theorem best_rank {V : VS} (K : OkV V) : bestK (leadV V) (vs V 1) = rankV V (nI 0) := by
  by_cases h0 : 0 < vs V 1
  · obtain ⟨h1, h2, h3⟩ := bestK_ok (leadV V) (vs V 1) h0
    have ha : aheadV V (bestK (leadV V) (vs V 1) - 1) = 0 := by
      refine (cnt_0 (fun k => leadV V (bestK (leadV V) (vs V 1) - 1) < leadV V k ∨ leadV V k = leadV V (bestK (leadV V) (vs V 1) - 1) ∧ k < bestK (leadV V) (vs V 1) - 1) (vs V 1)).mpr fun k hk => ?_
      have := h3 k hk
      omega
    have hr := rank_last V K (nI 0)
    rw [← hr]
    have hp : nI (aheadV V (bestK (leadV V) (vs V 1) - 1)) = nI 0 := by rw [ha]
    obtain ⟨l1, l2⟩ := lastP_ok (fun f => nI (aheadV V f) = nI 0) (vs V 1)
    by_cases z : lastP (fun f => nI (aheadV V f) = nI 0) (vs V 1) = 0
    · exact absurd hp (l1 z _ (by omega))
    · obtain ⟨k1, k2⟩ := l2 z
      have kb := K.b
      have hle : aheadV V (lastP (fun f => nI (aheadV V f) = nI 0) (vs V 1) - 1) ≤ vs V 1 * 1 := sum_le (f := fun g => if leadV V (lastP (fun f => nI (aheadV V f) = nI 0) (vs V 1) - 1) < leadV V g ∨ leadV V g = leadV V (lastP (fun f => nI (aheadV V f) = nI 0) (vs V 1) - 1) ∧ g < lastP (fun f => nI (aheadV V f) = nI 0) (vs V 1) - 1 then 1 else 0) (m := 1) (vs V 1) (fun k _ => by split <;> omega)
      have := ahead_inj (V := V) (f := bestK (leadV V) (vs V 1) - 1) (g := lastP (fun f => nI (aheadV V f) = nI 0) (vs V 1) - 1) (by omega) (by omega) ((nI_eq (by omega) (by omega)).mp (hp.trans k1.symm))
      omega
  · have hz : vs V 1 = 0 := by omega
    unfold rankV
    rw [hz]
    rfl
/-- all pebbles are one's -/
theorem who_bit (V : VS) (d b : Nat) : ∀ n, (whoS V d n).testBit b = true ↔ ∃ k, k < n ∧ vp V 0 d k = b
  | 0 => by
    constructor
    · intro h
      have : (0 : Nat).testBit b = true := h
      rw [Nat.zero_testBit] at this
      cases this
    · rintro ⟨k, hk, -⟩
      exact absurd hk (Nat.not_lt_zero k)
  | n + 1 => by
    show ((whoS V d n) ||| 2 ^ vp V 0 d n).testBit b = true ↔ _
    rw [Nat.testBit_or, Bool.or_eq_true, who_bit V d b n, Nat.testBit_two_pow]
    constructor
    · rintro (⟨k, hk, hb⟩ | h)
      · exact ⟨k, by omega, hb⟩
      · exact ⟨n, by omega, by simpa using h⟩
    · rintro ⟨k, hk, hb⟩
      by_cases hkn : k = n
      · subst hkn; right; simpa using hb
      · exact Or.inl ⟨k, by omega, hb⟩
theorem pcnt_one : ∀ s, s < 64 → (pcnt s = 1 ↔ ∃ g, g < 6 ∧ s = 2 ^ g) := by decide +kernel
theorem ownF_all {who : Nat → Nat} {f : Nat} : ∀ n, ownF n who f = n ↔ ∀ k, k < n → who k = f
  | 0 => ⟨fun _ k h => absurd h (Nat.not_lt_zero k), fun _ => rfl⟩
  | n + 1 => by
    have e : ownF (n + 1) who f = ownF n who f + if who n = f then 1 else 0 := rfl
    have h1 := ownF_le n who f
    have h2 := ownF_all (who := who) (f := f) n
    rw [e]
    constructor
    · intro h k hk
      by_cases hw : who n = f
      · rw [if_pos hw] at h
        by_cases hkn : k = n
        · subst hkn; exact hw
        · exact h2.mp (by omega) k (by omega)
      · rw [if_neg hw] at h
        omega
    · intro h
      rw [if_pos (h n (by omega)), h2.mpr (fun k hk => h k (by omega))]
theorem who_lt {V : VS} (K : OkV V) {d : Nat} (hd : d < 8) : ∀ n, n ≤ vt V 7 d → whoS V d n < 64
  | 0, _ => (show 0 < 64 by omega)
  | n + 1, h => or_lt64 _ (who_lt K hd n (by omega)) _ (by have := (K.p hd (k := n) (by omega)).1; have := K.b; omega)
theorem alone_iff {V : VS} (K : OkV V) {d : Nat} (hd : d < 8) : pcnt (whoS V d (vt V 7 d)) = 1 ↔ 0 < vt V 7 d ∧ ownV V d (vp V 0 d 0) = vt V 7 d := by
  have hlt := who_lt K hd _ (Nat.le_refl (vt V 7 d))
  rw [pcnt_one _ hlt]
  constructor
  · rintro ⟨g, hg, he⟩
    have hall : ∀ k, k < vt V 7 d → vp V 0 d k = g := by
      intro k hk
      have h1 := (who_bit V d (vp V 0 d k) (vt V 7 d)).mpr ⟨k, hk, rfl⟩
      rw [he, Nat.testBit_two_pow] at h1
      exact (by simpa using h1 : g = vp V 0 d k).symm
    have hn : 0 < vt V 7 d := by
      have h1 : (whoS V d (vt V 7 d)).testBit g = true := by rw [he, Nat.testBit_two_pow]; simp
      obtain ⟨k, hk, -⟩ := (who_bit V d g _).mp h1
      omega
    exact ⟨hn, (ownF_all _).mpr fun k hk => (hall k hk).trans (hall 0 hn).symm⟩
  · rintro ⟨hn, ho⟩
    have hall := (ownF_all _).mp ho
    have h0 := (K.p hd hn).1
    have kb := K.b
    refine ⟨vp V 0 d 0, by omega, ?_⟩
    apply Nat.eq_of_testBit_eq
    intro b
    rw [Nat.testBit_two_pow]
    by_cases hb : vp V 0 d 0 = b
    · rw [(who_bit V d b _).mpr ⟨0, hn, hb⟩]
      simp [hb]
    · have : (whoS V d (vt V 7 d)).testBit b = false := by
        cases hq : (whoS V d (vt V 7 d)).testBit b with
        | false => rfl
        | true =>
          obtain ⟨k, hk, hkb⟩ := (who_bit V d b _).mp hq
          exact absurd ((hall k hk).symm.trans hkb) hb
      rw [this]
      simp [hb]
set_option maxHeartbeats 4000000 in
theorem kX0_leader {g : GG} {C : CS} {V : VS} {q : Nat → Nat} (hx : oO C 0 = true) (h0 : oO C 0 = true) (E : EncD g C 0 V q) (K : OkV V) : Cp g miX0_leader 5 (0) (0) [.ref (od C 0 30)] C (some (.int ((q_leader V).1))) (fun C2 => C2 = uI C 0 30 7 (q_leader V).2) := by
  refine Cp.start [some (.ref (od C 0 30)), none, none] plX0 rfl (Nat.le_of_ble_eq_true rfl) rfl ?_
  intro σ0 σ H F
  have kb := K.b
  refine w_iconst (v := (-1)) dX0_leader_0 ki_m1 ?_
  refine w_istore_n dX0_leader_1 rfl (Nat.le_of_ble_eq_true rfl) ls_3_1 ?_
  refine w_iconst (v := nI 0) dX0_leader_2 ki_0 ?_
  refine w_istore_n dX0_leader_3 rfl (Nat.le_of_ble_eq_true rfl) ls_3_2 ?_
  have lp : ∀ (j9 : Nat) (k : Nat) (c : Nat), vs V 1 - k < j9 → k ≤ vs V 1 → bestK (leadV V) k = c → c ≤ k → Wp g (mtC g miX0_leader 5 (0) (0) σ0 (some (.int ((q_leader V).1))) (fun C2 => C2 = uI C 0 30 7 (q_leader V).2)) 0 0 4 [some (.ref (od C 0 30)), some (.int (nI c - nI 1)), some (.int (nI k))] [] σ := by
    intro j9
    induction j9 with
    | zero => intro k c hmu hk hc hck; exact absurd hmu (Nat.not_lt_zero _)
    | succ j9 ih_lp =>
      intro k c hmu hk hc hck
      refine w_iload_n dX0_leader_4 rfl ?_
      refine w_aload_n dX0_leader_5 rfl ?_
      refine cr_call (mi := miX0_beach_2) dX0_leader_6 q934 okX0_beach_2 clX0 rfl (H.get (ce_X hx)) (Nat.le_of_ble_eq_true rfl) (kX0_beach (C := C) hx h0) H rfl rfl (Nat.le_of_ble_eq_true rfl) ?_
      refine gX0_168 (C := C) dX0_leader_9 rfl E H ?_
      refine w_icmpN_ge dX0_leader_12 rfl (by omega) (by omega) (fun h_12 => ?_) (fun h_12 => ?_)
      · obtain rfl : k = vs V 1 := by omega
        refine w_aload_n dX0_leader_46 rfl ?_
        refine w_iload_n dX0_leader_47 rfl ?_
        refine cp_call (mi := miX0_answer) dX0_leader_48 q1199 okX0_answer clX0 rfl (H.get (ce_X hx)) (Nat.le_of_ble_eq_true rfl) (kX0_answerO (C := C) hx (by first | assumption | omega)) H F rfl rfl (Nat.le_of_ble_eq_true rfl) ?_
        rintro σ _ rfl H F
        have E := EncD.stH H E
        exact w_iret dX0_leader_51 rfl ⟨by rw [q_leader, ← best_rank K, hc]; first | done | rfl, _, by rw [q_leader, ← best_rank K, hc]; first | done | rfl, H, F⟩
      · refine w_iload_n dX0_leader_15 rfl ?_
        refine w_if_lt dX0_leader_16 rfl (fun h_16 => ?_) (fun h_16 => ?_)
        · have h_16 : c = 0 := (dn_lt (by omega)).mp h_16
          refine w_iload_n dX0_leader_38 rfl ?_
          refine w_istore_n dX0_leader_39 rfl (Nat.le_of_ble_eq_true rfl) ls_3_1 ?_
          refine w_iinc dX0_leader_40 rfl (nI_inc _ 1) rfl (Nat.le_of_ble_eq_true rfl) ls_3_2 ?_
          refine w_goto dX0_leader_43 rfl ?_
          exact w_as (ih_lp (k + 1) (k + 1) (by omega) (by omega) (by rw [bestK, foldN_s, ← bestK, hc, if_pos (Or.inl h_16)]) (by omega)) (by rw [nI_dn]) rfl rfl
        · obtain ⟨i, rfl⟩ : ∃ i, c = i + 1 := ⟨c - 1, by have := mt (dn_lt (j := c) (by omega)).mpr h_16; omega⟩
          rw [nI_dn]
          refine w_aload_n dX0_leader_19 rfl ?_
          refine cr_call (mi := miX0_day) dX0_leader_20 q886 okX0_day clX0 rfl (H.get (ce_X hx)) (Nat.le_of_ble_eq_true rfl) (kX0_day (C := C) hx h0) H rfl rfl (Nat.le_of_ble_eq_true rfl) ?_
          refine w_iload_n dX0_leader_23 rfl ?_
          refine cr_call (mi := miX5_leads) dX0_leader_24 q1194 okX5_leads clX5 rfl (H.get (ce_day h0)) (Nat.le_of_ble_eq_true rfl) (kX5_leads (C := C) h0 E K (by first | assumption | omega)) H rfl rfl (Nat.le_of_ble_eq_true rfl) ?_
          refine w_aload_n dX0_leader_27 rfl ?_
          refine cr_call (mi := miX0_day) dX0_leader_28 q886 okX0_day clX0 rfl (H.get (ce_X hx)) (Nat.le_of_ble_eq_true rfl) (kX0_day (C := C) hx h0) H rfl rfl (Nat.le_of_ble_eq_true rfl) ?_
          refine w_iload_n dX0_leader_31 rfl ?_
          refine cr_call (mi := miX5_leads) dX0_leader_32 q1194 okX5_leads clX5 rfl (H.get (ce_day h0)) (Nat.le_of_ble_eq_true rfl) (kX5_leads (C := C) h0 E K (by first | assumption | omega)) H rfl rfl (Nat.le_of_ble_eq_true rfl) ?_
          have hs1 := leadV_le K k
          have hs2 := leadV_le K i
          refine w_icmpN_le dX0_leader_35 rfl (by omega) (by omega) (fun h_35 => ?_) (fun h_35 => ?_)
          · refine w_iinc dX0_leader_40 rfl (nI_inc _ 1) rfl (Nat.le_of_ble_eq_true rfl) ls_3_2 ?_
            refine w_goto dX0_leader_43 rfl ?_
            exact w_as (ih_lp (k + 1) (i + 1) (by omega) (by omega) (by rw [bestK, foldN_s, ← bestK, hc, if_neg (fun z => by have := z; simp only [Nat.add_sub_cancel] at this; omega)]) (by omega)) (by rw [nI_dn]) rfl rfl
          · refine w_iload_n dX0_leader_38 rfl ?_
            refine w_istore_n dX0_leader_39 rfl (Nat.le_of_ble_eq_true rfl) ls_3_1 ?_
            refine w_iinc dX0_leader_40 rfl (nI_inc _ 1) rfl (Nat.le_of_ble_eq_true rfl) ls_3_2 ?_
            refine w_goto dX0_leader_43 rfl ?_
            exact w_as (ih_lp (k + 1) (k + 1) (by omega) (by omega) (by rw [bestK, foldN_s, ← bestK, hc, if_pos (Or.inr (by simp only [Nat.add_sub_cancel]; omega))]) (by omega)) (by rw [nI_dn]) rfl rfl
  exact lp (vs V 1 + 1) 0 0 (by omega) (by omega) rfl (by omega)
set_option maxHeartbeats 4000000 in
theorem kX0_ranked {g : GG} {C : CS} {V : VS} {q : Nat → Nat} {x : Int32} (hx : oO C 0 = true) (h0 : oO C 0 = true) (E : EncD g C 0 V q) (K : OkV V) : Cp g miX0_ranked 5 (0) (0) [.ref (od C 0 30), .int x] C (some (.int ((q_ranked V x).1))) (fun C2 => C2 = uI C 0 30 7 (q_ranked V x).2) := by
  refine Cp.start [some (.ref (od C 0 30)), some (.int x), none, none, none, none] plX0 rfl (Nat.le_of_ble_eq_true rfl) rfl ?_
  intro σ0 σ H F
  have kb := K.b
  refine w_iconst (v := (-1)) dX0_ranked_0 ki_m1 ?_
  refine w_istore_n dX0_ranked_1 rfl (Nat.le_of_ble_eq_true rfl) ls_6_2 ?_
  refine w_iconst (v := nI 0) dX0_ranked_2 ki_0 ?_
  refine w_istore_n dX0_ranked_3 rfl (Nat.le_of_ble_eq_true rfl) ls_6_3 ?_
  have lp : ∀ (j9 : Nat) (k : Nat) (c : Nat), vs V 1 - k < j9 → k ≤ vs V 1 → lastP (fun f => nI (aheadV V f) = x) k = c → c ≤ k → Wp g (mtC g miX0_ranked 5 (0) (0) σ0 (some (.int ((q_ranked V x).1))) (fun C2 => C2 = uI C 0 30 7 (q_ranked V x).2)) 0 0 4 [some (.ref (od C 0 30)), some (.int x), some (.int (nI c - nI 1)), some (.int (nI k)), none, none] [] σ := by
    intro j9
    induction j9 with
    | zero => intro k c hmu hk hc hck; exact absurd hmu (Nat.not_lt_zero _)
    | succ j9 ih_lp =>
      intro k c hmu hk hc hck
      refine w_iload_n dX0_ranked_4 rfl ?_
      refine w_aload_n dX0_ranked_5 rfl ?_
      refine cr_call (mi := miX0_beach_2) dX0_ranked_6 q934 okX0_beach_2 clX0 rfl (H.get (ce_X hx)) (Nat.le_of_ble_eq_true rfl) (kX0_beach (C := C) hx h0) H rfl rfl (Nat.le_of_ble_eq_true rfl) ?_
      refine gX0_168 (C := C) dX0_ranked_9 rfl E H ?_
      refine w_icmpN_ge dX0_ranked_12 rfl (by omega) (by omega) (fun h_12 => ?_) (fun h_12 => ?_)
      · obtain rfl : k = vs V 1 := by omega
        refine w_aload_n dX0_ranked_109 rfl ?_
        refine w_iload_n dX0_ranked_110 rfl ?_
        refine cp_call (mi := miX0_answer) dX0_ranked_111 q1199 okX0_answer clX0 rfl (H.get (ce_X hx)) (Nat.le_of_ble_eq_true rfl) (kX0_answerO (C := C) hx (by first | assumption | omega)) H F rfl rfl (Nat.le_of_ble_eq_true rfl) ?_
        rintro σ _ rfl H F
        have E := EncD.stH H E
        exact w_iret dX0_ranked_114 rfl ⟨by rw [q_ranked, ← rank_last V K, hc]; first | done | rfl, _, by rw [q_ranked, ← rank_last V K, hc]; first | done | rfl, H, F⟩
      · refine w_iconst (v := nI 0) dX0_ranked_15 ki_0 ?_
        refine w_istore dX0_ranked_16 rfl (Nat.le_of_ble_eq_true rfl) ls_6_4 ?_
        refine w_iconst (v := nI 0) dX0_ranked_18 ki_0 ?_
        refine w_istore dX0_ranked_19 rfl (Nat.le_of_ble_eq_true rfl) ls_6_5 ?_
        have li : ∀ (j9 : Nat) (o : Nat), vs V 1 - o < j9 → o ≤ vs V 1 → foldN (fun g c => c + if leadV V k < leadV V g ∨ leadV V g = leadV V k ∧ g < k then 1 else 0) 0 o ≤ o → Wp g (mtC g miX0_ranked 5 (0) (0) σ0 (some (.int ((q_ranked V x).1))) (fun C2 => C2 = uI C 0 30 7 (q_ranked V x).2)) 0 0 21 [some (.ref (od C 0 30)), some (.int x), some (.int (nI c - nI 1)), some (.int (nI k)), some (.int (nI (foldN (fun g c => c + if leadV V k < leadV V g ∨ leadV V g = leadV V k ∧ g < k then 1 else 0) 0 o))), some (.int (nI o))] [] σ := by
          intro j9
          induction j9 with
          | zero => intro o hmu ho hao; exact absurd hmu (Nat.not_lt_zero _)
          | succ j9 ih_li =>
            intro o hmu ho hao
            have hl1 := leadV_le K k
            have hl2 := leadV_le K o
            refine w_iload dX0_ranked_21 rfl ?_
            refine w_aload_n dX0_ranked_23 rfl ?_
            refine cr_call (mi := miX0_beach_2) dX0_ranked_24 q934 okX0_beach_2 clX0 rfl (H.get (ce_X hx)) (Nat.le_of_ble_eq_true rfl) (kX0_beach (C := C) hx h0) H rfl rfl (Nat.le_of_ble_eq_true rfl) ?_
            refine gX0_168 (C := C) dX0_ranked_27 rfl E H ?_
            refine w_icmpN_ge dX0_ranked_30 rfl (by omega) (by omega) (fun h_30 => ?_) (fun h_30 => ?_)
            · have hon : o = vs V 1 := by omega
              subst hon
              refine w_iload dX0_ranked_95 rfl ?_
              refine w_iload_n dX0_ranked_97 rfl ?_
              skip
              refine w_icmp_ne dX0_ranked_98 rfl (fun h_98 => ?_) (fun h_98 => ?_)
              · have h_98 : ¬ nI (aheadV V k) = x := h_98
                refine w_iinc dX0_ranked_103 rfl (nI_inc _ 1) rfl (Nat.le_of_ble_eq_true rfl) ls_6_3 ?_
                refine w_goto dX0_ranked_106 rfl ?_
                exact w_L (wkS (wkS (wkS (wkS (wkN (wkN wk0)))))) (ih_lp (k + 1) c (by omega) (by omega) (by rw [lastP, foldN_s, ← lastP, hc, if_neg h_98]) (by omega))
              · have h_98 : nI (aheadV V k) = x := h_98
                refine w_iload_n dX0_ranked_101 rfl ?_
                refine w_istore_n dX0_ranked_102 rfl (Nat.le_of_ble_eq_true rfl) ls_6_2 ?_
                refine w_iinc dX0_ranked_103 rfl (nI_inc _ 1) rfl (Nat.le_of_ble_eq_true rfl) ls_6_3 ?_
                refine w_goto dX0_ranked_106 rfl ?_
                exact w_L (wkS (wkS (wkS (wkS (wkN (wkN wk0)))))) (w_as (ih_lp (k + 1) (k + 1) (by omega) (by omega) (by rw [lastP, foldN_s, ← lastP, if_pos h_98]) (by omega)) (by rw [nI_dn]) rfl rfl)
            · refine w_iload dX0_ranked_33 rfl ?_
              refine w_aload_n dX0_ranked_35 rfl ?_
              refine cr_call (mi := miX0_day) dX0_ranked_36 q886 okX0_day clX0 rfl (H.get (ce_X hx)) (Nat.le_of_ble_eq_true rfl) (kX0_day (C := C) hx h0) H rfl rfl (Nat.le_of_ble_eq_true rfl) ?_
              refine w_iload dX0_ranked_39 rfl ?_
              refine cr_call (mi := miX5_leads) dX0_ranked_41 q1194 okX5_leads clX5 rfl (H.get (ce_day h0)) (Nat.le_of_ble_eq_true rfl) (kX5_leads (C := C) h0 E K (by first | assumption | omega)) H rfl rfl (Nat.le_of_ble_eq_true rfl) ?_
              refine w_aload_n dX0_ranked_44 rfl ?_
              refine cr_call (mi := miX0_day) dX0_ranked_45 q886 okX0_day clX0 rfl (H.get (ce_X hx)) (Nat.le_of_ble_eq_true rfl) (kX0_day (C := C) hx h0) H rfl rfl (Nat.le_of_ble_eq_true rfl) ?_
              refine w_iload_n dX0_ranked_48 rfl ?_
              refine cr_call (mi := miX5_leads) dX0_ranked_49 q1194 okX5_leads clX5 rfl (H.get (ce_day h0)) (Nat.le_of_ble_eq_true rfl) (kX5_leads (C := C) h0 E K (by first | assumption | omega)) H rfl rfl (Nat.le_of_ble_eq_true rfl) ?_
              refine w_icmpN_gt dX0_ranked_52 rfl (by omega) (by omega) (fun h_52 => ?_) (fun h_52 => ?_)
              · refine w_iconst (v := nI 1) dX0_ranked_81 ki_1 ?_
                refine w_goto dX0_ranked_82 rfl ?_
                refine w_iaddN dX0_ranked_86 ?_
                refine w_istore dX0_ranked_87 rfl (Nat.le_of_ble_eq_true rfl) ls_6_4 ?_
                refine w_iinc dX0_ranked_89 rfl (nI_inc _ 1) rfl (Nat.le_of_ble_eq_true rfl) ls_6_5 ?_
                refine w_goto dX0_ranked_92 rfl ?_
                exact w_as (ih_li (o + 1) (by omega) (by omega) (by rw [foldN_s]; split <;> omega)) (by rw [foldN_s]; first | rw [if_pos (by omega)] | rw [if_neg (by omega)]) rfl rfl
              · refine w_aload_n dX0_ranked_55 rfl ?_
                refine cr_call (mi := miX0_day) dX0_ranked_56 q886 okX0_day clX0 rfl (H.get (ce_X hx)) (Nat.le_of_ble_eq_true rfl) (kX0_day (C := C) hx h0) H rfl rfl (Nat.le_of_ble_eq_true rfl) ?_
                refine w_iload dX0_ranked_59 rfl ?_
                refine cr_call (mi := miX5_leads) dX0_ranked_61 q1194 okX5_leads clX5 rfl (H.get (ce_day h0)) (Nat.le_of_ble_eq_true rfl) (kX5_leads (C := C) h0 E K (by first | assumption | omega)) H rfl rfl (Nat.le_of_ble_eq_true rfl) ?_
                refine w_aload_n dX0_ranked_64 rfl ?_
                refine cr_call (mi := miX0_day) dX0_ranked_65 q886 okX0_day clX0 rfl (H.get (ce_X hx)) (Nat.le_of_ble_eq_true rfl) (kX0_day (C := C) hx h0) H rfl rfl (Nat.le_of_ble_eq_true rfl) ?_
                refine w_iload_n dX0_ranked_68 rfl ?_
                refine cr_call (mi := miX5_leads) dX0_ranked_69 q1194 okX5_leads clX5 rfl (H.get (ce_day h0)) (Nat.le_of_ble_eq_true rfl) (kX5_leads (C := C) h0 E K (by first | assumption | omega)) H rfl rfl (Nat.le_of_ble_eq_true rfl) ?_
                refine w_icmpN_ne dX0_ranked_72 rfl (by omega) (by omega) (fun h_72 => ?_) (fun h_72 => ?_)
                · refine w_iconst (v := nI 0) dX0_ranked_85 ki_0 ?_
                  refine w_iaddN dX0_ranked_86 ?_
                  refine w_istore dX0_ranked_87 rfl (Nat.le_of_ble_eq_true rfl) ls_6_4 ?_
                  refine w_iinc dX0_ranked_89 rfl (nI_inc _ 1) rfl (Nat.le_of_ble_eq_true rfl) ls_6_5 ?_
                  refine w_goto dX0_ranked_92 rfl ?_
                  exact w_as (ih_li (o + 1) (by omega) (by omega) (by rw [foldN_s]; split <;> omega)) (by rw [foldN_s]; first | rw [if_pos (by omega)] | rw [if_neg (by omega)]) rfl rfl
                · refine w_iload dX0_ranked_75 rfl ?_
                  refine w_iload_n dX0_ranked_77 rfl ?_
                  refine w_icmpN_ge dX0_ranked_78 rfl (by omega) (by omega) (fun h_78 => ?_) (fun h_78 => ?_)
                  · refine w_iconst (v := nI 0) dX0_ranked_85 ki_0 ?_
                    refine w_iaddN dX0_ranked_86 ?_
                    refine w_istore dX0_ranked_87 rfl (Nat.le_of_ble_eq_true rfl) ls_6_4 ?_
                    refine w_iinc dX0_ranked_89 rfl (nI_inc _ 1) rfl (Nat.le_of_ble_eq_true rfl) ls_6_5 ?_
                    refine w_goto dX0_ranked_92 rfl ?_
                    exact w_as (ih_li (o + 1) (by omega) (by omega) (by rw [foldN_s]; split <;> omega)) (by rw [foldN_s]; first | rw [if_pos (by omega)] | rw [if_neg (by omega)]) rfl rfl
                  · refine w_iconst (v := nI 1) dX0_ranked_81 ki_1 ?_
                    refine w_goto dX0_ranked_82 rfl ?_
                    refine w_iaddN dX0_ranked_86 ?_
                    refine w_istore dX0_ranked_87 rfl (Nat.le_of_ble_eq_true rfl) ls_6_4 ?_
                    refine w_iinc dX0_ranked_89 rfl (nI_inc _ 1) rfl (Nat.le_of_ble_eq_true rfl) ls_6_5 ?_
                    refine w_goto dX0_ranked_92 rfl ?_
                    exact w_as (ih_li (o + 1) (by omega) (by omega) (by rw [foldN_s]; split <;> omega)) (by rw [foldN_s]; first | rw [if_pos (by omega)] | rw [if_neg (by omega)]) rfl rfl
        exact li (vs V 1 + 1) 0 (by omega) (by omega) (Nat.le_refl _)
  exact lp (vs V 1 + 1) 0 0 (by omega) (by omega) rfl (by omega)
set_option maxHeartbeats 4000000 in
theorem kX0_alone {g : GG} {C : CS} {V : VS} {q : Nat → Nat} (hx : oO C 0 = true) (h0 : oO C 0 = true) (E : EncD g C 0 V q) (K : OkV V) : Cp g miX0_alone 2 (0) (0) [.ref (od C 0 30)] C (some (.int ((q_alone V).1))) (fun C2 => C2 = uI C 0 30 7 (q_alone V).2) := by
  refine Cp.start [some (.ref (od C 0 30)), none, none, none] plX0 rfl (Nat.le_of_ble_eq_true rfl) rfl ?_
  intro σ0 σ H F
  have kb := K.b
  refine w_aload_n dX0_alone_0 rfl ?_
  refine w_iconst (v := nI 0) dX0_alone_1 ki_0 ?_
  refine pX0_85 (C := C) dX0_alone_2 rfl hx H F ?_
  intro σ H F
  have E := EncD.stH H E
  refine w_iconst (v := nI 0) dX0_alone_5 ki_0 ?_
  refine w_istore_n dX0_alone_6 rfl (Nat.le_of_ble_eq_true rfl) ls_4_1 ?_
  refine w_iconst (v := nI 0) dX0_alone_7 ki_0 ?_
  refine w_istore_n dX0_alone_8 rfl (Nat.le_of_ble_eq_true rfl) ls_4_2 ?_
  have lp : ∀ (j9 : Nat) (k : Nat), vs V 2 - k < j9 → k ≤ vs V 2 → Wp g (mtC g miX0_alone 2 (0) (0) σ0 (some (.int ((q_alone V).1))) (fun C2 => C2 = uI C 0 30 7 (q_alone V).2)) 0 0 9 [some (.ref (od C 0 30)), some (.int (nI (foldN (fun d s => s ||| if pcnt (whoS V d (vt V 7 d)) = 1 then 2 ^ d else 0) 0 k))), some (.int (nI k)), none] [] σ := by
    intro j9
    induction j9 with
    | zero => intro k hmu hk_k; exact absurd hmu (Nat.not_lt_zero _)
    | succ j9 ih_lp =>
      intro k hmu hk_k
      refine w_iload_n dX0_alone_9 rfl ?_
      refine w_aload_n dX0_alone_10 rfl ?_
      refine cr_call (mi := miX0_beach_2) dX0_alone_11 q934 okX0_beach_2 clX0 rfl (H.get (ce_X hx)) (Nat.le_of_ble_eq_true rfl) (kX0_beach (C := uI (C) 0 30 7 _) hx h0) H rfl rfl (Nat.le_of_ble_eq_true rfl) ?_
      refine gX0_177 (C := uI (C) 0 30 7 _) dX0_alone_14 rfl E H ?_
      refine w_icmpN_ge dX0_alone_17 rfl (by omega) (by omega) (fun h_17 => ?_) (fun h_17 => ?_)
      · obtain rfl : k = vs V 2 := by omega
        refine w_iload_n dX0_alone_70 rfl ?_
        exact w_iret dX0_alone_71 rfl ⟨by rfl, _, by rfl, H, F⟩
      · have hkn := K.n (d := k) (by omega)
        refine w_aload_n dX0_alone_20 rfl ?_
        refine cr_call (mi := miX0_day) dX0_alone_21 q886 okX0_day clX0 rfl (H.get (ce_X hx)) (Nat.le_of_ble_eq_true rfl) (kX0_day (C := uI (C) 0 30 7 _) hx h0) H rfl rfl (Nat.le_of_ble_eq_true rfl) ?_
        refine gX0_288 (C := uI (C) 0 30 7 _) dX0_alone_24 rfl h0 H ?_
        refine w_iload_n dX0_alone_27 rfl ?_
        refine ga_heaps (C := uI (C) 0 30 7 _) dX0_alone_28 h0 (by omega) H ?_
        refine w_astore_n dX0_alone_29 rfl (Nat.le_of_ble_eq_true rfl) ls_4_3 ?_
        refine w_iload_n dX0_alone_30 rfl ?_
        refine w_aload_n dX0_alone_31 rfl ?_
        refine gX0_292 (C := uI (C) 0 30 7 _) dX0_alone_32 rfl (on8 h0 (by omega)) H ?_
        refine w_topN (E.h (d := k) (by omega)).sz ?_
        refine w_ifN_le dX0_alone_35 rfl (by omega) (fun h_35 => ?_) (fun h_35 => ?_)
        · refine w_iconst (v := nI 0) dX0_alone_61 ki_0 ?_
          refine w_iorN dX0_alone_62 ?_
          refine w_istore_n dX0_alone_63 rfl (Nat.le_of_ble_eq_true rfl) ls_4_1 ?_
          refine w_iinc dX0_alone_64 rfl (nI_inc _ 1) rfl (Nat.le_of_ble_eq_true rfl) ls_4_2 ?_
          refine w_goto dX0_alone_67 rfl ?_
          exact w_L (wkS (wkS (wkS (wkN wk0)))) (w_as (ih_lp (k + 1) (by omega) (by omega)) (by rw [foldN_s, if_neg (fun z => by have := ((alone_iff K (by omega)).mp z).1; omega)]) rfl rfl)
        · refine w_aload_n dX0_alone_38 rfl ?_
          refine w_aload_n dX0_alone_39 rfl ?_
          refine gX0_297 (C := uI (C) 0 30 7 _) dX0_alone_40 rfl (on8 h0 (by omega)) H ?_
          refine w_iconst (v := nI 0) dX0_alone_43 ki_0 ?_
          refine ha_6 (C := uI (C) 0 30 7 _) dX0_alone_44 (on8 h0 (by omega)) (E.h (d := k) (by omega)) (by omega) H ?_
          have hw0 := (K.p (d := k) (by omega) (k := 0) (by omega)).1
          refine cr_call (mi := miX7_many) dX0_alone_45 q1216 okX7_many clX7 rfl (H.get (ce_heap (on8 h0 (by omega)))) (Nat.le_of_ble_eq_true rfl) (kX7_many (C := uI (C) 0 30 7 _) (on8 h0 (by omega)) (E.h (d := k) (by omega)) (by intro k9 hk9; have h9 := (K.p (d := k) (by omega) hk9).1; omega) (by omega)) H rfl rfl (Nat.le_of_ble_eq_true rfl) ?_
          refine w_topN (show _ = nI (ownV V k (vp V 0 k 0)) from rfl) ?_
          have hov := ownV_le K (d := k) (by omega) (vp V 0 k 0)
          refine w_aload_n dX0_alone_48 rfl ?_
          refine gX0_292 (C := uI (C) 0 30 7 _) dX0_alone_49 rfl (on8 h0 (by omega)) H ?_
          refine w_topN (E.h (d := k) (by omega)).sz ?_
          refine w_icmpN_ne dX0_alone_52 rfl (by omega) (by omega) (fun h_52 => ?_) (fun h_52 => ?_)
          · refine w_iconst (v := nI 0) dX0_alone_61 ki_0 ?_
            refine w_iorN dX0_alone_62 ?_
            refine w_istore_n dX0_alone_63 rfl (Nat.le_of_ble_eq_true rfl) ls_4_1 ?_
            refine w_iinc dX0_alone_64 rfl (nI_inc _ 1) rfl (Nat.le_of_ble_eq_true rfl) ls_4_2 ?_
            refine w_goto dX0_alone_67 rfl ?_
            exact w_L (wkS (wkS (wkS (wkN wk0)))) (w_as (ih_lp (k + 1) (by omega) (by omega)) (by rw [foldN_s, if_neg (fun z => by have := ((alone_iff K (by omega)).mp z).2; exact h_52 this)]) rfl rfl)
          · refine w_iconst (v := nI 1) dX0_alone_55 ki_1 ?_
            refine w_iload_n dX0_alone_56 rfl ?_
            refine w_shl1N dX0_alone_57 (by omega) ?_
            refine w_goto dX0_alone_58 rfl ?_
            refine w_iorN dX0_alone_62 ?_
            refine w_istore_n dX0_alone_63 rfl (Nat.le_of_ble_eq_true rfl) ls_4_1 ?_
            refine w_iinc dX0_alone_64 rfl (nI_inc _ 1) rfl (Nat.le_of_ble_eq_true rfl) ls_4_2 ?_
            refine w_goto dX0_alone_67 rfl ?_
            exact w_L (wkS (wkS (wkS (wkN wk0)))) (w_as (ih_lp (k + 1) (by omega) (by omega)) (by rw [foldN_s, if_pos ((alone_iff K (by omega)).mpr ⟨by omega, h_52⟩)]) rfl rfl)
  exact lp (vs V 2 + 1) 0 (by omega) (by omega)
theorem part_neg {s : Nat} {y : Int32} (h : y < 0) : ∀ r f j, j + r < 1000000 → partF s y f j r = 0
  | 0, _, _, _ => rfl
  | r + 1, f, j, hj => by
    unfold partF
    split
    · rw [if_neg (fun z => by rw [z] at h; exact nI_pos (by omega) h)]
      exact part_neg h r _ _ (by omega)
    · exact part_neg h r _ _ (by omega)
set_option maxHeartbeats 4000000 in
theorem kX0_part {g : GG} {C : CS} {V : VS} {q : Nat → Nat} {x : Int32} {y : Int32} (hx : oO C 0 = true) (h0 : oO C 0 = true) (E : EncD g C 0 V q) (K : OkV V) : Cp g miX0_part 4 (0) (0) [.ref (od C 0 30), .int x, .int y] C (some (.int ((q_part V x y).1))) (fun C2 => C2 = uI C 0 30 7 (q_part V x y).2) := by
  refine Cp.start [some (.ref (od C 0 30)), some (.int x), some (.int y), none, none, none, none] plX0 rfl (Nat.le_of_ble_eq_true rfl) rfl ?_
  intro σ0 σ H F
  have kb := K.b
  have hwl := wfV_le V x
  refine w_aload_n dX0_part_0 rfl ?_
  refine w_aload_n dX0_part_1 rfl ?_
  refine w_iload_n dX0_part_2 rfl ?_
  refine cr_call (mi := miX0_whyGone) dX0_part_3 q1179 okX0_whyGone clX0 rfl (H.get (ce_X hx)) (Nat.le_of_ble_eq_true rfl) (kX0_whyGone (C := C) hx h0 E K) H rfl rfl (Nat.le_of_ble_eq_true rfl) ?_
  refine pX0_85 (C := C) dX0_part_6 rfl hx H F ?_
  intro σ H F
  have E := EncD.stH H E
  refine w_aload_n dX0_part_9 rfl ?_
  refine gst_85 dX0_part_10 rfl hx H ?_
  refine w_ifN_le dX0_part_13 rfl (by omega) (fun h_13 => ?_) (fun h_13 => ?_)
  · obtain ⟨hx_d, hth⟩ := wfV_0 (V := V) (x := x) (by omega)
    obtain ⟨d, hf_d, rfl⟩ := inN_of hx_d (by omega)
    have hcl_d : cl (nI d) = d := nI_clamp (by omega)
    have kf_d := K.d hf_d
    have kn_d := K.n (d := d) (by omega)
    rw [hcl_d] at hth
    have hw0 : wfV V (nI d) = 0 := by omega
    rw [hw0] at H E
    refine w_aload_n dX0_part_18 rfl ?_
    refine cr_call (mi := miX0_day) dX0_part_19 q886 okX0_day clX0 rfl (H.get (ce_X hx)) (Nat.le_of_ble_eq_true rfl) (kX0_day (C := uI (C) 0 30 7 _) hx h0) H rfl rfl (Nat.le_of_ble_eq_true rfl) ?_
    refine gX0_288 (C := uI (C) 0 30 7 _) dX0_part_22 rfl h0 H ?_
    refine w_iload_n dX0_part_25 rfl ?_
    refine ga_heaps (C := uI (C) 0 30 7 _) dX0_part_26 h0 (by omega) H ?_
    refine cr_call (mi := miX7_last) dX0_part_27 q1184 okX7_last clX7 rfl (H.get (ce_heap (on8 h0 (by omega)))) (Nat.le_of_ble_eq_true rfl) (kX7_last (C := uI (C) 0 30 7 _) (on8 h0 (by omega)) (E.h (d := d) (by omega)) (by intro k9 hk9; have h9 := (K.p (d := d) (by omega) hk9).1; omega) (by intro k9 hk9; have h9 := (K.p (d := d) (by omega) hk9).2; omega)) H rfl rfl (Nat.le_of_ble_eq_true rfl) ?_
    refine w_topN (show _ = nI (lastV V d) from rfl) ?_
    have hll := lastV_lt K (d := d) (by omega)
    refine w_istore_n dX0_part_30 rfl (Nat.le_of_ble_eq_true rfl) ls_7_3 ?_
    refine w_aload_n dX0_part_31 rfl ?_
    refine cr_call (mi := miX0_day) dX0_part_32 q886 okX0_day clX0 rfl (H.get (ce_X hx)) (Nat.le_of_ble_eq_true rfl) (kX0_day (C := uI (C) 0 30 7 _) hx h0) H rfl rfl (Nat.le_of_ble_eq_true rfl) ?_
    refine w_iload_n dX0_part_35 rfl ?_
    refine cr_call (mi := miX5_whose) dX0_part_36 q1189 okX5_whose clX5 rfl (H.get (ce_day h0)) (Nat.le_of_ble_eq_true rfl) (kX5_whose (C := uI (C) 0 30 7 _) h0 E K (by first | assumption | omega)) H rfl rfl (Nat.le_of_ble_eq_true rfl) ?_
    have hol := ownersV_lt K (d := d) (by omega)
    have hw9 : ¬ 0 < wfV V (nI d) := by omega
    refine w_istore dX0_part_39 rfl (Nat.le_of_ble_eq_true rfl) ls_7_4 ?_
    refine w_iload_n dX0_part_41 rfl ?_
    refine w_istore dX0_part_42 rfl (Nat.le_of_ble_eq_true rfl) ls_7_5 ?_
    refine w_iconst (v := nI 0) dX0_part_44 ki_0 ?_
    refine w_istore dX0_part_45 rfl (Nat.le_of_ble_eq_true rfl) ls_7_6 ?_
    have lp : ∀ (j9 : Nat) (f : Nat) (m : Nat), vs V 1 - f < j9 → f ≤ vs V 1 → m ≤ f → partF (lastV V d) y f m (vs V 1 - f) = partV V (nI d) y → Wp g (mtC g miX0_part 4 (0) (0) σ0 (some (.int ((q_part V (nI d) y).1))) (fun C2 => C2 = uI C 0 30 7 (q_part V (nI d) y).2)) 0 0 47 [some (.ref (od C 0 30)), some (.int (nI d)), some (.int y), some (.int (nI (lastV V d))), some (.int (nI (ownersV V d))), some (.int (y - nI m)), some (.int (nI f))] [] σ := by
      intro j9
      induction j9 with
      | zero => intro f m hmu hf hm hr; exact absurd hmu (Nat.not_lt_zero _)
      | succ j9 ih_lp =>
        intro f m hmu hf hm hr
        refine w_iload dX0_part_47 rfl ?_
        refine w_aload_n dX0_part_49 rfl ?_
        refine cr_call (mi := miX0_beach_2) dX0_part_50 q934 okX0_beach_2 clX0 rfl (H.get (ce_X hx)) (Nat.le_of_ble_eq_true rfl) (kX0_beach (C := uI (C) 0 30 7 _) hx h0) H rfl rfl (Nat.le_of_ble_eq_true rfl) ?_
        refine gX0_168 (C := uI (C) 0 30 7 _) dX0_part_53 rfl E H ?_
        refine w_icmpN_ge dX0_part_56 rfl (by omega) (by omega) (fun h_56 => ?_) (fun h_56 => ?_)
        · have hr2 : partV V (nI d) y = 0 := by rw [← hr, show vs V 1 - f = 0 by omega]; rfl
          refine w_aload_n dX0_part_119 rfl ?_
          refine w_iconst (v := (-1)) dX0_part_120 ki_m1 ?_
          refine cp_call (mi := miX0_answer) dX0_part_121 q1199 okX0_answer clX0 rfl (H.get (ce_X hx)) (Nat.le_of_ble_eq_true rfl) (kX0_answerM (C := uI (C) 0 30 7 _) hx) H F rfl rfl (Nat.le_of_ble_eq_true rfl) ?_
          rintro σ _ rfl H F
          rw [uI_I] at H
          have E := EncD.stH H E
          exact w_iret dX0_part_124 rfl ⟨by first | (rw [q_part, if_pos hw9]; rfl) | (rw [q_part, if_neg hw9, hr2]; rfl) | (rw [q_part, if_neg hw9, hr2, if_neg (by omega), hcl_d, Nat.add_sub_cancel, hs9]; rfl), _, by first | (rw [q_part, if_pos hw9]; rfl) | (rw [q_part, if_neg hw9, hr2]; rfl), H, F⟩
        · refine w_iload_n dX0_part_59 rfl ?_
          refine w_if_lt dX0_part_60 rfl (fun h_60 => ?_) (fun h_60 => ?_)
          · have hr2 : partV V (nI d) y = 0 := by rw [← hr]; exact part_neg h_60 _ _ _ (by omega)
            refine w_aload_n dX0_part_119 rfl ?_
            refine w_iconst (v := (-1)) dX0_part_120 ki_m1 ?_
            refine cp_call (mi := miX0_answer) dX0_part_121 q1199 okX0_answer clX0 rfl (H.get (ce_X hx)) (Nat.le_of_ble_eq_true rfl) (kX0_answerM (C := uI (C) 0 30 7 _) hx) H F rfl rfl (Nat.le_of_ble_eq_true rfl) ?_
            rintro σ _ rfl H F
            rw [uI_I] at H
            have E := EncD.stH H E
            exact w_iret dX0_part_124 rfl ⟨by first | (rw [q_part, if_pos hw9]; rfl) | (rw [q_part, if_neg hw9, hr2]; rfl) | (rw [q_part, if_neg hw9, hr2, if_neg (by omega), hcl_d, Nat.add_sub_cancel, hs9]; rfl), _, by first | (rw [q_part, if_pos hw9]; rfl) | (rw [q_part, if_neg hw9, hr2]; rfl), H, F⟩
          · refine w_iload_n dX0_part_63 rfl ?_
            refine w_iload dX0_part_64 rfl ?_
            refine w_ishrN dX0_part_66 (by omega) (by omega) ?_
            refine w_iconst (v := nI 1) dX0_part_67 ki_1 ?_
            refine w_iandN dX0_part_68 ?_
            refine w_ifN_ne dX0_part_69 rfl (and1_lt _) (fun h_69 => ?_) (fun h_69 => ?_)
            · have hbit : bitN (lastV V d) f := by rcases and1_01 (lastV V d >>> f) with z | z; exact absurd z h_69; exact z
              refine w_iload dX0_part_75 rfl ?_
              refine w_if_ne dX0_part_77 rfl (fun h_77 => ?_) (fun h_77 => ?_)
              · have hkj : ¬ y = nI m := fun z => h_77 (by rw [z, Int32.sub_self])
                refine w_iinc dX0_part_110 rfl rfl rfl (Nat.le_of_ble_eq_true rfl) ls_7_5 ?_
                refine w_iinc dX0_part_113 rfl (nI_inc _ 1) rfl (Nat.le_of_ble_eq_true rfl) ls_7_6 ?_
                refine w_goto dX0_part_116 rfl ?_
                exact w_as (ih_lp (f + 1) (m + 1) (by omega) (by omega) (by omega) (by rw [← hr, show vs V 1 - f = (vs V 1 - (f + 1)) + 1 by omega]; exact (by rw [partF, if_pos hbit, if_neg hkj]))) (by rw [kj_step]) rfl rfl
              · have hkj : y = nI m := kj_eq h_77
                have hr2 : partV V (nI d) y = f + 1 := by rw [← hr, show vs V 1 - f = (vs V 1 - (f + 1)) + 1 by omega]; rw [partF, if_pos hbit, if_pos hkj]
                refine w_iload dX0_part_80 rfl ?_
                refine w_iload dX0_part_82 rfl ?_
                refine w_ishrN dX0_part_84 (by omega) (by omega) ?_
                refine w_iconst (v := nI 1) dX0_part_85 ki_1 ?_
                refine w_iandN dX0_part_86 ?_
                refine w_ifN_ne dX0_part_87 rfl (and1_lt _) (fun h_87 => ?_) (fun h_87 => ?_)
                · have hb9 : bitN (ownersV V d) f := by rcases and1_01 (ownersV V d >>> f) with z | z; exact absurd z h_87; exact z
                  have hs9 := shareY hth hb9
                  have hp0 := (bits64 _ hol).2.2 f (by omega) hb9
                  have hp6 := pcnt_le _ hol
                  refine w_aload_n dX0_part_94 rfl ?_
                  refine cr_call (mi := miX0_beach_2) dX0_part_95 q934 okX0_beach_2 clX0 rfl (H.get (ce_X hx)) (Nat.le_of_ble_eq_true rfl) (kX0_beach (C := uI (C) 0 30 7 _) hx h0) H rfl rfl (Nat.le_of_ble_eq_true rfl) ?_
                  refine gX0_285 (C := uI (C) 0 30 7 _) dX0_part_98 rfl E H ?_
                  refine w_iload_n dX0_part_101 rfl ?_
                  refine ba_13 (C := uI (C) 0 30 7 _) dX0_part_102 E K (by omega) H ?_
                  refine w_iload dX0_part_103 rfl ?_
                  refine cs_call (mi := miJ11_bitCount) dX0_part_105 q1207 okJ11_bitCount (Nat.le_of_ble_eq_true rfl) (kInt_bitCount (by first | assumption | omega)) rfl rfl (Nat.le_of_ble_eq_true rfl) ?_
                  refine w_idivN dX0_part_108 (by omega) (by omega) (by omega) ?_
                  exact w_iret dX0_part_109 rfl ⟨by first | (rw [q_part, if_pos hw9]; rfl) | (rw [q_part, if_neg hw9, hr2]; rfl) | (rw [q_part, if_neg hw9, hr2, if_neg (by omega), hcl_d, Nat.add_sub_cancel, hs9]; rfl), _, by first | (rw [q_part, if_pos hw9]; rfl) | (rw [q_part, if_neg hw9, hr2]; rfl), H, F⟩
                · have hs9 : shareV V f d = 0 := shareO hth (by rw [bitN]; omega)
                  refine w_iconst (v := nI 0) dX0_part_90 ki_0 ?_
                  refine w_goto dX0_part_91 rfl ?_
                  exact w_iret dX0_part_109 rfl ⟨by first | (rw [q_part, if_pos hw9]; rfl) | (rw [q_part, if_neg hw9, hr2]; rfl) | (rw [q_part, if_neg hw9, hr2, if_neg (by omega), hcl_d, Nat.add_sub_cancel, hs9]; rfl), _, by first | (rw [q_part, if_pos hw9]; rfl) | (rw [q_part, if_neg hw9, hr2]; rfl), H, F⟩
            · refine w_goto dX0_part_72 rfl ?_
              refine w_iinc dX0_part_113 rfl (nI_inc _ 1) rfl (Nat.le_of_ble_eq_true rfl) ls_7_6 ?_
              refine w_goto dX0_part_116 rfl ?_
              exact ih_lp (f + 1) m (by omega) (by omega) (by omega) (by rw [← hr, show vs V 1 - f = (vs V 1 - (f + 1)) + 1 by omega]; exact (if_neg (by intro z; rw [bitN] at z; omega)).symm)
    exact w_as (lp (vs V 1 + 1) 0 0 (by omega) (by omega) (by omega) (by rw [partV, hcl_d]; rfl)) (by rw [← kj_0 y]) rfl rfl
  · have hw9 : 0 < wfV V x := by omega
    refine w_iconst (v := (-1)) dX0_part_16 ki_m1 ?_
    exact w_iret dX0_part_17 rfl ⟨by first | (rw [q_part, if_pos hw9]; rfl) | (rw [q_part, if_neg hw9, hr2]; rfl) | (rw [q_part, if_neg hw9, hr2, if_neg (by omega), hcl_d, Nat.add_sub_cancel, hs9]; rfl), _, by first | (rw [q_part, if_pos hw9]; rfl) | (rw [q_part, if_neg hw9, hr2]; rfl), H, F⟩
set_option maxHeartbeats 4000000 in
theorem kX0_liesN {g : GG} {C : CS} {V : VS} {q : Nat → Nat} {x : Int32} {h : Nat} (hh : h < 2147483648) (hx : oO C 0 = true) (h0 : oO C 0 = true) (E : EncD g C 0 V q) (K : OkV V) : Cp g miX0_lies 3 (0) (0) [.ref (od C 0 30), .int x, .int (nI h)] C (some (.int ((q_lies V x (nI h)).1))) (fun C2 => C2 = uI C 0 30 7 (q_lies V x (nI h)).2) := by
  refine Cp.start [some (.ref (od C 0 30)), some (.int x), some (.int (nI h)), none, none] plX0 rfl (Nat.le_of_ble_eq_true rfl) rfl ?_
  intro σ0 σ H F
  have kb := K.b
  refine w_aload_n dX0_lies_0 rfl ?_
  refine w_aload_n dX0_lies_1 rfl ?_
  refine w_iload_n dX0_lies_2 rfl ?_
  refine cr_call (mi := miX0_isFinder) dX0_lies_3 q1027 okX0_isFinder clX0 rfl (H.get (ce_X hx)) (Nat.le_of_ble_eq_true rfl) (kX0_isFinder (C := C) hx h0 E K) H rfl rfl (Nat.le_of_ble_eq_true rfl) ?_
  refine w_ifB_eq dX0_lies_6 rfl (fun h_6 => ?_) (fun h_6 => ?_)
  · refine w_iconst (v := nI 1) dX0_lies_13 ki_1 ?_
    refine pX0_85 (C := C) dX0_lies_14 rfl hx H F ?_
    intro σ H F
    have E := EncD.stH H E
    refine w_aload_n dX0_lies_17 rfl ?_
    refine gst_85 dX0_lies_18 rfl hx H ?_
    refine w_ifN_le dX0_lies_21 rfl (by decide) (fun h_21 => ?_) (fun h_21 => ?_)
    · exact absurd (show _ from h_21) (by decide)
    refine w_iconst (v := (-1)) dX0_lies_24 ki_m1 ?_
    exact w_iret dX0_lies_25 rfl ⟨by first | rfl | (rw [q_lies, if_pos hx_f, if_neg hk0, hcl_f, hclk, hr2]; rfl) | (rw [q_lies, if_neg h_6]; rfl), _, by first | rfl | (rw [q_lies, if_pos hx_f, if_neg hk0, hcl_f, hclk, hr2]; rfl) | (rw [q_lies, if_neg h_6]; rfl), H, F⟩
  · have hx_f := h_6
    obtain ⟨f, hf_f, rfl⟩ := inN_of h_6 (by omega)
    have hcl_f : cl (nI f) = f := nI_clamp (by omega)
    have kf_f := K.f hf_f
    refine w_iconst (v := nI 0) dX0_lies_9 ki_0 ?_
    refine w_goto dX0_lies_10 rfl ?_
    refine pX0_85 (C := C) dX0_lies_14 rfl hx H F ?_
    intro σ H F
    have E := EncD.stH H E
    refine w_aload_n dX0_lies_17 rfl ?_
    refine gst_85 dX0_lies_18 rfl hx H ?_
    refine w_ifN_le dX0_lies_21 rfl (by decide) (fun h_21 => ?_) (fun h_21 => ?_)
    rotate_left
    · exact absurd (show _ from h_21) (by decide)
    refine w_iload_n dX0_lies_26 rfl ?_
    refine w_istore_n dX0_lies_27 rfl (Nat.le_of_ble_eq_true rfl) ls_5_3 ?_
    refine w_iconst (v := nI 0) dX0_lies_28 ki_0 ?_
    refine w_istore dX0_lies_29 rfl (Nat.le_of_ble_eq_true rfl) ls_5_4 ?_
    have lp : ∀ (j9 : Nat) (k : Nat) (l : Nat), vs V 2 - k < j9 → k ≤ vs V 2 → l ≤ h → liesF (fun d => ownV V d f) k l (vs V 2 - k) = liesF (fun d => ownV V d f) 0 h (vs V 2) → Wp g (mtC g miX0_lies 3 (0) (0) σ0 (some (.int ((q_lies V (nI f) (nI h)).1))) (fun C2 => C2 = uI C 0 30 7 (q_lies V (nI f) (nI h)).2)) 0 0 31 [some (.ref (od C 0 30)), some (.int (nI f)), some (.int (nI h)), some (.int (nI l)), some (.int (nI k))] [] σ := by
      intro j9
      induction j9 with
      | zero => intro k l hmu hk hl hr; exact absurd hmu (Nat.not_lt_zero _)
      | succ j9 ih_lp =>
        intro k l hmu hk hl hr
        have hk0 : ¬ nI h < 0 := nI_pos (by omega)
        have hclk : cl (nI h) = h := nI_clamp (by omega)
        refine w_iload dX0_lies_31 rfl ?_
        refine w_aload_n dX0_lies_33 rfl ?_
        refine cr_call (mi := miX0_beach_2) dX0_lies_34 q934 okX0_beach_2 clX0 rfl (H.get (ce_X hx)) (Nat.le_of_ble_eq_true rfl) (kX0_beach (C := uI (C) 0 30 7 _) hx h0) H rfl rfl (Nat.le_of_ble_eq_true rfl) ?_
        refine gX0_177 (C := uI (C) 0 30 7 _) dX0_lies_37 rfl E H ?_
        refine w_icmpN_ge dX0_lies_40 rfl (by omega) (by omega) (fun h_40 => ?_) (fun h_40 => ?_)
        · have hr2 : liesF (fun d => ownV V d f) 0 h (vs V 2) = 0 := by rw [← hr, show vs V 2 - k = 0 by omega]; rfl
          refine w_aload_n dX0_lies_91 rfl ?_
          refine w_iconst (v := (-1)) dX0_lies_92 ki_m1 ?_
          refine cp_call (mi := miX0_answer) dX0_lies_93 q1199 okX0_answer clX0 rfl (H.get (ce_X hx)) (Nat.le_of_ble_eq_true rfl) (kX0_answerM (C := uI (C) 0 30 7 _) hx) H F rfl rfl (Nat.le_of_ble_eq_true rfl) ?_
          rintro σ _ rfl H F
          rw [uI_I] at H
          have E := EncD.stH H E
          exact w_iret dX0_lies_96 rfl ⟨by first | rfl | (rw [q_lies, if_pos hx_f, if_neg hk0, hcl_f, hclk, hr2]; rfl) | (rw [q_lies, if_neg h_6]; rfl), _, by first | rfl | (rw [q_lies, if_pos hx_f, if_neg hk0, hcl_f, hclk, hr2]; rfl) | (rw [q_lies, if_neg h_6]; rfl), H, F⟩
        · have how := ownV_le K (d := k) (by omega) f
          refine w_iload_n dX0_lies_43 rfl ?_
          refine w_ifN_lt dX0_lies_44 rfl (by omega) (fun h_44 => ?_) (fun h_44 => ?_)
          · exact absurd h_44 (by omega)
          · refine w_iload_n dX0_lies_47 rfl ?_
            refine w_aload_n dX0_lies_48 rfl ?_
            refine cr_call (mi := miX0_day) dX0_lies_49 q886 okX0_day clX0 rfl (H.get (ce_X hx)) (Nat.le_of_ble_eq_true rfl) (kX0_day (C := uI (C) 0 30 7 _) hx h0) H rfl rfl (Nat.le_of_ble_eq_true rfl) ?_
            refine gX0_288 (C := uI (C) 0 30 7 _) dX0_lies_52 rfl h0 H ?_
            refine w_iload dX0_lies_55 rfl ?_
            refine ga_heaps (C := uI (C) 0 30 7 _) dX0_lies_57 h0 (by omega) H ?_
            refine w_iload_n dX0_lies_58 rfl ?_
            refine cr_call (mi := miX7_many) dX0_lies_59 q1216 okX7_many clX7 rfl (H.get (ce_heap (on8 h0 (by omega)))) (Nat.le_of_ble_eq_true rfl) (kX7_many (C := uI (C) 0 30 7 _) (on8 h0 (by omega)) (E.h (d := k) (by omega)) (by intro k9 hk9; have h9 := (K.p (d := k) (by omega) hk9).1; omega) (by first | assumption | omega)) H rfl rfl (Nat.le_of_ble_eq_true rfl) ?_
            refine w_topN (show _ = nI (ownV V k f) from rfl) ?_
            refine w_icmpN_ge dX0_lies_62 rfl (by omega) (by omega) (fun h_62 => ?_) (fun h_62 => ?_)
            · refine w_iload_n dX0_lies_68 rfl ?_
              refine w_aload_n dX0_lies_69 rfl ?_
              refine cr_call (mi := miX0_day) dX0_lies_70 q886 okX0_day clX0 rfl (H.get (ce_X hx)) (Nat.le_of_ble_eq_true rfl) (kX0_day (C := uI (C) 0 30 7 _) hx h0) H rfl rfl (Nat.le_of_ble_eq_true rfl) ?_
              refine gX0_288 (C := uI (C) 0 30 7 _) dX0_lies_73 rfl h0 H ?_
              refine w_iload dX0_lies_76 rfl ?_
              refine ga_heaps (C := uI (C) 0 30 7 _) dX0_lies_78 h0 (by omega) H ?_
              refine w_iload_n dX0_lies_79 rfl ?_
              refine cr_call (mi := miX7_many) dX0_lies_80 q1216 okX7_many clX7 rfl (H.get (ce_heap (on8 h0 (by omega)))) (Nat.le_of_ble_eq_true rfl) (kX7_many (C := uI (C) 0 30 7 _) (on8 h0 (by omega)) (E.h (d := k) (by omega)) (by intro k9 hk9; have h9 := (K.p (d := k) (by omega) hk9).1; omega) (by first | assumption | omega)) H rfl rfl (Nat.le_of_ble_eq_true rfl) ?_
              refine w_topN (show _ = nI (ownV V k f) from rfl) ?_
              refine w_isubN dX0_lies_83 (by omega) ?_
              refine w_istore_n dX0_lies_84 rfl (Nat.le_of_ble_eq_true rfl) ls_5_3 ?_
              refine w_iinc dX0_lies_85 rfl (nI_inc _ 1) rfl (Nat.le_of_ble_eq_true rfl) ls_5_4 ?_
              refine w_goto dX0_lies_88 rfl ?_
              exact ih_lp (k + 1) (l - ownV V k f) (by omega) (by omega) (by omega) (by rw [← hr, show vs V 2 - k = (vs V 2 - (k + 1)) + 1 by omega]; exact (if_neg (show ¬ l < ownV V k f by omega)).symm)
            · have hr2 : liesF (fun d => ownV V d f) 0 h (vs V 2) = k + 1 := by rw [← hr, show vs V 2 - k = (vs V 2 - (k + 1)) + 1 by omega]; exact if_pos (show l < ownV V k f by omega)
              refine w_iload dX0_lies_65 rfl ?_
              exact w_iret dX0_lies_67 rfl ⟨by first | rfl | (rw [q_lies, if_pos hx_f, if_neg hk0, hcl_f, hclk, hr2]; rfl) | (rw [q_lies, if_neg h_6]; rfl), _, by first | rfl | (rw [q_lies, if_pos hx_f, if_neg hk0, hcl_f, hclk, hr2]; rfl) | (rw [q_lies, if_neg h_6]; rfl), H, F⟩
    exact lp (vs V 2 + 1) 0 h (by omega) (by omega) (by omega) rfl
set_option maxHeartbeats 4000000 in
theorem kX0_liesM {g : GG} {C : CS} {V : VS} {q : Nat → Nat} {x : Int32} {y : Int32} (hy : y < 0) (hx : oO C 0 = true) (h0 : oO C 0 = true) (E : EncD g C 0 V q) (K : OkV V) : Cp g miX0_lies 3 (0) (0) [.ref (od C 0 30), .int x, .int y] C (some (.int ((q_lies V x y).1))) (fun C2 => C2 = uI C 0 30 7 (q_lies V x y).2) := by
  refine Cp.start [some (.ref (od C 0 30)), some (.int x), some (.int y), none, none] plX0 rfl (Nat.le_of_ble_eq_true rfl) rfl ?_
  intro σ0 σ H F
  have kb := K.b
  refine w_aload_n dX0_lies_0 rfl ?_
  refine w_aload_n dX0_lies_1 rfl ?_
  refine w_iload_n dX0_lies_2 rfl ?_
  refine cr_call (mi := miX0_isFinder) dX0_lies_3 q1027 okX0_isFinder clX0 rfl (H.get (ce_X hx)) (Nat.le_of_ble_eq_true rfl) (kX0_isFinder (C := C) hx h0 E K) H rfl rfl (Nat.le_of_ble_eq_true rfl) ?_
  refine w_ifB_eq dX0_lies_6 rfl (fun h_6 => ?_) (fun h_6 => ?_)
  · refine w_iconst (v := nI 1) dX0_lies_13 ki_1 ?_
    refine pX0_85 (C := C) dX0_lies_14 rfl hx H F ?_
    intro σ H F
    have E := EncD.stH H E
    refine w_aload_n dX0_lies_17 rfl ?_
    refine gst_85 dX0_lies_18 rfl hx H ?_
    refine w_ifN_le dX0_lies_21 rfl (by decide) (fun h_21 => ?_) (fun h_21 => ?_)
    · exact absurd (show _ from h_21) (by decide)
    refine w_iconst (v := (-1)) dX0_lies_24 ki_m1 ?_
    exact w_iret dX0_lies_25 rfl ⟨by first | rfl | (rw [q_lies, if_pos hx_f, if_pos hy]; rfl) | (rw [q_lies, if_neg h_6]; rfl), _, by first | rfl | (rw [q_lies, if_pos hx_f, if_pos hy]; rfl) | (rw [q_lies, if_neg h_6]; rfl), H, F⟩
  · have hx_f := h_6
    obtain ⟨f, hf_f, rfl⟩ := inN_of h_6 (by omega)
    have hcl_f : cl (nI f) = f := nI_clamp (by omega)
    have kf_f := K.f hf_f
    refine w_iconst (v := nI 0) dX0_lies_9 ki_0 ?_
    refine w_goto dX0_lies_10 rfl ?_
    refine pX0_85 (C := C) dX0_lies_14 rfl hx H F ?_
    intro σ H F
    have E := EncD.stH H E
    refine w_aload_n dX0_lies_17 rfl ?_
    refine gst_85 dX0_lies_18 rfl hx H ?_
    refine w_ifN_le dX0_lies_21 rfl (by decide) (fun h_21 => ?_) (fun h_21 => ?_)
    rotate_left
    · exact absurd (show _ from h_21) (by decide)
    refine w_iload_n dX0_lies_26 rfl ?_
    refine w_istore_n dX0_lies_27 rfl (Nat.le_of_ble_eq_true rfl) ls_5_3 ?_
    refine w_iconst (v := nI 0) dX0_lies_28 ki_0 ?_
    refine w_istore dX0_lies_29 rfl (Nat.le_of_ble_eq_true rfl) ls_5_4 ?_
    refine w_iload dX0_lies_31 rfl ?_
    refine w_aload_n dX0_lies_33 rfl ?_
    refine cr_call (mi := miX0_beach_2) dX0_lies_34 q934 okX0_beach_2 clX0 rfl (H.get (ce_X hx)) (Nat.le_of_ble_eq_true rfl) (kX0_beach (C := uI (C) 0 30 7 _) hx h0) H rfl rfl (Nat.le_of_ble_eq_true rfl) ?_
    refine gX0_177 (C := uI (C) 0 30 7 _) dX0_lies_37 rfl E H ?_
    refine w_icmpN_ge dX0_lies_40 rfl (by omega) (by omega) (fun h_40 => ?_) (fun h_40 => ?_)
    · refine w_aload_n dX0_lies_91 rfl ?_
      refine w_iconst (v := (-1)) dX0_lies_92 ki_m1 ?_
      refine cp_call (mi := miX0_answer) dX0_lies_93 q1199 okX0_answer clX0 rfl (H.get (ce_X hx)) (Nat.le_of_ble_eq_true rfl) (kX0_answerM (C := uI (C) 0 30 7 _) hx) H F rfl rfl (Nat.le_of_ble_eq_true rfl) ?_
      rintro σ _ rfl H F
      rw [uI_I] at H
      have E := EncD.stH H E
      exact w_iret dX0_lies_96 rfl ⟨by first | rfl | (rw [q_lies, if_pos hx_f, if_pos hy]; rfl) | (rw [q_lies, if_neg h_6]; rfl), _, by first | rfl | (rw [q_lies, if_pos hx_f, if_pos hy]; rfl) | (rw [q_lies, if_neg h_6]; rfl), H, F⟩
    · refine w_iload_n dX0_lies_43 rfl ?_
      refine w_if_lt dX0_lies_44 rfl (fun h_44 => ?_) (fun h_44 => ?_)
      · refine w_aload_n dX0_lies_91 rfl ?_
        refine w_iconst (v := (-1)) dX0_lies_92 ki_m1 ?_
        refine cp_call (mi := miX0_answer) dX0_lies_93 q1199 okX0_answer clX0 rfl (H.get (ce_X hx)) (Nat.le_of_ble_eq_true rfl) (kX0_answerM (C := uI (C) 0 30 7 _) hx) H F rfl rfl (Nat.le_of_ble_eq_true rfl) ?_
        rintro σ _ rfl H F
        rw [uI_I] at H
        have E := EncD.stH H E
        exact w_iret dX0_lies_96 rfl ⟨by first | rfl | (rw [q_lies, if_pos hx_f, if_pos hy]; rfl) | (rw [q_lies, if_neg h_6]; rfl), _, by first | rfl | (rw [q_lies, if_pos hx_f, if_pos hy]; rfl) | (rw [q_lies, if_neg h_6]; rfl), H, F⟩
      · exact absurd hy h_44
