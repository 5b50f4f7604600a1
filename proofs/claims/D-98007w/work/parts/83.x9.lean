set_option maxRecDepth 100000
def isB (V : VS) (c k : Nat) : Nat := foldN (fun d s => if s = 1 ∨ (isT V d ∧ vt V 5 d = c) then 1 else s) 0 k
theorem isB_s (V : VS) (c k : Nat) : isB V c (k + 1) = if isB V c k = 1 ∨ (isT V k ∧ vt V 5 k = c) then 1 else isB V c k := rfl
theorem isB_01 (V : VS) (c : Nat) : ∀ k, isB V c k = 0 ∨ isB V c k = 1
  | 0 => Or.inl rfl
  | k + 1 => by rw [isB_s]; have := isB_01 V c k; split <;> omega
theorem isB_iff (V : VS) (c : Nat) : ∀ k, isB V c k = 1 ↔ ∃ d, d < k ∧ isT V d ∧ vt V 5 d = c
  | 0 => ⟨fun h => absurd (show (0 : Nat) = 1 from h) (by omega), fun ⟨d, h, _⟩ => absurd h (Nat.not_lt_zero d)⟩
  | k + 1 => by
    have ih := isB_iff V c k
    rw [isB_s]
    constructor
    · intro h
      by_cases h1 : isB V c k = 1 ∨ (isT V k ∧ vt V 5 k = c)
      · rcases h1 with h1 | h1
        · obtain ⟨d, hd, h2⟩ := ih.mp h1
          exact ⟨d, by omega, h2⟩
        · exact ⟨k, by omega, h1⟩
      · rw [if_neg h1] at h
        exact absurd (Or.inl h) h1
    · rintro ⟨d, hd, h2⟩
      rw [if_pos]
      by_cases hdk : d = k
      · subst hdk; exact Or.inr h2
      · exact Or.inl (ih.mpr ⟨d, by omega, h2⟩)
/-- from where the next boy watches -/
def nxtB (V : VS) (x n : Nat) : Nat := if n = 0 then 0 else boyK V x (n - 1) + x
theorem boyK_n {V : VS} {x n : Nat} (h : n = 0 ∨ boyK V x (n - 1) ≠ 0) : boyK V x n = boyF V (nxtB V x n) x := by
  cases n with
  | zero => rfl
  | succ m =>
    have h1 : boyK V x m ≠ 0 := by rcases h with h | h; omega; exact h
    show (if boyK V x m = 0 then 0 else _) = _
    rw [if_neg h1]
    rfl
theorem least_ok (V : VS) (c : Nat) : ∀ n, (leastK V c n = 0 → ∀ d, d < n → isT V d → vt V 5 d < c) ∧ (leastK V c n ≠ 0 → (∃ d, d < n ∧ isT V d ∧ c ≤ vt V 5 d ∧ leastK V c n = vt V 5 d + 1) ∧ ∀ d, d < n → isT V d → c ≤ vt V 5 d → leastK V c n ≤ vt V 5 d + 1)
  | 0 => ⟨fun _ d h => absurd h (Nat.not_lt_zero d), fun h => absurd rfl h⟩
  | n + 1 => by
    obtain ⟨h1, h2⟩ := least_ok V c n
    rw [least_s]
    by_cases hc : isT V n ∧ c ≤ vt V 5 n ∧ (leastK V c n = 0 ∨ vt V 5 n < leastK V c n - 1)
    · rw [if_pos hc]
      refine ⟨fun h => absurd h (by omega), fun _ => ⟨⟨n, by omega, hc.1, hc.2.1, rfl⟩, fun d hd ht hcd => ?_⟩⟩
      by_cases hdn : d = n
      · subst hdn; exact Nat.le_refl _
      · rcases hc.2.2 with h3 | h3
        · have := h1 h3 d (by omega) ht
          omega
        · have := (h2 (by omega)).2 d (by omega) ht hcd
          omega
    · rw [if_neg hc]
      refine ⟨fun h d hd ht => ?_, fun h => ⟨?_, fun d hd ht hcd => ?_⟩⟩
      · by_cases hdn : d = n
        · subst hdn
          by_cases h3 : c ≤ vt V 5 d
          · exact absurd ⟨ht, h3, Or.inl h⟩ hc
          · omega
        · exact h1 h d (by omega) ht
      · obtain ⟨d, hd, h3⟩ := (h2 h).1
        exact ⟨d, by omega, h3⟩
      · by_cases hdn : d = n
        · subst hdn
          by_cases h3 : vt V 5 d < leastK V c d - 1
          · exact absurd ⟨ht, hcd, Or.inr h3⟩ hc
          · omega
        · exact (h2 h).2 d (by omega) ht hcd
/-- how far the watch has come: at cell c there are n boys -/
def BoyI (V : VS) (x c n : Nat) (F : Nat → Int32) : Prop :=
  (∀ m, m < n → boyK V x m ≠ 0 ∧ F m = nI (boyK V x m - 1)) ∧ (∀ d, d < vs V 2 → isT V d → nxtB V x n ≤ vt V 5 d → c ≤ vt V 5 d) ∧ n ≤ foldN (fun d s => s + if isT V d ∧ vt V 5 d < c then 1 else 0) 0 (vs V 2)
theorem BoyI.z (V : VS) (x : Nat) (F : Nat → Int32) : BoyI V x 0 0 F := ⟨fun m h => absurd h (Nat.not_lt_zero m), fun _ _ _ _ => Nat.zero_le _, Nat.zero_le _⟩
theorem cnt_mono (V : VS) (c : Nat) : foldN (fun d s => s + if isT V d ∧ vt V 5 d < c then 1 else 0) 0 (vs V 2) ≤ foldN (fun d s => s + if isT V d ∧ vt V 5 d < c + 1 then 1 else 0) 0 (vs V 2) ∧ ((∃ d, d < vs V 2 ∧ isT V d ∧ vt V 5 d = c) → foldN (fun d s => s + if isT V d ∧ vt V 5 d < c then 1 else 0) 0 (vs V 2) < foldN (fun d s => s + if isT V d ∧ vt V 5 d < c + 1 then 1 else 0) 0 (vs V 2)) := by
  have h := cnt_lt (fun d => isT V d ∧ vt V 5 d < c) (fun d => isT V d ∧ vt V 5 d < c + 1) (vs V 2) (fun g _ hg => ⟨hg.1, by omega⟩)
  refine ⟨h.1, fun ⟨d, hd, h1, h2⟩ => h.2 ⟨d, hd, ⟨h1, by omega⟩, fun z => by omega⟩⟩
theorem BoyI.skip {V : VS} {x c n : Nat} {F : Nat → Int32} (B : BoyI V x c n F) (h : isB V c (vs V 2) ≠ 1 ∨ c < nxtB V x n) : BoyI V x (c + 1) n F := by
  obtain ⟨b1, b2, b3⟩ := B
  refine ⟨b1, fun d hd ht hn => ?_, Nat.le_trans b3 (cnt_mono V c).1⟩
  have := b2 d hd ht hn
  rcases h with h | h
  · have : vt V 5 d ≠ c := fun z => h ((isB_iff V c _).mpr ⟨d, hd, ht, z⟩)
    omega
  · omega
theorem BoyI.le {V : VS} (K : OkV V) {x c n : Nat} {F : Nat → Int32} (B : BoyI V x c n F) : n ≤ 8 := by
  have h := sum_le (f := fun d => if isT V d ∧ vt V 5 d < c then 1 else 0) (m := 1) (vs V 2) (fun k _ => by split <;> omega)
  have h2 : foldN (fun d s => s + if isT V d ∧ vt V 5 d < c then 1 else 0) 0 (vs V 2) ≤ vs V 2 * 1 := h
  have := B.2.2
  have := K.b
  omega
theorem BoyI.new_ {V : VS} {x c n : Nat} {F : Nat → Int32} (B : BoyI V x c n F) (hc : c < vs V 0) (h1 : isB V c (vs V 2) = 1) (h2 : nxtB V x n ≤ c) : boyK V x n = min (vs V 0 - 1) (c + x) + 1 ∧ BoyI V x (c + 1) (n + 1) (upd F n (nI (min (vs V 0 - 1) (c + x)))) ∧ n < foldN (fun d s => s + if isT V d ∧ vt V 5 d < c + 1 then 1 else 0) 0 (vs V 2) := by
  obtain ⟨b1, b2, b3⟩ := B
  obtain ⟨d, hd, ht, he⟩ := (isB_iff V c _).mp h1
  have hcn := (cnt_mono V c).2 ⟨d, hd, ht, he⟩
  have hk : boyK V x n = min (vs V 0 - 1) (c + x) + 1 := by
    rw [boyK_n (by
      by_cases h0 : n = 0
      · exact Or.inl h0
      · exact Or.inr (b1 (n - 1) (by omega)).1)]
    obtain ⟨l1, l2⟩ := least_ok V (nxtB V x n) (vs V 2)
    have hne : leastK V (nxtB V x n) (vs V 2) ≠ 0 := fun z => by have := l1 z d hd ht; omega
    obtain ⟨⟨e, he1, he2, he3, he4⟩, l3⟩ := l2 hne
    have h3 := l3 d hd ht (by omega)
    have h4 := b2 e he1 he2 he3
    have h5 : leastK V (nxtB V x n) (vs V 2) = c + 1 := by omega
    unfold boyF
    rw [if_neg hne, h5]
    omega
  refine ⟨hk, ⟨fun m hm => ?_, fun e he1 he2 he3 => ?_, by omega⟩, by omega⟩
  · by_cases hmn : m = n
    · subst hmn
      rw [hk, upd_eq]
      exact ⟨by omega, by rw [Nat.add_sub_cancel]⟩
    · rw [upd_ne hmn]
      exact b1 m (by omega)
  · have : nxtB V x (n + 1) = boyK V x n + x := by unfold nxtB; rw [if_neg (by omega), Nat.add_sub_cancel]
    omega
theorem BoyI.fin {V : VS} (K : OkV V) {x n : Nat} {F : Nat → Int32} (B : BoyI V x (vs V 0) n F) : boyK V x n = 0 := by
  rw [boyK_n (by
    by_cases h0 : n = 0
    · exact Or.inl h0
    · exact Or.inr (B.1 (n - 1) (by omega)).1)]
  unfold boyF
  rw [if_pos]
  obtain ⟨l1, l2⟩ := least_ok V (nxtB V x n) (vs V 2)
  by_cases z : leastK V (nxtB V x n) (vs V 2) = 0
  · exact z
  · obtain ⟨⟨e, he1, he2, he3, -⟩, -⟩ := l2 z
    have := B.2.1 e he1 he2 he3
    have := (K.d he1).1
    omega
theorem cntF_eq (p : Nat → Prop) [DecidablePred p] : ∀ r i n, i ≤ n → n ≤ i + r → (∀ m, i ≤ m → m < n → p m) → (n < i + r → ¬ p n) → cntF p i r = n
  | 0, i, n, h1, h2, _, _ => by show i = n; omega
  | r + 1, i, n, h1, h2, h3, h4 => by
    unfold cntF
    by_cases hin : i = n
    · subst hin
      rw [if_neg (h4 (by omega))]
    · rw [if_pos (h3 i (Nat.le_refl _) (by omega))]
      exact cntF_eq p r (i + 1) n (by omega) (by omega) (fun m hm1 hm2 => h3 m (by omega) hm2) (fun h => h4 (by omega))
theorem BoyI.cnt {V : VS} (K : OkV V) {x n : Nat} {F : Nat → Int32} (B : BoyI V x (vs V 0) n F) : boysV V x = n :=
  cntF_eq _ 8 0 n (Nat.zero_le _) (by have := B.le K; omega) (fun m _ h => (B.1 m h).1) (fun _ => fun z => z (B.fin K))
theorem boyK_z {V : VS} {x n : Nat} (h : boyK V x n = 0) : ∀ m, boyK V x (n + m) = 0
  | 0 => h
  | m + 1 => by
    show (if boyK V x (n + m) = 0 then 0 else _) = 0
    rw [if_pos (boyK_z h m)]
/-- the row of boys tells them -/
def BoyP (C C2 : CS) (V : VS) (x : Nat) : Prop := ∃ F : Nat → Int32, C2 = uF C 0 19 F ∧ ∀ m, m < boysV V x → F m = nI (boyK V x m - 1)
theorem EncD.xF {g : GG} {C : CS} {j k : Nat} {V : VS} {q : Nat → Nat} {F : Nat → Int32} (E : EncD g C j V q) : EncD g (uF C 0 k F) j V q := E.eq rfl rfl rfl (fun a h1 _ => oA_F2 C F (fun z _ => by omega)) (fun _ _ => rfl) (fun a d h _ => ⟨oA_F2 C F (fun z _ => by omega), rfl⟩)
theorem uF_self (C : CS) (k i : Nat) : uF C k i (oA C k i) = C := by
  have h : up2 (oA C) k i (oA C k i) = oA C := by
    funext a b
    by_cases h : a = k ∧ b = i
    · obtain ⟨rfl, rfl⟩ := h; rw [up2_eq]
    · rw [up2_ne _ _ (fun x y => h ⟨x, y⟩)]
  show (_, _, up2 (oA C) k i (oA C k i), _) = _
  rw [h]
  rfl
set_option maxHeartbeats 4000000 in
theorem kX0_watches {g : GG} {C : CS} {V : VS} {q : Nat → Nat} {m : Nat} (hx : oO C 0 = true) (h0 : oO C 0 = true) (E : EncD g C 0 V q) (K : OkV V) (hm : m < 41) : Cp g miX0_watches 2 (0) (0) [.ref (od C 0 30), .int (nI m)] C (some (.int (nI (boysV V m)))) (fun C2 => BoyP C C2 V m) := by
  refine Cp.start [some (.ref (od C 0 30)), some (.int (nI m)), none, none, none, none] plX0 rfl (Nat.le_of_ble_eq_true rfl) rfl ?_
  intro σ0 σ H F
  have kb := K.b
  refine w_iconst (v := nI 0) dX0_watches_0 ki_0 ?_
  refine w_istore_n dX0_watches_1 rfl (Nat.le_of_ble_eq_true rfl) ls_6_2 ?_
  refine w_iconst (v := nI 0) dX0_watches_2 ki_0 ?_
  refine w_istore_n dX0_watches_3 rfl (Nat.le_of_ble_eq_true rfl) ls_6_3 ?_
  have lo : ∀ (j9 : Nat) (c : Nat) (n : Nat) (G9 : Nat → Int32) (σ : PH), vs V 0 - c < j9 → c ≤ vs V 0 → BoyI V m c n G9 → Hold g σ (uF C 0 19 G9) → Fr σ0 σ → Wp g (mtC g miX0_watches 2 (0) (0) σ0 (some (.int (nI (boysV V m)))) (fun C2 => BoyP C C2 V m)) 0 0 4 [some (.ref (od C 0 30)), some (.int (nI m)), some (.int (nI n)), some (.int (nI c)), none, none] [] σ := by
    intro j9
    induction j9 with
    | zero => intro c n G9 σ hmu hc B H F; exact absurd hmu (Nat.not_lt_zero _)
    | succ j9 ih_lo =>
      intro c n G9 σ hmu hc B H F
      have E := E.xF (k := 19) (F := G9)
      have hn8 := B.le K
      refine w_iload_n dX0_watches_4 rfl ?_
      refine w_aload_n dX0_watches_5 rfl ?_
      refine cr_call (mi := miX0_beach_2) dX0_watches_6 q934 okX0_beach_2 clX0 rfl (H.get (ce_X hx)) (Nat.le_of_ble_eq_true rfl) (kX0_beach (C := uF C 0 19 G9) hx h0) H rfl rfl (Nat.le_of_ble_eq_true rfl) ?_
      refine gX0_242 (C := uF C 0 19 G9) dX0_watches_9 rfl E H ?_
      refine w_icmpN_ge dX0_watches_12 rfl (by omega) (by omega) (fun h_12 => ?_) (fun h_12 => ?_)
      · have hcx : c = vs V 0 := by omega
        subst hcx
        refine w_iload_n dX0_watches_133 rfl ?_
        exact w_iret dX0_watches_134 rfl ⟨by rw [B.cnt K], _, by exact ⟨G9, rfl, fun u hu => (B.1 u (by rw [← B.cnt K]; exact hu)).2⟩, H, F⟩
      · refine w_iconst (v := nI 0) dX0_watches_15 ki_0 ?_
        refine w_istore dX0_watches_16 rfl (Nat.le_of_ble_eq_true rfl) ls_6_4 ?_
        refine w_iconst (v := nI 0) dX0_watches_18 ki_0 ?_
        refine w_istore dX0_watches_19 rfl (Nat.le_of_ble_eq_true rfl) ls_6_5 ?_
        have li : ∀ (j9 : Nat) (k : Nat), vs V 2 - k < j9 → k ≤ vs V 2 → Wp g (mtC g miX0_watches 2 (0) (0) σ0 (some (.int (nI (boysV V m)))) (fun C2 => BoyP C C2 V m)) 0 0 21 [some (.ref (od C 0 30)), some (.int (nI m)), some (.int (nI n)), some (.int (nI c)), some (.int (nI (isB V c k))), some (.int (nI k))] [] σ := by
          intro j9
          induction j9 with
          | zero => intro k hmu hk; exact absurd hmu (Nat.not_lt_zero _)
          | succ j9 ih_li =>
            intro k hmu hk
            have hb01 := isB_01 V c k
            refine w_iload dX0_watches_21 rfl ?_
            refine w_aload_n dX0_watches_23 rfl ?_
            refine cr_call (mi := miX0_beach_2) dX0_watches_24 q934 okX0_beach_2 clX0 rfl (H.get (ce_X hx)) (Nat.le_of_ble_eq_true rfl) (kX0_beach (C := uF C 0 19 G9) hx h0) H rfl rfl (Nat.le_of_ble_eq_true rfl) ?_
            refine gX0_177 (C := uF C 0 19 G9) dX0_watches_27 rfl E H ?_
            refine w_icmpN_ge dX0_watches_30 rfl (by omega) (by omega) (fun h_30 => ?_) (fun h_30 => ?_)
            · have hkx : k = vs V 2 := by omega
              subst hkx
              refine w_iload dX0_watches_77 rfl ?_
              refine w_ifN_eq dX0_watches_79 rfl (by omega) (fun h_79 => ?_) (fun h_79 => ?_)
              · refine w_iinc dX0_watches_127 rfl (nI_inc _ 1) rfl (Nat.le_of_ble_eq_true rfl) ls_6_3 ?_
                refine w_goto dX0_watches_130 rfl ?_
                exact w_L (wkS (wkS (wkS (wkS (wkN (wkN wk0)))))) (ih_lo (c + 1) n G9 σ (by omega) (by omega) (B.skip (Or.inl (by omega))) H F)
              · refine w_iload_n dX0_watches_82 rfl ?_
                refine w_ifN_le dX0_watches_83 rfl (by omega) (fun h_83 => ?_) (fun h_83 => ?_)
                · have hB := B.new_ (by omega) (by omega) (by unfold nxtB; rw [if_pos (by omega)]; exact Nat.zero_le _)
                  have hB8 := hB.2.1.le K
                  refine w_aload_n dX0_watches_103 rfl ?_
                  refine gX0_72 (C := uF C 0 19 G9) dX0_watches_104 rfl hx H ?_
                  refine w_iload_n dX0_watches_107 rfl ?_
                  refine w_aload_n dX0_watches_108 rfl ?_
                  refine cr_call (mi := miX0_beach_2) dX0_watches_109 q934 okX0_beach_2 clX0 rfl (H.get (ce_X hx)) (Nat.le_of_ble_eq_true rfl) (kX0_beach (C := uF C 0 19 G9) hx h0) H rfl rfl (Nat.le_of_ble_eq_true rfl) ?_
                  refine gX0_242 (C := uF C 0 19 G9) dX0_watches_112 rfl E H ?_
                  refine w_iconst (v := nI 1) dX0_watches_115 ki_1 ?_
                  refine w_isubN dX0_watches_116 (by omega) ?_
                  refine w_iload_n dX0_watches_117 rfl ?_
                  refine w_iload_n dX0_watches_118 rfl ?_
                  refine w_iaddN dX0_watches_119 ?_
                  refine w_mmin dX0_watches_120 q1278 q1279 q155 q1280 (Nat.le_of_ble_eq_true rfl) (Nat.le_of_ble_eq_true rfl) ?_
                  refine w_topN (min_n (by omega) (by omega)) ?_
                  refine xs_19 (C := uF C 0 19 G9) dX0_watches_123 hx (by omega) H F ?_
                  intro σ H F
                  have H : Hold g σ (uF C 0 19 (upd G9 n (nI (min (vs V 0 - 1) (c + m))))) := H.cast (by rw [uA_F, oA_F, uF_F])
                  refine w_iinc dX0_watches_124 rfl (nI_inc _ 1) rfl (Nat.le_of_ble_eq_true rfl) ls_6_2 ?_
                  refine w_iinc dX0_watches_127 rfl (nI_inc _ 1) rfl (Nat.le_of_ble_eq_true rfl) ls_6_3 ?_
                  refine w_goto dX0_watches_130 rfl ?_
                  exact w_L (wkS (wkS (wkS (wkS (wkN (wkN wk0)))))) (ih_lo (c + 1) (n + 1) _ σ (by omega) (by omega) hB.2.1 H F)
                · refine w_iload_n dX0_watches_86 rfl ?_
                  refine w_aload_n dX0_watches_87 rfl ?_
                  refine gX0_72 (C := uF C 0 19 G9) dX0_watches_88 rfl hx H ?_
                  refine w_iload_n dX0_watches_91 rfl ?_
                  refine w_iconst (v := nI 1) dX0_watches_92 ki_1 ?_
                  refine w_isubN dX0_watches_93 (by omega) ?_
                  refine xa_19 (C := uF C 0 19 G9) dX0_watches_94 hx (by omega) H ?_
                  refine w_topN (n := boyK V m (n - 1) - 1) (by rw [oA_F]; exact (B.1 (n - 1) (by omega)).2) ?_
                  have hbk := boyK_le K m (n - 1)
                  refine w_iload_n dX0_watches_95 rfl ?_
                  refine w_iaddN dX0_watches_96 ?_
                  refine w_icmpN_gt dX0_watches_97 rfl (by omega) (by omega) (fun h_97 => ?_) (fun h_97 => ?_)
                  · have hB := B.new_ (by omega) (by omega) (by unfold nxtB; split; exact Nat.zero_le _; have := (B.1 (n - 1) (by omega)).1; omega)
                    have hB8 := hB.2.1.le K
                    refine w_aload_n dX0_watches_103 rfl ?_
                    refine gX0_72 (C := uF C 0 19 G9) dX0_watches_104 rfl hx H ?_
                    refine w_iload_n dX0_watches_107 rfl ?_
                    refine w_aload_n dX0_watches_108 rfl ?_
                    refine cr_call (mi := miX0_beach_2) dX0_watches_109 q934 okX0_beach_2 clX0 rfl (H.get (ce_X hx)) (Nat.le_of_ble_eq_true rfl) (kX0_beach (C := uF C 0 19 G9) hx h0) H rfl rfl (Nat.le_of_ble_eq_true rfl) ?_
                    refine gX0_242 (C := uF C 0 19 G9) dX0_watches_112 rfl E H ?_
                    refine w_iconst (v := nI 1) dX0_watches_115 ki_1 ?_
                    refine w_isubN dX0_watches_116 (by omega) ?_
                    refine w_iload_n dX0_watches_117 rfl ?_
                    refine w_iload_n dX0_watches_118 rfl ?_
                    refine w_iaddN dX0_watches_119 ?_
                    refine w_mmin dX0_watches_120 q1278 q1279 q155 q1280 (Nat.le_of_ble_eq_true rfl) (Nat.le_of_ble_eq_true rfl) ?_
                    refine w_topN (min_n (by omega) (by omega)) ?_
                    refine xs_19 (C := uF C 0 19 G9) dX0_watches_123 hx (by omega) H F ?_
                    intro σ H F
                    have H : Hold g σ (uF C 0 19 (upd G9 n (nI (min (vs V 0 - 1) (c + m))))) := H.cast (by rw [uA_F, oA_F, uF_F])
                    refine w_iinc dX0_watches_124 rfl (nI_inc _ 1) rfl (Nat.le_of_ble_eq_true rfl) ls_6_2 ?_
                    refine w_iinc dX0_watches_127 rfl (nI_inc _ 1) rfl (Nat.le_of_ble_eq_true rfl) ls_6_3 ?_
                    refine w_goto dX0_watches_130 rfl ?_
                    exact w_L (wkS (wkS (wkS (wkS (wkN (wkN wk0)))))) (ih_lo (c + 1) (n + 1) _ σ (by omega) (by omega) hB.2.1 H F)
                  · refine w_goto dX0_watches_100 rfl ?_
                    refine w_iinc dX0_watches_127 rfl (nI_inc _ 1) rfl (Nat.le_of_ble_eq_true rfl) ls_6_3 ?_
                    refine w_goto dX0_watches_130 rfl ?_
                    exact w_L (wkS (wkS (wkS (wkS (wkN (wkN wk0)))))) (ih_lo (c + 1) n G9 σ (by omega) (by omega) (B.skip (Or.inr (by unfold nxtB; rw [if_neg (by omega)]; have := (B.1 (n - 1) (by omega)).1; omega))) H F)
            · refine w_iload dX0_watches_33 rfl ?_
              refine w_ifN_ne dX0_watches_35 rfl (by omega) (fun h_35 => ?_) (fun h_35 => ?_)
              · refine w_iconst (v := nI 1) dX0_watches_64 ki_1 ?_
                refine w_goto dX0_watches_65 rfl ?_
                refine w_istore dX0_watches_69 rfl (Nat.le_of_ble_eq_true rfl) ls_6_4 ?_
                refine w_iinc dX0_watches_71 rfl (nI_inc _ 1) rfl (Nat.le_of_ble_eq_true rfl) ls_6_5 ?_
                refine w_goto dX0_watches_74 rfl ?_
                exact w_as (ih_li (k + 1) (by omega) (by omega)) (by rw [isB_s, if_pos (Or.inl (by omega))]) rfl rfl
              · refine w_aload_n dX0_watches_38 rfl ?_
                refine cr_call (mi := miX0_day) dX0_watches_39 q886 okX0_day clX0 rfl (H.get (ce_X hx)) (Nat.le_of_ble_eq_true rfl) (kX0_day (C := uF C 0 19 G9) hx h0) H rfl rfl (Nat.le_of_ble_eq_true rfl) ?_
                refine w_iload dX0_watches_42 rfl ?_
                refine cr_call (mi := miX5_isThere) dX0_watches_44 q1183 okX5_isThere clX5 rfl (H.get (ce_day h0)) (Nat.le_of_ble_eq_true rfl) (kX5_isThere (C := uF C 0 19 G9) h0 E K (by first | assumption | omega)) H rfl rfl (Nat.le_of_ble_eq_true rfl) ?_
                refine w_ifB_eq dX0_watches_47 rfl (fun h_47 => ?_) (fun h_47 => ?_)
                · refine w_iconst (v := nI 0) dX0_watches_68 ki_0 ?_
                  refine w_istore dX0_watches_69 rfl (Nat.le_of_ble_eq_true rfl) ls_6_4 ?_
                  refine w_iinc dX0_watches_71 rfl (nI_inc _ 1) rfl (Nat.le_of_ble_eq_true rfl) ls_6_5 ?_
                  refine w_goto dX0_watches_74 rfl ?_
                  exact w_as (ih_li (k + 1) (by omega) (by omega)) (by rw [isB_s, if_neg (fun z => by rcases z with z | z; omega; exact h_47 z.1), show isB V c k = 0 by omega]) rfl rfl
                · refine w_aload_n dX0_watches_50 rfl ?_
                  refine cr_call (mi := miX0_beach_2) dX0_watches_51 q934 okX0_beach_2 clX0 rfl (H.get (ce_X hx)) (Nat.le_of_ble_eq_true rfl) (kX0_beach (C := uF C 0 19 G9) hx h0) H rfl rfl (Nat.le_of_ble_eq_true rfl) ?_
                  refine gX0_282 (C := uF C 0 19 G9) dX0_watches_54 rfl E H ?_
                  refine w_iload dX0_watches_57 rfl ?_
                  refine ba_12 (C := uF C 0 19 G9) dX0_watches_59 E K (by omega) H ?_
                  refine w_iload_n dX0_watches_60 rfl ?_
                  refine w_icmpN_ne dX0_watches_61 rfl (by have := K.d (d := k) (by omega); omega) (by omega) (fun h_61 => ?_) (fun h_61 => ?_)
                  · refine w_iconst (v := nI 0) dX0_watches_68 ki_0 ?_
                    refine w_istore dX0_watches_69 rfl (Nat.le_of_ble_eq_true rfl) ls_6_4 ?_
                    refine w_iinc dX0_watches_71 rfl (nI_inc _ 1) rfl (Nat.le_of_ble_eq_true rfl) ls_6_5 ?_
                    refine w_goto dX0_watches_74 rfl ?_
                    exact w_as (ih_li (k + 1) (by omega) (by omega)) (by rw [isB_s, if_neg (fun z => by rcases z with z | z; omega; exact h_61 z.2), show isB V c k = 0 by omega]) rfl rfl
                  · refine w_iconst (v := nI 1) dX0_watches_64 ki_1 ?_
                    refine w_goto dX0_watches_65 rfl ?_
                    refine w_istore dX0_watches_69 rfl (Nat.le_of_ble_eq_true rfl) ls_6_4 ?_
                    refine w_iinc dX0_watches_71 rfl (nI_inc _ 1) rfl (Nat.le_of_ble_eq_true rfl) ls_6_5 ?_
                    refine w_goto dX0_watches_74 rfl ?_
                    exact w_as (ih_li (k + 1) (by omega) (by omega)) (by rw [isB_s, if_pos (Or.inr ⟨h_47, by omega⟩)]) rfl rfl
        exact li (vs V 2 + 1) 0 (by omega) (by omega)
  exact w_L (wkS (wkS (wkS (wkS (wkN (wkN wk0)))))) (lo (vs V 0 + 1) 0 0 (oA C 0 19) σ (by omega) (by omega) (BoyI.z V m _) (H.cast (by rw [uF_self])) F)
