/-! THE TIDE and the dawn; every change keeps what a day must be -/
set_option maxRecDepth 100000
/-- no finder keeps more than the days gave -/
def KepV (V : VS) : Prop := ∀ f, f < vs V 1 → vt V 4 f ≤ 7992 * vs V 6
theorem OkV.n0 {V : VS} (K : OkV V) {d : Nat} (h : vs V 2 ≤ d) (hd : d < 8) : vt V 7 d = 0 := by
  by_cases h0 : vt V 7 d = 0
  · exact h0
  · exfalso
    have h1 := K.th hd h0
    have h2 := K.lo
    have h3 : 2 ^ vs V 2 ≤ 2 ^ d := Nat.pow_le_pow_right (by omega) h
    unfold isT at h1
    rw [Nat.shiftRight_eq_div_pow, Nat.div_eq_of_lt (by omega)] at h1
    exact absurd h1 (by decide)
theorem set_eq {V W : VS} {d : Nat} (h5 : vs W 5 = vs V 5) (h7 : vs W 7 = vs V 7) (hn : vt W 7 d = vt V 7 d) (hp : ∀ j i, vp W j d i = vp V j d i) : lastV W d = lastV V d ∧ ownersV W d = ownersV V d ∧ setV W d = setV V d := by
  have e0 : vp W 0 d = vp V 0 d := funext fun i => hp 0 i
  have e1 : vp W 1 d = vp V 1 d := funext fun i => hp 1 i
  have hl : lastV W d = lastV V d := by unfold lastV; rw [e0, e1, hn]
  have ho : ownersV W d = ownersV V d := by unfold ownersV; rw [hl, h5]
  refine ⟨hl, ho, ?_⟩
  unfold setV isT
  rw [ho, h7]
/-- kept: of the finds before k, and of find k by the finders before m -/
def keptF (V W : VS) (d m : Nat) : VS := foldN (fun f W => setT W 4 f (vt W 4 f + shareV V f d)) W m
theorem keptF_t (V W : VS) (d : Nat) : ∀ m j i, vt (keptF V W d m) j i = if j = 4 ∧ i < m then vt W 4 i + shareV V i d else vt W j i
  | 0, j, i => by rw [if_neg (by omega)]; rfl
  | m + 1, j, i => by
    have ih := keptF_t V W d m
    rw [show keptF V W d (m + 1) = setT (keptF V W d m) 4 m (vt (keptF V W d m) 4 m + shareV V m d) from rfl, setT_t, ih 4 m, ih j i, if_neg (show ¬ (4 = 4 ∧ m < m) by omega)]
    by_cases h : j = 4 ∧ i = m
    · rw [if_pos h, if_pos ⟨h.1, by omega⟩, h.2]
    · rw [if_neg h]
      by_cases h2 : j = 4 ∧ i < m
      · rw [if_pos h2, if_pos ⟨h2.1, by omega⟩]
      · rw [if_neg h2, if_neg (by omega)]
theorem keptF_s (V W : VS) (d : Nat) : ∀ m i, vs (keptF V W d m) i = vs W i
  | 0, _ => rfl
  | m + 1, i => keptF_s V W d m i
theorem keptF_p (V W : VS) (d : Nat) : ∀ m j e i, vp (keptF V W d m) j e i = vp W j e i
  | 0, _, _, _ => rfl
  | m + 1, j, e, i => keptF_p V W d m j e i
def keptK (V : VS) (k : Nat) : VS := foldN (fun d W => keptF V W d (vs V 1)) V k
def leadK (V : VS) (f k : Nat) : Nat := foldN (fun d n => n + shareV V f d) 0 k
theorem keptK_t (V : VS) : ∀ k j i, vt (keptK V k) j i = if j = 4 ∧ i < vs V 1 then vt V 4 i + leadK V i k else vt V j i
  | 0, j, i => by
    by_cases h : j = 4 ∧ i < vs V 1
    · rw [if_pos h, h.1]; rfl
    · rw [if_neg h]; rfl
  | k + 1, j, i => by
    have ih := keptK_t V k
    rw [show keptK V (k + 1) = keptF V (keptK V k) k (vs V 1) from rfl, keptF_t, ih, ih]
    by_cases h : j = 4 ∧ i < vs V 1
    · rw [if_pos h, if_pos h, if_pos ⟨rfl, h.2⟩, show leadK V i (k + 1) = leadK V i k + shareV V i k from rfl]; omega
    · rw [if_neg h, if_neg h, if_neg h]
theorem keptK_s (V : VS) : ∀ k i, vs (keptK V k) i = vs V i
  | 0, _ => rfl
  | k + 1, i => (keptF_s V (keptK V k) k (vs V 1) i).trans (keptK_s V k i)
theorem keptK_p (V : VS) : ∀ k j e i, vp (keptK V k) j e i = vp V j e i
  | 0, _, _, _ => rfl
  | k + 1, j, e, i => (keptF_p V (keptK V k) k (vs V 1) j e i).trans (keptK_p V k j e i)
theorem leadK_le {V : VS} (K : OkV V) (f : Nat) {k : Nat} (hk : k ≤ vs V 2) : leadK V f k ≤ 7992 := by
  have h := leadV_le K f
  have h2 := sum_le8 (f := fun d => shareV V f d) hk
  exact Nat.le_trans h2 h
/-- pouches: the pebbles of finds before k come back, of find k those before n -/
def hasF (V W : VS) (d n : Nat) : VS := foldN (fun k W => setT W 2 (vp V 0 d k) (vt W 2 (vp V 0 d k) + 1)) W n
theorem hasF_t (V W : VS) (d : Nat) : ∀ n j i, vt (hasF V W d n) j i = if j = 2 then vt W 2 i + ownF n (vp V 0 d) i else vt W j i
  | 0, j, i => by
    by_cases h : j = 2
    · rw [if_pos h, h]; rfl
    · rw [if_neg h]; rfl
  | n + 1, j, i => by
    have ih := hasF_t V W d n
    rw [show hasF V W d (n + 1) = setT (hasF V W d n) 2 (vp V 0 d n) (vt (hasF V W d n) 2 (vp V 0 d n) + 1) from rfl, setT_t, ih, ih, if_pos rfl, show ownF (n + 1) (vp V 0 d) i = ownF n (vp V 0 d) i + (if vp V 0 d n = i then 1 else 0) from rfl]
    by_cases h : j = 2
    · by_cases h2 : i = vp V 0 d n
      · rw [if_pos ⟨h, h2⟩, if_pos h, if_pos h2.symm, h2]; omega
      · rw [if_neg (fun z => h2 z.2), if_pos h, if_pos h, if_neg (fun z => h2 z.symm)]; omega
    · rw [if_neg (fun z => h z.1), if_neg h, if_neg h]
theorem hasF_s (V W : VS) (d : Nat) : ∀ m i, vs (hasF V W d m) i = vs W i
  | 0, _ => rfl
  | m + 1, i => hasF_s V W d m i
theorem hasF_p (V W : VS) (d : Nat) : ∀ m j e i, vp (hasF V W d m) j e i = vp W j e i
  | 0, _, _, _ => rfl
  | m + 1, j, e, i => hasF_p V W d m j e i
def hasK (V W : VS) (k : Nat) : VS := foldN (fun d W => setT (hasF V W d (vt V 7 d)) 7 d 0) W k
def strewnK (V : VS) (f k : Nat) : Nat := foldN (fun d n => n + ownV V d f) 0 k
theorem hasK_t (V W : VS) : ∀ k j i, vt (hasK V W k) j i = if j = 2 then vt W 2 i + strewnK V i k else if j = 7 ∧ i < k then 0 else vt W j i
  | 0, j, i => by
    by_cases h : j = 2
    · rw [if_pos h, h]; rfl
    · rw [if_neg h, if_neg (by omega)]; rfl
  | k + 1, j, i => by
    have ih := hasK_t V W k
    rw [show hasK V W (k + 1) = setT (hasF V (hasK V W k) k (vt V 7 k)) 7 k 0 from rfl, setT_t, hasF_t, ih, ih]
    by_cases h : j = 2
    · subst h
      rw [if_neg (by omega), if_pos rfl, if_pos rfl, if_pos rfl, show strewnK V i (k + 1) = strewnK V i k + ownF (vt V 7 k) (vp V 0 k) i from rfl]; omega
    · rw [if_neg h, if_neg h, if_neg h]
      by_cases h2 : j = 7 ∧ i = k
      · rw [if_pos h2, if_pos ⟨h2.1, by omega⟩]
      · rw [if_neg h2]
        by_cases h3 : j = 7 ∧ i < k
        · rw [if_pos h3, if_pos ⟨h3.1, by omega⟩]
        · rw [if_neg h3, if_neg (by omega)]
theorem hasK_s (V W : VS) : ∀ k i, vs (hasK V W k) i = vs W i
  | 0, _ => rfl
  | k + 1, i => (hasF_s V (hasK V W k) k (vt V 7 k) i).trans (hasK_s V W k i)
theorem hasK_p (V W : VS) : ∀ k j e i, vp (hasK V W k) j e i = vp W j e i
  | 0, _, _, _ => rfl
  | k + 1, j, e, i => (hasF_p V (hasK V W k) k (vt V 7 k) j e i).trans (hasK_p V W k j e i)
def clkK (W : VS) (k : Nat) : VS := foldN (fun f W => setT W 3 f 0) W k
theorem clkK_t (W : VS) : ∀ k j i, vt (clkK W k) j i = if j = 3 ∧ i < k then 0 else vt W j i
  | 0, j, i => by rw [if_neg (by omega)]; rfl
  | k + 1, j, i => by
    rw [show clkK W (k + 1) = setT (clkK W k) 3 k 0 from rfl, setT_t, clkK_t W k]
    by_cases h2 : j = 3 ∧ i = k
    · rw [if_pos h2, if_pos ⟨h2.1, by omega⟩]
    · rw [if_neg h2]
      by_cases h3 : j = 3 ∧ i < k
      · rw [if_pos h3, if_pos ⟨h3.1, by omega⟩]
      · rw [if_neg h3, if_neg (by omega)]
theorem clkK_s (W : VS) : ∀ k i, vs (clkK W k) i = vs W i
  | 0, _ => rfl
  | k + 1, i => clkK_s W k i
theorem clkK_p (W : VS) : ∀ k j e i, vp (clkK W k) j e i = vp W j e i
  | 0, _, _, _ => rfl
  | k + 1, j, e, i => clkK_p W k j e i
def endV (V W : VS) : VS := setS (setS (setS (setS W 8 0) 7 0) 6 (vs V 6 + 1)) 3 (max 1 (vs V 3 - vs V 4))
/-- the day behind a tide -/
def floodV (V : VS) : VS := endV V (clkK (hasK V (keptK V (vs V 2)) (vs V 2)) (vs V 1))
theorem flood_s (V : VS) (i : Nat) : vs (floodV V) i = if i = 3 then max 1 (vs V 3 - vs V 4) else if i = 6 then vs V 6 + 1 else if i = 7 then 0 else if i = 8 then 0 else vs V i := by
  rw [floodV, endV, setS_s, setS_s, setS_s, setS_s, clkK_s, hasK_s, keptK_s]
theorem flood_t (V : VS) (j i : Nat) : vt (floodV V) j i = if j = 2 then vt V 2 i + strewnV V i else if j = 3 ∧ i < vs V 1 then 0 else if j = 4 ∧ i < vs V 1 then vt V 4 i + leadV V i else if j = 7 ∧ i < vs V 2 then 0 else vt V j i := by
  rw [floodV, endV, setS_t, setS_t, setS_t, setS_t, clkK_t, hasK_t, keptK_t, keptK_t]
  by_cases h : j = 2
  · subst h
    rw [if_neg (by omega), if_pos rfl, if_pos rfl, if_neg (by omega)]; rfl
  · rw [if_neg h, if_neg h]
    by_cases h3 : j = 3 ∧ i < vs V 1
    · rw [if_pos h3, if_pos h3]
    · rw [if_neg h3, if_neg h3]
      by_cases h4 : j = 4 ∧ i < vs V 1
      · rw [if_neg (by omega), if_pos h4, if_pos h4]; rfl
      · rw [if_neg h4, if_neg h4]
theorem flood_p (V : VS) (j e i : Nat) : vp (floodV V) j e i = vp V j e i := by
  show vp (clkK (hasK V (keptK V (vs V 2)) (vs V 2)) (vs V 1)) j e i = _
  rw [clkK_p, hasK_p, keptK_p]
/-- what is strewn by all is what lies -/
theorem own_sum (who : Nat → Nat) (m : Nat) : ∀ n, foldN (fun f c => c + ownF n who f) 0 m ≤ n
  | 0 => by
    have := sum_le (f := fun f => ownF 0 who f) (m := 0) m (fun k _ => Nat.le_refl _)
    exact this
  | n + 1 => by
    have ih := own_sum who m n
    have h : ∀ m, foldN (fun f c => c + ownF (n + 1) who f) 0 m ≤ foldN (fun f c => c + ownF n who f) 0 m + 1 ∧ (m ≤ who n → foldN (fun f c => c + ownF (n + 1) who f) 0 m = foldN (fun f c => c + ownF n who f) 0 m) := by
      intro m
      induction m with
      | zero => exact ⟨Nat.le_succ _, fun _ => rfl⟩
      | succ m ih2 =>
        have e1 : foldN (fun f c => c + ownF (n + 1) who f) 0 (m + 1) = foldN (fun f c => c + ownF (n + 1) who f) 0 m + (ownF n who m + if who n = m then 1 else 0) := rfl
        have e2 : foldN (fun f c => c + ownF n who f) 0 (m + 1) = foldN (fun f c => c + ownF n who f) 0 m + ownF n who m := rfl
        rw [e1, e2]
        by_cases hw : who n = m
        · rw [if_pos hw]
          have := ih2.2 (by omega)
          exact ⟨by omega, fun z => by omega⟩
        · rw [if_neg hw]
          refine ⟨by omega, fun z => ?_⟩
          have := ih2.2 (by omega)
          omega
    have := (h m).1
    omega
theorem sum_swap (f : Nat → Nat → Nat) (m : Nat) : ∀ n, foldN (fun i c => c + foldN (fun d c => c + f d i) 0 n) 0 m = foldN (fun d c => c + foldN (fun i c => c + f d i) 0 m) 0 n := by
  intro n
  induction m with
  | zero =>
    have := sum_le (f := fun _ => 0) (m := 0) n (fun k _ => Nat.le_refl _)
    have h : foldN (fun d c => c + foldN (fun i c => c + f d i) 0 0) 0 n = 0 := Nat.le_zero.mp this
    rw [h]; rfl
  | succ m ih =>
    show foldN (fun i c => c + foldN (fun d c => c + f d i) 0 n) 0 m + foldN (fun d c => c + f d m) 0 n = _
    rw [ih]
    clear ih
    induction n with
    | zero => rfl
    | succ n ih2 =>
      show foldN (fun d c => c + foldN (fun i c => c + f d i) 0 m) 0 n + foldN (fun i c => c + f n i) 0 m + (foldN (fun d c => c + f d m) 0 n + f n m) = foldN (fun d c => c + foldN (fun i c => c + f d i) 0 (m + 1)) 0 n + (foldN (fun i c => c + f n i) 0 m + f n m)
      omega
theorem sum_mono {f g : Nat → Nat} : ∀ n, (∀ k, k < n → f k ≤ g k) → foldN (fun k c => c + f k) 0 n ≤ foldN (fun k c => c + g k) 0 n
  | 0, _ => Nat.le_refl _
  | n + 1, h => by
    have h1 := sum_mono n (fun k hk => h k (by omega))
    have h2 := h n (by omega)
    show foldN (fun k c => c + f k) 0 n + f n ≤ foldN (fun k c => c + g k) 0 n + g n
    omega
theorem sum_add {f g : Nat → Nat} : ∀ n, foldN (fun k c => c + (f k + g k)) 0 n = foldN (fun k c => c + f k) 0 n + foldN (fun k c => c + g k) 0 n
  | 0 => rfl
  | n + 1 => by
    show foldN (fun k c => c + (f k + g k)) 0 n + (f n + g n) = foldN (fun k c => c + f k) 0 n + f n + (foldN (fun k c => c + g k) 0 n + g n)
    rw [sum_add n]
    omega
theorem strewn_sum {V : VS} (K : OkV V) : foldN (fun f c => c + strewnV V f) 0 (vs V 1) ≤ vs V 8 := by
  have h1 := sum_swap (fun d f => ownV V d f) (vs V 1) (vs V 2)
  have h2 := sum_mono (f := fun d => foldN (fun i c => c + ownV V d i) 0 (vs V 1)) (g := fun d => vt V 7 d) (vs V 2) (fun d _ => own_sum (vp V 0 d) (vs V 1) (vt V 7 d))
  have h3 := sum_le8 (f := fun d => vt V 7 d) (m := vs V 2) (n := 8) K.b.2.2.2.1
  show foldN (fun i c => c + foldN (fun d n => n + ownV V d i) 0 (vs V 2)) 0 (vs V 1) ≤ _
  rw [h1, K.s8]
  exact Nat.le_trans h2 h3
theorem OkV.flood {V : VS} (K : OkV V) (hk : KepV V) (hd : vs V 6 < 99) : OkV (floodV V) ∧ KepV (floodV V) := by
  have hb := K.b
  have hst := strewn_sum K
  have htot := K.t
  unfold totV pouV at htot
  have h7 : ∀ d, d < 8 → vt (floodV V) 7 d = 0 := fun d hd => by
    rw [flood_t, if_neg (by omega), if_neg (by omega), if_neg (by omega)]
    by_cases h : d < vs V 2
    · rw [if_pos ⟨rfl, h⟩]
    · rw [if_neg (fun z => h z.2)]; exact K.n0 (by omega) hd
  have es : ∀ i, i ≠ 3 → i ≠ 6 → i ≠ 7 → i ≠ 8 → vs (floodV V) i = vs V i := fun i h3 h6 h7 h8 => by rw [flood_s, if_neg h3, if_neg h6, if_neg h7, if_neg h8]
  have e3 : vs (floodV V) 3 = max 1 (vs V 3 - vs V 4) := by rw [flood_s, if_pos rfl]
  have e6 : vs (floodV V) 6 = vs V 6 + 1 := by rw [flood_s, if_neg (by omega), if_pos rfl]
  have e7 : vs (floodV V) 7 = 0 := by rw [flood_s, if_neg (by omega), if_neg (by omega), if_pos rfl]
  have e8 : vs (floodV V) 8 = 0 := by rw [flood_s, if_neg (by omega), if_neg (by omega), if_neg (by omega), if_pos rfl]
  have e0 := es 0 (by omega) (by omega) (by omega) (by omega)
  have e1 := es 1 (by omega) (by omega) (by omega) (by omega)
  have e2 := es 2 (by omega) (by omega) (by omega) (by omega)
  have e4 := es 4 (by omega) (by omega) (by omega) (by omega)
  have e5 := es 5 (by omega) (by omega) (by omega) (by omega)
  have et : ∀ j i, j ≠ 2 → j ≠ 3 → j ≠ 4 → j ≠ 7 → vt (floodV V) j i = vt V j i := fun j i h2 h3 h4 h7 => by rw [flood_t, if_neg h2, if_neg (fun z => h3 z.1), if_neg (fun z => h4 z.1), if_neg (fun z => h7 z.1)]
  have hkep : KepV (floodV V) := fun f hf => by
    rw [e1] at hf
    rw [e6, flood_t, if_neg (by omega), if_neg (by omega), if_pos ⟨rfl, hf⟩]
    have := hk f hf
    have := leadK_le K f (Nat.le_refl (vs V 2))
    show _ + leadK V f (vs V 2) ≤ _
    omega
  refine ⟨⟨?_, ?_, fun f hf => ?_, fun d hd => ?_, fun d hd => ?_, fun d hd k hk => ?_, fun d hd i j _ hj => ?_, ?_, ?_⟩, hkep⟩
  · rw [e0, e1, e2, e3, e4, e5, e6, e7, e8]
    exact ⟨hb.1, hb.2.1, hb.2.2.1, hb.2.2.2.1, by omega, by omega, hb.2.2.2.2.2.2.1, hb.2.2.2.2.2.2.2.1, by omega, by omega, by omega⟩
  · rw [e7]; exact Nat.pow_pos (by omega)
  · have hl := hkep f hf
    rw [e1] at hf
    have hq := K.f hf
    rw [e6] at hl
    rw [e0, et 0 f (by omega) (by omega) (by omega) (by omega), et 1 f (by omega) (by omega) (by omega) (by omega)]
    refine ⟨hq.1, hq.2.1, hq.2.2.1, ?_, by omega⟩
    rw [flood_t, if_neg (by omega), if_pos ⟨rfl, hf⟩]; exact Nat.zero_le _
  · rw [e2] at hd
    rw [e0, et 5 d (by omega) (by omega) (by omega) (by omega), et 6 d (by omega) (by omega) (by omega) (by omega)]
    exact K.d hd
  · rw [h7 d hd]; exact ⟨by omega, fun z => absurd rfl z⟩
  · rw [h7 d hd] at hk; exact absurd hk (Nat.not_lt_zero _)
  · rw [h7 d hd] at hj; exact absurd hj (Nat.not_lt_zero _)
  · rw [e8, sum_eq (f := fun _ => 0) (g := fun d => vt (floodV V) 7 d) 8 (fun k hk => h7 k hk)]; rfl
  · rw [e1, e8, sum_eq (f := fun f => vt V 2 f + strewnV V f) (g := fun f => vt (floodV V) 2 f) (vs V 1) (fun k _ => by rw [flood_t, if_pos rfl]), sum_add]
    omega
/-- the finds are there again -/
def dawnV (V : VS) : VS := setS V 7 (2 ^ vs V 2 - 1)
theorem OkV.dawn {V : VS} (K : OkV V) (h : vs V 7 = 0) : OkV (dawnV V) := by
  have hp : 0 < 2 ^ vs V 2 := Nat.pow_pos (by omega)
  have hb := K.b
  have h0 : ∀ d, d < 8 → vt V 7 d = 0 := fun d hd => by
    by_cases h0 : vt V 7 d = 0
    · exact h0
    · have h1 := K.th hd h0
      unfold isT at h1
      rw [h, Nat.zero_shiftRight] at h1
      exact absurd h1 (by decide)
  have hp8 : 2 ^ vs V 2 ≤ 2 ^ 8 := Nat.pow_le_pow_right (by omega) hb.2.2.2.1
  obtain ⟨k1, k2, k3, k4, k5, k6, k7, k8, k9⟩ := K
  refine ⟨⟨hb.1, hb.2.1, hb.2.2.1, hb.2.2.2.1, hb.2.2.2.2.1, hb.2.2.2.2.2.1, hb.2.2.2.2.2.2.1, hb.2.2.2.2.2.2.2.1, hb.2.2.2.2.2.2.2.2.1, ?_, hb.2.2.2.2.2.2.2.2.2.2⟩, ?_, k3, k4, fun d hd => ?_, k6, k7, k8, k9⟩
  · show 2 ^ vs V 2 - 1 < 256; omega
  · show 2 ^ vs V 2 - 1 < 2 ^ vs V 2; omega
  · show vt V 7 d ≤ 60 ∧ (vt V 7 d ≠ 0 → _)
    rw [h0 d hd]
    exact ⟨by omega, fun z => absurd rfl z⟩
theorem OkV.wave {V : VS} (K : OkV V) (x : Nat) : OkV (waveV V x) := by
  have hb := K.b
  have ht := K.t
  have hs8 := K.s8
  have h7 : ∀ d, d < 8 → vt (waveV V x) 7 d + (if d < vs V 2 ∧ vt V 5 d < x then vt V 7 d else 0) = vt V 7 d := fun d _ => by
    rw [waveV, waveK_t]
    by_cases h : d < vs V 2 ∧ vt V 5 d < x
    · rw [if_pos ⟨rfl, h⟩, if_pos h]; omega
    · rw [if_neg (fun z => h z.2), if_neg h]; omega
  have hle : ∀ d, d < 8 → vt (waveV V x) 7 d ≤ vt V 7 d := fun d hd => by have := h7 d hd; omega
  have hN : ∀ m, m ≤ 8 → waveN V x m = foldN (fun d c => c + if vt V 5 d < x then vt V 7 d else 0) 0 m := by
    intro m hm
    induction m with
    | zero => rfl
    | succ m ih =>
      rw [waveN_s, foldN_s, ← ih (by omega)]
      split <;> omega
  have hsum : foldN (fun d c => c + vt (waveV V x) 7 d) 0 8 + waveN V x (vs V 2) = vs V 8 := by
    have h8 : waveN V x (vs V 2) = foldN (fun d c => c + if d < vs V 2 ∧ vt V 5 d < x then vt V 7 d else 0) 0 8 := by
      rw [hN _ hb.2.2.2.1]
      have h9 : ∀ m, m ≤ vs V 2 → foldN (fun d c => c + if d < vs V 2 ∧ vt V 5 d < x then vt V 7 d else 0) 0 m = foldN (fun d c => c + if vt V 5 d < x then vt V 7 d else 0) 0 m := fun m hm =>
        sum_eq (f := fun d => if vt V 5 d < x then vt V 7 d else 0) (g := fun d => if d < vs V 2 ∧ vt V 5 d < x then vt V 7 d else 0) m (fun k hk => by
          by_cases h : vt V 5 k < x
          · rw [if_pos h, if_pos ⟨by omega, h⟩]
          · rw [if_neg h, if_neg (fun z => h z.2)])
      have h10 : ∀ j, foldN (fun d c => c + if d < vs V 2 ∧ vt V 5 d < x then vt V 7 d else 0) 0 (vs V 2 + j) = foldN (fun d c => c + if d < vs V 2 ∧ vt V 5 d < x then vt V 7 d else 0) 0 (vs V 2) := by
        intro j
        induction j with
        | zero => rfl
        | succ j ih => rw [show vs V 2 + (j + 1) = (vs V 2 + j) + 1 by omega, foldN_s, ih, if_neg (by omega)]; rfl
      rw [← h9 _ (Nat.le_refl _), ← h10 (8 - vs V 2), show vs V 2 + (8 - vs V 2) = 8 by omega]
    rw [h8, hs8, ← sum_add]
    exact sum_eq (f := fun d => vt V 7 d) (g := fun d => vt (waveV V x) 7 d + (if d < vs V 2 ∧ vt V 5 d < x then vt V 7 d else 0)) 8 h7
  have hw8 : vs (waveV V x) 8 = vs V 8 - waveN V x (vs V 2) := by rw [waveV, waveK_8, if_pos rfl]
  have hws : ∀ i, i ≠ 8 → vs (waveV V x) i = vs V i := fun i hi => by rw [waveV, waveK_8, if_neg hi]
  have hwt : ∀ j i, j ≠ 7 → vt (waveV V x) j i = vt V j i := fun j i hj => by rw [waveV, waveK_t, if_neg (fun z => hj z.1)]
  have hwp : ∀ j d i, vp (waveV V x) j d i = vp V j d i := fun j d i => waveK_p V x _ j d i
  obtain ⟨k1, k2, k3, k4, k5, k6, k7, k8, k9⟩ := K
  refine ⟨?_, ?_, fun f hf => ?_, fun d hd => ?_, fun d hd => ?_, fun d hd k hk => ?_, fun d hd i j hij hj => ?_, ?_, ?_⟩
  · rw [hws 0 (by omega), hws 1 (by omega), hws 2 (by omega), hws 3 (by omega), hws 4 (by omega), hws 5 (by omega), hws 6 (by omega), hws 7 (by omega), hw8]
    exact ⟨hb.1, hb.2.1, hb.2.2.1, hb.2.2.2.1, hb.2.2.2.2.1, hb.2.2.2.2.2.1, hb.2.2.2.2.2.2.1, hb.2.2.2.2.2.2.2.1, hb.2.2.2.2.2.2.2.2.1, hb.2.2.2.2.2.2.2.2.2.1, by omega⟩
  · rw [hws 7 (by omega), hws 2 (by omega)]; exact k2
  · rw [hws 1 (by omega)] at hf
    rw [hws 0 (by omega), hws 3 (by omega), hwt 0 _ (by omega), hwt 1 _ (by omega), hwt 3 _ (by omega), hwt 4 _ (by omega)]
    exact k3 f hf
  · rw [hws 2 (by omega)] at hd
    rw [hws 0 (by omega), hwt 5 _ (by omega), hwt 6 _ (by omega)]
    exact k4 d hd
  · have h1 := k5 d hd
    have h2 := hle d hd
    refine ⟨by omega, fun z => ?_⟩
    unfold isT
    rw [hws 7 (by omega)]
    exact h1.2 (by omega)
  · rw [hwp, hwp, hws 1 (by omega), hws 3 (by omega)]
    exact k6 d hd k (by have := hle d hd; omega)
  · rw [hwp, hwp]
    exact k7 d hd i j hij (by have := hle d hd; omega)
  · rw [hw8]; omega
  · rw [hws 1 (by omega), hw8, sum_eq (f := fun f => vt V 2 f) (g := fun f => vt (waveV V x) 2 f) (vs V 1) (fun k _ => hwt 2 k (by omega))]
    omega
theorem OkV.went {V : VS} (K : OkV V) {f c : Nat} (hf : f < vs V 1) (hc : c < vs V 0) : OkV (wentV V f c) := by
  unfold wentV
  split
  · exact K
  · exact OkV.cell (OkV.clock K hf (by omega)) hf hc
theorem OkV.waited {V : VS} (K : OkV V) {f m : Nat} (hf : f < vs V 1) : OkV (waitedV V f m) := by
  unfold waitedV
  split
  · exact K
  · exact OkV.clock K hf (by omega)
theorem OkV.sets {V : VS} (K : OkV V) {f d : Nat} (hf : f < vs V 1) (hd : d < vs V 2) (h : wsetV V f d = 0) : OkV (setsV V f d) := by
  unfold wsetV at h
  have hb := K.b
  have hq := K.f hf
  have ht := K.t
  have hpu := pou_up hf (vt V 2 f - 1)
  split at h
  · omega
  · split at h
    · omega
    · split at h
      · rename_i h1 h2 h3
        have K1 : OkV (setT V 2 f (vt V 2 f - 1)) := OkV.pouch K hf (by omega)
        refine OkV.ins K1 (by omega) h3.1 hf hq.2.2.2.2.1 (show vs V 8 < 60 by omega) ?_
        have : totV (setT V 2 f (vt V 2 f - 1)) = pouV (setT V 2 f (vt V 2 f - 1)) + vs V 8 := rfl
        unfold totV at ht
        omega
      · omega
theorem wliV_0 {V : VS} {f d : Nat} (h : wliV V f d = 0) : ownK V f d ≠ 0 ∧ vt V 0 f = vt V 5 d := by
  unfold wliV at h
  split at h
  · omega
  · split at h
    · exact ⟨by assumption, by assumption⟩
    · omega
theorem OkV.lift {V : VS} (K : OkV V) {f d : Nat} (hf : f < vs V 1) (hd : d < vs V 2) (h : wliV V f d = 0) : OkV (liftV V f d) := by
  have ho := (wliV_0 h).1
  have hle := ownK_le V f d
  have hb := K.b
  have ht := K.t
  obtain ⟨K1, ht1⟩ := K.del (d := d) (k := ownK V f d - 1) (by omega) (by omega)
  refine OkV.pouch K1 hf ?_
  rw [del_t _ _ _ _ _ (by decide)]
  omega
theorem wgV_0 {V : VS} {d e : Nat} (h : wgV V d e = 0) : 0 < vt V 7 d ∧ isT V d ∧ isT V e := by
  unfold wgV at h
  split at h
  · omega
  · split at h
    · rename_i h1 h2
      exact ⟨by omega, h2⟩
    · omega
theorem OkV.gull {V : VS} (K : OkV V) {d e : Nat} (hd : d < vs V 2) (he : e < vs V 2) (h : wgV V d e = 0) : OkV (gullV V d e) := by
  obtain ⟨h1, h2, h3⟩ := wgV_0 h
  have hb := K.b
  have ht := K.t
  have hn8 := K.n8 (d := d) (by omega)
  have hp := K.p (d := d) (by omega) (k := vt V 7 d - 1) (by omega)
  obtain ⟨K1, ht1⟩ := K.del (d := d) (k := vt V 7 d - 1) (by omega) (by omega)
  exact OkV.ins K1 (by omega) h3 hp.1 hp.2 (by rw [del_s, if_pos rfl]; omega) (by omega)
