/-! CHANGES OF THE DAY keep what a day must be -/
set_option maxRecDepth 100000
theorem sum_eq {f g : Nat → Nat} : ∀ n, (∀ k, k < n → g k = f k) → foldN (fun k c => c + g k) 0 n = foldN (fun k c => c + f k) 0 n
  | 0, _ => rfl
  | n + 1, h => by
    show foldN (fun k c => c + g k) 0 n + g n = foldN (fun k c => c + f k) 0 n + f n
    rw [sum_eq n (fun k hk => h k (by omega)), h n (by omega)]
theorem sum_up {f g : Nat → Nat} {i : Nat} : ∀ n, i < n → (∀ k, k < n → k ≠ i → g k = f k) → foldN (fun k c => c + g k) 0 n + f i = foldN (fun k c => c + f k) 0 n + g i
  | 0, h, _ => absurd h (Nat.not_lt_zero i)
  | n + 1, h, hg => by
    show foldN (fun k c => c + g k) 0 n + g n + f i = foldN (fun k c => c + f k) 0 n + f n + g i
    by_cases hi : i = n
    · subst hi
      rw [sum_eq i (fun k hk => hg k (by omega) (by omega))]
      omega
    · have := sum_up n (by omega) (fun k hk => hg k (by omega))
      rw [hg n (by omega) (fun z => hi z.symm)]
      omega
def pouV (V : VS) : Nat := foldN (fun f c => c + vt V 2 f) 0 (vs V 1)
def totV (V : VS) : Nat := pouV V + vs V 8
theorem OkV.t {V : VS} (K : OkV V) : totV V ≤ 150 := K.2.2.2.2.2.2.2.2
theorem OkV.s8 {V : VS} (K : OkV V) : vs V 8 = foldN (fun d c => c + vt V 7 d) 0 8 := K.2.2.2.2.2.2.2.1
theorem OkV.lo {V : VS} (K : OkV V) : vs V 7 < 2 ^ vs V 2 := K.2.1
/-- a finder's cell, clock -/
theorem OkV.cell {V : VS} (K : OkV V) {f x : Nat} (hf : f < vs V 1) (hx : x < vs V 0) : OkV (setT V 0 f x) := by
  obtain ⟨k1, k2, k3, k4, k5, k6, k7, k8, k9⟩ := K
  refine ⟨k1, k2, fun q hq => ?_, k4, k5, k6, k7, k8, k9⟩
  have := k3 q hq
  refine ⟨?_, this.2⟩
  rw [setT_t]
  show (if 0 = 0 ∧ q = f then x else vt V 0 q) < vs V 0
  split
  · exact hx
  · exact this.1
theorem OkV.clock {V : VS} (K : OkV V) {f x : Nat} (hf : f < vs V 1) (hx : x ≤ vs V 3) : OkV (setT V 3 f x) := by
  obtain ⟨k1, k2, k3, k4, k5, k6, k7, k8, k9⟩ := K
  refine ⟨k1, k2, fun q hq => ?_, k4, k5, k6, k7, k8, k9⟩
  have := k3 q hq
  refine ⟨this.1, this.2.1, this.2.2.1, ?_, this.2.2.2.2⟩
  rw [setT_t]
  show (if 3 = 3 ∧ q = f then x else vt V 3 q) ≤ vs V 3
  split
  · exact hx
  · exact this.2.2.2.1
theorem pou_up {V : VS} {f : Nat} (hf : f < vs V 1) (x : Nat) : pouV (setT V 2 f x) + vt V 2 f = pouV V + x := by
  have := sum_up (f := fun q => vt V 2 q) (g := fun q => vt (setT V 2 f x) 2 q) (i := f) (vs V 1) hf (fun k _ hk => by
    show vt (setT V 2 f x) 2 k = _
    rw [setT_t, if_neg (fun z => hk z.2)])
  have h2 : vt (setT V 2 f x) 2 f = x := by rw [setT_t, if_pos ⟨rfl, rfl⟩]
  have h3 : foldN (fun k c => c + vt (setT V 2 f x) 2 k) 0 (vs V 1) + vt V 2 f = foldN (fun k c => c + vt V 2 k) 0 (vs V 1) + vt (setT V 2 f x) 2 f := this
  rw [h2] at h3
  exact h3
theorem OkV.pouch {V : VS} (K : OkV V) {f x : Nat} (hf : f < vs V 1) (hx : totV V + x ≤ 150 + vt V 2 f) : OkV (setT V 2 f x) := by
  have hp := pou_up hf x
  unfold totV at hx
  obtain ⟨k1, k2, k3, k4, k5, k6, k7, k8, k9⟩ := K
  refine ⟨k1, k2, k3, k4, k5, k6, k7, k8, ?_⟩
  show pouV (setT V 2 f x) + vs V 8 ≤ 150
  omega
theorem ins_t7 (V : VS) (d k who m e : Nat) : vt (insK V d k who m) 7 e = if e = d then vt V 7 d + 1 else vt V 7 e := by
  rw [insK, setS_t, setT_t]
  by_cases h : e = d
  · rw [if_pos ⟨rfl, h⟩, if_pos h]
  · rw [if_neg (fun z => h z.2), if_neg h]; rfl
theorem del_t7 (V : VS) (d k e : Nat) : vt (delK V d k) 7 e = if e = d then vt V 7 d - 1 else vt V 7 e := by
  rw [delK, setS_t, setT_t]
  by_cases h : e = d
  · rw [if_pos ⟨rfl, h⟩, if_pos h]
  · rw [if_neg (fun z => h z.2), if_neg h]; rfl
theorem ins_p (V : VS) (d k who m j e i : Nat) : vp (insK V d k who m) j e i = if e = d then rowIn (vp V j d) k (if j = 0 then who else m) i else vp V j e i := by
  rw [insK, setS_p, setT_p, setP_p]
theorem del_p (V : VS) (d k j e i : Nat) : vp (delK V d k) j e i = if e = d then rowOut (vp V j d) k i else vp V j e i := by
  rw [delK, setS_p, setT_p, setP_p]
theorem ins_s (V : VS) (d k who m i : Nat) : vs (insK V d k who m) i = if i = 8 then vs V 8 + 1 else vs V i := rfl
theorem del_s (V : VS) (d k i : Nat) : vs (delK V d k) i = if i = 8 then vs V 8 - 1 else vs V i := rfl
theorem ins_t (V : VS) (d k who m j i : Nat) (h : j ≠ 7) : vt (insK V d k who m) j i = vt V j i := by
  rw [insK, setS_t, setT_t, if_neg (fun z => h z.1)]; rfl
theorem del_t (V : VS) (d k j i : Nat) (h : j ≠ 7) : vt (delK V d k) j i = vt V j i := by
  rw [delK, setS_t, setT_t, if_neg (fun z => h z.1)]; rfl
theorem OkV.ins {V : VS} (K : OkV V) {d who m : Nat} (hd : d < 8) (hT : isT V d) (hw : who < vs V 1) (hm : m ≤ vs V 3) (h8 : vs V 8 < 60) (ht : totV V < 150) : OkV (insV V d who m) := by
  have hT2 : ∀ e, isT (insV V d who m) e ↔ isT V e := fun e => Iff.rfl
  have hs8 := K.s8
  have hso := fun {i j : Nat} (hi : i ≤ j) (hj : j < vt V 7 d) => K.so hd hi hj
  have hp8 := fun {e : Nat} (he : e < 8) {k : Nat} (hk : k < vt V 7 e) => K.p he hk
  have hle := insP_le (vp V 1 d) m (vt V 7 d)
  have hhi := insP_hi (vp V 1 d) m (vt V 7 d)
  have hlo := insP_lo (vp V 1 d) m (vt V 7 d)
  unfold insV at *
  generalize insP (vp V 1 d) m (vt V 7 d) = q at *
  have hsum := sum_up (f := fun e => vt V 7 e) (g := fun e => vt (insK V d q who m) 7 e) (i := d) 8 hd (fun k _ hk => by
    show vt (insK V d q who m) 7 k = _
    rw [ins_t7, if_neg hk])
  have hd7 : vt (insK V d q who m) 7 d = vt V 7 d + 1 := by rw [ins_t7, if_pos rfl]
  have hsum : foldN (fun k c => c + vt (insK V d q who m) 7 k) 0 8 + vt V 7 d = foldN (fun k c => c + vt V 7 k) 0 8 + vt (insK V d q who m) 7 d := hsum
  rw [hd7, ← hs8] at hsum
  unfold totV at ht
  obtain ⟨k1, k2, k3, k4, k5, k6, k7, k8, k9⟩ := K
  refine ⟨?_, k2, ?_, ?_, fun e he => ?_, fun e he k hk => ?_, fun e he i j hij hj => ?_, ?_, ?_⟩
  · simp only [ins_s]
    exact ⟨k1.1, k1.2.1, k1.2.2.1, k1.2.2.2.1, k1.2.2.2.2.1, k1.2.2.2.2.2.1, k1.2.2.2.2.2.2.1, k1.2.2.2.2.2.2.2.1, k1.2.2.2.2.2.2.2.2.1, k1.2.2.2.2.2.2.2.2.2.1, by simp only [if_true]; omega⟩
  · intro f hf
    simp only [ins_t _ _ _ _ _ _ _ (show 0 ≠ 7 by decide), ins_t _ _ _ _ _ _ _ (show 1 ≠ 7 by decide), ins_t _ _ _ _ _ _ _ (show 3 ≠ 7 by decide), ins_t _ _ _ _ _ _ _ (show 4 ≠ 7 by decide)]
    exact k3 f hf
  · intro e he
    simp only [ins_t _ _ _ _ _ _ _ (show 5 ≠ 7 by decide), ins_t _ _ _ _ _ _ _ (show 6 ≠ 7 by decide)]
    exact k4 e he
  · refine ⟨?_, fun h0 => ?_⟩
    · have := foldN_le (f := fun k => vt (insK V d q who m) 7 k) 8 e he
      have : vt (insK V d q who m) 7 e ≤ foldN (fun k c => c + vt (insK V d q who m) 7 k) 0 8 := this
      omega
    · rw [hT2]
      by_cases h : e = d
      · rw [h]; exact hT
      · rw [ins_t7, if_neg h] at h0
        exact (k5 e he).2 h0
  · rw [ins_p, ins_p]
    show _ < vs V 1 ∧ _ ≤ vs V 3
    rw [ins_t7] at hk
    by_cases h : e = d
    · subst h
      rw [if_pos rfl] at hk
      rw [if_pos rfl, if_pos rfl, if_pos rfl, if_neg Nat.one_ne_zero]
      unfold rowIn
      by_cases h1 : k < q
      · rw [if_pos h1, if_pos h1]; exact hp8 he (by omega)
      · rw [if_neg h1, if_neg h1]
        by_cases h2 : k = q
        · rw [if_pos h2, if_pos h2]
          exact ⟨hw, hm⟩
        · rw [if_neg h2, if_neg h2]; exact hp8 he (by omega)
    · rw [if_neg h] at hk
      rw [if_neg h, if_neg h]; exact hp8 he hk
  · rw [ins_p, ins_p]
    rw [ins_t7] at hj
    by_cases h : e = d
    · subst h
      rw [if_pos rfl] at hj
      rw [if_pos rfl, if_pos rfl, if_neg Nat.one_ne_zero]
      have hlow : ∀ i, i < q → vp V 1 e i ≤ m := fun i hi => by
        have h1 := hlo (by omega)
        have h2 := hso (i := i) (j := q - 1) (by omega) (by omega)
        omega
      unfold rowIn
      by_cases h1 : j < q
      · rw [if_pos h1, if_pos (by omega)]; exact hso hij (by omega)
      · rw [if_neg h1]
        by_cases h2 : j = q
        · rw [if_pos h2]
          by_cases h3 : i < q
          · rw [if_pos h3]; exact hlow i h3
          · rw [if_neg h3, if_pos (by omega)]; exact Nat.le_refl _
        · rw [if_neg h2]
          by_cases h3 : i < q
          · rw [if_pos h3]; exact hso (by omega) (by omega)
          · rw [if_neg h3]
            by_cases h4 : i = q
            · rw [if_pos h4]
              exact Nat.le_of_lt (hhi (j - 1) (by omega) (by omega))
            · rw [if_neg h4]; exact hso (by omega) (by omega)
    · rw [if_neg h] at hj
      rw [if_neg h, if_neg h]; exact k7 e he i j hij hj
  · rw [ins_s, if_pos rfl]; omega
  · show foldN (fun f c => c + vt (insK V d q who m) 2 f) 0 (vs V 1) + vs (insK V d q who m) 8 ≤ 150
    rw [ins_s, if_pos rfl, sum_eq (f := fun f => vt V 2 f) (g := fun f => vt (insK V d q who m) 2 f) (vs V 1) (fun k _ => ins_t _ _ _ _ _ _ _ (by decide))]
    unfold pouV at ht
    omega
theorem OkV.del {V : VS} (K : OkV V) {d k : Nat} (hd : d < 8) (hk : k < vt V 7 d) : OkV (delK V d k) ∧ totV (delK V d k) + 1 = totV V := by
  have hT2 : ∀ e, isT (delK V d k) e ↔ isT V e := fun e => Iff.rfl
  have hs8 := K.s8
  have hso := fun {i j : Nat} (hi : i ≤ j) (hj : j < vt V 7 d) => K.so hd hi hj
  have hp8 := fun {e : Nat} (he : e < 8) {k : Nat} (hk : k < vt V 7 e) => K.p he hk
  have hsum := sum_up (f := fun e => vt V 7 e) (g := fun e => vt (delK V d k) 7 e) (i := d) 8 hd (fun i _ hi => by
    show vt (delK V d k) 7 i = _
    rw [del_t7, if_neg hi])
  have hd7 : vt (delK V d k) 7 d = vt V 7 d - 1 := by rw [del_t7, if_pos rfl]
  have hsum : foldN (fun i c => c + vt (delK V d k) 7 i) 0 8 + vt V 7 d = foldN (fun k c => c + vt V 7 k) 0 8 + vt (delK V d k) 7 d := hsum
  rw [hd7, ← hs8] at hsum
  have hd8 := foldN_le (f := fun e => vt V 7 e) 8 d hd
  have hd8 : vt V 7 d ≤ foldN (fun k c => c + vt V 7 k) 0 8 := hd8
  rw [← hs8] at hd8
  have hpou : pouV (delK V d k) = pouV V := sum_eq (f := fun f => vt V 2 f) (g := fun f => vt (delK V d k) 2 f) (vs V 1) (fun i _ => del_t _ _ _ _ _ (by decide))
  have htot : totV (delK V d k) + 1 = totV V := by
    unfold totV
    rw [hpou, del_s, if_pos rfl]
    omega
  refine ⟨?_, htot⟩
  have ht := K.t
  obtain ⟨k1, k2, k3, k4, k5, k6, k7, k8, k9⟩ := K
  refine ⟨?_, k2, ?_, ?_, fun e he => ?_, fun e he i hi => ?_, fun e he i j hij hj => ?_, ?_, ?_⟩
  · simp only [del_s]
    exact ⟨k1.1, k1.2.1, k1.2.2.1, k1.2.2.2.1, k1.2.2.2.2.1, k1.2.2.2.2.2.1, k1.2.2.2.2.2.2.1, k1.2.2.2.2.2.2.2.1, k1.2.2.2.2.2.2.2.2.1, k1.2.2.2.2.2.2.2.2.2.1, by simp only [if_true]; omega⟩
  · intro f hf
    simp only [del_t _ _ _ _ _ (show 0 ≠ 7 by decide), del_t _ _ _ _ _ (show 1 ≠ 7 by decide), del_t _ _ _ _ _ (show 3 ≠ 7 by decide), del_t _ _ _ _ _ (show 4 ≠ 7 by decide)]
    exact k3 f hf
  · intro e he
    simp only [del_t _ _ _ _ _ (show 5 ≠ 7 by decide), del_t _ _ _ _ _ (show 6 ≠ 7 by decide)]
    exact k4 e he
  · rw [hT2, del_t7]
    have := k5 e he
    by_cases h : e = d
    · subst h
      rw [if_pos rfl]
      exact ⟨by omega, fun z => this.2 (by omega)⟩
    · rw [if_neg h]; exact this
  · rw [del_p, del_p]
    show _ < vs V 1 ∧ _ ≤ vs V 3
    rw [del_t7] at hi
    by_cases h : e = d
    · subst h
      rw [if_pos rfl] at hi
      rw [if_pos rfl, if_pos rfl]
      unfold rowOut
      split
      · exact hp8 he (by omega)
      · exact hp8 he (by omega)
    · rw [if_neg h] at hi
      rw [if_neg h, if_neg h]; exact hp8 he hi
  · rw [del_p, del_p]
    rw [del_t7] at hj
    by_cases h : e = d
    · subst h
      rw [if_pos rfl] at hj
      rw [if_pos rfl, if_pos rfl]
      unfold rowOut
      by_cases h1 : j < k
      · rw [if_pos h1, if_pos (by omega)]; exact hso hij (by omega)
      · rw [if_neg h1]
        by_cases h3 : i < k
        · rw [if_pos h3]; exact hso (by omega) (by omega)
        · rw [if_neg h3]; exact hso (by omega) (by omega)
    · rw [if_neg h] at hj
      rw [if_neg h, if_neg h]; exact k7 e he i j hij hj
  · rw [del_s, if_pos rfl]; omega
  · show totV (delK V d k) ≤ 150
    omega
