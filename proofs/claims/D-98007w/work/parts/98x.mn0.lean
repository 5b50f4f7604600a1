/-! MEAN (pure) and how the twin holds it -/
set_option maxRecDepth 100000
theorem lvF_lo {P : PG} {nc nf nd : Nat} (O : OkP nc nf nd P) : ∀ f k (R : RS) lo s, (∀ o, lo o < 2147483648) → ∀ o, (lvF P f k R lo s).2.1 o < 2147483648
  | 0, _, _, lo, _, h => h
  | f + 1, k, R, lo, s, h => by
    unfold lvF
    split
    · rename_i hk
      have hr := O.2 k hk
      split
      · exact h
      · split
        · exact h
        · refine lvF_lo O f _ _ _ _ ?_
          refine beF_lo _ _ _ (fun o => ?_)
          split
          · rename_i h25
            have h99 := (hr.2.2.2.2.2.2.2.2.2.2.1 h25).2
            unfold va_up
            split
            · omega
            · exact h o
          · exact h o
    · exact h
theorem lvF_ok {P : PG} {V0 : VS} (O : OkP (vs V0 0) (vs V0 1) (vs V0 2) P) : ∀ f k (R : RS) lo s, OkR V0 R → OkR V0 (lvF P f k R lo s).1
  | 0, _, _, _, _, h => h
  | f + 1, k, R, lo, s, h => by
    unfold lvF
    split
    · rename_i hk
      have hr := O.2 k hk
      split
      · exact ⟨h.1, h.2.1, h.2.2.1, h.2.2.2⟩
      · split
        · exact h
        · refine lvF_ok O f _ _ _ _ ?_
          have h2 := h.do hr
          exact ⟨h2.1, h2.2.1, h2.2.2.1, h2.2.2.2⟩
    · exact h
theorem livesV_ok {P : PG} {V : VS} {lo : Nat → Nat} {seed : Nat} (K : OkV V) (hk : KepV V) (O : OkP (vs V 0) (vs V 1) (vs V 2) P) (hs : seed < 65536) : OkR V (livesV V P lo seed).1 := lvF_ok O _ _ _ _ _ ⟨K, hk, hs, rfl, rfl, rfl⟩
/-- the loops after i runs, and what a finder kept in all of them -/
def mnV (V : VS) (P : PG) (f seed : Nat) (lo : Nat → Nat) : Nat → (Nat → Nat) × Nat
  | 0 => (lo, 0)
  | i + 1 => ((livesV V P (mnV V P f seed lo i).1 (seed + i)).2.1, (mnV V P f seed lo i).2 + vt (livesV V P (mnV V P f seed lo i).1 (seed + i)).1.1 4 f)
def w_mean (V : VS) (P : PG) (x y z : Int32) : Nat := if inN x (vs V 1) ∧ inN y 10000 ∧ inN z 21 ∧ z ≠ nI 0 ∧ cl y + cl z ≤ 10000 then (if pn P = 0 then 6 else 0) else 1
def cpW (a : Nat → Int32) (k : Nat) : Nat → Int32 := fun i => if 7000 ≤ i ∧ i < 7000 + k then a (i - 7000) else a i
theorem cpW_0 (a : Nat → Int32) : cpW a 0 = a := by
  funext i
  unfold cpW
  rw [if_neg (by omega)]
theorem cpW_s (a : Nat → Int32) (k : Nat) (h : k < 1030) : upd (cpW a k) (7000 + k) (cpW a k k) = cpW a (k + 1) := by
  funext i
  show (if i = 7000 + k then (if 7000 ≤ k ∧ k < 7000 + k then a (k - 7000) else a k) else if 7000 ≤ i ∧ i < 7000 + k then a (i - 7000) else a i) = if 7000 ≤ i ∧ i < 7000 + (k + 1) then a (i - 7000) else a i
  by_cases h1 : i = 7000 + k
  · subst h1
    rw [if_pos rfl, if_neg (by omega), if_pos (by omega), Nat.add_sub_cancel_left]
  · rw [if_neg h1]
    by_cases h3 : 7000 ≤ i ∧ i < 7000 + k
    · rw [if_pos h3, if_pos (by omega)]
    · rw [if_neg h3, if_neg (by omega)]
def cpV (a : Nat → Int32) (k : Nat) : Nat → Int32 := fun i => if i < k then a (7000 + i) else a i
theorem cpV_0 (a : Nat → Int32) : cpV a 0 = a := rfl
theorem cpV_s (a : Nat → Int32) (k : Nat) (h : k < 1030) : upd (cpV a k) k (cpV a k (7000 + k)) = cpV a (k + 1) := by
  funext i
  show (if i = k then (if 7000 + k < k then a (7000 + (7000 + k)) else a (7000 + k)) else if i < k then a (7000 + i) else a i) = if i < k + 1 then a (7000 + i) else a i
  by_cases h1 : i = k
  · subst h1
    rw [if_pos rfl, if_neg (by omega), if_pos (by omega)]
  · rw [if_neg h1]
    by_cases h3 : i < k
    · rw [if_pos h3, if_pos (by omega)]
    · rw [if_neg h3, if_neg (by omega)]
/-- what mean may change -/
def FrM (S S2 : MS) : Prop := (∀ k, k ≠ 31 → k ≠ 32 → mI S2 k = mI S k) ∧ (∀ k, mL S2 k = mL S k) ∧ (∀ k, k ≠ 0 → k ≠ 33 → k ≠ 34 → mA S2 k = mA S k) ∧ (∀ k, mB S2 k = mB S k) ∧ ∀ i, i < 7000 → mA S2 0 i = mA S 0 i
theorem FrM.back {S S4 S5 : MS} (h : FrM S S4) (h7 : ∀ k, k < 1030 → mA S4 0 (7000 + k) = mA S 0 k) (hR : FrR S4 S5) : FrM S (setAt S5 (cpV (mA S5 0) 1030)) ∧ ∀ k, k < 1030 → mA (setAt S5 (cpV (mA S5 0) 1030)) 0 (7000 + k) = mA S 0 k := by
  have e7 : ∀ k, k < 1030 → mA S5 0 (7000 + k) = mA S 0 k := fun k hk => (hR.2.2.2.2.1 _ (by omega)).trans (h7 k hk)
  refine ⟨⟨fun k a b => (hR.1 k a b).trans (h.1 k a b), fun k => (hR.2.1 k).trans (h.2.1 k), fun k a b c => ?_, fun k => (hR.2.2.2.1 k).trans (h.2.2.2.1 k), fun i hi => ?_⟩, fun k hk => ?_⟩
  · show va_up S5.2.2.1 0 _ k = _
    unfold va_up
    rw [if_neg a]
    exact (hR.2.2.1 k a b c).trans (h.2.2.1 k a b c)
  · show cpV (mA S5 0) 1030 i = _
    unfold cpV
    split
    · rename_i h1
      exact e7 i h1
    · exact (hR.2.2.2.2.1 i (by omega)).trans (h.2.2.2.2 i hi)
  · show cpV (mA S5 0) 1030 (7000 + k) = _
    unfold cpV
    rw [if_neg (by omega)]
    exact e7 k hk
theorem FrM.start (S : MS) : FrM S (setAt S (cpW (mA S 0) 1030)) ∧ ∀ k, k < 1030 → mA (setAt S (cpW (mA S 0) 1030)) 0 (7000 + k) = mA S 0 k := by
  refine ⟨⟨fun _ _ _ => rfl, fun _ => rfl, fun k a _ _ => ?_, fun _ => rfl, fun i hi => ?_⟩, fun k hk => ?_⟩
  · show va_up S.2.2.1 0 _ k = _
    unfold va_up
    rw [if_neg a]
    rfl
  · show cpW (mA S 0) 1030 i = _
    unfold cpW
    rw [if_neg (by omega)]
  · show cpW (mA S 0) 1030 (7000 + k) = _
    unfold cpW
    rw [if_pos (by omega), Nat.add_sub_cancel_left]
theorem FrM.E {S S2 : MS} {V : VS} (h : FrM S S2) (K : OkV V) (E : Enc S V) : Enc S2 V := EncA.congr (fun d hd => K.n hd) E (fun k hk => h.2.2.2.2 k (by omega))
theorem FrM.P {S S2 : MS} {P : PG} (h : FrM S S2) (hp : pn P ≤ 61) (E : EncP S P) : EncP S2 P := ⟨(h.2.2.2.2 9 (by omega)).trans E.1, fun k hk j hj hu => (h.2.2.2.2 _ (by omega)).trans (E.2 k hk j hj hu)⟩
theorem mnV_le {V : VS} {P : PG} {f seed : Nat} {lo : Nat → Nat} (K : OkV V) (hk : KepV V) (O : OkP (vs V 0) (vs V 1) (vs V 2) P) (hf : f < vs V 1) (hlo : ∀ o, lo o < 2147483648) : ∀ i, seed + i ≤ 10000 → (mnV V P f seed lo i).2 ≤ 1000000 * i ∧ ∀ o, (mnV V P f seed lo i).1 o < 2147483648
  | 0, _ => ⟨Nat.le_refl _, hlo⟩
  | i + 1, h => by
    have h1 := mnV_le (seed := seed) K hk O hf hlo i (by omega)
    have h2 := livesV_ok (lo := (mnV V P f seed lo i).1) (seed := seed + i) K hk O (by omega)
    have h3 := (h2.1.f (f := f) (by rw [h2.2.2.2.2.1]; exact hf)).2.2.2.2.2
    refine ⟨?_, lvF_lo O _ _ _ _ _ h1.2⟩
    show (mnV V P f seed lo i).2 + vt (livesV V P (mnV V P f seed lo i).1 (seed + i)).1.1 4 f ≤ _
    omega
theorem setAt_ne {S : MS} {a : Nat → Int32} {j : Nat} (h : j ≠ 0) : mA (setAt S a) j = mA S j := by
  show va_up S.2.2.1 0 a j = _
  unfold va_up
  rw [if_neg h]
  rfl
