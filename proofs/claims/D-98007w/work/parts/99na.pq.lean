/-! RUNS: what the heaps' rows may still cost -/
set_option maxRecDepth 100000
def pq (q : Nat → Nat) : Nat := foldN (fun d c => c + (64 - q d)) 0 8
theorem capO_half {c n : Nat} (h : capO c) (hn : n < 60) (e : n = c) : 4 ≤ c ∧ 2 * c ≤ 64 := by
  unfold capO at h
  omega
theorem cap_cost {V : VS} {q : Nat → Nat} {d : Nat} (hd : d < 8) (h : vt V 7 d = q d → 4 ≤ q d ∧ 2 * q d ≤ 64) : (if vt V 7 d = q d then 2 else 0) ≤ (pq q - pq (capU V q d)) / 2 ∧ (if vt V 7 d = q d then 4 * q d else 0) ≤ 4 * (pq q - pq (capU V q d)) := by
  have h1 := sum_up (f := fun e => 64 - q e) (g := fun e => 64 - capU V q d e) (i := d) 8 hd (fun k _ hk => by
    show 64 - va_up q d _ k = 64 - q k
    rw [va_up_ne _ _ hk])
  have h2 : capU V q d d = if vt V 7 d = q d then 2 * q d else q d := va_up_self _ _ _
  rw [h2] at h1
  unfold pq
  by_cases z : vt V 7 d = q d
  · have h3 := h z
    rw [if_pos z] at h1
    rw [if_pos z, if_pos z]
    generalize foldN (fun k c => c + (64 - capU V q d k)) 0 8 = A at *
    generalize foldN (fun k c => c + (64 - q k)) 0 8 = A2 at *
    omega
  · rw [if_neg z, if_neg z]
    omega
theorem EncD.half {g : GG} {C : CS} {j d : Nat} {V : VS} {q : Nat → Nat} (E : EncD g C j V q) (hd : d < 8) (hn : vt V 7 d < 60) : vt V 7 d = q d → 4 ≤ q d ∧ 2 * q d ≤ 64 := fun e => capO_half (E.h hd).2.2.1 hn e
theorem pq_mono {q q2 : Nat → Nat} (h : ∀ d, q d ≤ q2 d) : pq q2 ≤ pq q := by
  have h1 : ∀ n, foldN (fun d c => c + (64 - q2 d)) 0 n ≤ foldN (fun d c => c + (64 - q d)) 0 n := by
    intro n
    induction n with
    | zero => exact Nat.le_refl _
    | succ n ih =>
      show foldN (fun d c => c + (64 - q2 d)) 0 n + (64 - q2 n) ≤ foldN (fun d c => c + (64 - q d)) 0 n + (64 - q n)
      have := h n
      omega
  exact h1 8
theorem capU_le (V : VS) (q : Nat → Nat) (d : Nat) : ∀ e, q e ≤ capU V q d e := fun e => by
  unfold capU va_up
  split
  · rename_i h
    subst h
    split <;> omega
  · exact Nat.le_refl _
theorem capX_le (R : RS) (q r : Nat → Nat) : ∀ e, q e ≤ capX R q r e := fun e => by
  unfold capX
  split
  · split
    · exact capU_le _ _ _ e
    · exact Nat.le_refl _
  · split
    · unfold gcQ
      split
      · exact Nat.le_refl _
      · split
        · exact capU_le _ _ _ e
        · exact Nat.le_refl _
    · exact Nat.le_refl _
theorem all_le {P : PG} {G : Nat → XS → XS} (hG : ∀ k (s : XS) e, s.q e ≤ (G k s).q e) : ∀ f k e0 (s : XS) e, s.q e ≤ (allX P G f k e0 s).q e
  | 0, _, _, _, _ => Nat.le_refl _
  | f + 1, k, e0, s, e => by
    rw [allX]
    split
    · exact Nat.le_refl _
    · exact Nat.le_trans (hG k s e) (all_le hG f _ _ _ e)
theorem rep_le {F : XS → XS} (hF : ∀ (s : XS) e, s.q e ≤ (F s).q e) : ∀ t (s : XS) e, s.q e ≤ (repX F t s).q e
  | 0, _, _ => Nat.le_refl _
  | t + 1, s, e => by
    rw [repX]
    split
    · exact Nat.le_refl _
    · exact Nat.le_trans (hF s e) (rep_le hF t _ e)
theorem go_le (P : PG) : ∀ d k (s : XS) e, s.q e ≤ (goX P d k s).q e
  | 0, _, _, _ => Nat.le_refl _
  | d + 1, k, s, e => by
    have ha := all_le (P := P) (go_le P d)
    rw [goX]
    split
    · exact Nat.le_refl _
    · split
      · exact Nat.le_refl _
      · split
        · exact rep_le (fun s e => ha 61 (k + 1) (pr P k 4) s e) (pr P k 1) (s.R, s.q, s.n + 1, s.o) e
        · split
          · split
            · exact Nat.le_refl _
            · exact ha 61 (k + 1) (pr P k 4) (s.R, s.q, s.n + 1, s.o) e
          · exact capX_le _ _ _ e
/-! what a run keeps -/
theorem all_ok {P : PG} {V0 : VS} {S : Nat → Prop} {G : Nat → XS → XS} (hG : ∀ k (s : XS), S k → OkR V0 s.R → OkR V0 (G k s).R) : ∀ f k e (s : XS), Sq P S f k e → OkR V0 s.R → OkR V0 (allX P G f k e s).R
  | 0, _, _, _, _, h => h
  | f + 1, k, e, s, hs, h => by
    rw [allX]
    split
    · exact h
    · rename_i hz
      rcases hs with hs | ⟨h1, h2, h3, h4⟩
      · omega
      · exact all_ok hG f _ _ _ h4 (hG k s h1 h)
theorem rep_ok {V0 : VS} {F : XS → XS} (hF : ∀ (s : XS), OkR V0 s.R → OkR V0 (F s).R) : ∀ t (s : XS), OkR V0 s.R → OkR V0 (repX F t s).R
  | 0, _, h => h
  | t + 1, s, h => by
    rw [repX]
    split
    · exact h
    · exact rep_ok hF t _ (hF s h)
theorem go_ok {P : PG} {V0 : VS} (O : OkP (vs V0 0) (vs V0 1) (vs V0 2) P) : ∀ d k (s : XS), Stq P d k → OkR V0 s.R → OkR V0 (goX P d k s).R
  | 0, _, _, hs, _ => absurd hs id
  | d + 1, k, s, hs, h => by
    obtain ⟨hk, -, hb⟩ := hs
    have hO := O.2 k hk
    have ha := all_ok (P := P) (go_ok O d)
    rw [goX]
    split
    · exact h
    · split
      · exact h
      · split
        · rename_i h25
          exact rep_ok (fun s hs => ha 61 (k + 1) (pr P k 4) s (hb (Or.inl h25)).2.2.2.2 hs) (pr P k 1) (s.R, s.q, s.n + 1, s.o) h
        · split
          · rename_i h24
            split
            · exact h
            · exact ha 61 (k + 1) (pr P k 4) (s.R, s.q, s.n + 1, s.o) (hb (Or.inr h24)).2.2.2.2 h
          · exact h.do (n := pn P - 1) (k := k) hO
