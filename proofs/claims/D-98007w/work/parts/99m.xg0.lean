/-! A DAY's RUN as a tree (the component's), against the row of steps (the twin's) -/
set_option maxRecDepth 100000
/-- the state, how much the heaps hold, how many steps were run, whether it is over -/
abbrev XS : Type := RS × (Nat → Nat) × Nat × Nat
abbrev XS.R (s : XS) : RS := s.1
abbrev XS.q (s : XS) : Nat → Nat := s.2.1
abbrev XS.n (s : XS) : Nat := s.2.2.1
abbrev XS.o (s : XS) : Nat := s.2.2.2
/-- what a gull does to the rows' lengths -/
def gcQ (R : RS) (q : Nat → Nat) (s : Nat) : Nat → Nat :=
  if s ≤ drawV R.2.1 / 8 % 16 ∨ vs R.1 2 < 2 then q
  else if wgV R.1 (drawV (drawV R.2.1) / 8 % vs R.1 2) (gTo (drawV (drawV R.2.1) / 8 % vs R.1 2) (drawV (drawV (drawV R.2.1)) / 8 % (vs R.1 2 - 1))) = 0
    then capU R.1 q (gTo (drawV (drawV R.2.1) / 8 % vs R.1 2) (drawV (drawV (drawV R.2.1)) / 8 % (vs R.1 2 - 1))) else q
def capX (R : RS) (q : Nat → Nat) (r : Nat → Nat) : Nat → Nat :=
  if r 0 = 19 then (if wsetV R.1 (r 1) (r 2) = 0 then capU R.1 q (r 2) else q) else if r 0 = 22 then gcQ R q (r 1) else q
/-- the step behind step k -/
def nxt (P : PG) (k : Nat) : Nat := if pr P k 0 = 25 ∨ 2400 ≤ pr P k 0 then pr P k 4 + 1 else k + 1
/-- steps from k on, before e -/
def allX (P : PG) (G : Nat → XS → XS) : Nat → Nat → Nat → XS → XS
  | 0, _, _, s => s
  | f + 1, k, e, s => if e ≤ k ∨ s.o ≠ 0 then s else allX P G f (nxt P k) e (G k s)
def repX (F : XS → XS) : Nat → XS → XS
  | 0, s => s
  | t + 1, s => if s.o ≠ 0 then s else repX F t (F s)
def goX (P : PG) : Nat → Nat → XS → XS
  | 0, _, s => s
  | d + 1, k, s =>
    if s.n = 300 then ((s.R.1, s.R.2.1, va_up s.R.2.2 4 1), s.q, s.n, 1)
    else if pr P k 0 = 27 then (s.R, s.q, s.n + 1, 1)
    else if pr P k 0 = 25 then repX (allX P (goX P d) 61 (k + 1) (pr P k 4)) (pr P k 1) (s.R, s.q, s.n + 1, s.o)
    else if 2400 ≤ pr P k 0 then (if hD s.R.1 (pr P k) = 0 then (s.R, s.q, s.n + 1, s.o) else allX P (goX P d) 61 (k + 1) (pr P k 4) (s.R, s.q, s.n + 1, s.o))
    else (upC (doD s.R (pr P k)) 0 (fD s.R.1 (pr P k)), capX s.R s.q (pr P k), s.n + 1, s.o)
/-- a row of steps, by what holds of each -/
def Sq (P : PG) (S : Nat → Prop) : Nat → Nat → Nat → Prop
  | 0, k, e => k = e
  | f + 1, k, e => k = e ∨ (S k ∧ k < nxt P k ∧ nxt P k ≤ e ∧ Sq P S f (nxt P k) e)
/-- step k holds steps no deeper than d -/
def Stq (P : PG) : Nat → Nat → Prop
  | 0, _ => False
  | d + 1, k => k + 1 < pn P ∧ pr P k 0 ≠ 26 ∧ (pr P k 0 = 25 ∨ 2400 ≤ pr P k 0 → k < pr P k 4 ∧ pr P k 4 + 1 < pn P ∧ pr P (pr P k 4) 0 = 26 ∧ pr P (pr P k 4) 4 = k ∧ Sq P (Stq P d) 61 (k + 1) (pr P k 4))
section BEL
variable {P : PG} {nc nf nd : Nat}
theorem beM_next {k : Nat} {lo : Nat → Nat} (h : k < 61) : beM k lo = beM (k + 1) lo + 1 := by
  unfold beM
  omega
theorem beF_ind (O : OkP nc nf nd P) : ∀ f k (lo : Nat → Nat), beM k lo < f → k ≤ 61 → ∀ f2, beM k lo < f2 → beF P f k lo = beF P f2 k lo
  | 0, k, lo, h, _, _, _ => absurd h (Nat.not_lt_zero _)
  | f + 1, k, lo, h, hk, 0, h2 => absurd h2 (Nat.not_lt_zero _)
  | f + 1, k, lo, h, hk, f2 + 1, h2 => by
    unfold beF
    by_cases h1 : k + 1 < pn P ∧ pr P k 0 = 26
    · rw [if_pos h1, if_pos h1]
      have hp := O.1
      have ho : pr P k 4 < k := (O.2 k h1.1).2.2.2.2.2.2.2.2.2.2.2.1 h1.2
      by_cases h3 : pr P (pr P k 4) 0 = 25 ∧ 0 < lo (pr P k 4)
      · rw [if_pos h3, if_pos h3]
        have h4 := beM_again h3.2 (show pr P k 4 < 61 by omega) hk
        exact beF_ind O f _ _ (by omega) (by omega) f2 (by omega)
      · rw [if_neg h3, if_neg h3]
        have h4 := beM_next (lo := lo) (show k < 61 by omega)
        exact beF_ind O f _ _ (by omega) (by omega) f2 (by omega)
    · rw [if_neg h1, if_neg h1]
theorem beV_here {k : Nat} {lo : Nat → Nat} (h : pr P k 0 ≠ 26) : beV P k lo = (k, lo) := by
  unfold beV beF
  rw [if_neg (fun z => h z.2)]
theorem beV_out {k : Nat} {lo : Nat → Nat} (h : ¬ k + 1 < pn P) : beV P k lo = (k, lo) := by
  unfold beV beF
  rw [if_neg (fun z => h z.1)]
theorem beV_again (O : OkP nc nf nd P) {k : Nat} {lo : Nat → Nat} (h1 : k + 1 < pn P) (h2 : pr P k 0 = 26) (h3 : pr P (pr P k 4) 0 = 25) (h4 : 0 < lo (pr P k 4)) : beV P k lo = beV P (pr P k 4 + 1) (va_up lo (pr P k 4) (lo (pr P k 4) - 1)) := by
  have hp := O.1
  have ho : pr P k 4 < k := (O.2 k h1).2.2.2.2.2.2.2.2.2.2.2.1 h2
  have h5 := beM_again h4 (show pr P k 4 < 61 by omega) (show k ≤ 61 by omega)
  conv => lhs; unfold beV beF
  rw [if_pos ⟨h1, h2⟩, if_pos ⟨h3, h4⟩]
  exact beF_ind O _ _ _ h5 (by omega) _ (Nat.lt_succ_self _)
theorem beV_on (O : OkP nc nf nd P) {k : Nat} {lo : Nat → Nat} (h1 : k + 1 < pn P) (h2 : pr P k 0 = 26) (h3 : ¬ (pr P (pr P k 4) 0 = 25 ∧ 0 < lo (pr P k 4))) : beV P k lo = beV P (k + 1) lo := by
  have hp := O.1
  have h5 := beM_next (lo := lo) (show k < 61 by omega)
  conv => lhs; unfold beV beF
  rw [if_pos ⟨h1, h2⟩, if_neg h3]
  exact beF_ind O _ _ _ (by omega) (by omega) _ (Nat.lt_succ_self _)
/-- the run from row k on -/
def flR (P : PG) (k : Nat) (R : RS) (lo : Nat → Nat) (n : Nat) : RS × (Nat → Nat) × Nat := lvF P (301 - n) k R lo n
def beR (P : PG) (k : Nat) (lo : Nat → Nat) (R : RS) (n : Nat) : RS × (Nat → Nat) × Nat := flR P (beV P k lo).1 R (beV P k lo).2 n
theorem flR_300 {k : Nat} {R : RS} {lo : Nat → Nat} (h : k + 1 < pn P) : flR P k R lo 300 = ((R.1, R.2.1, va_up R.2.2 4 1), lo, 300) := by
  unfold flR
  rw [show 301 - 300 = 0 + 1 from rfl]
  unfold lvF
  rw [if_pos h, if_pos rfl]
theorem flR_end {k n : Nat} {R : RS} {lo : Nat → Nat} (h : ¬ k + 1 < pn P) : flR P k R lo n = (R, lo, n) := by
  unfold flR
  cases 301 - n with
  | zero => rfl
  | succ m => exact if_neg h
theorem flR_stop {k n : Nat} {R : RS} {lo : Nat → Nat} (h : k + 1 < pn P) (hn : n < 300) (h27 : pr P k 0 = 27) : flR P k R lo n = (R, lo, n + 1) := by
  unfold flR
  rw [show 301 - n = (300 - n) + 1 by omega]
  unfold lvF
  rw [if_pos h, if_neg (by omega), if_pos h27]
theorem flR_step {k n : Nat} {R : RS} {lo : Nat → Nat} (h : k + 1 < pn P) (hn : n < 300) (h27 : pr P k 0 ≠ 27) : flR P k R lo n = beR P (if 2400 ≤ pr P k 0 ∧ hD (doD R (pr P k)).1 (pr P k) = 0 then pr P k 4 + 1 else k + 1) (if pr P k 0 = 25 then va_up lo k (pr P k 1 - 1) else lo) (upC (doD R (pr P k)) 0 (fD R.1 (pr P k))) (n + 1) := by
  conv => lhs; unfold flR
  rw [show 301 - n = (300 - n) + 1 by omega]
  unfold lvF
  rw [if_pos h, if_neg (by omega), if_neg h27]
  unfold beR flR
  rw [show 301 - (n + 1) = 300 - n by omega]
theorem upC_0 (R : RS) (i : Nat) : upC R i 0 = R := by
  obtain ⟨V, x, c⟩ := R
  show (V, x, va_up c i (c i + 0)) = (V, x, c)
  congr 2
  funext k
  unfold va_up
  split
  · rename_i h
    rw [h]
    rfl
  · rfl
theorem doD_blk {R : RS} {r : Nat → Nat} (h : r 0 = 25 ∨ 2400 ≤ r 0) : doD R r = R ∧ fD R.1 r = 0 := by
  unfold doD fD
  rw [if_neg (by omega), if_neg (by omega), if_neg (by omega), if_neg (by omega), if_neg (by omega), if_neg (by omega), if_neg (by omega), if_neg (by omega), if_neg (by omega), if_neg (by omega), if_neg (by omega), if_neg (by omega)]
  exact ⟨rfl, rfl⟩
/-- what a part of the tree comes to, against the run: over, or the run goes on behind it -/
def Run (P : PG) (k0 e0 : Nat) (x : RS × (Nat → Nat) × Nat) (lo : Nat → Nat) (e : Nat) (s2 : XS) : Prop :=
  s2.n ≤ 300 ∧ (s2.o = 1 ∧ x.1 = s2.R ∧ x.2.2 = s2.n ∨ s2.o = 0 ∧ ∃ lo2 : Nat → Nat, (∀ o, o < k0 ∨ e0 ≤ o → lo2 o = lo o) ∧ x = beR P e lo2 s2.R s2.n)
theorem Run.mono {k0 e0 k1 e1 e : Nat} {x : RS × (Nat → Nat) × Nat} {lo : Nat → Nat} {s2 : XS} (h : Run P k0 e0 x lo e s2) (h1 : k1 ≤ k0) (h2 : e0 ≤ e1) : Run P k1 e1 x lo e s2 := by
  obtain ⟨h3, h4⟩ := h
  refine ⟨h3, ?_⟩
  rcases h4 with h4 | ⟨h4, lo2, h5, h6⟩
  · exact Or.inl h4
  · exact Or.inr ⟨h4, lo2, fun o ho => h5 o (by omega), h6⟩
theorem all_run {G : Nat → XS → XS} {S : Nat → Prop} (hS : ∀ k, S k → pr P k 0 ≠ 26) (hG : ∀ k (s : XS) lo, S k → s.o = 0 → s.n ≤ 300 → Run P k (nxt P k) (flR P k s.R lo s.n) lo (nxt P k) (G k s)) :
    ∀ f k e (s : XS) lo, Sq P S f k e → s.o = 0 → s.n ≤ 300 → k ≤ e ∧ Run P k e (beR P k lo s.R s.n) lo e (allX P G f k e s)
  | 0, k, e, s, lo, h, ho, hn => by
    have h1 : k = e := h
    subst h1
    exact ⟨Nat.le_refl _, hn, Or.inr ⟨ho, lo, fun _ _ => rfl, rfl⟩⟩
  | f + 1, k, e, s, lo, h, ho, hn => by
    rcases h with h | ⟨h1, h2, h3, h4⟩
    · subst h
      rw [allX, if_pos (Or.inl (Nat.le_refl _))]
      exact ⟨Nat.le_refl _, hn, Or.inr ⟨ho, lo, fun _ _ => rfl, rfl⟩⟩
    · rw [allX, if_neg (by omega)]
      have g1 := hG k s lo h1 ho hn
      have e1 : beR P k lo s.R s.n = flR P k s.R lo s.n := by
        unfold beR
        rw [beV_here (hS k h1)]
      obtain ⟨g2, g3⟩ := g1
      rcases g3 with ⟨g3, g4, g5⟩ | ⟨g3, lo2, g4, g5⟩
      · have e2 : allX P G f (nxt P k) e (G k s) = G k s := by
          cases f with
          | zero => rfl
          | succ f => rw [allX, if_pos (Or.inr (by omega))]
        rw [e2, e1]
        exact ⟨by omega, g2, Or.inl ⟨g3, g4, g5⟩⟩
      · obtain ⟨i1, i2⟩ := all_run hS hG f (nxt P k) e (G k s) lo2 h4 g3 g2
        refine ⟨by omega, ?_⟩
        rw [e1, g5]
        obtain ⟨i3, i4⟩ := i2
        refine ⟨i3, ?_⟩
        rcases i4 with i4 | ⟨i4, lo3, i5, i6⟩
        · exact Or.inl i4
        · exact Or.inr ⟨i4, lo3, fun o ho => (i5 o (by omega)).trans (g4 o (by omega)), i6⟩
/-- a loop that goes t times more: its row counts t - 1 -/
theorem rep_run (O : OkP nc nf nd P) {k e : Nat} {F : XS → XS} (hk : k < e) (he : e + 1 < pn P) (h26 : pr P e 0 = 26) (h4 : pr P e 4 = k) (h25 : pr P k 0 = 25)
    (hF : ∀ (s : XS) lo, s.o = 0 → s.n ≤ 300 → Run P (k + 1) e (beR P (k + 1) lo s.R s.n) lo e (F s)) :
    ∀ t (s : XS) lo, lo k = t → s.o = 0 → s.n ≤ 300 → Run P k (e + 1) (beR P (k + 1) lo s.R s.n) lo (e + 1) (repX F (t + 1) s)
  | t, s, lo, ht, ho, hn => by
    rw [repX, if_neg (by omega)]
    obtain ⟨g2, g3⟩ := hF s lo ho hn
    rcases g3 with ⟨g3, g4, g5⟩ | ⟨g3, lo2, g4, g5⟩
    · have e2 : repX F t (F s) = F s := by
        cases t with
        | zero => rfl
        | succ t => rw [repX, if_pos (by omega)]
      rw [e2]
      exact ⟨g2, Or.inl ⟨g3, g4, g5⟩⟩
    · have hlk : lo2 k = t := (g4 k (by omega)).trans ht
      rw [g5]
      cases t with
      | zero =>
        show Run P k (e + 1) (beR P e lo2 (F s).R (F s).n) lo (e + 1) (F s)
        refine ⟨g2, Or.inr ⟨g3, lo2, fun o ho => g4 o (by omega), ?_⟩⟩
        unfold beR
        rw [beV_on O he h26 (by rw [h4]; omega)]
      | succ t =>
        have e3 : beR P e lo2 (F s).R (F s).n = beR P (k + 1) (va_up lo2 k t) (F s).R (F s).n := by
          unfold beR
          rw [beV_again O he h26 (by rw [h4]; exact h25) (by rw [h4]; omega), h4, hlk]
          rfl
        rw [e3]
        obtain ⟨i3, i4⟩ := rep_run O hk he h26 h4 h25 hF t (F s) (va_up lo2 k t) (va_up_self _ _ _) g3 g2
        refine ⟨i3, ?_⟩
        rcases i4 with i4 | ⟨i4, lo3, i5, i6⟩
        · exact Or.inl i4
        · exact Or.inr ⟨i4, lo3, fun o ho => (i5 o ho).trans ((va_up_ne _ _ (by omega)).trans (g4 o (by omega))), i6⟩
theorem go_run (O : OkP nc nf nd P) : ∀ d k (s : XS) lo, Stq P d k → s.o = 0 → s.n ≤ 300 → Run P k (nxt P k) (flR P k s.R lo s.n) lo (nxt P k) (goX P d k s)
  | 0, k, s, lo, h, _, _ => absurd h id
  | d + 1, k, s, lo, h, ho, hn => by
    obtain ⟨h1, h26, hb⟩ := h
    have hall := all_run (G := goX P d) (S := Stq P d) (fun k hk => by
      cases d with
      | zero => exact absurd hk id
      | succ d => exact hk.2.1) (go_run O d)
    rw [goX]
    by_cases h300 : s.n = 300
    · rw [if_pos h300, h300, flR_300 h1]
      exact ⟨Nat.le_refl _, Or.inl ⟨rfl, rfl, rfl⟩⟩
    · rw [if_neg h300]
      by_cases h27 : pr P k 0 = 27
      · rw [if_pos h27, flR_stop h1 (by omega) h27]
        exact ⟨by show s.n + 1 ≤ 300; omega, Or.inl ⟨rfl, rfl, rfl⟩⟩
      · rw [if_neg h27, flR_step h1 (by omega) h27]
        by_cases h25 : pr P k 0 = 25
        · obtain ⟨b1, b2, b3, b4, b5⟩ := hb (Or.inl h25)
          have ok := (O.2 k h1).2.2.2.2.2.2.2.2.2.2.1 h25
          obtain ⟨t, ht⟩ : ∃ t, pr P k 1 = t + 1 := ⟨pr P k 1 - 1, by omega⟩
          rw [if_pos h25, if_neg (by omega), if_pos h25, (doD_blk (Or.inl h25)).1, (doD_blk (Or.inl h25)).2, upC_0, ht, Nat.add_sub_cancel]
          have hx : nxt P k = pr P k 4 + 1 := if_pos (Or.inl h25)
          rw [hx]
          have hr := rep_run O b1 b2 b3 b4 h25 (fun s lo a b => (hall 61 (k + 1) (pr P k 4) s lo b5 a b).2) t (s.R, s.q, s.n + 1, s.o) (va_up lo k t) (va_up_self _ _ _) ho (by show s.n + 1 ≤ 300; omega)
          obtain ⟨i3, i4⟩ := hr
          refine ⟨i3, ?_⟩
          rcases i4 with i4 | ⟨i4, lo3, i5, i6⟩
          · exact Or.inl i4
          · exact Or.inr ⟨i4, lo3, fun o ho => (i5 o ho).trans (va_up_ne _ _ (by omega)), i6⟩
        · rw [if_neg h25, if_neg h25]
          by_cases h24 : 2400 ≤ pr P k 0
          · obtain ⟨b1, b2, b3, b4, b5⟩ := hb (Or.inr h24)
            have hx : nxt P k = pr P k 4 + 1 := if_pos (Or.inr h24)
            rw [if_pos h24, (doD_blk (Or.inr h24)).1, (doD_blk (Or.inr h24)).2, upC_0, hx]
            by_cases hd : hD s.R.1 (pr P k) = 0
            · rw [if_pos hd, if_pos ⟨h24, hd⟩]
              exact ⟨by show s.n + 1 ≤ 300; omega, Or.inr ⟨ho, lo, fun _ _ => rfl, rfl⟩⟩
            · rw [if_neg hd, if_neg (fun z => hd z.2)]
              obtain ⟨-, i3, i4⟩ := hall 61 (k + 1) (pr P k 4) (s.R, s.q, s.n + 1, s.o) lo b5 ho (by show s.n + 1 ≤ 300; omega)
              refine ⟨i3, ?_⟩
              rcases i4 with i4 | ⟨i4, lo3, i5, i6⟩
              · exact Or.inl i4
              · refine Or.inr ⟨i4, lo3, fun o ho => i5 o (by omega), i6.trans ?_⟩
                unfold beR
                rw [beV_on O b2 b3 (by rw [b4]; omega)]
          · have hx : nxt P k = k + 1 := if_neg (by omega)
            rw [if_neg h24, if_neg (fun z => h24 z.1), hx]
            exact ⟨by show s.n + 1 ≤ 300; omega, Or.inr ⟨ho, lo, fun _ _ => rfl, rfl⟩⟩
/-- the whole run -/
theorem days_run (O : OkP nc nf nd P) {d : Nat} {V : VS} {q lo : Nat → Nat} {seed : Nat} (hp : 0 < pn P) (h : Sq P (Stq P d) 61 0 (pn P - 1)) : (livesV V P lo seed).1 = (allX P (goX P d) 61 0 (pn P - 1) ((V, seed, fun _ => 0), q, 0, 0)).R ∧ (livesV V P lo seed).2.2 = (allX P (goX P d) 61 0 (pn P - 1) ((V, seed, fun _ => 0), q, 0, 0)).n := by
  have hS : ∀ k, Stq P d k → pr P k 0 ≠ 26 := fun k hk => by
    cases d with
    | zero => exact absurd hk id
    | succ d => exact hk.2.1
  obtain ⟨-, h1, h2⟩ := all_run hS (go_run O d) 61 0 (pn P - 1) ((V, seed, fun _ => 0), q, 0, 0) lo h rfl (Nat.zero_le _)
  have e1 : beR P 0 lo (V, seed, fun _ => 0) 0 = livesV V P lo seed := by
    have hb : beV P 0 lo = (0, lo) := by
      rcases h with h | h
      · exact beV_out (by omega)
      · exact beV_here (hS 0 h.1)
    unfold beR
    rw [hb]
    rfl
  rw [show beR P 0 lo (XS.R ((V, seed, fun _ => 0), q, 0, 0)) (XS.n ((V, seed, fun _ => 0), q, 0, 0)) = livesV V P lo seed from e1] at h2
  rcases h2 with ⟨-, h3, h4⟩ | ⟨-, lo2, -, h3⟩
  · exact ⟨h3, h4⟩
  · have h5 : ∀ R n, beR P (pn P - 1) lo2 R n = (R, lo2, n) := fun R n => by
      unfold beR
      rw [beV_out (by omega)]
      exact flR_end (by omega)
    rw [h5] at h3
    rw [h3]
    exact ⟨rfl, rfl⟩
end BEL
