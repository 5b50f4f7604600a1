/-! CHANGES of the day V, and of the twin's row of ints -/
set_option maxRecDepth 100000
def setS (V : VS) (k x : Nat) : VS := (va_up V.1 k x, V.2)
def setT (V : VS) (j i x : Nat) : VS := (V.1, va_up V.2.1 j (va_up (V.2.1 j) i x), V.2.2)
def setP (V : VS) (d : Nat) (q : Nat → Nat → Nat) : VS := (V.1, V.2.1, fun j => va_up (V.2.2 j) d (q j))
theorem setS_s (V : VS) (k x i : Nat) : vs (setS V k x) i = if i = k then x else vs V i := rfl
theorem setS_t (V : VS) (k x j i : Nat) : vt (setS V k x) j i = vt V j i := rfl
theorem setS_p (V : VS) (k x j d i : Nat) : vp (setS V k x) j d i = vp V j d i := rfl
theorem setT_s (V : VS) (j i x k : Nat) : vs (setT V j i x) k = vs V k := rfl
theorem setT_t (V : VS) (j i x a b : Nat) : vt (setT V j i x) a b = if a = j ∧ b = i then x else vt V a b := by
  show (va_up V.2.1 j (va_up (V.2.1 j) i x)) a b = _
  unfold va_up
  by_cases h : a = j
  · subst h
    rw [if_pos rfl]
    by_cases h2 : b = i
    · rw [if_pos h2, if_pos ⟨rfl, h2⟩]
    · rw [if_neg h2, if_neg (fun z => h2 z.2)]
      rfl
  · rw [if_neg h, if_neg (fun z => h z.1)]
    rfl
theorem setT_p (V : VS) (j i x a d k : Nat) : vp (setT V j i x) a d k = vp V a d k := rfl
theorem setP_s (V : VS) (d : Nat) (q : Nat → Nat → Nat) (k : Nat) : vs (setP V d q) k = vs V k := rfl
theorem setP_t (V : VS) (d : Nat) (q : Nat → Nat → Nat) (a b : Nat) : vt (setP V d q) a b = vt V a b := rfl
theorem setP_p (V : VS) (d : Nat) (q : Nat → Nat → Nat) (j e k : Nat) : vp (setP V d q) j e k = if e = d then q j k else vp V j e k := by
  show va_up (V.2.2 j) d (q j) e k = _
  unfold va_up
  split <;> rfl
/-- where a pebble of minute m comes to stand among n -/
def insP (tim : Nat → Nat) (m : Nat) : Nat → Nat
  | 0 => 0
  | k + 1 => if m < tim k then insP tim m k else k + 1
theorem insP_le (tim : Nat → Nat) (m : Nat) : ∀ n, insP tim m n ≤ n
  | 0 => Nat.le_refl _
  | n + 1 => by
    unfold insP
    split
    · exact Nat.le_succ_of_le (insP_le tim m n)
    · exact Nat.le_refl _
theorem insP_hi (tim : Nat → Nat) (m : Nat) : ∀ n k, insP tim m n ≤ k → k < n → m < tim k
  | 0, k, _, h => absurd h (Nat.not_lt_zero k)
  | n + 1, k, h1, h2 => by
    unfold insP at h1
    split at h1
    · rename_i h3
      by_cases h4 : k = n
      · rw [h4]; exact h3
      · exact insP_hi tim m n k h1 (by omega)
    · omega
theorem insP_lo (tim : Nat → Nat) (m : Nat) : ∀ n, 0 < insP tim m n → ¬ m < tim (insP tim m n - 1)
  | 0, h => absurd h (by simp [insP])
  | n + 1, h => by
    unfold insP at h ⊢
    split
    · rename_i h3
      rw [if_pos h3] at h
      exact insP_lo tim m n h
    · rename_i h3
      simpa using h3
/-- a row with x put in at k; with k taken out -/
def rowIn (q : Nat → Nat) (k x : Nat) : Nat → Nat := fun i => if i < k then q i else if i = k then x else q (i - 1)
def rowOut (q : Nat → Nat) (k : Nat) : Nat → Nat := fun i => if i < k then q i else q (i + 1)
def insK (V : VS) (d k who m : Nat) : VS := setS (setT (setP V d (fun j => rowIn (vp V j d) k (if j = 0 then who else m))) 7 d (vt V 7 d + 1)) 8 (vs V 8 + 1)
def delK (V : VS) (d k : Nat) : VS := setS (setT (setP V d (fun j => rowOut (vp V j d) k)) 7 d (vt V 7 d - 1)) 8 (vs V 8 - 1)
def insV (V : VS) (d who m : Nat) : VS := insK V d (insP (vp V 1 d) m (vt V 7 d)) who m
/-- the row of ints -/
def setAt (S : MS) (a : Nat → Int32) : MS := (S.1, S.2.1, va_up S.2.2.1 0 a, S.2.2.2)
theorem setAt_A (S : MS) (a : Nat → Int32) : mA (setAt S a) 0 = a := rfl
theorem setAt_s (S : MS) (a : Nat → Int32) (i : Nat) (x : Int32) : sA (setAt S a) 0 i x = setAt S (upd a i x) := by
  unfold sA setAt
  congr 3
  funext q
  unfold va_up
  by_cases h : q = 0
  · subst h; rfl
  · simp [h]
theorem setAt_0 (S : MS) : setAt S (mA S 0) = S := by
  unfold setAt
  have : va_up S.2.2.1 0 (mA S 0) = S.2.2.1 := by
    funext q
    unfold va_up mA
    split
    · rename_i h; rw [h]
    · rfl
  rw [this]
theorem sA_at (S : MS) (i : Nat) (x : Int32) : sA S 0 i x = setAt S (upd (mA S 0) i x) := rfl
theorem setAt_2 (S : MS) (a a2 : Nat → Int32) : setAt (setAt S a) a2 = setAt S a2 := by
  unfold setAt
  congr 3
  funext q
  unfold va_up
  by_cases h : q = 0
  · subst h; rfl
  · simp [h]
def shUp (a : Nat → Int32) (B k n : Nat) : Nat → Int32 := fun i => if B + 2 * k + 2 ≤ i ∧ i < B + 2 * n + 2 then a (i - 2) else a i
def shDn (a : Nat → Int32) (B k j : Nat) : Nat → Int32 := fun i => if B + 2 * k ≤ i ∧ i < B + 2 * j then a (i + 2) else a i
theorem shUp_0 (a : Nat → Int32) (B n : Nat) : shUp a B n n = a := by
  funext i
  unfold shUp
  rw [if_neg (by omega)]
theorem shDn_0 (a : Nat → Int32) (B k : Nat) : shDn a B k k = a := by
  funext i
  unfold shDn
  rw [if_neg (by omega)]
theorem shUp_s (a : Nat → Int32) (B k n : Nat) (h : k < n) : upd (upd (shUp a B (k + 1) n) (B + 2 * (k + 1)) (a (B + 2 * k))) (B + 2 * (k + 1) + 1) (a (B + 2 * k + 1)) = shUp a B k n := by
  funext i
  unfold upd shUp
  by_cases h1 : i = B + 2 * (k + 1) + 1
  · rw [if_pos h1, if_pos (by omega), h1]
    congr 1
  · rw [if_neg h1]
    by_cases h2 : i = B + 2 * (k + 1)
    · rw [if_pos h2, if_pos (by omega), h2]
      congr 1
    · rw [if_neg h2]
      by_cases h3 : B + 2 * (k + 1) + 2 ≤ i ∧ i < B + 2 * n + 2
      · rw [if_pos h3, if_pos (by omega)]
      · rw [if_neg h3, if_neg (by omega)]
theorem shDn_s (a : Nat → Int32) (B k j : Nat) (h : k ≤ j) : upd (upd (shDn a B k j) (B + 2 * j) (a (B + 2 * (j + 1)))) (B + 2 * j + 1) (a (B + 2 * (j + 1) + 1)) = shDn a B k (j + 1) := by
  funext i
  unfold upd shDn
  by_cases h1 : i = B + 2 * j + 1
  · rw [if_pos h1, if_pos (by omega), h1]
    congr 1
  · rw [if_neg h1]
    by_cases h2 : i = B + 2 * j
    · rw [if_pos h2, if_pos (by omega), h2]
      congr 1
    · rw [if_neg h2]
      by_cases h3 : B + 2 * k ≤ i ∧ i < B + 2 * j
      · rw [if_pos h3, if_pos (by omega)]
      · rw [if_neg h3, if_neg (by omega)]
def comesA (a : Nat → Int32) (sl d k n who m : Nat) (L : Int32) : Nat → Int32 :=
  upd (upd (upd (upd (shUp a (sl + 64 + 120 * d) k n) (sl + 64 + 120 * d + 2 * k) (nI who)) (sl + 64 + 120 * d + 2 * k + 1) (nI m)) (sl + 40 + 3 * d + 2) (nI (n + 1))) (sl + 8) (L + nI 1)
def goesA (a : Nat → Int32) (d k n L : Nat) : Nat → Int32 :=
  shDn (upd (upd a (40 + 3 * d + 2) (nI (n - 1))) 8 (nI (L - 1))) (64 + 120 * d) k (n - 1)
theorem EncA.upF {a : Nat → Int32} {V : VS} (E : EncA a V) {f j : Nat} (hf : f < 6) (hj : j < 5) (x : Nat) : EncA (upd a (10 + 5 * f + j) (nI x)) (setT V j f x) := by
  obtain ⟨e1, e2, e3, e4⟩ := E
  refine ⟨fun k hk => ?_, fun f2 hf2 j2 hj2 => ?_, fun d hd j2 hj2 => ?_, fun d hd k hk j2 hj2 => ?_⟩
  · rw [upd, if_neg (by omega), e1 k hk]; rfl
  · rw [setT_t]
    by_cases h : j2 = j ∧ f2 = f
    · rw [if_pos h, upd, if_pos (by omega)]
    · rw [if_neg h, upd, if_neg (by omega), e2 f2 hf2 j2 hj2]
  · rw [upd, if_neg (by omega), e3 d hd j2 hj2, setT_t, if_neg (by omega)]
  · rw [setT_t, if_neg (by omega)] at hk
    have := e4 d hd k hk j2 hj2
    rw [upd, if_neg (by omega), this]; rfl
theorem EncA.upS {a : Nat → Int32} {V : VS} (E : EncA a V) {k : Nat} (hk : k < 9) (x : Nat) : EncA (upd a k (nI x)) (setS V k x) := by
  obtain ⟨e1, e2, e3, e4⟩ := E
  refine ⟨fun i hi => ?_, fun f hf j hj => ?_, fun d hd j hj => ?_, fun d hd i hi j hj => ?_⟩
  · rw [setS_s, upd]
    split
    · rfl
    · exact e1 i hi
  · rw [upd, if_neg (by omega)]; exact e2 f hf j hj
  · rw [upd, if_neg (by omega)]; exact e3 d hd j hj
  · rw [upd, if_neg (by omega)]; exact e4 d hd i hi j hj
theorem EncA.upN {a : Nat → Int32} {V : VS} (E : EncA a V) {d x : Nat} (hd : d < 8) (hx : x ≤ vt V 7 d) : EncA (upd a (40 + 3 * d + 2) (nI x)) (setT V 7 d x) := by
  obtain ⟨e1, e2, e3, e4⟩ := E
  refine ⟨fun i hi => ?_, fun f hf j hj => ?_, fun d2 hd2 j hj => ?_, fun d2 hd2 i hi j hj => ?_⟩
  · rw [upd, if_neg (by omega)]; exact e1 i hi
  · rw [upd, if_neg (by omega), e2 f hf j hj, setT_t, if_neg (by omega)]
  · rw [setT_t]
    by_cases h : 5 + j = 7 ∧ d2 = d
    · rw [if_pos h, upd, if_pos (by omega)]
    · rw [if_neg h, upd, if_neg (by omega)]; exact e3 d2 hd2 j hj
  · rw [setT_t] at hi
    rw [upd, if_neg (by omega)]
    refine e4 d2 hd2 i ?_ j hj
    split at hi
    · rename_i h; rw [h.2]; omega
    · exact hi
theorem EncA.ins {a : Nat → Int32} {V : VS} (E : EncA a V) {d k who m : Nat} (hd : d < 8) (hn : vt V 7 d < 60) (hk : k ≤ vt V 7 d) (hN : ∀ d, d < 8 → vt V 7 d ≤ 60) {L : Int32} (hL : L = nI (vs V 8)) : EncA (comesA a 0 d k (vt V 7 d) who m L) (insK V d k who m) := by
  obtain ⟨e1, e2, e3, e4⟩ := E
  subst hL
  unfold comesA
  refine ⟨fun i hi => ?_, fun f hf j hj => ?_, fun d2 hd2 j hj => ?_, fun d2 hd2 i hi j hj => ?_⟩
  · rw [insK, setS_s]
    by_cases h : i = 8
    · rw [if_pos h, upd, if_pos (by omega), nI_add]
    · rw [if_neg h, upd, if_neg (by omega), upd, if_neg (by omega), upd, if_neg (by omega), upd, if_neg (by omega), shUp, if_neg (by omega)]
      exact e1 i hi
  · rw [insK, setS_t, setT_t, if_neg (by omega), setP_t, upd, if_neg (by omega), upd, if_neg (by omega), upd, if_neg (by omega), upd, if_neg (by omega), shUp, if_neg (by omega)]
    exact e2 f hf j hj
  · rw [insK, setS_t, setT_t]
    by_cases h : 5 + j = 7 ∧ d2 = d
    · rw [if_pos h, upd, if_neg (by omega), upd, if_pos (by omega)]
    · rw [if_neg h, setP_t, upd, if_neg (by omega), upd, if_neg (by omega), upd, if_neg (by omega), upd, if_neg (by omega), shUp, if_neg (by omega)]
      exact e3 d2 hd2 j hj
  · rw [insK, setS_t, setT_t] at hi
    rw [insK, setS_p, setT_p, setP_p]
    by_cases h : d2 = d
    · subst h
      rw [if_pos ⟨rfl, rfl⟩] at hi
      rw [if_pos rfl, rowIn, upd, if_neg (by omega), upd, if_neg (by omega)]
      by_cases h1 : i < k
      · rw [if_pos h1, upd, if_neg (by omega), upd, if_neg (by omega), shUp, if_neg (by omega)]
        exact e4 d2 hd2 i (by omega) j hj
      · rw [if_neg h1]
        by_cases h2 : i = k
        · subst h2
          rw [if_pos rfl]
          by_cases h3 : j = 0
          · subst h3
            rw [if_pos rfl, upd, if_neg (by omega), upd, if_pos (by omega)]
          · rw [if_neg h3, upd, if_pos (by omega)]
        · rw [if_neg h2, upd, if_neg (by omega), upd, if_neg (by omega), shUp, if_pos (by omega)]
          have := e4 d2 hd2 (i - 1) (by omega) j hj
          rw [← this]
          congr 1
          omega
    · rw [if_neg (fun z => h z.2)] at hi
      have hi2 : i < vt V 7 d2 := hi
      rw [if_neg h]
      have := hN d2 hd2
      rw [upd, if_neg (by omega), upd, if_neg (by omega), upd, if_neg (by omega), upd, if_neg (by omega), shUp, if_neg (by omega)]
      exact e4 d2 hd2 i hi2 j hj
theorem EncA.del {a : Nat → Int32} {V : VS} (E : EncA a V) {d k : Nat} (hd : d < 8) (hk : k < vt V 7 d) (hN : ∀ d, d < 8 → vt V 7 d ≤ 60) : EncA (goesA a d k (vt V 7 d) (vs V 8)) (delK V d k) := by
  obtain ⟨e1, e2, e3, e4⟩ := E
  have hn := hN d hd
  unfold goesA
  refine ⟨fun i hi => ?_, fun f hf j hj => ?_, fun d2 hd2 j hj => ?_, fun d2 hd2 i hi j hj => ?_⟩
  · rw [delK, setS_s, shDn, if_neg (by omega)]
    by_cases h : i = 8
    · rw [if_pos h, upd, if_pos h]
    · rw [if_neg h, upd, if_neg h, upd, if_neg (by omega)]
      exact e1 i hi
  · rw [delK, setS_t, setT_t, if_neg (by omega), setP_t, shDn, if_neg (by omega), upd, if_neg (by omega), upd, if_neg (by omega)]
    exact e2 f hf j hj
  · rw [delK, setS_t, setT_t, shDn, if_neg (by omega)]
    by_cases h : 5 + j = 7 ∧ d2 = d
    · rw [if_pos h, upd, if_neg (by omega), upd, if_pos (by omega)]
    · rw [if_neg h, setP_t, upd, if_neg (by omega), upd, if_neg (by omega)]
      exact e3 d2 hd2 j hj
  · rw [delK, setS_t, setT_t] at hi
    rw [delK, setS_p, setT_p, setP_p]
    by_cases h : d2 = d
    · subst h
      rw [if_pos ⟨rfl, rfl⟩] at hi
      rw [if_pos rfl, rowOut]
      by_cases h1 : i < k
      · rw [if_pos h1, shDn, if_neg (by omega), upd, if_neg (by omega), upd, if_neg (by omega)]
        exact e4 d2 hd2 i (by omega) j hj
      · rw [if_neg h1, shDn, if_pos (by omega), upd, if_neg (by omega), upd, if_neg (by omega)]
        rw [← e4 d2 hd2 (i + 1) (by omega) j hj]
        congr 1
        omega
    · rw [if_neg (fun z => h z.2)] at hi
      have hi2 : i < vt V 7 d2 := hi
      have := hN d2 hd2
      rw [if_neg h, shDn, if_neg (by omega), upd, if_neg (by omega), upd, if_neg (by omega)]
      exact e4 d2 hd2 i hi2 j hj
/-- what a change of the day may do to the twin: slot 0 alone, behind it nothing -/
def Ch (S S2 : MS) (V2 : VS) : Prop := (∃ a, S2 = setAt S a) ∧ (∀ i, 1030 ≤ i → mA S2 0 i = mA S 0 i) ∧ mA S2 0 9 = mA S 0 9 ∧ Enc S2 V2
theorem Ch.refl {S : MS} {V : VS} (E : Enc S V) : Ch S S V := ⟨⟨mA S 0, (setAt_0 S).symm⟩, fun _ _ => rfl, rfl, E⟩
theorem Ch.trans {S S2 S3 : MS} {V2 V3 : VS} (h : Ch S S2 V2) (h2 : Ch S2 S3 V3) : Ch S S3 V3 := by
  obtain ⟨⟨a, rfl⟩, h3, h4, -⟩ := h
  obtain ⟨⟨a2, rfl⟩, h6, h7, h8⟩ := h2
  exact ⟨⟨a2, setAt_2 _ _ _⟩, fun i hi => (h6 i hi).trans (h3 i hi), h7.trans h4, h8⟩
theorem Ch.E {S S2 : MS} {V2 : VS} (h : Ch S S2 V2) : Enc S2 V2 := h.2.2.2
theorem Ch.I {S S2 : MS} {V2 : VS} (h : Ch S S2 V2) (k : Nat) : mI S2 k = mI S k := by obtain ⟨⟨a, rfl⟩, -⟩ := h; rfl
theorem Ch.mk_ {S : MS} {V2 : VS} {a : Nat → Int32} (h : ∀ i, 1030 ≤ i → a i = mA S 0 i) (h9 : a 9 = mA S 0 9) (E : EncA a V2) : Ch S (setAt S a) V2 := ⟨⟨a, rfl⟩, h, h9, E⟩
/-- contracts of the twin's methods that change the day -/
def Mp (g : GG) (mi : MI) (d : Nat) (args : List Value) (S : MS) (v : Option Value) (P : MS → Prop) : Prop := ∀ (σ : PH) (b : Nat), Ct g mi d 0 0 (.ref b :: args) (sM g σ b S) (fun w σ2 => w = v ∧ ∃ S2, P S2 ∧ σ2 = sM g σ b S2) noX
def mtP (g : GG) (mi : MI) (d : Nat) (σ : PH) (b : Nat) (v : Option Value) (P : MS → Prop) : MT := mtOf g mi d 0 0 (fun w σ2 => w = v ∧ ∃ S2, P S2 ∧ σ2 = sM g σ b S2) noX
section MPROWS
variable {g : GG} {mt : MT} {kc ks pc : Nat} {L : List (Option Value)} {st rest : List Value} {σ : PH} {b : Nat} {S : MS} {mi : MI} {d2 : Nat} {args : List Value} {v : Option Value} {P : MS → Prop}
theorem Mp.start (LL : Nat → List (Option Value)) (hy : plainName mi.1.cls = true) (hh : mi.2.2.2.2 = []) (hn : ∀ b, (lg_sl (.ref b :: args)).length ≤ mi.2.2.1) (hL : ∀ b, asL 0 (LL b) = lv_args 0 (.ref b :: args)) (k : ∀ (σ : PH) (b : Nat), Wp g (mtP g mi d2 σ b v P) 0 0 0 (LL b) [] (sM g σ b S)) : Mp g mi d2 args S v P :=
  fun σ b => Ct.start (LL b) hy hh (hn b) (hL b) (fun _ => k σ b)
end MPROWS
theorem Ct.mono {g : GG} {mi : MI} {d mc ms : Nat} {args : List Value} {σ : PH} {Q Q2 : Option Value → PH → Prop} {X X2 : Addr → String → PH → Prop} (h : Ct g mi d mc ms args σ Q X) (hQ : ∀ v σ2, Q v σ2 → Q2 v σ2) (hX : ∀ q E σ2, X q E σ2 → X2 q E σ2) : Ct g mi d mc ms args σ Q2 X2 := by
  intro hG
  refine MetFree.mono (h hG) (fun _ _ z => z) (fun _ _ _ _ _ z => z) ?_
  intro a s o t _ z
  rcases z with ⟨⟨v, σ2, h1, h2, h3⟩, h4⟩ | ⟨q, h1, E, ce, L, ⟨σ2, h2, h3⟩, h4⟩
  · exact Or.inl ⟨⟨v, σ2, h1, hQ _ _ h2, h3⟩, h4⟩
  · exact Or.inr ⟨q, h1, E, ce, L, ⟨σ2, hX _ _ _ h2, h3⟩, h4⟩
theorem Mt.toP {g : GG} {mi : MI} {d : Nat} {args : List Value} {v : Option Value} {S S2 : MS} {P : MS → Prop} (h : Mt g mi d args S v S2) (hP : P S2) : Mp g mi d args S v P :=
  fun σ b => Ct.mono (h σ b) (fun w σ2 z => ⟨z.1, S2, hP, z.2⟩) (fun _ _ _ z => z)
theorem Mp.mono {g : GG} {mi : MI} {d : Nat} {args : List Value} {v : Option Value} {S : MS} {P P2 : MS → Prop} (h : Mp g mi d args S v P) (hP : ∀ S2, P S2 → P2 S2) : Mp g mi d args S v P2 :=
  fun σ b => Ct.mono (h σ b) (fun w σ2 z => by obtain ⟨z1, S2, z2, z3⟩ := z; exact ⟨z1, S2, hP S2 z2, z3⟩) (fun _ _ _ z => z)
