/-! TEXTS: tokens and words (pure), and how the twin holds them -/
set_option maxRecDepth 100000
/-- a text: its bytes' codes, its size -/
abbrev TX : Type := (Nat → Nat) × Nat
def scan (X : TX) (p : Nat → Bool) : Nat → Nat → Nat
  | 0, k => k
  | j + 1, k => if k < X.2 ∧ p (X.1 k) = true then scan X p j (k + 1) else k
/-- the first place from k on that isn't of p's sort -/
def scn (X : TX) (p : Nat → Bool) (k : Nat) : Nat := scan X p (X.2 - k) k
theorem scn_t {X : TX} {p : Nat → Bool} {k : Nat} (h : k < X.2) (hp : p (X.1 k) = true) : scn X p k = scn X p (k + 1) := by
  unfold scn
  rw [show X.2 - k = (X.2 - (k + 1)) + 1 by omega]
  exact if_pos ⟨h, hp⟩
theorem scn_f {X : TX} {p : Nat → Bool} {k : Nat} (h : ¬ (k < X.2 ∧ p (X.1 k) = true)) : scn X p k = k := by
  unfold scn
  cases X.2 - k with
  | zero => rfl
  | succ j => exact if_neg h
theorem scan_ok {X : TX} {p : Nat → Bool} : ∀ (j k : Nat), X.2 - k ≤ j → k ≤ scan X p j k ∧ (k ≤ X.2 → scan X p j k ≤ X.2) ∧ (∀ i, k ≤ i → i < scan X p j k → i < X.2 ∧ p (X.1 i) = true) ∧ ¬ (scan X p j k < X.2 ∧ p (X.1 (scan X p j k)) = true)
  | 0, k, h => ⟨Nat.le_refl _, fun h => h, fun i h1 h2 => absurd h2 (Nat.not_lt.mpr h1), fun z => by have := z.1; show False; unfold scan at this; omega⟩
  | j + 1, k, h => by
    unfold scan
    split
    · rename_i h1
      obtain ⟨a1, a2, a3, a4⟩ := scan_ok (X := X) (p := p) j (k + 1) (by omega)
      refine ⟨by omega, fun _ => a2 (by omega), fun i h3 h4 => ?_, a4⟩
      by_cases h5 : i = k
      · subst h5; exact h1
      · exact a3 i (by omega) h4
    · rename_i h1
      exact ⟨Nat.le_refl _, fun h => h, fun i h1 h2 => absurd h2 (Nat.not_lt.mpr h1), h1⟩
theorem scn_ok (X : TX) (p : Nat → Bool) (k : Nat) : k ≤ scn X p k ∧ (k ≤ X.2 → scn X p k ≤ X.2) ∧ (∀ i, k ≤ i → i < scn X p k → i < X.2 ∧ p (X.1 i) = true) ∧ ¬ (scn X p k < X.2 ∧ p (X.1 (scn X p k)) = true) := scan_ok _ k (Nat.le_refl _)
def isSp (c : Nat) : Bool := c == 32 || c == 10
def isLo (c : Nat) : Bool := decide (97 ≤ c) && decide (c ≤ 122)
def isDi (c : Nat) : Bool := decide (48 ≤ c) && decide (c ≤ 57)
def isSg (c : Nat) : Bool := c == 59 || c == 60 || c == 62 || c == 61
/-- a token: its sort (0 none, 1 broken, 2 a word, 3 a number, 4 a sign), from where, to where, its value -/
abbrev Tk : Type := Nat × Nat × Nat × Nat
abbrev Tk.so (t : Tk) : Nat := t.1
abbrev Tk.fr (t : Tk) : Nat := t.2.1
abbrev Tk.to (t : Tk) : Nat := t.2.2.1
abbrev Tk.va (t : Tk) : Nat := t.2.2.2
/-- the number of j digits from a on -/
def nv (X : TX) (a : Nat) : Nat → Nat
  | 0 => 0
  | j + 1 => 10 * nv X a j + (X.1 (a + j) - 48)
def tokA (X : TX) (a : Nat) : Tk :=
  if X.2 ≤ a then ⟨0, a, a, 0⟩
  else if isLo (X.1 a) = true then ⟨2, a, scn X isLo a, 0⟩
  else if isDi (X.1 a) = true then (if 4 < scn X isDi a - a then ⟨1, a, scn X isDi a, 0⟩ else ⟨3, a, scn X isDi a, nv X a (scn X isDi a - a)⟩)
  else if isSg (X.1 a) = true then ⟨4, a, a + 1, X.1 a⟩ else ⟨1, a, a + 1, 0⟩
/-- the token behind place e -/
def tok (X : TX) (e : Nat) : Tk := tokA X (scn X isSp e)
def nx (X : TX) (t : Tk) : Tk := tok X t.to
theorem nv_lt {X : TX} {a : Nat} : ∀ j, (∀ i, i < j → X.1 (a + i) ≤ 57) → nv X a j < 10 ^ j
  | 0, _ => Nat.lt_succ_self 0
  | j + 1, h => by
    have h1 := nv_lt (X := X) (a := a) j (fun i hi => h i (by omega))
    have h2 := h j (by omega)
    have h3 : 10 ^ (j + 1) = 10 * 10 ^ j := by rw [Nat.pow_succ, Nat.mul_comm]
    unfold nv
    omega
/-- what holds of any token -/
theorem tok_ok (X : TX) (e : Nat) (he : e ≤ X.2) : e ≤ (tok X e).fr ∧ (tok X e).fr ≤ (tok X e).to ∧ (tok X e).to ≤ X.2 ∧ (tok X e).so ≤ 4 ∧ ((tok X e).so ≠ 0 → (tok X e).fr < (tok X e).to) ∧ ((tok X e).so = 0 → (tok X e).fr = X.2) ∧ ((tok X e).so = 3 → (tok X e).va < 10000) ∧ ((tok X e).so = 2 → ∀ i, (tok X e).fr ≤ i → i < (tok X e).to → isLo (X.1 i) = true) ∧ ((tok X e).so = 4 → isSg (tok X e).va = true) := by
  obtain ⟨a1, a2, a3, a4⟩ := scn_ok X isSp e
  have a2' := a2 he
  unfold tok
  generalize scn X isSp e = a at *
  unfold tokA
  split
  · rename_i h
    exact ⟨a1, Nat.le_refl _, a2', (show 0 ≤ 4 by decide), fun z => absurd rfl z, fun _ => (show a = X.2 by omega), (fun z => absurd z (show ¬ (0 : Nat) = 3 by decide)), (fun z => absurd z (show ¬ (0 : Nat) = 2 by decide)), (fun z => absurd z (show ¬ (0 : Nat) = 4 by decide))⟩
  · rename_i h
    split
    · rename_i h1
      obtain ⟨b1, b2, b3, b4⟩ := scn_ok X isLo a
      have b5 := scn_t (X := X) (by omega) h1
      have b6 := (scn_ok X isLo (a + 1)).1
      exact ⟨a1, b1, b2 (by omega), (show 2 ≤ 4 by decide), fun _ => (show a < scn X isLo a by omega), (fun z => absurd z (show ¬ (2 : Nat) = 0 by decide)), (fun z => absurd z (show ¬ (2 : Nat) = 3 by decide)), fun _ i h2 h3 => (b3 i h2 h3).2, (fun z => absurd z (show ¬ (2 : Nat) = 4 by decide))⟩
    · split
      · rename_i h0 h1
        obtain ⟨b1, b2, b3, b4⟩ := scn_ok X isDi a
        have b5 := scn_t (X := X) (by omega) h1
        have b6 := (scn_ok X isDi (a + 1)).1
        split
        · exact ⟨a1, b1, b2 (by omega), (show 1 ≤ 4 by decide), fun _ => (show a < scn X isDi a by omega), (fun z => absurd z (show ¬ (1 : Nat) = 0 by decide)), (fun z => absurd z (show ¬ (1 : Nat) = 3 by decide)), (fun z => absurd z (show ¬ (1 : Nat) = 2 by decide)), (fun z => absurd z (show ¬ (1 : Nat) = 4 by decide))⟩
        · rename_i h2
          refine ⟨a1, b1, b2 (by omega), (show 3 ≤ 4 by decide), fun _ => (show a < scn X isDi a by omega), (fun z => absurd z (show ¬ (3 : Nat) = 0 by decide)), fun _ => ?_, (fun z => absurd z (show ¬ (3 : Nat) = 2 by decide)), (fun z => absurd z (show ¬ (3 : Nat) = 4 by decide))⟩
          show nv X a (scn X isDi a - a) < 10000
          have h3 := nv_lt (X := X) (a := a) (scn X isDi a - a) (fun i hi => by
            have := (b3 (a + i) (by omega) (by omega)).2
            unfold isDi at this
            simp at this
            exact this.2)
          have h4 : 10 ^ (scn X isDi a - a) ≤ 10 ^ 4 := Nat.pow_le_pow_right (by omega) (by omega)
          omega
      · split
        · rename_i h5
          exact ⟨a1, (show a ≤ a + 1 by omega), (show a + 1 ≤ X.2 by omega), (show 4 ≤ 4 by decide), fun _ => (show a < a + 1 by omega), (fun z => absurd z (show ¬ (4 : Nat) = 0 by decide)), (fun z => absurd z (show ¬ (4 : Nat) = 3 by decide)), (fun z => absurd z (show ¬ (4 : Nat) = 2 by decide)), fun _ => h5⟩
        · exact ⟨a1, (show a ≤ a + 1 by omega), (show a + 1 ≤ X.2 by omega), (show 1 ≤ 4 by decide), fun _ => (show a < a + 1 by omega), (fun z => absurd z (show ¬ (1 : Nat) = 0 by decide)), (fun z => absurd z (show ¬ (1 : Nat) = 3 by decide)), (fun z => absurd z (show ¬ (1 : Nat) = 2 by decide)), (fun z => absurd z (show ¬ (1 : Nat) = 4 by decide))⟩
/-- a token of the text X -/
def OkT9 (X : TX) (t : Tk) : Prop := ∃ e, e ≤ X.2 ∧ t = tok X e
theorem OkT9.nx {X : TX} {t : Tk} (h : OkT9 X t) : OkT9 X (nx X t) := by
  obtain ⟨e, he, rfl⟩ := h
  exact ⟨_, (tok_ok X e he).2.2.1, rfl⟩
theorem OkT9.ok {X : TX} {t : Tk} (h : OkT9 X t) : t.fr ≤ t.to ∧ t.to ≤ X.2 ∧ t.so ≤ 4 ∧ (t.so ≠ 0 → t.fr < t.to) ∧ (t.so = 0 → t.fr = X.2) ∧ (t.so = 3 → t.va < 10000) ∧ (t.so = 2 → ∀ i, t.fr ≤ i → i < t.to → isLo (X.1 i) = true) ∧ (t.so = 4 → isSg t.va = true) := by
  obtain ⟨e, he, rfl⟩ := h
  exact (tok_ok X e he).2
/-- the token's letters -/
def wd (X : TX) (t : Tk) : List Nat := (List.range (t.to - t.fr)).map fun i => X.1 (t.fr + i)
theorem wd_len (X : TX) (t : Tk) : (wd X t).length = t.to - t.fr := by simp [wd]
theorem wd_at {X : TX} {t : Tk} {i : Nat} (h : i < t.to - t.fr) : (wd X t)[i]? = some (X.1 (t.fr + i)) := by
  unfold wd
  rw [List.getElem?_map, List.getElem?_range h]
  rfl
/-- the words with a meaning -/
def keys : List (List Nat) := [[98, 101, 97, 99, 104],
  [116, 105, 100, 101],
  [109, 111, 111, 110],
  [102, 105, 110, 100, 101, 114],
  [102, 105, 110, 100],
  [112, 101, 98, 98, 108, 101],
  [100, 117, 101, 108],
  [97, 116],
  [112, 97, 99, 101],
  [112, 101, 98, 98, 108, 101, 115],
  [119, 111, 114, 116, 104],
  [111, 102],
  [111, 110],
  [110, 111, 110, 101],
  [102, 105, 114, 115, 116],
  [108, 97, 115, 116],
  [115, 104, 97, 114, 101],
  [116, 111],
  [103, 111],
  [115, 101, 116],
  [119, 97, 105, 116],
  [108, 105, 102, 116],
  [103, 117, 108, 108],
  [119, 97, 118, 101],
  [119, 104, 101, 110],
  [108, 111, 111, 112],
  [101, 110, 100],
  [115, 116, 111, 112],
  [108, 101, 97, 100, 115],
  [102, 114, 101, 101]]
def kfi (w : List Nat) : Nat → Nat → Nat
  | 0, k => k
  | j + 1, k => if keys.getD k [] = w then k else kfi w j (k + 1)
/-- which word stands here: its place; 30: none -/
def kix (X : TX) (t : Tk) : Nat := if t.so = 2 then kfi (wd X t) 30 0 else 30
theorem kfi_le (w : List Nat) : ∀ j k, kfi w j k ≤ k + j
  | 0, k => Nat.le_refl _
  | j + 1, k => by
    unfold kfi
    split
    · omega
    · have := kfi_le w j (k + 1)
      omega
theorem kix_le (X : TX) (t : Tk) : kix X t ≤ 30 := by
  unfold kix
  split
  · exact kfi_le _ 30 0
  · exact Nat.le_refl _
theorem kfi_from {w : List Nat} : ∀ n, n ≤ 30 → (∀ i, i < n → keys.getD i [] ≠ w) → kfi w 30 0 = kfi w (30 - n) n
  | 0, _, _ => rfl
  | n + 1, h, hn => by
    rw [kfi_from n (by omega) (fun i hi => hn i (by omega)), show 30 - n = (30 - (n + 1)) + 1 by omega]
    exact if_neg (hn n (by omega))
theorem kix_hit {X : TX} {t : Tk} {n : Nat} (h2 : t.so = 2) (h : n < 30) (hn : ∀ i, i < n → keys.getD i [] ≠ wd X t) (he : keys.getD n [] = wd X t) : kix X t = n := by
  unfold kix
  rw [if_pos h2, kfi_from n (by omega) hn, show 30 - n = (30 - (n + 1)) + 1 by omega]
  exact if_pos he
theorem kix_none {X : TX} {t : Tk} (hn : ∀ i, i < 30 → keys.getD i [] ≠ wd X t) : kix X t = 30 := by
  unfold kix
  split
  · exact kfi_from 30 (by omega) hn
  · rfl
theorem wd_eq {X : TX} {t : Tk} {w : List Nat} : w = wd X t ↔ w.length = t.to - t.fr ∧ ∀ j, j < w.length → w.getD j 0 = X.1 (t.fr + j) := by
  constructor
  · rintro rfl
    refine ⟨wd_len X t, fun j hj => ?_⟩
    rw [List.getD_eq_getElem?_getD, wd_at (by rw [← wd_len X t]; exact hj)]
    rfl
  · rintro ⟨h1, h2⟩
    apply List.ext_getElem?
    intro i
    by_cases hi : i < w.length
    · rw [wd_at (by omega), ← h2 i hi, List.getD_eq_getElem?_getD, List.getElem?_eq_getElem hi]
      rfl
    · rw [List.getElem?_eq_none (by omega), List.getElem?_eq_none (by rw [wd_len]; omega)]
theorem tok_end {X : TX} {e k : Nat} (hak : scn X isSp e = k) (h : ¬ k < X.2) : tok X e = ⟨0, k, k, 0⟩ := by
  unfold tok
  rw [hak]
  exact if_pos (by omega)
theorem tok_word {X : TX} {e k z : Nat} (hak : scn X isSp e = k) (h : k < X.2) (h1 : isLo (X.1 k) = true) (hz : scn X isLo k = z) : tok X e = ⟨2, k, z, 0⟩ := by
  unfold tok
  rw [hak]
  unfold tokA
  rw [if_neg (by omega), if_pos h1, hz]
theorem tok_num {X : TX} {e k z : Nat} (hak : scn X isSp e = k) (h : k < X.2) (h1 : ¬ isLo (X.1 k) = true) (h2 : isDi (X.1 k) = true) (hz : scn X isDi k = z) (h4 : z - k ≤ 4) : tok X e = ⟨3, k, z, nv X k (z - k)⟩ := by
  unfold tok
  rw [hak]
  unfold tokA
  rw [if_neg (by omega), if_neg h1, if_pos h2, hz, if_neg (by omega)]
theorem tok_big {X : TX} {e k z : Nat} (hak : scn X isSp e = k) (h : k < X.2) (h1 : ¬ isLo (X.1 k) = true) (h2 : isDi (X.1 k) = true) (hz : scn X isDi k = z) (h4 : 4 < z - k) : tok X e = ⟨1, k, z, 0⟩ := by
  unfold tok
  rw [hak]
  unfold tokA
  rw [if_neg (by omega), if_neg h1, if_pos h2, hz, if_pos h4]
theorem tok_sig {X : TX} {e k : Nat} (hak : scn X isSp e = k) (h : k < X.2) (h1 : ¬ isLo (X.1 k) = true) (h2 : ¬ isDi (X.1 k) = true) (h3 : isSg (X.1 k) = true) : tok X e = ⟨4, k, k + 1, X.1 k⟩ := by
  unfold tok
  rw [hak]
  unfold tokA
  rw [if_neg (by omega), if_neg h1, if_neg h2, if_pos h3]
theorem tok_odd {X : TX} {e k : Nat} (hak : scn X isSp e = k) (h : k < X.2) (h1 : ¬ isLo (X.1 k) = true) (h2 : ¬ isDi (X.1 k) = true) (h3 : ¬ isSg (X.1 k) = true) : tok X e = ⟨1, k, k + 1, 0⟩ := by
  unfold tok
  rw [hak]
  unfold tokA
  rw [if_neg (by omega), if_neg h1, if_neg h2, if_neg h3]
/-! the twin's side -/
def TxS (S : MS) (X : TX) : Prop := mI S 11 = nI X.2 ∧ X.2 ≤ 900 ∧ ∀ k, k < X.2 → mA S 9 k &&& nI 255 = nI (X.1 k) ∧ X.1 k < 256
def TkS (S : MS) (t : Tk) : Prop := mI S 12 = nI t.so ∧ mI S 13 = nI t.fr ∧ mI S 14 = nI t.to ∧ (t.so = 3 ∨ t.so = 4 → mI S 15 = nI t.va)
/-- but the token nothing changes -/
def FrK (S S2 : MS) : Prop := (∀ i, i < 12 ∨ 15 < i → mI S2 i = mI S i) ∧ S2.2 = S.2
theorem FrK.refl (S : MS) : FrK S S := ⟨fun _ _ => rfl, rfl⟩
theorem FrK.trans {S S2 S3 : MS} (h : FrK S S2) (h2 : FrK S2 S3) : FrK S S3 := ⟨fun i hi => (h2.1 i hi).trans (h.1 i hi), h2.2.trans h.2⟩
theorem FrK.put {S S2 : MS} (h : FrK S S2) {i : Nat} {v : Int32} (h1 : 12 ≤ i) (h2 : i ≤ 15) : FrK S (sI S2 i v) := ⟨fun j hj => by
  show va_up S2.1 i v j = _
  unfold va_up
  rw [if_neg (by omega)]
  exact h.1 j hj, h.2⟩
theorem FrK.A {S S2 : MS} (h : FrK S S2) (k : Nat) : mA S2 k = mA S k := by unfold mA; rw [h.2]
theorem FrK.B {S S2 : MS} (h : FrK S S2) (k : Nat) : mB S2 k = mB S k := by unfold mB; rw [h.2]
theorem TxS.fr {S S2 : MS} {X : TX} (T : TxS S X) (h : FrK S S2) : TxS S2 X := ⟨(h.1 11 (by omega)).trans T.1, T.2.1, fun k hk => by rw [h.A]; exact T.2.2 k hk⟩
def cI (X : TX) (k : Nat) : Int32 := if k < X.2 then nI (X.1 k) else -1
theorem cI_byK {S : MS} {X : TX} (T : TxS S X) (k : Nat) : byK S X.2 k = cI X k := by
  unfold byK cI
  by_cases h : k < X.2
  · rw [if_pos h, if_pos h]; exact (T.2.2 k h).1
  · rw [if_neg h, if_neg h]
theorem nI_nm1 {c : Nat} (h : c < 2147483648) : ¬ nI c = -1 := fun z => by
  have := congrArg Int32.toInt z
  rw [nI_toInt h] at this
  simp at this
theorem cI_in {X : TX} {k : Nat} (h : k < X.2) : cI X k = nI (X.1 k) := if_pos h
theorem cI_out {X : TX} {k : Nat} (h : ¬ k < X.2) : cI X k = -1 := if_neg h
theorem cI_eq {S : MS} {X : TX} {k c : Nat} (T : TxS S X) (hc : c < 256) : cI X k = nI c ↔ k < X.2 ∧ X.1 k = c := by
  by_cases h : k < X.2
  · rw [cI_in h]
    have := (T.2.2 k h).2
    exact ⟨fun z => ⟨h, (nI_eq (by omega) (by omega)).mp z⟩, fun z => by rw [z.2]⟩
  · rw [cI_out h]
    exact ⟨fun z => absurd z.symm (nI_nm1 (by omega)), fun z => absurd z.1 h⟩
theorem cI_m1 {S : MS} {X : TX} {k : Nat} (T : TxS S X) : cI X k = -1 ↔ ¬ k < X.2 := by
  by_cases h : k < X.2
  · rw [cI_in h]
    have := (T.2.2 k h).2
    exact ⟨fun z => absurd z (nI_nm1 (by omega)), fun z => absurd h z⟩
  · exact ⟨fun _ => h, fun _ => cI_out h⟩
theorem bP_iff {p q : Prop} [Decidable p] [Decidable q] (h : p ↔ q) : bP p = bP q := by
  by_cases hp : p
  · rw [bP_t hp, bP_t (h.mp hp)]
  · rw [bP_f hp, bP_f (mt h.mpr hp)]
theorem isSm_c {S : MS} {X : TX} {k : Nat} (T : TxS S X) : isSm (cI X k) ↔ (k < X.2 ∧ isLo (X.1 k) = true) := by
  by_cases h : k < X.2
  · rw [cI_in h]
    have := (T.2.2 k h).2
    unfold isSm isLo
    rw [nI_ltI (by omega) (by omega), nI_ltI (by omega) (by omega)]
    simp [h]
  · rw [cI_out h]
    exact ⟨fun z => absurd (show (-1 : Int32) < nI 97 by decide) z.1, fun z => absurd z.1 h⟩
theorem isDg_c {S : MS} {X : TX} {k : Nat} (T : TxS S X) : isDg (cI X k) ↔ (k < X.2 ∧ isDi (X.1 k) = true) := by
  by_cases h : k < X.2
  · rw [cI_in h]
    have := (T.2.2 k h).2
    unfold isDg isDi
    rw [nI_ltI (by omega) (by omega), nI_ltI (by omega) (by omega)]
    simp [h]
  · rw [cI_out h]
    exact ⟨fun z => absurd (show (-1 : Int32) < nI 48 by decide) z.1, fun z => absurd z.1 h⟩
theorem c_byteX {g : GG} {S : MS} {X : TX} {k : Nat} (hT : TxS S X) (hk : k < 2147483648) : Mt g miX8_byteAt 1 [.int (nI k)] S (some (.int (cI X k))) S := by
  rw [← cI_byK hT k]
  exact c_byteAt hT.1 hT.2.1 hk
theorem c_isSmallX {g : GG} {S : MS} {X : TX} {k : Nat} (hT : TxS S X) : Ms g miX8_isSmall 1 [.int (cI X k)] (some (.int (bP (k < X.2 ∧ isLo (X.1 k) = true)))) := by
  rw [← bP_iff (isSm_c hT)]
  exact c_isSmall
theorem c_isDigitX {g : GG} {S : MS} {X : TX} {k : Nat} (hT : TxS S X) : Ms g miX8_isDigit 1 [.int (cI X k)] (some (.int (bP (k < X.2 ∧ isDi (X.1 k) = true)))) := by
  rw [← bP_iff (isDg_c hT)]
  exact c_isDigit
theorem dig_step {v c : Nat} (hv : v < 10000) (h1 : 48 ≤ c) (h2 : c ≤ 57) : (if nI 10 * nI v + nI c - nI 48 < 100000 then nI 10 * nI v + nI c - nI 48 else 100000) = nI (10 * v + (c - 48)) := by
  have h3 : nI 10 * nI v + nI c - nI 48 = nI (10 * v + (c - 48)) := by
    rw [pk_mul, nI_add, pk_sub (by omega), show 10 * v + c - 48 = 10 * v + (c - 48) by omega]
  rw [h3, if_pos]
  show nI (10 * v + (c - 48)) < nI 100000
  rw [nI_ltI (by omega) (by omega)]
  omega
/-! the words of the twin, in one String constant -/
def kx : String × Nat × String × List Int32 := skL.getD 0 ("", 0, "", [])
theorem hx0 : skL[0]? = some kx := rfl
def kN : Nat := kx.2.2.2.length
def kc (k : Nat) : Nat := (kx.2.2.2.getD k 0).toNatClampNeg
def kL (n : Nat) : Nat := (keys.getD n []).length
/-- where word n begins -/
def kS : Nat → Nat
  | 0 => 1
  | n + 1 => kS n + kL n + 1
theorem kN_v : kN = 151 := by decide +kernel
theorem kS_30 : kS 30 = 151 := by decide +kernel
theorem kS_lt : ∀ n, n < 30 → kS n + kL n < 151 ∧ kc (kS n + kL n) = 32 ∧ 0 < kL n := by decide +kernel
theorem kS_at : ∀ n, n < 30 → ∀ i, i < kL n → kc (kS n + i) = (keys.getD n []).getD i 0 ∧ kc (kS n + i) ≠ 32 := by decide +kernel
theorem kc_lt : ∀ k, k < 151 → kc k < 128 := by decide +kernel
theorem c_keyLen {g : GG} : Ms g miJ4_length 2 [.ref (sa g 0)] (some (.int (nI 151))) := by
  have h := t_length (g := g) hx0
  rw [show kx.2.2.2.length = 151 from kN_v] at h
  exact h
theorem c_keyAt {g : GG} {k : Nat} (hk : k < 151) : Ms g miJ4_charAt 4 [.ref (sa g 0), .int (nI k)] (some (.int (nI (kc k)))) := by
  have hk2 : k < kx.2.2.2.length := by rw [show kx.2.2.2.length = 151 from kN_v]; exact hk
  obtain ⟨c, hc, hc2⟩ := skL_ch hx0 hk2
  have h := t_charAt (g := g) hx0 hk2
  rw [hc] at h
  unfold kc
  rw [hc, show (nI c).toNatClampNeg = c from nI_clamp (by omega)]
  exact h
def wI (k : Nat) : Int32 := if k < 30 then nI k else -1
