/-! WHAT BOTH SIDES ANSWER: what is told, what could be, boys -/
set_option maxRecDepth 100000
theorem in_le {x : Int32} {n : Nat} (h0 : ¬ x < 0) (h : x ≤ nI n) (hn : n + 1 < 2147483648) : inN x (n + 1) := by
  refine ⟨h0, fun z => ?_⟩
  have := (Int32.le_iff_toInt_le).mp (Int32.le_trans z h)
  rw [nI_toInt (by omega), nI_toInt (by omega)] at this
  omega
theorem out_gt {x : Int32} {n : Nat} (h : nI n < x) (hn : n + 1 < 2147483648) : ¬ inN x (n + 1) := by
  rintro ⟨h0, h1⟩
  apply h1
  obtain h := Int32.lt_iff_toInt_lt.mp h
  rw [nI_toInt (by omega)] at h
  rw [Int32.le_iff_toInt_le, nI_toInt (by omega)]
  omega
theorem out_lt {x : Int32} {n : Nat} (h : x < 0) : ¬ inN x n := fun z => z.1 h
theorem in_lt {x : Int32} {n : Nat} (h0 : ¬ x < 0) (h : x < nI n) : inN x n := ⟨h0, fun z => Int32.lt_irrefl (Int32.lt_of_le_of_lt z h)⟩
theorem out_ge {x : Int32} {n : Nat} (h : ¬ x < nI n) : ¬ inN x n := fun z => z.2 (Int32.not_lt.mp h)
def q_told (V : VS) (x : Int32) : AS := if inN x 9 then okA (vs V (cl x)) else noA 1
def q_finder (V : VS) (x y : Int32) : AS := if inN x (vs V 1) ∧ inN y 5 then okA (vt V (cl y) (cl x)) else noA 1
def q_find (V : VS) (x y : Int32) : AS := if inN x (vs V 2) ∧ inN y 3 then okA (vt V (5 + cl y) (cl x)) else noA 1
def q_pebble (V : VS) (x k y : Int32) : AS := if inN x (vs V 2) ∧ inN y 2 then (if inN k (vt V 7 (cl x)) then okA (vp V (cl y) (cl x) (cl k)) else noA 6) else noA 1
/-- one behind the latest of all others -/
def behK (V : VS) (f d n : Nat) : Nat := foldN (fun k c => if vp V 0 d k = f then c else max c (vp V 1 d k + 1)) 0 n
theorem behK_s (V : VS) (f d n : Nat) : behK V f d (n + 1) = if vp V 0 d n = f then behK V f d n else max (behK V f d n) (vp V 1 d n + 1) := rfl
theorem behK_le {V : VS} (K : OkV V) (f : Nat) {d : Nat} (h : d < 8) : ∀ n, n ≤ vt V 7 d → behK V f d n ≤ 241
  | 0, _ => by simp [behK, foldN]
  | n + 1, hn => by
    have h1 := behK_le K f h n (by omega)
    have h2 := K.b
    have h3 := (K.p h (k := n) (by omega)).2
    rw [behK_s]
    split <;> omega
abbrev behO (V : VS) (f d : Nat) : Nat := behK V f d (vt V 7 d)
def soonT (V : VS) (f d : Nat) : Nat := max (vt V 3 f + stepsV V f (vt V 5 d)) (behO V f d)
/-- one above when; 0: none -/
def soonV (V : VS) (f d : Nat) : Nat := if isT V d then (if vt V 2 f = 0 then 0 else if vs V 3 < soonT V f d then 0 else soonT V f d + 1) else 0
theorem soonV_le {V : VS} (K : OkV V) (f d : Nat) : soonV V f d ≤ 241 := by
  have := K.b
  unfold soonV
  repeat' split
  all_goals omega
def q_soonest (V : VS) (x y : Int32) : AS := if inN x (vs V 1) ∧ inN y (vs V 2) then (if soonV V (cl x) (cl y) = 0 then noA 7 else okA (soonV V (cl x) (cl y) - 1)) else noA 1
def threatV (V : VS) (d : Nat) : Nat := foldN (fun f s => s ||| if soonV V f d = 0 then 0 else 2 ^ f) 0 (vs V 1)
theorem orF_lt (p : Nat → Nat) : ∀ n, n ≤ 6 → (∀ f, f < n → p f = 0 ∨ p f = 2 ^ f) → foldN (fun f s => s ||| p f) 0 n < 64
  | 0, _, _ => by simp [foldN]
  | n + 1, h, hp => by
    have h1 := orF_lt p n (by omega) (fun f hf => hp f (by omega))
    show foldN (fun f s => s ||| p f) 0 n ||| p n < 64
    rcases hp n (by omega) with z | z
    · rw [z, Nat.or_zero]; exact h1
    · rw [z]; exact or_lt64 _ h1 n (by omega)
theorem threatV_lt {V : VS} (K : OkV V) (d : Nat) : threatV V d < 64 := by
  have := K.b
  exact orF_lt (fun f => if soonV V f d = 0 then 0 else 2 ^ f) (vs V 1) (by omega) (fun f _ => by split <;> simp)
def q_threat (V : VS) (x : Int32) : AS := if wfV V x = 0 then okA (threatV V (cl x)) else noA (wfV V x)
theorem and_not : ∀ t, t < 64 → ∀ f, f < 6 → (nI t &&& (nI (2 ^ f) ^^^ (-1)) = 0 ↔ t ||| 2 ^ f = 2 ^ f) := by decide +kernel
abbrev safeP (V : VS) (f d : Nat) : Prop := isT V d ∧ lastV V d = 2 ^ f ∧ threatV V d ||| 2 ^ f = 2 ^ f

def q_safe (V : VS) (x : Int32) : AS := if inN x (vs V 1) then okA (foldN (fun d s => s ||| if safeP V (cl x) d then 2 ^ d else 0) 0 (vs V 2)) else noA 1
def q_gain (V : VS) (x y : Int32) : AS := if inN x (vs V 1) ∧ inN y (vs V 2) then (if soonV V (cl x) (cl y) = 0 then noA 7 else okA (vt V 6 (cl y) - shareV V (cl x) (cl y))) else noA 1
theorem shareV_w (V : VS) (f d : Nat) : shareV V f d ≤ vt V 6 d := by
  unfold shareV
  split
  · omega
  · exact Nat.div_le_self _ _
/-- the leftmost find from a cell on: one above it -/
def leastK (V : VS) (c n : Nat) : Nat := foldN (fun d m => if isT V d ∧ c ≤ vt V 5 d ∧ (m = 0 ∨ vt V 5 d < m - 1) then vt V 5 d + 1 else m) 0 n
theorem least_s (V : VS) (c n : Nat) : leastK V c (n + 1) = if isT V n ∧ c ≤ vt V 5 n ∧ (leastK V c n = 0 ∨ vt V 5 n < leastK V c n - 1) then vt V 5 n + 1 else leastK V c n := rfl
theorem least_le {V : VS} (K : OkV V) (c : Nat) : ∀ n, n ≤ vs V 2 → leastK V c n ≤ 40
  | 0, _ => by simp [leastK, foldN]
  | n + 1, h => by
    have h1 := least_le K c n (by omega)
    have h2 := K.b
    have h3 := (K.d (d := n) (by omega)).1
    rw [least_s]
    split <;> omega
def boyF (V : VS) (c x : Nat) : Nat := if leastK V c (vs V 2) = 0 then 0 else min (leastK V c (vs V 2) - 1 + x) (vs V 0 - 1) + 1
theorem boyF_le {V : VS} (K : OkV V) (c x : Nat) : boyF V c x ≤ 40 := by
  have := K.b
  unfold boyF
  split <;> omega
def boyK (V : VS) (x : Nat) : Nat → Nat
  | 0 => boyF V 0 x
  | k + 1 => if boyK V x k = 0 then 0 else boyF V (boyK V x k + x) x
theorem boyK_le {V : VS} (K : OkV V) (x : Nat) : ∀ k, boyK V x k ≤ 40
  | 0 => boyF_le K 0 x
  | k + 1 => by
    unfold boyK
    split
    · omega
    · exact boyF_le K _ _
theorem boyK_0 {V : VS} {x : Nat} {k : Nat} (h : boyK V x k = 0) : ∀ j, boyK V x (k + j) = 0
  | 0 => h
  | j + 1 => by
    show (if boyK V x (k + j) = 0 then 0 else boyF V (boyK V x (k + j) + x) x) = 0
    rw [if_pos (boyK_0 h j)]
def q_boyAt (V : VS) (x k : Int32) : AS := if inN x 41 then (if inN k 9 then orA (boyK V (cl x) (cl k)) else noA 6) else noA 1
/-- how many, from i on, one behind the other, of n for which p -/
def cntF (p : Nat → Prop) [DecidablePred p] (i : Nat) : Nat → Nat
  | 0 => i
  | k + 1 => if p i then cntF p (i + 1) k else i
def boysV (V : VS) (x : Nat) : Nat := cntF (fun n => boyK V x n ≠ 0) 0 8
def q_boys (V : VS) (x : Int32) : AS := if inN x 41 then okA (boysV V (cl x)) else noA 1
/-! who leads -/
theorem firstF_ok (p : Nat → Prop) [DecidablePred p] : ∀ (n i : Nat), firstF p i n ≠ 0 → p (firstF p i n - 1) ∧ i ≤ firstF p i n - 1 ∧ firstF p i n - 1 < i + n
  | 0, i, h => absurd rfl h
  | n + 1, i, h => by
    unfold firstF at h ⊢
    split
    · rename_i hp
      exact ⟨hp, by omega, by omega⟩
    · rename_i hp
      rw [if_neg hp] at h
      have := firstF_ok p n (i + 1) h
      exact ⟨this.1, by omega, by omega⟩
theorem firstF_0 (p : Nat → Prop) [DecidablePred p] : ∀ (n i : Nat), firstF p i n = 0 → ∀ k, i ≤ k → k < i + n → ¬ p k
  | 0, i, _, k, h1, h2 => by omega
  | n + 1, i, h, k, h1, h2 => by
    unfold firstF at h
    split at h
    · omega
    · rename_i hp
      by_cases hk : k = i
      · rw [hk]; exact hp
      · exact firstF_0 p n (i + 1) h k (by omega) (by omega)
theorem best_ex (q : Nat → Nat) : ∀ n, 0 < n → ∃ f, f < n ∧ ∀ h, h < n → ¬ (q f < q h ∨ q h = q f ∧ h < f)
  | 0, h => absurd h (Nat.lt_irrefl 0)
  | 1, _ => ⟨0, by omega, fun h hh => by obtain rfl : h = 0 := by omega
                                         omega⟩
  | n + 2, _ => by
    obtain ⟨f, h1, h2⟩ := best_ex q (n + 1) (by omega)
    by_cases h3 : q f < q (n + 1)
    · refine ⟨n + 1, by omega, fun h hh => ?_⟩
      by_cases h4 : h = n + 1
      · subst h4; omega
      · have := h2 h (by omega)
        omega
    · refine ⟨f, by omega, fun h hh => ?_⟩
      by_cases h4 : h = n + 1
      · subst h4; omega
      · exact h2 h (by omega)
theorem cnt_0 (p : Nat → Prop) [DecidablePred p] : ∀ n, foldN (fun k c => c + if p k then 1 else 0) 0 n = 0 ↔ ∀ k, k < n → ¬ p k
  | 0 => by simp [foldN]
  | n + 1 => by
    have ih := cnt_0 p n
    show foldN (fun k c => c + if p k then 1 else 0) 0 n + (if p n then 1 else 0) = 0 ↔ _
    constructor
    · intro h k hk
      by_cases hp : p n
      · rw [if_pos hp] at h; omega
      · rw [if_neg hp] at h
        by_cases hkn : k = n
        · rw [hkn]; exact hp
        · exact ih.mp h k (by omega)
    · intro h
      rw [if_neg (h n (by omega)), ih.mpr (fun k hk => h k (by omega))]
theorem ahead_le {V : VS} (f : Nat) : aheadV V f ≤ vs V 1 := by
  have := sum_le (f := fun q => if leadV V f < leadV V q ∨ leadV V q = leadV V f ∧ q < f then 1 else 0) (m := 1) (vs V 1) (fun k _ => by split <;> omega)
  show foldN (fun g c => c + if leadV V f < leadV V g ∨ leadV V g = leadV V f ∧ g < f then 1 else 0) 0 (vs V 1) ≤ _
  omega
theorem foldM_le {q : Nat → Nat} : ∀ n k, k < n → q k ≤ foldN (fun f m => max m (q f)) 0 n
  | 0, k, h => absurd h (Nat.not_lt_zero k)
  | n + 1, k, h => by
    show q k ≤ max (foldN (fun f m => max m (q f)) 0 n) (q n)
    rcases Nat.lt_succ_iff_lt_or_eq.mp h with h | h
    · have := foldM_le (q := q) n k h; omega
    · subst h; omega
theorem foldM_ub {q : Nat → Nat} {m : Nat} : ∀ n, (∀ k, k < n → q k ≤ m) → foldN (fun f m => max m (q f)) 0 n ≤ m
  | 0, _ => Nat.zero_le _
  | n + 1, h => by
    show max (foldN (fun f m => max m (q f)) 0 n) (q n) ≤ m
    have := foldM_ub (q := q) n (fun k hk => h k (by omega))
    have := h n (by omega)
    omega
theorem rank0 {V : VS} (K : OkV V) (h : 0 < vs V 1) : rankV V (nI 0) ≠ 0 ∧ rankV V (nI 0) - 1 < vs V 1 ∧ leadV V (rankV V (nI 0) - 1) = topV V := by
  have hb := K.b
  have hcnt : ∀ f, aheadV V f = 0 ↔ ∀ k, k < vs V 1 → ¬ (leadV V f < leadV V k ∨ leadV V k = leadV V f ∧ k < f) := fun f => cnt_0 (fun k => leadV V f < leadV V k ∨ leadV V k = leadV V f ∧ k < f) (vs V 1)
  have hne : rankV V (nI 0) ≠ 0 := by
    intro z
    obtain ⟨f, h1, h2⟩ := best_ex (leadV V) (vs V 1) h
    refine firstF_0 _ _ _ z f (by omega) (by omega) ?_
    show nI (aheadV V f) = nI 0
    rw [(hcnt f).mpr h2]
  obtain ⟨h1, -, h3⟩ := firstF_ok (fun f => nI (aheadV V f) = nI 0) (vs V 1) 0 hne
  have h1 : nI (aheadV V (rankV V (nI 0) - 1)) = nI 0 := h1
  have h3 : rankV V (nI 0) - 1 < 0 + vs V 1 := h3
  refine ⟨hne, by omega, ?_⟩
  generalize rankV V (nI 0) - 1 = f at *
  have h4 := (hcnt f).mp (by have := ahead_le (V := V) f; exact (nI_eq (by omega) (by omega)).mp h1)
  have h5 := foldM_le (q := leadV V) (vs V 1) f (by omega)
  have h6 := foldM_ub (q := leadV V) (m := leadV V f) (vs V 1) (fun k hk => by have := h4 k hk; omega)
  show _ = foldN (fun f m => max m (leadV V f)) 0 (vs V 1)
  omega
theorem lead_top {V : VS} {f : Nat} (h : f < vs V 1) : leadV V f ≤ topV V := foldM_le (q := leadV V) (vs V 1) f h
