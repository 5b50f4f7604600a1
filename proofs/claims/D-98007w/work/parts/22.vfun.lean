/-! WHAT BOTH SIDES ANSWER, over the day V -/
set_option maxRecDepth 100000
abbrev cl (x : Int32) : Nat := x.toNatClampNeg
/-- x is a number below n -/
abbrev inN (x : Int32) (n : Nat) : Prop := ¬ x < 0 ∧ ¬ nI n ≤ x
theorem inN_iff {x : Int32} {n : Nat} : inN x n ↔ (¬ x < 0 ∧ ¬ nI n ≤ x) := Iff.rfl
theorem inN_of {x : Int32} {n : Nat} (h : inN x n) (hn : n < 2147483648) : ∃ j : Nat, j < n ∧ x = nI j := nat_of h.1 h.2 hn
theorem inN_nI {j n : Nat} (h : j < n) (hn : n < 2147483648) : inN (nI j) n := ⟨nI_pos (by omega), nI_ge h hn⟩
theorem and1_lt (a : Nat) : a &&& 1 < 2147483648 := Nat.lt_of_le_of_lt Nat.and_le_right (by omega)
theorem and1_01 (a : Nat) : a &&& 1 = 0 ∨ a &&& 1 = 1 := by rw [Nat.and_one_is_mod]; omega
abbrev bitN (s f : Nat) : Prop := (s >>> f) &&& 1 = 1
def ownV (V : VS) (d f : Nat) : Nat := ownF (vt V 7 d) (vp V 0 d) f
def lastV (V : VS) (d : Nat) : Nat := lastF (vt V 7 d) (vp V 0 d) (vp V 1 d)
theorem lastV_lt {V : VS} (K : OkV V) {d : Nat} (h : d < 8) : lastV V d < 64 := lastF_lt fun k hk => by have := (K.p h hk).1; have := K.b; omega
/-- the first, the last of those in a set: one above it; 0: none -/
def bestF (mode s n : Nat) : Nat := foldN (fun f c => if (s >>> f) &&& 1 = 1 ∧ (c = 0 ∨ mode = 2) then f + 1 else c) 0 n
def lowB (s : Nat) : Nat := 2 ^ (bestF 1 s 6 - 1)
def highB (s : Nat) : Nat := 2 ^ (bestF 2 s 6 - 1)
def ownersV (V : VS) (d : Nat) : Nat :=
  if pcnt (lastV V d) < 2 ∨ vs V 5 = 3 then lastV V d else if vs V 5 = 0 then 0 else if vs V 5 = 1 then lowB (lastV V d) else highB (lastV V d)
theorem bits64 : ∀ s, s < 64 → lowB s < 64 ∧ highB s < 64 ∧ ∀ f, f < 6 → bitN s f → 0 < pcnt s := by decide +kernel
theorem ownersV_lt {V : VS} (K : OkV V) {d : Nat} (h : d < 8) : ownersV V d < 64 := by
  have h1 := lastV_lt K h
  have h2 := bits64 _ h1
  unfold ownersV
  split
  · exact h1
  · split
    · omega
    · split
      · exact h2.1
      · exact h2.2.1
def setV (V : VS) (d : Nat) : Nat := if isT V d then ownersV V d else 0
theorem setV_lt {V : VS} (K : OkV V) {d : Nat} (h : d < 8) : setV V d < 64 := by
  unfold setV
  split
  · exact ownersV_lt K h
  · omega
def shareV (V : VS) (f d : Nat) : Nat := if (setV V d >>> f) &&& 1 = 0 then 0 else vt V 6 d / pcnt (setV V d)
theorem shareV_le {V : VS} (K : OkV V) (f : Nat) {d : Nat} (h : d < vs V 2) : shareV V f d ≤ 999 := by
  unfold shareV
  split
  · omega
  · exact Nat.le_trans (Nat.div_le_self _ _) (K.d h).2
def leadV (V : VS) (f : Nat) : Nat := foldN (fun d n => n + shareV V f d) 0 (vs V 2)
theorem sum_le {f : Nat → Nat} {m : Nat} : ∀ (n : Nat), (∀ k, k < n → f k ≤ m) → foldN (fun d c => c + f d) 0 n ≤ n * m
  | 0, _ => by simp [foldN]
  | n + 1, h => by
    have := sum_le n (fun k hk => h k (by omega))
    have h2 := h n (by omega)
    show foldN (fun d c => c + f d) 0 n + f n ≤ _
    rw [Nat.succ_mul]
    omega
theorem leadV_le {V : VS} (K : OkV V) (f : Nat) : leadV V f ≤ 7992 := by
  have := sum_le (f := fun d => shareV V f d) (m := 999) (vs V 2) (fun d hd => shareV_le K f hd)
  have := K.b
  show foldN (fun d n => n + shareV V f d) 0 (vs V 2) ≤ _
  omega
/-- how many are ahead of f -/
def aheadV (V : VS) (f : Nat) : Nat := foldN (fun g c => c + if leadV V f < leadV V g ∨ leadV V g = leadV V f ∧ g < f then 1 else 0) 0 (vs V 1)
/-- the first, from i on, of n for which p: one above it; 0: none -/
def firstF (p : Nat → Prop) [DecidablePred p] (i : Nat) : Nat → Nat
  | 0 => 0
  | k + 1 => if p i then i + 1 else firstF p (i + 1) k
theorem firstF_le (p : Nat → Prop) [DecidablePred p] : ∀ (n i : Nat), firstF p i n ≤ i + n
  | 0, i => by simp [firstF]
  | n + 1, i => by
    unfold firstF
    split
    · omega
    · have := firstF_le p n (i + 1)
      omega
def rankV (V : VS) (k : Int32) : Nat := firstF (fun f => nI (aheadV V f) = k) 0 (vs V 1)
/-- answer and status -/
abbrev AS : Type := Int32 × Int32
def okA (x : Nat) : AS := (nI x, nI 0)
def noA (w : Nat) : AS := (-1, nI w)
/-- c: one above the answer; 0: none -/
def orA (c : Nat) : AS := (nI c - nI 1, if c = 0 then nI 6 else nI 0)
theorem m1_iff {c : Nat} (h : c < 1073741824) : nI c - nI 1 = -1 ↔ c = 0 := by
  constructor
  · intro z
    have h1 := pk_sub_toInt (a := c) (b := 1) h (by omega)
    rw [z] at h1
    have h2 : (-1 : Int32).toInt = -1 := by decide
    omega
  · intro z
    subst z
    rfl
theorem orA_2 {c : Nat} (h : c < 1073741824) : (if nI c - nI 1 = -1 then nI 6 else nI 0) = (orA c).2 := by
  unfold orA
  by_cases z : c = 0
  · rw [if_pos ((m1_iff h).mpr z), if_pos z]
  · rw [if_neg (mt (m1_iff h).mp z), if_neg z]
/-- a find that may be asked: 0; or 1, 7 -/
def wfV (V : VS) (x : Int32) : Nat := if inN x (vs V 2) then (if isT V (cl x) then 0 else 7) else 1
def q_last (V : VS) (x : Int32) : AS := if wfV V x = 0 then okA (lastV V (cl x)) else noA (wfV V x)
def q_whose (V : VS) (x : Int32) : AS := if wfV V x = 0 then okA (ownersV V (cl x)) else noA (wfV V x)
def q_leads (V : VS) (x : Int32) : AS := if inN x (vs V 1) then okA (leadV V (cl x)) else noA 1
def q_ranked (V : VS) (k : Int32) : AS := orA (rankV V k)
def q_leader (V : VS) : AS := orA (rankV V (nI 0))
def q_duels (V : VS) : AS := okA (foldN (fun d s => s ||| if 1 < pcnt (lastV V d) then 2 ^ d else 0) 0 (vs V 2))
def q_needs (V : VS) (x : Int32) : AS := if inN x (vs V 1) then okA (foldN (fun d n => n + if isT V d ∧ lastV V d ≠ 2 ^ cl x then 1 else 0) 0 (vs V 2)) else noA 1
def strewnV (V : VS) (f : Nat) : Nat := foldN (fun d n => n + ownV V d f) 0 (vs V 2)
def q_strewn (V : VS) (x : Int32) : AS := if inN x (vs V 1) then okA (strewnV V (cl x)) else noA 1
def liesF (own : Nat → Nat) (i left : Nat) : Nat → Nat
  | 0 => 0
  | r + 1 => if left < own i then i + 1 else liesF own (i + 1) (left - own i) r
theorem liesF_le (own : Nat → Nat) : ∀ (n i left : Nat), liesF own i left n ≤ i + n
  | 0, i, _ => by simp [liesF]
  | n + 1, i, left => by
    unfold liesF
    split
    · omega
    · have := liesF_le own n (i + 1) (left - own i)
      omega
def q_lies (V : VS) (x k : Int32) : AS := if inN x (vs V 1) then (if k < 0 then noA 6 else if liesF (fun d => ownV V d (cl x)) 0 (cl k) (vs V 2) = 0 then noA 6 else okA (liesF (fun d => ownV V d (cl x)) 0 (cl k) (vs V 2) - 1)) else noA 1
def q_rivals (V : VS) (x y : Int32) : AS := if inN x (vs V 1) ∧ inN y (vs V 1) ∧ x ≠ y then okA (foldN (fun d s => s ||| if 0 < ownV V d (cl x) ∧ 0 < ownV V d (cl y) then 2 ^ d else 0) 0 (vs V 2)) else noA 1
def richK (V : VS) (n : Nat) : Nat := foldN (fun d c => if isT V d ∧ (c = 0 ∨ vt V 6 (c - 1) < vt V 6 d) then d + 1 else c) 0 n
def q_richest (V : VS) : AS := orA (richK V (vs V 2))
def wlV (V : VS) (x : Int32) : Nat := if 0 < wfV V x then wfV V x else if vt V 7 (cl x) = 0 then 6 else 0
def leftV (V : VS) (d : Nat) : Nat := vs V 3 - vp V 1 d (vt V 7 d - 1)
def q_left (V : VS) (x : Int32) : AS := if wlV V x = 0 then okA (leftV V (cl x)) else noA (wlV V x)
def q_tideIn (V : VS) (x : Int32) : AS := if inN x 100 then okA (max 1 (vs V 3 - cl x * vs V 4)) else noA 1
def latK (V : VS) (n : Nat) : Nat := foldN (fun d c => if 0 < vt V 7 d then max c (vp V 1 d (vt V 7 d - 1) + 1) else c) 0 n
def q_latest (V : VS) : AS := orA (latK V (vs V 2))
def topV (V : VS) : Nat := foldN (fun f m => max m (leadV V f)) 0 (vs V 1)
def q_behind (V : VS) (x : Int32) : AS := if inN x (vs V 1) then okA (topV V - leadV V (cl x)) else noA 1
def whoS (V : VS) (d n : Nat) : Nat := foldN (fun k s => s ||| 2 ^ vp V 0 d k) 0 n
def q_alone (V : VS) : AS := okA (foldN (fun d s => s ||| if pcnt (whoS V d (vt V 7 d)) = 1 then 2 ^ d else 0) 0 (vs V 2))
def partF (s : Nat) (k : Int32) (f j : Nat) : Nat → Nat
  | 0 => 0
  | r + 1 => if bitN s f then (if k = nI j then f + 1 else partF s k (f + 1) (j + 1) r) else partF s k (f + 1) j r
def partV (V : VS) (x k : Int32) : Nat := partF (lastV V (cl x)) k 0 0 (vs V 1)
def q_part (V : VS) (x k : Int32) : AS := if 0 < wfV V x then noA (wfV V x) else if partV V x k = 0 then noA 6 else okA (shareV V (partV V x k - 1) (cl x))
def crowdK (V : VS) (x c n : Nat) : Nat := foldN (fun f s => s + if c ≤ vt V 0 f ∧ vt V 0 f < c + x then 1 else 0) 0 n
def q_crowd (V : VS) (x : Int32) : AS := if inN x 41 ∧ x ≠ nI 0 then okA (foldN (fun c m => max m (crowdK V (cl x) c (vs V 1))) 0 (vs V 0)) else noA 1
theorem ownV_le {V : VS} (K : OkV V) {d : Nat} (h : d < 8) (f : Nat) : ownV V d f ≤ 60 := Nat.le_trans (ownF_le _ _ _) (K.n h)
theorem pow6 : ∀ f, f < 6 → 2 ^ f ≤ 32 := by decide
theorem pow8 : ∀ f, f < 8 → 2 ^ f ≤ 128 := by decide
theorem foldN_s {α : Type} (f : Nat → α → α) (a : α) (n : Nat) : foldN f a (n + 1) = f n (foldN f a n) := rfl
theorem wfV_0 {V : VS} {x : Int32} (h : wfV V x = 0) : inN x (vs V 2) ∧ isT V (cl x) := by
  unfold wfV at h
  split at h
  · rename_i h1
    split at h
    · exact ⟨h1, by assumption⟩
    · omega
  · omega
theorem wfV_le (V : VS) (x : Int32) : wfV V x ≤ 7 := by
  unfold wfV
  split
  · split <;> omega
  · omega
theorem wlV_0 {V : VS} {x : Int32} (h : wlV V x = 0) : inN x (vs V 2) ∧ isT V (cl x) ∧ 0 < vt V 7 (cl x) := by
  unfold wlV at h
  split at h
  · omega
  · split at h
    · omega
    · have := wfV_0 (V := V) (x := x) (by omega)
      exact ⟨this.1, this.2, by omega⟩
theorem wlV_le (V : VS) (x : Int32) : wlV V x ≤ 7 := by
  have := wfV_le V x
  unfold wlV
  split
  · exact this
  · split <;> omega
theorem max_m1 {c t : Nat} (hc : c < 1000000) (ht : t < 1000000) : (if nI c - nI 1 < nI t then nI t else nI c - nI 1) = nI (max c (t + 1)) - nI 1 := by
  by_cases h : c < t + 1
  · rw [if_pos (by
      rw [Int32.lt_iff_toInt_lt, pk_sub_toInt (by omega) (by omega), nI_toInt (by omega)]
      omega), Nat.max_eq_right (by omega), nI_dn]
  · rw [if_neg (by
      rw [Int32.lt_iff_toInt_lt, pk_sub_toInt (by omega) (by omega), nI_toInt (by omega)]
      omega), Nat.max_eq_left (by omega)]
theorem long_ge {x : Int32} {m : Nat} (hm : m < 1000000) : (¬ lg_cmp x.toInt64 (lN m) < 0) ↔ ¬ x < nI m := by
  rw [Int32.not_lt, Int32.not_lt, lg_cmp_ge, Int64.le_iff_toInt_le, Int32.le_iff_toInt_le, Int32.toInt_toInt64, lN_toInt (by omega), nI_toInt (by omega)]
theorem long_le {x : Int32} {m : Nat} (hm : m < 1000000) : (¬ 0 < lg_cmp x.toInt64 (lN m)) ↔ ¬ nI (m + 1) ≤ x := by
  rw [Int32.not_lt, Int32.not_le, lg_cmp_le, Int64.le_iff_toInt_le, Int32.lt_iff_toInt_lt, Int32.toInt_toInt64, lN_toInt (by omega), nI_toInt (by omega)]
  omega
theorem isFrom_0 {x : Int32} {m : Nat} (hm : m < 1000000) : (¬ lg_cmp x.toInt64 (0 : Int64) < 0 ∧ ¬ 0 < lg_cmp x.toInt64 (lN m)) ↔ inN x (m + 1) := by
  have h0 := long_ge (x := x) (m := 0) (by omega)
  have h1 := long_le (x := x) (m := m) hm
  have e0 : (0 : Int64) = lN 0 := rfl
  have e1 : (0 : Int32) = nI 0 := rfl
  rw [e0, h0, h1, ← e1]
theorem isFrom_1 {x : Int32} {m : Nat} (hm : m < 1000000) : (¬ lg_cmp x.toInt64 (1 : Int64) < 0 ∧ ¬ 0 < lg_cmp x.toInt64 (lN m)) ↔ (inN x (m + 1) ∧ x ≠ nI 0) := by
  have h0 := long_ge (x := x) (m := 1) (by omega)
  have h1 := long_le (x := x) (m := m) hm
  have e0 : (1 : Int64) = lN 1 := rfl
  rw [e0, h0, h1]
  have e1 : (0 : Int32) = nI 0 := rfl
  constructor
  · rintro ⟨a, b⟩
    refine ⟨⟨fun z => ?_, b⟩, fun z => a (by rw [z]; exact nI_lt (by omega) (by omega))⟩
    apply a
    rw [Int32.lt_iff_toInt_lt, nI_toInt (by omega)]
    rw [Int32.lt_iff_toInt_lt, Int32.toInt_zero] at z
    omega
  · rintro ⟨⟨a, b⟩, d⟩
    refine ⟨fun z => ?_, b⟩
    obtain ⟨j, hj, rfl⟩ := nat_of a b (by omega)
    have := (nI_ltI (by omega) (by omega)).mp z
    exact d (by rw [show j = 0 by omega])
