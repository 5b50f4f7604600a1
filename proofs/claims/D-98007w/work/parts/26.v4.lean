/-! MORE ANSWERS over the day V -/
set_option maxRecDepth 100000
def stepsV (V : VS) (f c : Nat) : Nat := vt V 1 f * nabs (vt V 0 f) c
theorem stepsV_le {V : VS} (K : OkV V) {f c : Nat} (hf : f < vs V 1) (hc : c < 40) : stepsV V f c ≤ 360 := by
  have := K.f hf
  have := K.b
  have h1 := nabs_le (vt V 0 f) c 40 (by omega) (by omega)
  exact Nat.le_trans (Nat.mul_le_mul (show vt V 1 f ≤ 9 by omega) h1) (by omega)
def q_walk (V : VS) (x y : Int32) : AS := if inN x (vs V 1) ∧ inN y (vs V 2) then okA (stepsV V (cl x) (vt V 5 (cl y))) else noA 1
def q_open (V : VS) : AS := okA (foldN (fun d n => n + if isT V d ∧ ownersV V d = 0 then vt V 6 d else 0) 0 (vs V 2))
def farK (V : VS) (f n : Nat) : Nat := foldN (fun d c => if isT V d ∧ (c = 0 ∨ stepsV V f (vt V 5 (c - 1)) < stepsV V f (vt V 5 d)) then d + 1 else c) 0 n
def farM (V : VS) (f c : Nat) : Nat := if c = 0 then 0 else stepsV V f (vt V 5 (c - 1)) + 1
def q_farthest (V : VS) (x : Int32) : AS := if inN x (vs V 1) then orA (farK V (cl x) (vs V 2)) else noA 1
def q_time (V : VS) (x : Int32) : AS := if inN x (vs V 1) then okA (vs V 3 - vt V 3 (cl x)) else noA 1
def q_tally (V : VS) (x y : Int32) : AS := if inN x (vs V 2) ∧ inN y (vs V 1) then okA (ownV V (cl x) (cl y)) else noA 1
def busyK (V : VS) (n : Nat) : Nat := foldN (fun f c => if c = 0 ∨ strewnV V (c - 1) < strewnV V f then f + 1 else c) 0 n
def q_busiest (V : VS) : AS := orA (busyK V (vs V 1))
def seenV (V : VS) (f c : Nat) : Nat := foldN (fun d s => s ||| if isT V d ∧ nabs (vt V 5 d) (vt V 0 f) ≤ c then 2 ^ d else 0) 0 (vs V 2)
def q_seen (V : VS) (x y : Int32) : AS := if inN x (vs V 1) ∧ inN y 41 then okA (seenV V (cl x) (cl y)) else noA 1
def q_both (V : VS) (x y z : Int32) : AS := if inN x (vs V 1) ∧ inN y (vs V 1) ∧ x ≠ y ∧ inN z 41 then okA (seenV V (cl x) (cl z) &&& seenV V (cl y) (cl z)) else noA 1
theorem bestK_le {p : Nat → Nat → Prop} {ip : ∀ d c, Decidable (p d c)} : ∀ n, foldN (fun d c => if p d c then d + 1 else c) 0 n ≤ n
  | 0 => Nat.le_refl _
  | n + 1 => by
    rw [foldN_s]
    have := bestK_le (p := p) (ip := ip) n
    split <;> omega
theorem le_m1 {a m : Nat} (ha : a < 1000000) (hm : m < 1000000) : nI a ≤ nI m - nI 1 ↔ a < m := by
  rw [Int32.le_iff_toInt_le, pk_sub_toInt (by omega) (by omega), nI_toInt (by omega)]
  omega
theorem sumS_le {V : VS} (K : OkV V) (f : Nat) : strewnV V f ≤ 480 := by
  have := sum_le (f := fun d => ownV V d f) (m := 60) (vs V 2) (fun d hd => ownV_le K (by have := K.b; omega) f)
  have := K.b
  show foldN (fun d n => n + ownV V d f) 0 (vs V 2) ≤ _
  omega
theorem max_sub {a b : Nat} (ha : a < 1000000) (hb : b < 1000000) : (if nI 1 < nI a - nI b then nI a - nI b else nI 1) = nI (max 1 (a - b)) := by
  by_cases h : 1 + b < a
  · rw [if_pos (by
      rw [Int32.lt_iff_toInt_lt, pk_sub_toInt (by omega) (by omega), nI_toInt (by omega)]
      omega), pk_sub (by omega), Nat.max_eq_right (by omega)]
  · rw [if_neg (by
      rw [Int32.lt_iff_toInt_lt, pk_sub_toInt (by omega) (by omega), nI_toInt (by omega)]
      omega), Nat.max_eq_left (by omega)]
theorem kj_eq {k x : Int32} (h : k - x = 0) : k = x := by grind
theorem kj_0 (k : Int32) : k = k - nI 0 := by
  have : nI 0 = 0 := nI_0
  rw [this, Int32.sub_zero]
theorem kj_step (k : Int32) (j : Nat) : k - nI j + Int32.ofInt (-1) = k - nI (j + 1) := by
  rw [← nI_add]
  have : Int32.ofInt (-1) = -(nI 1) := by decide
  rw [this]
  grind
theorem crowd_s (V : VS) (x c f : Nat) : crowdK V x c (f + 1) = crowdK V x c f + if c ≤ vt V 0 f ∧ vt V 0 f < c + x then 1 else 0 := rfl
theorem far_s (V : VS) (f n : Nat) : farK V f (n + 1) = if isT V n ∧ (farK V f n = 0 ∨ stepsV V f (vt V 5 (farK V f n - 1)) < stepsV V f (vt V 5 n)) then n + 1 else farK V f n := rfl
theorem far_t {V : VS} {f k c : Nat} (h : ¬ stepsV V f (vt V 5 k) < farM V f c) : c = 0 ∨ stepsV V f (vt V 5 (c - 1)) < stepsV V f (vt V 5 k) := by
  unfold farM at h
  split at h <;> omega
theorem far_f {V : VS} {f k c : Nat} (h : stepsV V f (vt V 5 k) < farM V f c) : ¬ (c = 0 ∨ stepsV V f (vt V 5 (c - 1)) < stepsV V f (vt V 5 k)) := by
  unfold farM at h
  split at h <;> omega
theorem busy_s (V : VS) (n : Nat) : busyK V (n + 1) = if busyK V n = 0 ∨ strewnV V (busyK V n - 1) < strewnV V n then n + 1 else busyK V n := rfl
