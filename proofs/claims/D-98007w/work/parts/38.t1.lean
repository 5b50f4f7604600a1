/-! TRAYS -/
set_option maxRecDepth 100000
/-- trays: each one's sort, one above its length (0: none), its numbers -/
abbrev TS : Type := (Nat → Nat) × (Nat → Nat) × (Nat → Nat → Int64)
def tk (T : TS) (t : Nat) : Nat := T.1 t
def tm (T : TS) (t : Nat) : Nat := T.2.1 t
def tv (T : TS) (t k : Nat) : Int64 := T.2.2 t k
def OkT (T : TS) : Prop := ∀ t, t < 4 → tk T t ≤ 3 ∧ tm T t ≤ 61
def EncT (S : MS) (T : TS) : Prop := ∀ t, t < 4 → mA S 5 t = nI (tk T t) ∧ mA S 6 t = nI (tm T t) - nI 1 ∧ ∀ k, k + 1 < tm T t → mB S 7 (60 * t + k) = tv T t k
/-- all but the trays and the status are as they were -/
def FrT (S S2 : MS) : Prop := (∀ k, k ≠ 2 → mI S2 k = mI S k) ∧ (∀ k, mL S2 k = mL S k) ∧ (∀ k, k ≠ 5 → k ≠ 6 → mA S2 k = mA S k) ∧ ∀ k, k ≠ 7 → mB S2 k = mB S k
theorem FrT.refl (S : MS) : FrT S S := ⟨fun _ _ => rfl, fun _ => rfl, fun _ _ _ => rfl, fun _ _ => rfl⟩
def setB (S : MS) (a : Nat → Int64) : MS := (S.1, S.2.1, S.2.2.1, va_up S.2.2.2 7 a)
theorem setB_s (S : MS) (a : Nat → Int64) (i : Nat) (x : Int64) : sB (setB S a) 7 i x = setB S (vp_updL a i x) := by
  unfold sB setB
  congr 3
  funext q
  unfold va_up
  by_cases h : q = 7
  · subst h; rfl
  · simp [h]
theorem setB_0 (S : MS) : setB S (mB S 7) = S := by
  unfold setB
  have : va_up S.2.2.2 7 (mB S 7) = S.2.2.2 := by
    funext q
    unfold va_up mB
    split
    · rename_i h; rw [h]
    · rfl
  rw [this]
theorem setB_B (S : MS) (a : Nat → Int64) : mB (setB S a) 7 = a := rfl
theorem FrT.setB (S : MS) (a : Nat → Int64) (w : Int32) : FrT S (sI (_root_.Jvm.Pilot.CLastPebbleLaw_law_r6602_a25804.setB S a) 2 w) := by
  refine ⟨fun k hk => ?_, fun _ => rfl, fun _ _ _ => rfl, fun k hk => ?_⟩
  · show va_up S.1 2 w k = S.1 k
    unfold va_up; rw [if_neg hk]
  · show va_up S.2.2.2 7 a k = S.2.2.2 k
    unfold va_up; rw [if_neg hk]
theorem updL_at (a : Nat → Int64) (i : Nat) (x : Int64) (j : Nat) : vp_updL a i x j = if j = i then x else a j := rfl
/-- what stands against a place: 0, or 1, 2, 3 -/
def wpT (T : TS) (x y : Int32) : Nat := if inN x 4 then (if tm T (cl x) = 0 then 2 else if inN y (tm T (cl x) - 1) then 0 else 3) else 1
theorem wpT_le (T : TS) (x y : Int32) : wpT T x y ≤ 3 := by
  unfold wpT
  split
  · split
    · omega
    · split <;> omega
  · omega
theorem wpT_0 {T : TS} {x y : Int32} (h : wpT T x y = 0) : inN x 4 ∧ tm T (cl x) ≠ 0 ∧ inN y (tm T (cl x) - 1) := by
  unfold wpT at h
  split at h
  · split at h
    · omega
    · split at h
      · exact ⟨by assumption, by assumption, by assumption⟩
      · omega
  · omega
def cutV (v : Int64) (s : Nat) : Int64 := if s = 0 then v.toInt32.toInt8.toInt32.toInt64 else if s = 1 then v.toInt32.toInt16.toInt32.toInt64 else if s = 2 then v.toInt32.toInt64 else v
def setTv (T : TS) (t k : Nat) (x : Int64) : TS := (T.1, T.2.1, va_up T.2.2 t (vp_updL (T.2.2 t) k x))
theorem setTv_v (T : TS) (t k : Nat) (x : Int64) (t2 k2 : Nat) : tv (setTv T t k x) t2 k2 = if t2 = t ∧ k2 = k then x else tv T t2 k2 := by
  show (va_up T.2.2 t (vp_updL (T.2.2 t) k x)) t2 k2 = _
  unfold va_up
  by_cases h : t2 = t
  · subst h
    rw [if_pos rfl, updL_at]
    by_cases h2 : k2 = k
    · rw [if_pos h2, if_pos ⟨rfl, h2⟩]
    · rw [if_neg h2, if_neg (fun z => h2 z.2)]; rfl
  · rw [if_neg h, if_neg (fun z => h z.1)]; rfl
/-- a new tray -/
def newT (T : TS) (t s n : Nat) : TS := (va_up T.1 t s, va_up T.2.1 t (n + 1), va_up T.2.2 t (fun _ => 0))
def w_tray (x y z : Int32) : Nat := if inN x 4 ∧ inN y 4 ∧ inN z 61 then 0 else 1
def v_tray (T : TS) (x y z : Int32) : TS := if inN x 4 ∧ inN y 4 ∧ inN z 61 then newT T (cl x) (cl y) (cl z) else T
def v_write (T : TS) (x y : Int32) (v : Int64) : TS := if wpT T x y = 0 then setTv T (cl x) (cl y) (cutV v (tk T (cl x))) else T
def a_read (T : TS) (x y : Int32) : Int64 := if wpT T x y = 0 then tv T (cl x) (cl y) else -1
/-- a part of one tray goes into one -/
def pourT (T : TS) (f p t a n : Nat) : TS := (T.1, T.2.1, va_up T.2.2 t (fun k => if a ≤ k ∧ k < a + n then tv T f (p + (k - a)) else tv T t k))
def trS (S : MS) (t q z k : Nat) : MS := foldN (fun k S => sB S 7 (60 * t + k) 0) (sA (sA S 5 t (nI q)) 6 t (nI z)) k
theorem trS_I (S : MS) (t q z : Nat) : ∀ k, (trS S t q z k).1 = S.1 ∧ (trS S t q z k).2.1 = S.2.1 ∧ (trS S t q z k).2.2.1 = (sA (sA S 5 t (nI q)) 6 t (nI z)).2.2.1 ∧ (∀ j, j ≠ 7 → mB (trS S t q z k) j = mB S j) ∧ ∀ i, mB (trS S t q z k) 7 i = if 60 * t ≤ i ∧ i < 60 * t + k then 0 else mB S 7 i
  | 0 => ⟨rfl, rfl, rfl, fun _ _ => rfl, fun i => by rw [if_neg (by omega)]; rfl⟩
  | k + 1 => by
    obtain ⟨h1, h2, h3, h4, h5⟩ := trS_I S t q z k
    refine ⟨h1, h2, h3, fun j hj => ?_, fun i => ?_⟩
    · rw [← h4 j hj]
      show va_up _ 7 _ j = _
      unfold va_up; rw [if_neg hj]; rfl
    · show vp_updL (mB (trS S t q z k) 7) (60 * t + k) 0 i = _
      rw [updL_at, h5]
      by_cases h : i = 60 * t + k
      · rw [if_pos h, if_pos (by omega)]
      · rw [if_neg h]
        by_cases h6 : 60 * t ≤ i ∧ i < 60 * t + k
        · rw [if_pos h6, if_pos (by omega)]
        · rw [if_neg h6, if_neg (by omega)]
theorem trS_ok {S : MS} {T : TS} (E : EncT S T) (O : OkT T) {t q z : Nat} (ht : t < 4) (hz : z < 61) (w : Int32) : FrT S (sI (trS S t q z z) 2 w) ∧ EncT (sI (trS S t q z z) 2 w) (newT T t q z) := by
  obtain ⟨h1, h2, h3, h4, h5⟩ := trS_I S t q z z
  refine ⟨⟨fun k hk => ?_, fun k => ?_, fun k k5 k6 => ?_, fun k k7 => h4 k k7⟩, fun e he => ⟨?_, ?_, fun k hk => ?_⟩⟩
  · show va_up (trS S t q z z).1 2 w k = S.1 k
    rw [h1]; unfold va_up; rw [if_neg hk]
  · show (trS S t q z z).2.1 k = S.2.1 k
    rw [h2]
  · show (trS S t q z z).2.2.1 k = S.2.2.1 k
    rw [h3]
    show va_up (va_up S.2.2.1 5 _) 6 _ k = _
    unfold va_up; rw [if_neg k6, if_neg k5]
  · show (trS S t q z z).2.2.1 5 e = nI (va_up T.1 t q e)
    rw [h3]
    show upd (mA S 5) t (nI q) e = _
    unfold va_up upd
    by_cases h : e = t
    · rw [if_pos h, if_pos h]
    · rw [if_neg h, if_neg h]; exact (E e he).1
  · show (trS S t q z z).2.2.1 6 e = nI (va_up T.2.1 t (z + 1) e) - nI 1
    rw [h3]
    show upd (mA S 6) t (nI z) e = _
    unfold va_up upd
    by_cases h : e = t
    · rw [if_pos h, if_pos h, nI_dn]
    · rw [if_neg h, if_neg h]; exact (E e he).2.1
  · have hk2 : k + 1 < va_up T.2.1 t (z + 1) e := hk
    show mB (trS S t q z z) 7 (60 * e + k) = va_up T.2.2 t (fun _ => 0) e k
    rw [h5]
    unfold va_up at hk2 ⊢
    by_cases h : e = t
    · subst h
      rw [if_pos rfl] at hk2
      rw [if_pos rfl, if_pos (by omega)]
    · rw [if_neg h] at hk2
      have := (O e he).2
      have hk3 : k + 1 < tm T e := hk2
      rw [if_neg h, if_neg (by omega)]
      exact (E e he).2.2 k hk3
theorem OkT.new {T : TS} (O : OkT T) {t q z : Nat} (hq : q < 4) (hz : z < 61) : OkT (newT T t q z) := fun e he => by
  have := O e he
  unfold tk tm at this
  show va_up T.1 t q e ≤ 3 ∧ va_up T.2.1 t (z + 1) e ≤ 61
  unfold va_up
  split <;> omega
theorem wr_ok {S : MS} {T : TS} (E : EncT S T) {t k : Nat} (ht : t < 4) (hk : k < 60) (hN : ∀ t, t < 4 → tm T t ≤ 61) (x : Int64) (w : Int32) : FrT S (sI (sB S 7 (60 * t + k) x) 2 w) ∧ EncT (sI (sB S 7 (60 * t + k) x) 2 w) (setTv T t k x) := by
  have e : sB S 7 (60 * t + k) x = setB S (vp_updL (mB S 7) (60 * t + k) x) := rfl
  rw [e]
  refine ⟨FrT.setB S _ w, fun e he => ⟨(E e he).1, (E e he).2.1, fun i hi => ?_⟩⟩
  have hi2 : i + 1 < tm T e := hi
  have := hN e he
  show vp_updL (mB S 7) (60 * t + k) x (60 * e + i) = _
  rw [updL_at, setTv_v]
  by_cases h : e = t ∧ i = k
  · rw [if_pos h, if_pos (by rw [h.1, h.2])]
  · rw [if_neg h, if_neg (by omega)]; exact (E e he).2.2 i hi2
/-- the row of trays while a part is poured: done are the places from lo to hi -/
def poA (a : Nat → Int64) (F G lo hi : Nat) : Nat → Int64 := fun p => if G + lo ≤ p ∧ p < G + hi then a (p - G + F) else a p
theorem poA_0 (a : Nat → Int64) (F G k : Nat) : poA a F G k k = a := by
  funext p
  unfold poA; rw [if_neg (by omega)]
theorem poA_up (a : Nat → Int64) {F G k : Nat} : vp_updL (poA a F G 0 k) (G + k) (a (F + k)) = poA a F G 0 (k + 1) := by
  funext p
  rw [updL_at]
  unfold poA
  by_cases h : p = G + k
  · rw [if_pos h, if_pos (by omega), h, show G + k - G + F = F + k by omega]
  · rw [if_neg h]
    by_cases h2 : G + 0 ≤ p ∧ p < G + k
    · rw [if_pos h2, if_pos (by omega)]
    · rw [if_neg h2, if_neg (by omega)]
theorem poA_dn (a : Nat → Int64) {F G k n : Nat} (h : k < n) : vp_updL (poA a F G (k + 1) n) (G + k) (a (F + k)) = poA a F G k n := by
  funext p
  rw [updL_at]
  unfold poA
  by_cases h : p = G + k
  · rw [if_pos h, if_pos (by omega), h, show G + k - G + F = F + k by omega]
  · rw [if_neg h]
    by_cases h2 : G + (k + 1) ≤ p ∧ p < G + n
    · rw [if_pos h2, if_pos (by omega)]
    · rw [if_neg h2, if_neg (by omega)]
theorem po_ok {S : MS} {T : TS} (E : EncT S T) (O : OkT T) {f p t a n : Nat} (hf : f < 4) (ht : t < 4) (h1 : p + n + 1 ≤ tm T f) (h2 : a + n + 1 ≤ tm T t) (w : Int32) : FrT S (sI (setB S (poA (mB S 7) (60 * f + p) (60 * t + a) 0 n)) 2 w) ∧ EncT (sI (setB S (poA (mB S 7) (60 * f + p) (60 * t + a) 0 n)) 2 w) (pourT T f p t a n) := by
  refine ⟨FrT.setB S _ w, fun e he => ⟨(E e he).1, (E e he).2.1, fun i hi => ?_⟩⟩
  have hi2 : i + 1 < tm T e := hi
  have := (O e he).2
  have hft := (O f hf).2
  have htt := (O t ht).2
  show poA (mB S 7) (60 * f + p) (60 * t + a) 0 n (60 * e + i) = va_up T.2.2 t _ e i
  unfold poA va_up
  by_cases h : e = t
  · subst h
    rw [if_pos rfl]
    by_cases h3 : a ≤ i ∧ i < a + n
    · rw [if_pos h3, if_pos (by omega), ← (E f hf).2.2 (p + (i - a)) (by omega)]
      congr 1
      omega
    · rw [if_neg h3, if_neg (by omega)]
      exact (E e he).2.2 i hi2
  · rw [if_neg h, if_neg (by omega)]
    exact (E e he).2.2 i hi2
def w_pour (T : TS) (f p t a n : Int32) : Nat := if inN f 4 ∧ inN t 4 ∧ ¬ p < 0 ∧ ¬ a < 0 ∧ ¬ n < 0 then (if tm T (cl f) = 0 ∨ tm T (cl t) = 0 then 2 else if tk T (cl f) ≠ tk T (cl t) then 8 else if cl p + cl n + 1 ≤ tm T (cl f) ∧ cl a + cl n + 1 ≤ tm T (cl t) then 0 else 3) else 1
def v_pour (T : TS) (f p t a n : Int32) : TS := if w_pour T f p t a n = 0 then pourT T (cl f) (cl p) (cl t) (cl a) (cl n) else T
/-- a number that is not below 0 -/
theorem nat_pos {x : Int32} (h : ¬ x < 0) : ∃ j : Nat, j < 2147483648 ∧ x = nI j ∧ cl x = j := by
  have h0 := Int32.le_iff_toInt_le.mp (Int32.not_lt.mp h)
  rw [Int32.toInt_zero] at h0
  have h1 := Int32.toInt_lt x
  refine ⟨x.toInt.toNat, by omega, ?_, rfl⟩
  rw [← Int32.toInt_inj, nI_toInt (by omega)]
  omega
theorem sub_gt {m p n : Nat} (hm : m < 100) (hp : p < 2147483648) (hn : n < 2147483648) : nI m - nI p < nI n ↔ m < p + n := by
  have h : (nI m - nI p).toInt = (m : Int) - p := by
    rw [Int32.toInt_sub, nI_toInt (by omega), nI_toInt hp, Int.bmod_def]
    omega
  rw [Int32.lt_iff_toInt_lt, h, nI_toInt hn]
  omega
