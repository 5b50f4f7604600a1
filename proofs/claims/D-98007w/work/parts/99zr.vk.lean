/-! WHAT CHANGES KEEP (pure, by hand): a day stays a day, on the same beach (vs 9); rows of rounds name finds -/
set_option maxRecDepth 100000
def OK3 (V V2 : VS) : Prop := OkV V2 ∧ KepV V2 ∧ vs V2 0 = vs V 0 ∧ vs V2 1 = vs V 1 ∧ vs V2 2 = vs V 2 ∧ vs V2 9 = vs V 9
section VK9
variable {V : VS} {x y : Int32}
theorem cl_lt {x : Int32} {n : Nat} (h : inN x n) (hn : n < 2147483648) : cl x < n := by
  obtain ⟨j, hj, rfl⟩ := inN_of h hn
  show (nI j).toNatClampNeg < n
  rw [nI_clamp (by omega)]
  exact hj
theorem OK3.refl (K : OkV V) (hk : KepV V) : OK3 V V := ⟨K, hk, rfl, rfl, rfl, rfl⟩
theorem ok3_go (K : OkV V) (hk : KepV V) : OK3 V (v_go V x y) := by
  have kb := K.b
  unfold v_go
  split
  · rename_i h
    have hg := Kep.went hk (cl x) (cl y)
    exact ⟨K.went (cl_lt h.1 (by omega)) (cl_lt h.2 (by omega)), hg.1, hg.2 0, hg.2 1, hg.2 2, hg.2 9⟩
  · exact OK3.refl K hk
theorem ok3_pass (K : OkV V) (hk : KepV V) : OK3 V (v_pass V x y) := by
  have kb := K.b
  unfold v_pass
  split
  · rename_i h
    have hg := Kep.waited hk (cl x) (cl y)
    exact ⟨K.waited (cl_lt h.1 (by omega)), hg.1, hg.2 0, hg.2 1, hg.2 2, hg.2 9⟩
  · exact OK3.refl K hk
theorem ok3_set (K : OkV V) (hk : KepV V) : OK3 V (v_set V x y) := by
  have kb := K.b
  unfold v_set
  split
  · rename_i h
    split
    · rename_i hw
      have hg := Kep.sets hk (cl x) (cl y)
      exact ⟨K.sets (cl_lt h.1 (by omega)) (cl_lt h.2 (by omega)) hw, hg.1, hg.2 0 (by omega), hg.2 1 (by omega), hg.2 2 (by omega), hg.2 9 (by omega)⟩
    · exact OK3.refl K hk
  · exact OK3.refl K hk
theorem ok3_lift (K : OkV V) (hk : KepV V) : OK3 V (v_lift V x y) := by
  have kb := K.b
  unfold v_lift
  split
  · rename_i h
    split
    · rename_i hw
      have hg := Kep.lift hk (cl x) (cl y)
      exact ⟨K.lift (cl_lt h.1 (by omega)) (cl_lt h.2 (by omega)) hw, hg.1, hg.2 0 (by omega), hg.2 1 (by omega), hg.2 2 (by omega), hg.2 9 (by omega)⟩
    · exact OK3.refl K hk
  · exact OK3.refl K hk
theorem ok3_gull (K : OkV V) (hk : KepV V) : OK3 V (v_gull V x y) := by
  have kb := K.b
  unfold v_gull
  split
  · rename_i h
    split
    · rename_i hw
      have hg := Kep.gull hk (cl x) (cl y)
      exact ⟨K.gull (cl_lt h.1 (by omega)) (cl_lt h.2.1 (by omega)) hw, hg.1, hg.2 0 (by omega), hg.2 1 (by omega), hg.2 2 (by omega), hg.2 9 (by omega)⟩
    · exact OK3.refl K hk
  · exact OK3.refl K hk
theorem ok3_wave (K : OkV V) (hk : KepV V) : OK3 V (v_wave V x) := by
  unfold v_wave
  split
  · have hg := Kep.wave hk (cl x)
    exact ⟨K.wave _, hg.1, hg.2 0 (by omega), hg.2 1 (by omega), hg.2 2 (by omega), hg.2 9 (by omega)⟩
  · exact OK3.refl K hk
theorem ok3_tide (K : OkV V) (hk : KepV V) : OK3 V (v_tide V) := by
  have kb := K.b
  unfold v_tide
  split
  · exact OK3.refl K hk
  · split
    · exact OK3.refl K hk
    · obtain ⟨f1, f2⟩ := K.flood hk (by omega)
      have es : ∀ i, i < 3 ∨ i = 9 → vs (floodV V) i = vs V i := fun i hi => by
        rw [flood_s, if_neg (by omega), if_neg (by omega), if_neg (by omega), if_neg (by omega)]
      exact ⟨f1, f2, es 0 (by omega), es 1 (by omega), es 2 (by omega), es 9 (by omega)⟩
theorem ok3_dawn (K : OkV V) (hk : KepV V) : OK3 V (v_dawn V) := by
  unfold v_dawn
  split
  · rename_i h
    have es : ∀ i, i ≠ 7 → vs (dawnV V) i = vs V i := fun i hi => by rw [dawnV, setS_s, if_neg hi]
    exact ⟨K.dawn h, Kep_of hk (es 1 (by omega)) (es 6 (by omega)) (fun _ => rfl), es 0 (by omega), es 1 (by omega), es 2 (by omega), es 9 (by omega)⟩
  · exact OK3.refl K hk
theorem gc_9 {R : RS} {s : Nat} : vs (gcV R s).1 9 = vs R.1 9 := by
  unfold gcV
  split
  · rfl
  · split
    · rfl
    · rfl
theorem do_9 {R : RS} {r : Nat → Nat} : vs (doD R r).1 9 = vs R.1 9 := by
  unfold doD
  by_cases c1 : r 0 = 18
  · rw [if_pos c1]
    show vs (wentV R.1 (r 1) (r 2)) 9 = _
    unfold wentV
    split <;> rfl
  rw [if_neg c1]
  by_cases c2 : r 0 = 20
  · rw [if_pos c2]
    show vs (waitedV R.1 (r 1) (r 2)) 9 = _
    unfold waitedV
    split <;> rfl
  rw [if_neg c2]
  by_cases c3 : r 0 = 19
  · rw [if_pos c3]
    split <;> rfl
  rw [if_neg c3]
  by_cases c4 : r 0 = 21
  · rw [if_pos c4]
    split <;> rfl
  rw [if_neg c4]
  by_cases c5 : r 0 = 22
  · rw [if_pos c5]
    exact gc_9
  rw [if_neg c5]
  by_cases c6 : r 0 = 23
  · rw [if_pos c6]
    show vs (waveV R.1 (r 1)) 9 = _
    rw [waveV, waveK_8, if_neg (by omega)]
  rw [if_neg c6]
  by_cases c7 : r 0 = 1
  · rw [if_pos c7]
    split
    · rfl
    · show vs (dawnV (floodV R.1)) 9 = _
      rw [dawnV, setS_s, if_neg (by omega), flood_s, if_neg (by omega), if_neg (by omega), if_neg (by omega), if_neg (by omega)]
  rw [if_neg c7]
theorem lv_9 {P : PG} : ∀ f k (R : RS) lo s, vs (lvF P f k R lo s).1.1 9 = vs R.1 9
  | 0, _, _, _, _ => rfl
  | f + 1, k, R, lo, s => by
    unfold lvF
    split
    · split
      · rfl
      · split
        · rfl
        · rw [lv_9 f]
          exact do_9
    · rfl
theorem ok3_lives {P : PG} {lo : Nat → Nat} {seed : Nat} (K : OkV V) (hk : KepV V) (O : OkP (vs V 0) (vs V 1) (vs V 2) P) (hs : seed < 65536) : OK3 V (livesV V P lo seed).1.1 := by
  obtain ⟨o1, o2, o3, o4, o5, o6⟩ := livesV_ok (lo := lo) K hk O hs
  exact ⟨o1, o2, o4, o5, o6, lv_9 _ _ _ _ _⟩
theorem flp_inv {β : Type} {g : Nat → β → β} {I : β → Prop} : ∀ (j k : Nat) (b : β), (∀ i b, k ≤ i → i < k + j → I b → I (g i b)) → I b → I (flp g j k b)
  | 0, _, _, _, h => h
  | j + 1, k, b, hg, h => by
    unfold flp
    exact flp_inv j (k + 1) _ (fun i b h1 h2 => hg i b (by omega) (by omega)) (hg k b (Nat.le_refl _) (by omega) h)
def Rw8 (b : Bst) : Prop := ∀ i, b.2.2 i < 8
theorem bet_8 {b : Bst} {w n : Nat} {row : Nat → Nat} (h : Rw8 b) (hr : ∀ i, row i < 8) : Rw8 (bet b w n row) := by
  unfold bet
  split
  · intro i
    show (if i < n then row i else 0) < 8
    split
    · exact hr i
    · omega
  · exact h
theorem up_8 {row : Nat → Nat} {n k : Nat} (hr : ∀ i, row i < 8) (hk : k < 8) : ∀ i, va_up row n k i < 8 := fun i => by
  unfold va_up
  split
  · exact hk
  · exact hr i
theorem rdG_8 {f tide : Nat} (h8 : vs V 2 ≤ 8) : ∀ j c m u n w row b, (∀ i, row i < 8) → Rw8 b → Rw8 (rdG V f tide j c m u n w row b)
  | 0, _, _, _, _, _, _, _, _, h => h
  | j + 1, c, m, u, n, w, row, b, hr, h => by
    unfold rdG
    split
    · exact bet_8 h hr
    · refine flp_inv _ _ _ (fun i b h1 h2 hb => ?_) (bet_8 h hr)
      split
      · exact rdG_8 h8 j _ _ _ _ _ _ _ (up_8 hr (by omega)) hb
      · exact hb
theorem rdB_8 {f tide : Nat} (h8 : vs V 2 ≤ 8) : Rw8 (rdB V f tide) := by
  unfold rdB cont lvl
  split
  · intro i
    show 0 < 8
    omega
  · refine flp_inv _ _ _ (fun i b h1 h2 hb => ?_) (fun i => by show 0 < 8; omega)
    unfold vis
    split
    · exact rdG_8 h8 _ _ _ _ _ _ _ _ (up_8 (fun _ => by omega) (by omega)) hb
    · exact hb
theorem EncA.s9 {a : Nat → Int32} {b : Nat} (h : EncA a V) : EncA a (setS V 9 b) :=
  ⟨fun k hk => by rw [setS_s, if_neg (by omega)]; exact h.1 k hk, h.2.1, h.2.2.1, h.2.2.2⟩
theorem OkV.s9 {b : Nat} (K : OkV V) : OkV (setS V 9 b) := K
theorem Kep.s9 {b : Nat} (K : KepV V) : KepV (setS V 9 b) := K
theorem OkT.tv {T : TS} {t k : Nat} {z : Int64} (O : OkT T) : OkT (setTv T t k z) := O
theorem OkT.tray {T : TS} (O : OkT T) {z : Int32} : OkT (v_tray T x y z) := by
  unfold v_tray
  split
  · rename_i h
    exact O.new (cl_lt h.2.1 (by omega)) (cl_lt h.2.2 (by omega))
  · exact O
theorem OkT.write {T : TS} (O : OkT T) {v : Int64} : OkT (v_write T x y v) := by
  unfold v_write
  split
  · exact O
  · exact O
theorem cut_rg (v : Int64) (s : Nat) : (s = 0 → -128 ≤ (cutV v s).toInt ∧ (cutV v s).toInt ≤ 127) ∧ (s = 1 → -32768 ≤ (cutV v s).toInt ∧ (cutV v s).toInt ≤ 32767) := by
  refine ⟨fun h => ?_, fun h => ?_⟩
  · subst h
    show -128 ≤ (v.toInt32.toInt8.toInt32.toInt64).toInt ∧ (v.toInt32.toInt8.toInt32.toInt64).toInt ≤ 127
    rw [Int32.toInt_toInt64, Int8.toInt_toInt32]
    have h1 := Int8.toInt_lt v.toInt32.toInt8
    have h2 := Int8.le_toInt v.toInt32.toInt8
    omega
  · subst h
    show -32768 ≤ (v.toInt32.toInt16.toInt32.toInt64).toInt ∧ (v.toInt32.toInt16.toInt32.toInt64).toInt ≤ 32767
    rw [Int32.toInt_toInt64, Int16.toInt_toInt32]
    have h1 := Int16.toInt_lt v.toInt32.toInt16
    have h2 := Int16.le_toInt v.toInt32.toInt16
    omega
theorem RgT.new {T : TS} {j s n : Nat} (R : RgT T) : RgT (newT T j s n) := by
  intro t k h4 hk
  by_cases h : t = j
  · subst h
    have hv : tv (newT T t s n) t k = 0 := congrFun (va_up_self T.2.2 t _) k
    rw [hv]
    exact ⟨fun _ => by decide, fun _ => by decide⟩
  · have h1 : tk (newT T j s n) t = tk T t := va_up_ne _ _ h
    have h2 : tm (newT T j s n) t = tm T t := va_up_ne _ _ h
    have h3 : tv (newT T j s n) t k = tv T t k := congrFun (va_up_ne T.2.2 _ h) k
    rw [h2] at hk
    rw [h1, h3]
    exact R t k h4 hk
theorem RgT.set {T : TS} {j i : Nat} {v : Int64} (R : RgT T) : RgT (setTv T j i (cutV v (tk T j))) := by
  intro t k h4 hk
  have h1 : tk (setTv T j i (cutV v (tk T j))) t = tk T t := rfl
  rw [setTv_v, h1]
  by_cases h : t = j ∧ k = i
  · rw [if_pos h, h.1]
    exact cut_rg v (tk T j)
  · rw [if_neg h]
    exact R t k h4 hk
theorem pour_v (T : TS) (f p t a n : Nat) (b k : Nat) : tv (pourT T f p t a n) b k = if b = t then (if a ≤ k ∧ k < a + n then tv T f (p + (k - a)) else tv T t k) else tv T b k := by
  show (va_up T.2.2 t (fun k => if a ≤ k ∧ k < a + n then tv T f (p + (k - a)) else tv T t k)) b k = _
  by_cases h : b = t
  · subst h
    rw [va_up_self, if_pos rfl]
  · rw [va_up_ne _ _ h, if_neg h]
    rfl
theorem RgT.pour {T : TS} {f p t a n : Nat} (R : RgT T) (hs : tk T f = tk T t) (hf : f < 4) (hp : p + n + 1 ≤ tm T f) : RgT (pourT T f p t a n) := by
  intro b k h4 hk
  have h1 : tk (pourT T f p t a n) b = tk T b := rfl
  rw [pour_v, h1]
  by_cases h : b = t
  · rw [if_pos h]
    split
    · rw [h, ← hs]
      exact R f (p + (k - a)) hf (by omega)
    · rw [h]
      rw [h] at h4 hk
      exact R t k h4 hk
  · rw [if_neg h]
    exact R b k h4 hk
theorem w_pour0 {T : TS} {f p t a n : Int32} (h : w_pour T f p t a n = 0) : inN f 4 ∧ inN t 4 ∧ tk T (cl f) = tk T (cl t) ∧ cl p + cl n + 1 ≤ tm T (cl f) ∧ cl a + cl n + 1 ≤ tm T (cl t) := by
  unfold w_pour at h
  split at h
  · rename_i h1
    split at h
    · omega
    · split at h
      · omega
      · rename_i h3
        split at h
        · rename_i h4
          exact ⟨h1.1, h1.2.1, Decidable.not_not.mp h3, h4.1, h4.2⟩
        · omega
  · omega
theorem OkTr.tray {T : TS} (O : OkTr T) {z : Int32} : OkTr (v_tray T x y z) := by
  refine ⟨O.1.tray, ?_⟩
  unfold v_tray
  split
  · exact O.2.new
  · exact O.2
theorem OkTr.write {T : TS} (O : OkTr T) {v : Int64} : OkTr (v_write T x y v) := by
  refine ⟨O.1.write, ?_⟩
  unfold v_write
  split
  · exact O.2.set
  · exact O.2
theorem OkTr.pour {T : TS} (O : OkTr T) {f p t a n : Int32} : OkTr (v_pour T f p t a n) := by
  unfold v_pour
  split
  · rename_i h
    obtain ⟨h1, h2, h3, h4, -⟩ := w_pour0 h
    exact ⟨O.1, O.2.pour h3 (cl_lt h1 (by omega)) h4⟩
  · exact O
end VK9
