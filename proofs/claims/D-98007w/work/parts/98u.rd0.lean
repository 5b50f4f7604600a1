/-! ROUNDS (pure): by recursion, and as what is still to be gone through -/
set_option maxRecDepth 100000
/-- the best round so far: one above its worth (0: none), how many finds, which -/
abbrev Bst : Type := Nat × Nat × (Nat → Nat)
def bet (b : Bst) (w n : Nat) (row : Nat → Nat) : Bst := if b.1 < w + 1 ∨ (b.1 = w + 1 ∧ n < b.2.1) then (w + 1, n, fun i => if i < n then row i else 0) else b
def flp {β : Type} (g : Nat → β → β) : Nat → Nat → β → β
  | 0, _, b => b
  | j + 1, k, b => flp g j (k + 1) (g k b)
/-- when one who leaves cell c at minute m may be alone the last at find k -/
def rdT (V : VS) (f c m k : Nat) : Nat := max (m + vt V 1 f * nabs c (vt V 5 k)) (behO V f k)
abbrev rdOk (V : VS) (f tide c m u k : Nat) : Prop := isT V k ∧ ¬ (u >>> k) &&& 1 = 1 ∧ rdT V f c m k ≤ tide
/-- all rounds that go on from a cell: by find after find -/
def rdG (V : VS) (f tide : Nat) : Nat → Nat → Nat → Nat → Nat → Nat → (Nat → Nat) → Bst → Bst
  | 0, _, _, _, _, _, _, b => b
  | j + 1, c, m, u, n, w, row, b => if n = vt V 2 f then bet b w n row else flp (fun k b => if rdOk V f tide c m u k then rdG V f tide j (vt V 5 k) (rdT V f c m k) (u ||| 2 ^ k) (n + 1) (w + vt V 6 k) (va_up row n k) b else b) (vs V 2) 0 (bet b w n row)
theorem flp_congr {β : Type} {g g2 : Nat → β → β} (h : ∀ k b, g k b = g2 k b) : ∀ j k b, flp g j k b = flp g2 j k b
  | 0, _, _ => rfl
  | j + 1, k, b => by
    unfold flp
    rw [h, flp_congr h j]
theorem bet_congr {b : Bst} {w n : Nat} {row row2 : Nat → Nat} (h : ∀ i, i < n → row i = row2 i) : bet b w n row = bet b w n row2 := by
  unfold bet
  have : (fun i => if i < n then row i else 0) = fun i => if i < n then row2 i else 0 := by
    funext i
    split
    · exact h i (by assumption)
    · rfl
  rw [this]
theorem up_congr {row row2 : Nat → Nat} {n k : Nat} (h : ∀ i, i < n → row i = row2 i) : ∀ i, i < n + 1 → va_up row n k i = va_up row2 n k i := fun i hi => by
  unfold va_up
  split
  · rfl
  · exact h i (by omega)
theorem rdG_congr (V : VS) (f tide : Nat) : ∀ j c m u n w row row2 b, (∀ i, i < n → row i = row2 i) → rdG V f tide j c m u n w row b = rdG V f tide j c m u n w row2 b
  | 0, _, _, _, _, _, _, _, _, _ => rfl
  | j + 1, c, m, u, n, w, row, row2, b, h => by
    unfold rdG
    rw [bet_congr h]
    split
    · rfl
    · refine flp_congr (fun k b => ?_) _ _ _
      split
      · exact rdG_congr V f tide j _ _ _ _ _ _ _ _ (up_congr h)
      · rfl
def rdC (V : VS) (f : Nat) (row : Nat → Nat) (L : Nat) : Nat := if L = 0 then vt V 0 f else vt V 5 (row (L - 1))
def rdM (V : VS) (f : Nat) (wh : Nat → Nat) (L : Nat) : Nat := if L = 0 then vt V 3 f else wh (L - 1)
def rdU (row : Nat → Nat) (L : Nat) : Nat := foldN (fun i u => u ||| 2 ^ row i) 0 L
def rdW (V : VS) (row : Nat → Nat) (L : Nat) : Nat := foldN (fun i w => w + vt V 6 (row i)) 0 L
def vis (V : VS) (f tide : Nat) (row wh : Nat → Nat) (L : Nat) (k : Nat) (b : Bst) : Bst := if rdOk V f tide (rdC V f row L) (rdM V f wh L) (rdU row L) k then rdG V f tide (8 - L) (vt V 5 k) (rdT V f (rdC V f row L) (rdM V f wh L) k) (rdU row L ||| 2 ^ k) (L + 1) (rdW V row L + vt V 6 k) (va_up row L k) b else b
def lvl (V : VS) (f tide : Nat) (row wh : Nat → Nat) (L k : Nat) (b : Bst) : Bst := if L = vt V 2 f then b else flp (vis V f tide row wh L) (vs V 2 - k) k b
/-- what is still to be gone through from find k on at level L, and at the levels below it -/
def cont (V : VS) (f tide : Nat) (row wh : Nat → Nat) : Nat → Nat → Bst → Bst
  | 0, k, b => lvl V f tide row wh 0 k b
  | L + 1, k, b => cont V f tide row wh L (row L + 1) (lvl V f tide row wh (L + 1) k b)
theorem rdU_congr {row row2 : Nat → Nat} : ∀ L, (∀ i, i < L → row i = row2 i) → rdU row L = rdU row2 L
  | 0, _ => rfl
  | L + 1, h => by
    show rdU row L ||| 2 ^ row L = rdU row2 L ||| 2 ^ row2 L
    rw [rdU_congr L (fun i hi => h i (by omega)), h L (by omega)]
theorem rdW_congr {V : VS} {row row2 : Nat → Nat} : ∀ L, (∀ i, i < L → row i = row2 i) → rdW V row L = rdW V row2 L
  | 0, _ => rfl
  | L + 1, h => by
    show rdW V row L + vt V 6 (row L) = rdW V row2 L + vt V 6 (row2 L)
    rw [rdW_congr L (fun i hi => h i (by omega)), h L (by omega)]
theorem vis_congr {V : VS} {f tide : Nat} {row row2 wh wh2 : Nat → Nat} {L : Nat} (h : ∀ i, i < L → row i = row2 i) (h2 : ∀ i, i < L → wh i = wh2 i) (k : Nat) (b : Bst) : vis V f tide row wh L k b = vis V f tide row2 wh2 L k b := by
  have hc : rdC V f row L = rdC V f row2 L := by
    unfold rdC
    split
    · rfl
    · rw [h _ (by omega)]
  have hm : rdM V f wh L = rdM V f wh2 L := by
    unfold rdM
    split
    · rfl
    · rw [h2 _ (by omega)]
  unfold vis
  rw [hc, hm, rdU_congr L h, rdW_congr L h]
  split
  · exact rdG_congr V f tide _ _ _ _ _ _ _ _ _ (up_congr h)
  · rfl
theorem cont_congr {V : VS} {f tide : Nat} {row row2 wh wh2 : Nat → Nat} : ∀ (L k : Nat) (b : Bst), (∀ i, i < L → row i = row2 i) → (∀ i, i < L → wh i = wh2 i) → cont V f tide row wh L k b = cont V f tide row2 wh2 L k b
  | 0, k, b, h, h2 => by
    unfold cont lvl
    split
    · rfl
    · exact flp_congr (fun k b => vis_congr h h2 k b) _ _ _
  | L + 1, k, b, h, h2 => by
    have e : lvl V f tide row wh (L + 1) k b = lvl V f tide row2 wh2 (L + 1) k b := by
      unfold lvl
      split
      · rfl
      · exact flp_congr (fun k b => vis_congr h h2 k b) _ _ _
    unfold cont
    rw [e, h L (by omega), cont_congr L _ _ (fun i hi => h i (by omega)) (fun i hi => h2 i (by omega))]
theorem flp_skip {β : Type} {g : Nat → β → β} : ∀ (n j k : Nat) (b : β), (∀ i, k ≤ i → i < k + n → ∀ b, g i b = b) → flp g (n + j) k b = flp g j (k + n) b
  | 0, j, k, b, _ => by rw [Nat.zero_add, Nat.add_zero]
  | n + 1, j, k, b, h => by
    rw [show n + 1 + j = (n + j) + 1 by omega, flp, h k (Nat.le_refl _) (by omega), flp_skip n j (k + 1) b (fun i hi h2 => h i (by omega) (by omega)), show k + 1 + n = k + (n + 1) by omega]
theorem vis_no {V : VS} {f tide : Nat} {row wh : Nat → Nat} {L k : Nat} (h : ¬ rdOk V f tide (rdC V f row L) (rdM V f wh L) (rdU row L) k) (b : Bst) : vis V f tide row wh L k b = b := if_neg h
/-- nothing more at this level -/
theorem lvl_end {V : VS} {f tide : Nat} {row wh : Nat → Nat} {L k : Nat} {b : Bst} (hk : k ≤ vs V 2) (h : L = vt V 2 f ∨ ∀ i, k ≤ i → i < vs V 2 → ¬ rdOk V f tide (rdC V f row L) (rdM V f wh L) (rdU row L) i) : lvl V f tide row wh L k b = b := by
  unfold lvl
  by_cases z : L = vt V 2 f
  · rw [if_pos z]
  · rw [if_neg z]
    have h2 := h.resolve_left z
    have e := flp_skip (g := vis V f tide row wh L) (vs V 2 - k) 0 k b (fun i h3 h4 b => vis_no (h2 i h3 (by omega)) b)
    rw [Nat.add_zero] at e
    rw [e]
    rfl
/-- a step on: find d at level L -/
theorem cont_push {V : VS} {f tide : Nat} {row wh : Nat → Nat} {L k d : Nat} {b : Bst} (hL : L < 8) (hk : k ≤ d) (hd : d < vs V 2) (hp : L ≠ vt V 2 f) (hno : ∀ i, k ≤ i → i < d → ¬ rdOk V f tide (rdC V f row L) (rdM V f wh L) (rdU row L) i) (hok : rdOk V f tide (rdC V f row L) (rdM V f wh L) (rdU row L) d) :
    cont V f tide row wh L k b = cont V f tide (va_up row L d) (va_up wh L (rdT V f (rdC V f row L) (rdM V f wh L) d)) (L + 1) 0 (bet b (rdW V (va_up row L d) (L + 1)) (L + 1) (va_up row L d)) := by
  have hr : ∀ i, i < L → row i = va_up row L d i := fun i hi => by
    unfold va_up
    rw [if_neg (by omega)]
  have hw : ∀ i, i < L → wh i = va_up wh L (rdT V f (rdC V f row L) (rdM V f wh L) d) i := fun i hi => by
    unfold va_up
    rw [if_neg (by omega)]
  have hrL : va_up row L d L = d := if_pos rfl
  have hwL : va_up wh L (rdT V f (rdC V f row L) (rdM V f wh L) d) L = rdT V f (rdC V f row L) (rdM V f wh L) d := if_pos rfl
  have eU : rdU (va_up row L d) (L + 1) = rdU row L ||| 2 ^ d := by
    show rdU (va_up row L d) L ||| 2 ^ (va_up row L d L) = _
    rw [hrL, rdU_congr L (fun i hi => (hr i hi).symm)]
  have eW : rdW V (va_up row L d) (L + 1) = rdW V row L + vt V 6 d := by
    show rdW V (va_up row L d) L + vt V 6 (va_up row L d L) = _
    rw [hrL, rdW_congr L (fun i hi => (hr i hi).symm)]
  have eC : rdC V f (va_up row L d) (L + 1) = vt V 5 d := by
    unfold rdC
    rw [if_neg (by omega), Nat.add_sub_cancel, hrL]
  have eM : rdM V f (va_up wh L (rdT V f (rdC V f row L) (rdM V f wh L) d)) (L + 1) = rdT V f (rdC V f row L) (rdM V f wh L) d := by
    show (if L + 1 = 0 then vt V 3 f else va_up wh L (rdT V f (rdC V f row L) (rdM V f wh L) d) (L + 1 - 1)) = _
    rw [if_neg (by omega)]
    exact hwL
  -- the visit of d is the next level
  have e1 : vis V f tide row wh L d b = lvl V f tide (va_up row L d) (va_up wh L (rdT V f (rdC V f row L) (rdM V f wh L) d)) (L + 1) 0 (bet b (rdW V (va_up row L d) (L + 1)) (L + 1) (va_up row L d)) := by
    unfold vis
    rw [if_pos hok, show 8 - L = (7 - L) + 1 by omega]
    unfold rdG lvl
    rw [eW]
    split
    · rfl
    · rw [Nat.sub_zero]
      refine flp_congr (fun k b => ?_) _ _ _
      unfold vis
      rw [eC, eM, eU, eW, show 8 - (L + 1) = 7 - L by omega]
  have e2 : lvl V f tide row wh L k b = lvl V f tide row wh L (d + 1) (vis V f tide row wh L d b) := by
    unfold lvl
    rw [if_neg hp, if_neg hp]
    have e := flp_skip (g := vis V f tide row wh L) (d - k) (vs V 2 - d) k b (fun i h3 h4 b => vis_no (hno i h3 (by omega)) b)
    rw [show d - k + (vs V 2 - d) = vs V 2 - k by omega, show k + (d - k) = d by omega] at e
    rw [e, show vs V 2 - d = (vs V 2 - (d + 1)) + 1 by omega]
    rfl
  show _ = cont V f tide (va_up row L d) _ L (va_up row L d L + 1) (lvl V f tide (va_up row L d) _ (L + 1) 0 _)
  rw [← e1, hrL, ← cont_congr L (d + 1) (vis V f tide row wh L d b) hr hw]
  cases L with
  | zero => exact e2
  | succ L =>
    unfold cont
    rw [e2]
/-! bits of what was taken -/
def pc8 (u : Nat) : Nat := foldN (fun i c => c + u / 2 ^ i % 2) 0 8
theorem pc8_or : ∀ u, u < 256 → ∀ d, d < 8 → ¬ (u >>> d) &&& 1 = 1 → pc8 (u ||| 2 ^ d) = pc8 u + 1 ∧ (u ||| 2 ^ d) < 256 ∧ pc8 u < 8 := by decide +kernel
theorem bit_off : ∀ u, u < 256 → ∀ d, d < 8 → ¬ (u >>> d) &&& 1 = 1 → nI (u ||| 2 ^ d) &&& (nI (2 ^ d) ^^^ (-1)) = nI u := by decide +kernel
/-- a path of the rounds: finds of the beach, each once -/
def OkPa (V : VS) (row : Nat → Nat) (L : Nat) : Prop := (∀ i, i < L → row i < vs V 2 ∧ ¬ (rdU row i >>> row i) &&& 1 = 1) ∧ rdU row L < 256 ∧ pc8 (rdU row L) = L
theorem OkPa.up {V : VS} {row : Nat → Nat} {L d : Nat} (O : OkPa V row L) (h8 : vs V 2 ≤ 8) (hd : d < vs V 2) (hb : ¬ (rdU row L >>> d) &&& 1 = 1) : OkPa V (va_up row L d) (L + 1) ∧ L < 8 := by
  obtain ⟨O1, O2, O3⟩ := O
  have h := pc8_or _ O2 d (by omega) hb
  have hr : ∀ i, i < L → va_up row L d i = row i := fun i hi => if_neg (by omega)
  have hrL : va_up row L d L = d := if_pos rfl
  have eU : rdU (va_up row L d) L = rdU row L := rdU_congr L hr
  have eU1 : rdU (va_up row L d) (L + 1) = rdU row L ||| 2 ^ d := by
    show rdU (va_up row L d) L ||| 2 ^ (va_up row L d L) = _
    rw [hrL, eU]
  refine ⟨⟨fun i hi => ?_, by rw [eU1]; exact h.2.1, by rw [eU1, h.1, O3]⟩, by omega⟩
  by_cases z : i = L
  · subst z
    rw [hrL, eU]
    exact ⟨hd, hb⟩
  · rw [hr i (by omega), rdU_congr i (fun j hj => hr j (by omega))]
    exact O1 i (by omega)
theorem OkPa.dn {V : VS} {row : Nat → Nat} {L : Nat} (O : OkPa V row (L + 1)) (h8 : vs V 2 ≤ 8) : OkPa V row L := by
  obtain ⟨O1, O2, O3⟩ := O
  have hlt : rdU row L < 256 := by
    have e : rdU row (L + 1) = rdU row L ||| 2 ^ row L := rfl
    rw [e] at O2
    exact Nat.lt_of_le_of_lt Nat.left_le_or O2
  have hb := O1 L (by omega)
  have h := pc8_or _ hlt (row L) (by omega) hb.2
  have e : rdU row (L + 1) = rdU row L ||| 2 ^ row L := rfl
  rw [e, h.1] at O3
  exact ⟨fun i hi => O1 i (by omega), hlt, by omega⟩
theorem OkPa.w {V : VS} (K : OkV V) {row : Nat → Nat} : ∀ L, (∀ i, i < L → row i < vs V 2) → rdW V row L ≤ 999 * L
  | 0, _ => Nat.le_refl _
  | L + 1, h => by
    have h1 := OkPa.w K L (fun i hi => h i (by omega))
    have h2 := (K.d (h L (by omega))).2
    show rdW V row L + vt V 6 (row L) ≤ 999 * (L + 1)
    omega
/-- how much is still to be gone through -/
def rdMu (row : Nat → Nat) : Nat → Nat → Nat
  | 0, k => (9 - k) * 20 ^ 9
  | L + 1, k => rdMu row L (row L + 1) + (9 - k) * 20 ^ (8 - L)
theorem rdMu_congr {row row2 : Nat → Nat} : ∀ L k, (∀ i, i < L → row i = row2 i) → rdMu row L k = rdMu row2 L k
  | 0, _, _ => rfl
  | L + 1, k, h => by
    unfold rdMu
    rw [h L (by omega), rdMu_congr L _ (fun i hi => h i (by omega))]
theorem rdMu_lt {row : Nat → Nat} : ∀ L k k2, k < k2 → k2 ≤ 9 → L ≤ 9 → rdMu row L k2 + 20 ^ (9 - L) ≤ rdMu row L k
  | 0, k, k2, h, h2, _ => by
    unfold rdMu
    rw [show 9 - 0 = 9 from rfl]
    have : (9 - k2 + 1) * 20 ^ 9 ≤ (9 - k) * 20 ^ 9 := Nat.mul_le_mul_right _ (by omega)
    rw [Nat.succ_mul] at this
    exact this
  | L + 1, k, k2, h, h2, hL => by
    unfold rdMu
    have : (9 - k2 + 1) * 20 ^ (8 - L) ≤ (9 - k) * 20 ^ (8 - L) := Nat.mul_le_mul_right _ (by omega)
    rw [Nat.succ_mul] at this
    rw [show 9 - (L + 1) = 8 - L by omega]
    omega
theorem rdMu_pop {row : Nat → Nat} {L k : Nat} (hk : k ≤ 8) : rdMu row L (row L + 1) < rdMu row (L + 1) k := by
  show _ < rdMu row L (row L + 1) + (9 - k) * 20 ^ (8 - L)
  have h1 : 0 < 20 ^ (8 - L) := Nat.pow_pos (by omega)
  have h2 : 0 < (9 - k) * 20 ^ (8 - L) := Nat.mul_pos (by omega) h1
  omega
theorem rdMu_push {row : Nat → Nat} {L k d : Nat} (hk : k ≤ d) (hd : d < 8) (hL : L < 8) : rdMu (va_up row L d) (L + 1) 0 < rdMu row L k := by
  show rdMu (va_up row L d) L (va_up row L d L + 1) + (9 - 0) * 20 ^ (8 - L) < _
  rw [show va_up row L d L = d from if_pos rfl, rdMu_congr (row := va_up row L d) (row2 := row) L _ (fun i hi => if_neg (by omega))]
  have h1 := rdMu_lt (row := row) L k (d + 1) (by omega) (by omega) (by omega)
  have h2 : 20 ^ (9 - L) = 20 * 20 ^ (8 - L) := by rw [show 9 - L = (8 - L) + 1 by omega, Nat.pow_succ, Nat.mul_comm]
  have h3 : 0 < 20 ^ (8 - L) := Nat.pow_pos (by omega)
  omega
/-! as the twin holds it -/
def EncR9 (S : MS) (row wh : Nat → Nat) (L k : Nat) (b : Bst) : Prop := (∀ i, i < L → mA S 25 i = nI (row i)) ∧ mA S 25 L = nI k - nI 1 ∧ (∀ i, i < L → mA S 26 i = nI (wh i)) ∧ mI S 29 = nI b.2.1 ∧ ∀ i, i < b.2.1 → mA S 27 i = nI (b.2.2 i)
def FrN (S S2 : MS) : Prop := (∀ i, i ≠ 29 → mI S2 i = mI S i) ∧ (∀ k, mL S2 k = mL S k) ∧ (∀ j, j ≠ 25 → j ≠ 26 → j ≠ 27 → mA S2 j = mA S j) ∧ ∀ j, mB S2 j = mB S j
theorem FrN.refl (S : MS) : FrN S S := ⟨fun _ _ => rfl, fun _ => rfl, fun _ _ _ _ => rfl, fun _ => rfl⟩
theorem FrN.A {S S2 : MS} (h : FrN S S2) {j i : Nat} {v : Int32} (hj : j = 25 ∨ j = 26 ∨ j = 27) : FrN S (sA S2 j i v) := ⟨h.1, h.2.1, fun q a b c => by
  show va_up S2.2.2.1 j _ q = _
  unfold va_up
  rw [if_neg (by omega)]
  exact h.2.2.1 q a b c, h.2.2.2⟩
theorem FrN.I {S S2 : MS} (h : FrN S S2) {v : Int32} : FrN S (sI S2 29 v) := ⟨fun i hi => by
  show va_up S2.1 29 v i = _
  unfold va_up
  rw [if_neg hi]
  exact h.1 i hi, h.2⟩
theorem FrN.E {S S2 : MS} {V : VS} (h : FrN S S2) (E : Enc S V) : Enc S2 V := by
  show EncA (mA S2 0) V
  rw [h.2.2.1 0 (by omega) (by omega) (by omega)]
  exact E
def OkB9 (b : Bst) : Prop := 0 < b.1 ∧ b.1 ≤ 8000 ∧ b.2.1 ≤ 8
theorem EncR9.w {S : MS} {row wh : Nat → Nat} {L k : Nat} {b : Bst} (E : EncR9 S row wh L k b) (v : Int32) : EncR9 (sA S 26 L v) row wh L k b := ⟨E.1, E.2.1, fun i hi => by
  show upd (mA S 26) L v i = _
  rw [upd_ne (by omega)]
  exact E.2.2.1 i hi, E.2.2.2.1, E.2.2.2.2⟩
theorem EncR9.dn {S : MS} {row wh : Nat → Nat} {L k : Nat} {b : Bst} (E : EncR9 S row wh (L + 1) k b) : EncR9 S row wh L (row L + 1) b := ⟨fun i hi => E.1 i (by omega), by rw [E.1 L (by omega), nI_dn], fun i hi => E.2.2.1 i (by omega), E.2.2.2.1, E.2.2.2.2⟩
/-- a level more -/
theorem EncR9.up {S S2 : MS} {row wh : Nat → Nat} {L k d t : Nat} {b b2 : Bst} (E : EncR9 S row wh L k b) (h25 : mA S2 25 = upd (mA S 25) L (nI d)) (h26 : mA S2 26 = upd (mA S 26) L (nI t)) (h29 : mI S2 29 = nI b2.2.1) (h27 : ∀ i, i < b2.2.1 → mA S2 27 i = nI (b2.2.2 i)) : EncR9 (sA S2 25 (L + 1) (-1)) (va_up row L d) (va_up wh L t) (L + 1) 0 b2 := by
  refine ⟨fun i hi => ?_, ?_, fun i hi => ?_, h29, h27⟩
  · show upd (mA S2 25) (L + 1) (-1) i = _
    rw [upd_ne (by omega), h25]
    unfold va_up upd
    split
    · rfl
    · exact E.1 i (by omega)
  · show upd (mA S2 25) (L + 1) (-1) (L + 1) = _
    rw [upd_eq]
    decide
  · show mA S2 26 i = _
    rw [h26]
    unfold va_up upd
    split
    · rfl
    · exact E.2.2.1 i (by omega)
theorem bet_t {b : Bst} {w n : Nat} {row : Nat → Nat} (h : b.1 < w + 1 ∨ (b.1 = w + 1 ∧ n < b.2.1)) : bet b w n row = (w + 1, n, fun i => if i < n then row i else 0) := if_pos h
theorem bet_f {b : Bst} {w n : Nat} {row : Nat → Nat} (h : ¬ (b.1 < w + 1 ∨ (b.1 = w + 1 ∧ n < b.2.1))) : bet b w n row = b := if_neg h
/-- the best round of a finder till a tide -/
def rdB (V : VS) (f tide : Nat) : Bst := cont V f tide (fun _ => 0) (fun _ => 0) 0 0 (1, 0, fun _ => 0)
