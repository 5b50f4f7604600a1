/-! PURE FUNCTIONS of both sides, rows on sets -/
set_option maxRecDepth 100000
theorem nI_or (a b : Nat) : nI a ||| nI b = nI (a ||| b) := by
  apply Int32.toBitVec_inj.mp
  rw [Int32.toBitVec_or]
  show BitVec.ofNat 32 a ||| BitVec.ofNat 32 b = BitVec.ofNat 32 (a ||| b)
  rw [BitVec.ofNat_or]
theorem nI_and (a b : Nat) : nI a &&& nI b = nI (a &&& b) := by
  apply Int32.toBitVec_inj.mp
  rw [Int32.toBitVec_and]
  show BitVec.ofNat 32 a &&& BitVec.ofNat 32 b = BitVec.ofNat 32 (a &&& b)
  rw [BitVec.ofNat_and]
theorem sh_ok : ∀ f, f < 32 → (((nI f) &&& 31).toBitVec.smod 32).toNat = f := by decide +kernel
theorem nI_shl1 {f : Nat} (h : f < 31) : nI 1 <<< (nI f &&& 31) = nI (2 ^ f) := by
  rw [pk_shlN _ f (sh_ok f (by omega)) (by
    have : 2 ^ f ≤ 2 ^ 31 := Nat.pow_le_pow_right (by omega) (by omega)
    omega), Nat.one_mul]
theorem nI_shr {a f : Nat} (ha : a < 2147483648) (h : f < 32) : nI a >>> (nI f &&& 31) = nI (a >>> f) := by
  rw [pk_shrN ha _ f (sh_ok f h), Nat.shiftRight_eq_div_pow]
section NROWS
variable {g : GG} {mt : MT} {kc ks pc : Nat} {L : List (Option Value)} {st : List Value} {σ : PH}
theorem w_iorN {a b : Nat} (d : decode mt.1.2.1 pc = .ok (.ior, 1)) (k : Wp g mt kc ks (pc + 1) L (.int (nI (a ||| b)) :: st) σ) : Wp g mt kc ks pc L (.int (nI b) :: .int (nI a) :: st) σ := w_ior d (by rw [nI_or]; exact k)
theorem w_iandN {a b : Nat} (d : decode mt.1.2.1 pc = .ok (.iand, 1)) (k : Wp g mt kc ks (pc + 1) L (.int (nI (a &&& b)) :: st) σ) : Wp g mt kc ks pc L (.int (nI b) :: .int (nI a) :: st) σ := w_iand d (by rw [nI_and]; exact k)
theorem w_shl1N {f : Nat} (d : decode mt.1.2.1 pc = .ok (.ishl, 1)) (h : f < 31) (k : Wp g mt kc ks (pc + 1) L (.int (nI (2 ^ f)) :: st) σ) : Wp g mt kc ks pc L (.int (nI f) :: .int (nI 1) :: st) σ := w_ishl d (by rw [nI_shl1 h]; exact k)
theorem w_ishrN {a f : Nat} (d : decode mt.1.2.1 pc = .ok (.ishr, 1)) (ha : a < 2147483648) (h : f < 32) (k : Wp g mt kc ks (pc + 1) L (.int (nI (a >>> f)) :: st) σ) : Wp g mt kc ks pc L (.int (nI f) :: .int (nI a) :: st) σ := w_ishr d (by rw [nI_shr ha h]; exact k)
theorem w_topN {x : Int32} {n : Nat} (h : x = nI n) (k : Wp g mt kc ks pc L (.int (nI n) :: st) σ) : Wp g mt kc ks pc L (.int x :: st) σ := by rw [h]; exact k
end NROWS
/-- who is last: from place k down, as long as the minute is t -/
def lastG (who : Nat → Nat) (tim : Nat → Nat) (t : Nat) : Nat → Nat → Nat
  | 0, set => set
  | k + 1, set => if tim k = t then lastG who tim t k (set ||| 2 ^ who k) else set
def lastF (n : Nat) (who : Nat → Nat) (tim : Nat → Nat) : Nat := lastG who tim (tim (n - 1)) n 0
theorem or_lt64 : ∀ a, a < 64 → ∀ f, f < 6 → a ||| 2 ^ f < 64 := by decide +kernel
theorem lastG_lt {who : Nat → Nat} {tim : Nat → Nat} {t : Nat} : ∀ (n set : Nat), (∀ k, k < n → who k < 6) → set < 64 → lastG who tim t n set < 64
  | 0, set, _, h => h
  | n + 1, set, hw, h => by
    unfold lastG
    split
    · exact lastG_lt n _ (fun k hk => hw k (by omega)) (or_lt64 set h _ (hw n (by omega)))
    · exact h
theorem lastF_lt {n : Nat} {who : Nat → Nat} {tim : Nat → Nat} (hw : ∀ k, k < n → who k < 6) : lastF n who tim < 64 := lastG_lt n 0 hw (by omega)
/-- how many bits -/
def pcnt (k : Nat) : Nat := k % 2 + k / 2 % 2 + k / 4 % 2 + k / 8 % 2 + k / 16 % 2 + k / 32 % 2
theorem pcnt_step : ∀ k, k < 64 → k ≠ 0 → pcnt k = pcnt (k &&& (k - 1)) + 1 ∧ k &&& (k - 1) < k := by decide +kernel
theorem pcnt_and : ∀ k, k < 64 → k ≠ 0 → nI k &&& (nI k - nI 1) = nI (k &&& (k - 1)) := by decide +kernel
theorem pcnt_le : ∀ k, k < 64 → pcnt k ≤ 6 := by decide +kernel
/-- how many of a finder's are there -/
def ownF (n : Nat) (who : Nat → Nat) (f : Nat) : Nat := foldN (fun k c => c + if who k = f then 1 else 0) 0 n
theorem ownF_le (n : Nat) (who : Nat → Nat) (f : Nat) : ownF n who f ≤ n := by
  induction n with
  | zero => exact Nat.le_refl _
  | succ n ih =>
    show ownF n who f + (if who n = f then 1 else 0) ≤ n + 1
    split <;> omega
/-- the latest place that is a finder's, from n down: one above it; 0: none -/
def ownOnF (who : Nat → Nat) (f : Nat) : Nat → Nat
  | 0 => 0
  | k + 1 => if who k = f then k + 1 else ownOnF who f k
theorem nI_m1 (a : Nat) : nI a + Int32.ofInt (-1) = nI a - nI 1 := by
  rw [Int32.sub_eq_add_neg]
  congr 1
theorem nI_dn (a : Nat) : nI (a + 1) - nI 1 = nI a := nI_pred a
theorem dn_lt {j : Nat} (h : j < 1073741824) : nI j - nI 1 < 0 ↔ j = 0 := by
  rw [Int32.lt_iff_toInt_lt, pk_sub_toInt (by omega) (by omega), Int32.toInt_zero]
  omega

/-- the distance of two cells -/
def nabs (a b : Nat) : Nat := if a ≤ b then b - a else a - b
theorem nabs_le (a b m : Nat) (ha : a ≤ m) (hb : b ≤ m) : nabs a b ≤ m := by unfold nabs; split <;> omega
theorem nabs_comm (a b : Nat) : nabs a b = nabs b a := by unfold nabs; split <;> split <;> omega
theorem abs_n {a b : Nat} (ha : a < 1073741824) (hb : b < 1073741824) : (if 0 ≤ nI a - nI b then nI a - nI b else 0 - (nI a - nI b)) = nI (nabs a b) := by
  unfold nabs
  by_cases h : a ≤ b
  · rw [if_pos h]
    by_cases h2 : a = b
    · subst h2
      rw [Int32.sub_self, if_pos (by decide), Nat.sub_self]
      rfl
    · rw [if_neg (by
        rw [Int32.le_iff_toInt_le, pk_sub_toInt ha hb, Int32.toInt_zero]
        omega), ← pk_sub h]
      grind
  · rw [if_neg h, if_pos (by
      rw [Int32.le_iff_toInt_le, pk_sub_toInt ha hb, Int32.toInt_zero]
      omega), pk_sub (by omega)]
theorem max_n {a b : Nat} (ha : a < 2147483648) (hb : b < 2147483648) : (if nI a < nI b then nI b else nI a) = nI (max a b) := by
  by_cases h : a < b
  · rw [if_pos ((nI_ltI ha hb).mpr h), Nat.max_eq_right (by omega)]
  · rw [if_neg (mt (nI_ltI ha hb).mp h), Nat.max_eq_left (by omega)]
theorem min_n {a b : Nat} (ha : a < 2147483648) (hb : b < 2147483648) : (if nI b < nI a then nI b else nI a) = nI (min a b) := by
  by_cases h : b < a
  · rw [if_pos ((nI_ltI hb ha).mpr h), Nat.min_eq_right (by omega)]
  · rw [if_neg (mt (nI_ltI hb ha).mp h), Nat.min_eq_left (by omega)]
section NROWS2
variable {g : GG} {mt : MT} {kc ks pc : Nat} {L : List (Option Value)} {st : List Value} {σ : PH}
theorem w_idivN {a b : Nat} (d : decode mt.1.2.1 pc = .ok (.idiv, 1)) (ha : a < 2147483648) (h0 : 0 < b) (hb : b < 2147483648) (k : Wp g mt kc ks (pc + 1) L (.int (nI (a / b)) :: st) σ) : Wp g mt kc ks pc L (.int (nI b) :: .int (nI a) :: st) σ := w_idiv d (nI_ne0 h0 hb) (by rw [pk_div ha h0 hb]; exact k)
theorem w_iremN {a b : Nat} (d : decode mt.1.2.1 pc = .ok (.irem, 1)) (ha : a < 2147483648) (h0 : 0 < b) (hb : b < 2147483648) (k : Wp g mt kc ks (pc + 1) L (.int (nI (a % b)) :: st) σ) : Wp g mt kc ks pc L (.int (nI b) :: .int (nI a) :: st) σ := w_irem d (nI_ne0 h0 hb) (pk_rem ha h0 hb) k
end NROWS2
/-- a day on a beach, in numbers: scalars by the twin's places (0 cells, 1 finders, 2 finds, 3 tide, 4 moon, 5 duels, 6 day, 7 those there, 8 pebbles on finds); tables: finders' 0 cell, 1 pace, 2 pouch, 3 clock, 4 kept; finds' 5 cell, 6 worth, 7 how many pebbles; pebbles: 0 whose, 1 minute -/
abbrev VS : Type := (Nat → Nat) × (Nat → Nat → Nat) × (Nat → Nat → Nat → Nat)
def vs (V : VS) (k : Nat) : Nat := V.1 k
def vt (V : VS) (j i : Nat) : Nat := V.2.1 j i
def vp (V : VS) (j d k : Nat) : Nat := V.2.2 j d k
abbrev isT (V : VS) (d : Nat) : Prop := (vs V 7 >>> d) &&& 1 = 1
def OkV (V : VS) : Prop :=
  (2 ≤ vs V 0 ∧ vs V 0 ≤ 40 ∧ vs V 1 ≤ 6 ∧ vs V 2 ≤ 8 ∧ 1 ≤ vs V 3 ∧ vs V 3 ≤ 240 ∧ vs V 4 ≤ 60 ∧ vs V 5 ≤ 3 ∧ vs V 6 ≤ 99 ∧ vs V 7 < 256 ∧ vs V 8 ≤ 60) ∧
  vs V 7 < 2 ^ vs V 2 ∧
  (∀ f, f < vs V 1 → vt V 0 f < vs V 0 ∧ 1 ≤ vt V 1 f ∧ vt V 1 f ≤ 9 ∧ vt V 3 f ≤ vs V 3 ∧ vt V 4 f ≤ 1000000) ∧
  (∀ d, d < vs V 2 → vt V 5 d < vs V 0 ∧ vt V 6 d ≤ 999) ∧
  (∀ d, d < 8 → vt V 7 d ≤ 60 ∧ (vt V 7 d ≠ 0 → isT V d)) ∧
  (∀ d, d < 8 → ∀ k, k < vt V 7 d → vp V 0 d k < vs V 1 ∧ vp V 1 d k ≤ vs V 3) ∧
  (∀ d, d < 8 → ∀ i j, i ≤ j → j < vt V 7 d → vp V 1 d i ≤ vp V 1 d j) ∧
  vs V 8 = foldN (fun d c => c + vt V 7 d) 0 8 ∧ foldN (fun f c => c + vt V 2 f) 0 (vs V 1) + vs V 8 ≤ 150
theorem OkV.b {V : VS} (K : OkV V) : 2 ≤ vs V 0 ∧ vs V 0 ≤ 40 ∧ vs V 1 ≤ 6 ∧ vs V 2 ≤ 8 ∧ 1 ≤ vs V 3 ∧ vs V 3 ≤ 240 ∧ vs V 4 ≤ 60 ∧ vs V 5 ≤ 3 ∧ vs V 6 ≤ 99 ∧ vs V 7 < 256 ∧ vs V 8 ≤ 60 := K.1
theorem foldN_le {f : Nat → Nat} : ∀ (n k : Nat), k < n → f k ≤ foldN (fun i c => c + f i) 0 n
  | 0, k, h => absurd h (Nat.not_lt_zero k)
  | n + 1, k, h => by
    show f k ≤ foldN (fun i c => c + f i) 0 n + f n
    rcases Nat.lt_succ_iff_lt_or_eq.mp h with h | h
    · exact Nat.le_trans (foldN_le n k h) (Nat.le_add_right _ _)
    · subst h; exact Nat.le_add_left _ _
theorem OkV.f {V : VS} (K : OkV V) {f : Nat} (h : f < vs V 1) : vt V 0 f < vs V 0 ∧ 1 ≤ vt V 1 f ∧ vt V 1 f ≤ 9 ∧ vt V 2 f ≤ 150 ∧ vt V 3 f ≤ vs V 3 ∧ vt V 4 f ≤ 1000000 := by
  obtain ⟨-, -, h3, -, -, -, -, -, h9⟩ := K
  have := foldN_le (f := fun f => vt V 2 f) (vs V 1) f h
  have h3' := h3 f h
  refine ⟨h3'.1, h3'.2.1, h3'.2.2.1, ?_, h3'.2.2.2.1, h3'.2.2.2.2⟩
  have h10 : vt V 2 f ≤ foldN (fun f c => c + vt V 2 f) 0 (vs V 1) := this
  omega
theorem OkV.d {V : VS} (K : OkV V) {d : Nat} (h : d < vs V 2) : vt V 5 d < vs V 0 ∧ vt V 6 d ≤ 999 := K.2.2.2.1 d h
theorem OkV.n {V : VS} (K : OkV V) {d : Nat} (h : d < 8) : vt V 7 d ≤ 60 := (K.2.2.2.2.1 d h).1
theorem OkV.th {V : VS} (K : OkV V) {d : Nat} (h : d < 8) (h0 : vt V 7 d ≠ 0) : isT V d := (K.2.2.2.2.1 d h).2 h0
theorem OkV.p {V : VS} (K : OkV V) {d : Nat} (h : d < 8) {k : Nat} (hk : k < vt V 7 d) : vp V 0 d k < vs V 1 ∧ vp V 1 d k ≤ vs V 3 := K.2.2.2.2.2.1 d h k hk
theorem OkV.so {V : VS} (K : OkV V) {d : Nat} (h : d < 8) {i j : Nat} (hi : i ≤ j) (hj : j < vt V 7 d) : vp V 1 d i ≤ vp V 1 d j := K.2.2.2.2.2.2.1 d h i j hi hj
/-- the twin's row of ints holds the day -/
def EncA (a : Nat → Int32) (V : VS) : Prop :=
  (∀ k, k < 9 → a k = nI (vs V k)) ∧ (∀ f, f < 6 → ∀ j, j < 5 → a (10 + 5 * f + j) = nI (vt V j f)) ∧ (∀ d, d < 8 → ∀ j, j < 3 → a (40 + 3 * d + j) = nI (vt V (5 + j) d)) ∧
  ∀ d, d < 8 → ∀ k, k < vt V 7 d → ∀ j, j < 2 → a (64 + 120 * d + 2 * k + j) = nI (vp V j d k)
def Enc (S : MS) (V : VS) : Prop := EncA (mA S 0) V
theorem Enc.s {S : MS} {V : VS} (E : Enc S V) (k : Nat) (h : k < 9) : mA S 0 k = nI (vs V k) := E.1 k h
theorem Enc.f {S : MS} {V : VS} (E : Enc S V) (j : Nat) {f : Nat} (hf : f < 6) (h : j < 5) : mA S 0 (10 + 5 * f + j) = nI (vt V j f) := E.2.1 f hf j h
theorem Enc.d {S : MS} {V : VS} (E : Enc S V) (j : Nat) {d : Nat} (hd : d < 8) (h : j < 3) : mA S 0 (40 + 3 * d + j) = nI (vt V (5 + j) d) := E.2.2.1 d hd j h
theorem Enc.p {S : MS} {V : VS} (E : Enc S V) (j : Nat) {d k : Nat} (hd : d < 8) (hk : k < vt V 7 d) (h : j < 2) : mA S 0 (64 + 120 * d + 2 * k + j) = nI (vp V j d k) := E.2.2.2 d hd k hk j h
