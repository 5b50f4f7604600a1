/-! PARSERS: what the twin holds while it reads; names as numbers -/
set_option maxRecDepth 100000
/-- a text's part as a number, by 256 -/
def nmF (X : TX) (a : Nat) : Nat → Nat
  | 0 => 0
  | j + 1 => nmF X a j * 256 + X.1 (a + j)
def n256 (w : List Nat) : Nat := w.foldl (fun v c => v * 256 + c) 0
theorem nmF_eq (X : TX) (a : Nat) : ∀ j, n256 ((List.range j).map fun i => X.1 (a + i)) = nmF X a j
  | 0 => rfl
  | j + 1 => by
    have := nmF_eq X a j
    unfold n256 at this ⊢
    rw [List.range_succ, List.map_append, List.foldl_append, this]
    rfl
theorem n256_wd (X : TX) (t : Tk) : n256 (wd X t) = nmF X t.fr (t.to - t.fr) := nmF_eq X t.fr _
/-- a name: at most eight small letters -/
def NmW (w : List Nat) : Prop := w.length ≤ 8 ∧ w ≠ [] ∧ ∀ c ∈ w, 97 ≤ c ∧ c ≤ 122
theorem fold_lt {B : Nat} (hB : 0 < B) : ∀ (w : List Nat) (v : Nat), (∀ c ∈ w, c < B) → w.foldl (fun v c => v * B + c) v < (v + 1) * B ^ w.length
  | [], v, _ => by simp
  | c :: r, v, h => by
    have h1 := fold_lt hB r (v * B + c) (fun c hc => h c (List.mem_cons_of_mem _ hc))
    have h2 := h c List.mem_cons_self
    rw [List.foldl_cons, List.length_cons]
    refine Nat.lt_of_lt_of_le h1 ?_
    rw [Nat.pow_succ, Nat.mul_comm (B ^ r.length) B, ← Nat.mul_assoc]
    refine Nat.mul_le_mul_right _ ?_
    rw [Nat.add_mul]
    omega
theorem n256_lt {w : List Nat} (h : NmW w) : n256 w < 2 ^ 63 := by
  obtain ⟨h1, h2, h3⟩ := h
  cases w with
  | nil => exact absurd rfl h2
  | cons c r =>
    have hc := h3 c List.mem_cons_self
    have h4 := fold_lt (B := 256) (by omega) r (0 * 256 + c) (fun c hc => by have := h3 c (List.mem_cons_of_mem _ hc); omega)
    have h5 : 256 ^ r.length ≤ 256 ^ 7 := Nat.pow_le_pow_right (by omega) (by simp at h1; omega)
    have h6 : (0 * 256 + c + 1) * 256 ^ r.length ≤ 128 * 256 ^ 7 := Nat.mul_le_mul (by omega) h5
    exact Nat.lt_of_lt_of_le h4 (Nat.le_trans h6 (by decide))
/-- numbers by a base, the last digit first -/
def rvv (B : Nat) (d : Nat → Nat) : List Nat → Nat
  | [] => 0
  | c :: r => rvv B d r * B + d c
theorem rvv_inj {B : Nat} {d : Nat → Nat} (hB : 0 < B) {P : Nat → Prop} (hd : ∀ c, P c → 0 < d c ∧ d c < B) (hi : ∀ a b, P a → P b → d a = d b → a = b) : ∀ (u w : List Nat), (∀ c ∈ u, P c) → (∀ c ∈ w, P c) → rvv B d u = rvv B d w → u = w
  | [], [], _, _, _ => rfl
  | [], c :: r, _, h2, h => by
    have := (hd c (h2 c List.mem_cons_self)).1
    simp only [rvv] at h
    omega
  | c :: r, [], h1, _, h => by
    have := (hd c (h1 c List.mem_cons_self)).1
    simp only [rvv] at h
    omega
  | a :: u, b :: w, h1, h2, h => by
    have ha := hd a (h1 a List.mem_cons_self)
    have hb := hd b (h2 b List.mem_cons_self)
    simp only [rvv] at h
    have e1 : (rvv B d u * B + d a) % B = (rvv B d w * B + d b) % B := by rw [h]
    have e2 : (rvv B d u * B + d a) / B = (rvv B d w * B + d b) / B := by rw [h]
    rw [Nat.mul_comm, Nat.mul_comm (rvv B d w), Nat.mul_add_mod, Nat.mul_add_mod, Nat.mod_eq_of_lt ha.2, Nat.mod_eq_of_lt hb.2] at e1
    rw [Nat.mul_comm, Nat.mul_comm (rvv B d w), Nat.mul_add_div hB, Nat.mul_add_div hB, Nat.div_eq_of_lt ha.2, Nat.div_eq_of_lt hb.2] at e2
    rw [hi a b (h1 a List.mem_cons_self) (h2 b List.mem_cons_self) e1, rvv_inj hB hd hi u w (fun c hc => h1 c (List.mem_cons_of_mem _ hc)) (fun c hc => h2 c (List.mem_cons_of_mem _ hc)) (by omega)]
theorem fold_rvv (B : Nat) (d : Nat → Nat) : ∀ (w : List Nat), w.foldl (fun v c => v * B + d c) 0 = rvv B d w.reverse := by
  intro w
  rw [← List.foldr_reverse]
  generalize w.reverse = u
  induction u with
  | nil => rfl
  | cons c r ih =>
    rw [List.foldr_cons, ih]
    rfl
theorem n256_inj {u w : List Nat} (hu : NmW u) (hw : NmW w) (h : n256 u = n256 w) : u = w := by
  have h1 := fold_rvv 256 (fun c => c) u
  have h2 := fold_rvv 256 (fun c => c) w
  have h3 : rvv 256 (fun c => c) u.reverse = rvv 256 (fun c => c) w.reverse := h1.symm.trans (h.trans h2)
  have h4 := rvv_inj (B := 256) (d := fun c => c) (P := fun c => 97 ≤ c ∧ c ≤ 122) (by omega) (fun c hc => ⟨by omega, by omega⟩) (fun a b _ _ h => h) u.reverse w.reverse (fun c hc => hu.2.2 c (List.mem_reverse.mp hc)) (fun c hc => hw.2.2 c (List.mem_reverse.mp hc)) h3
  have h5 := congrArg List.reverse h4
  rwa [List.reverse_reverse, List.reverse_reverse] at h5
theorem wd_nm {X : TX} {t : Tk} (hO : OkT9 X t) (h : isNm X t) : NmW (wd X t) := by
  have h1 := hO.ok
  refine ⟨by rw [wd_len]; exact h.2.1, fun z => ?_, fun c hc => ?_⟩
  · have := wd_len X t
    rw [z] at this
    have h2 := h1.2.2.2.1 (by rw [h.1]; decide)
    simp at this
    omega
  · obtain ⟨i, hi, rfl⟩ := List.mem_map.mp hc
    have h2 := h1.2.2.2.2.2.2.1 h.1 (t.fr + i) (by omega) (by have := List.mem_range.mp hi; omega)
    unfold isLo at h2
    simp at h2
    exact h2
theorem shl8 (v : Nat) {c : Nat} (hc : c < 256) : (lN v <<< ((nI 8).toInt64 &&& 63)) ||| (nI c).toInt64 = lN (v * 256 + c) := by
  rw [nI_l (n := c) (by omega), nI_l (n := 8) (by omega)]
  apply Int64.toBitVec_inj.mp
  rw [Int64.toBitVec_or, Int64.toBitVec_shiftLeft]
  show BitVec.ofNat 64 v <<< (((lN 8 &&& 63).toBitVec.smod 64)) ||| BitVec.ofNat 64 c = BitVec.ofNat 64 (v * 256 + c)
  have h8 : (((lN 8 &&& 63).toBitVec.smod 64)) = BitVec.ofNat 64 8 := by decide
  rw [h8]
  apply BitVec.eq_of_toNat_eq
  rw [BitVec.toNat_or, BitVec.shiftLeft_eq', BitVec.toNat_shiftLeft]
  simp only [BitVec.toNat_ofNat]
  have e : v * 256 + c = v <<< 8 ||| c := by rw [← Nat.shiftLeft_add_eq_or_of_lt (show c < 2 ^ 8 by omega), Nat.shiftLeft_eq]
  rw [e, Nat.mod_eq_of_lt (show 8 < 2 ^ 64 by decide), Nat.or_mod_two_pow]
  congr 1
  rw [Nat.shiftLeft_eq, Nat.shiftLeft_eq, Nat.mod_mul_mod]
/-! frames -/
def FrP (S S2 : MS) : Prop := (∀ i, i < 12 ∨ i = 16 ∨ i = 19 ∨ 24 < i → mI S2 i = mI S i) ∧ (∀ k, mL S2 k = mL S k) ∧ (∀ k, k < 5600 → mA S2 0 k = mA S 0 k) ∧ (∀ j, j ≠ 0 → j ≠ 22 → mA S2 j = mA S j) ∧ (∀ k, k < 56 → mB S2 1 k = mB S 1 k) ∧ ∀ j, j ≠ 1 → mB S2 j = mB S j
theorem FrP.refl (S : MS) : FrP S S := ⟨fun _ _ => rfl, fun _ => rfl, fun _ _ => rfl, fun _ _ _ => rfl, fun _ _ => rfl, fun _ _ => rfl⟩
theorem FrP.trans {S S2 S3 : MS} (h : FrP S S2) (h2 : FrP S2 S3) : FrP S S3 :=
  ⟨fun i hi => (h2.1 i hi).trans (h.1 i hi), fun k => (h2.2.1 k).trans (h.2.1 k), fun k hk => (h2.2.2.1 k hk).trans (h.2.2.1 k hk), fun j a b => (h2.2.2.2.1 j a b).trans (h.2.2.2.1 j a b), fun k hk => (h2.2.2.2.2.1 k hk).trans (h.2.2.2.2.1 k hk), fun j hj => (h2.2.2.2.2.2 j hj).trans (h.2.2.2.2.2 j hj)⟩
theorem FrK.P {S S2 : MS} (h : FrK S S2) : FrP S S2 := ⟨fun i hi => h.1 i (by omega), fun k => by unfold mL; rw [h.2], fun k _ => by rw [h.A], fun j _ _ => h.A j, fun k _ => by rw [h.B], fun j _ => h.B j⟩
theorem FrP.A0 (S : MS) {k : Nat} (v : Int32) (hk : 5600 ≤ k) : FrP S (sA S 0 k v) := ⟨fun _ _ => rfl, fun _ => rfl, fun i hi => by
  show upd (mA S 0) k v i = _
  exact upd_ne (by omega), fun j h0 _ => by
  show va_up S.2.2.1 0 _ j = _
  unfold va_up
  rw [if_neg h0]
  rfl, fun _ _ => rfl, fun _ _ => rfl⟩
theorem FrP.at_ {S : MS} {a : Nat → Int32} (h : ∀ k, k < 5600 → a k = mA S 0 k) : FrP S (setAt S a) := ⟨fun _ _ => rfl, fun _ => rfl, h, fun j h0 _ => by
  show va_up S.2.2.1 0 _ j = _
  unfold va_up
  rw [if_neg h0]
  rfl, fun _ _ => rfl, fun _ _ => rfl⟩
theorem FrP.A22 (S : MS) (k : Nat) (v : Int32) : FrP S (sA S 22 k v) := ⟨fun _ _ => rfl, fun _ => rfl, fun i hi => rfl, fun j _ h0 => by
  show va_up S.2.2.1 22 _ j = _
  unfold va_up
  rw [if_neg h0]
  rfl, fun _ _ => rfl, fun _ _ => rfl⟩
theorem FrP.B1 (S : MS) {k : Nat} (v : Int64) (hk : 56 ≤ k) : FrP S (sB S 1 k v) := ⟨fun _ _ => rfl, fun _ => rfl, fun _ _ => rfl, fun _ _ _ => rfl, fun i hi => by
  show vp_updL (mB S 1) k v i = _
  unfold vp_updL
  rw [if_neg (by omega)], fun j h0 => by
  show va_up S.2.2.2 1 _ j = _
  unfold va_up
  rw [if_neg h0]
  rfl⟩
theorem FrP.I (S : MS) {i : Nat} (v : Int32) (hi : ¬ (i < 12 ∨ i = 16 ∨ i = 19 ∨ 24 < i)) : FrP S (sI S i v) := ⟨fun j hj => by
  show va_up S.1 i v j = _
  unfold va_up
  rw [if_neg (fun z => hi (by rw [← z]; exact hj))]
  rfl, fun _ => rfl, fun _ _ => rfl, fun _ _ _ => rfl, fun _ _ => rfl, fun _ _ => rfl⟩
def Flt (S : MS) (f : Nat × Nat) : Prop := mI S 18 = nI f.1 ∧ mI S 17 = nI f.2 ∧ 0 < f.1 ∧ f.1 < 10
def PX {α : Type} (r : PR α) (S : MS) (ok : α → MS → Prop) (S2 : MS) : Prop := match r with
  | .ok v => ok v S2
  | .error f => FrP S S2 ∧ Flt S2 f
theorem PX_ok {α : Type} {r : PR α} {S S2 : MS} {ok : α → MS → Prop} {v : α} (e : r = .ok v) (h : ok v S2) : PX r S ok S2 := by rw [e]; exact h
theorem PX_er {α : Type} {r : PR α} {S S2 : MS} {ok : α → MS → Prop} {f : Nat × Nat} (e : r = .error f) (h : FrP S S2 ∧ Flt S2 f) : PX r S ok S2 := by rw [e]; exact h
theorem PX_t {α : Type} {r : PR α} {S S2 : MS} {ok : α → MS → Prop} {v : α} (h : PX r S ok S2) (e : r = .ok v) : ok v S2 := by rw [e] at h; exact h
theorem PX_f {α : Type} {r : PR α} {S S2 : MS} {ok : α → MS → Prop} {f : Nat × Nat} (h : PX r S ok S2) (e : r = .error f) : FrP S S2 ∧ Flt S2 f := by rw [e] at h; exact h
theorem TkS.fr {S S2 : MS} {t : Tk} (K : TkS S t) (h : ∀ i, 12 ≤ i → i ≤ 15 → mI S2 i = mI S i) : TkS S2 t := ⟨(h 12 (by omega) (by omega)).trans K.1, (h 13 (by omega) (by omega)).trans K.2.1, (h 14 (by omega) (by omega)).trans K.2.2.1, fun z => (h 15 (by omega) (by omega)).trans (K.2.2.2 z)⟩
theorem flt_lt {t : Tk} {k : Nat} (h : 0 < k) (h2 : k < 10) : 0 < (flt t k).1 ∧ (flt t k).1 < 10 := by
  unfold flt
  dsimp only
  split <;> omega
theorem c_failsX {g : GG} {S : MS} {t : Tk} {k : Nat} (hK : TkS S t) (h0 : mI S 18 = nI 0) (hk : 0 < k) (hk2 : k < 10) (hO : t.so ≤ 4) : Mp g miX8_fails 1 [.int (nI k)] S (some (.int (nI 0))) (fun S2 => FrP S S2 ∧ Flt S2 (flt t k)) := by
  refine Mt.toP (S2 := a_fails S (nI k)) ?_ ?_
  · have h := c_fails (g := g) (S := S) (x := nI k)
    rw [bP_f id] at h
    exact h
  · unfold a_fails
    rw [if_pos (show mI S 18 = 0 from h0)]
    refine ⟨(FrP.I S _ (by omega)).trans (FrP.I _ _ (by omega)), ?_, hK.2.1, (flt_lt hk hk2).1, (flt_lt hk hk2).2⟩
    show (if mI S 12 = nI 1 then nI 1 else nI k) = nI (if t.so = 1 then 1 else k)
    rw [hK.1]
    by_cases h : t.so = 1
    · rw [if_pos h, if_pos (by rw [h])]
    · rw [if_neg h, if_neg (fun z => h ((nI_eq (by omega) (by omega)).mp z))]
theorem c_aheadX {g : GG} {S : MS} {X : TX} {t : Tk} (hT : TxS S X) (hK : TkS S t) (hO : OkT9 X t) : Mp g miX8_ahead 2 [] S none (fun S2 => FrK S S2 ∧ TkS S2 (nx X t)) := c_ahead hT hK.2.2.1 hO.ok.2.1
