/-! PARSERS: days, as the twin holds them -/
set_option maxRecDepth 100000
def FrA (S S2 : MS) : Prop := (∀ i, i < 12 ∨ 15 < i → mI S2 i = mI S i) ∧ S2.2.1 = S.2.1 ∧ (∀ j, j ≠ 0 → mA S2 j = mA S j) ∧ S2.2.2.2 = S.2.2.2
theorem FrA.refl (S : MS) : FrA S S := ⟨fun _ _ => rfl, rfl, fun _ _ => rfl, rfl⟩
theorem FrA.trans {S S2 S3 : MS} (h : FrA S S2) (h2 : FrA S2 S3) : FrA S S3 := ⟨fun i hi => (h2.1 i hi).trans (h.1 i hi), h2.2.1.trans h.2.1, fun j hj => (h2.2.2.1 j hj).trans (h.2.2.1 j hj), h2.2.2.2.trans h.2.2.2⟩
theorem FrK.toA {S S2 : MS} (h : FrK S S2) : FrA S S2 := ⟨h.1, by rw [h.2], fun j _ => h.A j, by rw [h.2]⟩
theorem FrA.A0 (S : MS) (k : Nat) (v : Int32) : FrA S (sA S 0 k v) := ⟨fun _ _ => rfl, rfl, fun j hj => by
  show va_up S.2.2.1 0 _ j = _
  unfold va_up
  rw [if_neg hj]
  rfl, rfl⟩
theorem FrA.P {S S2 : MS} (h : FrA S S2) (hA : ∀ k, k < 5600 → mA S2 0 k = mA S 0 k) : FrP S S2 := ⟨fun i hi => h.1 i (by omega), fun k => by unfold mL; rw [h.2.1], hA, fun j h0 _ => h.2.2.1 j h0, fun k _ => by unfold mB; rw [h.2.2.2], fun j _ => by unfold mB; rw [h.2.2.2]⟩
theorem FrA.B {S S2 : MS} (h : FrA S S2) (j : Nat) : mB S2 j = mB S j := by unfold mB; rw [h.2.2.2]
/-- row r becomes q, nothing else -/
def RowS (r : Nat) (q : RW4) (S S2 : MS) : Prop := FrA S S2 ∧ (∀ k, k < r ∨ r + 6 ≤ k → mA S2 0 k = mA S 0 k) ∧ mA S2 0 r = nI q.1 ∧ mA S2 0 (r + 1) = nI q.2.1 ∧ mA S2 0 (r + 2) = nI q.2.2.1 ∧ mA S2 0 (r + 3) = mA S 0 (r + 3) ∧ mA S2 0 (r + 4) = mA S 0 (r + 4) ∧ mA S2 0 (r + 5) = nI q.2.2.2
/-- a row before its fields are read -/
def Row0 (S : MS) (r k : Nat) : Prop := mA S 0 r = nI k ∧ mA S 0 (r + 1) = nI 0 ∧ mA S 0 (r + 2) = nI 0 ∧ mA S 0 (r + 5) = nI 0
theorem RowS.P {r : Nat} {q : RW4} {S S2 : MS} (h : RowS r q S S2) (hr : 5600 ≤ r) : FrP S S2 := h.1.P (fun k hk => h.2.1 k (by omega))
def EncZ (S : MS) (H : HS) : Prop := mA S 0 0 = nI H.nc ∧ mA S 0 1 = nI H.cf ∧ mA S 0 2 = nI H.cd ∧ (∀ i, i < H.cf → mB S 1 (0 + i) = lN (n256 (H.nf i)) ∧ NmW (H.nf i)) ∧ ∀ i, i < H.cd → mB S 1 (6 + i) = lN (n256 (H.nd i)) ∧ NmW (H.nd i)
theorem EncZ.frP {S S2 : MS} {H : HS} (E : EncZ S H) (O : OkH H) (h : FrP S S2) : EncZ S2 H :=
  ⟨(h.2.2.1 0 (by omega)).trans E.1, (h.2.2.1 1 (by omega)).trans E.2.1, (h.2.2.1 2 (by omega)).trans E.2.2.1, fun i hi => by
    have := O.2.2.1
    rw [h.2.2.2.2.1 _ (by omega)]
    exact E.2.2.2.1 i hi, fun i hi => by
    have := O.2.2.2.1
    rw [h.2.2.2.2.1 _ (by omega)]
    exact E.2.2.2.2 i hi⟩
theorem sgn_iff {S : MS} {X : TX} {t : Tk} {c : Nat} (hK : TkS S t) (hO : OkT9 X t) (hc : c < 256) : (mI S 12 = nI 4 ∧ mI S 15 = nI c) ↔ (t.so = 4 ∧ t.va = c) := by
  have hso := hO.ok.2.2.1
  constructor
  · rintro ⟨z1, z2⟩
    have z3 : t.so = 4 := (nI_eq (by omega) (by omega)).mp (hK.1.symm.trans z1)
    have z4 := hO.ok.2.2.2.2.2.2.2 z3
    refine ⟨z3, (nI_eq ?_ (by omega)).mp ((hK.2.2.2 (Or.inr z3)).symm.trans z2)⟩
    simp only [isSg, Bool.or_eq_true, beq_iff_eq] at z4
    omega
  · rintro ⟨z1, z2⟩
    exact ⟨by rw [hK.1, z1], by rw [hK.2.2.2 (Or.inr z1), z2]⟩
