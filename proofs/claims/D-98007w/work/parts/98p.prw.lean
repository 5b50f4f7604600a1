/-! PARSERS: rows of days, as the twin holds them -/
set_option maxRecDepth 100000
def EncY (S : MS) (D : DS) : Prop := (∀ k, k < D.n → ∀ j, j < 6 → mA S 0 (6630 + 6 * k + j) = nI (D.r k j)) ∧ mA S 0 5609 = nI D.n ∧ (∀ i, i < D.op.length → mA S 22 i = nI (D.op.getD (D.op.length - 1 - i) 0)) ∧ mI S 23 = nI D.op.length ∧ mI S 24 = nI D.ct
/-- a row more stands there, the rest isn't told yet -/
def RowN (S S2 : MS) (n : Nat) (q : RW4) (c2 : Nat) : Prop := (∀ p, p ≠ 5609 → (p < 6630 + 6 * n ∨ 6630 + 6 * n + 6 ≤ p) → mA S2 0 p = mA S 0 p) ∧ mA S2 0 5609 = nI (n + 1) ∧ (∀ j, j < 6 → mA S2 0 (6630 + 6 * n + j) = nI (row4 q 0 j)) ∧ mA S2 22 = mA S 22 ∧ mI S2 23 = mI S 23 ∧ mI S2 24 = nI c2
theorem RowN.of {S S3 S4 : MS} {n k c2 : Nat} {q : RW4} (h3 : mA S3 0 = upd (zer (upd (mA S 0) (6630 + 6 * n) (nI k)) (6630 + 6 * n + 1) 5) 5609 (nI (n + 1))) (h22 : mA S3 22 = mA S 22) (h23 : mI S3 23 = mI S 23) (h24 : mI S3 24 = nI c2) (hR : RowS (6630 + 6 * n) q S3 S4) : RowN S S4 n q c2 := by
  obtain ⟨G, h1, r0, r1, r2, r3, r4, r5⟩ := hR
  refine ⟨fun p hp h => ?_, ?_, fun j hj => ?_, (G.2.2.1 22 (by omega)).trans h22, (G.1 23 (by omega)).trans h23, (G.1 24 (by omega)).trans h24⟩
  · rw [h1 p h, h3, upd_ne hp, zer, if_neg (by omega), upd_ne (by omega)]
  · rw [h1 5609 (by omega), h3, upd_eq]
  · have z3 : ∀ i, 0 < i → i < 6 → mA S3 0 (6630 + 6 * n + i) = nI 0 := fun i h0 hi => by
      rw [h3, upd_ne (by omega), zer, if_pos (by omega)]
    match j, hj with
    | 0, _ => exact r0
    | 1, _ => exact r1
    | 2, _ => exact r2
    | 3, _ => exact r3.trans (z3 3 (by omega) (by omega))
    | 4, _ => exact r4.trans (z3 4 (by omega) (by omega))
    | 5, _ => exact r5
    | j + 6, h => exact absurd h (by omega)
theorem RowN.rows {S S2 : MS} {D : DS} {q : RW4} {c2 : Nat} (E : EncY S D) (h : RowN S S2 D.n q c2) : ∀ k, k < D.n + 1 → ∀ j, j < 6 → mA S2 0 (6630 + 6 * k + j) = nI (upR D.r D.n (row4 q 0) k j) := fun k hk j hj => by
  by_cases z : k = D.n
  · rw [z, upR_eq]
    exact h.2.2.1 j hj
  · rw [upR_ne z, h.1 _ (by omega) (by omega)]
    exact E.1 k (by omega) j hj
theorem EncY.plain {S S2 : MS} {D : DS} {q : RW4} {k : Nat} (E : EncY S D) (h : RowN S S2 D.n q (D.ct + 1)) (h1 : ¬ (k = 24 ∨ k = 25)) (h2 : ¬ k = 26) : EncY S2 (dAdd D k q) := by
  unfold dAdd
  rw [if_neg h1, if_neg h2]
  exact ⟨h.rows E, h.2.1, fun i hi => by rw [h.2.2.2.1]; exact E.2.2.1 i hi, h.2.2.2.2.1.trans E.2.2.2.1, h.2.2.2.2.2⟩
theorem EncY.opn {S S2 : MS} {D : DS} {q : RW4} {k : Nat} (E : EncY S D) (h : RowN S S2 D.n q (D.ct + 1)) (h1 : k = 24 ∨ k = 25) : EncY (sI (sA S2 22 D.op.length (nI D.n)) 23 (nI (D.op.length + 1))) (dAdd D k q) := by
  unfold dAdd
  rw [if_pos h1]
  have hr := h.rows E
  refine ⟨fun k hk j hj => hr k hk j hj, h.2.1, fun i hi => ?_, rfl, h.2.2.2.2.2⟩
  have hi2 : i < D.op.length + 1 := hi
  show upd (mA S2 22) D.op.length (nI D.n) i = nI ((D.n :: D.op).getD (D.op.length + 1 - 1 - i) 0)
  by_cases z : i = D.op.length
  · rw [z, upd_eq, show D.op.length + 1 - 1 - D.op.length = 0 by omega]
    rfl
  · rw [upd_ne z, h.2.2.2.1, E.2.2.1 i (by omega), show D.op.length + 1 - 1 - i = (D.op.length - 1 - i) + 1 by omega]
    rfl
theorem EncY.cls {S S2 : MS} {H : HS} {D : DS} {q : RW4} (E : EncY S D) (O : OkD H D) (h : RowN S S2 D.n q D.ct) (h0 : D.op ≠ []) : EncY (sA (sA (sI S2 23 (nI (D.op.length - 1))) 0 (6630 + 6 * D.n + 4) (nI (D.op.headD 0))) 0 (6630 + 6 * D.op.headD 0 + 4) (nI D.n)) (dAdd D 26 q) := by
  obtain ⟨n, r, op, ct⟩ := D
  have h0 : op ≠ [] := h0
  cases op with
  | nil => exact absurd rfl h0
  | cons o l =>
    have O4 := O.2.2.2.1 o List.mem_cons_self
    have ho : o < n := O4.1
    have e1 : dAdd (n, r, o :: l, ct) 26 q = (n + 1, up4 (upR r n (row4 q o)) o n, l, ct) := rfl
    rw [e1]
    have hr := h.rows E
    refine ⟨fun k hk j hj => ?_, ?_, fun i hi => ?_, ?_, h.2.2.2.2.2⟩
    · have hk2 : k < n + 1 := hk
      have hr2 : mA S2 0 (6630 + 6 * k + j) = nI (upR r n (row4 q 0) k j) := hr k hk2 j hj
      show upd (upd (mA S2 0) (6630 + 6 * n + 4) (nI o)) (6630 + 6 * o + 4) (nI n) (6630 + 6 * k + j) = nI (up4 (upR r n (row4 q o)) o n k j)
      by_cases z : k = o ∧ j = 4
      · obtain ⟨rfl, rfl⟩ := z
        rw [upd_eq, up4_eq]
      · rw [upd_ne (by omega), up4_ne (by omega)]
        by_cases z2 : k = n ∧ j = 4
        · obtain ⟨rfl, rfl⟩ := z2
          rw [upd_eq, upR_eq]
          rfl
        · rw [upd_ne (by omega), hr2]
          by_cases z3 : k = n
          · rw [z3, upR_eq, upR_eq]
            have hj4 : j ≠ 4 := fun w => z2 ⟨z3, w⟩
            unfold row4
            repeat' split
            all_goals first | rfl | omega
          · rw [upR_ne z3, upR_ne z3]
    · show upd (upd (mA S2 0) (6630 + 6 * n + 4) (nI o)) (6630 + 6 * o + 4) (nI n) 5609 = nI (n + 1)
      rw [upd_ne (by omega), upd_ne (by omega)]
      exact h.2.1
    · have hi2 : i < l.length := hi
      show mA S2 22 i = nI (l.getD (l.length - 1 - i) 0)
      rw [h.2.2.2.1]
      have e2 := E.2.2.1 i (show i < l.length + 1 by omega)
      rw [e2]
      show nI ((o :: l).getD (l.length + 1 - 1 - i) 0) = _
      rw [show l.length + 1 - 1 - i = (l.length - 1 - i) + 1 by omega]
      rfl
    · show nI ((o :: l).length - 1) = nI l.length
      rfl
theorem EncY.top {S : MS} {D : DS} (E : EncY S D) (h0 : D.op ≠ []) : mA S 22 (D.op.length - 1) = nI (D.op.headD 0) := by
  obtain ⟨n, r, op, ct⟩ := D
  have h0 : op ≠ [] := h0
  cases op with
  | nil => exact absurd rfl h0
  | cons o l =>
    have e := E.2.2.1 l.length (Nat.lt_succ_self _)
    show mA S 22 ((o :: l).length - 1) = nI o
    refine e.trans ?_
    show nI ((o :: l).getD (l.length + 1 - 1 - l.length) 0) = nI o
    rw [show l.length + 1 - 1 - l.length = 0 by omega]
    rfl
theorem Row0.of {S S3 S4 : MS} {n k : Nat} (h3 : mA S3 0 = upd (zer (upd (mA S 0) (6630 + 6 * n) (nI k)) (6630 + 6 * n + 1) 5) 5609 (nI (n + 1))) (q : FrK S3 S4) : Row0 S4 (6630 + 6 * n) k := by
  have h4 : mA S4 0 = _ := (q.A 0).trans h3
  refine ⟨?_, ?_, ?_, ?_⟩
  · rw [h4, upd_ne (by omega), zer, if_neg (by omega), upd_eq]
  · rw [h4, upd_ne (by omega), zer, if_pos (by omega)]
  · rw [h4, upd_ne (by omega), zer, if_pos (by omega)]
  · rw [h4, upd_ne (by omega), zer, if_pos (by omega)]
theorem EncY.frK {S S2 : MS} {D : DS} (E : EncY S D) (h : FrK S S2) : EncY S2 D := ⟨fun k hk j hj => by rw [h.A]; exact E.1 k hk j hj, by rw [h.A]; exact E.2.1, fun i hi => by rw [h.A]; exact E.2.2.1 i hi, (h.1 23 (by omega)).trans E.2.2.2.1, (h.1 24 (by omega)).trans E.2.2.2.2⟩
theorem OkD.top {H : HS} {D : DS} (O : OkD H D) (h : D.op ≠ []) : D.op.headD 0 < D.n := by
  obtain ⟨n, r, op, ct⟩ := D
  have h : op ≠ [] := h
  cases op with
  | nil => exact absurd rfl h
  | cons o l => exact (O.2.2.2.1 o List.mem_cons_self).1
theorem zer_lo {S : MS} {n k p : Nat} (h : p < 5600) : zer (upd (mA S 0) (6630 + 6 * n) (nI k)) (6630 + 6 * n + 1) 5 p = mA S 0 p := by
  rw [zer, if_neg (by omega), upd_ne (by omega)]
