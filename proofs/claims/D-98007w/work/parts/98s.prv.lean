/-! what a call of days comes to, in the twin -/
set_option maxRecDepth 100000
def D0 : DS := (0, fun _ _ => 0, [], 0)
theorem EncY.new (S : MS) : EncY (sI (sI (sA S 0 5609 (nI 0)) 23 (nI 0)) 24 (nI 0)) D0 := ⟨fun k hk => absurd hk (Nat.not_lt_zero k), upd_eq (a := mA S 0) (i := 5609) (x := nI 0), fun i hi => absurd hi (Nat.not_lt_zero i), rfl, rfl⟩
def cpR (a : Nat → Int32) (k : Nat) : Nat → Int32 := fun i => if 1030 ≤ i ∧ i < k then a (5600 + i) else a i
theorem cpR_0 (a : Nat → Int32) : cpR a 1030 = a := by
  funext i
  unfold cpR
  rw [if_neg (by omega)]
theorem cpR_s (a : Nat → Int32) (k : Nat) (h : 1030 ≤ k) (h2 : k < 1395) : upd (cpR a k) k (cpR a k (5600 + k)) = cpR a (k + 1) := by
  funext i
  show (if i = k then (if 1030 ≤ 5600 + k ∧ 5600 + k < k then a (5600 + (5600 + k)) else a (5600 + k)) else if 1030 ≤ i ∧ i < k then a (5600 + i) else a i) = if 1030 ≤ i ∧ i < k + 1 then a (5600 + i) else a i
  by_cases h1 : i = k
  · subst h1
    rw [if_pos rfl, if_neg (by omega), if_pos (by omega)]
  · rw [if_neg h1]
    by_cases h3 : 1030 ≤ i ∧ i < k
    · rw [if_pos h3, if_pos (by omega)]
    · rw [if_neg h3, if_neg (by omega)]
def q_days (p : Nat) (tp : Nat → Nat) (H : HS) (x : Int32) : Option (PR DS) := if inN x (min p 300 + 1) then some (pDays (tp, cl x) H) else none
def a_days : Option (PR DS) → Int32
  | some (.ok D) => nI D.ct
  | _ => -1
def P_days (H : HS) (S S2 : MS) : Option (PR DS) → Prop
  | none => S2 = sI S 2 (nI 1)
  | some (.ok D) => FrQ S S2 ∧ (∀ k, k < 1030 → k ≠ 9 → mA S2 0 k = mA S 0 k) ∧ (∀ k, k < 14 → mB S2 1 k = mB S 1 k) ∧ EncP S2 (pgD D) ∧ OkD H D ∧ D.op = [] ∧ mI S2 2 = nI 0 ∧ mI S2 16 = nI 0 ∧ mI S2 17 = -1 ∧ mI S2 10 = nI 0
  | some (.error f) => FrQ S S2 ∧ (∀ k, k < 1400 → mA S2 0 k = mA S 0 k) ∧ (∀ k, k < 14 → mB S2 1 k = mB S 1 k) ∧ mI S2 2 = nI 9 ∧ mI S2 16 = nI f.1 ∧ mI S2 17 = nI f.2 ∧ mI S2 10 = nI 0 ∧ 0 < f.1
theorem days_ok {H : HS} {S S1 Sb S4 : MS} {D : DS} (hG : FrG S S1) (h10 : mI S1 10 = nI 0) (h17 : mI S4 17 = -1) (hb : FrP S1 Sb) (hP : FrP Sb S4) (E : EncY S4 D) (O : OkD H D) (hop : D.op = []) : P_days H S (takenS (setAt (sA S4 0 9 (nI D.n)) (cpR (mA (sA S4 0 9 (nI D.n)) 0) 1395)) 0) (some (.ok D)) := by
  have hP2 := hb.trans hP
  have hdb := O.b
  unfold takenS
  rw [if_pos rfl]
  have hA : ∀ k, (k < 1030 ∨ 1395 ≤ k) → k ≠ 9 → cpR (mA (sA S4 0 9 (nI D.n)) 0) 1395 k = mA S4 0 k := fun k hk h9 => by
    unfold cpR
    rw [if_neg (by omega)]
    exact upd_ne h9
  refine ⟨⟨fun i h2 hi => ?_, fun k => ?_, fun k h1 h2 => ?_, fun j h0 h9 h22 => ?_, fun k h1 h2 => ?_, fun j hj => ?_⟩, fun k hk h9 => ?_, fun k hk => ?_, ⟨?_, fun k hk j hj _ => ?_⟩, O, hop, rfl, rfl, h17, ?_⟩
  · show va_up (va_up S4.1 16 _) 2 _ i = _
    unfold va_up
    rw [if_neg h2, if_neg (by omega)]
    exact (hP2.1 i (by omega)).trans (hG.1 i (by omega))
  · exact (hP2.2.1 k).trans (hG.2.1 k)
  · exact (hA k (Or.inr (by omega)) (by omega)).trans ((hP2.2.2.1 k h2).trans (congrFun (hG.2.2.1 0 (by omega)) k))
  · show va_up (va_up S4.2.2.1 0 _) 0 _ j = _
    unfold va_up
    rw [if_neg h0, if_neg h0]
    exact (hP2.2.2.2.1 j h0 h22).trans (hG.2.2.1 j h9)
  · exact (hP2.2.2.2.2.1 k h2).trans (congrFun (hG.2.2.2 1) k)
  · exact (hP2.2.2.2.2.2 j hj).trans (hG.2.2.2 j)
  · exact (hA k (Or.inl hk) h9).trans ((hP2.2.2.1 k (by omega)).trans (congrFun (hG.2.2.1 0 (by omega)) k))
  · exact (hP2.2.2.2.2.1 k (by omega)).trans (congrFun (hG.2.2.2 1) k)
  · show cpR (mA (sA S4 0 9 (nI D.n)) 0) 1395 9 = nI (D.n + 1) - nI 1
    rw [nI_dn]
    unfold cpR
    rw [if_neg (by omega)]
    exact upd_eq (a := mA S4 0) (i := 9) (x := nI D.n)
  · have hk2 : k < D.n := by
      have : k + 1 < D.n + 1 := hk
      omega
    show cpR (mA (sA S4 0 9 (nI D.n)) 0) 1395 (1030 + 6 * k + j) = nI (D.r k j)
    unfold cpR
    rw [if_pos (by omega), show 5600 + (1030 + 6 * k + j) = 6630 + 6 * k + j by omega]
    exact (upd_ne (a := mA S4 0) (i := 9) (j := 6630 + 6 * k + j) (x := nI D.n) (by omega)).trans (E.1 k hk2 j hj)
  · exact (hP2.1 10 (by omega)).trans h10
theorem days_er {H : HS} {S S1 Sb S4 : MS} {f : Nat × Nat} (hG : FrG S S1) (h10 : mI S1 10 = nI 0) (hb : FrP S1 Sb) (hP : FrP Sb S4) (hf : Flt S4 f) : P_days H S (takenS S4 f.1) (some (.error f)) := beach_er hG h10 hb hP hf
theorem pSteps_er {X : TX} {H : HS} {D : DS} {t : Tk} {j : Nat} (h : t.so = 0) (h2 : D.op ≠ []) : pSteps X H (j + 1) D t = .error (flt t 2) := by
  rw [pSteps, if_pos h, if_neg h2]
theorem pSteps_ok {X : TX} {H : HS} {D : DS} {t : Tk} {j : Nat} (h : t.so = 0) (h2 : D.op = []) : pSteps X H (j + 1) D t = .ok D := by
  rw [pSteps, if_pos h, if_pos h2]
