/-! calls of the methods that change the day; small steps of such changes -/
set_option maxRecDepth 100000
section MPCALL
variable {g : GG} {mt : MT} {kc ks pc : Nat} {L : List (Option Value)} {st rest : List Value} {σ : PH} {b : Nat} {S : MS} {mi : MI} {d2 : Nat} {P : MS → Prop}
theorem m_callPi0 {r : Int32} {index : Nat} (d : decode mt.1.2.1 pc = .ok (.invokevirtual index, 3)) (q : Cond.methodLink mt.1.1 index mi.1 ∈ lw_all) (ok : MOkV mi 0) (hcls : mi.1.cls = RX8) (hd : d2 + 1 ≤ mt.2.1.1) (hM : Mp g mi d2 [] S (some (.int r)) P) (hcat : (rest.map fun v => v.category).sum ≤ 8) (kk : ∀ S2, P S2 → Wp g mt kc ks (pc + 3) L (.int r :: rest) (sM g σ b S2)) : Wp g mt kc ks pc L (.ref b :: rest) (sM g σ b S) :=
  w_callV (As := []) (mc2 := 0) (ms2 := 0) d q ok clX8 hcls (hM σ b) hd sM_0 rfl rfl hcat (fun w σ2 h => by obtain ⟨rfl, S2, hP, rfl⟩ := h; exact kk S2 hP) (fun _ _ _ h => h.elim)
theorem m_callPi1 {a1 : Value} {r : Int32} {index : Nat} (d : decode mt.1.2.1 pc = .ok (.invokevirtual index, 3)) (q : Cond.methodLink mt.1.1 index mi.1 ∈ lw_all) (ok : MOkV mi 1) (hcls : mi.1.cls = RX8) (hd : d2 + 1 ≤ mt.2.1.1) (hM : Mp g mi d2 [a1] S (some (.int r)) P) (hcat : (rest.map fun v => v.category).sum ≤ 8) (kk : ∀ S2, P S2 → Wp g mt kc ks (pc + 3) L (.int r :: rest) (sM g σ b S2)) : Wp g mt kc ks pc L (a1 :: .ref b :: rest) (sM g σ b S) :=
  w_callV (As := [a1]) (mc2 := 0) (ms2 := 0) d q ok clX8 hcls (hM σ b) hd sM_0 rfl rfl hcat (fun w σ2 h => by obtain ⟨rfl, S2, hP, rfl⟩ := h; exact kk S2 hP) (fun _ _ _ h => h.elim)
theorem m_callPi2 {a1 a2 : Value} {r : Int32} {index : Nat} (d : decode mt.1.2.1 pc = .ok (.invokevirtual index, 3)) (q : Cond.methodLink mt.1.1 index mi.1 ∈ lw_all) (ok : MOkV mi 2) (hcls : mi.1.cls = RX8) (hd : d2 + 1 ≤ mt.2.1.1) (hM : Mp g mi d2 [a1, a2] S (some (.int r)) P) (hcat : (rest.map fun v => v.category).sum ≤ 8) (kk : ∀ S2, P S2 → Wp g mt kc ks (pc + 3) L (.int r :: rest) (sM g σ b S2)) : Wp g mt kc ks pc L (a2 :: a1 :: .ref b :: rest) (sM g σ b S) :=
  w_callV (As := [a1, a2]) (mc2 := 0) (ms2 := 0) d q ok clX8 hcls (hM σ b) hd sM_0 rfl rfl hcat (fun w σ2 h => by obtain ⟨rfl, S2, hP, rfl⟩ := h; exact kk S2 hP) (fun _ _ _ h => h.elim)
theorem m_callPi3 {a1 a2 a3 : Value} {r : Int32} {index : Nat} (d : decode mt.1.2.1 pc = .ok (.invokevirtual index, 3)) (q : Cond.methodLink mt.1.1 index mi.1 ∈ lw_all) (ok : MOkV mi 3) (hcls : mi.1.cls = RX8) (hd : d2 + 1 ≤ mt.2.1.1) (hM : Mp g mi d2 [a1, a2, a3] S (some (.int r)) P) (hcat : (rest.map fun v => v.category).sum ≤ 8) (kk : ∀ S2, P S2 → Wp g mt kc ks (pc + 3) L (.int r :: rest) (sM g σ b S2)) : Wp g mt kc ks pc L (a3 :: a2 :: a1 :: .ref b :: rest) (sM g σ b S) :=
  w_callV (As := [a1, a2, a3]) (mc2 := 0) (ms2 := 0) d q ok clX8 hcls (hM σ b) hd sM_0 rfl rfl hcat (fun w σ2 h => by obtain ⟨rfl, S2, hP, rfl⟩ := h; exact kk S2 hP) (fun _ _ _ h => h.elim)
theorem m_callPi4 {a1 a2 a3 a4 : Value} {r : Int32} {index : Nat} (d : decode mt.1.2.1 pc = .ok (.invokevirtual index, 3)) (q : Cond.methodLink mt.1.1 index mi.1 ∈ lw_all) (ok : MOkV mi 4) (hcls : mi.1.cls = RX8) (hd : d2 + 1 ≤ mt.2.1.1) (hM : Mp g mi d2 [a1, a2, a3, a4] S (some (.int r)) P) (hcat : (rest.map fun v => v.category).sum ≤ 8) (kk : ∀ S2, P S2 → Wp g mt kc ks (pc + 3) L (.int r :: rest) (sM g σ b S2)) : Wp g mt kc ks pc L (a4 :: a3 :: a2 :: a1 :: .ref b :: rest) (sM g σ b S) :=
  w_callV (As := [a1, a2, a3, a4]) (mc2 := 0) (ms2 := 0) d q ok clX8 hcls (hM σ b) hd sM_0 rfl rfl hcat (fun w σ2 h => by obtain ⟨rfl, S2, hP, rfl⟩ := h; exact kk S2 hP) (fun _ _ _ h => h.elim)
theorem m_callPv0 {index : Nat} (d : decode mt.1.2.1 pc = .ok (.invokevirtual index, 3)) (q : Cond.methodLink mt.1.1 index mi.1 ∈ lw_all) (ok : MOkV mi 0) (hcls : mi.1.cls = RX8) (hd : d2 + 1 ≤ mt.2.1.1) (hM : Mp g mi d2 [] S (none) P) (hcat : (rest.map fun v => v.category).sum ≤ 8) (kk : ∀ S2, P S2 → Wp g mt kc ks (pc + 3) L (rest) (sM g σ b S2)) : Wp g mt kc ks pc L (.ref b :: rest) (sM g σ b S) :=
  w_callV (As := []) (mc2 := 0) (ms2 := 0) d q ok clX8 hcls (hM σ b) hd sM_0 rfl rfl hcat (fun w σ2 h => by obtain ⟨rfl, S2, hP, rfl⟩ := h; exact kk S2 hP) (fun _ _ _ h => h.elim)
theorem m_callPv1 {a1 : Value} {index : Nat} (d : decode mt.1.2.1 pc = .ok (.invokevirtual index, 3)) (q : Cond.methodLink mt.1.1 index mi.1 ∈ lw_all) (ok : MOkV mi 1) (hcls : mi.1.cls = RX8) (hd : d2 + 1 ≤ mt.2.1.1) (hM : Mp g mi d2 [a1] S (none) P) (hcat : (rest.map fun v => v.category).sum ≤ 8) (kk : ∀ S2, P S2 → Wp g mt kc ks (pc + 3) L (rest) (sM g σ b S2)) : Wp g mt kc ks pc L (a1 :: .ref b :: rest) (sM g σ b S) :=
  w_callV (As := [a1]) (mc2 := 0) (ms2 := 0) d q ok clX8 hcls (hM σ b) hd sM_0 rfl rfl hcat (fun w σ2 h => by obtain ⟨rfl, S2, hP, rfl⟩ := h; exact kk S2 hP) (fun _ _ _ h => h.elim)
theorem m_callPv2 {a1 a2 : Value} {index : Nat} (d : decode mt.1.2.1 pc = .ok (.invokevirtual index, 3)) (q : Cond.methodLink mt.1.1 index mi.1 ∈ lw_all) (ok : MOkV mi 2) (hcls : mi.1.cls = RX8) (hd : d2 + 1 ≤ mt.2.1.1) (hM : Mp g mi d2 [a1, a2] S (none) P) (hcat : (rest.map fun v => v.category).sum ≤ 8) (kk : ∀ S2, P S2 → Wp g mt kc ks (pc + 3) L (rest) (sM g σ b S2)) : Wp g mt kc ks pc L (a2 :: a1 :: .ref b :: rest) (sM g σ b S) :=
  w_callV (As := [a1, a2]) (mc2 := 0) (ms2 := 0) d q ok clX8 hcls (hM σ b) hd sM_0 rfl rfl hcat (fun w σ2 h => by obtain ⟨rfl, S2, hP, rfl⟩ := h; exact kk S2 hP) (fun _ _ _ h => h.elim)
theorem m_callPv3 {a1 a2 a3 : Value} {index : Nat} (d : decode mt.1.2.1 pc = .ok (.invokevirtual index, 3)) (q : Cond.methodLink mt.1.1 index mi.1 ∈ lw_all) (ok : MOkV mi 3) (hcls : mi.1.cls = RX8) (hd : d2 + 1 ≤ mt.2.1.1) (hM : Mp g mi d2 [a1, a2, a3] S (none) P) (hcat : (rest.map fun v => v.category).sum ≤ 8) (kk : ∀ S2, P S2 → Wp g mt kc ks (pc + 3) L (rest) (sM g σ b S2)) : Wp g mt kc ks pc L (a3 :: a2 :: a1 :: .ref b :: rest) (sM g σ b S) :=
  w_callV (As := [a1, a2, a3]) (mc2 := 0) (ms2 := 0) d q ok clX8 hcls (hM σ b) hd sM_0 rfl rfl hcat (fun w σ2 h => by obtain ⟨rfl, S2, hP, rfl⟩ := h; exact kk S2 hP) (fun _ _ _ h => h.elim)
theorem m_callPv4 {a1 a2 a3 a4 : Value} {index : Nat} (d : decode mt.1.2.1 pc = .ok (.invokevirtual index, 3)) (q : Cond.methodLink mt.1.1 index mi.1 ∈ lw_all) (ok : MOkV mi 4) (hcls : mi.1.cls = RX8) (hd : d2 + 1 ≤ mt.2.1.1) (hM : Mp g mi d2 [a1, a2, a3, a4] S (none) P) (hcat : (rest.map fun v => v.category).sum ≤ 8) (kk : ∀ S2, P S2 → Wp g mt kc ks (pc + 3) L (rest) (sM g σ b S2)) : Wp g mt kc ks pc L (a4 :: a3 :: a2 :: a1 :: .ref b :: rest) (sM g σ b S) :=
  w_callV (As := [a1, a2, a3, a4]) (mc2 := 0) (ms2 := 0) d q ok clX8 hcls (hM σ b) hd sM_0 rfl rfl hcat (fun w σ2 h => by obtain ⟨rfl, S2, hP, rfl⟩ := h; exact kk S2 hP) (fun _ _ _ h => h.elim)
end MPCALL
theorem Ch.setF {S : MS} {V : VS} (E : Enc S V) {f j x i : Nat} (hf : f < 6) (hj : j < 5) (hi : i = 10 + 5 * f + j) : Ch S (sA S 0 i (nI x)) (setT V j f x) := by
  subst hi
  rw [sA_at]
  exact Ch.mk_ (fun i hi => by rw [upd, if_neg (by omega)]) (by rw [upd, if_neg (by omega)]) (E.upF hf hj x)
theorem Ch.setS {S : MS} {V : VS} (E : Enc S V) {k x : Nat} (hk : k < 9) : Ch S (sA S 0 k (nI x)) (setS V k x) := by
  rw [sA_at]
  exact Ch.mk_ (fun i hi => by rw [upd, if_neg (by omega)]) (by rw [upd, if_neg (by omega)]) (E.upS hk x)
theorem Ch.setN {S : MS} {V : VS} (E : Enc S V) {d x : Nat} (hd : d < 8) (hx : x ≤ vt V 7 d) : Ch S (sA S 0 (40 + 3 * d + 2) (nI x)) (setT V 7 d x) := by
  rw [sA_at]
  exact Ch.mk_ (fun i hi => by rw [upd, if_neg (by omega)]) (by rw [upd, if_neg (by omega)]) (E.upN hd hx)
/-- a change and the status -/
def ChS (S S2 : MS) (V2 : VS) (w : Int32) : Prop := ∃ S1, Ch S S1 V2 ∧ S2 = sI S1 2 w
theorem Ch.toS {S S2 : MS} {V2 : VS} (h : Ch S S2 V2) (w : Int32) : ChS S (sI S2 2 w) V2 w := ⟨S2, h, rfl⟩
theorem upd_ne {a : Nat → Int32} {i j : Nat} {x : Int32} (h : j ≠ i) : upd a i x j = a j := if_neg h
theorem upd_eq {a : Nat → Int32} {i : Nat} {x : Int32} : upd a i x i = x := if_pos rfl
theorem shUp_ne {a : Nat → Int32} {B k n i : Nat} (h : i < B + 2 * k + 2 ∨ B + 2 * n + 2 ≤ i) : shUp a B k n i = a i := if_neg (by omega)
theorem shDn_ne {a : Nat → Int32} {B k j i : Nat} (h : i < B + 2 * k ∨ B + 2 * j ≤ i) : shDn a B k j i = a i := if_neg (by omega)
