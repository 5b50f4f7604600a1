/-! THE READER: a beach under construction (loose cells 2, 10..19) -/
set_option maxRecDepth 100000
/-- a beach's ints, the names of its finders and finds, its rows by field -/
abbrev ZB : Type := (Nat → Int32) × (Nat → Int64) × (Nat → Int64) × (Nat → Nat → Int32)
def zI (Z : ZB) (f : Nat) (v : Int32) : ZB := (upd Z.1 f v, Z.2)
def zP (Z : ZB) (i : Nat) (v : Int64) : ZB := (Z.1, vp_updL Z.2.1 i v, Z.2.2)
def zQ (Z : ZB) (i : Nat) (v : Int64) : ZB := (Z.1, Z.2.1, vp_updL Z.2.2.1 i v, Z.2.2.2)
def zR (Z : ZB) (k i : Nat) (v : Int32) : ZB := (Z.1, Z.2.1, Z.2.2.1, va_up Z.2.2.2 k (upd (Z.2.2.2 k) i v))
def zbL (C : CS) (Z : ZB) : List Value := [.int (Z.1 0), .int (Z.1 1), .int (Z.1 2), .int (Z.1 3), .int (Z.1 4), .int (Z.1 5), .int (Z.1 6), .ref (od C 8 10), .ref (od C 8 11), .ref (od C 8 12), .ref (od C 8 13), .ref (od C 8 14), .ref (od C 8 15), .ref (od C 8 16), .ref (od C 8 17), .ref (od C 8 18), .ref (od C 8 19)]
def zn (k : Nat) : Nat := if k < 12 then 6 else if k < 14 then 8 else 30
def zbM (g : GG) (C : CS) (Z : ZB) (j : Nat) : Option va_E := match j with
  | 2 => some (.inr (6, zbL C Z))
  | 10 => some (.inl (g.2.2.2 1, 6, .inr (.inl Z.2.1)))
  | 11 => some (.inl (g.2.2.2 1, 8, .inr (.inl Z.2.2.1)))
  | 12 => some (.inl (g.2.2.2 0, 6, .inl (Z.2.2.2 9)))
  | 13 => some (.inl (g.2.2.2 0, 6, .inl (Z.2.2.2 10)))
  | 14 => some (.inl (g.2.2.2 0, 6, .inl (Z.2.2.2 11)))
  | 15 => some (.inl (g.2.2.2 0, 8, .inl (Z.2.2.2 12)))
  | 16 => some (.inl (g.2.2.2 0, 8, .inl (Z.2.2.2 13)))
  | 17 => some (.inl (g.2.2.2 0, 30, .inl (Z.2.2.2 14)))
  | 18 => some (.inl (g.2.2.2 0, 30, .inl (Z.2.2.2 15)))
  | 19 => some (.inl (g.2.2.2 0, 30, .inl (Z.2.2.2 16)))
  | j => oM C j
/-- the state with other loose cells -/
def sM8 (C : CS) (m : Nat → Option va_E) : CS := (C.1, C.2.1, C.2.2.1, C.2.2.2.1, C.2.2.2.2.1, C.2.2.2.2.2.1, C.2.2.2.2.2.2.1, C.2.2.2.2.2.2.2.1, C.2.2.2.2.2.2.2.2.1, m, C.2.2.2.2.2.2.2.2.2.2)
theorem RFr.sM {C : CS} {m : Nat → Option va_E} : RFr C (sM8 C m) := ⟨fun _ _ _ => rfl, fun _ _ _ _ => rfl, rfl, rfl, rfl, rfl, rfl, rfl, rfl, rfl⟩
theorem sM_od {C : CS} {m : Nat → Option va_E} {n : Nat} {q : RQ} : od (rdS (sM8 C m) n q) = od C := rfl
theorem sM_oZ {C : CS} {m : Nat → Option va_E} {n : Nat} {q : RQ} : oZ (rdS (sM8 C m) n q) = oZ C := rfl
theorem sM_ot {g : GG} {C : CS} {m : Nat → Option va_E} {n : Nat} {q : RQ} : ∀ a b, a ≠ 8 → ceC g (rdS (sM8 C m) n q) a b = ceC g C a b := ce_all (P := fun a _ => a ≠ 8) (fun _ _ => rfl) (fun _ _ => rfl) (fun _ _ => rfl) (fun _ _ => rfl) (fun _ _ => rfl) (fun _ _ => rfl) (fun _ _ => rfl) (fun _ _ => rfl) (fun _ h => absurd rfl h) (fun _ _ => rfl) (fun _ _ => rfl) (fun _ _ => rfl) (fun _ _ => rfl) (fun _ _ => rfl)
theorem sM_ce {g : GG} {C : CS} {m : Nat → Option va_E} {n j : Nat} {q : RQ} (hj : j ≠ 1) : ceC g (rdS (sM8 C m) n q) 8 j = m j := va_up_ne _ _ hj
theorem sM_ob {g : GG} {C : CS} {m m2 : Nat → Option va_E} {n j : Nat} {q : RQ} (h : ∀ i, i ≠ j → m2 i = m i) : ∀ a b, (a = 8 → b = j → False) → ceC g (rdS (sM8 C m2) n q) a b = ceC g (rdS (sM8 C m) n q) a b := by
  intro a b hab
  by_cases ha : a = 8
  · subst ha
    show va_up m2 1 _ b = va_up m 1 _ b
    unfold va_up
    split
    · rfl
    · exact h b (fun y => hab rfl y)
  · rw [sM_ot a b ha, sM_ot a b ha]
theorem RFr.symm {C C2 : CS} (h : RFr C C2) : RFr C2 C := ⟨fun k j hk => (h.1 k j hk).symm, fun k j f hk => (h.2.1 k j f hk).symm, h.2.2.1.symm, h.2.2.2.1.symm, h.2.2.2.2.1.symm, h.2.2.2.2.2.1.symm, h.2.2.2.2.2.2.1.symm, h.2.2.2.2.2.2.2.1.symm, h.2.2.2.2.2.2.2.2.1.symm, h.2.2.2.2.2.2.2.2.2.symm⟩
theorem RFr.zr {C : CS} {m : Nat → Option va_E} {n : Nat} {q : RQ} : RFr C (rdS (sM8 C m) n q) := RFr.sM.trans (RFr.rd _ _ _)
theorem RFr.rb {C : CS} {m m2 : Nat → Option va_E} {n k : Nat} {q q2 : RQ} : RFr (rdS (sM8 C m) n q) (rdS (sM8 C m2) k q2) := RFr.zr.symm.trans RFr.zr
theorem RFr.bdb {C C1 : CS} {m m2 : Nat → Option va_E} {n k : Nat} {q q2 : RQ} {f : Nat × Nat} (h : C1 = bdS (rdS (sM8 C m2) n q) f) : RFr (rdS (sM8 C m) k q2) C1 := by
  rw [h]
  exact RFr.zr.symm.trans (Bd.mk_ (f := f) (RFr.zr (m := m2) (n := n) (q := q))).1
theorem ET.mkb {α : Type} {C C1 : CS} {m : Nat → Option va_E} {n : Nat} {q : RQ} {f : Nat × Nat} {r : PR α} (hr : r = .error f) (h : C1 = bdS (rdS (sM8 C m) n q) f) : ET C r C1 := ⟨f, hr, by
  rw [h]
  exact Bd.mk_ RFr.zr⟩
theorem rz_od {C : CS} {m m2 : Nat → Option va_E} {n : Nat} {q : RQ} : od (rdS (sM8 C m) n q) = od (rdS (sM8 C m2) n q) := sM_od.trans sM_od.symm
theorem rz_oZ {C : CS} {m m2 : Nat → Option va_E} {n : Nat} {q : RQ} : oZ (rdS (sM8 C m) n q) = oZ (rdS (sM8 C m2) n q) := sM_oZ.trans sM_oZ.symm
theorem zbM_hi {g : GG} {C : CS} {Z : ZB} {i : Nat} (h : i ≠ 2 ∧ (i < 10 ∨ 19 < i)) : zbM g C Z i = oM C i := by
  unfold zbM
  split
  all_goals first | omega | rfl
theorem zbM_ne {g : GG} {C : CS} {Z Z2 : ZB} {j : Nat} (h2 : j = 2 ∨ Z2.1 = Z.1) (hP : j = 10 ∨ Z2.2.1 = Z.2.1) (hQ : j = 11 ∨ Z2.2.2.1 = Z.2.2.1) (hR : ∀ k, j = k + 3 ∨ Z2.2.2.2 k = Z.2.2.2 k) : ∀ i, i ≠ j → zbM g C Z2 i = zbM g C Z i := by
  intro i hi
  have h3 : ∀ k, i = k + 3 → Z2.2.2.2 k = Z.2.2.2 k := fun k hk => by
    rcases hR k with z | z
    · exact absurd (hk.trans z.symm) hi
    · exact z
  by_cases h : i ≠ 2 ∧ (i < 10 ∨ 19 < i)
  · rw [zbM_hi h, zbM_hi h]
  · have h4 : i = 2 ∨ i = 10 ∨ i = 11 ∨ i = 12 ∨ i = 13 ∨ i = 14 ∨ i = 15 ∨ i = 16 ∨ i = 17 ∨ i = 18 ∨ i = 19 := by omega
    rcases h4 with rfl | rfl | rfl | rfl | rfl | rfl | rfl | rfl | rfl | rfl | rfl
    · rcases h2 with z | z
      · exact absurd z.symm hi
      · show some (Sum.inr (6, zbL C Z2)) = some (Sum.inr (6, zbL C Z))
        unfold zbL
        rw [z]
    · rcases hP with z | z
      · exact absurd z.symm hi
      · show some (Sum.inl (_, _, Sum.inr (Sum.inl Z2.2.1))) = some (Sum.inl (_, _, Sum.inr (Sum.inl Z.2.1)))
        rw [z]
    · rcases hQ with z | z
      · exact absurd z.symm hi
      · show some (Sum.inl (_, _, Sum.inr (Sum.inl Z2.2.2.1))) = some (Sum.inl (_, _, Sum.inr (Sum.inl Z.2.2.1)))
        rw [z]
    · show some (Sum.inl (_, _, Sum.inl (Z2.2.2.2 9))) = some (Sum.inl (_, _, Sum.inl (Z.2.2.2 9)))
      rw [h3 9 rfl]
    · show some (Sum.inl (_, _, Sum.inl (Z2.2.2.2 10))) = some (Sum.inl (_, _, Sum.inl (Z.2.2.2 10)))
      rw [h3 10 rfl]
    · show some (Sum.inl (_, _, Sum.inl (Z2.2.2.2 11))) = some (Sum.inl (_, _, Sum.inl (Z.2.2.2 11)))
      rw [h3 11 rfl]
    · show some (Sum.inl (_, _, Sum.inl (Z2.2.2.2 12))) = some (Sum.inl (_, _, Sum.inl (Z.2.2.2 12)))
      rw [h3 12 rfl]
    · show some (Sum.inl (_, _, Sum.inl (Z2.2.2.2 13))) = some (Sum.inl (_, _, Sum.inl (Z.2.2.2 13)))
      rw [h3 13 rfl]
    · show some (Sum.inl (_, _, Sum.inl (Z2.2.2.2 14))) = some (Sum.inl (_, _, Sum.inl (Z.2.2.2 14)))
      rw [h3 14 rfl]
    · show some (Sum.inl (_, _, Sum.inl (Z2.2.2.2 15))) = some (Sum.inl (_, _, Sum.inl (Z.2.2.2 15)))
      rw [h3 15 rfl]
    · show some (Sum.inl (_, _, Sum.inl (Z2.2.2.2 16))) = some (Sum.inl (_, _, Sum.inl (Z.2.2.2 16)))
      rw [h3 16 rfl]
section BROWS
variable {g : GG} {mt : MT} {kc ks pc : Nat} {L : List (Option Value)} {st rest : List Value} {σ σ0 : PH} {C : CS} {Z : ZB} {m : Nat → Option va_E} {n : Nat} {q : RQ}
theorem be_get {f index : Nat} {host : String} {v : Value} (d : decode mt.1.2.1 pc = .ok (.getfield index, 3)) (hf : f < 17) (ql : Cond.fieldLinkNest mt.1.1 index (TX6 f).1 (TX6 f).2.1 (TX6 f).2.2.1 host ∈ lw_tbl) (hm : m = zbM g C Z) (H : Hold g σ (rdS (sM8 C m) n q)) (hv : (zbL C Z)[f]? = some v) (kk : Wp g mt kc ks (pc + 3) L (v :: st) σ) : Wp g mt kc ks pc L (.ref (od C 8 2) :: st) σ := by
  have h0 : ceC g (rdS (sM8 C m) n q) 8 2 = some (.inr (6, zbL C Z)) := (sM_ce (by decide)).trans (by rw [hm]; rfl)
  have h1 := H.get h0
  rw [sM_od] at h1
  exact w_getfN (k := f) d clX6 hf ql h1 hv kk
theorem be_put {f index : Nat} {host : String} {v : Int32} (d : decode mt.1.2.1 pc = .ok (.putfield index, 3)) (hf : f < 17) (ql : Cond.fieldLinkNest mt.1.1 index (TX6 f).1 (TX6 f).2.1 (TX6 f).2.2.1 host ∈ lw_tbl) (hfin : (TX6 f).2.2.2 = false) (hn : narrow (tyX6 f) (.int v) = .int v) (hfit : fits (tyX6 f) (.int v) = true) (hm : m = zbM g C Z) (H : Hold g σ (rdS (sM8 C m) n q)) (F : Fr σ0 σ) (hs : (zbL C Z).set f (.int v) = zbL C (zI Z f v)) (kk : ∀ σ2 m2, m2 = zbM g C (zI Z f v) → Hold g σ2 (rdS (sM8 C m2) n q) → Fr σ0 σ2 → Wp g mt kc ks (pc + 3) L st σ2) : Wp g mt kc ks pc L (.int v :: .ref (od C 8 2) :: st) σ := by
  have h0 : ceC g (rdS (sM8 C m) n q) 8 2 = some (.inr (6, zbL C Z)) := (sM_ce (by decide)).trans (by rw [hm]; rfl)
  have h1 := H.get h0
  have h2 := H.set (k := 8) (j := 2) (C2 := rdS (sM8 C (zbM g C (zI Z f v))) n q) (e2 := .inr (6, zbL C (zI Z f v))) h0 (by decide) rz_od rz_oZ (sM_ce (by decide)) (sM_ob (by rw [hm]; exact zbM_ne (Or.inl rfl) (Or.inr rfl) (Or.inr rfl) (fun k => Or.inr rfl)))
  have h3 := F.hup (t2 := (8, 2)) (e2 := .inr (6, zbL C (zI Z f v))) (by show 8 < 20; decide) h1
  rw [sM_od] at h1 h2 h3
  refine w_putfN d clX6 hf ql hfin h1 hn hfit (by show f < 17; exact hf) ?_
  rw [hs]
  exact kk _ _ rfl h2 h3
theorem be_ia {k i : Nat} {x : Int32} (d : decode mt.1.2.1 pc = .ok (.iastore, 1)) (hk : ∀ Z : ZB, zbM g C Z (k + 3) = some (.inl (g.2.2.2 0, zn k, .inl (Z.2.2.2 k)))) (hi : i < zn k) (hm : m = zbM g C Z) (H : Hold g σ (rdS (sM8 C m) n q)) (F : Fr σ0 σ) (kk : ∀ σ2 m2, m2 = zbM g C (zR Z k i x) → Hold g σ2 (rdS (sM8 C m2) n q) → Fr σ0 σ2 → Wp g mt kc ks (pc + 1) L st σ2) : Wp g mt kc ks pc L (.int x :: .int (nI i) :: .ref (od C 8 (k + 3)) :: st) σ := by
  have hk1 : k + 3 ≠ 1 := by omega
  have h0 : ceC g (rdS (sM8 C m) n q) 8 (k + 3) = some (.inl (g.2.2.2 0, zn k, .inl (Z.2.2.2 k))) := (sM_ce hk1).trans (by rw [hm]; exact hk Z)
  have hz : zn k ≤ 30 := by unfold zn; split; decide; split <;> decide
  have he : zbM g C (zR Z k i x) (k + 3) = some (.inl (g.2.2.2 0, zn k, .inl (upd (Z.2.2.2 k) i x))) := by
    rw [hk]
    show some (Sum.inl (_, _, Sum.inl (va_up Z.2.2.2 k _ k))) = _
    rw [va_up_self]
  have h1 := H.get h0
  have h2 := H.set (k := 8) (j := k + 3) (C2 := rdS (sM8 C (zbM g C (zR Z k i x))) n q) h0 (by decide) rz_od rz_oZ ((sM_ce hk1).trans he) (sM_ob (by
    rw [hm]
    refine zbM_ne (Or.inr rfl) (Or.inr rfl) (Or.inr rfl) (fun l => ?_)
    by_cases z : l = k
    · exact Or.inl (by rw [z])
    · exact Or.inr (va_up_ne _ _ z)))
  have h3 := F.hup (t2 := (8, k + 3)) (e2 := .inl (g.2.2.2 0, zn k, .inl (upd (Z.2.2.2 k) i x))) (by show 8 < 20; decide) h1
  rw [sM_od] at h1 h2 h3
  exact w_iastN d h1 hi (by omega) (kk _ _ rfl h2 h3)
theorem be_la {i : Nat} {x : Int64} (d : decode mt.1.2.1 pc = .ok (.lastore, 1)) (hi : i < 6) (hm : m = zbM g C Z) (H : Hold g σ (rdS (sM8 C m) n q)) (F : Fr σ0 σ) (kk : ∀ σ2 m2, m2 = zbM g C (zP Z i x) → Hold g σ2 (rdS (sM8 C m2) n q) → Fr σ0 σ2 → Wp g mt kc ks (pc + 1) L st σ2) : Wp g mt kc ks pc L (.long x :: .int (nI i) :: .ref (od C 8 10) :: st) σ := by
  have h0 : ceC g (rdS (sM8 C m) n q) 8 10 = some (.inl (g.2.2.2 1, 6, .inr (.inl Z.2.1))) := (sM_ce (by decide)).trans (by rw [hm]; rfl)
  have h1 := H.get h0
  have h2 := H.set (k := 8) (j := 10) (C2 := rdS (sM8 C (zbM g C (zP Z i x))) n q) (e2 := .inl (g.2.2.2 1, 6, .inr (.inl (vp_updL Z.2.1 i x)))) h0 (by decide) rz_od rz_oZ (sM_ce (by decide)) (sM_ob (by rw [hm]; exact zbM_ne (Or.inr rfl) (Or.inl rfl) (Or.inr rfl) (fun k => Or.inr rfl)))
  have h3 := F.hup (t2 := (8, 10)) (e2 := .inl (g.2.2.2 1, 6, .inr (.inl (vp_updL Z.2.1 i x)))) (by show 8 < 20; decide) h1
  rw [sM_od] at h1 h2 h3
  exact w_lastN d h1 hi (by omega) (kk _ _ rfl h2 h3)
theorem be_lb {i : Nat} {x : Int64} (d : decode mt.1.2.1 pc = .ok (.lastore, 1)) (hi : i < 8) (hm : m = zbM g C Z) (H : Hold g σ (rdS (sM8 C m) n q)) (F : Fr σ0 σ) (kk : ∀ σ2 m2, m2 = zbM g C (zQ Z i x) → Hold g σ2 (rdS (sM8 C m2) n q) → Fr σ0 σ2 → Wp g mt kc ks (pc + 1) L st σ2) : Wp g mt kc ks pc L (.long x :: .int (nI i) :: .ref (od C 8 11) :: st) σ := by
  have h0 : ceC g (rdS (sM8 C m) n q) 8 11 = some (.inl (g.2.2.2 1, 8, .inr (.inl Z.2.2.1))) := (sM_ce (by decide)).trans (by rw [hm]; rfl)
  have h1 := H.get h0
  have h2 := H.set (k := 8) (j := 11) (C2 := rdS (sM8 C (zbM g C (zQ Z i x))) n q) (e2 := .inl (g.2.2.2 1, 8, .inr (.inl (vp_updL Z.2.2.1 i x)))) h0 (by decide) rz_od rz_oZ (sM_ce (by decide)) (sM_ob (by rw [hm]; exact zbM_ne (Or.inr rfl) (Or.inr rfl) (Or.inl rfl) (fun k => Or.inr rfl)))
  have h3 := F.hup (t2 := (8, 11)) (e2 := .inl (g.2.2.2 1, 8, .inr (.inl (vp_updL Z.2.2.1 i x)))) (by show 8 < 20; decide) h1
  rw [sM_od] at h1 h2 h3
  exact w_lastN d h1 hi (by omega) (kk _ _ rfl h2 h3)
end BROWS
