/-! X.beach: new objects, what stays (printed by gen/bea.py) -/
set_option maxRecDepth 100000
/-- other loose cells -/
def R8 (C C2 : CS) : Prop := (∀ k j, k ≠ 8 → od C2 k j = od C k j) ∧ oI C2 = oI C ∧ oA C2 = oA C ∧ oN C2 = oN C ∧ oL C2 = oL C ∧ oB C2 = oB C ∧ oP C2 = oP C ∧ oO C2 = oO C ∧ oT C2 = oT C ∧ oZ C2 = oZ C
theorem R8.trans {C C2 C3 : CS} (h : R8 C C2) (k : R8 C2 C3) : R8 C C3 := ⟨fun a b c => (k.1 a b c).trans (h.1 a b c), k.2.1.trans h.2.1, k.2.2.1.trans h.2.2.1, k.2.2.2.1.trans h.2.2.2.1, k.2.2.2.2.1.trans h.2.2.2.2.1, k.2.2.2.2.2.1.trans h.2.2.2.2.2.1, k.2.2.2.2.2.2.1.trans h.2.2.2.2.2.2.1, k.2.2.2.2.2.2.2.1.trans h.2.2.2.2.2.2.2.1, k.2.2.2.2.2.2.2.2.1.trans h.2.2.2.2.2.2.2.2.1, k.2.2.2.2.2.2.2.2.2.trans h.2.2.2.2.2.2.2.2.2⟩
theorem EncD.r8 {g : GG} {C C2 : CS} {j : Nat} {V : VS} {q : Nat → Nat} (E : EncD g C j V q) (h : R8 C C2) : EncD g C2 j V q := E.eq (congrFun h.2.2.2.2.2.1 j) h.2.2.2.2.2.2.2.2.2 (by rw [h.2.1]) (fun _ _ _ => by rw [h.2.2.1]) (fun _ _ => by rw [h.2.1]) (fun _ _ _ _ => ⟨by rw [h.2.2.1], by rw [h.2.2.2.1]⟩)
theorem zA_of {C : CS} {a n : Nat} {A : ClassId} {h : Nat → Int32} (e : oZ C a = some (.inl (A, n, .inl h))) : zA C a = h := by
  unfold zA
  rw [e]
theorem zL_of {C : CS} {a n : Nat} {A : ClassId} {h : Nat → Int64} (e : oZ C a = some (.inl (A, n, .inr (.inl h)))) : zL C a = h := by
  unfold zL
  rw [e]
theorem EncD.mono {g : GG} {C C2 : CS} {j : Nat} {V : VS} {q : Nat → Nat} (E : EncD g C j V q) (R : FzR C C2) : EncD g C2 j V q := by
  obtain ⟨r1, r2, r3, r4, r5, r6, r7, r8, r9, hz⟩ := R
  obtain ⟨⟨a0, a7, a8, a9, a10, a11, a12, a13, a14, a15, a16⟩, e2, e3, e4, e5, e6, e7⟩ := E
  have hb : oB C2 j = oB C j := by rw [r6]
  have hF : ∀ f, bF C2 j f = bF C j f := fun f => by
    unfold bF
    rw [hb, hz _ _ a0, a0]
  have hI : ∀ f, bI C2 j f = bI C j f := fun f => congrArg vI (hF f)
  have hR : ∀ f, bR C2 j f = bR C j f := fun f => congrArg vR (hF f)
  have hE : encB C2 j = encB C j := by
    unfold encB
    simp only [hI, hR]
  have z7 : zL C2 (bR C j 7) = zL C (bR C j 7) := zL_of (hz _ _ a7)
  have z8 : zL C2 (bR C j 8) = zL C (bR C j 8) := zL_of (hz _ _ a8)

  have z9 : zA C2 (bR C j 9) = zA C (bR C j 9) := zA_of (hz _ _ a9)
  have z10 : zA C2 (bR C j 10) = zA C (bR C j 10) := zA_of (hz _ _ a10)
  have z11 : zA C2 (bR C j 11) = zA C (bR C j 11) := zA_of (hz _ _ a11)
  have z12 : zA C2 (bR C j 12) = zA C (bR C j 12) := zA_of (hz _ _ a12)
  have z13 : zA C2 (bR C j 13) = zA C (bR C j 13) := zA_of (hz _ _ a13)
  have z14 : zA C2 (bR C j 14) = zA C (bR C j 14) := zA_of (hz _ _ a14)
  have z15 : zA C2 (bR C j 15) = zA C (bR C j 15) := zA_of (hz _ _ a15)
  have z16 : zA C2 (bR C j 16) = zA C (bR C j 16) := zA_of (hz _ _ a16)
  refine ⟨⟨?_, ?_, ?_, ?_, ?_, ?_, ?_, ?_, ?_, ?_, ?_⟩, ?_, ?_, ?_, ?_, ?_, ?_⟩
  · rw [hb, hE]
    exact hz _ _ a0
  · rw [hR, z7]
    exact hz _ _ a7
  · rw [hR, z8]
    exact hz _ _ a8
  · rw [hR, z9]
    exact hz _ _ a9
  · rw [hR, z10]
    exact hz _ _ a10
  · rw [hR, z11]
    exact hz _ _ a11
  · rw [hR, z12]
    exact hz _ _ a12
  · rw [hR, z13]
    exact hz _ _ a13
  · rw [hR, z14]
    exact hz _ _ a14
  · rw [hR, z15]
    exact hz _ _ a15
  · rw [hR, z16]
    exact hz _ _ a16
  · simp only [hI]
    rw [hb]
    exact e2
  · intro f hf
    rw [hR, z10]
    exact e3 f hf
  · intro d hd
    rw [hR, hR, z12, z13]
    exact e4 d hd
  · rw [r2]
    exact e5
  · rw [r3]
    exact e6
  · intro d hd
    exact (e7 d hd).eq (by rw [r2]) (by rw [r3]) (by rw [r3]) (by rw [r4]) (by rw [r4])
/-- other addresses and cells of the loose kind -/
def gr8 (C : CS) (f : Nat → Nat) (m : Nat → Option va_E) : CS := (va_up (od C) 8 f, C.2.1, C.2.2.1, C.2.2.2.1, C.2.2.2.2.1, C.2.2.2.2.2.1, C.2.2.2.2.2.2.1, C.2.2.2.2.2.2.2.1, C.2.2.2.2.2.2.2.2.1, m, oZ C)
theorem gr8_R {C : CS} {f : Nat → Nat} {m : Nat → Option va_E} : R8 C (gr8 C f m) := ⟨fun k j hk => congrFun (va_up_ne (od C) f hk) j, rfl, rfl, rfl, rfl, rfl, rfl, rfl, rfl, rfl⟩
theorem Hold.grow {g : GG} {σ σ2 : PH} {C : CS} {f : Nat → Nat} {m : Nat → Option va_E} (H : Hold g σ C) (h1 : ∀ a, σ2.1 ≤ a → σ2.2 a = none) (h2 : ∀ a x, σ.2 a = some x → σ2.2 a = some x) (h8 : ∀ j e, m j = some e → σ2.2 (f j) = some ((8, j), e)) : Hold g σ2 (gr8 C f m) := by
  refine ⟨h1, fun k j e h => ?_, fun a e h => h2 _ _ (H.2.2 a e h)⟩
  by_cases hk : k = 8
  · subst hk
    exact h8 j e h
  · have h9 := ce_all (g := g) (C := C) (C2 := gr8 C f m) (P := fun a _ => a ≠ 8) (fun _ _ => rfl) (fun _ _ => rfl) (fun _ _ => rfl) (fun _ _ => rfl) (fun _ _ => rfl) (fun _ _ => rfl) (fun _ _ => rfl) (fun _ _ => rfl) (fun _ h => absurd rfl h) (fun _ _ => rfl) (fun _ _ => rfl) (fun _ _ => rfl) (fun _ _ => rfl) (fun _ _ => rfl) k j hk
    rw [gr8_R.1 k j hk]
    exact h2 _ _ (H.2.1 k j e (h9.symm.trans h))
/-- a new reader -/
theorem bea_rd {g : GG} {mt : MT} {kc ks pc : Nat} {L : List (Option Value)} {st : List Value} {σ σ0 : PH} {C : CS} (H : Hold g σ C) (F : Fr σ0 σ) (d : decode mt.1.2.1 pc = .ok (.new 211, 3)) (ho : mt.1.1 = RX0) (kk : ∀ (σ : PH) (C2 : CS), R8 C C2 → oM C2 1 = some (.inr (9, [.int 0, .int 0, .int 0, .int 0, .int 0, .int 0, .int 0, .null])) → (∀ i, i ≠ 1 → oM C2 i = oM C i ∧ od C2 8 i = od C 8 i) → Hold g σ C2 → Fr σ0 σ → Wp g mt kc ks (pc + 3) L (.ref (od C2 8 1) :: st) σ) : Wp g mt (kc + 1) (ks + 8) pc L st σ := by
  refine w_new (kc := kc) (ks := ks) [.int 0, .int 0, .int 0, .int 0, .int 0, .int 0, .int 0, .null] (8, 1) d clX9 (by rw [ho]; exact q670) q671 q151 dfX9 ?_
  have h := kk _ (nwC C 1 σ.1 (.inr (9, [.int 0, .int 0, .int 0, .int 0, .int 0, .int 0, .int 0, .null]))) ⟨fun k j hk => nw_ne (fun z _ => hk z), rfl, rfl, rfl, rfl, rfl, rfl, rfl, rfl, rfl⟩ oM_eq (fun i hi => ⟨oM_ne hi, nw_ne (fun _ z => hi z)⟩) (H.nw 1 _) (F.hnew H.1)
  rw [nw_od] at h
  exact h
def fB (C : CS) (a j : Nat) : Nat := if j = 2 then a else if 10 ≤ j ∧ j ≤ 19 then a + 1 + (j - 10) else od C 8 j
/-- the cells of a new beach -/
def blL (g : GG) : List va_E := [.inl (g.2.2.2 1, 6, .inr (.inl fun _ => 0)), .inl (g.2.2.2 1, 8, .inr (.inl fun _ => 0)), .inl (g.2.2.2 0, 6, .inl fun _ => 0), .inl (g.2.2.2 0, 6, .inl fun _ => 0), .inl (g.2.2.2 0, 6, .inl fun _ => 0), .inl (g.2.2.2 0, 8, .inl fun _ => 0), .inl (g.2.2.2 0, 8, .inl fun _ => 0), .inl (g.2.2.2 0, 30, .inl fun _ => 0), .inl (g.2.2.2 0, 30, .inl fun _ => 0), .inl (g.2.2.2 0, 30, .inl fun _ => 0)]
def blM (g : GG) (a j : Nat) : Option va_E := if j = 2 then some (.inr (6, [.int (nI 2), .int (nI 60), .int 0, .int 0, .int 0, .int (nI 1), .int 0, .ref (a + 1 + 0), .ref (a + 1 + 1), .ref (a + 1 + 2), .ref (a + 1 + 3), .ref (a + 1 + 4), .ref (a + 1 + 5), .ref (a + 1 + 6), .ref (a + 1 + 7), .ref (a + 1 + 8), .ref (a + 1 + 9)])) else if 10 ≤ j ∧ j ≤ 19 then (blL g)[j - 10]? else none
theorem blM_zb {g : GG} {C : CS} {a : Nat} (h : ∀ i, i < 10 → od C 8 (10 + i) = a + 1 + i) (hM : ∀ i, oM C i = blM g a i) : oM C = zbM g C zb0 := by
  funext j
  by_cases hj : j ≠ 2 ∧ (j < 10 ∨ 19 < j)
  · rw [zbM_hi hj]
  · rw [hM]
    rcases show j = 2 ∨ j = 10 ∨ j = 11 ∨ j = 12 ∨ j = 13 ∨ j = 14 ∨ j = 15 ∨ j = 16 ∨ j = 17 ∨ j = 18 ∨ j = 19 by omega with rfl | rfl | rfl | rfl | rfl | rfl | rfl | rfl | rfl | rfl | rfl
    · show _ = some (Sum.inr (6, zbL C zb0))
      unfold zbL
      rw [show od C 8 10 = a + 1 + 0 from h 0 (by omega), show od C 8 11 = a + 1 + 1 from h 1 (by omega), show od C 8 12 = a + 1 + 2 from h 2 (by omega), show od C 8 13 = a + 1 + 3 from h 3 (by omega), show od C 8 14 = a + 1 + 4 from h 4 (by omega), show od C 8 15 = a + 1 + 5 from h 5 (by omega), show od C 8 16 = a + 1 + 6 from h 6 (by omega), show od C 8 17 = a + 1 + 7 from h 7 (by omega), show od C 8 18 = a + 1 + 8 from h 8 (by omega), show od C 8 19 = a + 1 + 9 from h 9 (by omega)]
      rfl
    · rfl
    · rfl
    · rfl
    · rfl
    · rfl
    · rfl
    · rfl
    · rfl
    · rfl
    · rfl
/-- a new beach -/
theorem bea_be {g : GG} {mt : MT} {kc ks pc : Nat} {L : List (Option Value)} {st : List Value} {σ σ0 : PH} {C : CS} (hM : oM C = fun _ => none) (H : Hold g σ C) (F : Fr σ0 σ) (d : decode mt.1.2.1 pc = .ok (.new 169, 3)) (d2 : decode mt.1.2.1 (pc + 3) = .ok (.dup, 1)) (d3 : decode mt.1.2.1 (pc + 3 + 1) = .ok (.invokespecial 210, 3)) (ho : mt.1.1 = RX0) (hd : 2 ≤ mt.2.1.1) (hcat : (st.map fun v => v.category).sum ≤ 7) (kk : ∀ (σ : PH) (C2 : CS), R8 C C2 → oM C2 = zbM g C2 zb0 → (∀ i, i ≠ 2 → (i < 10 ∨ 19 < i) → oM C2 i = none) → Hold g σ C2 → Fr σ0 σ → Wp g mt kc ks (pc + 3 + 1 + 3) L (.ref (od C2 8 2) :: st) σ) : Wp g mt (kc + 10 + 1) (ks + 138 + 17) pc L st σ := by
  refine w_new (kc := kc + 10) (ks := ks + 138) [.int 0, .int 0, .int 0, .int 0, .int 0, .int 0, .int 0, .null, .null, .null, .null, .null, .null, .null, .null, .null, .null] (8, 2) d clX6 (by rw [ho]; exact q668) q286 q142 dfX6 ?_
  refine w_dup d2 rfl ?_
  have w1 : wf9 (hnew σ (8, 2) (.inr (6, [.int 0, .int 0, .int 0, .int 0, .int 0, .int 0, .int 0, .null, .null, .null, .null, .null, .null, .null, .null, .null, .null]))) := (H.nw 2 (.inr (6, [.int 0, .int 0, .int 0, .int 0, .int 0, .int 0, .int 0, .null, .null, .null, .null, .null, .null, .null, .null, .null, .null]))).1
  have hc : (hnew σ (8, 2) (.inr (6, [.int 0, .int 0, .int 0, .int 0, .int 0, .int 0, .int 0, .null, .null, .null, .null, .null, .null, .null, .null, .null, .null]))).2 σ.1 = some ((8, 2), .inr (6, [.int 0, .int 0, .int 0, .int 0, .int 0, .int 0, .int 0, .null, .null, .null, .null, .null, .null, .null, .null, .null, .null])) := if_pos rfl
  refine w_callIN (kc := kc) (ks := ks) (mc2 := 10) (ms2 := 138) (mi := miX6_init) (As := []) (rest := .ref σ.1 :: st) d3 (by rw [ho]; exact q669) okX6_init (iX6_init (tb := fun i => (8, 10 + i)) _ σ.1 (8, 2) w1 hc) (by omega) rfl rfl (by rw [List.map_cons, List.sum_cons]; exact Nat.add_le_add (show Value.category (.ref _) ≤ 1 from Nat.le_refl _) hcat) ?_ (fun _ _ _ hx => absurd hx id)
  rintro v σ2 ⟨rfl, rfl⟩
  have ha : σ.1 < (hnew σ (8, 2) (.inr (6, [.int 0, .int 0, .int 0, .int 0, .int 0, .int 0, .int 0, .null, .null, .null, .null, .null, .null, .null, .null, .null, .null]))).1 := Nat.lt_succ_self _
  have hlo : ∀ a x, σ.2 a = some x → a < σ.1 := fun a x h => H.lt h
  have f2 : fB C σ.1 2 = σ.1 := if_pos rfl
  have fi : ∀ i, i < 10 → fB C σ.1 (10 + i) = σ.1 + 1 + i := fun i hi => by
    unfold fB
    rw [if_neg (by omega), if_pos (by omega), Nat.add_sub_cancel_left]
  have key : Hold g (rw_ (hnew σ (8, 2) (.inr (6, [.int 0, .int 0, .int 0, .int 0, .int 0, .int 0, .int 0, .null, .null, .null, .null, .null, .null, .null, .null, .null, .null]))) σ.1 (8, 2) (.inr (6, [.int (nI 2), .int (nI 60), .int 0, .int 0, .int 0, .int (nI 1), .int 0, .ref ((hnew σ (8, 2) (.inr (6, [.int 0, .int 0, .int 0, .int 0, .int 0, .int 0, .int 0, .null, .null, .null, .null, .null, .null, .null, .null, .null, .null]))).1 + 0), .ref ((hnew σ (8, 2) (.inr (6, [.int 0, .int 0, .int 0, .int 0, .int 0, .int 0, .int 0, .null, .null, .null, .null, .null, .null, .null, .null, .null, .null]))).1 + 1), .ref ((hnew σ (8, 2) (.inr (6, [.int 0, .int 0, .int 0, .int 0, .int 0, .int 0, .int 0, .null, .null, .null, .null, .null, .null, .null, .null, .null, .null]))).1 + 2), .ref ((hnew σ (8, 2) (.inr (6, [.int 0, .int 0, .int 0, .int 0, .int 0, .int 0, .int 0, .null, .null, .null, .null, .null, .null, .null, .null, .null, .null]))).1 + 3), .ref ((hnew σ (8, 2) (.inr (6, [.int 0, .int 0, .int 0, .int 0, .int 0, .int 0, .int 0, .null, .null, .null, .null, .null, .null, .null, .null, .null, .null]))).1 + 4), .ref ((hnew σ (8, 2) (.inr (6, [.int 0, .int 0, .int 0, .int 0, .int 0, .int 0, .int 0, .null, .null, .null, .null, .null, .null, .null, .null, .null, .null]))).1 + 5), .ref ((hnew σ (8, 2) (.inr (6, [.int 0, .int 0, .int 0, .int 0, .int 0, .int 0, .int 0, .null, .null, .null, .null, .null, .null, .null, .null, .null, .null]))).1 + 6), .ref ((hnew σ (8, 2) (.inr (6, [.int 0, .int 0, .int 0, .int 0, .int 0, .int 0, .int 0, .null, .null, .null, .null, .null, .null, .null, .null, .null, .null]))).1 + 7), .ref ((hnew σ (8, 2) (.inr (6, [.int 0, .int 0, .int 0, .int 0, .int 0, .int 0, .int 0, .null, .null, .null, .null, .null, .null, .null, .null, .null, .null]))).1 + 8), .ref ((hnew σ (8, 2) (.inr (6, [.int 0, .int 0, .int 0, .int 0, .int 0, .int 0, .int 0, .null, .null, .null, .null, .null, .null, .null, .null, .null, .null]))).1 + 9)])) [((8, 10 + 0), .inl (g.2.2.2 1, 6, .inr (.inl fun _ => 0))), ((8, 10 + 1), .inl (g.2.2.2 1, 8, .inr (.inl fun _ => 0))), ((8, 10 + 2), .inl (g.2.2.2 0, 6, .inl fun _ => 0)), ((8, 10 + 3), .inl (g.2.2.2 0, 6, .inl fun _ => 0)), ((8, 10 + 4), .inl (g.2.2.2 0, 6, .inl fun _ => 0)), ((8, 10 + 5), .inl (g.2.2.2 0, 8, .inl fun _ => 0)), ((8, 10 + 6), .inl (g.2.2.2 0, 8, .inl fun _ => 0)), ((8, 10 + 7), .inl (g.2.2.2 0, 30, .inl fun _ => 0)), ((8, 10 + 8), .inl (g.2.2.2 0, 30, .inl fun _ => 0)), ((8, 10 + 9), .inl (g.2.2.2 0, 30, .inl fun _ => 0))]) (gr8 C (fB C σ.1) (blM g σ.1)) := by
    refine H.grow (rw_wf ha) (fun a x h => ?_) (fun j e h => ?_)
    · have h1 := hlo a x h
      rw [rw_lo (by omega) (by show a < σ.1 + 1; omega)]
      exact (if_neg (by omega)).trans h
    · unfold blM at h
      by_cases h2 : j = 2
      · subst h2
        rw [if_pos rfl] at h
        obtain rfl := Option.some.inj h
        rw [f2]
        exact rw_a
      · rw [if_neg h2] at h
        by_cases h3 : 10 ≤ j ∧ j ≤ 19
        · rw [if_pos h3] at h
          obtain ⟨i, rfl⟩ : ∃ i, j = 10 + i := ⟨j - 10, by omega⟩
          rw [Nat.add_sub_cancel_left] at h
          rw [fi i (by omega)]
          refine rw_i (i := i) ha ?_
          unfold blL at h
          rcases show i = 0 ∨ i = 1 ∨ i = 2 ∨ i = 3 ∨ i = 4 ∨ i = 5 ∨ i = 6 ∨ i = 7 ∨ i = 8 ∨ i = 9 by omega with rfl | rfl | rfl | rfl | rfl | rfl | rfl | rfl | rfl | rfl
          all_goals
            obtain rfl := Option.some.inj h
            rfl
        · rw [if_neg h3] at h
          cases h
  refine kk _ (gr8 C (fB C σ.1) (blM g σ.1)) gr8_R (blM_zb (a := σ.1) (fun i hi => fi i hi) (fun _ => rfl)) (fun i h1 h2 => ?_) key ⟨?_, fun a t e ht h => ?_⟩
  · show blM g σ.1 i = none
    unfold blM
    rw [if_neg h1, if_neg (by omega)]

  · exact Nat.le_trans F.1 (Nat.le_trans (Nat.le_of_lt ha) (Nat.le_add_right _ _))
  · have h1 := F.2 a t e ht h
    have h2 := hlo a _ h1
    rw [rw_lo (by omega) (by show a < σ.1 + 1; omega)]
    exact (if_neg (by omega)).trans h1
/-- what a beach that is read keeps -/
def BeR (C C2 : CS) : Prop :=
  (∀ k a, ¬ ((k = 6 ∨ k = 7) ∧ a / 8 = 0) → k ≠ 8 → od C2 k a = od C k a) ∧ (∀ k a f, ¬ (k = 5 ∧ a / 8 = 0) → ¬ (k = 3 ∧ a = 0) → ¬ (k = 0 ∧ a = 30 ∧ (f = 2 ∨ f = 3 ∨ f = 4 ∨ f = 7)) → ¬ (k = 0 ∧ a = 5) → oI C2 k a f = oI C k a f) ∧ (∀ k a, ¬ ((k = 6 ∨ k = 7) ∧ a / 8 = 0) → ¬ (11 ≤ k ∧ k ≤ 14 ∧ a = 0) → oA C2 k a = oA C k a) ∧ (∀ k a, ¬ ((k = 6 ∨ k = 7) ∧ a / 8 = 0) → oN C2 k a = oN C k a) ∧
  oL C2 = oL C ∧ (∀ a, a ≠ 0 → oB C2 a = oB C a) ∧ (∀ a, a ≠ 0 → oP C2 a = oP C a) ∧ oO C2 = oO C ∧ oT C2 = oT C ∧ ∀ a e, oZ C a = some e → oZ C2 a = some e
section BER
variable {C C2 C3 : CS}
theorem BeR.trans (h : BeR C C2) (k : BeR C2 C3) : BeR C C3 := by
  obtain ⟨a1, a2, a3, a4, a5, a6, a7, a8, a9, a10⟩ := h
  obtain ⟨b1, b2, b3, b4, b5, b6, b7, b8, b9, b10⟩ := k
  exact ⟨fun x y u v => (b1 x y u v).trans (a1 x y u v), fun x y z u v w t => (b2 x y z u v w t).trans (a2 x y z u v w t), fun x y u v => (b3 x y u v).trans (a3 x y u v), fun x y u => (b4 x y u).trans (a4 x y u), b5.trans a5, fun x u => (b6 x u).trans (a6 x u), fun x u => (b7 x u).trans (a7 x u), b8.trans a8, b9.trans a9, fun a e h => b10 a e (a10 a e h)⟩
theorem R8.B (h : R8 C C2) : BeR C C2 := by
  obtain ⟨a1, a2, a3, a4, a5, a6, a7, a8, a9, a10⟩ := h
  exact ⟨fun k a _ hk => a1 k a hk, fun k a f _ _ _ _ => by rw [a2], fun k a _ _ => by rw [a3], fun k a _ => by rw [a4], a5, fun a _ => by rw [a6], fun a _ => by rw [a7], a8, a9, fun a e h => by rw [a10]; exact h⟩
theorem FzR.B (h : FzR C C2) : BeR C C2 := by
  obtain ⟨a1, a2, a3, a4, a5, a6, a7, a8, a9, a10⟩ := h
  exact ⟨fun k a _ _ => by rw [a1], fun k a f _ _ _ _ => by rw [a2], fun k a _ _ => by rw [a3], fun k a _ => by rw [a4], a5, fun a _ => by rw [a6], fun a _ => by rw [a7], a8, a9, a10⟩
theorem RFr.B (h : RFr C C2) : BeR C C2 := by
  obtain ⟨a1, a2, a3, a4, a5, a6, a7, a8, a9, a10⟩ := h
  exact ⟨fun k a _ hk => a1 k a hk, fun k a f _ _ _ h => a2 k a f (fun x y => h ⟨x, y⟩), fun k a _ _ => by rw [a3], fun k a _ => by rw [a4], a5, fun a _ => by rw [a6], fun a _ => by rw [a7], a8, a9, fun a e h => by rw [a10]; exact h⟩
theorem SD.Be (h : SD 0 C C2) : BeR C C2 := by
  obtain ⟨a1, a2, a3, a4, a5, a6, a7, a8, a9, a10, a11⟩ := h
  exact ⟨fun k a u hk => a1 k a u (fun z => hk z.1), fun k a f u v _ _ => congrFun (a2 k a u v) f, fun k a u v => a3 k a u v, fun k a u => a4 k a u, a5, a6, fun a _ => by rw [a7], a8, a9, fun a e h => by rw [a11]; exact h⟩
theorem BeR.I {f : Nat} {v : Int32} (hf : f = 2 ∨ f = 3 ∨ f = 4 ∨ f = 7) : BeR C (uI C 0 30 f v) := ⟨fun _ _ _ _ => rfl, fun k a i _ _ h _ => oI_ne C v (fun x y z => h ⟨x, y, by omega⟩), fun _ _ _ _ => rfl, fun _ _ _ => rfl, rfl, fun _ _ => rfl, fun _ _ => rfl, rfl, rfl, fun _ _ h => h⟩
theorem BeR.P {v : Option Nat} : BeR C (uP C 0 v) := ⟨fun _ _ _ _ => rfl, fun _ _ _ _ _ _ _ => rfl, fun _ _ _ _ => rfl, fun _ _ _ => rfl, rfl, fun _ _ => rfl, fun a h => va_up_ne (oP C) v h, rfl, rfl, fun _ _ h => h⟩
theorem BeR.M {m : Nat → Option va_E} : BeR C (sM8 C m) := ⟨fun _ _ _ _ => rfl, fun _ _ _ _ _ _ _ => rfl, fun _ _ _ _ => rfl, fun _ _ _ => rfl, rfl, fun _ _ => rfl, fun _ _ => rfl, rfl, rfl, fun _ _ h => h⟩
theorem BeR.op : BeR C (opC C) := (((BeR.I (Or.inr (Or.inr (Or.inr rfl)))).trans (BeR.I (Or.inl rfl))).trans (BeR.I (Or.inr (Or.inl rfl)))).trans (BeR.I (Or.inr (Or.inr (Or.inl rfl))))
end BER
