/-! a finished beach is frozen; Day.begin (printed by gen/beg.py) -/
set_option maxRecDepth 100000
/-- loose cells that P names become frozen -/
def frT (P : Nat → Bool) (t : Tg) : Tg := if t.1 = 8 ∧ P t.2 = true then (9, 0) else t
def frZ (σ : PH) (C : CS) (P : Nat → Bool) : Nat → Option va_E := fun a => match σ.2 a with
  | some (t, e) => if t.1 = 8 ∧ P t.2 = true then some e else oZ C a
  | none => oZ C a
def frM (C : CS) (P : Nat → Bool) : Nat → Option va_E := fun i => if P i = true then none else oM C i
def sMZ (C : CS) (m z : Nat → Option va_E) : CS := (C.1, C.2.1, C.2.2.1, C.2.2.2.1, C.2.2.2.2.1, C.2.2.2.2.2.1, C.2.2.2.2.2.2.1, C.2.2.2.2.2.2.2.1, C.2.2.2.2.2.2.2.2.1, m, z)
/-- but loose and frozen cells nothing has changed, what is frozen stays -/
def FzR (C C2 : CS) : Prop := od C2 = od C ∧ oI C2 = oI C ∧ oA C2 = oA C ∧ oN C2 = oN C ∧ oL C2 = oL C ∧ oB C2 = oB C ∧ oP C2 = oP C ∧ oO C2 = oO C ∧ oT C2 = oT C ∧ ∀ a e, oZ C a = some e → oZ C2 a = some e
theorem w_frz {g : GG} {mt : MT} {kc ks pc : Nat} {L : List (Option Value)} {st : List Value} {σ σ0 : PH} {C : CS} (P : Nat → Bool) (H : Hold g σ C) (F : Fr σ0 σ) (kk : ∀ (σ : PH) (C2 : CS), FzR C C2 → oM C2 = frM C P → (∀ i e, P i = true → oM C i = some e → oZ C2 (od C 8 i) = some e) → Hold g σ C2 → Fr σ0 σ → Wp g mt kc ks pc L st σ) : Wp g mt kc ks pc L st σ := by
  refine w_retag (frT P) ?_
  have hs : ∀ a t e, σ.2 a = some (t, e) → (retag σ (frT P)).2 a = some (frT P t, e) := fun a t e h => by
    show (σ.2 a).map _ = _
    rw [h]
    rfl
  have hz : ∀ a e, oZ C a = some e → frZ σ C P a = some e := fun a e h => by
    have h1 := H.2.2 a e h
    unfold frZ
    rw [h1]
    exact (if_neg (fun z => absurd z.1 (by decide : ¬ 9 = 8))).trans h
  refine kk _ (sMZ C (frM C P) (frZ σ C P)) ⟨rfl, rfl, rfl, rfl, rfl, rfl, rfl, rfl, rfl, hz⟩ rfl ?_ ?_ ?_
  · intro i e hP he
    have h1 := H.2.1 8 i e he
    show frZ σ C P (od C 8 i) = some e
    unfold frZ
    rw [h1]
    exact if_pos ⟨rfl, hP⟩
  · refine ⟨fun a ha => ?_, fun k j e h => ?_, fun a e h => ?_⟩
    · show (σ.2 a).map _ = none
      rw [H.1 a ha]
      rfl
    · show (retag σ (frT P)).2 (od C k j) = _
      by_cases h8 : k = 8
      · subst h8
        have h2 : frM C P j = some e := h
        unfold frM at h2
        by_cases hP : P j = true
        · rw [if_pos hP] at h2
          cases h2
        · rw [if_neg hP] at h2
          rw [hs _ _ _ (H.2.1 8 j e h2)]
          exact congrArg (fun z => some (z, e)) (if_neg (fun z => hP z.2))
      · have h9 := ce_all (g := g) (C := C) (C2 := sMZ C (frM C P) (frZ σ C P)) (P := fun a _ => a ≠ 8) (fun _ _ => rfl) (fun _ _ => rfl) (fun _ _ => rfl) (fun _ _ => rfl) (fun _ _ => rfl) (fun _ _ => rfl) (fun _ _ => rfl) (fun _ _ => rfl) (fun _ h => absurd rfl h) (fun _ _ => rfl) (fun _ _ => rfl) (fun _ _ => rfl) (fun _ _ => rfl) (fun _ _ => rfl) k j h8
        rw [hs _ _ _ (H.2.1 k j e (h9.symm.trans h))]
        exact congrArg (fun z => some (z, e)) (if_neg (fun z => h8 z.1))
    · have h2 : frZ σ C P a = some e := h
      unfold frZ at h2
      cases hh : σ.2 a with
      | none =>
        rw [hh] at h2
        have h3 := H.2.2 a e h2
        rw [hh] at h3
        cases h3
      | some y =>
        obtain ⟨t, e1⟩ := y
        rw [hh] at h2
        have h2' : (if t.1 = 8 ∧ P t.2 = true then some e1 else oZ C a) = some e := h2
        rw [hs _ _ _ hh]
        by_cases hP : t.1 = 8 ∧ P t.2 = true
        · rw [if_pos hP] at h2'
          cases h2'
          exact congrArg (fun z => some (z, e)) (if_pos hP)
        · rw [if_neg hP] at h2'
          have h3 := H.2.2 a e h2'
          rw [hh] at h3
          cases h3
          exact congrArg (fun z => some (z, e)) (if_neg hP)
  · refine ⟨F.1, fun a t e ht ha => ?_⟩
    rw [hs _ _ _ (F.2 a t e ht ha)]
    exact congrArg (fun z => some (z, e)) (if_neg (fun z => absurd z.1 (by omega)))
/-- a frozen beach at b, its rows at r -/
def FzB (g : GG) (z : Nat → Option va_E) (b : Nat) (Z : ZB) (r : Nat → Nat) : Prop := z b = some (.inr (6, [.int (Z.1 0), .int (Z.1 1), .int (Z.1 2), .int (Z.1 3), .int (Z.1 4), .int (Z.1 5), .int (Z.1 6), .ref (r 7), .ref (r 8), .ref (r 9), .ref (r 10), .ref (r 11), .ref (r 12), .ref (r 13), .ref (r 14), .ref (r 15), .ref (r 16)])) ∧ z (r 7) = some (.inl (g.2.2.2 1, 6, .inr (.inl Z.2.1))) ∧ z (r 8) = some (.inl (g.2.2.2 1, 8, .inr (.inl Z.2.2.1))) ∧ ∀ k, 9 ≤ k → k ≤ 16 → z (r k) = some (.inl (g.2.2.2 0, zn k, .inl (Z.2.2.2 k)))
theorem FzB.mono {g : GG} {z z2 : Nat → Option va_E} {b : Nat} {Z : ZB} {r : Nat → Nat} (h : FzB g z b Z r) (hm : ∀ a e, z a = some e → z2 a = some e) : FzB g z2 b Z r := ⟨hm _ _ h.1, hm _ _ h.2.1, hm _ _ h.2.2.1, fun k h1 h2 => hm _ _ (h.2.2.2 k h1 h2)⟩
theorem FzB.enc {g : GG} {C : CS} {j b : Nat} {Z : ZB} {r : Nat → Nat} {B : BS} {q : Nat → Nat} (h : FzB g (oZ C) b Z r) (hb : oB C j = b) (E : EncBe Z B) (O : OkB B) (hI : oI C 3 j 6 = nI (vs B.W 7) ∧ oI C 3 j 7 = nI (vs B.W 6) ∧ oI C 3 j 8 = nI (vs B.W 3)) (hA : ∀ f, f < 6 → oA C 11 j f = nI (vt B.W 0 f) ∧ oA C 12 j f = nI (vt B.W 2 f) ∧ oA C 13 j f = nI (vt B.W 3 f) ∧ oA C 14 j f = nI (vt B.W 4 f)) (hH : ∀ d, d < 8 → EncH C (8 * j + d) (vt B.W 7 d) (vp B.W 0 d) (vp B.W 1 d) (q d)) : EncD g C j (setS B.W 9 b) q := by
  have hB : ∀ f, bF C j f = [.int (Z.1 0), .int (Z.1 1), .int (Z.1 2), .int (Z.1 3), .int (Z.1 4), .int (Z.1 5), .int (Z.1 6), .ref (r 7), .ref (r 8), .ref (r 9), .ref (r 10), .ref (r 11), .ref (r 12), .ref (r 13), .ref (r 14), .ref (r 15), .ref (r 16)].getD f .null := fun f => by
    unfold bF
    rw [hb, h.1]
  have hk := O.1.b

  have i0 : bI C j 0 = Z.1 0 := by
    unfold bI
    rw [hB]
    rfl
  have i1 : bI C j 1 = Z.1 1 := by
    unfold bI
    rw [hB]
    rfl
  have i2 : bI C j 2 = Z.1 2 := by
    unfold bI
    rw [hB]
    rfl
  have i3 : bI C j 3 = Z.1 3 := by
    unfold bI
    rw [hB]
    rfl
  have i4 : bI C j 4 = Z.1 4 := by
    unfold bI
    rw [hB]
    rfl
  have i5 : bI C j 5 = Z.1 5 := by
    unfold bI
    rw [hB]
    rfl
  have i6 : bI C j 6 = Z.1 6 := by
    unfold bI
    rw [hB]
    rfl
  have r7 : bR C j 7 = r 7 := by
    unfold bR
    rw [hB]
    rfl
  have r8 : bR C j 8 = r 8 := by
    unfold bR
    rw [hB]
    rfl
  have r9 : bR C j 9 = r 9 := by
    unfold bR
    rw [hB]
    rfl
  have r10 : bR C j 10 = r 10 := by
    unfold bR
    rw [hB]
    rfl
  have r11 : bR C j 11 = r 11 := by
    unfold bR
    rw [hB]
    rfl
  have r12 : bR C j 12 = r 12 := by
    unfold bR
    rw [hB]
    rfl
  have r13 : bR C j 13 = r 13 := by
    unfold bR
    rw [hB]
    rfl
  have r14 : bR C j 14 = r 14 := by
    unfold bR
    rw [hB]
    rfl
  have r15 : bR C j 15 = r 15 := by
    unfold bR
    rw [hB]
    rfl
  have r16 : bR C j 16 = r 16 := by
    unfold bR
    rw [hB]
    rfl
  have z7 : zL C (r 7) = Z.2.1 := by
    unfold zL
    rw [h.2.1]
  have z8 : zL C (r 8) = Z.2.2.1 := by
    unfold zL
    rw [h.2.2.1]
  have z9 : zA C (r 9) = Z.2.2.2 9 := by
    unfold zA
    rw [h.2.2.2 9 (by omega) (by omega)]
  have z10 : zA C (r 10) = Z.2.2.2 10 := by
    unfold zA
    rw [h.2.2.2 10 (by omega) (by omega)]
  have z11 : zA C (r 11) = Z.2.2.2 11 := by
    unfold zA
    rw [h.2.2.2 11 (by omega) (by omega)]
  have z12 : zA C (r 12) = Z.2.2.2 12 := by
    unfold zA
    rw [h.2.2.2 12 (by omega) (by omega)]
  have z13 : zA C (r 13) = Z.2.2.2 13 := by
    unfold zA
    rw [h.2.2.2 13 (by omega) (by omega)]
  have z14 : zA C (r 14) = Z.2.2.2 14 := by
    unfold zA
    rw [h.2.2.2 14 (by omega) (by omega)]
  have z15 : zA C (r 15) = Z.2.2.2 15 := by
    unfold zA
    rw [h.2.2.2 15 (by omega) (by omega)]
  have z16 : zA C (r 16) = Z.2.2.2 16 := by
    unfold zA
    rw [h.2.2.2 16 (by omega) (by omega)]
  have hE : encB C j = [.int (Z.1 0), .int (Z.1 1), .int (Z.1 2), .int (Z.1 3), .int (Z.1 4), .int (Z.1 5), .int (Z.1 6), .ref (r 7), .ref (r 8), .ref (r 9), .ref (r 10), .ref (r 11), .ref (r 12), .ref (r 13), .ref (r 14), .ref (r 15), .ref (r 16)] := by
    unfold encB
    rw [i0, i1, i2, i3, i4, i5, i6, r7, r8, r9, r10, r11, r12, r13, r14, r15, r16]
  refine ⟨⟨?_, ?_, ?_, ?_, ?_, ?_, ?_, ?_, ?_, ?_, ?_⟩, ⟨?_, ?_, ?_, ?_, ?_, hb⟩, fun f hf => ?_, fun d hd => ⟨?_, ?_⟩, hI, hA, hH⟩
  · rw [hb, hE]
    exact h.1
  · rw [r7, z7]
    exact h.2.1
  · rw [r8, z8]
    exact h.2.2.1
  · rw [r9, z9]
    exact h.2.2.2 9 (by omega) (by omega)
  · rw [r10, z10]
    exact h.2.2.2 10 (by omega) (by omega)
  · rw [r11, z11]
    exact h.2.2.2 11 (by omega) (by omega)
  · rw [r12, z12]
    exact h.2.2.2 12 (by omega) (by omega)
  · rw [r13, z13]
    exact h.2.2.2 13 (by omega) (by omega)
  · rw [r14, z14]
    exact h.2.2.2 14 (by omega) (by omega)
  · rw [r15, z15]
    exact h.2.2.2 15 (by omega) (by omega)
  · rw [r16, z16]
    exact h.2.2.2 16 (by omega) (by omega)
  · rw [i0]
    exact E.1.1
  · rw [i2]
    exact E.1.2.2.1
  · rw [i3]
    exact E.1.2.2.2.1
  · rw [i4]
    exact E.1.2.2.2.2.1
  · rw [i5]
    exact E.1.2.2.2.2.2.1
  · rw [r10, z10]
    exact (E.2.2.2.1 f (by have e1 : vs (setS B.W 9 b) 1 = vs B.W 1 := rfl; omega)).2.1
  · rw [r12, z12]
    exact (E.2.2.2.2.1 d (by have e1 : vs (setS B.W 9 b) 2 = vs B.W 2 := rfl; omega)).1
  · rw [r13, z13]
    exact (E.2.2.2.2.1 d (by have e1 : vs (setS B.W 9 b) 2 = vs B.W 2 := rfl; omega)).2
/-- day j on its way to begin at the beach b: n of each row are set, its heaps hold hn -/
def ix4 (a : Nat) : Nat := if a = 0 then 0 else a + 1
def BgL (C D : CS) (j b : Nat) (W : VS) (k hn : Nat → Nat) (hw hm : Nat → Nat → Nat) (q : Nat → Nat) : Prop :=
  SD j C D ∧ oB D j = b ∧ (oI D 3 j 6 = nI (vs W 7) ∧ oI D 3 j 7 = nI (vs W 6) ∧ oI D 3 j 8 = nI (vs W 3)) ∧ (∀ a f, a < 4 → f < k a → oA D (11 + a) j f = nI (vt W (ix4 a) f)) ∧ ∀ d, d < 8 → EncH D (8 * j + d) (hn d) (hw d) (hm d) (q d)
section BGL
variable {C D D2 : CS} {j b a : Nat} {W : VS} {k k2 hn q : Nat → Nat} {hw hm : Nat → Nat → Nat} {v : Int32}
theorem BgL.set (h : BgL C D j b W k hn hw hm q) (ha : a < 4) (hv : v = nI (vt W (ix4 a) (k a))) : BgL C (uA D (11 + a) j (k a) v) j b W (va_up k a (k a + 1)) hn hw hm q := by
  obtain ⟨h1, h2, h3, h4, h5⟩ := h
  refine ⟨h1.trans ?_, h2, h3, fun c f hc hf => ?_, fun d hd => (h5 d hd).eq rfl (oA_ne2 D v (fun x _ => by omega)) (oA_ne2 D v (fun x _ => by omega)) rfl rfl⟩
  · rcases show a = 0 ∨ a = 1 ∨ a = 2 ∨ a = 3 by omega with rfl | rfl | rfl | rfl
    · exact SD.A11
    · exact SD.A12
    · exact SD.A13
    · exact SD.A14
  · by_cases hca : c = a
    · subst hca
      have hf2 : f < k c + 1 := by
        have : va_up k c (k c + 1) c = k c + 1 := va_up_self _ _ _
        omega
      by_cases hfk : f = k c
      · subst hfk
        rw [oA_eq, hv]
      · rw [oA_ne D v (fun _ _ z => hfk z)]
        exact h4 c f hc (by omega)
    · have : va_up k a (k a + 1) c = k c := va_up_ne _ _ hca
      rw [oA_ne2 D v (fun x _ => hca (by omega))]
      exact h4 c f hc (by omega)
theorem BgL.re (h : BgL C D j b W k hn hw hm q) (hk : ∀ a, a < 4 → k2 a = k a) : BgL C D j b W k2 hn hw hm q := ⟨h.1, h.2.1, h.2.2.1, fun a f ha hf => h.2.2.2.1 a f ha (by rw [← hk a ha]; exact hf), h.2.2.2.2⟩
/-- heap d is emptied -/
theorem BgL.nil {d : Nat} (h : BgL C D j b W k hn hw hm q) (hd : d < 8) : BgL C (uI D 5 (8 * j + d) 2 (nI 0)) j b W k (va_up hn d 0) hw hm q := by
  obtain ⟨h1, h2, h3, h4, h5⟩ := h
  refine ⟨h1.trans (SH.D SH.I (by omega)), h2, ?_, h4, fun e he => ?_⟩
  · rw [show oI (uI D 5 (8 * j + d) 2 (nI 0)) 3 j = oI D 3 j from oI_ne2 D _ (fun x _ => by omega)]
    exact h3
  · by_cases hed : e = d
    · subst hed
      rw [va_up_self]
      obtain ⟨e1, e2, e3, e4, e5, e6⟩ := h5 e he
      exact ⟨oI_eq D 5 _ 2 _, Nat.zero_le _, e3, e4, e5, fun i hi => absurd hi (Nat.not_lt_zero i)⟩
    · rw [va_up_ne _ _ hed]
      exact (h5 e he).eq (oI_ne2 D _ (fun _ x => by omega)) rfl rfl rfl rfl
theorem in9_7 {F : VS} {d w m e : Nat} : vt (insV F d w m) 7 e = if e = d then vt F 7 d + 1 else vt F 7 e := by
  show va_up F.2.1 7 (va_up (F.2.1 7) d (vt F 7 d + 1)) 7 e = _
  rw [va_up_self]
  by_cases h : e = d
  · rw [h, if_pos rfl, va_up_self]
  · rw [if_neg h, va_up_ne _ _ h]
    rfl
theorem in9_p {F : VS} {d w m e i : Nat} : vp (insV F d w m) i e = if e = d then rowIn (vp F i d) (insP (vp F 1 d) m (vt F 7 d)) (if i = 0 then w else m) else vp F i e := by
  show va_up (F.2.2 i) d (rowIn (vp F i d) (insP (vp F 1 d) m (vt F 7 d)) (if i = 0 then w else m)) e = _
  by_cases h : e = d
  · rw [h, if_pos rfl, va_up_self]
  · rw [if_neg h, va_up_ne _ _ h]
    rfl
/-- a pebble is added -/
theorem BgL.add {d w m c : Nat} {F : VS} (h : BgL C D j b W k (vt F 7) (vp F 0) (vp F 1) q) (hd : d < 8) (S : SH (8 * j + d) D D2) (Eh : EncH D2 (8 * j + d) (vt F 7 d + 1) (rowIn (vp F 0 d) (insP (vp F 1 d) m (vt F 7 d)) w) (rowIn (vp F 1 d) (insP (vp F 1 d) m (vt F 7 d)) m) c) : BgL C D2 j b W k (vt (insV F d w m) 7) (vp (insV F d w m) 0) (vp (insV F d w m) 1) (va_up q d c) := by
  obtain ⟨h1, h2, h3, h4, h5⟩ := h
  refine ⟨h1.trans (S.D (by omega)), by rw [S.2.2.2.2.2.1]; exact h2, by rw [S.2.1 3 j (by omega)]; exact h3, fun a f ha hf => by rw [S.2.2.1 (11 + a) j (by omega)]; exact h4 a f ha hf, fun e he => ?_⟩
  rw [in9_7, in9_p, in9_p]
  by_cases hed : e = d
  · subst hed
    rw [if_pos rfl, if_pos rfl, if_pos rfl, va_up_self, if_pos rfl, if_neg (by decide)]
    exact Eh
  · rw [if_neg hed, if_neg hed, if_neg hed, va_up_ne _ _ hed]
    exact (h5 e he).sh S (by omega)
theorem foP_b {wh on mi : Nat → Nat} {N : Nat} (hm : ∀ k, k < N → mi k ≤ 240) : ∀ n, n ≤ N → ∀ d, vt (foP wh on mi n) 7 d ≤ n ∧ ∀ i, i < vt (foP wh on mi n) 7 d → vp (foP wh on mi n) 1 d i ≤ 240
  | 0, _, d => ⟨Nat.le_refl _, fun i hi => absurd hi (Nat.not_lt_zero i)⟩
  | n + 1, h, d => by
    have h1 := foP_b (wh := wh) (on := on) hm n (by omega)
    have hmn := hm n (by omega)
    show vt (insV (foP wh on mi n) (on n) (wh n) (mi n)) 7 d ≤ n + 1 ∧ ∀ i, i < vt (insV (foP wh on mi n) (on n) (wh n) (mi n)) 7 d → vp (insV (foP wh on mi n) (on n) (wh n) (mi n)) 1 d i ≤ 240
    rw [in9_7, in9_p]
    by_cases hd : d = on n
    · subst hd
      rw [if_pos rfl, if_pos rfl, if_neg (by decide)]
      have h2 := h1 (on n)
      have hle := insP_le (vp (foP wh on mi n) 1 (on n)) (mi n) (vt (foP wh on mi n) 7 (on n))
      refine ⟨by omega, fun i hi => ?_⟩
      unfold rowIn
      by_cases ha : i < insP (vp (foP wh on mi n) 1 (on n)) (mi n) (vt (foP wh on mi n) 7 (on n))
      · rw [if_pos ha]
        exact h2.2 i (by omega)
      · rw [if_neg ha]
        by_cases hb : i = insP (vp (foP wh on mi n) 1 (on n)) (mi n) (vt (foP wh on mi n) 7 (on n))
        · rw [if_pos hb]
          exact hmn
        · rw [if_neg hb]
          exact h2.2 (i - 1) (by omega)
    · rw [if_neg hd, if_neg hd]
      exact ⟨Nat.le_succ_of_le (h1 d).1, (h1 d).2⟩
end BGL
set_option maxHeartbeats 4000000 in
theorem kX5_begin {g : GG} {C : CS} {j b : Nat} {Z : ZB} {r : Nat → Nat} {B : BS} {V : VS} {q : Nat → Nat} (hj : oO C j = true) (Ej : EncD g C j V q) (hZ : FzB g (oZ C) b Z r) (E : EncBe Z B) (O : OkB B) (hl : oM C 90 = none) : Cp g miX5_begin 3 60 7680 [.ref (od C 3 j), .ref b] C none (fun C2 => (∃ q, EncD g C2 j (setS B.W 9 b) q) ∧ SD j C C2 ∧ oB C2 j = b) := by
  refine Cp.start [some (.ref (od C 3 j)), some (.ref b), none] plX5 rfl (Nat.le_of_ble_eq_true rfl) rfl ?_
  intro σ0 σ H F
  have hk := O.1.b
  obtain ⟨wh, on, mi, hP1, hP2, hP3⟩ := E.2.2.2.2.2
  have hpb : B.pb ≤ 30 := O.2.2.2.2.2.1
  have hfo := foP_b (wh := wh) (on := on) (mi := mi) (N := B.pb) (fun k hk2 => by have := (hP1 k hk2).2.2.2.2.2; omega)
  have hod : ∀ D : CS, SD j C D → od D 3 j = od C 3 j := fun D S => S.1 3 j (by omega) (by omega)
  -- the pebbles
  have l3 : ∀ (n k : Nat) (D : CS) (σ : PH) (q : Nat → Nat), B.pb - k < n → k ≤ B.pb → BgL C D j b B.W (fun _ => 6) (vt (foP wh on mi k) 7) (vp (foP wh on mi k) 0) (vp (foP wh on mi k) 1) q → Hold g σ D → Fr σ0 σ → Wp g (mtC g miX5_begin 3 60 7680 σ0 none (fun C2 => (∃ q, EncD g C2 j (setS B.W 9 b) q) ∧ SD j C C2 ∧ oB C2 j = b)) ((B.pb - k) * 2) ((B.pb - k) * 256) 108 [some (.ref (od C 3 j)), some (.ref b), some (.int (nI k))] [] σ := by
    intro n
    induction n with
    | zero => intro k D σ q hmu; exact absurd hmu (Nat.not_lt_zero _)
    | succ n ih =>
      intro k D σ q hmu hkb G H F
      have hz : FzB g (oZ D) b Z r := by rw [G.1.2.2.2.2.2.2.2.2.2.2]; exact hZ
      have hjD : oO D j = true := by rw [G.1.on]; exact hj
      have hlD : oM D 90 = none := by rw [G.1.2.2.2.2.2.2.2.2.2.1]; exact hl
      refine w_iload_n dX5_begin_108 rfl ?_
      refine w_aload_n dX5_begin_109 rfl ?_
      refine w_getfN (k := 6) (v := .int (Z.1 6)) dX5_begin_110 clX6 (by decide) q313 (H.z hz.1) rfl ?_
      refine w_topN (n := B.pb) E.1.2.2.2.2.2.2 ?_
      refine w_icmpN_ge dX5_begin_113 rfl (by omega) (by omega) (fun h_113 => ?_) (fun h_113 => ?_)
      · have hkk : k = B.pb := by omega
        subst hkk
        refine w_vret dX5_begin_148 rfl ⟨rfl, D, ⟨⟨q, FzB.enc hz G.2.1 E O G.2.2.1 (fun f hf => ⟨G.2.2.2.1 0 f (by omega) hf, G.2.2.2.1 1 f (by omega) hf, G.2.2.2.1 2 f (by omega) hf, G.2.2.2.1 3 f (by omega) hf⟩) (fun d hd => ?_)⟩, G.1, G.2.1⟩, H, F⟩
        have h1 := G.2.2.2.2 d hd
        rw [← hP3 d, show vp (foP wh on mi B.pb) = vp B.W from hP2.symm] at h1
        exact h1
      · obtain ⟨p1, p2, p3, p4, p5, p6⟩ := hP1 k (by omega)
        have hb7 := hfo k (by omega) (on k)
        have Eh := G.2.2.2.2 (on k) (by omega)
        rw [← hod D G.1]
        refine w_aload_n dX5_begin_116 rfl ?_
        refine gX5_33 (C := D) dX5_begin_117 rfl hjD H ?_
        refine w_aload_n dX5_begin_120 rfl ?_
        refine w_getfN (k := 15) (v := .ref (r 15)) dX5_begin_121 clX6 (by decide) q341 (H.z hz.1) rfl ?_
        refine w_iload_n dX5_begin_124 rfl ?_
        refine w_ialdN dX5_begin_125 (H.z (hz.2.2.2 15 (by omega) (by omega))) (by show k < 30; omega) (by show 30 < 2147483648; omega) ?_
        refine w_topN (n := on k) p2 ?_
        refine ga_heaps (C := D) dX5_begin_126 hjD (by omega) H ?_
        refine w_aload_n dX5_begin_127 rfl ?_
        refine w_getfN (k := 14) (v := .ref (r 14)) dX5_begin_128 clX6 (by decide) q338 (H.z hz.1) rfl ?_
        refine w_iload_n dX5_begin_131 rfl ?_
        refine w_ialdN dX5_begin_132 (H.z (hz.2.2.2 14 (by omega) (by omega))) (by show k < 30; omega) (by show 30 < 2147483648; omega) ?_
        refine w_topN (n := wh k) p1 ?_
        refine w_aload_n dX5_begin_133 rfl ?_
        refine w_getfN (k := 16) (v := .ref (r 16)) dX5_begin_134 clX6 (by decide) q344 (H.z hz.1) rfl ?_
        refine w_iload_n dX5_begin_137 rfl ?_
        refine w_ialdN dX5_begin_138 (H.z (hz.2.2.2 16 (by omega) (by omega))) (by show k < 30; omega) (by show 30 < 2147483648; omega) ?_
        refine w_topN (n := mi k) p3 ?_
        have hc2 := Eh.cap
        refine w_bud (kc2 := (B.pb - (k + 1)) * 2 + (if vt (foP wh on mi k) 7 (on k) = q (on k) then 2 else 0)) (ks2 := (B.pb - (k + 1)) * 256 + (if vt (foP wh on mi k) 7 (on k) = q (on k) then 4 * q (on k) else 0)) (by split <;> omega) (by split <;> omega) ?_
        refine cp_call (mi := miX7_add) dX5_begin_139 q894 okX7_add clX7 rfl (H.get (ce_heap (on8 hjD (by omega)))) (Nat.le_of_ble_eq_true rfl) (kX7_add (C := D) (f := wh k) (m := mi k) (on8 hjD (by omega)) Eh hb7.2 (by omega) hlD (by omega)) H F rfl rfl (Nat.le_of_ble_eq_true rfl) ?_
        rintro σ D2 ⟨Eh2, S2⟩ H F
        have G2 := BgL.add G (by omega) S2 Eh2
        refine w_iinc dX5_begin_142 rfl (nI_inc _ 1) rfl (Nat.le_of_ble_eq_true rfl) ls_3_2 ?_
        refine w_goto dX5_begin_145 rfl ?_
        rw [hod D G.1]
        exact ih (k + 1) D2 σ _ (by omega) (by omega) G2 H F
  -- the heaps are emptied
  have l2 : ∀ (n d : Nat) (D : CS) (σ : PH) (hn : Nat → Nat), 8 - d < n → d ≤ 8 → BgL C D j b B.W (fun _ => 6) hn (vp V 0) (vp V 1) q → (∀ i, i < d → hn i = 0) → Hold g σ D → Fr σ0 σ → Wp g (mtC g miX5_begin 3 60 7680 σ0 none (fun C2 => (∃ q, EncD g C2 j (setS B.W 9 b) q) ∧ SD j C C2 ∧ oB C2 j = b)) 60 7680 84 [some (.ref (od C 3 j)), some (.ref b), some (.int (nI d))] [] σ := by
    intro n
    induction n with
    | zero => intro d D σ hn hmu; exact absurd hmu (Nat.not_lt_zero _)
    | succ n ih =>
      intro d D σ hn hmu hd G hz0 H F
      have hjD : oO D j = true := by rw [G.1.on]; exact hj
      refine w_iload_n dX5_begin_84 rfl ?_
      refine w_bipush (v := nI 8) dX5_begin_85 kb_8 ?_
      refine w_icmpN_ge dX5_begin_87 rfl (by omega) (by omega) (fun h_87 => ?_) (fun h_87 => ?_)
      · have hd8 : d = 8 := by omega
        subst hd8
        refine w_iconst (v := nI 0) dX5_begin_106 ki_0 ?_
        refine w_istore_n dX5_begin_107 rfl (Nat.le_of_ble_eq_true rfl) ls_3_2 ?_
        refine w_bud (kc2 := (B.pb - 0) * 2) (ks2 := (B.pb - 0) * 256) (by omega) (by omega) ?_
        refine l3 (B.pb + 1) 0 D σ q (by omega) (Nat.zero_le _) ⟨G.1, G.2.1, G.2.2.1, G.2.2.2.1, fun d hd => ?_⟩ H F
        have h1 := G.2.2.2.2 d hd
        rw [hz0 d hd] at h1
        obtain ⟨e1, e2, e3, e4, e5, e6⟩ := h1
        exact ⟨e1, Nat.zero_le _, e3, e4, e5, fun i hi => absurd hi (Nat.not_lt_zero i)⟩
      · rw [← hod D G.1]
        refine w_aload_n dX5_begin_90 rfl ?_
        refine gX5_33 (C := D) dX5_begin_91 rfl hjD H ?_
        refine w_iload_n dX5_begin_94 rfl ?_
        refine ga_heaps (C := D) dX5_begin_95 hjD (by omega) H ?_
        refine w_iconst (v := nI 0) dX5_begin_96 ki_0 ?_
        refine pX5_54 (C := D) dX5_begin_97 rfl (on8 hjD (by omega)) H F ?_
        intro σ H F
        have G2 := BgL.nil G (d := d) (by omega)
        refine w_iinc dX5_begin_100 rfl (nI_inc _ 1) rfl (Nat.le_of_ble_eq_true rfl) ls_3_2 ?_
        refine w_goto dX5_begin_103 rfl ?_
        rw [hod D G.1]
        refine ih (d + 1) _ σ _ (by omega) (by omega) G2 (fun i hi => ?_) H F
        by_cases hid : i = d
        · rw [hid, va_up_self]
        · rw [va_up_ne _ _ hid]
          exact hz0 i (by omega)
  -- the rows
  have l1 : ∀ (n k : Nat) (D : CS) (σ : PH), 6 - k < n → k ≤ 6 → BgL C D j b B.W (fun _ => k) (vt V 7) (vp V 0) (vp V 1) q → Hold g σ D → Fr σ0 σ → Wp g (mtC g miX5_begin 3 60 7680 σ0 none (fun C2 => (∃ q, EncD g C2 j (setS B.W 9 b) q) ∧ SD j C C2 ∧ oB C2 j = b)) 60 7680 32 [some (.ref (od C 3 j)), some (.ref b), some (.int (nI k))] [] σ := by
    intro n
    induction n with
    | zero => intro k D σ hmu; exact absurd hmu (Nat.not_lt_zero _)
    | succ n ih =>
      intro k D σ hmu hk6 G H F
      refine w_iload_n dX5_begin_32 rfl ?_
      refine w_bipush (v := nI 6) dX5_begin_33 kb_6 ?_
      refine w_icmpN_ge dX5_begin_35 rfl (by omega) (by omega) (fun h_35 => ?_) (fun h_35 => ?_)
      · have hkk : k = 6 := by omega
        subst hkk
        refine w_iconst (v := nI 0) dX5_begin_82 ki_0 ?_
        refine w_istore_n dX5_begin_83 rfl (Nat.le_of_ble_eq_true rfl) ls_3_2 ?_
        exact l2 9 0 D σ _ (by omega) (by omega) G (fun i hi => absurd hi (Nat.not_lt_zero i)) H F
      · have hz : FzB g (oZ D) b Z r := by rw [G.1.2.2.2.2.2.2.2.2.2.2]; exact hZ
        have h_at : oO D j = true := by rw [G.1.on]; exact hj
        have z_at : FzB g (oZ D) b Z r := by rw [G.1.2.2.2.2.2.2.2.2.2.2]; exact hZ
        rw [← hod D G.1]
        refine w_aload_n dX5_begin_38 rfl ?_
        refine gX5_18 (C := D) dX5_begin_39 rfl h_at H ?_
        refine w_iload_n dX5_begin_42 rfl ?_
        refine w_aload_n dX5_begin_43 rfl ?_
        refine w_getfN (k := 9) (v := .ref (r 9)) dX5_begin_44 clX6 (by decide) q320 (H.z z_at.1) rfl ?_
        refine w_iload_n dX5_begin_47 rfl ?_
        refine w_ialdN dX5_begin_48 (H.z (z_at.2.2.2 9 (by omega) (by omega))) (by show k < 6; omega) (by show 6 < 2147483648; omega) ?_
        refine is_11 (C := D) dX5_begin_49 h_at (by omega) H F ?_
        intro σ H F
        have Q0 : BgL C (uA D 11 j k (Z.2.2.2 9 k)) j b B.W _ (vt V 7) (vp V 0) (vp V 1) q := BgL.set (a := 0) G (by omega) (E.2.2.2.1 k (by omega)).1
        rw [hod D G.1]
        obtain ⟨D0, hD0⟩ : ∃ X, X = uA D 11 j k (Z.2.2.2 9 k) := ⟨_, rfl⟩
        rw [← hD0] at H Q0
        clear hD0
        have h_pouch : oO D0 j = true := by rw [Q0.1.on]; exact hj
        have z_pouch : FzB g (oZ D0) b Z r := by rw [Q0.1.2.2.2.2.2.2.2.2.2.2]; exact hZ
        rw [← hod D0 Q0.1]
        refine w_aload_n dX5_begin_50 rfl ?_
        refine gX5_22 (C := D0) dX5_begin_51 rfl h_pouch H ?_
        refine w_iload_n dX5_begin_54 rfl ?_
        refine w_aload_n dX5_begin_55 rfl ?_
        refine w_getfN (k := 11) (v := .ref (r 11)) dX5_begin_56 clX6 (by decide) q327 (H.z z_pouch.1) rfl ?_
        refine w_iload_n dX5_begin_59 rfl ?_
        refine w_ialdN dX5_begin_60 (H.z (z_pouch.2.2.2 11 (by omega) (by omega))) (by show k < 6; omega) (by show 6 < 2147483648; omega) ?_
        refine is_12 (C := D0) dX5_begin_61 h_pouch (by omega) H F ?_
        intro σ H F
        have Q1 : BgL C (uA D0 12 j k (Z.2.2.2 11 k)) j b B.W _ (vt V 7) (vp V 0) (vp V 1) q := BgL.set (a := 1) Q0 (by omega) (E.2.2.2.1 k (by omega)).2.2
        rw [hod D0 Q0.1]
        obtain ⟨D1, hD1⟩ : ∃ X, X = uA D0 12 j k (Z.2.2.2 11 k) := ⟨_, rfl⟩
        rw [← hD1] at H Q1
        clear hD1
        have h_clock : oO D1 j = true := by rw [Q1.1.on]; exact hj
        rw [← hod D1 Q1.1]
        refine w_aload_n dX5_begin_62 rfl ?_
        refine gX5_25 (C := D1) dX5_begin_63 rfl h_clock H ?_
        refine w_iload_n dX5_begin_66 rfl ?_
        refine w_iconst (v := nI 0) dX5_begin_67 ki_0 ?_
        refine is_13 (C := D1) dX5_begin_68 h_clock (by omega) H F ?_
        intro σ H F
        have Q2 : BgL C (uA D1 13 j k (nI 0)) j b B.W _ (vt V 7) (vp V 0) (vp V 1) q := BgL.set (a := 2) Q1 (by omega) (congrArg nI (O.2.1 k).1.symm)
        rw [hod D1 Q1.1]
        obtain ⟨D2, hD2⟩ : ∃ X, X = uA D1 13 j k (nI 0) := ⟨_, rfl⟩
        rw [← hD2] at H Q2
        clear hD2
        have h_kept : oO D2 j = true := by rw [Q2.1.on]; exact hj
        rw [← hod D2 Q2.1]
        refine w_aload_n dX5_begin_69 rfl ?_
        refine gX5_28 (C := D2) dX5_begin_70 rfl h_kept H ?_
        refine w_iload_n dX5_begin_73 rfl ?_
        refine w_iconst (v := nI 0) dX5_begin_74 ki_0 ?_
        refine is_14 (C := D2) dX5_begin_75 h_kept (by omega) H F ?_
        intro σ H F
        have Q3 : BgL C (uA D2 14 j k (nI 0)) j b B.W _ (vt V 7) (vp V 0) (vp V 1) q := BgL.set (a := 3) Q2 (by omega) (congrArg nI (O.2.1 k).2.symm)
        rw [hod D2 Q2.1]
        obtain ⟨D3, hD3⟩ : ∃ X, X = uA D2 14 j k (nI 0) := ⟨_, rfl⟩
        rw [← hD3] at H Q3
        clear hD3
        refine w_iinc dX5_begin_76 rfl (nI_inc _ 1) rfl (Nat.le_of_ble_eq_true rfl) ls_3_2 ?_
        refine w_goto dX5_begin_79 rfl ?_
        exact ih (k + 1) D3 σ (by omega) (by omega) (Q3.re (fun a ha => by
          rcases show a = 0 ∨ a = 1 ∨ a = 2 ∨ a = 3 by omega with rfl | rfl | rfl | rfl <;> rfl)) H F
  -- the head
  have G0 : BgL C C j (oB C j) V (fun _ => 0) (vt V 7) (vp V 0) (vp V 1) q := ⟨SD.refl, rfl, Ej.2.2.2.2.1, fun _ _ _ h => absurd h (Nat.not_lt_zero _), fun d hd => Ej.h hd⟩
  refine w_aload_n dX5_begin_0 rfl ?_
  refine w_aload_n dX5_begin_1 rfl ?_
  refine pX5_12 (C := C) dX5_begin_2 rfl hj H F ?_
  intro σ H F
  refine w_aload_n dX5_begin_5 rfl ?_
  refine w_aload_n dX5_begin_6 rfl ?_
  refine w_getfN (k := 1) (v := .int (Z.1 1)) dX5_begin_7 clX6 (by decide) q295 (H.z hZ.1) rfl ?_
  refine pX5_37 (C := uB C j b) dX5_begin_10 rfl hj H F ?_
  intro σ H F
  refine w_aload_n dX5_begin_13 rfl ?_
  refine w_iconst (v := nI 0) dX5_begin_14 ki_0 ?_
  refine pX5_43 (C := uI (uB C j b) 3 j 8 (Z.1 1)) dX5_begin_15 rfl hj H F ?_
  intro σ H F
  refine w_aload_n dX5_begin_18 rfl ?_
  refine w_iconst (v := nI 1) dX5_begin_19 ki_1 ?_
  refine w_aload_n dX5_begin_20 rfl ?_
  refine w_getfN (k := 4) (v := .int (Z.1 4)) dX5_begin_21 clX6 (by decide) q304 (H.z hZ.1) rfl ?_
  refine w_topN (n := vs B.W 2) E.1.2.2.2.2.1 ?_
  refine w_shl1N dX5_begin_24 (by omega) ?_
  refine w_iconst (v := nI 1) dX5_begin_25 ki_1 ?_
  refine w_isubN dX5_begin_26 (Nat.one_le_two_pow) ?_
  refine pX5_49 (C := uI (uI (uB C j b) 3 j 8 (Z.1 1)) 3 j 7 (nI 0)) dX5_begin_27 rfl hj H F ?_
  intro σ H F
  refine w_iconst (v := nI 0) dX5_begin_30 ki_0 ?_
  refine w_istore_n dX5_begin_31 rfl (Nat.le_of_ble_eq_true rfl) ls_3_2 ?_
  refine l1 7 0 _ σ (by omega) (by omega) ⟨((SD.B.trans SD.I8).trans SD.I7).trans SD.I6, ?_, ⟨?_, ?_, ?_⟩, fun _ _ _ h => absurd h (Nat.not_lt_zero _), fun d hd => ?_⟩ H F
  · show va_up (oB C) j b j = b
    exact va_up_self _ _ _
  · rw [oI_eq, O.2.2.2.1]
  · rw [oI_ne _ _ (fun _ _ z => by omega), oI_eq, O.2.2.1]
  · rw [oI_ne _ _ (fun _ _ z => by omega), oI_ne _ _ (fun _ _ z => by omega), oI_eq]
    exact E.1.2.1
  · refine (Ej.h hd).eq ?_ rfl rfl rfl rfl
    rw [oI_ne2 _ _ (fun x _ => by omega), oI_ne2 _ _ (fun x _ => by omega), oI_ne2 _ _ (fun x _ => by omega)]
    rfl
