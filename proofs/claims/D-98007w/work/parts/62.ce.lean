/-! THE COMPONENT: cells that hold a day (printed by gen/cenc.py) -/
set_option maxRecDepth 100000
def vI (v : Value) : Int32 := match v with
  | .int x => x
  | _ => 0
def vR (v : Value) : Nat := match v with
  | .ref a => a
  | _ => 0
/-- a field of the beach of day j -/
def bF (C : CS) (j f : Nat) : Value := match oZ C (oB C j) with
  | some (.inr (_, fs)) => fs.getD f .null
  | _ => .null
def bI (C : CS) (j f : Nat) : Int32 := vI (bF C j f)
def bR (C : CS) (j f : Nat) : Nat := vR (bF C j f)
def zA (C : CS) (a : Nat) : Nat → Int32 := match oZ C a with
  | some (.inl (_, _, .inl h)) => h
  | _ => fun _ => 0
def zL (C : CS) (a : Nat) : Nat → Int64 := match oZ C a with
  | some (.inl (_, _, .inr (.inl h))) => h
  | _ => fun _ => 0
def encB (C : CS) (j : Nat) : List Value := [.int (bI C j 0), .int (bI C j 1), .int (bI C j 2), .int (bI C j 3), .int (bI C j 4), .int (bI C j 5), .int (bI C j 6), .ref (bR C j 7), .ref (bR C j 8), .ref (bR C j 9), .ref (bR C j 10), .ref (bR C j 11), .ref (bR C j 12), .ref (bR C j 13), .ref (bR C j 14), .ref (bR C j 15), .ref (bR C j 16)]
def BeO (g : GG) (C : CS) (j : Nat) : Prop := oZ C (oB C j) = some (.inr (6, encB C j)) ∧ oZ C (bR C j 7) = some (.inl (g.2.2.2 1, 6, .inr (.inl (zL C (bR C j 7))))) ∧ oZ C (bR C j 8) = some (.inl (g.2.2.2 1, 8, .inr (.inl (zL C (bR C j 8))))) ∧ oZ C (bR C j 9) = some (.inl (g.2.2.2 0, 6, .inl (zA C (bR C j 9)))) ∧ oZ C (bR C j 10) = some (.inl (g.2.2.2 0, 6, .inl (zA C (bR C j 10)))) ∧ oZ C (bR C j 11) = some (.inl (g.2.2.2 0, 6, .inl (zA C (bR C j 11)))) ∧ oZ C (bR C j 12) = some (.inl (g.2.2.2 0, 8, .inl (zA C (bR C j 12)))) ∧ oZ C (bR C j 13) = some (.inl (g.2.2.2 0, 8, .inl (zA C (bR C j 13)))) ∧ oZ C (bR C j 14) = some (.inl (g.2.2.2 0, 30, .inl (zA C (bR C j 14)))) ∧ oZ C (bR C j 15) = some (.inl (g.2.2.2 0, 30, .inl (zA C (bR C j 15)))) ∧ oZ C (bR C j 16) = some (.inl (g.2.2.2 0, 30, .inl (zA C (bR C j 16))))
def capO (c : Nat) : Prop := c = 4 ∨ c = 8 ∨ c = 16 ∨ c = 32 ∨ c = 64
def EncH (C : CS) (i n : Nat) (who tim : Nat → Nat) (c : Nat) : Prop := oI C 5 i 2 = nI n ∧ n ≤ c ∧ capO c ∧ oN C 6 i = c ∧ oN C 7 i = c ∧ ∀ k, k < n → oA C 6 i k = nI (who k) ∧ oA C 7 i k = nI (tim k)
def EncD (g : GG) (C : CS) (j : Nat) (V : VS) (q : Nat → Nat) : Prop :=
  BeO g C j ∧ (bI C j 0 = nI (vs V 0) ∧ bI C j 2 = nI (vs V 4) ∧ bI C j 3 = nI (vs V 1) ∧ bI C j 4 = nI (vs V 2) ∧ bI C j 5 = nI (vs V 5) ∧ oB C j = vs V 9) ∧
  (∀ f, f < vs V 1 → zA C (bR C j 10) f = nI (vt V 1 f)) ∧ (∀ d, d < vs V 2 → zA C (bR C j 12) d = nI (vt V 5 d) ∧ zA C (bR C j 13) d = nI (vt V 6 d)) ∧
  (oI C 3 j 6 = nI (vs V 7) ∧ oI C 3 j 7 = nI (vs V 6) ∧ oI C 3 j 8 = nI (vs V 3)) ∧
  (∀ f, f < 6 → oA C 11 j f = nI (vt V 0 f) ∧ oA C 12 j f = nI (vt V 2 f) ∧ oA C 13 j f = nI (vt V 3 f) ∧ oA C 14 j f = nI (vt V 4 f)) ∧
  ∀ d, d < 8 → EncH C (8 * j + d) (vt V 7 d) (vp V 0 d) (vp V 1 d) (q d)
theorem capO_le {c : Nat} (h : capO c) : c ≤ 64 ∧ 4 ≤ c := by unfold capO at h; omega
section ENC
variable {g : GG} {C C2 : CS} {j i n c : Nat} {V V2 : VS} {q q2 : Nat → Nat} {who tim : Nat → Nat}
theorem EncH.sz (E : EncH C i n who tim c) : oI C 5 i 2 = nI n := E.1
theorem EncH.cap (E : EncH C i n who tim c) : n ≤ c ∧ c ≤ 64 ∧ 4 ≤ c := ⟨E.2.1, capO_le E.2.2.1⟩
theorem EncH.w (E : EncH C i n who tim c) {k : Nat} (h : k < n) : oA C 6 i k = nI (who k) := (E.2.2.2.2.2 k h).1
theorem EncH.m (E : EncH C i n who tim c) {k : Nat} (h : k < n) : oA C 7 i k = nI (tim k) := (E.2.2.2.2.2 k h).2
theorem EncH.l6 (E : EncH C i n who tim c) : oN C 6 i = c := E.2.2.2.1
theorem EncH.l7 (E : EncH C i n who tim c) : oN C 7 i = c := E.2.2.2.2.1
theorem EncD.b (E : EncD g C j V q) : BeO g C j := E.1
theorem EncD.b0 (E : EncD g C j V q) : bI C j 0 = nI (vs V 0) := E.2.1.1
theorem EncD.b2 (E : EncD g C j V q) : bI C j 2 = nI (vs V 4) := E.2.1.2.1
theorem EncD.b3 (E : EncD g C j V q) : bI C j 3 = nI (vs V 1) := E.2.1.2.2.1
theorem EncD.b4 (E : EncD g C j V q) : bI C j 4 = nI (vs V 2) := E.2.1.2.2.2.1
theorem EncD.b5 (E : EncD g C j V q) : bI C j 5 = nI (vs V 5) := E.2.1.2.2.2.2.1
/-- where its beach lies -/
theorem EncD.b9 (E : EncD g C j V q) : oB C j = vs V 9 := E.2.1.2.2.2.2.2
theorem EncD.pace (E : EncD g C j V q) {f : Nat} (h : f < vs V 1) : zA C (bR C j 10) f = nI (vt V 1 f) := E.2.2.1 f h
theorem EncD.fat (E : EncD g C j V q) {d : Nat} (h : d < vs V 2) : zA C (bR C j 12) d = nI (vt V 5 d) := (E.2.2.2.1 d h).1
theorem EncD.wor (E : EncD g C j V q) {d : Nat} (h : d < vs V 2) : zA C (bR C j 13) d = nI (vt V 6 d) := (E.2.2.2.1 d h).2
theorem EncD.th (E : EncD g C j V q) : oI C 3 j 6 = nI (vs V 7) := E.2.2.2.2.1.1
theorem EncD.dy (E : EncD g C j V q) : oI C 3 j 7 = nI (vs V 6) := E.2.2.2.2.1.2.1
theorem EncD.ti (E : EncD g C j V q) : oI C 3 j 8 = nI (vs V 3) := E.2.2.2.2.1.2.2
theorem EncD.a11 (E : EncD g C j V q) {f : Nat} (h : f < 6) : oA C 11 j f = nI (vt V 0 f) := (E.2.2.2.2.2.1 f h).1
theorem EncD.a12 (E : EncD g C j V q) {f : Nat} (h : f < 6) : oA C 12 j f = nI (vt V 2 f) := (E.2.2.2.2.2.1 f h).2.1
theorem EncD.a13 (E : EncD g C j V q) {f : Nat} (h : f < 6) : oA C 13 j f = nI (vt V 3 f) := (E.2.2.2.2.2.1 f h).2.2.1
theorem EncD.a14 (E : EncD g C j V q) {f : Nat} (h : f < 6) : oA C 14 j f = nI (vt V 4 f) := (E.2.2.2.2.2.1 f h).2.2.2
theorem EncD.h (E : EncD g C j V q) {d : Nat} (h : d < 8) : EncH C (8 * j + d) (vt V 7 d) (vp V 0 d) (vp V 1 d) (q d) := E.2.2.2.2.2.2 d h
/-- nothing but heap i has changed -/
def SH (i : Nat) (C C2 : CS) : Prop :=
  (∀ k a, ¬ ((k = 6 ∨ k = 7) ∧ a = i) → ¬ (k = 8 ∧ 90 ≤ a) → od C2 k a = od C k a) ∧ (∀ k a, ¬ (k = 5 ∧ a = i) → oI C2 k a = oI C k a) ∧ (∀ k a, ¬ ((k = 6 ∨ k = 7) ∧ a = i) → oA C2 k a = oA C k a) ∧ (∀ k a, ¬ ((k = 6 ∨ k = 7) ∧ a = i) → oN C2 k a = oN C k a) ∧
  oL C2 = oL C ∧ oB C2 = oB C ∧ oP C2 = oP C ∧ oO C2 = oO C ∧ oT C2 = oT C ∧ oM C2 = oM C ∧ oZ C2 = oZ C
/-- nothing but day j has changed -/
def SD (j : Nat) (C C2 : CS) : Prop :=
  (∀ k a, ¬ ((k = 6 ∨ k = 7) ∧ a / 8 = j) → ¬ (k = 8 ∧ 90 ≤ a) → od C2 k a = od C k a) ∧ (∀ k a, ¬ (k = 5 ∧ a / 8 = j) → ¬ (k = 3 ∧ a = j) → oI C2 k a = oI C k a) ∧ (∀ k a, ¬ ((k = 6 ∨ k = 7) ∧ a / 8 = j) → ¬ (11 ≤ k ∧ k ≤ 14 ∧ a = j) → oA C2 k a = oA C k a) ∧ (∀ k a, ¬ ((k = 6 ∨ k = 7) ∧ a / 8 = j) → oN C2 k a = oN C k a) ∧
  oL C2 = oL C ∧ (∀ a, a ≠ j → oB C2 a = oB C a) ∧ oP C2 = oP C ∧ oO C2 = oO C ∧ oT C2 = oT C ∧ oM C2 = oM C ∧ oZ C2 = oZ C
theorem SH.refl : SH i C C := ⟨fun _ _ _ _ => rfl, fun _ _ _ => rfl, fun _ _ _ => rfl, fun _ _ _ => rfl, rfl, rfl, rfl, rfl, rfl, rfl, rfl⟩
theorem SD.refl : SD j C C := ⟨fun _ _ _ _ => rfl, fun _ _ _ _ => rfl, fun _ _ _ _ => rfl, fun _ _ _ => rfl, rfl, fun _ _ => rfl, rfl, rfl, rfl, rfl, rfl⟩
theorem SH.trans {C3 : CS} (h : SH i C C2) (k : SH i C2 C3) : SH i C C3 := by
  obtain ⟨a1, a2, a3, a4, a5, a6, a7, a8, a9, a10, a11⟩ := h
  obtain ⟨b1, b2, b3, b4, b5, b6, b7, b8, b9, b10, b11⟩ := k
  exact ⟨fun x y u v => (b1 x y u v).trans (a1 x y u v), fun x y u => (b2 x y u).trans (a2 x y u), fun x y u => (b3 x y u).trans (a3 x y u), fun x y u => (b4 x y u).trans (a4 x y u), b5.trans a5, b6.trans a6, b7.trans a7, b8.trans a8, b9.trans a9, b10.trans a10, b11.trans a11⟩
theorem SD.trans {C3 : CS} (h : SD j C C2) (k : SD j C2 C3) : SD j C C3 := by
  obtain ⟨a1, a2, a3, a4, a5, a6, a7, a8, a9, a10, a11⟩ := h
  obtain ⟨b1, b2, b3, b4, b5, b6, b7, b8, b9, b10, b11⟩ := k
  exact ⟨fun x y u v => (b1 x y u v).trans (a1 x y u v), fun x y u v => (b2 x y u v).trans (a2 x y u v), fun x y u v => (b3 x y u v).trans (a3 x y u v), fun x y u => (b4 x y u).trans (a4 x y u), b5.trans a5, fun x u => (b6 x u).trans (a6 x u), b7.trans a7, b8.trans a8, b9.trans a9, b10.trans a10, b11.trans a11⟩
theorem SH.D (h : SH i C C2) (hj : i / 8 = j) : SD j C C2 := by
  obtain ⟨a1, a2, a3, a4, a5, a6, a7, a8, a9, a10, a11⟩ := h
  subst hj
  exact ⟨fun x y u v => a1 x y (fun z => u ⟨z.1, by rw [z.2]⟩) v, fun x y u v => a2 x y (fun z => u ⟨z.1, by rw [z.2]⟩), fun x y u v => a3 x y (fun z => u ⟨z.1, by rw [z.2]⟩), fun x y u => a4 x y (fun z => u ⟨z.1, by rw [z.2]⟩), a5, fun a _ => by rw [a6], a7, a8, a9, a10, a11⟩
theorem SD.on (h : SD j C C2) (a : Nat) : oO C2 a = oO C a := by rw [h.2.2.2.2.2.2.2.1]
theorem SH.on (h : SH i C C2) (a : Nat) : oO C2 a = oO C a := by rw [h.2.2.2.2.2.2.2.1]
/-- the beach of a day stays -/
theorem bF_eq {f : Nat} (hb : oB C2 j = oB C j) (hz : oZ C2 = oZ C) : bF C2 j f = bF C j f := by unfold bF; rw [hb, hz]
theorem bI_eq {f : Nat} (hb : oB C2 j = oB C j) (hz : oZ C2 = oZ C) : bI C2 j f = bI C j f := by unfold bI; rw [bF_eq hb hz]
theorem bR_eq {f : Nat} (hb : oB C2 j = oB C j) (hz : oZ C2 = oZ C) : bR C2 j f = bR C j f := by unfold bR; rw [bF_eq hb hz]
theorem zA_eq (hz : oZ C2 = oZ C) (a : Nat) : zA C2 a = zA C a := by unfold zA; rw [hz]
theorem zL_eq (hz : oZ C2 = oZ C) (a : Nat) : zL C2 a = zL C a := by unfold zL; rw [hz]
theorem encB_eq (hb : oB C2 j = oB C j) (hz : oZ C2 = oZ C) : encB C2 j = encB C j := by unfold encB; simp only [bI_eq hb hz, bR_eq hb hz]
theorem BeO.eq (h : BeO g C j) (hb : oB C2 j = oB C j) (hz : oZ C2 = oZ C) : BeO g C2 j := by
  unfold BeO at h ⊢
  simp only [hb, hz, encB_eq hb hz, bR_eq hb hz, zA_eq hz, zL_eq hz]
  exact h
theorem EncH.eq (h : EncH C i n who tim c) (h5 : oI C2 5 i = oI C 5 i) (h6 : oA C2 6 i = oA C 6 i) (h7 : oA C2 7 i = oA C 7 i) (n6 : oN C2 6 i = oN C 6 i) (n7 : oN C2 7 i = oN C 7 i) : EncH C2 i n who tim c := by
  unfold EncH at h ⊢
  rw [h5, h6, h7, n6, n7]
  exact h
theorem EncH.sh {a : Nat} (h : EncH C a n who tim c) (S : SH i C C2) (ha : a ≠ i) : EncH C2 a n who tim c :=
  h.eq (S.2.1 _ _ (fun z => ha z.2)) (S.2.2.1 _ _ (fun z => ha z.2)) (S.2.2.1 _ _ (fun z => ha z.2)) (S.2.2.2.1 _ _ (fun z => ha z.2)) (S.2.2.2.1 _ _ (fun z => ha z.2))
/-- a day whose cells and numbers are the same -/
theorem EncD.eq (E : EncD g C j V q) (hb : oB C2 j = oB C j) (hz : oZ C2 = oZ C) (h3 : oI C2 3 j = oI C 3 j) (ha : ∀ k, 11 ≤ k → k ≤ 14 → oA C2 k j = oA C k j) (h5 : ∀ d, d < 8 → oI C2 5 (8 * j + d) = oI C 5 (8 * j + d)) (hw : ∀ k d, k = 6 ∨ k = 7 → d < 8 → oA C2 k (8 * j + d) = oA C k (8 * j + d) ∧ oN C2 k (8 * j + d) = oN C k (8 * j + d)) : EncD g C2 j V q := by
  obtain ⟨e1, e2, e3, e4, e5, e6, e7⟩ := E
  refine ⟨e1.eq hb hz, ?_, ?_, ?_, ?_, ?_, ?_⟩
  · simp only [bI_eq hb hz]; rw [hb]; exact e2
  · simp only [bR_eq hb hz, zA_eq hz]; exact e3
  · simp only [bR_eq hb hz, zA_eq hz]; exact e4
  · rw [h3]; exact e5
  · rw [ha 11 (by omega) (by omega), ha 12 (by omega) (by omega), ha 13 (by omega) (by omega), ha 14 (by omega) (by omega)]; exact e6
  · intro d hd
    exact (e7 d hd).eq (h5 d hd) (hw 6 d (Or.inl rfl) hd).1 (hw 7 d (Or.inr rfl) hd).1 (hw 6 d (Or.inl rfl) hd).2 (hw 7 d (Or.inr rfl) hd).2
theorem EncD.sd {a : Nat} (E : EncD g C a V q) (S : SD j C C2) (ha : a ≠ j) : EncD g C2 a V q :=
  E.eq (S.2.2.2.2.2.1 a ha) S.2.2.2.2.2.2.2.2.2.2 (S.2.1 3 a (by omega) (by omega)) (fun k h1 h2 => S.2.2.1 k a (by omega) (by omega)) (fun d hd => S.2.1 5 _ (by omega) (by omega)) (fun k d hk hd => ⟨S.2.2.1 k _ (by omega) (by omega), S.2.2.2.1 k _ (by omega)⟩)
/-- one heap of the day has changed -/
theorem EncD.heap {d : Nat} (E : EncD g C j V q) (hd : d < 8) (S : SH (8 * j + d) C C2) (hs : ∀ k, k < 8 → vs V2 k = vs V k) (ht : ∀ a b, a ≠ 7 → vt V2 a b = vt V a b) (h7 : ∀ e, e < 8 → e ≠ d → vt V2 7 e = vt V 7 e ∧ q2 e = q e) (hp : ∀ a e k, e ≠ d → vp V2 a e k = vp V a e k) (Hh : EncH C2 (8 * j + d) (vt V2 7 d) (vp V2 0 d) (vp V2 1 d) (q2 d)) (h9 : vs V2 9 = vs V 9 := by first | rfl | exact vs_ne (by omega)) : EncD g C2 j V2 q2 := by
  obtain ⟨e1, e2, e3, e4, e5, e6, e7⟩ := E
  have hb : oB C2 j = oB C j := by rw [S.2.2.2.2.2.1]
  have hz : oZ C2 = oZ C := S.2.2.2.2.2.2.2.2.2.2
  refine ⟨e1.eq hb hz, ?_, ?_, ?_, ?_, ?_, ?_⟩
  · simp only [bI_eq hb hz, hs 0 (by omega), hs 4 (by omega), hs 1 (by omega), hs 2 (by omega), hs 5 (by omega), h9]; rw [hb]; exact e2
  · simp only [bR_eq hb hz, zA_eq hz, hs 1 (by omega), ht 1 _ (by omega)]; exact e3
  · simp only [bR_eq hb hz, zA_eq hz, hs 2 (by omega), ht 5 _ (by omega), ht 6 _ (by omega)]; exact e4
  · rw [S.2.1 3 j (by omega), hs 7 (by omega), hs 6 (by omega), hs 3 (by omega)]; exact e5
  · intro f hf
    rw [S.2.2.1 11 j (by omega), S.2.2.1 12 j (by omega), S.2.2.1 13 j (by omega), S.2.2.1 14 j (by omega), ht 0 _ (by omega), ht 2 _ (by omega), ht 3 _ (by omega), ht 4 _ (by omega)]; exact e6 f hf
  · intro e he
    by_cases h : e = d
    · subst h; exact Hh
    · have h1 := (e7 e he).sh S (by omega)
      rw [(h7 e he h).1, (h7 e he h).2, show vp V2 0 e = vp V 0 e from funext fun k => hp 0 e k h, show vp V2 1 e = vp V 1 e from funext fun k => hp 1 e k h]
      exact h1
end ENC
section BL
variable {g : GG} {mt : MT} {kc ks pc : Nat} {L : List (Option Value)} {st rest : List Value} {σ σ0 : PH} {C : CS} {j i : Nat} {V : VS} {q : Nat → Nat}
theorem gX0_168 (d : decode mt.1.2.1 pc = .ok (.getfield 168, 3)) (ho : mt.1.1 = RX0) (E : EncD g C j V q) (H : Hold g σ C) (kk : Wp g mt kc ks (pc + 3) L (.int (nI (vs V 1)) :: st) σ) : Wp g mt kc ks pc L (.ref (oB C j) :: st) σ := w_getfN (k := 3) d clX6 (by decide) (by rw [ho]; exact q303) (H.z E.1.1) rfl (by have h := kk; rw [← E.b3] at h; exact h)
theorem gX0_177 (d : decode mt.1.2.1 pc = .ok (.getfield 177, 3)) (ho : mt.1.1 = RX0) (E : EncD g C j V q) (H : Hold g σ C) (kk : Wp g mt kc ks (pc + 3) L (.int (nI (vs V 2)) :: st) σ) : Wp g mt kc ks pc L (.ref (oB C j) :: st) σ := w_getfN (k := 4) d clX6 (by decide) (by rw [ho]; exact q308) (H.z E.1.1) rfl (by have h := kk; rw [← E.b4] at h; exact h)
theorem gX0_242 (d : decode mt.1.2.1 pc = .ok (.getfield 242, 3)) (ho : mt.1.1 = RX0) (E : EncD g C j V q) (H : Hold g σ C) (kk : Wp g mt kc ks (pc + 3) L (.int (nI (vs V 0)) :: st) σ) : Wp g mt kc ks pc L (.ref (oB C j) :: st) σ := w_getfN (k := 0) d clX6 (by decide) (by rw [ho]; exact q293) (H.z E.1.1) rfl (by have h := kk; rw [← E.b0] at h; exact h)
theorem gX0_248 (d : decode mt.1.2.1 pc = .ok (.getfield 248, 3)) (ho : mt.1.1 = RX0) (E : EncD g C j V q) (H : Hold g σ C) (kk : Wp g mt kc ks (pc + 3) L (.int (nI (vs V 4)) :: st) σ) : Wp g mt kc ks pc L (.ref (oB C j) :: st) σ := w_getfN (k := 2) d clX6 (by decide) (by rw [ho]; exact q299) (H.z E.1.1) rfl (by have h := kk; rw [← E.b2] at h; exact h)
theorem gX0_251 (d : decode mt.1.2.1 pc = .ok (.getfield 251, 3)) (ho : mt.1.1 = RX0) (E : EncD g C j V q) (H : Hold g σ C) (kk : Wp g mt kc ks (pc + 3) L (.int (nI (vs V 5)) :: st) σ) : Wp g mt kc ks pc L (.ref (oB C j) :: st) σ := w_getfN (k := 5) d clX6 (by decide) (by rw [ho]; exact q312) (H.z E.1.1) rfl (by have h := kk; rw [← E.b5] at h; exact h)
theorem gX0_268 (d : decode mt.1.2.1 pc = .ok (.getfield 268, 3)) (ho : mt.1.1 = RX0) (E : EncD g C j V q) (H : Hold g σ C) (kk : Wp g mt kc ks (pc + 3) L (.ref (bR C j 10) :: st) σ) : Wp g mt kc ks pc L (.ref (oB C j) :: st) σ := w_getfN (k := 10) d clX6 (by decide) (by rw [ho]; exact q325) (H.z E.1.1) rfl kk
theorem gX0_282 (d : decode mt.1.2.1 pc = .ok (.getfield 282, 3)) (ho : mt.1.1 = RX0) (E : EncD g C j V q) (H : Hold g σ C) (kk : Wp g mt kc ks (pc + 3) L (.ref (bR C j 12) :: st) σ) : Wp g mt kc ks pc L (.ref (oB C j) :: st) σ := w_getfN (k := 12) d clX6 (by decide) (by rw [ho]; exact q332) (H.z E.1.1) rfl kk
theorem gX0_285 (d : decode mt.1.2.1 pc = .ok (.getfield 285, 3)) (ho : mt.1.1 = RX0) (E : EncD g C j V q) (H : Hold g σ C) (kk : Wp g mt kc ks (pc + 3) L (.ref (bR C j 13) :: st) σ) : Wp g mt kc ks pc L (.ref (oB C j) :: st) σ := w_getfN (k := 13) d clX6 (by decide) (by rw [ho]; exact q336) (H.z E.1.1) rfl kk
theorem gX14_100 (d : decode mt.1.2.1 pc = .ok (.getfield 100, 3)) (ho : mt.1.1 = RX14) (E : EncD g C j V q) (H : Hold g σ C) (kk : Wp g mt kc ks (pc + 3) L (.int (nI (vs V 2)) :: st) σ) : Wp g mt kc ks pc L (.ref (oB C j) :: st) σ := w_getfN (k := 4) d clX6 (by decide) (by rw [ho]; exact q306) (H.z E.1.1) rfl (by have h := kk; rw [← E.b4] at h; exact h)
theorem gX5_42 (d : decode mt.1.2.1 pc = .ok (.getfield 42, 3)) (ho : mt.1.1 = RX5) (E : EncD g C j V q) (H : Hold g σ C) (kk : Wp g mt kc ks (pc + 3) L (.int (bI C j 1) :: st) σ) : Wp g mt kc ks pc L (.ref (oB C j) :: st) σ := w_getfN (k := 1) d clX6 (by decide) (by rw [ho]; exact q295) (H.z E.1.1) rfl kk
theorem gX5_46 (d : decode mt.1.2.1 pc = .ok (.getfield 46, 3)) (ho : mt.1.1 = RX5) (E : EncD g C j V q) (H : Hold g σ C) (kk : Wp g mt kc ks (pc + 3) L (.int (nI (vs V 2)) :: st) σ) : Wp g mt kc ks pc L (.ref (oB C j) :: st) σ := w_getfN (k := 4) d clX6 (by decide) (by rw [ho]; exact q304) (H.z E.1.1) rfl (by have h := kk; rw [← E.b4] at h; exact h)
theorem gX5_52 (d : decode mt.1.2.1 pc = .ok (.getfield 52, 3)) (ho : mt.1.1 = RX5) (E : EncD g C j V q) (H : Hold g σ C) (kk : Wp g mt kc ks (pc + 3) L (.ref (bR C j 9) :: st) σ) : Wp g mt kc ks pc L (.ref (oB C j) :: st) σ := w_getfN (k := 9) d clX6 (by decide) (by rw [ho]; exact q320) (H.z E.1.1) rfl kk
theorem gX5_53 (d : decode mt.1.2.1 pc = .ok (.getfield 53, 3)) (ho : mt.1.1 = RX5) (E : EncD g C j V q) (H : Hold g σ C) (kk : Wp g mt kc ks (pc + 3) L (.ref (bR C j 11) :: st) σ) : Wp g mt kc ks pc L (.ref (oB C j) :: st) σ := w_getfN (k := 11) d clX6 (by decide) (by rw [ho]; exact q327) (H.z E.1.1) rfl kk
theorem gX5_57 (d : decode mt.1.2.1 pc = .ok (.getfield 57, 3)) (ho : mt.1.1 = RX5) (E : EncD g C j V q) (H : Hold g σ C) (kk : Wp g mt kc ks (pc + 3) L (.int (bI C j 6) :: st) σ) : Wp g mt kc ks pc L (.ref (oB C j) :: st) σ := w_getfN (k := 6) d clX6 (by decide) (by rw [ho]; exact q313) (H.z E.1.1) rfl kk
theorem gX5_60 (d : decode mt.1.2.1 pc = .ok (.getfield 60, 3)) (ho : mt.1.1 = RX5) (E : EncD g C j V q) (H : Hold g σ C) (kk : Wp g mt kc ks (pc + 3) L (.ref (bR C j 15) :: st) σ) : Wp g mt kc ks pc L (.ref (oB C j) :: st) σ := w_getfN (k := 15) d clX6 (by decide) (by rw [ho]; exact q341) (H.z E.1.1) rfl kk
theorem gX5_63 (d : decode mt.1.2.1 pc = .ok (.getfield 63, 3)) (ho : mt.1.1 = RX5) (E : EncD g C j V q) (H : Hold g σ C) (kk : Wp g mt kc ks (pc + 3) L (.ref (bR C j 14) :: st) σ) : Wp g mt kc ks pc L (.ref (oB C j) :: st) σ := w_getfN (k := 14) d clX6 (by decide) (by rw [ho]; exact q338) (H.z E.1.1) rfl kk
theorem gX5_66 (d : decode mt.1.2.1 pc = .ok (.getfield 66, 3)) (ho : mt.1.1 = RX5) (E : EncD g C j V q) (H : Hold g σ C) (kk : Wp g mt kc ks (pc + 3) L (.ref (bR C j 16) :: st) σ) : Wp g mt kc ks pc L (.ref (oB C j) :: st) σ := w_getfN (k := 16) d clX6 (by decide) (by rw [ho]; exact q344) (H.z E.1.1) rfl kk
theorem gX5_83 (d : decode mt.1.2.1 pc = .ok (.getfield 83, 3)) (ho : mt.1.1 = RX5) (E : EncD g C j V q) (H : Hold g σ C) (kk : Wp g mt kc ks (pc + 3) L (.ref (bR C j 10) :: st) σ) : Wp g mt kc ks pc L (.ref (oB C j) :: st) σ := w_getfN (k := 10) d clX6 (by decide) (by rw [ho]; exact q323) (H.z E.1.1) rfl kk
theorem gX5_100 (d : decode mt.1.2.1 pc = .ok (.getfield 100, 3)) (ho : mt.1.1 = RX5) (E : EncD g C j V q) (H : Hold g σ C) (kk : Wp g mt kc ks (pc + 3) L (.ref (bR C j 12) :: st) σ) : Wp g mt kc ks pc L (.ref (oB C j) :: st) σ := w_getfN (k := 12) d clX6 (by decide) (by rw [ho]; exact q330) (H.z E.1.1) rfl kk
theorem gX5_123 (d : decode mt.1.2.1 pc = .ok (.getfield 123, 3)) (ho : mt.1.1 = RX5) (E : EncD g C j V q) (H : Hold g σ C) (kk : Wp g mt kc ks (pc + 3) L (.int (nI (vs V 5)) :: st) σ) : Wp g mt kc ks pc L (.ref (oB C j) :: st) σ := w_getfN (k := 5) d clX6 (by decide) (by rw [ho]; exact q310) (H.z E.1.1) rfl (by have h := kk; rw [← E.b5] at h; exact h)
theorem gX5_134 (d : decode mt.1.2.1 pc = .ok (.getfield 134, 3)) (ho : mt.1.1 = RX5) (E : EncD g C j V q) (H : Hold g σ C) (kk : Wp g mt kc ks (pc + 3) L (.ref (bR C j 13) :: st) σ) : Wp g mt kc ks pc L (.ref (oB C j) :: st) σ := w_getfN (k := 13) d clX6 (by decide) (by rw [ho]; exact q334) (H.z E.1.1) rfl kk
theorem gX5_137 (d : decode mt.1.2.1 pc = .ok (.getfield 137, 3)) (ho : mt.1.1 = RX5) (E : EncD g C j V q) (H : Hold g σ C) (kk : Wp g mt kc ks (pc + 3) L (.int (nI (vs V 1)) :: st) σ) : Wp g mt kc ks pc L (.ref (oB C j) :: st) σ := w_getfN (k := 3) d clX6 (by decide) (by rw [ho]; exact q301) (H.z E.1.1) rfl (by have h := kk; rw [← E.b3] at h; exact h)
theorem gX5_143 (d : decode mt.1.2.1 pc = .ok (.getfield 143, 3)) (ho : mt.1.1 = RX5) (E : EncD g C j V q) (H : Hold g σ C) (kk : Wp g mt kc ks (pc + 3) L (.int (nI (vs V 4)) :: st) σ) : Wp g mt kc ks pc L (.ref (oB C j) :: st) σ := w_getfN (k := 2) d clX6 (by decide) (by rw [ho]; exact q297) (H.z E.1.1) rfl (by have h := kk; rw [← E.b2] at h; exact h)
theorem ba_10 {a : Nat} (dd : decode mt.1.2.1 pc = .ok (.iaload, 1)) (E : EncD g C j V q) (K : OkV V) (ha : a < vs V 1) (H : Hold g σ C) (kk : Wp g mt kc ks (pc + 1) L (.int (nI (vt V 1 a)) :: st) σ) : Wp g mt kc ks pc L (.int (nI a) :: .ref (bR C j 10) :: st) σ := w_ialdN dd (H.z E.1.2.2.2.2.1) (by have := K.b; omega) (by omega) (by have h := kk; rw [← E.pace ha] at h; exact h)
theorem ba_12 {a : Nat} (dd : decode mt.1.2.1 pc = .ok (.iaload, 1)) (E : EncD g C j V q) (K : OkV V) (ha : a < vs V 2) (H : Hold g σ C) (kk : Wp g mt kc ks (pc + 1) L (.int (nI (vt V 5 a)) :: st) σ) : Wp g mt kc ks pc L (.int (nI a) :: .ref (bR C j 12) :: st) σ := w_ialdN dd (H.z E.1.2.2.2.2.2.2.1) (by have := K.b; omega) (by omega) (by have h := kk; rw [← E.fat ha] at h; exact h)
theorem ba_13 {a : Nat} (dd : decode mt.1.2.1 pc = .ok (.iaload, 1)) (E : EncD g C j V q) (K : OkV V) (ha : a < vs V 2) (H : Hold g σ C) (kk : Wp g mt kc ks (pc + 1) L (.int (nI (vt V 6 a)) :: st) σ) : Wp g mt kc ks pc L (.int (nI a) :: .ref (bR C j 13) :: st) σ := w_ialdN dd (H.z E.1.2.2.2.2.2.2.2.1) (by have := K.b; omega) (by omega) (by have h := kk; rw [← E.wor ha] at h; exact h)
end BL
section DROWS
variable {g : GG} {mt : MT} {kc ks pc : Nat} {L : List (Option Value)} {st rest : List Value} {σ σ0 : PH} {C : CS} {j i n c a : Nat} {V : VS} {q : Nat → Nat} {who tim : Nat → Nat}
theorem ha_6 (dd : decode mt.1.2.1 pc = .ok (.iaload, 1)) (hi : oO C (i / 8) = true) (Eh : EncH C i n who tim c) (ha : a < n) (H : Hold g σ C) (kk : Wp g mt kc ks (pc + 1) L (.int (nI (who a)) :: st) σ) : Wp g mt kc ks pc L (.int (nI a) :: .ref (od C 6 i) :: st) σ := ia_6 dd hi (by rw [Eh.l6]; have := Eh.cap; omega) (by rw [Eh.l6]; have := Eh.cap; omega) H (by rw [Eh.w ha]; exact kk)
theorem ha_7 (dd : decode mt.1.2.1 pc = .ok (.iaload, 1)) (hi : oO C (i / 8) = true) (Eh : EncH C i n who tim c) (ha : a < n) (H : Hold g σ C) (kk : Wp g mt kc ks (pc + 1) L (.int (nI (tim a)) :: st) σ) : Wp g mt kc ks pc L (.int (nI a) :: .ref (od C 7 i) :: st) σ := ia_7 dd hi (by rw [Eh.l7]; have := Eh.cap; omega) (by rw [Eh.l7]; have := Eh.cap; omega) H (by rw [Eh.m ha]; exact kk)
theorem da_11 (dd : decode mt.1.2.1 pc = .ok (.iaload, 1)) (hj : oO C j = true) (E : EncD g C j V q) (ha : a < 6) (H : Hold g σ C) (kk : Wp g mt kc ks (pc + 1) L (.int (nI (vt V 0 a)) :: st) σ) : Wp g mt kc ks pc L (.int (nI a) :: .ref (od C 11 j) :: st) σ := ia_11 dd hj ha H (by rw [E.a11 ha]; exact kk)
theorem da_12 (dd : decode mt.1.2.1 pc = .ok (.iaload, 1)) (hj : oO C j = true) (E : EncD g C j V q) (ha : a < 6) (H : Hold g σ C) (kk : Wp g mt kc ks (pc + 1) L (.int (nI (vt V 2 a)) :: st) σ) : Wp g mt kc ks pc L (.int (nI a) :: .ref (od C 12 j) :: st) σ := ia_12 dd hj ha H (by rw [E.a12 ha]; exact kk)
theorem da_13 (dd : decode mt.1.2.1 pc = .ok (.iaload, 1)) (hj : oO C j = true) (E : EncD g C j V q) (ha : a < 6) (H : Hold g σ C) (kk : Wp g mt kc ks (pc + 1) L (.int (nI (vt V 3 a)) :: st) σ) : Wp g mt kc ks pc L (.int (nI a) :: .ref (od C 13 j) :: st) σ := ia_13 dd hj ha H (by rw [E.a13 ha]; exact kk)
theorem da_14 (dd : decode mt.1.2.1 pc = .ok (.iaload, 1)) (hj : oO C j = true) (E : EncD g C j V q) (ha : a < 6) (H : Hold g σ C) (kk : Wp g mt kc ks (pc + 1) L (.int (nI (vt V 4 a)) :: st) σ) : Wp g mt kc ks pc L (.int (nI a) :: .ref (od C 14 j) :: st) σ := ia_14 dd hj ha H (by rw [E.a14 ha]; exact kk)
theorem EncD.stH {f : Nat} {x : Int32} (H : Hold g σ (uI C 0 30 f x)) (E : EncD g C j V q) : EncD g (uI C 0 30 f x) j V q := E.eq rfl rfl rfl (fun _ _ _ => rfl) (fun _ _ => rfl) (fun _ _ _ _ => ⟨rfl, rfl⟩)
theorem gst_85 {x : Int32} (d : decode mt.1.2.1 pc = .ok (.getfield 85, 3)) (ho : mt.1.1 = RX0) (hx : oO C 0 = true) (H : Hold g σ (uI C 0 30 7 x)) (kk : Wp g mt kc ks (pc + 3) L (.int x :: st) σ) : Wp g mt kc ks pc L (.ref (od C 0 30) :: st) σ := gX0_85 (C := uI C 0 30 7 x) d ho hx H kk
end DROWS
section DSETS
variable {g : GG} {C : CS} {j i n c : Nat} {V : VS} {q : Nat → Nat} {who tim : Nat → Nat}
theorem vt_ne {V : VS} {j i x a b : Nat} (h : a = j → b = i → False) : vt (setT V j i x) a b = vt V a b := by rw [setT_t, if_neg (fun z => h z.1 z.2)]
theorem vs_ne {V : VS} {k x i : Nat} (h : i ≠ k) : vs (setS V k x) i = vs V i := by rw [setS_s, if_neg h]

theorem SD.A11 {f : Nat} {x : Int32} : SD j C (uA C 11 j f x) := ⟨fun _ _ _ _ => rfl, fun _ _ _ _ => rfl, fun a b _ h => up3_ne2 _ _ (fun u v => h ⟨by omega, by omega, v⟩), fun _ _ _ => rfl, rfl, fun _ _ => rfl, rfl, rfl, rfl, rfl, rfl⟩
theorem EncD.A11 (E : EncD g C j V q) {f : Nat} (x : Nat) : EncD g (uA C 11 j f (nI x)) j (setT V 0 f x) q := by
  obtain ⟨e1, e2, e3, e4, e5, e6, e7⟩ := E
  have ha : ∀ b, oA (uA C 11 j f (nI x)) 11 j b = if b = f then nI x else oA C 11 j b := by
    intro b
    by_cases h : b = f
    · subst h; rw [if_pos rfl]; exact oA_eq C 11 j b (nI x)
    · rw [if_neg h]; exact oA_ne C _ (fun _ _ z => h z)
  refine ⟨e1.eq rfl rfl, e2, fun a h => ?_, fun a h => ?_, e5, fun a h => ?_, fun d hd => ?_⟩
  · rw [vt_ne (by omega)]; exact e3 a h
  · rw [vt_ne (by omega), vt_ne (by omega)]; exact e4 a h
  · have h6 := e6 a h
    have hb : ∀ m, m ≠ 11 → oA (uA C 11 j f (nI x)) m j a = oA C m j a := fun m hm => oA_ne C _ (fun z _ _ => hm z)
    refine ⟨?_, ?_, ?_, ?_⟩
    all_goals first
      | (rw [hb _ (by omega), vt_ne (by omega)]; first | exact h6.1 | exact h6.2.1 | exact h6.2.2.1 | exact h6.2.2.2)
      | (rw [ha, setT_t]; by_cases hf : a = f <;> simp only [hf, and_self, if_true, and_false, if_false] <;> first | rfl | exact h6.1 | exact h6.2.1 | exact h6.2.2.1 | exact h6.2.2.2)
  · rw [vt_ne (by omega)]
    exact (e7 d hd).eq rfl rfl rfl rfl rfl
theorem SD.A12 {f : Nat} {x : Int32} : SD j C (uA C 12 j f x) := ⟨fun _ _ _ _ => rfl, fun _ _ _ _ => rfl, fun a b _ h => up3_ne2 _ _ (fun u v => h ⟨by omega, by omega, v⟩), fun _ _ _ => rfl, rfl, fun _ _ => rfl, rfl, rfl, rfl, rfl, rfl⟩
theorem EncD.A12 (E : EncD g C j V q) {f : Nat} (x : Nat) : EncD g (uA C 12 j f (nI x)) j (setT V 2 f x) q := by
  obtain ⟨e1, e2, e3, e4, e5, e6, e7⟩ := E
  have ha : ∀ b, oA (uA C 12 j f (nI x)) 12 j b = if b = f then nI x else oA C 12 j b := by
    intro b
    by_cases h : b = f
    · subst h; rw [if_pos rfl]; exact oA_eq C 12 j b (nI x)
    · rw [if_neg h]; exact oA_ne C _ (fun _ _ z => h z)
  refine ⟨e1.eq rfl rfl, e2, fun a h => ?_, fun a h => ?_, e5, fun a h => ?_, fun d hd => ?_⟩
  · rw [vt_ne (by omega)]; exact e3 a h
  · rw [vt_ne (by omega), vt_ne (by omega)]; exact e4 a h
  · have h6 := e6 a h
    have hb : ∀ m, m ≠ 12 → oA (uA C 12 j f (nI x)) m j a = oA C m j a := fun m hm => oA_ne C _ (fun z _ _ => hm z)
    refine ⟨?_, ?_, ?_, ?_⟩
    all_goals first
      | (rw [hb _ (by omega), vt_ne (by omega)]; first | exact h6.1 | exact h6.2.1 | exact h6.2.2.1 | exact h6.2.2.2)
      | (rw [ha, setT_t]; by_cases hf : a = f <;> simp only [hf, and_self, if_true, and_false, if_false] <;> first | rfl | exact h6.1 | exact h6.2.1 | exact h6.2.2.1 | exact h6.2.2.2)
  · rw [vt_ne (by omega)]
    exact (e7 d hd).eq rfl rfl rfl rfl rfl
theorem SD.A13 {f : Nat} {x : Int32} : SD j C (uA C 13 j f x) := ⟨fun _ _ _ _ => rfl, fun _ _ _ _ => rfl, fun a b _ h => up3_ne2 _ _ (fun u v => h ⟨by omega, by omega, v⟩), fun _ _ _ => rfl, rfl, fun _ _ => rfl, rfl, rfl, rfl, rfl, rfl⟩
theorem EncD.A13 (E : EncD g C j V q) {f : Nat} (x : Nat) : EncD g (uA C 13 j f (nI x)) j (setT V 3 f x) q := by
  obtain ⟨e1, e2, e3, e4, e5, e6, e7⟩ := E
  have ha : ∀ b, oA (uA C 13 j f (nI x)) 13 j b = if b = f then nI x else oA C 13 j b := by
    intro b
    by_cases h : b = f
    · subst h; rw [if_pos rfl]; exact oA_eq C 13 j b (nI x)
    · rw [if_neg h]; exact oA_ne C _ (fun _ _ z => h z)
  refine ⟨e1.eq rfl rfl, e2, fun a h => ?_, fun a h => ?_, e5, fun a h => ?_, fun d hd => ?_⟩
  · rw [vt_ne (by omega)]; exact e3 a h
  · rw [vt_ne (by omega), vt_ne (by omega)]; exact e4 a h
  · have h6 := e6 a h
    have hb : ∀ m, m ≠ 13 → oA (uA C 13 j f (nI x)) m j a = oA C m j a := fun m hm => oA_ne C _ (fun z _ _ => hm z)
    refine ⟨?_, ?_, ?_, ?_⟩
    all_goals first
      | (rw [hb _ (by omega), vt_ne (by omega)]; first | exact h6.1 | exact h6.2.1 | exact h6.2.2.1 | exact h6.2.2.2)
      | (rw [ha, setT_t]; by_cases hf : a = f <;> simp only [hf, and_self, if_true, and_false, if_false] <;> first | rfl | exact h6.1 | exact h6.2.1 | exact h6.2.2.1 | exact h6.2.2.2)
  · rw [vt_ne (by omega)]
    exact (e7 d hd).eq rfl rfl rfl rfl rfl
theorem SD.A14 {f : Nat} {x : Int32} : SD j C (uA C 14 j f x) := ⟨fun _ _ _ _ => rfl, fun _ _ _ _ => rfl, fun a b _ h => up3_ne2 _ _ (fun u v => h ⟨by omega, by omega, v⟩), fun _ _ _ => rfl, rfl, fun _ _ => rfl, rfl, rfl, rfl, rfl, rfl⟩
theorem EncD.A14 (E : EncD g C j V q) {f : Nat} (x : Nat) : EncD g (uA C 14 j f (nI x)) j (setT V 4 f x) q := by
  obtain ⟨e1, e2, e3, e4, e5, e6, e7⟩ := E
  have ha : ∀ b, oA (uA C 14 j f (nI x)) 14 j b = if b = f then nI x else oA C 14 j b := by
    intro b
    by_cases h : b = f
    · subst h; rw [if_pos rfl]; exact oA_eq C 14 j b (nI x)
    · rw [if_neg h]; exact oA_ne C _ (fun _ _ z => h z)
  refine ⟨e1.eq rfl rfl, e2, fun a h => ?_, fun a h => ?_, e5, fun a h => ?_, fun d hd => ?_⟩
  · rw [vt_ne (by omega)]; exact e3 a h
  · rw [vt_ne (by omega), vt_ne (by omega)]; exact e4 a h
  · have h6 := e6 a h
    have hb : ∀ m, m ≠ 14 → oA (uA C 14 j f (nI x)) m j a = oA C m j a := fun m hm => oA_ne C _ (fun z _ _ => hm z)
    refine ⟨?_, ?_, ?_, ?_⟩
    all_goals first
      | (rw [hb _ (by omega), vt_ne (by omega)]; first | exact h6.1 | exact h6.2.1 | exact h6.2.2.1 | exact h6.2.2.2)
      | (rw [ha, setT_t]; by_cases hf : a = f <;> simp only [hf, and_self, if_true, and_false, if_false] <;> first | rfl | exact h6.1 | exact h6.2.1 | exact h6.2.2.1 | exact h6.2.2.2)
  · rw [vt_ne (by omega)]
    exact (e7 d hd).eq rfl rfl rfl rfl rfl
theorem SD.I6 {x : Int32} : SD j C (uI C 3 j 6 x) := ⟨fun _ _ _ _ => rfl, fun a b _ h => up3_ne2 _ _ (fun u v => h ⟨u, v⟩), fun _ _ _ _ => rfl, fun _ _ _ => rfl, rfl, fun _ _ => rfl, rfl, rfl, rfl, rfl, rfl⟩
theorem EncD.I6 (E : EncD g C j V q) (x : Nat) : EncD g (uI C 3 j 6 (nI x)) j (setS V 7 x) q := by
  obtain ⟨e1, e2, e3, e4, e5, e6, e7⟩ := E
  have ha : oI (uI C 3 j 6 (nI x)) 3 j 6 = nI x := oI_eq C 3 j 6 (nI x)
  have hb : ∀ m, m ≠ 6 → oI (uI C 3 j 6 (nI x)) 3 j m = oI C 3 j m := fun m hm => oI_ne C _ (fun _ _ z => hm z)
  refine ⟨e1.eq rfl rfl, ?_, ?_, ?_, ?_, e6, fun d hd => (e7 d hd).eq rfl rfl rfl rfl rfl⟩
  · rw [vs_ne (by omega), vs_ne (by omega), vs_ne (by omega), vs_ne (by omega), vs_ne (by omega), vs_ne (by omega)]; exact e2
  · rw [vs_ne (by omega)]; exact e3
  · rw [vs_ne (by omega)]; exact e4
  · refine ⟨?_, ?_, ?_⟩
    all_goals first
      | (rw [hb _ (by omega), vs_ne (by omega)]; first | exact e5.1 | exact e5.2.1 | exact e5.2.2)
      | (rw [ha, setS_s, if_pos rfl])
theorem SD.I7 {x : Int32} : SD j C (uI C 3 j 7 x) := ⟨fun _ _ _ _ => rfl, fun a b _ h => up3_ne2 _ _ (fun u v => h ⟨u, v⟩), fun _ _ _ _ => rfl, fun _ _ _ => rfl, rfl, fun _ _ => rfl, rfl, rfl, rfl, rfl, rfl⟩
theorem EncD.I7 (E : EncD g C j V q) (x : Nat) : EncD g (uI C 3 j 7 (nI x)) j (setS V 6 x) q := by
  obtain ⟨e1, e2, e3, e4, e5, e6, e7⟩ := E
  have ha : oI (uI C 3 j 7 (nI x)) 3 j 7 = nI x := oI_eq C 3 j 7 (nI x)
  have hb : ∀ m, m ≠ 7 → oI (uI C 3 j 7 (nI x)) 3 j m = oI C 3 j m := fun m hm => oI_ne C _ (fun _ _ z => hm z)
  refine ⟨e1.eq rfl rfl, ?_, ?_, ?_, ?_, e6, fun d hd => (e7 d hd).eq rfl rfl rfl rfl rfl⟩
  · rw [vs_ne (by omega), vs_ne (by omega), vs_ne (by omega), vs_ne (by omega), vs_ne (by omega), vs_ne (by omega)]; exact e2
  · rw [vs_ne (by omega)]; exact e3
  · rw [vs_ne (by omega)]; exact e4
  · refine ⟨?_, ?_, ?_⟩
    all_goals first
      | (rw [hb _ (by omega), vs_ne (by omega)]; first | exact e5.1 | exact e5.2.1 | exact e5.2.2)
      | (rw [ha, setS_s, if_pos rfl])
theorem SD.I8 {x : Int32} : SD j C (uI C 3 j 8 x) := ⟨fun _ _ _ _ => rfl, fun a b _ h => up3_ne2 _ _ (fun u v => h ⟨u, v⟩), fun _ _ _ _ => rfl, fun _ _ _ => rfl, rfl, fun _ _ => rfl, rfl, rfl, rfl, rfl, rfl⟩
theorem EncD.I8 (E : EncD g C j V q) (x : Nat) : EncD g (uI C 3 j 8 (nI x)) j (setS V 3 x) q := by
  obtain ⟨e1, e2, e3, e4, e5, e6, e7⟩ := E
  have ha : oI (uI C 3 j 8 (nI x)) 3 j 8 = nI x := oI_eq C 3 j 8 (nI x)
  have hb : ∀ m, m ≠ 8 → oI (uI C 3 j 8 (nI x)) 3 j m = oI C 3 j m := fun m hm => oI_ne C _ (fun _ _ z => hm z)
  refine ⟨e1.eq rfl rfl, ?_, ?_, ?_, ?_, e6, fun d hd => (e7 d hd).eq rfl rfl rfl rfl rfl⟩
  · rw [vs_ne (by omega), vs_ne (by omega), vs_ne (by omega), vs_ne (by omega), vs_ne (by omega), vs_ne (by omega)]; exact e2
  · rw [vs_ne (by omega)]; exact e3
  · rw [vs_ne (by omega)]; exact e4
  · refine ⟨?_, ?_, ?_⟩
    all_goals first
      | (rw [hb _ (by omega), vs_ne (by omega)]; first | exact e5.1 | exact e5.2.1 | exact e5.2.2)
      | (rw [ha, setS_s, if_pos rfl])
theorem SH.I {x : Int32} : SH i C (uI C 5 i 2 x) := ⟨fun _ _ _ _ => rfl, fun a b h => up3_ne2 _ _ (fun u v => h ⟨u, v⟩), fun _ _ _ => rfl, fun _ _ _ => rfl, rfl, rfl, rfl, rfl, rfl, rfl, rfl⟩
theorem EncH.I (E : EncH C i n who tim c) {m : Nat} (hm : m ≤ n) : EncH (uI C 5 i 2 (nI m)) i m who tim c := ⟨oI_eq C 5 i 2 (nI m), Nat.le_trans hm E.2.1, E.2.2.1, E.2.2.2.1, E.2.2.2.2.1, fun k hk => E.2.2.2.2.2 k (by omega)⟩
theorem SH.F6 {F : Nat → Int32} : SH i C (uF C 6 i F) := ⟨fun _ _ _ _ => rfl, fun _ _ _ => rfl, fun a b h => up2_ne _ _ (fun u v => h ⟨Or.inl u, v⟩), fun _ _ _ => rfl, rfl, rfl, rfl, rfl, rfl, rfl, rfl⟩
theorem SH.F7 {F : Nat → Int32} : SH i C (uF C 7 i F) := ⟨fun _ _ _ _ => rfl, fun _ _ _ => rfl, fun a b h => up2_ne _ _ (fun u v => h ⟨Or.inr u, v⟩), fun _ _ _ => rfl, rfl, rfl, rfl, rfl, rfl, rfl, rfl⟩
theorem uA_F (C : CS) (k i a : Nat) (x : Int32) : uA C k i a x = uF C k i (upd (oA C k i) a x) := rfl
theorem uF_F (C : CS) (k i : Nat) (F G : Nat → Int32) : uF (uF C k i F) k i G = uF C k i G := by
  have h : up2 (up2 (oA C) k i F) k i G = up2 (oA C) k i G := by
    funext a b
    by_cases h : a = k ∧ b = i
    · obtain ⟨rfl, rfl⟩ := h; rw [up2_eq, up2_eq]
    · rw [up2_ne _ _ (fun x y => h ⟨x, y⟩), up2_ne _ _ (fun x y => h ⟨x, y⟩), up2_ne _ _ (fun x y => h ⟨x, y⟩)]
  show (_, _, up2 (up2 (oA C) k i F) k i G, _) = (_, _, up2 (oA C) k i G, _)
  rw [h]
  rfl
end DSETS
