/-! THE JOINT STATE (by hand): what holds of both sides between two calls -/
set_option maxRecDepth 100000
/-- slot j of the twin's row of ints, of its names -/
def slA (S : MS) (j : Nat) : Nat → Int32 := fun i => mA S 0 (1400 * j + i)
def slB (S : MS) (j : Nat) : Nat → Int64 := fun i => mB S 1 (14 * j + i)
theorem slA0 (S : MS) : slA S 0 = mA S 0 := funext fun i => by unfold slA; rw [Nat.mul_zero, Nat.zero_add]
theorem slB0 (S : MS) : slB S 0 = mB S 1 := funext fun i => by unfold slB; rw [Nat.mul_zero, Nat.zero_add]
def EncPA (a : Nat → Int32) (P : PG) : Prop := a 9 = nI (pn P) - nI 1 ∧ ∀ k, k + 1 < pn P → ∀ j, j < 6 → useF (pr P k 0) j → a (1030 + 6 * k + j) = nI (pr P k j)
def NmA (b : Nat → Int64) (V : VS) (nf nd : Nat → List Nat) : Prop := (∀ i, i < vs V 1 → b i = lN (n256 (nf i)) ∧ NmW (nf i)) ∧ ∀ i, i < vs V 2 → b (6 + i) = lN (n256 (nd i)) ∧ NmW (nd i)
theorem EncA.low {a a2 : Nat → Int32} {V : VS} (h : EncA a V) (K : OkV V) (e : ∀ i, i < 1400 → a2 i = a i) : EncA a2 V := by
  obtain ⟨h1, h2, h3, h4⟩ := h
  refine ⟨fun k hk => by rw [e _ (by omega)]; exact h1 k hk, fun f hf j hj => by rw [e _ (by omega)]; exact h2 f hf j hj, fun d hd j hj => by rw [e _ (by omega)]; exact h3 d hd j hj, fun d hd k hk j hj => ?_⟩
  have hn := K.n hd
  rw [e _ (by omega)]
  exact h4 d hd k hk j hj
theorem EncPA.low {a a2 : Nat → Int32} {P : PG} (h : EncPA a P) (hp : pn P ≤ 61) (e : ∀ i, i < 1400 → a2 i = a i) : EncPA a2 P :=
  ⟨by rw [e _ (by omega)]; exact h.1, fun k hk j hj hu => by rw [e _ (by omega)]; exact h.2 k hk j hj hu⟩
theorem NmA.low {b b2 : Nat → Int64} {V : VS} {nf nd : Nat → List Nat} (h : NmA b V nf nd) (K : OkV V) (e : ∀ i, i < 14 → b2 i = b i) : NmA b2 V nf nd := by
  have kb := K.b
  exact ⟨fun i hi => by rw [e _ (by omega)]; exact h.1 i hi, fun i hi => by rw [e _ (by omega)]; exact h.2 i hi⟩
/-- the component's program of house j -/
def PgR (g : GG) (C : CS) (j : Nat) (P : PG) : Prop := (pn P = 0 ∧ oP C j = none) ∨ (0 < pn P ∧ ∃ pa, oP C j = some pa ∧ DaysZ g (oZ C) P pa)
/-- nothing that day j, its beach, its program rest on has changed -/
def KD (j : Nat) (C C2 : CS) : Prop := oB C2 j = oB C j ∧ oP C2 j = oP C j ∧ oI C2 3 j = oI C 3 j ∧ (∀ k, 11 ≤ k → k ≤ 14 → oA C2 k j = oA C k j) ∧ (∀ d, d < 8 → oI C2 5 (8 * j + d) = oI C 5 (8 * j + d)) ∧ (∀ k d, k = 6 ∨ k = 7 → d < 8 → oA C2 k (8 * j + d) = oA C k (8 * j + d) ∧ oN C2 k (8 * j + d) = oN C k (8 * j + d)) ∧ ∀ a e, oZ C a = some e → oZ C2 a = some e
section KDS
variable {g : GG} {j : Nat} {C C2 C3 : CS} {V : VS} {q : Nat → Nat} {nf nd : Nat → List Nat} {P : PG}
theorem KD.refl : KD j C C := ⟨rfl, rfl, rfl, fun _ _ _ => rfl, fun _ _ => rfl, fun _ _ _ _ => ⟨rfl, rfl⟩, fun _ _ h => h⟩
theorem KD.trans (h : KD j C C2) (k : KD j C2 C3) : KD j C C3 := by
  obtain ⟨a1, a2, a3, a4, a5, a6, a7⟩ := h
  obtain ⟨b1, b2, b3, b4, b5, b6, b7⟩ := k
  exact ⟨b1.trans a1, b2.trans a2, b3.trans a3, fun x u v => (b4 x u v).trans (a4 x u v), fun d u => (b5 d u).trans (a5 d u), fun x d u v => ⟨(b6 x d u v).1.trans (a6 x d u v).1, (b6 x d u v).2.trans (a6 x d u v).2⟩, fun a e z => b7 a e (a7 a e z)⟩
theorem EncD.kd (E : EncD g C j V q) (K : KD j C C2) : EncD g C2 j V q := by
  obtain ⟨a1, a2, a3, a4, a5, a6, a7⟩ := K
  have E1 : EncD g (sMZ C (oM C2) (oZ C2)) j V q := E.mono ⟨rfl, rfl, rfl, rfl, rfl, rfl, rfl, rfl, rfl, a7⟩
  exact E1.eq a1 rfl a3 a4 a5 a6
theorem NmJ.kd (E : EncD g C j V q) (N : NmJ C j V nf nd) (K : KD j C C2) : NmJ C2 j V nf nd := by
  obtain ⟨a1, a2, a3, a4, a5, a6, a7⟩ := K
  have e0 := E.1.1
  have e7 := E.1.2.1
  have e8 := E.1.2.2.1
  have hF : ∀ f, bF C2 j f = bF C j f := fun f => by
    unfold bF
    rw [a1, a7 _ _ e0, e0]
  have hR : ∀ f, bR C2 j f = bR C j f := fun f => congrArg vR (hF f)
  have z7 : zL C2 (bR C j 7) = zL C (bR C j 7) := zL_of (a7 _ _ e7)
  have z8 : zL C2 (bR C j 8) = zL C (bR C j 8) := zL_of (a7 _ _ e8)
  refine ⟨fun i hi => ?_, fun i hi => ?_⟩
  · rw [hR, z7]
    exact N.1 i hi
  · rw [hR, z8]
    exact N.2 i hi
theorem DaysZ.mono {Z Z2 : Nat → Option va_E} {pa : Nat} (h : DaysZ g Z P pa) (hZ : ∀ a e, Z a = some e → Z2 a = some e) : DaysZ g Z2 P pa := by
  obtain ⟨arr, m, hz, ⟨cap, f, hA, h1, h2, h3, hi⟩, hq⟩ := h
  have hb : Bld g P Z 4 0 (pn P - 1) m f := hi
  have hb2 := Bld.mono (P2 := P) (Z2 := Z2) (fun _ _ _ => rfl) hZ hb
  exact ⟨arr, m, hZ _ _ hz, ⟨cap, f, hZ _ _ hA, h1, h2, h3, hb2⟩, hq⟩
theorem PgR.kd (h : PgR g C j P) (K : KD j C C2) : PgR g C2 j P := by
  obtain ⟨a1, a2, a3, a4, a5, a6, a7⟩ := K
  rcases h with ⟨h1, h2⟩ | ⟨h1, pa, h2, h3⟩
  · exact Or.inl ⟨h1, a2.trans h2⟩
  · exact Or.inr ⟨h1, pa, a2.trans h2, h3.mono a7⟩
/-- day j stands on both sides -/
def DayV (g : GG) (C : CS) (S : MS) (j : Nat) (V : VS) (nf nd : Nat → List Nat) (P : PG) : Prop :=
  (∃ q, EncD g C j V q) ∧ EncA (slA S j) V ∧ OkV V ∧ KepV V ∧ NmJ C j V nf nd ∧ NmA (slB S j) V nf nd ∧ PgR g C j P ∧ EncPA (slA S j) P ∧ OkP (vs V 0) (vs V 1) (vs V 2) P
def DayR (g : GG) (C : CS) (S : MS) (j : Nat) : Prop := ∃ V nf nd P, DayV g C S j V nf nd P
variable {S S2 : MS}
theorem DayR.fr (D : DayR g C S j) (K : KD j C C2) (eA : ∀ i, i < 1400 → slA S2 j i = slA S j i) (eB : ∀ i, i < 14 → slB S2 j i = slB S j i) : DayR g C2 S2 j := by
  obtain ⟨V, nf, nd, P, ⟨q, E⟩, h2, h3, h4, h5, h6, h7, h8, h9⟩ := D
  exact ⟨V, nf, nd, P, ⟨q, E.kd K⟩, h2.low h3 eA, h3, h4, h5.kd E K, h6.low h3 eB, h7.kd K, h8.low h9.1 eA, h9⟩
theorem DayR.ex (D : DayR g C S j) : ∃ W p, EncD g C j W p := by
  obtain ⟨V, nf, nd, P, ⟨q, E⟩, -⟩ := D
  exact ⟨V, q, E⟩
end KDS
def JTape (C : CS) (S : MS) : Prop := ∃ (p : Nat) (tp : Nat → Nat), p ≤ 900 ∧ oI C 0 30 2 = nI p ∧ mI S 10 = nI p ∧ TpC C tp ∧ TpS S tp
/-- what lies in the trays' rows of bytes and of shorts is a byte, a short -/
def RgT (T : TS) : Prop := ∀ t k, t < 4 → k + 1 < tm T t → (tk T t = 0 → -128 ≤ (tv T t k).toInt ∧ (tv T t k).toInt ≤ 127) ∧ (tk T t = 1 → -32768 ≤ (tv T t k).toInt ∧ (tv T t k).toInt ≤ 32767)
def OkTr (T : TS) : Prop := OkT T ∧ RgT T
def JTray (g : GG) (C : CS) (S : MS) : Prop := ∃ T : TS, EncTC g C T ∧ EncT S T ∧ OkTr T
def JLiv (C : CS) (S : MS) : Prop := (∀ i, i < 5 → oA C 0 21 i = mA S 35 i) ∧ oI C 0 30 22 = mI S 36
def JTold (C : CS) (S : MS) : Prop := ∃ (m : Nat) (w : Nat → Nat), m ≤ 8 ∧ oI C 0 30 18 = nI m ∧ mI S 30 = nI m ∧ ∀ k, k < m → w k < 8 ∧ oA C 0 15 k = nI (w k) ∧ mA S 28 k = nI (w k)
def JLo (S : MS) : Prop := ∃ lo : Nat → Nat, EncL S lo ∧ ∀ o, lo o < 2147483648
def JMark (g : GG) (C : CS) (S : MS) : Prop := ∃ m, m ≤ 3 ∧ oI C 0 30 12 = nI m ∧ mI S 37 = nI m ∧ (∀ j, 1 ≤ j → j ≤ m → oO C j = true ∧ DayR g C S j) ∧ ∀ j, m < j → j ≤ 3 → oO C j = true → ∃ W p, EncD g C j W p
def JSmall (C : CS) (S : MS) : Prop := oI C 0 30 7 = mI S 2 ∧ (oL C 8 = mL S 3 ∧ oL C 9 = mL S 4) ∧ oI C 0 30 3 = mI S 16 ∧ oI C 0 30 4 = mI S 17
/-- all but the days -/
def JX (g : GG) (C : CS) (S : MS) : Prop := JSmall C S ∧ JTape C S ∧ JTray g C S ∧ JLiv C S ∧ JTold C S ∧ JLo S
def JC (g : GG) (C : CS) (S : MS) : Prop := JX g C S ∧ (oO C 0 = true ∧ oO C 4 = true) ∧ (∃ W p, EncD g C 4 W p) ∧ DayR g C S 0 ∧ JMark g C S
section JCS
variable {g : GG} {C C2 : CS} {S S2 : MS}
theorem JTape.c (h : JTape C S) (h1 : oI C2 0 30 2 = oI C 0 30 2) (h2 : oA C2 0 1 = oA C 0 1) (h3 : mI S2 10 = mI S 10) (h4 : mA S2 8 = mA S 8) : JTape C2 S2 := by
  obtain ⟨p, tp, a1, a2, a3, a4, a5⟩ := h
  exact ⟨p, tp, a1, h1.trans a2, h3.trans a3, fun k hk => by rw [h2]; exact a4 k hk, fun k hk => by rw [h4]; exact a5 k hk⟩
theorem JTray.c (h : JTray g C S) (h1 : oT C2 = oT C) (h5 : mA S2 5 = mA S 5) (h6 : mA S2 6 = mA S 6) (h7 : mB S2 7 = mB S 7) : JTray g C2 S2 := by
  obtain ⟨T, a1, a2, a3⟩ := h
  refine ⟨T, fun t ht => ?_, fun t ht => ?_, a3⟩
  · rw [h1]
    exact a1 t ht
  · rw [h5, h6, h7]
    exact a2 t ht
theorem JLiv.c (h : JLiv C S) (h1 : oA C2 0 21 = oA C 0 21) (h2 : oI C2 0 30 22 = oI C 0 30 22) (h3 : mA S2 35 = mA S 35) (h4 : mI S2 36 = mI S 36) : JLiv C2 S2 :=
  ⟨fun i hi => by rw [h1, h3]; exact h.1 i hi, by rw [h2, h4]; exact h.2⟩
theorem JTold.c (h : JTold C S) (h1 : oI C2 0 30 18 = oI C 0 30 18) (h2 : oA C2 0 15 = oA C 0 15) (h3 : mI S2 30 = mI S 30) (h4 : mA S2 28 = mA S 28) : JTold C2 S2 := by
  obtain ⟨m, w, a1, a2, a3, a4⟩ := h
  exact ⟨m, w, a1, h1.trans a2, h3.trans a3, fun k hk => by rw [h2, h4]; exact a4 k hk⟩
theorem JLo.c (h : JLo S) (h1 : mA S2 33 = mA S 33) : JLo S2 := by
  obtain ⟨lo, a1, a2⟩ := h
  exact ⟨lo, fun o ho => by rw [h1]; exact a1 o ho, a2⟩
theorem JMark.c (h : JMark g C S) (h1 : oI C2 0 30 12 = oI C 0 30 12) (h2 : mI S2 37 = mI S 37) (hO : oO C2 = oO C) (hK : ∀ j, 1 ≤ j → j ≤ 3 → KD j C C2) (hA : ∀ i, 1400 ≤ i → i < 5600 → mA S2 0 i = mA S 0 i) (hB : ∀ i, 14 ≤ i → i < 56 → mB S2 1 i = mB S 1 i) : JMark g C2 S2 := by
  obtain ⟨m, a1, a2, a3, a4, a5⟩ := h
  refine ⟨m, a1, h1.trans a2, h2.trans a3, fun j j1 j2 => ?_, fun j j1 j2 j3 => ?_⟩
  · obtain ⟨b1, b2⟩ := a4 j j1 j2
    exact ⟨by rw [hO]; exact b1, b2.fr (hK j j1 (by omega)) (fun i hi => hA _ (by omega) (by omega)) (fun i hi => hB _ (by omega) (by omega))⟩
  · rw [hO] at j3
    obtain ⟨W, p, E⟩ := a5 j j1 j2 j3
    exact ⟨W, p, E.kd (hK j (by omega) j2)⟩
/-- loose cells are forgotten -/
def nM (C : CS) : CS := sM8 C (fun _ => none)
theorem KD.nM {j : Nat} : KD j C (nM C) := ⟨rfl, rfl, rfl, fun _ _ _ => rfl, fun _ _ => rfl, fun _ _ _ _ => ⟨rfl, rfl⟩, fun _ _ h => h⟩
theorem JC.nM (J : JC g C S) : JC g (nM C) S := by
  obtain ⟨⟨x1, x2, x3, x4, x5, x6⟩, f, ⟨W, p, e4⟩, d0, mk⟩ := J
  exact ⟨⟨x1, x2.c rfl rfl rfl rfl, x3.c rfl rfl rfl rfl, x4.c rfl rfl rfl rfl, x5.c rfl rfl rfl rfl, x6⟩, f, ⟨W, p, e4.kd KD.nM⟩, d0.fr KD.nM (fun _ _ => rfl) (fun _ _ => rfl), mk.c rfl rfl rfl (fun _ _ _ => KD.nM) (fun _ _ _ => rfl) (fun _ _ _ => rfl)⟩
/-- day 0 has changed (or nothing), and the rest that JX tells -/
theorem JC.d0 (J : JC g C S) (hX : JX g C2 S2) (hO : oO C2 = oO C) (h4 : ∃ W p, EncD g C2 4 W p) (hK : ∀ j, 1 ≤ j → j ≤ 3 → KD j C C2) (h12 : oI C2 0 30 12 = oI C 0 30 12) (h37 : mI S2 37 = mI S 37) (hA : ∀ i, 1400 ≤ i → i < 5600 → mA S2 0 i = mA S 0 i) (hB : ∀ i, 14 ≤ i → i < 56 → mB S2 1 i = mB S 1 i) (hD : DayR g C2 S2 0) : JC g C2 S2 := by
  obtain ⟨-, f, -, -, mk⟩ := J
  exact ⟨hX, by rw [hO]; exact f, h4, hD, mk.c h12 h37 hO hK hA hB⟩
theorem JC.fr (J : JC g C S) (hX : JX g C2 S2) (hO : oO C2 = oO C) (h4 : ∃ W p, EncD g C2 4 W p) (hK : ∀ j, j ≤ 3 → KD j C C2) (h12 : oI C2 0 30 12 = oI C 0 30 12) (h37 : mI S2 37 = mI S 37) (hA : ∀ i, i < 5600 → mA S2 0 i = mA S 0 i) (hB : ∀ i, i < 56 → mB S2 1 i = mB S 1 i) : JC g C2 S2 :=
  J.d0 hX hO h4 (fun j _ h => hK j h) h12 h37 (fun i _ h => hA i h) (fun i _ h => hB i h) (J.2.2.2.1.fr (hK 0 (Nat.zero_le _)) (fun i hi => hA _ (by omega)) (fun i hi => hB _ (by omega)))
theorem JC.h0 (J : JC g C S) : oO C 0 = true := J.2.1.1
theorem JC.h4 (J : JC g C S) : oO C 4 = true := J.2.1.2
theorem JC.e4 (J : JC g C S) : ∃ W p, EncD g C 4 W p := J.2.2.1
theorem JC.dv (J : JC g C S) : DayR g C S 0 := J.2.2.2.1
theorem JC.mk (J : JC g C S) : JMark g C S := J.2.2.2.2
end JCS
/-- the heap holds both sides: the component's object at ax, the twin's at bm -/
def JJ (g : GG) (ax bm : Nat) (σ : PH) : Prop := ∃ (C : CS) (S : MS), Hold g σ C ∧ oM C = (fun _ => none) ∧ od C 0 30 = ax ∧ 20 ≤ bm ∧ bm + 16 ≤ σ.1 ∧ σ = sM g σ bm S ∧ JC g C S
theorem J_fr {g : GG} {σ σ1 : PH} {bm : Nat} {S : MS} (hb : 20 ≤ bm) (hs : σ = sM g σ bm S) (F : Fr σ σ1) : σ1 = sM g σ1 bm S := by
  refine Prod.ext rfl (funext fun a => ?_)
  show σ1.2 a = if bm ≤ a ∧ a < bm + 16 then some ((bm, a - bm), encM g bm S (a - bm)) else σ1.2 a
  by_cases h : bm ≤ a ∧ a < bm + 16
  · rw [if_pos h]
    have h2 : σ.2 a = some ((bm, a - bm), encM g bm S (a - bm)) := by
      rw [hs]
      exact if_pos h
    exact F.2 a _ _ hb h2
  · rw [if_neg h]
theorem Hold.sMb {g : GG} {σ : PH} {C : CS} {bm : Nat} {S S2 : MS} (H : Hold g σ C) (hb : 20 ≤ bm) (hz : bm + 16 ≤ σ.1) (hs : σ = sM g σ bm S) : Hold g (sM g σ bm S2) C := by
  have hin : ∀ a, bm ≤ a ∧ a < bm + 16 → σ.2 a = some ((bm, a - bm), encM g bm S (a - bm)) := fun a h => by
    rw [hs]
    exact if_pos h
  refine ⟨fun a ha => ?_, fun k j e he => ?_, fun a e he => ?_⟩
  · have ha2 : σ.1 ≤ a := ha
    show (if bm ≤ a ∧ a < bm + 16 then _ else σ.2 a) = none
    rw [if_neg (by omega)]
    exact H.1 a ha2
  · have h1 := H.get he
    show (if bm ≤ od C k j ∧ od C k j < bm + 16 then _ else σ.2 (od C k j)) = _
    rw [if_neg]
    · exact h1
    · intro z
      rw [hin _ z] at h1
      have hk : bm = k := congrArg (fun x : Tg × va_E => x.1.1) (Option.some.inj h1)
      rw [ce_hi (by omega)] at he
      cases he
  · have h1 := H.z he
    show (if bm ≤ a ∧ a < bm + 16 then _ else σ.2 a) = _
    rw [if_neg]
    · exact h1
    · intro z
      rw [hin _ z] at h1
      have hk : bm = 9 := congrArg (fun x : Tg × va_E => x.1.1) (Option.some.inj h1)
      omega
/-- the same call on both sides: both answer alike, and the joint state holds again -/
def PairG {α : Type} (mk : α → Value) (g : GG) (ax bm : Nat) (mi1 mi2 : MI) (As : List Value) (σ : PH) : Prop := ∃ (d1 mc ms d2 : Nat) (P : α → PH → Prop), d1 ≤ 300 ∧ d2 ≤ 300 ∧ mc ≤ 9000 ∧ ms ≤ 112000 ∧
  (∃ t fs, σ.2 ax = some (t, .inr (0, fs))) ∧ Ct g mi1 d1 mc ms (.ref ax :: As) σ (fun w σ1 => ∃ v, w = some (mk v) ∧ P v σ1) noX ∧
  ∀ v σ1, P v σ1 → (∃ t fs, σ1.2 bm = some (t, .inr (8, fs))) ∧ Ct g mi2 d2 0 0 (.ref bm :: As) σ1 (fun w σ2 => w = some (mk v) ∧ JJ g ax bm σ2) noX
theorem pair_of {α : Type} {mk : α → Value} {g : GG} {bm : Nat} {mi1 mi2 : MI} {As : List Value} {σ : PH} {C : CS} {S : MS} {v : α} {d1 mc ms d2 : Nat} {PC : CS → Prop} {PS : MS → Prop} (H : Hold g σ C) (hx : oO C 0 = true) (hb : 20 ≤ bm) (hz : bm + 16 ≤ σ.1) (hs : σ = sM g σ bm S)
    (hC : Cp g mi1 d1 mc ms (.ref (od C 0 30) :: As) C (some (mk v)) PC) (hM : Mp g mi2 d2 As S (some (mk v)) PS) (hd1 : d1 ≤ 300) (hd2 : d2 ≤ 300) (hc : mc ≤ 9000) (hl : ms ≤ 112000) (hJ : ∀ C2 S2, PC C2 → PS S2 → od C2 0 30 = od C 0 30 ∧ JC g C2 S2) : PairG mk g (od C 0 30) bm mi1 mi2 As σ := by
  refine ⟨d1, mc, ms, d2, fun v' σ1 => v' = v ∧ ∃ C2, PC C2 ∧ Hold g σ1 C2 ∧ σ.1 ≤ σ1.1 ∧ σ1 = sM g σ1 bm S, hd1, hd2, hc, hl, ⟨_, _, H.get (ce_X hx)⟩, ?_, ?_⟩
  · exact Ct.mono (hC σ H) (fun w σ2 h => by
      obtain ⟨h1, C2, h2, h3, h4⟩ := h
      exact ⟨v, h1, rfl, C2, h2, h3, h4.1, J_fr hb hs h4⟩) (fun _ _ _ h => h)
  · rintro v' σ1 ⟨rfl, C2, hp, H2, hle, hs1⟩
    refine ⟨⟨(bm, 0), encF bm S, by rw [hs1]; exact sM_0⟩, ?_⟩
    have h := hM σ1 bm
    rw [← hs1] at h
    refine Ct.mono h (fun w σ2 hw => ?_) (fun _ _ _ h => h)
    obtain ⟨e1, S2, h2, rfl⟩ := hw
    obtain ⟨j1, j2⟩ := hJ C2 S2 hp h2
    refine ⟨e1, nM C2, S2, Hold.less (H2.sMb hb (by omega) hs1) (fun i e z => by cases z), rfl, j1, hb, ?_, sM_sM.symm, j2.nM⟩
    show bm + 16 ≤ σ1.1
    omega
