/-! THE JOINT STATE: how calls keep it (by hand) -/
set_option maxRecDepth 100000
section JLS
variable {g : GG} {C C2 : CS} {S S2 : MS} {j a : Nat} {V V2 : VS} {qv q2 : Nat → Nat} {nf nd : Nat → List Nat} {P : PG} {w : Int32}
theorem mI_s {k : Nat} {v : Int32} : mI (sI S k v) k = v := if_pos rfl
theorem KD.uI0 {k f : Nat} {v : Int32} : KD j C (uI C 0 k f v) := ⟨rfl, rfl, rfl, fun _ _ _ => rfl, fun _ _ => rfl, fun _ _ _ _ => ⟨rfl, rfl⟩, fun _ _ h => h⟩
theorem KD.uF0 {k : Nat} {F : Nat → Int32} : KD j C (uF C 0 k F) := ⟨rfl, rfl, rfl, fun i h1 _ => oA_F2 C F (fun z _ => by omega), fun _ _ => rfl, fun i d h _ => ⟨oA_F2 C F (fun z _ => by omega), rfl⟩, fun _ _ h => h⟩
theorem KD.uL {k : Nat} {v : Int64} : KD j C (uL C k v) := ⟨rfl, rfl, rfl, fun _ _ _ => rfl, fun _ _ => rfl, fun _ _ _ _ => ⟨rfl, rfl⟩, fun _ _ h => h⟩
theorem SD.kd (h : SD a C C2) (hj : j ≠ a) : KD j C C2 := by
  obtain ⟨a1, a2, a3, a4, a5, a6, a7, a8, a9, a10, a11⟩ := h
  exact ⟨a6 j hj, congrFun a7 j, a2 3 j (by omega) (by omega), fun k h1 h2 => a3 k j (by omega) (by omega), fun d hd => a2 5 _ (by omega) (by omega), fun k d hk hd => ⟨a3 k _ (by omega) (by omega), a4 k _ (by omega)⟩, fun x e z => by rw [a11]; exact z⟩
theorem LiR.kd (h : LiR a C C2) (hj : j ≠ a) : KD j C C2 := by
  obtain ⟨a1, a2, a3, a4, a5, a6, a7, a8, a9, a10⟩ := h
  exact ⟨a6 j hj, congrFun a7 j, funext fun f => a2 3 j f (by omega) (by omega) (by omega), fun k h1 h2 => a3 k j (by omega) (by omega) (by omega), fun d hd => funext fun f => a2 5 _ f (by omega) (by omega) (by omega), fun k d hk hd => ⟨a3 k _ (by omega) (by omega) (by omega), a4 k _ (by omega)⟩, fun x e z => by rw [a10]; exact z⟩
theorem BeR.kd (h : BeR C C2) (hj : j ≠ 0) : KD j C C2 := by
  obtain ⟨a1, a2, a3, a4, a5, a6, a7, a8, a9, a10⟩ := h
  exact ⟨a6 j hj, a7 j hj, funext fun f => a2 3 j f (by omega) (by omega) (by omega) (by omega), fun k h1 h2 => a3 k j (by omega) (by omega), fun d hd => funext fun f => a2 5 _ f (by omega) (by omega) (by omega) (by omega), fun k d hk hd => ⟨a3 k _ (by omega) (by omega), a4 k _ (by omega)⟩, a10⟩
/-- the names of a beach that is the same -/
theorem NmJ.mv {i : Nat} (N : NmJ C i V nf nd) (E : EncD g C i V qv) (E2 : EncD g C2 j V2 q2) (h9 : vs V2 9 = vs V 9) (hz : ∀ x e, oZ C x = some e → oZ C2 x = some e) (h1 : vs V2 1 = vs V 1) (h2 : vs V2 2 = vs V 2) : NmJ C2 j V2 nf nd := by
  have hb : oB C2 j = oB C i := by rw [E2.b9, E.b9, h9]
  have e0 := E.1.1
  have hF : ∀ f, bF C2 j f = bF C i f := fun f => by
    unfold bF
    rw [hb, hz _ _ e0, e0]
  have hR : ∀ f, bR C2 j f = bR C i f := fun f => congrArg vR (hF f)
  have z7 : zL C2 (bR C i 7) = zL C (bR C i 7) := zL_of (hz _ _ E.1.2.1)
  have z8 : zL C2 (bR C i 8) = zL C (bR C i 8) := zL_of (hz _ _ E.1.2.2.1)
  refine ⟨fun k hk => ?_, fun k hk => ?_⟩
  · rw [hR, z7]
    exact N.1 k (by rw [← h1]; exact hk)
  · rw [hR, z8]
    exact N.2 k (by rw [← h2]; exact hk)
theorem NmA.mv {b : Nat → Int64} (N : NmA b V nf nd) (h1 : vs V2 1 = vs V 1) (h2 : vs V2 2 = vs V 2) : NmA b V2 nf nd := ⟨fun i hi => N.1 i (by rw [← h1]; exact hi), fun i hi => N.2 i (by rw [← h2]; exact hi)⟩
theorem PgR.mv {i : Nat} (h : PgR g C i P) (hp : oP C2 j = oP C i) (hz : ∀ x e, oZ C x = some e → oZ C2 x = some e) : PgR g C2 j P := by
  rcases h with ⟨h1, h2⟩ | ⟨h1, pa, h2, h3⟩
  · exact Or.inl ⟨h1, hp.trans h2⟩
  · exact Or.inr ⟨h1, pa, hp.trans h2, h3.mono hz⟩
/-- the day of slot i goes on as that of slot j: another day on the same beach, by the same program -/
theorem DayV.go {i : Nat} (D : DayV g C S i V nf nd P) (E2 : EncD g C2 j V2 q2) (EA : EncA (slA S2 j) V2) (O : OK3 V V2) (hz : ∀ x e, oZ C x = some e → oZ C2 x = some e) (hp : oP C2 j = oP C i) (hB : ∀ k, k < 14 → slB S2 j k = slB S i k) (hP : EncPA (slA S2 j) P) : DayR g C2 S2 j := by
  obtain ⟨⟨qv, E⟩, h2, h3, h4, h5, h6, h7, h8, h9⟩ := D
  obtain ⟨o1, o2, o3, o4, o5, o6⟩ := O
  exact ⟨V2, nf, nd, P, ⟨q2, E2⟩, EA, o1, o2, h5.mv E E2 o6 hz o4 o5, (h6.low h3 hB).mv o4 o5, h7.mv hp hz, hP, by rw [o3, o4, o5]; exact h9⟩
/-- the same day, held by other cells -/
theorem DayV.sl {i : Nat} (D : DayV g C S i V nf nd P) (E2 : EncD g C2 j V q2) (hz : ∀ x e, oZ C x = some e → oZ C2 x = some e) (hp : oP C2 j = oP C i) (hA : ∀ k, k < 1400 → slA S2 j k = slA S i k) (hB : ∀ k, k < 14 → slB S2 j k = slB S i k) : DayR g C2 S2 j :=
  D.go E2 (D.2.1.low D.2.2.1 hA) (OK3.refl D.2.2.1 D.2.2.2.1) hz hp hB (D.2.2.2.2.2.2.2.1.low D.2.2.2.2.2.2.2.2.1 hA)
/-- a call that asks: of X's parts the status has changed, and what no later call reads -/
def QX (g : GG) (C C2 : CS) (w : Int32) : Prop := od C2 0 30 = od C 0 30 ∧ oI C2 0 30 7 = w ∧ (∀ f, f ≠ 7 → oI C2 0 30 f = oI C 0 30 f) ∧ oL C2 = oL C ∧ (∀ k, k ≠ 19 → oA C2 0 k = oA C 0 k) ∧ oT C2 = oT C ∧ oO C2 = oO C ∧ (∀ j, j ≤ 3 → KD j C C2) ∧ ∃ W p, EncD g C2 4 W p
theorem QX.q (h : ∃ W p, EncD g C 4 W p) : QX g C (uI C 0 30 7 w) w := by
  obtain ⟨W, p, E⟩ := h
  exact ⟨rfl, oI_eq C 0 30 7 w, fun f hf => oI_ne C w (fun _ _ z => hf z), rfl, fun _ _ => rfl, rfl, rfl, fun _ _ => KD.uI0, W, p, E.kd KD.uI0⟩
theorem QX.bo (h : ∃ W p, EncD g C 4 W p) (hB : BoX C C2 w) : QX g C C2 w := by
  obtain ⟨W, p, E⟩ := h
  obtain ⟨G, rfl⟩ := hB
  exact ⟨rfl, oI_eq C 0 30 7 w, fun f hf => (show oI (uI C 0 30 7 w) 0 30 f = oI C 0 30 f from oI_ne C w (fun _ _ z => hf z)), rfl, fun k hk => oA_F2 (uI C 0 30 7 w) G (fun _ z => hk z), rfl, rfl, fun _ _ => KD.uI0.trans KD.uF0, W, p, E.kd (KD.uI0.trans KD.uF0)⟩
theorem QX.ga (h : GaX g C C2 w) : QX g C C2 w := by
  obtain ⟨h1, h2⟩ := h
  have hI : oI C2 0 30 = oI (uI C 0 30 7 w) 0 30 := h1.2.1 0 30 (by omega) (by omega)
  exact ⟨h1.1 0 30 (by omega) (by omega), by rw [hI]; exact oI_eq C 0 30 7 w, fun f hf => by rw [hI]; exact oI_ne C w (fun _ _ z => hf z), h1.2.2.2.2.1, fun k _ => h1.2.2.1 0 k (by omega) (by omega), h1.2.2.2.2.2.2.2.2.1, h1.2.2.2.2.2.2.2.1, fun j hj => KD.uI0.trans (h1.kd (by omega)), h2⟩
theorem QX.tr (h : ∃ W p, EncD g C 4 W p) (hT : TrX C C2 w) : QX g C C2 w := by
  obtain ⟨W, p, E⟩ := h
  obtain ⟨a, b, rfl⟩ := hT
  refine ⟨rfl, oI_eq _ 0 30 7 w, fun f hf => ?_, rfl, fun _ _ => rfl, rfl, rfl, fun _ _ => (KD.uI0.trans KD.uI0).trans KD.uI0, W, p, E.kd ((KD.uI0.trans KD.uI0).trans KD.uI0)⟩
  rw [oI_ne _ _ (fun _ _ z => hf z), oI_ne _ _ (fun _ z _ => by omega), oI_ne _ _ (fun _ _ z => hf z)]
/-- what a twin's call that asks keeps -/
theorem JX.qx (J : JX g C S) (h : QX g C C2 w) (hi : mI S2 2 = w) (hI : ∀ k, k = 10 ∨ k = 16 ∨ k = 17 ∨ k = 30 ∨ k = 36 → mI S2 k = mI S k) (hL : mL S2 3 = mL S 3 ∧ mL S2 4 = mL S 4) (hA : ∀ k, k = 5 ∨ k = 6 ∨ k = 8 ∨ k = 28 ∨ k = 33 ∨ k = 35 → mA S2 k = mA S k) (hB : mB S2 7 = mB S 7) : JX g C2 S2 := by
  obtain ⟨⟨x1, ⟨x2, x3⟩, x4, x5⟩, y1, y2, y3, y4, y5⟩ := J
  obtain ⟨-, q1, q2, q3, q4, q5, -⟩ := h
  exact ⟨⟨by rw [q1, hi], ⟨by rw [q3, hL.1, x2], by rw [q3, hL.2, x3]⟩, by rw [q2 3 (by omega), hI 16 (by omega), x4], by rw [q2 4 (by omega), hI 17 (by omega), x5]⟩, y1.c (q2 2 (by omega)) (q4 1 (by omega)) (hI 10 (by omega)) (hA 8 (by omega)), y2.c q5 (hA 5 (by omega)) (hA 6 (by omega)) hB, y3.c (q4 21 (by omega)) (q2 22 (by omega)) (hA 35 (by omega)) (hI 36 (by omega)), y4.c (q2 18 (by omega)) (q4 15 (by omega)) (hI 30 (by omega)) (hA 28 (by omega)), y5.c (hA 33 (by omega))⟩
theorem JC.qx (J : JC g C S) (h : QX g C C2 w) : od C2 0 30 = od C 0 30 ∧ JC g C2 (sI S 2 w) := by
  have h0 := h
  obtain ⟨q0, q1, q2, q3, q4, q5, q6, q7, q8⟩ := h
  exact ⟨q0, J.fr (J.1.qx h0 mI_s (fun k hk => sI_ne (by omega)) ⟨rfl, rfl⟩ (fun _ _ => rfl) rfl) q6 q8 q7 (q2 12 (by omega)) (sI_ne (by omega)) (fun _ _ => rfl) (fun _ _ => rfl)⟩
theorem JC.q (J : JC g C S) : od (uI C 0 30 7 w) 0 30 = od C 0 30 ∧ JC g (uI C 0 30 7 w) (sI S 2 w) := J.qx (QX.q J.e4)
/-- a call that changes day 0 -/
theorem JC.ch (J : JC g C S) (D : DayV g C S 0 V nf nd P) (hX : ChX g C C2 V2 w) (hS : ChS S S2 V2 w) (O : OK3 V V2) : od C2 0 30 = od C 0 30 ∧ JC g C2 S2 := by
  obtain ⟨q2, E2, hD⟩ := hX
  obtain ⟨S1, hc, rfl⟩ := hS
  obtain ⟨f1, f2, f3⟩ := hc.fr
  have hI : oI C2 0 30 = oI (uI C 0 30 7 w) 0 30 := hD.2.1 0 30 (by omega) (by omega)
  have hI7 : oI C2 0 30 7 = w := by rw [hI]; exact oI_eq C 0 30 7 w
  have hIn : ∀ f, f ≠ 7 → oI C2 0 30 f = oI C 0 30 f := fun f hf => by rw [hI]; exact oI_ne C w (fun _ _ z => hf z)
  have hA : ∀ k, oA C2 0 k = oA C 0 k := fun k => hD.2.2.1 0 k (by omega) (by omega)
  have hL : oL C2 = oL C := hD.2.2.2.2.1
  have hT : oT C2 = oT C := hD.2.2.2.2.2.2.2.2.1
  have hO : oO C2 = oO C := hD.2.2.2.2.2.2.2.1
  have hP : oP C2 = oP C := hD.2.2.2.2.2.2.1
  have hZ : oZ C2 = oZ C := hD.2.2.2.2.2.2.2.2.2.2
  have hm : ∀ k, k ≠ 2 → mI (sI S1 2 w) k = mI S k := fun k hk => (sI_ne hk).trans (f2 k)
  obtain ⟨⟨⟨x1, ⟨x2, x3⟩, x4, x5⟩, y1, y2, y3, y4, y5⟩, fl, ⟨W, p, E4⟩, -, mk⟩ := id J
  have hk : ∀ i, i ≠ 0 → KD i C C2 := fun i hi => KD.uI0.trans (hD.kd hi)
  have hPP : EncPA (slA (sI S1 2 w) 0) P := by
    rw [slA0]
    have h8 := D.2.2.2.2.2.2.2.1
    rw [slA0] at h8
    exact EncP.fr (S := S) (S2 := S1) h8 f1
  have hEA : EncA (slA (sI S1 2 w) 0) V2 := by
    rw [slA0]
    exact hc.E
  refine ⟨hD.1 0 30 (by omega) (by omega), J.d0 ⟨⟨by rw [hI7, mI_s], ⟨by rw [hL, x2]; exact (f1.2.1 3).symm, by rw [hL, x3]; exact (f1.2.1 4).symm⟩, by rw [hIn 3 (by omega), hm 16 (by omega), x4], by rw [hIn 4 (by omega), hm 17 (by omega), x5]⟩, y1.c (hIn 2 (by omega)) (hA 1) (hm 10 (by omega)) (f3 8 (by omega)), y2.c hT (f3 5 (by omega)) (f3 6 (by omega)) (f1.2.2.2.1 7), y3.c (hA 21) (hIn 22 (by omega)) (f3 35 (by omega)) (hm 36 (by omega)), y4.c (hIn 18 (by omega)) (hA 15) (hm 30 (by omega)) (f3 28 (by omega)), y5.c (f3 33 (by omega))⟩ hO ⟨W, p, E4.kd (hk 4 (by omega))⟩ (fun j h1 _ => hk j (by omega)) (hIn 12 (by omega)) (hm 37 (by omega)) (fun i h1 _ => f1.2.2.2.2.1 i (by omega)) (fun i _ _ => congrFun (f1.2.2.2.1 1) i) ?_⟩
  exact D.go E2 hEA O (fun x e z => by rw [hZ]; exact z) (congrFun hP 0) (fun i _ => congrFun (f1.2.2.2.1 1) (14 * 0 + i)) hPP
/-- trays -/
theorem TrW.n {T2 : TS} (h : TrW g C C2 T2 w) : TrN g C C2 T2 w := by
  obtain ⟨Cm, h1, h2, h3⟩ := h
  refine ⟨Cm, h1, ?_, h3⟩
  rcases h2 with rfl | ⟨i, e, -, rfl⟩
  · exact ⟨_, _, _, rfl, fun _ _ _ _ => rfl⟩
  · exact ⟨_, _, _, rfl, fun _ _ _ _ => rfl⟩
theorem JC.tr {T2 : TS} (J : JC g C S) (h : TrN g C C2 T2 w) (hf : FrT S S2) (hT : EncT S2 T2) (hi : mI S2 2 = w) (O : OkTr T2) : od C2 0 30 = od C 0 30 ∧ JC g C2 S2 := by
  obtain ⟨Cm, h1, ⟨d, t, m, rfl, hd⟩, a, b, rfl⟩ := h
  obtain ⟨f1, f2, f3, f4⟩ := hf
  obtain ⟨⟨⟨x1, ⟨x2, x3⟩, x4, x5⟩, y1, -, y3, y4, y5⟩, fl, ⟨W, p, E4⟩, -, mk⟩ := id J
  obtain ⟨Cm, hCm⟩ : ∃ X : CS, X = (d, C.2.1, C.2.2.1, C.2.2.2.1, C.2.2.2.2.1, C.2.2.2.2.2.1, C.2.2.2.2.2.2.1, C.2.2.2.2.2.2.2.1, t, m, C.2.2.2.2.2.2.2.2.2.2) := ⟨_, rfl⟩
  have kI : oI Cm = oI C := by rw [hCm]; rfl
  have kA : oA Cm = oA C := by rw [hCm]; rfl
  have kL : oL Cm = oL C := by rw [hCm]; rfl
  have kO : oO Cm = oO C := by rw [hCm]; rfl
  have kK : ∀ j, KD j C Cm := fun j => by rw [hCm]; exact ⟨rfl, rfl, rfl, fun _ _ _ => rfl, fun _ _ => rfl, fun _ _ _ _ => ⟨rfl, rfl⟩, fun _ _ h => h⟩
  have kd : od Cm 0 30 = od C 0 30 := by rw [hCm]; exact hd 0 30 (by omega) (by omega)
  rw [← hCm] at h1 ⊢
  clear hCm hd
  obtain ⟨C3, hC3⟩ : ∃ X : CS, X = uI (uI (uI Cm 0 30 7 a) 0 6 6 b) 0 30 7 w := ⟨_, rfl⟩
  have e7 : oI C3 0 30 7 = w := by rw [hC3]; exact oI_eq _ 0 30 7 w
  have eN : ∀ f, f ≠ 7 → oI C3 0 30 f = oI C 0 30 f := fun f hf => by
    rw [hC3, oI_ne _ _ (fun _ _ z => hf z), oI_ne _ _ (fun _ z _ => by omega), oI_ne _ _ (fun _ _ z => hf z), kI]
  have eA : ∀ k, oA C3 0 k = oA C 0 k := fun k => by rw [hC3, ← kA]; rfl
  have eL : oL C3 = oL C := by rw [hC3, ← kL]; rfl
  have eO : oO C3 = oO C := by rw [hC3, ← kO]; rfl
  have eK : ∀ j, KD j C C3 := fun j => (kK j).trans (by rw [hC3]; exact (KD.uI0.trans KD.uI0).trans KD.uI0)
  have eT : EncTC g C3 T2 := by rw [hC3]; exact h1
  have ed : od C3 0 30 = od C 0 30 := by rw [hC3, ← kd]; rfl
  rw [← hC3]
  clear hC3
  exact ⟨ed, J.fr ⟨⟨by rw [e7, hi], ⟨by rw [eL, f2, x2], by rw [eL, f2, x3]⟩, by rw [eN 3 (by omega), f1 16 (by omega), x4], by rw [eN 4 (by omega), f1 17 (by omega), x5]⟩, y1.c (eN 2 (by omega)) (eA 1) (f1 10 (by omega)) (f3 8 (by omega) (by omega)), ⟨T2, eT, hT, O⟩, y3.c (eA 21) (eN 22 (by omega)) (f3 35 (by omega) (by omega)) (f1 36 (by omega)), y4.c (eN 18 (by omega)) (eA 15) (f1 30 (by omega)) (f3 28 (by omega) (by omega)), y5.c (f3 33 (by omega) (by omega))⟩ eO ⟨W, p, E4.kd (eK 4)⟩ (fun j _ => eK j) (eN 12 (by omega)) (f1 37 (by omega)) (fun i _ => congrFun (f3 0 (by omega) (by omega)) i) (fun i _ => congrFun (f4 1 (by omega)) i)⟩
/-- a fraction is told -/
theorem tellS_st {n d : Nat} {v : Int32} : tellS (sI S 2 v) n d = tellS S n d := by
  refine Prod.ext (funext fun k => ?_) rfl
  show va_up (va_up S.1 2 v) 2 (nI 0) k = va_up S.1 2 (nI 0) k
  unfold va_up
  split <;> rfl
theorem JC.tell {n d : Nat} (J : JC g C (sI S 2 (nI 0))) : od (tellC C n d) 0 30 = od C 0 30 ∧ JC g (tellC C n d) (tellS S n d) := by
  rw [← tellS_st (v := nI 0)]
  generalize hS1 : sI S 2 (nI 0) = S1 at J ⊢
  have hst : mI S1 2 = nI 0 := by rw [← hS1]; exact mI_s
  obtain ⟨⟨⟨x1, ⟨x2, x3⟩, x4, x5⟩, y1, y2, y3, y4, y5⟩, fl, ⟨W, p, E4⟩, -, mk⟩ := id J
  have kK : ∀ j, KD j C (tellC C n d) := fun j => KD.uL.trans KD.uL
  have hm : ∀ k, k ≠ 2 → mI (tellS S1 n d) k = mI S1 k := fun k hk => sI_ne hk
  refine ⟨rfl, J.fr ⟨⟨x1.trans hst, ⟨?_, ?_⟩, by rw [hm 16 (by omega)]; exact x4, by rw [hm 17 (by omega)]; exact x5⟩, y1.c rfl rfl (hm 10 (by omega)) rfl, y2.c rfl rfl rfl rfl, y3.c rfl rfl rfl (hm 36 (by omega)), y4.c rfl rfl (hm 30 (by omega)) rfl, y5.c rfl⟩ rfl ⟨W, p, E4.kd (kK 4)⟩ (fun j _ => kK j) rfl (hm 37 (by omega)) (fun _ _ => rfl) (fun _ _ => rfl)⟩
  · show va_up (va_up (oL C) 8 (lN (n / Nat.gcd n d))) 9 (lN (d / Nat.gcd n d)) 8 = va_up (va_up S1.2.1 3 (lN (n / Nat.gcd n d))) 4 (lN (d / Nat.gcd n d)) 3
    rw [va_up_ne _ _ (by omega), va_up_self, va_up_ne _ _ (by omega), va_up_self]
  · show va_up (va_up (oL C) 8 (lN (n / Nat.gcd n d))) 9 (lN (d / Nat.gcd n d)) 9 = va_up (va_up S1.2.1 3 (lN (n / Nat.gcd n d))) 4 (lN (d / Nat.gcd n d)) 4
    rw [va_up_self, va_up_self]
end JLS
