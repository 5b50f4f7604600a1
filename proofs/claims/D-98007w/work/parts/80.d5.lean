set_option maxRecDepth 100000
section BEA
variable {g : GG} {C C2 C3 : CS} {j o : Nat} {V W : VS} {q p : Nat → Nat} {σ : PH}
theorem SD.B {x : Nat} : SD j C (uB C j x) := ⟨fun _ _ _ _ => rfl, fun _ _ _ _ => rfl, fun _ _ _ _ => rfl, fun _ _ _ => rfl, rfl, fun a h => va_up_ne (oB C) x h, rfl, rfl, rfl, rfl, rfl⟩
theorem SD.F {k : Nat} {F : Nat → Int32} (h1 : 11 ≤ k) (h2 : k ≤ 14) : SD j C (uF C k j F) := ⟨fun _ _ _ _ => rfl, fun _ _ _ _ => rfl, fun a b _ h => oA_F2 C F (fun u v => h ⟨by omega, by omega, v⟩), fun _ _ _ => rfl, rfl, fun _ _ => rfl, rfl, rfl, rfl, rfl, rfl⟩
theorem EncD.sdH {a : Nat} (H : Hold g σ C2) (E : EncD g C a V q) (S : SD j C C2) (ha : a ≠ j) : EncD g C2 a V q := E.sd S ha
/-- the day j is o's, but for its heaps from k on -/
def BeK (C : CS) (j o : Nat) (V W : VS) (q p : Nat → Nat) (k : Nat) : Prop :=
  oB C j = oB C o ∧ (oI C 3 j 6 = nI (vs V 7) ∧ oI C 3 j 7 = nI (vs V 6) ∧ oI C 3 j 8 = nI (vs V 3)) ∧
  (∀ f, f < 6 → oA C 11 j f = nI (vt V 0 f) ∧ oA C 12 j f = nI (vt V 2 f) ∧ oA C 13 j f = nI (vt V 3 f) ∧ oA C 14 j f = nI (vt V 4 f)) ∧
  (∀ d, d < 8 → d < k → EncH C (8 * j + d) (vt V 7 d) (vp V 0 d) (vp V 1 d) (if p d < vt V 7 d then q d else p d)) ∧
  ∀ d, d < 8 → k ≤ d → EncH C (8 * j + d) (vt W 7 d) (vp W 0 d) (vp W 1 d) (p d)
theorem cpy6 {F G : Nat → Int32} {f : Nat} (h : f < 6) : va_cpy F G 0 0 6 f = F f := by
  unfold va_cpy
  rw [if_pos (by omega)]
  congr 1
  omega
/-- how far the day j is o's -/
def BeP (C : CS) (j o : Nat) (V W : VS) (p : Nat → Nat) (m : Nat) : Prop :=
  oB C j = oB C o ∧ ((1 ≤ m → oI C 3 j 8 = nI (vs V 3)) ∧ (2 ≤ m → oI C 3 j 7 = nI (vs V 6)) ∧ (3 ≤ m → oI C 3 j 6 = nI (vs V 7))) ∧
  (∀ f, f < 6 → (4 ≤ m → oA C 11 j f = nI (vt V 0 f)) ∧ (5 ≤ m → oA C 12 j f = nI (vt V 2 f)) ∧ (6 ≤ m → oA C 13 j f = nI (vt V 3 f)) ∧ (7 ≤ m → oA C 14 j f = nI (vt V 4 f))) ∧
  ∀ d, d < 8 → EncH C (8 * j + d) (vt W 7 d) (vp W 0 d) (vp W 1 d) (p d)
theorem BeP.p0 (Ej : EncD g C j W p) (hne : o ≠ j) : BeP (uB C j (oB C o)) j o V W p 0 := by
  have hB : oB (uB C j (oB C o)) = va_up (oB C) j (oB C o) := rfl
  exact ⟨by rw [hB, va_up_self, va_up_ne _ _ hne], ⟨fun h => by omega, fun h => by omega, fun h => by omega⟩, fun f hf => ⟨fun h => by omega, fun h => by omega, fun h => by omega, fun h => by omega⟩, fun d hd => (Ej.h hd).eq rfl rfl rfl rfl rfl⟩
theorem BeP.p1 (B : BeP C j o V W p 0) : BeP (uI C 3 j 8 (nI (vs V 3))) j o V W p 1 := by
  obtain ⟨b1, b2, b3, b4⟩ := B
  exact ⟨b1, ⟨fun _ => oI_eq C 3 j 8 _, fun h => by omega, fun h => by omega⟩, fun f hf => ⟨fun h => by omega, fun h => by omega, fun h => by omega, fun h => by omega⟩, fun d hd => (b4 d hd).eq rfl rfl rfl rfl rfl⟩
theorem BeP.p2 (B : BeP C j o V W p 1) : BeP (uI C 3 j 7 (nI (vs V 6))) j o V W p 2 := by
  obtain ⟨b1, b2, b3, b4⟩ := B
  have h8 : oI (uI C 3 j 7 (nI (vs V 6))) 3 j 8 = oI C 3 j 8 := oI_ne (c := 8) C (nI (vs V 6)) (fun _ _ z => by omega)
  exact ⟨b1, ⟨fun _ => h8.trans (b2.1 (by omega)), fun _ => oI_eq C 3 j 7 _, fun h => by omega⟩, fun f hf => ⟨fun h => by omega, fun h => by omega, fun h => by omega, fun h => by omega⟩, fun d hd => (b4 d hd).eq rfl rfl rfl rfl rfl⟩
theorem BeP.p3 (B : BeP C j o V W p 2) : BeP (uI C 3 j 6 (nI (vs V 7))) j o V W p 3 := by
  obtain ⟨b1, b2, b3, b4⟩ := B
  have h8 : oI (uI C 3 j 6 (nI (vs V 7))) 3 j 8 = oI C 3 j 8 := oI_ne (c := 8) C (nI (vs V 7)) (fun _ _ z => by omega)
  have h7 : oI (uI C 3 j 6 (nI (vs V 7))) 3 j 7 = oI C 3 j 7 := oI_ne (c := 7) C (nI (vs V 7)) (fun _ _ z => by omega)
  exact ⟨b1, ⟨fun _ => h8.trans (b2.1 (by omega)), fun _ => h7.trans (b2.2.1 (by omega)), fun _ => oI_eq C 3 j 6 _⟩, fun f hf => ⟨fun h => by omega, fun h => by omega, fun h => by omega, fun h => by omega⟩, fun d hd => (b4 d hd).eq rfl rfl rfl rfl rfl⟩
abbrev cpC (C : CS) (k j o : Nat) : CS := uF C k j (va_cpy (oA C k o) (oA C k j) 0 0 6)
theorem cp_od (C : CS) (k j o : Nat) : od (cpC C k j o) = od C := rfl
theorem cp_oZ (C : CS) (k j o : Nat) : oZ (cpC C k j o) = oZ C := rfl
theorem cp_oO (C : CS) (k j o : Nat) : oO (cpC C k j o) = oO C := rfl
theorem BeP.p4 (B : BeP C j o V W p 3) (E : EncD g C o V q) : BeP (cpC C 11 j o) j o V W p 4 := by
  obtain ⟨b1, b2, b3, b4⟩ := B
  exact ⟨b1, b2.1 |> fun h => ⟨fun _ => h (by omega), fun _ => b2.2.1 (by omega), fun _ => b2.2.2 (by omega)⟩, fun f hf => ⟨fun _ => by rw [oA_F, cpy6 hf, E.a11 hf], fun h => by omega, fun h => by omega, fun h => by omega⟩, fun d hd => (b4 d hd).eq rfl rfl rfl rfl rfl⟩
theorem BeP.p5 (B : BeP C j o V W p 4) (E : EncD g C o V q) : BeP (cpC C 12 j o) j o V W p 5 := by
  obtain ⟨b1, b2, b3, b4⟩ := B
  exact ⟨b1, ⟨fun _ => b2.1 (by omega), fun _ => b2.2.1 (by omega), fun _ => b2.2.2 (by omega)⟩, fun f hf => ⟨fun _ => (b3 f hf).1 (by omega), fun _ => by rw [oA_F, cpy6 hf, E.a12 hf], fun h => by omega, fun h => by omega⟩, fun d hd => (b4 d hd).eq rfl rfl rfl rfl rfl⟩
theorem BeP.p6 (B : BeP C j o V W p 5) (E : EncD g C o V q) : BeP (cpC C 13 j o) j o V W p 6 := by
  obtain ⟨b1, b2, b3, b4⟩ := B
  exact ⟨b1, ⟨fun _ => b2.1 (by omega), fun _ => b2.2.1 (by omega), fun _ => b2.2.2 (by omega)⟩, fun f hf => ⟨fun _ => (b3 f hf).1 (by omega), fun _ => (b3 f hf).2.1 (by omega), fun _ => by rw [oA_F, cpy6 hf, E.a13 hf], fun h => by omega⟩, fun d hd => (b4 d hd).eq rfl rfl rfl rfl rfl⟩
theorem BeP.p7 (B : BeP C j o V W p 6) (E : EncD g C o V q) : BeP (cpC C 14 j o) j o V W p 7 := by
  obtain ⟨b1, b2, b3, b4⟩ := B
  exact ⟨b1, ⟨fun _ => b2.1 (by omega), fun _ => b2.2.1 (by omega), fun _ => b2.2.2 (by omega)⟩, fun f hf => ⟨fun _ => (b3 f hf).1 (by omega), fun _ => (b3 f hf).2.1 (by omega), fun _ => (b3 f hf).2.2.1 (by omega), fun _ => by rw [oA_F, cpy6 hf, E.a14 hf]⟩, fun d hd => (b4 d hd).eq rfl rfl rfl rfl rfl⟩
theorem BeP.k (B : BeP C j o V W p 7) : BeK C j o V W q p 0 := by
  obtain ⟨b1, b2, b3, b4⟩ := B
  exact ⟨b1, ⟨b2.2.2 (by omega), b2.2.1 (by omega), b2.1 (by omega)⟩, fun f hf => ⟨(b3 f hf).1 (by omega), (b3 f hf).2.1 (by omega), (b3 f hf).2.2.1 (by omega), (b3 f hf).2.2.2 (by omega)⟩, fun d _ h => absurd h (Nat.not_lt_zero d), fun d hd _ => b4 d hd⟩
theorem BeK.step {k : Nat} (B : BeK C j o V W q p k) (hk : k < 8) (hne : o ≠ j) (S : SH (8 * j + k) C C2) (Hh : EncH C2 (8 * j + k) (vt V 7 k) (vp V 0 k) (vp V 1 k) (if p k < vt V 7 k then q k else p k)) : BeK C2 j o V W q p (k + 1) := by
  obtain ⟨b1, b2, b3, b4, b5⟩ := B
  refine ⟨?_, ?_, ?_, fun d hd h => ?_, fun d hd h => (b5 d hd (by omega)).sh S (by omega)⟩
  · rw [S.2.2.2.2.2.1]; exact b1
  · rw [S.2.1 3 j (by omega)]; exact b2
  · rw [S.2.2.1 11 j (by omega), S.2.2.1 12 j (by omega), S.2.2.1 13 j (by omega), S.2.2.1 14 j (by omega)]; exact b3
  · by_cases hdk : d = k
    · subst hdk; exact Hh
    · exact (b4 d hd (by omega)).sh S (by omega)
theorem bF_o {f : Nat} (hb : oB C j = oB C o) : bF C j f = bF C o f := by unfold bF; rw [hb]
theorem BeK.fin (B : BeK C j o V W q p 8) (E : EncD g C o V q) : EncD g C j V (fun d => if p d < vt V 7 d then q d else p d) := by
  obtain ⟨b1, b2, b3, b4, -⟩ := B
  obtain ⟨e1, e2, e3, e4, -, -, -⟩ := E
  have hI : ∀ f, bI C j f = bI C o f := fun f => by unfold bI; rw [bF_o b1]
  have hR : ∀ f, bR C j f = bR C o f := fun f => by unfold bR; rw [bF_o b1]
  refine ⟨?_, ?_, ?_, ?_, b2, b3, fun d hd => b4 d hd hd⟩
  · unfold BeO encB at e1 ⊢
    simp only [hI, hR, b1]
    exact e1
  · simp only [hI]; rw [b1]; exact e2
  · simp only [hR]; exact e3
  · simp only [hR]; exact e4
end BEA
set_option maxHeartbeats 4000000 in
theorem kX5_be {g : GG} {C : CS} {j : Nat} {V : VS} {q : Nat → Nat} {o : Nat} {W : VS} {p : Nat → Nat} (hj : oO C j = true) (Ej : EncD g C j W p) (ho : oO C o = true) (E : EncD g C o V q) (hne : o ≠ j) (hl : oM C 90 = none) : Cp g miX5_be 2 (16) (1024) [.ref (od C 3 j), .ref (od C 3 o)] C (none) (fun C2 => EncD g C2 j V (fun d => if p d < vt V 7 d then q d else p d) ∧ SD j C C2) := by
  refine Cp.start [some (.ref (od C 3 j)), some (.ref (od C 3 o)), none] plX5 rfl (Nat.le_of_ble_eq_true rfl) rfl ?_
  intro σ0 σ H F
  have hj0 := hj
  have ho0 := ho
  have hS : SD j C C := SD.refl
  refine w_aload_n dX5_be_0 rfl ?_
  refine w_aload_n dX5_be_1 rfl ?_
  refine gX5_12 (C := C) dX5_be_2 rfl ho H ?_
  refine pX5_12 (C := C) dX5_be_5 rfl hj H F ?_
  intro σ H F
  have B := BeP.p0 (V := V) Ej hne
  have hS9 : SD j C (uB C j (oB C o)) := SD.B
  have E := EncD.sdH H E hS9 hne
  have hS := hS.trans hS9
  rw [show od C 3 j = od (uB C j (oB C o)) 3 j from rfl, show od C 3 o = od (uB C j (oB C o)) 3 o from rfl]
  clear hS9
  generalize uB C j (oB C o) = C1 at H B hS E ⊢
  have hj : oO C1 j = true := by rw [hS.on]; exact hj0
  have ho : oO C1 o = true := by rw [hS.on]; exact ho0
  refine w_aload_n dX5_be_8 rfl ?_
  refine w_aload_n dX5_be_9 rfl ?_
  refine gX5_37 (C := C1) dX5_be_10 rfl ho H ?_
  refine w_topN (E.ti) ?_
  refine pX5_37 (C := C1) dX5_be_13 rfl hj H F ?_
  intro σ H F
  have B := B.p1
  have hS9 : SD j C1 (uI C1 3 j 8 (nI (vs V 3))) := SD.I8
  have E := EncD.sdH H E hS9 hne
  have hS := hS.trans hS9
  rw [show od C1 3 j = od (uI C1 3 j 8 (nI (vs V 3))) 3 j from rfl, show od C1 3 o = od (uI C1 3 j 8 (nI (vs V 3))) 3 o from rfl]
  clear hS9
  generalize uI C1 3 j 8 (nI (vs V 3)) = C2 at H B hS E ⊢
  have hj : oO C2 j = true := by rw [hS.on]; exact hj0
  have ho : oO C2 o = true := by rw [hS.on]; exact ho0
  refine w_aload_n dX5_be_16 rfl ?_
  refine w_aload_n dX5_be_17 rfl ?_
  refine gX5_43 (C := C2) dX5_be_18 rfl ho H ?_
  refine w_topN (E.dy) ?_
  refine pX5_43 (C := C2) dX5_be_21 rfl hj H F ?_
  intro σ H F
  have B := B.p2
  have hS9 : SD j C2 (uI C2 3 j 7 (nI (vs V 6))) := SD.I7
  have E := EncD.sdH H E hS9 hne
  have hS := hS.trans hS9
  rw [show od C2 3 j = od (uI C2 3 j 7 (nI (vs V 6))) 3 j from rfl, show od C2 3 o = od (uI C2 3 j 7 (nI (vs V 6))) 3 o from rfl]
  clear hS9
  generalize uI C2 3 j 7 (nI (vs V 6)) = C3 at H B hS E ⊢
  have hj : oO C3 j = true := by rw [hS.on]; exact hj0
  have ho : oO C3 o = true := by rw [hS.on]; exact ho0
  refine w_aload_n dX5_be_24 rfl ?_
  refine w_aload_n dX5_be_25 rfl ?_
  refine gX5_49 (C := C3) dX5_be_26 rfl ho H ?_
  refine w_topN (E.th) ?_
  refine pX5_49 (C := C3) dX5_be_29 rfl hj H F ?_
  intro σ H F
  have B := B.p3
  have hS9 : SD j C3 (uI C3 3 j 6 (nI (vs V 7))) := SD.I6
  have E := EncD.sdH H E hS9 hne
  have hS := hS.trans hS9
  rw [show od C3 3 j = od (uI C3 3 j 6 (nI (vs V 7))) 3 j from rfl, show od C3 3 o = od (uI C3 3 j 6 (nI (vs V 7))) 3 o from rfl]
  clear hS9
  generalize uI C3 3 j 6 (nI (vs V 7)) = C4 at H B hS E ⊢
  have hj : oO C4 j = true := by rw [hS.on]; exact hj0
  have ho : oO C4 o = true := by rw [hS.on]; exact ho0
  refine w_aload_n dX5_be_32 rfl ?_
  refine gX5_18 (C := C4) dX5_be_33 rfl ho H ?_
  refine w_iconst (v := nI 0) dX5_be_36 ki_0 ?_
  refine w_aload_n dX5_be_37 rfl ?_
  refine gX5_18 (C := C4) dX5_be_38 rfl hj H ?_
  refine w_iconst (v := nI 0) dX5_be_41 ki_0 ?_
  refine w_bipush (v := nI 6) dX5_be_42 kb_6 ?_
  refine c_copy (cpC C4 11 j o) dX5_be_44 q1322 (ce_a11 (C := C4) ho) (ce_a11 (C := C4) hj) (by omega) (by omega) (by omega) H F (by omega) (cp_od _ _ _ _) (cp_oZ _ _ _ _) (by rw [ce_a11 (C := cpC C4 11 j o) (by rw [cp_oO]; exact hj), oA_F]) ot_F11 (Nat.le_of_ble_eq_true rfl) (Nat.le_of_ble_eq_true rfl) ?_
  intro σ H F
  have B := B.p4 E
  have hS9 : SD j C4 (cpC C4 11 j o) := SD.F (by omega) (by omega)
  have E := EncD.sdH H E hS9 hne
  have hS := hS.trans hS9
  rw [show od C4 3 j = od (cpC C4 11 j o) 3 j by rw [cp_od], show od C4 3 o = od (cpC C4 11 j o) 3 o by rw [cp_od]]
  clear hS9
  generalize cpC C4 11 j o = C5 at H B hS E ⊢
  have hj : oO C5 j = true := by rw [hS.on]; exact hj0
  have ho : oO C5 o = true := by rw [hS.on]; exact ho0
  refine w_aload_n dX5_be_47 rfl ?_
  refine gX5_22 (C := C5) dX5_be_48 rfl ho H ?_
  refine w_iconst (v := nI 0) dX5_be_51 ki_0 ?_
  refine w_aload_n dX5_be_52 rfl ?_
  refine gX5_22 (C := C5) dX5_be_53 rfl hj H ?_
  refine w_iconst (v := nI 0) dX5_be_56 ki_0 ?_
  refine w_bipush (v := nI 6) dX5_be_57 kb_6 ?_
  refine c_copy (cpC C5 12 j o) dX5_be_59 q1322 (ce_a12 (C := C5) ho) (ce_a12 (C := C5) hj) (by omega) (by omega) (by omega) H F (by omega) (cp_od _ _ _ _) (cp_oZ _ _ _ _) (by rw [ce_a12 (C := cpC C5 12 j o) (by rw [cp_oO]; exact hj), oA_F]) ot_F12 (Nat.le_of_ble_eq_true rfl) (Nat.le_of_ble_eq_true rfl) ?_
  intro σ H F
  have B := B.p5 E
  have hS9 : SD j C5 (cpC C5 12 j o) := SD.F (by omega) (by omega)
  have E := EncD.sdH H E hS9 hne
  have hS := hS.trans hS9
  rw [show od C5 3 j = od (cpC C5 12 j o) 3 j by rw [cp_od], show od C5 3 o = od (cpC C5 12 j o) 3 o by rw [cp_od]]
  clear hS9
  generalize cpC C5 12 j o = C6 at H B hS E ⊢
  have hj : oO C6 j = true := by rw [hS.on]; exact hj0
  have ho : oO C6 o = true := by rw [hS.on]; exact ho0
  refine w_aload_n dX5_be_62 rfl ?_
  refine gX5_25 (C := C6) dX5_be_63 rfl ho H ?_
  refine w_iconst (v := nI 0) dX5_be_66 ki_0 ?_
  refine w_aload_n dX5_be_67 rfl ?_
  refine gX5_25 (C := C6) dX5_be_68 rfl hj H ?_
  refine w_iconst (v := nI 0) dX5_be_71 ki_0 ?_
  refine w_bipush (v := nI 6) dX5_be_72 kb_6 ?_
  refine c_copy (cpC C6 13 j o) dX5_be_74 q1322 (ce_a13 (C := C6) ho) (ce_a13 (C := C6) hj) (by omega) (by omega) (by omega) H F (by omega) (cp_od _ _ _ _) (cp_oZ _ _ _ _) (by rw [ce_a13 (C := cpC C6 13 j o) (by rw [cp_oO]; exact hj), oA_F]) ot_F13 (Nat.le_of_ble_eq_true rfl) (Nat.le_of_ble_eq_true rfl) ?_
  intro σ H F
  have B := B.p6 E
  have hS9 : SD j C6 (cpC C6 13 j o) := SD.F (by omega) (by omega)
  have E := EncD.sdH H E hS9 hne
  have hS := hS.trans hS9
  rw [show od C6 3 j = od (cpC C6 13 j o) 3 j by rw [cp_od], show od C6 3 o = od (cpC C6 13 j o) 3 o by rw [cp_od]]
  clear hS9
  generalize cpC C6 13 j o = C7 at H B hS E ⊢
  have hj : oO C7 j = true := by rw [hS.on]; exact hj0
  have ho : oO C7 o = true := by rw [hS.on]; exact ho0
  refine w_aload_n dX5_be_77 rfl ?_
  refine gX5_28 (C := C7) dX5_be_78 rfl ho H ?_
  refine w_iconst (v := nI 0) dX5_be_81 ki_0 ?_
  refine w_aload_n dX5_be_82 rfl ?_
  refine gX5_28 (C := C7) dX5_be_83 rfl hj H ?_
  refine w_iconst (v := nI 0) dX5_be_86 ki_0 ?_
  refine w_bipush (v := nI 6) dX5_be_87 kb_6 ?_
  refine c_copy (cpC C7 14 j o) dX5_be_89 q1322 (ce_a14 (C := C7) ho) (ce_a14 (C := C7) hj) (by omega) (by omega) (by omega) H F (by omega) (cp_od _ _ _ _) (cp_oZ _ _ _ _) (by rw [ce_a14 (C := cpC C7 14 j o) (by rw [cp_oO]; exact hj), oA_F]) ot_F14 (Nat.le_of_ble_eq_true rfl) (Nat.le_of_ble_eq_true rfl) ?_
  intro σ H F
  have B := B.p7 E
  have hS9 : SD j C7 (cpC C7 14 j o) := SD.F (by omega) (by omega)
  have E := EncD.sdH H E hS9 hne
  have hS := hS.trans hS9
  rw [show od C7 3 j = od (cpC C7 14 j o) 3 j by rw [cp_od], show od C7 3 o = od (cpC C7 14 j o) 3 o by rw [cp_od]]
  clear hS9
  generalize cpC C7 14 j o = C8 at H B hS E ⊢
  have hj : oO C8 j = true := by rw [hS.on]; exact hj0
  have ho : oO C8 o = true := by rw [hS.on]; exact ho0
  refine w_iconst (v := nI 0) dX5_be_92 ki_0 ?_
  refine w_istore_n dX5_be_93 rfl (Nat.le_of_ble_eq_true rfl) ls_3_2 ?_
  have B := B.k (q := q)
  have lp : ∀ (j9 : Nat) (k : Nat) (C3 : CS) (σ : PH), 8 - k < j9 → k ≤ 8 → BeK C3 j o V W q p k → EncD g C3 o V q → SD j C C3 → Hold g σ C3 → Fr σ0 σ → Wp g (mtC g miX5_be 2 (16) (1024) σ0 (none) (fun C2 => EncD g C2 j V (fun d => if p d < vt V 7 d then q d else p d) ∧ SD j C C2)) (2 * (8 - k)) (128 * (8 - k)) 94 [some (.ref (od C3 3 j)), some (.ref (od C3 3 o)), some (.int (nI k))] [] σ := by
    intro j9
    induction j9 with
    | zero => intro k C3 σ hmu hk B E hS H F; exact absurd hmu (Nat.not_lt_zero _)
    | succ j9 ih_lp =>
      intro k C3 σ hmu hk B E hS H F
      have hj3 : oO C3 j = true := by rw [hS.on]; exact hj0
      have ho3 : oO C3 o = true := by rw [hS.on]; exact ho0
      have hl3 : oM C3 90 = none := by rw [hS.2.2.2.2.2.2.2.2.2.1]; exact hl
      refine w_iload_n dX5_be_94 rfl ?_
      refine w_bipush (v := nI 8) dX5_be_95 kb_8 ?_
      refine w_icmpN_ge dX5_be_97 rfl (by omega) (by omega) (fun h_97 => ?_) (fun h_97 => ?_)
      · have hk8 : k = 8 := by omega
        exact w_vret dX5_be_121 rfl ⟨by rfl, _, by exact ⟨by rw [hk8] at B; exact B.fin E, hS⟩, H, F⟩
      · refine w_aload_n dX5_be_100 rfl ?_
        refine gX5_33 (C := C3) dX5_be_101 rfl hj3 H ?_
        refine w_iload_n dX5_be_104 rfl ?_
        refine ga_heaps (C := C3) dX5_be_105 hj3 (by omega) H ?_
        refine w_aload_n dX5_be_106 rfl ?_
        refine gX5_33 (C := C3) dX5_be_107 rfl ho3 H ?_
        refine w_iload_n dX5_be_110 rfl ?_
        refine ga_heaps (C := C3) dX5_be_111 ho3 (by omega) H ?_
        have hcap := ((E.h (d := k) (by omega)).cap).2.1
        refine w_bud (kc2 := 2 * (8 - (k + 1)) + (if p k < vt V 7 k then 2 else 0)) (ks2 := 128 * (8 - (k + 1)) + (if p k < vt V 7 k then 2 * q k else 0)) (by split <;> omega) (by split <;> omega) ?_
        refine cp_call (mi := miX7_be) dX5_be_112 q1323 okX7_be clX7 rfl (H.get (ce_heap (on8 hj3 (by omega)))) (Nat.le_of_ble_eq_true rfl) (kX7_be (C := C3) (on8 hj3 (by omega)) (B.2.2.2.2 k (by omega) (Nat.le_refl k)) (on8 ho3 (by omega)) (E.h (d := k) (by omega)) (by omega) hl3) H F rfl rfl (Nat.le_of_ble_eq_true rfl) ?_
        intro σ C112 hC112 H F
        rw [show od C3 3 j = od C112 3 j from (hC112.2.1 3 j (by omega) (by omega)).symm]
        rw [show od C3 3 o = od C112 3 o from (hC112.2.1 3 o (by omega) (by omega)).symm]
        refine w_iinc dX5_be_115 rfl (nI_inc _ 1) rfl (Nat.le_of_ble_eq_true rfl) ls_3_2 ?_
        refine w_goto dX5_be_118 rfl ?_
        exact ih_lp (k + 1) C112 σ (by omega) (by omega) (B.step (by omega) hne hC112.2 hC112.1) (E.sd (hC112.2.D (by omega)) hne) (hS.trans (hC112.2.D (by omega))) H F
  exact lp 9 0 C8 σ (by omega) (by omega) B E hS H F
