set_option maxRecDepth 100000
/-! DAYS: calls that throw, new objects while a reader stands (printed by gen/y1.py) -/
section CY
variable {g : GG} {mt : MT} {mi mi2 : MI} {d mc ms d2 mc2 ms2 kc ks pc n : Nat} {args As rest stk st : List Value} {L : List (Option Value)} {C C1 : CS} {Q Q2 : Option Value → CS → Prop} {E E2 : CS → Prop} {σ σ0 : PH}
theorem cy_call {b ci N index : Nat} {Cn : String} {T : u_T} {ty : Nat → FieldType} {t : Tg} {fs : List Value} (dd : decode mi.2.1 pc = .ok (.invokevirtual index, 3)) (q : Cond.methodLink mi.1.cls index mi2.1 ∈ lw_all) (ok : MOkV mi2 n) (hC : ClOk ci Cn T N ty) (hcls : mi2.1.cls = Cn) (hb : σ.2 b = some (t, .inr (ci, fs))) (hd : d2 + 1 ≤ d) (hM : Cz g mi2 d2 mc2 ms2 (.ref b :: As) C1 Q2 E2) (hh : mi.2.2.2.2 = []) (H : Hold g σ C1) (F : Fr σ0 σ) (hR : od C1 0 5 = od C 0 5) (hE : ∀ C2, E2 C2 → E C2) (hn : As.length = n) (hst : stk = As.reverse ++ .ref b :: rest) (hcat : (rest.map fun v => v.category).sum ≤ 8)
    (kk : ∀ (v : Option Value) (σ : PH) (C2 : CS), Q2 v C2 → Hold g σ C2 → Fr σ0 σ → Wp g (mtX g mi d mc ms σ0 C Q E) kc ks (pc + 3) L (v.toList ++ rest) σ) : Wp g (mtX g mi d mc ms σ0 C Q E) (kc + mc2) (ks + ms2) pc L stk σ :=
  w_callV dd q ok hC hcls (hM σ H) hd hb hn hst hcat (fun w σ2 hw => by obtain ⟨C2, h2, h3, h4⟩ := hw; exact kk w σ2 C2 h2 h3 (F.trans h4)) (fun q9 E9 σ2 hx => by
    obtain ⟨h1, h2, C2, h3, h4, h5⟩ := hx
    exact t_out hh ⟨h1.trans hR, h2, C2, hE C2 h3, h4, F.trans h5⟩)
theorem cy_throw {a : Nat} (dd : decode mi.2.1 pc = .ok (.athrow, 1)) (hh : mi.2.2.2.2 = []) (hx : oO C1 0 = true) (H : Hold g σ C1) (F : Fr σ0 σ) (ha : od C1 0 5 = a) (hR : a = od C 0 5) (hE : E C1) : Wp g (mtX g mi d mc ms σ0 C Q E) kc ks pc L (.ref a :: rest) σ := by
  subst ha
  exact w_athrow (q := od C1 0 5) (rest := rest) dd clX2 (H.get (ce_bad hx)) (t_out hh ⟨hR, rfl, C1, hE, H, F⟩)
end CY
theorem nw_rd {C : CS} {i a n : Nat} {e : va_E} {q : RQ} (hi : i ≠ 1) : nwC (rdS C n q) i a e = rdS (nwC C i a e) n q := by
  have h : rdL (nwC C i a e) n q = rdL C n q := by
    unfold rdL
    rw [nw_ne (k := 0) (j := 30) (fun z _ => absurd z (by decide))]
  have hm : va_up (va_up (oM C) 1 (some (.inr (9, rdL C n q)))) i (some e) = va_up (va_up (oM C) i (some e)) 1 (some (.inr (9, rdL C n q))) := by
    funext k
    unfold va_up
    by_cases h1 : k = i
    · rw [if_pos h1, if_neg (by omega), if_pos h1]
    · rw [if_neg h1, if_neg h1]
  unfold rdS
  rw [h]
  show sM8 (ud C 8 i a) (va_up (va_up (oM C) 1 (some (.inr (9, rdL C n q)))) i (some e)) = sM8 (ud C 8 i a) (va_up (va_up (oM C) i (some e)) 1 (some (.inr (9, rdL C n q))))
  rw [hm]
theorem uM_rd {C : CS} {i n : Nat} {e : Option va_E} {q : RQ} (hi : i ≠ 1) : uM (rdS C n q) i e = rdS (uM C i e) n q := by
  have hm : va_up (va_up (oM C) 1 (some (.inr (9, rdL C n q)))) i e = va_up (va_up (oM C) i e) 1 (some (.inr (9, rdL C n q))) := by
    funext k
    unfold va_up
    by_cases h1 : k = i
    · rw [if_pos h1, if_neg (by omega), if_pos h1]
    · rw [if_neg h1, if_neg h1]
  show sM8 C (va_up (va_up (oM C) 1 (some (.inr (9, rdL C n q)))) i e) = sM8 C (va_up (va_up (oM C) i e) 1 (some (.inr (9, rdL C n q))))
  rw [hm]
theorem bd_rd5 {C C1 : CS} {n : Nat} {q : RQ} {f : Nat × Nat} (h : C1 = bdS (rdS C n q) f) : od C1 0 5 = od C 0 5 := by
  subst h
  unfold od bdS rdS
  rfl
theorem bd_rd6 {C C1 : CS} {n : Nat} {q : RQ} {f : Nat × Nat} (h : C1 = bdS (rdS C n q) f) : od C1 0 5 = od (rdS C n q) 0 5 := by
  subst h
  unfold od bdS rdS
  rfl
theorem rd_5 {C : CS} {n a : Nat} {q : RQ} (h : od C 0 5 = a) : od (rdS C n q) 0 5 = a := by
  rw [← h]
  unfold rdS uM od
  rfl
theorem rd_eta {C : CS} {n : Nat} {q : RQ} (h : oM C 1 = some (.inr (9, rdL C n q))) : rdS C n q = C := by
  have hm : va_up (oM C) 1 (some (.inr (9, rdL C n q))) = oM C := by
    funext k
    unfold va_up
    split
    · rename_i z
      rw [z, h]
    · rfl
  show sM8 C (va_up (oM C) 1 (some (.inr (9, rdL C n q)))) = C
  rw [hm]
  rfl
theorem rd_ne {C : CS} {n i : Nat} {q : RQ} (h : i ≠ 1) : oM (rdS C n q) i = oM C i := oM_ne h
section YN
variable {g : GG} {mt : MT} {kc ks pc : Nat} {L : List (Option Value)} {st : List Value} {σ σ0 : PH} {C : CS} {n : Nat} {q : RQ}
/-- a new loose object, while the reader stands -/
theorem y_new {idx ci N : Nat} {Cn : String} {T : u_T} {ty : Nat → FieldType} (fs : List Value) (i : Nat) (hi : i ≠ 1) (H : Hold g σ (rdS C n q)) (F : Fr σ0 σ) (d : decode mt.1.2.1 pc = .ok (.new idx, 3)) (hC : ClOk ci Cn T N ty) (q1 : Cond.classLink mt.1.1 idx Cn ∈ lw_all) (q2 : Cond.instantiable Cn N ∈ lw_all) (q3 : Cond.initialized Cn ∈ lw_all) (hfs : ∀ j, j < N → defaultValue (ty j) = vp_V fs j)
    (kk : ∀ (σ : PH) (C2 : CS), R9 C C2 → Lk (fun j => j ≠ i) C C2 → oM C2 i = some (.inr (ci, fs)) → oZ C2 = oZ C → Hold g σ (rdS C2 n q) → Fr σ0 σ → Wp g mt kc ks (pc + 3) L (.ref (od C2 8 i) :: st) σ) : Wp g mt (kc + 1) (ks + N) pc L st σ := by
  refine w_new (kc := kc) (ks := ks) fs (8, i) d hC q1 q2 q3 hfs ?_
  have h1 := H.nw i (.inr (ci, fs))
  rw [nw_rd hi] at h1
  have h := kk _ (nwC C i σ.1 (.inr (ci, fs))) (R9.nw _ _ _) (Lk.nw (fun z => z rfl)) oM_eq rfl h1 (F.hnew H.1)
  rw [nw_od] at h
  exact h
/-- cells that P names become frozen, while the reader stands -/
theorem y_frz (P : Nat → Bool) (h1 : P 1 = false) (H : Hold g σ (rdS C n q)) (F : Fr σ0 σ) (kk : ∀ (σ : PH) (C2 : CS), R9 C C2 → od C2 = od C → Lk (fun j => P j = false ∧ j ≠ 1) C C2 → (∀ i e, P i = true → oM C i = some e → oZ C2 (od C 8 i) = some e) → Hold g σ (rdS C2 n q) → Fr σ0 σ → Wp g mt kc ks pc L st σ) : Wp g mt kc ks pc L st σ := by
  refine w_frz P H F ?_
  intro σ2 C2 h2 h3 h4 H2 F2
  have hne : ∀ i, P i = true → i ≠ 1 := fun i hP z => by
    rw [z, h1] at hP
    cases hP
  have hod : od C2 = od C := h2.1
  have e1 : oM C2 1 = some (.inr (9, rdL C2 n q)) := by
    have e2 : oM C2 1 = oM (rdS C n q) 1 := by
      rw [h3]
      unfold frM
      exact if_neg (by rw [h1]; decide)
    have e3 : rdL C2 n q = rdL C n q := by
      unfold rdL
      rw [hod]
    rw [e3]
    exact e2.trans oM_eq
  refine kk σ2 C2 (R9.rd.trans h2.R9) hod (fun j hj => ⟨?_, by rw [hod]⟩) (fun i e hP he => ?_) (by rw [rd_eta e1]; exact H2) F2
  · rw [h3]
    unfold frM
    rw [if_neg (by rw [hj.1]; decide)]
    exact rd_ne hj.2
  · exact h4 i e hP (by rw [rd_ne (hne i hP)]; exact he)
theorem rw_1 {σ : PH} {a : Nat} {t tg : Tg} {e x : va_E} (w : wf9 σ) (ha : a < σ.1) : rw_ σ a t e [(tg, x)] = hup (hnew σ tg x) a t e := by
  refine Prod.ext rfl (funext fun p => ?_)
  show (if p = a then some (t, e) else if p < σ.1 then σ.2 p else ([(tg, x)] : List (Tg × va_E))[p - σ.1]?) = if p = a then some (t, e) else if p = σ.1 then some (tg, x) else σ.2 p
  by_cases h1 : p = a
  · rw [if_pos h1, if_pos h1]
  · rw [if_neg h1, if_neg h1]
    by_cases h2 : p < σ.1
    · rw [if_pos h2, if_neg (by omega)]
    · rw [if_neg h2]
      by_cases h3 : p = σ.1
      · rw [if_pos h3, h3, Nat.sub_self]
        rfl
      · rw [if_neg h3, w p (by omega)]
        exact List.getElem?_eq_none (by show 1 ≤ _; omega)
/-- an Act is made and frozen -/
theorem y_act {x y z : Int32} (H : Hold g σ (rdS C n q)) (F : Fr σ0 σ) (hc : oM C 4 = some (.inr (12, [.int 0, .int 0, .int 0]))) (dd : decode mt.1.2.1 pc = .ok (.invokespecial 272, 3)) (ho : mt.1.1 = RX9) (hd : 3 ≤ mt.2.1.1) (kk : ∀ (σ : PH) (C2 : CS), R9 C C2 → Lk (fun j => j ≠ 1 ∧ j ≠ 4) C C2 → od C2 = od C → oZ C2 (od C 8 4) = some (.inr (12, [.int x, .int y, .int z])) → Hold g σ (rdS C2 n q) → Fr σ0 σ → Wp g mt kc ks (pc + 3) L [.ref (od C 8 4)] σ) : Wp g mt kc ks pc L [.int z, .int y, .int x, .ref (od C 8 4), .ref (od C 8 4)] σ := by
  have hc1 : σ.2 (od C 8 4) = some ((8, 4), .inr (12, [.int 0, .int 0, .int 0])) := H.gm (i := 4) ((rd_ne (by decide)).trans hc)
  refine w_callI (kc := kc) (ks := ks) (mc2 := 0) (ms2 := 0) (mi := miX14_init) (As := [.int x, .int y, .int z]) (rest := [.ref (od C 8 4)]) dd (by rw [ho]; exact q986) okX14_init (iX14_init σ (od C 8 4) (8, 4) H.1 hc1) (by omega) rfl rfl (Nat.le_of_ble_eq_true rfl) ?_ (fun _ _ _ hx => absurd hx id)
  rintro v σ2 ⟨rfl, rfl⟩
  rw [rw_hup H.1]
  have h1 := H.m (i := 4) (e2 := .inr (12, [.int x, .int y, .int z])) ((rd_ne (by decide)).trans hc)
  rw [uM_rd (by decide)] at h1
  refine y_frz (C := uM C 4 (some (.inr (12, [.int x, .int y, .int z])))) (fun j => j == 4) (by decide) h1 (F.hup (by show 8 < 20; decide) hc1) ?_
  intro σ3 C3 r3 d3 l3 z3 H3 F3
  exact kk σ3 C3 ((R9.M _ _).trans r3) ((Lk.M (fun z => z.2 rfl)).trans (l3.sub (fun i hi => ⟨beq_eq_false_iff_ne.mpr hi.2, hi.1⟩))) d3 (z3 4 _ (by decide) oM_eq) H3 F3
/-- a block is made: its object at u, its row at v -/
theorem y_blk {u v ci d2 n9 idx : Nat} {mi : MI} {x : va_E} {vs As rest stk : List Value} (hu1 : u ≠ 1) (hv1 : v ≠ 1) (huv : u ≠ v) (hc : oM C u = some x) (H : Hold g σ (rdS C n q)) (F : Fr σ0 σ) (dd : decode mt.1.2.1 pc = .ok (.invokespecial idx, 3)) (ql : Cond.methodLink mt.1.1 idx mi.1 ∈ lw_all) (ok : MOkI mi n9) (hM : Ck g mi d2 1 4 As x (fun z => .inr (ci, .ref (z + 0) :: .int 0 :: vs)) (fun _ => [((8, v), .inl (g.2.2.2 7, 4, .inr (.inr (.inr (.inr fun _ => none)))))])) (hd : d2 + 1 ≤ mt.2.1.1) (hna : As.length = n9) (hst : stk = As.reverse ++ .ref (od C 8 u) :: rest) (hcat : (rest.map fun v => v.category).sum ≤ 8)
    (kk : ∀ (σ : PH) (C2 : CS), R9 C C2 → Lk (fun j => j ≠ u ∧ j ≠ v) C C2 → od C2 8 u = od C 8 u → oZ C2 = oZ C → BkL g C2 u v ci 0 4 vs (fun _ => none) → Hold g σ (rdS C2 n q) → Fr σ0 σ → Wp g mt kc ks (pc + 3) L rest σ) : Wp g mt (kc + 1) (ks + 4) pc L stk σ := by
  have hc1 : σ.2 (od C 8 u) = some ((8, u), x) := H.gm (i := u) ((rd_ne hu1).trans hc)
  have hlt := H.lt hc1
  refine w_callI (kc := kc) (ks := ks) (mc2 := 1) (ms2 := 4) (mi := mi) (As := As) (rest := rest) dd ql ok (hM σ (od C 8 u) (8, u) H.1 hc1) hd hna hst hcat ?_ (fun _ _ _ hx => absurd hx id)
  rintro w σ2 ⟨rfl, rfl⟩
  rw [rw_1 H.1 hlt]
  have h1 := H.nw v (.inl (g.2.2.2 7, 4, .inr (.inr (.inr (.inr fun _ => none)))))
  have f1 := F.hnew (t := (8, v)) (e := (.inl (g.2.2.2 7, 4, .inr (.inr (.inr (.inr fun _ => none)))))) H.1
  rw [nw_rd hv1] at h1
  have hc2 : (hnew σ (8, v) (.inl (g.2.2.2 7, 4, .inr (.inr (.inr (.inr fun _ => none)))))).2 (od C 8 u) = some ((8, u), x) := by
    show (if od C 8 u = σ.1 then _ else σ.2 (od C 8 u)) = _
    rw [if_neg (by omega)]
    exact hc1
  have f2 := f1.hup (t := (8, u)) (t2 := (8, u)) (e2 := .inr (ci, .ref (σ.1 + 0) :: .int 0 :: vs)) (by show 8 < 20; decide) hc2
  obtain ⟨N, hN⟩ : ∃ N, N = nwC C v σ.1 (.inl (g.2.2.2 7, 4, .inr (.inr (.inr (.inr fun _ => none))))) := ⟨_, rfl⟩
  have n1 : R9 C N := hN ▸ R9.nw _ _ _
  have n2 : Lk (fun j => j ≠ u ∧ j ≠ v) C N := hN ▸ Lk.nw (fun z => z.2 rfl)
  have n3 : od N 8 v = σ.1 := hN ▸ nw_od
  have n4 : od N 8 u = od C 8 u := hN ▸ nw_ne (fun _ z => huv z)
  have n5 : oM N v = some (.inl (g.2.2.2 7, 4, .inr (.inr (.inr (.inr fun _ => none))))) := hN ▸ oM_eq
  have n6 : oM N u = some x := by
    rw [hN]
    exact (oM_ne huv).trans hc
  have n7 : oZ N = oZ C := by
    rw [hN]
    rfl
  rw [← hN] at h1
  clear hN
  have h2 := h1.m (i := u) (e2 := .inr (ci, .ref (σ.1 + 0) :: .int 0 :: vs)) ((rd_ne hu1).trans n6)
  have e2 : od (rdS N n q) 8 u = od C 8 u := n4
  rw [e2, uM_rd hu1] at h2
  obtain ⟨N2, hN2⟩ : ∃ N2, N2 = uM N u (some (.inr (ci, .ref (σ.1 + 0) :: .int 0 :: vs))) := ⟨_, rfl⟩
  have m1 : R9 N N2 := hN2 ▸ R9.M _ _
  have m2 : Lk (fun j => j ≠ u ∧ j ≠ v) N N2 := hN2 ▸ Lk.M (fun z => z.1 rfl)
  have m3 : od N2 = od N := by
    rw [hN2]
    rfl
  have m4 : oM N2 u = some (.inr (ci, .ref (σ.1 + 0) :: .int 0 :: vs)) := hN2 ▸ oM_eq
  have m5 : oM N2 v = oM N v := by
    rw [hN2]
    exact oM_ne (fun z => huv z.symm)
  have m6 : oZ N2 = oZ N := by
    rw [hN2]
    rfl
  rw [← hN2] at h2
  clear hN2
  refine kk _ N2 (n1.trans m1) (n2.trans m2) (by rw [m3]; exact n4) (m6.trans n7) ⟨?_, m5.trans n5, Nat.zero_le _, Or.inl rfl⟩ h2 f2
  rw [m4, m3, n3]
  rfl
end YN
/-- the beach on which days are told, frozen -/
def BeF (g : GG) (C : CS) (b : Nat) (Hs : HS) : Prop := ∃ (fs : List Value) (x y : Nat) (p q : Nat → Int64), oZ C b = some (.inr (6, fs)) ∧ fs[0]? = some (.int (nI Hs.nc)) ∧ fs[3]? = some (.int (nI Hs.cf)) ∧ fs[4]? = some (.int (nI Hs.cd)) ∧ fs[7]? = some (.ref x) ∧ fs[8]? = some (.ref y) ∧ oZ C x = some (.inl (g.2.2.2 1, 6, .inr (.inl p))) ∧ oZ C y = some (.inl (g.2.2.2 1, 8, .inr (.inl q))) ∧ (∀ i, i < Hs.cf → p i = lN (n32 (Hs.nf i))) ∧ (∀ i, i < Hs.cd → q i = lN (n32 (Hs.nd i))) ∧ OkH Hs
theorem BeF.r9 {g : GG} {C C2 : CS} {b : Nat} {Hs : HS} (h : BeF g C b Hs) (r : R9 C C2) : BeF g C2 b Hs := by
  obtain ⟨fs, x, y, p, q, h1, h2, h3, h4, h5, h6, h7, h8, h9⟩ := h
  exact ⟨fs, x, y, p, q, r.z h1, h2, h3, h4, h5, h6, r.z h7, r.z h8, h9⟩
theorem BeF.N {g : GG} {C : CS} {b : Nat} {Hs : HS} (h : BeF g C b Hs) : BeN g C b Hs.cf Hs.cd Hs.nf Hs.nd := by
  obtain ⟨fs, x, y, p, q, h1, h2, h3, h4, h5, h6, h7, h8, h9, h10, o1, o2, o3, o4, o5, o6⟩ := h
  exact ⟨fs, x, y, p, q, Or.inr h1, h3, h4, h5, h6, Or.inr h7, Or.inr h8, o3, o4, fun i hi => ⟨h9 i hi, o5 i hi⟩, fun i hi => ⟨h10 i hi, o6 i hi⟩⟩
theorem BeF.ok {g : GG} {C : CS} {b : Nat} {Hs : HS} (h : BeF g C b Hs) : OkH Hs := by
  obtain ⟨fs, x, y, p, q, h1, h2, h3, h4, h5, h6, h7, h8, h9, h10, o⟩ := h
  exact o
def isK (k : Nat) : Prop := k = 1 ∨ (18 ≤ k ∧ k ≤ 23) ∨ k = 27
theorem aw_b {k : Nat} : aW k < 8 := by
  unfold aW
  repeat' split
  all_goals decide
theorem aw_lo {k : Nat} (hk : isK k) (h : aW k ≤ 3) : 18 ≤ k ∧ k ≤ 21 := by
  unfold isK at hk
  unfold aW at h
  repeat' split at h
  all_goals omega
theorem aw_18 {k : Nat} (h : aW k = 0) : k = 18 := by
  unfold aW at h
  repeat' split at h
  all_goals omega
theorem aw_20 {k : Nat} (h : aW k = 2) : k = 20 := by
  unfold aW at h
  repeat' split at h
  all_goals omega
theorem aw_19 {k : Nat} (h : aW k = 1 ∨ aW k = 3) : k = 19 ∨ k = 21 := by
  unfold aW at h
  repeat' split at h
  all_goals omega
theorem aw_22 {k : Nat} (h : aW k = 4) : k = 22 := by
  unfold aW at h
  repeat' split at h
  all_goals omega
theorem aw_23 {k : Nat} (h : aW k = 5) : k = 23 := by
  unfold aW at h
  repeat' split at h
  all_goals omega
theorem aw_el {k : Nat} (hk : isK k) (h : 6 ≤ aW k) : k = 1 ∨ k = 27 := by
  unfold isK at hk
  unfold aW at h
  repeat' split at h
  all_goals omega
theorem aw_n2 {k : Nat} (h : k = 19 ∨ k = 21) : ¬ (k = 22 ∨ k = 23) := by omega
theorem aw_e1 {k : Nat} (h : k = 1 ∨ k = 27) : ¬ (18 ≤ k ∧ k ≤ 21) := by omega
theorem aw_e2 {k : Nat} (h : k = 1 ∨ k = 27) : ¬ (k = 22 ∨ k = 23) := by omega
theorem isPl_K {k : Nat} (hk : isK k) : isPl k := by
  unfold isK at hk
  unfold isPl
  omega
theorem actI_w : ∀ k, k < 31 → (k = 1 ∨ (18 ≤ k ∧ k ≤ 23) ∨ k = 27) → actI k = nI (aW k) := by decide +kernel
section PO
variable {X : TX} {H : HS} {t : Tk}
theorem pO_18 : pOrder X H 18 t = wOld X H.nf H.cf t >>= fun p => (wWord X 17 p.2 >>= fun t => wNum X 0 (H.nc - 1) t) >>= fun r => .ok ((18, p.1, r.1, 0), r.2) := by
  unfold pOrder
  rw [if_pos rfl]
  rcases wOld X H.nf H.cf t with e | ⟨f, t1⟩
  · rfl
  simp only [ob]
  rcases wWord X 17 t1 with e | t2
  · rfl
  simp only [ob]
theorem pO_19 {k : Nat} (hk : k = 19 ∨ k = 21) : pOrder X H k t = wOld X H.nf H.cf t >>= fun p => wWord X 12 p.2 >>= fun t => wOld X H.nd H.cd t >>= fun r => .ok ((k, p.1, r.1, 0), r.2) := by
  unfold pOrder
  rw [if_neg (by omega), if_pos hk]
theorem pO_20 : pOrder X H 20 t = wOld X H.nf H.cf t >>= fun p => wNum X 1 240 p.2 >>= fun r => .ok ((20, p.1, r.1, 0), r.2) := by
  unfold pOrder
  rw [if_neg (by omega), if_neg (by omega), if_pos rfl]
theorem pO_22 : pOrder X H 22 t = wNum X 0 16 t >>= fun r => .ok ((22, r.1, 0, 0), r.2) := by
  unfold pOrder
  rw [if_neg (by omega), if_neg (by omega), if_neg (by omega), if_pos rfl]
theorem pO_23 : pOrder X H 23 t = wNum X 0 40 t >>= fun r => .ok ((23, r.1, 0, 0), r.2) := by
  unfold pOrder
  rw [if_neg (by omega), if_neg (by omega), if_neg (by omega), if_neg (by omega), if_pos rfl]
theorem pO_24 : pOrder X H 24 t = pTest X H t := by
  unfold pOrder
  rw [if_neg (by omega), if_neg (by omega), if_neg (by omega), if_neg (by omega), if_neg (by omega), if_pos rfl]
theorem pO_25 : pOrder X H 25 t = wNum X 1 99 t >>= fun r => .ok ((25, r.1, 0, 0), r.2) := by
  unfold pOrder
  rw [if_neg (by omega), if_neg (by omega), if_neg (by omega), if_neg (by omega), if_neg (by omega), if_neg (by omega), if_pos rfl]
theorem pO_el {k : Nat} (hk : k = 1 ∨ k = 27) : pOrder X H k t = .ok ((k, 0, 0, 0), t) := by
  unfold pOrder
  rw [if_neg (by omega), if_neg (by omega), if_neg (by omega), if_neg (by omega), if_neg (by omega), if_neg (by omega), if_neg (by omega)]
theorem pO_f {k : Nat} (hk : 18 ≤ k ∧ k ≤ 21) {f : Nat × Nat} (e : wOld X H.nf H.cf t = .error f) : pOrder X H k t = .error f := by
  rcases show k = 18 ∨ (k = 19 ∨ k = 21) ∨ k = 20 by omega with rfl | h | rfl
  · rw [pO_18, e]
    rfl
  · rw [pO_19 h, e]
    rfl
  · rw [pO_20, e]
    rfl
theorem pT_29 (h : kix X t = 29) : pTest X H t = wOld X H.nd H.cd (nx X t) >>= fun r => .ok ((2429, r.1, 0, 0), r.2) := by
  unfold pTest
  rw [if_pos h]
theorem pT_15 (h : kix X t = 15) : pTest X H t = wOld X H.nf H.cf (nx X t) >>= fun p => wWord X 12 p.2 >>= fun t => wOld X H.nd H.cd t >>= fun r => .ok ((2415, p.1, r.1, 0), r.2) := by
  unfold pTest
  rw [if_neg (by omega), if_pos h]
theorem pT_28 (h : kix X t = 28) : pTest X H t = wOld X H.nf H.cf (nx X t) >>= fun p => if p.2.so = 4 ∧ (p.2.va = 60 ∨ p.2.va = 62 ∨ p.2.va = 61) then wNum X 0 9999 (nx X p.2) >>= fun r => .ok ((2428, p.1, r.1, p.2.va), r.2) else .error (flt p.2 2) := by
  unfold pTest
  rw [if_neg (by omega), if_neg (by omega), if_pos h]
theorem pT_no (h : kix X t ≠ 29 ∧ kix X t ≠ 15 ∧ kix X t ≠ 28) : pTest X H t = .error (flt t 2) := by
  unfold pTest
  rw [if_neg h.1, if_neg h.2.1, if_neg h.2.2]
end PO
def QPl (C : CS) (X : TX) (st du : Int32) (r : PR (RW4 × Tk)) : Option Value → CS → Prop := fun w C1 => ∃ (C2 : CS) (q : RW4) (t2 : Tk) (nu2 : Int32) (a : Nat), w = some (.ref a) ∧ r = .ok (q, t2) ∧ OkT9 X t2 ∧ NuT t2 nu2 ∧ C1 = rdS C2 X.2 (rqT t2 nu2 st du) ∧ R9 C C2 ∧ Lk (fun i => i ≠ 1 ∧ i ≠ 4) C C2 ∧ od C2 8 1 = od C 8 1 ∧ ActZ (oZ C2) a (row4 q 0)
def QWh (g : GG) (C : CS) (X : TX) (u v : Nat) (st du : Int32) (r : PR (RW4 × Tk)) : Option Value → CS → Prop := fun w C1 => ∃ (C2 : CS) (q : RW4) (t2 : Tk) (nu2 x z y y2 : Int32), w = some (.ref (od C2 8 u)) ∧ r = .ok (q, t2) ∧ OkT9 X t2 ∧ NuT t2 nu2 ∧ C1 = rdS C2 X.2 (rqT t2 nu2 st du) ∧ R9 C C2 ∧ Lk (fun i => i ≠ 1 ∧ i ≠ u ∧ i ≠ v) C C2 ∧ od C2 8 1 = od C 8 1 ∧ BkL g C2 u v 11 0 4 [.int (nI (hW q.1)), .int x, .int z, .int y, .int y2] (fun _ => none) ∧ (q.1 = 2428 ∨ q.1 = 2415 ∨ q.1 = 2429) ∧ (q.1 = 2428 → x = nI q.2.1 ∧ y = nI q.2.2.2 ∧ y2 = nI q.2.2.1) ∧ (q.1 = 2415 → x = nI q.2.1 ∧ z = nI q.2.2.1) ∧ (q.1 = 2429 → z = nI q.2.1)
