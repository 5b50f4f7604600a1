/-! RUNS: the Living (loose cell 3), steps as frozen cells, calls that find the method by the receiver -/
set_option maxRecDepth 100000
section CALLU
variable {g : GG} {mt : MT} {mi : MI} {kc ks pc index d2 mc2 ms2 n : Nat} {L : List (Option Value)} {stk rest As : List Value} {σ : PH} {Q2 : Option Value → PH → Prop} {X2 : Addr → String → PH → Prop}
def MOkU (mi : MI) (n : Nat) : Prop := MOk mi n ∧ Cond.instanceMethod mi.1 ∈ lw_all
/-- a method of a class above the receiver's -/
theorem w_callU {b ci N : Nat} {Cn owner : String} {x : MethodName} {T : u_T} {ty : Nat → FieldType} {t : Tg} {fs : List Value} (d : decode mt.1.2.1 pc = .ok (.invokevirtual index, 3)) (q : Cond.methodLink mt.1.1 index x ∈ lw_all) (qs : Cond.sameMethod x.cls owner x.name x.desc ∈ lw_all) (qe : Cond.selects Cn x mi.1 ∈ lw_all) (hyx : mi.1 = ⟨owner, x.name, x.desc⟩) (ok : MOkU mi n) (hC : ClOk ci Cn T N ty) (hM : Ct g mi d2 mc2 ms2 (.ref b :: As) σ Q2 X2) (hd : d2 + 1 ≤ mt.2.1.1) (hb : σ.2 b = some (t, .inr (ci, fs))) (hn : As.length = n) (hst : stk = As.reverse ++ .ref b :: rest) (hcat : (rest.map fun v => v.category).sum ≤ 8)
    (kk : ∀ (v : Option Value) (σ2 : PH), Q2 v σ2 → Wp g mt kc ks (pc + 3) L (v.toList ++ rest) σ2) (kx : ∀ (q : Addr) (E : String) (σ2 : PH), X2 q E σ2 → Tp g mt kc ks pc L rest q E σ2) : Wp g mt (kc + mc2) (ks + ms2) pc L stk σ := by
  obtain ⟨⟨hh, q5, q4, hd9, hml9⟩, q2⟩ := ok
  refine w_run ?_ kk kx
  intro p e s m args below meth c H locs ls cells slots X hR hL h1 h2
  have hR' := X.rm
  have hmw := miW_nil hh
  have hin : GoodIn lw_all (va_wsU mt.1.1 index Cn owner x mi.1 (ws_ mi.1 mi.2.1 mi.2.2.1 mi.2.2.2.1)) := by
    refine lw_app ?_ (lw_meth q5)
    intro w hw
    simp only [List.mem_cons, List.not_mem_nil, or_false] at hw
    rcases hw with rfl | rfl | rfl | rfl | rfl
    · exact q
    · exact qs
    · exact qe
    · exact q2
    · exact q4
  have hcls : mi.1.cls = owner := by rw [hyx]
  have hdesc : mi.1.desc = x.desc := by rw [hyx]
  refine ⟨_, vx_runU (Ts := lw_all) (own := mt.1.1) (C := Cn) (owner := owner) (x := x) ⟨X.hx, X.hb, X.ml, X.own, X.ts⟩ (hM X.gd) (va_cwU n X.ts (by rw [hmw]; exact hin) hmw rfl rfl hyx ⟨by rw [← hcls]; exact hd9.1, by rw [← hcls]; exact hd9.2.1, by rw [← hdesc]; exact hd9.2.2⟩ ⟨by show d2 + 1 ≤ _; omega, by show 8 + (mi.2.2.1 + 11) + 60 * d2 ≤ _; omega⟩) ⟨pc_blind, va_recv X.K (P1 (hR.at_ hb)) (ci := ci) (q0 := 0) hC.1 rfl, fun U hU hW => ⟨rfl, State.WarmedH.trans X.wm hW, by rw [hU]; exact hR⟩⟩ rfl hn hL.1 hst (lv_room hcat) d ⟨h1, h2⟩⟩
theorem Cx.nD {p : Program} {e : Env} {s : State} {m : MethodId} {args : Array Value} {below : List Frame} {meth : Method} {c : Code} (C : Cx g mt p e s m args below meth c) {y : MethodName} (q : Cond.declares y ∈ lw_tbl) : va_Nw (.declares y) s := by
  obtain ⟨A, hA⟩ := C.gd.1 _ q
  exact va_Nw.warmD C.wm (va_Nw.of rfl hA)
/-- an abstract method, found by the receiver's class -/
theorem w_callA {b ci N : Nat} {Cn owner : String} {x : MethodName} {T : u_T} {ty : Nat → FieldType} {t : Tg} {fs : List Value} (d : decode mt.1.2.1 pc = .ok (.invokevirtual index, 3)) (q : Cond.methodLink mt.1.1 index x ∈ lw_all) (qs : Cond.sameMethod x.cls owner x.name x.desc ∈ lw_all) (qe : Cond.selects Cn x mi.1 ∈ lw_all) (qd : Cond.declares ⟨owner, x.name, x.desc⟩ ∈ lw_tbl) (how : owner ≠ "java/lang/invoke/MethodHandle" ∧ owner ≠ "java/lang/invoke/VarHandle") (hdx : mi.1.desc = x.desc) (ok : MOkU mi n) (hC : ClOk ci Cn T N ty) (hM : Ct g mi d2 mc2 ms2 (.ref b :: As) σ Q2 X2) (hd : d2 + 1 ≤ mt.2.1.1) (hb : σ.2 b = some (t, .inr (ci, fs))) (hn : As.length = n) (hst : stk = As.reverse ++ .ref b :: rest) (hcat : (rest.map fun v => v.category).sum ≤ 8)
    (kk : ∀ (v : Option Value) (σ2 : PH), Q2 v σ2 → Wp g mt kc ks (pc + 3) L (v.toList ++ rest) σ2) (kx : ∀ (q : Addr) (E : String) (σ2 : PH), X2 q E σ2 → Tp g mt kc ks pc L rest q E σ2) : Wp g mt (kc + mc2) (ks + ms2) pc L stk σ := by
  obtain ⟨⟨hh, q5, q4, hd9, hml9⟩, q2⟩ := ok
  refine w_run ?_ kk kx
  intro p e s m args below meth c H locs ls cells slots X hR hL h1 h2
  have hR' := X.rm
  have hmw := miW_nil hh
  have hin : GoodIn lw_all (va_wsU mt.1.1 index Cn owner x mi.1 (ws_ mi.1 mi.2.1 mi.2.2.1 mi.2.2.2.1)) := by
    refine lw_app ?_ (lw_meth q5)
    intro w hw
    simp only [List.mem_cons, List.not_mem_nil, or_false] at hw
    rcases hw with rfl | rfl | rfl | rfl | rfl
    · exact q
    · exact qs
    · exact qe
    · exact q2
    · exact q4
  refine ⟨_, vx_runU (Ts := lw_all) (own := mt.1.1) (C := Cn) (owner := owner) (x := x) ⟨X.hx, X.hb, X.ml, X.own, X.ts⟩ (hM X.gd) (va_cwA n X.ts (by rw [hmw]; exact hin) hmw rfl rfl (X.nD qd) ⟨how.1, how.2, by rw [← hdx]; exact hd9.2.2⟩ ⟨by show d2 + 1 ≤ _; omega, by show 8 + (mi.2.2.1 + 11) + 60 * d2 ≤ _; omega⟩) ⟨pc_blind, va_recv X.K (P1 (hR.at_ hb)) (ci := ci) (q0 := 0) hC.1 rfl, fun U hU hW => ⟨rfl, State.WarmedH.trans X.wm hW, by rw [hU]; exact hR⟩⟩ rfl hn hL.1 hst (lv_room hcat) d ⟨h1, h2⟩⟩
end CALLU
theorem w_ref {g : GG} {mt : MT} {kc ks pc a b : Nat} {L : List (Option Value)} {st : List Value} {σ : PH} (h : a = b) (k : Wp g mt kc ks pc L (.ref a :: st) σ) : Wp g mt kc ks pc L (.ref b :: st) σ := h ▸ k
theorem Cp.at_ {g : GG} {mi : MI} {d mc ms a b : Nat} {As : List Value} {C : CS} {v : Option Value} {P : CS → Prop} (h : a = b) (k : Cp g mi d mc ms (.ref a :: As) C v P) : Cp g mi d mc ms (.ref b :: As) C v P := h ▸ k
theorem Cr.at_ {g : GG} {mi : MI} {d a b : Nat} {As : List Value} {C : CS} {v : Option Value} (h : a = b) (k : Cr g mi d (.ref a :: As) C v) : Cr g mi d (.ref b :: As) C v := h ▸ k
/-- the Living's fields -/
def lvL (a : Nat) (s : XS) : List Value := [.ref a, .int (nI s.R.2.1), .int (nI s.n), .int (nI (cnt s.R 0)), .int (nI (cnt s.R 1)), .int (nI (cnt s.R 2)), .int (nI (cnt s.R 3)), .int (nI s.o), .int (nI (cnt s.R 4))]
/-- a day's run: day j at da, the Living at la -/
def LvOk (g : GG) (C : CS) (j la da : Nat) (s : XS) : Prop := oO C j = true ∧ od C 3 j = da ∧ od C 8 3 = la ∧ oM C 3 = some (.inr (13, lvL da s)) ∧ oM C 90 = none ∧ EncD g C j s.R.1 s.q
/-- nothing but day j and the Living has changed -/
def SL (j : Nat) (C C2 : CS) : Prop := SD j C (sM8 C2 (oM C)) ∧ ∀ i, i ≠ 3 → oM C2 i = oM C i
section LV
variable {g : GG} {C C2 C3 : CS} {j la da : Nat} {s s2 : XS}
theorem LvOk.on (B : LvOk g C j la da s) : oO C j = true := B.1
theorem LvOk.hda (B : LvOk g C j la da s) : od C 3 j = da := B.2.1
theorem LvOk.hla (B : LvOk g C j la da s) : od C 8 3 = la := B.2.2.1
theorem LvOk.lv (B : LvOk g C j la da s) : oM C 3 = some (.inr (13, lvL da s)) := B.2.2.2.1
theorem LvOk.l90 (B : LvOk g C j la da s) : oM C 90 = none := B.2.2.2.2.1
theorem LvOk.E (B : LvOk g C j la da s) : EncD g C j s.R.1 s.q := B.2.2.2.2.2
theorem SL.refl : SL j C C := ⟨SD.refl, fun _ _ => rfl⟩
theorem SL.trans (h : SL j C C2) (k : SL j C2 C3) : SL j C C3 := by
  obtain ⟨⟨a1, a2, a3, a4, a5, a6, a7, a8, a9, a10, a11⟩, a12⟩ := h
  obtain ⟨⟨b1, b2, b3, b4, b5, b6, b7, b8, b9, b10, b11⟩, b12⟩ := k
  exact ⟨⟨fun x y u v => (b1 x y u v).trans (a1 x y u v), fun x y u v => (b2 x y u v).trans (a2 x y u v), fun x y u v => (b3 x y u v).trans (a3 x y u v), fun x y u => (b4 x y u).trans (a4 x y u), b5.trans a5, fun x u => (b6 x u).trans (a6 x u), b7.trans a7, b8.trans a8, b9.trans a9, rfl, b11.trans a11⟩, fun i hi => (b12 i hi).trans (a12 i hi)⟩
theorem SL.oz (h : SL j C C2) : oZ C2 = oZ C := h.1.2.2.2.2.2.2.2.2.2.2
theorem SD.L (h : SD j C C2) : SL j C C2 := by
  obtain ⟨a1, a2, a3, a4, a5, a6, a7, a8, a9, a10, a11⟩ := h
  exact ⟨⟨a1, a2, a3, a4, a5, a6, a7, a8, a9, rfl, a11⟩, fun i _ => by rw [a10]⟩
theorem SL.put (v : Option va_E) : SL j C (uM C 3 v) := ⟨⟨fun _ _ _ _ => rfl, fun _ _ _ _ => rfl, fun _ _ _ _ => rfl, fun _ _ _ => rfl, rfl, fun _ _ => rfl, rfl, rfl, rfl, rfl, rfl⟩, fun i hi => va_up_ne _ _ hi⟩
theorem oM_eq {v : Option va_E} {i : Nat} : oM (uM C i v) i = v := va_up_self (oM C) i v
theorem oM_ne {v : Option va_E} {i k : Nat} (h : k ≠ i) : oM (uM C i v) k = oM C k := va_up_ne (oM C) v h
/-- the day has changed -/
theorem LvOk.day {V2 : VS} {q2 : Nat → Nat} (B : LvOk g C j la da s) (E : EncD g C2 j V2 q2) (S : SD j C C2) : LvOk g C2 j la da ((V2, s.R.2), q2, s.n, s.o) := by
  obtain ⟨b1, b2, b3, b4, b5, b6⟩ := B
  exact ⟨by rw [S.on]; exact b1, (S.1 3 j (by omega) (by omega)).trans b2, (S.1 8 3 (by omega) (by omega)).trans b3, by rw [S.2.2.2.2.2.2.2.2.2.1]; exact b4, by rw [S.2.2.2.2.2.2.2.2.2.1]; exact b5, E⟩
theorem LvOk.put (B : LvOk g C j la da s) (hV : s2.R.1 = s.R.1) (hq : s2.q = s.q) : LvOk g (uM C 3 (some (.inr (13, lvL da s2)))) j la da s2 := by
  obtain ⟨b1, b2, b3, b4, b5, b6⟩ := B
  refine ⟨b1, b2, b3, oM_eq, (oM_ne (by decide)).trans b5, ?_⟩
  rw [hV, hq]
  exact b6.eq rfl rfl rfl (fun _ _ _ => rfl) (fun _ _ => rfl) (fun _ _ _ _ => ⟨rfl, rfl⟩)
end LV
section LVROWS
variable {g : GG} {mt : MT} {kc ks pc : Nat} {L : List (Option Value)} {st rest : List Value} {σ σ0 : PH} {C : CS} {j la da : Nat} {s : XS}
theorem lv_cell (B : LvOk g C j la da s) (H : Hold g σ C) : σ.2 la = some ((8, 3), .inr (13, lvL da s)) := by
  have h := H.get (k := 8) (j := 3) B.lv
  rw [B.hla] at h
  exact h
theorem lv_day (B : LvOk g C j la da s) (H : Hold g σ C) : σ.2 da = some ((3, j), .inr (5, encD C j)) := by
  have h := H.get (ce_day B.on)
  rw [B.hda] at h
  exact h
theorem lvg0 {f index : Nat} {v : Value} (d : decode mt.1.2.1 pc = .ok (.getfield index, 3)) (hf : f < 9) (ql : Cond.fieldLink mt.1.1 index (TX15 f).1 (TX15 f).2.1 (TX15 f).2.2.1 ∈ lw_all) (B : LvOk g C j la da s) (H : Hold g σ C) (hv : (lvL da s)[f]? = some v) (kk : Wp g mt kc ks (pc + 3) L (v :: st) σ) : Wp g mt kc ks pc L (.ref la :: st) σ :=
  w_getf (k := f) d clX15 hf ql (lv_cell B H) hv kk
theorem lvg {f index : Nat} {host : String} {v : Value} (d : decode mt.1.2.1 pc = .ok (.getfield index, 3)) (hf : f < 9) (ql : Cond.fieldLinkNest mt.1.1 index (TX15 f).1 (TX15 f).2.1 (TX15 f).2.2.1 host ∈ lw_tbl) (B : LvOk g C j la da s) (H : Hold g σ C) (hv : (lvL da s)[f]? = some v) (kk : Wp g mt kc ks (pc + 3) L (v :: st) σ) : Wp g mt kc ks pc L (.ref la :: st) σ :=
  w_getfN (k := f) d clX15 hf ql (lv_cell B H) hv kk
theorem lv_after {f : Nat} {v : Int32} {s2 : XS} (B : LvOk g C j la da s) (H : Hold g σ C) (F : Fr σ0 σ) (hs : (lvL da s).set f (.int v) = lvL da s2) (hV : s2.R.1 = s.R.1) (hq : s2.q = s.q) (kk : ∀ σ2 C2, LvOk g C2 j la da s2 → SL j C C2 → Hold g σ2 C2 → Fr σ0 σ2 → Wp g mt kc ks (pc + 3) L st σ2) : Wp g mt kc ks (pc + 3) L st (hup σ la (8, 3) (.inr (13, (lvL da s).set f (.int v)))) := by
  rw [hs]
  have h1 := H.set (k := 8) (j := 3) (C2 := uM C 3 (some (.inr (13, lvL da s2)))) (e2 := .inr (13, lvL da s2)) B.lv (by decide) rfl rfl oM_eq (fun a b h => ot_M a b h)
  rw [B.hla] at h1
  exact kk _ _ (B.put hV hq) (SL.put _) h1 (F.hup (by show 8 < 20; decide) (lv_cell B H))
theorem lvp0 {f index : Nat} {v : Int32} (s2 : XS) (d : decode mt.1.2.1 pc = .ok (.putfield index, 3)) (hf : f < 9) (ql : Cond.fieldLink mt.1.1 index (TX15 f).1 (TX15 f).2.1 (TX15 f).2.2.1 ∈ lw_all) (hfin : (TX15 f).2.2.2 = false) (hn : narrow (tyX15 f) (.int v) = .int v) (hfit : fits (tyX15 f) (.int v) = true) (B : LvOk g C j la da s) (H : Hold g σ C) (F : Fr σ0 σ) (hs : (lvL da s).set f (.int v) = lvL da s2) (hV : s2.R.1 = s.R.1) (hq : s2.q = s.q) (kk : ∀ σ2 C2, LvOk g C2 j la da s2 → SL j C C2 → Hold g σ2 C2 → Fr σ0 σ2 → Wp g mt kc ks (pc + 3) L st σ2) : Wp g mt kc ks pc L (.int v :: .ref la :: st) σ :=
  w_putf d clX15 hf ql hfin (lv_cell B H) hn hfit (by show f < 9; exact hf) (lv_after B H F hs hV hq kk)
theorem lvp {f index : Nat} {host : String} {v : Int32} (s2 : XS) (d : decode mt.1.2.1 pc = .ok (.putfield index, 3)) (hf : f < 9) (ql : Cond.fieldLinkNest mt.1.1 index (TX15 f).1 (TX15 f).2.1 (TX15 f).2.2.1 host ∈ lw_tbl) (hfin : (TX15 f).2.2.2 = false) (hn : narrow (tyX15 f) (.int v) = .int v) (hfit : fits (tyX15 f) (.int v) = true) (B : LvOk g C j la da s) (H : Hold g σ C) (F : Fr σ0 σ) (hs : (lvL da s).set f (.int v) = lvL da s2) (hV : s2.R.1 = s.R.1) (hq : s2.q = s.q) (kk : ∀ σ2 C2, LvOk g C2 j la da s2 → SL j C C2 → Hold g σ2 C2 → Fr σ0 σ2 → Wp g mt kc ks (pc + 3) L st σ2) : Wp g mt kc ks pc L (.int v :: .ref la :: st) σ :=
  w_putfN d clX15 hf ql hfin (lv_cell B H) hn hfit (by show f < 9; exact hf) (lv_after B H F hs hV hq kk)
end LVROWS
/-! steps as frozen cells -/
/-- an order's number in the component -/
def aW (k : Nat) : Nat := if k = 18 then 0 else if k = 19 then 1 else if k = 20 then 2 else if k = 21 then 3 else if k = 22 then 4 else if k = 23 then 5 else if k = 1 then 6 else 7
theorem aW_iff : ∀ k, k < 28 → (aW k = 0 ↔ k = 18) ∧ (aW k = 1 ↔ k = 19) ∧ (aW k = 2 ↔ k = 20) ∧ (aW k = 3 ↔ k = 21) ∧ (aW k = 4 ↔ k = 22) ∧ (aW k = 5 ↔ k = 23) ∧ (aW k = 6 ↔ k = 1) ∧ aW k < 8 := by decide +kernel
/-- an order that holds no steps -/
def isPl (k : Nat) : Prop := k = 1 ∨ k = 18 ∨ k = 19 ∨ k = 20 ∨ k = 21 ∨ k = 22 ∨ k = 23 ∨ k = 27
/-- an Act does what row r says -/
def ActZ (Z : Nat → Option va_E) (a : Nat) (r : Nat → Nat) : Prop := ∃ (x : Int32) (y : Nat), Z a = some (.inr (12, [.int (nI (aW (r 0))), .int x, .int (nI y)])) ∧ isPl (r 0) ∧ (18 ≤ r 0 ∧ r 0 ≤ 21 → x = nI (r 1) ∧ y = r 2) ∧ (r 0 = 22 ∨ r 0 = 23 → y = r 1)
/-- a test's number in the component -/
def hW (k : Nat) : Nat := if k = 2428 then 0 else if k = 2415 then 1 else 2
/-- what a block's object holds: a Loop, a When -/
def BlkZ (Z : Nat → Option va_E) (a arr m : Nat) (r : Nat → Nat) : Prop :=
  (r 0 = 25 ∧ Z a = some (.inr (10, [.ref arr, .int (nI m), .int (nI (r 1))]))) ∨
  ((r 0 = 2428 ∨ r 0 = 2415 ∨ r 0 = 2429) ∧ ∃ x z u v : Int32, Z a = some (.inr (11, [.ref arr, .int (nI m), .int (nI (hW (r 0))), .int x, .int z, .int u, .int v])) ∧ (r 0 = 2428 → x = nI (r 1) ∧ u = nI (r 5) ∧ v = nI (r 2)) ∧ (r 0 = 2415 → x = nI (r 1) ∧ z = nI (r 2)) ∧ (r 0 = 2429 → z = nI (r 1)))
/-- the i-th step from k on -/
def itn (P : PG) : Nat → Nat → Nat
  | 0, k => k
  | i + 1, k => itn P i (nxt P k)
/-- m steps stand in the row at arr: rows k to e -/
def StsZ (g : GG) (P : PG) (Z : Nat → Option va_E) (S : Nat → Nat → Prop) (arr m k e : Nat) : Prop := ∃ (cap : Nat) (f : Nat → Option Nat), Z arr = some (.inl (g.2.2.2 7, cap, .inr (.inr (.inr (.inr f))))) ∧ m ≤ cap ∧ cap < 100000 ∧ m ≤ 60 ∧ itn P m k = e ∧ ∀ i, i < m → itn P i k < e ∧ ∃ b, f i = some b ∧ S b (itn P i k)
/-- the object at a is step k -/
def StZ (g : GG) (P : PG) (Z : Nat → Option va_E) : Nat → Nat → Nat → Prop
  | 0, _, _ => False
  | d + 1, a, k => ActZ Z a (pr P k) ∨ ∃ arr m, BlkZ Z a arr m (pr P k) ∧ StsZ g P Z (StZ g P Z d) arr m (k + 1) (pr P k 4)
