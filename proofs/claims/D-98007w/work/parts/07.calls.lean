/-! STARTS, ENDS, CALLS, NEW CELLS -/
set_option maxRecDepth 100000
section ENDS
variable {g : GG} {mi : MI} {d mc ms kc ks pc : Nat} {L : List (Option Value)} {σ : PH} {Q : Option Value → PH → Prop} {X : Addr → String → PH → Prop} {args : List Value}
theorem Ct.start (L : List (Option Value)) (hy : plainName mi.1.cls = true) (hh : mi.2.2.2.2 = []) (hn : (lg_sl args).length ≤ mi.2.2.1) (hL : asL 0 L = lv_args 0 args) (k : GoodG g → Wp g (mtOf g mi d mc ms Q X) mc ms 0 L [] σ) : Ct g mi d mc ms args σ Q X := by
  intro hG
  obtain ⟨y, cc, nL, ret, hh0⟩ := mi
  dsimp only at hh
  subst hh
  refine vx_ofW (cc := cc) (maxL := nL) (ret := ret) hy rfl ?_
  intro p e s m args0 below meth c s1 B hml htb hv
  obtain ⟨rfl, hW, hR⟩ := hv
  have hts := atoms_spec (ws := miW (y, cc, nL, ret, [])) B.pre
  have hl := lv_entry args (n := nL) hn
  rw [lg_entry_eq]
  refine k hG p e s m _ below meth c s.heap [] _ 0 0 ?_ hR (fun l h => by cases h) (by rw [hL]; exact hl) (by simp [mtOf]) (by simp [mtOf])
  refine ⟨hG, B.exec, B.bytes, B.returns, B.notSynchronized, hml, findClass_of_methodNamed B.named, fun w h => hts w (List.mem_cons_of_mem _ h), hW, (name_of_methodNamed B.named B.method).1, ?_, ⟨Nat.le_refl _, Nat.le_refl _, Nat.le_refl _, Nat.le_refl _⟩, hR.1 ▸ hR.2.1, hR.2.2.1⟩
  exact List.eq_nil_iff_forall_not_mem.mpr fun x hx => htb x hx
theorem Ct.startW (L : List (Option Value)) (hy : plainName mi.1.cls = true) {h0 : Nat × Nat × Nat × Nat} {hr : List (Nat × Nat × Nat × Nat)} (hh : mi.2.2.2.2 = h0 :: hr) (hn : (lg_sl args).length ≤ mi.2.2.1) (hL : asL 0 L = lv_args 0 args) (k : GoodG g → Wp g (mtOf g mi d mc ms Q X) mc ms 0 L [] σ) : Ct g mi d mc ms args σ Q X := by
  intro hG
  obtain ⟨y, cc, nL, ret, hh0⟩ := mi
  dsimp only at hh
  subst hh
  refine vx_ofWH (cc := cc) (maxL := nL) (ret := ret) (hh := h0 :: hr) hy rfl ?_
  intro p e s m args0 below meth c s1 B hml hv
  obtain ⟨rfl, hW, hR⟩ := hv
  have hts := atoms_spec (ws := miW (y, cc, nL, ret, h0 :: hr)) B.pre
  have hl := lv_entry args (n := nL) hn
  rw [lg_entry_eq]
  refine k hG p e s m _ below meth c s.heap [] _ 0 0 ?_ hR (fun l h => by cases h) (by rw [hL]; exact hl) (by simp [mtOf]) (by simp [mtOf])
  refine ⟨hG, B.exec, B.bytes, B.returns, B.notSynchronized, hml, findClass_of_methodNamed B.named, fun w h => hts w (List.mem_cons_of_mem _ h), hW, (name_of_methodNamed B.named B.method).1, ?_, ⟨Nat.le_refl _, Nat.le_refl _, Nat.le_refl _, Nat.le_refl _⟩, hR.1 ▸ hR.2.1, hR.2.2.1⟩
  exact vx_table (x := y) B (hts _ List.mem_cons_self)
theorem w_iret {v : Int32} (d9 : decode mi.2.1 pc = .ok (.ireturn, 1)) (hr : mi.2.2.2.1 = some .int) (hQ : Q (some (.int v)) σ) : Wp g (mtOf g mi d mc ms Q X) kc ks pc L [.int v] σ := by
  intro p e s m args below meth c H locs ls cells slots C hR hl hL h1 h2
  simp only [mtOf] at h1 h2
  exact vx_ret (W.widen (k := mc) (n := ms) (by omega) (by omega) (W.iret C.hx C.hb (C.hr.trans hr) (fun t ht _ => ⟨_, σ, rfl, hQ, by rw [ht]; exact hR⟩) hl d9 C.lk))
theorem w_zret {v : Int32} {ty : FieldType} (d9 : decode mi.2.1 pc = .ok (.ireturn, 1)) (hr : mi.2.2.2.1 = some ty) (hn : narrow ty (.int v) = .int v) (hQ : Q (some (.int v)) σ) : Wp g (mtOf g mi d mc ms Q X) kc ks pc L [.int v] σ := by
  intro p e s m args below meth c H locs ls cells slots C hR hl hL h1 h2
  simp only [mtOf] at h1 h2
  exact vx_ret (W.widen (k := mc) (n := ms) (by omega) (by omega) (W.zret C.hx C.hb (C.hr.trans hr) hn (fun t ht _ => ⟨_, σ, rfl, hQ, by rw [ht]; exact hR⟩) hl d9 C.lk))
theorem w_lret {v : Int64} (d9 : decode mi.2.1 pc = .ok (.lreturn, 1)) (hr : mi.2.2.2.1 = some .long) (hQ : Q (some (.long v)) σ) : Wp g (mtOf g mi d mc ms Q X) kc ks pc L [.long v] σ := by
  intro p e s m args below meth c H locs ls cells slots C hR hl hL h1 h2
  simp only [mtOf] at h1 h2
  exact vx_ret (W.widen (k := mc) (n := ms) (by omega) (by omega) (W.lret C.hx C.hb (C.hr.trans hr) (fun t ht _ => ⟨_, σ, rfl, hQ, by rw [ht]; exact hR⟩) hl d9 C.lk))
theorem w_vret (d9 : decode mi.2.1 pc = .ok (.return_, 1)) (hr : mi.2.2.2.1 = none) (hQ : Q none σ) : Wp g (mtOf g mi d mc ms Q X) kc ks pc L [] σ := by
  intro p e s m args below meth c H locs ls cells slots C hR hl hL h1 h2
  simp only [mtOf] at h1 h2
  exact vx_ret (W.widen (k := mc) (n := ms) (by omega) (by omega) (W.vret C.hx C.hb (C.hr.trans hr) (fun t ht _ => ⟨_, σ, rfl, hQ, by rw [ht]; exact hR⟩) hl d9 C.lk))
theorem w_aret {a : Nat} {rt : FieldType} (d9 : decode mi.2.1 pc = .ok (.areturn, 1)) (hr : mi.2.2.2.1 = some rt) (hrt : (∃ n, rt = .object n) ∨ ∃ t, rt = .array t) (hQ : Q (some (.ref a)) σ) : Wp g (mtOf g mi d mc ms Q X) kc ks pc L [.ref a] σ := by
  intro p e s m args below meth c H locs ls cells slots C hR hl hL h1 h2
  simp only [mtOf] at h1 h2
  exact vx_ret (W.widen (k := mc) (n := ms) (by omega) (by omega) (W.aret C.hx C.hb (C.hr.trans hr) hrt (Or.inr ⟨a, rfl⟩) (fun t ht _ => ⟨_, σ, rfl, hQ, by rw [ht]; exact hR⟩) hl d9 C.lk))
/-- thrown out of the method -/
theorem t_out {q : Addr} {E : String} {st : List Value} (hh : mi.2.2.2.2 = []) (hX : X q E σ) : Tp g (mtOf g mi d mc ms Q X) kc ks pc L st q E σ := by
  intro p e s m args below meth c H locs ls cells slots ce C hR hl hL h1 h2 h3 h4 h5
  simp only [mtOf] at h1 h2
  refine vx_out (E := E) (ce := ce) ?_ C.lk h3 h4 h5 (fun t ht _ => ⟨σ, hX, by rw [ht]; exact hR⟩) hl (by omega) (by omega)
  intro x hx
  rw [C.tb] at hx
  simp only [mtOf, hh] at hx
  simp [tableOf] at hx
end ENDS
/-- what the tables say of a method that is called through its own class -/
def MOk (mi : MI) (n : Nat) : Prop := mi.2.2.2.2 = [] ∧ Cond.code mi.1 mi.2.1 mi.2.2.1 mi.2.2.2.1 ∈ lw_all ∧ Cond.initialized mi.1.cls ∈ lw_all ∧ (mi.1.cls ≠ "java/lang/invoke/MethodHandle" ∧ mi.1.cls ≠ "java/lang/invoke/VarHandle" ∧ (parseMethodDescriptor mi.1.desc).map (fun d => d.parameters.length) = some n) ∧ mi.2.2.1 ≤ 41
def MOkV (mi : MI) (n : Nat) : Prop := MOk mi n ∧ Cond.instanceMethod mi.1 ∈ lw_all ∧ Cond.selects mi.1.cls mi.1 mi.1 ∈ lw_all
def MOkS (mi : MI) (n : Nat) : Prop := MOk mi n ∧ Cond.static mi.1 ∈ lw_all
def MOkI (mi : MI) (n : Nat) : Prop := MOk mi n ∧ Cond.instanceMethod mi.1 ∈ lw_all ∧ mi.1.name = "<init>" ∧ mi.2.2.2.1 = none
section CALLS
variable {g : GG} {mt : MT} {mi : MI} {kc ks pc index d2 mc2 ms2 n : Nat} {L : List (Option Value)} {stk rest As : List Value} {σ : PH} {Q2 : Option Value → PH → Prop} {X2 : Addr → String → PH → Prop}
theorem miW_nil (hh : mi.2.2.2.2 = []) : miW mi = ws_ mi.1 mi.2.1 mi.2.2.1 mi.2.2.2.1 := by
  obtain ⟨y, cc, nL, ret, hh0⟩ := mi
  dsimp only at hh
  subst hh
  rfl
theorem pc_blind {σ : PH} {args : List Value} : FrameBlind (va_Pc args (fun U => g.2.1.WarmedH U.vm ∧ Rep g σ U.heap)) := by
  intro a U f mk h
  exact h
/-- out of a call's run -/
theorem w_run (hr : ∀ (p : Program) (e : Env) (s : State) (m : MethodId) (args : Array Value) (below : List Frame) (meth : Method) (c : Code) (H : Heap) (locs : List Loc) (ls : Array Slot) (cells slots : Nat), Cx g mt p e s m args below meth c → Rep g σ H → lv_has ls mt.1.2.2.1 (asL 0 L) → cells + mc2 ≤ mt.2.2.1.cells → slots + ms2 ≤ mt.2.2.1.slots →
      ∃ As9 : Array Value, vx_Run p g.1 e mt.2.2.1 s m args below meth c H locs cells slots mc2 ms2 (F0 m pc ls stk) rest (Qx g Q2 As9) (Xx g X2) (fun q => gz g ≤ q))
    (kk : ∀ (v : Option Value) (σ2 : PH), Q2 v σ2 → Wp g mt kc ks (pc + 3) L (v.toList ++ rest) σ2) (kx : ∀ (q : Addr) (E : String) (σ2 : PH), X2 q E σ2 → Tp g mt kc ks pc L rest q E σ2) : Wp g mt (kc + mc2) (ks + ms2) pc L stk σ := by
  intro p e s m args below meth c H locs ls cells slots C hR hl hL h1 h2
  obtain ⟨As9, hr9⟩ := hr p e s m args below meth c H locs ls cells slots C hR hL (Nat.le_trans (by omega) C.rm.2.2.1) (Nat.le_trans (by omega) C.rm.2.2.2)
  intro T hT Y
  rcases hr9 T hT Y with ⟨v, st0, t, T', L9, h0, X', hL9, e1, e2, ⟨v', σ2, hv, hq, hR2⟩, st9⟩ | ⟨q, st0, t, T', L9, E, ce, h0, X', hL9, e1, e2, ⟨σ2, hq, hR2⟩, hce, hcv, hcl, st9⟩
  · cases hv
    obtain ⟨t2, a1, b1⟩ := kk v σ2 hq p e s m args below meth c T'.heap (locs ++ L9) ls (cells + mc2) (slots + ms2) C (by rw [e1]; exact hR2) (fun l hl9 => by
      rcases List.mem_append.mp hl9 with h | h
      · exact hl l h
      · exact hL9 l h) hL (by omega) (by omega) T' rfl X'
    exact ⟨t2, st9 t2 a1, b1⟩
  · obtain ⟨t2, a1, b1⟩ := kx q E σ2 hq p e s m args below meth c T'.heap (locs ++ L9) ls (cells + mc2) (slots + ms2) ce C (by rw [e1]; exact hR2) (fun l hl9 => by
      rcases List.mem_append.mp hl9 with h | h
      · exact hl l h
      · exact hL9 l h) hL (by omega) (by omega) (by rw [e1]; exact hce) hcv hcl T' rfl X'
    exact ⟨t2, st9.trans a1, b1⟩
theorem w_callV {b ci N : Nat} {C : String} {T : u_T} {ty : Nat → FieldType} {t : Tg} {fs : List Value} (d : decode mt.1.2.1 pc = .ok (.invokevirtual index, 3)) (q : Cond.methodLink mt.1.1 index mi.1 ∈ lw_all) (ok : MOkV mi n) (hC : ClOk ci C T N ty) (hcls : mi.1.cls = C) (hM : Ct g mi d2 mc2 ms2 (.ref b :: As) σ Q2 X2) (hd : d2 + 1 ≤ mt.2.1.1) (hb : σ.2 b = some (t, .inr (ci, fs))) (hn : As.length = n) (hst : stk = As.reverse ++ .ref b :: rest) (hcat : (rest.map fun v => v.category).sum ≤ 8)
    (kk : ∀ (v : Option Value) (σ2 : PH), Q2 v σ2 → Wp g mt kc ks (pc + 3) L (v.toList ++ rest) σ2) (kx : ∀ (q : Addr) (E : String) (σ2 : PH), X2 q E σ2 → Tp g mt kc ks pc L rest q E σ2) : Wp g mt (kc + mc2) (ks + ms2) pc L stk σ := by
  obtain ⟨⟨hh, q5, q4, hd9, hml9⟩, q2, q3⟩ := ok
  refine w_run ?_ kk kx
  intro p e s m args below meth c H locs ls cells slots X hR hL h1 h2
  have hR' := X.rm
  rw [hcls] at q3 q4
  have hlv := lw_V (own := mt.1.1) (idx := index) q q2 q3 q4 q5
  exact ⟨_, vx_runV (Ts := lw_all) (own := mt.1.1) (C := C) ⟨X.hx, X.hb, X.ml, X.own, X.ts⟩ (hM X.gd) (cwV n X.ts (by rw [miW_nil hh]; exact hlv) (miW_nil hh) rfl rfl ⟨hcls, hd9⟩ ⟨by show d2 + 1 ≤ _; omega, by show 8 + (mi.2.2.1 + 11) + 60 * d2 ≤ _; omega⟩) ⟨pc_blind, va_recv X.K (P1 (hR.at_ hb)) (ci := ci) (q0 := 0) hC.1 rfl, fun U hU hW => ⟨rfl, State.WarmedH.trans X.wm hW, by rw [hU]; exact hR⟩⟩ rfl hn hL.1 hst (lv_room hcat) d ⟨h1, h2⟩⟩
theorem w_callS (d : decode mt.1.2.1 pc = .ok (.invokestatic index, 3)) (q : Cond.methodLink mt.1.1 index mi.1 ∈ lw_all) (ok : MOkS mi n) (hM : Ct g mi d2 mc2 ms2 As σ Q2 X2) (hd : d2 + 1 ≤ mt.2.1.1) (hn : As.length = n) (hst : stk = As.reverse ++ rest) (hcat : (rest.map fun v => v.category).sum ≤ 8)
    (kk : ∀ (v : Option Value) (σ2 : PH), Q2 v σ2 → Wp g mt kc ks (pc + 3) L (v.toList ++ rest) σ2) (kx : ∀ (q : Addr) (E : String) (σ2 : PH), X2 q E σ2 → Tp g mt kc ks pc L rest q E σ2) : Wp g mt (kc + mc2) (ks + ms2) pc L stk σ := by
  obtain ⟨⟨hh, q5, q4, hd9, hml9⟩, q2⟩ := ok
  refine w_run ?_ kk kx
  intro p e s m args below meth c H locs ls cells slots X hR hL h1 h2
  have hR' := X.rm
  have hlv := lw_S (own := mt.1.1) (idx := index) q q2 q4 q5
  exact ⟨_, vx_runS (Ts := lw_all) (own := mt.1.1) ⟨X.hx, X.hb, X.ml, X.own, X.ts⟩ (hM X.gd) (va_cwS n X.ts (by rw [miW_nil hh]; exact hlv) (miW_nil hh) rfl rfl hd9 ⟨by show d2 + 1 ≤ _; omega, by show 8 + (mi.2.2.1 + 11) + 60 * d2 ≤ _; omega⟩) ⟨pc_blind, fun U hU hW => ⟨rfl, State.WarmedH.trans X.wm hW, by rw [hU]; exact hR⟩⟩ rfl hn hL.1 hst (lv_room hcat) d ⟨h1, h2⟩⟩
theorem w_callI {b : Nat} (d : decode mt.1.2.1 pc = .ok (.invokespecial index, 3)) (q : Cond.methodLink mt.1.1 index mi.1 ∈ lw_all) (ok : MOkI mi n) (hM : Ct g mi d2 mc2 ms2 (.ref b :: As) σ Q2 X2) (hd : d2 + 1 ≤ mt.2.1.1) (hn : As.length = n) (hst : stk = As.reverse ++ .ref b :: rest) (hcat : (rest.map fun v => v.category).sum ≤ 8)
    (kk : ∀ (v : Option Value) (σ2 : PH), Q2 v σ2 → Wp g mt kc ks (pc + 3) L (v.toList ++ rest) σ2) (kx : ∀ (q : Addr) (E : String) (σ2 : PH), X2 q E σ2 → Tp g mt kc ks pc L rest q E σ2) : Wp g mt (kc + mc2) (ks + ms2) pc L stk σ := by
  obtain ⟨⟨hh, q5, q4, hd9, hml9⟩, q2, q3, hret⟩ := ok
  refine w_run ?_ kk kx
  intro p e s m args below meth c H locs ls cells slots X hR hL h1 h2
  have hR' := X.rm
  have hlv := lw_meth q5
  have hmw := miW_nil hh
  rw [hret] at hlv hmw
  exact ⟨_, vx_runI (Ts := lw_all) (own := mt.1.1) ⟨X.hx, X.hb, X.ml, X.own, X.ts⟩ (hM X.gd) (cwI n X.ts (by rw [hmw]; exact hlv) hmw rfl rfl (X.ts _ q4) (X.ts _ q) (X.ts _ q2) q3 hd9 ⟨by show d2 + 1 ≤ _; omega, by show 8 + (mi.2.2.1 + 11) + 60 * d2 ≤ _; omega⟩) ⟨pc_blind, fun U hU hW => ⟨rfl, State.WarmedH.trans X.wm hW, by rw [hU]; exact hR⟩⟩ rfl hn hL.1 hst (lv_room hcat) d ⟨h1, h2⟩⟩
end CALLS
