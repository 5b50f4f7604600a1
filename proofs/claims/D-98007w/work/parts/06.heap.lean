/-! ROWS OVER THE HEAP, starts, ends, calls -/
set_option maxRecDepth 100000
section CXF
variable {g : GG} {mt : MT} {p : Program} {e : Env} {s : State} {m : MethodId} {args : Array Value} {below : List Frame} {meth : Method} {c : Code}
theorem Cx.gd (C : Cx g mt p e s m args below meth c) : GoodG g := C.1
theorem Cx.hx (C : Cx g mt p e s m args below meth c) : p.tables.exec = Jvm.exec := C.2.1
theorem Cx.hb (C : Cx g mt p e s m args below meth c) : c.code = mt.1.2.1 := C.2.2.1
theorem Cx.hr (C : Cx g mt p e s m args below meth c) : meth.sig.returnType = mt.1.2.2.2.1 := C.2.2.2.1
theorem Cx.lk (C : Cx g mt p e s m args below meth c) : meth.locks = false := C.2.2.2.2.1
theorem Cx.ml (C : Cx g mt p e s m args below meth c) : c.maxLocals = mt.1.2.2.1 := C.2.2.2.2.2.1
theorem Cx.own (C : Cx g mt p e s m args below meth c) : s.vm.findClass mt.1.1 = some m.cls := C.2.2.2.2.2.2.1
theorem Cx.ts (C : Cx g mt p e s m args below meth c) : ∀ w ∈ lw_all, w.before args s = true := C.2.2.2.2.2.2.2.1
theorem Cx.wm (C : Cx g mt p e s m args below meth c) : g.2.1.WarmedH s.vm := C.2.2.2.2.2.2.2.2.1
theorem Cx.nm (C : Cx g mt p e s m args below meth c) : meth.name = mt.1.2.2.2.2 := C.2.2.2.2.2.2.2.2.2.1
theorem Cx.tb (C : Cx g mt p e s m args below meth c) : c.exceptionTable.toList = tableOf mt.2.2.2.1 := C.2.2.2.2.2.2.2.2.2.2.1
theorem Cx.rm (C : Cx g mt p e s m args below meth c) : mt.2.1.1 ≤ mt.2.2.1.frames ∧ 60 * mt.2.1.1 ≤ mt.2.2.1.locals ∧ mt.2.1.2.1 ≤ mt.2.2.1.cells ∧ mt.2.1.2.2 ≤ mt.2.2.1.slots := C.2.2.2.2.2.2.2.2.2.2.2.1
theorem Cx.rb (C : Cx g mt p e s m args below meth c) : gz g ≤ s.heap.size ∧ ∀ q : Nat, q < gz g → s.heap[q]? = g.2.1.heap[q]? := C.2.2.2.2.2.2.2.2.2.2.2.2
theorem Cx.K (C : Cx g mt p e s m args below meth c) : va_K g.2.2.1 xCl (xTys g.2.2.2) s := va_K.moved C.wm.alike C.gd.2.1
theorem Cx.nF (C : Cx g mt p e s m args below meth c) {a : String} {i : Nat} {b n d h : String} (q : Cond.fieldLinkNest a i b n d h ∈ lw_tbl) : (Cond.fieldLinkNest a i b n d h).before args s = true := by
  obtain ⟨A, hA⟩ := C.gd.1 _ q
  exact va_Nw.use rfl (va_Nw.warmF C.wm (va_Nw.of rfl hA))
theorem Cx.nM (C : Cx g mt p e s m args below meth c) {a : String} {i : Nat} {y : MethodName} {h : String} (q : Cond.methodLinkNest a i y h ∈ lw_tbl) : va_Nw (.methodLinkNest a i y h) s := by
  obtain ⟨A, hA⟩ := C.gd.1 _ q
  exact va_Nw.warmM C.wm (va_Nw.of rfl hA)
theorem Cx.nC (C : Cx g mt p e s m args below meth c) {a b : String} (q : Cond.castable a b ∈ lw_tbl) : va_Nw (.castable a b) s := by
  obtain ⟨A, hA⟩ := C.gd.1 _ q
  exact va_Nw.warmC C.wm (va_Nw.of rfl hA)
end CXF
theorem P1 {D : va_G} {cl : List vw_C} {a : Nat} {e : va_E} {H : Heap} (h : va_at D cl (a, e) H) : va_P D cl [(a, e)] H := by
  intro k q hq
  match k, hq with
  | 0, hq => cases hq; exact h
  | k + 1, hq => simp at hq
def hup (σ : PH) (a : Nat) (t : Tg) (e : va_E) : PH := (σ.1, fun q => if q = a then some (t, e) else σ.2 q)
def hnew (σ : PH) (t : Tg) (e : va_E) : PH := (σ.1 + 1, fun q => if q = σ.1 then some (t, e) else σ.2 q)
theorem Rep.at_ {g : GG} {σ : PH} {H : Heap} (h : Rep g σ H) {a : Nat} {t : Tg} {e : va_E} (ha : σ.2 a = some (t, e)) : va_at g.2.2.1 xCl (a, e) H := (h.2.2.2 a t e ha).2
theorem Rep.ge {g : GG} {σ : PH} {H : Heap} (h : Rep g σ H) {a : Nat} {t : Tg} {e : va_E} (ha : σ.2 a = some (t, e)) : gz g ≤ a := (h.2.2.2 a t e ha).1
theorem Rep.up {g : GG} {σ : PH} {H H1 : Heap} (h : Rep g σ H) {a : Nat} {t t0 : Tg} {e e0 : va_E} (ha : σ.2 a = some (t0, e0)) (z : H1.size = H.size) (oq : ∀ q : Nat, q ≠ a → H1[q]? = H[q]?) (h1 : va_at g.2.2.1 xCl (a, e) H1) : Rep g (hup σ a t e) H1 := by
  obtain ⟨k1, k2, k3, k4⟩ := h
  have hge := (k4 a t0 e0 ha).1
  refine ⟨z.trans k1, k2, fun q hq => (oq q (by omega)).trans (k3 q hq), fun q t9 e9 hq => ?_⟩
  by_cases hqa : q = a
  · subst hqa
    simp only [hup, if_pos] at hq
    cases hq
    exact ⟨hge, h1⟩
  · simp only [hup, if_neg hqa] at hq
    obtain ⟨g1, g2⟩ := k4 q t9 e9 hq
    exact ⟨g1, g2.kept (oq q hqa)⟩
theorem Rep.new_ {g : GG} {σ : PH} {H H1 : Heap} (h : Rep g σ H) {t : Tg} {e : va_E} (z : H1.size = H.size + 1) (oq : ∀ q : Nat, q < H.size → H1[q]? = H[q]?) (h1 : va_at g.2.2.1 xCl (H.size, e) H1) : Rep g (hnew σ t e) H1 := by
  obtain ⟨k1, k2, k3, k4⟩ := h
  refine ⟨by rw [z, k1]; rfl, Nat.le_trans k2 (Nat.le_succ _), fun q hq => (oq q (by omega)).trans (k3 q hq), fun q t9 e9 hq => ?_⟩
  by_cases hqa : q = σ.1
  · subst hqa
    simp only [hnew, if_pos] at hq
    cases hq
    exact ⟨k2, k1 ▸ h1⟩
  · simp only [hnew, if_neg hqa] at hq
    obtain ⟨g1, g2⟩ := k4 q t9 e9 hq
    exact ⟨g1, g2.kept (oq q g2.lt)⟩
def ClOk (ci : Nat) (C : String) (T : u_T) (N : Nat) (ty : Nat → FieldType) : Prop := xCl[ci]? = some (C, T, N) ∧ (∀ w ∈ u_ws C T N, w ∈ lw_all) ∧ (∀ k, k < N → parseFieldDescriptor (T k).2.2.1 = some (ty k)) ∧ ∀ a, a < N → ∀ b, b < N → a ≠ b → (T a).2.1 ≠ (T b).2.1
section HROWS
variable {g : GG} {mt : MT} {kc ks pc : Nat} {L : List (Option Value)} {st rest : List Value} {σ : PH}
theorem w_getf {index a ci k N : Nat} {C : String} {T : u_T} {ty : Nat → FieldType} {t : Tg} {fs : List Value} {v : Value} (d : decode mt.1.2.1 pc = .ok (.getfield index, 3)) (hC : ClOk ci C T N ty) (hk : k < N) (q : Cond.fieldLink mt.1.1 index (T k).1 (T k).2.1 (T k).2.2.1 ∈ lw_all) (hh : σ.2 a = some (t, .inr (ci, fs))) (hv : fs[k]? = some v) (kk : Wp g mt kc ks (pc + 3) L (v :: st) σ) : Wp g mt kc ks pc L (.ref a :: st) σ := by
  intro p e s m args below meth c H locs ls cells slots X hR hl hL h1 h2
  exact va_get (Ts := lw_all) X.hx X.hb X.ts hC.2.1 X.own X.K (P1 (hR.at_ hh)) 0 rfl hC.1 k hk (X.ts _ q) (fun _ h => h) hv d (kk p e s m args below meth c H locs ls cells slots X hR hl hL h1 h2)
theorem w_getfN {index a ci k N : Nat} {C host : String} {T : u_T} {ty : Nat → FieldType} {t : Tg} {fs : List Value} {v : Value} (d : decode mt.1.2.1 pc = .ok (.getfield index, 3)) (hC : ClOk ci C T N ty) (hk : k < N) (q : Cond.fieldLinkNest mt.1.1 index (T k).1 (T k).2.1 (T k).2.2.1 host ∈ lw_tbl) (hh : σ.2 a = some (t, .inr (ci, fs))) (hv : fs[k]? = some v) (kk : Wp g mt kc ks (pc + 3) L (v :: st) σ) : Wp g mt kc ks pc L (.ref a :: st) σ := by
  intro p e s m args below meth c H locs ls cells slots X hR hl hL h1 h2
  exact va_getN (Ts := lw_all) X.hx X.hb X.ts hC.2.1 X.own X.K (P1 (hR.at_ hh)) 0 rfl hC.1 k hk (X.nF q) (fun _ h => h) hv d (kk p e s m args below meth c H locs ls cells slots X hR hl hL h1 h2)
theorem locs_put {g : GG} {locs : List Loc} {a i : Nat} (h : ∀ l ∈ locs, gz g ≤ l.base) (ha : gz g ≤ a) : ∀ l ∈ locs ++ [(⟨a, i⟩ : Loc)], gz g ≤ l.base := by
  intro l hl
  rcases List.mem_append.mp hl with h1 | h1
  · exact h l h1
  · rw [List.mem_singleton.mp h1]
    exact ha
theorem w_putf {index a ci k N : Nat} {C : String} {T : u_T} {ty : Nat → FieldType} {t : Tg} {fs : List Value} {v : Value} (d : decode mt.1.2.1 pc = .ok (.putfield index, 3)) (hC : ClOk ci C T N ty) (hk : k < N) (q : Cond.fieldLink mt.1.1 index (T k).1 (T k).2.1 (T k).2.2.1 ∈ lw_all) (hfin : (T k).2.2.2 = false) (hh : σ.2 a = some (t, .inr (ci, fs))) (hn : narrow (ty k) v = v) (hfit : fits (ty k) v = true) (hl9 : k < fs.length) (kk : Wp g mt kc ks (pc + 3) L st (hup σ a t (.inr (ci, fs.set k v)))) : Wp g mt kc ks pc L (v :: .ref a :: st) σ := by
  intro p e s m args below meth c H locs ls cells slots X hR hl hL h1 h2
  obtain ⟨hc, hin, hty, hnm⟩ := hC
  have hts := X.ts
  have hK := X.K
  have hap := va_apart (own := mt.1.1) hts hin ty hty hnm hK hc
  obtain ⟨r, g1, cell, q1, q2, q3, q4⟩ := hR.at_ hh
  have hr : r = (C, T, N) := Option.some.inj (g1.symm.trans hc)
  subst hr
  obtain ⟨hS, hfc, kC, hkC, hkind⟩ := hK.1 ci _ hc
  obtain ⟨cf, kf, fi, f, hi, hsl⟩ := hS k hk
  have hlay := hts _ (hin _ (u_in_lay hk))
  unfold u_lay at hlay
  rw [if_neg (by rw [hfin]; decide)] at hlay
  have hst := (u_facts hfc hkC (u_lays hts hin hk) hi).1
  have h6 := u_store hfc hkC hkind hlay hi (hty k hk) hn hfit
  refine W.putK X.hx X.hb (f := f) ⟨X.own, hts _ q, ⟨_, _, _, hi⟩, hst⟩ (by rw [q2]; exact h6) q1 q3 (by rw [hsl]; exact k2_hasslot (q4 k hk)) rfl rfl d fun H' e1 e2 e3 => ?_
  rw [hsl] at e1
  exact kk p e s m args below meth c H' _ ls cells slots X (hR.up hh e2 e3 ⟨_, hc, t_OB.to (V := updV (vp_V fs) k v) ⟨_, e1, q2, q3, t_set q4 hap hk v⟩ (fun j _ => vp_updV_set hl9 v j)⟩) (locs_put hl (hR.ge hh)) hL h1 h2
theorem w_putfN {index a ci k N : Nat} {C host : String} {T : u_T} {ty : Nat → FieldType} {t : Tg} {fs : List Value} {v : Value} (d : decode mt.1.2.1 pc = .ok (.putfield index, 3)) (hC : ClOk ci C T N ty) (hk : k < N) (q : Cond.fieldLinkNest mt.1.1 index (T k).1 (T k).2.1 (T k).2.2.1 host ∈ lw_tbl) (hfin : (T k).2.2.2 = false) (hh : σ.2 a = some (t, .inr (ci, fs))) (hn : narrow (ty k) v = v) (hfit : fits (ty k) v = true) (hl9 : k < fs.length) (kk : Wp g mt kc ks (pc + 3) L st (hup σ a t (.inr (ci, fs.set k v)))) : Wp g mt kc ks pc L (v :: .ref a :: st) σ := by
  intro p e s m args below meth c H locs ls cells slots X hR hl hL h1 h2
  have hq := X.nF q
  obtain ⟨hc, hin, hty, hnm⟩ := hC
  have hts := X.ts
  have hK := X.K
  have hap := va_apart (own := mt.1.1) hts hin ty hty hnm hK hc
  obtain ⟨r, g1, cell, q1, q2, q3, q4⟩ := hR.at_ hh
  have hr : r = (C, T, N) := Option.some.inj (g1.symm.trans hc)
  subst hr
  obtain ⟨hS, hfc, kC, hkC, hkind⟩ := hK.1 ci _ hc
  obtain ⟨cf, kf, fi, f, hi, hsl⟩ := hS k hk
  have hlay := hts _ (hin _ (u_in_lay hk))
  unfold u_lay at hlay
  rw [if_neg (by rw [hfin]; decide)] at hlay
  have hst := (u_facts hfc hkC (u_lays hts hin hk) hi).1
  have h6 := u_store hfc hkC hkind hlay hi (hty k hk) hn hfit
  refine va_WputK X.hx X.hb (f := f) X.own hq hi hst (by rw [q2]; exact h6) q1 q3 (by rw [hsl]; exact k2_hasslot (q4 k hk)) rfl rfl d fun H' e1 e2 e3 => ?_
  rw [hsl] at e1
  exact kk p e s m args below meth c H' _ ls cells slots X (hR.up hh e2 e3 ⟨_, hc, t_OB.to (V := updV (vp_V fs) k v) ⟨_, e1, q2, q3, t_set q4 hap hk v⟩ (fun j _ => vp_updV_set hl9 v j)⟩) (locs_put hl (hR.ge hh)) hL h1 h2
theorem w_putfF {index a ci k N : Nat} {C : String} {T : u_T} {ty : Nat → FieldType} {t : Tg} {fs : List Value} {v : Value} (d : decode mt.1.2.1 pc = .ok (.putfield index, 3)) (hC : ClOk ci C T N ty) (hk : k < N) (q : Cond.fieldLink mt.1.1 index (T k).1 (T k).2.1 (T k).2.2.1 ∈ lw_all) (hfin : (T k).2.2.2 = true) (hini : mt.1.2.2.2.2 = "<init>") (hdecl : (T k).1 = mt.1.1) (hh : σ.2 a = some (t, .inr (ci, fs))) (hn : narrow (ty k) v = v) (hfit : fits (ty k) v = true) (hl9 : k < fs.length) (kk : Wp g mt kc ks (pc + 3) L st (hup σ a t (.inr (ci, fs.set k v)))) : Wp g mt kc ks pc L (v :: .ref a :: st) σ := by
  intro p e s m args below meth c H locs ls cells slots X hR hl hL h1 h2
  obtain ⟨hc, hin, hty, hnm⟩ := hC
  have hts := X.ts
  have hK := X.K
  have hap := va_apart (own := mt.1.1) hts hin ty hty hnm hK hc
  obtain ⟨r, g1, cell, q1, q2, q3, q4⟩ := hR.at_ hh
  have hr : r = (C, T, N) := Option.some.inj (g1.symm.trans hc)
  subst hr
  obtain ⟨hS, hfc, kC, hkC, hkind⟩ := hK.1 ci _ hc
  obtain ⟨cf, kf, fi, f, hi, hsl⟩ := hS k hk
  have hlay := hts _ (hin _ (u_in_lay hk))
  unfold u_lay at hlay
  rw [if_pos hfin] at hlay
  have hst := (u_facts hfc hkC (u_lays hts hin hk) hi).1
  have hcf : m.cls = cf := by
    obtain ⟨_, _, c', _, _, _, -, -, hf', -, -, -, hown2, -⟩ := Cond.laysFinal_spec hlay
    have e1 : c' = cf := by have := hi.symm.trans hf'; simp at this; exact this.1.symm
    rw [hdecl] at hown2
    rw [← e1]; exact Option.some.inj (X.own.symm.trans hown2)
  have h6 := u_fits hfc hkC hkind (Or.inr hlay) hi (hty k hk) hn hfit
  refine W.putFinK X.hx X.hb X.own (hts _ q) hi hst hcf (X.nm.trans hini) (by rw [q2]; exact h6) q1 q3 (by rw [hsl]; exact k2_hasslot (q4 k hk)) rfl rfl d fun H' e1 e2 e3 => ?_
  rw [hsl] at e1
  exact kk p e s m args below meth c H' _ ls cells slots X (hR.up hh e2 e3 ⟨_, hc, t_OB.to (V := updV (vp_V fs) k v) ⟨_, e1, q2, q3, t_set q4 hap hk v⟩ (fun j _ => vp_updV_set hl9 v j)⟩) (locs_put hl (hR.ge hh)) hL h1 h2
theorem w_iald {a n : Nat} {t : Tg} {f : Nat → Int32} {i : Int32} (d : decode mt.1.2.1 pc = .ok (.iaload, 1)) (hh : σ.2 a = some (t, .inl (g.2.2.2 0, n, .inl f))) (hin : vp_in i n) (kk : Wp g mt kc ks (pc + 1) L (.int (f i.toNatClampNeg) :: st) σ) : Wp g mt kc ks pc L (.int i :: .ref a :: st) σ := by
  intro p e s m args below meth c H locs ls cells slots X hR hl hL h1 h2
  exact va_iald X.hx X.hb X.K (P1 (hR.at_ hh)) 0 0 rfl rfl hin d (kk p e s m args below meth c H locs ls cells slots X hR hl hL h1 h2)
theorem w_lald {a n : Nat} {t : Tg} {f : Nat → Int64} {i : Int32} (d : decode mt.1.2.1 pc = .ok (.laload, 1)) (hh : σ.2 a = some (t, .inl (g.2.2.2 1, n, .inr (.inl f)))) (hin : vp_in i n) (kk : Wp g mt kc ks (pc + 1) L (.long (f i.toNatClampNeg) :: st) σ) : Wp g mt kc ks pc L (.int i :: .ref a :: st) σ := by
  intro p e s m args below meth c H locs ls cells slots X hR hl hL h1 h2
  exact va_lald X.hx X.hb X.K (P1 (hR.at_ hh)) 0 1 rfl rfl hin d (kk p e s m args below meth c H locs ls cells slots X hR hl hL h1 h2)
theorem w_bald {a n : Nat} {t : Tg} {f : Nat → Int32} {i : Int32} (d : decode mt.1.2.1 pc = .ok (.baload, 1)) (hh : σ.2 a = some (t, .inl (g.2.2.2 2, n, .inl f))) (hin : vp_in i n) (kk : Wp g mt kc ks (pc + 1) L (.int (f i.toNatClampNeg) :: st) σ) : Wp g mt kc ks pc L (.int i :: .ref a :: st) σ := by
  intro p e s m args below meth c H locs ls cells slots X hR hl hL h1 h2
  exact va_bald X.hx X.hb X.K (P1 (hR.at_ hh)) 0 2 rfl rfl hin d (kk p e s m args below meth c H locs ls cells slots X hR hl hL h1 h2)
theorem w_sald {a n : Nat} {t : Tg} {f : Nat → Int32} {i : Int32} (d : decode mt.1.2.1 pc = .ok (.saload, 1)) (hh : σ.2 a = some (t, .inl (g.2.2.2 3, n, .inl f))) (hin : vp_in i n) (kk : Wp g mt kc ks (pc + 1) L (.int (f i.toNatClampNeg) :: st) σ) : Wp g mt kc ks pc L (.int i :: .ref a :: st) σ := by
  intro p e s m args below meth c H locs ls cells slots X hR hl hL h1 h2
  exact va_sald X.hx X.hb X.K (P1 (hR.at_ hh)) 0 3 rfl rfl hin d (kk p e s m args below meth c H locs ls cells slots X hR hl hL h1 h2)
theorem w_alen {a n k : Nat} {t : Tg} {cA : ClassId} {ty : FieldType} {x : (Nat → Int32) ⊕ (Nat → Int64) ⊕ (Nat → UInt32) ⊕ (Nat → UInt64) ⊕ (Nat → Option Nat)} (d : decode mt.1.2.1 pc = .ok (.arraylength, 1)) (hh : σ.2 a = some (t, .inl (cA, n, x))) (ht : (xTys g.2.2.2)[k]? = some (cA, ty)) (kk : Wp g mt kc ks (pc + 1) L (.int (nI n) :: st) σ) : Wp g mt kc ks pc L (.ref a :: st) σ := by
  intro p e s m args below meth c H locs ls cells slots X hR hl hL h1 h2
  exact va_alen X.hx X.hb X.K (P1 (hR.at_ hh)) 0 k rfl ht rfl d (kk p e s m args below meth c H locs ls cells slots X hR hl hL h1 h2)
theorem w_aald {a n k : Nat} {t : Tg} {C : String} {f : Nat → Option Nat} {i : Int32} (d : decode mt.1.2.1 pc = .ok (.aaload, 1)) (ht : (xTys g.2.2.2)[k]? = some (g.2.2.2 k, .object C)) (hh : σ.2 a = some (t, .inl (g.2.2.2 k, n, .inr (.inr (.inr (.inr f)))))) (hin : vp_in i n) (kk : Wp g mt kc ks (pc + 1) L (va_rf (f i.toNatClampNeg) :: st) σ) : Wp g mt kc ks pc L (.int i :: .ref a :: st) σ := by
  intro p e s m args below meth c H locs ls cells slots X hR hl hL h1 h2
  exact va_aldq X.hx X.hb X.K (P1 (hR.at_ hh)) 0 k rfl ht hin d (kk p e s m args below meth c H locs ls cells slots X hR hl hL h1 h2)
theorem w_iast {a n : Nat} {t : Tg} {f : Nat → Int32} {i x : Int32} (d : decode mt.1.2.1 pc = .ok (.iastore, 1)) (hh : σ.2 a = some (t, .inl (g.2.2.2 0, n, .inl f))) (hin : vp_in i n) (kk : Wp g mt kc ks (pc + 1) L st (hup σ a t (.inl (g.2.2.2 0, n, .inl (upd f i.toNatClampNeg x))))) : Wp g mt kc ks pc L (.int x :: .int i :: .ref a :: st) σ := by
  intro p e s m args below meth c H locs ls cells slots X hR hl hL h1 h2
  refine W.iast X.hx X.hb (hR.at_ hh) ((X.K.2 0 _ rfl).1 n (fun j => .int (f j))) (fun q => by cases q) (by show ¬ (i < 0 ∨ (arrV _ _ _).slots.size ≤ _); rw [arrV_size]; exact hin) rfl rfl d fun H1 e9 z oq => ?_
  refine kk p e s m args below meth c H1 _ ls cells slots X (hR.up hh z oq ?_) (locs_put hl (hR.ge hh)) hL h1 h2
  show H1[a]? = some (vp_cell _ _)
  rw [e9]
  rw [vp_cell_i, vp_cell_i, arrV_store]
  congr 2
  funext q
  by_cases hq : q = i.toNatClampNeg
  · subst hq
    simp [updV, upd]
  · simp [updV, upd, hq]
theorem w_last {a n : Nat} {t : Tg} {f : Nat → Int64} {i : Int32} {x : Int64} (d : decode mt.1.2.1 pc = .ok (.lastore, 1)) (hh : σ.2 a = some (t, .inl (g.2.2.2 1, n, .inr (.inl f)))) (hin : vp_in i n) (kk : Wp g mt kc ks (pc + 1) L st (hup σ a t (.inl (g.2.2.2 1, n, .inr (.inl (vp_updL f i.toNatClampNeg x)))))) : Wp g mt kc ks pc L (.long x :: .int i :: .ref a :: st) σ := by
  intro p e s m args below meth c H locs ls cells slots X hR hl hL h1 h2
  refine W.last X.hx X.hb (hR.at_ hh) ((X.K.2 1 _ rfl).1 n (fun j => .long (f j))) (fun q => by cases q) (by show ¬ (i < 0 ∨ (arrV _ _ _).slots.size ≤ _); rw [arrV_size]; exact hin) rfl rfl d fun H1 e9 z oq => ?_
  refine kk p e s m args below meth c H1 _ ls cells slots X (hR.up hh z oq ?_) (locs_put hl (hR.ge hh)) hL h1 h2
  show H1[a]? = some (vp_cell _ _)
  rw [e9]
  rw [vp_cell_l, vp_cell_l, arrV_store]
  congr 2
  funext q
  by_cases hq : q = i.toNatClampNeg
  · subst hq
    simp [updV, vp_updL]
  · simp [updV, vp_updL, hq]
theorem w_bast {a n : Nat} {t : Tg} {f : Nat → Int32} {i x : Int32} (d : decode mt.1.2.1 pc = .ok (.bastore, 1)) (hh : σ.2 a = some (t, .inl (g.2.2.2 2, n, .inl f))) (hin : vp_in i n) (kk : Wp g mt kc ks (pc + 1) L st (hup σ a t (.inl (g.2.2.2 2, n, .inl (upd f i.toNatClampNeg (vp_nar .byte x)))))) : Wp g mt kc ks pc L (.int x :: .int i :: .ref a :: st) σ := by
  intro p e s m args below meth c H locs ls cells slots X hR hl hL h1 h2
  refine W.bast X.hx X.hb (hR.at_ hh) ((X.K.2 2 _ rfl).1 n (fun j => .int (f j))) (fun q => by cases q) (by show ¬ (i < 0 ∨ (arrV _ _ _).slots.size ≤ _); rw [arrV_size]; exact hin) rfl rfl d fun H1 e9 z oq => ?_
  refine kk p e s m args below meth c H1 _ ls cells slots X (hR.up hh z oq ?_) (locs_put hl (hR.ge hh)) hL h1 h2
  show H1[a]? = some (vp_cell _ _)
  rw [e9]
  rw [vp_cell_i, vp_cell_i, arrV_store]
  congr 2
  funext q
  by_cases hq : q = i.toNatClampNeg
  · subst hq
    simp [updV, upd, vp_nar]
    try rfl
  · simp [updV, upd, hq]
theorem w_sast {a n : Nat} {t : Tg} {f : Nat → Int32} {i x : Int32} (d : decode mt.1.2.1 pc = .ok (.sastore, 1)) (hh : σ.2 a = some (t, .inl (g.2.2.2 3, n, .inl f))) (hin : vp_in i n) (kk : Wp g mt kc ks (pc + 1) L st (hup σ a t (.inl (g.2.2.2 3, n, .inl (upd f i.toNatClampNeg (vp_nar .short x)))))) : Wp g mt kc ks pc L (.int x :: .int i :: .ref a :: st) σ := by
  intro p e s m args below meth c H locs ls cells slots X hR hl hL h1 h2
  refine W.sast X.hx X.hb (hR.at_ hh) ((X.K.2 3 _ rfl).1 n (fun j => .int (f j))) (fun q => by cases q) (by show ¬ (i < 0 ∨ (arrV _ _ _).slots.size ≤ _); rw [arrV_size]; exact hin) rfl rfl d fun H1 e9 z oq => ?_
  refine kk p e s m args below meth c H1 _ ls cells slots X (hR.up hh z oq ?_) (locs_put hl (hR.ge hh)) hL h1 h2
  show H1[a]? = some (vp_cell _ _)
  rw [e9]
  rw [vp_cell_i, vp_cell_i, arrV_store]
  congr 2
  funext q
  by_cases hq : q = i.toNatClampNeg
  · subst hq
    simp [updV, upd, vp_nar]
    try rfl
  · simp [updV, upd, hq]
/-- on numbers -/
theorem w_ialdN {a n j : Nat} {t : Tg} {f : Nat → Int32} (d : decode mt.1.2.1 pc = .ok (.iaload, 1)) (hh : σ.2 a = some (t, .inl (g.2.2.2 0, n, .inl f))) (hj : j < n) (hn : n < 2147483648) (kk : Wp g mt kc ks (pc + 1) L (.int (f j) :: st) σ) : Wp g mt kc ks pc L (.int (nI j) :: .ref a :: st) σ :=
  w_iald d hh (vp_in_nI hj hn) (by rw [nI_clamp (by omega)]; exact kk)
theorem w_baldN {a n j : Nat} {t : Tg} {f : Nat → Int32} (d : decode mt.1.2.1 pc = .ok (.baload, 1)) (hh : σ.2 a = some (t, .inl (g.2.2.2 2, n, .inl f))) (hj : j < n) (hn : n < 2147483648) (kk : Wp g mt kc ks (pc + 1) L (.int (f j) :: st) σ) : Wp g mt kc ks pc L (.int (nI j) :: .ref a :: st) σ :=
  w_bald d hh (vp_in_nI hj hn) (by rw [nI_clamp (by omega)]; exact kk)
theorem w_laldN {a n j : Nat} {t : Tg} {f : Nat → Int64} (d : decode mt.1.2.1 pc = .ok (.laload, 1)) (hh : σ.2 a = some (t, .inl (g.2.2.2 1, n, .inr (.inl f)))) (hj : j < n) (hn : n < 2147483648) (kk : Wp g mt kc ks (pc + 1) L (.long (f j) :: st) σ) : Wp g mt kc ks pc L (.int (nI j) :: .ref a :: st) σ :=
  w_lald d hh (vp_in_nI hj hn) (by rw [nI_clamp (by omega)]; exact kk)
theorem w_aaldN {a n k j : Nat} {t : Tg} {C : String} {f : Nat → Option Nat} (d : decode mt.1.2.1 pc = .ok (.aaload, 1)) (ht : (xTys g.2.2.2)[k]? = some (g.2.2.2 k, .object C)) (hh : σ.2 a = some (t, .inl (g.2.2.2 k, n, .inr (.inr (.inr (.inr f)))))) (hj : j < n) (hn : n < 2147483648) (kk : Wp g mt kc ks (pc + 1) L (va_rf (f j) :: st) σ) : Wp g mt kc ks pc L (.int (nI j) :: .ref a :: st) σ :=
  w_aald d ht hh (vp_in_nI hj hn) (by rw [nI_clamp (by omega)]; exact kk)
theorem w_iastN {a n j : Nat} {t : Tg} {f : Nat → Int32} {x : Int32} (d : decode mt.1.2.1 pc = .ok (.iastore, 1)) (hh : σ.2 a = some (t, .inl (g.2.2.2 0, n, .inl f))) (hj : j < n) (hn : n < 2147483648) (kk : Wp g mt kc ks (pc + 1) L st (hup σ a t (.inl (g.2.2.2 0, n, .inl (upd f j x))))) : Wp g mt kc ks pc L (.int x :: .int (nI j) :: .ref a :: st) σ :=
  w_iast d hh (vp_in_nI hj hn) (by rw [nI_clamp (by omega)]; exact kk)
theorem w_bastN {a n j : Nat} {t : Tg} {f : Nat → Int32} {x : Int32} (d : decode mt.1.2.1 pc = .ok (.bastore, 1)) (hh : σ.2 a = some (t, .inl (g.2.2.2 2, n, .inl f))) (hj : j < n) (hn : n < 2147483648) (kk : Wp g mt kc ks (pc + 1) L st (hup σ a t (.inl (g.2.2.2 2, n, .inl (upd f j (vp_nar .byte x)))))) : Wp g mt kc ks pc L (.int x :: .int (nI j) :: .ref a :: st) σ :=
  w_bast d hh (vp_in_nI hj hn) (by rw [nI_clamp (by omega)]; exact kk)
theorem w_lastN {a n j : Nat} {t : Tg} {f : Nat → Int64} {x : Int64} (d : decode mt.1.2.1 pc = .ok (.lastore, 1)) (hh : σ.2 a = some (t, .inl (g.2.2.2 1, n, .inr (.inl f)))) (hj : j < n) (hn : n < 2147483648) (kk : Wp g mt kc ks (pc + 1) L st (hup σ a t (.inl (g.2.2.2 1, n, .inr (.inl (vp_updL f j x)))))) : Wp g mt kc ks pc L (.long x :: .int (nI j) :: .ref a :: st) σ :=
  w_last d hh (vp_in_nI hj hn) (by rw [nI_clamp (by omega)]; exact kk)
/-- a reference stored in an array of its own class -/
theorem w_aast {a n k v ci N : Nat} {t t2 : Tg} {C : String} {T : u_T} {ty : Nat → FieldType} {vs : List Value} {f : Nat → Option Nat} {i : Int32} (d : decode mt.1.2.1 pc = .ok (.aastore, 1)) (hC : ClOk ci C T N ty) (ht : (xTys g.2.2.2)[k]? = some (g.2.2.2 k, .object C)) (hh : σ.2 a = some (t, .inl (g.2.2.2 k, n, .inr (.inr (.inr (.inr f)))))) (hv : σ.2 v = some (t2, .inr (ci, vs))) (hin : vp_in i n) (kk : Wp g mt kc ks (pc + 1) L st (hup σ a t (.inl (g.2.2.2 k, n, .inr (.inr (.inr (.inr (va_up f i.toNatClampNeg (some v)))))))) ) : Wp g mt kc ks pc L (.ref v :: .int i :: .ref a :: st) σ := by
  intro p e s m args below meth c H locs ls cells slots X hR hl hL h1 h2
  have hlt : i.toNatClampNeg < n := Nat.not_le.mp fun q => hin (Or.inr q)
  have h0 : ¬ i < 0 := fun q => hin (Or.inl q)
  have hK := X.K
  obtain ⟨r', hr', cellV, g1, g2, g3, -⟩ := hR.at_ hv
  have hcls := (hK.1 ci _ hC.1).2
  obtain ⟨kA, comp, k1, k2, k3, -⟩ := (hK.2 k _ ht).2
  have hcomp : comp = g.2.2.1.1 ci := Option.some.inj (k3.symm.trans hcls.1)
  subst hcomp
  obtain ⟨kC, hkC, -⟩ := hcls.2
  refine W.aast X.hx X.hb (hR.at_ hh) (fun q h => by cases h) (fun h => by cases h) k1 k2 rfl hkC ⟨h0, by show _ < (arrV _ _ _).slots.size; rw [arrV_size]; exact hlt⟩ g1 (fun q h => by rw [g3] at h; cases h) (by rw [g2]; exact hkC) (by rw [g2]; exact va_assign hcls) rfl rfl d fun H1 e9 z oq => ?_
  refine kk p e s m args below meth c H1 _ ls cells slots X (hR.up hh z oq ?_) (locs_put hl (hR.ge hh)) hL h1 h2
  show H1[a]? = some (vp_cell _ _)
  rw [e9]
  rw [vp_cell_q, vp_cell_q, arrV_store]
  congr 2
  funext q
  by_cases hq : q = i.toNatClampNeg
  · subst hq
    simp [updV, va_up, va_rf]
  · simp [updV, va_up, hq]
/-- .. or of a class above it -/
theorem w_aastO {a n k v ci N : Nat} {t t2 : Tg} {C E : String} {T : u_T} {ty : Nat → FieldType} {vs : List Value} {f : Nat → Option Nat} {i : Int32} (d : decode mt.1.2.1 pc = .ok (.aastore, 1)) (hC : ClOk ci C T N ty) (hca : Cond.castable C E ∈ lw_tbl) (ht : (xTys g.2.2.2)[k]? = some (g.2.2.2 k, .object E)) (hh : σ.2 a = some (t, .inl (g.2.2.2 k, n, .inr (.inr (.inr (.inr f)))))) (hv : σ.2 v = some (t2, .inr (ci, vs))) (hin : vp_in i n) (kk : Wp g mt kc ks (pc + 1) L st (hup σ a t (.inl (g.2.2.2 k, n, .inr (.inr (.inr (.inr (va_up f i.toNatClampNeg (some v)))))))) ) : Wp g mt kc ks pc L (.ref v :: .int i :: .ref a :: st) σ := by
  intro p e s m args below meth c H locs ls cells slots X hR hl hL h1 h2
  have hlt : i.toNatClampNeg < n := Nat.not_le.mp fun q => hin (Or.inr q)
  have h0 : ¬ i < 0 := fun q => hin (Or.inl q)
  have hK := X.K
  obtain ⟨r', hr', cellV, g1, g2, g3, -⟩ := hR.at_ hv
  have hcls := (hK.1 ci _ hC.1).2
  obtain ⟨kA, comp, k1, k2, k3, -⟩ := (hK.2 k _ ht).2
  obtain ⟨c0, t1, f1, f2, f3⟩ := Cond.castable_spec (va_Nw.use (A := args) rfl (X.nC hca))
  have e1 : t1 = comp := Option.some.inj (f2.symm.trans k3)
  have e2 : c0 = g.2.2.1.1 ci := Option.some.inj (f1.symm.trans hcls.1)
  subst e1
  subst e2
  obtain ⟨kC, hkC, -⟩ := hcls.2
  obtain ⟨kcomp, hkcomp, -⟩ := Vm.findClass_spec k3
  refine W.aast X.hx X.hb (hR.at_ hh) (fun q h => by cases h) (fun h => by cases h) k1 k2 rfl hkcomp ⟨h0, by show _ < (arrV _ _ _).slots.size; rw [arrV_size]; exact hlt⟩ g1 (fun q h => by rw [g3] at h; cases h) (by rw [g2]; exact hkC) (by rw [g2]; exact f3) rfl rfl d fun H1 e9 z oq => ?_
  refine kk p e s m args below meth c H1 _ ls cells slots X (hR.up hh z oq ?_) (locs_put hl (hR.ge hh)) hL h1 h2
  show H1[a]? = some (vp_cell _ _)
  rw [e9]
  rw [vp_cell_q, vp_cell_q, arrV_store]
  congr 2
  funext q
  by_cases hq : q = i.toNatClampNeg
  · subst hq
    simp [updV, va_up, va_rf]
  · simp [updV, va_up, hq]
end HROWS
