/-! EXCEPTIONS: rows that throw and rows that catch -/
set_option maxRecDepth 100000
section EXC
variable {g : GG} {mt : MT} {kc ks pc : Nat} {L : List (Option Value)} {st rest : List Value} {σ σ0 : PH}
theorem Cx.nc {p : Program} {e : Env} {s : State} {m : MethodId} {args : Array Value} {below : List Frame} {meth : Method} {c : Code} (C : Cx g mt p e s m args below meth c) {a b : String} (h : (a, b) ∈ ncL) : va_Nc a b s := va_Nc.moved C.wm.alike (C.gd.2.2.2.2.2.1 _ h)
theorem w_athrow {q ci N : Nat} {t : Tg} {fs : List Value} {E : String} {T : u_T} {ty : Nat → FieldType} (d : decode mt.1.2.1 pc = .ok (.athrow, 1)) (hC : ClOk ci E T N ty) (hq : σ.2 q = some (t, .inr (ci, fs))) (k : Tp g mt kc ks pc L rest q E σ) : Wp g mt kc ks pc L (.ref q :: rest) σ := by
  intro p e s m args below meth c H locs ls cells slots X hR hl hL h1 h2
  obtain ⟨r, g1, cell, q1, q2, q3, q4⟩ := hR.at_ hq
  obtain ⟨hc, hin, hty, hnm⟩ := hC
  have hr : r = (E, T, N) := Option.some.inj (g1.symm.trans hc)
  subst hr
  have hfc := (X.K.1 ci _ hc).2.1
  exact vx_athrow X.hx X.hb d (k p e s m args below meth c H locs ls cells slots cell X hR hl hL h1 h2 q1 q3 (by rw [q2]; exact hfc))
/-- a handler that takes what is thrown; those before it cover another place, or take another class -/
theorem t_catch {q : Addr} {E name : String} {x : Nat × Nat × Nat × Nat} {pre suf : List (Nat × Nat × Nat × Nat)} (hs : mt.2.2.2.1 = pre ++ x :: suf) (hpre : ∀ z ∈ pre, (¬ (z.1 ≤ pc ∧ pc < z.2.1)) ∨ (z.2.2.2 ≠ 0 ∧ ∃ nm, Cond.classLink mt.1.1 z.2.2.2 nm ∈ lw_all ∧ (E, nm) ∈ ncL)) (hx : x.1 ≤ pc ∧ pc < x.2.1) (h0 : x.2.2.2 ≠ 0) (q1 : Cond.classLink mt.1.1 x.2.2.2 name ∈ lw_all) (q2 : Cond.castable E name ∈ lw_tbl) (kk : Wp g mt kc ks x.2.2.1 L [.ref q] σ) : Tp g mt kc ks pc L rest q E σ := by
  intro p e s m args below meth c H locs ls cells slots ce X hR hl hL h1 h2 h3 h4 h5
  refine vx_catch (own := mt.1.1) (name := name) X.own (tableOf pre) ⟨x.1, x.2.1, x.2.2.1, x.2.2.2⟩ (tableOf suf) ?_ ?_ ?_ h0 (X.ts _ q1) (va_Nw.use rfl (X.nC q2)) h3 h4 h5 (kk p e s m args below meth c H locs ls cells slots X hR hl hL h1 h2)
  · rw [X.tb, hs]
    simp [tableOf]
  · intro z hz
    obtain ⟨y, hy, rfl⟩ := List.mem_map.mp (show z ∈ pre.map _ from hz)
    rcases hpre y hy with h | ⟨h, nm, h6, h7⟩
    · left
      simp only [covers, Bool.and_eq_false_iff, decide_eq_false_iff_not]
      by_cases h8 : y.1 ≤ pc
      · exact Or.inr (fun h9 => h ⟨h8, h9⟩)
      · exact Or.inl h8
    · exact Or.inr ⟨h, nm, X.ts _ h6, X.nc h7⟩
  · simp only [covers, Bool.and_eq_true, decide_eq_true_eq]
    exact hx
theorem Cx.tw {p : Program} {e : Env} {s : State} {m : MethodId} {args : Array Value} {below : List Frame} {meth : Method} {c : Code} (C : Cx g mt p e s m args below meth c) {w : Cond} (h : w ∈ lw_tbl) (hn : isNw w = true) : w.before args s = true := by
  obtain ⟨A, hA⟩ := C.gd.1 _ h
  cases w
  all_goals first
    | (cases hn; done)
    | exact va_Nw.use rfl (va_Nw.warmF C.wm (va_Nw.of rfl hA))
    | exact va_Nw.use rfl (va_Nw.warmM C.wm (va_Nw.of rfl hA))
    | exact va_Nw.use rfl (va_Nw.warmC C.wm (va_Nw.of rfl hA))
    | exact va_Nw.use rfl (va_Nw.warmD C.wm (va_Nw.of rfl hA))
theorem Rep.more {H H1 : Heap} (h : Rep g σ H) (hs : H.size ≤ H1.size) (hq : ∀ q : Nat, q < H.size → H1[q]? = H[q]?) : Rep g (H1.size, σ.2) H1 := by
  obtain ⟨k1, k2, k3, k4⟩ := h
  refine ⟨rfl, by show gz g ≤ H1.size; omega, fun q h => (hq q (by omega)).trans (k3 q h), fun a t e ha => ?_⟩
  obtain ⟨g1, g2⟩ := k4 a t e ha
  exact ⟨g1, g2.kept (hq a g2.lt)⟩
/-- what the tables say of an exception that the machine makes -/
def VmX (cls : String) (names : List String) : Prop := Bundle.fit cls = true ∧ (∀ n ∈ names, Bundle.fit n = true) ∧ (cls == "java/lang/StackOverflowError") = false ∧ (cls == "java/lang/OutOfMemoryError") = false ∧ (∀ w ∈ vx_atM cls names, w ∈ lw_all ∨ (w ∈ lw_tbl ∧ isNw w = true)) ∧ (∀ w ∈ vx_atM cls names, vx_ot w = true) ∧ names.length ≤ 4
theorem x_note {cls text : String} {names : List String} {nb : Nat} (V : VmX cls names) (htext : (text == notModelled) = false) (hnb : (stringBytes (stringToUtf16 text)).size ≤ nb) (hnb1 : nb ≤ 1000) (hd : 180 ≤ mt.2.1.1) (hcat : (rest.map fun v => v.category).sum ≤ 8) (kx : ∀ (q : Addr) (n : Nat), σ.1 ≤ n → Tp g mt kc ks pc L rest q cls (n, σ.2))
    {p : Program} {e : Env} {s : State} {m : MethodId} {args : Array Value} {below : List Frame} {meth : Method} {c : Code} {H : Heap} {locs : List Loc} {ls : Array Slot} {cells slots : Nat} (X : Cx g mt p e s m args below meth c) (hR : Rep g σ H) (hl : ∀ l ∈ locs, gz g ≤ l.base) (hL : lv_has ls mt.1.2.2.1 (asL 0 L)) (h1 : cells + (kc + 3) ≤ mt.2.1.2.1) (h2 : slots + (ks + (nb + 10)) ≤ mt.2.1.2.2) : vx_Note p g.1 e mt.2.2.1 s m args below meth c H locs cells slots (mt.2.2.2.2 below args s) (F0 m pc ls rest) cls text := by
  obtain ⟨v1, v2, v3, v4, v5, v6, v7⟩ := V
  intro T hT Z
  have hf := vx_frame (U := T) Z.same
  have hr := X.rm
  have hgz : ∀ a : Nat, a < g.2.1.heap.size → ¬ gz g ≤ a → s.heap[a]? = g.2.1.heap[a]? := fun a h _ => X.rb.2 a h
  refine vx_vm (A := fun q => gz g ≤ q) (cls := cls) (names := names) (nb := nb) X.hx X.gd.2.2.1 v1 v2 v3 v4 (fun w hw => ?_) v6 ((vx_Zq.moved X.wm.alike X.gd.2.2.2.1).kept hgz) ((vx_Zq.moved X.wm.alike X.gd.2.2.2.2.1).kept hgz) ⟨by rw [← hT]; exact hf.1, fun q hq hA => ?_, hl⟩ (by rw [X.ml]; exact hL.1) htext hnb hnb1 (by omega) (by omega) (by omega) (by omega) (by omega) X.lk (fun H1 q9 ce hs hq _ hce hcv hcl => ?_) T hT Z
  · rcases v5 w hw with h | ⟨h, hn⟩
    · exact X.ts _ h
    · exact X.tw h hn
  · rw [hR.2.2.1 q (by omega), X.rb.2 q (by omega)]
  · exact kx q9 H1.size (by have := hR.1; omega) p e s m args below meth c H1 locs ls (cells + 3) (slots + (nb + 10)) ce X (hR.more hs hq) hl hL (by omega) (by omega) hce hcv hcl
end EXC
