/-! ARRAYS BY CLASS: instanceof and checkcast on rows of numbers -/
set_option maxRecDepth 100000
section ARR
variable {g : GG} {mt : MT} {kc ks pc : Nat} {L : List (Option Value)} {st : List Value} {σ σ0 : PH}
theorem cell_vm (cA : ClassId) (x : vp_A) : (vp_cell cA x).vm = .none := by
  obtain ⟨n, f | f | f | f | f⟩ := x <;> rfl
theorem cell_cls (cA : ClassId) (x : vp_A) : (vp_cell cA x).cls = cA := by
  obtain ⟨n, f | f | f | f | f⟩ := x <;> rfl
theorem w_instY {index a k : Nat} {ty : FieldType} {nm : String} {t : Tg} {x : vp_A} (d : decode mt.1.2.1 pc = .ok (.instanceof index, 3)) (q : Cond.classLink mt.1.1 index nm ∈ lw_all) (ht : (xTys g.2.2.2)[k]? = some (g.2.2.2 k, ty)) (hra : ∀ {U : State} {cA : ClassId}, va_RA U cA ty → U.vm.findClass nm = some cA) (hh : σ.2 a = some (t, .inl (g.2.2.2 k, x))) (kk : Wp g mt kc ks (pc + 3) L (.int 1 :: st) σ) : Wp g mt kc ks pc L (.ref a :: st) σ := by
  intro p e s m args below meth c H locs ls cells slots X hR hl hL h1 h2
  intro T hT Z
  obtain ⟨vm', Z', st'⟩ := Z.instanceofYes X.hx X.own (X.ts _ q) (by rw [hT]; exact P1 (hR.at_ hh) 0 _ rfl) (by rw [cell_vm]; rfl) (hra (X.K.2 k _ ht).2) (by rw [cell_cls]; exact va_asg _ _) (g := F0 m pc ls (.ref a :: st)) rfl rfl (by rw [X.hb]; exact d)
  obtain ⟨t, a1, b1⟩ := kk p e s m args below meth c H locs ls cells slots X hR hl hL h1 h2 (T.setVm vm') hT Z'
  exact ⟨t, st' t a1, b1⟩
theorem w_instN {index a k : Nat} {ty : FieldType} {nm C : String} {t : Tg} {x : vp_A} (d : decode mt.1.2.1 pc = .ok (.instanceof index, 3)) (q : Cond.classLink mt.1.1 index nm ∈ lw_all) (ht : (xTys g.2.2.2)[k]? = some (g.2.2.2 k, ty)) (hra : ∀ {U : State} {cA : ClassId}, va_RA U cA ty → U.vm.findClass C = some cA) (hn : (C, nm) ∈ ncL) (hh : σ.2 a = some (t, .inl (g.2.2.2 k, x))) (kk : Wp g mt kc ks (pc + 3) L (.int 0 :: st) σ) : Wp g mt kc ks pc L (.ref a :: st) σ := by
  intro p e s m args below meth c H locs ls cells slots X hR hl hL h1 h2
  exact va_instNo X.hx X.hb X.own (X.ts _ q) (X.nc hn) ⟨_, P1 (hR.at_ hh) 0 _ rfl, by rw [cell_vm]; rfl, by rw [cell_cls]; exact hra (X.K.2 k _ ht).2⟩ d (kk p e s m args below meth c H locs ls cells slots X hR hl hL h1 h2)
theorem w_castA {index a k : Nat} {ty : FieldType} {nm : String} {t : Tg} {x : vp_A} (d : decode mt.1.2.1 pc = .ok (.checkcast index, 3)) (q : Cond.classLink mt.1.1 index nm ∈ lw_all) (ht : (xTys g.2.2.2)[k]? = some (g.2.2.2 k, ty)) (hra : ∀ {U : State} {cA : ClassId}, va_RA U cA ty → U.vm.findClass nm = some cA) (hh : σ.2 a = some (t, .inl (g.2.2.2 k, x))) (kk : Wp g mt kc ks (pc + 3) L (.ref a :: st) σ) : Wp g mt kc ks pc L (.ref a :: st) σ := by
  intro p e s m args below meth c H locs ls cells slots X hR hl hL h1 h2
  exact va_castA X.hx X.hb X.own (X.ts _ q) (P1 (hR.at_ hh)) 0 rfl (hra (X.K.2 k _ ht).2) d (kk p e s m args below meth c H locs ls cells slots X hR hl hL h1 h2)
/-- a row of numbers by its sort -/
abbrev RO := Nat × Nat × (Nat → Int32) × (Nat → Int64)
def rowE (ar : Nat → ClassId) (k n : Nat) (f : Nat → Int32) (l : Nat → Int64) : va_E := if k = 0 then .inl (ar 2, n, .inl f) else if k = 1 then .inl (ar 3, n, .inl f) else if k = 2 then .inl (ar 0, n, .inl f) else .inl (ar 1, n, .inr (.inl l))
def rowV (k : Nat) (f : Nat → Int32) (l : Nat → Int64) (j : Nat) : Int64 := if k < 3 then (f j).toInt64 else l j
end ARR
