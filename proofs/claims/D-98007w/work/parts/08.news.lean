/-! NEW CELLS, Object.<init>, arraycopy of ints, Math -/
set_option maxRecDepth 100000
section NEWS
variable {g : GG} {mt : MT} {kc ks pc : Nat} {L : List (Option Value)} {st rest : List Value} {σ : PH}
theorem w_new {index ci N : Nat} {C : String} {T : u_T} {ty : Nat → FieldType} (fs : List Value) (t : Tg) (d : decode mt.1.2.1 pc = .ok (.new index, 3)) (hC : ClOk ci C T N ty) (q1 : Cond.classLink mt.1.1 index C ∈ lw_all) (q2 : Cond.instantiable C N ∈ lw_all) (q3 : Cond.initialized C ∈ lw_all) (hfs : ∀ j, j < N → defaultValue (ty j) = vp_V fs j) (kk : Wp g mt kc ks (pc + 3) L (.ref σ.1 :: st) (hnew σ t (.inr (ci, fs)))) : Wp g mt (kc + 1) (ks + N) pc L st σ := by
  intro p e s m args below meth c H locs ls cells slots X hR hl hL h1 h2
  have hKn := X.K.1 ci _ hC.1
  refine W.newcK X.hx X.hb X.own (X.ts _ q1) (X.ts _ q2) (X.ts _ q3) rfl d (Nat.le_trans (by omega) X.rm.2.2.1) (Nat.le_trans (by omega) X.rm.2.2.2) hKn.2.1 rfl fun H1 kC hkC e1 z1 o1 => ?_
  have hz : H.size = σ.1 := hR.1
  rw [hz]
  exact kk p e s m args below meth c H1 locs ls (cells + 1) (slots + N) X (hR.new_ z1 o1 ⟨_, hC.1, (u_born ty X.ts hC.2.1 hKn hkC e1 hC.2.2.1).to hfs⟩) hl hL (by omega) (by omega)
theorem w_newarr {k n : Nat} {atype : ArrayType} {ty : FieldType} {x : (Nat → Int32) ⊕ (Nat → Int64) ⊕ (Nat → UInt32) ⊕ (Nat → UInt64) ⊕ (Nat → Option Nat)} (t : Tg) (hty : newarray.typeOf atype = ty) (ht : (xTys g.2.2.2)[k]? = some (g.2.2.2 k, ty)) (hra : ∀ (U : State) (cA : ClassId), va_RA U cA ty → U.vm.findClass ("[" ++ ty.toString) = some cA) (q : Cond.arrayClass ty ∈ lw_all) (hx9 : ∀ cA : ClassId, vp_cell cA (n, x) = arrV cA n (fun _ => defaultValue ty)) (d : decode mt.1.2.1 pc = .ok (.newarray atype, 2)) (hb9 : n * componentBytes ty ≤ 536870912) (hn : n < 2147483648) (kk : Wp g mt kc ks (pc + 2) L (.ref σ.1 :: st) (hnew σ t (.inl (g.2.2.2 k, n, x)))) : Wp g mt (kc + 1) (ks + n) pc L (.int (nI n) :: st) σ := by
  intro p e s m args below meth c H locs ls cells slots X hR hl hL h1 h2
  subst hty
  refine va_newaK (N := n) X.hx X.hb (X.ts _ q) rfl d rfl (nI_pos hn) (nI_clamp hn) hb9 (Nat.le_trans (by omega) X.rm.2.2.1) (Nat.le_trans (by omega) X.rm.2.2.2) rfl fun H1 cA e1 z1 o1 hAr hNm => ?_
  have hcA : g.2.2.2 k = cA := Option.some.inj ((hra s _ (X.K.2 k _ ht).2).symm.trans hNm)
  have hz : H.size = σ.1 := hR.1
  rw [hz]
  refine kk p e s m args below meth c H1 locs ls (cells + 1) (slots + n) X (hR.new_ z1 o1 ?_) hl hL (by omega) (by omega)
  show H1[H.size]? = some (vp_cell _ _)
  rw [hcA, hx9]
  exact e1
theorem w_newI {n : Nat} (t : Tg) (d : decode mt.1.2.1 pc = .ok (.newarray .int, 2)) (hn : n < 100000000) (kk : Wp g mt kc ks (pc + 2) L (.ref σ.1 :: st) (hnew σ t (.inl (g.2.2.2 0, n, .inl fun _ => 0)))) : Wp g mt (kc + 1) (ks + n) pc L (.int (nI n) :: st) σ :=
  w_newarr (ty := .int) t rfl rfl (fun _ _ h => h) q382 (fun _ => rfl) d (by show n * 4 ≤ _; omega) (by omega) kk
theorem w_newB {n : Nat} (t : Tg) (d : decode mt.1.2.1 pc = .ok (.newarray .byte, 2)) (hn : n < 50000000) (kk : Wp g mt kc ks (pc + 2) L (.ref σ.1 :: st) (hnew σ t (.inl (g.2.2.2 2, n, .inl fun _ => 0)))) : Wp g mt (kc + 1) (ks + n) pc L (.int (nI n) :: st) σ :=
  w_newarr (ty := .byte) t rfl rfl (fun _ _ h => h) q253 (fun _ => rfl) d (by show n * 1 ≤ _; omega) (by omega) kk
theorem w_newS {n : Nat} (t : Tg) (d : decode mt.1.2.1 pc = .ok (.newarray .short, 2)) (hn : n < 50000000) (kk : Wp g mt kc ks (pc + 2) L (.ref σ.1 :: st) (hnew σ t (.inl (g.2.2.2 3, n, .inl fun _ => 0)))) : Wp g mt (kc + 1) (ks + n) pc L (.int (nI n) :: st) σ :=
  w_newarr (ty := .short) t rfl rfl (fun _ _ h => h) q594 (fun _ => rfl) d (by show n * 2 ≤ _; omega) (by omega) kk
theorem w_newL {n : Nat} (t : Tg) (d : decode mt.1.2.1 pc = .ok (.newarray .long, 2)) (hn : n < 50000000) (kk : Wp g mt kc ks (pc + 2) L (.ref σ.1 :: st) (hnew σ t (.inl (g.2.2.2 1, n, .inr (.inl fun _ => 0))))) : Wp g mt (kc + 1) (ks + n) pc L (.int (nI n) :: st) σ :=
  w_newarr (ty := .long) t rfl rfl (fun _ _ h => h) q381 (fun _ => rfl) d (by show n * 8 ≤ _; omega) (by omega) kk
theorem w_anew {k n index : Nat} {C : String} (t : Tg) (ht : (xTys g.2.2.2)[k]? = some (g.2.2.2 k, .object C)) (q1 : Cond.classLink mt.1.1 index C ∈ lw_all) (q2 : Cond.arrayOver (.object C) ∈ lw_tbl) (d : decode mt.1.2.1 pc = .ok (.anewarray index, 3)) (hn : n < 100000000) (kk : Wp g mt kc ks (pc + 3) L (.ref σ.1 :: st) (hnew σ t (.inl (g.2.2.2 k, n, .inr (.inr (.inr (.inr fun _ => none))))))) : Wp g mt (kc + 1) (ks + n) pc L (.int (nI n) :: st) σ := by
  intro p e s m args below meth c H locs ls cells slots X hR hl hL h1 h2
  have hov : va_AO C s := by
    obtain ⟨A, hA⟩ := X.gd.1 _ q2
    exact va_AO.moved X.wm.alike (va_AO.of hA)
  have hcl := nI_clamp (n := n) (by omega)
  refine W.anew X.hx X.hb X.own (X.ts _ q1) (va_AO.use hov) rfl d rfl (nI_pos (by omega)) (by rw [hcl]; omega) (Nat.le_trans (by omega) X.rm.2.2.1) (Nat.le_trans (by rw [hcl]; omega) X.rm.2.2.2) fun cA kA comp f1 f2 f3 f4 => ?_
  rw [hcl]
  obtain ⟨kA', comp', k1, k2, k3, k4⟩ := (X.K.2 k _ ht).2
  have hcA : g.2.2.2 k = cA := Option.some.inj (k4.symm.trans f1)
  generalize hH1 : H.push ({ cls := cA, slots := Array.replicate n .null, vm := .none } : Cell) = H1
  have z1 : H1.size = H.size + 1 := by rw [← hH1, Array.size_push]
  have e1 : H1[H.size]? = some (arrV cA n (fun _ => .null)) := by rw [← hH1, Array.getElem?_push_size, ← arrV_new]
  have o1 : ∀ q : Nat, q < H.size → H1[q]? = H[q]? := fun q hq => by rw [← hH1, Array.getElem?_push, if_neg (Nat.ne_of_lt hq)]
  have hz : H.size = σ.1 := hR.1
  have hz2 : (Value.ref H.size) = .ref σ.1 := by rw [hz]
  rw [hz2]
  refine kk p e s m args below meth c H1 locs ls (cells + 1) (slots + n) X (hR.new_ z1 o1 ?_) hl hL (by omega) (by omega)
  show H1[H.size]? = some (vp_cell _ _)
  rw [vp_cell_q, hcA]
  exact e1
theorem w_objInit {index a : Nat} (d : decode mt.1.2.1 pc = .ok (.invokespecial index, 3)) (q1 : Cond.methodLink mt.1.1 index Lib.objectInit ∈ lw_all) (q2 : Cond.instanceMethod Lib.objectInit ∈ lw_all) (q3 : Cond.code Lib.objectInit ⟨#[0xb1]⟩ 1 none ∈ lw_all) (hd : 1 ≤ mt.2.1.1) (hcat : (rest.map fun v => v.category).sum ≤ 8) (kk : Wp g mt kc ks (pc + 3) L rest σ) : Wp g mt kc ks pc L (.ref a :: rest) σ := by
  intro p e s m args below meth c H locs ls cells slots X hR hl hL h1 h2
  have hR' := X.rm
  refine W.objInit X.hx X.hb X.own (X.ts _ q1) (X.ts _ q2) (X.ts _ q3) rfl (by rw [X.ml]; exact hL.1) rfl d (by omega) ?_ (kk p e s m args below meth c H locs ls cells slots X hR hl hL h1 h2)
  have := lv_room (m := m) (pc := pc) (ls := ls) (rest := Value.ref a :: rest) hcat
  omega
theorem w_mmax {index : Nat} {x y : Int32} (d : decode mt.1.2.1 pc = .ok (.invokestatic index, 3)) (q1 : Cond.methodLink mt.1.1 index Lib.Math.max.name ∈ lw_all) (q2 : Cond.static Lib.Math.max.name ∈ lw_all) (q3 : Cond.initialized "java/lang/Math" ∈ lw_all) (q4 : Cond.code Lib.Math.max.name Lib.Math.max.code 2 (some .int) ∈ lw_all) (hd : 1 ≤ mt.2.1.1) (hcat : (rest.map fun v => v.category).sum ≤ 8) (kk : Wp g mt kc ks (pc + 3) L (.int (if x < y then y else x) :: rest) σ) : Wp g mt kc ks pc L (.int y :: .int x :: rest) σ := by
  intro p e s m args below meth c H locs ls cells slots X hR hl hL h1 h2
  have hR' := X.rm
  exact va_mmax X.hx X.hb (by rw [X.ml]; exact hL.1.symm) X.own (X.ts _ q1) (X.ts _ q2) (X.ts _ q3) (X.ts _ q4) (by omega) (by omega) (by omega) (by omega) d (kk p e s m args below meth c H locs ls cells slots X hR hl hL h1 h2)
theorem w_mmin {index : Nat} {x y : Int32} (d : decode mt.1.2.1 pc = .ok (.invokestatic index, 3)) (q1 : Cond.methodLink mt.1.1 index Lib.Math.min.name ∈ lw_all) (q2 : Cond.static Lib.Math.min.name ∈ lw_all) (q3 : Cond.initialized "java/lang/Math" ∈ lw_all) (q4 : Cond.code Lib.Math.min.name Lib.Math.min.code 2 (some .int) ∈ lw_all) (hd : 1 ≤ mt.2.1.1) (hcat : (rest.map fun v => v.category).sum ≤ 8) (kk : Wp g mt kc ks (pc + 3) L (.int (if y < x then y else x) :: rest) σ) : Wp g mt kc ks pc L (.int y :: .int x :: rest) σ := by
  intro p e s m args below meth c H locs ls cells slots X hR hl hL h1 h2
  have hR' := X.rm
  exact va_mmin X.hx X.hb (by rw [X.ml]; exact hL.1.symm) X.own (X.ts _ q1) (X.ts _ q2) (X.ts _ q3) (X.ts _ q4) (by omega) (by omega) (by omega) (by omega) d (kk p e s m args below meth c H locs ls cells slots X hR hl hL h1 h2)
theorem w_mabs {index : Nat} {x : Int32} (d : decode mt.1.2.1 pc = .ok (.invokestatic index, 3)) (q1 : Cond.methodLink mt.1.1 index Lib.Math.abs.name ∈ lw_all) (q2 : Cond.static Lib.Math.abs.name ∈ lw_all) (q3 : Cond.initialized "java/lang/Math" ∈ lw_all) (q4 : Cond.code Lib.Math.abs.name Lib.Math.abs.code 1 (some .int) ∈ lw_all) (hd : 1 ≤ mt.2.1.1) (hcat : (rest.map fun v => v.category).sum ≤ 8) (kk : Wp g mt kc ks (pc + 3) L (.int (if 0 ≤ x then x else 0 - x) :: rest) σ) : Wp g mt kc ks pc L (.int x :: rest) σ := by
  intro p e s m args below meth c H locs ls cells slots X hR hl hL h1 h2
  have hR' := X.rm
  exact va_mabs X.hx X.hb (by rw [X.ml]; exact hL.1.symm) X.own (X.ts _ q1) (X.ts _ q2) (X.ts _ q3) (X.ts _ q4) (by omega) (by omega) (by omega) (by omega) d (kk p e s m args below meth c H locs ls cells slots X hR hl hL h1 h2)
theorem w_copyI {index k a0 a n0 n1 : Nat} {t0 t1 : Tg} {f f1 : Nat → Int32} {ty : FieldType} {sp dp n : Int32} (d : decode mt.1.2.1 pc = .ok (.invokestatic index, 3)) (q1 : Cond.methodLink mt.1.1 index arraycopyName ∈ lw_all) (q2 : Cond.native arraycopyName ∈ lw_all) (q3 : Cond.static arraycopyName ∈ lw_all) (q4 : Cond.initialized "java/lang/System" ∈ lw_all) (ht : (xTys g.2.2.2)[k]? = some (g.2.2.2 k, ty)) (hprim : refKind ty = false) (hh0 : σ.2 a0 = some (t0, .inl (g.2.2.2 k, n0, .inl f))) (hh1 : σ.2 a = some (t1, .inl (g.2.2.2 k, n1, .inl f1))) (h1 : ¬ sp < 0) (h2 : ¬ dp < 0) (h3 : ¬ n < 0) (h4 : sp.toNatClampNeg + n.toNatClampNeg ≤ n0) (h5 : dp.toNatClampNeg + n.toNatClampNeg ≤ n1) (hfit : ∀ i, i < n.toNatClampNeg → fits ty (.int (f (sp.toNatClampNeg + i))) = true)
    (hd : 1 ≤ mt.2.1.1) (hcat : (rest.map fun v => v.category).sum ≤ 8) (kk : Wp g mt kc ks (pc + 3) L rest (hup σ a t1 (.inl (g.2.2.2 k, n1, .inl (va_cpy f f1 sp.toNatClampNeg dp.toNatClampNeg n.toNatClampNeg))))) : Wp g mt kc ks pc L (.int n :: .int dp :: .ref a :: .int sp :: .ref a0 :: rest) σ := by
  intro p e s m args below meth c H locs ls cells slots X0 hR hl hL g1 g2
  have hR' := X0.rm
  have nn : ∀ z : Int32, ¬ z < 0 → z.toInt = (z.toNatClampNeg : Int) := by
    intro z hz
    have hz0 : (0 : Int) ≤ z.toInt := by
      have := Int32.not_lt.mp hz
      simpa using Int32.le_iff_toInt_le.mp this
    show z.toInt = ((z.toInt.toNat : Nat) : Int)
    omega
  intro T hT X
  have hK := X0.K
  have hc0 : H[a0]? = some (vp_cell (g.2.2.2 k) (n0, .inl f)) := hR.at_ hh0
  have hc1 : H[a]? = some (vp_cell (g.2.2.2 k) (n1, .inl f1)) := hR.at_ hh1
  obtain ⟨-, k0, hk0, cm0, hkk0⟩ := (hK.2 k _ ht).1 n0 (fun j => .int (f j))
  obtain ⟨-, k1, hk1, cm1, hkk1⟩ := (hK.2 k _ ht).1 n1 (fun j => .int (f1 j))
  have hnw : nativeFrameWords "java/lang/System" "arraycopy" 5 + 11 ≤ 52 := by decide +kernel
  obtain ⟨vm', X', step⟩ := X.arraycopy X0.hx X0.own (X0.ts _ q1) (X0.ts _ q2) (X0.ts _ q3) (X0.ts _ q4) (src := a0) (dst := a) (cs := vp_cell (g.2.2.2 k) (n0, .inl f)) (cd := vp_cell (g.2.2.2 k) (n1, .inl f1)) (srcPos := sp) (destPos := dp) (n := n) (by rw [hT]; exact hc0) (by rw [hT]; exact hc1)
    (fun _ h => by cases h) (fun _ h => by cases h) (fun h => by cases h) (fun h => by cases h) hk0 hk1 hkk0 hkk1 (by simp [hprim]) h1 h2 h3
    (by rw [nn sp h1, nn n h3]; show ¬ _ > ((arrV (g.2.2.2 k) n0 (fun j => .int (f j))).slots.size : Int); rw [arrV_size]; omega)
    (by rw [nn dp h2, nn n h3]; show ¬ _ > ((arrV (g.2.2.2 k) n1 (fun j => .int (f1 j))).slots.size : Int); rw [arrV_size]; omega)
    (fun vm₁ _ i hi => by
      have e : (vp_cell (g.2.2.2 k) (n0, .inl f)).slots.getD (sp.toNatClampNeg + i) .null = .int (f (sp.toNatClampNeg + i)) := by
        show (arrV (g.2.2.2 k) n0 (fun j => .int (f j))).slots.getD _ _ = _
        rw [Array.getD_eq_getD_getElem?, arrV_read _ _ (by omega)]
        rfl
      refine ⟨?_, ?_⟩
      · rw [e]
        exact hfit i hi
      · rw [e]
        exact trivial)
    (g := F0 m pc ls (.int n :: .int dp :: .ref a :: .int sp :: .ref a0 :: rest)) rfl (by rw [X0.ml]; exact hL.1) (rest := rest) rfl (by rw [X0.hb]; exact d) (by omega) (by
      have := lv_room (m := m) (pc := pc) (ls := ls) (rest := (.int n :: .int dp :: .ref a :: .int sp :: .ref a0 :: rest)) hcat
      omega)
  have e1 : copied (vp_cell (g.2.2.2 k) (n0, .inl f)) (vp_cell (g.2.2.2 k) (n1, .inl f1)) sp dp n = vp_cell (g.2.2.2 k) (n1, .inl (va_cpy f f1 sp.toNatClampNeg dp.toNatClampNeg n.toNatClampNeg)) := va_copied (fun z => .int z) (g.2.2.2 k) (g.2.2.2 k) f f1 h4
  rw [e1] at X' step
  have hl9 : a < H.size := (Array.getElem?_eq_some_iff.mp hc1).1
  have hheap : ((T.setVm vm').setCell a (vp_cell (g.2.2.2 k) (n1, .inl (va_cpy f f1 sp.toNatClampNeg dp.toNatClampNeg n.toNatClampNeg)))).heap = H.setIfInBounds a (vp_cell (g.2.2.2 k) (n1, .inl (va_cpy f f1 sp.toNatClampNeg dp.toNatClampNeg n.toNatClampNeg))) := by rw [← hT]; rfl
  have oq : ∀ q : Nat, q ≠ a → (H.setIfInBounds a (vp_cell (g.2.2.2 k) (n1, .inl (va_cpy f f1 sp.toNatClampNeg dp.toNatClampNeg n.toNatClampNeg))))[q]? = H[q]? := fun q hq => by simp [Array.getElem?_setIfInBounds, Ne.symm hq]
  have hge := hR.ge hh1
  obtain ⟨t, a1, b1⟩ := kk p e s m args below meth c (H.setIfInBounds a (vp_cell (g.2.2.2 k) (n1, .inl (va_cpy f f1 sp.toNatClampNeg dp.toNatClampNeg n.toNatClampNeg)))) _ ls cells slots X0 (hR.up hh1 (by simp) oq (show (H.setIfInBounds a _)[a]? = some _ by simp [Array.getElem?_setIfInBounds, hl9])) (fun q hq => by
      rcases List.mem_append.mp hq with h | h
      · exact hl q h
      · obtain ⟨z, -, hz⟩ := List.mem_map.mp h
        rw [← hz]
        exact hge) hL g1 g2 _ hheap X'
  exact ⟨t, step t a1, b1⟩
end NEWS
