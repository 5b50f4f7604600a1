/-! pour of the component -/
set_option maxRecDepth 100000
section POA
variable {g : GG} {mt : MT} {kc ks pc : Nat} {L : List (Option Value)} {st rest : List Value} {σ σ0 : PH}
theorem w_copyL {index a0 a n0 n1 : Nat} {t0 t1 : Tg} {f f1 : Nat → Int64} {sp dp n : Int32} (d : decode mt.1.2.1 pc = .ok (.invokestatic index, 3)) (q1 : Cond.methodLink mt.1.1 index arraycopyName ∈ lw_all) (q2 : Cond.native arraycopyName ∈ lw_all) (q3 : Cond.static arraycopyName ∈ lw_all) (q4 : Cond.initialized "java/lang/System" ∈ lw_all) (hh0 : σ.2 a0 = some (t0, .inl (g.2.2.2 1, n0, .inr (.inl f)))) (hh1 : σ.2 a = some (t1, .inl (g.2.2.2 1, n1, .inr (.inl f1)))) (h1 : ¬ sp < 0) (h2 : ¬ dp < 0) (h3 : ¬ n < 0) (h4 : sp.toNatClampNeg + n.toNatClampNeg ≤ n0) (h5 : dp.toNatClampNeg + n.toNatClampNeg ≤ n1)
    (hd : 1 ≤ mt.2.1.1) (hcat : (rest.map fun v => v.category).sum ≤ 8) (kk : Wp g mt kc ks (pc + 3) L rest (hup σ a t1 (.inl (g.2.2.2 1, n1, .inr (.inl (va_cpy f f1 sp.toNatClampNeg dp.toNatClampNeg n.toNatClampNeg)))))) : Wp g mt kc ks pc L (.int n :: .int dp :: .ref a :: .int sp :: .ref a0 :: rest) σ := by
  intro p e s m args below meth c H locs ls cells slots X0 hR hl hL g1 g2
  have hR' := X0.rm
  have nn : ∀ z : Int32, ¬ z < 0 → z.toInt = (z.toNatClampNeg : Int) := by
    intro z hz
    have hz0 : (0 : Int) ≤ z.toInt := by
      have := Int32.not_lt.mp hz
      simpa using Int32.le_iff_toInt_le.mp this
    show z.toInt = ((z.toInt.toNat : Nat) : Int)
    omega
  intro T hT X
  have hK := X0.K
  have hc0 : H[a0]? = some (vp_cell (g.2.2.2 1) (n0, .inr (.inl f))) := hR.at_ hh0
  have hc1 : H[a]? = some (vp_cell (g.2.2.2 1) (n1, .inr (.inl f1))) := hR.at_ hh1
  obtain ⟨-, k0, hk0, cm0, hkk0⟩ := (hK.2 1 _ (show (xTys g.2.2.2)[1]? = some (g.2.2.2 1, .long) from rfl)).1 n0 (fun j => .long (f j))
  obtain ⟨-, k1, hk1, cm1, hkk1⟩ := (hK.2 1 _ (show (xTys g.2.2.2)[1]? = some (g.2.2.2 1, .long) from rfl)).1 n1 (fun j => .long (f1 j))
  have hnw : nativeFrameWords "java/lang/System" "arraycopy" 5 + 11 ≤ 52 := by decide +kernel
  obtain ⟨vm', X', step⟩ := X.arraycopy X0.hx X0.own (X0.ts _ q1) (X0.ts _ q2) (X0.ts _ q3) (X0.ts _ q4) (src := a0) (dst := a) (cs := vp_cell (g.2.2.2 1) (n0, .inr (.inl f))) (cd := vp_cell (g.2.2.2 1) (n1, .inr (.inl f1))) (srcPos := sp) (destPos := dp) (n := n) (by rw [hT]; exact hc0) (by rw [hT]; exact hc1)
    (fun _ h => by cases h) (fun _ h => by cases h) (fun h => by cases h) (fun h => by cases h) hk0 hk1 hkk0 hkk1 rfl h1 h2 h3
    (by rw [nn sp h1, nn n h3]; show ¬ _ > ((arrV (g.2.2.2 1) n0 (fun j => .long (f j))).slots.size : Int); rw [arrV_size]; omega)
    (by rw [nn dp h2, nn n h3]; show ¬ _ > ((arrV (g.2.2.2 1) n1 (fun j => .long (f1 j))).slots.size : Int); rw [arrV_size]; omega)
    (fun vm₁ _ i hi => by
      have e : (vp_cell (g.2.2.2 1) (n0, .inr (.inl f))).slots.getD (sp.toNatClampNeg + i) .null = .long (f (sp.toNatClampNeg + i)) := by
        show (arrV (g.2.2.2 1) n0 (fun j => .long (f j))).slots.getD _ _ = _
        rw [Array.getD_eq_getD_getElem?, arrV_read _ _ (by omega)]
        rfl
      refine ⟨?_, ?_⟩
      · rw [e]
        exact rfl
      · rw [e]
        exact trivial)
    (g := F0 m pc ls (.int n :: .int dp :: .ref a :: .int sp :: .ref a0 :: rest)) rfl (by rw [X0.ml]; exact hL.1) (rest := rest) rfl (by rw [X0.hb]; exact d) (by omega) (by
      have := lv_room (m := m) (pc := pc) (ls := ls) (rest := (.int n :: .int dp :: .ref a :: .int sp :: .ref a0 :: rest)) hcat
      omega)
  have e1 : copied (vp_cell (g.2.2.2 1) (n0, .inr (.inl f))) (vp_cell (g.2.2.2 1) (n1, .inr (.inl f1))) sp dp n = vp_cell (g.2.2.2 1) (n1, .inr (.inl (va_cpy f f1 sp.toNatClampNeg dp.toNatClampNeg n.toNatClampNeg))) := va_copied (fun z => .long z) (g.2.2.2 1) (g.2.2.2 1) f f1 h4
  rw [e1] at X' step
  have hl9 : a < H.size := (Array.getElem?_eq_some_iff.mp hc1).1
  have hheap : ((T.setVm vm').setCell a (vp_cell (g.2.2.2 1) (n1, .inr (.inl (va_cpy f f1 sp.toNatClampNeg dp.toNatClampNeg n.toNatClampNeg))))).heap = H.setIfInBounds a (vp_cell (g.2.2.2 1) (n1, .inr (.inl (va_cpy f f1 sp.toNatClampNeg dp.toNatClampNeg n.toNatClampNeg)))) := by rw [← hT]; rfl
  have oq : ∀ q : Nat, q ≠ a → (H.setIfInBounds a (vp_cell (g.2.2.2 1) (n1, .inr (.inl (va_cpy f f1 sp.toNatClampNeg dp.toNatClampNeg n.toNatClampNeg)))))[q]? = H[q]? := fun q hq => by simp [Array.getElem?_setIfInBounds, Ne.symm hq]
  have hge := hR.ge hh1
  obtain ⟨t, a1, b1⟩ := kk p e s m args below meth c (H.setIfInBounds a (vp_cell (g.2.2.2 1) (n1, .inr (.inl (va_cpy f f1 sp.toNatClampNeg dp.toNatClampNeg n.toNatClampNeg))))) _ ls cells slots X0 (hR.up hh1 (by simp) oq (show (H.setIfInBounds a _)[a]? = some _ by simp [Array.getElem?_setIfInBounds, hl9])) (fun q hq => by
      rcases List.mem_append.mp hq with h | h
      · exact hl q h
      · obtain ⟨z, -, hz⟩ := List.mem_map.mp h
        rw [← hz]
        exact hge) hL g1 g2 _ hheap X'
  exact ⟨t, step t a1, b1⟩
theorem nx_cell (c : ClassId) (a : vp_A) : (vp_cell c a).cls = c ∧ (vp_cell c a).slots.size = a.1 ∧ (vp_cell c a).vm = .none := by
  obtain ⟨n, x⟩ := a
  rcases x with f | f | f | f | f <;> exact ⟨rfl, arrV_size _ _ _, rfl⟩
/-- a copy that leaves an array -/
theorem w_copyX {index k a0 a n0 n1 : Nat} {t0 t1 : Tg} {x0 x1 : (Nat → Int32) ⊕ (Nat → Int64) ⊕ (Nat → UInt32) ⊕ (Nat → UInt64) ⊕ (Nat → Option Nat)} {ty : FieldType} {sp dp n : Int32} (d : decode mt.1.2.1 pc = .ok (.invokestatic index, 3)) (q1 : Cond.methodLink mt.1.1 index arraycopyName ∈ lw_all) (q2 : Cond.native arraycopyName ∈ lw_all) (q3 : Cond.static arraycopyName ∈ lw_all) (q4 : Cond.initialized "java/lang/System" ∈ lw_all) (ht : (xTys g.2.2.2)[k]? = some (g.2.2.2 k, ty)) (hprim : refKind ty = false) (hh0 : σ.2 a0 = some (t0, .inl (g.2.2.2 k, n0, x0))) (hh1 : σ.2 a = some (t1, .inl (g.2.2.2 k, n1, x1))) (h1 : ¬ sp < 0) (h2 : ¬ dp < 0) (h3 : ¬ n < 0) (hout : n0 < sp.toNatClampNeg + n.toNatClampNeg ∨ n1 < dp.toNatClampNeg + n.toNatClampNeg) (hn0 : n0 < 2 ^ 31) (hn1 : n1 < 2 ^ 31)
    (hd : 180 ≤ mt.2.1.1) (hcat : (rest.map fun v => v.category).sum ≤ 8) (kx : ∀ (q : Addr) (n : Nat), σ.1 ≤ n → Tp g mt kc ks pc L rest q "java/lang/ArrayIndexOutOfBoundsException" (n, σ.2)) : Wp g mt (kc + 3) (ks + 420) pc L (.int n :: .int dp :: .ref a :: .int sp :: .ref a0 :: rest) σ := by
  intro p e s m args below meth c H locs ls cells slots X0 hR hl hL g1 g2
  have hR' := X0.rm
  have nn : ∀ z : Int32, ¬ z < 0 → z.toInt = (z.toNatClampNeg : Int) := by
    intro z hz
    have hz0 : (0 : Int) ≤ z.toInt := by
      have := Int32.not_lt.mp hz
      simpa using Int32.le_iff_toInt_le.mp this
    show z.toInt = ((z.toInt.toNat : Nat) : Int)
    omega
  intro T hT X
  have hK := X0.K
  have hc0 : H[a0]? = some (vp_cell (g.2.2.2 k) (n0, x0)) := hR.at_ hh0
  have hc1 : H[a]? = some (vp_cell (g.2.2.2 k) (n1, x1)) := hR.at_ hh1
  obtain ⟨u0, u1, u2⟩ := nx_cell (g.2.2.2 k) (n0, x0)
  obtain ⟨v0, v1, v2⟩ := nx_cell (g.2.2.2 k) (n1, x1)
  generalize hcs : vp_cell (g.2.2.2 k) (n0, x0) = cs at hc0 u0 u1 u2
  generalize hcd : vp_cell (g.2.2.2 k) (n1, x1) = cd at hc1 v0 v1 v2
  obtain ⟨-, k0, hk0, cm0, hkk0⟩ := (hK.2 k _ ht).1 0 (fun _ => .int 0)
  have hk0 : s.vm.classes[g.2.2.2 k]? = some k0 := hk0
  have hnw : nativeFrameWords "java/lang/System" "arraycopy" 5 + 11 ≤ 52 := by decide +kernel
  obtain ⟨r, kS, methS, hnS, hmS, hkS, N⟩ := NativeOf.of_static (X0.ts _ q2) (X0.ts _ q3) (ps := [.object "java/lang/Object", .int, .object "java/lang/Object", .int, .int]) (ret := none) (by decide +kernel)
  have hinitS : kS.init = .initialized := Cond.initialized_spec (findClass_of_methodNamed hnS) hkS (X0.ts _ q4)
  obtain ⟨vm', X', step⟩ := X.invokestatic X0.hx X0.own (X0.ts _ q1) hnS hmS N.static hkS hinitS (by decide) (g := F0 m pc ls (.int n :: .int dp :: .ref a :: .int sp :: .ref a0 :: rest)) rfl (argsL := [.ref a0, .int sp, .ref a, .int dp, .int n]) (rest := rest) (by rw [N.sig]; rfl) rfl (by rw [X0.hb]; exact d)
  have hA' : s.vm.Alike vm' := X'.warmed.alike
  obtain ⟨kS', N'⟩ := N.alike hA'
  obtain ⟨k1, hk1, he1⟩ := hA'.2.2 _ _ hk0
  have hkk1 : k1.kind = .array cm0 ty := by rw [he1]; exact hkk0
  obtain ⟨what, hq⟩ : ∃ what, nx_Say ty cs.slots.size cd.slots.size sp dp n what := by
    rw [u1, v1]
    have i1 := nn sp h1
    have i2 := nn dp h2
    have i3 := nn n h3
    by_cases h4 : sp.toInt + n.toInt > (n0 : Int)
    · exact ⟨_, Or.inl ⟨h4, rfl⟩⟩
    · exact ⟨_, Or.inr ⟨h4, by show dp.toInt + n.toInt > (n1 : Int); omega, rfl⟩⟩
  have hlen := nx_len hq h1 h2 h3 (by rw [u1]; exact hn0) (by rw [v1]; exact hn1)
  obtain ⟨z1, z2, z3, z4, z5, z6, z7⟩ := vm_ix
  have hf := vx_frame (U := T) X.same
  have hgz : ∀ a : Nat, a < g.2.1.heap.size → ¬ gz g ≤ a → s.heap[a]? = g.2.1.heap[a]? := fun a h _ => X0.rb.2 a h
  obtain ⟨t, a1, b1⟩ := nx_vm (nf := { method := r, args := #[.ref a0, .int sp, .ref a, .int dp, .int n], locked := none }) rfl rfl rfl (A := fun q => gz g ≤ q) (cls := "java/lang/ArrayIndexOutOfBoundsException") (text := "arraycopy: " ++ what) (names := ["java/lang/IndexOutOfBoundsException","java/lang/RuntimeException","java/lang/Exception"]) (nb := 410) (pc := pc) (ls := ls) (rest := rest) (Q := mt.2.2.2.2 below args s) X0.hx X0.gd.2.2.1 z1 z2 z3 z4
    (fun w hw => (z5 w hw).elim (fun h => X0.ts _ h) (fun h => X0.tw h.1 h.2)) z6 ((vx_Zq.moved X0.wm.alike X0.gd.2.2.2.1).kept hgz) ((vx_Zq.moved X0.wm.alike X0.gd.2.2.2.2.1).kept hgz) ⟨by rw [← hT]; exact hf.1, fun q hq hA => by rw [hR.2.2.1 q (by omega), X0.rb.2 q (by omega)], hl⟩ (by rw [X0.ml]; exact hL.1) (nx_told what) (nx_bytes hlen) (by decide)
    (by show 3 + 5 < _; omega) (by omega) (by decide) (by omega) (by omega) X0.lk (fun H1 q9 ce hs hq _ hce hcv hcl => kx q9 H1.size (by have := hR.1; omega) p e s m args below meth c H1 locs ls (cells + 3) (slots + (410 + 10)) ce X0 (hR.more hs hq) hl hL (by omega) (by omega) hce hcv hcl) (T.setVm vm') hT X'
  refine ⟨t, step t (fun acts => ?_), b1⟩
  obtain ⟨g₀, hfr⟩ := X'.frames_eq
  have hcur : (T.setVm vm').cur < (T.setVm vm').threads.size := State.cur_lt_of_frames hfr
  have e1 : ((T.setVm vm').setTop (F0 m pc ls rest)).pushFrame (.native { method := r, args := #[.ref a0, .int sp, .ref a, .int dp, .int n], locked := none }) = (T.setVm vm').setFrames (.native { method := r, args := #[.ref a0, .int sp, .ref a, .int dp, .int n], locked := none } :: .java (F0 m pc ls rest) :: below) := by
    rw [State.pushFrame, State.frames_setTop _ hfr, State.setTop_of_frames _ hfr, State.setFrames_setFrames]
  refine nx_call (s := T.setVm vm') (g := F0 m pc ls rest) X'.here acts N' (arraycopy_row p) (X'.notFull (g := F0 m pc ls rest) (by rw [X0.ml]; exact hL.1) (vars := nativeFrameWords "java/lang/System" "arraycopy" 5) (by omega) (by show 2 * 0 + (rest.map fun v => v.category).sum + (nativeFrameWords "java/lang/System" "arraycopy" 5 + 11) ≤ _; omega)) (by simp [seenByNative, N.static, N.sig, narrow]) (cls := "java/lang/ArrayIndexOutOfBoundsException") (msg := some ("arraycopy: " ++ what)) (fun E hE => ?_) ?_
  · rw [e1] at hE ⊢
    rw [arraycopyRow_sem]
    exact nx_wp (s := (T.setVm vm').setFrames _) (cs := cs) (cd := cd) (ks := k1) (kd := k1) (sComp := cm0) (dComp := cm0) (by show T.heap[a0]? = _; rw [hT]; exact hc0) (by show T.heap[a]? = _; rw [hT]; exact hc1) (fun _ h => by rw [u2] at h; cases h) (fun _ h => by rw [v2] at h; cases h) (by rw [u0]; exact hk1) (by rw [v0]; exact hk1) hkk1 hkk1 (by simp [hprim]) h1 h2 h3 hq (hE _)
  · rw [e1, State.pushFrame, State.frames_setFrames _ hcur, State.setFrames_setFrames]
    exact a1
end POA
