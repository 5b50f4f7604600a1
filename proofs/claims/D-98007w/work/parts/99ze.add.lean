/-! DAYS: rows of references are copied, Block.add (printed by gen/add.py) -/
set_option maxRecDepth 100000
theorem ca_act : Cond.castable "LastPebble$Act" "LastPebble$Step" ∈ lw_tbl := by decide +kernel
theorem ca_loop : Cond.castable "LastPebble$Loop" "LastPebble$Step" ∈ lw_tbl := by decide +kernel
theorem ca_when : Cond.castable "LastPebble$When" "LastPebble$Step" ∈ lw_tbl := by decide +kernel
section CPQ
variable {g : GG} {mt : MT} {kc ks pc : Nat} {L : List (Option Value)} {st rest : List Value} {σ : PH}
theorem w_copyQ {index k a0 a n0 n1 : Nat} {t0 t1 : Tg} {f f1 : Nat → Option Nat} {E : String} {sp dp n : Int32} (d : decode mt.1.2.1 pc = .ok (.invokestatic index, 3)) (q1 : Cond.methodLink mt.1.1 index arraycopyName ∈ lw_all) (q2 : Cond.native arraycopyName ∈ lw_all) (q3 : Cond.static arraycopyName ∈ lw_all) (q4 : Cond.initialized "java/lang/System" ∈ lw_all) (ht : (xTys g.2.2.2)[k]? = some (g.2.2.2 k, .object E)) (hh0 : σ.2 a0 = some (t0, .inl (g.2.2.2 k, n0, .inr (.inr (.inr (.inr f)))))) (hh1 : σ.2 a = some (t1, .inl (g.2.2.2 k, n1, .inr (.inr (.inr (.inr f1)))))) (h1 : ¬ sp < 0) (h2 : ¬ dp < 0) (h3 : ¬ n < 0) (h4 : sp.toNatClampNeg + n.toNatClampNeg ≤ n0) (h5 : dp.toNatClampNeg + n.toNatClampNeg ≤ n1)
    (hel : ∀ i, i < n.toNatClampNeg → ∀ y, f (sp.toNatClampNeg + i) = some y → ∃ (t : Tg) (ci N : Nat) (Cn : String) (T : u_T) (ty : Nat → FieldType) (fs : List Value), σ.2 y = some (t, .inr (ci, fs)) ∧ ClOk ci Cn T N ty ∧ Cond.castable Cn E ∈ lw_tbl)
    (hd : 1 ≤ mt.2.1.1) (hcat : (rest.map fun v => v.category).sum ≤ 8) (kk : Wp g mt kc ks (pc + 3) L rest (hup σ a t1 (.inl (g.2.2.2 k, n1, .inr (.inr (.inr (.inr (va_cpy f f1 sp.toNatClampNeg dp.toNatClampNeg n.toNatClampNeg)))))))) : Wp g mt kc ks pc L (.int n :: .int dp :: .ref a :: .int sp :: .ref a0 :: rest) σ := by
  intro p e s m args below meth c H locs ls cells slots X0 hR hl hL g1 g2
  have hR' := X0.rm
  have nn : ∀ z : Int32, ¬ z < 0 → z.toInt = (z.toNatClampNeg : Int) := by
    intro z hz
    have hz0 : (0 : Int) ≤ z.toInt := by
      have := Int32.not_lt.mp hz
      simpa using Int32.le_iff_toInt_le.mp this
    show z.toInt = ((z.toInt.toNat : Nat) : Int)
    omega
  intro T hT X
  have hK := X0.K
  have hc0 : H[a0]? = some (vp_cell (g.2.2.2 k) (n0, .inr (.inr (.inr (.inr f))))) := hR.at_ hh0
  have hc1 : H[a]? = some (vp_cell (g.2.2.2 k) (n1, .inr (.inr (.inr (.inr f1))))) := hR.at_ hh1
  obtain ⟨-, k0, hk0, cm0, hkk0⟩ := (hK.2 k _ ht).1 n0 (fun j => va_rf (f j))
  obtain ⟨-, k1, hk1, cm1, hkk1⟩ := (hK.2 k _ ht).1 n1 (fun j => va_rf (f1 j))
  have hnw : nativeFrameWords "java/lang/System" "arraycopy" 5 + 11 ≤ 52 := by decide +kernel
  obtain ⟨vm', X', step⟩ := X.arraycopy X0.hx X0.own (X0.ts _ q1) (X0.ts _ q2) (X0.ts _ q3) (X0.ts _ q4) (src := a0) (dst := a) (cs := vp_cell (g.2.2.2 k) (n0, .inr (.inr (.inr (.inr f))))) (cd := vp_cell (g.2.2.2 k) (n1, .inr (.inr (.inr (.inr f1))))) (srcPos := sp) (destPos := dp) (n := n) (by rw [hT]; exact hc0) (by rw [hT]; exact hc1)
    (fun _ h => by cases h) (fun _ h => by cases h) (fun h => by cases h) (fun h => by cases h) hk0 hk1 hkk0 hkk1 rfl h1 h2 h3
    (by rw [nn sp h1, nn n h3]; show ¬ _ > ((arrV (g.2.2.2 k) n0 (fun j => va_rf (f j))).slots.size : Int); rw [arrV_size]; omega)
    (by rw [nn dp h2, nn n h3]; show ¬ _ > ((arrV (g.2.2.2 k) n1 (fun j => va_rf (f1 j))).slots.size : Int); rw [arrV_size]; omega)
    (fun vm₁ hal i hi => by
      have e : (vp_cell (g.2.2.2 k) (n0, .inr (.inr (.inr (.inr f))))).slots.getD (sp.toNatClampNeg + i) .null = va_rf (f (sp.toNatClampNeg + i)) := by
        show (arrV (g.2.2.2 k) n0 (fun j => va_rf (f j))).slots.getD _ _ = _
        rw [Array.getD_eq_getD_getElem?, arrV_read _ _ (by omega)]
        rfl
      rw [e]
      cases hy : f (sp.toNatClampNeg + i) with
      | none => exact ⟨rfl, trivial⟩
      | some y =>
        obtain ⟨t9, ci, N, Cn, T9, ty, fs, hv, hC, hca⟩ := hel i hi y hy
        obtain ⟨r', hr', cellV, v1, v2, v3, -⟩ := hR.at_ hv
        have hcls := (hK.1 ci _ hC.1).2
        obtain ⟨kA, comp, r1, r2, r3, -⟩ := (hK.2 k _ ht).2
        obtain ⟨c0, t1', f1', f2', f3'⟩ := Cond.castable_spec (va_Nw.use (A := args) rfl (X0.nC hca))
        have e1 : t1' = comp := Option.some.inj (f2'.symm.trans r3)
        have e2 : c0 = g.2.2.1.1 ci := Option.some.inj (f1'.symm.trans hcls.1)
        subst e1
        subst e2
        cases hk1.symm.trans r1
        cases hkk1.symm.trans r2
        obtain ⟨kC, hkC, -⟩ := hcls.2
        obtain ⟨kE, hkE, -⟩ := Vm.findClass_spec r3
        obtain ⟨kC', hkC', -⟩ := hal.2.2 _ _ hkC
        obtain ⟨kE', hkE', -⟩ := hal.2.2 _ _ hkE
        refine ⟨rfl, cellV, (show T.heap[y]? = some cellV by rw [hT]; exact v1), (fun q h => by rw [v3] at h; cases h), ⟨kC', by rw [v2]; exact hkC'⟩, ?_, ?_⟩
        · exact ⟨kE', hkE'⟩
        · show vm₁.assignable _ _ = true
          rw [hal.assignable, v2]
          exact f3')
    (g := F0 m pc ls (.int n :: .int dp :: .ref a :: .int sp :: .ref a0 :: rest)) rfl (by rw [X0.ml]; exact hL.1) (rest := rest) rfl (by rw [X0.hb]; exact d) (by omega) (by
      have := lv_room (m := m) (pc := pc) (ls := ls) (rest := (.int n :: .int dp :: .ref a :: .int sp :: .ref a0 :: rest)) hcat
      omega)
  have e1 : copied (vp_cell (g.2.2.2 k) (n0, .inr (.inr (.inr (.inr f))))) (vp_cell (g.2.2.2 k) (n1, .inr (.inr (.inr (.inr f1))))) sp dp n = vp_cell (g.2.2.2 k) (n1, .inr (.inr (.inr (.inr (va_cpy f f1 sp.toNatClampNeg dp.toNatClampNeg n.toNatClampNeg))))) := by
    rw [vp_cell_q, vp_cell_q, vp_cell_q]
    exact va_copied (fun z => va_rf z) (g.2.2.2 k) (g.2.2.2 k) f f1 h4
  rw [e1] at X' step
  have hl9 : a < H.size := (Array.getElem?_eq_some_iff.mp hc1).1
  have hheap : ((T.setVm vm').setCell a (vp_cell (g.2.2.2 k) (n1, .inr (.inr (.inr (.inr (va_cpy f f1 sp.toNatClampNeg dp.toNatClampNeg n.toNatClampNeg))))))).heap = H.setIfInBounds a (vp_cell (g.2.2.2 k) (n1, .inr (.inr (.inr (.inr (va_cpy f f1 sp.toNatClampNeg dp.toNatClampNeg n.toNatClampNeg)))))) := by rw [← hT]; rfl
  have oq : ∀ q : Nat, q ≠ a → (H.setIfInBounds a (vp_cell (g.2.2.2 k) (n1, .inr (.inr (.inr (.inr (va_cpy f f1 sp.toNatClampNeg dp.toNatClampNeg n.toNatClampNeg)))))))[q]? = H[q]? := fun q hq => by simp [Array.getElem?_setIfInBounds, Ne.symm hq]
  have hge := hR.ge hh1
  obtain ⟨t, a1, b1⟩ := kk p e s m args below meth c (H.setIfInBounds a (vp_cell (g.2.2.2 k) (n1, .inr (.inr (.inr (.inr (va_cpy f f1 sp.toNatClampNeg dp.toNatClampNeg n.toNatClampNeg))))))) _ ls cells slots X0 (hR.up hh1 (by simp) oq (show (H.setIfInBounds a _)[a]? = some _ by simp [Array.getElem?_setIfInBounds, hl9])) (fun q hq => by
      rcases List.mem_append.mp hq with h | h
      · exact hl q h
      · obtain ⟨z, -, hz⟩ := List.mem_map.mp h
        rw [← hz]
        exact hge) hL g1 g2 _ hheap X'
  exact ⟨t, step t a1, b1⟩
theorem w_aastON {a n k v ci N j : Nat} {t t2 : Tg} {C E : String} {T : u_T} {ty : Nat → FieldType} {vs : List Value} {f : Nat → Option Nat} (d : decode mt.1.2.1 pc = .ok (.aastore, 1)) (hC : ClOk ci C T N ty) (hca : Cond.castable C E ∈ lw_tbl) (ht : (xTys g.2.2.2)[k]? = some (g.2.2.2 k, .object E)) (hh : σ.2 a = some (t, .inl (g.2.2.2 k, n, .inr (.inr (.inr (.inr f)))))) (hv : σ.2 v = some (t2, .inr (ci, vs))) (hj : j < n) (hn : n < 2147483648) (kk : Wp g mt kc ks (pc + 1) L st (hup σ a t (.inl (g.2.2.2 k, n, .inr (.inr (.inr (.inr (va_up f j (some v))))))))) : Wp g mt kc ks pc L (.ref v :: .int (nI j) :: .ref a :: st) σ :=
  w_aastO d hC hca ht hh hv (vp_in_nI hj (by omega)) (by rw [nI_clamp (by omega)]; exact kk)
end CPQ
/-- but loose cells nothing changes, what is frozen stays -/
def R9 (C C2 : CS) : Prop := (∀ k j, k ≠ 8 → od C2 k j = od C k j) ∧ oI C2 = oI C ∧ oA C2 = oA C ∧ oN C2 = oN C ∧ oL C2 = oL C ∧ oB C2 = oB C ∧ oP C2 = oP C ∧ oO C2 = oO C ∧ oT C2 = oT C ∧ ∀ a e, oZ C a = some e → oZ C2 a = some e
/-- .. but for the fault in Bad -/
def RY (C C2 : CS) : Prop := (∀ k j, k ≠ 8 → od C2 k j = od C k j) ∧ (∀ k j f, (k = 0 → j = 5 → False) → oI C2 k j f = oI C k j f) ∧ oA C2 = oA C ∧ oN C2 = oN C ∧ oL C2 = oL C ∧ oB C2 = oB C ∧ oP C2 = oP C ∧ oO C2 = oO C ∧ oT C2 = oT C ∧ ∀ a e, oZ C a = some e → oZ C2 a = some e
/-- thrown: the fault stands in Bad -/
def EY {α : Type} (C : CS) (r : PR α) : CS → Prop := fun C2 => ∃ f, r = .error f ∧ RY C C2 ∧ oI C2 0 5 6 = nI f.1 ∧ oI C2 0 5 7 = nI f.2
/-- loose cells of these places stay -/
def Lk (S : Nat → Prop) (C C2 : CS) : Prop := ∀ i, S i → oM C2 i = oM C i ∧ od C2 8 i = od C 8 i
section R9S
variable {C C1 C2 C3 : CS} {S S2 : Nat → Prop}
theorem R9.refl : R9 C C := ⟨fun _ _ _ => rfl, rfl, rfl, rfl, rfl, rfl, rfl, rfl, rfl, fun _ _ h => h⟩
theorem R9.trans (h : R9 C C2) (k : R9 C2 C3) : R9 C C3 := by
  obtain ⟨a1, a2, a3, a4, a5, a6, a7, a8, a9, a10⟩ := h
  obtain ⟨b1, b2, b3, b4, b5, b6, b7, b8, b9, b10⟩ := k
  exact ⟨fun x y u => (b1 x y u).trans (a1 x y u), b2.trans a2, b3.trans a3, b4.trans a4, b5.trans a5, b6.trans a6, b7.trans a7, b8.trans a8, b9.trans a9, fun a e h => b10 a e (a10 a e h)⟩
theorem R9.Y (h : R9 C C2) : RY C C2 := by
  obtain ⟨a1, a2, a3, a4, a5, a6, a7, a8, a9, a10⟩ := h
  exact ⟨a1, fun k j f _ => by rw [a2], a3, a4, a5, a6, a7, a8, a9, a10⟩
theorem RY.trans (h : RY C C2) (k : RY C2 C3) : RY C C3 := by
  obtain ⟨a1, a2, a3, a4, a5, a6, a7, a8, a9, a10⟩ := h
  obtain ⟨b1, b2, b3, b4, b5, b6, b7, b8, b9, b10⟩ := k
  exact ⟨fun x y u => (b1 x y u).trans (a1 x y u), fun x y f u => (b2 x y f u).trans (a2 x y f u), b3.trans a3, b4.trans a4, b5.trans a5, b6.trans a6, b7.trans a7, b8.trans a8, b9.trans a9, fun a e h => b10 a e (a10 a e h)⟩
theorem RFr.Y (h : RFr C C2) : RY C C2 := by
  obtain ⟨a1, a2, a3, a4, a5, a6, a7, a8, a9, a10⟩ := h
  exact ⟨a1, a2, a3, a4, a5, a6, a7, a8, a9, fun a e h => by rw [a10]; exact h⟩
theorem R8.R9 (h : R8 C C2) : R9 C C2 := by
  obtain ⟨a1, a2, a3, a4, a5, a6, a7, a8, a9, a10⟩ := h
  exact ⟨a1, a2, a3, a4, a5, a6, a7, a8, a9, fun a e h => by rw [a10]; exact h⟩
theorem FzR.R9 (h : FzR C C2) : R9 C C2 := by
  obtain ⟨a1, a2, a3, a4, a5, a6, a7, a8, a9, a10⟩ := h
  exact ⟨fun k j _ => by rw [a1], a2, a3, a4, a5, a6, a7, a8, a9, a10⟩
theorem R9.M (i : Nat) (v : Option va_E) : R9 C (uM C i v) := ⟨fun _ _ _ => rfl, rfl, rfl, rfl, rfl, rfl, rfl, rfl, rfl, fun _ _ h => h⟩
theorem R9.nw (i a : Nat) (e : va_E) : R9 C (nwC C i a e) := ⟨fun k j h => nw_ne (fun z _ => h z), rfl, rfl, rfl, rfl, rfl, rfl, rfl, rfl, fun _ _ h => h⟩
theorem R9.rd {n : Nat} {q : RQ} : R9 C (rdS C n q) := R9.M 1 _
theorem R9.dr {n : Nat} {q : RQ} : R9 (rdS C n q) C := ⟨fun _ _ _ => rfl, rfl, rfl, rfl, rfl, rfl, rfl, rfl, rfl, fun _ _ h => h⟩
theorem R9.x (h : R9 C C2) {k : Nat} (hx : oO C k = true) : oO C2 k = true := by
  rw [h.2.2.2.2.2.2.2.1]
  exact hx
theorem R9.T {X : TX} (h : R9 C C2) (hT : TxC C X) : TxC C2 X := by
  unfold TxC
  rw [h.2.2.1]
  exact hT
theorem R9.z (h : R9 C C2) {a : Nat} {e : va_E} (hz : oZ C a = some e) : oZ C2 a = some e := h.2.2.2.2.2.2.2.2.2 a e hz
theorem EY.up {α β : Type} {r : PR α} {s : PR β} (h : ET C1 r C2) (hR : RY C C1) (hs : ∀ f, r = .error f → s = .error f) : EY C s C2 := by
  obtain ⟨f, h1, h2, h3⟩ := h
  exact ⟨f, hs f h1, hR.trans h2.Y, h3⟩
theorem EY.on {α β : Type} {r : PR α} {s : PR β} (h : EY C1 r C2) (hR : RY C C1) (hs : ∀ f, r = .error f → s = .error f) : EY C s C2 := by
  obtain ⟨f, h1, h2, h3⟩ := h
  exact ⟨f, hs f h1, hR.trans h2, h3⟩
theorem EY.mk {α : Type} {r : PR α} {f : Nat × Nat} {n : Nat} {q : RQ} (hr : r = .error f) (h : C2 = bdS (rdS C1 n q) f) (hR : RY C C1) : EY C r C2 := by
  rw [h]
  obtain ⟨h1, h2⟩ := Bd.mk_ (f := f) (RFr.rd C1 n q)
  exact ⟨f, hr, hR.trans h1.Y, h2⟩
theorem Lk.refl : Lk S C C := fun _ _ => ⟨rfl, rfl⟩
theorem Lk.trans (h : Lk S C C2) (k : Lk S C2 C3) : Lk S C C3 := fun i hi => ⟨(k i hi).1.trans (h i hi).1, (k i hi).2.trans (h i hi).2⟩
theorem Lk.sub (h : Lk S C C2) (hs : ∀ i, S2 i → S i) : Lk S2 C C2 := fun i hi => h i (hs i hi)
theorem Lk.M {i : Nat} {v : Option va_E} (hi : ¬ S i) : Lk S C (uM C i v) := fun j hj => ⟨oM_ne (fun z => hi (z ▸ hj)), rfl⟩
theorem Lk.nw {i a : Nat} {e : va_E} (hi : ¬ S i) : Lk S C (nwC C i a e) := fun j hj => ⟨oM_ne (fun z => hi (z ▸ hj)), nw_ne (fun _ z => hi (z ▸ hj))⟩
theorem Lk.rd {n : Nat} {q : RQ} (h1 : ¬ S 1) : Lk S C (rdS C n q) := Lk.M h1
theorem Lk.dr {n : Nat} {q : RQ} (h1 : ¬ S 1) : Lk S (rdS C n q) C := fun j hj => ⟨(oM_ne (fun z : j = 1 => h1 (z ▸ hj))).symm, rfl⟩
end R9S
theorem Hold.m {g : GG} {σ : PH} {C : CS} (H : Hold g σ C) {i : Nat} {e e2 : va_E} (hc : oM C i = some e) : Hold g (hup σ (od C 8 i) (8, i) e2) (uM C i (some e2)) := H.set (k := 8) (j := i) hc (by decide) rfl rfl oM_eq (fun a b h => ot_M a b h)
theorem Hold.gm {g : GG} {σ : PH} {C : CS} (H : Hold g σ C) {i : Nat} {e : va_E} (hc : oM C i = some e) : σ.2 (od C 8 i) = some ((8, i), e) := H.get (k := 8) (j := i) hc
/-- an object that is a step -/
def StO (Z : Nat → Option va_E) (b : Nat) : Prop := (∃ fs, Z b = some (.inr (12, fs))) ∨ (∃ fs, Z b = some (.inr (10, fs))) ∨ ∃ fs, Z b = some (.inr (11, fs))
theorem StO.get {g : GG} {σ : PH} {C : CS} {b : Nat} (h : StO (oZ C) b) (H : Hold g σ C) : ∃ (t : Tg) (ci N : Nat) (Cn : String) (T : u_T) (ty : Nat → FieldType) (fs : List Value), σ.2 b = some (t, .inr (ci, fs)) ∧ ClOk ci Cn T N ty ∧ Cond.castable Cn "LastPebble$Step" ∈ lw_tbl := by
  rcases h with ⟨fs, h⟩ | ⟨fs, h⟩ | ⟨fs, h⟩
  · exact ⟨_, _, _, _, _, _, _, H.z h, clX14, ca_act⟩
  · exact ⟨_, _, _, _, _, _, _, H.z h, clX12, ca_loop⟩
  · exact ⟨_, _, _, _, _, _, _, H.z h, clX13, ca_when⟩
/-- a block under construction: its object at u, its row at v -/
def BkL (g : GG) (C : CS) (u v ci k cap : Nat) (rest : List Value) (f : Nat → Option Nat) : Prop := oM C u = some (.inr (ci, .ref (od C 8 v) :: .int (nI k) :: rest)) ∧ oM C v = some (.inl (g.2.2.2 7, cap, .inr (.inr (.inr (.inr f))))) ∧ k ≤ cap ∧ (cap = 4 ∨ cap = 8 ∨ cap = 16 ∨ cap = 32)
theorem BkL.keep {g : GG} {C C2 : CS} {S : Nat → Prop} {u v ci k cap : Nat} {rest : List Value} {f : Nat → Option Nat} (h : BkL g C u v ci k cap rest f) (L : Lk S C C2) (hu : S u) (hv : S v) : BkL g C2 u v ci k cap rest f := by
  obtain ⟨h1, h2, h3⟩ := h
  exact ⟨by rw [(L u hu).1, (L v hv).2]; exact h1, by rw [(L v hv).1]; exact h2, h3⟩
theorem add_tailX12 {g : GG} {C C0 : CS} {σ σ0 : PH} {u v k cap b mc ms kc ks : Nat} {f : Nat → Option Nat} {x0 : Value} {y : Option Value} {Q : CS → Prop} (B : BkL g C u v 10 k cap [x0] f) (huv : u ≠ v) (hk : k < cap) (hb : StO (oZ C) b) (H : Hold g σ C) (F : Fr σ0 σ) (d0 : od C 8 u = od C0 8 u) (kk : ∀ C2, R9 C C2 → Lk (fun i => i ≠ u ∧ i ≠ v) C C2 → od C2 8 u = od C 8 u → oZ C2 = oZ C → BkL g C2 u v 10 (k + 1) cap [x0] (va_up f k (some b)) → Q C2) : Wp g (mtC g miX11_add 1 mc ms σ0 none Q) kc ks 41 [some (.ref (od C0 8 u)), some (.ref b), y] [] σ := by
  obtain ⟨hu, hv, hkc, hcp⟩ := B
  refine w_aload_n dX11_add_41 rfl ?_
  refine w_ref d0 ?_
  refine w_getf (k := 0) dX11_add_42 clX12 (by decide) q925 (H.gm hu) rfl ?_
  refine w_aload_n dX11_add_45 rfl ?_
  refine w_ref d0 ?_
  refine w_getf (k := 1) dX11_add_46 clX12 (by decide) q926 (H.gm hu) rfl ?_
  refine w_aload_n dX11_add_49 rfl ?_
  obtain ⟨t9, c9, N9, Cn9, T9, ty9, fs9, hv9, hC9, hca9⟩ := hb.get H
  refine w_aastON (k := 7) dX11_add_50 hC9 hca9 rfl (H.gm hv) hv9 hk (by omega) ?_
  have H1 := H.m (e2 := .inl (g.2.2.2 7, cap, .inr (.inr (.inr (.inr (va_up f k (some b))))))) hv
  have F1 := F.hup (t2 := (8, v)) (e2 := .inl (g.2.2.2 7, cap, .inr (.inr (.inr (.inr (va_up f k (some b))))))) (by show 8 < 20; decide) (H.gm hv)
  obtain ⟨C1, hC1⟩ : ∃ X, X = uM C v (some (.inl (g.2.2.2 7, cap, .inr (.inr (.inr (.inr (va_up f k (some b)))))))) := ⟨_, rfl⟩
  have hu1 : oM C1 u = some (.inr (10, .ref (od C 8 v) :: .int (nI k) :: [x0])) := by
    rw [hC1]
    exact (oM_ne huv).trans hu
  have hv1 : oM C1 v = some (.inl (g.2.2.2 7, cap, .inr (.inr (.inr (.inr (va_up f k (some b))))))) := by
    rw [hC1]
    exact oM_eq
  have d1 : od C1 = od C := by rw [hC1]; rfl
  have z1 : oZ C1 = oZ C := by rw [hC1]; rfl
  have r1 : R9 C C1 := by
    rw [hC1]
    exact R9.M _ _
  have l1 : Lk (fun i => i ≠ u ∧ i ≠ v) C C1 := by
    rw [hC1]
    exact Lk.M (fun z => z.2 rfl)
  rw [← hC1] at H1
  clear hC1
  have du1 : od C1 8 u = od C0 8 u := by
    rw [d1]
    exact d0
  refine w_aload_n dX11_add_51 rfl ?_
  refine w_ref du1 ?_
  refine w_dup dX11_add_52 rfl ?_
  refine w_getf (k := 1) dX11_add_53 clX12 (by decide) q926 (H1.gm hu1) rfl ?_
  refine w_iconst (v := nI 1) dX11_add_56 ki_1 ?_
  refine w_iaddN dX11_add_57 ?_
  refine w_putf (k := 1) dX11_add_58 clX12 (by decide) q926 rfl (H1.gm hu1) rfl rfl (by show 1 < 3; decide) ?_
  have H2 := H1.m (e2 := .inr (10, .ref (od C 8 v) :: .int (nI (k + 1)) :: [x0])) hu1
  have F2 := F1.hup (t2 := (8, u)) (e2 := .inr (10, .ref (od C 8 v) :: .int (nI (k + 1)) :: [x0])) (by show 8 < 20; decide) (H1.gm hu1)
  obtain ⟨C2, hC2⟩ : ∃ X, X = uM C1 u (some (.inr (10, .ref (od C 8 v) :: .int (nI (k + 1)) :: [x0]))) := ⟨_, rfl⟩
  have hu2 : oM C2 u = some (.inr (10, .ref (od C 8 v) :: .int (nI (k + 1)) :: [x0])) := by
    rw [hC2]
    exact oM_eq
  have hv2 : oM C2 v = some (.inl (g.2.2.2 7, cap, .inr (.inr (.inr (.inr (va_up f k (some b))))))) := by
    rw [hC2]
    exact (oM_ne (fun z => huv z.symm)).trans hv1
  have d2 : od C2 = od C := by rw [← d1, hC2]; rfl
  have z2 : oZ C2 = oZ C := by rw [← z1, hC2]; rfl
  have r2 : R9 C C2 := by
    rw [hC2]
    exact r1.trans (R9.M _ _)
  have l2 : Lk (fun i => i ≠ u ∧ i ≠ v) C C2 := by
    rw [hC2]
    exact l1.trans (Lk.M (fun z => z.1 rfl))
  rw [← hC2] at H2
  clear hC2
  exact w_vret dX11_add_61 rfl ⟨rfl, C2, kk C2 r2 l2 (by rw [d2]) z2 ⟨by rw [d2]; exact hu2, hv2, by omega, hcp⟩, H2, F2⟩
set_option maxHeartbeats 4000000 in
theorem c_addX12 {g : GG} {C : CS} {u v k cap b : Nat} {f : Nat → Option Nat} {x0 : Value} (B : BkL g C u v 10 k cap [x0] f) (huv : u ≠ v) (hk : k < 30) (hf : ∀ i, i < k → ∃ b, f i = some b ∧ StO (oZ C) b) (hb : StO (oZ C) b) : Cp g miX11_add 1 1 32 [.ref (od C 8 u), .ref b] C none (fun C2 => R9 C C2 ∧ Lk (fun i => i ≠ u ∧ i ≠ v) C C2 ∧ od C2 8 u = od C 8 u ∧ oZ C2 = oZ C ∧ ∃ cap2 f2, BkL g C2 u v 10 (k + 1) cap2 [x0] f2 ∧ (∀ i, i < k → f2 i = f i) ∧ f2 k = some b) := by
  have B0 := B
  obtain ⟨hu, hv, hkc, hcp⟩ := B
  refine Cp.start [some (.ref (od C 8 u)), some (.ref b), none] (by decide +kernel) rfl (Nat.le_of_ble_eq_true rfl) rfl ?_
  intro σ0 σ H F
  refine w_aload_n dX11_add_0 rfl ?_
  refine w_getf (k := 1) dX11_add_1 clX12 (by decide) q926 (H.gm hu) rfl ?_
  refine w_aload_n dX11_add_4 rfl ?_
  refine w_getf (k := 0) dX11_add_5 clX12 (by decide) q925 (H.gm hu) rfl ?_
  refine w_alen (k := 7) dX11_add_8 (H.gm hv) rfl ?_
  refine w_icmpN_ne dX11_add_9 rfl (by omega) (by omega) (fun h9 => ?_) (fun h9 => ?_)
  · exact add_tailX12 (C0 := C) B0 huv (show k < cap by omega) hb H F rfl (fun C2 r2 l2 d2 z2 b2 => ⟨r2, l2, d2, z2, cap, _, b2, fun i hi => va_up_ne _ _ (by omega), va_up_self _ _ _⟩)
  · have hkc2 : k = cap := by omega
    subst hkc2
    clear B0
    refine w_iconst (v := nI 2) dX11_add_12 ki_2 ?_
    refine w_aload_n dX11_add_13 rfl ?_
    refine w_getf (k := 1) dX11_add_14 clX12 (by decide) q926 (H.gm hu) rfl ?_
    refine w_imulN dX11_add_17 ?_
    refine w_bud (kc2 := 0 + 1) (ks2 := 0 + 2 * k) (by omega) (by omega) ?_
    refine w_anew (k := 7) (n := 2 * k) (8, v) rfl q922 q923 dX11_add_18 (by omega) ?_
    have hA0 := H.gm hv
    have hlt := H.lt hA0
    obtain ⟨e1, he1⟩ : ∃ e : va_E, e = .inl (g.2.2.2 7, (2 * k), .inr (.inr (.inr (.inr (fun _ => none))))) := ⟨_, rfl⟩
    have H1 := H.nw v e1
    have F1 : Fr σ0 (hnew σ (8, v) e1) := F.hnew H.1
    have hA1 : (hnew σ (8, v) e1).2 (od C 8 v) = some ((8, v), .inl (g.2.2.2 7, k, .inr (.inr (.inr (.inr f))))) := (if_neg (by omega)).trans hA0
    have hN1 : (hnew σ (8, v) e1).2 σ.1 = some ((8, v), e1) := if_pos rfl
    obtain ⟨C1, hC1⟩ : ∃ X, X = nwC C v σ.1 e1 := ⟨_, rfl⟩
    have hu1 : oM C1 u = some (.inr (10, .ref (od C 8 v) :: .int (nI k) :: [x0])) := by
      rw [hC1]
      exact (oM_ne huv).trans hu
    have hv1 : oM C1 v = some e1 := by
      rw [hC1]
      exact oM_eq
    have du1 : od C1 8 u = od C 8 u := by
      rw [hC1]
      exact nw_ne (fun _ z => huv z)
    have dv1 : od C1 8 v = σ.1 := by
      rw [hC1]
      exact nw_od
    have z1 : oZ C1 = oZ C := by rw [hC1]; rfl
    have r1 : R9 C C1 := by
      rw [hC1]
      exact R9.nw _ _ _
    have l1 : Lk (fun i => i ≠ u ∧ i ≠ v) C C1 := by
      rw [hC1]
      exact Lk.nw (fun z => z.2 rfl)
    rw [← hC1] at H1
    clear hC1
    rw [← he1]
    obtain ⟨σ1, hσ1⟩ : ∃ s, s = hnew σ (8, v) e1 := ⟨_, rfl⟩
    rw [← hσ1] at H1 F1 hA1 hN1 ⊢
    clear hσ1
    obtain ⟨a9, ha9⟩ : ∃ a : Nat, a = σ.1 := ⟨_, rfl⟩
    rw [← ha9] at hN1 dv1 ⊢
    clear ha9
    refine w_astore_n dX11_add_21 rfl (Nat.le_of_ble_eq_true rfl) ls_3_2 ?_
    refine w_aload_n dX11_add_22 rfl ?_
    refine w_ref du1 ?_
    refine w_getf (k := 0) dX11_add_23 clX12 (by decide) q925 (H1.gm hu1) rfl ?_
    refine w_iconst (v := nI 0) dX11_add_26 ki_0 ?_
    refine w_aload_n dX11_add_27 rfl ?_
    refine w_iconst (v := nI 0) dX11_add_28 ki_0 ?_
    refine w_aload_n dX11_add_29 rfl ?_
    refine w_ref du1 ?_
    refine w_getf (k := 1) dX11_add_30 clX12 (by decide) q926 (H1.gm hu1) rfl ?_
    have h9 : (nI k).toNatClampNeg = k := nI_clamp (by omega)
    have h8 : (nI 0).toNatClampNeg = 0 := nI_clamp (by omega)
    rw [he1] at hN1 hv1
    refine w_copyQ (k := 7) (E := "LastPebble$Step") dX11_add_33 q1006 q651 q650 q150 rfl hA1 hN1 (nI_pos (by omega)) (nI_pos (by omega)) (nI_pos (by omega)) (by rw [h9, h8]; omega) (by rw [h9, h8]; omega) (fun i hi y hy => ?_) (Nat.le_of_ble_eq_true rfl) (Nat.le_of_ble_eq_true rfl) ?_
    · rw [h9] at hi
      rw [h8, Nat.zero_add] at hy
      obtain ⟨b1, hb1, hb2⟩ := hf i hi
      rw [hb1] at hy
      obtain rfl := Option.some.inj hy
      have hb3 : StO (oZ C1) b1 := by
        rw [z1]
        exact hb2
      exact hb3.get H1
    rw [h9, h8]
    have H2 := H1.m (e2 := .inl (g.2.2.2 7, (2 * k), .inr (.inr (.inr (.inr (va_cpy f (fun _ => none) 0 0 k)))))) hv1
    have F2 := F1.hup (t2 := (8, v)) (e2 := .inl (g.2.2.2 7, (2 * k), .inr (.inr (.inr (.inr (va_cpy f (fun _ => none) 0 0 k)))))) (by show 8 < 20; decide) hN1
    rw [dv1] at H2
    obtain ⟨C2, hC2⟩ : ∃ X, X = uM C1 v (some (.inl (g.2.2.2 7, (2 * k), .inr (.inr (.inr (.inr (va_cpy f (fun _ => none) 0 0 k))))))) := ⟨_, rfl⟩
    have hu2 : oM C2 u = some (.inr (10, .ref (od C 8 v) :: .int (nI k) :: [x0])) := by
      rw [hC2]
      exact (oM_ne huv).trans hu1
    have hv2 : oM C2 v = some (.inl (g.2.2.2 7, (2 * k), .inr (.inr (.inr (.inr (va_cpy f (fun _ => none) 0 0 k)))))) := by
      rw [hC2]
      exact oM_eq
    have d2 : od C2 = od C1 := by rw [hC2]; rfl
    have z2 : oZ C2 = oZ C := by rw [← z1, hC2]; rfl
    have r2 : R9 C C2 := by
      rw [hC2]
      exact r1.trans (R9.M _ _)
    have l2 : Lk (fun i => i ≠ u ∧ i ≠ v) C C2 := by
      rw [hC2]
      exact l1.trans (Lk.M (fun z => z.2 rfl))
    rw [← hC2] at H2
    clear hC2
    have du2 : od C2 8 u = od C 8 u := by
      rw [d2]
      exact du1
    refine w_aload_n dX11_add_36 rfl ?_
    refine w_ref du2 ?_
    refine w_aload_n dX11_add_37 rfl ?_
    refine w_putf (k := 0) dX11_add_38 clX12 (by decide) q925 rfl (H2.gm hu2) rfl rfl (by show 0 < 3; decide) ?_
    have H3 := H2.m (e2 := .inr (10, .ref a9 :: .int (nI k) :: [x0])) hu2
    have F3 := F2.hup (t2 := (8, u)) (e2 := .inr (10, .ref a9 :: .int (nI k) :: [x0])) (by show 8 < 20; decide) (H2.gm hu2)
    obtain ⟨C3, hC3⟩ : ∃ X, X = uM C2 u (some (.inr (10, .ref a9 :: .int (nI k) :: [x0]))) := ⟨_, rfl⟩
    have d3 : od C3 = od C1 := by rw [← d2, hC3]; rfl
    have hu3 : oM C3 u = some (.inr (10, .ref (od C3 8 v) :: .int (nI k) :: [x0])) := by
      rw [d3, dv1, hC3]
      exact oM_eq
    have hv3 : oM C3 v = some (.inl (g.2.2.2 7, (2 * k), .inr (.inr (.inr (.inr (va_cpy f (fun _ => none) 0 0 k)))))) := by
      rw [hC3]
      exact (oM_ne (fun z => huv z.symm)).trans hv2
    have z3 : oZ C3 = oZ C := by rw [← z2, hC3]; rfl
    have r3 : R9 C C3 := by
      rw [hC3]
      exact r2.trans (R9.M _ _)
    have l3 : Lk (fun i => i ≠ u ∧ i ≠ v) C C3 := by
      rw [hC3]
      exact l2.trans (Lk.M (fun z => z.1 rfl))
    rw [← hC3] at H3
    clear hC3
    have du3 : od C3 8 u = od C 8 u := by
      rw [d3]
      exact du1
    refine add_tailX12 (C0 := C) (C := C3) ⟨hu3, hv3, by omega, by omega⟩ huv (show k < 2 * k by omega) (by rw [z3]; exact hb) H3 F3 du3 (fun C4 r4 l4 d4 z4 b4 => ⟨r3.trans r4, l3.trans l4, d4.trans du3, z4.trans z3, 2 * k, _, b4, fun i hi => (va_up_ne _ _ (by omega)).trans ?_, va_up_self _ _ _⟩)
    unfold va_cpy
    simp [hi]
theorem add_tailX13 {g : GG} {C C0 : CS} {σ σ0 : PH} {u v k cap b mc ms kc ks : Nat} {f : Nat → Option Nat} {x0 x1 x2 x3 x4 : Value} {y : Option Value} {Q : CS → Prop} (B : BkL g C u v 11 k cap [x0, x1, x2, x3, x4] f) (huv : u ≠ v) (hk : k < cap) (hb : StO (oZ C) b) (H : Hold g σ C) (F : Fr σ0 σ) (d0 : od C 8 u = od C0 8 u) (kk : ∀ C2, R9 C C2 → Lk (fun i => i ≠ u ∧ i ≠ v) C C2 → od C2 8 u = od C 8 u → oZ C2 = oZ C → BkL g C2 u v 11 (k + 1) cap [x0, x1, x2, x3, x4] (va_up f k (some b)) → Q C2) : Wp g (mtC g miX11_add 1 mc ms σ0 none Q) kc ks 41 [some (.ref (od C0 8 u)), some (.ref b), y] [] σ := by
  obtain ⟨hu, hv, hkc, hcp⟩ := B
  refine w_aload_n dX11_add_41 rfl ?_
  refine w_ref d0 ?_
  refine w_getf (k := 0) dX11_add_42 clX13 (by decide) q925 (H.gm hu) rfl ?_
  refine w_aload_n dX11_add_45 rfl ?_
  refine w_ref d0 ?_
  refine w_getf (k := 1) dX11_add_46 clX13 (by decide) q926 (H.gm hu) rfl ?_
  refine w_aload_n dX11_add_49 rfl ?_
  obtain ⟨t9, c9, N9, Cn9, T9, ty9, fs9, hv9, hC9, hca9⟩ := hb.get H
  refine w_aastON (k := 7) dX11_add_50 hC9 hca9 rfl (H.gm hv) hv9 hk (by omega) ?_
  have H1 := H.m (e2 := .inl (g.2.2.2 7, cap, .inr (.inr (.inr (.inr (va_up f k (some b))))))) hv
  have F1 := F.hup (t2 := (8, v)) (e2 := .inl (g.2.2.2 7, cap, .inr (.inr (.inr (.inr (va_up f k (some b))))))) (by show 8 < 20; decide) (H.gm hv)
  obtain ⟨C1, hC1⟩ : ∃ X, X = uM C v (some (.inl (g.2.2.2 7, cap, .inr (.inr (.inr (.inr (va_up f k (some b)))))))) := ⟨_, rfl⟩
  have hu1 : oM C1 u = some (.inr (11, .ref (od C 8 v) :: .int (nI k) :: [x0, x1, x2, x3, x4])) := by
    rw [hC1]
    exact (oM_ne huv).trans hu
  have hv1 : oM C1 v = some (.inl (g.2.2.2 7, cap, .inr (.inr (.inr (.inr (va_up f k (some b))))))) := by
    rw [hC1]
    exact oM_eq
  have d1 : od C1 = od C := by rw [hC1]; rfl
  have z1 : oZ C1 = oZ C := by rw [hC1]; rfl
  have r1 : R9 C C1 := by
    rw [hC1]
    exact R9.M _ _
  have l1 : Lk (fun i => i ≠ u ∧ i ≠ v) C C1 := by
    rw [hC1]
    exact Lk.M (fun z => z.2 rfl)
  rw [← hC1] at H1
  clear hC1
  have du1 : od C1 8 u = od C0 8 u := by
    rw [d1]
    exact d0
  refine w_aload_n dX11_add_51 rfl ?_
  refine w_ref du1 ?_
  refine w_dup dX11_add_52 rfl ?_
  refine w_getf (k := 1) dX11_add_53 clX13 (by decide) q926 (H1.gm hu1) rfl ?_
  refine w_iconst (v := nI 1) dX11_add_56 ki_1 ?_
  refine w_iaddN dX11_add_57 ?_
  refine w_putf (k := 1) dX11_add_58 clX13 (by decide) q926 rfl (H1.gm hu1) rfl rfl (by show 1 < 7; decide) ?_
  have H2 := H1.m (e2 := .inr (11, .ref (od C 8 v) :: .int (nI (k + 1)) :: [x0, x1, x2, x3, x4])) hu1
  have F2 := F1.hup (t2 := (8, u)) (e2 := .inr (11, .ref (od C 8 v) :: .int (nI (k + 1)) :: [x0, x1, x2, x3, x4])) (by show 8 < 20; decide) (H1.gm hu1)
  obtain ⟨C2, hC2⟩ : ∃ X, X = uM C1 u (some (.inr (11, .ref (od C 8 v) :: .int (nI (k + 1)) :: [x0, x1, x2, x3, x4]))) := ⟨_, rfl⟩
  have hu2 : oM C2 u = some (.inr (11, .ref (od C 8 v) :: .int (nI (k + 1)) :: [x0, x1, x2, x3, x4])) := by
    rw [hC2]
    exact oM_eq
  have hv2 : oM C2 v = some (.inl (g.2.2.2 7, cap, .inr (.inr (.inr (.inr (va_up f k (some b))))))) := by
    rw [hC2]
    exact (oM_ne (fun z => huv z.symm)).trans hv1
  have d2 : od C2 = od C := by rw [← d1, hC2]; rfl
  have z2 : oZ C2 = oZ C := by rw [← z1, hC2]; rfl
  have r2 : R9 C C2 := by
    rw [hC2]
    exact r1.trans (R9.M _ _)
  have l2 : Lk (fun i => i ≠ u ∧ i ≠ v) C C2 := by
    rw [hC2]
    exact l1.trans (Lk.M (fun z => z.1 rfl))
  rw [← hC2] at H2
  clear hC2
  exact w_vret dX11_add_61 rfl ⟨rfl, C2, kk C2 r2 l2 (by rw [d2]) z2 ⟨by rw [d2]; exact hu2, hv2, by omega, hcp⟩, H2, F2⟩
set_option maxHeartbeats 4000000 in
theorem c_addX13 {g : GG} {C : CS} {u v k cap b : Nat} {f : Nat → Option Nat} {x0 x1 x2 x3 x4 : Value} (B : BkL g C u v 11 k cap [x0, x1, x2, x3, x4] f) (huv : u ≠ v) (hk : k < 30) (hf : ∀ i, i < k → ∃ b, f i = some b ∧ StO (oZ C) b) (hb : StO (oZ C) b) : Cp g miX11_add 1 1 32 [.ref (od C 8 u), .ref b] C none (fun C2 => R9 C C2 ∧ Lk (fun i => i ≠ u ∧ i ≠ v) C C2 ∧ od C2 8 u = od C 8 u ∧ oZ C2 = oZ C ∧ ∃ cap2 f2, BkL g C2 u v 11 (k + 1) cap2 [x0, x1, x2, x3, x4] f2 ∧ (∀ i, i < k → f2 i = f i) ∧ f2 k = some b) := by
  have B0 := B
  obtain ⟨hu, hv, hkc, hcp⟩ := B
  refine Cp.start [some (.ref (od C 8 u)), some (.ref b), none] (by decide +kernel) rfl (Nat.le_of_ble_eq_true rfl) rfl ?_
  intro σ0 σ H F
  refine w_aload_n dX11_add_0 rfl ?_
  refine w_getf (k := 1) dX11_add_1 clX13 (by decide) q926 (H.gm hu) rfl ?_
  refine w_aload_n dX11_add_4 rfl ?_
  refine w_getf (k := 0) dX11_add_5 clX13 (by decide) q925 (H.gm hu) rfl ?_
  refine w_alen (k := 7) dX11_add_8 (H.gm hv) rfl ?_
  refine w_icmpN_ne dX11_add_9 rfl (by omega) (by omega) (fun h9 => ?_) (fun h9 => ?_)
  · exact add_tailX13 (C0 := C) B0 huv (show k < cap by omega) hb H F rfl (fun C2 r2 l2 d2 z2 b2 => ⟨r2, l2, d2, z2, cap, _, b2, fun i hi => va_up_ne _ _ (by omega), va_up_self _ _ _⟩)
  · have hkc2 : k = cap := by omega
    subst hkc2
    clear B0
    refine w_iconst (v := nI 2) dX11_add_12 ki_2 ?_
    refine w_aload_n dX11_add_13 rfl ?_
    refine w_getf (k := 1) dX11_add_14 clX13 (by decide) q926 (H.gm hu) rfl ?_
    refine w_imulN dX11_add_17 ?_
    refine w_bud (kc2 := 0 + 1) (ks2 := 0 + 2 * k) (by omega) (by omega) ?_
    refine w_anew (k := 7) (n := 2 * k) (8, v) rfl q922 q923 dX11_add_18 (by omega) ?_
    have hA0 := H.gm hv
    have hlt := H.lt hA0
    obtain ⟨e1, he1⟩ : ∃ e : va_E, e = .inl (g.2.2.2 7, (2 * k), .inr (.inr (.inr (.inr (fun _ => none))))) := ⟨_, rfl⟩
    have H1 := H.nw v e1
    have F1 : Fr σ0 (hnew σ (8, v) e1) := F.hnew H.1
    have hA1 : (hnew σ (8, v) e1).2 (od C 8 v) = some ((8, v), .inl (g.2.2.2 7, k, .inr (.inr (.inr (.inr f))))) := (if_neg (by omega)).trans hA0
    have hN1 : (hnew σ (8, v) e1).2 σ.1 = some ((8, v), e1) := if_pos rfl
    obtain ⟨C1, hC1⟩ : ∃ X, X = nwC C v σ.1 e1 := ⟨_, rfl⟩
    have hu1 : oM C1 u = some (.inr (11, .ref (od C 8 v) :: .int (nI k) :: [x0, x1, x2, x3, x4])) := by
      rw [hC1]
      exact (oM_ne huv).trans hu
    have hv1 : oM C1 v = some e1 := by
      rw [hC1]
      exact oM_eq
    have du1 : od C1 8 u = od C 8 u := by
      rw [hC1]
      exact nw_ne (fun _ z => huv z)
    have dv1 : od C1 8 v = σ.1 := by
      rw [hC1]
      exact nw_od
    have z1 : oZ C1 = oZ C := by rw [hC1]; rfl
    have r1 : R9 C C1 := by
      rw [hC1]
      exact R9.nw _ _ _
    have l1 : Lk (fun i => i ≠ u ∧ i ≠ v) C C1 := by
      rw [hC1]
      exact Lk.nw (fun z => z.2 rfl)
    rw [← hC1] at H1
    clear hC1
    rw [← he1]
    obtain ⟨σ1, hσ1⟩ : ∃ s, s = hnew σ (8, v) e1 := ⟨_, rfl⟩
    rw [← hσ1] at H1 F1 hA1 hN1 ⊢
    clear hσ1
    obtain ⟨a9, ha9⟩ : ∃ a : Nat, a = σ.1 := ⟨_, rfl⟩
    rw [← ha9] at hN1 dv1 ⊢
    clear ha9
    refine w_astore_n dX11_add_21 rfl (Nat.le_of_ble_eq_true rfl) ls_3_2 ?_
    refine w_aload_n dX11_add_22 rfl ?_
    refine w_ref du1 ?_
    refine w_getf (k := 0) dX11_add_23 clX13 (by decide) q925 (H1.gm hu1) rfl ?_
    refine w_iconst (v := nI 0) dX11_add_26 ki_0 ?_
    refine w_aload_n dX11_add_27 rfl ?_
    refine w_iconst (v := nI 0) dX11_add_28 ki_0 ?_
    refine w_aload_n dX11_add_29 rfl ?_
    refine w_ref du1 ?_
    refine w_getf (k := 1) dX11_add_30 clX13 (by decide) q926 (H1.gm hu1) rfl ?_
    have h9 : (nI k).toNatClampNeg = k := nI_clamp (by omega)
    have h8 : (nI 0).toNatClampNeg = 0 := nI_clamp (by omega)
    rw [he1] at hN1 hv1
    refine w_copyQ (k := 7) (E := "LastPebble$Step") dX11_add_33 q1006 q651 q650 q150 rfl hA1 hN1 (nI_pos (by omega)) (nI_pos (by omega)) (nI_pos (by omega)) (by rw [h9, h8]; omega) (by rw [h9, h8]; omega) (fun i hi y hy => ?_) (Nat.le_of_ble_eq_true rfl) (Nat.le_of_ble_eq_true rfl) ?_
    · rw [h9] at hi
      rw [h8, Nat.zero_add] at hy
      obtain ⟨b1, hb1, hb2⟩ := hf i hi
      rw [hb1] at hy
      obtain rfl := Option.some.inj hy
      have hb3 : StO (oZ C1) b1 := by
        rw [z1]
        exact hb2
      exact hb3.get H1
    rw [h9, h8]
    have H2 := H1.m (e2 := .inl (g.2.2.2 7, (2 * k), .inr (.inr (.inr (.inr (va_cpy f (fun _ => none) 0 0 k)))))) hv1
    have F2 := F1.hup (t2 := (8, v)) (e2 := .inl (g.2.2.2 7, (2 * k), .inr (.inr (.inr (.inr (va_cpy f (fun _ => none) 0 0 k)))))) (by show 8 < 20; decide) hN1
    rw [dv1] at H2
    obtain ⟨C2, hC2⟩ : ∃ X, X = uM C1 v (some (.inl (g.2.2.2 7, (2 * k), .inr (.inr (.inr (.inr (va_cpy f (fun _ => none) 0 0 k))))))) := ⟨_, rfl⟩
    have hu2 : oM C2 u = some (.inr (11, .ref (od C 8 v) :: .int (nI k) :: [x0, x1, x2, x3, x4])) := by
      rw [hC2]
      exact (oM_ne huv).trans hu1
    have hv2 : oM C2 v = some (.inl (g.2.2.2 7, (2 * k), .inr (.inr (.inr (.inr (va_cpy f (fun _ => none) 0 0 k)))))) := by
      rw [hC2]
      exact oM_eq
    have d2 : od C2 = od C1 := by rw [hC2]; rfl
    have z2 : oZ C2 = oZ C := by rw [← z1, hC2]; rfl
    have r2 : R9 C C2 := by
      rw [hC2]
      exact r1.trans (R9.M _ _)
    have l2 : Lk (fun i => i ≠ u ∧ i ≠ v) C C2 := by
      rw [hC2]
      exact l1.trans (Lk.M (fun z => z.2 rfl))
    rw [← hC2] at H2
    clear hC2
    have du2 : od C2 8 u = od C 8 u := by
      rw [d2]
      exact du1
    refine w_aload_n dX11_add_36 rfl ?_
    refine w_ref du2 ?_
    refine w_aload_n dX11_add_37 rfl ?_
    refine w_putf (k := 0) dX11_add_38 clX13 (by decide) q925 rfl (H2.gm hu2) rfl rfl (by show 0 < 7; decide) ?_
    have H3 := H2.m (e2 := .inr (11, .ref a9 :: .int (nI k) :: [x0, x1, x2, x3, x4])) hu2
    have F3 := F2.hup (t2 := (8, u)) (e2 := .inr (11, .ref a9 :: .int (nI k) :: [x0, x1, x2, x3, x4])) (by show 8 < 20; decide) (H2.gm hu2)
    obtain ⟨C3, hC3⟩ : ∃ X, X = uM C2 u (some (.inr (11, .ref a9 :: .int (nI k) :: [x0, x1, x2, x3, x4]))) := ⟨_, rfl⟩
    have d3 : od C3 = od C1 := by rw [← d2, hC3]; rfl
    have hu3 : oM C3 u = some (.inr (11, .ref (od C3 8 v) :: .int (nI k) :: [x0, x1, x2, x3, x4])) := by
      rw [d3, dv1, hC3]
      exact oM_eq
    have hv3 : oM C3 v = some (.inl (g.2.2.2 7, (2 * k), .inr (.inr (.inr (.inr (va_cpy f (fun _ => none) 0 0 k)))))) := by
      rw [hC3]
      exact (oM_ne (fun z => huv z.symm)).trans hv2
    have z3 : oZ C3 = oZ C := by rw [← z2, hC3]; rfl
    have r3 : R9 C C3 := by
      rw [hC3]
      exact r2.trans (R9.M _ _)
    have l3 : Lk (fun i => i ≠ u ∧ i ≠ v) C C3 := by
      rw [hC3]
      exact l2.trans (Lk.M (fun z => z.1 rfl))
    rw [← hC3] at H3
    clear hC3
    have du3 : od C3 8 u = od C 8 u := by
      rw [d3]
      exact du1
    refine add_tailX13 (C0 := C) (C := C3) ⟨hu3, hv3, by omega, by omega⟩ huv (show k < 2 * k by omega) (by rw [z3]; exact hb) H3 F3 du3 (fun C4 r4 l4 d4 z4 b4 => ⟨r3.trans r4, l3.trans l4, d4.trans du3, z4.trans z3, 2 * k, _, b4, fun i hi => (va_up_ne _ _ (by omega)).trans ?_, va_up_self _ _ _⟩)
    unfold va_cpy
    simp [hi]
