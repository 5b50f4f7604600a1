set_option maxRecDepth 100000
/-! DAYS: steps under construction (printed by gen/y2.py) -/
theorem isPl_nb {k : Nat} (h : isPl k) : ¬ (k = 25 ∨ 2400 ≤ k) := by
  unfold isPl at h
  omega
theorem BlkZ.b {Z : Nat → Option va_E} {a arr m : Nat} {r : Nat → Nat} (h : BlkZ Z a arr m r) : r 0 = 25 ∨ 2400 ≤ r 0 := by
  rcases h with ⟨h, -⟩ | ⟨h, -⟩
  · exact Or.inl h
  · exact Or.inr (by omega)
theorem BlkZ.mono {Z Z2 : Nat → Option va_E} {a arr m : Nat} {r : Nat → Nat} (hZ : ∀ a e, Z a = some e → Z2 a = some e) (h : BlkZ Z a arr m r) : BlkZ Z2 a arr m r := by
  rcases h with ⟨h1, h2⟩ | ⟨h1, x, z, u, v, h2, h3⟩
  · exact Or.inl ⟨h1, hZ _ _ h2⟩
  · exact Or.inr ⟨h1, x, z, u, v, hZ _ _ h2, h3⟩
theorem itn_ge {P : PG} {k : Nat} : ∀ i, (∀ j, j < i → itn P j k < nxt P (itn P j k)) → k ≤ itn P i k
  | 0, _ => Nat.le_refl _
  | i + 1, h => by
    rw [itn_s]
    have h1 := itn_ge i (fun j hj => h j (by omega))
    have h2 := h i (by omega)
    omega
theorem itn_eq {P P2 : PG} {k : Nat} : ∀ i, (∀ j, j < i → nxt P2 (itn P j k) = nxt P (itn P j k)) → itn P2 i k = itn P i k
  | 0, _ => rfl
  | i + 1, h => by rw [itn_s, itn_s, itn_eq i (fun j hj => h j (by omega)), h i (by omega)]
/-- steps k from row s to row e, told by f -/
def Bld (g : GG) (P : PG) (Z : Nat → Option va_E) (d s e k : Nat) (f : Nat → Option Nat) : Prop := itn P k s = e ∧ ∀ i, i < k → itn P i s < e ∧ ∃ b, f i = some b ∧ StZ g P Z d b (itn P i s)
theorem StZ.nx {g : GG} {P : PG} {Z : Nat → Option va_E} : ∀ d a k, StZ g P Z d a k → k < nxt P k
  | 0, _, _, h => absurd h id
  | d + 1, a, k, h => by
    rcases h with ⟨x, y, hz, hp, -⟩ | ⟨arr, m, hb, cap, f, hA, h1, h2, h3, he, hi⟩
    · unfold nxt
      rw [if_neg (isPl_nb hp)]
      omega
    · have hk : k + 1 ≤ pr P k 4 := by
        cases m with
        | zero =>
          have h4 : k + 1 = pr P k 4 := he
          omega
        | succ m =>
          have h4 : k + 1 < pr P k 4 := (hi 0 (by omega)).1
          omega
      unfold nxt
      rw [if_pos hb.b]
      omega
section BLD
variable {g : GG} {P P2 : PG} {Z Z2 : Nat → Option va_E} {d s e k lo n : Nat} {f f2 : Nat → Option Nat}
theorem Bld.in_ (h : Bld g P Z d s e k f) : ∀ i, i < k → s ≤ itn P i s ∧ nxt P (itn P i s) ≤ e ∧ itn P i s < nxt P (itn P i s) := by
  obtain ⟨he, hi⟩ := h
  have hx : ∀ i, i < k → itn P i s < nxt P (itn P i s) := fun i h9 => by
    obtain ⟨-, b, -, hs⟩ := hi i h9
    exact StZ.nx _ _ _ hs
  intro i h9
  refine ⟨itn_ge i (fun j hj => hx j (by omega)), ?_, hx i h9⟩
  rw [← itn_s]
  by_cases z : i + 1 = k
  · rw [z, he]
    exact Nat.le_refl _
  · exact Nat.le_of_lt (hi (i + 1) (by omega)).1
theorem Bld.it (h : Bld g P Z d s e k f) (hn : ∀ j, s ≤ j → j < e → nxt P2 j = nxt P j) : ∀ i, i ≤ k → itn P2 i s = itn P i s := fun i hi => itn_eq i (fun j hj => by
  obtain ⟨a1, a2, a3⟩ := h.in_ j (by omega)
  exact hn _ a1 (by omega))
theorem Bld.mono_of (hr : ∀ j, lo ≤ j → j < n → pr P2 j = pr P j) (hd : ∀ b j, lo ≤ j → nxt P j ≤ n → StZ g P Z d b j → StZ g P2 Z2 d b j) (hs : lo ≤ s) (he : e ≤ n) (h : Bld g P Z d s e k f) : Bld g P2 Z2 d s e k f := by
  have h1 := h.in_
  have h2 := h.it (P2 := P2) (fun j a b => by unfold nxt; rw [hr j (by omega) (by omega)])
  obtain ⟨h3, h4⟩ := h
  refine ⟨by rw [h2 k (Nat.le_refl _)]; exact h3, fun i hi => ?_⟩
  rw [h2 i (by omega)]
  obtain ⟨a1, b, a2, a3⟩ := h4 i hi
  obtain ⟨b1, b2, b3⟩ := h1 i hi
  exact ⟨a1, b, a2, hd b _ (by omega) (by omega) a3⟩
end BLD
theorem StZ.mono {g : GG} {P P2 : PG} {Z Z2 : Nat → Option va_E} {lo n : Nat} (hr : ∀ j, lo ≤ j → j < n → pr P2 j = pr P j) (hZ : ∀ a e, Z a = some e → Z2 a = some e) : ∀ d a k, lo ≤ k → nxt P k ≤ n → StZ g P Z d a k → StZ g P2 Z2 d a k
  | 0, _, _, _, _, h => absurd h id
  | d + 1, a, k, hk, hn, h => by
    have hkn := StZ.nx (d + 1) a k h
    have e : pr P2 k = pr P k := hr k hk (by omega)
    rcases h with ⟨x, y, hz, hp⟩ | ⟨arr, m, hb, cap, f, hA, h1, h2, h3, hi⟩
    · exact Or.inl ⟨x, y, by rw [e]; exact hZ _ _ hz, by rw [e]; exact hp⟩
    · have hn2 : nxt P k = pr P k 4 + 1 := by
        unfold nxt
        rw [if_pos hb.b]
      have hB : Bld g P2 Z2 d (k + 1) (pr P k 4) m f := Bld.mono_of hr (fun b j a1 a2 a3 => StZ.mono hr hZ d b j a1 a2 a3) (by omega) (by omega) hi
      refine Or.inr ⟨arr, m, by rw [e]; exact hb.mono hZ, cap, f, hZ _ _ hA, h1, h2, h3, ?_⟩
      rw [e]
      exact hB
theorem Bld.mono {g : GG} {P P2 : PG} {Z Z2 : Nat → Option va_E} {d s e k : Nat} {f : Nat → Option Nat} (hr : ∀ j, s ≤ j → j < e → pr P2 j = pr P j) (hZ : ∀ a e, Z a = some e → Z2 a = some e) (h : Bld g P Z d s e k f) : Bld g P2 Z2 d s e k f :=
  Bld.mono_of hr (fun b j a1 a2 a3 => StZ.mono hr hZ d b j a1 a2 a3) (Nat.le_refl _) (Nat.le_refl _) h
theorem Bld.new {g : GG} {P : PG} {Z : Nat → Option va_E} {d s : Nat} {f : Nat → Option Nat} : Bld g P Z d s s 0 f := ⟨rfl, fun i h => absurd h (Nat.not_lt_zero i)⟩
theorem Bld.snoc {g : GG} {P P2 : PG} {Z Z2 : Nat → Option va_E} {d s e e2 k a : Nat} {f f2 : Nat → Option Nat} (h : Bld g P Z d s e k f) (hr : ∀ j, j < e → pr P2 j = pr P j) (hZ : ∀ a e, Z a = some e → Z2 a = some e) (hf : ∀ i, i < k → f2 i = f i) (ha : f2 k = some a) (hS : StZ g P2 Z2 d a e) (hx : nxt P2 e = e2) : Bld g P2 Z2 d s e2 (k + 1) f2 := by
  have h1 := Bld.mono (P2 := P2) (Z2 := Z2) (fun j _ hj => hr j hj) hZ h
  have hlt := StZ.nx _ _ _ hS
  refine ⟨by rw [itn_s, h1.1]; exact hx, fun i hi => ?_⟩
  by_cases z : i = k
  · subst z
    rw [h1.1]
    exact ⟨by omega, a, ha, hS⟩
  · obtain ⟨a1, b, a2, a3⟩ := h1.2 i (by omega)
    exact ⟨by omega, b, by rw [hf i (by omega)]; exact a2, a3⟩
theorem StZ.o {g : GG} {P : PG} {Z : Nat → Option va_E} {d a k : Nat} (h : StZ g P Z d a k) : StO Z a := by
  cases d with
  | zero => exact absurd h id
  | succ d =>
    rcases h with ⟨x, y, hz, -⟩ | ⟨arr, m, hb, -⟩
    · exact Or.inl ⟨_, hz⟩
    · rcases hb with ⟨-, hz⟩ | ⟨-, x, z, u, v, hz, -⟩
      · exact Or.inr (Or.inl ⟨_, hz⟩)
      · exact Or.inr (Or.inr ⟨_, hz⟩)
theorem Bld.o {g : GG} {P : PG} {Z : Nat → Option va_E} {d s e k : Nat} {f : Nat → Option Nat} (h : Bld g P Z d s e k f) : ∀ i, i < k → ∃ a, f i = some a ∧ StO Z a := fun i hi => by
  obtain ⟨-, b, h1, h2⟩ := h.2 i hi
  exact ⟨b, h1, h2.o⟩
/-- the head of a block says what its row does -/
def BlkR (q : RW4) (ci : Nat) (rest : List Value) : Prop := (ci = 10 ∧ q.1 = 25 ∧ rest = [.int (nI q.2.1)]) ∨ (ci = 11 ∧ (q.1 = 2428 ∨ q.1 = 2415 ∨ q.1 = 2429) ∧ ∃ x z y y2 : Int32, rest = [.int (nI (hW q.1)), .int x, .int z, .int y, .int y2] ∧ (q.1 = 2428 → x = nI q.2.1 ∧ y = nI q.2.2.2 ∧ y2 = nI q.2.2.1) ∧ (q.1 = 2415 → x = nI q.2.1 ∧ z = nI q.2.2.1) ∧ (q.1 = 2429 → z = nI q.2.1))
theorem BlkR.Z {q : RW4} {ci a arr m : Nat} {rest : List Value} {Z : Nat → Option va_E} {r : Nat → Nat} (h : BlkR q ci rest) (hZ : Z a = some (.inr (ci, .ref arr :: .int (nI m) :: rest))) (h0 : r 0 = q.1) (h1 : r 1 = q.2.1) (h2 : r 2 = q.2.2.1) (h5 : r 5 = q.2.2.2) : BlkZ Z a arr m r := by
  rcases h with ⟨rfl, e, rfl⟩ | ⟨rfl, e, x, z, y, y2, rfl, c1, c2, c3⟩
  · exact Or.inl ⟨h0.trans e, by rw [h1]; exact hZ⟩
  · refine Or.inr ⟨by rw [h0]; exact e, x, z, y, y2, by rw [h0]; exact hZ, ?_, ?_, ?_⟩
    · rw [h0, h1, h2, h5]
      exact c1
    · rw [h0, h1, h2]
      exact c2
    · rw [h0, h1]
      exact c3
def RsO (ci : Nat) (rest : List Value) : Prop := (ci = 10 ∧ ∃ x, rest = [x]) ∨ (ci = 11 ∧ ∃ x0 x1 x2 x3 x4, rest = [x0, x1, x2, x3, x4])
theorem BlkR.o {q : RW4} {ci : Nat} {rest : List Value} (h : BlkR q ci rest) : RsO ci rest := by
  rcases h with ⟨e, -, h⟩ | ⟨e, -, x, z, y, y2, h, -⟩
  · exact Or.inl ⟨e, _, h⟩
  · exact Or.inr ⟨e, _, _, _, _, _, h⟩
theorem okU_add : MOkU miX11_add 1 := ⟨⟨rfl, q1005, q157, ⟨by decide +kernel, by decide +kernel, by decide +kernel⟩, by decide⟩, q1001⟩
/-- a step is added, while the reader stands -/
theorem y_add {g : GG} {mt : MT} {kc ks pc u v ci k cap a n : Nat} {L : List (Option Value)} {σ σ0 : PH} {C : CS} {q : RQ} {rest : List Value} {f : Nat → Option Nat} (hu1 : u ≠ 1) (hv1 : v ≠ 1) (huv : u ≠ v) (hr : RsO ci rest) (B : BkL g C u v ci k cap rest f) (hk : k < 30) (hf : ∀ i, i < k → ∃ b, f i = some b ∧ StO (oZ C) b) (hb : StO (oZ C) a) (H : Hold g σ (rdS C n q)) (F : Fr σ0 σ) (dd : decode mt.1.2.1 pc = .ok (.invokevirtual 264, 3)) (ho : mt.1.1 = RX9) (hd : 2 ≤ mt.2.1.1)
    (kk : ∀ (σ : PH) (C2 : CS), R9 C C2 → Lk (fun i => i ≠ 1 ∧ i ≠ u ∧ i ≠ v) C C2 → od C2 8 u = od C 8 u → od C2 8 1 = od C 8 1 → oZ C2 = oZ C → (∃ cap2 f2, BkL g C2 u v ci (k + 1) cap2 rest f2 ∧ (∀ i, i < k → f2 i = f i) ∧ f2 k = some a) → Hold g σ (rdS C2 n q) → Fr σ0 σ → Wp g mt kc ks (pc + 3) L [] σ) : Wp g mt (kc + 1) (ks + 32) pc L [.ref a, .ref (od C 8 u)] σ := by
  have key : ∀ (σ2 : PH) (C2 : CS), R9 (rdS C n q) C2 ∧ Lk (fun i => i ≠ u ∧ i ≠ v) (rdS C n q) C2 ∧ od C2 8 u = od C 8 u ∧ oZ C2 = oZ C ∧ (∃ cap2 f2, BkL g C2 u v ci (k + 1) cap2 rest f2 ∧ (∀ i, i < k → f2 i = f i) ∧ f2 k = some a) → Hold g σ2 C2 → Fr σ σ2 → Wp g mt kc ks (pc + 3) L [] σ2 := by
    rintro σ2 C2 ⟨h1, h2, h3, h4, h5⟩ H2 F2
    have e1 : oM C2 1 = some (.inr (9, rdL C2 n q)) := by
      rw [(h2 1 ⟨fun z => hu1 z.symm, fun z => hv1 z.symm⟩).1]
      show va_up (oM C) 1 _ 1 = _
      rw [va_up_self]
      unfold rdL
      rw [h1.1 0 30 (by decide)]
      rfl
    exact kk σ2 C2 (R9.rd.trans h1) (fun i hi => ⟨((h2 i hi.2).1).trans (rd_ne hi.1), (h2 i hi.2).2⟩) h3 (h2 1 ⟨fun z => hu1 z.symm, fun z => hv1 z.symm⟩).2 h4 h5 (by rw [rd_eta e1]; exact H2) (F.trans F2)
  have B2 : BkL g (rdS C n q) u v ci k cap rest f := B.keep (Lk.rd (S := fun i => i ≠ 1) (fun z => z rfl)) hu1 hv1
  rcases hr with ⟨rfl, x, rfl⟩ | ⟨rfl, x0, x1, x2, x3, x4, rfl⟩
  · exact w_callU (kc := kc) (ks := ks) (rest := []) (As := [.ref a]) (mi := miX11_add) dd (by rw [ho]; exact q1000) q1002 q1003 rfl okU_add clX12 (c_addX12 (C := rdS C n q) B2 huv hk hf hb σ H) (by omega) (H.gm B2.1) rfl rfl (Nat.le_of_ble_eq_true rfl) (by
      rintro w σ2 ⟨rfl, C2, h2, H2, F2⟩
      exact key σ2 C2 h2 H2 F2) (fun _ _ _ hx => absurd hx id)
  · exact w_callU (kc := kc) (ks := ks) (rest := []) (As := [.ref a]) (mi := miX11_add) dd (by rw [ho]; exact q1000) q1002 q1004 rfl okU_add clX13 (c_addX13 (C := rdS C n q) B2 huv hk hf hb σ H) (by omega) (H.gm B2.1) rfl rfl (Nat.le_of_ble_eq_true rfl) (by
      rintro w σ2 ⟨rfl, C2, h2, H2, F2⟩
      exact key σ2 C2 h2 H2 F2) (fun _ _ _ hx => absurd hx id)
/-- loose cells below level w -/
def LoS (w i : Nat) : Prop := (i < 20 ∧ i ≠ 1 ∧ i ≠ 4) ∨ (20 ≤ i ∧ i < 20 + w) ∨ (30 ≤ i ∧ i < 30 + w)
def QSt (g : GG) (C : CS) (X : TX) (D : DS) (w ci k : Nat) (rest : List Value) (f : Nat → Option Nat) (du : Int32) (r : PR (DS × Tk)) : Option Value → CS → Prop := fun w0 C1 => w0 = none ∧ ∃ (C2 : CS) (D2 : DS) (t2 : Tk) (nu2 : Int32) (a cap2 : Nat) (f2 : Nat → Option Nat), r = .ok (D2, t2) ∧ OkT9 X t2 ∧ NuT t2 nu2 ∧ C1 = rdS C2 X.2 (rqT t2 nu2 (nI D2.ct) du) ∧ R9 C C2 ∧ Lk (LoS w) C C2 ∧ od C2 8 1 = od C 8 1 ∧ od C2 8 (20 + w) = od C 8 (20 + w) ∧ BkL g C2 (20 + w) (30 + w) ci (k + 1) cap2 rest f2 ∧ (∀ i, i < k → f2 i = f i) ∧ f2 k = some a ∧ StZ g (pgD D2) (oZ C2) (4 - w) a D.n ∧ nxt (pgD D2) D.n = D2.n
def QBl (g : GG) (C : CS) (X : TX) (D : DS) (w : Nat) (du : Int32) (Hs : HS) (r : PR (DS × Tk)) : Option Value → CS → Prop := fun w0 C1 => ∃ (C2 : CS) (D2 : DS) (t2 : Tk) (nu2 : Int32) (ci k cap : Nat) (rest : List Value) (f : Nat → Option Nat) (q : RW4), w0 = some (.ref (od C2 8 (21 + w))) ∧ r = (wSign X 59 t2 >>= fun t3 => .ok (dAdd D2 26 (26, 0, 0, 0), t3)) ∧ OkT9 X t2 ∧ NuT t2 nu2 ∧ C1 = rdS C2 X.2 (rqT t2 nu2 (nI D2.ct) du) ∧ R9 C C2 ∧ Lk (LoS (w + 1)) C C2 ∧ od C2 8 1 = od C 8 1 ∧ BkL g C2 (21 + w) (31 + w) ci k cap rest f ∧ k ≤ D2.ct ∧ BlkR q ci rest ∧ D2.r D.n = row4 q 0 ∧ (∀ j, j < D.n → D2.r j = D.r j) ∧ D2.op = D.n :: D.op ∧ D.n < D2.n ∧ OkD Hs D2 ∧ Bld g (pgD D2) (oZ C2) (3 - w) (D.n + 1) D2.n k f
def StepC (g : GG) (X : TX) (b : Nat) (Hs : HS) (w d : Nat) : Prop := ∀ (C : CS) (D : DS) (t : Tk) (nu du : Int32) (ci k cap : Nat) (rest : List Value) (f : Nat → Option Nat), oO C 0 = true → TxC C X → OkT9 X t → NuT t nu → BeF g C b Hs → OkD Hs D → D.op.length = w → (kix X t ≠ 26 ∨ D.op = []) → BkL g C (20 + w) (30 + w) ci k cap rest f → RsO ci rest → k ≤ D.ct → (∀ i, i < k → ∃ a, f i = some a ∧ StO (oZ C) a) → Cz g miX9_step d (3 * (ctE (itF X Hs w D t) - D.ct)) (48 * (ctE (itF X Hs w D t) - D.ct)) [.ref (od C 8 1), .ref b, .ref (od C 8 (20 + w)), .int (nI w)] (rdS C X.2 (rqT t nu (nI D.ct) du)) (QSt g C X D w ci k rest f du (itF X Hs w D t)) (EY C (itF X Hs w D t))
def BlockC (g : GG) (X : TX) (b : Nat) (Hs : HS) (w d : Nat) : Prop := ∀ (C : CS) (D : DS) (t : Tk) (nu du : Int32), oO C 0 = true → TxC C X → OkT9 X t → NuT t nu → BeF g C b Hs → OkD Hs D → D.op.length = w → (kix X t = 24 ∨ kix X t = 25) → D.ct ≠ 30 → Cz g miX9_block d (3 * (ctE (itF X Hs w D t) - (D.ct + 1)) + 2) (48 * (ctE (itF X Hs w D t) - (D.ct + 1)) + 11) [.ref (od C 8 1), .ref b, .int (bP (kix X t = 24)), .int (nI w)] (rdS C X.2 (rqT t nu (nI (D.ct + 1)) du)) (QBl g C X D w du Hs (itF X Hs w D t)) (EY C (itF X Hs w D t))
theorem ctE_gt {X : TX} {H : HS} {D : DS} {t : Tk} {w : Nat} (OH : OkH H) (O : OkD H D) (h : OkT9 X t) (hw : D.op.length = w) (h26 : kix X t ≠ 26 ∨ D.op = []) (hc : D.ct ≠ 30) : D.ct + 1 ≤ ctE (itF X H w D t) := by
  subst hw
  have hc2 := O.2.1
  cases e : itF X H D.op.length D t with
  | error f =>
    show D.ct + 1 ≤ 30
    omega
  | ok p => exact (itF_st OH O h h26 e).2.2.2.1
