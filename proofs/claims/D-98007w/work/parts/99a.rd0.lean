/-! THE READER: its state, rows, contracts that may throw -/
set_option maxRecDepth 100000
/-- a reader's numbers: at, behind, sort, number, steps, hasDuel -/
abbrev RQ : Type := Int32 × Int32 × Int32 × Int32 × Int32 × Int32
def rdL (C : CS) (n : Nat) (q : RQ) : List Value := [.int (nI n), .int q.1, .int q.2.1, .int q.2.2.1, .int q.2.2.2.1, .int q.2.2.2.2.1, .int q.2.2.2.2.2, .ref (od C 0 30)]
/-- the state with a reader (loose cell 1) -/
def rdS (C : CS) (n : Nat) (q : RQ) : CS := uM C 1 (some (.inr (9, rdL C n q)))
theorem ce_rd {g : GG} {C : CS} {n : Nat} {q : RQ} : ceC g (rdS C n q) 8 1 = some (.inr (9, rdL C n q)) := by
  show va_up (oM C) 1 _ 1 = _
  exact va_up_self _ _ _
theorem rd_od (C : CS) (n : Nat) (q : RQ) : od (rdS C n q) = od C := rfl
theorem rdS_2 (C : CS) (n : Nat) (q q2 : RQ) : rdS (rdS C n q) n q2 = rdS C n q2 := by
  unfold rdS uM rdL
  congr 10
  funext k
  show va_up (va_up (oM C) 1 _) 1 _ k = va_up (oM C) 1 _ k
  unfold va_up
  split <;> rfl
section RROWS
variable {g : GG} {mt : MT} {kc ks pc : Nat} {L : List (Option Value)} {st rest : List Value} {σ σ0 : PH} {C : CS} {n : Nat} {q : RQ}
theorem rd_get {f index : Nat} {v : Value} (d : decode mt.1.2.1 pc = .ok (.getfield index, 3)) (hf : f < 8) (ql : Cond.fieldLink mt.1.1 index (TX9 f).1 (TX9 f).2.1 (TX9 f).2.2.1 ∈ lw_all) (H : Hold g σ (rdS C n q)) (hv : (rdL C n q)[f]? = some v) (kk : Wp g mt kc ks (pc + 3) L (v :: st) σ) : Wp g mt kc ks pc L (.ref (od C 8 1) :: st) σ :=
  w_getf (k := f) d clX9 hf ql (H.get ce_rd) hv kk
theorem rd_put {f index : Nat} {v : Int32} (q2 : RQ) (d : decode mt.1.2.1 pc = .ok (.putfield index, 3)) (hf : f < 8) (ql : Cond.fieldLink mt.1.1 index (TX9 f).1 (TX9 f).2.1 (TX9 f).2.2.1 ∈ lw_all) (hfin : (TX9 f).2.2.2 = false) (hn : narrow (tyX9 f) (.int v) = .int v) (hfit : fits (tyX9 f) (.int v) = true) (H : Hold g σ (rdS C n q)) (F : Fr σ0 σ) (hs : (rdL C n q).set f (.int v) = rdL C n q2) (kk : ∀ σ2, Hold g σ2 (rdS C n q2) → Fr σ0 σ2 → Wp g mt kc ks (pc + 3) L st σ2) : Wp g mt kc ks pc L (.int v :: .ref (od C 8 1) :: st) σ := by
  refine w_putf d clX9 hf ql hfin (H.get ce_rd) hn hfit (by show f < 8; exact hf) ?_
  rw [hs]
  refine kk _ ?_ (F.hup (by show 8 < 20; decide) (H.get ce_rd))
  exact H.set (k := 8) (j := 1) (C2 := rdS C n q2) ce_rd (by decide) rfl rfl ce_rd (fun a b h => (ot_M a b h).trans (ot_M a b h).symm)
theorem rd_22 (d : decode mt.1.2.1 pc = .ok (.getfield 22, 3)) (ho : mt.1.1 = RX9) (hx : oO C 0 = true) (H : Hold g σ (rdS C n q)) (kk : Wp g mt kc ks (pc + 3) L (.ref (od C 0 1) :: st) σ) : Wp g mt kc ks pc L (.ref (od C 0 30) :: st) σ := gX9_22 (C := rdS C n q) d ho hx H kk
theorem rd_55 (d : decode mt.1.2.1 pc = .ok (.getfield 55, 3)) (ho : mt.1.1 = RX9) (hx : oO C 0 = true) (H : Hold g σ (rdS C n q)) (kk : Wp g mt kc ks (pc + 3) L (.ref (od C 0 5) :: st) σ) : Wp g mt kc ks pc L (.ref (od C 0 30) :: st) σ := gX9_55 (C := rdS C n q) d ho hx H kk
theorem rd_tape {k : Nat} (d : decode mt.1.2.1 pc = .ok (.baload, 1)) (hx : oO C 0 = true) (hk : k < 900) (H : Hold g σ (rdS C n q)) (kk : Wp g mt kc ks (pc + 1) L (.int (oA C 0 1 k) :: st) σ) : Wp g mt kc ks pc L (.int (nI k) :: .ref (od C 0 1) :: st) σ :=
  w_baldN d (H.get (ce_tape (C := rdS C n q) hx)) hk (by omega) kk
end RROWS
/-! texts on the component's tape -/
def TxC (C : CS) (X : TX) : Prop := X.2 ≤ 900 ∧ ∀ k, k < X.2 → oA C 0 1 k = b8 (X.1 k) ∧ X.1 k < 256
/-- the component's sorts of tokens -/
def so2 (s : Nat) : Nat := if s = 0 then 0 else if s = 1 then 4 else s - 1
/-- a reader at token t; its number is only known if t is one -/
def rqT (t : Tk) (nu st du : Int32) : RQ := (nI t.fr, nI t.to, nI (so2 t.so), nu, st, du)
def NuT (t : Tk) (nu : Int32) : Prop := t.so = 3 → nu = nI t.va
theorem b8_lt : ∀ c, c < 256 → ∀ m, m = 97 ∨ m = 122 ∨ m = 48 ∨ m = 57 → (b8 c < nI m ↔ (c < m ∨ 128 ≤ c)) ∧ (nI m < b8 c ↔ (m < c ∧ c < 128)) := by
  have h : ∀ c, c < 256 → (b8 c < nI 97 ↔ (c < 97 ∨ 128 ≤ c)) ∧ (nI 97 < b8 c ↔ (97 < c ∧ c < 128)) ∧ (b8 c < nI 122 ↔ (c < 122 ∨ 128 ≤ c)) ∧ (nI 122 < b8 c ↔ (122 < c ∧ c < 128)) ∧ (b8 c < nI 48 ↔ (c < 48 ∨ 128 ≤ c)) ∧ (nI 48 < b8 c ↔ (48 < c ∧ c < 128)) ∧ (b8 c < nI 57 ↔ (c < 57 ∨ 128 ≤ c)) ∧ (nI 57 < b8 c ↔ (57 < c ∧ c < 128)) := by decide +kernel
  intro c hc m hm
  obtain ⟨a1, a2, a3, a4, a5, a6, a7, a8⟩ := h c hc
  rcases hm with rfl | rfl | rfl | rfl
  · exact ⟨a1, a2⟩
  · exact ⟨a3, a4⟩
  · exact ⟨a5, a6⟩
  · exact ⟨a7, a8⟩
theorem b8_n : ∀ c, c < 128 → b8 c = nI c := by decide +kernel
theorem b8_eq {c m : Nat} (hc : c < 256) (hm : m < 128) : b8 c = nI m ↔ c = m := by
  constructor
  · intro h
    have e := b8_and hc
    rw [h, and255 m hm] at e
    exact ((nI_eq (by omega) (by omega)).mp e).symm
  · rintro rfl
    exact b8_n _ hm
/-! contracts that may throw Bad -/
/-- but loose cells and the fault in Bad nothing changes -/
def RFr (C C2 : CS) : Prop := (∀ k j, k ≠ 8 → od C2 k j = od C k j) ∧ (∀ k j f, (k = 0 → j = 5 → False) → oI C2 k j f = oI C k j f) ∧ oA C2 = oA C ∧ oN C2 = oN C ∧ oL C2 = oL C ∧ oB C2 = oB C ∧ oP C2 = oP C ∧ oO C2 = oO C ∧ oT C2 = oT C ∧ oZ C2 = oZ C
theorem RFr.refl (C : CS) : RFr C C := ⟨fun _ _ _ => rfl, fun _ _ _ _ => rfl, rfl, rfl, rfl, rfl, rfl, rfl, rfl, rfl⟩
theorem RFr.trans {C C2 C3 : CS} (h : RFr C C2) (h2 : RFr C2 C3) : RFr C C3 := ⟨fun k j hk => (h2.1 k j hk).trans (h.1 k j hk), fun k j f hk => (h2.2.1 k j f hk).trans (h.2.1 k j f hk), h2.2.2.1.trans h.2.2.1, h2.2.2.2.1.trans h.2.2.2.1, h2.2.2.2.2.1.trans h.2.2.2.2.1, h2.2.2.2.2.2.1.trans h.2.2.2.2.2.1, h2.2.2.2.2.2.2.1.trans h.2.2.2.2.2.2.1, h2.2.2.2.2.2.2.2.1.trans h.2.2.2.2.2.2.2.1, h2.2.2.2.2.2.2.2.2.1.trans h.2.2.2.2.2.2.2.2.1, h2.2.2.2.2.2.2.2.2.2.trans h.2.2.2.2.2.2.2.2.2⟩
theorem RFr.M (C : CS) (i : Nat) (v : Option va_E) : RFr C (uM C i v) := ⟨fun _ _ _ => rfl, fun _ _ _ _ => rfl, rfl, rfl, rfl, rfl, rfl, rfl, rfl, rfl⟩
theorem RFr.I (C : CS) (f : Nat) (v : Int32) : RFr C (uI C 0 5 f v) := ⟨fun _ _ _ => rfl, fun k j f2 h => oI_ne C v (fun a b _ => h a b), rfl, rfl, rfl, rfl, rfl, rfl, rfl, rfl⟩
theorem RFr.rd (C : CS) (n : Nat) (q : RQ) : RFr C (rdS C n q) := RFr.M C 1 _
/-- thrown: the fault stands in Bad -/
def Bd (C : CS) (f : Nat × Nat) (C2 : CS) : Prop := RFr C C2 ∧ oI C2 0 5 6 = nI f.1 ∧ oI C2 0 5 7 = nI f.2
theorem Bd.of {C C1 C2 : CS} {f : Nat × Nat} (h : RFr C C1) (h2 : Bd C1 f C2) : Bd C f C2 := ⟨h.trans h2.1, h2.2⟩
def Cz (g : GG) (mi : MI) (d mc ms : Nat) (args : List Value) (C : CS) (Q : Option Value → CS → Prop) (E : CS → Prop) : Prop := ∀ σ : PH, Hold g σ C → Ct g mi d mc ms args σ (fun w σ2 => ∃ C2, Q w C2 ∧ Hold g σ2 C2 ∧ Fr σ σ2) (fun q E9 σ2 => q = od C 0 5 ∧ E9 = RX2 ∧ ∃ C2, E C2 ∧ Hold g σ2 C2 ∧ Fr σ σ2)
def mtX (g : GG) (mi : MI) (d mc ms : Nat) (σ0 : PH) (C : CS) (Q : Option Value → CS → Prop) (E : CS → Prop) : MT := mtOf g mi d mc ms (fun w σ2 => ∃ C2, Q w C2 ∧ Hold g σ2 C2 ∧ Fr σ0 σ2) (fun q E9 σ2 => q = od C 0 5 ∧ E9 = RX2 ∧ ∃ C2, E C2 ∧ Hold g σ2 C2 ∧ Fr σ0 σ2)
section CX
variable {g : GG} {mt : MT} {mi mi2 : MI} {d mc ms d2 mc2 ms2 kc ks pc n : Nat} {args As rest stk st : List Value} {L : List (Option Value)} {C C1 : CS} {Q Q2 : Option Value → CS → Prop} {E E2 : CS → Prop} {σ σ0 : PH}
theorem Cz.start (LL : List (Option Value)) (hy : plainName mi.1.cls = true) (hh : mi.2.2.2.2 = []) (hn : (lg_sl args).length ≤ mi.2.2.1) (hL : asL 0 LL = lv_args 0 args) (k : ∀ σ0 σ : PH, Hold g σ C → Fr σ0 σ → Wp g (mtX g mi d mc ms σ0 C Q E) mc ms 0 LL [] σ) : Cz g mi d mc ms args C Q E :=
  fun σ H => Ct.start LL hy hh hn hL fun _ => k σ σ H Fr.refl
/-- a call of a method that may throw, in one that has no handlers -/
theorem cx_call {b ci N index : Nat} {Cn : String} {T : u_T} {ty : Nat → FieldType} {t : Tg} {fs : List Value} (dd : decode mi.2.1 pc = .ok (.invokevirtual index, 3)) (q : Cond.methodLink mi.1.cls index mi2.1 ∈ lw_all) (ok : MOkV mi2 n) (hC : ClOk ci Cn T N ty) (hcls : mi2.1.cls = Cn) (hb : σ.2 b = some (t, .inr (ci, fs))) (hd : d2 + 1 ≤ d) (hM : Cz g mi2 d2 mc2 ms2 (.ref b :: As) C1 Q2 E2) (hh : mi.2.2.2.2 = []) (H : Hold g σ C1) (F : Fr σ0 σ) (hR : RFr C C1) (hE : ∀ C2, E2 C2 → E C2) (hn : As.length = n) (hst : stk = As.reverse ++ .ref b :: rest) (hcat : (rest.map fun v => v.category).sum ≤ 8)
    (kk : ∀ (v : Option Value) (σ : PH) (C2 : CS), Q2 v C2 → Hold g σ C2 → Fr σ0 σ → Wp g (mtX g mi d mc ms σ0 C Q E) kc ks (pc + 3) L (v.toList ++ rest) σ) : Wp g (mtX g mi d mc ms σ0 C Q E) (kc + mc2) (ks + ms2) pc L stk σ :=
  w_callV dd q ok hC hcls (hM σ H) hd hb hn hst hcat (fun w σ2 hw => by obtain ⟨C2, h2, h3, h4⟩ := hw; exact kk w σ2 C2 h2 h3 (F.trans h4)) (fun q9 E9 σ2 hx => by
    obtain ⟨h1, h2, C2, h3, h4, h5⟩ := hx
    exact t_out hh ⟨h1.trans (hR.1 0 5 (by decide)), h2, C2, hE C2 h3, h4, F.trans h5⟩)
/-- Bad is thrown -/
theorem cx_throw (dd : decode mi.2.1 pc = .ok (.athrow, 1)) (hh : mi.2.2.2.2 = []) (hx : oO C 0 = true) (H : Hold g σ C1) (F : Fr σ0 σ) (hR : RFr C C1) (hE : E C1) : Wp g (mtX g mi d mc ms σ0 C Q E) kc ks pc L (.ref (od C 0 5) :: rest) σ := by
  rw [← hR.1 0 5 (by decide)]
  exact w_athrow (q := od C1 0 5) (rest := rest) dd clX2 (H.get (ce_bad (show oO C1 0 = true by rw [hR.2.2.2.2.2.2.2.1]; exact hx))) (t_out hh ⟨hR.1 0 5 (by decide), rfl, C1, hE, H, F⟩)
end CX
theorem so2_le {s : Nat} (h : s ≤ 4) : so2 s ≤ 4 := by
  unfold so2
  split
  · omega
  · split <;> omega
theorem so2_i {s m : Nat} (h : s ≤ 4) (hm : 1 ≤ m) (hm2 : m ≤ 3) : so2 s = m ↔ s = m + 1 := by
  unfold so2
  split
  · omega
  · split <;> omega
theorem so2_0 {s : Nat} (h : s ≤ 4) : so2 s = 0 ↔ s = 0 := by
  unfold so2
  split
  · omega
  · split <;> omega
theorem so2_4 {s : Nat} (h : s ≤ 4) : so2 s = 4 ↔ s = 1 := by
  unfold so2
  split
  · omega
  · split <;> omega
