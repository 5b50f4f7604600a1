/-! X.live: a run by the program that stands (printed by gen/live.py) -/
set_option maxRecDepth 100000
/-- the object at pa holds the program's steps -/
def DaysZ (g : GG) (Z : Nat → Option va_E) (P : PG) (pa : Nat) : Prop := ∃ arr m, Z pa = some (.inr (10, [.ref arr, .int (nI m), .int (nI 1)])) ∧ StsZ g P Z (StZ g P Z 4) arr m 0 (pn P - 1) ∧ Sq P (Stq P 4) 61 0 (pn P - 1)
/-- nothing but day j, loose cells, and of X's parts the counts, whether it has lived and the status, has changed -/
def LiR (j : Nat) (C C2 : CS) : Prop :=
  (∀ k a, ¬ ((k = 6 ∨ k = 7) ∧ a / 8 = j) → k ≠ 8 → od C2 k a = od C k a) ∧ (∀ k a f, ¬ (k = 5 ∧ a / 8 = j) → ¬ (k = 3 ∧ a = j) → ¬ (k = 0 ∧ a = 30 ∧ (f = 7 ∨ f = 22)) → oI C2 k a f = oI C k a f) ∧ (∀ k a, ¬ ((k = 6 ∨ k = 7) ∧ a / 8 = j) → ¬ (11 ≤ k ∧ k ≤ 14 ∧ a = j) → ¬ (k = 0 ∧ a = 21) → oA C2 k a = oA C k a) ∧ (∀ k a, ¬ ((k = 6 ∨ k = 7) ∧ a / 8 = j) → oN C2 k a = oN C k a) ∧
  oL C2 = oL C ∧ (∀ a, a ≠ j → oB C2 a = oB C a) ∧ oP C2 = oP C ∧ oO C2 = oO C ∧ oT C2 = oT C ∧ oZ C2 = oZ C
section LIR
variable {g : GG} {j la da : Nat} {C C2 C3 : CS} {s : XS}
theorem LiR.refl : LiR j C C := ⟨fun _ _ _ _ => rfl, fun _ _ _ _ _ _ => rfl, fun _ _ _ _ _ => rfl, fun _ _ _ => rfl, rfl, fun _ _ => rfl, rfl, rfl, rfl, rfl⟩
theorem LiR.trans (h : LiR j C C2) (k : LiR j C2 C3) : LiR j C C3 := by
  obtain ⟨a1, a2, a3, a4, a5, a6, a7, a8, a9, a10⟩ := h
  obtain ⟨b1, b2, b3, b4, b5, b6, b7, b8, b9, b10⟩ := k
  exact ⟨fun x y u v => (b1 x y u v).trans (a1 x y u v), fun x y z u v w => (b2 x y z u v w).trans (a2 x y z u v w), fun x y u v w => (b3 x y u v w).trans (a3 x y u v w), fun x y u => (b4 x y u).trans (a4 x y u), b5.trans a5, fun x u => (b6 x u).trans (a6 x u), b7.trans a7, b8.trans a8, b9.trans a9, b10.trans a10⟩
theorem LiR.x30 (h : LiR j C C2) : od C2 0 30 = od C 0 30 := h.1 0 30 (by omega) (by omega)
theorem SL.R (h : SL j C C2) : LiR j C C2 := by
  obtain ⟨⟨a1, a2, a3, a4, a5, a6, a7, a8, a9, a10, a11⟩, -⟩ := h
  exact ⟨fun k a u v => a1 k a u (fun z => v z.1), fun k a f u v _ => congrFun (a2 k a u v) f, fun k a u v _ => a3 k a u v, fun k a u => a4 k a u, a5, a6, a7, a8, a9, a11⟩
theorem SD.R (h : SD j C C2) : LiR j C C2 := SL.R (SD.L h)
theorem LiR.I {f : Nat} {v : Int32} (hf : f = 7 ∨ f = 22) : LiR j C (uI C 0 30 f v) := ⟨fun _ _ _ _ => rfl, fun k a i _ _ h => oI_ne C v (fun x y z => h ⟨x, y, by omega⟩), fun _ _ _ _ _ => rfl, fun _ _ _ => rfl, rfl, fun _ _ => rfl, rfl, rfl, rfl, rfl⟩
theorem LiR.A {i : Nat} {v : Int32} : LiR j C (uA C 0 21 i v) := ⟨fun _ _ _ _ => rfl, fun _ _ _ _ _ _ => rfl, fun k a _ _ h => oA_ne2 C v (fun x y => h ⟨x, y⟩), fun _ _ _ => rfl, rfl, fun _ _ => rfl, rfl, rfl, rfl, rfl⟩
theorem LiR.M {m : Nat → Option va_E} : LiR j C (sM8 C m) := ⟨fun _ _ _ _ => rfl, fun _ _ _ _ _ _ => rfl, fun _ _ _ _ _ => rfl, fun _ _ _ => rfl, rfl, fun _ _ => rfl, rfl, rfl, rfl, rfl⟩
/-- loose cells are forgotten -/
theorem Hold.less {σ : PH} {m : Nat → Option va_E} (H : Hold g σ C) (hm : ∀ i e, m i = some e → oM C i = some e) : Hold g σ (sM8 C m) := by
  refine ⟨H.1, fun k i e h => ?_, H.2.2⟩
  by_cases h8 : k = 8
  · subst h8
    exact H.2.1 8 i e (hm i e h)
  · have h9 := ce_all (g := g) (C := C) (C2 := sM8 C m) (P := fun a _ => a ≠ 8) (fun _ _ => rfl) (fun _ _ => rfl) (fun _ _ => rfl) (fun _ _ => rfl) (fun _ _ => rfl) (fun _ _ => rfl) (fun _ _ => rfl) (fun _ _ => rfl) (fun _ h => absurd rfl h) (fun _ _ => rfl) (fun _ _ => rfl) (fun _ _ => rfl) (fun _ _ => rfl) (fun _ _ => rfl) k i h8
    exact H.2.1 k i e (h9.symm.trans h)
theorem EncD.less {V : VS} {q : Nat → Nat} {m : Nat → Option va_E} (E : EncD g C j V q) : EncD g (sM8 C m) j V q := E.eq rfl rfl rfl (fun _ _ _ => rfl) (fun _ _ => rfl) (fun _ _ _ _ => ⟨rfl, rfl⟩)
theorem LvOk.a21 {i : Nat} {v : Int32} (B : LvOk g C j la da s) : LvOk g (uA C 0 21 i v) j la da s := by
  obtain ⟨b1, b2, b3, b4, b5, b6⟩ := B
  exact ⟨b1, b2, b3, b4, b5, b6.eq rfl rfl rfl (fun k h1 h2 => oA_ne2 C v (fun x _ => by omega)) (fun _ _ => rfl) (fun k d hk _ => ⟨oA_ne2 C v (fun x _ => by omega), rfl⟩)⟩
theorem LvOk.i22 {f : Nat} {v : Int32} (B : LvOk g C j la da s) : LvOk g (uI C 0 30 f v) j la da s := by
  obtain ⟨b1, b2, b3, b4, b5, b6⟩ := B
  exact ⟨b1, b2, b3, b4, b5, b6.eq rfl rfl (oI_ne2 C v (fun x _ => by omega)) (fun _ _ _ => rfl) (fun _ _ => oI_ne2 C v (fun x _ => by omega)) (fun _ _ _ _ => ⟨rfl, rfl⟩)⟩
theorem rw_hup {σ : PH} {a : Nat} {t : Tg} {e : va_E} (w : wf9 σ) : rw_ σ a t e [] = hup σ a t e := by
  refine Prod.ext rfl (funext fun q => ?_)
  show (if q = a then some (t, e) else if q < σ.1 then σ.2 q else ([] : List (Tg × va_E))[q - σ.1]?) = if q = a then some (t, e) else σ.2 q
  split
  · rfl
  · split
    · rfl
    · rw [w q (by omega)]
      rfl
end LIR
/-- whether it was left off is told by 0, 1 -/
theorem c4_all {P : PG} {G : Nat → XS → XS} (hG : ∀ k (s : XS), cnt s.R 4 ≤ 1 → cnt (G k s).R 4 ≤ 1) : ∀ f k e (s : XS), cnt s.R 4 ≤ 1 → cnt (allX P G f k e s).R 4 ≤ 1
  | 0, _, _, _, h => h
  | f + 1, k, e, s, h => by
    rw [allX]
    split
    · exact h
    · exact c4_all hG f _ _ _ (hG k s h)
theorem c4_rep {F : XS → XS} (hF : ∀ (s : XS), cnt s.R 4 ≤ 1 → cnt (F s).R 4 ≤ 1) : ∀ t (s : XS), cnt s.R 4 ≤ 1 → cnt (repX F t s).R 4 ≤ 1
  | 0, _, h => h
  | t + 1, s, h => by
    rw [repX]
    split
    · exact h
    · exact c4_rep hF t _ (hF s h)
theorem cnt_up {R : RS} {i x : Nat} (h : i ≠ 4) : cnt (upC R i x) 4 = cnt R 4 := va_up_ne _ _ (fun z => h z.symm)
theorem gc4 (R : RS) (s : Nat) : cnt (gcV R s) 4 = cnt R 4 := by
  have key : ∀ (c1 c2 : Prop) [Decidable c1] [Decidable c2] (V : VS) (x y : Nat), cnt (if c1 then ((R.1, x, R.2.2) : RS) else if c2 then upC (V, y, R.2.2) 1 1 else (R.1, y, R.2.2)) 4 = cnt R 4 := by
    intro c1 c2 _ _ V x y
    by_cases h1 : c1
    · rw [if_pos h1]
      rfl
    · rw [if_neg h1]
      by_cases h2 : c2
      · rw [if_pos h2]
        exact cnt_up (by decide)
      · rw [if_neg h2]
        rfl
  exact key _ _ _ _ _
theorem c4_do (R : RS) (r : Nat → Nat) : cnt (doD R r) 4 = cnt R 4 := by
  unfold doD
  split
  · rfl
  · split
    · rfl
    · split
      · split <;> rfl
      · split
        · split <;> rfl
        · split
          · exact gc4 _ _
          · split
            · exact cnt_up (by decide)
            · split
              · split
                · rfl
                · exact cnt_up (by decide)
              · rfl
theorem c4_go (P : PG) : ∀ d k (s : XS), cnt s.R 4 ≤ 1 → cnt (goX P d k s).R 4 ≤ 1
  | 0, _, _, h => h
  | d + 1, k, s, h => by
    have ha := c4_all (P := P) (c4_go P d)
    rw [goX]
    split
    · show va_up s.R.2.2 4 1 4 ≤ 1
      rw [va_up_self]
      exact Nat.le_refl _
    · split
      · exact h
      · split
        · exact c4_rep (fun s hs => ha 61 (k + 1) (pr P k 4) s hs) (pr P k 1) (s.R, s.q, s.n + 1, s.o) h
        · split
          · split
            · exact h
            · exact ha 61 (k + 1) (pr P k 4) (s.R, s.q, s.n + 1, s.o) h
          · show cnt (upC (doD s.R (pr P k)) 0 (fD s.R.1 (pr P k))) 4 ≤ 1
            rw [cnt_up (by decide), c4_do]
            exact h
theorem okR_new {V : VS} {seed : Nat} (K : OkV V) (hk : KepV V) (h : seed < 65536) : OkR V (V, seed, fun _ => 0) := ⟨K, hk, h, rfl, rfl, rfl⟩
theorem pq_le (q : Nat → Nat) (h : ∀ d, d < 8 → 4 ≤ q d) : pq q ≤ 480 := by
  have h1 := sumB_le (f := fun d => 64 - q d) (m := 60) 8 (fun k hk => by have := h k hk; omega)
  unfold pq
  omega
/-- a run on day j by the program at pa: the Living is new -/
def RunC (g : GG) (P : PG) (V : VS) (seed : Nat) (q : Nat → Nat) : XS := allX P (goX P 4) 61 0 (pn P - 1) ((V, seed, fun _ => 0), q, 0, 0)
def NewL (j : Nat) (C C2 : CS) (la : Nat) : Prop := od C2 8 3 = la ∧ oM C2 3 = some (.inr (13, [.null, .int 0, .int 0, .int 0, .int 0, .int 0, .int 0, .int 0, .int 0])) ∧ LiR j C C2 ∧ (∀ i, i ≠ 3 → oM C2 i = oM C i) ∧ oI C2 = oI C ∧ oA C2 = oA C
theorem NewL.mk {j la : Nat} {C : CS} : NewL j C (nwC C 3 la (.inr (13, [.null, .int 0, .int 0, .int 0, .int 0, .int 0, .int 0, .int 0, .int 0]))) la := ⟨nw_od, oM_eq, ⟨fun k a _ h => nw_ne (fun x _ => h x), fun _ _ _ _ _ _ => rfl, fun _ _ _ _ _ => rfl, fun _ _ _ => rfl, rfl, fun _ _ => rfl, rfl, rfl, rfl, rfl⟩, fun i hi => oM_ne hi, rfl, rfl⟩
theorem run_new {g : GG} {mt : MT} {kc ks pc j : Nat} {L : List (Option Value)} {st : List Value} {σ σ0 : PH} {C : CS} {V : VS} {q : Nat → Nat} (E : EncD g C j V q) (H : Hold g σ C) (F : Fr σ0 σ) (d : decode mt.1.2.1 pc = .ok (.new 436, 3)) (ho : mt.1.1 = RX0) (kk : ∀ (σ : PH) (C2 : CS) (la : Nat), EncD g C2 j V q → NewL j C C2 la → Hold g σ C2 → Fr σ0 σ → Wp g mt kc ks (pc + 3) L (.ref la :: st) σ) : Wp g mt (kc + 1) (ks + 9) pc L st σ := by
  refine w_new (kc := kc) (ks := ks) [.null, .int 0, .int 0, .int 0, .int 0, .int 0, .int 0, .int 0, .int 0] (8, 3) d clX15 (by rw [ho]; exact q1414) q1415 q163 dfX15 ?_
  exact kk _ (nwC C 3 σ.1 (.inr (13, [.null, .int 0, .int 0, .int 0, .int 0, .int 0, .int 0, .int 0, .int 0]))) σ.1 (E.eq rfl rfl rfl (fun _ _ _ => rfl) (fun _ _ => rfl) (fun _ _ _ _ => ⟨rfl, rfl⟩)) NewL.mk (H.nw 3 _) (F.hnew H.1)
theorem ce8M {g : GG} {C : CS} {i : Nat} {v : Option va_E} : ceC g (uM C i v) 8 i = v := oM_eq (C := C)
theorem run_init {g : GG} {mt : MT} {kc ks pc j la da seed : Nat} {L : List (Option Value)} {st : List Value} {σ σ0 : PH} {C C2 : CS} {V : VS} {q : Nat → Nat} (hj : oO C j = true) (hda : od C2 3 j = da) (hl : oM C 90 = none) (N : NewL j C C2 la) (E : EncD g C2 j V q) (H : Hold g σ C2) (F : Fr σ0 σ) (d : decode mt.1.2.1 pc = .ok (.invokespecial 438, 3)) (ho : mt.1.1 = RX0) (hd : 3 ≤ mt.2.1.1) (hcat : (st.map fun v => v.category).sum ≤ 8) (kk : ∀ (σ : PH) (C3 : CS), LvOk g C3 j la da ((V, seed, fun _ => 0), q, 0, 0) → LiR j C C3 → (∀ i, i ≠ 3 → oM C3 i = oM C i) → oI C3 = oI C → oA C3 = oA C → Hold g σ C3 → Fr σ0 σ → Wp g mt kc ks (pc + 3) L st σ) : Wp g mt kc ks pc L (.int (nI seed) :: .ref da :: .ref la :: st) σ := by
  obtain ⟨n1, n2, n3, n4, n5, n6⟩ := N
  have hc : ceC g C2 8 3 = some (.inr (13, [.null, .int 0, .int 0, .int 0, .int 0, .int 0, .int 0, .int 0, .int 0])) := n2
  have h1 := H.get hc
  rw [n1] at h1
  have h2 := H.set (k := 8) (j := 3) (C2 := uM C2 3 (some (.inr (13, lvL da ((V, seed, fun _ => 0), q, 0, 0))))) (e2 := .inr (13, lvL da ((V, seed, fun _ => 0), q, 0, 0))) hc (by decide) rfl rfl ce8M (fun a b h => ot_M a b h)
  rw [n1] at h2
  have h9 : oM C2 90 = none := (n4 90 (by decide)).trans hl
  refine w_callI (kc := kc) (ks := ks) (mc2 := 0) (ms2 := 0) (mi := miX15_init) (As := [.ref da, .int (nI seed)]) (rest := st) d (by rw [ho]; exact q1416) okX15_init (iX15_init (b := da) (x := nI seed) σ la (8, 3) H.1 h1) (by omega) rfl rfl hcat ?_ (fun _ _ _ hx => absurd hx id)
  rintro v σ2 ⟨rfl, rfl⟩
  rw [rw_hup H.1]
  refine kk _ (uM C2 3 (some (.inr (13, lvL da ((V, seed, fun _ => 0), q, 0, 0))))) ⟨?_, hda, n1, oM_eq, (oM_ne (by decide)).trans h9, E.eq rfl rfl rfl (fun _ _ _ => rfl) (fun _ _ => rfl) (fun _ _ _ _ => ⟨rfl, rfl⟩)⟩ ?_ (fun i hi => (oM_ne hi).trans (n4 i hi)) n5 n6 h2 (F.hup (by show 8 < 20; decide) h1)
  · show oO C2 j = true
    rw [n3.2.2.2.2.2.2.2.1]
    exact hj
  · exact n3.trans (SL.R (SL.put _))
/-- the program is run: a bound for its cost that doesn't speak of the run -/
theorem run_all {g : GG} {mt : MT} {kc ks pc j la da pa seed : Nat} {L : List (Option Value)} {st : List Value} {σ σ0 : PH} {C : CS} {V : VS} {P : PG} {q : Nat → Nat} (B : LvOk g C j la da ((V, seed, fun _ => 0), q, 0, 0)) (K : OkV V) (hk : KepV V) (O : OkP (vs V 0) (vs V 1) (vs V 2) P) (hs : seed < 65536) (hD : DaysZ g (oZ C) P pa) (H : Hold g σ C) (F : Fr σ0 σ) (d : decode mt.1.2.1 pc = .ok (.invokevirtual 441, 3)) (ho : mt.1.1 = RX0) (hd : 34 ≤ mt.2.1.1) (hcat : (st.map fun v => v.category).sum ≤ 8) (kk : ∀ (σ : PH) (C3 : CS), LvOk g C3 j la da (RunC g P V seed q) → SL j C C3 → Hold g σ C3 → Fr σ0 σ → Wp g mt kc ks (pc + 3) L st σ) : Wp g mt (kc + 240) (ks + 1920) pc L (.ref la :: .ref pa :: st) σ := by
  obtain ⟨arr, m, hz, hS, hQ⟩ := hD
  have hM := go_all (g := g) O 4 C j la da pa arr m 0 (pn P - 1) ((V, seed, fun _ => 0), q, 0, 0) B (okR_new K hk hs) (Nat.zero_le _) rfl (Or.inl ⟨_, hz⟩) hS hQ σ H
  have h4 := pq_le q (fun d hd => (B.E.h hd).cap.2.2)
  refine w_bud (kc2 := kc + costC q (RunC g P V seed q).q) (ks2 := ks + costS q (RunC g P V seed q).q) (by unfold costC; omega) (by unfold costS; omega) ?_
  refine w_callU (mi := miX11_all) (x := ⟨"LastPebble$Loop", "all", "(LLastPebble$Living;)V"⟩) (owner := "LastPebble$Block") (As := [.ref la]) (rest := st) d (by rw [ho]; exact q1459) q1460 q1462 rfl okU_all clX12 hM (by omega) (H.z hz) rfl rfl hcat ?_ (fun _ _ _ hx => absurd hx id)
  rintro v σ2 ⟨rfl, C3, ⟨B3, S3⟩, H3, F3⟩
  exact kk σ2 C3 B3 S3 H3 (F.trans F3)
def LiX (g : GG) (C C2 : CS) (x : RS × (Nat → Nat) × Nat) : Prop := (∃ q2, EncD g C2 0 x.1.1 q2) ∧ (∀ i, i < 5 → oA C2 0 21 i = nI (cnt x.1 i)) ∧ oI C2 0 30 22 = nI 1 ∧ oI C2 0 30 7 = nI 0 ∧ LiR 0 C C2 ∧ oM C2 = oM C
set_option maxHeartbeats 4000000 in
theorem live_run {g : GG} {C Cb : CS} {σ0 σ : PH} {V : VS} {q lo : Nat → Nat} {P : PG} {pa seed : Nat} (hx : oO C 0 = true) (h0 : oO C 0 = true) (E : EncD g C 0 V q) (K : OkV V) (hk : KepV V) (O : OkP (vs V 0) (vs V 1) (vs V 2) P) (hp0 : 0 < pn P) (hP : oP C 0 = some pa) (hD : DaysZ g (oZ C) P pa) (hl : oM C 90 = none) (hl3 : oM C 3 = none) (hst : oI C 0 30 7 = nI 0) (hs : seed < 10000) (Rb : LiR 0 Cb C) (Mb : oM C = oM Cb) (H : Hold g σ C) (F : Fr σ0 σ) : Wp g (mtC g miX0_live 35 241 1929 σ0 (some (.int (nI (livesV V P lo seed).2.2))) (fun C2 => LiX g Cb C2 (livesV V P lo seed))) 241 1929 45 [some (.ref (od C 0 30)), some (.int (nI seed)), none] [] σ := by
  have hrun := days_run (q := q) (lo := lo) (seed := seed) (V := V) O hp0 hD.choose_spec.choose_spec.2.2
  rw [hrun.2]
  refine run_new (kc := 240) (ks := 1920) E H F dX0_live_45 rfl ?_
  intro σ Cn la E1 N1 H F
  have R1 := N1.2.2.1
  refine w_dup dX0_live_48 rfl ?_
  refine w_aload_n dX0_live_49 rfl ?_
  have hda : od Cn 3 0 = od C 3 0 := R1.1 3 0 (by omega) (by omega)
  have hxn : oO Cn 0 = true := by rw [R1.2.2.2.2.2.2.2.1]; exact hx
  have h0n : oO Cn 0 = true := by rw [R1.2.2.2.2.2.2.2.1]; exact h0
  refine w_ref R1.x30 ?_
  refine cr_call (mi := miX0_day) dX0_live_50 q886 okX0_day clX0 rfl (H.get (ce_X hxn)) (Nat.le_of_ble_eq_true rfl) (kX0_day (C := Cn) hxn h0n) H rfl rfl (Nat.le_of_ble_eq_true rfl) ?_
  refine w_iload_n dX0_live_53 rfl ?_
  rw [hda]
  refine run_init h0 hda hl N1 E1 H F dX0_live_54 rfl (Nat.le_of_ble_eq_true rfl) (Nat.le_of_ble_eq_true rfl) ?_
  intro σ C9 B9 R9 M9 I9 A9 H F
  refine w_astore_n dX0_live_57 rfl (Nat.le_of_ble_eq_true rfl) ls_3_2 ?_
  refine w_aload_n dX0_live_58 rfl ?_
  have hx9 : oO C9 0 = true := by rw [R9.2.2.2.2.2.2.2.1]; exact hx
  have h09 : oO C9 0 = true := by rw [R9.2.2.2.2.2.2.2.1]; exact h0
  refine w_ref R9.x30 ?_
  refine gX0_55 (C := C9) dX0_live_59 rfl hx9 H ?_
  refine gX0_222 (C := C9) dX0_live_62 rfl h09 (by omega) H ?_
  rw [show oP C9 0 = some pa from (congrFun R9.2.2.2.2.2.2.1 0).trans hP]
  refine w_aload_n dX0_live_65 rfl ?_
  refine run_all B9 K hk O (by omega) (by rw [R9.2.2.2.2.2.2.2.2.2]; exact hD) H F dX0_live_66 rfl (Nat.le_of_ble_eq_true rfl) (Nat.le_of_ble_eq_true rfl) ?_
  obtain ⟨fin, hfin⟩ : ∃ fin, RunC g P V seed q = fin := ⟨_, rfl⟩
  have hrun1 : (livesV V P lo seed).1 = fin.R := by rw [← hfin]; exact hrun.1
  have hc4 : cnt fin.R 4 ≤ 1 := by rw [← hfin]; exact c4_all (c4_go P 4) _ _ _ _ (Nat.zero_le _)
  have hfn : (allX P (goX P 4) 61 0 (pn P - 1) ((V, seed, fun _ => 0), q, 0, 0)).n = fin.n := by rw [← hfin]; rfl
  rw [hfin, hfn]
  replace hrun := And.intro hrun1 trivial
  intro σ C0 B0 S0 H F
  have R0 : LiR 0 C C0 := R9.trans S0.R
  have M0 : ∀ i, i ≠ 3 → oM C0 i = oM C i := fun i hi => (S0.2 i hi).trans (M9 i hi)
  have i0 : oI C0 0 30 7 = nI 0 := (congrFun (S0.1.2.1 0 30 (by omega) (by omega)) 7).trans ((congrFun (congrFun (congrFun I9 0) 30) 7).trans hst)
  have hx0 : oO C0 0 = true := by rw [R0.2.2.2.2.2.2.2.1]; exact hx
  refine w_aload_n dX0_live_69 rfl ?_
  refine w_ref (R0.x30) ?_
  refine gX0_82 (C := C0) dX0_live_70 rfl hx0 H ?_
  refine w_iconst (v := nI 0) dX0_live_73 ki_0 ?_
  refine w_aload_n dX0_live_74 rfl ?_
  refine lvg (f := 3) (v := .int (nI (cnt fin.R 0))) dX0_live_75 (by decide) q1427 B0 H rfl ?_
  refine xs_21 (C := C0) dX0_live_78 hx0 (by omega) H F ?_
  intro σ H F
  obtain ⟨C1, hC1⟩ : ∃ X, X = uA C0 0 21 0 (nI (cnt fin.R 0)) := ⟨_, rfl⟩
  rw [← hC1] at H
  have B1 : LvOk g C1 0 la (od C 3 0) fin := by rw [hC1]; exact B0.a21
  have hx1 : oO C1 0 = true := by rw [hC1]; exact hx0
  have R1 : LiR 0 C C1 := R0.trans (by rw [hC1]; exact LiR.A)
  have i1 : oI C1 0 30 7 = nI 0 := by rw [hC1]; exact i0
  have M1 : ∀ i, i ≠ 3 → oM C1 i = oM C i := fun i hi => by rw [hC1]; exact M0 i hi
  have a1 : oA C1 0 21 = upd (oA C0 0 21) 0 (nI (cnt fin.R 0)) := by
    rw [hC1]
    exact up2_eq (oA C0) 0 21 _
  refine w_aload_n dX0_live_79 rfl ?_
  refine w_ref (R1.x30) ?_
  refine gX0_82 (C := C1) dX0_live_80 rfl hx1 H ?_
  refine w_iconst (v := nI 1) dX0_live_83 ki_1 ?_
  refine w_aload_n dX0_live_84 rfl ?_
  refine lvg (f := 4) (v := .int (nI (cnt fin.R 1))) dX0_live_85 (by decide) q1429 B1 H rfl ?_
  refine xs_21 (C := C1) dX0_live_88 hx1 (by omega) H F ?_
  intro σ H F
  obtain ⟨C2, hC2⟩ : ∃ X, X = uA C1 0 21 1 (nI (cnt fin.R 1)) := ⟨_, rfl⟩
  rw [← hC2] at H
  have B2 : LvOk g C2 0 la (od C 3 0) fin := by rw [hC2]; exact B1.a21
  have hx2 : oO C2 0 = true := by rw [hC2]; exact hx1
  have R2 : LiR 0 C C2 := R1.trans (by rw [hC2]; exact LiR.A)
  have i2 : oI C2 0 30 7 = nI 0 := by rw [hC2]; exact i1
  have M2 : ∀ i, i ≠ 3 → oM C2 i = oM C i := fun i hi => by rw [hC2]; exact M1 i hi
  have a2 : oA C2 0 21 = upd (oA C1 0 21) 1 (nI (cnt fin.R 1)) := by
    rw [hC2]
    exact up2_eq (oA C1) 0 21 _
  refine w_aload_n dX0_live_89 rfl ?_
  refine w_ref (R2.x30) ?_
  refine gX0_82 (C := C2) dX0_live_90 rfl hx2 H ?_
  refine w_iconst (v := nI 2) dX0_live_93 ki_2 ?_
  refine w_aload_n dX0_live_94 rfl ?_
  refine lvg (f := 5) (v := .int (nI (cnt fin.R 2))) dX0_live_95 (by decide) q1431 B2 H rfl ?_
  refine xs_21 (C := C2) dX0_live_98 hx2 (by omega) H F ?_
  intro σ H F
  obtain ⟨C3, hC3⟩ : ∃ X, X = uA C2 0 21 2 (nI (cnt fin.R 2)) := ⟨_, rfl⟩
  rw [← hC3] at H
  have B3 : LvOk g C3 0 la (od C 3 0) fin := by rw [hC3]; exact B2.a21
  have hx3 : oO C3 0 = true := by rw [hC3]; exact hx2
  have R3 : LiR 0 C C3 := R2.trans (by rw [hC3]; exact LiR.A)
  have i3 : oI C3 0 30 7 = nI 0 := by rw [hC3]; exact i2
  have M3 : ∀ i, i ≠ 3 → oM C3 i = oM C i := fun i hi => by rw [hC3]; exact M2 i hi
  have a3 : oA C3 0 21 = upd (oA C2 0 21) 2 (nI (cnt fin.R 2)) := by
    rw [hC3]
    exact up2_eq (oA C2) 0 21 _
  refine w_aload_n dX0_live_99 rfl ?_
  refine w_ref (R3.x30) ?_
  refine gX0_82 (C := C3) dX0_live_100 rfl hx3 H ?_
  refine w_iconst (v := nI 3) dX0_live_103 ki_3 ?_
  refine w_aload_n dX0_live_104 rfl ?_
  refine lvg (f := 6) (v := .int (nI (cnt fin.R 3))) dX0_live_105 (by decide) q1433 B3 H rfl ?_
  refine xs_21 (C := C3) dX0_live_108 hx3 (by omega) H F ?_
  intro σ H F
  obtain ⟨C4, hC4⟩ : ∃ X, X = uA C3 0 21 3 (nI (cnt fin.R 3)) := ⟨_, rfl⟩
  rw [← hC4] at H
  have B4 : LvOk g C4 0 la (od C 3 0) fin := by rw [hC4]; exact B3.a21
  have hx4 : oO C4 0 = true := by rw [hC4]; exact hx3
  have R4 : LiR 0 C C4 := R3.trans (by rw [hC4]; exact LiR.A)
  have i4 : oI C4 0 30 7 = nI 0 := by rw [hC4]; exact i3
  have M4 : ∀ i, i ≠ 3 → oM C4 i = oM C i := fun i hi => by rw [hC4]; exact M3 i hi
  have a4 : oA C4 0 21 = upd (oA C3 0 21) 3 (nI (cnt fin.R 3)) := by
    rw [hC4]
    exact up2_eq (oA C3) 0 21 _
  refine w_aload_n dX0_live_109 rfl ?_
  refine w_ref (R4.x30) ?_
  refine gX0_82 (C := C4) dX0_live_110 rfl hx4 H ?_
  refine w_iconst (v := nI 4) dX0_live_113 ki_4 ?_
  refine w_aload_n dX0_live_114 rfl ?_
  refine lvg (f := 8) (v := .int (nI (cnt fin.R 4))) dX0_live_115 (by decide) q1439 B4 H rfl ?_
  have tail : ∀ σ : PH, Hold g σ C4 → Fr σ0 σ → Wp g (mtC g miX0_live 35 241 1929 σ0 (some (.int (nI fin.n))) (fun C2 => LiX g Cb C2 (livesV V P lo seed))) 0 0 126 [some (.ref (od C 0 30)), some (.int (nI seed)), some (.ref la)] [.int (nI (cnt fin.R 4)), .int (nI 4), .ref (od C4 0 21)] σ := by
    intro σ H F
    refine xs_21 (C := C4) dX0_live_126 hx4 (by omega) H F ?_
    intro σ H F
    obtain ⟨C5, hC5⟩ : ∃ X, X = uA C4 0 21 4 (nI (cnt fin.R 4)) := ⟨_, rfl⟩
    rw [← hC5] at H
    have B5 : LvOk g C5 0 la (od C 3 0) fin := by rw [hC5]; exact B4.a21
    have hx5 : oO C5 0 = true := by rw [hC5]; exact hx4
    have R5 : LiR 0 C C5 := R4.trans (by rw [hC5]; exact LiR.A)
    have i5 : oI C5 0 30 7 = nI 0 := by rw [hC5]; exact i4
    have M5 : ∀ i, i ≠ 3 → oM C5 i = oM C i := fun i hi => by rw [hC5]; exact M4 i hi
    have a5 : oA C5 0 21 = upd (oA C4 0 21) 4 (nI (cnt fin.R 4)) := by
      rw [hC5]
      exact up2_eq (oA C4) 0 21 _
    refine w_aload_n dX0_live_127 rfl ?_
    refine w_ref (R5.x30) ?_
    refine w_iconst (v := nI 1) dX0_live_128 ki_1 ?_
    refine pX0_461 (C := C5) narr1 fitz1 dX0_live_129 rfl hx5 H F ?_
    intro σ H F
    refine w_aload_n dX0_live_132 rfl ?_
    refine lvg (f := 2) (v := .int (nI fin.n)) dX0_live_133 (by decide) q1425 B5.i22 H rfl ?_
    refine w_iret dX0_live_136 rfl ⟨rfl, sM8 (uI C5 0 30 22 (nI 1)) (oM C), ?_, H.less ?_, F⟩
    · refine ⟨⟨fin.q, ?_⟩, fun i hi => ?_, oI_eq C5 0 30 22 (nI 1), ?_, (Rb.trans (R5.trans (LiR.I (Or.inr rfl)))).trans LiR.M, Mb⟩
      · rw [hrun.1]
        exact B5.i22.E.less
      · show oA C5 0 21 i = _
        rw [hrun.1, a5, a4, a3, a2, a1]
        unfold upd
        repeat' split
        all_goals first | (subst_vars; rfl) | omega
      · have e1 : oI (sM8 (uI C5 0 30 22 (nI 1)) (oM C)) 0 30 7 = oI C5 0 30 7 := oI_ne (k := 0) (j := 30) (f := 22) (a := 0) (b := 30) (c := 7) C5 (nI 1) (fun _ _ z => absurd z (by decide))
        rw [e1, i5]
    · intro i e h
      show oM C5 i = some e
      by_cases h3 : i = 3
      · subst h3
        rw [hl3] at h
        cases h
      · rw [M5 i h3]
        exact h
  refine w_ifN_eq dX0_live_118 rfl (by omega) (fun h118 => ?_) (fun h118 => ?_)
  · refine w_iconst (v := nI 0) dX0_live_125 ki_0 ?_
    have h9 := tail σ H F
    rw [h118] at h9
    exact h9
  · refine w_iconst (v := nI 1) dX0_live_121 ki_1 ?_
    refine w_goto dX0_live_122 rfl ?_
    have h9 := tail σ H F
    rw [show cnt fin.R 4 = 1 by omega] at h9
    exact h9
