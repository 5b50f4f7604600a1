/-! A DAY's RUN: programs as rows, what a step does -/
set_option maxRecDepth 100000
/-- rows of a day: one above how many (0: none); row k, field j: 0 kind, 1, 2 its arguments, 4 mate, 5 sign -/
abbrev PG : Type := Nat × (Nat → Nat → Nat)
def pn (P : PG) : Nat := P.1
def pr (P : PG) (k j : Nat) : Nat := P.2 k j
abbrev useF (op j : Nat) : Prop := j = 0 ∨ (j = 1 ∧ op ≠ 1 ∧ op ≠ 26 ∧ op ≠ 27) ∨ (j = 2 ∧ (op = 18 ∨ op = 19 ∨ op = 20 ∨ op = 21 ∨ op = 2428 ∨ op = 2415)) ∨ (j = 4 ∧ (op = 26 ∨ 2400 ≤ op)) ∨ (j = 5 ∧ op = 2428)
def EncP (S : MS) (P : PG) : Prop := mA S 0 9 = nI (pn P) - nI 1 ∧ ∀ k, k + 1 < pn P → ∀ j, j < 6 → useF (pr P k 0) j → mA S 0 (1030 + 6 * k + j) = nI (pr P k j)
/-- a row that can be run on a beach of nc cells, nf finders, nd finds -/
def OkRow (nc nf nd n k : Nat) (r : Nat → Nat) : Prop :=
  (r 0 = 1 ∨ r 0 = 18 ∨ r 0 = 19 ∨ r 0 = 20 ∨ r 0 = 21 ∨ r 0 = 22 ∨ r 0 = 23 ∨ r 0 = 25 ∨ r 0 = 26 ∨ r 0 = 27 ∨ r 0 = 2415 ∨ r 0 = 2428 ∨ r 0 = 2429) ∧
  (r 0 = 18 → r 1 < nf ∧ r 2 < nc) ∧ (r 0 = 19 → r 1 < nf ∧ r 2 < nd) ∧ (r 0 = 21 → r 1 < nf ∧ r 2 < nd) ∧ (r 0 = 20 → r 1 < nf ∧ r 2 ≤ 240) ∧ (r 0 = 22 → r 1 ≤ 16) ∧ (r 0 = 23 → r 1 ≤ 40) ∧
  (r 0 = 2428 → r 1 < nf ∧ r 2 ≤ 9999 ∧ (r 5 = 60 ∨ r 5 = 61 ∨ r 5 = 62)) ∧ (r 0 = 2415 → r 1 < nf ∧ r 2 < nd) ∧ (r 0 = 2429 → r 1 < nd) ∧ (r 0 = 25 → 1 ≤ r 1 ∧ r 1 ≤ 99) ∧ (r 0 = 26 → r 4 < k) ∧ (2400 ≤ r 0 → k < r 4 ∧ r 4 < n)
def OkP (nc nf nd : Nat) (P : PG) : Prop := pn P ≤ 61 ∧ ∀ k, k + 1 < pn P → OkRow nc nf nd (pn P - 1) k (pr P k)
/-- the day, the number drawn, the counts -/
abbrev RS : Type := VS × Nat × (Nat → Nat)
def drawV (x : Nat) : Nat := (x * 2843 + 10709) % 65536
theorem drawV_lt (x : Nat) : drawV x < 65536 := Nat.mod_lt _ (by omega)
def cnt (R : RS) (i : Nat) : Nat := R.2.2 i
def upC (R : RS) (i x : Nat) : RS := (R.1, R.2.1, va_up R.2.2 i (R.2.2 i + x))
/-- to where a gull flies -/
def gTo (fr t0 : Nat) : Nat := if fr ≤ t0 then t0 + 1 else t0
def gcV (R : RS) (s : Nat) : RS :=
  if s ≤ drawV R.2.1 / 8 % 16 ∨ vs R.1 2 < 2 then (R.1, drawV R.2.1, R.2.2)
  else if wgV R.1 (drawV (drawV R.2.1) / 8 % vs R.1 2) (gTo (drawV (drawV R.2.1) / 8 % vs R.1 2) (drawV (drawV (drawV R.2.1)) / 8 % (vs R.1 2 - 1))) = 0
    then upC (gullV R.1 (drawV (drawV R.2.1) / 8 % vs R.1 2) (gTo (drawV (drawV R.2.1) / 8 % vs R.1 2) (drawV (drawV (drawV R.2.1)) / 8 % (vs R.1 2 - 1))), drawV (drawV (drawV R.2.1)), R.2.2) 1 1
    else (R.1, drawV (drawV (drawV R.2.1)), R.2.2)
/-- 0: the step could be; 1 -/
def fD (V : VS) (r : Nat → Nat) : Nat :=
  if r 0 = 18 then (if vs V 3 < vt V 3 (r 1) + stepsV V (r 1) (r 2) then 1 else 0)
  else if r 0 = 20 then (if vs V 3 < vt V 3 (r 1) + r 2 then 1 else 0)
  else if r 0 = 19 then (if wsetV V (r 1) (r 2) = 0 then 0 else 1)
  else if r 0 = 21 then (if wliV V (r 1) (r 2) = 0 then 0 else 1)
  else if r 0 = 1 then (if vs V 6 = 99 ∨ vs V 7 = 0 then 1 else 0) else 0
def doD (R : RS) (r : Nat → Nat) : RS :=
  if r 0 = 18 then (wentV R.1 (r 1) (r 2), R.2)
  else if r 0 = 20 then (waitedV R.1 (r 1) (r 2), R.2)
  else if r 0 = 19 then (if wsetV R.1 (r 1) (r 2) = 0 then (setsV R.1 (r 1) (r 2), R.2) else R)
  else if r 0 = 21 then (if wliV R.1 (r 1) (r 2) = 0 then (liftV R.1 (r 1) (r 2), R.2) else R)
  else if r 0 = 22 then gcV R (r 1)
  else if r 0 = 23 then upC (waveV R.1 (r 1), R.2) 2 (waveN R.1 (r 1) (vs R.1 2))
  else if r 0 = 1 then (if vs R.1 6 = 99 ∨ vs R.1 7 = 0 then R else upC (dawnV (floodV R.1), R.2) 3 1) else R
/-- does a test hold? -/
def holdsV (V : VS) (r : Nat → Nat) : Prop :=
  if r 0 = 2429 then isT V (r 1) ∧ vt V 7 (r 1) = 0 else if r 0 = 2415 then bitN (lastV V (r 2)) (r 1) else if r 5 = 60 then leadV V (r 1) < r 2 else if r 5 = 62 then r 2 < leadV V (r 1) else leadV V (r 1) = r 2
def hD (V : VS) (r : Nat → Nat) : Nat :=
  if r 0 = 2429 then (if isT V (r 1) ∧ vt V 7 (r 1) = 0 then 1 else 0) else if r 0 = 2415 then (if bitN (lastV V (r 2)) (r 1) then 1 else 0) else if r 5 = 60 then (if leadV V (r 1) < r 2 then 1 else 0) else if r 5 = 62 then (if r 2 < leadV V (r 1) then 1 else 0) else (if leadV V (r 1) = r 2 then 1 else 0)
/-- behind ends that are come to: where, and how often each loop goes again -/
def beF (P : PG) : Nat → Nat → (Nat → Nat) → Nat × (Nat → Nat)
  | 0, k, lo => (k, lo)
  | f + 1, k, lo => if k + 1 < pn P ∧ pr P k 0 = 26 then (if pr P (pr P k 4) 0 = 25 ∧ 0 < lo (pr P k 4) then beF P f (pr P k 4 + 1) (va_up lo (pr P k 4) (lo (pr P k 4) - 1)) else beF P f (k + 1) lo) else (k, lo)
/-- enough steps for it -/
def beM (k : Nat) (lo : Nat → Nat) : Nat := 80 * foldN (fun o c => c + lo o) 0 61 + (61 - k)
def beV (P : PG) (k : Nat) (lo : Nat → Nat) : Nat × (Nat → Nat) := beF P (beM k lo + 1) k lo
theorem beM_again {lo : Nat → Nat} {o k : Nat} (h : 0 < lo o) (ho : o < 61) (hk : k ≤ 61) : beM (o + 1) (va_up lo o (lo o - 1)) < beM k lo := by
  unfold beM
  have := sum_up (f := lo) (g := va_up lo o (lo o - 1)) (i := o) 61 ho (fun k _ hk => by unfold va_up; rw [if_neg hk])
  have h2 : va_up lo o (lo o - 1) o = lo o - 1 := by unfold va_up; rw [if_pos rfl]
  rw [h2] at this
  omega
/-- a whole run from row k on: the state, the loops, how many steps were run -/
def lvF (P : PG) : Nat → Nat → RS → (Nat → Nat) → Nat → RS × (Nat → Nat) × Nat
  | 0, _, R, lo, s => (R, lo, s)
  | f + 1, k, R, lo, s =>
    if k + 1 < pn P then
      (if s = 300 then ((R.1, R.2.1, va_up R.2.2 4 1), lo, s)
       else if pr P k 0 = 27 then (R, lo, s + 1)
       else
        lvF P f (beV P (if 2400 ≤ pr P k 0 ∧ hD (doD R (pr P k)).1 (pr P k) = 0 then pr P k 4 + 1 else k + 1) (if pr P k 0 = 25 then va_up lo k (pr P k 1 - 1) else lo)).1
          (upC (doD R (pr P k)) 0 (fD R.1 (pr P k)))
          (beV P (if 2400 ≤ pr P k 0 ∧ hD (doD R (pr P k)).1 (pr P k) = 0 then pr P k 4 + 1 else k + 1) (if pr P k 0 = 25 then va_up lo k (pr P k 1 - 1) else lo)).2 (s + 1))
    else (R, lo, s)
/-- what lives comes to -/
def livesV (V : VS) (P : PG) (lo : Nat → Nat) (seed : Nat) : RS × (Nat → Nat) × Nat := lvF P 301 0 (V, seed, fun _ => 0) lo 0
/-! the twin's part of it -/
def EncR (S : MS) (R : RS) : Prop := Enc S R.1 ∧ mI S 31 = nI R.2.1 ∧ ∀ i, i < 5 → mA S 34 i = nI (cnt R i)
def EncL (S : MS) (lo : Nat → Nat) : Prop := ∀ o, o < 80 → mA S 33 o = nI (lo o)
/-- what a run may change: the day, the number drawn, steps, loops, counts -/
def FrR (S S2 : MS) : Prop := (∀ k, k ≠ 31 → k ≠ 32 → mI S2 k = mI S k) ∧ (∀ k, mL S2 k = mL S k) ∧ (∀ k, k ≠ 0 → k ≠ 33 → k ≠ 34 → mA S2 k = mA S k) ∧ (∀ k, mB S2 k = mB S k) ∧ (∀ i, 1030 ≤ i → mA S2 0 i = mA S 0 i) ∧ mA S2 0 9 = mA S 0 9
theorem FrR.refl (S : MS) : FrR S S := ⟨fun _ _ _ => rfl, fun _ => rfl, fun _ _ _ _ => rfl, fun _ => rfl, fun _ _ => rfl, rfl⟩
theorem FrR.trans {S S2 S3 : MS} (h : FrR S S2) (h2 : FrR S2 S3) : FrR S S3 :=
  ⟨fun k a b => (h2.1 k a b).trans (h.1 k a b), fun k => (h2.2.1 k).trans (h.2.1 k), fun k a b d => (h2.2.2.1 k a b d).trans (h.2.2.1 k a b d), fun k => (h2.2.2.2.1 k).trans (h.2.2.2.1 k), fun i hi => (h2.2.2.2.2.1 i hi).trans (h.2.2.2.2.1 i hi), h2.2.2.2.2.2.trans h.2.2.2.2.2⟩
theorem Ch.fr {S S2 : MS} {V2 : VS} (h : Ch S S2 V2) : FrR S S2 ∧ (∀ k, mI S2 k = mI S k) ∧ ∀ k, k ≠ 0 → mA S2 k = mA S k := by
  obtain ⟨⟨a, rfl⟩, h1, h2, -⟩ := h
  refine ⟨⟨fun _ _ _ => rfl, fun _ => rfl, fun k hk _ _ => ?_, fun _ => rfl, h1, h2⟩, fun _ => rfl, fun k hk => ?_⟩
  · show va_up S.2.2.1 0 a k = _
    unfold va_up; rw [if_neg hk]; rfl
  · show va_up S.2.2.1 0 a k = _
    unfold va_up; rw [if_neg hk]; rfl
theorem EncP.fr {S S2 : MS} {P : PG} (h : EncP S P) (hf : FrR S S2) : EncP S2 P :=
  ⟨hf.2.2.2.2.2.trans h.1, fun k hk j hj hu => (hf.2.2.2.2.1 _ (by omega)).trans (h.2 k hk j hj hu)⟩
/-- from a change of the day -/
theorem EncR.ch {S S2 : MS} {R : RS} {V2 : VS} (E : EncR S R) (h : Ch S S2 V2) : EncR S2 (V2, R.2) ∧ FrR S S2 := by
  obtain ⟨h1, h2, h3⟩ := h.fr
  exact ⟨⟨h.E, (h2 31).trans E.2.1, fun i hi => by rw [h3 34 (by omega)]; exact E.2.2 i hi⟩, h1⟩
theorem FrR.cnt (S : MS) (i : Nat) (x : Int32) : FrR S (sA S 34 i x) := by
  refine ⟨fun _ _ _ => rfl, fun _ => rfl, fun k _ _ hk => ?_, fun _ => rfl, fun _ _ => rfl, rfl⟩
  show va_up S.2.2.1 34 _ k = _
  unfold va_up; rw [if_neg hk]; rfl
theorem FrR.lo (S : MS) (i : Nat) (x : Int32) : FrR S (sA S 33 i x) := by
  refine ⟨fun _ _ _ => rfl, fun _ => rfl, fun k _ hk _ => ?_, fun _ => rfl, fun _ _ => rfl, rfl⟩
  show va_up S.2.2.1 33 _ k = _
  unfold va_up; rw [if_neg hk]; rfl
theorem FrR.i31 (S : MS) (x : Int32) : FrR S (sI S 31 x) := by
  refine ⟨fun k hk _ => ?_, fun _ => rfl, fun _ _ _ _ => rfl, fun _ => rfl, fun _ _ => rfl, rfl⟩
  show va_up S.1 31 x k = _
  unfold va_up; rw [if_neg hk]; rfl
theorem FrR.i32 (S : MS) (x : Int32) : FrR S (sI S 32 x) := by
  refine ⟨fun k _ hk => ?_, fun _ => rfl, fun _ _ _ _ => rfl, fun _ => rfl, fun _ _ => rfl, rfl⟩
  show va_up S.1 32 x k = _
  unfold va_up; rw [if_neg hk]; rfl
theorem EncR.cnt {S : MS} {R : RS} (E : EncR S R) {i : Nat} {x y : Nat} (hi : i < 5) (hx : x = R.2.2 i + y) : EncR (sA S 34 i (nI x)) (upC R i y) := by
  subst hx
  refine ⟨E.1, E.2.1, fun j hj => ?_⟩
  show upd (mA S 34) i _ j = nI (va_up R.2.2 i _ j)
  unfold upd va_up
  by_cases h : j = i
  · rw [if_pos h, if_pos h]
  · rw [if_neg h, if_neg h]; exact E.2.2 j hj
theorem EncR.put {S : MS} {R : RS} (E : EncR S R) {i x : Nat} (hi : i < 5) : EncR (sA S 34 i (nI x)) (R.1, R.2.1, va_up R.2.2 i x) := by
  refine ⟨E.1, E.2.1, fun j hj => ?_⟩
  show upd (mA S 34) i _ j = nI (va_up R.2.2 i _ j)
  unfold upd va_up
  by_cases h : j = i
  · rw [if_pos h, if_pos h]
  · rw [if_neg h, if_neg h]; exact E.2.2 j hj
theorem EncR.dr {S : MS} {R : RS} (E : EncR S R) (x : Nat) : EncR (sI S 31 (nI x)) (R.1, x, R.2.2) := ⟨E.1, rfl, E.2.2⟩
theorem EncR.i32 {S : MS} {R : RS} (E : EncR S R) (x : Int32) : EncR (sI S 32 x) R := ⟨E.1, E.2.1, E.2.2⟩
theorem EncL.put {S : MS} {lo : Nat → Nat} (E : EncL S lo) {o x : Nat} : EncL (sA S 33 o (nI x)) (va_up lo o x) := fun j hj => by
  show upd (mA S 33) o _ j = nI (va_up lo o x j)
  unfold upd va_up
  by_cases h : j = o
  · rw [if_pos h, if_pos h]
  · rw [if_neg h, if_neg h]; exact E j hj
theorem EncL.of {S S2 : MS} {lo : Nat → Nat} (E : EncL S lo) (h : mA S2 33 = mA S 33) : EncL S2 lo := fun o ho => by rw [h]; exact E o ho
/-- what a run keeps -/
def OkR (V0 : VS) (R : RS) : Prop := OkV R.1 ∧ KepV R.1 ∧ R.2.1 < 65536 ∧ vs R.1 0 = vs V0 0 ∧ vs R.1 1 = vs V0 1 ∧ vs R.1 2 = vs V0 2
theorem Kep_of {V W : VS} (h : KepV V) (h1 : vs W 1 = vs V 1) (h6 : vs W 6 = vs V 6) (h4 : ∀ f, vt W 4 f = vt V 4 f) : KepV W := fun f hf => by
  rw [h4, h6]
  exact h f (by rw [← h1]; exact hf)
theorem Kep.went {V : VS} (h : KepV V) (f c : Nat) : KepV (wentV V f c) ∧ ∀ i, vs (wentV V f c) i = vs V i := by
  unfold wentV
  split
  · exact ⟨h, fun _ => rfl⟩
  · exact ⟨Kep_of h rfl rfl (fun q => by rw [goV, setT_t, if_neg (by omega), setT_t, if_neg (by omega)]), fun _ => rfl⟩
theorem Kep.waited {V : VS} (h : KepV V) (f c : Nat) : KepV (waitedV V f c) ∧ ∀ i, vs (waitedV V f c) i = vs V i := by
  unfold waitedV
  split
  · exact ⟨h, fun _ => rfl⟩
  · exact ⟨Kep_of h rfl rfl (fun q => by rw [waitV, setT_t, if_neg (by omega)]), fun _ => rfl⟩
theorem Kep.ins {V : VS} (h : KepV V) (d w m : Nat) : KepV (insV V d w m) ∧ ∀ i, i ≠ 8 → vs (insV V d w m) i = vs V i :=
  ⟨Kep_of h rfl rfl (fun q => ins_t _ _ _ _ _ _ _ (by omega)), fun i hi => by rw [insV, ins_s, if_neg hi]⟩
theorem Kep.del {V : VS} (h : KepV V) (d k : Nat) : KepV (delK V d k) ∧ ∀ i, i ≠ 8 → vs (delK V d k) i = vs V i :=
  ⟨Kep_of h rfl rfl (fun q => del_t _ _ _ _ _ (by omega)), fun i hi => by rw [del_s, if_neg hi]⟩
theorem Kep.pou {V : VS} (h : KepV V) (f x : Nat) : KepV (setT V 2 f x) := Kep_of h rfl rfl (fun q => by rw [setT_t, if_neg (by omega)])
theorem Kep.sets {V : VS} (h : KepV V) (f d : Nat) : KepV (setsV V f d) ∧ ∀ i, i ≠ 8 → vs (setsV V f d) i = vs V i := (Kep.ins (Kep.pou h f _) d f _)
theorem Kep.lift {V : VS} (h : KepV V) (f d : Nat) : KepV (liftV V f d) ∧ ∀ i, i ≠ 8 → vs (liftV V f d) i = vs V i := ⟨Kep.pou (Kep.del h d _).1 f _, fun i hi => (Kep.del h d _).2 i hi⟩
theorem Kep.gull {V : VS} (h : KepV V) (d e : Nat) : KepV (gullV V d e) ∧ ∀ i, i ≠ 8 → vs (gullV V d e) i = vs V i :=
  ⟨(Kep.ins (Kep.del h d _).1 e _ _).1, fun i hi => ((Kep.ins (Kep.del h d _).1 e _ _).2 i hi).trans ((Kep.del h d _).2 i hi)⟩
theorem Kep.wave {V : VS} (h : KepV V) (x : Nat) : KepV (waveV V x) ∧ ∀ i, i ≠ 8 → vs (waveV V x) i = vs V i :=
  ⟨Kep_of h (by rw [waveV, waveK_8, if_neg (by omega)]) (by rw [waveV, waveK_8, if_neg (by omega)]) (fun q => by rw [waveV, waveK_t, if_neg (by omega)]), fun i hi => by rw [waveV, waveK_8, if_neg hi]⟩
theorem OkR.gc {V0 : VS} {R : RS} (O : OkR V0 R) (s : Nat) : OkR V0 (gcV R s) := by
  obtain ⟨o1, o2, o3, o4, o5, o6⟩ := O
  unfold gcV
  split
  · exact ⟨o1, o2, drawV_lt _, o4, o5, o6⟩
  · rename_i hn
    split
    · rename_i hw
      have hg := Kep.gull o2 (drawV (drawV R.2.1) / 8 % vs R.1 2) (gTo (drawV (drawV R.2.1) / 8 % vs R.1 2) (drawV (drawV (drawV R.2.1)) / 8 % (vs R.1 2 - 1)))
      have hlt : drawV (drawV R.2.1) / 8 % vs R.1 2 < vs R.1 2 := Nat.mod_lt _ (by omega)
      have hlt2 : drawV (drawV (drawV R.2.1)) / 8 % (vs R.1 2 - 1) < vs R.1 2 - 1 := Nat.mod_lt _ (by omega)
      exact ⟨OkV.gull o1 hlt (by unfold gTo; split <;> omega) hw, hg.1, drawV_lt _, (hg.2 0 (by omega)).trans o4, (hg.2 1 (by omega)).trans o5, (hg.2 2 (by omega)).trans o6⟩
    · exact ⟨o1, o2, drawV_lt _, o4, o5, o6⟩
theorem OkR.do {V0 : VS} {R : RS} (O : OkR V0 R) {n k : Nat} {r : Nat → Nat} (hr : OkRow (vs V0 0) (vs V0 1) (vs V0 2) n k r) : OkR V0 (doD R r) := by
  have O0 := O
  obtain ⟨o1, o2, o3, o4, o5, o6⟩ := O
  obtain ⟨-, h18, h19, h21, h20, h22, h23, -⟩ := hr
  unfold doD
  by_cases c1 : r 0 = 18
  · rw [if_pos c1]
    have hg := Kep.went o2 (r 1) (r 2)
    have := h18 c1
    exact ⟨OkV.went o1 (by omega) (by omega), hg.1, o3, (hg.2 0).trans o4, (hg.2 1).trans o5, (hg.2 2).trans o6⟩
  rw [if_neg c1]
  by_cases c2 : r 0 = 20
  · rw [if_pos c2]
    have hg := Kep.waited o2 (r 1) (r 2)
    have := h20 c2
    exact ⟨OkV.waited o1 (by omega), hg.1, o3, (hg.2 0).trans o4, (hg.2 1).trans o5, (hg.2 2).trans o6⟩
  rw [if_neg c2]
  by_cases c3 : r 0 = 19
  · rw [if_pos c3]
    split
    · rename_i hw
      have hg := Kep.sets o2 (r 1) (r 2)
      have := h19 c3
      exact ⟨OkV.sets o1 (by omega) (by omega) hw, hg.1, o3, (hg.2 0 (by omega)).trans o4, (hg.2 1 (by omega)).trans o5, (hg.2 2 (by omega)).trans o6⟩
    · exact O0
  rw [if_neg c3]
  by_cases c4 : r 0 = 21
  · rw [if_pos c4]
    split
    · rename_i hw
      have hg := Kep.lift o2 (r 1) (r 2)
      have := h21 c4
      exact ⟨OkV.lift o1 (by omega) (by omega) hw, hg.1, o3, (hg.2 0 (by omega)).trans o4, (hg.2 1 (by omega)).trans o5, (hg.2 2 (by omega)).trans o6⟩
    · exact O0
  rw [if_neg c4]
  by_cases c5 : r 0 = 22
  · rw [if_pos c5]; exact O0.gc _
  rw [if_neg c5]
  by_cases c6 : r 0 = 23
  · rw [if_pos c6]
    have hg := Kep.wave o2 (r 1)
    exact ⟨OkV.wave o1 (r 1), hg.1, o3, (hg.2 0 (by omega)).trans o4, (hg.2 1 (by omega)).trans o5, (hg.2 2 (by omega)).trans o6⟩
  rw [if_neg c6]
  by_cases c7 : r 0 = 1
  · rw [if_pos c7]
    split
    · exact O0
    · rename_i hn
      have hb := o1.b
      obtain ⟨f1, f2⟩ := OkV.flood o1 o2 (by omega)
      have e7 : vs (floodV R.1) 7 = 0 := by rw [flood_s, if_neg (by omega), if_neg (by omega), if_pos rfl]
      have es : ∀ i, i < 3 → vs (dawnV (floodV R.1)) i = vs R.1 i := fun i hi => by
        rw [dawnV, setS_s, if_neg (by omega), flood_s, if_neg (by omega), if_neg (by omega), if_neg (by omega), if_neg (by omega)]
      exact ⟨OkV.dawn f1 e7, Kep_of f2 rfl rfl (fun _ => rfl), o3, (es 0 (by omega)).trans o4, (es 1 (by omega)).trans o5, (es 2 (by omega)).trans o6⟩
  rw [if_neg c7]
  exact O0
