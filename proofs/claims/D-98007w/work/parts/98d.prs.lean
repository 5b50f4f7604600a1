/-! PARSERS of texts (pure): names, the beach -/
set_option maxRecDepth 100000
/-- a place and a kind of fault -/
abbrev PR (α : Type) : Type := Except (Nat × Nat) α
abbrev okE {α : Type} (r : PR α) : Prop := r.toBool = true
theorem okE_t {α : Type} {r : PR α} (h : okE r) : ∃ v, r = .ok v := by
  cases r with
  | ok v => exact ⟨v, rfl⟩
  | error f => cases h
theorem okE_f {α : Type} {r : PR α} (h : ¬ okE r) : ∃ f, r = .error f := by
  cases r with
  | ok v => exact absurd rfl h
  | error f => exact ⟨f, rfl⟩
theorem okE_ok {α : Type} {r : PR α} {v : α} (h : r = .ok v) : okE r := by rw [h]; rfl
theorem okE_er {α : Type} {r : PR α} {f : Nat × Nat} (h : r = .error f) : ¬ okE r := by rw [h]; exact fun z => by cases z
/-- a fault of a kind at a token: a broken one is of kind 1 -/
def flt (t : Tk) (k : Nat) : Nat × Nat := (if t.so = 1 then 1 else k, t.fr)
theorem flt_ne {t : Tk} {k : Nat} (h : k ≠ 0) : (flt t k).1 ≠ 0 := by
  unfold flt
  dsimp only
  split <;> omega
def wSign (X : TX) (c : Nat) (t : Tk) : PR Tk := if t.so = 4 ∧ t.va = c then .ok (nx X t) else .error (flt t 2)
def wWord (X : TX) (k : Nat) (t : Tk) : PR Tk := if kix X t = k then .ok (nx X t) else .error (flt t 2)
def wNum (X : TX) (lo hi : Nat) (t : Tk) : PR (Nat × Tk) := if t.so ≠ 3 then .error (flt t 2) else if t.va < lo ∨ hi < t.va then .error (flt t 4) else .ok (t.va, nx X t)
abbrev isNm (X : TX) (t : Tk) : Prop := t.so = 2 ∧ t.to - t.fr ≤ 8 ∧ kix X t = 30
/-- which of the names a word is, from place k on -/
def nfi (nm : Nat → List Nat) (w : List Nat) : Nat → Nat → Nat
  | 0, k => k
  | j + 1, k => if nm k = w then k else nfi nm w j (k + 1)
/-- which of so many names; so many: none -/
def nfd (nm : Nat → List Nat) (many : Nat) (w : List Nat) : Nat := nfi nm w many 0
theorem nfi_le {nm : Nat → List Nat} {w : List Nat} : ∀ j k, nfi nm w j k ≤ k + j
  | 0, k => Nat.le_refl _
  | j + 1, k => by
    unfold nfi
    split
    · omega
    · have := nfi_le (nm := nm) (w := w) j (k + 1)
      omega
theorem nfd_le (nm : Nat → List Nat) (many : Nat) (w : List Nat) : nfd nm many w ≤ many := by
  have := nfi_le (nm := nm) (w := w) many 0
  unfold nfd
  omega
theorem nfd_from {nm : Nat → List Nat} {w : List Nat} {many : Nat} : ∀ n, n ≤ many → (∀ i, i < n → nm i ≠ w) → nfd nm many w = nfi nm w (many - n) n
  | 0, _, _ => rfl
  | n + 1, h, hn => by
    rw [nfd_from n (by omega) (fun i hi => hn i (by omega)), show many - n = (many - (n + 1)) + 1 by omega]
    exact if_neg (hn n (by omega))
theorem nfd_hit {nm : Nat → List Nat} {w : List Nat} {many n : Nat} (h : n < many) (hn : ∀ i, i < n → nm i ≠ w) (he : nm n = w) : nfd nm many w = n := by
  rw [nfd_from n (by omega) hn, show many - n = (many - (n + 1)) + 1 by omega]
  exact if_pos he
theorem nfd_none {nm : Nat → List Nat} {w : List Nat} {many : Nat} (hn : ∀ i, i < many → nm i ≠ w) : nfd nm many w = many := by
  rw [nfd_from many (Nat.le_refl _) hn, Nat.sub_self]
  rfl
def wOld (X : TX) (nm : Nat → List Nat) (many : Nat) (t : Tk) : PR (Nat × Tk) :=
  if ¬ isNm X t then .error (flt t 2) else if nfd nm many (wd X t) = many then .error (flt t 3) else .ok (nfd nm many (wd X t), nx X t)
/-- a beach as far as it is read: the day, names of finders and finds, how many pebbles were told, whether duels were -/
abbrev BS : Type := VS × (Nat → List Nat) × (Nat → List Nat) × Nat × Nat
abbrev BS.W (B : BS) : VS := B.1
abbrev BS.nf (B : BS) : Nat → List Nat := B.2.1
abbrev BS.nd (B : BS) : Nat → List Nat := B.2.2.1
abbrev BS.pb (B : BS) : Nat := B.2.2.2.1
abbrev BS.du (B : BS) : Nat := B.2.2.2.2
def upN (nm : Nat → List Nat) (k : Nat) (w : List Nat) : Nat → List Nat := fun i => if i = k then w else nm i
/-- a new name behind the token t: so many of most there are already -/
def wNew (X : TX) (B : BS) (cnt most : Nat) (t : Tk) : PR (List Nat × Tk) :=
  if cnt = most then .error (flt t 6) else if ¬ isNm X (nx X t) then .error (flt (nx X t) 2)
  else if nfd B.nf (vs B.W 1) (wd X (nx X t)) < vs B.W 1 ∨ nfd B.nd (vs B.W 2) (wd X (nx X t)) < vs B.W 2 then .error (flt (nx X t) 3)
  else .ok (wd X (nx X t), nx X (nx X t))
def bFinder (B : BS) (w : List Nat) (a p h : Nat) : BS := ⟨setS (setT (setT (setT B.W 0 (vs B.W 1) a) 1 (vs B.W 1) p) 2 (vs B.W 1) h) 1 (vs B.W 1 + 1), upN B.nf (vs B.W 1) w, B.nd, B.pb, B.du⟩
def bFind (B : BS) (w : List Nat) (a p : Nat) : BS := ⟨setS (setS (setT (setT B.W 5 (vs B.W 2) a) 6 (vs B.W 2) p) 7 (vs B.W 7 ||| 2 ^ vs B.W 2)) 2 (vs B.W 2 + 1), B.nf, upN B.nd (vs B.W 2) w, B.pb, B.du⟩
def bPebble (B : BS) (f d m : Nat) : BS := ⟨insV B.W d f m, B.nf, B.nd, B.pb + 1, B.du⟩
def bDuel (B : BS) (k : Nat) : BS := ⟨setS B.W 5 k, B.nf, B.nd, B.pb, 1⟩
def pFirst (X : TX) (t : Tk) : PR ((Nat × Nat × Nat) × Tk) := do
  let t ← wWord X 0 t
  let (c, t) ← wNum X 2 40 t
  let t ← wWord X 1 t
  let (ti, t) ← wNum X 1 240 t
  if kix X t = 2 then
    let (m, t) ← wNum X 0 60 (nx X t)
    let t ← wSign X 59 t
    .ok ((c, ti, m), t)
  else
    let t ← wSign X 59 t
    .ok ((c, ti, 0), t)
def pCell (X : TX) (B : BS) (t : Tk) : PR (Nat × Tk) := do
  let t ← wWord X 7 t
  wNum X 0 (vs B.W 0 - 1) t
def pFinder (X : TX) (B : BS) (t : Tk) : PR (BS × Tk) := do
  let (w, t) ← wNew X B (vs B.W 1) 6 t
  let (a, t) ← pCell X B t
  let t ← wWord X 8 t
  let (p, t) ← wNum X 1 9 t
  let t ← wWord X 9 t
  let (h, t) ← wNum X 0 20 t
  .ok (bFinder B w a p h, t)
def pFind (X : TX) (B : BS) (t : Tk) : PR (BS × Tk) := do
  let (w, t) ← wNew X B (vs B.W 2) 8 t
  let (a, t) ← pCell X B t
  let t ← wWord X 10 t
  let (p, t) ← wNum X 0 999 t
  .ok (bFind B w a p, t)
def pPebble (X : TX) (B : BS) (t : Tk) : PR (BS × Tk) :=
  if B.pb = 30 then .error (flt t 6) else do
  let t ← wWord X 11 (nx X t)
  let (f, t) ← wOld X B.nf (vs B.W 1) t
  let t ← wWord X 12 t
  let (d, t) ← wOld X B.nd (vs B.W 2) t
  let t ← wWord X 7 t
  let (m, t) ← wNum X 0 (vs B.W 3) t
  .ok (bPebble B f d m, t)
def pDuel (X : TX) (B : BS) (t : Tk) : PR (BS × Tk) :=
  if B.du = 1 then .error (flt t 5) else
  if kix X (nx X t) < 13 ∨ 16 < kix X (nx X t) then .error (flt (nx X t) 2) else .ok (bDuel B (kix X (nx X t) - 13), nx X (nx X t))
def pPart (X : TX) (B : BS) (t : Tk) : PR (BS × Tk) := do
  let (B, t) ← (if kix X t = 3 then pFinder X B t else if kix X t = 4 then pFind X B t else if kix X t = 5 then pPebble X B t else if kix X t = 6 then pDuel X B t else .error (flt t 2))
  let t ← wSign X 59 t
  .ok (B, t)
def pParts (X : TX) : Nat → BS → Tk → PR BS
  | 0, B, _ => .ok B
  | j + 1, B, t => if t.so = 0 then .ok B else do
    let (B, t) ← pPart X B t
    pParts X j B t
/-- a beach of nothing but its first words -/
def bNew (c ti m : Nat) : BS := ⟨((fun k => if k = 0 then c else if k = 3 then ti else if k = 4 then m else if k = 5 then 1 else 0), (fun _ _ => 0), fun _ _ _ => 0), fun _ => [], fun _ => [], 0, 0⟩
def pBeach (X : TX) : PR BS := do
  let (c, t) ← pFirst X (tok X 0)
  pParts X (X.2 + 1) (bNew c.1 c.2.1 c.2.2) t
/-! what every step of a parser goes on by -/
def Pg (X : TX) (t t2 : Tk) : Prop := OkT9 X t2 ∧ t.fr ≤ t2.fr ∧ (t.so ≠ 0 → t.fr < t2.fr)
theorem Pg.refl {X : TX} {t : Tk} (h : OkT9 X t) : t.fr ≤ t.fr := Nat.le_refl _
theorem Pg_nx {X : TX} {t : Tk} (h : OkT9 X t) : Pg X t (nx X t) := by
  have h1 := h.ok
  have h2 := tok_ok X t.to h1.2.1
  refine ⟨h.nx, ?_, fun z => ?_⟩
  · show t.fr ≤ (tok X t.to).fr
    omega
  · have := h1.2.2.2.1 z
    show t.fr < (tok X t.to).fr
    omega
/-- goes on at least by one token, unless there is none -/
theorem Pg.then_ {X : TX} {t t2 t3 : Tk} (h : Pg X t t2) (h2 : Pg X t2 t3) : Pg X t t3 := ⟨h2.1, Nat.le_trans h.2.1 h2.2.1, fun z => Nat.lt_of_lt_of_le (h.2.2 z) h2.2.1⟩
theorem wSign_pg {X : TX} {c : Nat} {t t2 : Tk} (h : OkT9 X t) (e : wSign X c t = .ok t2) : Pg X t t2 := by
  unfold wSign at e
  split at e
  · cases e; exact Pg_nx h
  · cases e
theorem wWord_pg {X : TX} {c : Nat} {t t2 : Tk} (h : OkT9 X t) (e : wWord X c t = .ok t2) : Pg X t t2 := by
  unfold wWord at e
  split at e
  · cases e; exact Pg_nx h
  · cases e
theorem wNum_pg {X : TX} {lo hi v : Nat} {t t2 : Tk} (h : OkT9 X t) (e : wNum X lo hi t = .ok (v, t2)) : Pg X t t2 ∧ lo ≤ v ∧ v ≤ hi := by
  unfold wNum at e
  split at e
  · cases e
  · split at e
    · cases e
    · rename_i h2
      cases e
      exact ⟨Pg_nx h, by omega, by omega⟩
theorem wOld_pg {X : TX} {nm : Nat → List Nat} {many v : Nat} {t t2 : Tk} (h : OkT9 X t) (e : wOld X nm many t = .ok (v, t2)) : Pg X t t2 ∧ v < many := by
  unfold wOld at e
  split at e
  · cases e
  · split at e
    · cases e
    · rename_i h2
      cases e
      have := nfd_le nm many (wd X t)
      exact ⟨Pg_nx h, by omega⟩
