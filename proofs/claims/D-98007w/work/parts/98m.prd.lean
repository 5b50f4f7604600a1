/-! PARSERS: days (pure) -/
set_option maxRecDepth 100000
/-- the beach on which days are told: its cells, finders, finds, their names -/
abbrev HS : Type := Nat × Nat × Nat × (Nat → List Nat) × (Nat → List Nat)
abbrev HS.nc (H : HS) : Nat := H.1
abbrev HS.cf (H : HS) : Nat := H.2.1
abbrev HS.cd (H : HS) : Nat := H.2.2.1
abbrev HS.nf (H : HS) : Nat → List Nat := H.2.2.2.1
abbrev HS.nd (H : HS) : Nat → List Nat := H.2.2.2.2
/-- days as far as they are read: rows, those that are opened, how many steps were counted -/
abbrev DS : Type := Nat × (Nat → Nat → Nat) × List Nat × Nat
abbrev DS.n (D : DS) : Nat := D.1
abbrev DS.r (D : DS) : Nat → Nat → Nat := D.2.1
abbrev DS.op (D : DS) : List Nat := D.2.2.1
abbrev DS.ct (D : DS) : Nat := D.2.2.2
abbrev RW4 : Type := Nat × Nat × Nat × Nat
def pTest (X : TX) (H : HS) (t : Tk) : PR (RW4 × Tk) :=
  if kix X t = 29 then do
    let (d, t) ← wOld X H.nd H.cd (nx X t)
    .ok ((2429, d, 0, 0), t)
  else if kix X t = 15 then do
    let (f, t) ← wOld X H.nf H.cf (nx X t)
    let t ← wWord X 12 t
    let (d, t) ← wOld X H.nd H.cd t
    .ok ((2415, f, d, 0), t)
  else if kix X t = 28 then do
    let (f, t) ← wOld X H.nf H.cf (nx X t)
    if t.so = 4 ∧ (t.va = 60 ∨ t.va = 62 ∨ t.va = 61) then
      let (m, t2) ← wNum X 0 9999 (nx X t)
      .ok ((2428, f, m, t.va), t2)
    else .error (flt t 2)
  else .error (flt t 2)
def pOrder (X : TX) (H : HS) (k : Nat) (t : Tk) : PR (RW4 × Tk) :=
  if k = 18 then do
    let (f, t) ← wOld X H.nf H.cf t
    let t ← wWord X 17 t
    let (c, t) ← wNum X 0 (H.nc - 1) t
    .ok ((18, f, c, 0), t)
  else if k = 19 ∨ k = 21 then do
    let (f, t) ← wOld X H.nf H.cf t
    let t ← wWord X 12 t
    let (d, t) ← wOld X H.nd H.cd t
    .ok ((k, f, d, 0), t)
  else if k = 20 then do
    let (f, t) ← wOld X H.nf H.cf t
    let (c, t) ← wNum X 1 240 t
    .ok ((20, f, c, 0), t)
  else if k = 22 then do
    let (c, t) ← wNum X 0 16 t
    .ok ((22, c, 0, 0), t)
  else if k = 23 then do
    let (c, t) ← wNum X 0 40 t
    .ok ((23, c, 0, 0), t)
  else if k = 24 then pTest X H t
  else if k = 25 then do
    let (c, t) ← wNum X 1 99 t
    .ok ((25, c, 0, 0), t)
  else .ok ((k, 0, 0, 0), t)
def row4 (q : RW4) (j4 : Nat) : Nat → Nat := fun j => if j = 0 then q.1 else if j = 1 then q.2.1 else if j = 2 then q.2.2.1 else if j = 4 then j4 else if j = 5 then q.2.2.2 else 0
def upR (r : Nat → Nat → Nat) (k : Nat) (q : Nat → Nat) : Nat → Nat → Nat := fun i => if i = k then q else r i
def up4 (r : Nat → Nat → Nat) (k x : Nat) : Nat → Nat → Nat := fun i j => if i = k ∧ j = 4 then x else r i j
/-- a row more, by its first word -/
def dAdd (D : DS) (k : Nat) (q : RW4) : DS :=
  if k = 24 ∨ k = 25 then ⟨D.n + 1, upR D.r D.n (row4 q 0), D.n :: D.op, D.ct + 1⟩
  else if k = 26 then ⟨D.n + 1, up4 (upR D.r D.n (row4 q (D.op.headD 0))) (D.op.headD 0) D.n, D.op.tail, D.ct⟩
  else ⟨D.n + 1, upR D.r D.n (row4 q 0), D.op, D.ct + 1⟩
def pStep (X : TX) (H : HS) (D : DS) (t : Tk) : PR (DS × Tk) :=
  if (kix X t ≠ 1 ∧ (kix X t < 18 ∨ 27 < kix X t)) ∨ (kix X t = 26 ∧ D.op = []) then .error (flt t 2)
  else if kix X t ≠ 26 ∧ D.ct = 30 then .error (flt t 6)
  else if (kix X t = 24 ∨ kix X t = 25) ∧ D.op.length = 3 then .error (flt t 7)
  else do
    let (q, t2) ← pOrder X H (kix X t) (nx X t)
    let t3 ← wSign X 59 t2
    .ok (dAdd D (kix X t) q, t3)
def pSteps (X : TX) (H : HS) : Nat → DS → Tk → PR DS
  | 0, D, _ => .ok D
  | j + 1, D, t => if t.so = 0 then (if D.op = [] then .ok D else .error (flt t 2)) else do
    let (D, t) ← pStep X H D t
    pSteps X H j D t
def pDays (X : TX) (H : HS) : PR DS := pSteps X H (X.2 + 1) ⟨0, fun _ _ => 0, [], 0⟩ (tok X 0)
/-- a row's fields are as far as they should be -/
def OkQ (H : HS) (q : RW4) : Prop :=
  (q.1 = 1 ∨ q.1 = 18 ∨ q.1 = 19 ∨ q.1 = 20 ∨ q.1 = 21 ∨ q.1 = 22 ∨ q.1 = 23 ∨ q.1 = 25 ∨ q.1 = 26 ∨ q.1 = 27 ∨ q.1 = 2415 ∨ q.1 = 2428 ∨ q.1 = 2429) ∧
  (q.1 = 18 → q.2.1 < H.cf ∧ q.2.2.1 < H.nc) ∧ (q.1 = 19 → q.2.1 < H.cf ∧ q.2.2.1 < H.cd) ∧ (q.1 = 21 → q.2.1 < H.cf ∧ q.2.2.1 < H.cd) ∧ (q.1 = 20 → q.2.1 < H.cf ∧ q.2.2.1 ≤ 240) ∧ (q.1 = 22 → q.2.1 ≤ 16) ∧ (q.1 = 23 → q.2.1 ≤ 40) ∧
  (q.1 = 2428 → q.2.1 < H.cf ∧ q.2.2.1 ≤ 9999 ∧ (q.2.2.2 = 60 ∨ q.2.2.2 = 61 ∨ q.2.2.2 = 62)) ∧ (q.1 = 2415 → q.2.1 < H.cf ∧ q.2.2.1 < H.cd) ∧ (q.1 = 2429 → q.2.1 < H.cd) ∧ (q.1 = 25 → 1 ≤ q.2.1 ∧ q.2.1 ≤ 99) ∧ q.2.1 < 100000 ∧ q.2.2.1 < 100000 ∧ q.2.2.2 < 100000
def OkH (H : HS) : Prop := 2 ≤ H.nc ∧ H.nc ≤ 40 ∧ H.cf ≤ 6 ∧ H.cd ≤ 8 ∧ (∀ i, i < H.cf → NmW (H.nf i)) ∧ ∀ i, i < H.cd → NmW (H.nd i)
theorem pTest_ok {X : TX} {H : HS} {t t2 : Tk} {q : RW4} (O : OkH H) (h : OkT9 X t) (e : pTest X H t = .ok (q, t2)) : Pg X t t2 ∧ OkQ H q ∧ 2400 ≤ q.1 := by
  obtain ⟨o1, o2, o3, o4, -, -⟩ := O
  unfold pTest at e
  split at e
  · obtain ⟨⟨d, t1⟩, e1, e⟩ := bind_ok e
    have p1 := wOld_pg h.nx e1
    cases e
    refine ⟨(Pg_nx h).then_ p1.1, ?_, Nat.le_of_ble_eq_true rfl⟩
    unfold OkQ
    have := p1.2
    simp
    omega
  · split at e
    · obtain ⟨⟨f, t1⟩, e1, e⟩ := bind_ok e
      have p1 := wOld_pg h.nx e1
      obtain ⟨t3, e3, e⟩ := bind_ok e
      have p3 := wWord_pg p1.1.1 e3
      obtain ⟨⟨d, t4⟩, e4, e⟩ := bind_ok e
      have p4 := wOld_pg p3.1 e4
      cases e
      refine ⟨(((Pg_nx h).then_ p1.1).then_ p3).then_ p4.1, ?_, Nat.le_of_ble_eq_true rfl⟩
      unfold OkQ
      have := p1.2
      have := p4.2
      simp
      omega
    · split at e
      · obtain ⟨⟨f, t1⟩, e1, e⟩ := bind_ok e
        have p1 := wOld_pg h.nx e1
        dsimp only at e
        split at e
        · rename_i hs
          obtain ⟨⟨m, t3⟩, e3, e⟩ := bind_ok e
          have p3 := wNum_pg p1.1.1.nx e3
          cases e
          refine ⟨(((Pg_nx h).then_ p1.1).then_ (Pg_nx p1.1.1)).then_ p3.1, ?_, Nat.le_of_ble_eq_true rfl⟩
          unfold OkQ
          have := p1.2
          have := p3.2
          simp
          omega
        · cases e
      · cases e
theorem pOrder_ok {X : TX} {H : HS} {k : Nat} {t t2 : Tk} {q : RW4} (O : OkH H) (h : OkT9 X t) (hk : k = 1 ∨ (18 ≤ k ∧ k ≤ 27)) (e : pOrder X H k t = .ok (q, t2)) : t.fr ≤ t2.fr ∧ OkT9 X t2 ∧ OkQ H q ∧ (q.1 = k ∨ (k = 24 ∧ 2400 ≤ q.1)) := by
  have O2 := O
  obtain ⟨o1, o2, o3, o4, -, -⟩ := O2
  unfold pOrder at e
  split at e
  · obtain ⟨⟨f, t1⟩, e1, e⟩ := bind_ok e
    have p1 := wOld_pg h e1
    obtain ⟨t3, e3, e⟩ := bind_ok e
    have p3 := wWord_pg p1.1.1 e3
    obtain ⟨⟨d, t4⟩, e4, e⟩ := bind_ok e
    have p4 := wNum_pg p3.1 e4
    have p := (p1.1.then_ p3).then_ p4.1
    cases e
    refine ⟨p.2.1, p.1, ?_, by omega⟩
    unfold OkQ
    have := p1.2
    have := p4.2
    simp
    omega
  · split at e
    · rename_i hk9
      obtain ⟨⟨f, t1⟩, e1, e⟩ := bind_ok e
      have p1 := wOld_pg h e1
      obtain ⟨t3, e3, e⟩ := bind_ok e
      have p3 := wWord_pg p1.1.1 e3
      obtain ⟨⟨d, t4⟩, e4, e⟩ := bind_ok e
      have p4 := wOld_pg p3.1 e4
      have p := (p1.1.then_ p3).then_ p4.1
      cases e
      refine ⟨p.2.1, p.1, ?_, Or.inl rfl⟩
      unfold OkQ
      have := p1.2
      have := p4.2
      dsimp only
      omega
    · split at e
      · obtain ⟨⟨f, t1⟩, e1, e⟩ := bind_ok e
        have p1 := wOld_pg h e1
        obtain ⟨⟨d, t4⟩, e4, e⟩ := bind_ok e
        have p4 := wNum_pg p1.1.1 e4
        have p := p1.1.then_ p4.1
        cases e
        refine ⟨p.2.1, p.1, ?_, by omega⟩
        unfold OkQ
        have := p1.2
        have := p4.2
        simp
        omega
      · split at e
        · obtain ⟨⟨d, t4⟩, e4, e⟩ := bind_ok e
          have p4 := wNum_pg h e4
          cases e
          refine ⟨p4.1.2.1, p4.1.1, ?_, by omega⟩
          unfold OkQ
          have := p4.2
          simp
          omega
        · split at e
          · obtain ⟨⟨d, t4⟩, e4, e⟩ := bind_ok e
            have p4 := wNum_pg h e4
            cases e
            refine ⟨p4.1.2.1, p4.1.1, ?_, by omega⟩
            unfold OkQ
            have := p4.2
            simp
            omega
          · split at e
            · have := pTest_ok O h e
              exact ⟨this.1.2.1, this.1.1, this.2.1, Or.inr ⟨by assumption, this.2.2⟩⟩
            · split at e
              · obtain ⟨⟨d, t4⟩, e4, e⟩ := bind_ok e
                have p4 := wNum_pg h e4
                cases e
                refine ⟨p4.1.2.1, p4.1.1, ?_, by omega⟩
                unfold OkQ
                have := p4.2
                simp
                omega
              · cases e
                refine ⟨Nat.le_refl _, h, ?_, Or.inl rfl⟩
                unfold OkQ
                dsimp only
                omega
abbrev rq (D : DS) (k : Nat) : RW4 := (D.r k 0, D.r k 1, D.r k 2, D.r k 5)
def OkD4 (H : HS) (n : Nat) (r : Nat → Nat → Nat) (op : List Nat) (ct : Nat) : Prop := n + op.length ≤ 2 * ct ∧ ct ≤ 30 ∧ op.length ≤ 3 ∧ (∀ o ∈ op, o < n ∧ (r o 0 = 25 ∨ 2400 ≤ r o 0)) ∧ ∀ k, k < n → OkQ H (r k 0, r k 1, r k 2, r k 5) ∧ (r k 0 = 26 → r k 4 < k) ∧ (2400 ≤ r k 0 → k ∈ op ∨ (k < r k 4 ∧ r k 4 < n)) ∧ r k 4 ≤ n
def OkD (H : HS) (D : DS) : Prop := OkD4 H D.n D.r D.op D.ct
theorem OkD.b {H : HS} {D : DS} (O : OkD H D) : D.n + D.op.length ≤ 60 := by
  have := O.1
  have := O.2.1
  omega
theorem row4_q (q : RW4) (x : Nat) : row4 q x 0 = q.1 ∧ row4 q x 1 = q.2.1 ∧ row4 q x 2 = q.2.2.1 ∧ row4 q x 4 = x ∧ row4 q x 5 = q.2.2.2 := ⟨rfl, rfl, rfl, rfl, rfl⟩
theorem upR_ne {r : Nat → Nat → Nat} {k i : Nat} {q : Nat → Nat} (h : i ≠ k) : upR r k q i = r i := if_neg h
theorem upR_eq {r : Nat → Nat → Nat} {k : Nat} {q : Nat → Nat} : upR r k q k = q := if_pos rfl
theorem up4_ne {r : Nat → Nat → Nat} {k x i j : Nat} (h : i ≠ k ∨ j ≠ 4) : up4 r k x i j = r i j := if_neg (by omega)
theorem up4_eq {r : Nat → Nat → Nat} {k x : Nat} : up4 r k x k 4 = x := if_pos ⟨rfl, rfl⟩
theorem dAdd_ok {H : HS} {D : DS} {k : Nat} {q : RW4} (O : OkD H D) (hq : OkQ H q) (hkb : k < 100) (hk : q.1 = k ∨ (k = 24 ∧ 2400 ≤ q.1)) (h26 : k = 26 → D.op ≠ []) (hct : k ≠ 26 → D.ct < 30) (h3 : k = 24 ∨ k = 25 → D.op.length < 3) : OkD H (dAdd D k q) := by
  obtain ⟨n, r, op, ct⟩ := D
  have O : OkD4 H n r op ct := O
  have hct : k ≠ 26 → ct < 30 := hct
  have h3 : k = 24 ∨ k = 25 → op.length < 3 := h3
  have h26 : k = 26 → op ≠ [] := h26
  obtain ⟨O1, O2, O3, O4, O5⟩ := O
  have hrow : ∀ (x : Nat), (row4 q x 0, row4 q x 1, row4 q x 2, row4 q x 5) = q := fun _ => rfl
  have hq1 := hq.1
  unfold dAdd
  split
  · rename_i hop
    show OkD4 H (n + 1) (upR r n (row4 q 0)) (n :: op) (ct + 1)
    have h31 := h3 hop
    have hc1 := hct (by omega)
    have hl : (n :: op).length = op.length + 1 := rfl
    refine ⟨by omega, by omega, by omega, fun o ho => ?_, fun i hi => ?_⟩
    · rcases List.mem_cons.mp ho with rfl | ho
      · rw [upR_eq, (row4_q q 0).1]
        exact ⟨by omega, by omega⟩
      · have := O4 o ho
        rw [upR_ne (by omega)]
        exact ⟨by omega, this.2⟩
    · by_cases z : i = n
      · subst z
        rw [upR_eq, hrow]
        refine ⟨hq, fun z => ?_, fun z => Or.inl List.mem_cons_self, Nat.zero_le _⟩
        have h0 : q.1 = 26 := z
        omega
      · rw [upR_ne z]
        obtain ⟨a1, a2, a3, a4⟩ := O5 i (by omega)
        refine ⟨a1, a2, fun z => ?_, by omega⟩
        rcases a3 z with h | h
        · exact Or.inl (List.mem_cons_of_mem _ h)
        · exact Or.inr ⟨h.1, by omega⟩
  · rename_i hop
    split
    · rename_i h9
      obtain ⟨o, l, rfl⟩ : ∃ o l, op = o :: l := by
        cases op with
        | nil => exact absurd rfl (h26 h9)
        | cons o l => exact ⟨o, l, rfl⟩
      show OkD4 H (n + 1) (up4 (upR r n (row4 q o)) o n) l ct
      have hlen : (o :: l).length = l.length + 1 := rfl
      have ho := O4 o List.mem_cons_self
      refine ⟨by omega, O2, by omega, fun p hp => ?_, fun i hi => ?_⟩
      · have h1 := O4 p (List.mem_cons_of_mem _ hp)
        rw [up4_ne (Or.inr (by decide)), upR_ne (by omega)]
        exact ⟨by omega, h1.2⟩
      · rw [up4_ne (Or.inr (show (0 : Nat) ≠ 4 by decide)), up4_ne (Or.inr (show (1 : Nat) ≠ 4 by decide)), up4_ne (Or.inr (show (2 : Nat) ≠ 4 by decide)), up4_ne (Or.inr (show (5 : Nat) ≠ 4 by decide))]
        by_cases z : i = n
        · subst z
          rw [up4_ne (Or.inl (show i ≠ o by omega)), upR_eq, hrow]
          refine ⟨hq, fun _ => ho.1, fun z => ?_, ?_⟩
          · have h0 : 2400 ≤ q.1 := z
            omega
          · show o ≤ i + 1
            omega
        · rw [upR_ne z]
          obtain ⟨a1, a2, a3, a4⟩ := O5 i (by omega)
          by_cases z2 : i = o
          · subst z2
            rw [up4_eq]
            exact ⟨a1, fun z => by omega, fun _ => Or.inr ⟨by omega, by omega⟩, by omega⟩
          · rw [up4_ne (Or.inl z2), upR_ne z]
            refine ⟨a1, a2, fun z => ?_, by omega⟩
            rcases a3 z with h | h
            · rcases List.mem_cons.mp h with h | h
              · exact absurd h z2
              · exact Or.inl h
            · exact Or.inr ⟨h.1, by omega⟩
    · rename_i h9
      show OkD4 H (n + 1) (upR r n (row4 q 0)) op (ct + 1)
      have hc1 := hct h9
      refine ⟨by omega, by omega, O3, fun o ho => ?_, fun i hi => ?_⟩
      · have := O4 o ho
        rw [upR_ne (by omega)]
        exact ⟨by omega, this.2⟩
      · by_cases z : i = n
        · subst z
          rw [upR_eq, hrow]
          refine ⟨hq, fun z => ?_, fun z => ?_, Nat.zero_le _⟩
          · have h0 : q.1 = 26 := z
            omega
          · have h0 : 2400 ≤ q.1 := z
            omega
        · rw [upR_ne z]
          obtain ⟨a1, a2, a3, a4⟩ := O5 i (by omega)
          refine ⟨a1, a2, fun z => ?_, by omega⟩
          rcases a3 z with h | h
          · exact Or.inl h
          · exact Or.inr ⟨h.1, by omega⟩
theorem kix_so {X : TX} {t : Tk} (h : kix X t < 30) : t.so = 2 := by
  unfold kix at h
  split at h
  · assumption
  · omega
theorem pStep_ok {X : TX} {H : HS} {D D2 : DS} {t t2 : Tk} (OH : OkH H) (O : OkD H D) (h : OkT9 X t) (e : pStep X H D t = .ok (D2, t2)) : t.so = 2 ∧ t.fr < t2.fr ∧ OkT9 X t2 ∧ OkD H D2 := by
  unfold pStep at e
  split at e
  · cases e
  · rename_i h1
    split at e
    · cases e
    · rename_i h2
      split at e
      · cases e
      · rename_i h3
        obtain ⟨⟨q, t3⟩, e3, e⟩ := bind_ok e
        have hk : kix X t = 1 ∨ (18 ≤ kix X t ∧ kix X t ≤ 27) := by omega
        have hs := kix_so (X := X) (t := t) (by omega)
        have p0 := Pg_nx h
        have p3 := pOrder_ok OH p0.1 hk e3
        obtain ⟨t4, e4, e⟩ := bind_ok e
        have p4 := wSign_pg p3.2.1 e4
        cases e
        have g0 := p0.2.2 (by omega)
        have g1 := p3.1
        have g2 := p4.2.1
        have hl := O.2.2.1
        have hc := O.2.1
        exact ⟨hs, by omega, p4.1, dAdd_ok O p3.2.2.1 (by omega) p3.2.2.2 (fun z w => h1 (Or.inr ⟨z, w⟩)) (fun z => by omega) (fun z => by omega)⟩
theorem OkD.new (H : HS) : OkD H ⟨0, fun _ _ => 0, [], 0⟩ := ⟨Nat.le_refl _, Nat.zero_le _, Nat.zero_le _, fun o ho => absurd (show o ∈ ([] : List Nat) from ho) List.not_mem_nil, fun k hk => absurd hk (Nat.not_lt_zero k)⟩
/-- the rows as a program -/
def pgD (D : DS) : PG := (D.n + 1, D.r)
theorem OkD.P {H : HS} {D : DS} (O : OkD H D) (h : D.op = []) : OkP H.nc H.cf H.cd (pgD D) := by
  have hb := O.b
  refine ⟨by show D.n + 1 ≤ 61; omega, fun k hk => ?_⟩
  have hk2 : k < D.n := by
    have : k + 1 < D.n + 1 := hk
    omega
  obtain ⟨a1, a2, a3, a4⟩ := O.2.2.2.2 k hk2
  obtain ⟨b0, b1, b2, b3, b4, b5, b6, b7, b8, b9, b10, -⟩ := a1
  refine ⟨b0, b1, b2, b3, b4, b5, b6, b7, b8, b9, b10, a2, fun z => ?_⟩
  rcases a3 z with q | q
  · rw [h] at q
    exact absurd q List.not_mem_nil
  · exact q
