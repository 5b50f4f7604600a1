/-! DAYS: steps within steps (pure) -/
set_option maxRecDepth 100000
/-- steps are read until the depth is back at w -/
def itr (X : TX) (H : HS) (w : Nat) : Nat → DS → Tk → PR (DS × Tk)
  | 0, D, t => .ok (D, t)
  | j + 1, D, t => pStep X H D t >>= fun p => if p.1.op.length ≤ w then .ok p else itr X H w j p.1 p.2
def itF (X : TX) (H : HS) (w : Nat) (D : DS) (t : Tk) : PR (DS × Tk) := itr X H w (X.2 + 1) D t
def pF (X : TX) (H : HS) (D : DS) (t : Tk) : PR DS := pSteps X H (X.2 + 1) D t
section ITR
variable {X : TX} {H : HS} {D D2 : DS} {t t2 : Tk} {w : Nat}
theorem pStep_lt (OH : OkH H) (O : OkD H D) (h : OkT9 X t) (e : pStep X H D t = .ok (D2, t2)) : OkD H D2 ∧ OkT9 X t2 ∧ t.fr < t2.fr ∧ t2.fr ≤ X.2 := by
  obtain ⟨h1, h2, h3, h4⟩ := pStep_ok OH O h e
  have h5 := h3.ok.1
  have h6 := h3.ok.2.1
  exact ⟨h4, h3, h2, by omega⟩
theorem pStep_0 (h : t.so ≠ 2) : pStep X H D t = .error (flt t 2) := by
  have h1 : kix X t = 30 := by
    have h2 := kix_le X t
    by_cases h3 : kix X t < 30
    · exact absurd (kix_so h3) h
    · omega
  unfold pStep
  rw [if_pos (Or.inl ⟨by omega, by omega⟩)]
theorem itr_ind (OH : OkH H) : ∀ (j : Nat) (D : DS) (t : Tk), OkD H D → OkT9 X t → X.2 - t.fr < j → ∀ j2, X.2 - t.fr < j2 → itr X H w j D t = itr X H w j2 D t
  | 0, _, _, _, _, h, _, _ => absurd h (Nat.not_lt_zero _)
  | j + 1, D, t, O, h, hj, 0, h2 => absurd h2 (Nat.not_lt_zero _)
  | j + 1, D, t, O, h, hj, j2 + 1, h2 => by
    show (pStep X H D t >>= fun p => if p.1.op.length ≤ w then .ok p else itr X H w j p.1 p.2) = (pStep X H D t >>= fun p => if p.1.op.length ≤ w then .ok p else itr X H w j2 p.1 p.2)
    cases e : pStep X H D t with
    | error f => rfl
    | ok p =>
      obtain ⟨D2, t2⟩ := p
      have h3 := pStep_lt OH O h e
      show (if D2.op.length ≤ w then _ else itr X H w j D2 t2) = if D2.op.length ≤ w then _ else itr X H w j2 D2 t2
      by_cases hw : D2.op.length ≤ w
      · rw [if_pos hw, if_pos hw]
      · rw [if_neg hw, if_neg hw]
        exact itr_ind OH j D2 t2 h3.1 h3.2.1 (by omega) j2 (by omega)
theorem itF_eq (OH : OkH H) (O : OkD H D) (h : OkT9 X t) : itF X H w D t = pStep X H D t >>= fun p => if p.1.op.length ≤ w then .ok p else itF X H w p.1 p.2 := by
  show (pStep X H D t >>= fun p => if p.1.op.length ≤ w then .ok p else itr X H w X.2 p.1 p.2) = _
  cases e : pStep X H D t with
  | error f => rfl
  | ok p =>
    obtain ⟨D2, t2⟩ := p
    have h3 := pStep_lt OH O h e
    show (if D2.op.length ≤ w then _ else itr X H w X.2 D2 t2) = if D2.op.length ≤ w then _ else itr X H w (X.2 + 1) D2 t2
    by_cases hw : D2.op.length ≤ w
    · rw [if_pos hw, if_pos hw]
    · rw [if_neg hw, if_neg hw]
      exact itr_ind OH _ _ _ h3.1 h3.2.1 (by omega) _ (by omega)
theorem itF_in (OH : OkH H) : ∀ (n : Nat) (D : DS) (t : Tk), X.2 - t.fr < n → OkD H D → OkT9 X t → w < D.op.length → itF X H w D t = itF X H (w + 1) D t >>= fun p => if p.1.op.length ≤ w then .ok p else itF X H w p.1 p.2
  | 0, _, _, h, _, _, _ => absurd h (Nat.not_lt_zero _)
  | n + 1, D, t, hn, O, h, hl => by
    rw [itF_eq (w := w) OH O h, itF_eq (w := w + 1) OH O h]
    cases e : pStep X H D t with
    | error f => rfl
    | ok p =>
      obtain ⟨D2, t2⟩ := p
      have h3 := pStep_lt OH O h e
      show (if D2.op.length ≤ w then (.ok (D2, t2) : PR (DS × Tk)) else itF X H w D2 t2) = (if D2.op.length ≤ w + 1 then (.ok (D2, t2) : PR (DS × Tk)) else itF X H (w + 1) D2 t2) >>= fun p => if p.1.op.length ≤ w then .ok p else itF X H w p.1 p.2
      by_cases h1 : D2.op.length ≤ w
      · rw [if_pos h1, if_pos (show D2.op.length ≤ w + 1 by omega)]
        exact (if_pos h1).symm
      · rw [if_neg h1]
        by_cases h2 : D2.op.length ≤ w + 1
        · rw [if_pos h2]
          exact (if_neg h1).symm
        · rw [if_neg h2]
          exact itF_in OH n D2 t2 (by omega) h3.1 h3.2.1 (by omega)
theorem pS_ind (OH : OkH H) : ∀ (j : Nat) (D : DS) (t : Tk), OkD H D → OkT9 X t → X.2 - t.fr < j → ∀ j2, X.2 - t.fr < j2 → pSteps X H j D t = pSteps X H j2 D t
  | 0, _, _, _, _, h, _, _ => absurd h (Nat.not_lt_zero _)
  | j + 1, D, t, O, h, hj, 0, h2 => absurd h2 (Nat.not_lt_zero _)
  | j + 1, D, t, O, h, hj, j2 + 1, h2 => by
    rw [pSteps, pSteps]
    by_cases hs : t.so = 0
    · rw [if_pos hs, if_pos hs]
    · rw [if_neg hs, if_neg hs]
      cases e : pStep X H D t with
      | error f => rfl
      | ok p =>
        obtain ⟨D2, t2⟩ := p
        have h3 := pStep_lt OH O h e
        exact pS_ind OH j D2 t2 h3.1 h3.2.1 (by omega) j2 (by omega)
theorem pF_eq (OH : OkH H) (O : OkD H D) (h : OkT9 X t) : pF X H D t = if t.so = 0 then (if D.op = [] then .ok D else .error (flt t 2)) else pStep X H D t >>= fun p => pF X H p.1 p.2 := by
  conv => lhs; unfold pF
  rw [pSteps]
  by_cases hs : t.so = 0
  · rw [if_pos hs, if_pos hs]
  · rw [if_neg hs, if_neg hs]
    cases e : pStep X H D t with
    | error f => rfl
    | ok p =>
      obtain ⟨D2, t2⟩ := p
      have h3 := pStep_lt OH O h e
      exact pS_ind OH _ _ _ h3.1 h3.2.1 (by omega) _ (by omega)
theorem pF_it (OH : OkH H) : ∀ (n : Nat) (D : DS) (t : Tk), X.2 - t.fr < n → OkD H D → OkT9 X t → (t.so ≠ 0 ∨ D.op ≠ []) → pF X H D t = itF X H w D t >>= fun p => pF X H p.1 p.2
  | 0, _, _, h, _, _, _ => absurd h (Nat.not_lt_zero _)
  | n + 1, D, t, hn, O, h, hl => by
    rw [pF_eq OH O h, itF_eq OH O h]
    by_cases hs : t.so = 0
    · rw [if_pos hs, if_neg (by rcases hl with z | z; exact absurd hs z; exact z), pStep_0 (by omega)]
      rfl
    · rw [if_neg hs]
      cases e : pStep X H D t with
      | error f => rfl
      | ok p =>
        obtain ⟨D2, t2⟩ := p
        have h3 := pStep_lt OH O h e
        show pF X H D2 t2 = (if D2.op.length ≤ w then (.ok (D2, t2) : PR (DS × Tk)) else itF X H w D2 t2) >>= fun p => pF X H p.1 p.2
        by_cases hw : D2.op.length ≤ w
        · rw [if_pos hw]
          rfl
        · rw [if_neg hw]
          exact pF_it OH n D2 t2 (by omega) h3.1 h3.2.1 (Or.inr (fun z => hw (by rw [z]; exact Nat.zero_le _)))
/-- what a step that is read makes of the rows -/
theorem pStep_d (OH : OkH H) (O : OkD H D) (h : OkT9 X t) (e : pStep X H D t = .ok (D2, t2)) : ∃ q : RW4, D2 = dAdd D (kix X t) q ∧ OkQ H q ∧ (q.1 = kix X t ∨ (kix X t = 24 ∧ 2400 ≤ q.1)) ∧ (kix X t = 26 → D.op ≠ []) ∧ (kix X t ≠ 26 → D.ct < 30) ∧ (kix X t = 24 ∨ kix X t = 25 → D.op.length < 3) ∧ (kix X t = 1 ∨ (18 ≤ kix X t ∧ kix X t ≤ 27)) := by
  have hl := O.2.2.1
  have hc := O.2.1
  unfold pStep at e
  split at e
  · cases e
  · rename_i h1
    split at e
    · cases e
    · rename_i h2
      split at e
      · cases e
      · rename_i h3
        obtain ⟨⟨q, t3⟩, e3, e⟩ := bind_ok e
        have hk : kix X t = 1 ∨ (18 ≤ kix X t ∧ kix X t ≤ 27) := by omega
        have p0 := Pg_nx h
        have p3 := pOrder_ok OH p0.1 hk e3
        obtain ⟨t4, e4, e⟩ := bind_ok e
        cases e
        exact ⟨q, rfl, p3.2.2.1, p3.2.2.2, fun z w => h1 (Or.inr ⟨z, w⟩), fun z => by omega, fun z => by omega, hk⟩
end ITR
/-! well nested rows -/
theorem Sq.mono {P P2 : PG} {S S2 : Nat → Prop} : ∀ f k e, Sq P S f k e → (∀ i, k ≤ i → i < e → S i → S2 i ∧ nxt P2 i = nxt P i) → Sq P2 S2 f k e
  | 0, _, _, h, _ => h
  | f + 1, k, e, h, hS => by
    rcases h with h | ⟨h1, h2, h3, h4⟩
    · exact Or.inl h
    · have h5 := hS k (Nat.le_refl _) (by omega) h1
      exact Or.inr ⟨h5.1, by rw [h5.2]; exact h2, by rw [h5.2]; exact h3, by rw [h5.2]; exact Sq.mono f _ e h4 (fun i hi hie => hS i (by omega) hie)⟩
theorem Sq.fuel {P : PG} {S : Nat → Prop} : ∀ f k e, Sq P S f k e → ∀ f2, e - k ≤ f2 → Sq P S f2 k e
  | 0, k, e, h, f2, _ => by
    have h1 : k = e := h
    subst h1
    cases f2 with
    | zero => rfl
    | succ f2 => exact Or.inl rfl
  | f + 1, k, e, h, f2, hf => by
    rcases h with h | ⟨h1, h2, h3, h4⟩
    · subst h
      cases f2 with
      | zero => rfl
      | succ f2 => exact Or.inl rfl
    · cases f2 with
      | zero => omega
      | succ f2 => exact Or.inr ⟨h1, h2, h3, Sq.fuel f _ e h4 f2 (by omega)⟩
theorem Sq.snoc {P : PG} {S : Nat → Prop} : ∀ f k e e2, Sq P S f k e → S e → e < e2 → nxt P e = e2 → Sq P S (f + 1) k e2
  | 0, k, e, e2, h, hS, h1, h2 => by
    have h3 : k = e := h
    subst h3
    exact Or.inr ⟨hS, by omega, by omega, h2⟩
  | f + 1, k, e, e2, h, hS, h1, h2 => by
    rcases h with h | ⟨a1, a2, a3, a4⟩
    · subst h
      exact Or.inr ⟨hS, by omega, by omega, Or.inl h2⟩
    · exact Or.inr ⟨a1, a2, by omega, Sq.snoc f _ e e2 a4 hS h1 h2⟩
theorem Stq.mono {n n2 lo : Nat} {r r2 : Nat → Nat → Nat} (hn : n ≤ n2) (hr : ∀ i, lo ≤ i → i < n → r2 i = r i) : ∀ d k, lo ≤ k → Stq (n + 1, r) d k → Stq (n2 + 1, r2) d k ∧ nxt (n2 + 1, r2) k = nxt (n + 1, r) k
  | 0, _, _, h => absurd h id
  | d + 1, k, hk, h => by
    obtain ⟨h1, h2, h3⟩ := h
    have hk1 : k + 1 < n + 1 := h1
    have e : ∀ j, pr (n2 + 1, r2) k j = pr (n + 1, r) k j := fun j => congrFun (hr k hk (by omega)) j
    refine ⟨⟨show k + 1 < n2 + 1 by omega, by rw [e]; exact h2, fun hb => ?_⟩, by unfold nxt; rw [e, e]⟩
    rw [e] at hb
    obtain ⟨b1, b2, b3, b4, b5⟩ := h3 hb
    rw [e]
    have hc1 : pr (n + 1, r) k 4 + 1 < n + 1 := b2
    have e4 : ∀ j, pr (n2 + 1, r2) (pr (n + 1, r) k 4) j = pr (n + 1, r) (pr (n + 1, r) k 4) j := fun j => congrFun (hr _ (by omega) (by omega)) j
    exact ⟨b1, (show pr (n + 1, r) k 4 + 1 < n2 + 1 by omega), by rw [e4]; exact b3, by rw [e4]; exact b4, Sq.mono _ _ _ b5 (fun i hi hie hs => Stq.mono hn hr d i (by omega) hs)⟩
/-- rows whose open steps are op: each row of steps is whole as far as it goes -/
def Nst (r : Nat → Nat → Nat) : List Nat → Nat → Prop
  | [], n => Sq (n + 1, r) (Stq (n + 1, r) 4) n 0 n
  | o :: l, n => o < n ∧ (r o 0 = 25 ∨ 2400 ≤ r o 0) ∧ Sq (n + 1, r) (Stq (n + 1, r) (3 - l.length)) (n - (o + 1)) (o + 1) n ∧ Nst r l o
theorem Nst.mono {r r2 : Nat → Nat → Nat} : ∀ l n, Nst r l n → (∀ i, i < n → r2 i = r i) → Nst r2 l n
  | [], n, h, hr => Sq.mono _ _ _ h (fun i _ _ hs => Stq.mono (lo := 0) (Nat.le_refl _) (fun i _ hi => hr i hi) 4 i (Nat.zero_le _) hs)
  | o :: l, n, h, hr => by
    obtain ⟨h1, h2, h3, h4⟩ := h
    exact ⟨h1, by rw [hr o h1]; exact h2, Sq.mono _ _ _ h3 (fun i _ _ hs => Stq.mono (lo := 0) (Nat.le_refl _) (fun i _ hi => hr i hi) _ i (Nat.zero_le _) hs), Nst.mono l o h4 (fun i hi => hr i (by omega))⟩
theorem Nst.add {r r2 : Nat → Nat → Nat} {l : List Nat} {n n2 : Nat} (h : Nst r l n) (hr : ∀ i, i < n → r2 i = r i) (hn : n < n2) (hS : Stq (n2 + 1, r2) (4 - l.length) n) (hx : nxt (n2 + 1, r2) n = n2) : Nst r2 l n2 := by
  cases l with
  | nil =>
    have h1 : Sq (n2 + 1, r2) (Stq (n2 + 1, r2) 4) n 0 n := Sq.mono _ _ _ h (fun i _ _ hs => Stq.mono (lo := 0) (by omega) (fun i _ hi => hr i hi) 4 i (Nat.zero_le _) hs)
    exact Sq.fuel _ _ _ (Sq.snoc _ _ _ n2 h1 hS hn hx) _ (by omega)
  | cons o l =>
    obtain ⟨h1, h2, h3, h4⟩ := h
    have e : 4 - (o :: l).length = 3 - l.length := by
      rw [List.length_cons]
      omega
    rw [e] at hS
    have h5 : Sq (n2 + 1, r2) (Stq (n2 + 1, r2) (3 - l.length)) (n - (o + 1)) (o + 1) n := Sq.mono _ _ _ h3 (fun i _ _ hs => Stq.mono (lo := 0) (by omega) (fun i _ hi => hr i hi) _ i (Nat.zero_le _) hs)
    exact ⟨by omega, by rw [hr o h1]; exact h2, Sq.fuel _ _ _ (Sq.snoc _ _ _ n2 h5 hS hn hx) _ (by omega), Nst.mono l o h4 (fun i hi => hr i (by omega))⟩
theorem up4_fn {r : Nat → Nat → Nat} {k x i : Nat} (h : i ≠ k) : up4 r k x i = r i := funext fun _ => up4_ne (Or.inl h)
theorem dAdd_nst {H : HS} {D : DS} {k : Nat} {q : RW4} (O : OkD H D) (N : Nst D.r D.op D.n) (hq : OkQ H q) (hk : q.1 = k ∨ (k = 24 ∧ 2400 ≤ q.1)) (h26 : k = 26 → D.op ≠ []) (h3 : k = 24 ∨ k = 25 → D.op.length < 3) (hkb : k < 100) : Nst (dAdd D k q).r (dAdd D k q).op (dAdd D k q).n := by
  have hb := O.b
  obtain ⟨n, r, op, ct⟩ := D
  have O : OkD4 H n r op ct := O
  have N : Nst r op n := N
  have h26 : k = 26 → op ≠ [] := h26
  have hb : n + op.length ≤ 60 := hb
  have hl3 : op.length ≤ 3 := O.2.2.1
  have hq1 := hq.1
  unfold dAdd
  split
  · rename_i hop
    show Nst (upR r n (row4 q 0)) (n :: op) (n + 1)
    refine ⟨by omega, ?_, ?_, Nst.mono op n N (fun i hi => upR_ne (by omega))⟩
    · rw [upR_eq, (row4_q q 0).1]
      omega
    · rw [Nat.sub_self]
      rfl
  · rename_i hop
    split
    · rename_i h9
      obtain ⟨o, l, rfl⟩ : ∃ o l, op = o :: l := by
        cases op with
        | nil => exact absurd rfl (h26 h9)
        | cons o l => exact ⟨o, l, rfl⟩
      show Nst (up4 (upR r n (row4 q o)) o n) l (n + 1)
      obtain ⟨n1, n2, n3, n4⟩ := N
      have hll : (o :: l).length = l.length + 1 := rfl
      have e0 : ∀ j, j ≠ 4 → up4 (upR r n (row4 q o)) o n o j = r o j := fun j hj => by
        rw [up4_ne (Or.inr hj), upR_ne (by omega)]
      have en : ∀ j, up4 (upR r n (row4 q o)) o n n j = row4 q o j := fun j => by
        rw [up4_ne (Or.inl (by omega)), upR_eq]
      have e4 : up4 (upR r n (row4 q o)) o n o 4 = n := up4_eq
      refine Nst.add n4 (fun i hi => ?_) (by omega) ?_ ?_
      · rw [up4_fn (by omega)]
        exact upR_ne (by omega)
      · rw [show 4 - l.length = (3 - l.length) + 1 by omega]
        refine ⟨show o + 1 < n + 1 + 1 by omega, ?_, fun _ => ?_⟩
        · show up4 (upR r n (row4 q o)) o n o 0 ≠ 26
          rw [e0 0 (by decide)]
          omega
        · show o < up4 (upR r n (row4 q o)) o n o 4 ∧ up4 (upR r n (row4 q o)) o n o 4 + 1 < n + 1 + 1 ∧ up4 (upR r n (row4 q o)) o n (up4 (upR r n (row4 q o)) o n o 4) 0 = 26 ∧ up4 (upR r n (row4 q o)) o n (up4 (upR r n (row4 q o)) o n o 4) 4 = o ∧ Sq _ _ 61 (o + 1) (up4 (upR r n (row4 q o)) o n o 4)
          rw [e4, en, en]
          refine ⟨n1, by omega, ?_, rfl, ?_⟩
          · show q.1 = 26
            omega
          · refine Sq.fuel _ _ _ (Sq.mono _ _ _ n3 (fun i hi hie hs => Stq.mono (lo := o + 1) (by omega) (fun i h1 h2 => ?_) _ i hi hs)) _ (by omega)
            rw [up4_fn (by omega)]
            exact upR_ne (by omega)
      · show (if up4 (upR r n (row4 q o)) o n o 0 = 25 ∨ 2400 ≤ up4 (upR r n (row4 q o)) o n o 0 then up4 (upR r n (row4 q o)) o n o 4 + 1 else o + 1) = n + 1
        rw [e0 0 (by decide), if_pos n2, e4]
    · rename_i h9
      show Nst (upR r n (row4 q 0)) op (n + 1)
      have hq1 : q.1 = k := by omega
      have e0 : upR r n (row4 q 0) n 0 = k := by
        rw [upR_eq]
        exact hq1
      refine Nst.add N (fun i hi => upR_ne (by omega)) (by omega) ?_ ?_
      · rw [show 4 - op.length = (3 - op.length) + 1 by omega]
        refine ⟨show n + 1 < n + 1 + 1 by omega, ?_, fun hb9 => ?_⟩
        · show upR r n (row4 q 0) n 0 ≠ 26
          rw [e0]
          exact h9
        · have hb8 : upR r n (row4 q 0) n 0 = 25 ∨ 2400 ≤ upR r n (row4 q 0) n 0 := hb9
          rw [e0] at hb8
          omega
      · show (if upR r n (row4 q 0) n 0 = 25 ∨ 2400 ≤ upR r n (row4 q 0) n 0 then _ else n + 1) = n + 1
        rw [e0]
        exact if_neg (by omega)
theorem pF_nst {X : TX} {H : HS} (OH : OkH H) : ∀ (m : Nat) (D : DS) (t : Tk), X.2 - t.fr < m → OkD H D → OkT9 X t → Nst D.r D.op D.n → ∀ D2, pF X H D t = .ok D2 → D2.op = [] ∧ Nst D2.r D2.op D2.n ∧ OkD H D2 ∧ D.ct ≤ D2.ct
  | 0, _, _, h, _, _, _, _, _ => absurd h (Nat.not_lt_zero _)
  | m + 1, D, t, hm, O, h, N, D2, e => by
    rw [pF_eq OH O h] at e
    by_cases hs : t.so = 0
    · rw [if_pos hs] at e
      by_cases ho : D.op = []
      · rw [if_pos ho] at e
        cases e
        exact ⟨ho, N, O, Nat.le_refl _⟩
      · rw [if_neg ho] at e
        cases e
    · rw [if_neg hs] at e
      obtain ⟨⟨D1, t1⟩, e1, e⟩ := bind_ok e
      have h3 := pStep_lt OH O h e1
      obtain ⟨q, rfl, q2, q3, q4, q5, q6, q7⟩ := pStep_d OH O h e1
      have h4 := pF_nst OH m _ t1 (by omega) h3.1 h3.2.1 (dAdd_nst O N q2 q3 q4 q6 (by omega)) D2 e
      refine ⟨h4.1, h4.2.1, h4.2.2.1, Nat.le_trans ?_ h4.2.2.2⟩
      unfold dAdd
      split
      · exact Nat.le_succ _
      · split
        · exact Nat.le_refl _
        · exact Nat.le_succ _
theorem itF_nst {X : TX} {H : HS} {w : Nat} (OH : OkH H) : ∀ (m : Nat) (D : DS) (t : Tk), X.2 - t.fr < m → OkD H D → OkT9 X t → Nst D.r D.op D.n → ∀ D2 t2, itF X H w D t = .ok (D2, t2) → Nst D2.r D2.op D2.n
  | 0, _, _, h, _, _, _, _, _, _ => absurd h (Nat.not_lt_zero _)
  | m + 1, D, t, hm, O, h, N, D2, t2, e => by
    rw [itF_eq OH O h] at e
    obtain ⟨⟨D1, t1⟩, e1, e⟩ := bind_ok e
    have h3 := pStep_lt OH O h e1
    obtain ⟨q, hD1, q2, q3, q4, q5, q6, q7⟩ := pStep_d OH O h e1
    have n1 : Nst D1.r D1.op D1.n := by
      rw [hD1]
      exact dAdd_nst O N q2 q3 q4 q6 (by omega)
    have e2 : (if D1.op.length ≤ w then (.ok (D1, t1) : PR (DS × Tk)) else itF X H w D1 t1) = .ok (D2, t2) := e
    by_cases hw : D1.op.length ≤ w
    · rw [if_pos hw] at e2
      cases e2
      exact n1
    · rw [if_neg hw] at e2
      exact itF_nst OH m D1 t1 (by omega) h3.1 h3.2.1 n1 D2 t2 e2
/-- what has been read: the rows are well nested -/
theorem pDays_nst {X : TX} {H : HS} (OH : OkH H) {D : DS} (e : pDays X H = .ok D) : OkD H D ∧ D.op = [] ∧ Sq (pgD D) (Stq (pgD D) 4) 61 0 D.n := by
  have h := pF_nst OH (X.2 + 1) ⟨0, fun _ _ => 0, [], 0⟩ (tok X 0) (by omega) (OkD.new H) ⟨0, Nat.zero_le _, rfl⟩ (show Nst (fun _ _ => 0) [] 0 from rfl) D e
  obtain ⟨h1, h2, h3, -⟩ := h
  rw [h1] at h2
  have hb := h3.b
  exact ⟨h3, h1, Sq.fuel _ _ _ h2 61 (by omega)⟩
/-! one step: what it leaves as it was -/
section ONE
variable {X : TX} {H : HS} {w : Nat}
theorem itF_cl (OH : OkH H) : ∀ (m : Nat) (D : DS) (t : Tk), X.2 - t.fr < m → OkD H D → OkT9 X t → ∀ (l1 l2 : List Nat) (n0 : Nat), D.op = l1 ++ l2 → l1 ≠ [] → (∀ o ∈ l1, n0 ≤ o) → n0 ≤ D.n → ∀ D2 t2, itF X H l2.length D t = .ok (D2, t2) → D2.op = l2 ∧ (∀ j, j < n0 → D2.r j = D.r j) ∧ D.n < D2.n ∧ D.ct ≤ D2.ct ∧ OkD H D2 ∧ OkT9 X t2 ∧ t.fr < t2.fr
  | 0, _, _, h, _, _, _, _, _, _, _, _, _, _, _, _ => absurd h (Nat.not_lt_zero _)
  | m + 1, D, t, hm, O, h, l1, l2, n0, hop, hl1, hlo, hn0, D2, t2, e => by
    rw [itF_eq OH O h] at e
    obtain ⟨⟨D1, t1⟩, e1, e⟩ := bind_ok e
    have h3 := pStep_lt OH O h e1
    obtain ⟨q, hD1, q2, q3, q4, q5, q6, q7⟩ := pStep_d OH O h e1
    have e2 : (if D1.op.length ≤ l2.length then (.ok (D1, t1) : PR (DS × Tk)) else itF X H l2.length D1 t1) = .ok (D2, t2) := e
    obtain ⟨n, r, op, ct⟩ := D
    have hop : op = l1 ++ l2 := hop
    have hn0 : n0 ≤ n := hn0
    subst hop
    have hl1p : 0 < l1.length := List.length_pos_iff.mpr hl1
    by_cases c1 : kix X t = 24 ∨ kix X t = 25
    · have hD : D1 = ⟨n + 1, upR r n (row4 q 0), n :: (l1 ++ l2), ct + 1⟩ := by rw [hD1, dAdd, if_pos c1]
      rw [hD] at e2 h3
      have hlen : (n :: (l1 ++ l2)).length = l1.length + l2.length + 1 := by rw [List.length_cons, List.length_append]
      rw [if_neg (show ¬ (n :: (l1 ++ l2)).length ≤ l2.length by omega)] at e2
      have g := itF_cl OH m ⟨n + 1, upR r n (row4 q 0), n :: (l1 ++ l2), ct + 1⟩ t1 (by omega) h3.1 h3.2.1 (n :: l1) l2 n0 rfl (by simp) (fun o ho => by
        rcases List.mem_cons.mp ho with rfl | ho
        · exact hn0
        · exact hlo o ho) (show n0 ≤ n + 1 by omega) D2 t2 e2
      obtain ⟨g1, g2, g3, g4, g5, g6, g7⟩ := g
      have g3 : n + 1 < D2.n := g3
      have g4 : ct + 1 ≤ D2.ct := g4
      exact ⟨g1, fun j hj => (g2 j hj).trans (upR_ne (show j ≠ n by omega)), (show n < D2.n by omega), (show ct ≤ D2.ct by omega), g5, g6, by omega⟩
    · by_cases c2 : kix X t = 26
      · obtain ⟨o, l3, rfl⟩ : ∃ o l3, l1 = o :: l3 := by
          cases l1 with
          | nil => exact absurd rfl hl1
          | cons o l => exact ⟨o, l, rfl⟩
        have hD : D1 = ⟨n + 1, up4 (upR r n (row4 q o)) o n, l3 ++ l2, ct⟩ := by
          rw [hD1, dAdd, if_neg c1, if_pos c2]
          rfl
        rw [hD] at e2 h3
        have ho := hlo o List.mem_cons_self
        have hro : ∀ j, j < n0 → up4 (upR r n (row4 q o)) o n j = r j := fun j hj => by
          rw [up4_fn (by omega)]
          exact upR_ne (by omega)
        by_cases c3 : l3 = []
        · subst c3
          rw [if_pos (show (([] : List Nat) ++ l2).length ≤ l2.length by simp)] at e2
          cases e2
          exact ⟨rfl, hro, Nat.lt_succ_self _, Nat.le_refl _, h3.1, h3.2.1, h3.2.2.1⟩
        · have hp3 : 0 < l3.length := List.length_pos_iff.mpr c3
          rw [if_neg (show ¬ (l3 ++ l2).length ≤ l2.length by rw [List.length_append]; omega)] at e2
          have g := itF_cl OH m ⟨n + 1, up4 (upR r n (row4 q o)) o n, l3 ++ l2, ct⟩ t1 (by omega) h3.1 h3.2.1 l3 l2 n0 rfl c3 (fun o ho => hlo o (List.mem_cons_of_mem _ ho)) (show n0 ≤ n + 1 by omega) D2 t2 e2
          obtain ⟨g1, g2, g3, g4, g5, g6, g7⟩ := g
          have g3 : n + 1 < D2.n := g3
          have g4 : ct ≤ D2.ct := g4
          exact ⟨g1, fun j hj => (g2 j hj).trans (hro j hj), (show n < D2.n by omega), g4, g5, g6, by omega⟩
      · have hD : D1 = ⟨n + 1, upR r n (row4 q 0), l1 ++ l2, ct + 1⟩ := by rw [hD1, dAdd, if_neg c1, if_neg c2]
        rw [hD] at e2 h3
        rw [if_neg (show ¬ (l1 ++ l2).length ≤ l2.length by rw [List.length_append]; omega)] at e2
        have g := itF_cl OH m ⟨n + 1, upR r n (row4 q 0), l1 ++ l2, ct + 1⟩ t1 (by omega) h3.1 h3.2.1 l1 l2 n0 rfl hl1 hlo (show n0 ≤ n + 1 by omega) D2 t2 e2
        obtain ⟨g1, g2, g3, g4, g5, g6, g7⟩ := g
        have g3 : n + 1 < D2.n := g3
        have g4 : ct + 1 ≤ D2.ct := g4
        exact ⟨g1, fun j hj => (g2 j hj).trans (upR_ne (show j ≠ n by omega)), (show n < D2.n by omega), (show ct ≤ D2.ct by omega), g5, g6, by omega⟩
theorem itF_st (OH : OkH H) {D D2 : DS} {t t2 : Tk} (O : OkD H D) (h : OkT9 X t) (h26 : kix X t ≠ 26 ∨ D.op = []) (e : itF X H D.op.length D t = .ok (D2, t2)) : D2.op = D.op ∧ (∀ j, j < D.n → D2.r j = D.r j) ∧ D.n < D2.n ∧ D.ct < D2.ct ∧ OkD H D2 ∧ OkT9 X t2 ∧ t.fr < t2.fr := by
  have e0 := e
  rw [itF_eq OH O h] at e
  obtain ⟨⟨D1, t1⟩, e1, e⟩ := bind_ok e
  have h3 := pStep_lt OH O h e1
  obtain ⟨q, hD1, q2, q3, q4, q5, q6, q7⟩ := pStep_d OH O h e1
  obtain ⟨n, r, op, ct⟩ := D
  have e2 : (if D1.op.length ≤ op.length then (.ok (D1, t1) : PR (DS × Tk)) else itF X H op.length D1 t1) = .ok (D2, t2) := e
  have h26 : kix X t ≠ 26 := by
    rcases h26 with z | z
    · exact z
    · exact fun y => q4 y z
  by_cases c1 : kix X t = 24 ∨ kix X t = 25
  · have hD : D1 = ⟨n + 1, upR r n (row4 q 0), n :: op, ct + 1⟩ := by rw [hD1, dAdd, if_pos c1]
    rw [hD] at e2 h3
    rw [if_neg (show ¬ (n :: op).length ≤ op.length by rw [List.length_cons]; omega)] at e2
    have g := itF_cl OH (X.2 + 1) ⟨n + 1, upR r n (row4 q 0), n :: op, ct + 1⟩ t1 (by omega) h3.1 h3.2.1 [n] op n rfl (by simp) (fun o ho => by
      rw [List.mem_singleton.mp ho]
      exact Nat.le_refl _) (show n ≤ n + 1 by omega) D2 t2 e2
    obtain ⟨g1, g2, g3, g4, g5, g6, g7⟩ := g
    have g3 : n + 1 < D2.n := g3
    have g4 : ct + 1 ≤ D2.ct := g4
    exact ⟨g1, fun j hj => (g2 j hj).trans (upR_ne (show j ≠ n from Nat.ne_of_lt hj)), (show n < D2.n by omega), (show ct < D2.ct by omega), g5, g6, by omega⟩
  · have hD : D1 = ⟨n + 1, upR r n (row4 q 0), op, ct + 1⟩ := by rw [hD1, dAdd, if_neg c1, if_neg h26]
    rw [hD] at e2 h3
    rw [if_pos (Nat.le_refl _)] at e2
    cases e2
    exact ⟨rfl, fun j hj => upR_ne (show j ≠ n from Nat.ne_of_lt hj), Nat.lt_succ_self _, Nat.lt_succ_self _, h3.1, h3.2.1, h3.2.2.1⟩
/-- the pieces of a step, as the reader comes to them -/
theorem it_no {D : DS} {t : Tk} (OH : OkH H) (O : OkD H D) (h : OkT9 X t) {f : Nat × Nat} (e : pStep X H D t = .error f) : itF X H w D t = .error f := by
  rw [itF_eq OH O h, e]
  rfl
theorem ps_1 {D : DS} {t : Tk} (h : (kix X t ≠ 1 ∧ (kix X t < 18 ∨ 27 < kix X t)) ∨ (kix X t = 26 ∧ D.op = [])) : pStep X H D t = .error (flt t 2) := by
  unfold pStep
  rw [if_pos h]
theorem ps_2 {D : DS} {t : Tk} (h : ¬ ((kix X t ≠ 1 ∧ (kix X t < 18 ∨ 27 < kix X t)) ∨ (kix X t = 26 ∧ D.op = []))) (h2 : kix X t ≠ 26) (h3 : D.ct = 30) : pStep X H D t = .error (6, t.fr) := by
  have hs := kix_so (X := X) (t := t) (by omega)
  unfold pStep
  rw [if_neg h, if_pos ⟨h2, h3⟩, flt_of (by omega)]
theorem ps_3 {D : DS} {t : Tk} (h : ¬ ((kix X t ≠ 1 ∧ (kix X t < 18 ∨ 27 < kix X t)) ∨ (kix X t = 26 ∧ D.op = []))) (h3 : D.ct ≠ 30) (h4 : kix X t = 24 ∨ kix X t = 25) (h5 : D.op.length = 3) : pStep X H D t = .error (7, t.fr) := by
  have hs := kix_so (X := X) (t := t) (by omega)
  unfold pStep
  rw [if_neg h, if_neg (fun z => h3 z.2), if_pos ⟨h4, h5⟩, flt_of (by omega)]
theorem ps_4 {D : DS} {t : Tk} (h : ¬ ((kix X t ≠ 1 ∧ (kix X t < 18 ∨ 27 < kix X t)) ∨ (kix X t = 26 ∧ D.op = []))) (h3 : kix X t ≠ 26 → D.ct ≠ 30) (h5 : kix X t = 24 ∨ kix X t = 25 → D.op.length ≠ 3) : pStep X H D t = pOrder X H (kix X t) (nx X t) >>= fun p => wSign X 59 p.2 >>= fun t3 => .ok (dAdd D (kix X t) p.1, t3) := by
  unfold pStep
  rw [if_neg h, if_neg (fun z => h3 z.1 z.2), if_neg (fun z => h5 z.1 z.2)]
theorem dAdd_pl {D : DS} {k : Nat} {q : RW4} (h : k ≠ 24 ∧ k ≠ 25 ∧ k ≠ 26) : dAdd D k q = ⟨D.n + 1, upR D.r D.n (row4 q 0), D.op, D.ct + 1⟩ := by
  unfold dAdd
  rw [if_neg (by omega), if_neg (by omega)]
theorem dAdd_bl {D : DS} {k : Nat} {q : RW4} (h : k = 24 ∨ k = 25) : dAdd D k q = ⟨D.n + 1, upR D.r D.n (row4 q 0), D.n :: D.op, D.ct + 1⟩ := by
  unfold dAdd
  rw [if_pos h]
/-- a step that holds none -/
theorem it_pl {D : DS} {t : Tk} (OH : OkH H) (O : OkD H D) (h : OkT9 X t) (hk : kix X t = 1 ∨ (18 ≤ kix X t ∧ kix X t ≤ 23) ∨ kix X t = 27) (hc : D.ct ≠ 30) : itF X H D.op.length D t = pOrder X H (kix X t) (nx X t) >>= fun p => wSign X 59 p.2 >>= fun t3 => .ok (dAdd D (kix X t) p.1, t3) := by
  rw [itF_eq OH O h, ps_4 (by omega) (fun _ => hc) (fun z => by omega)]
  cases pOrder X H (kix X t) (nx X t) with
  | error f => rfl
  | ok p =>
    obtain ⟨q, t2⟩ := p
    show ((wSign X 59 t2 >>= fun t3 => .ok (dAdd D (kix X t) q, t3)) >>= _ : PR (DS × Tk)) = (wSign X 59 t2 >>= fun t3 => .ok (dAdd D (kix X t) q, t3) : PR (DS × Tk))
    cases wSign X 59 t2 with
    | error f => rfl
    | ok t3 =>
      show (if (dAdd D (kix X t) q).op.length ≤ D.op.length then _ else _) = _
      rw [dAdd_pl (by omega), if_pos (Nat.le_refl _)]
      rfl
/-- a step that holds others, up to its head -/
theorem it_bl {D : DS} {t : Tk} (OH : OkH H) (O : OkD H D) (h : OkT9 X t) (hk : kix X t = 24 ∨ kix X t = 25) (hc : D.ct ≠ 30) (h3 : D.op.length ≠ 3) : itF X H D.op.length D t = pOrder X H (kix X t) (nx X t) >>= fun p => wSign X 59 p.2 >>= fun t3 => itF X H D.op.length (dAdd D (kix X t) p.1) t3 := by
  rw [itF_eq OH O h, ps_4 (by omega) (fun _ => hc) (fun _ => h3)]
  cases pOrder X H (kix X t) (nx X t) with
  | error f => rfl
  | ok p =>
    obtain ⟨q, t2⟩ := p
    show ((wSign X 59 t2 >>= fun t3 => .ok (dAdd D (kix X t) q, t3)) >>= _ : PR (DS × Tk)) = (wSign X 59 t2 >>= fun t3 => itF X H D.op.length (dAdd D (kix X t) q) t3 : PR (DS × Tk))
    cases wSign X 59 t2 with
    | error f => rfl
    | ok t3 =>
      show (if (dAdd D (kix X t) q).op.length ≤ D.op.length then _ else _) = _
      rw [dAdd_bl hk, if_neg (by rw [List.length_cons]; omega)]
      rfl
/-- the end of steps within a step -/
theorem it_en {D : DS} {t : Tk} {o : Nat} {l : List Nat} (OH : OkH H) (O : OkD H D) (h : OkT9 X t) (hk : kix X t = 26) (hop : D.op = o :: l) : itF X H l.length D t = wSign X 59 (nx X t) >>= fun t3 => .ok (dAdd D 26 (26, 0, 0, 0), t3) := by
  rw [itF_eq OH O h, ps_4 (by rw [hop]; rintro (z | z); omega; exact absurd z.2 (by simp)) (fun z => absurd hk z) (fun z => by omega), hk, show pOrder X H 26 (nx X t) = .ok ((26, 0, 0, 0), nx X t) from rfl]
  show ((wSign X 59 (nx X t) >>= fun t3 => .ok (dAdd D 26 (26, 0, 0, 0), t3)) >>= _ : PR (DS × Tk)) = _
  cases wSign X 59 (nx X t) with
  | error f => rfl
  | ok t3 =>
    show (if (dAdd D 26 (26, 0, 0, 0)).op.length ≤ l.length then _ else _) = _
    rw [show (dAdd D 26 (26, 0, 0, 0)).op = l by unfold dAdd; rw [if_neg (by omega), if_pos rfl]; show D.op.tail = l; rw [hop]; rfl, if_pos (Nat.le_refl _)]
    rfl
/-- a step within -/
theorem it_sub {D : DS} {t : Tk} {o : Nat} {l : List Nat} (OH : OkH H) (O : OkD H D) (h : OkT9 X t) (hk : kix X t ≠ 26) (hop : D.op = o :: l) : itF X H l.length D t = itF X H D.op.length D t >>= fun p => itF X H l.length p.1 p.2 := by
  have hll : D.op.length = l.length + 1 := by rw [hop]; rfl
  rw [itF_in OH (X.2 + 1) D t (by omega) O h (by omega), ← hll]
  cases e : itF X H D.op.length D t with
  | error f => rfl
  | ok p =>
    obtain ⟨D2, t2⟩ := p
    have g := itF_st OH O h (Or.inl hk) e
    show (if D2.op.length ≤ l.length then _ else _) = _
    rw [if_neg (by rw [g.1]; omega)]
    rfl
/-- how many steps have been counted at the end (30: it fails) -/
def ctE (r : PR (DS × Tk)) : Nat := match r with
  | .ok p => p.1.ct
  | .error _ => 30
theorem ctE_ge {D : DS} {t : Tk} (OH : OkH H) (O : OkD H D) (h : OkT9 X t) (h26 : kix X t ≠ 26 ∨ D.op = []) : D.ct ≤ ctE (itF X H D.op.length D t) := by
  cases e : itF X H D.op.length D t with
  | error f => exact O.2.1
  | ok p => exact Nat.le_of_lt (itF_st OH O h h26 e).2.2.2.1
theorem ctE_le {D : DS} {t : Tk} {w : Nat} (OH : OkH H) (O : OkD H D) (h : OkT9 X t) (n0 : Nat) {o : Nat} {l : List Nat} (hw : w = l.length) (hop : D.op = o :: l) : D.ct ≤ ctE (itF X H w D t) := by
  subst hw
  cases e : itF X H l.length D t with
  | error f => exact O.2.1
  | ok p => exact (itF_cl OH (X.2 + 1) D t (by omega) O h [o] l 0 hop (by simp) (fun _ _ => Nat.zero_le _) (Nat.zero_le _) _ _ e).2.2.2.1
def ctF (r : PR DS) : Nat := match r with
  | .ok D => D.ct
  | .error _ => 30
end ONE
