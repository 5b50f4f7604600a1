/-! THE READER: names by 32, the beach that is read from -/
set_option maxRecDepth 100000
theorem ob {α β : Type} (v : α) (f : α → PR β) : (Except.ok v >>= f) = f v := rfl
theorem oe {α β : Type} (e : Nat × Nat) (f : α → PR β) : ((Except.error e : PR α) >>= f) = Except.error e := rfl
theorem ET.of {α β : Type} {C C2 : CS} {r : PR α} {s : PR β} (h : ET C r C2) (hs : ∀ f, r = .error f → s = .error f) : ET C s C2 := by
  obtain ⟨f, h1, h2⟩ := h
  exact ⟨f, hs f h1, h2⟩
theorem ET.up {α : Type} {C C1 C2 : CS} {r : PR α} (h : ET C1 r C2) (hR : RFr C C1) : ET C r C2 := by
  obtain ⟨f, h1, h2⟩ := h
  exact ⟨f, h1, h2.of hR⟩
theorem RFr.rr {C : CS} {n m : Nat} {q q2 : RQ} : RFr (rdS C n q) (rdS C m q2) := RFr.rd C m q2
theorem RFr.bd {C C1 : CS} {n m : Nat} {q q2 : RQ} {f : Nat × Nat} (h : C1 = bdS (rdS C n q) f) : RFr (rdS C m q2) C1 := by
  rw [h]
  exact (Bd.mk_ (f := f) (RFr.rd C n q)).1
theorem ET.mk_ {α : Type} {C C1 : CS} {n : Nat} {q : RQ} {f : Nat × Nat} {r : PR α} (hr : r = .error f) (h : C1 = bdS (rdS C n q) f) : ET C r C1 := ⟨f, hr, by
  rw [h]
  exact Bd.mk_ (RFr.rd C n q)⟩
/-- a cell of the component that the reader only reads -/
def At (C : CS) (a : Nat) (e : va_E) : Prop := (∃ j, 2 ≤ j ∧ a = od C 8 j ∧ oM C j = some e) ∨ oZ C a = some e
theorem At.get {g : GG} {σ : PH} {C : CS} {a : Nat} {e : va_E} (h : At C a e) (H : Hold g σ C) : ∃ t, σ.2 a = some (t, e) := by
  rcases h with ⟨j, h2, rfl, h3⟩ | h
  · exact ⟨_, H.get h3⟩
  · exact ⟨_, H.z h⟩
theorem At.rd {C : CS} {a n : Nat} {q : RQ} {e : va_E} (h : At C a e) : At (rdS C n q) a e := by
  rcases h with ⟨j, h2, rfl, h3⟩ | h
  · refine Or.inl ⟨j, h2, rfl, ?_⟩
    show va_up (oM C) 1 _ j = _
    rw [va_up_ne _ _ (by omega)]
    exact h3
  · exact Or.inr h
def n32 (w : List Nat) : Nat := w.foldl (fun v c => v * 32 + (c - 96)) 0
theorem n32_lt : ∀ (w : List Nat) (v : Nat), (∀ c ∈ w, 97 ≤ c ∧ c ≤ 122) → w.foldl (fun v c => v * 32 + (c - 96)) v < (v + 1) * 32 ^ w.length
  | [], v, _ => by simp
  | c :: r, v, h => by
    have h1 := n32_lt r (v * 32 + (c - 96)) (fun c hc => h c (List.mem_cons_of_mem _ hc))
    have h2 := h c List.mem_cons_self
    rw [List.foldl_cons, List.length_cons]
    refine Nat.lt_of_lt_of_le h1 ?_
    rw [Nat.pow_succ, Nat.mul_comm (32 ^ r.length) 32, ← Nat.mul_assoc]
    refine Nat.mul_le_mul_right _ ?_
    omega
theorem nmW_32 {w : List Nat} (h : NmW w) : n32 w < 2 ^ 62 := by
  have h1 := n32_lt w 0 h.2.2
  have h2 : 32 ^ w.length ≤ 32 ^ 8 := Nat.pow_le_pow_right (by omega) h.1
  have h3 : n32 w < (0 + 1) * 32 ^ w.length := h1
  have h4 : (32 : Nat) ^ 8 ≤ 2 ^ 62 := by decide
  omega
theorem n32_inj {u w : List Nat} (hu : NmW u) (hw : NmW w) (h : n32 u = n32 w) : u = w := by
  have h1 := fold_rvv 32 (fun c => c - 96) u
  have h2 := fold_rvv 32 (fun c => c - 96) w
  have h3 : rvv 32 (fun c => c - 96) u.reverse = rvv 32 (fun c => c - 96) w.reverse := h1.symm.trans (h.trans h2)
  have h4 := rvv_inj (B := 32) (d := fun c => c - 96) (P := fun c => 97 ≤ c ∧ c ≤ 122) (by omega) (fun c hc => ⟨by omega, by omega⟩) (fun a b ha hb h => by omega) u.reverse w.reverse (fun c hc => hu.2.2 c (List.mem_reverse.mp hc)) (fun c hc => hw.2.2 c (List.mem_reverse.mp hc)) h3
  have h5 := congrArg List.reverse h4
  rwa [List.reverse_reverse, List.reverse_reverse] at h5
/-- a text's part as a number, by 32 -/
def nm3 (X : TX) (a : Nat) : Nat → Nat
  | 0 => 0
  | j + 1 => nm3 X a j * 32 + (X.1 (a + j) - 96)
theorem nm3_eq (X : TX) (a : Nat) : ∀ j, n32 ((List.range j).map fun i => X.1 (a + i)) = nm3 X a j
  | 0 => rfl
  | j + 1 => by
    have := nm3_eq X a j
    unfold n32 at this ⊢
    rw [List.range_succ, List.map_append, List.foldl_append, this]
    rfl
theorem n32_wd (X : TX) (t : Tk) : n32 (wd X t) = nm3 X t.fr (t.to - t.fr) := nm3_eq X t.fr _
theorem lN_digit {v c : Nat} (h1 : 97 ≤ c) (h2 : c ≤ 122) : lN v * 32 + (b8 c).toInt64 - 96 = lN (v * 32 + (c - 96)) := by
  obtain ⟨d, rfl⟩ : ∃ d, c = d + 96 := ⟨c - 96, by omega⟩
  rw [b8_n (d + 96) (by omega), nI_l2 (by omega), Nat.add_sub_cancel]
  apply Int64.toBitVec_inj.mp
  rw [Int64.toBitVec_sub, Int64.toBitVec_add, Int64.toBitVec_mul]
  show BitVec.ofNat 64 v * BitVec.ofNat 64 32 + BitVec.ofNat 64 (d + 96) - BitVec.ofNat 64 96 = BitVec.ofNat 64 (v * 32 + d)
  rw [BitVec.ofNat_add, BitVec.ofNat_add, BitVec.ofNat_mul, ← BitVec.add_assoc, BitVec.add_sub_cancel]
/-- the beach at a has these names -/
def BeN (g : GG) (C : CS) (a cf cd : Nat) (nf nd : Nat → List Nat) : Prop := ∃ (fs : List Value) (x y : Nat) (p q : Nat → Int64), At C a (.inr (6, fs)) ∧ fs[3]? = some (.int (nI cf)) ∧ fs[4]? = some (.int (nI cd)) ∧ fs[7]? = some (.ref x) ∧ fs[8]? = some (.ref y) ∧ At C x (.inl (g.2.2.2 1, 6, .inr (.inl p))) ∧ At C y (.inl (g.2.2.2 1, 8, .inr (.inl q))) ∧ cf ≤ 6 ∧ cd ≤ 8 ∧ (∀ i, i < cf → p i = lN (n32 (nf i)) ∧ NmW (nf i)) ∧ ∀ i, i < cd → q i = lN (n32 (nd i)) ∧ NmW (nd i)
theorem BeN.rd {g : GG} {C : CS} {a cf cd n : Nat} {nf nd : Nat → List Nat} {q : RQ} (h : BeN g C a cf cd nf nd) : BeN g (rdS C n q) a cf cd nf nd := by
  obtain ⟨fs, x, y, p, r, h1, h2, h3, h4, h5, h6, h7, h8⟩ := h
  exact ⟨fs, x, y, p, r, h1.rd, h2, h3, h4, h5, h6.rd, h7.rd, h8⟩
