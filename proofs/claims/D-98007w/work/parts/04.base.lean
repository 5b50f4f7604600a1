/-! BASE LAYER. A judgement with its contexts hidden, over a heap that is a function from addresses to tagged cells. -/
set_option maxRecDepth 100000
/-- the run's fixed things: the launch, the state in which the law was entered, where classes and fields lie, the classes of arrays -/
abbrev GG : Type := Launch × State × va_G × (Nat → ClassId)
abbrev Tg : Type := Nat × Nat
/-- a heap: its size, and what of it is known -/
abbrev PH : Type := Nat × (Nat → Option (Tg × va_E))
def gz (g : GG) : Nat := g.2.1.heap.size
abbrev xCl : List vw_C := [(RX0, TX0, 23), (RX1, TX1, 1), (RX2, TX2, 8), (RX3, TX3, 7), (RX4, TX4, 2), (RX5, TX5, 9), (RX6, TX6, 17), (RX7, TX7, 3), (RX8, TX8, 38), (RX9, TX9, 8), (RX12, TX12, 3), (RX13, TX13, 7), (RX14, TX14, 3), (RX15, TX15, 9)]
def xTys (ar : Nat → ClassId) : List (ClassId × FieldType) := [(ar 0, .int), (ar 1, .long), (ar 2, .byte), (ar 3, .short), (ar 4, .object RX1), (ar 5, .object RX7), (ar 6, .object RX4), (ar 7, .object RX10)]
/-- words that ride in no list -/
def isNw : Cond → Bool
  | .fieldLinkNest .. => true
  | .methodLinkNest .. => true
  | .castable .. => true
  | .declares .. => true
  | _ => false
/-- what can't be cast -/
def ncL : List (String × String) := [("LastPebble$Refused", "java/lang/NegativeArraySizeException"), ("LastPebble$Refused", "java/lang/ArrayIndexOutOfBoundsException"), ("LastPebble$Refused", "java/lang/IndexOutOfBoundsException"), ("[S", "[B"), ("[I", "[B"), ("[I", "[S"), ("[J", "[B"), ("[J", "[S"), ("[J", "[I")]
def skL : List (String × Nat × String × List Int32) := [("LastPebbleModel", 178, " beach tide moon finder find pebble duel at pace pebbles worth of on none first last share to go set wait lift gull wave when loop end stop leads free ", [32, 98, 101, 97, 99, 104, 32, 116, 105, 100, 101, 32, 109, 111, 111, 110, 32, 102, 105, 110, 100, 101, 114, 32, 102, 105, 110, 100, 32, 112, 101, 98, 98, 108, 101, 32, 100, 117, 101, 108, 32, 97, 116, 32, 112, 97, 99, 101, 32, 112, 101, 98, 98, 108, 101, 115, 32, 119, 111, 114, 116, 104, 32, 111, 102, 32, 111, 110, 32, 110, 111, 110, 101, 32, 102, 105, 114, 115, 116, 32, 108, 97, 115, 116, 32, 115, 104, 97, 114, 101, 32, 116, 111, 32, 103, 111, 32, 115, 101, 116, 32, 119, 97, 105, 116, 32, 108, 105, 102, 116, 32, 103, 117, 108, 108, 32, 119, 97, 118, 101, 32, 119, 104, 101, 110, 32, 108, 111, 111, 112, 32, 101, 110, 100, 32, 115, 116, 111, 112, 32, 108, 101, 97, 100, 115, 32, 102, 114, 101, 101, 32]),
  ("LastPebble$Reader", 83, "go", [103, 111]),
  ("LastPebble$Reader", 85, "set", [115, 101, 116]),
  ("LastPebble$Reader", 87, "wait", [119, 97, 105, 116]),
  ("LastPebble$Reader", 89, "lift", [108, 105, 102, 116]),
  ("LastPebble$Reader", 91, "gull", [103, 117, 108, 108]),
  ("LastPebble$Reader", 93, "wave", [119, 97, 118, 101]),
  ("LastPebble$Reader", 95, "tide", [116, 105, 100, 101]),
  ("LastPebble$Reader", 97, "stop", [115, 116, 111, 112]),
  ("LastPebble$Reader", 99, "none", [110, 111, 110, 101]),
  ("LastPebble$Reader", 101, "first", [102, 105, 114, 115, 116]),
  ("LastPebble$Reader", 103, "last", [108, 97, 115, 116]),
  ("LastPebble$Reader", 105, "share", [115, 104, 97, 114, 101]),
  ("LastPebble$Reader", 107, "beach", [98, 101, 97, 99, 104]),
  ("LastPebble$Reader", 109, "moon", [109, 111, 111, 110]),
  ("LastPebble$Reader", 111, "finder", [102, 105, 110, 100, 101, 114]),
  ("LastPebble$Reader", 113, "at", [97, 116]),
  ("LastPebble$Reader", 114, "pace", [112, 97, 99, 101]),
  ("LastPebble$Reader", 116, "pebbles", [112, 101, 98, 98, 108, 101, 115]),
  ("LastPebble$Reader", 118, "find", [102, 105, 110, 100]),
  ("LastPebble$Reader", 120, "worth", [119, 111, 114, 116, 104]),
  ("LastPebble$Reader", 122, "pebble", [112, 101, 98, 98, 108, 101]),
  ("LastPebble$Reader", 124, "of", [111, 102]),
  ("LastPebble$Reader", 126, "on", [111, 110]),
  ("LastPebble$Reader", 128, "duel", [100, 117, 101, 108]),
  ("LastPebble$Reader", 130, "to", [116, 111]),
  ("LastPebble$Reader", 132, "when", [119, 104, 101, 110]),
  ("LastPebble$Reader", 134, "leads", [108, 101, 97, 100, 115]),
  ("LastPebble$Reader", 136, "free", [102, 114, 101, 101]),
  ("LastPebble$Reader", 138, "loop", [108, 111, 111, 112]),
  ("LastPebble$Reader", 140, "end", [101, 110, 100])]
/-- where a String constant lies -/
def sa (g : GG) (i : Nat) : Nat := match skL[i]? with
  | some x => (match (Term.string x.1 x.2.1).eval #[] g.2.1 none [] g.2.1 with
    | some (.ref a) => a
    | _ => 0)
  | none => 0
abbrev gA (g : GG) : Nat → Prop := fun q => gz g ≤ q
def StrG (g : GG) : Prop := va_Z "java/lang/String" "COMPACT_STRINGS" "Z" (.int 1) (gA g) g.2.1 g.2.1.heap ∧ va_Zq "jdk/internal/util/Preconditions" "SIOOBE_FORMATTER" "Ljava/util/function/BiFunction;" (gA g) g.2.1 g.2.1.heap ∧
  ∀ (i : Nat) (x : String × Nat × String × List Int32), skL[i]? = some x → vk_R x.1 x.2.1 x.2.2.1 (sa g i) g.2.1 ∧ va_O "java/lang/String" (sa g i) (gA g) g.2.1 g.2.1.heap ∧ va_OF "java/lang/String" "coder" "B" (.int 0) (sa g i) (gA g) g.2.1 g.2.1.heap ∧
    ∃ v : Nat, va_OF "java/lang/String" "value" "[B" (.ref v) (sa g i) (gA g) g.2.1 g.2.1.heap ∧ va_T .byte v x.2.2.2.length (fun j => .int (x.2.2.2.getD j 0)) (gA g) g.2.1 g.2.1.heap
def GoodG (g : GG) : Prop := (∀ w ∈ lw_tbl, ∃ A : Array Value, w.before A g.2.1 = true) ∧ va_K g.2.2.1 xCl (xTys g.2.2.2) g.2.1 ∧ g.1.stackTraces = false ∧ vx_Zq Bundle.tN "UNASSIGNED_STACK" Bundle.steD (fun q => gz g ≤ q) g.2.1 g.2.1.heap ∧ vx_Zq Bundle.tN "SUPPRESSED_SENTINEL" Bundle.listD (fun q => gz g ≤ q) g.2.1 g.2.1.heap ∧ (∀ x ∈ ncL, va_Nc x.1 x.2 g.2.1) ∧ StrG g
def Rep (g : GG) (σ : PH) (H : Heap) : Prop := H.size = σ.1 ∧ gz g ≤ σ.1 ∧ (∀ q : Nat, q < gz g → H[q]? = g.2.1.heap[q]?) ∧ ∀ (a : Nat) (t : Tg) (e : va_E), σ.2 a = some (t, e) → gz g ≤ a ∧ va_at g.2.2.1 xCl (a, e) H
abbrev MI : Type := MethodName × ByteArray × Nat × Option FieldType × List (Nat × Nat × Nat × Nat)
abbrev MT : Type := (String × ByteArray × Nat × Option FieldType × String) × (Nat × Nat × Nat) × Room × List (Nat × Nat × Nat × Nat) × (List Frame → Array Value → State → State → Prop)
def xR (d mc ms : Nat) : Room := { frames := d, cells := mc, slots := ms, locals := 60 * d }
def Cx (g : GG) (mt : MT) (p : Program) (e : Env) (s : State) (m : MethodId) (args : Array Value) (below : List Frame) (meth : Method) (c : Code) : Prop :=
  GoodG g ∧ p.tables.exec = Jvm.exec ∧ c.code = mt.1.2.1 ∧ meth.sig.returnType = mt.1.2.2.2.1 ∧ meth.locks = false ∧ c.maxLocals = mt.1.2.2.1 ∧ s.vm.findClass mt.1.1 = some m.cls ∧ (∀ w ∈ lw_all, w.before args s = true) ∧ g.2.1.WarmedH s.vm ∧ meth.name = mt.1.2.2.2.2 ∧ c.exceptionTable.toList = tableOf mt.2.2.2.1 ∧
  (mt.2.1.1 ≤ mt.2.2.1.frames ∧ 60 * mt.2.1.1 ≤ mt.2.2.1.locals ∧ mt.2.1.2.1 ≤ mt.2.2.1.cells ∧ mt.2.1.2.2 ≤ mt.2.2.1.slots) ∧ (gz g ≤ s.heap.size ∧ ∀ q : Nat, q < gz g → s.heap[q]? = g.2.1.heap[q]?)
/-- locals by their places; none: nothing is known of that place -/
def asL : Nat → List (Option Value) → List (Nat × Value)
  | _, [] => []
  | i, none :: r => asL (i + 1) r
  | i, some v :: r => (i, v) :: asL (i + 1) r
def Wp (g : GG) (mt : MT) (kc ks : Nat) (pc : Nat) (L : List (Option Value)) (st : List Value) (σ : PH) : Prop :=
  ∀ (p : Program) (e : Env) (s : State) (m : MethodId) (args : Array Value) (below : List Frame) (meth : Method) (c : Code) (H : Heap) (locs : List Loc) (ls : Array Slot) (cells slots : Nat),
    Cx g mt p e s m args below meth c → Rep g σ H → (∀ l ∈ locs, gz g ≤ l.base) → lv_has ls mt.1.2.2.1 (asL 0 L) → cells + kc ≤ mt.2.1.2.1 → slots + ks ≤ mt.2.1.2.2 →
    W p g.1 e mt.2.2.1 s m args below meth c H locs cells slots (mt.2.2.2.2 below args s) (F0 m pc ls st)
/-- the same with an exception q of class E thrown over the frame -/
def Tp (g : GG) (mt : MT) (kc ks : Nat) (pc : Nat) (L : List (Option Value)) (st : List Value) (q : Addr) (E : String) (σ : PH) : Prop :=
  ∀ (p : Program) (e : Env) (s : State) (m : MethodId) (args : Array Value) (below : List Frame) (meth : Method) (c : Code) (H : Heap) (locs : List Loc) (ls : Array Slot) (cells slots : Nat) (ce : Cell),
    Cx g mt p e s m args below meth c → Rep g σ H → (∀ l ∈ locs, gz g ≤ l.base) → lv_has ls mt.1.2.2.1 (asL 0 L) → cells + kc ≤ mt.2.1.2.1 → slots + ks ≤ mt.2.1.2.2 →
    H[q]? = some ce → ce.vm = .none → s.vm.findClass E = some ce.cls →
    vx_W p g.1 e mt.2.2.1 s m args below meth c H locs cells slots (mt.2.2.2.2 below args s) (F0 m pc ls st) q
/-- a method's end: it returns, or it throws -/
def Qx (g : GG) (Q : Option Value → PH → Prop) : Array Value → State → Outcome → State → Prop := fun _ _ oc t => ∃ (v : Option Value) (σ' : PH), oc = .returned v ∧ Q v σ' ∧ Rep g σ' t.heap
def Xx (g : GG) (X : Addr → String → PH → Prop) : Addr → String → State → State → Prop := fun q E _ t => ∃ σ' : PH, X q E σ' ∧ Rep g σ' t.heap
def noX : Addr → String → PH → Prop := fun _ _ _ => False
def miW (mi : MI) : List Cond := (match mi.2.2.2.2 with | [] => Cond.code mi.1 mi.2.1 mi.2.2.1 mi.2.2.2.1 | hh => Cond.codeWith mi.1 mi.2.1 mi.2.2.1 mi.2.2.2.1 hh) :: lw_all
/-- a contract: from any heap that holds σ the method, called with args, comes to Q, or throws by X; at most mc cells of ms slots are new; d frames at most above it -/
def Ct (g : GG) (mi : MI) (d mc ms : Nat) (args : List Value) (σ : PH) (Q : Option Value → PH → Prop) (X : Addr → String → PH → Prop) : Prop :=
  GoodG g → vx_Met g.1 mi.1 (miW mi) (xR d mc ms) (va_Pc args (fun U => g.2.1.WarmedH U.vm ∧ Rep g σ U.heap)) (Qx g Q) (Xx g X) mc ms (fun q => gz g ≤ q)
def mtOf (g : GG) (mi : MI) (d mc ms : Nat) (Q : Option Value → PH → Prop) (X : Addr → String → PH → Prop) : MT :=
  ((mi.1.cls, mi.2.1, mi.2.2.1, mi.2.2.2.1, mi.1.name), (d, mc, ms), xR d mc ms, mi.2.2.2.2, fun below args s => vx_MQ below (Qx g Q) (Xx g X) args s mc ms (fun q => gz g ≤ q))
theorem asL_mem : ∀ (L : List (Option Value)) (i : Nat) (q : Nat × Value), q ∈ asL i L ↔ i ≤ q.1 ∧ L[q.1 - i]? = some (some q.2)
  | [], i, q => by simp [asL]
  | none :: r, i, q => by
    rw [asL, asL_mem r (i + 1) q]
    constructor
    · rintro ⟨h1, h2⟩
      refine ⟨by omega, ?_⟩
      rw [show q.1 - i = (q.1 - (i + 1)) + 1 by omega]
      simpa using h2
    · rintro ⟨h1, h2⟩
      by_cases h : q.1 = i
      · rw [h, Nat.sub_self] at h2
        simp at h2
      · refine ⟨by omega, ?_⟩
        rw [show q.1 - i = (q.1 - (i + 1)) + 1 by omega] at h2
        simpa using h2
  | some v :: r, i, q => by
    rw [asL, List.mem_cons, asL_mem r (i + 1) q]
    constructor
    · rintro (h | ⟨h1, h2⟩)
      · rw [h]
        exact ⟨Nat.le_refl _, by simp⟩
      · refine ⟨by omega, ?_⟩
        rw [show q.1 - i = (q.1 - (i + 1)) + 1 by omega]
        simpa using h2
    · rintro ⟨h1, h2⟩
      by_cases h : q.1 = i
      · left
        rw [h, Nat.sub_self] at h2
        simp at h2
        obtain ⟨a, b⟩ := q
        simp_all
      · right
        refine ⟨by omega, ?_⟩
        rw [show q.1 - i = (q.1 - (i + 1)) + 1 by omega] at h2
        simpa using h2
theorem asL_mem0 {L : List (Option Value)} {i : Nat} {v : Value} : (i, v) ∈ asL 0 L ↔ L[i]? = some (some v) := by
  rw [asL_mem]
  simp
theorem lv_get {ls : Array Slot} {n : Nat} {L : List (Option Value)} (h : lv_has ls n (asL 0 L)) {i : Nat} {v : Value} (hv : L[i]? = some (some v)) : ls[i]? = some (.val v) := h.2.2 (i, v) (asL_mem0.mpr hv)
theorem lv_less {ls : Array Slot} {n : Nat} {l l' : List (Nat × Value)} (h : lv_has ls n l) (hl : ∀ q ∈ l', q ∈ l) : lv_has ls n l' := ⟨h.1, h.2.1, fun q hq => h.2.2 q (hl q hq)⟩
/-- the place behind which a store of one word doesn't cut a long in two -/
def okP (L : List (Option Value)) (i : Nat) : Bool := match i with
  | 0 => true
  | j + 1 => match L[j]? with
    | some (some v) => v.category == 1
    | _ => true
theorem asL_set1 {L : List (Option Value)} {i : Nat} {v : Value} (ho : okP L i = true) : ∀ q ∈ asL 0 (L.set i (some v)), q ∈ (i, v) :: (asL 0 L).filter (fun q => !(q.1 == i) && !(q.1 + 1 == i && q.2.category == 2)) := by
  intro q hq
  obtain ⟨j, w⟩ := q
  rw [asL_mem0, List.getElem?_set] at hq
  rw [List.mem_cons, List.mem_filter, asL_mem0]
  by_cases h : i = j
  · subst h
    left
    rw [if_pos rfl] at hq
    split at hq
    · simp at hq
      rw [hq]
    · cases hq
  · rw [if_neg h] at hq
    right
    refine ⟨hq, ?_⟩
    have h1 : ¬ j = i := fun z => h z.symm
    by_cases h2 : j + 1 = i
    · subst h2
      have : w.category = 1 := by
        simp only [okP, hq] at ho
        simpa using ho
      simp [this]
    · simp [h1, h2]
theorem asL_set2 {L : List (Option Value)} {i : Nat} {v : Value} (ho : okP L i = true) : ∀ q ∈ asL 0 ((L.set i (some v)).set (i + 1) none), q ∈ (i, v) :: (asL 0 L).filter (fun q => !(q.1 == i) && (!(q.1 == i + 1) && !(q.1 + 1 == i && q.2.category == 2))) := by
  intro q hq
  obtain ⟨j, w⟩ := q
  rw [asL_mem0, List.getElem?_set] at hq
  rw [List.mem_cons, List.mem_filter]
  by_cases h9 : i + 1 = j
  · rw [if_pos h9] at hq
    split at hq <;> cases hq
  · rw [if_neg h9, ← asL_mem0] at hq
    have h3 := asL_set1 ho (j, w) hq
    rw [List.mem_cons, List.mem_filter] at h3
    rcases h3 with h3 | ⟨h3, h4⟩
    · exact Or.inl h3
    · refine Or.inr ⟨h3, ?_⟩
      have h10 : ¬ j = i + 1 := fun z => h9 z.symm
      simp only [h10, beq_iff_eq, Bool.and_eq_true, Bool.not_eq_true', Bool.not_eq_eq_eq_not, Bool.not_true, beq_eq_false_iff_ne, decide_false, Bool.not_false, Bool.true_and, ne_eq, not_false_eq_true, true_and] at h4 ⊢
      exact h4
