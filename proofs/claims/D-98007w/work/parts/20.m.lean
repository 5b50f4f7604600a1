/-! THE TWIN: its cells as one block, its rows (printed by gen/mlayer.py) -/
set_option maxRecDepth 100000
/-- the twin's numbers: ints, longs, arrays of ints, arrays of longs, each by the field's place -/
abbrev MS : Type := (Nat → Int32) × (Nat → Int64) × (Nat → Nat → Int32) × (Nat → Nat → Int64)
def mI (S : MS) (k : Nat) : Int32 := S.1 k
def mL (S : MS) (k : Nat) : Int64 := S.2.1 k
def mA (S : MS) (k : Nat) : Nat → Int32 := S.2.2.1 k
def mB (S : MS) (k : Nat) : Nat → Int64 := S.2.2.2 k
def sI (S : MS) (k : Nat) (v : Int32) : MS := (va_up S.1 k v, S.2)
def sL (S : MS) (k : Nat) (v : Int64) : MS := (S.1, va_up S.2.1 k v, S.2.2)
def sA (S : MS) (k i : Nat) (v : Int32) : MS := (S.1, S.2.1, va_up S.2.2.1 k (upd (S.2.2.1 k) i v), S.2.2.2)
def sB (S : MS) (k i : Nat) (v : Int64) : MS := (S.1, S.2.1, S.2.2.1, va_up S.2.2.2 k (vp_updL (S.2.2.2 k) i v))
def encF (b : Nat) (S : MS) : List Value := [.ref (b + 1), .ref (b + 2), .int (mI S 2), .long (mL S 3), .long (mL S 4), .ref (b + 3), .ref (b + 4), .ref (b + 5), .ref (b + 6), .ref (b + 7), .int (mI S 10), .int (mI S 11), .int (mI S 12), .int (mI S 13), .int (mI S 14), .int (mI S 15), .int (mI S 16), .int (mI S 17), .int (mI S 18), .int (mI S 19), .int (mI S 20), .int (mI S 21), .ref (b + 8), .int (mI S 23), .int (mI S 24), .ref (b + 9), .ref (b + 10), .ref (b + 11), .ref (b + 12), .int (mI S 29), .int (mI S 30), .int (mI S 31), .int (mI S 32), .ref (b + 13), .ref (b + 14), .ref (b + 15), .int (mI S 36), .int (mI S 37)]
def encM (g : GG) (b : Nat) (S : MS) : Nat → va_E
  | 0 => .inr (8, encF b S)
  | 1 => .inl (g.2.2.2 0, 8400, .inl (mA S 0))
  | 2 => .inl (g.2.2.2 1, 80, .inr (.inl (mB S 1)))
  | 3 => .inl (g.2.2.2 0, 4, .inl (mA S 5))
  | 4 => .inl (g.2.2.2 0, 4, .inl (mA S 6))
  | 5 => .inl (g.2.2.2 1, 240, .inr (.inl (mB S 7)))
  | 6 => .inl (g.2.2.2 2, 900, .inl (mA S 8))
  | 7 => .inl (g.2.2.2 2, 900, .inl (mA S 9))
  | 8 => .inl (g.2.2.2 0, 3, .inl (mA S 22))
  | 9 => .inl (g.2.2.2 0, 9, .inl (mA S 25))
  | 10 => .inl (g.2.2.2 0, 9, .inl (mA S 26))
  | 11 => .inl (g.2.2.2 0, 8, .inl (mA S 27))
  | 12 => .inl (g.2.2.2 0, 8, .inl (mA S 28))
  | 13 => .inl (g.2.2.2 0, 80, .inl (mA S 33))
  | 14 => .inl (g.2.2.2 0, 5, .inl (mA S 34))
  | _ => .inl (g.2.2.2 0, 5, .inl (mA S 35))
def sM (g : GG) (σ : PH) (b : Nat) (S : MS) : PH := (σ.1, fun a => if b ≤ a ∧ a < b + 16 then some ((b, a - b), encM g b S (a - b)) else σ.2 a)
theorem sM_at {g : GG} {σ : PH} {b : Nat} {S : MS} {k : Nat} (h : k < 16) : (sM g σ b S).2 (b + k) = some ((b, k), encM g b S k) := by
  show (if b ≤ b + k ∧ b + k < b + 16 then some ((b, b + k - b), encM g b S (b + k - b)) else σ.2 (b + k)) = _
  rw [if_pos ⟨by omega, by omega⟩, Nat.add_sub_cancel_left]
theorem sM_0 {g : GG} {σ : PH} {b : Nat} {S : MS} : (sM g σ b S).2 b = some ((b, 0), .inr (8, encF b S)) := sM_at (k := 0) (by omega)
theorem sM_up {g : GG} {σ : PH} {b : Nat} {S S2 : MS} {k : Nat} (h : k < 16) {e : va_E} (he : e = encM g b S2 k) (hs : ∀ j, j < 16 → j ≠ k → encM g b S2 j = encM g b S j) : hup (sM g σ b S) (b + k) (b, k) e = sM g σ b S2 := by
  subst he
  unfold hup sM
  congr 1
  funext q
  by_cases h1 : b ≤ q ∧ q < b + 16
  · by_cases h2 : q = b + k
    · subst h2
      rw [if_pos rfl, if_pos h1, Nat.add_sub_cancel_left]
    · rw [if_neg h2]
      simp only [if_pos h1]
      rw [hs (q - b) (by omega) (by omega)]
  · rw [if_neg (by omega)]
    simp only [if_neg h1]
theorem sM_sM {g : GG} {σ : PH} {b : Nat} {S S2 : MS} : sM g (sM g σ b S) b S2 = sM g σ b S2 := by
  unfold sM
  congr 1
  funext q
  dsimp only
  split <;> rfl
def Mt (g : GG) (mi : MI) (d : Nat) (args : List Value) (S : MS) (v : Option Value) (S2 : MS) : Prop := ∀ (σ : PH) (b : Nat), Ct g mi d 0 0 (.ref b :: args) (sM g σ b S) (fun w σ2 => w = v ∧ σ2 = sM g σ b S2) noX
def Ms (g : GG) (mi : MI) (d : Nat) (args : List Value) (v : Option Value) : Prop := ∀ σ : PH, Ct g mi d 0 0 args σ (fun w σ2 => w = v ∧ σ2 = σ) noX
def mtM (g : GG) (mi : MI) (d : Nat) (σ : PH) (b : Nat) (v : Option Value) (S2 : MS) : MT := mtOf g mi d 0 0 (fun w σ2 => w = v ∧ σ2 = sM g σ b S2) noX
section MROWS
variable {g : GG} {mt : MT} {kc ks pc : Nat} {L : List (Option Value)} {st rest : List Value} {σ : PH} {b : Nat} {S S2 : MS} {mi : MI} {d2 : Nat} {args : List Value} {v : Option Value}
theorem Mt.start (LL : Nat → List (Option Value)) (hy : plainName mi.1.cls = true) (hh : mi.2.2.2.2 = []) (hn : ∀ b, (lg_sl (.ref b :: args)).length ≤ mi.2.2.1) (hL : ∀ b, asL 0 (LL b) = lv_args 0 (.ref b :: args)) (k : ∀ (σ : PH) (b : Nat), Wp g (mtM g mi d2 σ b v S2) 0 0 0 (LL b) [] (sM g σ b S)) : Mt g mi d2 args S v S2 :=
  fun σ b => Ct.start (LL b) hy hh (hn b) (hL b) (fun _ => k σ b)
theorem Ms.start (LL : List (Option Value)) (hy : plainName mi.1.cls = true) (hh : mi.2.2.2.2 = []) (hn : (lg_sl args).length ≤ mi.2.2.1) (hL : asL 0 LL = lv_args 0 args) (k : ∀ (σ : PH), Wp g (mtOf g mi d2 0 0 (fun w σ2 => w = v ∧ σ2 = σ) noX) 0 0 0 LL [] σ) : Ms g mi d2 args v :=
  fun σ => Ct.start LL hy hh hn hL (fun _ => k σ)
theorem m_get {index k : Nat} {v : Value} (d : decode mt.1.2.1 pc = .ok (.getfield index, 3)) (hk : k < 38) (q : Cond.fieldLink mt.1.1 index (TX8 k).1 (TX8 k).2.1 (TX8 k).2.2.1 ∈ lw_all) (hv : (encF b S)[k]? = some v) (kk : Wp g mt kc ks (pc + 3) L (v :: st) (sM g σ b S)) : Wp g mt kc ks pc L (.ref b :: st) (sM g σ b S) :=
  w_getf d clX8 hk q sM_0 hv kk
theorem m_put {index k : Nat} {v : Value} (S2 : MS) (d : decode mt.1.2.1 pc = .ok (.putfield index, 3)) (hk : k < 38) (q : Cond.fieldLink mt.1.1 index (TX8 k).1 (TX8 k).2.1 (TX8 k).2.2.1 ∈ lw_all) (hfin : (TX8 k).2.2.2 = false) (hn : narrow (tyX8 k) v = v) (hf : fits (tyX8 k) v = true) (hs : (encF b S).set k v = encF b S2) (hs2 : ∀ j, j < 16 → j ≠ 0 → encM g b S2 j = encM g b S j) (kk : Wp g mt kc ks (pc + 3) L st (sM g σ b S2)) : Wp g mt kc ks pc L (v :: .ref b :: st) (sM g σ b S) := by
  refine w_putf d clX8 hk q hfin sM_0 hn hf (by simp [encF]; omega) ?_
  rw [hs, show hup (sM g σ b S) b (b, 0) (.inr (8, encF b S2)) = sM g σ b S2 from sM_up (k := 0) (by omega) rfl hs2]
  exact kk
theorem encM_sI {k : Nat} {x : Int32} : ∀ j, j < 16 → j ≠ 0 → encM g b (sI S k x) j = encM g b S j := by
  intro j hj h0
  match j, hj with
  | 0, _ => exact absurd rfl h0
  | 1, _ => rfl
  | 2, _ => rfl
  | 3, _ => rfl
  | 4, _ => rfl
  | 5, _ => rfl
  | 6, _ => rfl
  | 7, _ => rfl
  | 8, _ => rfl
  | 9, _ => rfl
  | 10, _ => rfl
  | 11, _ => rfl
  | 12, _ => rfl
  | 13, _ => rfl
  | 14, _ => rfl
  | 15, _ => rfl
  | j + 16, h9 => exact absurd h9 (by omega)
theorem encM_sL {k : Nat} {x : Int64} : ∀ j, j < 16 → j ≠ 0 → encM g b (sL S k x) j = encM g b S j := by
  intro j hj h0
  match j, hj with
  | 0, _ => exact absurd rfl h0
  | 1, _ => rfl
  | 2, _ => rfl
  | 3, _ => rfl
  | 4, _ => rfl
  | 5, _ => rfl
  | 6, _ => rfl
  | 7, _ => rfl
  | 8, _ => rfl
  | 9, _ => rfl
  | 10, _ => rfl
  | 11, _ => rfl
  | 12, _ => rfl
  | 13, _ => rfl
  | 14, _ => rfl
  | 15, _ => rfl
  | j + 16, h9 => exact absurd h9 (by omega)
theorem mg_at (d : decode mt.1.2.1 pc = .ok (.getfield 7, 3)) (ho : mt.1.1 = RX8) (kk : Wp g mt kc ks (pc + 3) L (.ref (b + 1) :: st) (sM g σ b S)) : Wp g mt kc ks pc L (.ref b :: st) (sM g σ b S) := m_get (k := 0) d (by omega) (by rw [ho]; exact q1552) rfl kk
theorem mg_names (d : decode mt.1.2.1 pc = .ok (.getfield 13, 3)) (ho : mt.1.1 = RX8) (kk : Wp g mt kc ks (pc + 3) L (.ref (b + 2) :: st) (sM g σ b S)) : Wp g mt kc ks pc L (.ref b :: st) (sM g σ b S) := m_get (k := 1) d (by omega) (by rw [ho]; exact q1553) rfl kk
theorem mg_status (d : decode mt.1.2.1 pc = .ok (.getfield 72, 3)) (ho : mt.1.1 = RX8) (kk : Wp g mt kc ks (pc + 3) L (.int (mI S 2) :: st) (sM g σ b S)) : Wp g mt kc ks pc L (.ref b :: st) (sM g σ b S) := m_get (k := 2) d (by omega) (by rw [ho]; exact q1554) rfl kk
theorem mp_status {x : Int32} (d : decode mt.1.2.1 pc = .ok (.putfield 72, 3)) (ho : mt.1.1 = RX8) (kk : Wp g mt kc ks (pc + 3) L st (sM g σ b (sI S 2 x))) : Wp g mt kc ks pc L (.int x :: .ref b :: st) (sM g σ b S) := m_put (k := 2) (sI S 2 x) d (by omega) (by rw [ho]; exact q1554) rfl rfl rfl rfl encM_sI kk
theorem mg_top (d : decode mt.1.2.1 pc = .ok (.getfield 75, 3)) (ho : mt.1.1 = RX8) (kk : Wp g mt kc ks (pc + 3) L (.long (mL S 3) :: st) (sM g σ b S)) : Wp g mt kc ks pc L (.ref b :: st) (sM g σ b S) := m_get (k := 3) d (by omega) (by rw [ho]; exact q1555) rfl kk
theorem mp_top {x : Int64} (d : decode mt.1.2.1 pc = .ok (.putfield 75, 3)) (ho : mt.1.1 = RX8) (kk : Wp g mt kc ks (pc + 3) L st (sM g σ b (sL S 3 x))) : Wp g mt kc ks pc L (.long x :: .ref b :: st) (sM g σ b S) := m_put (k := 3) (sL S 3 x) d (by omega) (by rw [ho]; exact q1555) rfl rfl rfl rfl encM_sL kk
theorem mg_bottom (d : decode mt.1.2.1 pc = .ok (.getfield 17, 3)) (ho : mt.1.1 = RX8) (kk : Wp g mt kc ks (pc + 3) L (.long (mL S 4) :: st) (sM g σ b S)) : Wp g mt kc ks pc L (.ref b :: st) (sM g σ b S) := m_get (k := 4) d (by omega) (by rw [ho]; exact q1556) rfl kk
theorem mp_bottom {x : Int64} (d : decode mt.1.2.1 pc = .ok (.putfield 17, 3)) (ho : mt.1.1 = RX8) (kk : Wp g mt kc ks (pc + 3) L st (sM g σ b (sL S 4 x))) : Wp g mt kc ks pc L (.long x :: .ref b :: st) (sM g σ b S) := m_put (k := 4) (sL S 4 x) d (by omega) (by rw [ho]; exact q1556) rfl rfl rfl rfl encM_sL kk
theorem mg_sort (d : decode mt.1.2.1 pc = .ok (.getfield 21, 3)) (ho : mt.1.1 = RX8) (kk : Wp g mt kc ks (pc + 3) L (.ref (b + 3) :: st) (sM g σ b S)) : Wp g mt kc ks pc L (.ref b :: st) (sM g σ b S) := m_get (k := 5) d (by omega) (by rw [ho]; exact q1557) rfl kk
theorem mg_trayMany (d : decode mt.1.2.1 pc = .ok (.getfield 24, 3)) (ho : mt.1.1 = RX8) (kk : Wp g mt kc ks (pc + 3) L (.ref (b + 4) :: st) (sM g σ b S)) : Wp g mt kc ks pc L (.ref b :: st) (sM g σ b S) := m_get (k := 6) d (by omega) (by rw [ho]; exact q1558) rfl kk
theorem mg_trays (d : decode mt.1.2.1 pc = .ok (.getfield 27, 3)) (ho : mt.1.1 = RX8) (kk : Wp g mt kc ks (pc + 3) L (.ref (b + 5) :: st) (sM g σ b S)) : Wp g mt kc ks pc L (.ref b :: st) (sM g σ b S) := m_get (k := 7) d (by omega) (by rw [ho]; exact q1559) rfl kk
theorem mg_tape (d : decode mt.1.2.1 pc = .ok (.getfield 30, 3)) (ho : mt.1.1 = RX8) (kk : Wp g mt kc ks (pc + 3) L (.ref (b + 6) :: st) (sM g σ b S)) : Wp g mt kc ks pc L (.ref b :: st) (sM g σ b S) := m_get (k := 8) d (by omega) (by rw [ho]; exact q1560) rfl kk
theorem mg_text (d : decode mt.1.2.1 pc = .ok (.getfield 34, 3)) (ho : mt.1.1 = RX8) (kk : Wp g mt kc ks (pc + 3) L (.ref (b + 7) :: st) (sM g σ b S)) : Wp g mt kc ks pc L (.ref b :: st) (sM g σ b S) := m_get (k := 9) d (by omega) (by rw [ho]; exact q1561) rfl kk
theorem mg_taped (d : decode mt.1.2.1 pc = .ok (.getfield 102, 3)) (ho : mt.1.1 = RX8) (kk : Wp g mt kc ks (pc + 3) L (.int (mI S 10) :: st) (sM g σ b S)) : Wp g mt kc ks pc L (.ref b :: st) (sM g σ b S) := m_get (k := 10) d (by omega) (by rw [ho]; exact q1562) rfl kk
theorem mp_taped {x : Int32} (d : decode mt.1.2.1 pc = .ok (.putfield 102, 3)) (ho : mt.1.1 = RX8) (kk : Wp g mt kc ks (pc + 3) L st (sM g σ b (sI S 10 x))) : Wp g mt kc ks pc L (.int x :: .ref b :: st) (sM g σ b S) := m_put (k := 10) (sI S 10 x) d (by omega) (by rw [ho]; exact q1562) rfl rfl rfl rfl encM_sI kk
theorem mg_size (d : decode mt.1.2.1 pc = .ok (.getfield 108, 3)) (ho : mt.1.1 = RX8) (kk : Wp g mt kc ks (pc + 3) L (.int (mI S 11) :: st) (sM g σ b S)) : Wp g mt kc ks pc L (.ref b :: st) (sM g σ b S) := m_get (k := 11) d (by omega) (by rw [ho]; exact q1563) rfl kk
theorem mp_size {x : Int32} (d : decode mt.1.2.1 pc = .ok (.putfield 108, 3)) (ho : mt.1.1 = RX8) (kk : Wp g mt kc ks (pc + 3) L st (sM g σ b (sI S 11 x))) : Wp g mt kc ks pc L (.int x :: .ref b :: st) (sM g σ b S) := m_put (k := 11) (sI S 11 x) d (by omega) (by rw [ho]; exact q1563) rfl rfl rfl rfl encM_sI kk
theorem mg_token (d : decode mt.1.2.1 pc = .ok (.getfield 123, 3)) (ho : mt.1.1 = RX8) (kk : Wp g mt kc ks (pc + 3) L (.int (mI S 12) :: st) (sM g σ b S)) : Wp g mt kc ks pc L (.ref b :: st) (sM g σ b S) := m_get (k := 12) d (by omega) (by rw [ho]; exact q1564) rfl kk
theorem mp_token {x : Int32} (d : decode mt.1.2.1 pc = .ok (.putfield 123, 3)) (ho : mt.1.1 = RX8) (kk : Wp g mt kc ks (pc + 3) L st (sM g σ b (sI S 12 x))) : Wp g mt kc ks pc L (.int x :: .ref b :: st) (sM g σ b S) := m_put (k := 12) (sI S 12 x) d (by omega) (by rw [ho]; exact q1564) rfl rfl rfl rfl encM_sI kk
theorem mg_from (d : decode mt.1.2.1 pc = .ok (.getfield 117, 3)) (ho : mt.1.1 = RX8) (kk : Wp g mt kc ks (pc + 3) L (.int (mI S 13) :: st) (sM g σ b S)) : Wp g mt kc ks pc L (.ref b :: st) (sM g σ b S) := m_get (k := 13) d (by omega) (by rw [ho]; exact q1565) rfl kk
theorem mp_from {x : Int32} (d : decode mt.1.2.1 pc = .ok (.putfield 117, 3)) (ho : mt.1.1 = RX8) (kk : Wp g mt kc ks (pc + 3) L st (sM g σ b (sI S 13 x))) : Wp g mt kc ks pc L (.int x :: .ref b :: st) (sM g σ b S) := m_put (k := 13) (sI S 13 x) d (by omega) (by rw [ho]; exact q1565) rfl rfl rfl rfl encM_sI kk
theorem mg_end (d : decode mt.1.2.1 pc = .ok (.getfield 111, 3)) (ho : mt.1.1 = RX8) (kk : Wp g mt kc ks (pc + 3) L (.int (mI S 14) :: st) (sM g σ b S)) : Wp g mt kc ks pc L (.ref b :: st) (sM g σ b S) := m_get (k := 14) d (by omega) (by rw [ho]; exact q1566) rfl kk
theorem mp_end {x : Int32} (d : decode mt.1.2.1 pc = .ok (.putfield 111, 3)) (ho : mt.1.1 = RX8) (kk : Wp g mt kc ks (pc + 3) L st (sM g σ b (sI S 14 x))) : Wp g mt kc ks pc L (.int x :: .ref b :: st) (sM g σ b S) := m_put (k := 14) (sI S 14 x) d (by omega) (by rw [ho]; exact q1566) rfl rfl rfl rfl encM_sI kk
theorem mg_value (d : decode mt.1.2.1 pc = .ok (.getfield 120, 3)) (ho : mt.1.1 = RX8) (kk : Wp g mt kc ks (pc + 3) L (.int (mI S 15) :: st) (sM g σ b S)) : Wp g mt kc ks pc L (.ref b :: st) (sM g σ b S) := m_get (k := 15) d (by omega) (by rw [ho]; exact q1567) rfl kk
theorem mp_value {x : Int32} (d : decode mt.1.2.1 pc = .ok (.putfield 120, 3)) (ho : mt.1.1 = RX8) (kk : Wp g mt kc ks (pc + 3) L st (sM g σ b (sI S 15 x))) : Wp g mt kc ks pc L (.int x :: .ref b :: st) (sM g σ b S) := m_put (k := 15) (sI S 15 x) d (by omega) (by rw [ho]; exact q1567) rfl rfl rfl rfl encM_sI kk
theorem mg_faultKind (d : decode mt.1.2.1 pc = .ok (.getfield 37, 3)) (ho : mt.1.1 = RX8) (kk : Wp g mt kc ks (pc + 3) L (.int (mI S 16) :: st) (sM g σ b S)) : Wp g mt kc ks pc L (.ref b :: st) (sM g σ b S) := m_get (k := 16) d (by omega) (by rw [ho]; exact q1568) rfl kk
theorem mp_faultKind {x : Int32} (d : decode mt.1.2.1 pc = .ok (.putfield 37, 3)) (ho : mt.1.1 = RX8) (kk : Wp g mt kc ks (pc + 3) L st (sM g σ b (sI S 16 x))) : Wp g mt kc ks pc L (.int x :: .ref b :: st) (sM g σ b S) := m_put (k := 16) (sI S 16 x) d (by omega) (by rw [ho]; exact q1568) rfl rfl rfl rfl encM_sI kk
theorem mg_faultPlace (d : decode mt.1.2.1 pc = .ok (.getfield 41, 3)) (ho : mt.1.1 = RX8) (kk : Wp g mt kc ks (pc + 3) L (.int (mI S 17) :: st) (sM g σ b S)) : Wp g mt kc ks pc L (.ref b :: st) (sM g σ b S) := m_get (k := 17) d (by omega) (by rw [ho]; exact q1569) rfl kk
theorem mp_faultPlace {x : Int32} (d : decode mt.1.2.1 pc = .ok (.putfield 41, 3)) (ho : mt.1.1 = RX8) (kk : Wp g mt kc ks (pc + 3) L st (sM g σ b (sI S 17 x))) : Wp g mt kc ks pc L (.int x :: .ref b :: st) (sM g σ b S) := m_put (k := 17) (sI S 17 x) d (by omega) (by rw [ho]; exact q1569) rfl rfl rfl rfl encM_sI kk
theorem mg_faults (d : decode mt.1.2.1 pc = .ok (.getfield 148, 3)) (ho : mt.1.1 = RX8) (kk : Wp g mt kc ks (pc + 3) L (.int (mI S 18) :: st) (sM g σ b S)) : Wp g mt kc ks pc L (.ref b :: st) (sM g σ b S) := m_get (k := 18) d (by omega) (by rw [ho]; exact q1570) rfl kk
theorem mp_faults {x : Int32} (d : decode mt.1.2.1 pc = .ok (.putfield 148, 3)) (ho : mt.1.1 = RX8) (kk : Wp g mt kc ks (pc + 3) L st (sM g σ b (sI S 18 x))) : Wp g mt kc ks pc L (.int x :: .ref b :: st) (sM g σ b S) := m_put (k := 18) (sI S 18 x) d (by omega) (by rw [ho]; exact q1570) rfl rfl rfl rfl encM_sI kk
theorem mg_seen (d : decode mt.1.2.1 pc = .ok (.getfield 151, 3)) (ho : mt.1.1 = RX8) (kk : Wp g mt kc ks (pc + 3) L (.int (mI S 19) :: st) (sM g σ b S)) : Wp g mt kc ks pc L (.ref b :: st) (sM g σ b S) := m_get (k := 19) d (by omega) (by rw [ho]; exact q1571) rfl kk
theorem mp_seen {x : Int32} (d : decode mt.1.2.1 pc = .ok (.putfield 151, 3)) (ho : mt.1.1 = RX8) (kk : Wp g mt kc ks (pc + 3) L st (sM g σ b (sI S 19 x))) : Wp g mt kc ks pc L (.int x :: .ref b :: st) (sM g σ b S) := m_put (k := 19) (sI S 19 x) d (by omega) (by rw [ho]; exact q1571) rfl rfl rfl rfl encM_sI kk
theorem mg_duelTold (d : decode mt.1.2.1 pc = .ok (.getfield 214, 3)) (ho : mt.1.1 = RX8) (kk : Wp g mt kc ks (pc + 3) L (.int (mI S 20) :: st) (sM g σ b S)) : Wp g mt kc ks pc L (.ref b :: st) (sM g σ b S) := m_get (k := 20) d (by omega) (by rw [ho]; exact q1572) rfl kk
theorem mp_duelTold {x : Int32} (hz : narrow .boolean (.int x) = .int x) (hf : fits .boolean (.int x) = true) (d : decode mt.1.2.1 pc = .ok (.putfield 214, 3)) (ho : mt.1.1 = RX8) (kk : Wp g mt kc ks (pc + 3) L st (sM g σ b (sI S 20 x))) : Wp g mt kc ks pc L (.int x :: .ref b :: st) (sM g σ b S) := m_put (k := 20) (sI S 20 x) d (by omega) (by rw [ho]; exact q1572) rfl hz hf rfl encM_sI kk
theorem mg_pebblesTold (d : decode mt.1.2.1 pc = .ok (.getfield 204, 3)) (ho : mt.1.1 = RX8) (kk : Wp g mt kc ks (pc + 3) L (.int (mI S 21) :: st) (sM g σ b S)) : Wp g mt kc ks pc L (.ref b :: st) (sM g σ b S) := m_get (k := 21) d (by omega) (by rw [ho]; exact q1573) rfl kk
theorem mp_pebblesTold {x : Int32} (d : decode mt.1.2.1 pc = .ok (.putfield 204, 3)) (ho : mt.1.1 = RX8) (kk : Wp g mt kc ks (pc + 3) L st (sM g σ b (sI S 21 x))) : Wp g mt kc ks pc L (.int x :: .ref b :: st) (sM g σ b S) := m_put (k := 21) (sI S 21 x) d (by omega) (by rw [ho]; exact q1573) rfl rfl rfl rfl encM_sI kk
theorem mg_opened (d : decode mt.1.2.1 pc = .ok (.getfield 44, 3)) (ho : mt.1.1 = RX8) (kk : Wp g mt kc ks (pc + 3) L (.ref (b + 8) :: st) (sM g σ b S)) : Wp g mt kc ks pc L (.ref b :: st) (sM g σ b S) := m_get (k := 22) d (by omega) (by rw [ho]; exact q1574) rfl kk
theorem mg_depth (d : decode mt.1.2.1 pc = .ok (.getfield 253, 3)) (ho : mt.1.1 = RX8) (kk : Wp g mt kc ks (pc + 3) L (.int (mI S 23) :: st) (sM g σ b S)) : Wp g mt kc ks pc L (.ref b :: st) (sM g σ b S) := m_get (k := 23) d (by omega) (by rw [ho]; exact q1575) rfl kk
theorem mp_depth {x : Int32} (d : decode mt.1.2.1 pc = .ok (.putfield 253, 3)) (ho : mt.1.1 = RX8) (kk : Wp g mt kc ks (pc + 3) L st (sM g σ b (sI S 23 x))) : Wp g mt kc ks pc L (.int x :: .ref b :: st) (sM g σ b S) := m_put (k := 23) (sI S 23 x) d (by omega) (by rw [ho]; exact q1575) rfl rfl rfl rfl encM_sI kk
theorem mg_counted (d : decode mt.1.2.1 pc = .ok (.getfield 256, 3)) (ho : mt.1.1 = RX8) (kk : Wp g mt kc ks (pc + 3) L (.int (mI S 24) :: st) (sM g σ b S)) : Wp g mt kc ks pc L (.ref b :: st) (sM g σ b S) := m_get (k := 24) d (by omega) (by rw [ho]; exact q1576) rfl kk
theorem mp_counted {x : Int32} (d : decode mt.1.2.1 pc = .ok (.putfield 256, 3)) (ho : mt.1.1 = RX8) (kk : Wp g mt kc ks (pc + 3) L st (sM g σ b (sI S 24 x))) : Wp g mt kc ks pc L (.int x :: .ref b :: st) (sM g σ b S) := m_put (k := 24) (sI S 24 x) d (by omega) (by rw [ho]; exact q1576) rfl rfl rfl rfl encM_sI kk
theorem mg_row (d : decode mt.1.2.1 pc = .ok (.getfield 47, 3)) (ho : mt.1.1 = RX8) (kk : Wp g mt kc ks (pc + 3) L (.ref (b + 9) :: st) (sM g σ b S)) : Wp g mt kc ks pc L (.ref b :: st) (sM g σ b S) := m_get (k := 25) d (by omega) (by rw [ho]; exact q1577) rfl kk
theorem mg_when (d : decode mt.1.2.1 pc = .ok (.getfield 50, 3)) (ho : mt.1.1 = RX8) (kk : Wp g mt kc ks (pc + 3) L (.ref (b + 10) :: st) (sM g σ b S)) : Wp g mt kc ks pc L (.ref b :: st) (sM g σ b S) := m_get (k := 26) d (by omega) (by rw [ho]; exact q1578) rfl kk
theorem mg_bestRow (d : decode mt.1.2.1 pc = .ok (.getfield 53, 3)) (ho : mt.1.1 = RX8) (kk : Wp g mt kc ks (pc + 3) L (.ref (b + 11) :: st) (sM g σ b S)) : Wp g mt kc ks pc L (.ref b :: st) (sM g σ b S) := m_get (k := 27) d (by omega) (by rw [ho]; exact q1579) rfl kk
theorem mg_toldRow (d : decode mt.1.2.1 pc = .ok (.getfield 56, 3)) (ho : mt.1.1 = RX8) (kk : Wp g mt kc ks (pc + 3) L (.ref (b + 12) :: st) (sM g σ b S)) : Wp g mt kc ks pc L (.ref b :: st) (sM g σ b S) := m_get (k := 28) d (by omega) (by rw [ho]; exact q1580) rfl kk
theorem mg_bestMany (d : decode mt.1.2.1 pc = .ok (.getfield 396, 3)) (ho : mt.1.1 = RX8) (kk : Wp g mt kc ks (pc + 3) L (.int (mI S 29) :: st) (sM g σ b S)) : Wp g mt kc ks pc L (.ref b :: st) (sM g σ b S) := m_get (k := 29) d (by omega) (by rw [ho]; exact q1581) rfl kk
theorem mp_bestMany {x : Int32} (d : decode mt.1.2.1 pc = .ok (.putfield 396, 3)) (ho : mt.1.1 = RX8) (kk : Wp g mt kc ks (pc + 3) L st (sM g σ b (sI S 29 x))) : Wp g mt kc ks pc L (.int x :: .ref b :: st) (sM g σ b S) := m_put (k := 29) (sI S 29 x) d (by omega) (by rw [ho]; exact q1581) rfl rfl rfl rfl encM_sI kk
theorem mg_toldMany (d : decode mt.1.2.1 pc = .ok (.getfield 402, 3)) (ho : mt.1.1 = RX8) (kk : Wp g mt kc ks (pc + 3) L (.int (mI S 30) :: st) (sM g σ b S)) : Wp g mt kc ks pc L (.ref b :: st) (sM g σ b S) := m_get (k := 30) d (by omega) (by rw [ho]; exact q1582) rfl kk
theorem mp_toldMany {x : Int32} (d : decode mt.1.2.1 pc = .ok (.putfield 402, 3)) (ho : mt.1.1 = RX8) (kk : Wp g mt kc ks (pc + 3) L st (sM g σ b (sI S 30 x))) : Wp g mt kc ks pc L (.int x :: .ref b :: st) (sM g σ b S) := m_put (k := 30) (sI S 30 x) d (by omega) (by rw [ho]; exact q1582) rfl rfl rfl rfl encM_sI kk
theorem mg_drawn (d : decode mt.1.2.1 pc = .ok (.getfield 419, 3)) (ho : mt.1.1 = RX8) (kk : Wp g mt kc ks (pc + 3) L (.int (mI S 31) :: st) (sM g σ b S)) : Wp g mt kc ks pc L (.ref b :: st) (sM g σ b S) := m_get (k := 31) d (by omega) (by rw [ho]; exact q1583) rfl kk
theorem mp_drawn {x : Int32} (d : decode mt.1.2.1 pc = .ok (.putfield 419, 3)) (ho : mt.1.1 = RX8) (kk : Wp g mt kc ks (pc + 3) L st (sM g σ b (sI S 31 x))) : Wp g mt kc ks pc L (.int x :: .ref b :: st) (sM g σ b S) := m_put (k := 31) (sI S 31 x) d (by omega) (by rw [ho]; exact q1583) rfl rfl rfl rfl encM_sI kk
theorem mg_ranSteps (d : decode mt.1.2.1 pc = .ok (.getfield 429, 3)) (ho : mt.1.1 = RX8) (kk : Wp g mt kc ks (pc + 3) L (.int (mI S 32) :: st) (sM g σ b S)) : Wp g mt kc ks pc L (.ref b :: st) (sM g σ b S) := m_get (k := 32) d (by omega) (by rw [ho]; exact q1584) rfl kk
theorem mp_ranSteps {x : Int32} (d : decode mt.1.2.1 pc = .ok (.putfield 429, 3)) (ho : mt.1.1 = RX8) (kk : Wp g mt kc ks (pc + 3) L st (sM g σ b (sI S 32 x))) : Wp g mt kc ks pc L (.int x :: .ref b :: st) (sM g σ b S) := m_put (k := 32) (sI S 32 x) d (by omega) (by rw [ho]; exact q1584) rfl rfl rfl rfl encM_sI kk
theorem mg_loops (d : decode mt.1.2.1 pc = .ok (.getfield 59, 3)) (ho : mt.1.1 = RX8) (kk : Wp g mt kc ks (pc + 3) L (.ref (b + 13) :: st) (sM g σ b S)) : Wp g mt kc ks pc L (.ref b :: st) (sM g σ b S) := m_get (k := 33) d (by omega) (by rw [ho]; exact q1585) rfl kk
theorem mg_ran (d : decode mt.1.2.1 pc = .ok (.getfield 62, 3)) (ho : mt.1.1 = RX8) (kk : Wp g mt kc ks (pc + 3) L (.ref (b + 14) :: st) (sM g σ b S)) : Wp g mt kc ks pc L (.ref b :: st) (sM g σ b S) := m_get (k := 34) d (by omega) (by rw [ho]; exact q1586) rfl kk
theorem mg_told0 (d : decode mt.1.2.1 pc = .ok (.getfield 65, 3)) (ho : mt.1.1 = RX8) (kk : Wp g mt kc ks (pc + 3) L (.ref (b + 15) :: st) (sM g σ b S)) : Wp g mt kc ks pc L (.ref b :: st) (sM g σ b S) := m_get (k := 35) d (by omega) (by rw [ho]; exact q1587) rfl kk
theorem mg_isTold (d : decode mt.1.2.1 pc = .ok (.getfield 446, 3)) (ho : mt.1.1 = RX8) (kk : Wp g mt kc ks (pc + 3) L (.int (mI S 36) :: st) (sM g σ b S)) : Wp g mt kc ks pc L (.ref b :: st) (sM g σ b S) := m_get (k := 36) d (by omega) (by rw [ho]; exact q1588) rfl kk
theorem mp_isTold {x : Int32} (hz : narrow .boolean (.int x) = .int x) (hf : fits .boolean (.int x) = true) (d : decode mt.1.2.1 pc = .ok (.putfield 446, 3)) (ho : mt.1.1 = RX8) (kk : Wp g mt kc ks (pc + 3) L st (sM g σ b (sI S 36 x))) : Wp g mt kc ks pc L (.int x :: .ref b :: st) (sM g σ b S) := m_put (k := 36) (sI S 36 x) d (by omega) (by rw [ho]; exact q1588) rfl hz hf rfl encM_sI kk
theorem mg_marks (d : decode mt.1.2.1 pc = .ok (.getfield 451, 3)) (ho : mt.1.1 = RX8) (kk : Wp g mt kc ks (pc + 3) L (.int (mI S 37) :: st) (sM g σ b S)) : Wp g mt kc ks pc L (.ref b :: st) (sM g σ b S) := m_get (k := 37) d (by omega) (by rw [ho]; exact q1589) rfl kk
theorem mp_marks {x : Int32} (d : decode mt.1.2.1 pc = .ok (.putfield 451, 3)) (ho : mt.1.1 = RX8) (kk : Wp g mt kc ks (pc + 3) L st (sM g σ b (sI S 37 x))) : Wp g mt kc ks pc L (.int x :: .ref b :: st) (sM g σ b S) := m_put (k := 37) (sI S 37 x) d (by omega) (by rw [ho]; exact q1589) rfl rfl rfl rfl encM_sI kk
theorem ma_at {j : Nat} (d : decode mt.1.2.1 pc = .ok (.iaload, 1)) (hj : j < 8400) (kk : Wp g mt kc ks (pc + 1) L (.int (mA S 0 j) :: st) (sM g σ b S)) : Wp g mt kc ks pc L (.int (nI j) :: .ref (b + 1) :: st) (sM g σ b S) := w_ialdN d (sM_at (k := 1) (by omega)) hj (by omega) kk
theorem encM_at {j : Nat} {x : Int32} : ∀ i, i < 16 → i ≠ 1 → encM g b (sA S 0 j x) i = encM g b S i := by
  intro i hi h0
  match i, hi with
  | 0, _ => rfl
  | 1, _ => exact absurd rfl h0
  | 2, _ => rfl
  | 3, _ => rfl
  | 4, _ => rfl
  | 5, _ => rfl
  | 6, _ => rfl
  | 7, _ => rfl
  | 8, _ => rfl
  | 9, _ => rfl
  | 10, _ => rfl
  | 11, _ => rfl
  | 12, _ => rfl
  | 13, _ => rfl
  | 14, _ => rfl
  | 15, _ => rfl
  | i + 16, h9 => exact absurd h9 (by omega)
theorem ms_at {j : Nat} {x : Int32} (d : decode mt.1.2.1 pc = .ok (.iastore, 1)) (hj : j < 8400) (kk : Wp g mt kc ks (pc + 1) L st (sM g σ b (sA S 0 j x))) : Wp g mt kc ks pc L (.int x :: .int (nI j) :: .ref (b + 1) :: st) (sM g σ b S) := w_iastN d (sM_at (k := 1) (by omega)) hj (by omega) (by rw [show hup (sM g σ b S) (b + 1) (b, 1) (.inl (g.2.2.2 0, 8400, .inl (upd (mA S 0) j x))) = sM g σ b (sA S 0 j x) from sM_up (k := 1) (by omega) rfl encM_at]; exact kk)
theorem mz_at {i : Int32} (d : decode mt.1.2.1 pc = .ok (.iaload, 1)) (hj : vp_in i 8400) (kk : Wp g mt kc ks (pc + 1) L (.int (mA S 0 i.toNatClampNeg) :: st) (sM g σ b S)) : Wp g mt kc ks pc L (.int i :: .ref (b + 1) :: st) (sM g σ b S) := w_iald d (sM_at (k := 1) (by omega)) hj kk
theorem ma_names {j : Nat} (d : decode mt.1.2.1 pc = .ok (.laload, 1)) (hj : j < 80) (kk : Wp g mt kc ks (pc + 1) L (.long (mB S 1 j) :: st) (sM g σ b S)) : Wp g mt kc ks pc L (.int (nI j) :: .ref (b + 2) :: st) (sM g σ b S) := w_laldN d (sM_at (k := 2) (by omega)) hj (by omega) kk
theorem encM_names {j : Nat} {x : Int64} : ∀ i, i < 16 → i ≠ 2 → encM g b (sB S 1 j x) i = encM g b S i := by
  intro i hi h0
  match i, hi with
  | 0, _ => rfl
  | 1, _ => rfl
  | 2, _ => exact absurd rfl h0
  | 3, _ => rfl
  | 4, _ => rfl
  | 5, _ => rfl
  | 6, _ => rfl
  | 7, _ => rfl
  | 8, _ => rfl
  | 9, _ => rfl
  | 10, _ => rfl
  | 11, _ => rfl
  | 12, _ => rfl
  | 13, _ => rfl
  | 14, _ => rfl
  | 15, _ => rfl
  | i + 16, h9 => exact absurd h9 (by omega)
theorem ms_names {j : Nat} {x : Int64} (d : decode mt.1.2.1 pc = .ok (.lastore, 1)) (hj : j < 80) (kk : Wp g mt kc ks (pc + 1) L st (sM g σ b (sB S 1 j x))) : Wp g mt kc ks pc L (.long x :: .int (nI j) :: .ref (b + 2) :: st) (sM g σ b S) := w_lastN d (sM_at (k := 2) (by omega)) hj (by omega) (by rw [show hup (sM g σ b S) (b + 2) (b, 2) (.inl (g.2.2.2 1, 80, .inr (.inl (vp_updL (mB S 1) j x)))) = sM g σ b (sB S 1 j x) from sM_up (k := 2) (by omega) rfl encM_names]; exact kk)
theorem mz_names {i : Int32} (d : decode mt.1.2.1 pc = .ok (.laload, 1)) (hj : vp_in i 80) (kk : Wp g mt kc ks (pc + 1) L (.long (mB S 1 i.toNatClampNeg) :: st) (sM g σ b S)) : Wp g mt kc ks pc L (.int i :: .ref (b + 2) :: st) (sM g σ b S) := w_lald d (sM_at (k := 2) (by omega)) hj kk
theorem ma_sort {j : Nat} (d : decode mt.1.2.1 pc = .ok (.iaload, 1)) (hj : j < 4) (kk : Wp g mt kc ks (pc + 1) L (.int (mA S 5 j) :: st) (sM g σ b S)) : Wp g mt kc ks pc L (.int (nI j) :: .ref (b + 3) :: st) (sM g σ b S) := w_ialdN d (sM_at (k := 3) (by omega)) hj (by omega) kk
theorem encM_sort {j : Nat} {x : Int32} : ∀ i, i < 16 → i ≠ 3 → encM g b (sA S 5 j x) i = encM g b S i := by
  intro i hi h0
  match i, hi with
  | 0, _ => rfl
  | 1, _ => rfl
  | 2, _ => rfl
  | 3, _ => exact absurd rfl h0
  | 4, _ => rfl
  | 5, _ => rfl
  | 6, _ => rfl
  | 7, _ => rfl
  | 8, _ => rfl
  | 9, _ => rfl
  | 10, _ => rfl
  | 11, _ => rfl
  | 12, _ => rfl
  | 13, _ => rfl
  | 14, _ => rfl
  | 15, _ => rfl
  | i + 16, h9 => exact absurd h9 (by omega)
theorem ms_sort {j : Nat} {x : Int32} (d : decode mt.1.2.1 pc = .ok (.iastore, 1)) (hj : j < 4) (kk : Wp g mt kc ks (pc + 1) L st (sM g σ b (sA S 5 j x))) : Wp g mt kc ks pc L (.int x :: .int (nI j) :: .ref (b + 3) :: st) (sM g σ b S) := w_iastN d (sM_at (k := 3) (by omega)) hj (by omega) (by rw [show hup (sM g σ b S) (b + 3) (b, 3) (.inl (g.2.2.2 0, 4, .inl (upd (mA S 5) j x))) = sM g σ b (sA S 5 j x) from sM_up (k := 3) (by omega) rfl encM_sort]; exact kk)
theorem mz_sort {i : Int32} (d : decode mt.1.2.1 pc = .ok (.iaload, 1)) (hj : vp_in i 4) (kk : Wp g mt kc ks (pc + 1) L (.int (mA S 5 i.toNatClampNeg) :: st) (sM g σ b S)) : Wp g mt kc ks pc L (.int i :: .ref (b + 3) :: st) (sM g σ b S) := w_iald d (sM_at (k := 3) (by omega)) hj kk
theorem ma_trayMany {j : Nat} (d : decode mt.1.2.1 pc = .ok (.iaload, 1)) (hj : j < 4) (kk : Wp g mt kc ks (pc + 1) L (.int (mA S 6 j) :: st) (sM g σ b S)) : Wp g mt kc ks pc L (.int (nI j) :: .ref (b + 4) :: st) (sM g σ b S) := w_ialdN d (sM_at (k := 4) (by omega)) hj (by omega) kk
theorem encM_trayMany {j : Nat} {x : Int32} : ∀ i, i < 16 → i ≠ 4 → encM g b (sA S 6 j x) i = encM g b S i := by
  intro i hi h0
  match i, hi with
  | 0, _ => rfl
  | 1, _ => rfl
  | 2, _ => rfl
  | 3, _ => rfl
  | 4, _ => exact absurd rfl h0
  | 5, _ => rfl
  | 6, _ => rfl
  | 7, _ => rfl
  | 8, _ => rfl
  | 9, _ => rfl
  | 10, _ => rfl
  | 11, _ => rfl
  | 12, _ => rfl
  | 13, _ => rfl
  | 14, _ => rfl
  | 15, _ => rfl
  | i + 16, h9 => exact absurd h9 (by omega)
theorem ms_trayMany {j : Nat} {x : Int32} (d : decode mt.1.2.1 pc = .ok (.iastore, 1)) (hj : j < 4) (kk : Wp g mt kc ks (pc + 1) L st (sM g σ b (sA S 6 j x))) : Wp g mt kc ks pc L (.int x :: .int (nI j) :: .ref (b + 4) :: st) (sM g σ b S) := w_iastN d (sM_at (k := 4) (by omega)) hj (by omega) (by rw [show hup (sM g σ b S) (b + 4) (b, 4) (.inl (g.2.2.2 0, 4, .inl (upd (mA S 6) j x))) = sM g σ b (sA S 6 j x) from sM_up (k := 4) (by omega) rfl encM_trayMany]; exact kk)
theorem mz_trayMany {i : Int32} (d : decode mt.1.2.1 pc = .ok (.iaload, 1)) (hj : vp_in i 4) (kk : Wp g mt kc ks (pc + 1) L (.int (mA S 6 i.toNatClampNeg) :: st) (sM g σ b S)) : Wp g mt kc ks pc L (.int i :: .ref (b + 4) :: st) (sM g σ b S) := w_iald d (sM_at (k := 4) (by omega)) hj kk
theorem ma_trays {j : Nat} (d : decode mt.1.2.1 pc = .ok (.laload, 1)) (hj : j < 240) (kk : Wp g mt kc ks (pc + 1) L (.long (mB S 7 j) :: st) (sM g σ b S)) : Wp g mt kc ks pc L (.int (nI j) :: .ref (b + 5) :: st) (sM g σ b S) := w_laldN d (sM_at (k := 5) (by omega)) hj (by omega) kk
theorem encM_trays {j : Nat} {x : Int64} : ∀ i, i < 16 → i ≠ 5 → encM g b (sB S 7 j x) i = encM g b S i := by
  intro i hi h0
  match i, hi with
  | 0, _ => rfl
  | 1, _ => rfl
  | 2, _ => rfl
  | 3, _ => rfl
  | 4, _ => rfl
  | 5, _ => exact absurd rfl h0
  | 6, _ => rfl
  | 7, _ => rfl
  | 8, _ => rfl
  | 9, _ => rfl
  | 10, _ => rfl
  | 11, _ => rfl
  | 12, _ => rfl
  | 13, _ => rfl
  | 14, _ => rfl
  | 15, _ => rfl
  | i + 16, h9 => exact absurd h9 (by omega)
theorem ms_trays {j : Nat} {x : Int64} (d : decode mt.1.2.1 pc = .ok (.lastore, 1)) (hj : j < 240) (kk : Wp g mt kc ks (pc + 1) L st (sM g σ b (sB S 7 j x))) : Wp g mt kc ks pc L (.long x :: .int (nI j) :: .ref (b + 5) :: st) (sM g σ b S) := w_lastN d (sM_at (k := 5) (by omega)) hj (by omega) (by rw [show hup (sM g σ b S) (b + 5) (b, 5) (.inl (g.2.2.2 1, 240, .inr (.inl (vp_updL (mB S 7) j x)))) = sM g σ b (sB S 7 j x) from sM_up (k := 5) (by omega) rfl encM_trays]; exact kk)
theorem mz_trays {i : Int32} (d : decode mt.1.2.1 pc = .ok (.laload, 1)) (hj : vp_in i 240) (kk : Wp g mt kc ks (pc + 1) L (.long (mB S 7 i.toNatClampNeg) :: st) (sM g σ b S)) : Wp g mt kc ks pc L (.int i :: .ref (b + 5) :: st) (sM g σ b S) := w_lald d (sM_at (k := 5) (by omega)) hj kk
theorem ma_tape {j : Nat} (d : decode mt.1.2.1 pc = .ok (.baload, 1)) (hj : j < 900) (kk : Wp g mt kc ks (pc + 1) L (.int (mA S 8 j) :: st) (sM g σ b S)) : Wp g mt kc ks pc L (.int (nI j) :: .ref (b + 6) :: st) (sM g σ b S) := w_baldN d (sM_at (k := 6) (by omega)) hj (by omega) kk
theorem encM_tape {j : Nat} {x : Int32} : ∀ i, i < 16 → i ≠ 6 → encM g b (sA S 8 j x) i = encM g b S i := by
  intro i hi h0
  match i, hi with
  | 0, _ => rfl
  | 1, _ => rfl
  | 2, _ => rfl
  | 3, _ => rfl
  | 4, _ => rfl
  | 5, _ => rfl
  | 6, _ => exact absurd rfl h0
  | 7, _ => rfl
  | 8, _ => rfl
  | 9, _ => rfl
  | 10, _ => rfl
  | 11, _ => rfl
  | 12, _ => rfl
  | 13, _ => rfl
  | 14, _ => rfl
  | 15, _ => rfl
  | i + 16, h9 => exact absurd h9 (by omega)
theorem ms_tape {j : Nat} {x : Int32} (d : decode mt.1.2.1 pc = .ok (.bastore, 1)) (hj : j < 900) (kk : Wp g mt kc ks (pc + 1) L st (sM g σ b (sA S 8 j (vp_nar .byte x)))) : Wp g mt kc ks pc L (.int x :: .int (nI j) :: .ref (b + 6) :: st) (sM g σ b S) := w_bastN d (sM_at (k := 6) (by omega)) hj (by omega) (by rw [show hup (sM g σ b S) (b + 6) (b, 6) (.inl (g.2.2.2 2, 900, .inl (upd (mA S 8) j (vp_nar .byte x)))) = sM g σ b (sA S 8 j (vp_nar .byte x)) from sM_up (k := 6) (by omega) rfl encM_tape]; exact kk)
theorem mz_tape {i : Int32} (d : decode mt.1.2.1 pc = .ok (.baload, 1)) (hj : vp_in i 900) (kk : Wp g mt kc ks (pc + 1) L (.int (mA S 8 i.toNatClampNeg) :: st) (sM g σ b S)) : Wp g mt kc ks pc L (.int i :: .ref (b + 6) :: st) (sM g σ b S) := w_bald d (sM_at (k := 6) (by omega)) hj kk
theorem ma_text {j : Nat} (d : decode mt.1.2.1 pc = .ok (.baload, 1)) (hj : j < 900) (kk : Wp g mt kc ks (pc + 1) L (.int (mA S 9 j) :: st) (sM g σ b S)) : Wp g mt kc ks pc L (.int (nI j) :: .ref (b + 7) :: st) (sM g σ b S) := w_baldN d (sM_at (k := 7) (by omega)) hj (by omega) kk
theorem encM_text {j : Nat} {x : Int32} : ∀ i, i < 16 → i ≠ 7 → encM g b (sA S 9 j x) i = encM g b S i := by
  intro i hi h0
  match i, hi with
  | 0, _ => rfl
  | 1, _ => rfl
  | 2, _ => rfl
  | 3, _ => rfl
  | 4, _ => rfl
  | 5, _ => rfl
  | 6, _ => rfl
  | 7, _ => exact absurd rfl h0
  | 8, _ => rfl
  | 9, _ => rfl
  | 10, _ => rfl
  | 11, _ => rfl
  | 12, _ => rfl
  | 13, _ => rfl
  | 14, _ => rfl
  | 15, _ => rfl
  | i + 16, h9 => exact absurd h9 (by omega)
theorem ms_text {j : Nat} {x : Int32} (d : decode mt.1.2.1 pc = .ok (.bastore, 1)) (hj : j < 900) (kk : Wp g mt kc ks (pc + 1) L st (sM g σ b (sA S 9 j (vp_nar .byte x)))) : Wp g mt kc ks pc L (.int x :: .int (nI j) :: .ref (b + 7) :: st) (sM g σ b S) := w_bastN d (sM_at (k := 7) (by omega)) hj (by omega) (by rw [show hup (sM g σ b S) (b + 7) (b, 7) (.inl (g.2.2.2 2, 900, .inl (upd (mA S 9) j (vp_nar .byte x)))) = sM g σ b (sA S 9 j (vp_nar .byte x)) from sM_up (k := 7) (by omega) rfl encM_text]; exact kk)
theorem mz_text {i : Int32} (d : decode mt.1.2.1 pc = .ok (.baload, 1)) (hj : vp_in i 900) (kk : Wp g mt kc ks (pc + 1) L (.int (mA S 9 i.toNatClampNeg) :: st) (sM g σ b S)) : Wp g mt kc ks pc L (.int i :: .ref (b + 7) :: st) (sM g σ b S) := w_bald d (sM_at (k := 7) (by omega)) hj kk
theorem ma_opened {j : Nat} (d : decode mt.1.2.1 pc = .ok (.iaload, 1)) (hj : j < 3) (kk : Wp g mt kc ks (pc + 1) L (.int (mA S 22 j) :: st) (sM g σ b S)) : Wp g mt kc ks pc L (.int (nI j) :: .ref (b + 8) :: st) (sM g σ b S) := w_ialdN d (sM_at (k := 8) (by omega)) hj (by omega) kk
theorem encM_opened {j : Nat} {x : Int32} : ∀ i, i < 16 → i ≠ 8 → encM g b (sA S 22 j x) i = encM g b S i := by
  intro i hi h0
  match i, hi with
  | 0, _ => rfl
  | 1, _ => rfl
  | 2, _ => rfl
  | 3, _ => rfl
  | 4, _ => rfl
  | 5, _ => rfl
  | 6, _ => rfl
  | 7, _ => rfl
  | 8, _ => exact absurd rfl h0
  | 9, _ => rfl
  | 10, _ => rfl
  | 11, _ => rfl
  | 12, _ => rfl
  | 13, _ => rfl
  | 14, _ => rfl
  | 15, _ => rfl
  | i + 16, h9 => exact absurd h9 (by omega)
theorem ms_opened {j : Nat} {x : Int32} (d : decode mt.1.2.1 pc = .ok (.iastore, 1)) (hj : j < 3) (kk : Wp g mt kc ks (pc + 1) L st (sM g σ b (sA S 22 j x))) : Wp g mt kc ks pc L (.int x :: .int (nI j) :: .ref (b + 8) :: st) (sM g σ b S) := w_iastN d (sM_at (k := 8) (by omega)) hj (by omega) (by rw [show hup (sM g σ b S) (b + 8) (b, 8) (.inl (g.2.2.2 0, 3, .inl (upd (mA S 22) j x))) = sM g σ b (sA S 22 j x) from sM_up (k := 8) (by omega) rfl encM_opened]; exact kk)
theorem mz_opened {i : Int32} (d : decode mt.1.2.1 pc = .ok (.iaload, 1)) (hj : vp_in i 3) (kk : Wp g mt kc ks (pc + 1) L (.int (mA S 22 i.toNatClampNeg) :: st) (sM g σ b S)) : Wp g mt kc ks pc L (.int i :: .ref (b + 8) :: st) (sM g σ b S) := w_iald d (sM_at (k := 8) (by omega)) hj kk
theorem ma_row {j : Nat} (d : decode mt.1.2.1 pc = .ok (.iaload, 1)) (hj : j < 9) (kk : Wp g mt kc ks (pc + 1) L (.int (mA S 25 j) :: st) (sM g σ b S)) : Wp g mt kc ks pc L (.int (nI j) :: .ref (b + 9) :: st) (sM g σ b S) := w_ialdN d (sM_at (k := 9) (by omega)) hj (by omega) kk
theorem encM_row {j : Nat} {x : Int32} : ∀ i, i < 16 → i ≠ 9 → encM g b (sA S 25 j x) i = encM g b S i := by
  intro i hi h0
  match i, hi with
  | 0, _ => rfl
  | 1, _ => rfl
  | 2, _ => rfl
  | 3, _ => rfl
  | 4, _ => rfl
  | 5, _ => rfl
  | 6, _ => rfl
  | 7, _ => rfl
  | 8, _ => rfl
  | 9, _ => exact absurd rfl h0
  | 10, _ => rfl
  | 11, _ => rfl
  | 12, _ => rfl
  | 13, _ => rfl
  | 14, _ => rfl
  | 15, _ => rfl
  | i + 16, h9 => exact absurd h9 (by omega)
theorem ms_row {j : Nat} {x : Int32} (d : decode mt.1.2.1 pc = .ok (.iastore, 1)) (hj : j < 9) (kk : Wp g mt kc ks (pc + 1) L st (sM g σ b (sA S 25 j x))) : Wp g mt kc ks pc L (.int x :: .int (nI j) :: .ref (b + 9) :: st) (sM g σ b S) := w_iastN d (sM_at (k := 9) (by omega)) hj (by omega) (by rw [show hup (sM g σ b S) (b + 9) (b, 9) (.inl (g.2.2.2 0, 9, .inl (upd (mA S 25) j x))) = sM g σ b (sA S 25 j x) from sM_up (k := 9) (by omega) rfl encM_row]; exact kk)
theorem mz_row {i : Int32} (d : decode mt.1.2.1 pc = .ok (.iaload, 1)) (hj : vp_in i 9) (kk : Wp g mt kc ks (pc + 1) L (.int (mA S 25 i.toNatClampNeg) :: st) (sM g σ b S)) : Wp g mt kc ks pc L (.int i :: .ref (b + 9) :: st) (sM g σ b S) := w_iald d (sM_at (k := 9) (by omega)) hj kk
theorem ma_when {j : Nat} (d : decode mt.1.2.1 pc = .ok (.iaload, 1)) (hj : j < 9) (kk : Wp g mt kc ks (pc + 1) L (.int (mA S 26 j) :: st) (sM g σ b S)) : Wp g mt kc ks pc L (.int (nI j) :: .ref (b + 10) :: st) (sM g σ b S) := w_ialdN d (sM_at (k := 10) (by omega)) hj (by omega) kk
theorem encM_when {j : Nat} {x : Int32} : ∀ i, i < 16 → i ≠ 10 → encM g b (sA S 26 j x) i = encM g b S i := by
  intro i hi h0
  match i, hi with
  | 0, _ => rfl
  | 1, _ => rfl
  | 2, _ => rfl
  | 3, _ => rfl
  | 4, _ => rfl
  | 5, _ => rfl
  | 6, _ => rfl
  | 7, _ => rfl
  | 8, _ => rfl
  | 9, _ => rfl
  | 10, _ => exact absurd rfl h0
  | 11, _ => rfl
  | 12, _ => rfl
  | 13, _ => rfl
  | 14, _ => rfl
  | 15, _ => rfl
  | i + 16, h9 => exact absurd h9 (by omega)
theorem ms_when {j : Nat} {x : Int32} (d : decode mt.1.2.1 pc = .ok (.iastore, 1)) (hj : j < 9) (kk : Wp g mt kc ks (pc + 1) L st (sM g σ b (sA S 26 j x))) : Wp g mt kc ks pc L (.int x :: .int (nI j) :: .ref (b + 10) :: st) (sM g σ b S) := w_iastN d (sM_at (k := 10) (by omega)) hj (by omega) (by rw [show hup (sM g σ b S) (b + 10) (b, 10) (.inl (g.2.2.2 0, 9, .inl (upd (mA S 26) j x))) = sM g σ b (sA S 26 j x) from sM_up (k := 10) (by omega) rfl encM_when]; exact kk)
theorem mz_when {i : Int32} (d : decode mt.1.2.1 pc = .ok (.iaload, 1)) (hj : vp_in i 9) (kk : Wp g mt kc ks (pc + 1) L (.int (mA S 26 i.toNatClampNeg) :: st) (sM g σ b S)) : Wp g mt kc ks pc L (.int i :: .ref (b + 10) :: st) (sM g σ b S) := w_iald d (sM_at (k := 10) (by omega)) hj kk
theorem ma_bestRow {j : Nat} (d : decode mt.1.2.1 pc = .ok (.iaload, 1)) (hj : j < 8) (kk : Wp g mt kc ks (pc + 1) L (.int (mA S 27 j) :: st) (sM g σ b S)) : Wp g mt kc ks pc L (.int (nI j) :: .ref (b + 11) :: st) (sM g σ b S) := w_ialdN d (sM_at (k := 11) (by omega)) hj (by omega) kk
theorem encM_bestRow {j : Nat} {x : Int32} : ∀ i, i < 16 → i ≠ 11 → encM g b (sA S 27 j x) i = encM g b S i := by
  intro i hi h0
  match i, hi with
  | 0, _ => rfl
  | 1, _ => rfl
  | 2, _ => rfl
  | 3, _ => rfl
  | 4, _ => rfl
  | 5, _ => rfl
  | 6, _ => rfl
  | 7, _ => rfl
  | 8, _ => rfl
  | 9, _ => rfl
  | 10, _ => rfl
  | 11, _ => exact absurd rfl h0
  | 12, _ => rfl
  | 13, _ => rfl
  | 14, _ => rfl
  | 15, _ => rfl
  | i + 16, h9 => exact absurd h9 (by omega)
theorem ms_bestRow {j : Nat} {x : Int32} (d : decode mt.1.2.1 pc = .ok (.iastore, 1)) (hj : j < 8) (kk : Wp g mt kc ks (pc + 1) L st (sM g σ b (sA S 27 j x))) : Wp g mt kc ks pc L (.int x :: .int (nI j) :: .ref (b + 11) :: st) (sM g σ b S) := w_iastN d (sM_at (k := 11) (by omega)) hj (by omega) (by rw [show hup (sM g σ b S) (b + 11) (b, 11) (.inl (g.2.2.2 0, 8, .inl (upd (mA S 27) j x))) = sM g σ b (sA S 27 j x) from sM_up (k := 11) (by omega) rfl encM_bestRow]; exact kk)
theorem mz_bestRow {i : Int32} (d : decode mt.1.2.1 pc = .ok (.iaload, 1)) (hj : vp_in i 8) (kk : Wp g mt kc ks (pc + 1) L (.int (mA S 27 i.toNatClampNeg) :: st) (sM g σ b S)) : Wp g mt kc ks pc L (.int i :: .ref (b + 11) :: st) (sM g σ b S) := w_iald d (sM_at (k := 11) (by omega)) hj kk
theorem ma_toldRow {j : Nat} (d : decode mt.1.2.1 pc = .ok (.iaload, 1)) (hj : j < 8) (kk : Wp g mt kc ks (pc + 1) L (.int (mA S 28 j) :: st) (sM g σ b S)) : Wp g mt kc ks pc L (.int (nI j) :: .ref (b + 12) :: st) (sM g σ b S) := w_ialdN d (sM_at (k := 12) (by omega)) hj (by omega) kk
theorem encM_toldRow {j : Nat} {x : Int32} : ∀ i, i < 16 → i ≠ 12 → encM g b (sA S 28 j x) i = encM g b S i := by
  intro i hi h0
  match i, hi with
  | 0, _ => rfl
  | 1, _ => rfl
  | 2, _ => rfl
  | 3, _ => rfl
  | 4, _ => rfl
  | 5, _ => rfl
  | 6, _ => rfl
  | 7, _ => rfl
  | 8, _ => rfl
  | 9, _ => rfl
  | 10, _ => rfl
  | 11, _ => rfl
  | 12, _ => exact absurd rfl h0
  | 13, _ => rfl
  | 14, _ => rfl
  | 15, _ => rfl
  | i + 16, h9 => exact absurd h9 (by omega)
theorem ms_toldRow {j : Nat} {x : Int32} (d : decode mt.1.2.1 pc = .ok (.iastore, 1)) (hj : j < 8) (kk : Wp g mt kc ks (pc + 1) L st (sM g σ b (sA S 28 j x))) : Wp g mt kc ks pc L (.int x :: .int (nI j) :: .ref (b + 12) :: st) (sM g σ b S) := w_iastN d (sM_at (k := 12) (by omega)) hj (by omega) (by rw [show hup (sM g σ b S) (b + 12) (b, 12) (.inl (g.2.2.2 0, 8, .inl (upd (mA S 28) j x))) = sM g σ b (sA S 28 j x) from sM_up (k := 12) (by omega) rfl encM_toldRow]; exact kk)
theorem mz_toldRow {i : Int32} (d : decode mt.1.2.1 pc = .ok (.iaload, 1)) (hj : vp_in i 8) (kk : Wp g mt kc ks (pc + 1) L (.int (mA S 28 i.toNatClampNeg) :: st) (sM g σ b S)) : Wp g mt kc ks pc L (.int i :: .ref (b + 12) :: st) (sM g σ b S) := w_iald d (sM_at (k := 12) (by omega)) hj kk
theorem ma_loops {j : Nat} (d : decode mt.1.2.1 pc = .ok (.iaload, 1)) (hj : j < 80) (kk : Wp g mt kc ks (pc + 1) L (.int (mA S 33 j) :: st) (sM g σ b S)) : Wp g mt kc ks pc L (.int (nI j) :: .ref (b + 13) :: st) (sM g σ b S) := w_ialdN d (sM_at (k := 13) (by omega)) hj (by omega) kk
theorem encM_loops {j : Nat} {x : Int32} : ∀ i, i < 16 → i ≠ 13 → encM g b (sA S 33 j x) i = encM g b S i := by
  intro i hi h0
  match i, hi with
  | 0, _ => rfl
  | 1, _ => rfl
  | 2, _ => rfl
  | 3, _ => rfl
  | 4, _ => rfl
  | 5, _ => rfl
  | 6, _ => rfl
  | 7, _ => rfl
  | 8, _ => rfl
  | 9, _ => rfl
  | 10, _ => rfl
  | 11, _ => rfl
  | 12, _ => rfl
  | 13, _ => exact absurd rfl h0
  | 14, _ => rfl
  | 15, _ => rfl
  | i + 16, h9 => exact absurd h9 (by omega)
theorem ms_loops {j : Nat} {x : Int32} (d : decode mt.1.2.1 pc = .ok (.iastore, 1)) (hj : j < 80) (kk : Wp g mt kc ks (pc + 1) L st (sM g σ b (sA S 33 j x))) : Wp g mt kc ks pc L (.int x :: .int (nI j) :: .ref (b + 13) :: st) (sM g σ b S) := w_iastN d (sM_at (k := 13) (by omega)) hj (by omega) (by rw [show hup (sM g σ b S) (b + 13) (b, 13) (.inl (g.2.2.2 0, 80, .inl (upd (mA S 33) j x))) = sM g σ b (sA S 33 j x) from sM_up (k := 13) (by omega) rfl encM_loops]; exact kk)
theorem mz_loops {i : Int32} (d : decode mt.1.2.1 pc = .ok (.iaload, 1)) (hj : vp_in i 80) (kk : Wp g mt kc ks (pc + 1) L (.int (mA S 33 i.toNatClampNeg) :: st) (sM g σ b S)) : Wp g mt kc ks pc L (.int i :: .ref (b + 13) :: st) (sM g σ b S) := w_iald d (sM_at (k := 13) (by omega)) hj kk
theorem ma_ran {j : Nat} (d : decode mt.1.2.1 pc = .ok (.iaload, 1)) (hj : j < 5) (kk : Wp g mt kc ks (pc + 1) L (.int (mA S 34 j) :: st) (sM g σ b S)) : Wp g mt kc ks pc L (.int (nI j) :: .ref (b + 14) :: st) (sM g σ b S) := w_ialdN d (sM_at (k := 14) (by omega)) hj (by omega) kk
theorem encM_ran {j : Nat} {x : Int32} : ∀ i, i < 16 → i ≠ 14 → encM g b (sA S 34 j x) i = encM g b S i := by
  intro i hi h0
  match i, hi with
  | 0, _ => rfl
  | 1, _ => rfl
  | 2, _ => rfl
  | 3, _ => rfl
  | 4, _ => rfl
  | 5, _ => rfl
  | 6, _ => rfl
  | 7, _ => rfl
  | 8, _ => rfl
  | 9, _ => rfl
  | 10, _ => rfl
  | 11, _ => rfl
  | 12, _ => rfl
  | 13, _ => rfl
  | 14, _ => exact absurd rfl h0
  | 15, _ => rfl
  | i + 16, h9 => exact absurd h9 (by omega)
theorem ms_ran {j : Nat} {x : Int32} (d : decode mt.1.2.1 pc = .ok (.iastore, 1)) (hj : j < 5) (kk : Wp g mt kc ks (pc + 1) L st (sM g σ b (sA S 34 j x))) : Wp g mt kc ks pc L (.int x :: .int (nI j) :: .ref (b + 14) :: st) (sM g σ b S) := w_iastN d (sM_at (k := 14) (by omega)) hj (by omega) (by rw [show hup (sM g σ b S) (b + 14) (b, 14) (.inl (g.2.2.2 0, 5, .inl (upd (mA S 34) j x))) = sM g σ b (sA S 34 j x) from sM_up (k := 14) (by omega) rfl encM_ran]; exact kk)
theorem mz_ran {i : Int32} (d : decode mt.1.2.1 pc = .ok (.iaload, 1)) (hj : vp_in i 5) (kk : Wp g mt kc ks (pc + 1) L (.int (mA S 34 i.toNatClampNeg) :: st) (sM g σ b S)) : Wp g mt kc ks pc L (.int i :: .ref (b + 14) :: st) (sM g σ b S) := w_iald d (sM_at (k := 14) (by omega)) hj kk
theorem ma_told0 {j : Nat} (d : decode mt.1.2.1 pc = .ok (.iaload, 1)) (hj : j < 5) (kk : Wp g mt kc ks (pc + 1) L (.int (mA S 35 j) :: st) (sM g σ b S)) : Wp g mt kc ks pc L (.int (nI j) :: .ref (b + 15) :: st) (sM g σ b S) := w_ialdN d (sM_at (k := 15) (by omega)) hj (by omega) kk
theorem encM_told0 {j : Nat} {x : Int32} : ∀ i, i < 16 → i ≠ 15 → encM g b (sA S 35 j x) i = encM g b S i := by
  intro i hi h0
  match i, hi with
  | 0, _ => rfl
  | 1, _ => rfl
  | 2, _ => rfl
  | 3, _ => rfl
  | 4, _ => rfl
  | 5, _ => rfl
  | 6, _ => rfl
  | 7, _ => rfl
  | 8, _ => rfl
  | 9, _ => rfl
  | 10, _ => rfl
  | 11, _ => rfl
  | 12, _ => rfl
  | 13, _ => rfl
  | 14, _ => rfl
  | 15, _ => exact absurd rfl h0
  | i + 16, h9 => exact absurd h9 (by omega)
theorem ms_told0 {j : Nat} {x : Int32} (d : decode mt.1.2.1 pc = .ok (.iastore, 1)) (hj : j < 5) (kk : Wp g mt kc ks (pc + 1) L st (sM g σ b (sA S 35 j x))) : Wp g mt kc ks pc L (.int x :: .int (nI j) :: .ref (b + 15) :: st) (sM g σ b S) := w_iastN d (sM_at (k := 15) (by omega)) hj (by omega) (by rw [show hup (sM g σ b S) (b + 15) (b, 15) (.inl (g.2.2.2 0, 5, .inl (upd (mA S 35) j x))) = sM g σ b (sA S 35 j x) from sM_up (k := 15) (by omega) rfl encM_told0]; exact kk)
theorem mz_told0 {i : Int32} (d : decode mt.1.2.1 pc = .ok (.iaload, 1)) (hj : vp_in i 5) (kk : Wp g mt kc ks (pc + 1) L (.int (mA S 35 i.toNatClampNeg) :: st) (sM g σ b S)) : Wp g mt kc ks pc L (.int i :: .ref (b + 15) :: st) (sM g σ b S) := w_iald d (sM_at (k := 15) (by omega)) hj kk
theorem m_calli0 {r : Int32} {index : Nat} (d : decode mt.1.2.1 pc = .ok (.invokevirtual index, 3)) (q : Cond.methodLink mt.1.1 index mi.1 ∈ lw_all) (ok : MOkV mi 0) (hcls : mi.1.cls = RX8) (hd : d2 + 1 ≤ mt.2.1.1) (hM : Mt g mi d2 [] S (some (.int r)) S2) (hcat : (rest.map fun v => v.category).sum ≤ 8) (kk : Wp g mt kc ks (pc + 3) L (.int r :: rest) (sM g σ b S2)) : Wp g mt kc ks pc L (.ref b :: rest) (sM g σ b S) :=
  w_callV (As := []) (mc2 := 0) (ms2 := 0) d q ok clX8 hcls (hM σ b) hd sM_0 rfl rfl hcat (fun w σ2 h => by obtain ⟨rfl, rfl⟩ := h; exact kk) (fun _ _ _ h => h.elim)
theorem s_calli0 {σ : PH} {r : Int32} {index : Nat} (d : decode mt.1.2.1 pc = .ok (.invokestatic index, 3)) (q : Cond.methodLink mt.1.1 index mi.1 ∈ lw_all) (ok : MOkS mi 0) (hd : d2 + 1 ≤ mt.2.1.1) (hM : Ms g mi d2 [] (some (.int r))) (hcat : (rest.map fun v => v.category).sum ≤ 8) (kk : Wp g mt kc ks (pc + 3) L (.int r :: rest) σ) : Wp g mt kc ks pc L (rest) σ :=
  w_callS (As := []) (mc2 := 0) (ms2 := 0) d q ok (hM σ) hd rfl rfl hcat (fun w σ2 h => by obtain ⟨rfl, rfl⟩ := h; exact kk) (fun _ _ _ h => h.elim)
theorem m_calli1 {a1 : Value} {r : Int32} {index : Nat} (d : decode mt.1.2.1 pc = .ok (.invokevirtual index, 3)) (q : Cond.methodLink mt.1.1 index mi.1 ∈ lw_all) (ok : MOkV mi 1) (hcls : mi.1.cls = RX8) (hd : d2 + 1 ≤ mt.2.1.1) (hM : Mt g mi d2 [a1] S (some (.int r)) S2) (hcat : (rest.map fun v => v.category).sum ≤ 8) (kk : Wp g mt kc ks (pc + 3) L (.int r :: rest) (sM g σ b S2)) : Wp g mt kc ks pc L (a1 :: .ref b :: rest) (sM g σ b S) :=
  w_callV (As := [a1]) (mc2 := 0) (ms2 := 0) d q ok clX8 hcls (hM σ b) hd sM_0 rfl rfl hcat (fun w σ2 h => by obtain ⟨rfl, rfl⟩ := h; exact kk) (fun _ _ _ h => h.elim)
theorem s_calli1 {σ : PH} {a1 : Value} {r : Int32} {index : Nat} (d : decode mt.1.2.1 pc = .ok (.invokestatic index, 3)) (q : Cond.methodLink mt.1.1 index mi.1 ∈ lw_all) (ok : MOkS mi 1) (hd : d2 + 1 ≤ mt.2.1.1) (hM : Ms g mi d2 [a1] (some (.int r))) (hcat : (rest.map fun v => v.category).sum ≤ 8) (kk : Wp g mt kc ks (pc + 3) L (.int r :: rest) σ) : Wp g mt kc ks pc L (a1 :: rest) σ :=
  w_callS (As := [a1]) (mc2 := 0) (ms2 := 0) d q ok (hM σ) hd rfl rfl hcat (fun w σ2 h => by obtain ⟨rfl, rfl⟩ := h; exact kk) (fun _ _ _ h => h.elim)
theorem m_calli2 {a1 a2 : Value} {r : Int32} {index : Nat} (d : decode mt.1.2.1 pc = .ok (.invokevirtual index, 3)) (q : Cond.methodLink mt.1.1 index mi.1 ∈ lw_all) (ok : MOkV mi 2) (hcls : mi.1.cls = RX8) (hd : d2 + 1 ≤ mt.2.1.1) (hM : Mt g mi d2 [a1, a2] S (some (.int r)) S2) (hcat : (rest.map fun v => v.category).sum ≤ 8) (kk : Wp g mt kc ks (pc + 3) L (.int r :: rest) (sM g σ b S2)) : Wp g mt kc ks pc L (a2 :: a1 :: .ref b :: rest) (sM g σ b S) :=
  w_callV (As := [a1, a2]) (mc2 := 0) (ms2 := 0) d q ok clX8 hcls (hM σ b) hd sM_0 rfl rfl hcat (fun w σ2 h => by obtain ⟨rfl, rfl⟩ := h; exact kk) (fun _ _ _ h => h.elim)
theorem s_calli2 {σ : PH} {a1 a2 : Value} {r : Int32} {index : Nat} (d : decode mt.1.2.1 pc = .ok (.invokestatic index, 3)) (q : Cond.methodLink mt.1.1 index mi.1 ∈ lw_all) (ok : MOkS mi 2) (hd : d2 + 1 ≤ mt.2.1.1) (hM : Ms g mi d2 [a1, a2] (some (.int r))) (hcat : (rest.map fun v => v.category).sum ≤ 8) (kk : Wp g mt kc ks (pc + 3) L (.int r :: rest) σ) : Wp g mt kc ks pc L (a2 :: a1 :: rest) σ :=
  w_callS (As := [a1, a2]) (mc2 := 0) (ms2 := 0) d q ok (hM σ) hd rfl rfl hcat (fun w σ2 h => by obtain ⟨rfl, rfl⟩ := h; exact kk) (fun _ _ _ h => h.elim)
theorem m_calli3 {a1 a2 a3 : Value} {r : Int32} {index : Nat} (d : decode mt.1.2.1 pc = .ok (.invokevirtual index, 3)) (q : Cond.methodLink mt.1.1 index mi.1 ∈ lw_all) (ok : MOkV mi 3) (hcls : mi.1.cls = RX8) (hd : d2 + 1 ≤ mt.2.1.1) (hM : Mt g mi d2 [a1, a2, a3] S (some (.int r)) S2) (hcat : (rest.map fun v => v.category).sum ≤ 8) (kk : Wp g mt kc ks (pc + 3) L (.int r :: rest) (sM g σ b S2)) : Wp g mt kc ks pc L (a3 :: a2 :: a1 :: .ref b :: rest) (sM g σ b S) :=
  w_callV (As := [a1, a2, a3]) (mc2 := 0) (ms2 := 0) d q ok clX8 hcls (hM σ b) hd sM_0 rfl rfl hcat (fun w σ2 h => by obtain ⟨rfl, rfl⟩ := h; exact kk) (fun _ _ _ h => h.elim)
theorem s_calli3 {σ : PH} {a1 a2 a3 : Value} {r : Int32} {index : Nat} (d : decode mt.1.2.1 pc = .ok (.invokestatic index, 3)) (q : Cond.methodLink mt.1.1 index mi.1 ∈ lw_all) (ok : MOkS mi 3) (hd : d2 + 1 ≤ mt.2.1.1) (hM : Ms g mi d2 [a1, a2, a3] (some (.int r))) (hcat : (rest.map fun v => v.category).sum ≤ 8) (kk : Wp g mt kc ks (pc + 3) L (.int r :: rest) σ) : Wp g mt kc ks pc L (a3 :: a2 :: a1 :: rest) σ :=
  w_callS (As := [a1, a2, a3]) (mc2 := 0) (ms2 := 0) d q ok (hM σ) hd rfl rfl hcat (fun w σ2 h => by obtain ⟨rfl, rfl⟩ := h; exact kk) (fun _ _ _ h => h.elim)
theorem m_calli4 {a1 a2 a3 a4 : Value} {r : Int32} {index : Nat} (d : decode mt.1.2.1 pc = .ok (.invokevirtual index, 3)) (q : Cond.methodLink mt.1.1 index mi.1 ∈ lw_all) (ok : MOkV mi 4) (hcls : mi.1.cls = RX8) (hd : d2 + 1 ≤ mt.2.1.1) (hM : Mt g mi d2 [a1, a2, a3, a4] S (some (.int r)) S2) (hcat : (rest.map fun v => v.category).sum ≤ 8) (kk : Wp g mt kc ks (pc + 3) L (.int r :: rest) (sM g σ b S2)) : Wp g mt kc ks pc L (a4 :: a3 :: a2 :: a1 :: .ref b :: rest) (sM g σ b S) :=
  w_callV (As := [a1, a2, a3, a4]) (mc2 := 0) (ms2 := 0) d q ok clX8 hcls (hM σ b) hd sM_0 rfl rfl hcat (fun w σ2 h => by obtain ⟨rfl, rfl⟩ := h; exact kk) (fun _ _ _ h => h.elim)
theorem s_calli4 {σ : PH} {a1 a2 a3 a4 : Value} {r : Int32} {index : Nat} (d : decode mt.1.2.1 pc = .ok (.invokestatic index, 3)) (q : Cond.methodLink mt.1.1 index mi.1 ∈ lw_all) (ok : MOkS mi 4) (hd : d2 + 1 ≤ mt.2.1.1) (hM : Ms g mi d2 [a1, a2, a3, a4] (some (.int r))) (hcat : (rest.map fun v => v.category).sum ≤ 8) (kk : Wp g mt kc ks (pc + 3) L (.int r :: rest) σ) : Wp g mt kc ks pc L (a4 :: a3 :: a2 :: a1 :: rest) σ :=
  w_callS (As := [a1, a2, a3, a4]) (mc2 := 0) (ms2 := 0) d q ok (hM σ) hd rfl rfl hcat (fun w σ2 h => by obtain ⟨rfl, rfl⟩ := h; exact kk) (fun _ _ _ h => h.elim)
theorem m_calli5 {a1 a2 a3 a4 a5 : Value} {r : Int32} {index : Nat} (d : decode mt.1.2.1 pc = .ok (.invokevirtual index, 3)) (q : Cond.methodLink mt.1.1 index mi.1 ∈ lw_all) (ok : MOkV mi 5) (hcls : mi.1.cls = RX8) (hd : d2 + 1 ≤ mt.2.1.1) (hM : Mt g mi d2 [a1, a2, a3, a4, a5] S (some (.int r)) S2) (hcat : (rest.map fun v => v.category).sum ≤ 8) (kk : Wp g mt kc ks (pc + 3) L (.int r :: rest) (sM g σ b S2)) : Wp g mt kc ks pc L (a5 :: a4 :: a3 :: a2 :: a1 :: .ref b :: rest) (sM g σ b S) :=
  w_callV (As := [a1, a2, a3, a4, a5]) (mc2 := 0) (ms2 := 0) d q ok clX8 hcls (hM σ b) hd sM_0 rfl rfl hcat (fun w σ2 h => by obtain ⟨rfl, rfl⟩ := h; exact kk) (fun _ _ _ h => h.elim)
theorem s_calli5 {σ : PH} {a1 a2 a3 a4 a5 : Value} {r : Int32} {index : Nat} (d : decode mt.1.2.1 pc = .ok (.invokestatic index, 3)) (q : Cond.methodLink mt.1.1 index mi.1 ∈ lw_all) (ok : MOkS mi 5) (hd : d2 + 1 ≤ mt.2.1.1) (hM : Ms g mi d2 [a1, a2, a3, a4, a5] (some (.int r))) (hcat : (rest.map fun v => v.category).sum ≤ 8) (kk : Wp g mt kc ks (pc + 3) L (.int r :: rest) σ) : Wp g mt kc ks pc L (a5 :: a4 :: a3 :: a2 :: a1 :: rest) σ :=
  w_callS (As := [a1, a2, a3, a4, a5]) (mc2 := 0) (ms2 := 0) d q ok (hM σ) hd rfl rfl hcat (fun w σ2 h => by obtain ⟨rfl, rfl⟩ := h; exact kk) (fun _ _ _ h => h.elim)
theorem m_calll0 {r : Int64} {index : Nat} (d : decode mt.1.2.1 pc = .ok (.invokevirtual index, 3)) (q : Cond.methodLink mt.1.1 index mi.1 ∈ lw_all) (ok : MOkV mi 0) (hcls : mi.1.cls = RX8) (hd : d2 + 1 ≤ mt.2.1.1) (hM : Mt g mi d2 [] S (some (.long r)) S2) (hcat : (rest.map fun v => v.category).sum ≤ 8) (kk : Wp g mt kc ks (pc + 3) L (.long r :: rest) (sM g σ b S2)) : Wp g mt kc ks pc L (.ref b :: rest) (sM g σ b S) :=
  w_callV (As := []) (mc2 := 0) (ms2 := 0) d q ok clX8 hcls (hM σ b) hd sM_0 rfl rfl hcat (fun w σ2 h => by obtain ⟨rfl, rfl⟩ := h; exact kk) (fun _ _ _ h => h.elim)
theorem s_calll0 {σ : PH} {r : Int64} {index : Nat} (d : decode mt.1.2.1 pc = .ok (.invokestatic index, 3)) (q : Cond.methodLink mt.1.1 index mi.1 ∈ lw_all) (ok : MOkS mi 0) (hd : d2 + 1 ≤ mt.2.1.1) (hM : Ms g mi d2 [] (some (.long r))) (hcat : (rest.map fun v => v.category).sum ≤ 8) (kk : Wp g mt kc ks (pc + 3) L (.long r :: rest) σ) : Wp g mt kc ks pc L (rest) σ :=
  w_callS (As := []) (mc2 := 0) (ms2 := 0) d q ok (hM σ) hd rfl rfl hcat (fun w σ2 h => by obtain ⟨rfl, rfl⟩ := h; exact kk) (fun _ _ _ h => h.elim)
theorem m_calll1 {a1 : Value} {r : Int64} {index : Nat} (d : decode mt.1.2.1 pc = .ok (.invokevirtual index, 3)) (q : Cond.methodLink mt.1.1 index mi.1 ∈ lw_all) (ok : MOkV mi 1) (hcls : mi.1.cls = RX8) (hd : d2 + 1 ≤ mt.2.1.1) (hM : Mt g mi d2 [a1] S (some (.long r)) S2) (hcat : (rest.map fun v => v.category).sum ≤ 8) (kk : Wp g mt kc ks (pc + 3) L (.long r :: rest) (sM g σ b S2)) : Wp g mt kc ks pc L (a1 :: .ref b :: rest) (sM g σ b S) :=
  w_callV (As := [a1]) (mc2 := 0) (ms2 := 0) d q ok clX8 hcls (hM σ b) hd sM_0 rfl rfl hcat (fun w σ2 h => by obtain ⟨rfl, rfl⟩ := h; exact kk) (fun _ _ _ h => h.elim)
theorem s_calll1 {σ : PH} {a1 : Value} {r : Int64} {index : Nat} (d : decode mt.1.2.1 pc = .ok (.invokestatic index, 3)) (q : Cond.methodLink mt.1.1 index mi.1 ∈ lw_all) (ok : MOkS mi 1) (hd : d2 + 1 ≤ mt.2.1.1) (hM : Ms g mi d2 [a1] (some (.long r))) (hcat : (rest.map fun v => v.category).sum ≤ 8) (kk : Wp g mt kc ks (pc + 3) L (.long r :: rest) σ) : Wp g mt kc ks pc L (a1 :: rest) σ :=
  w_callS (As := [a1]) (mc2 := 0) (ms2 := 0) d q ok (hM σ) hd rfl rfl hcat (fun w σ2 h => by obtain ⟨rfl, rfl⟩ := h; exact kk) (fun _ _ _ h => h.elim)
theorem m_calll2 {a1 a2 : Value} {r : Int64} {index : Nat} (d : decode mt.1.2.1 pc = .ok (.invokevirtual index, 3)) (q : Cond.methodLink mt.1.1 index mi.1 ∈ lw_all) (ok : MOkV mi 2) (hcls : mi.1.cls = RX8) (hd : d2 + 1 ≤ mt.2.1.1) (hM : Mt g mi d2 [a1, a2] S (some (.long r)) S2) (hcat : (rest.map fun v => v.category).sum ≤ 8) (kk : Wp g mt kc ks (pc + 3) L (.long r :: rest) (sM g σ b S2)) : Wp g mt kc ks pc L (a2 :: a1 :: .ref b :: rest) (sM g σ b S) :=
  w_callV (As := [a1, a2]) (mc2 := 0) (ms2 := 0) d q ok clX8 hcls (hM σ b) hd sM_0 rfl rfl hcat (fun w σ2 h => by obtain ⟨rfl, rfl⟩ := h; exact kk) (fun _ _ _ h => h.elim)
theorem s_calll2 {σ : PH} {a1 a2 : Value} {r : Int64} {index : Nat} (d : decode mt.1.2.1 pc = .ok (.invokestatic index, 3)) (q : Cond.methodLink mt.1.1 index mi.1 ∈ lw_all) (ok : MOkS mi 2) (hd : d2 + 1 ≤ mt.2.1.1) (hM : Ms g mi d2 [a1, a2] (some (.long r))) (hcat : (rest.map fun v => v.category).sum ≤ 8) (kk : Wp g mt kc ks (pc + 3) L (.long r :: rest) σ) : Wp g mt kc ks pc L (a2 :: a1 :: rest) σ :=
  w_callS (As := [a1, a2]) (mc2 := 0) (ms2 := 0) d q ok (hM σ) hd rfl rfl hcat (fun w σ2 h => by obtain ⟨rfl, rfl⟩ := h; exact kk) (fun _ _ _ h => h.elim)
theorem m_calll3 {a1 a2 a3 : Value} {r : Int64} {index : Nat} (d : decode mt.1.2.1 pc = .ok (.invokevirtual index, 3)) (q : Cond.methodLink mt.1.1 index mi.1 ∈ lw_all) (ok : MOkV mi 3) (hcls : mi.1.cls = RX8) (hd : d2 + 1 ≤ mt.2.1.1) (hM : Mt g mi d2 [a1, a2, a3] S (some (.long r)) S2) (hcat : (rest.map fun v => v.category).sum ≤ 8) (kk : Wp g mt kc ks (pc + 3) L (.long r :: rest) (sM g σ b S2)) : Wp g mt kc ks pc L (a3 :: a2 :: a1 :: .ref b :: rest) (sM g σ b S) :=
  w_callV (As := [a1, a2, a3]) (mc2 := 0) (ms2 := 0) d q ok clX8 hcls (hM σ b) hd sM_0 rfl rfl hcat (fun w σ2 h => by obtain ⟨rfl, rfl⟩ := h; exact kk) (fun _ _ _ h => h.elim)
theorem s_calll3 {σ : PH} {a1 a2 a3 : Value} {r : Int64} {index : Nat} (d : decode mt.1.2.1 pc = .ok (.invokestatic index, 3)) (q : Cond.methodLink mt.1.1 index mi.1 ∈ lw_all) (ok : MOkS mi 3) (hd : d2 + 1 ≤ mt.2.1.1) (hM : Ms g mi d2 [a1, a2, a3] (some (.long r))) (hcat : (rest.map fun v => v.category).sum ≤ 8) (kk : Wp g mt kc ks (pc + 3) L (.long r :: rest) σ) : Wp g mt kc ks pc L (a3 :: a2 :: a1 :: rest) σ :=
  w_callS (As := [a1, a2, a3]) (mc2 := 0) (ms2 := 0) d q ok (hM σ) hd rfl rfl hcat (fun w σ2 h => by obtain ⟨rfl, rfl⟩ := h; exact kk) (fun _ _ _ h => h.elim)
theorem m_calll4 {a1 a2 a3 a4 : Value} {r : Int64} {index : Nat} (d : decode mt.1.2.1 pc = .ok (.invokevirtual index, 3)) (q : Cond.methodLink mt.1.1 index mi.1 ∈ lw_all) (ok : MOkV mi 4) (hcls : mi.1.cls = RX8) (hd : d2 + 1 ≤ mt.2.1.1) (hM : Mt g mi d2 [a1, a2, a3, a4] S (some (.long r)) S2) (hcat : (rest.map fun v => v.category).sum ≤ 8) (kk : Wp g mt kc ks (pc + 3) L (.long r :: rest) (sM g σ b S2)) : Wp g mt kc ks pc L (a4 :: a3 :: a2 :: a1 :: .ref b :: rest) (sM g σ b S) :=
  w_callV (As := [a1, a2, a3, a4]) (mc2 := 0) (ms2 := 0) d q ok clX8 hcls (hM σ b) hd sM_0 rfl rfl hcat (fun w σ2 h => by obtain ⟨rfl, rfl⟩ := h; exact kk) (fun _ _ _ h => h.elim)
theorem s_calll4 {σ : PH} {a1 a2 a3 a4 : Value} {r : Int64} {index : Nat} (d : decode mt.1.2.1 pc = .ok (.invokestatic index, 3)) (q : Cond.methodLink mt.1.1 index mi.1 ∈ lw_all) (ok : MOkS mi 4) (hd : d2 + 1 ≤ mt.2.1.1) (hM : Ms g mi d2 [a1, a2, a3, a4] (some (.long r))) (hcat : (rest.map fun v => v.category).sum ≤ 8) (kk : Wp g mt kc ks (pc + 3) L (.long r :: rest) σ) : Wp g mt kc ks pc L (a4 :: a3 :: a2 :: a1 :: rest) σ :=
  w_callS (As := [a1, a2, a3, a4]) (mc2 := 0) (ms2 := 0) d q ok (hM σ) hd rfl rfl hcat (fun w σ2 h => by obtain ⟨rfl, rfl⟩ := h; exact kk) (fun _ _ _ h => h.elim)
theorem m_calll5 {a1 a2 a3 a4 a5 : Value} {r : Int64} {index : Nat} (d : decode mt.1.2.1 pc = .ok (.invokevirtual index, 3)) (q : Cond.methodLink mt.1.1 index mi.1 ∈ lw_all) (ok : MOkV mi 5) (hcls : mi.1.cls = RX8) (hd : d2 + 1 ≤ mt.2.1.1) (hM : Mt g mi d2 [a1, a2, a3, a4, a5] S (some (.long r)) S2) (hcat : (rest.map fun v => v.category).sum ≤ 8) (kk : Wp g mt kc ks (pc + 3) L (.long r :: rest) (sM g σ b S2)) : Wp g mt kc ks pc L (a5 :: a4 :: a3 :: a2 :: a1 :: .ref b :: rest) (sM g σ b S) :=
  w_callV (As := [a1, a2, a3, a4, a5]) (mc2 := 0) (ms2 := 0) d q ok clX8 hcls (hM σ b) hd sM_0 rfl rfl hcat (fun w σ2 h => by obtain ⟨rfl, rfl⟩ := h; exact kk) (fun _ _ _ h => h.elim)
theorem s_calll5 {σ : PH} {a1 a2 a3 a4 a5 : Value} {r : Int64} {index : Nat} (d : decode mt.1.2.1 pc = .ok (.invokestatic index, 3)) (q : Cond.methodLink mt.1.1 index mi.1 ∈ lw_all) (ok : MOkS mi 5) (hd : d2 + 1 ≤ mt.2.1.1) (hM : Ms g mi d2 [a1, a2, a3, a4, a5] (some (.long r))) (hcat : (rest.map fun v => v.category).sum ≤ 8) (kk : Wp g mt kc ks (pc + 3) L (.long r :: rest) σ) : Wp g mt kc ks pc L (a5 :: a4 :: a3 :: a2 :: a1 :: rest) σ :=
  w_callS (As := [a1, a2, a3, a4, a5]) (mc2 := 0) (ms2 := 0) d q ok (hM σ) hd rfl rfl hcat (fun w σ2 h => by obtain ⟨rfl, rfl⟩ := h; exact kk) (fun _ _ _ h => h.elim)
theorem m_callv0 {index : Nat} (d : decode mt.1.2.1 pc = .ok (.invokevirtual index, 3)) (q : Cond.methodLink mt.1.1 index mi.1 ∈ lw_all) (ok : MOkV mi 0) (hcls : mi.1.cls = RX8) (hd : d2 + 1 ≤ mt.2.1.1) (hM : Mt g mi d2 [] S (none) S2) (hcat : (rest.map fun v => v.category).sum ≤ 8) (kk : Wp g mt kc ks (pc + 3) L (rest) (sM g σ b S2)) : Wp g mt kc ks pc L (.ref b :: rest) (sM g σ b S) :=
  w_callV (As := []) (mc2 := 0) (ms2 := 0) d q ok clX8 hcls (hM σ b) hd sM_0 rfl rfl hcat (fun w σ2 h => by obtain ⟨rfl, rfl⟩ := h; exact kk) (fun _ _ _ h => h.elim)
theorem s_callv0 {σ : PH} {index : Nat} (d : decode mt.1.2.1 pc = .ok (.invokestatic index, 3)) (q : Cond.methodLink mt.1.1 index mi.1 ∈ lw_all) (ok : MOkS mi 0) (hd : d2 + 1 ≤ mt.2.1.1) (hM : Ms g mi d2 [] (none)) (hcat : (rest.map fun v => v.category).sum ≤ 8) (kk : Wp g mt kc ks (pc + 3) L (rest) σ) : Wp g mt kc ks pc L (rest) σ :=
  w_callS (As := []) (mc2 := 0) (ms2 := 0) d q ok (hM σ) hd rfl rfl hcat (fun w σ2 h => by obtain ⟨rfl, rfl⟩ := h; exact kk) (fun _ _ _ h => h.elim)
theorem m_callv1 {a1 : Value} {index : Nat} (d : decode mt.1.2.1 pc = .ok (.invokevirtual index, 3)) (q : Cond.methodLink mt.1.1 index mi.1 ∈ lw_all) (ok : MOkV mi 1) (hcls : mi.1.cls = RX8) (hd : d2 + 1 ≤ mt.2.1.1) (hM : Mt g mi d2 [a1] S (none) S2) (hcat : (rest.map fun v => v.category).sum ≤ 8) (kk : Wp g mt kc ks (pc + 3) L (rest) (sM g σ b S2)) : Wp g mt kc ks pc L (a1 :: .ref b :: rest) (sM g σ b S) :=
  w_callV (As := [a1]) (mc2 := 0) (ms2 := 0) d q ok clX8 hcls (hM σ b) hd sM_0 rfl rfl hcat (fun w σ2 h => by obtain ⟨rfl, rfl⟩ := h; exact kk) (fun _ _ _ h => h.elim)
theorem s_callv1 {σ : PH} {a1 : Value} {index : Nat} (d : decode mt.1.2.1 pc = .ok (.invokestatic index, 3)) (q : Cond.methodLink mt.1.1 index mi.1 ∈ lw_all) (ok : MOkS mi 1) (hd : d2 + 1 ≤ mt.2.1.1) (hM : Ms g mi d2 [a1] (none)) (hcat : (rest.map fun v => v.category).sum ≤ 8) (kk : Wp g mt kc ks (pc + 3) L (rest) σ) : Wp g mt kc ks pc L (a1 :: rest) σ :=
  w_callS (As := [a1]) (mc2 := 0) (ms2 := 0) d q ok (hM σ) hd rfl rfl hcat (fun w σ2 h => by obtain ⟨rfl, rfl⟩ := h; exact kk) (fun _ _ _ h => h.elim)
theorem m_callv2 {a1 a2 : Value} {index : Nat} (d : decode mt.1.2.1 pc = .ok (.invokevirtual index, 3)) (q : Cond.methodLink mt.1.1 index mi.1 ∈ lw_all) (ok : MOkV mi 2) (hcls : mi.1.cls = RX8) (hd : d2 + 1 ≤ mt.2.1.1) (hM : Mt g mi d2 [a1, a2] S (none) S2) (hcat : (rest.map fun v => v.category).sum ≤ 8) (kk : Wp g mt kc ks (pc + 3) L (rest) (sM g σ b S2)) : Wp g mt kc ks pc L (a2 :: a1 :: .ref b :: rest) (sM g σ b S) :=
  w_callV (As := [a1, a2]) (mc2 := 0) (ms2 := 0) d q ok clX8 hcls (hM σ b) hd sM_0 rfl rfl hcat (fun w σ2 h => by obtain ⟨rfl, rfl⟩ := h; exact kk) (fun _ _ _ h => h.elim)
theorem s_callv2 {σ : PH} {a1 a2 : Value} {index : Nat} (d : decode mt.1.2.1 pc = .ok (.invokestatic index, 3)) (q : Cond.methodLink mt.1.1 index mi.1 ∈ lw_all) (ok : MOkS mi 2) (hd : d2 + 1 ≤ mt.2.1.1) (hM : Ms g mi d2 [a1, a2] (none)) (hcat : (rest.map fun v => v.category).sum ≤ 8) (kk : Wp g mt kc ks (pc + 3) L (rest) σ) : Wp g mt kc ks pc L (a2 :: a1 :: rest) σ :=
  w_callS (As := [a1, a2]) (mc2 := 0) (ms2 := 0) d q ok (hM σ) hd rfl rfl hcat (fun w σ2 h => by obtain ⟨rfl, rfl⟩ := h; exact kk) (fun _ _ _ h => h.elim)
theorem m_callv3 {a1 a2 a3 : Value} {index : Nat} (d : decode mt.1.2.1 pc = .ok (.invokevirtual index, 3)) (q : Cond.methodLink mt.1.1 index mi.1 ∈ lw_all) (ok : MOkV mi 3) (hcls : mi.1.cls = RX8) (hd : d2 + 1 ≤ mt.2.1.1) (hM : Mt g mi d2 [a1, a2, a3] S (none) S2) (hcat : (rest.map fun v => v.category).sum ≤ 8) (kk : Wp g mt kc ks (pc + 3) L (rest) (sM g σ b S2)) : Wp g mt kc ks pc L (a3 :: a2 :: a1 :: .ref b :: rest) (sM g σ b S) :=
  w_callV (As := [a1, a2, a3]) (mc2 := 0) (ms2 := 0) d q ok clX8 hcls (hM σ b) hd sM_0 rfl rfl hcat (fun w σ2 h => by obtain ⟨rfl, rfl⟩ := h; exact kk) (fun _ _ _ h => h.elim)
theorem s_callv3 {σ : PH} {a1 a2 a3 : Value} {index : Nat} (d : decode mt.1.2.1 pc = .ok (.invokestatic index, 3)) (q : Cond.methodLink mt.1.1 index mi.1 ∈ lw_all) (ok : MOkS mi 3) (hd : d2 + 1 ≤ mt.2.1.1) (hM : Ms g mi d2 [a1, a2, a3] (none)) (hcat : (rest.map fun v => v.category).sum ≤ 8) (kk : Wp g mt kc ks (pc + 3) L (rest) σ) : Wp g mt kc ks pc L (a3 :: a2 :: a1 :: rest) σ :=
  w_callS (As := [a1, a2, a3]) (mc2 := 0) (ms2 := 0) d q ok (hM σ) hd rfl rfl hcat (fun w σ2 h => by obtain ⟨rfl, rfl⟩ := h; exact kk) (fun _ _ _ h => h.elim)
theorem m_callv4 {a1 a2 a3 a4 : Value} {index : Nat} (d : decode mt.1.2.1 pc = .ok (.invokevirtual index, 3)) (q : Cond.methodLink mt.1.1 index mi.1 ∈ lw_all) (ok : MOkV mi 4) (hcls : mi.1.cls = RX8) (hd : d2 + 1 ≤ mt.2.1.1) (hM : Mt g mi d2 [a1, a2, a3, a4] S (none) S2) (hcat : (rest.map fun v => v.category).sum ≤ 8) (kk : Wp g mt kc ks (pc + 3) L (rest) (sM g σ b S2)) : Wp g mt kc ks pc L (a4 :: a3 :: a2 :: a1 :: .ref b :: rest) (sM g σ b S) :=
  w_callV (As := [a1, a2, a3, a4]) (mc2 := 0) (ms2 := 0) d q ok clX8 hcls (hM σ b) hd sM_0 rfl rfl hcat (fun w σ2 h => by obtain ⟨rfl, rfl⟩ := h; exact kk) (fun _ _ _ h => h.elim)
theorem s_callv4 {σ : PH} {a1 a2 a3 a4 : Value} {index : Nat} (d : decode mt.1.2.1 pc = .ok (.invokestatic index, 3)) (q : Cond.methodLink mt.1.1 index mi.1 ∈ lw_all) (ok : MOkS mi 4) (hd : d2 + 1 ≤ mt.2.1.1) (hM : Ms g mi d2 [a1, a2, a3, a4] (none)) (hcat : (rest.map fun v => v.category).sum ≤ 8) (kk : Wp g mt kc ks (pc + 3) L (rest) σ) : Wp g mt kc ks pc L (a4 :: a3 :: a2 :: a1 :: rest) σ :=
  w_callS (As := [a1, a2, a3, a4]) (mc2 := 0) (ms2 := 0) d q ok (hM σ) hd rfl rfl hcat (fun w σ2 h => by obtain ⟨rfl, rfl⟩ := h; exact kk) (fun _ _ _ h => h.elim)
theorem m_callv5 {a1 a2 a3 a4 a5 : Value} {index : Nat} (d : decode mt.1.2.1 pc = .ok (.invokevirtual index, 3)) (q : Cond.methodLink mt.1.1 index mi.1 ∈ lw_all) (ok : MOkV mi 5) (hcls : mi.1.cls = RX8) (hd : d2 + 1 ≤ mt.2.1.1) (hM : Mt g mi d2 [a1, a2, a3, a4, a5] S (none) S2) (hcat : (rest.map fun v => v.category).sum ≤ 8) (kk : Wp g mt kc ks (pc + 3) L (rest) (sM g σ b S2)) : Wp g mt kc ks pc L (a5 :: a4 :: a3 :: a2 :: a1 :: .ref b :: rest) (sM g σ b S) :=
  w_callV (As := [a1, a2, a3, a4, a5]) (mc2 := 0) (ms2 := 0) d q ok clX8 hcls (hM σ b) hd sM_0 rfl rfl hcat (fun w σ2 h => by obtain ⟨rfl, rfl⟩ := h; exact kk) (fun _ _ _ h => h.elim)
theorem s_callv5 {σ : PH} {a1 a2 a3 a4 a5 : Value} {index : Nat} (d : decode mt.1.2.1 pc = .ok (.invokestatic index, 3)) (q : Cond.methodLink mt.1.1 index mi.1 ∈ lw_all) (ok : MOkS mi 5) (hd : d2 + 1 ≤ mt.2.1.1) (hM : Ms g mi d2 [a1, a2, a3, a4, a5] (none)) (hcat : (rest.map fun v => v.category).sum ≤ 8) (kk : Wp g mt kc ks (pc + 3) L (rest) σ) : Wp g mt kc ks pc L (a5 :: a4 :: a3 :: a2 :: a1 :: rest) σ :=
  w_callS (As := [a1, a2, a3, a4, a5]) (mc2 := 0) (ms2 := 0) d q ok (hM σ) hd rfl rfl hcat (fun w σ2 h => by obtain ⟨rfl, rfl⟩ := h; exact kk) (fun _ _ _ h => h.elim)
end MROWS
