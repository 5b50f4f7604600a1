/-! TEXTS: how the tape holds bytes; the beginning and the end of a reading -/
set_option maxRecDepth 100000
def b8 (c : Nat) : Int32 := (nI c).toInt8.toInt32
theorem b8_and {c : Nat} (h : c < 256) : b8 c &&& nI 255 = nI c := sc_k8 c h
theorem b8_nar {c : Nat} : vp_nar .byte (b8 c) = b8 c := by
  unfold b8
  show ((nI c).toInt8.toInt32).toInt8.toInt32 = (nI c).toInt8.toInt32
  simp
/-- the tape holds these bytes -/
def TpS (S : MS) (tp : Nat → Nat) : Prop := ∀ k, k < 900 → mA S 8 k = b8 (tp k) ∧ tp k < 256
/-- a reading begins: what it keeps -/
def FrG (S S2 : MS) : Prop := (∀ i, i < 10 ∨ i = 16 ∨ 19 < i → mI S2 i = mI S i) ∧ (∀ k, mL S2 k = mL S k) ∧ (∀ j, j ≠ 9 → mA S2 j = mA S j) ∧ ∀ j, mB S2 j = mB S j
theorem FrG.I {S S2 : MS} (h : FrG S S2) {i : Nat} (v : Int32) (hi : ¬ (i < 10 ∨ i = 16 ∨ 19 < i)) : FrG S (sI S2 i v) := ⟨fun j hj => by
  show va_up S2.1 i v j = _
  unfold va_up
  rw [if_neg (fun z => hi (by rw [← z]; exact hj))]
  exact h.1 j hj, h.2⟩
theorem FrG.A9 {S S2 : MS} (h : FrG S S2) (i : Nat) (v : Int32) : FrG S (sA S2 9 i v) := ⟨h.1, h.2.1, fun j hj => by
  show va_up S2.2.2.1 9 _ j = _
  unfold va_up
  rw [if_neg hj]
  exact h.2.2.1 j hj, h.2.2.2⟩
theorem FrG.refl (S : MS) : FrG S S := ⟨fun _ _ => rfl, fun _ => rfl, fun _ _ => rfl, fun _ => rfl⟩
theorem FrG.K {S S2 S3 : MS} (h : FrG S S2) (k : FrK S2 S3) : FrG S S3 := ⟨fun i hi => (k.1 i (by omega)).trans (h.1 i hi), fun j => by have := h.2.1 j; unfold mL at this ⊢; rw [k.2]; exact this, fun j hj => (k.A j).trans (h.2.2.1 j hj), fun j => (k.B j).trans (h.2.2.2 j)⟩
/-- zeros from place s on -/
def zer (a : Nat → Int32) (s n : Nat) : Nat → Int32 := fun i => if s ≤ i ∧ i < s + n then nI 0 else a i
theorem zer_0 (a : Nat → Int32) (s : Nat) : zer a s 0 = a := by
  funext i
  unfold zer
  rw [if_neg (by omega)]
theorem zer_s (a : Nat → Int32) (s n : Nat) : upd (zer a s n) (s + n) (nI 0) = zer a s (n + 1) := by
  funext i
  show (if i = s + n then nI 0 else if s ≤ i ∧ i < s + n then nI 0 else a i) = if s ≤ i ∧ i < s + (n + 1) then nI 0 else a i
  by_cases h : i = s + n
  · rw [if_pos h, if_pos (by omega)]
  · rw [if_neg h]
    by_cases h2 : s ≤ i ∧ i < s + n
    · rw [if_pos h2, if_pos (by omega)]
    · rw [if_neg h2, if_neg (by omega)]
/-- a slot of nothing -/
def plaA (a : Nat → Int32) (s : Nat) : Nat → Int32 := upd (upd (zer a s 1400) (s + 5) (nI 1)) (s + 9) (-1)
theorem plaA_b (S : MS) (v : Int32) : EncB (sI (sI (setAt S (plaA (mA S 0) 5600)) 20 (nI 0)) 21 (nI 0)) (bNew 0 0 0) := by
  refine ⟨⟨fun k hk => ?_, fun f hf j hj => ?_, fun d hd j hj => ?_, fun d hd k hk => absurd hk (Nat.not_lt_zero k)⟩, fun i hi => absurd hi (Nat.not_lt_zero i), fun i hi => absurd hi (Nat.not_lt_zero i), rfl, rfl, ?_⟩
  · show upd (upd (zer (mA S 0) 5600 1400) 5605 (nI 1)) 5609 (-1) (5600 + k) = nI (vs (bNew 0 0 0).W k)
    rw [upd_ne (by omega)]
    by_cases h : k = 5
    · subst h
      rw [upd_eq]
      rfl
    · rw [upd_ne (by omega), zer, if_pos (by omega)]
      have : vs (bNew 0 0 0).W k = 0 := by
        show (if k = 0 then 0 else if k = 3 then 0 else if k = 4 then 0 else if k = 5 then 1 else 0) = 0
        repeat' split
        all_goals first | rfl | omega
      rw [this]
  · show upd (upd (zer (mA S 0) 5600 1400) 5605 (nI 1)) 5609 (-1) (5600 + (10 + 5 * f + j)) = nI 0
    rw [upd_ne (by omega), upd_ne (by omega), zer, if_pos (by omega)]
  · show upd (upd (zer (mA S 0) 5600 1400) 5605 (nI 1)) 5609 (-1) (5600 + (40 + 3 * d + j)) = nI 0
    rw [upd_ne (by omega), upd_ne (by omega), zer, if_pos (by omega)]
  · show upd (upd (zer (mA S 0) 5600 1400) 5605 (nI 1)) 5609 (-1) 5609 = -1
    exact upd_eq
theorem plaA_lo (a : Nat → Int32) (k : Nat) (h : k < 5600) : plaA a 5600 k = a k := by
  unfold plaA
  rw [upd_ne (by omega), upd_ne (by omega), zer, if_neg (by omega)]
/-- what a call of beach keeps in any case -/
def FrQ (S S2 : MS) : Prop := (∀ i, i ≠ 2 → (i < 10 ∨ 24 < i) → mI S2 i = mI S i) ∧ (∀ k, mL S2 k = mL S k) ∧ (∀ k, 1400 ≤ k → k < 5600 → mA S2 0 k = mA S 0 k) ∧ (∀ j, j ≠ 0 → j ≠ 9 → j ≠ 22 → mA S2 j = mA S j) ∧ (∀ k, 14 ≤ k → k < 56 → mB S2 1 k = mB S 1 k) ∧ ∀ j, j ≠ 1 → mB S2 j = mB S j
/-- the slot of today: the beach B, its names, no program -/
def NowS (S : MS) (B : BS) : Prop := Enc S B.W ∧ mA S 0 9 = -1 ∧ (∀ i, i < vs B.W 1 → mB S 1 i = lN (n256 (B.nf i))) ∧ ∀ i, i < vs B.W 2 → mB S 1 (6 + i) = lN (n256 (B.nd i))
theorem TxS.frP {S S2 : MS} {X : TX} (T : TxS S X) (h : FrP S S2) : TxS S2 X := ⟨(h.1 11 (by omega)).trans T.1, T.2.1, fun k hk => by rw [h.2.2.2.1 9 (by omega) (by omega)]; exact T.2.2 k hk⟩
theorem bind_ok {α β : Type} {x : PR α} {f : α → PR β} {v : β} (h : (x >>= f) = .ok v) : ∃ a, x = .ok a ∧ f a = .ok v := by
  cases x with
  | ok a => exact ⟨a, rfl, h⟩
  | error f => cases h
theorem pFirst_ok {X : TX} {t t2 : Tk} {c : Nat × Nat × Nat} (h : OkT9 X t) (e : pFirst X t = .ok (c, t2)) : Pg X t t2 ∧ OkB (bNew c.1 c.2.1 c.2.2) := by
  unfold pFirst at e
  obtain ⟨t1, e1, e⟩ := bind_ok e
  have p1 := wWord_pg h e1
  obtain ⟨⟨v2, t2⟩, e2, e⟩ := bind_ok e
  have p2 := wNum_pg p1.1 e2
  obtain ⟨t3, e3, e⟩ := bind_ok e
  have p3 := wWord_pg p2.1.1 e3
  obtain ⟨⟨v4, t4⟩, e4, e⟩ := bind_ok e
  have p4 := wNum_pg p3.1 e4
  have p := ((p1.then_ p2.1).then_ p3).then_ p4.1
  dsimp only at e
  split at e
  · obtain ⟨⟨v6, t6⟩, e6, e⟩ := bind_ok e
    have p6 := wNum_pg p4.1.1.nx e6
    obtain ⟨t7, e7, e⟩ := bind_ok e
    have p7 := wSign_pg p6.1.1 e7
    cases e
    exact ⟨((p.then_ (Pg_nx p4.1.1)).then_ p6.1).then_ p7, OkB.new p2.2.1 p2.2.2 p4.2.1 p4.2.2 p6.2.2⟩
  · obtain ⟨t7, e7, e⟩ := bind_ok e
    have p7 := wSign_pg p4.1.1 e7
    cases e
    exact ⟨p.then_ p7, OkB.new p2.2.1 p2.2.2 p4.2.1 p4.2.2 (Nat.zero_le _)⟩
theorem pFinder_ok {X : TX} {B B2 : BS} {t t2 : Tk} (O : OkB B) (h : OkT9 X t) (e : pFinder X B t = .ok (B2, t2)) : Pg X t t2 ∧ OkB B2 := by
  have hb := O.b
  unfold pFinder at e
  obtain ⟨⟨w, t1⟩, e1, e⟩ := bind_ok e
  have p1 := wNew_pg h e1
  obtain ⟨⟨v2, t2⟩, e2, e⟩ := bind_ok e
  have p2 := pCell_pg O p1.1.1 e2
  obtain ⟨t3, e3, e⟩ := bind_ok e
  have p3 := wWord_pg p2.1.1 e3
  obtain ⟨⟨v4, t4⟩, e4, e⟩ := bind_ok e
  have p4 := wNum_pg p3.1 e4
  obtain ⟨t5, e5, e⟩ := bind_ok e
  have p5 := wWord_pg p4.1.1 e5
  obtain ⟨⟨v6, t6⟩, e6, e⟩ := bind_ok e
  have p6 := wNum_pg p5.1 e6
  cases e
  exact ⟨((((p1.1.then_ p2.1).then_ p3).then_ p4.1).then_ p5).then_ p6.1, O.addF (by have := p1.2.2; omega) p1.2.1 p2.2 p4.2.1 p4.2.2 p6.2.2⟩
theorem pFind_ok {X : TX} {B B2 : BS} {t t2 : Tk} (O : OkB B) (h : OkT9 X t) (e : pFind X B t = .ok (B2, t2)) : Pg X t t2 ∧ OkB B2 := by
  have hb := O.b
  unfold pFind at e
  obtain ⟨⟨w, t1⟩, e1, e⟩ := bind_ok e
  have p1 := wNew_pg h e1
  obtain ⟨⟨v2, t2⟩, e2, e⟩ := bind_ok e
  have p2 := pCell_pg O p1.1.1 e2
  obtain ⟨t3, e3, e⟩ := bind_ok e
  have p3 := wWord_pg p2.1.1 e3
  obtain ⟨⟨v4, t4⟩, e4, e⟩ := bind_ok e
  have p4 := wNum_pg p3.1 e4
  cases e
  exact ⟨((p1.1.then_ p2.1).then_ p3).then_ p4.1, O.addD (by have := p1.2.2; omega) p1.2.1 p2.2 p4.2.2⟩
theorem pPebble_ok {X : TX} {B B2 : BS} {t t2 : Tk} (O : OkB B) (h : OkT9 X t) (e : pPebble X B t = .ok (B2, t2)) : Pg X t t2 ∧ OkB B2 := by
  have hb := O.b
  unfold pPebble at e
  split at e
  · cases e
  · rename_i hpb
    obtain ⟨t1, e1, e⟩ := bind_ok e
    have p1 := wWord_pg h.nx e1
    obtain ⟨⟨v2, t2⟩, e2, e⟩ := bind_ok e
    have p2 := wOld_pg p1.1 e2
    obtain ⟨t3, e3, e⟩ := bind_ok e
    have p3 := wWord_pg p2.1.1 e3
    obtain ⟨⟨v4, t4⟩, e4, e⟩ := bind_ok e
    have p4 := wOld_pg p3.1 e4
    obtain ⟨t5, e5, e⟩ := bind_ok e
    have p5 := wWord_pg p4.1.1 e5
    obtain ⟨⟨v6, t6⟩, e6, e⟩ := bind_ok e
    have p6 := wNum_pg p5.1 e6
    cases e
    have := O.2.2.2.2.2.1
    exact ⟨((((((Pg_nx h).then_ p1).then_ p2.1).then_ p3).then_ p4.1).then_ p5).then_ p6.1, O.addP (by omega) p2.2 p4.2 p6.2.2⟩
theorem pDuel_ok {X : TX} {B B2 : BS} {t t2 : Tk} (O : OkB B) (h : OkT9 X t) (e : pDuel X B t = .ok (B2, t2)) : Pg X t t2 ∧ OkB B2 := by
  unfold pDuel at e
  split at e
  · cases e
  · split at e
    · cases e
    · cases e
      exact ⟨(Pg_nx h).then_ (Pg_nx h.nx), O.addU (by omega)⟩
theorem pPart_ok {X : TX} {B B2 : BS} {t t2 : Tk} (O : OkB B) (h : OkT9 X t) (e : pPart X B t = .ok (B2, t2)) : Pg X t t2 ∧ OkB B2 := by
  unfold pPart at e
  obtain ⟨⟨B1, t1⟩, e1, e⟩ := bind_ok e
  have p1 : Pg X t t1 ∧ OkB B1 := by
    split at e1
    · exact pFinder_ok O h e1
    · split at e1
      · exact pFind_ok O h e1
      · split at e1
        · exact pPebble_ok O h e1
        · split at e1
          · exact pDuel_ok O h e1
          · cases e1
  obtain ⟨t3, e3, e⟩ := bind_ok e
  have p3 := wSign_pg p1.1.1 e3
  cases e
  exact ⟨p1.1.then_ p3, p1.2⟩
theorem okT_tok (X : TX) : OkT9 X (tok X 0) := ⟨0, Nat.zero_le _, rfl⟩
def cpyA (a : Nat → Int32) (k : Nat) : Nat → Int32 := fun i => if i < k then a (5600 + i) else a i
theorem cpyA_0 (a : Nat → Int32) : cpyA a 0 = a := rfl
theorem cpyA_s (a : Nat → Int32) (k : Nat) (h : k < 1400) : upd (cpyA a k) k (cpyA a k (5600 + k)) = cpyA a (k + 1) := by
  funext i
  show (if i = k then (if 5600 + k < k then a (5600 + (5600 + k)) else a (5600 + k)) else if i < k then a (5600 + i) else a i) = if i < k + 1 then a (5600 + i) else a i
  by_cases h1 : i = k
  · subst h1
    rw [if_pos rfl, if_neg (by omega), if_pos (by omega)]
  · rw [if_neg h1]
    by_cases h2 : i < k
    · rw [if_pos h2, if_pos (by omega)]
    · rw [if_neg h2, if_neg (by omega)]
def setNm (S : MS) (n : Nat → Int64) : MS := (S.1, S.2.1, S.2.2.1, va_up S.2.2.2 1 n)
theorem setNm_s (S : MS) (n : Nat → Int64) (i : Nat) (v : Int64) : sB (setNm S n) 1 i v = setNm S (vp_updL n i v) := by
  unfold sB setNm
  congr 3
  funext q
  unfold va_up
  by_cases h : q = 1
  · subst h; rfl
  · simp [h]
theorem setNm_0 (S : MS) : setNm S (mB S 1) = S := by
  unfold setNm
  have : va_up S.2.2.2 1 (mB S 1) = S.2.2.2 := by
    funext q
    unfold va_up mB
    split
    · rename_i h; rw [h]
    · rfl
  rw [this]
def cpyB (n : Nat → Int64) (k : Nat) : Nat → Int64 := fun i => if i < k then n (56 + i) else n i
theorem cpyB_0 (a : Nat → Int64) : cpyB a 0 = a := rfl
theorem cpyB_s (a : Nat → Int64) (k : Nat) (h : k < 14) : vp_updL (cpyB a k) k (cpyB a k (56 + k)) = cpyB a (k + 1) := by
  funext i
  show (if i = k then (if 56 + k < k then a (56 + (56 + k)) else a (56 + k)) else if i < k then a (56 + i) else a i) = if i < k + 1 then a (56 + i) else a i
  by_cases h1 : i = k
  · subst h1
    rw [if_pos rfl, if_neg (by omega), if_pos (by omega)]
  · rw [if_neg h1]
    by_cases h2 : i < k
    · rw [if_pos h2, if_pos (by omega)]
    · rw [if_neg h2, if_neg (by omega)]
/-- what a call of beach comes to: none, it isn't begun -/
def q_beach (p : Nat) (tp : Nat → Nat) (x : Int32) : Option (PR BS) := if inN x (min p 900 + 1) then some (pBeach (tp, cl x)) else none
def a_beach : Option (PR BS) → Int32
  | some (.ok B) => nI (vs B.W 2)
  | _ => -1
def P_beach (S S2 : MS) : Option (PR BS) → Prop
  | none => S2 = sI S 2 (nI 1)
  | some (.ok B) => FrQ S S2 ∧ NowS S2 B ∧ OkB B ∧ mI S2 2 = nI 0 ∧ mI S2 16 = nI 0 ∧ mI S2 17 = -1 ∧ mI S2 10 = nI 0
  | some (.error f) => FrQ S S2 ∧ (∀ k, k < 1400 → mA S2 0 k = mA S 0 k) ∧ (∀ k, k < 14 → mB S2 1 k = mB S 1 k) ∧ mI S2 2 = nI 9 ∧ mI S2 16 = nI f.1 ∧ mI S2 17 = nI f.2 ∧ mI S2 10 = nI 0 ∧ 0 < f.1
def takenS (S : MS) (f : Nat) : MS := sI (sI S 16 (nI f)) 2 (if f = 0 then nI 0 else nI 9)
theorem beach_er {S S1 Sb S4 : MS} {f : Nat × Nat} (hG : FrG S S1) (h10 : mI S1 10 = nI 0) (hb : FrP S1 Sb) (hP : FrP Sb S4) (hf : Flt S4 f) : P_beach S (takenS S4 f.1) (some (.error f)) := by
  have hP2 := hb.trans hP
  have hne : f.1 ≠ 0 := by have := hf.2.2.1; omega
  unfold takenS
  rw [if_neg hne]
  refine ⟨⟨fun i h2 hi => ?_, fun k => ?_, fun k h1 h2 => ?_, fun j h0 h9 h22 => ?_, fun k h1 h2 => ?_, fun j hj => ?_⟩, fun k hk => ?_, fun k hk => ?_, rfl, rfl, hf.2.1, ?_, hf.2.2.1⟩
  · show va_up (va_up S4.1 16 _) 2 _ i = _
    unfold va_up
    rw [if_neg h2, if_neg (by omega)]
    exact (hP2.1 i (by omega)).trans (hG.1 i (by omega))
  · exact (hP2.2.1 k).trans (hG.2.1 k)
  · exact (hP2.2.2.1 k h2).trans (congrFun (hG.2.2.1 0 (by omega)) k)
  · exact (hP2.2.2.2.1 j h0 h22).trans (hG.2.2.1 j h9)
  · exact (hP2.2.2.2.2.1 k h2).trans (congrFun (hG.2.2.2 1) k)
  · exact (hP2.2.2.2.2.2 j hj).trans (hG.2.2.2 j)
  · exact (hP2.2.2.1 k (by omega)).trans (congrFun (hG.2.2.1 0 (by omega)) k)
  · exact (hP2.2.2.2.2.1 k (by omega)).trans (congrFun (hG.2.2.2 1) k)
  · exact (hP2.1 10 (by omega)).trans h10
theorem beach_ok {S S1 Sb S4 : MS} {B : BS} (hG : FrG S S1) (h10 : mI S1 10 = nI 0) (h17 : mI S4 17 = -1) (hb : FrP S1 Sb) (hP : FrP Sb S4) (E : EncB S4 B) (O : OkB B) : P_beach S (takenS (setNm (setAt S4 (cpyA (mA S4 0) 1400)) (cpyB (mB S4 1) 14)) 0) (some (.ok B)) := by
  have hP2 := hb.trans hP
  unfold takenS
  rw [if_pos rfl]
  refine ⟨⟨fun i h2 hi => ?_, fun k => ?_, fun k h1 h2 => ?_, fun j h0 h9 h22 => ?_, fun k h1 h2 => ?_, fun j hj => ?_⟩, ⟨?_, ?_, fun i hi => ?_, fun i hi => ?_⟩, O, rfl, rfl, h17, ?_⟩
  · show va_up (va_up S4.1 16 _) 2 _ i = _
    unfold va_up
    rw [if_neg h2, if_neg (by omega)]
    exact (hP2.1 i (by omega)).trans (hG.1 i (by omega))
  · exact (hP2.2.1 k).trans (hG.2.1 k)
  · show cpyA (mA S4 0) 1400 k = _
    unfold cpyA
    rw [if_neg (by omega)]
    exact (hP2.2.2.1 k h2).trans (congrFun (hG.2.2.1 0 (by omega)) k)
  · show va_up S4.2.2.1 0 _ j = _
    unfold va_up
    rw [if_neg h0]
    exact (hP2.2.2.2.1 j h0 h22).trans (hG.2.2.1 j h9)
  · show cpyB (mB S4 1) 14 k = _
    unfold cpyB
    rw [if_neg (by omega)]
    exact (hP2.2.2.2.2.1 k h2).trans (congrFun (hG.2.2.2 1) k)
  · show va_up S4.2.2.2 1 _ j = _
    unfold va_up
    rw [if_neg hj]
    exact (hP2.2.2.2.2.2 j hj).trans (hG.2.2.2 j)
  · refine EncA.congr O.n60 E.1 (fun k hk => ?_)
    show cpyA (mA S4 0) 1400 k = _
    unfold cpyA
    rw [if_pos (by omega)]
  · show cpyA (mA S4 0) 1400 9 = _
    unfold cpyA
    rw [if_pos (by omega)]
    exact E.2.2.2.2.2
  · have hb6 := O.b
    show cpyB (mB S4 1) 14 i = _
    unfold cpyB
    rw [if_pos (by omega)]
    exact E.2.1 i hi
  · have hb6 := O.b
    show cpyB (mB S4 1) 14 (6 + i) = _
    unfold cpyB
    rw [if_pos (by omega), show 56 + (6 + i) = 62 + i by omega]
    exact E.2.2.1 i hi
  · exact (hP2.1 10 (by omega)).trans h10
