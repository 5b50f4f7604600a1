/-! THE READER: a beach whole -/
set_option maxRecDepth 100000
theorem pU_0 {X : TX} {B : BS} {t : Tk} (h : B.du = 1) (h1 : t.so ≠ 1) : pDuel X B t = .error (5, t.fr) := by
  unfold pDuel
  rw [if_pos h, flt_of h1]
theorem pU_1 {X : TX} {B : BS} {t : Tk} (h : B.du ≠ 1) (h1 : kix X (nx X t) < 13 ∨ 16 < kix X (nx X t)) : pDuel X B t = .error (flt (nx X t) 2) := by
  unfold pDuel
  rw [if_neg h, if_pos h1]
theorem pU_2 {X : TX} {B : BS} {t : Tk} (h : B.du ≠ 1) (h1 : ¬ (kix X (nx X t) < 13 ∨ 16 < kix X (nx X t))) : pDuel X B t = .ok (bDuel B (kix X (nx X t) - 13), nx X (nx X t)) := by
  unfold pDuel
  rw [if_neg h, if_neg h1]
theorem pBe_c {X : TX} {t : Tk} (ht : t = tok X 0) : pBeach X = ((wWord X 0 t >>= fun t => wNum X 2 40 t) >>= fun a => (wWord X 1 a.2 >>= fun t => wNum X 1 240 t) >>= fun b => (if kix X b.2 = 2 then ((wWord X 2 b.2 >>= fun t => wNum X 0 60 t) >>= fun c => wSign X 59 c.2 >>= fun t => pParts X (X.2 + 1) (bNew a.1 b.1 c.1) t) else (wSign X 59 b.2 >>= fun t => pParts X (X.2 + 1) (bNew a.1 b.1 0) t))) := by
  subst ht
  unfold pBeach pFirst
  rcases wWord X 0 (tok X 0) with f | t1
  · rfl
  simp only [ob]
  rcases wNum X 2 40 t1 with f | ⟨a, t2⟩
  · rfl
  simp only [ob]
  rcases wWord X 1 t2 with f | t3
  · rfl
  simp only [ob]
  rcases wNum X 1 240 t3 with f | ⟨b, t4⟩
  · rfl
  simp only [ob]
  by_cases h : kix X t4 = 2
  · rw [if_pos h, if_pos h, show wWord X 2 t4 = .ok (nx X t4) from if_pos h]
    simp only [ob]
    rcases wNum X 0 60 (nx X t4) with f | ⟨c, t5⟩
    · rfl
    simp only [ob]
    rcases wSign X 59 t5 with f | t6 <;> rfl
  · rw [if_neg h, if_neg h]
    rcases wSign X 59 t4 with f | t6 <;> rfl
theorem pFi_1 {X : TX} {t t2 t4 t5 t6 : Tk} {a b c : Nat} (e7 : (wWord X 0 t >>= fun t => wNum X 2 40 t) = .ok (a, t2)) (e21 : (wWord X 1 t2 >>= fun t => wNum X 1 240 t) = .ok (b, t4)) (h : kix X t4 = 2) (e43 : (wWord X 2 t4 >>= fun t => wNum X 0 60 t) = .ok (c, t5)) (e50 : wSign X 59 t5 = .ok t6) : pFirst X t = .ok ((a, b, c), t6) := by
  obtain ⟨t1, h1, h2⟩ := bind_ok e7
  obtain ⟨t3, h3, h4⟩ := bind_ok e21
  rw [show wWord X 2 t4 = .ok (nx X t4) from if_pos h, ob] at e43
  unfold pFirst
  simp only [h1, h2, h3, h4, ob, if_pos h, e43, e50]
theorem pFi_2 {X : TX} {t t2 t4 t6 : Tk} {a b : Nat} (e7 : (wWord X 0 t >>= fun t => wNum X 2 40 t) = .ok (a, t2)) (e21 : (wWord X 1 t2 >>= fun t => wNum X 1 240 t) = .ok (b, t4)) (h : ¬ kix X t4 = 2) (e50 : wSign X 59 t4 = .ok t6) : pFirst X t = .ok ((a, b, 0), t6) := by
  obtain ⟨t1, h1, h2⟩ := bind_ok e7
  obtain ⟨t3, h3, h4⟩ := bind_ok e21
  unfold pFirst
  simp only [h1, h2, h3, h4, ob, if_neg h, e50]
def QBe (g : GG) (C : CS) (X : TX) (r : PR BS) : Option Value → CS → Prop := fun w C2 => w = none ∧ ∃ (B : BS) (t2 : Tk) (nu2 : Int32) (Z2 : ZB) (m2 : Nat → Option va_E), m2 = zbM g C Z2 ∧ r = .ok B ∧ C2 = rdS (sM8 C m2) X.2 (rqT t2 nu2 (nI 0) (nI B.du)) ∧ EncBe Z2 B ∧ OkB B
