set_option maxRecDepth 100000
/-! what a beach under construction says -/
/-- pebbles put in one by one, from nothing -/
def foP (wh on mi : Nat → Nat) : Nat → VS
  | 0 => ((fun _ => 0), (fun _ _ => 0), fun _ _ _ => 0)
  | k + 1 => insV (foP wh on mi k) (on k) (wh k) (mi k)
def EncP8 (Z : ZB) (B : BS) : Prop := ∃ wh on mi : Nat → Nat, (∀ k, k < B.pb → Z.2.2.2 14 k = nI (wh k) ∧ Z.2.2.2 15 k = nI (on k) ∧ Z.2.2.2 16 k = nI (mi k) ∧ wh k < vs B.W 1 ∧ on k < vs B.W 2 ∧ mi k ≤ vs B.W 3) ∧ vp B.W = vp (foP wh on mi B.pb) ∧ ∀ d, vt B.W 7 d = vt (foP wh on mi B.pb) 7 d
def EncBe (Z : ZB) (B : BS) : Prop := (Z.1 0 = nI (vs B.W 0) ∧ Z.1 1 = nI (vs B.W 3) ∧ Z.1 2 = nI (vs B.W 4) ∧ Z.1 3 = nI (vs B.W 1) ∧ Z.1 4 = nI (vs B.W 2) ∧ Z.1 5 = nI (vs B.W 5) ∧ Z.1 6 = nI B.pb) ∧
  (∀ i, i < vs B.W 1 → Z.2.1 i = lN (n32 (B.nf i))) ∧ (∀ i, i < vs B.W 2 → Z.2.2.1 i = lN (n32 (B.nd i))) ∧
  (∀ i, i < 6 → Z.2.2.2 9 i = nI (vt B.W 0 i) ∧ Z.2.2.2 10 i = nI (vt B.W 1 i) ∧ Z.2.2.2 11 i = nI (vt B.W 2 i)) ∧ (∀ i, i < 8 → Z.2.2.2 12 i = nI (vt B.W 5 i) ∧ Z.2.2.2 13 i = nI (vt B.W 6 i)) ∧ EncP8 Z B
theorem EncBe.n2 {g : GG} {C : CS} {Z Z2 : ZB} {B : BS} {m : Nat → Option va_E} (hm : m = zbM g C Z2) (E : EncBe Z B) (O : OkB B) (h1 : Z2.1 = Z.1) (h2 : Z2.2.1 = Z.2.1) (h3 : Z2.2.2.1 = Z.2.2.1) : BeN g (sM8 C m) (od C 8 2) (vs B.W 1) (vs B.W 2) B.nf B.nd :=
  ⟨zbL C Z2, od C 8 10, od C 8 11, Z2.2.1, Z2.2.2.1, Or.inl ⟨2, by decide, rfl, by rw [hm]; rfl⟩, by rw [← E.1.2.2.2.1, ← h1]; rfl, by rw [← E.1.2.2.2.2.1, ← h1]; rfl, rfl, rfl, Or.inl ⟨10, by decide, rfl, by rw [hm]; rfl⟩, Or.inl ⟨11, by decide, rfl, by rw [hm]; rfl⟩, O.b.2.2.1, O.b.2.2.2.1, fun i hi => by rw [h2]; exact ⟨E.2.1 i hi, O.2.2.2.2.2.2.2.1 i hi⟩, fun i hi => by rw [h3]; exact ⟨E.2.2.1 i hi, O.2.2.2.2.2.2.2.2.1 i hi⟩⟩
theorem zb_x {C : CS} {m : Nat → Option va_E} (h : oO C 0 = true) : oO (sM8 C m) 0 = true := h
theorem TxC.zb {C : CS} {m : Nat → Option va_E} {X : TX} (h : TxC C X) : TxC (sM8 C m) X := h
theorem flt_of {t : Tk} {k : Nat} (h : t.so ≠ 1) : flt t k = (k, t.fr) := by rw [flt, if_neg h]
def QB (g : GG) (C : CS) (X : TX) (st : Int32) (r : PR (BS × Tk)) : Option Value → CS → Prop := fun w C2 => w = none ∧ ∃ (B2 : BS) (t2 : Tk) (nu2 : Int32) (Z2 : ZB) (m2 : Nat → Option va_E), m2 = zbM g C Z2 ∧ r = .ok (B2, t2) ∧ OkT9 X t2 ∧ C2 = rdS (sM8 C m2) X.2 (rqT t2 nu2 st (nI B2.du)) ∧ NuT t2 nu2 ∧ EncBe Z2 B2
theorem bnd {α β γ : Type} (x : PR α) (f : α → PR β) (h : β → PR γ) : ((x >>= f) >>= h) = x >>= fun a => f a >>= h := by
  cases x <;> rfl
theorem wNew_fr {X : TX} {B : BS} {cnt most : Nat} {t : Tk} (h : cnt ≠ most) : wNew X B cnt most t = wFr X (vs B.W 1) (vs B.W 2) B.nf B.nd (nx X t) := by
  unfold wNew wFr
  rw [if_neg h]
theorem pF_0 {X : TX} {B : BS} {t : Tk} (h : vs B.W 1 = 6) (h1 : t.so ≠ 1) : pFinder X B t = .error (6, t.fr) := by
  unfold pFinder wNew
  rw [if_pos h, flt_of h1]
  rfl
theorem pF_1 {X : TX} {B : BS} {t : Tk} {f : Nat × Nat} (h : vs B.W 1 ≠ 6) (e : wFr X (vs B.W 1) (vs B.W 2) B.nf B.nd (nx X t) = .error f) : pFinder X B t = .error f := by
  unfold pFinder
  rw [wNew_fr h, e]
  rfl
theorem pF_c {X : TX} {B : BS} {t t1 : Tk} {w : List Nat} (h : vs B.W 1 ≠ 6) (e : wFr X (vs B.W 1) (vs B.W 2) B.nf B.nd (nx X t) = .ok (w, t1)) : pFinder X B t = ((wWord X 7 t1 >>= fun t => wNum X 0 (vs B.W 0 - 1) t) >>= fun p => (wWord X 8 p.2 >>= fun t => wNum X 1 9 t) >>= fun q => (wWord X 9 q.2 >>= fun t => wNum X 0 20 t) >>= fun r => .ok (bFinder B w p.1 q.1 r.1, r.2)) := by
  unfold pFinder
  rw [wNew_fr h, e]
  simp only [pCell, ob, bnd]
theorem pD_0 {X : TX} {B : BS} {t : Tk} (h : vs B.W 2 = 8) (h1 : t.so ≠ 1) : pFind X B t = .error (6, t.fr) := by
  unfold pFind wNew
  rw [if_pos h, flt_of h1]
  rfl
theorem pD_1 {X : TX} {B : BS} {t : Tk} {f : Nat × Nat} (h : vs B.W 2 ≠ 8) (e : wFr X (vs B.W 1) (vs B.W 2) B.nf B.nd (nx X t) = .error f) : pFind X B t = .error f := by
  unfold pFind
  rw [wNew_fr h, e]
  rfl
theorem pD_c {X : TX} {B : BS} {t t1 : Tk} {w : List Nat} (h : vs B.W 2 ≠ 8) (e : wFr X (vs B.W 1) (vs B.W 2) B.nf B.nd (nx X t) = .ok (w, t1)) : pFind X B t = ((wWord X 7 t1 >>= fun t => wNum X 0 (vs B.W 0 - 1) t) >>= fun p => (wWord X 10 p.2 >>= fun t => wNum X 0 999 t) >>= fun r => .ok (bFind B w p.1 r.1, r.2)) := by
  unfold pFind
  rw [wNew_fr h, e]
  simp only [pCell, ob, bnd]
theorem pP_0 {X : TX} {B : BS} {t : Tk} (h : B.pb = 30) (h1 : t.so ≠ 1) : pPebble X B t = .error (6, t.fr) := by
  unfold pPebble
  rw [if_pos h, flt_of h1]
theorem pP_c {X : TX} {B : BS} {t : Tk} (h : B.pb ≠ 30) : pPebble X B t = (wWord X 11 (nx X t) >>= fun t => wOld X B.nf (vs B.W 1) t >>= fun p => wWord X 12 p.2 >>= fun t => wOld X B.nd (vs B.W 2) t >>= fun q => (wWord X 7 q.2 >>= fun t => wNum X 0 (vs B.W 3) t) >>= fun r => .ok (bPebble B p.1 q.1 r.1, r.2)) := by
  unfold pPebble
  rw [if_neg h]
  simp only [bnd]
theorem wN_le {X : TX} {t t2 : Tk} {k lo hi v : Nat} (e : (wWord X k t >>= fun t => wNum X lo hi t) = .ok (v, t2)) : lo ≤ v ∧ v ≤ hi := by
  obtain ⟨t1, h1, h2⟩ := bind_ok e
  unfold wNum at h2
  split at h2
  · cases h2
  · split at h2
    · cases h2
    · rename_i h3
      cases h2
      omega
theorem dueI_ok : ∀ k, 13 ≤ k → k ≤ 16 → dueI k = nI (k - 13) := by
  intro k h1 h2
  have h : k = 13 ∨ k = 14 ∨ k = 15 ∨ k = 16 := by omega
  rcases h with rfl | rfl | rfl | rfl <;> rfl
theorem EncBe.addF {Z : ZB} {B : BS} {w : List Nat} {a p h : Nat} (E : EncBe Z B) : EncBe (zI (zP (zR (zR (zR Z 9 (vs B.W 1) (nI a)) 10 (vs B.W 1) (nI p)) 11 (vs B.W 1) (nI h)) (vs B.W 1) (lN (n32 w))) 3 (nI (vs B.W 1 + 1))) (bFinder B w a p h) := by
  obtain ⟨⟨a0, a1, a2, a3, a4, a5, a6⟩, b, c, d, e, wh, on, mi, f1, f2, f3⟩ := E
  refine ⟨⟨a0, a1, a2, rfl, a4, a5, a6⟩, fun i hi => ?_, c, fun i hi => ?_, fun i hi => ?_, wh, on, mi, fun k hk => ?_, f2, fun d => ?_⟩
  · have hi2 : i < vs B.W 1 + 1 := hi
    show vp_updL Z.2.1 (vs B.W 1) _ i = lN (n32 (upN B.nf (vs B.W 1) w i))
    unfold upN
    by_cases z : i = vs B.W 1
    · rw [z, updL_eq, if_pos rfl]
    · rw [updL_ne z, if_neg z]
      exact b i (by omega)
  · rw [bF_t, bF_t, bF_t]
    obtain ⟨d1, d2, d3⟩ := d i hi
    refine ⟨?_, ?_, ?_⟩
    · show upd (Z.2.2.2 9) (vs B.W 1) (nI a) i = _
      by_cases z : i = vs B.W 1
      · rw [z, upd_eq, if_neg (by omega), if_neg (by omega), if_pos ⟨rfl, rfl⟩]
      · rw [upd_ne z, if_neg (by omega), if_neg (by omega), if_neg (fun y => z y.2)]
        exact d1
    · show upd (Z.2.2.2 10) (vs B.W 1) (nI p) i = _
      by_cases z : i = vs B.W 1
      · rw [z, upd_eq, if_neg (by omega), if_pos ⟨rfl, rfl⟩]
      · rw [upd_ne z, if_neg (by omega), if_neg (fun y => z y.2), if_neg (by omega)]
        exact d2
    · show upd (Z.2.2.2 11) (vs B.W 1) (nI h) i = _
      by_cases z : i = vs B.W 1
      · rw [z, upd_eq, if_pos ⟨rfl, rfl⟩]
      · rw [upd_ne z, if_neg (fun y => z y.2), if_neg (by omega), if_neg (by omega)]
        exact d3
  · rw [bF_t3 _ _ _ _ _ _ _ (by omega), bF_t3 _ _ _ _ _ _ _ (by omega)]
    exact e i hi
  · obtain ⟨g1, g2, g3, g4, g5, g6⟩ := f1 k hk
    exact ⟨g1, g2, g3, Nat.lt_succ_of_lt g4, g5, g6⟩
  · rw [bF_t3 _ _ _ _ _ _ _ (by omega)]
    exact f3 d
theorem EncBe.addD {Z : ZB} {B : BS} {w : List Nat} {a p : Nat} (E : EncBe Z B) : EncBe (zI (zQ (zR (zR Z 12 (vs B.W 2) (nI a)) 13 (vs B.W 2) (nI p)) (vs B.W 2) (lN (n32 w))) 4 (nI (vs B.W 2 + 1))) (bFind B w a p) := by
  obtain ⟨⟨a0, a1, a2, a3, a4, a5, a6⟩, b, c, d, e, wh, on, mi, f1, f2, f3⟩ := E
  refine ⟨⟨a0, a1, a2, a3, rfl, a5, a6⟩, b, fun i hi => ?_, fun i hi => ?_, fun i hi => ?_, wh, on, mi, fun k hk => ?_, f2, fun d => ?_⟩
  · have hi2 : i < vs B.W 2 + 1 := hi
    show vp_updL Z.2.2.1 (vs B.W 2) _ i = lN (n32 (upN B.nd (vs B.W 2) w i))
    unfold upN
    by_cases z : i = vs B.W 2
    · rw [z, updL_eq, if_pos rfl]
    · rw [updL_ne z, if_neg z]
      exact c i (by omega)
  · rw [bD_tj _ _ _ _ _ _ (by omega), bD_tj _ _ _ _ _ _ (by omega), bD_tj _ _ _ _ _ _ (by omega)]
    exact d i hi
  · rw [bD_t, bD_t]
    obtain ⟨d1, d2⟩ := e i hi
    refine ⟨?_, ?_⟩
    · show upd (Z.2.2.2 12) (vs B.W 2) (nI a) i = _
      by_cases z : i = vs B.W 2
      · rw [z, upd_eq, if_neg (by omega), if_pos ⟨rfl, rfl⟩]
      · rw [upd_ne z, if_neg (by omega), if_neg (fun y => z y.2)]
        exact d1
    · show upd (Z.2.2.2 13) (vs B.W 2) (nI p) i = _
      by_cases z : i = vs B.W 2
      · rw [z, upd_eq, if_pos ⟨rfl, rfl⟩]
      · rw [upd_ne z, if_neg (fun y => z y.2), if_neg (by omega)]
        exact d2
  · obtain ⟨g1, g2, g3, g4, g5, g6⟩ := f1 k hk
    exact ⟨g1, g2, g3, g4, Nat.lt_succ_of_lt g5, g6⟩
  · rw [bD_tj _ _ _ _ _ _ (by omega)]
    exact f3 d
theorem foP_congr {wh on mi wh2 on2 mi2 : Nat → Nat} : ∀ n, (∀ k, k < n → wh k = wh2 k ∧ on k = on2 k ∧ mi k = mi2 k) → foP wh on mi n = foP wh2 on2 mi2 n
  | 0, _ => rfl
  | n + 1, h => by
    obtain ⟨h1, h2, h3⟩ := h n (Nat.lt_succ_self n)
    unfold foP
    rw [foP_congr n (fun k hk => h k (by omega)), h1, h2, h3]
def upF (f : Nat → Nat) (k v : Nat) : Nat → Nat := fun i => if i = k then v else f i
theorem EncBe.addP {Z : ZB} {B : BS} {f d m : Nat} (E : EncBe Z B) (hf : f < vs B.W 1) (hd : d < vs B.W 2) (hm : m ≤ vs B.W 3) : EncBe (zI (zR (zR (zR Z 14 B.pb (nI f)) 15 B.pb (nI d)) 16 B.pb (nI m)) 6 (nI (B.pb + 1))) (bPebble B f d m) := by
  obtain ⟨⟨a0, a1, a2, a3, a4, a5, a6⟩, b, c, dd, e, wh, on, mi, f1, f2, f3⟩ := E
  have hs : ∀ k, k < 8 → vs (bPebble B f d m).W k = vs B.W k := fun k hk => insV_s _ _ _ _ _ hk
  have ht : ∀ j i, j ≠ 7 → vt (bPebble B f d m).W j i = vt B.W j i := fun j i hj => by
    show vt (insV B.W d f m) j i = _
    rw [insV_t, if_neg (fun z => hj z.1)]
  have hc : foP (upF wh B.pb f) (upF on B.pb d) (upF mi B.pb m) B.pb = foP wh on mi B.pb := foP_congr _ (fun k hk => ⟨if_neg (by omega), if_neg (by omega), if_neg (by omega)⟩)
  have hfo : foP (upF wh B.pb f) (upF on B.pb d) (upF mi B.pb m) (B.pb + 1) = insV (foP wh on mi B.pb) d f m := by
    show insV (foP (upF wh B.pb f) (upF on B.pb d) (upF mi B.pb m) B.pb) (upF on B.pb d B.pb) (upF wh B.pb f B.pb) (upF mi B.pb m B.pb) = _
    rw [hc]
    unfold upF
    rw [if_pos rfl, if_pos rfl, if_pos rfl]
  refine ⟨⟨a0, a1, a2, a3, a4, a5, rfl⟩, b, c, fun i hi => ?_, fun i hi => ?_, upF wh B.pb f, upF on B.pb d, upF mi B.pb m, fun k hk => ?_, ?_, fun d2 => ?_⟩
  · rw [ht _ _ (by omega), ht _ _ (by omega), ht _ _ (by omega)]
    exact dd i hi
  · rw [ht _ _ (by omega), ht _ _ (by omega)]
    exact e i hi
  · have hk2 : k < B.pb + 1 := hk
    show upd (Z.2.2.2 14) B.pb (nI f) k = nI (upF wh B.pb f k) ∧ upd (Z.2.2.2 15) B.pb (nI d) k = nI (upF on B.pb d k) ∧ upd (Z.2.2.2 16) B.pb (nI m) k = nI (upF mi B.pb m k) ∧ upF wh B.pb f k < vs B.W 1 ∧ upF on B.pb d k < vs B.W 2 ∧ upF mi B.pb m k ≤ vs B.W 3
    unfold upF
    by_cases z : k = B.pb
    · rw [z, upd_eq, upd_eq, upd_eq, if_pos rfl, if_pos rfl, if_pos rfl]
      exact ⟨rfl, rfl, rfl, hf, hd, hm⟩
    · rw [upd_ne z, upd_ne z, upd_ne z, if_neg z, if_neg z, if_neg z]
      exact f1 k (by omega)
  · show vp (insV B.W d f m) = vp (foP (upF wh B.pb f) (upF on B.pb d) (upF mi B.pb m) (B.pb + 1))
    rw [hfo]
    funext a e2 i
    rw [insV_p, insV_p, f2, f3]
  · show vt (insV B.W d f m) 7 d2 = vt (foP (upF wh B.pb f) (upF on B.pb d) (upF mi B.pb m) (B.pb + 1)) 7 d2
    rw [hfo, insV_t, insV_t, f3, f3]
theorem EncBe.addU {Z : ZB} {B : BS} {k : Nat} (E : EncBe Z B) : EncBe (zI Z 5 (nI k)) (bDuel B k) := by
  obtain ⟨⟨a0, a1, a2, a3, a4, a5, a6⟩, b, c, dd, e, wh, on, mi, f1, f2, f3⟩ := E
  exact ⟨⟨a0, a1, a2, a3, a4, rfl, a6⟩, b, c, dd, e, wh, on, mi, f1, f2, f3⟩
/-- a beach before anything is read -/
def zb0 : ZB := (fun f => if f = 0 then nI 2 else if f = 1 then nI 60 else if f = 5 then nI 1 else 0, fun _ => 0, fun _ => 0, fun _ _ => 0)
theorem EncBe.new {c ti m : Nat} : EncBe (zI (zI (zI zb0 0 (nI c)) 1 (nI ti)) 2 (nI m)) (bNew c ti m) :=
  ⟨⟨rfl, rfl, rfl, rfl, rfl, rfl, rfl⟩, fun i hi => absurd hi (Nat.not_lt_zero i), fun i hi => absurd hi (Nat.not_lt_zero i), fun i _ => ⟨rfl, rfl, rfl⟩, fun i _ => ⟨rfl, rfl⟩, fun _ => 0, fun _ => 0, fun _ => 0, fun k hk => absurd hk (Nat.not_lt_zero k), rfl, fun _ => rfl⟩
theorem EncBe.new0 {c ti : Nat} : EncBe (zI (zI zb0 0 (nI c)) 1 (nI ti)) (bNew c ti 0) :=
  ⟨⟨rfl, rfl, rfl, rfl, rfl, rfl, rfl⟩, fun i hi => absurd hi (Nat.not_lt_zero i), fun i hi => absurd hi (Nat.not_lt_zero i), fun i _ => ⟨rfl, rfl, rfl⟩, fun i _ => ⟨rfl, rfl⟩, fun _ => 0, fun _ => 0, fun _ => 0, fun k hk => absurd hk (Nat.not_lt_zero k), rfl, fun _ => rfl⟩
/-! rows of a reader beside a beach: addresses are told by the first state -/
theorem sM_od1 {C : CS} {m : Nat → Option va_E} : od (sM8 C m) = od C := rfl
theorem sM_rdL {C : CS} {m : Nat → Option va_E} {n : Nat} {q : RQ} : rdL (sM8 C m) n q = rdL C n q := by
  unfold rdL
  rw [sM_od1]
theorem z_rd {g : GG} {σ : PH} {C : CS} {m : Nat → Option va_E} {n : Nat} {q : RQ} (H : Hold g σ (rdS (sM8 C m) n q)) : σ.2 (od C 8 1) = some ((8, 1), .inr (9, rdL C n q)) := by
  have h := H.get (ce_rd (g := g) (C := sM8 C m) (n := n) (q := q))
  rw [sM_od, sM_rdL] at h
  exact h
theorem z_bad {g : GG} {σ : PH} {C : CS} {m : Nat → Option va_E} {n : Nat} {q : RQ} (hx : oO C 0 = true) (H : Hold g σ (rdS (sM8 C m) n q)) : ∃ fs, σ.2 (od C 0 5) = some ((0, 5), .inr (2, fs)) := by
  have h := H.get (k := 0) (j := 5) ((sM_ot 0 5 (by decide)).trans (ce_bad hx))
  rw [sM_od] at h
  exact ⟨_, h⟩
section ZROWS
variable {g : GG} {mt : MT} {kc ks pc : Nat} {L : List (Option Value)} {st rest : List Value} {σ σ0 : PH} {C : CS} {m : Nat → Option va_E} {n : Nat} {q : RQ}
theorem z_get {f index : Nat} {v : Value} (d : decode mt.1.2.1 pc = .ok (.getfield index, 3)) (hf : f < 8) (ql : Cond.fieldLink mt.1.1 index (TX9 f).1 (TX9 f).2.1 (TX9 f).2.2.1 ∈ lw_all) (H : Hold g σ (rdS (sM8 C m) n q)) (hv : (rdL C n q)[f]? = some v) (kk : Wp g mt kc ks (pc + 3) L (v :: st) σ) : Wp g mt kc ks pc L (.ref (od C 8 1) :: st) σ :=
  w_getf (k := f) d clX9 hf ql (z_rd H) hv kk
theorem z_put {f index : Nat} {v : Int32} (q2 : RQ) (d : decode mt.1.2.1 pc = .ok (.putfield index, 3)) (hf : f < 8) (ql : Cond.fieldLink mt.1.1 index (TX9 f).1 (TX9 f).2.1 (TX9 f).2.2.1 ∈ lw_all) (hfin : (TX9 f).2.2.2 = false) (hn : narrow (tyX9 f) (.int v) = .int v) (hfit : fits (tyX9 f) (.int v) = true) (H : Hold g σ (rdS (sM8 C m) n q)) (F : Fr σ0 σ) (hs : (rdL C n q).set f (.int v) = rdL C n q2) (kk : ∀ σ2, Hold g σ2 (rdS (sM8 C m) n q2) → Fr σ0 σ2 → Wp g mt kc ks (pc + 3) L st σ2) : Wp g mt kc ks pc L (.int v :: .ref (od C 8 1) :: st) σ := by
  rw [← sM_od1 (C := C) (m := m)]
  exact rd_put (C := sM8 C m) (q := q) q2 d hf ql hfin hn hfit H F (by rw [sM_rdL, sM_rdL]; exact hs) kk
theorem z_22 (d : decode mt.1.2.1 pc = .ok (.getfield 22, 3)) (ho : mt.1.1 = RX9) (hx : oO C 0 = true) (H : Hold g σ (rdS (sM8 C m) n q)) (kk : Wp g mt kc ks (pc + 3) L (.ref (od C 0 1) :: st) σ) : Wp g mt kc ks pc L (.ref (od C 0 30) :: st) σ := by
  rw [← sM_od1 (C := C) (m := m)] at kk ⊢
  exact rd_22 (C := sM8 C m) (q := q) d ho hx H kk
theorem z_55 (d : decode mt.1.2.1 pc = .ok (.getfield 55, 3)) (ho : mt.1.1 = RX9) (hx : oO C 0 = true) (H : Hold g σ (rdS (sM8 C m) n q)) (kk : Wp g mt kc ks (pc + 3) L (.ref (od C 0 5) :: st) σ) : Wp g mt kc ks pc L (.ref (od C 0 30) :: st) σ := by
  rw [← sM_od1 (C := C) (m := m)] at kk ⊢
  exact rd_55 (C := sM8 C m) (q := q) d ho hx H kk
theorem z_throw {mi : MI} {d mc ms k : Nat} {C1 : CS} {q2 : RQ} {Q : Option Value → CS → Prop} {E : CS → Prop} (dd : decode mi.2.1 pc = .ok (.athrow, 1)) (hh : mi.2.2.2.2 = []) (hx : oO C 0 = true) (H : Hold g σ C1) (F : Fr σ0 σ) (hR : RFr (rdS (sM8 C m) k q2) C1) (hE : E C1) : Wp g (mtX g mi d mc ms σ0 (rdS (sM8 C m) k q2) Q E) kc ks pc L (.ref (od C 0 5) :: rest) σ := by
  rw [← sM_od (C := C) (m := m) (n := k) (q := q2)]
  exact cx_throw (C := rdS (sM8 C m) k q2) dd hh hx H F hR hE
theorem z_at {x y : Int32} (hx : oO C 0 = true) : Cp g miX2_at 1 0 0 [.ref (od C 0 5), .int x, .int y] (rdS (sM8 C m) n q) (some (.ref (od C 0 5))) (fun C2 => C2 = uI (uI (rdS (sM8 C m) n q) 0 5 6 x) 0 5 7 y) := by
  have h := r_at (g := g) (C := rdS (sM8 C m) n q) (x := x) (y := y) hx
  rw [sM_od] at h
  exact h
end ZROWS
