/-! PARSERS: the beach as far as it is read, as the twin holds it -/
set_option maxRecDepth 100000
def EncB (S : MS) (B : BS) : Prop := EncA (fun k => mA S 0 (5600 + k)) B.W ∧ (∀ i, i < vs B.W 1 → mB S 1 (56 + i) = lN (n256 (B.nf i))) ∧ (∀ i, i < vs B.W 2 → mB S 1 (62 + i) = lN (n256 (B.nd i))) ∧ mI S 21 = nI B.pb ∧ mI S 20 = nI B.du ∧ mA S 0 5609 = -1
def OkB (B : BS) : Prop := OkV B.W ∧ (∀ f, vt B.W 3 f = 0 ∧ vt B.W 4 f = 0) ∧ vs B.W 6 = 0 ∧ vs B.W 7 = 2 ^ vs B.W 2 - 1 ∧ vs B.W 8 = B.pb ∧ B.pb ≤ 30 ∧ B.du ≤ 1 ∧ (∀ i, i < vs B.W 1 → NmW (B.nf i)) ∧ (∀ i, i < vs B.W 2 → NmW (B.nd i)) ∧ (∀ f, f < vs B.W 1 → vt B.W 2 f ≤ 20) ∧ ∀ d, 8 ≤ d → vt B.W 7 d = 0
theorem upd_sh (a : Nat → Int32) (i : Nat) (v : Int32) : (fun k => upd a (5600 + i) v (5600 + k)) = upd (fun k => a (5600 + k)) i v := by
  funext k
  unfold upd
  by_cases h : k = i
  · rw [if_pos h, if_pos (by omega)]
  · rw [if_neg h, if_neg (by omega)]
theorem EncA.congr {a a2 : Nat → Int32} {V : VS} (h7 : ∀ d, d < 8 → vt V 7 d ≤ 60) (E : EncA a V) (h : ∀ k, k < 1030 → a2 k = a k) : EncA a2 V :=
  ⟨fun k hk => by rw [h k (by omega)]; exact E.1 k hk, fun f hf j hj => by rw [h _ (by omega)]; exact E.2.1 f hf j hj, fun d hd j hj => by rw [h _ (by omega)]; exact E.2.2.1 d hd j hj, fun d hd k hk j hj => by
    have := h7 d hd
    rw [h _ (by omega)]
    exact E.2.2.2 d hd k hk j hj⟩
theorem EncA.upD {a : Nat → Int32} {V : VS} (E : EncA a V) {d j : Nat} (hd : d < 8) (hj : j < 2) (h7 : ∀ d, d < 8 → vt V 7 d ≤ 60) (x : Nat) : EncA (upd a (40 + 3 * d + j) (nI x)) (setT V (5 + j) d x) := by
  refine ⟨fun k hk => ?_, fun f hf i hi => ?_, fun e he i hi => ?_, fun e he k hk i hi => ?_⟩
  · rw [upd_ne (by omega), setT_s]
    exact E.1 k hk
  · rw [upd_ne (by omega), setT_t, if_neg (by omega)]
    exact E.2.1 f hf i hi
  · rw [setT_t]
    by_cases h : 5 + i = 5 + j ∧ e = d
    · obtain ⟨h1, rfl⟩ := h
      obtain rfl : i = j := by omega
      rw [if_pos ⟨rfl, rfl⟩, upd_eq]
    · rw [if_neg h, upd_ne (by omega)]
      exact E.2.2.1 e he i hi
  · rw [setT_t, if_neg (by omega)] at hk
    have := h7 e he
    rw [upd_ne (by omega), setT_p]
    exact E.2.2.2 e he k hk i hi
theorem FrK.sA {S S2 : MS} (h : FrK S S2) (k i : Nat) (v : Int32) : FrK (sA S k i v) (sA S2 k i v) := by
  refine ⟨h.1, ?_⟩
  show (S2.2.1, va_up S2.2.2.1 k (upd (S2.2.2.1 k) i v), S2.2.2.2) = (S.2.1, va_up S.2.2.1 k (upd (S.2.2.1 k) i v), S.2.2.2)
  rw [h.2]
theorem FrK.sB {S S2 : MS} (h : FrK S S2) (k i : Nat) (v : Int64) : FrK (sB S k i v) (sB S2 k i v) := by
  refine ⟨h.1, ?_⟩
  show (S2.2.1, S2.2.2.1, va_up S2.2.2.2 k (vp_updL (S2.2.2.2 k) i v)) = (S.2.1, S.2.2.1, va_up S.2.2.2 k (vp_updL (S.2.2.2 k) i v))
  rw [h.2]
theorem EncB.s {S : MS} {B : BS} (E : EncB S B) (k : Nat) (h : k < 9) : mA S 0 (5600 + k) = nI (vs B.W k) := E.1.1 k h
theorem EncB.frK {S S2 : MS} {B : BS} (E : EncB S B) (h : FrK S S2) : EncB S2 B :=
  ⟨by rw [h.A]; exact E.1, fun i hi => by rw [h.B]; exact E.2.1 i hi, fun i hi => by rw [h.B]; exact E.2.2.1 i hi, (h.1 21 (by omega)).trans E.2.2.2.1, (h.1 20 (by omega)).trans E.2.2.2.2.1, by rw [h.A]; exact E.2.2.2.2.2⟩
theorem OkB.v {B : BS} (O : OkB B) : OkV B.W := O.1
theorem OkB.b {B : BS} (O : OkB B) : 2 ≤ vs B.W 0 ∧ vs B.W 0 ≤ 40 ∧ vs B.W 1 ≤ 6 ∧ vs B.W 2 ≤ 8 ∧ 1 ≤ vs B.W 3 ∧ vs B.W 3 ≤ 240 := ⟨O.1.b.1, O.1.b.2.1, O.1.b.2.2.1, O.1.b.2.2.2.1, O.1.b.2.2.2.2.1, O.1.b.2.2.2.2.2.1⟩
theorem OkB.f {B : BS} (O : OkB B) {S : MS} (E : EncB S B) : ∀ i, i < vs B.W 1 → mB S 1 (56 + i) = lN (n256 (B.nf i)) ∧ NmW (B.nf i) := fun i hi => ⟨E.2.1 i hi, O.2.2.2.2.2.2.2.1 i hi⟩
theorem OkB.d {B : BS} (O : OkB B) {S : MS} (E : EncB S B) : ∀ i, i < vs B.W 2 → mB S 1 (62 + i) = lN (n256 (B.nd i)) ∧ NmW (B.nd i) := fun i hi => ⟨E.2.2.1 i hi, O.2.2.2.2.2.2.2.2.1 i hi⟩
theorem OkB.n60 {B : BS} (O : OkB B) : ∀ d, d < 8 → vt B.W 7 d ≤ 60 := fun d hd => O.1.n hd
theorem updL_eq {a : Nat → Int64} {i : Nat} {x : Int64} : vp_updL a i x i = x := if_pos rfl
theorem updL_ne {a : Nat → Int64} {i j : Nat} {x : Int64} (h : j ≠ i) : vp_updL a i x j = a j := if_neg h
theorem EncB.addF {S S6 : MS} {B : BS} {w : List Nat} {a p h : Nat} (E : EncB S B) (O : OkB B) (hn : vs B.W 1 < 6) (hA : mA S6 0 = upd (upd (upd (mA S 0) (5600 + (10 + 5 * vs B.W 1 + 0)) (nI a)) (5600 + (10 + 5 * vs B.W 1 + 1)) (nI p)) (5600 + (10 + 5 * vs B.W 1 + 2)) (nI h)) (hB : mB S6 1 = vp_updL (mB S 1) (56 + vs B.W 1) (lN (n256 w))) (h20 : mI S6 20 = mI S 20) (h21 : mI S6 21 = mI S 21) : EncB (sA S6 0 5601 (nI (vs B.W 1 + 1))) (bFinder B w a p h) := by
  refine ⟨?_, fun i hi => ?_, fun i hi => ?_, h21.trans E.2.2.2.1, h20.trans E.2.2.2.2.1, ?_⟩
  · show EncA (fun k => upd (mA S6 0) (5600 + 1) (nI (vs B.W 1 + 1)) (5600 + k)) _
    rw [upd_sh, hA, upd_sh, upd_sh, upd_sh]
    exact (((E.1.upF (j := 0) hn (by omega) a).upF (j := 1) hn (by omega) p).upF (j := 2) hn (by omega) h).upS (k := 1) (by omega) _
  · show mB S6 1 (56 + i) = lN (n256 (upN B.nf (vs B.W 1) w i))
    have hi2 : i < vs B.W 1 + 1 := hi
    rw [hB]
    unfold upN
    by_cases h : i = vs B.W 1
    · rw [h, if_pos rfl, updL_eq]
    · rw [if_neg h, updL_ne (by omega)]
      exact E.2.1 i (by omega)
  · show mB S6 1 (62 + i) = _
    rw [hB, updL_ne (by omega)]
    exact E.2.2.1 i hi
  · show upd (mA S6 0) 5601 (nI (vs B.W 1 + 1)) 5609 = _
    rw [upd_ne (by omega), hA, upd_ne (by omega), upd_ne (by omega), upd_ne (by omega)]
    exact E.2.2.2.2.2
theorem EncB.addD {S S6 : MS} {B : BS} {w : List Nat} {a p : Nat} (E : EncB S B) (O : OkB B) (hn : vs B.W 2 < 8) (hA : mA S6 0 = upd (upd (mA S 0) (5600 + (40 + 3 * vs B.W 2 + 0)) (nI a)) (5600 + (40 + 3 * vs B.W 2 + 1)) (nI p)) (hB : mB S6 1 = vp_updL (mB S 1) (62 + vs B.W 2) (lN (n256 w))) (h20 : mI S6 20 = mI S 20) (h21 : mI S6 21 = mI S 21) : EncB (sA (sA S6 0 5607 (nI (vs B.W 7 ||| 2 ^ vs B.W 2))) 0 5602 (nI (vs B.W 2 + 1))) (bFind B w a p) := by
  have h6 := O.b
  refine ⟨?_, fun i hi => ?_, fun i hi => ?_, h21.trans E.2.2.2.1, h20.trans E.2.2.2.2.1, ?_⟩
  · show EncA (fun k => upd (upd (mA S6 0) (5600 + 7) (nI (vs B.W 7 ||| 2 ^ vs B.W 2))) (5600 + 2) (nI (vs B.W 2 + 1)) (5600 + k)) _
    rw [upd_sh, upd_sh, hA, upd_sh, upd_sh]
    have e1 := E.1.upD (j := 0) hn (by omega) O.n60 a
    have e2 := e1.upD (j := 1) hn (by omega) (fun d hd => by rw [setT_t, if_neg (by omega)]; exact O.n60 d hd) p
    exact (e2.upS (k := 7) (by omega) _).upS (k := 2) (by omega) _
  · show mB S6 1 (56 + i) = _
    have hi2 : i < vs B.W 1 := hi
    rw [hB, updL_ne (by omega)]
    exact E.2.1 i hi
  · show mB S6 1 (62 + i) = lN (n256 (upN B.nd (vs B.W 2) w i))
    have hi2 : i < vs B.W 2 + 1 := hi
    rw [hB]
    unfold upN
    by_cases h : i = vs B.W 2
    · rw [h, if_pos rfl, updL_eq]
    · rw [if_neg h, updL_ne (by omega)]
      exact E.2.2.1 i (by omega)
  · show upd (upd (mA S6 0) 5607 (nI (vs B.W 7 ||| 2 ^ vs B.W 2))) 5602 (nI (vs B.W 2 + 1)) 5609 = _
    rw [upd_ne (by omega), upd_ne (by omega), hA, upd_ne (by omega), upd_ne (by omega)]
    exact E.2.2.2.2.2
theorem EncB.fr {S S2 : MS} {B : BS} (E : EncB S B) (O : OkB B) (hA : ∀ k, 5600 ≤ k → k < 6630 → mA S2 0 k = mA S 0 k) (hB : ∀ k, 56 ≤ k → mB S2 1 k = mB S 1 k) (h20 : mI S2 20 = mI S 20) (h21 : mI S2 21 = mI S 21) : EncB S2 B :=
  ⟨EncA.congr O.n60 E.1 (fun k hk => hA _ (by omega) (by omega)), fun i hi => by rw [hB _ (by omega)]; exact E.2.1 i hi, fun i hi => by rw [hB _ (by omega)]; exact E.2.2.1 i hi, h21.trans E.2.2.2.1, h20.trans E.2.2.2.2.1, by rw [hA _ (by omega) (by omega)]; exact E.2.2.2.2.2⟩
/-! what the parser keeps -/
theorem or_top : ∀ n, n < 8 → (2 ^ n - 1) ||| 2 ^ n = 2 ^ (n + 1) - 1 := by decide +kernel
theorem sumB_le {f : Nat → Nat} {m : Nat} : ∀ n, (∀ k, k < n → f k ≤ m) → foldN (fun i c => c + f i) 0 n ≤ m * n
  | 0, _ => Nat.le_refl _
  | n + 1, h => by
    have h1 := sumB_le (f := f) n (fun k hk => h k (by omega))
    have h2 := h n (by omega)
    show foldN (fun i c => c + f i) 0 n + f n ≤ m * (n + 1)
    rw [Nat.mul_succ]
    omega
theorem foldS_congr {f g : Nat → Nat} : ∀ n, (∀ k, k < n → f k = g k) → foldN (fun i c => c + f i) 0 n = foldN (fun i c => c + g i) 0 n
  | 0, _ => rfl
  | n + 1, h => by
    show foldN (fun i c => c + f i) 0 n + f n = foldN (fun i c => c + g i) 0 n + g n
    rw [foldS_congr n (fun k hk => h k (by omega)), h n (by omega)]
theorem bF_s (B : BS) (w : List Nat) (a p h k : Nat) : vs (bFinder B w a p h).W k = if k = 1 then vs B.W 1 + 1 else vs B.W k := rfl
theorem bF_t (B : BS) (w : List Nat) (a p h j i : Nat) : vt (bFinder B w a p h).W j i = if j = 2 ∧ i = vs B.W 1 then h else if j = 1 ∧ i = vs B.W 1 then p else if j = 0 ∧ i = vs B.W 1 then a else vt B.W j i := by
  show vt (setS (setT (setT (setT B.W 0 (vs B.W 1) a) 1 (vs B.W 1) p) 2 (vs B.W 1) h) 1 (vs B.W 1 + 1)) j i = _
  rw [setS_t, setT_t, setT_t, setT_t]
theorem bF_p (B : BS) (w : List Nat) (a p h j d k : Nat) : vp (bFinder B w a p h).W j d k = vp B.W j d k := rfl
theorem bF_t3 (B : BS) (w : List Nat) (a p h j i : Nat) (hj : 2 < j) : vt (bFinder B w a p h).W j i = vt B.W j i := by
  rw [bF_t, if_neg (by omega), if_neg (by omega), if_neg (by omega)]
theorem bF_tn (B : BS) (w : List Nat) (a p h j i : Nat) (hi : i ≠ vs B.W 1) : vt (bFinder B w a p h).W j i = vt B.W j i := by
  rw [bF_t, if_neg (by omega), if_neg (by omega), if_neg (by omega)]
theorem OkB.addF {B : BS} {w : List Nat} {a p h : Nat} (O : OkB B) (hn : vs B.W 1 < 6) (hw : NmW w) (ha : a < vs B.W 0) (hp1 : 1 ≤ p) (hp9 : p ≤ 9) (hh : h ≤ 20) : OkB (bFinder B w a p h) := by
  obtain ⟨K, hz, h6, h7, h8, hpb, hdu, hnf, hnd, hpo, hx⟩ := O
  have kb := K.b
  obtain ⟨K1, K2, K3, K4, K5, K6, K7, K8, K9⟩ := K
  have po : ∀ f, f < vs B.W 1 + 1 → vt (bFinder B w a p h).W 2 f ≤ 20 := fun f hf => by
    by_cases z : f = vs B.W 1
    · rw [bF_t, if_pos ⟨rfl, z⟩]; exact hh
    · rw [bF_tn _ _ _ _ _ _ _ z]; exact hpo f (by omega)
  refine ⟨⟨⟨kb.1, kb.2.1, hn, kb.2.2.2.1, kb.2.2.2.2.1, kb.2.2.2.2.2.1, kb.2.2.2.2.2.2.1, kb.2.2.2.2.2.2.2.1, kb.2.2.2.2.2.2.2.2.1, kb.2.2.2.2.2.2.2.2.2.1, kb.2.2.2.2.2.2.2.2.2.2⟩, K2, fun f hf => ?_, fun d hd => ?_, fun d hd => ?_, fun d hd k hk => ?_, fun d hd i j hi hj => ?_, ?_, ?_⟩, fun f => ?_, h6, h7, h8, hpb, hdu, fun i hi => ?_, hnd, po, fun d hd => by rw [bF_t3 _ _ _ _ _ _ _ (by omega)]; exact hx d hd⟩
  · have hf2 : f < vs B.W 1 + 1 := hf
    by_cases z : f = vs B.W 1
    · subst z
      rw [bF_t3 _ _ _ _ _ 3 _ (by omega), bF_t3 _ _ _ _ _ 4 _ (by omega), (hz _).1, (hz _).2]
      rw [bF_t, if_neg (by omega), if_neg (by omega), if_pos ⟨rfl, rfl⟩, bF_t, if_neg (by omega), if_pos ⟨rfl, rfl⟩]
      exact ⟨ha, hp1, hp9, Nat.zero_le _, Nat.zero_le _⟩
    · rw [bF_tn _ _ _ _ _ _ _ z, bF_tn _ _ _ _ _ _ _ z, bF_tn _ _ _ _ _ _ _ z, bF_tn _ _ _ _ _ _ _ z]
      exact K3 f (by omega)
  · rw [bF_t3 _ _ _ _ _ _ _ (by omega), bF_t3 _ _ _ _ _ _ _ (by omega)]
    exact K4 d hd
  · rw [bF_t3 _ _ _ _ _ _ _ (by omega)]
    exact K5 d hd
  · rw [bF_t3 _ _ _ _ _ _ _ (by omega)] at hk
    have := K6 d hd k hk
    refine ⟨?_, this.2⟩
    show vp B.W 0 d k < vs B.W 1 + 1
    omega
  · rw [bF_t3 _ _ _ _ _ _ _ (by omega)] at hj
    exact K7 d hd i j hi hj
  · rw [foldS_congr 8 (fun d _ => bF_t3 B w a p h 7 d (by omega))]
    exact K8
  · have := sumB_le (f := fun f => vt (bFinder B w a p h).W 2 f) (m := 20) (vs B.W 1 + 1) po
    show foldN _ 0 (vs B.W 1 + 1) + vs B.W 8 ≤ 150
    have h9 : foldN (fun f c => c + vt (bFinder B w a p h).W 2 f) 0 (vs B.W 1 + 1) ≤ 20 * (vs B.W 1 + 1) := this
    omega
  · rw [bF_t3 _ _ _ _ _ _ _ (by omega), bF_t3 _ _ _ _ _ _ _ (by omega)]
    exact hz f
  · have hi2 : i < vs B.W 1 + 1 := hi
    show NmW (upN B.nf (vs B.W 1) w i)
    unfold upN
    split
    · exact hw
    · exact hnf i (by omega)
theorem bD_t (B : BS) (w : List Nat) (a p j i : Nat) : vt (bFind B w a p).W j i = if j = 6 ∧ i = vs B.W 2 then p else if j = 5 ∧ i = vs B.W 2 then a else vt B.W j i := by
  show vt (setS (setS (setT (setT B.W 5 (vs B.W 2) a) 6 (vs B.W 2) p) 7 (vs B.W 7 ||| 2 ^ vs B.W 2)) 2 (vs B.W 2 + 1)) j i = _
  rw [setS_t, setS_t, setT_t, setT_t]
theorem bD_tj (B : BS) (w : List Nat) (a p j i : Nat) (hj : j ≠ 5 ∧ j ≠ 6) : vt (bFind B w a p).W j i = vt B.W j i := by
  rw [bD_t, if_neg (by omega), if_neg (by omega)]
theorem bD_tn (B : BS) (w : List Nat) (a p j i : Nat) (hi : i ≠ vs B.W 2) : vt (bFind B w a p).W j i = vt B.W j i := by
  rw [bD_t, if_neg (by omega), if_neg (by omega)]
theorem allT : ∀ n, n < 9 → ∀ d, d < n → ((2 ^ n - 1) >>> d) &&& 1 = 1 := by decide +kernel
theorem notT : ∀ n, n < 9 → ∀ d, d < 20 → n ≤ d → ¬ ((2 ^ n - 1) >>> d) &&& 1 = 1 := by decide +kernel
theorem OkB.addD {B : BS} {w : List Nat} {a p : Nat} (O : OkB B) (hn : vs B.W 2 < 8) (hw : NmW w) (ha : a < vs B.W 0) (hp : p ≤ 999) : OkB (bFind B w a p) := by
  obtain ⟨K, hz, h6, h7, h8, hpb, hdu, hnf, hnd, hpo, hx⟩ := O
  have kb := K.b
  obtain ⟨K1, K2, K3, K4, K5, K6, K7, K8, K9⟩ := K
  have e7 : vs (bFind B w a p).W 7 = 2 ^ (vs B.W 2 + 1) - 1 := by
    show vs B.W 7 ||| 2 ^ vs B.W 2 = _
    rw [h7]
    exact or_top _ hn
  have h256 : 2 ^ (vs B.W 2 + 1) ≤ 2 ^ 8 := Nat.pow_le_pow_right (by omega) (by omega)
  have hpos : 0 < 2 ^ (vs B.W 2 + 1) := Nat.pow_pos (by omega)
  refine ⟨⟨⟨kb.1, kb.2.1, kb.2.2.1, hn, kb.2.2.2.2.1, kb.2.2.2.2.2.1, kb.2.2.2.2.2.2.1, kb.2.2.2.2.2.2.2.1, kb.2.2.2.2.2.2.2.2.1, by rw [e7]; omega, kb.2.2.2.2.2.2.2.2.2.2⟩, ?_, fun f hf => ?_, fun d hd => ?_, fun d hd => ?_, fun d hd k hk => ?_, fun d hd i j hi hj => ?_, ?_, ?_⟩, fun f => ?_, h6, e7, h8, hpb, hdu, hnf, fun i hi => ?_, fun f hf => ?_, fun d hd => by rw [bD_tj _ _ _ _ _ _ (by omega)]; exact hx d hd⟩
  · rw [e7]
    show 2 ^ (vs B.W 2 + 1) - 1 < 2 ^ (vs B.W 2 + 1)
    omega
  · rw [bD_tj _ _ _ _ 0 _ (by omega), bD_tj _ _ _ _ 1 _ (by omega), bD_tj _ _ _ _ 3 _ (by omega), bD_tj _ _ _ _ 4 _ (by omega)]
    exact K3 f hf
  · have hd2 : d < vs B.W 2 + 1 := hd
    by_cases z : d = vs B.W 2
    · rw [bD_t, if_neg (by omega), if_pos ⟨rfl, z⟩, bD_t, if_pos ⟨rfl, z⟩]
      exact ⟨ha, hp⟩
    · rw [bD_tn _ _ _ _ _ _ z, bD_tn _ _ _ _ _ _ z]
      exact K4 d (by omega)
  · rw [bD_tj _ _ _ _ _ _ (by omega)]
    refine ⟨(K5 d hd).1, fun h0 => ?_⟩
    have h1 := (K5 d hd).2 h0
    show (vs (bFind B w a p).W 7 >>> d) &&& 1 = 1
    rw [e7]
    refine allT _ (by omega) d ?_
    rcases Nat.lt_or_ge d (vs B.W 2) with z | z
    · omega
    · exfalso
      refine notT (vs B.W 2) (by omega) d (by omega) z ?_
      rw [← h7]
      exact h1
  · rw [bD_tj _ _ _ _ _ _ (by omega)] at hk
    exact K6 d hd k hk
  · rw [bD_tj _ _ _ _ _ _ (by omega)] at hj
    exact K7 d hd i j hi hj
  · rw [foldS_congr 8 (fun d _ => bD_tj B w a p 7 d (by omega))]
    exact K8
  · rw [foldS_congr (vs (bFind B w a p).W 1) (fun f _ => bD_tj B w a p 2 f (by omega))]
    exact K9
  · rw [bD_tj _ _ _ _ _ _ (by omega), bD_tj _ _ _ _ _ _ (by omega)]
    exact hz f
  · have hi2 : i < vs B.W 2 + 1 := hi
    show NmW (upN B.nd (vs B.W 2) w i)
    unfold upN
    split
    · exact hw
    · exact hnd i (by omega)
  · rw [bD_tj _ _ _ _ _ _ (by omega)]
    exact hpo f hf
theorem insB_s (V : VS) (d who m k : Nat) : vs (insV V d who m) k = if k = 8 then vs V 8 + 1 else vs V k := rfl
theorem insB_t (V : VS) (d who m j i : Nat) : vt (insV V d who m) j i = if j = 7 ∧ i = d then vt V 7 d + 1 else vt V j i := by
  unfold insV insK
  rw [setS_t, setT_t, setP_t]
theorem OkB.addP {B : BS} {f d m : Nat} (O : OkB B) (hpb30 : B.pb < 30) (hf : f < vs B.W 1) (hd : d < vs B.W 2) (hm : m ≤ vs B.W 3) : OkB (bPebble B f d m) := by
  obtain ⟨K, hz, h6, h7, h8, hpb, hdu, hnf, hnd, hpo, hx⟩ := O
  have kb := K.b
  have hs := sumB_le (f := fun f => vt B.W 2 f) (m := 20) (vs B.W 1) hpo
  have hs9 : foldN (fun f c => c + vt B.W 2 f) 0 (vs B.W 1) ≤ 20 * vs B.W 1 := hs
  refine ⟨K.ins (by omega) ?_ hf hm (by omega) ?_, fun f => ?_, h6, h7, ?_, by show B.pb + 1 ≤ 30; omega, hdu, hnf, hnd, fun f9 h9 => ?_, fun d9 h9 => ?_⟩
  · show (vs B.W 7 >>> d) &&& 1 = 1
    rw [h7]
    exact allT _ (by omega) d hd
  · have h10 : pouV B.W = foldN (fun f c => c + vt B.W 2 f) 0 (vs B.W 1) := rfl
    unfold totV
    omega
  · show vt (insV _ _ _ _) 3 f = 0 ∧ vt (insV _ _ _ _) 4 f = 0
    rw [insB_t, insB_t, if_neg (by omega), if_neg (by omega)]
    exact hz f
  · show vs B.W 8 + 1 = B.pb + 1
    rw [h8]
  · show vt (insV _ _ _ _) 2 f9 ≤ 20
    rw [insB_t, if_neg (by omega)]
    exact hpo f9 h9
  · show vt (insV _ _ _ _) 7 d9 = 0
    rw [insB_t, if_neg (by omega)]
    exact hx d9 h9
theorem OkB.addU {B : BS} {k : Nat} (O : OkB B) (hk : k ≤ 3) : OkB (bDuel B k) := by
  obtain ⟨K, hz, h6, h7, h8, hpb, hdu, hnf, hnd, hpo, hx⟩ := O
  have kb := K.b
  obtain ⟨K1, K2, K3, K4, K5, K6, K7, K8, K9⟩ := K
  exact ⟨⟨⟨kb.1, kb.2.1, kb.2.2.1, kb.2.2.2.1, kb.2.2.2.2.1, kb.2.2.2.2.2.1, kb.2.2.2.2.2.2.1, hk, kb.2.2.2.2.2.2.2.2.1, kb.2.2.2.2.2.2.2.2.2.1, kb.2.2.2.2.2.2.2.2.2.2⟩, K2, K3, K4, K5, K6, K7, K8, K9⟩, hz, h6, h7, h8, hpb, Nat.le_refl 1, hnf, hnd, hpo, hx⟩
theorem fold_zero : ∀ n, foldN (fun _ c => c + 0) 0 n = 0
  | 0 => rfl
  | n + 1 => fold_zero n
theorem OkB.new {c ti m : Nat} (h1 : 2 ≤ c) (h2 : c ≤ 40) (h3 : 1 ≤ ti) (h4 : ti ≤ 240) (h5 : m ≤ 60) : OkB (bNew c ti m) := by
  have e : ∀ j i, vt (bNew c ti m).W j i = 0 := fun _ _ => rfl
  have s1 : vs (bNew c ti m).W 1 = 0 := rfl
  have s2 : vs (bNew c ti m).W 2 = 0 := rfl
  have s7 : vs (bNew c ti m).W 7 = 0 := rfl
  have s8 : vs (bNew c ti m).W 8 = 0 := rfl
  refine ⟨⟨⟨h1, h2, by rw [s1]; omega, by rw [s2]; omega, h3, h4, h5, by show 1 ≤ 3; omega, by show 0 ≤ 99; omega, by rw [s7]; omega, by rw [s8]; omega⟩, by rw [s7, s2]; decide, fun f hf => absurd hf (by rw [s1]; omega), fun d hd => absurd hd (by rw [s2]; omega), fun d hd => ⟨by rw [e]; omega, fun z => absurd (e 7 d) z⟩, fun d hd k hk => absurd hk (by rw [e]; omega), fun d hd i j hi hj => absurd hj (by rw [e]; omega), ?_, ?_⟩, fun f => ⟨rfl, rfl⟩, rfl, rfl, rfl, by show 0 ≤ 30; omega, by show 0 ≤ 1; omega, fun i hi => absurd hi (by rw [s1]; omega), fun i hi => absurd hi (by rw [s2]; omega), fun f hf => by rw [e]; omega, fun d _ => rfl⟩
  · rw [s8]
    exact (fold_zero 8).symm
  · rw [s8, s1]
    exact Nat.zero_le _
theorem shUp_sh (a : Nat → Int32) (B k n : Nat) : (fun q => shUp a (5600 + B) k n (5600 + q)) = shUp (fun q => a (5600 + q)) B k n := by
  funext q
  unfold shUp
  by_cases h : B + 2 * k + 2 ≤ q ∧ q < B + 2 * n + 2
  · rw [if_pos h, if_pos (by omega)]
    congr 1
    omega
  · rw [if_neg h, if_neg (by omega)]
theorem comesA_sh (a : Nat → Int32) (d p n who m : Nat) (L : Int32) : (fun q => comesA a 5600 d p n who m L (5600 + q)) = comesA (fun q => a (5600 + q)) 0 d p n who m L := by
  unfold comesA
  rw [show 5600 + 64 + 120 * d = 5600 + (0 + 64 + 120 * d) by omega, show 5600 + (0 + 64 + 120 * d) + 2 * p = 5600 + (0 + 64 + 120 * d + 2 * p) by omega, show 5600 + (0 + 64 + 120 * d + 2 * p) + 1 = 5600 + (0 + 64 + 120 * d + 2 * p + 1) by omega, show 5600 + 40 + 3 * d + 2 = 5600 + (0 + 40 + 3 * d + 2) by omega, upd_sh, upd_sh, upd_sh, upd_sh, shUp_sh]
/-- the pebble comes onto the find, in the twin's new slot -/
theorem EncB.addP {S : MS} {B : BS} {f d m : Nat} (E : EncB S B) (O : OkB B) (hd : d < 8) (hn : vt B.W 7 d < 60) (x : Int32) (hx : x = nI (B.pb + 1)) : EncB (sI (setAt S (comesA (mA S 0) 5600 d (insP (vp B.W 1 d) m (vt B.W 7 d)) (vt B.W 7 d) f m (mA S 0 (5600 + 8)))) 21 x) (bPebble B f d m) := by
  have hk := insP_le (vp B.W 1 d) m (vt B.W 7 d)
  have e1 := EncA.ins E.1 (d := d) (k := insP (vp B.W 1 d) m (vt B.W 7 d)) (who := f) (m := m) hd hn hk O.n60 (L := mA S 0 (5600 + 8)) (E.s 8 (by omega))
  refine ⟨?_, E.2.1, E.2.2.1, hx, E.2.2.2.2.1, ?_⟩
  · show EncA (fun q => comesA (mA S 0) 5600 d _ _ f m _ (5600 + q)) _
    rw [comesA_sh]
    exact e1
  · show comesA (mA S 0) 5600 d (insP (vp B.W 1 d) m (vt B.W 7 d)) (vt B.W 7 d) f m (mA S 0 (5600 + 8)) 5609 = _
    unfold comesA
    rw [upd_ne (by omega), upd_ne (by omega), upd_ne (by omega), upd_ne (by omega), shUp_ne (by omega)]
    exact E.2.2.2.2.2
theorem comesA_lo (a : Nat → Int32) (d p n who m : Nat) (L : Int32) (k : Nat) (h : k < 5600) : comesA a 5600 d p n who m L k = a k := by
  unfold comesA
  rw [upd_ne (by omega), upd_ne (by omega), upd_ne (by omega), upd_ne (by omega), shUp_ne (by omega)]
theorem wNew_pg {X : TX} {B : BS} {cnt most : Nat} {t t2 : Tk} {w : List Nat} (h : OkT9 X t) (e : wNew X B cnt most t = .ok (w, t2)) : Pg X t t2 ∧ NmW w ∧ cnt ≠ most := by
  unfold wNew at e
  split at e
  · cases e
  · rename_i h1
    split at e
    · cases e
    · rename_i h2
      split at e
      · cases e
      · cases e
        exact ⟨(Pg_nx h).then_ (Pg_nx h.nx), wd_nm h.nx (Decidable.not_not.mp h2), h1⟩
theorem pCell_pg {X : TX} {B : BS} {t t2 : Tk} {a : Nat} (O : OkB B) (h : OkT9 X t) (e : pCell X B t = .ok (a, t2)) : Pg X t t2 ∧ a < vs B.W 0 := by
  have hb := O.b
  rcases h1 : wWord X 7 t with f | t1
  · simp only [pCell, h1, bind, Except.bind] at e
    cases e
  · simp only [pCell, h1, bind, Except.bind] at e
    have g1 := wWord_pg h h1
    have g2 := wNum_pg g1.1 e
    exact ⟨g1.then_ g2.1, by omega⟩
theorem bNew_W (c ti m : Nat) : setS (setS (setS (bNew 0 0 0).W 0 c) 3 ti) 4 m = (bNew c ti m).W := by
  show ((va_up (va_up (va_up (bNew 0 0 0).W.1 0 c) 3 ti) 4 m, (bNew 0 0 0).W.2) : VS) = _
  have : va_up (va_up (va_up (bNew 0 0 0).W.1 0 c) 3 ti) 4 m = (bNew c ti m).W.1 := by
    funext k
    unfold va_up
    show (if k = 4 then m else if k = 3 then ti else if k = 0 then c else if k = 0 then 0 else if k = 3 then 0 else if k = 4 then 0 else if k = 5 then 1 else 0) = if k = 0 then c else if k = 3 then ti else if k = 4 then m else if k = 5 then 1 else 0
    repeat' split
    all_goals first | rfl | omega
  rw [this]
  rfl
theorem bNew_W2 (c ti : Nat) : setS (setS (bNew 0 0 0).W 0 c) 3 ti = (bNew c ti 0).W := by
  show ((va_up (va_up (bNew 0 0 0).W.1 0 c) 3 ti, (bNew 0 0 0).W.2) : VS) = _
  have : va_up (va_up (bNew 0 0 0).W.1 0 c) 3 ti = (bNew c ti 0).W.1 := by
    funext k
    unfold va_up
    show (if k = 3 then ti else if k = 0 then c else if k = 0 then 0 else if k = 3 then 0 else if k = 4 then 0 else if k = 5 then 1 else 0) = if k = 0 then c else if k = 3 then ti else if k = 4 then 0 else if k = 5 then 1 else 0
    repeat' split
    all_goals first | rfl | omega
  rw [this]
  rfl
theorem EncB.first {S S2 : MS} {c ti : Nat} (E : EncB S (bNew 0 0 0)) (hA : mA S2 0 = upd (upd (mA S 0) (5600 + 0) (nI c)) (5600 + 3) (nI ti)) (h20 : mI S2 20 = mI S 20) (h21 : mI S2 21 = mI S 21) : EncB S2 (bNew c ti 0) := by
  refine ⟨?_, fun i hi => absurd hi (Nat.not_lt_zero i), fun i hi => absurd hi (Nat.not_lt_zero i), h21.trans E.2.2.2.1, h20.trans E.2.2.2.2.1, ?_⟩
  · rw [hA, upd_sh, upd_sh, ← bNew_W2]
    exact (E.1.upS (k := 0) (by omega) c).upS (k := 3) (by omega) ti
  · rw [hA, upd_ne (by omega), upd_ne (by omega)]
    exact E.2.2.2.2.2
theorem EncB.moon {S S2 : MS} {c ti m : Nat} (E : EncB S (bNew 0 0 0)) (hA : mA S2 0 = upd (upd (upd (mA S 0) (5600 + 0) (nI c)) (5600 + 3) (nI ti)) (5600 + 4) (nI m)) (h20 : mI S2 20 = mI S 20) (h21 : mI S2 21 = mI S 21) : EncB S2 (bNew c ti m) := by
  refine ⟨?_, fun i hi => absurd hi (Nat.not_lt_zero i), fun i hi => absurd hi (Nat.not_lt_zero i), h21.trans E.2.2.2.1, h20.trans E.2.2.2.2.1, ?_⟩
  · rw [hA, upd_sh, upd_sh, upd_sh, ← bNew_W]
    exact ((E.1.upS (k := 0) (by omega) c).upS (k := 3) (by omega) ti).upS (k := 4) (by omega) m
  · rw [hA, upd_ne (by omega), upd_ne (by omega), upd_ne (by omega)]
    exact E.2.2.2.2.2
/-- the end of a parser that hands on what its last call says -/
theorem okE_last {α β : Type} {r : PR α} {r2 : PR β} (h : ∀ v, r = .ok v → okE r2) (h2 : ∀ f, r = .error f → ¬ okE r2) : bP (okE r) = bP (okE r2) := by
  cases hr : r with
  | ok v => rw [← hr, bP_t (okE_ok hr), bP_t (h v hr)]
  | error f => rw [← hr, bP_f (okE_er hr), bP_f (h2 f hr)]
theorem EncB.addU {S S2 : MS} {B : BS} (E : EncB S B) (h : FrK (sI S 20 (nI 1)) S2) (k : Nat) : EncB (sA S2 0 5605 (nI k)) (bDuel B k) := by
  refine ⟨?_, fun i hi => by show mB S2 1 _ = _; rw [h.B]; exact E.2.1 i hi, fun i hi => by show mB S2 1 _ = _; rw [h.B]; exact E.2.2.1 i hi, (h.1 21 (by omega)).trans E.2.2.2.1, h.1 20 (by omega), ?_⟩
  · show EncA (fun q => upd (mA S2 0) (5600 + 5) (nI k) (5600 + q)) _
    rw [upd_sh, h.A]
    exact E.1.upS (k := 5) (by omega) k
  · show upd (mA S2 0) 5605 (nI k) 5609 = _
    rw [upd_ne (by omega), h.A]
    exact E.2.2.2.2.2
theorem sI_ne {S : MS} {k i : Nat} {v : Int32} (h : i ≠ k) : mI (sI S k v) i = mI S i := if_neg h
