/-! CONSTRUCTORS: a changed cell and cells that are appended -/
set_option maxRecDepth 100000
def wf9 (σ : PH) : Prop := ∀ q, σ.1 ≤ q → σ.2 q = none
/-- the cell at a is e, the cells l come behind the heap's end -/
def rw_ (σ : PH) (a : Nat) (t : Tg) (e : va_E) (l : List (Tg × va_E)) : PH := (σ.1 + l.length, fun q => if q = a then some (t, e) else if q < σ.1 then σ.2 q else l[q - σ.1]?)
section RAW
variable {σ : PH} {a i n : Nat} {t tg : Tg} {e e2 x : va_E} {l l2 : List (Tg × va_E)}
theorem rw_0 (w : wf9 σ) (h : σ.2 a = some (t, e)) : rw_ σ a t e [] = σ := by
  refine Prod.ext rfl (funext fun q => ?_)
  show (if q = a then some (t, e) else if q < σ.1 then σ.2 q else ([] : List (Tg × va_E))[q - σ.1]?) = σ.2 q
  split
  · rename_i z
    rw [z, h]
  · split
    · rfl
    · rw [w q (by omega)]
      rfl
theorem wf9.lt (w : wf9 σ) {y : Tg × va_E} (h : σ.2 a = some y) : a < σ.1 := by
  by_cases z : a < σ.1
  · exact z
  · rw [w a (by omega)] at h
    cases h
theorem rw_sz (hn : l.length = n) : (rw_ σ a t e l).1 = σ.1 + n := by
  rw [← hn]
  rfl
theorem rw_wf (ha : a < σ.1) : wf9 (rw_ σ a t e l) := fun q hq => by
  have hq2 : σ.1 + l.length ≤ q := hq
  show (if q = a then some (t, e) else if q < σ.1 then σ.2 q else l[q - σ.1]?) = none
  rw [if_neg (by omega), if_neg (by omega), List.getElem?_eq_none (by omega)]
theorem rw_a : (rw_ σ a t e l).2 a = some (t, e) := if_pos rfl
theorem rw_i (ha : a < σ.1) (h : l[i]? = some (tg, x)) : (rw_ σ a t e l).2 (σ.1 + i) = some (tg, x) := by
  show (if σ.1 + i = a then some (t, e) else if σ.1 + i < σ.1 then σ.2 (σ.1 + i) else l[σ.1 + i - σ.1]?) = _
  rw [if_neg (by omega), if_neg (by omega), Nat.add_sub_cancel_left, h]
theorem rw_lo {q : Nat} (h1 : q ≠ a) (h2 : q < σ.1) : (rw_ σ a t e l).2 q = σ.2 q := by
  show (if q = a then some (t, e) else if q < σ.1 then σ.2 q else l[q - σ.1]?) = _
  rw [if_neg h1, if_pos h2]
theorem rw_up : hup (rw_ σ a t e l) a t e2 = rw_ σ a t e2 l := by
  refine Prod.ext rfl (funext fun q => ?_)
  show (if q = a then some (t, e2) else if q = a then some (t, e) else if q < σ.1 then σ.2 q else l[q - σ.1]?) = if q = a then some (t, e2) else if q < σ.1 then σ.2 q else l[q - σ.1]?
  split
  · rfl
  · rfl
theorem rw_upi (ha : a < σ.1) (hi : i < l.length) : hup (rw_ σ a t e l) (σ.1 + i) tg x = rw_ σ a t e (l.set i (tg, x)) := by
  refine Prod.ext ?_ (funext fun q => ?_)
  · show σ.1 + l.length = σ.1 + (l.set i (tg, x)).length
    rw [List.length_set]
  · show (if q = σ.1 + i then some (tg, x) else if q = a then some (t, e) else if q < σ.1 then σ.2 q else l[q - σ.1]?) = if q = a then some (t, e) else if q < σ.1 then σ.2 q else (l.set i (tg, x))[q - σ.1]?
    by_cases h1 : q = σ.1 + i
    · subst h1
      rw [if_pos rfl, if_neg (by omega), if_neg (by omega), Nat.add_sub_cancel_left, List.getElem?_set_self hi]
    · rw [if_neg h1]
      by_cases h2 : q = a
      · rw [if_pos h2, if_pos h2]
      · rw [if_neg h2, if_neg h2]
        by_cases h3 : q < σ.1
        · rw [if_pos h3, if_pos h3]
        · rw [if_neg h3, if_neg h3, List.getElem?_set_ne (by omega)]
theorem rw_new (ha : a < σ.1) : hnew (rw_ σ a t e l) tg x = rw_ σ a t e (l ++ [(tg, x)]) := by
  refine Prod.ext ?_ (funext fun q => ?_)
  · show σ.1 + l.length + 1 = σ.1 + (l ++ [(tg, x)]).length
    rw [List.length_append]
    rfl
  · show (if q = σ.1 + l.length then some (tg, x) else if q = a then some (t, e) else if q < σ.1 then σ.2 q else l[q - σ.1]?) = if q = a then some (t, e) else if q < σ.1 then σ.2 q else (l ++ [(tg, x)])[q - σ.1]?
    by_cases h1 : q = σ.1 + l.length
    · subst h1
      rw [if_pos rfl, if_neg (by omega), if_neg (by omega), Nat.add_sub_cancel_left, List.getElem?_concat_length]
    · rw [if_neg h1]
      by_cases h2 : q = a
      · rw [if_pos h2, if_pos h2]
      · rw [if_neg h2, if_neg h2]
        by_cases h3 : q < σ.1
        · rw [if_pos h3, if_pos h3]
        · rw [if_neg h3, if_neg h3]
          by_cases h4 : q - σ.1 < l.length
          · rw [List.getElem?_append_left h4]
          · rw [List.getElem?_eq_none (by omega), List.getElem?_eq_none (by rw [List.length_append]; show l.length + 1 ≤ _; omega)]
theorem rw_app (q : Nat) (h : σ.1 ≤ q) : (if q < σ.1 + l.length then l[q - σ.1]? else l2[q - (σ.1 + l.length)]?) = (l ++ l2)[q - σ.1]? := by
  by_cases h4 : q < σ.1 + l.length
  · rw [if_pos h4, List.getElem?_append_left (by omega)]
  · rw [if_neg h4, List.getElem?_append_right (by omega), show q - σ.1 - l.length = q - (σ.1 + l.length) by omega]
theorem rw_self (ha : a < σ.1) : rw_ (rw_ σ a t e l) a t x l2 = rw_ σ a t x (l ++ l2) := by
  refine Prod.ext ?_ (funext fun q => ?_)
  · show σ.1 + l.length + l2.length = σ.1 + (l ++ l2).length
    rw [List.length_append, Nat.add_assoc]
  · show (if q = a then some (t, x) else if q < σ.1 + l.length then (if q = a then some (t, e) else if q < σ.1 then σ.2 q else l[q - σ.1]?) else l2[q - (σ.1 + l.length)]?) = if q = a then some (t, x) else if q < σ.1 then σ.2 q else (l ++ l2)[q - σ.1]?
    by_cases h2 : q = a
    · rw [if_pos h2, if_pos h2]
    · rw [if_neg h2, if_neg h2, if_neg h2]
      by_cases h3 : q < σ.1
      · rw [if_pos h3, if_pos h3, if_pos (by omega)]
      · rw [if_neg h3, if_neg h3]
        exact rw_app q (by omega)
theorem rw_sub (ha : a < σ.1) (hi : i < l.length) : rw_ (rw_ σ a t e l) (σ.1 + i) tg x l2 = rw_ σ a t e ((l ++ l2).set i (tg, x)) := by
  refine Prod.ext ?_ (funext fun q => ?_)
  · show σ.1 + l.length + l2.length = σ.1 + ((l ++ l2).set i (tg, x)).length
    rw [List.length_set, List.length_append, Nat.add_assoc]
  · show (if q = σ.1 + i then some (tg, x) else if q < σ.1 + l.length then (if q = a then some (t, e) else if q < σ.1 then σ.2 q else l[q - σ.1]?) else l2[q - (σ.1 + l.length)]?) = if q = a then some (t, e) else if q < σ.1 then σ.2 q else ((l ++ l2).set i (tg, x))[q - σ.1]?
    by_cases h1 : q = σ.1 + i
    · subst h1
      rw [if_pos rfl, if_neg (by omega), if_neg (by omega), Nat.add_sub_cancel_left, List.getElem?_set_self (by rw [List.length_append]; omega)]
    · rw [if_neg h1]
      by_cases h2 : q = a
      · rw [if_pos h2, if_pos h2, if_pos (by omega)]
      · rw [if_neg h2, if_neg h2]
        by_cases h3 : q < σ.1
        · rw [if_pos h3, if_pos h3, if_pos (by omega)]
        · rw [if_neg h3, if_neg h3, List.getElem?_set_ne (by omega)]
          exact rw_app q (by omega)
end RAW
/-- a constructor: the object at a, made as x, becomes e; the cells l are new -/
def Ck (g : GG) (mi : MI) (d mc ms : Nat) (As : List Value) (x : va_E) (e : Nat → va_E) (l : Nat → List (Tg × va_E)) : Prop := ∀ (σ : PH) (a : Nat) (t : Tg), wf9 σ → σ.2 a = some (t, x) → Ct g mi d mc ms (.ref a :: As) σ (fun w σ2 => w = none ∧ σ2 = rw_ σ a t (e σ.1) (l σ.1)) noX
section KROWS
variable {g : GG} {mt : MT} {mi mi2 : MI} {d mc ms d2 mc2 ms2 kc ks pc n n9 i index : Nat} {L : List (Option Value)} {st rest stk As : List Value} {σ : PH} {a : Nat} {t tg : Tg} {x e e0 : va_E} {l : List (Tg × va_E)} {ee : Nat → va_E} {ll : Nat → List (Tg × va_E)}
theorem Ck.start (LL : Nat → List (Option Value)) (hy : plainName mi.1.cls = true) (hh : mi.2.2.2.2 = []) (hn : ∀ a, (lg_sl (.ref a :: As)).length ≤ mi.2.2.1) (hL : ∀ a, asL 0 (LL a) = lv_args 0 (.ref a :: As)) (k : ∀ (σ : PH) (a : Nat) (t : Tg), GoodG g → a < σ.1 → Wp g (mtOf g mi d mc ms (fun w σ2 => w = none ∧ σ2 = rw_ σ a t (ee σ.1) (ll σ.1)) noX) mc ms 0 (LL a) [] (rw_ σ a t x [])) : Ck g mi d mc ms As x ee ll :=
  fun σ a t w h => Ct.start (LL a) hy hh (hn a) (hL a) fun hG => by
    have h1 := k σ a t hG (w.lt h)
    rw [rw_0 w h] at h1
    exact h1
theorem k_new (ha : a < σ.1) (hn : l.length = n) (kk : Wp g mt kc ks pc L (.ref (σ.1 + n) :: st) (rw_ σ a t e (l ++ [(tg, x)]))) : Wp g mt kc ks pc L (.ref (rw_ σ a t e l).1 :: st) (hnew (rw_ σ a t e l) tg x) := by
  rw [rw_new ha, rw_sz hn]
  exact kk
theorem k_up (kk : Wp g mt kc ks pc L st (rw_ σ a t e l)) : Wp g mt kc ks pc L st (hup (rw_ σ a t e0 l) a t e) := by
  rw [rw_up]
  exact kk
theorem k_upi (ha : a < σ.1) (hi : i < l.length) (kk : Wp g mt kc ks pc L st (rw_ σ a t e (l.set i (tg, x)))) : Wp g mt kc ks pc L st (hup (rw_ σ a t e l) (σ.1 + i) tg x) := by
  rw [rw_upi ha hi]
  exact kk
/-- a private constructor of a nest mate -/
theorem w_callIN {b : Nat} {host : String} {Q2 : Option Value → PH → Prop} {X2 : Addr → String → PH → Prop} (dd : decode mt.1.2.1 pc = .ok (.invokespecial index, 3)) (q : Cond.methodLinkNest mt.1.1 index mi.1 host ∈ lw_tbl) (ok : MOkI mi n) (hM : Ct g mi d2 mc2 ms2 (.ref b :: As) σ Q2 X2) (hd : d2 + 1 ≤ mt.2.1.1) (hn : As.length = n) (hst : stk = As.reverse ++ .ref b :: rest) (hcat : (rest.map fun v => v.category).sum ≤ 8)
    (kk : ∀ (v : Option Value) (σ2 : PH), Q2 v σ2 → Wp g mt kc ks (pc + 3) L (v.toList ++ rest) σ2) (kx : ∀ (q : Addr) (E : String) (σ2 : PH), X2 q E σ2 → Tp g mt kc ks pc L rest q E σ2) : Wp g mt (kc + mc2) (ks + ms2) pc L stk σ := by
  obtain ⟨⟨hh, q5, q4, hd9, hml9⟩, q2, q3, hret⟩ := ok
  refine w_run ?_ kk kx
  intro p e s m args below meth c H locs ls cells slots X hR hL h1 h2
  have hR' := X.rm
  have hlv := lw_meth q5
  have hmw := miW_nil hh
  rw [hret] at hlv hmw
  exact ⟨_, vx_runIN (Ts := lw_all) (own := mt.1.1) ⟨X.hx, X.hb, X.ml, X.own, X.ts⟩ (hM X.gd) ⟨va_cnB n X.ts (by rw [hmw]; exact hlv) hmw rfl rfl (X.nM q) (X.ts _ q4) hd9 ⟨by show d2 + 1 ≤ _; omega, by show 8 + (mi.2.2.1 + 11) + 60 * d2 ≤ _; omega⟩, q3, X.ts _ q2⟩ ⟨pc_blind, fun U hU hW => ⟨rfl, State.WarmedH.trans X.wm hW, by rw [hU]; exact hR⟩⟩ rfl hn hL.1 hst (lv_room hcat) dd ⟨h1, h2⟩⟩
/-- a constructor's call on an appended object -/
theorem k_onI (dd : decode mt.1.2.1 pc = .ok (.invokespecial index, 3)) (q : Cond.methodLink mt.1.1 index mi.1 ∈ lw_all) (ok : MOkI mi n9) (hM : Ck g mi d2 mc2 ms2 As x ee ll) (hd : d2 + 1 ≤ mt.2.1.1) (ha : a < σ.1) (hx : l[i]? = some (tg, x)) (hn : l.length = n) (hna : As.length = n9) (hst : stk = As.reverse ++ .ref (σ.1 + i) :: rest) (hcat : (rest.map fun v => v.category).sum ≤ 8) (kk : Wp g mt kc ks (pc + 3) L rest (rw_ σ a t e ((l ++ ll (σ.1 + n)).set i (tg, ee (σ.1 + n))))) : Wp g mt (kc + mc2) (ks + ms2) pc L stk (rw_ σ a t e l) := by
  refine w_callI dd q ok (hM _ _ tg (rw_wf ha) (rw_i ha hx)) hd hna hst hcat ?_ (fun _ _ _ hx => absurd hx id)
  rintro v σ2 ⟨rfl, rfl⟩
  rw [rw_sub ha (List.getElem?_eq_some_iff.mp hx).1, rw_sz hn]
  exact kk
/-- .. on the object itself -/
theorem k_suI (dd : decode mt.1.2.1 pc = .ok (.invokespecial index, 3)) (q : Cond.methodLink mt.1.1 index mi.1 ∈ lw_all) (ok : MOkI mi n9) (hM : Ck g mi d2 mc2 ms2 As e ee ll) (hd : d2 + 1 ≤ mt.2.1.1) (ha : a < σ.1) (hn : l.length = n) (hna : As.length = n9) (hst : stk = As.reverse ++ .ref a :: rest) (hcat : (rest.map fun v => v.category).sum ≤ 8) (kk : Wp g mt kc ks (pc + 3) L rest (rw_ σ a t (ee (σ.1 + n)) (l ++ ll (σ.1 + n)))) : Wp g mt (kc + mc2) (ks + ms2) pc L stk (rw_ σ a t e l) := by
  refine w_callI dd q ok (hM _ _ t (rw_wf ha) rw_a) hd hna hst hcat ?_ (fun _ _ _ hx => absurd hx id)
  rintro v σ2 ⟨rfl, rfl⟩
  rw [rw_self ha, rw_sz hn]
  exact kk
/-- a constructor's call on an appended object -/
theorem k_onIN {host : String} (dd : decode mt.1.2.1 pc = .ok (.invokespecial index, 3)) (q : Cond.methodLinkNest mt.1.1 index mi.1 host ∈ lw_tbl) (ok : MOkI mi n9) (hM : Ck g mi d2 mc2 ms2 As x ee ll) (hd : d2 + 1 ≤ mt.2.1.1) (ha : a < σ.1) (hx : l[i]? = some (tg, x)) (hn : l.length = n) (hna : As.length = n9) (hst : stk = As.reverse ++ .ref (σ.1 + i) :: rest) (hcat : (rest.map fun v => v.category).sum ≤ 8) (kk : Wp g mt kc ks (pc + 3) L rest (rw_ σ a t e ((l ++ ll (σ.1 + n)).set i (tg, ee (σ.1 + n))))) : Wp g mt (kc + mc2) (ks + ms2) pc L stk (rw_ σ a t e l) := by
  refine w_callIN dd q ok (hM _ _ tg (rw_wf ha) (rw_i ha hx)) hd hna hst hcat ?_ (fun _ _ _ hx => absurd hx id)
  rintro v σ2 ⟨rfl, rfl⟩
  rw [rw_sub ha (List.getElem?_eq_some_iff.mp hx).1, rw_sz hn]
  exact kk
/-- .. on the object itself -/
theorem k_suIN {host : String} (dd : decode mt.1.2.1 pc = .ok (.invokespecial index, 3)) (q : Cond.methodLinkNest mt.1.1 index mi.1 host ∈ lw_tbl) (ok : MOkI mi n9) (hM : Ck g mi d2 mc2 ms2 As e ee ll) (hd : d2 + 1 ≤ mt.2.1.1) (ha : a < σ.1) (hn : l.length = n) (hna : As.length = n9) (hst : stk = As.reverse ++ .ref a :: rest) (hcat : (rest.map fun v => v.category).sum ≤ 8) (kk : Wp g mt kc ks (pc + 3) L rest (rw_ σ a t (ee (σ.1 + n)) (l ++ ll (σ.1 + n)))) : Wp g mt (kc + mc2) (ks + ms2) pc L stk (rw_ σ a t e l) := by
  refine w_callIN dd q ok (hM _ _ t (rw_wf ha) rw_a) hd hna hst hcat ?_ (fun _ _ _ hx => absurd hx id)
  rintro v σ2 ⟨rfl, rfl⟩
  rw [rw_self ha, rw_sz hn]
  exact kk
end KROWS
/-! the same cells said otherwise -/
theorem arrV_c {cI : ClassId} {N : Nat} {f f2 : Nat → Value} (h : ∀ j, j < N → f2 j = f j) : arrV cI N f2 = arrV cI N f := by
  have h1 : (fun j : Fin N => f2 j.val) = fun j => f j.val := funext fun j => h j.val j.isLt
  unfold arrV
  rw [h1]
def eqE (e e0 : va_E) : Prop := ∀ (D : va_G) (cl : List vw_C) (a : Nat) (H : Heap), va_at D cl (a, e0) H → va_at D cl (a, e) H
theorem eqE.rfl {e : va_E} : eqE e e := fun _ _ _ _ h => h
theorem eqE_q {A : ClassId} {n : Nat} {f f2 : Nat → Option Nat} (h : ∀ j, j < n → f2 j = f j) : eqE (.inl (A, n, .inr (.inr (.inr (.inr f2))))) (.inl (A, n, .inr (.inr (.inr (.inr f))))) := fun D cl a H h1 => by
  have h2 : H[a]? = some (vp_cell A (n, .inr (.inr (.inr (.inr f))))) := h1
  show H[a]? = some (vp_cell A (n, .inr (.inr (.inr (.inr f2)))))
  rw [h2, vp_cell_q, vp_cell_q, arrV_c (f := fun j => va_rf (f j)) (f2 := fun j => va_rf (f2 j)) (fun j hj => by rw [h j hj])]
theorem Rep.re {g : GG} {σ σ2 : PH} {H : Heap} (h : Rep g σ H) (h1 : σ2.1 = σ.1) (h2 : ∀ a t e, σ2.2 a = some (t, e) → ∃ t0 e0, σ.2 a = some (t0, e0) ∧ eqE e e0) : Rep g σ2 H := by
  obtain ⟨k1, k2, k3, k4⟩ := h
  refine ⟨by rw [h1]; exact k1, by rw [h1]; exact k2, k3, fun a t e ha => ?_⟩
  obtain ⟨t0, e0, h3, h4⟩ := h2 a t e ha
  obtain ⟨k5, k6⟩ := k4 a t0 e0 h3
  exact ⟨k5, h4 _ _ _ _ k6⟩
theorem w_re {g : GG} {mt : MT} {kc ks pc : Nat} {L : List (Option Value)} {st : List Value} {σ σ2 : PH} (h1 : σ2.1 = σ.1) (h2 : ∀ a t e, σ2.2 a = some (t, e) → ∃ t0 e0, σ.2 a = some (t0, e0) ∧ eqE e e0) (kk : Wp g mt kc ks pc L st σ2) : Wp g mt kc ks pc L st σ := by
  intro p e s m args below meth c H locs ls cells slots X hR hl hL h3 h4
  exact kk p e s m args below meth c H locs ls cells slots X (hR.re h1 h2) hl hL h3 h4
theorem k_re {g : GG} {mt : MT} {kc ks pc i : Nat} {L : List (Option Value)} {st : List Value} {σ : PH} {a : Nat} {t tg tg2 : Tg} {e x x2 : va_E} {l : List (Tg × va_E)} (ha : a < σ.1) (h : l[i]? = some (tg, x)) (he : eqE x2 x) (kk : Wp g mt kc ks pc L st (rw_ σ a t e (l.set i (tg2, x2)))) : Wp g mt kc ks pc L st (rw_ σ a t e l) := by
  have hi : i < l.length := (List.getElem?_eq_some_iff.mp h).1
  refine w_re (σ2 := rw_ σ a t e (l.set i (tg2, x2))) ?_ (fun b u z hb => ?_) kk
  · show σ.1 + (l.set i (tg2, x2)).length = σ.1 + l.length
    rw [List.length_set]
  · rw [← rw_upi ha hi] at hb
    have hb2 : (if b = σ.1 + i then some (tg2, x2) else (rw_ σ a t e l).2 b) = some (u, z) := hb
    by_cases h3 : b = σ.1 + i
    · rw [if_pos h3] at hb2
      cases hb2
      exact ⟨tg, x, by rw [h3]; exact rw_i ha h, he⟩
    · rw [if_neg h3] at hb2
      exact ⟨u, z, hb2, eqE.rfl⟩
theorem w_aastN {g : GG} {mt : MT} {kc ks pc a n k v ci N j : Nat} {L : List (Option Value)} {st : List Value} {σ : PH} {t t2 : Tg} {C : String} {T : u_T} {ty : Nat → FieldType} {vs : List Value} {f : Nat → Option Nat} (d : decode mt.1.2.1 pc = .ok (.aastore, 1)) (hC : ClOk ci C T N ty) (ht : (xTys g.2.2.2)[k]? = some (g.2.2.2 k, .object C)) (hh : σ.2 a = some (t, .inl (g.2.2.2 k, n, .inr (.inr (.inr (.inr f)))))) (hv : σ.2 v = some (t2, .inr (ci, vs))) (hj : j < n) (hn : n < 2147483648) (kk : Wp g mt kc ks (pc + 1) L st (hup σ a t (.inl (g.2.2.2 k, n, .inr (.inr (.inr (.inr (va_up f j (some v))))))))) : Wp g mt kc ks pc L (.ref v :: .int (nI j) :: .ref a :: st) σ :=
  w_aast d hC ht hh hv (vp_in_nI hj (by omega)) (by rw [nI_clamp (by omega)]; exact kk)
/-! lists -/
theorem at_mid {α : Type} {A B : List α} {y : α} {n : Nat} (h : A.length = n) : (A ++ y :: B)[n]? = some y := by
  subst h
  rw [List.getElem?_append_right (Nat.le_refl _), Nat.sub_self]
  rfl
theorem set_mid {α : Type} {A B : List α} {y x : α} {n : Nat} (h : A.length = n) : (A ++ y :: B).set n x = A ++ x :: B := by
  subst h
  rw [List.set_append_right _ _ (Nat.le_refl _), Nat.sub_self]
  rfl
