/-! THE LAW'S ENTRY (by hand): what the first state gives (GoodG); the law's own judgement, its start, its end; the script; virtual calls of methods with handlers -/
set_option maxRecDepth 100000
section ENT
variable {s : State} {args : Array Value}
theorem en_arr {ty : FieldType} (h : (Cond.arrayClass ty).before args s = true) (hno : ∀ C, ty ≠ .object C) : ∃ cA : ClassId, ArrOfT s cA ty ∧ va_RA s cA ty := by
  obtain ⟨cA, kA, comp, h1, h2, h3⟩ := Cond.arrayClass_spec h
  refine ⟨cA, fun n z => ⟨fun k h => (by cases h), kA, h2, comp, h3⟩, ?_⟩
  cases ty with
  | object C => exact absurd rfl (hno C)
  | _ => exact h1
theorem en_arrO {C : String} (h : (Cond.arrayOver (.object C)).before args s = true) : ∃ cA : ClassId, ArrOfT s cA (.object C) ∧ va_RA s cA (.object C) := by
  obtain ⟨comp, c, k, h1, h2, h3, h4, h5⟩ := Cond.arrayOver_spec h
  exact ⟨c, fun n z => ⟨fun k h => (by cases h), k, h3, comp, h4⟩, k, comp, h3, h4, h1, h5⟩
def en_tys : List FieldType := [.int, .long, .byte, .short, .object RX1, .object RX7, .object RX4, .object RX10]
theorem en_cls (ht2 : ∀ w ∈ lw_all, w.before args s = true) : ∀ k : Nat, ∃ r : ClassId × (Nat → Nat), ∀ q : vw_C, xCl[k]? = some q → u_Kn s q.1 q.2.1 q.2.2 r.1 r.2 := by
  intro k
  match k with
  | 0 => obtain ⟨c, i, h⟩ := u_known (ws := lw_all) ht2 clX0.2.1 (ht2 _ q165); exact ⟨(c, i), fun q hq => by cases hq; exact h⟩
  | 1 => obtain ⟨c, i, h⟩ := u_known (ws := lw_all) ht2 clX1.2.1 (ht2 _ q174); exact ⟨(c, i), fun q hq => by cases hq; exact h⟩
  | 2 => obtain ⟨c, i, h⟩ := u_known (ws := lw_all) ht2 clX2.2.1 (ht2 _ q184); exact ⟨(c, i), fun q hq => by cases hq; exact h⟩
  | 3 => obtain ⟨c, i, h⟩ := u_known (ws := lw_all) ht2 clX3.2.1 (ht2 _ q255); exact ⟨(c, i), fun q hq => by cases hq; exact h⟩
  | 4 => obtain ⟨c, i, h⟩ := u_known (ws := lw_all) ht2 clX4.2.1 (ht2 _ q274); exact ⟨(c, i), fun q hq => by cases hq; exact h⟩
  | 5 => obtain ⟨c, i, h⟩ := u_known (ws := lw_all) ht2 clX5.2.1 (ht2 _ q280); exact ⟨(c, i), fun q hq => by cases hq; exact h⟩
  | 6 => obtain ⟨c, i, h⟩ := u_known (ws := lw_all) ht2 clX6.2.1 (ht2 _ q286); exact ⟨(c, i), fun q hq => by cases hq; exact h⟩
  | 7 => obtain ⟨c, i, h⟩ := u_known (ws := lw_all) ht2 clX7.2.1 (ht2 _ q385); exact ⟨(c, i), fun q hq => by cases hq; exact h⟩
  | 8 => obtain ⟨c, i, h⟩ := u_known (ws := lw_all) ht2 clX8.2.1 (ht2 _ q1543); exact ⟨(c, i), fun q hq => by cases hq; exact h⟩
  | 9 => obtain ⟨c, i, h⟩ := u_known (ws := lw_all) ht2 clX9.2.1 (ht2 _ q671); exact ⟨(c, i), fun q hq => by cases hq; exact h⟩
  | 10 => obtain ⟨c, i, h⟩ := u_known (ws := lw_all) ht2 clX12.2.1 (ht2 _ q911); exact ⟨(c, i), fun q hq => by cases hq; exact h⟩
  | 11 => obtain ⟨c, i, h⟩ := u_known (ws := lw_all) ht2 clX13.2.1 (ht2 _ q955); exact ⟨(c, i), fun q hq => by cases hq; exact h⟩
  | 12 => obtain ⟨c, i, h⟩ := u_known (ws := lw_all) ht2 clX14.2.1 (ht2 _ q985); exact ⟨(c, i), fun q hq => by cases hq; exact h⟩
  | 13 => obtain ⟨c, i, h⟩ := u_known (ws := lw_all) ht2 clX15.2.1 (ht2 _ q1415); exact ⟨(c, i), fun q hq => by cases hq; exact h⟩
  | k + 14 => exact ⟨(0, fun _ => 0), fun q hq => by simp [xCl] at hq⟩
theorem en_ars (ht : ∀ w ∈ lw_tbl, w.before args s = true) : ∀ k : Nat, ∃ cA : ClassId, ∀ ty, en_tys[k]? = some ty → ArrOfT s cA ty ∧ va_RA s cA ty := by
  have ht2 : ∀ w ∈ lw_all, w.before args s = true := fun w h => ht w (lw_all_tbl h)
  intro k
  match k with
  | 0 => obtain ⟨c, h⟩ := en_arr (ht2 _ q382) (fun C z => by cases z); exact ⟨c, fun q hq => by cases hq; exact h⟩
  | 1 => obtain ⟨c, h⟩ := en_arr (ht2 _ q381) (fun C z => by cases z); exact ⟨c, fun q hq => by cases hq; exact h⟩
  | 2 => obtain ⟨c, h⟩ := en_arr (ht2 _ q253) (fun C z => by cases z); exact ⟨c, fun q hq => by cases hq; exact h⟩
  | 3 => obtain ⟨c, h⟩ := en_arr (ht2 _ q594) (fun C z => by cases z); exact ⟨c, fun q hq => by cases hq; exact h⟩
  | 4 => obtain ⟨c, h⟩ := en_arrO (ht _ q173); exact ⟨c, fun q hq => by cases hq; exact h⟩
  | 5 => obtain ⟨c, h⟩ := en_arrO (ht _ q384); exact ⟨c, fun q hq => by cases hq; exact h⟩
  | 6 => obtain ⟨c, h⟩ := en_arrO (ht _ q459); exact ⟨c, fun q hq => by cases hq; exact h⟩
  | 7 => obtain ⟨c, h⟩ := en_arrO (ht _ q923); exact ⟨c, fun q hq => by cases hq; exact h⟩
  | k + 8 => exact ⟨0, fun q hq => by simp [en_tys] at hq⟩
theorem en_K (ht : ∀ w ∈ lw_tbl, w.before args s = true) : ∃ (D : va_G) (ar : Nat → ClassId), va_K D xCl (xTys ar) s := by
  obtain ⟨r, hr⟩ := Classical.axiomOfChoice (en_cls (fun w h => ht w (lw_all_tbl h)))
  obtain ⟨a, ha⟩ := Classical.axiomOfChoice (en_ars ht)
  refine ⟨(fun k => (r k).1, fun k => (r k).2), a, fun c q hq => hr c q hq, fun k q hk => ?_⟩
  match k, hk with
  | 0, hk => cases hk; exact ha 0 _ rfl
  | 1, hk => cases hk; exact ha 1 _ rfl
  | 2, hk => cases hk; exact ha 2 _ rfl
  | 3, hk => cases hk; exact ha 3 _ rfl
  | 4, hk => cases hk; exact ha 4 _ rfl
  | 5, hk => cases hk; exact ha 5 _ rfl
  | 6, hk => cases hk; exact ha 6 _ rfl
  | 7, hk => cases hk; exact ha 7 _ rfl
  | k + 8, hk => simp [xTys] at hk
abbrev SK : Type := String × Nat × String × List Int32
def en_tm (x : SK) : Term := .string x.1 x.2.1
def en_va (x : SK) : Term := .field (en_tm x) "java/lang/String" "value" "[B"
def en_ws (x : SK) : List Cond := [.exactly (en_tm x) "java/lang/String", .eq (.field (en_tm x) "java/lang/String" "coder" "B") (.int 0), .arrayOf (en_va x) .byte, .eq (.length (en_va x)) (.int (Int32.ofNat x.2.2.2.length))] ++ (List.range x.2.2.2.length).map fun j => .eq (.elem (en_va x) (.int (Int32.ofNat j))) (.int (x.2.2.2.getD j 0))
abbrev en_fl : List Cond := flatC (Cond.and given_1 narrow_1)
theorem en_st1 : ∀ x ∈ skL, Cond.stringRef x.1 x.2.1 x.2.2.1 ∈ lw_tbl ∧ x.2.2.2.length < 2 ^ 31 := by decide +kernel
/-- where the words of each String begin among the entry's -/
def en_pl : List Nat := [470, 383, 389, 396, 404, 412, 420, 239, 428, 436, 444, 453, 461, 230, 247, 255, 265, 271, 279, 290, 298, 307, 317, 323, 329, 337, 343, 351, 360, 368, 376]
theorem en_st3 : ∀ q ∈ skL.zip en_pl, en_ws q.1 = (en_fl.drop q.2).take (4 + q.1.2.2.2.length) := by decide +kernel
theorem en_st4 : skL.length = en_pl.length := by decide +kernel
theorem en_zip {P : SK → Prop} : ∀ (l : List SK) (m : List Nat), l.length = m.length → (∀ q ∈ l.zip m, P q.1) → ∀ x ∈ l, P x
  | [], _, _, _, x, hx => absurd hx (by simp)
  | a :: l, [], h, _, _, _ => absurd h (by simp)
  | a :: l, b :: m, h, hP, x, hx => by
    rcases List.mem_cons.mp hx with rfl | hx
    · exact hP (x, b) (by simp)
    · exact en_zip l m (by simpa using h) (fun q hq => hP q (by rw [List.zip_cons_cons]; exact List.mem_cons_of_mem _ hq)) x hx
theorem en_st2 : ∀ x ∈ skL, ∀ w ∈ en_ws x, w ∈ en_fl :=
  en_zip (P := fun x => ∀ w ∈ en_ws x, w ∈ en_fl) skL en_pl en_st4 (fun q hq w hw => by
    have hw : w ∈ en_ws q.1 := hw
    rw [en_st3 q hq] at hw
    exact List.mem_of_mem_drop (List.mem_of_mem_take hw))
theorem en_nc : ∀ x ∈ ncL, Cond.not (.castable x.1 x.2) ∈ en_fl := by decide +kernel
theorem en_sa {l : Launch} {D : va_G} {ar : Nat → ClassId} {i a : Nat} {x : SK} (hx : skL[i]? = some x) (he : (en_tm x).eval #[] s none [] s = some (.ref a)) : sa ((l, s, D, ar) : GG) i = a := by
  unfold sa
  rw [hx]
  show (match (en_tm x).eval #[] s none [] s with
    | some (.ref a) => a
    | _ => 0) = a
  rw [he]
theorem en_good {l : Launch} (hfl : l.flags = flags0) (ht : ∀ w ∈ lw_tbl, w.before args s = true) (hgv : (Cond.and given_1 narrow_1).before args s = true) : ∃ (D : va_G) (ar : Nat → ClassId), GoodG ((l, s, D, ar) : GG) := by
  obtain ⟨D, ar, hK⟩ := en_K ht
  have hf := flat_of_before _ hgv
  have hA : ∀ a : Nat, a < s.heap.size → ¬ (fun q => s.heap.size ≤ q) a := fun a h => Nat.not_le.mpr h
  have ht2 : ∀ w ∈ lw_all, w.before args s = true := fun w h => ht w (lw_all_tbl h)
  refine ⟨D, ar, fun w h => ⟨args, ht w h⟩, hK, ?_, ?_, ?_, ?_, ?_, ?_, ?_⟩
  · show (!l.flags.contains noTraceFlag) = false
    rw [hfl]
    decide +kernel
  · exact vx_Zqof (ht _ q208) (ht2 _ q136) (hf _ (by decide +kernel)) hA
  · exact vx_Zqof (ht _ q210) (ht2 _ q136) (hf _ (by decide +kernel)) hA
  · exact fun x hx => va_Nc.of (hf _ (en_nc x hx))
  · exact va_Zof (ht _ q740) (ht2 _ q147) (va_eqi (hf _ (by decide +kernel))) hA
  · exact va_Zqof (ht _ q756) (ht2 _ q153) (hf _ (by decide +kernel)) hA
  · intro i x hx
    have hm := List.mem_of_getElem? hx
    have hw : ∀ w ∈ en_ws x, w.before args s = true := fun w h => hf w (en_st2 x hm w h)
    obtain ⟨hsr, hlen⟩ := en_st1 x hm
    have w0 : (Cond.exactly (en_tm x) "java/lang/String").before args s = true := hw _ (by simp [en_ws])
    have w1 : (Cond.eq (.field (en_tm x) "java/lang/String" "coder" "B") (.int 0)).before args s = true := hw _ (by simp [en_ws])
    have w2 : (Cond.arrayOf (en_va x) .byte).before args s = true := hw _ (by simp [en_ws])
    have w3 : (Cond.eq (.length (en_va x)) (.int (Int32.ofNat x.2.2.2.length))).before args s = true := hw _ (by simp [en_ws])
    have w4 : ∀ j : Nat, j < x.2.2.2.length → (Cond.eq (.elem (en_va x) (.int (Int32.ofNat j))) (.int (x.2.2.2.getD j 0))).before args s = true := fun j hj => hw _ (List.mem_append_right _ (List.mem_map.mpr ⟨j, List.mem_range.mpr hj, rfl⟩))
    obtain ⟨a, c, cA, kA, q1, q2, q3, q4, q5, q6, -⟩ := Cond.exactly_spec (args := args) (first := s) (o := none) (s := s) (idx := []) (t := en_tm x) (cls := "java/lang/String") w0
    obtain ⟨t, hte, hT⟩ := va_Tof (f := fun j => .int (x.2.2.2.getD j 0)) (A := fun q => s.heap.size ≤ q) hlen w2 (va_eqt w3) (fun j hj => va_eqt (w4 j hj)) hA
    have he : (en_tm x).eval #[] s none [] s = some (.ref a) := (Term.string_eval_of_vm (args := args) (args' := #[]) (U := s) (V := s) rfl).trans q1
    have hsa := en_sa (l := l) (D := D) (ar := ar) hx he
    rw [hsa]
    exact ⟨⟨(ht _ hsr : (Cond.stringRef x.1 x.2.1 x.2.2.1).before args s = true), he⟩, ⟨cA, q3, q5, by rw [q6]; exact q2, hA a (Array.getElem?_eq_some_iff.mp q3).1⟩, vk_OFof q1 (va_eqt w1) hA, t, vk_OFof q1 hte hA, hT⟩
end ENT
/-- the law's own judgement: its end is asked for of the first state alone -/
def mtL (z : Nat) (nm : String) (hh : List (Nat × Nat × Nat × Nat)) : MT := ((R_law, code, 4, ret, nm), (400, 601536, 7248490), room_1, hh, fun below args s t => s.heap.size ≤ z → lw_Z below args s t)
theorem law_enter {p : Program} {e : Env} {s : State} {m : MethodId} {below : List Frame} {meth : Method} {c : Code} {l : Launch} {b L : Nat} {xs : Nat → Int32} (C0 : lw_At p s m meth c b L xs) {D : va_G} {ar : Nat → ClassId} (hG : GoodG ((l, s, D, ar) : GG))
    (k : ∀ (nm : String) (hh : List (Nat × Nat × Nat × Nat)), Wp ((l, s, D, ar) : GG) (mtL s.heap.size nm hh) 601536 7248490 0 [some (.ref b), none, none, none] [] (s.heap.size, fun _ => none)) :
    W p l e room_1 s m #[Value.ref b] below meth c s.heap [] 0 0 (lw_Z below #[Value.ref b] s) (entryFrame m ([Value.ref b] : List Value).toArray 4) := by
  obtain ⟨hx, hb, hr, hml, hown, hts, hX, hbl, hlocks, hgv⟩ := C0
  have hl := lv_entry ([.ref b]) (n := 4) (Nat.le_of_ble_eq_true rfl)
  rw [lg_entry_eq]
  generalize (lg_sl ([.ref b]) ++ List.replicate (4 - (lg_sl ([.ref b])).length) Slot.unset).toArray = ls at hl ⊢
  have hw := k meth.name (c.exceptionTable.toList.map fun h => (h.startPc, h.endPc, h.handlerPc, h.catchType)) p e s m #[Value.ref b] below meth c s.heap [] ls 0 0
    ⟨hG, hx, hb, hr, hlocks, hml, hown, fun w h => hts w (lw_all_tbl h), State.WarmedH.refl s, rfl, (table_eq _).symm, ⟨Nat.le_of_ble_eq_true rfl, Nat.le_of_ble_eq_true rfl, Nat.le_refl _, Nat.le_refl _⟩, Nat.le_refl _, fun q _ => rfl⟩
    ⟨rfl, Nat.le_refl _, fun q _ => rfl, fun a t e h => by cases h⟩ (fun l h => by cases h) hl (Nat.le_of_ble_eq_true rfl) (Nat.le_of_ble_eq_true rfl)
  intro T hT X
  obtain ⟨t, h1, h2⟩ := hw T hT X
  exact ⟨t, h1, h2 (Nat.le_refl _)⟩
theorem law_exit {g : GG} {nm : String} {hh : List (Nat × Nat × Nat × Nat)} {kc ks pc : Nat} {L : List (Option Value)} {σ : PH} (hdg : decode code pc = .ok (.ireturn, 1)) : Wp g (mtL (gz g) nm hh) kc ks pc L [.int 1] σ := by
  intro p e s m args below meth c H locs ls cells slots C hR hl hL h1 h2
  have hm1 : (mtL (gz g) nm hh).2.1.2.1 = 601536 := rfl
  have hm2 : (mtL (gz g) nm hh).2.1.2.2 = 7248490 := rfl
  rw [hm1] at h1
  rw [hm2] at h2
  by_cases hz : s.heap.size ≤ gz g
  · have hx : p.tables.exec = Jvm.exec := C.hx
    have hb : c.code = code := C.hb
    have hr : meth.sig.returnType = ret := C.hr
    have hlocks : meth.locks = false := C.lk
    refine va_forget (fun q hq => Nat.le_trans hz (hl q hq)) ?_
    refine W.widen (k := 601536) (n := 7248490) (by omega) (by omega) ?_
    intro T hT X
    obtain ⟨fs, hret, hrun, hended, hW, hframe⟩ := X.leave (v := some (.int 1)) (hlocks := hlocks) (fun h => by rw [hr] at h; cases h)
    have hmeth' : T.vm.method? m = some meth := X.method'
    refine ⟨T.setFrames fs, ?_, fun _ => ⟨.returned (some (.int 1)), hrun, hended, rfl, ⟨_, rfl⟩, hW, hframe⟩⟩
    jvm_step X.here [X.here.top, hx, hb, hdg, hmeth', hr, ret, narrow_b1]
    (try refine ⟨rfl, ?_⟩); (try refine ⟨rfl, ?_⟩)
    first | (intro acts; rw [hret _ acts rfl rfl rfl]) | rw [hret _ _ rfl rfl rfl]
    exact Steps.refl _
  · intro T hT X
    exact ⟨_, Steps.refl _, fun z => absurd z hz⟩
/-- the script: an old array of ints -/
def ScrG (g : GG) (b L : Nat) (xs : Nat → Int32) : Prop := b < gz g ∧ va_X b L xs g.2.1 g.2.1.heap
section SCR
variable {g : GG} {mt : MT} {kc ks pc : Nat} {Ls : List (Option Value)} {st rest : List Value} {σ : PH} {b L : Nat} {xs : Nat → Int32}
theorem w_sld {j : Nat} (hS : ScrG g b L xs) (d : decode mt.1.2.1 pc = .ok (.iaload, 1)) (hj : j < L) (hL9 : L < 2147483648) (kk : Wp g mt kc ks (pc + 1) Ls (.int (xs j) :: st) σ) : Wp g mt kc ks pc Ls (.int (nI j) :: .ref b :: st) σ := by
  intro p e s m args below meth c H locs ls cells slots C hR hl hL h1 h2
  obtain ⟨hbl, scr, k1, k2, k3, k4, k5⟩ := hS
  have hc : (nI j).toNatClampNeg = j := nI_clamp (by omega)
  exact W.iald (v := .int (xs j)) C.hx C.hb (by rw [hR.2.2.1 b hbl]; exact k1) (State.isArrayOf_alike C.wm.alike k2) k3 (by rw [k4]; exact vp_in_nI hj (by omega)) (by rw [hc]; exact k5 j hj) rfl rfl d (kk p e s m args below meth c H locs ls cells slots C hR hl hL h1 h2)
theorem w_slen (hS : ScrG g b L xs) (d : decode mt.1.2.1 pc = .ok (.arraylength, 1)) (kk : Wp g mt kc ks (pc + 1) Ls (.int (nI L) :: st) σ) : Wp g mt kc ks pc Ls (.ref b :: st) σ := by
  intro p e s m args below meth c H locs ls cells slots C hR hl hL h1 h2
  obtain ⟨hbl, scr, k1, k2, k3, k4, k5⟩ := hS
  exact W.alen (n := nI L) C.hx C.hb (by rw [hR.2.2.1 b hbl]; exact k1) (State.isArrayOf_alike C.wm.alike k2) (by rw [k4]; rfl) rfl rfl d (kk p e s m args below meth c H locs ls cells slots C hR hl hL h1 h2)
end SCR
/-- a method with handlers that is called on an object -/
def MOkW (mi : MI) (n : Nat) : Prop := Cond.codeWith mi.1 mi.2.1 mi.2.2.1 mi.2.2.2.1 mi.2.2.2.2 ∈ lw_all ∧ Cond.initialized mi.1.cls ∈ lw_all ∧ (mi.1.cls ≠ "java/lang/invoke/MethodHandle" ∧ mi.1.cls ≠ "java/lang/invoke/VarHandle" ∧ (parseMethodDescriptor mi.1.desc).map (fun d => d.parameters.length) = some n) ∧ mi.2.2.1 ≤ 41 ∧ Cond.instanceMethod mi.1 ∈ lw_all ∧ Cond.selects mi.1.cls mi.1 mi.1 ∈ lw_all
theorem miW_cons {mi : MI} {h0 : Nat × Nat × Nat × Nat} {hr : List (Nat × Nat × Nat × Nat)} (hh : mi.2.2.2.2 = h0 :: hr) : miW mi = wsW_ mi.1 mi.2.1 mi.2.2.1 mi.2.2.2.1 mi.2.2.2.2 := by
  unfold miW
  rw [hh]
theorem w_callVW {g : GG} {mt : MT} {mi : MI} {kc ks pc index d2 mc2 ms2 n : Nat} {L : List (Option Value)} {stk rest As : List Value} {σ : PH} {Q2 : Option Value → PH → Prop} {X2 : Addr → String → PH → Prop} {b ci N : Nat} {C : String} {T : u_T} {ty : Nat → FieldType} {t : Tg} {fs : List Value} {h0 : Nat × Nat × Nat × Nat} {hr : List (Nat × Nat × Nat × Nat)} (hh : mi.2.2.2.2 = h0 :: hr) (d : decode mt.1.2.1 pc = .ok (.invokevirtual index, 3)) (q : Cond.methodLink mt.1.1 index mi.1 ∈ lw_all) (ok : MOkW mi n) (hC : ClOk ci C T N ty) (hcls : mi.1.cls = C) (hM : Ct g mi d2 mc2 ms2 (.ref b :: As) σ Q2 X2) (hd : d2 + 1 ≤ mt.2.1.1) (hb : σ.2 b = some (t, .inr (ci, fs))) (hn : As.length = n) (hst : stk = As.reverse ++ .ref b :: rest) (hcat : (rest.map fun v => v.category).sum ≤ 8)
    (kk : ∀ (v : Option Value) (σ2 : PH), Q2 v σ2 → Wp g mt kc ks (pc + 3) L (v.toList ++ rest) σ2) (kx : ∀ (q : Addr) (E : String) (σ2 : PH), X2 q E σ2 → Tp g mt kc ks pc L rest q E σ2) : Wp g mt (kc + mc2) (ks + ms2) pc L stk σ := by
  obtain ⟨q5, q4, hd9, hml9, q2, q3⟩ := ok
  refine w_run ?_ kk kx
  intro p e s m args below meth c H locs ls cells slots X hR hL h1 h2
  have hR' := X.rm
  rw [hcls] at q3 q4
  have hlv := lw_VW (own := mt.1.1) (idx := index) q q2 q3 q4 q5
  exact ⟨_, vx_runVX (Ts := lw_all) (own := mt.1.1) (C := C) ⟨X.hx, X.hb, X.ml, X.own, X.ts⟩ (hM X.gd) (vx_cwVW n X.ts (by rw [miW_cons hh]; exact hlv) (miW_cons hh) rfl rfl ⟨hcls, hd9⟩ ⟨by show d2 + 1 ≤ _; omega, by show 8 + (mi.2.2.1 + 11) + 60 * d2 ≤ _; omega⟩) ⟨pc_blind, va_recv X.K (P1 (hR.at_ hb)) (ci := ci) (q0 := 0) hC.1 rfl, fun U hU hW => ⟨rfl, State.WarmedH.trans X.wm hW, by rw [hU]; exact hR⟩⟩ rfl hn hL.1 hst (lv_room hcat) d ⟨h1, h2⟩⟩
