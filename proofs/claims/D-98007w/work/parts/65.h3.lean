/-! HEAPS OF THE COMPONENT: longer rows; states of the loops of add and takes -/
set_option maxRecDepth 100000
/-- a contract whose answer speaks of the state behind it -/
def Cq (g : GG) (mi : MI) (d mc ms : Nat) (args : List Value) (C : CS) (v : CS → Option Value) (P : CS → Prop) : Prop := ∀ σ : PH, Hold g σ C → Ct g mi d mc ms args σ (fun w σ2 => ∃ C2, w = v C2 ∧ P C2 ∧ Hold g σ2 C2 ∧ Fr σ σ2) noX
def mtQ (g : GG) (mi : MI) (d mc ms : Nat) (σ : PH) (v : CS → Option Value) (P : CS → Prop) : MT := mtOf g mi d mc ms (fun w σ2 => ∃ C2, w = v C2 ∧ P C2 ∧ Hold g σ2 C2 ∧ Fr σ σ2) noX
theorem Cq.start {g : GG} {mi : MI} {d mc ms : Nat} {args : List Value} {C : CS} {v : CS → Option Value} {P : CS → Prop} (L : List (Option Value)) (hy : plainName mi.1.cls = true) (hh : mi.2.2.2.2 = []) (hn : (lg_sl args).length ≤ mi.2.2.1) (hL : asL 0 L = lv_args 0 args) (k : ∀ σ0 σ : PH, Hold g σ C → Fr σ0 σ → Wp g (mtQ g mi d mc ms σ0 v P) mc ms 0 L [] σ) : Cq g mi d mc ms args C v P :=
  fun σ H => Ct.start L hy hh hn hL fun _ => k σ σ H Fr.refl
section NEWI
variable {g : GG} {mt : MT} {kc ks pc : Nat} {L : List (Option Value)} {st rest stk As : List Value} {σ σ0 : PH} {C : CS} {mi : MI} {d2 mc2 ms2 n : Nat} {v : CS → Option Value} {P : CS → Prop}
theorem csq_call {index : Nat} (d : decode mt.1.2.1 pc = .ok (.invokestatic index, 3)) (q : Cond.methodLink mt.1.1 index mi.1 ∈ lw_all) (ok : MOkS mi n) (hd : d2 + 1 ≤ mt.2.1.1) (hM : Cq g mi d2 mc2 ms2 As C v P) (H : Hold g σ C) (F : Fr σ0 σ) (hn : As.length = n) (hst : stk = As.reverse ++ rest) (hcat : (rest.map fun v => v.category).sum ≤ 8) (kk : ∀ (σ : PH) (C2 : CS), P C2 → Hold g σ C2 → Fr σ0 σ → Wp g mt kc ks (pc + 3) L ((v C2).toList ++ rest) σ) : Wp g mt (kc + mc2) (ks + ms2) pc L stk σ :=
  w_callS d q ok (hM σ H) hd hn hst hcat (fun w σ2 hw => by obtain ⟨C2, h1, h2, h3, h4⟩ := hw; rw [h1]; exact kk σ2 C2 h2 h3 (F.trans h4)) (fun _ _ _ hx => absurd hx id)
/-- a new loose row of ints -/
def nwC (C : CS) (i a : Nat) (e : va_E) : CS := uM (ud C 8 i a) i (some e)
theorem od_ud (C : CS) (k j a : Nat) : od (ud C k j a) k j = a := up2_eq _ _ _ _
theorem od_ne (C : CS) {k j a k2 j2 : Nat} (h : k2 = k → j2 = j → False) : od (ud C k j a) k2 j2 = od C k2 j2 := up2_ne _ _ h
theorem ceC_ud8 {g : GG} {C : CS} {i a : Nat} : ∀ k j, ceC g (ud C 8 i a) k j = ceC g C k j := by
  have h := ce_all (g := g) (C := C) (C2 := ud C 8 i a) (P := fun _ _ => True) (fun _ _ => rfl) (fun _ _ => rfl) (fun _ _ => rfl) (fun _ _ => rfl) (fun _ _ => rfl) (fun _ _ => rfl) (fun _ _ => rfl) (fun _ _ => rfl) (fun _ _ => rfl) (fun _ _ => rfl) (fun _ _ => rfl) (fun _ _ => rfl) (fun _ _ => rfl) (fun _ _ => rfl)
  exact fun k j => h k j trivial
theorem nw_ce {i a : Nat} {e : va_E} : ceC g (nwC C i a e) 8 i = some e := va_up_self (oM (ud C 8 i a)) i (some e)
theorem nw_od {i a : Nat} {e : va_E} : od (nwC C i a e) 8 i = a := up2_eq (od C) 8 i a
theorem nw_ne {i a k j : Nat} {e : va_E} (h : k = 8 → j = i → False) : od (nwC C i a e) k j = od C k j := up2_ne (od C) a h
theorem nw_cn {i a k j : Nat} {e : va_E} (h : k = 8 → j = i → False) : ceC g (nwC C i a e) k j = ceC g C k j := (ot_M k j h).trans (ceC_ud8 k j)
theorem Hold.nw (H : Hold g σ C) (i : Nat) (e : va_E) : Hold g (hnew σ (8, i) e) (nwC C i σ.1 e) :=
  H.new_ (by decide) nw_od (fun a b h => nw_ne h) rfl nw_ce (fun a b h => nw_cn h)
theorem c_newI {n : Nat} (i : Nat) (d : decode mt.1.2.1 pc = .ok (.newarray .int, 2)) (hn : n < 100000000) (H : Hold g σ C) (F : Fr σ0 σ) (kk : ∀ (a : Nat) (σ : PH), Hold g σ (nwC C i a (.inl (g.2.2.2 0, n, .inl fun _ => 0))) → Fr σ0 σ → Wp g mt kc ks (pc + 2) L (.ref a :: st) σ) : Wp g mt (kc + 1) (ks + n) pc L (.int (nI n) :: st) σ :=
  w_newI (8, i) d hn (kk σ.1 _ (H.nw i _) (F.hnew H.1))
end NEWI
theorem fits_int (x : Int32) : fits .int (.int x) = true := rfl
set_option maxHeartbeats 4000000 in
theorem kX7_longer {g : GG} {C : CS} {k i m : Nat} {f : Nat → Int32} (hk : k ≠ 8) (hc : ceC g C k i = some (.inl (g.2.2.2 0, m, .inl f))) (hm : m ≤ 64) : Cq g miX7_longer 1 1 (2 * m) [.ref (od C k i)] C (fun C2 => some (.ref (od C2 8 90))) (fun C2 => ∃ a, C2 = nwC C 90 a (.inl (g.2.2.2 0, 2 * m, .inl (va_cpy f (fun _ => 0) 0 0 m)))) := by
  refine Cq.start [some (.ref (od C k i)), none] plX7 rfl (Nat.le_of_ble_eq_true rfl) rfl ?_
  intro σ0 σ H F
  refine w_iconst (v := nI 2) dX7_longer_0 ki_2 ?_
  refine w_aload_n dX7_longer_1 rfl ?_
  refine w_alen (k := 0) dX7_longer_2 (H.get hc) rfl ?_
  refine w_imulN dX7_longer_3 ?_
  refine w_bud (kc2 := 0 + 1) (ks2 := 0 + 2 * m) (by omega) (by omega) ?_
  refine c_newI 90 dX7_longer_4 (by omega) H F ?_
  intro a σ H F
  refine w_astore_n dX7_longer_6 rfl (Nat.le_of_ble_eq_true rfl) ls_2_1 ?_
  refine w_aload_n dX7_longer_7 rfl ?_
  refine w_iconst (v := nI 0) dX7_longer_8 ki_0 ?_
  refine w_aload_n dX7_longer_9 rfl ?_
  refine w_iconst (v := nI 0) dX7_longer_10 ki_0 ?_
  refine w_aload_n dX7_longer_11 rfl ?_
  have ho : od (nwC C 90 a (.inl (g.2.2.2 0, 2 * m, .inl fun _ => 0))) k i = od C k i := nw_ne (fun z _ => hk z)
  have hb : od (nwC C 90 a (.inl (g.2.2.2 0, 2 * m, .inl fun _ => 0))) 8 90 = a := nw_od
  have h0 := H.get (k := k) (j := i) (e := .inl (g.2.2.2 0, m, .inl f)) (by rw [← hc]; exact nw_cn (fun z _ => hk z))
  rw [ho] at h0
  have h1 := H.get (k := 8) (j := 90) (e := .inl (g.2.2.2 0, 2 * m, .inl fun _ => 0)) nw_ce
  refine w_alen (k := 0) dX7_longer_12 h0 rfl ?_
  have h9 : (nI m).toNatClampNeg = m := nI_clamp (by omega)
  have h8 : (nI 0).toNatClampNeg = 0 := nI_clamp (by omega)
  have hcz : ∀ e1 e2 : va_E, oZ (nwC C 90 a e1) = oZ (nwC C 90 a e2) := fun _ _ => rfl
  have hcd : ∀ e1 e2 : va_E, od (nwC C 90 a e1) = od (nwC C 90 a e2) := fun _ _ => rfl
  have hs := H.set (C2 := nwC C 90 a (.inl (g.2.2.2 0, 2 * m, .inl (va_cpy f (fun _ => 0) 0 0 m)))) (k := 8) (j := 90) nw_ce (by decide) (hcd _ _) (hcz _ _) nw_ce (fun x y h => (nw_cn h).trans (nw_cn h).symm)
  have hf := F.hup (t2 := (8, 90)) (e2 := .inl (g.2.2.2 0, 2 * m, .inl (va_cpy f (fun _ => 0) 0 0 m))) (by decide) h1
  rw [hb] at h1 hs hf
  refine w_copyI (k := 0) (ty := .int) dX7_longer_13 q901 q651 q650 q150 rfl rfl h0 h1 (nI_pos (by omega)) (nI_pos (by omega)) (nI_pos (by omega)) (by rw [h9, h8]; omega) (by rw [h9, h8]; omega) (fun _ _ => fits_int _) (Nat.le_of_ble_eq_true rfl) (Nat.le_of_ble_eq_true rfl) ?_
  rw [h9, h8]
  refine w_aload_n dX7_longer_16 rfl ?_
  refine w_aret dX7_longer_17 rfl (Or.inr ⟨_, rfl⟩) ?_
  exact ⟨nwC C 90 a (.inl (g.2.2.2 0, 2 * m, .inl (va_cpy f (fun _ => 0) 0 0 m))), congrArg (fun z => some (Value.ref z)) nw_od.symm, ⟨a, rfl⟩, hs, hf⟩
/-- a heap's row is the loose one now -/
def gwC (C : CS) (k i m : Nat) (f : Nat → Int32) : CS := uM (uN (uF (ud C k i (od C 8 90)) k i f) k i m) 90 none
def tag90 (k i : Nat) : Tg → Tg := fun t => if t = (8, 90) then (k, i) else t
section GROW
variable {g : GG} {mt : MT} {kc ks pc : Nat} {L : List (Option Value)} {st rest : List Value} {σ σ0 : PH} {C : CS} {i m : Nat} {f : Nat → Int32}
theorem gw_od {k : Nat} : od (gwC C k i m f) k i = od C 8 90 := up2_eq (od C) k i _
theorem gw_ne {k a b : Nat} (h : a = k → b = i → False) : od (gwC C k i m f) a b = od C a b := up2_ne (od C) _ h
theorem gw_oA {k : Nat} : oA (gwC C k i m f) k i = f := up2_eq (oA C) k i f
theorem gw_oN {k : Nat} : oN (gwC C k i m f) k i = m := up2_eq (oN C) k i m
theorem gw_A2 {k a b : Nat} (h : a = k → b = i → False) : oA (gwC C k i m f) a b = oA C a b := up2_ne (oA C) f h
theorem gw_N2 {k a b : Nat} (h : a = k → b = i → False) : oN (gwC C k i m f) a b = oN C a b := up2_ne (oN C) m h
theorem gw_M : oM (gwC C 6 i m f) 90 = none ∧ oM (gwC C 7 i m f) 90 = none := ⟨va_up_self (oM C) 90 none, va_up_self (oM C) 90 none⟩
/-- all cells but three are the same -/
theorem gw_ce {k : Nat} (hk : k = 6 ∨ k = 7) : ∀ a b, (¬ (a = k ∧ b = i) ∧ ¬ (a = 5 ∧ b = i) ∧ ¬ (a = 8 ∧ b = 90)) → ceC g (gwC C k i m f) a b = ceC g C a b := by
  rcases hk with rfl | rfl
  · exact ce_all (P := fun a b => ¬ (a = 6 ∧ b = i) ∧ ¬ (a = 5 ∧ b = i) ∧ ¬ (a = 8 ∧ b = 90)) (fun _ _ => rfl) (fun _ _ => rfl) (fun _ _ => rfl) (fun _ _ => rfl) (fun _ _ => rfl) (fun b h => by
      show (if oO C (b / 8) = true then (some (.inr (7, [.ref (up2 (od C) 6 i (od C 8 90) 6 b), .ref (od C 7 b), .int (oI C 5 b 2)])) : Option va_E) else none) = (if oO C (b / 8) = true then (some (.inr (7, encH C b)) : Option va_E) else none)
      rw [up2_ne (od C) _ (fun _ z => h.2.1 ⟨rfl, z⟩)]
      rfl) (fun b h => by
      show (if oO C (b / 8) = true then (some (.inl (g.2.2.2 0, up2 (oN C) 6 i m 6 b, .inl (up2 (oA C) 6 i f 6 b))) : Option va_E) else none) = (if oO C (b / 8) = true then (some (.inl (g.2.2.2 0, oN C 6 b, .inl (oA C 6 b))) : Option va_E) else none)
      rw [up2_ne (oN C) _ (fun _ z => h.1 ⟨rfl, z⟩), up2_ne (oA C) _ (fun _ z => h.1 ⟨rfl, z⟩)]) (fun _ _ => rfl) (fun b h => va_up_ne (oM C) none (fun z => h.2.2 ⟨rfl, z⟩)) (fun _ _ => rfl) (fun _ _ => rfl) (fun _ _ => rfl) (fun _ _ => rfl) (fun _ _ => rfl)
  · exact ce_all (P := fun a b => ¬ (a = 7 ∧ b = i) ∧ ¬ (a = 5 ∧ b = i) ∧ ¬ (a = 8 ∧ b = 90)) (fun _ _ => rfl) (fun _ _ => rfl) (fun _ _ => rfl) (fun _ _ => rfl) (fun _ _ => rfl) (fun b h => by
      show (if oO C (b / 8) = true then (some (.inr (7, [.ref (od C 6 b), .ref (up2 (od C) 7 i (od C 8 90) 7 b), .int (oI C 5 b 2)])) : Option va_E) else none) = (if oO C (b / 8) = true then (some (.inr (7, encH C b)) : Option va_E) else none)
      rw [up2_ne (od C) _ (fun _ z => h.2.1 ⟨rfl, z⟩)]
      rfl) (fun _ _ => rfl) (fun b h => by
      show (if oO C (b / 8) = true then (some (.inl (g.2.2.2 0, up2 (oN C) 7 i m 7 b, .inl (up2 (oA C) 7 i f 7 b))) : Option va_E) else none) = (if oO C (b / 8) = true then (some (.inl (g.2.2.2 0, oN C 7 b, .inl (oA C 7 b))) : Option va_E) else none)
      rw [up2_ne (oN C) _ (fun _ z => h.1 ⟨rfl, z⟩), up2_ne (oA C) _ (fun _ z => h.1 ⟨rfl, z⟩)]) (fun b h => va_up_ne (oM C) none (fun z => h.2.2 ⟨rfl, z⟩)) (fun _ _ => rfl) (fun _ _ => rfl) (fun _ _ => rfl) (fun _ _ => rfl) (fun _ _ => rfl)
theorem Hold.gw {k : Nat} (hk : k = 6 ∨ k = 7) (hi : oO C (i / 8) = true) (H : Hold g σ C) (hm : oM C 90 = some (.inl (g.2.2.2 0, m, .inl f))) (hne : ∃ e, ceC g C k i = some e) : Hold g (retag (hup σ (od C 5 i) (5, i) (.inr (7, (encH C i).set (k - 6) (.ref (od C 8 90))))) (tag90 k i)) (gwC C k i m f) := by
  have h5 := H.get (ce_heap hi)
  have h8 := H.get (k := 8) (j := 90) hm
  refine ⟨fun a ha => ?_, fun a b x hx => ?_, fun a x hx => ?_⟩
  · have := H.lt h5
    show (if a = od C 5 i then _ else σ.2 a).map _ = _
    rw [if_neg (by intro z; have h2 : σ.1 ≤ a := ha; omega), H.1 a ha]
    rfl
  · show (if od (gwC C k i m f) a b = od C 5 i then _ else σ.2 (od (gwC C k i m f) a b)).map _ = _
    by_cases h1 : a = k ∧ b = i
    · obtain ⟨rfl, rfl⟩ := h1
      rw [gw_od, if_neg (by intro z; rw [z, h5] at h8; cases h8), h8]
      have hx2 : ceC g (gwC C a b m f) a b = some (.inl (g.2.2.2 0, m, .inl f)) := by
        rcases hk with rfl | rfl
        · rw [ce_who (C := gwC C 6 b m f) hi, gw_oA, gw_oN]
        · rw [ce_tim (C := gwC C 7 b m f) hi, gw_oA, gw_oN]
      rw [hx2] at hx
      cases hx
      show some (tag90 a b (8, 90), _) = _
      unfold tag90
      rw [if_pos rfl]
    · rw [gw_ne (fun x y => h1 ⟨x, y⟩)]
      by_cases h2 : a = 5 ∧ b = i
      · obtain ⟨rfl, rfl⟩ := h2
        rw [if_pos rfl]
        have hx2 : ceC g (gwC C k b m f) 5 b = some (.inr (7, (encH C b).set (k - 6) (.ref (od C 8 90)))) := by
          rw [ce_heap (C := gwC C k b m f) hi]
          rcases hk with rfl | rfl
          · show (some (.inr (7, [.ref (up2 (od C) 6 b (od C 8 90) 6 b), .ref (od C 7 b), .int (oI C 5 b 2)])) : Option va_E) = _
            rw [up2_eq]
            rfl
          · show (some (.inr (7, [.ref (od C 6 b), .ref (up2 (od C) 7 b (od C 8 90) 7 b), .int (oI C 5 b 2)])) : Option va_E) = _
            rw [up2_eq]
            rfl
        rw [hx2] at hx
        cases hx
        show some (tag90 k b (5, b), _) = _
        unfold tag90
        rw [if_neg (by intro z; cases z)]
      · by_cases h3 : a = 8 ∧ b = 90
        · obtain ⟨rfl, rfl⟩ := h3
          have hx2 : ceC g (gwC C k i m f) 8 90 = none := va_up_self (oM C) 90 none
          rw [hx2] at hx
          cases hx
        · have hx2 : ceC g C a b = some x := by rw [← gw_ce hk a b ⟨h1, h2, h3⟩]; exact hx
          have hg := H.get hx2
          rw [if_neg (by intro z; rw [z, h5] at hg; cases hg; exact h2 ⟨rfl, rfl⟩), hg]
          show some (tag90 k i (a, b), _) = _
          unfold tag90
          rw [if_neg (by intro z; cases z; exact h3 ⟨rfl, rfl⟩)]
  · have hz := H.z (a := a) (e := x) hx
    show (if a = od C 5 i then _ else σ.2 a).map _ = _
    rw [if_neg (by intro z; rw [z, h5] at hz; cases hz), hz]
    show some (tag90 k i (9, 0), _) = _
    unfold tag90
    rw [if_neg (by intro z; cases z)]
theorem c_grow6 (d : decode mt.1.2.1 pc = .ok (.putfield 9, 3)) (ho : mt.1.1 = RX7) (hi : oO C (i / 8) = true) (H : Hold g σ C) (F : Fr σ0 σ) (hm : oM C 90 = some (.inl (g.2.2.2 0, m, .inl f))) (kk : ∀ σ, Hold g σ (gwC C 6 i m f) → Fr σ0 σ → Wp g mt kc ks (pc + 3) L st σ) : Wp g mt kc ks pc L (.ref (od C 8 90) :: .ref (od C 5 i) :: st) σ := by
  refine w_putf (k := 0) d clX7 (by decide) (by rw [ho]; exact q390) rfl (H.get (ce_heap hi)) rfl rfl (by simp [encH]) ?_
  refine w_retag (tag90 6 i) ?_
  refine kk _ (H.gw (k := 6) (Or.inl rfl) hi hm ⟨_, ce_who hi⟩) ((F.hup (show 5 < 20 by decide) (H.get (ce_heap hi))).retag ?_)
  intro t ht
  unfold tag90
  rw [if_neg (by intro z; rw [z] at ht; exact absurd ht (by decide))]
theorem c_grow7 (d : decode mt.1.2.1 pc = .ok (.putfield 15, 3)) (ho : mt.1.1 = RX7) (hi : oO C (i / 8) = true) (H : Hold g σ C) (F : Fr σ0 σ) (hm : oM C 90 = some (.inl (g.2.2.2 0, m, .inl f))) (kk : ∀ σ, Hold g σ (gwC C 7 i m f) → Fr σ0 σ → Wp g mt kc ks (pc + 3) L st σ) : Wp g mt kc ks pc L (.ref (od C 8 90) :: .ref (od C 5 i) :: st) σ := by
  refine w_putf (k := 1) d clX7 (by decide) (by rw [ho]; exact q393) rfl (H.get (ce_heap hi)) rfl rfl (by simp [encH]) ?_
  refine w_retag (tag90 7 i) ?_
  refine kk _ (H.gw (k := 7) (Or.inr rfl) hi hm ⟨_, ce_tim hi⟩) ((F.hup (show 5 < 20 by decide) (H.get (ce_heap hi))).retag ?_)
  intro t ht
  unfold tag90
  rw [if_neg (by intro z; rw [z] at ht; exact absurd ht (by decide))]
end GROW
