/-! pour of the component: the rows by their sort, the walk -/
set_option maxRecDepth 100000
theorem ca_ib : Cond.castable "java/lang/ArrayIndexOutOfBoundsException" "java/lang/IndexOutOfBoundsException" ∈ lw_tbl := by decide +kernel
theorem fit8 {v : Int32} (h : -128 ≤ v.toInt ∧ v.toInt ≤ 127) : fits .byte (.int v) = true := by
  show (decide (-128 ≤ v) && decide (v ≤ 127)) = true
  have e1 : (-128 : Int32).toInt = -128 := by decide
  have e2 : (127 : Int32).toInt = 127 := by decide
  rw [Bool.and_eq_true, decide_eq_true_eq, decide_eq_true_eq, Int32.le_iff_toInt_le, Int32.le_iff_toInt_le, e1, e2]
  exact h
theorem fit16 {v : Int32} (h : -32768 ≤ v.toInt ∧ v.toInt ≤ 32767) : fits .short (.int v) = true := by
  show (decide (-32768 ≤ v) && decide (v ≤ 32767)) = true
  have e1 : (-32768 : Int32).toInt = -32768 := by decide
  have e2 : (32767 : Int32).toInt = 32767 := by decide
  rw [Bool.and_eq_true, decide_eq_true_eq, decide_eq_true_eq, Int32.le_iff_toInt_le, Int32.le_iff_toInt_le, e1, e2]
  exact h
section POB
variable {g : GG} {mt : MT} {kc ks pc : Nat} {L : List (Option Value)} {st rest : List Value} {σ σ0 : PH}
theorem w_copyR {index a0 a n0 n1 : Nat} {t0 t1 : Tg} {f f1 : Nat → Int32} {l l1 : Nat → Int64} {sp dp n : Int32} (d : decode mt.1.2.1 pc = .ok (.invokestatic index, 3)) (q1 : Cond.methodLink mt.1.1 index arraycopyName ∈ lw_all) (h1 : ¬ sp < 0) (h2 : ¬ dp < 0) (h3 : ¬ n < 0) (h4 : sp.toNatClampNeg + n.toNatClampNeg ≤ n0) (h5 : dp.toNatClampNeg + n.toNatClampNeg ≤ n1) (hd : 1 ≤ mt.2.1.1) (hcat : (rest.map fun v => v.category).sum ≤ 8) : ∀ k, k < 4 →
    σ.2 a0 = some (t0, rowE g.2.2.2 k n0 f l) → σ.2 a = some (t1, rowE g.2.2.2 k n1 f1 l1) → (∀ i, i < n0 → (k = 0 → -128 ≤ (rowV k f l i).toInt ∧ (rowV k f l i).toInt ≤ 127) ∧ (k = 1 → -32768 ≤ (rowV k f l i).toInt ∧ (rowV k f l i).toInt ≤ 32767)) →
    Wp g mt kc ks (pc + 3) L rest (hup σ a t1 (rowE g.2.2.2 k n1 (va_cpy f f1 sp.toNatClampNeg dp.toNatClampNeg n.toNatClampNeg) (va_cpy l l1 sp.toNatClampNeg dp.toNatClampNeg n.toNatClampNeg))) → Wp g mt kc ks pc L (.int n :: .int dp :: .ref a :: .int sp :: .ref a0 :: rest) σ
  | 0, _, hh0, hh1, hr, kk => w_copyI (k := 2) (ty := .byte) d q1 q651 q650 q150 rfl rfl hh0 hh1 h1 h2 h3 h4 h5 (fun i hi => fit8 (by have h := (hr (sp.toNatClampNeg + i) (by omega)).1 rfl; rw [show rowV 0 f l (sp.toNatClampNeg + i) = (f (sp.toNatClampNeg + i)).toInt64 from rfl, Int32.toInt_toInt64] at h; exact h)) hd hcat kk
  | 1, _, hh0, hh1, hr, kk => w_copyI (k := 3) (ty := .short) d q1 q651 q650 q150 rfl rfl hh0 hh1 h1 h2 h3 h4 h5 (fun i hi => fit16 (by have h := (hr (sp.toNatClampNeg + i) (by omega)).2 rfl; rw [show rowV 1 f l (sp.toNatClampNeg + i) = (f (sp.toNatClampNeg + i)).toInt64 from rfl, Int32.toInt_toInt64] at h; exact h)) hd hcat kk
  | 2, _, hh0, hh1, _, kk => w_copyI (k := 0) (ty := .int) d q1 q651 q650 q150 rfl rfl hh0 hh1 h1 h2 h3 h4 h5 (fun _ _ => rfl) hd hcat kk
  | 3, _, hh0, hh1, _, kk => w_copyL d q1 q651 q650 q150 hh0 hh1 h1 h2 h3 h4 h5 hd hcat kk
  | _ + 4, h, _, _, _, _ => absurd h (by omega)
theorem w_copyRX {index a0 a n0 n1 : Nat} {t0 t1 : Tg} {f f1 : Nat → Int32} {l l1 : Nat → Int64} {sp dp n : Int32} (d : decode mt.1.2.1 pc = .ok (.invokestatic index, 3)) (q1 : Cond.methodLink mt.1.1 index arraycopyName ∈ lw_all) (h1 : ¬ sp < 0) (h2 : ¬ dp < 0) (h3 : ¬ n < 0) (hout : n0 < sp.toNatClampNeg + n.toNatClampNeg ∨ n1 < dp.toNatClampNeg + n.toNatClampNeg) (hn0 : n0 < 2 ^ 31) (hn1 : n1 < 2 ^ 31) (hd : 180 ≤ mt.2.1.1) (hcat : (rest.map fun v => v.category).sum ≤ 8) (kx : ∀ (q : Addr) (n : Nat), σ.1 ≤ n → Tp g mt kc ks pc L rest q "java/lang/ArrayIndexOutOfBoundsException" (n, σ.2)) : ∀ k, k < 4 →
    σ.2 a0 = some (t0, rowE g.2.2.2 k n0 f l) → σ.2 a = some (t1, rowE g.2.2.2 k n1 f1 l1) → Wp g mt (kc + 3) (ks + 420) pc L (.int n :: .int dp :: .ref a :: .int sp :: .ref a0 :: rest) σ
  | 0, _, hh0, hh1 => w_copyX (k := 2) (ty := .byte) d q1 q651 q650 q150 rfl rfl hh0 hh1 h1 h2 h3 hout hn0 hn1 hd hcat kx
  | 1, _, hh0, hh1 => w_copyX (k := 3) (ty := .short) d q1 q651 q650 q150 rfl rfl hh0 hh1 h1 h2 h3 hout hn0 hn1 hd hcat kx
  | 2, _, hh0, hh1 => w_copyX (k := 0) (ty := .int) d q1 q651 q650 q150 rfl rfl hh0 hh1 h1 h2 h3 hout hn0 hn1 hd hcat kx
  | 3, _, hh0, hh1 => w_copyX (k := 1) (ty := .long) d q1 q651 q650 q150 rfl rfl hh0 hh1 h1 h2 h3 hout hn0 hn1 hd hcat kx
  | _ + 4, h, _, _ => absurd h (by omega)
end POB
section POC
variable {g : GG} {C : CS} {x y z u w : Int32} {T : TS}
theorem on_t (ET : EncTC g C T) (h4 : inN x 4) : onW C x = if tm T (cl x) = 0 then 2 else 0 := by
  unfold onW
  rw [if_pos h4]
  obtain ⟨e1, e2⟩ := ET (cl x) (cl_lt h4 (by omega))
  by_cases h : tm T (cl x) = 0
  · rw [if_pos h, e1 h]
    rfl
  · obtain ⟨f, l, h3, -⟩ := e2 h
    rw [if_neg h, h3]
    rfl
theorem EncTC.pour (E : EncTC g C T) {j t p a n : Nat} {f f1 : Nat → Int32} {l l1 : Nat → Int64} (ht : tm T t ≠ 0) (hs : tk T j = tk T t) (hp : p + n + 1 ≤ tm T j) (h1 : ∀ k, k + 1 < tm T j → rowV (tk T j) f l k = tv T j k) (h2 : ∀ k, k + 1 < tm T t → rowV (tk T t) f1 l1 k = tv T t k) : EncTC g (uT C t (some (rowE g.2.2.2 (tk T t) (tm T t - 1) (va_cpy f f1 p a n) (va_cpy l l1 p a n)))) (pourT T j p t a n) := by
  intro b h4
  by_cases hb : b = t
  · subst hb
    refine ⟨fun z => absurd z ht, fun _ => ⟨_, _, uT_at _ _ _, fun m hm => ?_⟩⟩
    show rowV (tk T b) _ _ m = _
    rw [pour_v, if_pos rfl]
    have hm' : m + 1 < tm T b := hm
    by_cases h9 : a ≤ m ∧ m < a + n
    · rw [if_pos h9, ← h1 (p + (m - a)) (by omega), hs]
      unfold rowV va_cpy
      simp only [h9, and_self, if_true]
    · rw [if_neg h9, ← h2 m hm']
      unfold rowV va_cpy
      simp only [h9, if_false]
  · rw [uT_ne _ _ hb]
    refine ⟨(E b h4).1, fun z => ?_⟩
    obtain ⟨f1, l1, a1, a2⟩ := (E b h4).2 z
    refine ⟨f1, l1, a1, fun m hm => ?_⟩
    rw [pour_v, if_neg hb]
    exact a2 m hm
def PoQ (g : GG) (C : CS) (T : TS) (x y z u w : Int32) (σ0 : PH) : Option Value → PH → Prop := fun v σ2 => v = some (.int (bP (nI (w_pour T x y z u w) = 0))) ∧ ∃ C2, TrN g C C2 (v_pour T x y z u w) (nI (w_pour T x y z u w)) ∧ Hold g σ2 C2 ∧ Fr σ0 σ2
theorem po_113 {n kc ks : Nat} {σ0 σ2 : PH} {a6 a7 a8 : Option Value} (hx : oO C 0 = true) (ET : EncTC g C T) (hw : w_pour T x y z u w = n) (hn : n = 1 ∨ n = 2 ∨ n = 3 ∨ n = 8) (H2 : Hold g σ2 (uI (uI C 0 30 7 (nI 0)) 0 6 6 (nI n))) (F : Fr σ0 σ2) : Wp g (mtOf g miX0_pour 181 3 420 (PoQ g C T x y z u w σ0) noX) kc ks 113 [some (.ref (od C 0 30)), some (.int x), some (.int y), some (.int z), some (.int u), some (.int w), a6, a7, a8] [.ref (od C 0 6)] σ2 := by
  refine w_astore dX0_pour_113 rfl (by show 6 < 9; decide) rfl ?_
  refine w_aload_n dX0_pour_115 rfl ?_
  refine w_aload dX0_pour_116 rfl ?_
  refine w_callV (kc := kc) (ks := ks) (rest := []) dX0_pour_118 q590 okX0_no clX0 rfl (kX0_no (C := uI (uI C 0 30 7 (nI 0)) 0 6 6 (nI n)) hx σ2 H2) (show 1 + 1 ≤ 181 by decide) (H2.get (ce_X (C := uI (uI C 0 30 7 (nI 0)) 0 6 6 (nI n)) hx)) rfl rfl (by decide) ?_ (fun q E σ2 h => absurd h (fun z => z))
  rintro v σ3 ⟨rfl, C3, rfl, H3, F3⟩
  refine w_zret dX0_pour_121 rfl narr0 ⟨?_, _, ?_, H3, F.trans F3⟩
  · rw [hw]
    rcases hn with rfl | rfl | rfl | rfl <;> rfl
  · rw [hw, oI_at, v_pour, if_neg (by rw [hw]; omega)]
    exact ⟨C, ET, Tf.refl C, _, _, rfl⟩
set_option maxHeartbeats 4000000 in
theorem kX0_pour (hx : oO C 0 = true) (ET : EncTC g C T) (O : OkTr T) : Cp g miX0_pour 181 3 420 [.ref (od C 0 30), .int x, .int y, .int z, .int u, .int w] C (some (.int (bP (nI (w_pour T x y z u w) = 0)))) (fun C2 => TrN g C C2 (v_pour T x y z u w) (nI (w_pour T x y z u w))) := by
  intro σ0 H
  refine Ct.startW [some (.ref (od C 0 30)), some (.int x), some (.int y), some (.int z), some (.int u), some (.int w), none, none, none] plX0 (h0 := (85, 97, 100, 156)) (hr := [(5, 112, 113, 41)]) rfl (Nat.le_of_ble_eq_true rfl) rfl (fun _ => ?_)
  show Wp g (mtOf g miX0_pour 181 3 420 (PoQ g C T x y z u w σ0) noX) 3 420 0 _ _ _
  refine w_aload_n dX0_pour_0 rfl ?_
  refine w_iconst (v := nI 0) dX0_pour_1 ki_0 ?_
  refine pX0_85 (C := C) dX0_pour_2 rfl hx H Fr.refl ?_
  intro σ H F
  refine w_aload_n dX0_pour_5 rfl ?_
  by_cases hF : inN x 4 ∧ inN z 4 ∧ ¬ y < 0 ∧ ¬ u < 0 ∧ ¬ w < 0
  · refine w_iload_n dX0_pour_6 rfl ?_
    refine w_if_lt dX0_pour_7 rfl (fun h => absurd h hF.1.1) (fun _ => ?_)
    refine w_iload_n dX0_pour_10 rfl ?_
    refine w_iconst (v := nI 4) dX0_pour_11 ki_4 ?_
    refine w_icmp_ge dX0_pour_12 rfl (fun h => absurd h hF.1.2) (fun _ => ?_)
    refine w_iload_n dX0_pour_15 rfl ?_
    refine w_if_lt dX0_pour_16 rfl (fun h => absurd h hF.2.1.1) (fun _ => ?_)
    refine w_iload_n dX0_pour_19 rfl ?_
    refine w_iconst (v := nI 4) dX0_pour_20 ki_4 ?_
    refine w_icmp_ge dX0_pour_21 rfl (fun h => absurd h hF.2.1.2) (fun _ => ?_)
    refine w_iload_n dX0_pour_24 rfl ?_
    refine w_if_lt dX0_pour_25 rfl (fun h => absurd h hF.2.2.1) (fun _ => ?_)
    refine w_iload dX0_pour_28 rfl ?_
    refine w_if_lt dX0_pour_30 rfl (fun h => absurd h hF.2.2.2.1) (fun _ => ?_)
    refine w_iload dX0_pour_33 rfl ?_
    refine w_if_lt dX0_pour_35 rfl (fun h => absurd h hF.2.2.2.2) (fun _ => ?_)
    refine w_iconst (v := nI 1) dX0_pour_38 ki_1 ?_
    refine w_goto dX0_pour_39 rfl ?_
    refine w_iconst (v := nI 1) dX0_pour_43 ki_1 ?_
    refine w_callV (kc := 3) (ks := 420) (rest := []) dX0_pour_44 q579 okX0_want clX0 rfl (tX0_want1 σ) (show 3 + 1 ≤ 181 by decide) (H.get (ce_X (C := uI C 0 30 7 (nI 0)) hx)) rfl rfl (by decide) ?_ (fun q E σ2 h => absurd h (fun z => z))
    rintro v1 σ1 ⟨rfl, e1⟩
    subst e1
    refine w_aload_n dX0_pour_47 rfl ?_
    refine w_iload_n dX0_pour_48 rfl ?_
    refine w_callV (kc := 3) (ks := 420) (rest := []) dX0_pour_49 q618 okX0_on clX0 rfl (tX0_on (C := uI C 0 30 7 (nI 0)) hx _ H) (show 4 + 1 ≤ 181 by decide) (H.get (ce_X (C := uI C 0 30 7 (nI 0)) hx)) rfl rfl (by decide) ?_ ?_
    · rintro v2 σ2 ⟨ho, rfl, e2⟩
      subst e2
      have ho : onW C x = 0 := ho
      refine w_astore dX0_pour_52 rfl (by show 6 < 9; decide) rfl ?_
      refine w_aload_n dX0_pour_54 rfl ?_
      refine w_iload_n dX0_pour_55 rfl ?_
      refine w_callV (kc := 3) (ks := 420) (rest := []) dX0_pour_56 q618 okX0_on clX0 rfl (tX0_on (C := uI C 0 30 7 (nI 0)) hx _ H) (show 4 + 1 ≤ 181 by decide) (H.get (ce_X (C := uI C 0 30 7 (nI 0)) hx)) rfl rfl (by decide) ?_ ?_
      · rintro v3 σ3 ⟨ho2, rfl, e3⟩
        subst e3
        have ho2 : onW C z = 0 := ho2
        refine w_astore dX0_pour_59 rfl (by show 7 < 9; decide) rfl ?_
        obtain ⟨j, f, l, hj, ej, hc, ht, h1, h2, -⟩ := on_row ET ho
        obtain ⟨i, f1, l1, hi, ei, hc2, ht2, h3, h4, -⟩ := on_row ET ho2
        have hk := O.1 j hj
        have hk2 := O.1 i hi
        have hcell : ceC g (uI C 0 30 7 (nI 0)) 15 j = some (rowE g.2.2.2 (tk T j) (tm T j - 1) f l) := h1
        have hcell2 : ceC g (uI C 0 30 7 (nI 0)) 15 i = some (rowE g.2.2.2 (tk T i) (tm T i - 1) f1 l1) := h3
        rw [hc, hc2]
        refine w_aload_n dX0_pour_61 rfl ?_
        refine w_aload dX0_pour_62 rfl ?_
        refine w_callS (kc := 3) (ks := 420) (rest := [.ref (od C 0 30)]) dX0_pour_64 q646 okX0_sortOf (tX0_sortOfR (tk T j) (by omega) (H.get hcell)) (show 1 + 1 ≤ 181 by decide) rfl rfl (Nat.le_of_ble_eq_true rfl) ?_ (fun _ _ _ h => absurd h (fun z => z))
        rintro v4 σ4 ⟨rfl, e4⟩
        subst e4
        refine w_aload dX0_pour_67 rfl ?_
        refine w_callS (kc := 3) (ks := 420) (rest := [.int (nI (tk T j)), .ref (od C 0 30)]) dX0_pour_69 q646 okX0_sortOf (tX0_sortOfR (tk T i) (by omega) (H.get hcell2)) (show 1 + 1 ≤ 181 by decide) rfl rfl (Nat.le_of_ble_eq_true rfl) ?_ (fun _ _ _ h => absurd h (fun z => z))
        rintro v5 σ5 ⟨rfl, e5⟩
        subst e5
        refine w_icmp_ne dX0_pour_72 rfl (fun hne => ?_) (fun heq => ?_)
        · have hs : tk T j ≠ tk T i := fun z => hne (by rw [z])
          refine w_iconst (v := nI 0) dX0_pour_79 ki_0 ?_
          refine w_bipush (v := nI 8) dX0_pour_80 rfl ?_
          refine w_callV (kc := 3) (ks := 420) (rest := []) dX0_pour_82 q579 okX0_want clX0 rfl (tX0_want0 (C := uI C 0 30 7 (nI 0)) hx _ H) (show 3 + 1 ≤ 181 by decide) (H.get (ce_X (C := uI C 0 30 7 (nI 0)) hx)) rfl rfl (by decide) (fun _ _ h => absurd h (fun z => z)) ?_
          rintro q E σ6 ⟨rfl, rfl, H2, F2⟩
          refine t_catch (pre := [(85, 97, 100, 156)]) (x := (5, 112, 113, 41)) (suf := []) rfl ?_ (by decide) (by decide) q254 ca_ref ?_
          · intro z hz
            obtain rfl := List.mem_singleton.mp hz
            exact Or.inl (by decide)
          exact po_113 hx ET (n := 8) (by rw [w_pour, if_pos hF, hc, hc2, if_neg (fun z => z.elim ht ht2), if_pos hs]) (Or.inr (Or.inr (Or.inr rfl))) H2 (F.trans F2)
        · have hs : tk T j = tk T i := (nI_eq (by omega) (by omega)).mp heq
          refine w_iconst (v := nI 1) dX0_pour_75 ki_1 ?_
          refine w_goto dX0_pour_76 rfl ?_
          refine w_bipush (v := nI 8) dX0_pour_80 rfl ?_
          refine w_callV (kc := 3) (ks := 420) (rest := []) dX0_pour_82 q579 okX0_want clX0 rfl (tX0_want1 _) (show 3 + 1 ≤ 181 by decide) (H.get (ce_X (C := uI C 0 30 7 (nI 0)) hx)) rfl rfl (by decide) ?_ (fun q E σ2 h => absurd h (fun z => z))
          rintro v6 σ6 ⟨rfl, e6⟩
          subst e6
          refine w_aload dX0_pour_85 rfl ?_
          refine w_iload_n dX0_pour_87 rfl ?_
          refine w_aload dX0_pour_88 rfl ?_
          refine w_iload dX0_pour_90 rfl ?_
          refine w_iload dX0_pour_92 rfl ?_
          have hg2 := H.get hcell2
          by_cases hfit : cl y + cl w + 1 ≤ tm T j ∧ cl u + cl w + 1 ≤ tm T i
          · have hw : w_pour T x y z u w = 0 := by
              rw [w_pour, if_pos hF, hc, hc2, if_neg (fun z => z.elim ht ht2), if_neg (fun z => z hs), if_pos hfit]
            refine w_copyR dX0_pour_94 q649 hF.2.2.1 hF.2.2.2.1 hF.2.2.2.2 (n0 := tm T j - 1) (n1 := tm T i - 1) (by show cl y + cl w ≤ _; omega) (by show cl u + cl w ≤ _; omega) (Nat.le_of_ble_eq_true rfl) (Nat.le_of_ble_eq_true rfl) (tk T i) (by omega) (by rw [← hs]; exact H.get hcell) hg2 (fun k hk9 => by rw [← hs, h2 k (by omega)]; exact O.2 j k hj (by omega)) ?_
            have H3 := H.set (C2 := uT (uI C 0 30 7 (nI 0)) i (some (rowE g.2.2.2 (tk T i) (tm T i - 1) (va_cpy f f1 (cl y) (cl u) (cl w)) (va_cpy l l1 (cl y) (cl u) (cl w))))) hcell2 (by decide) rfl rfl (uT_at _ _ _) (ot_T (C := uI C 0 30 7 (nI 0)) h3)
            refine w_goto dX0_pour_97 rfl ?_
            refine w_iconst (v := nI 1) dX0_pour_111 ki_1 ?_
            refine w_zret dX0_pour_112 rfl narr1 ⟨?_, _, ?_, H3, F.hup (show (15 : Nat) < 20 by decide) hg2⟩
            · rw [hw]
              rfl
            · rw [hw, v_pour, if_pos hw, hc, hc2]
              exact ⟨uT C i _, ET.pour ht2 hs hfit.1 h2 h4, ⟨od C, _, oM C, rfl, fun _ _ _ _ => rfl⟩, TrX.of (uT C i _) (nI 0)⟩
          · have hw : w_pour T x y z u w = 3 := by
              rw [w_pour, if_pos hF, hc, hc2, if_neg (fun z => z.elim ht ht2), if_neg (fun z => z hs), if_neg hfit]
            refine w_copyRX (kc := 0) (ks := 0) dX0_pour_94 q649 hF.2.2.1 hF.2.2.2.1 hF.2.2.2.2 (n0 := tm T j - 1) (n1 := tm T i - 1) (by show tm T j - 1 < cl y + cl w ∨ tm T i - 1 < cl u + cl w; omega) (by omega) (by omega) (Nat.le_of_ble_eq_true rfl) (Nat.le_of_ble_eq_true rfl) (fun q m hm => ?_) (tk T i) (by omega) (by rw [← hs]; exact H.get hcell) hg2
            refine t_catch (pre := []) (x := (85, 97, 100, 156)) (suf := [(5, 112, 113, 41)]) rfl (fun _ h => absurd h (by simp)) (by decide) (by decide) q645 ca_ib ?_
            have H7 := H.more hm
            refine w_astore dX0_pour_100 rfl (by show 8 < 9; decide) rfl ?_
            refine w_aload_n dX0_pour_102 rfl ?_
            refine gX0_44 (C := uI C 0 30 7 (nI 0)) dX0_pour_103 rfl hx H7 ?_
            refine w_iconst (v := nI 3) dX0_pour_106 ki_3 ?_
            refine w_callV (kc := 0) (ks := 0) (rest := []) dX0_pour_107 q583 okX3_by clX3 rfl (kX3_by (C := uI C 0 30 7 (nI 0)) hx _ H7) (show 1 + 1 ≤ 181 by decide) (H7.get (ce_ref (C := uI C 0 30 7 (nI 0)) hx)) rfl rfl (by decide) ?_ (fun q E σ2 h => h.elim)
            rintro v8 σ8 ⟨rfl, C8, rfl, H8, F8⟩
            refine w_athrow (q := od C 0 6) (rest := []) dX0_pour_110 clX3 (H8.get (ce_ref (C := uI (uI C 0 30 7 (nI 0)) 0 6 6 (nI 3)) hx)) ?_
            refine t_catch (pre := [(85, 97, 100, 156)]) (x := (5, 112, 113, 41)) (suf := []) rfl ?_ (by decide) (by decide) q254 ca_ref ?_
            · intro z hz
              obtain rfl := List.mem_singleton.mp hz
              exact Or.inl (by decide)
            exact po_113 hx ET (n := 3) hw (Or.inr (Or.inr (Or.inl rfl))) H8 ((F.more hm).trans F8)
      · rintro q E σ3 ⟨hne, rfl, rfl, H2, F2⟩
        have hne : onW C z ≠ 0 := hne
        have h9 := on_t ET hF.2.1
        have ht0 : tm T (cl z) = 0 := Decidable.byContradiction fun h => hne (by rw [h9, if_neg h])
        have e9 : onW (uI C 0 30 7 (nI 0)) z = 2 := h9.trans (if_pos ht0)
        rw [e9] at H2
        refine t_catch (pre := [(85, 97, 100, 156)]) (x := (5, 112, 113, 41)) (suf := []) rfl ?_ (by decide) (by decide) q254 ca_ref ?_
        · intro z hz
          obtain rfl := List.mem_singleton.mp hz
          exact Or.inl (by decide)
        exact po_113 hx ET (n := 2) (by rw [w_pour, if_pos hF, if_pos (Or.inr ht0)]) (Or.inr (Or.inl rfl)) H2 (F.trans F2)
    · rintro q E σ2 ⟨hne, rfl, rfl, H2, F2⟩
      have hne : onW C x ≠ 0 := hne
      have h9 := on_t ET hF.1
      have ht0 : tm T (cl x) = 0 := Decidable.byContradiction fun h => hne (by rw [h9, if_neg h])
      have e9 : onW (uI C 0 30 7 (nI 0)) x = 2 := h9.trans (if_pos ht0)
      rw [e9] at H2
      refine t_catch (pre := [(85, 97, 100, 156)]) (x := (5, 112, 113, 41)) (suf := []) rfl ?_ (by decide) (by decide) q254 ca_ref ?_
      · intro z hz
        obtain rfl := List.mem_singleton.mp hz
        exact Or.inl (by decide)
      exact po_113 hx ET (n := 2) (by rw [w_pour, if_pos hF, if_pos (Or.inl ht0)]) (Or.inr (Or.inl rfl)) H2 (F.trans F2)
  · have hw : w_pour T x y z u w = 1 := by rw [w_pour, if_neg hF]
    have k42 : Wp g (mtOf g miX0_pour 181 3 420 (PoQ g C T x y z u w σ0) noX) 3 420 42 [some (.ref (od C 0 30)), some (.int x), some (.int y), some (.int z), some (.int u), some (.int w), none, none, none] [.ref (od C 0 30)] σ := by
      refine w_iconst (v := nI 0) dX0_pour_42 ki_0 ?_
      refine w_iconst (v := nI 1) dX0_pour_43 ki_1 ?_
      refine w_callV (kc := 3) (ks := 420) (rest := []) dX0_pour_44 q579 okX0_want clX0 rfl (tX0_want0 (C := uI C 0 30 7 (nI 0)) hx σ H) (show 3 + 1 ≤ 181 by decide) (H.get (ce_X (C := uI C 0 30 7 (nI 0)) hx)) rfl rfl (by decide) (fun _ _ h => absurd h (fun z => z)) ?_
      rintro q E σ2 ⟨rfl, rfl, H2, F2⟩
      refine t_catch (pre := [(85, 97, 100, 156)]) (x := (5, 112, 113, 41)) (suf := []) rfl ?_ (by decide) (by decide) q254 ca_ref ?_
      · intro z hz
        obtain rfl := List.mem_singleton.mp hz
        exact Or.inl (by decide)
      exact po_113 hx ET (n := 1) hw (Or.inl rfl) H2 (F.trans F2)
    refine w_iload_n dX0_pour_6 rfl ?_
    refine w_if_lt dX0_pour_7 rfl (fun _ => k42) (fun h1 => ?_)
    refine w_iload_n dX0_pour_10 rfl ?_
    refine w_iconst (v := nI 4) dX0_pour_11 ki_4 ?_
    refine w_icmp_ge dX0_pour_12 rfl (fun _ => k42) (fun h2 => ?_)
    refine w_iload_n dX0_pour_15 rfl ?_
    refine w_if_lt dX0_pour_16 rfl (fun _ => k42) (fun h3 => ?_)
    refine w_iload_n dX0_pour_19 rfl ?_
    refine w_iconst (v := nI 4) dX0_pour_20 ki_4 ?_
    refine w_icmp_ge dX0_pour_21 rfl (fun _ => k42) (fun h4 => ?_)
    refine w_iload_n dX0_pour_24 rfl ?_
    refine w_if_lt dX0_pour_25 rfl (fun _ => k42) (fun h5 => ?_)
    refine w_iload dX0_pour_28 rfl ?_
    refine w_if_lt dX0_pour_30 rfl (fun _ => k42) (fun h6 => ?_)
    refine w_iload dX0_pour_33 rfl ?_
    refine w_if_lt dX0_pour_35 rfl (fun _ => k42) (fun h7 => ?_)
    exact absurd ⟨⟨h1, h2⟩, ⟨h3, h4⟩, h5, h6, h7⟩ hF
end POC
theorem pr_pour {g : GG} {ax bm : Nat} {σ : PH} {x y z u w : Int32} (jj : JJ g ax bm σ) : PairG Value.int g ax bm miX0_pour miX8_pour [.int x, .int y, .int z, .int u, .int w] σ := by
  obtain ⟨C, S, H, hm, rfl, hb, hz, hs, J⟩ := jj
  obtain ⟨T, ET, ES, OT⟩ := J.1.2.2.1
  exact pair_of H J.h0 hb hz hs (kX0_pour J.h0 ET OT) (c_pour ES OT.1) (Nat.le_of_ble_eq_true rfl) (Nat.le_of_ble_eq_true rfl) (Nat.le_of_ble_eq_true rfl) (Nat.le_of_ble_eq_true rfl) (fun C2 S2 h1 h2 => J.tr h1 h2.1 h2.2.1 h2.2.2 OT.pour)
