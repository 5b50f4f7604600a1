/-! RUNS: steps by their depth (printed by gen/go.py) -/
set_option maxRecDepth 100000
theorem okU_go : MOkU miX10_go 1 := ⟨⟨rfl, q1471, q156, ⟨by decide +kernel, by decide +kernel, by decide +kernel⟩, by decide⟩, q1466⟩
theorem okU_all : MOkU miX11_all 1 := ⟨⟨rfl, q1464, q157, ⟨by decide +kernel, by decide +kernel, by decide +kernel⟩, by decide⟩, q1463⟩
theorem okU_doesX12 : MOkU miX12_does 1 := ⟨⟨rfl, q1505, q158, ⟨by decide +kernel, by decide +kernel, by decide +kernel⟩, by decide⟩, q1504⟩
theorem okU_doesX13 : MOkU miX13_does 1 := ⟨⟨rfl, q1509, q159, ⟨by decide +kernel, by decide +kernel, by decide +kernel⟩, by decide⟩, q1508⟩
theorem okU_doesX14 : MOkU miX14_does 1 := ⟨⟨rfl, q1477, q160, ⟨by decide +kernel, by decide +kernel, by decide +kernel⟩, by decide⟩, q1476⟩
abbrev costC (q q2 : Nat → Nat) : Nat := (pq q - pq q2) / 2
abbrev costS (q q2 : Nat → Nat) : Nat := 4 * (pq q - pq q2)
theorem cost_add {q1 q2 q3 : Nat → Nat} (h1 : ∀ e, q1 e ≤ q2 e) (h2 : ∀ e, q2 e ≤ q3 e) : costC q2 q3 + costC q1 q2 ≤ costC q1 q3 ∧ costS q2 q3 + costS q1 q2 ≤ costS q1 q3 := by
  have a := pq_mono h1
  have b := pq_mono h2
  unfold costC costS
  omega
theorem all_end {P : PG} {G : Nat → XS → XS} : ∀ f e (s : XS), allX P G f e e s = s
  | 0, _, _ => rfl
  | f + 1, e, s => by rw [allX, if_pos (Or.inl (Nat.le_refl _))]
theorem all_over {P : PG} {G : Nat → XS → XS} : ∀ f k e (s : XS), s.o ≠ 0 → allX P G f k e s = s
  | 0, _, _, _, _ => rfl
  | f + 1, k, e, s, h => by rw [allX, if_pos (Or.inr h)]
theorem rep_over {F : XS → XS} : ∀ t (s : XS), s.o ≠ 0 → repX F t s = s
  | 0, _, _ => rfl
  | t + 1, s, h => by rw [repX, if_pos h]
theorem itn_s (P : PG) : ∀ i k, itn P (i + 1) k = nxt P (itn P i k)
  | 0, _ => rfl
  | i + 1, k => itn_s P i (nxt P k)
def GoC (g : GG) (P : PG) (V0 : VS) (d : Nat) : Prop := ∀ (C : CS) (j la da a k : Nat) (s : XS), LvOk g C j la da s → OkR V0 s.R → s.n ≤ 300 → s.o = 0 → StZ g P (oZ C) d a k → Stq P d k → Cp g miX10_go (20 + 3 * d) (costC s.q (goX P d k s).q) (costS s.q (goX P d k s).q) [.ref a, .ref la] C none (fun C2 => LvOk g C2 j la da (goX P d k s) ∧ SL j C C2)
def AllC (g : GG) (P : PG) (V0 : VS) (d : Nat) : Prop := ∀ (C : CS) (j la da b arr m k e : Nat) (s : XS), LvOk g C j la da s → OkR V0 s.R → s.n ≤ 300 → s.o = 0 → ((∃ x : Value, oZ C b = some (.inr (10, [.ref arr, .int (nI m), x]))) ∨ ∃ x1 x2 x3 x4 x5 : Value, oZ C b = some (.inr (11, [.ref arr, .int (nI m), x1, x2, x3, x4, x5]))) → StsZ g P (oZ C) (StZ g P (oZ C) d) arr m k e → Sq P (Stq P d) 61 k e → Cp g miX11_all (21 + 3 * d) (costC s.q (allX P (goX P d) 61 k e s).q) (costS s.q (allX P (goX P d) 61 k e s).q) [.ref b, .ref la] C none (fun C2 => LvOk g C2 j la da (allX P (goX P d) 61 k e s) ∧ SL j C C2)
theorem Stq.ne {P : PG} {d k : Nat} (h : Stq P d k) : pr P k 0 ≠ 26 := by
  cases d with
  | zero => exact absurd h id
  | succ d => exact h.2.1
theorem go_n {P : PG} {nc nf nd d k : Nat} {s : XS} (O : OkP nc nf nd P) (h : Stq P d k) (ho : s.o = 0) (hn : s.n ≤ 300) : (goX P d k s).n ≤ 300 ∧ (goX P d k s).o ≤ 1 := by
  obtain ⟨h1, h2⟩ := go_run O d k s (fun _ => 0) h ho hn
  refine ⟨h1, ?_⟩
  rcases h2 with h2 | h2
  · have := h2.1; omega
  · have := h2.1; omega
theorem all_n {P : PG} {nc nf nd d f k e : Nat} {s : XS} (O : OkP nc nf nd P) (h : Sq P (Stq P d) f k e) (ho : s.o = 0) (hn : s.n ≤ 300) : (allX P (goX P d) f k e s).n ≤ 300 ∧ (allX P (goX P d) f k e s).o ≤ 1 := by
  obtain ⟨-, h1, h2⟩ := all_run (fun k hk => Stq.ne hk) (go_run O d) f k e s (fun _ => 0) h ho hn
  refine ⟨h1, ?_⟩
  rcases h2 with h2 | h2
  · have := h2.1; omega
  · have := h2.1; omega
/-- a step is gone -/
theorem st_call {g : GG} {mt : MT} {kc ks pc index d2 mc2 ms2 d9 b la k : Nat} {L : List (Option Value)} {rest : List Value} {σ : PH} {C : CS} {P : PG} {Z : Nat → Option va_E} {Q2 : Option Value → PH → Prop} {X2 : Addr → String → PH → Prop} (hZ : oZ C = Z) (hst : StZ g P Z d9 b k) (H : Hold g σ C) (d : decode mt.1.2.1 pc = .ok (.invokevirtual index, 3)) (q : Cond.methodLink mt.1.1 index miX10_go.1 ∈ lw_all) (hM : Ct g miX10_go d2 mc2 ms2 [.ref b, .ref la] σ Q2 X2) (hd : d2 + 1 ≤ mt.2.1.1) (hcat : (rest.map fun v => v.category).sum ≤ 8)
    (kk : ∀ (v : Option Value) (σ2 : PH), Q2 v σ2 → Wp g mt kc ks (pc + 3) L (v.toList ++ rest) σ2) (kx : ∀ (q : Addr) (E : String) (σ2 : PH), X2 q E σ2 → Tp g mt kc ks pc L rest q E σ2) : Wp g mt (kc + mc2) (ks + ms2) pc L (.ref la :: .ref b :: rest) σ := by
  subst hZ
  cases d9 with
  | zero => exact absurd hst id
  | succ d9 =>
    rcases hst with ⟨x, y, hz, -⟩ | ⟨arr, m, hb, -⟩
    · exact w_callU (mi := miX10_go) d q q1467 q1468 rfl okU_go clX14 hM hd (H.z hz) rfl rfl hcat kk kx
    · rcases hb with ⟨-, hz⟩ | ⟨-, x, z9, u, v, hz, -⟩
      · exact w_callU (mi := miX10_go) d q q1467 q1469 rfl okU_go clX12 hM hd (H.z hz) rfl rfl hcat kk kx
      · exact w_callU (mi := miX10_go) d q q1467 q1470 rfl okU_go clX13 hM hd (H.z hz) rfl rfl hcat kk kx
set_option maxHeartbeats 4000000 in
theorem all_c {g : GG} {P : PG} {V0 : VS} {d : Nat} (O : OkP (vs V0 0) (vs V0 1) (vs V0 2) P) (hG : GoC g P V0 d) : AllC g P V0 d := by
  intro C j la da b arr m k e s B OR hn ho0 hbk hS hQ
  obtain ⟨cap, f, hA, hm, hcap, hm60, he, hi⟩ := hS
  rcases hbk with ⟨x, hb⟩ | ⟨x1, x2, x3, x4, x5, hb⟩
  ·
    refine Cp.start [some (.ref b), some (.ref la), none] (by decide +kernel) rfl (Nat.le_of_ble_eq_true rfl) rfl ?_
    intro σ0 σ H F
    obtain ⟨fin, hfin⟩ : ∃ fin, allX P (goX P d) 61 k e s = fin := ⟨_, rfl⟩
    rw [hfin]
    refine w_iconst (v := nI 0) dX11_all_0 ki_0 ?_
    refine w_istore_n dX11_all_1 rfl (Nat.le_of_ble_eq_true rfl) ls_3_2 ?_
    have lp : ∀ (n i : Nat) (C1 : CS) (s1 : XS) (σ : PH), m - i < n → i ≤ m → LvOk g C1 j la da s1 → SL j C C1 → OkR V0 s1.R → s1.n ≤ 300 → s1.o ≤ 1 → allX P (goX P d) (61 - i) (itn P i k) e s1 = fin → Sq P (Stq P d) (61 - i) (itn P i k) e → Hold g σ C1 → Fr σ0 σ →
        Wp g (mtC g miX11_all (21 + 3 * d) (costC s.q fin.q) (costS s.q fin.q) σ0 none (fun C2 => LvOk g C2 j la da fin ∧ SL j C C2)) (costC s1.q fin.q) (costS s1.q fin.q) 2 [some (.ref b), some (.ref la), some (.int (nI i))] [] σ := by
      intro n
      induction n with
      | zero => intro i C1 s1 σ hmu; exact absurd hmu (Nat.not_lt_zero _)
      | succ n ih =>
        intro i C1 s1 σ hmu him B1 S1 O1 hn1 ho1 hal hsq H F
        have hz1 : oZ C1 = oZ C := S1.oz
        have hb1 : oZ C1 b = some (.inr (10, [.ref arr, .int (nI m), x])) := by rw [hz1]; exact hb
        have hA1 : oZ C1 arr = some (.inl (g.2.2.2 7, cap, .inr (.inr (.inr (.inr f))))) := by rw [hz1]; exact hA
        refine w_iload_n dX11_all_2 rfl ?_
        refine w_aload_n dX11_all_3 rfl ?_
        refine w_getf (k := 1) dX11_all_4 clX12 (by decide) q926 (H.z hb1) rfl ?_
        refine w_icmpN_ge dX11_all_7 rfl (by omega) (by omega) (fun h7 => ?_) (fun h7 => ?_)
        · have h8 : s1 = fin := by
            rw [← hal, show i = m by omega, he]
            exact (all_end _ _ _).symm
          exact w_vret dX11_all_33 rfl ⟨rfl, C1, ⟨by rw [← h8]; exact B1, S1⟩, H, F⟩
        · refine w_aload_n dX11_all_10 rfl ?_
          refine lvg (f := 7) (v := .int (nI s1.o)) dX11_all_11 (by decide) q1436 B1 H rfl ?_
          refine w_ifN_ne dX11_all_14 rfl (by omega) (fun h14 => ?_) (fun h14 => ?_)
          · have h8 : s1 = fin := by
              rw [← hal]
              exact (all_over _ _ _ _ h14).symm
            exact w_vret dX11_all_33 rfl ⟨rfl, C1, ⟨by rw [← h8]; exact B1, S1⟩, H, F⟩
          · have ho : s1.o = 0 := by omega
            refine w_aload_n dX11_all_17 rfl ?_
            refine w_getf (k := 0) dX11_all_18 clX12 (by decide) q925 (H.z hb1) rfl ?_
            refine w_iload_n dX11_all_21 rfl ?_
            obtain ⟨hlt, b2, hf2, hst⟩ := hi i (by omega)
            refine w_aaldN (k := 7) dX11_all_22 rfl (H.z hA1) (by omega) (by omega) ?_
            rw [hf2]
            refine w_aload_n dX11_all_23 rfl ?_
            have e61 : 61 - i = (60 - i) + 1 := by omega
            rw [e61] at hal hsq
            rw [allX, if_neg (by omega)] at hal
            obtain ⟨hs1, hs2, hs3, hs4⟩ : Stq P d (itn P i k) ∧ itn P i k < nxt P (itn P i k) ∧ nxt P (itn P i k) ≤ e ∧ Sq P (Stq P d) (60 - i) (nxt P (itn P i k)) e := by
              rcases hsq with h | h
              · omega
              · exact h
            have hgn := go_n (s := s1) O hs1 ho hn1
            have hca := cost_add (q1 := s1.q) (q2 := (goX P d (itn P i k) s1).q) (q3 := fin.q) (go_le P d _ s1) (by rw [← hal]; exact all_le (go_le P d) _ _ _ _)
            refine w_bud hca.1 hca.2 ?_
            refine st_call (rest := []) hz1 hst H dX11_all_24 q1465 (hG C1 j la da b2 (itn P i k) s1 B1 O1 hn1 ho (by rw [hz1]; exact hst) hs1 σ H) (Nat.le_of_eq (by show 20 + 3 * d + 1 = 21 + 3 * d; omega)) (Nat.le_of_ble_eq_true rfl) ?_ (fun _ _ _ hx => absurd hx id)
            rintro w σ2 ⟨rfl, C2, ⟨B2, S2⟩, H2, F2⟩
            refine w_iinc dX11_all_27 rfl (nI_inc _ 1) rfl (Nat.le_of_ble_eq_true rfl) ls_3_2 ?_
            refine w_goto dX11_all_30 rfl ?_
            exact ih (i + 1) C2 _ σ2 (by omega) (by omega) B2 (S1.trans S2) (go_ok O d _ _ hs1 O1) hgn.1 hgn.2 (by rw [itn_s, show 61 - (i + 1) = 60 - i by omega]; exact hal) (by rw [itn_s, show 61 - (i + 1) = 60 - i by omega]; exact hs4) H2 (F.trans F2)
    exact lp (m + 1) 0 C s σ (by omega) (by omega) B SL.refl OR hn (by omega) hfin hQ H F
  ·
    refine Cp.start [some (.ref b), some (.ref la), none] (by decide +kernel) rfl (Nat.le_of_ble_eq_true rfl) rfl ?_
    intro σ0 σ H F
    obtain ⟨fin, hfin⟩ : ∃ fin, allX P (goX P d) 61 k e s = fin := ⟨_, rfl⟩
    rw [hfin]
    refine w_iconst (v := nI 0) dX11_all_0 ki_0 ?_
    refine w_istore_n dX11_all_1 rfl (Nat.le_of_ble_eq_true rfl) ls_3_2 ?_
    have lp : ∀ (n i : Nat) (C1 : CS) (s1 : XS) (σ : PH), m - i < n → i ≤ m → LvOk g C1 j la da s1 → SL j C C1 → OkR V0 s1.R → s1.n ≤ 300 → s1.o ≤ 1 → allX P (goX P d) (61 - i) (itn P i k) e s1 = fin → Sq P (Stq P d) (61 - i) (itn P i k) e → Hold g σ C1 → Fr σ0 σ →
        Wp g (mtC g miX11_all (21 + 3 * d) (costC s.q fin.q) (costS s.q fin.q) σ0 none (fun C2 => LvOk g C2 j la da fin ∧ SL j C C2)) (costC s1.q fin.q) (costS s1.q fin.q) 2 [some (.ref b), some (.ref la), some (.int (nI i))] [] σ := by
      intro n
      induction n with
      | zero => intro i C1 s1 σ hmu; exact absurd hmu (Nat.not_lt_zero _)
      | succ n ih =>
        intro i C1 s1 σ hmu him B1 S1 O1 hn1 ho1 hal hsq H F
        have hz1 : oZ C1 = oZ C := S1.oz
        have hb1 : oZ C1 b = some (.inr (11, [.ref arr, .int (nI m), x1, x2, x3, x4, x5])) := by rw [hz1]; exact hb
        have hA1 : oZ C1 arr = some (.inl (g.2.2.2 7, cap, .inr (.inr (.inr (.inr f))))) := by rw [hz1]; exact hA
        refine w_iload_n dX11_all_2 rfl ?_
        refine w_aload_n dX11_all_3 rfl ?_
        refine w_getf (k := 1) dX11_all_4 clX13 (by decide) q926 (H.z hb1) rfl ?_
        refine w_icmpN_ge dX11_all_7 rfl (by omega) (by omega) (fun h7 => ?_) (fun h7 => ?_)
        · have h8 : s1 = fin := by
            rw [← hal, show i = m by omega, he]
            exact (all_end _ _ _).symm
          exact w_vret dX11_all_33 rfl ⟨rfl, C1, ⟨by rw [← h8]; exact B1, S1⟩, H, F⟩
        · refine w_aload_n dX11_all_10 rfl ?_
          refine lvg (f := 7) (v := .int (nI s1.o)) dX11_all_11 (by decide) q1436 B1 H rfl ?_
          refine w_ifN_ne dX11_all_14 rfl (by omega) (fun h14 => ?_) (fun h14 => ?_)
          · have h8 : s1 = fin := by
              rw [← hal]
              exact (all_over _ _ _ _ h14).symm
            exact w_vret dX11_all_33 rfl ⟨rfl, C1, ⟨by rw [← h8]; exact B1, S1⟩, H, F⟩
          · have ho : s1.o = 0 := by omega
            refine w_aload_n dX11_all_17 rfl ?_
            refine w_getf (k := 0) dX11_all_18 clX13 (by decide) q925 (H.z hb1) rfl ?_
            refine w_iload_n dX11_all_21 rfl ?_
            obtain ⟨hlt, b2, hf2, hst⟩ := hi i (by omega)
            refine w_aaldN (k := 7) dX11_all_22 rfl (H.z hA1) (by omega) (by omega) ?_
            rw [hf2]
            refine w_aload_n dX11_all_23 rfl ?_
            have e61 : 61 - i = (60 - i) + 1 := by omega
            rw [e61] at hal hsq
            rw [allX, if_neg (by omega)] at hal
            obtain ⟨hs1, hs2, hs3, hs4⟩ : Stq P d (itn P i k) ∧ itn P i k < nxt P (itn P i k) ∧ nxt P (itn P i k) ≤ e ∧ Sq P (Stq P d) (60 - i) (nxt P (itn P i k)) e := by
              rcases hsq with h | h
              · omega
              · exact h
            have hgn := go_n (s := s1) O hs1 ho hn1
            have hca := cost_add (q1 := s1.q) (q2 := (goX P d (itn P i k) s1).q) (q3 := fin.q) (go_le P d _ s1) (by rw [← hal]; exact all_le (go_le P d) _ _ _ _)
            refine w_bud hca.1 hca.2 ?_
            refine st_call (rest := []) hz1 hst H dX11_all_24 q1465 (hG C1 j la da b2 (itn P i k) s1 B1 O1 hn1 ho (by rw [hz1]; exact hst) hs1 σ H) (Nat.le_of_eq (by show 20 + 3 * d + 1 = 21 + 3 * d; omega)) (Nat.le_of_ble_eq_true rfl) ?_ (fun _ _ _ hx => absurd hx id)
            rintro w σ2 ⟨rfl, C2, ⟨B2, S2⟩, H2, F2⟩
            refine w_iinc dX11_all_27 rfl (nI_inc _ 1) rfl (Nat.le_of_ble_eq_true rfl) ls_3_2 ?_
            refine w_goto dX11_all_30 rfl ?_
            exact ih (i + 1) C2 _ σ2 (by omega) (by omega) B2 (S1.trans S2) (go_ok O d _ _ hs1 O1) hgn.1 hgn.2 (by rw [itn_s, show 61 - (i + 1) = 60 - i by omega]; exact hal) (by rw [itn_s, show 61 - (i + 1) = 60 - i by omega]; exact hs4) H2 (F.trans F2)
    exact lp (m + 1) 0 C s σ (by omega) (by omega) B SL.refl OR hn (by omega) hfin hQ H F
set_option maxHeartbeats 4000000 in
theorem loop_does {g : GG} {P : PG} {V0 : VS} {d : Nat} (O : OkP (vs V0 0) (vs V0 1) (vs V0 2) P) (hA : AllC g P V0 d) {C : CS} {j la da b arr m k e t : Nat} {s : XS} (B : LvOk g C j la da s) (OR : OkR V0 s.R) (hn : s.n ≤ 300) (ho0 : s.o = 0) (hb : oZ C b = some (.inr (10, [.ref arr, .int (nI m), .int (nI t)]))) (ht : t < 1000) (hS : StsZ g P (oZ C) (StZ g P (oZ C) d) arr m k e) (hQ : Sq P (Stq P d) 61 k e) : Cp g miX12_does (22 + 3 * d) (costC s.q (repX (allX P (goX P d) 61 k e) t s).q) (costS s.q (repX (allX P (goX P d) 61 k e) t s).q) [.ref b, .ref la] C none (fun C2 => LvOk g C2 j la da (repX (allX P (goX P d) 61 k e) t s) ∧ SL j C C2) := by
  refine Cp.start [some (.ref b), some (.ref la), none] (by decide +kernel) rfl (Nat.le_of_ble_eq_true rfl) rfl ?_
  intro σ0 σ H F
  obtain ⟨fin, hfin⟩ : ∃ fin, repX (allX P (goX P d) 61 k e) t s = fin := ⟨_, rfl⟩
  rw [hfin]
  refine w_iconst (v := nI 0) dX12_does_0 ki_0 ?_
  refine w_istore_n dX12_does_1 rfl (Nat.le_of_ble_eq_true rfl) ls_3_2 ?_
  have lp : ∀ (n i : Nat) (C1 : CS) (s1 : XS) (σ : PH), t - i < n → i ≤ t → LvOk g C1 j la da s1 → SL j C C1 → OkR V0 s1.R → s1.n ≤ 300 → s1.o ≤ 1 → repX (allX P (goX P d) 61 k e) (t - i) s1 = fin → Hold g σ C1 → Fr σ0 σ →
      Wp g (mtC g miX12_does (22 + 3 * d) (costC s.q fin.q) (costS s.q fin.q) σ0 none (fun C2 => LvOk g C2 j la da fin ∧ SL j C C2)) (costC s1.q fin.q) (costS s1.q fin.q) 2 [some (.ref b), some (.ref la), some (.int (nI i))] [] σ := by
    intro n
    induction n with
    | zero => intro i C1 s1 σ hmu; exact absurd hmu (Nat.not_lt_zero _)
    | succ n ih =>
      intro i C1 s1 σ hmu him B1 S1 O1 hn1 ho1 hal H F
      have hz1 : oZ C1 = oZ C := S1.oz
      have hb1 : oZ C1 b = some (.inr (10, [.ref arr, .int (nI m), .int (nI t)])) := by rw [hz1]; exact hb
      refine w_iload_n dX12_does_2 rfl ?_
      refine w_aload_n dX12_does_3 rfl ?_
      refine w_getf (k := 2) dX12_does_4 clX12 (by decide) q924 (H.z hb1) rfl ?_
      refine w_icmpN_ge dX12_does_7 rfl (by omega) (by omega) (fun h7 => ?_) (fun h7 => ?_)
      · have h8 : s1 = fin := by
          rw [← hal, show t - i = 0 by omega]
          rfl
        exact w_vret dX12_does_28 rfl ⟨rfl, C1, ⟨by rw [← h8]; exact B1, S1⟩, H, F⟩
      · refine w_aload_n dX12_does_10 rfl ?_
        refine lvg (f := 7) (v := .int (nI s1.o)) dX12_does_11 (by decide) q1434 B1 H rfl ?_
        refine w_ifN_ne dX12_does_14 rfl (by omega) (fun h14 => ?_) (fun h14 => ?_)
        · have h8 : s1 = fin := by
            rw [← hal]
            exact (rep_over _ _ h14).symm
          exact w_vret dX12_does_28 rfl ⟨rfl, C1, ⟨by rw [← h8]; exact B1, S1⟩, H, F⟩
        · have ho : s1.o = 0 := by omega
          refine w_aload_n dX12_does_17 rfl ?_
          refine w_aload_n dX12_does_18 rfl ?_
          rw [show t - i = (t - (i + 1)) + 1 by omega, repX, if_neg (by omega)] at hal
          have hgn := all_n (s := s1) O hQ ho hn1
          have hca := cost_add (q1 := s1.q) (q2 := (allX P (goX P d) 61 k e s1).q) (q3 := fin.q) (all_le (go_le P d) _ _ _ s1) (by rw [← hal]; exact rep_le (fun s2 => all_le (go_le P d) _ _ _ s2) _ _)
          refine w_bud hca.1 hca.2 ?_
          refine w_callU (mi := miX11_all) (x := ⟨"LastPebble$Loop", "all", "(LLastPebble$Living;)V"⟩) (owner := "LastPebble$Block") (As := [.ref la]) (rest := []) dX12_does_19 q1506 q1460 q1462 rfl okU_all clX12 (hA C1 j la da b arr m k e s1 B1 O1 hn1 ho (Or.inl ⟨_, hb1⟩) (by rw [hz1]; exact hS) hQ σ H) (Nat.le_of_eq (by show 21 + 3 * d + 1 = 22 + 3 * d; omega)) (H.z hb1) rfl rfl (Nat.le_of_ble_eq_true rfl) ?_ (fun _ _ _ hx => absurd hx id)
          rintro w σ2 ⟨rfl, C2, ⟨B2, S2⟩, H2, F2⟩
          refine w_iinc dX12_does_22 rfl (nI_inc _ 1) rfl (Nat.le_of_ble_eq_true rfl) ls_3_2 ?_
          refine w_goto dX12_does_25 rfl ?_
          exact ih (i + 1) C2 _ σ2 (by omega) (by omega) B2 (S1.trans S2) (all_ok (go_ok O d) _ _ _ _ hQ O1) hgn.1 hgn.2 hal H2 (F.trans F2)
  exact lp (t + 1) 0 C s σ (by omega) (by omega) B SL.refl OR hn (by omega) hfin H F
set_option maxHeartbeats 4000000 in
theorem when_does {g : GG} {P : PG} {V0 : VS} {d : Nat} (O : OkP (vs V0 0) (vs V0 1) (vs V0 2) P) (hA : AllC g P V0 d) {C : CS} {j la da b arr m k e n9 k9 : Nat} {r : Nat → Nat} {x z9 u v : Int32} {s : XS} (B : LvOk g C j la da s) (OR : OkR V0 s.R) (hn : s.n ≤ 300) (ho0 : s.o = 0) (OW : OkRow (vs V0 0) (vs V0 1) (vs V0 2) n9 k9 r) (hz : oZ C b = some (.inr (11, [.ref arr, .int (nI m), .int (nI (hW (r 0))), .int x, .int z9, .int u, .int v]))) (hk : r 0 = 2428 ∨ r 0 = 2415 ∨ r 0 = 2429) (h28 : r 0 = 2428 → x = nI (r 1) ∧ u = nI (r 5) ∧ v = nI (r 2)) (h15 : r 0 = 2415 → x = nI (r 1) ∧ z9 = nI (r 2)) (h29 : r 0 = 2429 → z9 = nI (r 1)) (hS : StsZ g P (oZ C) (StZ g P (oZ C) d) arr m k e) (hQ : Sq P (Stq P d) 61 k e) : Cp g miX13_does (22 + 3 * d) (costC s.q (if hD s.R.1 r = 0 then s else allX P (goX P d) 61 k e s).q) (costS s.q (if hD s.R.1 r = 0 then s else allX P (goX P d) 61 k e s).q) [.ref b, .ref la] C none (fun C2 => LvOk g C2 j la da (if hD s.R.1 r = 0 then s else allX P (goX P d) 61 k e s) ∧ SL j C C2) := by
  obtain ⟨-, -, -, -, -, -, -, w28, w15, w29, -⟩ := OW
  obtain ⟨K, -, hdb, e0, e1, e2⟩ := id OR
  refine Cp.start [some (.ref b), some (.ref la)] (by decide +kernel) rfl (Nat.le_of_ble_eq_true rfl) rfl ?_
  intro σ0 σ H F
  refine w_aload_n dX13_does_0 rfl ?_
  refine w_aload_n dX13_does_1 rfl ?_
  refine lvg (f := 0) (v := .ref da) dX13_does_2 (by decide) q1422 B H rfl ?_
  refine cr_call (mi := miX13_is) dX13_does_5 q1510 okX13_is clX13 rfl (H.z hz) (Nat.le_trans (Nat.le_of_ble_eq_true (m := 22) rfl) (by show 22 ≤ 22 + 3 * d; omega)) (vX13_is B K hz hk h28 h15 h29 (fun h => by have := w28 h; omega) (fun h => by have := w15 h; omega) (fun h => by have := w29 h; omega)) H rfl rfl (Nat.le_of_ble_eq_true rfl) ?_
  have hd2 : hD s.R.1 r = 0 ∨ hD s.R.1 r = 1 := by
    unfold hD
    repeat' split
    all_goals first | exact Or.inl rfl | exact Or.inr rfl
  refine w_ifB_eq dX13_does_8 rfl (fun h8 => ?_) (fun h8 => ?_)
  · have h0 : hD s.R.1 r = 0 := by omega
    rw [if_pos h0]
    exact w_vret dX13_does_16 rfl ⟨rfl, C, ⟨B, SL.refl⟩, H, F⟩
  · have h1 : ¬ hD s.R.1 r = 0 := by omega
    rw [if_neg h1]
    refine w_aload_n dX13_does_11 rfl ?_
    refine w_aload_n dX13_does_12 rfl ?_
    refine w_bud (Nat.le_of_eq (Nat.zero_add _)) (Nat.le_of_eq (Nat.zero_add _)) ?_
    refine w_callU (mi := miX11_all) (x := ⟨"LastPebble$When", "all", "(LLastPebble$Living;)V"⟩) (owner := "LastPebble$Block") (As := [.ref la]) (rest := []) dX13_does_13 q1517 q1518 q1519 rfl okU_all clX13 (hA C j la da b arr m k e s B OR hn ho0 (Or.inr ⟨_, _, _, _, _, hz⟩) hS hQ σ H) (Nat.le_of_eq (by show 21 + 3 * d + 1 = 22 + 3 * d; omega)) (H.z hz) rfl rfl (Nat.le_of_ble_eq_true rfl) ?_ (fun _ _ _ hx => absurd hx id)
    rintro w σ2 ⟨rfl, C2, ⟨B2, S2⟩, H2, F2⟩
    exact w_vret dX13_does_16 rfl ⟨rfl, C2, ⟨B2, S2⟩, H2, F.trans F2⟩
set_option maxHeartbeats 4000000 in
theorem go_c {g : GG} {P : PG} {V0 : VS} {d : Nat} (O : OkP (vs V0 0) (vs V0 1) (vs V0 2) P) (hA : AllC g P V0 d) : GoC g P V0 (d + 1) := by
  intro C j la da a k s B OR hn ho hst hsp
  obtain ⟨hk, h26, hblk⟩ := hsp
  have OW := O.2 k hk
  refine Cp.start [some (.ref a), some (.ref la)] (by decide +kernel) rfl (Nat.le_of_ble_eq_true rfl) rfl ?_
  intro σ0 σ H F
  rw [goX]
  refine w_aload_n dX10_go_0 rfl ?_
  refine lvg (f := 2) (v := .int (nI s.n)) dX10_go_1 (by decide) q1424 B H rfl ?_
  refine w_sipush (v := nI 300) dX10_go_4 ks_300 ?_
  refine w_icmpN_ne dX10_go_7 rfl (by omega) (by omega) (fun h7 => ?_) (fun h7 => ?_)
  · have hn2 : s.n < 300 := by omega
    rw [if_neg (by omega)]
    refine w_aload_n dX10_go_21 rfl ?_
    refine w_dup dX10_go_22 rfl ?_
    refine lvg (f := 2) (v := .int (nI s.n)) dX10_go_23 (by decide) q1424 B H rfl ?_
    refine w_iconst (v := nI 1) dX10_go_26 ki_1 ?_
    refine w_iaddN dX10_go_27 ?_
    refine lvp (f := 2) (s := s) (s.R, s.q, s.n + 1, s.o) dX10_go_28 (by decide) q1424 rfl rfl rfl B H F rfl rfl rfl ?_
    intro σ C1 B1 S1 H F
    have hz1 : oZ C1 = oZ C := S1.oz
    refine w_aload_n dX10_go_31 rfl ?_
    refine w_aload_n dX10_go_32 rfl ?_
    rw [← hz1] at hst
    rcases hst with hact | ⟨arr, m, hb, hS⟩
    · obtain ⟨x, y, hz, hp, hxy, hy⟩ := id hact
      have e9 : (if pr P k 0 = 27 then (s.R, s.q, s.n + 1, 1) else if pr P k 0 = 25 then repX (allX P (goX P d) 61 (k + 1) (pr P k 4)) (pr P k 1) (s.R, s.q, s.n + 1, s.o) else if 2400 ≤ pr P k 0 then (if hD s.R.1 (pr P k) = 0 then (s.R, s.q, s.n + 1, s.o) else allX P (goX P d) 61 (k + 1) (pr P k 4) (s.R, s.q, s.n + 1, s.o)) else (upC (doD s.R (pr P k)) 0 (fD s.R.1 (pr P k)), capX s.R s.q (pr P k), s.n + 1, s.o)) = (if pr P k 0 = 27 then (s.R, s.q, s.n + 1, 1) else (upC (doD s.R (pr P k)) 0 (fD s.R.1 (pr P k)), capX s.R s.q (pr P k), s.n + 1, s.o)) := by
        by_cases z : pr P k 0 = 27
        · rw [if_pos z, if_pos z]
        · unfold isPl at hp
          rw [if_neg z, if_neg z, if_neg (by omega), if_neg (by omega)]
      rw [e9]
      have hc := vX14_does (s := (s.R, s.q, s.n + 1, s.o)) B1 OR OW hact
      have e8 : (if pr P k 0 = 27 then (s.R, s.q, s.n + 1, 1) else (upC (doD s.R (pr P k)) 0 (fD s.R.1 (pr P k)), capX s.R s.q (pr P k), s.n + 1, s.o) : XS).q = capX s.R s.q (pr P k) := by
        by_cases z : pr P k 0 = 27
        · rw [if_pos z, capX, if_neg (by omega), if_neg (by omega)]
        · rw [if_neg z]
      rw [e8]
      refine w_bud (Nat.le_of_eq (Nat.zero_add _)) (Nat.le_of_eq (Nat.zero_add _)) ?_
      refine w_callA (mi := miX14_does) (x := ⟨"LastPebble$Step", "does", "(LLastPebble$Living;)V"⟩) (owner := "LastPebble$Step") (As := [.ref la]) (rest := []) dX10_go_33 q1472 q1474 q1475 q1473 ⟨by decide +kernel, by decide +kernel⟩ rfl okU_doesX14 clX14 (hc σ H) (by show _ + 1 ≤ 20 + 3 * (d + 1); omega) (H.z hz) rfl rfl (Nat.le_of_ble_eq_true rfl) ?_ (fun _ _ _ hx => absurd hx id)
      rintro w σ2 ⟨rfl, C2, ⟨B2, S2⟩, H2, F2⟩
      exact w_vret dX10_go_36 rfl ⟨rfl, C2, ⟨B2, S1.trans S2⟩, H2, F.trans F2⟩
    · rcases hb with ⟨h25, hz⟩ | ⟨h24, x, z9, u, v, hz, h28, h15, h29⟩
      · have hq := (hblk (Or.inl h25)).2.2.2.2
        have ok := OW.2.2.2.2.2.2.2.2.2.2.1 h25
        rw [if_neg (by omega), if_pos h25]
        have hc := loop_does O hA (s := (s.R, s.q, s.n + 1, s.o)) (t := pr P k 1) B1 OR (by show s.n + 1 ≤ 300; omega) ho hz (by omega) hS hq
        refine w_bud (Nat.le_of_eq (Nat.zero_add _)) (Nat.le_of_eq (Nat.zero_add _)) ?_
        refine w_callA (mi := miX12_does) (x := ⟨"LastPebble$Step", "does", "(LLastPebble$Living;)V"⟩) (owner := "LastPebble$Step") (As := [.ref la]) (rest := []) dX10_go_33 q1472 q1474 q1503 q1473 ⟨by decide +kernel, by decide +kernel⟩ rfl okU_doesX12 clX12 (hc σ H) (by show _ + 1 ≤ 20 + 3 * (d + 1); omega) (H.z hz) rfl rfl (Nat.le_of_ble_eq_true rfl) ?_ (fun _ _ _ hx => absurd hx id)
        rintro w σ2 ⟨rfl, C2, ⟨B2, S2⟩, H2, F2⟩
        exact w_vret dX10_go_36 rfl ⟨rfl, C2, ⟨B2, S1.trans S2⟩, H2, F.trans F2⟩
      · have hq := (hblk (Or.inr (by omega))).2.2.2.2
        rw [if_neg (by omega), if_neg (by omega), if_pos (by omega)]
        have hc := when_does O hA (s := (s.R, s.q, s.n + 1, s.o)) B1 OR (by show s.n + 1 ≤ 300; omega) ho OW hz h24 h28 h15 h29 hS hq
        refine w_bud (Nat.le_of_eq (Nat.zero_add _)) (Nat.le_of_eq (Nat.zero_add _)) ?_
        refine w_callA (mi := miX13_does) (x := ⟨"LastPebble$Step", "does", "(LLastPebble$Living;)V"⟩) (owner := "LastPebble$Step") (As := [.ref la]) (rest := []) dX10_go_33 q1472 q1474 q1507 q1473 ⟨by decide +kernel, by decide +kernel⟩ rfl okU_doesX13 clX13 (hc σ H) (by show _ + 1 ≤ 20 + 3 * (d + 1); omega) (H.z hz) rfl rfl (Nat.le_of_ble_eq_true rfl) ?_ (fun _ _ _ hx => absurd hx id)
        rintro w σ2 ⟨rfl, C2, ⟨B2, S2⟩, H2, F2⟩
        exact w_vret dX10_go_36 rfl ⟨rfl, C2, ⟨B2, S1.trans S2⟩, H2, F.trans F2⟩
  · have hn2 : s.n = 300 := by omega
    rw [if_pos hn2]
    refine w_aload_n dX10_go_10 rfl ?_
    refine w_iconst (v := nI 1) dX10_go_11 ki_1 ?_
    refine lvp (f := 7) (s := s) (s.R, s.q, s.n, 1) dX10_go_12 (by decide) q1437 rfl narr1 fitz1 B H F rfl rfl rfl ?_
    intro σ C1 B1 S1 H F
    refine w_aload_n dX10_go_15 rfl ?_
    refine w_iconst (v := nI 1) dX10_go_16 ki_1 ?_
    refine lvp (f := 8) (s := (s.R, s.q, s.n, 1)) ((s.R.1, s.R.2.1, va_up s.R.2.2 4 1), s.q, s.n, 1) dX10_go_17 (by decide) q1438 rfl narr1 fitz1 B1 H F rfl rfl rfl ?_
    intro σ C2 B2 S2 H F
    exact w_vret dX10_go_20 rfl ⟨rfl, C2, ⟨B2, S1.trans S2⟩, H, F⟩
theorem go_all {g : GG} {P : PG} {V0 : VS} (O : OkP (vs V0 0) (vs V0 1) (vs V0 2) P) : ∀ d, AllC g P V0 d
  | 0 => all_c O (fun C j la da a k s _ _ _ _ h _ => absurd h id)
  | d + 1 => all_c O (go_c O (go_all O d))
