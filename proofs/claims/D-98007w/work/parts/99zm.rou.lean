set_option maxRecDepth 100000
/-! X.round, bestOf (printed by gen/rou.py) -/
def p8 (u : Nat) : Nat := ((u >>> 0) &&& 1) + ((u >>> 1) &&& 1) + ((u >>> 2) &&& 1) + ((u >>> 3) &&& 1) + ((u >>> 4) &&& 1) + ((u >>> 5) &&& 1) + ((u >>> 6) &&& 1) + ((u >>> 7) &&& 1)
theorem p8_up : ∀ u, u < 256 → ∀ k, k < 8 → ¬ (u >>> k) &&& 1 = 1 → (u ||| 2 ^ k) < 256 ∧ p8 (u ||| 2 ^ k) = p8 u + 1 := by decide +kernel
theorem p8_le : ∀ u, u < 256 → p8 u ≤ 8 := by decide +kernel
theorem bwI {b w : Nat} (hb : b ≤ 10000) (hw : w ≤ 10000) : (nI b - nI 1 < nI w ↔ b < w + 1) ∧ (nI w = nI b - nI 1 ↔ b = w + 1) := by
  cases b with
  | zero =>
    have h1 : nI 0 - nI 1 = -1 := by decide +kernel
    rw [h1]
    have h2 : (0 : Int32) ≤ nI w := Int32.not_lt.mp (nI_pos (by omega))
    refine ⟨⟨fun _ => by omega, fun _ => ?_⟩, ⟨fun h => ?_, fun h => by omega⟩⟩
    · rw [Int32.lt_iff_toInt_lt]
      have h3 := Int32.le_iff_toInt_le.mp h2
      have e1 : (-1 : Int32).toInt = -1 := by decide
      have e0 : (0 : Int32).toInt = 0 := by decide
      omega
    · rw [h] at h2
      exact absurd h2 (by decide)
  | succ b =>
    rw [pk_sub (by omega), Nat.add_sub_cancel]
    exact ⟨by rw [nI_ltI (by omega) (by omega)]; omega, by rw [nI_eq (by omega) (by omega)]; omega⟩
/-- the component holds the best round so far -/
def EncBst (C : CS) (b : Bst) : Prop := oI C 0 30 17 = nI b.1 - nI 1 ∧ oI C 0 30 16 = nI b.2.1 ∧ b.1 ≤ 8000 ∧ b.2.1 ≤ 8 ∧ ∀ i, i < b.2.1 → oA C 0 14 i = nI (b.2.2 i)
/-- but the best round and the row nothing has changed -/
def RoR (C C2 : CS) : Prop := od C2 = od C ∧ (∀ k j f, ¬ (k = 0 ∧ j = 30 ∧ (f = 16 ∨ f = 17)) → oI C2 k j f = oI C k j f) ∧ (∀ k j, ¬ (k = 0 ∧ (j = 13 ∨ j = 14)) → oA C2 k j = oA C k j) ∧ oN C2 = oN C ∧ oL C2 = oL C ∧ oB C2 = oB C ∧ oP C2 = oP C ∧ oO C2 = oO C ∧ oT C2 = oT C ∧ oM C2 = oM C ∧ oZ C2 = oZ C
section ROR
variable {g : GG} {C C2 C3 : CS} {j : Nat} {V : VS} {q : Nat → Nat}
theorem RoR.refl : RoR C C := ⟨rfl, fun _ _ _ _ => rfl, fun _ _ _ => rfl, rfl, rfl, rfl, rfl, rfl, rfl, rfl, rfl⟩
theorem RoR.trans (h : RoR C C2) (k : RoR C2 C3) : RoR C C3 := by
  obtain ⟨a1, a2, a3, a4, a5, a6, a7, a8, a9, a10, a11⟩ := h
  obtain ⟨b1, b2, b3, b4, b5, b6, b7, b8, b9, b10, b11⟩ := k
  exact ⟨b1.trans a1, fun x y z u => (b2 x y z u).trans (a2 x y z u), fun x y u => (b3 x y u).trans (a3 x y u), b4.trans a4, b5.trans a5, b6.trans a6, b7.trans a7, b8.trans a8, b9.trans a9, b10.trans a10, b11.trans a11⟩
theorem RoR.o (h : RoR C C2) (a : Nat) : oO C2 a = oO C a := by rw [h.2.2.2.2.2.2.2.1]
theorem RoR.E (h : RoR C C2) (E : EncD g C j V q) : EncD g C2 j V q := by
  obtain ⟨a1, a2, a3, a4, a5, a6, a7, a8, a9, a10, a11⟩ := h
  exact E.eq (by rw [a6]) a11 (funext fun f => a2 3 j f (by omega)) (fun k h1 h2 => a3 k j (by omega)) (fun d hd => funext fun f => a2 5 _ f (by omega)) (fun k d hk hd => ⟨a3 k _ (by omega), by rw [a4]⟩)
theorem RoR.I {f : Nat} {v : Int32} (hf : f = 16 ∨ f = 17) : RoR C (uI C 0 30 f v) := ⟨rfl, fun k j i h => oI_ne C v (fun x y z => h ⟨x, y, by omega⟩), fun _ _ _ => rfl, rfl, rfl, rfl, rfl, rfl, rfl, rfl, rfl⟩
theorem RoR.F {F : Nat → Int32} : RoR C (uF C 0 14 F) := ⟨rfl, fun _ _ _ _ => rfl, fun k j h => oA_F2 C F (fun x y => h ⟨x, Or.inr y⟩), rfl, rfl, rfl, rfl, rfl, rfl, rfl, rfl⟩
theorem RoR.A {i : Nat} {v : Int32} : RoR C (uA C 0 13 i v) := ⟨rfl, fun _ _ _ _ => rfl, fun k j h => oA_ne2 C v (fun x y => h ⟨x, Or.inl y⟩), rfl, rfl, rfl, rfl, rfl, rfl, rfl, rfl⟩
end ROR
/-- the better round is noted -/
theorem EncBst.new {C : CS} {b : Bst} {w n : Nat} {row : Nat → Nat} (hw : w ≤ 7992) (hn : n ≤ 8) (hr : ∀ i, i < n → oA C 0 13 i = nI (row i)) (h : b.1 < w + 1 ∨ (b.1 = w + 1 ∧ n < b.2.1)) : EncBst (uF (uI (uI C 0 30 17 (nI w)) 0 30 16 (nI n)) 0 14 (va_cpy (oA C 0 13) (oA C 0 14) 0 0 n)) (bet b w n row) := by
  unfold bet
  rw [if_pos h]
  refine ⟨?_, oI_eq (uI C 0 30 17 (nI w)) 0 30 16 _, (show w + 1 ≤ 8000 by omega), hn, fun i hi => ?_⟩
  · show oI (uI (uI C 0 30 17 (nI w)) 0 30 16 (nI n)) 0 30 17 = nI (w + 1) - nI 1
    rw [oI_ne _ _ (fun _ _ z => by omega), oI_eq, pk_sub (by omega), Nat.add_sub_cancel]
  · have hi2 : i < n := hi
    show oA (uF (uI (uI C 0 30 17 (nI w)) 0 30 16 (nI n)) 0 14 (va_cpy (oA C 0 13) (oA C 0 14) 0 0 n)) 0 14 i = nI (if i < n then row i else 0)
    rw [oA_F, if_pos hi2, ← hr i hi2]
    unfold va_cpy
    rw [if_pos (by omega)]
    congr 1
    omega
theorem EncBst.old {C : CS} {b : Bst} {w n : Nat} {row : Nat → Nat} (B : EncBst C b) (h : ¬ (b.1 < w + 1 ∨ (b.1 = w + 1 ∧ n < b.2.1))) : EncBst C (bet b w n row) := by
  unfold bet
  rw [if_neg h]
  exact B
def RoC (g : GG) (V : VS) (f td d j : Nat) : Prop := ∀ (C : CS) (q : Nat → Nat) (c m u n w : Nat) (row : Nat → Nat) (b : Bst), n + j = 9 → oO C 0 = true → oO C 0 = true → EncD g C 0 V q → c < 1000 → m ≤ 600 → u < 256 → p8 u = n → w ≤ 999 * n → EncBst C b → (∀ i, i < n → oA C 0 13 i = nI (row i)) → Cp g miX0_round d 0 0 [.ref (od C 0 30), .int (nI f), .int (nI c), .int (nI m), .int (nI td), .int (nI u), .int (nI n), .int (nI w)] C none (fun C2 => EncBst C2 (rdG V f td j c m u n w row b) ∧ RoR C C2 ∧ ∀ i, i < n → oA C2 0 13 i = oA C 0 13 i)
set_option maxHeartbeats 4000000 in
theorem round_head {g : GG} {C : CS} {σ σ0 : PH} {mt2 : Option Value} {f c m td u n w j : Nat} {row : Nat → Nat} {b : Bst} {Q : CS → Prop} (hx : oO C 0 = true) (hn8 : n ≤ 8) (hw8 : w ≤ 7992) (B : EncBst C b) (hrow : ∀ i, i < n → oA C 0 13 i = nI (row i)) (H : Hold g σ C) (F : Fr σ0 σ) (kk : ∀ (σ : PH) (C2 : CS), EncBst C2 (bet b w n row) → RoR C C2 → (∀ i, i < n → oA C2 0 13 i = oA C 0 13 i) → od C2 = od C → Hold g σ C2 → Fr σ0 σ → Wp g (mtC g miX0_round (j + 4) 0 0 σ0 mt2 Q) 0 0 54 [some (.ref (od C 0 30)), some (.int (nI f)), some (.int (nI c)), some (.int (nI m)), some (.int (nI td)), some (.int (nI u)), some (.int (nI n)), some (.int (nI w)), none, none] [] σ) : Wp g (mtC g miX0_round (j + 4) 0 0 σ0 mt2 Q) 0 0 0 [some (.ref (od C 0 30)), some (.int (nI f)), some (.int (nI c)), some (.int (nI m)), some (.int (nI td)), some (.int (nI u)), some (.int (nI n)), some (.int (nI w)), none, none] [] σ := by
  have hB1 := B.2.2.1
  have hB2 := B.2.2.2.1
  have hb1 := bwI (b := b.1) (w := w) (by omega) (by omega)
  refine w_iload dX0_round_0 rfl ?_
  refine w_aload_n dX0_round_2 rfl ?_
  refine gX0_376 (C := C) dX0_round_3 rfl hx H ?_
  rw [B.1]
  refine w_icmp_gt dX0_round_6 rfl (fun h_6 => ?_) (fun h_6 => ?_)
  · refine w_aload_n dX0_round_27 rfl ?_
    refine w_iload dX0_round_28 rfl ?_
    refine pX0_376 (C := C) dX0_round_30 rfl hx H F ?_
    intro σ H F
    refine w_aload_n dX0_round_33 rfl ?_
    refine w_iload dX0_round_34 rfl ?_
    refine pX0_379 (C := uI (C) 0 30 17 _) dX0_round_36 rfl hx H F ?_
    intro σ H F
    refine w_aload_n dX0_round_39 rfl ?_
    refine gX0_63 (C := uI (uI (C) 0 30 17 _) 0 30 16 _) dX0_round_40 rfl hx H ?_
    refine w_iconst (v := nI 0) dX0_round_43 ki_0 ?_
    refine w_aload_n dX0_round_44 rfl ?_
    refine gX0_66 (C := uI (uI (C) 0 30 17 _) 0 30 16 _) dX0_round_45 rfl hx H ?_
    refine w_iconst (v := nI 0) dX0_round_48 ki_0 ?_
    refine w_iload dX0_round_49 rfl ?_
    refine c_copy (C := uI (uI C 0 30 17 (nI w)) 0 30 16 (nI n)) (uF (uI (uI C 0 30 17 (nI w)) 0 30 16 (nI n)) 0 14 (va_cpy (oA C 0 13) (oA C 0 14) 0 0 n)) (k0 := 0) (j0 := 13) (k := 0) (j := 14) (n0 := 8) (n1 := 8) (n := n) (f0 := oA C 0 13) (f1 := oA C 0 14) dX0_round_51 q649 (ce_r13 (C := uI (uI C 0 30 17 (nI w)) 0 30 16 (nI n)) hx) (ce_r14 (C := uI (uI C 0 30 17 (nI w)) 0 30 16 (nI n)) hx) hn8 hn8 (by omega) H F (by decide) rfl rfl ((ce_r14 (C := uF (uI (uI C 0 30 17 (nI w)) 0 30 16 (nI n)) 0 14 (va_cpy (oA C 0 13) (oA C 0 14) 0 0 n)) hx).trans (by rw [oA_F])) (fun a b h => ot_XF14 a b h) (Nat.le_of_ble_eq_true rfl) (Nat.le_of_ble_eq_true rfl) ?_
    intro σ H F
    exact kk σ _ (EncBst.new hw8 hn8 hrow (Or.inl (hb1.1.mp h_6))) (((RoR.I (Or.inr rfl)).trans (RoR.I (Or.inl rfl))).trans RoR.F) (fun i hi => congrFun (oA_F2 _ _ (fun _ z => by omega)) i) rfl H F
  · refine w_iload dX0_round_9 rfl ?_
    refine w_aload_n dX0_round_11 rfl ?_
    refine gX0_376 (C := C) dX0_round_12 rfl hx H ?_
    rw [B.1]
    refine w_icmp_ne dX0_round_15 rfl (fun h_15 => ?_) (fun h_15 => ?_)
    · exact kk σ C (B.old (fun z => by rcases z with z | z; exact h_6 (hb1.1.mpr z); exact h_15 (hb1.2.mpr z.1))) RoR.refl (fun _ _ => rfl) rfl H F
    · refine w_iload dX0_round_18 rfl ?_
      refine w_aload_n dX0_round_20 rfl ?_
      refine gX0_379 (C := C) dX0_round_21 rfl hx H ?_
      refine w_topN (n := b.2.1) B.2.1 ?_
      refine w_icmpN_ge dX0_round_24 rfl (by omega) (by omega) (fun h_24 => ?_) (fun h_24 => ?_)
      · exact kk σ C (B.old (fun z => by rcases z with z | z; exact h_6 (hb1.1.mpr z); omega)) RoR.refl (fun _ _ => rfl) rfl H F
      · refine w_aload_n dX0_round_27 rfl ?_
        refine w_iload dX0_round_28 rfl ?_
        refine pX0_376 (C := C) dX0_round_30 rfl hx H F ?_
        intro σ H F
        refine w_aload_n dX0_round_33 rfl ?_
        refine w_iload dX0_round_34 rfl ?_
        refine pX0_379 (C := uI (C) 0 30 17 _) dX0_round_36 rfl hx H F ?_
        intro σ H F
        refine w_aload_n dX0_round_39 rfl ?_
        refine gX0_63 (C := uI (uI (C) 0 30 17 _) 0 30 16 _) dX0_round_40 rfl hx H ?_
        refine w_iconst (v := nI 0) dX0_round_43 ki_0 ?_
        refine w_aload_n dX0_round_44 rfl ?_
        refine gX0_66 (C := uI (uI (C) 0 30 17 _) 0 30 16 _) dX0_round_45 rfl hx H ?_
        refine w_iconst (v := nI 0) dX0_round_48 ki_0 ?_
        refine w_iload dX0_round_49 rfl ?_
        refine c_copy (C := uI (uI C 0 30 17 (nI w)) 0 30 16 (nI n)) (uF (uI (uI C 0 30 17 (nI w)) 0 30 16 (nI n)) 0 14 (va_cpy (oA C 0 13) (oA C 0 14) 0 0 n)) (k0 := 0) (j0 := 13) (k := 0) (j := 14) (n0 := 8) (n1 := 8) (n := n) (f0 := oA C 0 13) (f1 := oA C 0 14) dX0_round_51 q649 (ce_r13 (C := uI (uI C 0 30 17 (nI w)) 0 30 16 (nI n)) hx) (ce_r14 (C := uI (uI C 0 30 17 (nI w)) 0 30 16 (nI n)) hx) hn8 hn8 (by omega) H F (by decide) rfl rfl ((ce_r14 (C := uF (uI (uI C 0 30 17 (nI w)) 0 30 16 (nI n)) 0 14 (va_cpy (oA C 0 13) (oA C 0 14) 0 0 n)) hx).trans (by rw [oA_F])) (fun a b h => ot_XF14 a b h) (Nat.le_of_ble_eq_true rfl) (Nat.le_of_ble_eq_true rfl) ?_
        intro σ H F
        exact kk σ _ (EncBst.new hw8 hn8 hrow (Or.inr ⟨hb1.2.mp h_15, by omega⟩)) (((RoR.I (Or.inr rfl)).trans (RoR.I (Or.inl rfl))).trans RoR.F) (fun i hi => congrFun (oA_F2 _ _ (fun _ z => by omega)) i) rfl H F
set_option maxHeartbeats 4000000 in
theorem round_tail {g : GG} {C C0 : CS} {V : VS} {q : Nat → Nat} {σ σ0 : PH} {f c m td u n w j : Nat} {row : Nat → Nat} {b r : Bst} (hx0 : oO C0 0 = true) (h00 : oO C0 0 = true) (E0 : EncD g C0 0 V q) (K : OkV V) (hf : f < vs V 1) (hc : c < 1000) (hm : m ≤ 600) (htd : td ≤ 600) (hu : u < 256) (hp : p8 u = n) (hw : w ≤ 999 * n) (hjn : n + (j + 1) = 9) (hrow : ∀ i, i < n → oA C0 0 13 i = nI (row i)) (hR : RoC g V f td (j + 3) j) (hr : r = if n = vt V 2 f then b else flp (fun k b => if rdOk V f td c m u k then rdG V f td j (vt V 5 k) (rdT V f c m k) (u ||| 2 ^ k) (n + 1) (w + vt V 6 k) (va_up row n k) b else b) (vs V 2) 0 b) (B : EncBst C b) (R0 : RoR C0 C) (hr0 : ∀ i, i < n → oA C 0 13 i = oA C0 0 13 i) (H : Hold g σ C) (F : Fr σ0 σ) : Wp g (mtC g miX0_round (j + 4) 0 0 σ0 none (fun C2 => EncBst C2 r ∧ RoR C0 C2 ∧ ∀ i, i < n → oA C2 0 13 i = oA C0 0 13 i)) 0 0 54 [some (.ref (od C0 0 30)), some (.int (nI f)), some (.int (nI c)), some (.int (nI m)), some (.int (nI td)), some (.int (nI u)), some (.int (nI n)), some (.int (nI w)), none, none] [] σ := by
  have hx : oO C 0 = true := by
    rw [R0.o]
    exact hx0
  have h0 : oO C 0 = true := by
    rw [R0.o]
    exact h00
  have E : EncD g C 0 V q := R0.E E0
  have kb := K.b
  have kf_f := K.f hf
  have hn8 := p8_le u hu
  rw [← R0.1]
  refine w_iload dX0_round_54 rfl ?_
  refine w_aload_n dX0_round_56 rfl ?_
  refine cr_call (mi := miX0_day) dX0_round_57 q886 okX0_day clX0 rfl (H.get (ce_X hx)) (Nat.le_of_ble_eq_true rfl) (kX0_day (C := C) hx h0) H rfl rfl (Nat.le_of_ble_eq_true rfl) ?_
  refine gX0_271 (C := C) dX0_round_60 rfl h0 H ?_
  refine w_iload_n dX0_round_63 rfl ?_
  refine da_12 (C := C) dX0_round_64 h0 E (by omega) H ?_
  refine w_icmpN_ne dX0_round_65 rfl (by omega) (by omega) (fun h_65 => ?_) (fun h_65 => ?_)
  · refine w_iconst (v := nI 0) dX0_round_69 ki_0 ?_
    refine w_istore dX0_round_70 rfl (Nat.le_of_ble_eq_true rfl) ls_10_8 ?_
    have lp : ∀ (j9 : Nat) (k : Nat) (C1 : CS) (bk : Bst) (σ : PH), vs V 2 - k < j9 → k ≤ vs V 2 → RoR C0 C1 → (∀ i, i < n → oA C1 0 13 i = oA C0 0 13 i) → EncBst C1 bk → flp (fun k b => if rdOk V f td c m u k then rdG V f td j (vt V 5 k) (rdT V f c m k) (u ||| 2 ^ k) (n + 1) (w + vt V 6 k) (va_up row n k) b else b) (vs V 2 - k) k bk = r → Hold g σ C1 → Fr σ0 σ → Wp g (mtC g miX0_round (j + 4) 0 0 σ0 none (fun C2 => EncBst C2 r ∧ RoR C0 C2 ∧ ∀ i, i < n → oA C2 0 13 i = oA C0 0 13 i)) 0 0 72 [some (.ref (od C0 0 30)), some (.int (nI f)), some (.int (nI c)), some (.int (nI m)), some (.int (nI td)), some (.int (nI u)), some (.int (nI n)), some (.int (nI w)), some (.int (nI k)), none] [] σ := by
      intro j9
      induction j9 with
      | zero => intro k C1 bk σ hmu hk R1 hr1 B1 hfl H F; exact absurd hmu (Nat.not_lt_zero _)
      | succ j9 ih_lp =>
        intro k C1 bk σ hmu hk R1 hr1 B1 hfl H F
        have hx : oO C1 0 = true := by
          rw [R1.o]
          exact hx0
        have h0 : oO C1 0 = true := by
          rw [R1.o]
          exact h00
        have E : EncD g C1 0 V q := R1.E E0
        have e9 : k < vs V 2 → vs V 2 - k = (vs V 2 - (k + 1)) + 1 := fun h => by omega
        rw [← R1.1]
        refine w_iload dX0_round_72 rfl ?_
        refine w_aload_n dX0_round_74 rfl ?_
        refine cr_call (mi := miX0_beach_2) dX0_round_75 q934 okX0_beach_2 clX0 rfl (H.get (ce_X hx)) (Nat.le_of_ble_eq_true rfl) (kX0_beach (C := C1) hx h0) H rfl rfl (Nat.le_of_ble_eq_true rfl) ?_
        refine gX0_177 (C := C1) dX0_round_78 rfl E H ?_
        refine w_icmpN_ge dX0_round_81 rfl (by omega) (by omega) (fun h_81 => ?_) (fun h_81 => ?_)
        · have hk2 : k = vs V 2 := by omega
          exact w_vret dX0_round_217 rfl ⟨by rfl, _, by exact ⟨by rw [← hfl, hk2, Nat.sub_self]; exact B1, R1, hr1⟩, H, F⟩
        · refine w_iload dX0_round_84 rfl ?_
          refine w_iload dX0_round_86 rfl ?_
          refine w_ishrN dX0_round_88 (by omega) (by omega) ?_
          refine w_iconst (v := nI 1) dX0_round_89 ki_1 ?_
          refine w_iandN dX0_round_90 ?_
          refine w_iconst (v := nI 1) dX0_round_91 ki_1 ?_
          refine w_icmpN_eq dX0_round_92 rfl (by have := Nat.and_le_right (n := u >>> k) (m := 1); omega) (by decide) (fun h_92 => ?_) (fun h_92 => ?_)
          · refine w_iinc dX0_round_211 rfl (nI_inc _ 1) rfl (Nat.le_of_ble_eq_true rfl) ls_10_8 ?_
            refine w_goto dX0_round_214 rfl ?_
            rw [R1.1]
            exact w_L (wkS (wkS (wkS (wkS (wkS (wkS (wkS (wkS (wkS (wkN wk0)))))))))) (ih_lp (k + 1) C1 bk σ (by omega) (by omega) R1 hr1 B1 (by rw [← hfl, e9 (by omega), flp]; show flp _ _ _ _ = flp _ _ _ (if rdOk V f td c m u k then _ else _); rw [if_neg (fun z => z.2.1 h_92)]) H F)
          · refine w_aload_n dX0_round_95 rfl ?_
            refine cr_call (mi := miX0_day) dX0_round_96 q886 okX0_day clX0 rfl (H.get (ce_X hx)) (Nat.le_of_ble_eq_true rfl) (kX0_day (C := C1) hx h0) H rfl rfl (Nat.le_of_ble_eq_true rfl) ?_
            refine w_iload dX0_round_99 rfl ?_
            refine cr_call (mi := miX5_isThere) dX0_round_101 q1183 okX5_isThere clX5 rfl (H.get (ce_day h0)) (Nat.le_of_ble_eq_true rfl) (kX5_isThere (C := C1) h0 E K (by first | assumption | omega)) H rfl rfl (Nat.le_of_ble_eq_true rfl) ?_
            refine w_ifB_ne dX0_round_104 rfl (fun h_104 => ?_) (fun h_104 => ?_)
            · refine w_aload_n dX0_round_110 rfl ?_
              refine cr_call (mi := miX0_day) dX0_round_111 q886 okX0_day clX0 rfl (H.get (ce_X hx)) (Nat.le_of_ble_eq_true rfl) (kX0_day (C := C1) hx h0) H rfl rfl (Nat.le_of_ble_eq_true rfl) ?_
              refine w_iload_n dX0_round_114 rfl ?_
              refine w_iload dX0_round_115 rfl ?_
              refine w_iload_n dX0_round_117 rfl ?_
              refine w_aload_n dX0_round_118 rfl ?_
              refine cr_call (mi := miX0_beach_2) dX0_round_119 q934 okX0_beach_2 clX0 rfl (H.get (ce_X hx)) (Nat.le_of_ble_eq_true rfl) (kX0_beach (C := C1) hx h0) H rfl rfl (Nat.le_of_ble_eq_true rfl) ?_
              refine gX0_268 (C := C1) dX0_round_122 rfl E H ?_
              refine w_iload_n dX0_round_125 rfl ?_
              refine ba_10 (C := C1) dX0_round_126 E K (by omega) H ?_
              refine w_aload_n dX0_round_127 rfl ?_
              refine cr_call (mi := miX0_beach_2) dX0_round_128 q934 okX0_beach_2 clX0 rfl (H.get (ce_X hx)) (Nat.le_of_ble_eq_true rfl) (kX0_beach (C := C1) hx h0) H rfl rfl (Nat.le_of_ble_eq_true rfl) ?_
              refine gX0_282 (C := C1) dX0_round_131 rfl E H ?_
              refine w_iload dX0_round_134 rfl ?_
              refine ba_12 (C := C1) dX0_round_136 E K (by omega) H ?_
              have hkd5 := K.d (d := k) (by omega)
              refine w_iload_n dX0_round_137 rfl ?_
              refine w_isub dX0_round_138 ?_
              refine w_mabs dX0_round_139 q1253 q1058 q155 q1059 (Nat.le_of_ble_eq_true rfl) (Nat.le_of_ble_eq_true rfl) ?_
              refine w_topN (abs_n (by omega) (by omega)) ?_
              refine w_topN (n := nabs c (vt V 5 k)) (congrArg nI (nabs_comm _ _)) ?_
              have hna := nabs_le c (vt V 5 k) 1000 (by omega) (by omega)
              refine w_imulN dX0_round_142 ?_
              have hml : vt V 1 f * nabs c (vt V 5 k) ≤ 9 * 1000 := Nat.mul_le_mul (by omega) hna
              refine w_iaddN dX0_round_143 ?_
              refine cr_call (mi := miX5_minute) dX0_round_144 q1229 okX5_minute clX5 rfl (H.get (ce_day h0)) (Nat.le_of_ble_eq_true rfl) (kX5_minute (C := C1) h0 E K (by omega) (by omega) (by omega)) H rfl rfl (Nat.le_of_ble_eq_true rfl) ?_
              have hbo : behO V f k ≤ 241 := behK_le K f (d := k) (by omega) _ (Nat.le_refl _)
              have hrt : rdT V f c m k ≤ 20000 := by unfold rdT; omega
              refine w_topN (n := rdT V f c m k) rfl ?_
              refine w_istore dX0_round_147 rfl (Nat.le_of_ble_eq_true rfl) ls_10_9 ?_
              refine w_iload dX0_round_149 rfl ?_
              refine w_iload dX0_round_151 rfl ?_
              refine w_icmpN_le dX0_round_153 rfl (by omega) (by omega) (fun h_153 => ?_) (fun h_153 => ?_)
              · have hk8 := p8_up u hu k (by omega) h_92
                have hk9 := p8_le _ hk8.1
                refine w_aload_n dX0_round_159 rfl ?_
                refine gX0_63 (C := C1) dX0_round_160 rfl hx H ?_
                refine w_iload dX0_round_163 rfl ?_
                refine w_iload dX0_round_165 rfl ?_
                refine xs_13 (C := C1) dX0_round_167 hx (by omega) H F ?_
                intro σ H F
                have E : EncD g (uA C1 0 13 n (nI k)) 0 V q := RoR.A.E E
                refine w_aload_n dX0_round_168 rfl ?_
                refine w_iload_n dX0_round_169 rfl ?_
                refine w_aload_n dX0_round_170 rfl ?_
                refine cr_call (mi := miX0_beach_2) dX0_round_171 q934 okX0_beach_2 clX0 rfl (H.get (ce_X hx)) (Nat.le_of_ble_eq_true rfl) (kX0_beach (C := uA (C1) 0 13 _ _) hx h0) H rfl rfl (Nat.le_of_ble_eq_true rfl) ?_
                refine gX0_282 (C := uA (C1) 0 13 _ _) dX0_round_174 rfl E H ?_
                refine w_iload dX0_round_177 rfl ?_
                refine ba_12 (C := uA (C1) 0 13 _ _) dX0_round_179 E K (by omega) H ?_
                refine w_iload dX0_round_180 rfl ?_
                refine w_iload dX0_round_182 rfl ?_
                refine w_iload dX0_round_184 rfl ?_
                refine w_iconst (v := nI 1) dX0_round_186 ki_1 ?_
                refine w_iload dX0_round_187 rfl ?_
                refine w_shl1N dX0_round_189 (by omega) ?_
                refine w_iorN dX0_round_190 ?_
                refine w_iload dX0_round_191 rfl ?_
                refine w_iconst (v := nI 1) dX0_round_193 ki_1 ?_
                refine w_iaddN dX0_round_194 ?_
                refine w_iload dX0_round_195 rfl ?_
                refine w_aload_n dX0_round_197 rfl ?_
                refine cr_call (mi := miX0_beach_2) dX0_round_198 q934 okX0_beach_2 clX0 rfl (H.get (ce_X hx)) (Nat.le_of_ble_eq_true rfl) (kX0_beach (C := uA (C1) 0 13 _ _) hx h0) H rfl rfl (Nat.le_of_ble_eq_true rfl) ?_
                refine gX0_285 (C := uA (C1) 0 13 _ _) dX0_round_201 rfl E H ?_
                refine w_iload dX0_round_204 rfl ?_
                refine ba_13 (C := uA (C1) 0 13 _ _) dX0_round_206 E K (by omega) H ?_
                refine w_iaddN dX0_round_207 ?_
                have hu9 := p8_up u hu k (by omega) h_92
                have hkd := K.d (d := k) (by omega)
                have hpl := p8_le _ hu9.1
                have hrc := hR (uA C1 0 13 n (nI k)) q (vt V 5 k) (rdT V f c m k) (u ||| 2 ^ k) (n + 1) (w + vt V 6 k) (va_up row n k) bk (by omega) hx h0 E (by omega) (by omega) hu9.1 (by omega) (by omega) ⟨B1.1, B1.2.1, B1.2.2.1, B1.2.2.2.1, fun i hi => (congrFun (oA_ne2 C1 _ (fun _ z => by omega)) i).trans (B1.2.2.2.2 i hi)⟩ (fun i hi => by
                  unfold va_up
                  by_cases hin : i = n
                  · rw [if_pos hin, hin]
                    exact oA_eq C1 0 13 n _
                  · rw [if_neg hin, oA_ne C1 _ (fun _ _ z => hin z), hr1 i (by omega)]
                    exact hrow i (by omega))
                refine cp_call (kc := 0) (ks := 0) (mi := miX0_round) dX0_round_208 q1249 okX0_round clX0 rfl (H.get (ce_X (C := uA C1 0 13 n (nI k)) hx)) (Nat.le_refl _) hrc H F rfl rfl (Nat.le_of_ble_eq_true rfl) ?_
                intro σ C208 P208 H F
                refine w_iinc dX0_round_211 rfl (nI_inc _ 1) rfl (Nat.le_of_ble_eq_true rfl) ls_10_8 ?_
                refine w_goto dX0_round_214 rfl ?_
                rw [R1.1]
                exact w_L (wkS (wkS (wkS (wkS (wkS (wkS (wkS (wkS (wkS (wkN wk0)))))))))) (ih_lp (k + 1) C208 _ σ (by omega) (by omega) (R1.trans (RoR.A.trans P208.2.1)) (fun i hi => (P208.2.2 i (by omega)).trans ((oA_ne _ _ (fun _ _ z => by omega)).trans (hr1 i hi))) P208.1 (by rw [← hfl, e9 (by omega), flp]; show flp _ _ _ _ = flp _ _ _ (if rdOk V f td c m u k then _ else _); rw [if_pos ⟨h_104, h_92, h_153⟩]) H F)
              · refine w_goto dX0_round_156 rfl ?_
                refine w_iinc dX0_round_211 rfl (nI_inc _ 1) rfl (Nat.le_of_ble_eq_true rfl) ls_10_8 ?_
                refine w_goto dX0_round_214 rfl ?_
                rw [R1.1]
                exact w_L (wkS (wkS (wkS (wkS (wkS (wkS (wkS (wkS (wkS (wkN wk0)))))))))) (ih_lp (k + 1) C1 bk σ (by omega) (by omega) R1 hr1 B1 (by rw [← hfl, e9 (by omega), flp]; show flp _ _ _ _ = flp _ _ _ (if rdOk V f td c m u k then _ else _); rw [if_neg (fun z => by have h9 := z.2.2; omega)]) H F)
            · refine w_goto dX0_round_107 rfl ?_
              refine w_iinc dX0_round_211 rfl (nI_inc _ 1) rfl (Nat.le_of_ble_eq_true rfl) ls_10_8 ?_
              refine w_goto dX0_round_214 rfl ?_
              rw [R1.1]
              exact w_L (wkS (wkS (wkS (wkS (wkS (wkS (wkS (wkS (wkS (wkN wk0)))))))))) (ih_lp (k + 1) C1 bk σ (by omega) (by omega) R1 hr1 B1 (by rw [← hfl, e9 (by omega), flp]; show flp _ _ _ _ = flp _ _ _ (if rdOk V f td c m u k then _ else _); rw [if_neg (fun z => h_104 z.1)]) H F)
    rw [R0.1]
    exact w_L (wkS (wkS (wkS (wkS (wkS (wkS (wkS (wkS (wkS (wkN wk0)))))))))) (lp (vs V 2 + 1) 0 C b σ (by omega) (by omega) R0 hr0 B (by rw [hr, if_neg h_65]; rfl) H F)
  · skip
    exact w_vret dX0_round_68 rfl ⟨by rfl, _, by exact ⟨by rw [hr, if_pos h_65]; exact B, R0, hr0⟩, H, F⟩
set_option maxHeartbeats 4000000 in
theorem round_all {g : GG} {V : VS} {f td : Nat} (K : OkV V) (hf : f < vs V 1) (htd : td ≤ 600) : ∀ j, RoC g V f td (j + 3) j
  | 0 => fun C q c m u n w row b hn hx h0 E hc hm hu hp hw B hrow => by
    have h8 := p8_le u hu
    omega
  | j + 1 => fun C q c m u n w row b hn hx h0 E hc hm hu hp hw B hrow => by
    have h8 := p8_le u hu
    refine Cp.start [some (.ref (od C 0 30)), some (.int (nI f)), some (.int (nI c)), some (.int (nI m)), some (.int (nI td)), some (.int (nI u)), some (.int (nI n)), some (.int (nI w)), none, none] plX0 rfl (Nat.le_of_ble_eq_true rfl) rfl ?_
    intro σ0 σ H F
    refine round_head hx (by omega) (by omega) B hrow H F ?_
    intro σ C2 B2 R2 hr2 hd2 H F
    exact round_tail (C := C2) (C0 := C) hx h0 E K hf hc hm htd hu hp hw hn hrow (round_all K hf htd j) rfl B2 R2 hr2 H F
set_option maxHeartbeats 4000000 in
theorem kX0_bestOf {g : GG} {C : CS} {V : VS} {q : Nat → Nat} {f : Nat} {t : Nat} (hx : oO C 0 = true) (h0 : oO C 0 = true) (E : EncD g C 0 V q) (K : OkV V) (hf : f < vs V 1) (ht : t ≤ 600) : Cp g miX0_bestOf 13 (0) (0) [.ref (od C 0 30), .int (nI f), .int (nI t)] C (some (.int (nI (rdG V f t 9 (vt V 0 f) (vt V 3 f) 0 0 0 (fun _ => 0) (0, 0, fun _ => 0)).1 - nI 1))) (fun C2 => EncBst C2 (rdG V f t 9 (vt V 0 f) (vt V 3 f) 0 0 0 (fun _ => 0) (0, 0, fun _ => 0)) ∧ RoR C C2) := by
  refine Cp.start [some (.ref (od C 0 30)), some (.int (nI f)), some (.int (nI t))] plX0 rfl (Nat.le_of_ble_eq_true rfl) rfl ?_
  intro σ0 σ H F
  have kb := K.b
  have kf_f := K.f hf
  refine w_aload_n dX0_bestOf_0 rfl ?_
  refine w_iconst (v := (-1)) dX0_bestOf_1 ki_m1 ?_
  refine pX0_376 (C := C) dX0_bestOf_2 rfl hx H F ?_
  intro σ H F
  have E := EncD.stH H E
  refine w_aload_n dX0_bestOf_5 rfl ?_
  refine w_iconst (v := nI 0) dX0_bestOf_6 ki_0 ?_
  refine pX0_379 (C := uI C 0 30 17 (-1)) dX0_bestOf_7 rfl hx H F ?_
  intro σ H F
  have E := EncD.stH H E
  have E2 : EncD g (uI (uI C 0 30 17 (-1)) 0 30 16 (nI 0)) 0 V q := E
  refine w_aload_n dX0_bestOf_10 rfl ?_
  refine w_iload_n dX0_bestOf_11 rfl ?_
  refine w_aload_n dX0_bestOf_12 rfl ?_
  refine cr_call (mi := miX0_day) dX0_bestOf_13 q886 okX0_day clX0 rfl (H.get (ce_X hx)) (Nat.le_of_ble_eq_true rfl) (kX0_day (C := uI (uI C 0 30 17 (-1)) 0 30 16 (nI 0)) hx h0) H rfl rfl (Nat.le_of_ble_eq_true rfl) ?_
  refine gX0_265 (C := uI (uI C 0 30 17 (-1)) 0 30 16 (nI 0)) dX0_bestOf_16 rfl h0 H ?_
  refine w_iload_n dX0_bestOf_19 rfl ?_
  refine da_11 (C := uI (uI C 0 30 17 (-1)) 0 30 16 (nI 0)) dX0_bestOf_20 h0 E (by omega) H ?_
  refine w_aload_n dX0_bestOf_21 rfl ?_
  refine cr_call (mi := miX0_day) dX0_bestOf_22 q886 okX0_day clX0 rfl (H.get (ce_X hx)) (Nat.le_of_ble_eq_true rfl) (kX0_day (C := uI (uI C 0 30 17 (-1)) 0 30 16 (nI 0)) hx h0) H rfl rfl (Nat.le_of_ble_eq_true rfl) ?_
  refine gX0_274 (C := uI (uI C 0 30 17 (-1)) 0 30 16 (nI 0)) dX0_bestOf_25 rfl h0 H ?_
  refine w_iload_n dX0_bestOf_28 rfl ?_
  refine da_13 (C := uI (uI C 0 30 17 (-1)) 0 30 16 (nI 0)) dX0_bestOf_29 h0 E (by omega) H ?_
  refine w_iload_n dX0_bestOf_30 rfl ?_
  refine w_iconst (v := nI 0) dX0_bestOf_31 ki_0 ?_
  refine w_iconst (v := nI 0) dX0_bestOf_32 ki_0 ?_
  refine w_iconst (v := nI 0) dX0_bestOf_33 ki_0 ?_
  have hk9 := K.f hf
  have hrc := round_all (g := g) K hf ht 9 (uI (uI C 0 30 17 (-1)) 0 30 16 (nI 0)) q (vt V 0 f) (vt V 3 f) 0 0 0 (fun _ => 0) (0, 0, fun _ => 0) (by omega) hx h0 E2 (by omega) (by omega) (by decide) (by decide) (by decide) ⟨by rw [oI_ne _ _ (fun _ _ z => by omega), oI_eq]; decide +kernel, oI_eq _ 0 30 16 _, by decide, by decide, fun i hi => absurd hi (Nat.not_lt_zero i)⟩ (fun i hi => absurd hi (Nat.not_lt_zero i))
  refine cp_call (kc := 0) (ks := 0) (mi := miX0_round) dX0_bestOf_34 q1249 okX0_round clX0 rfl (H.get (ce_X (C := uI (uI C 0 30 17 (-1)) 0 30 16 (nI 0)) hx)) (Nat.le_of_ble_eq_true rfl) hrc H F rfl rfl (Nat.le_of_ble_eq_true rfl) ?_
  intro σ C34 P34 H F
  have R34 : RoR C C34 := ((RoR.I (Or.inr rfl)).trans (RoR.I (Or.inl rfl))).trans P34.2.1
  have hx34 : oO C34 0 = true := by
    rw [R34.o]
    exact hx
  refine w_aload_n dX0_bestOf_37 rfl ?_
  refine w_ref (congrFun (congrFun R34.1 0) 30) ?_
  refine gX0_376 (C := C34) dX0_bestOf_38 rfl hx34 H ?_
  exact w_iret dX0_bestOf_41 rfl ⟨by rw [P34.1.1], _, by exact ⟨P34.1, R34⟩, H, F⟩
