set_option maxRecDepth 100000
set_option maxHeartbeats 4000000 in
theorem c_dayStep {g : GG} {S : MS} {X : TX} {t : Tk} {H : HS} {D : DS} (hT : TxS S X) (hK : TkS S t) (hO : OkT9 X t) (h0 : mI S 18 = nI 0) (EH : EncZ S H) (OH : OkH H) (EY : EncY S D) (OD : OkD H D) : Mp g miX8_dayStep 11 [] (S) (some (.int (bP (okE (pStep X H D t))))) (PX (pStep X H D t) S (fun v S2 => FrP S S2 ∧ EncY S2 v.1 ∧ TkS S2 v.2 ∧ mI S2 18 = nI 0 ∧ mI S2 17 = mI S 17)) := by
  refine Mp.start (fun b => [some (.ref b), none, none, none, none, none]) plX8 rfl (fun b => (Nat.le_of_ble_eq_true rfl)) (fun b => rfl) ?_
  intro σ b
  have hkl := kix_le X t
  have hdb := OD.b
  have hct9 := OD.2.1
  have hop9 := OD.2.2.1
  have T2 : ∀ (o4 : Nat) (c2 : Nat), ((kix X t) = 1 ∨ (18 ≤ (kix X t) ∧ (kix X t) ≤ 27)) → ((kix X t) = 26 → D.op ≠ []) → ((kix X t) ≠ 26 → D.ct ≠ 30) → o4 = (if (kix X t) = 24 ∨ (kix X t) = 25 then 1 else 0) → ((kix X t) = 24 ∨ (kix X t) = 25 → D.op.length ≠ 3) → c2 = (if (kix X t) = 26 then D.ct else D.ct + 1) → Wp g (mtP g miX8_dayStep 11 σ b (some (.int (bP (okE (pStep X H D t))))) (PX (pStep X H D t) S (fun v S2 => FrP S S2 ∧ EncY S2 v.1 ∧ TkS S2 v.2 ∧ mI S2 18 = nI 0 ∧ mI S2 17 = mI S 17))) 0 0 142 [some (.ref b), some (.int (nI (kix X t))), some (.int (nI D.n)), some (.int (nI (6630 + 6 * D.n))), some (.int (nI o4)), none] [] (sM g σ b (sI S 24 (nI c2))) := by
    intro o4 c2 hv h26 hc ho h3 hc2
    have hn1 : ¬ (((kix X t) ≠ 1 ∧ ((kix X t) < 18 ∨ 27 < (kix X t))) ∨ ((kix X t) = 26 ∧ D.op = [])) := fun z => by
      rcases z with z | z
      · omega
      · exact h26 z.1 z.2
    have hn2 : ¬ ((kix X t) ≠ 26 ∧ D.ct = 30) := fun z => hc z.1 z.2
    have hn3 : ¬ (((kix X t) = 24 ∨ (kix X t) = 25) ∧ D.op.length = 3) := fun z => h3 z.1 z.2
    refine w_aload_n dX8_dayStep_142 rfl ?_
    refine mg_at dX8_dayStep_143 rfl ?_
    refine w_iload_n dX8_dayStep_146 rfl ?_
    refine w_iload_n dX8_dayStep_147 rfl ?_
    refine ms_at dX8_dayStep_148 (by omega) ?_
    refine w_iconst (v := nI 1) dX8_dayStep_149 ki_1 ?_
    refine w_istore dX8_dayStep_150 rfl (Nat.le_of_ble_eq_true rfl) ls_6_5 ?_
    have lz : ∀ (j9 : Nat) (j : Nat), 5 - j < j9 → j ≤ 5 → Wp g (mtP g miX8_dayStep 11 σ b (some (.int (bP (okE (pStep X H D t))))) (PX (pStep X H D t) S (fun v S2 => FrP S S2 ∧ EncY S2 v.1 ∧ TkS S2 v.2 ∧ mI S2 18 = nI 0 ∧ mI S2 17 = mI S 17))) 0 0 152 [some (.ref b), some (.int (nI (kix X t))), some (.int (nI D.n)), some (.int (nI (6630 + 6 * D.n))), some (.int (nI o4)), some (.int (nI (j + 1)))] [] (sM g σ b ((setAt (sA (sI S 24 (nI c2)) 0 (6630 + 6 * D.n) (nI (kix X t))) (zer (mA (sA (sI S 24 (nI c2)) 0 (6630 + 6 * D.n) (nI (kix X t))) 0) ((6630 + 6 * D.n) + 1) j)))) := by
      intro j9
      induction j9 with
      | zero => intro j hmu hj; exact absurd hmu (Nat.not_lt_zero _)
      | succ j9 ih_lz =>
        intro j hmu hj
        refine w_iload dX8_dayStep_152 rfl ?_
        refine w_bipush (v := nI 6) dX8_dayStep_154 kb_6 ?_
        refine w_icmpN_ge dX8_dayStep_156 rfl (by omega) (by omega) (fun h_156 => ?_) (fun h_156 => ?_)
        · obtain rfl : j = 5 := by omega
          refine w_aload_n dX8_dayStep_175 rfl ?_
          refine mg_at dX8_dayStep_176 rfl ?_
          refine w_sipush (v := nI 5609) dX8_dayStep_179 ks_5609 ?_
          refine w_dup2 dX8_dayStep_182 rfl rfl ?_
          refine ma_at dX8_dayStep_183 (by omega) ?_
          refine w_topN (n := D.n) (show zer (upd (mA S 0) (6630 + 6 * D.n) (nI (kix X t))) ((6630 + 6 * D.n) + 1) 5 5609 = nI D.n by rw [zer, if_neg (by omega), upd_ne (by omega)]; exact EY.2.1) ?_
          refine w_iconst (v := nI 1) dX8_dayStep_184 ki_1 ?_
          refine w_iaddN dX8_dayStep_185 ?_
          refine ms_at dX8_dayStep_186 (by omega) ?_
          refine w_aload_n dX8_dayStep_187 rfl ?_
          refine m_callPv0 (mi := miX8_ahead) dX8_dayStep_188 q1730 okX8_ahead rfl (Nat.le_of_ble_eq_true rfl) (c_aheadX (show TxS (sA (setAt (sA (sI S 24 (nI c2)) 0 (6630 + 6 * D.n) (nI (kix X t))) (zer (mA (sA (sI S 24 (nI c2)) 0 (6630 + 6 * D.n) (nI (kix X t))) 0) ((6630 + 6 * D.n) + 1) 5)) 0 5609 (nI (D.n + 1))) X from hT) (show TkS (sA (setAt (sA (sI S 24 (nI c2)) 0 (6630 + 6 * D.n) (nI (kix X t))) (zer (mA (sA (sI S 24 (nI c2)) 0 (6630 + 6 * D.n) (nI (kix X t))) 0) ((6630 + 6 * D.n) + 1) 5)) 0 5609 (nI (D.n + 1))) t from hK) hO) (Nat.le_of_ble_eq_true rfl) (fun S188 hS188 => ?_)
          have q1 : FrK (sA (setAt (sA (sI S 24 (nI c2)) 0 (6630 + 6 * D.n) (nI (kix X t))) (zer (mA (sA (sI S 24 (nI c2)) 0 (6630 + 6 * D.n) (nI (kix X t))) 0) ((6630 + 6 * D.n) + 1) 5)) 0 5609 (nI (D.n + 1))) S188 := hS188.1
          have k1 : TkS S188 (nx X t) := hS188.2
          have o1 := hO.nx
          have h3A : mA (sA (setAt (sA (sI S 24 (nI c2)) 0 (6630 + 6 * D.n) (nI (kix X t))) (zer (mA (sA (sI S 24 (nI c2)) 0 (6630 + 6 * D.n) (nI (kix X t))) 0) ((6630 + 6 * D.n) + 1) 5)) 0 5609 (nI (D.n + 1))) 0 = upd (zer (upd (mA S 0) (6630 + 6 * D.n) (nI (kix X t))) ((6630 + 6 * D.n) + 1) 5) 5609 (nI (D.n + 1)) := rfl
          have hT1 : TxS S188 X := (show TxS (sA (setAt (sA (sI S 24 (nI c2)) 0 (6630 + 6 * D.n) (nI (kix X t))) (zer (mA (sA (sI S 24 (nI c2)) 0 (6630 + 6 * D.n) (nI (kix X t))) 0) ((6630 + 6 * D.n) + 1) 5)) 0 5609 (nI (D.n + 1))) X from hT).fr q1
          have F1 : FrP S S188 := ((FrP.I S (i := 24) (nI c2) (by omega)).trans ((FrP.A0 (sI S 24 (nI c2)) (k := (6630 + 6 * D.n)) (nI (kix X t)) (by omega)).trans ((FrP.at_ (S := (sA (sI S 24 (nI c2)) 0 (6630 + 6 * D.n) (nI (kix X t)))) (fun k hk => by rw [zer, if_neg (by omega)])).trans (FrP.A0 _ (nI (D.n + 1)) (by omega))))).trans q1.P
          have z1 : mI S188 18 = nI 0 := (q1.1 18 (by omega)).trans h0
          have r1 : Row0 S188 (6630 + 6 * D.n) (kix X t) := Row0.of h3A q1
          refine w_aload_n dX8_dayStep_191 rfl ?_
          refine w_iload_n dX8_dayStep_192 rfl ?_
          refine w_iload_n dX8_dayStep_193 rfl ?_
          refine m_callPi2 (mi := miX8_dayOrder) dX8_dayStep_194 q1851 okX8_dayOrder rfl (Nat.le_of_ble_eq_true rfl) (c_dayOrder hT1 k1 o1 z1 (EH.frP OH F1) OH (by omega) (by omega) r1 (by omega)) (Nat.le_of_ble_eq_true rfl) (fun S194 hS194 => ?_)
          refine w_ifB_ne dX8_dayStep_197 rfl (fun h_197 => ?_) (fun h_197 => ?_)
          · obtain ⟨⟨q2, t2⟩, e2⟩ := okE_t h_197
            have a2 := PX_t hS194 e2
            have p2 := pOrder_ok OH o1 hv e2
            have o2 := p2.2.1
            have k2 : TkS S194 t2 := a2.2
            have hRN : RowN S S194 D.n q2 c2 := RowN.of (S3 := S188) ((q1.A 0).trans h3A) (q1.A 22) (q1.1 23 (by omega)) (q1.1 24 (by omega)) a2.1
            have F2 : FrP S S194 := F1.trans (RowS.P a2.1 (by omega))
            have hT2 := hT.frP F2
            have z2 : mI S194 18 = nI 0 := (a2.1.1.1 18 (by omega)).trans z1
            have z17 : mI S194 17 = mI S 17 := (a2.1.1.1 17 (by omega)).trans (q1.1 17 (by omega))
            have d23 : mI S194 23 = nI D.op.length := hRN.2.2.2.2.1.trans EY.2.2.2.1
            refine w_iload dX8_dayStep_202 rfl ?_
            refine w_ifN_eq dX8_dayStep_204 rfl (by rw [ho]; split <;> omega) (fun h_204 => ?_) (fun h_204 => ?_)
            · have hno : ¬ ((kix X t) = 24 ∨ (kix X t) = 25) := fun z => by rw [if_pos z] at ho; omega
              refine w_iload_n dX8_dayStep_227 rfl ?_
              refine w_bipush (v := nI 26) dX8_dayStep_228 kb_26 ?_
              refine w_icmpN_ne dX8_dayStep_230 rfl (by omega) (by omega) (fun h_230 => ?_) (fun h_230 => ?_)
              · refine w_aload_n dX8_dayStep_284 rfl ?_
                refine w_bipush (v := nI 59) dX8_dayStep_285 kb_59 ?_
                refine m_callPi1 (mi := miX8_wantSign) dX8_dayStep_287 q1773 okX8_wantSign rfl (Nat.le_of_ble_eq_true rfl) (c_wantSign (show TxS S194 X from hT2) (show TkS S194 t2 from k2) o2 (show mI S194 18 = nI 0 from z2) (by omega)) (Nat.le_of_ble_eq_true rfl) (fun S287 hS287 => ?_)
                have hEY : EncY S194 (dAdd D (kix X t) q2) := (EY.plain (q := q2) (by rw [hc2, if_neg h_230] at hRN; exact hRN) hno h_230)
                have hFX : FrP S S194 := F2
                have hfin : bP (okE (wSign X 59 t2)) = bP (okE (pStep X H D t)) ∧ PX (pStep X H D t) S (fun v S2 => FrP S S2 ∧ EncY S2 v.1 ∧ TkS S2 v.2 ∧ mI S2 18 = nI 0 ∧ mI S2 17 = mI S 17) S287 := by
                  rcases e9 : wSign X 59 t2 with f9 | t9
                  · have ee : pStep X H D t = .error f9 := by simp only [pStep, if_neg hn1, if_neg hn2, if_neg hn3, bind, Except.bind, e2, e9]
                    have hx := PX_f hS287 e9
                    rw [bP_f (okE_er rfl), bP_f (okE_er ee)]
                    exact ⟨rfl, PX_er ee ⟨hFX.trans hx.1, hx.2⟩⟩
                  · have ee : pStep X H D t = .ok (dAdd D (kix X t) q2, t9) := by simp only [pStep, if_neg hn1, if_neg hn2, if_neg hn3, bind, Except.bind, e2, e9]
                    have a9 := PX_t hS287 e9
                    have q9 : FrK S194 S287 := a9.1
                    rw [bP_t (okE_ok rfl), bP_t (okE_ok ee)]
                    exact ⟨rfl, PX_ok ee ⟨hFX.trans q9.P, hEY.frK q9, a9.2, (q9.1 18 (by omega)).trans z2, (q9.1 17 (by omega)).trans z17⟩⟩
                exact w_zret dX8_dayStep_290 rfl narrB ⟨by rw [hfin.1], _, by exact hfin.2, rfl⟩
              · have hlen : 0 < D.op.length := List.length_pos_iff.mpr (h26 h_230)
                have hhd := OD.top (h26 h_230)
                have htop : mA S194 22 (D.op.length - 1) = nI (D.op.headD 0) := (congrFun hRN.2.2.2.1 _).trans (EY.top (h26 h_230))
                refine w_aload_n dX8_dayStep_233 rfl ?_
                refine w_dup dX8_dayStep_234 rfl ?_
                refine mg_depth dX8_dayStep_235 rfl ?_
                refine w_topN (n := D.op.length) d23 ?_
                refine w_iconst (v := nI 1) dX8_dayStep_238 ki_1 ?_
                refine w_isubN dX8_dayStep_239 (by omega) ?_
                refine mp_depth dX8_dayStep_240 rfl ?_
                refine w_aload_n dX8_dayStep_243 rfl ?_
                refine mg_at dX8_dayStep_244 rfl ?_
                refine w_iload_n dX8_dayStep_247 rfl ?_
                refine w_iconst (v := nI 4) dX8_dayStep_248 ki_4 ?_
                refine w_iaddN dX8_dayStep_249 ?_
                refine w_aload_n dX8_dayStep_250 rfl ?_
                refine mg_opened dX8_dayStep_251 rfl ?_
                refine w_aload_n dX8_dayStep_254 rfl ?_
                refine mg_depth dX8_dayStep_255 rfl ?_
                refine w_topN (n := D.op.length - 1) rfl ?_
                refine ma_opened dX8_dayStep_258 (by omega) ?_
                refine w_topN (n := D.op.headD 0) htop ?_
                refine ms_at dX8_dayStep_259 (by omega) ?_
                refine w_aload_n dX8_dayStep_260 rfl ?_
                refine mg_at dX8_dayStep_261 rfl ?_
                refine w_sipush (v := nI 6630) dX8_dayStep_264 ks_6630 ?_
                refine w_bipush (v := nI 6) dX8_dayStep_267 kb_6 ?_
                refine w_aload_n dX8_dayStep_269 rfl ?_
                refine mg_opened dX8_dayStep_270 rfl ?_
                refine w_aload_n dX8_dayStep_273 rfl ?_
                refine mg_depth dX8_dayStep_274 rfl ?_
                refine w_topN (n := D.op.length - 1) rfl ?_
                refine ma_opened dX8_dayStep_277 (by omega) ?_
                refine w_topN (n := D.op.headD 0) htop ?_
                refine w_imulN dX8_dayStep_278 ?_
                refine w_iaddN dX8_dayStep_279 ?_
                refine w_iconst (v := nI 4) dX8_dayStep_280 ki_4 ?_
                refine w_iaddN dX8_dayStep_281 ?_
                refine w_iload_n dX8_dayStep_282 rfl ?_
                refine ms_at dX8_dayStep_283 (by omega) ?_
                refine w_aload_n dX8_dayStep_284 rfl ?_
                refine w_bipush (v := nI 59) dX8_dayStep_285 kb_59 ?_
                refine m_callPi1 (mi := miX8_wantSign) dX8_dayStep_287 q1773 okX8_wantSign rfl (Nat.le_of_ble_eq_true rfl) (c_wantSign (show TxS (sA (sA (sI S194 23 (nI (D.op.length - 1))) 0 ((6630 + 6 * D.n) + 4) (nI (D.op.headD 0))) 0 (6630 + 6 * D.op.headD 0 + 4) (nI D.n)) X from hT2) (show TkS (sA (sA (sI S194 23 (nI (D.op.length - 1))) 0 ((6630 + 6 * D.n) + 4) (nI (D.op.headD 0))) 0 (6630 + 6 * D.op.headD 0 + 4) (nI D.n)) t2 from k2) o2 (show mI (sA (sA (sI S194 23 (nI (D.op.length - 1))) 0 ((6630 + 6 * D.n) + 4) (nI (D.op.headD 0))) 0 (6630 + 6 * D.op.headD 0 + 4) (nI D.n)) 18 = nI 0 from z2) (by omega)) (Nat.le_of_ble_eq_true rfl) (fun S287 hS287 => ?_)
                have hEY : EncY (sA (sA (sI S194 23 (nI (D.op.length - 1))) 0 ((6630 + 6 * D.n) + 4) (nI (D.op.headD 0))) 0 (6630 + 6 * D.op.headD 0 + 4) (nI D.n)) (dAdd D (kix X t) q2) := (by have e9 := EY.cls (H := H) OD (q := q2) (by rw [hc2, if_pos h_230] at hRN; exact hRN) (h26 h_230); rw [← h_230] at e9; exact e9)
                have hFX : FrP S (sA (sA (sI S194 23 (nI (D.op.length - 1))) 0 ((6630 + 6 * D.n) + 4) (nI (D.op.headD 0))) 0 (6630 + 6 * D.op.headD 0 + 4) (nI D.n)) := (F2.trans ((FrP.I S194 (i := 23) _ (by omega)).trans ((FrP.A0 _ _ (by omega)).trans (FrP.A0 _ _ (by omega)))))
                have hfin : bP (okE (wSign X 59 t2)) = bP (okE (pStep X H D t)) ∧ PX (pStep X H D t) S (fun v S2 => FrP S S2 ∧ EncY S2 v.1 ∧ TkS S2 v.2 ∧ mI S2 18 = nI 0 ∧ mI S2 17 = mI S 17) S287 := by
                  rcases e9 : wSign X 59 t2 with f9 | t9
                  · have ee : pStep X H D t = .error f9 := by simp only [pStep, if_neg hn1, if_neg hn2, if_neg hn3, bind, Except.bind, e2, e9]
                    have hx := PX_f hS287 e9
                    rw [bP_f (okE_er rfl), bP_f (okE_er ee)]
                    exact ⟨rfl, PX_er ee ⟨hFX.trans hx.1, hx.2⟩⟩
                  · have ee : pStep X H D t = .ok (dAdd D (kix X t) q2, t9) := by simp only [pStep, if_neg hn1, if_neg hn2, if_neg hn3, bind, Except.bind, e2, e9]
                    have a9 := PX_t hS287 e9
                    have q9 : FrK (sA (sA (sI S194 23 (nI (D.op.length - 1))) 0 ((6630 + 6 * D.n) + 4) (nI (D.op.headD 0))) 0 (6630 + 6 * D.op.headD 0 + 4) (nI D.n)) S287 := a9.1
                    rw [bP_t (okE_ok rfl), bP_t (okE_ok ee)]
                    exact ⟨rfl, PX_ok ee ⟨hFX.trans q9.P, hEY.frK q9, a9.2, (q9.1 18 (by omega)).trans z2, (q9.1 17 (by omega)).trans z17⟩⟩
                exact w_zret dX8_dayStep_290 rfl narrB ⟨by rw [hfin.1], _, by exact hfin.2, rfl⟩
            · have hop : (kix X t) = 24 ∨ (kix X t) = 25 := by
                by_cases z : (kix X t) = 24 ∨ (kix X t) = 25
                · exact z
                · rw [if_neg z] at ho; omega
              have hl3 := h3 hop
              refine w_aload_n dX8_dayStep_207 rfl ?_
              refine mg_opened dX8_dayStep_208 rfl ?_
              refine w_aload_n dX8_dayStep_211 rfl ?_
              refine mg_depth dX8_dayStep_212 rfl ?_
              refine w_topN (n := D.op.length) d23 ?_
              refine w_iload_n dX8_dayStep_215 rfl ?_
              refine ms_opened dX8_dayStep_216 (by omega) ?_
              refine w_aload_n dX8_dayStep_217 rfl ?_
              refine w_dup dX8_dayStep_218 rfl ?_
              refine mg_depth dX8_dayStep_219 rfl ?_
              refine w_topN (n := D.op.length) d23 ?_
              refine w_iconst (v := nI 1) dX8_dayStep_222 ki_1 ?_
              refine w_iaddN dX8_dayStep_223 ?_
              refine mp_depth dX8_dayStep_224 rfl ?_
              refine w_iload_n dX8_dayStep_227 rfl ?_
              refine w_bipush (v := nI 26) dX8_dayStep_228 kb_26 ?_
              refine w_icmpN_ne dX8_dayStep_230 rfl (by omega) (by omega) (fun h_230 => ?_) (fun h_230 => ?_)
              · refine w_aload_n dX8_dayStep_284 rfl ?_
                refine w_bipush (v := nI 59) dX8_dayStep_285 kb_59 ?_
                refine m_callPi1 (mi := miX8_wantSign) dX8_dayStep_287 q1773 okX8_wantSign rfl (Nat.le_of_ble_eq_true rfl) (c_wantSign (show TxS (sI (sA S194 22 D.op.length (nI D.n)) 23 (nI (D.op.length + 1))) X from hT2) (show TkS (sI (sA S194 22 D.op.length (nI D.n)) 23 (nI (D.op.length + 1))) t2 from k2) o2 (show mI (sI (sA S194 22 D.op.length (nI D.n)) 23 (nI (D.op.length + 1))) 18 = nI 0 from z2) (by omega)) (Nat.le_of_ble_eq_true rfl) (fun S287 hS287 => ?_)
                have hEY : EncY (sI (sA S194 22 D.op.length (nI D.n)) 23 (nI (D.op.length + 1))) (dAdd D (kix X t) q2) := (EY.opn (q := q2) (by rw [hc2, if_neg (show ¬ (kix X t) = 26 by omega)] at hRN; exact hRN) hop)
                have hFX : FrP S (sI (sA S194 22 D.op.length (nI D.n)) 23 (nI (D.op.length + 1))) := (F2.trans ((FrP.A22 S194 _ _).trans (FrP.I _ _ (by omega))))
                have hfin : bP (okE (wSign X 59 t2)) = bP (okE (pStep X H D t)) ∧ PX (pStep X H D t) S (fun v S2 => FrP S S2 ∧ EncY S2 v.1 ∧ TkS S2 v.2 ∧ mI S2 18 = nI 0 ∧ mI S2 17 = mI S 17) S287 := by
                  rcases e9 : wSign X 59 t2 with f9 | t9
                  · have ee : pStep X H D t = .error f9 := by simp only [pStep, if_neg hn1, if_neg hn2, if_neg hn3, bind, Except.bind, e2, e9]
                    have hx := PX_f hS287 e9
                    rw [bP_f (okE_er rfl), bP_f (okE_er ee)]
                    exact ⟨rfl, PX_er ee ⟨hFX.trans hx.1, hx.2⟩⟩
                  · have ee : pStep X H D t = .ok (dAdd D (kix X t) q2, t9) := by simp only [pStep, if_neg hn1, if_neg hn2, if_neg hn3, bind, Except.bind, e2, e9]
                    have a9 := PX_t hS287 e9
                    have q9 : FrK (sI (sA S194 22 D.op.length (nI D.n)) 23 (nI (D.op.length + 1))) S287 := a9.1
                    rw [bP_t (okE_ok rfl), bP_t (okE_ok ee)]
                    exact ⟨rfl, PX_ok ee ⟨hFX.trans q9.P, hEY.frK q9, a9.2, (q9.1 18 (by omega)).trans z2, (q9.1 17 (by omega)).trans z17⟩⟩
                exact w_zret dX8_dayStep_290 rfl narrB ⟨by rw [hfin.1], _, by exact hfin.2, rfl⟩
              · 
                exact absurd h_230 (by omega)
          · obtain ⟨f9, e9⟩ := okE_f h_197
            have ee : pStep X H D t = .error f9 := by simp only [pStep, if_neg hn1, if_neg hn2, if_neg hn3, bind, Except.bind, e9]
            have hx0 := PX_f hS194 e9
            have hx := And.intro (F1.trans hx0.1) hx0.2
            refine w_iconst (v := nI 0) dX8_dayStep_200 ki_0 ?_
            exact w_zret dX8_dayStep_201 rfl (by first | exact narr0 | exact narr1) ⟨by rw [bP_f (okE_er (ee))], _, by exact PX_er ee hx, rfl⟩
        · refine w_aload_n dX8_dayStep_159 rfl ?_
          refine mg_at dX8_dayStep_160 rfl ?_
          refine w_iload_n dX8_dayStep_163 rfl ?_
          refine w_iload dX8_dayStep_164 rfl ?_
          refine w_iaddN dX8_dayStep_166 ?_
          refine w_iconst (v := nI 0) dX8_dayStep_167 ki_0 ?_
          refine ms_at dX8_dayStep_168 (by omega) ?_
          refine w_iinc dX8_dayStep_169 rfl (nI_inc _ 1) rfl (Nat.le_of_ble_eq_true rfl) ls_6_5 ?_
          refine w_goto dX8_dayStep_172 rfl ?_
          rw [setAt_s, show (6630 + 6 * D.n) + (j + 1) = (6630 + 6 * D.n) + 1 + j by omega, zer_s]
          exact ih_lz (j + 1) (by omega) (by omega)
    exact w_as (lz 6 0 (by omega) (by omega)) rfl rfl (by rw [zer_0, setAt_0])
  have T1 : ∀ (o4 : Nat), ((kix X t) = 1 ∨ (18 ≤ (kix X t) ∧ (kix X t) ≤ 27)) → ((kix X t) = 26 → D.op ≠ []) → ((kix X t) ≠ 26 → D.ct ≠ 30) → o4 = (if (kix X t) = 24 ∨ (kix X t) = 25 then 1 else 0) → ((kix X t) = 24 ∨ (kix X t) = 25 → D.op.length ≠ 3) → Wp g (mtP g miX8_dayStep 11 σ b (some (.int (bP (okE (pStep X H D t))))) (PX (pStep X H D t) S (fun v S2 => FrP S S2 ∧ EncY S2 v.1 ∧ TkS S2 v.2 ∧ mI S2 18 = nI 0 ∧ mI S2 17 = mI S 17))) 0 0 122 [some (.ref b), some (.int (nI (kix X t))), some (.int (nI D.n)), some (.int (nI (6630 + 6 * D.n))), some (.int (nI o4)), none] [] (sM g σ b (S)) := by
    intro o4 hv h26 hc ho h3
    refine w_aload_n dX8_dayStep_122 rfl ?_
    refine w_dup dX8_dayStep_123 rfl ?_
    refine mg_counted dX8_dayStep_124 rfl ?_
    refine w_topN (n := D.ct) EY.2.2.2.2 ?_
    refine w_iload_n dX8_dayStep_127 rfl ?_
    refine w_bipush (v := nI 26) dX8_dayStep_128 kb_26 ?_
    refine w_icmpN_ne dX8_dayStep_130 rfl (by omega) (by omega) (fun h_130 => ?_) (fun h_130 => ?_)
    · refine w_iconst (v := nI 1) dX8_dayStep_137 ki_1 ?_
      refine w_iaddN dX8_dayStep_138 ?_
      refine mp_counted dX8_dayStep_139 rfl ?_
      exact T2 o4 (D.ct + 1) hv h26 hc ho h3 (by rw [if_neg h_130])
    · refine w_iconst (v := nI 0) dX8_dayStep_133 ki_0 ?_
      refine w_goto dX8_dayStep_134 rfl ?_
      refine w_iaddN dX8_dayStep_138 ?_
      refine mp_counted dX8_dayStep_139 rfl ?_
      exact T2 o4 (D.ct + 0) hv h26 hc ho h3 (by rw [if_pos h_130, Nat.add_zero])
  refine w_aload_n dX8_dayStep_0 rfl ?_
  refine w_ldcS hx0 rfl rfl dX8_dayStep_1 ?_
  refine m_calli1 (mi := miX8_inWords) dX8_dayStep_3 q1759 okX8_inWords rfl (Nat.le_of_ble_eq_true rfl) (c_inWords hT hK hO) (Nat.le_of_ble_eq_true rfl) ?_
  by_cases hk30 : (kix X t) < 30
  · rw [show wI (kix X t) = nI (kix X t) from if_pos hk30]
    refine w_istore_n dX8_dayStep_6 rfl (Nat.le_of_ble_eq_true rfl) ls_6_1 ?_
    refine w_aload_n dX8_dayStep_7 rfl ?_
    refine mg_at dX8_dayStep_8 rfl ?_
    refine w_sipush (v := nI 5609) dX8_dayStep_11 ks_5609 ?_
    refine ma_at dX8_dayStep_14 (by omega) ?_
    refine w_topN (n := D.n) EY.2.1 ?_
    refine w_istore_n dX8_dayStep_15 rfl (Nat.le_of_ble_eq_true rfl) ls_6_2 ?_
    refine w_sipush (v := nI 6630) dX8_dayStep_16 ks_6630 ?_
    refine w_bipush (v := nI 6) dX8_dayStep_19 kb_6 ?_
    refine w_iload_n dX8_dayStep_21 rfl ?_
    refine w_imulN dX8_dayStep_22 ?_
    refine w_iaddN dX8_dayStep_23 ?_
    refine w_istore_n dX8_dayStep_24 rfl (Nat.le_of_ble_eq_true rfl) ls_6_3 ?_
    refine w_iload_n dX8_dayStep_25 rfl ?_
    refine w_bipush (v := nI 24) dX8_dayStep_26 kb_24 ?_
    refine w_icmpN_eq dX8_dayStep_28 rfl (by omega) (by omega) (fun h_28 => ?_) (fun h_28 => ?_)
    · refine w_iconst (v := nI 1) dX8_dayStep_37 ki_1 ?_
      refine w_goto dX8_dayStep_38 rfl ?_
      refine w_istore dX8_dayStep_42 rfl (Nat.le_of_ble_eq_true rfl) ls_6_4 ?_
      refine w_iload_n dX8_dayStep_44 rfl ?_
      refine w_iconst (v := nI 1) dX8_dayStep_45 ki_1 ?_
      refine w_icmpN_eq dX8_dayStep_46 rfl (by omega) (by omega) (fun h_46 => ?_) (fun h_46 => ?_)
      · exact absurd h_46 (by omega)
      · refine w_iload_n dX8_dayStep_49 rfl ?_
        refine w_bipush (v := nI 18) dX8_dayStep_50 kb_18 ?_
        refine w_icmpN_lt dX8_dayStep_52 rfl (by omega) (by omega) (fun h_52 => ?_) (fun h_52 => ?_)
        · exact absurd h_52 (by omega)
        · refine w_iload_n dX8_dayStep_55 rfl ?_
          refine w_bipush (v := nI 27) dX8_dayStep_56 kb_27 ?_
          refine w_icmpN_gt dX8_dayStep_58 rfl (by omega) (by omega) (fun h_58 => ?_) (fun h_58 => ?_)
          · exact absurd h_58 (by omega)
          · refine w_iload_n dX8_dayStep_61 rfl ?_
            refine w_bipush (v := nI 26) dX8_dayStep_62 kb_26 ?_
            refine w_icmpN_ne dX8_dayStep_64 rfl (by omega) (by omega) (fun h_64 => ?_) (fun h_64 => ?_)
            · refine w_iload_n dX8_dayStep_80 rfl ?_
              refine w_bipush (v := nI 26) dX8_dayStep_81 kb_26 ?_
              refine w_icmpN_eq dX8_dayStep_83 rfl (by omega) (by omega) (fun h_83 => ?_) (fun h_83 => ?_)
              · exact absurd h_83 h_64
              · refine w_aload_n dX8_dayStep_86 rfl ?_
                refine mg_counted dX8_dayStep_87 rfl ?_
                refine w_topN (n := D.ct) EY.2.2.2.2 ?_
                refine w_bipush (v := nI 30) dX8_dayStep_90 kb_30 ?_
                refine w_icmpN_ne dX8_dayStep_92 rfl (by omega) (by omega) (fun h_92 => ?_) (fun h_92 => ?_)
                · refine w_iload dX8_dayStep_102 rfl ?_
                  refine w_ifN_eq dX8_dayStep_104 rfl (by omega) (fun h_104 => ?_) (fun h_104 => ?_)
                  · exact absurd h_104 (by decide)
                  · refine w_aload_n dX8_dayStep_107 rfl ?_
                    refine mg_depth dX8_dayStep_108 rfl ?_
                    refine w_topN (n := D.op.length) EY.2.2.2.1 ?_
                    refine w_iconst (v := nI 3) dX8_dayStep_111 ki_3 ?_
                    refine w_icmpN_ne dX8_dayStep_112 rfl (by omega) (by omega) (fun h_112 => ?_) (fun h_112 => ?_)
                    · exact T1 1 (Or.inr (by omega)) (fun z => absurd z (by omega)) (fun _ => h_92) (by rw [if_pos (Or.inl h_28)]) (fun _ => h_112)
                    · refine w_aload_n dX8_dayStep_115 rfl ?_
                      refine w_bipush (v := nI 7) dX8_dayStep_116 kb_7 ?_
                      refine m_callPi1 (mi := miX8_fails) dX8_dayStep_118 q1765 okX8_fails rfl (Nat.le_of_ble_eq_true rfl) (c_failsX (k := 7) (t := t) hK h0 (by omega) (by omega) hO.ok.2.2.1) (Nat.le_of_ble_eq_true rfl) (fun S118 hS118 => ?_)
                      exact w_zret dX8_dayStep_121 rfl (by first | exact narr0 | exact narr1) ⟨by rw [bP_f (okE_er (show pStep X H D t = .error (flt t 7) from by unfold pStep; rw [if_neg (show ¬ (((kix X t) ≠ 1 ∧ ((kix X t) < 18 ∨ 27 < (kix X t))) ∨ ((kix X t) = 26 ∧ D.op = [])) from fun z => by rcases z with z | z; omega; exact absurd z.1 (by omega)), if_neg (fun z => h_92 z.2), if_pos ⟨by omega, h_112⟩]))], _, by exact PX_er (show pStep X H D t = .error (flt t 7) from by unfold pStep; rw [if_neg (show ¬ (((kix X t) ≠ 1 ∧ ((kix X t) < 18 ∨ 27 < (kix X t))) ∨ ((kix X t) = 26 ∧ D.op = [])) from fun z => by rcases z with z | z; omega; exact absurd z.1 (by omega)), if_neg (fun z => h_92 z.2), if_pos ⟨by omega, h_112⟩]) hS118, rfl⟩
                · refine w_aload_n dX8_dayStep_95 rfl ?_
                  refine w_bipush (v := nI 6) dX8_dayStep_96 kb_6 ?_
                  refine m_callPi1 (mi := miX8_fails) dX8_dayStep_98 q1765 okX8_fails rfl (Nat.le_of_ble_eq_true rfl) (c_failsX (k := 6) (t := t) hK h0 (by omega) (by omega) hO.ok.2.2.1) (Nat.le_of_ble_eq_true rfl) (fun S98 hS98 => ?_)
                  exact w_zret dX8_dayStep_101 rfl (by first | exact narr0 | exact narr1) ⟨by rw [bP_f (okE_er (show pStep X H D t = .error (flt t 6) from by unfold pStep; rw [if_neg (show ¬ (((kix X t) ≠ 1 ∧ ((kix X t) < 18 ∨ 27 < (kix X t))) ∨ ((kix X t) = 26 ∧ D.op = [])) from fun z => by rcases z with z | z; omega; exact absurd z.1 (by omega)), if_pos ⟨h_83, h_92⟩]))], _, by exact PX_er (show pStep X H D t = .error (flt t 6) from by unfold pStep; rw [if_neg (show ¬ (((kix X t) ≠ 1 ∧ ((kix X t) < 18 ∨ 27 < (kix X t))) ∨ ((kix X t) = 26 ∧ D.op = [])) from fun z => by rcases z with z | z; omega; exact absurd z.1 (by omega)), if_pos ⟨h_83, h_92⟩]) hS98, rfl⟩
            · exact absurd h_64 (by omega)
    · refine w_iload_n dX8_dayStep_31 rfl ?_
      refine w_bipush (v := nI 25) dX8_dayStep_32 kb_25 ?_
      refine w_icmpN_ne dX8_dayStep_34 rfl (by omega) (by omega) (fun h_34 => ?_) (fun h_34 => ?_)
      · refine w_iconst (v := nI 0) dX8_dayStep_41 ki_0 ?_
        refine w_istore dX8_dayStep_42 rfl (Nat.le_of_ble_eq_true rfl) ls_6_4 ?_
        refine w_iload_n dX8_dayStep_44 rfl ?_
        refine w_iconst (v := nI 1) dX8_dayStep_45 ki_1 ?_
        refine w_icmpN_eq dX8_dayStep_46 rfl (by omega) (by omega) (fun h_46 => ?_) (fun h_46 => ?_)
        · refine w_iload_n dX8_dayStep_61 rfl ?_
          refine w_bipush (v := nI 26) dX8_dayStep_62 kb_26 ?_
          refine w_icmpN_ne dX8_dayStep_64 rfl (by omega) (by omega) (fun h_64 => ?_) (fun h_64 => ?_)
          · refine w_iload_n dX8_dayStep_80 rfl ?_
            refine w_bipush (v := nI 26) dX8_dayStep_81 kb_26 ?_
            refine w_icmpN_eq dX8_dayStep_83 rfl (by omega) (by omega) (fun h_83 => ?_) (fun h_83 => ?_)
            · exact absurd h_83 h_64
            · refine w_aload_n dX8_dayStep_86 rfl ?_
              refine mg_counted dX8_dayStep_87 rfl ?_
              refine w_topN (n := D.ct) EY.2.2.2.2 ?_
              refine w_bipush (v := nI 30) dX8_dayStep_90 kb_30 ?_
              refine w_icmpN_ne dX8_dayStep_92 rfl (by omega) (by omega) (fun h_92 => ?_) (fun h_92 => ?_)
              · refine w_iload dX8_dayStep_102 rfl ?_
                refine w_ifN_eq dX8_dayStep_104 rfl (by omega) (fun h_104 => ?_) (fun h_104 => ?_)
                · exact T1 0 (Or.inl h_46) (fun z => absurd z h_64) (fun _ => h_92) (by rw [if_neg (by omega)]) (fun z => absurd z (by omega))
                · exact absurd rfl h_104
              · refine w_aload_n dX8_dayStep_95 rfl ?_
                refine w_bipush (v := nI 6) dX8_dayStep_96 kb_6 ?_
                refine m_callPi1 (mi := miX8_fails) dX8_dayStep_98 q1765 okX8_fails rfl (Nat.le_of_ble_eq_true rfl) (c_failsX (k := 6) (t := t) hK h0 (by omega) (by omega) hO.ok.2.2.1) (Nat.le_of_ble_eq_true rfl) (fun S98 hS98 => ?_)
                exact w_zret dX8_dayStep_101 rfl (by first | exact narr0 | exact narr1) ⟨by rw [bP_f (okE_er (show pStep X H D t = .error (flt t 6) from by unfold pStep; rw [if_neg (show ¬ (((kix X t) ≠ 1 ∧ ((kix X t) < 18 ∨ 27 < (kix X t))) ∨ ((kix X t) = 26 ∧ D.op = [])) from fun z => by rcases z with z | z; omega; exact absurd z.1 (by omega)), if_pos ⟨h_83, h_92⟩]))], _, by exact PX_er (show pStep X H D t = .error (flt t 6) from by unfold pStep; rw [if_neg (show ¬ (((kix X t) ≠ 1 ∧ ((kix X t) < 18 ∨ 27 < (kix X t))) ∨ ((kix X t) = 26 ∧ D.op = [])) from fun z => by rcases z with z | z; omega; exact absurd z.1 (by omega)), if_pos ⟨h_83, h_92⟩]) hS98, rfl⟩
          · exact absurd h_64 (by omega)
        · refine w_iload_n dX8_dayStep_49 rfl ?_
          refine w_bipush (v := nI 18) dX8_dayStep_50 kb_18 ?_
          refine w_icmpN_lt dX8_dayStep_52 rfl (by omega) (by omega) (fun h_52 => ?_) (fun h_52 => ?_)
          · refine w_aload_n dX8_dayStep_74 rfl ?_
            refine w_iconst (v := nI 2) dX8_dayStep_75 ki_2 ?_
            refine m_callPi1 (mi := miX8_fails) dX8_dayStep_76 q1765 okX8_fails rfl (Nat.le_of_ble_eq_true rfl) (c_failsX (k := 2) (t := t) hK h0 (by omega) (by omega) hO.ok.2.2.1) (Nat.le_of_ble_eq_true rfl) (fun S76 hS76 => ?_)
            exact w_zret dX8_dayStep_79 rfl (by first | exact narr0 | exact narr1) ⟨by rw [bP_f (okE_er (show pStep X H D t = .error (flt t 2) from if_pos (Or.inl ⟨h_46, by omega⟩)))], _, by exact PX_er (show pStep X H D t = .error (flt t 2) from if_pos (Or.inl ⟨h_46, by omega⟩)) hS76, rfl⟩
          · refine w_iload_n dX8_dayStep_55 rfl ?_
            refine w_bipush (v := nI 27) dX8_dayStep_56 kb_27 ?_
            refine w_icmpN_gt dX8_dayStep_58 rfl (by omega) (by omega) (fun h_58 => ?_) (fun h_58 => ?_)
            · refine w_aload_n dX8_dayStep_74 rfl ?_
              refine w_iconst (v := nI 2) dX8_dayStep_75 ki_2 ?_
              refine m_callPi1 (mi := miX8_fails) dX8_dayStep_76 q1765 okX8_fails rfl (Nat.le_of_ble_eq_true rfl) (c_failsX (k := 2) (t := t) hK h0 (by omega) (by omega) hO.ok.2.2.1) (Nat.le_of_ble_eq_true rfl) (fun S76 hS76 => ?_)
              exact w_zret dX8_dayStep_79 rfl (by first | exact narr0 | exact narr1) ⟨by rw [bP_f (okE_er (show pStep X H D t = .error (flt t 2) from if_pos (Or.inl ⟨h_46, by omega⟩)))], _, by exact PX_er (show pStep X H D t = .error (flt t 2) from if_pos (Or.inl ⟨h_46, by omega⟩)) hS76, rfl⟩
            · refine w_iload_n dX8_dayStep_61 rfl ?_
              refine w_bipush (v := nI 26) dX8_dayStep_62 kb_26 ?_
              refine w_icmpN_ne dX8_dayStep_64 rfl (by omega) (by omega) (fun h_64 => ?_) (fun h_64 => ?_)
              · refine w_iload_n dX8_dayStep_80 rfl ?_
                refine w_bipush (v := nI 26) dX8_dayStep_81 kb_26 ?_
                refine w_icmpN_eq dX8_dayStep_83 rfl (by omega) (by omega) (fun h_83 => ?_) (fun h_83 => ?_)
                · exact absurd h_83 h_64
                · refine w_aload_n dX8_dayStep_86 rfl ?_
                  refine mg_counted dX8_dayStep_87 rfl ?_
                  refine w_topN (n := D.ct) EY.2.2.2.2 ?_
                  refine w_bipush (v := nI 30) dX8_dayStep_90 kb_30 ?_
                  refine w_icmpN_ne dX8_dayStep_92 rfl (by omega) (by omega) (fun h_92 => ?_) (fun h_92 => ?_)
                  · refine w_iload dX8_dayStep_102 rfl ?_
                    refine w_ifN_eq dX8_dayStep_104 rfl (by omega) (fun h_104 => ?_) (fun h_104 => ?_)
                    · exact T1 0 (Or.inr (by omega)) (fun z => absurd z h_64) (fun _ => h_92) (by rw [if_neg (by omega)]) (fun z => absurd z (by omega))
                    · exact absurd rfl h_104
                  · refine w_aload_n dX8_dayStep_95 rfl ?_
                    refine w_bipush (v := nI 6) dX8_dayStep_96 kb_6 ?_
                    refine m_callPi1 (mi := miX8_fails) dX8_dayStep_98 q1765 okX8_fails rfl (Nat.le_of_ble_eq_true rfl) (c_failsX (k := 6) (t := t) hK h0 (by omega) (by omega) hO.ok.2.2.1) (Nat.le_of_ble_eq_true rfl) (fun S98 hS98 => ?_)
                    exact w_zret dX8_dayStep_101 rfl (by first | exact narr0 | exact narr1) ⟨by rw [bP_f (okE_er (show pStep X H D t = .error (flt t 6) from by unfold pStep; rw [if_neg (show ¬ (((kix X t) ≠ 1 ∧ ((kix X t) < 18 ∨ 27 < (kix X t))) ∨ ((kix X t) = 26 ∧ D.op = [])) from fun z => by rcases z with z | z; omega; exact absurd z.1 (by omega)), if_pos ⟨h_83, h_92⟩]))], _, by exact PX_er (show pStep X H D t = .error (flt t 6) from by unfold pStep; rw [if_neg (show ¬ (((kix X t) ≠ 1 ∧ ((kix X t) < 18 ∨ 27 < (kix X t))) ∨ ((kix X t) = 26 ∧ D.op = [])) from fun z => by rcases z with z | z; omega; exact absurd z.1 (by omega)), if_pos ⟨h_83, h_92⟩]) hS98, rfl⟩
              · refine w_aload_n dX8_dayStep_67 rfl ?_
                refine mg_depth dX8_dayStep_68 rfl ?_
                refine w_topN (n := D.op.length) EY.2.2.2.1 ?_
                refine w_ifN_ne dX8_dayStep_71 rfl (by omega) (fun h_71 => ?_) (fun h_71 => ?_)
                · refine w_iload_n dX8_dayStep_80 rfl ?_
                  refine w_bipush (v := nI 26) dX8_dayStep_81 kb_26 ?_
                  refine w_icmpN_eq dX8_dayStep_83 rfl (by omega) (by omega) (fun h_83 => ?_) (fun h_83 => ?_)
                  · refine w_iload dX8_dayStep_102 rfl ?_
                    refine w_ifN_eq dX8_dayStep_104 rfl (by omega) (fun h_104 => ?_) (fun h_104 => ?_)
                    · exact T1 0 (Or.inr (by omega)) (fun _ z => h_71 (by rw [z]; rfl)) (fun z => absurd h_83 z) (by rw [if_neg (by omega)]) (fun z => absurd z (by omega))
                    · exact absurd rfl h_104
                  · exact absurd h_64 h_83
                · refine w_aload_n dX8_dayStep_74 rfl ?_
                  refine w_iconst (v := nI 2) dX8_dayStep_75 ki_2 ?_
                  refine m_callPi1 (mi := miX8_fails) dX8_dayStep_76 q1765 okX8_fails rfl (Nat.le_of_ble_eq_true rfl) (c_failsX (k := 2) (t := t) hK h0 (by omega) (by omega) hO.ok.2.2.1) (Nat.le_of_ble_eq_true rfl) (fun S76 hS76 => ?_)
                  exact w_zret dX8_dayStep_79 rfl (by first | exact narr0 | exact narr1) ⟨by rw [bP_f (okE_er (show pStep X H D t = .error (flt t 2) from if_pos (Or.inr ⟨h_64, List.length_eq_zero_iff.mp (by omega)⟩)))], _, by exact PX_er (show pStep X H D t = .error (flt t 2) from if_pos (Or.inr ⟨h_64, List.length_eq_zero_iff.mp (by omega)⟩)) hS76, rfl⟩
      · refine w_iconst (v := nI 1) dX8_dayStep_37 ki_1 ?_
        refine w_goto dX8_dayStep_38 rfl ?_
        refine w_istore dX8_dayStep_42 rfl (Nat.le_of_ble_eq_true rfl) ls_6_4 ?_
        refine w_iload_n dX8_dayStep_44 rfl ?_
        refine w_iconst (v := nI 1) dX8_dayStep_45 ki_1 ?_
        refine w_icmpN_eq dX8_dayStep_46 rfl (by omega) (by omega) (fun h_46 => ?_) (fun h_46 => ?_)
        · exact absurd h_46 (by omega)
        · refine w_iload_n dX8_dayStep_49 rfl ?_
          refine w_bipush (v := nI 18) dX8_dayStep_50 kb_18 ?_
          refine w_icmpN_lt dX8_dayStep_52 rfl (by omega) (by omega) (fun h_52 => ?_) (fun h_52 => ?_)
          · exact absurd h_52 (by omega)
          · refine w_iload_n dX8_dayStep_55 rfl ?_
            refine w_bipush (v := nI 27) dX8_dayStep_56 kb_27 ?_
            refine w_icmpN_gt dX8_dayStep_58 rfl (by omega) (by omega) (fun h_58 => ?_) (fun h_58 => ?_)
            · exact absurd h_58 (by omega)
            · refine w_iload_n dX8_dayStep_61 rfl ?_
              refine w_bipush (v := nI 26) dX8_dayStep_62 kb_26 ?_
              refine w_icmpN_ne dX8_dayStep_64 rfl (by omega) (by omega) (fun h_64 => ?_) (fun h_64 => ?_)
              · refine w_iload_n dX8_dayStep_80 rfl ?_
                refine w_bipush (v := nI 26) dX8_dayStep_81 kb_26 ?_
                refine w_icmpN_eq dX8_dayStep_83 rfl (by omega) (by omega) (fun h_83 => ?_) (fun h_83 => ?_)
                · exact absurd h_83 h_64
                · refine w_aload_n dX8_dayStep_86 rfl ?_
                  refine mg_counted dX8_dayStep_87 rfl ?_
                  refine w_topN (n := D.ct) EY.2.2.2.2 ?_
                  refine w_bipush (v := nI 30) dX8_dayStep_90 kb_30 ?_
                  refine w_icmpN_ne dX8_dayStep_92 rfl (by omega) (by omega) (fun h_92 => ?_) (fun h_92 => ?_)
                  · refine w_iload dX8_dayStep_102 rfl ?_
                    refine w_ifN_eq dX8_dayStep_104 rfl (by omega) (fun h_104 => ?_) (fun h_104 => ?_)
                    · exact absurd h_104 (by decide)
                    · refine w_aload_n dX8_dayStep_107 rfl ?_
                      refine mg_depth dX8_dayStep_108 rfl ?_
                      refine w_topN (n := D.op.length) EY.2.2.2.1 ?_
                      refine w_iconst (v := nI 3) dX8_dayStep_111 ki_3 ?_
                      refine w_icmpN_ne dX8_dayStep_112 rfl (by omega) (by omega) (fun h_112 => ?_) (fun h_112 => ?_)
                      · exact T1 1 (Or.inr (by omega)) (fun z => absurd z (by omega)) (fun _ => h_92) (by rw [if_pos (Or.inr h_34)]) (fun _ => h_112)
                      · refine w_aload_n dX8_dayStep_115 rfl ?_
                        refine w_bipush (v := nI 7) dX8_dayStep_116 kb_7 ?_
                        refine m_callPi1 (mi := miX8_fails) dX8_dayStep_118 q1765 okX8_fails rfl (Nat.le_of_ble_eq_true rfl) (c_failsX (k := 7) (t := t) hK h0 (by omega) (by omega) hO.ok.2.2.1) (Nat.le_of_ble_eq_true rfl) (fun S118 hS118 => ?_)
                        exact w_zret dX8_dayStep_121 rfl (by first | exact narr0 | exact narr1) ⟨by rw [bP_f (okE_er (show pStep X H D t = .error (flt t 7) from by unfold pStep; rw [if_neg (show ¬ (((kix X t) ≠ 1 ∧ ((kix X t) < 18 ∨ 27 < (kix X t))) ∨ ((kix X t) = 26 ∧ D.op = [])) from fun z => by rcases z with z | z; omega; exact absurd z.1 (by omega)), if_neg (fun z => h_92 z.2), if_pos ⟨by omega, h_112⟩]))], _, by exact PX_er (show pStep X H D t = .error (flt t 7) from by unfold pStep; rw [if_neg (show ¬ (((kix X t) ≠ 1 ∧ ((kix X t) < 18 ∨ 27 < (kix X t))) ∨ ((kix X t) = 26 ∧ D.op = [])) from fun z => by rcases z with z | z; omega; exact absurd z.1 (by omega)), if_neg (fun z => h_92 z.2), if_pos ⟨by omega, h_112⟩]) hS118, rfl⟩
                  · refine w_aload_n dX8_dayStep_95 rfl ?_
                    refine w_bipush (v := nI 6) dX8_dayStep_96 kb_6 ?_
                    refine m_callPi1 (mi := miX8_fails) dX8_dayStep_98 q1765 okX8_fails rfl (Nat.le_of_ble_eq_true rfl) (c_failsX (k := 6) (t := t) hK h0 (by omega) (by omega) hO.ok.2.2.1) (Nat.le_of_ble_eq_true rfl) (fun S98 hS98 => ?_)
                    exact w_zret dX8_dayStep_101 rfl (by first | exact narr0 | exact narr1) ⟨by rw [bP_f (okE_er (show pStep X H D t = .error (flt t 6) from by unfold pStep; rw [if_neg (show ¬ (((kix X t) ≠ 1 ∧ ((kix X t) < 18 ∨ 27 < (kix X t))) ∨ ((kix X t) = 26 ∧ D.op = [])) from fun z => by rcases z with z | z; omega; exact absurd z.1 (by omega)), if_pos ⟨h_83, h_92⟩]))], _, by exact PX_er (show pStep X H D t = .error (flt t 6) from by unfold pStep; rw [if_neg (show ¬ (((kix X t) ≠ 1 ∧ ((kix X t) < 18 ∨ 27 < (kix X t))) ∨ ((kix X t) = 26 ∧ D.op = [])) from fun z => by rcases z with z | z; omega; exact absurd z.1 (by omega)), if_pos ⟨h_83, h_92⟩]) hS98, rfl⟩
              · exact absurd h_64 (by omega)
  · rw [show wI (kix X t) = -1 from if_neg hk30]
    refine w_istore_n dX8_dayStep_6 rfl (Nat.le_of_ble_eq_true rfl) ls_6_1 ?_
    refine w_aload_n dX8_dayStep_7 rfl ?_
    refine mg_at dX8_dayStep_8 rfl ?_
    refine w_sipush (v := nI 5609) dX8_dayStep_11 ks_5609 ?_
    refine ma_at dX8_dayStep_14 (by omega) ?_
    refine w_topN (n := D.n) EY.2.1 ?_
    refine w_istore_n dX8_dayStep_15 rfl (Nat.le_of_ble_eq_true rfl) ls_6_2 ?_
    refine w_sipush (v := nI 6630) dX8_dayStep_16 ks_6630 ?_
    refine w_bipush (v := nI 6) dX8_dayStep_19 kb_6 ?_
    refine w_iload_n dX8_dayStep_21 rfl ?_
    refine w_imulN dX8_dayStep_22 ?_
    refine w_iaddN dX8_dayStep_23 ?_
    refine w_istore_n dX8_dayStep_24 rfl (Nat.le_of_ble_eq_true rfl) ls_6_3 ?_
    refine w_iload_n dX8_dayStep_25 rfl ?_
    refine w_bipush (v := nI 24) dX8_dayStep_26 kb_24 ?_
    refine w_icmp_eq dX8_dayStep_28 rfl (fun h_28 => ?_) (fun h_28 => ?_)
    · exact absurd h_28 (by decide)
    · refine w_iload_n dX8_dayStep_31 rfl ?_
      refine w_bipush (v := nI 25) dX8_dayStep_32 kb_25 ?_
      refine w_icmp_ne dX8_dayStep_34 rfl (fun h_34 => ?_) (fun h_34 => ?_)
      · refine w_iconst (v := nI 0) dX8_dayStep_41 ki_0 ?_
        refine w_istore dX8_dayStep_42 rfl (Nat.le_of_ble_eq_true rfl) ls_6_4 ?_
        refine w_iload_n dX8_dayStep_44 rfl ?_
        refine w_iconst (v := nI 1) dX8_dayStep_45 ki_1 ?_
        refine w_icmp_eq dX8_dayStep_46 rfl (fun h_46 => ?_) (fun h_46 => ?_)
        · exact absurd h_46 (by decide)
        · refine w_iload_n dX8_dayStep_49 rfl ?_
          refine w_bipush (v := nI 18) dX8_dayStep_50 kb_18 ?_
          refine w_icmp_lt dX8_dayStep_52 rfl (fun h_52 => ?_) (fun h_52 => ?_)
          · refine w_aload_n dX8_dayStep_74 rfl ?_
            refine w_iconst (v := nI 2) dX8_dayStep_75 ki_2 ?_
            refine m_callPi1 (mi := miX8_fails) dX8_dayStep_76 q1765 okX8_fails rfl (Nat.le_of_ble_eq_true rfl) (c_failsX (k := 2) (t := t) hK h0 (by omega) (by omega) hO.ok.2.2.1) (Nat.le_of_ble_eq_true rfl) (fun S76 hS76 => ?_)
            exact w_zret dX8_dayStep_79 rfl (by first | exact narr0 | exact narr1) ⟨by rw [bP_f (okE_er (show pStep X H D t = .error (flt t 2) from if_pos (Or.inl ⟨by omega, Or.inr (by omega)⟩)))], _, by exact PX_er (show pStep X H D t = .error (flt t 2) from if_pos (Or.inl ⟨by omega, Or.inr (by omega)⟩)) hS76, rfl⟩
          · exact absurd (show (-1 : Int32) < nI 18 by decide) h_52
      · exact absurd h_34 (by decide)
