/-! STRING CONSTANTS: rows, String.length, String.charAt -/
set_option maxRecDepth 100000
theorem GoodG.st {g : GG} (h : GoodG g) : StrG g := h.2.2.2.2.2.2
theorem gz_kept {g : GG} {σ : PH} {H : Heap} (hR : Rep g σ H) : ∀ a : Nat, a < g.2.1.heap.size → ¬ gA g a → H[a]? = g.2.1.heap[a]? := fun a _ h2 => hR.2.2.1 a (Nat.not_le.mp h2)
section STR
variable {g : GG} {mt : MT} {kc ks pc : Nat} {L : List (Option Value)} {st rest : List Value} {σ : PH}
theorem w_ldcS {i index : Nat} {x : String × Nat × String × List Int32} (hx : skL[i]? = some x) (ho : mt.1.1 = x.1) (hi : index = x.2.1) (d : decode mt.1.2.1 pc = .ok (.ldc index, 2)) (kk : Wp g mt kc ks (pc + 2) L (.ref (sa g i) :: st) σ) : Wp g mt kc ks pc L st σ := by
  intro p e s m args below meth c H locs ls cells slots X hR hl hL h1 h2
  have hz := (X.gd.st.2.2 i x hx).1
  subst hi
  exact va_ldcS X.hx X.hb (by rw [← ho]; exact X.own) (vk_R.warm X.wm hz) d (kk p e s m args below meth c H locs ls cells slots X hR hl hL h1 h2)
theorem w_getO {o n dd : String} {q index : Nat} {v : Value} (hE : va_OF o n dd v q (gA g) g.2.1 g.2.1.heap) (d : decode mt.1.2.1 pc = .ok (.getfield index, 3)) (hlink : Cond.fieldLink mt.1.1 index o n dd ∈ lw_all) (kk : Wp g mt kc ks (pc + 3) L (v :: st) σ) : Wp g mt kc ks pc L (.ref q :: st) σ := by
  intro p e s m args below meth c H locs ls cells slots X hR hl hL h1 h2
  obtain ⟨cf, k, fi, f, cell, g1, g2, g3, g4, g5, g6⟩ := (va_OF.moved X.wm.alike hE).kept (gz_kept hR)
  exact W.getf X.hx X.hb X.own (X.ts _ hlink) g1 g2 g3 g4 (v := v) g5 rfl rfl d (kk p e s m args below meth c H locs ls cells slots X hR hl hL h1 h2)
theorem w_getZ {o n dd : String} {index : Nat} {v : Value} (hZ : va_Z o n dd v (gA g) g.2.1 g.2.1.heap) (d : decode mt.1.2.1 pc = .ok (.getstatic index, 3)) (hlink : Cond.fieldLink mt.1.1 index o n dd ∈ lw_all) (kk : Wp g mt kc ks (pc + 3) L (v :: st) σ) : Wp g mt kc ks pc L st σ := by
  intro p e s m args below meth c H locs ls cells slots X hR hl hL h1 h2
  obtain ⟨cf, kf, fi, f, a, cell, g1, g2, g3, g4, g5, g6, g7, g8⟩ := (va_Z.moved X.wm.alike hZ).kept (gz_kept hR)
  exact W.gets X.hx X.hb X.own (X.ts _ hlink) g1 g2 g3 g4 g5 (fun e => by rw [e] at g6; cases g6) g7 rfl d (kk p e s m args below meth c H locs ls cells slots X hR hl hL h1 h2)
theorem w_tlen {ty : FieldType} {t N : Nat} {f : Nat → Value} (hT : va_T ty t N f (gA g) g.2.1 g.2.1.heap) (d : decode mt.1.2.1 pc = .ok (.arraylength, 1)) (kk : Wp g mt kc ks (pc + 1) L (.int (nI N) :: st) σ) : Wp g mt kc ks pc L (.ref t :: st) σ := by
  intro p e s m args below meth c H locs ls cells slots X hR hl hL h1 h2
  obtain ⟨cell, g1, g2, g3, g4, g5, g6, g7⟩ := (va_T.moved X.wm.alike hT).kept (gz_kept hR)
  exact W.alen (n := nI N) X.hx X.hb g1 g2 g5 rfl rfl d (kk p e s m args below meth c H locs ls cells slots X hR hl hL h1 h2)
theorem w_tb {t N k : Nat} {f : Nat → Value} (hT : va_T .byte t N f (gA g) g.2.1 g.2.1.heap) (hk : k < N) (hN : N < 2147483648) (d : decode mt.1.2.1 pc = .ok (.baload, 1)) (kk : Wp g mt kc ks (pc + 1) L (f k :: st) σ) : Wp g mt kc ks pc L (.int (nI k) :: .ref t :: st) σ := by
  intro p e s m args below meth c H locs ls cells slots X hR hl hL h1 h2
  obtain ⟨cell, g1, g2, g3, g4, g5, g6, g7⟩ := (va_T.moved X.wm.alike hT).kept (gz_kept hR)
  have hc : (nI k).toNatClampNeg = k := nI_clamp (by omega)
  exact W.bald (v := f k) X.hx X.hb g1 g2 g3 (by
    intro q
    rcases q with q | q
    · exact nI_pos (by omega) q
    · rw [hc] at q
      omega) (by rw [hc]; exact g6 k hk) rfl rfl d (kk p e s m args below meth c H locs ls cells slots X hR hl hL h1 h2)
/-- a call on a String constant -/
theorem w_callVs {i index d2 n : Nat} {mi : MI} {As : List Value} {v : Option Value} {stk : List Value} {x : String × Nat × String × List Int32} (hx : skL[i]? = some x) (d : decode mt.1.2.1 pc = .ok (.invokevirtual index, 3)) (q : Cond.methodLink mt.1.1 index mi.1 ∈ lw_all) (ok : MOkV mi n) (hcls : mi.1.cls = "java/lang/String") (hd : d2 + 1 ≤ mt.2.1.1) (hM : Ms g mi d2 (.ref (sa g i) :: As) v) (hn : As.length = n) (hst : stk = As.reverse ++ .ref (sa g i) :: rest) (hcat : (rest.map fun v => v.category).sum ≤ 8)
    (kk : Wp g mt kc ks (pc + 3) L (v.toList ++ rest) σ) : Wp g mt kc ks pc L stk σ := by
  obtain ⟨⟨hh, q5, q4, hd9, hml9⟩, q2, q3⟩ := ok
  refine w_run (mc2 := 0) (ms2 := 0) (rest := rest) (Q2 := fun w σ2 => w = v ∧ σ2 = σ) (X2 := noX) ?_ (fun w σ2 h => by obtain ⟨rfl, rfl⟩ := h; exact kk) (fun _ _ _ h => h.elim)
  intro p e s m args below meth c H locs ls cells slots X hR hL h1 h2
  have hR' := X.rm
  rw [hcls] at q3 q4
  have hlv := lw_V (own := mt.1.1) (idx := index) q q2 q3 q4 q5
  refine ⟨_, vx_runV (Ts := lw_all) (own := mt.1.1) (C := "java/lang/String") ⟨X.hx, X.hb, X.ml, X.own, X.ts⟩ (hM σ X.gd) (cwV n X.ts (by rw [miW_nil hh]; exact hlv) (miW_nil hh) rfl rfl ⟨hcls, hd9⟩ ⟨by show d2 + 1 ≤ _; omega, by show 8 + (mi.2.2.1 + 11) + 60 * d2 ≤ _; omega⟩) ⟨pc_blind, ?_, fun U hU hW => ⟨rfl, State.WarmedH.trans X.wm hW, by rw [hU]; exact hR⟩⟩ rfl hn hL.1 hst (lv_room hcat) d ⟨h1, h2⟩⟩
  obtain ⟨cell, g1, g2, g3, -⟩ := (va_O.moved X.wm.alike (X.gd.st.2.2 i x hx).2.1).kept (gz_kept hR)
  exact ⟨cell, g1, g2, g3⟩
theorem str_calli0 {i index d2 : Nat} {mi : MI} {r : Int32} {x : String × Nat × String × List Int32} (hx : skL[i]? = some x) (d : decode mt.1.2.1 pc = .ok (.invokevirtual index, 3)) (q : Cond.methodLink mt.1.1 index mi.1 ∈ lw_all) (ok : MOkV mi 0) (hcls : mi.1.cls = "java/lang/String") (hd : d2 + 1 ≤ mt.2.1.1) (hM : Ms g mi d2 [.ref (sa g i)] (some (.int r))) (hcat : (rest.map fun v => v.category).sum ≤ 8)
    (kk : Wp g mt kc ks (pc + 3) L (.int r :: rest) σ) : Wp g mt kc ks pc L (.ref (sa g i) :: rest) σ := w_callVs (As := []) hx d q ok hcls hd hM rfl rfl hcat kk
theorem str_calli1 {i index d2 : Nat} {mi : MI} {r : Int32} {a1 : Value} {x : String × Nat × String × List Int32} (hx : skL[i]? = some x) (d : decode mt.1.2.1 pc = .ok (.invokevirtual index, 3)) (q : Cond.methodLink mt.1.1 index mi.1 ∈ lw_all) (ok : MOkV mi 1) (hcls : mi.1.cls = "java/lang/String") (hd : d2 + 1 ≤ mt.2.1.1) (hM : Ms g mi d2 [.ref (sa g i), a1] (some (.int r))) (hcat : (rest.map fun v => v.category).sum ≤ 8)
    (kk : Wp g mt kc ks (pc + 3) L (.int r :: rest) σ) : Wp g mt kc ks pc L (a1 :: .ref (sa g i) :: rest) σ := w_callVs (As := [a1]) hx d q ok hcls hd hM rfl rfl hcat kk
end STR
theorem plJ4 : plainName "java/lang/String" = true := by decide +kernel
theorem plJ7 : plainName "java/lang/StringLatin1" = true := by decide +kernel
theorem plJ8 : plainName "jdk/internal/util/Preconditions" = true := by decide +kernel
/-- every constant is a text of bytes below 128 -/
theorem skL_all : (skL.all fun x => decide (x.2.2.2.length < 200) && x.2.2.2.all fun b => !decide (b < 0) && decide (b < 128)) = true := by decide +kernel
theorem skL_b {x : String × Nat × String × List Int32} (hx : x ∈ skL) : x.2.2.2.length < 200 ∧ ∀ b ∈ x.2.2.2, ¬ b < 0 ∧ b < 128 := by
  have h := List.all_eq_true.mp skL_all x hx
  simp only [Bool.and_eq_true, decide_eq_true_eq, List.all_eq_true, Bool.not_eq_true', decide_eq_false_iff_not] at h
  exact h
theorem skL_31 {i : Nat} {x : String × Nat × String × List Int32} (hx : skL[i]? = some x) : i < 31 := (List.getElem?_eq_some_iff.mp hx).1
theorem skL_ch {i j : Nat} {x : String × Nat × String × List Int32} (hx : skL[i]? = some x) (hj : j < x.2.2.2.length) : ∃ c : Nat, x.2.2.2.getD j 0 = nI c ∧ c < 128 := by
  have hb : x.2.2.2.getD j 0 ∈ x.2.2.2 := by
    rw [List.getD_eq_getElem?_getD, List.getElem?_eq_getElem hj]
    exact List.getElem_mem hj
  have h := (skL_b (List.mem_of_getElem? hx)).2 _ hb
  obtain ⟨c, hc, e⟩ := nat_of (n := 128) h.1 (fun z => absurd (Int32.not_lt.mpr z) (fun q => q h.2)) (by omega)
  exact ⟨c, e, hc⟩
theorem skL_n {i : Nat} {x : String × Nat × String × List Int32} (hx : skL[i]? = some x) : x.2.2.2.length < 200 := (skL_b (List.mem_of_getElem? hx)).1
theorem and255 : ∀ c, c < 128 → nI c &&& nI 255 = nI c := by decide +kernel
theorem i2c_n : ∀ c, c < 128 → (nI c).toUInt32 % 65536 = (nI c).toUInt32 ∧ ((nI c).toUInt32 % 65536).toInt32 = nI c ∧ narrow .char (.int (nI c)) = .int (nI c) := by
  have h : ∀ c, c < 128 → (nI c).toUInt32 % 65536 = (nI c).toUInt32 ∧ ((nI c).toUInt32 % 65536).toInt32 = nI c ∧ ((nI c).toUInt32 % 65536).toInt32 = nI c := by decide +kernel
  intro c hc
  refine ⟨(h c hc).1, (h c hc).2.1, ?_⟩
  have := (h c hc).2.2
  simp [narrow, this]
theorem t_checkIndex {g : GG} {k n : Nat} {fv : Value} (hf : fv.category = 1) (hk : k < n) (hn : n < 2147483648) : Ms g miJ8_checkIndex 1 [.int (nI k), .int (nI n), fv] (some (.int (nI k))) := by
  refine Ms.start [some (.int (nI k)), some (.int (nI n)), some fv] plJ8 rfl ?_ ?_ ?_
  · cases fv <;> first | exact Nat.le_of_ble_eq_true rfl | exact absurd hf (show ¬ (2 : Nat) = 1 by decide)
  · cases fv <;> first | rfl | exact absurd hf (show ¬ (2 : Nat) = 1 by decide)
  intro σ
  refine w_iload_n dJ8_checkIndex_0 rfl ?_
  refine w_ifN_lt dJ8_checkIndex_1 rfl (by omega) (fun h => absurd h (by omega)) (fun _ => ?_)
  refine w_iload_n dJ8_checkIndex_4 rfl ?_
  refine w_iload_n dJ8_checkIndex_5 rfl ?_
  refine w_icmpN_lt dJ8_checkIndex_6 rfl (by omega) (by omega) (fun _ => ?_) (fun h => absurd hk (by omega))
  refine w_iload_n dJ8_checkIndex_16 rfl ?_
  exact w_iret dJ8_checkIndex_17 rfl ⟨rfl, rfl⟩
theorem t_strCheck {g : GG} {k n : Nat} (hk : k < n) (hn : n < 2147483648) : Ms g miJ4_checkIndex 2 [.int (nI k), .int (nI n)] none := by
  intro σ
  refine Ct.start [some (.int (nI k)), some (.int (nI n))] plJ4 rfl (Nat.le_of_ble_eq_true rfl) rfl (fun hG => ?_)
  refine w_iload_n dJ4_checkIndex_0 rfl ?_
  refine w_iload_n dJ4_checkIndex_1 rfl ?_
  rcases hG.st.2.1 with hz | ⟨t, hz⟩
  · refine w_getZ hz dJ4_checkIndex_2 q755 ?_
    refine s_calli3 (mi := miJ8_checkIndex) dJ4_checkIndex_5 q757 okJ8_checkIndex (Nat.le_of_ble_eq_true rfl) (t_checkIndex rfl hk hn) (Nat.le_of_ble_eq_true rfl) ?_
    refine w_pop dJ4_checkIndex_8 rfl ?_
    exact w_vret dJ4_checkIndex_9 rfl ⟨rfl, rfl⟩
  · refine w_getZ hz dJ4_checkIndex_2 q755 ?_
    refine s_calli3 (mi := miJ8_checkIndex) dJ4_checkIndex_5 q757 okJ8_checkIndex (Nat.le_of_ble_eq_true rfl) (t_checkIndex rfl hk hn) (Nat.le_of_ble_eq_true rfl) ?_
    refine w_pop dJ4_checkIndex_8 rfl ?_
    exact w_vret dJ4_checkIndex_9 rfl ⟨rfl, rfl⟩
theorem t_latCharAt {g : GG} {t N k c : Nat} {f : Nat → Value} (hT : va_T .byte t N f (gA g) g.2.1 g.2.1.heap) (hk : k < N) (hN : N < 2147483648) (hf : f k = .int (nI c)) (hc : c < 128) : Ms g miJ7_charAt 3 [.ref t, .int (nI k)] (some (.int (nI c))) := by
  refine Ms.start [some (.ref t), some (.int (nI k))] plJ7 rfl (Nat.le_of_ble_eq_true rfl) rfl ?_
  intro σ
  refine w_iload_n dJ7_charAt_0 rfl ?_
  refine w_aload_n dJ7_charAt_1 rfl ?_
  refine w_tlen hT dJ7_charAt_2 ?_
  refine s_callv2 (mi := miJ4_checkIndex) dJ7_charAt_3 q752 okJ4_checkIndex (Nat.le_of_ble_eq_true rfl) (t_strCheck hk hN) (Nat.le_of_ble_eq_true rfl) ?_
  refine w_aload_n dJ7_charAt_6 rfl ?_
  refine w_iload_n dJ7_charAt_7 rfl ?_
  refine w_tb hT hk hN dJ7_charAt_8 ?_
  rw [hf]
  refine w_sipush (v := nI 255) dJ7_charAt_9 ks_255 ?_
  refine w_iand dJ7_charAt_12 ?_
  rw [and255 c hc]
  refine w_i2c dJ7_charAt_13 (i2c_n c hc).2.1 ?_
  exact w_zret dJ7_charAt_14 rfl (i2c_n c hc).2.2 ⟨rfl, rfl⟩
theorem t_isLatin1 {g : GG} {i : Nat} {x : String × Nat × String × List Int32} (hx : skL[i]? = some x) : Ms g miJ4_isLatin1 1 [.ref (sa g i)] (some (.int (nI 1))) := by
  intro σ
  refine Ct.start [some (.ref (sa g i))] plJ4 rfl (Nat.le_of_ble_eq_true rfl) rfl (fun hG => ?_)
  refine w_getZ hG.st.1 dJ4_isLatin1_0 q739 ?_
  refine w_if_eq dJ4_isLatin1_3 rfl (fun h => absurd h (by decide)) (fun _ => ?_)
  refine w_aload_n dJ4_isLatin1_6 rfl ?_
  refine w_getO (hG.st.2.2 i x hx).2.2.1 dJ4_isLatin1_7 q2297 ?_
  refine w_if_ne dJ4_isLatin1_10 rfl (fun h => absurd rfl h) (fun _ => ?_)
  refine w_iconst (v := nI 1) dJ4_isLatin1_13 ki_1 ?_
  refine w_goto dJ4_isLatin1_14 rfl ?_
  exact w_zret dJ4_isLatin1_18 rfl (by first | exact narr0 | exact narr1) ⟨rfl, rfl⟩
theorem t_coder {g : GG} {i : Nat} {x : String × Nat × String × List Int32} (hx : skL[i]? = some x) : Ms g miJ4_coder 1 [.ref (sa g i)] (some (.int (nI 0))) := by
  intro σ
  refine Ct.start [some (.ref (sa g i))] plJ4 rfl (Nat.le_of_ble_eq_true rfl) rfl (fun hG => ?_)
  refine w_getZ hG.st.1 dJ4_coder_0 q739 ?_
  refine w_if_eq dJ4_coder_3 rfl (fun h => absurd h (by decide)) (fun _ => ?_)
  refine w_aload_n dJ4_coder_6 rfl ?_
  refine w_getO (hG.st.2.2 i x hx).2.2.1 dJ4_coder_7 q2297 ?_
  refine w_goto dJ4_coder_10 rfl ?_
  exact w_zret dJ4_coder_14 rfl rfl ⟨rfl, rfl⟩
theorem shr0 : ∀ n, n < 200 → nI n >>> (nI 0 &&& 31) = nI n := by decide +kernel
/-- String.length -/
theorem t_length {g : GG} {i : Nat} {x : String × Nat × String × List Int32} (hx : skL[i]? = some x) : Ms g miJ4_length 2 [.ref (sa g i)] (some (.int (nI x.2.2.2.length))) := by
  intro σ
  refine Ct.start [some (.ref (sa g i))] plJ4 rfl (Nat.le_of_ble_eq_true rfl) rfl (fun hG => ?_)
  obtain ⟨v, hv, hT⟩ := (hG.st.2.2 i x hx).2.2.2
  refine w_aload_n dJ4_length_0 rfl ?_
  refine w_getO hv dJ4_length_1 q2296 ?_
  refine w_tlen hT dJ4_length_4 ?_
  refine w_aload_n dJ4_length_5 rfl ?_
  refine str_calli0 (mi := miJ4_coder) hx dJ4_length_6 q735 okJ4_coder rfl (Nat.le_of_ble_eq_true rfl) (t_coder hx) (Nat.le_of_ble_eq_true rfl) ?_
  refine w_ishr dJ4_length_9 ?_
  rw [shr0 _ (skL_n hx)]
  exact w_iret dJ4_length_10 rfl ⟨rfl, rfl⟩
/-- String.charAt -/
theorem t_charAt {g : GG} {i k : Nat} {x : String × Nat × String × List Int32} (hx : skL[i]? = some x) (hk : k < x.2.2.2.length) : Ms g miJ4_charAt 4 [.ref (sa g i), .int (nI k)] (some (.int (x.2.2.2.getD k 0))) := by
  intro σ
  refine Ct.start [some (.ref (sa g i)), some (.int (nI k))] plJ4 rfl (Nat.le_of_ble_eq_true rfl) rfl (fun hG => ?_)
  obtain ⟨v, hv, hT⟩ := (hG.st.2.2 i x hx).2.2.2
  obtain ⟨c, hc, hc2⟩ := skL_ch hx hk
  refine w_aload_n dJ4_charAt_0 rfl ?_
  refine str_calli0 (mi := miJ4_isLatin1) hx dJ4_charAt_1 q745 okJ4_isLatin1 rfl (Nat.le_of_ble_eq_true rfl) (t_isLatin1 hx) (Nat.le_of_ble_eq_true rfl) ?_
  refine w_if_eq dJ4_charAt_4 rfl (fun h => absurd h (by decide)) (fun _ => ?_)
  refine w_aload_n dJ4_charAt_7 rfl ?_
  refine w_getO hv dJ4_charAt_8 q2296 ?_
  refine w_iload_n dJ4_charAt_11 rfl ?_
  have hn := skL_n hx
  refine s_calli2 (mi := miJ7_charAt) dJ4_charAt_12 q749 okJ7_charAt (Nat.le_of_ble_eq_true rfl) (t_latCharAt hT hk (by omega) (congrArg Value.int hc) hc2) (Nat.le_of_ble_eq_true rfl) ?_
  rw [hc]
  exact w_zret dJ4_charAt_15 rfl (i2c_n c hc2).2.2 ⟨rfl, rfl⟩
