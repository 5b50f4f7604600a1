/-! EXCEPTIONS: what the machine throws at this program's arrays -/
set_option maxRecDepth 100000
theorem vm_ix : VmX "java/lang/ArrayIndexOutOfBoundsException" ["java/lang/IndexOutOfBoundsException","java/lang/RuntimeException","java/lang/Exception"] := by
  refine ⟨by decide +kernel, by decide +kernel, by decide +kernel, by decide +kernel, ?_, by decide +kernel, by decide⟩
  intro w hw
  have h : (vx_atM "java/lang/ArrayIndexOutOfBoundsException" ["java/lang/IndexOutOfBoundsException","java/lang/RuntimeException","java/lang/Exception"]).all (fun w => decide (w ∈ lw_tbl) && (goodWord w || isNw w)) = true := by decide +kernel
  have h1 := List.all_eq_true.mp h w hw
  simp only [Bool.and_eq_true, decide_eq_true_eq, Bool.or_eq_true] at h1
  rcases h1.2 with h2 | h2
  · exact Or.inl (lw_g h1.1 h2)
  · exact Or.inr ⟨h1.1, h2⟩
theorem vm_ng : VmX "java/lang/NegativeArraySizeException" ["java/lang/RuntimeException","java/lang/Exception"] := by
  refine ⟨by decide +kernel, by decide +kernel, by decide +kernel, by decide +kernel, ?_, by decide +kernel, by decide⟩
  intro w hw
  have h : (vx_atM "java/lang/NegativeArraySizeException" ["java/lang/RuntimeException","java/lang/Exception"]).all (fun w => decide (w ∈ lw_tbl) && (goodWord w || isNw w)) = true := by decide +kernel
  have h1 := List.all_eq_true.mp h w hw
  simp only [Bool.and_eq_true, decide_eq_true_eq, Bool.or_eq_true] at h1
  rcases h1.2 with h2 | h2
  · exact Or.inl (lw_g h1.1 h2)
  · exact Or.inr ⟨h1.1, h2⟩
section EXR
variable {g : GG} {mt : MT} {kc ks pc : Nat} {L : List (Option Value)} {st : List Value} {σ σ0 : PH}

theorem w_ialdX {a n : Nat} {t : Tg} {f : Nat → Int32} {i : Int32} (d : decode mt.1.2.1 pc = .ok (.iaload, 1)) (hh : σ.2 a = some (t, .inl (g.2.2.2 0, n, .inl f))) (hout : ¬ vp_in i n) (hn : n < 2147483648) (hd : 180 ≤ mt.2.1.1) (hcat : (st.map fun v => v.category).sum ≤ 8) (kx : ∀ (q : Addr) (m : Nat), σ.1 ≤ m → Tp g mt kc ks pc L st q "java/lang/ArrayIndexOutOfBoundsException" (m, σ.2)) : Wp g mt (kc + 3) (ks + 222) pc L (.int i :: .ref a :: st) σ := by
  intro p e s m args below meth c H locs ls cells slots X hR hl hL h1 h2
  refine vx_ialdZ X.hx X.hb X.K (P1 (hR.at_ hh)) 0 0 rfl rfl hout d (fun tx htx => ?_)
  subst htx
  exact x_note vm_ix (index_text_modelled i n) (index_text_bytes i (by omega)) (by omega) hd hcat kx X hR hl hL h1 h2
theorem w_baldX {a n : Nat} {t : Tg} {f : Nat → Int32} {i : Int32} (d : decode mt.1.2.1 pc = .ok (.baload, 1)) (hh : σ.2 a = some (t, .inl (g.2.2.2 2, n, .inl f))) (hout : ¬ vp_in i n) (hn : n < 2147483648) (hd : 180 ≤ mt.2.1.1) (hcat : (st.map fun v => v.category).sum ≤ 8) (kx : ∀ (q : Addr) (m : Nat), σ.1 ≤ m → Tp g mt kc ks pc L st q "java/lang/ArrayIndexOutOfBoundsException" (m, σ.2)) : Wp g mt (kc + 3) (ks + 222) pc L (.int i :: .ref a :: st) σ := by
  intro p e s m args below meth c H locs ls cells slots X hR hl hL h1 h2
  refine vx_baldZ X.hx X.hb X.K (P1 (hR.at_ hh)) 0 2 rfl rfl hout d (fun tx htx => ?_)
  subst htx
  exact x_note vm_ix (index_text_modelled i n) (index_text_bytes i (by omega)) (by omega) hd hcat kx X hR hl hL h1 h2
theorem w_saldX {a n : Nat} {t : Tg} {f : Nat → Int32} {i : Int32} (d : decode mt.1.2.1 pc = .ok (.saload, 1)) (hh : σ.2 a = some (t, .inl (g.2.2.2 3, n, .inl f))) (hout : ¬ vp_in i n) (hn : n < 2147483648) (hd : 180 ≤ mt.2.1.1) (hcat : (st.map fun v => v.category).sum ≤ 8) (kx : ∀ (q : Addr) (m : Nat), σ.1 ≤ m → Tp g mt kc ks pc L st q "java/lang/ArrayIndexOutOfBoundsException" (m, σ.2)) : Wp g mt (kc + 3) (ks + 222) pc L (.int i :: .ref a :: st) σ := by
  intro p e s m args below meth c H locs ls cells slots X hR hl hL h1 h2
  refine vx_saldZ X.hx X.hb X.K (P1 (hR.at_ hh)) 0 3 rfl rfl hout d (fun tx htx => ?_)
  subst htx
  exact x_note vm_ix (index_text_modelled i n) (index_text_bytes i (by omega)) (by omega) hd hcat kx X hR hl hL h1 h2
theorem w_laldX {a n : Nat} {t : Tg} {f : Nat → Int64} {i : Int32} (d : decode mt.1.2.1 pc = .ok (.laload, 1)) (hh : σ.2 a = some (t, .inl (g.2.2.2 1, n, .inr (.inl f)))) (hout : ¬ vp_in i n) (hn : n < 2147483648) (hd : 180 ≤ mt.2.1.1) (hcat : (st.map fun v => v.category).sum ≤ 8) (kx : ∀ (q : Addr) (m : Nat), σ.1 ≤ m → Tp g mt kc ks pc L st q "java/lang/ArrayIndexOutOfBoundsException" (m, σ.2)) : Wp g mt (kc + 3) (ks + 222) pc L (.int i :: .ref a :: st) σ := by
  intro p e s m args below meth c H locs ls cells slots X hR hl hL h1 h2
  refine vx_laldZ X.hx X.hb X.K (P1 (hR.at_ hh)) 0 1 rfl rfl hout d (fun tx htx => ?_)
  subst htx
  exact x_note vm_ix (index_text_modelled i n) (index_text_bytes i (by omega)) (by omega) hd hcat kx X hR hl hL h1 h2
theorem w_iastX {a n : Nat} {t : Tg} {f : Nat → Int32} {i : Int32} {x : Int32} (d : decode mt.1.2.1 pc = .ok (.iastore, 1)) (hh : σ.2 a = some (t, .inl (g.2.2.2 0, n, .inl f))) (hout : ¬ vp_in i n) (hn : n < 2147483648) (hd : 180 ≤ mt.2.1.1) (hcat : (st.map fun v => v.category).sum ≤ 8) (kx : ∀ (q : Addr) (m : Nat), σ.1 ≤ m → Tp g mt kc ks pc L st q "java/lang/ArrayIndexOutOfBoundsException" (m, σ.2)) : Wp g mt (kc + 3) (ks + 222) pc L (.int x :: .int i :: .ref a :: st) σ := by
  intro p e s m args below meth c H locs ls cells slots X hR hl hL h1 h2
  refine vx_iastZ X.hx X.hb X.K (P1 (hR.at_ hh)) 0 0 rfl rfl hout d (fun tx htx => ?_)
  subst htx
  exact x_note vm_ix (index_text_modelled i n) (index_text_bytes i (by omega)) (by omega) hd hcat kx X hR hl hL h1 h2
theorem w_bastX {a n : Nat} {t : Tg} {f : Nat → Int32} {i : Int32} {x : Int32} (d : decode mt.1.2.1 pc = .ok (.bastore, 1)) (hh : σ.2 a = some (t, .inl (g.2.2.2 2, n, .inl f))) (hout : ¬ vp_in i n) (hn : n < 2147483648) (hd : 180 ≤ mt.2.1.1) (hcat : (st.map fun v => v.category).sum ≤ 8) (kx : ∀ (q : Addr) (m : Nat), σ.1 ≤ m → Tp g mt kc ks pc L st q "java/lang/ArrayIndexOutOfBoundsException" (m, σ.2)) : Wp g mt (kc + 3) (ks + 222) pc L (.int x :: .int i :: .ref a :: st) σ := by
  intro p e s m args below meth c H locs ls cells slots X hR hl hL h1 h2
  refine vx_bastZ X.hx X.hb X.K (P1 (hR.at_ hh)) 0 2 rfl rfl hout d (fun tx htx => ?_)
  subst htx
  exact x_note vm_ix (index_text_modelled i n) (index_text_bytes i (by omega)) (by omega) hd hcat kx X hR hl hL h1 h2
theorem w_sastX {a n : Nat} {t : Tg} {f : Nat → Int32} {i : Int32} {x : Int32} (d : decode mt.1.2.1 pc = .ok (.sastore, 1)) (hh : σ.2 a = some (t, .inl (g.2.2.2 3, n, .inl f))) (hout : ¬ vp_in i n) (hn : n < 2147483648) (hd : 180 ≤ mt.2.1.1) (hcat : (st.map fun v => v.category).sum ≤ 8) (kx : ∀ (q : Addr) (m : Nat), σ.1 ≤ m → Tp g mt kc ks pc L st q "java/lang/ArrayIndexOutOfBoundsException" (m, σ.2)) : Wp g mt (kc + 3) (ks + 222) pc L (.int x :: .int i :: .ref a :: st) σ := by
  intro p e s m args below meth c H locs ls cells slots X hR hl hL h1 h2
  refine vx_sastZ X.hx X.hb X.K (P1 (hR.at_ hh)) 0 3 rfl rfl hout d (fun tx htx => ?_)
  subst htx
  exact x_note vm_ix (index_text_modelled i n) (index_text_bytes i (by omega)) (by omega) hd hcat kx X hR hl hL h1 h2
theorem w_lastX {a n : Nat} {t : Tg} {f : Nat → Int64} {i : Int32} {x : Int64} (d : decode mt.1.2.1 pc = .ok (.lastore, 1)) (hh : σ.2 a = some (t, .inl (g.2.2.2 1, n, .inr (.inl f)))) (hout : ¬ vp_in i n) (hn : n < 2147483648) (hd : 180 ≤ mt.2.1.1) (hcat : (st.map fun v => v.category).sum ≤ 8) (kx : ∀ (q : Addr) (m : Nat), σ.1 ≤ m → Tp g mt kc ks pc L st q "java/lang/ArrayIndexOutOfBoundsException" (m, σ.2)) : Wp g mt (kc + 3) (ks + 222) pc L (.long x :: .int i :: .ref a :: st) σ := by
  intro p e s m args below meth c H locs ls cells slots X hR hl hL h1 h2
  refine vx_lastZ X.hx X.hb X.K (P1 (hR.at_ hh)) 0 1 rfl rfl hout d (fun tx htx => ?_)
  subst htx
  exact x_note vm_ix (index_text_modelled i n) (index_text_bytes i (by omega)) (by omega) hd hcat kx X hR hl hL h1 h2
theorem w_newarrX {atype : ArrayType} {n : Int32} (d : decode mt.1.2.1 pc = .ok (.newarray atype, 2)) (h0 : n < 0) (hd : 180 ≤ mt.2.1.1) (hcat : (st.map fun v => v.category).sum ≤ 8) (kx : ∀ (q : Addr) (m : Nat), σ.1 ≤ m → Tp g mt kc ks pc L st q "java/lang/NegativeArraySizeException" (m, σ.2))   : Wp g mt (kc + 3) (ks + 54) pc L (.int n :: st) σ := by
  intro p e s m args below meth c H locs ls cells slots X hR hl hL h1 h2
  refine vx_newarrayZ X.hx X.hb h0 d (fun tx htx => ?_)
  subst htx
  exact x_note vm_ng (negative_text_modelled h0) (negative_text_bytes n) (by omega) hd hcat kx X hR hl hL h1 h2
end EXR
