set_option maxRecDepth 100000
/-- the component's first cells, from z on, and its object -/
def lpE (z : Nat) : va_E := .inr (0, [.ref (z + 0), .ref (z + 5), .int 0, .int (-1), .int (-1), .ref (z + 6), .ref (z + 7), .int 0, .long 0, .long 1, .ref (z + 8), .ref (z + 50), .int 0, .ref (z + 51), .ref (z + 52), .ref (z + 53), .int 0, .int 0, .int 0, .ref (z + 54), .ref (z + 55), .ref (z + 96), .int 0])
def lpL (g : GG) (z : Nat) : List (Tg × va_E) := [((0, 0), .inl (g.2.2.2 4, 4, .inr (.inr (.inr (.inr fun i => some (z + (1 + i))))))), ((1, 0), .inr (1, [.null])), ((1, 1), .inr (1, [.null])), ((1, 2), .inr (1, [.null])), ((1, 3), .inr (1, [.null])), ((0, 1), .inl (g.2.2.2 2, 900, .inl fun _ => 0)), ((0, 5), .inr (2, [.null, .null, .null, .null, .null, .int 0, .int 0, .int 0])), ((0, 6), .inr (3, [.null, .null, .null, .null, .null, .int 0, .int 0])), ((2, 0), .inr (4, [.ref (z + 9 + 0), .null]))] ++ (((3, 0), dayE (z + 9 + 1)) :: dayL g 0 (z + 9 + 1)) ++ [((0, 11), .inl (g.2.2.2 6, 3, .inr (.inr (.inr (.inr fun _ => none))))), ((0, 13), .inl (g.2.2.2 0, 8, .inl fun _ => 0)), ((0, 14), .inl (g.2.2.2 0, 8, .inl fun _ => 0)), ((0, 15), .inl (g.2.2.2 0, 8, .inl fun _ => 0)), ((0, 19), .inl (g.2.2.2 0, 8, .inl fun _ => 0)), ((3, 4), dayE (z + 56))] ++ dayL g 4 (z + 56) ++ [((0, 21), .inl (g.2.2.2 0, 5, .inl fun _ => 0))]
/-- cells are replaced behind others of a known number -/
theorem xi_set {A D : List (Tg × va_E)} {d d2 : Tg × va_E} {n : Nat} (h : A.length = n) : (A ++ [d] ++ D).set n d2 = A ++ [d2] ++ D := by
  subst h
  rw [List.append_assoc, List.set_append_right _ _ (Nat.le_refl _), Nat.sub_self, List.append_assoc]
  rfl
set_option maxHeartbeats 4000000 in
theorem xi_B {g : GG} {σ : PH} {a : Nat} {t : Tg} {l1 : List (Tg × va_E)} (ha : a < σ.1) (hl : l1 = [((0, 0), .inl (g.2.2.2 4, 4, .inr (.inr (.inr (.inr fun i => some (σ.1 + (1 + i))))))), ((1, 0), .inr (1, [.null])), ((1, 1), .inr (1, [.null])), ((1, 2), .inr (1, [.null])), ((1, 3), .inr (1, [.null])), ((0, 1), .inl (g.2.2.2 2, 900, .inl fun _ => 0)), ((0, 5), .inr (2, [.null, .null, .null, .null, .null, .int 0, .int 0, .int 0])), ((0, 6), .inr (3, [.null, .null, .null, .null, .null, .int 0, .int 0])), ((2, 0), .inr (4, [.ref (σ.1 + 9 + 0), .null]))] ++ (((3, 0), dayE (σ.1 + 9 + 1)) :: dayL g 0 (σ.1 + 9 + 1))) : Wp g (mtOf g miX0_init 4 97 1533 (fun w σ2 => w = none ∧ σ2 = rw_ σ a t (lpE σ.1) (lpL g σ.1)) noX) 47 324 106 [some (.ref a)] [.ref (σ.1 + 8), .ref a] (rw_ σ a t (.inr (0, [.ref (σ.1 + 0), .ref (σ.1 + 5), .int 0, .int (-1), .int (-1), .ref (σ.1 + 6), .ref (σ.1 + 7), .int 0, .long 0, .long 1, .null, .null, .int 0, .null, .null, .null, .int 0, .int 0, .int 0, .null, .null, .null, .int 0])) l1) := by
  have h50 : l1.length = 50 := by
    rw [hl]
    simp [dayL_len]
  refine w_putfF (k := 10) dX0_init_106 clX0 (by decide) q474 rfl rfl rfl rw_a rfl rfl (Nat.le_of_ble_eq_true rfl) ?_
  refine k_up ?_
  refine w_aload_n dX0_init_109 rfl ?_
  refine w_iconst (v := nI 3) dX0_init_110 ki_3 ?_
  refine w_anew (k := 6) (n := 3) (kc := 46) (ks := 321) (0, 11) rfl q273 q459 dX0_init_111 (by decide) ?_
  refine k_new (n := 50) ha (by simp [h50, dayL_len]) ?_
  refine w_putfF (k := 11) dX0_init_114 clX0 (by decide) q475 rfl rfl rfl rw_a rfl rfl (Nat.le_of_ble_eq_true rfl) ?_
  refine k_up ?_
  refine w_aload_n dX0_init_117 rfl ?_
  refine w_bipush (v := nI 8) dX0_init_118 kb_8 ?_
  refine w_newI (n := 8) (kc := 45) (ks := 313) (0, 13) dX0_init_120 (by decide) ?_
  refine k_new (n := 51) ha (by simp [h50, dayL_len]) ?_
  refine w_putfF (k := 13) dX0_init_122 clX0 (by decide) q477 rfl rfl rfl rw_a rfl rfl (Nat.le_of_ble_eq_true rfl) ?_
  refine k_up ?_
  refine w_aload_n dX0_init_125 rfl ?_
  refine w_bipush (v := nI 8) dX0_init_126 kb_8 ?_
  refine w_newI (n := 8) (kc := 44) (ks := 305) (0, 14) dX0_init_128 (by decide) ?_
  refine k_new (n := 52) ha (by simp [h50, dayL_len]) ?_
  refine w_putfF (k := 14) dX0_init_130 clX0 (by decide) q478 rfl rfl rfl rw_a rfl rfl (Nat.le_of_ble_eq_true rfl) ?_
  refine k_up ?_
  refine w_aload_n dX0_init_133 rfl ?_
  refine w_bipush (v := nI 8) dX0_init_134 kb_8 ?_
  refine w_newI (n := 8) (kc := 43) (ks := 297) (0, 15) dX0_init_136 (by decide) ?_
  refine k_new (n := 53) ha (by simp [h50, dayL_len]) ?_
  refine w_putfF (k := 15) dX0_init_138 clX0 (by decide) q479 rfl rfl rfl rw_a rfl rfl (Nat.le_of_ble_eq_true rfl) ?_
  refine k_up ?_
  refine w_aload_n dX0_init_141 rfl ?_
  refine w_bipush (v := nI 8) dX0_init_142 kb_8 ?_
  refine w_newI (n := 8) (kc := 42) (ks := 289) (0, 19) dX0_init_144 (by decide) ?_
  refine k_new (n := 54) ha (by simp [h50, dayL_len]) ?_
  refine w_putfF (k := 19) dX0_init_146 clX0 (by decide) q483 rfl rfl rfl rw_a rfl rfl (Nat.le_of_ble_eq_true rfl) ?_
  refine k_up ?_
  refine w_aload_n dX0_init_149 rfl ?_
  refine w_new (kc := 41) (ks := 280) [.null, .null, .null, .null, .null, .null, .int 0, .int 0, .int 0] (3, 4) dX0_init_150 clX5 q460 q280 q141 dfX5 ?_
  refine k_new (n := 55) ha (by simp [h50, dayL_len]) ?_
  refine w_dup dX0_init_153 rfl ?_
  refine k_onI (i := 55) (n := 56) (kc := 1) (ks := 5) (mc2 := 40) (ms2 := 275) (mi := miX5_init) dX0_init_154 q461 okX5_init (iX5_init (j := 4)) (Nat.le_of_ble_eq_true rfl) ha (by rw [List.getElem?_append_right (by simp [h50])]; simp [h50]; rfl) (by simp [h50]) rfl rfl (Nat.le_of_ble_eq_true rfl) ?_
  refine w_putfF (k := 20) dX0_init_157 clX0 (by decide) q484 rfl rfl rfl rw_a rfl rfl (Nat.le_of_ble_eq_true rfl) ?_
  refine k_up ?_
  refine w_aload_n dX0_init_160 rfl ?_
  refine w_iconst (v := nI 5) dX0_init_161 ki_5 ?_
  refine w_newI (n := 5) (kc := 0) (ks := 0) (0, 21) dX0_init_162 (by decide) ?_
  refine k_new (n := 96) ha (by simp [h50, dayL_len]) ?_
  refine w_putfF (k := 21) dX0_init_164 clX0 (by decide) q485 rfl rfl rfl rw_a rfl rfl (Nat.le_of_ble_eq_true rfl) ?_
  refine k_up ?_
  refine w_vret dX0_init_167 rfl ⟨rfl, ?_⟩
  refine congrArg (rw_ σ a t (lpE σ.1)) ?_
  rw [xi_set (by simp [h50]), hl]
  unfold lpL
  simp only [List.append_assoc, List.cons_append, List.nil_append]
set_option maxHeartbeats 4000000 in
theorem xi_M {g : GG} {σ : PH} {a : Nat} {t : Tg} {l0 : List (Tg × va_E)} (ha : a < σ.1) (hl : l0 = [((0, 0), .inl (g.2.2.2 4, 4, .inr (.inr (.inr (.inr fun i => some (σ.1 + (1 + i))))))), ((1, 0), .inr (1, [.null])), ((1, 1), .inr (1, [.null])), ((1, 2), .inr (1, [.null])), ((1, 3), .inr (1, [.null])), ((0, 1), .inl (g.2.2.2 2, 900, .inl fun _ => 0)), ((0, 5), .inr (2, [.null, .null, .null, .null, .null, .int 0, .int 0, .int 0])), ((0, 6), .inr (3, [.null, .null, .null, .null, .null, .int 0, .int 0]))]) : Wp g (mtOf g miX0_init 4 97 1533 (fun w σ2 => w = none ∧ σ2 = rw_ σ a t (lpE σ.1) (lpL g σ.1)) noX) 89 610 98 [some (.ref a)] [] (rw_ σ a t (.inr (0, [.ref (σ.1 + 0), .ref (σ.1 + 5), .int 0, .int (-1), .int (-1), .ref (σ.1 + 6), .ref (σ.1 + 7), .int 0, .long 0, .long 1, .null, .null, .int 0, .null, .null, .null, .int 0, .int 0, .int 0, .null, .null, .null, .int 0])) l0) := by
  have h8 : l0.length = 8 := by rw [hl]; rfl
  refine w_aload_n dX0_init_98 rfl ?_
  refine w_new (kc := 88) (ks := 608) [.null, .null] (2, 0) dX0_init_99 clX4 q273 q274 q140 dfX4 ?_
  refine k_new (n := 8) ha h8 ?_
  refine w_dup dX0_init_102 rfl ?_
  refine k_onIN (i := 8) (n := 9) (kc := 47) (ks := 324) (mc2 := 41) (ms2 := 284) (mi := miX4_init) dX0_init_103 q275 okX4_init (iX4_init (j := 0)) (Nat.le_of_ble_eq_true rfl) ha (by rw [List.getElem?_append_right (by simp [h8])]; simp [h8]; rfl) (by simp [h8]) rfl rfl (Nat.le_of_ble_eq_true rfl) ?_
  rw [xi_set h8]
  exact xi_B ha (by rw [hl]; rfl)
set_option maxHeartbeats 4000000 in
theorem xi_N {g : GG} {σ : PH} {a : Nat} {t : Tg} (ha : a < σ.1) : Wp g (mtOf g miX0_init 4 97 1533 (fun w σ2 => w = none ∧ σ2 = rw_ σ a t (lpE σ.1) (lpL g σ.1)) noX) 92 1525 52 [some (.ref a)] [] (rw_ σ a t (.inr (0, [.ref (σ.1 + 0), .null, .int 0, .int 0, .int 0, .null, .null, .int 0, .long 0, .long 0, .null, .null, .int 0, .null, .null, .null, .int 0, .int 0, .int 0, .null, .null, .null, .int 0])) [((0, 0), .inl (g.2.2.2 4, 4, .inr (.inr (.inr (.inr fun i => some (σ.1 + (1 + i))))))), ((1, 0), .inr (1, [.null])), ((1, 1), .inr (1, [.null])), ((1, 2), .inr (1, [.null])), ((1, 3), .inr (1, [.null]))]) := by
  refine w_aload_n dX0_init_52 rfl ?_
  refine w_sipush (v := nI 900) dX0_init_53 ks_900 ?_
  refine w_newB (n := 900) (kc := 91) (ks := 625) (0, 1) dX0_init_56 (by decide) ?_
  refine k_new ha rfl ?_
  refine w_putfF (k := 1) dX0_init_58 clX0 (by decide) q464 rfl rfl rfl rw_a rfl rfl (Nat.le_of_ble_eq_true rfl) ?_
  refine k_up ?_
  refine w_aload_n dX0_init_61 rfl ?_
  refine w_iconst (v := (-1)) dX0_init_62 ki_m1 ?_
  refine w_putf (k := 3) dX0_init_63 clX0 (by decide) q466 rfl rw_a rfl rfl (Nat.le_of_ble_eq_true rfl) ?_
  refine k_up ?_
  refine w_aload_n dX0_init_66 rfl ?_
  refine w_iconst (v := (-1)) dX0_init_67 ki_m1 ?_
  refine w_putf (k := 4) dX0_init_68 clX0 (by decide) q467 rfl rw_a rfl rfl (Nat.le_of_ble_eq_true rfl) ?_
  refine k_up ?_
  refine w_aload_n dX0_init_71 rfl ?_
  refine w_new (kc := 90) (ks := 617) [.null, .null, .null, .null, .null, .int 0, .int 0, .int 0] (0, 5) dX0_init_72 clX2 q183 q184 q138 dfX2 ?_
  refine k_new ha rfl ?_
  refine w_dup dX0_init_75 rfl ?_
  refine k_onI (i := 6) (kc := 90) (ks := 617) (mc2 := 0) (ms2 := 0) (mi := miX2_init) dX0_init_76 q223 okX2_init (iX2_init) (Nat.le_of_ble_eq_true rfl) ha rfl rfl rfl rfl (Nat.le_of_ble_eq_true rfl) ?_
  refine w_putfF (k := 5) dX0_init_79 clX0 (by decide) q468 rfl rfl rfl rw_a rfl rfl (Nat.le_of_ble_eq_true rfl) ?_
  refine k_up ?_
  refine w_aload_n dX0_init_82 rfl ?_
  refine w_new (kc := 89) (ks := 610) [.null, .null, .null, .null, .null, .int 0, .int 0] (0, 6) dX0_init_83 clX3 q254 q255 q139 dfX3 ?_
  refine k_new ha rfl ?_
  refine w_dup dX0_init_86 rfl ?_
  refine k_onI (i := 7) (kc := 89) (ks := 610) (mc2 := 0) (ms2 := 0) (mi := miX3_init) dX0_init_87 q263 okX3_init (iX3_init) (Nat.le_of_ble_eq_true rfl) ha rfl rfl rfl rfl (Nat.le_of_ble_eq_true rfl) ?_
  refine w_putfF (k := 6) dX0_init_90 clX0 (by decide) q470 rfl rfl rfl rw_a rfl rfl (Nat.le_of_ble_eq_true rfl) ?_
  refine k_up ?_
  refine w_aload_n dX0_init_93 rfl ?_
  refine w_lconst (v := 1) dX0_init_94 rfl ?_
  refine w_putf (k := 9) dX0_init_95 clX0 (by decide) q473 rfl rw_a rfl rfl (Nat.le_of_ble_eq_true rfl) ?_
  refine k_up ?_
  exact xi_M ha rfl
set_option maxHeartbeats 4000000 in
theorem iX0_init {g : GG}  : Ck g miX0_init 4 97 1533 [] (.inr (0, [.null, .null, .int 0, .int 0, .int 0, .null, .null, .int 0, .long 0, .long 0, .null, .null, .int 0, .null, .null, .null, .int 0, .int 0, .int 0, .null, .null, .null, .int 0])) (fun z => lpE z) (fun z => lpL g z) := by
  refine Ck.start (fun a => [some (.ref a)]) (by decide +kernel) rfl (fun _ => (Nat.le_of_ble_eq_true rfl)) (fun _ => rfl) ?_
  intro σ a t hG ha
  refine w_aload_n dX0_init_0 rfl ?_
  refine w_objInit dX0_init_1 q169 q170 q171 (Nat.le_of_ble_eq_true rfl) (Nat.le_of_ble_eq_true rfl) ?_
  refine w_aload_n dX0_init_4 rfl ?_
  refine w_iconst (v := nI 4) dX0_init_5 ki_4 ?_
  refine w_anew (k := 4) (n := 4) (kc := 96) (ks := 1529) (0, 0) rfl q172 q173 dX0_init_6 (by decide) ?_
  refine k_new ha rfl ?_
  refine w_dup dX0_init_9 rfl ?_
  refine w_iconst (v := nI 0) dX0_init_10 ki_0 ?_
  refine w_new (kc := 95) (ks := 1528) [.null] (1, 0) dX0_init_11 clX1 q172 q174 q135 dfX1 ?_
  refine k_new ha rfl ?_
  refine w_dup dX0_init_14 rfl ?_
  refine k_onIN (i := 1) (kc := 95) (ks := 1528) (mc2 := 0) (ms2 := 0) (mi := miX1_init) dX0_init_15 q175 okX1_init (iX1_init) (Nat.le_of_ble_eq_true rfl) ha rfl rfl rfl rfl (Nat.le_of_ble_eq_true rfl) ?_
  refine w_aastN (k := 4) (j := 0) dX0_init_18 clX1 rfl (rw_i (i := 0) ha rfl) (rw_i (i := 1) ha rfl) (by decide) (by decide) ?_
  refine k_upi ha (Nat.le_of_ble_eq_true rfl) ?_
  refine w_dup dX0_init_19 rfl ?_
  refine w_iconst (v := nI 1) dX0_init_20 ki_1 ?_
  refine w_new (kc := 94) (ks := 1527) [.null] (1, 1) dX0_init_21 clX1 q172 q174 q135 dfX1 ?_
  refine k_new ha rfl ?_
  refine w_dup dX0_init_24 rfl ?_
  refine k_onIN (i := 2) (kc := 94) (ks := 1527) (mc2 := 0) (ms2 := 0) (mi := miX1_init) dX0_init_25 q175 okX1_init (iX1_init) (Nat.le_of_ble_eq_true rfl) ha rfl rfl rfl rfl (Nat.le_of_ble_eq_true rfl) ?_
  refine w_aastN (k := 4) (j := 1) dX0_init_28 clX1 rfl (rw_i (i := 0) ha rfl) (rw_i (i := 2) ha rfl) (by decide) (by decide) ?_
  refine k_upi ha (Nat.le_of_ble_eq_true rfl) ?_
  refine w_dup dX0_init_29 rfl ?_
  refine w_iconst (v := nI 2) dX0_init_30 ki_2 ?_
  refine w_new (kc := 93) (ks := 1526) [.null] (1, 2) dX0_init_31 clX1 q172 q174 q135 dfX1 ?_
  refine k_new ha rfl ?_
  refine w_dup dX0_init_34 rfl ?_
  refine k_onIN (i := 3) (kc := 93) (ks := 1526) (mc2 := 0) (ms2 := 0) (mi := miX1_init) dX0_init_35 q175 okX1_init (iX1_init) (Nat.le_of_ble_eq_true rfl) ha rfl rfl rfl rfl (Nat.le_of_ble_eq_true rfl) ?_
  refine w_aastN (k := 4) (j := 2) dX0_init_38 clX1 rfl (rw_i (i := 0) ha rfl) (rw_i (i := 3) ha rfl) (by decide) (by decide) ?_
  refine k_upi ha (Nat.le_of_ble_eq_true rfl) ?_
  refine w_dup dX0_init_39 rfl ?_
  refine w_iconst (v := nI 3) dX0_init_40 ki_3 ?_
  refine w_new (kc := 92) (ks := 1525) [.null] (1, 3) dX0_init_41 clX1 q172 q174 q135 dfX1 ?_
  refine k_new ha rfl ?_
  refine w_dup dX0_init_44 rfl ?_
  refine k_onIN (i := 4) (kc := 92) (ks := 1525) (mc2 := 0) (ms2 := 0) (mi := miX1_init) dX0_init_45 q175 okX1_init (iX1_init) (Nat.le_of_ble_eq_true rfl) ha rfl rfl rfl rfl (Nat.le_of_ble_eq_true rfl) ?_
  refine w_aastN (k := 4) (j := 3) dX0_init_48 clX1 rfl (rw_i (i := 0) ha rfl) (rw_i (i := 4) ha rfl) (by decide) (by decide) ?_
  refine k_upi ha (Nat.le_of_ble_eq_true rfl) ?_
  refine w_putfF (k := 0) dX0_init_49 clX0 (by decide) q462 rfl rfl rfl rw_a rfl rfl (Nat.le_of_ble_eq_true rfl) ?_
  refine k_up ?_
  refine k_re (i := 0) (tg2 := (0, 0)) (x2 := .inl (g.2.2.2 4, 4, .inr (.inr (.inr (.inr fun i => some (σ.1 + (1 + i))))))) ha rfl (eqE_q (fun i hi => by rcases show i = 0 ∨ i = 1 ∨ i = 2 ∨ i = 3 by omega with rfl | rfl | rfl | rfl <;> rfl)) ?_
  exact xi_N ha
theorem dfX8 : ∀ j, j < 38 → defaultValue (tyX8 j) = vp_V [.null, .null, .int 0, .long 0, .long 0, .null, .null, .null, .null, .null, .int 0, .int 0, .int 0, .int 0, .int 0, .int 0, .int 0, .int 0, .int 0, .int 0, .int 0, .int 0, .null, .int 0, .int 0, .null, .null, .null, .null, .int 0, .int 0, .int 0, .int 0, .null, .null, .null, .int 0, .int 0] j
  | 0, _ => rfl
  | 1, _ => rfl
  | 2, _ => rfl
  | 3, _ => rfl
  | 4, _ => rfl
  | 5, _ => rfl
  | 6, _ => rfl
  | 7, _ => rfl
  | 8, _ => rfl
  | 9, _ => rfl
  | 10, _ => rfl
  | 11, _ => rfl
  | 12, _ => rfl
  | 13, _ => rfl
  | 14, _ => rfl
  | 15, _ => rfl
  | 16, _ => rfl
  | 17, _ => rfl
  | 18, _ => rfl
  | 19, _ => rfl
  | 20, _ => rfl
  | 21, _ => rfl
  | 22, _ => rfl
  | 23, _ => rfl
  | 24, _ => rfl
  | 25, _ => rfl
  | 26, _ => rfl
  | 27, _ => rfl
  | 28, _ => rfl
  | 29, _ => rfl
  | 30, _ => rfl
  | 31, _ => rfl
  | 32, _ => rfl
  | 33, _ => rfl
  | 34, _ => rfl
  | 35, _ => rfl
  | 36, _ => rfl
  | 37, _ => rfl
  | j + 38, h => absurd h (by omega)
/-- the twin's numbers before its body, behind it -/
def mS0 : MS := (fun k => if k = 16 then -1 else if k = 17 then -1 else 0, fun k => if k = 4 then 1 else 0, fun k => if k = 6 then upd (upd (upd (upd (fun _ => 0) 0 (-1)) 1 (-1)) 2 (-1)) 3 (-1) else fun _ => 0, fun _ _ => 0)
def mS1 : MS := sA (sA (setAt mS0 (plaA (mA mS0 0) 0)) 0 0 (nI 2)) 0 3 (nI 60)
set_option maxHeartbeats 4000000 in
theorem x8_T {g : GG} {σ : PH} {a : Nat} {Q : Option Value → PH → Prop} (hw : wf9 σ) (ha : a < σ.1) (hs : σ.1 = a + 1) (hQ : (fun (w : Option Value) (σ2 : PH) => w = none ∧ σ2 = sM g (a + 16, σ.2) a mS1) = Q) : Wp g (mtOf g miX8_init 3 15 10655 Q noX) 0 0 154 [some (.ref a)] [] (rw_ σ a (a, 0) (.inr (8, [.ref (σ.1 + 0), .ref (σ.1 + 1), .int 0, .long 0, .long 1, .ref (σ.1 + 2), .ref (σ.1 + 3), .ref (σ.1 + 4), .ref (σ.1 + 5), .ref (σ.1 + 6), .int 0, .int 0, .int 0, .int 0, .int 0, .int 0, .int (-1), .int (-1), .int 0, .int 0, .int 0, .int 0, .ref (σ.1 + 7), .int 0, .int 0, .ref (σ.1 + 8), .ref (σ.1 + 9), .ref (σ.1 + 10), .ref (σ.1 + 11), .int 0, .int 0, .int 0, .int 0, .ref (σ.1 + 12), .ref (σ.1 + 13), .ref (σ.1 + 14), .int 0, .int 0])) [((a, 1), .inl (g.2.2.2 0, 8400, .inl fun _ => 0)), ((a, 2), .inl (g.2.2.2 1, 80, .inr (.inl fun _ => 0))), ((a, 3), .inl (g.2.2.2 0, 4, .inl fun _ => 0)), ((a, 4), .inl (g.2.2.2 0, 4, .inl (upd (upd (upd (upd (fun _ => 0) 0 (-1)) 1 (-1)) 2 (-1)) 3 (-1)))), ((a, 5), .inl (g.2.2.2 1, 240, .inr (.inl fun _ => 0))), ((a, 6), .inl (g.2.2.2 2, 900, .inl fun _ => 0)), ((a, 7), .inl (g.2.2.2 2, 900, .inl fun _ => 0)), ((a, 8), .inl (g.2.2.2 0, 3, .inl fun _ => 0)), ((a, 9), .inl (g.2.2.2 0, 9, .inl fun _ => 0)), ((a, 10), .inl (g.2.2.2 0, 9, .inl fun _ => 0)), ((a, 11), .inl (g.2.2.2 0, 8, .inl fun _ => 0)), ((a, 12), .inl (g.2.2.2 0, 8, .inl fun _ => 0)), ((a, 13), .inl (g.2.2.2 0, 80, .inl fun _ => 0)), ((a, 14), .inl (g.2.2.2 0, 5, .inl fun _ => 0)), ((a, 15), .inl (g.2.2.2 0, 5, .inl fun _ => 0))]) := by
  refine w_same (σ2 := sM g (a + 16, σ.2) a mS0) ?_ ?_
  · refine Prod.ext (by show σ.1 + 15 = a + 16; omega) (funext fun q => ?_)
    by_cases hq : a ≤ q ∧ q < a + 16
    · show _ = (if a ≤ q ∧ q < a + 16 then some ((a, q - a), encM g a mS0 (q - a)) else σ.2 q)
      rw [if_pos hq]
      by_cases hqa : q = a
      · subst hqa
        rw [rw_a, Nat.sub_self, hs]
        rfl
      · obtain ⟨i, rfl⟩ : ∃ i, q = σ.1 + i := ⟨q - σ.1, by omega⟩
        have hi : i < 15 := by omega
        have e : σ.1 + i - a = i + 1 := by omega
        rw [e]
        rcases show i = 0 ∨ i = 1 ∨ i = 2 ∨ i = 3 ∨ i = 4 ∨ i = 5 ∨ i = 6 ∨ i = 7 ∨ i = 8 ∨ i = 9 ∨ i = 10 ∨ i = 11 ∨ i = 12 ∨ i = 13 ∨ i = 14 by omega with rfl | rfl | rfl | rfl | rfl | rfl | rfl | rfl | rfl | rfl | rfl | rfl | rfl | rfl | rfl <;> exact rw_i ha rfl
    · show _ = (if a ≤ q ∧ q < a + 16 then some ((a, q - a), encM g a mS0 (q - a)) else σ.2 q)
      rw [if_neg hq]
      by_cases hlt : q < σ.1
      · exact rw_lo (by omega) hlt
      · rw [hw q (by omega)]
        exact rw_wf ha q (by show σ.1 + 15 ≤ q; omega)
  subst hQ
  refine w_aload_n dX8_init_154 rfl ?_
  refine w_iconst (v := nI 0) dX8_init_155 ki_0 ?_
  refine m_callv1 (mi := miX8_plain) dX8_init_156 q1548 okX8_plain rfl (Nat.le_of_ble_eq_true rfl) (c_plain (sl := 0) (by omega)) (Nat.le_of_ble_eq_true rfl) ?_
  refine w_aload_n dX8_init_159 rfl ?_
  refine mg_at dX8_init_160 rfl ?_
  refine w_iconst (v := nI 0) dX8_init_163 ki_0 ?_
  refine w_iconst (v := nI 2) dX8_init_164 ki_2 ?_
  refine ms_at dX8_init_165 (by omega) ?_
  refine w_aload_n dX8_init_166 rfl ?_
  refine mg_at dX8_init_167 rfl ?_
  refine w_iconst (v := nI 3) dX8_init_170 ki_3 ?_
  refine w_bipush (v := nI 60) dX8_init_171 kb_60 ?_
  refine ms_at dX8_init_173 (by omega) ?_
  exact w_vret dX8_init_174 rfl ⟨rfl, rfl⟩
set_option maxHeartbeats 4000000 in
theorem x8_3 {g : GG} {σ : PH} {a : Nat} {Q : Option Value → PH → Prop} (hw : wf9 σ) (ha : a < σ.1) (hs : σ.1 = a + 1) (hQ : (fun (w : Option Value) (σ2 : PH) => w = none ∧ σ2 = sM g (a + 16, σ.2) a mS1) = Q) : Wp g (mtOf g miX8_init 3 15 10655 Q noX) 7 124 100 [some (.ref a)] [] (rw_ σ a (a, 0) (.inr (8, [.ref (σ.1 + 0), .ref (σ.1 + 1), .int 0, .long 0, .long 1, .ref (σ.1 + 2), .ref (σ.1 + 3), .ref (σ.1 + 4), .ref (σ.1 + 5), .ref (σ.1 + 6), .int 0, .int 0, .int 0, .int 0, .int 0, .int 0, .int (-1), .int (-1), .int 0, .int 0, .int 0, .int 0, .ref (σ.1 + 7), .int 0, .int 0, .null, .null, .null, .null, .int 0, .int 0, .int 0, .int 0, .null, .null, .null, .int 0, .int 0])) [((a, 1), .inl (g.2.2.2 0, 8400, .inl fun _ => 0)), ((a, 2), .inl (g.2.2.2 1, 80, .inr (.inl fun _ => 0))), ((a, 3), .inl (g.2.2.2 0, 4, .inl fun _ => 0)), ((a, 4), .inl (g.2.2.2 0, 4, .inl (upd (upd (upd (upd (fun _ => 0) 0 (-1)) 1 (-1)) 2 (-1)) 3 (-1)))), ((a, 5), .inl (g.2.2.2 1, 240, .inr (.inl fun _ => 0))), ((a, 6), .inl (g.2.2.2 2, 900, .inl fun _ => 0)), ((a, 7), .inl (g.2.2.2 2, 900, .inl fun _ => 0)), ((a, 8), .inl (g.2.2.2 0, 3, .inl fun _ => 0))]) := by
  refine w_aload_n dX8_init_100 rfl ?_
  refine w_bipush (v := nI 9) dX8_init_101 kb_9 ?_
  refine w_newI (n := 9) (kc := 6) (ks := 115) (a, 9) dX8_init_103 (by decide) ?_
  refine k_new ha rfl ?_
  refine w_putfF (k := 25) dX8_init_105 clX8 (by decide) q1577 rfl rfl rfl rw_a rfl rfl (Nat.le_of_ble_eq_true rfl) ?_
  refine k_up ?_
  refine w_aload_n dX8_init_108 rfl ?_
  refine w_bipush (v := nI 9) dX8_init_109 kb_9 ?_
  refine w_newI (n := 9) (kc := 5) (ks := 106) (a, 10) dX8_init_111 (by decide) ?_
  refine k_new ha rfl ?_
  refine w_putfF (k := 26) dX8_init_113 clX8 (by decide) q1578 rfl rfl rfl rw_a rfl rfl (Nat.le_of_ble_eq_true rfl) ?_
  refine k_up ?_
  refine w_aload_n dX8_init_116 rfl ?_
  refine w_bipush (v := nI 8) dX8_init_117 kb_8 ?_
  refine w_newI (n := 8) (kc := 4) (ks := 98) (a, 11) dX8_init_119 (by decide) ?_
  refine k_new ha rfl ?_
  refine w_putfF (k := 27) dX8_init_121 clX8 (by decide) q1579 rfl rfl rfl rw_a rfl rfl (Nat.le_of_ble_eq_true rfl) ?_
  refine k_up ?_
  refine w_aload_n dX8_init_124 rfl ?_
  refine w_bipush (v := nI 8) dX8_init_125 kb_8 ?_
  refine w_newI (n := 8) (kc := 3) (ks := 90) (a, 12) dX8_init_127 (by decide) ?_
  refine k_new ha rfl ?_
  refine w_putfF (k := 28) dX8_init_129 clX8 (by decide) q1580 rfl rfl rfl rw_a rfl rfl (Nat.le_of_ble_eq_true rfl) ?_
  refine k_up ?_
  refine w_aload_n dX8_init_132 rfl ?_
  refine w_bipush (v := nI 80) dX8_init_133 kb_80 ?_
  refine w_newI (n := 80) (kc := 2) (ks := 10) (a, 13) dX8_init_135 (by decide) ?_
  refine k_new ha rfl ?_
  refine w_putfF (k := 33) dX8_init_137 clX8 (by decide) q1585 rfl rfl rfl rw_a rfl rfl (Nat.le_of_ble_eq_true rfl) ?_
  refine k_up ?_
  refine w_aload_n dX8_init_140 rfl ?_
  refine w_iconst (v := nI 5) dX8_init_141 ki_5 ?_
  refine w_newI (n := 5) (kc := 1) (ks := 5) (a, 14) dX8_init_142 (by decide) ?_
  refine k_new ha rfl ?_
  refine w_putfF (k := 34) dX8_init_144 clX8 (by decide) q1586 rfl rfl rfl rw_a rfl rfl (Nat.le_of_ble_eq_true rfl) ?_
  refine k_up ?_
  refine w_aload_n dX8_init_147 rfl ?_
  refine w_iconst (v := nI 5) dX8_init_148 ki_5 ?_
  refine w_newI (n := 5) (kc := 0) (ks := 0) (a, 15) dX8_init_149 (by decide) ?_
  refine k_new ha rfl ?_
  refine w_putfF (k := 35) dX8_init_151 clX8 (by decide) q1587 rfl rfl rfl rw_a rfl rfl (Nat.le_of_ble_eq_true rfl) ?_
  refine k_up ?_
  exact x8_T hw ha hs hQ
set_option maxHeartbeats 4000000 in
theorem x8_2 {g : GG} {σ : PH} {a : Nat} {Q : Option Value → PH → Prop} (hw : wf9 σ) (ha : a < σ.1) (hs : σ.1 = a + 1) (hQ : (fun (w : Option Value) (σ2 : PH) => w = none ∧ σ2 = sM g (a + 16, σ.2) a mS1) = Q) : Wp g (mtOf g miX8_init 3 15 10655 Q noX) 11 2167 56 [some (.ref a)] [] (rw_ σ a (a, 0) (.inr (8, [.ref (σ.1 + 0), .ref (σ.1 + 1), .int 0, .long 0, .long 1, .ref (σ.1 + 2), .ref (σ.1 + 3), .null, .null, .null, .int 0, .int 0, .int 0, .int 0, .int 0, .int 0, .int 0, .int 0, .int 0, .int 0, .int 0, .int 0, .null, .int 0, .int 0, .null, .null, .null, .null, .int 0, .int 0, .int 0, .int 0, .null, .null, .null, .int 0, .int 0])) [((a, 1), .inl (g.2.2.2 0, 8400, .inl fun _ => 0)), ((a, 2), .inl (g.2.2.2 1, 80, .inr (.inl fun _ => 0))), ((a, 3), .inl (g.2.2.2 0, 4, .inl fun _ => 0)), ((a, 4), .inl (g.2.2.2 0, 4, .inl (upd (upd (upd (upd (fun _ => 0) 0 (-1)) 1 (-1)) 2 (-1)) 3 (-1))))]) := by
  refine w_aload_n dX8_init_56 rfl ?_
  refine w_sipush (v := nI 240) dX8_init_57 ks_240 ?_
  refine w_newL (n := 240) (kc := 10) (ks := 1927) (a, 5) dX8_init_60 (by decide) ?_
  refine k_new ha rfl ?_
  refine w_putfF (k := 7) dX8_init_62 clX8 (by decide) q1559 rfl rfl rfl rw_a rfl rfl (Nat.le_of_ble_eq_true rfl) ?_
  refine k_up ?_
  refine w_aload_n dX8_init_65 rfl ?_
  refine w_sipush (v := nI 900) dX8_init_66 ks_900 ?_
  refine w_newB (n := 900) (kc := 9) (ks := 1027) (a, 6) dX8_init_69 (by decide) ?_
  refine k_new ha rfl ?_
  refine w_putfF (k := 8) dX8_init_71 clX8 (by decide) q1560 rfl rfl rfl rw_a rfl rfl (Nat.le_of_ble_eq_true rfl) ?_
  refine k_up ?_
  refine w_aload_n dX8_init_74 rfl ?_
  refine w_sipush (v := nI 900) dX8_init_75 ks_900 ?_
  refine w_newB (n := 900) (kc := 8) (ks := 127) (a, 7) dX8_init_78 (by decide) ?_
  refine k_new ha rfl ?_
  refine w_putfF (k := 9) dX8_init_80 clX8 (by decide) q1561 rfl rfl rfl rw_a rfl rfl (Nat.le_of_ble_eq_true rfl) ?_
  refine k_up ?_
  refine w_aload_n dX8_init_83 rfl ?_
  refine w_iconst (v := (-1)) dX8_init_84 ki_m1 ?_
  refine w_putf (k := 16) dX8_init_85 clX8 (by decide) q1568 rfl rw_a rfl rfl (Nat.le_of_ble_eq_true rfl) ?_
  refine k_up ?_
  refine w_aload_n dX8_init_88 rfl ?_
  refine w_iconst (v := (-1)) dX8_init_89 ki_m1 ?_
  refine w_putf (k := 17) dX8_init_90 clX8 (by decide) q1569 rfl rw_a rfl rfl (Nat.le_of_ble_eq_true rfl) ?_
  refine k_up ?_
  refine w_aload_n dX8_init_93 rfl ?_
  refine w_iconst (v := nI 3) dX8_init_94 ki_3 ?_
  refine w_newI (n := 3) (kc := 7) (ks := 124) (a, 8) dX8_init_95 (by decide) ?_
  refine k_new ha rfl ?_
  refine w_putfF (k := 22) dX8_init_97 clX8 (by decide) q1574 rfl rfl rfl rw_a rfl rfl (Nat.le_of_ble_eq_true rfl) ?_
  refine k_up ?_
  exact x8_3 hw ha hs hQ
set_option maxHeartbeats 4000000 in
theorem iX8_init {g : GG} {σ : PH} {a : Nat} (hw : wf9 σ) (hs : σ.1 = a + 1) (h : σ.2 a = some ((a, 0), .inr (8, [.null, .null, .int 0, .long 0, .long 0, .null, .null, .null, .null, .null, .int 0, .int 0, .int 0, .int 0, .int 0, .int 0, .int 0, .int 0, .int 0, .int 0, .int 0, .int 0, .null, .int 0, .int 0, .null, .null, .null, .null, .int 0, .int 0, .int 0, .int 0, .null, .null, .null, .int 0, .int 0]))) : Ct g miX8_init 3 15 10655 [.ref a] σ (fun w σ2 => w = none ∧ σ2 = sM g (a + 16, σ.2) a mS1) noX := by
  refine Ct.start [some (.ref a)] (by decide +kernel) rfl (Nat.le_of_ble_eq_true rfl) rfl (fun hG => ?_)
  have ha : a < σ.1 := by omega
  have h0 := rw_0 (a := a) (t := (a, 0)) hw h
  rw [show (fun (w : Option Value) (σ2 : PH) => w = none ∧ σ2 = sM g (a + 16, σ.2) a mS1) = (fun (w : Option Value) (σ2 : PH) => w = none ∧ σ2 = sM g (a + 16, σ.2) a mS1) from rfl]
  generalize hQ : (fun (w : Option Value) (σ2 : PH) => w = none ∧ σ2 = sM g (a + 16, σ.2) a mS1) = Q
  rw [← h0]
  refine w_aload_n dX8_init_0 rfl ?_
  refine w_objInit dX8_init_1 q1547 q170 q171 (Nat.le_of_ble_eq_true rfl) (Nat.le_of_ble_eq_true rfl) ?_
  refine w_aload_n dX8_init_4 rfl ?_
  refine w_sipush (v := nI 8400) dX8_init_5 ks_8400 ?_
  refine w_newI (n := 8400) (kc := 14) (ks := 2255) (a, 1) dX8_init_8 (by decide) ?_
  refine k_new ha rfl ?_
  refine w_putfF (k := 0) dX8_init_10 clX8 (by decide) q1552 rfl rfl rfl rw_a rfl rfl (Nat.le_of_ble_eq_true rfl) ?_
  refine k_up ?_
  refine w_aload_n dX8_init_13 rfl ?_
  refine w_bipush (v := nI 80) dX8_init_14 kb_80 ?_
  refine w_newL (n := 80) (kc := 13) (ks := 2175) (a, 2) dX8_init_16 (by decide) ?_
  refine k_new ha rfl ?_
  refine w_putfF (k := 1) dX8_init_18 clX8 (by decide) q1553 rfl rfl rfl rw_a rfl rfl (Nat.le_of_ble_eq_true rfl) ?_
  refine k_up ?_
  refine w_aload_n dX8_init_21 rfl ?_
  refine w_lconst (v := 1) dX8_init_22 rfl ?_
  refine w_putf (k := 4) dX8_init_23 clX8 (by decide) q1556 rfl rw_a rfl rfl (Nat.le_of_ble_eq_true rfl) ?_
  refine k_up ?_
  refine w_aload_n dX8_init_26 rfl ?_
  refine w_iconst (v := nI 4) dX8_init_27 ki_4 ?_
  refine w_newI (n := 4) (kc := 12) (ks := 2171) (a, 3) dX8_init_28 (by decide) ?_
  refine k_new ha rfl ?_
  refine w_putfF (k := 5) dX8_init_30 clX8 (by decide) q1557 rfl rfl rfl rw_a rfl rfl (Nat.le_of_ble_eq_true rfl) ?_
  refine k_up ?_
  refine w_aload_n dX8_init_33 rfl ?_
  refine w_iconst (v := nI 4) dX8_init_34 ki_4 ?_
  refine w_newI (n := 4) (kc := 11) (ks := 2167) (a, 4) dX8_init_35 (by decide) ?_
  refine k_new ha rfl ?_
  refine w_dup dX8_init_37 rfl ?_
  refine w_iconst (v := nI 0) dX8_init_38 ki_0 ?_
  refine w_iconst (v := (-1)) dX8_init_39 ki_m1 ?_
  refine w_iastN (j := 0) dX8_init_40 (rw_i (i := 3) ha rfl) (by decide) (by decide) ?_
  refine k_upi ha (Nat.le_of_ble_eq_true rfl) ?_
  refine w_dup dX8_init_41 rfl ?_
  refine w_iconst (v := nI 1) dX8_init_42 ki_1 ?_
  refine w_iconst (v := (-1)) dX8_init_43 ki_m1 ?_
  refine w_iastN (j := 1) dX8_init_44 (rw_i (i := 3) ha rfl) (by decide) (by decide) ?_
  refine k_upi ha (Nat.le_of_ble_eq_true rfl) ?_
  refine w_dup dX8_init_45 rfl ?_
  refine w_iconst (v := nI 2) dX8_init_46 ki_2 ?_
  refine w_iconst (v := (-1)) dX8_init_47 ki_m1 ?_
  refine w_iastN (j := 2) dX8_init_48 (rw_i (i := 3) ha rfl) (by decide) (by decide) ?_
  refine k_upi ha (Nat.le_of_ble_eq_true rfl) ?_
  refine w_dup dX8_init_49 rfl ?_
  refine w_iconst (v := nI 3) dX8_init_50 ki_3 ?_
  refine w_iconst (v := (-1)) dX8_init_51 ki_m1 ?_
  refine w_iastN (j := 3) dX8_init_52 (rw_i (i := 3) ha rfl) (by decide) (by decide) ?_
  refine k_upi ha (Nat.le_of_ble_eq_true rfl) ?_
  refine w_putfF (k := 6) dX8_init_53 clX8 (by decide) q1558 rfl rfl rfl rw_a rfl rfl (Nat.le_of_ble_eq_true rfl) ?_
  refine k_up ?_
  exact x8_2 hw ha hs hQ
