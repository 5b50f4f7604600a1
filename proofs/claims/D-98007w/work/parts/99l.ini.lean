set_option maxRecDepth 100000
theorem dfX0 : ∀ j, j < 23 → defaultValue (tyX0 j) = vp_V [.null, .null, .int 0, .int 0, .int 0, .null, .null, .int 0, .long 0, .long 0, .null, .null, .int 0, .null, .null, .null, .int 0, .int 0, .int 0, .null, .null, .null, .int 0] j
  | 0, _ => rfl
  | 1, _ => rfl
  | 2, _ => rfl
  | 3, _ => rfl
  | 4, _ => rfl
  | 5, _ => rfl
  | 6, _ => rfl
  | 7, _ => rfl
  | 8, _ => rfl
  | 9, _ => rfl
  | 10, _ => rfl
  | 11, _ => rfl
  | 12, _ => rfl
  | 13, _ => rfl
  | 14, _ => rfl
  | 15, _ => rfl
  | 16, _ => rfl
  | 17, _ => rfl
  | 18, _ => rfl
  | 19, _ => rfl
  | 20, _ => rfl
  | 21, _ => rfl
  | 22, _ => rfl
  | j + 23, h => absurd h (by omega)
theorem dfX1 : ∀ j, j < 1 → defaultValue (tyX1 j) = vp_V [.null] j
  | 0, _ => rfl
  | j + 1, h => absurd h (by omega)
theorem dfX2 : ∀ j, j < 8 → defaultValue (tyX2 j) = vp_V [.null, .null, .null, .null, .null, .int 0, .int 0, .int 0] j
  | 0, _ => rfl
  | 1, _ => rfl
  | 2, _ => rfl
  | 3, _ => rfl
  | 4, _ => rfl
  | 5, _ => rfl
  | 6, _ => rfl
  | 7, _ => rfl
  | j + 8, h => absurd h (by omega)
theorem dfX3 : ∀ j, j < 7 → defaultValue (tyX3 j) = vp_V [.null, .null, .null, .null, .null, .int 0, .int 0] j
  | 0, _ => rfl
  | 1, _ => rfl
  | 2, _ => rfl
  | 3, _ => rfl
  | 4, _ => rfl
  | 5, _ => rfl
  | 6, _ => rfl
  | j + 7, h => absurd h (by omega)
theorem dfX4 : ∀ j, j < 2 → defaultValue (tyX4 j) = vp_V [.null, .null] j
  | 0, _ => rfl
  | 1, _ => rfl
  | j + 2, h => absurd h (by omega)
theorem dfX5 : ∀ j, j < 9 → defaultValue (tyX5 j) = vp_V [.null, .null, .null, .null, .null, .null, .int 0, .int 0, .int 0] j
  | 0, _ => rfl
  | 1, _ => rfl
  | 2, _ => rfl
  | 3, _ => rfl
  | 4, _ => rfl
  | 5, _ => rfl
  | 6, _ => rfl
  | 7, _ => rfl
  | 8, _ => rfl
  | j + 9, h => absurd h (by omega)
theorem dfX6 : ∀ j, j < 17 → defaultValue (tyX6 j) = vp_V [.int 0, .int 0, .int 0, .int 0, .int 0, .int 0, .int 0, .null, .null, .null, .null, .null, .null, .null, .null, .null, .null] j
  | 0, _ => rfl
  | 1, _ => rfl
  | 2, _ => rfl
  | 3, _ => rfl
  | 4, _ => rfl
  | 5, _ => rfl
  | 6, _ => rfl
  | 7, _ => rfl
  | 8, _ => rfl
  | 9, _ => rfl
  | 10, _ => rfl
  | 11, _ => rfl
  | 12, _ => rfl
  | 13, _ => rfl
  | 14, _ => rfl
  | 15, _ => rfl
  | 16, _ => rfl
  | j + 17, h => absurd h (by omega)
theorem dfX7 : ∀ j, j < 3 → defaultValue (tyX7 j) = vp_V [.null, .null, .int 0] j
  | 0, _ => rfl
  | 1, _ => rfl
  | 2, _ => rfl
  | j + 3, h => absurd h (by omega)
theorem dfX9 : ∀ j, j < 8 → defaultValue (tyX9 j) = vp_V [.int 0, .int 0, .int 0, .int 0, .int 0, .int 0, .int 0, .null] j
  | 0, _ => rfl
  | 1, _ => rfl
  | 2, _ => rfl
  | 3, _ => rfl
  | 4, _ => rfl
  | 5, _ => rfl
  | 6, _ => rfl
  | 7, _ => rfl
  | j + 8, h => absurd h (by omega)
theorem dfX12 : ∀ j, j < 3 → defaultValue (tyX12 j) = vp_V [.null, .int 0, .int 0] j
  | 0, _ => rfl
  | 1, _ => rfl
  | 2, _ => rfl
  | j + 3, h => absurd h (by omega)
theorem dfX13 : ∀ j, j < 7 → defaultValue (tyX13 j) = vp_V [.null, .int 0, .int 0, .int 0, .int 0, .int 0, .int 0] j
  | 0, _ => rfl
  | 1, _ => rfl
  | 2, _ => rfl
  | 3, _ => rfl
  | 4, _ => rfl
  | 5, _ => rfl
  | 6, _ => rfl
  | j + 7, h => absurd h (by omega)
theorem dfX14 : ∀ j, j < 3 → defaultValue (tyX14 j) = vp_V [.int 0, .int 0, .int 0] j
  | 0, _ => rfl
  | 1, _ => rfl
  | 2, _ => rfl
  | j + 3, h => absurd h (by omega)
theorem dfX15 : ∀ j, j < 9 → defaultValue (tyX15 j) = vp_V [.null, .int 0, .int 0, .int 0, .int 0, .int 0, .int 0, .int 0, .int 0] j
  | 0, _ => rfl
  | 1, _ => rfl
  | 2, _ => rfl
  | 3, _ => rfl
  | 4, _ => rfl
  | 5, _ => rfl
  | 6, _ => rfl
  | 7, _ => rfl
  | 8, _ => rfl
  | j + 9, h => absurd h (by omega)
set_option maxHeartbeats 4000000 in
theorem iX1_init {g : GG}  : Ck g miX1_init 1 0 0 [] (.inr (1, [.null])) (fun _ => .inr (1, [.null])) (fun _ => []) := by
  refine Ck.start (fun a => [some (.ref a)]) (by decide +kernel) rfl (fun _ => (Nat.le_of_ble_eq_true rfl)) (fun _ => rfl) ?_
  intro σ a t hG ha
  refine w_aload_n dX1_init_0 rfl ?_
  refine w_objInit dX1_init_1 q178 q170 q171 (Nat.le_of_ble_eq_true rfl) (Nat.le_of_ble_eq_true rfl) ?_
  exact w_vret dX1_init_4 rfl ⟨rfl, rfl⟩
set_option maxHeartbeats 4000000 in
theorem iX10_init {g : GG} {x : va_E} : Ck g miX10_init 1 0 0 [] x (fun _ => x) (fun _ => []) := by
  refine Ck.start (fun a => [some (.ref a)]) (by decide +kernel) rfl (fun _ => (Nat.le_of_ble_eq_true rfl)) (fun _ => rfl) ?_
  intro σ a t hG ha
  refine w_aload_n dX10_init_0 rfl ?_
  refine w_objInit dX10_init_1 q921 q170 q171 (Nat.le_of_ble_eq_true rfl) (Nat.le_of_ble_eq_true rfl) ?_
  exact w_vret dX10_init_4 rfl ⟨rfl, rfl⟩
set_option maxHeartbeats 4000000 in
theorem iX11_X12 {g : GG} {u7 : Tg} : Ck g miX11_init 2 1 4 [] (.inr (10, [.null, .int 0, .int 0])) (fun z => .inr (10, [.ref (z + 0), .int 0, .int 0])) (fun z => [(u7, .inl (g.2.2.2 7, 4, .inr (.inr (.inr (.inr fun _ => none)))))]) := by
  refine Ck.start (fun a => [some (.ref a)]) (by decide +kernel) rfl (fun _ => (Nat.le_of_ble_eq_true rfl)) (fun _ => rfl) ?_
  intro σ a t hG ha
  refine w_aload_n dX11_init_0 rfl ?_
  refine k_suIN (kc := 1) (ks := 4) (mc2 := 0) (ms2 := 0) (mi := miX10_init) dX11_init_1 q918 okX10_init (iX10_init) (Nat.le_of_ble_eq_true rfl) ha rfl rfl rfl (Nat.le_of_ble_eq_true rfl) ?_
  refine w_aload_n dX11_init_4 rfl ?_
  refine w_iconst (v := nI 4) dX11_init_5 ki_4 ?_
  refine w_anew (k := 7) (n := 4) (kc := 0) (ks := 0) u7 rfl q922 q923 dX11_init_6 (by decide) ?_
  refine k_new ha rfl ?_
  refine w_putf (k := 0) dX11_init_9 clX12 (by decide) q925 rfl rw_a rfl rfl (Nat.le_of_ble_eq_true rfl) ?_
  refine k_up ?_
  exact w_vret dX11_init_12 rfl ⟨rfl, rfl⟩
set_option maxHeartbeats 4000000 in
theorem iX11_X13 {g : GG} {u7 : Tg} : Ck g miX11_init 2 1 4 [] (.inr (11, [.null, .int 0, .int 0, .int 0, .int 0, .int 0, .int 0])) (fun z => .inr (11, [.ref (z + 0), .int 0, .int 0, .int 0, .int 0, .int 0, .int 0])) (fun z => [(u7, .inl (g.2.2.2 7, 4, .inr (.inr (.inr (.inr fun _ => none)))))]) := by
  refine Ck.start (fun a => [some (.ref a)]) (by decide +kernel) rfl (fun _ => (Nat.le_of_ble_eq_true rfl)) (fun _ => rfl) ?_
  intro σ a t hG ha
  refine w_aload_n dX11_init_0 rfl ?_
  refine k_suIN (kc := 1) (ks := 4) (mc2 := 0) (ms2 := 0) (mi := miX10_init) dX11_init_1 q918 okX10_init (iX10_init) (Nat.le_of_ble_eq_true rfl) ha rfl rfl rfl (Nat.le_of_ble_eq_true rfl) ?_
  refine w_aload_n dX11_init_4 rfl ?_
  refine w_iconst (v := nI 4) dX11_init_5 ki_4 ?_
  refine w_anew (k := 7) (n := 4) (kc := 0) (ks := 0) u7 rfl q922 q923 dX11_init_6 (by decide) ?_
  refine k_new ha rfl ?_
  refine w_putf (k := 0) dX11_init_9 clX13 (by decide) q925 rfl rw_a rfl rfl (Nat.le_of_ble_eq_true rfl) ?_
  refine k_up ?_
  exact w_vret dX11_init_12 rfl ⟨rfl, rfl⟩
set_option maxHeartbeats 4000000 in
theorem iX12_init {g : GG} {u7 : Tg} {x : Int32} : Ck g miX12_init 3 1 4 [.int x] (.inr (10, [.null, .int 0, .int 0])) (fun z => .inr (10, [.ref (z + 0), .int 0, .int x])) (fun z => [(u7, .inl (g.2.2.2 7, 4, .inr (.inr (.inr (.inr fun _ => none)))))]) := by
  refine Ck.start (fun a => [some (.ref a), some (.int x)]) (by decide +kernel) rfl (fun _ => (Nat.le_of_ble_eq_true rfl)) (fun _ => rfl) ?_
  intro σ a t hG ha
  refine w_aload_n dX12_init_0 rfl ?_
  refine k_suIN (kc := 0) (ks := 0) (mc2 := 1) (ms2 := 4) (mi := miX11_init) dX12_init_1 q915 okX11_init (iX11_X12 (u7 := u7)) (Nat.le_of_ble_eq_true rfl) ha rfl rfl rfl (Nat.le_of_ble_eq_true rfl) ?_
  refine w_aload_n dX12_init_4 rfl ?_
  refine w_iload_n dX12_init_5 rfl ?_
  refine w_putfF (k := 2) dX12_init_6 clX12 (by decide) q924 rfl rfl rfl rw_a rfl rfl (Nat.le_of_ble_eq_true rfl) ?_
  refine k_up ?_
  exact w_vret dX12_init_9 rfl ⟨rfl, rfl⟩
set_option maxHeartbeats 4000000 in
theorem iX13_init {g : GG} {u7 : Tg} {x y z9 v u : Int32} : Ck g miX13_init 3 1 4 [.int x, .int y, .int z9, .int v, .int u] (.inr (11, [.null, .int 0, .int 0, .int 0, .int 0, .int 0, .int 0])) (fun z => .inr (11, [.ref (z + 0), .int 0, .int x, .int y, .int z9, .int v, .int u])) (fun z => [(u7, .inl (g.2.2.2 7, 4, .inr (.inr (.inr (.inr fun _ => none)))))]) := by
  refine Ck.start (fun a => [some (.ref a), some (.int x), some (.int y), some (.int z9), some (.int v), some (.int u)]) (by decide +kernel) rfl (fun _ => (Nat.le_of_ble_eq_true rfl)) (fun _ => rfl) ?_
  intro σ a t hG ha
  refine w_aload_n dX13_init_0 rfl ?_
  refine k_suIN (kc := 0) (ks := 0) (mc2 := 1) (ms2 := 4) (mi := miX11_init) dX13_init_1 q959 okX11_init (iX11_X13 (u7 := u7)) (Nat.le_of_ble_eq_true rfl) ha rfl rfl rfl (Nat.le_of_ble_eq_true rfl) ?_
  refine w_aload_n dX13_init_4 rfl ?_
  refine w_iload_n dX13_init_5 rfl ?_
  refine w_putfF (k := 2) dX13_init_6 clX13 (by decide) q960 rfl rfl rfl rw_a rfl rfl (Nat.le_of_ble_eq_true rfl) ?_
  refine k_up ?_
  refine w_aload_n dX13_init_9 rfl ?_
  refine w_iload_n dX13_init_10 rfl ?_
  refine w_putfF (k := 3) dX13_init_11 clX13 (by decide) q961 rfl rfl rfl rw_a rfl rfl (Nat.le_of_ble_eq_true rfl) ?_
  refine k_up ?_
  refine w_aload_n dX13_init_14 rfl ?_
  refine w_iload_n dX13_init_15 rfl ?_
  refine w_putfF (k := 4) dX13_init_16 clX13 (by decide) q962 rfl rfl rfl rw_a rfl rfl (Nat.le_of_ble_eq_true rfl) ?_
  refine k_up ?_
  refine w_aload_n dX13_init_19 rfl ?_
  refine w_iload dX13_init_20 rfl ?_
  refine w_putfF (k := 5) dX13_init_22 clX13 (by decide) q963 rfl rfl rfl rw_a rfl rfl (Nat.le_of_ble_eq_true rfl) ?_
  refine k_up ?_
  refine w_aload_n dX13_init_25 rfl ?_
  refine w_iload dX13_init_26 rfl ?_
  refine w_putfF (k := 6) dX13_init_28 clX13 (by decide) q964 rfl rfl rfl rw_a rfl rfl (Nat.le_of_ble_eq_true rfl) ?_
  refine k_up ?_
  exact w_vret dX13_init_31 rfl ⟨rfl, rfl⟩
set_option maxHeartbeats 4000000 in
theorem iX14_init {g : GG} {x y z9 : Int32} : Ck g miX14_init 2 0 0 [.int x, .int y, .int z9] (.inr (12, [.int 0, .int 0, .int 0])) (fun _ => .inr (12, [.int x, .int y, .int z9])) (fun _ => []) := by
  refine Ck.start (fun a => [some (.ref a), some (.int x), some (.int y), some (.int z9)]) (by decide +kernel) rfl (fun _ => (Nat.le_of_ble_eq_true rfl)) (fun _ => rfl) ?_
  intro σ a t hG ha
  refine w_aload_n dX14_init_0 rfl ?_
  refine k_suIN (kc := 0) (ks := 0) (mc2 := 0) (ms2 := 0) (mi := miX10_init) dX14_init_1 q989 okX10_init (iX10_init) (Nat.le_of_ble_eq_true rfl) ha rfl rfl rfl (Nat.le_of_ble_eq_true rfl) ?_
  refine w_aload_n dX14_init_4 rfl ?_
  refine w_iload_n dX14_init_5 rfl ?_
  refine w_putfF (k := 0) dX14_init_6 clX14 (by decide) q990 rfl rfl rfl rw_a rfl rfl (Nat.le_of_ble_eq_true rfl) ?_
  refine k_up ?_
  refine w_aload_n dX14_init_9 rfl ?_
  refine w_iload_n dX14_init_10 rfl ?_
  refine w_putfF (k := 1) dX14_init_11 clX14 (by decide) q991 rfl rfl rfl rw_a rfl rfl (Nat.le_of_ble_eq_true rfl) ?_
  refine k_up ?_
  refine w_aload_n dX14_init_14 rfl ?_
  refine w_iload_n dX14_init_15 rfl ?_
  refine w_putfF (k := 2) dX14_init_16 clX14 (by decide) q992 rfl rfl rfl rw_a rfl rfl (Nat.le_of_ble_eq_true rfl) ?_
  refine k_up ?_
  exact w_vret dX14_init_19 rfl ⟨rfl, rfl⟩
set_option maxHeartbeats 4000000 in
theorem iX15_init {g : GG} {b : Nat} {x : Int32} : Ck g miX15_init 1 0 0 [.ref b, .int x] (.inr (13, [.null, .int 0, .int 0, .int 0, .int 0, .int 0, .int 0, .int 0, .int 0])) (fun _ => .inr (13, [.ref b, .int x, .int 0, .int 0, .int 0, .int 0, .int 0, .int 0, .int 0])) (fun _ => []) := by
  refine Ck.start (fun a => [some (.ref a), some (.ref b), some (.int x)]) (by decide +kernel) rfl (fun _ => (Nat.le_of_ble_eq_true rfl)) (fun _ => rfl) ?_
  intro σ a t hG ha
  refine w_aload_n dX15_init_0 rfl ?_
  refine w_objInit dX15_init_1 q1419 q170 q171 (Nat.le_of_ble_eq_true rfl) (Nat.le_of_ble_eq_true rfl) ?_
  refine w_aload_n dX15_init_4 rfl ?_
  refine w_aload_n dX15_init_5 rfl ?_
  refine w_putfF (k := 0) dX15_init_6 clX15 (by decide) q1420 rfl rfl rfl rw_a rfl rfl (Nat.le_of_ble_eq_true rfl) ?_
  refine k_up ?_
  refine w_aload_n dX15_init_9 rfl ?_
  refine w_iload_n dX15_init_10 rfl ?_
  refine w_putf (k := 1) dX15_init_11 clX15 (by decide) q1423 rfl rw_a rfl rfl (Nat.le_of_ble_eq_true rfl) ?_
  refine k_up ?_
  exact w_vret dX15_init_14 rfl ⟨rfl, rfl⟩
set_option maxHeartbeats 4000000 in
theorem iX7_init {g : GG} {u6 u7 : Tg} : Ck g miX7_init 1 2 8 [] (.inr (7, [.null, .null, .int 0])) (fun z => .inr (7, [.ref (z + 0), .ref (z + 1), .int 0])) (fun z => [(u6, .inl (g.2.2.2 0, 4, .inl fun _ => 0)), (u7, .inl (g.2.2.2 0, 4, .inl fun _ => 0))]) := by
  refine Ck.start (fun a => [some (.ref a)]) (by decide +kernel) rfl (fun _ => (Nat.le_of_ble_eq_true rfl)) (fun _ => rfl) ?_
  intro σ a t hG ha
  refine w_aload_n dX7_init_0 rfl ?_
  refine w_objInit dX7_init_1 q389 q170 q171 (Nat.le_of_ble_eq_true rfl) (Nat.le_of_ble_eq_true rfl) ?_
  refine w_aload_n dX7_init_4 rfl ?_
  refine w_iconst (v := nI 4) dX7_init_5 ki_4 ?_
  refine w_newI (n := 4) (kc := 1) (ks := 4) u6 dX7_init_6 (by decide) ?_
  refine k_new ha rfl ?_
  refine w_putf (k := 0) dX7_init_8 clX7 (by decide) q390 rfl rw_a rfl rfl (Nat.le_of_ble_eq_true rfl) ?_
  refine k_up ?_
  refine w_aload_n dX7_init_11 rfl ?_
  refine w_iconst (v := nI 4) dX7_init_12 ki_4 ?_
  refine w_newI (n := 4) (kc := 0) (ks := 0) u7 dX7_init_13 (by decide) ?_
  refine k_new ha rfl ?_
  refine w_putf (k := 1) dX7_init_15 clX7 (by decide) q393 rfl rw_a rfl rfl (Nat.le_of_ble_eq_true rfl) ?_
  refine k_up ?_
  exact w_vret dX7_init_18 rfl ⟨rfl, rfl⟩
set_option maxHeartbeats 4000000 in
theorem iX6_init {g : GG} {tb : Nat → Tg} : Ck g miX6_init 1 10 138 [] (.inr (6, [.int 0, .int 0, .int 0, .int 0, .int 0, .int 0, .int 0, .null, .null, .null, .null, .null, .null, .null, .null, .null, .null])) (fun z => .inr (6, [.int (nI 2), .int (nI 60), .int 0, .int 0, .int 0, .int (nI 1), .int 0, .ref (z + 0), .ref (z + 1), .ref (z + 2), .ref (z + 3), .ref (z + 4), .ref (z + 5), .ref (z + 6), .ref (z + 7), .ref (z + 8), .ref (z + 9)])) (fun z => [(tb 0, .inl (g.2.2.2 1, 6, .inr (.inl fun _ => 0))), (tb 1, .inl (g.2.2.2 1, 8, .inr (.inl fun _ => 0))), (tb 2, .inl (g.2.2.2 0, 6, .inl fun _ => 0)), (tb 3, .inl (g.2.2.2 0, 6, .inl fun _ => 0)), (tb 4, .inl (g.2.2.2 0, 6, .inl fun _ => 0)), (tb 5, .inl (g.2.2.2 0, 8, .inl fun _ => 0)), (tb 6, .inl (g.2.2.2 0, 8, .inl fun _ => 0)), (tb 7, .inl (g.2.2.2 0, 30, .inl fun _ => 0)), (tb 8, .inl (g.2.2.2 0, 30, .inl fun _ => 0)), (tb 9, .inl (g.2.2.2 0, 30, .inl fun _ => 0))]) := by
  refine Ck.start (fun a => [some (.ref a)]) (by decide +kernel) rfl (fun _ => (Nat.le_of_ble_eq_true rfl)) (fun _ => rfl) ?_
  intro σ a t hG ha
  refine w_aload_n dX6_init_0 rfl ?_
  refine w_objInit dX6_init_1 q290 q170 q171 (Nat.le_of_ble_eq_true rfl) (Nat.le_of_ble_eq_true rfl) ?_
  refine w_aload_n dX6_init_4 rfl ?_
  refine w_iconst (v := nI 2) dX6_init_5 ki_2 ?_
  refine w_putf (k := 0) dX6_init_6 clX6 (by decide) q291 rfl rw_a rfl rfl (Nat.le_of_ble_eq_true rfl) ?_
  refine k_up ?_
  refine w_aload_n dX6_init_9 rfl ?_
  refine w_bipush (v := nI 60) dX6_init_10 kb_60 ?_
  refine w_putf (k := 1) dX6_init_12 clX6 (by decide) q294 rfl rw_a rfl rfl (Nat.le_of_ble_eq_true rfl) ?_
  refine k_up ?_
  refine w_aload_n dX6_init_15 rfl ?_
  refine w_iconst (v := nI 1) dX6_init_16 ki_1 ?_
  refine w_putf (k := 5) dX6_init_17 clX6 (by decide) q309 rfl rw_a rfl rfl (Nat.le_of_ble_eq_true rfl) ?_
  refine k_up ?_
  refine w_aload_n dX6_init_20 rfl ?_
  refine w_bipush (v := nI 6) dX6_init_21 kb_6 ?_
  refine w_newL (n := 6) (kc := 9) (ks := 132) (tb 0) dX6_init_23 (by decide) ?_
  refine k_new ha rfl ?_
  refine w_putfF (k := 7) dX6_init_25 clX6 (by decide) q315 rfl rfl rfl rw_a rfl rfl (Nat.le_of_ble_eq_true rfl) ?_
  refine k_up ?_
  refine w_aload_n dX6_init_28 rfl ?_
  refine w_bipush (v := nI 8) dX6_init_29 kb_8 ?_
  refine w_newL (n := 8) (kc := 8) (ks := 124) (tb 1) dX6_init_31 (by decide) ?_
  refine k_new ha rfl ?_
  refine w_putfF (k := 8) dX6_init_33 clX6 (by decide) q317 rfl rfl rfl rw_a rfl rfl (Nat.le_of_ble_eq_true rfl) ?_
  refine k_up ?_
  refine w_aload_n dX6_init_36 rfl ?_
  refine w_bipush (v := nI 6) dX6_init_37 kb_6 ?_
  refine w_newI (n := 6) (kc := 7) (ks := 118) (tb 2) dX6_init_39 (by decide) ?_
  refine k_new ha rfl ?_
  refine w_putfF (k := 9) dX6_init_41 clX6 (by decide) q319 rfl rfl rfl rw_a rfl rfl (Nat.le_of_ble_eq_true rfl) ?_
  refine k_up ?_
  refine w_aload_n dX6_init_44 rfl ?_
  refine w_bipush (v := nI 6) dX6_init_45 kb_6 ?_
  refine w_newI (n := 6) (kc := 6) (ks := 112) (tb 3) dX6_init_47 (by decide) ?_
  refine k_new ha rfl ?_
  refine w_putfF (k := 10) dX6_init_49 clX6 (by decide) q322 rfl rfl rfl rw_a rfl rfl (Nat.le_of_ble_eq_true rfl) ?_
  refine k_up ?_
  refine w_aload_n dX6_init_52 rfl ?_
  refine w_bipush (v := nI 6) dX6_init_53 kb_6 ?_
  refine w_newI (n := 6) (kc := 5) (ks := 106) (tb 4) dX6_init_55 (by decide) ?_
  refine k_new ha rfl ?_
  refine w_putfF (k := 11) dX6_init_57 clX6 (by decide) q326 rfl rfl rfl rw_a rfl rfl (Nat.le_of_ble_eq_true rfl) ?_
  refine k_up ?_
  refine w_aload_n dX6_init_60 rfl ?_
  refine w_bipush (v := nI 8) dX6_init_61 kb_8 ?_
  refine w_newI (n := 8) (kc := 4) (ks := 98) (tb 5) dX6_init_63 (by decide) ?_
  refine k_new ha rfl ?_
  refine w_putfF (k := 12) dX6_init_65 clX6 (by decide) q329 rfl rfl rfl rw_a rfl rfl (Nat.le_of_ble_eq_true rfl) ?_
  refine k_up ?_
  refine w_aload_n dX6_init_68 rfl ?_
  refine w_bipush (v := nI 8) dX6_init_69 kb_8 ?_
  refine w_newI (n := 8) (kc := 3) (ks := 90) (tb 6) dX6_init_71 (by decide) ?_
  refine k_new ha rfl ?_
  refine w_putfF (k := 13) dX6_init_73 clX6 (by decide) q333 rfl rfl rfl rw_a rfl rfl (Nat.le_of_ble_eq_true rfl) ?_
  refine k_up ?_
  refine w_aload_n dX6_init_76 rfl ?_
  refine w_bipush (v := nI 30) dX6_init_77 kb_30 ?_
  refine w_newI (n := 30) (kc := 2) (ks := 60) (tb 7) dX6_init_79 (by decide) ?_
  refine k_new ha rfl ?_
  refine w_putfF (k := 14) dX6_init_81 clX6 (by decide) q337 rfl rfl rfl rw_a rfl rfl (Nat.le_of_ble_eq_true rfl) ?_
  refine k_up ?_
  refine w_aload_n dX6_init_84 rfl ?_
  refine w_bipush (v := nI 30) dX6_init_85 kb_30 ?_
  refine w_newI (n := 30) (kc := 1) (ks := 30) (tb 8) dX6_init_87 (by decide) ?_
  refine k_new ha rfl ?_
  refine w_putfF (k := 15) dX6_init_89 clX6 (by decide) q340 rfl rfl rfl rw_a rfl rfl (Nat.le_of_ble_eq_true rfl) ?_
  refine k_up ?_
  refine w_aload_n dX6_init_92 rfl ?_
  refine w_bipush (v := nI 30) dX6_init_93 kb_30 ?_
  refine w_newI (n := 30) (kc := 0) (ks := 0) (tb 9) dX6_init_95 (by decide) ?_
  refine k_new ha rfl ?_
  refine w_putfF (k := 16) dX6_init_97 clX6 (by decide) q343 rfl rfl rfl rw_a rfl rfl (Nat.le_of_ble_eq_true rfl) ?_
  refine k_up ?_
  exact w_vret dX6_init_100 rfl ⟨rfl, rfl⟩
/-- the cells of a day that was made at z -/
def dayA (g : GG) (j z : Nat) : List (Tg × va_E) := [((9, 0), .inr (6, [.int (nI 2), .int (nI 60), .int 0, .int 0, .int 0, .int (nI 1), .int 0, .ref (z + 1), .ref (z + 2), .ref (z + 3), .ref (z + 4), .ref (z + 5), .ref (z + 6), .ref (z + 7), .ref (z + 8), .ref (z + 9), .ref (z + 10)])),
  ((9, 0), .inl (g.2.2.2 1, 6, .inr (.inl fun _ => 0))),
  ((9, 0), .inl (g.2.2.2 1, 8, .inr (.inl fun _ => 0))),
  ((9, 0), .inl (g.2.2.2 0, 6, .inl fun _ => 0)),
  ((9, 0), .inl (g.2.2.2 0, 6, .inl fun _ => 0)),
  ((9, 0), .inl (g.2.2.2 0, 6, .inl fun _ => 0)),
  ((9, 0), .inl (g.2.2.2 0, 8, .inl fun _ => 0)),
  ((9, 0), .inl (g.2.2.2 0, 8, .inl fun _ => 0)),
  ((9, 0), .inl (g.2.2.2 0, 30, .inl fun _ => 0)),
  ((9, 0), .inl (g.2.2.2 0, 30, .inl fun _ => 0)),
  ((9, 0), .inl (g.2.2.2 0, 30, .inl fun _ => 0)),
  ((11, j), .inl (g.2.2.2 0, 6, .inl fun _ => 0)),
  ((12, j), .inl (g.2.2.2 0, 6, .inl fun _ => 0)),
  ((13, j), .inl (g.2.2.2 0, 6, .inl fun _ => 0)),
  ((14, j), .inl (g.2.2.2 0, 6, .inl fun _ => 0))]
def hpE (g : GG) (j z d : Nat) : List (Tg × va_E) := [((5, 8 * j + d), .inr (7, [.ref (z + (17 + 3 * d)), .ref (z + (17 + 3 * d + 1)), .int 0])), ((6, 8 * j + d), .inl (g.2.2.2 0, 4, .inl fun _ => 0)), ((7, 8 * j + d), .inl (g.2.2.2 0, 4, .inl fun _ => 0))]
def hpL (g : GG) (j z : Nat) : Nat → List (Tg × va_E)
  | 0 => []
  | d + 1 => hpL g j z d ++ hpE g j z d
def hpQ (g : GG) (f : Nat → Option Nat) : va_E := .inl (g.2.2.2 5, 8, .inr (.inr (.inr (.inr f))))
def dayL (g : GG) (j z : Nat) : List (Tg × va_E) := dayA g j z ++ ((4, j), hpQ g fun i => some (z + (16 + 3 * i))) :: hpL g j z 8
def dayE (z : Nat) : va_E := .inr (5, [.ref (z + 0), .ref (z + 11), .ref (z + 12), .ref (z + 13), .ref (z + 14), .ref (z + 15), .int 0, .int 0, .int (nI 60)])
theorem hpL_len {g : GG} {j z : Nat} : ∀ d, (hpL g j z d).length = 3 * d
  | 0 => rfl
  | d + 1 => by
    show (hpL g j z d ++ hpE g j z d).length = _
    rw [List.length_append, hpL_len d]
    rfl
theorem dayL_len {g : GG} {j z : Nat} : (dayL g j z).length = 40 := by
  unfold dayL
  rw [List.length_append, List.length_cons, hpL_len]
  rfl
theorem hp_len {g : GG} {j z d : Nat} {y : Tg × va_E} : (dayA g j z ++ y :: hpL g j z d).length = 16 + 3 * d := by
  rw [List.length_append, List.length_cons, hpL_len]
  show 15 + (3 * d + 1) = _
  omega
theorem hp_add {g : GG} {j z d : Nat} {y : Tg × va_E} : (((dayA g j z ++ y :: hpL g j z d) ++ [((5, 8 * j + d), (.inr (7, [.null, .null, .int 0]) : va_E))]) ++ [((6, 8 * j + d), (.inl (g.2.2.2 0, 4, .inl fun _ => 0) : va_E)), ((7, 8 * j + d), (.inl (g.2.2.2 0, 4, .inl fun _ => 0) : va_E))]).set (16 + 3 * d) ((5, 8 * j + d), .inr (7, [.ref (z + (17 + 3 * d)), .ref (z + (17 + 3 * d + 1)), .int 0])) = dayA g j z ++ y :: hpL g j z (d + 1) := by
  rw [List.append_assoc, show ([((5, 8 * j + d), (.inr (7, [.null, .null, .int 0]) : va_E))] ++ [((6, 8 * j + d), .inl (g.2.2.2 0, 4, .inl fun _ => 0)), ((7, 8 * j + d), .inl (g.2.2.2 0, 4, .inl fun _ => 0))] : List (Tg × va_E)) = ((5, 8 * j + d), (.inr (7, [.null, .null, .int 0]) : va_E)) :: [((6, 8 * j + d), .inl (g.2.2.2 0, 4, .inl fun _ => 0)), ((7, 8 * j + d), .inl (g.2.2.2 0, 4, .inl fun _ => 0))] from rfl, set_mid hp_len, List.append_assoc]
  rfl
theorem hp_add' {g : GG} {j d : Nat} {σ : PH} {a : Nat} {t : Tg} {e : va_E} {y : Tg × va_E} : rw_ σ a t e ((((dayA g j σ.1 ++ y :: hpL g j σ.1 d) ++ [((5, 8 * j + d), (.inr (7, [.null, .null, .int 0]) : va_E))]) ++ [((6, 8 * j + d), (.inl (g.2.2.2 0, 4, .inl fun _ => 0) : va_E)), ((7, 8 * j + d), (.inl (g.2.2.2 0, 4, .inl fun _ => 0) : va_E))]).set (16 + 3 * d) ((5, 8 * j + d), .inr (7, [.ref (σ.1 + (17 + 3 * d) + 0), .ref (σ.1 + (17 + 3 * d) + 1), .int 0]))) = rw_ σ a t e (dayA g j σ.1 ++ y :: hpL g j σ.1 (d + 1)) := by
  rw [Nat.add_zero, Nat.add_assoc, hp_add]
theorem hp_at {g : GG} {j z d : Nat} {y : Tg × va_E} : (dayA g j z ++ y :: hpL g j z (d + 1))[16 + 3 * d]? = some ((5, 8 * j + d), .inr (7, [.ref (z + (17 + 3 * d)), .ref (z + (17 + 3 * d + 1)), .int 0])) := by
  show (dayA g j z ++ y :: (hpL g j z d ++ hpE g j z d))[16 + 3 * d]? = _
  rw [← List.cons_append, ← List.append_assoc]
  exact at_mid hp_len
theorem w_same {g : GG} {mt : MT} {kc ks pc : Nat} {L : List (Option Value)} {st : List Value} {σ σ2 : PH} (h : σ = σ2) (k : Wp g mt kc ks pc L st σ2) : Wp g mt kc ks pc L st σ := h ▸ k
set_option maxHeartbeats 1000000 in
theorem day_loop {g : GG} {j a : Nat} {σ : PH} {t : Tg} (ha : a < σ.1) : ∀ (n d : Nat) (f : Nat → Option Nat), 8 - d < n → d ≤ 8 → (∀ i, i < d → f i = some (σ.1 + (16 + 3 * i))) → Wp g (mtOf g miX5_init 2 40 275 (fun w σ2 => w = none ∧ σ2 = rw_ σ a t (dayE σ.1) (dayL g j σ.1)) noX) (3 * (8 - d)) (11 * (8 - d)) 64 [some (.ref a), some (.int (nI d))] [] (rw_ σ a t (dayE σ.1) (dayA g j σ.1 ++ ((4, j), hpQ g f) :: hpL g j σ.1 d)) := by
  intro n
  induction n with
  | zero => intro d f h; exact absurd h (Nat.not_lt_zero _)
  | succ n ih =>
    intro d f hn hd hf
    refine w_iload_n dX5_init_64 rfl ?_
    refine w_bipush (v := nI 8) dX5_init_65 kb_8 ?_
    refine w_icmpN_ge dX5_init_67 rfl (by omega) (by omega) (fun h => ?_) (fun h => ?_)
    · have h8 : d = 8 := by omega
      subst h8
      refine k_re (i := 15) (tg2 := (4, j)) (x2 := hpQ g fun i => some (σ.1 + (16 + 3 * i))) ha (at_mid rfl) (eqE_q (fun i hi => (hf i hi).symm)) ?_
      rw [set_mid (A := dayA g j σ.1) (n := 15) rfl]
      exact w_vret dX5_init_89 rfl ⟨rfl, rfl⟩
    · refine w_aload_n dX5_init_70 rfl ?_
      refine w_getf (k := 5) (v := .ref (σ.1 + 15)) dX5_init_71 clX5 (by decide) q419 rw_a rfl ?_
      refine w_iload_n dX5_init_74 rfl ?_
      refine w_bud (kc2 := 3 * (8 - (d + 1)) + 2 + 1) (ks2 := 11 * (8 - (d + 1)) + 8 + 3) (by omega) (by omega) ?_
      refine w_new [.null, .null, .int 0] (5, 8 * j + d) dX5_init_75 clX7 q383 q385 q143 dfX7 ?_
      refine k_new (n := 16 + 3 * d) ha hp_len ?_
      refine w_dup dX5_init_78 rfl ?_
      refine k_onIN (i := 16 + 3 * d) (n := 17 + 3 * d) (mi := miX7_init) dX5_init_79 q386 okX7_init (iX7_init (u6 := (6, 8 * j + d)) (u7 := (7, 8 * j + d))) (Nat.le_of_ble_eq_true rfl) ha (at_mid (B := []) hp_len) (by rw [List.length_append, hp_len]; show 16 + 3 * d + 1 = _; omega) rfl rfl (Nat.le_of_ble_eq_true rfl) ?_
      have e1 : σ.1 + (17 + 3 * d) + 0 = σ.1 + (17 + 3 * d) := rfl
      refine w_same (hp_add' (y := ((4, j), hpQ g f))) ?_
      refine w_aastN (k := 5) (j := d) dX5_init_82 clX7 rfl (rw_i (i := 15) ha (at_mid rfl)) (rw_i (i := 16 + 3 * d) ha (hp_at (y := ((4, j), hpQ g f)))) (by omega) (by decide) ?_
      refine k_upi ha (by rw [hp_len]; omega) ?_
      rw [set_mid (A := dayA g j σ.1) (n := 15) rfl]
      refine w_iinc dX5_init_83 rfl (nI_inc _ 1) rfl (Nat.le_of_ble_eq_true rfl) ls_2_1 ?_
      refine w_goto dX5_init_86 rfl ?_
      refine ih (d + 1) (va_up f d (some (σ.1 + (16 + 3 * d)))) (by omega) (by omega) (fun i hi => ?_)
      by_cases z : i = d
      · rw [z, va_up_self]
      · rw [va_up_ne _ _ z]
        exact hf i (by omega)
set_option maxHeartbeats 4000000 in
theorem iX5_init {g : GG} {j : Nat} : Ck g miX5_init 2 40 275 [] (.inr (5, [.null, .null, .null, .null, .null, .null, .int 0, .int 0, .int 0])) (fun z => dayE z) (fun z => dayL g j z) := by
  refine Ck.start (fun a => [some (.ref a), none]) (by decide +kernel) rfl (fun _ => (Nat.le_of_ble_eq_true rfl)) (fun _ => rfl) ?_
  intro σ a t hG ha
  refine w_aload_n dX5_init_0 rfl ?_
  refine w_objInit dX5_init_1 q284 q170 q171 (Nat.le_of_ble_eq_true rfl) (Nat.le_of_ble_eq_true rfl) ?_
  refine w_aload_n dX5_init_4 rfl ?_
  refine w_new (kc := 39) (ks := 258) [.int 0, .int 0, .int 0, .int 0, .int 0, .int 0, .int 0, .null, .null, .null, .null, .null, .null, .null, .null, .null, .null] (9, 0) dX5_init_5 clX6 q285 q286 q142 dfX6 ?_
  refine k_new ha rfl ?_
  refine w_dup dX5_init_8 rfl ?_
  refine k_onIN (i := 0) (kc := 29) (ks := 120) (mc2 := 10) (ms2 := 138) (mi := miX6_init) dX5_init_9 q287 okX6_init (iX6_init (tb := fun _ => (9, 0))) (Nat.le_of_ble_eq_true rfl) ha rfl rfl rfl rfl (Nat.le_of_ble_eq_true rfl) ?_
  refine w_putf (k := 0) dX5_init_12 clX5 (by decide) q407 rfl rw_a rfl rfl (Nat.le_of_ble_eq_true rfl) ?_
  refine k_up ?_
  refine w_aload_n dX5_init_15 rfl ?_
  refine w_bipush (v := nI 6) dX5_init_16 kb_6 ?_
  refine w_newI (n := 6) (kc := 28) (ks := 114) (11, j) dX5_init_18 (by decide) ?_
  refine k_new ha rfl ?_
  refine w_putfF (k := 1) dX5_init_20 clX5 (by decide) q410 rfl rfl rfl rw_a rfl rfl (Nat.le_of_ble_eq_true rfl) ?_
  refine k_up ?_
  refine w_aload_n dX5_init_23 rfl ?_
  refine w_bipush (v := nI 6) dX5_init_24 kb_6 ?_
  refine w_newI (n := 6) (kc := 27) (ks := 108) (12, j) dX5_init_26 (by decide) ?_
  refine k_new ha rfl ?_
  refine w_putfF (k := 2) dX5_init_28 clX5 (by decide) q412 rfl rfl rfl rw_a rfl rfl (Nat.le_of_ble_eq_true rfl) ?_
  refine k_up ?_
  refine w_aload_n dX5_init_31 rfl ?_
  refine w_bipush (v := nI 6) dX5_init_32 kb_6 ?_
  refine w_newI (n := 6) (kc := 26) (ks := 102) (13, j) dX5_init_34 (by decide) ?_
  refine k_new ha rfl ?_
  refine w_putfF (k := 3) dX5_init_36 clX5 (by decide) q415 rfl rfl rfl rw_a rfl rfl (Nat.le_of_ble_eq_true rfl) ?_
  refine k_up ?_
  refine w_aload_n dX5_init_39 rfl ?_
  refine w_bipush (v := nI 6) dX5_init_40 kb_6 ?_
  refine w_newI (n := 6) (kc := 25) (ks := 96) (14, j) dX5_init_42 (by decide) ?_
  refine k_new ha rfl ?_
  refine w_putfF (k := 4) dX5_init_44 clX5 (by decide) q417 rfl rfl rfl rw_a rfl rfl (Nat.le_of_ble_eq_true rfl) ?_
  refine k_up ?_
  refine w_aload_n dX5_init_47 rfl ?_
  refine w_bipush (v := nI 8) dX5_init_48 kb_8 ?_
  refine w_anew (k := 5) (n := 8) (kc := 24) (ks := 88) (4, j) rfl q383 q384 dX5_init_50 (by decide) ?_
  refine k_new ha rfl ?_
  refine w_putfF (k := 5) dX5_init_53 clX5 (by decide) q419 rfl rfl rfl rw_a rfl rfl (Nat.le_of_ble_eq_true rfl) ?_
  refine k_up ?_
  refine w_aload_n dX5_init_56 rfl ?_
  refine w_bipush (v := nI 60) dX5_init_57 kb_60 ?_
  refine w_putf (k := 8) dX5_init_59 clX5 (by decide) q429 rfl rw_a rfl rfl (Nat.le_of_ble_eq_true rfl) ?_
  refine k_up ?_
  refine w_iconst (v := nI 0) dX5_init_62 ki_0 ?_
  refine w_istore_n dX5_init_63 rfl (Nat.le_of_ble_eq_true rfl) ls_2_1 ?_
  exact day_loop ha 9 0 (fun _ => none) (by omega) (by omega) (fun i hi => absurd hi (Nat.not_lt_zero i))
theorem houseL_len {g : GG} {j z : Nat} : (((3, j), dayE (z + 1)) :: dayL g j (z + 1) : List (Tg × va_E)).length = 41 := rfl
set_option maxHeartbeats 4000000 in
theorem iX4_init {g : GG} {j : Nat} : Ck g miX4_init 3 41 284 [] (.inr (4, [.null, .null])) (fun z => .inr (4, [.ref (z + 0), .null])) (fun z => ((3, j), dayE (z + 1)) :: dayL g j (z + 1)) := by
  refine Ck.start (fun a => [some (.ref a)]) (by decide +kernel) rfl (fun _ => (Nat.le_of_ble_eq_true rfl)) (fun _ => rfl) ?_
  intro σ a t hG ha
  refine w_aload_n dX4_init_0 rfl ?_
  refine w_objInit dX4_init_1 q278 q170 q171 (Nat.le_of_ble_eq_true rfl) (Nat.le_of_ble_eq_true rfl) ?_
  refine w_aload_n dX4_init_4 rfl ?_
  refine w_new (kc := 40) (ks := 275) [.null, .null, .null, .null, .null, .null, .int 0, .int 0, .int 0] (3, j) dX4_init_5 clX5 q279 q280 q141 dfX5 ?_
  refine k_new ha rfl ?_
  refine w_dup dX4_init_8 rfl ?_
  refine k_onI (i := 0) (kc := 0) (ks := 0) (mc2 := 40) (ms2 := 275) (mi := miX5_init) dX4_init_9 q281 okX5_init (iX5_init (j := j)) (Nat.le_of_ble_eq_true rfl) ha rfl rfl rfl rfl (Nat.le_of_ble_eq_true rfl) ?_
  refine w_putfF (k := 0) dX4_init_12 clX4 (by decide) q450 rfl rfl rfl rw_a rfl rfl (Nat.le_of_ble_eq_true rfl) ?_
  refine k_up ?_
  exact w_vret dX4_init_15 rfl ⟨rfl, rfl⟩
set_option maxHeartbeats 4000000 in
theorem iJ0_X2 {g : GG}  : Ck g miJ0_init_2 1 0 0 [.null, .null, .int (nI 0), .int (nI 0)] (.inr (2, [.null, .null, .null, .null, .null, .int 0, .int 0, .int 0])) (fun _ => .inr (2, [.null, .null, .null, .null, .null, .int 0, .int 0, .int 0])) (fun _ => []) := by
  refine Ck.start (fun a => [some (.ref a), some (.null), some (.null), some (.int (nI 0)), some (.int (nI 0))]) (by decide +kernel) rfl (fun _ => (Nat.le_of_ble_eq_true rfl)) (fun _ => rfl) ?_
  intro σ a t hG ha
  refine w_aload_n dJ0_init_2_0 rfl ?_
  refine w_objInit dJ0_init_2_1 q206 q170 q171 (Nat.le_of_ble_eq_true rfl) (Nat.le_of_ble_eq_true rfl) ?_
  refine w_aload_n dJ0_init_2_4 rfl ?_
  refine w_aload_n dJ0_init_2_5 rfl ?_
  refine w_putf (k := 0) dJ0_init_2_6 clX2 (by decide) q238 rfl rw_a rfl rfl (Nat.le_of_ble_eq_true rfl) ?_
  refine k_up ?_
  refine w_aload_n dJ0_init_2_9 rfl ?_
  obtain ⟨v1, hv1, hr1⟩ : ∃ v, va_Z "java/lang/Throwable" "UNASSIGNED_STACK" "[Ljava/lang/StackTraceElement;" v (gA g) g.2.1 g.2.1.heap ∧ (v = .null ∨ ∃ t : Nat, v = .ref t) := by
    rcases hG.2.2.2.1.1 with h | ⟨t, h⟩
    · exact ⟨_, h, Or.inl rfl⟩
    · exact ⟨_, h, Or.inr ⟨t, rfl⟩⟩
  refine w_getZ hv1 dJ0_init_2_10 q207 ?_
  refine w_putf (k := 1) dJ0_init_2_13 clX2 (by decide) q239 rfl rw_a (by rcases hr1 with rfl | ⟨t, rfl⟩ <;> rfl) (by rcases hr1 with rfl | ⟨t, rfl⟩ <;> rfl) (Nat.le_of_ble_eq_true rfl) ?_
  refine k_up ?_
  refine w_aload_n dJ0_init_2_16 rfl ?_
  obtain ⟨v2, hv2, hr2⟩ : ∃ v, va_Z "java/lang/Throwable" "SUPPRESSED_SENTINEL" "Ljava/util/List;" v (gA g) g.2.1 g.2.1.heap ∧ (v = .null ∨ ∃ t : Nat, v = .ref t) := by
    rcases hG.2.2.2.2.1.1 with h | ⟨t, h⟩
    · exact ⟨_, h, Or.inl rfl⟩
    · exact ⟨_, h, Or.inr ⟨t, rfl⟩⟩
  refine w_getZ hv2 dJ0_init_2_17 q209 ?_
  refine w_putf (k := 2) dJ0_init_2_20 clX2 (by decide) q240 rfl rw_a (by rcases hr2 with rfl | ⟨t, rfl⟩ <;> rfl) (by rcases hr2 with rfl | ⟨t, rfl⟩ <;> rfl) (Nat.le_of_ble_eq_true rfl) ?_
  refine k_up ?_
  refine w_iload dJ0_init_2_23 rfl ?_
  refine w_ifN_eq dJ0_init_2_25 rfl (by decide) (fun h_25 => ?_) (fun h_25 => ?_)
  rotate_left
  · exact absurd (show _ from h_25) (by decide)
  refine w_aload_n dJ0_init_2_36 rfl ?_
  refine w_null dJ0_init_2_37 ?_
  refine w_putf (k := 1) dJ0_init_2_38 clX2 (by decide) q239 rfl rw_a rfl rfl (Nat.le_of_ble_eq_true rfl) ?_
  refine k_up ?_
  refine w_aload_n dJ0_init_2_41 rfl ?_
  refine w_aload_nN dJ0_init_2_42 rfl ?_
  refine w_putf (k := 3) dJ0_init_2_43 clX2 (by decide) q237 rfl rw_a rfl rfl (Nat.le_of_ble_eq_true rfl) ?_
  refine k_up ?_
  refine w_aload_n dJ0_init_2_46 rfl ?_
  refine w_aload_nN dJ0_init_2_47 rfl ?_
  refine w_putf (k := 0) dJ0_init_2_48 clX2 (by decide) q238 rfl rw_a rfl rfl (Nat.le_of_ble_eq_true rfl) ?_
  refine k_up ?_
  refine w_iload_n dJ0_init_2_51 rfl ?_
  refine w_ifN_ne dJ0_init_2_52 rfl (by decide) (fun h_52 => ?_) (fun h_52 => ?_)
  · exact absurd (show _ from h_52) (by decide)
  refine w_aload_n dJ0_init_2_55 rfl ?_
  refine w_null dJ0_init_2_56 ?_
  refine w_putf (k := 2) dJ0_init_2_57 clX2 (by decide) q240 rfl rw_a rfl rfl (Nat.le_of_ble_eq_true rfl) ?_
  refine k_up ?_
  exact w_vret dJ0_init_2_60 rfl ⟨rfl, rfl⟩
set_option maxHeartbeats 4000000 in
theorem iJ1_X2 {g : GG}  : Ck g miJ1_init 2 0 0 [.null, .null, .int (nI 0), .int (nI 0)] (.inr (2, [.null, .null, .null, .null, .null, .int 0, .int 0, .int 0])) (fun _ => .inr (2, [.null, .null, .null, .null, .null, .int 0, .int 0, .int 0])) (fun _ => []) := by
  refine Ck.start (fun a => [some (.ref a), some (.null), some (.null), some (.int (nI 0)), some (.int (nI 0))]) (by decide +kernel) rfl (fun _ => (Nat.le_of_ble_eq_true rfl)) (fun _ => rfl) ?_
  intro σ a t hG ha
  refine w_aload_n dJ1_init_0 rfl ?_
  refine w_aload_nN dJ1_init_1 rfl ?_
  refine w_aload_nN dJ1_init_2 rfl ?_
  refine w_iload_n dJ1_init_3 rfl ?_
  refine w_iload dJ1_init_4 rfl ?_
  refine k_suI (kc := 0) (ks := 0) (mc2 := 0) (ms2 := 0) (mi := miJ0_init_2) dJ1_init_6 q229 okJ0_init_2 (iJ0_X2) (Nat.le_of_ble_eq_true rfl) ha rfl rfl rfl (Nat.le_of_ble_eq_true rfl) ?_
  exact w_vret dJ1_init_9 rfl ⟨rfl, rfl⟩
set_option maxHeartbeats 4000000 in
theorem iX2_init {g : GG}  : Ck g miX2_init 3 0 0 [] (.inr (2, [.null, .null, .null, .null, .null, .int 0, .int 0, .int 0])) (fun _ => .inr (2, [.null, .null, .null, .null, .null, .int 0, .int 0, .int 0])) (fun _ => []) := by
  refine Ck.start (fun a => [some (.ref a)]) (by decide +kernel) rfl (fun _ => (Nat.le_of_ble_eq_true rfl)) (fun _ => rfl) ?_
  intro σ a t hG ha
  refine w_aload_n dX2_init_0 rfl ?_
  refine w_null dX2_init_1 ?_
  refine w_null dX2_init_2 ?_
  refine w_iconst (v := nI 0) dX2_init_3 ki_0 ?_
  refine w_iconst (v := nI 0) dX2_init_4 ki_0 ?_
  refine k_suI (kc := 0) (ks := 0) (mc2 := 0) (ms2 := 0) (mi := miJ1_init) dX2_init_5 q226 okJ1_init (iJ1_X2) (Nat.le_of_ble_eq_true rfl) ha rfl rfl rfl (Nat.le_of_ble_eq_true rfl) ?_
  exact w_vret dX2_init_8 rfl ⟨rfl, rfl⟩
set_option maxHeartbeats 4000000 in
theorem iJ0_X3 {g : GG}  : Ck g miJ0_init_2 1 0 0 [.null, .null, .int (nI 0), .int (nI 0)] (.inr (3, [.null, .null, .null, .null, .null, .int 0, .int 0])) (fun _ => .inr (3, [.null, .null, .null, .null, .null, .int 0, .int 0])) (fun _ => []) := by
  refine Ck.start (fun a => [some (.ref a), some (.null), some (.null), some (.int (nI 0)), some (.int (nI 0))]) (by decide +kernel) rfl (fun _ => (Nat.le_of_ble_eq_true rfl)) (fun _ => rfl) ?_
  intro σ a t hG ha
  refine w_aload_n dJ0_init_2_0 rfl ?_
  refine w_objInit dJ0_init_2_1 q206 q170 q171 (Nat.le_of_ble_eq_true rfl) (Nat.le_of_ble_eq_true rfl) ?_
  refine w_aload_n dJ0_init_2_4 rfl ?_
  refine w_aload_n dJ0_init_2_5 rfl ?_
  refine w_putf (k := 0) dJ0_init_2_6 clX3 (by decide) q238 rfl rw_a rfl rfl (Nat.le_of_ble_eq_true rfl) ?_
  refine k_up ?_
  refine w_aload_n dJ0_init_2_9 rfl ?_
  obtain ⟨v1, hv1, hr1⟩ : ∃ v, va_Z "java/lang/Throwable" "UNASSIGNED_STACK" "[Ljava/lang/StackTraceElement;" v (gA g) g.2.1 g.2.1.heap ∧ (v = .null ∨ ∃ t : Nat, v = .ref t) := by
    rcases hG.2.2.2.1.1 with h | ⟨t, h⟩
    · exact ⟨_, h, Or.inl rfl⟩
    · exact ⟨_, h, Or.inr ⟨t, rfl⟩⟩
  refine w_getZ hv1 dJ0_init_2_10 q207 ?_
  refine w_putf (k := 1) dJ0_init_2_13 clX3 (by decide) q239 rfl rw_a (by rcases hr1 with rfl | ⟨t, rfl⟩ <;> rfl) (by rcases hr1 with rfl | ⟨t, rfl⟩ <;> rfl) (Nat.le_of_ble_eq_true rfl) ?_
  refine k_up ?_
  refine w_aload_n dJ0_init_2_16 rfl ?_
  obtain ⟨v2, hv2, hr2⟩ : ∃ v, va_Z "java/lang/Throwable" "SUPPRESSED_SENTINEL" "Ljava/util/List;" v (gA g) g.2.1 g.2.1.heap ∧ (v = .null ∨ ∃ t : Nat, v = .ref t) := by
    rcases hG.2.2.2.2.1.1 with h | ⟨t, h⟩
    · exact ⟨_, h, Or.inl rfl⟩
    · exact ⟨_, h, Or.inr ⟨t, rfl⟩⟩
  refine w_getZ hv2 dJ0_init_2_17 q209 ?_
  refine w_putf (k := 2) dJ0_init_2_20 clX3 (by decide) q240 rfl rw_a (by rcases hr2 with rfl | ⟨t, rfl⟩ <;> rfl) (by rcases hr2 with rfl | ⟨t, rfl⟩ <;> rfl) (Nat.le_of_ble_eq_true rfl) ?_
  refine k_up ?_
  refine w_iload dJ0_init_2_23 rfl ?_
  refine w_ifN_eq dJ0_init_2_25 rfl (by decide) (fun h_25 => ?_) (fun h_25 => ?_)
  rotate_left
  · exact absurd (show _ from h_25) (by decide)
  refine w_aload_n dJ0_init_2_36 rfl ?_
  refine w_null dJ0_init_2_37 ?_
  refine w_putf (k := 1) dJ0_init_2_38 clX3 (by decide) q239 rfl rw_a rfl rfl (Nat.le_of_ble_eq_true rfl) ?_
  refine k_up ?_
  refine w_aload_n dJ0_init_2_41 rfl ?_
  refine w_aload_nN dJ0_init_2_42 rfl ?_
  refine w_putf (k := 3) dJ0_init_2_43 clX3 (by decide) q237 rfl rw_a rfl rfl (Nat.le_of_ble_eq_true rfl) ?_
  refine k_up ?_
  refine w_aload_n dJ0_init_2_46 rfl ?_
  refine w_aload_nN dJ0_init_2_47 rfl ?_
  refine w_putf (k := 0) dJ0_init_2_48 clX3 (by decide) q238 rfl rw_a rfl rfl (Nat.le_of_ble_eq_true rfl) ?_
  refine k_up ?_
  refine w_iload_n dJ0_init_2_51 rfl ?_
  refine w_ifN_ne dJ0_init_2_52 rfl (by decide) (fun h_52 => ?_) (fun h_52 => ?_)
  · exact absurd (show _ from h_52) (by decide)
  refine w_aload_n dJ0_init_2_55 rfl ?_
  refine w_null dJ0_init_2_56 ?_
  refine w_putf (k := 2) dJ0_init_2_57 clX3 (by decide) q240 rfl rw_a rfl rfl (Nat.le_of_ble_eq_true rfl) ?_
  refine k_up ?_
  exact w_vret dJ0_init_2_60 rfl ⟨rfl, rfl⟩
set_option maxHeartbeats 4000000 in
theorem iJ1_X3 {g : GG}  : Ck g miJ1_init 2 0 0 [.null, .null, .int (nI 0), .int (nI 0)] (.inr (3, [.null, .null, .null, .null, .null, .int 0, .int 0])) (fun _ => .inr (3, [.null, .null, .null, .null, .null, .int 0, .int 0])) (fun _ => []) := by
  refine Ck.start (fun a => [some (.ref a), some (.null), some (.null), some (.int (nI 0)), some (.int (nI 0))]) (by decide +kernel) rfl (fun _ => (Nat.le_of_ble_eq_true rfl)) (fun _ => rfl) ?_
  intro σ a t hG ha
  refine w_aload_n dJ1_init_0 rfl ?_
  refine w_aload_nN dJ1_init_1 rfl ?_
  refine w_aload_nN dJ1_init_2 rfl ?_
  refine w_iload_n dJ1_init_3 rfl ?_
  refine w_iload dJ1_init_4 rfl ?_
  refine k_suI (kc := 0) (ks := 0) (mc2 := 0) (ms2 := 0) (mi := miJ0_init_2) dJ1_init_6 q229 okJ0_init_2 (iJ0_X3) (Nat.le_of_ble_eq_true rfl) ha rfl rfl rfl (Nat.le_of_ble_eq_true rfl) ?_
  exact w_vret dJ1_init_9 rfl ⟨rfl, rfl⟩
set_option maxHeartbeats 4000000 in
theorem iX3_init {g : GG}  : Ck g miX3_init 3 0 0 [] (.inr (3, [.null, .null, .null, .null, .null, .int 0, .int 0])) (fun _ => .inr (3, [.null, .null, .null, .null, .null, .int 0, .int 0])) (fun _ => []) := by
  refine Ck.start (fun a => [some (.ref a)]) (by decide +kernel) rfl (fun _ => (Nat.le_of_ble_eq_true rfl)) (fun _ => rfl) ?_
  intro σ a t hG ha
  refine w_aload_n dX3_init_0 rfl ?_
  refine w_null dX3_init_1 ?_
  refine w_null dX3_init_2 ?_
  refine w_iconst (v := nI 0) dX3_init_3 ki_0 ?_
  refine w_iconst (v := nI 0) dX3_init_4 ki_0 ?_
  refine k_suI (kc := 0) (ks := 0) (mc2 := 0) (ms2 := 0) (mi := miJ1_init) dX3_init_5 q266 okJ1_init (iJ1_X3) (Nat.le_of_ble_eq_true rfl) ha rfl rfl rfl (Nat.le_of_ble_eq_true rfl) ?_
  exact w_vret dX3_init_8 rfl ⟨rfl, rfl⟩
