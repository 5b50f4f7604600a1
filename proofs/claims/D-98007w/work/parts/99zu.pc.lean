/-! PAIRS: calls that change (printed by gen/pairs.py) -/
set_option maxRecDepth 100000
theorem pr_go {g : GG} {ax bm : Nat} {σ : PH} {x y : Int32} (jj : JJ g ax bm σ) : PairG Value.int g ax bm miX0_go miX8_go [.int x, .int y] σ := by
  obtain ⟨C, S, H, hm, rfl, hb, hz, hs, J⟩ := jj
  obtain ⟨V, nf, nd, P, D⟩ := J.dv
  obtain ⟨q, E⟩ := D.1
  have EA := D.2.1
  have K := D.2.2.1
  rw [slA0] at EA
  have hk := D.2.2.2.1
  exact pair_of H J.h0 hb hz hs (kX0_go J.h0 J.h0 E K) (c_go EA K) (Nat.le_of_ble_eq_true rfl) (Nat.le_of_ble_eq_true rfl) (Nat.le_of_ble_eq_true rfl) (Nat.le_of_ble_eq_true rfl) (fun C2 S2 h1 h2 => J.ch D h1 h2 (ok3_go K hk))
theorem pr_pass {g : GG} {ax bm : Nat} {σ : PH} {x y : Int32} (jj : JJ g ax bm σ) : PairG Value.int g ax bm miX0_pass miX8_pass [.int x, .int y] σ := by
  obtain ⟨C, S, H, hm, rfl, hb, hz, hs, J⟩ := jj
  obtain ⟨V, nf, nd, P, D⟩ := J.dv
  obtain ⟨q, E⟩ := D.1
  have EA := D.2.1
  have K := D.2.2.1
  rw [slA0] at EA
  have hk := D.2.2.2.1
  exact pair_of H J.h0 hb hz hs (kX0_pass J.h0 J.h0 E K) (c_pass EA K) (Nat.le_of_ble_eq_true rfl) (Nat.le_of_ble_eq_true rfl) (Nat.le_of_ble_eq_true rfl) (Nat.le_of_ble_eq_true rfl) (fun C2 S2 h1 h2 => J.ch D h1 h2 (ok3_pass K hk))
theorem pr_set {g : GG} {ax bm : Nat} {σ : PH} {x y : Int32} (jj : JJ g ax bm σ) : PairG Value.int g ax bm miX0_set miX8_set [.int x, .int y] σ := by
  obtain ⟨C, S, H, hm, rfl, hb, hz, hs, J⟩ := jj
  obtain ⟨V, nf, nd, P, D⟩ := J.dv
  obtain ⟨q, E⟩ := D.1
  have EA := D.2.1
  have K := D.2.2.1
  rw [slA0] at EA
  have hk := D.2.2.2.1
  exact pair_of H J.h0 hb hz hs (kX0_set J.h0 J.h0 E K (congrFun hm 90)) (c_set EA K) (Nat.le_of_ble_eq_true rfl) (Nat.le_of_ble_eq_true rfl) (Nat.le_of_ble_eq_true rfl) (Nat.le_of_ble_eq_true rfl) (fun C2 S2 h1 h2 => J.ch D h1 h2 (ok3_set K hk))
theorem pr_lift {g : GG} {ax bm : Nat} {σ : PH} {x y : Int32} (jj : JJ g ax bm σ) : PairG Value.int g ax bm miX0_lift miX8_lift [.int x, .int y] σ := by
  obtain ⟨C, S, H, hm, rfl, hb, hz, hs, J⟩ := jj
  obtain ⟨V, nf, nd, P, D⟩ := J.dv
  obtain ⟨q, E⟩ := D.1
  have EA := D.2.1
  have K := D.2.2.1
  rw [slA0] at EA
  have hk := D.2.2.2.1
  exact pair_of H J.h0 hb hz hs (kX0_lift J.h0 J.h0 E K) (c_lift EA K) (Nat.le_of_ble_eq_true rfl) (Nat.le_of_ble_eq_true rfl) (Nat.le_of_ble_eq_true rfl) (Nat.le_of_ble_eq_true rfl) (fun C2 S2 h1 h2 => J.ch D h1 h2 (ok3_lift K hk))
theorem pr_gull {g : GG} {ax bm : Nat} {σ : PH} {x y : Int32} (jj : JJ g ax bm σ) : PairG Value.int g ax bm miX0_gull miX8_gull [.int x, .int y] σ := by
  obtain ⟨C, S, H, hm, rfl, hb, hz, hs, J⟩ := jj
  obtain ⟨V, nf, nd, P, D⟩ := J.dv
  obtain ⟨q, E⟩ := D.1
  have EA := D.2.1
  have K := D.2.2.1
  rw [slA0] at EA
  have hk := D.2.2.2.1
  exact pair_of H J.h0 hb hz hs (kX0_gull J.h0 J.h0 E K (congrFun hm 90)) (c_gull EA K) (Nat.le_of_ble_eq_true rfl) (Nat.le_of_ble_eq_true rfl) (Nat.le_of_ble_eq_true rfl) (Nat.le_of_ble_eq_true rfl) (fun C2 S2 h1 h2 => J.ch D h1 h2 (ok3_gull K hk))
theorem pr_wave {g : GG} {ax bm : Nat} {σ : PH} {x : Int32} (jj : JJ g ax bm σ) : PairG Value.int g ax bm miX0_wave miX8_wave [.int x] σ := by
  obtain ⟨C, S, H, hm, rfl, hb, hz, hs, J⟩ := jj
  obtain ⟨V, nf, nd, P, D⟩ := J.dv
  obtain ⟨q, E⟩ := D.1
  have EA := D.2.1
  have K := D.2.2.1
  rw [slA0] at EA
  have hk := D.2.2.2.1
  exact pair_of H J.h0 hb hz hs (kX0_wave J.h0 J.h0 E K) (c_wave EA K) (Nat.le_of_ble_eq_true rfl) (Nat.le_of_ble_eq_true rfl) (Nat.le_of_ble_eq_true rfl) (Nat.le_of_ble_eq_true rfl) (fun C2 S2 h1 h2 => J.ch D h1 h2 (ok3_wave K hk))
theorem pr_tide {g : GG} {ax bm : Nat} {σ : PH} (jj : JJ g ax bm σ) : PairG Value.int g ax bm miX0_tide miX8_tide [] σ := by
  obtain ⟨C, S, H, hm, rfl, hb, hz, hs, J⟩ := jj
  obtain ⟨V, nf, nd, P, D⟩ := J.dv
  obtain ⟨q, E⟩ := D.1
  have EA := D.2.1
  have K := D.2.2.1
  rw [slA0] at EA
  have hk := D.2.2.2.1
  exact pair_of H J.h0 hb hz hs (kX0_tide J.h0 J.h0 E K  hk) (c_tide EA K hk) (Nat.le_of_ble_eq_true rfl) (Nat.le_of_ble_eq_true rfl) (Nat.le_of_ble_eq_true rfl) (Nat.le_of_ble_eq_true rfl) (fun C2 S2 h1 h2 => J.ch D h1 h2 (ok3_tide K hk))
theorem pr_dawn {g : GG} {ax bm : Nat} {σ : PH} (jj : JJ g ax bm σ) : PairG Value.int g ax bm miX0_dawn miX8_dawn [] σ := by
  obtain ⟨C, S, H, hm, rfl, hb, hz, hs, J⟩ := jj
  obtain ⟨V, nf, nd, P, D⟩ := J.dv
  obtain ⟨q, E⟩ := D.1
  have EA := D.2.1
  have K := D.2.2.1
  rw [slA0] at EA
  have hk := D.2.2.2.1
  exact pair_of H J.h0 hb hz hs (kX0_dawn J.h0 J.h0 E K) (c_dawn EA K) (Nat.le_of_ble_eq_true rfl) (Nat.le_of_ble_eq_true rfl) (Nat.le_of_ble_eq_true rfl) (Nat.le_of_ble_eq_true rfl) (fun C2 S2 h1 h2 => J.ch D h1 h2 (ok3_dawn K hk))
