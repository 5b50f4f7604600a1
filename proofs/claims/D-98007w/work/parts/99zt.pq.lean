/-! PAIRS: calls that ask (printed by gen/pairs.py) -/
set_option maxRecDepth 100000
theorem nn_of {y : Int32} (h : ¬ y < 0) : ∃ k : Nat, k < 2147483648 ∧ y = nI k := by
  by_cases h2 : nI 2147483647 ≤ y
  · refine ⟨2147483647, by omega, ?_⟩
    rw [Int32.not_lt, Int32.le_iff_toInt_le] at h
    rw [Int32.le_iff_toInt_le] at h2
    apply Int32.toInt_inj.mp
    have h3 := Int32.toInt_le y
    rw [nI_toInt (by omega)] at h2 ⊢
    have : (Int32.maxValue).toInt = 2147483647 := by decide +kernel
    omega
  · obtain ⟨j, hj, rfl⟩ := nat_of h h2 (by omega)
    exact ⟨j, by omega, rfl⟩
theorem pr_told {g : GG} {ax bm : Nat} {σ : PH} {x : Int32} (jj : JJ g ax bm σ) : PairG Value.int g ax bm miX0_told miX8_told [.int x] σ := by
  obtain ⟨C, S, H, hm, rfl, hb, hz, hs, J⟩ := jj
  obtain ⟨V, nf, nd, P, D⟩ := J.dv
  obtain ⟨q, E⟩ := D.1
  have EA := D.2.1
  have K := D.2.2.1
  rw [slA0] at EA
  exact pair_of H J.h0 hb hz hs (kX0_told J.h0 J.h0 E K) ((c_told EA K).toP (P := fun S2 => S2 = sI S 2 (q_told V x).2) rfl) (Nat.le_of_ble_eq_true rfl) (Nat.le_of_ble_eq_true rfl) (Nat.le_of_ble_eq_true rfl) (Nat.le_of_ble_eq_true rfl) (fun C2 S2 h1 h2 => by subst h1; subst h2; exact J.q)
theorem pr_finder {g : GG} {ax bm : Nat} {σ : PH} {x y : Int32} (jj : JJ g ax bm σ) : PairG Value.int g ax bm miX0_finder miX8_finder [.int x, .int y] σ := by
  obtain ⟨C, S, H, hm, rfl, hb, hz, hs, J⟩ := jj
  obtain ⟨V, nf, nd, P, D⟩ := J.dv
  obtain ⟨q, E⟩ := D.1
  have EA := D.2.1
  have K := D.2.2.1
  rw [slA0] at EA
  exact pair_of H J.h0 hb hz hs (kX0_finder J.h0 J.h0 E K) ((c_finder EA K).toP (P := fun S2 => S2 = sI S 2 (q_finder V x y).2) rfl) (Nat.le_of_ble_eq_true rfl) (Nat.le_of_ble_eq_true rfl) (Nat.le_of_ble_eq_true rfl) (Nat.le_of_ble_eq_true rfl) (fun C2 S2 h1 h2 => by subst h1; subst h2; exact J.q)
theorem pr_find {g : GG} {ax bm : Nat} {σ : PH} {x y : Int32} (jj : JJ g ax bm σ) : PairG Value.int g ax bm miX0_find miX8_find [.int x, .int y] σ := by
  obtain ⟨C, S, H, hm, rfl, hb, hz, hs, J⟩ := jj
  obtain ⟨V, nf, nd, P, D⟩ := J.dv
  obtain ⟨q, E⟩ := D.1
  have EA := D.2.1
  have K := D.2.2.1
  rw [slA0] at EA
  exact pair_of H J.h0 hb hz hs (kX0_find J.h0 J.h0 E K) ((c_find EA K).toP (P := fun S2 => S2 = sI S 2 (q_find V x y).2) rfl) (Nat.le_of_ble_eq_true rfl) (Nat.le_of_ble_eq_true rfl) (Nat.le_of_ble_eq_true rfl) (Nat.le_of_ble_eq_true rfl) (fun C2 S2 h1 h2 => by subst h1; subst h2; exact J.q)
theorem pr_pebble {g : GG} {ax bm : Nat} {σ : PH} {x y z : Int32} (jj : JJ g ax bm σ) : PairG Value.int g ax bm miX0_pebble miX8_pebble [.int x, .int y, .int z] σ := by
  obtain ⟨C, S, H, hm, rfl, hb, hz, hs, J⟩ := jj
  obtain ⟨V, nf, nd, P, D⟩ := J.dv
  obtain ⟨q, E⟩ := D.1
  have EA := D.2.1
  have K := D.2.2.1
  rw [slA0] at EA
  exact pair_of H J.h0 hb hz hs (kX0_pebble J.h0 J.h0 E K) ((c_pebble EA K).toP (P := fun S2 => S2 = sI S 2 (q_pebble V x y z).2) rfl) (Nat.le_of_ble_eq_true rfl) (Nat.le_of_ble_eq_true rfl) (Nat.le_of_ble_eq_true rfl) (Nat.le_of_ble_eq_true rfl) (fun C2 S2 h1 h2 => by subst h1; subst h2; exact J.q)
theorem pr_last {g : GG} {ax bm : Nat} {σ : PH} {x : Int32} (jj : JJ g ax bm σ) : PairG Value.int g ax bm miX0_last miX8_last [.int x] σ := by
  obtain ⟨C, S, H, hm, rfl, hb, hz, hs, J⟩ := jj
  obtain ⟨V, nf, nd, P, D⟩ := J.dv
  obtain ⟨q, E⟩ := D.1
  have EA := D.2.1
  have K := D.2.2.1
  rw [slA0] at EA
  exact pair_of H J.h0 hb hz hs (kX0_last J.h0 J.h0 E K) ((c_last EA K).toP (P := fun S2 => S2 = sI S 2 (q_last V x).2) rfl) (Nat.le_of_ble_eq_true rfl) (Nat.le_of_ble_eq_true rfl) (Nat.le_of_ble_eq_true rfl) (Nat.le_of_ble_eq_true rfl) (fun C2 S2 h1 h2 => by subst h1; subst h2; exact J.q)
theorem pr_whose {g : GG} {ax bm : Nat} {σ : PH} {x : Int32} (jj : JJ g ax bm σ) : PairG Value.int g ax bm miX0_whose miX8_whose [.int x] σ := by
  obtain ⟨C, S, H, hm, rfl, hb, hz, hs, J⟩ := jj
  obtain ⟨V, nf, nd, P, D⟩ := J.dv
  obtain ⟨q, E⟩ := D.1
  have EA := D.2.1
  have K := D.2.2.1
  rw [slA0] at EA
  exact pair_of H J.h0 hb hz hs (kX0_whose J.h0 J.h0 E K) ((c_whose EA K).toP (P := fun S2 => S2 = sI S 2 (q_whose V x).2) rfl) (Nat.le_of_ble_eq_true rfl) (Nat.le_of_ble_eq_true rfl) (Nat.le_of_ble_eq_true rfl) (Nat.le_of_ble_eq_true rfl) (fun C2 S2 h1 h2 => by subst h1; subst h2; exact J.q)
theorem pr_leads {g : GG} {ax bm : Nat} {σ : PH} {x : Int32} (jj : JJ g ax bm σ) : PairG Value.int g ax bm miX0_leads miX8_leads [.int x] σ := by
  obtain ⟨C, S, H, hm, rfl, hb, hz, hs, J⟩ := jj
  obtain ⟨V, nf, nd, P, D⟩ := J.dv
  obtain ⟨q, E⟩ := D.1
  have EA := D.2.1
  have K := D.2.2.1
  rw [slA0] at EA
  exact pair_of H J.h0 hb hz hs (kX0_leads J.h0 J.h0 E K) ((c_leads EA K).toP (P := fun S2 => S2 = sI S 2 (q_leads V x).2) rfl) (Nat.le_of_ble_eq_true rfl) (Nat.le_of_ble_eq_true rfl) (Nat.le_of_ble_eq_true rfl) (Nat.le_of_ble_eq_true rfl) (fun C2 S2 h1 h2 => by subst h1; subst h2; exact J.q)
theorem pr_leader {g : GG} {ax bm : Nat} {σ : PH} (jj : JJ g ax bm σ) : PairG Value.int g ax bm miX0_leader miX8_leader [] σ := by
  obtain ⟨C, S, H, hm, rfl, hb, hz, hs, J⟩ := jj
  obtain ⟨V, nf, nd, P, D⟩ := J.dv
  obtain ⟨q, E⟩ := D.1
  have EA := D.2.1
  have K := D.2.2.1
  rw [slA0] at EA
  exact pair_of H J.h0 hb hz hs (kX0_leader J.h0 J.h0 E K) ((c_leader EA K).toP (P := fun S2 => S2 = sI S 2 (q_leader V).2) rfl) (Nat.le_of_ble_eq_true rfl) (Nat.le_of_ble_eq_true rfl) (Nat.le_of_ble_eq_true rfl) (Nat.le_of_ble_eq_true rfl) (fun C2 S2 h1 h2 => by subst h1; subst h2; exact J.q)
theorem pr_duels {g : GG} {ax bm : Nat} {σ : PH} (jj : JJ g ax bm σ) : PairG Value.int g ax bm miX0_duels miX8_duels [] σ := by
  obtain ⟨C, S, H, hm, rfl, hb, hz, hs, J⟩ := jj
  obtain ⟨V, nf, nd, P, D⟩ := J.dv
  obtain ⟨q, E⟩ := D.1
  have EA := D.2.1
  have K := D.2.2.1
  rw [slA0] at EA
  exact pair_of H J.h0 hb hz hs (kX0_duels J.h0 J.h0 E K) ((c_duels EA K).toP (P := fun S2 => S2 = sI S 2 (q_duels V).2) rfl) (Nat.le_of_ble_eq_true rfl) (Nat.le_of_ble_eq_true rfl) (Nat.le_of_ble_eq_true rfl) (Nat.le_of_ble_eq_true rfl) (fun C2 S2 h1 h2 => by subst h1; subst h2; exact J.q)
theorem pr_needs {g : GG} {ax bm : Nat} {σ : PH} {x : Int32} (jj : JJ g ax bm σ) : PairG Value.int g ax bm miX0_needs miX8_needs [.int x] σ := by
  obtain ⟨C, S, H, hm, rfl, hb, hz, hs, J⟩ := jj
  obtain ⟨V, nf, nd, P, D⟩ := J.dv
  obtain ⟨q, E⟩ := D.1
  have EA := D.2.1
  have K := D.2.2.1
  rw [slA0] at EA
  exact pair_of H J.h0 hb hz hs (kX0_needs J.h0 J.h0 E K) ((c_needs EA K).toP (P := fun S2 => S2 = sI S 2 (q_needs V x).2) rfl) (Nat.le_of_ble_eq_true rfl) (Nat.le_of_ble_eq_true rfl) (Nat.le_of_ble_eq_true rfl) (Nat.le_of_ble_eq_true rfl) (fun C2 S2 h1 h2 => by subst h1; subst h2; exact J.q)
theorem pr_strewn {g : GG} {ax bm : Nat} {σ : PH} {x : Int32} (jj : JJ g ax bm σ) : PairG Value.int g ax bm miX0_strewn miX8_strewn [.int x] σ := by
  obtain ⟨C, S, H, hm, rfl, hb, hz, hs, J⟩ := jj
  obtain ⟨V, nf, nd, P, D⟩ := J.dv
  obtain ⟨q, E⟩ := D.1
  have EA := D.2.1
  have K := D.2.2.1
  rw [slA0] at EA
  exact pair_of H J.h0 hb hz hs (kX0_strewn J.h0 J.h0 E K) ((c_strewn EA K).toP (P := fun S2 => S2 = sI S 2 (q_strewn V x).2) rfl) (Nat.le_of_ble_eq_true rfl) (Nat.le_of_ble_eq_true rfl) (Nat.le_of_ble_eq_true rfl) (Nat.le_of_ble_eq_true rfl) (fun C2 S2 h1 h2 => by subst h1; subst h2; exact J.q)
theorem pr_soonest {g : GG} {ax bm : Nat} {σ : PH} {x y : Int32} (jj : JJ g ax bm σ) : PairG Value.int g ax bm miX0_soonest miX8_soonest [.int x, .int y] σ := by
  obtain ⟨C, S, H, hm, rfl, hb, hz, hs, J⟩ := jj
  obtain ⟨V, nf, nd, P, D⟩ := J.dv
  obtain ⟨q, E⟩ := D.1
  have EA := D.2.1
  have K := D.2.2.1
  rw [slA0] at EA
  exact pair_of H J.h0 hb hz hs (kX0_soonest J.h0 J.h0 E K) ((c_soonest EA K).toP (P := fun S2 => S2 = sI S 2 (q_soonest V x y).2) rfl) (Nat.le_of_ble_eq_true rfl) (Nat.le_of_ble_eq_true rfl) (Nat.le_of_ble_eq_true rfl) (Nat.le_of_ble_eq_true rfl) (fun C2 S2 h1 h2 => by subst h1; subst h2; exact J.q)
theorem pr_threat {g : GG} {ax bm : Nat} {σ : PH} {x : Int32} (jj : JJ g ax bm σ) : PairG Value.int g ax bm miX0_threat miX8_threat [.int x] σ := by
  obtain ⟨C, S, H, hm, rfl, hb, hz, hs, J⟩ := jj
  obtain ⟨V, nf, nd, P, D⟩ := J.dv
  obtain ⟨q, E⟩ := D.1
  have EA := D.2.1
  have K := D.2.2.1
  rw [slA0] at EA
  exact pair_of H J.h0 hb hz hs (kX0_threat J.h0 J.h0 E K) ((c_threat EA K).toP (P := fun S2 => S2 = sI S 2 (q_threat V x).2) rfl) (Nat.le_of_ble_eq_true rfl) (Nat.le_of_ble_eq_true rfl) (Nat.le_of_ble_eq_true rfl) (Nat.le_of_ble_eq_true rfl) (fun C2 S2 h1 h2 => by subst h1; subst h2; exact J.q)
theorem pr_seen {g : GG} {ax bm : Nat} {σ : PH} {x y : Int32} (jj : JJ g ax bm σ) : PairG Value.int g ax bm miX0_seen miX8_seen [.int x, .int y] σ := by
  obtain ⟨C, S, H, hm, rfl, hb, hz, hs, J⟩ := jj
  obtain ⟨V, nf, nd, P, D⟩ := J.dv
  obtain ⟨q, E⟩ := D.1
  have EA := D.2.1
  have K := D.2.2.1
  rw [slA0] at EA
  exact pair_of H J.h0 hb hz hs (kX0_seen J.h0 J.h0 E K) ((c_seen EA K).toP (P := fun S2 => S2 = sI S 2 (q_seen V x y).2) rfl) (Nat.le_of_ble_eq_true rfl) (Nat.le_of_ble_eq_true rfl) (Nat.le_of_ble_eq_true rfl) (Nat.le_of_ble_eq_true rfl) (fun C2 S2 h1 h2 => by subst h1; subst h2; exact J.q)
theorem pr_walk {g : GG} {ax bm : Nat} {σ : PH} {x y : Int32} (jj : JJ g ax bm σ) : PairG Value.int g ax bm miX0_walk miX8_walk [.int x, .int y] σ := by
  obtain ⟨C, S, H, hm, rfl, hb, hz, hs, J⟩ := jj
  obtain ⟨V, nf, nd, P, D⟩ := J.dv
  obtain ⟨q, E⟩ := D.1
  have EA := D.2.1
  have K := D.2.2.1
  rw [slA0] at EA
  exact pair_of H J.h0 hb hz hs (kX0_walk J.h0 J.h0 E K) ((c_walk EA K).toP (P := fun S2 => S2 = sI S 2 (q_walk V x y).2) rfl) (Nat.le_of_ble_eq_true rfl) (Nat.le_of_ble_eq_true rfl) (Nat.le_of_ble_eq_true rfl) (Nat.le_of_ble_eq_true rfl) (fun C2 S2 h1 h2 => by subst h1; subst h2; exact J.q)
theorem pr_safe {g : GG} {ax bm : Nat} {σ : PH} {x : Int32} (jj : JJ g ax bm σ) : PairG Value.int g ax bm miX0_safe miX8_safe [.int x] σ := by
  obtain ⟨C, S, H, hm, rfl, hb, hz, hs, J⟩ := jj
  obtain ⟨V, nf, nd, P, D⟩ := J.dv
  obtain ⟨q, E⟩ := D.1
  have EA := D.2.1
  have K := D.2.2.1
  rw [slA0] at EA
  exact pair_of H J.h0 hb hz hs (kX0_safe J.h0 J.h0 E K) ((c_safe EA K).toP (P := fun S2 => S2 = sI S 2 (q_safe V x).2) rfl) (Nat.le_of_ble_eq_true rfl) (Nat.le_of_ble_eq_true rfl) (Nat.le_of_ble_eq_true rfl) (Nat.le_of_ble_eq_true rfl) (fun C2 S2 h1 h2 => by subst h1; subst h2; exact J.q)
theorem pr_ranked {g : GG} {ax bm : Nat} {σ : PH} {x : Int32} (jj : JJ g ax bm σ) : PairG Value.int g ax bm miX0_ranked miX8_ranked [.int x] σ := by
  obtain ⟨C, S, H, hm, rfl, hb, hz, hs, J⟩ := jj
  obtain ⟨V, nf, nd, P, D⟩ := J.dv
  obtain ⟨q, E⟩ := D.1
  have EA := D.2.1
  have K := D.2.2.1
  rw [slA0] at EA
  exact pair_of H J.h0 hb hz hs (kX0_ranked J.h0 J.h0 E K) ((c_ranked EA K).toP (P := fun S2 => S2 = sI S 2 (q_ranked V x).2) rfl) (Nat.le_of_ble_eq_true rfl) (Nat.le_of_ble_eq_true rfl) (Nat.le_of_ble_eq_true rfl) (Nat.le_of_ble_eq_true rfl) (fun C2 S2 h1 h2 => by subst h1; subst h2; exact J.q)
theorem pr_rivals {g : GG} {ax bm : Nat} {σ : PH} {x y : Int32} (jj : JJ g ax bm σ) : PairG Value.int g ax bm miX0_rivals miX8_rivals [.int x, .int y] σ := by
  obtain ⟨C, S, H, hm, rfl, hb, hz, hs, J⟩ := jj
  obtain ⟨V, nf, nd, P, D⟩ := J.dv
  obtain ⟨q, E⟩ := D.1
  have EA := D.2.1
  have K := D.2.2.1
  rw [slA0] at EA
  exact pair_of H J.h0 hb hz hs (kX0_rivals J.h0 J.h0 E K) ((c_rivals EA K).toP (P := fun S2 => S2 = sI S 2 (q_rivals V x y).2) rfl) (Nat.le_of_ble_eq_true rfl) (Nat.le_of_ble_eq_true rfl) (Nat.le_of_ble_eq_true rfl) (Nat.le_of_ble_eq_true rfl) (fun C2 S2 h1 h2 => by subst h1; subst h2; exact J.q)
theorem pr_richest {g : GG} {ax bm : Nat} {σ : PH} (jj : JJ g ax bm σ) : PairG Value.int g ax bm miX0_richest miX8_richest [] σ := by
  obtain ⟨C, S, H, hm, rfl, hb, hz, hs, J⟩ := jj
  obtain ⟨V, nf, nd, P, D⟩ := J.dv
  obtain ⟨q, E⟩ := D.1
  have EA := D.2.1
  have K := D.2.2.1
  rw [slA0] at EA
  exact pair_of H J.h0 hb hz hs (kX0_richest J.h0 J.h0 E K) ((c_richest EA K).toP (P := fun S2 => S2 = sI S 2 (q_richest V).2) rfl) (Nat.le_of_ble_eq_true rfl) (Nat.le_of_ble_eq_true rfl) (Nat.le_of_ble_eq_true rfl) (Nat.le_of_ble_eq_true rfl) (fun C2 S2 h1 h2 => by subst h1; subst h2; exact J.q)
theorem pr_left {g : GG} {ax bm : Nat} {σ : PH} {x : Int32} (jj : JJ g ax bm σ) : PairG Value.int g ax bm miX0_left miX8_left [.int x] σ := by
  obtain ⟨C, S, H, hm, rfl, hb, hz, hs, J⟩ := jj
  obtain ⟨V, nf, nd, P, D⟩ := J.dv
  obtain ⟨q, E⟩ := D.1
  have EA := D.2.1
  have K := D.2.2.1
  rw [slA0] at EA
  exact pair_of H J.h0 hb hz hs (kX0_left J.h0 J.h0 E K) ((c_left EA K).toP (P := fun S2 => S2 = sI S 2 (q_left V x).2) rfl) (Nat.le_of_ble_eq_true rfl) (Nat.le_of_ble_eq_true rfl) (Nat.le_of_ble_eq_true rfl) (Nat.le_of_ble_eq_true rfl) (fun C2 S2 h1 h2 => by subst h1; subst h2; exact J.q)
theorem pr_tideIn {g : GG} {ax bm : Nat} {σ : PH} {x : Int32} (jj : JJ g ax bm σ) : PairG Value.int g ax bm miX0_tideIn miX8_tideIn [.int x] σ := by
  obtain ⟨C, S, H, hm, rfl, hb, hz, hs, J⟩ := jj
  obtain ⟨V, nf, nd, P, D⟩ := J.dv
  obtain ⟨q, E⟩ := D.1
  have EA := D.2.1
  have K := D.2.2.1
  rw [slA0] at EA
  exact pair_of H J.h0 hb hz hs (kX0_tideIn J.h0 J.h0 E K) ((c_tideIn EA K).toP (P := fun S2 => S2 = sI S 2 (q_tideIn V x).2) rfl) (Nat.le_of_ble_eq_true rfl) (Nat.le_of_ble_eq_true rfl) (Nat.le_of_ble_eq_true rfl) (Nat.le_of_ble_eq_true rfl) (fun C2 S2 h1 h2 => by subst h1; subst h2; exact J.q)
theorem pr_open {g : GG} {ax bm : Nat} {σ : PH} (jj : JJ g ax bm σ) : PairG Value.int g ax bm miX0_open miX8_open [] σ := by
  obtain ⟨C, S, H, hm, rfl, hb, hz, hs, J⟩ := jj
  obtain ⟨V, nf, nd, P, D⟩ := J.dv
  obtain ⟨q, E⟩ := D.1
  have EA := D.2.1
  have K := D.2.2.1
  rw [slA0] at EA
  exact pair_of H J.h0 hb hz hs (kX0_open J.h0 J.h0 E K) ((c_open EA K).toP (P := fun S2 => S2 = sI S 2 (q_open V).2) rfl) (Nat.le_of_ble_eq_true rfl) (Nat.le_of_ble_eq_true rfl) (Nat.le_of_ble_eq_true rfl) (Nat.le_of_ble_eq_true rfl) (fun C2 S2 h1 h2 => by subst h1; subst h2; exact J.q)
theorem pr_farthest {g : GG} {ax bm : Nat} {σ : PH} {x : Int32} (jj : JJ g ax bm σ) : PairG Value.int g ax bm miX0_farthest miX8_farthest [.int x] σ := by
  obtain ⟨C, S, H, hm, rfl, hb, hz, hs, J⟩ := jj
  obtain ⟨V, nf, nd, P, D⟩ := J.dv
  obtain ⟨q, E⟩ := D.1
  have EA := D.2.1
  have K := D.2.2.1
  rw [slA0] at EA
  exact pair_of H J.h0 hb hz hs (kX0_farthest J.h0 J.h0 E K) ((c_farthest EA K).toP (P := fun S2 => S2 = sI S 2 (q_farthest V x).2) rfl) (Nat.le_of_ble_eq_true rfl) (Nat.le_of_ble_eq_true rfl) (Nat.le_of_ble_eq_true rfl) (Nat.le_of_ble_eq_true rfl) (fun C2 S2 h1 h2 => by subst h1; subst h2; exact J.q)
theorem pr_time {g : GG} {ax bm : Nat} {σ : PH} {x : Int32} (jj : JJ g ax bm σ) : PairG Value.int g ax bm miX0_time miX8_time [.int x] σ := by
  obtain ⟨C, S, H, hm, rfl, hb, hz, hs, J⟩ := jj
  obtain ⟨V, nf, nd, P, D⟩ := J.dv
  obtain ⟨q, E⟩ := D.1
  have EA := D.2.1
  have K := D.2.2.1
  rw [slA0] at EA
  exact pair_of H J.h0 hb hz hs (kX0_time J.h0 J.h0 E K) ((c_time EA K).toP (P := fun S2 => S2 = sI S 2 (q_time V x).2) rfl) (Nat.le_of_ble_eq_true rfl) (Nat.le_of_ble_eq_true rfl) (Nat.le_of_ble_eq_true rfl) (Nat.le_of_ble_eq_true rfl) (fun C2 S2 h1 h2 => by subst h1; subst h2; exact J.q)
theorem pr_tally {g : GG} {ax bm : Nat} {σ : PH} {x y : Int32} (jj : JJ g ax bm σ) : PairG Value.int g ax bm miX0_tally miX8_tally [.int x, .int y] σ := by
  obtain ⟨C, S, H, hm, rfl, hb, hz, hs, J⟩ := jj
  obtain ⟨V, nf, nd, P, D⟩ := J.dv
  obtain ⟨q, E⟩ := D.1
  have EA := D.2.1
  have K := D.2.2.1
  rw [slA0] at EA
  exact pair_of H J.h0 hb hz hs (kX0_tally J.h0 J.h0 E K) ((c_tally EA K).toP (P := fun S2 => S2 = sI S 2 (q_tally V x y).2) rfl) (Nat.le_of_ble_eq_true rfl) (Nat.le_of_ble_eq_true rfl) (Nat.le_of_ble_eq_true rfl) (Nat.le_of_ble_eq_true rfl) (fun C2 S2 h1 h2 => by subst h1; subst h2; exact J.q)
theorem pr_busiest {g : GG} {ax bm : Nat} {σ : PH} (jj : JJ g ax bm σ) : PairG Value.int g ax bm miX0_busiest miX8_busiest [] σ := by
  obtain ⟨C, S, H, hm, rfl, hb, hz, hs, J⟩ := jj
  obtain ⟨V, nf, nd, P, D⟩ := J.dv
  obtain ⟨q, E⟩ := D.1
  have EA := D.2.1
  have K := D.2.2.1
  rw [slA0] at EA
  exact pair_of H J.h0 hb hz hs (kX0_busiest J.h0 J.h0 E K) ((c_busiest EA K).toP (P := fun S2 => S2 = sI S 2 (q_busiest V).2) rfl) (Nat.le_of_ble_eq_true rfl) (Nat.le_of_ble_eq_true rfl) (Nat.le_of_ble_eq_true rfl) (Nat.le_of_ble_eq_true rfl) (fun C2 S2 h1 h2 => by subst h1; subst h2; exact J.q)
theorem pr_both {g : GG} {ax bm : Nat} {σ : PH} {x y z : Int32} (jj : JJ g ax bm σ) : PairG Value.int g ax bm miX0_both miX8_both [.int x, .int y, .int z] σ := by
  obtain ⟨C, S, H, hm, rfl, hb, hz, hs, J⟩ := jj
  obtain ⟨V, nf, nd, P, D⟩ := J.dv
  obtain ⟨q, E⟩ := D.1
  have EA := D.2.1
  have K := D.2.2.1
  rw [slA0] at EA
  exact pair_of H J.h0 hb hz hs (kX0_both J.h0 J.h0 E K) ((c_both EA K).toP (P := fun S2 => S2 = sI S 2 (q_both V x y z).2) rfl) (Nat.le_of_ble_eq_true rfl) (Nat.le_of_ble_eq_true rfl) (Nat.le_of_ble_eq_true rfl) (Nat.le_of_ble_eq_true rfl) (fun C2 S2 h1 h2 => by subst h1; subst h2; exact J.q)
theorem pr_latest {g : GG} {ax bm : Nat} {σ : PH} (jj : JJ g ax bm σ) : PairG Value.int g ax bm miX0_latest miX8_latest [] σ := by
  obtain ⟨C, S, H, hm, rfl, hb, hz, hs, J⟩ := jj
  obtain ⟨V, nf, nd, P, D⟩ := J.dv
  obtain ⟨q, E⟩ := D.1
  have EA := D.2.1
  have K := D.2.2.1
  rw [slA0] at EA
  exact pair_of H J.h0 hb hz hs (kX0_latest J.h0 J.h0 E K) ((c_latest EA K).toP (P := fun S2 => S2 = sI S 2 (q_latest V).2) rfl) (Nat.le_of_ble_eq_true rfl) (Nat.le_of_ble_eq_true rfl) (Nat.le_of_ble_eq_true rfl) (Nat.le_of_ble_eq_true rfl) (fun C2 S2 h1 h2 => by subst h1; subst h2; exact J.q)
theorem pr_behind {g : GG} {ax bm : Nat} {σ : PH} {x : Int32} (jj : JJ g ax bm σ) : PairG Value.int g ax bm miX0_behind miX8_behind [.int x] σ := by
  obtain ⟨C, S, H, hm, rfl, hb, hz, hs, J⟩ := jj
  obtain ⟨V, nf, nd, P, D⟩ := J.dv
  obtain ⟨q, E⟩ := D.1
  have EA := D.2.1
  have K := D.2.2.1
  rw [slA0] at EA
  exact pair_of H J.h0 hb hz hs (kX0_behind J.h0 J.h0 E K) ((c_behind EA K).toP (P := fun S2 => S2 = sI S 2 (q_behind V x).2) rfl) (Nat.le_of_ble_eq_true rfl) (Nat.le_of_ble_eq_true rfl) (Nat.le_of_ble_eq_true rfl) (Nat.le_of_ble_eq_true rfl) (fun C2 S2 h1 h2 => by subst h1; subst h2; exact J.q)
theorem pr_alone {g : GG} {ax bm : Nat} {σ : PH} (jj : JJ g ax bm σ) : PairG Value.int g ax bm miX0_alone miX8_alone [] σ := by
  obtain ⟨C, S, H, hm, rfl, hb, hz, hs, J⟩ := jj
  obtain ⟨V, nf, nd, P, D⟩ := J.dv
  obtain ⟨q, E⟩ := D.1
  have EA := D.2.1
  have K := D.2.2.1
  rw [slA0] at EA
  exact pair_of H J.h0 hb hz hs (kX0_alone J.h0 J.h0 E K) ((c_alone EA K).toP (P := fun S2 => S2 = sI S 2 (q_alone V).2) rfl) (Nat.le_of_ble_eq_true rfl) (Nat.le_of_ble_eq_true rfl) (Nat.le_of_ble_eq_true rfl) (Nat.le_of_ble_eq_true rfl) (fun C2 S2 h1 h2 => by subst h1; subst h2; exact J.q)
theorem pr_part {g : GG} {ax bm : Nat} {σ : PH} {x y : Int32} (jj : JJ g ax bm σ) : PairG Value.int g ax bm miX0_part miX8_part [.int x, .int y] σ := by
  obtain ⟨C, S, H, hm, rfl, hb, hz, hs, J⟩ := jj
  obtain ⟨V, nf, nd, P, D⟩ := J.dv
  obtain ⟨q, E⟩ := D.1
  have EA := D.2.1
  have K := D.2.2.1
  rw [slA0] at EA
  exact pair_of H J.h0 hb hz hs (kX0_part J.h0 J.h0 E K) ((c_part EA K).toP (P := fun S2 => S2 = sI S 2 (q_part V x y).2) rfl) (Nat.le_of_ble_eq_true rfl) (Nat.le_of_ble_eq_true rfl) (Nat.le_of_ble_eq_true rfl) (Nat.le_of_ble_eq_true rfl) (fun C2 S2 h1 h2 => by subst h1; subst h2; exact J.q)
theorem pr_crowd {g : GG} {ax bm : Nat} {σ : PH} {x : Int32} (jj : JJ g ax bm σ) : PairG Value.int g ax bm miX0_crowd miX8_crowd [.int x] σ := by
  obtain ⟨C, S, H, hm, rfl, hb, hz, hs, J⟩ := jj
  obtain ⟨V, nf, nd, P, D⟩ := J.dv
  obtain ⟨q, E⟩ := D.1
  have EA := D.2.1
  have K := D.2.2.1
  rw [slA0] at EA
  exact pair_of H J.h0 hb hz hs (kX0_crowd J.h0 J.h0 E K) ((c_crowd EA K).toP (P := fun S2 => S2 = sI S 2 (q_crowd V x).2) rfl) (Nat.le_of_ble_eq_true rfl) (Nat.le_of_ble_eq_true rfl) (Nat.le_of_ble_eq_true rfl) (Nat.le_of_ble_eq_true rfl) (fun C2 S2 h1 h2 => by subst h1; subst h2; exact J.q)
theorem pr_lies {g : GG} {ax bm : Nat} {σ : PH} {x y : Int32} (jj : JJ g ax bm σ) : PairG Value.int g ax bm miX0_lies miX8_lies [.int x, .int y] σ := by
  obtain ⟨C, S, H, hm, rfl, hb, hz, hs, J⟩ := jj
  obtain ⟨V, nf, nd, P, D⟩ := J.dv
  obtain ⟨q, E⟩ := D.1
  have EA := D.2.1
  have K := D.2.2.1
  rw [slA0] at EA
  by_cases hy : y < 0
  · exact pair_of H J.h0 hb hz hs (kX0_liesM hy J.h0 J.h0 E K) ((c_liesM EA K hy).toP (P := fun S2 => S2 = sI S 2 (q_lies V x y).2) rfl) (Nat.le_of_ble_eq_true rfl) (Nat.le_of_ble_eq_true rfl) (Nat.le_of_ble_eq_true rfl) (Nat.le_of_ble_eq_true rfl) (fun C2 S2 h1 h2 => by subst h1; subst h2; exact J.q)
  · obtain ⟨k, hk, rfl⟩ := nn_of hy
    exact pair_of H J.h0 hb hz hs (kX0_liesN hk J.h0 J.h0 E K) ((c_liesN EA K hk).toP (P := fun S2 => S2 = sI S 2 (q_lies V x (nI k)).2) rfl) (Nat.le_of_ble_eq_true rfl) (Nat.le_of_ble_eq_true rfl) (Nat.le_of_ble_eq_true rfl) (Nat.le_of_ble_eq_true rfl) (fun C2 S2 h1 h2 => by subst h1; subst h2; exact J.q)
theorem pr_boys {g : GG} {ax bm : Nat} {σ : PH} {x : Int32} (jj : JJ g ax bm σ) : PairG Value.int g ax bm miX0_boys miX8_boys [.int x] σ := by
  obtain ⟨C, S, H, hm, rfl, hb, hz, hs, J⟩ := jj
  obtain ⟨V, nf, nd, P, D⟩ := J.dv
  obtain ⟨q, E⟩ := D.1
  have EA := D.2.1
  have K := D.2.2.1
  rw [slA0] at EA
  exact pair_of H J.h0 hb hz hs (kX0_boys J.h0 J.h0 E K) ((c_boys EA K).toP (P := fun S2 => S2 = sI S 2 (q_boys V x).2) rfl) (Nat.le_of_ble_eq_true rfl) (Nat.le_of_ble_eq_true rfl) (Nat.le_of_ble_eq_true rfl) (Nat.le_of_ble_eq_true rfl) (fun C2 S2 h1 h2 => by subst h2; exact J.qx (QX.bo J.e4 h1))
theorem pr_boyAt {g : GG} {ax bm : Nat} {σ : PH} {x y : Int32} (jj : JJ g ax bm σ) : PairG Value.int g ax bm miX0_boyAt miX8_boyAt [.int x, .int y] σ := by
  obtain ⟨C, S, H, hm, rfl, hb, hz, hs, J⟩ := jj
  obtain ⟨V, nf, nd, P, D⟩ := J.dv
  obtain ⟨q, E⟩ := D.1
  have EA := D.2.1
  have K := D.2.2.1
  rw [slA0] at EA
  exact pair_of H J.h0 hb hz hs (kX0_boyAt J.h0 J.h0 E K) ((c_boyAt EA K).toP (P := fun S2 => S2 = sI S 2 (q_boyAt V x y).2) rfl) (Nat.le_of_ble_eq_true rfl) (Nat.le_of_ble_eq_true rfl) (Nat.le_of_ble_eq_true rfl) (Nat.le_of_ble_eq_true rfl) (fun C2 S2 h1 h2 => by subst h2; exact J.qx (QX.bo J.e4 h1))
theorem pr_gain {g : GG} {ax bm : Nat} {σ : PH} {x y : Int32} (jj : JJ g ax bm σ) : PairG Value.int g ax bm miX0_gain miX8_gain [.int x, .int y] σ := by
  obtain ⟨C, S, H, hm, rfl, hb, hz, hs, J⟩ := jj
  obtain ⟨V, nf, nd, P, D⟩ := J.dv
  obtain ⟨q, E⟩ := D.1
  have EA := D.2.1
  have K := D.2.2.1
  rw [slA0] at EA
  obtain ⟨W, p, E4⟩ := J.e4
  exact pair_of H J.h0 hb hz hs (kX0_gain J.h0 J.h0 E K J.h4 E4 (congrFun hm 90)) ((c_gain EA K).toP (P := fun S2 => S2 = sI S 2 (q_gain V x y).2) rfl) (Nat.le_of_ble_eq_true rfl) (Nat.le_of_ble_eq_true rfl) (Nat.le_of_ble_eq_true rfl) (Nat.le_of_ble_eq_true rfl) (fun C2 S2 h1 h2 => by subst h2; exact J.qx (QX.ga h1))
theorem pr_status {g : GG} {ax bm : Nat} {σ : PH} (jj : JJ g ax bm σ) : PairG Value.int g ax bm miX0_status miX8_status [] σ := by
  obtain ⟨C, S, H, hm, rfl, hb, hz, hs, J⟩ := jj
  have e : oI C 0 30 7 = mI S 2 := J.1.1.1
  have h := kX0_status (g := g) (C := C) J.h0
  rw [e] at h
  exact pair_of H J.h0 hb hz hs (h.toP (P := fun C2 => C2 = C) rfl) (c_status.toP (P := fun S2 => S2 = S) rfl) (Nat.le_of_ble_eq_true rfl) (Nat.le_of_ble_eq_true rfl) (Nat.le_of_ble_eq_true rfl) (Nat.le_of_ble_eq_true rfl) (fun C2 S2 h1 h2 => by subst h1; subst h2; exact ⟨rfl, J⟩)
theorem pr_top {g : GG} {ax bm : Nat} {σ : PH} (jj : JJ g ax bm σ) : PairG Value.long g ax bm miX0_top miX8_top [] σ := by
  obtain ⟨C, S, H, hm, rfl, hb, hz, hs, J⟩ := jj
  have e : oL C 8 = mL S 3 := J.1.1.2.1.1
  have h := kX0_top (g := g) (C := C) J.h0
  rw [e] at h
  exact pair_of H J.h0 hb hz hs (h.toP (P := fun C2 => C2 = C) rfl) (c_top.toP (P := fun S2 => S2 = S) rfl) (Nat.le_of_ble_eq_true rfl) (Nat.le_of_ble_eq_true rfl) (Nat.le_of_ble_eq_true rfl) (Nat.le_of_ble_eq_true rfl) (fun C2 S2 h1 h2 => by subst h1; subst h2; exact ⟨rfl, J⟩)
theorem pr_bottom {g : GG} {ax bm : Nat} {σ : PH} (jj : JJ g ax bm σ) : PairG Value.long g ax bm miX0_bottom miX8_bottom [] σ := by
  obtain ⟨C, S, H, hm, rfl, hb, hz, hs, J⟩ := jj
  have e : oL C 9 = mL S 4 := J.1.1.2.1.2
  have h := kX0_bottom (g := g) (C := C) J.h0
  rw [e] at h
  exact pair_of H J.h0 hb hz hs (h.toP (P := fun C2 => C2 = C) rfl) (c_bottom.toP (P := fun S2 => S2 = S) rfl) (Nat.le_of_ble_eq_true rfl) (Nat.le_of_ble_eq_true rfl) (Nat.le_of_ble_eq_true rfl) (Nat.le_of_ble_eq_true rfl) (fun C2 S2 h1 h2 => by subst h1; subst h2; exact ⟨rfl, J⟩)
theorem pr_fault {g : GG} {ax bm : Nat} {σ : PH} {x : Int32} (jj : JJ g ax bm σ) : PairG Value.int g ax bm miX0_fault miX8_fault [.int x] σ := by
  obtain ⟨C, S, H, hm, rfl, hb, hz, hs, J⟩ := jj
  have h := kX0_fault (g := g) (C := C) (x := x) J.h0
  rw [J.1.1.2.2.1, J.1.1.2.2.2] at h
  exact pair_of H J.h0 hb hz hs (h.toP (P := fun C2 => C2 = C) rfl) (c_fault.toP (P := fun S2 => S2 = S) rfl) (Nat.le_of_ble_eq_true rfl) (Nat.le_of_ble_eq_true rfl) (Nat.le_of_ble_eq_true rfl) (Nat.le_of_ble_eq_true rfl) (fun C2 S2 h1 h2 => by subst h1; subst h2; exact ⟨rfl, J⟩)
theorem pr_lived {g : GG} {ax bm : Nat} {σ : PH} {x : Int32} (jj : JJ g ax bm σ) : PairG Value.int g ax bm miX0_lived miX8_lived [.int x] σ := by
  obtain ⟨C, S, H, hm, rfl, hb, hz, hs, J⟩ := jj
  have e : a_lived2 C x = a_lived S x := by
    unfold a_lived2 a_lived
    obtain ⟨l1, l2⟩ := J.1.2.2.2.1
    rw [l2]
    by_cases h5 : inN x 5
    · rw [if_pos h5, if_pos h5, l1 _ (cl_lt h5 (by omega))]
    · rw [if_neg h5, if_neg h5]
  have h := kX0_lived (g := g) (C := C) (x := x) J.h0
  rw [e] at h
  exact pair_of H J.h0 hb hz hs h (c_lived.toP (P := fun S2 => S2 = sI S 2 (a_lived S x).2) rfl) (Nat.le_of_ble_eq_true rfl) (Nat.le_of_ble_eq_true rfl) (Nat.le_of_ble_eq_true rfl) (Nat.le_of_ble_eq_true rfl) (fun C2 S2 h1 h2 => by subst h1; subst h2; exact J.q)
theorem pr_bestAt {g : GG} {ax bm : Nat} {σ : PH} {x : Int32} (jj : JJ g ax bm σ) : PairG Value.int g ax bm miX0_bestAt miX8_bestAt [.int x] σ := by
  obtain ⟨C, S, H, hm, rfl, hb, hz, hs, J⟩ := jj
  obtain ⟨m, v, t1, t2, t3, t4⟩ := J.1.2.2.2.2.1
  have e : a_best S m x = (if inN x m then nI (v (cl x)) else -1, if inN x m then nI 0 else nI 6) := by
    unfold a_best
    by_cases h5 : inN x m
    · rw [if_pos h5, if_pos h5, if_pos h5, (t4 _ (cl_lt h5 (by omega))).2.2]
    · rw [if_neg h5, if_neg h5, if_neg h5]
  have h := c_bestAt (g := g) (S := S) (x := x) t3 t1
  rw [e] at h
  exact pair_of H J.h0 hb hz hs (kX0_bestAt J.h0 t2 t1 (fun k hk => ⟨(t4 k hk).2.1, (t4 k hk).1⟩)) (h.toP (P := fun S2 => S2 = sI S 2 (if inN x m then nI 0 else nI 6)) rfl) (Nat.le_of_ble_eq_true rfl) (Nat.le_of_ble_eq_true rfl) (Nat.le_of_ble_eq_true rfl) (Nat.le_of_ble_eq_true rfl) (fun C2 S2 h1 h2 => by subst h1; subst h2; exact J.q)
theorem pr_gulls {g : GG} {ax bm : Nat} {σ : PH} {x : Int32} (jj : JJ g ax bm σ) : PairG Value.int g ax bm miX0_gulls miX8_gulls [.int x] σ := by
  obtain ⟨C, S, H, hm, rfl, hb, hz, hs, J⟩ := jj
  obtain ⟨V, nf, nd, P, D⟩ := J.dv
  obtain ⟨q, E⟩ := D.1
  have EA := D.2.1
  have K := D.2.2.1
  rw [slA0] at EA
  obtain ⟨T, ET, ES, OT⟩ := J.1.2.2.1
  exact pair_of H J.h0 hb hz hs (kX0_gulls J.h0 J.h0 E K ET OT.1) ((c_gulls EA K ES OT.1).toP (P := fun S2 => S2 = sI S 2 (q_gulls V T x).2) rfl) (Nat.le_of_ble_eq_true rfl) (Nat.le_of_ble_eq_true rfl) (Nat.le_of_ble_eq_true rfl) (Nat.le_of_ble_eq_true rfl) (fun C2 S2 h1 h2 => by subst h2; exact J.qx (QX.tr J.e4 h1))
theorem pr_read {g : GG} {ax bm : Nat} {σ : PH} {x y : Int32} (jj : JJ g ax bm σ) : PairG Value.long g ax bm miX0_read miX8_read [.int x, .int y] σ := by
  obtain ⟨C, S, H, hm, rfl, hb, hz, hs, J⟩ := jj
  obtain ⟨T, ET, ES, OT⟩ := J.1.2.2.1
  exact pair_of H J.h0 hb hz hs (kX0_read J.h0 ET OT.1) ((c_read ES OT.1).toP (P := fun S2 => S2 = sI S 2 (nI (wpT T x y))) rfl) (Nat.le_of_ble_eq_true rfl) (Nat.le_of_ble_eq_true rfl) (Nat.le_of_ble_eq_true rfl) (Nat.le_of_ble_eq_true rfl) (fun C2 S2 h1 h2 => by subst h2; exact J.qx (QX.tr J.e4 h1))
