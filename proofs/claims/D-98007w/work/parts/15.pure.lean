/-! SMALL TOOLS FOR WALKS (partly printed by gen/pure0.py) -/
set_option maxRecDepth 100000
/-- a condition as an int -/
def bP (p : Prop) [Decidable p] : Int32 := if p then nI 1 else nI 0
theorem bP_t {p : Prop} [Decidable p] (h : p) : bP p = nI 1 := if_pos h
theorem bP_f {p : Prop} [Decidable p] (h : ¬ p) : bP p = nI 0 := if_neg h
theorem bP_0 {p : Prop} [Decidable p] : bP p = 0 ↔ ¬ p := by
  by_cases h : p
  · rw [bP_t h]; exact ⟨fun z => absurd z (by decide), fun z => absurd h z⟩
  · rw [bP_f h]; exact ⟨fun _ => h, fun _ => rfl⟩
theorem narr0 : narrow .boolean (.int (nI 0)) = .int (nI 0) := by decide +kernel
theorem narr1 : narrow .boolean (.int (nI 1)) = .int (nI 1) := by decide +kernel
theorem fitz0 : fits .boolean (.int (nI 0)) = true := by decide +kernel
theorem fitz1 : fits .boolean (.int (nI 1)) = true := by decide +kernel
theorem narrB {p : Prop} [Decidable p] : narrow .boolean (.int (bP p)) = .int (bP p) := by
  by_cases h : p
  · rw [bP_t h]; exact narr1
  · rw [bP_f h]; exact narr0
theorem nI_inc (a : Nat) (n : Nat) : nI a + Int32.ofInt (n : Int) = nI (a + n) := by
  rw [← nI_add]
  congr 1
theorem nI_inc1 (a : Nat) : nI a + Int32.ofInt 1 = nI (a + 1) := nI_inc a 1
theorem nI_dec1 (a : Nat) : nI (a + 1) + Int32.ofInt (-1) = nI a := pk_m1 a
/-- a loop that counts up -/
def foldN {α : Type} (f : Nat → α → α) (a : α) : Nat → α
  | 0 => a
  | n + 1 => f n (foldN f a n)
theorem foldN_congr {α : Type} {f f2 : Nat → α → α} {a : α} : ∀ (n : Nat), (∀ k x, k < n → f k x = f2 k x) → foldN f a n = foldN f2 a n
  | 0, _ => rfl
  | n + 1, h => by
    show f n (foldN f a n) = f2 n (foldN f2 a n)
    rw [foldN_congr n (fun k x hk => h k x (by omega)), h n _ (by omega)]
section TOOLS
variable {g : GG} {mt : MT} {kc ks pc : Nat} {L L2 : List (Option Value)} {st st2 : List Value} {σ σ2 : PH}
theorem w_ifB_eq {p : Prop} {ip : Decidable p} {off : Int} {tgt : Nat} (d : decode mt.1.2.1 pc = .ok (.ifCond .eq off, 3)) (ht : (pc : Int) + off = (tgt : Int)) (kt : ¬ p → Wp g mt kc ks tgt L st σ) (kf : p → Wp g mt kc ks (pc + 3) L st σ) : Wp g mt kc ks pc L (.int (@bP p ip) :: st) σ :=
  w_if_eq d ht (fun z => kt (bP_0.mp z)) (fun z => kf (by by_cases h : p; exact h; exact absurd (bP_0.mpr h) z))
theorem w_ifB_ne {p : Prop} {ip : Decidable p} {off : Int} {tgt : Nat} (d : decode mt.1.2.1 pc = .ok (.ifCond .ne off, 3)) (ht : (pc : Int) + off = (tgt : Int)) (kt : p → Wp g mt kc ks tgt L st σ) (kf : ¬ p → Wp g mt kc ks (pc + 3) L st σ) : Wp g mt kc ks pc L (.int (@bP p ip) :: st) σ :=
  w_if_ne d ht (fun z => kt (by by_cases h : p; exact h; exact absurd (bP_0.mpr h) z)) (fun z => kf (bP_0.mp z))
theorem w_as (k : Wp g mt kc ks pc L2 st2 σ2) (hL : L = L2) (hs : st = st2) (hσ : σ = σ2) : Wp g mt kc ks pc L st σ := by
  subst hL; subst hs; subst hσ
  exact k
theorem wL1 {a b : Option Value} {l m : List (Option Value)} (h : a = b) (h2 : l = m) : a :: l = b :: m := by rw [h, h2]
theorem vInt {x y : Int32} (h : x = y) : some (Value.int x) = some (Value.int y) := by rw [h]
theorem vLong {x y : Int64} (h : x = y) : some (Value.long x) = some (Value.long y) := by rw [h]
end TOOLS
theorem in_of {x : Int32} {n : Nat} (h0 : ¬ x < 0) (h1 : x < nI n) (hn : n < 2147483648) : vp_in x n := by
  rw [vp_in_iff]
  have a := Int32.not_lt.mp h0
  rw [Int32.le_iff_toInt_le] at a
  rw [Int32.lt_iff_toInt_lt, nI_toInt hn] at h1
  exact ⟨by simpa using a, h1⟩
/-- a number in range, by its name -/
theorem nat_of {x : Int32} {n : Nat} (h0 : ¬ x < 0) (h1 : ¬ nI n ≤ x) (hn : n < 2147483648) : ∃ j : Nat, j < n ∧ x = nI j := by
  rcases pk_ix x hn with h | h | h
  · exact absurd h h0
  · exact absurd h h1
  · exact h
theorem kb_6 : (Int8.ofInt (6)).toInt32 = nI 6 := by decide +kernel
theorem kb_7 : (Int8.ofInt (7)).toInt32 = nI 7 := by decide +kernel
theorem kb_8 : (Int8.ofInt (8)).toInt32 = nI 8 := by decide +kernel
theorem kb_9 : (Int8.ofInt (9)).toInt32 = nI 9 := by decide +kernel
theorem kb_10 : (Int8.ofInt (10)).toInt32 = nI 10 := by decide +kernel
theorem kb_11 : (Int8.ofInt (11)).toInt32 = nI 11 := by decide +kernel
theorem kb_12 : (Int8.ofInt (12)).toInt32 = nI 12 := by decide +kernel
theorem kb_13 : (Int8.ofInt (13)).toInt32 = nI 13 := by decide +kernel
theorem kb_14 : (Int8.ofInt (14)).toInt32 = nI 14 := by decide +kernel
theorem kb_15 : (Int8.ofInt (15)).toInt32 = nI 15 := by decide +kernel
theorem kb_16 : (Int8.ofInt (16)).toInt32 = nI 16 := by decide +kernel
theorem kb_17 : (Int8.ofInt (17)).toInt32 = nI 17 := by decide +kernel
theorem kb_18 : (Int8.ofInt (18)).toInt32 = nI 18 := by decide +kernel
theorem kb_20 : (Int8.ofInt (20)).toInt32 = nI 20 := by decide +kernel
theorem kb_24 : (Int8.ofInt (24)).toInt32 = nI 24 := by decide +kernel
theorem kb_25 : (Int8.ofInt (25)).toInt32 = nI 25 := by decide +kernel
theorem kb_26 : (Int8.ofInt (26)).toInt32 = nI 26 := by decide +kernel
theorem kb_27 : (Int8.ofInt (27)).toInt32 = nI 27 := by decide +kernel
theorem kb_28 : (Int8.ofInt (28)).toInt32 = nI 28 := by decide +kernel
theorem kb_29 : (Int8.ofInt (29)).toInt32 = nI 29 := by decide +kernel
theorem kb_30 : (Int8.ofInt (30)).toInt32 = nI 30 := by decide +kernel
theorem kb_31 : (Int8.ofInt (31)).toInt32 = nI 31 := by decide +kernel
theorem kb_32 : (Int8.ofInt (32)).toInt32 = nI 32 := by decide +kernel
theorem kb_40 : (Int8.ofInt (40)).toInt32 = nI 40 := by decide +kernel
theorem kb_48 : (Int8.ofInt (48)).toInt32 = nI 48 := by decide +kernel
theorem kb_56 : (Int8.ofInt (56)).toInt32 = nI 56 := by decide +kernel
theorem kb_57 : (Int8.ofInt (57)).toInt32 = nI 57 := by decide +kernel
theorem kb_59 : (Int8.ofInt (59)).toInt32 = nI 59 := by decide +kernel
theorem kb_60 : (Int8.ofInt (60)).toInt32 = nI 60 := by decide +kernel
theorem kb_61 : (Int8.ofInt (61)).toInt32 = nI 61 := by decide +kernel
theorem kb_62 : (Int8.ofInt (62)).toInt32 = nI 62 := by decide +kernel
theorem kb_63 : (Int8.ofInt (63)).toInt32 = nI 63 := by decide +kernel
theorem kb_64 : (Int8.ofInt (64)).toInt32 = nI 64 := by decide +kernel
theorem kb_80 : (Int8.ofInt (80)).toInt32 = nI 80 := by decide +kernel
theorem kb_97 : (Int8.ofInt (97)).toInt32 = nI 97 := by decide +kernel
theorem kb_99 : (Int8.ofInt (99)).toInt32 = nI 99 := by decide +kernel
theorem kb_120 : (Int8.ofInt (120)).toInt32 = nI 120 := by decide +kernel
theorem kb_122 : (Int8.ofInt (122)).toInt32 = nI 122 := by decide +kernel
theorem kb_127 : (Int8.ofInt (127)).toInt32 = nI 127 := by decide +kernel
theorem ki_m1 : Int32.ofInt (-1) = (-1 : Int32) := by decide +kernel
theorem ki_0 : Int32.ofInt (0) = nI 0 := by decide +kernel
theorem ki_1 : Int32.ofInt (1) = nI 1 := by decide +kernel
theorem ki_2 : Int32.ofInt (2) = nI 2 := by decide +kernel
theorem ki_3 : Int32.ofInt (3) = nI 3 := by decide +kernel
theorem ki_4 : Int32.ofInt (4) = nI 4 := by decide +kernel
theorem ki_5 : Int32.ofInt (5) = nI 5 := by decide +kernel
theorem ks_240 : (Int16.ofInt (240)).toInt32 = nI 240 := by decide +kernel
theorem ks_255 : (Int16.ofInt (255)).toInt32 = nI 255 := by decide +kernel
theorem ks_256 : (Int16.ofInt (256)).toInt32 = nI 256 := by decide +kernel
theorem ks_300 : (Int16.ofInt (300)).toInt32 = nI 300 := by decide +kernel
theorem ks_900 : (Int16.ofInt (900)).toInt32 = nI 900 := by decide +kernel
theorem ks_999 : (Int16.ofInt (999)).toInt32 = nI 999 := by decide +kernel
theorem ks_1030 : (Int16.ofInt (1030)).toInt32 = nI 1030 := by decide +kernel
theorem ks_1395 : (Int16.ofInt (1395)).toInt32 = nI 1395 := by decide +kernel
theorem ks_1400 : (Int16.ofInt (1400)).toInt32 = nI 1400 := by decide +kernel
theorem ks_2400 : (Int16.ofInt (2400)).toInt32 = nI 2400 := by decide +kernel
theorem ks_2843 : (Int16.ofInt (2843)).toInt32 = nI 2843 := by decide +kernel
theorem ks_5600 : (Int16.ofInt (5600)).toInt32 = nI 5600 := by decide +kernel
theorem ks_5601 : (Int16.ofInt (5601)).toInt32 = nI 5601 := by decide +kernel
theorem ks_5602 : (Int16.ofInt (5602)).toInt32 = nI 5602 := by decide +kernel
theorem ks_5603 : (Int16.ofInt (5603)).toInt32 = nI 5603 := by decide +kernel
theorem ks_5604 : (Int16.ofInt (5604)).toInt32 = nI 5604 := by decide +kernel
theorem ks_5605 : (Int16.ofInt (5605)).toInt32 = nI 5605 := by decide +kernel
theorem ks_5607 : (Int16.ofInt (5607)).toInt32 = nI 5607 := by decide +kernel
theorem ks_5609 : (Int16.ofInt (5609)).toInt32 = nI 5609 := by decide +kernel
theorem ks_5610 : (Int16.ofInt (5610)).toInt32 = nI 5610 := by decide +kernel
theorem ks_6630 : (Int16.ofInt (6630)).toInt32 = nI 6630 := by decide +kernel
theorem ks_6995 : (Int16.ofInt (6995)).toInt32 = nI 6995 := by decide +kernel
theorem ks_6996 : (Int16.ofInt (6996)).toInt32 = nI 6996 := by decide +kernel
theorem ks_6997 : (Int16.ofInt (6997)).toInt32 = nI 6997 := by decide +kernel
theorem ks_7000 : (Int16.ofInt (7000)).toInt32 = nI 7000 := by decide +kernel
theorem ks_8400 : (Int16.ofInt (8400)).toInt32 = nI 8400 := by decide +kernel
theorem ks_9999 : (Int16.ofInt (9999)).toInt32 = nI 9999 := by decide +kernel
theorem ks_10709 : (Int16.ofInt (10709)).toInt32 = nI 10709 := by decide +kernel
theorem ls_1_0 {a0 v : Option Value} : [a0].set 0 v = [v] := rfl
theorem ls_2_0 {a0 a1 v : Option Value} : [a0, a1].set 0 v = [v, a1] := rfl
theorem ls2_2_0 {a0 a1 v : Option Value} : ([a0, a1].set 0 v).set (0 + 1) none = [v, none] := rfl
theorem ls_2_1 {a0 a1 v : Option Value} : [a0, a1].set 1 v = [a0, v] := rfl
theorem ls_3_0 {a0 a1 a2 v : Option Value} : [a0, a1, a2].set 0 v = [v, a1, a2] := rfl
theorem ls2_3_0 {a0 a1 a2 v : Option Value} : ([a0, a1, a2].set 0 v).set (0 + 1) none = [v, none, a2] := rfl
theorem ls_3_1 {a0 a1 a2 v : Option Value} : [a0, a1, a2].set 1 v = [a0, v, a2] := rfl
theorem ls2_3_1 {a0 a1 a2 v : Option Value} : ([a0, a1, a2].set 1 v).set (1 + 1) none = [a0, v, none] := rfl
theorem ls_3_2 {a0 a1 a2 v : Option Value} : [a0, a1, a2].set 2 v = [a0, a1, v] := rfl
theorem ls_4_0 {a0 a1 a2 a3 v : Option Value} : [a0, a1, a2, a3].set 0 v = [v, a1, a2, a3] := rfl
theorem ls2_4_0 {a0 a1 a2 a3 v : Option Value} : ([a0, a1, a2, a3].set 0 v).set (0 + 1) none = [v, none, a2, a3] := rfl
theorem ls_4_1 {a0 a1 a2 a3 v : Option Value} : [a0, a1, a2, a3].set 1 v = [a0, v, a2, a3] := rfl
theorem ls2_4_1 {a0 a1 a2 a3 v : Option Value} : ([a0, a1, a2, a3].set 1 v).set (1 + 1) none = [a0, v, none, a3] := rfl
theorem ls_4_2 {a0 a1 a2 a3 v : Option Value} : [a0, a1, a2, a3].set 2 v = [a0, a1, v, a3] := rfl
theorem ls2_4_2 {a0 a1 a2 a3 v : Option Value} : ([a0, a1, a2, a3].set 2 v).set (2 + 1) none = [a0, a1, v, none] := rfl
theorem ls_4_3 {a0 a1 a2 a3 v : Option Value} : [a0, a1, a2, a3].set 3 v = [a0, a1, a2, v] := rfl
theorem ls_5_0 {a0 a1 a2 a3 a4 v : Option Value} : [a0, a1, a2, a3, a4].set 0 v = [v, a1, a2, a3, a4] := rfl
theorem ls2_5_0 {a0 a1 a2 a3 a4 v : Option Value} : ([a0, a1, a2, a3, a4].set 0 v).set (0 + 1) none = [v, none, a2, a3, a4] := rfl
theorem ls_5_1 {a0 a1 a2 a3 a4 v : Option Value} : [a0, a1, a2, a3, a4].set 1 v = [a0, v, a2, a3, a4] := rfl
theorem ls2_5_1 {a0 a1 a2 a3 a4 v : Option Value} : ([a0, a1, a2, a3, a4].set 1 v).set (1 + 1) none = [a0, v, none, a3, a4] := rfl
theorem ls_5_2 {a0 a1 a2 a3 a4 v : Option Value} : [a0, a1, a2, a3, a4].set 2 v = [a0, a1, v, a3, a4] := rfl
theorem ls2_5_2 {a0 a1 a2 a3 a4 v : Option Value} : ([a0, a1, a2, a3, a4].set 2 v).set (2 + 1) none = [a0, a1, v, none, a4] := rfl
theorem ls_5_3 {a0 a1 a2 a3 a4 v : Option Value} : [a0, a1, a2, a3, a4].set 3 v = [a0, a1, a2, v, a4] := rfl
theorem ls2_5_3 {a0 a1 a2 a3 a4 v : Option Value} : ([a0, a1, a2, a3, a4].set 3 v).set (3 + 1) none = [a0, a1, a2, v, none] := rfl
theorem ls_5_4 {a0 a1 a2 a3 a4 v : Option Value} : [a0, a1, a2, a3, a4].set 4 v = [a0, a1, a2, a3, v] := rfl
theorem ls_6_0 {a0 a1 a2 a3 a4 a5 v : Option Value} : [a0, a1, a2, a3, a4, a5].set 0 v = [v, a1, a2, a3, a4, a5] := rfl
theorem ls2_6_0 {a0 a1 a2 a3 a4 a5 v : Option Value} : ([a0, a1, a2, a3, a4, a5].set 0 v).set (0 + 1) none = [v, none, a2, a3, a4, a5] := rfl
theorem ls_6_1 {a0 a1 a2 a3 a4 a5 v : Option Value} : [a0, a1, a2, a3, a4, a5].set 1 v = [a0, v, a2, a3, a4, a5] := rfl
theorem ls2_6_1 {a0 a1 a2 a3 a4 a5 v : Option Value} : ([a0, a1, a2, a3, a4, a5].set 1 v).set (1 + 1) none = [a0, v, none, a3, a4, a5] := rfl
theorem ls_6_2 {a0 a1 a2 a3 a4 a5 v : Option Value} : [a0, a1, a2, a3, a4, a5].set 2 v = [a0, a1, v, a3, a4, a5] := rfl
theorem ls2_6_2 {a0 a1 a2 a3 a4 a5 v : Option Value} : ([a0, a1, a2, a3, a4, a5].set 2 v).set (2 + 1) none = [a0, a1, v, none, a4, a5] := rfl
theorem ls_6_3 {a0 a1 a2 a3 a4 a5 v : Option Value} : [a0, a1, a2, a3, a4, a5].set 3 v = [a0, a1, a2, v, a4, a5] := rfl
theorem ls2_6_3 {a0 a1 a2 a3 a4 a5 v : Option Value} : ([a0, a1, a2, a3, a4, a5].set 3 v).set (3 + 1) none = [a0, a1, a2, v, none, a5] := rfl
theorem ls_6_4 {a0 a1 a2 a3 a4 a5 v : Option Value} : [a0, a1, a2, a3, a4, a5].set 4 v = [a0, a1, a2, a3, v, a5] := rfl
theorem ls2_6_4 {a0 a1 a2 a3 a4 a5 v : Option Value} : ([a0, a1, a2, a3, a4, a5].set 4 v).set (4 + 1) none = [a0, a1, a2, a3, v, none] := rfl
theorem ls_6_5 {a0 a1 a2 a3 a4 a5 v : Option Value} : [a0, a1, a2, a3, a4, a5].set 5 v = [a0, a1, a2, a3, a4, v] := rfl
theorem ls_7_0 {a0 a1 a2 a3 a4 a5 a6 v : Option Value} : [a0, a1, a2, a3, a4, a5, a6].set 0 v = [v, a1, a2, a3, a4, a5, a6] := rfl
theorem ls2_7_0 {a0 a1 a2 a3 a4 a5 a6 v : Option Value} : ([a0, a1, a2, a3, a4, a5, a6].set 0 v).set (0 + 1) none = [v, none, a2, a3, a4, a5, a6] := rfl
theorem ls_7_1 {a0 a1 a2 a3 a4 a5 a6 v : Option Value} : [a0, a1, a2, a3, a4, a5, a6].set 1 v = [a0, v, a2, a3, a4, a5, a6] := rfl
theorem ls2_7_1 {a0 a1 a2 a3 a4 a5 a6 v : Option Value} : ([a0, a1, a2, a3, a4, a5, a6].set 1 v).set (1 + 1) none = [a0, v, none, a3, a4, a5, a6] := rfl
theorem ls_7_2 {a0 a1 a2 a3 a4 a5 a6 v : Option Value} : [a0, a1, a2, a3, a4, a5, a6].set 2 v = [a0, a1, v, a3, a4, a5, a6] := rfl
theorem ls2_7_2 {a0 a1 a2 a3 a4 a5 a6 v : Option Value} : ([a0, a1, a2, a3, a4, a5, a6].set 2 v).set (2 + 1) none = [a0, a1, v, none, a4, a5, a6] := rfl
theorem ls_7_3 {a0 a1 a2 a3 a4 a5 a6 v : Option Value} : [a0, a1, a2, a3, a4, a5, a6].set 3 v = [a0, a1, a2, v, a4, a5, a6] := rfl
theorem ls2_7_3 {a0 a1 a2 a3 a4 a5 a6 v : Option Value} : ([a0, a1, a2, a3, a4, a5, a6].set 3 v).set (3 + 1) none = [a0, a1, a2, v, none, a5, a6] := rfl
theorem ls_7_4 {a0 a1 a2 a3 a4 a5 a6 v : Option Value} : [a0, a1, a2, a3, a4, a5, a6].set 4 v = [a0, a1, a2, a3, v, a5, a6] := rfl
theorem ls2_7_4 {a0 a1 a2 a3 a4 a5 a6 v : Option Value} : ([a0, a1, a2, a3, a4, a5, a6].set 4 v).set (4 + 1) none = [a0, a1, a2, a3, v, none, a6] := rfl
theorem ls_7_5 {a0 a1 a2 a3 a4 a5 a6 v : Option Value} : [a0, a1, a2, a3, a4, a5, a6].set 5 v = [a0, a1, a2, a3, a4, v, a6] := rfl
theorem ls2_7_5 {a0 a1 a2 a3 a4 a5 a6 v : Option Value} : ([a0, a1, a2, a3, a4, a5, a6].set 5 v).set (5 + 1) none = [a0, a1, a2, a3, a4, v, none] := rfl
theorem ls_7_6 {a0 a1 a2 a3 a4 a5 a6 v : Option Value} : [a0, a1, a2, a3, a4, a5, a6].set 6 v = [a0, a1, a2, a3, a4, a5, v] := rfl
theorem ls_8_0 {a0 a1 a2 a3 a4 a5 a6 a7 v : Option Value} : [a0, a1, a2, a3, a4, a5, a6, a7].set 0 v = [v, a1, a2, a3, a4, a5, a6, a7] := rfl
theorem ls2_8_0 {a0 a1 a2 a3 a4 a5 a6 a7 v : Option Value} : ([a0, a1, a2, a3, a4, a5, a6, a7].set 0 v).set (0 + 1) none = [v, none, a2, a3, a4, a5, a6, a7] := rfl
theorem ls_8_1 {a0 a1 a2 a3 a4 a5 a6 a7 v : Option Value} : [a0, a1, a2, a3, a4, a5, a6, a7].set 1 v = [a0, v, a2, a3, a4, a5, a6, a7] := rfl
theorem ls2_8_1 {a0 a1 a2 a3 a4 a5 a6 a7 v : Option Value} : ([a0, a1, a2, a3, a4, a5, a6, a7].set 1 v).set (1 + 1) none = [a0, v, none, a3, a4, a5, a6, a7] := rfl
theorem ls_8_2 {a0 a1 a2 a3 a4 a5 a6 a7 v : Option Value} : [a0, a1, a2, a3, a4, a5, a6, a7].set 2 v = [a0, a1, v, a3, a4, a5, a6, a7] := rfl
theorem ls2_8_2 {a0 a1 a2 a3 a4 a5 a6 a7 v : Option Value} : ([a0, a1, a2, a3, a4, a5, a6, a7].set 2 v).set (2 + 1) none = [a0, a1, v, none, a4, a5, a6, a7] := rfl
theorem ls_8_3 {a0 a1 a2 a3 a4 a5 a6 a7 v : Option Value} : [a0, a1, a2, a3, a4, a5, a6, a7].set 3 v = [a0, a1, a2, v, a4, a5, a6, a7] := rfl
theorem ls2_8_3 {a0 a1 a2 a3 a4 a5 a6 a7 v : Option Value} : ([a0, a1, a2, a3, a4, a5, a6, a7].set 3 v).set (3 + 1) none = [a0, a1, a2, v, none, a5, a6, a7] := rfl
theorem ls_8_4 {a0 a1 a2 a3 a4 a5 a6 a7 v : Option Value} : [a0, a1, a2, a3, a4, a5, a6, a7].set 4 v = [a0, a1, a2, a3, v, a5, a6, a7] := rfl
theorem ls2_8_4 {a0 a1 a2 a3 a4 a5 a6 a7 v : Option Value} : ([a0, a1, a2, a3, a4, a5, a6, a7].set 4 v).set (4 + 1) none = [a0, a1, a2, a3, v, none, a6, a7] := rfl
theorem ls_8_5 {a0 a1 a2 a3 a4 a5 a6 a7 v : Option Value} : [a0, a1, a2, a3, a4, a5, a6, a7].set 5 v = [a0, a1, a2, a3, a4, v, a6, a7] := rfl
theorem ls2_8_5 {a0 a1 a2 a3 a4 a5 a6 a7 v : Option Value} : ([a0, a1, a2, a3, a4, a5, a6, a7].set 5 v).set (5 + 1) none = [a0, a1, a2, a3, a4, v, none, a7] := rfl
theorem ls_8_6 {a0 a1 a2 a3 a4 a5 a6 a7 v : Option Value} : [a0, a1, a2, a3, a4, a5, a6, a7].set 6 v = [a0, a1, a2, a3, a4, a5, v, a7] := rfl
theorem ls2_8_6 {a0 a1 a2 a3 a4 a5 a6 a7 v : Option Value} : ([a0, a1, a2, a3, a4, a5, a6, a7].set 6 v).set (6 + 1) none = [a0, a1, a2, a3, a4, a5, v, none] := rfl
theorem ls_8_7 {a0 a1 a2 a3 a4 a5 a6 a7 v : Option Value} : [a0, a1, a2, a3, a4, a5, a6, a7].set 7 v = [a0, a1, a2, a3, a4, a5, a6, v] := rfl
theorem ls_9_0 {a0 a1 a2 a3 a4 a5 a6 a7 a8 v : Option Value} : [a0, a1, a2, a3, a4, a5, a6, a7, a8].set 0 v = [v, a1, a2, a3, a4, a5, a6, a7, a8] := rfl
theorem ls2_9_0 {a0 a1 a2 a3 a4 a5 a6 a7 a8 v : Option Value} : ([a0, a1, a2, a3, a4, a5, a6, a7, a8].set 0 v).set (0 + 1) none = [v, none, a2, a3, a4, a5, a6, a7, a8] := rfl
theorem ls_9_1 {a0 a1 a2 a3 a4 a5 a6 a7 a8 v : Option Value} : [a0, a1, a2, a3, a4, a5, a6, a7, a8].set 1 v = [a0, v, a2, a3, a4, a5, a6, a7, a8] := rfl
theorem ls2_9_1 {a0 a1 a2 a3 a4 a5 a6 a7 a8 v : Option Value} : ([a0, a1, a2, a3, a4, a5, a6, a7, a8].set 1 v).set (1 + 1) none = [a0, v, none, a3, a4, a5, a6, a7, a8] := rfl
theorem ls_9_2 {a0 a1 a2 a3 a4 a5 a6 a7 a8 v : Option Value} : [a0, a1, a2, a3, a4, a5, a6, a7, a8].set 2 v = [a0, a1, v, a3, a4, a5, a6, a7, a8] := rfl
theorem ls2_9_2 {a0 a1 a2 a3 a4 a5 a6 a7 a8 v : Option Value} : ([a0, a1, a2, a3, a4, a5, a6, a7, a8].set 2 v).set (2 + 1) none = [a0, a1, v, none, a4, a5, a6, a7, a8] := rfl
theorem ls_9_3 {a0 a1 a2 a3 a4 a5 a6 a7 a8 v : Option Value} : [a0, a1, a2, a3, a4, a5, a6, a7, a8].set 3 v = [a0, a1, a2, v, a4, a5, a6, a7, a8] := rfl
theorem ls2_9_3 {a0 a1 a2 a3 a4 a5 a6 a7 a8 v : Option Value} : ([a0, a1, a2, a3, a4, a5, a6, a7, a8].set 3 v).set (3 + 1) none = [a0, a1, a2, v, none, a5, a6, a7, a8] := rfl
theorem ls_9_4 {a0 a1 a2 a3 a4 a5 a6 a7 a8 v : Option Value} : [a0, a1, a2, a3, a4, a5, a6, a7, a8].set 4 v = [a0, a1, a2, a3, v, a5, a6, a7, a8] := rfl
theorem ls2_9_4 {a0 a1 a2 a3 a4 a5 a6 a7 a8 v : Option Value} : ([a0, a1, a2, a3, a4, a5, a6, a7, a8].set 4 v).set (4 + 1) none = [a0, a1, a2, a3, v, none, a6, a7, a8] := rfl
theorem ls_9_5 {a0 a1 a2 a3 a4 a5 a6 a7 a8 v : Option Value} : [a0, a1, a2, a3, a4, a5, a6, a7, a8].set 5 v = [a0, a1, a2, a3, a4, v, a6, a7, a8] := rfl
theorem ls2_9_5 {a0 a1 a2 a3 a4 a5 a6 a7 a8 v : Option Value} : ([a0, a1, a2, a3, a4, a5, a6, a7, a8].set 5 v).set (5 + 1) none = [a0, a1, a2, a3, a4, v, none, a7, a8] := rfl
theorem ls_9_6 {a0 a1 a2 a3 a4 a5 a6 a7 a8 v : Option Value} : [a0, a1, a2, a3, a4, a5, a6, a7, a8].set 6 v = [a0, a1, a2, a3, a4, a5, v, a7, a8] := rfl
theorem ls2_9_6 {a0 a1 a2 a3 a4 a5 a6 a7 a8 v : Option Value} : ([a0, a1, a2, a3, a4, a5, a6, a7, a8].set 6 v).set (6 + 1) none = [a0, a1, a2, a3, a4, a5, v, none, a8] := rfl
theorem ls_9_7 {a0 a1 a2 a3 a4 a5 a6 a7 a8 v : Option Value} : [a0, a1, a2, a3, a4, a5, a6, a7, a8].set 7 v = [a0, a1, a2, a3, a4, a5, a6, v, a8] := rfl
theorem ls2_9_7 {a0 a1 a2 a3 a4 a5 a6 a7 a8 v : Option Value} : ([a0, a1, a2, a3, a4, a5, a6, a7, a8].set 7 v).set (7 + 1) none = [a0, a1, a2, a3, a4, a5, a6, v, none] := rfl
theorem ls_9_8 {a0 a1 a2 a3 a4 a5 a6 a7 a8 v : Option Value} : [a0, a1, a2, a3, a4, a5, a6, a7, a8].set 8 v = [a0, a1, a2, a3, a4, a5, a6, a7, v] := rfl
theorem ls_10_0 {a0 a1 a2 a3 a4 a5 a6 a7 a8 a9 v : Option Value} : [a0, a1, a2, a3, a4, a5, a6, a7, a8, a9].set 0 v = [v, a1, a2, a3, a4, a5, a6, a7, a8, a9] := rfl
theorem ls2_10_0 {a0 a1 a2 a3 a4 a5 a6 a7 a8 a9 v : Option Value} : ([a0, a1, a2, a3, a4, a5, a6, a7, a8, a9].set 0 v).set (0 + 1) none = [v, none, a2, a3, a4, a5, a6, a7, a8, a9] := rfl
theorem ls_10_1 {a0 a1 a2 a3 a4 a5 a6 a7 a8 a9 v : Option Value} : [a0, a1, a2, a3, a4, a5, a6, a7, a8, a9].set 1 v = [a0, v, a2, a3, a4, a5, a6, a7, a8, a9] := rfl
theorem ls2_10_1 {a0 a1 a2 a3 a4 a5 a6 a7 a8 a9 v : Option Value} : ([a0, a1, a2, a3, a4, a5, a6, a7, a8, a9].set 1 v).set (1 + 1) none = [a0, v, none, a3, a4, a5, a6, a7, a8, a9] := rfl
theorem ls_10_2 {a0 a1 a2 a3 a4 a5 a6 a7 a8 a9 v : Option Value} : [a0, a1, a2, a3, a4, a5, a6, a7, a8, a9].set 2 v = [a0, a1, v, a3, a4, a5, a6, a7, a8, a9] := rfl
theorem ls2_10_2 {a0 a1 a2 a3 a4 a5 a6 a7 a8 a9 v : Option Value} : ([a0, a1, a2, a3, a4, a5, a6, a7, a8, a9].set 2 v).set (2 + 1) none = [a0, a1, v, none, a4, a5, a6, a7, a8, a9] := rfl
theorem ls_10_3 {a0 a1 a2 a3 a4 a5 a6 a7 a8 a9 v : Option Value} : [a0, a1, a2, a3, a4, a5, a6, a7, a8, a9].set 3 v = [a0, a1, a2, v, a4, a5, a6, a7, a8, a9] := rfl
theorem ls2_10_3 {a0 a1 a2 a3 a4 a5 a6 a7 a8 a9 v : Option Value} : ([a0, a1, a2, a3, a4, a5, a6, a7, a8, a9].set 3 v).set (3 + 1) none = [a0, a1, a2, v, none, a5, a6, a7, a8, a9] := rfl
theorem ls_10_4 {a0 a1 a2 a3 a4 a5 a6 a7 a8 a9 v : Option Value} : [a0, a1, a2, a3, a4, a5, a6, a7, a8, a9].set 4 v = [a0, a1, a2, a3, v, a5, a6, a7, a8, a9] := rfl
theorem ls2_10_4 {a0 a1 a2 a3 a4 a5 a6 a7 a8 a9 v : Option Value} : ([a0, a1, a2, a3, a4, a5, a6, a7, a8, a9].set 4 v).set (4 + 1) none = [a0, a1, a2, a3, v, none, a6, a7, a8, a9] := rfl
theorem ls_10_5 {a0 a1 a2 a3 a4 a5 a6 a7 a8 a9 v : Option Value} : [a0, a1, a2, a3, a4, a5, a6, a7, a8, a9].set 5 v = [a0, a1, a2, a3, a4, v, a6, a7, a8, a9] := rfl
theorem ls2_10_5 {a0 a1 a2 a3 a4 a5 a6 a7 a8 a9 v : Option Value} : ([a0, a1, a2, a3, a4, a5, a6, a7, a8, a9].set 5 v).set (5 + 1) none = [a0, a1, a2, a3, a4, v, none, a7, a8, a9] := rfl
theorem ls_10_6 {a0 a1 a2 a3 a4 a5 a6 a7 a8 a9 v : Option Value} : [a0, a1, a2, a3, a4, a5, a6, a7, a8, a9].set 6 v = [a0, a1, a2, a3, a4, a5, v, a7, a8, a9] := rfl
theorem ls2_10_6 {a0 a1 a2 a3 a4 a5 a6 a7 a8 a9 v : Option Value} : ([a0, a1, a2, a3, a4, a5, a6, a7, a8, a9].set 6 v).set (6 + 1) none = [a0, a1, a2, a3, a4, a5, v, none, a8, a9] := rfl
theorem ls_10_7 {a0 a1 a2 a3 a4 a5 a6 a7 a8 a9 v : Option Value} : [a0, a1, a2, a3, a4, a5, a6, a7, a8, a9].set 7 v = [a0, a1, a2, a3, a4, a5, a6, v, a8, a9] := rfl
theorem ls2_10_7 {a0 a1 a2 a3 a4 a5 a6 a7 a8 a9 v : Option Value} : ([a0, a1, a2, a3, a4, a5, a6, a7, a8, a9].set 7 v).set (7 + 1) none = [a0, a1, a2, a3, a4, a5, a6, v, none, a9] := rfl
theorem ls_10_8 {a0 a1 a2 a3 a4 a5 a6 a7 a8 a9 v : Option Value} : [a0, a1, a2, a3, a4, a5, a6, a7, a8, a9].set 8 v = [a0, a1, a2, a3, a4, a5, a6, a7, v, a9] := rfl
theorem ls2_10_8 {a0 a1 a2 a3 a4 a5 a6 a7 a8 a9 v : Option Value} : ([a0, a1, a2, a3, a4, a5, a6, a7, a8, a9].set 8 v).set (8 + 1) none = [a0, a1, a2, a3, a4, a5, a6, a7, v, none] := rfl
theorem ls_10_9 {a0 a1 a2 a3 a4 a5 a6 a7 a8 a9 v : Option Value} : [a0, a1, a2, a3, a4, a5, a6, a7, a8, a9].set 9 v = [a0, a1, a2, a3, a4, a5, a6, a7, a8, v] := rfl
theorem ls_11_0 {a0 a1 a2 a3 a4 a5 a6 a7 a8 a9 a10 v : Option Value} : [a0, a1, a2, a3, a4, a5, a6, a7, a8, a9, a10].set 0 v = [v, a1, a2, a3, a4, a5, a6, a7, a8, a9, a10] := rfl
theorem ls2_11_0 {a0 a1 a2 a3 a4 a5 a6 a7 a8 a9 a10 v : Option Value} : ([a0, a1, a2, a3, a4, a5, a6, a7, a8, a9, a10].set 0 v).set (0 + 1) none = [v, none, a2, a3, a4, a5, a6, a7, a8, a9, a10] := rfl
theorem ls_11_1 {a0 a1 a2 a3 a4 a5 a6 a7 a8 a9 a10 v : Option Value} : [a0, a1, a2, a3, a4, a5, a6, a7, a8, a9, a10].set 1 v = [a0, v, a2, a3, a4, a5, a6, a7, a8, a9, a10] := rfl
theorem ls2_11_1 {a0 a1 a2 a3 a4 a5 a6 a7 a8 a9 a10 v : Option Value} : ([a0, a1, a2, a3, a4, a5, a6, a7, a8, a9, a10].set 1 v).set (1 + 1) none = [a0, v, none, a3, a4, a5, a6, a7, a8, a9, a10] := rfl
theorem ls_11_2 {a0 a1 a2 a3 a4 a5 a6 a7 a8 a9 a10 v : Option Value} : [a0, a1, a2, a3, a4, a5, a6, a7, a8, a9, a10].set 2 v = [a0, a1, v, a3, a4, a5, a6, a7, a8, a9, a10] := rfl
theorem ls2_11_2 {a0 a1 a2 a3 a4 a5 a6 a7 a8 a9 a10 v : Option Value} : ([a0, a1, a2, a3, a4, a5, a6, a7, a8, a9, a10].set 2 v).set (2 + 1) none = [a0, a1, v, none, a4, a5, a6, a7, a8, a9, a10] := rfl
theorem ls_11_3 {a0 a1 a2 a3 a4 a5 a6 a7 a8 a9 a10 v : Option Value} : [a0, a1, a2, a3, a4, a5, a6, a7, a8, a9, a10].set 3 v = [a0, a1, a2, v, a4, a5, a6, a7, a8, a9, a10] := rfl
theorem ls2_11_3 {a0 a1 a2 a3 a4 a5 a6 a7 a8 a9 a10 v : Option Value} : ([a0, a1, a2, a3, a4, a5, a6, a7, a8, a9, a10].set 3 v).set (3 + 1) none = [a0, a1, a2, v, none, a5, a6, a7, a8, a9, a10] := rfl
theorem ls_11_4 {a0 a1 a2 a3 a4 a5 a6 a7 a8 a9 a10 v : Option Value} : [a0, a1, a2, a3, a4, a5, a6, a7, a8, a9, a10].set 4 v = [a0, a1, a2, a3, v, a5, a6, a7, a8, a9, a10] := rfl
theorem ls2_11_4 {a0 a1 a2 a3 a4 a5 a6 a7 a8 a9 a10 v : Option Value} : ([a0, a1, a2, a3, a4, a5, a6, a7, a8, a9, a10].set 4 v).set (4 + 1) none = [a0, a1, a2, a3, v, none, a6, a7, a8, a9, a10] := rfl
theorem ls_11_5 {a0 a1 a2 a3 a4 a5 a6 a7 a8 a9 a10 v : Option Value} : [a0, a1, a2, a3, a4, a5, a6, a7, a8, a9, a10].set 5 v = [a0, a1, a2, a3, a4, v, a6, a7, a8, a9, a10] := rfl
theorem ls2_11_5 {a0 a1 a2 a3 a4 a5 a6 a7 a8 a9 a10 v : Option Value} : ([a0, a1, a2, a3, a4, a5, a6, a7, a8, a9, a10].set 5 v).set (5 + 1) none = [a0, a1, a2, a3, a4, v, none, a7, a8, a9, a10] := rfl
theorem ls_11_6 {a0 a1 a2 a3 a4 a5 a6 a7 a8 a9 a10 v : Option Value} : [a0, a1, a2, a3, a4, a5, a6, a7, a8, a9, a10].set 6 v = [a0, a1, a2, a3, a4, a5, v, a7, a8, a9, a10] := rfl
theorem ls2_11_6 {a0 a1 a2 a3 a4 a5 a6 a7 a8 a9 a10 v : Option Value} : ([a0, a1, a2, a3, a4, a5, a6, a7, a8, a9, a10].set 6 v).set (6 + 1) none = [a0, a1, a2, a3, a4, a5, v, none, a8, a9, a10] := rfl
theorem ls_11_7 {a0 a1 a2 a3 a4 a5 a6 a7 a8 a9 a10 v : Option Value} : [a0, a1, a2, a3, a4, a5, a6, a7, a8, a9, a10].set 7 v = [a0, a1, a2, a3, a4, a5, a6, v, a8, a9, a10] := rfl
theorem ls2_11_7 {a0 a1 a2 a3 a4 a5 a6 a7 a8 a9 a10 v : Option Value} : ([a0, a1, a2, a3, a4, a5, a6, a7, a8, a9, a10].set 7 v).set (7 + 1) none = [a0, a1, a2, a3, a4, a5, a6, v, none, a9, a10] := rfl
theorem ls_11_8 {a0 a1 a2 a3 a4 a5 a6 a7 a8 a9 a10 v : Option Value} : [a0, a1, a2, a3, a4, a5, a6, a7, a8, a9, a10].set 8 v = [a0, a1, a2, a3, a4, a5, a6, a7, v, a9, a10] := rfl
theorem ls2_11_8 {a0 a1 a2 a3 a4 a5 a6 a7 a8 a9 a10 v : Option Value} : ([a0, a1, a2, a3, a4, a5, a6, a7, a8, a9, a10].set 8 v).set (8 + 1) none = [a0, a1, a2, a3, a4, a5, a6, a7, v, none, a10] := rfl
theorem ls_11_9 {a0 a1 a2 a3 a4 a5 a6 a7 a8 a9 a10 v : Option Value} : [a0, a1, a2, a3, a4, a5, a6, a7, a8, a9, a10].set 9 v = [a0, a1, a2, a3, a4, a5, a6, a7, a8, v, a10] := rfl
theorem ls2_11_9 {a0 a1 a2 a3 a4 a5 a6 a7 a8 a9 a10 v : Option Value} : ([a0, a1, a2, a3, a4, a5, a6, a7, a8, a9, a10].set 9 v).set (9 + 1) none = [a0, a1, a2, a3, a4, a5, a6, a7, a8, v, none] := rfl
theorem ls_11_10 {a0 a1 a2 a3 a4 a5 a6 a7 a8 a9 a10 v : Option Value} : [a0, a1, a2, a3, a4, a5, a6, a7, a8, a9, a10].set 10 v = [a0, a1, a2, a3, a4, a5, a6, a7, a8, a9, v] := rfl
theorem ls_12_0 {a0 a1 a2 a3 a4 a5 a6 a7 a8 a9 a10 a11 v : Option Value} : [a0, a1, a2, a3, a4, a5, a6, a7, a8, a9, a10, a11].set 0 v = [v, a1, a2, a3, a4, a5, a6, a7, a8, a9, a10, a11] := rfl
theorem ls2_12_0 {a0 a1 a2 a3 a4 a5 a6 a7 a8 a9 a10 a11 v : Option Value} : ([a0, a1, a2, a3, a4, a5, a6, a7, a8, a9, a10, a11].set 0 v).set (0 + 1) none = [v, none, a2, a3, a4, a5, a6, a7, a8, a9, a10, a11] := rfl
theorem ls_12_1 {a0 a1 a2 a3 a4 a5 a6 a7 a8 a9 a10 a11 v : Option Value} : [a0, a1, a2, a3, a4, a5, a6, a7, a8, a9, a10, a11].set 1 v = [a0, v, a2, a3, a4, a5, a6, a7, a8, a9, a10, a11] := rfl
theorem ls2_12_1 {a0 a1 a2 a3 a4 a5 a6 a7 a8 a9 a10 a11 v : Option Value} : ([a0, a1, a2, a3, a4, a5, a6, a7, a8, a9, a10, a11].set 1 v).set (1 + 1) none = [a0, v, none, a3, a4, a5, a6, a7, a8, a9, a10, a11] := rfl
theorem ls_12_2 {a0 a1 a2 a3 a4 a5 a6 a7 a8 a9 a10 a11 v : Option Value} : [a0, a1, a2, a3, a4, a5, a6, a7, a8, a9, a10, a11].set 2 v = [a0, a1, v, a3, a4, a5, a6, a7, a8, a9, a10, a11] := rfl
theorem ls2_12_2 {a0 a1 a2 a3 a4 a5 a6 a7 a8 a9 a10 a11 v : Option Value} : ([a0, a1, a2, a3, a4, a5, a6, a7, a8, a9, a10, a11].set 2 v).set (2 + 1) none = [a0, a1, v, none, a4, a5, a6, a7, a8, a9, a10, a11] := rfl
theorem ls_12_3 {a0 a1 a2 a3 a4 a5 a6 a7 a8 a9 a10 a11 v : Option Value} : [a0, a1, a2, a3, a4, a5, a6, a7, a8, a9, a10, a11].set 3 v = [a0, a1, a2, v, a4, a5, a6, a7, a8, a9, a10, a11] := rfl
theorem ls2_12_3 {a0 a1 a2 a3 a4 a5 a6 a7 a8 a9 a10 a11 v : Option Value} : ([a0, a1, a2, a3, a4, a5, a6, a7, a8, a9, a10, a11].set 3 v).set (3 + 1) none = [a0, a1, a2, v, none, a5, a6, a7, a8, a9, a10, a11] := rfl
theorem ls_12_4 {a0 a1 a2 a3 a4 a5 a6 a7 a8 a9 a10 a11 v : Option Value} : [a0, a1, a2, a3, a4, a5, a6, a7, a8, a9, a10, a11].set 4 v = [a0, a1, a2, a3, v, a5, a6, a7, a8, a9, a10, a11] := rfl
theorem ls2_12_4 {a0 a1 a2 a3 a4 a5 a6 a7 a8 a9 a10 a11 v : Option Value} : ([a0, a1, a2, a3, a4, a5, a6, a7, a8, a9, a10, a11].set 4 v).set (4 + 1) none = [a0, a1, a2, a3, v, none, a6, a7, a8, a9, a10, a11] := rfl
theorem ls_12_5 {a0 a1 a2 a3 a4 a5 a6 a7 a8 a9 a10 a11 v : Option Value} : [a0, a1, a2, a3, a4, a5, a6, a7, a8, a9, a10, a11].set 5 v = [a0, a1, a2, a3, a4, v, a6, a7, a8, a9, a10, a11] := rfl
theorem ls2_12_5 {a0 a1 a2 a3 a4 a5 a6 a7 a8 a9 a10 a11 v : Option Value} : ([a0, a1, a2, a3, a4, a5, a6, a7, a8, a9, a10, a11].set 5 v).set (5 + 1) none = [a0, a1, a2, a3, a4, v, none, a7, a8, a9, a10, a11] := rfl
theorem ls_12_6 {a0 a1 a2 a3 a4 a5 a6 a7 a8 a9 a10 a11 v : Option Value} : [a0, a1, a2, a3, a4, a5, a6, a7, a8, a9, a10, a11].set 6 v = [a0, a1, a2, a3, a4, a5, v, a7, a8, a9, a10, a11] := rfl
theorem ls2_12_6 {a0 a1 a2 a3 a4 a5 a6 a7 a8 a9 a10 a11 v : Option Value} : ([a0, a1, a2, a3, a4, a5, a6, a7, a8, a9, a10, a11].set 6 v).set (6 + 1) none = [a0, a1, a2, a3, a4, a5, v, none, a8, a9, a10, a11] := rfl
theorem ls_12_7 {a0 a1 a2 a3 a4 a5 a6 a7 a8 a9 a10 a11 v : Option Value} : [a0, a1, a2, a3, a4, a5, a6, a7, a8, a9, a10, a11].set 7 v = [a0, a1, a2, a3, a4, a5, a6, v, a8, a9, a10, a11] := rfl
theorem ls2_12_7 {a0 a1 a2 a3 a4 a5 a6 a7 a8 a9 a10 a11 v : Option Value} : ([a0, a1, a2, a3, a4, a5, a6, a7, a8, a9, a10, a11].set 7 v).set (7 + 1) none = [a0, a1, a2, a3, a4, a5, a6, v, none, a9, a10, a11] := rfl
theorem ls_12_8 {a0 a1 a2 a3 a4 a5 a6 a7 a8 a9 a10 a11 v : Option Value} : [a0, a1, a2, a3, a4, a5, a6, a7, a8, a9, a10, a11].set 8 v = [a0, a1, a2, a3, a4, a5, a6, a7, v, a9, a10, a11] := rfl
theorem ls2_12_8 {a0 a1 a2 a3 a4 a5 a6 a7 a8 a9 a10 a11 v : Option Value} : ([a0, a1, a2, a3, a4, a5, a6, a7, a8, a9, a10, a11].set 8 v).set (8 + 1) none = [a0, a1, a2, a3, a4, a5, a6, a7, v, none, a10, a11] := rfl
theorem ls_12_9 {a0 a1 a2 a3 a4 a5 a6 a7 a8 a9 a10 a11 v : Option Value} : [a0, a1, a2, a3, a4, a5, a6, a7, a8, a9, a10, a11].set 9 v = [a0, a1, a2, a3, a4, a5, a6, a7, a8, v, a10, a11] := rfl
theorem ls2_12_9 {a0 a1 a2 a3 a4 a5 a6 a7 a8 a9 a10 a11 v : Option Value} : ([a0, a1, a2, a3, a4, a5, a6, a7, a8, a9, a10, a11].set 9 v).set (9 + 1) none = [a0, a1, a2, a3, a4, a5, a6, a7, a8, v, none, a11] := rfl
theorem ls_12_10 {a0 a1 a2 a3 a4 a5 a6 a7 a8 a9 a10 a11 v : Option Value} : [a0, a1, a2, a3, a4, a5, a6, a7, a8, a9, a10, a11].set 10 v = [a0, a1, a2, a3, a4, a5, a6, a7, a8, a9, v, a11] := rfl
theorem ls2_12_10 {a0 a1 a2 a3 a4 a5 a6 a7 a8 a9 a10 a11 v : Option Value} : ([a0, a1, a2, a3, a4, a5, a6, a7, a8, a9, a10, a11].set 10 v).set (10 + 1) none = [a0, a1, a2, a3, a4, a5, a6, a7, a8, a9, v, none] := rfl
theorem ls_12_11 {a0 a1 a2 a3 a4 a5 a6 a7 a8 a9 a10 a11 v : Option Value} : [a0, a1, a2, a3, a4, a5, a6, a7, a8, a9, a10, a11].set 11 v = [a0, a1, a2, a3, a4, a5, a6, a7, a8, a9, a10, v] := rfl
theorem ls_13_0 {a0 a1 a2 a3 a4 a5 a6 a7 a8 a9 a10 a11 a12 v : Option Value} : [a0, a1, a2, a3, a4, a5, a6, a7, a8, a9, a10, a11, a12].set 0 v = [v, a1, a2, a3, a4, a5, a6, a7, a8, a9, a10, a11, a12] := rfl
theorem ls2_13_0 {a0 a1 a2 a3 a4 a5 a6 a7 a8 a9 a10 a11 a12 v : Option Value} : ([a0, a1, a2, a3, a4, a5, a6, a7, a8, a9, a10, a11, a12].set 0 v).set (0 + 1) none = [v, none, a2, a3, a4, a5, a6, a7, a8, a9, a10, a11, a12] := rfl
theorem ls_13_1 {a0 a1 a2 a3 a4 a5 a6 a7 a8 a9 a10 a11 a12 v : Option Value} : [a0, a1, a2, a3, a4, a5, a6, a7, a8, a9, a10, a11, a12].set 1 v = [a0, v, a2, a3, a4, a5, a6, a7, a8, a9, a10, a11, a12] := rfl
theorem ls2_13_1 {a0 a1 a2 a3 a4 a5 a6 a7 a8 a9 a10 a11 a12 v : Option Value} : ([a0, a1, a2, a3, a4, a5, a6, a7, a8, a9, a10, a11, a12].set 1 v).set (1 + 1) none = [a0, v, none, a3, a4, a5, a6, a7, a8, a9, a10, a11, a12] := rfl
theorem ls_13_2 {a0 a1 a2 a3 a4 a5 a6 a7 a8 a9 a10 a11 a12 v : Option Value} : [a0, a1, a2, a3, a4, a5, a6, a7, a8, a9, a10, a11, a12].set 2 v = [a0, a1, v, a3, a4, a5, a6, a7, a8, a9, a10, a11, a12] := rfl
theorem ls2_13_2 {a0 a1 a2 a3 a4 a5 a6 a7 a8 a9 a10 a11 a12 v : Option Value} : ([a0, a1, a2, a3, a4, a5, a6, a7, a8, a9, a10, a11, a12].set 2 v).set (2 + 1) none = [a0, a1, v, none, a4, a5, a6, a7, a8, a9, a10, a11, a12] := rfl
theorem ls_13_3 {a0 a1 a2 a3 a4 a5 a6 a7 a8 a9 a10 a11 a12 v : Option Value} : [a0, a1, a2, a3, a4, a5, a6, a7, a8, a9, a10, a11, a12].set 3 v = [a0, a1, a2, v, a4, a5, a6, a7, a8, a9, a10, a11, a12] := rfl
theorem ls2_13_3 {a0 a1 a2 a3 a4 a5 a6 a7 a8 a9 a10 a11 a12 v : Option Value} : ([a0, a1, a2, a3, a4, a5, a6, a7, a8, a9, a10, a11, a12].set 3 v).set (3 + 1) none = [a0, a1, a2, v, none, a5, a6, a7, a8, a9, a10, a11, a12] := rfl
theorem ls_13_4 {a0 a1 a2 a3 a4 a5 a6 a7 a8 a9 a10 a11 a12 v : Option Value} : [a0, a1, a2, a3, a4, a5, a6, a7, a8, a9, a10, a11, a12].set 4 v = [a0, a1, a2, a3, v, a5, a6, a7, a8, a9, a10, a11, a12] := rfl
theorem ls2_13_4 {a0 a1 a2 a3 a4 a5 a6 a7 a8 a9 a10 a11 a12 v : Option Value} : ([a0, a1, a2, a3, a4, a5, a6, a7, a8, a9, a10, a11, a12].set 4 v).set (4 + 1) none = [a0, a1, a2, a3, v, none, a6, a7, a8, a9, a10, a11, a12] := rfl
theorem ls_13_5 {a0 a1 a2 a3 a4 a5 a6 a7 a8 a9 a10 a11 a12 v : Option Value} : [a0, a1, a2, a3, a4, a5, a6, a7, a8, a9, a10, a11, a12].set 5 v = [a0, a1, a2, a3, a4, v, a6, a7, a8, a9, a10, a11, a12] := rfl
theorem ls2_13_5 {a0 a1 a2 a3 a4 a5 a6 a7 a8 a9 a10 a11 a12 v : Option Value} : ([a0, a1, a2, a3, a4, a5, a6, a7, a8, a9, a10, a11, a12].set 5 v).set (5 + 1) none = [a0, a1, a2, a3, a4, v, none, a7, a8, a9, a10, a11, a12] := rfl
theorem ls_13_6 {a0 a1 a2 a3 a4 a5 a6 a7 a8 a9 a10 a11 a12 v : Option Value} : [a0, a1, a2, a3, a4, a5, a6, a7, a8, a9, a10, a11, a12].set 6 v = [a0, a1, a2, a3, a4, a5, v, a7, a8, a9, a10, a11, a12] := rfl
theorem ls2_13_6 {a0 a1 a2 a3 a4 a5 a6 a7 a8 a9 a10 a11 a12 v : Option Value} : ([a0, a1, a2, a3, a4, a5, a6, a7, a8, a9, a10, a11, a12].set 6 v).set (6 + 1) none = [a0, a1, a2, a3, a4, a5, v, none, a8, a9, a10, a11, a12] := rfl
theorem ls_13_7 {a0 a1 a2 a3 a4 a5 a6 a7 a8 a9 a10 a11 a12 v : Option Value} : [a0, a1, a2, a3, a4, a5, a6, a7, a8, a9, a10, a11, a12].set 7 v = [a0, a1, a2, a3, a4, a5, a6, v, a8, a9, a10, a11, a12] := rfl
theorem ls2_13_7 {a0 a1 a2 a3 a4 a5 a6 a7 a8 a9 a10 a11 a12 v : Option Value} : ([a0, a1, a2, a3, a4, a5, a6, a7, a8, a9, a10, a11, a12].set 7 v).set (7 + 1) none = [a0, a1, a2, a3, a4, a5, a6, v, none, a9, a10, a11, a12] := rfl
theorem ls_13_8 {a0 a1 a2 a3 a4 a5 a6 a7 a8 a9 a10 a11 a12 v : Option Value} : [a0, a1, a2, a3, a4, a5, a6, a7, a8, a9, a10, a11, a12].set 8 v = [a0, a1, a2, a3, a4, a5, a6, a7, v, a9, a10, a11, a12] := rfl
theorem ls2_13_8 {a0 a1 a2 a3 a4 a5 a6 a7 a8 a9 a10 a11 a12 v : Option Value} : ([a0, a1, a2, a3, a4, a5, a6, a7, a8, a9, a10, a11, a12].set 8 v).set (8 + 1) none = [a0, a1, a2, a3, a4, a5, a6, a7, v, none, a10, a11, a12] := rfl
theorem ls_13_9 {a0 a1 a2 a3 a4 a5 a6 a7 a8 a9 a10 a11 a12 v : Option Value} : [a0, a1, a2, a3, a4, a5, a6, a7, a8, a9, a10, a11, a12].set 9 v = [a0, a1, a2, a3, a4, a5, a6, a7, a8, v, a10, a11, a12] := rfl
theorem ls2_13_9 {a0 a1 a2 a3 a4 a5 a6 a7 a8 a9 a10 a11 a12 v : Option Value} : ([a0, a1, a2, a3, a4, a5, a6, a7, a8, a9, a10, a11, a12].set 9 v).set (9 + 1) none = [a0, a1, a2, a3, a4, a5, a6, a7, a8, v, none, a11, a12] := rfl
theorem ls_13_10 {a0 a1 a2 a3 a4 a5 a6 a7 a8 a9 a10 a11 a12 v : Option Value} : [a0, a1, a2, a3, a4, a5, a6, a7, a8, a9, a10, a11, a12].set 10 v = [a0, a1, a2, a3, a4, a5, a6, a7, a8, a9, v, a11, a12] := rfl
theorem ls2_13_10 {a0 a1 a2 a3 a4 a5 a6 a7 a8 a9 a10 a11 a12 v : Option Value} : ([a0, a1, a2, a3, a4, a5, a6, a7, a8, a9, a10, a11, a12].set 10 v).set (10 + 1) none = [a0, a1, a2, a3, a4, a5, a6, a7, a8, a9, v, none, a12] := rfl
theorem ls_13_11 {a0 a1 a2 a3 a4 a5 a6 a7 a8 a9 a10 a11 a12 v : Option Value} : [a0, a1, a2, a3, a4, a5, a6, a7, a8, a9, a10, a11, a12].set 11 v = [a0, a1, a2, a3, a4, a5, a6, a7, a8, a9, a10, v, a12] := rfl
theorem ls2_13_11 {a0 a1 a2 a3 a4 a5 a6 a7 a8 a9 a10 a11 a12 v : Option Value} : ([a0, a1, a2, a3, a4, a5, a6, a7, a8, a9, a10, a11, a12].set 11 v).set (11 + 1) none = [a0, a1, a2, a3, a4, a5, a6, a7, a8, a9, a10, v, none] := rfl
theorem ls_13_12 {a0 a1 a2 a3 a4 a5 a6 a7 a8 a9 a10 a11 a12 v : Option Value} : [a0, a1, a2, a3, a4, a5, a6, a7, a8, a9, a10, a11, a12].set 12 v = [a0, a1, a2, a3, a4, a5, a6, a7, a8, a9, a10, a11, v] := rfl
theorem ls_14_0 {a0 a1 a2 a3 a4 a5 a6 a7 a8 a9 a10 a11 a12 a13 v : Option Value} : [a0, a1, a2, a3, a4, a5, a6, a7, a8, a9, a10, a11, a12, a13].set 0 v = [v, a1, a2, a3, a4, a5, a6, a7, a8, a9, a10, a11, a12, a13] := rfl
theorem ls2_14_0 {a0 a1 a2 a3 a4 a5 a6 a7 a8 a9 a10 a11 a12 a13 v : Option Value} : ([a0, a1, a2, a3, a4, a5, a6, a7, a8, a9, a10, a11, a12, a13].set 0 v).set (0 + 1) none = [v, none, a2, a3, a4, a5, a6, a7, a8, a9, a10, a11, a12, a13] := rfl
theorem ls_14_1 {a0 a1 a2 a3 a4 a5 a6 a7 a8 a9 a10 a11 a12 a13 v : Option Value} : [a0, a1, a2, a3, a4, a5, a6, a7, a8, a9, a10, a11, a12, a13].set 1 v = [a0, v, a2, a3, a4, a5, a6, a7, a8, a9, a10, a11, a12, a13] := rfl
theorem ls2_14_1 {a0 a1 a2 a3 a4 a5 a6 a7 a8 a9 a10 a11 a12 a13 v : Option Value} : ([a0, a1, a2, a3, a4, a5, a6, a7, a8, a9, a10, a11, a12, a13].set 1 v).set (1 + 1) none = [a0, v, none, a3, a4, a5, a6, a7, a8, a9, a10, a11, a12, a13] := rfl
theorem ls_14_2 {a0 a1 a2 a3 a4 a5 a6 a7 a8 a9 a10 a11 a12 a13 v : Option Value} : [a0, a1, a2, a3, a4, a5, a6, a7, a8, a9, a10, a11, a12, a13].set 2 v = [a0, a1, v, a3, a4, a5, a6, a7, a8, a9, a10, a11, a12, a13] := rfl
theorem ls2_14_2 {a0 a1 a2 a3 a4 a5 a6 a7 a8 a9 a10 a11 a12 a13 v : Option Value} : ([a0, a1, a2, a3, a4, a5, a6, a7, a8, a9, a10, a11, a12, a13].set 2 v).set (2 + 1) none = [a0, a1, v, none, a4, a5, a6, a7, a8, a9, a10, a11, a12, a13] := rfl
theorem ls_14_3 {a0 a1 a2 a3 a4 a5 a6 a7 a8 a9 a10 a11 a12 a13 v : Option Value} : [a0, a1, a2, a3, a4, a5, a6, a7, a8, a9, a10, a11, a12, a13].set 3 v = [a0, a1, a2, v, a4, a5, a6, a7, a8, a9, a10, a11, a12, a13] := rfl
theorem ls2_14_3 {a0 a1 a2 a3 a4 a5 a6 a7 a8 a9 a10 a11 a12 a13 v : Option Value} : ([a0, a1, a2, a3, a4, a5, a6, a7, a8, a9, a10, a11, a12, a13].set 3 v).set (3 + 1) none = [a0, a1, a2, v, none, a5, a6, a7, a8, a9, a10, a11, a12, a13] := rfl
theorem ls_14_4 {a0 a1 a2 a3 a4 a5 a6 a7 a8 a9 a10 a11 a12 a13 v : Option Value} : [a0, a1, a2, a3, a4, a5, a6, a7, a8, a9, a10, a11, a12, a13].set 4 v = [a0, a1, a2, a3, v, a5, a6, a7, a8, a9, a10, a11, a12, a13] := rfl
theorem ls2_14_4 {a0 a1 a2 a3 a4 a5 a6 a7 a8 a9 a10 a11 a12 a13 v : Option Value} : ([a0, a1, a2, a3, a4, a5, a6, a7, a8, a9, a10, a11, a12, a13].set 4 v).set (4 + 1) none = [a0, a1, a2, a3, v, none, a6, a7, a8, a9, a10, a11, a12, a13] := rfl
theorem ls_14_5 {a0 a1 a2 a3 a4 a5 a6 a7 a8 a9 a10 a11 a12 a13 v : Option Value} : [a0, a1, a2, a3, a4, a5, a6, a7, a8, a9, a10, a11, a12, a13].set 5 v = [a0, a1, a2, a3, a4, v, a6, a7, a8, a9, a10, a11, a12, a13] := rfl
theorem ls2_14_5 {a0 a1 a2 a3 a4 a5 a6 a7 a8 a9 a10 a11 a12 a13 v : Option Value} : ([a0, a1, a2, a3, a4, a5, a6, a7, a8, a9, a10, a11, a12, a13].set 5 v).set (5 + 1) none = [a0, a1, a2, a3, a4, v, none, a7, a8, a9, a10, a11, a12, a13] := rfl
theorem ls_14_6 {a0 a1 a2 a3 a4 a5 a6 a7 a8 a9 a10 a11 a12 a13 v : Option Value} : [a0, a1, a2, a3, a4, a5, a6, a7, a8, a9, a10, a11, a12, a13].set 6 v = [a0, a1, a2, a3, a4, a5, v, a7, a8, a9, a10, a11, a12, a13] := rfl
theorem ls2_14_6 {a0 a1 a2 a3 a4 a5 a6 a7 a8 a9 a10 a11 a12 a13 v : Option Value} : ([a0, a1, a2, a3, a4, a5, a6, a7, a8, a9, a10, a11, a12, a13].set 6 v).set (6 + 1) none = [a0, a1, a2, a3, a4, a5, v, none, a8, a9, a10, a11, a12, a13] := rfl
theorem ls_14_7 {a0 a1 a2 a3 a4 a5 a6 a7 a8 a9 a10 a11 a12 a13 v : Option Value} : [a0, a1, a2, a3, a4, a5, a6, a7, a8, a9, a10, a11, a12, a13].set 7 v = [a0, a1, a2, a3, a4, a5, a6, v, a8, a9, a10, a11, a12, a13] := rfl
theorem ls2_14_7 {a0 a1 a2 a3 a4 a5 a6 a7 a8 a9 a10 a11 a12 a13 v : Option Value} : ([a0, a1, a2, a3, a4, a5, a6, a7, a8, a9, a10, a11, a12, a13].set 7 v).set (7 + 1) none = [a0, a1, a2, a3, a4, a5, a6, v, none, a9, a10, a11, a12, a13] := rfl
theorem ls_14_8 {a0 a1 a2 a3 a4 a5 a6 a7 a8 a9 a10 a11 a12 a13 v : Option Value} : [a0, a1, a2, a3, a4, a5, a6, a7, a8, a9, a10, a11, a12, a13].set 8 v = [a0, a1, a2, a3, a4, a5, a6, a7, v, a9, a10, a11, a12, a13] := rfl
theorem ls2_14_8 {a0 a1 a2 a3 a4 a5 a6 a7 a8 a9 a10 a11 a12 a13 v : Option Value} : ([a0, a1, a2, a3, a4, a5, a6, a7, a8, a9, a10, a11, a12, a13].set 8 v).set (8 + 1) none = [a0, a1, a2, a3, a4, a5, a6, a7, v, none, a10, a11, a12, a13] := rfl
theorem ls_14_9 {a0 a1 a2 a3 a4 a5 a6 a7 a8 a9 a10 a11 a12 a13 v : Option Value} : [a0, a1, a2, a3, a4, a5, a6, a7, a8, a9, a10, a11, a12, a13].set 9 v = [a0, a1, a2, a3, a4, a5, a6, a7, a8, v, a10, a11, a12, a13] := rfl
theorem ls2_14_9 {a0 a1 a2 a3 a4 a5 a6 a7 a8 a9 a10 a11 a12 a13 v : Option Value} : ([a0, a1, a2, a3, a4, a5, a6, a7, a8, a9, a10, a11, a12, a13].set 9 v).set (9 + 1) none = [a0, a1, a2, a3, a4, a5, a6, a7, a8, v, none, a11, a12, a13] := rfl
theorem ls_14_10 {a0 a1 a2 a3 a4 a5 a6 a7 a8 a9 a10 a11 a12 a13 v : Option Value} : [a0, a1, a2, a3, a4, a5, a6, a7, a8, a9, a10, a11, a12, a13].set 10 v = [a0, a1, a2, a3, a4, a5, a6, a7, a8, a9, v, a11, a12, a13] := rfl
theorem ls2_14_10 {a0 a1 a2 a3 a4 a5 a6 a7 a8 a9 a10 a11 a12 a13 v : Option Value} : ([a0, a1, a2, a3, a4, a5, a6, a7, a8, a9, a10, a11, a12, a13].set 10 v).set (10 + 1) none = [a0, a1, a2, a3, a4, a5, a6, a7, a8, a9, v, none, a12, a13] := rfl
theorem ls_14_11 {a0 a1 a2 a3 a4 a5 a6 a7 a8 a9 a10 a11 a12 a13 v : Option Value} : [a0, a1, a2, a3, a4, a5, a6, a7, a8, a9, a10, a11, a12, a13].set 11 v = [a0, a1, a2, a3, a4, a5, a6, a7, a8, a9, a10, v, a12, a13] := rfl
theorem ls2_14_11 {a0 a1 a2 a3 a4 a5 a6 a7 a8 a9 a10 a11 a12 a13 v : Option Value} : ([a0, a1, a2, a3, a4, a5, a6, a7, a8, a9, a10, a11, a12, a13].set 11 v).set (11 + 1) none = [a0, a1, a2, a3, a4, a5, a6, a7, a8, a9, a10, v, none, a13] := rfl
theorem ls_14_12 {a0 a1 a2 a3 a4 a5 a6 a7 a8 a9 a10 a11 a12 a13 v : Option Value} : [a0, a1, a2, a3, a4, a5, a6, a7, a8, a9, a10, a11, a12, a13].set 12 v = [a0, a1, a2, a3, a4, a5, a6, a7, a8, a9, a10, a11, v, a13] := rfl
theorem ls2_14_12 {a0 a1 a2 a3 a4 a5 a6 a7 a8 a9 a10 a11 a12 a13 v : Option Value} : ([a0, a1, a2, a3, a4, a5, a6, a7, a8, a9, a10, a11, a12, a13].set 12 v).set (12 + 1) none = [a0, a1, a2, a3, a4, a5, a6, a7, a8, a9, a10, a11, v, none] := rfl
theorem ls_14_13 {a0 a1 a2 a3 a4 a5 a6 a7 a8 a9 a10 a11 a12 a13 v : Option Value} : [a0, a1, a2, a3, a4, a5, a6, a7, a8, a9, a10, a11, a12, a13].set 13 v = [a0, a1, a2, a3, a4, a5, a6, a7, a8, a9, a10, a11, a12, v] := rfl
