set_option maxRecDepth 100000
theorem plX8 : plainName "LastPebbleModel" = true := by decide +kernel
theorem Enc.d0 {S : MS} {V : VS} (E : Enc S V) {d : Nat} (hd : d < 8) : mA S 0 (40 + 3 * d) = nI (vt V 5 d) := E.d 0 hd (by omega)
theorem Enc.d1 {S : MS} {V : VS} (E : Enc S V) {d : Nat} (hd : d < 8) : mA S 0 (40 + 3 * d + 1) = nI (vt V 6 d) := E.d 1 hd (by omega)
theorem Enc.d2 {S : MS} {V : VS} (E : Enc S V) {d : Nat} (hd : d < 8) : mA S 0 (40 + 3 * d + 2) = nI (vt V 7 d) := E.d 2 hd (by omega)
def WkL (L2 L : List (Option Value)) : Prop := ∀ (i : Nat) (v : Value), L2[i]? = some (some v) → L[i]? = some (some v)
theorem wk0 : WkL [] [] := fun _ _ h => h
theorem wkS {a : Option Value} {L2 L : List (Option Value)} (h : WkL L2 L) : WkL (a :: L2) (a :: L) := fun i v z => by
  cases i with
  | zero => exact z
  | succ i => exact h i v z
theorem wkN {a : Option Value} {L2 L : List (Option Value)} (h : WkL L2 L) : WkL (none :: L2) (a :: L) := fun i v z => by
  cases i with
  | zero => cases z
  | succ i => exact h i v z
set_option maxHeartbeats 4000000 in
theorem c_status {g : GG} {S : MS}  : Mt g miX8_status 1 [] (S) (some (.int (mI S 2))) (S) := by
  refine Mt.start (fun b => [some (.ref b)]) plX8 rfl (fun b => (Nat.le_of_ble_eq_true rfl)) (fun b => rfl) ?_
  intro σ b
  refine w_aload_n dX8_status_0 rfl ?_
  refine mg_status dX8_status_1 rfl ?_
  exact w_iret dX8_status_4 rfl ⟨by first | rfl | (simp only [bP, isT, bitN, inN, *, not_true_eq_false, not_false_eq_true, and_true, true_and, and_false, false_and, or_true, true_or, or_false, false_or, and_self, or_self, if_true, if_false, ite_true, ite_false]; done) | (simp [bP, isT, bitN, inN, *]; done) | (simp_all [bP, isT, bitN, inN]; done) | (repeat split) <;> first | rfl | contradiction | simp_all, by first | rfl | (simp only [bP, isT, bitN, inN, *, not_true_eq_false, not_false_eq_true, and_true, true_and, and_false, false_and, or_true, true_or, or_false, false_or, and_self, or_self, if_true, if_false, ite_true, ite_false]; done) | (simp [bP, isT, bitN, inN, *]; done) | (simp_all [bP, isT, bitN, inN]; done) | (repeat split) <;> first | rfl | contradiction | simp_all⟩
set_option maxHeartbeats 4000000 in
theorem c_top {g : GG} {S : MS}  : Mt g miX8_top 1 [] (S) (some (.long (mL S 3))) (S) := by
  refine Mt.start (fun b => [some (.ref b)]) plX8 rfl (fun b => (Nat.le_of_ble_eq_true rfl)) (fun b => rfl) ?_
  intro σ b
  refine w_aload_n dX8_top_0 rfl ?_
  refine mg_top dX8_top_1 rfl ?_
  exact w_lret dX8_top_4 rfl ⟨by first | rfl | (simp only [bP, isT, bitN, inN, *, not_true_eq_false, not_false_eq_true, and_true, true_and, and_false, false_and, or_true, true_or, or_false, false_or, and_self, or_self, if_true, if_false, ite_true, ite_false]; done) | (simp [bP, isT, bitN, inN, *]; done) | (simp_all [bP, isT, bitN, inN]; done) | (repeat split) <;> first | rfl | contradiction | simp_all, by first | rfl | (simp only [bP, isT, bitN, inN, *, not_true_eq_false, not_false_eq_true, and_true, true_and, and_false, false_and, or_true, true_or, or_false, false_or, and_self, or_self, if_true, if_false, ite_true, ite_false]; done) | (simp [bP, isT, bitN, inN, *]; done) | (simp_all [bP, isT, bitN, inN]; done) | (repeat split) <;> first | rfl | contradiction | simp_all⟩
set_option maxHeartbeats 4000000 in
theorem c_bottom {g : GG} {S : MS}  : Mt g miX8_bottom 1 [] (S) (some (.long (mL S 4))) (S) := by
  refine Mt.start (fun b => [some (.ref b)]) plX8 rfl (fun b => (Nat.le_of_ble_eq_true rfl)) (fun b => rfl) ?_
  intro σ b
  refine w_aload_n dX8_bottom_0 rfl ?_
  refine mg_bottom dX8_bottom_1 rfl ?_
  exact w_lret dX8_bottom_4 rfl ⟨by first | rfl | (simp only [bP, isT, bitN, inN, *, not_true_eq_false, not_false_eq_true, and_true, true_and, and_false, false_and, or_true, true_or, or_false, false_or, and_self, or_self, if_true, if_false, ite_true, ite_false]; done) | (simp [bP, isT, bitN, inN, *]; done) | (simp_all [bP, isT, bitN, inN]; done) | (repeat split) <;> first | rfl | contradiction | simp_all, by first | rfl | (simp only [bP, isT, bitN, inN, *, not_true_eq_false, not_false_eq_true, and_true, true_and, and_false, false_and, or_true, true_or, or_false, false_or, and_self, or_self, if_true, if_false, ite_true, ite_false]; done) | (simp [bP, isT, bitN, inN, *]; done) | (simp_all [bP, isT, bitN, inN]; done) | (repeat split) <;> first | rfl | contradiction | simp_all⟩
set_option maxHeartbeats 4000000 in
theorem c_is {g : GG} {S : MS} {x : Int32}  : Mt g miX8_is 1 [.int x] (S) (some (.int (bP (x = 0)))) (sI S 2 x) := by
  refine Mt.start (fun b => [some (.ref b), some (.int x)]) plX8 rfl (fun b => (Nat.le_of_ble_eq_true rfl)) (fun b => rfl) ?_
  intro σ b
  refine w_aload_n dX8_is_0 rfl ?_
  refine w_iload_n dX8_is_1 rfl ?_
  refine mp_status dX8_is_2 rfl ?_
  refine w_iload_n dX8_is_5 rfl ?_
  refine w_if_ne dX8_is_6 rfl (fun h_6 => ?_) (fun h_6 => ?_)
  · refine w_iconst (v := nI 0) dX8_is_13 ki_0 ?_
    exact w_zret dX8_is_14 rfl (by first | exact narr0 | exact narr1) ⟨by first | rfl | (simp only [bP, isT, bitN, inN, *, not_true_eq_false, not_false_eq_true, and_true, true_and, and_false, false_and, or_true, true_or, or_false, false_or, and_self, or_self, if_true, if_false, ite_true, ite_false]; done) | (simp [bP, isT, bitN, inN, *]; done) | (simp_all [bP, isT, bitN, inN]; done) | (repeat split) <;> first | rfl | contradiction | simp_all, by first | rfl | (simp only [bP, isT, bitN, inN, *, not_true_eq_false, not_false_eq_true, and_true, true_and, and_false, false_and, or_true, true_or, or_false, false_or, and_self, or_self, if_true, if_false, ite_true, ite_false]; done) | (simp [bP, isT, bitN, inN, *]; done) | (simp_all [bP, isT, bitN, inN]; done) | (repeat split) <;> first | rfl | contradiction | simp_all⟩
  · refine w_iconst (v := nI 1) dX8_is_9 ki_1 ?_
    refine w_goto dX8_is_10 rfl ?_
    exact w_zret dX8_is_14 rfl (by first | exact narr0 | exact narr1) ⟨by first | rfl | (simp only [bP, isT, bitN, inN, *, not_true_eq_false, not_false_eq_true, and_true, true_and, and_false, false_and, or_true, true_or, or_false, false_or, and_self, or_self, if_true, if_false, ite_true, ite_false]; done) | (simp [bP, isT, bitN, inN, *]; done) | (simp_all [bP, isT, bitN, inN]; done) | (repeat split) <;> first | rfl | contradiction | simp_all, by first | rfl | (simp only [bP, isT, bitN, inN, *, not_true_eq_false, not_false_eq_true, and_true, true_and, and_false, false_and, or_true, true_or, or_false, false_or, and_self, or_self, if_true, if_false, ite_true, ite_false]; done) | (simp [bP, isT, bitN, inN, *]; done) | (simp_all [bP, isT, bitN, inN]; done) | (repeat split) <;> first | rfl | contradiction | simp_all⟩
set_option maxHeartbeats 4000000 in
theorem c_refuse {g : GG} {S : MS} {x : Int32}  : Mt g miX8_refuse 1 [.int x] (S) (some (.int (-1))) (sI S 2 x) := by
  refine Mt.start (fun b => [some (.ref b), some (.int x)]) plX8 rfl (fun b => (Nat.le_of_ble_eq_true rfl)) (fun b => rfl) ?_
  intro σ b
  refine w_aload_n dX8_refuse_0 rfl ?_
  refine w_iload_n dX8_refuse_1 rfl ?_
  refine mp_status dX8_refuse_2 rfl ?_
  refine w_iconst (v := (-1)) dX8_refuse_5 ki_m1 ?_
  exact w_iret dX8_refuse_6 rfl ⟨by first | rfl | (simp only [bP, isT, bitN, inN, *, not_true_eq_false, not_false_eq_true, and_true, true_and, and_false, false_and, or_true, true_or, or_false, false_or, and_self, or_self, if_true, if_false, ite_true, ite_false]; done) | (simp [bP, isT, bitN, inN, *]; done) | (simp_all [bP, isT, bitN, inN]; done) | (repeat split) <;> first | rfl | contradiction | simp_all, by first | rfl | (simp only [bP, isT, bitN, inN, *, not_true_eq_false, not_false_eq_true, and_true, true_and, and_false, false_and, or_true, true_or, or_false, false_or, and_self, or_self, if_true, if_false, ite_true, ite_false]; done) | (simp [bP, isT, bitN, inN, *]; done) | (simp_all [bP, isT, bitN, inN]; done) | (repeat split) <;> first | rfl | contradiction | simp_all⟩
set_option maxHeartbeats 4000000 in
theorem c_gives {g : GG} {S : MS} {x : Int32}  : Mt g miX8_gives 1 [.int x] (S) (some (.int (x))) (sI S 2 (nI 0)) := by
  refine Mt.start (fun b => [some (.ref b), some (.int x)]) plX8 rfl (fun b => (Nat.le_of_ble_eq_true rfl)) (fun b => rfl) ?_
  intro σ b
  refine w_aload_n dX8_gives_0 rfl ?_
  refine w_iconst (v := nI 0) dX8_gives_1 ki_0 ?_
  refine mp_status dX8_gives_2 rfl ?_
  refine w_iload_n dX8_gives_5 rfl ?_
  exact w_iret dX8_gives_6 rfl ⟨by first | rfl | (simp only [bP, isT, bitN, inN, *, not_true_eq_false, not_false_eq_true, and_true, true_and, and_false, false_and, or_true, true_or, or_false, false_or, and_self, or_self, if_true, if_false, ite_true, ite_false]; done) | (simp [bP, isT, bitN, inN, *]; done) | (simp_all [bP, isT, bitN, inN]; done) | (repeat split) <;> first | rfl | contradiction | simp_all, by first | rfl | (simp only [bP, isT, bitN, inN, *, not_true_eq_false, not_false_eq_true, and_true, true_and, and_false, false_and, or_true, true_or, or_false, false_or, and_self, or_self, if_true, if_false, ite_true, ite_false]; done) | (simp [bP, isT, bitN, inN, *]; done) | (simp_all [bP, isT, bitN, inN]; done) | (repeat split) <;> first | rfl | contradiction | simp_all⟩
set_option maxHeartbeats 4000000 in
theorem c_orNone {g : GG} {S : MS} {x : Int32}  : Mt g miX8_orNone 2 [.int x] (S) (some (.int (x))) (sI S 2 (if x = -1 then nI 6 else nI 0)) := by
  refine Mt.start (fun b => [some (.ref b), some (.int x)]) plX8 rfl (fun b => (Nat.le_of_ble_eq_true rfl)) (fun b => rfl) ?_
  intro σ b
  refine w_iload_n dX8_orNone_0 rfl ?_
  refine w_iconst (v := (-1)) dX8_orNone_1 ki_m1 ?_
  refine w_icmp_ne dX8_orNone_2 rfl (fun h_2 => ?_) (fun h_2 => ?_)
  · refine w_aload_n dX8_orNone_14 rfl ?_
    refine w_iload_n dX8_orNone_15 rfl ?_
    refine m_calli1 (mi := miX8_gives) dX8_orNone_16 q1839 okX8_gives rfl (Nat.le_of_ble_eq_true rfl) c_gives (Nat.le_of_ble_eq_true rfl) ?_
    exact w_iret dX8_orNone_19 rfl ⟨by first | rfl | (simp only [bP, isT, bitN, inN, *, not_true_eq_false, not_false_eq_true, and_true, true_and, and_false, false_and, or_true, true_or, or_false, false_or, and_self, or_self, if_true, if_false, ite_true, ite_false]; done) | (simp [bP, isT, bitN, inN, *]; done) | (simp_all [bP, isT, bitN, inN]; done) | (repeat split) <;> first | rfl | contradiction | simp_all, by first | rfl | (simp only [bP, isT, bitN, inN, *, not_true_eq_false, not_false_eq_true, and_true, true_and, and_false, false_and, or_true, true_or, or_false, false_or, and_self, or_self, if_true, if_false, ite_true, ite_false]; done) | (simp [bP, isT, bitN, inN, *]; done) | (simp_all [bP, isT, bitN, inN]; done) | (repeat split) <;> first | rfl | contradiction | simp_all⟩
  · refine w_aload_n dX8_orNone_5 rfl ?_
    refine w_bipush (v := nI 6) dX8_orNone_6 kb_6 ?_
    refine m_calli1 (mi := miX8_refuse) dX8_orNone_8 q1746 okX8_refuse rfl (Nat.le_of_ble_eq_true rfl) c_refuse (Nat.le_of_ble_eq_true rfl) ?_
    refine w_goto dX8_orNone_11 rfl ?_
    exact w_iret dX8_orNone_19 rfl ⟨by first | rfl | (simp only [bP, isT, bitN, inN, *, not_true_eq_false, not_false_eq_true, and_true, true_and, and_false, false_and, or_true, true_or, or_false, false_or, and_self, or_self, if_true, if_false, ite_true, ite_false]; done) | (simp [bP, isT, bitN, inN, *]; done) | (simp_all [bP, isT, bitN, inN]; done) | (repeat split) <;> first | rfl | contradiction | simp_all, by first | rfl | (simp only [bP, isT, bitN, inN, *, not_true_eq_false, not_false_eq_true, and_true, true_and, and_false, false_and, or_true, true_or, or_false, false_or, and_self, or_self, if_true, if_false, ite_true, ite_false]; done) | (simp [bP, isT, bitN, inN, *]; done) | (simp_all [bP, isT, bitN, inN]; done) | (repeat split) <;> first | rfl | contradiction | simp_all⟩
set_option maxHeartbeats 4000000 in
theorem c_isTray {g : GG} {x : Int32}  : Ms g miX8_isTray 1 [.int x] (some (.int (bP (inN x 4)))) := by
  refine Ms.start [some (.int x)] plX8 rfl (Nat.le_of_ble_eq_true rfl) rfl ?_
  intro σ
  refine w_iload_n dX8_isTray_0 rfl ?_
  refine w_if_lt dX8_isTray_1 rfl (fun h_1 => ?_) (fun h_1 => ?_)
  · refine w_iconst (v := nI 0) dX8_isTray_13 ki_0 ?_
    exact w_zret dX8_isTray_14 rfl (by first | exact narr0 | exact narr1) ⟨by first | rfl | (simp only [bP, isT, bitN, inN, inN, *, not_true_eq_false, not_false_eq_true, and_true, true_and, and_false, false_and, or_true, true_or, or_false, false_or, and_self, or_self, if_true, if_false, ite_true, ite_false]; done) | (simp [bP, isT, bitN, inN, inN, *]; done) | (simp_all [bP, isT, bitN, inN, inN]; done) | (unfold inN; repeat split) <;> first | rfl | contradiction | simp_all, by first | rfl | (simp only [bP, isT, bitN, inN, inN, *, not_true_eq_false, not_false_eq_true, and_true, true_and, and_false, false_and, or_true, true_or, or_false, false_or, and_self, or_self, if_true, if_false, ite_true, ite_false]; done) | (simp [bP, isT, bitN, inN, inN, *]; done) | (simp_all [bP, isT, bitN, inN, inN]; done) | (unfold inN; repeat split) <;> first | rfl | contradiction | simp_all⟩
  · refine w_iload_n dX8_isTray_4 rfl ?_
    refine w_iconst (v := nI 4) dX8_isTray_5 ki_4 ?_
    refine w_icmp_ge dX8_isTray_6 rfl (fun h_6 => ?_) (fun h_6 => ?_)
    · refine w_iconst (v := nI 0) dX8_isTray_13 ki_0 ?_
      exact w_zret dX8_isTray_14 rfl (by first | exact narr0 | exact narr1) ⟨by first | rfl | (simp only [bP, isT, bitN, inN, inN, *, not_true_eq_false, not_false_eq_true, and_true, true_and, and_false, false_and, or_true, true_or, or_false, false_or, and_self, or_self, if_true, if_false, ite_true, ite_false]; done) | (simp [bP, isT, bitN, inN, inN, *]; done) | (simp_all [bP, isT, bitN, inN, inN]; done) | (unfold inN; repeat split) <;> first | rfl | contradiction | simp_all, by first | rfl | (simp only [bP, isT, bitN, inN, inN, *, not_true_eq_false, not_false_eq_true, and_true, true_and, and_false, false_and, or_true, true_or, or_false, false_or, and_self, or_self, if_true, if_false, ite_true, ite_false]; done) | (simp [bP, isT, bitN, inN, inN, *]; done) | (simp_all [bP, isT, bitN, inN, inN]; done) | (unfold inN; repeat split) <;> first | rfl | contradiction | simp_all⟩
    · refine w_iconst (v := nI 1) dX8_isTray_9 ki_1 ?_
      refine w_goto dX8_isTray_10 rfl ?_
      exact w_zret dX8_isTray_14 rfl (by first | exact narr0 | exact narr1) ⟨by first | rfl | (simp only [bP, isT, bitN, inN, inN, *, not_true_eq_false, not_false_eq_true, and_true, true_and, and_false, false_and, or_true, true_or, or_false, false_or, and_self, or_self, if_true, if_false, ite_true, ite_false]; done) | (simp [bP, isT, bitN, inN, inN, *]; done) | (simp_all [bP, isT, bitN, inN, inN]; done) | (unfold inN; repeat split) <;> first | rfl | contradiction | simp_all, by first | rfl | (simp only [bP, isT, bitN, inN, inN, *, not_true_eq_false, not_false_eq_true, and_true, true_and, and_false, false_and, or_true, true_or, or_false, false_or, and_self, or_self, if_true, if_false, ite_true, ite_false]; done) | (simp [bP, isT, bitN, inN, inN, *]; done) | (simp_all [bP, isT, bitN, inN, inN]; done) | (unfold inN; repeat split) <;> first | rfl | contradiction | simp_all⟩
set_option maxHeartbeats 4000000 in
theorem c_isFrom {g : GG} {x : Int64} {y : Int64} {z : Int64}  : Ms g miX8_isFrom 1 [.long x, .long y, .long z] (some (.int (bP (¬ lg_cmp x y < 0 ∧ ¬ 0 < lg_cmp x z)))) := by
  refine Ms.start [some (.long x), none, some (.long y), none, some (.long z), none] plX8 rfl (Nat.le_of_ble_eq_true rfl) rfl ?_
  intro σ
  refine w_lload_n dX8_isFrom_0 rfl ?_
  refine w_lload_n dX8_isFrom_1 rfl ?_
  refine w_lcmp dX8_isFrom_2 ?_
  refine w_if_lt dX8_isFrom_3 rfl (fun h_3 => ?_) (fun h_3 => ?_)
  · refine w_iconst (v := nI 0) dX8_isFrom_17 ki_0 ?_
    exact w_zret dX8_isFrom_18 rfl (by first | exact narr0 | exact narr1) ⟨by first | rfl | (simp only [bP, isT, bitN, inN, *, not_true_eq_false, not_false_eq_true, and_true, true_and, and_false, false_and, or_true, true_or, or_false, false_or, and_self, or_self, if_true, if_false, ite_true, ite_false]; done) | (simp [bP, isT, bitN, inN, *]; done) | (simp_all [bP, isT, bitN, inN]; done) | (repeat split) <;> first | rfl | contradiction | simp_all, by first | rfl | (simp only [bP, isT, bitN, inN, *, not_true_eq_false, not_false_eq_true, and_true, true_and, and_false, false_and, or_true, true_or, or_false, false_or, and_self, or_self, if_true, if_false, ite_true, ite_false]; done) | (simp [bP, isT, bitN, inN, *]; done) | (simp_all [bP, isT, bitN, inN]; done) | (repeat split) <;> first | rfl | contradiction | simp_all⟩
  · refine w_lload_n dX8_isFrom_6 rfl ?_
    refine w_lload dX8_isFrom_7 rfl ?_
    refine w_lcmp dX8_isFrom_9 ?_
    refine w_if_gt dX8_isFrom_10 rfl (fun h_10 => ?_) (fun h_10 => ?_)
    · refine w_iconst (v := nI 0) dX8_isFrom_17 ki_0 ?_
      exact w_zret dX8_isFrom_18 rfl (by first | exact narr0 | exact narr1) ⟨by first | rfl | (simp only [bP, isT, bitN, inN, *, not_true_eq_false, not_false_eq_true, and_true, true_and, and_false, false_and, or_true, true_or, or_false, false_or, and_self, or_self, if_true, if_false, ite_true, ite_false]; done) | (simp [bP, isT, bitN, inN, *]; done) | (simp_all [bP, isT, bitN, inN]; done) | (repeat split) <;> first | rfl | contradiction | simp_all, by first | rfl | (simp only [bP, isT, bitN, inN, *, not_true_eq_false, not_false_eq_true, and_true, true_and, and_false, false_and, or_true, true_or, or_false, false_or, and_self, or_self, if_true, if_false, ite_true, ite_false]; done) | (simp [bP, isT, bitN, inN, *]; done) | (simp_all [bP, isT, bitN, inN]; done) | (repeat split) <;> first | rfl | contradiction | simp_all⟩
    · refine w_iconst (v := nI 1) dX8_isFrom_13 ki_1 ?_
      refine w_goto dX8_isFrom_14 rfl ?_
      exact w_zret dX8_isFrom_18 rfl (by first | exact narr0 | exact narr1) ⟨by first | rfl | (simp only [bP, isT, bitN, inN, *, not_true_eq_false, not_false_eq_true, and_true, true_and, and_false, false_and, or_true, true_or, or_false, false_or, and_self, or_self, if_true, if_false, ite_true, ite_false]; done) | (simp [bP, isT, bitN, inN, *]; done) | (simp_all [bP, isT, bitN, inN]; done) | (repeat split) <;> first | rfl | contradiction | simp_all, by first | rfl | (simp only [bP, isT, bitN, inN, *, not_true_eq_false, not_false_eq_true, and_true, true_and, and_false, false_and, or_true, true_or, or_false, false_or, and_self, or_self, if_true, if_false, ite_true, ite_false]; done) | (simp [bP, isT, bitN, inN, *]; done) | (simp_all [bP, isT, bitN, inN]; done) | (repeat split) <;> first | rfl | contradiction | simp_all⟩
set_option maxHeartbeats 4000000 in
theorem c_findRow {g : GG} {s : Nat} {d : Nat}  : Ms g miX8_findRow 1 [.int (nI s), .int (nI d)] (some (.int (nI (s + 40 + 3 * d)))) := by
  refine Ms.start [some (.int (nI s)), some (.int (nI d))] plX8 rfl (Nat.le_of_ble_eq_true rfl) rfl ?_
  intro σ
  refine w_iload_n dX8_findRow_0 rfl ?_
  refine w_bipush (v := nI 40) dX8_findRow_1 kb_40 ?_
  refine w_iaddN dX8_findRow_3 ?_
  refine w_iconst (v := nI 3) dX8_findRow_4 ki_3 ?_
  refine w_iload_n dX8_findRow_5 rfl ?_
  refine w_imulN dX8_findRow_6 ?_
  refine w_iaddN dX8_findRow_7 ?_
  exact w_iret dX8_findRow_8 rfl ⟨by first | rfl | (simp only [bP, isT, bitN, inN, *, not_true_eq_false, not_false_eq_true, and_true, true_and, and_false, false_and, or_true, true_or, or_false, false_or, and_self, or_self, if_true, if_false, ite_true, ite_false]; done) | (simp [bP, isT, bitN, inN, *]; done) | (simp_all [bP, isT, bitN, inN]; done) | (repeat split) <;> first | rfl | contradiction | simp_all, by first | rfl | (simp only [bP, isT, bitN, inN, *, not_true_eq_false, not_false_eq_true, and_true, true_and, and_false, false_and, or_true, true_or, or_false, false_or, and_self, or_self, if_true, if_false, ite_true, ite_false]; done) | (simp [bP, isT, bitN, inN, *]; done) | (simp_all [bP, isT, bitN, inN]; done) | (repeat split) <;> first | rfl | contradiction | simp_all⟩
set_option maxHeartbeats 4000000 in
theorem c_pebbleRow {g : GG} {s : Nat} {d : Nat} {k : Nat}  : Ms g miX8_pebbleRow 1 [.int (nI s), .int (nI d), .int (nI k)] (some (.int (nI (s + 64 + 120 * d + 2 * k)))) := by
  refine Ms.start [some (.int (nI s)), some (.int (nI d)), some (.int (nI k))] plX8 rfl (Nat.le_of_ble_eq_true rfl) rfl ?_
  intro σ
  refine w_iload_n dX8_pebbleRow_0 rfl ?_
  refine w_bipush (v := nI 64) dX8_pebbleRow_1 kb_64 ?_
  refine w_iaddN dX8_pebbleRow_3 ?_
  refine w_bipush (v := nI 120) dX8_pebbleRow_4 kb_120 ?_
  refine w_iload_n dX8_pebbleRow_6 rfl ?_
  refine w_imulN dX8_pebbleRow_7 ?_
  refine w_iaddN dX8_pebbleRow_8 ?_
  refine w_iconst (v := nI 2) dX8_pebbleRow_9 ki_2 ?_
  refine w_iload_n dX8_pebbleRow_10 rfl ?_
  refine w_imulN dX8_pebbleRow_11 ?_
  refine w_iaddN dX8_pebbleRow_12 ?_
  exact w_iret dX8_pebbleRow_13 rfl ⟨by first | rfl | (simp only [bP, isT, bitN, inN, *, not_true_eq_false, not_false_eq_true, and_true, true_and, and_false, false_and, or_true, true_or, or_false, false_or, and_self, or_self, if_true, if_false, ite_true, ite_false]; done) | (simp [bP, isT, bitN, inN, *]; done) | (simp_all [bP, isT, bitN, inN]; done) | (repeat split) <;> first | rfl | contradiction | simp_all, by first | rfl | (simp only [bP, isT, bitN, inN, *, not_true_eq_false, not_false_eq_true, and_true, true_and, and_false, false_and, or_true, true_or, or_false, false_or, and_self, or_self, if_true, if_false, ite_true, ite_false]; done) | (simp [bP, isT, bitN, inN, *]; done) | (simp_all [bP, isT, bitN, inN]; done) | (repeat split) <;> first | rfl | contradiction | simp_all⟩
set_option maxHeartbeats 4000000 in
theorem c_finderRow {g : GG} {f : Nat}  : Ms g miX8_finderRow 1 [.int (nI f)] (some (.int (nI (10 + 5 * f)))) := by
  refine Ms.start [some (.int (nI f))] plX8 rfl (Nat.le_of_ble_eq_true rfl) rfl ?_
  intro σ
  refine w_bipush (v := nI 10) dX8_finderRow_0 kb_10 ?_
  refine w_iconst (v := nI 5) dX8_finderRow_2 ki_5 ?_
  refine w_iload_n dX8_finderRow_3 rfl ?_
  refine w_imulN dX8_finderRow_4 ?_
  refine w_iaddN dX8_finderRow_5 ?_
  exact w_iret dX8_finderRow_6 rfl ⟨by first | rfl | (simp only [bP, isT, bitN, inN, *, not_true_eq_false, not_false_eq_true, and_true, true_and, and_false, false_and, or_true, true_or, or_false, false_or, and_self, or_self, if_true, if_false, ite_true, ite_false]; done) | (simp [bP, isT, bitN, inN, *]; done) | (simp_all [bP, isT, bitN, inN]; done) | (repeat split) <;> first | rfl | contradiction | simp_all, by first | rfl | (simp only [bP, isT, bitN, inN, *, not_true_eq_false, not_false_eq_true, and_true, true_and, and_false, false_and, or_true, true_or, or_false, false_or, and_self, or_self, if_true, if_false, ite_true, ite_false]; done) | (simp [bP, isT, bitN, inN, *]; done) | (simp_all [bP, isT, bitN, inN]; done) | (repeat split) <;> first | rfl | contradiction | simp_all⟩
set_option maxHeartbeats 4000000 in
theorem c_isFinder {g : GG} {S : MS} {x : Int32} {V : VS} (E : Enc S V) (K : OkV V) : Mt g miX8_isFinder 1 [.int x] (S) (some (.int (bP (inN x (vs V 1))))) (S) := by
  refine Mt.start (fun b => [some (.ref b), some (.int x)]) plX8 rfl (fun b => (Nat.le_of_ble_eq_true rfl)) (fun b => rfl) ?_
  intro σ b
  have kb := K.b
  refine w_iload_n dX8_isFinder_0 rfl ?_
  refine w_if_lt dX8_isFinder_1 rfl (fun h_1 => ?_) (fun h_1 => ?_)
  · refine w_iconst (v := nI 0) dX8_isFinder_18 ki_0 ?_
    exact w_zret dX8_isFinder_19 rfl (by first | exact narr0 | exact narr1) ⟨by first | rfl | (simp only [bP, isT, bitN, inN, inN, *, not_true_eq_false, not_false_eq_true, and_true, true_and, and_false, false_and, or_true, true_or, or_false, false_or, and_self, or_self, if_true, if_false, ite_true, ite_false]; done) | (simp [bP, isT, bitN, inN, inN, *]; done) | (simp_all [bP, isT, bitN, inN, inN]; done) | (unfold inN; repeat split) <;> first | rfl | contradiction | simp_all, by first | rfl | (simp only [bP, isT, bitN, inN, inN, *, not_true_eq_false, not_false_eq_true, and_true, true_and, and_false, false_and, or_true, true_or, or_false, false_or, and_self, or_self, if_true, if_false, ite_true, ite_false]; done) | (simp [bP, isT, bitN, inN, inN, *]; done) | (simp_all [bP, isT, bitN, inN, inN]; done) | (unfold inN; repeat split) <;> first | rfl | contradiction | simp_all⟩
  · refine w_iload_n dX8_isFinder_4 rfl ?_
    refine w_aload_n dX8_isFinder_5 rfl ?_
    refine mg_at dX8_isFinder_6 rfl ?_
    refine w_iconst (v := nI 1) dX8_isFinder_9 ki_1 ?_
    refine ma_at dX8_isFinder_10 (by omega) ?_
    refine w_topN (E.s 1 (by omega)) ?_
    refine w_icmp_ge dX8_isFinder_11 rfl (fun h_11 => ?_) (fun h_11 => ?_)
    · refine w_iconst (v := nI 0) dX8_isFinder_18 ki_0 ?_
      exact w_zret dX8_isFinder_19 rfl (by first | exact narr0 | exact narr1) ⟨by first | rfl | (simp only [bP, isT, bitN, inN, inN, *, not_true_eq_false, not_false_eq_true, and_true, true_and, and_false, false_and, or_true, true_or, or_false, false_or, and_self, or_self, if_true, if_false, ite_true, ite_false]; done) | (simp [bP, isT, bitN, inN, inN, *]; done) | (simp_all [bP, isT, bitN, inN, inN]; done) | (unfold inN; repeat split) <;> first | rfl | contradiction | simp_all, by first | rfl | (simp only [bP, isT, bitN, inN, inN, *, not_true_eq_false, not_false_eq_true, and_true, true_and, and_false, false_and, or_true, true_or, or_false, false_or, and_self, or_self, if_true, if_false, ite_true, ite_false]; done) | (simp [bP, isT, bitN, inN, inN, *]; done) | (simp_all [bP, isT, bitN, inN, inN]; done) | (unfold inN; repeat split) <;> first | rfl | contradiction | simp_all⟩
    · refine w_iconst (v := nI 1) dX8_isFinder_14 ki_1 ?_
      refine w_goto dX8_isFinder_15 rfl ?_
      exact w_zret dX8_isFinder_19 rfl (by first | exact narr0 | exact narr1) ⟨by first | rfl | (simp only [bP, isT, bitN, inN, inN, *, not_true_eq_false, not_false_eq_true, and_true, true_and, and_false, false_and, or_true, true_or, or_false, false_or, and_self, or_self, if_true, if_false, ite_true, ite_false]; done) | (simp [bP, isT, bitN, inN, inN, *]; done) | (simp_all [bP, isT, bitN, inN, inN]; done) | (unfold inN; repeat split) <;> first | rfl | contradiction | simp_all, by first | rfl | (simp only [bP, isT, bitN, inN, inN, *, not_true_eq_false, not_false_eq_true, and_true, true_and, and_false, false_and, or_true, true_or, or_false, false_or, and_self, or_self, if_true, if_false, ite_true, ite_false]; done) | (simp [bP, isT, bitN, inN, inN, *]; done) | (simp_all [bP, isT, bitN, inN, inN]; done) | (unfold inN; repeat split) <;> first | rfl | contradiction | simp_all⟩
set_option maxHeartbeats 4000000 in
theorem c_isFind {g : GG} {S : MS} {x : Int32} {V : VS} (E : Enc S V) (K : OkV V) : Mt g miX8_isFind 1 [.int x] (S) (some (.int (bP (inN x (vs V 2))))) (S) := by
  refine Mt.start (fun b => [some (.ref b), some (.int x)]) plX8 rfl (fun b => (Nat.le_of_ble_eq_true rfl)) (fun b => rfl) ?_
  intro σ b
  have kb := K.b
  refine w_iload_n dX8_isFind_0 rfl ?_
  refine w_if_lt dX8_isFind_1 rfl (fun h_1 => ?_) (fun h_1 => ?_)
  · refine w_iconst (v := nI 0) dX8_isFind_18 ki_0 ?_
    exact w_zret dX8_isFind_19 rfl (by first | exact narr0 | exact narr1) ⟨by first | rfl | (simp only [bP, isT, bitN, inN, inN, *, not_true_eq_false, not_false_eq_true, and_true, true_and, and_false, false_and, or_true, true_or, or_false, false_or, and_self, or_self, if_true, if_false, ite_true, ite_false]; done) | (simp [bP, isT, bitN, inN, inN, *]; done) | (simp_all [bP, isT, bitN, inN, inN]; done) | (unfold inN; repeat split) <;> first | rfl | contradiction | simp_all, by first | rfl | (simp only [bP, isT, bitN, inN, inN, *, not_true_eq_false, not_false_eq_true, and_true, true_and, and_false, false_and, or_true, true_or, or_false, false_or, and_self, or_self, if_true, if_false, ite_true, ite_false]; done) | (simp [bP, isT, bitN, inN, inN, *]; done) | (simp_all [bP, isT, bitN, inN, inN]; done) | (unfold inN; repeat split) <;> first | rfl | contradiction | simp_all⟩
  · refine w_iload_n dX8_isFind_4 rfl ?_
    refine w_aload_n dX8_isFind_5 rfl ?_
    refine mg_at dX8_isFind_6 rfl ?_
    refine w_iconst (v := nI 2) dX8_isFind_9 ki_2 ?_
    refine ma_at dX8_isFind_10 (by omega) ?_
    refine w_topN (E.s 2 (by omega)) ?_
    refine w_icmp_ge dX8_isFind_11 rfl (fun h_11 => ?_) (fun h_11 => ?_)
    · refine w_iconst (v := nI 0) dX8_isFind_18 ki_0 ?_
      exact w_zret dX8_isFind_19 rfl (by first | exact narr0 | exact narr1) ⟨by first | rfl | (simp only [bP, isT, bitN, inN, inN, *, not_true_eq_false, not_false_eq_true, and_true, true_and, and_false, false_and, or_true, true_or, or_false, false_or, and_self, or_self, if_true, if_false, ite_true, ite_false]; done) | (simp [bP, isT, bitN, inN, inN, *]; done) | (simp_all [bP, isT, bitN, inN, inN]; done) | (unfold inN; repeat split) <;> first | rfl | contradiction | simp_all, by first | rfl | (simp only [bP, isT, bitN, inN, inN, *, not_true_eq_false, not_false_eq_true, and_true, true_and, and_false, false_and, or_true, true_or, or_false, false_or, and_self, or_self, if_true, if_false, ite_true, ite_false]; done) | (simp [bP, isT, bitN, inN, inN, *]; done) | (simp_all [bP, isT, bitN, inN, inN]; done) | (unfold inN; repeat split) <;> first | rfl | contradiction | simp_all⟩
    · refine w_iconst (v := nI 1) dX8_isFind_14 ki_1 ?_
      refine w_goto dX8_isFind_15 rfl ?_
      exact w_zret dX8_isFind_19 rfl (by first | exact narr0 | exact narr1) ⟨by first | rfl | (simp only [bP, isT, bitN, inN, inN, *, not_true_eq_false, not_false_eq_true, and_true, true_and, and_false, false_and, or_true, true_or, or_false, false_or, and_self, or_self, if_true, if_false, ite_true, ite_false]; done) | (simp [bP, isT, bitN, inN, inN, *]; done) | (simp_all [bP, isT, bitN, inN, inN]; done) | (unfold inN; repeat split) <;> first | rfl | contradiction | simp_all, by first | rfl | (simp only [bP, isT, bitN, inN, inN, *, not_true_eq_false, not_false_eq_true, and_true, true_and, and_false, false_and, or_true, true_or, or_false, false_or, and_self, or_self, if_true, if_false, ite_true, ite_false]; done) | (simp [bP, isT, bitN, inN, inN, *]; done) | (simp_all [bP, isT, bitN, inN, inN]; done) | (unfold inN; repeat split) <;> first | rfl | contradiction | simp_all⟩
set_option maxHeartbeats 4000000 in
theorem c_isThere {g : GG} {S : MS} {d : Nat} {V : VS} (E : Enc S V) (K : OkV V) (hd8 : d < 8) : Mt g miX8_isThere 1 [.int (nI d)] (S) (some (.int (bP (isT V d)))) (S) := by
  refine Mt.start (fun b => [some (.ref b), some (.int (nI d))]) plX8 rfl (fun b => (Nat.le_of_ble_eq_true rfl)) (fun b => rfl) ?_
  intro σ b
  have kb := K.b
  refine w_aload_n dX8_isThere_0 rfl ?_
  refine mg_at dX8_isThere_1 rfl ?_
  refine w_bipush (v := nI 7) dX8_isThere_4 kb_7 ?_
  refine ma_at dX8_isThere_6 (by omega) ?_
  refine w_topN (E.s 7 (by omega)) ?_
  refine w_iload_n dX8_isThere_7 rfl ?_
  refine w_ishrN dX8_isThere_8 (by omega) (by omega) ?_
  refine w_iconst (v := nI 1) dX8_isThere_9 ki_1 ?_
  refine w_iandN dX8_isThere_10 ?_
  refine w_iconst (v := nI 1) dX8_isThere_11 ki_1 ?_
  refine w_icmpN_ne dX8_isThere_12 rfl (and1_lt _) (by omega) (fun h_12 => ?_) (fun h_12 => ?_)
  · refine w_iconst (v := nI 0) dX8_isThere_19 ki_0 ?_
    exact w_zret dX8_isThere_20 rfl (by first | exact narr0 | exact narr1) ⟨by first | rfl | (simp only [bP, isT, bitN, inN, *, not_true_eq_false, not_false_eq_true, and_true, true_and, and_false, false_and, or_true, true_or, or_false, false_or, and_self, or_self, if_true, if_false, ite_true, ite_false]; done) | (simp [bP, isT, bitN, inN, *]; done) | (simp_all [bP, isT, bitN, inN]; done) | (repeat split) <;> first | rfl | contradiction | simp_all, by first | rfl | (simp only [bP, isT, bitN, inN, *, not_true_eq_false, not_false_eq_true, and_true, true_and, and_false, false_and, or_true, true_or, or_false, false_or, and_self, or_self, if_true, if_false, ite_true, ite_false]; done) | (simp [bP, isT, bitN, inN, *]; done) | (simp_all [bP, isT, bitN, inN]; done) | (repeat split) <;> first | rfl | contradiction | simp_all⟩
  · refine w_iconst (v := nI 1) dX8_isThere_15 ki_1 ?_
    refine w_goto dX8_isThere_16 rfl ?_
    exact w_zret dX8_isThere_20 rfl (by first | exact narr0 | exact narr1) ⟨by first | rfl | (simp only [bP, isT, bitN, inN, *, not_true_eq_false, not_false_eq_true, and_true, true_and, and_false, false_and, or_true, true_or, or_false, false_or, and_self, or_self, if_true, if_false, ite_true, ite_false]; done) | (simp [bP, isT, bitN, inN, *]; done) | (simp_all [bP, isT, bitN, inN]; done) | (repeat split) <;> first | rfl | contradiction | simp_all, by first | rfl | (simp only [bP, isT, bitN, inN, *, not_true_eq_false, not_false_eq_true, and_true, true_and, and_false, false_and, or_true, true_or, or_false, false_or, and_self, or_self, if_true, if_false, ite_true, ite_false]; done) | (simp [bP, isT, bitN, inN, *]; done) | (simp_all [bP, isT, bitN, inN]; done) | (repeat split) <;> first | rfl | contradiction | simp_all⟩
set_option maxHeartbeats 4000000 in
theorem c_manyOn {g : GG} {S : MS} {d : Nat} {V : VS} (E : Enc S V) (K : OkV V) (hd8 : d < 8) : Mt g miX8_manyOn 2 [.int (nI d)] (S) (some (.int (nI (vt V 7 d)))) (S) := by
  refine Mt.start (fun b => [some (.ref b), some (.int (nI d))]) plX8 rfl (fun b => (Nat.le_of_ble_eq_true rfl)) (fun b => rfl) ?_
  intro σ b
  have kb := K.b
  refine w_aload_n dX8_manyOn_0 rfl ?_
  refine mg_at dX8_manyOn_1 rfl ?_
  refine w_iconst (v := nI 0) dX8_manyOn_4 ki_0 ?_
  refine w_iload_n dX8_manyOn_5 rfl ?_
  refine s_calli2 (mi := miX8_findRow) dX8_manyOn_6 q1813 okX8_findRow (Nat.le_of_ble_eq_true rfl) c_findRow (Nat.le_of_ble_eq_true rfl) ?_
  refine w_iconst (v := nI 2) dX8_manyOn_9 ki_2 ?_
  refine w_iaddN dX8_manyOn_10 ?_
  refine ma_at dX8_manyOn_11 (by omega) ?_
  refine w_topN (E.d2 (by omega)) ?_
  exact w_iret dX8_manyOn_12 rfl ⟨by first | rfl | (simp only [bP, isT, bitN, inN, *, not_true_eq_false, not_false_eq_true, and_true, true_and, and_false, false_and, or_true, true_or, or_false, false_or, and_self, or_self, if_true, if_false, ite_true, ite_false]; done) | (simp [bP, isT, bitN, inN, *]; done) | (simp_all [bP, isT, bitN, inN]; done) | (repeat split) <;> first | rfl | contradiction | simp_all, by first | rfl | (simp only [bP, isT, bitN, inN, *, not_true_eq_false, not_false_eq_true, and_true, true_and, and_false, false_and, or_true, true_or, or_false, false_or, and_self, or_self, if_true, if_false, ite_true, ite_false]; done) | (simp [bP, isT, bitN, inN, *]; done) | (simp_all [bP, isT, bitN, inN]; done) | (repeat split) <;> first | rfl | contradiction | simp_all⟩
set_option maxHeartbeats 4000000 in
theorem c_whoAt {g : GG} {S : MS} {d : Nat} {k : Nat} {V : VS} (E : Enc S V) (K : OkV V) (hd8 : d < 8) (hk : k < vt V 7 d) : Mt g miX8_whoAt 2 [.int (nI d), .int (nI k)] (S) (some (.int (nI (vp V 0 d k)))) (S) := by
  refine Mt.start (fun b => [some (.ref b), some (.int (nI d)), some (.int (nI k))]) plX8 rfl (fun b => (Nat.le_of_ble_eq_true rfl)) (fun b => rfl) ?_
  intro σ b
  have kb := K.b
  have kn := K.n hd8
  refine w_aload_n dX8_whoAt_0 rfl ?_
  refine mg_at dX8_whoAt_1 rfl ?_
  refine w_iconst (v := nI 0) dX8_whoAt_4 ki_0 ?_
  refine w_iload_n dX8_whoAt_5 rfl ?_
  refine w_iload_n dX8_whoAt_6 rfl ?_
  refine s_calli3 (mi := miX8_pebbleRow) dX8_whoAt_7 q1828 okX8_pebbleRow (Nat.le_of_ble_eq_true rfl) c_pebbleRow (Nat.le_of_ble_eq_true rfl) ?_
  refine ma_at dX8_whoAt_10 (by omega) ?_
  refine w_topN (E.p 0 (by omega) (by omega) (by omega)) ?_
  exact w_iret dX8_whoAt_11 rfl ⟨by first | rfl | (simp only [bP, isT, bitN, inN, *, not_true_eq_false, not_false_eq_true, and_true, true_and, and_false, false_and, or_true, true_or, or_false, false_or, and_self, or_self, if_true, if_false, ite_true, ite_false]; done) | (simp [bP, isT, bitN, inN, *]; done) | (simp_all [bP, isT, bitN, inN]; done) | (repeat split) <;> first | rfl | contradiction | simp_all, by first | rfl | (simp only [bP, isT, bitN, inN, *, not_true_eq_false, not_false_eq_true, and_true, true_and, and_false, false_and, or_true, true_or, or_false, false_or, and_self, or_self, if_true, if_false, ite_true, ite_false]; done) | (simp [bP, isT, bitN, inN, *]; done) | (simp_all [bP, isT, bitN, inN]; done) | (repeat split) <;> first | rfl | contradiction | simp_all⟩
set_option maxHeartbeats 4000000 in
theorem c_minuteAt {g : GG} {S : MS} {d : Nat} {k : Nat} {V : VS} (E : Enc S V) (K : OkV V) (hd8 : d < 8) (hk : k < vt V 7 d) : Mt g miX8_minuteAt 2 [.int (nI d), .int (nI k)] (S) (some (.int (nI (vp V 1 d k)))) (S) := by
  refine Mt.start (fun b => [some (.ref b), some (.int (nI d)), some (.int (nI k))]) plX8 rfl (fun b => (Nat.le_of_ble_eq_true rfl)) (fun b => rfl) ?_
  intro σ b
  have kb := K.b
  have kn := K.n hd8
  refine w_aload_n dX8_minuteAt_0 rfl ?_
  refine mg_at dX8_minuteAt_1 rfl ?_
  refine w_iconst (v := nI 0) dX8_minuteAt_4 ki_0 ?_
  refine w_iload_n dX8_minuteAt_5 rfl ?_
  refine w_iload_n dX8_minuteAt_6 rfl ?_
  refine s_calli3 (mi := miX8_pebbleRow) dX8_minuteAt_7 q1828 okX8_pebbleRow (Nat.le_of_ble_eq_true rfl) c_pebbleRow (Nat.le_of_ble_eq_true rfl) ?_
  refine w_iconst (v := nI 1) dX8_minuteAt_10 ki_1 ?_
  refine w_iaddN dX8_minuteAt_11 ?_
  refine ma_at dX8_minuteAt_12 (by omega) ?_
  refine w_topN (E.p 1 (by omega) (by omega) (by omega)) ?_
  exact w_iret dX8_minuteAt_13 rfl ⟨by first | rfl | (simp only [bP, isT, bitN, inN, *, not_true_eq_false, not_false_eq_true, and_true, true_and, and_false, false_and, or_true, true_or, or_false, false_or, and_self, or_self, if_true, if_false, ite_true, ite_false]; done) | (simp [bP, isT, bitN, inN, *]; done) | (simp_all [bP, isT, bitN, inN]; done) | (repeat split) <;> first | rfl | contradiction | simp_all, by first | rfl | (simp only [bP, isT, bitN, inN, *, not_true_eq_false, not_false_eq_true, and_true, true_and, and_false, false_and, or_true, true_or, or_false, false_or, and_self, or_self, if_true, if_false, ite_true, ite_false]; done) | (simp [bP, isT, bitN, inN, *]; done) | (simp_all [bP, isT, bitN, inN]; done) | (repeat split) <;> first | rfl | contradiction | simp_all⟩
set_option maxHeartbeats 4000000 in
theorem c_wrongFind {g : GG} {S : MS} {x : Int32} {V : VS} (E : Enc S V) (K : OkV V) : Mt g miX8_wrongFind 2 [.int x] (S) (some (.int (nI (wfV V x)))) (S) := by
  refine Mt.start (fun b => [some (.ref b), some (.int x)]) plX8 rfl (fun b => (Nat.le_of_ble_eq_true rfl)) (fun b => rfl) ?_
  intro σ b
  have kb := K.b
  refine w_aload_n dX8_wrongFind_0 rfl ?_
  refine w_iload_n dX8_wrongFind_1 rfl ?_
  refine m_calli1 (mi := miX8_isFind) dX8_wrongFind_2 q1886 okX8_isFind rfl (Nat.le_of_ble_eq_true rfl) (c_isFind E K) (Nat.le_of_ble_eq_true rfl) ?_
  refine w_ifB_ne dX8_wrongFind_5 rfl (fun h_5 => ?_) (fun h_5 => ?_)
  · have hx := h_5
    obtain ⟨d, hd, rfl⟩ := inN_of h_5 (by omega)
    have hcl : cl (nI d) = d := nI_clamp (by omega)
    refine w_aload_n dX8_wrongFind_12 rfl ?_
    refine w_iload_n dX8_wrongFind_13 rfl ?_
    refine m_calli1 (mi := miX8_isThere) dX8_wrongFind_14 q1935 okX8_isThere rfl (Nat.le_of_ble_eq_true rfl) (c_isThere E K (by first | assumption | omega)) (Nat.le_of_ble_eq_true rfl) ?_
    refine w_ifB_eq dX8_wrongFind_17 rfl (fun h_17 => ?_) (fun h_17 => ?_)
    · refine w_bipush (v := nI 7) dX8_wrongFind_24 kb_7 ?_
      exact w_iret dX8_wrongFind_26 rfl ⟨by first | rfl | (simp only [bP, isT, bitN, inN, wfV, *, not_true_eq_false, not_false_eq_true, and_true, true_and, and_false, false_and, or_true, true_or, or_false, false_or, and_self, or_self, if_true, if_false, ite_true, ite_false]; done) | (simp [bP, isT, bitN, inN, wfV, *]; done) | (simp_all [bP, isT, bitN, inN, wfV]; done) | (unfold wfV; repeat split) <;> first | rfl | contradiction | simp_all, by first | rfl | (simp only [bP, isT, bitN, inN, wfV, *, not_true_eq_false, not_false_eq_true, and_true, true_and, and_false, false_and, or_true, true_or, or_false, false_or, and_self, or_self, if_true, if_false, ite_true, ite_false]; done) | (simp [bP, isT, bitN, inN, wfV, *]; done) | (simp_all [bP, isT, bitN, inN, wfV]; done) | (unfold wfV; repeat split) <;> first | rfl | contradiction | simp_all⟩
    · refine w_iconst (v := nI 0) dX8_wrongFind_20 ki_0 ?_
      refine w_goto dX8_wrongFind_21 rfl ?_
      exact w_iret dX8_wrongFind_26 rfl ⟨by first | rfl | (simp only [bP, isT, bitN, inN, wfV, *, not_true_eq_false, not_false_eq_true, and_true, true_and, and_false, false_and, or_true, true_or, or_false, false_or, and_self, or_self, if_true, if_false, ite_true, ite_false]; done) | (simp [bP, isT, bitN, inN, wfV, *]; done) | (simp_all [bP, isT, bitN, inN, wfV]; done) | (unfold wfV; repeat split) <;> first | rfl | contradiction | simp_all, by first | rfl | (simp only [bP, isT, bitN, inN, wfV, *, not_true_eq_false, not_false_eq_true, and_true, true_and, and_false, false_and, or_true, true_or, or_false, false_or, and_self, or_self, if_true, if_false, ite_true, ite_false]; done) | (simp [bP, isT, bitN, inN, wfV, *]; done) | (simp_all [bP, isT, bitN, inN, wfV]; done) | (unfold wfV; repeat split) <;> first | rfl | contradiction | simp_all⟩
  · refine w_iconst (v := nI 1) dX8_wrongFind_8 ki_1 ?_
    refine w_goto dX8_wrongFind_9 rfl ?_
    exact w_iret dX8_wrongFind_26 rfl ⟨by first | rfl | (simp only [bP, isT, bitN, inN, wfV, *, not_true_eq_false, not_false_eq_true, and_true, true_and, and_false, false_and, or_true, true_or, or_false, false_or, and_self, or_self, if_true, if_false, ite_true, ite_false]; done) | (simp [bP, isT, bitN, inN, wfV, *]; done) | (simp_all [bP, isT, bitN, inN, wfV]; done) | (unfold wfV; repeat split) <;> first | rfl | contradiction | simp_all, by first | rfl | (simp only [bP, isT, bitN, inN, wfV, *, not_true_eq_false, not_false_eq_true, and_true, true_and, and_false, false_and, or_true, true_or, or_false, false_or, and_self, or_self, if_true, if_false, ite_true, ite_false]; done) | (simp [bP, isT, bitN, inN, wfV, *]; done) | (simp_all [bP, isT, bitN, inN, wfV]; done) | (unfold wfV; repeat split) <;> first | rfl | contradiction | simp_all⟩
set_option maxHeartbeats 4000000 in
theorem c_stepsTo {g : GG} {S : MS} {f : Nat} {c : Nat} {V : VS} (E : Enc S V) (K : OkV V) (hf : f < vs V 1) (hc : c < 40) : Mt g miX8_stepsTo 2 [.int (nI f), .int (nI c)] (S) (some (.int (nI (vt V 1 f * nabs (vt V 0 f) c)))) (S) := by
  refine Mt.start (fun b => [some (.ref b), some (.int (nI f)), some (.int (nI c))]) plX8 rfl (fun b => (Nat.le_of_ble_eq_true rfl)) (fun b => rfl) ?_
  intro σ b
  have kb := K.b
  have kf_f := K.f hf
  refine w_aload_n dX8_stepsTo_0 rfl ?_
  refine mg_at dX8_stepsTo_1 rfl ?_
  refine w_iload_n dX8_stepsTo_4 rfl ?_
  refine s_calli1 (mi := miX8_finderRow) dX8_stepsTo_5 q1879 okX8_finderRow (Nat.le_of_ble_eq_true rfl) c_finderRow (Nat.le_of_ble_eq_true rfl) ?_
  refine w_iconst (v := nI 1) dX8_stepsTo_8 ki_1 ?_
  refine w_iaddN dX8_stepsTo_9 ?_
  refine ma_at dX8_stepsTo_10 (by omega) ?_
  refine w_topN (E.f 1 (by omega) (by omega)) ?_
  refine w_aload_n dX8_stepsTo_11 rfl ?_
  refine mg_at dX8_stepsTo_12 rfl ?_
  refine w_iload_n dX8_stepsTo_15 rfl ?_
  refine s_calli1 (mi := miX8_finderRow) dX8_stepsTo_16 q1879 okX8_finderRow (Nat.le_of_ble_eq_true rfl) c_finderRow (Nat.le_of_ble_eq_true rfl) ?_
  refine ma_at dX8_stepsTo_19 (by omega) ?_
  refine w_topN (E.f 0 (by omega) (by omega)) ?_
  refine w_iload_n dX8_stepsTo_20 rfl ?_
  refine w_isub dX8_stepsTo_21 ?_
  refine w_mabs dX8_stepsTo_22 q1913 q1058 q155 q1059 (Nat.le_of_ble_eq_true rfl) (Nat.le_of_ble_eq_true rfl) ?_
  refine w_topN (abs_n (by omega) (by omega)) ?_
  refine w_imulN dX8_stepsTo_25 ?_
  exact w_iret dX8_stepsTo_26 rfl ⟨by first | rfl | (simp only [bP, isT, bitN, inN, *, not_true_eq_false, not_false_eq_true, and_true, true_and, and_false, false_and, or_true, true_or, or_false, false_or, and_self, or_self, if_true, if_false, ite_true, ite_false]; done) | (simp [bP, isT, bitN, inN, *]; done) | (simp_all [bP, isT, bitN, inN]; done) | (repeat split) <;> first | rfl | contradiction | simp_all, by first | rfl | (simp only [bP, isT, bitN, inN, *, not_true_eq_false, not_false_eq_true, and_true, true_and, and_false, false_and, or_true, true_or, or_false, false_or, and_self, or_self, if_true, if_false, ite_true, ite_false]; done) | (simp [bP, isT, bitN, inN, *]; done) | (simp_all [bP, isT, bitN, inN]; done) | (repeat split) <;> first | rfl | contradiction | simp_all⟩
set_option maxHeartbeats 4000000 in
theorem c_mayTo {g : GG} {S : MS} {f : Nat} {x : Nat} {V : VS} (E : Enc S V) (K : OkV V) (hf : f < vs V 1) (hx : x < 1000000) : Mt g miX8_mayTo 2 [.int (nI f), .int (nI x)] (S) (some (.int (bP (¬ vs V 3 < vt V 3 f + x)))) (S) := by
  refine Mt.start (fun b => [some (.ref b), some (.int (nI f)), some (.int (nI x))]) plX8 rfl (fun b => (Nat.le_of_ble_eq_true rfl)) (fun b => rfl) ?_
  intro σ b
  have kb := K.b
  have kf_f := K.f hf
  refine w_aload_n dX8_mayTo_0 rfl ?_
  refine mg_at dX8_mayTo_1 rfl ?_
  refine w_iload_n dX8_mayTo_4 rfl ?_
  refine s_calli1 (mi := miX8_finderRow) dX8_mayTo_5 q1879 okX8_finderRow (Nat.le_of_ble_eq_true rfl) c_finderRow (Nat.le_of_ble_eq_true rfl) ?_
  refine w_iconst (v := nI 3) dX8_mayTo_8 ki_3 ?_
  refine w_iaddN dX8_mayTo_9 ?_
  refine ma_at dX8_mayTo_10 (by omega) ?_
  refine w_topN (E.f 3 (by omega) (by omega)) ?_
  refine w_iload_n dX8_mayTo_11 rfl ?_
  refine w_iaddN dX8_mayTo_12 ?_
  refine w_aload_n dX8_mayTo_13 rfl ?_
  refine mg_at dX8_mayTo_14 rfl ?_
  refine w_iconst (v := nI 3) dX8_mayTo_17 ki_3 ?_
  refine ma_at dX8_mayTo_18 (by omega) ?_
  refine w_topN (E.s 3 (by omega)) ?_
  refine w_icmpN_gt dX8_mayTo_19 rfl (by omega) (by omega) (fun h_19 => ?_) (fun h_19 => ?_)
  · refine w_iconst (v := nI 0) dX8_mayTo_26 ki_0 ?_
    exact w_zret dX8_mayTo_27 rfl (by first | exact narr0 | exact narr1) ⟨by first | rfl | (simp only [bP, isT, bitN, inN, *, not_true_eq_false, not_false_eq_true, and_true, true_and, and_false, false_and, or_true, true_or, or_false, false_or, and_self, or_self, if_true, if_false, ite_true, ite_false]; done) | (simp [bP, isT, bitN, inN, *]; done) | (simp_all [bP, isT, bitN, inN]; done) | (repeat split) <;> first | rfl | contradiction | simp_all, by first | rfl | (simp only [bP, isT, bitN, inN, *, not_true_eq_false, not_false_eq_true, and_true, true_and, and_false, false_and, or_true, true_or, or_false, false_or, and_self, or_self, if_true, if_false, ite_true, ite_false]; done) | (simp [bP, isT, bitN, inN, *]; done) | (simp_all [bP, isT, bitN, inN]; done) | (repeat split) <;> first | rfl | contradiction | simp_all⟩
  · refine w_iconst (v := nI 1) dX8_mayTo_22 ki_1 ?_
    refine w_goto dX8_mayTo_23 rfl ?_
    exact w_zret dX8_mayTo_27 rfl (by first | exact narr0 | exact narr1) ⟨by first | rfl | (simp only [bP, isT, bitN, inN, *, not_true_eq_false, not_false_eq_true, and_true, true_and, and_false, false_and, or_true, true_or, or_false, false_or, and_self, or_self, if_true, if_false, ite_true, ite_false]; done) | (simp [bP, isT, bitN, inN, *]; done) | (simp_all [bP, isT, bitN, inN]; done) | (repeat split) <;> first | rfl | contradiction | simp_all, by first | rfl | (simp only [bP, isT, bitN, inN, *, not_true_eq_false, not_false_eq_true, and_true, true_and, and_false, false_and, or_true, true_or, or_false, false_or, and_self, or_self, if_true, if_false, ite_true, ite_false]; done) | (simp [bP, isT, bitN, inN, *]; done) | (simp_all [bP, isT, bitN, inN]; done) | (repeat split) <;> first | rfl | contradiction | simp_all⟩
