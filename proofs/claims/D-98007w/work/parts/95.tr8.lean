/-! tray of the component -/
set_option maxRecDepth 100000
section TR8
variable {g : GG} {C : CS}
theorem gt_ge {n : Nat} (hn : n + 1 < 2147483648) {y : Int32} : nI n < y ↔ nI (n + 1) ≤ y := by
  rw [Int32.lt_iff_toInt_lt, Int32.le_iff_toInt_le, nI_toInt hn, nI_toInt (by omega)]
  omega
theorem tX0_rowR {σ : PH} {n : Nat} (hn : n ≤ 60) : ∀ k, k < 4 → Ct g miX0_row 180 3 222 [.int (nI k), .int (nI n)] σ (fun w σ2 => w = some (.ref σ.1) ∧ σ2 = hnew σ (8, 90) (rowE g.2.2.2 k n (fun _ => 0) (fun _ => 0))) noX
  | 0, _ => tX0_row0 hn
  | 1, _ => tX0_row1 hn
  | 2, _ => tX0_row2 hn
  | 3, _ => tX0_row3 hn
  | _ + 4, h => absurd h (by omega)
theorem tX0_rowN {σ : PH} {z : Int32} (hz : z < 0) : ∀ k, k < 4 → Ct g miX0_row 180 3 222 [.int (nI k), .int z] σ (fun _ _ => False) (fun q E σ2 => GrX NX σ q E σ2)
  | 0, _ => tX0_row0N hz
  | 1, _ => tX0_row1N hz
  | 2, _ => tX0_row2N hz
  | 3, _ => tX0_row3N hz
  | _ + 4, h => absurd h (by omega)
/-- all but the rows of the trays is the same -/
def Tf (C Cm : CS) : Prop := ∃ d t m, Cm = (d, C.2.1, C.2.2.1, C.2.2.2.1, C.2.2.2.2.1, C.2.2.2.2.2.1, C.2.2.2.2.2.2.1, C.2.2.2.2.2.2.2.1, t, m, C.2.2.2.2.2.2.2.2.2.2) ∧ ∀ k j, k ≠ 15 → k ≠ 8 → d k j = od C k j
def TrN (g : GG) (C C2 : CS) (T2 : TS) (s : Int32) : Prop := ∃ Cm, EncTC g Cm T2 ∧ Tf C Cm ∧ TrX Cm C2 s
theorem Tf.refl (C : CS) : Tf C C := ⟨od C, oT C, oM C, rfl, fun _ _ _ _ => rfl⟩
theorem Tf.tr {a j : Nat} {e : va_E} : Tf C (trC (nwC C 90 a e) j e) := ⟨od (trC (nwC C 90 a e) j e), oT (trC (nwC C 90 a e) j e), oM (trC (nwC C 90 a e) j e), rfl, fun k i h1 h2 => (tr_ne (fun z => absurd z h1)).trans (nw_ne (fun z => absurd z h2))⟩
theorem EncTC.new {T : TS} (E : EncTC g C T) {a j k n : Nat} (hk : k < 4) : EncTC g (trC (nwC C 90 a (rowE g.2.2.2 k n (fun _ => 0) (fun _ => 0))) j (rowE g.2.2.2 k n (fun _ => 0) (fun _ => 0))) (newT T j k n) := by
  intro t ht
  by_cases hb : t = j
  · subst hb
    have h1 : tk (newT T t k n) t = k := va_up_self _ _ _
    have h2 : tm (newT T t k n) t = n + 1 := va_up_self _ _ _
    have h3 : ∀ m, tv (newT T t k n) t m = 0 := fun m => by
      show va_up T.2.2 t (fun _ => 0) t m = 0
      rw [va_up_self]
    refine ⟨fun z => by rw [h2] at z; omega, fun _ => ⟨fun _ => 0, fun _ => 0, ?_, fun m _ => ?_⟩⟩
    · rw [tr_T, h1, h2]
      rfl
    · rw [h1, h3]
      unfold rowV
      split <;> rfl
  · have h1 : tk (newT T j k n) t = tk T t := va_up_ne _ _ hb
    have h2 : tm (newT T j k n) t = tm T t := va_up_ne _ _ hb
    have h3 : ∀ m, tv (newT T j k n) t m = tv T t m := fun m => by
      show va_up T.2.2 j (fun _ => 0) t m = T.2.2 t m
      rw [va_up_ne _ _ hb]
    rw [h1, h2, tr_Tn hb]
    refine ⟨(E t ht).1, fun z => ?_⟩
    obtain ⟨f, l, a1, a2⟩ := (E t ht).2 z
    exact ⟨f, l, a1, fun m hm => by rw [h3]; exact a2 m hm⟩
end TR8
