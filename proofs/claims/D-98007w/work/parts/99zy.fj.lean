/-! THE FIRST JOINT STATE (by hand) -/
set_option maxRecDepth 100000
theorem zer_z (n s i : Nat) : zer (fun _ => 0) s n i = 0 := by
  unfold zer
  split <;> rfl
theorem m1_at (i : Nat) : mA mS1 0 i = if i = 3 then nI 60 else if i = 0 then nI 2 else if i = 9 then -1 else if i = 5 then nI 1 else 0 := by
  have e : mA mS1 0 = upd (upd (upd (upd (zer (fun _ => 0) 0 1400) (0 + 5) (nI 1)) (0 + 9) (-1)) 0 (nI 2)) 3 (nI 60) := by
    rw [mS1, setAt_s, setAt_s, setAt_A]
    rfl
  rw [e]
  unfold upd
  rw [zer_z]
theorem m1_n {j : Nat} (h : j ≠ 0) : mA mS1 j = mA mS0 j := by
  rw [mS1, setAt_s, setAt_s]
  exact va_up_ne mS0.2.2.1 _ h
theorem V0_ok {b : Nat} : OkV (setS V0 9 b) := by
  refine ⟨⟨Nat.le_of_ble_eq_true rfl, Nat.le_of_ble_eq_true rfl, Nat.zero_le _, Nat.zero_le _, Nat.le_of_ble_eq_true rfl, Nat.le_of_ble_eq_true rfl, Nat.zero_le _, Nat.le_of_ble_eq_true rfl, Nat.zero_le _, Nat.le_of_ble_eq_true rfl, Nat.zero_le _⟩, Nat.le_of_ble_eq_true rfl, fun f hf => absurd (show f < 0 from hf) (Nat.not_lt_zero _), fun f hf => absurd (show f < 0 from hf) (Nat.not_lt_zero _), fun d _ => ⟨Nat.zero_le _, fun h => absurd rfl h⟩, fun d _ k hk => absurd (show k < 0 from hk) (Nat.not_lt_zero _), fun d _ i j _ hj => absurd (show j < 0 from hj) (Nat.not_lt_zero _), rfl, Nat.zero_le _⟩
theorem V0_enc {b : Nat} : EncA (mA mS1 0) (setS V0 9 b) := by
  refine EncA.s9 ⟨fun k hk => ?_, fun f hf j hj => ?_, fun d hd j hj => ?_, fun d _ k hk => absurd (show k < 0 from hk) (Nat.not_lt_zero _)⟩
  · rw [m1_at]
    rcases show k = 0 ∨ k = 1 ∨ k = 2 ∨ k = 3 ∨ k = 4 ∨ k = 5 ∨ k = 6 ∨ k = 7 ∨ k = 8 by omega with rfl | rfl | rfl | rfl | rfl | rfl | rfl | rfl | rfl <;> rfl
  · rw [m1_at, if_neg (by omega), if_neg (by omega), if_neg (by omega), if_neg (by omega)]
    rfl
  · rw [m1_at, if_neg (by omega), if_neg (by omega), if_neg (by omega), if_neg (by omega)]
    rfl
theorem fs_JC {g : GG} {a z : Nat} : JC g (fsC g a z) mS1 := by
  refine ⟨⟨⟨fs_I.trans rfl, ⟨rfl, rfl⟩, fs_I.trans rfl, fs_I.trans rfl⟩, ⟨0, fun _ => 0, Nat.zero_le _, fs_I.trans rfl, rfl, fun k _ => ⟨by rw [fs_A]; exact (show (0 : Int32) = b8 0 by decide +kernel), (show 0 < 256 by omega)⟩, fun k _ => ⟨by rw [m1_n (by omega)]; exact (show (0 : Int32) = b8 0 by decide +kernel), (show 0 < 256 by omega)⟩⟩, ⟨(fun _ => 0, fun _ => 0, fun _ _ => 0), fun t _ => ⟨fun _ => rfl, fun h => absurd rfl h⟩, fun t ht => ⟨?_, ?_, fun k hk => absurd (show k + 1 < 0 from hk) (Nat.not_lt_zero _)⟩, ⟨fun t _ => ⟨Nat.zero_le _, Nat.zero_le _⟩, fun t k _ hk => absurd (show k + 1 < 0 from hk) (Nat.not_lt_zero _)⟩⟩, ⟨fun i _ => by rw [fs_A, m1_n (by omega)]; rfl, fs_I.trans rfl⟩, ⟨0, fun _ => 0, Nat.zero_le _, fs_I.trans rfl, rfl, fun k hk => absurd hk (Nat.not_lt_zero _)⟩, ⟨fun _ => 0, fun o _ => by rw [m1_n (by omega)]; rfl, fun _ => (show 0 < 2147483648 by omega)⟩⟩, ⟨fs_o0, fs_o4⟩, ⟨_, _, fs_E4⟩, ⟨setS V0 9 (z + 10), fun _ => [], fun _ => [], (0, fun _ _ => 0), ⟨_, fs_E0⟩, ?_, V0_ok, fun f hf => absurd (show f < 0 from hf) (Nat.not_lt_zero _), ⟨fun i hi => absurd (show i < 0 from hi) (Nat.not_lt_zero _), fun i hi => absurd (show i < 0 from hi) (Nat.not_lt_zero _)⟩, ⟨fun i hi => absurd (show i < 0 from hi) (Nat.not_lt_zero _), fun i hi => absurd (show i < 0 from hi) (Nat.not_lt_zero _)⟩, Or.inl ⟨rfl, nd_P⟩, ⟨?_, fun k hk => absurd (show k + 1 < 0 from hk) (Nat.not_lt_zero _)⟩, Nat.zero_le _, fun k hk => absurd (show k + 1 < 0 from hk) (Nat.not_lt_zero _)⟩, ⟨0, Nat.zero_le _, fs_I.trans rfl, rfl, fun j h1 h2 => by omega, fun j h1 h2 h3 => ?_⟩⟩
  · rw [m1_n (by omega)]
    rfl
  · rw [m1_n (by omega)]
    rcases show t = 0 ∨ t = 1 ∨ t = 2 ∨ t = 3 by omega with rfl | rfl | rfl | rfl <;> decide +kernel
  · rw [slA0]
    exact V0_enc
  · rw [slA0, m1_at]
    decide +kernel
  · rw [fs_on (by omega) (by omega)] at h3
    cases h3
