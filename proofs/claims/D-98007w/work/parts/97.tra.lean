/-! sizes and sorts of any row -/
set_option maxRecDepth 100000
section TRA
variable {g : GG} {C : CS}
theorem tX0_sizeOfR {σ : PH} {a n : Nat} {t : Tg} {f : Nat → Int32} {l : Nat → Int64} : ∀ k, k < 4 → σ.2 a = some (t, rowE g.2.2.2 k n f l) → Ct g miX0_sizeOf 1 0 0 [.ref a] σ (fun w σ2 => w = some (.int (nI n)) ∧ σ2 = σ) noX
  | 0, _, hh => tX0_sizeOf0 hh
  | 1, _, hh => tX0_sizeOf1 hh
  | 2, _, hh => tX0_sizeOf2 hh
  | 3, _, hh => tX0_sizeOf3 hh
  | _ + 4, h, _ => absurd h (by omega)
theorem tX0_sortOfR {σ : PH} {a n : Nat} {t : Tg} {f : Nat → Int32} {l : Nat → Int64} : ∀ k, k < 4 → σ.2 a = some (t, rowE g.2.2.2 k n f l) → Ct g miX0_sortOf 1 0 0 [.ref a] σ (fun w σ2 => w = some (.int (nI k)) ∧ σ2 = σ) noX
  | 0, _, hh => tX0_sortOf0 hh
  | 1, _, hh => tX0_sortOf1 hh
  | 2, _, hh => tX0_sortOf2 hh
  | 3, _, hh => tX0_sortOf3 hh
  | _ + 4, h, _ => absurd h (by omega)
end TRA
