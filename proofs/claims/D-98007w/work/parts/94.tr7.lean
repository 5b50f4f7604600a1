/-! a tray's new row -/
set_option maxRecDepth 100000
def trC (C : CS) (j : Nat) (e : va_E) : CS := uM (uT (ud C 15 j (od C 8 90)) j (some e)) 90 none
section TR7
variable {g : GG} {mt : MT} {kc ks pc : Nat} {L : List (Option Value)} {st rest : List Value} {σ σ0 : PH} {C : CS} {j : Nat} {e : va_E}
theorem tr_od : od (trC C j e) 15 j = od C 8 90 := up2_eq (od C) 15 j _
theorem tr_ne {a b : Nat} (h : a = 15 → b = j → False) : od (trC C j e) a b = od C a b := up2_ne (od C) _ h
theorem tr_T : oT (trC C j e) j = some e := va_up_self (oT C) j (some e)
theorem tr_Tn {b : Nat} (h : b ≠ j) : oT (trC C j e) b = oT C b := va_up_ne (oT C) (some e) h
theorem tr_ce : ∀ a b, (¬ (a = 15 ∧ b = j) ∧ ¬ (a = 1 ∧ b = j) ∧ ¬ (a = 8 ∧ b = 90)) → ceC g (trC C j e) a b = ceC g C a b :=
  ce_all (g := g) (C := C) (C2 := trC C j e) (P := fun a b => ¬ (a = 15 ∧ b = j) ∧ ¬ (a = 1 ∧ b = j) ∧ ¬ (a = 8 ∧ b = 90)) (fun _ _ => rfl) (fun b h => by
    have hb : b ≠ j := fun z => h.2.1 ⟨rfl, z⟩
    show (if oO C 0 = true ∧ b < 4 then (some (.inr (1, [oneT (oT (trC C j e) b) (od (trC C j e) 15 b)])) : Option va_E) else none) = (if oO C 0 = true ∧ b < 4 then (some (.inr (1, [oneT (oT C b) (od C 15 b)])) : Option va_E) else none)
    rw [tr_Tn hb, tr_ne (fun _ z => hb z)]) (fun _ _ => rfl) (fun _ _ => rfl) (fun _ _ => rfl) (fun _ _ => rfl) (fun _ _ => rfl) (fun _ _ => rfl) (fun b h => va_up_ne (oM C) none (fun z => h.2.2 ⟨rfl, z⟩)) (fun _ _ => rfl) (fun _ _ => rfl) (fun _ _ => rfl) (fun _ _ => rfl) (fun b h => tr_Tn (fun z => h.1 ⟨rfl, z⟩))
theorem Hold.tr (hx9 : oO C 0 = true) (hj : j < 4) (H : Hold g σ C) (hm : oM C 90 = some e) : Hold g (retag (hup σ (od C 1 j) (1, j) (.inr (1, [.ref (od C 8 90)]))) (tag90 15 j)) (trC C j e) := by
  have h5 := H.get (ce_tray hx9 hj)
  have h8 := H.get (k := 8) (j := 90) hm
  refine ⟨fun a ha => ?_, fun a b x hx => ?_, fun a x hx => ?_⟩
  · have := H.lt h5
    show (if a = od C 1 j then _ else σ.2 a).map _ = _
    rw [if_neg (by intro z; have h2 : σ.1 ≤ a := ha; omega), H.1 a ha]
    rfl
  · show (if od (trC C j e) a b = od C 1 j then _ else σ.2 (od (trC C j e) a b)).map _ = _
    by_cases h1 : a = 15 ∧ b = j
    · obtain ⟨rfl, rfl⟩ := h1
      rw [tr_od, if_neg (by intro z; rw [z, h5] at h8; cases h8), h8]
      have hx2 : ceC g (trC C b e) 15 b = some e := tr_T
      rw [hx2] at hx
      cases hx
      show some (tag90 15 b (8, 90), _) = _
      unfold tag90
      rw [if_pos rfl]
    · rw [tr_ne (fun x y => h1 ⟨x, y⟩)]
      by_cases h2 : a = 1 ∧ b = j
      · obtain ⟨rfl, rfl⟩ := h2
        rw [if_pos rfl]
        have hx2 : ceC g (trC C b e) 1 b = some (.inr (1, [.ref (od C 8 90)])) := by
          rw [ce_tray (C := trC C b e) hx9 hj, tr_T, tr_od]
          rfl
        rw [hx2] at hx
        cases hx
        show some (tag90 15 b (1, b), _) = _
        unfold tag90
        rw [if_neg (by intro z; cases z)]
      · by_cases h3 : a = 8 ∧ b = 90
        · obtain ⟨rfl, rfl⟩ := h3
          have hx2 : ceC g (trC C j e) 8 90 = none := va_up_self (oM C) 90 none
          rw [hx2] at hx
          cases hx
        · have hx2 : ceC g C a b = some x := by rw [← tr_ce a b ⟨h1, h2, h3⟩]; exact hx
          have hg := H.get hx2
          rw [if_neg (by intro z; rw [z, h5] at hg; cases hg; exact h2 ⟨rfl, rfl⟩), hg]
          show some (tag90 15 j (a, b), _) = _
          unfold tag90
          rw [if_neg (by intro z; cases z; exact h3 ⟨rfl, rfl⟩)]
  · have hz := H.z (a := a) (e := x) hx
    show (if a = od C 1 j then _ else σ.2 a).map _ = _
    rw [if_neg (by intro z; rw [z, h5] at hz; cases hz), hz]
    show some (tag90 15 j (9, 0), _) = _
    unfold tag90
    rw [if_neg (by intro z; cases z)]
theorem c_tray_put (d : decode mt.1.2.1 pc = .ok (.putfield 114, 3)) (ho : mt.1.1 = RX0) (hx9 : oO C 0 = true) (hj : j < 4) (H : Hold g σ C) (F : Fr σ0 σ) (hm : oM C 90 = some e) (kk : ∀ σ, Hold g σ (trC C j e) → Fr σ0 σ → Wp g mt kc ks (pc + 3) L st σ) : Wp g mt kc ks pc L (.ref (od C 8 90) :: .ref (od C 1 j) :: st) σ := by
  refine w_putfN (k := 0) d clX1 (by decide) (by rw [ho]; exact q179) rfl (H.get (ce_tray hx9 hj)) rfl rfl (Nat.zero_lt_one) ?_
  refine w_retag (tag90 15 j) ?_
  refine kk _ (H.tr hx9 hj hm) ((F.hup (show 1 < 20 by decide) (H.get (ce_tray hx9 hj))).retag ?_)
  intro t ht
  unfold tag90
  rw [if_neg (by intro z; rw [z] at ht; exact absurd ht (by decide))]
end TR7
