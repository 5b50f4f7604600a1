set_option maxRecDepth 100000
def shO (F : Nat → Int32) (k p : Nat) : Nat → Int32 := fun a => if k ≤ a ∧ a < p then F (a + 1) else F a
def shI (F : Nat → Int32) (k n : Nat) : Nat → Int32 := fun a => if k < a ∧ a ≤ n then F (a - 1) else F a
theorem shO_0 (F : Nat → Int32) (k : Nat) : shO F k k = F := by
  funext a
  unfold shO
  rw [if_neg (by omega)]
theorem shI_0 (F : Nat → Int32) (n : Nat) : shI F n n = F := by
  funext a
  unfold shI
  rw [if_neg (by omega)]
theorem upd_at {f : Nat → Int32} {k : Nat} {v : Int32} {a : Nat} : upd f k v a = if a = k then v else f a := rfl
theorem shO_s (F : Nat → Int32) {k p : Nat} (h : k ≤ p) : upd (shO F k p) p (shO F k p (p + 1)) = shO F k (p + 1) := by
  funext a
  rw [upd_at]
  unfold shO
  by_cases h1 : a = p
  · rw [if_pos h1, if_neg (by omega), if_pos (by omega), h1]
  · rw [if_neg h1]
    by_cases h2 : k ≤ a ∧ a < p
    · rw [if_pos h2, if_pos (by omega)]
    · rw [if_neg h2, if_neg (by omega)]
theorem shI_s (F : Nat → Int32) {p n : Nat} (h : p + 1 ≤ n) : upd (shI F (p + 1) n) (p + 1) (shI F (p + 1) n p) = shI F p n := by
  funext a
  rw [upd_at]
  unfold shI
  by_cases h1 : a = p + 1
  · rw [if_pos h1, if_neg (by omega), if_pos (by omega), h1]
    rfl
  · rw [if_neg h1]
    by_cases h2 : p + 1 < a ∧ a ≤ n
    · rw [if_pos h2, if_pos (by omega)]
    · rw [if_neg h2, if_neg (by omega)]
def twoC (C : CS) (i : Nat) (F G : Nat → Int32) : CS := uF (uF C 6 i F) 7 i G
section TWO
variable {g : GG} {C : CS} {i n c k m f a a2 : Nat} {who tim : Nat → Nat} {F G : Nat → Int32}
theorem two_6 : oA (twoC C i F G) 6 i = F := (oA_F2 (uF C 6 i F) G (by omega)).trans (oA_F C 6 i F)
theorem two_7 : oA (twoC C i F G) 7 i = G := oA_F (uF C 6 i F) 7 i G
theorem two_ne {k b : Nat} (h : ¬ ((k = 6 ∨ k = 7) ∧ b = i)) : oA (twoC C i F G) k b = oA C k b := (oA_F2 (uF C 6 i F) G (fun x y => h ⟨Or.inr x, y⟩)).trans (oA_F2 C F (fun x y => h ⟨Or.inl x, y⟩))
theorem two_ext {A B : CS} (h : ∀ k b, oA A k b = oA B k b) (h2 : ∃ f, A = (od B, oI B, f, oN B, oL B, oB B, oP B, oO B, oT B, oM B, oZ B)) : A = B := by
  obtain ⟨f, rfl⟩ := h2
  have hf : f = oA B := by funext k b; exact h k b
  rw [hf]
  rfl
theorem two_self : twoC C i (oA C 6 i) (oA C 7 i) = C := two_ext (fun k b => by
  by_cases h : (k = 6 ∨ k = 7) ∧ b = i
  · obtain ⟨h | h, h2⟩ := h <;> subst h <;> subst h2
    · exact two_6
    · exact two_7
  · exact two_ne h) ⟨_, rfl⟩
theorem two_A6 {x : Int32} : uA (twoC C i F G) 6 i a x = twoC C i (upd F a x) G := two_ext (fun k b => by
  by_cases h : (k = 6 ∨ k = 7) ∧ b = i
  · obtain ⟨h | h, h2⟩ := h <;> subst h <;> subst h2
    · rw [two_6]
      exact (up2_eq (oA (twoC C b F G)) 6 b _).trans (by rw [two_6]; rfl)
    · rw [two_7]
      exact (oA_ne2 (twoC C b F G) x (by omega)).trans two_7
  · rw [two_ne h]
    exact (oA_ne2 (twoC C i F G) x (fun u v => h ⟨Or.inl u, v⟩)).trans (two_ne h)) ⟨_, rfl⟩
theorem two_A7 {x : Int32} : uA (twoC C i F G) 7 i a x = twoC C i F (upd G a x) := two_ext (fun k b => by
  by_cases h : (k = 6 ∨ k = 7) ∧ b = i
  · obtain ⟨h | h, h2⟩ := h <;> subst h <;> subst h2
    · rw [two_6]
      exact (oA_ne2 (twoC C b F G) x (by omega)).trans two_6
    · rw [two_7]
      exact (up2_eq (oA (twoC C b F G)) 7 b _).trans (by rw [two_7]; rfl)
  · rw [two_ne h]
    exact (oA_ne2 (twoC C i F G) x (fun u v => h ⟨Or.inr u, v⟩)).trans (two_ne h)) ⟨_, rfl⟩
theorem SH.two : SH i C (twoC C i F G) := ⟨fun _ _ _ _ => rfl, fun _ _ _ => rfl, fun a b h => two_ne h, fun _ _ _ => rfl, rfl, rfl, rfl, rfl, rfl, rfl, rfl⟩
theorem EncH.of {who2 tim2 : Nat → Nat} {x : Int32} (E : EncH C i n who tim c) (hm : m ≤ c) (hx : x = nI m) (h : ∀ b, b < m → F b = nI (who2 b) ∧ G b = nI (tim2 b)) : EncH (uI (twoC C i F G) 5 i 2 x) i m who2 tim2 c := by
  subst hx
  refine ⟨oI_eq (twoC C i F G) 5 i 2 (nI m), hm, E.2.2.1, E.2.2.2.1, E.2.2.2.2.1, fun b hb => ?_⟩
  have h6 : oA (uI (twoC C i F G) 5 i 2 (nI m)) 6 i = F := two_6
  have h7 : oA (uI (twoC C i F G) 5 i 2 (nI m)) 7 i = G := two_7
  rw [h6, h7]
  exact h b hb
theorem EncH.out {x : Int32} (E : EncH C i n who tim c) (hk : k < n) (hx : x = nI (n - 1)) : EncH (uI (twoC C i (shO (oA C 6 i) k (n - 1)) (shO (oA C 7 i) k (n - 1))) 5 i 2 x) i (n - 1) (rowOut who k) (rowOut tim k) c := by
  have hc := E.cap
  refine E.of (by omega) hx fun b hb => ?_
  unfold shO rowOut
  by_cases h : b < k
  · simp only [show ¬ (k ≤ b ∧ b < n - 1) from by omega, h, if_true, if_false]
    exact ⟨E.w (by omega), E.m (by omega)⟩
  · simp only [show k ≤ b ∧ b < n - 1 from by omega, h, and_self, if_true, if_false]
    exact ⟨E.w (by omega), E.m (by omega)⟩
theorem EncH.inn {x : Int32} (E : EncH C i n who tim c) (hn : n < c) (hk : k ≤ n) (hx : x = nI (n + 1)) : EncH (uI (twoC C i (upd (shI (oA C 6 i) k n) k (nI f)) (upd (shI (oA C 7 i) k n) k (nI m))) 5 i 2 x) i (n + 1) (rowIn who k f) (rowIn tim k m) c := by
  refine E.of (by omega) hx fun b hb => ?_
  rw [upd_at, upd_at]
  unfold shI rowIn
  by_cases h : b < k
  · simp only [show ¬ (k < b ∧ b ≤ n) from by omega, show ¬ b = k from by omega, h, if_true, if_false]
    exact ⟨E.w (by omega), E.m (by omega)⟩
  · by_cases h2 : b = k
    · simp only [h2, show ¬ k < k from by omega, if_true, if_false]
      exact ⟨trivial, trivial⟩
    · simp only [h2, h, show k < b ∧ b ≤ n from by omega, and_self, if_true, if_false]
      exact ⟨E.w (by omega), E.m (by omega)⟩
/-- both rows are longer -/
def gr1 (C : CS) (i c a : Nat) (e : va_E) : CS := gwC (nwC C 90 a e) 6 i (2 * c) (va_cpy (oA C 6 i) (fun _ => 0) 0 0 c)
def gr2 (C : CS) (i c a : Nat) (e : va_E) : CS := gwC (nwC C 90 a e) 7 i (2 * c) (va_cpy (oA C 7 i) (fun _ => 0) 0 0 c)
theorem cpy_lo {F : Nat → Int32} {c b : Nat} (h : b < c) : va_cpy F (fun _ => 0) 0 0 c b = F b := by
  unfold va_cpy
  rw [if_pos (by omega)]
  congr 1
  omega
theorem SH.gr1 {e : va_E} (hl : oM C 90 = none) : SH i C (gr1 C i c a e) := by
  refine ⟨fun k b h h8 => ?_, fun _ _ _ => rfl, fun k b h => ?_, fun k b h => ?_, rfl, rfl, rfl, rfl, rfl, ?_, rfl⟩
  · exact (gw_ne (fun x y => h ⟨Or.inl x, y⟩)).trans (nw_ne (fun x y => h8 ⟨x, by omega⟩))
  · exact gw_A2 (fun x y => h ⟨Or.inl x, y⟩)
  · exact gw_N2 (fun x y => h ⟨Or.inl x, y⟩)
  · funext b
    by_cases h : b = 90
    · subst h; rw [hl]; exact gw_M.1
    · show va_up (va_up (oM C) 90 (some e)) 90 none b = _
      rw [va_up_ne _ _ h, va_up_ne _ _ h]
theorem SH.gr2 {e : va_E} (hl : oM C 90 = none) : SH i C (gr2 C i c a e) := by
  refine ⟨fun k b h h8 => ?_, fun _ _ _ => rfl, fun k b h => ?_, fun k b h => ?_, rfl, rfl, rfl, rfl, rfl, ?_, rfl⟩
  · exact (gw_ne (fun x y => h ⟨Or.inr x, y⟩)).trans (nw_ne (fun x y => h8 ⟨x, by omega⟩))
  · exact gw_A2 (fun x y => h ⟨Or.inr x, y⟩)
  · exact gw_N2 (fun x y => h ⟨Or.inr x, y⟩)
  · funext b
    by_cases h : b = 90
    · subst h; rw [hl]; exact gw_M.2
    · show va_up (va_up (oM C) 90 (some e)) 90 none b = _
      rw [va_up_ne _ _ h, va_up_ne _ _ h]
theorem EncH.grow {e e2 : va_E} (E : EncH C i n who tim c) (hc : c ≤ 32) : EncH (gr2 (gr1 C i c a e) i c a2 e2) i n who tim (2 * c) := by
  have h6 : oA (gr2 (gr1 C i c a e) i c a2 e2) 6 i = va_cpy (oA C 6 i) (fun _ => 0) 0 0 c := (gw_A2 (C := nwC (gr1 C i c a e) 90 a2 e2) (by omega)).trans (show oA (gr1 C i c a e) 6 i = _ from gw_oA)
  have h7 : oA (gr2 (gr1 C i c a e) i c a2 e2) 7 i = va_cpy (oA (gr1 C i c a e) 7 i) (fun _ => 0) 0 0 c := gw_oA
  have h17 : oA (gr1 C i c a e) 7 i = oA C 7 i := gw_A2 (by omega)
  have n6 : oN (gr2 (gr1 C i c a e) i c a2 e2) 6 i = 2 * c := (gw_N2 (C := nwC (gr1 C i c a e) 90 a2 e2) (by omega)).trans (show oN (gr1 C i c a e) 6 i = _ from gw_oN)
  have n7 : oN (gr2 (gr1 C i c a e) i c a2 e2) 7 i = 2 * c := gw_oN
  have hb := E.cap
  refine ⟨E.1, by omega, ?_, n6, n7, fun b hb => ?_⟩
  · have := E.2.2.1
    unfold capO at this ⊢
    omega
  · rw [h6, h7, h17, cpy_lo (by omega), cpy_lo (by omega)]
    exact ⟨E.w hb, E.m hb⟩
end TWO
set_option maxHeartbeats 4000000 in
theorem kX7_takes {g : GG} {C : CS} {i n c : Nat} {who tim : Nat → Nat} {k : Nat} (hi : oO C (i / 8) = true) (Eh : EncH C i n who tim c) (hk : k < n) : Cp g miX7_takes 1 (0) (0) [.ref (od C 5 i), .int (nI k)] C (none) (fun C2 => EncH C2 i (n - 1) (rowOut who k) (rowOut tim k) c ∧ SH i C C2) := by
  refine Cp.start [some (.ref (od C 5 i)), some (.int (nI k)), none] plX7 rfl (Nat.le_of_ble_eq_true rfl) rfl ?_
  intro σ0 σ H F
  have hc9 := Eh.cap
  have hn6 := Eh.l6
  have hn7 := Eh.l7
  refine w_iload_n dX7_takes_0 rfl ?_
  refine w_istore_n dX7_takes_1 rfl (Nat.le_of_ble_eq_true rfl) ls_3_2 ?_
  have lp : ∀ (j9 : Nat) (p : Nat) (σ : PH), n - p < j9 → k ≤ p → p < n → Hold g σ (twoC C i (shO (oA C 6 i) k p) (shO (oA C 7 i) k p)) → Fr σ0 σ → Wp g (mtC g miX7_takes 1 (0) (0) σ0 (none) (fun C2 => EncH C2 i (n - 1) (rowOut who k) (rowOut tim k) c ∧ SH i C C2)) 0 0 2 [some (.ref (od C 5 i)), some (.int (nI k)), some (.int (nI p))] [] σ := by
    intro j9
    induction j9 with
    | zero => intro p σ hmu hkp hp H F; exact absurd hmu (Nat.not_lt_zero _)
    | succ j9 ih_lp =>
      intro p σ hmu hkp hp H F
      refine w_iload_n dX7_takes_2 rfl ?_
      refine w_iconst (v := nI 1) dX7_takes_3 ki_1 ?_
      refine w_iaddN dX7_takes_4 ?_
      refine w_aload_n dX7_takes_5 rfl ?_
      refine gX7_18 (C := twoC C i (shO (oA C 6 i) k p) (shO (oA C 7 i) k p)) dX7_takes_6 rfl hi H ?_
      refine w_topN Eh.sz ?_
      refine w_icmpN_ge dX7_takes_9 rfl (by omega) (by omega) (fun h_9 => ?_) (fun h_9 => ?_)
      · have hpn : p = n - 1 := by omega
        refine w_aload_n dX7_takes_46 rfl ?_
        refine w_dup dX7_takes_47 rfl ?_
        refine gX7_18 (C := twoC C i (shO (oA C 6 i) k p) (shO (oA C 7 i) k p)) dX7_takes_48 rfl hi H ?_
        refine w_topN Eh.sz ?_
        refine w_iconst (v := nI 1) dX7_takes_51 ki_1 ?_
        refine w_isubN dX7_takes_52 (by omega) ?_
        refine pX7_18 (C := twoC C i (shO (oA C 6 i) k p) (shO (oA C 7 i) k p)) dX7_takes_53 rfl hi H F ?_
        intro σ H F
        exact w_vret dX7_takes_56 rfl ⟨by rfl, _, by subst hpn; exact ⟨Eh.out hk rfl, SH.two.trans SH.I⟩, H, F⟩
      · refine w_aload_n dX7_takes_12 rfl ?_
        refine gX7_9 (C := twoC C i (shO (oA C 6 i) k p) (shO (oA C 7 i) k p)) dX7_takes_13 rfl hi H ?_
        refine w_iload_n dX7_takes_16 rfl ?_
        refine w_aload_n dX7_takes_17 rfl ?_
        refine gX7_9 (C := twoC C i (shO (oA C 6 i) k p) (shO (oA C 7 i) k p)) dX7_takes_18 rfl hi H ?_
        refine w_iload_n dX7_takes_21 rfl ?_
        refine w_iconst (v := nI 1) dX7_takes_22 ki_1 ?_
        refine w_iaddN dX7_takes_23 ?_
        refine ia_6 (C := twoC C i (shO (oA C 6 i) k p) (shO (oA C 7 i) k p)) dX7_takes_24 hi (show p + 1 < oN C 6 i by omega) (show oN C 6 i < 2147483648 by omega) H ?_
        refine is_6 (C := twoC C i (shO (oA C 6 i) k p) (shO (oA C 7 i) k p)) dX7_takes_25 hi (show p < oN C 6 i by omega) (show oN C 6 i < 2147483648 by omega) H F ?_
        intro σ H F
        refine w_aload_n dX7_takes_26 rfl ?_
        refine gX7_15 (C := uA (twoC C i (shO (oA C 6 i) k p) (shO (oA C 7 i) k p)) 6 i _ _) dX7_takes_27 rfl hi H ?_
        refine w_iload_n dX7_takes_30 rfl ?_
        refine w_aload_n dX7_takes_31 rfl ?_
        refine gX7_15 (C := uA (twoC C i (shO (oA C 6 i) k p) (shO (oA C 7 i) k p)) 6 i _ _) dX7_takes_32 rfl hi H ?_
        refine w_iload_n dX7_takes_35 rfl ?_
        refine w_iconst (v := nI 1) dX7_takes_36 ki_1 ?_
        refine w_iaddN dX7_takes_37 ?_
        refine ia_7 (C := uA (twoC C i (shO (oA C 6 i) k p) (shO (oA C 7 i) k p)) 6 i _ _) dX7_takes_38 hi (show p + 1 < oN C 7 i by omega) (show oN C 7 i < 2147483648 by omega) H ?_
        refine is_7 (C := uA (twoC C i (shO (oA C 6 i) k p) (shO (oA C 7 i) k p)) 6 i _ _) dX7_takes_39 hi (show p < oN C 7 i by omega) (show oN C 7 i < 2147483648 by omega) H F ?_
        intro σ H F
        refine w_iinc dX7_takes_40 rfl (nI_inc _ 1) rfl (Nat.le_of_ble_eq_true rfl) ls_3_2 ?_
        refine w_goto dX7_takes_43 rfl ?_
        exact ih_lp (p + 1) σ (by omega) (by omega) (by omega) (H.cast (by simp only [two_A6, two_A7, two_6, two_7]; rw [shO_s _ hkp, shO_s _ hkp])) F
  exact lp (n + 1) k σ (by omega) (by omega) (by omega) (H.cast (by rw [shO_0, shO_0, two_self])) F
