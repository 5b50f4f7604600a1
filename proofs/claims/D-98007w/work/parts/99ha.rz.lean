set_option maxRecDepth 100000
theorem z_isLetter {g : GG} {C : CS} {m : Nat → Option va_E} {X : TX} {q : RQ} {k : Nat} (hx : oO C 0 = true) (hT : TxC C X) (hk : k < 1000) : Cr g miX9_isLetter 1 [.ref (od C 8 1), .int (nI k)] (rdS (sM8 C m) X.2 (q)) (some (.int (bP ((k < X.2 ∧ isLo (X.1 k) = true))))) := by
  have h := r_isLetter (g := g) (C := sM8 C m) (X := X) (q := q) hx hT hk
  rw [sM_od1] at h
  exact h
theorem z_isDigit {g : GG} {C : CS} {m : Nat → Option va_E} {X : TX} {q : RQ} {k : Nat} (hx : oO C 0 = true) (hT : TxC C X) (hk : k < 1000) : Cr g miX9_isDigit 1 [.ref (od C 8 1), .int (nI k)] (rdS (sM8 C m) X.2 (q)) (some (.int (bP ((k < X.2 ∧ isDi (X.1 k) = true))))) := by
  have h := r_isDigit (g := g) (C := sM8 C m) (X := X) (q := q) hx hT hk
  rw [sM_od1] at h
  exact h
theorem z_next {g : GG} {C : CS} {m : Nat → Option va_E} {X : TX} {e : Nat} {a0 s0 nu st du : Int32} (hx : oO C 0 = true) (hT : TxC C X) (he : e ≤ X.2) : Cp g miX9_next 2 0 0 [.ref (od C 8 1)] (rdS (sM8 C m) X.2 ((a0, nI e, s0, nu, st, du))) (none) (fun C2 => ∃ nu2, C2 = rdS (sM8 C m) X.2 (rqT (tok X e) nu2 st du) ∧ NuT (tok X e) nu2) := by
  have h := r_next (g := g) (C := sM8 C m) (X := X) (e := e) (a0 := a0) (s0 := s0) (nu := nu) (st := st) (du := du) hx hT he
  rw [sM_od1] at h
  exact h
theorem z_isSign {g : GG} {C : CS} {m : Nat → Option va_E} {X : TX} {t : Tk} {nu st du : Int32} {c : Nat} (hx : oO C 0 = true) (hT : TxC C X) (hO : OkT9 X t) (hc : c < 128) : Cr g miX9_isSign 1 [.ref (od C 8 1), .int (nI c)] (rdS (sM8 C m) X.2 (rqT t nu st du)) (some (.int (bP (t.so = 4 ∧ t.va = c)))) := by
  have h := r_isSign (g := g) (C := sM8 C m) (X := X) (t := t) (nu := nu) (st := st) (du := du) hx hT hO hc
  rw [sM_od1] at h
  exact h
theorem z_isWord {g : GG} {C : CS} {m : Nat → Option va_E} {X : TX} {t : Tk} {nu st du : Int32} {i m9 : Nat} {s9 : String × Nat × String × List Int32} (hx : oO C 0 = true) (hT : TxC C X) (hO : OkT9 X t) (hs9 : skL[i]? = some s9) (hi1 : 1 ≤ i) (hm9 : wk i = m9) : Cr g miX9_isWord 5 [.ref (od C 8 1), .ref (sa g i)] (rdS (sM8 C m) X.2 (rqT t nu st du)) (some (.int (bP (kix X t = m9)))) := by
  have h := r_isWord (g := g) (C := sM8 C m) (X := X) (t := t) (nu := nu) (st := st) (du := du) hx hT hO hs9 hi1 hm9
  rw [sM_od1] at h
  exact h
theorem z_wrong {g : GG} {C : CS} {m : Nat → Option va_E} {X : TX} {t : Tk} {nu st du : Int32} (hx : oO C 0 = true) (hT : TxC C X) (hO : OkT9 X t) : Cp g miX9_wrong 2 0 0 [.ref (od C 8 1)] (rdS (sM8 C m) X.2 (rqT t nu st du)) (some (.ref (od C 0 5))) (fun C2 => C2 = bdS (rdS (sM8 C m) X.2 (rqT t nu st du)) (flt t 2)) := by
  have h := r_wrong (g := g) (C := sM8 C m) (X := X) (t := t) (nu := nu) (st := st) (du := du) hx hT hO
  rw [sM_od1] at h
  exact h
theorem z_close {g : GG} {C : CS} {m : Nat → Option va_E} {X : TX} {t : Tk} {nu st du : Int32} (hx : oO C 0 = true) (hT : TxC C X) (hO : OkT9 X t) (hN : NuT t nu) : Cz g miX9_close 3 0 0 [.ref (od C 8 1)] (rdS (sM8 C m) X.2 (rqT t nu st du)) (QT (sM8 C m) X st du (wSign X 59 t)) (ET (sM8 C m) (wSign X 59 t)) := by
  have h := r_close (g := g) (C := sM8 C m) (X := X) (t := t) (nu := nu) (st := st) (du := du) hx hT hO hN
  rw [sM_od1] at h
  exact h
theorem z_word {g : GG} {C : CS} {m : Nat → Option va_E} {X : TX} {t : Tk} {nu st du : Int32} {i m9 : Nat} {s9 : String × Nat × String × List Int32} (hx : oO C 0 = true) (hT : TxC C X) (hO : OkT9 X t) (hN : NuT t nu) (hs9 : skL[i]? = some s9) (hi1 : 1 ≤ i) (hm9 : wk i = m9) : Cz g miX9_word 6 0 0 [.ref (od C 8 1), .ref (sa g i)] (rdS (sM8 C m) X.2 (rqT t nu st du)) (QT (sM8 C m) X st du (wWord X m9 t)) (ET (sM8 C m) (wWord X m9 t)) := by
  have h := r_word (g := g) (C := sM8 C m) (X := X) (t := t) (nu := nu) (st := st) (du := du) hx hT hO hN hs9 hi1 hm9
  rw [sM_od1] at h
  exact h
theorem z_number {g : GG} {C : CS} {m : Nat → Option va_E} {X : TX} {t : Tk} {nu st du : Int32} {lo : Nat} {hi : Nat} (hx : oO C 0 = true) (hT : TxC C X) (hO : OkT9 X t) (hN : NuT t nu) (hl : lo < 100000) (hh : hi < 100000) : Cz g miX9_number 3 0 0 [.ref (od C 8 1), .int (nI lo), .int (nI hi)] (rdS (sM8 C m) X.2 (rqT t nu st du)) (QN (sM8 C m) X st du (wNum X lo hi t)) (ET (sM8 C m) (wNum X lo hi t)) := by
  have h := r_number (g := g) (C := sM8 C m) (X := X) (t := t) (nu := nu) (st := st) (du := du) hx hT hO hN hl hh
  rw [sM_od1] at h
  exact h
theorem z_behind {g : GG} {C : CS} {m : Nat → Option va_E} {X : TX} {t : Tk} {nu st du : Int32} {lo : Nat} {hi : Nat} {i m9 : Nat} {s9 : String × Nat × String × List Int32} (hx : oO C 0 = true) (hT : TxC C X) (hO : OkT9 X t) (hN : NuT t nu) (hl : lo < 100000) (hh : hi < 100000) (hs9 : skL[i]? = some s9) (hi1 : 1 ≤ i) (hm9 : wk i = m9) : Cz g miX9_behind 7 0 0 [.ref (od C 8 1), .ref (sa g i), .int (nI lo), .int (nI hi)] (rdS (sM8 C m) X.2 (rqT t nu st du)) (QN (sM8 C m) X st du (wWord X m9 t >>= fun t => wNum X lo hi t)) (ET (sM8 C m) (wWord X m9 t >>= fun t => wNum X lo hi t)) := by
  have h := r_behind (g := g) (C := sM8 C m) (X := X) (t := t) (nu := nu) (st := st) (du := du) hx hT hO hN hl hh hs9 hi1 hm9
  rw [sM_od1] at h
  exact h
theorem z_acts {g : GG} {C : CS} {m : Nat → Option va_E} {X : TX} {t : Tk} {nu st du : Int32} (hx : oO C 0 = true) (hT : TxC C X) (hO : OkT9 X t) : Cr g miX9_acts 6 [.ref (od C 8 1)] (rdS (sM8 C m) X.2 (rqT t nu st du)) (some (.int (actI (kix X t)))) := by
  have h := r_acts (g := g) (C := sM8 C m) (X := X) (t := t) (nu := nu) (st := st) (du := du) hx hT hO
  rw [sM_od1] at h
  exact h
theorem z_duels {g : GG} {C : CS} {m : Nat → Option va_E} {X : TX} {t : Tk} {nu st du : Int32} (hx : oO C 0 = true) (hT : TxC C X) (hO : OkT9 X t) : Cr g miX9_duels 6 [.ref (od C 8 1)] (rdS (sM8 C m) X.2 (rqT t nu st du)) (some (.int (dueI (kix X t)))) := by
  have h := r_duels (g := g) (C := sM8 C m) (X := X) (t := t) (nu := nu) (st := st) (du := du) hx hT hO
  rw [sM_od1] at h
  exact h
theorem z_isKept {g : GG} {C : CS} {m : Nat → Option va_E} {X : TX} {t : Tk} {nu st du : Int32} (hx : oO C 0 = true) (hT : TxC C X) (hO : OkT9 X t) : Cr g miX9_isKept 7 [.ref (od C 8 1)] (rdS (sM8 C m) X.2 (rqT t nu st du)) (some (.int (bP (kix X t < 30)))) := by
  have h := r_isKept (g := g) (C := sM8 C m) (X := X) (t := t) (nu := nu) (st := st) (du := du) hx hT hO
  rw [sM_od1] at h
  exact h
theorem z_name {g : GG} {C : CS} {m : Nat → Option va_E} {X : TX} {t : Tk} {nu st du : Int32} (hx : oO C 0 = true) (hT : TxC C X) (hO : OkT9 X t) : Cz g miX9_name 8 0 0 [.ref (od C 8 1)] (rdS (sM8 C m) X.2 (rqT t nu st du)) (QNm (sM8 C m) X t nu st du) (ET (sM8 C m) (wName X t)) := by
  have h := r_name (g := g) (C := sM8 C m) (X := X) (t := t) (nu := nu) (st := st) (du := du) hx hT hO
  rw [sM_od1] at h
  exact h
theorem z_fresh {g : GG} {C : CS} {m : Nat → Option va_E} {X : TX} {t : Tk} {nu st du : Int32} {a cf cd : Nat} {nf nd : Nat → List Nat} (hx : oO C 0 = true) (hT : TxC C X) (hO : OkT9 X t) (hN : NuT t nu) (hB : BeN g (sM8 C m) a cf cd nf nd) : Cz g miX9_fresh 9 0 0 [.ref (od C 8 1), .ref a] (rdS (sM8 C m) X.2 (rqT t nu st du)) (QFr (sM8 C m) X st du (wFr X cf cd nf nd t)) (ET (sM8 C m) (wFr X cf cd nf nd t)) := by
  have h := r_fresh (g := g) (C := sM8 C m) (X := X) (t := t) (nu := nu) (st := st) (du := du) (a := a) (cf := cf) (cd := cd) (nf := nf) (nd := nd) hx hT hO hN hB
  rw [sM_od1] at h
  exact h
theorem z_finder {g : GG} {C : CS} {m : Nat → Option va_E} {X : TX} {t : Tk} {nu st du : Int32} {a cf cd : Nat} {nf nd : Nat → List Nat} (hx : oO C 0 = true) (hT : TxC C X) (hO : OkT9 X t) (hN : NuT t nu) (hB : BeN g (sM8 C m) a cf cd nf nd) : Cz g miX9_finder 9 0 0 [.ref (od C 8 1), .ref a] (rdS (sM8 C m) X.2 (rqT t nu st du)) (QN (sM8 C m) X st du (wOld X nf cf t)) (ET (sM8 C m) (wOld X nf cf t)) := by
  have h := r_finder (g := g) (C := sM8 C m) (X := X) (t := t) (nu := nu) (st := st) (du := du) (a := a) (cf := cf) (cd := cd) (nf := nf) (nd := nd) hx hT hO hN hB
  rw [sM_od1] at h
  exact h
theorem z_find {g : GG} {C : CS} {m : Nat → Option va_E} {X : TX} {t : Tk} {nu st du : Int32} {a cf cd : Nat} {nf nd : Nat → List Nat} (hx : oO C 0 = true) (hT : TxC C X) (hO : OkT9 X t) (hN : NuT t nu) (hB : BeN g (sM8 C m) a cf cd nf nd) : Cz g miX9_find 9 0 0 [.ref (od C 8 1), .ref a] (rdS (sM8 C m) X.2 (rqT t nu st du)) (QN (sM8 C m) X st du (wOld X nd cd t)) (ET (sM8 C m) (wOld X nd cd t)) := by
  have h := r_find (g := g) (C := sM8 C m) (X := X) (t := t) (nu := nu) (st := st) (du := du) (a := a) (cf := cf) (cd := cd) (nf := nf) (nd := nd) hx hT hO hN hB
  rw [sM_od1] at h
  exact h
