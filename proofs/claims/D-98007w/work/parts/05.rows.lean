/-! ROWS: an instruction each (printed by gen/rows.py) -/
section ROWS
variable {g : GG} {mt : MT} {kc ks pc : Nat} {L : List (Option Value)} {st rest : List Value} {σ : PH}
theorem w_iconst {n : Int} {v : Int32} (d : decode mt.1.2.1 pc = .ok (.iconst n, 1)) (hv : Int32.ofInt n = v) (k : Wp g mt kc ks (pc + 1) L (.int v :: st) σ) : Wp g mt kc ks pc L (st) σ := by
  intro p e s m args below meth c H locs ls cells slots C hR hl hL h1 h2
  exact lv_iconst C.2.1 C.2.2.1 d hv (k p e s m args below meth c H locs ls cells slots C hR hl hL h1 h2)
theorem w_bipush {n : Int} {v : Int32} (d : decode mt.1.2.1 pc = .ok (.bipush n, 2)) (hv : (Int8.ofInt n).toInt32 = v) (k : Wp g mt kc ks (pc + 2) L (.int v :: st) σ) : Wp g mt kc ks pc L (st) σ := by
  intro p e s m args below meth c H locs ls cells slots C hR hl hL h1 h2
  exact lv_bipush C.2.1 C.2.2.1 d hv (k p e s m args below meth c H locs ls cells slots C hR hl hL h1 h2)
theorem w_sipush {n : Int} {v : Int32} (d : decode mt.1.2.1 pc = .ok (.sipush n, 3)) (hv : (Int16.ofInt n).toInt32 = v) (k : Wp g mt kc ks (pc + 3) L (.int v :: st) σ) : Wp g mt kc ks pc L (st) σ := by
  intro p e s m args below meth c H locs ls cells slots C hR hl hL h1 h2
  exact lv_sipush C.2.1 C.2.2.1 d hv (k p e s m args below meth c H locs ls cells slots C hR hl hL h1 h2)
theorem w_lconst {n : Fin 2} {v : Int64} (d : decode mt.1.2.1 pc = .ok (.lconst n, 1)) (hv : Int64.ofNat (n : Nat) = v) (k : Wp g mt kc ks (pc + 1) L (.long v :: st) σ) : Wp g mt kc ks pc L (st) σ := by
  intro p e s m args below meth c H locs ls cells slots C hR hl hL h1 h2
  exact lv_lconst C.2.1 C.2.2.1 d hv (k p e s m args below meth c H locs ls cells slots C hR hl hL h1 h2)
theorem w_ldc {i : Nat} {v : Int32} (d : decode mt.1.2.1 pc = .ok (.ldc i, 2)) (q : Cond.constant mt.1.1 i v ∈ lw_all) (k : Wp g mt kc ks (pc + 2) L (.int v :: st) σ) : Wp g mt kc ks pc L (st) σ := by
  intro p e s m args below meth c H locs ls cells slots C hR hl hL h1 h2
  exact lv_ldc C.2.1 C.2.2.1 C.2.2.2.2.2.2.1 (C.2.2.2.2.2.2.2.1 _ q) d (k p e s m args below meth c H locs ls cells slots C hR hl hL h1 h2)
theorem w_ldcw {i : Nat} {v : Int32} (d : decode mt.1.2.1 pc = .ok (.ldc_w i, 3)) (q : Cond.constant mt.1.1 i v ∈ lw_all) (k : Wp g mt kc ks (pc + 3) L (.int v :: st) σ) : Wp g mt kc ks pc L (st) σ := by
  intro p e s m args below meth c H locs ls cells slots C hR hl hL h1 h2
  exact lv_ldcw C.2.1 C.2.2.1 C.2.2.2.2.2.2.1 (C.2.2.2.2.2.2.2.1 _ q) d (k p e s m args below meth c H locs ls cells slots C hR hl hL h1 h2)
theorem w_ldc2 {i : Nat} {v : Int64} (d : decode mt.1.2.1 pc = .ok (.ldc2_w i, 3)) (q : Cond.constantLong mt.1.1 i v ∈ lw_all) (k : Wp g mt kc ks (pc + 3) L (.long v :: st) σ) : Wp g mt kc ks pc L (st) σ := by
  intro p e s m args below meth c H locs ls cells slots C hR hl hL h1 h2
  exact lv_ldc2 C.2.1 C.2.2.1 C.2.2.2.2.2.2.1 (C.2.2.2.2.2.2.2.1 _ q) d (k p e s m args below meth c H locs ls cells slots C hR hl hL h1 h2)
theorem w_iload_n {k0 : Fin 4} {x : Int32} (d : decode mt.1.2.1 pc = .ok (.iload_n k0, 1)) (hv : L[(k0 : Nat)]? = some (some (.int x))) (k : Wp g mt kc ks (pc + 1) L (.int x :: st) σ) : Wp g mt kc ks pc L (st) σ := by
  intro p e s m args below meth c H locs ls cells slots C hR hl hL h1 h2
  exact lv_iload_n C.2.1 C.2.2.1 d rfl (lv_get hL hv) (k p e s m args below meth c H locs ls cells slots C hR hl hL h1 h2)
theorem w_iload {i : Nat} {x : Int32} (d : decode mt.1.2.1 pc = .ok (.iload i, 2)) (hv : L[i]? = some (some (.int x))) (k : Wp g mt kc ks (pc + 2) L (.int x :: st) σ) : Wp g mt kc ks pc L (st) σ := by
  intro p e s m args below meth c H locs ls cells slots C hR hl hL h1 h2
  exact lv_iload C.2.1 C.2.2.1 d (lv_get hL hv) (k p e s m args below meth c H locs ls cells slots C hR hl hL h1 h2)
theorem w_lload_n {k0 : Fin 4} {x : Int64} (d : decode mt.1.2.1 pc = .ok (.lload_n k0, 1)) (hv : L[(k0 : Nat)]? = some (some (.long x))) (k : Wp g mt kc ks (pc + 1) L (.long x :: st) σ) : Wp g mt kc ks pc L (st) σ := by
  intro p e s m args below meth c H locs ls cells slots C hR hl hL h1 h2
  exact lv_lload_n C.2.1 C.2.2.1 d rfl (lv_get hL hv) (k p e s m args below meth c H locs ls cells slots C hR hl hL h1 h2)
theorem w_lload {i : Nat} {x : Int64} (d : decode mt.1.2.1 pc = .ok (.lload i, 2)) (hv : L[i]? = some (some (.long x))) (k : Wp g mt kc ks (pc + 2) L (.long x :: st) σ) : Wp g mt kc ks pc L (st) σ := by
  intro p e s m args below meth c H locs ls cells slots C hR hl hL h1 h2
  exact lv_lload C.2.1 C.2.2.1 d (lv_get hL hv) (k p e s m args below meth c H locs ls cells slots C hR hl hL h1 h2)
theorem w_aload_n {k0 : Fin 4} {x : Nat} (d : decode mt.1.2.1 pc = .ok (.aload_n k0, 1)) (hv : L[(k0 : Nat)]? = some (some (.ref x))) (k : Wp g mt kc ks (pc + 1) L (.ref x :: st) σ) : Wp g mt kc ks pc L (st) σ := by
  intro p e s m args below meth c H locs ls cells slots C hR hl hL h1 h2
  exact lv_aload_n C.2.1 C.2.2.1 d rfl (lv_get hL hv) (k p e s m args below meth c H locs ls cells slots C hR hl hL h1 h2)
theorem w_aload {i : Nat} {x : Nat} (d : decode mt.1.2.1 pc = .ok (.aload i, 2)) (hv : L[i]? = some (some (.ref x))) (k : Wp g mt kc ks (pc + 2) L (.ref x :: st) σ) : Wp g mt kc ks pc L (st) σ := by
  intro p e s m args below meth c H locs ls cells slots C hR hl hL h1 h2
  exact lv_aload C.2.1 C.2.2.1 d (lv_get hL hv) (k p e s m args below meth c H locs ls cells slots C hR hl hL h1 h2)
theorem w_aload_nN {k0 : Fin 4} (d : decode mt.1.2.1 pc = .ok (.aload_n k0, 1)) (hv : L[(k0 : Nat)]? = some (some .null)) (k : Wp g mt kc ks (pc + 1) L (.null :: st) σ) : Wp g mt kc ks pc L (st) σ := by
  intro p e s m args below meth c H locs ls cells slots C hR hl hL h1 h2
  exact lv_aload_nN C.2.1 C.2.2.1 d rfl (lv_get hL hv) (k p e s m args below meth c H locs ls cells slots C hR hl hL h1 h2)
theorem w_aloadN {i : Nat} (d : decode mt.1.2.1 pc = .ok (.aload i, 2)) (hv : L[i]? = some (some .null)) (k : Wp g mt kc ks (pc + 2) L (.null :: st) σ) : Wp g mt kc ks pc L (st) σ := by
  intro p e s m args below meth c H locs ls cells slots C hR hl hL h1 h2
  exact lv_aloadN C.2.1 C.2.2.1 d (lv_get hL hv) (k p e s m args below meth c H locs ls cells slots C hR hl hL h1 h2)
theorem w_null (d : decode mt.1.2.1 pc = .ok (.aconst_null, 1)) (k : Wp g mt kc ks (pc + 1) L (.null :: st) σ) : Wp g mt kc ks pc L (st) σ := by
  intro p e s m args below meth c H locs ls cells slots C hR hl hL h1 h2
  exact lv_null C.2.1 C.2.2.1 d (k p e s m args below meth c H locs ls cells slots C hR hl hL h1 h2)
theorem w_istore_n {k0 : Fin 4} {x : Int32} {L2 : List (Option Value)} (d : decode mt.1.2.1 pc = .ok (.istore_n k0, 1)) (ho : okP L (k0 : Nat) = true) (hn : (k0 : Nat) < mt.1.2.2.1) (h2 : L.set (k0 : Nat) (some (.int x)) = L2) (k : Wp g mt kc ks (pc + 1) L2 st σ) : Wp g mt kc ks pc L (.int x :: st) σ := by
  subst h2
  intro p e s m args below meth c H locs ls cells slots C hR hl hL h1 h2
  exact lv_istore_n C.2.1 C.2.2.1 d rfl hL hn rfl (fun ls2 hL2 => k p e s m args below meth c H locs ls2 cells slots C hR hl (lv_less hL2 (asL_set1 ho)) h1 h2)
theorem w_istore {i : Nat} {x : Int32} {L2 : List (Option Value)} (d : decode mt.1.2.1 pc = .ok (.istore i, 2)) (ho : okP L i = true) (hn : i < mt.1.2.2.1) (h2 : L.set i (some (.int x)) = L2) (k : Wp g mt kc ks (pc + 2) L2 st σ) : Wp g mt kc ks pc L (.int x :: st) σ := by
  subst h2
  intro p e s m args below meth c H locs ls cells slots C hR hl hL h1 h2
  exact lv_istore C.2.1 C.2.2.1 d hL hn rfl (fun ls2 hL2 => k p e s m args below meth c H locs ls2 cells slots C hR hl (lv_less hL2 (asL_set1 ho)) h1 h2)
theorem w_lstore_n {k0 : Fin 4} {x : Int64} {L2 : List (Option Value)} (d : decode mt.1.2.1 pc = .ok (.lstore_n k0, 1)) (ho : okP L (k0 : Nat) = true) (hn : (k0 : Nat) + 1 < mt.1.2.2.1) (h2 : (L.set (k0 : Nat) (some (.long x))).set ((k0 : Nat) + 1) none = L2) (k : Wp g mt kc ks (pc + 1) L2 st σ) : Wp g mt kc ks pc L (.long x :: st) σ := by
  subst h2
  intro p e s m args below meth c H locs ls cells slots C hR hl hL h1 h2
  exact lv_lstore_n C.2.1 C.2.2.1 d rfl hL hn rfl (fun ls2 hL2 => k p e s m args below meth c H locs ls2 cells slots C hR hl (lv_less hL2 (asL_set2 ho)) h1 h2)
theorem w_lstore {i : Nat} {x : Int64} {L2 : List (Option Value)} (d : decode mt.1.2.1 pc = .ok (.lstore i, 2)) (ho : okP L i = true) (hn : i + 1 < mt.1.2.2.1) (h2 : (L.set i (some (.long x))).set (i + 1) none = L2) (k : Wp g mt kc ks (pc + 2) L2 st σ) : Wp g mt kc ks pc L (.long x :: st) σ := by
  subst h2
  intro p e s m args below meth c H locs ls cells slots C hR hl hL h1 h2
  exact lv_lstore C.2.1 C.2.2.1 d hL hn rfl (fun ls2 hL2 => k p e s m args below meth c H locs ls2 cells slots C hR hl (lv_less hL2 (asL_set2 ho)) h1 h2)
theorem w_astore_n {k0 : Fin 4} {x : Nat} {L2 : List (Option Value)} (d : decode mt.1.2.1 pc = .ok (.astore_n k0, 1)) (ho : okP L (k0 : Nat) = true) (hn : (k0 : Nat) < mt.1.2.2.1) (h2 : L.set (k0 : Nat) (some (.ref x)) = L2) (k : Wp g mt kc ks (pc + 1) L2 st σ) : Wp g mt kc ks pc L (.ref x :: st) σ := by
  subst h2
  intro p e s m args below meth c H locs ls cells slots C hR hl hL h1 h2
  exact lv_astore_n C.2.1 C.2.2.1 d rfl hL hn rfl (fun ls2 hL2 => k p e s m args below meth c H locs ls2 cells slots C hR hl (lv_less hL2 (asL_set1 ho)) h1 h2)
theorem w_astore {i : Nat} {x : Nat} {L2 : List (Option Value)} (d : decode mt.1.2.1 pc = .ok (.astore i, 2)) (ho : okP L i = true) (hn : i < mt.1.2.2.1) (h2 : L.set i (some (.ref x)) = L2) (k : Wp g mt kc ks (pc + 2) L2 st σ) : Wp g mt kc ks pc L (.ref x :: st) σ := by
  subst h2
  intro p e s m args below meth c H locs ls cells slots C hR hl hL h1 h2
  exact lv_astore C.2.1 C.2.2.1 d hL hn rfl (fun ls2 hL2 => k p e s m args below meth c H locs ls2 cells slots C hR hl (lv_less hL2 (asL_set1 ho)) h1 h2)
theorem w_astore_nN {k0 : Fin 4} {L2 : List (Option Value)} (d : decode mt.1.2.1 pc = .ok (.astore_n k0, 1)) (ho : okP L (k0 : Nat) = true) (hn : (k0 : Nat) < mt.1.2.2.1) (h2 : L.set (k0 : Nat) (some (.null)) = L2) (k : Wp g mt kc ks (pc + 1) L2 st σ) : Wp g mt kc ks pc L (.null :: st) σ := by
  subst h2
  intro p e s m args below meth c H locs ls cells slots C hR hl hL h1 h2
  exact lv_astore_nN C.2.1 C.2.2.1 d rfl hL hn rfl (fun ls2 hL2 => k p e s m args below meth c H locs ls2 cells slots C hR hl (lv_less hL2 (asL_set1 ho)) h1 h2)
theorem w_astoreN {i : Nat} {L2 : List (Option Value)} (d : decode mt.1.2.1 pc = .ok (.astore i, 2)) (ho : okP L i = true) (hn : i < mt.1.2.2.1) (h2 : L.set i (some (.null)) = L2) (k : Wp g mt kc ks (pc + 2) L2 st σ) : Wp g mt kc ks pc L (.null :: st) σ := by
  subst h2
  intro p e s m args below meth c H locs ls cells slots C hR hl hL h1 h2
  exact lv_astoreN C.2.1 C.2.2.1 d hL hn rfl (fun ls2 hL2 => k p e s m args below meth c H locs ls2 cells slots C hR hl (lv_less hL2 (asL_set1 ho)) h1 h2)
theorem w_iinc {i : Nat} {n : Int} {x v : Int32} {L2 : List (Option Value)} (d : decode mt.1.2.1 pc = .ok (.iinc i n, 3)) (hx : L[i]? = some (some (.int x))) (hv : x + Int32.ofInt n = v) (ho : okP L i = true) (hn : i < mt.1.2.2.1) (h2 : L.set i (some (.int v)) = L2) (k : Wp g mt kc ks (pc + 3) L2 st σ) : Wp g mt kc ks pc L st σ := by
  subst h2
  intro p e s m args below meth c H locs ls cells slots C hR hl hL h1 h2
  obtain ⟨j, hj⟩ := List.getElem?_of_mem (asL_mem0.mpr hx)
  exact lv_iinc C.2.1 C.2.2.1 d hL hj hv hn rfl (fun ls2 hL2 => k p e s m args below meth c H locs ls2 cells slots C hR hl (lv_less hL2 (asL_set1 ho)) h1 h2)
theorem w_iincW {i : Nat} {n : Int} {x v : Int32} {L2 : List (Option Value)} (d : decode mt.1.2.1 pc = .ok (.iinc i n, 6)) (hx : L[i]? = some (some (.int x))) (hv : x + Int32.ofInt n = v) (ho : okP L i = true) (hn : i < mt.1.2.2.1) (h2 : L.set i (some (.int v)) = L2) (k : Wp g mt kc ks (pc + 6) L2 st σ) : Wp g mt kc ks pc L st σ := by
  subst h2
  intro p e s m args below meth c H locs ls cells slots C hR hl hL h1 h2
  obtain ⟨j, hj⟩ := List.getElem?_of_mem (asL_mem0.mpr hx)
  exact lv_iincW C.2.1 C.2.2.1 d hL hj hv hn rfl (fun ls2 hL2 => k p e s m args below meth c H locs ls2 cells slots C hR hl (lv_less hL2 (asL_set1 ho)) h1 h2)
theorem w_iadd {x y : Int32} (d : decode mt.1.2.1 pc = .ok (.iadd, 1)) (k : Wp g mt kc ks (pc + 1) L (.int (x + y) :: st) σ) : Wp g mt kc ks pc L (.int y :: .int x :: st) σ := by
  intro p e s m args below meth c H locs ls cells slots C hR hl hL h1 h2
  exact lv_iadd C.2.1 C.2.2.1 d (k p e s m args below meth c H locs ls cells slots C hR hl hL h1 h2)
theorem w_isub {x y : Int32} (d : decode mt.1.2.1 pc = .ok (.isub, 1)) (k : Wp g mt kc ks (pc + 1) L (.int (x - y) :: st) σ) : Wp g mt kc ks pc L (.int y :: .int x :: st) σ := by
  intro p e s m args below meth c H locs ls cells slots C hR hl hL h1 h2
  exact lv_isub C.2.1 C.2.2.1 d (k p e s m args below meth c H locs ls cells slots C hR hl hL h1 h2)
theorem w_imul {x y : Int32} (d : decode mt.1.2.1 pc = .ok (.imul, 1)) (k : Wp g mt kc ks (pc + 1) L (.int (x * y) :: st) σ) : Wp g mt kc ks pc L (.int y :: .int x :: st) σ := by
  intro p e s m args below meth c H locs ls cells slots C hR hl hL h1 h2
  exact lv_imul C.2.1 C.2.2.1 d (k p e s m args below meth c H locs ls cells slots C hR hl hL h1 h2)
theorem w_iand {x y : Int32} (d : decode mt.1.2.1 pc = .ok (.iand, 1)) (k : Wp g mt kc ks (pc + 1) L (.int (x &&& y) :: st) σ) : Wp g mt kc ks pc L (.int y :: .int x :: st) σ := by
  intro p e s m args below meth c H locs ls cells slots C hR hl hL h1 h2
  exact lv_iand C.2.1 C.2.2.1 d (k p e s m args below meth c H locs ls cells slots C hR hl hL h1 h2)
theorem w_ior {x y : Int32} (d : decode mt.1.2.1 pc = .ok (.ior, 1)) (k : Wp g mt kc ks (pc + 1) L (.int (x ||| y) :: st) σ) : Wp g mt kc ks pc L (.int y :: .int x :: st) σ := by
  intro p e s m args below meth c H locs ls cells slots C hR hl hL h1 h2
  exact lv_ior C.2.1 C.2.2.1 d (k p e s m args below meth c H locs ls cells slots C hR hl hL h1 h2)
theorem w_ixor {x y : Int32} (d : decode mt.1.2.1 pc = .ok (.ixor, 1)) (k : Wp g mt kc ks (pc + 1) L (.int (x ^^^ y) :: st) σ) : Wp g mt kc ks pc L (.int y :: .int x :: st) σ := by
  intro p e s m args below meth c H locs ls cells slots C hR hl hL h1 h2
  exact lv_ixor C.2.1 C.2.2.1 d (k p e s m args below meth c H locs ls cells slots C hR hl hL h1 h2)
theorem w_idiv {x y : Int32} (d : decode mt.1.2.1 pc = .ok (.idiv, 1)) (h : ¬ y = 0) (k : Wp g mt kc ks (pc + 1) L (.int (x / y) :: st) σ) : Wp g mt kc ks pc L (.int y :: .int x :: st) σ := by
  intro p e s m args below meth c H locs ls cells slots C hR hl hL h1 h2
  exact lv_idiv C.2.1 C.2.2.1 d h (k p e s m args below meth c H locs ls cells slots C hR hl hL h1 h2)
theorem w_irem {x y v : Int32} (d : decode mt.1.2.1 pc = .ok (.irem, 1)) (h : ¬ y = 0) (hv : x - x / y * y = v) (k : Wp g mt kc ks (pc + 1) L (.int v :: st) σ) : Wp g mt kc ks pc L (.int y :: .int x :: st) σ := by
  intro p e s m args below meth c H locs ls cells slots C hR hl hL h1 h2
  exact t_irem C.2.1 C.2.2.1 d h hv (k p e s m args below meth c H locs ls cells slots C hR hl hL h1 h2)
theorem w_ishl {x y : Int32} (d : decode mt.1.2.1 pc = .ok (.ishl, 1)) (k : Wp g mt kc ks (pc + 1) L (.int (x <<< (y &&& 31)) :: st) σ) : Wp g mt kc ks pc L (.int y :: .int x :: st) σ := by
  intro p e s m args below meth c H locs ls cells slots C hR hl hL h1 h2
  exact lv_ishl C.2.1 C.2.2.1 d (k p e s m args below meth c H locs ls cells slots C hR hl hL h1 h2)
theorem w_ishr {x y : Int32} (d : decode mt.1.2.1 pc = .ok (.ishr, 1)) (k : Wp g mt kc ks (pc + 1) L (.int (x >>> (y &&& 31)) :: st) σ) : Wp g mt kc ks pc L (.int y :: .int x :: st) σ := by
  intro p e s m args below meth c H locs ls cells slots C hR hl hL h1 h2
  exact lv_ishr C.2.1 C.2.2.1 d (k p e s m args below meth c H locs ls cells slots C hR hl hL h1 h2)
theorem w_lrem {x y : Int64} (d : decode mt.1.2.1 pc = .ok (.lrem, 1)) (h : ¬ y = 0) (k : Wp g mt kc ks (pc + 1) L (.long (x - x / y * y) :: st) σ) : Wp g mt kc ks pc L (.long y :: .long x :: st) σ := by
  intro p e s m args below meth c H locs ls cells slots C hR hl hL h1 h2
  exact lv_lrem C.2.1 C.2.2.1 d h (k p e s m args below meth c H locs ls cells slots C hR hl hL h1 h2)
theorem w_ineg {x : Int32} (d : decode mt.1.2.1 pc = .ok (.ineg, 1)) (k : Wp g mt kc ks (pc + 1) L (.int (-x) :: st) σ) : Wp g mt kc ks pc L (.int x :: st) σ := by
  intro p e s m args below meth c H locs ls cells slots C hR hl hL h1 h2
  exact lv_ineg C.2.1 C.2.2.1 d (k p e s m args below meth c H locs ls cells slots C hR hl hL h1 h2)
theorem w_ladd {x y : Int64} (d : decode mt.1.2.1 pc = .ok (.ladd, 1)) (k : Wp g mt kc ks (pc + 1) L (.long (x + y) :: st) σ) : Wp g mt kc ks pc L (.long y :: .long x :: st) σ := by
  intro p e s m args below meth c H locs ls cells slots C hR hl hL h1 h2
  exact lv_ladd C.2.1 C.2.2.1 d (k p e s m args below meth c H locs ls cells slots C hR hl hL h1 h2)
theorem w_lsub {x y : Int64} (d : decode mt.1.2.1 pc = .ok (.lsub, 1)) (k : Wp g mt kc ks (pc + 1) L (.long (x - y) :: st) σ) : Wp g mt kc ks pc L (.long y :: .long x :: st) σ := by
  intro p e s m args below meth c H locs ls cells slots C hR hl hL h1 h2
  exact lv_lsub C.2.1 C.2.2.1 d (k p e s m args below meth c H locs ls cells slots C hR hl hL h1 h2)
theorem w_lmul {x y : Int64} (d : decode mt.1.2.1 pc = .ok (.lmul, 1)) (k : Wp g mt kc ks (pc + 1) L (.long (x * y) :: st) σ) : Wp g mt kc ks pc L (.long y :: .long x :: st) σ := by
  intro p e s m args below meth c H locs ls cells slots C hR hl hL h1 h2
  exact lv_lmul C.2.1 C.2.2.1 d (k p e s m args below meth c H locs ls cells slots C hR hl hL h1 h2)
theorem w_land {x y : Int64} (d : decode mt.1.2.1 pc = .ok (.land, 1)) (k : Wp g mt kc ks (pc + 1) L (.long (x &&& y) :: st) σ) : Wp g mt kc ks pc L (.long y :: .long x :: st) σ := by
  intro p e s m args below meth c H locs ls cells slots C hR hl hL h1 h2
  exact lv_land C.2.1 C.2.2.1 d (k p e s m args below meth c H locs ls cells slots C hR hl hL h1 h2)
theorem w_lor {x y : Int64} (d : decode mt.1.2.1 pc = .ok (.lor, 1)) (k : Wp g mt kc ks (pc + 1) L (.long (x ||| y) :: st) σ) : Wp g mt kc ks pc L (.long y :: .long x :: st) σ := by
  intro p e s m args below meth c H locs ls cells slots C hR hl hL h1 h2
  exact lv_lor C.2.1 C.2.2.1 d (k p e s m args below meth c H locs ls cells slots C hR hl hL h1 h2)
theorem w_lxor {x y : Int64} (d : decode mt.1.2.1 pc = .ok (.lxor, 1)) (k : Wp g mt kc ks (pc + 1) L (.long (x ^^^ y) :: st) σ) : Wp g mt kc ks pc L (.long y :: .long x :: st) σ := by
  intro p e s m args below meth c H locs ls cells slots C hR hl hL h1 h2
  exact lv_lxor C.2.1 C.2.2.1 d (k p e s m args below meth c H locs ls cells slots C hR hl hL h1 h2)
theorem w_ldiv {x y : Int64} (d : decode mt.1.2.1 pc = .ok (.ldiv, 1)) (h : ¬ y = 0) (k : Wp g mt kc ks (pc + 1) L (.long (x / y) :: st) σ) : Wp g mt kc ks pc L (.long y :: .long x :: st) σ := by
  intro p e s m args below meth c H locs ls cells slots C hR hl hL h1 h2
  exact lv_ldiv C.2.1 C.2.2.1 d h (k p e s m args below meth c H locs ls cells slots C hR hl hL h1 h2)
theorem w_lneg {x : Int64} (d : decode mt.1.2.1 pc = .ok (.lneg, 1)) (k : Wp g mt kc ks (pc + 1) L (.long (-x) :: st) σ) : Wp g mt kc ks pc L (.long x :: st) σ := by
  intro p e s m args below meth c H locs ls cells slots C hR hl hL h1 h2
  exact lv_lneg C.2.1 C.2.2.1 d (k p e s m args below meth c H locs ls cells slots C hR hl hL h1 h2)
theorem w_lcmp {x y : Int64} (d : decode mt.1.2.1 pc = .ok (.lcmp, 1)) (k : Wp g mt kc ks (pc + 1) L (.int (lg_cmp x y) :: st) σ) : Wp g mt kc ks pc L (.long y :: .long x :: st) σ := by
  intro p e s m args below meth c H locs ls cells slots C hR hl hL h1 h2
  exact W.lcmp C.2.1 C.2.2.1 d (k p e s m args below meth c H locs ls cells slots C hR hl hL h1 h2)
theorem w_i2l {x : Int32} {v : Int64} (d : decode mt.1.2.1 pc = .ok (.i2l, 1)) (hv : x.toInt64 = v) (k : Wp g mt kc ks (pc + 1) L (.long v :: st) σ) : Wp g mt kc ks pc L (.int x :: st) σ := by
  intro p e s m args below meth c H locs ls cells slots C hR hl hL h1 h2
  exact lv_i2l C.2.1 C.2.2.1 d hv (k p e s m args below meth c H locs ls cells slots C hR hl hL h1 h2)
theorem w_l2i {x : Int64} {v : Int32} (d : decode mt.1.2.1 pc = .ok (.l2i, 1)) (hv : x.toInt32 = v) (k : Wp g mt kc ks (pc + 1) L (.int v :: st) σ) : Wp g mt kc ks pc L (.long x :: st) σ := by
  intro p e s m args below meth c H locs ls cells slots C hR hl hL h1 h2
  exact lv_l2i C.2.1 C.2.2.1 d hv (k p e s m args below meth c H locs ls cells slots C hR hl hL h1 h2)
theorem w_i2b {x v : Int32} (d : decode mt.1.2.1 pc = .ok (.i2b, 1)) (hv : x.toInt8.toInt32 = v) (k : Wp g mt kc ks (pc + 1) L (.int v :: st) σ) : Wp g mt kc ks pc L (.int x :: st) σ := by
  intro p e s m args below meth c H locs ls cells slots C hR hl hL h1 h2
  exact lv_i2b C.2.1 C.2.2.1 d hv (k p e s m args below meth c H locs ls cells slots C hR hl hL h1 h2)
theorem w_i2s {x v : Int32} (d : decode mt.1.2.1 pc = .ok (.i2s, 1)) (hv : x.toInt16.toInt32 = v) (k : Wp g mt kc ks (pc + 1) L (.int v :: st) σ) : Wp g mt kc ks pc L (.int x :: st) σ := by
  intro p e s m args below meth c H locs ls cells slots C hR hl hL h1 h2
  exact lv_i2s C.2.1 C.2.2.1 d hv (k p e s m args below meth c H locs ls cells slots C hR hl hL h1 h2)
theorem w_i2c {x v : Int32} (d : decode mt.1.2.1 pc = .ok (.i2c, 1)) (hv : (x.toUInt32 % 65536).toInt32 = v) (k : Wp g mt kc ks (pc + 1) L (.int v :: st) σ) : Wp g mt kc ks pc L (.int x :: st) σ := by
  intro p e s m args below meth c H locs ls cells slots C hR hl hL h1 h2
  exact lv_i2c C.2.1 C.2.2.1 d hv (k p e s m args below meth c H locs ls cells slots C hR hl hL h1 h2)
theorem w_iushr {x y v : Int32} (d : decode mt.1.2.1 pc = .ok (.iushr, 1)) (hv : (x.toUInt32 >>> (y.toUInt32 &&& Int32.toUInt32 31)).toInt32 = v) (k : Wp g mt kc ks (pc + 1) L (.int v :: st) σ) : Wp g mt kc ks pc L (.int y :: .int x :: st) σ := by
  intro p e s m args below meth c H locs ls cells slots C hR hl hL h1 h2
  exact lv_iushr C.2.1 C.2.2.1 d hv (k p e s m args below meth c H locs ls cells slots C hR hl hL h1 h2)
theorem w_lushr {x v : Int64} {y : Int32} (d : decode mt.1.2.1 pc = .ok (.lushr, 1)) (hv : (x.toUInt64 >>> (y.toInt64.toUInt64 &&& Int64.toUInt64 63)).toInt64 = v) (k : Wp g mt kc ks (pc + 1) L (.long v :: st) σ) : Wp g mt kc ks pc L (.int y :: .long x :: st) σ := by
  intro p e s m args below meth c H locs ls cells slots C hR hl hL h1 h2
  exact lv_lushr C.2.1 C.2.2.1 d hv (k p e s m args below meth c H locs ls cells slots C hR hl hL h1 h2)
theorem w_lshl {x v : Int64} {y : Int32} (d : decode mt.1.2.1 pc = .ok (.lshl, 1)) (hv : x <<< (y.toInt64 &&& 63) = v) (k : Wp g mt kc ks (pc + 1) L (.long v :: st) σ) : Wp g mt kc ks pc L (.int y :: .long x :: st) σ := by
  intro p e s m args below meth c H locs ls cells slots C hR hl hL h1 h2
  exact lv_lshl C.2.1 C.2.2.1 d hv (k p e s m args below meth c H locs ls cells slots C hR hl hL h1 h2)
theorem w_lshr {x v : Int64} {y : Int32} (d : decode mt.1.2.1 pc = .ok (.lshr, 1)) (hv : x >>> (y.toInt64 &&& 63) = v) (k : Wp g mt kc ks (pc + 1) L (.long v :: st) σ) : Wp g mt kc ks pc L (.int y :: .long x :: st) σ := by
  intro p e s m args below meth c H locs ls cells slots C hR hl hL h1 h2
  exact lv_lshr C.2.1 C.2.2.1 d hv (k p e s m args below meth c H locs ls cells slots C hR hl hL h1 h2)
theorem w_dup {x : Value} (d : decode mt.1.2.1 pc = .ok (.dup, 1)) (h : x.category = 1) (k : Wp g mt kc ks (pc + 1) L (x :: x :: st) σ) : Wp g mt kc ks pc L (x :: st) σ := by
  intro p e s m args below meth c H locs ls cells slots C hR hl hL h1 h2
  exact lv_dup C.2.1 C.2.2.1 d h (k p e s m args below meth c H locs ls cells slots C hR hl hL h1 h2)
theorem w_pop {x : Value} (d : decode mt.1.2.1 pc = .ok (.pop, 1)) (h : x.category = 1) (k : Wp g mt kc ks (pc + 1) L (st) σ) : Wp g mt kc ks pc L (x :: st) σ := by
  intro p e s m args below meth c H locs ls cells slots C hR hl hL h1 h2
  exact lv_pop C.2.1 C.2.2.1 d h (k p e s m args below meth c H locs ls cells slots C hR hl hL h1 h2)
theorem w_dup_x1 {x y : Value} (d : decode mt.1.2.1 pc = .ok (.dup_x1, 1)) (h : x.category = 1) (h9 : y.category = 1) (k : Wp g mt kc ks (pc + 1) L (x :: y :: x :: st) σ) : Wp g mt kc ks pc L (x :: y :: st) σ := by
  intro p e s m args below meth c H locs ls cells slots C hR hl hL h1 h2
  exact lv_dup_x1 C.2.1 C.2.2.1 d h h9 (k p e s m args below meth c H locs ls cells slots C hR hl hL h1 h2)
theorem w_dup2 {x y : Value} (d : decode mt.1.2.1 pc = .ok (.dup2, 1)) (h : x.category = 1) (h9 : y.category = 1) (k : Wp g mt kc ks (pc + 1) L (x :: y :: x :: y :: st) σ) : Wp g mt kc ks pc L (x :: y :: st) σ := by
  intro p e s m args below meth c H locs ls cells slots C hR hl hL h1 h2
  exact lv_dup2_11 C.2.1 C.2.2.1 d h h9 (k p e s m args below meth c H locs ls cells slots C hR hl hL h1 h2)
theorem w_dup2L {x : Value} (d : decode mt.1.2.1 pc = .ok (.dup2, 1)) (h : x.category = 2) (k : Wp g mt kc ks (pc + 1) L (x :: x :: st) σ) : Wp g mt kc ks pc L (x :: st) σ := by
  intro p e s m args below meth c H locs ls cells slots C hR hl hL h1 h2
  exact lv_dup2_2 C.2.1 C.2.2.1 d h (k p e s m args below meth c H locs ls cells slots C hR hl hL h1 h2)
theorem w_if_eq {x : Int32} {off : Int} {tgt : Nat} (d : decode mt.1.2.1 pc = .ok (.ifCond .eq off, 3)) (ht : (pc : Int) + off = (tgt : Int)) (kt : x = 0 → Wp g mt kc ks tgt L st σ) (kf : ¬ x = 0 → Wp g mt kc ks (pc + 3) L st σ) : Wp g mt kc ks pc L (.int x :: st) σ := by
  intro p e s m args below meth c H locs ls cells slots C hR hl hL h1 h2
  exact lv_if_eq C.2.1 C.2.2.1 d ht (fun z => kt z p e s m args below meth c H locs ls cells slots C hR hl hL h1 h2) (fun z => kf z p e s m args below meth c H locs ls cells slots C hR hl hL h1 h2)
theorem w_icmp_eq {x y : Int32} {off : Int} {tgt : Nat} (d : decode mt.1.2.1 pc = .ok (.if_icmp .eq off, 3)) (ht : (pc : Int) + off = (tgt : Int)) (kt : x = y → Wp g mt kc ks tgt L st σ) (kf : ¬ x = y → Wp g mt kc ks (pc + 3) L st σ) : Wp g mt kc ks pc L (.int y :: .int x :: st) σ := by
  intro p e s m args below meth c H locs ls cells slots C hR hl hL h1 h2
  exact lv_icmp_eq C.2.1 C.2.2.1 d ht (fun z => kt z p e s m args below meth c H locs ls cells slots C hR hl hL h1 h2) (fun z => kf z p e s m args below meth c H locs ls cells slots C hR hl hL h1 h2)
theorem w_if_ne {x : Int32} {off : Int} {tgt : Nat} (d : decode mt.1.2.1 pc = .ok (.ifCond .ne off, 3)) (ht : (pc : Int) + off = (tgt : Int)) (kt : ¬ x = 0 → Wp g mt kc ks tgt L st σ) (kf : x = 0 → Wp g mt kc ks (pc + 3) L st σ) : Wp g mt kc ks pc L (.int x :: st) σ := by
  intro p e s m args below meth c H locs ls cells slots C hR hl hL h1 h2
  exact lv_if_ne C.2.1 C.2.2.1 d ht (fun z => kt z p e s m args below meth c H locs ls cells slots C hR hl hL h1 h2) (fun z => kf z p e s m args below meth c H locs ls cells slots C hR hl hL h1 h2)
theorem w_icmp_ne {x y : Int32} {off : Int} {tgt : Nat} (d : decode mt.1.2.1 pc = .ok (.if_icmp .ne off, 3)) (ht : (pc : Int) + off = (tgt : Int)) (kt : ¬ x = y → Wp g mt kc ks tgt L st σ) (kf : x = y → Wp g mt kc ks (pc + 3) L st σ) : Wp g mt kc ks pc L (.int y :: .int x :: st) σ := by
  intro p e s m args below meth c H locs ls cells slots C hR hl hL h1 h2
  exact lv_icmp_ne C.2.1 C.2.2.1 d ht (fun z => kt z p e s m args below meth c H locs ls cells slots C hR hl hL h1 h2) (fun z => kf z p e s m args below meth c H locs ls cells slots C hR hl hL h1 h2)
theorem w_if_lt {x : Int32} {off : Int} {tgt : Nat} (d : decode mt.1.2.1 pc = .ok (.ifCond .lt off, 3)) (ht : (pc : Int) + off = (tgt : Int)) (kt : x < 0 → Wp g mt kc ks tgt L st σ) (kf : ¬ x < 0 → Wp g mt kc ks (pc + 3) L st σ) : Wp g mt kc ks pc L (.int x :: st) σ := by
  intro p e s m args below meth c H locs ls cells slots C hR hl hL h1 h2
  exact lv_if_lt C.2.1 C.2.2.1 d ht (fun z => kt z p e s m args below meth c H locs ls cells slots C hR hl hL h1 h2) (fun z => kf z p e s m args below meth c H locs ls cells slots C hR hl hL h1 h2)
theorem w_icmp_lt {x y : Int32} {off : Int} {tgt : Nat} (d : decode mt.1.2.1 pc = .ok (.if_icmp .lt off, 3)) (ht : (pc : Int) + off = (tgt : Int)) (kt : x < y → Wp g mt kc ks tgt L st σ) (kf : ¬ x < y → Wp g mt kc ks (pc + 3) L st σ) : Wp g mt kc ks pc L (.int y :: .int x :: st) σ := by
  intro p e s m args below meth c H locs ls cells slots C hR hl hL h1 h2
  exact lv_icmp_lt C.2.1 C.2.2.1 d ht (fun z => kt z p e s m args below meth c H locs ls cells slots C hR hl hL h1 h2) (fun z => kf z p e s m args below meth c H locs ls cells slots C hR hl hL h1 h2)
theorem w_if_ge {x : Int32} {off : Int} {tgt : Nat} (d : decode mt.1.2.1 pc = .ok (.ifCond .ge off, 3)) (ht : (pc : Int) + off = (tgt : Int)) (kt : 0 ≤ x → Wp g mt kc ks tgt L st σ) (kf : ¬ 0 ≤ x → Wp g mt kc ks (pc + 3) L st σ) : Wp g mt kc ks pc L (.int x :: st) σ := by
  intro p e s m args below meth c H locs ls cells slots C hR hl hL h1 h2
  exact lv_if_ge C.2.1 C.2.2.1 d ht (fun z => kt z p e s m args below meth c H locs ls cells slots C hR hl hL h1 h2) (fun z => kf z p e s m args below meth c H locs ls cells slots C hR hl hL h1 h2)
theorem w_icmp_ge {x y : Int32} {off : Int} {tgt : Nat} (d : decode mt.1.2.1 pc = .ok (.if_icmp .ge off, 3)) (ht : (pc : Int) + off = (tgt : Int)) (kt : y ≤ x → Wp g mt kc ks tgt L st σ) (kf : ¬ y ≤ x → Wp g mt kc ks (pc + 3) L st σ) : Wp g mt kc ks pc L (.int y :: .int x :: st) σ := by
  intro p e s m args below meth c H locs ls cells slots C hR hl hL h1 h2
  exact lv_icmp_ge C.2.1 C.2.2.1 d ht (fun z => kt z p e s m args below meth c H locs ls cells slots C hR hl hL h1 h2) (fun z => kf z p e s m args below meth c H locs ls cells slots C hR hl hL h1 h2)
theorem w_if_gt {x : Int32} {off : Int} {tgt : Nat} (d : decode mt.1.2.1 pc = .ok (.ifCond .gt off, 3)) (ht : (pc : Int) + off = (tgt : Int)) (kt : 0 < x → Wp g mt kc ks tgt L st σ) (kf : ¬ 0 < x → Wp g mt kc ks (pc + 3) L st σ) : Wp g mt kc ks pc L (.int x :: st) σ := by
  intro p e s m args below meth c H locs ls cells slots C hR hl hL h1 h2
  exact lv_if_gt C.2.1 C.2.2.1 d ht (fun z => kt z p e s m args below meth c H locs ls cells slots C hR hl hL h1 h2) (fun z => kf z p e s m args below meth c H locs ls cells slots C hR hl hL h1 h2)
theorem w_icmp_gt {x y : Int32} {off : Int} {tgt : Nat} (d : decode mt.1.2.1 pc = .ok (.if_icmp .gt off, 3)) (ht : (pc : Int) + off = (tgt : Int)) (kt : y < x → Wp g mt kc ks tgt L st σ) (kf : ¬ y < x → Wp g mt kc ks (pc + 3) L st σ) : Wp g mt kc ks pc L (.int y :: .int x :: st) σ := by
  intro p e s m args below meth c H locs ls cells slots C hR hl hL h1 h2
  exact lv_icmp_gt C.2.1 C.2.2.1 d ht (fun z => kt z p e s m args below meth c H locs ls cells slots C hR hl hL h1 h2) (fun z => kf z p e s m args below meth c H locs ls cells slots C hR hl hL h1 h2)
theorem w_if_le {x : Int32} {off : Int} {tgt : Nat} (d : decode mt.1.2.1 pc = .ok (.ifCond .le off, 3)) (ht : (pc : Int) + off = (tgt : Int)) (kt : x ≤ 0 → Wp g mt kc ks tgt L st σ) (kf : ¬ x ≤ 0 → Wp g mt kc ks (pc + 3) L st σ) : Wp g mt kc ks pc L (.int x :: st) σ := by
  intro p e s m args below meth c H locs ls cells slots C hR hl hL h1 h2
  exact lv_if_le C.2.1 C.2.2.1 d ht (fun z => kt z p e s m args below meth c H locs ls cells slots C hR hl hL h1 h2) (fun z => kf z p e s m args below meth c H locs ls cells slots C hR hl hL h1 h2)
theorem w_icmp_le {x y : Int32} {off : Int} {tgt : Nat} (d : decode mt.1.2.1 pc = .ok (.if_icmp .le off, 3)) (ht : (pc : Int) + off = (tgt : Int)) (kt : x ≤ y → Wp g mt kc ks tgt L st σ) (kf : ¬ x ≤ y → Wp g mt kc ks (pc + 3) L st σ) : Wp g mt kc ks pc L (.int y :: .int x :: st) σ := by
  intro p e s m args below meth c H locs ls cells slots C hR hl hL h1 h2
  exact lv_icmp_le C.2.1 C.2.2.1 d ht (fun z => kt z p e s m args below meth c H locs ls cells slots C hR hl hL h1 h2) (fun z => kf z p e s m args below meth c H locs ls cells slots C hR hl hL h1 h2)
theorem w_icmpN_eq {a b : Nat} {off : Int} {tgt : Nat} (d : decode mt.1.2.1 pc = .ok (.if_icmp .eq off, 3)) (ht : (pc : Int) + off = (tgt : Int)) (ha : a < 2147483648) (hb : b < 2147483648) (kt : a = b → Wp g mt kc ks tgt L st σ) (kf : a ≠ b → Wp g mt kc ks (pc + 3) L st σ) : Wp g mt kc ks pc L (.int (nI b) :: .int (nI a) :: st) σ := by
  refine w_icmp_eq d ht (fun z => kt ?_) (fun z => kf ?_)
  · rw [nI_eq ha hb] at z; omega
  · rw [nI_eq ha hb] at z; omega
theorem w_ifN_eq {a : Nat} {off : Int} {tgt : Nat} (d : decode mt.1.2.1 pc = .ok (.ifCond .eq off, 3)) (ht : (pc : Int) + off = (tgt : Int)) (ha : a < 2147483648) (kt : a = 0 → Wp g mt kc ks tgt L st σ) (kf : a ≠ 0 → Wp g mt kc ks (pc + 3) L st σ) : Wp g mt kc ks pc L (.int (nI a) :: st) σ := by
  refine w_if_eq d ht (fun z => kt ?_) (fun z => kf ?_)
  · rw [← nI_0, nI_eq ha (show 0 < 2147483648 by omega)] at z; omega
  · rw [← nI_0, nI_eq ha (show 0 < 2147483648 by omega)] at z; omega
theorem w_icmpN_ne {a b : Nat} {off : Int} {tgt : Nat} (d : decode mt.1.2.1 pc = .ok (.if_icmp .ne off, 3)) (ht : (pc : Int) + off = (tgt : Int)) (ha : a < 2147483648) (hb : b < 2147483648) (kt : a ≠ b → Wp g mt kc ks tgt L st σ) (kf : a = b → Wp g mt kc ks (pc + 3) L st σ) : Wp g mt kc ks pc L (.int (nI b) :: .int (nI a) :: st) σ := by
  refine w_icmp_ne d ht (fun z => kt ?_) (fun z => kf ?_)
  · rw [nI_eq ha hb] at z; omega
  · rw [nI_eq ha hb] at z; omega
theorem w_ifN_ne {a : Nat} {off : Int} {tgt : Nat} (d : decode mt.1.2.1 pc = .ok (.ifCond .ne off, 3)) (ht : (pc : Int) + off = (tgt : Int)) (ha : a < 2147483648) (kt : a ≠ 0 → Wp g mt kc ks tgt L st σ) (kf : a = 0 → Wp g mt kc ks (pc + 3) L st σ) : Wp g mt kc ks pc L (.int (nI a) :: st) σ := by
  refine w_if_ne d ht (fun z => kt ?_) (fun z => kf ?_)
  · rw [← nI_0, nI_eq ha (show 0 < 2147483648 by omega)] at z; omega
  · rw [← nI_0, nI_eq ha (show 0 < 2147483648 by omega)] at z; omega
theorem w_icmpN_lt {a b : Nat} {off : Int} {tgt : Nat} (d : decode mt.1.2.1 pc = .ok (.if_icmp .lt off, 3)) (ht : (pc : Int) + off = (tgt : Int)) (ha : a < 2147483648) (hb : b < 2147483648) (kt : a < b → Wp g mt kc ks tgt L st σ) (kf : b ≤ a → Wp g mt kc ks (pc + 3) L st σ) : Wp g mt kc ks pc L (.int (nI b) :: .int (nI a) :: st) σ := by
  refine w_icmp_lt d ht (fun z => kt ?_) (fun z => kf ?_)
  · rw [nI_ltI ha hb] at z; omega
  · rw [nI_ltI ha hb] at z; omega
theorem w_ifN_lt {a : Nat} {off : Int} {tgt : Nat} (d : decode mt.1.2.1 pc = .ok (.ifCond .lt off, 3)) (ht : (pc : Int) + off = (tgt : Int)) (ha : a < 2147483648) (kt : a < 0 → Wp g mt kc ks tgt L st σ) (kf : 0 ≤ a → Wp g mt kc ks (pc + 3) L st σ) : Wp g mt kc ks pc L (.int (nI a) :: st) σ := by
  refine w_if_lt d ht (fun z => kt ?_) (fun z => kf ?_)
  · rw [← nI_0, nI_ltI ha (show 0 < 2147483648 by omega)] at z; omega
  · rw [← nI_0, nI_ltI ha (show 0 < 2147483648 by omega)] at z; omega
theorem w_icmpN_ge {a b : Nat} {off : Int} {tgt : Nat} (d : decode mt.1.2.1 pc = .ok (.if_icmp .ge off, 3)) (ht : (pc : Int) + off = (tgt : Int)) (ha : a < 2147483648) (hb : b < 2147483648) (kt : b ≤ a → Wp g mt kc ks tgt L st σ) (kf : a < b → Wp g mt kc ks (pc + 3) L st σ) : Wp g mt kc ks pc L (.int (nI b) :: .int (nI a) :: st) σ := by
  refine w_icmp_ge d ht (fun z => kt ?_) (fun z => kf ?_)
  · rw [nI_leI hb ha] at z; omega
  · rw [nI_leI hb ha] at z; omega
theorem w_ifN_ge {a : Nat} {off : Int} {tgt : Nat} (d : decode mt.1.2.1 pc = .ok (.ifCond .ge off, 3)) (ht : (pc : Int) + off = (tgt : Int)) (ha : a < 2147483648) (kt : 0 ≤ a → Wp g mt kc ks tgt L st σ) (kf : a < 0 → Wp g mt kc ks (pc + 3) L st σ) : Wp g mt kc ks pc L (.int (nI a) :: st) σ := by
  refine w_if_ge d ht (fun z => kt ?_) (fun z => kf ?_)
  · rw [← nI_0, nI_leI (show 0 < 2147483648 by omega) ha] at z; omega
  · rw [← nI_0, nI_leI (show 0 < 2147483648 by omega) ha] at z; omega
theorem w_icmpN_gt {a b : Nat} {off : Int} {tgt : Nat} (d : decode mt.1.2.1 pc = .ok (.if_icmp .gt off, 3)) (ht : (pc : Int) + off = (tgt : Int)) (ha : a < 2147483648) (hb : b < 2147483648) (kt : b < a → Wp g mt kc ks tgt L st σ) (kf : a ≤ b → Wp g mt kc ks (pc + 3) L st σ) : Wp g mt kc ks pc L (.int (nI b) :: .int (nI a) :: st) σ := by
  refine w_icmp_gt d ht (fun z => kt ?_) (fun z => kf ?_)
  · rw [nI_ltI hb ha] at z; omega
  · rw [nI_ltI hb ha] at z; omega
theorem w_ifN_gt {a : Nat} {off : Int} {tgt : Nat} (d : decode mt.1.2.1 pc = .ok (.ifCond .gt off, 3)) (ht : (pc : Int) + off = (tgt : Int)) (ha : a < 2147483648) (kt : 0 < a → Wp g mt kc ks tgt L st σ) (kf : a ≤ 0 → Wp g mt kc ks (pc + 3) L st σ) : Wp g mt kc ks pc L (.int (nI a) :: st) σ := by
  refine w_if_gt d ht (fun z => kt ?_) (fun z => kf ?_)
  · rw [← nI_0, nI_ltI (show 0 < 2147483648 by omega) ha] at z; omega
  · rw [← nI_0, nI_ltI (show 0 < 2147483648 by omega) ha] at z; omega
theorem w_icmpN_le {a b : Nat} {off : Int} {tgt : Nat} (d : decode mt.1.2.1 pc = .ok (.if_icmp .le off, 3)) (ht : (pc : Int) + off = (tgt : Int)) (ha : a < 2147483648) (hb : b < 2147483648) (kt : a ≤ b → Wp g mt kc ks tgt L st σ) (kf : b < a → Wp g mt kc ks (pc + 3) L st σ) : Wp g mt kc ks pc L (.int (nI b) :: .int (nI a) :: st) σ := by
  refine w_icmp_le d ht (fun z => kt ?_) (fun z => kf ?_)
  · rw [nI_leI ha hb] at z; omega
  · rw [nI_leI ha hb] at z; omega
theorem w_ifN_le {a : Nat} {off : Int} {tgt : Nat} (d : decode mt.1.2.1 pc = .ok (.ifCond .le off, 3)) (ht : (pc : Int) + off = (tgt : Int)) (ha : a < 2147483648) (kt : a ≤ 0 → Wp g mt kc ks tgt L st σ) (kf : 0 < a → Wp g mt kc ks (pc + 3) L st σ) : Wp g mt kc ks pc L (.int (nI a) :: st) σ := by
  refine w_if_le d ht (fun z => kt ?_) (fun z => kf ?_)
  · rw [← nI_0, nI_leI ha (show 0 < 2147483648 by omega)] at z; omega
  · rw [← nI_0, nI_leI ha (show 0 < 2147483648 by omega)] at z; omega
theorem w_goto {off : Int} {tgt : Nat} (d : decode mt.1.2.1 pc = .ok (.goto off, 3)) (ht : (pc : Int) + off = (tgt : Int)) (k : Wp g mt kc ks tgt L st σ) : Wp g mt kc ks pc L st σ := by
  intro p e s m args below meth c H locs ls cells slots C hR hl hL h1 h2
  exact lv_goto C.2.1 C.2.2.1 d ht (k p e s m args below meth c H locs ls cells slots C hR hl hL h1 h2)
theorem w_tableOut {dflt lo hi : Int} {offs : Array Int} {len : Nat} {x : Int32} {tgt : Nat} (d : decode mt.1.2.1 pc = .ok (.tableswitch dflt lo hi offs, len)) (h : x.toInt < lo ∨ hi < x.toInt) (ht : (pc : Int) + dflt = (tgt : Int)) (k : Wp g mt kc ks tgt L st σ) : Wp g mt kc ks pc L (.int x :: st) σ := by
  intro p e s m args below meth c H locs ls cells slots C hR hl hL h1 h2
  exact lv_tableOut C.2.1 C.2.2.1 d h ht (k p e s m args below meth c H locs ls cells slots C hR hl hL h1 h2)
theorem w_tableIn {dflt lo hi : Int} {offs : Array Int} {len : Nat} {x : Int32} {off : Int} {tgt : Nat} (d : decode mt.1.2.1 pc = .ok (.tableswitch dflt lo hi offs, len)) (h8 : ¬ x.toInt < lo) (h9 : ¬ hi < x.toInt) (ho : offs[(x.toInt - lo).toNat]? = some off) (ht : (pc : Int) + off = (tgt : Int)) (k : Wp g mt kc ks tgt L st σ) : Wp g mt kc ks pc L (.int x :: st) σ := by
  intro p e s m args below meth c H locs ls cells slots C hR hl hL h1 h2
  exact lv_tableIn C.2.1 C.2.2.1 d h8 h9 ho ht (k p e s m args below meth c H locs ls cells slots C hR hl hL h1 h2)
theorem w_ifnonnull {x : Nat} {off : Int} {tgt : Nat} (d : decode mt.1.2.1 pc = .ok (.ifnonnull off, 3)) (ht : (pc : Int) + off = (tgt : Int)) (k : Wp g mt kc ks tgt L st σ) : Wp g mt kc ks pc L (.ref x :: st) σ := by
  intro p e s m args below meth c H locs ls cells slots C hR hl hL h1 h2
  exact lv_ifnonnull C.2.1 C.2.2.1 d ht (k p e s m args below meth c H locs ls cells slots C hR hl hL h1 h2)
theorem w_ifnonnullN {off : Int} (d : decode mt.1.2.1 pc = .ok (.ifnonnull off, 3)) (k : Wp g mt kc ks (pc + 3) L st σ) : Wp g mt kc ks pc L (.null :: st) σ := by
  intro p e s m args below meth c H locs ls cells slots C hR hl hL h1 h2
  exact lv_ifnonnullN C.2.1 C.2.2.1 d (k p e s m args below meth c H locs ls cells slots C hR hl hL h1 h2)
theorem w_ifnull {x : Nat} {off : Int} (d : decode mt.1.2.1 pc = .ok (.ifnull off, 3)) (k : Wp g mt kc ks (pc + 3) L st σ) : Wp g mt kc ks pc L (.ref x :: st) σ := by
  intro p e s m args below meth c H locs ls cells slots C hR hl hL h1 h2
  exact lv_ifnull C.2.1 C.2.2.1 d (k p e s m args below meth c H locs ls cells slots C hR hl hL h1 h2)
theorem w_ifnullN {off : Int} {tgt : Nat} (d : decode mt.1.2.1 pc = .ok (.ifnull off, 3)) (ht : (pc : Int) + off = (tgt : Int)) (k : Wp g mt kc ks tgt L st σ) : Wp g mt kc ks pc L (.null :: st) σ := by
  intro p e s m args below meth c H locs ls cells slots C hR hl hL h1 h2
  exact lv_ifnullN C.2.1 C.2.2.1 d ht (k p e s m args below meth c H locs ls cells slots C hR hl hL h1 h2)
theorem w_topi {x : Int32} (k : ∀ y : Int32, y = x → Wp g mt kc ks pc L (.int y :: st) σ) : Wp g mt kc ks pc L (.int x :: st) σ := k x rfl
theorem w_top {x y : Value} (h : x = y) (k : Wp g mt kc ks pc L (y :: st) σ) : Wp g mt kc ks pc L (x :: st) σ := h ▸ k
theorem w_L {L2 : List (Option Value)} (h : ∀ (i : Nat) (v : Value), L2[i]? = some (some v) → L[i]? = some (some v)) (k : Wp g mt kc ks pc L2 st σ) : Wp g mt kc ks pc L st σ := by
  intro p e s m args below meth c H locs ls cells slots C hR hl hL h1 h2
  exact k p e s m args below meth c H locs ls cells slots C hR hl (lv_less hL (fun q hq => by obtain ⟨i, v⟩ := q; exact asL_mem0.mpr (h i v (asL_mem0.mp hq)))) h1 h2
theorem w_bud {kc2 ks2 : Nat} (h1 : kc2 ≤ kc) (h2 : ks2 ≤ ks) (k : Wp g mt kc2 ks2 pc L st σ) : Wp g mt kc ks pc L st σ := by
  intro p e s m args below meth c H locs ls cells slots C hR hl hL h3 h4
  exact k p e s m args below meth c H locs ls cells slots C hR hl hL (by omega) (by omega)
theorem w_iaddN {a b : Nat} (d : decode mt.1.2.1 pc = .ok (.iadd, 1)) (k : Wp g mt kc ks (pc + 1) L (.int (nI (a + b)) :: st) σ) : Wp g mt kc ks pc L (.int (nI b) :: .int (nI a) :: st) σ := w_iadd d (by rw [nI_add]; exact k)
theorem w_imulN {a b : Nat} (d : decode mt.1.2.1 pc = .ok (.imul, 1)) (k : Wp g mt kc ks (pc + 1) L (.int (nI (a * b)) :: st) σ) : Wp g mt kc ks pc L (.int (nI b) :: .int (nI a) :: st) σ := w_imul d (by rw [pk_mul]; exact k)
theorem w_isubN {a b : Nat} (d : decode mt.1.2.1 pc = .ok (.isub, 1)) (h : b ≤ a) (k : Wp g mt kc ks (pc + 1) L (.int (nI (a - b)) :: st) σ) : Wp g mt kc ks pc L (.int (nI b) :: .int (nI a) :: st) σ := w_isub d (by rw [pk_sub h]; exact k)
end ROWS
