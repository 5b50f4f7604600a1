/-! THE LAW (printed by gen/lawgen.py): its cases, its loop, its start -/
set_option maxRecDepth 100000
theorem okW_tray : MOkW miX0_tray 3 := ⟨q549, q134, ⟨by decide +kernel, by decide +kernel, by decide +kernel⟩, by decide, q547, q548⟩
theorem okW_write : MOkW miX0_write 3 := ⟨q598, q134, ⟨by decide +kernel, by decide +kernel, by decide +kernel⟩, by decide, q596, q597⟩
theorem okW_read : MOkW miX0_read 2 := ⟨q632, q134, ⟨by decide +kernel, by decide +kernel, by decide +kernel⟩, by decide, q630, q631⟩
theorem okW_pour : MOkW miX0_pour 5 := ⟨q644, q134, ⟨by decide +kernel, by decide +kernel, by decide +kernel⟩, by decide, q642, q643⟩
theorem okW_beach : MOkW miX0_beach 1 := ⟨q663, q134, ⟨by decide +kernel, by decide +kernel, by decide +kernel⟩, by decide, q661, q662⟩
theorem okW_days : MOkW miX0_days 1 := ⟨q909, q134, ⟨by decide +kernel, by decide +kernel, by decide +kernel⟩, by decide, q907, q908⟩
theorem okW_gulls : MOkW miX0_gulls 1 := ⟨q1303, q134, ⟨by decide +kernel, by decide +kernel, by decide +kernel⟩, by decide, q1301, q1302⟩
theorem w_st {g : GG} {mt : MT} {kc ks pc : Nat} {L : List (Option Value)} {st st2 : List Value} {σ : PH} (h : st = st2) (k : Wp g mt kc ks pc L st2 σ) : Wp g mt kc ks pc L st σ := h ▸ k
theorem cmp_0 {v : Int64} : lg_cmp v v = 0 := by simp [lg_cmp]
theorem and127 (x : Int32) : ∃ n, n < 128 ∧ x &&& nI 127 = nI n := by
  refine ⟨(x &&& nI 127).toBitVec.toNat, ?_, ?_⟩
  · have h : (x &&& nI 127).toBitVec = x.toBitVec &&& 127#32 := by
      rw [Int32.toBitVec_and]
      congr 1
    rw [h, BitVec.toNat_and]
    have : (127#32 : BitVec 32).toNat = 2 ^ 7 - 1 := rfl
    rw [this, Nat.and_two_pow_sub_one_eq_mod]
    exact Nat.mod_lt _ (by decide)
  · apply Int32.toBitVec_inj.mp
    show _ = BitVec.ofNat 32 _
    simp
theorem len_ge {L i : Nat} (hL : L ≤ 1000) (hi : i ≤ 1000) (h : ¬ nI L - nI 6 < nI i) : i + 6 ≤ L := by
  by_cases h6 : 6 ≤ L
  · rw [pk_sub h6, nI_ltI (by omega) (by omega)] at h
    omega
  · exfalso
    apply h
    have h1 : nI L - nI 6 < 0 := by
      rcases show L = 0 ∨ L = 1 ∨ L = 2 ∨ L = 3 ∨ L = 4 ∨ L = 5 by omega with rfl | rfl | rfl | rfl | rfl | rfl <;> decide +kernel
    rw [Int32.lt_iff_toInt_lt] at h1 ⊢
    rw [nI_toInt (by omega)]
    have h2 : (0 : Int32).toInt = 0 := rfl
    omega
section LAW
variable {g : GG} {ax bm b L : Nat} {xs : Nat → Int32} {nm : String} {hh : List (Nat × Nat × Nat × Nat)}
set_option maxHeartbeats 1000000 in
theorem law_c0 {kc ks i : Nat} {σ : PH} (hS : ScrG g b L xs) (hL : L ≤ 384) (hi : i + 6 ≤ L) (jj : JJ g ax bm σ) (kk : ∀ σ2, JJ g ax bm σ2 → Wp g (mtL (gz g) nm hh) kc ks 2076 [some (.ref b), some (.ref ax), some (.ref bm), some (.int (nI i))] [] σ2) : Wp g (mtL (gz g) nm hh) (kc + 9000) (ks + 112000) 308 [some (.ref b), some (.ref ax), some (.ref bm), some (.int (nI i))] [] σ := by
  obtain ⟨d1, mc, ms, d2, P, q1, q2, q3, q4, ⟨t1, f1, h1⟩, hC, hM⟩ := pr_status  jj
  refine w_bud (kc2 := kc + mc) (ks2 := ks + ms) (by omega) (by omega) ?_
  refine w_aload_n dL_law_308 rfl ?_
  refine w_callV (kc := kc) (ks := ks) (mi := miX0_status) (As := []) (rest := []) dL_law_309 q534 okX0_status clX0 rfl hC (by show d1 + 1 ≤ 400; omega) h1 rfl rfl (Nat.le_of_ble_eq_true rfl) ?_ (fun _ _ _ h => h.elim)
  rintro w1 σ1 ⟨v, rfl, hP⟩
  obtain ⟨⟨t2, f2, h2⟩, hM2⟩ := hM v σ1 hP
  refine w_st (st2 := [.int v]) rfl ?_
  refine w_aload_n dL_law_312 rfl ?_
  refine w_callV (kc := kc) (ks := ks) (mc2 := 0) (ms2 := 0) (mi := miX8_status) (As := []) (rest := [.int v]) dL_law_313 q1667 okX8_status clX8 rfl hM2 (by show d2 + 1 ≤ 400; omega) h2 rfl rfl (Nat.le_of_ble_eq_true rfl) ?_ (fun _ _ _ h => h.elim)
  rintro w2 σ2 ⟨rfl, j2⟩
  refine w_st (st2 := [.int v, .int v]) rfl ?_
  refine w_icmp_eq dL_law_316 rfl (fun _ => kk σ2 j2) (fun h => absurd rfl h)
set_option maxHeartbeats 1000000 in
theorem law_c1 {kc ks i : Nat} {σ : PH} (hS : ScrG g b L xs) (hL : L ≤ 384) (hi : i + 6 ≤ L) (jj : JJ g ax bm σ) (kk : ∀ σ2, JJ g ax bm σ2 → Wp g (mtL (gz g) nm hh) kc ks 2076 [some (.ref b), some (.ref ax), some (.ref bm), some (.int (nI i))] [] σ2) : Wp g (mtL (gz g) nm hh) (kc + 9000) (ks + 112000) 321 [some (.ref b), some (.ref ax), some (.ref bm), some (.int (nI i))] [] σ := by
  obtain ⟨d1, mc, ms, d2, P, q1, q2, q3, q4, ⟨t1, f1, h1⟩, hC, hM⟩ := pr_top  jj
  refine w_bud (kc2 := kc + mc) (ks2 := ks + ms) (by omega) (by omega) ?_
  refine w_aload_n dL_law_321 rfl ?_
  refine w_callV (kc := kc) (ks := ks) (mi := miX0_top) (As := []) (rest := []) dL_law_322 q538 okX0_top clX0 rfl hC (by show d1 + 1 ≤ 400; omega) h1 rfl rfl (Nat.le_of_ble_eq_true rfl) ?_ (fun _ _ _ h => h.elim)
  rintro w1 σ1 ⟨v, rfl, hP⟩
  obtain ⟨⟨t2, f2, h2⟩, hM2⟩ := hM v σ1 hP
  refine w_st (st2 := [.long v]) rfl ?_
  refine w_aload_n dL_law_325 rfl ?_
  refine w_callV (kc := kc) (ks := ks) (mc2 := 0) (ms2 := 0) (mi := miX8_top) (As := []) (rest := [.long v]) dL_law_326 q1671 okX8_top clX8 rfl hM2 (by show d2 + 1 ≤ 400; omega) h2 rfl rfl (Nat.le_of_ble_eq_true rfl) ?_ (fun _ _ _ h => h.elim)
  rintro w2 σ2 ⟨rfl, j2⟩
  refine w_st (st2 := [.long v, .long v]) rfl ?_
  refine w_lcmp dL_law_329 ?_
  refine w_if_eq dL_law_330 rfl (fun _ => kk σ2 j2) (fun h => absurd cmp_0 h)
set_option maxHeartbeats 1000000 in
theorem law_c2 {kc ks i : Nat} {σ : PH} (hS : ScrG g b L xs) (hL : L ≤ 384) (hi : i + 6 ≤ L) (jj : JJ g ax bm σ) (kk : ∀ σ2, JJ g ax bm σ2 → Wp g (mtL (gz g) nm hh) kc ks 2076 [some (.ref b), some (.ref ax), some (.ref bm), some (.int (nI i))] [] σ2) : Wp g (mtL (gz g) nm hh) (kc + 9000) (ks + 112000) 335 [some (.ref b), some (.ref ax), some (.ref bm), some (.int (nI i))] [] σ := by
  obtain ⟨d1, mc, ms, d2, P, q1, q2, q3, q4, ⟨t1, f1, h1⟩, hC, hM⟩ := pr_bottom  jj
  refine w_bud (kc2 := kc + mc) (ks2 := ks + ms) (by omega) (by omega) ?_
  refine w_aload_n dL_law_335 rfl ?_
  refine w_callV (kc := kc) (ks := ks) (mi := miX0_bottom) (As := []) (rest := []) dL_law_336 q542 okX0_bottom clX0 rfl hC (by show d1 + 1 ≤ 400; omega) h1 rfl rfl (Nat.le_of_ble_eq_true rfl) ?_ (fun _ _ _ h => h.elim)
  rintro w1 σ1 ⟨v, rfl, hP⟩
  obtain ⟨⟨t2, f2, h2⟩, hM2⟩ := hM v σ1 hP
  refine w_st (st2 := [.long v]) rfl ?_
  refine w_aload_n dL_law_339 rfl ?_
  refine w_callV (kc := kc) (ks := ks) (mc2 := 0) (ms2 := 0) (mi := miX8_bottom) (As := []) (rest := [.long v]) dL_law_340 q1675 okX8_bottom clX8 rfl hM2 (by show d2 + 1 ≤ 400; omega) h2 rfl rfl (Nat.le_of_ble_eq_true rfl) ?_ (fun _ _ _ h => h.elim)
  rintro w2 σ2 ⟨rfl, j2⟩
  refine w_st (st2 := [.long v, .long v]) rfl ?_
  refine w_lcmp dL_law_343 ?_
  refine w_if_eq dL_law_344 rfl (fun _ => kk σ2 j2) (fun h => absurd cmp_0 h)
set_option maxHeartbeats 1000000 in
theorem law_c3 {kc ks i : Nat} {σ : PH} (hS : ScrG g b L xs) (hL : L ≤ 384) (hi : i + 6 ≤ L) (jj : JJ g ax bm σ) (kk : ∀ σ2, JJ g ax bm σ2 → Wp g (mtL (gz g) nm hh) kc ks 2076 [some (.ref b), some (.ref ax), some (.ref bm), some (.int (nI i))] [] σ2) : Wp g (mtL (gz g) nm hh) (kc + 9000) (ks + 112000) 349 [some (.ref b), some (.ref ax), some (.ref bm), some (.int (nI i))] [] σ := by
  obtain ⟨d1, mc, ms, d2, P, q1, q2, q3, q4, ⟨t1, f1, h1⟩, hC, hM⟩ := pr_tray (x := (xs (i + 1))) (y := (xs (i + 2))) (z := (xs (i + 3))) jj
  refine w_bud (kc2 := kc + mc) (ks2 := ks + ms) (by omega) (by omega) ?_
  refine w_aload_n dL_law_349 rfl ?_
  refine w_aload_n dL_law_350 rfl ?_
  refine w_iload_n dL_law_351 rfl ?_
  refine w_iconst (v := nI 1) dL_law_352 ki_1 ?_
  refine w_iaddN dL_law_353 ?_
  refine w_sld hS dL_law_354 (by omega) (by omega) ?_
  refine w_aload_n dL_law_355 rfl ?_
  refine w_iload_n dL_law_356 rfl ?_
  refine w_iconst (v := nI 2) dL_law_357 ki_2 ?_
  refine w_iaddN dL_law_358 ?_
  refine w_sld hS dL_law_359 (by omega) (by omega) ?_
  refine w_aload_n dL_law_360 rfl ?_
  refine w_iload_n dL_law_361 rfl ?_
  refine w_iconst (v := nI 3) dL_law_362 ki_3 ?_
  refine w_iaddN dL_law_363 ?_
  refine w_sld hS dL_law_364 (by omega) (by omega) ?_
  refine w_callVW (kc := kc) (ks := ks) (mi := miX0_tray) (As := [.int (xs (i + 1)), .int (xs (i + 2)), .int (xs (i + 3))]) (rest := []) rfl dL_law_365 q546 okW_tray clX0 rfl hC (by show d1 + 1 ≤ 400; omega) h1 rfl rfl (Nat.le_of_ble_eq_true rfl) ?_ (fun _ _ _ h => h.elim)
  rintro w1 σ1 ⟨v, rfl, hP⟩
  obtain ⟨⟨t2, f2, h2⟩, hM2⟩ := hM v σ1 hP
  refine w_st (st2 := [.int v]) rfl ?_
  refine w_aload_n dL_law_368 rfl ?_
  refine w_aload_n dL_law_369 rfl ?_
  refine w_iload_n dL_law_370 rfl ?_
  refine w_iconst (v := nI 1) dL_law_371 ki_1 ?_
  refine w_iaddN dL_law_372 ?_
  refine w_sld hS dL_law_373 (by omega) (by omega) ?_
  refine w_aload_n dL_law_374 rfl ?_
  refine w_iload_n dL_law_375 rfl ?_
  refine w_iconst (v := nI 2) dL_law_376 ki_2 ?_
  refine w_iaddN dL_law_377 ?_
  refine w_sld hS dL_law_378 (by omega) (by omega) ?_
  refine w_aload_n dL_law_379 rfl ?_
  refine w_iload_n dL_law_380 rfl ?_
  refine w_iconst (v := nI 3) dL_law_381 ki_3 ?_
  refine w_iaddN dL_law_382 ?_
  refine w_sld hS dL_law_383 (by omega) (by omega) ?_
  refine w_callV (kc := kc) (ks := ks) (mc2 := 0) (ms2 := 0) (mi := miX8_tray) (As := [.int (xs (i + 1)), .int (xs (i + 2)), .int (xs (i + 3))]) (rest := [.int v]) dL_law_384 q1679 okX8_tray clX8 rfl hM2 (by show d2 + 1 ≤ 400; omega) h2 rfl rfl (Nat.le_of_ble_eq_true rfl) ?_ (fun _ _ _ h => h.elim)
  rintro w2 σ2 ⟨rfl, j2⟩
  refine w_st (st2 := [.int v, .int v]) rfl ?_
  refine w_icmp_eq dL_law_387 rfl (fun _ => kk σ2 j2) (fun h => absurd rfl h)
set_option maxHeartbeats 1000000 in
theorem law_c4 {kc ks i : Nat} {σ : PH} (hS : ScrG g b L xs) (hL : L ≤ 384) (hi : i + 6 ≤ L) (jj : JJ g ax bm σ) (kk : ∀ σ2, JJ g ax bm σ2 → Wp g (mtL (gz g) nm hh) kc ks 2076 [some (.ref b), some (.ref ax), some (.ref bm), some (.int (nI i))] [] σ2) : Wp g (mtL (gz g) nm hh) (kc + 9000) (ks + 112000) 392 [some (.ref b), some (.ref ax), some (.ref bm), some (.int (nI i))] [] σ := by
  obtain ⟨d1, mc, ms, d2, P, q1, q2, q3, q4, ⟨t1, f1, h1⟩, hC, hM⟩ := pr_write (x := (xs (i + 1))) (y := (xs (i + 2))) (v := (((xs (i + 3)).toInt64 <<< ((nI 32).toInt64 &&& 63)) ||| ((xs (i + 4)).toInt64 &&& (4294967295 : Int64)))) jj
  refine w_bud (kc2 := kc + mc) (ks2 := ks + ms) (by omega) (by omega) ?_
  refine w_aload_n dL_law_392 rfl ?_
  refine w_aload_n dL_law_393 rfl ?_
  refine w_iload_n dL_law_394 rfl ?_
  refine w_iconst (v := nI 1) dL_law_395 ki_1 ?_
  refine w_iaddN dL_law_396 ?_
  refine w_sld hS dL_law_397 (by omega) (by omega) ?_
  refine w_aload_n dL_law_398 rfl ?_
  refine w_iload_n dL_law_399 rfl ?_
  refine w_iconst (v := nI 2) dL_law_400 ki_2 ?_
  refine w_iaddN dL_law_401 ?_
  refine w_sld hS dL_law_402 (by omega) (by omega) ?_
  refine w_aload_n dL_law_403 rfl ?_
  refine w_iload_n dL_law_404 rfl ?_
  refine w_iconst (v := nI 3) dL_law_405 ki_3 ?_
  refine w_iaddN dL_law_406 ?_
  refine w_sld hS dL_law_407 (by omega) (by omega) ?_
  refine w_i2l dL_law_408 rfl ?_
  refine w_bipush (v := nI 32) dL_law_409 kb_32 ?_
  refine w_lshl dL_law_411 rfl ?_
  refine w_aload_n dL_law_412 rfl ?_
  refine w_iload_n dL_law_413 rfl ?_
  refine w_iconst (v := nI 4) dL_law_414 ki_4 ?_
  refine w_iaddN dL_law_415 ?_
  refine w_sld hS dL_law_416 (by omega) (by omega) ?_
  refine w_i2l dL_law_417 rfl ?_
  refine w_ldc2 dL_law_418 q2290 ?_
  refine w_land dL_law_421 ?_
  refine w_lor dL_law_422 ?_
  refine w_callVW (kc := kc) (ks := ks) (mi := miX0_write) (As := [.int (xs (i + 1)), .int (xs (i + 2)), .long (((xs (i + 3)).toInt64 <<< ((nI 32).toInt64 &&& 63)) ||| ((xs (i + 4)).toInt64 &&& (4294967295 : Int64)))]) (rest := []) rfl dL_law_423 q595 okW_write clX0 rfl hC (by show d1 + 1 ≤ 400; omega) h1 rfl rfl (Nat.le_of_ble_eq_true rfl) ?_ (fun _ _ _ h => h.elim)
  rintro w1 σ1 ⟨v, rfl, hP⟩
  obtain ⟨⟨t2, f2, h2⟩, hM2⟩ := hM v σ1 hP
  refine w_st (st2 := [.int v]) rfl ?_
  refine w_aload_n dL_law_426 rfl ?_
  refine w_aload_n dL_law_427 rfl ?_
  refine w_iload_n dL_law_428 rfl ?_
  refine w_iconst (v := nI 1) dL_law_429 ki_1 ?_
  refine w_iaddN dL_law_430 ?_
  refine w_sld hS dL_law_431 (by omega) (by omega) ?_
  refine w_aload_n dL_law_432 rfl ?_
  refine w_iload_n dL_law_433 rfl ?_
  refine w_iconst (v := nI 2) dL_law_434 ki_2 ?_
  refine w_iaddN dL_law_435 ?_
  refine w_sld hS dL_law_436 (by omega) (by omega) ?_
  refine w_aload_n dL_law_437 rfl ?_
  refine w_iload_n dL_law_438 rfl ?_
  refine w_iconst (v := nI 3) dL_law_439 ki_3 ?_
  refine w_iaddN dL_law_440 ?_
  refine w_sld hS dL_law_441 (by omega) (by omega) ?_
  refine w_i2l dL_law_442 rfl ?_
  refine w_bipush (v := nI 32) dL_law_443 kb_32 ?_
  refine w_lshl dL_law_445 rfl ?_
  refine w_aload_n dL_law_446 rfl ?_
  refine w_iload_n dL_law_447 rfl ?_
  refine w_iconst (v := nI 4) dL_law_448 ki_4 ?_
  refine w_iaddN dL_law_449 ?_
  refine w_sld hS dL_law_450 (by omega) (by omega) ?_
  refine w_i2l dL_law_451 rfl ?_
  refine w_ldc2 dL_law_452 q2290 ?_
  refine w_land dL_law_455 ?_
  refine w_lor dL_law_456 ?_
  refine w_callV (kc := kc) (ks := ks) (mc2 := 0) (ms2 := 0) (mi := miX8_write) (As := [.int (xs (i + 1)), .int (xs (i + 2)), .long (((xs (i + 3)).toInt64 <<< ((nI 32).toInt64 &&& 63)) ||| ((xs (i + 4)).toInt64 &&& (4294967295 : Int64)))]) (rest := [.int v]) dL_law_457 q1690 okX8_write clX8 rfl hM2 (by show d2 + 1 ≤ 400; omega) h2 rfl rfl (Nat.le_of_ble_eq_true rfl) ?_ (fun _ _ _ h => h.elim)
  rintro w2 σ2 ⟨rfl, j2⟩
  refine w_st (st2 := [.int v, .int v]) rfl ?_
  refine w_icmp_eq dL_law_460 rfl (fun _ => kk σ2 j2) (fun h => absurd rfl h)
set_option maxHeartbeats 1000000 in
theorem law_c5 {kc ks i : Nat} {σ : PH} (hS : ScrG g b L xs) (hL : L ≤ 384) (hi : i + 6 ≤ L) (jj : JJ g ax bm σ) (kk : ∀ σ2, JJ g ax bm σ2 → Wp g (mtL (gz g) nm hh) kc ks 2076 [some (.ref b), some (.ref ax), some (.ref bm), some (.int (nI i))] [] σ2) : Wp g (mtL (gz g) nm hh) (kc + 9000) (ks + 112000) 465 [some (.ref b), some (.ref ax), some (.ref bm), some (.int (nI i))] [] σ := by
  obtain ⟨d1, mc, ms, d2, P, q1, q2, q3, q4, ⟨t1, f1, h1⟩, hC, hM⟩ := pr_read (x := (xs (i + 1))) (y := (xs (i + 2))) jj
  refine w_bud (kc2 := kc + mc) (ks2 := ks + ms) (by omega) (by omega) ?_
  refine w_aload_n dL_law_465 rfl ?_
  refine w_aload_n dL_law_466 rfl ?_
  refine w_iload_n dL_law_467 rfl ?_
  refine w_iconst (v := nI 1) dL_law_468 ki_1 ?_
  refine w_iaddN dL_law_469 ?_
  refine w_sld hS dL_law_470 (by omega) (by omega) ?_
  refine w_aload_n dL_law_471 rfl ?_
  refine w_iload_n dL_law_472 rfl ?_
  refine w_iconst (v := nI 2) dL_law_473 ki_2 ?_
  refine w_iaddN dL_law_474 ?_
  refine w_sld hS dL_law_475 (by omega) (by omega) ?_
  refine w_callVW (kc := kc) (ks := ks) (mi := miX0_read) (As := [.int (xs (i + 1)), .int (xs (i + 2))]) (rest := []) rfl dL_law_476 q629 okW_read clX0 rfl hC (by show d1 + 1 ≤ 400; omega) h1 rfl rfl (Nat.le_of_ble_eq_true rfl) ?_ (fun _ _ _ h => h.elim)
  rintro w1 σ1 ⟨v, rfl, hP⟩
  obtain ⟨⟨t2, f2, h2⟩, hM2⟩ := hM v σ1 hP
  refine w_st (st2 := [.long v]) rfl ?_
  refine w_aload_n dL_law_479 rfl ?_
  refine w_aload_n dL_law_480 rfl ?_
  refine w_iload_n dL_law_481 rfl ?_
  refine w_iconst (v := nI 1) dL_law_482 ki_1 ?_
  refine w_iaddN dL_law_483 ?_
  refine w_sld hS dL_law_484 (by omega) (by omega) ?_
  refine w_aload_n dL_law_485 rfl ?_
  refine w_iload_n dL_law_486 rfl ?_
  refine w_iconst (v := nI 2) dL_law_487 ki_2 ?_
  refine w_iaddN dL_law_488 ?_
  refine w_sld hS dL_law_489 (by omega) (by omega) ?_
  refine w_callV (kc := kc) (ks := ks) (mc2 := 0) (ms2 := 0) (mi := miX8_read) (As := [.int (xs (i + 1)), .int (xs (i + 2))]) (rest := [.long v]) dL_law_490 q1701 okX8_read clX8 rfl hM2 (by show d2 + 1 ≤ 400; omega) h2 rfl rfl (Nat.le_of_ble_eq_true rfl) ?_ (fun _ _ _ h => h.elim)
  rintro w2 σ2 ⟨rfl, j2⟩
  refine w_st (st2 := [.long v, .long v]) rfl ?_
  refine w_lcmp dL_law_493 ?_
  refine w_if_eq dL_law_494 rfl (fun _ => kk σ2 j2) (fun h => absurd cmp_0 h)
set_option maxHeartbeats 1000000 in
theorem law_c6 {kc ks i : Nat} {σ : PH} (hS : ScrG g b L xs) (hL : L ≤ 384) (hi : i + 6 ≤ L) (jj : JJ g ax bm σ) (kk : ∀ σ2, JJ g ax bm σ2 → Wp g (mtL (gz g) nm hh) kc ks 2076 [some (.ref b), some (.ref ax), some (.ref bm), some (.int (nI i))] [] σ2) : Wp g (mtL (gz g) nm hh) (kc + 9000) (ks + 112000) 499 [some (.ref b), some (.ref ax), some (.ref bm), some (.int (nI i))] [] σ := by
  obtain ⟨d1, mc, ms, d2, P, q1, q2, q3, q4, ⟨t1, f1, h1⟩, hC, hM⟩ := pr_pour (x := (xs (i + 1))) (y := (xs (i + 2))) (z := (xs (i + 3))) (u := (xs (i + 4))) (w := (xs (i + 5))) jj
  refine w_bud (kc2 := kc + mc) (ks2 := ks + ms) (by omega) (by omega) ?_
  refine w_aload_n dL_law_499 rfl ?_
  refine w_aload_n dL_law_500 rfl ?_
  refine w_iload_n dL_law_501 rfl ?_
  refine w_iconst (v := nI 1) dL_law_502 ki_1 ?_
  refine w_iaddN dL_law_503 ?_
  refine w_sld hS dL_law_504 (by omega) (by omega) ?_
  refine w_aload_n dL_law_505 rfl ?_
  refine w_iload_n dL_law_506 rfl ?_
  refine w_iconst (v := nI 2) dL_law_507 ki_2 ?_
  refine w_iaddN dL_law_508 ?_
  refine w_sld hS dL_law_509 (by omega) (by omega) ?_
  refine w_aload_n dL_law_510 rfl ?_
  refine w_iload_n dL_law_511 rfl ?_
  refine w_iconst (v := nI 3) dL_law_512 ki_3 ?_
  refine w_iaddN dL_law_513 ?_
  refine w_sld hS dL_law_514 (by omega) (by omega) ?_
  refine w_aload_n dL_law_515 rfl ?_
  refine w_iload_n dL_law_516 rfl ?_
  refine w_iconst (v := nI 4) dL_law_517 ki_4 ?_
  refine w_iaddN dL_law_518 ?_
  refine w_sld hS dL_law_519 (by omega) (by omega) ?_
  refine w_aload_n dL_law_520 rfl ?_
  refine w_iload_n dL_law_521 rfl ?_
  refine w_iconst (v := nI 5) dL_law_522 ki_5 ?_
  refine w_iaddN dL_law_523 ?_
  refine w_sld hS dL_law_524 (by omega) (by omega) ?_
  refine w_callVW (kc := kc) (ks := ks) (mi := miX0_pour) (As := [.int (xs (i + 1)), .int (xs (i + 2)), .int (xs (i + 3)), .int (xs (i + 4)), .int (xs (i + 5))]) (rest := []) rfl dL_law_525 q641 okW_pour clX0 rfl hC (by show d1 + 1 ≤ 400; omega) h1 rfl rfl (Nat.le_of_ble_eq_true rfl) ?_ (fun _ _ _ h => h.elim)
  rintro w1 σ1 ⟨v, rfl, hP⟩
  obtain ⟨⟨t2, f2, h2⟩, hM2⟩ := hM v σ1 hP
  refine w_st (st2 := [.int v]) rfl ?_
  refine w_aload_n dL_law_528 rfl ?_
  refine w_aload_n dL_law_529 rfl ?_
  refine w_iload_n dL_law_530 rfl ?_
  refine w_iconst (v := nI 1) dL_law_531 ki_1 ?_
  refine w_iaddN dL_law_532 ?_
  refine w_sld hS dL_law_533 (by omega) (by omega) ?_
  refine w_aload_n dL_law_534 rfl ?_
  refine w_iload_n dL_law_535 rfl ?_
  refine w_iconst (v := nI 2) dL_law_536 ki_2 ?_
  refine w_iaddN dL_law_537 ?_
  refine w_sld hS dL_law_538 (by omega) (by omega) ?_
  refine w_aload_n dL_law_539 rfl ?_
  refine w_iload_n dL_law_540 rfl ?_
  refine w_iconst (v := nI 3) dL_law_541 ki_3 ?_
  refine w_iaddN dL_law_542 ?_
  refine w_sld hS dL_law_543 (by omega) (by omega) ?_
  refine w_aload_n dL_law_544 rfl ?_
  refine w_iload_n dL_law_545 rfl ?_
  refine w_iconst (v := nI 4) dL_law_546 ki_4 ?_
  refine w_iaddN dL_law_547 ?_
  refine w_sld hS dL_law_548 (by omega) (by omega) ?_
  refine w_aload_n dL_law_549 rfl ?_
  refine w_iload_n dL_law_550 rfl ?_
  refine w_iconst (v := nI 5) dL_law_551 ki_5 ?_
  refine w_iaddN dL_law_552 ?_
  refine w_sld hS dL_law_553 (by omega) (by omega) ?_
  refine w_callV (kc := kc) (ks := ks) (mc2 := 0) (ms2 := 0) (mi := miX8_pour) (As := [.int (xs (i + 1)), .int (xs (i + 2)), .int (xs (i + 3)), .int (xs (i + 4)), .int (xs (i + 5))]) (rest := [.int v]) dL_law_554 q1706 okX8_pour clX8 rfl hM2 (by show d2 + 1 ≤ 400; omega) h2 rfl rfl (Nat.le_of_ble_eq_true rfl) ?_ (fun _ _ _ h => h.elim)
  rintro w2 σ2 ⟨rfl, j2⟩
  refine w_st (st2 := [.int v, .int v]) rfl ?_
  refine w_icmp_eq dL_law_557 rfl (fun _ => kk σ2 j2) (fun h => absurd rfl h)
set_option maxHeartbeats 1000000 in
theorem law_c7 {kc ks i : Nat} {σ : PH} (hS : ScrG g b L xs) (hL : L ≤ 384) (hi : i + 6 ≤ L) (jj : JJ g ax bm σ) (kk : ∀ σ2, JJ g ax bm σ2 → Wp g (mtL (gz g) nm hh) kc ks 2076 [some (.ref b), some (.ref ax), some (.ref bm), some (.int (nI i))] [] σ2) : Wp g (mtL (gz g) nm hh) (kc + 9000) (ks + 112000) 562 [some (.ref b), some (.ref ax), some (.ref bm), some (.int (nI i))] [] σ := by
  obtain ⟨d1, mc, ms, d2, P, q1, q2, q3, q4, ⟨t1, f1, h1⟩, hC, hM⟩ := pr_feed (x := (xs (i + 1))) (y := (xs (i + 2))) (z := (xs (i + 3))) (u := (xs (i + 4))) (w := (xs (i + 5))) jj
  refine w_bud (kc2 := kc + mc) (ks2 := ks + ms) (by omega) (by omega) ?_
  refine w_aload_n dL_law_562 rfl ?_
  refine w_aload_n dL_law_563 rfl ?_
  refine w_iload_n dL_law_564 rfl ?_
  refine w_iconst (v := nI 1) dL_law_565 ki_1 ?_
  refine w_iaddN dL_law_566 ?_
  refine w_sld hS dL_law_567 (by omega) (by omega) ?_
  refine w_aload_n dL_law_568 rfl ?_
  refine w_iload_n dL_law_569 rfl ?_
  refine w_iconst (v := nI 2) dL_law_570 ki_2 ?_
  refine w_iaddN dL_law_571 ?_
  refine w_sld hS dL_law_572 (by omega) (by omega) ?_
  refine w_aload_n dL_law_573 rfl ?_
  refine w_iload_n dL_law_574 rfl ?_
  refine w_iconst (v := nI 3) dL_law_575 ki_3 ?_
  refine w_iaddN dL_law_576 ?_
  refine w_sld hS dL_law_577 (by omega) (by omega) ?_
  refine w_aload_n dL_law_578 rfl ?_
  refine w_iload_n dL_law_579 rfl ?_
  refine w_iconst (v := nI 4) dL_law_580 ki_4 ?_
  refine w_iaddN dL_law_581 ?_
  refine w_sld hS dL_law_582 (by omega) (by omega) ?_
  refine w_aload_n dL_law_583 rfl ?_
  refine w_iload_n dL_law_584 rfl ?_
  refine w_iconst (v := nI 5) dL_law_585 ki_5 ?_
  refine w_iaddN dL_law_586 ?_
  refine w_sld hS dL_law_587 (by omega) (by omega) ?_
  refine w_callV (kc := kc) (ks := ks) (mi := miX0_feed) (As := [.int (xs (i + 1)), .int (xs (i + 2)), .int (xs (i + 3)), .int (xs (i + 4)), .int (xs (i + 5))]) (rest := []) dL_law_588 q652 okX0_feed clX0 rfl hC (by show d1 + 1 ≤ 400; omega) h1 rfl rfl (Nat.le_of_ble_eq_true rfl) ?_ (fun _ _ _ h => h.elim)
  rintro w1 σ1 ⟨v, rfl, hP⟩
  obtain ⟨⟨t2, f2, h2⟩, hM2⟩ := hM v σ1 hP
  refine w_st (st2 := [.int v]) rfl ?_
  refine w_aload_n dL_law_591 rfl ?_
  refine w_aload_n dL_law_592 rfl ?_
  refine w_iload_n dL_law_593 rfl ?_
  refine w_iconst (v := nI 1) dL_law_594 ki_1 ?_
  refine w_iaddN dL_law_595 ?_
  refine w_sld hS dL_law_596 (by omega) (by omega) ?_
  refine w_aload_n dL_law_597 rfl ?_
  refine w_iload_n dL_law_598 rfl ?_
  refine w_iconst (v := nI 2) dL_law_599 ki_2 ?_
  refine w_iaddN dL_law_600 ?_
  refine w_sld hS dL_law_601 (by omega) (by omega) ?_
  refine w_aload_n dL_law_602 rfl ?_
  refine w_iload_n dL_law_603 rfl ?_
  refine w_iconst (v := nI 3) dL_law_604 ki_3 ?_
  refine w_iaddN dL_law_605 ?_
  refine w_sld hS dL_law_606 (by omega) (by omega) ?_
  refine w_aload_n dL_law_607 rfl ?_
  refine w_iload_n dL_law_608 rfl ?_
  refine w_iconst (v := nI 4) dL_law_609 ki_4 ?_
  refine w_iaddN dL_law_610 ?_
  refine w_sld hS dL_law_611 (by omega) (by omega) ?_
  refine w_aload_n dL_law_612 rfl ?_
  refine w_iload_n dL_law_613 rfl ?_
  refine w_iconst (v := nI 5) dL_law_614 ki_5 ?_
  refine w_iaddN dL_law_615 ?_
  refine w_sld hS dL_law_616 (by omega) (by omega) ?_
  refine w_callV (kc := kc) (ks := ks) (mc2 := 0) (ms2 := 0) (mi := miX8_feed) (As := [.int (xs (i + 1)), .int (xs (i + 2)), .int (xs (i + 3)), .int (xs (i + 4)), .int (xs (i + 5))]) (rest := [.int v]) dL_law_617 q1710 okX8_feed clX8 rfl hM2 (by show d2 + 1 ≤ 400; omega) h2 rfl rfl (Nat.le_of_ble_eq_true rfl) ?_ (fun _ _ _ h => h.elim)
  rintro w2 σ2 ⟨rfl, j2⟩
  refine w_st (st2 := [.int v, .int v]) rfl ?_
  refine w_icmp_eq dL_law_620 rfl (fun _ => kk σ2 j2) (fun h => absurd rfl h)
set_option maxHeartbeats 1000000 in
theorem law_c8 {kc ks i : Nat} {σ : PH} (hS : ScrG g b L xs) (hL : L ≤ 384) (hi : i + 6 ≤ L) (jj : JJ g ax bm σ) (kk : ∀ σ2, JJ g ax bm σ2 → Wp g (mtL (gz g) nm hh) kc ks 2076 [some (.ref b), some (.ref ax), some (.ref bm), some (.int (nI i))] [] σ2) : Wp g (mtL (gz g) nm hh) (kc + 9000) (ks + 112000) 625 [some (.ref b), some (.ref ax), some (.ref bm), some (.int (nI i))] [] σ := by
  obtain ⟨d1, mc, ms, d2, P, q1, q2, q3, q4, ⟨t1, f1, h1⟩, hC, hM⟩ := pr_beach (x := (xs (i + 1))) jj
  refine w_bud (kc2 := kc + mc) (ks2 := ks + ms) (by omega) (by omega) ?_
  refine w_aload_n dL_law_625 rfl ?_
  refine w_aload_n dL_law_626 rfl ?_
  refine w_iload_n dL_law_627 rfl ?_
  refine w_iconst (v := nI 1) dL_law_628 ki_1 ?_
  refine w_iaddN dL_law_629 ?_
  refine w_sld hS dL_law_630 (by omega) (by omega) ?_
  refine w_callVW (kc := kc) (ks := ks) (mi := miX0_beach) (As := [.int (xs (i + 1))]) (rest := []) rfl dL_law_631 q660 okW_beach clX0 rfl hC (by show d1 + 1 ≤ 400; omega) h1 rfl rfl (Nat.le_of_ble_eq_true rfl) ?_ (fun _ _ _ h => h.elim)
  rintro w1 σ1 ⟨v, rfl, hP⟩
  obtain ⟨⟨t2, f2, h2⟩, hM2⟩ := hM v σ1 hP
  refine w_st (st2 := [.int v]) rfl ?_
  refine w_aload_n dL_law_634 rfl ?_
  refine w_aload_n dL_law_635 rfl ?_
  refine w_iload_n dL_law_636 rfl ?_
  refine w_iconst (v := nI 1) dL_law_637 ki_1 ?_
  refine w_iaddN dL_law_638 ?_
  refine w_sld hS dL_law_639 (by omega) (by omega) ?_
  refine w_callV (kc := kc) (ks := ks) (mc2 := 0) (ms2 := 0) (mi := miX8_beach) (As := [.int (xs (i + 1))]) (rest := [.int v]) dL_law_640 q1722 okX8_beach clX8 rfl hM2 (by show d2 + 1 ≤ 400; omega) h2 rfl rfl (Nat.le_of_ble_eq_true rfl) ?_ (fun _ _ _ h => h.elim)
  rintro w2 σ2 ⟨rfl, j2⟩
  refine w_st (st2 := [.int v, .int v]) rfl ?_
  refine w_icmp_eq dL_law_643 rfl (fun _ => kk σ2 j2) (fun h => absurd rfl h)
set_option maxHeartbeats 1000000 in
theorem law_c9 {kc ks i : Nat} {σ : PH} (hS : ScrG g b L xs) (hL : L ≤ 384) (hi : i + 6 ≤ L) (jj : JJ g ax bm σ) (kk : ∀ σ2, JJ g ax bm σ2 → Wp g (mtL (gz g) nm hh) kc ks 2076 [some (.ref b), some (.ref ax), some (.ref bm), some (.int (nI i))] [] σ2) : Wp g (mtL (gz g) nm hh) (kc + 9000) (ks + 112000) 648 [some (.ref b), some (.ref ax), some (.ref bm), some (.int (nI i))] [] σ := by
  obtain ⟨d1, mc, ms, d2, P, q1, q2, q3, q4, ⟨t1, f1, h1⟩, hC, hM⟩ := pr_days (x := (xs (i + 1))) jj
  refine w_bud (kc2 := kc + mc) (ks2 := ks + ms) (by omega) (by omega) ?_
  refine w_aload_n dL_law_648 rfl ?_
  refine w_aload_n dL_law_649 rfl ?_
  refine w_iload_n dL_law_650 rfl ?_
  refine w_iconst (v := nI 1) dL_law_651 ki_1 ?_
  refine w_iaddN dL_law_652 ?_
  refine w_sld hS dL_law_653 (by omega) (by omega) ?_
  refine w_callVW (kc := kc) (ks := ks) (mi := miX0_days) (As := [.int (xs (i + 1))]) (rest := []) rfl dL_law_654 q906 okW_days clX0 rfl hC (by show d1 + 1 ≤ 400; omega) h1 rfl rfl (Nat.le_of_ble_eq_true rfl) ?_ (fun _ _ _ h => h.elim)
  rintro w1 σ1 ⟨v, rfl, hP⟩
  obtain ⟨⟨t2, f2, h2⟩, hM2⟩ := hM v σ1 hP
  refine w_st (st2 := [.int v]) rfl ?_
  refine w_aload_n dL_law_657 rfl ?_
  refine w_aload_n dL_law_658 rfl ?_
  refine w_iload_n dL_law_659 rfl ?_
  refine w_iconst (v := nI 1) dL_law_660 ki_1 ?_
  refine w_iaddN dL_law_661 ?_
  refine w_sld hS dL_law_662 (by omega) (by omega) ?_
  refine w_callV (kc := kc) (ks := ks) (mc2 := 0) (ms2 := 0) (mi := miX8_days) (As := [.int (xs (i + 1))]) (rest := [.int v]) dL_law_663 q1843 okX8_days clX8 rfl hM2 (by show d2 + 1 ≤ 400; omega) h2 rfl rfl (Nat.le_of_ble_eq_true rfl) ?_ (fun _ _ _ h => h.elim)
  rintro w2 σ2 ⟨rfl, j2⟩
  refine w_st (st2 := [.int v, .int v]) rfl ?_
  refine w_icmp_eq dL_law_666 rfl (fun _ => kk σ2 j2) (fun h => absurd rfl h)
set_option maxHeartbeats 1000000 in
theorem law_c10 {kc ks i : Nat} {σ : PH} (hS : ScrG g b L xs) (hL : L ≤ 384) (hi : i + 6 ≤ L) (jj : JJ g ax bm σ) (kk : ∀ σ2, JJ g ax bm σ2 → Wp g (mtL (gz g) nm hh) kc ks 2076 [some (.ref b), some (.ref ax), some (.ref bm), some (.int (nI i))] [] σ2) : Wp g (mtL (gz g) nm hh) (kc + 9000) (ks + 112000) 671 [some (.ref b), some (.ref ax), some (.ref bm), some (.int (nI i))] [] σ := by
  obtain ⟨d1, mc, ms, d2, P, q1, q2, q3, q4, ⟨t1, f1, h1⟩, hC, hM⟩ := pr_fault (x := (xs (i + 1))) jj
  refine w_bud (kc2 := kc + mc) (ks2 := ks + ms) (by omega) (by omega) ?_
  refine w_aload_n dL_law_671 rfl ?_
  refine w_aload_n dL_law_672 rfl ?_
  refine w_iload_n dL_law_673 rfl ?_
  refine w_iconst (v := nI 1) dL_law_674 ki_1 ?_
  refine w_iaddN dL_law_675 ?_
  refine w_sld hS dL_law_676 (by omega) (by omega) ?_
  refine w_callV (kc := kc) (ks := ks) (mi := miX0_fault) (As := [.int (xs (i + 1))]) (rest := []) dL_law_677 q1007 okX0_fault clX0 rfl hC (by show d1 + 1 ≤ 400; omega) h1 rfl rfl (Nat.le_of_ble_eq_true rfl) ?_ (fun _ _ _ h => h.elim)
  rintro w1 σ1 ⟨v, rfl, hP⟩
  obtain ⟨⟨t2, f2, h2⟩, hM2⟩ := hM v σ1 hP
  refine w_st (st2 := [.int v]) rfl ?_
  refine w_aload_n dL_law_680 rfl ?_
  refine w_aload_n dL_law_681 rfl ?_
  refine w_iload_n dL_law_682 rfl ?_
  refine w_iconst (v := nI 1) dL_law_683 ki_1 ?_
  refine w_iaddN dL_law_684 ?_
  refine w_sld hS dL_law_685 (by omega) (by omega) ?_
  refine w_callV (kc := kc) (ks := ks) (mc2 := 0) (ms2 := 0) (mi := miX8_fault) (As := [.int (xs (i + 1))]) (rest := [.int v]) dL_law_686 q1718 okX8_fault clX8 rfl hM2 (by show d2 + 1 ≤ 400; omega) h2 rfl rfl (Nat.le_of_ble_eq_true rfl) ?_ (fun _ _ _ h => h.elim)
  rintro w2 σ2 ⟨rfl, j2⟩
  refine w_st (st2 := [.int v, .int v]) rfl ?_
  refine w_icmp_eq dL_law_689 rfl (fun _ => kk σ2 j2) (fun h => absurd rfl h)
set_option maxHeartbeats 1000000 in
theorem law_c11 {kc ks i : Nat} {σ : PH} (hS : ScrG g b L xs) (hL : L ≤ 384) (hi : i + 6 ≤ L) (jj : JJ g ax bm σ) (kk : ∀ σ2, JJ g ax bm σ2 → Wp g (mtL (gz g) nm hh) kc ks 2076 [some (.ref b), some (.ref ax), some (.ref bm), some (.int (nI i))] [] σ2) : Wp g (mtL (gz g) nm hh) (kc + 9000) (ks + 112000) 694 [some (.ref b), some (.ref ax), some (.ref bm), some (.int (nI i))] [] σ := by
  obtain ⟨d1, mc, ms, d2, P, q1, q2, q3, q4, ⟨t1, f1, h1⟩, hC, hM⟩ := pr_told (x := (xs (i + 1))) jj
  refine w_bud (kc2 := kc + mc) (ks2 := ks + ms) (by omega) (by omega) ?_
  refine w_aload_n dL_law_694 rfl ?_
  refine w_aload_n dL_law_695 rfl ?_
  refine w_iload_n dL_law_696 rfl ?_
  refine w_iconst (v := nI 1) dL_law_697 ki_1 ?_
  refine w_iaddN dL_law_698 ?_
  refine w_sld hS dL_law_699 (by omega) (by omega) ?_
  refine w_callV (kc := kc) (ks := ks) (mi := miX0_told) (As := [.int (xs (i + 1))]) (rest := []) dL_law_700 q1011 okX0_told clX0 rfl hC (by show d1 + 1 ≤ 400; omega) h1 rfl rfl (Nat.le_of_ble_eq_true rfl) ?_ (fun _ _ _ h => h.elim)
  rintro w1 σ1 ⟨v, rfl, hP⟩
  obtain ⟨⟨t2, f2, h2⟩, hM2⟩ := hM v σ1 hP
  refine w_st (st2 := [.int v]) rfl ?_
  refine w_aload_n dL_law_703 rfl ?_
  refine w_aload_n dL_law_704 rfl ?_
  refine w_iload_n dL_law_705 rfl ?_
  refine w_iconst (v := nI 1) dL_law_706 ki_1 ?_
  refine w_iaddN dL_law_707 ?_
  refine w_sld hS dL_law_708 (by omega) (by omega) ?_
  refine w_callV (kc := kc) (ks := ks) (mc2 := 0) (ms2 := 0) (mi := miX8_told) (As := [.int (xs (i + 1))]) (rest := [.int v]) dL_law_709 q1867 okX8_told clX8 rfl hM2 (by show d2 + 1 ≤ 400; omega) h2 rfl rfl (Nat.le_of_ble_eq_true rfl) ?_ (fun _ _ _ h => h.elim)
  rintro w2 σ2 ⟨rfl, j2⟩
  refine w_st (st2 := [.int v, .int v]) rfl ?_
  refine w_icmp_eq dL_law_712 rfl (fun _ => kk σ2 j2) (fun h => absurd rfl h)
set_option maxHeartbeats 1000000 in
theorem law_c12 {kc ks i : Nat} {σ : PH} (hS : ScrG g b L xs) (hL : L ≤ 384) (hi : i + 6 ≤ L) (jj : JJ g ax bm σ) (kk : ∀ σ2, JJ g ax bm σ2 → Wp g (mtL (gz g) nm hh) kc ks 2076 [some (.ref b), some (.ref ax), some (.ref bm), some (.int (nI i))] [] σ2) : Wp g (mtL (gz g) nm hh) (kc + 9000) (ks + 112000) 717 [some (.ref b), some (.ref ax), some (.ref bm), some (.int (nI i))] [] σ := by
  obtain ⟨d1, mc, ms, d2, P, q1, q2, q3, q4, ⟨t1, f1, h1⟩, hC, hM⟩ := pr_finder (x := (xs (i + 1))) (y := (xs (i + 2))) jj
  refine w_bud (kc2 := kc + mc) (ks2 := ks + ms) (by omega) (by omega) ?_
  refine w_aload_n dL_law_717 rfl ?_
  refine w_aload_n dL_law_718 rfl ?_
  refine w_iload_n dL_law_719 rfl ?_
  refine w_iconst (v := nI 1) dL_law_720 ki_1 ?_
  refine w_iaddN dL_law_721 ?_
  refine w_sld hS dL_law_722 (by omega) (by omega) ?_
  refine w_aload_n dL_law_723 rfl ?_
  refine w_iload_n dL_law_724 rfl ?_
  refine w_iconst (v := nI 2) dL_law_725 ki_2 ?_
  refine w_iaddN dL_law_726 ?_
  refine w_sld hS dL_law_727 (by omega) (by omega) ?_
  refine w_callV (kc := kc) (ks := ks) (mi := miX0_finder) (As := [.int (xs (i + 1)), .int (xs (i + 2))]) (rest := []) dL_law_728 q1023 okX0_finder clX0 rfl hC (by show d1 + 1 ≤ 400; omega) h1 rfl rfl (Nat.le_of_ble_eq_true rfl) ?_ (fun _ _ _ h => h.elim)
  rintro w1 σ1 ⟨v, rfl, hP⟩
  obtain ⟨⟨t2, f2, h2⟩, hM2⟩ := hM v σ1 hP
  refine w_st (st2 := [.int v]) rfl ?_
  refine w_aload_n dL_law_731 rfl ?_
  refine w_aload_n dL_law_732 rfl ?_
  refine w_iload_n dL_law_733 rfl ?_
  refine w_iconst (v := nI 1) dL_law_734 ki_1 ?_
  refine w_iaddN dL_law_735 ?_
  refine w_sld hS dL_law_736 (by omega) (by omega) ?_
  refine w_aload_n dL_law_737 rfl ?_
  refine w_iload_n dL_law_738 rfl ?_
  refine w_iconst (v := nI 2) dL_law_739 ki_2 ?_
  refine w_iaddN dL_law_740 ?_
  refine w_sld hS dL_law_741 (by omega) (by omega) ?_
  refine w_callV (kc := kc) (ks := ks) (mc2 := 0) (ms2 := 0) (mi := miX8_finder) (As := [.int (xs (i + 1)), .int (xs (i + 2))]) (rest := [.int v]) dL_law_742 q1871 okX8_finder clX8 rfl hM2 (by show d2 + 1 ≤ 400; omega) h2 rfl rfl (Nat.le_of_ble_eq_true rfl) ?_ (fun _ _ _ h => h.elim)
  rintro w2 σ2 ⟨rfl, j2⟩
  refine w_st (st2 := [.int v, .int v]) rfl ?_
  refine w_icmp_eq dL_law_745 rfl (fun _ => kk σ2 j2) (fun h => absurd rfl h)
set_option maxHeartbeats 1000000 in
theorem law_c13 {kc ks i : Nat} {σ : PH} (hS : ScrG g b L xs) (hL : L ≤ 384) (hi : i + 6 ≤ L) (jj : JJ g ax bm σ) (kk : ∀ σ2, JJ g ax bm σ2 → Wp g (mtL (gz g) nm hh) kc ks 2076 [some (.ref b), some (.ref ax), some (.ref bm), some (.int (nI i))] [] σ2) : Wp g (mtL (gz g) nm hh) (kc + 9000) (ks + 112000) 750 [some (.ref b), some (.ref ax), some (.ref bm), some (.int (nI i))] [] σ := by
  obtain ⟨d1, mc, ms, d2, P, q1, q2, q3, q4, ⟨t1, f1, h1⟩, hC, hM⟩ := pr_find (x := (xs (i + 1))) (y := (xs (i + 2))) jj
  refine w_bud (kc2 := kc + mc) (ks2 := ks + ms) (by omega) (by omega) ?_
  refine w_aload_n dL_law_750 rfl ?_
  refine w_aload_n dL_law_751 rfl ?_
  refine w_iload_n dL_law_752 rfl ?_
  refine w_iconst (v := nI 1) dL_law_753 ki_1 ?_
  refine w_iaddN dL_law_754 ?_
  refine w_sld hS dL_law_755 (by omega) (by omega) ?_
  refine w_aload_n dL_law_756 rfl ?_
  refine w_iload_n dL_law_757 rfl ?_
  refine w_iconst (v := nI 2) dL_law_758 ki_2 ?_
  refine w_iaddN dL_law_759 ?_
  refine w_sld hS dL_law_760 (by omega) (by omega) ?_
  refine w_callV (kc := kc) (ks := ks) (mi := miX0_find) (As := [.int (xs (i + 1)), .int (xs (i + 2))]) (rest := []) dL_law_761 q1032 okX0_find clX0 rfl hC (by show d1 + 1 ≤ 400; omega) h1 rfl rfl (Nat.le_of_ble_eq_true rfl) ?_ (fun _ _ _ h => h.elim)
  rintro w1 σ1 ⟨v, rfl, hP⟩
  obtain ⟨⟨t2, f2, h2⟩, hM2⟩ := hM v σ1 hP
  refine w_st (st2 := [.int v]) rfl ?_
  refine w_aload_n dL_law_764 rfl ?_
  refine w_aload_n dL_law_765 rfl ?_
  refine w_iload_n dL_law_766 rfl ?_
  refine w_iconst (v := nI 1) dL_law_767 ki_1 ?_
  refine w_iaddN dL_law_768 ?_
  refine w_sld hS dL_law_769 (by omega) (by omega) ?_
  refine w_aload_n dL_law_770 rfl ?_
  refine w_iload_n dL_law_771 rfl ?_
  refine w_iconst (v := nI 2) dL_law_772 ki_2 ?_
  refine w_iaddN dL_law_773 ?_
  refine w_sld hS dL_law_774 (by omega) (by omega) ?_
  refine w_callV (kc := kc) (ks := ks) (mc2 := 0) (ms2 := 0) (mi := miX8_find) (As := [.int (xs (i + 1)), .int (xs (i + 2))]) (rest := [.int v]) dL_law_775 q1882 okX8_find clX8 rfl hM2 (by show d2 + 1 ≤ 400; omega) h2 rfl rfl (Nat.le_of_ble_eq_true rfl) ?_ (fun _ _ _ h => h.elim)
  rintro w2 σ2 ⟨rfl, j2⟩
  refine w_st (st2 := [.int v, .int v]) rfl ?_
  refine w_icmp_eq dL_law_778 rfl (fun _ => kk σ2 j2) (fun h => absurd rfl h)
set_option maxHeartbeats 1000000 in
theorem law_c14 {kc ks i : Nat} {σ : PH} (hS : ScrG g b L xs) (hL : L ≤ 384) (hi : i + 6 ≤ L) (jj : JJ g ax bm σ) (kk : ∀ σ2, JJ g ax bm σ2 → Wp g (mtL (gz g) nm hh) kc ks 2076 [some (.ref b), some (.ref ax), some (.ref bm), some (.int (nI i))] [] σ2) : Wp g (mtL (gz g) nm hh) (kc + 9000) (ks + 112000) 783 [some (.ref b), some (.ref ax), some (.ref bm), some (.int (nI i))] [] σ := by
  obtain ⟨d1, mc, ms, d2, P, q1, q2, q3, q4, ⟨t1, f1, h1⟩, hC, hM⟩ := pr_pebble (x := (xs (i + 1))) (y := (xs (i + 2))) (z := (xs (i + 3))) jj
  refine w_bud (kc2 := kc + mc) (ks2 := ks + ms) (by omega) (by omega) ?_
  refine w_aload_n dL_law_783 rfl ?_
  refine w_aload_n dL_law_784 rfl ?_
  refine w_iload_n dL_law_785 rfl ?_
  refine w_iconst (v := nI 1) dL_law_786 ki_1 ?_
  refine w_iaddN dL_law_787 ?_
  refine w_sld hS dL_law_788 (by omega) (by omega) ?_
  refine w_aload_n dL_law_789 rfl ?_
  refine w_iload_n dL_law_790 rfl ?_
  refine w_iconst (v := nI 2) dL_law_791 ki_2 ?_
  refine w_iaddN dL_law_792 ?_
  refine w_sld hS dL_law_793 (by omega) (by omega) ?_
  refine w_aload_n dL_law_794 rfl ?_
  refine w_iload_n dL_law_795 rfl ?_
  refine w_iconst (v := nI 3) dL_law_796 ki_3 ?_
  refine w_iaddN dL_law_797 ?_
  refine w_sld hS dL_law_798 (by omega) (by omega) ?_
  refine w_callV (kc := kc) (ks := ks) (mi := miX0_pebble) (As := [.int (xs (i + 1)), .int (xs (i + 2)), .int (xs (i + 3))]) (rest := []) dL_law_799 q1041 okX0_pebble clX0 rfl hC (by show d1 + 1 ≤ 400; omega) h1 rfl rfl (Nat.le_of_ble_eq_true rfl) ?_ (fun _ _ _ h => h.elim)
  rintro w1 σ1 ⟨v, rfl, hP⟩
  obtain ⟨⟨t2, f2, h2⟩, hM2⟩ := hM v σ1 hP
  refine w_st (st2 := [.int v]) rfl ?_
  refine w_aload_n dL_law_802 rfl ?_
  refine w_aload_n dL_law_803 rfl ?_
  refine w_iload_n dL_law_804 rfl ?_
  refine w_iconst (v := nI 1) dL_law_805 ki_1 ?_
  refine w_iaddN dL_law_806 ?_
  refine w_sld hS dL_law_807 (by omega) (by omega) ?_
  refine w_aload_n dL_law_808 rfl ?_
  refine w_iload_n dL_law_809 rfl ?_
  refine w_iconst (v := nI 2) dL_law_810 ki_2 ?_
  refine w_iaddN dL_law_811 ?_
  refine w_sld hS dL_law_812 (by omega) (by omega) ?_
  refine w_aload_n dL_law_813 rfl ?_
  refine w_iload_n dL_law_814 rfl ?_
  refine w_iconst (v := nI 3) dL_law_815 ki_3 ?_
  refine w_iaddN dL_law_816 ?_
  refine w_sld hS dL_law_817 (by omega) (by omega) ?_
  refine w_callV (kc := kc) (ks := ks) (mc2 := 0) (ms2 := 0) (mi := miX8_pebble) (As := [.int (xs (i + 1)), .int (xs (i + 2)), .int (xs (i + 3))]) (rest := [.int v]) dL_law_818 q1890 okX8_pebble clX8 rfl hM2 (by show d2 + 1 ≤ 400; omega) h2 rfl rfl (Nat.le_of_ble_eq_true rfl) ?_ (fun _ _ _ h => h.elim)
  rintro w2 σ2 ⟨rfl, j2⟩
  refine w_st (st2 := [.int v, .int v]) rfl ?_
  refine w_icmp_eq dL_law_821 rfl (fun _ => kk σ2 j2) (fun h => absurd rfl h)
set_option maxHeartbeats 1000000 in
theorem law_c15 {kc ks i : Nat} {σ : PH} (hS : ScrG g b L xs) (hL : L ≤ 384) (hi : i + 6 ≤ L) (jj : JJ g ax bm σ) (kk : ∀ σ2, JJ g ax bm σ2 → Wp g (mtL (gz g) nm hh) kc ks 2076 [some (.ref b), some (.ref ax), some (.ref bm), some (.int (nI i))] [] σ2) : Wp g (mtL (gz g) nm hh) (kc + 9000) (ks + 112000) 826 [some (.ref b), some (.ref ax), some (.ref bm), some (.int (nI i))] [] σ := by
  obtain ⟨d1, mc, ms, d2, P, q1, q2, q3, q4, ⟨t1, f1, h1⟩, hC, hM⟩ := pr_go (x := (xs (i + 1))) (y := (xs (i + 2))) jj
  refine w_bud (kc2 := kc + mc) (ks2 := ks + ms) (by omega) (by omega) ?_
  refine w_aload_n dL_law_826 rfl ?_
  refine w_aload_n dL_law_827 rfl ?_
  refine w_iload_n dL_law_828 rfl ?_
  refine w_iconst (v := nI 1) dL_law_829 ki_1 ?_
  refine w_iaddN dL_law_830 ?_
  refine w_sld hS dL_law_831 (by omega) (by omega) ?_
  refine w_aload_n dL_law_832 rfl ?_
  refine w_iload_n dL_law_833 rfl ?_
  refine w_iconst (v := nI 2) dL_law_834 ki_2 ?_
  refine w_iaddN dL_law_835 ?_
  refine w_sld hS dL_law_836 (by omega) (by omega) ?_
  refine w_callV (kc := kc) (ks := ks) (mi := miX0_go) (As := [.int (xs (i + 1)), .int (xs (i + 2))]) (rest := []) dL_law_837 q1045 okX0_go clX0 rfl hC (by show d1 + 1 ≤ 400; omega) h1 rfl rfl (Nat.le_of_ble_eq_true rfl) ?_ (fun _ _ _ h => h.elim)
  rintro w1 σ1 ⟨v, rfl, hP⟩
  obtain ⟨⟨t2, f2, h2⟩, hM2⟩ := hM v σ1 hP
  refine w_st (st2 := [.int v]) rfl ?_
  refine w_aload_n dL_law_840 rfl ?_
  refine w_aload_n dL_law_841 rfl ?_
  refine w_iload_n dL_law_842 rfl ?_
  refine w_iconst (v := nI 1) dL_law_843 ki_1 ?_
  refine w_iaddN dL_law_844 ?_
  refine w_sld hS dL_law_845 (by omega) (by omega) ?_
  refine w_aload_n dL_law_846 rfl ?_
  refine w_iload_n dL_law_847 rfl ?_
  refine w_iconst (v := nI 2) dL_law_848 ki_2 ?_
  refine w_iaddN dL_law_849 ?_
  refine w_sld hS dL_law_850 (by omega) (by omega) ?_
  refine w_callV (kc := kc) (ks := ks) (mc2 := 0) (ms2 := 0) (mi := miX8_go) (As := [.int (xs (i + 1)), .int (xs (i + 2))]) (rest := [.int v]) dL_law_851 q1898 okX8_go clX8 rfl hM2 (by show d2 + 1 ≤ 400; omega) h2 rfl rfl (Nat.le_of_ble_eq_true rfl) ?_ (fun _ _ _ h => h.elim)
  rintro w2 σ2 ⟨rfl, j2⟩
  refine w_st (st2 := [.int v, .int v]) rfl ?_
  refine w_icmp_eq dL_law_854 rfl (fun _ => kk σ2 j2) (fun h => absurd rfl h)
set_option maxHeartbeats 1000000 in
theorem law_c16 {kc ks i : Nat} {σ : PH} (hS : ScrG g b L xs) (hL : L ≤ 384) (hi : i + 6 ≤ L) (jj : JJ g ax bm σ) (kk : ∀ σ2, JJ g ax bm σ2 → Wp g (mtL (gz g) nm hh) kc ks 2076 [some (.ref b), some (.ref ax), some (.ref bm), some (.int (nI i))] [] σ2) : Wp g (mtL (gz g) nm hh) (kc + 9000) (ks + 112000) 859 [some (.ref b), some (.ref ax), some (.ref bm), some (.int (nI i))] [] σ := by
  obtain ⟨d1, mc, ms, d2, P, q1, q2, q3, q4, ⟨t1, f1, h1⟩, hC, hM⟩ := pr_pass (x := (xs (i + 1))) (y := (xs (i + 2))) jj
  refine w_bud (kc2 := kc + mc) (ks2 := ks + ms) (by omega) (by omega) ?_
  refine w_aload_n dL_law_859 rfl ?_
  refine w_aload_n dL_law_860 rfl ?_
  refine w_iload_n dL_law_861 rfl ?_
  refine w_iconst (v := nI 1) dL_law_862 ki_1 ?_
  refine w_iaddN dL_law_863 ?_
  refine w_sld hS dL_law_864 (by omega) (by omega) ?_
  refine w_aload_n dL_law_865 rfl ?_
  refine w_iload_n dL_law_866 rfl ?_
  refine w_iconst (v := nI 2) dL_law_867 ki_2 ?_
  refine w_iaddN dL_law_868 ?_
  refine w_sld hS dL_law_869 (by omega) (by omega) ?_
  refine w_callV (kc := kc) (ks := ks) (mi := miX0_pass) (As := [.int (xs (i + 1)), .int (xs (i + 2))]) (rest := []) dL_law_870 q1060 okX0_pass clX0 rfl hC (by show d1 + 1 ≤ 400; omega) h1 rfl rfl (Nat.le_of_ble_eq_true rfl) ?_ (fun _ _ _ h => h.elim)
  rintro w1 σ1 ⟨v, rfl, hP⟩
  obtain ⟨⟨t2, f2, h2⟩, hM2⟩ := hM v σ1 hP
  refine w_st (st2 := [.int v]) rfl ?_
  refine w_aload_n dL_law_873 rfl ?_
  refine w_aload_n dL_law_874 rfl ?_
  refine w_iload_n dL_law_875 rfl ?_
  refine w_iconst (v := nI 1) dL_law_876 ki_1 ?_
  refine w_iaddN dL_law_877 ?_
  refine w_sld hS dL_law_878 (by omega) (by omega) ?_
  refine w_aload_n dL_law_879 rfl ?_
  refine w_iload_n dL_law_880 rfl ?_
  refine w_iconst (v := nI 2) dL_law_881 ki_2 ?_
  refine w_iaddN dL_law_882 ?_
  refine w_sld hS dL_law_883 (by omega) (by omega) ?_
  refine w_callV (kc := kc) (ks := ks) (mc2 := 0) (ms2 := 0) (mi := miX8_pass) (As := [.int (xs (i + 1)), .int (xs (i + 2))]) (rest := [.int v]) dL_law_884 q1918 okX8_pass clX8 rfl hM2 (by show d2 + 1 ≤ 400; omega) h2 rfl rfl (Nat.le_of_ble_eq_true rfl) ?_ (fun _ _ _ h => h.elim)
  rintro w2 σ2 ⟨rfl, j2⟩
  refine w_st (st2 := [.int v, .int v]) rfl ?_
  refine w_icmp_eq dL_law_887 rfl (fun _ => kk σ2 j2) (fun h => absurd rfl h)
set_option maxHeartbeats 1000000 in
theorem law_c17 {kc ks i : Nat} {σ : PH} (hS : ScrG g b L xs) (hL : L ≤ 384) (hi : i + 6 ≤ L) (jj : JJ g ax bm σ) (kk : ∀ σ2, JJ g ax bm σ2 → Wp g (mtL (gz g) nm hh) kc ks 2076 [some (.ref b), some (.ref ax), some (.ref bm), some (.int (nI i))] [] σ2) : Wp g (mtL (gz g) nm hh) (kc + 9000) (ks + 112000) 892 [some (.ref b), some (.ref ax), some (.ref bm), some (.int (nI i))] [] σ := by
  obtain ⟨d1, mc, ms, d2, P, q1, q2, q3, q4, ⟨t1, f1, h1⟩, hC, hM⟩ := pr_set (x := (xs (i + 1))) (y := (xs (i + 2))) jj
  refine w_bud (kc2 := kc + mc) (ks2 := ks + ms) (by omega) (by omega) ?_
  refine w_aload_n dL_law_892 rfl ?_
  refine w_aload_n dL_law_893 rfl ?_
  refine w_iload_n dL_law_894 rfl ?_
  refine w_iconst (v := nI 1) dL_law_895 ki_1 ?_
  refine w_iaddN dL_law_896 ?_
  refine w_sld hS dL_law_897 (by omega) (by omega) ?_
  refine w_aload_n dL_law_898 rfl ?_
  refine w_iload_n dL_law_899 rfl ?_
  refine w_iconst (v := nI 2) dL_law_900 ki_2 ?_
  refine w_iaddN dL_law_901 ?_
  refine w_sld hS dL_law_902 (by omega) (by omega) ?_
  refine w_callV (kc := kc) (ks := ks) (mi := miX0_set) (As := [.int (xs (i + 1)), .int (xs (i + 2))]) (rest := []) dL_law_903 q1069 okX0_set clX0 rfl hC (by show d1 + 1 ≤ 400; omega) h1 rfl rfl (Nat.le_of_ble_eq_true rfl) ?_ (fun _ _ _ h => h.elim)
  rintro w1 σ1 ⟨v, rfl, hP⟩
  obtain ⟨⟨t2, f2, h2⟩, hM2⟩ := hM v σ1 hP
  refine w_st (st2 := [.int v]) rfl ?_
  refine w_aload_n dL_law_906 rfl ?_
  refine w_aload_n dL_law_907 rfl ?_
  refine w_iload_n dL_law_908 rfl ?_
  refine w_iconst (v := nI 1) dL_law_909 ki_1 ?_
  refine w_iaddN dL_law_910 ?_
  refine w_sld hS dL_law_911 (by omega) (by omega) ?_
  refine w_aload_n dL_law_912 rfl ?_
  refine w_iload_n dL_law_913 rfl ?_
  refine w_iconst (v := nI 2) dL_law_914 ki_2 ?_
  refine w_iaddN dL_law_915 ?_
  refine w_sld hS dL_law_916 (by omega) (by omega) ?_
  refine w_callV (kc := kc) (ks := ks) (mc2 := 0) (ms2 := 0) (mi := miX8_set) (As := [.int (xs (i + 1)), .int (xs (i + 2))]) (rest := [.int v]) dL_law_917 q1927 okX8_set clX8 rfl hM2 (by show d2 + 1 ≤ 400; omega) h2 rfl rfl (Nat.le_of_ble_eq_true rfl) ?_ (fun _ _ _ h => h.elim)
  rintro w2 σ2 ⟨rfl, j2⟩
  refine w_st (st2 := [.int v, .int v]) rfl ?_
  refine w_icmp_eq dL_law_920 rfl (fun _ => kk σ2 j2) (fun h => absurd rfl h)
set_option maxHeartbeats 1000000 in
theorem law_c18 {kc ks i : Nat} {σ : PH} (hS : ScrG g b L xs) (hL : L ≤ 384) (hi : i + 6 ≤ L) (jj : JJ g ax bm σ) (kk : ∀ σ2, JJ g ax bm σ2 → Wp g (mtL (gz g) nm hh) kc ks 2076 [some (.ref b), some (.ref ax), some (.ref bm), some (.int (nI i))] [] σ2) : Wp g (mtL (gz g) nm hh) (kc + 9000) (ks + 112000) 925 [some (.ref b), some (.ref ax), some (.ref bm), some (.int (nI i))] [] σ := by
  obtain ⟨d1, mc, ms, d2, P, q1, q2, q3, q4, ⟨t1, f1, h1⟩, hC, hM⟩ := pr_lift (x := (xs (i + 1))) (y := (xs (i + 2))) jj
  refine w_bud (kc2 := kc + mc) (ks2 := ks + ms) (by omega) (by omega) ?_
  refine w_aload_n dL_law_925 rfl ?_
  refine w_aload_n dL_law_926 rfl ?_
  refine w_iload_n dL_law_927 rfl ?_
  refine w_iconst (v := nI 1) dL_law_928 ki_1 ?_
  refine w_iaddN dL_law_929 ?_
  refine w_sld hS dL_law_930 (by omega) (by omega) ?_
  refine w_aload_n dL_law_931 rfl ?_
  refine w_iload_n dL_law_932 rfl ?_
  refine w_iconst (v := nI 2) dL_law_933 ki_2 ?_
  refine w_iaddN dL_law_934 ?_
  refine w_sld hS dL_law_935 (by omega) (by omega) ?_
  refine w_callV (kc := kc) (ks := ks) (mi := miX0_lift) (As := [.int (xs (i + 1)), .int (xs (i + 2))]) (rest := []) dL_law_936 q1089 okX0_lift clX0 rfl hC (by show d1 + 1 ≤ 400; omega) h1 rfl rfl (Nat.le_of_ble_eq_true rfl) ?_ (fun _ _ _ h => h.elim)
  rintro w1 σ1 ⟨v, rfl, hP⟩
  obtain ⟨⟨t2, f2, h2⟩, hM2⟩ := hM v σ1 hP
  refine w_st (st2 := [.int v]) rfl ?_
  refine w_aload_n dL_law_939 rfl ?_
  refine w_aload_n dL_law_940 rfl ?_
  refine w_iload_n dL_law_941 rfl ?_
  refine w_iconst (v := nI 1) dL_law_942 ki_1 ?_
  refine w_iaddN dL_law_943 ?_
  refine w_sld hS dL_law_944 (by omega) (by omega) ?_
  refine w_aload_n dL_law_945 rfl ?_
  refine w_iload_n dL_law_946 rfl ?_
  refine w_iconst (v := nI 2) dL_law_947 ki_2 ?_
  refine w_iaddN dL_law_948 ?_
  refine w_sld hS dL_law_949 (by omega) (by omega) ?_
  refine w_callV (kc := kc) (ks := ks) (mc2 := 0) (ms2 := 0) (mi := miX8_lift) (As := [.int (xs (i + 1)), .int (xs (i + 2))]) (rest := [.int v]) dL_law_950 q1943 okX8_lift clX8 rfl hM2 (by show d2 + 1 ≤ 400; omega) h2 rfl rfl (Nat.le_of_ble_eq_true rfl) ?_ (fun _ _ _ h => h.elim)
  rintro w2 σ2 ⟨rfl, j2⟩
  refine w_st (st2 := [.int v, .int v]) rfl ?_
  refine w_icmp_eq dL_law_953 rfl (fun _ => kk σ2 j2) (fun h => absurd rfl h)
set_option maxHeartbeats 1000000 in
theorem law_c19 {kc ks i : Nat} {σ : PH} (hS : ScrG g b L xs) (hL : L ≤ 384) (hi : i + 6 ≤ L) (jj : JJ g ax bm σ) (kk : ∀ σ2, JJ g ax bm σ2 → Wp g (mtL (gz g) nm hh) kc ks 2076 [some (.ref b), some (.ref ax), some (.ref bm), some (.int (nI i))] [] σ2) : Wp g (mtL (gz g) nm hh) (kc + 9000) (ks + 112000) 958 [some (.ref b), some (.ref ax), some (.ref bm), some (.int (nI i))] [] σ := by
  obtain ⟨d1, mc, ms, d2, P, q1, q2, q3, q4, ⟨t1, f1, h1⟩, hC, hM⟩ := pr_gull (x := (xs (i + 1))) (y := (xs (i + 2))) jj
  refine w_bud (kc2 := kc + mc) (ks2 := ks + ms) (by omega) (by omega) ?_
  refine w_aload_n dL_law_958 rfl ?_
  refine w_aload_n dL_law_959 rfl ?_
  refine w_iload_n dL_law_960 rfl ?_
  refine w_iconst (v := nI 1) dL_law_961 ki_1 ?_
  refine w_iaddN dL_law_962 ?_
  refine w_sld hS dL_law_963 (by omega) (by omega) ?_
  refine w_aload_n dL_law_964 rfl ?_
  refine w_iload_n dL_law_965 rfl ?_
  refine w_iconst (v := nI 2) dL_law_966 ki_2 ?_
  refine w_iaddN dL_law_967 ?_
  refine w_sld hS dL_law_968 (by omega) (by omega) ?_
  refine w_callV (kc := kc) (ks := ks) (mi := miX0_gull) (As := [.int (xs (i + 1)), .int (xs (i + 2))]) (rest := []) dL_law_969 q1106 okX0_gull clX0 rfl hC (by show d1 + 1 ≤ 400; omega) h1 rfl rfl (Nat.le_of_ble_eq_true rfl) ?_ (fun _ _ _ h => h.elim)
  rintro w1 σ1 ⟨v, rfl, hP⟩
  obtain ⟨⟨t2, f2, h2⟩, hM2⟩ := hM v σ1 hP
  refine w_st (st2 := [.int v]) rfl ?_
  refine w_aload_n dL_law_972 rfl ?_
  refine w_aload_n dL_law_973 rfl ?_
  refine w_iload_n dL_law_974 rfl ?_
  refine w_iconst (v := nI 1) dL_law_975 ki_1 ?_
  refine w_iaddN dL_law_976 ?_
  refine w_sld hS dL_law_977 (by omega) (by omega) ?_
  refine w_aload_n dL_law_978 rfl ?_
  refine w_iload_n dL_law_979 rfl ?_
  refine w_iconst (v := nI 2) dL_law_980 ki_2 ?_
  refine w_iaddN dL_law_981 ?_
  refine w_sld hS dL_law_982 (by omega) (by omega) ?_
  refine w_callV (kc := kc) (ks := ks) (mc2 := 0) (ms2 := 0) (mi := miX8_gull) (As := [.int (xs (i + 1)), .int (xs (i + 2))]) (rest := [.int v]) dL_law_983 q1971 okX8_gull clX8 rfl hM2 (by show d2 + 1 ≤ 400; omega) h2 rfl rfl (Nat.le_of_ble_eq_true rfl) ?_ (fun _ _ _ h => h.elim)
  rintro w2 σ2 ⟨rfl, j2⟩
  refine w_st (st2 := [.int v, .int v]) rfl ?_
  refine w_icmp_eq dL_law_986 rfl (fun _ => kk σ2 j2) (fun h => absurd rfl h)
set_option maxHeartbeats 1000000 in
theorem law_c20 {kc ks i : Nat} {σ : PH} (hS : ScrG g b L xs) (hL : L ≤ 384) (hi : i + 6 ≤ L) (jj : JJ g ax bm σ) (kk : ∀ σ2, JJ g ax bm σ2 → Wp g (mtL (gz g) nm hh) kc ks 2076 [some (.ref b), some (.ref ax), some (.ref bm), some (.int (nI i))] [] σ2) : Wp g (mtL (gz g) nm hh) (kc + 9000) (ks + 112000) 991 [some (.ref b), some (.ref ax), some (.ref bm), some (.int (nI i))] [] σ := by
  obtain ⟨d1, mc, ms, d2, P, q1, q2, q3, q4, ⟨t1, f1, h1⟩, hC, hM⟩ := pr_wave (x := (xs (i + 1))) jj
  refine w_bud (kc2 := kc + mc) (ks2 := ks + ms) (by omega) (by omega) ?_
  refine w_aload_n dL_law_991 rfl ?_
  refine w_aload_n dL_law_992 rfl ?_
  refine w_iload_n dL_law_993 rfl ?_
  refine w_iconst (v := nI 1) dL_law_994 ki_1 ?_
  refine w_iaddN dL_law_995 ?_
  refine w_sld hS dL_law_996 (by omega) (by omega) ?_
  refine w_callV (kc := kc) (ks := ks) (mi := miX0_wave) (As := [.int (xs (i + 1))]) (rest := []) dL_law_997 q1118 okX0_wave clX0 rfl hC (by show d1 + 1 ≤ 400; omega) h1 rfl rfl (Nat.le_of_ble_eq_true rfl) ?_ (fun _ _ _ h => h.elim)
  rintro w1 σ1 ⟨v, rfl, hP⟩
  obtain ⟨⟨t2, f2, h2⟩, hM2⟩ := hM v σ1 hP
  refine w_st (st2 := [.int v]) rfl ?_
  refine w_aload_n dL_law_1000 rfl ?_
  refine w_aload_n dL_law_1001 rfl ?_
  refine w_iload_n dL_law_1002 rfl ?_
  refine w_iconst (v := nI 1) dL_law_1003 ki_1 ?_
  refine w_iaddN dL_law_1004 ?_
  refine w_sld hS dL_law_1005 (by omega) (by omega) ?_
  refine w_callV (kc := kc) (ks := ks) (mc2 := 0) (ms2 := 0) (mi := miX8_wave) (As := [.int (xs (i + 1))]) (rest := [.int v]) dL_law_1006 q1983 okX8_wave clX8 rfl hM2 (by show d2 + 1 ≤ 400; omega) h2 rfl rfl (Nat.le_of_ble_eq_true rfl) ?_ (fun _ _ _ h => h.elim)
  rintro w2 σ2 ⟨rfl, j2⟩
  refine w_st (st2 := [.int v, .int v]) rfl ?_
  refine w_icmp_eq dL_law_1009 rfl (fun _ => kk σ2 j2) (fun h => absurd rfl h)
set_option maxHeartbeats 1000000 in
theorem law_c21 {kc ks i : Nat} {σ : PH} (hS : ScrG g b L xs) (hL : L ≤ 384) (hi : i + 6 ≤ L) (jj : JJ g ax bm σ) (kk : ∀ σ2, JJ g ax bm σ2 → Wp g (mtL (gz g) nm hh) kc ks 2076 [some (.ref b), some (.ref ax), some (.ref bm), some (.int (nI i))] [] σ2) : Wp g (mtL (gz g) nm hh) (kc + 9000) (ks + 112000) 1014 [some (.ref b), some (.ref ax), some (.ref bm), some (.int (nI i))] [] σ := by
  obtain ⟨d1, mc, ms, d2, P, q1, q2, q3, q4, ⟨t1, f1, h1⟩, hC, hM⟩ := pr_tide  jj
  refine w_bud (kc2 := kc + mc) (ks2 := ks + ms) (by omega) (by omega) ?_
  refine w_aload_n dL_law_1014 rfl ?_
  refine w_callV (kc := kc) (ks := ks) (mi := miX0_tide) (As := []) (rest := []) dL_law_1015 q1127 okX0_tide clX0 rfl hC (by show d1 + 1 ≤ 400; omega) h1 rfl rfl (Nat.le_of_ble_eq_true rfl) ?_ (fun _ _ _ h => h.elim)
  rintro w1 σ1 ⟨v, rfl, hP⟩
  obtain ⟨⟨t2, f2, h2⟩, hM2⟩ := hM v σ1 hP
  refine w_st (st2 := [.int v]) rfl ?_
  refine w_aload_n dL_law_1018 rfl ?_
  refine w_callV (kc := kc) (ks := ks) (mc2 := 0) (ms2 := 0) (mi := miX8_tide) (As := []) (rest := [.int v]) dL_law_1019 q2145 okX8_tide clX8 rfl hM2 (by show d2 + 1 ≤ 400; omega) h2 rfl rfl (Nat.le_of_ble_eq_true rfl) ?_ (fun _ _ _ h => h.elim)
  rintro w2 σ2 ⟨rfl, j2⟩
  refine w_st (st2 := [.int v, .int v]) rfl ?_
  refine w_icmp_eq dL_law_1022 rfl (fun _ => kk σ2 j2) (fun h => absurd rfl h)
set_option maxHeartbeats 1000000 in
theorem law_c22 {kc ks i : Nat} {σ : PH} (hS : ScrG g b L xs) (hL : L ≤ 384) (hi : i + 6 ≤ L) (jj : JJ g ax bm σ) (kk : ∀ σ2, JJ g ax bm σ2 → Wp g (mtL (gz g) nm hh) kc ks 2076 [some (.ref b), some (.ref ax), some (.ref bm), some (.int (nI i))] [] σ2) : Wp g (mtL (gz g) nm hh) (kc + 9000) (ks + 112000) 1027 [some (.ref b), some (.ref ax), some (.ref bm), some (.int (nI i))] [] σ := by
  obtain ⟨d1, mc, ms, d2, P, q1, q2, q3, q4, ⟨t1, f1, h1⟩, hC, hM⟩ := pr_dawn  jj
  refine w_bud (kc2 := kc + mc) (ks2 := ks + ms) (by omega) (by omega) ?_
  refine w_aload_n dL_law_1027 rfl ?_
  refine w_callV (kc := kc) (ks := ks) (mi := miX0_dawn) (As := []) (rest := []) dL_law_1028 q1167 okX0_dawn clX0 rfl hC (by show d1 + 1 ≤ 400; omega) h1 rfl rfl (Nat.le_of_ble_eq_true rfl) ?_ (fun _ _ _ h => h.elim)
  rintro w1 σ1 ⟨v, rfl, hP⟩
  obtain ⟨⟨t2, f2, h2⟩, hM2⟩ := hM v σ1 hP
  refine w_st (st2 := [.int v]) rfl ?_
  refine w_aload_n dL_law_1031 rfl ?_
  refine w_callV (kc := kc) (ks := ks) (mc2 := 0) (ms2 := 0) (mi := miX8_dawn) (As := []) (rest := [.int v]) dL_law_1032 q2153 okX8_dawn clX8 rfl hM2 (by show d2 + 1 ≤ 400; omega) h2 rfl rfl (Nat.le_of_ble_eq_true rfl) ?_ (fun _ _ _ h => h.elim)
  rintro w2 σ2 ⟨rfl, j2⟩
  refine w_st (st2 := [.int v, .int v]) rfl ?_
  refine w_icmp_eq dL_law_1035 rfl (fun _ => kk σ2 j2) (fun h => absurd rfl h)
set_option maxHeartbeats 1000000 in
theorem law_c23 {kc ks i : Nat} {σ : PH} (hS : ScrG g b L xs) (hL : L ≤ 384) (hi : i + 6 ≤ L) (jj : JJ g ax bm σ) (kk : ∀ σ2, JJ g ax bm σ2 → Wp g (mtL (gz g) nm hh) kc ks 2076 [some (.ref b), some (.ref ax), some (.ref bm), some (.int (nI i))] [] σ2) : Wp g (mtL (gz g) nm hh) (kc + 9000) (ks + 112000) 1040 [some (.ref b), some (.ref ax), some (.ref bm), some (.int (nI i))] [] σ := by
  obtain ⟨d1, mc, ms, d2, P, q1, q2, q3, q4, ⟨t1, f1, h1⟩, hC, hM⟩ := pr_last (x := (xs (i + 1))) jj
  refine w_bud (kc2 := kc + mc) (ks2 := ks + ms) (by omega) (by omega) ?_
  refine w_aload_n dL_law_1040 rfl ?_
  refine w_aload_n dL_law_1041 rfl ?_
  refine w_iload_n dL_law_1042 rfl ?_
  refine w_iconst (v := nI 1) dL_law_1043 ki_1 ?_
  refine w_iaddN dL_law_1044 ?_
  refine w_sld hS dL_law_1045 (by omega) (by omega) ?_
  refine w_callV (kc := kc) (ks := ks) (mi := miX0_last) (As := [.int (xs (i + 1))]) (rest := []) dL_law_1046 q1175 okX0_last clX0 rfl hC (by show d1 + 1 ≤ 400; omega) h1 rfl rfl (Nat.le_of_ble_eq_true rfl) ?_ (fun _ _ _ h => h.elim)
  rintro w1 σ1 ⟨v, rfl, hP⟩
  obtain ⟨⟨t2, f2, h2⟩, hM2⟩ := hM v σ1 hP
  refine w_st (st2 := [.int v]) rfl ?_
  refine w_aload_n dL_law_1049 rfl ?_
  refine w_aload_n dL_law_1050 rfl ?_
  refine w_iload_n dL_law_1051 rfl ?_
  refine w_iconst (v := nI 1) dL_law_1052 ki_1 ?_
  refine w_iaddN dL_law_1053 ?_
  refine w_sld hS dL_law_1054 (by omega) (by omega) ?_
  refine w_callV (kc := kc) (ks := ks) (mc2 := 0) (ms2 := 0) (mi := miX8_last) (As := [.int (xs (i + 1))]) (rest := [.int v]) dL_law_1055 q1992 okX8_last clX8 rfl hM2 (by show d2 + 1 ≤ 400; omega) h2 rfl rfl (Nat.le_of_ble_eq_true rfl) ?_ (fun _ _ _ h => h.elim)
  rintro w2 σ2 ⟨rfl, j2⟩
  refine w_st (st2 := [.int v, .int v]) rfl ?_
  refine w_icmp_eq dL_law_1058 rfl (fun _ => kk σ2 j2) (fun h => absurd rfl h)
set_option maxHeartbeats 1000000 in
theorem law_c24 {kc ks i : Nat} {σ : PH} (hS : ScrG g b L xs) (hL : L ≤ 384) (hi : i + 6 ≤ L) (jj : JJ g ax bm σ) (kk : ∀ σ2, JJ g ax bm σ2 → Wp g (mtL (gz g) nm hh) kc ks 2076 [some (.ref b), some (.ref ax), some (.ref bm), some (.int (nI i))] [] σ2) : Wp g (mtL (gz g) nm hh) (kc + 9000) (ks + 112000) 1063 [some (.ref b), some (.ref ax), some (.ref bm), some (.int (nI i))] [] σ := by
  obtain ⟨d1, mc, ms, d2, P, q1, q2, q3, q4, ⟨t1, f1, h1⟩, hC, hM⟩ := pr_whose (x := (xs (i + 1))) jj
  refine w_bud (kc2 := kc + mc) (ks2 := ks + ms) (by omega) (by omega) ?_
  refine w_aload_n dL_law_1063 rfl ?_
  refine w_aload_n dL_law_1064 rfl ?_
  refine w_iload_n dL_law_1065 rfl ?_
  refine w_iconst (v := nI 1) dL_law_1066 ki_1 ?_
  refine w_iaddN dL_law_1067 ?_
  refine w_sld hS dL_law_1068 (by omega) (by omega) ?_
  refine w_callV (kc := kc) (ks := ks) (mi := miX0_whose) (As := [.int (xs (i + 1))]) (rest := []) dL_law_1069 q1185 okX0_whose clX0 rfl hC (by show d1 + 1 ≤ 400; omega) h1 rfl rfl (Nat.le_of_ble_eq_true rfl) ?_ (fun _ _ _ h => h.elim)
  rintro w1 σ1 ⟨v, rfl, hP⟩
  obtain ⟨⟨t2, f2, h2⟩, hM2⟩ := hM v σ1 hP
  refine w_st (st2 := [.int v]) rfl ?_
  refine w_aload_n dL_law_1072 rfl ?_
  refine w_aload_n dL_law_1073 rfl ?_
  refine w_iload_n dL_law_1074 rfl ?_
  refine w_iconst (v := nI 1) dL_law_1075 ki_1 ?_
  refine w_iaddN dL_law_1076 ?_
  refine w_sld hS dL_law_1077 (by omega) (by omega) ?_
  refine w_callV (kc := kc) (ks := ks) (mc2 := 0) (ms2 := 0) (mi := miX8_whose) (As := [.int (xs (i + 1))]) (rest := [.int v]) dL_law_1078 q2004 okX8_whose clX8 rfl hM2 (by show d2 + 1 ≤ 400; omega) h2 rfl rfl (Nat.le_of_ble_eq_true rfl) ?_ (fun _ _ _ h => h.elim)
  rintro w2 σ2 ⟨rfl, j2⟩
  refine w_st (st2 := [.int v, .int v]) rfl ?_
  refine w_icmp_eq dL_law_1081 rfl (fun _ => kk σ2 j2) (fun h => absurd rfl h)
set_option maxHeartbeats 1000000 in
theorem law_c25 {kc ks i : Nat} {σ : PH} (hS : ScrG g b L xs) (hL : L ≤ 384) (hi : i + 6 ≤ L) (jj : JJ g ax bm σ) (kk : ∀ σ2, JJ g ax bm σ2 → Wp g (mtL (gz g) nm hh) kc ks 2076 [some (.ref b), some (.ref ax), some (.ref bm), some (.int (nI i))] [] σ2) : Wp g (mtL (gz g) nm hh) (kc + 9000) (ks + 112000) 1086 [some (.ref b), some (.ref ax), some (.ref bm), some (.int (nI i))] [] σ := by
  obtain ⟨d1, mc, ms, d2, P, q1, q2, q3, q4, ⟨t1, f1, h1⟩, hC, hM⟩ := pr_leads (x := (xs (i + 1))) jj
  refine w_bud (kc2 := kc + mc) (ks2 := ks + ms) (by omega) (by omega) ?_
  refine w_aload_n dL_law_1086 rfl ?_
  refine w_aload_n dL_law_1087 rfl ?_
  refine w_iload_n dL_law_1088 rfl ?_
  refine w_iconst (v := nI 1) dL_law_1089 ki_1 ?_
  refine w_iaddN dL_law_1090 ?_
  refine w_sld hS dL_law_1091 (by omega) (by omega) ?_
  refine w_callV (kc := kc) (ks := ks) (mi := miX0_leads) (As := [.int (xs (i + 1))]) (rest := []) dL_law_1092 q1190 okX0_leads clX0 rfl hC (by show d1 + 1 ≤ 400; omega) h1 rfl rfl (Nat.le_of_ble_eq_true rfl) ?_ (fun _ _ _ h => h.elim)
  rintro w1 σ1 ⟨v, rfl, hP⟩
  obtain ⟨⟨t2, f2, h2⟩, hM2⟩ := hM v σ1 hP
  refine w_st (st2 := [.int v]) rfl ?_
  refine w_aload_n dL_law_1095 rfl ?_
  refine w_aload_n dL_law_1096 rfl ?_
  refine w_iload_n dL_law_1097 rfl ?_
  refine w_iconst (v := nI 1) dL_law_1098 ki_1 ?_
  refine w_iaddN dL_law_1099 ?_
  refine w_sld hS dL_law_1100 (by omega) (by omega) ?_
  refine w_callV (kc := kc) (ks := ks) (mc2 := 0) (ms2 := 0) (mi := miX8_leads) (As := [.int (xs (i + 1))]) (rest := [.int v]) dL_law_1101 q2015 okX8_leads clX8 rfl hM2 (by show d2 + 1 ≤ 400; omega) h2 rfl rfl (Nat.le_of_ble_eq_true rfl) ?_ (fun _ _ _ h => h.elim)
  rintro w2 σ2 ⟨rfl, j2⟩
  refine w_st (st2 := [.int v, .int v]) rfl ?_
  refine w_icmp_eq dL_law_1104 rfl (fun _ => kk σ2 j2) (fun h => absurd rfl h)
set_option maxHeartbeats 1000000 in
theorem law_c26 {kc ks i : Nat} {σ : PH} (hS : ScrG g b L xs) (hL : L ≤ 384) (hi : i + 6 ≤ L) (jj : JJ g ax bm σ) (kk : ∀ σ2, JJ g ax bm σ2 → Wp g (mtL (gz g) nm hh) kc ks 2076 [some (.ref b), some (.ref ax), some (.ref bm), some (.int (nI i))] [] σ2) : Wp g (mtL (gz g) nm hh) (kc + 9000) (ks + 112000) 1109 [some (.ref b), some (.ref ax), some (.ref bm), some (.int (nI i))] [] σ := by
  obtain ⟨d1, mc, ms, d2, P, q1, q2, q3, q4, ⟨t1, f1, h1⟩, hC, hM⟩ := pr_leader  jj
  refine w_bud (kc2 := kc + mc) (ks2 := ks + ms) (by omega) (by omega) ?_
  refine w_aload_n dL_law_1109 rfl ?_
  refine w_callV (kc := kc) (ks := ks) (mi := miX0_leader) (As := []) (rest := []) dL_law_1110 q1195 okX0_leader clX0 rfl hC (by show d1 + 1 ≤ 400; omega) h1 rfl rfl (Nat.le_of_ble_eq_true rfl) ?_ (fun _ _ _ h => h.elim)
  rintro w1 σ1 ⟨v, rfl, hP⟩
  obtain ⟨⟨t2, f2, h2⟩, hM2⟩ := hM v σ1 hP
  refine w_st (st2 := [.int v]) rfl ?_
  refine w_aload_n dL_law_1113 rfl ?_
  refine w_callV (kc := kc) (ks := ks) (mc2 := 0) (ms2 := 0) (mi := miX8_leader) (As := []) (rest := [.int v]) dL_law_1114 q2027 okX8_leader clX8 rfl hM2 (by show d2 + 1 ≤ 400; omega) h2 rfl rfl (Nat.le_of_ble_eq_true rfl) ?_ (fun _ _ _ h => h.elim)
  rintro w2 σ2 ⟨rfl, j2⟩
  refine w_st (st2 := [.int v, .int v]) rfl ?_
  refine w_icmp_eq dL_law_1117 rfl (fun _ => kk σ2 j2) (fun h => absurd rfl h)
set_option maxHeartbeats 1000000 in
theorem law_c27 {kc ks i : Nat} {σ : PH} (hS : ScrG g b L xs) (hL : L ≤ 384) (hi : i + 6 ≤ L) (jj : JJ g ax bm σ) (kk : ∀ σ2, JJ g ax bm σ2 → Wp g (mtL (gz g) nm hh) kc ks 2076 [some (.ref b), some (.ref ax), some (.ref bm), some (.int (nI i))] [] σ2) : Wp g (mtL (gz g) nm hh) (kc + 9000) (ks + 112000) 1122 [some (.ref b), some (.ref ax), some (.ref bm), some (.int (nI i))] [] σ := by
  obtain ⟨d1, mc, ms, d2, P, q1, q2, q3, q4, ⟨t1, f1, h1⟩, hC, hM⟩ := pr_duels  jj
  refine w_bud (kc2 := kc + mc) (ks2 := ks + ms) (by omega) (by omega) ?_
  refine w_aload_n dL_law_1122 rfl ?_
  refine w_callV (kc := kc) (ks := ks) (mi := miX0_duels) (As := []) (rest := []) dL_law_1123 q1203 okX0_duels clX0 rfl hC (by show d1 + 1 ≤ 400; omega) h1 rfl rfl (Nat.le_of_ble_eq_true rfl) ?_ (fun _ _ _ h => h.elim)
  rintro w1 σ1 ⟨v, rfl, hP⟩
  obtain ⟨⟨t2, f2, h2⟩, hM2⟩ := hM v σ1 hP
  refine w_st (st2 := [.int v]) rfl ?_
  refine w_aload_n dL_law_1126 rfl ?_
  refine w_callV (kc := kc) (ks := ks) (mc2 := 0) (ms2 := 0) (mi := miX8_duels) (As := []) (rest := [.int v]) dL_law_1127 q2043 okX8_duels clX8 rfl hM2 (by show d2 + 1 ≤ 400; omega) h2 rfl rfl (Nat.le_of_ble_eq_true rfl) ?_ (fun _ _ _ h => h.elim)
  rintro w2 σ2 ⟨rfl, j2⟩
  refine w_st (st2 := [.int v, .int v]) rfl ?_
  refine w_icmp_eq dL_law_1130 rfl (fun _ => kk σ2 j2) (fun h => absurd rfl h)
set_option maxHeartbeats 1000000 in
theorem law_c28 {kc ks i : Nat} {σ : PH} (hS : ScrG g b L xs) (hL : L ≤ 384) (hi : i + 6 ≤ L) (jj : JJ g ax bm σ) (kk : ∀ σ2, JJ g ax bm σ2 → Wp g (mtL (gz g) nm hh) kc ks 2076 [some (.ref b), some (.ref ax), some (.ref bm), some (.int (nI i))] [] σ2) : Wp g (mtL (gz g) nm hh) (kc + 9000) (ks + 112000) 1135 [some (.ref b), some (.ref ax), some (.ref bm), some (.int (nI i))] [] σ := by
  obtain ⟨d1, mc, ms, d2, P, q1, q2, q3, q4, ⟨t1, f1, h1⟩, hC, hM⟩ := pr_needs (x := (xs (i + 1))) jj
  refine w_bud (kc2 := kc + mc) (ks2 := ks + ms) (by omega) (by omega) ?_
  refine w_aload_n dL_law_1135 rfl ?_
  refine w_aload_n dL_law_1136 rfl ?_
  refine w_iload_n dL_law_1137 rfl ?_
  refine w_iconst (v := nI 1) dL_law_1138 ki_1 ?_
  refine w_iaddN dL_law_1139 ?_
  refine w_sld hS dL_law_1140 (by omega) (by omega) ?_
  refine w_callV (kc := kc) (ks := ks) (mi := miX0_needs) (As := [.int (xs (i + 1))]) (rest := []) dL_law_1141 q1208 okX0_needs clX0 rfl hC (by show d1 + 1 ≤ 400; omega) h1 rfl rfl (Nat.le_of_ble_eq_true rfl) ?_ (fun _ _ _ h => h.elim)
  rintro w1 σ1 ⟨v, rfl, hP⟩
  obtain ⟨⟨t2, f2, h2⟩, hM2⟩ := hM v σ1 hP
  refine w_st (st2 := [.int v]) rfl ?_
  refine w_aload_n dL_law_1144 rfl ?_
  refine w_aload_n dL_law_1145 rfl ?_
  refine w_iload_n dL_law_1146 rfl ?_
  refine w_iconst (v := nI 1) dL_law_1147 ki_1 ?_
  refine w_iaddN dL_law_1148 ?_
  refine w_sld hS dL_law_1149 (by omega) (by omega) ?_
  refine w_callV (kc := kc) (ks := ks) (mc2 := 0) (ms2 := 0) (mi := miX8_needs) (As := [.int (xs (i + 1))]) (rest := [.int v]) dL_law_1150 q2047 okX8_needs clX8 rfl hM2 (by show d2 + 1 ≤ 400; omega) h2 rfl rfl (Nat.le_of_ble_eq_true rfl) ?_ (fun _ _ _ h => h.elim)
  rintro w2 σ2 ⟨rfl, j2⟩
  refine w_st (st2 := [.int v, .int v]) rfl ?_
  refine w_icmp_eq dL_law_1153 rfl (fun _ => kk σ2 j2) (fun h => absurd rfl h)
set_option maxHeartbeats 1000000 in
theorem law_c29 {kc ks i : Nat} {σ : PH} (hS : ScrG g b L xs) (hL : L ≤ 384) (hi : i + 6 ≤ L) (jj : JJ g ax bm σ) (kk : ∀ σ2, JJ g ax bm σ2 → Wp g (mtL (gz g) nm hh) kc ks 2076 [some (.ref b), some (.ref ax), some (.ref bm), some (.int (nI i))] [] σ2) : Wp g (mtL (gz g) nm hh) (kc + 9000) (ks + 112000) 1158 [some (.ref b), some (.ref ax), some (.ref bm), some (.int (nI i))] [] σ := by
  obtain ⟨d1, mc, ms, d2, P, q1, q2, q3, q4, ⟨t1, f1, h1⟩, hC, hM⟩ := pr_strewn (x := (xs (i + 1))) jj
  refine w_bud (kc2 := kc + mc) (ks2 := ks + ms) (by omega) (by omega) ?_
  refine w_aload_n dL_law_1158 rfl ?_
  refine w_aload_n dL_law_1159 rfl ?_
  refine w_iload_n dL_law_1160 rfl ?_
  refine w_iconst (v := nI 1) dL_law_1161 ki_1 ?_
  refine w_iaddN dL_law_1162 ?_
  refine w_sld hS dL_law_1163 (by omega) (by omega) ?_
  refine w_callV (kc := kc) (ks := ks) (mi := miX0_strewn) (As := [.int (xs (i + 1))]) (rest := []) dL_law_1164 q1212 okX0_strewn clX0 rfl hC (by show d1 + 1 ≤ 400; omega) h1 rfl rfl (Nat.le_of_ble_eq_true rfl) ?_ (fun _ _ _ h => h.elim)
  rintro w1 σ1 ⟨v, rfl, hP⟩
  obtain ⟨⟨t2, f2, h2⟩, hM2⟩ := hM v σ1 hP
  refine w_st (st2 := [.int v]) rfl ?_
  refine w_aload_n dL_law_1167 rfl ?_
  refine w_aload_n dL_law_1168 rfl ?_
  refine w_iload_n dL_law_1169 rfl ?_
  refine w_iconst (v := nI 1) dL_law_1170 ki_1 ?_
  refine w_iaddN dL_law_1171 ?_
  refine w_sld hS dL_law_1172 (by omega) (by omega) ?_
  refine w_callV (kc := kc) (ks := ks) (mc2 := 0) (ms2 := 0) (mi := miX8_strewn) (As := [.int (xs (i + 1))]) (rest := [.int v]) dL_law_1173 q2051 okX8_strewn clX8 rfl hM2 (by show d2 + 1 ≤ 400; omega) h2 rfl rfl (Nat.le_of_ble_eq_true rfl) ?_ (fun _ _ _ h => h.elim)
  rintro w2 σ2 ⟨rfl, j2⟩
  refine w_st (st2 := [.int v, .int v]) rfl ?_
  refine w_icmp_eq dL_law_1176 rfl (fun _ => kk σ2 j2) (fun h => absurd rfl h)
set_option maxHeartbeats 1000000 in
theorem law_c30 {kc ks i : Nat} {σ : PH} (hS : ScrG g b L xs) (hL : L ≤ 384) (hi : i + 6 ≤ L) (jj : JJ g ax bm σ) (kk : ∀ σ2, JJ g ax bm σ2 → Wp g (mtL (gz g) nm hh) kc ks 2076 [some (.ref b), some (.ref ax), some (.ref bm), some (.int (nI i))] [] σ2) : Wp g (mtL (gz g) nm hh) (kc + 9000) (ks + 112000) 1181 [some (.ref b), some (.ref ax), some (.ref bm), some (.int (nI i))] [] σ := by
  obtain ⟨d1, mc, ms, d2, P, q1, q2, q3, q4, ⟨t1, f1, h1⟩, hC, hM⟩ := pr_soonest (x := (xs (i + 1))) (y := (xs (i + 2))) jj
  refine w_bud (kc2 := kc + mc) (ks2 := ks + ms) (by omega) (by omega) ?_
  refine w_aload_n dL_law_1181 rfl ?_
  refine w_aload_n dL_law_1182 rfl ?_
  refine w_iload_n dL_law_1183 rfl ?_
  refine w_iconst (v := nI 1) dL_law_1184 ki_1 ?_
  refine w_iaddN dL_law_1185 ?_
  refine w_sld hS dL_law_1186 (by omega) (by omega) ?_
  refine w_aload_n dL_law_1187 rfl ?_
  refine w_iload_n dL_law_1188 rfl ?_
  refine w_iconst (v := nI 2) dL_law_1189 ki_2 ?_
  refine w_iaddN dL_law_1190 ?_
  refine w_sld hS dL_law_1191 (by omega) (by omega) ?_
  refine w_callV (kc := kc) (ks := ks) (mi := miX0_soonest) (As := [.int (xs (i + 1)), .int (xs (i + 2))]) (rest := []) dL_law_1192 q1220 okX0_soonest clX0 rfl hC (by show d1 + 1 ≤ 400; omega) h1 rfl rfl (Nat.le_of_ble_eq_true rfl) ?_ (fun _ _ _ h => h.elim)
  rintro w1 σ1 ⟨v, rfl, hP⟩
  obtain ⟨⟨t2, f2, h2⟩, hM2⟩ := hM v σ1 hP
  refine w_st (st2 := [.int v]) rfl ?_
  refine w_aload_n dL_law_1195 rfl ?_
  refine w_aload_n dL_law_1196 rfl ?_
  refine w_iload_n dL_law_1197 rfl ?_
  refine w_iconst (v := nI 1) dL_law_1198 ki_1 ?_
  refine w_iaddN dL_law_1199 ?_
  refine w_sld hS dL_law_1200 (by omega) (by omega) ?_
  refine w_aload_n dL_law_1201 rfl ?_
  refine w_iload_n dL_law_1202 rfl ?_
  refine w_iconst (v := nI 2) dL_law_1203 ki_2 ?_
  refine w_iaddN dL_law_1204 ?_
  refine w_sld hS dL_law_1205 (by omega) (by omega) ?_
  refine w_callV (kc := kc) (ks := ks) (mc2 := 0) (ms2 := 0) (mi := miX8_soonest) (As := [.int (xs (i + 1)), .int (xs (i + 2))]) (rest := [.int v]) dL_law_1206 q2161 okX8_soonest clX8 rfl hM2 (by show d2 + 1 ≤ 400; omega) h2 rfl rfl (Nat.le_of_ble_eq_true rfl) ?_ (fun _ _ _ h => h.elim)
  rintro w2 σ2 ⟨rfl, j2⟩
  refine w_st (st2 := [.int v, .int v]) rfl ?_
  refine w_icmp_eq dL_law_1209 rfl (fun _ => kk σ2 j2) (fun h => absurd rfl h)
set_option maxHeartbeats 1000000 in
theorem law_c31 {kc ks i : Nat} {σ : PH} (hS : ScrG g b L xs) (hL : L ≤ 384) (hi : i + 6 ≤ L) (jj : JJ g ax bm σ) (kk : ∀ σ2, JJ g ax bm σ2 → Wp g (mtL (gz g) nm hh) kc ks 2076 [some (.ref b), some (.ref ax), some (.ref bm), some (.int (nI i))] [] σ2) : Wp g (mtL (gz g) nm hh) (kc + 9000) (ks + 112000) 1214 [some (.ref b), some (.ref ax), some (.ref bm), some (.int (nI i))] [] σ := by
  obtain ⟨d1, mc, ms, d2, P, q1, q2, q3, q4, ⟨t1, f1, h1⟩, hC, hM⟩ := pr_threat (x := (xs (i + 1))) jj
  refine w_bud (kc2 := kc + mc) (ks2 := ks + ms) (by omega) (by omega) ?_
  refine w_aload_n dL_law_1214 rfl ?_
  refine w_aload_n dL_law_1215 rfl ?_
  refine w_iload_n dL_law_1216 rfl ?_
  refine w_iconst (v := nI 1) dL_law_1217 ki_1 ?_
  refine w_iaddN dL_law_1218 ?_
  refine w_sld hS dL_law_1219 (by omega) (by omega) ?_
  refine w_callV (kc := kc) (ks := ks) (mi := miX0_threat) (As := [.int (xs (i + 1))]) (rest := []) dL_law_1220 q1237 okX0_threat clX0 rfl hC (by show d1 + 1 ≤ 400; omega) h1 rfl rfl (Nat.le_of_ble_eq_true rfl) ?_ (fun _ _ _ h => h.elim)
  rintro w1 σ1 ⟨v, rfl, hP⟩
  obtain ⟨⟨t2, f2, h2⟩, hM2⟩ := hM v σ1 hP
  refine w_st (st2 := [.int v]) rfl ?_
  refine w_aload_n dL_law_1223 rfl ?_
  refine w_aload_n dL_law_1224 rfl ?_
  refine w_iload_n dL_law_1225 rfl ?_
  refine w_iconst (v := nI 1) dL_law_1226 ki_1 ?_
  refine w_iaddN dL_law_1227 ?_
  refine w_sld hS dL_law_1228 (by omega) (by omega) ?_
  refine w_callV (kc := kc) (ks := ks) (mc2 := 0) (ms2 := 0) (mi := miX8_threat) (As := [.int (xs (i + 1))]) (rest := [.int v]) dL_law_1229 q2173 okX8_threat clX8 rfl hM2 (by show d2 + 1 ≤ 400; omega) h2 rfl rfl (Nat.le_of_ble_eq_true rfl) ?_ (fun _ _ _ h => h.elim)
  rintro w2 σ2 ⟨rfl, j2⟩
  refine w_st (st2 := [.int v, .int v]) rfl ?_
  refine w_icmp_eq dL_law_1232 rfl (fun _ => kk σ2 j2) (fun h => absurd rfl h)
set_option maxHeartbeats 1000000 in
theorem law_c32 {kc ks i : Nat} {σ : PH} (hS : ScrG g b L xs) (hL : L ≤ 384) (hi : i + 6 ≤ L) (jj : JJ g ax bm σ) (kk : ∀ σ2, JJ g ax bm σ2 → Wp g (mtL (gz g) nm hh) kc ks 2076 [some (.ref b), some (.ref ax), some (.ref bm), some (.int (nI i))] [] σ2) : Wp g (mtL (gz g) nm hh) (kc + 9000) (ks + 112000) 1237 [some (.ref b), some (.ref ax), some (.ref bm), some (.int (nI i))] [] σ := by
  obtain ⟨d1, mc, ms, d2, P, q1, q2, q3, q4, ⟨t1, f1, h1⟩, hC, hM⟩ := pr_best (x := (xs (i + 1))) jj
  refine w_bud (kc2 := kc + mc) (ks2 := ks + ms) (by omega) (by omega) ?_
  refine w_aload_n dL_law_1237 rfl ?_
  refine w_aload_n dL_law_1238 rfl ?_
  refine w_iload_n dL_law_1239 rfl ?_
  refine w_iconst (v := nI 1) dL_law_1240 ki_1 ?_
  refine w_iaddN dL_law_1241 ?_
  refine w_sld hS dL_law_1242 (by omega) (by omega) ?_
  refine w_callV (kc := kc) (ks := ks) (mi := miX0_best) (As := [.int (xs (i + 1))]) (rest := []) dL_law_1243 q1241 okX0_best clX0 rfl hC (by show d1 + 1 ≤ 400; omega) h1 rfl rfl (Nat.le_of_ble_eq_true rfl) ?_ (fun _ _ _ h => h.elim)
  rintro w1 σ1 ⟨v, rfl, hP⟩
  obtain ⟨⟨t2, f2, h2⟩, hM2⟩ := hM v σ1 hP
  refine w_st (st2 := [.int v]) rfl ?_
  refine w_aload_n dL_law_1246 rfl ?_
  refine w_aload_n dL_law_1247 rfl ?_
  refine w_iload_n dL_law_1248 rfl ?_
  refine w_iconst (v := nI 1) dL_law_1249 ki_1 ?_
  refine w_iaddN dL_law_1250 ?_
  refine w_sld hS dL_law_1251 (by omega) (by omega) ?_
  refine w_callV (kc := kc) (ks := ks) (mc2 := 0) (ms2 := 0) (mi := miX8_best) (As := [.int (xs (i + 1))]) (rest := [.int v]) dL_law_1252 q2189 okX8_best clX8 rfl hM2 (by show d2 + 1 ≤ 400; omega) h2 rfl rfl (Nat.le_of_ble_eq_true rfl) ?_ (fun _ _ _ h => h.elim)
  rintro w2 σ2 ⟨rfl, j2⟩
  refine w_st (st2 := [.int v, .int v]) rfl ?_
  refine w_icmp_eq dL_law_1255 rfl (fun _ => kk σ2 j2) (fun h => absurd rfl h)
set_option maxHeartbeats 1000000 in
theorem law_c33 {kc ks i : Nat} {σ : PH} (hS : ScrG g b L xs) (hL : L ≤ 384) (hi : i + 6 ≤ L) (jj : JJ g ax bm σ) (kk : ∀ σ2, JJ g ax bm σ2 → Wp g (mtL (gz g) nm hh) kc ks 2076 [some (.ref b), some (.ref ax), some (.ref bm), some (.int (nI i))] [] σ2) : Wp g (mtL (gz g) nm hh) (kc + 9000) (ks + 112000) 1260 [some (.ref b), some (.ref ax), some (.ref bm), some (.int (nI i))] [] σ := by
  obtain ⟨d1, mc, ms, d2, P, q1, q2, q3, q4, ⟨t1, f1, h1⟩, hC, hM⟩ := pr_bestAt (x := (xs (i + 1))) jj
  refine w_bud (kc2 := kc + mc) (ks2 := ks + ms) (by omega) (by omega) ?_
  refine w_aload_n dL_law_1260 rfl ?_
  refine w_aload_n dL_law_1261 rfl ?_
  refine w_iload_n dL_law_1262 rfl ?_
  refine w_iconst (v := nI 1) dL_law_1263 ki_1 ?_
  refine w_iaddN dL_law_1264 ?_
  refine w_sld hS dL_law_1265 (by omega) (by omega) ?_
  refine w_callV (kc := kc) (ks := ks) (mi := miX0_bestAt) (As := [.int (xs (i + 1))]) (rest := []) dL_law_1266 q1254 okX0_bestAt clX0 rfl hC (by show d1 + 1 ≤ 400; omega) h1 rfl rfl (Nat.le_of_ble_eq_true rfl) ?_ (fun _ _ _ h => h.elim)
  rintro w1 σ1 ⟨v, rfl, hP⟩
  obtain ⟨⟨t2, f2, h2⟩, hM2⟩ := hM v σ1 hP
  refine w_st (st2 := [.int v]) rfl ?_
  refine w_aload_n dL_law_1269 rfl ?_
  refine w_aload_n dL_law_1270 rfl ?_
  refine w_iload_n dL_law_1271 rfl ?_
  refine w_iconst (v := nI 1) dL_law_1272 ki_1 ?_
  refine w_iaddN dL_law_1273 ?_
  refine w_sld hS dL_law_1274 (by omega) (by omega) ?_
  refine w_callV (kc := kc) (ks := ks) (mc2 := 0) (ms2 := 0) (mi := miX8_bestAt) (As := [.int (xs (i + 1))]) (rest := [.int v]) dL_law_1275 q2197 okX8_bestAt clX8 rfl hM2 (by show d2 + 1 ≤ 400; omega) h2 rfl rfl (Nat.le_of_ble_eq_true rfl) ?_ (fun _ _ _ h => h.elim)
  rintro w2 σ2 ⟨rfl, j2⟩
  refine w_st (st2 := [.int v, .int v]) rfl ?_
  refine w_icmp_eq dL_law_1278 rfl (fun _ => kk σ2 j2) (fun h => absurd rfl h)
set_option maxHeartbeats 1000000 in
theorem law_c34 {kc ks i : Nat} {σ : PH} (hS : ScrG g b L xs) (hL : L ≤ 384) (hi : i + 6 ≤ L) (jj : JJ g ax bm σ) (kk : ∀ σ2, JJ g ax bm σ2 → Wp g (mtL (gz g) nm hh) kc ks 2076 [some (.ref b), some (.ref ax), some (.ref bm), some (.int (nI i))] [] σ2) : Wp g (mtL (gz g) nm hh) (kc + 9000) (ks + 112000) 1283 [some (.ref b), some (.ref ax), some (.ref bm), some (.int (nI i))] [] σ := by
  obtain ⟨d1, mc, ms, d2, P, q1, q2, q3, q4, ⟨t1, f1, h1⟩, hC, hM⟩ := pr_lateness (x := (xs (i + 1))) (y := (xs (i + 2))) jj
  refine w_bud (kc2 := kc + mc) (ks2 := ks + ms) (by omega) (by omega) ?_
  refine w_aload_n dL_law_1283 rfl ?_
  refine w_aload_n dL_law_1284 rfl ?_
  refine w_iload_n dL_law_1285 rfl ?_
  refine w_iconst (v := nI 1) dL_law_1286 ki_1 ?_
  refine w_iaddN dL_law_1287 ?_
  refine w_sld hS dL_law_1288 (by omega) (by omega) ?_
  refine w_aload_n dL_law_1289 rfl ?_
  refine w_iload_n dL_law_1290 rfl ?_
  refine w_iconst (v := nI 2) dL_law_1291 ki_2 ?_
  refine w_iaddN dL_law_1292 ?_
  refine w_sld hS dL_law_1293 (by omega) (by omega) ?_
  refine w_callV (kc := kc) (ks := ks) (mi := miX0_lateness) (As := [.int (xs (i + 1)), .int (xs (i + 2))]) (rest := []) dL_law_1294 q1258 okX0_lateness clX0 rfl hC (by show d1 + 1 ≤ 400; omega) h1 rfl rfl (Nat.le_of_ble_eq_true rfl) ?_ (fun _ _ _ h => h.elim)
  rintro w1 σ1 ⟨v, rfl, hP⟩
  obtain ⟨⟨t2, f2, h2⟩, hM2⟩ := hM v σ1 hP
  refine w_st (st2 := [.int v]) rfl ?_
  refine w_aload_n dL_law_1297 rfl ?_
  refine w_aload_n dL_law_1298 rfl ?_
  refine w_iload_n dL_law_1299 rfl ?_
  refine w_iconst (v := nI 1) dL_law_1300 ki_1 ?_
  refine w_iaddN dL_law_1301 ?_
  refine w_sld hS dL_law_1302 (by omega) (by omega) ?_
  refine w_aload_n dL_law_1303 rfl ?_
  refine w_iload_n dL_law_1304 rfl ?_
  refine w_iconst (v := nI 2) dL_law_1305 ki_2 ?_
  refine w_iaddN dL_law_1306 ?_
  refine w_sld hS dL_law_1307 (by omega) (by omega) ?_
  refine w_callV (kc := kc) (ks := ks) (mc2 := 0) (ms2 := 0) (mi := miX8_lateness) (As := [.int (xs (i + 1)), .int (xs (i + 2))]) (rest := [.int v]) dL_law_1308 q2201 okX8_lateness clX8 rfl hM2 (by show d2 + 1 ≤ 400; omega) h2 rfl rfl (Nat.le_of_ble_eq_true rfl) ?_ (fun _ _ _ h => h.elim)
  rintro w2 σ2 ⟨rfl, j2⟩
  refine w_st (st2 := [.int v, .int v]) rfl ?_
  refine w_icmp_eq dL_law_1311 rfl (fun _ => kk σ2 j2) (fun h => absurd rfl h)
set_option maxHeartbeats 1000000 in
theorem law_c35 {kc ks i : Nat} {σ : PH} (hS : ScrG g b L xs) (hL : L ≤ 384) (hi : i + 6 ≤ L) (jj : JJ g ax bm σ) (kk : ∀ σ2, JJ g ax bm σ2 → Wp g (mtL (gz g) nm hh) kc ks 2076 [some (.ref b), some (.ref ax), some (.ref bm), some (.int (nI i))] [] σ2) : Wp g (mtL (gz g) nm hh) (kc + 9000) (ks + 112000) 1316 [some (.ref b), some (.ref ax), some (.ref bm), some (.int (nI i))] [] σ := by
  obtain ⟨d1, mc, ms, d2, P, q1, q2, q3, q4, ⟨t1, f1, h1⟩, hC, hM⟩ := pr_seen (x := (xs (i + 1))) (y := (xs (i + 2))) jj
  refine w_bud (kc2 := kc + mc) (ks2 := ks + ms) (by omega) (by omega) ?_
  refine w_aload_n dL_law_1316 rfl ?_
  refine w_aload_n dL_law_1317 rfl ?_
  refine w_iload_n dL_law_1318 rfl ?_
  refine w_iconst (v := nI 1) dL_law_1319 ki_1 ?_
  refine w_iaddN dL_law_1320 ?_
  refine w_sld hS dL_law_1321 (by omega) (by omega) ?_
  refine w_aload_n dL_law_1322 rfl ?_
  refine w_iload_n dL_law_1323 rfl ?_
  refine w_iconst (v := nI 2) dL_law_1324 ki_2 ?_
  refine w_iaddN dL_law_1325 ?_
  refine w_sld hS dL_law_1326 (by omega) (by omega) ?_
  refine w_callV (kc := kc) (ks := ks) (mi := miX0_seen) (As := [.int (xs (i + 1)), .int (xs (i + 2))]) (rest := []) dL_law_1327 q1262 okX0_seen clX0 rfl hC (by show d1 + 1 ≤ 400; omega) h1 rfl rfl (Nat.le_of_ble_eq_true rfl) ?_ (fun _ _ _ h => h.elim)
  rintro w1 σ1 ⟨v, rfl, hP⟩
  obtain ⟨⟨t2, f2, h2⟩, hM2⟩ := hM v σ1 hP
  refine w_st (st2 := [.int v]) rfl ?_
  refine w_aload_n dL_law_1330 rfl ?_
  refine w_aload_n dL_law_1331 rfl ?_
  refine w_iload_n dL_law_1332 rfl ?_
  refine w_iconst (v := nI 1) dL_law_1333 ki_1 ?_
  refine w_iaddN dL_law_1334 ?_
  refine w_sld hS dL_law_1335 (by omega) (by omega) ?_
  refine w_aload_n dL_law_1336 rfl ?_
  refine w_iload_n dL_law_1337 rfl ?_
  refine w_iconst (v := nI 2) dL_law_1338 ki_2 ?_
  refine w_iaddN dL_law_1339 ?_
  refine w_sld hS dL_law_1340 (by omega) (by omega) ?_
  refine w_callV (kc := kc) (ks := ks) (mc2 := 0) (ms2 := 0) (mi := miX8_seen) (As := [.int (xs (i + 1)), .int (xs (i + 2))]) (rest := [.int v]) dL_law_1341 q2205 okX8_seen clX8 rfl hM2 (by show d2 + 1 ≤ 400; omega) h2 rfl rfl (Nat.le_of_ble_eq_true rfl) ?_ (fun _ _ _ h => h.elim)
  rintro w2 σ2 ⟨rfl, j2⟩
  refine w_st (st2 := [.int v, .int v]) rfl ?_
  refine w_icmp_eq dL_law_1344 rfl (fun _ => kk σ2 j2) (fun h => absurd rfl h)
set_option maxHeartbeats 1000000 in
theorem law_c36 {kc ks i : Nat} {σ : PH} (hS : ScrG g b L xs) (hL : L ≤ 384) (hi : i + 6 ≤ L) (jj : JJ g ax bm σ) (kk : ∀ σ2, JJ g ax bm σ2 → Wp g (mtL (gz g) nm hh) kc ks 2076 [some (.ref b), some (.ref ax), some (.ref bm), some (.int (nI i))] [] σ2) : Wp g (mtL (gz g) nm hh) (kc + 9000) (ks + 112000) 1349 [some (.ref b), some (.ref ax), some (.ref bm), some (.int (nI i))] [] σ := by
  obtain ⟨d1, mc, ms, d2, P, q1, q2, q3, q4, ⟨t1, f1, h1⟩, hC, hM⟩ := pr_boys (x := (xs (i + 1))) jj
  refine w_bud (kc2 := kc + mc) (ks2 := ks + ms) (by omega) (by omega) ?_
  refine w_aload_n dL_law_1349 rfl ?_
  refine w_aload_n dL_law_1350 rfl ?_
  refine w_iload_n dL_law_1351 rfl ?_
  refine w_iconst (v := nI 1) dL_law_1352 ki_1 ?_
  refine w_iaddN dL_law_1353 ?_
  refine w_sld hS dL_law_1354 (by omega) (by omega) ?_
  refine w_callV (kc := kc) (ks := ks) (mi := miX0_boys) (As := [.int (xs (i + 1))]) (rest := []) dL_law_1355 q1270 okX0_boys clX0 rfl hC (by show d1 + 1 ≤ 400; omega) h1 rfl rfl (Nat.le_of_ble_eq_true rfl) ?_ (fun _ _ _ h => h.elim)
  rintro w1 σ1 ⟨v, rfl, hP⟩
  obtain ⟨⟨t2, f2, h2⟩, hM2⟩ := hM v σ1 hP
  refine w_st (st2 := [.int v]) rfl ?_
  refine w_aload_n dL_law_1358 rfl ?_
  refine w_aload_n dL_law_1359 rfl ?_
  refine w_iload_n dL_law_1360 rfl ?_
  refine w_iconst (v := nI 1) dL_law_1361 ki_1 ?_
  refine w_iaddN dL_law_1362 ?_
  refine w_sld hS dL_law_1363 (by omega) (by omega) ?_
  refine w_callV (kc := kc) (ks := ks) (mc2 := 0) (ms2 := 0) (mi := miX8_boys) (As := [.int (xs (i + 1))]) (rest := [.int v]) dL_law_1364 q2209 okX8_boys clX8 rfl hM2 (by show d2 + 1 ≤ 400; omega) h2 rfl rfl (Nat.le_of_ble_eq_true rfl) ?_ (fun _ _ _ h => h.elim)
  rintro w2 σ2 ⟨rfl, j2⟩
  refine w_st (st2 := [.int v, .int v]) rfl ?_
  refine w_icmp_eq dL_law_1367 rfl (fun _ => kk σ2 j2) (fun h => absurd rfl h)
set_option maxHeartbeats 1000000 in
theorem law_c37 {kc ks i : Nat} {σ : PH} (hS : ScrG g b L xs) (hL : L ≤ 384) (hi : i + 6 ≤ L) (jj : JJ g ax bm σ) (kk : ∀ σ2, JJ g ax bm σ2 → Wp g (mtL (gz g) nm hh) kc ks 2076 [some (.ref b), some (.ref ax), some (.ref bm), some (.int (nI i))] [] σ2) : Wp g (mtL (gz g) nm hh) (kc + 9000) (ks + 112000) 1372 [some (.ref b), some (.ref ax), some (.ref bm), some (.int (nI i))] [] σ := by
  obtain ⟨d1, mc, ms, d2, P, q1, q2, q3, q4, ⟨t1, f1, h1⟩, hC, hM⟩ := pr_boyAt (x := (xs (i + 1))) (y := (xs (i + 2))) jj
  refine w_bud (kc2 := kc + mc) (ks2 := ks + ms) (by omega) (by omega) ?_
  refine w_aload_n dL_law_1372 rfl ?_
  refine w_aload_n dL_law_1373 rfl ?_
  refine w_iload_n dL_law_1374 rfl ?_
  refine w_iconst (v := nI 1) dL_law_1375 ki_1 ?_
  refine w_iaddN dL_law_1376 ?_
  refine w_sld hS dL_law_1377 (by omega) (by omega) ?_
  refine w_aload_n dL_law_1378 rfl ?_
  refine w_iload_n dL_law_1379 rfl ?_
  refine w_iconst (v := nI 2) dL_law_1380 ki_2 ?_
  refine w_iaddN dL_law_1381 ?_
  refine w_sld hS dL_law_1382 (by omega) (by omega) ?_
  refine w_callV (kc := kc) (ks := ks) (mi := miX0_boyAt) (As := [.int (xs (i + 1)), .int (xs (i + 2))]) (rest := []) dL_law_1383 q1281 okX0_boyAt clX0 rfl hC (by show d1 + 1 ≤ 400; omega) h1 rfl rfl (Nat.le_of_ble_eq_true rfl) ?_ (fun _ _ _ h => h.elim)
  rintro w1 σ1 ⟨v, rfl, hP⟩
  obtain ⟨⟨t2, f2, h2⟩, hM2⟩ := hM v σ1 hP
  refine w_st (st2 := [.int v]) rfl ?_
  refine w_aload_n dL_law_1386 rfl ?_
  refine w_aload_n dL_law_1387 rfl ?_
  refine w_iload_n dL_law_1388 rfl ?_
  refine w_iconst (v := nI 1) dL_law_1389 ki_1 ?_
  refine w_iaddN dL_law_1390 ?_
  refine w_sld hS dL_law_1391 (by omega) (by omega) ?_
  refine w_aload_n dL_law_1392 rfl ?_
  refine w_iload_n dL_law_1393 rfl ?_
  refine w_iconst (v := nI 2) dL_law_1394 ki_2 ?_
  refine w_iaddN dL_law_1395 ?_
  refine w_sld hS dL_law_1396 (by omega) (by omega) ?_
  refine w_callV (kc := kc) (ks := ks) (mc2 := 0) (ms2 := 0) (mi := miX8_boyAt) (As := [.int (xs (i + 1)), .int (xs (i + 2))]) (rest := [.int v]) dL_law_1397 q2221 okX8_boyAt clX8 rfl hM2 (by show d2 + 1 ≤ 400; omega) h2 rfl rfl (Nat.le_of_ble_eq_true rfl) ?_ (fun _ _ _ h => h.elim)
  rintro w2 σ2 ⟨rfl, j2⟩
  refine w_st (st2 := [.int v, .int v]) rfl ?_
  refine w_icmp_eq dL_law_1400 rfl (fun _ => kk σ2 j2) (fun h => absurd rfl h)
set_option maxHeartbeats 1000000 in
theorem law_c38 {kc ks i : Nat} {σ : PH} (hS : ScrG g b L xs) (hL : L ≤ 384) (hi : i + 6 ≤ L) (jj : JJ g ax bm σ) (kk : ∀ σ2, JJ g ax bm σ2 → Wp g (mtL (gz g) nm hh) kc ks 2076 [some (.ref b), some (.ref ax), some (.ref bm), some (.int (nI i))] [] σ2) : Wp g (mtL (gz g) nm hh) (kc + 9000) (ks + 112000) 1405 [some (.ref b), some (.ref ax), some (.ref bm), some (.int (nI i))] [] σ := by
  obtain ⟨d1, mc, ms, d2, P, q1, q2, q3, q4, ⟨t1, f1, h1⟩, hC, hM⟩ := pr_odds (x := (xs (i + 1))) (y := (xs (i + 2))) (z := (xs (i + 3))) jj
  refine w_bud (kc2 := kc + mc) (ks2 := ks + ms) (by omega) (by omega) ?_
  refine w_aload_n dL_law_1405 rfl ?_
  refine w_aload_n dL_law_1406 rfl ?_
  refine w_iload_n dL_law_1407 rfl ?_
  refine w_iconst (v := nI 1) dL_law_1408 ki_1 ?_
  refine w_iaddN dL_law_1409 ?_
  refine w_sld hS dL_law_1410 (by omega) (by omega) ?_
  refine w_aload_n dL_law_1411 rfl ?_
  refine w_iload_n dL_law_1412 rfl ?_
  refine w_iconst (v := nI 2) dL_law_1413 ki_2 ?_
  refine w_iaddN dL_law_1414 ?_
  refine w_sld hS dL_law_1415 (by omega) (by omega) ?_
  refine w_aload_n dL_law_1416 rfl ?_
  refine w_iload_n dL_law_1417 rfl ?_
  refine w_iconst (v := nI 3) dL_law_1418 ki_3 ?_
  refine w_iaddN dL_law_1419 ?_
  refine w_sld hS dL_law_1420 (by omega) (by omega) ?_
  refine w_callV (kc := kc) (ks := ks) (mi := miX0_odds) (As := [.int (xs (i + 1)), .int (xs (i + 2)), .int (xs (i + 3))]) (rest := []) dL_law_1421 q1285 okX0_odds clX0 rfl hC (by show d1 + 1 ≤ 400; omega) h1 rfl rfl (Nat.le_of_ble_eq_true rfl) ?_ (fun _ _ _ h => h.elim)
  rintro w1 σ1 ⟨v, rfl, hP⟩
  obtain ⟨⟨t2, f2, h2⟩, hM2⟩ := hM v σ1 hP
  refine w_st (st2 := [.int v]) rfl ?_
  refine w_aload_n dL_law_1424 rfl ?_
  refine w_aload_n dL_law_1425 rfl ?_
  refine w_iload_n dL_law_1426 rfl ?_
  refine w_iconst (v := nI 1) dL_law_1427 ki_1 ?_
  refine w_iaddN dL_law_1428 ?_
  refine w_sld hS dL_law_1429 (by omega) (by omega) ?_
  refine w_aload_n dL_law_1430 rfl ?_
  refine w_iload_n dL_law_1431 rfl ?_
  refine w_iconst (v := nI 2) dL_law_1432 ki_2 ?_
  refine w_iaddN dL_law_1433 ?_
  refine w_sld hS dL_law_1434 (by omega) (by omega) ?_
  refine w_aload_n dL_law_1435 rfl ?_
  refine w_iload_n dL_law_1436 rfl ?_
  refine w_iconst (v := nI 3) dL_law_1437 ki_3 ?_
  refine w_iaddN dL_law_1438 ?_
  refine w_sld hS dL_law_1439 (by omega) (by omega) ?_
  refine w_callV (kc := kc) (ks := ks) (mc2 := 0) (ms2 := 0) (mi := miX8_odds) (As := [.int (xs (i + 1)), .int (xs (i + 2)), .int (xs (i + 3))]) (rest := [.int v]) dL_law_1440 q2225 okX8_odds clX8 rfl hM2 (by show d2 + 1 ≤ 400; omega) h2 rfl rfl (Nat.le_of_ble_eq_true rfl) ?_ (fun _ _ _ h => h.elim)
  rintro w2 σ2 ⟨rfl, j2⟩
  refine w_st (st2 := [.int v, .int v]) rfl ?_
  refine w_icmp_eq dL_law_1443 rfl (fun _ => kk σ2 j2) (fun h => absurd rfl h)
set_option maxHeartbeats 1000000 in
theorem law_c39 {kc ks i : Nat} {σ : PH} (hS : ScrG g b L xs) (hL : L ≤ 384) (hi : i + 6 ≤ L) (jj : JJ g ax bm σ) (kk : ∀ σ2, JJ g ax bm σ2 → Wp g (mtL (gz g) nm hh) kc ks 2076 [some (.ref b), some (.ref ax), some (.ref bm), some (.int (nI i))] [] σ2) : Wp g (mtL (gz g) nm hh) (kc + 9000) (ks + 112000) 1448 [some (.ref b), some (.ref ax), some (.ref bm), some (.int (nI i))] [] σ := by
  obtain ⟨d1, mc, ms, d2, P, q1, q2, q3, q4, ⟨t1, f1, h1⟩, hC, hM⟩ := pr_gulls (x := (xs (i + 1))) jj
  refine w_bud (kc2 := kc + mc) (ks2 := ks + ms) (by omega) (by omega) ?_
  refine w_aload_n dL_law_1448 rfl ?_
  refine w_aload_n dL_law_1449 rfl ?_
  refine w_iload_n dL_law_1450 rfl ?_
  refine w_iconst (v := nI 1) dL_law_1451 ki_1 ?_
  refine w_iaddN dL_law_1452 ?_
  refine w_sld hS dL_law_1453 (by omega) (by omega) ?_
  refine w_callVW (kc := kc) (ks := ks) (mi := miX0_gulls) (As := [.int (xs (i + 1))]) (rest := []) rfl dL_law_1454 q1300 okW_gulls clX0 rfl hC (by show d1 + 1 ≤ 400; omega) h1 rfl rfl (Nat.le_of_ble_eq_true rfl) ?_ (fun _ _ _ h => h.elim)
  rintro w1 σ1 ⟨v, rfl, hP⟩
  obtain ⟨⟨t2, f2, h2⟩, hM2⟩ := hM v σ1 hP
  refine w_st (st2 := [.int v]) rfl ?_
  refine w_aload_n dL_law_1457 rfl ?_
  refine w_aload_n dL_law_1458 rfl ?_
  refine w_iload_n dL_law_1459 rfl ?_
  refine w_iconst (v := nI 1) dL_law_1460 ki_1 ?_
  refine w_iaddN dL_law_1461 ?_
  refine w_sld hS dL_law_1462 (by omega) (by omega) ?_
  refine w_callV (kc := kc) (ks := ks) (mc2 := 0) (ms2 := 0) (mi := miX8_gulls) (As := [.int (xs (i + 1))]) (rest := [.int v]) dL_law_1463 q2234 okX8_gulls clX8 rfl hM2 (by show d2 + 1 ≤ 400; omega) h2 rfl rfl (Nat.le_of_ble_eq_true rfl) ?_ (fun _ _ _ h => h.elim)
  rintro w2 σ2 ⟨rfl, j2⟩
  refine w_st (st2 := [.int v, .int v]) rfl ?_
  refine w_icmp_eq dL_law_1466 rfl (fun _ => kk σ2 j2) (fun h => absurd rfl h)
set_option maxHeartbeats 1000000 in
theorem law_c40 {kc ks i : Nat} {σ : PH} (hS : ScrG g b L xs) (hL : L ≤ 384) (hi : i + 6 ≤ L) (jj : JJ g ax bm σ) (kk : ∀ σ2, JJ g ax bm σ2 → Wp g (mtL (gz g) nm hh) kc ks 2076 [some (.ref b), some (.ref ax), some (.ref bm), some (.int (nI i))] [] σ2) : Wp g (mtL (gz g) nm hh) (kc + 9000) (ks + 112000) 1471 [some (.ref b), some (.ref ax), some (.ref bm), some (.int (nI i))] [] σ := by
  obtain ⟨d1, mc, ms, d2, P, q1, q2, q3, q4, ⟨t1, f1, h1⟩, hC, hM⟩ := pr_walk (x := (xs (i + 1))) (y := (xs (i + 2))) jj
  refine w_bud (kc2 := kc + mc) (ks2 := ks + ms) (by omega) (by omega) ?_
  refine w_aload_n dL_law_1471 rfl ?_
  refine w_aload_n dL_law_1472 rfl ?_
  refine w_iload_n dL_law_1473 rfl ?_
  refine w_iconst (v := nI 1) dL_law_1474 ki_1 ?_
  refine w_iaddN dL_law_1475 ?_
  refine w_sld hS dL_law_1476 (by omega) (by omega) ?_
  refine w_aload_n dL_law_1477 rfl ?_
  refine w_iload_n dL_law_1478 rfl ?_
  refine w_iconst (v := nI 2) dL_law_1479 ki_2 ?_
  refine w_iaddN dL_law_1480 ?_
  refine w_sld hS dL_law_1481 (by omega) (by omega) ?_
  refine w_callV (kc := kc) (ks := ks) (mi := miX0_walk) (As := [.int (xs (i + 1)), .int (xs (i + 2))]) (rest := []) dL_law_1482 q1310 okX0_walk clX0 rfl hC (by show d1 + 1 ≤ 400; omega) h1 rfl rfl (Nat.le_of_ble_eq_true rfl) ?_ (fun _ _ _ h => h.elim)
  rintro w1 σ1 ⟨v, rfl, hP⟩
  obtain ⟨⟨t2, f2, h2⟩, hM2⟩ := hM v σ1 hP
  refine w_st (st2 := [.int v]) rfl ?_
  refine w_aload_n dL_law_1485 rfl ?_
  refine w_aload_n dL_law_1486 rfl ?_
  refine w_iload_n dL_law_1487 rfl ?_
  refine w_iconst (v := nI 1) dL_law_1488 ki_1 ?_
  refine w_iaddN dL_law_1489 ?_
  refine w_sld hS dL_law_1490 (by omega) (by omega) ?_
  refine w_aload_n dL_law_1491 rfl ?_
  refine w_iload_n dL_law_1492 rfl ?_
  refine w_iconst (v := nI 2) dL_law_1493 ki_2 ?_
  refine w_iaddN dL_law_1494 ?_
  refine w_sld hS dL_law_1495 (by omega) (by omega) ?_
  refine w_callV (kc := kc) (ks := ks) (mc2 := 0) (ms2 := 0) (mi := miX8_walk) (As := [.int (xs (i + 1)), .int (xs (i + 2))]) (rest := [.int v]) dL_law_1496 q2113 okX8_walk clX8 rfl hM2 (by show d2 + 1 ≤ 400; omega) h2 rfl rfl (Nat.le_of_ble_eq_true rfl) ?_ (fun _ _ _ h => h.elim)
  rintro w2 σ2 ⟨rfl, j2⟩
  refine w_st (st2 := [.int v, .int v]) rfl ?_
  refine w_icmp_eq dL_law_1499 rfl (fun _ => kk σ2 j2) (fun h => absurd rfl h)
set_option maxHeartbeats 1000000 in
theorem law_c41 {kc ks i : Nat} {σ : PH} (hS : ScrG g b L xs) (hL : L ≤ 384) (hi : i + 6 ≤ L) (jj : JJ g ax bm σ) (kk : ∀ σ2, JJ g ax bm σ2 → Wp g (mtL (gz g) nm hh) kc ks 2076 [some (.ref b), some (.ref ax), some (.ref bm), some (.int (nI i))] [] σ2) : Wp g (mtL (gz g) nm hh) (kc + 9000) (ks + 112000) 1504 [some (.ref b), some (.ref ax), some (.ref bm), some (.int (nI i))] [] σ := by
  obtain ⟨d1, mc, ms, d2, P, q1, q2, q3, q4, ⟨t1, f1, h1⟩, hC, hM⟩ := pr_gain (x := (xs (i + 1))) (y := (xs (i + 2))) jj
  refine w_bud (kc2 := kc + mc) (ks2 := ks + ms) (by omega) (by omega) ?_
  refine w_aload_n dL_law_1504 rfl ?_
  refine w_aload_n dL_law_1505 rfl ?_
  refine w_iload_n dL_law_1506 rfl ?_
  refine w_iconst (v := nI 1) dL_law_1507 ki_1 ?_
  refine w_iaddN dL_law_1508 ?_
  refine w_sld hS dL_law_1509 (by omega) (by omega) ?_
  refine w_aload_n dL_law_1510 rfl ?_
  refine w_iload_n dL_law_1511 rfl ?_
  refine w_iconst (v := nI 2) dL_law_1512 ki_2 ?_
  refine w_iaddN dL_law_1513 ?_
  refine w_sld hS dL_law_1514 (by omega) (by omega) ?_
  refine w_callV (kc := kc) (ks := ks) (mi := miX0_gain) (As := [.int (xs (i + 1)), .int (xs (i + 2))]) (rest := []) dL_law_1515 q1314 okX0_gain clX0 rfl hC (by show d1 + 1 ≤ 400; omega) h1 rfl rfl (Nat.le_of_ble_eq_true rfl) ?_ (fun _ _ _ h => h.elim)
  rintro w1 σ1 ⟨v, rfl, hP⟩
  obtain ⟨⟨t2, f2, h2⟩, hM2⟩ := hM v σ1 hP
  refine w_st (st2 := [.int v]) rfl ?_
  refine w_aload_n dL_law_1518 rfl ?_
  refine w_aload_n dL_law_1519 rfl ?_
  refine w_iload_n dL_law_1520 rfl ?_
  refine w_iconst (v := nI 1) dL_law_1521 ki_1 ?_
  refine w_iaddN dL_law_1522 ?_
  refine w_sld hS dL_law_1523 (by omega) (by omega) ?_
  refine w_aload_n dL_law_1524 rfl ?_
  refine w_iload_n dL_law_1525 rfl ?_
  refine w_iconst (v := nI 2) dL_law_1526 ki_2 ?_
  refine w_iaddN dL_law_1527 ?_
  refine w_sld hS dL_law_1528 (by omega) (by omega) ?_
  refine w_callV (kc := kc) (ks := ks) (mc2 := 0) (ms2 := 0) (mi := miX8_gain) (As := [.int (xs (i + 1)), .int (xs (i + 2))]) (rest := [.int v]) dL_law_1529 q2185 okX8_gain clX8 rfl hM2 (by show d2 + 1 ≤ 400; omega) h2 rfl rfl (Nat.le_of_ble_eq_true rfl) ?_ (fun _ _ _ h => h.elim)
  rintro w2 σ2 ⟨rfl, j2⟩
  refine w_st (st2 := [.int v, .int v]) rfl ?_
  refine w_icmp_eq dL_law_1532 rfl (fun _ => kk σ2 j2) (fun h => absurd rfl h)
set_option maxHeartbeats 1000000 in
theorem law_c42 {kc ks i : Nat} {σ : PH} (hS : ScrG g b L xs) (hL : L ≤ 384) (hi : i + 6 ≤ L) (jj : JJ g ax bm σ) (kk : ∀ σ2, JJ g ax bm σ2 → Wp g (mtL (gz g) nm hh) kc ks 2076 [some (.ref b), some (.ref ax), some (.ref bm), some (.int (nI i))] [] σ2) : Wp g (mtL (gz g) nm hh) (kc + 9000) (ks + 112000) 1537 [some (.ref b), some (.ref ax), some (.ref bm), some (.int (nI i))] [] σ := by
  obtain ⟨d1, mc, ms, d2, P, q1, q2, q3, q4, ⟨t1, f1, h1⟩, hC, hM⟩ := pr_safe (x := (xs (i + 1))) jj
  refine w_bud (kc2 := kc + mc) (ks2 := ks + ms) (by omega) (by omega) ?_
  refine w_aload_n dL_law_1537 rfl ?_
  refine w_aload_n dL_law_1538 rfl ?_
  refine w_iload_n dL_law_1539 rfl ?_
  refine w_iconst (v := nI 1) dL_law_1540 ki_1 ?_
  refine w_iaddN dL_law_1541 ?_
  refine w_sld hS dL_law_1542 (by omega) (by omega) ?_
  refine w_callV (kc := kc) (ks := ks) (mi := miX0_safe) (As := [.int (xs (i + 1))]) (rest := []) dL_law_1543 q1328 okX0_safe clX0 rfl hC (by show d1 + 1 ≤ 400; omega) h1 rfl rfl (Nat.le_of_ble_eq_true rfl) ?_ (fun _ _ _ h => h.elim)
  rintro w1 σ1 ⟨v, rfl, hP⟩
  obtain ⟨⟨t2, f2, h2⟩, hM2⟩ := hM v σ1 hP
  refine w_st (st2 := [.int v]) rfl ?_
  refine w_aload_n dL_law_1546 rfl ?_
  refine w_aload_n dL_law_1547 rfl ?_
  refine w_iload_n dL_law_1548 rfl ?_
  refine w_iconst (v := nI 1) dL_law_1549 ki_1 ?_
  refine w_iaddN dL_law_1550 ?_
  refine w_sld hS dL_law_1551 (by omega) (by omega) ?_
  refine w_callV (kc := kc) (ks := ks) (mc2 := 0) (ms2 := 0) (mi := miX8_safe) (As := [.int (xs (i + 1))]) (rest := [.int v]) dL_law_1552 q2181 okX8_safe clX8 rfl hM2 (by show d2 + 1 ≤ 400; omega) h2 rfl rfl (Nat.le_of_ble_eq_true rfl) ?_ (fun _ _ _ h => h.elim)
  rintro w2 σ2 ⟨rfl, j2⟩
  refine w_st (st2 := [.int v, .int v]) rfl ?_
  refine w_icmp_eq dL_law_1555 rfl (fun _ => kk σ2 j2) (fun h => absurd rfl h)
set_option maxHeartbeats 1000000 in
theorem law_c43 {kc ks i : Nat} {σ : PH} (hS : ScrG g b L xs) (hL : L ≤ 384) (hi : i + 6 ≤ L) (jj : JJ g ax bm σ) (kk : ∀ σ2, JJ g ax bm σ2 → Wp g (mtL (gz g) nm hh) kc ks 2076 [some (.ref b), some (.ref ax), some (.ref bm), some (.int (nI i))] [] σ2) : Wp g (mtL (gz g) nm hh) (kc + 9000) (ks + 112000) 1560 [some (.ref b), some (.ref ax), some (.ref bm), some (.int (nI i))] [] σ := by
  obtain ⟨d1, mc, ms, d2, P, q1, q2, q3, q4, ⟨t1, f1, h1⟩, hC, hM⟩ := pr_ranked (x := (xs (i + 1))) jj
  refine w_bud (kc2 := kc + mc) (ks2 := ks + ms) (by omega) (by omega) ?_
  refine w_aload_n dL_law_1560 rfl ?_
  refine w_aload_n dL_law_1561 rfl ?_
  refine w_iload_n dL_law_1562 rfl ?_
  refine w_iconst (v := nI 1) dL_law_1563 ki_1 ?_
  refine w_iaddN dL_law_1564 ?_
  refine w_sld hS dL_law_1565 (by omega) (by omega) ?_
  refine w_callV (kc := kc) (ks := ks) (mi := miX0_ranked) (As := [.int (xs (i + 1))]) (rest := []) dL_law_1566 q1332 okX0_ranked clX0 rfl hC (by show d1 + 1 ≤ 400; omega) h1 rfl rfl (Nat.le_of_ble_eq_true rfl) ?_ (fun _ _ _ h => h.elim)
  rintro w1 σ1 ⟨v, rfl, hP⟩
  obtain ⟨⟨t2, f2, h2⟩, hM2⟩ := hM v σ1 hP
  refine w_st (st2 := [.int v]) rfl ?_
  refine w_aload_n dL_law_1569 rfl ?_
  refine w_aload_n dL_law_1570 rfl ?_
  refine w_iload_n dL_law_1571 rfl ?_
  refine w_iconst (v := nI 1) dL_law_1572 ki_1 ?_
  refine w_iaddN dL_law_1573 ?_
  refine w_sld hS dL_law_1574 (by omega) (by omega) ?_
  refine w_callV (kc := kc) (ks := ks) (mc2 := 0) (ms2 := 0) (mi := miX8_ranked) (As := [.int (xs (i + 1))]) (rest := [.int v]) dL_law_1575 q2039 okX8_ranked clX8 rfl hM2 (by show d2 + 1 ≤ 400; omega) h2 rfl rfl (Nat.le_of_ble_eq_true rfl) ?_ (fun _ _ _ h => h.elim)
  rintro w2 σ2 ⟨rfl, j2⟩
  refine w_st (st2 := [.int v, .int v]) rfl ?_
  refine w_icmp_eq dL_law_1578 rfl (fun _ => kk σ2 j2) (fun h => absurd rfl h)
set_option maxHeartbeats 1000000 in
theorem law_c44 {kc ks i : Nat} {σ : PH} (hS : ScrG g b L xs) (hL : L ≤ 384) (hi : i + 6 ≤ L) (jj : JJ g ax bm σ) (kk : ∀ σ2, JJ g ax bm σ2 → Wp g (mtL (gz g) nm hh) kc ks 2076 [some (.ref b), some (.ref ax), some (.ref bm), some (.int (nI i))] [] σ2) : Wp g (mtL (gz g) nm hh) (kc + 9000) (ks + 112000) 1583 [some (.ref b), some (.ref ax), some (.ref bm), some (.int (nI i))] [] σ := by
  obtain ⟨d1, mc, ms, d2, P, q1, q2, q3, q4, ⟨t1, f1, h1⟩, hC, hM⟩ := pr_rivals (x := (xs (i + 1))) (y := (xs (i + 2))) jj
  refine w_bud (kc2 := kc + mc) (ks2 := ks + ms) (by omega) (by omega) ?_
  refine w_aload_n dL_law_1583 rfl ?_
  refine w_aload_n dL_law_1584 rfl ?_
  refine w_iload_n dL_law_1585 rfl ?_
  refine w_iconst (v := nI 1) dL_law_1586 ki_1 ?_
  refine w_iaddN dL_law_1587 ?_
  refine w_sld hS dL_law_1588 (by omega) (by omega) ?_
  refine w_aload_n dL_law_1589 rfl ?_
  refine w_iload_n dL_law_1590 rfl ?_
  refine w_iconst (v := nI 2) dL_law_1591 ki_2 ?_
  refine w_iaddN dL_law_1592 ?_
  refine w_sld hS dL_law_1593 (by omega) (by omega) ?_
  refine w_callV (kc := kc) (ks := ks) (mi := miX0_rivals) (As := [.int (xs (i + 1)), .int (xs (i + 2))]) (rest := []) dL_law_1594 q1336 okX0_rivals clX0 rfl hC (by show d1 + 1 ≤ 400; omega) h1 rfl rfl (Nat.le_of_ble_eq_true rfl) ?_ (fun _ _ _ h => h.elim)
  rintro w1 σ1 ⟨v, rfl, hP⟩
  obtain ⟨⟨t2, f2, h2⟩, hM2⟩ := hM v σ1 hP
  refine w_st (st2 := [.int v]) rfl ?_
  refine w_aload_n dL_law_1597 rfl ?_
  refine w_aload_n dL_law_1598 rfl ?_
  refine w_iload_n dL_law_1599 rfl ?_
  refine w_iconst (v := nI 1) dL_law_1600 ki_1 ?_
  refine w_iaddN dL_law_1601 ?_
  refine w_sld hS dL_law_1602 (by omega) (by omega) ?_
  refine w_aload_n dL_law_1603 rfl ?_
  refine w_iload_n dL_law_1604 rfl ?_
  refine w_iconst (v := nI 2) dL_law_1605 ki_2 ?_
  refine w_iaddN dL_law_1606 ?_
  refine w_sld hS dL_law_1607 (by omega) (by omega) ?_
  refine w_callV (kc := kc) (ks := ks) (mc2 := 0) (ms2 := 0) (mi := miX8_rivals) (As := [.int (xs (i + 1)), .int (xs (i + 2))]) (rest := [.int v]) dL_law_1608 q2067 okX8_rivals clX8 rfl hM2 (by show d2 + 1 ≤ 400; omega) h2 rfl rfl (Nat.le_of_ble_eq_true rfl) ?_ (fun _ _ _ h => h.elim)
  rintro w2 σ2 ⟨rfl, j2⟩
  refine w_st (st2 := [.int v, .int v]) rfl ?_
  refine w_icmp_eq dL_law_1611 rfl (fun _ => kk σ2 j2) (fun h => absurd rfl h)
set_option maxHeartbeats 1000000 in
theorem law_c45 {kc ks i : Nat} {σ : PH} (hS : ScrG g b L xs) (hL : L ≤ 384) (hi : i + 6 ≤ L) (jj : JJ g ax bm σ) (kk : ∀ σ2, JJ g ax bm σ2 → Wp g (mtL (gz g) nm hh) kc ks 2076 [some (.ref b), some (.ref ax), some (.ref bm), some (.int (nI i))] [] σ2) : Wp g (mtL (gz g) nm hh) (kc + 9000) (ks + 112000) 1616 [some (.ref b), some (.ref ax), some (.ref bm), some (.int (nI i))] [] σ := by
  obtain ⟨d1, mc, ms, d2, P, q1, q2, q3, q4, ⟨t1, f1, h1⟩, hC, hM⟩ := pr_richest  jj
  refine w_bud (kc2 := kc + mc) (ks2 := ks + ms) (by omega) (by omega) ?_
  refine w_aload_n dL_law_1616 rfl ?_
  refine w_callV (kc := kc) (ks := ks) (mi := miX0_richest) (As := []) (rest := []) dL_law_1617 q1340 okX0_richest clX0 rfl hC (by show d1 + 1 ≤ 400; omega) h1 rfl rfl (Nat.le_of_ble_eq_true rfl) ?_ (fun _ _ _ h => h.elim)
  rintro w1 σ1 ⟨v, rfl, hP⟩
  obtain ⟨⟨t2, f2, h2⟩, hM2⟩ := hM v σ1 hP
  refine w_st (st2 := [.int v]) rfl ?_
  refine w_aload_n dL_law_1620 rfl ?_
  refine w_callV (kc := kc) (ks := ks) (mc2 := 0) (ms2 := 0) (mi := miX8_richest) (As := []) (rest := [.int v]) dL_law_1621 q2071 okX8_richest clX8 rfl hM2 (by show d2 + 1 ≤ 400; omega) h2 rfl rfl (Nat.le_of_ble_eq_true rfl) ?_ (fun _ _ _ h => h.elim)
  rintro w2 σ2 ⟨rfl, j2⟩
  refine w_st (st2 := [.int v, .int v]) rfl ?_
  refine w_icmp_eq dL_law_1624 rfl (fun _ => kk σ2 j2) (fun h => absurd rfl h)
set_option maxHeartbeats 1000000 in
theorem law_c46 {kc ks i : Nat} {σ : PH} (hS : ScrG g b L xs) (hL : L ≤ 384) (hi : i + 6 ≤ L) (jj : JJ g ax bm σ) (kk : ∀ σ2, JJ g ax bm σ2 → Wp g (mtL (gz g) nm hh) kc ks 2076 [some (.ref b), some (.ref ax), some (.ref bm), some (.int (nI i))] [] σ2) : Wp g (mtL (gz g) nm hh) (kc + 9000) (ks + 112000) 1629 [some (.ref b), some (.ref ax), some (.ref bm), some (.int (nI i))] [] σ := by
  obtain ⟨d1, mc, ms, d2, P, q1, q2, q3, q4, ⟨t1, f1, h1⟩, hC, hM⟩ := pr_left (x := (xs (i + 1))) jj
  refine w_bud (kc2 := kc + mc) (ks2 := ks + ms) (by omega) (by omega) ?_
  refine w_aload_n dL_law_1629 rfl ?_
  refine w_aload_n dL_law_1630 rfl ?_
  refine w_iload_n dL_law_1631 rfl ?_
  refine w_iconst (v := nI 1) dL_law_1632 ki_1 ?_
  refine w_iaddN dL_law_1633 ?_
  refine w_sld hS dL_law_1634 (by omega) (by omega) ?_
  refine w_callV (kc := kc) (ks := ks) (mi := miX0_left) (As := [.int (xs (i + 1))]) (rest := []) dL_law_1635 q1344 okX0_left clX0 rfl hC (by show d1 + 1 ≤ 400; omega) h1 rfl rfl (Nat.le_of_ble_eq_true rfl) ?_ (fun _ _ _ h => h.elim)
  rintro w1 σ1 ⟨v, rfl, hP⟩
  obtain ⟨⟨t2, f2, h2⟩, hM2⟩ := hM v σ1 hP
  refine w_st (st2 := [.int v]) rfl ?_
  refine w_aload_n dL_law_1638 rfl ?_
  refine w_aload_n dL_law_1639 rfl ?_
  refine w_iload_n dL_law_1640 rfl ?_
  refine w_iconst (v := nI 1) dL_law_1641 ki_1 ?_
  refine w_iaddN dL_law_1642 ?_
  refine w_sld hS dL_law_1643 (by omega) (by omega) ?_
  refine w_callV (kc := kc) (ks := ks) (mc2 := 0) (ms2 := 0) (mi := miX8_left) (As := [.int (xs (i + 1))]) (rest := [.int v]) dL_law_1644 q2075 okX8_left clX8 rfl hM2 (by show d2 + 1 ≤ 400; omega) h2 rfl rfl (Nat.le_of_ble_eq_true rfl) ?_ (fun _ _ _ h => h.elim)
  rintro w2 σ2 ⟨rfl, j2⟩
  refine w_st (st2 := [.int v, .int v]) rfl ?_
  refine w_icmp_eq dL_law_1647 rfl (fun _ => kk σ2 j2) (fun h => absurd rfl h)
set_option maxHeartbeats 1000000 in
theorem law_c47 {kc ks i : Nat} {σ : PH} (hS : ScrG g b L xs) (hL : L ≤ 384) (hi : i + 6 ≤ L) (jj : JJ g ax bm σ) (kk : ∀ σ2, JJ g ax bm σ2 → Wp g (mtL (gz g) nm hh) kc ks 2076 [some (.ref b), some (.ref ax), some (.ref bm), some (.int (nI i))] [] σ2) : Wp g (mtL (gz g) nm hh) (kc + 9000) (ks + 112000) 1652 [some (.ref b), some (.ref ax), some (.ref bm), some (.int (nI i))] [] σ := by
  obtain ⟨d1, mc, ms, d2, P, q1, q2, q3, q4, ⟨t1, f1, h1⟩, hC, hM⟩ := pr_tideIn (x := (xs (i + 1))) jj
  refine w_bud (kc2 := kc + mc) (ks2 := ks + ms) (by omega) (by omega) ?_
  refine w_aload_n dL_law_1652 rfl ?_
  refine w_aload_n dL_law_1653 rfl ?_
  refine w_iload_n dL_law_1654 rfl ?_
  refine w_iconst (v := nI 1) dL_law_1655 ki_1 ?_
  refine w_iaddN dL_law_1656 ?_
  refine w_sld hS dL_law_1657 (by omega) (by omega) ?_
  refine w_callV (kc := kc) (ks := ks) (mi := miX0_tideIn) (As := [.int (xs (i + 1))]) (rest := []) dL_law_1658 q1348 okX0_tideIn clX0 rfl hC (by show d1 + 1 ≤ 400; omega) h1 rfl rfl (Nat.le_of_ble_eq_true rfl) ?_ (fun _ _ _ h => h.elim)
  rintro w1 σ1 ⟨v, rfl, hP⟩
  obtain ⟨⟨t2, f2, h2⟩, hM2⟩ := hM v σ1 hP
  refine w_st (st2 := [.int v]) rfl ?_
  refine w_aload_n dL_law_1661 rfl ?_
  refine w_aload_n dL_law_1662 rfl ?_
  refine w_iload_n dL_law_1663 rfl ?_
  refine w_iconst (v := nI 1) dL_law_1664 ki_1 ?_
  refine w_iaddN dL_law_1665 ?_
  refine w_sld hS dL_law_1666 (by omega) (by omega) ?_
  refine w_callV (kc := kc) (ks := ks) (mc2 := 0) (ms2 := 0) (mi := miX8_tideIn) (As := [.int (xs (i + 1))]) (rest := [.int v]) dL_law_1667 q2087 okX8_tideIn clX8 rfl hM2 (by show d2 + 1 ≤ 400; omega) h2 rfl rfl (Nat.le_of_ble_eq_true rfl) ?_ (fun _ _ _ h => h.elim)
  rintro w2 σ2 ⟨rfl, j2⟩
  refine w_st (st2 := [.int v, .int v]) rfl ?_
  refine w_icmp_eq dL_law_1670 rfl (fun _ => kk σ2 j2) (fun h => absurd rfl h)
set_option maxHeartbeats 1000000 in
theorem law_c48 {kc ks i : Nat} {σ : PH} (hS : ScrG g b L xs) (hL : L ≤ 384) (hi : i + 6 ≤ L) (jj : JJ g ax bm σ) (kk : ∀ σ2, JJ g ax bm σ2 → Wp g (mtL (gz g) nm hh) kc ks 2076 [some (.ref b), some (.ref ax), some (.ref bm), some (.int (nI i))] [] σ2) : Wp g (mtL (gz g) nm hh) (kc + 9000) (ks + 112000) 1675 [some (.ref b), some (.ref ax), some (.ref bm), some (.int (nI i))] [] σ := by
  obtain ⟨d1, mc, ms, d2, P, q1, q2, q3, q4, ⟨t1, f1, h1⟩, hC, hM⟩ := pr_open  jj
  refine w_bud (kc2 := kc + mc) (ks2 := ks + ms) (by omega) (by omega) ?_
  refine w_aload_n dL_law_1675 rfl ?_
  refine w_callV (kc := kc) (ks := ks) (mi := miX0_open) (As := []) (rest := []) dL_law_1676 q1353 okX0_open clX0 rfl hC (by show d1 + 1 ≤ 400; omega) h1 rfl rfl (Nat.le_of_ble_eq_true rfl) ?_ (fun _ _ _ h => h.elim)
  rintro w1 σ1 ⟨v, rfl, hP⟩
  obtain ⟨⟨t2, f2, h2⟩, hM2⟩ := hM v σ1 hP
  refine w_st (st2 := [.int v]) rfl ?_
  refine w_aload_n dL_law_1679 rfl ?_
  refine w_callV (kc := kc) (ks := ks) (mc2 := 0) (ms2 := 0) (mi := miX8_open) (As := []) (rest := [.int v]) dL_law_1680 q2117 okX8_open clX8 rfl hM2 (by show d2 + 1 ≤ 400; omega) h2 rfl rfl (Nat.le_of_ble_eq_true rfl) ?_ (fun _ _ _ h => h.elim)
  rintro w2 σ2 ⟨rfl, j2⟩
  refine w_st (st2 := [.int v, .int v]) rfl ?_
  refine w_icmp_eq dL_law_1683 rfl (fun _ => kk σ2 j2) (fun h => absurd rfl h)
set_option maxHeartbeats 1000000 in
theorem law_c49 {kc ks i : Nat} {σ : PH} (hS : ScrG g b L xs) (hL : L ≤ 384) (hi : i + 6 ≤ L) (jj : JJ g ax bm σ) (kk : ∀ σ2, JJ g ax bm σ2 → Wp g (mtL (gz g) nm hh) kc ks 2076 [some (.ref b), some (.ref ax), some (.ref bm), some (.int (nI i))] [] σ2) : Wp g (mtL (gz g) nm hh) (kc + 9000) (ks + 112000) 1688 [some (.ref b), some (.ref ax), some (.ref bm), some (.int (nI i))] [] σ := by
  obtain ⟨d1, mc, ms, d2, P, q1, q2, q3, q4, ⟨t1, f1, h1⟩, hC, hM⟩ := pr_farthest (x := (xs (i + 1))) jj
  refine w_bud (kc2 := kc + mc) (ks2 := ks + ms) (by omega) (by omega) ?_
  refine w_aload_n dL_law_1688 rfl ?_
  refine w_aload_n dL_law_1689 rfl ?_
  refine w_iload_n dL_law_1690 rfl ?_
  refine w_iconst (v := nI 1) dL_law_1691 ki_1 ?_
  refine w_iaddN dL_law_1692 ?_
  refine w_sld hS dL_law_1693 (by omega) (by omega) ?_
  refine w_callV (kc := kc) (ks := ks) (mi := miX0_farthest) (As := [.int (xs (i + 1))]) (rest := []) dL_law_1694 q1357 okX0_farthest clX0 rfl hC (by show d1 + 1 ≤ 400; omega) h1 rfl rfl (Nat.le_of_ble_eq_true rfl) ?_ (fun _ _ _ h => h.elim)
  rintro w1 σ1 ⟨v, rfl, hP⟩
  obtain ⟨⟨t2, f2, h2⟩, hM2⟩ := hM v σ1 hP
  refine w_st (st2 := [.int v]) rfl ?_
  refine w_aload_n dL_law_1697 rfl ?_
  refine w_aload_n dL_law_1698 rfl ?_
  refine w_iload_n dL_law_1699 rfl ?_
  refine w_iconst (v := nI 1) dL_law_1700 ki_1 ?_
  refine w_iaddN dL_law_1701 ?_
  refine w_sld hS dL_law_1702 (by omega) (by omega) ?_
  refine w_callV (kc := kc) (ks := ks) (mc2 := 0) (ms2 := 0) (mi := miX8_farthest) (As := [.int (xs (i + 1))]) (rest := [.int v]) dL_law_1703 q2121 okX8_farthest clX8 rfl hM2 (by show d2 + 1 ≤ 400; omega) h2 rfl rfl (Nat.le_of_ble_eq_true rfl) ?_ (fun _ _ _ h => h.elim)
  rintro w2 σ2 ⟨rfl, j2⟩
  refine w_st (st2 := [.int v, .int v]) rfl ?_
  refine w_icmp_eq dL_law_1706 rfl (fun _ => kk σ2 j2) (fun h => absurd rfl h)
set_option maxHeartbeats 1000000 in
theorem law_c50 {kc ks i : Nat} {σ : PH} (hS : ScrG g b L xs) (hL : L ≤ 384) (hi : i + 6 ≤ L) (jj : JJ g ax bm σ) (kk : ∀ σ2, JJ g ax bm σ2 → Wp g (mtL (gz g) nm hh) kc ks 2076 [some (.ref b), some (.ref ax), some (.ref bm), some (.int (nI i))] [] σ2) : Wp g (mtL (gz g) nm hh) (kc + 9000) (ks + 112000) 1711 [some (.ref b), some (.ref ax), some (.ref bm), some (.int (nI i))] [] σ := by
  obtain ⟨d1, mc, ms, d2, P, q1, q2, q3, q4, ⟨t1, f1, h1⟩, hC, hM⟩ := pr_time (x := (xs (i + 1))) jj
  refine w_bud (kc2 := kc + mc) (ks2 := ks + ms) (by omega) (by omega) ?_
  refine w_aload_n dL_law_1711 rfl ?_
  refine w_aload_n dL_law_1712 rfl ?_
  refine w_iload_n dL_law_1713 rfl ?_
  refine w_iconst (v := nI 1) dL_law_1714 ki_1 ?_
  refine w_iaddN dL_law_1715 ?_
  refine w_sld hS dL_law_1716 (by omega) (by omega) ?_
  refine w_callV (kc := kc) (ks := ks) (mi := miX0_time) (As := [.int (xs (i + 1))]) (rest := []) dL_law_1717 q1365 okX0_time clX0 rfl hC (by show d1 + 1 ≤ 400; omega) h1 rfl rfl (Nat.le_of_ble_eq_true rfl) ?_ (fun _ _ _ h => h.elim)
  rintro w1 σ1 ⟨v, rfl, hP⟩
  obtain ⟨⟨t2, f2, h2⟩, hM2⟩ := hM v σ1 hP
  refine w_st (st2 := [.int v]) rfl ?_
  refine w_aload_n dL_law_1720 rfl ?_
  refine w_aload_n dL_law_1721 rfl ?_
  refine w_iload_n dL_law_1722 rfl ?_
  refine w_iconst (v := nI 1) dL_law_1723 ki_1 ?_
  refine w_iaddN dL_law_1724 ?_
  refine w_sld hS dL_law_1725 (by omega) (by omega) ?_
  refine w_callV (kc := kc) (ks := ks) (mc2 := 0) (ms2 := 0) (mi := miX8_time) (As := [.int (xs (i + 1))]) (rest := [.int v]) dL_law_1726 q2125 okX8_time clX8 rfl hM2 (by show d2 + 1 ≤ 400; omega) h2 rfl rfl (Nat.le_of_ble_eq_true rfl) ?_ (fun _ _ _ h => h.elim)
  rintro w2 σ2 ⟨rfl, j2⟩
  refine w_st (st2 := [.int v, .int v]) rfl ?_
  refine w_icmp_eq dL_law_1729 rfl (fun _ => kk σ2 j2) (fun h => absurd rfl h)
set_option maxHeartbeats 1000000 in
theorem law_c51 {kc ks i : Nat} {σ : PH} (hS : ScrG g b L xs) (hL : L ≤ 384) (hi : i + 6 ≤ L) (jj : JJ g ax bm σ) (kk : ∀ σ2, JJ g ax bm σ2 → Wp g (mtL (gz g) nm hh) kc ks 2076 [some (.ref b), some (.ref ax), some (.ref bm), some (.int (nI i))] [] σ2) : Wp g (mtL (gz g) nm hh) (kc + 9000) (ks + 112000) 1734 [some (.ref b), some (.ref ax), some (.ref bm), some (.int (nI i))] [] σ := by
  obtain ⟨d1, mc, ms, d2, P, q1, q2, q3, q4, ⟨t1, f1, h1⟩, hC, hM⟩ := pr_tally (x := (xs (i + 1))) (y := (xs (i + 2))) jj
  refine w_bud (kc2 := kc + mc) (ks2 := ks + ms) (by omega) (by omega) ?_
  refine w_aload_n dL_law_1734 rfl ?_
  refine w_aload_n dL_law_1735 rfl ?_
  refine w_iload_n dL_law_1736 rfl ?_
  refine w_iconst (v := nI 1) dL_law_1737 ki_1 ?_
  refine w_iaddN dL_law_1738 ?_
  refine w_sld hS dL_law_1739 (by omega) (by omega) ?_
  refine w_aload_n dL_law_1740 rfl ?_
  refine w_iload_n dL_law_1741 rfl ?_
  refine w_iconst (v := nI 2) dL_law_1742 ki_2 ?_
  refine w_iaddN dL_law_1743 ?_
  refine w_sld hS dL_law_1744 (by omega) (by omega) ?_
  refine w_callV (kc := kc) (ks := ks) (mi := miX0_tally) (As := [.int (xs (i + 1)), .int (xs (i + 2))]) (rest := []) dL_law_1745 q1369 okX0_tally clX0 rfl hC (by show d1 + 1 ≤ 400; omega) h1 rfl rfl (Nat.le_of_ble_eq_true rfl) ?_ (fun _ _ _ h => h.elim)
  rintro w1 σ1 ⟨v, rfl, hP⟩
  obtain ⟨⟨t2, f2, h2⟩, hM2⟩ := hM v σ1 hP
  refine w_st (st2 := [.int v]) rfl ?_
  refine w_aload_n dL_law_1748 rfl ?_
  refine w_aload_n dL_law_1749 rfl ?_
  refine w_iload_n dL_law_1750 rfl ?_
  refine w_iconst (v := nI 1) dL_law_1751 ki_1 ?_
  refine w_iaddN dL_law_1752 ?_
  refine w_sld hS dL_law_1753 (by omega) (by omega) ?_
  refine w_aload_n dL_law_1754 rfl ?_
  refine w_iload_n dL_law_1755 rfl ?_
  refine w_iconst (v := nI 2) dL_law_1756 ki_2 ?_
  refine w_iaddN dL_law_1757 ?_
  refine w_sld hS dL_law_1758 (by omega) (by omega) ?_
  refine w_callV (kc := kc) (ks := ks) (mc2 := 0) (ms2 := 0) (mi := miX8_tally) (As := [.int (xs (i + 1)), .int (xs (i + 2))]) (rest := [.int v]) dL_law_1759 q2129 okX8_tally clX8 rfl hM2 (by show d2 + 1 ≤ 400; omega) h2 rfl rfl (Nat.le_of_ble_eq_true rfl) ?_ (fun _ _ _ h => h.elim)
  rintro w2 σ2 ⟨rfl, j2⟩
  refine w_st (st2 := [.int v, .int v]) rfl ?_
  refine w_icmp_eq dL_law_1762 rfl (fun _ => kk σ2 j2) (fun h => absurd rfl h)
set_option maxHeartbeats 1000000 in
theorem law_c52 {kc ks i : Nat} {σ : PH} (hS : ScrG g b L xs) (hL : L ≤ 384) (hi : i + 6 ≤ L) (jj : JJ g ax bm σ) (kk : ∀ σ2, JJ g ax bm σ2 → Wp g (mtL (gz g) nm hh) kc ks 2076 [some (.ref b), some (.ref ax), some (.ref bm), some (.int (nI i))] [] σ2) : Wp g (mtL (gz g) nm hh) (kc + 9000) (ks + 112000) 1767 [some (.ref b), some (.ref ax), some (.ref bm), some (.int (nI i))] [] σ := by
  obtain ⟨d1, mc, ms, d2, P, q1, q2, q3, q4, ⟨t1, f1, h1⟩, hC, hM⟩ := pr_busiest  jj
  refine w_bud (kc2 := kc + mc) (ks2 := ks + ms) (by omega) (by omega) ?_
  refine w_aload_n dL_law_1767 rfl ?_
  refine w_callV (kc := kc) (ks := ks) (mi := miX0_busiest) (As := []) (rest := []) dL_law_1768 q1373 okX0_busiest clX0 rfl hC (by show d1 + 1 ≤ 400; omega) h1 rfl rfl (Nat.le_of_ble_eq_true rfl) ?_ (fun _ _ _ h => h.elim)
  rintro w1 σ1 ⟨v, rfl, hP⟩
  obtain ⟨⟨t2, f2, h2⟩, hM2⟩ := hM v σ1 hP
  refine w_st (st2 := [.int v]) rfl ?_
  refine w_aload_n dL_law_1771 rfl ?_
  refine w_callV (kc := kc) (ks := ks) (mc2 := 0) (ms2 := 0) (mi := miX8_busiest) (As := []) (rest := [.int v]) dL_law_1772 q2133 okX8_busiest clX8 rfl hM2 (by show d2 + 1 ≤ 400; omega) h2 rfl rfl (Nat.le_of_ble_eq_true rfl) ?_ (fun _ _ _ h => h.elim)
  rintro w2 σ2 ⟨rfl, j2⟩
  refine w_st (st2 := [.int v, .int v]) rfl ?_
  refine w_icmp_eq dL_law_1775 rfl (fun _ => kk σ2 j2) (fun h => absurd rfl h)
set_option maxHeartbeats 1000000 in
theorem law_c53 {kc ks i : Nat} {σ : PH} (hS : ScrG g b L xs) (hL : L ≤ 384) (hi : i + 6 ≤ L) (jj : JJ g ax bm σ) (kk : ∀ σ2, JJ g ax bm σ2 → Wp g (mtL (gz g) nm hh) kc ks 2076 [some (.ref b), some (.ref ax), some (.ref bm), some (.int (nI i))] [] σ2) : Wp g (mtL (gz g) nm hh) (kc + 9000) (ks + 112000) 1780 [some (.ref b), some (.ref ax), some (.ref bm), some (.int (nI i))] [] σ := by
  obtain ⟨d1, mc, ms, d2, P, q1, q2, q3, q4, ⟨t1, f1, h1⟩, hC, hM⟩ := pr_both (x := (xs (i + 1))) (y := (xs (i + 2))) (z := (xs (i + 3))) jj
  refine w_bud (kc2 := kc + mc) (ks2 := ks + ms) (by omega) (by omega) ?_
  refine w_aload_n dL_law_1780 rfl ?_
  refine w_aload_n dL_law_1781 rfl ?_
  refine w_iload_n dL_law_1782 rfl ?_
  refine w_iconst (v := nI 1) dL_law_1783 ki_1 ?_
  refine w_iaddN dL_law_1784 ?_
  refine w_sld hS dL_law_1785 (by omega) (by omega) ?_
  refine w_aload_n dL_law_1786 rfl ?_
  refine w_iload_n dL_law_1787 rfl ?_
  refine w_iconst (v := nI 2) dL_law_1788 ki_2 ?_
  refine w_iaddN dL_law_1789 ?_
  refine w_sld hS dL_law_1790 (by omega) (by omega) ?_
  refine w_aload_n dL_law_1791 rfl ?_
  refine w_iload_n dL_law_1792 rfl ?_
  refine w_iconst (v := nI 3) dL_law_1793 ki_3 ?_
  refine w_iaddN dL_law_1794 ?_
  refine w_sld hS dL_law_1795 (by omega) (by omega) ?_
  refine w_callV (kc := kc) (ks := ks) (mi := miX0_both) (As := [.int (xs (i + 1)), .int (xs (i + 2)), .int (xs (i + 3))]) (rest := []) dL_law_1796 q1381 okX0_both clX0 rfl hC (by show d1 + 1 ≤ 400; omega) h1 rfl rfl (Nat.le_of_ble_eq_true rfl) ?_ (fun _ _ _ h => h.elim)
  rintro w1 σ1 ⟨v, rfl, hP⟩
  obtain ⟨⟨t2, f2, h2⟩, hM2⟩ := hM v σ1 hP
  refine w_st (st2 := [.int v]) rfl ?_
  refine w_aload_n dL_law_1799 rfl ?_
  refine w_aload_n dL_law_1800 rfl ?_
  refine w_iload_n dL_law_1801 rfl ?_
  refine w_iconst (v := nI 1) dL_law_1802 ki_1 ?_
  refine w_iaddN dL_law_1803 ?_
  refine w_sld hS dL_law_1804 (by omega) (by omega) ?_
  refine w_aload_n dL_law_1805 rfl ?_
  refine w_iload_n dL_law_1806 rfl ?_
  refine w_iconst (v := nI 2) dL_law_1807 ki_2 ?_
  refine w_iaddN dL_law_1808 ?_
  refine w_sld hS dL_law_1809 (by omega) (by omega) ?_
  refine w_aload_n dL_law_1810 rfl ?_
  refine w_iload_n dL_law_1811 rfl ?_
  refine w_iconst (v := nI 3) dL_law_1812 ki_3 ?_
  refine w_iaddN dL_law_1813 ?_
  refine w_sld hS dL_law_1814 (by omega) (by omega) ?_
  refine w_callV (kc := kc) (ks := ks) (mc2 := 0) (ms2 := 0) (mi := miX8_both) (As := [.int (xs (i + 1)), .int (xs (i + 2)), .int (xs (i + 3))]) (rest := [.int v]) dL_law_1815 q2137 okX8_both clX8 rfl hM2 (by show d2 + 1 ≤ 400; omega) h2 rfl rfl (Nat.le_of_ble_eq_true rfl) ?_ (fun _ _ _ h => h.elim)
  rintro w2 σ2 ⟨rfl, j2⟩
  refine w_st (st2 := [.int v, .int v]) rfl ?_
  refine w_icmp_eq dL_law_1818 rfl (fun _ => kk σ2 j2) (fun h => absurd rfl h)
set_option maxHeartbeats 1000000 in
theorem law_c54 {kc ks i : Nat} {σ : PH} (hS : ScrG g b L xs) (hL : L ≤ 384) (hi : i + 6 ≤ L) (jj : JJ g ax bm σ) (kk : ∀ σ2, JJ g ax bm σ2 → Wp g (mtL (gz g) nm hh) kc ks 2076 [some (.ref b), some (.ref ax), some (.ref bm), some (.int (nI i))] [] σ2) : Wp g (mtL (gz g) nm hh) (kc + 9000) (ks + 112000) 1823 [some (.ref b), some (.ref ax), some (.ref bm), some (.int (nI i))] [] σ := by
  obtain ⟨d1, mc, ms, d2, P, q1, q2, q3, q4, ⟨t1, f1, h1⟩, hC, hM⟩ := pr_latest  jj
  refine w_bud (kc2 := kc + mc) (ks2 := ks + ms) (by omega) (by omega) ?_
  refine w_aload_n dL_law_1823 rfl ?_
  refine w_callV (kc := kc) (ks := ks) (mi := miX0_latest) (As := []) (rest := []) dL_law_1824 q1385 okX0_latest clX0 rfl hC (by show d1 + 1 ≤ 400; omega) h1 rfl rfl (Nat.le_of_ble_eq_true rfl) ?_ (fun _ _ _ h => h.elim)
  rintro w1 σ1 ⟨v, rfl, hP⟩
  obtain ⟨⟨t2, f2, h2⟩, hM2⟩ := hM v σ1 hP
  refine w_st (st2 := [.int v]) rfl ?_
  refine w_aload_n dL_law_1827 rfl ?_
  refine w_callV (kc := kc) (ks := ks) (mc2 := 0) (ms2 := 0) (mi := miX8_latest) (As := []) (rest := [.int v]) dL_law_1828 q2093 okX8_latest clX8 rfl hM2 (by show d2 + 1 ≤ 400; omega) h2 rfl rfl (Nat.le_of_ble_eq_true rfl) ?_ (fun _ _ _ h => h.elim)
  rintro w2 σ2 ⟨rfl, j2⟩
  refine w_st (st2 := [.int v, .int v]) rfl ?_
  refine w_icmp_eq dL_law_1831 rfl (fun _ => kk σ2 j2) (fun h => absurd rfl h)
set_option maxHeartbeats 1000000 in
theorem law_c55 {kc ks i : Nat} {σ : PH} (hS : ScrG g b L xs) (hL : L ≤ 384) (hi : i + 6 ≤ L) (jj : JJ g ax bm σ) (kk : ∀ σ2, JJ g ax bm σ2 → Wp g (mtL (gz g) nm hh) kc ks 2076 [some (.ref b), some (.ref ax), some (.ref bm), some (.int (nI i))] [] σ2) : Wp g (mtL (gz g) nm hh) (kc + 9000) (ks + 112000) 1836 [some (.ref b), some (.ref ax), some (.ref bm), some (.int (nI i))] [] σ := by
  obtain ⟨d1, mc, ms, d2, P, q1, q2, q3, q4, ⟨t1, f1, h1⟩, hC, hM⟩ := pr_behind (x := (xs (i + 1))) jj
  refine w_bud (kc2 := kc + mc) (ks2 := ks + ms) (by omega) (by omega) ?_
  refine w_aload_n dL_law_1836 rfl ?_
  refine w_aload_n dL_law_1837 rfl ?_
  refine w_iload_n dL_law_1838 rfl ?_
  refine w_iconst (v := nI 1) dL_law_1839 ki_1 ?_
  refine w_iaddN dL_law_1840 ?_
  refine w_sld hS dL_law_1841 (by omega) (by omega) ?_
  refine w_callV (kc := kc) (ks := ks) (mi := miX0_behind) (As := [.int (xs (i + 1))]) (rest := []) dL_law_1842 q1389 okX0_behind clX0 rfl hC (by show d1 + 1 ≤ 400; omega) h1 rfl rfl (Nat.le_of_ble_eq_true rfl) ?_ (fun _ _ _ h => h.elim)
  rintro w1 σ1 ⟨v, rfl, hP⟩
  obtain ⟨⟨t2, f2, h2⟩, hM2⟩ := hM v σ1 hP
  refine w_st (st2 := [.int v]) rfl ?_
  refine w_aload_n dL_law_1845 rfl ?_
  refine w_aload_n dL_law_1846 rfl ?_
  refine w_iload_n dL_law_1847 rfl ?_
  refine w_iconst (v := nI 1) dL_law_1848 ki_1 ?_
  refine w_iaddN dL_law_1849 ?_
  refine w_sld hS dL_law_1850 (by omega) (by omega) ?_
  refine w_callV (kc := kc) (ks := ks) (mc2 := 0) (ms2 := 0) (mi := miX8_behind) (As := [.int (xs (i + 1))]) (rest := [.int v]) dL_law_1851 q2097 okX8_behind clX8 rfl hM2 (by show d2 + 1 ≤ 400; omega) h2 rfl rfl (Nat.le_of_ble_eq_true rfl) ?_ (fun _ _ _ h => h.elim)
  rintro w2 σ2 ⟨rfl, j2⟩
  refine w_st (st2 := [.int v, .int v]) rfl ?_
  refine w_icmp_eq dL_law_1854 rfl (fun _ => kk σ2 j2) (fun h => absurd rfl h)
set_option maxHeartbeats 1000000 in
theorem law_c56 {kc ks i : Nat} {σ : PH} (hS : ScrG g b L xs) (hL : L ≤ 384) (hi : i + 6 ≤ L) (jj : JJ g ax bm σ) (kk : ∀ σ2, JJ g ax bm σ2 → Wp g (mtL (gz g) nm hh) kc ks 2076 [some (.ref b), some (.ref ax), some (.ref bm), some (.int (nI i))] [] σ2) : Wp g (mtL (gz g) nm hh) (kc + 9000) (ks + 112000) 1859 [some (.ref b), some (.ref ax), some (.ref bm), some (.int (nI i))] [] σ := by
  obtain ⟨d1, mc, ms, d2, P, q1, q2, q3, q4, ⟨t1, f1, h1⟩, hC, hM⟩ := pr_alone  jj
  refine w_bud (kc2 := kc + mc) (ks2 := ks + ms) (by omega) (by omega) ?_
  refine w_aload_n dL_law_1859 rfl ?_
  refine w_callV (kc := kc) (ks := ks) (mi := miX0_alone) (As := []) (rest := []) dL_law_1860 q1393 okX0_alone clX0 rfl hC (by show d1 + 1 ≤ 400; omega) h1 rfl rfl (Nat.le_of_ble_eq_true rfl) ?_ (fun _ _ _ h => h.elim)
  rintro w1 σ1 ⟨v, rfl, hP⟩
  obtain ⟨⟨t2, f2, h2⟩, hM2⟩ := hM v σ1 hP
  refine w_st (st2 := [.int v]) rfl ?_
  refine w_aload_n dL_law_1863 rfl ?_
  refine w_callV (kc := kc) (ks := ks) (mc2 := 0) (ms2 := 0) (mi := miX8_alone) (As := []) (rest := [.int v]) dL_law_1864 q2101 okX8_alone clX8 rfl hM2 (by show d2 + 1 ≤ 400; omega) h2 rfl rfl (Nat.le_of_ble_eq_true rfl) ?_ (fun _ _ _ h => h.elim)
  rintro w2 σ2 ⟨rfl, j2⟩
  refine w_st (st2 := [.int v, .int v]) rfl ?_
  refine w_icmp_eq dL_law_1867 rfl (fun _ => kk σ2 j2) (fun h => absurd rfl h)
set_option maxHeartbeats 1000000 in
theorem law_c57 {kc ks i : Nat} {σ : PH} (hS : ScrG g b L xs) (hL : L ≤ 384) (hi : i + 6 ≤ L) (jj : JJ g ax bm σ) (kk : ∀ σ2, JJ g ax bm σ2 → Wp g (mtL (gz g) nm hh) kc ks 2076 [some (.ref b), some (.ref ax), some (.ref bm), some (.int (nI i))] [] σ2) : Wp g (mtL (gz g) nm hh) (kc + 9000) (ks + 112000) 1872 [some (.ref b), some (.ref ax), some (.ref bm), some (.int (nI i))] [] σ := by
  obtain ⟨d1, mc, ms, d2, P, q1, q2, q3, q4, ⟨t1, f1, h1⟩, hC, hM⟩ := pr_part (x := (xs (i + 1))) (y := (xs (i + 2))) jj
  refine w_bud (kc2 := kc + mc) (ks2 := ks + ms) (by omega) (by omega) ?_
  refine w_aload_n dL_law_1872 rfl ?_
  refine w_aload_n dL_law_1873 rfl ?_
  refine w_iload_n dL_law_1874 rfl ?_
  refine w_iconst (v := nI 1) dL_law_1875 ki_1 ?_
  refine w_iaddN dL_law_1876 ?_
  refine w_sld hS dL_law_1877 (by omega) (by omega) ?_
  refine w_aload_n dL_law_1878 rfl ?_
  refine w_iload_n dL_law_1879 rfl ?_
  refine w_iconst (v := nI 2) dL_law_1880 ki_2 ?_
  refine w_iaddN dL_law_1881 ?_
  refine w_sld hS dL_law_1882 (by omega) (by omega) ?_
  refine w_callV (kc := kc) (ks := ks) (mi := miX0_part) (As := [.int (xs (i + 1)), .int (xs (i + 2))]) (rest := []) dL_law_1883 q1397 okX0_part clX0 rfl hC (by show d1 + 1 ≤ 400; omega) h1 rfl rfl (Nat.le_of_ble_eq_true rfl) ?_ (fun _ _ _ h => h.elim)
  rintro w1 σ1 ⟨v, rfl, hP⟩
  obtain ⟨⟨t2, f2, h2⟩, hM2⟩ := hM v σ1 hP
  refine w_st (st2 := [.int v]) rfl ?_
  refine w_aload_n dL_law_1886 rfl ?_
  refine w_aload_n dL_law_1887 rfl ?_
  refine w_iload_n dL_law_1888 rfl ?_
  refine w_iconst (v := nI 1) dL_law_1889 ki_1 ?_
  refine w_iaddN dL_law_1890 ?_
  refine w_sld hS dL_law_1891 (by omega) (by omega) ?_
  refine w_aload_n dL_law_1892 rfl ?_
  refine w_iload_n dL_law_1893 rfl ?_
  refine w_iconst (v := nI 2) dL_law_1894 ki_2 ?_
  refine w_iaddN dL_law_1895 ?_
  refine w_sld hS dL_law_1896 (by omega) (by omega) ?_
  refine w_callV (kc := kc) (ks := ks) (mc2 := 0) (ms2 := 0) (mi := miX8_part) (As := [.int (xs (i + 1)), .int (xs (i + 2))]) (rest := [.int v]) dL_law_1897 q2105 okX8_part clX8 rfl hM2 (by show d2 + 1 ≤ 400; omega) h2 rfl rfl (Nat.le_of_ble_eq_true rfl) ?_ (fun _ _ _ h => h.elim)
  rintro w2 σ2 ⟨rfl, j2⟩
  refine w_st (st2 := [.int v, .int v]) rfl ?_
  refine w_icmp_eq dL_law_1900 rfl (fun _ => kk σ2 j2) (fun h => absurd rfl h)
set_option maxHeartbeats 1000000 in
theorem law_c58 {kc ks i : Nat} {σ : PH} (hS : ScrG g b L xs) (hL : L ≤ 384) (hi : i + 6 ≤ L) (jj : JJ g ax bm σ) (kk : ∀ σ2, JJ g ax bm σ2 → Wp g (mtL (gz g) nm hh) kc ks 2076 [some (.ref b), some (.ref ax), some (.ref bm), some (.int (nI i))] [] σ2) : Wp g (mtL (gz g) nm hh) (kc + 9000) (ks + 112000) 1905 [some (.ref b), some (.ref ax), some (.ref bm), some (.int (nI i))] [] σ := by
  obtain ⟨d1, mc, ms, d2, P, q1, q2, q3, q4, ⟨t1, f1, h1⟩, hC, hM⟩ := pr_crowd (x := (xs (i + 1))) jj
  refine w_bud (kc2 := kc + mc) (ks2 := ks + ms) (by omega) (by omega) ?_
  refine w_aload_n dL_law_1905 rfl ?_
  refine w_aload_n dL_law_1906 rfl ?_
  refine w_iload_n dL_law_1907 rfl ?_
  refine w_iconst (v := nI 1) dL_law_1908 ki_1 ?_
  refine w_iaddN dL_law_1909 ?_
  refine w_sld hS dL_law_1910 (by omega) (by omega) ?_
  refine w_callV (kc := kc) (ks := ks) (mi := miX0_crowd) (As := [.int (xs (i + 1))]) (rest := []) dL_law_1911 q1401 okX0_crowd clX0 rfl hC (by show d1 + 1 ≤ 400; omega) h1 rfl rfl (Nat.le_of_ble_eq_true rfl) ?_ (fun _ _ _ h => h.elim)
  rintro w1 σ1 ⟨v, rfl, hP⟩
  obtain ⟨⟨t2, f2, h2⟩, hM2⟩ := hM v σ1 hP
  refine w_st (st2 := [.int v]) rfl ?_
  refine w_aload_n dL_law_1914 rfl ?_
  refine w_aload_n dL_law_1915 rfl ?_
  refine w_iload_n dL_law_1916 rfl ?_
  refine w_iconst (v := nI 1) dL_law_1917 ki_1 ?_
  refine w_iaddN dL_law_1918 ?_
  refine w_sld hS dL_law_1919 (by omega) (by omega) ?_
  refine w_callV (kc := kc) (ks := ks) (mc2 := 0) (ms2 := 0) (mi := miX8_crowd) (As := [.int (xs (i + 1))]) (rest := [.int v]) dL_law_1920 q2109 okX8_crowd clX8 rfl hM2 (by show d2 + 1 ≤ 400; omega) h2 rfl rfl (Nat.le_of_ble_eq_true rfl) ?_ (fun _ _ _ h => h.elim)
  rintro w2 σ2 ⟨rfl, j2⟩
  refine w_st (st2 := [.int v, .int v]) rfl ?_
  refine w_icmp_eq dL_law_1923 rfl (fun _ => kk σ2 j2) (fun h => absurd rfl h)
set_option maxHeartbeats 1000000 in
theorem law_c59 {kc ks i : Nat} {σ : PH} (hS : ScrG g b L xs) (hL : L ≤ 384) (hi : i + 6 ≤ L) (jj : JJ g ax bm σ) (kk : ∀ σ2, JJ g ax bm σ2 → Wp g (mtL (gz g) nm hh) kc ks 2076 [some (.ref b), some (.ref ax), some (.ref bm), some (.int (nI i))] [] σ2) : Wp g (mtL (gz g) nm hh) (kc + 9000) (ks + 112000) 1928 [some (.ref b), some (.ref ax), some (.ref bm), some (.int (nI i))] [] σ := by
  obtain ⟨d1, mc, ms, d2, P, q1, q2, q3, q4, ⟨t1, f1, h1⟩, hC, hM⟩ := pr_lies (x := (xs (i + 1))) (y := (xs (i + 2))) jj
  refine w_bud (kc2 := kc + mc) (ks2 := ks + ms) (by omega) (by omega) ?_
  refine w_aload_n dL_law_1928 rfl ?_
  refine w_aload_n dL_law_1929 rfl ?_
  refine w_iload_n dL_law_1930 rfl ?_
  refine w_iconst (v := nI 1) dL_law_1931 ki_1 ?_
  refine w_iaddN dL_law_1932 ?_
  refine w_sld hS dL_law_1933 (by omega) (by omega) ?_
  refine w_aload_n dL_law_1934 rfl ?_
  refine w_iload_n dL_law_1935 rfl ?_
  refine w_iconst (v := nI 2) dL_law_1936 ki_2 ?_
  refine w_iaddN dL_law_1937 ?_
  refine w_sld hS dL_law_1938 (by omega) (by omega) ?_
  refine w_callV (kc := kc) (ks := ks) (mi := miX0_lies) (As := [.int (xs (i + 1)), .int (xs (i + 2))]) (rest := []) dL_law_1939 q1405 okX0_lies clX0 rfl hC (by show d1 + 1 ≤ 400; omega) h1 rfl rfl (Nat.le_of_ble_eq_true rfl) ?_ (fun _ _ _ h => h.elim)
  rintro w1 σ1 ⟨v, rfl, hP⟩
  obtain ⟨⟨t2, f2, h2⟩, hM2⟩ := hM v σ1 hP
  refine w_st (st2 := [.int v]) rfl ?_
  refine w_aload_n dL_law_1942 rfl ?_
  refine w_aload_n dL_law_1943 rfl ?_
  refine w_iload_n dL_law_1944 rfl ?_
  refine w_iconst (v := nI 1) dL_law_1945 ki_1 ?_
  refine w_iaddN dL_law_1946 ?_
  refine w_sld hS dL_law_1947 (by omega) (by omega) ?_
  refine w_aload_n dL_law_1948 rfl ?_
  refine w_iload_n dL_law_1949 rfl ?_
  refine w_iconst (v := nI 2) dL_law_1950 ki_2 ?_
  refine w_iaddN dL_law_1951 ?_
  refine w_sld hS dL_law_1952 (by omega) (by omega) ?_
  refine w_callV (kc := kc) (ks := ks) (mc2 := 0) (ms2 := 0) (mi := miX8_lies) (As := [.int (xs (i + 1)), .int (xs (i + 2))]) (rest := [.int v]) dL_law_1953 q2063 okX8_lies clX8 rfl hM2 (by show d2 + 1 ≤ 400; omega) h2 rfl rfl (Nat.le_of_ble_eq_true rfl) ?_ (fun _ _ _ h => h.elim)
  rintro w2 σ2 ⟨rfl, j2⟩
  refine w_st (st2 := [.int v, .int v]) rfl ?_
  refine w_icmp_eq dL_law_1956 rfl (fun _ => kk σ2 j2) (fun h => absurd rfl h)
set_option maxHeartbeats 1000000 in
theorem law_c60 {kc ks i : Nat} {σ : PH} (hS : ScrG g b L xs) (hL : L ≤ 384) (hi : i + 6 ≤ L) (jj : JJ g ax bm σ) (kk : ∀ σ2, JJ g ax bm σ2 → Wp g (mtL (gz g) nm hh) kc ks 2076 [some (.ref b), some (.ref ax), some (.ref bm), some (.int (nI i))] [] σ2) : Wp g (mtL (gz g) nm hh) (kc + 9000) (ks + 112000) 1961 [some (.ref b), some (.ref ax), some (.ref bm), some (.int (nI i))] [] σ := by
  obtain ⟨d1, mc, ms, d2, P, q1, q2, q3, q4, ⟨t1, f1, h1⟩, hC, hM⟩ := pr_live (x := (xs (i + 1))) jj
  refine w_bud (kc2 := kc + mc) (ks2 := ks + ms) (by omega) (by omega) ?_
  refine w_aload_n dL_law_1961 rfl ?_
  refine w_aload_n dL_law_1962 rfl ?_
  refine w_iload_n dL_law_1963 rfl ?_
  refine w_iconst (v := nI 1) dL_law_1964 ki_1 ?_
  refine w_iaddN dL_law_1965 ?_
  refine w_sld hS dL_law_1966 (by omega) (by omega) ?_
  refine w_callV (kc := kc) (ks := ks) (mi := miX0_live) (As := [.int (xs (i + 1))]) (rest := []) dL_law_1967 q1409 okX0_live clX0 rfl hC (by show d1 + 1 ≤ 400; omega) h1 rfl rfl (Nat.le_of_ble_eq_true rfl) ?_ (fun _ _ _ h => h.elim)
  rintro w1 σ1 ⟨v, rfl, hP⟩
  obtain ⟨⟨t2, f2, h2⟩, hM2⟩ := hM v σ1 hP
  refine w_st (st2 := [.int v]) rfl ?_
  refine w_aload_n dL_law_1970 rfl ?_
  refine w_aload_n dL_law_1971 rfl ?_
  refine w_iload_n dL_law_1972 rfl ?_
  refine w_iconst (v := nI 1) dL_law_1973 ki_1 ?_
  refine w_iaddN dL_law_1974 ?_
  refine w_sld hS dL_law_1975 (by omega) (by omega) ?_
  refine w_callV (kc := kc) (ks := ks) (mc2 := 0) (ms2 := 0) (mi := miX8_live) (As := [.int (xs (i + 1))]) (rest := [.int v]) dL_law_1976 q2239 okX8_live clX8 rfl hM2 (by show d2 + 1 ≤ 400; omega) h2 rfl rfl (Nat.le_of_ble_eq_true rfl) ?_ (fun _ _ _ h => h.elim)
  rintro w2 σ2 ⟨rfl, j2⟩
  refine w_st (st2 := [.int v, .int v]) rfl ?_
  refine w_icmp_eq dL_law_1979 rfl (fun _ => kk σ2 j2) (fun h => absurd rfl h)
set_option maxHeartbeats 1000000 in
theorem law_c61 {kc ks i : Nat} {σ : PH} (hS : ScrG g b L xs) (hL : L ≤ 384) (hi : i + 6 ≤ L) (jj : JJ g ax bm σ) (kk : ∀ σ2, JJ g ax bm σ2 → Wp g (mtL (gz g) nm hh) kc ks 2076 [some (.ref b), some (.ref ax), some (.ref bm), some (.int (nI i))] [] σ2) : Wp g (mtL (gz g) nm hh) (kc + 9000) (ks + 112000) 1984 [some (.ref b), some (.ref ax), some (.ref bm), some (.int (nI i))] [] σ := by
  obtain ⟨d1, mc, ms, d2, P, q1, q2, q3, q4, ⟨t1, f1, h1⟩, hC, hM⟩ := pr_lived (x := (xs (i + 1))) jj
  refine w_bud (kc2 := kc + mc) (ks2 := ks + ms) (by omega) (by omega) ?_
  refine w_aload_n dL_law_1984 rfl ?_
  refine w_aload_n dL_law_1985 rfl ?_
  refine w_iload_n dL_law_1986 rfl ?_
  refine w_iconst (v := nI 1) dL_law_1987 ki_1 ?_
  refine w_iaddN dL_law_1988 ?_
  refine w_sld hS dL_law_1989 (by omega) (by omega) ?_
  refine w_callV (kc := kc) (ks := ks) (mi := miX0_lived) (As := [.int (xs (i + 1))]) (rest := []) dL_law_1990 q1520 okX0_lived clX0 rfl hC (by show d1 + 1 ≤ 400; omega) h1 rfl rfl (Nat.le_of_ble_eq_true rfl) ?_ (fun _ _ _ h => h.elim)
  rintro w1 σ1 ⟨v, rfl, hP⟩
  obtain ⟨⟨t2, f2, h2⟩, hM2⟩ := hM v σ1 hP
  refine w_st (st2 := [.int v]) rfl ?_
  refine w_aload_n dL_law_1993 rfl ?_
  refine w_aload_n dL_law_1994 rfl ?_
  refine w_iload_n dL_law_1995 rfl ?_
  refine w_iconst (v := nI 1) dL_law_1996 ki_1 ?_
  refine w_iaddN dL_law_1997 ?_
  refine w_sld hS dL_law_1998 (by omega) (by omega) ?_
  refine w_callV (kc := kc) (ks := ks) (mc2 := 0) (ms2 := 0) (mi := miX8_lived) (As := [.int (xs (i + 1))]) (rest := [.int v]) dL_law_1999 q2269 okX8_lived clX8 rfl hM2 (by show d2 + 1 ≤ 400; omega) h2 rfl rfl (Nat.le_of_ble_eq_true rfl) ?_ (fun _ _ _ h => h.elim)
  rintro w2 σ2 ⟨rfl, j2⟩
  refine w_st (st2 := [.int v, .int v]) rfl ?_
  refine w_icmp_eq dL_law_2002 rfl (fun _ => kk σ2 j2) (fun h => absurd rfl h)
set_option maxHeartbeats 1000000 in
theorem law_c62 {kc ks i : Nat} {σ : PH} (hS : ScrG g b L xs) (hL : L ≤ 384) (hi : i + 6 ≤ L) (jj : JJ g ax bm σ) (kk : ∀ σ2, JJ g ax bm σ2 → Wp g (mtL (gz g) nm hh) kc ks 2076 [some (.ref b), some (.ref ax), some (.ref bm), some (.int (nI i))] [] σ2) : Wp g (mtL (gz g) nm hh) (kc + 9000) (ks + 112000) 2007 [some (.ref b), some (.ref ax), some (.ref bm), some (.int (nI i))] [] σ := by
  obtain ⟨d1, mc, ms, d2, P, q1, q2, q3, q4, ⟨t1, f1, h1⟩, hC, hM⟩ := pr_mean (x := (xs (i + 1))) (y := (xs (i + 2))) (z := (xs (i + 3))) jj
  refine w_bud (kc2 := kc + mc) (ks2 := ks + ms) (by omega) (by omega) ?_
  refine w_aload_n dL_law_2007 rfl ?_
  refine w_aload_n dL_law_2008 rfl ?_
  refine w_iload_n dL_law_2009 rfl ?_
  refine w_iconst (v := nI 1) dL_law_2010 ki_1 ?_
  refine w_iaddN dL_law_2011 ?_
  refine w_sld hS dL_law_2012 (by omega) (by omega) ?_
  refine w_aload_n dL_law_2013 rfl ?_
  refine w_iload_n dL_law_2014 rfl ?_
  refine w_iconst (v := nI 2) dL_law_2015 ki_2 ?_
  refine w_iaddN dL_law_2016 ?_
  refine w_sld hS dL_law_2017 (by omega) (by omega) ?_
  refine w_aload_n dL_law_2018 rfl ?_
  refine w_iload_n dL_law_2019 rfl ?_
  refine w_iconst (v := nI 3) dL_law_2020 ki_3 ?_
  refine w_iaddN dL_law_2021 ?_
  refine w_sld hS dL_law_2022 (by omega) (by omega) ?_
  refine w_callV (kc := kc) (ks := ks) (mi := miX0_mean) (As := [.int (xs (i + 1)), .int (xs (i + 2)), .int (xs (i + 3))]) (rest := []) dL_law_2023 q1524 okX0_mean clX0 rfl hC (by show d1 + 1 ≤ 400; omega) h1 rfl rfl (Nat.le_of_ble_eq_true rfl) ?_ (fun _ _ _ h => h.elim)
  rintro w1 σ1 ⟨v, rfl, hP⟩
  obtain ⟨⟨t2, f2, h2⟩, hM2⟩ := hM v σ1 hP
  refine w_st (st2 := [.int v]) rfl ?_
  refine w_aload_n dL_law_2026 rfl ?_
  refine w_aload_n dL_law_2027 rfl ?_
  refine w_iload_n dL_law_2028 rfl ?_
  refine w_iconst (v := nI 1) dL_law_2029 ki_1 ?_
  refine w_iaddN dL_law_2030 ?_
  refine w_sld hS dL_law_2031 (by omega) (by omega) ?_
  refine w_aload_n dL_law_2032 rfl ?_
  refine w_iload_n dL_law_2033 rfl ?_
  refine w_iconst (v := nI 2) dL_law_2034 ki_2 ?_
  refine w_iaddN dL_law_2035 ?_
  refine w_sld hS dL_law_2036 (by omega) (by omega) ?_
  refine w_aload_n dL_law_2037 rfl ?_
  refine w_iload_n dL_law_2038 rfl ?_
  refine w_iconst (v := nI 3) dL_law_2039 ki_3 ?_
  refine w_iaddN dL_law_2040 ?_
  refine w_sld hS dL_law_2041 (by omega) (by omega) ?_
  refine w_callV (kc := kc) (ks := ks) (mc2 := 0) (ms2 := 0) (mi := miX8_mean) (As := [.int (xs (i + 1)), .int (xs (i + 2)), .int (xs (i + 3))]) (rest := [.int v]) dL_law_2042 q2273 okX8_mean clX8 rfl hM2 (by show d2 + 1 ≤ 400; omega) h2 rfl rfl (Nat.le_of_ble_eq_true rfl) ?_ (fun _ _ _ h => h.elim)
  rintro w2 σ2 ⟨rfl, j2⟩
  refine w_st (st2 := [.int v, .int v]) rfl ?_
  refine w_icmp_eq dL_law_2045 rfl (fun _ => kk σ2 j2) (fun h => absurd rfl h)
set_option maxHeartbeats 1000000 in
theorem law_c63 {kc ks i : Nat} {σ : PH} (hS : ScrG g b L xs) (hL : L ≤ 384) (hi : i + 6 ≤ L) (jj : JJ g ax bm σ) (kk : ∀ σ2, JJ g ax bm σ2 → Wp g (mtL (gz g) nm hh) kc ks 2076 [some (.ref b), some (.ref ax), some (.ref bm), some (.int (nI i))] [] σ2) : Wp g (mtL (gz g) nm hh) (kc + 9000) (ks + 112000) 2050 [some (.ref b), some (.ref ax), some (.ref bm), some (.int (nI i))] [] σ := by
  obtain ⟨d1, mc, ms, d2, P, q1, q2, q3, q4, ⟨t1, f1, h1⟩, hC, hM⟩ := pr_mark  jj
  refine w_bud (kc2 := kc + mc) (ks2 := ks + ms) (by omega) (by omega) ?_
  refine w_aload_n dL_law_2050 rfl ?_
  refine w_callV (kc := kc) (ks := ks) (mi := miX0_mark) (As := []) (rest := []) dL_law_2051 q1529 okX0_mark clX0 rfl hC (by show d1 + 1 ≤ 400; omega) h1 rfl rfl (Nat.le_of_ble_eq_true rfl) ?_ (fun _ _ _ h => h.elim)
  rintro w1 σ1 ⟨v, rfl, hP⟩
  obtain ⟨⟨t2, f2, h2⟩, hM2⟩ := hM v σ1 hP
  refine w_st (st2 := [.int v]) rfl ?_
  refine w_aload_n dL_law_2054 rfl ?_
  refine w_callV (kc := kc) (ks := ks) (mc2 := 0) (ms2 := 0) (mi := miX8_mark) (As := []) (rest := [.int v]) dL_law_2055 q2278 okX8_mark clX8 rfl hM2 (by show d2 + 1 ≤ 400; omega) h2 rfl rfl (Nat.le_of_ble_eq_true rfl) ?_ (fun _ _ _ h => h.elim)
  rintro w2 σ2 ⟨rfl, j2⟩
  refine w_st (st2 := [.int v, .int v]) rfl ?_
  refine w_icmp_eq dL_law_2058 rfl (fun _ => kk σ2 j2) (fun h => absurd rfl h)
set_option maxHeartbeats 1000000 in
theorem law_c64 {kc ks i : Nat} {σ : PH} (hS : ScrG g b L xs) (hL : L ≤ 384) (hi : i + 6 ≤ L) (jj : JJ g ax bm σ) (kk : ∀ σ2, JJ g ax bm σ2 → Wp g (mtL (gz g) nm hh) kc ks 2076 [some (.ref b), some (.ref ax), some (.ref bm), some (.int (nI i))] [] σ2) : Wp g (mtL (gz g) nm hh) (kc + 9000) (ks + 112000) 2063 [some (.ref b), some (.ref ax), some (.ref bm), some (.int (nI i))] [] σ := by
  obtain ⟨d1, mc, ms, d2, P, q1, q2, q3, q4, ⟨t1, f1, h1⟩, hC, hM⟩ := pr_back  jj
  refine w_bud (kc2 := kc + mc) (ks2 := ks + ms) (by omega) (by omega) ?_
  refine w_aload_n dL_law_2063 rfl ?_
  refine w_callV (kc := kc) (ks := ks) (mi := miX0_back) (As := []) (rest := []) dL_law_2064 q1538 okX0_back clX0 rfl hC (by show d1 + 1 ≤ 400; omega) h1 rfl rfl (Nat.le_of_ble_eq_true rfl) ?_ (fun _ _ _ h => h.elim)
  rintro w1 σ1 ⟨v, rfl, hP⟩
  obtain ⟨⟨t2, f2, h2⟩, hM2⟩ := hM v σ1 hP
  refine w_st (st2 := [.int v]) rfl ?_
  refine w_aload_n dL_law_2067 rfl ?_
  refine w_callV (kc := kc) (ks := ks) (mc2 := 0) (ms2 := 0) (mi := miX8_back) (As := []) (rest := [.int v]) dL_law_2068 q2286 okX8_back clX8 rfl hM2 (by show d2 + 1 ≤ 400; omega) h2 rfl rfl (Nat.le_of_ble_eq_true rfl) ?_ (fun _ _ _ h => h.elim)
  rintro w2 σ2 ⟨rfl, j2⟩
  refine w_st (st2 := [.int v, .int v]) rfl ?_
  refine w_icmp_eq dL_law_2071 rfl (fun _ => kk σ2 j2) (fun h => absurd rfl h)
theorem law_sw {kc ks i : Nat} {σ : PH} (hS : ScrG g b L xs) (hL : L ≤ 384) (hi : i + 6 ≤ L) (jj : JJ g ax bm σ) (kk : ∀ σ2, JJ g ax bm σ2 → Wp g (mtL (gz g) nm hh) kc ks 2076 [some (.ref b), some (.ref ax), some (.ref bm), some (.int (nI i))] [] σ2) : ∀ n, n < 128 → Wp g (mtL (gz g) nm hh) (kc + 9000) (ks + 112000) 33 [some (.ref b), some (.ref ax), some (.ref bm), some (.int (nI i))] [.int (nI n)] σ
  | 0, _ => w_tableIn dL_law_33 (by decide +kernel) (by decide +kernel) rfl rfl (law_c0 hS hL hi jj kk)
  | 1, _ => w_tableIn dL_law_33 (by decide +kernel) (by decide +kernel) rfl rfl (law_c1 hS hL hi jj kk)
  | 2, _ => w_tableIn dL_law_33 (by decide +kernel) (by decide +kernel) rfl rfl (law_c2 hS hL hi jj kk)
  | 3, _ => w_tableIn dL_law_33 (by decide +kernel) (by decide +kernel) rfl rfl (law_c3 hS hL hi jj kk)
  | 4, _ => w_tableIn dL_law_33 (by decide +kernel) (by decide +kernel) rfl rfl (law_c4 hS hL hi jj kk)
  | 5, _ => w_tableIn dL_law_33 (by decide +kernel) (by decide +kernel) rfl rfl (law_c5 hS hL hi jj kk)
  | 6, _ => w_tableIn dL_law_33 (by decide +kernel) (by decide +kernel) rfl rfl (law_c6 hS hL hi jj kk)
  | 7, _ => w_tableIn dL_law_33 (by decide +kernel) (by decide +kernel) rfl rfl (law_c7 hS hL hi jj kk)
  | 8, _ => w_tableIn dL_law_33 (by decide +kernel) (by decide +kernel) rfl rfl (law_c8 hS hL hi jj kk)
  | 9, _ => w_tableIn dL_law_33 (by decide +kernel) (by decide +kernel) rfl rfl (law_c9 hS hL hi jj kk)
  | 10, _ => w_tableIn dL_law_33 (by decide +kernel) (by decide +kernel) rfl rfl (law_c10 hS hL hi jj kk)
  | 11, _ => w_tableIn dL_law_33 (by decide +kernel) (by decide +kernel) rfl rfl (law_c11 hS hL hi jj kk)
  | 12, _ => w_tableIn dL_law_33 (by decide +kernel) (by decide +kernel) rfl rfl (law_c12 hS hL hi jj kk)
  | 13, _ => w_tableIn dL_law_33 (by decide +kernel) (by decide +kernel) rfl rfl (law_c13 hS hL hi jj kk)
  | 14, _ => w_tableIn dL_law_33 (by decide +kernel) (by decide +kernel) rfl rfl (law_c14 hS hL hi jj kk)
  | 15, _ => w_tableIn dL_law_33 (by decide +kernel) (by decide +kernel) rfl rfl (law_c15 hS hL hi jj kk)
  | 16, _ => w_tableIn dL_law_33 (by decide +kernel) (by decide +kernel) rfl rfl (law_c16 hS hL hi jj kk)
  | 17, _ => w_tableIn dL_law_33 (by decide +kernel) (by decide +kernel) rfl rfl (law_c17 hS hL hi jj kk)
  | 18, _ => w_tableIn dL_law_33 (by decide +kernel) (by decide +kernel) rfl rfl (law_c18 hS hL hi jj kk)
  | 19, _ => w_tableIn dL_law_33 (by decide +kernel) (by decide +kernel) rfl rfl (law_c19 hS hL hi jj kk)
  | 20, _ => w_tableIn dL_law_33 (by decide +kernel) (by decide +kernel) rfl rfl (law_c20 hS hL hi jj kk)
  | 21, _ => w_tableIn dL_law_33 (by decide +kernel) (by decide +kernel) rfl rfl (law_c21 hS hL hi jj kk)
  | 22, _ => w_tableIn dL_law_33 (by decide +kernel) (by decide +kernel) rfl rfl (law_c22 hS hL hi jj kk)
  | 23, _ => w_tableIn dL_law_33 (by decide +kernel) (by decide +kernel) rfl rfl (law_c23 hS hL hi jj kk)
  | 24, _ => w_tableIn dL_law_33 (by decide +kernel) (by decide +kernel) rfl rfl (law_c24 hS hL hi jj kk)
  | 25, _ => w_tableIn dL_law_33 (by decide +kernel) (by decide +kernel) rfl rfl (law_c25 hS hL hi jj kk)
  | 26, _ => w_tableIn dL_law_33 (by decide +kernel) (by decide +kernel) rfl rfl (law_c26 hS hL hi jj kk)
  | 27, _ => w_tableIn dL_law_33 (by decide +kernel) (by decide +kernel) rfl rfl (law_c27 hS hL hi jj kk)
  | 28, _ => w_tableIn dL_law_33 (by decide +kernel) (by decide +kernel) rfl rfl (law_c28 hS hL hi jj kk)
  | 29, _ => w_tableIn dL_law_33 (by decide +kernel) (by decide +kernel) rfl rfl (law_c29 hS hL hi jj kk)
  | 30, _ => w_tableIn dL_law_33 (by decide +kernel) (by decide +kernel) rfl rfl (law_c30 hS hL hi jj kk)
  | 31, _ => w_tableIn dL_law_33 (by decide +kernel) (by decide +kernel) rfl rfl (law_c31 hS hL hi jj kk)
  | 32, _ => w_tableIn dL_law_33 (by decide +kernel) (by decide +kernel) rfl rfl (law_c32 hS hL hi jj kk)
  | 33, _ => w_tableIn dL_law_33 (by decide +kernel) (by decide +kernel) rfl rfl (law_c33 hS hL hi jj kk)
  | 34, _ => w_tableIn dL_law_33 (by decide +kernel) (by decide +kernel) rfl rfl (law_c34 hS hL hi jj kk)
  | 35, _ => w_tableIn dL_law_33 (by decide +kernel) (by decide +kernel) rfl rfl (law_c35 hS hL hi jj kk)
  | 36, _ => w_tableIn dL_law_33 (by decide +kernel) (by decide +kernel) rfl rfl (law_c36 hS hL hi jj kk)
  | 37, _ => w_tableIn dL_law_33 (by decide +kernel) (by decide +kernel) rfl rfl (law_c37 hS hL hi jj kk)
  | 38, _ => w_tableIn dL_law_33 (by decide +kernel) (by decide +kernel) rfl rfl (law_c38 hS hL hi jj kk)
  | 39, _ => w_tableIn dL_law_33 (by decide +kernel) (by decide +kernel) rfl rfl (law_c39 hS hL hi jj kk)
  | 40, _ => w_tableIn dL_law_33 (by decide +kernel) (by decide +kernel) rfl rfl (law_c40 hS hL hi jj kk)
  | 41, _ => w_tableIn dL_law_33 (by decide +kernel) (by decide +kernel) rfl rfl (law_c41 hS hL hi jj kk)
  | 42, _ => w_tableIn dL_law_33 (by decide +kernel) (by decide +kernel) rfl rfl (law_c42 hS hL hi jj kk)
  | 43, _ => w_tableIn dL_law_33 (by decide +kernel) (by decide +kernel) rfl rfl (law_c43 hS hL hi jj kk)
  | 44, _ => w_tableIn dL_law_33 (by decide +kernel) (by decide +kernel) rfl rfl (law_c44 hS hL hi jj kk)
  | 45, _ => w_tableIn dL_law_33 (by decide +kernel) (by decide +kernel) rfl rfl (law_c45 hS hL hi jj kk)
  | 46, _ => w_tableIn dL_law_33 (by decide +kernel) (by decide +kernel) rfl rfl (law_c46 hS hL hi jj kk)
  | 47, _ => w_tableIn dL_law_33 (by decide +kernel) (by decide +kernel) rfl rfl (law_c47 hS hL hi jj kk)
  | 48, _ => w_tableIn dL_law_33 (by decide +kernel) (by decide +kernel) rfl rfl (law_c48 hS hL hi jj kk)
  | 49, _ => w_tableIn dL_law_33 (by decide +kernel) (by decide +kernel) rfl rfl (law_c49 hS hL hi jj kk)
  | 50, _ => w_tableIn dL_law_33 (by decide +kernel) (by decide +kernel) rfl rfl (law_c50 hS hL hi jj kk)
  | 51, _ => w_tableIn dL_law_33 (by decide +kernel) (by decide +kernel) rfl rfl (law_c51 hS hL hi jj kk)
  | 52, _ => w_tableIn dL_law_33 (by decide +kernel) (by decide +kernel) rfl rfl (law_c52 hS hL hi jj kk)
  | 53, _ => w_tableIn dL_law_33 (by decide +kernel) (by decide +kernel) rfl rfl (law_c53 hS hL hi jj kk)
  | 54, _ => w_tableIn dL_law_33 (by decide +kernel) (by decide +kernel) rfl rfl (law_c54 hS hL hi jj kk)
  | 55, _ => w_tableIn dL_law_33 (by decide +kernel) (by decide +kernel) rfl rfl (law_c55 hS hL hi jj kk)
  | 56, _ => w_tableIn dL_law_33 (by decide +kernel) (by decide +kernel) rfl rfl (law_c56 hS hL hi jj kk)
  | 57, _ => w_tableIn dL_law_33 (by decide +kernel) (by decide +kernel) rfl rfl (law_c57 hS hL hi jj kk)
  | 58, _ => w_tableIn dL_law_33 (by decide +kernel) (by decide +kernel) rfl rfl (law_c58 hS hL hi jj kk)
  | 59, _ => w_tableIn dL_law_33 (by decide +kernel) (by decide +kernel) rfl rfl (law_c59 hS hL hi jj kk)
  | 60, _ => w_tableIn dL_law_33 (by decide +kernel) (by decide +kernel) rfl rfl (law_c60 hS hL hi jj kk)
  | 61, _ => w_tableIn dL_law_33 (by decide +kernel) (by decide +kernel) rfl rfl (law_c61 hS hL hi jj kk)
  | 62, _ => w_tableIn dL_law_33 (by decide +kernel) (by decide +kernel) rfl rfl (law_c62 hS hL hi jj kk)
  | 63, _ => w_tableIn dL_law_33 (by decide +kernel) (by decide +kernel) rfl rfl (law_c63 hS hL hi jj kk)
  | 64, _ => w_tableIn dL_law_33 (by decide +kernel) (by decide +kernel) rfl rfl (law_c64 hS hL hi jj kk)
  | n + 65, h => by
    have e : (nI (n + 65)).toInt = ((n + 65 : Nat) : Int) := nI_toInt (by omega)
    exact w_tableOut dL_law_33 (Or.inr (by rw [e]; omega)) rfl (w_bud (kc2 := kc) (ks2 := ks) (by omega) (by omega) (kk σ jj))
theorem law_loop (hS : ScrG g b L xs) (hL : L ≤ 384) : ∀ (r i : Nat) (σ : PH), i + 6 * r ≤ L → L < i + 6 * r + 6 → JJ g ax bm σ → Wp g (mtL (gz g) nm hh) (r * 9000) (r * 112000) 18 [some (.ref b), some (.ref ax), some (.ref bm), some (.int (nI i))] [] σ := by
  intro r
  induction r with
  | zero =>
    intro i σ h1 h2 jj
    refine w_iload_n dL_law_18 rfl ?_
    refine w_aload_n dL_law_19 rfl ?_
    refine w_slen hS dL_law_20 ?_
    refine w_bipush (v := nI 6) dL_law_21 kb_6 ?_
    refine w_isub dL_law_23 ?_
    refine w_icmp_gt dL_law_24 rfl (fun _ => ?_) (fun h => ?_)
    · refine w_iconst (v := nI 1) dL_law_2082 ki_1 ?_
      exact law_exit dL_law_2083
    · have := len_ge (by omega) (by omega) h
      omega
  | succ r ih =>
    intro i σ h1 h2 jj
    refine w_iload_n dL_law_18 rfl ?_
    refine w_aload_n dL_law_19 rfl ?_
    refine w_slen hS dL_law_20 ?_
    refine w_bipush (v := nI 6) dL_law_21 kb_6 ?_
    refine w_isub dL_law_23 ?_
    refine w_icmp_gt dL_law_24 rfl (fun _ => ?_) (fun h => ?_)
    · refine w_iconst (v := nI 1) dL_law_2082 ki_1 ?_
      exact law_exit dL_law_2083
    · refine w_aload_n dL_law_27 rfl ?_
      refine w_iload_n dL_law_28 rfl ?_
      refine w_sld hS dL_law_29 (by omega) (by omega) ?_
      refine w_bipush (v := nI 127) dL_law_30 kb_127 ?_
      refine w_iand dL_law_32 ?_
      obtain ⟨n, hn, e⟩ := and127 (xs i)
      rw [e, Nat.succ_mul, Nat.succ_mul]
      refine law_sw hS hL (by omega) jj (fun σ2 j2 => ?_) n hn
      refine w_iinc dL_law_2076 rfl (nI_inc _ 6) rfl (Nat.le_of_ble_eq_true rfl) ls_4_3 ?_
      refine w_goto dL_law_2079 rfl ?_
      exact ih (i + 6) σ2 (by omega) (by omega) j2
end LAW
/-- the heap with the twin's cells above the component's -/
theorem Hold.tw {g : GG} {σ : PH} {C : CS} {S : MS} {t : Tg} {e : va_E} (H : Hold g σ C) : Hold g (sM g (σ.1 + 16, (hnew σ t e).2) σ.1 S) C := by
  refine ⟨fun a ha => ?_, fun k j x hx => ?_, fun a x hx => ?_⟩
  · have ha2 : σ.1 + 16 ≤ a := ha
    show (if σ.1 ≤ a ∧ a < σ.1 + 16 then _ else if a = σ.1 then _ else σ.2 a) = none
    rw [if_neg (by omega), if_neg (by omega)]
    exact H.1 a (by omega)
  · have h1 := H.get hx
    have h2 := H.lt h1
    show (if σ.1 ≤ od C k j ∧ od C k j < σ.1 + 16 then _ else if od C k j = σ.1 then _ else σ.2 (od C k j)) = _
    rw [if_neg (by omega), if_neg (by omega)]
    exact h1
  · have h1 := H.z hx
    have h2 := H.lt h1
    show (if σ.1 ≤ a ∧ a < σ.1 + 16 then _ else if a = σ.1 then _ else σ.2 a) = _
    rw [if_neg (by omega), if_neg (by omega)]
    exact h1
set_option maxHeartbeats 4000000 in
theorem law_body {g : GG} {b L : Nat} {xs : Nat → Int32} {nm : String} {hh : List (Nat × Nat × Nat × Nat)} (hS : ScrG g b L xs) (hL : L ≤ 384) : Wp g (mtL (gz g) nm hh) 601536 7248490 0 [some (.ref b), none, none, none] [] (gz g, fun _ => none) := by
  refine w_bud (kc2 := 64 * 9000 + 15 + 1 + 97 + 1) (ks2 := 64 * 112000 + 10655 + 38 + 1533 + 23) (Nat.le_of_ble_eq_true rfl) (Nat.le_of_ble_eq_true rfl) ?_
  refine w_new (kc := 64 * 9000 + 15 + 1 + 97) (ks := 64 * 112000 + 10655 + 38 + 1533) [.null, .null, .int 0, .int 0, .int 0, .null, .null, .int 0, .long 0, .long 0, .null, .null, .int 0, .null, .null, .null, .int 0, .int 0, .int 0, .null, .null, .null, .int 0] (0, 30) dL_law_0 clX0 q164 q165 q134 dfX0 ?_
  refine w_dup dL_law_3 rfl ?_
  obtain ⟨σa, hσa⟩ : ∃ s, s = hnew (gz g, fun _ => none) (0, 30) (.inr (0, [.null, .null, .int 0, .int 0, .int 0, .null, .null, .int 0, .long 0, .long 0, .null, .null, .int 0, .null, .null, .null, .int 0, .int 0, .int 0, .null, .null, .null, .int 0])) := ⟨_, rfl⟩
  have wa : wf9 σa := fun q hq => by
    rw [hσa] at hq ⊢
    have hq2 : gz g + 1 ≤ q := hq
    show (if q = gz g then _ else none) = none
    rw [if_neg (by omega)]
  have ha : σa.2 (gz g) = some ((0, 30), .inr (0, [.null, .null, .int 0, .int 0, .int 0, .null, .null, .int 0, .long 0, .long 0, .null, .null, .int 0, .null, .null, .null, .int 0, .int 0, .int 0, .null, .null, .null, .int 0])) := by
    rw [hσa]
    exact if_pos rfl
  have hsz : σa.1 = gz g + 1 := by rw [hσa]; rfl
  rw [← hσa]
  clear hσa
  refine w_callI (kc := 64 * 9000 + 15 + 1) (ks := 64 * 112000 + 10655 + 38) (mi := miX0_init) (As := []) (rest := [.ref (gz g)]) dL_law_4 q166 okX0_init (iX0_init σa (gz g) (0, 30) wa ha) (by show 4 + 1 ≤ 400; omega) rfl rfl (Nat.le_of_ble_eq_true rfl) ?_ (fun _ _ _ h => h.elim)
  rintro w1 σ1 ⟨rfl, rfl⟩
  have hlt : gz g < σa.1 := by omega
  refine w_first (a := gz g) (z := σa.1) hlt (rw_sz lp_len) (rw_wf hlt) rw_a (fun i hi => ?_) (fun σ3 H3 h3 => ?_)
  · have hl : i < (lpL g σa.1).length := by rw [lp_len]; exact hi
    rw [List.getElem?_eq_getElem hl]
    exact rw_i hlt (List.getElem?_eq_getElem hl)
  refine w_astore_n dL_law_7 rfl (Nat.le_of_ble_eq_true rfl) ls_4_1 ?_
  refine w_new (kc := 64 * 9000 + 15) (ks := 64 * 112000 + 10655) [.null, .null, .int 0, .long 0, .long 0, .null, .null, .null, .null, .null, .int 0, .int 0, .int 0, .int 0, .int 0, .int 0, .int 0, .int 0, .int 0, .int 0, .int 0, .int 0, .null, .int 0, .int 0, .null, .null, .null, .null, .int 0, .int 0, .int 0, .int 0, .null, .null, .null, .int 0, .int 0] (σ3.1, 0) dL_law_8 clX8 q1542 q1543 q144 dfX8 ?_
  refine w_dup dL_law_11 rfl ?_
  refine w_callI (kc := 64 * 9000) (ks := 64 * 112000) (mi := miX8_init) (As := []) (rest := [.ref σ3.1]) dL_law_12 q1544 okX8_init (iX8_init (σ := hnew σ3 (σ3.1, 0) _) (a := σ3.1) (fun q hq => ?_) rfl (if_pos rfl)) (by show 3 + 1 ≤ 400; omega) rfl rfl (Nat.le_of_ble_eq_true rfl) ?_ (fun _ _ _ h => h.elim)
  · have hq2 : σ3.1 + 1 ≤ q := hq
    show (if q = σ3.1 then _ else σ3.2 q) = none
    rw [if_neg (by omega)]
    exact H3.1 q (by omega)
  rintro w2 σ2 ⟨rfl, rfl⟩
  refine w_astore_n dL_law_15 rfl (Nat.le_of_ble_eq_true rfl) ls_4_2 ?_
  refine w_iconst (v := nI 0) dL_law_16 ki_0 ?_
  refine w_istore_n dL_law_17 rfl (Nat.le_of_ble_eq_true rfl) ls_4_3 ?_
  have jj : JJ g (gz g) σ3.1 (sM g (σ3.1 + 16, (hnew σ3 (σ3.1, 0) (.inr (8, [.null, .null, .int 0, .long 0, .long 0, .null, .null, .null, .null, .null, .int 0, .int 0, .int 0, .int 0, .int 0, .int 0, .int 0, .int 0, .int 0, .int 0, .int 0, .int 0, .null, .int 0, .int 0, .null, .null, .null, .null, .int 0, .int 0, .int 0, .int 0, .null, .null, .null, .int 0, .int 0]))).2) σ3.1 mS1) := ⟨fsC g (gz g) σa.1, mS1, H3.tw, fs_M, fs_d0, by omega, Nat.le_refl _, sM_sM.symm, fs_JC⟩
  refine w_bud (kc2 := L / 6 * 9000) (ks2 := L / 6 * 112000) (Nat.mul_le_mul_right _ (by omega)) (Nat.mul_le_mul_right _ (by omega)) ?_
  exact law_loop hS hL (L / 6) 0 _ (by omega) (by omega) jj
theorem whole_start {p : Program} {e : Env} {s : State} {m : MethodId} {below : List Frame} {meth : Method} {c : Code} (l : Launch) (hflags : l.flags = flags0) {b L : Nat} {xs : Nat → Int32} (hL : L ≤ 384) (C0 : lw_At p s m meth c b L xs) : W p l e room_1 s m #[Value.ref b] below meth c s.heap [] 0 0 (lw_Z below #[Value.ref b] s) (entryFrame m ([Value.ref b] : List Value).toArray 4) := by
  obtain ⟨D, ar, hG⟩ := en_good (l := l) hflags C0.2.2.2.2.2.1 C0.2.2.2.2.2.2.2.2.2
  exact law_enter C0 hG (fun nm hh => law_body (g := (l, s, D, ar)) ⟨C0.2.2.2.2.2.2.2.1, C0.2.2.2.2.2.2.1⟩ hL)
