/-! THE LAW's OPS (written by gen/mklops.py) -/
set_option maxRecDepth 100000
abbrev lls (b a0 a1 n : Nat) : List (Option Value) := [some (.ref b), some (.ref a0), some (.ref a1), some (.int (Int32.ofNat n))]
def lgA (x y : Int32) : Int64 := (x.toInt64 <<< ((32 : Int32).toInt64 &&& 63)) ||| (y.toInt64 &&& 4294967295)
section
variable {X : zCx} {Q : State → Prop} {Gm : zGw} {ad : Nat → Nat} {V : zSV} {I : Nat → Bool} {D : va_G} {Sc Sm : zSt} {cs : Nat × Nat} {e9 : zRe} {b L n : Nat} {xs : Nat → Int32}
theorem lg_cmp_self (r : Int64) : lg_cmp r r = 0 := by unfold lg_cmp; simp
theorem lop_feed (hC : lC e9 D X b L xs) (hV : zVok V) (hGm : zGM Gm) (hDm : Gm.2.2.2 = D) (hn : n + 6 ≤ L) (hcs1 : cs.1 + 20 ≤ 1200384) (hcs2 : cs.2 + 1000 ≤ 5488810) {r : Int32} {Sc' Sm' : zSt} (h1 : F_X0_feed (xs (n + 1)) (xs (n + 2)) (xs (n + 3)) (xs (n + 4)) (xs (n + 5)) Sc = some (r, Sc')) (h2 : F_X5_feed (xs (n + 1)) (xs (n + 2)) (xs (n + 3)) (xs (n + 4)) (xs (n + 5)) Sm = some (r, Sm')) (kk : Zl X Q (cG ad V I D) Gm Sc' Sm' (cs.1 + 10, cs.2 + 410) 2215 (lls b (ad 0) (Gm.1 0) n) []) : Zl X Q (cG ad V I D) Gm Sc Sm cs 320 (lls b (ad 0) (Gm.1 0) n) [] := by
  refine l_aload (pc := 320) hC 1 dL_law_320 rfl rfl ?_
  refine l_arg (pc := 321) (k := 1) hC (by omega) (by decide) rfl rfl dL_law_321 dL_law_322 dL_law_323 dL_law_324 dL_law_325 ?_
  refine l_arg (pc := 326) (k := 2) hC (by omega) (by decide) rfl rfl dL_law_326 dL_law_327 dL_law_328 dL_law_329 dL_law_330 ?_
  refine l_arg (pc := 331) (k := 3) hC (by omega) (by decide) rfl rfl dL_law_331 dL_law_332 dL_law_333 dL_law_334 dL_law_335 ?_
  refine l_arg (pc := 336) (k := 4) hC (by omega) (by decide) rfl rfl dL_law_336 dL_law_337 dL_law_338 dL_law_339 dL_law_340 ?_
  refine l_arg (pc := 341) (k := 5) hC (by omega) (by decide) rfl rfl dL_law_341 dL_law_342 dL_law_343 dL_law_344 dL_law_345 ?_
  refine l_cZ (pc := 346) (idx := 13) [.int (xs (n + 1)), .int (xs (n + 2)), .int (xs (n + 3)), .int (xs (n + 4)), .int (xs (n + 5))] [] hC (ct_X0_feed zGC_c _ _ _ _ _ ) 0 h1 rfl mv_X0_feed q417 rfl (zGC_s0 zGC_c) rfl (Nat.le_of_ble_eq_true rfl) (Nat.le_of_ble_eq_true rfl) rfl (by show cs.1 + 0 ≤ 1200384; omega) (by show cs.2 + 0 ≤ 5488810; omega) (Nat.le_of_ble_eq_true rfl) dL_law_346 ?_
  change Zl X Q (cG ad V I D) Gm Sc' Sm (cs.1 + 0, cs.2 + 0) 349 (lls b (ad 0) (Gm.1 0) n) [.int r]
  refine l_aload (pc := 349) hC 2 dL_law_349 rfl rfl ?_
  refine l_arg (pc := 350) (k := 1) hC (by omega) (by decide) rfl rfl dL_law_350 dL_law_351 dL_law_352 dL_law_353 dL_law_354 ?_
  refine l_arg (pc := 355) (k := 2) hC (by omega) (by decide) rfl rfl dL_law_355 dL_law_356 dL_law_357 dL_law_358 dL_law_359 ?_
  refine l_arg (pc := 360) (k := 3) hC (by omega) (by decide) rfl rfl dL_law_360 dL_law_361 dL_law_362 dL_law_363 dL_law_364 ?_
  refine l_arg (pc := 365) (k := 4) hC (by omega) (by decide) rfl rfl dL_law_365 dL_law_366 dL_law_367 dL_law_368 dL_law_369 ?_
  refine l_arg (pc := 370) (k := 5) hC (by omega) (by decide) rfl rfl dL_law_370 dL_law_371 dL_law_372 dL_law_373 dL_law_374 ?_
  refine Zl_swap (l_cZ (pc := 375) (idx := 17) [.int (xs (n + 1)), .int (xs (n + 2)), .int (xs (n + 3)), .int (xs (n + 4)), .int (xs (n + 5))] [.int r] hC (ct_X5_feed hGm _ _ _ _ _ ) 5 h2 hDm mv_X5_feed q1592 rfl (zGM_s0 hGm) rfl (Nat.le_of_ble_eq_true rfl) (Nat.le_of_ble_eq_true rfl) rfl (by show cs.1 + 0 + 0 ≤ 1200384; omega) (by show cs.2 + 0 + 0 ≤ 5488810; omega) (Nat.le_of_ble_eq_true rfl) dL_law_375 (Zl_swap ?_))
  change Zl X Q (cG ad V I D) Gm Sc' Sm' (cs.1 + 0 + 0, cs.2 + 0 + 0) 378 (lls b (ad 0) (Gm.1 0) n) [.int r, .int r]
  refine l_icmp_eq (pc := 378) hC 2215 dL_law_378 rfl rfl ?_
  exact Zl_wide (cs' := (cs.1 + 10, cs.2 + 410)) (by show cs.1 + 0 + 0 ≤ cs.1 + 10; omega) (by show cs.2 + 0 + 0 ≤ cs.2 + 410; omega) (kk)
theorem lop_end (hC : lC e9 D X b L xs) (hV : zVok V) (hGm : zGM Gm) (hDm : Gm.2.2.2 = D) (hn : n + 6 ≤ L) (hcs1 : cs.1 + 20 ≤ 1200384) (hcs2 : cs.2 + 1000 ≤ 5488810) {r : Int32} {Sc' Sm' : zSt} (h1 : F_X0_end (xs (n + 1)) Sc = some (r, Sc')) (h2 : F_X5_end (xs (n + 1)) Sm = some (r, Sm')) (kk : Zl X Q (cG ad V I D) Gm Sc' Sm' (cs.1 + 10, cs.2 + 410) 2215 (lls b (ad 0) (Gm.1 0) n) []) : Zl X Q (cG ad V I D) Gm Sc Sm cs 383 (lls b (ad 0) (Gm.1 0) n) [] := by
  refine l_aload (pc := 383) hC 1 dL_law_383 rfl rfl ?_
  refine l_arg (pc := 384) (k := 1) hC (by omega) (by decide) rfl rfl dL_law_384 dL_law_385 dL_law_386 dL_law_387 dL_law_388 ?_
  refine l_cZ (pc := 389) (idx := 18) [.int (xs (n + 1))] [] hC (ct_X0_end zGC_c _ ) 0 h1 rfl mv_X0_end q425 rfl (zGC_s0 zGC_c) rfl (Nat.le_of_ble_eq_true rfl) (Nat.le_of_ble_eq_true rfl) rfl (by show cs.1 + 0 ≤ 1200384; omega) (by show cs.2 + 0 ≤ 5488810; omega) (Nat.le_of_ble_eq_true rfl) dL_law_389 ?_
  change Zl X Q (cG ad V I D) Gm Sc' Sm (cs.1 + 0, cs.2 + 0) 392 (lls b (ad 0) (Gm.1 0) n) [.int r]
  refine l_aload (pc := 392) hC 2 dL_law_392 rfl rfl ?_
  refine l_arg (pc := 393) (k := 1) hC (by omega) (by decide) rfl rfl dL_law_393 dL_law_394 dL_law_395 dL_law_396 dL_law_397 ?_
  refine Zl_swap (l_cZ (pc := 398) (idx := 22) [.int (xs (n + 1))] [.int r] hC (ct_X5_end hGm _ ) 5 h2 hDm mv_X5_end q1600 rfl (zGM_s0 hGm) rfl (Nat.le_of_ble_eq_true rfl) (Nat.le_of_ble_eq_true rfl) rfl (by show cs.1 + 0 + 0 ≤ 1200384; omega) (by show cs.2 + 0 + 0 ≤ 5488810; omega) (Nat.le_of_ble_eq_true rfl) dL_law_398 (Zl_swap ?_))
  change Zl X Q (cG ad V I D) Gm Sc' Sm' (cs.1 + 0 + 0, cs.2 + 0 + 0) 401 (lls b (ad 0) (Gm.1 0) n) [.int r, .int r]
  refine l_icmp_eq (pc := 401) hC 2215 dL_law_401 rfl rfl ?_
  exact Zl_wide (cs' := (cs.1 + 10, cs.2 + 410)) (by show cs.1 + 0 + 0 ≤ cs.1 + 10; omega) (by show cs.2 + 0 + 0 ≤ cs.2 + 410; omega) (kk)
theorem lop_town (hC : lC e9 D X b L xs) (hV : zVok V) (hGm : zGM Gm) (hDm : Gm.2.2.2 = D) (hn : n + 6 ≤ L) (hcs1 : cs.1 + 20 ≤ 1200384) (hcs2 : cs.2 + 1000 ≤ 5488810) {r : Int32} {Sc' Sm' : zSt} (h1 : F_X0_town Sc = some (r, Sc')) (h2 : F_X5_town  Sm = some (r, Sm')) (kk : ∀ ad', Zl X Q (cG ad' V I D) Gm Sc' Sm' (cs.1 + 10, cs.2 + 410) 2215 (lls b (ad' 0) (Gm.1 0) n) []) : Zl X Q (cG ad V I D) Gm Sc Sm cs 406 (lls b (ad 0) (Gm.1 0) n) [] := by
  refine l_aload (pc := 406) hC 1 dL_law_406 rfl rfl ?_
  refine l_cEW (pc := 407) (idx := 23) [] [] hC (cg_X0_town) 0 h1 rfl mv_X0_town q432 rfl (zGC_s0 zGC_c) rfl (Nat.le_of_ble_eq_true rfl) (Nat.le_of_ble_eq_true rfl) ⟨_, rfl⟩ (by show cs.1 + 10 ≤ 1200384; omega) (by show cs.2 + 129 ≤ 5488810; omega) (Nat.le_of_ble_eq_true rfl) dL_law_407 (fun G' hK hD9 => ?_)
  obtain ⟨ad', had, rfl⟩ := hK
  rw [← had]
  change Zl X Q (cG ad' V I D) Gm Sc' Sm (cs.1 + 10, cs.2 + 129) 410 (lls b (ad' 0) (Gm.1 0) n) [.int r]
  refine l_aload (pc := 410) hC 2 dL_law_410 rfl rfl ?_
  refine Zl_swap (l_cZ (pc := 411) (idx := 27) [] [.int r] hC (ct_X5_town hGm ) 5 h2 hDm mv_X5_town q1608 rfl (zGM_s0 hGm) rfl (Nat.le_of_ble_eq_true rfl) (Nat.le_of_ble_eq_true rfl) rfl (by show cs.1 + 10 + 0 ≤ 1200384; omega) (by show cs.2 + 129 + 0 ≤ 5488810; omega) (Nat.le_of_ble_eq_true rfl) dL_law_411 (Zl_swap ?_))
  change Zl X Q (cG ad' V I D) Gm Sc' Sm' (cs.1 + 10 + 0, cs.2 + 129 + 0) 414 (lls b (ad' 0) (Gm.1 0) n) [.int r, .int r]
  refine l_icmp_eq (pc := 414) hC 2215 dL_law_414 rfl rfl ?_
  exact Zl_wide (cs' := (cs.1 + 10, cs.2 + 410)) (by show cs.1 + 10 + 0 ≤ cs.1 + 10; omega) (by show cs.2 + 129 + 0 ≤ cs.2 + 410; omega) (kk ad')
theorem lop_fault (hC : lC e9 D X b L xs) (hV : zVok V) (hGm : zGM Gm) (hDm : Gm.2.2.2 = D) (hn : n + 6 ≤ L) (hcs1 : cs.1 + 20 ≤ 1200384) (hcs2 : cs.2 + 1000 ≤ 5488810) {r : Int32} {Sc' Sm' : zSt} (h1 : F_X0_fault (xs (n + 1)) Sc = some (r, Sc')) (h2 : F_X5_fault (xs (n + 1)) Sm = some (r, Sm')) (kk : Zl X Q (cG ad V I D) Gm Sc' Sm' (cs.1 + 10, cs.2 + 410) 2215 (lls b (ad 0) (Gm.1 0) n) []) : Zl X Q (cG ad V I D) Gm Sc Sm cs 419 (lls b (ad 0) (Gm.1 0) n) [] := by
  refine l_aload (pc := 419) hC 1 dL_law_419 rfl rfl ?_
  refine l_arg (pc := 420) (k := 1) hC (by omega) (by decide) rfl rfl dL_law_420 dL_law_421 dL_law_422 dL_law_423 dL_law_424 ?_
  refine l_cZ (pc := 425) (idx := 28) [.int (xs (n + 1))] [] hC (ct_X0_fault zGC_c _ ) 0 h1 rfl mv_X0_fault q707 rfl (zGC_s0 zGC_c) rfl (Nat.le_of_ble_eq_true rfl) (Nat.le_of_ble_eq_true rfl) rfl (by show cs.1 + 0 ≤ 1200384; omega) (by show cs.2 + 0 ≤ 5488810; omega) (Nat.le_of_ble_eq_true rfl) dL_law_425 ?_
  change Zl X Q (cG ad V I D) Gm Sc' Sm (cs.1 + 0, cs.2 + 0) 428 (lls b (ad 0) (Gm.1 0) n) [.int r]
  refine l_aload (pc := 428) hC 2 dL_law_428 rfl rfl ?_
  refine l_arg (pc := 429) (k := 1) hC (by omega) (by decide) rfl rfl dL_law_429 dL_law_430 dL_law_431 dL_law_432 dL_law_433 ?_
  refine Zl_swap (l_cZ (pc := 434) (idx := 31) [.int (xs (n + 1))] [.int r] hC (ct_X5_fault hGm _ ) 5 h2 hDm mv_X5_fault q1604 rfl (zGM_s0 hGm) rfl (Nat.le_of_ble_eq_true rfl) (Nat.le_of_ble_eq_true rfl) rfl (by show cs.1 + 0 + 0 ≤ 1200384; omega) (by show cs.2 + 0 + 0 ≤ 5488810; omega) (Nat.le_of_ble_eq_true rfl) dL_law_434 (Zl_swap ?_))
  change Zl X Q (cG ad V I D) Gm Sc' Sm' (cs.1 + 0 + 0, cs.2 + 0 + 0) 437 (lls b (ad 0) (Gm.1 0) n) [.int r, .int r]
  refine l_icmp_eq (pc := 437) hC 2215 dL_law_437 rfl rfl ?_
  exact Zl_wide (cs' := (cs.1 + 10, cs.2 + 410)) (by show cs.1 + 0 + 0 ≤ cs.1 + 10; omega) (by show cs.2 + 0 + 0 ≤ cs.2 + 410; omega) (kk)
theorem lop_letter (hC : lC e9 D X b L xs) (hV : zVok V) (hGm : zGM Gm) (hDm : Gm.2.2.2 = D) (hn : n + 6 ≤ L) (hcs1 : cs.1 + 20 ≤ 1200384) (hcs2 : cs.2 + 1000 ≤ 5488810) {r : Int32} {Sc' Sm' : zSt} (h1 : F_X0_letter (xs (n + 1)) (xs (n + 2)) Sc = some (r, Sc')) (h2 : F_X5_letter (xs (n + 1)) (xs (n + 2)) Sm = some (r, Sm')) (kk : Zl X Q (cG ad V I D) Gm Sc' Sm' (cs.1 + 10, cs.2 + 410) 2215 (lls b (ad 0) (Gm.1 0) n) []) : Zl X Q (cG ad V I D) Gm Sc Sm cs 442 (lls b (ad 0) (Gm.1 0) n) [] := by
  refine l_aload (pc := 442) hC 1 dL_law_442 rfl rfl ?_
  refine l_arg (pc := 443) (k := 1) hC (by omega) (by decide) rfl rfl dL_law_443 dL_law_444 dL_law_445 dL_law_446 dL_law_447 ?_
  refine l_arg (pc := 448) (k := 2) hC (by omega) (by decide) rfl rfl dL_law_448 dL_law_449 dL_law_450 dL_law_451 dL_law_452 ?_
  refine l_cZ (pc := 453) (idx := 32) [.int (xs (n + 1)), .int (xs (n + 2))] [] hC (ct_X0_letter zGC_c _ _ ) 0 h1 rfl mv_X0_letter q711 rfl (zGC_s0 zGC_c) rfl (Nat.le_of_ble_eq_true rfl) (Nat.le_of_ble_eq_true rfl) rfl (by show cs.1 + 0 ≤ 1200384; omega) (by show cs.2 + 0 ≤ 5488810; omega) (Nat.le_of_ble_eq_true rfl) dL_law_453 ?_
  change Zl X Q (cG ad V I D) Gm Sc' Sm (cs.1 + 0, cs.2 + 0) 456 (lls b (ad 0) (Gm.1 0) n) [.int r]
  refine l_aload (pc := 456) hC 2 dL_law_456 rfl rfl ?_
  refine l_arg (pc := 457) (k := 1) hC (by omega) (by decide) rfl rfl dL_law_457 dL_law_458 dL_law_459 dL_law_460 dL_law_461 ?_
  refine l_arg (pc := 462) (k := 2) hC (by omega) (by decide) rfl rfl dL_law_462 dL_law_463 dL_law_464 dL_law_465 dL_law_466 ?_
  refine Zl_swap (l_cZ (pc := 467) (idx := 36) [.int (xs (n + 1)), .int (xs (n + 2))] [.int r] hC (ct_X5_letter hGm _ _ ) 5 h2 hDm mv_X5_letter q1709 rfl (zGM_s0 hGm) rfl (Nat.le_of_ble_eq_true rfl) (Nat.le_of_ble_eq_true rfl) rfl (by show cs.1 + 0 + 0 ≤ 1200384; omega) (by show cs.2 + 0 + 0 ≤ 5488810; omega) (Nat.le_of_ble_eq_true rfl) dL_law_467 (Zl_swap ?_))
  change Zl X Q (cG ad V I D) Gm Sc' Sm' (cs.1 + 0 + 0, cs.2 + 0 + 0) 470 (lls b (ad 0) (Gm.1 0) n) [.int r, .int r]
  refine l_icmp_eq (pc := 470) hC 2215 dL_law_470 rfl rfl ?_
  exact Zl_wide (cs' := (cs.1 + 10, cs.2 + 410)) (by show cs.1 + 0 + 0 ≤ cs.1 + 10; omega) (by show cs.2 + 0 + 0 ≤ cs.2 + 410; omega) (kk)
theorem lop_open (hC : lC e9 D X b L xs) (hV : zVok V) (hGm : zGM Gm) (hDm : Gm.2.2.2 = D) (hn : n + 6 ≤ L) (hcs1 : cs.1 + 20 ≤ 1200384) (hcs2 : cs.2 + 1000 ≤ 5488810) {r : Int32} {Sc' Sm' : zSt} (h1 : F_X0_open (xs (n + 1)) (xs (n + 2)) Sc = some (r, Sc')) (h2 : F_X5_open (xs (n + 1)) (xs (n + 2)) Sm = some (r, Sm')) (kk : Zl X Q (cG ad V I D) Gm Sc' Sm' (cs.1 + 10, cs.2 + 410) 2215 (lls b (ad 0) (Gm.1 0) n) []) : Zl X Q (cG ad V I D) Gm Sc Sm cs 475 (lls b (ad 0) (Gm.1 0) n) [] := by
  refine l_aload (pc := 475) hC 1 dL_law_475 rfl rfl ?_
  refine l_arg (pc := 476) (k := 1) hC (by omega) (by decide) rfl rfl dL_law_476 dL_law_477 dL_law_478 dL_law_479 dL_law_480 ?_
  refine l_arg (pc := 481) (k := 2) hC (by omega) (by decide) rfl rfl dL_law_481 dL_law_482 dL_law_483 dL_law_484 dL_law_485 ?_
  refine l_cZ (pc := 486) (idx := 37) [.int (xs (n + 1)), .int (xs (n + 2))] [] hC (ct_X0_open zGC_c _ _ ) 0 h1 rfl mv_X0_open q719 rfl (zGC_s0 zGC_c) rfl (Nat.le_of_ble_eq_true rfl) (Nat.le_of_ble_eq_true rfl) rfl (by show cs.1 + 0 ≤ 1200384; omega) (by show cs.2 + 0 ≤ 5488810; omega) (Nat.le_of_ble_eq_true rfl) dL_law_486 ?_
  change Zl X Q (cG ad V I D) Gm Sc' Sm (cs.1 + 0, cs.2 + 0) 489 (lls b (ad 0) (Gm.1 0) n) [.int r]
  refine l_aload (pc := 489) hC 2 dL_law_489 rfl rfl ?_
  refine l_arg (pc := 490) (k := 1) hC (by omega) (by decide) rfl rfl dL_law_490 dL_law_491 dL_law_492 dL_law_493 dL_law_494 ?_
  refine l_arg (pc := 495) (k := 2) hC (by omega) (by decide) rfl rfl dL_law_495 dL_law_496 dL_law_497 dL_law_498 dL_law_499 ?_
  refine Zl_swap (l_cZ (pc := 500) (idx := 40) [.int (xs (n + 1)), .int (xs (n + 2))] [.int r] hC (ct_X5_open hGm _ _ ) 5 h2 hDm mv_X5_open q1717 rfl (zGM_s0 hGm) rfl (Nat.le_of_ble_eq_true rfl) (Nat.le_of_ble_eq_true rfl) rfl (by show cs.1 + 0 + 0 ≤ 1200384; omega) (by show cs.2 + 0 + 0 ≤ 5488810; omega) (Nat.le_of_ble_eq_true rfl) dL_law_500 (Zl_swap ?_))
  change Zl X Q (cG ad V I D) Gm Sc' Sm' (cs.1 + 0 + 0, cs.2 + 0 + 0) 503 (lls b (ad 0) (Gm.1 0) n) [.int r, .int r]
  refine l_icmp_eq (pc := 503) hC 2215 dL_law_503 rfl rfl ?_
  exact Zl_wide (cs' := (cs.1 + 10, cs.2 + 410)) (by show cs.1 + 0 + 0 ≤ cs.1 + 10; omega) (by show cs.2 + 0 + 0 ≤ cs.2 + 410; omega) (kk)
theorem lop_step (hC : lC e9 D X b L xs) (hV : zVok V) (hGm : zGM Gm) (hDm : Gm.2.2.2 = D) (hn : n + 6 ≤ L) (hcs1 : cs.1 + 20 ≤ 1200384) (hcs2 : cs.2 + 1000 ≤ 5488810) {r : Int32} {Sc' Sm' : zSt} (h1 : F_X0_step (xs (n + 1)) (xs (n + 2)) Sc = some (r, Sc')) (h2 : F_X5_step (xs (n + 1)) (xs (n + 2)) Sm = some (r, Sm')) (kk : Zl X Q (cG ad V I D) Gm Sc' Sm' (cs.1 + 10, cs.2 + 410) 2215 (lls b (ad 0) (Gm.1 0) n) []) : Zl X Q (cG ad V I D) Gm Sc Sm cs 508 (lls b (ad 0) (Gm.1 0) n) [] := by
  refine l_aload (pc := 508) hC 1 dL_law_508 rfl rfl ?_
  refine l_arg (pc := 509) (k := 1) hC (by omega) (by decide) rfl rfl dL_law_509 dL_law_510 dL_law_511 dL_law_512 dL_law_513 ?_
  refine l_arg (pc := 514) (k := 2) hC (by omega) (by decide) rfl rfl dL_law_514 dL_law_515 dL_law_516 dL_law_517 dL_law_518 ?_
  refine l_cZ (pc := 519) (idx := 41) [.int (xs (n + 1)), .int (xs (n + 2))] [] hC (ct_X0_step zGC_c _ _ ) 0 h1 rfl mv_X0_step q729 rfl (zGC_s0 zGC_c) rfl (Nat.le_of_ble_eq_true rfl) (Nat.le_of_ble_eq_true rfl) rfl (by show cs.1 + 0 ≤ 1200384; omega) (by show cs.2 + 0 ≤ 5488810; omega) (Nat.le_of_ble_eq_true rfl) dL_law_519 ?_
  change Zl X Q (cG ad V I D) Gm Sc' Sm (cs.1 + 0, cs.2 + 0) 522 (lls b (ad 0) (Gm.1 0) n) [.int r]
  refine l_aload (pc := 522) hC 2 dL_law_522 rfl rfl ?_
  refine l_arg (pc := 523) (k := 1) hC (by omega) (by decide) rfl rfl dL_law_523 dL_law_524 dL_law_525 dL_law_526 dL_law_527 ?_
  refine l_arg (pc := 528) (k := 2) hC (by omega) (by decide) rfl rfl dL_law_528 dL_law_529 dL_law_530 dL_law_531 dL_law_532 ?_
  refine Zl_swap (l_cZ (pc := 533) (idx := 44) [.int (xs (n + 1)), .int (xs (n + 2))] [.int r] hC (ct_X5_step hGm _ _ ) 5 h2 hDm mv_X5_step q1740 rfl (zGM_s0 hGm) rfl (Nat.le_of_ble_eq_true rfl) (Nat.le_of_ble_eq_true rfl) rfl (by show cs.1 + 0 + 0 ≤ 1200384; omega) (by show cs.2 + 0 + 0 ≤ 5488810; omega) (Nat.le_of_ble_eq_true rfl) dL_law_533 (Zl_swap ?_))
  change Zl X Q (cG ad V I D) Gm Sc' Sm' (cs.1 + 0 + 0, cs.2 + 0 + 0) 536 (lls b (ad 0) (Gm.1 0) n) [.int r, .int r]
  refine l_icmp_eq (pc := 536) hC 2215 dL_law_536 rfl rfl ?_
  exact Zl_wide (cs' := (cs.1 + 10, cs.2 + 410)) (by show cs.1 + 0 + 0 ≤ cs.1 + 10; omega) (by show cs.2 + 0 + 0 ≤ cs.2 + 410; omega) (kk)
theorem lop_shut (hC : lC e9 D X b L xs) (hV : zVok V) (hGm : zGM Gm) (hDm : Gm.2.2.2 = D) (hn : n + 6 ≤ L) (hcs1 : cs.1 + 20 ≤ 1200384) (hcs2 : cs.2 + 1000 ≤ 5488810) {r : Int32} {Sc' Sm' : zSt} (h1 : F_X0_shut (xs (n + 1)) (xs (n + 2)) (xs (n + 3)) Sc = some (r, Sc')) (h2 : F_X5_shut (xs (n + 1)) (xs (n + 2)) (xs (n + 3)) Sm = some (r, Sm')) (kk : Zl X Q (cG ad V I D) Gm Sc' Sm' (cs.1 + 10, cs.2 + 410) 2215 (lls b (ad 0) (Gm.1 0) n) []) : Zl X Q (cG ad V I D) Gm Sc Sm cs 541 (lls b (ad 0) (Gm.1 0) n) [] := by
  refine l_aload (pc := 541) hC 1 dL_law_541 rfl rfl ?_
  refine l_arg (pc := 542) (k := 1) hC (by omega) (by decide) rfl rfl dL_law_542 dL_law_543 dL_law_544 dL_law_545 dL_law_546 ?_
  refine l_arg (pc := 547) (k := 2) hC (by omega) (by decide) rfl rfl dL_law_547 dL_law_548 dL_law_549 dL_law_550 dL_law_551 ?_
  refine l_arg (pc := 552) (k := 3) hC (by omega) (by decide) rfl rfl dL_law_552 dL_law_553 dL_law_554 dL_law_555 dL_law_556 ?_
  refine l_cZ (pc := 557) (idx := 45) [.int (xs (n + 1)), .int (xs (n + 2)), .int (xs (n + 3))] [] hC (ct_X0_shut zGC_c _ _ _ ) 0 h1 rfl mv_X0_shut q733 rfl (zGC_s0 zGC_c) rfl (Nat.le_of_ble_eq_true rfl) (Nat.le_of_ble_eq_true rfl) rfl (by show cs.1 + 0 ≤ 1200384; omega) (by show cs.2 + 0 ≤ 5488810; omega) (Nat.le_of_ble_eq_true rfl) dL_law_557 ?_
  change Zl X Q (cG ad V I D) Gm Sc' Sm (cs.1 + 0, cs.2 + 0) 560 (lls b (ad 0) (Gm.1 0) n) [.int r]
  refine l_aload (pc := 560) hC 2 dL_law_560 rfl rfl ?_
  refine l_arg (pc := 561) (k := 1) hC (by omega) (by decide) rfl rfl dL_law_561 dL_law_562 dL_law_563 dL_law_564 dL_law_565 ?_
  refine l_arg (pc := 566) (k := 2) hC (by omega) (by decide) rfl rfl dL_law_566 dL_law_567 dL_law_568 dL_law_569 dL_law_570 ?_
  refine l_arg (pc := 571) (k := 3) hC (by omega) (by decide) rfl rfl dL_law_571 dL_law_572 dL_law_573 dL_law_574 dL_law_575 ?_
  refine Zl_swap (l_cZ (pc := 576) (idx := 49) [.int (xs (n + 1)), .int (xs (n + 2)), .int (xs (n + 3))] [.int r] hC (ct_X5_shut hGm _ _ _ ) 5 h2 hDm mv_X5_shut q1744 rfl (zGM_s0 hGm) rfl (Nat.le_of_ble_eq_true rfl) (Nat.le_of_ble_eq_true rfl) rfl (by show cs.1 + 0 + 0 ≤ 1200384; omega) (by show cs.2 + 0 + 0 ≤ 5488810; omega) (Nat.le_of_ble_eq_true rfl) dL_law_576 (Zl_swap ?_))
  change Zl X Q (cG ad V I D) Gm Sc' Sm' (cs.1 + 0 + 0, cs.2 + 0 + 0) 579 (lls b (ad 0) (Gm.1 0) n) [.int r, .int r]
  refine l_icmp_eq (pc := 579) hC 2215 dL_law_579 rfl rfl ?_
  exact Zl_wide (cs' := (cs.1 + 10, cs.2 + 410)) (by show cs.1 + 0 + 0 ≤ cs.1 + 10; omega) (by show cs.2 + 0 + 0 ≤ cs.2 + 410; omega) (kk)
theorem lop_ways (hC : lC e9 D X b L xs) (hV : zVok V) (hGm : zGM Gm) (hDm : Gm.2.2.2 = D) (hn : n + 6 ≤ L) (hcs1 : cs.1 + 20 ≤ 1200384) (hcs2 : cs.2 + 1000 ≤ 5488810) {r : Int32} {Sc' Sm' : zSt} (h1 : F_X0_ways (xs (n + 1)) Sc = some (r, Sc')) (h2 : F_X5_ways (xs (n + 1)) Sm = some (r, Sm')) (kk : Zl X Q (cG ad V I D) Gm Sc' Sm' (cs.1 + 10, cs.2 + 410) 2215 (lls b (ad 0) (Gm.1 0) n) []) : Zl X Q (cG ad V I D) Gm Sc Sm cs 584 (lls b (ad 0) (Gm.1 0) n) [] := by
  refine l_aload (pc := 584) hC 1 dL_law_584 rfl rfl ?_
  refine l_arg (pc := 585) (k := 1) hC (by omega) (by decide) rfl rfl dL_law_585 dL_law_586 dL_law_587 dL_law_588 dL_law_589 ?_
  refine l_cZ (pc := 590) (idx := 50) [.int (xs (n + 1))] [] hC (ct_X0_ways zGC_c _ ) 0 h1 rfl mv_X0_ways q741 rfl (zGC_s0 zGC_c) rfl (Nat.le_of_ble_eq_true rfl) (Nat.le_of_ble_eq_true rfl) rfl (by show cs.1 + 0 ≤ 1200384; omega) (by show cs.2 + 0 ≤ 5488810; omega) (Nat.le_of_ble_eq_true rfl) dL_law_590 ?_
  change Zl X Q (cG ad V I D) Gm Sc' Sm (cs.1 + 0, cs.2 + 0) 593 (lls b (ad 0) (Gm.1 0) n) [.int r]
  refine l_aload (pc := 593) hC 2 dL_law_593 rfl rfl ?_
  refine l_arg (pc := 594) (k := 1) hC (by omega) (by decide) rfl rfl dL_law_594 dL_law_595 dL_law_596 dL_law_597 dL_law_598 ?_
  refine Zl_swap (l_cZ (pc := 599) (idx := 53) [.int (xs (n + 1))] [.int r] hC (ct_X5_ways hGm _ ) 5 h2 hDm mv_X5_ways q1752 rfl (zGM_s0 hGm) rfl (Nat.le_of_ble_eq_true rfl) (Nat.le_of_ble_eq_true rfl) rfl (by show cs.1 + 0 + 0 ≤ 1200384; omega) (by show cs.2 + 0 + 0 ≤ 5488810; omega) (Nat.le_of_ble_eq_true rfl) dL_law_599 (Zl_swap ?_))
  change Zl X Q (cG ad V I D) Gm Sc' Sm' (cs.1 + 0 + 0, cs.2 + 0 + 0) 602 (lls b (ad 0) (Gm.1 0) n) [.int r, .int r]
  refine l_icmp_eq (pc := 602) hC 2215 dL_law_602 rfl rfl ?_
  exact Zl_wide (cs' := (cs.1 + 10, cs.2 + 410)) (by show cs.1 + 0 + 0 ≤ cs.1 + 10; omega) (by show cs.2 + 0 + 0 ≤ cs.2 + 410; omega) (kk)
theorem lop_opposite (hC : lC e9 D X b L xs) (hV : zVok V) (hGm : zGM Gm) (hDm : Gm.2.2.2 = D) (hn : n + 6 ≤ L) (hcs1 : cs.1 + 20 ≤ 1200384) (hcs2 : cs.2 + 1000 ≤ 5488810) {r : Int32} {Sc' Sm' : zSt} (h1 : F_X0_opposite (xs (n + 1)) Sc = some (r, Sc')) (h2 : F_X5_opposite (xs (n + 1)) Sm = some (r, Sm')) (kk : Zl X Q (cG ad V I D) Gm Sc' Sm' (cs.1 + 10, cs.2 + 410) 2215 (lls b (ad 0) (Gm.1 0) n) []) : Zl X Q (cG ad V I D) Gm Sc Sm cs 607 (lls b (ad 0) (Gm.1 0) n) [] := by
  refine l_aload (pc := 607) hC 1 dL_law_607 rfl rfl ?_
  refine l_arg (pc := 608) (k := 1) hC (by omega) (by decide) rfl rfl dL_law_608 dL_law_609 dL_law_610 dL_law_611 dL_law_612 ?_
  refine l_cZ (pc := 613) (idx := 54) [.int (xs (n + 1))] [] hC (ct_X0_opposite zGC_c _ ) 0 h1 rfl mv_X0_opposite q755 rfl (zGC_s0 zGC_c) rfl (Nat.le_of_ble_eq_true rfl) (Nat.le_of_ble_eq_true rfl) rfl (by show cs.1 + 0 ≤ 1200384; omega) (by show cs.2 + 0 ≤ 5488810; omega) (Nat.le_of_ble_eq_true rfl) dL_law_613 ?_
  change Zl X Q (cG ad V I D) Gm Sc' Sm (cs.1 + 0, cs.2 + 0) 616 (lls b (ad 0) (Gm.1 0) n) [.int r]
  refine l_aload (pc := 616) hC 2 dL_law_616 rfl rfl ?_
  refine l_arg (pc := 617) (k := 1) hC (by omega) (by decide) rfl rfl dL_law_617 dL_law_618 dL_law_619 dL_law_620 dL_law_621 ?_
  refine Zl_swap (l_cZ (pc := 622) (idx := 57) [.int (xs (n + 1))] [.int r] hC (ct_X5_opposite hGm _ ) 5 h2 hDm mv_X5_opposite q1759 rfl (zGM_s0 hGm) rfl (Nat.le_of_ble_eq_true rfl) (Nat.le_of_ble_eq_true rfl) rfl (by show cs.1 + 0 + 0 ≤ 1200384; omega) (by show cs.2 + 0 + 0 ≤ 5488810; omega) (Nat.le_of_ble_eq_true rfl) dL_law_622 (Zl_swap ?_))
  change Zl X Q (cG ad V I D) Gm Sc' Sm' (cs.1 + 0 + 0, cs.2 + 0 + 0) 625 (lls b (ad 0) (Gm.1 0) n) [.int r, .int r]
  refine l_icmp_eq (pc := 625) hC 2215 dL_law_625 rfl rfl ?_
  exact Zl_wide (cs' := (cs.1 + 10, cs.2 + 410)) (by show cs.1 + 0 + 0 ≤ cs.1 + 10; omega) (by show cs.2 + 0 + 0 ≤ cs.2 + 410; omega) (kk)
theorem lop_apart (hC : lC e9 D X b L xs) (hV : zVok V) (hGm : zGM Gm) (hDm : Gm.2.2.2 = D) (hn : n + 6 ≤ L) (hcs1 : cs.1 + 20 ≤ 1200384) (hcs2 : cs.2 + 1000 ≤ 5488810) {r : Int32} {Sc' Sm' : zSt} (h1 : F_X0_apart (xs (n + 1)) (xs (n + 2)) Sc = some (r, Sc')) (h2 : F_X5_apart (xs (n + 1)) (xs (n + 2)) Sm = some (r, Sm')) (kk : Zl X Q (cG ad V I D) Gm Sc' Sm' (cs.1 + 10, cs.2 + 410) 2215 (lls b (ad 0) (Gm.1 0) n) []) : Zl X Q (cG ad V I D) Gm Sc Sm cs 630 (lls b (ad 0) (Gm.1 0) n) [] := by
  refine l_aload (pc := 630) hC 1 dL_law_630 rfl rfl ?_
  refine l_arg (pc := 631) (k := 1) hC (by omega) (by decide) rfl rfl dL_law_631 dL_law_632 dL_law_633 dL_law_634 dL_law_635 ?_
  refine l_arg (pc := 636) (k := 2) hC (by omega) (by decide) rfl rfl dL_law_636 dL_law_637 dL_law_638 dL_law_639 dL_law_640 ?_
  refine l_cZ (pc := 641) (idx := 58) [.int (xs (n + 1)), .int (xs (n + 2))] [] hC (ct_X0_apart zGC_c _ _ ) 0 h1 rfl mv_X0_apart q759 rfl (zGC_s0 zGC_c) rfl (Nat.le_of_ble_eq_true rfl) (Nat.le_of_ble_eq_true rfl) rfl (by show cs.1 + 0 ≤ 1200384; omega) (by show cs.2 + 0 ≤ 5488810; omega) (Nat.le_of_ble_eq_true rfl) dL_law_641 ?_
  change Zl X Q (cG ad V I D) Gm Sc' Sm (cs.1 + 0, cs.2 + 0) 644 (lls b (ad 0) (Gm.1 0) n) [.int r]
  refine l_aload (pc := 644) hC 2 dL_law_644 rfl rfl ?_
  refine l_arg (pc := 645) (k := 1) hC (by omega) (by decide) rfl rfl dL_law_645 dL_law_646 dL_law_647 dL_law_648 dL_law_649 ?_
  refine l_arg (pc := 650) (k := 2) hC (by omega) (by decide) rfl rfl dL_law_650 dL_law_651 dL_law_652 dL_law_653 dL_law_654 ?_
  refine Zl_swap (l_cZ (pc := 655) (idx := 61) [.int (xs (n + 1)), .int (xs (n + 2))] [.int r] hC (ct_X5_apart hGm _ _ ) 5 h2 hDm mv_X5_apart q1763 rfl (zGM_s0 hGm) rfl (Nat.le_of_ble_eq_true rfl) (Nat.le_of_ble_eq_true rfl) rfl (by show cs.1 + 0 + 0 ≤ 1200384; omega) (by show cs.2 + 0 + 0 ≤ 5488810; omega) (Nat.le_of_ble_eq_true rfl) dL_law_655 (Zl_swap ?_))
  change Zl X Q (cG ad V I D) Gm Sc' Sm' (cs.1 + 0 + 0, cs.2 + 0 + 0) 658 (lls b (ad 0) (Gm.1 0) n) [.int r, .int r]
  refine l_icmp_eq (pc := 658) hC 2215 dL_law_658 rfl rfl ?_
  exact Zl_wide (cs' := (cs.1 + 10, cs.2 + 410)) (by show cs.1 + 0 + 0 ≤ cs.1 + 10; omega) (by show cs.2 + 0 + 0 ≤ cs.2 + 410; omega) (kk)
theorem lop_streets (hC : lC e9 D X b L xs) (hV : zVok V) (hGm : zGM Gm) (hDm : Gm.2.2.2 = D) (hn : n + 6 ≤ L) (hcs1 : cs.1 + 20 ≤ 1200384) (hcs2 : cs.2 + 1000 ≤ 5488810) {r : Int32} {Sc' Sm' : zSt} (h1 : F_X0_streets (xs (n + 1)) Sc = some (r, Sc')) (h2 : F_X5_streets (xs (n + 1)) Sm = some (r, Sm')) (kk : Zl X Q (cG ad V I D) Gm Sc' Sm' (cs.1 + 10, cs.2 + 410) 2215 (lls b (ad 0) (Gm.1 0) n) []) : Zl X Q (cG ad V I D) Gm Sc Sm cs 663 (lls b (ad 0) (Gm.1 0) n) [] := by
  refine l_aload (pc := 663) hC 1 dL_law_663 rfl rfl ?_
  refine l_arg (pc := 664) (k := 1) hC (by omega) (by decide) rfl rfl dL_law_664 dL_law_665 dL_law_666 dL_law_667 dL_law_668 ?_
  refine l_cZ (pc := 669) (idx := 62) [.int (xs (n + 1))] [] hC (ct_X0_streets zGC_c _ ) 0 h1 rfl mv_X0_streets q763 rfl (zGC_s0 zGC_c) rfl (Nat.le_of_ble_eq_true rfl) (Nat.le_of_ble_eq_true rfl) rfl (by show cs.1 + 0 ≤ 1200384; omega) (by show cs.2 + 0 ≤ 5488810; omega) (Nat.le_of_ble_eq_true rfl) dL_law_669 ?_
  change Zl X Q (cG ad V I D) Gm Sc' Sm (cs.1 + 0, cs.2 + 0) 672 (lls b (ad 0) (Gm.1 0) n) [.int r]
  refine l_aload (pc := 672) hC 2 dL_law_672 rfl rfl ?_
  refine l_arg (pc := 673) (k := 1) hC (by omega) (by decide) rfl rfl dL_law_673 dL_law_674 dL_law_675 dL_law_676 dL_law_677 ?_
  refine Zl_swap (l_cZ (pc := 678) (idx := 65) [.int (xs (n + 1))] [.int r] hC (ct_X5_streets hGm _ ) 5 h2 hDm mv_X5_streets q1767 rfl (zGM_s0 hGm) rfl (Nat.le_of_ble_eq_true rfl) (Nat.le_of_ble_eq_true rfl) rfl (by show cs.1 + 0 + 0 ≤ 1200384; omega) (by show cs.2 + 0 + 0 ≤ 5488810; omega) (Nat.le_of_ble_eq_true rfl) dL_law_678 (Zl_swap ?_))
  change Zl X Q (cG ad V I D) Gm Sc' Sm' (cs.1 + 0 + 0, cs.2 + 0 + 0) 681 (lls b (ad 0) (Gm.1 0) n) [.int r, .int r]
  refine l_icmp_eq (pc := 681) hC 2215 dL_law_681 rfl rfl ?_
  exact Zl_wide (cs' := (cs.1 + 10, cs.2 + 410)) (by show cs.1 + 0 + 0 ≤ cs.1 + 10; omega) (by show cs.2 + 0 + 0 ≤ cs.2 + 410; omega) (kk)
theorem lop_far (hC : lC e9 D X b L xs) (hV : zVok V) (hGm : zGM Gm) (hDm : Gm.2.2.2 = D) (hn : n + 6 ≤ L) (hcs1 : cs.1 + 20 ≤ 1200384) (hcs2 : cs.2 + 1000 ≤ 5488810) {r : Int32} {Sc' Sm' : zSt} (h1 : F_X0_far (xs (n + 1)) (xs (n + 2)) Sc = some (r, Sc')) (h2 : F_X5_far (xs (n + 1)) (xs (n + 2)) Sm = some (r, Sm')) (kk : Zl X Q (cG ad V I D) Gm Sc' Sm' (cs.1 + 10, cs.2 + 410) 2215 (lls b (ad 0) (Gm.1 0) n) []) : Zl X Q (cG ad V I D) Gm Sc Sm cs 686 (lls b (ad 0) (Gm.1 0) n) [] := by
  refine l_aload (pc := 686) hC 1 dL_law_686 rfl rfl ?_
  refine l_arg (pc := 687) (k := 1) hC (by omega) (by decide) rfl rfl dL_law_687 dL_law_688 dL_law_689 dL_law_690 dL_law_691 ?_
  refine l_arg (pc := 692) (k := 2) hC (by omega) (by decide) rfl rfl dL_law_692 dL_law_693 dL_law_694 dL_law_695 dL_law_696 ?_
  refine l_cZ (pc := 697) (idx := 66) [.int (xs (n + 1)), .int (xs (n + 2))] [] hC (ct_X0_far zGC_c _ _ ) 0 h1 rfl mv_X0_far q768 rfl (zGC_s0 zGC_c) rfl (Nat.le_of_ble_eq_true rfl) (Nat.le_of_ble_eq_true rfl) rfl (by show cs.1 + 0 ≤ 1200384; omega) (by show cs.2 + 0 ≤ 5488810; omega) (Nat.le_of_ble_eq_true rfl) dL_law_697 ?_
  change Zl X Q (cG ad V I D) Gm Sc' Sm (cs.1 + 0, cs.2 + 0) 700 (lls b (ad 0) (Gm.1 0) n) [.int r]
  refine l_aload (pc := 700) hC 2 dL_law_700 rfl rfl ?_
  refine l_arg (pc := 701) (k := 1) hC (by omega) (by decide) rfl rfl dL_law_701 dL_law_702 dL_law_703 dL_law_704 dL_law_705 ?_
  refine l_arg (pc := 706) (k := 2) hC (by omega) (by decide) rfl rfl dL_law_706 dL_law_707 dL_law_708 dL_law_709 dL_law_710 ?_
  refine Zl_swap (l_cZ (pc := 711) (idx := 69) [.int (xs (n + 1)), .int (xs (n + 2))] [.int r] hC (ct_X5_far hGm _ _ ) 5 h2 hDm mv_X5_far q1775 rfl (zGM_s0 hGm) rfl (Nat.le_of_ble_eq_true rfl) (Nat.le_of_ble_eq_true rfl) rfl (by show cs.1 + 0 + 0 ≤ 1200384; omega) (by show cs.2 + 0 + 0 ≤ 5488810; omega) (Nat.le_of_ble_eq_true rfl) dL_law_711 (Zl_swap ?_))
  change Zl X Q (cG ad V I D) Gm Sc' Sm' (cs.1 + 0 + 0, cs.2 + 0 + 0) 714 (lls b (ad 0) (Gm.1 0) n) [.int r, .int r]
  refine l_icmp_eq (pc := 714) hC 2215 dL_law_714 rfl rfl ?_
  exact Zl_wide (cs' := (cs.1 + 10, cs.2 + 410)) (by show cs.1 + 0 + 0 ≤ cs.1 + 10; omega) (by show cs.2 + 0 + 0 ≤ cs.2 + 410; omega) (kk)
theorem lop_many (hC : lC e9 D X b L xs) (hV : zVok V) (hGm : zGM Gm) (hDm : Gm.2.2.2 = D) (hn : n + 6 ≤ L) (hcs1 : cs.1 + 20 ≤ 1200384) (hcs2 : cs.2 + 1000 ≤ 5488810) {r : Int32} {Sc' Sm' : zSt} (h1 : F_X0_many (xs (n + 1)) (xs (n + 2)) Sc = some (r, Sc')) (h2 : F_X5_many (xs (n + 1)) (xs (n + 2)) Sm = some (r, Sm')) (kk : Zl X Q (cG ad V I D) Gm Sc' Sm' (cs.1 + 10, cs.2 + 410) 2215 (lls b (ad 0) (Gm.1 0) n) []) : Zl X Q (cG ad V I D) Gm Sc Sm cs 719 (lls b (ad 0) (Gm.1 0) n) [] := by
  refine l_aload (pc := 719) hC 1 dL_law_719 rfl rfl ?_
  refine l_arg (pc := 720) (k := 1) hC (by omega) (by decide) rfl rfl dL_law_720 dL_law_721 dL_law_722 dL_law_723 dL_law_724 ?_
  refine l_arg (pc := 725) (k := 2) hC (by omega) (by decide) rfl rfl dL_law_725 dL_law_726 dL_law_727 dL_law_728 dL_law_729 ?_
  refine l_cZ (pc := 730) (idx := 70) [.int (xs (n + 1)), .int (xs (n + 2))] [] hC (ct_X0_many zGC_c _ _ ) 0 h1 rfl mv_X0_many q793 rfl (zGC_s0 zGC_c) rfl (Nat.le_of_ble_eq_true rfl) (Nat.le_of_ble_eq_true rfl) rfl (by show cs.1 + 0 ≤ 1200384; omega) (by show cs.2 + 0 ≤ 5488810; omega) (Nat.le_of_ble_eq_true rfl) dL_law_730 ?_
  change Zl X Q (cG ad V I D) Gm Sc' Sm (cs.1 + 0, cs.2 + 0) 733 (lls b (ad 0) (Gm.1 0) n) [.int r]
  refine l_aload (pc := 733) hC 2 dL_law_733 rfl rfl ?_
  refine l_arg (pc := 734) (k := 1) hC (by omega) (by decide) rfl rfl dL_law_734 dL_law_735 dL_law_736 dL_law_737 dL_law_738 ?_
  refine l_arg (pc := 739) (k := 2) hC (by omega) (by decide) rfl rfl dL_law_739 dL_law_740 dL_law_741 dL_law_742 dL_law_743 ?_
  refine Zl_swap (l_cZ (pc := 744) (idx := 73) [.int (xs (n + 1)), .int (xs (n + 2))] [.int r] hC (ct_X5_many hGm _ _ ) 5 h2 hDm mv_X5_many q1783 rfl (zGM_s0 hGm) rfl (Nat.le_of_ble_eq_true rfl) (Nat.le_of_ble_eq_true rfl) rfl (by show cs.1 + 0 + 0 ≤ 1200384; omega) (by show cs.2 + 0 + 0 ≤ 5488810; omega) (Nat.le_of_ble_eq_true rfl) dL_law_744 (Zl_swap ?_))
  change Zl X Q (cG ad V I D) Gm Sc' Sm' (cs.1 + 0 + 0, cs.2 + 0 + 0) 747 (lls b (ad 0) (Gm.1 0) n) [.int r, .int r]
  refine l_icmp_eq (pc := 747) hC 2215 dL_law_747 rfl rfl ?_
  exact Zl_wide (cs' := (cs.1 + 10, cs.2 + 410)) (by show cs.1 + 0 + 0 ≤ cs.1 + 10; omega) (by show cs.2 + 0 + 0 ≤ cs.2 + 410; omega) (kk)
theorem lop_goes (hC : lC e9 D X b L xs) (hV : zVok V) (hGm : zGM Gm) (hDm : Gm.2.2.2 = D) (hn : n + 6 ≤ L) (hcs1 : cs.1 + 20 ≤ 1200384) (hcs2 : cs.2 + 1000 ≤ 5488810) {r : Int32} {Sc' Sm' : zSt} (h1 : F_X0_goes (xs (n + 1)) (xs (n + 2)) (xs (n + 3)) Sc = some (r, Sc')) (h2 : F_X5_goes (xs (n + 1)) (xs (n + 2)) (xs (n + 3)) Sm = some (r, Sm')) (kk : Zl X Q (cG ad V I D) Gm Sc' Sm' (cs.1 + 10, cs.2 + 410) 2215 (lls b (ad 0) (Gm.1 0) n) []) : Zl X Q (cG ad V I D) Gm Sc Sm cs 752 (lls b (ad 0) (Gm.1 0) n) [] := by
  refine l_aload (pc := 752) hC 1 dL_law_752 rfl rfl ?_
  refine l_arg (pc := 753) (k := 1) hC (by omega) (by decide) rfl rfl dL_law_753 dL_law_754 dL_law_755 dL_law_756 dL_law_757 ?_
  refine l_arg (pc := 758) (k := 2) hC (by omega) (by decide) rfl rfl dL_law_758 dL_law_759 dL_law_760 dL_law_761 dL_law_762 ?_
  refine l_arg (pc := 763) (k := 3) hC (by omega) (by decide) rfl rfl dL_law_763 dL_law_764 dL_law_765 dL_law_766 dL_law_767 ?_
  refine l_cZ (pc := 768) (idx := 74) [.int (xs (n + 1)), .int (xs (n + 2)), .int (xs (n + 3))] [] hC (ct_X0_goes zGC_c _ _ _ ) 0 h1 rfl mv_X0_goes q798 rfl (zGC_s0 zGC_c) rfl (Nat.le_of_ble_eq_true rfl) (Nat.le_of_ble_eq_true rfl) rfl (by show cs.1 + 0 ≤ 1200384; omega) (by show cs.2 + 0 ≤ 5488810; omega) (Nat.le_of_ble_eq_true rfl) dL_law_768 ?_
  change Zl X Q (cG ad V I D) Gm Sc' Sm (cs.1 + 0, cs.2 + 0) 771 (lls b (ad 0) (Gm.1 0) n) [.int r]
  refine l_aload (pc := 771) hC 2 dL_law_771 rfl rfl ?_
  refine l_arg (pc := 772) (k := 1) hC (by omega) (by decide) rfl rfl dL_law_772 dL_law_773 dL_law_774 dL_law_775 dL_law_776 ?_
  refine l_arg (pc := 777) (k := 2) hC (by omega) (by decide) rfl rfl dL_law_777 dL_law_778 dL_law_779 dL_law_780 dL_law_781 ?_
  refine l_arg (pc := 782) (k := 3) hC (by omega) (by decide) rfl rfl dL_law_782 dL_law_783 dL_law_784 dL_law_785 dL_law_786 ?_
  refine Zl_swap (l_cZ (pc := 787) (idx := 77) [.int (xs (n + 1)), .int (xs (n + 2)), .int (xs (n + 3))] [.int r] hC (ct_X5_goes hGm _ _ _ ) 5 h2 hDm mv_X5_goes q1787 rfl (zGM_s0 hGm) rfl (Nat.le_of_ble_eq_true rfl) (Nat.le_of_ble_eq_true rfl) rfl (by show cs.1 + 0 + 0 ≤ 1200384; omega) (by show cs.2 + 0 + 0 ≤ 5488810; omega) (Nat.le_of_ble_eq_true rfl) dL_law_787 (Zl_swap ?_))
  change Zl X Q (cG ad V I D) Gm Sc' Sm' (cs.1 + 0 + 0, cs.2 + 0 + 0) 790 (lls b (ad 0) (Gm.1 0) n) [.int r, .int r]
  refine l_icmp_eq (pc := 790) hC 2215 dL_law_790 rfl rfl ?_
  exact Zl_wide (cs' := (cs.1 + 10, cs.2 + 410)) (by show cs.1 + 0 + 0 ≤ cs.1 + 10; omega) (by show cs.2 + 0 + 0 ≤ cs.2 + 410; omega) (kk)
theorem lop_led (hC : lC e9 D X b L xs) (hV : zVok V) (hGm : zGM Gm) (hDm : Gm.2.2.2 = D) (hn : n + 6 ≤ L) (hcs1 : cs.1 + 20 ≤ 1200384) (hcs2 : cs.2 + 1000 ≤ 5488810) {r : Int32} {Sc' Sm' : zSt} (h1 : F_X0_led (xs (n + 1)) (xs (n + 2)) (xs (n + 3)) Sc = some (r, Sc')) (h2 : F_X5_led (xs (n + 1)) (xs (n + 2)) (xs (n + 3)) Sm = some (r, Sm')) (kk : Zl X Q (cG ad V I D) Gm Sc' Sm' (cs.1 + 10, cs.2 + 410) 2215 (lls b (ad 0) (Gm.1 0) n) []) : Zl X Q (cG ad V I D) Gm Sc Sm cs 795 (lls b (ad 0) (Gm.1 0) n) [] := by
  refine l_aload (pc := 795) hC 1 dL_law_795 rfl rfl ?_
  refine l_arg (pc := 796) (k := 1) hC (by omega) (by decide) rfl rfl dL_law_796 dL_law_797 dL_law_798 dL_law_799 dL_law_800 ?_
  refine l_arg (pc := 801) (k := 2) hC (by omega) (by decide) rfl rfl dL_law_801 dL_law_802 dL_law_803 dL_law_804 dL_law_805 ?_
  refine l_arg (pc := 806) (k := 3) hC (by omega) (by decide) rfl rfl dL_law_806 dL_law_807 dL_law_808 dL_law_809 dL_law_810 ?_
  refine l_cZ (pc := 811) (idx := 78) [.int (xs (n + 1)), .int (xs (n + 2)), .int (xs (n + 3))] [] hC (ct_X0_led zGC_c _ _ _ ) 0 h1 rfl mv_X0_led q806 rfl (zGC_s0 zGC_c) rfl (Nat.le_of_ble_eq_true rfl) (Nat.le_of_ble_eq_true rfl) rfl (by show cs.1 + 0 ≤ 1200384; omega) (by show cs.2 + 0 ≤ 5488810; omega) (Nat.le_of_ble_eq_true rfl) dL_law_811 ?_
  change Zl X Q (cG ad V I D) Gm Sc' Sm (cs.1 + 0, cs.2 + 0) 814 (lls b (ad 0) (Gm.1 0) n) [.int r]
  refine l_aload (pc := 814) hC 2 dL_law_814 rfl rfl ?_
  refine l_arg (pc := 815) (k := 1) hC (by omega) (by decide) rfl rfl dL_law_815 dL_law_816 dL_law_817 dL_law_818 dL_law_819 ?_
  refine l_arg (pc := 820) (k := 2) hC (by omega) (by decide) rfl rfl dL_law_820 dL_law_821 dL_law_822 dL_law_823 dL_law_824 ?_
  refine l_arg (pc := 825) (k := 3) hC (by omega) (by decide) rfl rfl dL_law_825 dL_law_826 dL_law_827 dL_law_828 dL_law_829 ?_
  refine Zl_swap (l_cZ (pc := 830) (idx := 81) [.int (xs (n + 1)), .int (xs (n + 2)), .int (xs (n + 3))] [.int r] hC (ct_X5_led hGm _ _ _ ) 5 h2 hDm mv_X5_led q1799 rfl (zGM_s0 hGm) rfl (Nat.le_of_ble_eq_true rfl) (Nat.le_of_ble_eq_true rfl) rfl (by show cs.1 + 0 + 0 ≤ 1200384; omega) (by show cs.2 + 0 + 0 ≤ 5488810; omega) (Nat.le_of_ble_eq_true rfl) dL_law_830 (Zl_swap ?_))
  change Zl X Q (cG ad V I D) Gm Sc' Sm' (cs.1 + 0 + 0, cs.2 + 0 + 0) 833 (lls b (ad 0) (Gm.1 0) n) [.int r, .int r]
  refine l_icmp_eq (pc := 833) hC 2215 dL_law_833 rfl rfl ?_
  exact Zl_wide (cs' := (cs.1 + 10, cs.2 + 410)) (by show cs.1 + 0 + 0 ≤ cs.1 + 10; omega) (by show cs.2 + 0 + 0 ≤ cs.2 + 410; omega) (kk)
theorem lop_farthest (hC : lC e9 D X b L xs) (hV : zVok V) (hGm : zGM Gm) (hDm : Gm.2.2.2 = D) (hn : n + 6 ≤ L) (hcs1 : cs.1 + 20 ≤ 1200384) (hcs2 : cs.2 + 1000 ≤ 5488810) {r : Int32} {Sc' Sm' : zSt} (h1 : F_X0_farthest (xs (n + 1)) (xs (n + 2)) Sc = some (r, Sc')) (h2 : F_X5_farthest (xs (n + 1)) (xs (n + 2)) Sm = some (r, Sm')) (kk : Zl X Q (cG ad V I D) Gm Sc' Sm' (cs.1 + 10, cs.2 + 410) 2215 (lls b (ad 0) (Gm.1 0) n) []) : Zl X Q (cG ad V I D) Gm Sc Sm cs 838 (lls b (ad 0) (Gm.1 0) n) [] := by
  refine l_aload (pc := 838) hC 1 dL_law_838 rfl rfl ?_
  refine l_arg (pc := 839) (k := 1) hC (by omega) (by decide) rfl rfl dL_law_839 dL_law_840 dL_law_841 dL_law_842 dL_law_843 ?_
  refine l_arg (pc := 844) (k := 2) hC (by omega) (by decide) rfl rfl dL_law_844 dL_law_845 dL_law_846 dL_law_847 dL_law_848 ?_
  refine l_cZ (pc := 849) (idx := 82) [.int (xs (n + 1)), .int (xs (n + 2))] [] hC (ct_X0_farthest zGC_c _ _ ) 0 h1 rfl mv_X0_farthest q819 rfl (zGC_s0 zGC_c) rfl (Nat.le_of_ble_eq_true rfl) (Nat.le_of_ble_eq_true rfl) rfl (by show cs.1 + 0 ≤ 1200384; omega) (by show cs.2 + 0 ≤ 5488810; omega) (Nat.le_of_ble_eq_true rfl) dL_law_849 ?_
  change Zl X Q (cG ad V I D) Gm Sc' Sm (cs.1 + 0, cs.2 + 0) 852 (lls b (ad 0) (Gm.1 0) n) [.int r]
  refine l_aload (pc := 852) hC 2 dL_law_852 rfl rfl ?_
  refine l_arg (pc := 853) (k := 1) hC (by omega) (by decide) rfl rfl dL_law_853 dL_law_854 dL_law_855 dL_law_856 dL_law_857 ?_
  refine l_arg (pc := 858) (k := 2) hC (by omega) (by decide) rfl rfl dL_law_858 dL_law_859 dL_law_860 dL_law_861 dL_law_862 ?_
  refine Zl_swap (l_cZ (pc := 863) (idx := 85) [.int (xs (n + 1)), .int (xs (n + 2))] [.int r] hC (ct_X5_farthest hGm _ _ ) 5 h2 hDm mv_X5_farthest q1807 rfl (zGM_s0 hGm) rfl (Nat.le_of_ble_eq_true rfl) (Nat.le_of_ble_eq_true rfl) rfl (by show cs.1 + 0 + 0 ≤ 1200384; omega) (by show cs.2 + 0 + 0 ≤ 5488810; omega) (Nat.le_of_ble_eq_true rfl) dL_law_863 (Zl_swap ?_))
  change Zl X Q (cG ad V I D) Gm Sc' Sm' (cs.1 + 0 + 0, cs.2 + 0 + 0) 866 (lls b (ad 0) (Gm.1 0) n) [.int r, .int r]
  refine l_icmp_eq (pc := 866) hC 2215 dL_law_866 rfl rfl ?_
  exact Zl_wide (cs' := (cs.1 + 10, cs.2 + 410)) (by show cs.1 + 0 + 0 ≤ cs.1 + 10; omega) (by show cs.2 + 0 + 0 ≤ cs.2 + 410; omega) (kk)
theorem lop_width (hC : lC e9 D X b L xs) (hV : zVok V) (hGm : zGM Gm) (hDm : Gm.2.2.2 = D) (hn : n + 6 ≤ L) (hcs1 : cs.1 + 20 ≤ 1200384) (hcs2 : cs.2 + 1000 ≤ 5488810) {r : Int32} {Sc' Sm' : zSt} (h1 : F_X0_width  Sc = some (r, Sc')) (h2 : F_X5_width  Sm = some (r, Sm')) (kk : Zl X Q (cG ad V I D) Gm Sc' Sm' (cs.1 + 10, cs.2 + 410) 2215 (lls b (ad 0) (Gm.1 0) n) []) : Zl X Q (cG ad V I D) Gm Sc Sm cs 871 (lls b (ad 0) (Gm.1 0) n) [] := by
  refine l_aload (pc := 871) hC 1 dL_law_871 rfl rfl ?_
  refine l_cZ (pc := 872) (idx := 86) [] [] hC (ct_X0_width zGC_c ) 0 h1 rfl mv_X0_width q823 rfl (zGC_s0 zGC_c) rfl (Nat.le_of_ble_eq_true rfl) (Nat.le_of_ble_eq_true rfl) rfl (by show cs.1 + 0 ≤ 1200384; omega) (by show cs.2 + 0 ≤ 5488810; omega) (Nat.le_of_ble_eq_true rfl) dL_law_872 ?_
  change Zl X Q (cG ad V I D) Gm Sc' Sm (cs.1 + 0, cs.2 + 0) 875 (lls b (ad 0) (Gm.1 0) n) [.int r]
  refine l_aload (pc := 875) hC 2 dL_law_875 rfl rfl ?_
  refine Zl_swap (l_cZ (pc := 876) (idx := 89) [] [.int r] hC (ct_X5_width hGm ) 5 h2 hDm mv_X5_width q1811 rfl (zGM_s0 hGm) rfl (Nat.le_of_ble_eq_true rfl) (Nat.le_of_ble_eq_true rfl) rfl (by show cs.1 + 0 + 0 ≤ 1200384; omega) (by show cs.2 + 0 + 0 ≤ 5488810; omega) (Nat.le_of_ble_eq_true rfl) dL_law_876 (Zl_swap ?_))
  change Zl X Q (cG ad V I D) Gm Sc' Sm' (cs.1 + 0 + 0, cs.2 + 0 + 0) 879 (lls b (ad 0) (Gm.1 0) n) [.int r, .int r]
  refine l_icmp_eq (pc := 879) hC 2215 dL_law_879 rfl rfl ?_
  exact Zl_wide (cs' := (cs.1 + 10, cs.2 + 410)) (by show cs.1 + 0 + 0 ≤ cs.1 + 10; omega) (by show cs.2 + 0 + 0 ≤ cs.2 + 410; omega) (kk)
theorem lop_within (hC : lC e9 D X b L xs) (hV : zVok V) (hGm : zGM Gm) (hDm : Gm.2.2.2 = D) (hn : n + 6 ≤ L) (hcs1 : cs.1 + 20 ≤ 1200384) (hcs2 : cs.2 + 1000 ≤ 5488810) {r : Int32} {Sc' Sm' : zSt} (h1 : F_X0_within (xs (n + 1)) (xs (n + 2)) Sc = some (r, Sc')) (h2 : F_X5_within (xs (n + 1)) (xs (n + 2)) Sm = some (r, Sm')) (kk : Zl X Q (cG ad V I D) Gm Sc' Sm' (cs.1 + 10, cs.2 + 410) 2215 (lls b (ad 0) (Gm.1 0) n) []) : Zl X Q (cG ad V I D) Gm Sc Sm cs 884 (lls b (ad 0) (Gm.1 0) n) [] := by
  refine l_aload (pc := 884) hC 1 dL_law_884 rfl rfl ?_
  refine l_arg (pc := 885) (k := 1) hC (by omega) (by decide) rfl rfl dL_law_885 dL_law_886 dL_law_887 dL_law_888 dL_law_889 ?_
  refine l_arg (pc := 890) (k := 2) hC (by omega) (by decide) rfl rfl dL_law_890 dL_law_891 dL_law_892 dL_law_893 dL_law_894 ?_
  refine l_cZ (pc := 895) (idx := 90) [.int (xs (n + 1)), .int (xs (n + 2))] [] hC (ct_X0_within zGC_c _ _ ) 0 h1 rfl mv_X0_within q835 rfl (zGC_s0 zGC_c) rfl (Nat.le_of_ble_eq_true rfl) (Nat.le_of_ble_eq_true rfl) rfl (by show cs.1 + 0 ≤ 1200384; omega) (by show cs.2 + 0 ≤ 5488810; omega) (Nat.le_of_ble_eq_true rfl) dL_law_895 ?_
  change Zl X Q (cG ad V I D) Gm Sc' Sm (cs.1 + 0, cs.2 + 0) 898 (lls b (ad 0) (Gm.1 0) n) [.int r]
  refine l_aload (pc := 898) hC 2 dL_law_898 rfl rfl ?_
  refine l_arg (pc := 899) (k := 1) hC (by omega) (by decide) rfl rfl dL_law_899 dL_law_900 dL_law_901 dL_law_902 dL_law_903 ?_
  refine l_arg (pc := 904) (k := 2) hC (by omega) (by decide) rfl rfl dL_law_904 dL_law_905 dL_law_906 dL_law_907 dL_law_908 ?_
  refine Zl_swap (l_cZ (pc := 909) (idx := 93) [.int (xs (n + 1)), .int (xs (n + 2))] [.int r] hC (ct_X5_within hGm _ _ ) 5 h2 hDm mv_X5_within q1815 rfl (zGM_s0 hGm) rfl (Nat.le_of_ble_eq_true rfl) (Nat.le_of_ble_eq_true rfl) rfl (by show cs.1 + 0 + 0 ≤ 1200384; omega) (by show cs.2 + 0 + 0 ≤ 5488810; omega) (Nat.le_of_ble_eq_true rfl) dL_law_909 (Zl_swap ?_))
  change Zl X Q (cG ad V I D) Gm Sc' Sm' (cs.1 + 0 + 0, cs.2 + 0 + 0) 912 (lls b (ad 0) (Gm.1 0) n) [.int r, .int r]
  refine l_icmp_eq (pc := 912) hC 2215 dL_law_912 rfl rfl ?_
  exact Zl_wide (cs' := (cs.1 + 10, cs.2 + 410)) (by show cs.1 + 0 + 0 ≤ cs.1 + 10; omega) (by show cs.2 + 0 + 0 ≤ cs.2 + 410; omega) (kk)
theorem lop_apartWays (hC : lC e9 D X b L xs) (hV : zVok V) (hGm : zGM Gm) (hDm : Gm.2.2.2 = D) (hn : n + 6 ≤ L) (hcs1 : cs.1 + 20 ≤ 1200384) (hcs2 : cs.2 + 1000 ≤ 5488810) {r : Int32} {Sc' Sm' : zSt} (h1 : F_X0_apartWays (xs (n + 1)) (xs (n + 2)) (xs (n + 3)) Sc = some (r, Sc')) (h2 : F_X5_apartWays (xs (n + 1)) (xs (n + 2)) (xs (n + 3)) Sm = some (r, Sm')) (kk : Zl X Q (cG ad V I D) Gm Sc' Sm' (cs.1 + 10, cs.2 + 410) 2215 (lls b (ad 0) (Gm.1 0) n) []) : Zl X Q (cG ad V I D) Gm Sc Sm cs 917 (lls b (ad 0) (Gm.1 0) n) [] := by
  refine l_aload (pc := 917) hC 1 dL_law_917 rfl rfl ?_
  refine l_arg (pc := 918) (k := 1) hC (by omega) (by decide) rfl rfl dL_law_918 dL_law_919 dL_law_920 dL_law_921 dL_law_922 ?_
  refine l_arg (pc := 923) (k := 2) hC (by omega) (by decide) rfl rfl dL_law_923 dL_law_924 dL_law_925 dL_law_926 dL_law_927 ?_
  refine l_arg (pc := 928) (k := 3) hC (by omega) (by decide) rfl rfl dL_law_928 dL_law_929 dL_law_930 dL_law_931 dL_law_932 ?_
  refine l_cZ (pc := 933) (idx := 94) [.int (xs (n + 1)), .int (xs (n + 2)), .int (xs (n + 3))] [] hC (ct_X0_apartWays zGC_c _ _ _ ) 0 h1 rfl mv_X0_apartWays q839 rfl (zGC_s0 zGC_c) rfl (Nat.le_of_ble_eq_true rfl) (Nat.le_of_ble_eq_true rfl) rfl (by show cs.1 + 0 ≤ 1200384; omega) (by show cs.2 + 0 ≤ 5488810; omega) (Nat.le_of_ble_eq_true rfl) dL_law_933 ?_
  change Zl X Q (cG ad V I D) Gm Sc' Sm (cs.1 + 0, cs.2 + 0) 936 (lls b (ad 0) (Gm.1 0) n) [.int r]
  refine l_aload (pc := 936) hC 2 dL_law_936 rfl rfl ?_
  refine l_arg (pc := 937) (k := 1) hC (by omega) (by decide) rfl rfl dL_law_937 dL_law_938 dL_law_939 dL_law_940 dL_law_941 ?_
  refine l_arg (pc := 942) (k := 2) hC (by omega) (by decide) rfl rfl dL_law_942 dL_law_943 dL_law_944 dL_law_945 dL_law_946 ?_
  refine l_arg (pc := 947) (k := 3) hC (by omega) (by decide) rfl rfl dL_law_947 dL_law_948 dL_law_949 dL_law_950 dL_law_951 ?_
  refine Zl_swap (l_cZ (pc := 952) (idx := 97) [.int (xs (n + 1)), .int (xs (n + 2)), .int (xs (n + 3))] [.int r] hC (ct_X5_apartWays hGm _ _ _ ) 5 h2 hDm mv_X5_apartWays q1819 rfl (zGM_s0 hGm) rfl (Nat.le_of_ble_eq_true rfl) (Nat.le_of_ble_eq_true rfl) rfl (by show cs.1 + 0 + 0 ≤ 1200384; omega) (by show cs.2 + 0 + 0 ≤ 5488810; omega) (Nat.le_of_ble_eq_true rfl) dL_law_952 (Zl_swap ?_))
  change Zl X Q (cG ad V I D) Gm Sc' Sm' (cs.1 + 0 + 0, cs.2 + 0 + 0) 955 (lls b (ad 0) (Gm.1 0) n) [.int r, .int r]
  refine l_icmp_eq (pc := 955) hC 2215 dL_law_955 rfl rfl ?_
  exact Zl_wide (cs' := (cs.1 + 10, cs.2 + 410)) (by show cs.1 + 0 + 0 ≤ cs.1 + 10; omega) (by show cs.2 + 0 + 0 ≤ cs.2 + 410; omega) (kk)
theorem lop_side (hC : lC e9 D X b L xs) (hV : zVok V) (hGm : zGM Gm) (hDm : Gm.2.2.2 = D) (hn : n + 6 ≤ L) (hcs1 : cs.1 + 20 ≤ 1200384) (hcs2 : cs.2 + 1000 ≤ 5488810) {r : Int32} {Sc' Sm' : zSt} (h1 : F_X0_side (xs (n + 1)) (xs (n + 2)) Sc = some (r, Sc')) (h2 : F_X5_side (xs (n + 1)) (xs (n + 2)) Sm = some (r, Sm')) (kk : Zl X Q (cG ad V I D) Gm Sc' Sm' (cs.1 + 10, cs.2 + 410) 2215 (lls b (ad 0) (Gm.1 0) n) []) : Zl X Q (cG ad V I D) Gm Sc Sm cs 960 (lls b (ad 0) (Gm.1 0) n) [] := by
  refine l_aload (pc := 960) hC 1 dL_law_960 rfl rfl ?_
  refine l_arg (pc := 961) (k := 1) hC (by omega) (by decide) rfl rfl dL_law_961 dL_law_962 dL_law_963 dL_law_964 dL_law_965 ?_
  refine l_arg (pc := 966) (k := 2) hC (by omega) (by decide) rfl rfl dL_law_966 dL_law_967 dL_law_968 dL_law_969 dL_law_970 ?_
  refine l_cZ (pc := 971) (idx := 98) [.int (xs (n + 1)), .int (xs (n + 2))] [] hC (ct_X0_side zGC_c _ _ ) 0 h1 rfl mv_X0_side q891 rfl (zGC_s0 zGC_c) rfl (Nat.le_of_ble_eq_true rfl) (Nat.le_of_ble_eq_true rfl) rfl (by show cs.1 + 0 ≤ 1200384; omega) (by show cs.2 + 0 ≤ 5488810; omega) (Nat.le_of_ble_eq_true rfl) dL_law_971 ?_
  change Zl X Q (cG ad V I D) Gm Sc' Sm (cs.1 + 0, cs.2 + 0) 974 (lls b (ad 0) (Gm.1 0) n) [.int r]
  refine l_aload (pc := 974) hC 2 dL_law_974 rfl rfl ?_
  refine l_arg (pc := 975) (k := 1) hC (by omega) (by decide) rfl rfl dL_law_975 dL_law_976 dL_law_977 dL_law_978 dL_law_979 ?_
  refine l_arg (pc := 980) (k := 2) hC (by omega) (by decide) rfl rfl dL_law_980 dL_law_981 dL_law_982 dL_law_983 dL_law_984 ?_
  refine Zl_swap (l_cZ (pc := 985) (idx := 101) [.int (xs (n + 1)), .int (xs (n + 2))] [.int r] hC (ct_X5_side hGm _ _ ) 5 h2 hDm mv_X5_side q1847 rfl (zGM_s0 hGm) rfl (Nat.le_of_ble_eq_true rfl) (Nat.le_of_ble_eq_true rfl) rfl (by show cs.1 + 0 + 0 ≤ 1200384; omega) (by show cs.2 + 0 + 0 ≤ 5488810; omega) (Nat.le_of_ble_eq_true rfl) dL_law_985 (Zl_swap ?_))
  change Zl X Q (cG ad V I D) Gm Sc' Sm' (cs.1 + 0 + 0, cs.2 + 0 + 0) 988 (lls b (ad 0) (Gm.1 0) n) [.int r, .int r]
  refine l_icmp_eq (pc := 988) hC 2215 dL_law_988 rfl rfl ?_
  exact Zl_wide (cs' := (cs.1 + 10, cs.2 + 410)) (by show cs.1 + 0 + 0 ≤ cs.1 + 10; omega) (by show cs.2 + 0 + 0 ≤ cs.2 + 410; omega) (kk)
theorem lop_parts (hC : lC e9 D X b L xs) (hV : zVok V) (hGm : zGM Gm) (hDm : Gm.2.2.2 = D) (hn : n + 6 ≤ L) (hcs1 : cs.1 + 20 ≤ 1200384) (hcs2 : cs.2 + 1000 ≤ 5488810) {r : Int32} {Sc' Sm' : zSt} (h1 : F_X0_parts  Sc = some (r, Sc')) (h2 : F_X5_parts  Sm = some (r, Sm')) (kk : Zl X Q (cG ad V I D) Gm Sc' Sm' (cs.1 + 10, cs.2 + 410) 2215 (lls b (ad 0) (Gm.1 0) n) []) : Zl X Q (cG ad V I D) Gm Sc Sm cs 993 (lls b (ad 0) (Gm.1 0) n) [] := by
  refine l_aload (pc := 993) hC 1 dL_law_993 rfl rfl ?_
  refine l_cZ (pc := 994) (idx := 102) [] [] hC (ct_X0_parts zGC_c ) 0 h1 rfl mv_X0_parts q895 rfl (zGC_s0 zGC_c) rfl (Nat.le_of_ble_eq_true rfl) (Nat.le_of_ble_eq_true rfl) rfl (by show cs.1 + 0 ≤ 1200384; omega) (by show cs.2 + 0 ≤ 5488810; omega) (Nat.le_of_ble_eq_true rfl) dL_law_994 ?_
  change Zl X Q (cG ad V I D) Gm Sc' Sm (cs.1 + 0, cs.2 + 0) 997 (lls b (ad 0) (Gm.1 0) n) [.int r]
  refine l_aload (pc := 997) hC 2 dL_law_997 rfl rfl ?_
  refine Zl_swap (l_cZ (pc := 998) (idx := 105) [] [.int r] hC (ct_X5_parts hGm ) 5 h2 hDm mv_X5_parts q1851 rfl (zGM_s0 hGm) rfl (Nat.le_of_ble_eq_true rfl) (Nat.le_of_ble_eq_true rfl) rfl (by show cs.1 + 0 + 0 ≤ 1200384; omega) (by show cs.2 + 0 + 0 ≤ 5488810; omega) (Nat.le_of_ble_eq_true rfl) dL_law_998 (Zl_swap ?_))
  change Zl X Q (cG ad V I D) Gm Sc' Sm' (cs.1 + 0 + 0, cs.2 + 0 + 0) 1001 (lls b (ad 0) (Gm.1 0) n) [.int r, .int r]
  refine l_icmp_eq (pc := 1001) hC 2215 dL_law_1001 rfl rfl ?_
  exact Zl_wide (cs' := (cs.1 + 10, cs.2 + 410)) (by show cs.1 + 0 + 0 ≤ cs.1 + 10; omega) (by show cs.2 + 0 + 0 ≤ cs.2 + 410; omega) (kk)
theorem lop_part (hC : lC e9 D X b L xs) (hV : zVok V) (hGm : zGM Gm) (hDm : Gm.2.2.2 = D) (hn : n + 6 ≤ L) (hcs1 : cs.1 + 20 ≤ 1200384) (hcs2 : cs.2 + 1000 ≤ 5488810) {r : Int32} {Sc' Sm' : zSt} (h1 : F_X0_part (xs (n + 1)) Sc = some (r, Sc')) (h2 : F_X5_part (xs (n + 1)) Sm = some (r, Sm')) (kk : Zl X Q (cG ad V I D) Gm Sc' Sm' (cs.1 + 10, cs.2 + 410) 2215 (lls b (ad 0) (Gm.1 0) n) []) : Zl X Q (cG ad V I D) Gm Sc Sm cs 1006 (lls b (ad 0) (Gm.1 0) n) [] := by
  refine l_aload (pc := 1006) hC 1 dL_law_1006 rfl rfl ?_
  refine l_arg (pc := 1007) (k := 1) hC (by omega) (by decide) rfl rfl dL_law_1007 dL_law_1008 dL_law_1009 dL_law_1010 dL_law_1011 ?_
  refine l_cZ (pc := 1012) (idx := 106) [.int (xs (n + 1))] [] hC (ct_X0_part zGC_c _ ) 0 h1 rfl mv_X0_part q903 rfl (zGC_s0 zGC_c) rfl (Nat.le_of_ble_eq_true rfl) (Nat.le_of_ble_eq_true rfl) rfl (by show cs.1 + 0 ≤ 1200384; omega) (by show cs.2 + 0 ≤ 5488810; omega) (Nat.le_of_ble_eq_true rfl) dL_law_1012 ?_
  change Zl X Q (cG ad V I D) Gm Sc' Sm (cs.1 + 0, cs.2 + 0) 1015 (lls b (ad 0) (Gm.1 0) n) [.int r]
  refine l_aload (pc := 1015) hC 2 dL_law_1015 rfl rfl ?_
  refine l_arg (pc := 1016) (k := 1) hC (by omega) (by decide) rfl rfl dL_law_1016 dL_law_1017 dL_law_1018 dL_law_1019 dL_law_1020 ?_
  refine Zl_swap (l_cZ (pc := 1021) (idx := 109) [.int (xs (n + 1))] [.int r] hC (ct_X5_part hGm _ ) 5 h2 hDm mv_X5_part q1859 rfl (zGM_s0 hGm) rfl (Nat.le_of_ble_eq_true rfl) (Nat.le_of_ble_eq_true rfl) rfl (by show cs.1 + 0 + 0 ≤ 1200384; omega) (by show cs.2 + 0 + 0 ≤ 5488810; omega) (Nat.le_of_ble_eq_true rfl) dL_law_1021 (Zl_swap ?_))
  change Zl X Q (cG ad V I D) Gm Sc' Sm' (cs.1 + 0 + 0, cs.2 + 0 + 0) 1024 (lls b (ad 0) (Gm.1 0) n) [.int r, .int r]
  refine l_icmp_eq (pc := 1024) hC 2215 dL_law_1024 rfl rfl ?_
  exact Zl_wide (cs' := (cs.1 + 10, cs.2 + 410)) (by show cs.1 + 0 + 0 ≤ cs.1 + 10; omega) (by show cs.2 + 0 + 0 ≤ cs.2 + 410; omega) (kk)
theorem lop_bridges (hC : lC e9 D X b L xs) (hV : zVok V) (hGm : zGM Gm) (hDm : Gm.2.2.2 = D) (hn : n + 6 ≤ L) (hcs1 : cs.1 + 20 ≤ 1200384) (hcs2 : cs.2 + 1000 ≤ 5488810) {r : Int32} {Sc' Sm' : zSt} (h1 : F_X0_bridges  Sc = some (r, Sc')) (h2 : F_X5_bridges  Sm = some (r, Sm')) (kk : Zl X Q (cG ad V I D) Gm Sc' Sm' (cs.1 + 10, cs.2 + 410) 2215 (lls b (ad 0) (Gm.1 0) n) []) : Zl X Q (cG ad V I D) Gm Sc Sm cs 1029 (lls b (ad 0) (Gm.1 0) n) [] := by
  refine l_aload (pc := 1029) hC 1 dL_law_1029 rfl rfl ?_
  refine l_cZ (pc := 1030) (idx := 110) [] [] hC (ct_X0_bridges zGC_c ) 0 h1 rfl mv_X0_bridges q907 rfl (zGC_s0 zGC_c) rfl (Nat.le_of_ble_eq_true rfl) (Nat.le_of_ble_eq_true rfl) rfl (by show cs.1 + 0 ≤ 1200384; omega) (by show cs.2 + 0 ≤ 5488810; omega) (Nat.le_of_ble_eq_true rfl) dL_law_1030 ?_
  change Zl X Q (cG ad V I D) Gm Sc' Sm (cs.1 + 0, cs.2 + 0) 1033 (lls b (ad 0) (Gm.1 0) n) [.int r]
  refine l_aload (pc := 1033) hC 2 dL_law_1033 rfl rfl ?_
  refine Zl_swap (l_cZ (pc := 1034) (idx := 113) [] [.int r] hC (ct_X5_bridges hGm ) 5 h2 hDm mv_X5_bridges q1863 rfl (zGM_s0 hGm) rfl (Nat.le_of_ble_eq_true rfl) (Nat.le_of_ble_eq_true rfl) rfl (by show cs.1 + 0 + 0 ≤ 1200384; omega) (by show cs.2 + 0 + 0 ≤ 5488810; omega) (Nat.le_of_ble_eq_true rfl) dL_law_1034 (Zl_swap ?_))
  change Zl X Q (cG ad V I D) Gm Sc' Sm' (cs.1 + 0 + 0, cs.2 + 0 + 0) 1037 (lls b (ad 0) (Gm.1 0) n) [.int r, .int r]
  refine l_icmp_eq (pc := 1037) hC 2215 dL_law_1037 rfl rfl ?_
  exact Zl_wide (cs' := (cs.1 + 10, cs.2 + 410)) (by show cs.1 + 0 + 0 ≤ cs.1 + 10; omega) (by show cs.2 + 0 + 0 ≤ cs.2 + 410; omega) (kk)
theorem lop_bridge (hC : lC e9 D X b L xs) (hV : zVok V) (hGm : zGM Gm) (hDm : Gm.2.2.2 = D) (hn : n + 6 ≤ L) (hcs1 : cs.1 + 20 ≤ 1200384) (hcs2 : cs.2 + 1000 ≤ 5488810) {r : Int32} {Sc' Sm' : zSt} (h1 : F_X0_bridge (xs (n + 1)) (xs (n + 2)) Sc = some (r, Sc')) (h2 : F_X5_bridge (xs (n + 1)) (xs (n + 2)) Sm = some (r, Sm')) (kk : Zl X Q (cG ad V I D) Gm Sc' Sm' (cs.1 + 10, cs.2 + 410) 2215 (lls b (ad 0) (Gm.1 0) n) []) : Zl X Q (cG ad V I D) Gm Sc Sm cs 1042 (lls b (ad 0) (Gm.1 0) n) [] := by
  refine l_aload (pc := 1042) hC 1 dL_law_1042 rfl rfl ?_
  refine l_arg (pc := 1043) (k := 1) hC (by omega) (by decide) rfl rfl dL_law_1043 dL_law_1044 dL_law_1045 dL_law_1046 dL_law_1047 ?_
  refine l_arg (pc := 1048) (k := 2) hC (by omega) (by decide) rfl rfl dL_law_1048 dL_law_1049 dL_law_1050 dL_law_1051 dL_law_1052 ?_
  refine l_cZ (pc := 1053) (idx := 114) [.int (xs (n + 1)), .int (xs (n + 2))] [] hC (ct_X0_bridge zGC_c _ _ ) 0 h1 rfl mv_X0_bridge q915 rfl (zGC_s0 zGC_c) rfl (Nat.le_of_ble_eq_true rfl) (Nat.le_of_ble_eq_true rfl) rfl (by show cs.1 + 0 ≤ 1200384; omega) (by show cs.2 + 0 ≤ 5488810; omega) (Nat.le_of_ble_eq_true rfl) dL_law_1053 ?_
  change Zl X Q (cG ad V I D) Gm Sc' Sm (cs.1 + 0, cs.2 + 0) 1056 (lls b (ad 0) (Gm.1 0) n) [.int r]
  refine l_aload (pc := 1056) hC 2 dL_law_1056 rfl rfl ?_
  refine l_arg (pc := 1057) (k := 1) hC (by omega) (by decide) rfl rfl dL_law_1057 dL_law_1058 dL_law_1059 dL_law_1060 dL_law_1061 ?_
  refine l_arg (pc := 1062) (k := 2) hC (by omega) (by decide) rfl rfl dL_law_1062 dL_law_1063 dL_law_1064 dL_law_1065 dL_law_1066 ?_
  refine Zl_swap (l_cZ (pc := 1067) (idx := 117) [.int (xs (n + 1)), .int (xs (n + 2))] [.int r] hC (ct_X5_bridge hGm _ _ ) 5 h2 hDm mv_X5_bridge q1871 rfl (zGM_s0 hGm) rfl (Nat.le_of_ble_eq_true rfl) (Nat.le_of_ble_eq_true rfl) rfl (by show cs.1 + 0 + 0 ≤ 1200384; omega) (by show cs.2 + 0 + 0 ≤ 5488810; omega) (Nat.le_of_ble_eq_true rfl) dL_law_1067 (Zl_swap ?_))
  change Zl X Q (cG ad V I D) Gm Sc' Sm' (cs.1 + 0 + 0, cs.2 + 0 + 0) 1070 (lls b (ad 0) (Gm.1 0) n) [.int r, .int r]
  refine l_icmp_eq (pc := 1070) hC 2215 dL_law_1070 rfl rfl ?_
  exact Zl_wide (cs' := (cs.1 + 10, cs.2 + 410)) (by show cs.1 + 0 + 0 ≤ cs.1 + 10; omega) (by show cs.2 + 0 + 0 ≤ cs.2 + 410; omega) (kk)
theorem lop_joins (hC : lC e9 D X b L xs) (hV : zVok V) (hGm : zGM Gm) (hDm : Gm.2.2.2 = D) (hn : n + 6 ≤ L) (hcs1 : cs.1 + 20 ≤ 1200384) (hcs2 : cs.2 + 1000 ≤ 5488810) {r : Int32} {Sc' Sm' : zSt} (h1 : F_X0_joins  Sc = some (r, Sc')) (h2 : F_X5_joins  Sm = some (r, Sm')) (kk : Zl X Q (cG ad V I D) Gm Sc' Sm' (cs.1 + 10, cs.2 + 410) 2215 (lls b (ad 0) (Gm.1 0) n) []) : Zl X Q (cG ad V I D) Gm Sc Sm cs 1075 (lls b (ad 0) (Gm.1 0) n) [] := by
  refine l_aload (pc := 1075) hC 1 dL_law_1075 rfl rfl ?_
  refine l_cZ (pc := 1076) (idx := 118) [] [] hC (ct_X0_joins zGC_c ) 0 h1 rfl mv_X0_joins q919 rfl (zGC_s0 zGC_c) rfl (Nat.le_of_ble_eq_true rfl) (Nat.le_of_ble_eq_true rfl) rfl (by show cs.1 + 0 ≤ 1200384; omega) (by show cs.2 + 0 ≤ 5488810; omega) (Nat.le_of_ble_eq_true rfl) dL_law_1076 ?_
  change Zl X Q (cG ad V I D) Gm Sc' Sm (cs.1 + 0, cs.2 + 0) 1079 (lls b (ad 0) (Gm.1 0) n) [.int r]
  refine l_aload (pc := 1079) hC 2 dL_law_1079 rfl rfl ?_
  refine Zl_swap (l_cZ (pc := 1080) (idx := 121) [] [.int r] hC (ct_X5_joins hGm ) 5 h2 hDm mv_X5_joins q1875 rfl (zGM_s0 hGm) rfl (Nat.le_of_ble_eq_true rfl) (Nat.le_of_ble_eq_true rfl) rfl (by show cs.1 + 0 + 0 ≤ 1200384; omega) (by show cs.2 + 0 + 0 ≤ 5488810; omega) (Nat.le_of_ble_eq_true rfl) dL_law_1080 (Zl_swap ?_))
  change Zl X Q (cG ad V I D) Gm Sc' Sm' (cs.1 + 0 + 0, cs.2 + 0 + 0) 1083 (lls b (ad 0) (Gm.1 0) n) [.int r, .int r]
  refine l_icmp_eq (pc := 1083) hC 2215 dL_law_1083 rfl rfl ?_
  exact Zl_wide (cs' := (cs.1 + 10, cs.2 + 410)) (by show cs.1 + 0 + 0 ≤ cs.1 + 10; omega) (by show cs.2 + 0 + 0 ≤ cs.2 + 410; omega) (kk)
theorem lop_fours (hC : lC e9 D X b L xs) (hV : zVok V) (hGm : zGM Gm) (hDm : Gm.2.2.2 = D) (hn : n + 6 ≤ L) (hcs1 : cs.1 + 20 ≤ 1200384) (hcs2 : cs.2 + 1000 ≤ 5488810) {r : Int32} {Sc' Sm' : zSt} (h1 : F_X0_fours  Sc = some (r, Sc')) (h2 : F_X5_fours  Sm = some (r, Sm')) (kk : Zl X Q (cG ad V I D) Gm Sc' Sm' (cs.1 + 10, cs.2 + 410) 2215 (lls b (ad 0) (Gm.1 0) n) []) : Zl X Q (cG ad V I D) Gm Sc Sm cs 1088 (lls b (ad 0) (Gm.1 0) n) [] := by
  refine l_aload (pc := 1088) hC 1 dL_law_1088 rfl rfl ?_
  refine l_cZ (pc := 1089) (idx := 122) [] [] hC (ct_X0_fours zGC_c ) 0 h1 rfl mv_X0_fours q923 rfl (zGC_s0 zGC_c) rfl (Nat.le_of_ble_eq_true rfl) (Nat.le_of_ble_eq_true rfl) rfl (by show cs.1 + 0 ≤ 1200384; omega) (by show cs.2 + 0 ≤ 5488810; omega) (Nat.le_of_ble_eq_true rfl) dL_law_1089 ?_
  change Zl X Q (cG ad V I D) Gm Sc' Sm (cs.1 + 0, cs.2 + 0) 1092 (lls b (ad 0) (Gm.1 0) n) [.int r]
  refine l_aload (pc := 1092) hC 2 dL_law_1092 rfl rfl ?_
  refine Zl_swap (l_cZ (pc := 1093) (idx := 125) [] [.int r] hC (ct_X5_fours hGm ) 5 h2 hDm mv_X5_fours q1879 rfl (zGM_s0 hGm) rfl (Nat.le_of_ble_eq_true rfl) (Nat.le_of_ble_eq_true rfl) rfl (by show cs.1 + 0 + 0 ≤ 1200384; omega) (by show cs.2 + 0 + 0 ≤ 5488810; omega) (Nat.le_of_ble_eq_true rfl) dL_law_1093 (Zl_swap ?_))
  change Zl X Q (cG ad V I D) Gm Sc' Sm' (cs.1 + 0 + 0, cs.2 + 0 + 0) 1096 (lls b (ad 0) (Gm.1 0) n) [.int r, .int r]
  refine l_icmp_eq (pc := 1096) hC 2215 dL_law_1096 rfl rfl ?_
  exact Zl_wide (cs' := (cs.1 + 10, cs.2 + 410)) (by show cs.1 + 0 + 0 ≤ cs.1 + 10; omega) (by show cs.2 + 0 + 0 ≤ cs.2 + 410; omega) (kk)
theorem lop_walls (hC : lC e9 D X b L xs) (hV : zVok V) (hGm : zGM Gm) (hDm : Gm.2.2.2 = D) (hn : n + 6 ≤ L) (hcs1 : cs.1 + 20 ≤ 1200384) (hcs2 : cs.2 + 1000 ≤ 5488810) {r : Int32} {Sc' Sm' : zSt} (h1 : F_X0_walls (xs (n + 1)) Sc = some (r, Sc')) (h2 : F_X5_walls (xs (n + 1)) Sm = some (r, Sm')) (kk : Zl X Q (cG ad V I D) Gm Sc' Sm' (cs.1 + 10, cs.2 + 410) 2215 (lls b (ad 0) (Gm.1 0) n) []) : Zl X Q (cG ad V I D) Gm Sc Sm cs 1101 (lls b (ad 0) (Gm.1 0) n) [] := by
  refine l_aload (pc := 1101) hC 1 dL_law_1101 rfl rfl ?_
  refine l_arg (pc := 1102) (k := 1) hC (by omega) (by decide) rfl rfl dL_law_1102 dL_law_1103 dL_law_1104 dL_law_1105 dL_law_1106 ?_
  refine l_cZ (pc := 1107) (idx := 126) [.int (xs (n + 1))] [] hC (ct_X0_walls zGC_c _ ) 0 h1 rfl mv_X0_walls q935 rfl (zGC_s0 zGC_c) rfl (Nat.le_of_ble_eq_true rfl) (Nat.le_of_ble_eq_true rfl) rfl (by show cs.1 + 0 ≤ 1200384; omega) (by show cs.2 + 0 ≤ 5488810; omega) (Nat.le_of_ble_eq_true rfl) dL_law_1107 ?_
  change Zl X Q (cG ad V I D) Gm Sc' Sm (cs.1 + 0, cs.2 + 0) 1110 (lls b (ad 0) (Gm.1 0) n) [.int r]
  refine l_aload (pc := 1110) hC 2 dL_law_1110 rfl rfl ?_
  refine l_arg (pc := 1111) (k := 1) hC (by omega) (by decide) rfl rfl dL_law_1111 dL_law_1112 dL_law_1113 dL_law_1114 dL_law_1115 ?_
  refine Zl_swap (l_cZ (pc := 1116) (idx := 129) [.int (xs (n + 1))] [.int r] hC (ct_X5_walls hGm _ ) 5 h2 hDm mv_X5_walls q1891 rfl (zGM_s0 hGm) rfl (Nat.le_of_ble_eq_true rfl) (Nat.le_of_ble_eq_true rfl) rfl (by show cs.1 + 0 + 0 ≤ 1200384; omega) (by show cs.2 + 0 + 0 ≤ 5488810; omega) (Nat.le_of_ble_eq_true rfl) dL_law_1116 (Zl_swap ?_))
  change Zl X Q (cG ad V I D) Gm Sc' Sm' (cs.1 + 0 + 0, cs.2 + 0 + 0) 1119 (lls b (ad 0) (Gm.1 0) n) [.int r, .int r]
  refine l_icmp_eq (pc := 1119) hC 2215 dL_law_1119 rfl rfl ?_
  exact Zl_wide (cs' := (cs.1 + 10, cs.2 + 410)) (by show cs.1 + 0 + 0 ≤ cs.1 + 10; omega) (by show cs.2 + 0 + 0 ≤ cs.2 + 410; omega) (kk)
theorem lop_wall (hC : lC e9 D X b L xs) (hV : zVok V) (hGm : zGM Gm) (hDm : Gm.2.2.2 = D) (hn : n + 6 ≤ L) (hcs1 : cs.1 + 20 ≤ 1200384) (hcs2 : cs.2 + 1000 ≤ 5488810) {r : Int32} {Sc' Sm' : zSt} (h1 : F_X0_wall (xs (n + 1)) (xs (n + 2)) Sc = some (r, Sc')) (h2 : F_X5_wall (xs (n + 1)) (xs (n + 2)) Sm = some (r, Sm')) (kk : Zl X Q (cG ad V I D) Gm Sc' Sm' (cs.1 + 10, cs.2 + 410) 2215 (lls b (ad 0) (Gm.1 0) n) []) : Zl X Q (cG ad V I D) Gm Sc Sm cs 1124 (lls b (ad 0) (Gm.1 0) n) [] := by
  refine l_aload (pc := 1124) hC 1 dL_law_1124 rfl rfl ?_
  refine l_arg (pc := 1125) (k := 1) hC (by omega) (by decide) rfl rfl dL_law_1125 dL_law_1126 dL_law_1127 dL_law_1128 dL_law_1129 ?_
  refine l_arg (pc := 1130) (k := 2) hC (by omega) (by decide) rfl rfl dL_law_1130 dL_law_1131 dL_law_1132 dL_law_1133 dL_law_1134 ?_
  refine l_cZ (pc := 1135) (idx := 130) [.int (xs (n + 1)), .int (xs (n + 2))] [] hC (ct_X0_wall zGC_c _ _ ) 0 h1 rfl mv_X0_wall q940 rfl (zGC_s0 zGC_c) rfl (Nat.le_of_ble_eq_true rfl) (Nat.le_of_ble_eq_true rfl) rfl (by show cs.1 + 0 ≤ 1200384; omega) (by show cs.2 + 0 ≤ 5488810; omega) (Nat.le_of_ble_eq_true rfl) dL_law_1135 ?_
  change Zl X Q (cG ad V I D) Gm Sc' Sm (cs.1 + 0, cs.2 + 0) 1138 (lls b (ad 0) (Gm.1 0) n) [.int r]
  refine l_aload (pc := 1138) hC 2 dL_law_1138 rfl rfl ?_
  refine l_arg (pc := 1139) (k := 1) hC (by omega) (by decide) rfl rfl dL_law_1139 dL_law_1140 dL_law_1141 dL_law_1142 dL_law_1143 ?_
  refine l_arg (pc := 1144) (k := 2) hC (by omega) (by decide) rfl rfl dL_law_1144 dL_law_1145 dL_law_1146 dL_law_1147 dL_law_1148 ?_
  refine Zl_swap (l_cZ (pc := 1149) (idx := 133) [.int (xs (n + 1)), .int (xs (n + 2))] [.int r] hC (ct_X5_wall hGm _ _ ) 5 h2 hDm mv_X5_wall q1896 rfl (zGM_s0 hGm) rfl (Nat.le_of_ble_eq_true rfl) (Nat.le_of_ble_eq_true rfl) rfl (by show cs.1 + 0 + 0 ≤ 1200384; omega) (by show cs.2 + 0 + 0 ≤ 5488810; omega) (Nat.le_of_ble_eq_true rfl) dL_law_1149 (Zl_swap ?_))
  change Zl X Q (cG ad V I D) Gm Sc' Sm' (cs.1 + 0 + 0, cs.2 + 0 + 0) 1152 (lls b (ad 0) (Gm.1 0) n) [.int r, .int r]
  refine l_icmp_eq (pc := 1152) hC 2215 dL_law_1152 rfl rfl ?_
  exact Zl_wide (cs' := (cs.1 + 10, cs.2 + 410)) (by show cs.1 + 0 + 0 ≤ cs.1 + 10; omega) (by show cs.2 + 0 + 0 ≤ cs.2 + 410; omega) (kk)
theorem lop_rounds (hC : lC e9 D X b L xs) (hV : zVok V) (hGm : zGM Gm) (hDm : Gm.2.2.2 = D) (hn : n + 6 ≤ L) (hcs1 : cs.1 + 20 ≤ 1200384) (hcs2 : cs.2 + 1000 ≤ 5488810) {r : Int32} {Sc' Sm' : zSt} (h1 : F_X0_rounds  Sc = some (r, Sc')) (h2 : F_X5_rounds  Sm = some (r, Sm')) (kk : Zl X Q (cG ad V I D) Gm Sc' Sm' (cs.1 + 10, cs.2 + 410) 2215 (lls b (ad 0) (Gm.1 0) n) []) : Zl X Q (cG ad V I D) Gm Sc Sm cs 1157 (lls b (ad 0) (Gm.1 0) n) [] := by
  refine l_aload (pc := 1157) hC 1 dL_law_1157 rfl rfl ?_
  refine l_cZ (pc := 1158) (idx := 134) [] [] hC (ct_X0_rounds zGC_c ) 0 h1 rfl mv_X0_rounds q944 rfl (zGC_s0 zGC_c) rfl (Nat.le_of_ble_eq_true rfl) (Nat.le_of_ble_eq_true rfl) rfl (by show cs.1 + 0 ≤ 1200384; omega) (by show cs.2 + 0 ≤ 5488810; omega) (Nat.le_of_ble_eq_true rfl) dL_law_1158 ?_
  change Zl X Q (cG ad V I D) Gm Sc' Sm (cs.1 + 0, cs.2 + 0) 1161 (lls b (ad 0) (Gm.1 0) n) [.int r]
  refine l_aload (pc := 1161) hC 2 dL_law_1161 rfl rfl ?_
  refine Zl_swap (l_cZ (pc := 1162) (idx := 137) [] [.int r] hC (ct_X5_rounds hGm ) 5 h2 hDm mv_X5_rounds q1937 rfl (zGM_s0 hGm) rfl (Nat.le_of_ble_eq_true rfl) (Nat.le_of_ble_eq_true rfl) rfl (by show cs.1 + 0 + 0 ≤ 1200384; omega) (by show cs.2 + 0 + 0 ≤ 5488810; omega) (Nat.le_of_ble_eq_true rfl) dL_law_1162 (Zl_swap ?_))
  change Zl X Q (cG ad V I D) Gm Sc' Sm' (cs.1 + 0 + 0, cs.2 + 0 + 0) 1165 (lls b (ad 0) (Gm.1 0) n) [.int r, .int r]
  refine l_icmp_eq (pc := 1165) hC 2215 dL_law_1165 rfl rfl ?_
  exact Zl_wide (cs' := (cs.1 + 10, cs.2 + 410)) (by show cs.1 + 0 + 0 ≤ cs.1 + 10; omega) (by show cs.2 + 0 + 0 ≤ cs.2 + 410; omega) (kk)
theorem lop_round (hC : lC e9 D X b L xs) (hV : zVok V) (hGm : zGM Gm) (hDm : Gm.2.2.2 = D) (hn : n + 6 ≤ L) (hcs1 : cs.1 + 20 ≤ 1200384) (hcs2 : cs.2 + 1000 ≤ 5488810) {r : Int32} {Sc' Sm' : zSt} (h1 : F_X0_round (xs (n + 1)) Sc = some (r, Sc')) (h2 : F_X5_round (xs (n + 1)) Sm = some (r, Sm')) (kk : Zl X Q (cG ad V I D) Gm Sc' Sm' (cs.1 + 10, cs.2 + 410) 2215 (lls b (ad 0) (Gm.1 0) n) []) : Zl X Q (cG ad V I D) Gm Sc Sm cs 1170 (lls b (ad 0) (Gm.1 0) n) [] := by
  refine l_aload (pc := 1170) hC 1 dL_law_1170 rfl rfl ?_
  refine l_arg (pc := 1171) (k := 1) hC (by omega) (by decide) rfl rfl dL_law_1171 dL_law_1172 dL_law_1173 dL_law_1174 dL_law_1175 ?_
  refine l_cZ (pc := 1176) (idx := 138) [.int (xs (n + 1))] [] hC (ct_X0_round zGC_c _ ) 0 h1 rfl mv_X0_round q971 rfl (zGC_s0 zGC_c) rfl (Nat.le_of_ble_eq_true rfl) (Nat.le_of_ble_eq_true rfl) rfl (by show cs.1 + 0 ≤ 1200384; omega) (by show cs.2 + 0 ≤ 5488810; omega) (Nat.le_of_ble_eq_true rfl) dL_law_1176 ?_
  change Zl X Q (cG ad V I D) Gm Sc' Sm (cs.1 + 0, cs.2 + 0) 1179 (lls b (ad 0) (Gm.1 0) n) [.int r]
  refine l_aload (pc := 1179) hC 2 dL_law_1179 rfl rfl ?_
  refine l_arg (pc := 1180) (k := 1) hC (by omega) (by decide) rfl rfl dL_law_1180 dL_law_1181 dL_law_1182 dL_law_1183 dL_law_1184 ?_
  refine Zl_swap (l_cZ (pc := 1185) (idx := 141) [.int (xs (n + 1))] [.int r] hC (ct_X5_round hGm _ ) 5 h2 hDm mv_X5_round q1957 rfl (zGM_s0 hGm) rfl (Nat.le_of_ble_eq_true rfl) (Nat.le_of_ble_eq_true rfl) rfl (by show cs.1 + 0 + 0 ≤ 1200384; omega) (by show cs.2 + 0 + 0 ≤ 5488810; omega) (Nat.le_of_ble_eq_true rfl) dL_law_1185 (Zl_swap ?_))
  change Zl X Q (cG ad V I D) Gm Sc' Sm' (cs.1 + 0 + 0, cs.2 + 0 + 0) 1188 (lls b (ad 0) (Gm.1 0) n) [.int r, .int r]
  refine l_icmp_eq (pc := 1188) hC 2215 dL_law_1188 rfl rfl ?_
  exact Zl_wide (cs' := (cs.1 + 10, cs.2 + 410)) (by show cs.1 + 0 + 0 ≤ cs.1 + 10; omega) (by show cs.2 + 0 + 0 ≤ cs.2 + 410; omega) (kk)
theorem lop_by (hC : lC e9 D X b L xs) (hV : zVok V) (hGm : zGM Gm) (hDm : Gm.2.2.2 = D) (hn : n + 6 ≤ L) (hcs1 : cs.1 + 20 ≤ 1200384) (hcs2 : cs.2 + 1000 ≤ 5488810) {r : Int32} {Sc' Sm' : zSt} (h1 : F_X0_by (xs (n + 1)) Sc = some (r, Sc')) (h2 : F_X5_by (xs (n + 1)) Sm = some (r, Sm')) (kk : Zl X Q (cG ad V I D) Gm Sc' Sm' (cs.1 + 10, cs.2 + 410) 2215 (lls b (ad 0) (Gm.1 0) n) []) : Zl X Q (cG ad V I D) Gm Sc Sm cs 1193 (lls b (ad 0) (Gm.1 0) n) [] := by
  refine l_aload (pc := 1193) hC 1 dL_law_1193 rfl rfl ?_
  refine l_arg (pc := 1194) (k := 1) hC (by omega) (by decide) rfl rfl dL_law_1194 dL_law_1195 dL_law_1196 dL_law_1197 dL_law_1198 ?_
  refine l_cZ (pc := 1199) (idx := 142) [.int (xs (n + 1))] [] hC (ct_X0_by zGC_c _ ) 0 h1 rfl mv_X0_by q975 rfl (zGC_s0 zGC_c) rfl (Nat.le_of_ble_eq_true rfl) (Nat.le_of_ble_eq_true rfl) rfl (by show cs.1 + 0 ≤ 1200384; omega) (by show cs.2 + 0 ≤ 5488810; omega) (Nat.le_of_ble_eq_true rfl) dL_law_1199 ?_
  change Zl X Q (cG ad V I D) Gm Sc' Sm (cs.1 + 0, cs.2 + 0) 1202 (lls b (ad 0) (Gm.1 0) n) [.int r]
  refine l_aload (pc := 1202) hC 2 dL_law_1202 rfl rfl ?_
  refine l_arg (pc := 1203) (k := 1) hC (by omega) (by decide) rfl rfl dL_law_1203 dL_law_1204 dL_law_1205 dL_law_1206 dL_law_1207 ?_
  refine Zl_swap (l_cZ (pc := 1208) (idx := 145) [.int (xs (n + 1))] [.int r] hC (ct_X5_by hGm _ ) 5 h2 hDm mv_X5_by q1961 rfl (zGM_s0 hGm) rfl (Nat.le_of_ble_eq_true rfl) (Nat.le_of_ble_eq_true rfl) rfl (by show cs.1 + 0 + 0 ≤ 1200384; omega) (by show cs.2 + 0 + 0 ≤ 5488810; omega) (Nat.le_of_ble_eq_true rfl) dL_law_1208 (Zl_swap ?_))
  change Zl X Q (cG ad V I D) Gm Sc' Sm' (cs.1 + 0 + 0, cs.2 + 0 + 0) 1211 (lls b (ad 0) (Gm.1 0) n) [.int r, .int r]
  refine l_icmp_eq (pc := 1211) hC 2215 dL_law_1211 rfl rfl ?_
  exact Zl_wide (cs' := (cs.1 + 10, cs.2 + 410)) (by show cs.1 + 0 + 0 ≤ cs.1 + 10; omega) (by show cs.2 + 0 + 0 ≤ cs.2 + 410; omega) (kk)
theorem lop_even (hC : lC e9 D X b L xs) (hV : zVok V) (hGm : zGM Gm) (hDm : Gm.2.2.2 = D) (hn : n + 6 ≤ L) (hcs1 : cs.1 + 20 ≤ 1200384) (hcs2 : cs.2 + 1000 ≤ 5488810) {r : Int32} {Sc' Sm' : zSt} (h1 : F_X0_even  Sc = some (r, Sc')) (h2 : F_X5_even  Sm = some (r, Sm')) (kk : Zl X Q (cG ad V I D) Gm Sc' Sm' (cs.1 + 10, cs.2 + 410) 2215 (lls b (ad 0) (Gm.1 0) n) []) : Zl X Q (cG ad V I D) Gm Sc Sm cs 1216 (lls b (ad 0) (Gm.1 0) n) [] := by
  refine l_aload (pc := 1216) hC 1 dL_law_1216 rfl rfl ?_
  refine l_cZ (pc := 1217) (idx := 146) [] [] hC (ct_X0_even zGC_c ) 0 h1 rfl mv_X0_even q983 rfl (zGC_s0 zGC_c) rfl (Nat.le_of_ble_eq_true rfl) (Nat.le_of_ble_eq_true rfl) rfl (by show cs.1 + 0 ≤ 1200384; omega) (by show cs.2 + 0 ≤ 5488810; omega) (Nat.le_of_ble_eq_true rfl) dL_law_1217 ?_
  change Zl X Q (cG ad V I D) Gm Sc' Sm (cs.1 + 0, cs.2 + 0) 1220 (lls b (ad 0) (Gm.1 0) n) [.int r]
  refine l_aload (pc := 1220) hC 2 dL_law_1220 rfl rfl ?_
  refine Zl_swap (l_cZ (pc := 1221) (idx := 149) [] [.int r] hC (ct_X5_even hGm ) 5 h2 hDm mv_X5_even q1965 rfl (zGM_s0 hGm) rfl (Nat.le_of_ble_eq_true rfl) (Nat.le_of_ble_eq_true rfl) rfl (by show cs.1 + 0 + 0 ≤ 1200384; omega) (by show cs.2 + 0 + 0 ≤ 5488810; omega) (Nat.le_of_ble_eq_true rfl) dL_law_1221 (Zl_swap ?_))
  change Zl X Q (cG ad V I D) Gm Sc' Sm' (cs.1 + 0 + 0, cs.2 + 0 + 0) 1224 (lls b (ad 0) (Gm.1 0) n) [.int r, .int r]
  refine l_icmp_eq (pc := 1224) hC 2215 dL_law_1224 rfl rfl ?_
  exact Zl_wide (cs' := (cs.1 + 10, cs.2 + 410)) (by show cs.1 + 0 + 0 ≤ cs.1 + 10; omega) (by show cs.2 + 0 + 0 ≤ cs.2 + 410; omega) (kk)
theorem lop_unlike (hC : lC e9 D X b L xs) (hV : zVok V) (hGm : zGM Gm) (hDm : Gm.2.2.2 = D) (hn : n + 6 ≤ L) (hcs1 : cs.1 + 20 ≤ 1200384) (hcs2 : cs.2 + 1000 ≤ 5488810) {r : Int32} {Sc' Sm' : zSt} (h1 : F_X0_unlike  Sc = some (r, Sc')) (h2 : F_X5_unlike  Sm = some (r, Sm')) (kk : Zl X Q (cG ad V I D) Gm Sc' Sm' (cs.1 + 10, cs.2 + 410) 2215 (lls b (ad 0) (Gm.1 0) n) []) : Zl X Q (cG ad V I D) Gm Sc Sm cs 1229 (lls b (ad 0) (Gm.1 0) n) [] := by
  refine l_aload (pc := 1229) hC 1 dL_law_1229 rfl rfl ?_
  refine l_cZ (pc := 1230) (idx := 150) [] [] hC (ct_X0_unlike zGC_c ) 0 h1 rfl mv_X0_unlike q1030 rfl (zGC_s0 zGC_c) rfl (Nat.le_of_ble_eq_true rfl) (Nat.le_of_ble_eq_true rfl) rfl (by show cs.1 + 0 ≤ 1200384; omega) (by show cs.2 + 0 ≤ 5488810; omega) (Nat.le_of_ble_eq_true rfl) dL_law_1230 ?_
  change Zl X Q (cG ad V I D) Gm Sc' Sm (cs.1 + 0, cs.2 + 0) 1233 (lls b (ad 0) (Gm.1 0) n) [.int r]
  refine l_aload (pc := 1233) hC 2 dL_law_1233 rfl rfl ?_
  refine Zl_swap (l_cZ (pc := 1234) (idx := 153) [] [.int r] hC (ct_X5_unlike hGm ) 5 h2 hDm mv_X5_unlike q1973 rfl (zGM_s0 hGm) rfl (Nat.le_of_ble_eq_true rfl) (Nat.le_of_ble_eq_true rfl) rfl (by show cs.1 + 0 + 0 ≤ 1200384; omega) (by show cs.2 + 0 + 0 ≤ 5488810; omega) (Nat.le_of_ble_eq_true rfl) dL_law_1234 (Zl_swap ?_))
  change Zl X Q (cG ad V I D) Gm Sc' Sm' (cs.1 + 0 + 0, cs.2 + 0 + 0) 1237 (lls b (ad 0) (Gm.1 0) n) [.int r, .int r]
  refine l_icmp_eq (pc := 1237) hC 2215 dL_law_1237 rfl rfl ?_
  exact Zl_wide (cs' := (cs.1 + 10, cs.2 + 410)) (by show cs.1 + 0 + 0 ≤ cs.1 + 10; omega) (by show cs.2 + 0 + 0 ≤ cs.2 + 410; omega) (kk)
theorem lop_turnings (hC : lC e9 D X b L xs) (hV : zVok V) (hGm : zGM Gm) (hDm : Gm.2.2.2 = D) (hn : n + 6 ≤ L) (hcs1 : cs.1 + 20 ≤ 1200384) (hcs2 : cs.2 + 1000 ≤ 5488810) {r : Int32} {Sc' Sm' : zSt} (h1 : F_X0_turnings  Sc = some (r, Sc')) (h2 : F_X5_turnings  Sm = some (r, Sm')) (kk : Zl X Q (cG ad V I D) Gm Sc' Sm' (cs.1 + 10, cs.2 + 410) 2215 (lls b (ad 0) (Gm.1 0) n) []) : Zl X Q (cG ad V I D) Gm Sc Sm cs 1242 (lls b (ad 0) (Gm.1 0) n) [] := by
  refine l_aload (pc := 1242) hC 1 dL_law_1242 rfl rfl ?_
  refine l_cZ (pc := 1243) (idx := 154) [] [] hC (ct_X0_turnings zGC_c ) 0 h1 rfl mv_X0_turnings q987 rfl (zGC_s0 zGC_c) rfl (Nat.le_of_ble_eq_true rfl) (Nat.le_of_ble_eq_true rfl) rfl (by show cs.1 + 0 ≤ 1200384; omega) (by show cs.2 + 0 ≤ 5488810; omega) (Nat.le_of_ble_eq_true rfl) dL_law_1243 ?_
  change Zl X Q (cG ad V I D) Gm Sc' Sm (cs.1 + 0, cs.2 + 0) 1246 (lls b (ad 0) (Gm.1 0) n) [.int r]
  refine l_aload (pc := 1246) hC 2 dL_law_1246 rfl rfl ?_
  refine Zl_swap (l_cZ (pc := 1247) (idx := 157) [] [.int r] hC (ct_X5_turnings hGm ) 5 h2 hDm mv_X5_turnings q1900 rfl (zGM_s0 hGm) rfl (Nat.le_of_ble_eq_true rfl) (Nat.le_of_ble_eq_true rfl) rfl (by show cs.1 + 0 + 0 ≤ 1200384; omega) (by show cs.2 + 0 + 0 ≤ 5488810; omega) (Nat.le_of_ble_eq_true rfl) dL_law_1247 (Zl_swap ?_))
  change Zl X Q (cG ad V I D) Gm Sc' Sm' (cs.1 + 0 + 0, cs.2 + 0 + 0) 1250 (lls b (ad 0) (Gm.1 0) n) [.int r, .int r]
  refine l_icmp_eq (pc := 1250) hC 2215 dL_law_1250 rfl rfl ?_
  exact Zl_wide (cs' := (cs.1 + 10, cs.2 + 410)) (by show cs.1 + 0 + 0 ≤ cs.1 + 10; omega) (by show cs.2 + 0 + 0 ≤ cs.2 + 410; omega) (kk)
theorem lop_orbit (hC : lC e9 D X b L xs) (hV : zVok V) (hGm : zGM Gm) (hDm : Gm.2.2.2 = D) (hn : n + 6 ≤ L) (hcs1 : cs.1 + 20 ≤ 1200384) (hcs2 : cs.2 + 1000 ≤ 5488810) {r : Int32} {Sc' Sm' : zSt} (h1 : F_X0_orbit (xs (n + 1)) Sc = some (r, Sc')) (h2 : F_X5_orbit (xs (n + 1)) Sm = some (r, Sm')) (kk : Zl X Q (cG ad V I D) Gm Sc' Sm' (cs.1 + 10, cs.2 + 410) 2215 (lls b (ad 0) (Gm.1 0) n) []) : Zl X Q (cG ad V I D) Gm Sc Sm cs 1255 (lls b (ad 0) (Gm.1 0) n) [] := by
  refine l_aload (pc := 1255) hC 1 dL_law_1255 rfl rfl ?_
  refine l_arg (pc := 1256) (k := 1) hC (by omega) (by decide) rfl rfl dL_law_1256 dL_law_1257 dL_law_1258 dL_law_1259 dL_law_1260 ?_
  refine l_cZ (pc := 1261) (idx := 158) [.int (xs (n + 1))] [] hC (ct_X0_orbit zGC_c _ ) 0 h1 rfl mv_X0_orbit q1011 rfl (zGC_s0 zGC_c) rfl (Nat.le_of_ble_eq_true rfl) (Nat.le_of_ble_eq_true rfl) rfl (by show cs.1 + 0 ≤ 1200384; omega) (by show cs.2 + 0 ≤ 5488810; omega) (Nat.le_of_ble_eq_true rfl) dL_law_1261 ?_
  change Zl X Q (cG ad V I D) Gm Sc' Sm (cs.1 + 0, cs.2 + 0) 1264 (lls b (ad 0) (Gm.1 0) n) [.int r]
  refine l_aload (pc := 1264) hC 2 dL_law_1264 rfl rfl ?_
  refine l_arg (pc := 1265) (k := 1) hC (by omega) (by decide) rfl rfl dL_law_1265 dL_law_1266 dL_law_1267 dL_law_1268 dL_law_1269 ?_
  refine Zl_swap (l_cZ (pc := 1270) (idx := 161) [.int (xs (n + 1))] [.int r] hC (ct_X5_orbit hGm _ ) 5 h2 hDm mv_X5_orbit q1920 rfl (zGM_s0 hGm) rfl (Nat.le_of_ble_eq_true rfl) (Nat.le_of_ble_eq_true rfl) rfl (by show cs.1 + 0 + 0 ≤ 1200384; omega) (by show cs.2 + 0 + 0 ≤ 5488810; omega) (Nat.le_of_ble_eq_true rfl) dL_law_1270 (Zl_swap ?_))
  change Zl X Q (cG ad V I D) Gm Sc' Sm' (cs.1 + 0 + 0, cs.2 + 0 + 0) 1273 (lls b (ad 0) (Gm.1 0) n) [.int r, .int r]
  refine l_icmp_eq (pc := 1273) hC 2215 dL_law_1273 rfl rfl ?_
  exact Zl_wide (cs' := (cs.1 + 10, cs.2 + 410)) (by show cs.1 + 0 + 0 ≤ cs.1 + 10; omega) (by show cs.2 + 0 + 0 ≤ cs.2 + 410; omega) (kk)
theorem lop_still (hC : lC e9 D X b L xs) (hV : zVok V) (hGm : zGM Gm) (hDm : Gm.2.2.2 = D) (hn : n + 6 ≤ L) (hcs1 : cs.1 + 20 ≤ 1200384) (hcs2 : cs.2 + 1000 ≤ 5488810) {r : Int32} {Sc' Sm' : zSt} (h1 : F_X0_still (xs (n + 1)) Sc = some (r, Sc')) (h2 : F_X5_still (xs (n + 1)) Sm = some (r, Sm')) (kk : Zl X Q (cG ad V I D) Gm Sc' Sm' (cs.1 + 10, cs.2 + 410) 2215 (lls b (ad 0) (Gm.1 0) n) []) : Zl X Q (cG ad V I D) Gm Sc Sm cs 1278 (lls b (ad 0) (Gm.1 0) n) [] := by
  refine l_aload (pc := 1278) hC 1 dL_law_1278 rfl rfl ?_
  refine l_arg (pc := 1279) (k := 1) hC (by omega) (by decide) rfl rfl dL_law_1279 dL_law_1280 dL_law_1281 dL_law_1282 dL_law_1283 ?_
  refine l_cZ (pc := 1284) (idx := 162) [.int (xs (n + 1))] [] hC (ct_X0_still zGC_c _ ) 0 h1 rfl mv_X0_still q1016 rfl (zGC_s0 zGC_c) rfl (Nat.le_of_ble_eq_true rfl) (Nat.le_of_ble_eq_true rfl) rfl (by show cs.1 + 0 ≤ 1200384; omega) (by show cs.2 + 0 ≤ 5488810; omega) (Nat.le_of_ble_eq_true rfl) dL_law_1284 ?_
  change Zl X Q (cG ad V I D) Gm Sc' Sm (cs.1 + 0, cs.2 + 0) 1287 (lls b (ad 0) (Gm.1 0) n) [.int r]
  refine l_aload (pc := 1287) hC 2 dL_law_1287 rfl rfl ?_
  refine l_arg (pc := 1288) (k := 1) hC (by omega) (by decide) rfl rfl dL_law_1288 dL_law_1289 dL_law_1290 dL_law_1291 dL_law_1292 ?_
  refine Zl_swap (l_cZ (pc := 1293) (idx := 165) [.int (xs (n + 1))] [.int r] hC (ct_X5_still hGm _ ) 5 h2 hDm mv_X5_still q1924 rfl (zGM_s0 hGm) rfl (Nat.le_of_ble_eq_true rfl) (Nat.le_of_ble_eq_true rfl) rfl (by show cs.1 + 0 + 0 ≤ 1200384; omega) (by show cs.2 + 0 + 0 ≤ 5488810; omega) (Nat.le_of_ble_eq_true rfl) dL_law_1293 (Zl_swap ?_))
  change Zl X Q (cG ad V I D) Gm Sc' Sm' (cs.1 + 0 + 0, cs.2 + 0 + 0) 1296 (lls b (ad 0) (Gm.1 0) n) [.int r, .int r]
  refine l_icmp_eq (pc := 1296) hC 2215 dL_law_1296 rfl rfl ?_
  exact Zl_wide (cs' := (cs.1 + 10, cs.2 + 410)) (by show cs.1 + 0 + 0 ≤ cs.1 + 10; omega) (by show cs.2 + 0 + 0 ≤ cs.2 + 410; omega) (kk)
theorem lop_colours (hC : lC e9 D X b L xs) (hV : zVok V) (hGm : zGM Gm) (hDm : Gm.2.2.2 = D) (hn : n + 6 ≤ L) (hcs1 : cs.1 + 20 ≤ 1200384) (hcs2 : cs.2 + 1000 ≤ 5488810) {r : Int64} {Sc' Sm' : zSt} (h1 : F_X0_colours (xs (n + 1)) Sc = some (r, Sc')) (h2 : F_X5_colours (xs (n + 1)) Sm = some (r, Sm')) (kk : Zl X Q (cG ad V I D) Gm Sc' Sm' (cs.1 + 10, cs.2 + 410) 2215 (lls b (ad 0) (Gm.1 0) n) []) : Zl X Q (cG ad V I D) Gm Sc Sm cs 1301 (lls b (ad 0) (Gm.1 0) n) [] := by
  refine l_aload (pc := 1301) hC 1 dL_law_1301 rfl rfl ?_
  refine l_arg (pc := 1302) (k := 1) hC (by omega) (by decide) rfl rfl dL_law_1302 dL_law_1303 dL_law_1304 dL_law_1305 dL_law_1306 ?_
  refine l_cZ (pc := 1307) (idx := 166) [.int (xs (n + 1))] [] hC (ct_X0_colours zGC_c _ ) 0 h1 rfl mv_X0_colours q1020 rfl (zGC_s0 zGC_c) rfl (Nat.le_of_ble_eq_true rfl) (Nat.le_of_ble_eq_true rfl) rfl (by show cs.1 + 0 ≤ 1200384; omega) (by show cs.2 + 0 ≤ 5488810; omega) (Nat.le_of_ble_eq_true rfl) dL_law_1307 ?_
  change Zl X Q (cG ad V I D) Gm Sc' Sm (cs.1 + 0, cs.2 + 0) 1310 (lls b (ad 0) (Gm.1 0) n) [.long r]
  refine l_aload (pc := 1310) hC 2 dL_law_1310 rfl rfl ?_
  refine l_arg (pc := 1311) (k := 1) hC (by omega) (by decide) rfl rfl dL_law_1311 dL_law_1312 dL_law_1313 dL_law_1314 dL_law_1315 ?_
  refine Zl_swap (l_cZ (pc := 1316) (idx := 170) [.int (xs (n + 1))] [.long r] hC (ct_X5_colours hGm _ ) 5 h2 hDm mv_X5_colours q1928 rfl (zGM_s0 hGm) rfl (Nat.le_of_ble_eq_true rfl) (Nat.le_of_ble_eq_true rfl) rfl (by show cs.1 + 0 + 0 ≤ 1200384; omega) (by show cs.2 + 0 + 0 ≤ 5488810; omega) (Nat.le_of_ble_eq_true rfl) dL_law_1316 (Zl_swap ?_))
  change Zl X Q (cG ad V I D) Gm Sc' Sm' (cs.1 + 0 + 0, cs.2 + 0 + 0) 1319 (lls b (ad 0) (Gm.1 0) n) [.long r, .long r]
  refine l_lcmp (pc := 1319) hC dL_law_1319 ?_
  refine l_ifeq (pc := 1320) hC 2215 dL_law_1320 rfl (lg_cmp_self r) ?_
  exact Zl_wide (cs' := (cs.1 + 10, cs.2 + 410)) (by show cs.1 + 0 + 0 ≤ cs.1 + 10; omega) (by show cs.2 + 0 + 0 ≤ cs.2 + 410; omega) (kk)
theorem lop_bare (hC : lC e9 D X b L xs) (hV : zVok V) (hGm : zGM Gm) (hDm : Gm.2.2.2 = D) (hn : n + 6 ≤ L) (hcs1 : cs.1 + 20 ≤ 1200384) (hcs2 : cs.2 + 1000 ≤ 5488810) {r : Int32} {Sc' Sm' : zSt} (h1 : F_X0_bare  Sc = some (r, Sc')) (h2 : F_X5_bare  Sm = some (r, Sm')) (kk : Zl X Q (cG ad V I D) Gm Sc' Sm' (cs.1 + 10, cs.2 + 410) 2215 (lls b (ad 0) (Gm.1 0) n) []) : Zl X Q (cG ad V I D) Gm Sc Sm cs 1325 (lls b (ad 0) (Gm.1 0) n) [] := by
  refine l_aload (pc := 1325) hC 1 dL_law_1325 rfl rfl ?_
  refine l_cZ (pc := 1326) (idx := 171) [] [] hC (ct_X0_bare zGC_c ) 0 h1 rfl mv_X0_bare q1042 rfl (zGC_s0 zGC_c) rfl (Nat.le_of_ble_eq_true rfl) (Nat.le_of_ble_eq_true rfl) rfl (by show cs.1 + 0 ≤ 1200384; omega) (by show cs.2 + 0 ≤ 5488810; omega) (Nat.le_of_ble_eq_true rfl) dL_law_1326 ?_
  change Zl X Q (cG ad V I D) Gm Sc' Sm (cs.1 + 0, cs.2 + 0) 1329 (lls b (ad 0) (Gm.1 0) n) [.int r]
  refine l_aload (pc := 1329) hC 2 dL_law_1329 rfl rfl ?_
  refine Zl_swap (l_cZ (pc := 1330) (idx := 174) [] [.int r] hC (ct_X5_bare hGm ) 5 h2 hDm mv_X5_bare q1977 rfl (zGM_s0 hGm) rfl (Nat.le_of_ble_eq_true rfl) (Nat.le_of_ble_eq_true rfl) rfl (by show cs.1 + 0 + 0 ≤ 1200384; omega) (by show cs.2 + 0 + 0 ≤ 5488810; omega) (Nat.le_of_ble_eq_true rfl) dL_law_1330 (Zl_swap ?_))
  change Zl X Q (cG ad V I D) Gm Sc' Sm' (cs.1 + 0 + 0, cs.2 + 0 + 0) 1333 (lls b (ad 0) (Gm.1 0) n) [.int r, .int r]
  refine l_icmp_eq (pc := 1333) hC 2215 dL_law_1333 rfl rfl ?_
  exact Zl_wide (cs' := (cs.1 + 10, cs.2 + 410)) (by show cs.1 + 0 + 0 ≤ cs.1 + 10; omega) (by show cs.2 + 0 + 0 ≤ cs.2 + 410; omega) (kk)
theorem lop_warden (hC : lC e9 D X b L xs) (hV : zVok V) (hGm : zGM Gm) (hDm : Gm.2.2.2 = D) (hn : n + 6 ≤ L) (hcs1 : cs.1 + 20 ≤ 1200384) (hcs2 : cs.2 + 1000 ≤ 5488810) {r : Int32} {Sc' Sm' : zSt} (h1 : F_X0_warden (xs (n + 1)) (xs (n + 2)) Sc = some (r, Sc')) (h2 : F_X5_warden (xs (n + 1)) (xs (n + 2)) Sm = some (r, Sm')) (kk : Zl X Q (cG ad V I D) Gm Sc' Sm' (cs.1 + 10, cs.2 + 410) 2215 (lls b (ad 0) (Gm.1 0) n) []) : Zl X Q (cG ad V I D) Gm Sc Sm cs 1338 (lls b (ad 0) (Gm.1 0) n) [] := by
  refine l_aload (pc := 1338) hC 1 dL_law_1338 rfl rfl ?_
  refine l_arg (pc := 1339) (k := 1) hC (by omega) (by decide) rfl rfl dL_law_1339 dL_law_1340 dL_law_1341 dL_law_1342 dL_law_1343 ?_
  refine l_arg (pc := 1344) (k := 2) hC (by omega) (by decide) rfl rfl dL_law_1344 dL_law_1345 dL_law_1346 dL_law_1347 dL_law_1348 ?_
  refine l_cZ (pc := 1349) (idx := 175) [.int (xs (n + 1)), .int (xs (n + 2))] [] hC (ct_X0_warden zGC_c _ _ ) 0 h1 rfl mv_X0_warden q1054 rfl (zGC_s0 zGC_c) rfl (Nat.le_of_ble_eq_true rfl) (Nat.le_of_ble_eq_true rfl) rfl (by show cs.1 + 0 ≤ 1200384; omega) (by show cs.2 + 0 ≤ 5488810; omega) (Nat.le_of_ble_eq_true rfl) dL_law_1349 ?_
  change Zl X Q (cG ad V I D) Gm Sc' Sm (cs.1 + 0, cs.2 + 0) 1352 (lls b (ad 0) (Gm.1 0) n) [.int r]
  refine l_aload (pc := 1352) hC 2 dL_law_1352 rfl rfl ?_
  refine l_arg (pc := 1353) (k := 1) hC (by omega) (by decide) rfl rfl dL_law_1353 dL_law_1354 dL_law_1355 dL_law_1356 dL_law_1357 ?_
  refine l_arg (pc := 1358) (k := 2) hC (by omega) (by decide) rfl rfl dL_law_1358 dL_law_1359 dL_law_1360 dL_law_1361 dL_law_1362 ?_
  refine Zl_swap (l_cZ (pc := 1363) (idx := 178) [.int (xs (n + 1)), .int (xs (n + 2))] [.int r] hC (ct_X5_warden hGm _ _ ) 5 h2 hDm mv_X5_warden q1989 rfl (zGM_s0 hGm) rfl (Nat.le_of_ble_eq_true rfl) (Nat.le_of_ble_eq_true rfl) rfl (by show cs.1 + 0 + 0 ≤ 1200384; omega) (by show cs.2 + 0 + 0 ≤ 5488810; omega) (Nat.le_of_ble_eq_true rfl) dL_law_1363 (Zl_swap ?_))
  change Zl X Q (cG ad V I D) Gm Sc' Sm' (cs.1 + 0 + 0, cs.2 + 0 + 0) 1366 (lls b (ad 0) (Gm.1 0) n) [.int r, .int r]
  refine l_icmp_eq (pc := 1366) hC 2215 dL_law_1366 rfl rfl ?_
  exact Zl_wide (cs' := (cs.1 + 10, cs.2 + 410)) (by show cs.1 + 0 + 0 ≤ cs.1 + 10; omega) (by show cs.2 + 0 + 0 ≤ cs.2 + 410; omega) (kk)
theorem lop_fewest (hC : lC e9 D X b L xs) (hV : zVok V) (hGm : zGM Gm) (hDm : Gm.2.2.2 = D) (hn : n + 6 ≤ L) (hcs1 : cs.1 + 20 ≤ 1200384) (hcs2 : cs.2 + 1000 ≤ 5488810) {r : Int32} {Sc' Sm' : zSt} (h1 : F_X0_fewest (xs (n + 1)) Sc = some (r, Sc')) (h2 : F_X5_fewest (xs (n + 1)) Sm = some (r, Sm')) (kk : Zl X Q (cG ad V I D) Gm Sc' Sm' (cs.1 + 10, cs.2 + 410) 2215 (lls b (ad 0) (Gm.1 0) n) []) : Zl X Q (cG ad V I D) Gm Sc Sm cs 1371 (lls b (ad 0) (Gm.1 0) n) [] := by
  refine l_aload (pc := 1371) hC 1 dL_law_1371 rfl rfl ?_
  refine l_arg (pc := 1372) (k := 1) hC (by omega) (by decide) rfl rfl dL_law_1372 dL_law_1373 dL_law_1374 dL_law_1375 dL_law_1376 ?_
  refine l_cZ (pc := 1377) (idx := 179) [.int (xs (n + 1))] [] hC (ct_X0_fewest zGC_c _ ) 0 h1 rfl mv_X0_fewest q1058 rfl (zGC_s0 zGC_c) rfl (Nat.le_of_ble_eq_true rfl) (Nat.le_of_ble_eq_true rfl) rfl (by show cs.1 + 0 ≤ 1200384; omega) (by show cs.2 + 0 ≤ 5488810; omega) (Nat.le_of_ble_eq_true rfl) dL_law_1377 ?_
  change Zl X Q (cG ad V I D) Gm Sc' Sm (cs.1 + 0, cs.2 + 0) 1380 (lls b (ad 0) (Gm.1 0) n) [.int r]
  refine l_aload (pc := 1380) hC 2 dL_law_1380 rfl rfl ?_
  refine l_arg (pc := 1381) (k := 1) hC (by omega) (by decide) rfl rfl dL_law_1381 dL_law_1382 dL_law_1383 dL_law_1384 dL_law_1385 ?_
  refine Zl_swap (l_cZ (pc := 1386) (idx := 182) [.int (xs (n + 1))] [.int r] hC (ct_X5_fewest hGm _ ) 5 h2 hDm mv_X5_fewest q1993 rfl (zGM_s0 hGm) rfl (Nat.le_of_ble_eq_true rfl) (Nat.le_of_ble_eq_true rfl) rfl (by show cs.1 + 0 + 0 ≤ 1200384; omega) (by show cs.2 + 0 + 0 ≤ 5488810; omega) (Nat.le_of_ble_eq_true rfl) dL_law_1386 (Zl_swap ?_))
  change Zl X Q (cG ad V I D) Gm Sc' Sm' (cs.1 + 0 + 0, cs.2 + 0 + 0) 1389 (lls b (ad 0) (Gm.1 0) n) [.int r, .int r]
  refine l_icmp_eq (pc := 1389) hC 2215 dL_law_1389 rfl rfl ?_
  exact Zl_wide (cs' := (cs.1 + 10, cs.2 + 410)) (by show cs.1 + 0 + 0 ≤ cs.1 + 10; omega) (by show cs.2 + 0 + 0 ≤ cs.2 + 410; omega) (kk)
theorem lop_perfect (hC : lC e9 D X b L xs) (hV : zVok V) (hGm : zGM Gm) (hDm : Gm.2.2.2 = D) (hn : n + 6 ≤ L) (hcs1 : cs.1 + 20 ≤ 1200384) (hcs2 : cs.2 + 1000 ≤ 5488810) {r : Int32} {Sc' Sm' : zSt} (h1 : F_X0_perfect  Sc = some (r, Sc')) (h2 : F_X5_perfect  Sm = some (r, Sm')) (kk : Zl X Q (cG ad V I D) Gm Sc' Sm' (cs.1 + 10, cs.2 + 410) 2215 (lls b (ad 0) (Gm.1 0) n) []) : Zl X Q (cG ad V I D) Gm Sc Sm cs 1394 (lls b (ad 0) (Gm.1 0) n) [] := by
  refine l_aload (pc := 1394) hC 1 dL_law_1394 rfl rfl ?_
  refine l_cZ (pc := 1395) (idx := 183) [] [] hC (ct_X0_perfect zGC_c ) 0 h1 rfl mv_X0_perfect q1078 rfl (zGC_s0 zGC_c) rfl (Nat.le_of_ble_eq_true rfl) (Nat.le_of_ble_eq_true rfl) rfl (by show cs.1 + 0 ≤ 1200384; omega) (by show cs.2 + 0 ≤ 5488810; omega) (Nat.le_of_ble_eq_true rfl) dL_law_1395 ?_
  change Zl X Q (cG ad V I D) Gm Sc' Sm (cs.1 + 0, cs.2 + 0) 1398 (lls b (ad 0) (Gm.1 0) n) [.int r]
  refine l_aload (pc := 1398) hC 2 dL_law_1398 rfl rfl ?_
  refine Zl_swap (l_cZ (pc := 1399) (idx := 186) [] [.int r] hC (ct_X5_perfect hGm ) 5 h2 hDm mv_X5_perfect q2006 rfl (zGM_s0 hGm) rfl (Nat.le_of_ble_eq_true rfl) (Nat.le_of_ble_eq_true rfl) rfl (by show cs.1 + 0 + 0 ≤ 1200384; omega) (by show cs.2 + 0 + 0 ≤ 5488810; omega) (Nat.le_of_ble_eq_true rfl) dL_law_1399 (Zl_swap ?_))
  change Zl X Q (cG ad V I D) Gm Sc' Sm' (cs.1 + 0 + 0, cs.2 + 0 + 0) 1402 (lls b (ad 0) (Gm.1 0) n) [.int r, .int r]
  refine l_icmp_eq (pc := 1402) hC 2215 dL_law_1402 rfl rfl ?_
  exact Zl_wide (cs' := (cs.1 + 10, cs.2 + 410)) (by show cs.1 + 0 + 0 ≤ cs.1 + 10; omega) (by show cs.2 + 0 + 0 ≤ cs.2 + 410; omega) (kk)
theorem lop_more (hC : lC e9 D X b L xs) (hV : zVok V) (hGm : zGM Gm) (hDm : Gm.2.2.2 = D) (hn : n + 6 ≤ L) (hcs1 : cs.1 + 20 ≤ 1200384) (hcs2 : cs.2 + 1000 ≤ 5488810) {r : Int32} {Sc' Sm' : zSt} (h1 : F_X0_more  Sc = some (r, Sc')) (h2 : F_X5_more  Sm = some (r, Sm')) (kk : Zl X Q (cG ad V I D) Gm Sc' Sm' (cs.1 + 10, cs.2 + 410) 2215 (lls b (ad 0) (Gm.1 0) n) []) : Zl X Q (cG ad V I D) Gm Sc Sm cs 1407 (lls b (ad 0) (Gm.1 0) n) [] := by
  refine l_aload (pc := 1407) hC 1 dL_law_1407 rfl rfl ?_
  refine l_cZ (pc := 1408) (idx := 187) [] [] hC (ct_X0_more zGC_c ) 0 h1 rfl mv_X0_more q1082 rfl (zGC_s0 zGC_c) rfl (Nat.le_of_ble_eq_true rfl) (Nat.le_of_ble_eq_true rfl) rfl (by show cs.1 + 0 ≤ 1200384; omega) (by show cs.2 + 0 ≤ 5488810; omega) (Nat.le_of_ble_eq_true rfl) dL_law_1408 ?_
  change Zl X Q (cG ad V I D) Gm Sc' Sm (cs.1 + 0, cs.2 + 0) 1411 (lls b (ad 0) (Gm.1 0) n) [.int r]
  refine l_aload (pc := 1411) hC 2 dL_law_1411 rfl rfl ?_
  refine Zl_swap (l_cZ (pc := 1412) (idx := 190) [] [.int r] hC (ct_X5_more hGm ) 5 h2 hDm mv_X5_more q2010 rfl (zGM_s0 hGm) rfl (Nat.le_of_ble_eq_true rfl) (Nat.le_of_ble_eq_true rfl) rfl (by show cs.1 + 0 + 0 ≤ 1200384; omega) (by show cs.2 + 0 + 0 ≤ 5488810; omega) (Nat.le_of_ble_eq_true rfl) dL_law_1412 (Zl_swap ?_))
  change Zl X Q (cG ad V I D) Gm Sc' Sm' (cs.1 + 0 + 0, cs.2 + 0 + 0) 1415 (lls b (ad 0) (Gm.1 0) n) [.int r, .int r]
  refine l_icmp_eq (pc := 1415) hC 2215 dL_law_1415 rfl rfl ?_
  exact Zl_wide (cs' := (cs.1 + 10, cs.2 + 410)) (by show cs.1 + 0 + 0 ≤ cs.1 + 10; omega) (by show cs.2 + 0 + 0 ≤ cs.2 + 410; omega) (kk)
theorem lop_code (hC : lC e9 D X b L xs) (hV : zVok V) (hGm : zGM Gm) (hDm : Gm.2.2.2 = D) (hn : n + 6 ≤ L) (hcs1 : cs.1 + 20 ≤ 1200384) (hcs2 : cs.2 + 1000 ≤ 5488810) {r : Int32} {Sc' Sm' : zSt} (h1 : F_X0_code V (xs (n + 1)) Sc = some (r, Sc')) (h2 : F_X5_code (xs (n + 1)) Sm = some (r, Sm')) (kk : Zl X Q (cG ad V I D) Gm Sc' Sm' (cs.1 + 10, cs.2 + 410) 2215 (lls b (ad 0) (Gm.1 0) n) []) : Zl X Q (cG ad V I D) Gm Sc Sm cs 1420 (lls b (ad 0) (Gm.1 0) n) [] := by
  refine l_aload (pc := 1420) hC 1 dL_law_1420 rfl rfl ?_
  refine l_arg (pc := 1421) (k := 1) hC (by omega) (by decide) rfl rfl dL_law_1421 dL_law_1422 dL_law_1423 dL_law_1424 dL_law_1425 ?_
  refine l_cZ (pc := 1426) (idx := 191) [.int (xs (n + 1))] [] hC (ct_X0_code zGC_c (zGV_c hV) _ ) 0 h1 rfl mv_X0_code q1086 rfl (zGC_s0 zGC_c) rfl (Nat.le_of_ble_eq_true rfl) (Nat.le_of_ble_eq_true rfl) rfl (by show cs.1 + 1 ≤ 1200384; omega) (by show cs.2 + 8 ≤ 5488810; omega) (Nat.le_of_ble_eq_true rfl) dL_law_1426 ?_
  change Zl X Q (cG ad V I D) Gm Sc' Sm (cs.1 + 1, cs.2 + 8) 1429 (lls b (ad 0) (Gm.1 0) n) [.int r]
  refine l_aload (pc := 1429) hC 2 dL_law_1429 rfl rfl ?_
  refine l_arg (pc := 1430) (k := 1) hC (by omega) (by decide) rfl rfl dL_law_1430 dL_law_1431 dL_law_1432 dL_law_1433 dL_law_1434 ?_
  refine Zl_swap (l_cZ (pc := 1435) (idx := 194) [.int (xs (n + 1))] [.int r] hC (ct_X5_code hGm _ ) 5 h2 hDm mv_X5_code q2014 rfl (zGM_s0 hGm) rfl (Nat.le_of_ble_eq_true rfl) (Nat.le_of_ble_eq_true rfl) rfl (by show cs.1 + 1 + 0 ≤ 1200384; omega) (by show cs.2 + 8 + 0 ≤ 5488810; omega) (Nat.le_of_ble_eq_true rfl) dL_law_1435 (Zl_swap ?_))
  change Zl X Q (cG ad V I D) Gm Sc' Sm' (cs.1 + 1 + 0, cs.2 + 8 + 0) 1438 (lls b (ad 0) (Gm.1 0) n) [.int r, .int r]
  refine l_icmp_eq (pc := 1438) hC 2215 dL_law_1438 rfl rfl ?_
  exact Zl_wide (cs' := (cs.1 + 10, cs.2 + 410)) (by show cs.1 + 1 + 0 ≤ cs.1 + 10; omega) (by show cs.2 + 8 + 0 ≤ cs.2 + 410; omega) (kk)
theorem lop_heard (hC : lC e9 D X b L xs) (hV : zVok V) (hGm : zGM Gm) (hDm : Gm.2.2.2 = D) (hn : n + 6 ≤ L) (hcs1 : cs.1 + 20 ≤ 1200384) (hcs2 : cs.2 + 1000 ≤ 5488810) {r : Int32} {Sc' Sm' : zSt} (h1 : F_X0_heard V (xs (n + 1)) (xs (n + 2)) Sc = some (r, Sc')) (h2 : F_X5_heard (xs (n + 1)) (xs (n + 2)) Sm = some (r, Sm')) (kk : Zl X Q (cG ad V I D) Gm Sc' Sm' (cs.1 + 10, cs.2 + 410) 2215 (lls b (ad 0) (Gm.1 0) n) []) : Zl X Q (cG ad V I D) Gm Sc Sm cs 1443 (lls b (ad 0) (Gm.1 0) n) [] := by
  refine l_aload (pc := 1443) hC 1 dL_law_1443 rfl rfl ?_
  refine l_arg (pc := 1444) (k := 1) hC (by omega) (by decide) rfl rfl dL_law_1444 dL_law_1445 dL_law_1446 dL_law_1447 dL_law_1448 ?_
  refine l_arg (pc := 1449) (k := 2) hC (by omega) (by decide) rfl rfl dL_law_1449 dL_law_1450 dL_law_1451 dL_law_1452 dL_law_1453 ?_
  refine l_cZ (pc := 1454) (idx := 195) [.int (xs (n + 1)), .int (xs (n + 2))] [] hC (ct_X0_heard zGC_c (zGV_c hV) _ _ ) 0 h1 rfl mv_X0_heard q1140 rfl (zGC_s0 zGC_c) rfl (Nat.le_of_ble_eq_true rfl) (Nat.le_of_ble_eq_true rfl) rfl (by show cs.1 + 1 ≤ 1200384; omega) (by show cs.2 + 8 ≤ 5488810; omega) (Nat.le_of_ble_eq_true rfl) dL_law_1454 ?_
  change Zl X Q (cG ad V I D) Gm Sc' Sm (cs.1 + 1, cs.2 + 8) 1457 (lls b (ad 0) (Gm.1 0) n) [.int r]
  refine l_aload (pc := 1457) hC 2 dL_law_1457 rfl rfl ?_
  refine l_arg (pc := 1458) (k := 1) hC (by omega) (by decide) rfl rfl dL_law_1458 dL_law_1459 dL_law_1460 dL_law_1461 dL_law_1462 ?_
  refine l_arg (pc := 1463) (k := 2) hC (by omega) (by decide) rfl rfl dL_law_1463 dL_law_1464 dL_law_1465 dL_law_1466 dL_law_1467 ?_
  refine Zl_swap (l_cZ (pc := 1468) (idx := 198) [.int (xs (n + 1)), .int (xs (n + 2))] [.int r] hC (ct_X5_heard hGm _ _ ) 5 h2 hDm mv_X5_heard q2026 rfl (zGM_s0 hGm) rfl (Nat.le_of_ble_eq_true rfl) (Nat.le_of_ble_eq_true rfl) rfl (by show cs.1 + 1 + 0 ≤ 1200384; omega) (by show cs.2 + 8 + 0 ≤ 5488810; omega) (Nat.le_of_ble_eq_true rfl) dL_law_1468 (Zl_swap ?_))
  change Zl X Q (cG ad V I D) Gm Sc' Sm' (cs.1 + 1 + 0, cs.2 + 8 + 0) 1471 (lls b (ad 0) (Gm.1 0) n) [.int r, .int r]
  refine l_icmp_eq (pc := 1471) hC 2215 dL_law_1471 rfl rfl ?_
  exact Zl_wide (cs' := (cs.1 + 10, cs.2 + 410)) (by show cs.1 + 1 + 0 ≤ cs.1 + 10; omega) (by show cs.2 + 8 + 0 ≤ cs.2 + 410; omega) (kk)
theorem lop_told (hC : lC e9 D X b L xs) (hV : zVok V) (hGm : zGM Gm) (hDm : Gm.2.2.2 = D) (hn : n + 6 ≤ L) (hcs1 : cs.1 + 20 ≤ 1200384) (hcs2 : cs.2 + 1000 ≤ 5488810) {r : Int32} {Sc' Sm' : zSt} (h1 : F_X0_told V (xs (n + 1)) (xs (n + 2)) Sc = some (r, Sc')) (h2 : F_X5_told (xs (n + 1)) (xs (n + 2)) Sm = some (r, Sm')) (kk : Zl X Q (cG ad V I D) Gm Sc' Sm' (cs.1 + 10, cs.2 + 410) 2215 (lls b (ad 0) (Gm.1 0) n) []) : Zl X Q (cG ad V I D) Gm Sc Sm cs 1476 (lls b (ad 0) (Gm.1 0) n) [] := by
  refine l_aload (pc := 1476) hC 1 dL_law_1476 rfl rfl ?_
  refine l_arg (pc := 1477) (k := 1) hC (by omega) (by decide) rfl rfl dL_law_1477 dL_law_1478 dL_law_1479 dL_law_1480 dL_law_1481 ?_
  refine l_arg (pc := 1482) (k := 2) hC (by omega) (by decide) rfl rfl dL_law_1482 dL_law_1483 dL_law_1484 dL_law_1485 dL_law_1486 ?_
  refine l_cZ (pc := 1487) (idx := 199) [.int (xs (n + 1)), .int (xs (n + 2))] [] hC (ct_X0_told zGC_c (zGV_c hV) _ _ ) 0 h1 rfl mv_X0_told q1144 rfl (zGC_s0 zGC_c) rfl (Nat.le_of_ble_eq_true rfl) (Nat.le_of_ble_eq_true rfl) rfl (by show cs.1 + 1 ≤ 1200384; omega) (by show cs.2 + 8 ≤ 5488810; omega) (Nat.le_of_ble_eq_true rfl) dL_law_1487 ?_
  change Zl X Q (cG ad V I D) Gm Sc' Sm (cs.1 + 1, cs.2 + 8) 1490 (lls b (ad 0) (Gm.1 0) n) [.int r]
  refine l_aload (pc := 1490) hC 2 dL_law_1490 rfl rfl ?_
  refine l_arg (pc := 1491) (k := 1) hC (by omega) (by decide) rfl rfl dL_law_1491 dL_law_1492 dL_law_1493 dL_law_1494 dL_law_1495 ?_
  refine l_arg (pc := 1496) (k := 2) hC (by omega) (by decide) rfl rfl dL_law_1496 dL_law_1497 dL_law_1498 dL_law_1499 dL_law_1500 ?_
  refine Zl_swap (l_cZ (pc := 1501) (idx := 202) [.int (xs (n + 1)), .int (xs (n + 2))] [.int r] hC (ct_X5_told hGm _ _ ) 5 h2 hDm mv_X5_told q2034 rfl (zGM_s0 hGm) rfl (Nat.le_of_ble_eq_true rfl) (Nat.le_of_ble_eq_true rfl) rfl (by show cs.1 + 1 + 0 ≤ 1200384; omega) (by show cs.2 + 8 + 0 ≤ 5488810; omega) (Nat.le_of_ble_eq_true rfl) dL_law_1501 (Zl_swap ?_))
  change Zl X Q (cG ad V I D) Gm Sc' Sm' (cs.1 + 1 + 0, cs.2 + 8 + 0) 1504 (lls b (ad 0) (Gm.1 0) n) [.int r, .int r]
  refine l_icmp_eq (pc := 1504) hC 2215 dL_law_1504 rfl rfl ?_
  exact Zl_wide (cs' := (cs.1 + 10, cs.2 + 410)) (by show cs.1 + 1 + 0 ≤ cs.1 + 10; omega) (by show cs.2 + 8 + 0 ≤ cs.2 + 410; omega) (kk)
theorem lop_biggest (hC : lC e9 D X b L xs) (hV : zVok V) (hGm : zGM Gm) (hDm : Gm.2.2.2 = D) (hn : n + 6 ≤ L) (hcs1 : cs.1 + 20 ≤ 1200384) (hcs2 : cs.2 + 1000 ≤ 5488810) {r : Int32} {Sc' Sm' : zSt} (h1 : F_X0_biggest (xs (n + 1)) Sc = some (r, Sc')) (h2 : F_X5_biggest (xs (n + 1)) Sm = some (r, Sm')) (kk : Zl X Q (cG ad V I D) Gm Sc' Sm' (cs.1 + 10, cs.2 + 410) 2215 (lls b (ad 0) (Gm.1 0) n) []) : Zl X Q (cG ad V I D) Gm Sc Sm cs 1509 (lls b (ad 0) (Gm.1 0) n) [] := by
  refine l_aload (pc := 1509) hC 1 dL_law_1509 rfl rfl ?_
  refine l_arg (pc := 1510) (k := 1) hC (by omega) (by decide) rfl rfl dL_law_1510 dL_law_1511 dL_law_1512 dL_law_1513 dL_law_1514 ?_
  refine l_cZ (pc := 1515) (idx := 203) [.int (xs (n + 1))] [] hC (ct_X0_biggest zGC_c _ ) 0 h1 rfl mv_X0_biggest q1148 rfl (zGC_s0 zGC_c) rfl (Nat.le_of_ble_eq_true rfl) (Nat.le_of_ble_eq_true rfl) rfl (by show cs.1 + 0 ≤ 1200384; omega) (by show cs.2 + 0 ≤ 5488810; omega) (Nat.le_of_ble_eq_true rfl) dL_law_1515 ?_
  change Zl X Q (cG ad V I D) Gm Sc' Sm (cs.1 + 0, cs.2 + 0) 1518 (lls b (ad 0) (Gm.1 0) n) [.int r]
  refine l_aload (pc := 1518) hC 2 dL_law_1518 rfl rfl ?_
  refine l_arg (pc := 1519) (k := 1) hC (by omega) (by decide) rfl rfl dL_law_1519 dL_law_1520 dL_law_1521 dL_law_1522 dL_law_1523 ?_
  refine Zl_swap (l_cZ (pc := 1524) (idx := 206) [.int (xs (n + 1))] [.int r] hC (ct_X5_biggest hGm _ ) 5 h2 hDm mv_X5_biggest q2038 rfl (zGM_s0 hGm) rfl (Nat.le_of_ble_eq_true rfl) (Nat.le_of_ble_eq_true rfl) rfl (by show cs.1 + 0 + 0 ≤ 1200384; omega) (by show cs.2 + 0 + 0 ≤ 5488810; omega) (Nat.le_of_ble_eq_true rfl) dL_law_1524 (Zl_swap ?_))
  change Zl X Q (cG ad V I D) Gm Sc' Sm' (cs.1 + 0 + 0, cs.2 + 0 + 0) 1527 (lls b (ad 0) (Gm.1 0) n) [.int r, .int r]
  refine l_icmp_eq (pc := 1527) hC 2215 dL_law_1527 rfl rfl ?_
  exact Zl_wide (cs' := (cs.1 + 10, cs.2 + 410)) (by show cs.1 + 0 + 0 ≤ cs.1 + 10; omega) (by show cs.2 + 0 + 0 ≤ cs.2 + 410; omega) (kk)
theorem lop_shadow (hC : lC e9 D X b L xs) (hV : zVok V) (hGm : zGM Gm) (hDm : Gm.2.2.2 = D) (hn : n + 6 ≤ L) (hcs1 : cs.1 + 20 ≤ 1200384) (hcs2 : cs.2 + 1000 ≤ 5488810) {r : Int32} {Sc' Sm' : zSt} (h1 : F_X0_shadow (xs (n + 1)) (xs (n + 2)) Sc = some (r, Sc')) (h2 : F_X5_shadow (xs (n + 1)) (xs (n + 2)) Sm = some (r, Sm')) (kk : Zl X Q (cG ad V I D) Gm Sc' Sm' (cs.1 + 10, cs.2 + 410) 2215 (lls b (ad 0) (Gm.1 0) n) []) : Zl X Q (cG ad V I D) Gm Sc Sm cs 1532 (lls b (ad 0) (Gm.1 0) n) [] := by
  refine l_aload (pc := 1532) hC 1 dL_law_1532 rfl rfl ?_
  refine l_arg (pc := 1533) (k := 1) hC (by omega) (by decide) rfl rfl dL_law_1533 dL_law_1534 dL_law_1535 dL_law_1536 dL_law_1537 ?_
  refine l_arg (pc := 1538) (k := 2) hC (by omega) (by decide) rfl rfl dL_law_1538 dL_law_1539 dL_law_1540 dL_law_1541 dL_law_1542 ?_
  refine l_cZ (pc := 1543) (idx := 207) [.int (xs (n + 1)), .int (xs (n + 2))] [] hC (ct_X0_shadow zGC_c _ _ ) 0 h1 rfl mv_X0_shadow q1152 rfl (zGC_s0 zGC_c) rfl (Nat.le_of_ble_eq_true rfl) (Nat.le_of_ble_eq_true rfl) rfl (by show cs.1 + 0 ≤ 1200384; omega) (by show cs.2 + 0 ≤ 5488810; omega) (Nat.le_of_ble_eq_true rfl) dL_law_1543 ?_
  change Zl X Q (cG ad V I D) Gm Sc' Sm (cs.1 + 0, cs.2 + 0) 1546 (lls b (ad 0) (Gm.1 0) n) [.int r]
  refine l_aload (pc := 1546) hC 2 dL_law_1546 rfl rfl ?_
  refine l_arg (pc := 1547) (k := 1) hC (by omega) (by decide) rfl rfl dL_law_1547 dL_law_1548 dL_law_1549 dL_law_1550 dL_law_1551 ?_
  refine l_arg (pc := 1552) (k := 2) hC (by omega) (by decide) rfl rfl dL_law_1552 dL_law_1553 dL_law_1554 dL_law_1555 dL_law_1556 ?_
  refine Zl_swap (l_cZ (pc := 1557) (idx := 210) [.int (xs (n + 1)), .int (xs (n + 2))] [.int r] hC (ct_X5_shadow hGm _ _ ) 5 h2 hDm mv_X5_shadow q2046 rfl (zGM_s0 hGm) rfl (Nat.le_of_ble_eq_true rfl) (Nat.le_of_ble_eq_true rfl) rfl (by show cs.1 + 0 + 0 ≤ 1200384; omega) (by show cs.2 + 0 + 0 ≤ 5488810; omega) (Nat.le_of_ble_eq_true rfl) dL_law_1557 (Zl_swap ?_))
  change Zl X Q (cG ad V I D) Gm Sc' Sm' (cs.1 + 0 + 0, cs.2 + 0 + 0) 1560 (lls b (ad 0) (Gm.1 0) n) [.int r, .int r]
  refine l_icmp_eq (pc := 1560) hC 2215 dL_law_1560 rfl rfl ?_
  exact Zl_wide (cs' := (cs.1 + 10, cs.2 + 410)) (by show cs.1 + 0 + 0 ≤ cs.1 + 10; omega) (by show cs.2 + 0 + 0 ≤ cs.2 + 410; omega) (kk)
theorem lop_crossings (hC : lC e9 D X b L xs) (hV : zVok V) (hGm : zGM Gm) (hDm : Gm.2.2.2 = D) (hn : n + 6 ≤ L) (hcs1 : cs.1 + 20 ≤ 1200384) (hcs2 : cs.2 + 1000 ≤ 5488810) {r : Int32} {Sc' Sm' : zSt} (h1 : F_X0_crossings V (xs (n + 1)) Sc = some (r, Sc')) (h2 : F_X5_crossings (xs (n + 1)) Sm = some (r, Sm')) (kk : Zl X Q (cG ad V I D) Gm Sc' Sm' (cs.1 + 10, cs.2 + 410) 2215 (lls b (ad 0) (Gm.1 0) n) []) : Zl X Q (cG ad V I D) Gm Sc Sm cs 1565 (lls b (ad 0) (Gm.1 0) n) [] := by
  refine l_aload (pc := 1565) hC 1 dL_law_1565 rfl rfl ?_
  refine l_arg (pc := 1566) (k := 1) hC (by omega) (by decide) rfl rfl dL_law_1566 dL_law_1567 dL_law_1568 dL_law_1569 dL_law_1570 ?_
  refine l_cZW (pc := 1571) (idx := 211) [.int (xs (n + 1))] [] hC (ct_X0_crossings zGC_c (zGV_c hV) _ ) 0 h1 rfl mv_X0_crossings q1156 rfl (zGC_s0 zGC_c) rfl (Nat.le_of_ble_eq_true rfl) (Nat.le_of_ble_eq_true rfl) ⟨_, rfl⟩ (by show cs.1 + 1 ≤ 1200384; omega) (by show cs.2 + 8 ≤ 5488810; omega) (Nat.le_of_ble_eq_true rfl) dL_law_1571 ?_
  change Zl X Q (cG ad V I D) Gm Sc' Sm (cs.1 + 1, cs.2 + 8) 1574 (lls b (ad 0) (Gm.1 0) n) [.int r]
  refine l_aload (pc := 1574) hC 2 dL_law_1574 rfl rfl ?_
  refine l_arg (pc := 1575) (k := 1) hC (by omega) (by decide) rfl rfl dL_law_1575 dL_law_1576 dL_law_1577 dL_law_1578 dL_law_1579 ?_
  refine Zl_swap (l_cZ (pc := 1580) (idx := 214) [.int (xs (n + 1))] [.int r] hC (ct_X5_crossings hGm _ ) 5 h2 hDm mv_X5_crossings q2050 rfl (zGM_s0 hGm) rfl (Nat.le_of_ble_eq_true rfl) (Nat.le_of_ble_eq_true rfl) rfl (by show cs.1 + 1 + 0 ≤ 1200384; omega) (by show cs.2 + 8 + 0 ≤ 5488810; omega) (Nat.le_of_ble_eq_true rfl) dL_law_1580 (Zl_swap ?_))
  change Zl X Q (cG ad V I D) Gm Sc' Sm' (cs.1 + 1 + 0, cs.2 + 8 + 0) 1583 (lls b (ad 0) (Gm.1 0) n) [.int r, .int r]
  refine l_icmp_eq (pc := 1583) hC 2215 dL_law_1583 rfl rfl ?_
  exact Zl_wide (cs' := (cs.1 + 10, cs.2 + 410)) (by show cs.1 + 1 + 0 ≤ cs.1 + 10; omega) (by show cs.2 + 8 + 0 ≤ cs.2 + 410; omega) (kk)
theorem lop_drawing (hC : lC e9 D X b L xs) (hV : zVok V) (hGm : zGM Gm) (hDm : Gm.2.2.2 = D) (hn : n + 6 ≤ L) (hcs1 : cs.1 + 20 ≤ 1200384) (hcs2 : cs.2 + 1000 ≤ 5488810) {r : Int32} {Sc' Sm' : zSt} (h1 : F_X0_drawing  Sc = some (r, Sc')) (h2 : F_X5_drawing  Sm = some (r, Sm')) (kk : Zl X Q (cG ad V I D) Gm Sc' Sm' (cs.1 + 10, cs.2 + 410) 2215 (lls b (ad 0) (Gm.1 0) n) []) : Zl X Q (cG ad V I D) Gm Sc Sm cs 1588 (lls b (ad 0) (Gm.1 0) n) [] := by
  refine l_aload (pc := 1588) hC 1 dL_law_1588 rfl rfl ?_
  refine l_cZ (pc := 1589) (idx := 215) [] [] hC (ct_X0_drawing zGC_c ) 0 h1 rfl mv_X0_drawing q1168 rfl (zGC_s0 zGC_c) rfl (Nat.le_of_ble_eq_true rfl) (Nat.le_of_ble_eq_true rfl) rfl (by show cs.1 + 0 ≤ 1200384; omega) (by show cs.2 + 0 ≤ 5488810; omega) (Nat.le_of_ble_eq_true rfl) dL_law_1589 ?_
  change Zl X Q (cG ad V I D) Gm Sc' Sm (cs.1 + 0, cs.2 + 0) 1592 (lls b (ad 0) (Gm.1 0) n) [.int r]
  refine l_aload (pc := 1592) hC 2 dL_law_1592 rfl rfl ?_
  refine Zl_swap (l_cZ (pc := 1593) (idx := 218) [] [.int r] hC (ct_X5_drawing hGm ) 5 h2 hDm mv_X5_drawing q2058 rfl (zGM_s0 hGm) rfl (Nat.le_of_ble_eq_true rfl) (Nat.le_of_ble_eq_true rfl) rfl (by show cs.1 + 0 + 0 ≤ 1200384; omega) (by show cs.2 + 0 + 0 ≤ 5488810; omega) (Nat.le_of_ble_eq_true rfl) dL_law_1593 (Zl_swap ?_))
  change Zl X Q (cG ad V I D) Gm Sc' Sm' (cs.1 + 0 + 0, cs.2 + 0 + 0) 1596 (lls b (ad 0) (Gm.1 0) n) [.int r, .int r]
  refine l_icmp_eq (pc := 1596) hC 2215 dL_law_1596 rfl rfl ?_
  exact Zl_wide (cs' := (cs.1 + 10, cs.2 + 410)) (by show cs.1 + 0 + 0 ≤ cs.1 + 10; omega) (by show cs.2 + 0 + 0 ≤ cs.2 + 410; omega) (kk)
theorem lop_person (hC : lC e9 D X b L xs) (hV : zVok V) (hGm : zGM Gm) (hDm : Gm.2.2.2 = D) (hn : n + 6 ≤ L) (hcs1 : cs.1 + 20 ≤ 1200384) (hcs2 : cs.2 + 1000 ≤ 5488810) {r : Int32} {Sc' Sm' : zSt} (h1 : F_X0_person (xs (n + 1)) Sc = some (r, Sc')) (h2 : F_X5_person (xs (n + 1)) Sm = some (r, Sm')) (kk : Zl X Q (cG ad V I D) Gm Sc' Sm' (cs.1 + 10, cs.2 + 410) 2215 (lls b (ad 0) (Gm.1 0) n) []) : Zl X Q (cG ad V I D) Gm Sc Sm cs 1601 (lls b (ad 0) (Gm.1 0) n) [] := by
  refine l_aload (pc := 1601) hC 1 dL_law_1601 rfl rfl ?_
  refine l_arg (pc := 1602) (k := 1) hC (by omega) (by decide) rfl rfl dL_law_1602 dL_law_1603 dL_law_1604 dL_law_1605 dL_law_1606 ?_
  refine l_cZ (pc := 1607) (idx := 219) [.int (xs (n + 1))] [] hC (ct_X0_person zGC_c _ ) 0 h1 rfl mv_X0_person q1180 rfl (zGC_s0 zGC_c) rfl (Nat.le_of_ble_eq_true rfl) (Nat.le_of_ble_eq_true rfl) rfl (by show cs.1 + 0 ≤ 1200384; omega) (by show cs.2 + 0 ≤ 5488810; omega) (Nat.le_of_ble_eq_true rfl) dL_law_1607 ?_
  change Zl X Q (cG ad V I D) Gm Sc' Sm (cs.1 + 0, cs.2 + 0) 1610 (lls b (ad 0) (Gm.1 0) n) [.int r]
  refine l_aload (pc := 1610) hC 2 dL_law_1610 rfl rfl ?_
  refine l_arg (pc := 1611) (k := 1) hC (by omega) (by decide) rfl rfl dL_law_1611 dL_law_1612 dL_law_1613 dL_law_1614 dL_law_1615 ?_
  refine Zl_swap (l_cZ (pc := 1616) (idx := 222) [.int (xs (n + 1))] [.int r] hC (ct_X5_person hGm _ ) 5 h2 hDm mv_X5_person q2066 rfl (zGM_s0 hGm) rfl (Nat.le_of_ble_eq_true rfl) (Nat.le_of_ble_eq_true rfl) rfl (by show cs.1 + 0 + 0 ≤ 1200384; omega) (by show cs.2 + 0 + 0 ≤ 5488810; omega) (Nat.le_of_ble_eq_true rfl) dL_law_1616 (Zl_swap ?_))
  change Zl X Q (cG ad V I D) Gm Sc' Sm' (cs.1 + 0 + 0, cs.2 + 0 + 0) 1619 (lls b (ad 0) (Gm.1 0) n) [.int r, .int r]
  refine l_icmp_eq (pc := 1619) hC 2215 dL_law_1619 rfl rfl ?_
  exact Zl_wide (cs' := (cs.1 + 10, cs.2 + 410)) (by show cs.1 + 0 + 0 ≤ cs.1 + 10; omega) (by show cs.2 + 0 + 0 ≤ cs.2 + 410; omega) (kk)
theorem lop_moves (hC : lC e9 D X b L xs) (hV : zVok V) (hGm : zGM Gm) (hDm : Gm.2.2.2 = D) (hn : n + 6 ≤ L) (hcs1 : cs.1 + 20 ≤ 1200384) (hcs2 : cs.2 + 1000 ≤ 5488810) {r : Int32} {Sc' Sm' : zSt} (h1 : F_X0_moves (xs (n + 1)) (xs (n + 2)) Sc = some (r, Sc')) (h2 : F_X5_moves (xs (n + 1)) (xs (n + 2)) Sm = some (r, Sm')) (kk : Zl X Q (cG ad V I D) Gm Sc' Sm' (cs.1 + 10, cs.2 + 410) 2215 (lls b (ad 0) (Gm.1 0) n) []) : Zl X Q (cG ad V I D) Gm Sc Sm cs 1624 (lls b (ad 0) (Gm.1 0) n) [] := by
  refine l_aload (pc := 1624) hC 1 dL_law_1624 rfl rfl ?_
  refine l_arg (pc := 1625) (k := 1) hC (by omega) (by decide) rfl rfl dL_law_1625 dL_law_1626 dL_law_1627 dL_law_1628 dL_law_1629 ?_
  refine l_arg (pc := 1630) (k := 2) hC (by omega) (by decide) rfl rfl dL_law_1630 dL_law_1631 dL_law_1632 dL_law_1633 dL_law_1634 ?_
  refine l_cZ (pc := 1635) (idx := 223) [.int (xs (n + 1)), .int (xs (n + 2))] [] hC (ct_X0_moves zGC_c _ _ ) 0 h1 rfl mv_X0_moves q1188 rfl (zGC_s0 zGC_c) rfl (Nat.le_of_ble_eq_true rfl) (Nat.le_of_ble_eq_true rfl) rfl (by show cs.1 + 0 ≤ 1200384; omega) (by show cs.2 + 0 ≤ 5488810; omega) (Nat.le_of_ble_eq_true rfl) dL_law_1635 ?_
  change Zl X Q (cG ad V I D) Gm Sc' Sm (cs.1 + 0, cs.2 + 0) 1638 (lls b (ad 0) (Gm.1 0) n) [.int r]
  refine l_aload (pc := 1638) hC 2 dL_law_1638 rfl rfl ?_
  refine l_arg (pc := 1639) (k := 1) hC (by omega) (by decide) rfl rfl dL_law_1639 dL_law_1640 dL_law_1641 dL_law_1642 dL_law_1643 ?_
  refine l_arg (pc := 1644) (k := 2) hC (by omega) (by decide) rfl rfl dL_law_1644 dL_law_1645 dL_law_1646 dL_law_1647 dL_law_1648 ?_
  refine Zl_swap (l_cZ (pc := 1649) (idx := 226) [.int (xs (n + 1)), .int (xs (n + 2))] [.int r] hC (ct_X5_moves hGm _ _ ) 5 h2 hDm mv_X5_moves q2074 rfl (zGM_s0 hGm) rfl (Nat.le_of_ble_eq_true rfl) (Nat.le_of_ble_eq_true rfl) rfl (by show cs.1 + 0 + 0 ≤ 1200384; omega) (by show cs.2 + 0 + 0 ≤ 5488810; omega) (Nat.le_of_ble_eq_true rfl) dL_law_1649 (Zl_swap ?_))
  change Zl X Q (cG ad V I D) Gm Sc' Sm' (cs.1 + 0 + 0, cs.2 + 0 + 0) 1652 (lls b (ad 0) (Gm.1 0) n) [.int r, .int r]
  refine l_icmp_eq (pc := 1652) hC 2215 dL_law_1652 rfl rfl ?_
  exact Zl_wide (cs' := (cs.1 + 10, cs.2 + 410)) (by show cs.1 + 0 + 0 ≤ cs.1 + 10; omega) (by show cs.2 + 0 + 0 ≤ cs.2 + 410; omega) (kk)
theorem lop_met (hC : lC e9 D X b L xs) (hV : zVok V) (hGm : zGM Gm) (hDm : Gm.2.2.2 = D) (hn : n + 6 ≤ L) (hcs1 : cs.1 + 20 ≤ 1200384) (hcs2 : cs.2 + 1000 ≤ 5488810) {r : Int32} {Sc' Sm' : zSt} (h1 : F_X0_met V (xs (n + 1)) Sc = some (r, Sc')) (h2 : F_X5_met (xs (n + 1)) Sm = some (r, Sm')) (kk : Zl X Q (cG ad V I D) Gm Sc' Sm' (cs.1 + 10, cs.2 + 410) 2215 (lls b (ad 0) (Gm.1 0) n) []) : Zl X Q (cG ad V I D) Gm Sc Sm cs 1657 (lls b (ad 0) (Gm.1 0) n) [] := by
  refine l_aload (pc := 1657) hC 1 dL_law_1657 rfl rfl ?_
  refine l_arg (pc := 1658) (k := 1) hC (by omega) (by decide) rfl rfl dL_law_1658 dL_law_1659 dL_law_1660 dL_law_1661 dL_law_1662 ?_
  refine l_cZ (pc := 1663) (idx := 227) [.int (xs (n + 1))] [] hC (ct_X0_met zGC_c (zGV_c hV) _ ) 0 h1 rfl mv_X0_met q1192 rfl (zGC_s0 zGC_c) rfl (Nat.le_of_ble_eq_true rfl) (Nat.le_of_ble_eq_true rfl) rfl (by show cs.1 + 1 ≤ 1200384; omega) (by show cs.2 + 8 ≤ 5488810; omega) (Nat.le_of_ble_eq_true rfl) dL_law_1663 ?_
  change Zl X Q (cG ad V I D) Gm Sc' Sm (cs.1 + 1, cs.2 + 8) 1666 (lls b (ad 0) (Gm.1 0) n) [.int r]
  refine l_aload (pc := 1666) hC 2 dL_law_1666 rfl rfl ?_
  refine l_arg (pc := 1667) (k := 1) hC (by omega) (by decide) rfl rfl dL_law_1667 dL_law_1668 dL_law_1669 dL_law_1670 dL_law_1671 ?_
  refine Zl_swap (l_cZ (pc := 1672) (idx := 230) [.int (xs (n + 1))] [.int r] hC (ct_X5_met hGm _ ) 5 h2 hDm mv_X5_met q2078 rfl (zGM_s0 hGm) rfl (Nat.le_of_ble_eq_true rfl) (Nat.le_of_ble_eq_true rfl) rfl (by show cs.1 + 1 + 0 ≤ 1200384; omega) (by show cs.2 + 8 + 0 ≤ 5488810; omega) (Nat.le_of_ble_eq_true rfl) dL_law_1672 (Zl_swap ?_))
  change Zl X Q (cG ad V I D) Gm Sc' Sm' (cs.1 + 1 + 0, cs.2 + 8 + 0) 1675 (lls b (ad 0) (Gm.1 0) n) [.int r, .int r]
  refine l_icmp_eq (pc := 1675) hC 2215 dL_law_1675 rfl rfl ?_
  exact Zl_wide (cs' := (cs.1 + 10, cs.2 + 410)) (by show cs.1 + 1 + 0 ≤ cs.1 + 10; omega) (by show cs.2 + 8 + 0 ≤ cs.2 + 410; omega) (kk)
theorem lop_sure (hC : lC e9 D X b L xs) (hV : zVok V) (hGm : zGM Gm) (hDm : Gm.2.2.2 = D) (hn : n + 6 ≤ L) (hcs1 : cs.1 + 20 ≤ 1200384) (hcs2 : cs.2 + 1000 ≤ 5488810) {r : Int32} {Sc' Sm' : zSt} (h1 : F_X0_sure V (xs (n + 1)) (xs (n + 2)) Sc = some (r, Sc')) (h2 : F_X5_sure (xs (n + 1)) (xs (n + 2)) Sm = some (r, Sm')) (kk : Zl X Q (cG ad V I D) Gm Sc' Sm' (cs.1 + 10, cs.2 + 410) 2215 (lls b (ad 0) (Gm.1 0) n) []) : Zl X Q (cG ad V I D) Gm Sc Sm cs 1680 (lls b (ad 0) (Gm.1 0) n) [] := by
  refine l_aload (pc := 1680) hC 1 dL_law_1680 rfl rfl ?_
  refine l_arg (pc := 1681) (k := 1) hC (by omega) (by decide) rfl rfl dL_law_1681 dL_law_1682 dL_law_1683 dL_law_1684 dL_law_1685 ?_
  refine l_arg (pc := 1686) (k := 2) hC (by omega) (by decide) rfl rfl dL_law_1686 dL_law_1687 dL_law_1688 dL_law_1689 dL_law_1690 ?_
  refine l_cZ (pc := 1691) (idx := 231) [.int (xs (n + 1)), .int (xs (n + 2))] [] hC (ct_X0_sure zGC_c (zGV_c hV) _ _ ) 0 h1 rfl mv_X0_sure q1208 rfl (zGC_s0 zGC_c) rfl (Nat.le_of_ble_eq_true rfl) (Nat.le_of_ble_eq_true rfl) rfl (by show cs.1 + 1 ≤ 1200384; omega) (by show cs.2 + 8 ≤ 5488810; omega) (Nat.le_of_ble_eq_true rfl) dL_law_1691 ?_
  change Zl X Q (cG ad V I D) Gm Sc' Sm (cs.1 + 1, cs.2 + 8) 1694 (lls b (ad 0) (Gm.1 0) n) [.int r]
  refine l_aload (pc := 1694) hC 2 dL_law_1694 rfl rfl ?_
  refine l_arg (pc := 1695) (k := 1) hC (by omega) (by decide) rfl rfl dL_law_1695 dL_law_1696 dL_law_1697 dL_law_1698 dL_law_1699 ?_
  refine l_arg (pc := 1700) (k := 2) hC (by omega) (by decide) rfl rfl dL_law_1700 dL_law_1701 dL_law_1702 dL_law_1703 dL_law_1704 ?_
  refine Zl_swap (l_cZ (pc := 1705) (idx := 234) [.int (xs (n + 1)), .int (xs (n + 2))] [.int r] hC (ct_X5_sure hGm _ _ ) 5 h2 hDm mv_X5_sure q2094 rfl (zGM_s0 hGm) rfl (Nat.le_of_ble_eq_true rfl) (Nat.le_of_ble_eq_true rfl) rfl (by show cs.1 + 1 + 0 ≤ 1200384; omega) (by show cs.2 + 8 + 0 ≤ 5488810; omega) (Nat.le_of_ble_eq_true rfl) dL_law_1705 (Zl_swap ?_))
  change Zl X Q (cG ad V I D) Gm Sc' Sm' (cs.1 + 1 + 0, cs.2 + 8 + 0) 1708 (lls b (ad 0) (Gm.1 0) n) [.int r, .int r]
  refine l_icmp_eq (pc := 1708) hC 2215 dL_law_1708 rfl rfl ?_
  exact Zl_wide (cs' := (cs.1 + 10, cs.2 + 410)) (by show cs.1 + 1 + 0 ≤ cs.1 + 10; omega) (by show cs.2 + 8 + 0 ≤ cs.2 + 410; omega) (kk)
theorem lop_comes (hC : lC e9 D X b L xs) (hV : zVok V) (hGm : zGM Gm) (hDm : Gm.2.2.2 = D) (hn : n + 6 ≤ L) (hcs1 : cs.1 + 20 ≤ 1200384) (hcs2 : cs.2 + 1000 ≤ 5488810) {r : Int32} {Sc' Sm' : zSt} (h1 : F_X0_comes (xs (n + 1)) Sc = some (r, Sc')) (h2 : F_X5_comes (xs (n + 1)) Sm = some (r, Sm')) (kk : Zl X Q (cG ad V I D) Gm Sc' Sm' (cs.1 + 10, cs.2 + 410) 2215 (lls b (ad 0) (Gm.1 0) n) []) : Zl X Q (cG ad V I D) Gm Sc Sm cs 1713 (lls b (ad 0) (Gm.1 0) n) [] := by
  refine l_aload (pc := 1713) hC 1 dL_law_1713 rfl rfl ?_
  refine l_arg (pc := 1714) (k := 1) hC (by omega) (by decide) rfl rfl dL_law_1714 dL_law_1715 dL_law_1716 dL_law_1717 dL_law_1718 ?_
  refine l_cZ (pc := 1719) (idx := 235) [.int (xs (n + 1))] [] hC (ct_X0_comes zGC_c _ ) 0 h1 rfl mv_X0_comes q1212 rfl (zGC_s0 zGC_c) rfl (Nat.le_of_ble_eq_true rfl) (Nat.le_of_ble_eq_true rfl) rfl (by show cs.1 + 0 ≤ 1200384; omega) (by show cs.2 + 0 ≤ 5488810; omega) (Nat.le_of_ble_eq_true rfl) dL_law_1719 ?_
  change Zl X Q (cG ad V I D) Gm Sc' Sm (cs.1 + 0, cs.2 + 0) 1722 (lls b (ad 0) (Gm.1 0) n) [.int r]
  refine l_aload (pc := 1722) hC 2 dL_law_1722 rfl rfl ?_
  refine l_arg (pc := 1723) (k := 1) hC (by omega) (by decide) rfl rfl dL_law_1723 dL_law_1724 dL_law_1725 dL_law_1726 dL_law_1727 ?_
  refine Zl_swap (l_cZ (pc := 1728) (idx := 238) [.int (xs (n + 1))] [.int r] hC (ct_X5_comes hGm _ ) 5 h2 hDm mv_X5_comes q2098 rfl (zGM_s0 hGm) rfl (Nat.le_of_ble_eq_true rfl) (Nat.le_of_ble_eq_true rfl) rfl (by show cs.1 + 0 + 0 ≤ 1200384; omega) (by show cs.2 + 0 + 0 ≤ 5488810; omega) (Nat.le_of_ble_eq_true rfl) dL_law_1728 (Zl_swap ?_))
  change Zl X Q (cG ad V I D) Gm Sc' Sm' (cs.1 + 0 + 0, cs.2 + 0 + 0) 1731 (lls b (ad 0) (Gm.1 0) n) [.int r, .int r]
  refine l_icmp_eq (pc := 1731) hC 2215 dL_law_1731 rfl rfl ?_
  exact Zl_wide (cs' := (cs.1 + 10, cs.2 + 410)) (by show cs.1 + 0 + 0 ≤ cs.1 + 10; omega) (by show cs.2 + 0 + 0 ≤ cs.2 + 410; omega) (kk)
theorem lop_post (hC : lC e9 D X b L xs) (hV : zVok V) (hGm : zGM Gm) (hDm : Gm.2.2.2 = D) (hn : n + 6 ≤ L) (hcs1 : cs.1 + 20 ≤ 1200384) (hcs2 : cs.2 + 1000 ≤ 5488810) {r : Int32} {Sc' Sm' : zSt} (h1 : F_X0_post (xs (n + 1)) Sc = some (r, Sc')) (h2 : F_X5_post (xs (n + 1)) Sm = some (r, Sm')) (kk : Zl X Q (cG ad V I D) Gm Sc' Sm' (cs.1 + 10, cs.2 + 410) 2215 (lls b (ad 0) (Gm.1 0) n) []) : Zl X Q (cG ad V I D) Gm Sc Sm cs 1736 (lls b (ad 0) (Gm.1 0) n) [] := by
  refine l_aload (pc := 1736) hC 1 dL_law_1736 rfl rfl ?_
  refine l_arg (pc := 1737) (k := 1) hC (by omega) (by decide) rfl rfl dL_law_1737 dL_law_1738 dL_law_1739 dL_law_1740 dL_law_1741 ?_
  refine l_cZ (pc := 1742) (idx := 239) [.int (xs (n + 1))] [] hC (ct_X0_post zGC_c _ ) 0 h1 rfl mv_X0_post q1232 rfl (zGC_s0 zGC_c) rfl (Nat.le_of_ble_eq_true rfl) (Nat.le_of_ble_eq_true rfl) rfl (by show cs.1 + 0 ≤ 1200384; omega) (by show cs.2 + 0 ≤ 5488810; omega) (Nat.le_of_ble_eq_true rfl) dL_law_1742 ?_
  change Zl X Q (cG ad V I D) Gm Sc' Sm (cs.1 + 0, cs.2 + 0) 1745 (lls b (ad 0) (Gm.1 0) n) [.int r]
  refine l_aload (pc := 1745) hC 2 dL_law_1745 rfl rfl ?_
  refine l_arg (pc := 1746) (k := 1) hC (by omega) (by decide) rfl rfl dL_law_1746 dL_law_1747 dL_law_1748 dL_law_1749 dL_law_1750 ?_
  refine Zl_swap (l_cZ (pc := 1751) (idx := 242) [.int (xs (n + 1))] [.int r] hC (ct_X5_post hGm _ ) 5 h2 hDm mv_X5_post q2110 rfl (zGM_s0 hGm) rfl (Nat.le_of_ble_eq_true rfl) (Nat.le_of_ble_eq_true rfl) rfl (by show cs.1 + 0 + 0 ≤ 1200384; omega) (by show cs.2 + 0 + 0 ≤ 5488810; omega) (Nat.le_of_ble_eq_true rfl) dL_law_1751 (Zl_swap ?_))
  change Zl X Q (cG ad V I D) Gm Sc' Sm' (cs.1 + 0 + 0, cs.2 + 0 + 0) 1754 (lls b (ad 0) (Gm.1 0) n) [.int r, .int r]
  refine l_icmp_eq (pc := 1754) hC 2215 dL_law_1754 rfl rfl ?_
  exact Zl_wide (cs' := (cs.1 + 10, cs.2 + 410)) (by show cs.1 + 0 + 0 ≤ cs.1 + 10; omega) (by show cs.2 + 0 + 0 ≤ cs.2 + 410; omega) (kk)
theorem lop_at (hC : lC e9 D X b L xs) (hV : zVok V) (hGm : zGM Gm) (hDm : Gm.2.2.2 = D) (hn : n + 6 ≤ L) (hcs1 : cs.1 + 20 ≤ 1200384) (hcs2 : cs.2 + 1000 ≤ 5488810) {r : Int32} {Sc' Sm' : zSt} (h1 : F_X0_at (xs (n + 1)) (xs (n + 2)) Sc = some (r, Sc')) (h2 : F_X5_at (xs (n + 1)) (xs (n + 2)) Sm = some (r, Sm')) (kk : Zl X Q (cG ad V I D) Gm Sc' Sm' (cs.1 + 10, cs.2 + 410) 2215 (lls b (ad 0) (Gm.1 0) n) []) : Zl X Q (cG ad V I D) Gm Sc Sm cs 1759 (lls b (ad 0) (Gm.1 0) n) [] := by
  refine l_aload (pc := 1759) hC 1 dL_law_1759 rfl rfl ?_
  refine l_arg (pc := 1760) (k := 1) hC (by omega) (by decide) rfl rfl dL_law_1760 dL_law_1761 dL_law_1762 dL_law_1763 dL_law_1764 ?_
  refine l_arg (pc := 1765) (k := 2) hC (by omega) (by decide) rfl rfl dL_law_1765 dL_law_1766 dL_law_1767 dL_law_1768 dL_law_1769 ?_
  refine l_cZ (pc := 1770) (idx := 243) [.int (xs (n + 1)), .int (xs (n + 2))] [] hC (ct_X0_at zGC_c _ _ ) 0 h1 rfl mv_X0_at q1236 rfl (zGC_s0 zGC_c) rfl (Nat.le_of_ble_eq_true rfl) (Nat.le_of_ble_eq_true rfl) rfl (by show cs.1 + 0 ≤ 1200384; omega) (by show cs.2 + 0 ≤ 5488810; omega) (Nat.le_of_ble_eq_true rfl) dL_law_1770 ?_
  change Zl X Q (cG ad V I D) Gm Sc' Sm (cs.1 + 0, cs.2 + 0) 1773 (lls b (ad 0) (Gm.1 0) n) [.int r]
  refine l_aload (pc := 1773) hC 2 dL_law_1773 rfl rfl ?_
  refine l_arg (pc := 1774) (k := 1) hC (by omega) (by decide) rfl rfl dL_law_1774 dL_law_1775 dL_law_1776 dL_law_1777 dL_law_1778 ?_
  refine l_arg (pc := 1779) (k := 2) hC (by omega) (by decide) rfl rfl dL_law_1779 dL_law_1780 dL_law_1781 dL_law_1782 dL_law_1783 ?_
  refine Zl_swap (l_cZ (pc := 1784) (idx := 246) [.int (xs (n + 1)), .int (xs (n + 2))] [.int r] hC (ct_X5_at hGm _ _ ) 5 h2 hDm mv_X5_at q2114 rfl (zGM_s0 hGm) rfl (Nat.le_of_ble_eq_true rfl) (Nat.le_of_ble_eq_true rfl) rfl (by show cs.1 + 0 + 0 ≤ 1200384; omega) (by show cs.2 + 0 + 0 ≤ 5488810; omega) (Nat.le_of_ble_eq_true rfl) dL_law_1784 (Zl_swap ?_))
  change Zl X Q (cG ad V I D) Gm Sc' Sm' (cs.1 + 0 + 0, cs.2 + 0 + 0) 1787 (lls b (ad 0) (Gm.1 0) n) [.int r, .int r]
  refine l_icmp_eq (pc := 1787) hC 2215 dL_law_1787 rfl rfl ?_
  exact Zl_wide (cs' := (cs.1 + 10, cs.2 + 410)) (by show cs.1 + 0 + 0 ≤ cs.1 + 10; omega) (by show cs.2 + 0 + 0 ≤ cs.2 + 410; omega) (kk)
theorem lop_clash (hC : lC e9 D X b L xs) (hV : zVok V) (hGm : zGM Gm) (hDm : Gm.2.2.2 = D) (hn : n + 6 ≤ L) (hcs1 : cs.1 + 20 ≤ 1200384) (hcs2 : cs.2 + 1000 ≤ 5488810) {r : Int32} {Sc' Sm' : zSt} (h1 : F_X0_clash  Sc = some (r, Sc')) (h2 : F_X5_clash  Sm = some (r, Sm')) (kk : Zl X Q (cG ad V I D) Gm Sc' Sm' (cs.1 + 10, cs.2 + 410) 2215 (lls b (ad 0) (Gm.1 0) n) []) : Zl X Q (cG ad V I D) Gm Sc Sm cs 1792 (lls b (ad 0) (Gm.1 0) n) [] := by
  refine l_aload (pc := 1792) hC 1 dL_law_1792 rfl rfl ?_
  refine l_cZ (pc := 1793) (idx := 247) [] [] hC (ct_X0_clash zGC_c ) 0 h1 rfl mv_X0_clash q1240 rfl (zGC_s0 zGC_c) rfl (Nat.le_of_ble_eq_true rfl) (Nat.le_of_ble_eq_true rfl) rfl (by show cs.1 + 0 ≤ 1200384; omega) (by show cs.2 + 0 ≤ 5488810; omega) (Nat.le_of_ble_eq_true rfl) dL_law_1793 ?_
  change Zl X Q (cG ad V I D) Gm Sc' Sm (cs.1 + 0, cs.2 + 0) 1796 (lls b (ad 0) (Gm.1 0) n) [.int r]
  refine l_aload (pc := 1796) hC 2 dL_law_1796 rfl rfl ?_
  refine Zl_swap (l_cZ (pc := 1797) (idx := 250) [] [.int r] hC (ct_X5_clash hGm ) 5 h2 hDm mv_X5_clash q2119 rfl (zGM_s0 hGm) rfl (Nat.le_of_ble_eq_true rfl) (Nat.le_of_ble_eq_true rfl) rfl (by show cs.1 + 0 + 0 ≤ 1200384; omega) (by show cs.2 + 0 + 0 ≤ 5488810; omega) (Nat.le_of_ble_eq_true rfl) dL_law_1797 (Zl_swap ?_))
  change Zl X Q (cG ad V I D) Gm Sc' Sm' (cs.1 + 0 + 0, cs.2 + 0 + 0) 1800 (lls b (ad 0) (Gm.1 0) n) [.int r, .int r]
  refine l_icmp_eq (pc := 1800) hC 2215 dL_law_1800 rfl rfl ?_
  exact Zl_wide (cs' := (cs.1 + 10, cs.2 + 410)) (by show cs.1 + 0 + 0 ≤ cs.1 + 10; omega) (by show cs.2 + 0 + 0 ≤ cs.2 + 410; omega) (kk)
theorem lop_law (hC : lC e9 D X b L xs) (hV : zVok V) (hGm : zGM Gm) (hDm : Gm.2.2.2 = D) (hn : n + 6 ≤ L) (hcs1 : cs.1 + 20 ≤ 1200384) (hcs2 : cs.2 + 1000 ≤ 5488810) {r : Int32} {Sc' Sm' : zSt} (h1 : F_X0_law (xs (n + 1)) Sc = some (r, Sc')) (h2 : F_X5_law (xs (n + 1)) Sm = some (r, Sm')) (kk : Zl X Q (cG ad V I D) Gm Sc' Sm' (cs.1 + 10, cs.2 + 410) 2215 (lls b (ad 0) (Gm.1 0) n) []) : Zl X Q (cG ad V I D) Gm Sc Sm cs 1805 (lls b (ad 0) (Gm.1 0) n) [] := by
  refine l_aload (pc := 1805) hC 1 dL_law_1805 rfl rfl ?_
  refine l_arg (pc := 1806) (k := 1) hC (by omega) (by decide) rfl rfl dL_law_1806 dL_law_1807 dL_law_1808 dL_law_1809 dL_law_1810 ?_
  refine l_cZ (pc := 1811) (idx := 251) [.int (xs (n + 1))] [] hC (ct_X0_law zGC_c _ ) 0 h1 rfl mv_X0_law q1244 rfl (zGC_s0 zGC_c) rfl (Nat.le_of_ble_eq_true rfl) (Nat.le_of_ble_eq_true rfl) rfl (by show cs.1 + 0 ≤ 1200384; omega) (by show cs.2 + 0 ≤ 5488810; omega) (Nat.le_of_ble_eq_true rfl) dL_law_1811 ?_
  change Zl X Q (cG ad V I D) Gm Sc' Sm (cs.1 + 0, cs.2 + 0) 1814 (lls b (ad 0) (Gm.1 0) n) [.int r]
  refine l_aload (pc := 1814) hC 2 dL_law_1814 rfl rfl ?_
  refine l_arg (pc := 1815) (k := 1) hC (by omega) (by decide) rfl rfl dL_law_1815 dL_law_1816 dL_law_1817 dL_law_1818 dL_law_1819 ?_
  refine Zl_swap (l_cZ (pc := 1820) (idx := 254) [.int (xs (n + 1))] [.int r] hC (ct_X5_law hGm _ ) 5 h2 hDm mv_X5_law q2123 rfl (zGM_s0 hGm) rfl (Nat.le_of_ble_eq_true rfl) (Nat.le_of_ble_eq_true rfl) rfl (by show cs.1 + 0 + 0 ≤ 1200384; omega) (by show cs.2 + 0 + 0 ≤ 5488810; omega) (Nat.le_of_ble_eq_true rfl) dL_law_1820 (Zl_swap ?_))
  change Zl X Q (cG ad V I D) Gm Sc' Sm' (cs.1 + 0 + 0, cs.2 + 0 + 0) 1823 (lls b (ad 0) (Gm.1 0) n) [.int r, .int r]
  refine l_icmp_eq (pc := 1823) hC 2215 dL_law_1823 rfl rfl ?_
  exact Zl_wide (cs' := (cs.1 + 10, cs.2 + 410)) (by show cs.1 + 0 + 0 ≤ cs.1 + 10; omega) (by show cs.2 + 0 + 0 ≤ cs.2 + 410; omega) (kk)
theorem lop_flood (hC : lC e9 D X b L xs) (hV : zVok V) (hGm : zGM Gm) (hDm : Gm.2.2.2 = D) (hn : n + 6 ≤ L) (hcs1 : cs.1 + 20 ≤ 1200384) (hcs2 : cs.2 + 1000 ≤ 5488810) {r : Int32} {Sc' Sm' : zSt} (h1 : F_X0_flood (xs (n + 1)) (xs (n + 2)) (xs (n + 3)) Sc = some (r, Sc')) (h2 : F_X5_flood (xs (n + 1)) (xs (n + 2)) (xs (n + 3)) Sm = some (r, Sm')) (kk : Zl X Q (cG ad V I D) Gm Sc' Sm' (cs.1 + 10, cs.2 + 410) 2215 (lls b (ad 0) (Gm.1 0) n) []) : Zl X Q (cG ad V I D) Gm Sc Sm cs 1828 (lls b (ad 0) (Gm.1 0) n) [] := by
  refine l_aload (pc := 1828) hC 1 dL_law_1828 rfl rfl ?_
  refine l_arg (pc := 1829) (k := 1) hC (by omega) (by decide) rfl rfl dL_law_1829 dL_law_1830 dL_law_1831 dL_law_1832 dL_law_1833 ?_
  refine l_arg (pc := 1834) (k := 2) hC (by omega) (by decide) rfl rfl dL_law_1834 dL_law_1835 dL_law_1836 dL_law_1837 dL_law_1838 ?_
  refine l_arg (pc := 1839) (k := 3) hC (by omega) (by decide) rfl rfl dL_law_1839 dL_law_1840 dL_law_1841 dL_law_1842 dL_law_1843 ?_
  refine l_cZ (pc := 1844) (idx := 255) [.int (xs (n + 1)), .int (xs (n + 2)), .int (xs (n + 3))] [] hC (ct_X0_flood zGC_c _ _ _ ) 0 h1 rfl mv_X0_flood q1252 rfl (zGC_s0 zGC_c) rfl (Nat.le_of_ble_eq_true rfl) (Nat.le_of_ble_eq_true rfl) rfl (by show cs.1 + 0 ≤ 1200384; omega) (by show cs.2 + 0 ≤ 5488810; omega) (Nat.le_of_ble_eq_true rfl) dL_law_1844 ?_
  change Zl X Q (cG ad V I D) Gm Sc' Sm (cs.1 + 0, cs.2 + 0) 1847 (lls b (ad 0) (Gm.1 0) n) [.int r]
  refine l_aload (pc := 1847) hC 2 dL_law_1847 rfl rfl ?_
  refine l_arg (pc := 1848) (k := 1) hC (by omega) (by decide) rfl rfl dL_law_1848 dL_law_1849 dL_law_1850 dL_law_1851 dL_law_1852 ?_
  refine l_arg (pc := 1853) (k := 2) hC (by omega) (by decide) rfl rfl dL_law_1853 dL_law_1854 dL_law_1855 dL_law_1856 dL_law_1857 ?_
  refine l_arg (pc := 1858) (k := 3) hC (by omega) (by decide) rfl rfl dL_law_1858 dL_law_1859 dL_law_1860 dL_law_1861 dL_law_1862 ?_
  refine Zl_swap (l_cZ (pc := 1863) (idx := 258) [.int (xs (n + 1)), .int (xs (n + 2)), .int (xs (n + 3))] [.int r] hC (ct_X5_flood hGm _ _ _ ) 5 h2 hDm mv_X5_flood q2127 rfl (zGM_s0 hGm) rfl (Nat.le_of_ble_eq_true rfl) (Nat.le_of_ble_eq_true rfl) rfl (by show cs.1 + 0 + 0 ≤ 1200384; omega) (by show cs.2 + 0 + 0 ≤ 5488810; omega) (Nat.le_of_ble_eq_true rfl) dL_law_1863 (Zl_swap ?_))
  change Zl X Q (cG ad V I D) Gm Sc' Sm' (cs.1 + 0 + 0, cs.2 + 0 + 0) 1866 (lls b (ad 0) (Gm.1 0) n) [.int r, .int r]
  refine l_icmp_eq (pc := 1866) hC 2215 dL_law_1866 rfl rfl ?_
  exact Zl_wide (cs' := (cs.1 + 10, cs.2 + 410)) (by show cs.1 + 0 + 0 ≤ cs.1 + 10; omega) (by show cs.2 + 0 + 0 ≤ cs.2 + 410; omega) (kk)
theorem lop_day (hC : lC e9 D X b L xs) (hV : zVok V) (hGm : zGM Gm) (hDm : Gm.2.2.2 = D) (hn : n + 6 ≤ L) (hcs1 : cs.1 + 20 ≤ 1200384) (hcs2 : cs.2 + 1000 ≤ 5488810) {r : Int32} {Sc' Sm' : zSt} (h1 : F_X0_day (xs (n + 1)) (xs (n + 2)) Sc = some (r, Sc')) (h2 : F_X5_day (xs (n + 1)) (xs (n + 2)) Sm = some (r, Sm')) (kk : Zl X Q (cG ad V I D) Gm Sc' Sm' (cs.1 + 10, cs.2 + 410) 2215 (lls b (ad 0) (Gm.1 0) n) []) : Zl X Q (cG ad V I D) Gm Sc Sm cs 1871 (lls b (ad 0) (Gm.1 0) n) [] := by
  refine l_aload (pc := 1871) hC 1 dL_law_1871 rfl rfl ?_
  refine l_arg (pc := 1872) (k := 1) hC (by omega) (by decide) rfl rfl dL_law_1872 dL_law_1873 dL_law_1874 dL_law_1875 dL_law_1876 ?_
  refine l_arg (pc := 1877) (k := 2) hC (by omega) (by decide) rfl rfl dL_law_1877 dL_law_1878 dL_law_1879 dL_law_1880 dL_law_1881 ?_
  refine l_cZ (pc := 1882) (idx := 259) [.int (xs (n + 1)), .int (xs (n + 2))] [] hC (ct_X0_day zGC_c _ _ ) 0 h1 rfl mv_X0_day q1272 rfl (zGC_s0 zGC_c) rfl (Nat.le_of_ble_eq_true rfl) (Nat.le_of_ble_eq_true rfl) rfl (by show cs.1 + 0 ≤ 1200384; omega) (by show cs.2 + 0 ≤ 5488810; omega) (Nat.le_of_ble_eq_true rfl) dL_law_1882 ?_
  change Zl X Q (cG ad V I D) Gm Sc' Sm (cs.1 + 0, cs.2 + 0) 1885 (lls b (ad 0) (Gm.1 0) n) [.int r]
  refine l_aload (pc := 1885) hC 2 dL_law_1885 rfl rfl ?_
  refine l_arg (pc := 1886) (k := 1) hC (by omega) (by decide) rfl rfl dL_law_1886 dL_law_1887 dL_law_1888 dL_law_1889 dL_law_1890 ?_
  refine l_arg (pc := 1891) (k := 2) hC (by omega) (by decide) rfl rfl dL_law_1891 dL_law_1892 dL_law_1893 dL_law_1894 dL_law_1895 ?_
  refine Zl_swap (l_cZ (pc := 1896) (idx := 262) [.int (xs (n + 1)), .int (xs (n + 2))] [.int r] hC (ct_X5_day hGm _ _ ) 5 h2 hDm mv_X5_day q2147 rfl (zGM_s0 hGm) rfl (Nat.le_of_ble_eq_true rfl) (Nat.le_of_ble_eq_true rfl) rfl (by show cs.1 + 0 + 0 ≤ 1200384; omega) (by show cs.2 + 0 + 0 ≤ 5488810; omega) (Nat.le_of_ble_eq_true rfl) dL_law_1896 (Zl_swap ?_))
  change Zl X Q (cG ad V I D) Gm Sc' Sm' (cs.1 + 0 + 0, cs.2 + 0 + 0) 1899 (lls b (ad 0) (Gm.1 0) n) [.int r, .int r]
  refine l_icmp_eq (pc := 1899) hC 2215 dL_law_1899 rfl rfl ?_
  exact Zl_wide (cs' := (cs.1 + 10, cs.2 + 410)) (by show cs.1 + 0 + 0 ≤ cs.1 + 10; omega) (by show cs.2 + 0 + 0 ≤ cs.2 + 410; omega) (kk)
theorem lop_chance (hC : lC e9 D X b L xs) (hV : zVok V) (hGm : zGM Gm) (hDm : Gm.2.2.2 = D) (hn : n + 6 ≤ L) (hcs1 : cs.1 + 20 ≤ 1200384) (hcs2 : cs.2 + 1000 ≤ 5488810) {r : Int32} {Sc' Sm' : zSt} (h1 : F_X0_chance (xs (n + 1)) (xs (n + 2)) (xs (n + 3)) (xs (n + 4)) (xs (n + 5)) Sc = some (r, Sc')) (h2 : F_X5_chance (xs (n + 1)) (xs (n + 2)) (xs (n + 3)) (xs (n + 4)) (xs (n + 5)) Sm = some (r, Sm')) (kk : Zl X Q (cG ad V I D) Gm Sc' Sm' (cs.1 + 10, cs.2 + 410) 2215 (lls b (ad 0) (Gm.1 0) n) []) : Zl X Q (cG ad V I D) Gm Sc Sm cs 1904 (lls b (ad 0) (Gm.1 0) n) [] := by
  refine l_aload (pc := 1904) hC 1 dL_law_1904 rfl rfl ?_
  refine l_arg (pc := 1905) (k := 1) hC (by omega) (by decide) rfl rfl dL_law_1905 dL_law_1906 dL_law_1907 dL_law_1908 dL_law_1909 ?_
  refine l_arg (pc := 1910) (k := 2) hC (by omega) (by decide) rfl rfl dL_law_1910 dL_law_1911 dL_law_1912 dL_law_1913 dL_law_1914 ?_
  refine l_arg (pc := 1915) (k := 3) hC (by omega) (by decide) rfl rfl dL_law_1915 dL_law_1916 dL_law_1917 dL_law_1918 dL_law_1919 ?_
  refine l_arg (pc := 1920) (k := 4) hC (by omega) (by decide) rfl rfl dL_law_1920 dL_law_1921 dL_law_1922 dL_law_1923 dL_law_1924 ?_
  refine l_arg (pc := 1925) (k := 5) hC (by omega) (by decide) rfl rfl dL_law_1925 dL_law_1926 dL_law_1927 dL_law_1928 dL_law_1929 ?_
  refine l_cZ (pc := 1930) (idx := 263) [.int (xs (n + 1)), .int (xs (n + 2)), .int (xs (n + 3)), .int (xs (n + 4)), .int (xs (n + 5))] [] hC (ct_X0_chance zGC_c _ _ _ _ _ ) 0 h1 rfl mv_X0_chance q1276 rfl (zGC_s0 zGC_c) rfl (Nat.le_of_ble_eq_true rfl) (Nat.le_of_ble_eq_true rfl) rfl (by show cs.1 + 0 ≤ 1200384; omega) (by show cs.2 + 0 ≤ 5488810; omega) (Nat.le_of_ble_eq_true rfl) dL_law_1930 ?_
  change Zl X Q (cG ad V I D) Gm Sc' Sm (cs.1 + 0, cs.2 + 0) 1933 (lls b (ad 0) (Gm.1 0) n) [.int r]
  refine l_aload (pc := 1933) hC 2 dL_law_1933 rfl rfl ?_
  refine l_arg (pc := 1934) (k := 1) hC (by omega) (by decide) rfl rfl dL_law_1934 dL_law_1935 dL_law_1936 dL_law_1937 dL_law_1938 ?_
  refine l_arg (pc := 1939) (k := 2) hC (by omega) (by decide) rfl rfl dL_law_1939 dL_law_1940 dL_law_1941 dL_law_1942 dL_law_1943 ?_
  refine l_arg (pc := 1944) (k := 3) hC (by omega) (by decide) rfl rfl dL_law_1944 dL_law_1945 dL_law_1946 dL_law_1947 dL_law_1948 ?_
  refine l_arg (pc := 1949) (k := 4) hC (by omega) (by decide) rfl rfl dL_law_1949 dL_law_1950 dL_law_1951 dL_law_1952 dL_law_1953 ?_
  refine l_arg (pc := 1954) (k := 5) hC (by omega) (by decide) rfl rfl dL_law_1954 dL_law_1955 dL_law_1956 dL_law_1957 dL_law_1958 ?_
  refine Zl_swap (l_cZ (pc := 1959) (idx := 266) [.int (xs (n + 1)), .int (xs (n + 2)), .int (xs (n + 3)), .int (xs (n + 4)), .int (xs (n + 5))] [.int r] hC (ct_X5_chance hGm _ _ _ _ _ ) 5 h2 hDm mv_X5_chance q2152 rfl (zGM_s0 hGm) rfl (Nat.le_of_ble_eq_true rfl) (Nat.le_of_ble_eq_true rfl) rfl (by show cs.1 + 0 + 0 ≤ 1200384; omega) (by show cs.2 + 0 + 0 ≤ 5488810; omega) (Nat.le_of_ble_eq_true rfl) dL_law_1959 (Zl_swap ?_))
  change Zl X Q (cG ad V I D) Gm Sc' Sm' (cs.1 + 0 + 0, cs.2 + 0 + 0) 1962 (lls b (ad 0) (Gm.1 0) n) [.int r, .int r]
  refine l_icmp_eq (pc := 1962) hC 2215 dL_law_1962 rfl rfl ?_
  exact Zl_wide (cs' := (cs.1 + 10, cs.2 + 410)) (by show cs.1 + 0 + 0 ≤ cs.1 + 10; omega) (by show cs.2 + 0 + 0 ≤ cs.2 + 410; omega) (kk)
theorem lop_count (hC : lC e9 D X b L xs) (hV : zVok V) (hGm : zGM Gm) (hDm : Gm.2.2.2 = D) (hn : n + 6 ≤ L) (hcs1 : cs.1 + 20 ≤ 1200384) (hcs2 : cs.2 + 1000 ≤ 5488810) {r : Int32} {Sc' Sm' : zSt} (h1 : F_X0_count V (xs (n + 1)) Sc = some (r, Sc')) (h2 : F_X5_count (xs (n + 1)) Sm = some (r, Sm')) (kk : Zl X Q (cG ad V I D) Gm Sc' Sm' (cs.1 + 10, cs.2 + 410) 2215 (lls b (ad 0) (Gm.1 0) n) []) : Zl X Q (cG ad V I D) Gm Sc Sm cs 1967 (lls b (ad 0) (Gm.1 0) n) [] := by
  refine l_aload (pc := 1967) hC 1 dL_law_1967 rfl rfl ?_
  refine l_arg (pc := 1968) (k := 1) hC (by omega) (by decide) rfl rfl dL_law_1968 dL_law_1969 dL_law_1970 dL_law_1971 dL_law_1972 ?_
  refine l_cZ (pc := 1973) (idx := 267) [.int (xs (n + 1))] [] hC (ct_X0_count zGC_c (zGV_c hV) _ ) 0 h1 rfl mv_X0_count q1282 rfl (zGC_s0 zGC_c) rfl (Nat.le_of_ble_eq_true rfl) (Nat.le_of_ble_eq_true rfl) rfl (by show cs.1 + 0 ≤ 1200384; omega) (by show cs.2 + 0 ≤ 5488810; omega) (Nat.le_of_ble_eq_true rfl) dL_law_1973 ?_
  change Zl X Q (cG ad V I D) Gm Sc' Sm (cs.1 + 0, cs.2 + 0) 1976 (lls b (ad 0) (Gm.1 0) n) [.int r]
  refine l_aload (pc := 1976) hC 2 dL_law_1976 rfl rfl ?_
  refine l_arg (pc := 1977) (k := 1) hC (by omega) (by decide) rfl rfl dL_law_1977 dL_law_1978 dL_law_1979 dL_law_1980 dL_law_1981 ?_
  refine Zl_swap (l_cZ (pc := 1982) (idx := 270) [.int (xs (n + 1))] [.int r] hC (ct_X5_count hGm _ ) 5 h2 hDm mv_X5_count q2158 rfl (zGM_s0 hGm) rfl (Nat.le_of_ble_eq_true rfl) (Nat.le_of_ble_eq_true rfl) rfl (by show cs.1 + 0 + 0 ≤ 1200384; omega) (by show cs.2 + 0 + 0 ≤ 5488810; omega) (Nat.le_of_ble_eq_true rfl) dL_law_1982 (Zl_swap ?_))
  change Zl X Q (cG ad V I D) Gm Sc' Sm' (cs.1 + 0 + 0, cs.2 + 0 + 0) 1985 (lls b (ad 0) (Gm.1 0) n) [.int r, .int r]
  refine l_icmp_eq (pc := 1985) hC 2215 dL_law_1985 rfl rfl ?_
  exact Zl_wide (cs' := (cs.1 + 10, cs.2 + 410)) (by show cs.1 + 0 + 0 ≤ cs.1 + 10; omega) (by show cs.2 + 0 + 0 ≤ cs.2 + 410; omega) (kk)
theorem lop_keep (hC : lC e9 D X b L xs) (hV : zVok V) (hGm : zGM Gm) (hDm : Gm.2.2.2 = D) (hn : n + 6 ≤ L) (hcs1 : cs.1 + 20 ≤ 1200384) (hcs2 : cs.2 + 1000 ≤ 5488810) {r : Int32} {Sc' Sm' : zSt} (h1 : F_X0_keep (xs (n + 1)) Sc = some (r, Sc')) (h2 : F_X5_keep (xs (n + 1)) Sm = some (r, Sm')) (kk : ∀ ad', Zl X Q (cG ad' V (iU I (xs (n + 1)).toNatClampNeg) D) Gm Sc' Sm' (cs.1 + 10, cs.2 + 410) 2215 (lls b (ad' 0) (Gm.1 0) n) []) : Zl X Q (cG ad V I D) Gm Sc Sm cs 1990 (lls b (ad 0) (Gm.1 0) n) [] := by
  refine l_aload (pc := 1990) hC 1 dL_law_1990 rfl rfl ?_
  refine l_arg (pc := 1991) (k := 1) hC (by omega) (by decide) rfl rfl dL_law_1991 dL_law_1992 dL_law_1993 dL_law_1994 dL_law_1995 ?_
  refine l_cG (pc := 1996) (idx := 271) [.int (xs (n + 1))] [] hC (cg_X0_keep _) 0 h1 rfl mv_X0_keep q1290 rfl (zGC_s0 zGC_c) rfl (Nat.le_of_ble_eq_true rfl) (Nat.le_of_ble_eq_true rfl) rfl (by show cs.1 + 7 ≤ 1200384; omega) (by show cs.2 + 106 ≤ 5488810; omega) (Nat.le_of_ble_eq_true rfl) dL_law_1996 (fun G' hK hD9 => ?_)
  obtain ⟨ad', had, rfl⟩ := hK
  rw [← had]
  change Zl X Q (cG ad' V (iU I (xs (n + 1)).toNatClampNeg) D) Gm Sc' Sm (cs.1 + 7, cs.2 + 106) 1999 (lls b (ad' 0) (Gm.1 0) n) [.int r]
  refine l_aload (pc := 1999) hC 2 dL_law_1999 rfl rfl ?_
  refine l_arg (pc := 2000) (k := 1) hC (by omega) (by decide) rfl rfl dL_law_2000 dL_law_2001 dL_law_2002 dL_law_2003 dL_law_2004 ?_
  refine Zl_swap (l_cZ (pc := 2005) (idx := 274) [.int (xs (n + 1))] [.int r] hC (ct_X5_keep hGm _ ) 5 h2 hDm mv_X5_keep q2162 rfl (zGM_s0 hGm) rfl (Nat.le_of_ble_eq_true rfl) (Nat.le_of_ble_eq_true rfl) rfl (by show cs.1 + 7 + 0 ≤ 1200384; omega) (by show cs.2 + 106 + 0 ≤ 5488810; omega) (Nat.le_of_ble_eq_true rfl) dL_law_2005 (Zl_swap ?_))
  change Zl X Q (cG ad' V (iU I (xs (n + 1)).toNatClampNeg) D) Gm Sc' Sm' (cs.1 + 7 + 0, cs.2 + 106 + 0) 2008 (lls b (ad' 0) (Gm.1 0) n) [.int r, .int r]
  refine l_icmp_eq (pc := 2008) hC 2215 dL_law_2008 rfl rfl ?_
  exact Zl_wide (cs' := (cs.1 + 10, cs.2 + 410)) (by show cs.1 + 7 + 0 ≤ cs.1 + 10; omega) (by show cs.2 + 106 + 0 ≤ cs.2 + 410; omega) (kk ad')
theorem lop_keepO (hC : lC e9 D X b L xs) (hV : zVok V) (hGm : zGM Gm) (hDm : Gm.2.2.2 = D) (hn : n + 6 ≤ L) (hcs1 : cs.1 + 20 ≤ 1200384) (hcs2 : cs.2 + 1000 ≤ 5488810) {r : Int32} {Sc' Sm' : zSt} (h1 : F_oI (xs (n + 1)) Sc = some (r, Sc')) (h2 : F_X5_keep (xs (n + 1)) Sm = some (r, Sm')) (kk : Zl X Q (cG ad V I D) Gm Sc' Sm' (cs.1 + 10, cs.2 + 410) 2215 (lls b (ad 0) (Gm.1 0) n) []) : Zl X Q (cG ad V I D) Gm Sc Sm cs 1990 (lls b (ad 0) (Gm.1 0) n) [] := by
  refine l_aload (pc := 1990) hC 1 dL_law_1990 rfl rfl ?_
  refine l_arg (pc := 1991) (k := 1) hC (by omega) (by decide) rfl rfl dL_law_1991 dL_law_1992 dL_law_1993 dL_law_1994 dL_law_1995 ?_
  refine l_cZ (pc := 1996) (idx := 271) [.int (xs (n + 1))] [] hC (ct_X0_keepO _) 0 h1 rfl mv_X0_keep q1290 rfl (zGC_s0 zGC_c) rfl (Nat.le_of_ble_eq_true rfl) (Nat.le_of_ble_eq_true rfl) rfl (by show cs.1 + 7 ≤ 1200384; omega) (by show cs.2 + 106 ≤ 5488810; omega) (Nat.le_of_ble_eq_true rfl) dL_law_1996 ?_
  change Zl X Q (cG ad V I D) Gm Sc' Sm (cs.1 + 7, cs.2 + 106) 1999 (lls b (ad 0) (Gm.1 0) n) [.int r]
  refine l_aload (pc := 1999) hC 2 dL_law_1999 rfl rfl ?_
  refine l_arg (pc := 2000) (k := 1) hC (by omega) (by decide) rfl rfl dL_law_2000 dL_law_2001 dL_law_2002 dL_law_2003 dL_law_2004 ?_
  refine Zl_swap (l_cZ (pc := 2005) (idx := 274) [.int (xs (n + 1))] [.int r] hC (ct_X5_keep hGm _ ) 5 h2 hDm mv_X5_keep q2162 rfl (zGM_s0 hGm) rfl (Nat.le_of_ble_eq_true rfl) (Nat.le_of_ble_eq_true rfl) rfl (by show cs.1 + 7 + 0 ≤ 1200384; omega) (by show cs.2 + 106 + 0 ≤ 5488810; omega) (Nat.le_of_ble_eq_true rfl) dL_law_2005 (Zl_swap ?_))
  change Zl X Q (cG ad V I D) Gm Sc' Sm' (cs.1 + 7 + 0, cs.2 + 106 + 0) 2008 (lls b (ad 0) (Gm.1 0) n) [.int r, .int r]
  refine l_icmp_eq (pc := 2008) hC 2215 dL_law_2008 rfl rfl ?_
  exact Zl_wide (cs' := (cs.1 + 10, cs.2 + 410)) (by show cs.1 + 7 + 0 ≤ cs.1 + 10; omega) (by show cs.2 + 106 + 0 ≤ cs.2 + 410; omega) (kk)
theorem lop_backN (hC : lC e9 D X b L xs) (hV : zVok V) (hGm : zGM Gm) (hDm : Gm.2.2.2 = D) (hn : n + 6 ≤ L) (hcs1 : cs.1 + 20 ≤ 1200384) (hcs2 : cs.2 + 1000 ≤ 5488810) {r : Int32} {Sc' Sm' : zSt} (hI9 : I (xs (n + 1)).toNatClampNeg = false) (h1 : F_X0_backN (xs (n + 1)) Sc = some (r, Sc')) (h2 : F_X5_back (xs (n + 1)) Sm = some (r, Sm')) (kk : Zl X Q (cG ad V I D) Gm Sc' Sm' (cs.1 + 10, cs.2 + 410) 2215 (lls b (ad 0) (Gm.1 0) n) []) : Zl X Q (cG ad V I D) Gm Sc Sm cs 2013 (lls b (ad 0) (Gm.1 0) n) [] := by
  refine l_aload (pc := 2013) hC 1 dL_law_2013 rfl rfl ?_
  refine l_arg (pc := 2014) (k := 1) hC (by omega) (by decide) rfl rfl dL_law_2014 dL_law_2015 dL_law_2016 dL_law_2017 dL_law_2018 ?_
  refine l_cG (pc := 2019) (idx := 275) [.int (xs (n + 1))] [] hC (cg_X0_backN _ hI9) 0 h1 rfl mv_X0_back q1302 rfl (zGC_s0 zGC_c) rfl (Nat.le_of_ble_eq_true rfl) (Nat.le_of_ble_eq_true rfl) rfl (by show cs.1 + 7 ≤ 1200384; omega) (by show cs.2 + 106 ≤ 5488810; omega) (Nat.le_of_ble_eq_true rfl) dL_law_2019 (fun G' hK hD9 => ?_)
  subst hK
  change Zl X Q (cG ad V I D) Gm Sc' Sm (cs.1 + 7, cs.2 + 106) 2022 (lls b (ad 0) (Gm.1 0) n) [.int r]
  refine l_aload (pc := 2022) hC 2 dL_law_2022 rfl rfl ?_
  refine l_arg (pc := 2023) (k := 1) hC (by omega) (by decide) rfl rfl dL_law_2023 dL_law_2024 dL_law_2025 dL_law_2026 dL_law_2027 ?_
  refine Zl_swap (l_cZ (pc := 2028) (idx := 278) [.int (xs (n + 1))] [.int r] hC (ct_X5_back hGm _ ) 5 h2 hDm mv_X5_back q2166 rfl (zGM_s0 hGm) rfl (Nat.le_of_ble_eq_true rfl) (Nat.le_of_ble_eq_true rfl) rfl (by show cs.1 + 7 + 0 ≤ 1200384; omega) (by show cs.2 + 106 + 0 ≤ 5488810; omega) (Nat.le_of_ble_eq_true rfl) dL_law_2028 (Zl_swap ?_))
  change Zl X Q (cG ad V I D) Gm Sc' Sm' (cs.1 + 7 + 0, cs.2 + 106 + 0) 2031 (lls b (ad 0) (Gm.1 0) n) [.int r, .int r]
  refine l_icmp_eq (pc := 2031) hC 2215 dL_law_2031 rfl rfl ?_
  exact Zl_wide (cs' := (cs.1 + 10, cs.2 + 410)) (by show cs.1 + 7 + 0 ≤ cs.1 + 10; omega) (by show cs.2 + 106 + 0 ≤ cs.2 + 410; omega) (kk)
theorem lop_back0 (hC : lC e9 D X b L xs) (hV : zVok V) (hGm : zGM Gm) (hDm : Gm.2.2.2 = D) (hn : n + 6 ≤ L) (hcs1 : cs.1 + 20 ≤ 1200384) (hcs2 : cs.2 + 1000 ≤ 5488810) {r : Int32} {Sc' Sm' : zSt} (ha9 : (xs (n + 1)).toNatClampNeg = 0) (hI9 : I 0 = true) (h1 : F_X0_back0 (xs (n + 1)) Sc = some (r, Sc')) (h2 : F_X5_back (xs (n + 1)) Sm = some (r, Sm')) (kk : ∀ ad', Zl X Q (cG ad' V I D) Gm Sc' Sm' (cs.1 + 10, cs.2 + 410) 2215 (lls b (ad' 0) (Gm.1 0) n) []) : Zl X Q (cG ad V I D) Gm Sc Sm cs 2013 (lls b (ad 0) (Gm.1 0) n) [] := by
  refine l_aload (pc := 2013) hC 1 dL_law_2013 rfl rfl ?_
  refine l_arg (pc := 2014) (k := 1) hC (by omega) (by decide) rfl rfl dL_law_2014 dL_law_2015 dL_law_2016 dL_law_2017 dL_law_2018 ?_
  refine l_cG (pc := 2019) (idx := 275) [.int (xs (n + 1))] [] hC (cg_X0_back0 _ ha9 hI9) 0 h1 rfl mv_X0_back q1302 rfl (zGC_s0 zGC_c) rfl (Nat.le_of_ble_eq_true rfl) (Nat.le_of_ble_eq_true rfl) rfl (by show cs.1 + 7 ≤ 1200384; omega) (by show cs.2 + 106 ≤ 5488810; omega) (Nat.le_of_ble_eq_true rfl) dL_law_2019 (fun G' hK hD9 => ?_)
  obtain ⟨ad', had, rfl⟩ := hK
  rw [← had]
  change Zl X Q (cG ad' V I D) Gm Sc' Sm (cs.1 + 7, cs.2 + 106) 2022 (lls b (ad' 0) (Gm.1 0) n) [.int r]
  refine l_aload (pc := 2022) hC 2 dL_law_2022 rfl rfl ?_
  refine l_arg (pc := 2023) (k := 1) hC (by omega) (by decide) rfl rfl dL_law_2023 dL_law_2024 dL_law_2025 dL_law_2026 dL_law_2027 ?_
  refine Zl_swap (l_cZ (pc := 2028) (idx := 278) [.int (xs (n + 1))] [.int r] hC (ct_X5_back hGm _ ) 5 h2 hDm mv_X5_back q2166 rfl (zGM_s0 hGm) rfl (Nat.le_of_ble_eq_true rfl) (Nat.le_of_ble_eq_true rfl) rfl (by show cs.1 + 7 + 0 ≤ 1200384; omega) (by show cs.2 + 106 + 0 ≤ 5488810; omega) (Nat.le_of_ble_eq_true rfl) dL_law_2028 (Zl_swap ?_))
  change Zl X Q (cG ad' V I D) Gm Sc' Sm' (cs.1 + 7 + 0, cs.2 + 106 + 0) 2031 (lls b (ad' 0) (Gm.1 0) n) [.int r, .int r]
  refine l_icmp_eq (pc := 2031) hC 2215 dL_law_2031 rfl rfl ?_
  exact Zl_wide (cs' := (cs.1 + 10, cs.2 + 410)) (by show cs.1 + 7 + 0 ≤ cs.1 + 10; omega) (by show cs.2 + 106 + 0 ≤ cs.2 + 410; omega) (kk ad')
theorem lop_back1 (hC : lC e9 D X b L xs) (hV : zVok V) (hGm : zGM Gm) (hDm : Gm.2.2.2 = D) (hn : n + 6 ≤ L) (hcs1 : cs.1 + 20 ≤ 1200384) (hcs2 : cs.2 + 1000 ≤ 5488810) {r : Int32} {Sc' Sm' : zSt} (ha9 : (xs (n + 1)).toNatClampNeg = 1) (hI9 : I 1 = true) (h1 : F_X0_back1 (xs (n + 1)) Sc = some (r, Sc')) (h2 : F_X5_back (xs (n + 1)) Sm = some (r, Sm')) (kk : ∀ ad', Zl X Q (cG ad' V I D) Gm Sc' Sm' (cs.1 + 10, cs.2 + 410) 2215 (lls b (ad' 0) (Gm.1 0) n) []) : Zl X Q (cG ad V I D) Gm Sc Sm cs 2013 (lls b (ad 0) (Gm.1 0) n) [] := by
  refine l_aload (pc := 2013) hC 1 dL_law_2013 rfl rfl ?_
  refine l_arg (pc := 2014) (k := 1) hC (by omega) (by decide) rfl rfl dL_law_2014 dL_law_2015 dL_law_2016 dL_law_2017 dL_law_2018 ?_
  refine l_cG (pc := 2019) (idx := 275) [.int (xs (n + 1))] [] hC (cg_X0_back1 _ ha9 hI9) 0 h1 rfl mv_X0_back q1302 rfl (zGC_s0 zGC_c) rfl (Nat.le_of_ble_eq_true rfl) (Nat.le_of_ble_eq_true rfl) rfl (by show cs.1 + 7 ≤ 1200384; omega) (by show cs.2 + 106 ≤ 5488810; omega) (Nat.le_of_ble_eq_true rfl) dL_law_2019 (fun G' hK hD9 => ?_)
  obtain ⟨ad', had, rfl⟩ := hK
  rw [← had]
  change Zl X Q (cG ad' V I D) Gm Sc' Sm (cs.1 + 7, cs.2 + 106) 2022 (lls b (ad' 0) (Gm.1 0) n) [.int r]
  refine l_aload (pc := 2022) hC 2 dL_law_2022 rfl rfl ?_
  refine l_arg (pc := 2023) (k := 1) hC (by omega) (by decide) rfl rfl dL_law_2023 dL_law_2024 dL_law_2025 dL_law_2026 dL_law_2027 ?_
  refine Zl_swap (l_cZ (pc := 2028) (idx := 278) [.int (xs (n + 1))] [.int r] hC (ct_X5_back hGm _ ) 5 h2 hDm mv_X5_back q2166 rfl (zGM_s0 hGm) rfl (Nat.le_of_ble_eq_true rfl) (Nat.le_of_ble_eq_true rfl) rfl (by show cs.1 + 7 + 0 ≤ 1200384; omega) (by show cs.2 + 106 + 0 ≤ 5488810; omega) (Nat.le_of_ble_eq_true rfl) dL_law_2028 (Zl_swap ?_))
  change Zl X Q (cG ad' V I D) Gm Sc' Sm' (cs.1 + 7 + 0, cs.2 + 106 + 0) 2031 (lls b (ad' 0) (Gm.1 0) n) [.int r, .int r]
  refine l_icmp_eq (pc := 2031) hC 2215 dL_law_2031 rfl rfl ?_
  exact Zl_wide (cs' := (cs.1 + 10, cs.2 + 410)) (by show cs.1 + 7 + 0 ≤ cs.1 + 10; omega) (by show cs.2 + 106 + 0 ≤ cs.2 + 410; omega) (kk ad')
theorem lop_back2 (hC : lC e9 D X b L xs) (hV : zVok V) (hGm : zGM Gm) (hDm : Gm.2.2.2 = D) (hn : n + 6 ≤ L) (hcs1 : cs.1 + 20 ≤ 1200384) (hcs2 : cs.2 + 1000 ≤ 5488810) {r : Int32} {Sc' Sm' : zSt} (ha9 : (xs (n + 1)).toNatClampNeg = 2) (hI9 : I 2 = true) (h1 : F_X0_back2 (xs (n + 1)) Sc = some (r, Sc')) (h2 : F_X5_back (xs (n + 1)) Sm = some (r, Sm')) (kk : ∀ ad', Zl X Q (cG ad' V I D) Gm Sc' Sm' (cs.1 + 10, cs.2 + 410) 2215 (lls b (ad' 0) (Gm.1 0) n) []) : Zl X Q (cG ad V I D) Gm Sc Sm cs 2013 (lls b (ad 0) (Gm.1 0) n) [] := by
  refine l_aload (pc := 2013) hC 1 dL_law_2013 rfl rfl ?_
  refine l_arg (pc := 2014) (k := 1) hC (by omega) (by decide) rfl rfl dL_law_2014 dL_law_2015 dL_law_2016 dL_law_2017 dL_law_2018 ?_
  refine l_cG (pc := 2019) (idx := 275) [.int (xs (n + 1))] [] hC (cg_X0_back2 _ ha9 hI9) 0 h1 rfl mv_X0_back q1302 rfl (zGC_s0 zGC_c) rfl (Nat.le_of_ble_eq_true rfl) (Nat.le_of_ble_eq_true rfl) rfl (by show cs.1 + 7 ≤ 1200384; omega) (by show cs.2 + 106 ≤ 5488810; omega) (Nat.le_of_ble_eq_true rfl) dL_law_2019 (fun G' hK hD9 => ?_)
  obtain ⟨ad', had, rfl⟩ := hK
  rw [← had]
  change Zl X Q (cG ad' V I D) Gm Sc' Sm (cs.1 + 7, cs.2 + 106) 2022 (lls b (ad' 0) (Gm.1 0) n) [.int r]
  refine l_aload (pc := 2022) hC 2 dL_law_2022 rfl rfl ?_
  refine l_arg (pc := 2023) (k := 1) hC (by omega) (by decide) rfl rfl dL_law_2023 dL_law_2024 dL_law_2025 dL_law_2026 dL_law_2027 ?_
  refine Zl_swap (l_cZ (pc := 2028) (idx := 278) [.int (xs (n + 1))] [.int r] hC (ct_X5_back hGm _ ) 5 h2 hDm mv_X5_back q2166 rfl (zGM_s0 hGm) rfl (Nat.le_of_ble_eq_true rfl) (Nat.le_of_ble_eq_true rfl) rfl (by show cs.1 + 7 + 0 ≤ 1200384; omega) (by show cs.2 + 106 + 0 ≤ 5488810; omega) (Nat.le_of_ble_eq_true rfl) dL_law_2028 (Zl_swap ?_))
  change Zl X Q (cG ad' V I D) Gm Sc' Sm' (cs.1 + 7 + 0, cs.2 + 106 + 0) 2031 (lls b (ad' 0) (Gm.1 0) n) [.int r, .int r]
  refine l_icmp_eq (pc := 2031) hC 2215 dL_law_2031 rfl rfl ?_
  exact Zl_wide (cs' := (cs.1 + 10, cs.2 + 410)) (by show cs.1 + 7 + 0 ≤ cs.1 + 10; omega) (by show cs.2 + 106 + 0 ≤ cs.2 + 410; omega) (kk ad')
theorem lop_backO (hC : lC e9 D X b L xs) (hV : zVok V) (hGm : zGM Gm) (hDm : Gm.2.2.2 = D) (hn : n + 6 ≤ L) (hcs1 : cs.1 + 20 ≤ 1200384) (hcs2 : cs.2 + 1000 ≤ 5488810) {r : Int32} {Sc' Sm' : zSt} (h1 : F_oI (xs (n + 1)) Sc = some (r, Sc')) (h2 : F_X5_back (xs (n + 1)) Sm = some (r, Sm')) (kk : Zl X Q (cG ad V I D) Gm Sc' Sm' (cs.1 + 10, cs.2 + 410) 2215 (lls b (ad 0) (Gm.1 0) n) []) : Zl X Q (cG ad V I D) Gm Sc Sm cs 2013 (lls b (ad 0) (Gm.1 0) n) [] := by
  refine l_aload (pc := 2013) hC 1 dL_law_2013 rfl rfl ?_
  refine l_arg (pc := 2014) (k := 1) hC (by omega) (by decide) rfl rfl dL_law_2014 dL_law_2015 dL_law_2016 dL_law_2017 dL_law_2018 ?_
  refine l_cZ (pc := 2019) (idx := 275) [.int (xs (n + 1))] [] hC (ct_X0_backO _) 0 h1 rfl mv_X0_back q1302 rfl (zGC_s0 zGC_c) rfl (Nat.le_of_ble_eq_true rfl) (Nat.le_of_ble_eq_true rfl) rfl (by show cs.1 + 7 ≤ 1200384; omega) (by show cs.2 + 106 ≤ 5488810; omega) (Nat.le_of_ble_eq_true rfl) dL_law_2019 ?_
  change Zl X Q (cG ad V I D) Gm Sc' Sm (cs.1 + 7, cs.2 + 106) 2022 (lls b (ad 0) (Gm.1 0) n) [.int r]
  refine l_aload (pc := 2022) hC 2 dL_law_2022 rfl rfl ?_
  refine l_arg (pc := 2023) (k := 1) hC (by omega) (by decide) rfl rfl dL_law_2023 dL_law_2024 dL_law_2025 dL_law_2026 dL_law_2027 ?_
  refine Zl_swap (l_cZ (pc := 2028) (idx := 278) [.int (xs (n + 1))] [.int r] hC (ct_X5_back hGm _ ) 5 h2 hDm mv_X5_back q2166 rfl (zGM_s0 hGm) rfl (Nat.le_of_ble_eq_true rfl) (Nat.le_of_ble_eq_true rfl) rfl (by show cs.1 + 7 + 0 ≤ 1200384; omega) (by show cs.2 + 106 + 0 ≤ 5488810; omega) (Nat.le_of_ble_eq_true rfl) dL_law_2028 (Zl_swap ?_))
  change Zl X Q (cG ad V I D) Gm Sc' Sm' (cs.1 + 7 + 0, cs.2 + 106 + 0) 2031 (lls b (ad 0) (Gm.1 0) n) [.int r, .int r]
  refine l_icmp_eq (pc := 2031) hC 2215 dL_law_2031 rfl rfl ?_
  exact Zl_wide (cs' := (cs.1 + 10, cs.2 + 410)) (by show cs.1 + 7 + 0 ≤ cs.1 + 10; omega) (by show cs.2 + 106 + 0 ≤ cs.2 + 410; omega) (kk)
theorem lop_rowN (hC : lC e9 D X b L xs) (hV : zVok V) (hGm : zGM Gm) (hDm : Gm.2.2.2 = D) (hn : n + 6 ≤ L) (hcs1 : cs.1 + 20 ≤ 1200384) (hcs2 : cs.2 + 1000 ≤ 5488810) {r : Int32} {Sc' Sm' : zSt} (h1 : F_X0_rowN (xs (n + 1)) (xs (n + 2)) (xs (n + 3)) Sc = some (r, Sc')) (h2 : F_X5_row (xs (n + 1)) (xs (n + 2)) (xs (n + 3)) Sm = some (r, Sm')) (kk : Zl X Q (cG ad V I D) Gm Sc' Sm' (cs.1 + 10, cs.2 + 410) 2215 (lls b (ad 0) (Gm.1 0) n) []) : Zl X Q (cG ad V I D) Gm Sc Sm cs 2036 (lls b (ad 0) (Gm.1 0) n) [] := by
  refine l_aload (pc := 2036) hC 1 dL_law_2036 rfl rfl ?_
  refine l_arg (pc := 2037) (k := 1) hC (by omega) (by decide) rfl rfl dL_law_2037 dL_law_2038 dL_law_2039 dL_law_2040 dL_law_2041 ?_
  refine l_arg (pc := 2042) (k := 2) hC (by omega) (by decide) rfl rfl dL_law_2042 dL_law_2043 dL_law_2044 dL_law_2045 dL_law_2046 ?_
  refine l_arg (pc := 2047) (k := 3) hC (by omega) (by decide) rfl rfl dL_law_2047 dL_law_2048 dL_law_2049 dL_law_2050 dL_law_2051 ?_
  refine l_cZW (pc := 2052) (idx := 279) [.int (xs (n + 1)), .int (xs (n + 2)), .int (xs (n + 3))] [] hC (ct_X0_rowN zGC_c (zGV_c hV) _ _ _) 0 h1 rfl mv_X0_row q1306 rfl (zGC_s0 zGC_c) rfl (Nat.le_of_ble_eq_true rfl) (Nat.le_of_ble_eq_true rfl) ⟨_, rfl⟩ (by show cs.1 + 3 ≤ 1200384; omega) (by show cs.2 + 60 ≤ 5488810; omega) (Nat.le_of_ble_eq_true rfl) dL_law_2052 ?_
  change Zl X Q (cG ad V I D) Gm Sc' Sm (cs.1 + 3, cs.2 + 60) 2055 (lls b (ad 0) (Gm.1 0) n) [.int r]
  refine l_aload (pc := 2055) hC 2 dL_law_2055 rfl rfl ?_
  refine l_arg (pc := 2056) (k := 1) hC (by omega) (by decide) rfl rfl dL_law_2056 dL_law_2057 dL_law_2058 dL_law_2059 dL_law_2060 ?_
  refine l_arg (pc := 2061) (k := 2) hC (by omega) (by decide) rfl rfl dL_law_2061 dL_law_2062 dL_law_2063 dL_law_2064 dL_law_2065 ?_
  refine l_arg (pc := 2066) (k := 3) hC (by omega) (by decide) rfl rfl dL_law_2066 dL_law_2067 dL_law_2068 dL_law_2069 dL_law_2070 ?_
  refine Zl_swap (l_cZ (pc := 2071) (idx := 282) [.int (xs (n + 1)), .int (xs (n + 2)), .int (xs (n + 3))] [.int r] hC (ct_X5_row hGm _ _ _ ) 5 h2 hDm mv_X5_row q1570 rfl (zGM_s0 hGm) rfl (Nat.le_of_ble_eq_true rfl) (Nat.le_of_ble_eq_true rfl) rfl (by show cs.1 + 3 + 0 ≤ 1200384; omega) (by show cs.2 + 60 + 0 ≤ 5488810; omega) (Nat.le_of_ble_eq_true rfl) dL_law_2071 (Zl_swap ?_))
  change Zl X Q (cG ad V I D) Gm Sc' Sm' (cs.1 + 3 + 0, cs.2 + 60 + 0) 2074 (lls b (ad 0) (Gm.1 0) n) [.int r, .int r]
  refine l_icmp_eq (pc := 2074) hC 2215 dL_law_2074 rfl rfl ?_
  exact Zl_wide (cs' := (cs.1 + 10, cs.2 + 410)) (by show cs.1 + 3 + 0 ≤ cs.1 + 10; omega) (by show cs.2 + 60 + 0 ≤ cs.2 + 410; omega) (kk)
theorem lop_row (hC : lC e9 D X b L xs) (hV : zVok V) (hGm : zGM Gm) (hDm : Gm.2.2.2 = D) (hn : n + 6 ≤ L) (hcs1 : cs.1 + 20 ≤ 1200384) (hcs2 : cs.2 + 1000 ≤ 5488810) {r : Int32} {Sc' Sm' : zSt} (h3a : ¬ xs (n + 3) < 0) (h3b : (xs (n + 3)).toNatClampNeg ≤ 60) (h1 : F_X0_row (xs (n + 1)) (xs (n + 2)) (xs (n + 3)) Sc = some (r, Sc')) (h2 : F_X5_row (xs (n + 1)) (xs (n + 2)) (xs (n + 3)) Sm = some (r, Sm')) (kk : ∀ ad', Zl X Q (cG ad' (vU V (xs (n + 1)).toNatClampNeg ((xs (n + 3)).toNatClampNeg, wty (xs (n + 2)))) I D) Gm Sc' Sm' (cs.1 + 10, cs.2 + 410) 2215 (lls b (ad' 0) (Gm.1 0) n) []) : Zl X Q (cG ad V I D) Gm Sc Sm cs 2036 (lls b (ad 0) (Gm.1 0) n) [] := by
  refine l_aload (pc := 2036) hC 1 dL_law_2036 rfl rfl ?_
  refine l_arg (pc := 2037) (k := 1) hC (by omega) (by decide) rfl rfl dL_law_2037 dL_law_2038 dL_law_2039 dL_law_2040 dL_law_2041 ?_
  refine l_arg (pc := 2042) (k := 2) hC (by omega) (by decide) rfl rfl dL_law_2042 dL_law_2043 dL_law_2044 dL_law_2045 dL_law_2046 ?_
  refine l_arg (pc := 2047) (k := 3) hC (by omega) (by decide) rfl rfl dL_law_2047 dL_law_2048 dL_law_2049 dL_law_2050 dL_law_2051 ?_
  refine l_cGW (pc := 2052) (idx := 279) [.int (xs (n + 1)), .int (xs (n + 2)), .int (xs (n + 3))] [] hC (cg_X0_row hV _ _ _ h3a h3b) 0 h1 rfl mv_X0_row q1306 rfl (zGC_s0 zGC_c) rfl (Nat.le_of_ble_eq_true rfl) (Nat.le_of_ble_eq_true rfl) ⟨_, rfl⟩ (by show cs.1 + 3 ≤ 1200384; omega) (by show cs.2 + 60 ≤ 5488810; omega) (Nat.le_of_ble_eq_true rfl) dL_law_2052 (fun G' hK hD9 => ?_)
  obtain ⟨ad', had, rfl⟩ := hK
  rw [← had]
  change Zl X Q (cG ad' (vU V (xs (n + 1)).toNatClampNeg ((xs (n + 3)).toNatClampNeg, wty (xs (n + 2)))) I D) Gm Sc' Sm (cs.1 + 3, cs.2 + 60) 2055 (lls b (ad' 0) (Gm.1 0) n) [.int r]
  refine l_aload (pc := 2055) hC 2 dL_law_2055 rfl rfl ?_
  refine l_arg (pc := 2056) (k := 1) hC (by omega) (by decide) rfl rfl dL_law_2056 dL_law_2057 dL_law_2058 dL_law_2059 dL_law_2060 ?_
  refine l_arg (pc := 2061) (k := 2) hC (by omega) (by decide) rfl rfl dL_law_2061 dL_law_2062 dL_law_2063 dL_law_2064 dL_law_2065 ?_
  refine l_arg (pc := 2066) (k := 3) hC (by omega) (by decide) rfl rfl dL_law_2066 dL_law_2067 dL_law_2068 dL_law_2069 dL_law_2070 ?_
  refine Zl_swap (l_cZ (pc := 2071) (idx := 282) [.int (xs (n + 1)), .int (xs (n + 2)), .int (xs (n + 3))] [.int r] hC (ct_X5_row hGm _ _ _ ) 5 h2 hDm mv_X5_row q1570 rfl (zGM_s0 hGm) rfl (Nat.le_of_ble_eq_true rfl) (Nat.le_of_ble_eq_true rfl) rfl (by show cs.1 + 3 + 0 ≤ 1200384; omega) (by show cs.2 + 60 + 0 ≤ 5488810; omega) (Nat.le_of_ble_eq_true rfl) dL_law_2071 (Zl_swap ?_))
  change Zl X Q (cG ad' (vU V (xs (n + 1)).toNatClampNeg ((xs (n + 3)).toNatClampNeg, wty (xs (n + 2)))) I D) Gm Sc' Sm' (cs.1 + 3 + 0, cs.2 + 60 + 0) 2074 (lls b (ad' 0) (Gm.1 0) n) [.int r, .int r]
  refine l_icmp_eq (pc := 2074) hC 2215 dL_law_2074 rfl rfl ?_
  exact Zl_wide (cs' := (cs.1 + 10, cs.2 + 410)) (by show cs.1 + 3 + 0 ≤ cs.1 + 10; omega) (by show cs.2 + 60 + 0 ≤ cs.2 + 410; omega) (kk ad')
theorem lop_write (hC : lC e9 D X b L xs) (hV : zVok V) (hGm : zGM Gm) (hDm : Gm.2.2.2 = D) (hn : n + 6 ≤ L) (hcs1 : cs.1 + 20 ≤ 1200384) (hcs2 : cs.2 + 1000 ≤ 5488810) {r : Int32} {Sc' Sm' : zSt} (h1 : F_X0_write V (xs (n + 1)) (xs (n + 2)) (lgA (xs (n + 3)) (xs (n + 4))) Sc = some (r, Sc')) (h2 : F_X5_write (xs (n + 1)) (xs (n + 2)) (lgA (xs (n + 3)) (xs (n + 4))) Sm = some (r, Sm')) (kk : Zl X Q (cG ad V I D) Gm Sc' Sm' (cs.1 + 10, cs.2 + 410) 2215 (lls b (ad 0) (Gm.1 0) n) []) : Zl X Q (cG ad V I D) Gm Sc Sm cs 2079 (lls b (ad 0) (Gm.1 0) n) [] := by
  refine l_aload (pc := 2079) hC 1 dL_law_2079 rfl rfl ?_
  refine l_arg (pc := 2080) (k := 1) hC (by omega) (by decide) rfl rfl dL_law_2080 dL_law_2081 dL_law_2082 dL_law_2083 dL_law_2084 ?_
  refine l_arg (pc := 2085) (k := 2) hC (by omega) (by decide) rfl rfl dL_law_2085 dL_law_2086 dL_law_2087 dL_law_2088 dL_law_2089 ?_
  refine l_arg (pc := 2090) (k := 3) hC (by omega) (by decide) rfl rfl dL_law_2090 dL_law_2091 dL_law_2092 dL_law_2093 dL_law_2094 ?_
  refine l_i2l (pc := 2095) hC dL_law_2095 ?_
  refine l_bipush (pc := 2096) (v := 32) hC dL_law_2096 (by decide) ?_
  refine l_lshl (pc := 2098) hC dL_law_2098 ?_
  refine l_arg (pc := 2099) (k := 4) hC (by omega) (by decide) rfl rfl dL_law_2099 dL_law_2100 dL_law_2101 dL_law_2102 dL_law_2103 ?_
  refine l_i2l (pc := 2104) hC dL_law_2104 ?_
  refine l_ldc2 (pc := 2105) hC dL_law_2105 q2170 ?_
  refine l_land (pc := 2108) hC dL_law_2108 ?_
  refine l_lor (pc := 2109) hC dL_law_2109 ?_
  refine l_cZW (pc := 2110) (idx := 285) [.int (xs (n + 1)), .int (xs (n + 2)), .long (lgA (xs (n + 3)) (xs (n + 4)))] [] hC (ct_X0_write zGC_c (zGV_c hV) _ _ _ ) 0 h1 rfl mv_X0_write q1343 rfl (zGC_s0 zGC_c) rfl (Nat.le_of_ble_eq_true rfl) (Nat.le_of_ble_eq_true rfl) ⟨_, rfl⟩ (by show cs.1 + 3 ≤ 1200384; omega) (by show cs.2 + 222 ≤ 5488810; omega) (Nat.le_of_ble_eq_true rfl) dL_law_2110 ?_
  change Zl X Q (cG ad V I D) Gm Sc' Sm (cs.1 + 3, cs.2 + 222) 2113 (lls b (ad 0) (Gm.1 0) n) [.int r]
  refine l_aload (pc := 2113) hC 2 dL_law_2113 rfl rfl ?_
  refine l_arg (pc := 2114) (k := 1) hC (by omega) (by decide) rfl rfl dL_law_2114 dL_law_2115 dL_law_2116 dL_law_2117 dL_law_2118 ?_
  refine l_arg (pc := 2119) (k := 2) hC (by omega) (by decide) rfl rfl dL_law_2119 dL_law_2120 dL_law_2121 dL_law_2122 dL_law_2123 ?_
  refine l_arg (pc := 2124) (k := 3) hC (by omega) (by decide) rfl rfl dL_law_2124 dL_law_2125 dL_law_2126 dL_law_2127 dL_law_2128 ?_
  refine l_i2l (pc := 2129) hC dL_law_2129 ?_
  refine l_bipush (pc := 2130) (v := 32) hC dL_law_2130 (by decide) ?_
  refine l_lshl (pc := 2132) hC dL_law_2132 ?_
  refine l_arg (pc := 2133) (k := 4) hC (by omega) (by decide) rfl rfl dL_law_2133 dL_law_2134 dL_law_2135 dL_law_2136 dL_law_2137 ?_
  refine l_i2l (pc := 2138) hC dL_law_2138 ?_
  refine l_ldc2 (pc := 2139) hC dL_law_2139 q2170 ?_
  refine l_land (pc := 2142) hC dL_law_2142 ?_
  refine l_lor (pc := 2143) hC dL_law_2143 ?_
  refine Zl_swap (l_cZ (pc := 2144) (idx := 289) [.int (xs (n + 1)), .int (xs (n + 2)), .long (lgA (xs (n + 3)) (xs (n + 4)))] [.int r] hC (ct_X5_write hGm _ _ _ ) 5 h2 hDm mv_X5_write q1581 rfl (zGM_s0 hGm) rfl (Nat.le_of_ble_eq_true rfl) (Nat.le_of_ble_eq_true rfl) rfl (by show cs.1 + 3 + 0 ≤ 1200384; omega) (by show cs.2 + 222 + 0 ≤ 5488810; omega) (Nat.le_of_ble_eq_true rfl) dL_law_2144 (Zl_swap ?_))
  change Zl X Q (cG ad V I D) Gm Sc' Sm' (cs.1 + 3 + 0, cs.2 + 222 + 0) 2147 (lls b (ad 0) (Gm.1 0) n) [.int r, .int r]
  refine l_icmp_eq (pc := 2147) hC 2215 dL_law_2147 rfl rfl ?_
  exact Zl_wide (cs' := (cs.1 + 10, cs.2 + 410)) (by show cs.1 + 3 + 0 ≤ cs.1 + 10; omega) (by show cs.2 + 222 + 0 ≤ cs.2 + 410; omega) (kk)
theorem lop_paste (hC : lC e9 D X b L xs) (hV : zVok V) (hGm : zGM Gm) (hDm : Gm.2.2.2 = D) (hn : n + 6 ≤ L) (hcs1 : cs.1 + 20 ≤ 1200384) (hcs2 : cs.2 + 1000 ≤ 5488810) {r : Int32} {Sc' Sm' : zSt} (h1 : F_X0_paste V (xs (n + 1)) (xs (n + 2)) (xs (n + 3)) (xs (n + 4)) (xs (n + 5)) Sc = some (r, Sc')) (h2 : F_X5_paste (xs (n + 1)) (xs (n + 2)) (xs (n + 3)) (xs (n + 4)) (xs (n + 5)) Sm = some (r, Sm')) (kk : Zl X Q (cG ad V I D) Gm Sc' Sm' (cs.1 + 10, cs.2 + 410) 2215 (lls b (ad 0) (Gm.1 0) n) []) : Zl X Q (cG ad V I D) Gm Sc Sm cs 2152 (lls b (ad 0) (Gm.1 0) n) [] := by
  refine l_aload (pc := 2152) hC 1 dL_law_2152 rfl rfl ?_
  refine l_arg (pc := 2153) (k := 1) hC (by omega) (by decide) rfl rfl dL_law_2153 dL_law_2154 dL_law_2155 dL_law_2156 dL_law_2157 ?_
  refine l_arg (pc := 2158) (k := 2) hC (by omega) (by decide) rfl rfl dL_law_2158 dL_law_2159 dL_law_2160 dL_law_2161 dL_law_2162 ?_
  refine l_arg (pc := 2163) (k := 3) hC (by omega) (by decide) rfl rfl dL_law_2163 dL_law_2164 dL_law_2165 dL_law_2166 dL_law_2167 ?_
  refine l_arg (pc := 2168) (k := 4) hC (by omega) (by decide) rfl rfl dL_law_2168 dL_law_2169 dL_law_2170 dL_law_2171 dL_law_2172 ?_
  refine l_arg (pc := 2173) (k := 5) hC (by omega) (by decide) rfl rfl dL_law_2173 dL_law_2174 dL_law_2175 dL_law_2176 dL_law_2177 ?_
  refine l_cZW (pc := 2178) (idx := 290) [.int (xs (n + 1)), .int (xs (n + 2)), .int (xs (n + 3)), .int (xs (n + 4)), .int (xs (n + 5))] [] hC (ct_X0_paste zGC_c (zGV_c hV) _ _ _ _ _ ) 0 h1 rfl mv_X0_paste q1370 rfl (zGC_s0 zGC_c) rfl (Nat.le_of_ble_eq_true rfl) (Nat.le_of_ble_eq_true rfl) ⟨_, rfl⟩ (by show cs.1 + 3 ≤ 1200384; omega) (by show cs.2 + 410 ≤ 5488810; omega) (Nat.le_of_ble_eq_true rfl) dL_law_2178 ?_
  change Zl X Q (cG ad V I D) Gm Sc' Sm (cs.1 + 3, cs.2 + 410) 2181 (lls b (ad 0) (Gm.1 0) n) [.int r]
  refine l_aload (pc := 2181) hC 2 dL_law_2181 rfl rfl ?_
  refine l_arg (pc := 2182) (k := 1) hC (by omega) (by decide) rfl rfl dL_law_2182 dL_law_2183 dL_law_2184 dL_law_2185 dL_law_2186 ?_
  refine l_arg (pc := 2187) (k := 2) hC (by omega) (by decide) rfl rfl dL_law_2187 dL_law_2188 dL_law_2189 dL_law_2190 dL_law_2191 ?_
  refine l_arg (pc := 2192) (k := 3) hC (by omega) (by decide) rfl rfl dL_law_2192 dL_law_2193 dL_law_2194 dL_law_2195 dL_law_2196 ?_
  refine l_arg (pc := 2197) (k := 4) hC (by omega) (by decide) rfl rfl dL_law_2197 dL_law_2198 dL_law_2199 dL_law_2200 dL_law_2201 ?_
  refine l_arg (pc := 2202) (k := 5) hC (by omega) (by decide) rfl rfl dL_law_2202 dL_law_2203 dL_law_2204 dL_law_2205 dL_law_2206 ?_
  refine Zl_swap (l_cZ (pc := 2207) (idx := 293) [.int (xs (n + 1)), .int (xs (n + 2)), .int (xs (n + 3)), .int (xs (n + 4)), .int (xs (n + 5))] [.int r] hC (ct_X5_paste hGm _ _ _ _ _ ) 5 h2 hDm mv_X5_paste q1588 rfl (zGM_s0 hGm) rfl (Nat.le_of_ble_eq_true rfl) (Nat.le_of_ble_eq_true rfl) rfl (by show cs.1 + 3 + 0 ≤ 1200384; omega) (by show cs.2 + 410 + 0 ≤ 5488810; omega) (Nat.le_of_ble_eq_true rfl) dL_law_2207 (Zl_swap ?_))
  change Zl X Q (cG ad V I D) Gm Sc' Sm' (cs.1 + 3 + 0, cs.2 + 410 + 0) 2210 (lls b (ad 0) (Gm.1 0) n) [.int r, .int r]
  refine l_icmp_eq (pc := 2210) hC 2215 dL_law_2210 rfl rfl ?_
  exact Zl_wide (cs' := (cs.1 + 10, cs.2 + 410)) (by show cs.1 + 3 + 0 ≤ cs.1 + 10; omega) (by show cs.2 + 410 + 0 ≤ cs.2 + 410; omega) (kk)
end
