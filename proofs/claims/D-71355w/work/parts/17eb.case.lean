set_option maxRecDepth 100000
section LC
variable {p : Program} {l : Launch} {e : Env} {s : State} {m : MethodId} {below : List Frame} {meth : Method} {c : Code} {b L : Nat} {xs : Nat → Int32} {i : Int32} {cells slots : Nat}
set_option maxHeartbeats 4000000 in
/-- about -/
theorem lc_10 (X : CallFix p m c cL_law 4 s #[Value.ref b] lw_all "LeftBehindLaw") (hX : va_X b L xs s s.heap) (hbl : b < s.heap.size) (hin : ∀ v : Int32, v = 1 ∨ v = 2 ∨ v = 3 ∨ v = 4 → vp_in (i + v) L) (hc : cells + 36 ≤ room_1.cells) (hs : slots + 240 ≤ room_1.slots) (K : Jl_ p l e s m below meth c b i (cells + 36) (slots + 240) 1239) : Jl_ p l e s m below meth c b i cells slots 426 := by
  intro G σ hz hG hI hR
  have hbA : ¬ AA_ G b := ba_ hz hbl
  obtain ⟨r, σ1, σ2, h1, h2, hR2, h3, h4⟩ := op_about_z hR (xs (i + 1).toNatClampNeg) (xs (i + 2).toNatClampNeg)
  refine jj_aload_n X dL_law_426 1 rfl ?_
  refine jl_arg X hX hbl hbA 1 0 3 rfl rfl (by decide) (hin 1 (by decide)) dL_law_427 dL_law_428 dL_law_429 dL_law_430 dL_law_431 ?_
  refine jl_arg X hX hbl hbA 2 0 3 rfl rfl (by decide) (hin 2 (by decide)) dL_law_432 dL_law_433 dL_law_434 dL_law_435 dL_law_436 ?_
  refine jl_ci (mc := 0) (ms := 0) (jr_V (rest := []) X hG (tg_0 hG) (by decide) ⟨_, rfl⟩ rfl (mt_X0_about l G σ (xs (i + 1).toNatClampNeg) (xs (i + 2).toNatClampNeg) _ h1) (cwV 2 X.2.2.2.2 (lw_V q659 q660 q661 q61 q662) rfl rfl rfl kd_X0_about ⟨by decide, by decide⟩) rfl rfl (Nat.le_of_ble_eq_true rfl) dL_law_437 ⟨Nat.le_trans (by omega) hc, Nat.le_trans (by omega) hs⟩) ?_
  refine jj_aload_n X dL_law_440 2 rfl ?_
  refine jl_arg X hX hbl hbA 1 0 3 rfl rfl (by decide) (hin 1 (by decide)) dL_law_441 dL_law_442 dL_law_443 dL_law_444 dL_law_445 ?_
  refine jl_arg X hX hbl hbA 2 0 3 rfl rfl (by decide) (hin 2 (by decide)) dL_law_446 dL_law_447 dL_law_448 dL_law_449 dL_law_450 ?_
  refine jl_ci (mc := 0) (ms := 0) (jr_V (rest := [.int r]) X hG (tg_90 hG) (by decide) ⟨_, rfl⟩ rfl (mt_X6_about l G σ1 (xs (i + 1).toNatClampNeg) (xs (i + 2).toNatClampNeg) _ h2) (cwV 2 X.2.2.2.2 (lw_V q1101 q1102 q1103 q67 q1104) rfl rfl rfl kd_X6_about ⟨by decide, by decide⟩) rfl rfl (Nat.le_of_ble_eq_true rfl) dL_law_451 ⟨Nat.le_trans (by omega) hc, Nat.le_trans (by omega) hs⟩) ?_
  refine jl_eq X 1239 dL_law_454 (by decide) ?_
  exact jj_widen (by omega) (by omega) (K G σ2 hz hG (by rw [h4, h3]; exact hI) hR2)
set_option maxHeartbeats 4000000 in
/-- left -/
theorem lc_11 (X : CallFix p m c cL_law 4 s #[Value.ref b] lw_all "LeftBehindLaw") (hX : va_X b L xs s s.heap) (hbl : b < s.heap.size) (hin : ∀ v : Int32, v = 1 ∨ v = 2 ∨ v = 3 ∨ v = 4 → vp_in (i + v) L) (hc : cells + 36 ≤ room_1.cells) (hs : slots + 240 ≤ room_1.slots) (K : Jl_ p l e s m below meth c b i (cells + 36) (slots + 240) 1239) : Jl_ p l e s m below meth c b i cells slots 459 := by
  intro G σ hz hG hI hR
  have hbA : ¬ AA_ G b := ba_ hz hbl
  obtain ⟨r, σ1, σ2, h1, h2, hR2, h3, h4⟩ := op_left_z hR (xs (i + 1).toNatClampNeg)
  refine jj_aload_n X dL_law_459 1 rfl ?_
  refine jl_arg X hX hbl hbA 1 0 3 rfl rfl (by decide) (hin 1 (by decide)) dL_law_460 dL_law_461 dL_law_462 dL_law_463 dL_law_464 ?_
  refine jl_ci (mc := 0) (ms := 0) (jr_V (rest := []) X hG (tg_0 hG) (by decide) ⟨_, rfl⟩ rfl (mt_X0_left l G σ (xs (i + 1).toNatClampNeg) _ h1) (cwV 1 X.2.2.2.2 (lw_V q687 q688 q689 q61 q690) rfl rfl rfl kd_X0_left ⟨by decide, by decide⟩) rfl rfl (Nat.le_of_ble_eq_true rfl) dL_law_465 ⟨Nat.le_trans (by omega) hc, Nat.le_trans (by omega) hs⟩) ?_
  refine jj_aload_n X dL_law_468 2 rfl ?_
  refine jl_arg X hX hbl hbA 1 0 3 rfl rfl (by decide) (hin 1 (by decide)) dL_law_469 dL_law_470 dL_law_471 dL_law_472 dL_law_473 ?_
  refine jl_ci (mc := 0) (ms := 0) (jr_V (rest := [.int r]) X hG (tg_90 hG) (by decide) ⟨_, rfl⟩ rfl (mt_X6_left l G σ1 (xs (i + 1).toNatClampNeg) _ h2) (cwV 1 X.2.2.2.2 (lw_V q1112 q1113 q1114 q67 q1115) rfl rfl rfl kd_X6_left ⟨by decide, by decide⟩) rfl rfl (Nat.le_of_ble_eq_true rfl) dL_law_474 ⟨Nat.le_trans (by omega) hc, Nat.le_trans (by omega) hs⟩) ?_
  refine jl_eq X 1239 dL_law_477 (by decide) ?_
  exact jj_widen (by omega) (by omega) (K G σ2 hz hG (by rw [h4, h3]; exact hI) hR2)
set_option maxHeartbeats 4000000 in
/-- needs -/
theorem lc_12 (X : CallFix p m c cL_law 4 s #[Value.ref b] lw_all "LeftBehindLaw") (hX : va_X b L xs s s.heap) (hbl : b < s.heap.size) (hin : ∀ v : Int32, v = 1 ∨ v = 2 ∨ v = 3 ∨ v = 4 → vp_in (i + v) L) (hc : cells + 36 ≤ room_1.cells) (hs : slots + 240 ≤ room_1.slots) (K : Jl_ p l e s m below meth c b i (cells + 36) (slots + 240) 1239) : Jl_ p l e s m below meth c b i cells slots 482 := by
  intro G σ hz hG hI hR
  have hbA : ¬ AA_ G b := ba_ hz hbl
  obtain ⟨r, σ1, σ2, h1, h2, hR2, h3, h4⟩ := op_needs_z hR (xs (i + 1).toNatClampNeg) (xs (i + 2).toNatClampNeg)
  refine jj_aload_n X dL_law_482 1 rfl ?_
  refine jl_arg X hX hbl hbA 1 0 3 rfl rfl (by decide) (hin 1 (by decide)) dL_law_483 dL_law_484 dL_law_485 dL_law_486 dL_law_487 ?_
  refine jl_arg X hX hbl hbA 2 0 3 rfl rfl (by decide) (hin 2 (by decide)) dL_law_488 dL_law_489 dL_law_490 dL_law_491 dL_law_492 ?_
  refine jl_ci (mc := 0) (ms := 0) (jr_V (rest := []) X hG (tg_0 hG) (by decide) ⟨_, rfl⟩ rfl (mt_X0_needs l G σ (xs (i + 1).toNatClampNeg) (xs (i + 2).toNatClampNeg) _ h1) (cwV 2 X.2.2.2.2 (lw_V q692 q693 q694 q61 q695) rfl rfl rfl kd_X0_needs ⟨by decide, by decide⟩) rfl rfl (Nat.le_of_ble_eq_true rfl) dL_law_493 ⟨Nat.le_trans (by omega) hc, Nat.le_trans (by omega) hs⟩) ?_
  refine jj_aload_n X dL_law_496 2 rfl ?_
  refine jl_arg X hX hbl hbA 1 0 3 rfl rfl (by decide) (hin 1 (by decide)) dL_law_497 dL_law_498 dL_law_499 dL_law_500 dL_law_501 ?_
  refine jl_arg X hX hbl hbA 2 0 3 rfl rfl (by decide) (hin 2 (by decide)) dL_law_502 dL_law_503 dL_law_504 dL_law_505 dL_law_506 ?_
  refine jl_ci (mc := 0) (ms := 0) (jr_V (rest := [.int r]) X hG (tg_90 hG) (by decide) ⟨_, rfl⟩ rfl (mt_X6_needs l G σ1 (xs (i + 1).toNatClampNeg) (xs (i + 2).toNatClampNeg) _ h2) (cwV 2 X.2.2.2.2 (lw_V q1116 q1117 q1118 q67 q1119) rfl rfl rfl kd_X6_needs ⟨by decide, by decide⟩) rfl rfl (Nat.le_of_ble_eq_true rfl) dL_law_507 ⟨Nat.le_trans (by omega) hc, Nat.le_trans (by omega) hs⟩) ?_
  refine jl_eq X 1239 dL_law_510 (by decide) ?_
  exact jj_widen (by omega) (by omega) (K G σ2 hz hG (by rw [h4, h3]; exact hI) hR2)
set_option maxHeartbeats 4000000 in
/-- far -/
theorem lc_13 (X : CallFix p m c cL_law 4 s #[Value.ref b] lw_all "LeftBehindLaw") (hX : va_X b L xs s s.heap) (hbl : b < s.heap.size) (hin : ∀ v : Int32, v = 1 ∨ v = 2 ∨ v = 3 ∨ v = 4 → vp_in (i + v) L) (hc : cells + 36 ≤ room_1.cells) (hs : slots + 240 ≤ room_1.slots) (K : Jl_ p l e s m below meth c b i (cells + 36) (slots + 240) 1239) : Jl_ p l e s m below meth c b i cells slots 515 := by
  intro G σ hz hG hI hR
  have hbA : ¬ AA_ G b := ba_ hz hbl
  obtain ⟨r, σ1, σ2, h1, h2, hR2, h3, h4⟩ := op_far_z hR (xs (i + 1).toNatClampNeg)
  refine jj_aload_n X dL_law_515 1 rfl ?_
  refine jl_arg X hX hbl hbA 1 0 3 rfl rfl (by decide) (hin 1 (by decide)) dL_law_516 dL_law_517 dL_law_518 dL_law_519 dL_law_520 ?_
  refine jl_ci (mc := 0) (ms := 0) (jr_V (rest := []) X hG (tg_0 hG) (by decide) ⟨_, rfl⟩ rfl (mt_X0_far l G σ (xs (i + 1).toNatClampNeg) _ h1) (cwV 1 X.2.2.2.2 (lw_V q738 q739 q740 q61 q741) rfl rfl rfl kd_X0_far ⟨by decide, by decide⟩) rfl rfl (Nat.le_of_ble_eq_true rfl) dL_law_521 ⟨Nat.le_trans (by omega) hc, Nat.le_trans (by omega) hs⟩) ?_
  refine jj_aload_n X dL_law_524 2 rfl ?_
  refine jl_arg X hX hbl hbA 1 0 3 rfl rfl (by decide) (hin 1 (by decide)) dL_law_525 dL_law_526 dL_law_527 dL_law_528 dL_law_529 ?_
  refine jl_ci (mc := 0) (ms := 0) (jr_V (rest := [.int r]) X hG (tg_90 hG) (by decide) ⟨_, rfl⟩ rfl (mt_X6_far l G σ1 (xs (i + 1).toNatClampNeg) _ h2) (cwV 1 X.2.2.2.2 (lw_V q1127 q1128 q1129 q67 q1130) rfl rfl rfl kd_X6_far ⟨by decide, by decide⟩) rfl rfl (Nat.le_of_ble_eq_true rfl) dL_law_530 ⟨Nat.le_trans (by omega) hc, Nat.le_trans (by omega) hs⟩) ?_
  refine jl_eq X 1239 dL_law_533 (by decide) ?_
  exact jj_widen (by omega) (by omega) (K G σ2 hz hG (by rw [h4, h3]; exact hI) hR2)
set_option maxHeartbeats 4000000 in
/-- behind -/
theorem lc_14 (X : CallFix p m c cL_law 4 s #[Value.ref b] lw_all "LeftBehindLaw") (hX : va_X b L xs s s.heap) (hbl : b < s.heap.size) (hin : ∀ v : Int32, v = 1 ∨ v = 2 ∨ v = 3 ∨ v = 4 → vp_in (i + v) L) (hc : cells + 36 ≤ room_1.cells) (hs : slots + 240 ≤ room_1.slots) (K : Jl_ p l e s m below meth c b i (cells + 36) (slots + 240) 1239) : Jl_ p l e s m below meth c b i cells slots 538 := by
  intro G σ hz hG hI hR
  have hbA : ¬ AA_ G b := ba_ hz hbl
  obtain ⟨r, σ1, σ2, h1, h2, hR2, h3, h4⟩ := op_behind_z hR (xs (i + 1).toNatClampNeg) (xs (i + 2).toNatClampNeg)
  refine jj_aload_n X dL_law_538 1 rfl ?_
  refine jl_arg X hX hbl hbA 1 0 3 rfl rfl (by decide) (hin 1 (by decide)) dL_law_539 dL_law_540 dL_law_541 dL_law_542 dL_law_543 ?_
  refine jl_arg X hX hbl hbA 2 0 3 rfl rfl (by decide) (hin 2 (by decide)) dL_law_544 dL_law_545 dL_law_546 dL_law_547 dL_law_548 ?_
  refine jl_ci (mc := 0) (ms := 0) (jr_V (rest := []) X hG (tg_0 hG) (by decide) ⟨_, rfl⟩ rfl (mt_X0_behind l G σ (xs (i + 1).toNatClampNeg) (xs (i + 2).toNatClampNeg) _ h1) (cwV 2 X.2.2.2.2 (lw_V q748 q749 q750 q61 q751) rfl rfl rfl kd_X0_behind ⟨by decide, by decide⟩) rfl rfl (Nat.le_of_ble_eq_true rfl) dL_law_549 ⟨Nat.le_trans (by omega) hc, Nat.le_trans (by omega) hs⟩) ?_
  refine jj_aload_n X dL_law_552 2 rfl ?_
  refine jl_arg X hX hbl hbA 1 0 3 rfl rfl (by decide) (hin 1 (by decide)) dL_law_553 dL_law_554 dL_law_555 dL_law_556 dL_law_557 ?_
  refine jl_arg X hX hbl hbA 2 0 3 rfl rfl (by decide) (hin 2 (by decide)) dL_law_558 dL_law_559 dL_law_560 dL_law_561 dL_law_562 ?_
  refine jl_ci (mc := 0) (ms := 0) (jr_V (rest := [.int r]) X hG (tg_90 hG) (by decide) ⟨_, rfl⟩ rfl (mt_X6_behind l G σ1 (xs (i + 1).toNatClampNeg) (xs (i + 2).toNatClampNeg) _ h2) (cwV 2 X.2.2.2.2 (lw_V q1134 q1135 q1136 q67 q1137) rfl rfl rfl kd_X6_behind ⟨by decide, by decide⟩) rfl rfl (Nat.le_of_ble_eq_true rfl) dL_law_563 ⟨Nat.le_trans (by omega) hc, Nat.le_trans (by omega) hs⟩) ?_
  refine jl_eq X 1239 dL_law_566 (by decide) ?_
  exact jj_widen (by omega) (by omega) (K G σ2 hz hG (by rw [h4, h3]; exact hI) hR2)
set_option maxHeartbeats 4000000 in
/-- lasts -/
theorem lc_15 (X : CallFix p m c cL_law 4 s #[Value.ref b] lw_all "LeftBehindLaw") (hX : va_X b L xs s s.heap) (hbl : b < s.heap.size) (hin : ∀ v : Int32, v = 1 ∨ v = 2 ∨ v = 3 ∨ v = 4 → vp_in (i + v) L) (hc : cells + 36 ≤ room_1.cells) (hs : slots + 240 ≤ room_1.slots) (K : Jl_ p l e s m below meth c b i (cells + 36) (slots + 240) 1239) : Jl_ p l e s m below meth c b i cells slots 571 := by
  intro G σ hz hG hI hR
  have hbA : ¬ AA_ G b := ba_ hz hbl
  obtain ⟨r, σ1, σ2, h1, h2, hR2, h3, h4⟩ := op_lasts_z hR (xs (i + 1).toNatClampNeg) (xs (i + 2).toNatClampNeg)
  refine jj_aload_n X dL_law_571 1 rfl ?_
  refine jl_arg X hX hbl hbA 1 0 3 rfl rfl (by decide) (hin 1 (by decide)) dL_law_572 dL_law_573 dL_law_574 dL_law_575 dL_law_576 ?_
  refine jl_arg X hX hbl hbA 2 0 3 rfl rfl (by decide) (hin 2 (by decide)) dL_law_577 dL_law_578 dL_law_579 dL_law_580 dL_law_581 ?_
  refine jl_ci (mc := 0) (ms := 0) (jr_V (rest := []) X hG (tg_0 hG) (by decide) ⟨_, rfl⟩ rfl (mt_X0_lasts l G σ (xs (i + 1).toNatClampNeg) (xs (i + 2).toNatClampNeg) _ h1) (cwV 2 X.2.2.2.2 (lw_V q753 q754 q755 q61 q756) rfl rfl rfl kd_X0_lasts ⟨by decide, by decide⟩) rfl rfl (Nat.le_of_ble_eq_true rfl) dL_law_582 ⟨Nat.le_trans (by omega) hc, Nat.le_trans (by omega) hs⟩) ?_
  refine jj_aload_n X dL_law_585 2 rfl ?_
  refine jl_arg X hX hbl hbA 1 0 3 rfl rfl (by decide) (hin 1 (by decide)) dL_law_586 dL_law_587 dL_law_588 dL_law_589 dL_law_590 ?_
  refine jl_arg X hX hbl hbA 2 0 3 rfl rfl (by decide) (hin 2 (by decide)) dL_law_591 dL_law_592 dL_law_593 dL_law_594 dL_law_595 ?_
  refine jl_ci (mc := 0) (ms := 0) (jr_V (rest := [.int r]) X hG (tg_90 hG) (by decide) ⟨_, rfl⟩ rfl (mt_X6_lasts l G σ1 (xs (i + 1).toNatClampNeg) (xs (i + 2).toNatClampNeg) _ h2) (cwV 2 X.2.2.2.2 (lw_V q1143 q1144 q1145 q67 q1146) rfl rfl rfl kd_X6_lasts ⟨by decide, by decide⟩) rfl rfl (Nat.le_of_ble_eq_true rfl) dL_law_596 ⟨Nat.le_trans (by omega) hc, Nat.le_trans (by omega) hs⟩) ?_
  refine jl_eq X 1239 dL_law_599 (by decide) ?_
  exact jj_widen (by omega) (by omega) (K G σ2 hz hG (by rw [h4, h3]; exact hI) hR2)
set_option maxHeartbeats 4000000 in
/-- few -/
theorem lc_16 (X : CallFix p m c cL_law 4 s #[Value.ref b] lw_all "LeftBehindLaw") (hX : va_X b L xs s s.heap) (hbl : b < s.heap.size) (hin : ∀ v : Int32, v = 1 ∨ v = 2 ∨ v = 3 ∨ v = 4 → vp_in (i + v) L) (hc : cells + 36 ≤ room_1.cells) (hs : slots + 240 ≤ room_1.slots) (K : Jl_ p l e s m below meth c b i (cells + 36) (slots + 240) 1239) : Jl_ p l e s m below meth c b i cells slots 604 := by
  intro G σ hz hG hI hR
  have hbA : ¬ AA_ G b := ba_ hz hbl
  obtain ⟨r, σ1, σ2, h1, h2, hR2, h3, h4⟩ := op_few_z hR (xs (i + 1).toNatClampNeg) (xs (i + 2).toNatClampNeg)
  refine jj_aload_n X dL_law_604 1 rfl ?_
  refine jl_arg X hX hbl hbA 1 0 3 rfl rfl (by decide) (hin 1 (by decide)) dL_law_605 dL_law_606 dL_law_607 dL_law_608 dL_law_609 ?_
  refine jl_arg X hX hbl hbA 2 0 3 rfl rfl (by decide) (hin 2 (by decide)) dL_law_610 dL_law_611 dL_law_612 dL_law_613 dL_law_614 ?_
  refine jl_ci (mc := 0) (ms := 0) (jr_V (rest := []) X hG (tg_0 hG) (by decide) ⟨_, rfl⟩ rfl (mt_X0_few l G σ (xs (i + 1).toNatClampNeg) (xs (i + 2).toNatClampNeg) _ h1) (cwV 2 X.2.2.2.2 (lw_V q757 q758 q759 q61 q760) rfl rfl rfl kd_X0_few ⟨by decide, by decide⟩) rfl rfl (Nat.le_of_ble_eq_true rfl) dL_law_615 ⟨Nat.le_trans (by omega) hc, Nat.le_trans (by omega) hs⟩) ?_
  refine jj_aload_n X dL_law_618 2 rfl ?_
  refine jl_arg X hX hbl hbA 1 0 3 rfl rfl (by decide) (hin 1 (by decide)) dL_law_619 dL_law_620 dL_law_621 dL_law_622 dL_law_623 ?_
  refine jl_arg X hX hbl hbA 2 0 3 rfl rfl (by decide) (hin 2 (by decide)) dL_law_624 dL_law_625 dL_law_626 dL_law_627 dL_law_628 ?_
  refine jl_ci (mc := 0) (ms := 0) (jr_V (rest := [.int r]) X hG (tg_90 hG) (by decide) ⟨_, rfl⟩ rfl (mt_X6_few l G σ1 (xs (i + 1).toNatClampNeg) (xs (i + 2).toNatClampNeg) _ h2) (cwV 2 X.2.2.2.2 (lw_V q1147 q1148 q1149 q67 q1150) rfl rfl rfl kd_X6_few ⟨by decide, by decide⟩) rfl rfl (Nat.le_of_ble_eq_true rfl) dL_law_629 ⟨Nat.le_trans (by omega) hc, Nat.le_trans (by omega) hs⟩) ?_
  refine jl_eq X 1239 dL_law_632 (by decide) ?_
  exact jj_widen (by omega) (by omega) (K G σ2 hz hG (by rw [h4, h3]; exact hI) hR2)
set_option maxHeartbeats 4000000 in
/-- crew -/
theorem lc_17 (X : CallFix p m c cL_law 4 s #[Value.ref b] lw_all "LeftBehindLaw") (hX : va_X b L xs s s.heap) (hbl : b < s.heap.size) (hin : ∀ v : Int32, v = 1 ∨ v = 2 ∨ v = 3 ∨ v = 4 → vp_in (i + v) L) (hc : cells + 36 ≤ room_1.cells) (hs : slots + 240 ≤ room_1.slots) (K : Jl_ p l e s m below meth c b i (cells + 36) (slots + 240) 1239) : Jl_ p l e s m below meth c b i cells slots 637 := by
  intro G σ hz hG hI hR
  have hbA : ¬ AA_ G b := ba_ hz hbl
  obtain ⟨r, σ1, σ2, h1, h2, hR2, h3, h4⟩ := op_crew_z hR (xs (i + 1).toNatClampNeg) (xs (i + 2).toNatClampNeg)
  refine jj_aload_n X dL_law_637 1 rfl ?_
  refine jl_arg X hX hbl hbA 1 0 3 rfl rfl (by decide) (hin 1 (by decide)) dL_law_638 dL_law_639 dL_law_640 dL_law_641 dL_law_642 ?_
  refine jl_arg X hX hbl hbA 2 0 3 rfl rfl (by decide) (hin 2 (by decide)) dL_law_643 dL_law_644 dL_law_645 dL_law_646 dL_law_647 ?_
  refine jl_ci (mc := 0) (ms := 0) (jr_V (rest := []) X hG (tg_0 hG) (by decide) ⟨_, rfl⟩ rfl (mt_X0_crew l G σ (xs (i + 1).toNatClampNeg) (xs (i + 2).toNatClampNeg) _ h1) (cwV 2 X.2.2.2.2 (lw_V q783 q784 q785 q61 q786) rfl rfl rfl kd_X0_crew ⟨by decide, by decide⟩) rfl rfl (Nat.le_of_ble_eq_true rfl) dL_law_648 ⟨Nat.le_trans (by omega) hc, Nat.le_trans (by omega) hs⟩) ?_
  refine jj_aload_n X dL_law_651 2 rfl ?_
  refine jl_arg X hX hbl hbA 1 0 3 rfl rfl (by decide) (hin 1 (by decide)) dL_law_652 dL_law_653 dL_law_654 dL_law_655 dL_law_656 ?_
  refine jl_arg X hX hbl hbA 2 0 3 rfl rfl (by decide) (hin 2 (by decide)) dL_law_657 dL_law_658 dL_law_659 dL_law_660 dL_law_661 ?_
  refine jl_ci (mc := 0) (ms := 0) (jr_V (rest := [.int r]) X hG (tg_90 hG) (by decide) ⟨_, rfl⟩ rfl (mt_X6_crew l G σ1 (xs (i + 1).toNatClampNeg) (xs (i + 2).toNatClampNeg) _ h2) (cwV 2 X.2.2.2.2 (lw_V q1157 q1158 q1159 q67 q1160) rfl rfl rfl kd_X6_crew ⟨by decide, by decide⟩) rfl rfl (Nat.le_of_ble_eq_true rfl) dL_law_662 ⟨Nat.le_trans (by omega) hc, Nat.le_trans (by omega) hs⟩) ?_
  refine jl_eq X 1239 dL_law_665 (by decide) ?_
  exact jj_widen (by omega) (by omega) (K G σ2 hz hG (by rw [h4, h3]; exact hI) hR2)
set_option maxHeartbeats 4000000 in
/-- seen -/
theorem lc_18 (X : CallFix p m c cL_law 4 s #[Value.ref b] lw_all "LeftBehindLaw") (hX : va_X b L xs s s.heap) (hbl : b < s.heap.size) (hin : ∀ v : Int32, v = 1 ∨ v = 2 ∨ v = 3 ∨ v = 4 → vp_in (i + v) L) (hc : cells + 36 ≤ room_1.cells) (hs : slots + 240 ≤ room_1.slots) (K : Jl_ p l e s m below meth c b i (cells + 36) (slots + 240) 1239) : Jl_ p l e s m below meth c b i cells slots 670 := by
  intro G σ hz hG hI hR
  have hbA : ¬ AA_ G b := ba_ hz hbl
  obtain ⟨r, σ1, σ2, h1, h2, hR2, h3, h4⟩ := op_seen_z hR (xs (i + 1).toNatClampNeg) (xs (i + 2).toNatClampNeg) (xs (i + 3).toNatClampNeg) (xs (i + 4).toNatClampNeg)
  refine jj_aload_n X dL_law_670 1 rfl ?_
  refine jl_arg X hX hbl hbA 1 0 3 rfl rfl (by decide) (hin 1 (by decide)) dL_law_671 dL_law_672 dL_law_673 dL_law_674 dL_law_675 ?_
  refine jl_arg X hX hbl hbA 2 0 3 rfl rfl (by decide) (hin 2 (by decide)) dL_law_676 dL_law_677 dL_law_678 dL_law_679 dL_law_680 ?_
  refine jl_arg X hX hbl hbA 3 0 3 rfl rfl (by decide) (hin 3 (by decide)) dL_law_681 dL_law_682 dL_law_683 dL_law_684 dL_law_685 ?_
  refine jl_arg X hX hbl hbA 4 0 3 rfl rfl (by decide) (hin 4 (by decide)) dL_law_686 dL_law_687 dL_law_688 dL_law_689 dL_law_690 ?_
  refine jl_ci (mc := 0) (ms := 0) (jr_V (rest := []) X hG (tg_0 hG) (by decide) ⟨_, rfl⟩ rfl (mt_X0_seen l G σ (xs (i + 1).toNatClampNeg) (xs (i + 2).toNatClampNeg) (xs (i + 3).toNatClampNeg) (xs (i + 4).toNatClampNeg) _ h1) (cwV 4 X.2.2.2.2 (lw_V q802 q803 q804 q61 q805) rfl rfl rfl kd_X0_seen ⟨by decide, by decide⟩) rfl rfl (Nat.le_of_ble_eq_true rfl) dL_law_691 ⟨Nat.le_trans (by omega) hc, Nat.le_trans (by omega) hs⟩) ?_
  refine jj_aload_n X dL_law_694 2 rfl ?_
  refine jl_arg X hX hbl hbA 1 0 3 rfl rfl (by decide) (hin 1 (by decide)) dL_law_695 dL_law_696 dL_law_697 dL_law_698 dL_law_699 ?_
  refine jl_arg X hX hbl hbA 2 0 3 rfl rfl (by decide) (hin 2 (by decide)) dL_law_700 dL_law_701 dL_law_702 dL_law_703 dL_law_704 ?_
  refine jl_arg X hX hbl hbA 3 0 3 rfl rfl (by decide) (hin 3 (by decide)) dL_law_705 dL_law_706 dL_law_707 dL_law_708 dL_law_709 ?_
  refine jl_arg X hX hbl hbA 4 0 3 rfl rfl (by decide) (hin 4 (by decide)) dL_law_710 dL_law_711 dL_law_712 dL_law_713 dL_law_714 ?_
  refine jl_ci (mc := 0) (ms := 0) (jr_V (rest := [.int r]) X hG (tg_90 hG) (by decide) ⟨_, rfl⟩ rfl (mt_X6_seen l G σ1 (xs (i + 1).toNatClampNeg) (xs (i + 2).toNatClampNeg) (xs (i + 3).toNatClampNeg) (xs (i + 4).toNatClampNeg) _ h2) (cwV 4 X.2.2.2.2 (lw_V q1165 q1166 q1167 q67 q1168) rfl rfl rfl kd_X6_seen ⟨by decide, by decide⟩) rfl rfl (Nat.le_of_ble_eq_true rfl) dL_law_715 ⟨Nat.le_trans (by omega) hc, Nat.le_trans (by omega) hs⟩) ?_
  refine jl_eq X 1239 dL_law_718 (by decide) ?_
  exact jj_widen (by omega) (by omega) (K G σ2 hz hG (by rw [h4, h3]; exact hI) hR2)
set_option maxHeartbeats 4000000 in
/-- skilled -/
theorem lc_19 (X : CallFix p m c cL_law 4 s #[Value.ref b] lw_all "LeftBehindLaw") (hX : va_X b L xs s s.heap) (hbl : b < s.heap.size) (hin : ∀ v : Int32, v = 1 ∨ v = 2 ∨ v = 3 ∨ v = 4 → vp_in (i + v) L) (hc : cells + 36 ≤ room_1.cells) (hs : slots + 240 ≤ room_1.slots) (K : Jl_ p l e s m below meth c b i (cells + 36) (slots + 240) 1239) : Jl_ p l e s m below meth c b i cells slots 723 := by
  intro G σ hz hG hI hR
  have hbA : ¬ AA_ G b := ba_ hz hbl
  obtain ⟨r, σ1, σ2, h1, h2, hR2, h3, h4⟩ := op_skilled_z hR (xs (i + 1).toNatClampNeg) (xs (i + 2).toNatClampNeg)
  refine jj_aload_n X dL_law_723 1 rfl ?_
  refine jl_arg X hX hbl hbA 1 0 3 rfl rfl (by decide) (hin 1 (by decide)) dL_law_724 dL_law_725 dL_law_726 dL_law_727 dL_law_728 ?_
  refine jl_arg X hX hbl hbA 2 0 3 rfl rfl (by decide) (hin 2 (by decide)) dL_law_729 dL_law_730 dL_law_731 dL_law_732 dL_law_733 ?_
  refine jl_ci (mc := 0) (ms := 0) (jr_V (rest := []) X hG (tg_0 hG) (by decide) ⟨_, rfl⟩ rfl (mt_X0_skilled l G σ (xs (i + 1).toNatClampNeg) (xs (i + 2).toNatClampNeg) _ h1) (cwV 2 X.2.2.2.2 (lw_V q810 q811 q812 q61 q813) rfl rfl rfl kd_X0_skilled ⟨by decide, by decide⟩) rfl rfl (Nat.le_of_ble_eq_true rfl) dL_law_734 ⟨Nat.le_trans (by omega) hc, Nat.le_trans (by omega) hs⟩) ?_
  refine jj_aload_n X dL_law_737 2 rfl ?_
  refine jl_arg X hX hbl hbA 1 0 3 rfl rfl (by decide) (hin 1 (by decide)) dL_law_738 dL_law_739 dL_law_740 dL_law_741 dL_law_742 ?_
  refine jl_arg X hX hbl hbA 2 0 3 rfl rfl (by decide) (hin 2 (by decide)) dL_law_743 dL_law_744 dL_law_745 dL_law_746 dL_law_747 ?_
  refine jl_ci (mc := 0) (ms := 0) (jr_V (rest := [.int r]) X hG (tg_90 hG) (by decide) ⟨_, rfl⟩ rfl (mt_X6_skilled l G σ1 (xs (i + 1).toNatClampNeg) (xs (i + 2).toNatClampNeg) _ h2) (cwV 2 X.2.2.2.2 (lw_V q1174 q1175 q1176 q67 q1177) rfl rfl rfl kd_X6_skilled ⟨by decide, by decide⟩) rfl rfl (Nat.le_of_ble_eq_true rfl) dL_law_748 ⟨Nat.le_trans (by omega) hc, Nat.le_trans (by omega) hs⟩) ?_
  refine jl_eq X 1239 dL_law_751 (by decide) ?_
  exact jj_widen (by omega) (by omega) (K G σ2 hz hG (by rw [h4, h3]; exact hI) hR2)
end LC
